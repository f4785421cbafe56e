/-! ParlourLeavesLaw -/
set_option maxRecDepth 100000
def RX0 : String := "ParlourLeavesLaw"
abbrev cX0_plant : ByteArray := method_3_code
def yX0_plant : MethodName := ⟨RX0, "plant", "(LParlourLeaves;II[J)I"⟩
def dkwX0_plant_0 : List UInt8 := [45, 3, 42, 27, 28, 182, 0, 7, 133, 80, 167, 0, 7, 58, 4, 4, 172, 3, 172]
abbrev dktX0_plant_0 : List UInt8 := dkwX0_plant_0 ++ []
theorem dksX0_plant_0 : cX0_plant.data.toList.drop 0 = dktX0_plant_0 := by decide +kernel
theorem dX0_plant_0 : decode cX0_plant 0 = .ok (.aload_n 3, 1) := dk_45 (dk_at dksX0_plant_0 0 rfl rfl)
theorem dX0_plant_1 : decode cX0_plant 1 = .ok (.iconst 0, 1) := dk_3 (dk_at dksX0_plant_0 1 rfl rfl)
theorem dX0_plant_2 : decode cX0_plant 2 = .ok (.aload_n 0, 1) := dk_42 (dk_at dksX0_plant_0 2 rfl rfl)
theorem dX0_plant_3 : decode cX0_plant 3 = .ok (.iload_n 1, 1) := dk_27 (dk_at dksX0_plant_0 3 rfl rfl)
theorem dX0_plant_4 : decode cX0_plant 4 = .ok (.iload_n 2, 1) := dk_28 (dk_at dksX0_plant_0 4 rfl rfl)
theorem dX0_plant_5 : decode cX0_plant 5 = .ok (.invokevirtual 7, 3) := dk_182 0 7 (dk_at dksX0_plant_0 5 rfl rfl)
theorem dX0_plant_8 : decode cX0_plant 8 = .ok (.i2l, 1) := dk_133 (dk_at dksX0_plant_0 8 rfl rfl)
theorem dX0_plant_9 : decode cX0_plant 9 = .ok (.lastore, 1) := dk_80 (dk_at dksX0_plant_0 9 rfl rfl)
theorem dX0_plant_10 : decode cX0_plant 10 = .ok (.goto 7, 3) := dk_167 0 7 (dk_at dksX0_plant_0 10 rfl rfl)
theorem dX0_plant_13 : decode cX0_plant 13 = .ok (.astore 4, 2) := dk_58 4 (dk_at dksX0_plant_0 13 rfl rfl)
theorem dX0_plant_15 : decode cX0_plant 15 = .ok (.iconst 1, 1) := dk_4 (dk_at dksX0_plant_0 15 rfl rfl)
theorem dX0_plant_16 : decode cX0_plant 16 = .ok (.ireturn, 1) := dk_172 (dk_at dksX0_plant_0 16 rfl rfl)
theorem dX0_plant_17 : decode cX0_plant 17 = .ok (.iconst 0, 1) := dk_3 (dk_at dksX0_plant_0 17 rfl rfl)
theorem dX0_plant_18 : decode cX0_plant 18 = .ok (.ireturn, 1) := dk_172 (dk_at dksX0_plant_0 18 rfl rfl)
abbrev cX0_act : ByteArray := method_4_code
def yX0_act : MethodName := ⟨RX0, "act", "(LParlourLeaves;II[J)I"⟩
def dkwX0_act_0 : List UInt8 := [45, 3, 42, 27, 28, 182, 0, 15, 133, 80, 167, 0, 7, 58, 4, 4, 172, 3, 172]
abbrev dktX0_act_0 : List UInt8 := dkwX0_act_0 ++ []
theorem dksX0_act_0 : cX0_act.data.toList.drop 0 = dktX0_act_0 := by decide +kernel
theorem dX0_act_0 : decode cX0_act 0 = .ok (.aload_n 3, 1) := dk_45 (dk_at dksX0_act_0 0 rfl rfl)
theorem dX0_act_1 : decode cX0_act 1 = .ok (.iconst 0, 1) := dk_3 (dk_at dksX0_act_0 1 rfl rfl)
theorem dX0_act_2 : decode cX0_act 2 = .ok (.aload_n 0, 1) := dk_42 (dk_at dksX0_act_0 2 rfl rfl)
theorem dX0_act_3 : decode cX0_act 3 = .ok (.iload_n 1, 1) := dk_27 (dk_at dksX0_act_0 3 rfl rfl)
theorem dX0_act_4 : decode cX0_act 4 = .ok (.iload_n 2, 1) := dk_28 (dk_at dksX0_act_0 4 rfl rfl)
theorem dX0_act_5 : decode cX0_act 5 = .ok (.invokevirtual 15, 3) := dk_182 0 15 (dk_at dksX0_act_0 5 rfl rfl)
theorem dX0_act_8 : decode cX0_act 8 = .ok (.i2l, 1) := dk_133 (dk_at dksX0_act_0 8 rfl rfl)
theorem dX0_act_9 : decode cX0_act 9 = .ok (.lastore, 1) := dk_80 (dk_at dksX0_act_0 9 rfl rfl)
theorem dX0_act_10 : decode cX0_act 10 = .ok (.goto 7, 3) := dk_167 0 7 (dk_at dksX0_act_0 10 rfl rfl)
theorem dX0_act_13 : decode cX0_act 13 = .ok (.astore 4, 2) := dk_58 4 (dk_at dksX0_act_0 13 rfl rfl)
theorem dX0_act_15 : decode cX0_act 15 = .ok (.iconst 1, 1) := dk_4 (dk_at dksX0_act_0 15 rfl rfl)
theorem dX0_act_16 : decode cX0_act 16 = .ok (.ireturn, 1) := dk_172 (dk_at dksX0_act_0 16 rfl rfl)
theorem dX0_act_17 : decode cX0_act 17 = .ok (.iconst 0, 1) := dk_3 (dk_at dksX0_act_0 17 rfl rfl)
theorem dX0_act_18 : decode cX0_act 18 = .ok (.ireturn, 1) := dk_172 (dk_at dksX0_act_0 18 rfl rfl)
theorem q108 : (Jvm.Cond.initialized "ParlourLeavesLaw") ∈ lw_all := lw_g (lw_at lw_m1 0 rfl) rfl
theorem q142 : (Jvm.Cond.classLink "ParlourLeavesLaw" (8 : Nat) "ParlourLeaves") ∈ lw_all := lw_g (lw_at lw_m1 34 rfl) rfl
theorem q144 : (Jvm.Cond.methodLink "ParlourLeavesLaw" (18 : Nat) ({ cls := "ParlourLeaves", name := "<init>", desc := "()V" } : Jvm.MethodName)) ∈ lw_all := lw_g (lw_at lw_m1 36 rfl) rfl
theorem q632 : (Jvm.Cond.methodLink "ParlourLeavesLaw" (22 : Nat) ({ cls := "ParlourLeaves", name := "feed", desc := "(IIIII)I" } : Jvm.MethodName)) ∈ lw_all := lw_g (lw_at lw_m3 44 rfl) rfl
theorem q640 : (Jvm.Cond.methodLink "ParlourLeavesLaw" (27 : Nat) ({ cls := "ParlourLeaves", name := "end", desc := "(I)Z" } : Jvm.MethodName)) ∈ lw_all := lw_g (lw_at lw_m3 52 rfl) rfl
theorem q644 : (Jvm.Cond.methodLink "ParlourLeavesLaw" (32 : Nat) ({ cls := "ParlourLeaves", name := "house", desc := "()I" } : Jvm.MethodName)) ∈ lw_all := lw_g (lw_at lw_m3 56 rfl) rfl
theorem q838 : (Jvm.Cond.methodLink "ParlourLeavesLaw" (37 : Nat) ({ cls := "ParlourLeaves", name := "fault", desc := "()I" } : Jvm.MethodName)) ∈ lw_all := lw_g (lw_at lw_m4 10 rfl) rfl
theorem q842 : (Jvm.Cond.methodLink "ParlourLeavesLaw" (53 : Nat) ({ cls := "ParlourLeaves", name := "comes", desc := "(II)I" } : Jvm.MethodName)) ∈ lw_all := lw_g (lw_at lw_m4 14 rfl) rfl
theorem q859 : (Jvm.Cond.methodLink "ParlourLeavesLaw" (57 : Nat) ({ cls := "ParlourLeaves", name := "sights", desc := "(I)I" } : Jvm.MethodName)) ∈ lw_all := lw_g (lw_at lw_m4 31 rfl) rfl
theorem q867 : (Jvm.Cond.methodLink "ParlourLeavesLaw" (62 : Nat) ({ cls := "ParlourLeaves", name := "now", desc := "(I)I" } : Jvm.MethodName)) ∈ lw_all := lw_g (lw_at lw_m4 39 rfl) rfl
theorem q912 : (Jvm.Cond.methodLink "ParlourLeavesLaw" (83 : Nat) ({ cls := "ParlourLeaves", name := "undo", desc := "()I" } : Jvm.MethodName)) ∈ lw_all := lw_g (lw_at lw_m4 84 rfl) rfl
theorem q920 : (Jvm.Cond.methodLink "ParlourLeavesLaw" (66 : Nat) ({ cls := "ParlourLeaves", name := "does", desc := "(III)I" } : Jvm.MethodName)) ∈ lw_all := lw_g (lw_at lw_m4 92 rfl) rfl
theorem q953 : (Jvm.Cond.methodLink "ParlourLeavesLaw" (71 : Nat) ({ cls := "ParlourLeaves", name := "sponge", desc := "(I)I" } : Jvm.MethodName)) ∈ lw_all := lw_g (lw_at lw_m4 125 rfl) rfl
theorem q961 : (Jvm.Cond.methodLink "ParlourLeavesLaw" (75 : Nat) ({ cls := "ParlourLeaves", name := "carry", desc := "(II)I" } : Jvm.MethodName)) ∈ lw_all := lw_g (lw_at lw_m4 133 rfl) rfl
theorem q969 : (Jvm.Cond.methodLink "ParlourLeavesLaw" (79 : Nat) ({ cls := "ParlourLeaves", name := "days", desc := "(I)I" } : Jvm.MethodName)) ∈ lw_all := lw_g (lw_at lw_m4 141 rfl) rfl
theorem q984 : (Jvm.Cond.methodLink "ParlourLeavesLaw" (87 : Nat) ({ cls := "ParlourLeaves", name := "guilty", desc := "(II)I" } : Jvm.MethodName)) ∈ lw_all := lw_g (lw_at lw_m4 156 rfl) rfl
theorem q989 : (Jvm.Cond.methodLink "ParlourLeavesLaw" (91 : Nat) ({ cls := "ParlourLeaves", name := "proves", desc := "(I)I" } : Jvm.MethodName)) ∈ lw_all := lw_g (lw_at lw_m4 161 rfl) rfl
theorem q993 : (Jvm.Cond.methodLink "ParlourLeavesLaw" (95 : Nat) ({ cls := "ParlourLeaves", name := "hides", desc := "(I)I" } : Jvm.MethodName)) ∈ lw_all := lw_g (lw_at lw_m4 165 rfl) rfl
theorem q1003 : (Jvm.Cond.methodLink "ParlourLeavesLaw" (99 : Nat) ({ cls := "ParlourLeaves", name := "dark", desc := "(I)I" } : Jvm.MethodName)) ∈ lw_all := lw_g (lw_at lw_m4 175 rfl) rfl
theorem q1008 : (Jvm.Cond.methodLink "ParlourLeavesLaw" (103 : Nat) ({ cls := "ParlourLeaves", name := "fits", desc := "()I" } : Jvm.MethodName)) ∈ lw_all := lw_g (lw_at lw_m4 180 rfl) rfl
theorem q1024 : (Jvm.Cond.methodLink "ParlourLeavesLaw" (107 : Nat) ({ cls := "ParlourLeaves", name := "ask", desc := "()I" } : Jvm.MethodName)) ∈ lw_all := lw_g (lw_at lw_m4 196 rfl) rfl
theorem q1028 : (Jvm.Cond.methodLink "ParlourLeavesLaw" (111 : Nat) ({ cls := "ParlourLeaves", name := "cover", desc := "()I" } : Jvm.MethodName)) ∈ lw_all := lw_g (lw_at lw_m4 200 rfl) rfl
theorem q1033 : (Jvm.Cond.methodLink "ParlourLeavesLaw" (115 : Nat) ({ cls := "ParlourLeaves", name := "covering", desc := "()I" } : Jvm.MethodName)) ∈ lw_all := lw_g (lw_at lw_m4 205 rfl) rfl
theorem q1037 : (Jvm.Cond.methodLink "ParlourLeavesLaw" (119 : Nat) ({ cls := "ParlourLeaves", name := "round", desc := "(I)I" } : Jvm.MethodName)) ∈ lw_all := lw_g (lw_at lw_m4 209 rfl) rfl
theorem q1050 : (Jvm.Cond.methodLink "ParlourLeavesLaw" (123 : Nat) ({ cls := "ParlourLeaves", name := "roundAt", desc := "(I)I" } : Jvm.MethodName)) ∈ lw_all := lw_g (lw_at lw_m4 222 rfl) rfl
theorem q1054 : (Jvm.Cond.methodLink "ParlourLeavesLaw" (127 : Nat) ({ cls := "ParlourLeaves", name := "choice", desc := "()I" } : Jvm.MethodName)) ∈ lw_all := lw_g (lw_at lw_m4 226 rfl) rfl
theorem q1066 : (Jvm.Cond.methodLink "ParlourLeavesLaw" (131 : Nat) ({ cls := "ParlourLeaves", name := "chosen", desc := "(I)I" } : Jvm.MethodName)) ∈ lw_all := lw_g (lw_at lw_m4 238 rfl) rfl
theorem q1070 : (Jvm.Cond.methodLink "ParlourLeavesLaw" (135 : Nat) ({ cls := "ParlourLeaves", name := "elder", desc := "()I" } : Jvm.MethodName)) ∈ lw_all := lw_g (lw_at lw_m5 2 rfl) rfl
theorem q1074 : (Jvm.Cond.methodLink "ParlourLeavesLaw" (139 : Nat) ({ cls := "ParlourLeaves", name := "card", desc := "(I)I" } : Jvm.MethodName)) ∈ lw_all := lw_g (lw_at lw_m5 6 rfl) rfl
theorem q1135 : (Jvm.Cond.methodLink "ParlourLeavesLaw" (143 : Nat) ({ cls := "ParlourLeaves", name := "byteAt", desc := "(I)I" } : Jvm.MethodName)) ∈ lw_all := lw_g (lw_at lw_m5 67 rfl) rfl
theorem q1139 : (Jvm.Cond.methodLink "ParlourLeavesLaw" (147 : Nat) ({ cls := "ParlourLeaves", name := "drawn", desc := "(II)I" } : Jvm.MethodName)) ∈ lw_all := lw_g (lw_at lw_m5 71 rfl) rfl
theorem q1158 : (Jvm.Cond.methodLink "ParlourLeavesLaw" (151 : Nat) ({ cls := "ParlourLeaves", name := "odds", desc := "(III)I" } : Jvm.MethodName)) ∈ lw_all := lw_g (lw_at lw_m5 90 rfl) rfl
theorem q1166 : (Jvm.Cond.methodLink "ParlourLeavesLaw" (155 : Nat) ({ cls := "ParlourLeaves", name := "book", desc := "(I)I" } : Jvm.MethodName)) ∈ lw_all := lw_g (lw_at lw_m5 98 rfl) rfl
theorem q1299 : (Jvm.Cond.methodLink "ParlourLeavesLaw" (159 : Nat) ({ cls := "ParlourLeaves", name := "told", desc := "(I)I" } : Jvm.MethodName)) ∈ lw_all := lw_g (lw_at lw_m5 231 rfl) rfl
theorem q1303 : (Jvm.Cond.methodLink "ParlourLeavesLaw" (163 : Nat) ({ cls := "ParlourLeaves", name := "sentence", desc := "()I" } : Jvm.MethodName)) ∈ lw_all := lw_g (lw_at lw_m5 235 rfl) rfl
theorem q1416 : (Jvm.Cond.methodLink "ParlourLeavesLaw" (167 : Nat) ({ cls := "ParlourLeaves", name := "said", desc := "(I)I" } : Jvm.MethodName)) ∈ lw_all := lw_g (lw_at lw_m6 108 rfl) rfl
theorem q1468 : (Jvm.Cond.methodLink "ParlourLeavesLaw" (171 : Nat) ({ cls := "ParlourLeaves", name := "image", desc := "(I)Z" } : Jvm.MethodName)) ∈ lw_all := lw_g (lw_at lw_m6 160 rfl) rfl
theorem q1490 : (Jvm.Cond.methodLink "ParlourLeavesLaw" (175 : Nat) ({ cls := "ParlourLeaves", name := "restore", desc := "(I)Z" } : Jvm.MethodName)) ∈ lw_all := lw_g (lw_at lw_m6 182 rfl) rfl
theorem q1494 : (Jvm.Cond.methodLink "ParlourLeavesLaw" (179 : Nat) ({ cls := "ParlourLeaves", name := "count", desc := "(I)I" } : Jvm.MethodName)) ∈ lw_all := lw_g (lw_at lw_m6 186 rfl) rfl
theorem q1498 : (Jvm.Cond.methodLink "ParlourLeavesLaw" (41 : Nat) ({ cls := "ParlourLeavesLaw", name := "plant", desc := "(LParlourLeaves;II[J)I" } : Jvm.MethodName)) ∈ lw_all := lw_g (lw_at lw_m6 190 rfl) rfl
theorem q1499 : (Jvm.Cond.static ({ cls := "ParlourLeavesLaw", name := "plant", desc := "(LParlourLeaves;II[J)I" } : Jvm.MethodName)) ∈ lw_all := lw_g (lw_at lw_m6 191 rfl) rfl
theorem q1500 : (Jvm.Cond.codeWith ({ cls := "ParlourLeavesLaw", name := "plant", desc := "(LParlourLeaves;II[J)I" } : Jvm.MethodName) method_3_code (5 : Nat) (Option.some Jvm.ClassFile.FieldType.int) [((0 : Nat), (10 : Nat), (13 : Nat), (13 : Nat))]) ∈ lw_all := lw_g (lw_at lw_m6 192 rfl) rfl
theorem q1501 : (Jvm.Cond.classLink "ParlourLeavesLaw" (13 : Nat) "java/util/NoSuchElementException") ∈ lw_all := lw_g (lw_at lw_m6 193 rfl) rfl
theorem q1502 : (Jvm.Cond.methodLink "ParlourLeavesLaw" (7 : Nat) ({ cls := "ParlourLeaves", name := "plant", desc := "(II)I" } : Jvm.MethodName)) ∈ lw_all := lw_g (lw_at lw_m6 194 rfl) rfl
theorem q1536 : (Jvm.Cond.methodLink "ParlourLeavesLaw" (50 : Nat) ({ cls := "ParlourLeavesLaw", name := "act", desc := "(LParlourLeaves;II[J)I" } : Jvm.MethodName)) ∈ lw_all := lw_g (lw_at lw_m6 228 rfl) rfl
theorem q1537 : (Jvm.Cond.static ({ cls := "ParlourLeavesLaw", name := "act", desc := "(LParlourLeaves;II[J)I" } : Jvm.MethodName)) ∈ lw_all := lw_g (lw_at lw_m6 229 rfl) rfl
theorem q1538 : (Jvm.Cond.codeWith ({ cls := "ParlourLeavesLaw", name := "act", desc := "(LParlourLeaves;II[J)I" } : Jvm.MethodName) method_4_code (5 : Nat) (Option.some Jvm.ClassFile.FieldType.int) [((0 : Nat), (10 : Nat), (13 : Nat), (13 : Nat))]) ∈ lw_all := lw_g (lw_at lw_m6 230 rfl) rfl
theorem q1539 : (Jvm.Cond.methodLink "ParlourLeavesLaw" (15 : Nat) ({ cls := "ParlourLeaves", name := "act", desc := "(II)I" } : Jvm.MethodName)) ∈ lw_all := lw_g (lw_at lw_m6 231 rfl) rfl
theorem q1544 : (Jvm.Cond.methodLink "ParlourLeavesLaw" (47 : Nat) ({ cls := "ParlourLeavesModel", name := "thrown", desc := "()I" } : Jvm.MethodName)) ∈ lw_all := lw_g (lw_at lw_m6 236 rfl) rfl
theorem q1548 : (Jvm.Cond.methodLink "ParlourLeavesLaw" (26 : Nat) ({ cls := "ParlourLeavesModel", name := "feed", desc := "(IIIII)I" } : Jvm.MethodName)) ∈ lw_all := lw_g (lw_at lw_m7 0 rfl) rfl
theorem q1557 : (Jvm.Cond.methodLink "ParlourLeavesLaw" (31 : Nat) ({ cls := "ParlourLeavesModel", name := "end", desc := "(I)Z" } : Jvm.MethodName)) ∈ lw_all := lw_g (lw_at lw_m7 9 rfl) rfl
theorem q1561 : (Jvm.Cond.classLink "ParlourLeavesLaw" (19 : Nat) "ParlourLeavesModel") ∈ lw_all := lw_g (lw_at lw_m7 13 rfl) rfl
theorem q1562 : (Jvm.Cond.methodLink "ParlourLeavesLaw" (21 : Nat) ({ cls := "ParlourLeavesModel", name := "<init>", desc := "()V" } : Jvm.MethodName)) ∈ lw_all := lw_g (lw_at lw_m7 14 rfl) rfl
theorem q1707 : (Jvm.Cond.methodLink "ParlourLeavesLaw" (36 : Nat) ({ cls := "ParlourLeavesModel", name := "house", desc := "()I" } : Jvm.MethodName)) ∈ lw_all := lw_g (lw_at lw_m7 159 rfl) rfl
theorem q1814 : (Jvm.Cond.methodLink "ParlourLeavesLaw" (40 : Nat) ({ cls := "ParlourLeavesModel", name := "fault", desc := "()I" } : Jvm.MethodName)) ∈ lw_all := lw_g (lw_at lw_m8 26 rfl) rfl
theorem q1818 : (Jvm.Cond.methodLink "ParlourLeavesLaw" (46 : Nat) ({ cls := "ParlourLeavesModel", name := "plant", desc := "(II)I" } : Jvm.MethodName)) ∈ lw_all := lw_g (lw_at lw_m8 30 rfl) rfl
theorem q1861 : (Jvm.Cond.methodLink "ParlourLeavesLaw" (52 : Nat) ({ cls := "ParlourLeavesModel", name := "act", desc := "(II)I" } : Jvm.MethodName)) ∈ lw_all := lw_g (lw_at lw_m8 73 rfl) rfl
theorem q1877 : (Jvm.Cond.methodLink "ParlourLeavesLaw" (56 : Nat) ({ cls := "ParlourLeavesModel", name := "comes", desc := "(II)I" } : Jvm.MethodName)) ∈ lw_all := lw_g (lw_at lw_m8 89 rfl) rfl
theorem q1881 : (Jvm.Cond.methodLink "ParlourLeavesLaw" (61 : Nat) ({ cls := "ParlourLeavesModel", name := "sights", desc := "(I)I" } : Jvm.MethodName)) ∈ lw_all := lw_g (lw_at lw_m8 93 rfl) rfl
theorem q1889 : (Jvm.Cond.methodLink "ParlourLeavesLaw" (65 : Nat) ({ cls := "ParlourLeavesModel", name := "now", desc := "(I)I" } : Jvm.MethodName)) ∈ lw_all := lw_g (lw_at lw_m8 101 rfl) rfl
theorem q1901 : (Jvm.Cond.methodLink "ParlourLeavesLaw" (70 : Nat) ({ cls := "ParlourLeavesModel", name := "does", desc := "(III)I" } : Jvm.MethodName)) ∈ lw_all := lw_g (lw_at lw_m8 113 rfl) rfl
theorem q1937 : (Jvm.Cond.methodLink "ParlourLeavesLaw" (74 : Nat) ({ cls := "ParlourLeavesModel", name := "sponge", desc := "(I)I" } : Jvm.MethodName)) ∈ lw_all := lw_g (lw_at lw_m8 149 rfl) rfl
theorem q1941 : (Jvm.Cond.methodLink "ParlourLeavesLaw" (78 : Nat) ({ cls := "ParlourLeavesModel", name := "carry", desc := "(II)I" } : Jvm.MethodName)) ∈ lw_all := lw_g (lw_at lw_m8 153 rfl) rfl
theorem q1945 : (Jvm.Cond.methodLink "ParlourLeavesLaw" (86 : Nat) ({ cls := "ParlourLeavesModel", name := "undo", desc := "()I" } : Jvm.MethodName)) ∈ lw_all := lw_g (lw_at lw_m8 157 rfl) rfl
theorem q1949 : (Jvm.Cond.methodLink "ParlourLeavesLaw" (82 : Nat) ({ cls := "ParlourLeavesModel", name := "days", desc := "(I)I" } : Jvm.MethodName)) ∈ lw_all := lw_g (lw_at lw_m8 161 rfl) rfl
theorem q1964 : (Jvm.Cond.methodLink "ParlourLeavesLaw" (90 : Nat) ({ cls := "ParlourLeavesModel", name := "guilty", desc := "(II)I" } : Jvm.MethodName)) ∈ lw_all := lw_g (lw_at lw_m8 176 rfl) rfl
theorem q1968 : (Jvm.Cond.methodLink "ParlourLeavesLaw" (94 : Nat) ({ cls := "ParlourLeavesModel", name := "proves", desc := "(I)I" } : Jvm.MethodName)) ∈ lw_all := lw_g (lw_at lw_m8 180 rfl) rfl
theorem q1972 : (Jvm.Cond.methodLink "ParlourLeavesLaw" (98 : Nat) ({ cls := "ParlourLeavesModel", name := "hides", desc := "(I)I" } : Jvm.MethodName)) ∈ lw_all := lw_g (lw_at lw_m8 184 rfl) rfl
theorem q1976 : (Jvm.Cond.methodLink "ParlourLeavesLaw" (102 : Nat) ({ cls := "ParlourLeavesModel", name := "dark", desc := "(I)I" } : Jvm.MethodName)) ∈ lw_all := lw_g (lw_at lw_m8 188 rfl) rfl
theorem q1980 : (Jvm.Cond.methodLink "ParlourLeavesLaw" (106 : Nat) ({ cls := "ParlourLeavesModel", name := "fits", desc := "()I" } : Jvm.MethodName)) ∈ lw_all := lw_g (lw_at lw_m8 192 rfl) rfl
theorem q1988 : (Jvm.Cond.methodLink "ParlourLeavesLaw" (110 : Nat) ({ cls := "ParlourLeavesModel", name := "ask", desc := "()I" } : Jvm.MethodName)) ∈ lw_all := lw_g (lw_at lw_m8 200 rfl) rfl
theorem q1992 : (Jvm.Cond.methodLink "ParlourLeavesLaw" (114 : Nat) ({ cls := "ParlourLeavesModel", name := "cover", desc := "()I" } : Jvm.MethodName)) ∈ lw_all := lw_g (lw_at lw_m8 204 rfl) rfl
theorem q2000 : (Jvm.Cond.methodLink "ParlourLeavesLaw" (118 : Nat) ({ cls := "ParlourLeavesModel", name := "covering", desc := "()I" } : Jvm.MethodName)) ∈ lw_all := lw_g (lw_at lw_m8 212 rfl) rfl
theorem q2004 : (Jvm.Cond.methodLink "ParlourLeavesLaw" (122 : Nat) ({ cls := "ParlourLeavesModel", name := "round", desc := "(I)I" } : Jvm.MethodName)) ∈ lw_all := lw_g (lw_at lw_m8 216 rfl) rfl
theorem q2015 : (Jvm.Cond.methodLink "ParlourLeavesLaw" (126 : Nat) ({ cls := "ParlourLeavesModel", name := "roundAt", desc := "(I)I" } : Jvm.MethodName)) ∈ lw_all := lw_g (lw_at lw_m8 227 rfl) rfl
theorem q2019 : (Jvm.Cond.methodLink "ParlourLeavesLaw" (130 : Nat) ({ cls := "ParlourLeavesModel", name := "choice", desc := "()I" } : Jvm.MethodName)) ∈ lw_all := lw_g (lw_at lw_m8 231 rfl) rfl
theorem q2031 : (Jvm.Cond.methodLink "ParlourLeavesLaw" (134 : Nat) ({ cls := "ParlourLeavesModel", name := "chosen", desc := "(I)I" } : Jvm.MethodName)) ∈ lw_all := lw_g (lw_at lw_m9 3 rfl) rfl
theorem q2035 : (Jvm.Cond.methodLink "ParlourLeavesLaw" (138 : Nat) ({ cls := "ParlourLeavesModel", name := "elder", desc := "()I" } : Jvm.MethodName)) ∈ lw_all := lw_g (lw_at lw_m9 7 rfl) rfl
theorem q2039 : (Jvm.Cond.methodLink "ParlourLeavesLaw" (142 : Nat) ({ cls := "ParlourLeavesModel", name := "card", desc := "(I)I" } : Jvm.MethodName)) ∈ lw_all := lw_g (lw_at lw_m9 11 rfl) rfl
theorem q2059 : (Jvm.Cond.methodLink "ParlourLeavesLaw" (146 : Nat) ({ cls := "ParlourLeavesModel", name := "byteAt", desc := "(I)I" } : Jvm.MethodName)) ∈ lw_all := lw_g (lw_at lw_m9 31 rfl) rfl
theorem q2063 : (Jvm.Cond.methodLink "ParlourLeavesLaw" (150 : Nat) ({ cls := "ParlourLeavesModel", name := "drawn", desc := "(II)I" } : Jvm.MethodName)) ∈ lw_all := lw_g (lw_at lw_m9 35 rfl) rfl
theorem q2080 : (Jvm.Cond.methodLink "ParlourLeavesLaw" (154 : Nat) ({ cls := "ParlourLeavesModel", name := "odds", desc := "(III)I" } : Jvm.MethodName)) ∈ lw_all := lw_g (lw_at lw_m9 52 rfl) rfl
theorem q2096 : (Jvm.Cond.methodLink "ParlourLeavesLaw" (158 : Nat) ({ cls := "ParlourLeavesModel", name := "book", desc := "(I)I" } : Jvm.MethodName)) ∈ lw_all := lw_g (lw_at lw_m9 68 rfl) rfl
theorem q2132 : (Jvm.Cond.methodLink "ParlourLeavesLaw" (162 : Nat) ({ cls := "ParlourLeavesModel", name := "told", desc := "(I)I" } : Jvm.MethodName)) ∈ lw_all := lw_g (lw_at lw_m9 104 rfl) rfl
theorem q2136 : (Jvm.Cond.methodLink "ParlourLeavesLaw" (166 : Nat) ({ cls := "ParlourLeavesModel", name := "sentence", desc := "()I" } : Jvm.MethodName)) ∈ lw_all := lw_g (lw_at lw_m9 108 rfl) rfl
theorem q2172 : (Jvm.Cond.methodLink "ParlourLeavesLaw" (170 : Nat) ({ cls := "ParlourLeavesModel", name := "said", desc := "(I)I" } : Jvm.MethodName)) ∈ lw_all := lw_g (lw_at lw_m9 144 rfl) rfl
theorem q2184 : (Jvm.Cond.methodLink "ParlourLeavesLaw" (174 : Nat) ({ cls := "ParlourLeavesModel", name := "image", desc := "(I)Z" } : Jvm.MethodName)) ∈ lw_all := lw_g (lw_at lw_m9 156 rfl) rfl
theorem q2188 : (Jvm.Cond.methodLink "ParlourLeavesLaw" (178 : Nat) ({ cls := "ParlourLeavesModel", name := "restore", desc := "(I)Z" } : Jvm.MethodName)) ∈ lw_all := lw_g (lw_at lw_m9 160 rfl) rfl
theorem q2192 : (Jvm.Cond.methodLink "ParlourLeavesLaw" (182 : Nat) ({ cls := "ParlourLeavesModel", name := "count", desc := "(I)I" } : Jvm.MethodName)) ∈ lw_all := lw_g (lw_at lw_m9 164 rfl) rfl
/-! ParlourLeaves -/
set_option maxRecDepth 100000
def RX1 : String := "ParlourLeaves"
def TX1 : u_T := fun k => match k with
  | 0 => ("ParlourLeaves", "tape", "[B", true)
  | 1 => ("ParlourLeaves", "length", "I", false)
  | 2 => ("ParlourLeaves", "size", "I", false)
  | 3 => ("ParlourLeaves", "broken", "LParlourLeaves$Fault;", true)
  | 4 => ("ParlourLeaves", "lines", "[Ljava/lang/String;", true)
  | 5 => ("ParlourLeaves", "words", "[Ljava/lang/String;", true)
  | 6 => ("ParlourLeaves", "house", "LParlourLeaves$House;", false)
  | 7 => ("ParlourLeaves", "now", "LParlourLeaves$State;", true)
  | 8 => ("ParlourLeaves", "tried", "LParlourLeaves$State;", true)
  | 9 => ("ParlourLeaves", "houseReader", "LParlourLeaves$HouseReader;", true)
  | 10 => ("ParlourLeaves", "bookReader", "LParlourLeaves$BookReader;", true)
  | 11 => ("ParlourLeaves", "fault", "I", false)
  | 12 => ("ParlourLeaves", "ahead", "[LParlourLeaves$State;", true)
  | 13 => ("ParlourLeaves", "undoMany", "I", false)
  | 14 => ("ParlourLeaves", "askPlant", "I", false)
  | 15 => ("ParlourLeaves", "hasFits", "Z", false)
  | 16 => ("ParlourLeaves", "coverSet", "I", false)
  | 17 => ("ParlourLeaves", "hasCover", "Z", false)
  | 18 => ("ParlourLeaves", "left", "[[I", true)
  | 19 => ("ParlourLeaves", "roundRow", "[I", true)
  | 20 => ("ParlourLeaves", "roundMany", "I", false)
  | 21 => ("ParlourLeaves", "chosenPlant", "I", false)
  | 22 => ("ParlourLeaves", "chosenPlace", "I", false)
  | 23 => ("ParlourLeaves", "chosenParlour", "I", false)
  | 24 => ("ParlourLeaves", "leastParlour", "I", false)
  | 25 => ("ParlourLeaves", "hasChoice", "Z", false)
  | 26 => ("ParlourLeaves", "text", "[B", true)
  | 27 => ("ParlourLeaves", "textMany", "I", false)
  | 28 => ("ParlourLeaves", "toldRow", "[I", true)
  | 29 => ("ParlourLeaves", "hasTold", "Z", false)
  | 30 => ("ParlourLeaves", "sentenceReader", "LParlourLeaves$SentenceReader;", true)
  | 31 => ("ParlourLeaves", "sentence", "LParlourLeaves$Cond;", false)
  | _ => ("ParlourLeaves", "images", "[LParlourLeaves$Kept;", true)
def tyX1 : Nat → FieldType := fun k => match k with
  | 0 => .array .byte
  | 1 => .int
  | 2 => .int
  | 3 => .object "ParlourLeaves$Fault"
  | 4 => .array (.object "java/lang/String")
  | 5 => .array (.object "java/lang/String")
  | 6 => .object "ParlourLeaves$House"
  | 7 => .object "ParlourLeaves$State"
  | 8 => .object "ParlourLeaves$State"
  | 9 => .object "ParlourLeaves$HouseReader"
  | 10 => .object "ParlourLeaves$BookReader"
  | 11 => .int
  | 12 => .array (.object "ParlourLeaves$State")
  | 13 => .int
  | 14 => .int
  | 15 => .boolean
  | 16 => .int
  | 17 => .boolean
  | 18 => .array (.array .int)
  | 19 => .array .int
  | 20 => .int
  | 21 => .int
  | 22 => .int
  | 23 => .int
  | 24 => .int
  | 25 => .boolean
  | 26 => .array .byte
  | 27 => .int
  | 28 => .array .int
  | 29 => .boolean
  | 30 => .object "ParlourLeaves$SentenceReader"
  | 31 => .object "ParlourLeaves$Cond"
  | _ => .array (.object "ParlourLeaves$Kept")
abbrev wsX10 : List Cond := u_ws RX1 TX1 33
set_option maxRecDepth 100000 in
theorem nmX1 : ∀ a, a < 33 → ∀ b, b < 33 → a ≠ b → (TX1 a).2.1 ≠ (TX1 b).2.1 := by decide +kernel
set_option maxRecDepth 100000 in
theorem tyX1_ok : ∀ k, k < 33 → parseFieldDescriptor (TX1 k).2.2.1 = some (tyX1 k) := by decide +kernel
abbrev cX1_init : ByteArray := prog_1_method_1_code
def yX1_init : MethodName := ⟨RX1, "<init>", "()V"⟩
def dkwX1_init_12 : List UInt8 := [183, 0, 135, 181, 0, 136, 42, 5, 189, 0, 140, 181, 0, 142, 177]
abbrev dktX1_init_12 : List UInt8 := dkwX1_init_12 ++ []
def dkwX1_init_11 : List UInt8 := [181, 0, 123, 42, 16, 40, 188, 8, 181, 0, 127, 42, 7, 188, 10, 181, 0, 130, 42, 187, 0, 133, 89, 42]
abbrev dktX1_init_11 : List UInt8 := dkwX1_init_11 ++ dktX1_init_12
def dkwX1_init_10 : List UInt8 := [181, 0, 110, 42, 16, 32, 8, 197, 0, 114, 2, 181, 0, 116, 42, 16, 40, 188, 10, 181, 0, 119, 42, 2]
abbrev dktX1_init_10 : List UInt8 := dkwX1_init_10 ++ dktX1_init_11
def dkwX1_init_9 : List UInt8 := [183, 0, 101, 181, 0, 102, 42, 180, 0, 83, 42, 180, 0, 76, 182, 0, 106, 42, 16, 8, 189, 0, 80]
abbrev dktX1_init_9 : List UInt8 := dkwX1_init_9 ++ dktX1_init_10
def dkwX1_init_8 : List UInt8 := [183, 0, 82, 181, 0, 87, 42, 187, 0, 90, 89, 42, 183, 0, 92, 181, 0, 95, 42, 187, 0, 99, 89, 42]
abbrev dktX1_init_8 : List UInt8 := dkwX1_init_8 ++ dktX1_init_9
def dkwX1_init_7 : List UInt8 := [89, 183, 0, 75, 181, 0, 76, 42, 187, 0, 80, 89, 183, 0, 82, 181, 0, 83, 42, 187, 0, 80, 89]
abbrev dktX1_init_7 : List UInt8 := dkwX1_init_7 ++ dktX1_init_8
def dkwX1_init_6 : List UInt8 := [16, 12, 18, 64, 83, 89, 16, 13, 18, 66, 83, 89, 16, 14, 18, 68, 83, 181, 0, 70, 42, 187, 0, 73]
abbrev dktX1_init_6 : List UInt8 := dkwX1_init_6 ++ dktX1_init_7
def dkwX1_init_5 : List UInt8 := [16, 8, 18, 56, 83, 89, 16, 9, 18, 58, 83, 89, 16, 10, 18, 60, 83, 89, 16, 11, 18, 62, 83, 89]
abbrev dktX1_init_5 : List UInt8 := dkwX1_init_5 ++ dktX1_init_6
def dkwX1_init_4 : List UInt8 := [83, 89, 7, 18, 48, 83, 89, 8, 18, 50, 83, 89, 16, 6, 18, 52, 83, 89, 16, 7, 18, 54, 83, 89]
abbrev dktX1_init_4 : List UInt8 := dkwX1_init_4 ++ dktX1_init_5
def dkwX1_init_3 : List UInt8 := [16, 15, 189, 0, 20, 89, 3, 18, 40, 83, 89, 4, 18, 42, 83, 89, 5, 18, 44, 83, 89, 6, 18, 46]
abbrev dktX1_init_3 : List UInt8 := dkwX1_init_3 ++ dktX1_init_4
def dkwX1_init_2 : List UInt8 := [18, 28, 83, 89, 7, 18, 30, 83, 89, 8, 18, 32, 83, 89, 16, 6, 18, 34, 83, 181, 0, 36, 42]
abbrev dktX1_init_2 : List UInt8 := dkwX1_init_2 ++ dktX1_init_3
def dkwX1_init_1 : List UInt8 := [42, 16, 7, 189, 0, 20, 89, 3, 18, 22, 83, 89, 4, 18, 24, 83, 89, 5, 18, 26, 83, 89, 6]
abbrev dktX1_init_1 : List UInt8 := dkwX1_init_1 ++ dktX1_init_2
def dkwX1_init_0 : List UInt8 := [42, 183, 0, 1, 42, 17, 3, 172, 188, 8, 181, 0, 9, 42, 187, 0, 13, 89, 183, 0, 15, 181, 0, 16]
abbrev dktX1_init_0 : List UInt8 := dkwX1_init_0 ++ dktX1_init_1
theorem dksX1_init_0 : cX1_init.data.toList.drop 0 = dktX1_init_0 := by decide +kernel
theorem dksX1_init_1 : cX1_init.data.toList.drop 24 = dktX1_init_1 := dk_seg dksX1_init_0 24 rfl rfl
theorem dksX1_init_2 : cX1_init.data.toList.drop 47 = dktX1_init_2 := dk_seg dksX1_init_1 23 rfl rfl
theorem dksX1_init_3 : cX1_init.data.toList.drop 70 = dktX1_init_3 := dk_seg dksX1_init_2 23 rfl rfl
theorem dksX1_init_4 : cX1_init.data.toList.drop 94 = dktX1_init_4 := dk_seg dksX1_init_3 24 rfl rfl
theorem dksX1_init_5 : cX1_init.data.toList.drop 118 = dktX1_init_5 := dk_seg dksX1_init_4 24 rfl rfl
theorem dksX1_init_6 : cX1_init.data.toList.drop 142 = dktX1_init_6 := dk_seg dksX1_init_5 24 rfl rfl
theorem dksX1_init_7 : cX1_init.data.toList.drop 166 = dktX1_init_7 := dk_seg dksX1_init_6 24 rfl rfl
theorem dksX1_init_8 : cX1_init.data.toList.drop 189 = dktX1_init_8 := dk_seg dksX1_init_7 23 rfl rfl
theorem dksX1_init_9 : cX1_init.data.toList.drop 213 = dktX1_init_9 := dk_seg dksX1_init_8 24 rfl rfl
theorem dksX1_init_10 : cX1_init.data.toList.drop 236 = dktX1_init_10 := dk_seg dksX1_init_9 23 rfl rfl
theorem dksX1_init_11 : cX1_init.data.toList.drop 260 = dktX1_init_11 := dk_seg dksX1_init_10 24 rfl rfl
theorem dksX1_init_12 : cX1_init.data.toList.drop 284 = dktX1_init_12 := dk_seg dksX1_init_11 24 rfl rfl
theorem dX1_init_0 : decode cX1_init 0 = .ok (.aload_n 0, 1) := dk_42 (dk_at dksX1_init_0 0 rfl rfl)
theorem dX1_init_1 : decode cX1_init 1 = .ok (.invokespecial 1, 3) := dk_183 0 1 (dk_at dksX1_init_0 1 rfl rfl)
theorem dX1_init_4 : decode cX1_init 4 = .ok (.aload_n 0, 1) := dk_42 (dk_at dksX1_init_0 4 rfl rfl)
theorem dX1_init_5 : decode cX1_init 5 = .ok (.sipush 940, 3) := dk_17 3 172 (dk_at dksX1_init_0 5 rfl rfl)
theorem dX1_init_8 : decode cX1_init 8 = .ok (.newarray .byte, 2) := dk_188_8 (dk_at dksX1_init_0 8 rfl rfl)
theorem dX1_init_10 : decode cX1_init 10 = .ok (.putfield 9, 3) := dk_181 0 9 (dk_at dksX1_init_0 10 rfl rfl)
theorem dX1_init_13 : decode cX1_init 13 = .ok (.aload_n 0, 1) := dk_42 (dk_at dksX1_init_0 13 rfl rfl)
theorem dX1_init_14 : decode cX1_init 14 = .ok (.new 13, 3) := dk_187 0 13 (dk_at dksX1_init_0 14 rfl rfl)
theorem dX1_init_17 : decode cX1_init 17 = .ok (.dup, 1) := dk_89 (dk_at dksX1_init_0 17 rfl rfl)
theorem dX1_init_18 : decode cX1_init 18 = .ok (.invokespecial 15, 3) := dk_183 0 15 (dk_at dksX1_init_0 18 rfl rfl)
theorem dX1_init_21 : decode cX1_init 21 = .ok (.putfield 16, 3) := dk_181 0 16 (dk_at dksX1_init_0 21 rfl rfl)
theorem dX1_init_24 : decode cX1_init 24 = .ok (.aload_n 0, 1) := dk_42 (dk_at dksX1_init_1 0 rfl rfl)
theorem dX1_init_25 : decode cX1_init 25 = .ok (.bipush 7, 2) := dk_16 7 (dk_at dksX1_init_1 1 rfl rfl)
theorem dX1_init_27 : decode cX1_init 27 = .ok (.anewarray 20, 3) := dk_189 0 20 (dk_at dksX1_init_1 3 rfl rfl)
theorem dX1_init_30 : decode cX1_init 30 = .ok (.dup, 1) := dk_89 (dk_at dksX1_init_1 6 rfl rfl)
theorem dX1_init_31 : decode cX1_init 31 = .ok (.iconst 0, 1) := dk_3 (dk_at dksX1_init_1 7 rfl rfl)
theorem dX1_init_32 : decode cX1_init 32 = .ok (.ldc 22, 2) := dk_18 22 (dk_at dksX1_init_1 8 rfl rfl)
theorem dX1_init_34 : decode cX1_init 34 = .ok (.aastore, 1) := dk_83 (dk_at dksX1_init_1 10 rfl rfl)
theorem dX1_init_35 : decode cX1_init 35 = .ok (.dup, 1) := dk_89 (dk_at dksX1_init_1 11 rfl rfl)
theorem dX1_init_36 : decode cX1_init 36 = .ok (.iconst 1, 1) := dk_4 (dk_at dksX1_init_1 12 rfl rfl)
theorem dX1_init_37 : decode cX1_init 37 = .ok (.ldc 24, 2) := dk_18 24 (dk_at dksX1_init_1 13 rfl rfl)
theorem dX1_init_39 : decode cX1_init 39 = .ok (.aastore, 1) := dk_83 (dk_at dksX1_init_1 15 rfl rfl)
theorem dX1_init_40 : decode cX1_init 40 = .ok (.dup, 1) := dk_89 (dk_at dksX1_init_1 16 rfl rfl)
theorem dX1_init_41 : decode cX1_init 41 = .ok (.iconst 2, 1) := dk_5 (dk_at dksX1_init_1 17 rfl rfl)
theorem dX1_init_42 : decode cX1_init 42 = .ok (.ldc 26, 2) := dk_18 26 (dk_at dksX1_init_1 18 rfl rfl)
theorem dX1_init_44 : decode cX1_init 44 = .ok (.aastore, 1) := dk_83 (dk_at dksX1_init_1 20 rfl rfl)
theorem dX1_init_45 : decode cX1_init 45 = .ok (.dup, 1) := dk_89 (dk_at dksX1_init_1 21 rfl rfl)
theorem dX1_init_46 : decode cX1_init 46 = .ok (.iconst 3, 1) := dk_6 (dk_at dksX1_init_1 22 rfl rfl)
theorem dX1_init_47 : decode cX1_init 47 = .ok (.ldc 28, 2) := dk_18 28 (dk_at dksX1_init_2 0 rfl rfl)
theorem dX1_init_49 : decode cX1_init 49 = .ok (.aastore, 1) := dk_83 (dk_at dksX1_init_2 2 rfl rfl)
theorem dX1_init_50 : decode cX1_init 50 = .ok (.dup, 1) := dk_89 (dk_at dksX1_init_2 3 rfl rfl)
theorem dX1_init_51 : decode cX1_init 51 = .ok (.iconst 4, 1) := dk_7 (dk_at dksX1_init_2 4 rfl rfl)
theorem dX1_init_52 : decode cX1_init 52 = .ok (.ldc 30, 2) := dk_18 30 (dk_at dksX1_init_2 5 rfl rfl)
theorem dX1_init_54 : decode cX1_init 54 = .ok (.aastore, 1) := dk_83 (dk_at dksX1_init_2 7 rfl rfl)
theorem dX1_init_55 : decode cX1_init 55 = .ok (.dup, 1) := dk_89 (dk_at dksX1_init_2 8 rfl rfl)
theorem dX1_init_56 : decode cX1_init 56 = .ok (.iconst 5, 1) := dk_8 (dk_at dksX1_init_2 9 rfl rfl)
theorem dX1_init_57 : decode cX1_init 57 = .ok (.ldc 32, 2) := dk_18 32 (dk_at dksX1_init_2 10 rfl rfl)
theorem dX1_init_59 : decode cX1_init 59 = .ok (.aastore, 1) := dk_83 (dk_at dksX1_init_2 12 rfl rfl)
theorem dX1_init_60 : decode cX1_init 60 = .ok (.dup, 1) := dk_89 (dk_at dksX1_init_2 13 rfl rfl)
theorem dX1_init_61 : decode cX1_init 61 = .ok (.bipush 6, 2) := dk_16 6 (dk_at dksX1_init_2 14 rfl rfl)
theorem dX1_init_63 : decode cX1_init 63 = .ok (.ldc 34, 2) := dk_18 34 (dk_at dksX1_init_2 16 rfl rfl)
theorem dX1_init_65 : decode cX1_init 65 = .ok (.aastore, 1) := dk_83 (dk_at dksX1_init_2 18 rfl rfl)
theorem dX1_init_66 : decode cX1_init 66 = .ok (.putfield 36, 3) := dk_181 0 36 (dk_at dksX1_init_2 19 rfl rfl)
theorem dX1_init_69 : decode cX1_init 69 = .ok (.aload_n 0, 1) := dk_42 (dk_at dksX1_init_2 22 rfl rfl)
theorem dX1_init_70 : decode cX1_init 70 = .ok (.bipush 15, 2) := dk_16 15 (dk_at dksX1_init_3 0 rfl rfl)
theorem dX1_init_72 : decode cX1_init 72 = .ok (.anewarray 20, 3) := dk_189 0 20 (dk_at dksX1_init_3 2 rfl rfl)
theorem dX1_init_75 : decode cX1_init 75 = .ok (.dup, 1) := dk_89 (dk_at dksX1_init_3 5 rfl rfl)
theorem dX1_init_76 : decode cX1_init 76 = .ok (.iconst 0, 1) := dk_3 (dk_at dksX1_init_3 6 rfl rfl)
theorem dX1_init_77 : decode cX1_init 77 = .ok (.ldc 40, 2) := dk_18 40 (dk_at dksX1_init_3 7 rfl rfl)
theorem dX1_init_79 : decode cX1_init 79 = .ok (.aastore, 1) := dk_83 (dk_at dksX1_init_3 9 rfl rfl)
theorem dX1_init_80 : decode cX1_init 80 = .ok (.dup, 1) := dk_89 (dk_at dksX1_init_3 10 rfl rfl)
theorem dX1_init_81 : decode cX1_init 81 = .ok (.iconst 1, 1) := dk_4 (dk_at dksX1_init_3 11 rfl rfl)
theorem dX1_init_82 : decode cX1_init 82 = .ok (.ldc 42, 2) := dk_18 42 (dk_at dksX1_init_3 12 rfl rfl)
theorem dX1_init_84 : decode cX1_init 84 = .ok (.aastore, 1) := dk_83 (dk_at dksX1_init_3 14 rfl rfl)
theorem dX1_init_85 : decode cX1_init 85 = .ok (.dup, 1) := dk_89 (dk_at dksX1_init_3 15 rfl rfl)
theorem dX1_init_86 : decode cX1_init 86 = .ok (.iconst 2, 1) := dk_5 (dk_at dksX1_init_3 16 rfl rfl)
theorem dX1_init_87 : decode cX1_init 87 = .ok (.ldc 44, 2) := dk_18 44 (dk_at dksX1_init_3 17 rfl rfl)
theorem dX1_init_89 : decode cX1_init 89 = .ok (.aastore, 1) := dk_83 (dk_at dksX1_init_3 19 rfl rfl)
theorem dX1_init_90 : decode cX1_init 90 = .ok (.dup, 1) := dk_89 (dk_at dksX1_init_3 20 rfl rfl)
theorem dX1_init_91 : decode cX1_init 91 = .ok (.iconst 3, 1) := dk_6 (dk_at dksX1_init_3 21 rfl rfl)
theorem dX1_init_92 : decode cX1_init 92 = .ok (.ldc 46, 2) := dk_18 46 (dk_at dksX1_init_3 22 rfl rfl)
theorem dX1_init_94 : decode cX1_init 94 = .ok (.aastore, 1) := dk_83 (dk_at dksX1_init_4 0 rfl rfl)
theorem dX1_init_95 : decode cX1_init 95 = .ok (.dup, 1) := dk_89 (dk_at dksX1_init_4 1 rfl rfl)
theorem dX1_init_96 : decode cX1_init 96 = .ok (.iconst 4, 1) := dk_7 (dk_at dksX1_init_4 2 rfl rfl)
theorem dX1_init_97 : decode cX1_init 97 = .ok (.ldc 48, 2) := dk_18 48 (dk_at dksX1_init_4 3 rfl rfl)
theorem dX1_init_99 : decode cX1_init 99 = .ok (.aastore, 1) := dk_83 (dk_at dksX1_init_4 5 rfl rfl)
theorem dX1_init_100 : decode cX1_init 100 = .ok (.dup, 1) := dk_89 (dk_at dksX1_init_4 6 rfl rfl)
theorem dX1_init_101 : decode cX1_init 101 = .ok (.iconst 5, 1) := dk_8 (dk_at dksX1_init_4 7 rfl rfl)
theorem dX1_init_102 : decode cX1_init 102 = .ok (.ldc 50, 2) := dk_18 50 (dk_at dksX1_init_4 8 rfl rfl)
theorem dX1_init_104 : decode cX1_init 104 = .ok (.aastore, 1) := dk_83 (dk_at dksX1_init_4 10 rfl rfl)
theorem dX1_init_105 : decode cX1_init 105 = .ok (.dup, 1) := dk_89 (dk_at dksX1_init_4 11 rfl rfl)
theorem dX1_init_106 : decode cX1_init 106 = .ok (.bipush 6, 2) := dk_16 6 (dk_at dksX1_init_4 12 rfl rfl)
theorem dX1_init_108 : decode cX1_init 108 = .ok (.ldc 52, 2) := dk_18 52 (dk_at dksX1_init_4 14 rfl rfl)
theorem dX1_init_110 : decode cX1_init 110 = .ok (.aastore, 1) := dk_83 (dk_at dksX1_init_4 16 rfl rfl)
theorem dX1_init_111 : decode cX1_init 111 = .ok (.dup, 1) := dk_89 (dk_at dksX1_init_4 17 rfl rfl)
theorem dX1_init_112 : decode cX1_init 112 = .ok (.bipush 7, 2) := dk_16 7 (dk_at dksX1_init_4 18 rfl rfl)
theorem dX1_init_114 : decode cX1_init 114 = .ok (.ldc 54, 2) := dk_18 54 (dk_at dksX1_init_4 20 rfl rfl)
theorem dX1_init_116 : decode cX1_init 116 = .ok (.aastore, 1) := dk_83 (dk_at dksX1_init_4 22 rfl rfl)
theorem dX1_init_117 : decode cX1_init 117 = .ok (.dup, 1) := dk_89 (dk_at dksX1_init_4 23 rfl rfl)
theorem dX1_init_118 : decode cX1_init 118 = .ok (.bipush 8, 2) := dk_16 8 (dk_at dksX1_init_5 0 rfl rfl)
theorem dX1_init_120 : decode cX1_init 120 = .ok (.ldc 56, 2) := dk_18 56 (dk_at dksX1_init_5 2 rfl rfl)
theorem dX1_init_122 : decode cX1_init 122 = .ok (.aastore, 1) := dk_83 (dk_at dksX1_init_5 4 rfl rfl)
theorem dX1_init_123 : decode cX1_init 123 = .ok (.dup, 1) := dk_89 (dk_at dksX1_init_5 5 rfl rfl)
theorem dX1_init_124 : decode cX1_init 124 = .ok (.bipush 9, 2) := dk_16 9 (dk_at dksX1_init_5 6 rfl rfl)
theorem dX1_init_126 : decode cX1_init 126 = .ok (.ldc 58, 2) := dk_18 58 (dk_at dksX1_init_5 8 rfl rfl)
theorem dX1_init_128 : decode cX1_init 128 = .ok (.aastore, 1) := dk_83 (dk_at dksX1_init_5 10 rfl rfl)
theorem dX1_init_129 : decode cX1_init 129 = .ok (.dup, 1) := dk_89 (dk_at dksX1_init_5 11 rfl rfl)
theorem dX1_init_130 : decode cX1_init 130 = .ok (.bipush 10, 2) := dk_16 10 (dk_at dksX1_init_5 12 rfl rfl)
theorem dX1_init_132 : decode cX1_init 132 = .ok (.ldc 60, 2) := dk_18 60 (dk_at dksX1_init_5 14 rfl rfl)
theorem dX1_init_134 : decode cX1_init 134 = .ok (.aastore, 1) := dk_83 (dk_at dksX1_init_5 16 rfl rfl)
theorem dX1_init_135 : decode cX1_init 135 = .ok (.dup, 1) := dk_89 (dk_at dksX1_init_5 17 rfl rfl)
theorem dX1_init_136 : decode cX1_init 136 = .ok (.bipush 11, 2) := dk_16 11 (dk_at dksX1_init_5 18 rfl rfl)
theorem dX1_init_138 : decode cX1_init 138 = .ok (.ldc 62, 2) := dk_18 62 (dk_at dksX1_init_5 20 rfl rfl)
theorem dX1_init_140 : decode cX1_init 140 = .ok (.aastore, 1) := dk_83 (dk_at dksX1_init_5 22 rfl rfl)
theorem dX1_init_141 : decode cX1_init 141 = .ok (.dup, 1) := dk_89 (dk_at dksX1_init_5 23 rfl rfl)
theorem dX1_init_142 : decode cX1_init 142 = .ok (.bipush 12, 2) := dk_16 12 (dk_at dksX1_init_6 0 rfl rfl)
theorem dX1_init_144 : decode cX1_init 144 = .ok (.ldc 64, 2) := dk_18 64 (dk_at dksX1_init_6 2 rfl rfl)
theorem dX1_init_146 : decode cX1_init 146 = .ok (.aastore, 1) := dk_83 (dk_at dksX1_init_6 4 rfl rfl)
theorem dX1_init_147 : decode cX1_init 147 = .ok (.dup, 1) := dk_89 (dk_at dksX1_init_6 5 rfl rfl)
theorem dX1_init_148 : decode cX1_init 148 = .ok (.bipush 13, 2) := dk_16 13 (dk_at dksX1_init_6 6 rfl rfl)
theorem dX1_init_150 : decode cX1_init 150 = .ok (.ldc 66, 2) := dk_18 66 (dk_at dksX1_init_6 8 rfl rfl)
theorem dX1_init_152 : decode cX1_init 152 = .ok (.aastore, 1) := dk_83 (dk_at dksX1_init_6 10 rfl rfl)
theorem dX1_init_153 : decode cX1_init 153 = .ok (.dup, 1) := dk_89 (dk_at dksX1_init_6 11 rfl rfl)
theorem dX1_init_154 : decode cX1_init 154 = .ok (.bipush 14, 2) := dk_16 14 (dk_at dksX1_init_6 12 rfl rfl)
theorem dX1_init_156 : decode cX1_init 156 = .ok (.ldc 68, 2) := dk_18 68 (dk_at dksX1_init_6 14 rfl rfl)
theorem dX1_init_158 : decode cX1_init 158 = .ok (.aastore, 1) := dk_83 (dk_at dksX1_init_6 16 rfl rfl)
theorem dX1_init_159 : decode cX1_init 159 = .ok (.putfield 70, 3) := dk_181 0 70 (dk_at dksX1_init_6 17 rfl rfl)
theorem dX1_init_162 : decode cX1_init 162 = .ok (.aload_n 0, 1) := dk_42 (dk_at dksX1_init_6 20 rfl rfl)
theorem dX1_init_163 : decode cX1_init 163 = .ok (.new 73, 3) := dk_187 0 73 (dk_at dksX1_init_6 21 rfl rfl)
theorem dX1_init_166 : decode cX1_init 166 = .ok (.dup, 1) := dk_89 (dk_at dksX1_init_7 0 rfl rfl)
theorem dX1_init_167 : decode cX1_init 167 = .ok (.invokespecial 75, 3) := dk_183 0 75 (dk_at dksX1_init_7 1 rfl rfl)
theorem dX1_init_170 : decode cX1_init 170 = .ok (.putfield 76, 3) := dk_181 0 76 (dk_at dksX1_init_7 4 rfl rfl)
theorem dX1_init_173 : decode cX1_init 173 = .ok (.aload_n 0, 1) := dk_42 (dk_at dksX1_init_7 7 rfl rfl)
theorem dX1_init_174 : decode cX1_init 174 = .ok (.new 80, 3) := dk_187 0 80 (dk_at dksX1_init_7 8 rfl rfl)
theorem dX1_init_177 : decode cX1_init 177 = .ok (.dup, 1) := dk_89 (dk_at dksX1_init_7 11 rfl rfl)
theorem dX1_init_178 : decode cX1_init 178 = .ok (.invokespecial 82, 3) := dk_183 0 82 (dk_at dksX1_init_7 12 rfl rfl)
theorem dX1_init_181 : decode cX1_init 181 = .ok (.putfield 83, 3) := dk_181 0 83 (dk_at dksX1_init_7 15 rfl rfl)
theorem dX1_init_184 : decode cX1_init 184 = .ok (.aload_n 0, 1) := dk_42 (dk_at dksX1_init_7 18 rfl rfl)
theorem dX1_init_185 : decode cX1_init 185 = .ok (.new 80, 3) := dk_187 0 80 (dk_at dksX1_init_7 19 rfl rfl)
theorem dX1_init_188 : decode cX1_init 188 = .ok (.dup, 1) := dk_89 (dk_at dksX1_init_7 22 rfl rfl)
theorem dX1_init_189 : decode cX1_init 189 = .ok (.invokespecial 82, 3) := dk_183 0 82 (dk_at dksX1_init_8 0 rfl rfl)
theorem dX1_init_192 : decode cX1_init 192 = .ok (.putfield 87, 3) := dk_181 0 87 (dk_at dksX1_init_8 3 rfl rfl)
theorem dX1_init_195 : decode cX1_init 195 = .ok (.aload_n 0, 1) := dk_42 (dk_at dksX1_init_8 6 rfl rfl)
theorem dX1_init_196 : decode cX1_init 196 = .ok (.new 90, 3) := dk_187 0 90 (dk_at dksX1_init_8 7 rfl rfl)
theorem dX1_init_199 : decode cX1_init 199 = .ok (.dup, 1) := dk_89 (dk_at dksX1_init_8 10 rfl rfl)
theorem dX1_init_200 : decode cX1_init 200 = .ok (.aload_n 0, 1) := dk_42 (dk_at dksX1_init_8 11 rfl rfl)
theorem dX1_init_201 : decode cX1_init 201 = .ok (.invokespecial 92, 3) := dk_183 0 92 (dk_at dksX1_init_8 12 rfl rfl)
theorem dX1_init_204 : decode cX1_init 204 = .ok (.putfield 95, 3) := dk_181 0 95 (dk_at dksX1_init_8 15 rfl rfl)
theorem dX1_init_207 : decode cX1_init 207 = .ok (.aload_n 0, 1) := dk_42 (dk_at dksX1_init_8 18 rfl rfl)
theorem dX1_init_208 : decode cX1_init 208 = .ok (.new 99, 3) := dk_187 0 99 (dk_at dksX1_init_8 19 rfl rfl)
theorem dX1_init_211 : decode cX1_init 211 = .ok (.dup, 1) := dk_89 (dk_at dksX1_init_8 22 rfl rfl)
theorem dX1_init_212 : decode cX1_init 212 = .ok (.aload_n 0, 1) := dk_42 (dk_at dksX1_init_8 23 rfl rfl)
theorem dX1_init_213 : decode cX1_init 213 = .ok (.invokespecial 101, 3) := dk_183 0 101 (dk_at dksX1_init_9 0 rfl rfl)
theorem dX1_init_216 : decode cX1_init 216 = .ok (.putfield 102, 3) := dk_181 0 102 (dk_at dksX1_init_9 3 rfl rfl)
theorem dX1_init_219 : decode cX1_init 219 = .ok (.aload_n 0, 1) := dk_42 (dk_at dksX1_init_9 6 rfl rfl)
theorem dX1_init_220 : decode cX1_init 220 = .ok (.getfield 83, 3) := dk_180 0 83 (dk_at dksX1_init_9 7 rfl rfl)
theorem dX1_init_223 : decode cX1_init 223 = .ok (.aload_n 0, 1) := dk_42 (dk_at dksX1_init_9 10 rfl rfl)
theorem dX1_init_224 : decode cX1_init 224 = .ok (.getfield 76, 3) := dk_180 0 76 (dk_at dksX1_init_9 11 rfl rfl)
theorem dX1_init_227 : decode cX1_init 227 = .ok (.invokevirtual 106, 3) := dk_182 0 106 (dk_at dksX1_init_9 14 rfl rfl)
theorem dX1_init_230 : decode cX1_init 230 = .ok (.aload_n 0, 1) := dk_42 (dk_at dksX1_init_9 17 rfl rfl)
theorem dX1_init_231 : decode cX1_init 231 = .ok (.bipush 8, 2) := dk_16 8 (dk_at dksX1_init_9 18 rfl rfl)
theorem dX1_init_233 : decode cX1_init 233 = .ok (.anewarray 80, 3) := dk_189 0 80 (dk_at dksX1_init_9 20 rfl rfl)
theorem dX1_init_236 : decode cX1_init 236 = .ok (.putfield 110, 3) := dk_181 0 110 (dk_at dksX1_init_10 0 rfl rfl)
theorem dX1_init_239 : decode cX1_init 239 = .ok (.aload_n 0, 1) := dk_42 (dk_at dksX1_init_10 3 rfl rfl)
theorem dX1_init_240 : decode cX1_init 240 = .ok (.bipush 32, 2) := dk_16 32 (dk_at dksX1_init_10 4 rfl rfl)
theorem dX1_init_242 : decode cX1_init 242 = .ok (.iconst 5, 1) := dk_8 (dk_at dksX1_init_10 6 rfl rfl)
theorem dX1_init_243 : decode cX1_init 243 = .ok (.multianewarray 114 2, 4) := by decide +kernel
theorem dX1_init_247 : decode cX1_init 247 = .ok (.putfield 116, 3) := dk_181 0 116 (dk_at dksX1_init_10 11 rfl rfl)
theorem dX1_init_250 : decode cX1_init 250 = .ok (.aload_n 0, 1) := dk_42 (dk_at dksX1_init_10 14 rfl rfl)
theorem dX1_init_251 : decode cX1_init 251 = .ok (.bipush 40, 2) := dk_16 40 (dk_at dksX1_init_10 15 rfl rfl)
theorem dX1_init_253 : decode cX1_init 253 = .ok (.newarray .int, 2) := dk_188_10 (dk_at dksX1_init_10 17 rfl rfl)
theorem dX1_init_255 : decode cX1_init 255 = .ok (.putfield 119, 3) := dk_181 0 119 (dk_at dksX1_init_10 19 rfl rfl)
theorem dX1_init_258 : decode cX1_init 258 = .ok (.aload_n 0, 1) := dk_42 (dk_at dksX1_init_10 22 rfl rfl)
theorem dX1_init_259 : decode cX1_init 259 = .ok (.iconst (-1), 1) := dk_2 (dk_at dksX1_init_10 23 rfl rfl)
theorem dX1_init_260 : decode cX1_init 260 = .ok (.putfield 123, 3) := dk_181 0 123 (dk_at dksX1_init_11 0 rfl rfl)
theorem dX1_init_263 : decode cX1_init 263 = .ok (.aload_n 0, 1) := dk_42 (dk_at dksX1_init_11 3 rfl rfl)
theorem dX1_init_264 : decode cX1_init 264 = .ok (.bipush 40, 2) := dk_16 40 (dk_at dksX1_init_11 4 rfl rfl)
theorem dX1_init_266 : decode cX1_init 266 = .ok (.newarray .byte, 2) := dk_188_8 (dk_at dksX1_init_11 6 rfl rfl)
theorem dX1_init_268 : decode cX1_init 268 = .ok (.putfield 127, 3) := dk_181 0 127 (dk_at dksX1_init_11 8 rfl rfl)
theorem dX1_init_271 : decode cX1_init 271 = .ok (.aload_n 0, 1) := dk_42 (dk_at dksX1_init_11 11 rfl rfl)
theorem dX1_init_272 : decode cX1_init 272 = .ok (.iconst 4, 1) := dk_7 (dk_at dksX1_init_11 12 rfl rfl)
theorem dX1_init_273 : decode cX1_init 273 = .ok (.newarray .int, 2) := dk_188_10 (dk_at dksX1_init_11 13 rfl rfl)
theorem dX1_init_275 : decode cX1_init 275 = .ok (.putfield 130, 3) := dk_181 0 130 (dk_at dksX1_init_11 15 rfl rfl)
theorem dX1_init_278 : decode cX1_init 278 = .ok (.aload_n 0, 1) := dk_42 (dk_at dksX1_init_11 18 rfl rfl)
theorem dX1_init_279 : decode cX1_init 279 = .ok (.new 133, 3) := dk_187 0 133 (dk_at dksX1_init_11 19 rfl rfl)
theorem dX1_init_282 : decode cX1_init 282 = .ok (.dup, 1) := dk_89 (dk_at dksX1_init_11 22 rfl rfl)
theorem dX1_init_283 : decode cX1_init 283 = .ok (.aload_n 0, 1) := dk_42 (dk_at dksX1_init_11 23 rfl rfl)
theorem dX1_init_284 : decode cX1_init 284 = .ok (.invokespecial 135, 3) := dk_183 0 135 (dk_at dksX1_init_12 0 rfl rfl)
theorem dX1_init_287 : decode cX1_init 287 = .ok (.putfield 136, 3) := dk_181 0 136 (dk_at dksX1_init_12 3 rfl rfl)
theorem dX1_init_290 : decode cX1_init 290 = .ok (.aload_n 0, 1) := dk_42 (dk_at dksX1_init_12 6 rfl rfl)
theorem dX1_init_291 : decode cX1_init 291 = .ok (.iconst 2, 1) := dk_5 (dk_at dksX1_init_12 7 rfl rfl)
theorem dX1_init_292 : decode cX1_init 292 = .ok (.anewarray 140, 3) := dk_189 0 140 (dk_at dksX1_init_12 8 rfl rfl)
theorem dX1_init_295 : decode cX1_init 295 = .ok (.putfield 142, 3) := dk_181 0 142 (dk_at dksX1_init_12 11 rfl rfl)
theorem dX1_init_298 : decode cX1_init 298 = .ok (.return_, 1) := dk_177 (dk_at dksX1_init_12 14 rfl rfl)
abbrev cX1_feed : ByteArray := prog_1_method_2_code
def yX1_feed : MethodName := ⟨RX1, "feed", "(IIIII)I"⟩
def dkwX1_feed_2 : List UInt8 := [172]
abbrev dktX1_feed_2 : List UInt8 := dkwX1_feed_2 ++ []
def dkwX1_feed_1 : List UInt8 := [182, 0, 149, 42, 29, 182, 0, 149, 42, 21, 4, 182, 0, 149, 42, 21, 5, 182, 0, 149, 42, 180, 0, 146]
abbrev dktX1_feed_1 : List UInt8 := dkwX1_feed_1 ++ dktX1_feed_2
def dkwX1_feed_0 : List UInt8 := [42, 180, 0, 146, 16, 20, 96, 17, 3, 172, 164, 0, 5, 2, 172, 42, 27, 182, 0, 149, 42, 28]
abbrev dktX1_feed_0 : List UInt8 := dkwX1_feed_0 ++ dktX1_feed_1
theorem dksX1_feed_0 : cX1_feed.data.toList.drop 0 = dktX1_feed_0 := by decide +kernel
theorem dksX1_feed_1 : cX1_feed.data.toList.drop 22 = dktX1_feed_1 := dk_seg dksX1_feed_0 22 rfl rfl
theorem dksX1_feed_2 : cX1_feed.data.toList.drop 46 = dktX1_feed_2 := dk_seg dksX1_feed_1 24 rfl rfl
theorem dX1_feed_0 : decode cX1_feed 0 = .ok (.aload_n 0, 1) := dk_42 (dk_at dksX1_feed_0 0 rfl rfl)
theorem dX1_feed_1 : decode cX1_feed 1 = .ok (.getfield 146, 3) := dk_180 0 146 (dk_at dksX1_feed_0 1 rfl rfl)
theorem dX1_feed_4 : decode cX1_feed 4 = .ok (.bipush 20, 2) := dk_16 20 (dk_at dksX1_feed_0 4 rfl rfl)
theorem dX1_feed_6 : decode cX1_feed 6 = .ok (.iadd, 1) := dk_96 (dk_at dksX1_feed_0 6 rfl rfl)
theorem dX1_feed_7 : decode cX1_feed 7 = .ok (.sipush 940, 3) := dk_17 3 172 (dk_at dksX1_feed_0 7 rfl rfl)
theorem dX1_feed_10 : decode cX1_feed 10 = .ok (.if_icmp .le 5, 3) := dk_164 0 5 (dk_at dksX1_feed_0 10 rfl rfl)
theorem dX1_feed_13 : decode cX1_feed 13 = .ok (.iconst (-1), 1) := dk_2 (dk_at dksX1_feed_0 13 rfl rfl)
theorem dX1_feed_14 : decode cX1_feed 14 = .ok (.ireturn, 1) := dk_172 (dk_at dksX1_feed_0 14 rfl rfl)
theorem dX1_feed_15 : decode cX1_feed 15 = .ok (.aload_n 0, 1) := dk_42 (dk_at dksX1_feed_0 15 rfl rfl)
theorem dX1_feed_16 : decode cX1_feed 16 = .ok (.iload_n 1, 1) := dk_27 (dk_at dksX1_feed_0 16 rfl rfl)
theorem dX1_feed_17 : decode cX1_feed 17 = .ok (.invokevirtual 149, 3) := dk_182 0 149 (dk_at dksX1_feed_0 17 rfl rfl)
theorem dX1_feed_20 : decode cX1_feed 20 = .ok (.aload_n 0, 1) := dk_42 (dk_at dksX1_feed_0 20 rfl rfl)
theorem dX1_feed_21 : decode cX1_feed 21 = .ok (.iload_n 2, 1) := dk_28 (dk_at dksX1_feed_0 21 rfl rfl)
theorem dX1_feed_22 : decode cX1_feed 22 = .ok (.invokevirtual 149, 3) := dk_182 0 149 (dk_at dksX1_feed_1 0 rfl rfl)
theorem dX1_feed_25 : decode cX1_feed 25 = .ok (.aload_n 0, 1) := dk_42 (dk_at dksX1_feed_1 3 rfl rfl)
theorem dX1_feed_26 : decode cX1_feed 26 = .ok (.iload_n 3, 1) := dk_29 (dk_at dksX1_feed_1 4 rfl rfl)
theorem dX1_feed_27 : decode cX1_feed 27 = .ok (.invokevirtual 149, 3) := dk_182 0 149 (dk_at dksX1_feed_1 5 rfl rfl)
theorem dX1_feed_30 : decode cX1_feed 30 = .ok (.aload_n 0, 1) := dk_42 (dk_at dksX1_feed_1 8 rfl rfl)
theorem dX1_feed_31 : decode cX1_feed 31 = .ok (.iload 4, 2) := dk_21 4 (dk_at dksX1_feed_1 9 rfl rfl)
theorem dX1_feed_33 : decode cX1_feed 33 = .ok (.invokevirtual 149, 3) := dk_182 0 149 (dk_at dksX1_feed_1 11 rfl rfl)
theorem dX1_feed_36 : decode cX1_feed 36 = .ok (.aload_n 0, 1) := dk_42 (dk_at dksX1_feed_1 14 rfl rfl)
theorem dX1_feed_37 : decode cX1_feed 37 = .ok (.iload 5, 2) := dk_21 5 (dk_at dksX1_feed_1 15 rfl rfl)
theorem dX1_feed_39 : decode cX1_feed 39 = .ok (.invokevirtual 149, 3) := dk_182 0 149 (dk_at dksX1_feed_1 17 rfl rfl)
theorem dX1_feed_42 : decode cX1_feed 42 = .ok (.aload_n 0, 1) := dk_42 (dk_at dksX1_feed_1 20 rfl rfl)
theorem dX1_feed_43 : decode cX1_feed 43 = .ok (.getfield 146, 3) := dk_180 0 146 (dk_at dksX1_feed_1 21 rfl rfl)
theorem dX1_feed_46 : decode cX1_feed 46 = .ok (.ireturn, 1) := dk_172 (dk_at dksX1_feed_2 0 rfl rfl)
abbrev cX1_four : ByteArray := prog_1_method_3_code
def yX1_four : MethodName := ⟨RX1, "four", "(I)V"⟩
def dkwX1_four_1 : List UInt8 := [180, 0, 146, 4, 96, 181, 0, 146, 132, 2, 248, 167, 255, 226, 177]
abbrev dktX1_four_1 : List UInt8 := dkwX1_four_1 ++ []
def dkwX1_four_0 : List UInt8 := [16, 24, 61, 28, 155, 0, 32, 42, 180, 0, 9, 42, 180, 0, 146, 27, 28, 122, 145, 84, 42, 89]
abbrev dktX1_four_0 : List UInt8 := dkwX1_four_0 ++ dktX1_four_1
theorem dksX1_four_0 : cX1_four.data.toList.drop 0 = dktX1_four_0 := by decide +kernel
theorem dksX1_four_1 : cX1_four.data.toList.drop 22 = dktX1_four_1 := dk_seg dksX1_four_0 22 rfl rfl
theorem dX1_four_0 : decode cX1_four 0 = .ok (.bipush 24, 2) := dk_16 24 (dk_at dksX1_four_0 0 rfl rfl)
theorem dX1_four_2 : decode cX1_four 2 = .ok (.istore_n 2, 1) := dk_61 (dk_at dksX1_four_0 2 rfl rfl)
theorem dX1_four_3 : decode cX1_four 3 = .ok (.iload_n 2, 1) := dk_28 (dk_at dksX1_four_0 3 rfl rfl)
theorem dX1_four_4 : decode cX1_four 4 = .ok (.ifCond .lt 32, 3) := dk_155 0 32 (dk_at dksX1_four_0 4 rfl rfl)
theorem dX1_four_7 : decode cX1_four 7 = .ok (.aload_n 0, 1) := dk_42 (dk_at dksX1_four_0 7 rfl rfl)
theorem dX1_four_8 : decode cX1_four 8 = .ok (.getfield 9, 3) := dk_180 0 9 (dk_at dksX1_four_0 8 rfl rfl)
theorem dX1_four_11 : decode cX1_four 11 = .ok (.aload_n 0, 1) := dk_42 (dk_at dksX1_four_0 11 rfl rfl)
theorem dX1_four_12 : decode cX1_four 12 = .ok (.getfield 146, 3) := dk_180 0 146 (dk_at dksX1_four_0 12 rfl rfl)
theorem dX1_four_15 : decode cX1_four 15 = .ok (.iload_n 1, 1) := dk_27 (dk_at dksX1_four_0 15 rfl rfl)
theorem dX1_four_16 : decode cX1_four 16 = .ok (.iload_n 2, 1) := dk_28 (dk_at dksX1_four_0 16 rfl rfl)
theorem dX1_four_17 : decode cX1_four 17 = .ok (.ishr, 1) := dk_122 (dk_at dksX1_four_0 17 rfl rfl)
theorem dX1_four_18 : decode cX1_four 18 = .ok (.i2b, 1) := dk_145 (dk_at dksX1_four_0 18 rfl rfl)
theorem dX1_four_19 : decode cX1_four 19 = .ok (.bastore, 1) := dk_84 (dk_at dksX1_four_0 19 rfl rfl)
theorem dX1_four_20 : decode cX1_four 20 = .ok (.aload_n 0, 1) := dk_42 (dk_at dksX1_four_0 20 rfl rfl)
theorem dX1_four_21 : decode cX1_four 21 = .ok (.dup, 1) := dk_89 (dk_at dksX1_four_0 21 rfl rfl)
theorem dX1_four_22 : decode cX1_four 22 = .ok (.getfield 146, 3) := dk_180 0 146 (dk_at dksX1_four_1 0 rfl rfl)
theorem dX1_four_25 : decode cX1_four 25 = .ok (.iconst 1, 1) := dk_4 (dk_at dksX1_four_1 3 rfl rfl)
theorem dX1_four_26 : decode cX1_four 26 = .ok (.iadd, 1) := dk_96 (dk_at dksX1_four_1 4 rfl rfl)
theorem dX1_four_27 : decode cX1_four 27 = .ok (.putfield 146, 3) := dk_181 0 146 (dk_at dksX1_four_1 5 rfl rfl)
theorem dX1_four_30 : decode cX1_four 30 = .ok (.iinc 2 (-8), 3) := dk_132 2 248 (dk_at dksX1_four_1 8 rfl rfl)
theorem dX1_four_33 : decode cX1_four 33 = .ok (.goto (-30), 3) := dk_167 255 226 (dk_at dksX1_four_1 11 rfl rfl)
theorem dX1_four_36 : decode cX1_four 36 = .ok (.return_, 1) := dk_177 (dk_at dksX1_four_1 14 rfl rfl)
abbrev cX1_end : ByteArray := prog_1_method_4_code
def yX1_end : MethodName := ⟨RX1, "end", "(I)Z"⟩
def dkwX1_end_0 : List UInt8 := [27, 155, 0, 11, 27, 42, 180, 0, 146, 164, 0, 5, 3, 172, 42, 27, 181, 0, 146, 4, 172]
abbrev dktX1_end_0 : List UInt8 := dkwX1_end_0 ++ []
theorem dksX1_end_0 : cX1_end.data.toList.drop 0 = dktX1_end_0 := by decide +kernel
theorem dX1_end_0 : decode cX1_end 0 = .ok (.iload_n 1, 1) := dk_27 (dk_at dksX1_end_0 0 rfl rfl)
theorem dX1_end_1 : decode cX1_end 1 = .ok (.ifCond .lt 11, 3) := dk_155 0 11 (dk_at dksX1_end_0 1 rfl rfl)
theorem dX1_end_4 : decode cX1_end 4 = .ok (.iload_n 1, 1) := dk_27 (dk_at dksX1_end_0 4 rfl rfl)
theorem dX1_end_5 : decode cX1_end 5 = .ok (.aload_n 0, 1) := dk_42 (dk_at dksX1_end_0 5 rfl rfl)
theorem dX1_end_6 : decode cX1_end 6 = .ok (.getfield 146, 3) := dk_180 0 146 (dk_at dksX1_end_0 6 rfl rfl)
theorem dX1_end_9 : decode cX1_end 9 = .ok (.if_icmp .le 5, 3) := dk_164 0 5 (dk_at dksX1_end_0 9 rfl rfl)
theorem dX1_end_12 : decode cX1_end 12 = .ok (.iconst 0, 1) := dk_3 (dk_at dksX1_end_0 12 rfl rfl)
theorem dX1_end_13 : decode cX1_end 13 = .ok (.ireturn, 1) := dk_172 (dk_at dksX1_end_0 13 rfl rfl)
theorem dX1_end_14 : decode cX1_end 14 = .ok (.aload_n 0, 1) := dk_42 (dk_at dksX1_end_0 14 rfl rfl)
theorem dX1_end_15 : decode cX1_end 15 = .ok (.iload_n 1, 1) := dk_27 (dk_at dksX1_end_0 15 rfl rfl)
theorem dX1_end_16 : decode cX1_end 16 = .ok (.putfield 146, 3) := dk_181 0 146 (dk_at dksX1_end_0 16 rfl rfl)
theorem dX1_end_19 : decode cX1_end 19 = .ok (.iconst 1, 1) := dk_4 (dk_at dksX1_end_0 19 rfl rfl)
theorem dX1_end_20 : decode cX1_end 20 = .ok (.ireturn, 1) := dk_172 (dk_at dksX1_end_0 20 rfl rfl)
abbrev cX1_house : ByteArray := prog_1_method_10_code
def yX1_house : MethodName := ⟨RX1, "house", "()I"⟩
def dkwX1_house_2 : List UInt8 := [181, 0, 172, 28, 172, 77, 42, 44, 180, 0, 176, 181, 0, 162, 2, 44, 180, 0, 179, 100, 172]
abbrev dktX1_house_2 : List UInt8 := dkwX1_house_2 ++ []
def dkwX1_house_1 : List UInt8 := [182, 0, 165, 61, 42, 43, 181, 0, 76, 42, 180, 0, 83, 43, 182, 0, 106, 42, 3, 181, 0, 169, 42, 1]
abbrev dktX1_house_1 : List UInt8 := dkwX1_house_1 ++ dktX1_house_2
def dkwX1_house_0 : List UInt8 := [42, 182, 0, 159, 42, 3, 181, 0, 162, 187, 0, 73, 89, 183, 0, 75, 76, 42, 180, 0, 95, 43]
abbrev dktX1_house_0 : List UInt8 := dkwX1_house_0 ++ dktX1_house_1
theorem dksX1_house_0 : cX1_house.data.toList.drop 0 = dktX1_house_0 := by decide +kernel
theorem dksX1_house_1 : cX1_house.data.toList.drop 22 = dktX1_house_1 := dk_seg dksX1_house_0 22 rfl rfl
theorem dksX1_house_2 : cX1_house.data.toList.drop 46 = dktX1_house_2 := dk_seg dksX1_house_1 24 rfl rfl
theorem dX1_house_0 : decode cX1_house 0 = .ok (.aload_n 0, 1) := dk_42 (dk_at dksX1_house_0 0 rfl rfl)
theorem dX1_house_1 : decode cX1_house 1 = .ok (.invokevirtual 159, 3) := dk_182 0 159 (dk_at dksX1_house_0 1 rfl rfl)
theorem dX1_house_4 : decode cX1_house 4 = .ok (.aload_n 0, 1) := dk_42 (dk_at dksX1_house_0 4 rfl rfl)
theorem dX1_house_5 : decode cX1_house 5 = .ok (.iconst 0, 1) := dk_3 (dk_at dksX1_house_0 5 rfl rfl)
theorem dX1_house_6 : decode cX1_house 6 = .ok (.putfield 162, 3) := dk_181 0 162 (dk_at dksX1_house_0 6 rfl rfl)
theorem dX1_house_9 : decode cX1_house 9 = .ok (.new 73, 3) := dk_187 0 73 (dk_at dksX1_house_0 9 rfl rfl)
theorem dX1_house_12 : decode cX1_house 12 = .ok (.dup, 1) := dk_89 (dk_at dksX1_house_0 12 rfl rfl)
theorem dX1_house_13 : decode cX1_house 13 = .ok (.invokespecial 75, 3) := dk_183 0 75 (dk_at dksX1_house_0 13 rfl rfl)
theorem dX1_house_16 : decode cX1_house 16 = .ok (.astore_n 1, 1) := dk_76 (dk_at dksX1_house_0 16 rfl rfl)
theorem dX1_house_17 : decode cX1_house 17 = .ok (.aload_n 0, 1) := dk_42 (dk_at dksX1_house_0 17 rfl rfl)
theorem dX1_house_18 : decode cX1_house 18 = .ok (.getfield 95, 3) := dk_180 0 95 (dk_at dksX1_house_0 18 rfl rfl)
theorem dX1_house_21 : decode cX1_house 21 = .ok (.aload_n 1, 1) := dk_43 (dk_at dksX1_house_0 21 rfl rfl)
theorem dX1_house_22 : decode cX1_house 22 = .ok (.invokevirtual 165, 3) := dk_182 0 165 (dk_at dksX1_house_1 0 rfl rfl)
theorem dX1_house_25 : decode cX1_house 25 = .ok (.istore_n 2, 1) := dk_61 (dk_at dksX1_house_1 3 rfl rfl)
theorem dX1_house_26 : decode cX1_house 26 = .ok (.aload_n 0, 1) := dk_42 (dk_at dksX1_house_1 4 rfl rfl)
theorem dX1_house_27 : decode cX1_house 27 = .ok (.aload_n 1, 1) := dk_43 (dk_at dksX1_house_1 5 rfl rfl)
theorem dX1_house_28 : decode cX1_house 28 = .ok (.putfield 76, 3) := dk_181 0 76 (dk_at dksX1_house_1 6 rfl rfl)
theorem dX1_house_31 : decode cX1_house 31 = .ok (.aload_n 0, 1) := dk_42 (dk_at dksX1_house_1 9 rfl rfl)
theorem dX1_house_32 : decode cX1_house 32 = .ok (.getfield 83, 3) := dk_180 0 83 (dk_at dksX1_house_1 10 rfl rfl)
theorem dX1_house_35 : decode cX1_house 35 = .ok (.aload_n 1, 1) := dk_43 (dk_at dksX1_house_1 13 rfl rfl)
theorem dX1_house_36 : decode cX1_house 36 = .ok (.invokevirtual 106, 3) := dk_182 0 106 (dk_at dksX1_house_1 14 rfl rfl)
theorem dX1_house_39 : decode cX1_house 39 = .ok (.aload_n 0, 1) := dk_42 (dk_at dksX1_house_1 17 rfl rfl)
theorem dX1_house_40 : decode cX1_house 40 = .ok (.iconst 0, 1) := dk_3 (dk_at dksX1_house_1 18 rfl rfl)
theorem dX1_house_41 : decode cX1_house 41 = .ok (.putfield 169, 3) := dk_181 0 169 (dk_at dksX1_house_1 19 rfl rfl)
theorem dX1_house_44 : decode cX1_house 44 = .ok (.aload_n 0, 1) := dk_42 (dk_at dksX1_house_1 22 rfl rfl)
theorem dX1_house_45 : decode cX1_house 45 = .ok (.aconst_null, 1) := dk_1 (dk_at dksX1_house_1 23 rfl rfl)
theorem dX1_house_46 : decode cX1_house 46 = .ok (.putfield 172, 3) := dk_181 0 172 (dk_at dksX1_house_2 0 rfl rfl)
theorem dX1_house_49 : decode cX1_house 49 = .ok (.iload_n 2, 1) := dk_28 (dk_at dksX1_house_2 3 rfl rfl)
theorem dX1_house_50 : decode cX1_house 50 = .ok (.ireturn, 1) := dk_172 (dk_at dksX1_house_2 4 rfl rfl)
theorem dX1_house_51 : decode cX1_house 51 = .ok (.astore_n 2, 1) := dk_77 (dk_at dksX1_house_2 5 rfl rfl)
theorem dX1_house_52 : decode cX1_house 52 = .ok (.aload_n 0, 1) := dk_42 (dk_at dksX1_house_2 6 rfl rfl)
theorem dX1_house_53 : decode cX1_house 53 = .ok (.aload_n 2, 1) := dk_44 (dk_at dksX1_house_2 7 rfl rfl)
theorem dX1_house_54 : decode cX1_house 54 = .ok (.getfield 176, 3) := dk_180 0 176 (dk_at dksX1_house_2 8 rfl rfl)
theorem dX1_house_57 : decode cX1_house 57 = .ok (.putfield 162, 3) := dk_181 0 162 (dk_at dksX1_house_2 11 rfl rfl)
theorem dX1_house_60 : decode cX1_house 60 = .ok (.iconst (-1), 1) := dk_2 (dk_at dksX1_house_2 14 rfl rfl)
theorem dX1_house_61 : decode cX1_house 61 = .ok (.aload_n 2, 1) := dk_44 (dk_at dksX1_house_2 15 rfl rfl)
theorem dX1_house_62 : decode cX1_house 62 = .ok (.getfield 179, 3) := dk_180 0 179 (dk_at dksX1_house_2 16 rfl rfl)
theorem dX1_house_65 : decode cX1_house 65 = .ok (.isub, 1) := dk_100 (dk_at dksX1_house_2 19 rfl rfl)
theorem dX1_house_66 : decode cX1_house 66 = .ok (.ireturn, 1) := dk_172 (dk_at dksX1_house_2 20 rfl rfl)
abbrev cX1_taken : ByteArray := prog_1_method_5_code
def yX1_taken : MethodName := ⟨RX1, "taken", "()V"⟩
def dkwX1_taken_0 : List UInt8 := [42, 42, 180, 0, 146, 181, 0, 153, 42, 3, 181, 0, 146, 177]
abbrev dktX1_taken_0 : List UInt8 := dkwX1_taken_0 ++ []
theorem dksX1_taken_0 : cX1_taken.data.toList.drop 0 = dktX1_taken_0 := by decide +kernel
theorem dX1_taken_0 : decode cX1_taken 0 = .ok (.aload_n 0, 1) := dk_42 (dk_at dksX1_taken_0 0 rfl rfl)
theorem dX1_taken_1 : decode cX1_taken 1 = .ok (.aload_n 0, 1) := dk_42 (dk_at dksX1_taken_0 1 rfl rfl)
theorem dX1_taken_2 : decode cX1_taken 2 = .ok (.getfield 146, 3) := dk_180 0 146 (dk_at dksX1_taken_0 2 rfl rfl)
theorem dX1_taken_5 : decode cX1_taken 5 = .ok (.putfield 153, 3) := dk_181 0 153 (dk_at dksX1_taken_0 5 rfl rfl)
theorem dX1_taken_8 : decode cX1_taken 8 = .ok (.aload_n 0, 1) := dk_42 (dk_at dksX1_taken_0 8 rfl rfl)
theorem dX1_taken_9 : decode cX1_taken 9 = .ok (.iconst 0, 1) := dk_3 (dk_at dksX1_taken_0 9 rfl rfl)
theorem dX1_taken_10 : decode cX1_taken 10 = .ok (.putfield 146, 3) := dk_181 0 146 (dk_at dksX1_taken_0 10 rfl rfl)
theorem dX1_taken_13 : decode cX1_taken 13 = .ok (.return_, 1) := dk_177 (dk_at dksX1_taken_0 13 rfl rfl)
abbrev cX1_isIn : ByteArray := prog_1_method_7_code
def yX1_isIn : MethodName := ⟨RX1, "isIn", "(III)Z"⟩
def dkwX1_isIn_0 : List UInt8 := [26, 27, 161, 0, 12, 26, 28, 163, 0, 7, 4, 167, 0, 4, 3, 172]
abbrev dktX1_isIn_0 : List UInt8 := dkwX1_isIn_0 ++ []
theorem dksX1_isIn_0 : cX1_isIn.data.toList.drop 0 = dktX1_isIn_0 := by decide +kernel
theorem dX1_isIn_0 : decode cX1_isIn 0 = .ok (.iload_n 0, 1) := dk_26 (dk_at dksX1_isIn_0 0 rfl rfl)
theorem dX1_isIn_1 : decode cX1_isIn 1 = .ok (.iload_n 1, 1) := dk_27 (dk_at dksX1_isIn_0 1 rfl rfl)
theorem dX1_isIn_2 : decode cX1_isIn 2 = .ok (.if_icmp .lt 12, 3) := dk_161 0 12 (dk_at dksX1_isIn_0 2 rfl rfl)
theorem dX1_isIn_5 : decode cX1_isIn 5 = .ok (.iload_n 0, 1) := dk_26 (dk_at dksX1_isIn_0 5 rfl rfl)
theorem dX1_isIn_6 : decode cX1_isIn 6 = .ok (.iload_n 2, 1) := dk_28 (dk_at dksX1_isIn_0 6 rfl rfl)
theorem dX1_isIn_7 : decode cX1_isIn 7 = .ok (.if_icmp .gt 7, 3) := dk_163 0 7 (dk_at dksX1_isIn_0 7 rfl rfl)
theorem dX1_isIn_10 : decode cX1_isIn 10 = .ok (.iconst 1, 1) := dk_4 (dk_at dksX1_isIn_0 10 rfl rfl)
theorem dX1_isIn_11 : decode cX1_isIn 11 = .ok (.goto 4, 3) := dk_167 0 4 (dk_at dksX1_isIn_0 11 rfl rfl)
theorem dX1_isIn_14 : decode cX1_isIn 14 = .ok (.iconst 0, 1) := dk_3 (dk_at dksX1_isIn_0 14 rfl rfl)
theorem dX1_isIn_15 : decode cX1_isIn 15 = .ok (.ireturn, 1) := dk_172 (dk_at dksX1_isIn_0 15 rfl rfl)
abbrev cX1_has : ByteArray := prog_1_method_9_code
def yX1_has : MethodName := ⟨RX1, "has", "(II)Z"⟩
def dkwX1_has_0 : List UInt8 := [26, 27, 122, 4, 126, 4, 160, 0, 7, 4, 167, 0, 4, 3, 172]
abbrev dktX1_has_0 : List UInt8 := dkwX1_has_0 ++ []
theorem dksX1_has_0 : cX1_has.data.toList.drop 0 = dktX1_has_0 := by decide +kernel
theorem dX1_has_0 : decode cX1_has 0 = .ok (.iload_n 0, 1) := dk_26 (dk_at dksX1_has_0 0 rfl rfl)
theorem dX1_has_1 : decode cX1_has 1 = .ok (.iload_n 1, 1) := dk_27 (dk_at dksX1_has_0 1 rfl rfl)
theorem dX1_has_2 : decode cX1_has 2 = .ok (.ishr, 1) := dk_122 (dk_at dksX1_has_0 2 rfl rfl)
theorem dX1_has_3 : decode cX1_has 3 = .ok (.iconst 1, 1) := dk_4 (dk_at dksX1_has_0 3 rfl rfl)
theorem dX1_has_4 : decode cX1_has 4 = .ok (.iand, 1) := dk_126 (dk_at dksX1_has_0 4 rfl rfl)
theorem dX1_has_5 : decode cX1_has 5 = .ok (.iconst 1, 1) := dk_4 (dk_at dksX1_has_0 5 rfl rfl)
theorem dX1_has_6 : decode cX1_has 6 = .ok (.if_icmp .ne 7, 3) := dk_160 0 7 (dk_at dksX1_has_0 6 rfl rfl)
theorem dX1_has_9 : decode cX1_has 9 = .ok (.iconst 1, 1) := dk_4 (dk_at dksX1_has_0 9 rfl rfl)
theorem dX1_has_10 : decode cX1_has 10 = .ok (.goto 4, 3) := dk_167 0 4 (dk_at dksX1_has_0 10 rfl rfl)
theorem dX1_has_13 : decode cX1_has 13 = .ok (.iconst 0, 1) := dk_3 (dk_at dksX1_has_0 13 rfl rfl)
theorem dX1_has_14 : decode cX1_has 14 = .ok (.ireturn, 1) := dk_172 (dk_at dksX1_has_0 14 rfl rfl)
abbrev cX1_fault : ByteArray := prog_1_method_11_code
def yX1_fault : MethodName := ⟨RX1, "fault", "()I"⟩
theorem dX1_fault_0 : decode cX1_fault 0 = .ok (.aload_n 0, 1) := by decide +kernel
theorem dX1_fault_1 : decode cX1_fault 1 = .ok (.getfield 162, 3) := by decide +kernel
theorem dX1_fault_4 : decode cX1_fault 4 = .ok (.ireturn, 1) := by decide +kernel
abbrev cX1_comes : ByteArray := prog_1_method_19_code
def yX1_comes : MethodName := ⟨RX1, "comes", "(II)I"⟩
def dkwX1_comes_1 : List UInt8 := [182, 1, 0, 167, 0, 4, 2, 172]
abbrev dktX1_comes_1 : List UInt8 := dkwX1_comes_1 ++ []
def dkwX1_comes_0 : List UInt8 := [42, 27, 182, 0, 201, 153, 0, 23, 42, 28, 182, 0, 233, 153, 0, 15, 42, 180, 0, 83, 27, 28]
abbrev dktX1_comes_0 : List UInt8 := dkwX1_comes_0 ++ dktX1_comes_1
theorem dksX1_comes_0 : cX1_comes.data.toList.drop 0 = dktX1_comes_0 := by decide +kernel
theorem dksX1_comes_1 : cX1_comes.data.toList.drop 22 = dktX1_comes_1 := dk_seg dksX1_comes_0 22 rfl rfl
theorem dX1_comes_0 : decode cX1_comes 0 = .ok (.aload_n 0, 1) := dk_42 (dk_at dksX1_comes_0 0 rfl rfl)
theorem dX1_comes_1 : decode cX1_comes 1 = .ok (.iload_n 1, 1) := dk_27 (dk_at dksX1_comes_0 1 rfl rfl)
theorem dX1_comes_2 : decode cX1_comes 2 = .ok (.invokevirtual 201, 3) := dk_182 0 201 (dk_at dksX1_comes_0 2 rfl rfl)
theorem dX1_comes_5 : decode cX1_comes 5 = .ok (.ifCond .eq 23, 3) := dk_153 0 23 (dk_at dksX1_comes_0 5 rfl rfl)
theorem dX1_comes_8 : decode cX1_comes 8 = .ok (.aload_n 0, 1) := dk_42 (dk_at dksX1_comes_0 8 rfl rfl)
theorem dX1_comes_9 : decode cX1_comes 9 = .ok (.iload_n 2, 1) := dk_28 (dk_at dksX1_comes_0 9 rfl rfl)
theorem dX1_comes_10 : decode cX1_comes 10 = .ok (.invokevirtual 233, 3) := dk_182 0 233 (dk_at dksX1_comes_0 10 rfl rfl)
theorem dX1_comes_13 : decode cX1_comes 13 = .ok (.ifCond .eq 15, 3) := dk_153 0 15 (dk_at dksX1_comes_0 13 rfl rfl)
theorem dX1_comes_16 : decode cX1_comes 16 = .ok (.aload_n 0, 1) := dk_42 (dk_at dksX1_comes_0 16 rfl rfl)
theorem dX1_comes_17 : decode cX1_comes 17 = .ok (.getfield 83, 3) := dk_180 0 83 (dk_at dksX1_comes_0 17 rfl rfl)
theorem dX1_comes_20 : decode cX1_comes 20 = .ok (.iload_n 1, 1) := dk_27 (dk_at dksX1_comes_0 20 rfl rfl)
theorem dX1_comes_21 : decode cX1_comes 21 = .ok (.iload_n 2, 1) := dk_28 (dk_at dksX1_comes_0 21 rfl rfl)
theorem dX1_comes_22 : decode cX1_comes 22 = .ok (.invokevirtual 256, 3) := dk_182 1 0 (dk_at dksX1_comes_1 0 rfl rfl)
theorem dX1_comes_25 : decode cX1_comes 25 = .ok (.goto 4, 3) := dk_167 0 4 (dk_at dksX1_comes_1 3 rfl rfl)
theorem dX1_comes_28 : decode cX1_comes 28 = .ok (.iconst (-1), 1) := dk_2 (dk_at dksX1_comes_1 6 rfl rfl)
theorem dX1_comes_29 : decode cX1_comes 29 = .ok (.ireturn, 1) := dk_172 (dk_at dksX1_comes_1 7 rfl rfl)
abbrev cX1_isPlant : ByteArray := prog_1_method_13_code
def yX1_isPlant : MethodName := ⟨RX1, "isPlant", "(I)Z"⟩
def dkwX1_isPlant_0 : List UInt8 := [27, 3, 42, 180, 0, 76, 180, 0, 189, 4, 100, 184, 0, 185, 172]
abbrev dktX1_isPlant_0 : List UInt8 := dkwX1_isPlant_0 ++ []
theorem dksX1_isPlant_0 : cX1_isPlant.data.toList.drop 0 = dktX1_isPlant_0 := by decide +kernel
theorem dX1_isPlant_0 : decode cX1_isPlant 0 = .ok (.iload_n 1, 1) := dk_27 (dk_at dksX1_isPlant_0 0 rfl rfl)
theorem dX1_isPlant_1 : decode cX1_isPlant 1 = .ok (.iconst 0, 1) := dk_3 (dk_at dksX1_isPlant_0 1 rfl rfl)
theorem dX1_isPlant_2 : decode cX1_isPlant 2 = .ok (.aload_n 0, 1) := dk_42 (dk_at dksX1_isPlant_0 2 rfl rfl)
theorem dX1_isPlant_3 : decode cX1_isPlant 3 = .ok (.getfield 76, 3) := dk_180 0 76 (dk_at dksX1_isPlant_0 3 rfl rfl)
theorem dX1_isPlant_6 : decode cX1_isPlant 6 = .ok (.getfield 189, 3) := dk_180 0 189 (dk_at dksX1_isPlant_0 6 rfl rfl)
theorem dX1_isPlant_9 : decode cX1_isPlant 9 = .ok (.iconst 1, 1) := dk_4 (dk_at dksX1_isPlant_0 9 rfl rfl)
theorem dX1_isPlant_10 : decode cX1_isPlant 10 = .ok (.isub, 1) := dk_100 (dk_at dksX1_isPlant_0 10 rfl rfl)
theorem dX1_isPlant_11 : decode cX1_isPlant 11 = .ok (.invokestatic 185, 3) := dk_184 0 185 (dk_at dksX1_isPlant_0 11 rfl rfl)
theorem dX1_isPlant_14 : decode cX1_isPlant 14 = .ok (.ireturn, 1) := dk_172 (dk_at dksX1_isPlant_0 14 rfl rfl)
abbrev cX1_isAct : ByteArray := prog_1_method_16_code
def yX1_isAct : MethodName := ⟨RX1, "isAct", "(I)Z"⟩
def dkwX1_isAct_0 : List UInt8 := [27, 3, 42, 180, 0, 83, 180, 0, 198, 4, 100, 184, 0, 185, 172]
abbrev dktX1_isAct_0 : List UInt8 := dkwX1_isAct_0 ++ []
theorem dksX1_isAct_0 : cX1_isAct.data.toList.drop 0 = dktX1_isAct_0 := by decide +kernel
theorem dX1_isAct_0 : decode cX1_isAct 0 = .ok (.iload_n 1, 1) := dk_27 (dk_at dksX1_isAct_0 0 rfl rfl)
theorem dX1_isAct_1 : decode cX1_isAct 1 = .ok (.iconst 0, 1) := dk_3 (dk_at dksX1_isAct_0 1 rfl rfl)
theorem dX1_isAct_2 : decode cX1_isAct 2 = .ok (.aload_n 0, 1) := dk_42 (dk_at dksX1_isAct_0 2 rfl rfl)
theorem dX1_isAct_3 : decode cX1_isAct 3 = .ok (.getfield 83, 3) := dk_180 0 83 (dk_at dksX1_isAct_0 3 rfl rfl)
theorem dX1_isAct_6 : decode cX1_isAct 6 = .ok (.getfield 198, 3) := dk_180 0 198 (dk_at dksX1_isAct_0 6 rfl rfl)
theorem dX1_isAct_9 : decode cX1_isAct 9 = .ok (.iconst 1, 1) := dk_4 (dk_at dksX1_isAct_0 9 rfl rfl)
theorem dX1_isAct_10 : decode cX1_isAct 10 = .ok (.isub, 1) := dk_100 (dk_at dksX1_isAct_0 10 rfl rfl)
theorem dX1_isAct_11 : decode cX1_isAct 11 = .ok (.invokestatic 185, 3) := dk_184 0 185 (dk_at dksX1_isAct_0 11 rfl rfl)
theorem dX1_isAct_14 : decode cX1_isAct 14 = .ok (.ireturn, 1) := dk_172 (dk_at dksX1_isAct_0 14 rfl rfl)
abbrev cX1_sights : ByteArray := prog_1_method_20_code
def yX1_sights : MethodName := ⟨RX1, "sights", "(I)I"⟩
def dkwX1_sights_0 : List UInt8 := [42, 27, 182, 1, 4, 153, 0, 15, 42, 180, 0, 76, 180, 1, 7, 27, 46, 167, 0, 4, 2, 172]
abbrev dktX1_sights_0 : List UInt8 := dkwX1_sights_0 ++ []
theorem dksX1_sights_0 : cX1_sights.data.toList.drop 0 = dktX1_sights_0 := by decide +kernel
theorem dX1_sights_0 : decode cX1_sights 0 = .ok (.aload_n 0, 1) := dk_42 (dk_at dksX1_sights_0 0 rfl rfl)
theorem dX1_sights_1 : decode cX1_sights 1 = .ok (.iload_n 1, 1) := dk_27 (dk_at dksX1_sights_0 1 rfl rfl)
theorem dX1_sights_2 : decode cX1_sights 2 = .ok (.invokevirtual 260, 3) := dk_182 1 4 (dk_at dksX1_sights_0 2 rfl rfl)
theorem dX1_sights_5 : decode cX1_sights 5 = .ok (.ifCond .eq 15, 3) := dk_153 0 15 (dk_at dksX1_sights_0 5 rfl rfl)
theorem dX1_sights_8 : decode cX1_sights 8 = .ok (.aload_n 0, 1) := dk_42 (dk_at dksX1_sights_0 8 rfl rfl)
theorem dX1_sights_9 : decode cX1_sights 9 = .ok (.getfield 76, 3) := dk_180 0 76 (dk_at dksX1_sights_0 9 rfl rfl)
theorem dX1_sights_12 : decode cX1_sights 12 = .ok (.getfield 263, 3) := dk_180 1 7 (dk_at dksX1_sights_0 12 rfl rfl)
theorem dX1_sights_15 : decode cX1_sights 15 = .ok (.iload_n 1, 1) := dk_27 (dk_at dksX1_sights_0 15 rfl rfl)
theorem dX1_sights_16 : decode cX1_sights 16 = .ok (.iaload, 1) := dk_46 (dk_at dksX1_sights_0 16 rfl rfl)
theorem dX1_sights_17 : decode cX1_sights 17 = .ok (.goto 4, 3) := dk_167 0 4 (dk_at dksX1_sights_0 17 rfl rfl)
theorem dX1_sights_20 : decode cX1_sights 20 = .ok (.iconst (-1), 1) := dk_2 (dk_at dksX1_sights_0 20 rfl rfl)
theorem dX1_sights_21 : decode cX1_sights 21 = .ok (.ireturn, 1) := dk_172 (dk_at dksX1_sights_0 21 rfl rfl)
abbrev cX1_isParlour : ByteArray := prog_1_method_12_code
def yX1_isParlour : MethodName := ⟨RX1, "isParlour", "(I)Z"⟩
def dkwX1_isParlour_0 : List UInt8 := [27, 3, 42, 180, 0, 76, 180, 0, 182, 4, 100, 184, 0, 185, 172]
abbrev dktX1_isParlour_0 : List UInt8 := dkwX1_isParlour_0 ++ []
theorem dksX1_isParlour_0 : cX1_isParlour.data.toList.drop 0 = dktX1_isParlour_0 := by decide +kernel
theorem dX1_isParlour_0 : decode cX1_isParlour 0 = .ok (.iload_n 1, 1) := dk_27 (dk_at dksX1_isParlour_0 0 rfl rfl)
theorem dX1_isParlour_1 : decode cX1_isParlour 1 = .ok (.iconst 0, 1) := dk_3 (dk_at dksX1_isParlour_0 1 rfl rfl)
theorem dX1_isParlour_2 : decode cX1_isParlour 2 = .ok (.aload_n 0, 1) := dk_42 (dk_at dksX1_isParlour_0 2 rfl rfl)
theorem dX1_isParlour_3 : decode cX1_isParlour 3 = .ok (.getfield 76, 3) := dk_180 0 76 (dk_at dksX1_isParlour_0 3 rfl rfl)
theorem dX1_isParlour_6 : decode cX1_isParlour 6 = .ok (.getfield 182, 3) := dk_180 0 182 (dk_at dksX1_isParlour_0 6 rfl rfl)
theorem dX1_isParlour_9 : decode cX1_isParlour 9 = .ok (.iconst 1, 1) := dk_4 (dk_at dksX1_isParlour_0 9 rfl rfl)
theorem dX1_isParlour_10 : decode cX1_isParlour 10 = .ok (.isub, 1) := dk_100 (dk_at dksX1_isParlour_0 10 rfl rfl)
theorem dX1_isParlour_11 : decode cX1_isParlour 11 = .ok (.invokestatic 185, 3) := dk_184 0 185 (dk_at dksX1_isParlour_0 11 rfl rfl)
theorem dX1_isParlour_14 : decode cX1_isParlour 14 = .ok (.ireturn, 1) := dk_172 (dk_at dksX1_isParlour_0 14 rfl rfl)
abbrev cX1_now : ByteArray := prog_1_method_21_code
def yX1_now : MethodName := ⟨RX1, "now", "(I)I"⟩
def dkwX1_now_9 : List UInt8 := [130, 126, 172, 2, 172]
abbrev dktX1_now_9 : List UInt8 := dkwX1_now_9 ++ []
def dkwX1_now_8 : List UInt8 := [182, 1, 12, 172, 28, 172, 29, 172, 21, 4, 172, 21, 5, 172, 42, 180, 0, 76, 182, 1, 15, 21, 6, 2]
abbrev dktX1_now_8 : List UInt8 := dkwX1_now_8 ++ dktX1_now_9
def dkwX1_now_7 : List UInt8 := [42, 180, 0, 83, 180, 1, 10, 172, 42, 180, 0, 83, 180, 0, 198, 172, 42, 180, 0, 83, 42, 180, 0, 76]
abbrev dktX1_now_7 : List UInt8 := dkwX1_now_7 ++ dktX1_now_8
def dkwX1_now_6 : List UInt8 := [170, 0, 0, 0, 0, 97, 0, 0, 0, 0, 0, 0, 0, 7, 0, 0, 0, 46, 0, 0, 0, 54, 0, 0, 0, 62, 0, 0, 0, 74, 0, 0, 0, 76, 0, 0, 0, 78, 0, 0, 0, 81, 0, 0, 0, 84]
abbrev dktX1_now_6 : List UInt8 := dkwX1_now_6 ++ dktX1_now_7
def dkwX1_now_5 : List UInt8 := [54, 6, 132, 7, 1, 167, 255, 150, 27]
abbrev dktX1_now_5 : List UInt8 := dkwX1_now_5 ++ dktX1_now_6
def dkwX1_now_4 : List UInt8 := [3, 182, 0, 226, 96, 54, 5, 21, 6, 42, 180, 0, 83, 42, 180, 0, 76, 21, 7, 182, 0, 223, 128]
abbrev dktX1_now_4 : List UInt8 := dkwX1_now_4 ++ dktX1_now_5
def dkwX1_now_3 : List UInt8 := [62, 21, 4, 42, 180, 0, 83, 21, 7, 4, 182, 0, 226, 96, 54, 4, 21, 5, 42, 180, 0, 83, 21, 7]
abbrev dktX1_now_3 : List UInt8 := dkwX1_now_3 ++ dktX1_now_4
def dkwX1_now_2 : List UInt8 := [21, 7, 120, 128, 61, 42, 180, 0, 83, 180, 0, 221, 21, 7, 46, 158, 0, 10, 29, 4, 21, 7, 120, 128]
abbrev dktX1_now_2 : List UInt8 := dkwX1_now_2 ++ dktX1_now_3
def dkwX1_now_1 : List UInt8 := [180, 0, 189, 162, 0, 100, 42, 180, 0, 83, 42, 180, 0, 76, 21, 7, 182, 0, 223, 153, 0, 10, 28, 4]
abbrev dktX1_now_1 : List UInt8 := dkwX1_now_1 ++ dktX1_now_2
def dkwX1_now_0 : List UInt8 := [3, 61, 3, 62, 3, 54, 4, 3, 54, 5, 3, 54, 6, 3, 54, 7, 21, 7, 42, 180, 0, 76]
abbrev dktX1_now_0 : List UInt8 := dkwX1_now_0 ++ dktX1_now_1
theorem dksX1_now_0 : cX1_now.data.toList.drop 0 = dktX1_now_0 := by decide +kernel
theorem dksX1_now_1 : cX1_now.data.toList.drop 22 = dktX1_now_1 := dk_seg dksX1_now_0 22 rfl rfl
theorem dksX1_now_2 : cX1_now.data.toList.drop 46 = dktX1_now_2 := dk_seg dksX1_now_1 24 rfl rfl
theorem dksX1_now_3 : cX1_now.data.toList.drop 70 = dktX1_now_3 := dk_seg dksX1_now_2 24 rfl rfl
theorem dksX1_now_4 : cX1_now.data.toList.drop 94 = dktX1_now_4 := dk_seg dksX1_now_3 24 rfl rfl
theorem dksX1_now_5 : cX1_now.data.toList.drop 117 = dktX1_now_5 := dk_seg dksX1_now_4 23 rfl rfl
theorem dksX1_now_6 : cX1_now.data.toList.drop 126 = dktX1_now_6 := dk_seg dksX1_now_5 9 rfl rfl
theorem dksX1_now_7 : cX1_now.data.toList.drop 172 = dktX1_now_7 := dk_seg dksX1_now_6 46 rfl rfl
theorem dksX1_now_8 : cX1_now.data.toList.drop 196 = dktX1_now_8 := dk_seg dksX1_now_7 24 rfl rfl
theorem dksX1_now_9 : cX1_now.data.toList.drop 220 = dktX1_now_9 := dk_seg dksX1_now_8 24 rfl rfl
theorem dX1_now_0 : decode cX1_now 0 = .ok (.iconst 0, 1) := dk_3 (dk_at dksX1_now_0 0 rfl rfl)
theorem dX1_now_1 : decode cX1_now 1 = .ok (.istore_n 2, 1) := dk_61 (dk_at dksX1_now_0 1 rfl rfl)
theorem dX1_now_2 : decode cX1_now 2 = .ok (.iconst 0, 1) := dk_3 (dk_at dksX1_now_0 2 rfl rfl)
theorem dX1_now_3 : decode cX1_now 3 = .ok (.istore_n 3, 1) := dk_62 (dk_at dksX1_now_0 3 rfl rfl)
theorem dX1_now_4 : decode cX1_now 4 = .ok (.iconst 0, 1) := dk_3 (dk_at dksX1_now_0 4 rfl rfl)
theorem dX1_now_5 : decode cX1_now 5 = .ok (.istore 4, 2) := dk_54 4 (dk_at dksX1_now_0 5 rfl rfl)
theorem dX1_now_7 : decode cX1_now 7 = .ok (.iconst 0, 1) := dk_3 (dk_at dksX1_now_0 7 rfl rfl)
theorem dX1_now_8 : decode cX1_now 8 = .ok (.istore 5, 2) := dk_54 5 (dk_at dksX1_now_0 8 rfl rfl)
theorem dX1_now_10 : decode cX1_now 10 = .ok (.iconst 0, 1) := dk_3 (dk_at dksX1_now_0 10 rfl rfl)
theorem dX1_now_11 : decode cX1_now 11 = .ok (.istore 6, 2) := dk_54 6 (dk_at dksX1_now_0 11 rfl rfl)
theorem dX1_now_13 : decode cX1_now 13 = .ok (.iconst 0, 1) := dk_3 (dk_at dksX1_now_0 13 rfl rfl)
theorem dX1_now_14 : decode cX1_now 14 = .ok (.istore 7, 2) := dk_54 7 (dk_at dksX1_now_0 14 rfl rfl)
theorem dX1_now_16 : decode cX1_now 16 = .ok (.iload 7, 2) := dk_21 7 (dk_at dksX1_now_0 16 rfl rfl)
theorem dX1_now_18 : decode cX1_now 18 = .ok (.aload_n 0, 1) := dk_42 (dk_at dksX1_now_0 18 rfl rfl)
theorem dX1_now_19 : decode cX1_now 19 = .ok (.getfield 76, 3) := dk_180 0 76 (dk_at dksX1_now_0 19 rfl rfl)
theorem dX1_now_22 : decode cX1_now 22 = .ok (.getfield 189, 3) := dk_180 0 189 (dk_at dksX1_now_1 0 rfl rfl)
theorem dX1_now_25 : decode cX1_now 25 = .ok (.if_icmp .ge 100, 3) := dk_162 0 100 (dk_at dksX1_now_1 3 rfl rfl)
theorem dX1_now_28 : decode cX1_now 28 = .ok (.aload_n 0, 1) := dk_42 (dk_at dksX1_now_1 6 rfl rfl)
theorem dX1_now_29 : decode cX1_now 29 = .ok (.getfield 83, 3) := dk_180 0 83 (dk_at dksX1_now_1 7 rfl rfl)
theorem dX1_now_32 : decode cX1_now 32 = .ok (.aload_n 0, 1) := dk_42 (dk_at dksX1_now_1 10 rfl rfl)
theorem dX1_now_33 : decode cX1_now 33 = .ok (.getfield 76, 3) := dk_180 0 76 (dk_at dksX1_now_1 11 rfl rfl)
theorem dX1_now_36 : decode cX1_now 36 = .ok (.iload 7, 2) := dk_21 7 (dk_at dksX1_now_1 14 rfl rfl)
theorem dX1_now_38 : decode cX1_now 38 = .ok (.invokevirtual 223, 3) := dk_182 0 223 (dk_at dksX1_now_1 16 rfl rfl)
theorem dX1_now_41 : decode cX1_now 41 = .ok (.ifCond .eq 10, 3) := dk_153 0 10 (dk_at dksX1_now_1 19 rfl rfl)
theorem dX1_now_44 : decode cX1_now 44 = .ok (.iload_n 2, 1) := dk_28 (dk_at dksX1_now_1 22 rfl rfl)
theorem dX1_now_45 : decode cX1_now 45 = .ok (.iconst 1, 1) := dk_4 (dk_at dksX1_now_1 23 rfl rfl)
theorem dX1_now_46 : decode cX1_now 46 = .ok (.iload 7, 2) := dk_21 7 (dk_at dksX1_now_2 0 rfl rfl)
theorem dX1_now_48 : decode cX1_now 48 = .ok (.ishl, 1) := dk_120 (dk_at dksX1_now_2 2 rfl rfl)
theorem dX1_now_49 : decode cX1_now 49 = .ok (.ior, 1) := dk_128 (dk_at dksX1_now_2 3 rfl rfl)
theorem dX1_now_50 : decode cX1_now 50 = .ok (.istore_n 2, 1) := dk_61 (dk_at dksX1_now_2 4 rfl rfl)
theorem dX1_now_51 : decode cX1_now 51 = .ok (.aload_n 0, 1) := dk_42 (dk_at dksX1_now_2 5 rfl rfl)
theorem dX1_now_52 : decode cX1_now 52 = .ok (.getfield 83, 3) := dk_180 0 83 (dk_at dksX1_now_2 6 rfl rfl)
theorem dX1_now_55 : decode cX1_now 55 = .ok (.getfield 221, 3) := dk_180 0 221 (dk_at dksX1_now_2 9 rfl rfl)
theorem dX1_now_58 : decode cX1_now 58 = .ok (.iload 7, 2) := dk_21 7 (dk_at dksX1_now_2 12 rfl rfl)
theorem dX1_now_60 : decode cX1_now 60 = .ok (.iaload, 1) := dk_46 (dk_at dksX1_now_2 14 rfl rfl)
theorem dX1_now_61 : decode cX1_now 61 = .ok (.ifCond .le 10, 3) := dk_158 0 10 (dk_at dksX1_now_2 15 rfl rfl)
theorem dX1_now_64 : decode cX1_now 64 = .ok (.iload_n 3, 1) := dk_29 (dk_at dksX1_now_2 18 rfl rfl)
theorem dX1_now_65 : decode cX1_now 65 = .ok (.iconst 1, 1) := dk_4 (dk_at dksX1_now_2 19 rfl rfl)
theorem dX1_now_66 : decode cX1_now 66 = .ok (.iload 7, 2) := dk_21 7 (dk_at dksX1_now_2 20 rfl rfl)
theorem dX1_now_68 : decode cX1_now 68 = .ok (.ishl, 1) := dk_120 (dk_at dksX1_now_2 22 rfl rfl)
theorem dX1_now_69 : decode cX1_now 69 = .ok (.ior, 1) := dk_128 (dk_at dksX1_now_2 23 rfl rfl)
theorem dX1_now_70 : decode cX1_now 70 = .ok (.istore_n 3, 1) := dk_62 (dk_at dksX1_now_3 0 rfl rfl)
theorem dX1_now_71 : decode cX1_now 71 = .ok (.iload 4, 2) := dk_21 4 (dk_at dksX1_now_3 1 rfl rfl)
theorem dX1_now_73 : decode cX1_now 73 = .ok (.aload_n 0, 1) := dk_42 (dk_at dksX1_now_3 3 rfl rfl)
theorem dX1_now_74 : decode cX1_now 74 = .ok (.getfield 83, 3) := dk_180 0 83 (dk_at dksX1_now_3 4 rfl rfl)
theorem dX1_now_77 : decode cX1_now 77 = .ok (.iload 7, 2) := dk_21 7 (dk_at dksX1_now_3 7 rfl rfl)
theorem dX1_now_79 : decode cX1_now 79 = .ok (.iconst 1, 1) := dk_4 (dk_at dksX1_now_3 9 rfl rfl)
theorem dX1_now_80 : decode cX1_now 80 = .ok (.invokevirtual 226, 3) := dk_182 0 226 (dk_at dksX1_now_3 10 rfl rfl)
theorem dX1_now_83 : decode cX1_now 83 = .ok (.iadd, 1) := dk_96 (dk_at dksX1_now_3 13 rfl rfl)
theorem dX1_now_84 : decode cX1_now 84 = .ok (.istore 4, 2) := dk_54 4 (dk_at dksX1_now_3 14 rfl rfl)
theorem dX1_now_86 : decode cX1_now 86 = .ok (.iload 5, 2) := dk_21 5 (dk_at dksX1_now_3 16 rfl rfl)
theorem dX1_now_88 : decode cX1_now 88 = .ok (.aload_n 0, 1) := dk_42 (dk_at dksX1_now_3 18 rfl rfl)
theorem dX1_now_89 : decode cX1_now 89 = .ok (.getfield 83, 3) := dk_180 0 83 (dk_at dksX1_now_3 19 rfl rfl)
theorem dX1_now_92 : decode cX1_now 92 = .ok (.iload 7, 2) := dk_21 7 (dk_at dksX1_now_3 22 rfl rfl)
theorem dX1_now_94 : decode cX1_now 94 = .ok (.iconst 0, 1) := dk_3 (dk_at dksX1_now_4 0 rfl rfl)
theorem dX1_now_95 : decode cX1_now 95 = .ok (.invokevirtual 226, 3) := dk_182 0 226 (dk_at dksX1_now_4 1 rfl rfl)
theorem dX1_now_98 : decode cX1_now 98 = .ok (.iadd, 1) := dk_96 (dk_at dksX1_now_4 4 rfl rfl)
theorem dX1_now_99 : decode cX1_now 99 = .ok (.istore 5, 2) := dk_54 5 (dk_at dksX1_now_4 5 rfl rfl)
theorem dX1_now_101 : decode cX1_now 101 = .ok (.iload 6, 2) := dk_21 6 (dk_at dksX1_now_4 7 rfl rfl)
theorem dX1_now_103 : decode cX1_now 103 = .ok (.aload_n 0, 1) := dk_42 (dk_at dksX1_now_4 9 rfl rfl)
theorem dX1_now_104 : decode cX1_now 104 = .ok (.getfield 83, 3) := dk_180 0 83 (dk_at dksX1_now_4 10 rfl rfl)
theorem dX1_now_107 : decode cX1_now 107 = .ok (.aload_n 0, 1) := dk_42 (dk_at dksX1_now_4 13 rfl rfl)
theorem dX1_now_108 : decode cX1_now 108 = .ok (.getfield 76, 3) := dk_180 0 76 (dk_at dksX1_now_4 14 rfl rfl)
theorem dX1_now_111 : decode cX1_now 111 = .ok (.iload 7, 2) := dk_21 7 (dk_at dksX1_now_4 17 rfl rfl)
theorem dX1_now_113 : decode cX1_now 113 = .ok (.invokevirtual 223, 3) := dk_182 0 223 (dk_at dksX1_now_4 19 rfl rfl)
theorem dX1_now_116 : decode cX1_now 116 = .ok (.ior, 1) := dk_128 (dk_at dksX1_now_4 22 rfl rfl)
theorem dX1_now_117 : decode cX1_now 117 = .ok (.istore 6, 2) := dk_54 6 (dk_at dksX1_now_5 0 rfl rfl)
theorem dX1_now_119 : decode cX1_now 119 = .ok (.iinc 7 1, 3) := dk_132 7 1 (dk_at dksX1_now_5 2 rfl rfl)
theorem dX1_now_122 : decode cX1_now 122 = .ok (.goto (-106), 3) := dk_167 255 150 (dk_at dksX1_now_5 5 rfl rfl)
theorem dX1_now_125 : decode cX1_now 125 = .ok (.iload_n 1, 1) := dk_27 (dk_at dksX1_now_5 8 rfl rfl)
theorem dX1_now_126 : decode cX1_now 126 = .ok (.tableswitch 97 0 7 #[46, 54, 62, 74, 76, 78, 81, 84], 46) := by decide +kernel
theorem dX1_now_172 : decode cX1_now 172 = .ok (.aload_n 0, 1) := dk_42 (dk_at dksX1_now_7 0 rfl rfl)
theorem dX1_now_173 : decode cX1_now 173 = .ok (.getfield 83, 3) := dk_180 0 83 (dk_at dksX1_now_7 1 rfl rfl)
theorem dX1_now_176 : decode cX1_now 176 = .ok (.getfield 266, 3) := dk_180 1 10 (dk_at dksX1_now_7 4 rfl rfl)
theorem dX1_now_179 : decode cX1_now 179 = .ok (.ireturn, 1) := dk_172 (dk_at dksX1_now_7 7 rfl rfl)
theorem dX1_now_180 : decode cX1_now 180 = .ok (.aload_n 0, 1) := dk_42 (dk_at dksX1_now_7 8 rfl rfl)
theorem dX1_now_181 : decode cX1_now 181 = .ok (.getfield 83, 3) := dk_180 0 83 (dk_at dksX1_now_7 9 rfl rfl)
theorem dX1_now_184 : decode cX1_now 184 = .ok (.getfield 198, 3) := dk_180 0 198 (dk_at dksX1_now_7 12 rfl rfl)
theorem dX1_now_187 : decode cX1_now 187 = .ok (.ireturn, 1) := dk_172 (dk_at dksX1_now_7 15 rfl rfl)
theorem dX1_now_188 : decode cX1_now 188 = .ok (.aload_n 0, 1) := dk_42 (dk_at dksX1_now_7 16 rfl rfl)
theorem dX1_now_189 : decode cX1_now 189 = .ok (.getfield 83, 3) := dk_180 0 83 (dk_at dksX1_now_7 17 rfl rfl)
theorem dX1_now_192 : decode cX1_now 192 = .ok (.aload_n 0, 1) := dk_42 (dk_at dksX1_now_7 20 rfl rfl)
theorem dX1_now_193 : decode cX1_now 193 = .ok (.getfield 76, 3) := dk_180 0 76 (dk_at dksX1_now_7 21 rfl rfl)
theorem dX1_now_196 : decode cX1_now 196 = .ok (.invokevirtual 268, 3) := dk_182 1 12 (dk_at dksX1_now_8 0 rfl rfl)
theorem dX1_now_199 : decode cX1_now 199 = .ok (.ireturn, 1) := dk_172 (dk_at dksX1_now_8 3 rfl rfl)
theorem dX1_now_200 : decode cX1_now 200 = .ok (.iload_n 2, 1) := dk_28 (dk_at dksX1_now_8 4 rfl rfl)
theorem dX1_now_201 : decode cX1_now 201 = .ok (.ireturn, 1) := dk_172 (dk_at dksX1_now_8 5 rfl rfl)
theorem dX1_now_202 : decode cX1_now 202 = .ok (.iload_n 3, 1) := dk_29 (dk_at dksX1_now_8 6 rfl rfl)
theorem dX1_now_203 : decode cX1_now 203 = .ok (.ireturn, 1) := dk_172 (dk_at dksX1_now_8 7 rfl rfl)
theorem dX1_now_204 : decode cX1_now 204 = .ok (.iload 4, 2) := dk_21 4 (dk_at dksX1_now_8 8 rfl rfl)
theorem dX1_now_206 : decode cX1_now 206 = .ok (.ireturn, 1) := dk_172 (dk_at dksX1_now_8 10 rfl rfl)
theorem dX1_now_207 : decode cX1_now 207 = .ok (.iload 5, 2) := dk_21 5 (dk_at dksX1_now_8 11 rfl rfl)
theorem dX1_now_209 : decode cX1_now 209 = .ok (.ireturn, 1) := dk_172 (dk_at dksX1_now_8 13 rfl rfl)
theorem dX1_now_210 : decode cX1_now 210 = .ok (.aload_n 0, 1) := dk_42 (dk_at dksX1_now_8 14 rfl rfl)
theorem dX1_now_211 : decode cX1_now 211 = .ok (.getfield 76, 3) := dk_180 0 76 (dk_at dksX1_now_8 15 rfl rfl)
theorem dX1_now_214 : decode cX1_now 214 = .ok (.invokevirtual 271, 3) := dk_182 1 15 (dk_at dksX1_now_8 18 rfl rfl)
theorem dX1_now_217 : decode cX1_now 217 = .ok (.iload 6, 2) := dk_21 6 (dk_at dksX1_now_8 21 rfl rfl)
theorem dX1_now_219 : decode cX1_now 219 = .ok (.iconst (-1), 1) := dk_2 (dk_at dksX1_now_8 23 rfl rfl)
theorem dX1_now_220 : decode cX1_now 220 = .ok (.ixor, 1) := dk_130 (dk_at dksX1_now_9 0 rfl rfl)
theorem dX1_now_221 : decode cX1_now 221 = .ok (.iand, 1) := dk_126 (dk_at dksX1_now_9 1 rfl rfl)
theorem dX1_now_222 : decode cX1_now 222 = .ok (.ireturn, 1) := dk_172 (dk_at dksX1_now_9 2 rfl rfl)
theorem dX1_now_223 : decode cX1_now 223 = .ok (.iconst (-1), 1) := dk_2 (dk_at dksX1_now_9 3 rfl rfl)
theorem dX1_now_224 : decode cX1_now 224 = .ok (.ireturn, 1) := dk_172 (dk_at dksX1_now_9 4 rfl rfl)
abbrev cX1_undo : ByteArray := prog_1_method_23_code
def yX1_undo : MethodName := ⟨RX1, "undo", "()I"⟩
def dkwX1_undo_1 : List UInt8 := [180, 0, 110, 42, 180, 0, 169, 50, 182, 1, 25, 42, 180, 0, 169, 172]
abbrev dktX1_undo_1 : List UInt8 := dkwX1_undo_1 ++ []
def dkwX1_undo_0 : List UInt8 := [42, 180, 0, 169, 154, 0, 5, 2, 172, 42, 89, 180, 0, 169, 4, 100, 181, 0, 169, 42, 180, 0, 83, 42]
abbrev dktX1_undo_0 : List UInt8 := dkwX1_undo_0 ++ dktX1_undo_1
theorem dksX1_undo_0 : cX1_undo.data.toList.drop 0 = dktX1_undo_0 := by decide +kernel
theorem dksX1_undo_1 : cX1_undo.data.toList.drop 24 = dktX1_undo_1 := dk_seg dksX1_undo_0 24 rfl rfl
theorem dX1_undo_0 : decode cX1_undo 0 = .ok (.aload_n 0, 1) := dk_42 (dk_at dksX1_undo_0 0 rfl rfl)
theorem dX1_undo_1 : decode cX1_undo 1 = .ok (.getfield 169, 3) := dk_180 0 169 (dk_at dksX1_undo_0 1 rfl rfl)
theorem dX1_undo_4 : decode cX1_undo 4 = .ok (.ifCond .ne 5, 3) := dk_154 0 5 (dk_at dksX1_undo_0 4 rfl rfl)
theorem dX1_undo_7 : decode cX1_undo 7 = .ok (.iconst (-1), 1) := dk_2 (dk_at dksX1_undo_0 7 rfl rfl)
theorem dX1_undo_8 : decode cX1_undo 8 = .ok (.ireturn, 1) := dk_172 (dk_at dksX1_undo_0 8 rfl rfl)
theorem dX1_undo_9 : decode cX1_undo 9 = .ok (.aload_n 0, 1) := dk_42 (dk_at dksX1_undo_0 9 rfl rfl)
theorem dX1_undo_10 : decode cX1_undo 10 = .ok (.dup, 1) := dk_89 (dk_at dksX1_undo_0 10 rfl rfl)
theorem dX1_undo_11 : decode cX1_undo 11 = .ok (.getfield 169, 3) := dk_180 0 169 (dk_at dksX1_undo_0 11 rfl rfl)
theorem dX1_undo_14 : decode cX1_undo 14 = .ok (.iconst 1, 1) := dk_4 (dk_at dksX1_undo_0 14 rfl rfl)
theorem dX1_undo_15 : decode cX1_undo 15 = .ok (.isub, 1) := dk_100 (dk_at dksX1_undo_0 15 rfl rfl)
theorem dX1_undo_16 : decode cX1_undo 16 = .ok (.putfield 169, 3) := dk_181 0 169 (dk_at dksX1_undo_0 16 rfl rfl)
theorem dX1_undo_19 : decode cX1_undo 19 = .ok (.aload_n 0, 1) := dk_42 (dk_at dksX1_undo_0 19 rfl rfl)
theorem dX1_undo_20 : decode cX1_undo 20 = .ok (.getfield 83, 3) := dk_180 0 83 (dk_at dksX1_undo_0 20 rfl rfl)
theorem dX1_undo_23 : decode cX1_undo 23 = .ok (.aload_n 0, 1) := dk_42 (dk_at dksX1_undo_0 23 rfl rfl)
theorem dX1_undo_24 : decode cX1_undo 24 = .ok (.getfield 110, 3) := dk_180 0 110 (dk_at dksX1_undo_1 0 rfl rfl)
theorem dX1_undo_27 : decode cX1_undo 27 = .ok (.aload_n 0, 1) := dk_42 (dk_at dksX1_undo_1 3 rfl rfl)
theorem dX1_undo_28 : decode cX1_undo 28 = .ok (.getfield 169, 3) := dk_180 0 169 (dk_at dksX1_undo_1 4 rfl rfl)
theorem dX1_undo_31 : decode cX1_undo 31 = .ok (.aaload, 1) := dk_50 (dk_at dksX1_undo_1 7 rfl rfl)
theorem dX1_undo_32 : decode cX1_undo 32 = .ok (.invokevirtual 281, 3) := dk_182 1 25 (dk_at dksX1_undo_1 8 rfl rfl)
theorem dX1_undo_35 : decode cX1_undo 35 = .ok (.aload_n 0, 1) := dk_42 (dk_at dksX1_undo_1 11 rfl rfl)
theorem dX1_undo_36 : decode cX1_undo 36 = .ok (.getfield 169, 3) := dk_180 0 169 (dk_at dksX1_undo_1 12 rfl rfl)
theorem dX1_undo_39 : decode cX1_undo 39 = .ok (.ireturn, 1) := dk_172 (dk_at dksX1_undo_1 15 rfl rfl)
abbrev cX1_does : ByteArray := prog_1_method_24_code
def yX1_does : MethodName := ⟨RX1, "does", "(III)I"⟩
def dkwX1_does_2 : List UInt8 := [180, 0, 76, 27, 28, 29, 182, 1, 41, 3, 172]
abbrev dktX1_does_2 : List UInt8 := dkwX1_does_2 ++ []
def dkwX1_does_1 : List UInt8 := [2, 172, 42, 180, 0, 83, 182, 1, 35, 153, 0, 5, 4, 172, 42, 182, 1, 38, 42, 180, 0, 83, 42]
abbrev dktX1_does_1 : List UInt8 := dkwX1_does_1 ++ dktX1_does_2
def dkwX1_does_0 : List UInt8 := [42, 27, 182, 1, 29, 153, 0, 19, 42, 28, 182, 1, 32, 153, 0, 11, 42, 29, 182, 1, 4, 154, 0, 5]
abbrev dktX1_does_0 : List UInt8 := dkwX1_does_0 ++ dktX1_does_1
theorem dksX1_does_0 : cX1_does.data.toList.drop 0 = dktX1_does_0 := by decide +kernel
theorem dksX1_does_1 : cX1_does.data.toList.drop 24 = dktX1_does_1 := dk_seg dksX1_does_0 24 rfl rfl
theorem dksX1_does_2 : cX1_does.data.toList.drop 47 = dktX1_does_2 := dk_seg dksX1_does_1 23 rfl rfl
theorem dX1_does_0 : decode cX1_does 0 = .ok (.aload_n 0, 1) := dk_42 (dk_at dksX1_does_0 0 rfl rfl)
theorem dX1_does_1 : decode cX1_does 1 = .ok (.iload_n 1, 1) := dk_27 (dk_at dksX1_does_0 1 rfl rfl)
theorem dX1_does_2 : decode cX1_does 2 = .ok (.invokevirtual 285, 3) := dk_182 1 29 (dk_at dksX1_does_0 2 rfl rfl)
theorem dX1_does_5 : decode cX1_does 5 = .ok (.ifCond .eq 19, 3) := dk_153 0 19 (dk_at dksX1_does_0 5 rfl rfl)
theorem dX1_does_8 : decode cX1_does 8 = .ok (.aload_n 0, 1) := dk_42 (dk_at dksX1_does_0 8 rfl rfl)
theorem dX1_does_9 : decode cX1_does 9 = .ok (.iload_n 2, 1) := dk_28 (dk_at dksX1_does_0 9 rfl rfl)
theorem dX1_does_10 : decode cX1_does 10 = .ok (.invokevirtual 288, 3) := dk_182 1 32 (dk_at dksX1_does_0 10 rfl rfl)
theorem dX1_does_13 : decode cX1_does 13 = .ok (.ifCond .eq 11, 3) := dk_153 0 11 (dk_at dksX1_does_0 13 rfl rfl)
theorem dX1_does_16 : decode cX1_does 16 = .ok (.aload_n 0, 1) := dk_42 (dk_at dksX1_does_0 16 rfl rfl)
theorem dX1_does_17 : decode cX1_does 17 = .ok (.iload_n 3, 1) := dk_29 (dk_at dksX1_does_0 17 rfl rfl)
theorem dX1_does_18 : decode cX1_does 18 = .ok (.invokevirtual 260, 3) := dk_182 1 4 (dk_at dksX1_does_0 18 rfl rfl)
theorem dX1_does_21 : decode cX1_does 21 = .ok (.ifCond .ne 5, 3) := dk_154 0 5 (dk_at dksX1_does_0 21 rfl rfl)
theorem dX1_does_24 : decode cX1_does 24 = .ok (.iconst (-1), 1) := dk_2 (dk_at dksX1_does_1 0 rfl rfl)
theorem dX1_does_25 : decode cX1_does 25 = .ok (.ireturn, 1) := dk_172 (dk_at dksX1_does_1 1 rfl rfl)
theorem dX1_does_26 : decode cX1_does 26 = .ok (.aload_n 0, 1) := dk_42 (dk_at dksX1_does_1 2 rfl rfl)
theorem dX1_does_27 : decode cX1_does 27 = .ok (.getfield 83, 3) := dk_180 0 83 (dk_at dksX1_does_1 3 rfl rfl)
theorem dX1_does_30 : decode cX1_does 30 = .ok (.invokevirtual 291, 3) := dk_182 1 35 (dk_at dksX1_does_1 6 rfl rfl)
theorem dX1_does_33 : decode cX1_does 33 = .ok (.ifCond .eq 5, 3) := dk_153 0 5 (dk_at dksX1_does_1 9 rfl rfl)
theorem dX1_does_36 : decode cX1_does 36 = .ok (.iconst 1, 1) := dk_4 (dk_at dksX1_does_1 12 rfl rfl)
theorem dX1_does_37 : decode cX1_does 37 = .ok (.ireturn, 1) := dk_172 (dk_at dksX1_does_1 13 rfl rfl)
theorem dX1_does_38 : decode cX1_does 38 = .ok (.aload_n 0, 1) := dk_42 (dk_at dksX1_does_1 14 rfl rfl)
theorem dX1_does_39 : decode cX1_does 39 = .ok (.invokevirtual 294, 3) := dk_182 1 38 (dk_at dksX1_does_1 15 rfl rfl)
theorem dX1_does_42 : decode cX1_does 42 = .ok (.aload_n 0, 1) := dk_42 (dk_at dksX1_does_1 18 rfl rfl)
theorem dX1_does_43 : decode cX1_does 43 = .ok (.getfield 83, 3) := dk_180 0 83 (dk_at dksX1_does_1 19 rfl rfl)
theorem dX1_does_46 : decode cX1_does 46 = .ok (.aload_n 0, 1) := dk_42 (dk_at dksX1_does_1 22 rfl rfl)
theorem dX1_does_47 : decode cX1_does 47 = .ok (.getfield 76, 3) := dk_180 0 76 (dk_at dksX1_does_2 0 rfl rfl)
theorem dX1_does_50 : decode cX1_does 50 = .ok (.iload_n 1, 1) := dk_27 (dk_at dksX1_does_2 3 rfl rfl)
theorem dX1_does_51 : decode cX1_does 51 = .ok (.iload_n 2, 1) := dk_28 (dk_at dksX1_does_2 4 rfl rfl)
theorem dX1_does_52 : decode cX1_does 52 = .ok (.iload_n 3, 1) := dk_29 (dk_at dksX1_does_2 5 rfl rfl)
theorem dX1_does_53 : decode cX1_does 53 = .ok (.invokevirtual 297, 3) := dk_182 1 41 (dk_at dksX1_does_2 6 rfl rfl)
theorem dX1_does_56 : decode cX1_does 56 = .ok (.iconst 0, 1) := dk_3 (dk_at dksX1_does_2 9 rfl rfl)
theorem dX1_does_57 : decode cX1_does 57 = .ok (.ireturn, 1) := dk_172 (dk_at dksX1_does_2 10 rfl rfl)
abbrev cX1_isPerson : ByteArray := prog_1_method_14_code
def yX1_isPerson : MethodName := ⟨RX1, "isPerson", "(I)Z"⟩
def dkwX1_isPerson_0 : List UInt8 := [27, 3, 42, 180, 0, 76, 180, 0, 192, 4, 100, 184, 0, 185, 172]
abbrev dktX1_isPerson_0 : List UInt8 := dkwX1_isPerson_0 ++ []
theorem dksX1_isPerson_0 : cX1_isPerson.data.toList.drop 0 = dktX1_isPerson_0 := by decide +kernel
theorem dX1_isPerson_0 : decode cX1_isPerson 0 = .ok (.iload_n 1, 1) := dk_27 (dk_at dksX1_isPerson_0 0 rfl rfl)
theorem dX1_isPerson_1 : decode cX1_isPerson 1 = .ok (.iconst 0, 1) := dk_3 (dk_at dksX1_isPerson_0 1 rfl rfl)
theorem dX1_isPerson_2 : decode cX1_isPerson 2 = .ok (.aload_n 0, 1) := dk_42 (dk_at dksX1_isPerson_0 2 rfl rfl)
theorem dX1_isPerson_3 : decode cX1_isPerson 3 = .ok (.getfield 76, 3) := dk_180 0 76 (dk_at dksX1_isPerson_0 3 rfl rfl)
theorem dX1_isPerson_6 : decode cX1_isPerson 6 = .ok (.getfield 192, 3) := dk_180 0 192 (dk_at dksX1_isPerson_0 6 rfl rfl)
theorem dX1_isPerson_9 : decode cX1_isPerson 9 = .ok (.iconst 1, 1) := dk_4 (dk_at dksX1_isPerson_0 9 rfl rfl)
theorem dX1_isPerson_10 : decode cX1_isPerson 10 = .ok (.isub, 1) := dk_100 (dk_at dksX1_isPerson_0 10 rfl rfl)
theorem dX1_isPerson_11 : decode cX1_isPerson 11 = .ok (.invokestatic 185, 3) := dk_184 0 185 (dk_at dksX1_isPerson_0 11 rfl rfl)
theorem dX1_isPerson_14 : decode cX1_isPerson 14 = .ok (.ireturn, 1) := dk_172 (dk_at dksX1_isPerson_0 14 rfl rfl)
abbrev cX1_isDeed : ByteArray := prog_1_method_15_code
def yX1_isDeed : MethodName := ⟨RX1, "isDeed", "(I)Z"⟩
def dkwX1_isDeed_0 : List UInt8 := [27, 3, 42, 180, 0, 76, 180, 0, 195, 4, 100, 184, 0, 185, 172]
abbrev dktX1_isDeed_0 : List UInt8 := dkwX1_isDeed_0 ++ []
theorem dksX1_isDeed_0 : cX1_isDeed.data.toList.drop 0 = dktX1_isDeed_0 := by decide +kernel
theorem dX1_isDeed_0 : decode cX1_isDeed 0 = .ok (.iload_n 1, 1) := dk_27 (dk_at dksX1_isDeed_0 0 rfl rfl)
theorem dX1_isDeed_1 : decode cX1_isDeed 1 = .ok (.iconst 0, 1) := dk_3 (dk_at dksX1_isDeed_0 1 rfl rfl)
theorem dX1_isDeed_2 : decode cX1_isDeed 2 = .ok (.aload_n 0, 1) := dk_42 (dk_at dksX1_isDeed_0 2 rfl rfl)
theorem dX1_isDeed_3 : decode cX1_isDeed 3 = .ok (.getfield 76, 3) := dk_180 0 76 (dk_at dksX1_isDeed_0 3 rfl rfl)
theorem dX1_isDeed_6 : decode cX1_isDeed 6 = .ok (.getfield 195, 3) := dk_180 0 195 (dk_at dksX1_isDeed_0 6 rfl rfl)
theorem dX1_isDeed_9 : decode cX1_isDeed 9 = .ok (.iconst 1, 1) := dk_4 (dk_at dksX1_isDeed_0 9 rfl rfl)
theorem dX1_isDeed_10 : decode cX1_isDeed 10 = .ok (.isub, 1) := dk_100 (dk_at dksX1_isDeed_0 10 rfl rfl)
theorem dX1_isDeed_11 : decode cX1_isDeed 11 = .ok (.invokestatic 185, 3) := dk_184 0 185 (dk_at dksX1_isDeed_0 11 rfl rfl)
theorem dX1_isDeed_14 : decode cX1_isDeed 14 = .ok (.ireturn, 1) := dk_172 (dk_at dksX1_isDeed_0 14 rfl rfl)
abbrev cX1_keep : ByteArray := prog_1_method_22_code
def yX1_keep : MethodName := ⟨RX1, "keep", "()V"⟩
def dkwX1_keep_4 : List UInt8 := [180, 0, 110, 42, 180, 0, 169, 43, 83, 42, 89, 180, 0, 169, 4, 96, 181, 0, 169, 177]
abbrev dktX1_keep_4 : List UInt8 := dkwX1_keep_4 ++ []
def dkwX1_keep_3 : List UInt8 := [16, 7, 184, 1, 19, 42, 89, 180, 0, 169, 4, 100, 181, 0, 169, 43, 42, 180, 0, 83, 182, 1, 25, 42]
abbrev dktX1_keep_3 : List UInt8 := dkwX1_keep_3 ++ dktX1_keep_4
def dkwX1_keep_2 : List UInt8 := [180, 0, 169, 50, 76, 42, 180, 0, 169, 16, 8, 160, 0, 28, 42, 180, 0, 110, 4, 42, 180, 0, 110, 3]
abbrev dktX1_keep_2 : List UInt8 := dkwX1_keep_2 ++ dktX1_keep_3
def dkwX1_keep_1 : List UInt8 := [180, 0, 169, 50, 199, 0, 13, 187, 0, 80, 89, 183, 0, 82, 167, 0, 12, 42, 180, 0, 110, 42]
abbrev dktX1_keep_1 : List UInt8 := dkwX1_keep_1 ++ dktX1_keep_2
def dkwX1_keep_0 : List UInt8 := [42, 180, 0, 169, 16, 8, 160, 0, 12, 42, 180, 0, 110, 3, 50, 167, 0, 34, 42, 180, 0, 110, 42]
abbrev dktX1_keep_0 : List UInt8 := dkwX1_keep_0 ++ dktX1_keep_1
theorem dksX1_keep_0 : cX1_keep.data.toList.drop 0 = dktX1_keep_0 := by decide +kernel
theorem dksX1_keep_1 : cX1_keep.data.toList.drop 23 = dktX1_keep_1 := dk_seg dksX1_keep_0 23 rfl rfl
theorem dksX1_keep_2 : cX1_keep.data.toList.drop 45 = dktX1_keep_2 := dk_seg dksX1_keep_1 22 rfl rfl
theorem dksX1_keep_3 : cX1_keep.data.toList.drop 69 = dktX1_keep_3 := dk_seg dksX1_keep_2 24 rfl rfl
theorem dksX1_keep_4 : cX1_keep.data.toList.drop 93 = dktX1_keep_4 := dk_seg dksX1_keep_3 24 rfl rfl
theorem dX1_keep_0 : decode cX1_keep 0 = .ok (.aload_n 0, 1) := dk_42 (dk_at dksX1_keep_0 0 rfl rfl)
theorem dX1_keep_1 : decode cX1_keep 1 = .ok (.getfield 169, 3) := dk_180 0 169 (dk_at dksX1_keep_0 1 rfl rfl)
theorem dX1_keep_4 : decode cX1_keep 4 = .ok (.bipush 8, 2) := dk_16 8 (dk_at dksX1_keep_0 4 rfl rfl)
theorem dX1_keep_6 : decode cX1_keep 6 = .ok (.if_icmp .ne 12, 3) := dk_160 0 12 (dk_at dksX1_keep_0 6 rfl rfl)
theorem dX1_keep_9 : decode cX1_keep 9 = .ok (.aload_n 0, 1) := dk_42 (dk_at dksX1_keep_0 9 rfl rfl)
theorem dX1_keep_10 : decode cX1_keep 10 = .ok (.getfield 110, 3) := dk_180 0 110 (dk_at dksX1_keep_0 10 rfl rfl)
theorem dX1_keep_13 : decode cX1_keep 13 = .ok (.iconst 0, 1) := dk_3 (dk_at dksX1_keep_0 13 rfl rfl)
theorem dX1_keep_14 : decode cX1_keep 14 = .ok (.aaload, 1) := dk_50 (dk_at dksX1_keep_0 14 rfl rfl)
theorem dX1_keep_15 : decode cX1_keep 15 = .ok (.goto 34, 3) := dk_167 0 34 (dk_at dksX1_keep_0 15 rfl rfl)
theorem dX1_keep_18 : decode cX1_keep 18 = .ok (.aload_n 0, 1) := dk_42 (dk_at dksX1_keep_0 18 rfl rfl)
theorem dX1_keep_19 : decode cX1_keep 19 = .ok (.getfield 110, 3) := dk_180 0 110 (dk_at dksX1_keep_0 19 rfl rfl)
theorem dX1_keep_22 : decode cX1_keep 22 = .ok (.aload_n 0, 1) := dk_42 (dk_at dksX1_keep_0 22 rfl rfl)
theorem dX1_keep_23 : decode cX1_keep 23 = .ok (.getfield 169, 3) := dk_180 0 169 (dk_at dksX1_keep_1 0 rfl rfl)
theorem dX1_keep_26 : decode cX1_keep 26 = .ok (.aaload, 1) := dk_50 (dk_at dksX1_keep_1 3 rfl rfl)
theorem dX1_keep_27 : decode cX1_keep 27 = .ok (.ifnonnull 13, 3) := dk_199 0 13 (dk_at dksX1_keep_1 4 rfl rfl)
theorem dX1_keep_30 : decode cX1_keep 30 = .ok (.new 80, 3) := dk_187 0 80 (dk_at dksX1_keep_1 7 rfl rfl)
theorem dX1_keep_33 : decode cX1_keep 33 = .ok (.dup, 1) := dk_89 (dk_at dksX1_keep_1 10 rfl rfl)
theorem dX1_keep_34 : decode cX1_keep 34 = .ok (.invokespecial 82, 3) := dk_183 0 82 (dk_at dksX1_keep_1 11 rfl rfl)
theorem dX1_keep_37 : decode cX1_keep 37 = .ok (.goto 12, 3) := dk_167 0 12 (dk_at dksX1_keep_1 14 rfl rfl)
theorem dX1_keep_40 : decode cX1_keep 40 = .ok (.aload_n 0, 1) := dk_42 (dk_at dksX1_keep_1 17 rfl rfl)
theorem dX1_keep_41 : decode cX1_keep 41 = .ok (.getfield 110, 3) := dk_180 0 110 (dk_at dksX1_keep_1 18 rfl rfl)
theorem dX1_keep_44 : decode cX1_keep 44 = .ok (.aload_n 0, 1) := dk_42 (dk_at dksX1_keep_1 21 rfl rfl)
theorem dX1_keep_45 : decode cX1_keep 45 = .ok (.getfield 169, 3) := dk_180 0 169 (dk_at dksX1_keep_2 0 rfl rfl)
theorem dX1_keep_48 : decode cX1_keep 48 = .ok (.aaload, 1) := dk_50 (dk_at dksX1_keep_2 3 rfl rfl)
theorem dX1_keep_49 : decode cX1_keep 49 = .ok (.astore_n 1, 1) := dk_76 (dk_at dksX1_keep_2 4 rfl rfl)
theorem dX1_keep_50 : decode cX1_keep 50 = .ok (.aload_n 0, 1) := dk_42 (dk_at dksX1_keep_2 5 rfl rfl)
theorem dX1_keep_51 : decode cX1_keep 51 = .ok (.getfield 169, 3) := dk_180 0 169 (dk_at dksX1_keep_2 6 rfl rfl)
theorem dX1_keep_54 : decode cX1_keep 54 = .ok (.bipush 8, 2) := dk_16 8 (dk_at dksX1_keep_2 9 rfl rfl)
theorem dX1_keep_56 : decode cX1_keep 56 = .ok (.if_icmp .ne 28, 3) := dk_160 0 28 (dk_at dksX1_keep_2 11 rfl rfl)
theorem dX1_keep_59 : decode cX1_keep 59 = .ok (.aload_n 0, 1) := dk_42 (dk_at dksX1_keep_2 14 rfl rfl)
theorem dX1_keep_60 : decode cX1_keep 60 = .ok (.getfield 110, 3) := dk_180 0 110 (dk_at dksX1_keep_2 15 rfl rfl)
theorem dX1_keep_63 : decode cX1_keep 63 = .ok (.iconst 1, 1) := dk_4 (dk_at dksX1_keep_2 18 rfl rfl)
theorem dX1_keep_64 : decode cX1_keep 64 = .ok (.aload_n 0, 1) := dk_42 (dk_at dksX1_keep_2 19 rfl rfl)
theorem dX1_keep_65 : decode cX1_keep 65 = .ok (.getfield 110, 3) := dk_180 0 110 (dk_at dksX1_keep_2 20 rfl rfl)
theorem dX1_keep_68 : decode cX1_keep 68 = .ok (.iconst 0, 1) := dk_3 (dk_at dksX1_keep_2 23 rfl rfl)
theorem dX1_keep_69 : decode cX1_keep 69 = .ok (.bipush 7, 2) := dk_16 7 (dk_at dksX1_keep_3 0 rfl rfl)
theorem dX1_keep_71 : decode cX1_keep 71 = .ok (.invokestatic 275, 3) := dk_184 1 19 (dk_at dksX1_keep_3 2 rfl rfl)
theorem dX1_keep_74 : decode cX1_keep 74 = .ok (.aload_n 0, 1) := dk_42 (dk_at dksX1_keep_3 5 rfl rfl)
theorem dX1_keep_75 : decode cX1_keep 75 = .ok (.dup, 1) := dk_89 (dk_at dksX1_keep_3 6 rfl rfl)
theorem dX1_keep_76 : decode cX1_keep 76 = .ok (.getfield 169, 3) := dk_180 0 169 (dk_at dksX1_keep_3 7 rfl rfl)
theorem dX1_keep_79 : decode cX1_keep 79 = .ok (.iconst 1, 1) := dk_4 (dk_at dksX1_keep_3 10 rfl rfl)
theorem dX1_keep_80 : decode cX1_keep 80 = .ok (.isub, 1) := dk_100 (dk_at dksX1_keep_3 11 rfl rfl)
theorem dX1_keep_81 : decode cX1_keep 81 = .ok (.putfield 169, 3) := dk_181 0 169 (dk_at dksX1_keep_3 12 rfl rfl)
theorem dX1_keep_84 : decode cX1_keep 84 = .ok (.aload_n 1, 1) := dk_43 (dk_at dksX1_keep_3 15 rfl rfl)
theorem dX1_keep_85 : decode cX1_keep 85 = .ok (.aload_n 0, 1) := dk_42 (dk_at dksX1_keep_3 16 rfl rfl)
theorem dX1_keep_86 : decode cX1_keep 86 = .ok (.getfield 83, 3) := dk_180 0 83 (dk_at dksX1_keep_3 17 rfl rfl)
theorem dX1_keep_89 : decode cX1_keep 89 = .ok (.invokevirtual 281, 3) := dk_182 1 25 (dk_at dksX1_keep_3 20 rfl rfl)
theorem dX1_keep_92 : decode cX1_keep 92 = .ok (.aload_n 0, 1) := dk_42 (dk_at dksX1_keep_3 23 rfl rfl)
theorem dX1_keep_93 : decode cX1_keep 93 = .ok (.getfield 110, 3) := dk_180 0 110 (dk_at dksX1_keep_4 0 rfl rfl)
theorem dX1_keep_96 : decode cX1_keep 96 = .ok (.aload_n 0, 1) := dk_42 (dk_at dksX1_keep_4 3 rfl rfl)
theorem dX1_keep_97 : decode cX1_keep 97 = .ok (.getfield 169, 3) := dk_180 0 169 (dk_at dksX1_keep_4 4 rfl rfl)
theorem dX1_keep_100 : decode cX1_keep 100 = .ok (.aload_n 1, 1) := dk_43 (dk_at dksX1_keep_4 7 rfl rfl)
theorem dX1_keep_101 : decode cX1_keep 101 = .ok (.aastore, 1) := dk_83 (dk_at dksX1_keep_4 8 rfl rfl)
theorem dX1_keep_102 : decode cX1_keep 102 = .ok (.aload_n 0, 1) := dk_42 (dk_at dksX1_keep_4 9 rfl rfl)
theorem dX1_keep_103 : decode cX1_keep 103 = .ok (.dup, 1) := dk_89 (dk_at dksX1_keep_4 10 rfl rfl)
theorem dX1_keep_104 : decode cX1_keep 104 = .ok (.getfield 169, 3) := dk_180 0 169 (dk_at dksX1_keep_4 11 rfl rfl)
theorem dX1_keep_107 : decode cX1_keep 107 = .ok (.iconst 1, 1) := dk_4 (dk_at dksX1_keep_4 14 rfl rfl)
theorem dX1_keep_108 : decode cX1_keep 108 = .ok (.iadd, 1) := dk_96 (dk_at dksX1_keep_4 15 rfl rfl)
theorem dX1_keep_109 : decode cX1_keep 109 = .ok (.putfield 169, 3) := dk_181 0 169 (dk_at dksX1_keep_4 16 rfl rfl)
theorem dX1_keep_112 : decode cX1_keep 112 = .ok (.return_, 1) := dk_177 (dk_at dksX1_keep_4 19 rfl rfl)
abbrev cX1_sponge : ByteArray := prog_1_method_25_code
def yX1_sponge : MethodName := ⟨RX1, "sponge", "(I)I"⟩
def dkwX1_sponge_1 : List UInt8 := [182, 1, 38, 42, 180, 0, 83, 180, 0, 221, 27, 3, 79, 3, 172]
abbrev dktX1_sponge_1 : List UInt8 := dkwX1_sponge_1 ++ []
def dkwX1_sponge_0 : List UInt8 := [42, 27, 182, 0, 201, 154, 0, 5, 2, 172, 42, 180, 0, 83, 27, 182, 1, 44, 153, 0, 5, 4, 172, 42]
abbrev dktX1_sponge_0 : List UInt8 := dkwX1_sponge_0 ++ dktX1_sponge_1
theorem dksX1_sponge_0 : cX1_sponge.data.toList.drop 0 = dktX1_sponge_0 := by decide +kernel
theorem dksX1_sponge_1 : cX1_sponge.data.toList.drop 24 = dktX1_sponge_1 := dk_seg dksX1_sponge_0 24 rfl rfl
theorem dX1_sponge_0 : decode cX1_sponge 0 = .ok (.aload_n 0, 1) := dk_42 (dk_at dksX1_sponge_0 0 rfl rfl)
theorem dX1_sponge_1 : decode cX1_sponge 1 = .ok (.iload_n 1, 1) := dk_27 (dk_at dksX1_sponge_0 1 rfl rfl)
theorem dX1_sponge_2 : decode cX1_sponge 2 = .ok (.invokevirtual 201, 3) := dk_182 0 201 (dk_at dksX1_sponge_0 2 rfl rfl)
theorem dX1_sponge_5 : decode cX1_sponge 5 = .ok (.ifCond .ne 5, 3) := dk_154 0 5 (dk_at dksX1_sponge_0 5 rfl rfl)
theorem dX1_sponge_8 : decode cX1_sponge 8 = .ok (.iconst (-1), 1) := dk_2 (dk_at dksX1_sponge_0 8 rfl rfl)
theorem dX1_sponge_9 : decode cX1_sponge 9 = .ok (.ireturn, 1) := dk_172 (dk_at dksX1_sponge_0 9 rfl rfl)
theorem dX1_sponge_10 : decode cX1_sponge 10 = .ok (.aload_n 0, 1) := dk_42 (dk_at dksX1_sponge_0 10 rfl rfl)
theorem dX1_sponge_11 : decode cX1_sponge 11 = .ok (.getfield 83, 3) := dk_180 0 83 (dk_at dksX1_sponge_0 11 rfl rfl)
theorem dX1_sponge_14 : decode cX1_sponge 14 = .ok (.iload_n 1, 1) := dk_27 (dk_at dksX1_sponge_0 14 rfl rfl)
theorem dX1_sponge_15 : decode cX1_sponge 15 = .ok (.invokevirtual 300, 3) := dk_182 1 44 (dk_at dksX1_sponge_0 15 rfl rfl)
theorem dX1_sponge_18 : decode cX1_sponge 18 = .ok (.ifCond .eq 5, 3) := dk_153 0 5 (dk_at dksX1_sponge_0 18 rfl rfl)
theorem dX1_sponge_21 : decode cX1_sponge 21 = .ok (.iconst 1, 1) := dk_4 (dk_at dksX1_sponge_0 21 rfl rfl)
theorem dX1_sponge_22 : decode cX1_sponge 22 = .ok (.ireturn, 1) := dk_172 (dk_at dksX1_sponge_0 22 rfl rfl)
theorem dX1_sponge_23 : decode cX1_sponge 23 = .ok (.aload_n 0, 1) := dk_42 (dk_at dksX1_sponge_0 23 rfl rfl)
theorem dX1_sponge_24 : decode cX1_sponge 24 = .ok (.invokevirtual 294, 3) := dk_182 1 38 (dk_at dksX1_sponge_1 0 rfl rfl)
theorem dX1_sponge_27 : decode cX1_sponge 27 = .ok (.aload_n 0, 1) := dk_42 (dk_at dksX1_sponge_1 3 rfl rfl)
theorem dX1_sponge_28 : decode cX1_sponge 28 = .ok (.getfield 83, 3) := dk_180 0 83 (dk_at dksX1_sponge_1 4 rfl rfl)
theorem dX1_sponge_31 : decode cX1_sponge 31 = .ok (.getfield 221, 3) := dk_180 0 221 (dk_at dksX1_sponge_1 7 rfl rfl)
theorem dX1_sponge_34 : decode cX1_sponge 34 = .ok (.iload_n 1, 1) := dk_27 (dk_at dksX1_sponge_1 10 rfl rfl)
theorem dX1_sponge_35 : decode cX1_sponge 35 = .ok (.iconst 0, 1) := dk_3 (dk_at dksX1_sponge_1 11 rfl rfl)
theorem dX1_sponge_36 : decode cX1_sponge 36 = .ok (.iastore, 1) := dk_79 (dk_at dksX1_sponge_1 12 rfl rfl)
theorem dX1_sponge_37 : decode cX1_sponge 37 = .ok (.iconst 0, 1) := dk_3 (dk_at dksX1_sponge_1 13 rfl rfl)
theorem dX1_sponge_38 : decode cX1_sponge 38 = .ok (.ireturn, 1) := dk_172 (dk_at dksX1_sponge_1 14 rfl rfl)
abbrev cX1_carry : ByteArray := prog_1_method_26_code
def yX1_carry : MethodName := ⟨RX1, "carry", "(II)I"⟩
def dkwX1_carry_1 : List UInt8 := [182, 1, 47, 153, 0, 5, 4, 172, 42, 182, 1, 38, 42, 180, 0, 83, 180, 0, 209, 27, 28, 79, 3, 172]
abbrev dktX1_carry_1 : List UInt8 := dkwX1_carry_1 ++ []
def dkwX1_carry_0 : List UInt8 := [42, 27, 182, 0, 201, 153, 0, 11, 42, 28, 182, 1, 4, 154, 0, 5, 2, 172, 42, 180, 0, 83, 27, 28]
abbrev dktX1_carry_0 : List UInt8 := dkwX1_carry_0 ++ dktX1_carry_1
theorem dksX1_carry_0 : cX1_carry.data.toList.drop 0 = dktX1_carry_0 := by decide +kernel
theorem dksX1_carry_1 : cX1_carry.data.toList.drop 24 = dktX1_carry_1 := dk_seg dksX1_carry_0 24 rfl rfl
theorem dX1_carry_0 : decode cX1_carry 0 = .ok (.aload_n 0, 1) := dk_42 (dk_at dksX1_carry_0 0 rfl rfl)
theorem dX1_carry_1 : decode cX1_carry 1 = .ok (.iload_n 1, 1) := dk_27 (dk_at dksX1_carry_0 1 rfl rfl)
theorem dX1_carry_2 : decode cX1_carry 2 = .ok (.invokevirtual 201, 3) := dk_182 0 201 (dk_at dksX1_carry_0 2 rfl rfl)
theorem dX1_carry_5 : decode cX1_carry 5 = .ok (.ifCond .eq 11, 3) := dk_153 0 11 (dk_at dksX1_carry_0 5 rfl rfl)
theorem dX1_carry_8 : decode cX1_carry 8 = .ok (.aload_n 0, 1) := dk_42 (dk_at dksX1_carry_0 8 rfl rfl)
theorem dX1_carry_9 : decode cX1_carry 9 = .ok (.iload_n 2, 1) := dk_28 (dk_at dksX1_carry_0 9 rfl rfl)
theorem dX1_carry_10 : decode cX1_carry 10 = .ok (.invokevirtual 260, 3) := dk_182 1 4 (dk_at dksX1_carry_0 10 rfl rfl)
theorem dX1_carry_13 : decode cX1_carry 13 = .ok (.ifCond .ne 5, 3) := dk_154 0 5 (dk_at dksX1_carry_0 13 rfl rfl)
theorem dX1_carry_16 : decode cX1_carry 16 = .ok (.iconst (-1), 1) := dk_2 (dk_at dksX1_carry_0 16 rfl rfl)
theorem dX1_carry_17 : decode cX1_carry 17 = .ok (.ireturn, 1) := dk_172 (dk_at dksX1_carry_0 17 rfl rfl)
theorem dX1_carry_18 : decode cX1_carry 18 = .ok (.aload_n 0, 1) := dk_42 (dk_at dksX1_carry_0 18 rfl rfl)
theorem dX1_carry_19 : decode cX1_carry 19 = .ok (.getfield 83, 3) := dk_180 0 83 (dk_at dksX1_carry_0 19 rfl rfl)
theorem dX1_carry_22 : decode cX1_carry 22 = .ok (.iload_n 1, 1) := dk_27 (dk_at dksX1_carry_0 22 rfl rfl)
theorem dX1_carry_23 : decode cX1_carry 23 = .ok (.iload_n 2, 1) := dk_28 (dk_at dksX1_carry_0 23 rfl rfl)
theorem dX1_carry_24 : decode cX1_carry 24 = .ok (.invokevirtual 303, 3) := dk_182 1 47 (dk_at dksX1_carry_1 0 rfl rfl)
theorem dX1_carry_27 : decode cX1_carry 27 = .ok (.ifCond .eq 5, 3) := dk_153 0 5 (dk_at dksX1_carry_1 3 rfl rfl)
theorem dX1_carry_30 : decode cX1_carry 30 = .ok (.iconst 1, 1) := dk_4 (dk_at dksX1_carry_1 6 rfl rfl)
theorem dX1_carry_31 : decode cX1_carry 31 = .ok (.ireturn, 1) := dk_172 (dk_at dksX1_carry_1 7 rfl rfl)
theorem dX1_carry_32 : decode cX1_carry 32 = .ok (.aload_n 0, 1) := dk_42 (dk_at dksX1_carry_1 8 rfl rfl)
theorem dX1_carry_33 : decode cX1_carry 33 = .ok (.invokevirtual 294, 3) := dk_182 1 38 (dk_at dksX1_carry_1 9 rfl rfl)
theorem dX1_carry_36 : decode cX1_carry 36 = .ok (.aload_n 0, 1) := dk_42 (dk_at dksX1_carry_1 12 rfl rfl)
theorem dX1_carry_37 : decode cX1_carry 37 = .ok (.getfield 83, 3) := dk_180 0 83 (dk_at dksX1_carry_1 13 rfl rfl)
theorem dX1_carry_40 : decode cX1_carry 40 = .ok (.getfield 209, 3) := dk_180 0 209 (dk_at dksX1_carry_1 16 rfl rfl)
theorem dX1_carry_43 : decode cX1_carry 43 = .ok (.iload_n 1, 1) := dk_27 (dk_at dksX1_carry_1 19 rfl rfl)
theorem dX1_carry_44 : decode cX1_carry 44 = .ok (.iload_n 2, 1) := dk_28 (dk_at dksX1_carry_1 20 rfl rfl)
theorem dX1_carry_45 : decode cX1_carry 45 = .ok (.iastore, 1) := dk_79 (dk_at dksX1_carry_1 21 rfl rfl)
theorem dX1_carry_46 : decode cX1_carry 46 = .ok (.iconst 0, 1) := dk_3 (dk_at dksX1_carry_1 22 rfl rfl)
theorem dX1_carry_47 : decode cX1_carry 47 = .ok (.ireturn, 1) := dk_172 (dk_at dksX1_carry_1 23 rfl rfl)
abbrev cX1_days : ByteArray := prog_1_method_27_code
def yX1_days : MethodName := ⟨RX1, "days", "(I)I"⟩
def dkwX1_days_1 : List UInt8 := [160, 0, 5, 3, 172, 42, 182, 1, 38, 42, 180, 0, 83, 42, 180, 0, 76, 27, 182, 1, 50, 172]
abbrev dktX1_days_1 : List UInt8 := dkwX1_days_1 ++ []
def dkwX1_days_0 : List UInt8 := [27, 4, 16, 60, 184, 0, 185, 154, 0, 5, 2, 172, 42, 180, 0, 83, 180, 1, 10, 17, 1, 144]
abbrev dktX1_days_0 : List UInt8 := dkwX1_days_0 ++ dktX1_days_1
theorem dksX1_days_0 : cX1_days.data.toList.drop 0 = dktX1_days_0 := by decide +kernel
theorem dksX1_days_1 : cX1_days.data.toList.drop 22 = dktX1_days_1 := dk_seg dksX1_days_0 22 rfl rfl
theorem dX1_days_0 : decode cX1_days 0 = .ok (.iload_n 1, 1) := dk_27 (dk_at dksX1_days_0 0 rfl rfl)
theorem dX1_days_1 : decode cX1_days 1 = .ok (.iconst 1, 1) := dk_4 (dk_at dksX1_days_0 1 rfl rfl)
theorem dX1_days_2 : decode cX1_days 2 = .ok (.bipush 60, 2) := dk_16 60 (dk_at dksX1_days_0 2 rfl rfl)
theorem dX1_days_4 : decode cX1_days 4 = .ok (.invokestatic 185, 3) := dk_184 0 185 (dk_at dksX1_days_0 4 rfl rfl)
theorem dX1_days_7 : decode cX1_days 7 = .ok (.ifCond .ne 5, 3) := dk_154 0 5 (dk_at dksX1_days_0 7 rfl rfl)
theorem dX1_days_10 : decode cX1_days 10 = .ok (.iconst (-1), 1) := dk_2 (dk_at dksX1_days_0 10 rfl rfl)
theorem dX1_days_11 : decode cX1_days 11 = .ok (.ireturn, 1) := dk_172 (dk_at dksX1_days_0 11 rfl rfl)
theorem dX1_days_12 : decode cX1_days 12 = .ok (.aload_n 0, 1) := dk_42 (dk_at dksX1_days_0 12 rfl rfl)
theorem dX1_days_13 : decode cX1_days 13 = .ok (.getfield 83, 3) := dk_180 0 83 (dk_at dksX1_days_0 13 rfl rfl)
theorem dX1_days_16 : decode cX1_days 16 = .ok (.getfield 266, 3) := dk_180 1 10 (dk_at dksX1_days_0 16 rfl rfl)
theorem dX1_days_19 : decode cX1_days 19 = .ok (.sipush 400, 3) := dk_17 1 144 (dk_at dksX1_days_0 19 rfl rfl)
theorem dX1_days_22 : decode cX1_days 22 = .ok (.if_icmp .ne 5, 3) := dk_160 0 5 (dk_at dksX1_days_1 0 rfl rfl)
theorem dX1_days_25 : decode cX1_days 25 = .ok (.iconst 0, 1) := dk_3 (dk_at dksX1_days_1 3 rfl rfl)
theorem dX1_days_26 : decode cX1_days 26 = .ok (.ireturn, 1) := dk_172 (dk_at dksX1_days_1 4 rfl rfl)
theorem dX1_days_27 : decode cX1_days 27 = .ok (.aload_n 0, 1) := dk_42 (dk_at dksX1_days_1 5 rfl rfl)
theorem dX1_days_28 : decode cX1_days 28 = .ok (.invokevirtual 294, 3) := dk_182 1 38 (dk_at dksX1_days_1 6 rfl rfl)
theorem dX1_days_31 : decode cX1_days 31 = .ok (.aload_n 0, 1) := dk_42 (dk_at dksX1_days_1 9 rfl rfl)
theorem dX1_days_32 : decode cX1_days 32 = .ok (.getfield 83, 3) := dk_180 0 83 (dk_at dksX1_days_1 10 rfl rfl)
theorem dX1_days_35 : decode cX1_days 35 = .ok (.aload_n 0, 1) := dk_42 (dk_at dksX1_days_1 13 rfl rfl)
theorem dX1_days_36 : decode cX1_days 36 = .ok (.getfield 76, 3) := dk_180 0 76 (dk_at dksX1_days_1 14 rfl rfl)
theorem dX1_days_39 : decode cX1_days 39 = .ok (.iload_n 1, 1) := dk_27 (dk_at dksX1_days_1 17 rfl rfl)
theorem dX1_days_40 : decode cX1_days 40 = .ok (.invokevirtual 306, 3) := dk_182 1 50 (dk_at dksX1_days_1 18 rfl rfl)
theorem dX1_days_43 : decode cX1_days 43 = .ok (.ireturn, 1) := dk_172 (dk_at dksX1_days_1 21 rfl rfl)
abbrev cX1_guilty : ByteArray := prog_1_method_28_code
def yX1_guilty : MethodName := ⟨RX1, "guilty", "(II)I"⟩
def dkwX1_guilty_3 : List UInt8 := [153, 0, 5, 4, 172, 132, 3, 1, 167, 255, 199, 3, 172]
abbrev dktX1_guilty_3 : List UInt8 := dkwX1_guilty_3 ++ []
def dkwX1_guilty_2 : List UInt8 := [180, 0, 83, 180, 0, 239, 29, 46, 28, 160, 0, 20, 42, 180, 0, 83, 42, 180, 0, 76, 29, 182, 0, 252]
abbrev dktX1_guilty_2 : List UInt8 := dkwX1_guilty_2 ++ dktX1_guilty_3
def dkwX1_guilty_1 : List UInt8 := [180, 0, 83, 180, 0, 198, 162, 0, 52, 42, 180, 0, 83, 180, 0, 236, 29, 46, 27, 160, 0, 33, 42]
abbrev dktX1_guilty_1 : List UInt8 := dkwX1_guilty_1 ++ dktX1_guilty_2
def dkwX1_guilty_0 : List UInt8 := [42, 27, 182, 1, 29, 153, 0, 11, 42, 28, 182, 1, 32, 154, 0, 5, 2, 172, 3, 62, 29, 42]
abbrev dktX1_guilty_0 : List UInt8 := dkwX1_guilty_0 ++ dktX1_guilty_1
theorem dksX1_guilty_0 : cX1_guilty.data.toList.drop 0 = dktX1_guilty_0 := by decide +kernel
theorem dksX1_guilty_1 : cX1_guilty.data.toList.drop 22 = dktX1_guilty_1 := dk_seg dksX1_guilty_0 22 rfl rfl
theorem dksX1_guilty_2 : cX1_guilty.data.toList.drop 45 = dktX1_guilty_2 := dk_seg dksX1_guilty_1 23 rfl rfl
theorem dksX1_guilty_3 : cX1_guilty.data.toList.drop 69 = dktX1_guilty_3 := dk_seg dksX1_guilty_2 24 rfl rfl
theorem dX1_guilty_0 : decode cX1_guilty 0 = .ok (.aload_n 0, 1) := dk_42 (dk_at dksX1_guilty_0 0 rfl rfl)
theorem dX1_guilty_1 : decode cX1_guilty 1 = .ok (.iload_n 1, 1) := dk_27 (dk_at dksX1_guilty_0 1 rfl rfl)
theorem dX1_guilty_2 : decode cX1_guilty 2 = .ok (.invokevirtual 285, 3) := dk_182 1 29 (dk_at dksX1_guilty_0 2 rfl rfl)
theorem dX1_guilty_5 : decode cX1_guilty 5 = .ok (.ifCond .eq 11, 3) := dk_153 0 11 (dk_at dksX1_guilty_0 5 rfl rfl)
theorem dX1_guilty_8 : decode cX1_guilty 8 = .ok (.aload_n 0, 1) := dk_42 (dk_at dksX1_guilty_0 8 rfl rfl)
theorem dX1_guilty_9 : decode cX1_guilty 9 = .ok (.iload_n 2, 1) := dk_28 (dk_at dksX1_guilty_0 9 rfl rfl)
theorem dX1_guilty_10 : decode cX1_guilty 10 = .ok (.invokevirtual 288, 3) := dk_182 1 32 (dk_at dksX1_guilty_0 10 rfl rfl)
theorem dX1_guilty_13 : decode cX1_guilty 13 = .ok (.ifCond .ne 5, 3) := dk_154 0 5 (dk_at dksX1_guilty_0 13 rfl rfl)
theorem dX1_guilty_16 : decode cX1_guilty 16 = .ok (.iconst (-1), 1) := dk_2 (dk_at dksX1_guilty_0 16 rfl rfl)
theorem dX1_guilty_17 : decode cX1_guilty 17 = .ok (.ireturn, 1) := dk_172 (dk_at dksX1_guilty_0 17 rfl rfl)
theorem dX1_guilty_18 : decode cX1_guilty 18 = .ok (.iconst 0, 1) := dk_3 (dk_at dksX1_guilty_0 18 rfl rfl)
theorem dX1_guilty_19 : decode cX1_guilty 19 = .ok (.istore_n 3, 1) := dk_62 (dk_at dksX1_guilty_0 19 rfl rfl)
theorem dX1_guilty_20 : decode cX1_guilty 20 = .ok (.iload_n 3, 1) := dk_29 (dk_at dksX1_guilty_0 20 rfl rfl)
theorem dX1_guilty_21 : decode cX1_guilty 21 = .ok (.aload_n 0, 1) := dk_42 (dk_at dksX1_guilty_0 21 rfl rfl)
theorem dX1_guilty_22 : decode cX1_guilty 22 = .ok (.getfield 83, 3) := dk_180 0 83 (dk_at dksX1_guilty_1 0 rfl rfl)
theorem dX1_guilty_25 : decode cX1_guilty 25 = .ok (.getfield 198, 3) := dk_180 0 198 (dk_at dksX1_guilty_1 3 rfl rfl)
theorem dX1_guilty_28 : decode cX1_guilty 28 = .ok (.if_icmp .ge 52, 3) := dk_162 0 52 (dk_at dksX1_guilty_1 6 rfl rfl)
theorem dX1_guilty_31 : decode cX1_guilty 31 = .ok (.aload_n 0, 1) := dk_42 (dk_at dksX1_guilty_1 9 rfl rfl)
theorem dX1_guilty_32 : decode cX1_guilty 32 = .ok (.getfield 83, 3) := dk_180 0 83 (dk_at dksX1_guilty_1 10 rfl rfl)
theorem dX1_guilty_35 : decode cX1_guilty 35 = .ok (.getfield 236, 3) := dk_180 0 236 (dk_at dksX1_guilty_1 13 rfl rfl)
theorem dX1_guilty_38 : decode cX1_guilty 38 = .ok (.iload_n 3, 1) := dk_29 (dk_at dksX1_guilty_1 16 rfl rfl)
theorem dX1_guilty_39 : decode cX1_guilty 39 = .ok (.iaload, 1) := dk_46 (dk_at dksX1_guilty_1 17 rfl rfl)
theorem dX1_guilty_40 : decode cX1_guilty 40 = .ok (.iload_n 1, 1) := dk_27 (dk_at dksX1_guilty_1 18 rfl rfl)
theorem dX1_guilty_41 : decode cX1_guilty 41 = .ok (.if_icmp .ne 33, 3) := dk_160 0 33 (dk_at dksX1_guilty_1 19 rfl rfl)
theorem dX1_guilty_44 : decode cX1_guilty 44 = .ok (.aload_n 0, 1) := dk_42 (dk_at dksX1_guilty_1 22 rfl rfl)
theorem dX1_guilty_45 : decode cX1_guilty 45 = .ok (.getfield 83, 3) := dk_180 0 83 (dk_at dksX1_guilty_2 0 rfl rfl)
theorem dX1_guilty_48 : decode cX1_guilty 48 = .ok (.getfield 239, 3) := dk_180 0 239 (dk_at dksX1_guilty_2 3 rfl rfl)
theorem dX1_guilty_51 : decode cX1_guilty 51 = .ok (.iload_n 3, 1) := dk_29 (dk_at dksX1_guilty_2 6 rfl rfl)
theorem dX1_guilty_52 : decode cX1_guilty 52 = .ok (.iaload, 1) := dk_46 (dk_at dksX1_guilty_2 7 rfl rfl)
theorem dX1_guilty_53 : decode cX1_guilty 53 = .ok (.iload_n 2, 1) := dk_28 (dk_at dksX1_guilty_2 8 rfl rfl)
theorem dX1_guilty_54 : decode cX1_guilty 54 = .ok (.if_icmp .ne 20, 3) := dk_160 0 20 (dk_at dksX1_guilty_2 9 rfl rfl)
theorem dX1_guilty_57 : decode cX1_guilty 57 = .ok (.aload_n 0, 1) := dk_42 (dk_at dksX1_guilty_2 12 rfl rfl)
theorem dX1_guilty_58 : decode cX1_guilty 58 = .ok (.getfield 83, 3) := dk_180 0 83 (dk_at dksX1_guilty_2 13 rfl rfl)
theorem dX1_guilty_61 : decode cX1_guilty 61 = .ok (.aload_n 0, 1) := dk_42 (dk_at dksX1_guilty_2 16 rfl rfl)
theorem dX1_guilty_62 : decode cX1_guilty 62 = .ok (.getfield 76, 3) := dk_180 0 76 (dk_at dksX1_guilty_2 17 rfl rfl)
theorem dX1_guilty_65 : decode cX1_guilty 65 = .ok (.iload_n 3, 1) := dk_29 (dk_at dksX1_guilty_2 20 rfl rfl)
theorem dX1_guilty_66 : decode cX1_guilty 66 = .ok (.invokevirtual 252, 3) := dk_182 0 252 (dk_at dksX1_guilty_2 21 rfl rfl)
theorem dX1_guilty_69 : decode cX1_guilty 69 = .ok (.ifCond .eq 5, 3) := dk_153 0 5 (dk_at dksX1_guilty_3 0 rfl rfl)
theorem dX1_guilty_72 : decode cX1_guilty 72 = .ok (.iconst 1, 1) := dk_4 (dk_at dksX1_guilty_3 3 rfl rfl)
theorem dX1_guilty_73 : decode cX1_guilty 73 = .ok (.ireturn, 1) := dk_172 (dk_at dksX1_guilty_3 4 rfl rfl)
theorem dX1_guilty_74 : decode cX1_guilty 74 = .ok (.iinc 3 1, 3) := dk_132 3 1 (dk_at dksX1_guilty_3 5 rfl rfl)
theorem dX1_guilty_77 : decode cX1_guilty 77 = .ok (.goto (-57), 3) := dk_167 255 199 (dk_at dksX1_guilty_3 8 rfl rfl)
theorem dX1_guilty_80 : decode cX1_guilty 80 = .ok (.iconst 0, 1) := dk_3 (dk_at dksX1_guilty_3 11 rfl rfl)
theorem dX1_guilty_81 : decode cX1_guilty 81 = .ok (.ireturn, 1) := dk_172 (dk_at dksX1_guilty_3 12 rfl rfl)
abbrev cX1_proves : ByteArray := prog_1_method_29_code
def yX1_proves : MethodName := ⟨RX1, "proves", "(I)I"⟩
def dkwX1_proves_4 : List UInt8 := [132, 2, 1, 167, 255, 179, 2, 172]
abbrev dktX1_proves_4 : List UInt8 := dkwX1_proves_4 ++ []
def dkwX1_proves_3 : List UInt8 := [132, 3, 1, 132, 4, 1, 167, 255, 210, 29, 42, 180, 0, 76, 180, 1, 53, 161, 0, 5, 28, 172]
abbrev dktX1_proves_3 : List UInt8 := dkwX1_proves_3 ++ dktX1_proves_4
def dkwX1_proves_2 : List UInt8 := [21, 4, 27, 182, 1, 0, 2, 159, 0, 20, 42, 180, 0, 83, 21, 4, 27, 182, 1, 0, 28, 163, 0, 6]
abbrev dktX1_proves_2 : List UInt8 := dkwX1_proves_2 ++ dktX1_proves_3
def dkwX1_proves_1 : List UInt8 := [163, 0, 76, 3, 62, 3, 54, 4, 21, 4, 42, 180, 0, 76, 180, 0, 189, 162, 0, 40, 42, 180, 0, 83]
abbrev dktX1_proves_1 : List UInt8 := dkwX1_proves_1 ++ dktX1_proves_2
def dkwX1_proves_0 : List UInt8 := [42, 27, 182, 0, 233, 154, 0, 5, 2, 172, 42, 180, 0, 83, 180, 0, 245, 27, 46, 61, 28, 17, 1, 144]
abbrev dktX1_proves_0 : List UInt8 := dkwX1_proves_0 ++ dktX1_proves_1
theorem dksX1_proves_0 : cX1_proves.data.toList.drop 0 = dktX1_proves_0 := by decide +kernel
theorem dksX1_proves_1 : cX1_proves.data.toList.drop 24 = dktX1_proves_1 := dk_seg dksX1_proves_0 24 rfl rfl
theorem dksX1_proves_2 : cX1_proves.data.toList.drop 48 = dktX1_proves_2 := dk_seg dksX1_proves_1 24 rfl rfl
theorem dksX1_proves_3 : cX1_proves.data.toList.drop 72 = dktX1_proves_3 := dk_seg dksX1_proves_2 24 rfl rfl
theorem dksX1_proves_4 : cX1_proves.data.toList.drop 94 = dktX1_proves_4 := dk_seg dksX1_proves_3 22 rfl rfl
theorem dX1_proves_0 : decode cX1_proves 0 = .ok (.aload_n 0, 1) := dk_42 (dk_at dksX1_proves_0 0 rfl rfl)
theorem dX1_proves_1 : decode cX1_proves 1 = .ok (.iload_n 1, 1) := dk_27 (dk_at dksX1_proves_0 1 rfl rfl)
theorem dX1_proves_2 : decode cX1_proves 2 = .ok (.invokevirtual 233, 3) := dk_182 0 233 (dk_at dksX1_proves_0 2 rfl rfl)
theorem dX1_proves_5 : decode cX1_proves 5 = .ok (.ifCond .ne 5, 3) := dk_154 0 5 (dk_at dksX1_proves_0 5 rfl rfl)
theorem dX1_proves_8 : decode cX1_proves 8 = .ok (.iconst (-1), 1) := dk_2 (dk_at dksX1_proves_0 8 rfl rfl)
theorem dX1_proves_9 : decode cX1_proves 9 = .ok (.ireturn, 1) := dk_172 (dk_at dksX1_proves_0 9 rfl rfl)
theorem dX1_proves_10 : decode cX1_proves 10 = .ok (.aload_n 0, 1) := dk_42 (dk_at dksX1_proves_0 10 rfl rfl)
theorem dX1_proves_11 : decode cX1_proves 11 = .ok (.getfield 83, 3) := dk_180 0 83 (dk_at dksX1_proves_0 11 rfl rfl)
theorem dX1_proves_14 : decode cX1_proves 14 = .ok (.getfield 245, 3) := dk_180 0 245 (dk_at dksX1_proves_0 14 rfl rfl)
theorem dX1_proves_17 : decode cX1_proves 17 = .ok (.iload_n 1, 1) := dk_27 (dk_at dksX1_proves_0 17 rfl rfl)
theorem dX1_proves_18 : decode cX1_proves 18 = .ok (.iaload, 1) := dk_46 (dk_at dksX1_proves_0 18 rfl rfl)
theorem dX1_proves_19 : decode cX1_proves 19 = .ok (.istore_n 2, 1) := dk_61 (dk_at dksX1_proves_0 19 rfl rfl)
theorem dX1_proves_20 : decode cX1_proves 20 = .ok (.iload_n 2, 1) := dk_28 (dk_at dksX1_proves_0 20 rfl rfl)
theorem dX1_proves_21 : decode cX1_proves 21 = .ok (.sipush 400, 3) := dk_17 1 144 (dk_at dksX1_proves_0 21 rfl rfl)
theorem dX1_proves_24 : decode cX1_proves 24 = .ok (.if_icmp .gt 76, 3) := dk_163 0 76 (dk_at dksX1_proves_1 0 rfl rfl)
theorem dX1_proves_27 : decode cX1_proves 27 = .ok (.iconst 0, 1) := dk_3 (dk_at dksX1_proves_1 3 rfl rfl)
theorem dX1_proves_28 : decode cX1_proves 28 = .ok (.istore_n 3, 1) := dk_62 (dk_at dksX1_proves_1 4 rfl rfl)
theorem dX1_proves_29 : decode cX1_proves 29 = .ok (.iconst 0, 1) := dk_3 (dk_at dksX1_proves_1 5 rfl rfl)
theorem dX1_proves_30 : decode cX1_proves 30 = .ok (.istore 4, 2) := dk_54 4 (dk_at dksX1_proves_1 6 rfl rfl)
theorem dX1_proves_32 : decode cX1_proves 32 = .ok (.iload 4, 2) := dk_21 4 (dk_at dksX1_proves_1 8 rfl rfl)
theorem dX1_proves_34 : decode cX1_proves 34 = .ok (.aload_n 0, 1) := dk_42 (dk_at dksX1_proves_1 10 rfl rfl)
theorem dX1_proves_35 : decode cX1_proves 35 = .ok (.getfield 76, 3) := dk_180 0 76 (dk_at dksX1_proves_1 11 rfl rfl)
theorem dX1_proves_38 : decode cX1_proves 38 = .ok (.getfield 189, 3) := dk_180 0 189 (dk_at dksX1_proves_1 14 rfl rfl)
theorem dX1_proves_41 : decode cX1_proves 41 = .ok (.if_icmp .ge 40, 3) := dk_162 0 40 (dk_at dksX1_proves_1 17 rfl rfl)
theorem dX1_proves_44 : decode cX1_proves 44 = .ok (.aload_n 0, 1) := dk_42 (dk_at dksX1_proves_1 20 rfl rfl)
theorem dX1_proves_45 : decode cX1_proves 45 = .ok (.getfield 83, 3) := dk_180 0 83 (dk_at dksX1_proves_1 21 rfl rfl)
theorem dX1_proves_48 : decode cX1_proves 48 = .ok (.iload 4, 2) := dk_21 4 (dk_at dksX1_proves_2 0 rfl rfl)
theorem dX1_proves_50 : decode cX1_proves 50 = .ok (.iload_n 1, 1) := dk_27 (dk_at dksX1_proves_2 2 rfl rfl)
theorem dX1_proves_51 : decode cX1_proves 51 = .ok (.invokevirtual 256, 3) := dk_182 1 0 (dk_at dksX1_proves_2 3 rfl rfl)
theorem dX1_proves_54 : decode cX1_proves 54 = .ok (.iconst (-1), 1) := dk_2 (dk_at dksX1_proves_2 6 rfl rfl)
theorem dX1_proves_55 : decode cX1_proves 55 = .ok (.if_icmp .eq 20, 3) := dk_159 0 20 (dk_at dksX1_proves_2 7 rfl rfl)
theorem dX1_proves_58 : decode cX1_proves 58 = .ok (.aload_n 0, 1) := dk_42 (dk_at dksX1_proves_2 10 rfl rfl)
theorem dX1_proves_59 : decode cX1_proves 59 = .ok (.getfield 83, 3) := dk_180 0 83 (dk_at dksX1_proves_2 11 rfl rfl)
theorem dX1_proves_62 : decode cX1_proves 62 = .ok (.iload 4, 2) := dk_21 4 (dk_at dksX1_proves_2 14 rfl rfl)
theorem dX1_proves_64 : decode cX1_proves 64 = .ok (.iload_n 1, 1) := dk_27 (dk_at dksX1_proves_2 16 rfl rfl)
theorem dX1_proves_65 : decode cX1_proves 65 = .ok (.invokevirtual 256, 3) := dk_182 1 0 (dk_at dksX1_proves_2 17 rfl rfl)
theorem dX1_proves_68 : decode cX1_proves 68 = .ok (.iload_n 2, 1) := dk_28 (dk_at dksX1_proves_2 20 rfl rfl)
theorem dX1_proves_69 : decode cX1_proves 69 = .ok (.if_icmp .gt 6, 3) := dk_163 0 6 (dk_at dksX1_proves_2 21 rfl rfl)
theorem dX1_proves_72 : decode cX1_proves 72 = .ok (.iinc 3 1, 3) := dk_132 3 1 (dk_at dksX1_proves_3 0 rfl rfl)
theorem dX1_proves_75 : decode cX1_proves 75 = .ok (.iinc 4 1, 3) := dk_132 4 1 (dk_at dksX1_proves_3 3 rfl rfl)
theorem dX1_proves_78 : decode cX1_proves 78 = .ok (.goto (-46), 3) := dk_167 255 210 (dk_at dksX1_proves_3 6 rfl rfl)
theorem dX1_proves_81 : decode cX1_proves 81 = .ok (.iload_n 3, 1) := dk_29 (dk_at dksX1_proves_3 9 rfl rfl)
theorem dX1_proves_82 : decode cX1_proves 82 = .ok (.aload_n 0, 1) := dk_42 (dk_at dksX1_proves_3 10 rfl rfl)
theorem dX1_proves_83 : decode cX1_proves 83 = .ok (.getfield 76, 3) := dk_180 0 76 (dk_at dksX1_proves_3 11 rfl rfl)
theorem dX1_proves_86 : decode cX1_proves 86 = .ok (.getfield 309, 3) := dk_180 1 53 (dk_at dksX1_proves_3 14 rfl rfl)
theorem dX1_proves_89 : decode cX1_proves 89 = .ok (.if_icmp .lt 5, 3) := dk_161 0 5 (dk_at dksX1_proves_3 17 rfl rfl)
theorem dX1_proves_92 : decode cX1_proves 92 = .ok (.iload_n 2, 1) := dk_28 (dk_at dksX1_proves_3 20 rfl rfl)
theorem dX1_proves_93 : decode cX1_proves 93 = .ok (.ireturn, 1) := dk_172 (dk_at dksX1_proves_3 21 rfl rfl)
theorem dX1_proves_94 : decode cX1_proves 94 = .ok (.iinc 2 1, 3) := dk_132 2 1 (dk_at dksX1_proves_4 0 rfl rfl)
theorem dX1_proves_97 : decode cX1_proves 97 = .ok (.goto (-77), 3) := dk_167 255 179 (dk_at dksX1_proves_4 3 rfl rfl)
theorem dX1_proves_100 : decode cX1_proves 100 = .ok (.iconst (-1), 1) := dk_2 (dk_at dksX1_proves_4 6 rfl rfl)
theorem dX1_proves_101 : decode cX1_proves 101 = .ok (.ireturn, 1) := dk_172 (dk_at dksX1_proves_4 7 rfl rfl)
abbrev cX1_hides : ByteArray := prog_1_method_31_code
def yX1_hides : MethodName := ⟨RX1, "hides", "(I)I"⟩
def dkwX1_hides_2 : List UInt8 := [28, 172]
abbrev dktX1_hides_2 : List UInt8 := dkwX1_hides_2 ++ []
def dkwX1_hides_1 : List UInt8 := [162, 0, 24, 42, 29, 27, 182, 1, 58, 153, 0, 9, 28, 4, 29, 120, 128, 61, 132, 3, 1, 167, 255, 227]
abbrev dktX1_hides_1 : List UInt8 := dkwX1_hides_1 ++ dktX1_hides_2
def dkwX1_hides_0 : List UInt8 := [27, 3, 16, 60, 184, 0, 185, 154, 0, 5, 2, 172, 3, 61, 3, 62, 29, 42, 180, 0, 76, 180, 0, 182]
abbrev dktX1_hides_0 : List UInt8 := dkwX1_hides_0 ++ dktX1_hides_1
theorem dksX1_hides_0 : cX1_hides.data.toList.drop 0 = dktX1_hides_0 := by decide +kernel
theorem dksX1_hides_1 : cX1_hides.data.toList.drop 24 = dktX1_hides_1 := dk_seg dksX1_hides_0 24 rfl rfl
theorem dksX1_hides_2 : cX1_hides.data.toList.drop 48 = dktX1_hides_2 := dk_seg dksX1_hides_1 24 rfl rfl
theorem dX1_hides_0 : decode cX1_hides 0 = .ok (.iload_n 1, 1) := dk_27 (dk_at dksX1_hides_0 0 rfl rfl)
theorem dX1_hides_1 : decode cX1_hides 1 = .ok (.iconst 0, 1) := dk_3 (dk_at dksX1_hides_0 1 rfl rfl)
theorem dX1_hides_2 : decode cX1_hides 2 = .ok (.bipush 60, 2) := dk_16 60 (dk_at dksX1_hides_0 2 rfl rfl)
theorem dX1_hides_4 : decode cX1_hides 4 = .ok (.invokestatic 185, 3) := dk_184 0 185 (dk_at dksX1_hides_0 4 rfl rfl)
theorem dX1_hides_7 : decode cX1_hides 7 = .ok (.ifCond .ne 5, 3) := dk_154 0 5 (dk_at dksX1_hides_0 7 rfl rfl)
theorem dX1_hides_10 : decode cX1_hides 10 = .ok (.iconst (-1), 1) := dk_2 (dk_at dksX1_hides_0 10 rfl rfl)
theorem dX1_hides_11 : decode cX1_hides 11 = .ok (.ireturn, 1) := dk_172 (dk_at dksX1_hides_0 11 rfl rfl)
theorem dX1_hides_12 : decode cX1_hides 12 = .ok (.iconst 0, 1) := dk_3 (dk_at dksX1_hides_0 12 rfl rfl)
theorem dX1_hides_13 : decode cX1_hides 13 = .ok (.istore_n 2, 1) := dk_61 (dk_at dksX1_hides_0 13 rfl rfl)
theorem dX1_hides_14 : decode cX1_hides 14 = .ok (.iconst 0, 1) := dk_3 (dk_at dksX1_hides_0 14 rfl rfl)
theorem dX1_hides_15 : decode cX1_hides 15 = .ok (.istore_n 3, 1) := dk_62 (dk_at dksX1_hides_0 15 rfl rfl)
theorem dX1_hides_16 : decode cX1_hides 16 = .ok (.iload_n 3, 1) := dk_29 (dk_at dksX1_hides_0 16 rfl rfl)
theorem dX1_hides_17 : decode cX1_hides 17 = .ok (.aload_n 0, 1) := dk_42 (dk_at dksX1_hides_0 17 rfl rfl)
theorem dX1_hides_18 : decode cX1_hides 18 = .ok (.getfield 76, 3) := dk_180 0 76 (dk_at dksX1_hides_0 18 rfl rfl)
theorem dX1_hides_21 : decode cX1_hides 21 = .ok (.getfield 182, 3) := dk_180 0 182 (dk_at dksX1_hides_0 21 rfl rfl)
theorem dX1_hides_24 : decode cX1_hides 24 = .ok (.if_icmp .ge 24, 3) := dk_162 0 24 (dk_at dksX1_hides_1 0 rfl rfl)
theorem dX1_hides_27 : decode cX1_hides 27 = .ok (.aload_n 0, 1) := dk_42 (dk_at dksX1_hides_1 3 rfl rfl)
theorem dX1_hides_28 : decode cX1_hides 28 = .ok (.iload_n 3, 1) := dk_29 (dk_at dksX1_hides_1 4 rfl rfl)
theorem dX1_hides_29 : decode cX1_hides 29 = .ok (.iload_n 1, 1) := dk_27 (dk_at dksX1_hides_1 5 rfl rfl)
theorem dX1_hides_30 : decode cX1_hides 30 = .ok (.invokevirtual 314, 3) := dk_182 1 58 (dk_at dksX1_hides_1 6 rfl rfl)
theorem dX1_hides_33 : decode cX1_hides 33 = .ok (.ifCond .eq 9, 3) := dk_153 0 9 (dk_at dksX1_hides_1 9 rfl rfl)
theorem dX1_hides_36 : decode cX1_hides 36 = .ok (.iload_n 2, 1) := dk_28 (dk_at dksX1_hides_1 12 rfl rfl)
theorem dX1_hides_37 : decode cX1_hides 37 = .ok (.iconst 1, 1) := dk_4 (dk_at dksX1_hides_1 13 rfl rfl)
theorem dX1_hides_38 : decode cX1_hides 38 = .ok (.iload_n 3, 1) := dk_29 (dk_at dksX1_hides_1 14 rfl rfl)
theorem dX1_hides_39 : decode cX1_hides 39 = .ok (.ishl, 1) := dk_120 (dk_at dksX1_hides_1 15 rfl rfl)
theorem dX1_hides_40 : decode cX1_hides 40 = .ok (.ior, 1) := dk_128 (dk_at dksX1_hides_1 16 rfl rfl)
theorem dX1_hides_41 : decode cX1_hides 41 = .ok (.istore_n 2, 1) := dk_61 (dk_at dksX1_hides_1 17 rfl rfl)
theorem dX1_hides_42 : decode cX1_hides 42 = .ok (.iinc 3 1, 3) := dk_132 3 1 (dk_at dksX1_hides_1 18 rfl rfl)
theorem dX1_hides_45 : decode cX1_hides 45 = .ok (.goto (-29), 3) := dk_167 255 227 (dk_at dksX1_hides_1 21 rfl rfl)
theorem dX1_hides_48 : decode cX1_hides 48 = .ok (.iload_n 2, 1) := dk_28 (dk_at dksX1_hides_2 0 rfl rfl)
theorem dX1_hides_49 : decode cX1_hides 49 = .ok (.ireturn, 1) := dk_172 (dk_at dksX1_hides_2 1 rfl rfl)
abbrev cX1_isHidden : ByteArray := prog_1_method_30_code
def yX1_isHidden : MethodName := ⟨RX1, "isHidden", "(II)Z"⟩
def dkwX1_isHidden_2 : List UInt8 := [180, 0, 83, 180, 1, 10, 28, 96, 163, 0, 5, 3, 172, 132, 3, 1, 167, 255, 197, 4, 172]
abbrev dktX1_isHidden_2 : List UInt8 := dkwX1_isHidden_2 ++ []
def dkwX1_isHidden_1 : List UInt8 := [182, 0, 223, 27, 184, 0, 217, 153, 0, 29, 42, 180, 0, 83, 42, 180, 0, 76, 29, 182, 1, 55, 42]
abbrev dktX1_isHidden_1 : List UInt8 := dkwX1_isHidden_1 ++ dktX1_isHidden_2
def dkwX1_isHidden_0 : List UInt8 := [3, 62, 29, 42, 180, 0, 76, 180, 0, 189, 162, 0, 54, 42, 180, 0, 83, 42, 180, 0, 76, 29]
abbrev dktX1_isHidden_0 : List UInt8 := dkwX1_isHidden_0 ++ dktX1_isHidden_1
theorem dksX1_isHidden_0 : cX1_isHidden.data.toList.drop 0 = dktX1_isHidden_0 := by decide +kernel
theorem dksX1_isHidden_1 : cX1_isHidden.data.toList.drop 22 = dktX1_isHidden_1 := dk_seg dksX1_isHidden_0 22 rfl rfl
theorem dksX1_isHidden_2 : cX1_isHidden.data.toList.drop 45 = dktX1_isHidden_2 := dk_seg dksX1_isHidden_1 23 rfl rfl
theorem dX1_isHidden_0 : decode cX1_isHidden 0 = .ok (.iconst 0, 1) := dk_3 (dk_at dksX1_isHidden_0 0 rfl rfl)
theorem dX1_isHidden_1 : decode cX1_isHidden 1 = .ok (.istore_n 3, 1) := dk_62 (dk_at dksX1_isHidden_0 1 rfl rfl)
theorem dX1_isHidden_2 : decode cX1_isHidden 2 = .ok (.iload_n 3, 1) := dk_29 (dk_at dksX1_isHidden_0 2 rfl rfl)
theorem dX1_isHidden_3 : decode cX1_isHidden 3 = .ok (.aload_n 0, 1) := dk_42 (dk_at dksX1_isHidden_0 3 rfl rfl)
theorem dX1_isHidden_4 : decode cX1_isHidden 4 = .ok (.getfield 76, 3) := dk_180 0 76 (dk_at dksX1_isHidden_0 4 rfl rfl)
theorem dX1_isHidden_7 : decode cX1_isHidden 7 = .ok (.getfield 189, 3) := dk_180 0 189 (dk_at dksX1_isHidden_0 7 rfl rfl)
theorem dX1_isHidden_10 : decode cX1_isHidden 10 = .ok (.if_icmp .ge 54, 3) := dk_162 0 54 (dk_at dksX1_isHidden_0 10 rfl rfl)
theorem dX1_isHidden_13 : decode cX1_isHidden 13 = .ok (.aload_n 0, 1) := dk_42 (dk_at dksX1_isHidden_0 13 rfl rfl)
theorem dX1_isHidden_14 : decode cX1_isHidden 14 = .ok (.getfield 83, 3) := dk_180 0 83 (dk_at dksX1_isHidden_0 14 rfl rfl)
theorem dX1_isHidden_17 : decode cX1_isHidden 17 = .ok (.aload_n 0, 1) := dk_42 (dk_at dksX1_isHidden_0 17 rfl rfl)
theorem dX1_isHidden_18 : decode cX1_isHidden 18 = .ok (.getfield 76, 3) := dk_180 0 76 (dk_at dksX1_isHidden_0 18 rfl rfl)
theorem dX1_isHidden_21 : decode cX1_isHidden 21 = .ok (.iload_n 3, 1) := dk_29 (dk_at dksX1_isHidden_0 21 rfl rfl)
theorem dX1_isHidden_22 : decode cX1_isHidden 22 = .ok (.invokevirtual 223, 3) := dk_182 0 223 (dk_at dksX1_isHidden_1 0 rfl rfl)
theorem dX1_isHidden_25 : decode cX1_isHidden 25 = .ok (.iload_n 1, 1) := dk_27 (dk_at dksX1_isHidden_1 3 rfl rfl)
theorem dX1_isHidden_26 : decode cX1_isHidden 26 = .ok (.invokestatic 217, 3) := dk_184 0 217 (dk_at dksX1_isHidden_1 4 rfl rfl)
theorem dX1_isHidden_29 : decode cX1_isHidden 29 = .ok (.ifCond .eq 29, 3) := dk_153 0 29 (dk_at dksX1_isHidden_1 7 rfl rfl)
theorem dX1_isHidden_32 : decode cX1_isHidden 32 = .ok (.aload_n 0, 1) := dk_42 (dk_at dksX1_isHidden_1 10 rfl rfl)
theorem dX1_isHidden_33 : decode cX1_isHidden 33 = .ok (.getfield 83, 3) := dk_180 0 83 (dk_at dksX1_isHidden_1 11 rfl rfl)
theorem dX1_isHidden_36 : decode cX1_isHidden 36 = .ok (.aload_n 0, 1) := dk_42 (dk_at dksX1_isHidden_1 14 rfl rfl)
theorem dX1_isHidden_37 : decode cX1_isHidden 37 = .ok (.getfield 76, 3) := dk_180 0 76 (dk_at dksX1_isHidden_1 15 rfl rfl)
theorem dX1_isHidden_40 : decode cX1_isHidden 40 = .ok (.iload_n 3, 1) := dk_29 (dk_at dksX1_isHidden_1 18 rfl rfl)
theorem dX1_isHidden_41 : decode cX1_isHidden 41 = .ok (.invokevirtual 311, 3) := dk_182 1 55 (dk_at dksX1_isHidden_1 19 rfl rfl)
theorem dX1_isHidden_44 : decode cX1_isHidden 44 = .ok (.aload_n 0, 1) := dk_42 (dk_at dksX1_isHidden_1 22 rfl rfl)
theorem dX1_isHidden_45 : decode cX1_isHidden 45 = .ok (.getfield 83, 3) := dk_180 0 83 (dk_at dksX1_isHidden_2 0 rfl rfl)
theorem dX1_isHidden_48 : decode cX1_isHidden 48 = .ok (.getfield 266, 3) := dk_180 1 10 (dk_at dksX1_isHidden_2 3 rfl rfl)
theorem dX1_isHidden_51 : decode cX1_isHidden 51 = .ok (.iload_n 2, 1) := dk_28 (dk_at dksX1_isHidden_2 6 rfl rfl)
theorem dX1_isHidden_52 : decode cX1_isHidden 52 = .ok (.iadd, 1) := dk_96 (dk_at dksX1_isHidden_2 7 rfl rfl)
theorem dX1_isHidden_53 : decode cX1_isHidden 53 = .ok (.if_icmp .gt 5, 3) := dk_163 0 5 (dk_at dksX1_isHidden_2 8 rfl rfl)
theorem dX1_isHidden_56 : decode cX1_isHidden 56 = .ok (.iconst 0, 1) := dk_3 (dk_at dksX1_isHidden_2 11 rfl rfl)
theorem dX1_isHidden_57 : decode cX1_isHidden 57 = .ok (.ireturn, 1) := dk_172 (dk_at dksX1_isHidden_2 12 rfl rfl)
theorem dX1_isHidden_58 : decode cX1_isHidden 58 = .ok (.iinc 3 1, 3) := dk_132 3 1 (dk_at dksX1_isHidden_2 13 rfl rfl)
theorem dX1_isHidden_61 : decode cX1_isHidden 61 = .ok (.goto (-59), 3) := dk_167 255 197 (dk_at dksX1_isHidden_2 16 rfl rfl)
theorem dX1_isHidden_64 : decode cX1_isHidden 64 = .ok (.iconst 1, 1) := dk_4 (dk_at dksX1_isHidden_2 19 rfl rfl)
theorem dX1_isHidden_65 : decode cX1_isHidden 65 = .ok (.ireturn, 1) := dk_172 (dk_at dksX1_isHidden_2 20 rfl rfl)
abbrev cX1_dark : ByteArray := prog_1_method_32_code
def yX1_dark : MethodName := ⟨RX1, "dark", "(I)I"⟩
def dkwX1_dark_3 : List UInt8 := [167, 255, 201, 42, 180, 0, 83, 180, 1, 10, 28, 96, 17, 1, 144, 164, 0, 7, 2, 167, 0, 4, 28, 172]
abbrev dktX1_dark_3 : List UInt8 := dkwX1_dark_3 ++ []
def dkwX1_dark_2 : List UInt8 := [180, 0, 76, 180, 1, 61, 42, 180, 0, 83, 180, 0, 221, 29, 46, 100, 184, 1, 63, 61, 132, 3, 1]
abbrev dktX1_dark_2 : List UInt8 := dkwX1_dark_2 ++ dktX1_dark_3
def dkwX1_dark_1 : List UInt8 := [162, 0, 50, 42, 180, 0, 83, 42, 180, 0, 76, 29, 182, 0, 223, 27, 184, 0, 217, 153, 0, 25, 28, 42]
abbrev dktX1_dark_1 : List UInt8 := dkwX1_dark_1 ++ dktX1_dark_2
def dkwX1_dark_0 : List UInt8 := [42, 27, 182, 1, 4, 154, 0, 5, 2, 172, 3, 61, 3, 62, 29, 42, 180, 0, 76, 180, 0, 189]
abbrev dktX1_dark_0 : List UInt8 := dkwX1_dark_0 ++ dktX1_dark_1
theorem dksX1_dark_0 : cX1_dark.data.toList.drop 0 = dktX1_dark_0 := by decide +kernel
theorem dksX1_dark_1 : cX1_dark.data.toList.drop 22 = dktX1_dark_1 := dk_seg dksX1_dark_0 22 rfl rfl
theorem dksX1_dark_2 : cX1_dark.data.toList.drop 46 = dktX1_dark_2 := dk_seg dksX1_dark_1 24 rfl rfl
theorem dksX1_dark_3 : cX1_dark.data.toList.drop 69 = dktX1_dark_3 := dk_seg dksX1_dark_2 23 rfl rfl
theorem dX1_dark_0 : decode cX1_dark 0 = .ok (.aload_n 0, 1) := dk_42 (dk_at dksX1_dark_0 0 rfl rfl)
theorem dX1_dark_1 : decode cX1_dark 1 = .ok (.iload_n 1, 1) := dk_27 (dk_at dksX1_dark_0 1 rfl rfl)
theorem dX1_dark_2 : decode cX1_dark 2 = .ok (.invokevirtual 260, 3) := dk_182 1 4 (dk_at dksX1_dark_0 2 rfl rfl)
theorem dX1_dark_5 : decode cX1_dark 5 = .ok (.ifCond .ne 5, 3) := dk_154 0 5 (dk_at dksX1_dark_0 5 rfl rfl)
theorem dX1_dark_8 : decode cX1_dark 8 = .ok (.iconst (-1), 1) := dk_2 (dk_at dksX1_dark_0 8 rfl rfl)
theorem dX1_dark_9 : decode cX1_dark 9 = .ok (.ireturn, 1) := dk_172 (dk_at dksX1_dark_0 9 rfl rfl)
theorem dX1_dark_10 : decode cX1_dark 10 = .ok (.iconst 0, 1) := dk_3 (dk_at dksX1_dark_0 10 rfl rfl)
theorem dX1_dark_11 : decode cX1_dark 11 = .ok (.istore_n 2, 1) := dk_61 (dk_at dksX1_dark_0 11 rfl rfl)
theorem dX1_dark_12 : decode cX1_dark 12 = .ok (.iconst 0, 1) := dk_3 (dk_at dksX1_dark_0 12 rfl rfl)
theorem dX1_dark_13 : decode cX1_dark 13 = .ok (.istore_n 3, 1) := dk_62 (dk_at dksX1_dark_0 13 rfl rfl)
theorem dX1_dark_14 : decode cX1_dark 14 = .ok (.iload_n 3, 1) := dk_29 (dk_at dksX1_dark_0 14 rfl rfl)
theorem dX1_dark_15 : decode cX1_dark 15 = .ok (.aload_n 0, 1) := dk_42 (dk_at dksX1_dark_0 15 rfl rfl)
theorem dX1_dark_16 : decode cX1_dark 16 = .ok (.getfield 76, 3) := dk_180 0 76 (dk_at dksX1_dark_0 16 rfl rfl)
theorem dX1_dark_19 : decode cX1_dark 19 = .ok (.getfield 189, 3) := dk_180 0 189 (dk_at dksX1_dark_0 19 rfl rfl)
theorem dX1_dark_22 : decode cX1_dark 22 = .ok (.if_icmp .ge 50, 3) := dk_162 0 50 (dk_at dksX1_dark_1 0 rfl rfl)
theorem dX1_dark_25 : decode cX1_dark 25 = .ok (.aload_n 0, 1) := dk_42 (dk_at dksX1_dark_1 3 rfl rfl)
theorem dX1_dark_26 : decode cX1_dark 26 = .ok (.getfield 83, 3) := dk_180 0 83 (dk_at dksX1_dark_1 4 rfl rfl)
theorem dX1_dark_29 : decode cX1_dark 29 = .ok (.aload_n 0, 1) := dk_42 (dk_at dksX1_dark_1 7 rfl rfl)
theorem dX1_dark_30 : decode cX1_dark 30 = .ok (.getfield 76, 3) := dk_180 0 76 (dk_at dksX1_dark_1 8 rfl rfl)
theorem dX1_dark_33 : decode cX1_dark 33 = .ok (.iload_n 3, 1) := dk_29 (dk_at dksX1_dark_1 11 rfl rfl)
theorem dX1_dark_34 : decode cX1_dark 34 = .ok (.invokevirtual 223, 3) := dk_182 0 223 (dk_at dksX1_dark_1 12 rfl rfl)
theorem dX1_dark_37 : decode cX1_dark 37 = .ok (.iload_n 1, 1) := dk_27 (dk_at dksX1_dark_1 15 rfl rfl)
theorem dX1_dark_38 : decode cX1_dark 38 = .ok (.invokestatic 217, 3) := dk_184 0 217 (dk_at dksX1_dark_1 16 rfl rfl)
theorem dX1_dark_41 : decode cX1_dark 41 = .ok (.ifCond .eq 25, 3) := dk_153 0 25 (dk_at dksX1_dark_1 19 rfl rfl)
theorem dX1_dark_44 : decode cX1_dark 44 = .ok (.iload_n 2, 1) := dk_28 (dk_at dksX1_dark_1 22 rfl rfl)
theorem dX1_dark_45 : decode cX1_dark 45 = .ok (.aload_n 0, 1) := dk_42 (dk_at dksX1_dark_1 23 rfl rfl)
theorem dX1_dark_46 : decode cX1_dark 46 = .ok (.getfield 76, 3) := dk_180 0 76 (dk_at dksX1_dark_2 0 rfl rfl)
theorem dX1_dark_49 : decode cX1_dark 49 = .ok (.getfield 317, 3) := dk_180 1 61 (dk_at dksX1_dark_2 3 rfl rfl)
theorem dX1_dark_52 : decode cX1_dark 52 = .ok (.aload_n 0, 1) := dk_42 (dk_at dksX1_dark_2 6 rfl rfl)
theorem dX1_dark_53 : decode cX1_dark 53 = .ok (.getfield 83, 3) := dk_180 0 83 (dk_at dksX1_dark_2 7 rfl rfl)
theorem dX1_dark_56 : decode cX1_dark 56 = .ok (.getfield 221, 3) := dk_180 0 221 (dk_at dksX1_dark_2 10 rfl rfl)
theorem dX1_dark_59 : decode cX1_dark 59 = .ok (.iload_n 3, 1) := dk_29 (dk_at dksX1_dark_2 13 rfl rfl)
theorem dX1_dark_60 : decode cX1_dark 60 = .ok (.iaload, 1) := dk_46 (dk_at dksX1_dark_2 14 rfl rfl)
theorem dX1_dark_61 : decode cX1_dark 61 = .ok (.isub, 1) := dk_100 (dk_at dksX1_dark_2 15 rfl rfl)
theorem dX1_dark_62 : decode cX1_dark 62 = .ok (.invokestatic 319, 3) := dk_184 1 63 (dk_at dksX1_dark_2 16 rfl rfl)
theorem dX1_dark_65 : decode cX1_dark 65 = .ok (.istore_n 2, 1) := dk_61 (dk_at dksX1_dark_2 19 rfl rfl)
theorem dX1_dark_66 : decode cX1_dark 66 = .ok (.iinc 3 1, 3) := dk_132 3 1 (dk_at dksX1_dark_2 20 rfl rfl)
theorem dX1_dark_69 : decode cX1_dark 69 = .ok (.goto (-55), 3) := dk_167 255 201 (dk_at dksX1_dark_3 0 rfl rfl)
theorem dX1_dark_72 : decode cX1_dark 72 = .ok (.aload_n 0, 1) := dk_42 (dk_at dksX1_dark_3 3 rfl rfl)
theorem dX1_dark_73 : decode cX1_dark 73 = .ok (.getfield 83, 3) := dk_180 0 83 (dk_at dksX1_dark_3 4 rfl rfl)
theorem dX1_dark_76 : decode cX1_dark 76 = .ok (.getfield 266, 3) := dk_180 1 10 (dk_at dksX1_dark_3 7 rfl rfl)
theorem dX1_dark_79 : decode cX1_dark 79 = .ok (.iload_n 2, 1) := dk_28 (dk_at dksX1_dark_3 10 rfl rfl)
theorem dX1_dark_80 : decode cX1_dark 80 = .ok (.iadd, 1) := dk_96 (dk_at dksX1_dark_3 11 rfl rfl)
theorem dX1_dark_81 : decode cX1_dark 81 = .ok (.sipush 400, 3) := dk_17 1 144 (dk_at dksX1_dark_3 12 rfl rfl)
theorem dX1_dark_84 : decode cX1_dark 84 = .ok (.if_icmp .le 7, 3) := dk_164 0 7 (dk_at dksX1_dark_3 15 rfl rfl)
theorem dX1_dark_87 : decode cX1_dark 87 = .ok (.iconst (-1), 1) := dk_2 (dk_at dksX1_dark_3 18 rfl rfl)
theorem dX1_dark_88 : decode cX1_dark 88 = .ok (.goto 4, 3) := dk_167 0 4 (dk_at dksX1_dark_3 19 rfl rfl)
theorem dX1_dark_91 : decode cX1_dark 91 = .ok (.iload_n 2, 1) := dk_28 (dk_at dksX1_dark_3 22 rfl rfl)
theorem dX1_dark_92 : decode cX1_dark 92 = .ok (.ireturn, 1) := dk_172 (dk_at dksX1_dark_3 23 rfl rfl)
abbrev cX1_fits : ByteArray := prog_1_method_34_code
def yX1_fits : MethodName := ⟨RX1, "fits", "()I"⟩
def dkwX1_fits_7 : List UInt8 := [42, 28, 181, 1, 83, 132, 2, 1, 167, 255, 219, 27, 172]
abbrev dktX1_fits_7 : List UInt8 := dkwX1_fits_7 ++ []
def dkwX1_fits_6 : List UInt8 := [180, 0, 189, 162, 0, 32, 42, 27, 28, 182, 1, 86, 42, 27, 42, 180, 1, 83, 182, 1, 86, 162, 0, 8]
abbrev dktX1_fits_6 : List UInt8 := dkwX1_fits_6 ++ dktX1_fits_7
def dkwX1_fits_5 : List UInt8 := [154, 0, 5, 3, 172, 42, 4, 181, 1, 79, 42, 3, 181, 1, 83, 4, 61, 28, 42, 180, 0, 76]
abbrev dktX1_fits_5 : List UInt8 := dkwX1_fits_5 ++ dktX1_fits_6
def dkwX1_fits_4 : List UInt8 := [182, 1, 76, 4, 160, 0, 7, 29, 167, 0, 6, 29, 2, 130, 126, 60, 132, 2, 2, 167, 255, 182, 27]
abbrev dktX1_fits_4 : List UInt8 := dkwX1_fits_4 ++ dktX1_fits_5
def dkwX1_fits_3 : List UInt8 := [42, 180, 0, 83, 42, 180, 0, 76, 42, 28, 182, 1, 76, 182, 0, 223, 62, 27, 42, 28, 4, 96]
abbrev dktX1_fits_3 : List UInt8 := dkwX1_fits_3 ++ dktX1_fits_4
def dkwX1_fits_2 : List UInt8 := [42, 28, 182, 1, 76, 182, 0, 201, 153, 0, 14, 42, 28, 4, 96, 182, 1, 76, 4, 164, 0, 5, 2, 172]
abbrev dktX1_fits_2 : List UInt8 := dkwX1_fits_2 ++ dktX1_fits_3
def dkwX1_fits_1 : List UInt8 := [160, 0, 5, 2, 172, 42, 180, 0, 76, 182, 1, 15, 60, 3, 61, 28, 42, 180, 0, 153, 162, 0, 72, 42]
abbrev dktX1_fits_1 : List UInt8 := dkwX1_fits_1 ++ dktX1_fits_2
def dkwX1_fits_0 : List UInt8 := [42, 182, 0, 159, 42, 180, 0, 153, 5, 16, 12, 184, 0, 185, 153, 0, 13, 42, 180, 0, 153, 5, 112, 4]
abbrev dktX1_fits_0 : List UInt8 := dkwX1_fits_0 ++ dktX1_fits_1
theorem dksX1_fits_0 : cX1_fits.data.toList.drop 0 = dktX1_fits_0 := by decide +kernel
theorem dksX1_fits_1 : cX1_fits.data.toList.drop 24 = dktX1_fits_1 := dk_seg dksX1_fits_0 24 rfl rfl
theorem dksX1_fits_2 : cX1_fits.data.toList.drop 48 = dktX1_fits_2 := dk_seg dksX1_fits_1 24 rfl rfl
theorem dksX1_fits_3 : cX1_fits.data.toList.drop 72 = dktX1_fits_3 := dk_seg dksX1_fits_2 24 rfl rfl
theorem dksX1_fits_4 : cX1_fits.data.toList.drop 94 = dktX1_fits_4 := dk_seg dksX1_fits_3 22 rfl rfl
theorem dksX1_fits_5 : cX1_fits.data.toList.drop 117 = dktX1_fits_5 := dk_seg dksX1_fits_4 23 rfl rfl
theorem dksX1_fits_6 : cX1_fits.data.toList.drop 139 = dktX1_fits_6 := dk_seg dksX1_fits_5 22 rfl rfl
theorem dksX1_fits_7 : cX1_fits.data.toList.drop 163 = dktX1_fits_7 := dk_seg dksX1_fits_6 24 rfl rfl
theorem dX1_fits_0 : decode cX1_fits 0 = .ok (.aload_n 0, 1) := dk_42 (dk_at dksX1_fits_0 0 rfl rfl)
theorem dX1_fits_1 : decode cX1_fits 1 = .ok (.invokevirtual 159, 3) := dk_182 0 159 (dk_at dksX1_fits_0 1 rfl rfl)
theorem dX1_fits_4 : decode cX1_fits 4 = .ok (.aload_n 0, 1) := dk_42 (dk_at dksX1_fits_0 4 rfl rfl)
theorem dX1_fits_5 : decode cX1_fits 5 = .ok (.getfield 153, 3) := dk_180 0 153 (dk_at dksX1_fits_0 5 rfl rfl)
theorem dX1_fits_8 : decode cX1_fits 8 = .ok (.iconst 2, 1) := dk_5 (dk_at dksX1_fits_0 8 rfl rfl)
theorem dX1_fits_9 : decode cX1_fits 9 = .ok (.bipush 12, 2) := dk_16 12 (dk_at dksX1_fits_0 9 rfl rfl)
theorem dX1_fits_11 : decode cX1_fits 11 = .ok (.invokestatic 185, 3) := dk_184 0 185 (dk_at dksX1_fits_0 11 rfl rfl)
theorem dX1_fits_14 : decode cX1_fits 14 = .ok (.ifCond .eq 13, 3) := dk_153 0 13 (dk_at dksX1_fits_0 14 rfl rfl)
theorem dX1_fits_17 : decode cX1_fits 17 = .ok (.aload_n 0, 1) := dk_42 (dk_at dksX1_fits_0 17 rfl rfl)
theorem dX1_fits_18 : decode cX1_fits 18 = .ok (.getfield 153, 3) := dk_180 0 153 (dk_at dksX1_fits_0 18 rfl rfl)
theorem dX1_fits_21 : decode cX1_fits 21 = .ok (.iconst 2, 1) := dk_5 (dk_at dksX1_fits_0 21 rfl rfl)
theorem dX1_fits_22 : decode cX1_fits 22 = .ok (.irem, 1) := dk_112 (dk_at dksX1_fits_0 22 rfl rfl)
theorem dX1_fits_23 : decode cX1_fits 23 = .ok (.iconst 1, 1) := dk_4 (dk_at dksX1_fits_0 23 rfl rfl)
theorem dX1_fits_24 : decode cX1_fits 24 = .ok (.if_icmp .ne 5, 3) := dk_160 0 5 (dk_at dksX1_fits_1 0 rfl rfl)
theorem dX1_fits_27 : decode cX1_fits 27 = .ok (.iconst (-1), 1) := dk_2 (dk_at dksX1_fits_1 3 rfl rfl)
theorem dX1_fits_28 : decode cX1_fits 28 = .ok (.ireturn, 1) := dk_172 (dk_at dksX1_fits_1 4 rfl rfl)
theorem dX1_fits_29 : decode cX1_fits 29 = .ok (.aload_n 0, 1) := dk_42 (dk_at dksX1_fits_1 5 rfl rfl)
theorem dX1_fits_30 : decode cX1_fits 30 = .ok (.getfield 76, 3) := dk_180 0 76 (dk_at dksX1_fits_1 6 rfl rfl)
theorem dX1_fits_33 : decode cX1_fits 33 = .ok (.invokevirtual 271, 3) := dk_182 1 15 (dk_at dksX1_fits_1 9 rfl rfl)
theorem dX1_fits_36 : decode cX1_fits 36 = .ok (.istore_n 1, 1) := dk_60 (dk_at dksX1_fits_1 12 rfl rfl)
theorem dX1_fits_37 : decode cX1_fits 37 = .ok (.iconst 0, 1) := dk_3 (dk_at dksX1_fits_1 13 rfl rfl)
theorem dX1_fits_38 : decode cX1_fits 38 = .ok (.istore_n 2, 1) := dk_61 (dk_at dksX1_fits_1 14 rfl rfl)
theorem dX1_fits_39 : decode cX1_fits 39 = .ok (.iload_n 2, 1) := dk_28 (dk_at dksX1_fits_1 15 rfl rfl)
theorem dX1_fits_40 : decode cX1_fits 40 = .ok (.aload_n 0, 1) := dk_42 (dk_at dksX1_fits_1 16 rfl rfl)
theorem dX1_fits_41 : decode cX1_fits 41 = .ok (.getfield 153, 3) := dk_180 0 153 (dk_at dksX1_fits_1 17 rfl rfl)
theorem dX1_fits_44 : decode cX1_fits 44 = .ok (.if_icmp .ge 72, 3) := dk_162 0 72 (dk_at dksX1_fits_1 20 rfl rfl)
theorem dX1_fits_47 : decode cX1_fits 47 = .ok (.aload_n 0, 1) := dk_42 (dk_at dksX1_fits_1 23 rfl rfl)
theorem dX1_fits_48 : decode cX1_fits 48 = .ok (.aload_n 0, 1) := dk_42 (dk_at dksX1_fits_2 0 rfl rfl)
theorem dX1_fits_49 : decode cX1_fits 49 = .ok (.iload_n 2, 1) := dk_28 (dk_at dksX1_fits_2 1 rfl rfl)
theorem dX1_fits_50 : decode cX1_fits 50 = .ok (.invokevirtual 332, 3) := dk_182 1 76 (dk_at dksX1_fits_2 2 rfl rfl)
theorem dX1_fits_53 : decode cX1_fits 53 = .ok (.invokevirtual 201, 3) := dk_182 0 201 (dk_at dksX1_fits_2 5 rfl rfl)
theorem dX1_fits_56 : decode cX1_fits 56 = .ok (.ifCond .eq 14, 3) := dk_153 0 14 (dk_at dksX1_fits_2 8 rfl rfl)
theorem dX1_fits_59 : decode cX1_fits 59 = .ok (.aload_n 0, 1) := dk_42 (dk_at dksX1_fits_2 11 rfl rfl)
theorem dX1_fits_60 : decode cX1_fits 60 = .ok (.iload_n 2, 1) := dk_28 (dk_at dksX1_fits_2 12 rfl rfl)
theorem dX1_fits_61 : decode cX1_fits 61 = .ok (.iconst 1, 1) := dk_4 (dk_at dksX1_fits_2 13 rfl rfl)
theorem dX1_fits_62 : decode cX1_fits 62 = .ok (.iadd, 1) := dk_96 (dk_at dksX1_fits_2 14 rfl rfl)
theorem dX1_fits_63 : decode cX1_fits 63 = .ok (.invokevirtual 332, 3) := dk_182 1 76 (dk_at dksX1_fits_2 15 rfl rfl)
theorem dX1_fits_66 : decode cX1_fits 66 = .ok (.iconst 1, 1) := dk_4 (dk_at dksX1_fits_2 18 rfl rfl)
theorem dX1_fits_67 : decode cX1_fits 67 = .ok (.if_icmp .le 5, 3) := dk_164 0 5 (dk_at dksX1_fits_2 19 rfl rfl)
theorem dX1_fits_70 : decode cX1_fits 70 = .ok (.iconst (-1), 1) := dk_2 (dk_at dksX1_fits_2 22 rfl rfl)
theorem dX1_fits_71 : decode cX1_fits 71 = .ok (.ireturn, 1) := dk_172 (dk_at dksX1_fits_2 23 rfl rfl)
theorem dX1_fits_72 : decode cX1_fits 72 = .ok (.aload_n 0, 1) := dk_42 (dk_at dksX1_fits_3 0 rfl rfl)
theorem dX1_fits_73 : decode cX1_fits 73 = .ok (.getfield 83, 3) := dk_180 0 83 (dk_at dksX1_fits_3 1 rfl rfl)
theorem dX1_fits_76 : decode cX1_fits 76 = .ok (.aload_n 0, 1) := dk_42 (dk_at dksX1_fits_3 4 rfl rfl)
theorem dX1_fits_77 : decode cX1_fits 77 = .ok (.getfield 76, 3) := dk_180 0 76 (dk_at dksX1_fits_3 5 rfl rfl)
theorem dX1_fits_80 : decode cX1_fits 80 = .ok (.aload_n 0, 1) := dk_42 (dk_at dksX1_fits_3 8 rfl rfl)
theorem dX1_fits_81 : decode cX1_fits 81 = .ok (.iload_n 2, 1) := dk_28 (dk_at dksX1_fits_3 9 rfl rfl)
theorem dX1_fits_82 : decode cX1_fits 82 = .ok (.invokevirtual 332, 3) := dk_182 1 76 (dk_at dksX1_fits_3 10 rfl rfl)
theorem dX1_fits_85 : decode cX1_fits 85 = .ok (.invokevirtual 223, 3) := dk_182 0 223 (dk_at dksX1_fits_3 13 rfl rfl)
theorem dX1_fits_88 : decode cX1_fits 88 = .ok (.istore_n 3, 1) := dk_62 (dk_at dksX1_fits_3 16 rfl rfl)
theorem dX1_fits_89 : decode cX1_fits 89 = .ok (.iload_n 1, 1) := dk_27 (dk_at dksX1_fits_3 17 rfl rfl)
theorem dX1_fits_90 : decode cX1_fits 90 = .ok (.aload_n 0, 1) := dk_42 (dk_at dksX1_fits_3 18 rfl rfl)
theorem dX1_fits_91 : decode cX1_fits 91 = .ok (.iload_n 2, 1) := dk_28 (dk_at dksX1_fits_3 19 rfl rfl)
theorem dX1_fits_92 : decode cX1_fits 92 = .ok (.iconst 1, 1) := dk_4 (dk_at dksX1_fits_3 20 rfl rfl)
theorem dX1_fits_93 : decode cX1_fits 93 = .ok (.iadd, 1) := dk_96 (dk_at dksX1_fits_3 21 rfl rfl)
theorem dX1_fits_94 : decode cX1_fits 94 = .ok (.invokevirtual 332, 3) := dk_182 1 76 (dk_at dksX1_fits_4 0 rfl rfl)
theorem dX1_fits_97 : decode cX1_fits 97 = .ok (.iconst 1, 1) := dk_4 (dk_at dksX1_fits_4 3 rfl rfl)
theorem dX1_fits_98 : decode cX1_fits 98 = .ok (.if_icmp .ne 7, 3) := dk_160 0 7 (dk_at dksX1_fits_4 4 rfl rfl)
theorem dX1_fits_101 : decode cX1_fits 101 = .ok (.iload_n 3, 1) := dk_29 (dk_at dksX1_fits_4 7 rfl rfl)
theorem dX1_fits_102 : decode cX1_fits 102 = .ok (.goto 6, 3) := dk_167 0 6 (dk_at dksX1_fits_4 8 rfl rfl)
theorem dX1_fits_105 : decode cX1_fits 105 = .ok (.iload_n 3, 1) := dk_29 (dk_at dksX1_fits_4 11 rfl rfl)
theorem dX1_fits_106 : decode cX1_fits 106 = .ok (.iconst (-1), 1) := dk_2 (dk_at dksX1_fits_4 12 rfl rfl)
theorem dX1_fits_107 : decode cX1_fits 107 = .ok (.ixor, 1) := dk_130 (dk_at dksX1_fits_4 13 rfl rfl)
theorem dX1_fits_108 : decode cX1_fits 108 = .ok (.iand, 1) := dk_126 (dk_at dksX1_fits_4 14 rfl rfl)
theorem dX1_fits_109 : decode cX1_fits 109 = .ok (.istore_n 1, 1) := dk_60 (dk_at dksX1_fits_4 15 rfl rfl)
theorem dX1_fits_110 : decode cX1_fits 110 = .ok (.iinc 2 2, 3) := dk_132 2 2 (dk_at dksX1_fits_4 16 rfl rfl)
theorem dX1_fits_113 : decode cX1_fits 113 = .ok (.goto (-74), 3) := dk_167 255 182 (dk_at dksX1_fits_4 19 rfl rfl)
theorem dX1_fits_116 : decode cX1_fits 116 = .ok (.iload_n 1, 1) := dk_27 (dk_at dksX1_fits_4 22 rfl rfl)
theorem dX1_fits_117 : decode cX1_fits 117 = .ok (.ifCond .ne 5, 3) := dk_154 0 5 (dk_at dksX1_fits_5 0 rfl rfl)
theorem dX1_fits_120 : decode cX1_fits 120 = .ok (.iconst 0, 1) := dk_3 (dk_at dksX1_fits_5 3 rfl rfl)
theorem dX1_fits_121 : decode cX1_fits 121 = .ok (.ireturn, 1) := dk_172 (dk_at dksX1_fits_5 4 rfl rfl)
theorem dX1_fits_122 : decode cX1_fits 122 = .ok (.aload_n 0, 1) := dk_42 (dk_at dksX1_fits_5 5 rfl rfl)
theorem dX1_fits_123 : decode cX1_fits 123 = .ok (.iconst 1, 1) := dk_4 (dk_at dksX1_fits_5 6 rfl rfl)
theorem dX1_fits_124 : decode cX1_fits 124 = .ok (.putfield 335, 3) := dk_181 1 79 (dk_at dksX1_fits_5 7 rfl rfl)
theorem dX1_fits_127 : decode cX1_fits 127 = .ok (.aload_n 0, 1) := dk_42 (dk_at dksX1_fits_5 10 rfl rfl)
theorem dX1_fits_128 : decode cX1_fits 128 = .ok (.iconst 0, 1) := dk_3 (dk_at dksX1_fits_5 11 rfl rfl)
theorem dX1_fits_129 : decode cX1_fits 129 = .ok (.putfield 339, 3) := dk_181 1 83 (dk_at dksX1_fits_5 12 rfl rfl)
theorem dX1_fits_132 : decode cX1_fits 132 = .ok (.iconst 1, 1) := dk_4 (dk_at dksX1_fits_5 15 rfl rfl)
theorem dX1_fits_133 : decode cX1_fits 133 = .ok (.istore_n 2, 1) := dk_61 (dk_at dksX1_fits_5 16 rfl rfl)
theorem dX1_fits_134 : decode cX1_fits 134 = .ok (.iload_n 2, 1) := dk_28 (dk_at dksX1_fits_5 17 rfl rfl)
theorem dX1_fits_135 : decode cX1_fits 135 = .ok (.aload_n 0, 1) := dk_42 (dk_at dksX1_fits_5 18 rfl rfl)
theorem dX1_fits_136 : decode cX1_fits 136 = .ok (.getfield 76, 3) := dk_180 0 76 (dk_at dksX1_fits_5 19 rfl rfl)
theorem dX1_fits_139 : decode cX1_fits 139 = .ok (.getfield 189, 3) := dk_180 0 189 (dk_at dksX1_fits_6 0 rfl rfl)
theorem dX1_fits_142 : decode cX1_fits 142 = .ok (.if_icmp .ge 32, 3) := dk_162 0 32 (dk_at dksX1_fits_6 3 rfl rfl)
theorem dX1_fits_145 : decode cX1_fits 145 = .ok (.aload_n 0, 1) := dk_42 (dk_at dksX1_fits_6 6 rfl rfl)
theorem dX1_fits_146 : decode cX1_fits 146 = .ok (.iload_n 1, 1) := dk_27 (dk_at dksX1_fits_6 7 rfl rfl)
theorem dX1_fits_147 : decode cX1_fits 147 = .ok (.iload_n 2, 1) := dk_28 (dk_at dksX1_fits_6 8 rfl rfl)
theorem dX1_fits_148 : decode cX1_fits 148 = .ok (.invokevirtual 342, 3) := dk_182 1 86 (dk_at dksX1_fits_6 9 rfl rfl)
theorem dX1_fits_151 : decode cX1_fits 151 = .ok (.aload_n 0, 1) := dk_42 (dk_at dksX1_fits_6 12 rfl rfl)
theorem dX1_fits_152 : decode cX1_fits 152 = .ok (.iload_n 1, 1) := dk_27 (dk_at dksX1_fits_6 13 rfl rfl)
theorem dX1_fits_153 : decode cX1_fits 153 = .ok (.aload_n 0, 1) := dk_42 (dk_at dksX1_fits_6 14 rfl rfl)
theorem dX1_fits_154 : decode cX1_fits 154 = .ok (.getfield 339, 3) := dk_180 1 83 (dk_at dksX1_fits_6 15 rfl rfl)
theorem dX1_fits_157 : decode cX1_fits 157 = .ok (.invokevirtual 342, 3) := dk_182 1 86 (dk_at dksX1_fits_6 18 rfl rfl)
theorem dX1_fits_160 : decode cX1_fits 160 = .ok (.if_icmp .ge 8, 3) := dk_162 0 8 (dk_at dksX1_fits_6 21 rfl rfl)
theorem dX1_fits_163 : decode cX1_fits 163 = .ok (.aload_n 0, 1) := dk_42 (dk_at dksX1_fits_7 0 rfl rfl)
theorem dX1_fits_164 : decode cX1_fits 164 = .ok (.iload_n 2, 1) := dk_28 (dk_at dksX1_fits_7 1 rfl rfl)
theorem dX1_fits_165 : decode cX1_fits 165 = .ok (.putfield 339, 3) := dk_181 1 83 (dk_at dksX1_fits_7 2 rfl rfl)
theorem dX1_fits_168 : decode cX1_fits 168 = .ok (.iinc 2 1, 3) := dk_132 2 1 (dk_at dksX1_fits_7 5 rfl rfl)
theorem dX1_fits_171 : decode cX1_fits 171 = .ok (.goto (-37), 3) := dk_167 255 219 (dk_at dksX1_fits_7 8 rfl rfl)
theorem dX1_fits_174 : decode cX1_fits 174 = .ok (.iload_n 1, 1) := dk_27 (dk_at dksX1_fits_7 11 rfl rfl)
theorem dX1_fits_175 : decode cX1_fits 175 = .ok (.ireturn, 1) := dk_172 (dk_at dksX1_fits_7 12 rfl rfl)
abbrev cX1_one : ByteArray := prog_1_method_6_code
def yX1_one : MethodName := ⟨RX1, "one", "(I)I"⟩
def dkwX1_one_0 : List UInt8 := [42, 180, 0, 9, 27, 51, 17, 0, 255, 126, 172]
abbrev dktX1_one_0 : List UInt8 := dkwX1_one_0 ++ []
theorem dksX1_one_0 : cX1_one.data.toList.drop 0 = dktX1_one_0 := by decide +kernel
theorem dX1_one_0 : decode cX1_one 0 = .ok (.aload_n 0, 1) := dk_42 (dk_at dksX1_one_0 0 rfl rfl)
theorem dX1_one_1 : decode cX1_one 1 = .ok (.getfield 9, 3) := dk_180 0 9 (dk_at dksX1_one_0 1 rfl rfl)
theorem dX1_one_4 : decode cX1_one 4 = .ok (.iload_n 1, 1) := dk_27 (dk_at dksX1_one_0 4 rfl rfl)
theorem dX1_one_5 : decode cX1_one 5 = .ok (.baload, 1) := dk_51 (dk_at dksX1_one_0 5 rfl rfl)
theorem dX1_one_6 : decode cX1_one 6 = .ok (.sipush 255, 3) := dk_17 0 255 (dk_at dksX1_one_0 6 rfl rfl)
theorem dX1_one_9 : decode cX1_one 9 = .ok (.iand, 1) := dk_126 (dk_at dksX1_one_0 9 rfl rfl)
theorem dX1_one_10 : decode cX1_one 10 = .ok (.ireturn, 1) := dk_172 (dk_at dksX1_one_0 10 rfl rfl)
abbrev cX1_offBy : ByteArray := prog_1_method_33_code
def yX1_offBy : MethodName := ⟨RX1, "offBy", "(II)I"⟩
def dkwX1_offBy_1 : List UInt8 := [184, 1, 73, 172]
abbrev dktX1_offBy_1 : List UInt8 := dkwX1_offBy_1 ++ []
def dkwX1_offBy_0 : List UInt8 := [27, 184, 1, 68, 5, 27, 42, 180, 0, 83, 42, 180, 0, 76, 28, 182, 0, 223, 126, 184, 1, 68, 104, 100]
abbrev dktX1_offBy_0 : List UInt8 := dkwX1_offBy_0 ++ dktX1_offBy_1
theorem dksX1_offBy_0 : cX1_offBy.data.toList.drop 0 = dktX1_offBy_0 := by decide +kernel
theorem dksX1_offBy_1 : cX1_offBy.data.toList.drop 24 = dktX1_offBy_1 := dk_seg dksX1_offBy_0 24 rfl rfl
theorem dX1_offBy_0 : decode cX1_offBy 0 = .ok (.iload_n 1, 1) := dk_27 (dk_at dksX1_offBy_0 0 rfl rfl)
theorem dX1_offBy_1 : decode cX1_offBy 1 = .ok (.invokestatic 324, 3) := dk_184 1 68 (dk_at dksX1_offBy_0 1 rfl rfl)
theorem dX1_offBy_4 : decode cX1_offBy 4 = .ok (.iconst 2, 1) := dk_5 (dk_at dksX1_offBy_0 4 rfl rfl)
theorem dX1_offBy_5 : decode cX1_offBy 5 = .ok (.iload_n 1, 1) := dk_27 (dk_at dksX1_offBy_0 5 rfl rfl)
theorem dX1_offBy_6 : decode cX1_offBy 6 = .ok (.aload_n 0, 1) := dk_42 (dk_at dksX1_offBy_0 6 rfl rfl)
theorem dX1_offBy_7 : decode cX1_offBy 7 = .ok (.getfield 83, 3) := dk_180 0 83 (dk_at dksX1_offBy_0 7 rfl rfl)
theorem dX1_offBy_10 : decode cX1_offBy 10 = .ok (.aload_n 0, 1) := dk_42 (dk_at dksX1_offBy_0 10 rfl rfl)
theorem dX1_offBy_11 : decode cX1_offBy 11 = .ok (.getfield 76, 3) := dk_180 0 76 (dk_at dksX1_offBy_0 11 rfl rfl)
theorem dX1_offBy_14 : decode cX1_offBy 14 = .ok (.iload_n 2, 1) := dk_28 (dk_at dksX1_offBy_0 14 rfl rfl)
theorem dX1_offBy_15 : decode cX1_offBy 15 = .ok (.invokevirtual 223, 3) := dk_182 0 223 (dk_at dksX1_offBy_0 15 rfl rfl)
theorem dX1_offBy_18 : decode cX1_offBy 18 = .ok (.iand, 1) := dk_126 (dk_at dksX1_offBy_0 18 rfl rfl)
theorem dX1_offBy_19 : decode cX1_offBy 19 = .ok (.invokestatic 324, 3) := dk_184 1 68 (dk_at dksX1_offBy_0 19 rfl rfl)
theorem dX1_offBy_22 : decode cX1_offBy 22 = .ok (.imul, 1) := dk_104 (dk_at dksX1_offBy_0 22 rfl rfl)
theorem dX1_offBy_23 : decode cX1_offBy 23 = .ok (.isub, 1) := dk_100 (dk_at dksX1_offBy_0 23 rfl rfl)
theorem dX1_offBy_24 : decode cX1_offBy 24 = .ok (.invokestatic 329, 3) := dk_184 1 73 (dk_at dksX1_offBy_1 0 rfl rfl)
theorem dX1_offBy_27 : decode cX1_offBy 27 = .ok (.ireturn, 1) := dk_172 (dk_at dksX1_offBy_1 3 rfl rfl)
abbrev cX1_ask : ByteArray := prog_1_method_35_code
def yX1_ask : MethodName := ⟨RX1, "ask", "()I"⟩
def dkwX1_ask_0 : List UInt8 := [42, 180, 1, 79, 153, 0, 10, 42, 180, 1, 83, 167, 0, 4, 2, 172]
abbrev dktX1_ask_0 : List UInt8 := dkwX1_ask_0 ++ []
theorem dksX1_ask_0 : cX1_ask.data.toList.drop 0 = dktX1_ask_0 := by decide +kernel
theorem dX1_ask_0 : decode cX1_ask 0 = .ok (.aload_n 0, 1) := dk_42 (dk_at dksX1_ask_0 0 rfl rfl)
theorem dX1_ask_1 : decode cX1_ask 1 = .ok (.getfield 335, 3) := dk_180 1 79 (dk_at dksX1_ask_0 1 rfl rfl)
theorem dX1_ask_4 : decode cX1_ask 4 = .ok (.ifCond .eq 10, 3) := dk_153 0 10 (dk_at dksX1_ask_0 4 rfl rfl)
theorem dX1_ask_7 : decode cX1_ask 7 = .ok (.aload_n 0, 1) := dk_42 (dk_at dksX1_ask_0 7 rfl rfl)
theorem dX1_ask_8 : decode cX1_ask 8 = .ok (.getfield 339, 3) := dk_180 1 83 (dk_at dksX1_ask_0 8 rfl rfl)
theorem dX1_ask_11 : decode cX1_ask 11 = .ok (.goto 4, 3) := dk_167 0 4 (dk_at dksX1_ask_0 11 rfl rfl)
theorem dX1_ask_14 : decode cX1_ask 14 = .ok (.iconst (-1), 1) := dk_2 (dk_at dksX1_ask_0 14 rfl rfl)
theorem dX1_ask_15 : decode cX1_ask 15 = .ok (.ireturn, 1) := dk_172 (dk_at dksX1_ask_0 15 rfl rfl)
abbrev cX1_cover : ByteArray := prog_1_method_36_code
def yX1_cover : MethodName := ⟨RX1, "cover", "()I"⟩
def dkwX1_cover_3 : List UInt8 := [27, 184, 1, 68, 172]
abbrev dktX1_cover_3 : List UInt8 := dkwX1_cover_3 ++ []
def dkwX1_cover_2 : List UInt8 := [184, 1, 68, 162, 0, 5, 28, 60, 132, 2, 1, 167, 255, 211, 42, 4, 181, 1, 92, 42, 27, 181, 1, 95]
abbrev dktX1_cover_2 : List UInt8 := dkwX1_cover_2 ++ dktX1_cover_3
def dkwX1_cover_1 : List UInt8 := [180, 0, 76, 28, 182, 1, 89, 42, 180, 0, 76, 182, 1, 15, 160, 0, 16, 28, 184, 1, 68, 27]
abbrev dktX1_cover_1 : List UInt8 := dkwX1_cover_1 ++ dktX1_cover_2
def dkwX1_cover_0 : List UInt8 := [42, 180, 0, 76, 182, 1, 15, 60, 3, 61, 28, 42, 180, 0, 76, 182, 1, 15, 162, 0, 40, 42]
abbrev dktX1_cover_0 : List UInt8 := dkwX1_cover_0 ++ dktX1_cover_1
theorem dksX1_cover_0 : cX1_cover.data.toList.drop 0 = dktX1_cover_0 := by decide +kernel
theorem dksX1_cover_1 : cX1_cover.data.toList.drop 22 = dktX1_cover_1 := dk_seg dksX1_cover_0 22 rfl rfl
theorem dksX1_cover_2 : cX1_cover.data.toList.drop 44 = dktX1_cover_2 := dk_seg dksX1_cover_1 22 rfl rfl
theorem dksX1_cover_3 : cX1_cover.data.toList.drop 68 = dktX1_cover_3 := dk_seg dksX1_cover_2 24 rfl rfl
theorem dX1_cover_0 : decode cX1_cover 0 = .ok (.aload_n 0, 1) := dk_42 (dk_at dksX1_cover_0 0 rfl rfl)
theorem dX1_cover_1 : decode cX1_cover 1 = .ok (.getfield 76, 3) := dk_180 0 76 (dk_at dksX1_cover_0 1 rfl rfl)
theorem dX1_cover_4 : decode cX1_cover 4 = .ok (.invokevirtual 271, 3) := dk_182 1 15 (dk_at dksX1_cover_0 4 rfl rfl)
theorem dX1_cover_7 : decode cX1_cover 7 = .ok (.istore_n 1, 1) := dk_60 (dk_at dksX1_cover_0 7 rfl rfl)
theorem dX1_cover_8 : decode cX1_cover 8 = .ok (.iconst 0, 1) := dk_3 (dk_at dksX1_cover_0 8 rfl rfl)
theorem dX1_cover_9 : decode cX1_cover 9 = .ok (.istore_n 2, 1) := dk_61 (dk_at dksX1_cover_0 9 rfl rfl)
theorem dX1_cover_10 : decode cX1_cover 10 = .ok (.iload_n 2, 1) := dk_28 (dk_at dksX1_cover_0 10 rfl rfl)
theorem dX1_cover_11 : decode cX1_cover 11 = .ok (.aload_n 0, 1) := dk_42 (dk_at dksX1_cover_0 11 rfl rfl)
theorem dX1_cover_12 : decode cX1_cover 12 = .ok (.getfield 76, 3) := dk_180 0 76 (dk_at dksX1_cover_0 12 rfl rfl)
theorem dX1_cover_15 : decode cX1_cover 15 = .ok (.invokevirtual 271, 3) := dk_182 1 15 (dk_at dksX1_cover_0 15 rfl rfl)
theorem dX1_cover_18 : decode cX1_cover 18 = .ok (.if_icmp .ge 40, 3) := dk_162 0 40 (dk_at dksX1_cover_0 18 rfl rfl)
theorem dX1_cover_21 : decode cX1_cover 21 = .ok (.aload_n 0, 1) := dk_42 (dk_at dksX1_cover_0 21 rfl rfl)
theorem dX1_cover_22 : decode cX1_cover 22 = .ok (.getfield 76, 3) := dk_180 0 76 (dk_at dksX1_cover_1 0 rfl rfl)
theorem dX1_cover_25 : decode cX1_cover 25 = .ok (.iload_n 2, 1) := dk_28 (dk_at dksX1_cover_1 3 rfl rfl)
theorem dX1_cover_26 : decode cX1_cover 26 = .ok (.invokevirtual 345, 3) := dk_182 1 89 (dk_at dksX1_cover_1 4 rfl rfl)
theorem dX1_cover_29 : decode cX1_cover 29 = .ok (.aload_n 0, 1) := dk_42 (dk_at dksX1_cover_1 7 rfl rfl)
theorem dX1_cover_30 : decode cX1_cover 30 = .ok (.getfield 76, 3) := dk_180 0 76 (dk_at dksX1_cover_1 8 rfl rfl)
theorem dX1_cover_33 : decode cX1_cover 33 = .ok (.invokevirtual 271, 3) := dk_182 1 15 (dk_at dksX1_cover_1 11 rfl rfl)
theorem dX1_cover_36 : decode cX1_cover 36 = .ok (.if_icmp .ne 16, 3) := dk_160 0 16 (dk_at dksX1_cover_1 14 rfl rfl)
theorem dX1_cover_39 : decode cX1_cover 39 = .ok (.iload_n 2, 1) := dk_28 (dk_at dksX1_cover_1 17 rfl rfl)
theorem dX1_cover_40 : decode cX1_cover 40 = .ok (.invokestatic 324, 3) := dk_184 1 68 (dk_at dksX1_cover_1 18 rfl rfl)
theorem dX1_cover_43 : decode cX1_cover 43 = .ok (.iload_n 1, 1) := dk_27 (dk_at dksX1_cover_1 21 rfl rfl)
theorem dX1_cover_44 : decode cX1_cover 44 = .ok (.invokestatic 324, 3) := dk_184 1 68 (dk_at dksX1_cover_2 0 rfl rfl)
theorem dX1_cover_47 : decode cX1_cover 47 = .ok (.if_icmp .ge 5, 3) := dk_162 0 5 (dk_at dksX1_cover_2 3 rfl rfl)
theorem dX1_cover_50 : decode cX1_cover 50 = .ok (.iload_n 2, 1) := dk_28 (dk_at dksX1_cover_2 6 rfl rfl)
theorem dX1_cover_51 : decode cX1_cover 51 = .ok (.istore_n 1, 1) := dk_60 (dk_at dksX1_cover_2 7 rfl rfl)
theorem dX1_cover_52 : decode cX1_cover 52 = .ok (.iinc 2 1, 3) := dk_132 2 1 (dk_at dksX1_cover_2 8 rfl rfl)
theorem dX1_cover_55 : decode cX1_cover 55 = .ok (.goto (-45), 3) := dk_167 255 211 (dk_at dksX1_cover_2 11 rfl rfl)
theorem dX1_cover_58 : decode cX1_cover 58 = .ok (.aload_n 0, 1) := dk_42 (dk_at dksX1_cover_2 14 rfl rfl)
theorem dX1_cover_59 : decode cX1_cover 59 = .ok (.iconst 1, 1) := dk_4 (dk_at dksX1_cover_2 15 rfl rfl)
theorem dX1_cover_60 : decode cX1_cover 60 = .ok (.putfield 348, 3) := dk_181 1 92 (dk_at dksX1_cover_2 16 rfl rfl)
theorem dX1_cover_63 : decode cX1_cover 63 = .ok (.aload_n 0, 1) := dk_42 (dk_at dksX1_cover_2 19 rfl rfl)
theorem dX1_cover_64 : decode cX1_cover 64 = .ok (.iload_n 1, 1) := dk_27 (dk_at dksX1_cover_2 20 rfl rfl)
theorem dX1_cover_65 : decode cX1_cover 65 = .ok (.putfield 351, 3) := dk_181 1 95 (dk_at dksX1_cover_2 21 rfl rfl)
theorem dX1_cover_68 : decode cX1_cover 68 = .ok (.iload_n 1, 1) := dk_27 (dk_at dksX1_cover_3 0 rfl rfl)
theorem dX1_cover_69 : decode cX1_cover 69 = .ok (.invokestatic 324, 3) := dk_184 1 68 (dk_at dksX1_cover_3 1 rfl rfl)
theorem dX1_cover_72 : decode cX1_cover 72 = .ok (.ireturn, 1) := dk_172 (dk_at dksX1_cover_3 4 rfl rfl)
abbrev cX1_covering : ByteArray := prog_1_method_37_code
def yX1_covering : MethodName := ⟨RX1, "covering", "()I"⟩
def dkwX1_covering_0 : List UInt8 := [42, 180, 1, 92, 153, 0, 10, 42, 180, 1, 95, 167, 0, 4, 2, 172]
abbrev dktX1_covering_0 : List UInt8 := dkwX1_covering_0 ++ []
theorem dksX1_covering_0 : cX1_covering.data.toList.drop 0 = dktX1_covering_0 := by decide +kernel
theorem dX1_covering_0 : decode cX1_covering 0 = .ok (.aload_n 0, 1) := dk_42 (dk_at dksX1_covering_0 0 rfl rfl)
theorem dX1_covering_1 : decode cX1_covering 1 = .ok (.getfield 348, 3) := dk_180 1 92 (dk_at dksX1_covering_0 1 rfl rfl)
theorem dX1_covering_4 : decode cX1_covering 4 = .ok (.ifCond .eq 10, 3) := dk_153 0 10 (dk_at dksX1_covering_0 4 rfl rfl)
theorem dX1_covering_7 : decode cX1_covering 7 = .ok (.aload_n 0, 1) := dk_42 (dk_at dksX1_covering_0 7 rfl rfl)
theorem dX1_covering_8 : decode cX1_covering 8 = .ok (.getfield 351, 3) := dk_180 1 95 (dk_at dksX1_covering_0 8 rfl rfl)
theorem dX1_covering_11 : decode cX1_covering 11 = .ok (.goto 4, 3) := dk_167 0 4 (dk_at dksX1_covering_0 11 rfl rfl)
theorem dX1_covering_14 : decode cX1_covering 14 = .ok (.iconst (-1), 1) := dk_2 (dk_at dksX1_covering_0 14 rfl rfl)
theorem dX1_covering_15 : decode cX1_covering 15 = .ok (.ireturn, 1) := dk_172 (dk_at dksX1_covering_0 15 rfl rfl)
abbrev cX1_round : ByteArray := prog_1_method_40_code
def yX1_round : MethodName := ⟨RX1, "round", "(I)I"⟩
def dkwX1_round_7 : List UInt8 := [4, 21, 7, 120, 128, 62, 132, 6, 1, 167, 255, 182, 21, 5, 172]
abbrev dktX1_round_7 : List UInt8 := dkwX1_round_7 ++ []
def dkwX1_round_6 : List UInt8 := [100, 159, 0, 9, 132, 7, 1, 167, 255, 218, 42, 180, 0, 119, 21, 6, 21, 7, 79, 21, 7, 54, 4, 29]
abbrev dktX1_round_6 : List UInt8 := dkwX1_round_6 ++ dktX1_round_7
def dkwX1_round_5 : List UInt8 := [21, 4, 46, 21, 7, 184, 0, 217, 153, 0, 20, 42, 29, 21, 7, 182, 1, 99, 21, 5, 21, 6, 100, 4]
abbrev dktX1_round_5 : List UInt8 := dkwX1_round_5 ++ dktX1_round_6
def dkwX1_round_4 : List UInt8 := [181, 0, 123, 3, 54, 6, 21, 6, 21, 5, 162, 0, 73, 3, 54, 7, 42, 180, 0, 76, 180, 1, 7]
abbrev dktX1_round_4 : List UInt8 := dkwX1_round_4 ++ dktX1_round_5
def dkwX1_round_3 : List UInt8 := [180, 0, 116, 29, 50, 21, 4, 46, 54, 5, 21, 5, 19, 1, 98, 161, 0, 5, 2, 172, 42, 21, 5]
abbrev dktX1_round_3 : List UInt8 := dkwX1_round_3 ++ dktX1_round_4
def dkwX1_round_2 : List UInt8 := [29, 46, 120, 128, 61, 132, 3, 1, 167, 255, 216, 42, 28, 182, 1, 102, 4, 27, 120, 62, 27, 54, 4, 42]
abbrev dktX1_round_2 : List UInt8 := dkwX1_round_2 ++ dktX1_round_3
def dkwX1_round_1 : List UInt8 := [162, 0, 35, 42, 180, 0, 83, 180, 0, 221, 29, 46, 158, 0, 17, 28, 4, 42, 180, 0, 83, 180, 0, 209]
abbrev dktX1_round_1 : List UInt8 := dkwX1_round_1 ++ dktX1_round_2
def dkwX1_round_0 : List UInt8 := [42, 27, 182, 1, 4, 154, 0, 5, 2, 172, 3, 61, 3, 62, 29, 42, 180, 0, 76, 180, 0, 189]
abbrev dktX1_round_0 : List UInt8 := dkwX1_round_0 ++ dktX1_round_1
theorem dksX1_round_0 : cX1_round.data.toList.drop 0 = dktX1_round_0 := by decide +kernel
theorem dksX1_round_1 : cX1_round.data.toList.drop 22 = dktX1_round_1 := dk_seg dksX1_round_0 22 rfl rfl
theorem dksX1_round_2 : cX1_round.data.toList.drop 46 = dktX1_round_2 := dk_seg dksX1_round_1 24 rfl rfl
theorem dksX1_round_3 : cX1_round.data.toList.drop 70 = dktX1_round_3 := dk_seg dksX1_round_2 24 rfl rfl
theorem dksX1_round_4 : cX1_round.data.toList.drop 93 = dktX1_round_4 := dk_seg dksX1_round_3 23 rfl rfl
theorem dksX1_round_5 : cX1_round.data.toList.drop 116 = dktX1_round_5 := dk_seg dksX1_round_4 23 rfl rfl
theorem dksX1_round_6 : cX1_round.data.toList.drop 140 = dktX1_round_6 := dk_seg dksX1_round_5 24 rfl rfl
theorem dksX1_round_7 : cX1_round.data.toList.drop 164 = dktX1_round_7 := dk_seg dksX1_round_6 24 rfl rfl
theorem dX1_round_0 : decode cX1_round 0 = .ok (.aload_n 0, 1) := dk_42 (dk_at dksX1_round_0 0 rfl rfl)
theorem dX1_round_1 : decode cX1_round 1 = .ok (.iload_n 1, 1) := dk_27 (dk_at dksX1_round_0 1 rfl rfl)
theorem dX1_round_2 : decode cX1_round 2 = .ok (.invokevirtual 260, 3) := dk_182 1 4 (dk_at dksX1_round_0 2 rfl rfl)
theorem dX1_round_5 : decode cX1_round 5 = .ok (.ifCond .ne 5, 3) := dk_154 0 5 (dk_at dksX1_round_0 5 rfl rfl)
theorem dX1_round_8 : decode cX1_round 8 = .ok (.iconst (-1), 1) := dk_2 (dk_at dksX1_round_0 8 rfl rfl)
theorem dX1_round_9 : decode cX1_round 9 = .ok (.ireturn, 1) := dk_172 (dk_at dksX1_round_0 9 rfl rfl)
theorem dX1_round_10 : decode cX1_round 10 = .ok (.iconst 0, 1) := dk_3 (dk_at dksX1_round_0 10 rfl rfl)
theorem dX1_round_11 : decode cX1_round 11 = .ok (.istore_n 2, 1) := dk_61 (dk_at dksX1_round_0 11 rfl rfl)
theorem dX1_round_12 : decode cX1_round 12 = .ok (.iconst 0, 1) := dk_3 (dk_at dksX1_round_0 12 rfl rfl)
theorem dX1_round_13 : decode cX1_round 13 = .ok (.istore_n 3, 1) := dk_62 (dk_at dksX1_round_0 13 rfl rfl)
theorem dX1_round_14 : decode cX1_round 14 = .ok (.iload_n 3, 1) := dk_29 (dk_at dksX1_round_0 14 rfl rfl)
theorem dX1_round_15 : decode cX1_round 15 = .ok (.aload_n 0, 1) := dk_42 (dk_at dksX1_round_0 15 rfl rfl)
theorem dX1_round_16 : decode cX1_round 16 = .ok (.getfield 76, 3) := dk_180 0 76 (dk_at dksX1_round_0 16 rfl rfl)
theorem dX1_round_19 : decode cX1_round 19 = .ok (.getfield 189, 3) := dk_180 0 189 (dk_at dksX1_round_0 19 rfl rfl)
theorem dX1_round_22 : decode cX1_round 22 = .ok (.if_icmp .ge 35, 3) := dk_162 0 35 (dk_at dksX1_round_1 0 rfl rfl)
theorem dX1_round_25 : decode cX1_round 25 = .ok (.aload_n 0, 1) := dk_42 (dk_at dksX1_round_1 3 rfl rfl)
theorem dX1_round_26 : decode cX1_round 26 = .ok (.getfield 83, 3) := dk_180 0 83 (dk_at dksX1_round_1 4 rfl rfl)
theorem dX1_round_29 : decode cX1_round 29 = .ok (.getfield 221, 3) := dk_180 0 221 (dk_at dksX1_round_1 7 rfl rfl)
theorem dX1_round_32 : decode cX1_round 32 = .ok (.iload_n 3, 1) := dk_29 (dk_at dksX1_round_1 10 rfl rfl)
theorem dX1_round_33 : decode cX1_round 33 = .ok (.iaload, 1) := dk_46 (dk_at dksX1_round_1 11 rfl rfl)
theorem dX1_round_34 : decode cX1_round 34 = .ok (.ifCond .le 17, 3) := dk_158 0 17 (dk_at dksX1_round_1 12 rfl rfl)
theorem dX1_round_37 : decode cX1_round 37 = .ok (.iload_n 2, 1) := dk_28 (dk_at dksX1_round_1 15 rfl rfl)
theorem dX1_round_38 : decode cX1_round 38 = .ok (.iconst 1, 1) := dk_4 (dk_at dksX1_round_1 16 rfl rfl)
theorem dX1_round_39 : decode cX1_round 39 = .ok (.aload_n 0, 1) := dk_42 (dk_at dksX1_round_1 17 rfl rfl)
theorem dX1_round_40 : decode cX1_round 40 = .ok (.getfield 83, 3) := dk_180 0 83 (dk_at dksX1_round_1 18 rfl rfl)
theorem dX1_round_43 : decode cX1_round 43 = .ok (.getfield 209, 3) := dk_180 0 209 (dk_at dksX1_round_1 21 rfl rfl)
theorem dX1_round_46 : decode cX1_round 46 = .ok (.iload_n 3, 1) := dk_29 (dk_at dksX1_round_2 0 rfl rfl)
theorem dX1_round_47 : decode cX1_round 47 = .ok (.iaload, 1) := dk_46 (dk_at dksX1_round_2 1 rfl rfl)
theorem dX1_round_48 : decode cX1_round 48 = .ok (.ishl, 1) := dk_120 (dk_at dksX1_round_2 2 rfl rfl)
theorem dX1_round_49 : decode cX1_round 49 = .ok (.ior, 1) := dk_128 (dk_at dksX1_round_2 3 rfl rfl)
theorem dX1_round_50 : decode cX1_round 50 = .ok (.istore_n 2, 1) := dk_61 (dk_at dksX1_round_2 4 rfl rfl)
theorem dX1_round_51 : decode cX1_round 51 = .ok (.iinc 3 1, 3) := dk_132 3 1 (dk_at dksX1_round_2 5 rfl rfl)
theorem dX1_round_54 : decode cX1_round 54 = .ok (.goto (-40), 3) := dk_167 255 216 (dk_at dksX1_round_2 8 rfl rfl)
theorem dX1_round_57 : decode cX1_round 57 = .ok (.aload_n 0, 1) := dk_42 (dk_at dksX1_round_2 11 rfl rfl)
theorem dX1_round_58 : decode cX1_round 58 = .ok (.iload_n 2, 1) := dk_28 (dk_at dksX1_round_2 12 rfl rfl)
theorem dX1_round_59 : decode cX1_round 59 = .ok (.invokevirtual 358, 3) := dk_182 1 102 (dk_at dksX1_round_2 13 rfl rfl)
theorem dX1_round_62 : decode cX1_round 62 = .ok (.iconst 1, 1) := dk_4 (dk_at dksX1_round_2 16 rfl rfl)
theorem dX1_round_63 : decode cX1_round 63 = .ok (.iload_n 1, 1) := dk_27 (dk_at dksX1_round_2 17 rfl rfl)
theorem dX1_round_64 : decode cX1_round 64 = .ok (.ishl, 1) := dk_120 (dk_at dksX1_round_2 18 rfl rfl)
theorem dX1_round_65 : decode cX1_round 65 = .ok (.istore_n 3, 1) := dk_62 (dk_at dksX1_round_2 19 rfl rfl)
theorem dX1_round_66 : decode cX1_round 66 = .ok (.iload_n 1, 1) := dk_27 (dk_at dksX1_round_2 20 rfl rfl)
theorem dX1_round_67 : decode cX1_round 67 = .ok (.istore 4, 2) := dk_54 4 (dk_at dksX1_round_2 21 rfl rfl)
theorem dX1_round_69 : decode cX1_round 69 = .ok (.aload_n 0, 1) := dk_42 (dk_at dksX1_round_2 23 rfl rfl)
theorem dX1_round_70 : decode cX1_round 70 = .ok (.getfield 116, 3) := dk_180 0 116 (dk_at dksX1_round_3 0 rfl rfl)
theorem dX1_round_73 : decode cX1_round 73 = .ok (.iload_n 3, 1) := dk_29 (dk_at dksX1_round_3 3 rfl rfl)
theorem dX1_round_74 : decode cX1_round 74 = .ok (.aaload, 1) := dk_50 (dk_at dksX1_round_3 4 rfl rfl)
theorem dX1_round_75 : decode cX1_round 75 = .ok (.iload 4, 2) := dk_21 4 (dk_at dksX1_round_3 5 rfl rfl)
theorem dX1_round_77 : decode cX1_round 77 = .ok (.iaload, 1) := dk_46 (dk_at dksX1_round_3 7 rfl rfl)
theorem dX1_round_78 : decode cX1_round 78 = .ok (.istore 5, 2) := dk_54 5 (dk_at dksX1_round_3 8 rfl rfl)
theorem dX1_round_80 : decode cX1_round 80 = .ok (.iload 5, 2) := dk_21 5 (dk_at dksX1_round_3 10 rfl rfl)
theorem dX1_round_82 : decode cX1_round 82 = .ok (.ldc_w 354, 3) := dk_19 1 98 (dk_at dksX1_round_3 12 rfl rfl)
theorem dX1_round_85 : decode cX1_round 85 = .ok (.if_icmp .lt 5, 3) := dk_161 0 5 (dk_at dksX1_round_3 15 rfl rfl)
theorem dX1_round_88 : decode cX1_round 88 = .ok (.iconst (-1), 1) := dk_2 (dk_at dksX1_round_3 18 rfl rfl)
theorem dX1_round_89 : decode cX1_round 89 = .ok (.ireturn, 1) := dk_172 (dk_at dksX1_round_3 19 rfl rfl)
theorem dX1_round_90 : decode cX1_round 90 = .ok (.aload_n 0, 1) := dk_42 (dk_at dksX1_round_3 20 rfl rfl)
theorem dX1_round_91 : decode cX1_round 91 = .ok (.iload 5, 2) := dk_21 5 (dk_at dksX1_round_3 21 rfl rfl)
theorem dX1_round_93 : decode cX1_round 93 = .ok (.putfield 123, 3) := dk_181 0 123 (dk_at dksX1_round_4 0 rfl rfl)
theorem dX1_round_96 : decode cX1_round 96 = .ok (.iconst 0, 1) := dk_3 (dk_at dksX1_round_4 3 rfl rfl)
theorem dX1_round_97 : decode cX1_round 97 = .ok (.istore 6, 2) := dk_54 6 (dk_at dksX1_round_4 4 rfl rfl)
theorem dX1_round_99 : decode cX1_round 99 = .ok (.iload 6, 2) := dk_21 6 (dk_at dksX1_round_4 6 rfl rfl)
theorem dX1_round_101 : decode cX1_round 101 = .ok (.iload 5, 2) := dk_21 5 (dk_at dksX1_round_4 8 rfl rfl)
theorem dX1_round_103 : decode cX1_round 103 = .ok (.if_icmp .ge 73, 3) := dk_162 0 73 (dk_at dksX1_round_4 10 rfl rfl)
theorem dX1_round_106 : decode cX1_round 106 = .ok (.iconst 0, 1) := dk_3 (dk_at dksX1_round_4 13 rfl rfl)
theorem dX1_round_107 : decode cX1_round 107 = .ok (.istore 7, 2) := dk_54 7 (dk_at dksX1_round_4 14 rfl rfl)
theorem dX1_round_109 : decode cX1_round 109 = .ok (.aload_n 0, 1) := dk_42 (dk_at dksX1_round_4 16 rfl rfl)
theorem dX1_round_110 : decode cX1_round 110 = .ok (.getfield 76, 3) := dk_180 0 76 (dk_at dksX1_round_4 17 rfl rfl)
theorem dX1_round_113 : decode cX1_round 113 = .ok (.getfield 263, 3) := dk_180 1 7 (dk_at dksX1_round_4 20 rfl rfl)
theorem dX1_round_116 : decode cX1_round 116 = .ok (.iload 4, 2) := dk_21 4 (dk_at dksX1_round_5 0 rfl rfl)
theorem dX1_round_118 : decode cX1_round 118 = .ok (.iaload, 1) := dk_46 (dk_at dksX1_round_5 2 rfl rfl)
theorem dX1_round_119 : decode cX1_round 119 = .ok (.iload 7, 2) := dk_21 7 (dk_at dksX1_round_5 3 rfl rfl)
theorem dX1_round_121 : decode cX1_round 121 = .ok (.invokestatic 217, 3) := dk_184 0 217 (dk_at dksX1_round_5 5 rfl rfl)
theorem dX1_round_124 : decode cX1_round 124 = .ok (.ifCond .eq 20, 3) := dk_153 0 20 (dk_at dksX1_round_5 8 rfl rfl)
theorem dX1_round_127 : decode cX1_round 127 = .ok (.aload_n 0, 1) := dk_42 (dk_at dksX1_round_5 11 rfl rfl)
theorem dX1_round_128 : decode cX1_round 128 = .ok (.iload_n 3, 1) := dk_29 (dk_at dksX1_round_5 12 rfl rfl)
theorem dX1_round_129 : decode cX1_round 129 = .ok (.iload 7, 2) := dk_21 7 (dk_at dksX1_round_5 13 rfl rfl)
theorem dX1_round_131 : decode cX1_round 131 = .ok (.invokevirtual 355, 3) := dk_182 1 99 (dk_at dksX1_round_5 15 rfl rfl)
theorem dX1_round_134 : decode cX1_round 134 = .ok (.iload 5, 2) := dk_21 5 (dk_at dksX1_round_5 18 rfl rfl)
theorem dX1_round_136 : decode cX1_round 136 = .ok (.iload 6, 2) := dk_21 6 (dk_at dksX1_round_5 20 rfl rfl)
theorem dX1_round_138 : decode cX1_round 138 = .ok (.isub, 1) := dk_100 (dk_at dksX1_round_5 22 rfl rfl)
theorem dX1_round_139 : decode cX1_round 139 = .ok (.iconst 1, 1) := dk_4 (dk_at dksX1_round_5 23 rfl rfl)
theorem dX1_round_140 : decode cX1_round 140 = .ok (.isub, 1) := dk_100 (dk_at dksX1_round_6 0 rfl rfl)
theorem dX1_round_141 : decode cX1_round 141 = .ok (.if_icmp .eq 9, 3) := dk_159 0 9 (dk_at dksX1_round_6 1 rfl rfl)
theorem dX1_round_144 : decode cX1_round 144 = .ok (.iinc 7 1, 3) := dk_132 7 1 (dk_at dksX1_round_6 4 rfl rfl)
theorem dX1_round_147 : decode cX1_round 147 = .ok (.goto (-38), 3) := dk_167 255 218 (dk_at dksX1_round_6 7 rfl rfl)
theorem dX1_round_150 : decode cX1_round 150 = .ok (.aload_n 0, 1) := dk_42 (dk_at dksX1_round_6 10 rfl rfl)
theorem dX1_round_151 : decode cX1_round 151 = .ok (.getfield 119, 3) := dk_180 0 119 (dk_at dksX1_round_6 11 rfl rfl)
theorem dX1_round_154 : decode cX1_round 154 = .ok (.iload 6, 2) := dk_21 6 (dk_at dksX1_round_6 14 rfl rfl)
theorem dX1_round_156 : decode cX1_round 156 = .ok (.iload 7, 2) := dk_21 7 (dk_at dksX1_round_6 16 rfl rfl)
theorem dX1_round_158 : decode cX1_round 158 = .ok (.iastore, 1) := dk_79 (dk_at dksX1_round_6 18 rfl rfl)
theorem dX1_round_159 : decode cX1_round 159 = .ok (.iload 7, 2) := dk_21 7 (dk_at dksX1_round_6 19 rfl rfl)
theorem dX1_round_161 : decode cX1_round 161 = .ok (.istore 4, 2) := dk_54 4 (dk_at dksX1_round_6 21 rfl rfl)
theorem dX1_round_163 : decode cX1_round 163 = .ok (.iload_n 3, 1) := dk_29 (dk_at dksX1_round_6 23 rfl rfl)
theorem dX1_round_164 : decode cX1_round 164 = .ok (.iconst 1, 1) := dk_4 (dk_at dksX1_round_7 0 rfl rfl)
theorem dX1_round_165 : decode cX1_round 165 = .ok (.iload 7, 2) := dk_21 7 (dk_at dksX1_round_7 1 rfl rfl)
theorem dX1_round_167 : decode cX1_round 167 = .ok (.ishl, 1) := dk_120 (dk_at dksX1_round_7 3 rfl rfl)
theorem dX1_round_168 : decode cX1_round 168 = .ok (.ior, 1) := dk_128 (dk_at dksX1_round_7 4 rfl rfl)
theorem dX1_round_169 : decode cX1_round 169 = .ok (.istore_n 3, 1) := dk_62 (dk_at dksX1_round_7 5 rfl rfl)
theorem dX1_round_170 : decode cX1_round 170 = .ok (.iinc 6 1, 3) := dk_132 6 1 (dk_at dksX1_round_7 6 rfl rfl)
theorem dX1_round_173 : decode cX1_round 173 = .ok (.goto (-74), 3) := dk_167 255 182 (dk_at dksX1_round_7 9 rfl rfl)
theorem dX1_round_176 : decode cX1_round 176 = .ok (.iload 5, 2) := dk_21 5 (dk_at dksX1_round_7 12 rfl rfl)
theorem dX1_round_178 : decode cX1_round 178 = .ok (.ireturn, 1) := dk_172 (dk_at dksX1_round_7 14 rfl rfl)
abbrev cX1_layLeft : ByteArray := prog_1_method_39_code
def yX1_layLeft : MethodName := ⟨RX1, "layLeft", "(I)V"⟩
def dkwX1_layLeft_8 : List UInt8 := [167, 255, 158, 132, 3, 1, 167, 255, 138, 167, 255, 127, 177]
abbrev dktX1_layLeft_8 : List UInt8 := dkwX1_layLeft_8 ++ []
def dkwX1_layLeft_7 : List UInt8 := [21, 4, 42, 29, 21, 5, 182, 1, 99, 4, 96, 79, 4, 61, 132, 5, 1, 167, 255, 179, 132, 4, 1]
abbrev dktX1_layLeft_7 : List UInt8 := dkwX1_layLeft_7 ++ dktX1_layLeft_8
def dkwX1_layLeft_6 : List UInt8 := [4, 96, 42, 180, 0, 116, 29, 50, 21, 4, 46, 161, 0, 6, 167, 0, 23, 42, 180, 0, 116, 29, 50]
abbrev dktX1_layLeft_6 : List UInt8 := dkwX1_layLeft_6 ++ dktX1_layLeft_7
def dkwX1_layLeft_5 : List UInt8 := [180, 0, 76, 180, 1, 7, 21, 4, 46, 21, 5, 184, 0, 217, 153, 0, 47, 42, 29, 21, 5, 182, 1, 99]
abbrev dktX1_layLeft_5 : List UInt8 := dkwX1_layLeft_5 ++ dktX1_layLeft_6
def dkwX1_layLeft_4 : List UInt8 := [180, 0, 182, 162, 0, 92, 3, 54, 5, 21, 5, 42, 180, 0, 76, 180, 0, 182, 162, 0, 71, 42]
abbrev dktX1_layLeft_4 : List UInt8 := dkwX1_layLeft_4 ++ dktX1_layLeft_5
def dkwX1_layLeft_3 : List UInt8 := [3, 62, 29, 42, 180, 0, 76, 182, 1, 15, 163, 0, 113, 3, 54, 4, 21, 4, 42, 180, 0, 76]
abbrev dktX1_layLeft_3 : List UInt8 := dkwX1_layLeft_3 ++ dktX1_layLeft_4
def dkwX1_layLeft_2 : List UInt8 := [19, 1, 98, 79, 132, 3, 1, 167, 255, 219, 132, 2, 1, 167, 255, 200, 4, 61, 28, 153, 0, 131, 3, 61]
abbrev dktX1_layLeft_2 : List UInt8 := dkwX1_layLeft_2 ++ dktX1_layLeft_3
def dkwX1_layLeft_1 : List UInt8 := [162, 0, 32, 42, 180, 0, 116, 28, 50, 29, 27, 28, 2, 130, 126, 154, 0, 7, 3, 167, 0, 6]
abbrev dktX1_layLeft_1 : List UInt8 := dkwX1_layLeft_1 ++ dktX1_layLeft_2
def dkwX1_layLeft_0 : List UInt8 := [3, 61, 28, 42, 180, 0, 76, 182, 1, 15, 163, 0, 51, 3, 62, 29, 42, 180, 0, 76, 180, 0, 182]
abbrev dktX1_layLeft_0 : List UInt8 := dkwX1_layLeft_0 ++ dktX1_layLeft_1
theorem dksX1_layLeft_0 : cX1_layLeft.data.toList.drop 0 = dktX1_layLeft_0 := by decide +kernel
theorem dksX1_layLeft_1 : cX1_layLeft.data.toList.drop 23 = dktX1_layLeft_1 := dk_seg dksX1_layLeft_0 23 rfl rfl
theorem dksX1_layLeft_2 : cX1_layLeft.data.toList.drop 45 = dktX1_layLeft_2 := dk_seg dksX1_layLeft_1 22 rfl rfl
theorem dksX1_layLeft_3 : cX1_layLeft.data.toList.drop 69 = dktX1_layLeft_3 := dk_seg dksX1_layLeft_2 24 rfl rfl
theorem dksX1_layLeft_4 : cX1_layLeft.data.toList.drop 91 = dktX1_layLeft_4 := dk_seg dksX1_layLeft_3 22 rfl rfl
theorem dksX1_layLeft_5 : cX1_layLeft.data.toList.drop 113 = dktX1_layLeft_5 := dk_seg dksX1_layLeft_4 22 rfl rfl
theorem dksX1_layLeft_6 : cX1_layLeft.data.toList.drop 137 = dktX1_layLeft_6 := dk_seg dksX1_layLeft_5 24 rfl rfl
theorem dksX1_layLeft_7 : cX1_layLeft.data.toList.drop 160 = dktX1_layLeft_7 := dk_seg dksX1_layLeft_6 23 rfl rfl
theorem dksX1_layLeft_8 : cX1_layLeft.data.toList.drop 183 = dktX1_layLeft_8 := dk_seg dksX1_layLeft_7 23 rfl rfl
theorem dX1_layLeft_0 : decode cX1_layLeft 0 = .ok (.iconst 0, 1) := dk_3 (dk_at dksX1_layLeft_0 0 rfl rfl)
theorem dX1_layLeft_1 : decode cX1_layLeft 1 = .ok (.istore_n 2, 1) := dk_61 (dk_at dksX1_layLeft_0 1 rfl rfl)
theorem dX1_layLeft_2 : decode cX1_layLeft 2 = .ok (.iload_n 2, 1) := dk_28 (dk_at dksX1_layLeft_0 2 rfl rfl)
theorem dX1_layLeft_3 : decode cX1_layLeft 3 = .ok (.aload_n 0, 1) := dk_42 (dk_at dksX1_layLeft_0 3 rfl rfl)
theorem dX1_layLeft_4 : decode cX1_layLeft 4 = .ok (.getfield 76, 3) := dk_180 0 76 (dk_at dksX1_layLeft_0 4 rfl rfl)
theorem dX1_layLeft_7 : decode cX1_layLeft 7 = .ok (.invokevirtual 271, 3) := dk_182 1 15 (dk_at dksX1_layLeft_0 7 rfl rfl)
theorem dX1_layLeft_10 : decode cX1_layLeft 10 = .ok (.if_icmp .gt 51, 3) := dk_163 0 51 (dk_at dksX1_layLeft_0 10 rfl rfl)
theorem dX1_layLeft_13 : decode cX1_layLeft 13 = .ok (.iconst 0, 1) := dk_3 (dk_at dksX1_layLeft_0 13 rfl rfl)
theorem dX1_layLeft_14 : decode cX1_layLeft 14 = .ok (.istore_n 3, 1) := dk_62 (dk_at dksX1_layLeft_0 14 rfl rfl)
theorem dX1_layLeft_15 : decode cX1_layLeft 15 = .ok (.iload_n 3, 1) := dk_29 (dk_at dksX1_layLeft_0 15 rfl rfl)
theorem dX1_layLeft_16 : decode cX1_layLeft 16 = .ok (.aload_n 0, 1) := dk_42 (dk_at dksX1_layLeft_0 16 rfl rfl)
theorem dX1_layLeft_17 : decode cX1_layLeft 17 = .ok (.getfield 76, 3) := dk_180 0 76 (dk_at dksX1_layLeft_0 17 rfl rfl)
theorem dX1_layLeft_20 : decode cX1_layLeft 20 = .ok (.getfield 182, 3) := dk_180 0 182 (dk_at dksX1_layLeft_0 20 rfl rfl)
theorem dX1_layLeft_23 : decode cX1_layLeft 23 = .ok (.if_icmp .ge 32, 3) := dk_162 0 32 (dk_at dksX1_layLeft_1 0 rfl rfl)
theorem dX1_layLeft_26 : decode cX1_layLeft 26 = .ok (.aload_n 0, 1) := dk_42 (dk_at dksX1_layLeft_1 3 rfl rfl)
theorem dX1_layLeft_27 : decode cX1_layLeft 27 = .ok (.getfield 116, 3) := dk_180 0 116 (dk_at dksX1_layLeft_1 4 rfl rfl)
theorem dX1_layLeft_30 : decode cX1_layLeft 30 = .ok (.iload_n 2, 1) := dk_28 (dk_at dksX1_layLeft_1 7 rfl rfl)
theorem dX1_layLeft_31 : decode cX1_layLeft 31 = .ok (.aaload, 1) := dk_50 (dk_at dksX1_layLeft_1 8 rfl rfl)
theorem dX1_layLeft_32 : decode cX1_layLeft 32 = .ok (.iload_n 3, 1) := dk_29 (dk_at dksX1_layLeft_1 9 rfl rfl)
theorem dX1_layLeft_33 : decode cX1_layLeft 33 = .ok (.iload_n 1, 1) := dk_27 (dk_at dksX1_layLeft_1 10 rfl rfl)
theorem dX1_layLeft_34 : decode cX1_layLeft 34 = .ok (.iload_n 2, 1) := dk_28 (dk_at dksX1_layLeft_1 11 rfl rfl)
theorem dX1_layLeft_35 : decode cX1_layLeft 35 = .ok (.iconst (-1), 1) := dk_2 (dk_at dksX1_layLeft_1 12 rfl rfl)
theorem dX1_layLeft_36 : decode cX1_layLeft 36 = .ok (.ixor, 1) := dk_130 (dk_at dksX1_layLeft_1 13 rfl rfl)
theorem dX1_layLeft_37 : decode cX1_layLeft 37 = .ok (.iand, 1) := dk_126 (dk_at dksX1_layLeft_1 14 rfl rfl)
theorem dX1_layLeft_38 : decode cX1_layLeft 38 = .ok (.ifCond .ne 7, 3) := dk_154 0 7 (dk_at dksX1_layLeft_1 15 rfl rfl)
theorem dX1_layLeft_41 : decode cX1_layLeft 41 = .ok (.iconst 0, 1) := dk_3 (dk_at dksX1_layLeft_1 18 rfl rfl)
theorem dX1_layLeft_42 : decode cX1_layLeft 42 = .ok (.goto 6, 3) := dk_167 0 6 (dk_at dksX1_layLeft_1 19 rfl rfl)
theorem dX1_layLeft_45 : decode cX1_layLeft 45 = .ok (.ldc_w 354, 3) := dk_19 1 98 (dk_at dksX1_layLeft_2 0 rfl rfl)
theorem dX1_layLeft_48 : decode cX1_layLeft 48 = .ok (.iastore, 1) := dk_79 (dk_at dksX1_layLeft_2 3 rfl rfl)
theorem dX1_layLeft_49 : decode cX1_layLeft 49 = .ok (.iinc 3 1, 3) := dk_132 3 1 (dk_at dksX1_layLeft_2 4 rfl rfl)
theorem dX1_layLeft_52 : decode cX1_layLeft 52 = .ok (.goto (-37), 3) := dk_167 255 219 (dk_at dksX1_layLeft_2 7 rfl rfl)
theorem dX1_layLeft_55 : decode cX1_layLeft 55 = .ok (.iinc 2 1, 3) := dk_132 2 1 (dk_at dksX1_layLeft_2 10 rfl rfl)
theorem dX1_layLeft_58 : decode cX1_layLeft 58 = .ok (.goto (-56), 3) := dk_167 255 200 (dk_at dksX1_layLeft_2 13 rfl rfl)
theorem dX1_layLeft_61 : decode cX1_layLeft 61 = .ok (.iconst 1, 1) := dk_4 (dk_at dksX1_layLeft_2 16 rfl rfl)
theorem dX1_layLeft_62 : decode cX1_layLeft 62 = .ok (.istore_n 2, 1) := dk_61 (dk_at dksX1_layLeft_2 17 rfl rfl)
theorem dX1_layLeft_63 : decode cX1_layLeft 63 = .ok (.iload_n 2, 1) := dk_28 (dk_at dksX1_layLeft_2 18 rfl rfl)
theorem dX1_layLeft_64 : decode cX1_layLeft 64 = .ok (.ifCond .eq 131, 3) := dk_153 0 131 (dk_at dksX1_layLeft_2 19 rfl rfl)
theorem dX1_layLeft_67 : decode cX1_layLeft 67 = .ok (.iconst 0, 1) := dk_3 (dk_at dksX1_layLeft_2 22 rfl rfl)
theorem dX1_layLeft_68 : decode cX1_layLeft 68 = .ok (.istore_n 2, 1) := dk_61 (dk_at dksX1_layLeft_2 23 rfl rfl)
theorem dX1_layLeft_69 : decode cX1_layLeft 69 = .ok (.iconst 0, 1) := dk_3 (dk_at dksX1_layLeft_3 0 rfl rfl)
theorem dX1_layLeft_70 : decode cX1_layLeft 70 = .ok (.istore_n 3, 1) := dk_62 (dk_at dksX1_layLeft_3 1 rfl rfl)
theorem dX1_layLeft_71 : decode cX1_layLeft 71 = .ok (.iload_n 3, 1) := dk_29 (dk_at dksX1_layLeft_3 2 rfl rfl)
theorem dX1_layLeft_72 : decode cX1_layLeft 72 = .ok (.aload_n 0, 1) := dk_42 (dk_at dksX1_layLeft_3 3 rfl rfl)
theorem dX1_layLeft_73 : decode cX1_layLeft 73 = .ok (.getfield 76, 3) := dk_180 0 76 (dk_at dksX1_layLeft_3 4 rfl rfl)
theorem dX1_layLeft_76 : decode cX1_layLeft 76 = .ok (.invokevirtual 271, 3) := dk_182 1 15 (dk_at dksX1_layLeft_3 7 rfl rfl)
theorem dX1_layLeft_79 : decode cX1_layLeft 79 = .ok (.if_icmp .gt 113, 3) := dk_163 0 113 (dk_at dksX1_layLeft_3 10 rfl rfl)
theorem dX1_layLeft_82 : decode cX1_layLeft 82 = .ok (.iconst 0, 1) := dk_3 (dk_at dksX1_layLeft_3 13 rfl rfl)
theorem dX1_layLeft_83 : decode cX1_layLeft 83 = .ok (.istore 4, 2) := dk_54 4 (dk_at dksX1_layLeft_3 14 rfl rfl)
theorem dX1_layLeft_85 : decode cX1_layLeft 85 = .ok (.iload 4, 2) := dk_21 4 (dk_at dksX1_layLeft_3 16 rfl rfl)
theorem dX1_layLeft_87 : decode cX1_layLeft 87 = .ok (.aload_n 0, 1) := dk_42 (dk_at dksX1_layLeft_3 18 rfl rfl)
theorem dX1_layLeft_88 : decode cX1_layLeft 88 = .ok (.getfield 76, 3) := dk_180 0 76 (dk_at dksX1_layLeft_3 19 rfl rfl)
theorem dX1_layLeft_91 : decode cX1_layLeft 91 = .ok (.getfield 182, 3) := dk_180 0 182 (dk_at dksX1_layLeft_4 0 rfl rfl)
theorem dX1_layLeft_94 : decode cX1_layLeft 94 = .ok (.if_icmp .ge 92, 3) := dk_162 0 92 (dk_at dksX1_layLeft_4 3 rfl rfl)
theorem dX1_layLeft_97 : decode cX1_layLeft 97 = .ok (.iconst 0, 1) := dk_3 (dk_at dksX1_layLeft_4 6 rfl rfl)
theorem dX1_layLeft_98 : decode cX1_layLeft 98 = .ok (.istore 5, 2) := dk_54 5 (dk_at dksX1_layLeft_4 7 rfl rfl)
theorem dX1_layLeft_100 : decode cX1_layLeft 100 = .ok (.iload 5, 2) := dk_21 5 (dk_at dksX1_layLeft_4 9 rfl rfl)
theorem dX1_layLeft_102 : decode cX1_layLeft 102 = .ok (.aload_n 0, 1) := dk_42 (dk_at dksX1_layLeft_4 11 rfl rfl)
theorem dX1_layLeft_103 : decode cX1_layLeft 103 = .ok (.getfield 76, 3) := dk_180 0 76 (dk_at dksX1_layLeft_4 12 rfl rfl)
theorem dX1_layLeft_106 : decode cX1_layLeft 106 = .ok (.getfield 182, 3) := dk_180 0 182 (dk_at dksX1_layLeft_4 15 rfl rfl)
theorem dX1_layLeft_109 : decode cX1_layLeft 109 = .ok (.if_icmp .ge 71, 3) := dk_162 0 71 (dk_at dksX1_layLeft_4 18 rfl rfl)
theorem dX1_layLeft_112 : decode cX1_layLeft 112 = .ok (.aload_n 0, 1) := dk_42 (dk_at dksX1_layLeft_4 21 rfl rfl)
theorem dX1_layLeft_113 : decode cX1_layLeft 113 = .ok (.getfield 76, 3) := dk_180 0 76 (dk_at dksX1_layLeft_5 0 rfl rfl)
theorem dX1_layLeft_116 : decode cX1_layLeft 116 = .ok (.getfield 263, 3) := dk_180 1 7 (dk_at dksX1_layLeft_5 3 rfl rfl)
theorem dX1_layLeft_119 : decode cX1_layLeft 119 = .ok (.iload 4, 2) := dk_21 4 (dk_at dksX1_layLeft_5 6 rfl rfl)
theorem dX1_layLeft_121 : decode cX1_layLeft 121 = .ok (.iaload, 1) := dk_46 (dk_at dksX1_layLeft_5 8 rfl rfl)
theorem dX1_layLeft_122 : decode cX1_layLeft 122 = .ok (.iload 5, 2) := dk_21 5 (dk_at dksX1_layLeft_5 9 rfl rfl)
theorem dX1_layLeft_124 : decode cX1_layLeft 124 = .ok (.invokestatic 217, 3) := dk_184 0 217 (dk_at dksX1_layLeft_5 11 rfl rfl)
theorem dX1_layLeft_127 : decode cX1_layLeft 127 = .ok (.ifCond .eq 47, 3) := dk_153 0 47 (dk_at dksX1_layLeft_5 14 rfl rfl)
theorem dX1_layLeft_130 : decode cX1_layLeft 130 = .ok (.aload_n 0, 1) := dk_42 (dk_at dksX1_layLeft_5 17 rfl rfl)
theorem dX1_layLeft_131 : decode cX1_layLeft 131 = .ok (.iload_n 3, 1) := dk_29 (dk_at dksX1_layLeft_5 18 rfl rfl)
theorem dX1_layLeft_132 : decode cX1_layLeft 132 = .ok (.iload 5, 2) := dk_21 5 (dk_at dksX1_layLeft_5 19 rfl rfl)
theorem dX1_layLeft_134 : decode cX1_layLeft 134 = .ok (.invokevirtual 355, 3) := dk_182 1 99 (dk_at dksX1_layLeft_5 21 rfl rfl)
theorem dX1_layLeft_137 : decode cX1_layLeft 137 = .ok (.iconst 1, 1) := dk_4 (dk_at dksX1_layLeft_6 0 rfl rfl)
theorem dX1_layLeft_138 : decode cX1_layLeft 138 = .ok (.iadd, 1) := dk_96 (dk_at dksX1_layLeft_6 1 rfl rfl)
theorem dX1_layLeft_139 : decode cX1_layLeft 139 = .ok (.aload_n 0, 1) := dk_42 (dk_at dksX1_layLeft_6 2 rfl rfl)
theorem dX1_layLeft_140 : decode cX1_layLeft 140 = .ok (.getfield 116, 3) := dk_180 0 116 (dk_at dksX1_layLeft_6 3 rfl rfl)
theorem dX1_layLeft_143 : decode cX1_layLeft 143 = .ok (.iload_n 3, 1) := dk_29 (dk_at dksX1_layLeft_6 6 rfl rfl)
theorem dX1_layLeft_144 : decode cX1_layLeft 144 = .ok (.aaload, 1) := dk_50 (dk_at dksX1_layLeft_6 7 rfl rfl)
theorem dX1_layLeft_145 : decode cX1_layLeft 145 = .ok (.iload 4, 2) := dk_21 4 (dk_at dksX1_layLeft_6 8 rfl rfl)
theorem dX1_layLeft_147 : decode cX1_layLeft 147 = .ok (.iaload, 1) := dk_46 (dk_at dksX1_layLeft_6 10 rfl rfl)
theorem dX1_layLeft_148 : decode cX1_layLeft 148 = .ok (.if_icmp .lt 6, 3) := dk_161 0 6 (dk_at dksX1_layLeft_6 11 rfl rfl)
theorem dX1_layLeft_151 : decode cX1_layLeft 151 = .ok (.goto 23, 3) := dk_167 0 23 (dk_at dksX1_layLeft_6 14 rfl rfl)
theorem dX1_layLeft_154 : decode cX1_layLeft 154 = .ok (.aload_n 0, 1) := dk_42 (dk_at dksX1_layLeft_6 17 rfl rfl)
theorem dX1_layLeft_155 : decode cX1_layLeft 155 = .ok (.getfield 116, 3) := dk_180 0 116 (dk_at dksX1_layLeft_6 18 rfl rfl)
theorem dX1_layLeft_158 : decode cX1_layLeft 158 = .ok (.iload_n 3, 1) := dk_29 (dk_at dksX1_layLeft_6 21 rfl rfl)
theorem dX1_layLeft_159 : decode cX1_layLeft 159 = .ok (.aaload, 1) := dk_50 (dk_at dksX1_layLeft_6 22 rfl rfl)
theorem dX1_layLeft_160 : decode cX1_layLeft 160 = .ok (.iload 4, 2) := dk_21 4 (dk_at dksX1_layLeft_7 0 rfl rfl)
theorem dX1_layLeft_162 : decode cX1_layLeft 162 = .ok (.aload_n 0, 1) := dk_42 (dk_at dksX1_layLeft_7 2 rfl rfl)
theorem dX1_layLeft_163 : decode cX1_layLeft 163 = .ok (.iload_n 3, 1) := dk_29 (dk_at dksX1_layLeft_7 3 rfl rfl)
theorem dX1_layLeft_164 : decode cX1_layLeft 164 = .ok (.iload 5, 2) := dk_21 5 (dk_at dksX1_layLeft_7 4 rfl rfl)
theorem dX1_layLeft_166 : decode cX1_layLeft 166 = .ok (.invokevirtual 355, 3) := dk_182 1 99 (dk_at dksX1_layLeft_7 6 rfl rfl)
theorem dX1_layLeft_169 : decode cX1_layLeft 169 = .ok (.iconst 1, 1) := dk_4 (dk_at dksX1_layLeft_7 9 rfl rfl)
theorem dX1_layLeft_170 : decode cX1_layLeft 170 = .ok (.iadd, 1) := dk_96 (dk_at dksX1_layLeft_7 10 rfl rfl)
theorem dX1_layLeft_171 : decode cX1_layLeft 171 = .ok (.iastore, 1) := dk_79 (dk_at dksX1_layLeft_7 11 rfl rfl)
theorem dX1_layLeft_172 : decode cX1_layLeft 172 = .ok (.iconst 1, 1) := dk_4 (dk_at dksX1_layLeft_7 12 rfl rfl)
theorem dX1_layLeft_173 : decode cX1_layLeft 173 = .ok (.istore_n 2, 1) := dk_61 (dk_at dksX1_layLeft_7 13 rfl rfl)
theorem dX1_layLeft_174 : decode cX1_layLeft 174 = .ok (.iinc 5 1, 3) := dk_132 5 1 (dk_at dksX1_layLeft_7 14 rfl rfl)
theorem dX1_layLeft_177 : decode cX1_layLeft 177 = .ok (.goto (-77), 3) := dk_167 255 179 (dk_at dksX1_layLeft_7 17 rfl rfl)
theorem dX1_layLeft_180 : decode cX1_layLeft 180 = .ok (.iinc 4 1, 3) := dk_132 4 1 (dk_at dksX1_layLeft_7 20 rfl rfl)
theorem dX1_layLeft_183 : decode cX1_layLeft 183 = .ok (.goto (-98), 3) := dk_167 255 158 (dk_at dksX1_layLeft_8 0 rfl rfl)
theorem dX1_layLeft_186 : decode cX1_layLeft 186 = .ok (.iinc 3 1, 3) := dk_132 3 1 (dk_at dksX1_layLeft_8 3 rfl rfl)
theorem dX1_layLeft_189 : decode cX1_layLeft 189 = .ok (.goto (-118), 3) := dk_167 255 138 (dk_at dksX1_layLeft_8 6 rfl rfl)
theorem dX1_layLeft_192 : decode cX1_layLeft 192 = .ok (.goto (-129), 3) := dk_167 255 127 (dk_at dksX1_layLeft_8 9 rfl rfl)
theorem dX1_layLeft_195 : decode cX1_layLeft 195 = .ok (.return_, 1) := dk_177 (dk_at dksX1_layLeft_8 12 rfl rfl)
abbrev cX1_leftBy : ByteArray := prog_1_method_38_code
def yX1_leftBy : MethodName := ⟨RX1, "leftBy", "(II)I"⟩
def dkwX1_leftBy_0 : List UInt8 := [42, 180, 0, 116, 27, 4, 28, 120, 128, 50, 28, 46, 172]
abbrev dktX1_leftBy_0 : List UInt8 := dkwX1_leftBy_0 ++ []
theorem dksX1_leftBy_0 : cX1_leftBy.data.toList.drop 0 = dktX1_leftBy_0 := by decide +kernel
theorem dX1_leftBy_0 : decode cX1_leftBy 0 = .ok (.aload_n 0, 1) := dk_42 (dk_at dksX1_leftBy_0 0 rfl rfl)
theorem dX1_leftBy_1 : decode cX1_leftBy 1 = .ok (.getfield 116, 3) := dk_180 0 116 (dk_at dksX1_leftBy_0 1 rfl rfl)
theorem dX1_leftBy_4 : decode cX1_leftBy 4 = .ok (.iload_n 1, 1) := dk_27 (dk_at dksX1_leftBy_0 4 rfl rfl)
theorem dX1_leftBy_5 : decode cX1_leftBy 5 = .ok (.iconst 1, 1) := dk_4 (dk_at dksX1_leftBy_0 5 rfl rfl)
theorem dX1_leftBy_6 : decode cX1_leftBy 6 = .ok (.iload_n 2, 1) := dk_28 (dk_at dksX1_leftBy_0 6 rfl rfl)
theorem dX1_leftBy_7 : decode cX1_leftBy 7 = .ok (.ishl, 1) := dk_120 (dk_at dksX1_leftBy_0 7 rfl rfl)
theorem dX1_leftBy_8 : decode cX1_leftBy 8 = .ok (.ior, 1) := dk_128 (dk_at dksX1_leftBy_0 8 rfl rfl)
theorem dX1_leftBy_9 : decode cX1_leftBy 9 = .ok (.aaload, 1) := dk_50 (dk_at dksX1_leftBy_0 9 rfl rfl)
theorem dX1_leftBy_10 : decode cX1_leftBy 10 = .ok (.iload_n 2, 1) := dk_28 (dk_at dksX1_leftBy_0 10 rfl rfl)
theorem dX1_leftBy_11 : decode cX1_leftBy 11 = .ok (.iaload, 1) := dk_46 (dk_at dksX1_leftBy_0 11 rfl rfl)
theorem dX1_leftBy_12 : decode cX1_leftBy 12 = .ok (.ireturn, 1) := dk_172 (dk_at dksX1_leftBy_0 12 rfl rfl)
abbrev cX1_roundAt : ByteArray := prog_1_method_41_code
def yX1_roundAt : MethodName := ⟨RX1, "roundAt", "(I)I"⟩
def dkwX1_roundAt_1 : List UInt8 := [172]
abbrev dktX1_roundAt_1 : List UInt8 := dkwX1_roundAt_1 ++ []
def dkwX1_roundAt_0 : List UInt8 := [27, 3, 42, 180, 0, 123, 4, 100, 184, 0, 185, 153, 0, 12, 42, 180, 0, 119, 27, 46, 167, 0, 4, 2]
abbrev dktX1_roundAt_0 : List UInt8 := dkwX1_roundAt_0 ++ dktX1_roundAt_1
theorem dksX1_roundAt_0 : cX1_roundAt.data.toList.drop 0 = dktX1_roundAt_0 := by decide +kernel
theorem dksX1_roundAt_1 : cX1_roundAt.data.toList.drop 24 = dktX1_roundAt_1 := dk_seg dksX1_roundAt_0 24 rfl rfl
theorem dX1_roundAt_0 : decode cX1_roundAt 0 = .ok (.iload_n 1, 1) := dk_27 (dk_at dksX1_roundAt_0 0 rfl rfl)
theorem dX1_roundAt_1 : decode cX1_roundAt 1 = .ok (.iconst 0, 1) := dk_3 (dk_at dksX1_roundAt_0 1 rfl rfl)
theorem dX1_roundAt_2 : decode cX1_roundAt 2 = .ok (.aload_n 0, 1) := dk_42 (dk_at dksX1_roundAt_0 2 rfl rfl)
theorem dX1_roundAt_3 : decode cX1_roundAt 3 = .ok (.getfield 123, 3) := dk_180 0 123 (dk_at dksX1_roundAt_0 3 rfl rfl)
theorem dX1_roundAt_6 : decode cX1_roundAt 6 = .ok (.iconst 1, 1) := dk_4 (dk_at dksX1_roundAt_0 6 rfl rfl)
theorem dX1_roundAt_7 : decode cX1_roundAt 7 = .ok (.isub, 1) := dk_100 (dk_at dksX1_roundAt_0 7 rfl rfl)
theorem dX1_roundAt_8 : decode cX1_roundAt 8 = .ok (.invokestatic 185, 3) := dk_184 0 185 (dk_at dksX1_roundAt_0 8 rfl rfl)
theorem dX1_roundAt_11 : decode cX1_roundAt 11 = .ok (.ifCond .eq 12, 3) := dk_153 0 12 (dk_at dksX1_roundAt_0 11 rfl rfl)
theorem dX1_roundAt_14 : decode cX1_roundAt 14 = .ok (.aload_n 0, 1) := dk_42 (dk_at dksX1_roundAt_0 14 rfl rfl)
theorem dX1_roundAt_15 : decode cX1_roundAt 15 = .ok (.getfield 119, 3) := dk_180 0 119 (dk_at dksX1_roundAt_0 15 rfl rfl)
theorem dX1_roundAt_18 : decode cX1_roundAt 18 = .ok (.iload_n 1, 1) := dk_27 (dk_at dksX1_roundAt_0 18 rfl rfl)
theorem dX1_roundAt_19 : decode cX1_roundAt 19 = .ok (.iaload, 1) := dk_46 (dk_at dksX1_roundAt_0 19 rfl rfl)
theorem dX1_roundAt_20 : decode cX1_roundAt 20 = .ok (.goto 4, 3) := dk_167 0 4 (dk_at dksX1_roundAt_0 20 rfl rfl)
theorem dX1_roundAt_23 : decode cX1_roundAt 23 = .ok (.iconst (-1), 1) := dk_2 (dk_at dksX1_roundAt_0 23 rfl rfl)
theorem dX1_roundAt_24 : decode cX1_roundAt 24 = .ok (.ireturn, 1) := dk_172 (dk_at dksX1_roundAt_1 0 rfl rfl)
abbrev cX1_choice : ByteArray := prog_1_method_43_code
def yX1_choice : MethodName := ⟨RX1, "choice", "()I"⟩
def dkwX1_choice_7 : List UInt8 := [181, 1, 123, 27, 172]
abbrev dktX1_choice_7 : List UInt8 := dkwX1_choice_7 ++ []
def dkwX1_choice_6 : List UInt8 := [42, 42, 180, 1, 108, 181, 1, 120, 132, 3, 1, 167, 255, 162, 132, 2, 1, 167, 255, 143, 42, 4]
abbrev dktX1_choice_6 : List UInt8 := dkwX1_choice_6 ++ dktX1_choice_7
def dkwX1_choice_5 : List UInt8 := [46, 79, 21, 4, 27, 163, 0, 6, 167, 0, 24, 21, 4, 60, 42, 28, 181, 1, 114, 42, 29, 181, 1, 117]
abbrev dktX1_choice_5 : List UInt8 := dkwX1_choice_5 ++ dktX1_choice_6
def dkwX1_choice_4 : List UInt8 := [29, 79, 42, 182, 1, 111, 54, 4, 42, 180, 0, 87, 180, 0, 209, 28, 42, 180, 0, 83, 180, 0, 209, 28]
abbrev dktX1_choice_4 : List UInt8 := dkwX1_choice_4 ++ dktX1_choice_5
def dkwX1_choice_3 : List UInt8 := [42, 180, 0, 83, 180, 0, 209, 28, 46, 29, 160, 0, 6, 167, 0, 67, 42, 180, 0, 87, 180, 0, 209, 28]
abbrev dktX1_choice_3 : List UInt8 := dkwX1_choice_3 ++ dktX1_choice_4
def dkwX1_choice_2 : List UInt8 := [28, 42, 180, 0, 76, 180, 0, 189, 162, 0, 108, 3, 62, 29, 42, 180, 0, 76, 180, 0, 182, 162, 0, 89]
abbrev dktX1_choice_2 : List UInt8 := dkwX1_choice_2 ++ dktX1_choice_3
def dkwX1_choice_1 : List UInt8 := [182, 1, 111, 60, 42, 2, 181, 1, 114, 42, 2, 181, 1, 117, 42, 42, 180, 1, 108, 181, 1, 120, 3, 61]
abbrev dktX1_choice_1 : List UInt8 := dkwX1_choice_1 ++ dktX1_choice_2
def dkwX1_choice_0 : List UInt8 := [42, 180, 0, 76, 180, 0, 182, 154, 0, 5, 2, 172, 42, 180, 0, 87, 42, 180, 0, 83, 182, 1, 25, 42]
abbrev dktX1_choice_0 : List UInt8 := dkwX1_choice_0 ++ dktX1_choice_1
theorem dksX1_choice_0 : cX1_choice.data.toList.drop 0 = dktX1_choice_0 := by decide +kernel
theorem dksX1_choice_1 : cX1_choice.data.toList.drop 24 = dktX1_choice_1 := dk_seg dksX1_choice_0 24 rfl rfl
theorem dksX1_choice_2 : cX1_choice.data.toList.drop 48 = dktX1_choice_2 := dk_seg dksX1_choice_1 24 rfl rfl
theorem dksX1_choice_3 : cX1_choice.data.toList.drop 72 = dktX1_choice_3 := dk_seg dksX1_choice_2 24 rfl rfl
theorem dksX1_choice_4 : cX1_choice.data.toList.drop 96 = dktX1_choice_4 := dk_seg dksX1_choice_3 24 rfl rfl
theorem dksX1_choice_5 : cX1_choice.data.toList.drop 120 = dktX1_choice_5 := dk_seg dksX1_choice_4 24 rfl rfl
theorem dksX1_choice_6 : cX1_choice.data.toList.drop 144 = dktX1_choice_6 := dk_seg dksX1_choice_5 24 rfl rfl
theorem dksX1_choice_7 : cX1_choice.data.toList.drop 166 = dktX1_choice_7 := dk_seg dksX1_choice_6 22 rfl rfl
theorem dX1_choice_0 : decode cX1_choice 0 = .ok (.aload_n 0, 1) := dk_42 (dk_at dksX1_choice_0 0 rfl rfl)
theorem dX1_choice_1 : decode cX1_choice 1 = .ok (.getfield 76, 3) := dk_180 0 76 (dk_at dksX1_choice_0 1 rfl rfl)
theorem dX1_choice_4 : decode cX1_choice 4 = .ok (.getfield 182, 3) := dk_180 0 182 (dk_at dksX1_choice_0 4 rfl rfl)
theorem dX1_choice_7 : decode cX1_choice 7 = .ok (.ifCond .ne 5, 3) := dk_154 0 5 (dk_at dksX1_choice_0 7 rfl rfl)
theorem dX1_choice_10 : decode cX1_choice 10 = .ok (.iconst (-1), 1) := dk_2 (dk_at dksX1_choice_0 10 rfl rfl)
theorem dX1_choice_11 : decode cX1_choice 11 = .ok (.ireturn, 1) := dk_172 (dk_at dksX1_choice_0 11 rfl rfl)
theorem dX1_choice_12 : decode cX1_choice 12 = .ok (.aload_n 0, 1) := dk_42 (dk_at dksX1_choice_0 12 rfl rfl)
theorem dX1_choice_13 : decode cX1_choice 13 = .ok (.getfield 87, 3) := dk_180 0 87 (dk_at dksX1_choice_0 13 rfl rfl)
theorem dX1_choice_16 : decode cX1_choice 16 = .ok (.aload_n 0, 1) := dk_42 (dk_at dksX1_choice_0 16 rfl rfl)
theorem dX1_choice_17 : decode cX1_choice 17 = .ok (.getfield 83, 3) := dk_180 0 83 (dk_at dksX1_choice_0 17 rfl rfl)
theorem dX1_choice_20 : decode cX1_choice 20 = .ok (.invokevirtual 281, 3) := dk_182 1 25 (dk_at dksX1_choice_0 20 rfl rfl)
theorem dX1_choice_23 : decode cX1_choice 23 = .ok (.aload_n 0, 1) := dk_42 (dk_at dksX1_choice_0 23 rfl rfl)
theorem dX1_choice_24 : decode cX1_choice 24 = .ok (.invokevirtual 367, 3) := dk_182 1 111 (dk_at dksX1_choice_1 0 rfl rfl)
theorem dX1_choice_27 : decode cX1_choice 27 = .ok (.istore_n 1, 1) := dk_60 (dk_at dksX1_choice_1 3 rfl rfl)
theorem dX1_choice_28 : decode cX1_choice 28 = .ok (.aload_n 0, 1) := dk_42 (dk_at dksX1_choice_1 4 rfl rfl)
theorem dX1_choice_29 : decode cX1_choice 29 = .ok (.iconst (-1), 1) := dk_2 (dk_at dksX1_choice_1 5 rfl rfl)
theorem dX1_choice_30 : decode cX1_choice 30 = .ok (.putfield 370, 3) := dk_181 1 114 (dk_at dksX1_choice_1 6 rfl rfl)
theorem dX1_choice_33 : decode cX1_choice 33 = .ok (.aload_n 0, 1) := dk_42 (dk_at dksX1_choice_1 9 rfl rfl)
theorem dX1_choice_34 : decode cX1_choice 34 = .ok (.iconst (-1), 1) := dk_2 (dk_at dksX1_choice_1 10 rfl rfl)
theorem dX1_choice_35 : decode cX1_choice 35 = .ok (.putfield 373, 3) := dk_181 1 117 (dk_at dksX1_choice_1 11 rfl rfl)
theorem dX1_choice_38 : decode cX1_choice 38 = .ok (.aload_n 0, 1) := dk_42 (dk_at dksX1_choice_1 14 rfl rfl)
theorem dX1_choice_39 : decode cX1_choice 39 = .ok (.aload_n 0, 1) := dk_42 (dk_at dksX1_choice_1 15 rfl rfl)
theorem dX1_choice_40 : decode cX1_choice 40 = .ok (.getfield 364, 3) := dk_180 1 108 (dk_at dksX1_choice_1 16 rfl rfl)
theorem dX1_choice_43 : decode cX1_choice 43 = .ok (.putfield 376, 3) := dk_181 1 120 (dk_at dksX1_choice_1 19 rfl rfl)
theorem dX1_choice_46 : decode cX1_choice 46 = .ok (.iconst 0, 1) := dk_3 (dk_at dksX1_choice_1 22 rfl rfl)
theorem dX1_choice_47 : decode cX1_choice 47 = .ok (.istore_n 2, 1) := dk_61 (dk_at dksX1_choice_1 23 rfl rfl)
theorem dX1_choice_48 : decode cX1_choice 48 = .ok (.iload_n 2, 1) := dk_28 (dk_at dksX1_choice_2 0 rfl rfl)
theorem dX1_choice_49 : decode cX1_choice 49 = .ok (.aload_n 0, 1) := dk_42 (dk_at dksX1_choice_2 1 rfl rfl)
theorem dX1_choice_50 : decode cX1_choice 50 = .ok (.getfield 76, 3) := dk_180 0 76 (dk_at dksX1_choice_2 2 rfl rfl)
theorem dX1_choice_53 : decode cX1_choice 53 = .ok (.getfield 189, 3) := dk_180 0 189 (dk_at dksX1_choice_2 5 rfl rfl)
theorem dX1_choice_56 : decode cX1_choice 56 = .ok (.if_icmp .ge 108, 3) := dk_162 0 108 (dk_at dksX1_choice_2 8 rfl rfl)
theorem dX1_choice_59 : decode cX1_choice 59 = .ok (.iconst 0, 1) := dk_3 (dk_at dksX1_choice_2 11 rfl rfl)
theorem dX1_choice_60 : decode cX1_choice 60 = .ok (.istore_n 3, 1) := dk_62 (dk_at dksX1_choice_2 12 rfl rfl)
theorem dX1_choice_61 : decode cX1_choice 61 = .ok (.iload_n 3, 1) := dk_29 (dk_at dksX1_choice_2 13 rfl rfl)
theorem dX1_choice_62 : decode cX1_choice 62 = .ok (.aload_n 0, 1) := dk_42 (dk_at dksX1_choice_2 14 rfl rfl)
theorem dX1_choice_63 : decode cX1_choice 63 = .ok (.getfield 76, 3) := dk_180 0 76 (dk_at dksX1_choice_2 15 rfl rfl)
theorem dX1_choice_66 : decode cX1_choice 66 = .ok (.getfield 182, 3) := dk_180 0 182 (dk_at dksX1_choice_2 18 rfl rfl)
theorem dX1_choice_69 : decode cX1_choice 69 = .ok (.if_icmp .ge 89, 3) := dk_162 0 89 (dk_at dksX1_choice_2 21 rfl rfl)
theorem dX1_choice_72 : decode cX1_choice 72 = .ok (.aload_n 0, 1) := dk_42 (dk_at dksX1_choice_3 0 rfl rfl)
theorem dX1_choice_73 : decode cX1_choice 73 = .ok (.getfield 83, 3) := dk_180 0 83 (dk_at dksX1_choice_3 1 rfl rfl)
theorem dX1_choice_76 : decode cX1_choice 76 = .ok (.getfield 209, 3) := dk_180 0 209 (dk_at dksX1_choice_3 4 rfl rfl)
theorem dX1_choice_79 : decode cX1_choice 79 = .ok (.iload_n 2, 1) := dk_28 (dk_at dksX1_choice_3 7 rfl rfl)
theorem dX1_choice_80 : decode cX1_choice 80 = .ok (.iaload, 1) := dk_46 (dk_at dksX1_choice_3 8 rfl rfl)
theorem dX1_choice_81 : decode cX1_choice 81 = .ok (.iload_n 3, 1) := dk_29 (dk_at dksX1_choice_3 9 rfl rfl)
theorem dX1_choice_82 : decode cX1_choice 82 = .ok (.if_icmp .ne 6, 3) := dk_160 0 6 (dk_at dksX1_choice_3 10 rfl rfl)
theorem dX1_choice_85 : decode cX1_choice 85 = .ok (.goto 67, 3) := dk_167 0 67 (dk_at dksX1_choice_3 13 rfl rfl)
theorem dX1_choice_88 : decode cX1_choice 88 = .ok (.aload_n 0, 1) := dk_42 (dk_at dksX1_choice_3 16 rfl rfl)
theorem dX1_choice_89 : decode cX1_choice 89 = .ok (.getfield 87, 3) := dk_180 0 87 (dk_at dksX1_choice_3 17 rfl rfl)
theorem dX1_choice_92 : decode cX1_choice 92 = .ok (.getfield 209, 3) := dk_180 0 209 (dk_at dksX1_choice_3 20 rfl rfl)
theorem dX1_choice_95 : decode cX1_choice 95 = .ok (.iload_n 2, 1) := dk_28 (dk_at dksX1_choice_3 23 rfl rfl)
theorem dX1_choice_96 : decode cX1_choice 96 = .ok (.iload_n 3, 1) := dk_29 (dk_at dksX1_choice_4 0 rfl rfl)
theorem dX1_choice_97 : decode cX1_choice 97 = .ok (.iastore, 1) := dk_79 (dk_at dksX1_choice_4 1 rfl rfl)
theorem dX1_choice_98 : decode cX1_choice 98 = .ok (.aload_n 0, 1) := dk_42 (dk_at dksX1_choice_4 2 rfl rfl)
theorem dX1_choice_99 : decode cX1_choice 99 = .ok (.invokevirtual 367, 3) := dk_182 1 111 (dk_at dksX1_choice_4 3 rfl rfl)
theorem dX1_choice_102 : decode cX1_choice 102 = .ok (.istore 4, 2) := dk_54 4 (dk_at dksX1_choice_4 6 rfl rfl)
theorem dX1_choice_104 : decode cX1_choice 104 = .ok (.aload_n 0, 1) := dk_42 (dk_at dksX1_choice_4 8 rfl rfl)
theorem dX1_choice_105 : decode cX1_choice 105 = .ok (.getfield 87, 3) := dk_180 0 87 (dk_at dksX1_choice_4 9 rfl rfl)
theorem dX1_choice_108 : decode cX1_choice 108 = .ok (.getfield 209, 3) := dk_180 0 209 (dk_at dksX1_choice_4 12 rfl rfl)
theorem dX1_choice_111 : decode cX1_choice 111 = .ok (.iload_n 2, 1) := dk_28 (dk_at dksX1_choice_4 15 rfl rfl)
theorem dX1_choice_112 : decode cX1_choice 112 = .ok (.aload_n 0, 1) := dk_42 (dk_at dksX1_choice_4 16 rfl rfl)
theorem dX1_choice_113 : decode cX1_choice 113 = .ok (.getfield 83, 3) := dk_180 0 83 (dk_at dksX1_choice_4 17 rfl rfl)
theorem dX1_choice_116 : decode cX1_choice 116 = .ok (.getfield 209, 3) := dk_180 0 209 (dk_at dksX1_choice_4 20 rfl rfl)
theorem dX1_choice_119 : decode cX1_choice 119 = .ok (.iload_n 2, 1) := dk_28 (dk_at dksX1_choice_4 23 rfl rfl)
theorem dX1_choice_120 : decode cX1_choice 120 = .ok (.iaload, 1) := dk_46 (dk_at dksX1_choice_5 0 rfl rfl)
theorem dX1_choice_121 : decode cX1_choice 121 = .ok (.iastore, 1) := dk_79 (dk_at dksX1_choice_5 1 rfl rfl)
theorem dX1_choice_122 : decode cX1_choice 122 = .ok (.iload 4, 2) := dk_21 4 (dk_at dksX1_choice_5 2 rfl rfl)
theorem dX1_choice_124 : decode cX1_choice 124 = .ok (.iload_n 1, 1) := dk_27 (dk_at dksX1_choice_5 4 rfl rfl)
theorem dX1_choice_125 : decode cX1_choice 125 = .ok (.if_icmp .gt 6, 3) := dk_163 0 6 (dk_at dksX1_choice_5 5 rfl rfl)
theorem dX1_choice_128 : decode cX1_choice 128 = .ok (.goto 24, 3) := dk_167 0 24 (dk_at dksX1_choice_5 8 rfl rfl)
theorem dX1_choice_131 : decode cX1_choice 131 = .ok (.iload 4, 2) := dk_21 4 (dk_at dksX1_choice_5 11 rfl rfl)
theorem dX1_choice_133 : decode cX1_choice 133 = .ok (.istore_n 1, 1) := dk_60 (dk_at dksX1_choice_5 13 rfl rfl)
theorem dX1_choice_134 : decode cX1_choice 134 = .ok (.aload_n 0, 1) := dk_42 (dk_at dksX1_choice_5 14 rfl rfl)
theorem dX1_choice_135 : decode cX1_choice 135 = .ok (.iload_n 2, 1) := dk_28 (dk_at dksX1_choice_5 15 rfl rfl)
theorem dX1_choice_136 : decode cX1_choice 136 = .ok (.putfield 370, 3) := dk_181 1 114 (dk_at dksX1_choice_5 16 rfl rfl)
theorem dX1_choice_139 : decode cX1_choice 139 = .ok (.aload_n 0, 1) := dk_42 (dk_at dksX1_choice_5 19 rfl rfl)
theorem dX1_choice_140 : decode cX1_choice 140 = .ok (.iload_n 3, 1) := dk_29 (dk_at dksX1_choice_5 20 rfl rfl)
theorem dX1_choice_141 : decode cX1_choice 141 = .ok (.putfield 373, 3) := dk_181 1 117 (dk_at dksX1_choice_5 21 rfl rfl)
theorem dX1_choice_144 : decode cX1_choice 144 = .ok (.aload_n 0, 1) := dk_42 (dk_at dksX1_choice_6 0 rfl rfl)
theorem dX1_choice_145 : decode cX1_choice 145 = .ok (.aload_n 0, 1) := dk_42 (dk_at dksX1_choice_6 1 rfl rfl)
theorem dX1_choice_146 : decode cX1_choice 146 = .ok (.getfield 364, 3) := dk_180 1 108 (dk_at dksX1_choice_6 2 rfl rfl)
theorem dX1_choice_149 : decode cX1_choice 149 = .ok (.putfield 376, 3) := dk_181 1 120 (dk_at dksX1_choice_6 5 rfl rfl)
theorem dX1_choice_152 : decode cX1_choice 152 = .ok (.iinc 3 1, 3) := dk_132 3 1 (dk_at dksX1_choice_6 8 rfl rfl)
theorem dX1_choice_155 : decode cX1_choice 155 = .ok (.goto (-94), 3) := dk_167 255 162 (dk_at dksX1_choice_6 11 rfl rfl)
theorem dX1_choice_158 : decode cX1_choice 158 = .ok (.iinc 2 1, 3) := dk_132 2 1 (dk_at dksX1_choice_6 14 rfl rfl)
theorem dX1_choice_161 : decode cX1_choice 161 = .ok (.goto (-113), 3) := dk_167 255 143 (dk_at dksX1_choice_6 17 rfl rfl)
theorem dX1_choice_164 : decode cX1_choice 164 = .ok (.aload_n 0, 1) := dk_42 (dk_at dksX1_choice_6 20 rfl rfl)
theorem dX1_choice_165 : decode cX1_choice 165 = .ok (.iconst 1, 1) := dk_4 (dk_at dksX1_choice_6 21 rfl rfl)
theorem dX1_choice_166 : decode cX1_choice 166 = .ok (.putfield 379, 3) := dk_181 1 123 (dk_at dksX1_choice_7 0 rfl rfl)
theorem dX1_choice_169 : decode cX1_choice 169 = .ok (.iload_n 1, 1) := dk_27 (dk_at dksX1_choice_7 3 rfl rfl)
theorem dX1_choice_170 : decode cX1_choice 170 = .ok (.ireturn, 1) := dk_172 (dk_at dksX1_choice_7 4 rfl rfl)
abbrev cX1_fewest : ByteArray := prog_1_method_42_code
def yX1_fewest : MethodName := ⟨RX1, "fewest", "()I"⟩
def dkwX1_fewest_3 : List UInt8 := [182, 1, 105, 184, 1, 68, 172]
abbrev dktX1_fewest_3 : List UInt8 := dkwX1_fewest_3 ++ []
def dkwX1_fewest_2 : List UInt8 := [28, 60, 132, 2, 1, 167, 255, 207, 42, 27, 181, 1, 108, 42, 180, 0, 87, 42, 180, 0, 76, 27]
abbrev dktX1_fewest_2 : List UInt8 := dkwX1_fewest_2 ++ dktX1_fewest_3
def dkwX1_fewest_1 : List UInt8 := [182, 1, 105, 184, 1, 68, 42, 180, 0, 87, 42, 180, 0, 76, 27, 182, 1, 105, 184, 1, 68, 162, 0, 5]
abbrev dktX1_fewest_1 : List UInt8 := dkwX1_fewest_1 ++ dktX1_fewest_2
def dkwX1_fewest_0 : List UInt8 := [3, 60, 4, 61, 28, 42, 180, 0, 76, 180, 0, 182, 162, 0, 44, 42, 180, 0, 87, 42, 180, 0, 76, 28]
abbrev dktX1_fewest_0 : List UInt8 := dkwX1_fewest_0 ++ dktX1_fewest_1
theorem dksX1_fewest_0 : cX1_fewest.data.toList.drop 0 = dktX1_fewest_0 := by decide +kernel
theorem dksX1_fewest_1 : cX1_fewest.data.toList.drop 24 = dktX1_fewest_1 := dk_seg dksX1_fewest_0 24 rfl rfl
theorem dksX1_fewest_2 : cX1_fewest.data.toList.drop 48 = dktX1_fewest_2 := dk_seg dksX1_fewest_1 24 rfl rfl
theorem dksX1_fewest_3 : cX1_fewest.data.toList.drop 70 = dktX1_fewest_3 := dk_seg dksX1_fewest_2 22 rfl rfl
theorem dX1_fewest_0 : decode cX1_fewest 0 = .ok (.iconst 0, 1) := dk_3 (dk_at dksX1_fewest_0 0 rfl rfl)
theorem dX1_fewest_1 : decode cX1_fewest 1 = .ok (.istore_n 1, 1) := dk_60 (dk_at dksX1_fewest_0 1 rfl rfl)
theorem dX1_fewest_2 : decode cX1_fewest 2 = .ok (.iconst 1, 1) := dk_4 (dk_at dksX1_fewest_0 2 rfl rfl)
theorem dX1_fewest_3 : decode cX1_fewest 3 = .ok (.istore_n 2, 1) := dk_61 (dk_at dksX1_fewest_0 3 rfl rfl)
theorem dX1_fewest_4 : decode cX1_fewest 4 = .ok (.iload_n 2, 1) := dk_28 (dk_at dksX1_fewest_0 4 rfl rfl)
theorem dX1_fewest_5 : decode cX1_fewest 5 = .ok (.aload_n 0, 1) := dk_42 (dk_at dksX1_fewest_0 5 rfl rfl)
theorem dX1_fewest_6 : decode cX1_fewest 6 = .ok (.getfield 76, 3) := dk_180 0 76 (dk_at dksX1_fewest_0 6 rfl rfl)
theorem dX1_fewest_9 : decode cX1_fewest 9 = .ok (.getfield 182, 3) := dk_180 0 182 (dk_at dksX1_fewest_0 9 rfl rfl)
theorem dX1_fewest_12 : decode cX1_fewest 12 = .ok (.if_icmp .ge 44, 3) := dk_162 0 44 (dk_at dksX1_fewest_0 12 rfl rfl)
theorem dX1_fewest_15 : decode cX1_fewest 15 = .ok (.aload_n 0, 1) := dk_42 (dk_at dksX1_fewest_0 15 rfl rfl)
theorem dX1_fewest_16 : decode cX1_fewest 16 = .ok (.getfield 87, 3) := dk_180 0 87 (dk_at dksX1_fewest_0 16 rfl rfl)
theorem dX1_fewest_19 : decode cX1_fewest 19 = .ok (.aload_n 0, 1) := dk_42 (dk_at dksX1_fewest_0 19 rfl rfl)
theorem dX1_fewest_20 : decode cX1_fewest 20 = .ok (.getfield 76, 3) := dk_180 0 76 (dk_at dksX1_fewest_0 20 rfl rfl)
theorem dX1_fewest_23 : decode cX1_fewest 23 = .ok (.iload_n 2, 1) := dk_28 (dk_at dksX1_fewest_0 23 rfl rfl)
theorem dX1_fewest_24 : decode cX1_fewest 24 = .ok (.invokevirtual 361, 3) := dk_182 1 105 (dk_at dksX1_fewest_1 0 rfl rfl)
theorem dX1_fewest_27 : decode cX1_fewest 27 = .ok (.invokestatic 324, 3) := dk_184 1 68 (dk_at dksX1_fewest_1 3 rfl rfl)
theorem dX1_fewest_30 : decode cX1_fewest 30 = .ok (.aload_n 0, 1) := dk_42 (dk_at dksX1_fewest_1 6 rfl rfl)
theorem dX1_fewest_31 : decode cX1_fewest 31 = .ok (.getfield 87, 3) := dk_180 0 87 (dk_at dksX1_fewest_1 7 rfl rfl)
theorem dX1_fewest_34 : decode cX1_fewest 34 = .ok (.aload_n 0, 1) := dk_42 (dk_at dksX1_fewest_1 10 rfl rfl)
theorem dX1_fewest_35 : decode cX1_fewest 35 = .ok (.getfield 76, 3) := dk_180 0 76 (dk_at dksX1_fewest_1 11 rfl rfl)
theorem dX1_fewest_38 : decode cX1_fewest 38 = .ok (.iload_n 1, 1) := dk_27 (dk_at dksX1_fewest_1 14 rfl rfl)
theorem dX1_fewest_39 : decode cX1_fewest 39 = .ok (.invokevirtual 361, 3) := dk_182 1 105 (dk_at dksX1_fewest_1 15 rfl rfl)
theorem dX1_fewest_42 : decode cX1_fewest 42 = .ok (.invokestatic 324, 3) := dk_184 1 68 (dk_at dksX1_fewest_1 18 rfl rfl)
theorem dX1_fewest_45 : decode cX1_fewest 45 = .ok (.if_icmp .ge 5, 3) := dk_162 0 5 (dk_at dksX1_fewest_1 21 rfl rfl)
theorem dX1_fewest_48 : decode cX1_fewest 48 = .ok (.iload_n 2, 1) := dk_28 (dk_at dksX1_fewest_2 0 rfl rfl)
theorem dX1_fewest_49 : decode cX1_fewest 49 = .ok (.istore_n 1, 1) := dk_60 (dk_at dksX1_fewest_2 1 rfl rfl)
theorem dX1_fewest_50 : decode cX1_fewest 50 = .ok (.iinc 2 1, 3) := dk_132 2 1 (dk_at dksX1_fewest_2 2 rfl rfl)
theorem dX1_fewest_53 : decode cX1_fewest 53 = .ok (.goto (-49), 3) := dk_167 255 207 (dk_at dksX1_fewest_2 5 rfl rfl)
theorem dX1_fewest_56 : decode cX1_fewest 56 = .ok (.aload_n 0, 1) := dk_42 (dk_at dksX1_fewest_2 8 rfl rfl)
theorem dX1_fewest_57 : decode cX1_fewest 57 = .ok (.iload_n 1, 1) := dk_27 (dk_at dksX1_fewest_2 9 rfl rfl)
theorem dX1_fewest_58 : decode cX1_fewest 58 = .ok (.putfield 364, 3) := dk_181 1 108 (dk_at dksX1_fewest_2 10 rfl rfl)
theorem dX1_fewest_61 : decode cX1_fewest 61 = .ok (.aload_n 0, 1) := dk_42 (dk_at dksX1_fewest_2 13 rfl rfl)
theorem dX1_fewest_62 : decode cX1_fewest 62 = .ok (.getfield 87, 3) := dk_180 0 87 (dk_at dksX1_fewest_2 14 rfl rfl)
theorem dX1_fewest_65 : decode cX1_fewest 65 = .ok (.aload_n 0, 1) := dk_42 (dk_at dksX1_fewest_2 17 rfl rfl)
theorem dX1_fewest_66 : decode cX1_fewest 66 = .ok (.getfield 76, 3) := dk_180 0 76 (dk_at dksX1_fewest_2 18 rfl rfl)
theorem dX1_fewest_69 : decode cX1_fewest 69 = .ok (.iload_n 1, 1) := dk_27 (dk_at dksX1_fewest_2 21 rfl rfl)
theorem dX1_fewest_70 : decode cX1_fewest 70 = .ok (.invokevirtual 361, 3) := dk_182 1 105 (dk_at dksX1_fewest_3 0 rfl rfl)
theorem dX1_fewest_73 : decode cX1_fewest 73 = .ok (.invokestatic 324, 3) := dk_184 1 68 (dk_at dksX1_fewest_3 3 rfl rfl)
theorem dX1_fewest_76 : decode cX1_fewest 76 = .ok (.ireturn, 1) := dk_172 (dk_at dksX1_fewest_3 6 rfl rfl)
abbrev cX1_chosen : ByteArray := prog_1_method_44_code
def yX1_chosen : MethodName := ⟨RX1, "chosen", "(I)I"⟩
def dkwX1_chosen_1 : List UInt8 := [160, 0, 10, 42, 180, 1, 117, 167, 0, 16, 27, 5, 160, 0, 10, 42, 180, 1, 120, 167, 0, 4, 2, 172]
abbrev dktX1_chosen_1 : List UInt8 := dkwX1_chosen_1 ++ []
def dkwX1_chosen_0 : List UInt8 := [42, 180, 1, 123, 154, 0, 5, 2, 172, 27, 154, 0, 10, 42, 180, 1, 114, 167, 0, 28, 27, 4]
abbrev dktX1_chosen_0 : List UInt8 := dkwX1_chosen_0 ++ dktX1_chosen_1
theorem dksX1_chosen_0 : cX1_chosen.data.toList.drop 0 = dktX1_chosen_0 := by decide +kernel
theorem dksX1_chosen_1 : cX1_chosen.data.toList.drop 22 = dktX1_chosen_1 := dk_seg dksX1_chosen_0 22 rfl rfl
theorem dX1_chosen_0 : decode cX1_chosen 0 = .ok (.aload_n 0, 1) := dk_42 (dk_at dksX1_chosen_0 0 rfl rfl)
theorem dX1_chosen_1 : decode cX1_chosen 1 = .ok (.getfield 379, 3) := dk_180 1 123 (dk_at dksX1_chosen_0 1 rfl rfl)
theorem dX1_chosen_4 : decode cX1_chosen 4 = .ok (.ifCond .ne 5, 3) := dk_154 0 5 (dk_at dksX1_chosen_0 4 rfl rfl)
theorem dX1_chosen_7 : decode cX1_chosen 7 = .ok (.iconst (-1), 1) := dk_2 (dk_at dksX1_chosen_0 7 rfl rfl)
theorem dX1_chosen_8 : decode cX1_chosen 8 = .ok (.ireturn, 1) := dk_172 (dk_at dksX1_chosen_0 8 rfl rfl)
theorem dX1_chosen_9 : decode cX1_chosen 9 = .ok (.iload_n 1, 1) := dk_27 (dk_at dksX1_chosen_0 9 rfl rfl)
theorem dX1_chosen_10 : decode cX1_chosen 10 = .ok (.ifCond .ne 10, 3) := dk_154 0 10 (dk_at dksX1_chosen_0 10 rfl rfl)
theorem dX1_chosen_13 : decode cX1_chosen 13 = .ok (.aload_n 0, 1) := dk_42 (dk_at dksX1_chosen_0 13 rfl rfl)
theorem dX1_chosen_14 : decode cX1_chosen 14 = .ok (.getfield 370, 3) := dk_180 1 114 (dk_at dksX1_chosen_0 14 rfl rfl)
theorem dX1_chosen_17 : decode cX1_chosen 17 = .ok (.goto 28, 3) := dk_167 0 28 (dk_at dksX1_chosen_0 17 rfl rfl)
theorem dX1_chosen_20 : decode cX1_chosen 20 = .ok (.iload_n 1, 1) := dk_27 (dk_at dksX1_chosen_0 20 rfl rfl)
theorem dX1_chosen_21 : decode cX1_chosen 21 = .ok (.iconst 1, 1) := dk_4 (dk_at dksX1_chosen_0 21 rfl rfl)
theorem dX1_chosen_22 : decode cX1_chosen 22 = .ok (.if_icmp .ne 10, 3) := dk_160 0 10 (dk_at dksX1_chosen_1 0 rfl rfl)
theorem dX1_chosen_25 : decode cX1_chosen 25 = .ok (.aload_n 0, 1) := dk_42 (dk_at dksX1_chosen_1 3 rfl rfl)
theorem dX1_chosen_26 : decode cX1_chosen 26 = .ok (.getfield 373, 3) := dk_180 1 117 (dk_at dksX1_chosen_1 4 rfl rfl)
theorem dX1_chosen_29 : decode cX1_chosen 29 = .ok (.goto 16, 3) := dk_167 0 16 (dk_at dksX1_chosen_1 7 rfl rfl)
theorem dX1_chosen_32 : decode cX1_chosen 32 = .ok (.iload_n 1, 1) := dk_27 (dk_at dksX1_chosen_1 10 rfl rfl)
theorem dX1_chosen_33 : decode cX1_chosen 33 = .ok (.iconst 2, 1) := dk_5 (dk_at dksX1_chosen_1 11 rfl rfl)
theorem dX1_chosen_34 : decode cX1_chosen 34 = .ok (.if_icmp .ne 10, 3) := dk_160 0 10 (dk_at dksX1_chosen_1 12 rfl rfl)
theorem dX1_chosen_37 : decode cX1_chosen 37 = .ok (.aload_n 0, 1) := dk_42 (dk_at dksX1_chosen_1 15 rfl rfl)
theorem dX1_chosen_38 : decode cX1_chosen 38 = .ok (.getfield 376, 3) := dk_180 1 120 (dk_at dksX1_chosen_1 16 rfl rfl)
theorem dX1_chosen_41 : decode cX1_chosen 41 = .ok (.goto 4, 3) := dk_167 0 4 (dk_at dksX1_chosen_1 19 rfl rfl)
theorem dX1_chosen_44 : decode cX1_chosen 44 = .ok (.iconst (-1), 1) := dk_2 (dk_at dksX1_chosen_1 22 rfl rfl)
theorem dX1_chosen_45 : decode cX1_chosen 45 = .ok (.ireturn, 1) := dk_172 (dk_at dksX1_chosen_1 23 rfl rfl)
abbrev cX1_elder : ByteArray := prog_1_method_45_code
def yX1_elder : MethodName := ⟨RX1, "elder", "()I"⟩
def dkwX1_elder_2 : List UInt8 := [132, 2, 1, 167, 255, 210, 27, 172]
abbrev dktX1_elder_2 : List UInt8 := dkwX1_elder_2 ++ []
def dkwX1_elder_1 : List UInt8 := [27, 2, 160, 0, 7, 3, 167, 0, 12, 42, 180, 0, 83, 27, 4, 182, 0, 226, 164, 0, 5, 28, 60]
abbrev dktX1_elder_1 : List UInt8 := dkwX1_elder_1 ++ dktX1_elder_2
def dkwX1_elder_0 : List UInt8 := [2, 60, 3, 61, 28, 42, 180, 0, 76, 180, 0, 189, 162, 0, 41, 42, 180, 0, 83, 28, 4, 182, 0, 226]
abbrev dktX1_elder_0 : List UInt8 := dkwX1_elder_0 ++ dktX1_elder_1
theorem dksX1_elder_0 : cX1_elder.data.toList.drop 0 = dktX1_elder_0 := by decide +kernel
theorem dksX1_elder_1 : cX1_elder.data.toList.drop 24 = dktX1_elder_1 := dk_seg dksX1_elder_0 24 rfl rfl
theorem dksX1_elder_2 : cX1_elder.data.toList.drop 47 = dktX1_elder_2 := dk_seg dksX1_elder_1 23 rfl rfl
theorem dX1_elder_0 : decode cX1_elder 0 = .ok (.iconst (-1), 1) := dk_2 (dk_at dksX1_elder_0 0 rfl rfl)
theorem dX1_elder_1 : decode cX1_elder 1 = .ok (.istore_n 1, 1) := dk_60 (dk_at dksX1_elder_0 1 rfl rfl)
theorem dX1_elder_2 : decode cX1_elder 2 = .ok (.iconst 0, 1) := dk_3 (dk_at dksX1_elder_0 2 rfl rfl)
theorem dX1_elder_3 : decode cX1_elder 3 = .ok (.istore_n 2, 1) := dk_61 (dk_at dksX1_elder_0 3 rfl rfl)
theorem dX1_elder_4 : decode cX1_elder 4 = .ok (.iload_n 2, 1) := dk_28 (dk_at dksX1_elder_0 4 rfl rfl)
theorem dX1_elder_5 : decode cX1_elder 5 = .ok (.aload_n 0, 1) := dk_42 (dk_at dksX1_elder_0 5 rfl rfl)
theorem dX1_elder_6 : decode cX1_elder 6 = .ok (.getfield 76, 3) := dk_180 0 76 (dk_at dksX1_elder_0 6 rfl rfl)
theorem dX1_elder_9 : decode cX1_elder 9 = .ok (.getfield 189, 3) := dk_180 0 189 (dk_at dksX1_elder_0 9 rfl rfl)
theorem dX1_elder_12 : decode cX1_elder 12 = .ok (.if_icmp .ge 41, 3) := dk_162 0 41 (dk_at dksX1_elder_0 12 rfl rfl)
theorem dX1_elder_15 : decode cX1_elder 15 = .ok (.aload_n 0, 1) := dk_42 (dk_at dksX1_elder_0 15 rfl rfl)
theorem dX1_elder_16 : decode cX1_elder 16 = .ok (.getfield 83, 3) := dk_180 0 83 (dk_at dksX1_elder_0 16 rfl rfl)
theorem dX1_elder_19 : decode cX1_elder 19 = .ok (.iload_n 2, 1) := dk_28 (dk_at dksX1_elder_0 19 rfl rfl)
theorem dX1_elder_20 : decode cX1_elder 20 = .ok (.iconst 1, 1) := dk_4 (dk_at dksX1_elder_0 20 rfl rfl)
theorem dX1_elder_21 : decode cX1_elder 21 = .ok (.invokevirtual 226, 3) := dk_182 0 226 (dk_at dksX1_elder_0 21 rfl rfl)
theorem dX1_elder_24 : decode cX1_elder 24 = .ok (.iload_n 1, 1) := dk_27 (dk_at dksX1_elder_1 0 rfl rfl)
theorem dX1_elder_25 : decode cX1_elder 25 = .ok (.iconst (-1), 1) := dk_2 (dk_at dksX1_elder_1 1 rfl rfl)
theorem dX1_elder_26 : decode cX1_elder 26 = .ok (.if_icmp .ne 7, 3) := dk_160 0 7 (dk_at dksX1_elder_1 2 rfl rfl)
theorem dX1_elder_29 : decode cX1_elder 29 = .ok (.iconst 0, 1) := dk_3 (dk_at dksX1_elder_1 5 rfl rfl)
theorem dX1_elder_30 : decode cX1_elder 30 = .ok (.goto 12, 3) := dk_167 0 12 (dk_at dksX1_elder_1 6 rfl rfl)
theorem dX1_elder_33 : decode cX1_elder 33 = .ok (.aload_n 0, 1) := dk_42 (dk_at dksX1_elder_1 9 rfl rfl)
theorem dX1_elder_34 : decode cX1_elder 34 = .ok (.getfield 83, 3) := dk_180 0 83 (dk_at dksX1_elder_1 10 rfl rfl)
theorem dX1_elder_37 : decode cX1_elder 37 = .ok (.iload_n 1, 1) := dk_27 (dk_at dksX1_elder_1 13 rfl rfl)
theorem dX1_elder_38 : decode cX1_elder 38 = .ok (.iconst 1, 1) := dk_4 (dk_at dksX1_elder_1 14 rfl rfl)
theorem dX1_elder_39 : decode cX1_elder 39 = .ok (.invokevirtual 226, 3) := dk_182 0 226 (dk_at dksX1_elder_1 15 rfl rfl)
theorem dX1_elder_42 : decode cX1_elder 42 = .ok (.if_icmp .le 5, 3) := dk_164 0 5 (dk_at dksX1_elder_1 18 rfl rfl)
theorem dX1_elder_45 : decode cX1_elder 45 = .ok (.iload_n 2, 1) := dk_28 (dk_at dksX1_elder_1 21 rfl rfl)
theorem dX1_elder_46 : decode cX1_elder 46 = .ok (.istore_n 1, 1) := dk_60 (dk_at dksX1_elder_1 22 rfl rfl)
theorem dX1_elder_47 : decode cX1_elder 47 = .ok (.iinc 2 1, 3) := dk_132 2 1 (dk_at dksX1_elder_2 0 rfl rfl)
theorem dX1_elder_50 : decode cX1_elder 50 = .ok (.goto (-46), 3) := dk_167 255 210 (dk_at dksX1_elder_2 3 rfl rfl)
theorem dX1_elder_53 : decode cX1_elder 53 = .ok (.iload_n 1, 1) := dk_27 (dk_at dksX1_elder_2 6 rfl rfl)
theorem dX1_elder_54 : decode cX1_elder 54 = .ok (.ireturn, 1) := dk_172 (dk_at dksX1_elder_2 7 rfl rfl)
abbrev cX1_card : ByteArray := prog_1_method_49_code
def yX1_card : MethodName := ⟨RX1, "card", "(I)I"⟩
def dkwX1_card_4 : List UInt8 := [42, 19, 1, 158, 182, 1, 149, 42, 180, 1, 126, 172]
abbrev dktX1_card_4 : List UInt8 := dkwX1_card_4 ++ []
def dkwX1_card_3 : List UInt8 := [182, 0, 226, 184, 1, 154, 182, 1, 149, 42, 180, 0, 83, 42, 180, 0, 76, 27, 182, 0, 223, 154, 0, 10]
abbrev dktX1_card_3 : List UInt8 := dkwX1_card_3 ++ dktX1_card_4
def dkwX1_card_2 : List UInt8 := [182, 1, 149, 42, 180, 1, 126, 172, 42, 19, 1, 152, 182, 1, 149, 42, 42, 180, 0, 83, 27, 4]
abbrev dktX1_card_2 : List UInt8 := dkwX1_card_2 ++ dktX1_card_3
def dkwX1_card_1 : List UInt8 := [47, 182, 1, 144, 42, 180, 0, 76, 180, 0, 214, 27, 184, 0, 217, 153, 0, 15, 42, 19, 1, 147]
abbrev dktX1_card_1 : List UInt8 := dkwX1_card_1 ++ dktX1_card_2
def dkwX1_card_0 : List UInt8 := [42, 27, 182, 0, 201, 154, 0, 5, 2, 172, 42, 3, 181, 1, 126, 42, 42, 180, 0, 76, 180, 1, 140, 27]
abbrev dktX1_card_0 : List UInt8 := dkwX1_card_0 ++ dktX1_card_1
theorem dksX1_card_0 : cX1_card.data.toList.drop 0 = dktX1_card_0 := by decide +kernel
theorem dksX1_card_1 : cX1_card.data.toList.drop 24 = dktX1_card_1 := dk_seg dksX1_card_0 24 rfl rfl
theorem dksX1_card_2 : cX1_card.data.toList.drop 46 = dktX1_card_2 := dk_seg dksX1_card_1 22 rfl rfl
theorem dksX1_card_3 : cX1_card.data.toList.drop 68 = dktX1_card_3 := dk_seg dksX1_card_2 22 rfl rfl
theorem dksX1_card_4 : cX1_card.data.toList.drop 92 = dktX1_card_4 := dk_seg dksX1_card_3 24 rfl rfl
theorem dX1_card_0 : decode cX1_card 0 = .ok (.aload_n 0, 1) := dk_42 (dk_at dksX1_card_0 0 rfl rfl)
theorem dX1_card_1 : decode cX1_card 1 = .ok (.iload_n 1, 1) := dk_27 (dk_at dksX1_card_0 1 rfl rfl)
theorem dX1_card_2 : decode cX1_card 2 = .ok (.invokevirtual 201, 3) := dk_182 0 201 (dk_at dksX1_card_0 2 rfl rfl)
theorem dX1_card_5 : decode cX1_card 5 = .ok (.ifCond .ne 5, 3) := dk_154 0 5 (dk_at dksX1_card_0 5 rfl rfl)
theorem dX1_card_8 : decode cX1_card 8 = .ok (.iconst (-1), 1) := dk_2 (dk_at dksX1_card_0 8 rfl rfl)
theorem dX1_card_9 : decode cX1_card 9 = .ok (.ireturn, 1) := dk_172 (dk_at dksX1_card_0 9 rfl rfl)
theorem dX1_card_10 : decode cX1_card 10 = .ok (.aload_n 0, 1) := dk_42 (dk_at dksX1_card_0 10 rfl rfl)
theorem dX1_card_11 : decode cX1_card 11 = .ok (.iconst 0, 1) := dk_3 (dk_at dksX1_card_0 11 rfl rfl)
theorem dX1_card_12 : decode cX1_card 12 = .ok (.putfield 382, 3) := dk_181 1 126 (dk_at dksX1_card_0 12 rfl rfl)
theorem dX1_card_15 : decode cX1_card 15 = .ok (.aload_n 0, 1) := dk_42 (dk_at dksX1_card_0 15 rfl rfl)
theorem dX1_card_16 : decode cX1_card 16 = .ok (.aload_n 0, 1) := dk_42 (dk_at dksX1_card_0 16 rfl rfl)
theorem dX1_card_17 : decode cX1_card 17 = .ok (.getfield 76, 3) := dk_180 0 76 (dk_at dksX1_card_0 17 rfl rfl)
theorem dX1_card_20 : decode cX1_card 20 = .ok (.getfield 396, 3) := dk_180 1 140 (dk_at dksX1_card_0 20 rfl rfl)
theorem dX1_card_23 : decode cX1_card 23 = .ok (.iload_n 1, 1) := dk_27 (dk_at dksX1_card_0 23 rfl rfl)
theorem dX1_card_24 : decode cX1_card 24 = .ok (.laload, 1) := dk_47 (dk_at dksX1_card_1 0 rfl rfl)
theorem dX1_card_25 : decode cX1_card 25 = .ok (.invokevirtual 400, 3) := dk_182 1 144 (dk_at dksX1_card_1 1 rfl rfl)
theorem dX1_card_28 : decode cX1_card 28 = .ok (.aload_n 0, 1) := dk_42 (dk_at dksX1_card_1 4 rfl rfl)
theorem dX1_card_29 : decode cX1_card 29 = .ok (.getfield 76, 3) := dk_180 0 76 (dk_at dksX1_card_1 5 rfl rfl)
theorem dX1_card_32 : decode cX1_card 32 = .ok (.getfield 214, 3) := dk_180 0 214 (dk_at dksX1_card_1 8 rfl rfl)
theorem dX1_card_35 : decode cX1_card 35 = .ok (.iload_n 1, 1) := dk_27 (dk_at dksX1_card_1 11 rfl rfl)
theorem dX1_card_36 : decode cX1_card 36 = .ok (.invokestatic 217, 3) := dk_184 0 217 (dk_at dksX1_card_1 12 rfl rfl)
theorem dX1_card_39 : decode cX1_card 39 = .ok (.ifCond .eq 15, 3) := dk_153 0 15 (dk_at dksX1_card_1 15 rfl rfl)
theorem dX1_card_42 : decode cX1_card 42 = .ok (.aload_n 0, 1) := dk_42 (dk_at dksX1_card_1 18 rfl rfl)
theorem dX1_card_43 : decode cX1_card 43 = .ok (.ldc_w 403, 3) := dk_19 1 147 (dk_at dksX1_card_1 19 rfl rfl)
theorem dX1_card_46 : decode cX1_card 46 = .ok (.invokevirtual 405, 3) := dk_182 1 149 (dk_at dksX1_card_2 0 rfl rfl)
theorem dX1_card_49 : decode cX1_card 49 = .ok (.aload_n 0, 1) := dk_42 (dk_at dksX1_card_2 3 rfl rfl)
theorem dX1_card_50 : decode cX1_card 50 = .ok (.getfield 382, 3) := dk_180 1 126 (dk_at dksX1_card_2 4 rfl rfl)
theorem dX1_card_53 : decode cX1_card 53 = .ok (.ireturn, 1) := dk_172 (dk_at dksX1_card_2 7 rfl rfl)
theorem dX1_card_54 : decode cX1_card 54 = .ok (.aload_n 0, 1) := dk_42 (dk_at dksX1_card_2 8 rfl rfl)
theorem dX1_card_55 : decode cX1_card 55 = .ok (.ldc_w 408, 3) := dk_19 1 152 (dk_at dksX1_card_2 9 rfl rfl)
theorem dX1_card_58 : decode cX1_card 58 = .ok (.invokevirtual 405, 3) := dk_182 1 149 (dk_at dksX1_card_2 12 rfl rfl)
theorem dX1_card_61 : decode cX1_card 61 = .ok (.aload_n 0, 1) := dk_42 (dk_at dksX1_card_2 15 rfl rfl)
theorem dX1_card_62 : decode cX1_card 62 = .ok (.aload_n 0, 1) := dk_42 (dk_at dksX1_card_2 16 rfl rfl)
theorem dX1_card_63 : decode cX1_card 63 = .ok (.getfield 83, 3) := dk_180 0 83 (dk_at dksX1_card_2 17 rfl rfl)
theorem dX1_card_66 : decode cX1_card 66 = .ok (.iload_n 1, 1) := dk_27 (dk_at dksX1_card_2 20 rfl rfl)
theorem dX1_card_67 : decode cX1_card 67 = .ok (.iconst 1, 1) := dk_4 (dk_at dksX1_card_2 21 rfl rfl)
theorem dX1_card_68 : decode cX1_card 68 = .ok (.invokevirtual 226, 3) := dk_182 0 226 (dk_at dksX1_card_3 0 rfl rfl)
theorem dX1_card_71 : decode cX1_card 71 = .ok (.invokestatic 410, 3) := dk_184 1 154 (dk_at dksX1_card_3 3 rfl rfl)
theorem dX1_card_74 : decode cX1_card 74 = .ok (.invokevirtual 405, 3) := dk_182 1 149 (dk_at dksX1_card_3 6 rfl rfl)
theorem dX1_card_77 : decode cX1_card 77 = .ok (.aload_n 0, 1) := dk_42 (dk_at dksX1_card_3 9 rfl rfl)
theorem dX1_card_78 : decode cX1_card 78 = .ok (.getfield 83, 3) := dk_180 0 83 (dk_at dksX1_card_3 10 rfl rfl)
theorem dX1_card_81 : decode cX1_card 81 = .ok (.aload_n 0, 1) := dk_42 (dk_at dksX1_card_3 13 rfl rfl)
theorem dX1_card_82 : decode cX1_card 82 = .ok (.getfield 76, 3) := dk_180 0 76 (dk_at dksX1_card_3 14 rfl rfl)
theorem dX1_card_85 : decode cX1_card 85 = .ok (.iload_n 1, 1) := dk_27 (dk_at dksX1_card_3 17 rfl rfl)
theorem dX1_card_86 : decode cX1_card 86 = .ok (.invokevirtual 223, 3) := dk_182 0 223 (dk_at dksX1_card_3 18 rfl rfl)
theorem dX1_card_89 : decode cX1_card 89 = .ok (.ifCond .ne 10, 3) := dk_154 0 10 (dk_at dksX1_card_3 21 rfl rfl)
theorem dX1_card_92 : decode cX1_card 92 = .ok (.aload_n 0, 1) := dk_42 (dk_at dksX1_card_4 0 rfl rfl)
theorem dX1_card_93 : decode cX1_card 93 = .ok (.ldc_w 414, 3) := dk_19 1 158 (dk_at dksX1_card_4 1 rfl rfl)
theorem dX1_card_96 : decode cX1_card 96 = .ok (.invokevirtual 405, 3) := dk_182 1 149 (dk_at dksX1_card_4 4 rfl rfl)
theorem dX1_card_99 : decode cX1_card 99 = .ok (.aload_n 0, 1) := dk_42 (dk_at dksX1_card_4 7 rfl rfl)
theorem dX1_card_100 : decode cX1_card 100 = .ok (.getfield 382, 3) := dk_180 1 126 (dk_at dksX1_card_4 8 rfl rfl)
theorem dX1_card_103 : decode cX1_card 103 = .ok (.ireturn, 1) := dk_172 (dk_at dksX1_card_4 11 rfl rfl)
abbrev cX1_put : ByteArray := prog_1_method_48_code
def yX1_put : MethodName := ⟨RX1, "put", "(J)V"⟩
def dkwX1_put_1 : List UInt8 := [20, 1, 138, 127, 136, 182, 1, 135, 132, 3, 248, 167, 255, 225, 177]
abbrev dktX1_put_1 : List UInt8 := dkwX1_put_1 ++ []
def dkwX1_put_0 : List UInt8 := [16, 56, 62, 29, 155, 0, 33, 31, 29, 123, 20, 1, 138, 127, 9, 148, 153, 0, 15, 42, 31, 29, 123]
abbrev dktX1_put_0 : List UInt8 := dkwX1_put_0 ++ dktX1_put_1
theorem dksX1_put_0 : cX1_put.data.toList.drop 0 = dktX1_put_0 := by decide +kernel
theorem dksX1_put_1 : cX1_put.data.toList.drop 23 = dktX1_put_1 := dk_seg dksX1_put_0 23 rfl rfl
theorem dX1_put_0 : decode cX1_put 0 = .ok (.bipush 56, 2) := dk_16 56 (dk_at dksX1_put_0 0 rfl rfl)
theorem dX1_put_2 : decode cX1_put 2 = .ok (.istore_n 3, 1) := dk_62 (dk_at dksX1_put_0 2 rfl rfl)
theorem dX1_put_3 : decode cX1_put 3 = .ok (.iload_n 3, 1) := dk_29 (dk_at dksX1_put_0 3 rfl rfl)
theorem dX1_put_4 : decode cX1_put 4 = .ok (.ifCond .lt 33, 3) := dk_155 0 33 (dk_at dksX1_put_0 4 rfl rfl)
theorem dX1_put_7 : decode cX1_put 7 = .ok (.lload_n 1, 1) := dk_31 (dk_at dksX1_put_0 7 rfl rfl)
theorem dX1_put_8 : decode cX1_put 8 = .ok (.iload_n 3, 1) := dk_29 (dk_at dksX1_put_0 8 rfl rfl)
theorem dX1_put_9 : decode cX1_put 9 = .ok (.lshr, 1) := dk_123 (dk_at dksX1_put_0 9 rfl rfl)
theorem dX1_put_10 : decode cX1_put 10 = .ok (.ldc2_w 394, 3) := dk_20 1 138 (dk_at dksX1_put_0 10 rfl rfl)
theorem dX1_put_13 : decode cX1_put 13 = .ok (.land, 1) := dk_127 (dk_at dksX1_put_0 13 rfl rfl)
theorem dX1_put_14 : decode cX1_put 14 = .ok (.lconst 0, 1) := dk_9 (dk_at dksX1_put_0 14 rfl rfl)
theorem dX1_put_15 : decode cX1_put 15 = .ok (.lcmp, 1) := dk_148 (dk_at dksX1_put_0 15 rfl rfl)
theorem dX1_put_16 : decode cX1_put 16 = .ok (.ifCond .eq 15, 3) := dk_153 0 15 (dk_at dksX1_put_0 16 rfl rfl)
theorem dX1_put_19 : decode cX1_put 19 = .ok (.aload_n 0, 1) := dk_42 (dk_at dksX1_put_0 19 rfl rfl)
theorem dX1_put_20 : decode cX1_put 20 = .ok (.lload_n 1, 1) := dk_31 (dk_at dksX1_put_0 20 rfl rfl)
theorem dX1_put_21 : decode cX1_put 21 = .ok (.iload_n 3, 1) := dk_29 (dk_at dksX1_put_0 21 rfl rfl)
theorem dX1_put_22 : decode cX1_put 22 = .ok (.lshr, 1) := dk_123 (dk_at dksX1_put_0 22 rfl rfl)
theorem dX1_put_23 : decode cX1_put 23 = .ok (.ldc2_w 394, 3) := dk_20 1 138 (dk_at dksX1_put_1 0 rfl rfl)
theorem dX1_put_26 : decode cX1_put 26 = .ok (.land, 1) := dk_127 (dk_at dksX1_put_1 3 rfl rfl)
theorem dX1_put_27 : decode cX1_put 27 = .ok (.l2i, 1) := dk_136 (dk_at dksX1_put_1 4 rfl rfl)
theorem dX1_put_28 : decode cX1_put 28 = .ok (.invokevirtual 391, 3) := dk_182 1 135 (dk_at dksX1_put_1 5 rfl rfl)
theorem dX1_put_31 : decode cX1_put 31 = .ok (.iinc 3 (-8), 3) := dk_132 3 248 (dk_at dksX1_put_1 8 rfl rfl)
theorem dX1_put_34 : decode cX1_put 34 = .ok (.goto (-31), 3) := dk_167 255 225 (dk_at dksX1_put_1 11 rfl rfl)
theorem dX1_put_37 : decode cX1_put 37 = .ok (.return_, 1) := dk_177 (dk_at dksX1_put_1 14 rfl rfl)
abbrev cX1_put_2 : ByteArray := prog_1_method_46_code
def yX1_put_2 : MethodName := ⟨RX1, "put", "(I)V"⟩
def dkwX1_put_2_0 : List UInt8 := [42, 180, 0, 127, 42, 180, 1, 126, 27, 145, 84, 42, 89, 180, 1, 126, 4, 96, 181, 1, 126, 177]
abbrev dktX1_put_2_0 : List UInt8 := dkwX1_put_2_0 ++ []
theorem dksX1_put_2_0 : cX1_put_2.data.toList.drop 0 = dktX1_put_2_0 := by decide +kernel
theorem dX1_put_2_0 : decode cX1_put_2 0 = .ok (.aload_n 0, 1) := dk_42 (dk_at dksX1_put_2_0 0 rfl rfl)
theorem dX1_put_2_1 : decode cX1_put_2 1 = .ok (.getfield 127, 3) := dk_180 0 127 (dk_at dksX1_put_2_0 1 rfl rfl)
theorem dX1_put_2_4 : decode cX1_put_2 4 = .ok (.aload_n 0, 1) := dk_42 (dk_at dksX1_put_2_0 4 rfl rfl)
theorem dX1_put_2_5 : decode cX1_put_2 5 = .ok (.getfield 382, 3) := dk_180 1 126 (dk_at dksX1_put_2_0 5 rfl rfl)
theorem dX1_put_2_8 : decode cX1_put_2 8 = .ok (.iload_n 1, 1) := dk_27 (dk_at dksX1_put_2_0 8 rfl rfl)
theorem dX1_put_2_9 : decode cX1_put_2 9 = .ok (.i2b, 1) := dk_145 (dk_at dksX1_put_2_0 9 rfl rfl)
theorem dX1_put_2_10 : decode cX1_put_2 10 = .ok (.bastore, 1) := dk_84 (dk_at dksX1_put_2_0 10 rfl rfl)
theorem dX1_put_2_11 : decode cX1_put_2 11 = .ok (.aload_n 0, 1) := dk_42 (dk_at dksX1_put_2_0 11 rfl rfl)
theorem dX1_put_2_12 : decode cX1_put_2 12 = .ok (.dup, 1) := dk_89 (dk_at dksX1_put_2_0 12 rfl rfl)
theorem dX1_put_2_13 : decode cX1_put_2 13 = .ok (.getfield 382, 3) := dk_180 1 126 (dk_at dksX1_put_2_0 13 rfl rfl)
theorem dX1_put_2_16 : decode cX1_put_2 16 = .ok (.iconst 1, 1) := dk_4 (dk_at dksX1_put_2_0 16 rfl rfl)
theorem dX1_put_2_17 : decode cX1_put_2 17 = .ok (.iadd, 1) := dk_96 (dk_at dksX1_put_2_0 17 rfl rfl)
theorem dX1_put_2_18 : decode cX1_put_2 18 = .ok (.putfield 382, 3) := dk_181 1 126 (dk_at dksX1_put_2_0 18 rfl rfl)
theorem dX1_put_2_21 : decode cX1_put_2 21 = .ok (.return_, 1) := dk_177 (dk_at dksX1_put_2_0 21 rfl rfl)
abbrev cX1_put_3 : ByteArray := prog_1_method_47_code
def yX1_put_3 : MethodName := ⟨RX1, "put", "(Ljava/lang/String;)V"⟩
def dkwX1_put_3_1 : List UInt8 := [167, 255, 236, 177]
abbrev dktX1_put_3_1 : List UInt8 := dkwX1_put_3_1 ++ []
def dkwX1_put_3_0 : List UInt8 := [3, 61, 28, 43, 182, 1, 129, 162, 0, 18, 42, 43, 28, 182, 1, 131, 182, 1, 135, 132, 2, 1]
abbrev dktX1_put_3_0 : List UInt8 := dkwX1_put_3_0 ++ dktX1_put_3_1
theorem dksX1_put_3_0 : cX1_put_3.data.toList.drop 0 = dktX1_put_3_0 := by decide +kernel
theorem dksX1_put_3_1 : cX1_put_3.data.toList.drop 22 = dktX1_put_3_1 := dk_seg dksX1_put_3_0 22 rfl rfl
theorem dX1_put_3_0 : decode cX1_put_3 0 = .ok (.iconst 0, 1) := dk_3 (dk_at dksX1_put_3_0 0 rfl rfl)
theorem dX1_put_3_1 : decode cX1_put_3 1 = .ok (.istore_n 2, 1) := dk_61 (dk_at dksX1_put_3_0 1 rfl rfl)
theorem dX1_put_3_2 : decode cX1_put_3 2 = .ok (.iload_n 2, 1) := dk_28 (dk_at dksX1_put_3_0 2 rfl rfl)
theorem dX1_put_3_3 : decode cX1_put_3 3 = .ok (.aload_n 1, 1) := dk_43 (dk_at dksX1_put_3_0 3 rfl rfl)
theorem dX1_put_3_4 : decode cX1_put_3 4 = .ok (.invokevirtual 385, 3) := dk_182 1 129 (dk_at dksX1_put_3_0 4 rfl rfl)
theorem dX1_put_3_7 : decode cX1_put_3 7 = .ok (.if_icmp .ge 18, 3) := dk_162 0 18 (dk_at dksX1_put_3_0 7 rfl rfl)
theorem dX1_put_3_10 : decode cX1_put_3 10 = .ok (.aload_n 0, 1) := dk_42 (dk_at dksX1_put_3_0 10 rfl rfl)
theorem dX1_put_3_11 : decode cX1_put_3 11 = .ok (.aload_n 1, 1) := dk_43 (dk_at dksX1_put_3_0 11 rfl rfl)
theorem dX1_put_3_12 : decode cX1_put_3 12 = .ok (.iload_n 2, 1) := dk_28 (dk_at dksX1_put_3_0 12 rfl rfl)
theorem dX1_put_3_13 : decode cX1_put_3 13 = .ok (.invokevirtual 387, 3) := dk_182 1 131 (dk_at dksX1_put_3_0 13 rfl rfl)
theorem dX1_put_3_16 : decode cX1_put_3 16 = .ok (.invokevirtual 391, 3) := dk_182 1 135 (dk_at dksX1_put_3_0 16 rfl rfl)
theorem dX1_put_3_19 : decode cX1_put_3 19 = .ok (.iinc 2 1, 3) := dk_132 2 1 (dk_at dksX1_put_3_0 19 rfl rfl)
theorem dX1_put_3_22 : decode cX1_put_3 22 = .ok (.goto (-20), 3) := dk_167 255 236 (dk_at dksX1_put_3_1 0 rfl rfl)
theorem dX1_put_3_25 : decode cX1_put_3 25 = .ok (.return_, 1) := dk_177 (dk_at dksX1_put_3_1 3 rfl rfl)
abbrev cX1_byteAt : ByteArray := prog_1_method_50_code
def yX1_byteAt : MethodName := ⟨RX1, "byteAt", "(I)I"⟩
def dkwX1_byteAt_1 : List UInt8 := [172]
abbrev dktX1_byteAt_1 : List UInt8 := dkwX1_byteAt_1 ++ []
def dkwX1_byteAt_0 : List UInt8 := [27, 3, 42, 180, 1, 126, 4, 100, 184, 0, 185, 153, 0, 12, 42, 180, 0, 127, 27, 51, 167, 0, 4, 2]
abbrev dktX1_byteAt_0 : List UInt8 := dkwX1_byteAt_0 ++ dktX1_byteAt_1
theorem dksX1_byteAt_0 : cX1_byteAt.data.toList.drop 0 = dktX1_byteAt_0 := by decide +kernel
theorem dksX1_byteAt_1 : cX1_byteAt.data.toList.drop 24 = dktX1_byteAt_1 := dk_seg dksX1_byteAt_0 24 rfl rfl
theorem dX1_byteAt_0 : decode cX1_byteAt 0 = .ok (.iload_n 1, 1) := dk_27 (dk_at dksX1_byteAt_0 0 rfl rfl)
theorem dX1_byteAt_1 : decode cX1_byteAt 1 = .ok (.iconst 0, 1) := dk_3 (dk_at dksX1_byteAt_0 1 rfl rfl)
theorem dX1_byteAt_2 : decode cX1_byteAt 2 = .ok (.aload_n 0, 1) := dk_42 (dk_at dksX1_byteAt_0 2 rfl rfl)
theorem dX1_byteAt_3 : decode cX1_byteAt 3 = .ok (.getfield 382, 3) := dk_180 1 126 (dk_at dksX1_byteAt_0 3 rfl rfl)
theorem dX1_byteAt_6 : decode cX1_byteAt 6 = .ok (.iconst 1, 1) := dk_4 (dk_at dksX1_byteAt_0 6 rfl rfl)
theorem dX1_byteAt_7 : decode cX1_byteAt 7 = .ok (.isub, 1) := dk_100 (dk_at dksX1_byteAt_0 7 rfl rfl)
theorem dX1_byteAt_8 : decode cX1_byteAt 8 = .ok (.invokestatic 185, 3) := dk_184 0 185 (dk_at dksX1_byteAt_0 8 rfl rfl)
theorem dX1_byteAt_11 : decode cX1_byteAt 11 = .ok (.ifCond .eq 12, 3) := dk_153 0 12 (dk_at dksX1_byteAt_0 11 rfl rfl)
theorem dX1_byteAt_14 : decode cX1_byteAt 14 = .ok (.aload_n 0, 1) := dk_42 (dk_at dksX1_byteAt_0 14 rfl rfl)
theorem dX1_byteAt_15 : decode cX1_byteAt 15 = .ok (.getfield 127, 3) := dk_180 0 127 (dk_at dksX1_byteAt_0 15 rfl rfl)
theorem dX1_byteAt_18 : decode cX1_byteAt 18 = .ok (.iload_n 1, 1) := dk_27 (dk_at dksX1_byteAt_0 18 rfl rfl)
theorem dX1_byteAt_19 : decode cX1_byteAt 19 = .ok (.baload, 1) := dk_51 (dk_at dksX1_byteAt_0 19 rfl rfl)
theorem dX1_byteAt_20 : decode cX1_byteAt 20 = .ok (.goto 4, 3) := dk_167 0 4 (dk_at dksX1_byteAt_0 20 rfl rfl)
theorem dX1_byteAt_23 : decode cX1_byteAt 23 = .ok (.iconst (-1), 1) := dk_2 (dk_at dksX1_byteAt_0 23 rfl rfl)
theorem dX1_byteAt_24 : decode cX1_byteAt 24 = .ok (.ireturn, 1) := dk_172 (dk_at dksX1_byteAt_1 0 rfl rfl)
abbrev cX1_drawn : ByteArray := prog_1_method_51_code
def yX1_drawn : MethodName := ⟨RX1, "drawn", "(II)I"⟩
def dkwX1_drawn_1 : List UInt8 := [162, 0, 7, 42, 182, 1, 38, 42, 180, 0, 83, 42, 180, 0, 76, 27, 28, 182, 1, 160, 172]
abbrev dktX1_drawn_1 : List UInt8 := dkwX1_drawn_1 ++ []
def dkwX1_drawn_0 : List UInt8 := [27, 4, 16, 60, 184, 0, 185, 154, 0, 5, 2, 172, 42, 180, 0, 83, 180, 1, 10, 17, 1, 144]
abbrev dktX1_drawn_0 : List UInt8 := dkwX1_drawn_0 ++ dktX1_drawn_1
theorem dksX1_drawn_0 : cX1_drawn.data.toList.drop 0 = dktX1_drawn_0 := by decide +kernel
theorem dksX1_drawn_1 : cX1_drawn.data.toList.drop 22 = dktX1_drawn_1 := dk_seg dksX1_drawn_0 22 rfl rfl
theorem dX1_drawn_0 : decode cX1_drawn 0 = .ok (.iload_n 1, 1) := dk_27 (dk_at dksX1_drawn_0 0 rfl rfl)
theorem dX1_drawn_1 : decode cX1_drawn 1 = .ok (.iconst 1, 1) := dk_4 (dk_at dksX1_drawn_0 1 rfl rfl)
theorem dX1_drawn_2 : decode cX1_drawn 2 = .ok (.bipush 60, 2) := dk_16 60 (dk_at dksX1_drawn_0 2 rfl rfl)
theorem dX1_drawn_4 : decode cX1_drawn 4 = .ok (.invokestatic 185, 3) := dk_184 0 185 (dk_at dksX1_drawn_0 4 rfl rfl)
theorem dX1_drawn_7 : decode cX1_drawn 7 = .ok (.ifCond .ne 5, 3) := dk_154 0 5 (dk_at dksX1_drawn_0 7 rfl rfl)
theorem dX1_drawn_10 : decode cX1_drawn 10 = .ok (.iconst (-1), 1) := dk_2 (dk_at dksX1_drawn_0 10 rfl rfl)
theorem dX1_drawn_11 : decode cX1_drawn 11 = .ok (.ireturn, 1) := dk_172 (dk_at dksX1_drawn_0 11 rfl rfl)
theorem dX1_drawn_12 : decode cX1_drawn 12 = .ok (.aload_n 0, 1) := dk_42 (dk_at dksX1_drawn_0 12 rfl rfl)
theorem dX1_drawn_13 : decode cX1_drawn 13 = .ok (.getfield 83, 3) := dk_180 0 83 (dk_at dksX1_drawn_0 13 rfl rfl)
theorem dX1_drawn_16 : decode cX1_drawn 16 = .ok (.getfield 266, 3) := dk_180 1 10 (dk_at dksX1_drawn_0 16 rfl rfl)
theorem dX1_drawn_19 : decode cX1_drawn 19 = .ok (.sipush 400, 3) := dk_17 1 144 (dk_at dksX1_drawn_0 19 rfl rfl)
theorem dX1_drawn_22 : decode cX1_drawn 22 = .ok (.if_icmp .ge 7, 3) := dk_162 0 7 (dk_at dksX1_drawn_1 0 rfl rfl)
theorem dX1_drawn_25 : decode cX1_drawn 25 = .ok (.aload_n 0, 1) := dk_42 (dk_at dksX1_drawn_1 3 rfl rfl)
theorem dX1_drawn_26 : decode cX1_drawn 26 = .ok (.invokevirtual 294, 3) := dk_182 1 38 (dk_at dksX1_drawn_1 4 rfl rfl)
theorem dX1_drawn_29 : decode cX1_drawn 29 = .ok (.aload_n 0, 1) := dk_42 (dk_at dksX1_drawn_1 7 rfl rfl)
theorem dX1_drawn_30 : decode cX1_drawn 30 = .ok (.getfield 83, 3) := dk_180 0 83 (dk_at dksX1_drawn_1 8 rfl rfl)
theorem dX1_drawn_33 : decode cX1_drawn 33 = .ok (.aload_n 0, 1) := dk_42 (dk_at dksX1_drawn_1 11 rfl rfl)
theorem dX1_drawn_34 : decode cX1_drawn 34 = .ok (.getfield 76, 3) := dk_180 0 76 (dk_at dksX1_drawn_1 12 rfl rfl)
theorem dX1_drawn_37 : decode cX1_drawn 37 = .ok (.iload_n 1, 1) := dk_27 (dk_at dksX1_drawn_1 15 rfl rfl)
theorem dX1_drawn_38 : decode cX1_drawn 38 = .ok (.iload_n 2, 1) := dk_28 (dk_at dksX1_drawn_1 16 rfl rfl)
theorem dX1_drawn_39 : decode cX1_drawn 39 = .ok (.invokevirtual 416, 3) := dk_182 1 160 (dk_at dksX1_drawn_1 17 rfl rfl)
theorem dX1_drawn_42 : decode cX1_drawn 42 = .ok (.ireturn, 1) := dk_172 (dk_at dksX1_drawn_1 20 rfl rfl)
abbrev cX1_odds : ByteArray := prog_1_method_53_code
def yX1_odds : MethodName := ⟨RX1, "odds", "(III)I"⟩
def dkwX1_odds_3 : List UInt8 := [132, 5, 1, 167, 255, 207, 21, 4, 172]
abbrev dktX1_odds_3 : List UInt8 := dkwX1_odds_3 ++ []
def dkwX1_odds_2 : List UInt8 := [180, 0, 76, 16, 20, 29, 21, 5, 96, 182, 1, 160, 87, 42, 27, 182, 1, 164, 153, 0, 6, 132, 4, 1]
abbrev dktX1_odds_2 : List UInt8 := dkwX1_odds_2 ++ dktX1_odds_3
def dkwX1_odds_1 : List UInt8 := [54, 5, 21, 5, 28, 162, 0, 49, 42, 180, 0, 87, 42, 180, 0, 83, 182, 1, 25, 42, 180, 0, 87, 42]
abbrev dktX1_odds_1 : List UInt8 := dkwX1_odds_1 ++ dktX1_odds_2
def dkwX1_odds_0 : List UInt8 := [42, 27, 182, 1, 29, 153, 0, 13, 28, 4, 16, 30, 184, 0, 185, 154, 0, 5, 2, 172, 3, 54, 4, 3]
abbrev dktX1_odds_0 : List UInt8 := dkwX1_odds_0 ++ dktX1_odds_1
theorem dksX1_odds_0 : cX1_odds.data.toList.drop 0 = dktX1_odds_0 := by decide +kernel
theorem dksX1_odds_1 : cX1_odds.data.toList.drop 24 = dktX1_odds_1 := dk_seg dksX1_odds_0 24 rfl rfl
theorem dksX1_odds_2 : cX1_odds.data.toList.drop 48 = dktX1_odds_2 := dk_seg dksX1_odds_1 24 rfl rfl
theorem dksX1_odds_3 : cX1_odds.data.toList.drop 72 = dktX1_odds_3 := dk_seg dksX1_odds_2 24 rfl rfl
theorem dX1_odds_0 : decode cX1_odds 0 = .ok (.aload_n 0, 1) := dk_42 (dk_at dksX1_odds_0 0 rfl rfl)
theorem dX1_odds_1 : decode cX1_odds 1 = .ok (.iload_n 1, 1) := dk_27 (dk_at dksX1_odds_0 1 rfl rfl)
theorem dX1_odds_2 : decode cX1_odds 2 = .ok (.invokevirtual 285, 3) := dk_182 1 29 (dk_at dksX1_odds_0 2 rfl rfl)
theorem dX1_odds_5 : decode cX1_odds 5 = .ok (.ifCond .eq 13, 3) := dk_153 0 13 (dk_at dksX1_odds_0 5 rfl rfl)
theorem dX1_odds_8 : decode cX1_odds 8 = .ok (.iload_n 2, 1) := dk_28 (dk_at dksX1_odds_0 8 rfl rfl)
theorem dX1_odds_9 : decode cX1_odds 9 = .ok (.iconst 1, 1) := dk_4 (dk_at dksX1_odds_0 9 rfl rfl)
theorem dX1_odds_10 : decode cX1_odds 10 = .ok (.bipush 30, 2) := dk_16 30 (dk_at dksX1_odds_0 10 rfl rfl)
theorem dX1_odds_12 : decode cX1_odds 12 = .ok (.invokestatic 185, 3) := dk_184 0 185 (dk_at dksX1_odds_0 12 rfl rfl)
theorem dX1_odds_15 : decode cX1_odds 15 = .ok (.ifCond .ne 5, 3) := dk_154 0 5 (dk_at dksX1_odds_0 15 rfl rfl)
theorem dX1_odds_18 : decode cX1_odds 18 = .ok (.iconst (-1), 1) := dk_2 (dk_at dksX1_odds_0 18 rfl rfl)
theorem dX1_odds_19 : decode cX1_odds 19 = .ok (.ireturn, 1) := dk_172 (dk_at dksX1_odds_0 19 rfl rfl)
theorem dX1_odds_20 : decode cX1_odds 20 = .ok (.iconst 0, 1) := dk_3 (dk_at dksX1_odds_0 20 rfl rfl)
theorem dX1_odds_21 : decode cX1_odds 21 = .ok (.istore 4, 2) := dk_54 4 (dk_at dksX1_odds_0 21 rfl rfl)
theorem dX1_odds_23 : decode cX1_odds 23 = .ok (.iconst 0, 1) := dk_3 (dk_at dksX1_odds_0 23 rfl rfl)
theorem dX1_odds_24 : decode cX1_odds 24 = .ok (.istore 5, 2) := dk_54 5 (dk_at dksX1_odds_1 0 rfl rfl)
theorem dX1_odds_26 : decode cX1_odds 26 = .ok (.iload 5, 2) := dk_21 5 (dk_at dksX1_odds_1 2 rfl rfl)
theorem dX1_odds_28 : decode cX1_odds 28 = .ok (.iload_n 2, 1) := dk_28 (dk_at dksX1_odds_1 4 rfl rfl)
theorem dX1_odds_29 : decode cX1_odds 29 = .ok (.if_icmp .ge 49, 3) := dk_162 0 49 (dk_at dksX1_odds_1 5 rfl rfl)
theorem dX1_odds_32 : decode cX1_odds 32 = .ok (.aload_n 0, 1) := dk_42 (dk_at dksX1_odds_1 8 rfl rfl)
theorem dX1_odds_33 : decode cX1_odds 33 = .ok (.getfield 87, 3) := dk_180 0 87 (dk_at dksX1_odds_1 9 rfl rfl)
theorem dX1_odds_36 : decode cX1_odds 36 = .ok (.aload_n 0, 1) := dk_42 (dk_at dksX1_odds_1 12 rfl rfl)
theorem dX1_odds_37 : decode cX1_odds 37 = .ok (.getfield 83, 3) := dk_180 0 83 (dk_at dksX1_odds_1 13 rfl rfl)
theorem dX1_odds_40 : decode cX1_odds 40 = .ok (.invokevirtual 281, 3) := dk_182 1 25 (dk_at dksX1_odds_1 16 rfl rfl)
theorem dX1_odds_43 : decode cX1_odds 43 = .ok (.aload_n 0, 1) := dk_42 (dk_at dksX1_odds_1 19 rfl rfl)
theorem dX1_odds_44 : decode cX1_odds 44 = .ok (.getfield 87, 3) := dk_180 0 87 (dk_at dksX1_odds_1 20 rfl rfl)
theorem dX1_odds_47 : decode cX1_odds 47 = .ok (.aload_n 0, 1) := dk_42 (dk_at dksX1_odds_1 23 rfl rfl)
theorem dX1_odds_48 : decode cX1_odds 48 = .ok (.getfield 76, 3) := dk_180 0 76 (dk_at dksX1_odds_2 0 rfl rfl)
theorem dX1_odds_51 : decode cX1_odds 51 = .ok (.bipush 20, 2) := dk_16 20 (dk_at dksX1_odds_2 3 rfl rfl)
theorem dX1_odds_53 : decode cX1_odds 53 = .ok (.iload_n 3, 1) := dk_29 (dk_at dksX1_odds_2 5 rfl rfl)
theorem dX1_odds_54 : decode cX1_odds 54 = .ok (.iload 5, 2) := dk_21 5 (dk_at dksX1_odds_2 6 rfl rfl)
theorem dX1_odds_56 : decode cX1_odds 56 = .ok (.iadd, 1) := dk_96 (dk_at dksX1_odds_2 8 rfl rfl)
theorem dX1_odds_57 : decode cX1_odds 57 = .ok (.invokevirtual 416, 3) := dk_182 1 160 (dk_at dksX1_odds_2 9 rfl rfl)
theorem dX1_odds_60 : decode cX1_odds 60 = .ok (.pop, 1) := dk_87 (dk_at dksX1_odds_2 12 rfl rfl)
theorem dX1_odds_61 : decode cX1_odds 61 = .ok (.aload_n 0, 1) := dk_42 (dk_at dksX1_odds_2 13 rfl rfl)
theorem dX1_odds_62 : decode cX1_odds 62 = .ok (.iload_n 1, 1) := dk_27 (dk_at dksX1_odds_2 14 rfl rfl)
theorem dX1_odds_63 : decode cX1_odds 63 = .ok (.invokevirtual 420, 3) := dk_182 1 164 (dk_at dksX1_odds_2 15 rfl rfl)
theorem dX1_odds_66 : decode cX1_odds 66 = .ok (.ifCond .eq 6, 3) := dk_153 0 6 (dk_at dksX1_odds_2 18 rfl rfl)
theorem dX1_odds_69 : decode cX1_odds 69 = .ok (.iinc 4 1, 3) := dk_132 4 1 (dk_at dksX1_odds_2 21 rfl rfl)
theorem dX1_odds_72 : decode cX1_odds 72 = .ok (.iinc 5 1, 3) := dk_132 5 1 (dk_at dksX1_odds_3 0 rfl rfl)
theorem dX1_odds_75 : decode cX1_odds 75 = .ok (.goto (-49), 3) := dk_167 255 207 (dk_at dksX1_odds_3 3 rfl rfl)
theorem dX1_odds_78 : decode cX1_odds 78 = .ok (.iload 4, 2) := dk_21 4 (dk_at dksX1_odds_3 6 rfl rfl)
theorem dX1_odds_80 : decode cX1_odds 80 = .ok (.ireturn, 1) := dk_172 (dk_at dksX1_odds_3 8 rfl rfl)
abbrev cX1_isCaught : ByteArray := prog_1_method_52_code
def yX1_isCaught : MethodName := ⟨RX1, "isCaught", "(I)Z"⟩
def dkwX1_isCaught_2 : List UInt8 := [167, 255, 212, 3, 172]
abbrev dktX1_isCaught_2 : List UInt8 := dkwX1_isCaught_2 ++ []
def dkwX1_isCaught_1 : List UInt8 := [160, 0, 20, 42, 180, 0, 87, 42, 180, 0, 76, 28, 182, 0, 252, 153, 0, 5, 4, 172, 132, 2, 1]
abbrev dktX1_isCaught_1 : List UInt8 := dkwX1_isCaught_1 ++ dktX1_isCaught_2
def dkwX1_isCaught_0 : List UInt8 := [3, 61, 28, 42, 180, 0, 87, 180, 0, 198, 162, 0, 39, 42, 180, 0, 87, 180, 0, 236, 28, 46, 27]
abbrev dktX1_isCaught_0 : List UInt8 := dkwX1_isCaught_0 ++ dktX1_isCaught_1
theorem dksX1_isCaught_0 : cX1_isCaught.data.toList.drop 0 = dktX1_isCaught_0 := by decide +kernel
theorem dksX1_isCaught_1 : cX1_isCaught.data.toList.drop 23 = dktX1_isCaught_1 := dk_seg dksX1_isCaught_0 23 rfl rfl
theorem dksX1_isCaught_2 : cX1_isCaught.data.toList.drop 46 = dktX1_isCaught_2 := dk_seg dksX1_isCaught_1 23 rfl rfl
theorem dX1_isCaught_0 : decode cX1_isCaught 0 = .ok (.iconst 0, 1) := dk_3 (dk_at dksX1_isCaught_0 0 rfl rfl)
theorem dX1_isCaught_1 : decode cX1_isCaught 1 = .ok (.istore_n 2, 1) := dk_61 (dk_at dksX1_isCaught_0 1 rfl rfl)
theorem dX1_isCaught_2 : decode cX1_isCaught 2 = .ok (.iload_n 2, 1) := dk_28 (dk_at dksX1_isCaught_0 2 rfl rfl)
theorem dX1_isCaught_3 : decode cX1_isCaught 3 = .ok (.aload_n 0, 1) := dk_42 (dk_at dksX1_isCaught_0 3 rfl rfl)
theorem dX1_isCaught_4 : decode cX1_isCaught 4 = .ok (.getfield 87, 3) := dk_180 0 87 (dk_at dksX1_isCaught_0 4 rfl rfl)
theorem dX1_isCaught_7 : decode cX1_isCaught 7 = .ok (.getfield 198, 3) := dk_180 0 198 (dk_at dksX1_isCaught_0 7 rfl rfl)
theorem dX1_isCaught_10 : decode cX1_isCaught 10 = .ok (.if_icmp .ge 39, 3) := dk_162 0 39 (dk_at dksX1_isCaught_0 10 rfl rfl)
theorem dX1_isCaught_13 : decode cX1_isCaught 13 = .ok (.aload_n 0, 1) := dk_42 (dk_at dksX1_isCaught_0 13 rfl rfl)
theorem dX1_isCaught_14 : decode cX1_isCaught 14 = .ok (.getfield 87, 3) := dk_180 0 87 (dk_at dksX1_isCaught_0 14 rfl rfl)
theorem dX1_isCaught_17 : decode cX1_isCaught 17 = .ok (.getfield 236, 3) := dk_180 0 236 (dk_at dksX1_isCaught_0 17 rfl rfl)
theorem dX1_isCaught_20 : decode cX1_isCaught 20 = .ok (.iload_n 2, 1) := dk_28 (dk_at dksX1_isCaught_0 20 rfl rfl)
theorem dX1_isCaught_21 : decode cX1_isCaught 21 = .ok (.iaload, 1) := dk_46 (dk_at dksX1_isCaught_0 21 rfl rfl)
theorem dX1_isCaught_22 : decode cX1_isCaught 22 = .ok (.iload_n 1, 1) := dk_27 (dk_at dksX1_isCaught_0 22 rfl rfl)
theorem dX1_isCaught_23 : decode cX1_isCaught 23 = .ok (.if_icmp .ne 20, 3) := dk_160 0 20 (dk_at dksX1_isCaught_1 0 rfl rfl)
theorem dX1_isCaught_26 : decode cX1_isCaught 26 = .ok (.aload_n 0, 1) := dk_42 (dk_at dksX1_isCaught_1 3 rfl rfl)
theorem dX1_isCaught_27 : decode cX1_isCaught 27 = .ok (.getfield 87, 3) := dk_180 0 87 (dk_at dksX1_isCaught_1 4 rfl rfl)
theorem dX1_isCaught_30 : decode cX1_isCaught 30 = .ok (.aload_n 0, 1) := dk_42 (dk_at dksX1_isCaught_1 7 rfl rfl)
theorem dX1_isCaught_31 : decode cX1_isCaught 31 = .ok (.getfield 76, 3) := dk_180 0 76 (dk_at dksX1_isCaught_1 8 rfl rfl)
theorem dX1_isCaught_34 : decode cX1_isCaught 34 = .ok (.iload_n 2, 1) := dk_28 (dk_at dksX1_isCaught_1 11 rfl rfl)
theorem dX1_isCaught_35 : decode cX1_isCaught 35 = .ok (.invokevirtual 252, 3) := dk_182 0 252 (dk_at dksX1_isCaught_1 12 rfl rfl)
theorem dX1_isCaught_38 : decode cX1_isCaught 38 = .ok (.ifCond .eq 5, 3) := dk_153 0 5 (dk_at dksX1_isCaught_1 15 rfl rfl)
theorem dX1_isCaught_41 : decode cX1_isCaught 41 = .ok (.iconst 1, 1) := dk_4 (dk_at dksX1_isCaught_1 18 rfl rfl)
theorem dX1_isCaught_42 : decode cX1_isCaught 42 = .ok (.ireturn, 1) := dk_172 (dk_at dksX1_isCaught_1 19 rfl rfl)
theorem dX1_isCaught_43 : decode cX1_isCaught 43 = .ok (.iinc 2 1, 3) := dk_132 2 1 (dk_at dksX1_isCaught_1 20 rfl rfl)
theorem dX1_isCaught_46 : decode cX1_isCaught 46 = .ok (.goto (-44), 3) := dk_167 255 212 (dk_at dksX1_isCaught_2 0 rfl rfl)
theorem dX1_isCaught_49 : decode cX1_isCaught 49 = .ok (.iconst 0, 1) := dk_3 (dk_at dksX1_isCaught_2 3 rfl rfl)
theorem dX1_isCaught_50 : decode cX1_isCaught 50 = .ok (.ireturn, 1) := dk_172 (dk_at dksX1_isCaught_2 4 rfl rfl)
abbrev cX1_book : ByteArray := prog_1_method_54_code
def yX1_book : MethodName := ⟨RX1, "book", "(I)I"⟩
def dkwX1_book_9 : List UInt8 := [182, 1, 38, 42, 180, 0, 83, 42, 180, 0, 87, 182, 1, 25, 28, 172]
abbrev dktX1_book_9 : List UInt8 := dkwX1_book_9 ++ []
def dkwX1_book_8 : List UInt8 := [180, 0, 76, 182, 1, 12, 79, 42, 4, 181, 1, 186, 27, 4, 160, 0, 23, 21, 4, 158, 0, 18, 42]
abbrev dktX1_book_8 : List UInt8 := dkwX1_book_8 ++ dktX1_book_9
def dkwX1_book_7 : List UInt8 := [180, 0, 130, 5, 42, 180, 0, 87, 180, 1, 10, 79, 42, 180, 0, 130, 6, 42, 180, 0, 87, 42]
abbrev dktX1_book_7 : List UInt8 := dkwX1_book_7 ++ dktX1_book_8
def dkwX1_book_6 : List UInt8 := [132, 5, 1, 167, 255, 184, 42, 180, 0, 130, 3, 29, 79, 42, 180, 0, 130, 4, 21, 4, 79, 42]
abbrev dktX1_book_6 : List UInt8 := dkwX1_book_6 ++ dktX1_book_7
def dkwX1_book_5 : List UInt8 := [21, 5, 61, 167, 0, 19, 25, 6, 42, 180, 0, 76, 42, 180, 0, 87, 182, 1, 182, 132, 4, 1]
abbrev dktX1_book_5 : List UInt8 := dkwX1_book_5 ++ dktX1_book_6
def dkwX1_book_4 : List UInt8 := [21, 5, 50, 58, 6, 25, 6, 42, 180, 0, 76, 42, 180, 0, 87, 182, 1, 176, 62, 29, 153, 0, 9]
abbrev dktX1_book_4 : List UInt8 := dkwX1_book_4 ++ dktX1_book_5
def dkwX1_book_3 : List UInt8 := [21, 5, 42, 180, 0, 102, 180, 1, 169, 162, 0, 66, 28, 2, 160, 0, 61, 42, 180, 0, 102, 180, 1, 172]
abbrev dktX1_book_3 : List UInt8 := dkwX1_book_3 ++ dktX1_book_4
def dkwX1_book_2 : List UInt8 := [100, 172, 42, 180, 0, 87, 42, 180, 0, 83, 182, 1, 25, 2, 61, 3, 62, 3, 54, 4, 3, 54, 5]
abbrev dktX1_book_2 : List UInt8 := dkwX1_book_2 ++ dktX1_book_3
def dkwX1_book_1 : List UInt8 := [180, 0, 102, 182, 1, 167, 167, 0, 20, 77, 42, 44, 180, 0, 176, 181, 0, 162, 16, 254, 44, 180, 0, 179]
abbrev dktX1_book_1 : List UInt8 := dkwX1_book_1 ++ dktX1_book_2
def dkwX1_book_0 : List UInt8 := [27, 3, 4, 184, 0, 185, 154, 0, 7, 17, 252, 24, 172, 42, 182, 0, 159, 42, 3, 181, 0, 162, 42]
abbrev dktX1_book_0 : List UInt8 := dkwX1_book_0 ++ dktX1_book_1
theorem dksX1_book_0 : cX1_book.data.toList.drop 0 = dktX1_book_0 := by decide +kernel
theorem dksX1_book_1 : cX1_book.data.toList.drop 23 = dktX1_book_1 := dk_seg dksX1_book_0 23 rfl rfl
theorem dksX1_book_2 : cX1_book.data.toList.drop 47 = dktX1_book_2 := dk_seg dksX1_book_1 24 rfl rfl
theorem dksX1_book_3 : cX1_book.data.toList.drop 70 = dktX1_book_3 := dk_seg dksX1_book_2 23 rfl rfl
theorem dksX1_book_4 : cX1_book.data.toList.drop 94 = dktX1_book_4 := dk_seg dksX1_book_3 24 rfl rfl
theorem dksX1_book_5 : cX1_book.data.toList.drop 117 = dktX1_book_5 := dk_seg dksX1_book_4 23 rfl rfl
theorem dksX1_book_6 : cX1_book.data.toList.drop 139 = dktX1_book_6 := dk_seg dksX1_book_5 22 rfl rfl
theorem dksX1_book_7 : cX1_book.data.toList.drop 161 = dktX1_book_7 := dk_seg dksX1_book_6 22 rfl rfl
theorem dksX1_book_8 : cX1_book.data.toList.drop 183 = dktX1_book_8 := dk_seg dksX1_book_7 22 rfl rfl
theorem dksX1_book_9 : cX1_book.data.toList.drop 206 = dktX1_book_9 := dk_seg dksX1_book_8 23 rfl rfl
theorem dX1_book_0 : decode cX1_book 0 = .ok (.iload_n 1, 1) := dk_27 (dk_at dksX1_book_0 0 rfl rfl)
theorem dX1_book_1 : decode cX1_book 1 = .ok (.iconst 0, 1) := dk_3 (dk_at dksX1_book_0 1 rfl rfl)
theorem dX1_book_2 : decode cX1_book 2 = .ok (.iconst 1, 1) := dk_4 (dk_at dksX1_book_0 2 rfl rfl)
theorem dX1_book_3 : decode cX1_book 3 = .ok (.invokestatic 185, 3) := dk_184 0 185 (dk_at dksX1_book_0 3 rfl rfl)
theorem dX1_book_6 : decode cX1_book 6 = .ok (.ifCond .ne 7, 3) := dk_154 0 7 (dk_at dksX1_book_0 6 rfl rfl)
theorem dX1_book_9 : decode cX1_book 9 = .ok (.sipush (-1000), 3) := dk_17 252 24 (dk_at dksX1_book_0 9 rfl rfl)
theorem dX1_book_12 : decode cX1_book 12 = .ok (.ireturn, 1) := dk_172 (dk_at dksX1_book_0 12 rfl rfl)
theorem dX1_book_13 : decode cX1_book 13 = .ok (.aload_n 0, 1) := dk_42 (dk_at dksX1_book_0 13 rfl rfl)
theorem dX1_book_14 : decode cX1_book 14 = .ok (.invokevirtual 159, 3) := dk_182 0 159 (dk_at dksX1_book_0 14 rfl rfl)
theorem dX1_book_17 : decode cX1_book 17 = .ok (.aload_n 0, 1) := dk_42 (dk_at dksX1_book_0 17 rfl rfl)
theorem dX1_book_18 : decode cX1_book 18 = .ok (.iconst 0, 1) := dk_3 (dk_at dksX1_book_0 18 rfl rfl)
theorem dX1_book_19 : decode cX1_book 19 = .ok (.putfield 162, 3) := dk_181 0 162 (dk_at dksX1_book_0 19 rfl rfl)
theorem dX1_book_22 : decode cX1_book 22 = .ok (.aload_n 0, 1) := dk_42 (dk_at dksX1_book_0 22 rfl rfl)
theorem dX1_book_23 : decode cX1_book 23 = .ok (.getfield 102, 3) := dk_180 0 102 (dk_at dksX1_book_1 0 rfl rfl)
theorem dX1_book_26 : decode cX1_book 26 = .ok (.invokevirtual 423, 3) := dk_182 1 167 (dk_at dksX1_book_1 3 rfl rfl)
theorem dX1_book_29 : decode cX1_book 29 = .ok (.goto 20, 3) := dk_167 0 20 (dk_at dksX1_book_1 6 rfl rfl)
theorem dX1_book_32 : decode cX1_book 32 = .ok (.astore_n 2, 1) := dk_77 (dk_at dksX1_book_1 9 rfl rfl)
theorem dX1_book_33 : decode cX1_book 33 = .ok (.aload_n 0, 1) := dk_42 (dk_at dksX1_book_1 10 rfl rfl)
theorem dX1_book_34 : decode cX1_book 34 = .ok (.aload_n 2, 1) := dk_44 (dk_at dksX1_book_1 11 rfl rfl)
theorem dX1_book_35 : decode cX1_book 35 = .ok (.getfield 176, 3) := dk_180 0 176 (dk_at dksX1_book_1 12 rfl rfl)
theorem dX1_book_38 : decode cX1_book 38 = .ok (.putfield 162, 3) := dk_181 0 162 (dk_at dksX1_book_1 15 rfl rfl)
theorem dX1_book_41 : decode cX1_book 41 = .ok (.bipush (-2), 2) := dk_16 254 (dk_at dksX1_book_1 18 rfl rfl)
theorem dX1_book_43 : decode cX1_book 43 = .ok (.aload_n 2, 1) := dk_44 (dk_at dksX1_book_1 20 rfl rfl)
theorem dX1_book_44 : decode cX1_book 44 = .ok (.getfield 179, 3) := dk_180 0 179 (dk_at dksX1_book_1 21 rfl rfl)
theorem dX1_book_47 : decode cX1_book 47 = .ok (.isub, 1) := dk_100 (dk_at dksX1_book_2 0 rfl rfl)
theorem dX1_book_48 : decode cX1_book 48 = .ok (.ireturn, 1) := dk_172 (dk_at dksX1_book_2 1 rfl rfl)
theorem dX1_book_49 : decode cX1_book 49 = .ok (.aload_n 0, 1) := dk_42 (dk_at dksX1_book_2 2 rfl rfl)
theorem dX1_book_50 : decode cX1_book 50 = .ok (.getfield 87, 3) := dk_180 0 87 (dk_at dksX1_book_2 3 rfl rfl)
theorem dX1_book_53 : decode cX1_book 53 = .ok (.aload_n 0, 1) := dk_42 (dk_at dksX1_book_2 6 rfl rfl)
theorem dX1_book_54 : decode cX1_book 54 = .ok (.getfield 83, 3) := dk_180 0 83 (dk_at dksX1_book_2 7 rfl rfl)
theorem dX1_book_57 : decode cX1_book 57 = .ok (.invokevirtual 281, 3) := dk_182 1 25 (dk_at dksX1_book_2 10 rfl rfl)
theorem dX1_book_60 : decode cX1_book 60 = .ok (.iconst (-1), 1) := dk_2 (dk_at dksX1_book_2 13 rfl rfl)
theorem dX1_book_61 : decode cX1_book 61 = .ok (.istore_n 2, 1) := dk_61 (dk_at dksX1_book_2 14 rfl rfl)
theorem dX1_book_62 : decode cX1_book 62 = .ok (.iconst 0, 1) := dk_3 (dk_at dksX1_book_2 15 rfl rfl)
theorem dX1_book_63 : decode cX1_book 63 = .ok (.istore_n 3, 1) := dk_62 (dk_at dksX1_book_2 16 rfl rfl)
theorem dX1_book_64 : decode cX1_book 64 = .ok (.iconst 0, 1) := dk_3 (dk_at dksX1_book_2 17 rfl rfl)
theorem dX1_book_65 : decode cX1_book 65 = .ok (.istore 4, 2) := dk_54 4 (dk_at dksX1_book_2 18 rfl rfl)
theorem dX1_book_67 : decode cX1_book 67 = .ok (.iconst 0, 1) := dk_3 (dk_at dksX1_book_2 20 rfl rfl)
theorem dX1_book_68 : decode cX1_book 68 = .ok (.istore 5, 2) := dk_54 5 (dk_at dksX1_book_2 21 rfl rfl)
theorem dX1_book_70 : decode cX1_book 70 = .ok (.iload 5, 2) := dk_21 5 (dk_at dksX1_book_3 0 rfl rfl)
theorem dX1_book_72 : decode cX1_book 72 = .ok (.aload_n 0, 1) := dk_42 (dk_at dksX1_book_3 2 rfl rfl)
theorem dX1_book_73 : decode cX1_book 73 = .ok (.getfield 102, 3) := dk_180 0 102 (dk_at dksX1_book_3 3 rfl rfl)
theorem dX1_book_76 : decode cX1_book 76 = .ok (.getfield 425, 3) := dk_180 1 169 (dk_at dksX1_book_3 6 rfl rfl)
theorem dX1_book_79 : decode cX1_book 79 = .ok (.if_icmp .ge 66, 3) := dk_162 0 66 (dk_at dksX1_book_3 9 rfl rfl)
theorem dX1_book_82 : decode cX1_book 82 = .ok (.iload_n 2, 1) := dk_28 (dk_at dksX1_book_3 12 rfl rfl)
theorem dX1_book_83 : decode cX1_book 83 = .ok (.iconst (-1), 1) := dk_2 (dk_at dksX1_book_3 13 rfl rfl)
theorem dX1_book_84 : decode cX1_book 84 = .ok (.if_icmp .ne 61, 3) := dk_160 0 61 (dk_at dksX1_book_3 14 rfl rfl)
theorem dX1_book_87 : decode cX1_book 87 = .ok (.aload_n 0, 1) := dk_42 (dk_at dksX1_book_3 17 rfl rfl)
theorem dX1_book_88 : decode cX1_book 88 = .ok (.getfield 102, 3) := dk_180 0 102 (dk_at dksX1_book_3 18 rfl rfl)
theorem dX1_book_91 : decode cX1_book 91 = .ok (.getfield 428, 3) := dk_180 1 172 (dk_at dksX1_book_3 21 rfl rfl)
theorem dX1_book_94 : decode cX1_book 94 = .ok (.iload 5, 2) := dk_21 5 (dk_at dksX1_book_4 0 rfl rfl)
theorem dX1_book_96 : decode cX1_book 96 = .ok (.aaload, 1) := dk_50 (dk_at dksX1_book_4 2 rfl rfl)
theorem dX1_book_97 : decode cX1_book 97 = .ok (.astore 6, 2) := dk_58 6 (dk_at dksX1_book_4 3 rfl rfl)
theorem dX1_book_99 : decode cX1_book 99 = .ok (.aload 6, 2) := dk_25 6 (dk_at dksX1_book_4 5 rfl rfl)
theorem dX1_book_101 : decode cX1_book 101 = .ok (.aload_n 0, 1) := dk_42 (dk_at dksX1_book_4 7 rfl rfl)
theorem dX1_book_102 : decode cX1_book 102 = .ok (.getfield 76, 3) := dk_180 0 76 (dk_at dksX1_book_4 8 rfl rfl)
theorem dX1_book_105 : decode cX1_book 105 = .ok (.aload_n 0, 1) := dk_42 (dk_at dksX1_book_4 11 rfl rfl)
theorem dX1_book_106 : decode cX1_book 106 = .ok (.getfield 87, 3) := dk_180 0 87 (dk_at dksX1_book_4 12 rfl rfl)
theorem dX1_book_109 : decode cX1_book 109 = .ok (.invokevirtual 432, 3) := dk_182 1 176 (dk_at dksX1_book_4 15 rfl rfl)
theorem dX1_book_112 : decode cX1_book 112 = .ok (.istore_n 3, 1) := dk_62 (dk_at dksX1_book_4 18 rfl rfl)
theorem dX1_book_113 : decode cX1_book 113 = .ok (.iload_n 3, 1) := dk_29 (dk_at dksX1_book_4 19 rfl rfl)
theorem dX1_book_114 : decode cX1_book 114 = .ok (.ifCond .eq 9, 3) := dk_153 0 9 (dk_at dksX1_book_4 20 rfl rfl)
theorem dX1_book_117 : decode cX1_book 117 = .ok (.iload 5, 2) := dk_21 5 (dk_at dksX1_book_5 0 rfl rfl)
theorem dX1_book_119 : decode cX1_book 119 = .ok (.istore_n 2, 1) := dk_61 (dk_at dksX1_book_5 2 rfl rfl)
theorem dX1_book_120 : decode cX1_book 120 = .ok (.goto 19, 3) := dk_167 0 19 (dk_at dksX1_book_5 3 rfl rfl)
theorem dX1_book_123 : decode cX1_book 123 = .ok (.aload 6, 2) := dk_25 6 (dk_at dksX1_book_5 6 rfl rfl)
theorem dX1_book_125 : decode cX1_book 125 = .ok (.aload_n 0, 1) := dk_42 (dk_at dksX1_book_5 8 rfl rfl)
theorem dX1_book_126 : decode cX1_book 126 = .ok (.getfield 76, 3) := dk_180 0 76 (dk_at dksX1_book_5 9 rfl rfl)
theorem dX1_book_129 : decode cX1_book 129 = .ok (.aload_n 0, 1) := dk_42 (dk_at dksX1_book_5 12 rfl rfl)
theorem dX1_book_130 : decode cX1_book 130 = .ok (.getfield 87, 3) := dk_180 0 87 (dk_at dksX1_book_5 13 rfl rfl)
theorem dX1_book_133 : decode cX1_book 133 = .ok (.invokevirtual 438, 3) := dk_182 1 182 (dk_at dksX1_book_5 16 rfl rfl)
theorem dX1_book_136 : decode cX1_book 136 = .ok (.iinc 4 1, 3) := dk_132 4 1 (dk_at dksX1_book_5 19 rfl rfl)
theorem dX1_book_139 : decode cX1_book 139 = .ok (.iinc 5 1, 3) := dk_132 5 1 (dk_at dksX1_book_6 0 rfl rfl)
theorem dX1_book_142 : decode cX1_book 142 = .ok (.goto (-72), 3) := dk_167 255 184 (dk_at dksX1_book_6 3 rfl rfl)
theorem dX1_book_145 : decode cX1_book 145 = .ok (.aload_n 0, 1) := dk_42 (dk_at dksX1_book_6 6 rfl rfl)
theorem dX1_book_146 : decode cX1_book 146 = .ok (.getfield 130, 3) := dk_180 0 130 (dk_at dksX1_book_6 7 rfl rfl)
theorem dX1_book_149 : decode cX1_book 149 = .ok (.iconst 0, 1) := dk_3 (dk_at dksX1_book_6 10 rfl rfl)
theorem dX1_book_150 : decode cX1_book 150 = .ok (.iload_n 3, 1) := dk_29 (dk_at dksX1_book_6 11 rfl rfl)
theorem dX1_book_151 : decode cX1_book 151 = .ok (.iastore, 1) := dk_79 (dk_at dksX1_book_6 12 rfl rfl)
theorem dX1_book_152 : decode cX1_book 152 = .ok (.aload_n 0, 1) := dk_42 (dk_at dksX1_book_6 13 rfl rfl)
theorem dX1_book_153 : decode cX1_book 153 = .ok (.getfield 130, 3) := dk_180 0 130 (dk_at dksX1_book_6 14 rfl rfl)
theorem dX1_book_156 : decode cX1_book 156 = .ok (.iconst 1, 1) := dk_4 (dk_at dksX1_book_6 17 rfl rfl)
theorem dX1_book_157 : decode cX1_book 157 = .ok (.iload 4, 2) := dk_21 4 (dk_at dksX1_book_6 18 rfl rfl)
theorem dX1_book_159 : decode cX1_book 159 = .ok (.iastore, 1) := dk_79 (dk_at dksX1_book_6 20 rfl rfl)
theorem dX1_book_160 : decode cX1_book 160 = .ok (.aload_n 0, 1) := dk_42 (dk_at dksX1_book_6 21 rfl rfl)
theorem dX1_book_161 : decode cX1_book 161 = .ok (.getfield 130, 3) := dk_180 0 130 (dk_at dksX1_book_7 0 rfl rfl)
theorem dX1_book_164 : decode cX1_book 164 = .ok (.iconst 2, 1) := dk_5 (dk_at dksX1_book_7 3 rfl rfl)
theorem dX1_book_165 : decode cX1_book 165 = .ok (.aload_n 0, 1) := dk_42 (dk_at dksX1_book_7 4 rfl rfl)
theorem dX1_book_166 : decode cX1_book 166 = .ok (.getfield 87, 3) := dk_180 0 87 (dk_at dksX1_book_7 5 rfl rfl)
theorem dX1_book_169 : decode cX1_book 169 = .ok (.getfield 266, 3) := dk_180 1 10 (dk_at dksX1_book_7 8 rfl rfl)
theorem dX1_book_172 : decode cX1_book 172 = .ok (.iastore, 1) := dk_79 (dk_at dksX1_book_7 11 rfl rfl)
theorem dX1_book_173 : decode cX1_book 173 = .ok (.aload_n 0, 1) := dk_42 (dk_at dksX1_book_7 12 rfl rfl)
theorem dX1_book_174 : decode cX1_book 174 = .ok (.getfield 130, 3) := dk_180 0 130 (dk_at dksX1_book_7 13 rfl rfl)
theorem dX1_book_177 : decode cX1_book 177 = .ok (.iconst 3, 1) := dk_6 (dk_at dksX1_book_7 16 rfl rfl)
theorem dX1_book_178 : decode cX1_book 178 = .ok (.aload_n 0, 1) := dk_42 (dk_at dksX1_book_7 17 rfl rfl)
theorem dX1_book_179 : decode cX1_book 179 = .ok (.getfield 87, 3) := dk_180 0 87 (dk_at dksX1_book_7 18 rfl rfl)
theorem dX1_book_182 : decode cX1_book 182 = .ok (.aload_n 0, 1) := dk_42 (dk_at dksX1_book_7 21 rfl rfl)
theorem dX1_book_183 : decode cX1_book 183 = .ok (.getfield 76, 3) := dk_180 0 76 (dk_at dksX1_book_8 0 rfl rfl)
theorem dX1_book_186 : decode cX1_book 186 = .ok (.invokevirtual 268, 3) := dk_182 1 12 (dk_at dksX1_book_8 3 rfl rfl)
theorem dX1_book_189 : decode cX1_book 189 = .ok (.iastore, 1) := dk_79 (dk_at dksX1_book_8 6 rfl rfl)
theorem dX1_book_190 : decode cX1_book 190 = .ok (.aload_n 0, 1) := dk_42 (dk_at dksX1_book_8 7 rfl rfl)
theorem dX1_book_191 : decode cX1_book 191 = .ok (.iconst 1, 1) := dk_4 (dk_at dksX1_book_8 8 rfl rfl)
theorem dX1_book_192 : decode cX1_book 192 = .ok (.putfield 442, 3) := dk_181 1 186 (dk_at dksX1_book_8 9 rfl rfl)
theorem dX1_book_195 : decode cX1_book 195 = .ok (.iload_n 1, 1) := dk_27 (dk_at dksX1_book_8 12 rfl rfl)
theorem dX1_book_196 : decode cX1_book 196 = .ok (.iconst 1, 1) := dk_4 (dk_at dksX1_book_8 13 rfl rfl)
theorem dX1_book_197 : decode cX1_book 197 = .ok (.if_icmp .ne 23, 3) := dk_160 0 23 (dk_at dksX1_book_8 14 rfl rfl)
theorem dX1_book_200 : decode cX1_book 200 = .ok (.iload 4, 2) := dk_21 4 (dk_at dksX1_book_8 17 rfl rfl)
theorem dX1_book_202 : decode cX1_book 202 = .ok (.ifCond .le 18, 3) := dk_158 0 18 (dk_at dksX1_book_8 19 rfl rfl)
theorem dX1_book_205 : decode cX1_book 205 = .ok (.aload_n 0, 1) := dk_42 (dk_at dksX1_book_8 22 rfl rfl)
theorem dX1_book_206 : decode cX1_book 206 = .ok (.invokevirtual 294, 3) := dk_182 1 38 (dk_at dksX1_book_9 0 rfl rfl)
theorem dX1_book_209 : decode cX1_book 209 = .ok (.aload_n 0, 1) := dk_42 (dk_at dksX1_book_9 3 rfl rfl)
theorem dX1_book_210 : decode cX1_book 210 = .ok (.getfield 83, 3) := dk_180 0 83 (dk_at dksX1_book_9 4 rfl rfl)
theorem dX1_book_213 : decode cX1_book 213 = .ok (.aload_n 0, 1) := dk_42 (dk_at dksX1_book_9 7 rfl rfl)
theorem dX1_book_214 : decode cX1_book 214 = .ok (.getfield 87, 3) := dk_180 0 87 (dk_at dksX1_book_9 8 rfl rfl)
theorem dX1_book_217 : decode cX1_book 217 = .ok (.invokevirtual 281, 3) := dk_182 1 25 (dk_at dksX1_book_9 11 rfl rfl)
theorem dX1_book_220 : decode cX1_book 220 = .ok (.iload_n 2, 1) := dk_28 (dk_at dksX1_book_9 14 rfl rfl)
theorem dX1_book_221 : decode cX1_book 221 = .ok (.ireturn, 1) := dk_172 (dk_at dksX1_book_9 15 rfl rfl)
abbrev cX1_told : ByteArray := prog_1_method_55_code
def yX1_told : MethodName := ⟨RX1, "told", "(I)I"⟩
def dkwX1_told_1 : List UInt8 := [167, 0, 4, 2, 172]
abbrev dktX1_told_1 : List UInt8 := dkwX1_told_1 ++ []
def dkwX1_told_0 : List UInt8 := [42, 180, 1, 186, 153, 0, 21, 27, 3, 6, 184, 0, 185, 153, 0, 12, 42, 180, 0, 130, 27, 46]
abbrev dktX1_told_0 : List UInt8 := dkwX1_told_0 ++ dktX1_told_1
theorem dksX1_told_0 : cX1_told.data.toList.drop 0 = dktX1_told_0 := by decide +kernel
theorem dksX1_told_1 : cX1_told.data.toList.drop 22 = dktX1_told_1 := dk_seg dksX1_told_0 22 rfl rfl
theorem dX1_told_0 : decode cX1_told 0 = .ok (.aload_n 0, 1) := dk_42 (dk_at dksX1_told_0 0 rfl rfl)
theorem dX1_told_1 : decode cX1_told 1 = .ok (.getfield 442, 3) := dk_180 1 186 (dk_at dksX1_told_0 1 rfl rfl)
theorem dX1_told_4 : decode cX1_told 4 = .ok (.ifCond .eq 21, 3) := dk_153 0 21 (dk_at dksX1_told_0 4 rfl rfl)
theorem dX1_told_7 : decode cX1_told 7 = .ok (.iload_n 1, 1) := dk_27 (dk_at dksX1_told_0 7 rfl rfl)
theorem dX1_told_8 : decode cX1_told 8 = .ok (.iconst 0, 1) := dk_3 (dk_at dksX1_told_0 8 rfl rfl)
theorem dX1_told_9 : decode cX1_told 9 = .ok (.iconst 3, 1) := dk_6 (dk_at dksX1_told_0 9 rfl rfl)
theorem dX1_told_10 : decode cX1_told 10 = .ok (.invokestatic 185, 3) := dk_184 0 185 (dk_at dksX1_told_0 10 rfl rfl)
theorem dX1_told_13 : decode cX1_told 13 = .ok (.ifCond .eq 12, 3) := dk_153 0 12 (dk_at dksX1_told_0 13 rfl rfl)
theorem dX1_told_16 : decode cX1_told 16 = .ok (.aload_n 0, 1) := dk_42 (dk_at dksX1_told_0 16 rfl rfl)
theorem dX1_told_17 : decode cX1_told 17 = .ok (.getfield 130, 3) := dk_180 0 130 (dk_at dksX1_told_0 17 rfl rfl)
theorem dX1_told_20 : decode cX1_told 20 = .ok (.iload_n 1, 1) := dk_27 (dk_at dksX1_told_0 20 rfl rfl)
theorem dX1_told_21 : decode cX1_told 21 = .ok (.iaload, 1) := dk_46 (dk_at dksX1_told_0 21 rfl rfl)
theorem dX1_told_22 : decode cX1_told 22 = .ok (.goto 4, 3) := dk_167 0 4 (dk_at dksX1_told_1 0 rfl rfl)
theorem dX1_told_25 : decode cX1_told 25 = .ok (.iconst (-1), 1) := dk_2 (dk_at dksX1_told_1 3 rfl rfl)
theorem dX1_told_26 : decode cX1_told 26 = .ok (.ireturn, 1) := dk_172 (dk_at dksX1_told_1 4 rfl rfl)
abbrev cX1_sentence : ByteArray := prog_1_method_56_code
def yX1_sentence : MethodName := ⟨RX1, "sentence", "()I"⟩
def dkwX1_sentence_1 : List UInt8 := [180, 1, 192, 172, 76, 42, 43, 180, 0, 176, 181, 0, 162, 2, 43, 180, 0, 179, 100, 172]
abbrev dktX1_sentence_1 : List UInt8 := dkwX1_sentence_1 ++ []
def dkwX1_sentence_0 : List UInt8 := [42, 182, 0, 159, 42, 3, 181, 0, 162, 42, 42, 180, 0, 136, 182, 1, 189, 181, 0, 172, 42, 180, 0, 136]
abbrev dktX1_sentence_0 : List UInt8 := dkwX1_sentence_0 ++ dktX1_sentence_1
theorem dksX1_sentence_0 : cX1_sentence.data.toList.drop 0 = dktX1_sentence_0 := by decide +kernel
theorem dksX1_sentence_1 : cX1_sentence.data.toList.drop 24 = dktX1_sentence_1 := dk_seg dksX1_sentence_0 24 rfl rfl
theorem dX1_sentence_0 : decode cX1_sentence 0 = .ok (.aload_n 0, 1) := dk_42 (dk_at dksX1_sentence_0 0 rfl rfl)
theorem dX1_sentence_1 : decode cX1_sentence 1 = .ok (.invokevirtual 159, 3) := dk_182 0 159 (dk_at dksX1_sentence_0 1 rfl rfl)
theorem dX1_sentence_4 : decode cX1_sentence 4 = .ok (.aload_n 0, 1) := dk_42 (dk_at dksX1_sentence_0 4 rfl rfl)
theorem dX1_sentence_5 : decode cX1_sentence 5 = .ok (.iconst 0, 1) := dk_3 (dk_at dksX1_sentence_0 5 rfl rfl)
theorem dX1_sentence_6 : decode cX1_sentence 6 = .ok (.putfield 162, 3) := dk_181 0 162 (dk_at dksX1_sentence_0 6 rfl rfl)
theorem dX1_sentence_9 : decode cX1_sentence 9 = .ok (.aload_n 0, 1) := dk_42 (dk_at dksX1_sentence_0 9 rfl rfl)
theorem dX1_sentence_10 : decode cX1_sentence 10 = .ok (.aload_n 0, 1) := dk_42 (dk_at dksX1_sentence_0 10 rfl rfl)
theorem dX1_sentence_11 : decode cX1_sentence 11 = .ok (.getfield 136, 3) := dk_180 0 136 (dk_at dksX1_sentence_0 11 rfl rfl)
theorem dX1_sentence_14 : decode cX1_sentence 14 = .ok (.invokevirtual 445, 3) := dk_182 1 189 (dk_at dksX1_sentence_0 14 rfl rfl)
theorem dX1_sentence_17 : decode cX1_sentence 17 = .ok (.putfield 172, 3) := dk_181 0 172 (dk_at dksX1_sentence_0 17 rfl rfl)
theorem dX1_sentence_20 : decode cX1_sentence 20 = .ok (.aload_n 0, 1) := dk_42 (dk_at dksX1_sentence_0 20 rfl rfl)
theorem dX1_sentence_21 : decode cX1_sentence 21 = .ok (.getfield 136, 3) := dk_180 0 136 (dk_at dksX1_sentence_0 21 rfl rfl)
theorem dX1_sentence_24 : decode cX1_sentence 24 = .ok (.getfield 448, 3) := dk_180 1 192 (dk_at dksX1_sentence_1 0 rfl rfl)
theorem dX1_sentence_27 : decode cX1_sentence 27 = .ok (.ireturn, 1) := dk_172 (dk_at dksX1_sentence_1 3 rfl rfl)
theorem dX1_sentence_28 : decode cX1_sentence 28 = .ok (.astore_n 1, 1) := dk_76 (dk_at dksX1_sentence_1 4 rfl rfl)
theorem dX1_sentence_29 : decode cX1_sentence 29 = .ok (.aload_n 0, 1) := dk_42 (dk_at dksX1_sentence_1 5 rfl rfl)
theorem dX1_sentence_30 : decode cX1_sentence 30 = .ok (.aload_n 1, 1) := dk_43 (dk_at dksX1_sentence_1 6 rfl rfl)
theorem dX1_sentence_31 : decode cX1_sentence 31 = .ok (.getfield 176, 3) := dk_180 0 176 (dk_at dksX1_sentence_1 7 rfl rfl)
theorem dX1_sentence_34 : decode cX1_sentence 34 = .ok (.putfield 162, 3) := dk_181 0 162 (dk_at dksX1_sentence_1 10 rfl rfl)
theorem dX1_sentence_37 : decode cX1_sentence 37 = .ok (.iconst (-1), 1) := dk_2 (dk_at dksX1_sentence_1 13 rfl rfl)
theorem dX1_sentence_38 : decode cX1_sentence 38 = .ok (.aload_n 1, 1) := dk_43 (dk_at dksX1_sentence_1 14 rfl rfl)
theorem dX1_sentence_39 : decode cX1_sentence 39 = .ok (.getfield 179, 3) := dk_180 0 179 (dk_at dksX1_sentence_1 15 rfl rfl)
theorem dX1_sentence_42 : decode cX1_sentence 42 = .ok (.isub, 1) := dk_100 (dk_at dksX1_sentence_1 18 rfl rfl)
theorem dX1_sentence_43 : decode cX1_sentence 43 = .ok (.ireturn, 1) := dk_172 (dk_at dksX1_sentence_1 19 rfl rfl)
abbrev cX1_said : ByteArray := prog_1_method_57_code
def yX1_said : MethodName := ⟨RX1, "said", "(I)I"⟩
def dkwX1_said_3 : List UInt8 := [2, 172]
abbrev dktX1_said_3 : List UInt8 := dkwX1_said_3 ++ []
def dkwX1_said_2 : List UInt8 := [27, 160, 0, 5, 29, 172, 132, 2, 1, 132, 3, 1, 167, 255, 215, 27, 2, 160, 0, 7, 28, 167, 0, 4]
abbrev dktX1_said_2 : List UInt8 := dkwX1_said_2 ++ dktX1_said_3
def dkwX1_said_1 : List UInt8 := [180, 0, 189, 162, 0, 36, 42, 180, 0, 172, 42, 29, 185, 1, 195, 3, 0, 154, 0, 6, 167, 0, 13, 28]
abbrev dktX1_said_1 : List UInt8 := dkwX1_said_1 ++ dktX1_said_2
def dkwX1_said_0 : List UInt8 := [42, 180, 0, 172, 198, 0, 8, 27, 2, 162, 0, 5, 2, 172, 3, 61, 3, 62, 29, 42, 180, 0, 76]
abbrev dktX1_said_0 : List UInt8 := dkwX1_said_0 ++ dktX1_said_1
theorem dksX1_said_0 : cX1_said.data.toList.drop 0 = dktX1_said_0 := by decide +kernel
theorem dksX1_said_1 : cX1_said.data.toList.drop 23 = dktX1_said_1 := dk_seg dksX1_said_0 23 rfl rfl
theorem dksX1_said_2 : cX1_said.data.toList.drop 47 = dktX1_said_2 := dk_seg dksX1_said_1 24 rfl rfl
theorem dksX1_said_3 : cX1_said.data.toList.drop 71 = dktX1_said_3 := dk_seg dksX1_said_2 24 rfl rfl
theorem dX1_said_0 : decode cX1_said 0 = .ok (.aload_n 0, 1) := dk_42 (dk_at dksX1_said_0 0 rfl rfl)
theorem dX1_said_1 : decode cX1_said 1 = .ok (.getfield 172, 3) := dk_180 0 172 (dk_at dksX1_said_0 1 rfl rfl)
theorem dX1_said_4 : decode cX1_said 4 = .ok (.ifnull 8, 3) := dk_198 0 8 (dk_at dksX1_said_0 4 rfl rfl)
theorem dX1_said_7 : decode cX1_said 7 = .ok (.iload_n 1, 1) := dk_27 (dk_at dksX1_said_0 7 rfl rfl)
theorem dX1_said_8 : decode cX1_said 8 = .ok (.iconst (-1), 1) := dk_2 (dk_at dksX1_said_0 8 rfl rfl)
theorem dX1_said_9 : decode cX1_said 9 = .ok (.if_icmp .ge 5, 3) := dk_162 0 5 (dk_at dksX1_said_0 9 rfl rfl)
theorem dX1_said_12 : decode cX1_said 12 = .ok (.iconst (-1), 1) := dk_2 (dk_at dksX1_said_0 12 rfl rfl)
theorem dX1_said_13 : decode cX1_said 13 = .ok (.ireturn, 1) := dk_172 (dk_at dksX1_said_0 13 rfl rfl)
theorem dX1_said_14 : decode cX1_said 14 = .ok (.iconst 0, 1) := dk_3 (dk_at dksX1_said_0 14 rfl rfl)
theorem dX1_said_15 : decode cX1_said 15 = .ok (.istore_n 2, 1) := dk_61 (dk_at dksX1_said_0 15 rfl rfl)
theorem dX1_said_16 : decode cX1_said 16 = .ok (.iconst 0, 1) := dk_3 (dk_at dksX1_said_0 16 rfl rfl)
theorem dX1_said_17 : decode cX1_said 17 = .ok (.istore_n 3, 1) := dk_62 (dk_at dksX1_said_0 17 rfl rfl)
theorem dX1_said_18 : decode cX1_said 18 = .ok (.iload_n 3, 1) := dk_29 (dk_at dksX1_said_0 18 rfl rfl)
theorem dX1_said_19 : decode cX1_said 19 = .ok (.aload_n 0, 1) := dk_42 (dk_at dksX1_said_0 19 rfl rfl)
theorem dX1_said_20 : decode cX1_said 20 = .ok (.getfield 76, 3) := dk_180 0 76 (dk_at dksX1_said_0 20 rfl rfl)
theorem dX1_said_23 : decode cX1_said 23 = .ok (.getfield 189, 3) := dk_180 0 189 (dk_at dksX1_said_1 0 rfl rfl)
theorem dX1_said_26 : decode cX1_said 26 = .ok (.if_icmp .ge 36, 3) := dk_162 0 36 (dk_at dksX1_said_1 3 rfl rfl)
theorem dX1_said_29 : decode cX1_said 29 = .ok (.aload_n 0, 1) := dk_42 (dk_at dksX1_said_1 6 rfl rfl)
theorem dX1_said_30 : decode cX1_said 30 = .ok (.getfield 172, 3) := dk_180 0 172 (dk_at dksX1_said_1 7 rfl rfl)
theorem dX1_said_33 : decode cX1_said 33 = .ok (.aload_n 0, 1) := dk_42 (dk_at dksX1_said_1 10 rfl rfl)
theorem dX1_said_34 : decode cX1_said 34 = .ok (.iload_n 3, 1) := dk_29 (dk_at dksX1_said_1 11 rfl rfl)
theorem dX1_said_35 : decode cX1_said 35 = .ok (.invokeinterface 451 3, 5) := by decide +kernel
theorem dX1_said_40 : decode cX1_said 40 = .ok (.ifCond .ne 6, 3) := dk_154 0 6 (dk_at dksX1_said_1 17 rfl rfl)
theorem dX1_said_43 : decode cX1_said 43 = .ok (.goto 13, 3) := dk_167 0 13 (dk_at dksX1_said_1 20 rfl rfl)
theorem dX1_said_46 : decode cX1_said 46 = .ok (.iload_n 2, 1) := dk_28 (dk_at dksX1_said_1 23 rfl rfl)
theorem dX1_said_47 : decode cX1_said 47 = .ok (.iload_n 1, 1) := dk_27 (dk_at dksX1_said_2 0 rfl rfl)
theorem dX1_said_48 : decode cX1_said 48 = .ok (.if_icmp .ne 5, 3) := dk_160 0 5 (dk_at dksX1_said_2 1 rfl rfl)
theorem dX1_said_51 : decode cX1_said 51 = .ok (.iload_n 3, 1) := dk_29 (dk_at dksX1_said_2 4 rfl rfl)
theorem dX1_said_52 : decode cX1_said 52 = .ok (.ireturn, 1) := dk_172 (dk_at dksX1_said_2 5 rfl rfl)
theorem dX1_said_53 : decode cX1_said 53 = .ok (.iinc 2 1, 3) := dk_132 2 1 (dk_at dksX1_said_2 6 rfl rfl)
theorem dX1_said_56 : decode cX1_said 56 = .ok (.iinc 3 1, 3) := dk_132 3 1 (dk_at dksX1_said_2 9 rfl rfl)
theorem dX1_said_59 : decode cX1_said 59 = .ok (.goto (-41), 3) := dk_167 255 215 (dk_at dksX1_said_2 12 rfl rfl)
theorem dX1_said_62 : decode cX1_said 62 = .ok (.iload_n 1, 1) := dk_27 (dk_at dksX1_said_2 15 rfl rfl)
theorem dX1_said_63 : decode cX1_said 63 = .ok (.iconst (-1), 1) := dk_2 (dk_at dksX1_said_2 16 rfl rfl)
theorem dX1_said_64 : decode cX1_said 64 = .ok (.if_icmp .ne 7, 3) := dk_160 0 7 (dk_at dksX1_said_2 17 rfl rfl)
theorem dX1_said_67 : decode cX1_said 67 = .ok (.iload_n 2, 1) := dk_28 (dk_at dksX1_said_2 20 rfl rfl)
theorem dX1_said_68 : decode cX1_said 68 = .ok (.goto 4, 3) := dk_167 0 4 (dk_at dksX1_said_2 21 rfl rfl)
theorem dX1_said_71 : decode cX1_said 71 = .ok (.iconst (-1), 1) := dk_2 (dk_at dksX1_said_3 0 rfl rfl)
theorem dX1_said_72 : decode cX1_said 72 = .ok (.ireturn, 1) := dk_172 (dk_at dksX1_said_3 1 rfl rfl)
abbrev cX1_image : ByteArray := prog_1_method_58_code
def yX1_image : MethodName := ⟨RX1, "image", "(I)Z"⟩
def dkwX1_image_2 : List UInt8 := [44, 180, 1, 203, 42, 180, 0, 83, 182, 1, 25, 44, 42, 180, 0, 172, 181, 1, 206, 4, 172]
abbrev dktX1_image_2 : List UInt8 := dkwX1_image_2 ++ []
def dkwX1_image_1 : List UInt8 := [27, 187, 0, 140, 89, 183, 1, 201, 83, 42, 180, 0, 142, 27, 50, 77, 44, 42, 180, 0, 76, 181, 1, 202]
abbrev dktX1_image_1 : List UInt8 := dkwX1_image_1 ++ dktX1_image_2
def dkwX1_image_0 : List UInt8 := [27, 3, 4, 184, 0, 185, 154, 0, 5, 3, 172, 42, 180, 0, 142, 27, 50, 199, 0, 16, 42, 180, 0, 142]
abbrev dktX1_image_0 : List UInt8 := dkwX1_image_0 ++ dktX1_image_1
theorem dksX1_image_0 : cX1_image.data.toList.drop 0 = dktX1_image_0 := by decide +kernel
theorem dksX1_image_1 : cX1_image.data.toList.drop 24 = dktX1_image_1 := dk_seg dksX1_image_0 24 rfl rfl
theorem dksX1_image_2 : cX1_image.data.toList.drop 48 = dktX1_image_2 := dk_seg dksX1_image_1 24 rfl rfl
theorem dX1_image_0 : decode cX1_image 0 = .ok (.iload_n 1, 1) := dk_27 (dk_at dksX1_image_0 0 rfl rfl)
theorem dX1_image_1 : decode cX1_image 1 = .ok (.iconst 0, 1) := dk_3 (dk_at dksX1_image_0 1 rfl rfl)
theorem dX1_image_2 : decode cX1_image 2 = .ok (.iconst 1, 1) := dk_4 (dk_at dksX1_image_0 2 rfl rfl)
theorem dX1_image_3 : decode cX1_image 3 = .ok (.invokestatic 185, 3) := dk_184 0 185 (dk_at dksX1_image_0 3 rfl rfl)
theorem dX1_image_6 : decode cX1_image 6 = .ok (.ifCond .ne 5, 3) := dk_154 0 5 (dk_at dksX1_image_0 6 rfl rfl)
theorem dX1_image_9 : decode cX1_image 9 = .ok (.iconst 0, 1) := dk_3 (dk_at dksX1_image_0 9 rfl rfl)
theorem dX1_image_10 : decode cX1_image 10 = .ok (.ireturn, 1) := dk_172 (dk_at dksX1_image_0 10 rfl rfl)
theorem dX1_image_11 : decode cX1_image 11 = .ok (.aload_n 0, 1) := dk_42 (dk_at dksX1_image_0 11 rfl rfl)
theorem dX1_image_12 : decode cX1_image 12 = .ok (.getfield 142, 3) := dk_180 0 142 (dk_at dksX1_image_0 12 rfl rfl)
theorem dX1_image_15 : decode cX1_image 15 = .ok (.iload_n 1, 1) := dk_27 (dk_at dksX1_image_0 15 rfl rfl)
theorem dX1_image_16 : decode cX1_image 16 = .ok (.aaload, 1) := dk_50 (dk_at dksX1_image_0 16 rfl rfl)
theorem dX1_image_17 : decode cX1_image 17 = .ok (.ifnonnull 16, 3) := dk_199 0 16 (dk_at dksX1_image_0 17 rfl rfl)
theorem dX1_image_20 : decode cX1_image 20 = .ok (.aload_n 0, 1) := dk_42 (dk_at dksX1_image_0 20 rfl rfl)
theorem dX1_image_21 : decode cX1_image 21 = .ok (.getfield 142, 3) := dk_180 0 142 (dk_at dksX1_image_0 21 rfl rfl)
theorem dX1_image_24 : decode cX1_image 24 = .ok (.iload_n 1, 1) := dk_27 (dk_at dksX1_image_1 0 rfl rfl)
theorem dX1_image_25 : decode cX1_image 25 = .ok (.new 140, 3) := dk_187 0 140 (dk_at dksX1_image_1 1 rfl rfl)
theorem dX1_image_28 : decode cX1_image 28 = .ok (.dup, 1) := dk_89 (dk_at dksX1_image_1 4 rfl rfl)
theorem dX1_image_29 : decode cX1_image 29 = .ok (.invokespecial 457, 3) := dk_183 1 201 (dk_at dksX1_image_1 5 rfl rfl)
theorem dX1_image_32 : decode cX1_image 32 = .ok (.aastore, 1) := dk_83 (dk_at dksX1_image_1 8 rfl rfl)
theorem dX1_image_33 : decode cX1_image 33 = .ok (.aload_n 0, 1) := dk_42 (dk_at dksX1_image_1 9 rfl rfl)
theorem dX1_image_34 : decode cX1_image 34 = .ok (.getfield 142, 3) := dk_180 0 142 (dk_at dksX1_image_1 10 rfl rfl)
theorem dX1_image_37 : decode cX1_image 37 = .ok (.iload_n 1, 1) := dk_27 (dk_at dksX1_image_1 13 rfl rfl)
theorem dX1_image_38 : decode cX1_image 38 = .ok (.aaload, 1) := dk_50 (dk_at dksX1_image_1 14 rfl rfl)
theorem dX1_image_39 : decode cX1_image 39 = .ok (.astore_n 2, 1) := dk_77 (dk_at dksX1_image_1 15 rfl rfl)
theorem dX1_image_40 : decode cX1_image 40 = .ok (.aload_n 2, 1) := dk_44 (dk_at dksX1_image_1 16 rfl rfl)
theorem dX1_image_41 : decode cX1_image 41 = .ok (.aload_n 0, 1) := dk_42 (dk_at dksX1_image_1 17 rfl rfl)
theorem dX1_image_42 : decode cX1_image 42 = .ok (.getfield 76, 3) := dk_180 0 76 (dk_at dksX1_image_1 18 rfl rfl)
theorem dX1_image_45 : decode cX1_image 45 = .ok (.putfield 458, 3) := dk_181 1 202 (dk_at dksX1_image_1 21 rfl rfl)
theorem dX1_image_48 : decode cX1_image 48 = .ok (.aload_n 2, 1) := dk_44 (dk_at dksX1_image_2 0 rfl rfl)
theorem dX1_image_49 : decode cX1_image 49 = .ok (.getfield 459, 3) := dk_180 1 203 (dk_at dksX1_image_2 1 rfl rfl)
theorem dX1_image_52 : decode cX1_image 52 = .ok (.aload_n 0, 1) := dk_42 (dk_at dksX1_image_2 4 rfl rfl)
theorem dX1_image_53 : decode cX1_image 53 = .ok (.getfield 83, 3) := dk_180 0 83 (dk_at dksX1_image_2 5 rfl rfl)
theorem dX1_image_56 : decode cX1_image 56 = .ok (.invokevirtual 281, 3) := dk_182 1 25 (dk_at dksX1_image_2 8 rfl rfl)
theorem dX1_image_59 : decode cX1_image 59 = .ok (.aload_n 2, 1) := dk_44 (dk_at dksX1_image_2 11 rfl rfl)
theorem dX1_image_60 : decode cX1_image 60 = .ok (.aload_n 0, 1) := dk_42 (dk_at dksX1_image_2 12 rfl rfl)
theorem dX1_image_61 : decode cX1_image 61 = .ok (.getfield 172, 3) := dk_180 0 172 (dk_at dksX1_image_2 13 rfl rfl)
theorem dX1_image_64 : decode cX1_image 64 = .ok (.putfield 462, 3) := dk_181 1 206 (dk_at dksX1_image_2 16 rfl rfl)
theorem dX1_image_67 : decode cX1_image 67 = .ok (.iconst 1, 1) := dk_4 (dk_at dksX1_image_2 19 rfl rfl)
theorem dX1_image_68 : decode cX1_image 68 = .ok (.ireturn, 1) := dk_172 (dk_at dksX1_image_2 20 rfl rfl)
abbrev cX1_restore : ByteArray := prog_1_method_59_code
def yX1_restore : MethodName := ⟨RX1, "restore", "(I)Z"⟩
def dkwX1_restore_2 : List UInt8 := [180, 1, 206, 181, 0, 172, 42, 3, 181, 0, 169, 4, 172]
abbrev dktX1_restore_2 : List UInt8 := dkwX1_restore_2 ++ []
def dkwX1_restore_1 : List UInt8 := [27, 50, 77, 42, 44, 180, 1, 202, 181, 0, 76, 42, 180, 0, 83, 44, 180, 1, 203, 182, 1, 25, 42, 44]
abbrev dktX1_restore_1 : List UInt8 := dkwX1_restore_1 ++ dktX1_restore_2
def dkwX1_restore_0 : List UInt8 := [27, 3, 4, 184, 0, 185, 153, 0, 12, 42, 180, 0, 142, 27, 50, 199, 0, 5, 3, 172, 42, 180, 0, 142]
abbrev dktX1_restore_0 : List UInt8 := dkwX1_restore_0 ++ dktX1_restore_1
theorem dksX1_restore_0 : cX1_restore.data.toList.drop 0 = dktX1_restore_0 := by decide +kernel
theorem dksX1_restore_1 : cX1_restore.data.toList.drop 24 = dktX1_restore_1 := dk_seg dksX1_restore_0 24 rfl rfl
theorem dksX1_restore_2 : cX1_restore.data.toList.drop 48 = dktX1_restore_2 := dk_seg dksX1_restore_1 24 rfl rfl
theorem dX1_restore_0 : decode cX1_restore 0 = .ok (.iload_n 1, 1) := dk_27 (dk_at dksX1_restore_0 0 rfl rfl)
theorem dX1_restore_1 : decode cX1_restore 1 = .ok (.iconst 0, 1) := dk_3 (dk_at dksX1_restore_0 1 rfl rfl)
theorem dX1_restore_2 : decode cX1_restore 2 = .ok (.iconst 1, 1) := dk_4 (dk_at dksX1_restore_0 2 rfl rfl)
theorem dX1_restore_3 : decode cX1_restore 3 = .ok (.invokestatic 185, 3) := dk_184 0 185 (dk_at dksX1_restore_0 3 rfl rfl)
theorem dX1_restore_6 : decode cX1_restore 6 = .ok (.ifCond .eq 12, 3) := dk_153 0 12 (dk_at dksX1_restore_0 6 rfl rfl)
theorem dX1_restore_9 : decode cX1_restore 9 = .ok (.aload_n 0, 1) := dk_42 (dk_at dksX1_restore_0 9 rfl rfl)
theorem dX1_restore_10 : decode cX1_restore 10 = .ok (.getfield 142, 3) := dk_180 0 142 (dk_at dksX1_restore_0 10 rfl rfl)
theorem dX1_restore_13 : decode cX1_restore 13 = .ok (.iload_n 1, 1) := dk_27 (dk_at dksX1_restore_0 13 rfl rfl)
theorem dX1_restore_14 : decode cX1_restore 14 = .ok (.aaload, 1) := dk_50 (dk_at dksX1_restore_0 14 rfl rfl)
theorem dX1_restore_15 : decode cX1_restore 15 = .ok (.ifnonnull 5, 3) := dk_199 0 5 (dk_at dksX1_restore_0 15 rfl rfl)
theorem dX1_restore_18 : decode cX1_restore 18 = .ok (.iconst 0, 1) := dk_3 (dk_at dksX1_restore_0 18 rfl rfl)
theorem dX1_restore_19 : decode cX1_restore 19 = .ok (.ireturn, 1) := dk_172 (dk_at dksX1_restore_0 19 rfl rfl)
theorem dX1_restore_20 : decode cX1_restore 20 = .ok (.aload_n 0, 1) := dk_42 (dk_at dksX1_restore_0 20 rfl rfl)
theorem dX1_restore_21 : decode cX1_restore 21 = .ok (.getfield 142, 3) := dk_180 0 142 (dk_at dksX1_restore_0 21 rfl rfl)
theorem dX1_restore_24 : decode cX1_restore 24 = .ok (.iload_n 1, 1) := dk_27 (dk_at dksX1_restore_1 0 rfl rfl)
theorem dX1_restore_25 : decode cX1_restore 25 = .ok (.aaload, 1) := dk_50 (dk_at dksX1_restore_1 1 rfl rfl)
theorem dX1_restore_26 : decode cX1_restore 26 = .ok (.astore_n 2, 1) := dk_77 (dk_at dksX1_restore_1 2 rfl rfl)
theorem dX1_restore_27 : decode cX1_restore 27 = .ok (.aload_n 0, 1) := dk_42 (dk_at dksX1_restore_1 3 rfl rfl)
theorem dX1_restore_28 : decode cX1_restore 28 = .ok (.aload_n 2, 1) := dk_44 (dk_at dksX1_restore_1 4 rfl rfl)
theorem dX1_restore_29 : decode cX1_restore 29 = .ok (.getfield 458, 3) := dk_180 1 202 (dk_at dksX1_restore_1 5 rfl rfl)
theorem dX1_restore_32 : decode cX1_restore 32 = .ok (.putfield 76, 3) := dk_181 0 76 (dk_at dksX1_restore_1 8 rfl rfl)
theorem dX1_restore_35 : decode cX1_restore 35 = .ok (.aload_n 0, 1) := dk_42 (dk_at dksX1_restore_1 11 rfl rfl)
theorem dX1_restore_36 : decode cX1_restore 36 = .ok (.getfield 83, 3) := dk_180 0 83 (dk_at dksX1_restore_1 12 rfl rfl)
theorem dX1_restore_39 : decode cX1_restore 39 = .ok (.aload_n 2, 1) := dk_44 (dk_at dksX1_restore_1 15 rfl rfl)
theorem dX1_restore_40 : decode cX1_restore 40 = .ok (.getfield 459, 3) := dk_180 1 203 (dk_at dksX1_restore_1 16 rfl rfl)
theorem dX1_restore_43 : decode cX1_restore 43 = .ok (.invokevirtual 281, 3) := dk_182 1 25 (dk_at dksX1_restore_1 19 rfl rfl)
theorem dX1_restore_46 : decode cX1_restore 46 = .ok (.aload_n 0, 1) := dk_42 (dk_at dksX1_restore_1 22 rfl rfl)
theorem dX1_restore_47 : decode cX1_restore 47 = .ok (.aload_n 2, 1) := dk_44 (dk_at dksX1_restore_1 23 rfl rfl)
theorem dX1_restore_48 : decode cX1_restore 48 = .ok (.getfield 462, 3) := dk_180 1 206 (dk_at dksX1_restore_2 0 rfl rfl)
theorem dX1_restore_51 : decode cX1_restore 51 = .ok (.putfield 172, 3) := dk_181 0 172 (dk_at dksX1_restore_2 3 rfl rfl)
theorem dX1_restore_54 : decode cX1_restore 54 = .ok (.aload_n 0, 1) := dk_42 (dk_at dksX1_restore_2 6 rfl rfl)
theorem dX1_restore_55 : decode cX1_restore 55 = .ok (.iconst 0, 1) := dk_3 (dk_at dksX1_restore_2 7 rfl rfl)
theorem dX1_restore_56 : decode cX1_restore 56 = .ok (.putfield 169, 3) := dk_181 0 169 (dk_at dksX1_restore_2 8 rfl rfl)
theorem dX1_restore_59 : decode cX1_restore 59 = .ok (.iconst 1, 1) := dk_4 (dk_at dksX1_restore_2 11 rfl rfl)
theorem dX1_restore_60 : decode cX1_restore 60 = .ok (.ireturn, 1) := dk_172 (dk_at dksX1_restore_2 12 rfl rfl)
abbrev cX1_count : ByteArray := prog_1_method_60_code
def yX1_count : MethodName := ⟨RX1, "count", "(I)I"⟩
def dkwX1_count_4 : List UInt8 := [42, 180, 0, 146, 172, 2, 172]
abbrev dktX1_count_4 : List UInt8 := dkwX1_count_4 ++ []
def dkwX1_count_3 : List UInt8 := [42, 180, 0, 76, 180, 0, 195, 172, 42, 180, 0, 76, 180, 1, 61, 172, 42, 180, 0, 76, 180, 1, 53, 172]
abbrev dktX1_count_3 : List UInt8 := dkwX1_count_3 ++ dktX1_count_4
def dkwX1_count_2 : List UInt8 := [42, 180, 0, 76, 180, 0, 182, 172, 42, 180, 0, 76, 180, 0, 189, 172, 42, 180, 0, 76, 180, 0, 192, 172]
abbrev dktX1_count_2 : List UInt8 := dkwX1_count_2 ++ dktX1_count_3
def dkwX1_count_1 : List UInt8 := [170, 0, 0, 0, 0, 0, 96, 0, 0, 0, 0, 0, 0, 0, 6, 0, 0, 0, 43, 0, 0, 0, 51, 0, 0, 0, 59, 0, 0, 0, 67, 0, 0, 0, 75, 0, 0, 0, 83, 0, 0, 0, 91]
abbrev dktX1_count_1 : List UInt8 := dkwX1_count_1 ++ dktX1_count_2
def dkwX1_count_0 : List UInt8 := [27]
abbrev dktX1_count_0 : List UInt8 := dkwX1_count_0 ++ dktX1_count_1
theorem dksX1_count_0 : cX1_count.data.toList.drop 0 = dktX1_count_0 := by decide +kernel
theorem dksX1_count_1 : cX1_count.data.toList.drop 1 = dktX1_count_1 := dk_seg dksX1_count_0 1 rfl rfl
theorem dksX1_count_2 : cX1_count.data.toList.drop 44 = dktX1_count_2 := dk_seg dksX1_count_1 43 rfl rfl
theorem dksX1_count_3 : cX1_count.data.toList.drop 68 = dktX1_count_3 := dk_seg dksX1_count_2 24 rfl rfl
theorem dksX1_count_4 : cX1_count.data.toList.drop 92 = dktX1_count_4 := dk_seg dksX1_count_3 24 rfl rfl
theorem dX1_count_0 : decode cX1_count 0 = .ok (.iload_n 1, 1) := dk_27 (dk_at dksX1_count_0 0 rfl rfl)
theorem dX1_count_1 : decode cX1_count 1 = .ok (.tableswitch 96 0 6 #[43, 51, 59, 67, 75, 83, 91], 43) := by decide +kernel
theorem dX1_count_44 : decode cX1_count 44 = .ok (.aload_n 0, 1) := dk_42 (dk_at dksX1_count_2 0 rfl rfl)
theorem dX1_count_45 : decode cX1_count 45 = .ok (.getfield 76, 3) := dk_180 0 76 (dk_at dksX1_count_2 1 rfl rfl)
theorem dX1_count_48 : decode cX1_count 48 = .ok (.getfield 182, 3) := dk_180 0 182 (dk_at dksX1_count_2 4 rfl rfl)
theorem dX1_count_51 : decode cX1_count 51 = .ok (.ireturn, 1) := dk_172 (dk_at dksX1_count_2 7 rfl rfl)
theorem dX1_count_52 : decode cX1_count 52 = .ok (.aload_n 0, 1) := dk_42 (dk_at dksX1_count_2 8 rfl rfl)
theorem dX1_count_53 : decode cX1_count 53 = .ok (.getfield 76, 3) := dk_180 0 76 (dk_at dksX1_count_2 9 rfl rfl)
theorem dX1_count_56 : decode cX1_count 56 = .ok (.getfield 189, 3) := dk_180 0 189 (dk_at dksX1_count_2 12 rfl rfl)
theorem dX1_count_59 : decode cX1_count 59 = .ok (.ireturn, 1) := dk_172 (dk_at dksX1_count_2 15 rfl rfl)
theorem dX1_count_60 : decode cX1_count 60 = .ok (.aload_n 0, 1) := dk_42 (dk_at dksX1_count_2 16 rfl rfl)
theorem dX1_count_61 : decode cX1_count 61 = .ok (.getfield 76, 3) := dk_180 0 76 (dk_at dksX1_count_2 17 rfl rfl)
theorem dX1_count_64 : decode cX1_count 64 = .ok (.getfield 192, 3) := dk_180 0 192 (dk_at dksX1_count_2 20 rfl rfl)
theorem dX1_count_67 : decode cX1_count 67 = .ok (.ireturn, 1) := dk_172 (dk_at dksX1_count_2 23 rfl rfl)
theorem dX1_count_68 : decode cX1_count 68 = .ok (.aload_n 0, 1) := dk_42 (dk_at dksX1_count_3 0 rfl rfl)
theorem dX1_count_69 : decode cX1_count 69 = .ok (.getfield 76, 3) := dk_180 0 76 (dk_at dksX1_count_3 1 rfl rfl)
theorem dX1_count_72 : decode cX1_count 72 = .ok (.getfield 195, 3) := dk_180 0 195 (dk_at dksX1_count_3 4 rfl rfl)
theorem dX1_count_75 : decode cX1_count 75 = .ok (.ireturn, 1) := dk_172 (dk_at dksX1_count_3 7 rfl rfl)
theorem dX1_count_76 : decode cX1_count 76 = .ok (.aload_n 0, 1) := dk_42 (dk_at dksX1_count_3 8 rfl rfl)
theorem dX1_count_77 : decode cX1_count 77 = .ok (.getfield 76, 3) := dk_180 0 76 (dk_at dksX1_count_3 9 rfl rfl)
theorem dX1_count_80 : decode cX1_count 80 = .ok (.getfield 317, 3) := dk_180 1 61 (dk_at dksX1_count_3 12 rfl rfl)
theorem dX1_count_83 : decode cX1_count 83 = .ok (.ireturn, 1) := dk_172 (dk_at dksX1_count_3 15 rfl rfl)
theorem dX1_count_84 : decode cX1_count 84 = .ok (.aload_n 0, 1) := dk_42 (dk_at dksX1_count_3 16 rfl rfl)
theorem dX1_count_85 : decode cX1_count 85 = .ok (.getfield 76, 3) := dk_180 0 76 (dk_at dksX1_count_3 17 rfl rfl)
theorem dX1_count_88 : decode cX1_count 88 = .ok (.getfield 309, 3) := dk_180 1 53 (dk_at dksX1_count_3 20 rfl rfl)
theorem dX1_count_91 : decode cX1_count 91 = .ok (.ireturn, 1) := dk_172 (dk_at dksX1_count_3 23 rfl rfl)
theorem dX1_count_92 : decode cX1_count 92 = .ok (.aload_n 0, 1) := dk_42 (dk_at dksX1_count_4 0 rfl rfl)
theorem dX1_count_93 : decode cX1_count 93 = .ok (.getfield 146, 3) := dk_180 0 146 (dk_at dksX1_count_4 1 rfl rfl)
theorem dX1_count_96 : decode cX1_count 96 = .ok (.ireturn, 1) := dk_172 (dk_at dksX1_count_4 4 rfl rfl)
theorem dX1_count_97 : decode cX1_count 97 = .ok (.iconst (-1), 1) := dk_2 (dk_at dksX1_count_4 5 rfl rfl)
theorem dX1_count_98 : decode cX1_count 98 = .ok (.ireturn, 1) := dk_172 (dk_at dksX1_count_4 6 rfl rfl)
abbrev cX1_plant : ByteArray := prog_1_method_17_code
def yX1_plant : MethodName := ⟨RX1, "plant", "(II)I"⟩
def dkwX1_plant_6 : List UInt8 := [172, 42, 180, 0, 83, 27, 182, 0, 229, 172, 42, 180, 0, 83, 27, 3, 182, 0, 226, 172]
abbrev dktX1_plant_6 : List UInt8 := dkwX1_plant_6 ++ []
def dkwX1_plant_5 : List UInt8 := [46, 172, 42, 180, 0, 83, 42, 180, 0, 76, 27, 182, 0, 223, 172, 42, 180, 0, 83, 27, 4, 182, 0, 226]
abbrev dktX1_plant_5 : List UInt8 := dkwX1_plant_5 ++ dktX1_plant_6
def dkwX1_plant_4 : List UInt8 := [180, 0, 214, 27, 184, 0, 217, 153, 0, 7, 4, 167, 0, 4, 3, 172, 42, 180, 0, 83, 180, 0, 221, 27]
abbrev dktX1_plant_4 : List UInt8 := dkwX1_plant_4 ++ dktX1_plant_5
def dkwX1_plant_3 : List UInt8 := [42, 180, 0, 83, 180, 0, 209, 27, 46, 172, 42, 180, 0, 76, 180, 0, 211, 27, 46, 172, 42, 180, 0, 76]
abbrev dktX1_plant_3 : List UInt8 := dkwX1_plant_3 ++ dktX1_plant_4
def dkwX1_plant_2 : List UInt8 := [170, 0, 0, 0, 123, 0, 0, 0, 0, 0, 0, 0, 6, 0, 0, 0, 41, 0, 0, 0, 51, 0, 0, 0, 61, 0, 0, 0, 81, 0, 0, 0, 91, 0, 0, 0, 104, 0, 0, 0, 114]
abbrev dktX1_plant_2 : List UInt8 := dkwX1_plant_2 ++ dktX1_plant_3
def dkwX1_plant_1 : List UInt8 := [184, 0, 205, 28]
abbrev dktX1_plant_1 : List UInt8 := dkwX1_plant_1 ++ dktX1_plant_2
def dkwX1_plant_0 : List UInt8 := [42, 27, 182, 0, 201, 153, 0, 17, 28, 3, 16, 7, 184, 0, 185, 153, 0, 7, 4, 167, 0, 4, 3]
abbrev dktX1_plant_0 : List UInt8 := dkwX1_plant_0 ++ dktX1_plant_1
theorem dksX1_plant_0 : cX1_plant.data.toList.drop 0 = dktX1_plant_0 := by decide +kernel
theorem dksX1_plant_1 : cX1_plant.data.toList.drop 23 = dktX1_plant_1 := dk_seg dksX1_plant_0 23 rfl rfl
theorem dksX1_plant_2 : cX1_plant.data.toList.drop 27 = dktX1_plant_2 := dk_seg dksX1_plant_1 4 rfl rfl
theorem dksX1_plant_3 : cX1_plant.data.toList.drop 68 = dktX1_plant_3 := dk_seg dksX1_plant_2 41 rfl rfl
theorem dksX1_plant_4 : cX1_plant.data.toList.drop 92 = dktX1_plant_4 := dk_seg dksX1_plant_3 24 rfl rfl
theorem dksX1_plant_5 : cX1_plant.data.toList.drop 116 = dktX1_plant_5 := dk_seg dksX1_plant_4 24 rfl rfl
theorem dksX1_plant_6 : cX1_plant.data.toList.drop 140 = dktX1_plant_6 := dk_seg dksX1_plant_5 24 rfl rfl
theorem dX1_plant_0 : decode cX1_plant 0 = .ok (.aload_n 0, 1) := dk_42 (dk_at dksX1_plant_0 0 rfl rfl)
theorem dX1_plant_1 : decode cX1_plant 1 = .ok (.iload_n 1, 1) := dk_27 (dk_at dksX1_plant_0 1 rfl rfl)
theorem dX1_plant_2 : decode cX1_plant 2 = .ok (.invokevirtual 201, 3) := dk_182 0 201 (dk_at dksX1_plant_0 2 rfl rfl)
theorem dX1_plant_5 : decode cX1_plant 5 = .ok (.ifCond .eq 17, 3) := dk_153 0 17 (dk_at dksX1_plant_0 5 rfl rfl)
theorem dX1_plant_8 : decode cX1_plant 8 = .ok (.iload_n 2, 1) := dk_28 (dk_at dksX1_plant_0 8 rfl rfl)
theorem dX1_plant_9 : decode cX1_plant 9 = .ok (.iconst 0, 1) := dk_3 (dk_at dksX1_plant_0 9 rfl rfl)
theorem dX1_plant_10 : decode cX1_plant 10 = .ok (.bipush 7, 2) := dk_16 7 (dk_at dksX1_plant_0 10 rfl rfl)
theorem dX1_plant_12 : decode cX1_plant 12 = .ok (.invokestatic 185, 3) := dk_184 0 185 (dk_at dksX1_plant_0 12 rfl rfl)
theorem dX1_plant_15 : decode cX1_plant 15 = .ok (.ifCond .eq 7, 3) := dk_153 0 7 (dk_at dksX1_plant_0 15 rfl rfl)
theorem dX1_plant_18 : decode cX1_plant 18 = .ok (.iconst 1, 1) := dk_4 (dk_at dksX1_plant_0 18 rfl rfl)
theorem dX1_plant_19 : decode cX1_plant 19 = .ok (.goto 4, 3) := dk_167 0 4 (dk_at dksX1_plant_0 19 rfl rfl)
theorem dX1_plant_22 : decode cX1_plant 22 = .ok (.iconst 0, 1) := dk_3 (dk_at dksX1_plant_0 22 rfl rfl)
theorem dX1_plant_23 : decode cX1_plant 23 = .ok (.invokestatic 205, 3) := dk_184 0 205 (dk_at dksX1_plant_1 0 rfl rfl)
theorem dX1_plant_26 : decode cX1_plant 26 = .ok (.iload_n 2, 1) := dk_28 (dk_at dksX1_plant_1 3 rfl rfl)
theorem dX1_plant_27 : decode cX1_plant 27 = .ok (.tableswitch 123 0 6 #[41, 51, 61, 81, 91, 104, 114], 41) := by decide +kernel
theorem dX1_plant_68 : decode cX1_plant 68 = .ok (.aload_n 0, 1) := dk_42 (dk_at dksX1_plant_3 0 rfl rfl)
theorem dX1_plant_69 : decode cX1_plant 69 = .ok (.getfield 83, 3) := dk_180 0 83 (dk_at dksX1_plant_3 1 rfl rfl)
theorem dX1_plant_72 : decode cX1_plant 72 = .ok (.getfield 209, 3) := dk_180 0 209 (dk_at dksX1_plant_3 4 rfl rfl)
theorem dX1_plant_75 : decode cX1_plant 75 = .ok (.iload_n 1, 1) := dk_27 (dk_at dksX1_plant_3 7 rfl rfl)
theorem dX1_plant_76 : decode cX1_plant 76 = .ok (.iaload, 1) := dk_46 (dk_at dksX1_plant_3 8 rfl rfl)
theorem dX1_plant_77 : decode cX1_plant 77 = .ok (.ireturn, 1) := dk_172 (dk_at dksX1_plant_3 9 rfl rfl)
theorem dX1_plant_78 : decode cX1_plant 78 = .ok (.aload_n 0, 1) := dk_42 (dk_at dksX1_plant_3 10 rfl rfl)
theorem dX1_plant_79 : decode cX1_plant 79 = .ok (.getfield 76, 3) := dk_180 0 76 (dk_at dksX1_plant_3 11 rfl rfl)
theorem dX1_plant_82 : decode cX1_plant 82 = .ok (.getfield 211, 3) := dk_180 0 211 (dk_at dksX1_plant_3 14 rfl rfl)
theorem dX1_plant_85 : decode cX1_plant 85 = .ok (.iload_n 1, 1) := dk_27 (dk_at dksX1_plant_3 17 rfl rfl)
theorem dX1_plant_86 : decode cX1_plant 86 = .ok (.iaload, 1) := dk_46 (dk_at dksX1_plant_3 18 rfl rfl)
theorem dX1_plant_87 : decode cX1_plant 87 = .ok (.ireturn, 1) := dk_172 (dk_at dksX1_plant_3 19 rfl rfl)
theorem dX1_plant_88 : decode cX1_plant 88 = .ok (.aload_n 0, 1) := dk_42 (dk_at dksX1_plant_3 20 rfl rfl)
theorem dX1_plant_89 : decode cX1_plant 89 = .ok (.getfield 76, 3) := dk_180 0 76 (dk_at dksX1_plant_3 21 rfl rfl)
theorem dX1_plant_92 : decode cX1_plant 92 = .ok (.getfield 214, 3) := dk_180 0 214 (dk_at dksX1_plant_4 0 rfl rfl)
theorem dX1_plant_95 : decode cX1_plant 95 = .ok (.iload_n 1, 1) := dk_27 (dk_at dksX1_plant_4 3 rfl rfl)
theorem dX1_plant_96 : decode cX1_plant 96 = .ok (.invokestatic 217, 3) := dk_184 0 217 (dk_at dksX1_plant_4 4 rfl rfl)
theorem dX1_plant_99 : decode cX1_plant 99 = .ok (.ifCond .eq 7, 3) := dk_153 0 7 (dk_at dksX1_plant_4 7 rfl rfl)
theorem dX1_plant_102 : decode cX1_plant 102 = .ok (.iconst 1, 1) := dk_4 (dk_at dksX1_plant_4 10 rfl rfl)
theorem dX1_plant_103 : decode cX1_plant 103 = .ok (.goto 4, 3) := dk_167 0 4 (dk_at dksX1_plant_4 11 rfl rfl)
theorem dX1_plant_106 : decode cX1_plant 106 = .ok (.iconst 0, 1) := dk_3 (dk_at dksX1_plant_4 14 rfl rfl)
theorem dX1_plant_107 : decode cX1_plant 107 = .ok (.ireturn, 1) := dk_172 (dk_at dksX1_plant_4 15 rfl rfl)
theorem dX1_plant_108 : decode cX1_plant 108 = .ok (.aload_n 0, 1) := dk_42 (dk_at dksX1_plant_4 16 rfl rfl)
theorem dX1_plant_109 : decode cX1_plant 109 = .ok (.getfield 83, 3) := dk_180 0 83 (dk_at dksX1_plant_4 17 rfl rfl)
theorem dX1_plant_112 : decode cX1_plant 112 = .ok (.getfield 221, 3) := dk_180 0 221 (dk_at dksX1_plant_4 20 rfl rfl)
theorem dX1_plant_115 : decode cX1_plant 115 = .ok (.iload_n 1, 1) := dk_27 (dk_at dksX1_plant_4 23 rfl rfl)
theorem dX1_plant_116 : decode cX1_plant 116 = .ok (.iaload, 1) := dk_46 (dk_at dksX1_plant_5 0 rfl rfl)
theorem dX1_plant_117 : decode cX1_plant 117 = .ok (.ireturn, 1) := dk_172 (dk_at dksX1_plant_5 1 rfl rfl)
theorem dX1_plant_118 : decode cX1_plant 118 = .ok (.aload_n 0, 1) := dk_42 (dk_at dksX1_plant_5 2 rfl rfl)
theorem dX1_plant_119 : decode cX1_plant 119 = .ok (.getfield 83, 3) := dk_180 0 83 (dk_at dksX1_plant_5 3 rfl rfl)
theorem dX1_plant_122 : decode cX1_plant 122 = .ok (.aload_n 0, 1) := dk_42 (dk_at dksX1_plant_5 6 rfl rfl)
theorem dX1_plant_123 : decode cX1_plant 123 = .ok (.getfield 76, 3) := dk_180 0 76 (dk_at dksX1_plant_5 7 rfl rfl)
theorem dX1_plant_126 : decode cX1_plant 126 = .ok (.iload_n 1, 1) := dk_27 (dk_at dksX1_plant_5 10 rfl rfl)
theorem dX1_plant_127 : decode cX1_plant 127 = .ok (.invokevirtual 223, 3) := dk_182 0 223 (dk_at dksX1_plant_5 11 rfl rfl)
theorem dX1_plant_130 : decode cX1_plant 130 = .ok (.ireturn, 1) := dk_172 (dk_at dksX1_plant_5 14 rfl rfl)
theorem dX1_plant_131 : decode cX1_plant 131 = .ok (.aload_n 0, 1) := dk_42 (dk_at dksX1_plant_5 15 rfl rfl)
theorem dX1_plant_132 : decode cX1_plant 132 = .ok (.getfield 83, 3) := dk_180 0 83 (dk_at dksX1_plant_5 16 rfl rfl)
theorem dX1_plant_135 : decode cX1_plant 135 = .ok (.iload_n 1, 1) := dk_27 (dk_at dksX1_plant_5 19 rfl rfl)
theorem dX1_plant_136 : decode cX1_plant 136 = .ok (.iconst 1, 1) := dk_4 (dk_at dksX1_plant_5 20 rfl rfl)
theorem dX1_plant_137 : decode cX1_plant 137 = .ok (.invokevirtual 226, 3) := dk_182 0 226 (dk_at dksX1_plant_5 21 rfl rfl)
theorem dX1_plant_140 : decode cX1_plant 140 = .ok (.ireturn, 1) := dk_172 (dk_at dksX1_plant_6 0 rfl rfl)
theorem dX1_plant_141 : decode cX1_plant 141 = .ok (.aload_n 0, 1) := dk_42 (dk_at dksX1_plant_6 1 rfl rfl)
theorem dX1_plant_142 : decode cX1_plant 142 = .ok (.getfield 83, 3) := dk_180 0 83 (dk_at dksX1_plant_6 2 rfl rfl)
theorem dX1_plant_145 : decode cX1_plant 145 = .ok (.iload_n 1, 1) := dk_27 (dk_at dksX1_plant_6 5 rfl rfl)
theorem dX1_plant_146 : decode cX1_plant 146 = .ok (.invokevirtual 229, 3) := dk_182 0 229 (dk_at dksX1_plant_6 6 rfl rfl)
theorem dX1_plant_149 : decode cX1_plant 149 = .ok (.ireturn, 1) := dk_172 (dk_at dksX1_plant_6 9 rfl rfl)
theorem dX1_plant_150 : decode cX1_plant 150 = .ok (.aload_n 0, 1) := dk_42 (dk_at dksX1_plant_6 10 rfl rfl)
theorem dX1_plant_151 : decode cX1_plant 151 = .ok (.getfield 83, 3) := dk_180 0 83 (dk_at dksX1_plant_6 11 rfl rfl)
theorem dX1_plant_154 : decode cX1_plant 154 = .ok (.iload_n 1, 1) := dk_27 (dk_at dksX1_plant_6 14 rfl rfl)
theorem dX1_plant_155 : decode cX1_plant 155 = .ok (.iconst 0, 1) := dk_3 (dk_at dksX1_plant_6 15 rfl rfl)
theorem dX1_plant_156 : decode cX1_plant 156 = .ok (.invokevirtual 226, 3) := dk_182 0 226 (dk_at dksX1_plant_6 16 rfl rfl)
theorem dX1_plant_159 : decode cX1_plant 159 = .ok (.ireturn, 1) := dk_172 (dk_at dksX1_plant_6 19 rfl rfl)
abbrev cX1_must : ByteArray := prog_1_method_8_code
def yX1_must : MethodName := ⟨RX1, "must", "(Z)V"⟩
def dkwX1_must_0 : List UInt8 := [26, 154, 0, 11, 187, 0, 156, 89, 183, 0, 158, 191, 177]
abbrev dktX1_must_0 : List UInt8 := dkwX1_must_0 ++ []
theorem dksX1_must_0 : cX1_must.data.toList.drop 0 = dktX1_must_0 := by decide +kernel
theorem dX1_must_0 : decode cX1_must 0 = .ok (.iload_n 0, 1) := dk_26 (dk_at dksX1_must_0 0 rfl rfl)
theorem dX1_must_1 : decode cX1_must 1 = .ok (.ifCond .ne 11, 3) := dk_154 0 11 (dk_at dksX1_must_0 1 rfl rfl)
theorem dX1_must_4 : decode cX1_must 4 = .ok (.new 156, 3) := dk_187 0 156 (dk_at dksX1_must_0 4 rfl rfl)
theorem dX1_must_7 : decode cX1_must 7 = .ok (.dup, 1) := dk_89 (dk_at dksX1_must_0 7 rfl rfl)
theorem dX1_must_8 : decode cX1_must 8 = .ok (.invokespecial 158, 3) := dk_183 0 158 (dk_at dksX1_must_0 8 rfl rfl)
theorem dX1_must_11 : decode cX1_must 11 = .ok (.athrow, 1) := dk_191 (dk_at dksX1_must_0 11 rfl rfl)
theorem dX1_must_12 : decode cX1_must 12 = .ok (.return_, 1) := dk_177 (dk_at dksX1_must_0 12 rfl rfl)
abbrev cX1_act : ByteArray := prog_1_method_18_code
def yX1_act : MethodName := ⟨RX1, "act", "(II)I"⟩
def dkwX1_act_6 : List UInt8 := [42, 180, 0, 76, 27, 182, 0, 252, 153, 0, 7, 4, 167, 0, 4, 3, 172]
abbrev dktX1_act_6 : List UInt8 := dkwX1_act_6 ++ []
def dkwX1_act_5 : List UInt8 := [27, 4, 182, 0, 248, 172, 42, 180, 0, 83, 42, 180, 0, 76, 27, 3, 182, 0, 248, 172, 42, 180, 0, 83]
abbrev dktX1_act_5 : List UInt8 := dkwX1_act_5 ++ dktX1_act_6
def dkwX1_act_4 : List UInt8 := [180, 0, 242, 27, 46, 172, 42, 180, 0, 83, 180, 0, 245, 27, 46, 172, 42, 180, 0, 83, 42, 180, 0, 76]
abbrev dktX1_act_4 : List UInt8 := dkwX1_act_4 ++ dktX1_act_5
def dkwX1_act_3 : List UInt8 := [42, 180, 0, 83, 180, 0, 236, 27, 46, 172, 42, 180, 0, 83, 180, 0, 239, 27, 46, 172, 42, 180, 0, 83]
abbrev dktX1_act_3 : List UInt8 := dkwX1_act_3 ++ dktX1_act_4
def dkwX1_act_2 : List UInt8 := [170, 0, 0, 0, 105, 0, 0, 0, 0, 0, 0, 0, 5, 0, 0, 0, 37, 0, 0, 0, 47, 0, 0, 0, 57, 0, 0, 0, 67, 0, 0, 0, 77, 0, 0, 0, 91]
abbrev dktX1_act_2 : List UInt8 := dkwX1_act_2 ++ dktX1_act_3
def dkwX1_act_1 : List UInt8 := [184, 0, 205, 28]
abbrev dktX1_act_1 : List UInt8 := dkwX1_act_1 ++ dktX1_act_2
def dkwX1_act_0 : List UInt8 := [42, 27, 182, 0, 233, 153, 0, 17, 28, 3, 16, 6, 184, 0, 185, 153, 0, 7, 4, 167, 0, 4, 3]
abbrev dktX1_act_0 : List UInt8 := dkwX1_act_0 ++ dktX1_act_1
theorem dksX1_act_0 : cX1_act.data.toList.drop 0 = dktX1_act_0 := by decide +kernel
theorem dksX1_act_1 : cX1_act.data.toList.drop 23 = dktX1_act_1 := dk_seg dksX1_act_0 23 rfl rfl
theorem dksX1_act_2 : cX1_act.data.toList.drop 27 = dktX1_act_2 := dk_seg dksX1_act_1 4 rfl rfl
theorem dksX1_act_3 : cX1_act.data.toList.drop 64 = dktX1_act_3 := dk_seg dksX1_act_2 37 rfl rfl
theorem dksX1_act_4 : cX1_act.data.toList.drop 88 = dktX1_act_4 := dk_seg dksX1_act_3 24 rfl rfl
theorem dksX1_act_5 : cX1_act.data.toList.drop 112 = dktX1_act_5 := dk_seg dksX1_act_4 24 rfl rfl
theorem dksX1_act_6 : cX1_act.data.toList.drop 136 = dktX1_act_6 := dk_seg dksX1_act_5 24 rfl rfl
theorem dX1_act_0 : decode cX1_act 0 = .ok (.aload_n 0, 1) := dk_42 (dk_at dksX1_act_0 0 rfl rfl)
theorem dX1_act_1 : decode cX1_act 1 = .ok (.iload_n 1, 1) := dk_27 (dk_at dksX1_act_0 1 rfl rfl)
theorem dX1_act_2 : decode cX1_act 2 = .ok (.invokevirtual 233, 3) := dk_182 0 233 (dk_at dksX1_act_0 2 rfl rfl)
theorem dX1_act_5 : decode cX1_act 5 = .ok (.ifCond .eq 17, 3) := dk_153 0 17 (dk_at dksX1_act_0 5 rfl rfl)
theorem dX1_act_8 : decode cX1_act 8 = .ok (.iload_n 2, 1) := dk_28 (dk_at dksX1_act_0 8 rfl rfl)
theorem dX1_act_9 : decode cX1_act 9 = .ok (.iconst 0, 1) := dk_3 (dk_at dksX1_act_0 9 rfl rfl)
theorem dX1_act_10 : decode cX1_act 10 = .ok (.bipush 6, 2) := dk_16 6 (dk_at dksX1_act_0 10 rfl rfl)
theorem dX1_act_12 : decode cX1_act 12 = .ok (.invokestatic 185, 3) := dk_184 0 185 (dk_at dksX1_act_0 12 rfl rfl)
theorem dX1_act_15 : decode cX1_act 15 = .ok (.ifCond .eq 7, 3) := dk_153 0 7 (dk_at dksX1_act_0 15 rfl rfl)
theorem dX1_act_18 : decode cX1_act 18 = .ok (.iconst 1, 1) := dk_4 (dk_at dksX1_act_0 18 rfl rfl)
theorem dX1_act_19 : decode cX1_act 19 = .ok (.goto 4, 3) := dk_167 0 4 (dk_at dksX1_act_0 19 rfl rfl)
theorem dX1_act_22 : decode cX1_act 22 = .ok (.iconst 0, 1) := dk_3 (dk_at dksX1_act_0 22 rfl rfl)
theorem dX1_act_23 : decode cX1_act 23 = .ok (.invokestatic 205, 3) := dk_184 0 205 (dk_at dksX1_act_1 0 rfl rfl)
theorem dX1_act_26 : decode cX1_act 26 = .ok (.iload_n 2, 1) := dk_28 (dk_at dksX1_act_1 3 rfl rfl)
theorem dX1_act_27 : decode cX1_act 27 = .ok (.tableswitch 105 0 5 #[37, 47, 57, 67, 77, 91], 37) := by decide +kernel
theorem dX1_act_64 : decode cX1_act 64 = .ok (.aload_n 0, 1) := dk_42 (dk_at dksX1_act_3 0 rfl rfl)
theorem dX1_act_65 : decode cX1_act 65 = .ok (.getfield 83, 3) := dk_180 0 83 (dk_at dksX1_act_3 1 rfl rfl)
theorem dX1_act_68 : decode cX1_act 68 = .ok (.getfield 236, 3) := dk_180 0 236 (dk_at dksX1_act_3 4 rfl rfl)
theorem dX1_act_71 : decode cX1_act 71 = .ok (.iload_n 1, 1) := dk_27 (dk_at dksX1_act_3 7 rfl rfl)
theorem dX1_act_72 : decode cX1_act 72 = .ok (.iaload, 1) := dk_46 (dk_at dksX1_act_3 8 rfl rfl)
theorem dX1_act_73 : decode cX1_act 73 = .ok (.ireturn, 1) := dk_172 (dk_at dksX1_act_3 9 rfl rfl)
theorem dX1_act_74 : decode cX1_act 74 = .ok (.aload_n 0, 1) := dk_42 (dk_at dksX1_act_3 10 rfl rfl)
theorem dX1_act_75 : decode cX1_act 75 = .ok (.getfield 83, 3) := dk_180 0 83 (dk_at dksX1_act_3 11 rfl rfl)
theorem dX1_act_78 : decode cX1_act 78 = .ok (.getfield 239, 3) := dk_180 0 239 (dk_at dksX1_act_3 14 rfl rfl)
theorem dX1_act_81 : decode cX1_act 81 = .ok (.iload_n 1, 1) := dk_27 (dk_at dksX1_act_3 17 rfl rfl)
theorem dX1_act_82 : decode cX1_act 82 = .ok (.iaload, 1) := dk_46 (dk_at dksX1_act_3 18 rfl rfl)
theorem dX1_act_83 : decode cX1_act 83 = .ok (.ireturn, 1) := dk_172 (dk_at dksX1_act_3 19 rfl rfl)
theorem dX1_act_84 : decode cX1_act 84 = .ok (.aload_n 0, 1) := dk_42 (dk_at dksX1_act_3 20 rfl rfl)
theorem dX1_act_85 : decode cX1_act 85 = .ok (.getfield 83, 3) := dk_180 0 83 (dk_at dksX1_act_3 21 rfl rfl)
theorem dX1_act_88 : decode cX1_act 88 = .ok (.getfield 242, 3) := dk_180 0 242 (dk_at dksX1_act_4 0 rfl rfl)
theorem dX1_act_91 : decode cX1_act 91 = .ok (.iload_n 1, 1) := dk_27 (dk_at dksX1_act_4 3 rfl rfl)
theorem dX1_act_92 : decode cX1_act 92 = .ok (.iaload, 1) := dk_46 (dk_at dksX1_act_4 4 rfl rfl)
theorem dX1_act_93 : decode cX1_act 93 = .ok (.ireturn, 1) := dk_172 (dk_at dksX1_act_4 5 rfl rfl)
theorem dX1_act_94 : decode cX1_act 94 = .ok (.aload_n 0, 1) := dk_42 (dk_at dksX1_act_4 6 rfl rfl)
theorem dX1_act_95 : decode cX1_act 95 = .ok (.getfield 83, 3) := dk_180 0 83 (dk_at dksX1_act_4 7 rfl rfl)
theorem dX1_act_98 : decode cX1_act 98 = .ok (.getfield 245, 3) := dk_180 0 245 (dk_at dksX1_act_4 10 rfl rfl)
theorem dX1_act_101 : decode cX1_act 101 = .ok (.iload_n 1, 1) := dk_27 (dk_at dksX1_act_4 13 rfl rfl)
theorem dX1_act_102 : decode cX1_act 102 = .ok (.iaload, 1) := dk_46 (dk_at dksX1_act_4 14 rfl rfl)
theorem dX1_act_103 : decode cX1_act 103 = .ok (.ireturn, 1) := dk_172 (dk_at dksX1_act_4 15 rfl rfl)
theorem dX1_act_104 : decode cX1_act 104 = .ok (.aload_n 0, 1) := dk_42 (dk_at dksX1_act_4 16 rfl rfl)
theorem dX1_act_105 : decode cX1_act 105 = .ok (.getfield 83, 3) := dk_180 0 83 (dk_at dksX1_act_4 17 rfl rfl)
theorem dX1_act_108 : decode cX1_act 108 = .ok (.aload_n 0, 1) := dk_42 (dk_at dksX1_act_4 20 rfl rfl)
theorem dX1_act_109 : decode cX1_act 109 = .ok (.getfield 76, 3) := dk_180 0 76 (dk_at dksX1_act_4 21 rfl rfl)
theorem dX1_act_112 : decode cX1_act 112 = .ok (.iload_n 1, 1) := dk_27 (dk_at dksX1_act_5 0 rfl rfl)
theorem dX1_act_113 : decode cX1_act 113 = .ok (.iconst 1, 1) := dk_4 (dk_at dksX1_act_5 1 rfl rfl)
theorem dX1_act_114 : decode cX1_act 114 = .ok (.invokevirtual 248, 3) := dk_182 0 248 (dk_at dksX1_act_5 2 rfl rfl)
theorem dX1_act_117 : decode cX1_act 117 = .ok (.ireturn, 1) := dk_172 (dk_at dksX1_act_5 5 rfl rfl)
theorem dX1_act_118 : decode cX1_act 118 = .ok (.aload_n 0, 1) := dk_42 (dk_at dksX1_act_5 6 rfl rfl)
theorem dX1_act_119 : decode cX1_act 119 = .ok (.getfield 83, 3) := dk_180 0 83 (dk_at dksX1_act_5 7 rfl rfl)
theorem dX1_act_122 : decode cX1_act 122 = .ok (.aload_n 0, 1) := dk_42 (dk_at dksX1_act_5 10 rfl rfl)
theorem dX1_act_123 : decode cX1_act 123 = .ok (.getfield 76, 3) := dk_180 0 76 (dk_at dksX1_act_5 11 rfl rfl)
theorem dX1_act_126 : decode cX1_act 126 = .ok (.iload_n 1, 1) := dk_27 (dk_at dksX1_act_5 14 rfl rfl)
theorem dX1_act_127 : decode cX1_act 127 = .ok (.iconst 0, 1) := dk_3 (dk_at dksX1_act_5 15 rfl rfl)
theorem dX1_act_128 : decode cX1_act 128 = .ok (.invokevirtual 248, 3) := dk_182 0 248 (dk_at dksX1_act_5 16 rfl rfl)
theorem dX1_act_131 : decode cX1_act 131 = .ok (.ireturn, 1) := dk_172 (dk_at dksX1_act_5 19 rfl rfl)
theorem dX1_act_132 : decode cX1_act 132 = .ok (.aload_n 0, 1) := dk_42 (dk_at dksX1_act_5 20 rfl rfl)
theorem dX1_act_133 : decode cX1_act 133 = .ok (.getfield 83, 3) := dk_180 0 83 (dk_at dksX1_act_5 21 rfl rfl)
theorem dX1_act_136 : decode cX1_act 136 = .ok (.aload_n 0, 1) := dk_42 (dk_at dksX1_act_6 0 rfl rfl)
theorem dX1_act_137 : decode cX1_act 137 = .ok (.getfield 76, 3) := dk_180 0 76 (dk_at dksX1_act_6 1 rfl rfl)
theorem dX1_act_140 : decode cX1_act 140 = .ok (.iload_n 1, 1) := dk_27 (dk_at dksX1_act_6 4 rfl rfl)
theorem dX1_act_141 : decode cX1_act 141 = .ok (.invokevirtual 252, 3) := dk_182 0 252 (dk_at dksX1_act_6 5 rfl rfl)
theorem dX1_act_144 : decode cX1_act 144 = .ok (.ifCond .eq 7, 3) := dk_153 0 7 (dk_at dksX1_act_6 8 rfl rfl)
theorem dX1_act_147 : decode cX1_act 147 = .ok (.iconst 1, 1) := dk_4 (dk_at dksX1_act_6 11 rfl rfl)
theorem dX1_act_148 : decode cX1_act 148 = .ok (.goto 4, 3) := dk_167 0 4 (dk_at dksX1_act_6 12 rfl rfl)
theorem dX1_act_151 : decode cX1_act 151 = .ok (.iconst 0, 1) := dk_3 (dk_at dksX1_act_6 15 rfl rfl)
theorem dX1_act_152 : decode cX1_act 152 = .ok (.ireturn, 1) := dk_172 (dk_at dksX1_act_6 16 rfl rfl)
theorem q109 : (Jvm.Cond.initialized "ParlourLeaves") ∈ lw_all := lw_g (lw_at lw_m1 1 rfl) rfl
theorem q143 : (Jvm.Cond.instantiable "ParlourLeaves" (33 : Nat)) ∈ lw_all := lw_g (lw_at lw_m1 35 rfl) rfl
theorem q145 : (Jvm.Cond.instanceMethod ({ cls := "ParlourLeaves", name := "<init>", desc := "()V" } : Jvm.MethodName)) ∈ lw_all := lw_g (lw_at lw_m1 37 rfl) rfl
theorem q146 : (Jvm.Cond.code ({ cls := "ParlourLeaves", name := "<init>", desc := "()V" } : Jvm.MethodName) prog_1_method_1_code (1 : Nat) (Option.none : Option Jvm.ClassFile.FieldType)) ∈ lw_all := lw_g (lw_at lw_m1 38 rfl) rfl
theorem q147 : (Jvm.Cond.methodLink "ParlourLeaves" (1 : Nat) ({ cls := "java/lang/Object", name := "<init>", desc := "()V" } : Jvm.MethodName)) ∈ lw_all := lw_g (lw_at lw_m1 39 rfl) rfl
theorem q150 : (Jvm.Cond.classLink "ParlourLeaves" (13 : Nat) "ParlourLeaves$Fault") ∈ lw_all := lw_g (lw_at lw_m1 42 rfl) rfl
theorem q188 : (Jvm.Cond.methodLink "ParlourLeaves" (15 : Nat) ({ cls := "ParlourLeaves$Fault", name := "<init>", desc := "()V" } : Jvm.MethodName)) ∈ lw_all := lw_g (lw_at lw_m1 80 rfl) rfl
theorem q197 : (Jvm.Cond.fieldLink "ParlourLeaves" (176 : Nat) "ParlourLeaves$Fault" "kind" "I") ∈ lw_all := lw_g (lw_at lw_m1 89 rfl) rfl
theorem q199 : (Jvm.Cond.fieldLink "ParlourLeaves" (179 : Nat) "ParlourLeaves$Fault" "place" "I") ∈ lw_all := lw_g (lw_at lw_m1 91 rfl) rfl
theorem q219 : (Jvm.Cond.classLink "ParlourLeaves" (20 : Nat) "java/lang/String") ∈ lw_all := lw_g (lw_at lw_m1 111 rfl) rfl
theorem q221 : (Jvm.Cond.stringRef "ParlourLeaves" (22 : Nat) "parlour") ∈ lw_tbl := lw_at lw_m1 113 rfl
theorem q222 : (Jvm.Cond.stringRef "ParlourLeaves" (24 : Nat) "sight") ∈ lw_tbl := lw_at lw_m1 114 rfl
theorem q223 : (Jvm.Cond.stringRef "ParlourLeaves" (26 : Nat) "plant") ∈ lw_tbl := lw_at lw_m1 115 rfl
theorem q224 : (Jvm.Cond.stringRef "ParlourLeaves" (28 : Nat) "person") ∈ lw_tbl := lw_at lw_m1 116 rfl
theorem q225 : (Jvm.Cond.stringRef "ParlourLeaves" (30 : Nat) "deed") ∈ lw_tbl := lw_at lw_m1 117 rfl
theorem q226 : (Jvm.Cond.stringRef "ParlourLeaves" (32 : Nat) "dusty") ∈ lw_tbl := lw_at lw_m1 118 rfl
theorem q227 : (Jvm.Cond.stringRef "ParlourLeaves" (34 : Nat) "proof") ∈ lw_tbl := lw_at lw_m1 119 rfl
theorem q228 : (Jvm.Cond.stringRef "ParlourLeaves" (40 : Nat) "fern") ∈ lw_tbl := lw_at lw_m1 120 rfl
theorem q229 : (Jvm.Cond.stringRef "ParlourLeaves" (42 : Nat) "does") ∈ lw_tbl := lw_at lw_m1 121 rfl
theorem q230 : (Jvm.Cond.stringRef "ParlourLeaves" (44 : Nat) "sponge") ∈ lw_tbl := lw_at lw_m1 122 rfl
theorem q231 : (Jvm.Cond.stringRef "ParlourLeaves" (46 : Nat) "carry") ∈ lw_tbl := lw_at lw_m1 123 rfl
theorem q232 : (Jvm.Cond.stringRef "ParlourLeaves" (48 : Nat) "day") ∈ lw_tbl := lw_at lw_m1 124 rfl
theorem q233 : (Jvm.Cond.stringRef "ParlourLeaves" (50 : Nat) "or") ∈ lw_tbl := lw_at lw_m1 125 rfl
theorem q234 : (Jvm.Cond.stringRef "ParlourLeaves" (52 : Nat) "and") ∈ lw_tbl := lw_at lw_m1 126 rfl
theorem q235 : (Jvm.Cond.stringRef "ParlourLeaves" (54 : Nat) "not") ∈ lw_tbl := lw_at lw_m1 127 rfl
theorem q236 : (Jvm.Cond.stringRef "ParlourLeaves" (56 : Nat) "blind") ∈ lw_tbl := lw_at lw_m1 128 rfl
theorem q237 : (Jvm.Cond.stringRef "ParlourLeaves" (58 : Nat) "in") ∈ lw_tbl := lw_at lw_m1 129 rfl
theorem q238 : (Jvm.Cond.stringRef "ParlourLeaves" (60 : Nat) "sees") ∈ lw_tbl := lw_at lw_m1 130 rfl
theorem q239 : (Jvm.Cond.stringRef "ParlourLeaves" (62 : Nat) "tells") ∈ lw_tbl := lw_at lw_m1 131 rfl
theorem q240 : (Jvm.Cond.stringRef "ParlourLeaves" (64 : Nat) "leaves") ∈ lw_tbl := lw_at lw_m1 132 rfl
theorem q241 : (Jvm.Cond.stringRef "ParlourLeaves" (66 : Nat) "dust") ∈ lw_tbl := lw_at lw_m1 133 rfl
theorem q242 : (Jvm.Cond.stringRef "ParlourLeaves" (68 : Nat) "number") ∈ lw_tbl := lw_at lw_m1 134 rfl
theorem q243 : (Jvm.Cond.classLink "ParlourLeaves" (73 : Nat) "ParlourLeaves$House") ∈ lw_all := lw_g (lw_at lw_m1 135 rfl) rfl
theorem q245 : (Jvm.Cond.methodLinkNest "ParlourLeaves" (75 : Nat) ({ cls := "ParlourLeaves$House", name := "<init>", desc := "()V" } : Jvm.MethodName) "ParlourLeaves") ∈ lw_tbl := lw_at lw_m1 137 rfl
theorem q256 : (Jvm.Cond.fieldLinkNest "ParlourLeaves" (396 : Nat) "ParlourLeaves$House" "plantNames" "[J" "ParlourLeaves") ∈ lw_tbl := lw_at lw_m1 148 rfl
theorem q266 : (Jvm.Cond.fieldLinkNest "ParlourLeaves" (263 : Nat) "ParlourLeaves$House" "sights" "[I" "ParlourLeaves") ∈ lw_tbl := lw_at lw_m1 158 rfl
theorem q273 : (Jvm.Cond.fieldLinkNest "ParlourLeaves" (211 : Nat) "ParlourLeaves$House" "slow" "[I" "ParlourLeaves") ∈ lw_tbl := lw_at lw_m1 165 rfl
theorem q278 : (Jvm.Cond.fieldLinkNest "ParlourLeaves" (182 : Nat) "ParlourLeaves$House" "parlours" "I" "ParlourLeaves") ∈ lw_tbl := lw_at lw_m1 170 rfl
theorem q283 : (Jvm.Cond.fieldLinkNest "ParlourLeaves" (189 : Nat) "ParlourLeaves$House" "plants" "I" "ParlourLeaves") ∈ lw_tbl := lw_at lw_m1 175 rfl
theorem q287 : (Jvm.Cond.fieldLinkNest "ParlourLeaves" (192 : Nat) "ParlourLeaves$House" "persons" "I" "ParlourLeaves") ∈ lw_tbl := lw_at lw_m1 179 rfl
theorem q291 : (Jvm.Cond.fieldLinkNest "ParlourLeaves" (195 : Nat) "ParlourLeaves$House" "deeds" "I" "ParlourLeaves") ∈ lw_tbl := lw_at lw_m1 183 rfl
theorem q296 : (Jvm.Cond.fieldLinkNest "ParlourLeaves" (214 : Nat) "ParlourLeaves$House" "ferns" "I" "ParlourLeaves") ∈ lw_tbl := lw_at lw_m1 188 rfl
theorem q300 : (Jvm.Cond.fieldLinkNest "ParlourLeaves" (317 : Nat) "ParlourLeaves$House" "dusty" "I" "ParlourLeaves") ∈ lw_tbl := lw_at lw_m1 192 rfl
theorem q304 : (Jvm.Cond.fieldLinkNest "ParlourLeaves" (309 : Nat) "ParlourLeaves$House" "proof" "I" "ParlourLeaves") ∈ lw_tbl := lw_at lw_m1 196 rfl
theorem q336 : (Jvm.Cond.classLink "ParlourLeaves" (80 : Nat) "ParlourLeaves$State") ∈ lw_all := lw_g (lw_at lw_m1 228 rfl) rfl
theorem q338 : (Jvm.Cond.methodLinkNest "ParlourLeaves" (82 : Nat) ({ cls := "ParlourLeaves$State", name := "<init>", desc := "()V" } : Jvm.MethodName) "ParlourLeaves") ∈ lw_tbl := lw_at lw_m1 230 rfl
theorem q345 : (Jvm.Cond.fieldLinkNest "ParlourLeaves" (209 : Nat) "ParlourLeaves$State" "place" "[I" "ParlourLeaves") ∈ lw_tbl := lw_at lw_m1 237 rfl
theorem q349 : (Jvm.Cond.fieldLinkNest "ParlourLeaves" (221 : Nat) "ParlourLeaves$State" "dust" "[I" "ParlourLeaves") ∈ lw_tbl := lw_at lw_m2 1 rfl
theorem q352 : (Jvm.Cond.fieldLinkNest "ParlourLeaves" (236 : Nat) "ParlourLeaves$State" "who" "[I" "ParlourLeaves") ∈ lw_tbl := lw_at lw_m2 4 rfl
theorem q354 : (Jvm.Cond.fieldLinkNest "ParlourLeaves" (239 : Nat) "ParlourLeaves$State" "what" "[I" "ParlourLeaves") ∈ lw_tbl := lw_at lw_m2 6 rfl
theorem q356 : (Jvm.Cond.fieldLinkNest "ParlourLeaves" (242 : Nat) "ParlourLeaves$State" "where" "[I" "ParlourLeaves") ∈ lw_tbl := lw_at lw_m2 8 rfl
theorem q358 : (Jvm.Cond.fieldLinkNest "ParlourLeaves" (245 : Nat) "ParlourLeaves$State" "when" "[I" "ParlourLeaves") ∈ lw_tbl := lw_at lw_m2 10 rfl
theorem q362 : (Jvm.Cond.fieldLinkNest "ParlourLeaves" (266 : Nat) "ParlourLeaves$State" "day" "I" "ParlourLeaves") ∈ lw_tbl := lw_at lw_m2 14 rfl
theorem q365 : (Jvm.Cond.fieldLinkNest "ParlourLeaves" (198 : Nat) "ParlourLeaves$State" "acts" "I" "ParlourLeaves") ∈ lw_tbl := lw_at lw_m2 17 rfl
theorem q388 : (Jvm.Cond.classLink "ParlourLeaves" (90 : Nat) "ParlourLeaves$HouseReader") ∈ lw_all := lw_g (lw_at lw_m2 40 rfl) rfl
theorem q390 : (Jvm.Cond.methodLink "ParlourLeaves" (92 : Nat) ({ cls := "ParlourLeaves$HouseReader", name := "<init>", desc := "(LParlourLeaves;)V" } : Jvm.MethodName)) ∈ lw_all := lw_g (lw_at lw_m2 42 rfl) rfl
theorem q441 : (Jvm.Cond.classLink "ParlourLeaves" (99 : Nat) "ParlourLeaves$BookReader") ∈ lw_all := lw_g (lw_at lw_m2 93 rfl) rfl
theorem q443 : (Jvm.Cond.methodLink "ParlourLeaves" (101 : Nat) ({ cls := "ParlourLeaves$BookReader", name := "<init>", desc := "(LParlourLeaves;)V" } : Jvm.MethodName)) ∈ lw_all := lw_g (lw_at lw_m2 95 rfl) rfl
theorem q450 : (Jvm.Cond.fieldLinkNest "ParlourLeaves" (428 : Nat) "ParlourLeaves$BookReader" "row" "[LParlourLeaves$Line;" "ParlourLeaves") ∈ lw_tbl := lw_at lw_m2 102 rfl
theorem q452 : (Jvm.Cond.fieldLinkNest "ParlourLeaves" (425 : Nat) "ParlourLeaves$BookReader" "n" "I" "ParlourLeaves") ∈ lw_tbl := lw_at lw_m2 104 rfl
theorem q469 : (Jvm.Cond.methodLink "ParlourLeaves" (106 : Nat) ({ cls := "ParlourLeaves$State", name := "begin", desc := "(LParlourLeaves$House;)V" } : Jvm.MethodName)) ∈ lw_all := lw_g (lw_at lw_m2 121 rfl) rfl
theorem q480 : (Jvm.Cond.classLink "ParlourLeaves" (114 : Nat) "[[I") ∈ lw_all := lw_g (lw_at lw_m2 132 rfl) rfl
theorem q482 : (Jvm.Cond.classLink "ParlourLeaves" (133 : Nat) "ParlourLeaves$SentenceReader") ∈ lw_all := lw_g (lw_at lw_m2 134 rfl) rfl
theorem q484 : (Jvm.Cond.methodLink "ParlourLeaves" (135 : Nat) ({ cls := "ParlourLeaves$SentenceReader", name := "<init>", desc := "(LParlourLeaves;)V" } : Jvm.MethodName)) ∈ lw_all := lw_g (lw_at lw_m2 136 rfl) rfl
theorem q500 : (Jvm.Cond.fieldLinkNest "ParlourLeaves" (448 : Nat) "ParlourLeaves$SentenceReader" "ones" "I" "ParlourLeaves") ∈ lw_tbl := lw_at lw_m2 152 rfl
theorem q519 : (Jvm.Cond.classLink "ParlourLeaves" (140 : Nat) "ParlourLeaves$Kept") ∈ lw_all := lw_g (lw_at lw_m2 171 rfl) rfl
theorem q521 : (Jvm.Cond.fieldLink "ParlourLeaves" (9 : Nat) "ParlourLeaves" "tape" "[B") ∈ lw_all := lw_g (lw_at lw_m2 173 rfl) rfl
theorem q523 : (Jvm.Cond.fieldLink "ParlourLeaves" (146 : Nat) "ParlourLeaves" "length" "I") ∈ lw_all := lw_g (lw_at lw_m2 175 rfl) rfl
theorem q525 : (Jvm.Cond.fieldLink "ParlourLeaves" (153 : Nat) "ParlourLeaves" "size" "I") ∈ lw_all := lw_g (lw_at lw_m2 177 rfl) rfl
theorem q526 : (Jvm.Cond.fieldLink "ParlourLeaves" (16 : Nat) "ParlourLeaves" "broken" "LParlourLeaves$Fault;") ∈ lw_all := lw_g (lw_at lw_m2 178 rfl) rfl
theorem q528 : (Jvm.Cond.fieldLink "ParlourLeaves" (36 : Nat) "ParlourLeaves" "lines" "[Ljava/lang/String;") ∈ lw_all := lw_g (lw_at lw_m2 180 rfl) rfl
theorem q531 : (Jvm.Cond.fieldLink "ParlourLeaves" (70 : Nat) "ParlourLeaves" "words" "[Ljava/lang/String;") ∈ lw_all := lw_g (lw_at lw_m2 183 rfl) rfl
theorem q533 : (Jvm.Cond.fieldLink "ParlourLeaves" (76 : Nat) "ParlourLeaves" "house" "LParlourLeaves$House;") ∈ lw_all := lw_g (lw_at lw_m2 185 rfl) rfl
theorem q537 : (Jvm.Cond.fieldLink "ParlourLeaves" (83 : Nat) "ParlourLeaves" "now" "LParlourLeaves$State;") ∈ lw_all := lw_g (lw_at lw_m2 189 rfl) rfl
theorem q540 : (Jvm.Cond.fieldLink "ParlourLeaves" (87 : Nat) "ParlourLeaves" "tried" "LParlourLeaves$State;") ∈ lw_all := lw_g (lw_at lw_m2 192 rfl) rfl
theorem q541 : (Jvm.Cond.fieldLink "ParlourLeaves" (95 : Nat) "ParlourLeaves" "houseReader" "LParlourLeaves$HouseReader;") ∈ lw_all := lw_g (lw_at lw_m2 193 rfl) rfl
theorem q542 : (Jvm.Cond.fieldLink "ParlourLeaves" (102 : Nat) "ParlourLeaves" "bookReader" "LParlourLeaves$BookReader;") ∈ lw_all := lw_g (lw_at lw_m2 194 rfl) rfl
theorem q543 : (Jvm.Cond.fieldLink "ParlourLeaves" (162 : Nat) "ParlourLeaves" "fault" "I") ∈ lw_all := lw_g (lw_at lw_m2 195 rfl) rfl
theorem q544 : (Jvm.Cond.fieldLink "ParlourLeaves" (110 : Nat) "ParlourLeaves" "ahead" "[LParlourLeaves$State;") ∈ lw_all := lw_g (lw_at lw_m2 196 rfl) rfl
theorem q545 : (Jvm.Cond.fieldLink "ParlourLeaves" (169 : Nat) "ParlourLeaves" "undoMany" "I") ∈ lw_all := lw_g (lw_at lw_m2 197 rfl) rfl
theorem q546 : (Jvm.Cond.fieldLink "ParlourLeaves" (339 : Nat) "ParlourLeaves" "askPlant" "I") ∈ lw_all := lw_g (lw_at lw_m2 198 rfl) rfl
theorem q547 : (Jvm.Cond.fieldLink "ParlourLeaves" (335 : Nat) "ParlourLeaves" "hasFits" "Z") ∈ lw_all := lw_g (lw_at lw_m2 199 rfl) rfl
theorem q548 : (Jvm.Cond.fieldLink "ParlourLeaves" (351 : Nat) "ParlourLeaves" "coverSet" "I") ∈ lw_all := lw_g (lw_at lw_m2 200 rfl) rfl
theorem q549 : (Jvm.Cond.fieldLink "ParlourLeaves" (348 : Nat) "ParlourLeaves" "hasCover" "Z") ∈ lw_all := lw_g (lw_at lw_m2 201 rfl) rfl
theorem q550 : (Jvm.Cond.fieldLink "ParlourLeaves" (116 : Nat) "ParlourLeaves" "left" "[[I") ∈ lw_all := lw_g (lw_at lw_m2 202 rfl) rfl
theorem q551 : (Jvm.Cond.fieldLink "ParlourLeaves" (119 : Nat) "ParlourLeaves" "roundRow" "[I") ∈ lw_all := lw_g (lw_at lw_m2 203 rfl) rfl
theorem q552 : (Jvm.Cond.fieldLink "ParlourLeaves" (123 : Nat) "ParlourLeaves" "roundMany" "I") ∈ lw_all := lw_g (lw_at lw_m2 204 rfl) rfl
theorem q553 : (Jvm.Cond.fieldLink "ParlourLeaves" (370 : Nat) "ParlourLeaves" "chosenPlant" "I") ∈ lw_all := lw_g (lw_at lw_m2 205 rfl) rfl
theorem q554 : (Jvm.Cond.fieldLink "ParlourLeaves" (373 : Nat) "ParlourLeaves" "chosenPlace" "I") ∈ lw_all := lw_g (lw_at lw_m2 206 rfl) rfl
theorem q555 : (Jvm.Cond.fieldLink "ParlourLeaves" (376 : Nat) "ParlourLeaves" "chosenParlour" "I") ∈ lw_all := lw_g (lw_at lw_m2 207 rfl) rfl
theorem q556 : (Jvm.Cond.fieldLink "ParlourLeaves" (364 : Nat) "ParlourLeaves" "leastParlour" "I") ∈ lw_all := lw_g (lw_at lw_m2 208 rfl) rfl
theorem q557 : (Jvm.Cond.fieldLink "ParlourLeaves" (379 : Nat) "ParlourLeaves" "hasChoice" "Z") ∈ lw_all := lw_g (lw_at lw_m2 209 rfl) rfl
theorem q558 : (Jvm.Cond.fieldLink "ParlourLeaves" (127 : Nat) "ParlourLeaves" "text" "[B") ∈ lw_all := lw_g (lw_at lw_m2 210 rfl) rfl
theorem q559 : (Jvm.Cond.fieldLink "ParlourLeaves" (382 : Nat) "ParlourLeaves" "textMany" "I") ∈ lw_all := lw_g (lw_at lw_m2 211 rfl) rfl
theorem q560 : (Jvm.Cond.fieldLink "ParlourLeaves" (130 : Nat) "ParlourLeaves" "toldRow" "[I") ∈ lw_all := lw_g (lw_at lw_m2 212 rfl) rfl
theorem q561 : (Jvm.Cond.fieldLink "ParlourLeaves" (442 : Nat) "ParlourLeaves" "hasTold" "Z") ∈ lw_all := lw_g (lw_at lw_m2 213 rfl) rfl
theorem q562 : (Jvm.Cond.fieldLink "ParlourLeaves" (136 : Nat) "ParlourLeaves" "sentenceReader" "LParlourLeaves$SentenceReader;") ∈ lw_all := lw_g (lw_at lw_m2 214 rfl) rfl
theorem q563 : (Jvm.Cond.fieldLink "ParlourLeaves" (172 : Nat) "ParlourLeaves" "sentence" "LParlourLeaves$Cond;") ∈ lw_all := lw_g (lw_at lw_m2 215 rfl) rfl
theorem q564 : (Jvm.Cond.fieldLink "ParlourLeaves" (142 : Nat) "ParlourLeaves" "images" "[LParlourLeaves$Kept;") ∈ lw_all := lw_g (lw_at lw_m2 216 rfl) rfl
theorem q565 : (Jvm.Cond.laysFinal "ParlourLeaves" "ParlourLeaves" "tape" "[B") ∈ lw_all := lw_g (lw_at lw_m2 217 rfl) rfl
theorem q566 : (Jvm.Cond.soleField "ParlourLeaves" "tape") ∈ lw_all := lw_g (lw_at lw_m2 218 rfl) rfl
theorem q567 : (Jvm.Cond.lays "ParlourLeaves" "ParlourLeaves" "length" "I") ∈ lw_all := lw_g (lw_at lw_m2 219 rfl) rfl
theorem q568 : (Jvm.Cond.soleField "ParlourLeaves" "length") ∈ lw_all := lw_g (lw_at lw_m2 220 rfl) rfl
theorem q569 : (Jvm.Cond.lays "ParlourLeaves" "ParlourLeaves" "size" "I") ∈ lw_all := lw_g (lw_at lw_m2 221 rfl) rfl
theorem q570 : (Jvm.Cond.soleField "ParlourLeaves" "size") ∈ lw_all := lw_g (lw_at lw_m2 222 rfl) rfl
theorem q571 : (Jvm.Cond.laysFinal "ParlourLeaves" "ParlourLeaves" "broken" "LParlourLeaves$Fault;") ∈ lw_all := lw_g (lw_at lw_m2 223 rfl) rfl
theorem q572 : (Jvm.Cond.soleField "ParlourLeaves" "broken") ∈ lw_all := lw_g (lw_at lw_m2 224 rfl) rfl
theorem q573 : (Jvm.Cond.laysFinal "ParlourLeaves" "ParlourLeaves" "lines" "[Ljava/lang/String;") ∈ lw_all := lw_g (lw_at lw_m2 225 rfl) rfl
theorem q574 : (Jvm.Cond.soleField "ParlourLeaves" "lines") ∈ lw_all := lw_g (lw_at lw_m2 226 rfl) rfl
theorem q575 : (Jvm.Cond.laysFinal "ParlourLeaves" "ParlourLeaves" "words" "[Ljava/lang/String;") ∈ lw_all := lw_g (lw_at lw_m2 227 rfl) rfl
theorem q576 : (Jvm.Cond.soleField "ParlourLeaves" "words") ∈ lw_all := lw_g (lw_at lw_m2 228 rfl) rfl
theorem q577 : (Jvm.Cond.lays "ParlourLeaves" "ParlourLeaves" "house" "LParlourLeaves$House;") ∈ lw_all := lw_g (lw_at lw_m2 229 rfl) rfl
theorem q578 : (Jvm.Cond.soleField "ParlourLeaves" "house") ∈ lw_all := lw_g (lw_at lw_m2 230 rfl) rfl
theorem q579 : (Jvm.Cond.laysFinal "ParlourLeaves" "ParlourLeaves" "now" "LParlourLeaves$State;") ∈ lw_all := lw_g (lw_at lw_m2 231 rfl) rfl
theorem q580 : (Jvm.Cond.soleField "ParlourLeaves" "now") ∈ lw_all := lw_g (lw_at lw_m2 232 rfl) rfl
theorem q581 : (Jvm.Cond.laysFinal "ParlourLeaves" "ParlourLeaves" "tried" "LParlourLeaves$State;") ∈ lw_all := lw_g (lw_at lw_m2 233 rfl) rfl
theorem q582 : (Jvm.Cond.soleField "ParlourLeaves" "tried") ∈ lw_all := lw_g (lw_at lw_m2 234 rfl) rfl
theorem q583 : (Jvm.Cond.laysFinal "ParlourLeaves" "ParlourLeaves" "houseReader" "LParlourLeaves$HouseReader;") ∈ lw_all := lw_g (lw_at lw_m2 235 rfl) rfl
theorem q584 : (Jvm.Cond.soleField "ParlourLeaves" "houseReader") ∈ lw_all := lw_g (lw_at lw_m2 236 rfl) rfl
theorem q585 : (Jvm.Cond.laysFinal "ParlourLeaves" "ParlourLeaves" "bookReader" "LParlourLeaves$BookReader;") ∈ lw_all := lw_g (lw_at lw_m2 237 rfl) rfl
theorem q586 : (Jvm.Cond.soleField "ParlourLeaves" "bookReader") ∈ lw_all := lw_g (lw_at lw_m2 238 rfl) rfl
theorem q587 : (Jvm.Cond.lays "ParlourLeaves" "ParlourLeaves" "fault" "I") ∈ lw_all := lw_g (lw_at lw_m2 239 rfl) rfl
theorem q588 : (Jvm.Cond.soleField "ParlourLeaves" "fault") ∈ lw_all := lw_g (lw_at lw_m3 0 rfl) rfl
theorem q589 : (Jvm.Cond.laysFinal "ParlourLeaves" "ParlourLeaves" "ahead" "[LParlourLeaves$State;") ∈ lw_all := lw_g (lw_at lw_m3 1 rfl) rfl
theorem q590 : (Jvm.Cond.soleField "ParlourLeaves" "ahead") ∈ lw_all := lw_g (lw_at lw_m3 2 rfl) rfl
theorem q591 : (Jvm.Cond.lays "ParlourLeaves" "ParlourLeaves" "undoMany" "I") ∈ lw_all := lw_g (lw_at lw_m3 3 rfl) rfl
theorem q592 : (Jvm.Cond.soleField "ParlourLeaves" "undoMany") ∈ lw_all := lw_g (lw_at lw_m3 4 rfl) rfl
theorem q593 : (Jvm.Cond.lays "ParlourLeaves" "ParlourLeaves" "askPlant" "I") ∈ lw_all := lw_g (lw_at lw_m3 5 rfl) rfl
theorem q594 : (Jvm.Cond.soleField "ParlourLeaves" "askPlant") ∈ lw_all := lw_g (lw_at lw_m3 6 rfl) rfl
theorem q595 : (Jvm.Cond.lays "ParlourLeaves" "ParlourLeaves" "hasFits" "Z") ∈ lw_all := lw_g (lw_at lw_m3 7 rfl) rfl
theorem q596 : (Jvm.Cond.soleField "ParlourLeaves" "hasFits") ∈ lw_all := lw_g (lw_at lw_m3 8 rfl) rfl
theorem q597 : (Jvm.Cond.lays "ParlourLeaves" "ParlourLeaves" "coverSet" "I") ∈ lw_all := lw_g (lw_at lw_m3 9 rfl) rfl
theorem q598 : (Jvm.Cond.soleField "ParlourLeaves" "coverSet") ∈ lw_all := lw_g (lw_at lw_m3 10 rfl) rfl
theorem q599 : (Jvm.Cond.lays "ParlourLeaves" "ParlourLeaves" "hasCover" "Z") ∈ lw_all := lw_g (lw_at lw_m3 11 rfl) rfl
theorem q600 : (Jvm.Cond.soleField "ParlourLeaves" "hasCover") ∈ lw_all := lw_g (lw_at lw_m3 12 rfl) rfl
theorem q601 : (Jvm.Cond.laysFinal "ParlourLeaves" "ParlourLeaves" "left" "[[I") ∈ lw_all := lw_g (lw_at lw_m3 13 rfl) rfl
theorem q602 : (Jvm.Cond.soleField "ParlourLeaves" "left") ∈ lw_all := lw_g (lw_at lw_m3 14 rfl) rfl
theorem q603 : (Jvm.Cond.laysFinal "ParlourLeaves" "ParlourLeaves" "roundRow" "[I") ∈ lw_all := lw_g (lw_at lw_m3 15 rfl) rfl
theorem q604 : (Jvm.Cond.soleField "ParlourLeaves" "roundRow") ∈ lw_all := lw_g (lw_at lw_m3 16 rfl) rfl
theorem q605 : (Jvm.Cond.lays "ParlourLeaves" "ParlourLeaves" "roundMany" "I") ∈ lw_all := lw_g (lw_at lw_m3 17 rfl) rfl
theorem q606 : (Jvm.Cond.soleField "ParlourLeaves" "roundMany") ∈ lw_all := lw_g (lw_at lw_m3 18 rfl) rfl
theorem q607 : (Jvm.Cond.lays "ParlourLeaves" "ParlourLeaves" "chosenPlant" "I") ∈ lw_all := lw_g (lw_at lw_m3 19 rfl) rfl
theorem q608 : (Jvm.Cond.soleField "ParlourLeaves" "chosenPlant") ∈ lw_all := lw_g (lw_at lw_m3 20 rfl) rfl
theorem q609 : (Jvm.Cond.lays "ParlourLeaves" "ParlourLeaves" "chosenPlace" "I") ∈ lw_all := lw_g (lw_at lw_m3 21 rfl) rfl
theorem q610 : (Jvm.Cond.soleField "ParlourLeaves" "chosenPlace") ∈ lw_all := lw_g (lw_at lw_m3 22 rfl) rfl
theorem q611 : (Jvm.Cond.lays "ParlourLeaves" "ParlourLeaves" "chosenParlour" "I") ∈ lw_all := lw_g (lw_at lw_m3 23 rfl) rfl
theorem q612 : (Jvm.Cond.soleField "ParlourLeaves" "chosenParlour") ∈ lw_all := lw_g (lw_at lw_m3 24 rfl) rfl
theorem q613 : (Jvm.Cond.lays "ParlourLeaves" "ParlourLeaves" "leastParlour" "I") ∈ lw_all := lw_g (lw_at lw_m3 25 rfl) rfl
theorem q614 : (Jvm.Cond.soleField "ParlourLeaves" "leastParlour") ∈ lw_all := lw_g (lw_at lw_m3 26 rfl) rfl
theorem q615 : (Jvm.Cond.lays "ParlourLeaves" "ParlourLeaves" "hasChoice" "Z") ∈ lw_all := lw_g (lw_at lw_m3 27 rfl) rfl
theorem q616 : (Jvm.Cond.soleField "ParlourLeaves" "hasChoice") ∈ lw_all := lw_g (lw_at lw_m3 28 rfl) rfl
theorem q617 : (Jvm.Cond.laysFinal "ParlourLeaves" "ParlourLeaves" "text" "[B") ∈ lw_all := lw_g (lw_at lw_m3 29 rfl) rfl
theorem q618 : (Jvm.Cond.soleField "ParlourLeaves" "text") ∈ lw_all := lw_g (lw_at lw_m3 30 rfl) rfl
theorem q619 : (Jvm.Cond.lays "ParlourLeaves" "ParlourLeaves" "textMany" "I") ∈ lw_all := lw_g (lw_at lw_m3 31 rfl) rfl
theorem q620 : (Jvm.Cond.soleField "ParlourLeaves" "textMany") ∈ lw_all := lw_g (lw_at lw_m3 32 rfl) rfl
theorem q621 : (Jvm.Cond.laysFinal "ParlourLeaves" "ParlourLeaves" "toldRow" "[I") ∈ lw_all := lw_g (lw_at lw_m3 33 rfl) rfl
theorem q622 : (Jvm.Cond.soleField "ParlourLeaves" "toldRow") ∈ lw_all := lw_g (lw_at lw_m3 34 rfl) rfl
theorem q623 : (Jvm.Cond.lays "ParlourLeaves" "ParlourLeaves" "hasTold" "Z") ∈ lw_all := lw_g (lw_at lw_m3 35 rfl) rfl
theorem q624 : (Jvm.Cond.soleField "ParlourLeaves" "hasTold") ∈ lw_all := lw_g (lw_at lw_m3 36 rfl) rfl
theorem q625 : (Jvm.Cond.laysFinal "ParlourLeaves" "ParlourLeaves" "sentenceReader" "LParlourLeaves$SentenceReader;") ∈ lw_all := lw_g (lw_at lw_m3 37 rfl) rfl
theorem q626 : (Jvm.Cond.soleField "ParlourLeaves" "sentenceReader") ∈ lw_all := lw_g (lw_at lw_m3 38 rfl) rfl
theorem q627 : (Jvm.Cond.lays "ParlourLeaves" "ParlourLeaves" "sentence" "LParlourLeaves$Cond;") ∈ lw_all := lw_g (lw_at lw_m3 39 rfl) rfl
theorem q628 : (Jvm.Cond.soleField "ParlourLeaves" "sentence") ∈ lw_all := lw_g (lw_at lw_m3 40 rfl) rfl
theorem q629 : (Jvm.Cond.laysFinal "ParlourLeaves" "ParlourLeaves" "images" "[LParlourLeaves$Kept;") ∈ lw_all := lw_g (lw_at lw_m3 41 rfl) rfl
theorem q630 : (Jvm.Cond.soleField "ParlourLeaves" "images") ∈ lw_all := lw_g (lw_at lw_m3 42 rfl) rfl
theorem q631 : (Jvm.Cond.superclass "ParlourLeaves" "java/lang/Object") ∈ lw_all := lw_g (lw_at lw_m3 43 rfl) rfl
theorem q633 : (Jvm.Cond.instanceMethod ({ cls := "ParlourLeaves", name := "feed", desc := "(IIIII)I" } : Jvm.MethodName)) ∈ lw_all := lw_g (lw_at lw_m3 45 rfl) rfl
theorem q634 : (Jvm.Cond.selects "ParlourLeaves" ({ cls := "ParlourLeaves", name := "feed", desc := "(IIIII)I" } : Jvm.MethodName) ({ cls := "ParlourLeaves", name := "feed", desc := "(IIIII)I" } : Jvm.MethodName)) ∈ lw_all := lw_g (lw_at lw_m3 46 rfl) rfl
theorem q635 : (Jvm.Cond.code ({ cls := "ParlourLeaves", name := "feed", desc := "(IIIII)I" } : Jvm.MethodName) prog_1_method_2_code (6 : Nat) (Option.some Jvm.ClassFile.FieldType.int)) ∈ lw_all := lw_g (lw_at lw_m3 47 rfl) rfl
theorem q636 : (Jvm.Cond.methodLink "ParlourLeaves" (149 : Nat) ({ cls := "ParlourLeaves", name := "four", desc := "(I)V" } : Jvm.MethodName)) ∈ lw_all := lw_g (lw_at lw_m3 48 rfl) rfl
theorem q637 : (Jvm.Cond.privateMethod ({ cls := "ParlourLeaves", name := "four", desc := "(I)V" } : Jvm.MethodName)) ∈ lw_tbl := lw_at lw_m3 49 rfl
theorem q638 : (Jvm.Cond.instanceMethod ({ cls := "ParlourLeaves", name := "four", desc := "(I)V" } : Jvm.MethodName)) ∈ lw_all := lw_g (lw_at lw_m3 50 rfl) rfl
theorem q639 : (Jvm.Cond.code ({ cls := "ParlourLeaves", name := "four", desc := "(I)V" } : Jvm.MethodName) prog_1_method_3_code (3 : Nat) (Option.none : Option Jvm.ClassFile.FieldType)) ∈ lw_all := lw_g (lw_at lw_m3 51 rfl) rfl
theorem q641 : (Jvm.Cond.instanceMethod ({ cls := "ParlourLeaves", name := "end", desc := "(I)Z" } : Jvm.MethodName)) ∈ lw_all := lw_g (lw_at lw_m3 53 rfl) rfl
theorem q642 : (Jvm.Cond.selects "ParlourLeaves" ({ cls := "ParlourLeaves", name := "end", desc := "(I)Z" } : Jvm.MethodName) ({ cls := "ParlourLeaves", name := "end", desc := "(I)Z" } : Jvm.MethodName)) ∈ lw_all := lw_g (lw_at lw_m3 54 rfl) rfl
theorem q643 : (Jvm.Cond.code ({ cls := "ParlourLeaves", name := "end", desc := "(I)Z" } : Jvm.MethodName) prog_1_method_4_code (2 : Nat) (Option.some Jvm.ClassFile.FieldType.boolean)) ∈ lw_all := lw_g (lw_at lw_m3 55 rfl) rfl
theorem q645 : (Jvm.Cond.instanceMethod ({ cls := "ParlourLeaves", name := "house", desc := "()I" } : Jvm.MethodName)) ∈ lw_all := lw_g (lw_at lw_m3 57 rfl) rfl
theorem q646 : (Jvm.Cond.selects "ParlourLeaves" ({ cls := "ParlourLeaves", name := "house", desc := "()I" } : Jvm.MethodName) ({ cls := "ParlourLeaves", name := "house", desc := "()I" } : Jvm.MethodName)) ∈ lw_all := lw_g (lw_at lw_m3 58 rfl) rfl
theorem q647 : (Jvm.Cond.codeWith ({ cls := "ParlourLeaves", name := "house", desc := "()I" } : Jvm.MethodName) prog_1_method_10_code (3 : Nat) (Option.some Jvm.ClassFile.FieldType.int) [((17 : Nat), (50 : Nat), (51 : Nat), (13 : Nat))]) ∈ lw_all := lw_g (lw_at lw_m3 59 rfl) rfl
theorem q648 : (Jvm.Cond.methodLink "ParlourLeaves" (159 : Nat) ({ cls := "ParlourLeaves", name := "taken", desc := "()V" } : Jvm.MethodName)) ∈ lw_all := lw_g (lw_at lw_m3 60 rfl) rfl
theorem q649 : (Jvm.Cond.privateMethod ({ cls := "ParlourLeaves", name := "taken", desc := "()V" } : Jvm.MethodName)) ∈ lw_tbl := lw_at lw_m3 61 rfl
theorem q650 : (Jvm.Cond.instanceMethod ({ cls := "ParlourLeaves", name := "taken", desc := "()V" } : Jvm.MethodName)) ∈ lw_all := lw_g (lw_at lw_m3 62 rfl) rfl
theorem q651 : (Jvm.Cond.code ({ cls := "ParlourLeaves", name := "taken", desc := "()V" } : Jvm.MethodName) prog_1_method_5_code (1 : Nat) (Option.none : Option Jvm.ClassFile.FieldType)) ∈ lw_all := lw_g (lw_at lw_m3 63 rfl) rfl
theorem q652 : (Jvm.Cond.methodLink "ParlourLeaves" (165 : Nat) ({ cls := "ParlourLeaves$HouseReader", name := "read", desc := "(LParlourLeaves$House;)I" } : Jvm.MethodName)) ∈ lw_all := lw_g (lw_at lw_m3 64 rfl) rfl
theorem q678 : (Jvm.Cond.static ({ cls := "ParlourLeaves", name := "isIn", desc := "(III)Z" } : Jvm.MethodName)) ∈ lw_all := lw_g (lw_at lw_m3 90 rfl) rfl
theorem q679 : (Jvm.Cond.code ({ cls := "ParlourLeaves", name := "isIn", desc := "(III)Z" } : Jvm.MethodName) prog_1_method_7_code (3 : Nat) (Option.some Jvm.ClassFile.FieldType.boolean)) ∈ lw_all := lw_g (lw_at lw_m3 91 rfl) rfl
theorem q763 : (Jvm.Cond.static ({ cls := "ParlourLeaves", name := "has", desc := "(II)Z" } : Jvm.MethodName)) ∈ lw_all := lw_g (lw_at lw_m3 175 rfl) rfl
theorem q764 : (Jvm.Cond.code ({ cls := "ParlourLeaves", name := "has", desc := "(II)Z" } : Jvm.MethodName) prog_1_method_9_code (2 : Nat) (Option.some Jvm.ClassFile.FieldType.boolean)) ∈ lw_all := lw_g (lw_at lw_m3 176 rfl) rfl
theorem q839 : (Jvm.Cond.instanceMethod ({ cls := "ParlourLeaves", name := "fault", desc := "()I" } : Jvm.MethodName)) ∈ lw_all := lw_g (lw_at lw_m4 11 rfl) rfl
theorem q840 : (Jvm.Cond.selects "ParlourLeaves" ({ cls := "ParlourLeaves", name := "fault", desc := "()I" } : Jvm.MethodName) ({ cls := "ParlourLeaves", name := "fault", desc := "()I" } : Jvm.MethodName)) ∈ lw_all := lw_g (lw_at lw_m4 12 rfl) rfl
theorem q841 : (Jvm.Cond.code ({ cls := "ParlourLeaves", name := "fault", desc := "()I" } : Jvm.MethodName) prog_1_method_11_code (1 : Nat) (Option.some Jvm.ClassFile.FieldType.int)) ∈ lw_all := lw_g (lw_at lw_m4 13 rfl) rfl
theorem q843 : (Jvm.Cond.instanceMethod ({ cls := "ParlourLeaves", name := "comes", desc := "(II)I" } : Jvm.MethodName)) ∈ lw_all := lw_g (lw_at lw_m4 15 rfl) rfl
theorem q844 : (Jvm.Cond.selects "ParlourLeaves" ({ cls := "ParlourLeaves", name := "comes", desc := "(II)I" } : Jvm.MethodName) ({ cls := "ParlourLeaves", name := "comes", desc := "(II)I" } : Jvm.MethodName)) ∈ lw_all := lw_g (lw_at lw_m4 16 rfl) rfl
theorem q845 : (Jvm.Cond.code ({ cls := "ParlourLeaves", name := "comes", desc := "(II)I" } : Jvm.MethodName) prog_1_method_19_code (3 : Nat) (Option.some Jvm.ClassFile.FieldType.int)) ∈ lw_all := lw_g (lw_at lw_m4 17 rfl) rfl
theorem q846 : (Jvm.Cond.methodLink "ParlourLeaves" (201 : Nat) ({ cls := "ParlourLeaves", name := "isPlant", desc := "(I)Z" } : Jvm.MethodName)) ∈ lw_all := lw_g (lw_at lw_m4 18 rfl) rfl
theorem q847 : (Jvm.Cond.privateMethod ({ cls := "ParlourLeaves", name := "isPlant", desc := "(I)Z" } : Jvm.MethodName)) ∈ lw_tbl := lw_at lw_m4 19 rfl
theorem q848 : (Jvm.Cond.instanceMethod ({ cls := "ParlourLeaves", name := "isPlant", desc := "(I)Z" } : Jvm.MethodName)) ∈ lw_all := lw_g (lw_at lw_m4 20 rfl) rfl
theorem q849 : (Jvm.Cond.code ({ cls := "ParlourLeaves", name := "isPlant", desc := "(I)Z" } : Jvm.MethodName) prog_1_method_13_code (2 : Nat) (Option.some Jvm.ClassFile.FieldType.boolean)) ∈ lw_all := lw_g (lw_at lw_m4 21 rfl) rfl
theorem q850 : (Jvm.Cond.methodLink "ParlourLeaves" (185 : Nat) ({ cls := "ParlourLeaves", name := "isIn", desc := "(III)Z" } : Jvm.MethodName)) ∈ lw_all := lw_g (lw_at lw_m4 22 rfl) rfl
theorem q851 : (Jvm.Cond.methodLink "ParlourLeaves" (233 : Nat) ({ cls := "ParlourLeaves", name := "isAct", desc := "(I)Z" } : Jvm.MethodName)) ∈ lw_all := lw_g (lw_at lw_m4 23 rfl) rfl
theorem q852 : (Jvm.Cond.privateMethod ({ cls := "ParlourLeaves", name := "isAct", desc := "(I)Z" } : Jvm.MethodName)) ∈ lw_tbl := lw_at lw_m4 24 rfl
theorem q853 : (Jvm.Cond.instanceMethod ({ cls := "ParlourLeaves", name := "isAct", desc := "(I)Z" } : Jvm.MethodName)) ∈ lw_all := lw_g (lw_at lw_m4 25 rfl) rfl
theorem q854 : (Jvm.Cond.code ({ cls := "ParlourLeaves", name := "isAct", desc := "(I)Z" } : Jvm.MethodName) prog_1_method_16_code (2 : Nat) (Option.some Jvm.ClassFile.FieldType.boolean)) ∈ lw_all := lw_g (lw_at lw_m4 26 rfl) rfl
theorem q855 : (Jvm.Cond.methodLink "ParlourLeaves" (256 : Nat) ({ cls := "ParlourLeaves$State", name := "comes", desc := "(II)I" } : Jvm.MethodName)) ∈ lw_all := lw_g (lw_at lw_m4 27 rfl) rfl
theorem q860 : (Jvm.Cond.instanceMethod ({ cls := "ParlourLeaves", name := "sights", desc := "(I)I" } : Jvm.MethodName)) ∈ lw_all := lw_g (lw_at lw_m4 32 rfl) rfl
theorem q861 : (Jvm.Cond.selects "ParlourLeaves" ({ cls := "ParlourLeaves", name := "sights", desc := "(I)I" } : Jvm.MethodName) ({ cls := "ParlourLeaves", name := "sights", desc := "(I)I" } : Jvm.MethodName)) ∈ lw_all := lw_g (lw_at lw_m4 33 rfl) rfl
theorem q862 : (Jvm.Cond.code ({ cls := "ParlourLeaves", name := "sights", desc := "(I)I" } : Jvm.MethodName) prog_1_method_20_code (2 : Nat) (Option.some Jvm.ClassFile.FieldType.int)) ∈ lw_all := lw_g (lw_at lw_m4 34 rfl) rfl
theorem q863 : (Jvm.Cond.methodLink "ParlourLeaves" (260 : Nat) ({ cls := "ParlourLeaves", name := "isParlour", desc := "(I)Z" } : Jvm.MethodName)) ∈ lw_all := lw_g (lw_at lw_m4 35 rfl) rfl
theorem q864 : (Jvm.Cond.privateMethod ({ cls := "ParlourLeaves", name := "isParlour", desc := "(I)Z" } : Jvm.MethodName)) ∈ lw_tbl := lw_at lw_m4 36 rfl
theorem q865 : (Jvm.Cond.instanceMethod ({ cls := "ParlourLeaves", name := "isParlour", desc := "(I)Z" } : Jvm.MethodName)) ∈ lw_all := lw_g (lw_at lw_m4 37 rfl) rfl
theorem q866 : (Jvm.Cond.code ({ cls := "ParlourLeaves", name := "isParlour", desc := "(I)Z" } : Jvm.MethodName) prog_1_method_12_code (2 : Nat) (Option.some Jvm.ClassFile.FieldType.boolean)) ∈ lw_all := lw_g (lw_at lw_m4 38 rfl) rfl
theorem q868 : (Jvm.Cond.instanceMethod ({ cls := "ParlourLeaves", name := "now", desc := "(I)I" } : Jvm.MethodName)) ∈ lw_all := lw_g (lw_at lw_m4 40 rfl) rfl
theorem q869 : (Jvm.Cond.selects "ParlourLeaves" ({ cls := "ParlourLeaves", name := "now", desc := "(I)I" } : Jvm.MethodName) ({ cls := "ParlourLeaves", name := "now", desc := "(I)I" } : Jvm.MethodName)) ∈ lw_all := lw_g (lw_at lw_m4 41 rfl) rfl
theorem q870 : (Jvm.Cond.code ({ cls := "ParlourLeaves", name := "now", desc := "(I)I" } : Jvm.MethodName) prog_1_method_21_code (8 : Nat) (Option.some Jvm.ClassFile.FieldType.int)) ∈ lw_all := lw_g (lw_at lw_m4 42 rfl) rfl
theorem q871 : (Jvm.Cond.methodLink "ParlourLeaves" (223 : Nat) ({ cls := "ParlourLeaves$State", name := "sees", desc := "(LParlourLeaves$House;I)I" } : Jvm.MethodName)) ∈ lw_all := lw_g (lw_at lw_m4 43 rfl) rfl
theorem q881 : (Jvm.Cond.methodLink "ParlourLeaves" (226 : Nat) ({ cls := "ParlourLeaves$State", name := "leaves", desc := "(IZ)I" } : Jvm.MethodName)) ∈ lw_all := lw_g (lw_at lw_m4 53 rfl) rfl
theorem q890 : (Jvm.Cond.methodLink "ParlourLeaves" (268 : Nat) ({ cls := "ParlourLeaves$State", name := "proved", desc := "(LParlourLeaves$House;)I" } : Jvm.MethodName)) ∈ lw_all := lw_g (lw_at lw_m4 62 rfl) rfl
theorem q908 : (Jvm.Cond.methodLink "ParlourLeaves" (271 : Nat) ({ cls := "ParlourLeaves$House", name := "all", desc := "()I" } : Jvm.MethodName)) ∈ lw_all := lw_g (lw_at lw_m4 80 rfl) rfl
theorem q913 : (Jvm.Cond.instanceMethod ({ cls := "ParlourLeaves", name := "undo", desc := "()I" } : Jvm.MethodName)) ∈ lw_all := lw_g (lw_at lw_m4 85 rfl) rfl
theorem q914 : (Jvm.Cond.selects "ParlourLeaves" ({ cls := "ParlourLeaves", name := "undo", desc := "()I" } : Jvm.MethodName) ({ cls := "ParlourLeaves", name := "undo", desc := "()I" } : Jvm.MethodName)) ∈ lw_all := lw_g (lw_at lw_m4 86 rfl) rfl
theorem q915 : (Jvm.Cond.code ({ cls := "ParlourLeaves", name := "undo", desc := "()I" } : Jvm.MethodName) prog_1_method_23_code (1 : Nat) (Option.some Jvm.ClassFile.FieldType.int)) ∈ lw_all := lw_g (lw_at lw_m4 87 rfl) rfl
theorem q916 : (Jvm.Cond.methodLink "ParlourLeaves" (281 : Nat) ({ cls := "ParlourLeaves$State", name := "be", desc := "(LParlourLeaves$State;)V" } : Jvm.MethodName)) ∈ lw_all := lw_g (lw_at lw_m4 88 rfl) rfl
theorem q921 : (Jvm.Cond.instanceMethod ({ cls := "ParlourLeaves", name := "does", desc := "(III)I" } : Jvm.MethodName)) ∈ lw_all := lw_g (lw_at lw_m4 93 rfl) rfl
theorem q922 : (Jvm.Cond.selects "ParlourLeaves" ({ cls := "ParlourLeaves", name := "does", desc := "(III)I" } : Jvm.MethodName) ({ cls := "ParlourLeaves", name := "does", desc := "(III)I" } : Jvm.MethodName)) ∈ lw_all := lw_g (lw_at lw_m4 94 rfl) rfl
theorem q923 : (Jvm.Cond.code ({ cls := "ParlourLeaves", name := "does", desc := "(III)I" } : Jvm.MethodName) prog_1_method_24_code (4 : Nat) (Option.some Jvm.ClassFile.FieldType.int)) ∈ lw_all := lw_g (lw_at lw_m4 95 rfl) rfl
theorem q924 : (Jvm.Cond.methodLink "ParlourLeaves" (285 : Nat) ({ cls := "ParlourLeaves", name := "isPerson", desc := "(I)Z" } : Jvm.MethodName)) ∈ lw_all := lw_g (lw_at lw_m4 96 rfl) rfl
theorem q925 : (Jvm.Cond.privateMethod ({ cls := "ParlourLeaves", name := "isPerson", desc := "(I)Z" } : Jvm.MethodName)) ∈ lw_tbl := lw_at lw_m4 97 rfl
theorem q926 : (Jvm.Cond.instanceMethod ({ cls := "ParlourLeaves", name := "isPerson", desc := "(I)Z" } : Jvm.MethodName)) ∈ lw_all := lw_g (lw_at lw_m4 98 rfl) rfl
theorem q927 : (Jvm.Cond.code ({ cls := "ParlourLeaves", name := "isPerson", desc := "(I)Z" } : Jvm.MethodName) prog_1_method_14_code (2 : Nat) (Option.some Jvm.ClassFile.FieldType.boolean)) ∈ lw_all := lw_g (lw_at lw_m4 99 rfl) rfl
theorem q928 : (Jvm.Cond.methodLink "ParlourLeaves" (288 : Nat) ({ cls := "ParlourLeaves", name := "isDeed", desc := "(I)Z" } : Jvm.MethodName)) ∈ lw_all := lw_g (lw_at lw_m4 100 rfl) rfl
theorem q929 : (Jvm.Cond.privateMethod ({ cls := "ParlourLeaves", name := "isDeed", desc := "(I)Z" } : Jvm.MethodName)) ∈ lw_tbl := lw_at lw_m4 101 rfl
theorem q930 : (Jvm.Cond.instanceMethod ({ cls := "ParlourLeaves", name := "isDeed", desc := "(I)Z" } : Jvm.MethodName)) ∈ lw_all := lw_g (lw_at lw_m4 102 rfl) rfl
theorem q931 : (Jvm.Cond.code ({ cls := "ParlourLeaves", name := "isDeed", desc := "(I)Z" } : Jvm.MethodName) prog_1_method_15_code (2 : Nat) (Option.some Jvm.ClassFile.FieldType.boolean)) ∈ lw_all := lw_g (lw_at lw_m4 103 rfl) rfl
theorem q932 : (Jvm.Cond.methodLink "ParlourLeaves" (291 : Nat) ({ cls := "ParlourLeaves$State", name := "whyDo", desc := "()I" } : Jvm.MethodName)) ∈ lw_all := lw_g (lw_at lw_m4 104 rfl) rfl
theorem q936 : (Jvm.Cond.methodLink "ParlourLeaves" (294 : Nat) ({ cls := "ParlourLeaves", name := "keep", desc := "()V" } : Jvm.MethodName)) ∈ lw_all := lw_g (lw_at lw_m4 108 rfl) rfl
theorem q937 : (Jvm.Cond.privateMethod ({ cls := "ParlourLeaves", name := "keep", desc := "()V" } : Jvm.MethodName)) ∈ lw_tbl := lw_at lw_m4 109 rfl
theorem q938 : (Jvm.Cond.instanceMethod ({ cls := "ParlourLeaves", name := "keep", desc := "()V" } : Jvm.MethodName)) ∈ lw_all := lw_g (lw_at lw_m4 110 rfl) rfl
theorem q939 : (Jvm.Cond.code ({ cls := "ParlourLeaves", name := "keep", desc := "()V" } : Jvm.MethodName) prog_1_method_22_code (2 : Nat) (Option.none : Option Jvm.ClassFile.FieldType)) ∈ lw_all := lw_g (lw_at lw_m4 111 rfl) rfl
theorem q940 : (Jvm.Cond.methodLink "ParlourLeaves" (275 : Nat) ({ cls := "java/lang/System", name := "arraycopy", desc := "(Ljava/lang/Object;ILjava/lang/Object;II)V" } : Jvm.MethodName)) ∈ lw_all := lw_g (lw_at lw_m4 112 rfl) rfl
theorem q941 : (Jvm.Cond.methodLink "ParlourLeaves" (297 : Nat) ({ cls := "ParlourLeaves$State", name := "does", desc := "(LParlourLeaves$House;III)V" } : Jvm.MethodName)) ∈ lw_all := lw_g (lw_at lw_m4 113 rfl) rfl
theorem q954 : (Jvm.Cond.instanceMethod ({ cls := "ParlourLeaves", name := "sponge", desc := "(I)I" } : Jvm.MethodName)) ∈ lw_all := lw_g (lw_at lw_m4 126 rfl) rfl
theorem q955 : (Jvm.Cond.selects "ParlourLeaves" ({ cls := "ParlourLeaves", name := "sponge", desc := "(I)I" } : Jvm.MethodName) ({ cls := "ParlourLeaves", name := "sponge", desc := "(I)I" } : Jvm.MethodName)) ∈ lw_all := lw_g (lw_at lw_m4 127 rfl) rfl
theorem q956 : (Jvm.Cond.code ({ cls := "ParlourLeaves", name := "sponge", desc := "(I)I" } : Jvm.MethodName) prog_1_method_25_code (2 : Nat) (Option.some Jvm.ClassFile.FieldType.int)) ∈ lw_all := lw_g (lw_at lw_m4 128 rfl) rfl
theorem q957 : (Jvm.Cond.methodLink "ParlourLeaves" (300 : Nat) ({ cls := "ParlourLeaves$State", name := "whySponge", desc := "(I)I" } : Jvm.MethodName)) ∈ lw_all := lw_g (lw_at lw_m4 129 rfl) rfl
theorem q962 : (Jvm.Cond.instanceMethod ({ cls := "ParlourLeaves", name := "carry", desc := "(II)I" } : Jvm.MethodName)) ∈ lw_all := lw_g (lw_at lw_m4 134 rfl) rfl
theorem q963 : (Jvm.Cond.selects "ParlourLeaves" ({ cls := "ParlourLeaves", name := "carry", desc := "(II)I" } : Jvm.MethodName) ({ cls := "ParlourLeaves", name := "carry", desc := "(II)I" } : Jvm.MethodName)) ∈ lw_all := lw_g (lw_at lw_m4 135 rfl) rfl
theorem q964 : (Jvm.Cond.code ({ cls := "ParlourLeaves", name := "carry", desc := "(II)I" } : Jvm.MethodName) prog_1_method_26_code (3 : Nat) (Option.some Jvm.ClassFile.FieldType.int)) ∈ lw_all := lw_g (lw_at lw_m4 136 rfl) rfl
theorem q965 : (Jvm.Cond.methodLink "ParlourLeaves" (303 : Nat) ({ cls := "ParlourLeaves$State", name := "whyCarry", desc := "(II)I" } : Jvm.MethodName)) ∈ lw_all := lw_g (lw_at lw_m4 137 rfl) rfl
theorem q970 : (Jvm.Cond.instanceMethod ({ cls := "ParlourLeaves", name := "days", desc := "(I)I" } : Jvm.MethodName)) ∈ lw_all := lw_g (lw_at lw_m4 142 rfl) rfl
theorem q971 : (Jvm.Cond.selects "ParlourLeaves" ({ cls := "ParlourLeaves", name := "days", desc := "(I)I" } : Jvm.MethodName) ({ cls := "ParlourLeaves", name := "days", desc := "(I)I" } : Jvm.MethodName)) ∈ lw_all := lw_g (lw_at lw_m4 143 rfl) rfl
theorem q972 : (Jvm.Cond.code ({ cls := "ParlourLeaves", name := "days", desc := "(I)I" } : Jvm.MethodName) prog_1_method_27_code (2 : Nat) (Option.some Jvm.ClassFile.FieldType.int)) ∈ lw_all := lw_g (lw_at lw_m4 144 rfl) rfl
theorem q973 : (Jvm.Cond.methodLink "ParlourLeaves" (306 : Nat) ({ cls := "ParlourLeaves$State", name := "days", desc := "(LParlourLeaves$House;I)I" } : Jvm.MethodName)) ∈ lw_all := lw_g (lw_at lw_m4 145 rfl) rfl
theorem q985 : (Jvm.Cond.instanceMethod ({ cls := "ParlourLeaves", name := "guilty", desc := "(II)I" } : Jvm.MethodName)) ∈ lw_all := lw_g (lw_at lw_m4 157 rfl) rfl
theorem q986 : (Jvm.Cond.selects "ParlourLeaves" ({ cls := "ParlourLeaves", name := "guilty", desc := "(II)I" } : Jvm.MethodName) ({ cls := "ParlourLeaves", name := "guilty", desc := "(II)I" } : Jvm.MethodName)) ∈ lw_all := lw_g (lw_at lw_m4 158 rfl) rfl
theorem q987 : (Jvm.Cond.code ({ cls := "ParlourLeaves", name := "guilty", desc := "(II)I" } : Jvm.MethodName) prog_1_method_28_code (4 : Nat) (Option.some Jvm.ClassFile.FieldType.int)) ∈ lw_all := lw_g (lw_at lw_m4 159 rfl) rfl
theorem q988 : (Jvm.Cond.methodLink "ParlourLeaves" (252 : Nat) ({ cls := "ParlourLeaves$State", name := "isProved", desc := "(LParlourLeaves$House;I)Z" } : Jvm.MethodName)) ∈ lw_all := lw_g (lw_at lw_m4 160 rfl) rfl
theorem q990 : (Jvm.Cond.instanceMethod ({ cls := "ParlourLeaves", name := "proves", desc := "(I)I" } : Jvm.MethodName)) ∈ lw_all := lw_g (lw_at lw_m4 162 rfl) rfl
theorem q991 : (Jvm.Cond.selects "ParlourLeaves" ({ cls := "ParlourLeaves", name := "proves", desc := "(I)I" } : Jvm.MethodName) ({ cls := "ParlourLeaves", name := "proves", desc := "(I)I" } : Jvm.MethodName)) ∈ lw_all := lw_g (lw_at lw_m4 163 rfl) rfl
theorem q992 : (Jvm.Cond.code ({ cls := "ParlourLeaves", name := "proves", desc := "(I)I" } : Jvm.MethodName) prog_1_method_29_code (5 : Nat) (Option.some Jvm.ClassFile.FieldType.int)) ∈ lw_all := lw_g (lw_at lw_m4 164 rfl) rfl
theorem q994 : (Jvm.Cond.instanceMethod ({ cls := "ParlourLeaves", name := "hides", desc := "(I)I" } : Jvm.MethodName)) ∈ lw_all := lw_g (lw_at lw_m4 166 rfl) rfl
theorem q995 : (Jvm.Cond.selects "ParlourLeaves" ({ cls := "ParlourLeaves", name := "hides", desc := "(I)I" } : Jvm.MethodName) ({ cls := "ParlourLeaves", name := "hides", desc := "(I)I" } : Jvm.MethodName)) ∈ lw_all := lw_g (lw_at lw_m4 167 rfl) rfl
theorem q996 : (Jvm.Cond.code ({ cls := "ParlourLeaves", name := "hides", desc := "(I)I" } : Jvm.MethodName) prog_1_method_31_code (4 : Nat) (Option.some Jvm.ClassFile.FieldType.int)) ∈ lw_all := lw_g (lw_at lw_m4 168 rfl) rfl
theorem q997 : (Jvm.Cond.methodLink "ParlourLeaves" (314 : Nat) ({ cls := "ParlourLeaves", name := "isHidden", desc := "(II)Z" } : Jvm.MethodName)) ∈ lw_all := lw_g (lw_at lw_m4 169 rfl) rfl
theorem q998 : (Jvm.Cond.privateMethod ({ cls := "ParlourLeaves", name := "isHidden", desc := "(II)Z" } : Jvm.MethodName)) ∈ lw_tbl := lw_at lw_m4 170 rfl
theorem q999 : (Jvm.Cond.instanceMethod ({ cls := "ParlourLeaves", name := "isHidden", desc := "(II)Z" } : Jvm.MethodName)) ∈ lw_all := lw_g (lw_at lw_m4 171 rfl) rfl
theorem q1000 : (Jvm.Cond.code ({ cls := "ParlourLeaves", name := "isHidden", desc := "(II)Z" } : Jvm.MethodName) prog_1_method_30_code (4 : Nat) (Option.some Jvm.ClassFile.FieldType.boolean)) ∈ lw_all := lw_g (lw_at lw_m4 172 rfl) rfl
theorem q1001 : (Jvm.Cond.methodLink "ParlourLeaves" (217 : Nat) ({ cls := "ParlourLeaves", name := "has", desc := "(II)Z" } : Jvm.MethodName)) ∈ lw_all := lw_g (lw_at lw_m4 173 rfl) rfl
theorem q1002 : (Jvm.Cond.methodLink "ParlourLeaves" (311 : Nat) ({ cls := "ParlourLeaves$State", name := "next", desc := "(LParlourLeaves$House;I)I" } : Jvm.MethodName)) ∈ lw_all := lw_g (lw_at lw_m4 174 rfl) rfl
theorem q1004 : (Jvm.Cond.instanceMethod ({ cls := "ParlourLeaves", name := "dark", desc := "(I)I" } : Jvm.MethodName)) ∈ lw_all := lw_g (lw_at lw_m4 176 rfl) rfl
theorem q1005 : (Jvm.Cond.selects "ParlourLeaves" ({ cls := "ParlourLeaves", name := "dark", desc := "(I)I" } : Jvm.MethodName) ({ cls := "ParlourLeaves", name := "dark", desc := "(I)I" } : Jvm.MethodName)) ∈ lw_all := lw_g (lw_at lw_m4 177 rfl) rfl
theorem q1006 : (Jvm.Cond.code ({ cls := "ParlourLeaves", name := "dark", desc := "(I)I" } : Jvm.MethodName) prog_1_method_32_code (4 : Nat) (Option.some Jvm.ClassFile.FieldType.int)) ∈ lw_all := lw_g (lw_at lw_m4 178 rfl) rfl
theorem q1007 : (Jvm.Cond.methodLink "ParlourLeaves" (319 : Nat) ({ cls := "java/lang/Math", name := "max", desc := "(II)I" } : Jvm.MethodName)) ∈ lw_all := lw_g (lw_at lw_m4 179 rfl) rfl
theorem q1009 : (Jvm.Cond.instanceMethod ({ cls := "ParlourLeaves", name := "fits", desc := "()I" } : Jvm.MethodName)) ∈ lw_all := lw_g (lw_at lw_m4 181 rfl) rfl
theorem q1010 : (Jvm.Cond.selects "ParlourLeaves" ({ cls := "ParlourLeaves", name := "fits", desc := "()I" } : Jvm.MethodName) ({ cls := "ParlourLeaves", name := "fits", desc := "()I" } : Jvm.MethodName)) ∈ lw_all := lw_g (lw_at lw_m4 182 rfl) rfl
theorem q1011 : (Jvm.Cond.code ({ cls := "ParlourLeaves", name := "fits", desc := "()I" } : Jvm.MethodName) prog_1_method_34_code (4 : Nat) (Option.some Jvm.ClassFile.FieldType.int)) ∈ lw_all := lw_g (lw_at lw_m4 183 rfl) rfl
theorem q1012 : (Jvm.Cond.methodLink "ParlourLeaves" (332 : Nat) ({ cls := "ParlourLeaves", name := "one", desc := "(I)I" } : Jvm.MethodName)) ∈ lw_all := lw_g (lw_at lw_m4 184 rfl) rfl
theorem q1013 : (Jvm.Cond.privateMethod ({ cls := "ParlourLeaves", name := "one", desc := "(I)I" } : Jvm.MethodName)) ∈ lw_tbl := lw_at lw_m4 185 rfl
theorem q1014 : (Jvm.Cond.instanceMethod ({ cls := "ParlourLeaves", name := "one", desc := "(I)I" } : Jvm.MethodName)) ∈ lw_all := lw_g (lw_at lw_m4 186 rfl) rfl
theorem q1015 : (Jvm.Cond.code ({ cls := "ParlourLeaves", name := "one", desc := "(I)I" } : Jvm.MethodName) prog_1_method_6_code (2 : Nat) (Option.some Jvm.ClassFile.FieldType.int)) ∈ lw_all := lw_g (lw_at lw_m4 187 rfl) rfl
theorem q1016 : (Jvm.Cond.methodLink "ParlourLeaves" (342 : Nat) ({ cls := "ParlourLeaves", name := "offBy", desc := "(II)I" } : Jvm.MethodName)) ∈ lw_all := lw_g (lw_at lw_m4 188 rfl) rfl
theorem q1017 : (Jvm.Cond.privateMethod ({ cls := "ParlourLeaves", name := "offBy", desc := "(II)I" } : Jvm.MethodName)) ∈ lw_tbl := lw_at lw_m4 189 rfl
theorem q1018 : (Jvm.Cond.instanceMethod ({ cls := "ParlourLeaves", name := "offBy", desc := "(II)I" } : Jvm.MethodName)) ∈ lw_all := lw_g (lw_at lw_m4 190 rfl) rfl
theorem q1019 : (Jvm.Cond.code ({ cls := "ParlourLeaves", name := "offBy", desc := "(II)I" } : Jvm.MethodName) prog_1_method_33_code (3 : Nat) (Option.some Jvm.ClassFile.FieldType.int)) ∈ lw_all := lw_g (lw_at lw_m4 191 rfl) rfl
theorem q1020 : (Jvm.Cond.methodLink "ParlourLeaves" (324 : Nat) ({ cls := "java/lang/Integer", name := "bitCount", desc := "(I)I" } : Jvm.MethodName)) ∈ lw_all := lw_g (lw_at lw_m4 192 rfl) rfl
theorem q1021 : (Jvm.Cond.methodLink "ParlourLeaves" (329 : Nat) ({ cls := "java/lang/Math", name := "abs", desc := "(I)I" } : Jvm.MethodName)) ∈ lw_all := lw_g (lw_at lw_m4 193 rfl) rfl
theorem q1025 : (Jvm.Cond.instanceMethod ({ cls := "ParlourLeaves", name := "ask", desc := "()I" } : Jvm.MethodName)) ∈ lw_all := lw_g (lw_at lw_m4 197 rfl) rfl
theorem q1026 : (Jvm.Cond.selects "ParlourLeaves" ({ cls := "ParlourLeaves", name := "ask", desc := "()I" } : Jvm.MethodName) ({ cls := "ParlourLeaves", name := "ask", desc := "()I" } : Jvm.MethodName)) ∈ lw_all := lw_g (lw_at lw_m4 198 rfl) rfl
theorem q1027 : (Jvm.Cond.code ({ cls := "ParlourLeaves", name := "ask", desc := "()I" } : Jvm.MethodName) prog_1_method_35_code (1 : Nat) (Option.some Jvm.ClassFile.FieldType.int)) ∈ lw_all := lw_g (lw_at lw_m4 199 rfl) rfl
theorem q1029 : (Jvm.Cond.instanceMethod ({ cls := "ParlourLeaves", name := "cover", desc := "()I" } : Jvm.MethodName)) ∈ lw_all := lw_g (lw_at lw_m4 201 rfl) rfl
theorem q1030 : (Jvm.Cond.selects "ParlourLeaves" ({ cls := "ParlourLeaves", name := "cover", desc := "()I" } : Jvm.MethodName) ({ cls := "ParlourLeaves", name := "cover", desc := "()I" } : Jvm.MethodName)) ∈ lw_all := lw_g (lw_at lw_m4 202 rfl) rfl
theorem q1031 : (Jvm.Cond.code ({ cls := "ParlourLeaves", name := "cover", desc := "()I" } : Jvm.MethodName) prog_1_method_36_code (3 : Nat) (Option.some Jvm.ClassFile.FieldType.int)) ∈ lw_all := lw_g (lw_at lw_m4 203 rfl) rfl
theorem q1032 : (Jvm.Cond.methodLink "ParlourLeaves" (345 : Nat) ({ cls := "ParlourLeaves$House", name := "seenFrom", desc := "(I)I" } : Jvm.MethodName)) ∈ lw_all := lw_g (lw_at lw_m4 204 rfl) rfl
theorem q1034 : (Jvm.Cond.instanceMethod ({ cls := "ParlourLeaves", name := "covering", desc := "()I" } : Jvm.MethodName)) ∈ lw_all := lw_g (lw_at lw_m4 206 rfl) rfl
theorem q1035 : (Jvm.Cond.selects "ParlourLeaves" ({ cls := "ParlourLeaves", name := "covering", desc := "()I" } : Jvm.MethodName) ({ cls := "ParlourLeaves", name := "covering", desc := "()I" } : Jvm.MethodName)) ∈ lw_all := lw_g (lw_at lw_m4 207 rfl) rfl
theorem q1036 : (Jvm.Cond.code ({ cls := "ParlourLeaves", name := "covering", desc := "()I" } : Jvm.MethodName) prog_1_method_37_code (1 : Nat) (Option.some Jvm.ClassFile.FieldType.int)) ∈ lw_all := lw_g (lw_at lw_m4 208 rfl) rfl
theorem q1038 : (Jvm.Cond.instanceMethod ({ cls := "ParlourLeaves", name := "round", desc := "(I)I" } : Jvm.MethodName)) ∈ lw_all := lw_g (lw_at lw_m4 210 rfl) rfl
theorem q1039 : (Jvm.Cond.selects "ParlourLeaves" ({ cls := "ParlourLeaves", name := "round", desc := "(I)I" } : Jvm.MethodName) ({ cls := "ParlourLeaves", name := "round", desc := "(I)I" } : Jvm.MethodName)) ∈ lw_all := lw_g (lw_at lw_m4 211 rfl) rfl
theorem q1040 : (Jvm.Cond.code ({ cls := "ParlourLeaves", name := "round", desc := "(I)I" } : Jvm.MethodName) prog_1_method_40_code (8 : Nat) (Option.some Jvm.ClassFile.FieldType.int)) ∈ lw_all := lw_g (lw_at lw_m4 212 rfl) rfl
theorem q1041 : (Jvm.Cond.methodLink "ParlourLeaves" (358 : Nat) ({ cls := "ParlourLeaves", name := "layLeft", desc := "(I)V" } : Jvm.MethodName)) ∈ lw_all := lw_g (lw_at lw_m4 213 rfl) rfl
theorem q1042 : (Jvm.Cond.privateMethod ({ cls := "ParlourLeaves", name := "layLeft", desc := "(I)V" } : Jvm.MethodName)) ∈ lw_tbl := lw_at lw_m4 214 rfl
theorem q1043 : (Jvm.Cond.instanceMethod ({ cls := "ParlourLeaves", name := "layLeft", desc := "(I)V" } : Jvm.MethodName)) ∈ lw_all := lw_g (lw_at lw_m4 215 rfl) rfl
theorem q1044 : (Jvm.Cond.code ({ cls := "ParlourLeaves", name := "layLeft", desc := "(I)V" } : Jvm.MethodName) prog_1_method_39_code (6 : Nat) (Option.none : Option Jvm.ClassFile.FieldType)) ∈ lw_all := lw_g (lw_at lw_m4 216 rfl) rfl
theorem q1045 : (Jvm.Cond.constant "ParlourLeaves" (354 : Nat) (100000 : Int32)) ∈ lw_all := lw_g (lw_at lw_m4 217 rfl) rfl
theorem q1046 : (Jvm.Cond.methodLink "ParlourLeaves" (355 : Nat) ({ cls := "ParlourLeaves", name := "leftBy", desc := "(II)I" } : Jvm.MethodName)) ∈ lw_all := lw_g (lw_at lw_m4 218 rfl) rfl
theorem q1047 : (Jvm.Cond.privateMethod ({ cls := "ParlourLeaves", name := "leftBy", desc := "(II)I" } : Jvm.MethodName)) ∈ lw_tbl := lw_at lw_m4 219 rfl
theorem q1048 : (Jvm.Cond.instanceMethod ({ cls := "ParlourLeaves", name := "leftBy", desc := "(II)I" } : Jvm.MethodName)) ∈ lw_all := lw_g (lw_at lw_m4 220 rfl) rfl
theorem q1049 : (Jvm.Cond.code ({ cls := "ParlourLeaves", name := "leftBy", desc := "(II)I" } : Jvm.MethodName) prog_1_method_38_code (3 : Nat) (Option.some Jvm.ClassFile.FieldType.int)) ∈ lw_all := lw_g (lw_at lw_m4 221 rfl) rfl
theorem q1051 : (Jvm.Cond.instanceMethod ({ cls := "ParlourLeaves", name := "roundAt", desc := "(I)I" } : Jvm.MethodName)) ∈ lw_all := lw_g (lw_at lw_m4 223 rfl) rfl
theorem q1052 : (Jvm.Cond.selects "ParlourLeaves" ({ cls := "ParlourLeaves", name := "roundAt", desc := "(I)I" } : Jvm.MethodName) ({ cls := "ParlourLeaves", name := "roundAt", desc := "(I)I" } : Jvm.MethodName)) ∈ lw_all := lw_g (lw_at lw_m4 224 rfl) rfl
theorem q1053 : (Jvm.Cond.code ({ cls := "ParlourLeaves", name := "roundAt", desc := "(I)I" } : Jvm.MethodName) prog_1_method_41_code (2 : Nat) (Option.some Jvm.ClassFile.FieldType.int)) ∈ lw_all := lw_g (lw_at lw_m4 225 rfl) rfl
theorem q1055 : (Jvm.Cond.instanceMethod ({ cls := "ParlourLeaves", name := "choice", desc := "()I" } : Jvm.MethodName)) ∈ lw_all := lw_g (lw_at lw_m4 227 rfl) rfl
theorem q1056 : (Jvm.Cond.selects "ParlourLeaves" ({ cls := "ParlourLeaves", name := "choice", desc := "()I" } : Jvm.MethodName) ({ cls := "ParlourLeaves", name := "choice", desc := "()I" } : Jvm.MethodName)) ∈ lw_all := lw_g (lw_at lw_m4 228 rfl) rfl
theorem q1057 : (Jvm.Cond.code ({ cls := "ParlourLeaves", name := "choice", desc := "()I" } : Jvm.MethodName) prog_1_method_43_code (5 : Nat) (Option.some Jvm.ClassFile.FieldType.int)) ∈ lw_all := lw_g (lw_at lw_m4 229 rfl) rfl
theorem q1058 : (Jvm.Cond.methodLink "ParlourLeaves" (367 : Nat) ({ cls := "ParlourLeaves", name := "fewest", desc := "()I" } : Jvm.MethodName)) ∈ lw_all := lw_g (lw_at lw_m4 230 rfl) rfl
theorem q1059 : (Jvm.Cond.privateMethod ({ cls := "ParlourLeaves", name := "fewest", desc := "()I" } : Jvm.MethodName)) ∈ lw_tbl := lw_at lw_m4 231 rfl
theorem q1060 : (Jvm.Cond.instanceMethod ({ cls := "ParlourLeaves", name := "fewest", desc := "()I" } : Jvm.MethodName)) ∈ lw_all := lw_g (lw_at lw_m4 232 rfl) rfl
theorem q1061 : (Jvm.Cond.code ({ cls := "ParlourLeaves", name := "fewest", desc := "()I" } : Jvm.MethodName) prog_1_method_42_code (3 : Nat) (Option.some Jvm.ClassFile.FieldType.int)) ∈ lw_all := lw_g (lw_at lw_m4 233 rfl) rfl
theorem q1062 : (Jvm.Cond.methodLink "ParlourLeaves" (361 : Nat) ({ cls := "ParlourLeaves$State", name := "seers", desc := "(LParlourLeaves$House;I)I" } : Jvm.MethodName)) ∈ lw_all := lw_g (lw_at lw_m4 234 rfl) rfl
theorem q1067 : (Jvm.Cond.instanceMethod ({ cls := "ParlourLeaves", name := "chosen", desc := "(I)I" } : Jvm.MethodName)) ∈ lw_all := lw_g (lw_at lw_m4 239 rfl) rfl
theorem q1068 : (Jvm.Cond.selects "ParlourLeaves" ({ cls := "ParlourLeaves", name := "chosen", desc := "(I)I" } : Jvm.MethodName) ({ cls := "ParlourLeaves", name := "chosen", desc := "(I)I" } : Jvm.MethodName)) ∈ lw_all := lw_g (lw_at lw_m5 0 rfl) rfl
theorem q1069 : (Jvm.Cond.code ({ cls := "ParlourLeaves", name := "chosen", desc := "(I)I" } : Jvm.MethodName) prog_1_method_44_code (2 : Nat) (Option.some Jvm.ClassFile.FieldType.int)) ∈ lw_all := lw_g (lw_at lw_m5 1 rfl) rfl
theorem q1071 : (Jvm.Cond.instanceMethod ({ cls := "ParlourLeaves", name := "elder", desc := "()I" } : Jvm.MethodName)) ∈ lw_all := lw_g (lw_at lw_m5 3 rfl) rfl
theorem q1072 : (Jvm.Cond.selects "ParlourLeaves" ({ cls := "ParlourLeaves", name := "elder", desc := "()I" } : Jvm.MethodName) ({ cls := "ParlourLeaves", name := "elder", desc := "()I" } : Jvm.MethodName)) ∈ lw_all := lw_g (lw_at lw_m5 4 rfl) rfl
theorem q1073 : (Jvm.Cond.code ({ cls := "ParlourLeaves", name := "elder", desc := "()I" } : Jvm.MethodName) prog_1_method_45_code (3 : Nat) (Option.some Jvm.ClassFile.FieldType.int)) ∈ lw_all := lw_g (lw_at lw_m5 5 rfl) rfl
theorem q1075 : (Jvm.Cond.instanceMethod ({ cls := "ParlourLeaves", name := "card", desc := "(I)I" } : Jvm.MethodName)) ∈ lw_all := lw_g (lw_at lw_m5 7 rfl) rfl
theorem q1076 : (Jvm.Cond.selects "ParlourLeaves" ({ cls := "ParlourLeaves", name := "card", desc := "(I)I" } : Jvm.MethodName) ({ cls := "ParlourLeaves", name := "card", desc := "(I)I" } : Jvm.MethodName)) ∈ lw_all := lw_g (lw_at lw_m5 8 rfl) rfl
theorem q1077 : (Jvm.Cond.code ({ cls := "ParlourLeaves", name := "card", desc := "(I)I" } : Jvm.MethodName) prog_1_method_49_code (2 : Nat) (Option.some Jvm.ClassFile.FieldType.int)) ∈ lw_all := lw_g (lw_at lw_m5 9 rfl) rfl
theorem q1078 : (Jvm.Cond.methodLink "ParlourLeaves" (400 : Nat) ({ cls := "ParlourLeaves", name := "put", desc := "(J)V" } : Jvm.MethodName)) ∈ lw_all := lw_g (lw_at lw_m5 10 rfl) rfl
theorem q1079 : (Jvm.Cond.privateMethod ({ cls := "ParlourLeaves", name := "put", desc := "(J)V" } : Jvm.MethodName)) ∈ lw_tbl := lw_at lw_m5 11 rfl
theorem q1080 : (Jvm.Cond.instanceMethod ({ cls := "ParlourLeaves", name := "put", desc := "(J)V" } : Jvm.MethodName)) ∈ lw_all := lw_g (lw_at lw_m5 12 rfl) rfl
theorem q1081 : (Jvm.Cond.code ({ cls := "ParlourLeaves", name := "put", desc := "(J)V" } : Jvm.MethodName) prog_1_method_48_code (4 : Nat) (Option.none : Option Jvm.ClassFile.FieldType)) ∈ lw_all := lw_g (lw_at lw_m5 13 rfl) rfl
theorem q1082 : (Jvm.Cond.constantLong "ParlourLeaves" (394 : Nat) (255 : Int64)) ∈ lw_all := lw_g (lw_at lw_m5 14 rfl) rfl
theorem q1083 : (Jvm.Cond.methodLink "ParlourLeaves" (391 : Nat) ({ cls := "ParlourLeaves", name := "put", desc := "(I)V" } : Jvm.MethodName)) ∈ lw_all := lw_g (lw_at lw_m5 15 rfl) rfl
theorem q1084 : (Jvm.Cond.privateMethod ({ cls := "ParlourLeaves", name := "put", desc := "(I)V" } : Jvm.MethodName)) ∈ lw_tbl := lw_at lw_m5 16 rfl
theorem q1085 : (Jvm.Cond.instanceMethod ({ cls := "ParlourLeaves", name := "put", desc := "(I)V" } : Jvm.MethodName)) ∈ lw_all := lw_g (lw_at lw_m5 17 rfl) rfl
theorem q1086 : (Jvm.Cond.code ({ cls := "ParlourLeaves", name := "put", desc := "(I)V" } : Jvm.MethodName) prog_1_method_46_code (2 : Nat) (Option.none : Option Jvm.ClassFile.FieldType)) ∈ lw_all := lw_g (lw_at lw_m5 18 rfl) rfl
theorem q1087 : (Jvm.Cond.stringRef "ParlourLeaves" (403 : Nat) " is a fern") ∈ lw_tbl := lw_at lw_m5 19 rfl
theorem q1088 : (Jvm.Cond.methodLink "ParlourLeaves" (405 : Nat) ({ cls := "ParlourLeaves", name := "put", desc := "(Ljava/lang/String;)V" } : Jvm.MethodName)) ∈ lw_all := lw_g (lw_at lw_m5 20 rfl) rfl
theorem q1089 : (Jvm.Cond.privateMethod ({ cls := "ParlourLeaves", name := "put", desc := "(Ljava/lang/String;)V" } : Jvm.MethodName)) ∈ lw_tbl := lw_at lw_m5 21 rfl
theorem q1090 : (Jvm.Cond.instanceMethod ({ cls := "ParlourLeaves", name := "put", desc := "(Ljava/lang/String;)V" } : Jvm.MethodName)) ∈ lw_all := lw_g (lw_at lw_m5 22 rfl) rfl
theorem q1091 : (Jvm.Cond.code ({ cls := "ParlourLeaves", name := "put", desc := "(Ljava/lang/String;)V" } : Jvm.MethodName) prog_1_method_47_code (3 : Nat) (Option.none : Option Jvm.ClassFile.FieldType)) ∈ lw_all := lw_g (lw_at lw_m5 23 rfl) rfl
theorem q1092 : (Jvm.Cond.methodLink "ParlourLeaves" (385 : Nat) ({ cls := "java/lang/String", name := "length", desc := "()I" } : Jvm.MethodName)) ∈ lw_all := lw_g (lw_at lw_m5 24 rfl) rfl
theorem q1093 : (Jvm.Cond.methodLink "ParlourLeaves" (387 : Nat) ({ cls := "java/lang/String", name := "charAt", desc := "(I)C" } : Jvm.MethodName)) ∈ lw_all := lw_g (lw_at lw_m5 25 rfl) rfl
theorem q1094 : (Jvm.Cond.stringRef "ParlourLeaves" (408 : Nat) " has ") ∈ lw_tbl := lw_at lw_m5 26 rfl
theorem q1095 : (Jvm.Cond.methodLink "ParlourLeaves" (410 : Nat) ({ cls := "java/lang/Integer", name := "toString", desc := "(I)Ljava/lang/String;" } : Jvm.MethodName)) ∈ lw_all := lw_g (lw_at lw_m5 27 rfl) rfl
theorem q1134 : (Jvm.Cond.stringRef "ParlourLeaves" (414 : Nat) " blind") ∈ lw_tbl := lw_at lw_m5 66 rfl
theorem q1136 : (Jvm.Cond.instanceMethod ({ cls := "ParlourLeaves", name := "byteAt", desc := "(I)I" } : Jvm.MethodName)) ∈ lw_all := lw_g (lw_at lw_m5 68 rfl) rfl
theorem q1137 : (Jvm.Cond.selects "ParlourLeaves" ({ cls := "ParlourLeaves", name := "byteAt", desc := "(I)I" } : Jvm.MethodName) ({ cls := "ParlourLeaves", name := "byteAt", desc := "(I)I" } : Jvm.MethodName)) ∈ lw_all := lw_g (lw_at lw_m5 69 rfl) rfl
theorem q1138 : (Jvm.Cond.code ({ cls := "ParlourLeaves", name := "byteAt", desc := "(I)I" } : Jvm.MethodName) prog_1_method_50_code (2 : Nat) (Option.some Jvm.ClassFile.FieldType.int)) ∈ lw_all := lw_g (lw_at lw_m5 70 rfl) rfl
theorem q1140 : (Jvm.Cond.instanceMethod ({ cls := "ParlourLeaves", name := "drawn", desc := "(II)I" } : Jvm.MethodName)) ∈ lw_all := lw_g (lw_at lw_m5 72 rfl) rfl
theorem q1141 : (Jvm.Cond.selects "ParlourLeaves" ({ cls := "ParlourLeaves", name := "drawn", desc := "(II)I" } : Jvm.MethodName) ({ cls := "ParlourLeaves", name := "drawn", desc := "(II)I" } : Jvm.MethodName)) ∈ lw_all := lw_g (lw_at lw_m5 73 rfl) rfl
theorem q1142 : (Jvm.Cond.code ({ cls := "ParlourLeaves", name := "drawn", desc := "(II)I" } : Jvm.MethodName) prog_1_method_51_code (3 : Nat) (Option.some Jvm.ClassFile.FieldType.int)) ∈ lw_all := lw_g (lw_at lw_m5 74 rfl) rfl
theorem q1143 : (Jvm.Cond.methodLink "ParlourLeaves" (416 : Nat) ({ cls := "ParlourLeaves$State", name := "draws", desc := "(LParlourLeaves$House;II)I" } : Jvm.MethodName)) ∈ lw_all := lw_g (lw_at lw_m5 75 rfl) rfl
theorem q1159 : (Jvm.Cond.instanceMethod ({ cls := "ParlourLeaves", name := "odds", desc := "(III)I" } : Jvm.MethodName)) ∈ lw_all := lw_g (lw_at lw_m5 91 rfl) rfl
theorem q1160 : (Jvm.Cond.selects "ParlourLeaves" ({ cls := "ParlourLeaves", name := "odds", desc := "(III)I" } : Jvm.MethodName) ({ cls := "ParlourLeaves", name := "odds", desc := "(III)I" } : Jvm.MethodName)) ∈ lw_all := lw_g (lw_at lw_m5 92 rfl) rfl
theorem q1161 : (Jvm.Cond.code ({ cls := "ParlourLeaves", name := "odds", desc := "(III)I" } : Jvm.MethodName) prog_1_method_53_code (6 : Nat) (Option.some Jvm.ClassFile.FieldType.int)) ∈ lw_all := lw_g (lw_at lw_m5 93 rfl) rfl
theorem q1162 : (Jvm.Cond.methodLink "ParlourLeaves" (420 : Nat) ({ cls := "ParlourLeaves", name := "isCaught", desc := "(I)Z" } : Jvm.MethodName)) ∈ lw_all := lw_g (lw_at lw_m5 94 rfl) rfl
theorem q1163 : (Jvm.Cond.privateMethod ({ cls := "ParlourLeaves", name := "isCaught", desc := "(I)Z" } : Jvm.MethodName)) ∈ lw_tbl := lw_at lw_m5 95 rfl
theorem q1164 : (Jvm.Cond.instanceMethod ({ cls := "ParlourLeaves", name := "isCaught", desc := "(I)Z" } : Jvm.MethodName)) ∈ lw_all := lw_g (lw_at lw_m5 96 rfl) rfl
theorem q1165 : (Jvm.Cond.code ({ cls := "ParlourLeaves", name := "isCaught", desc := "(I)Z" } : Jvm.MethodName) prog_1_method_52_code (3 : Nat) (Option.some Jvm.ClassFile.FieldType.boolean)) ∈ lw_all := lw_g (lw_at lw_m5 97 rfl) rfl
theorem q1167 : (Jvm.Cond.instanceMethod ({ cls := "ParlourLeaves", name := "book", desc := "(I)I" } : Jvm.MethodName)) ∈ lw_all := lw_g (lw_at lw_m5 99 rfl) rfl
theorem q1168 : (Jvm.Cond.selects "ParlourLeaves" ({ cls := "ParlourLeaves", name := "book", desc := "(I)I" } : Jvm.MethodName) ({ cls := "ParlourLeaves", name := "book", desc := "(I)I" } : Jvm.MethodName)) ∈ lw_all := lw_g (lw_at lw_m5 100 rfl) rfl
theorem q1169 : (Jvm.Cond.codeWith ({ cls := "ParlourLeaves", name := "book", desc := "(I)I" } : Jvm.MethodName) prog_1_method_54_code (7 : Nat) (Option.some Jvm.ClassFile.FieldType.int) [((22 : Nat), (29 : Nat), (32 : Nat), (13 : Nat))]) ∈ lw_all := lw_g (lw_at lw_m5 101 rfl) rfl
theorem q1170 : (Jvm.Cond.methodLink "ParlourLeaves" (423 : Nat) ({ cls := "ParlourLeaves$BookReader", name := "read", desc := "()V" } : Jvm.MethodName)) ∈ lw_all := lw_g (lw_at lw_m5 102 rfl) rfl
theorem q1258 : (Jvm.Cond.methodLink "ParlourLeaves" (432 : Nat) ({ cls := "ParlourLeaves$Line", name := "why", desc := "(LParlourLeaves$House;LParlourLeaves$State;)I" } : Jvm.MethodName)) ∈ lw_all := lw_g (lw_at lw_m5 190 rfl) rfl
theorem q1282 : (Jvm.Cond.methodLink "ParlourLeaves" (438 : Nat) ({ cls := "ParlourLeaves$Line", name := "live", desc := "(LParlourLeaves$House;LParlourLeaves$State;)V" } : Jvm.MethodName)) ∈ lw_all := lw_g (lw_at lw_m5 214 rfl) rfl
theorem q1300 : (Jvm.Cond.instanceMethod ({ cls := "ParlourLeaves", name := "told", desc := "(I)I" } : Jvm.MethodName)) ∈ lw_all := lw_g (lw_at lw_m5 232 rfl) rfl
theorem q1301 : (Jvm.Cond.selects "ParlourLeaves" ({ cls := "ParlourLeaves", name := "told", desc := "(I)I" } : Jvm.MethodName) ({ cls := "ParlourLeaves", name := "told", desc := "(I)I" } : Jvm.MethodName)) ∈ lw_all := lw_g (lw_at lw_m5 233 rfl) rfl
theorem q1302 : (Jvm.Cond.code ({ cls := "ParlourLeaves", name := "told", desc := "(I)I" } : Jvm.MethodName) prog_1_method_55_code (2 : Nat) (Option.some Jvm.ClassFile.FieldType.int)) ∈ lw_all := lw_g (lw_at lw_m5 234 rfl) rfl
theorem q1304 : (Jvm.Cond.instanceMethod ({ cls := "ParlourLeaves", name := "sentence", desc := "()I" } : Jvm.MethodName)) ∈ lw_all := lw_g (lw_at lw_m5 236 rfl) rfl
theorem q1305 : (Jvm.Cond.selects "ParlourLeaves" ({ cls := "ParlourLeaves", name := "sentence", desc := "()I" } : Jvm.MethodName) ({ cls := "ParlourLeaves", name := "sentence", desc := "()I" } : Jvm.MethodName)) ∈ lw_all := lw_g (lw_at lw_m5 237 rfl) rfl
theorem q1306 : (Jvm.Cond.codeWith ({ cls := "ParlourLeaves", name := "sentence", desc := "()I" } : Jvm.MethodName) prog_1_method_56_code (2 : Nat) (Option.some Jvm.ClassFile.FieldType.int) [((9 : Nat), (27 : Nat), (28 : Nat), (13 : Nat))]) ∈ lw_all := lw_g (lw_at lw_m5 238 rfl) rfl
theorem q1307 : (Jvm.Cond.methodLink "ParlourLeaves" (445 : Nat) ({ cls := "ParlourLeaves$SentenceReader", name := "read", desc := "()LParlourLeaves$Cond;" } : Jvm.MethodName)) ∈ lw_all := lw_g (lw_at lw_m5 239 rfl) rfl
theorem q1417 : (Jvm.Cond.instanceMethod ({ cls := "ParlourLeaves", name := "said", desc := "(I)I" } : Jvm.MethodName)) ∈ lw_all := lw_g (lw_at lw_m6 109 rfl) rfl
theorem q1418 : (Jvm.Cond.selects "ParlourLeaves" ({ cls := "ParlourLeaves", name := "said", desc := "(I)I" } : Jvm.MethodName) ({ cls := "ParlourLeaves", name := "said", desc := "(I)I" } : Jvm.MethodName)) ∈ lw_all := lw_g (lw_at lw_m6 110 rfl) rfl
theorem q1419 : (Jvm.Cond.code ({ cls := "ParlourLeaves", name := "said", desc := "(I)I" } : Jvm.MethodName) prog_1_method_57_code (4 : Nat) (Option.some Jvm.ClassFile.FieldType.int)) ∈ lw_all := lw_g (lw_at lw_m6 111 rfl) rfl
theorem q1420 : (Jvm.Cond.interfaceEntry "ParlourLeaves" (451 : Nat)) ∈ lw_tbl := lw_at lw_m6 112 rfl
theorem q1421 : (Jvm.Cond.methodLink "ParlourLeaves" (451 : Nat) ({ cls := "ParlourLeaves$Cond", name := "is", desc := "(LParlourLeaves;I)Z" } : Jvm.MethodName)) ∈ lw_all := lw_g (lw_at lw_m6 113 rfl) rfl
theorem q1469 : (Jvm.Cond.instanceMethod ({ cls := "ParlourLeaves", name := "image", desc := "(I)Z" } : Jvm.MethodName)) ∈ lw_all := lw_g (lw_at lw_m6 161 rfl) rfl
theorem q1470 : (Jvm.Cond.selects "ParlourLeaves" ({ cls := "ParlourLeaves", name := "image", desc := "(I)Z" } : Jvm.MethodName) ({ cls := "ParlourLeaves", name := "image", desc := "(I)Z" } : Jvm.MethodName)) ∈ lw_all := lw_g (lw_at lw_m6 162 rfl) rfl
theorem q1471 : (Jvm.Cond.code ({ cls := "ParlourLeaves", name := "image", desc := "(I)Z" } : Jvm.MethodName) prog_1_method_58_code (3 : Nat) (Option.some Jvm.ClassFile.FieldType.boolean)) ∈ lw_all := lw_g (lw_at lw_m6 163 rfl) rfl
theorem q1473 : (Jvm.Cond.methodLinkNest "ParlourLeaves" (457 : Nat) ({ cls := "ParlourLeaves$Kept", name := "<init>", desc := "()V" } : Jvm.MethodName) "ParlourLeaves") ∈ lw_tbl := lw_at lw_m6 165 rfl
theorem q1479 : (Jvm.Cond.fieldLinkNest "ParlourLeaves" (458 : Nat) "ParlourLeaves$Kept" "house" "LParlourLeaves$House;" "ParlourLeaves") ∈ lw_tbl := lw_at lw_m6 171 rfl
theorem q1481 : (Jvm.Cond.fieldLinkNest "ParlourLeaves" (459 : Nat) "ParlourLeaves$Kept" "state" "LParlourLeaves$State;" "ParlourLeaves") ∈ lw_tbl := lw_at lw_m6 173 rfl
theorem q1482 : (Jvm.Cond.fieldLinkNest "ParlourLeaves" (462 : Nat) "ParlourLeaves$Kept" "sentence" "LParlourLeaves$Cond;" "ParlourLeaves") ∈ lw_tbl := lw_at lw_m6 174 rfl
theorem q1491 : (Jvm.Cond.instanceMethod ({ cls := "ParlourLeaves", name := "restore", desc := "(I)Z" } : Jvm.MethodName)) ∈ lw_all := lw_g (lw_at lw_m6 183 rfl) rfl
theorem q1492 : (Jvm.Cond.selects "ParlourLeaves" ({ cls := "ParlourLeaves", name := "restore", desc := "(I)Z" } : Jvm.MethodName) ({ cls := "ParlourLeaves", name := "restore", desc := "(I)Z" } : Jvm.MethodName)) ∈ lw_all := lw_g (lw_at lw_m6 184 rfl) rfl
theorem q1493 : (Jvm.Cond.code ({ cls := "ParlourLeaves", name := "restore", desc := "(I)Z" } : Jvm.MethodName) prog_1_method_59_code (3 : Nat) (Option.some Jvm.ClassFile.FieldType.boolean)) ∈ lw_all := lw_g (lw_at lw_m6 185 rfl) rfl
theorem q1495 : (Jvm.Cond.instanceMethod ({ cls := "ParlourLeaves", name := "count", desc := "(I)I" } : Jvm.MethodName)) ∈ lw_all := lw_g (lw_at lw_m6 187 rfl) rfl
theorem q1496 : (Jvm.Cond.selects "ParlourLeaves" ({ cls := "ParlourLeaves", name := "count", desc := "(I)I" } : Jvm.MethodName) ({ cls := "ParlourLeaves", name := "count", desc := "(I)I" } : Jvm.MethodName)) ∈ lw_all := lw_g (lw_at lw_m6 188 rfl) rfl
theorem q1497 : (Jvm.Cond.code ({ cls := "ParlourLeaves", name := "count", desc := "(I)I" } : Jvm.MethodName) prog_1_method_60_code (2 : Nat) (Option.some Jvm.ClassFile.FieldType.int)) ∈ lw_all := lw_g (lw_at lw_m6 189 rfl) rfl
theorem q1503 : (Jvm.Cond.instanceMethod ({ cls := "ParlourLeaves", name := "plant", desc := "(II)I" } : Jvm.MethodName)) ∈ lw_all := lw_g (lw_at lw_m6 195 rfl) rfl
theorem q1504 : (Jvm.Cond.selects "ParlourLeaves" ({ cls := "ParlourLeaves", name := "plant", desc := "(II)I" } : Jvm.MethodName) ({ cls := "ParlourLeaves", name := "plant", desc := "(II)I" } : Jvm.MethodName)) ∈ lw_all := lw_g (lw_at lw_m6 196 rfl) rfl
theorem q1505 : (Jvm.Cond.code ({ cls := "ParlourLeaves", name := "plant", desc := "(II)I" } : Jvm.MethodName) prog_1_method_17_code (3 : Nat) (Option.some Jvm.ClassFile.FieldType.int)) ∈ lw_all := lw_g (lw_at lw_m6 197 rfl) rfl
theorem q1506 : (Jvm.Cond.methodLink "ParlourLeaves" (205 : Nat) ({ cls := "ParlourLeaves", name := "must", desc := "(Z)V" } : Jvm.MethodName)) ∈ lw_all := lw_g (lw_at lw_m6 198 rfl) rfl
theorem q1507 : (Jvm.Cond.static ({ cls := "ParlourLeaves", name := "must", desc := "(Z)V" } : Jvm.MethodName)) ∈ lw_all := lw_g (lw_at lw_m6 199 rfl) rfl
theorem q1508 : (Jvm.Cond.code ({ cls := "ParlourLeaves", name := "must", desc := "(Z)V" } : Jvm.MethodName) prog_1_method_8_code (1 : Nat) (Option.none : Option Jvm.ClassFile.FieldType)) ∈ lw_all := lw_g (lw_at lw_m6 200 rfl) rfl
theorem q1509 : (Jvm.Cond.classLink "ParlourLeaves" (156 : Nat) "java/util/NoSuchElementException") ∈ lw_all := lw_g (lw_at lw_m6 201 rfl) rfl
theorem q1520 : (Jvm.Cond.methodLink "ParlourLeaves" (158 : Nat) ({ cls := "java/util/NoSuchElementException", name := "<init>", desc := "()V" } : Jvm.MethodName)) ∈ lw_all := lw_g (lw_at lw_m6 212 rfl) rfl
theorem q1532 : (Jvm.Cond.methodLink "ParlourLeaves" (229 : Nat) ({ cls := "ParlourLeaves$State", name := "shown", desc := "(I)I" } : Jvm.MethodName)) ∈ lw_all := lw_g (lw_at lw_m6 224 rfl) rfl
theorem q1540 : (Jvm.Cond.instanceMethod ({ cls := "ParlourLeaves", name := "act", desc := "(II)I" } : Jvm.MethodName)) ∈ lw_all := lw_g (lw_at lw_m6 232 rfl) rfl
theorem q1541 : (Jvm.Cond.selects "ParlourLeaves" ({ cls := "ParlourLeaves", name := "act", desc := "(II)I" } : Jvm.MethodName) ({ cls := "ParlourLeaves", name := "act", desc := "(II)I" } : Jvm.MethodName)) ∈ lw_all := lw_g (lw_at lw_m6 233 rfl) rfl
theorem q1542 : (Jvm.Cond.code ({ cls := "ParlourLeaves", name := "act", desc := "(II)I" } : Jvm.MethodName) prog_1_method_18_code (3 : Nat) (Option.some Jvm.ClassFile.FieldType.int)) ∈ lw_all := lw_g (lw_at lw_m6 234 rfl) rfl
theorem q1543 : (Jvm.Cond.methodLink "ParlourLeaves" (248 : Nat) ({ cls := "ParlourLeaves$State", name := "witnesses", desc := "(LParlourLeaves$House;IZ)I" } : Jvm.MethodName)) ∈ lw_all := lw_g (lw_at lw_m6 235 rfl) rfl
theorem q2217 : (Jvm.Cond.castable "ParlourLeaves" "java/lang/Object") ∈ lw_tbl := lw_at lw_m9 189 rfl
theorem in_X1 : ∀ w ∈ wsX10, w ∈ lw_all := lw_in wsX10 [565, 567, 569, 571, 573, 575, 577, 579, 581, 583, 585, 587, 589, 591, 593, 595, 597, 599, 601, 603, 605, 607, 609, 611, 613, 615, 617, 619, 621, 623, 625, 627, 629] (by decide +kernel) (by decide +kernel)
/-! ParlourLeaves$Fault -/
set_option maxRecDepth 100000
def RX2 : String := "ParlourLeaves$Fault"
def TX2 : u_T := fun k => match k with
  | 0 => ("java/lang/Throwable", "cause", "Ljava/lang/Throwable;", false)
  | 1 => ("java/lang/Throwable", "stackTrace", "[Ljava/lang/StackTraceElement;", false)
  | 2 => ("java/lang/Throwable", "suppressedExceptions", "Ljava/util/List;", false)
  | 3 => ("java/lang/Throwable", "detailMessage", "Ljava/lang/String;", false)
  | 4 => ("java/lang/Throwable", "backtrace", "Ljava/lang/Object;", false)
  | 5 => ("java/lang/Throwable", "depth", "I", false)
  | 6 => ("ParlourLeaves$Fault", "kind", "I", false)
  | _ => ("ParlourLeaves$Fault", "place", "I", false)
def tyX2 : Nat → FieldType := fun k => match k with
  | 0 => .object "java/lang/Throwable"
  | 1 => .array (.object "java/lang/StackTraceElement")
  | 2 => .object "java/util/List"
  | 3 => .object "java/lang/String"
  | 4 => .object "java/lang/Object"
  | 5 => .int
  | 6 => .int
  | _ => .int
abbrev wsX20 : List Cond := u_ws RX2 TX2 8
theorem nmX2 : ∀ a, a < 8 → ∀ b, b < 8 → a ≠ b → (TX2 a).2.1 ≠ (TX2 b).2.1 := by decide +kernel
theorem tyX2_ok : ∀ k, k < 8 → parseFieldDescriptor (TX2 k).2.2.1 = some (tyX2 k) := by decide +kernel
abbrev cX2_init : ByteArray := prog_10_method_1_code
def yX2_init : MethodName := ⟨RX2, "<init>", "()V"⟩
def dkwX2_init_0 : List UInt8 := [42, 1, 1, 3, 3, 183, 0, 1, 177]
abbrev dktX2_init_0 : List UInt8 := dkwX2_init_0 ++ []
theorem dksX2_init_0 : cX2_init.data.toList.drop 0 = dktX2_init_0 := by decide +kernel
theorem dX2_init_0 : decode cX2_init 0 = .ok (.aload_n 0, 1) := dk_42 (dk_at dksX2_init_0 0 rfl rfl)
theorem dX2_init_1 : decode cX2_init 1 = .ok (.aconst_null, 1) := dk_1 (dk_at dksX2_init_0 1 rfl rfl)
theorem dX2_init_2 : decode cX2_init 2 = .ok (.aconst_null, 1) := dk_1 (dk_at dksX2_init_0 2 rfl rfl)
theorem dX2_init_3 : decode cX2_init 3 = .ok (.iconst 0, 1) := dk_3 (dk_at dksX2_init_0 3 rfl rfl)
theorem dX2_init_4 : decode cX2_init 4 = .ok (.iconst 0, 1) := dk_3 (dk_at dksX2_init_0 4 rfl rfl)
theorem dX2_init_5 : decode cX2_init 5 = .ok (.invokespecial 1, 3) := dk_183 0 1 (dk_at dksX2_init_0 5 rfl rfl)
theorem dX2_init_8 : decode cX2_init 8 = .ok (.return_, 1) := dk_177 (dk_at dksX2_init_0 8 rfl rfl)
theorem q112 : (Jvm.Cond.initialized "ParlourLeaves$Fault") ∈ lw_all := lw_g (lw_at lw_m1 4 rfl) rfl
theorem q151 : (Jvm.Cond.instantiable "ParlourLeaves$Fault" (8 : Nat)) ∈ lw_all := lw_g (lw_at lw_m1 43 rfl) rfl
theorem q152 : (Jvm.Cond.castable "ParlourLeaves$Fault" "ParlourLeaves$Fault") ∈ lw_tbl := lw_at lw_m1 44 rfl
theorem q157 : (Jvm.Cond.selects "ParlourLeaves$Fault" ({ cls := "java/lang/Throwable", name := "fillInStackTrace", desc := "(I)Ljava/lang/Throwable;" } : Jvm.MethodName) ({ cls := "java/lang/Throwable", name := "fillInStackTrace", desc := "(I)Ljava/lang/Throwable;" } : Jvm.MethodName)) ∈ lw_all := lw_g (lw_at lw_m1 49 rfl) rfl
theorem q158 : (Jvm.Cond.selects "ParlourLeaves$Fault" ({ cls := "java/lang/Throwable", name := "fillInStackTrace", desc := "()Ljava/lang/Throwable;" } : Jvm.MethodName) ({ cls := "java/lang/Throwable", name := "fillInStackTrace", desc := "()Ljava/lang/Throwable;" } : Jvm.MethodName)) ∈ lw_all := lw_g (lw_at lw_m1 50 rfl) rfl
theorem q159 : (Jvm.Cond.lays "ParlourLeaves$Fault" "java/lang/Throwable" "cause" "Ljava/lang/Throwable;") ∈ lw_all := lw_g (lw_at lw_m1 51 rfl) rfl
theorem q161 : (Jvm.Cond.lays "ParlourLeaves$Fault" "java/lang/Throwable" "stackTrace" "[Ljava/lang/StackTraceElement;") ∈ lw_all := lw_g (lw_at lw_m1 53 rfl) rfl
theorem q163 : (Jvm.Cond.lays "ParlourLeaves$Fault" "java/lang/Throwable" "suppressedExceptions" "Ljava/util/List;") ∈ lw_all := lw_g (lw_at lw_m1 55 rfl) rfl
theorem q165 : (Jvm.Cond.lays "ParlourLeaves$Fault" "java/lang/Throwable" "detailMessage" "Ljava/lang/String;") ∈ lw_all := lw_g (lw_at lw_m1 57 rfl) rfl
theorem q167 : (Jvm.Cond.lays "ParlourLeaves$Fault" "java/lang/Throwable" "backtrace" "Ljava/lang/Object;") ∈ lw_all := lw_g (lw_at lw_m1 59 rfl) rfl
theorem q189 : (Jvm.Cond.instanceMethod ({ cls := "ParlourLeaves$Fault", name := "<init>", desc := "()V" } : Jvm.MethodName)) ∈ lw_all := lw_g (lw_at lw_m1 81 rfl) rfl
theorem q190 : (Jvm.Cond.code ({ cls := "ParlourLeaves$Fault", name := "<init>", desc := "()V" } : Jvm.MethodName) prog_10_method_1_code (1 : Nat) (Option.none : Option Jvm.ClassFile.FieldType)) ∈ lw_all := lw_g (lw_at lw_m1 82 rfl) rfl
theorem q191 : (Jvm.Cond.methodLink "ParlourLeaves$Fault" (1 : Nat) ({ cls := "java/lang/Exception", name := "<init>", desc := "(Ljava/lang/String;Ljava/lang/Throwable;ZZ)V" } : Jvm.MethodName)) ∈ lw_all := lw_g (lw_at lw_m1 83 rfl) rfl
theorem q206 : (Jvm.Cond.lays "ParlourLeaves$Fault" "ParlourLeaves$Fault" "kind" "I") ∈ lw_all := lw_g (lw_at lw_m1 98 rfl) rfl
theorem q207 : (Jvm.Cond.soleField "ParlourLeaves$Fault" "kind") ∈ lw_all := lw_g (lw_at lw_m1 99 rfl) rfl
theorem q208 : (Jvm.Cond.lays "ParlourLeaves$Fault" "ParlourLeaves$Fault" "place" "I") ∈ lw_all := lw_g (lw_at lw_m1 100 rfl) rfl
theorem q209 : (Jvm.Cond.soleField "ParlourLeaves$Fault" "place") ∈ lw_all := lw_g (lw_at lw_m1 101 rfl) rfl
theorem q214 : (Jvm.Cond.lays "ParlourLeaves$Fault" "java/lang/Throwable" "depth" "I") ∈ lw_all := lw_g (lw_at lw_m1 106 rfl) rfl
theorem q217 : (Jvm.Cond.superclass "ParlourLeaves$Fault" "java/lang/Exception") ∈ lw_all := lw_g (lw_at lw_m1 109 rfl) rfl
theorem q2218 : (Jvm.Cond.castable "ParlourLeaves$Fault" "java/lang/Object") ∈ lw_tbl := lw_at lw_m9 190 rfl
theorem in_X2 : ∀ w ∈ wsX20, w ∈ lw_all := lw_in wsX20 [159, 161, 163, 165, 167, 214, 206, 208] (by decide +kernel) (by decide +kernel)
/-! ParlourLeaves$House -/
set_option maxRecDepth 100000
def RX3 : String := "ParlourLeaves$House"
def TX3 : u_T := fun k => match k with
  | 0 => ("ParlourLeaves$House", "parlourNames", "[J", true)
  | 1 => ("ParlourLeaves$House", "plantNames", "[J", true)
  | 2 => ("ParlourLeaves$House", "personNames", "[J", true)
  | 3 => ("ParlourLeaves$House", "deedNames", "[J", true)
  | 4 => ("ParlourLeaves$House", "sights", "[I", true)
  | 5 => ("ParlourLeaves$House", "place", "[I", true)
  | 6 => ("ParlourLeaves$House", "slow", "[I", true)
  | 7 => ("ParlourLeaves$House", "parlours", "I", false)
  | 8 => ("ParlourLeaves$House", "plants", "I", false)
  | 9 => ("ParlourLeaves$House", "persons", "I", false)
  | 10 => ("ParlourLeaves$House", "deeds", "I", false)
  | 11 => ("ParlourLeaves$House", "ferns", "I", false)
  | 12 => ("ParlourLeaves$House", "dusty", "I", false)
  | _ => ("ParlourLeaves$House", "proof", "I", false)
def tyX3 : Nat → FieldType := fun k => match k with
  | 0 => .array .long
  | 1 => .array .long
  | 2 => .array .long
  | 3 => .array .long
  | 4 => .array .int
  | 5 => .array .int
  | 6 => .array .int
  | 7 => .int
  | 8 => .int
  | 9 => .int
  | 10 => .int
  | 11 => .int
  | 12 => .int
  | _ => .int
abbrev wsX30 : List Cond := u_ws RX3 TX3 14
set_option maxRecDepth 100000 in
theorem nmX3 : ∀ a, a < 14 → ∀ b, b < 14 → a ≠ b → (TX3 a).2.1 ≠ (TX3 b).2.1 := by decide +kernel
set_option maxRecDepth 100000 in
theorem tyX3_ok : ∀ k, k < 14 → parseFieldDescriptor (TX3 k).2.2.1 = some (tyX3 k) := by decide +kernel
abbrev cX3_init : ByteArray := prog_11_method_1_code
def yX3_init : MethodName := ⟨RX3, "<init>", "()V"⟩
def dkwX3_init_2 : List UInt8 := [181, 0, 28, 42, 16, 6, 188, 10, 181, 0, 31, 42, 16, 6, 181, 0, 34, 42, 5, 181, 0, 38, 177]
abbrev dktX3_init_2 : List UInt8 := dkwX3_init_2 ++ []
def dkwX3_init_1 : List UInt8 := [181, 0, 18, 42, 8, 188, 11, 181, 0, 21, 42, 8, 188, 10, 181, 0, 24, 42, 16, 6, 188, 10]
abbrev dktX3_init_1 : List UInt8 := dkwX3_init_1 ++ dktX3_init_2
def dkwX3_init_0 : List UInt8 := [42, 183, 0, 3, 42, 8, 188, 11, 181, 0, 9, 42, 16, 6, 188, 11, 181, 0, 15, 42, 7, 188, 11]
abbrev dktX3_init_0 : List UInt8 := dkwX3_init_0 ++ dktX3_init_1
theorem dksX3_init_0 : cX3_init.data.toList.drop 0 = dktX3_init_0 := by decide +kernel
theorem dksX3_init_1 : cX3_init.data.toList.drop 23 = dktX3_init_1 := dk_seg dksX3_init_0 23 rfl rfl
theorem dksX3_init_2 : cX3_init.data.toList.drop 45 = dktX3_init_2 := dk_seg dksX3_init_1 22 rfl rfl
theorem dX3_init_0 : decode cX3_init 0 = .ok (.aload_n 0, 1) := dk_42 (dk_at dksX3_init_0 0 rfl rfl)
theorem dX3_init_1 : decode cX3_init 1 = .ok (.invokespecial 3, 3) := dk_183 0 3 (dk_at dksX3_init_0 1 rfl rfl)
theorem dX3_init_4 : decode cX3_init 4 = .ok (.aload_n 0, 1) := dk_42 (dk_at dksX3_init_0 4 rfl rfl)
theorem dX3_init_5 : decode cX3_init 5 = .ok (.iconst 5, 1) := dk_8 (dk_at dksX3_init_0 5 rfl rfl)
theorem dX3_init_6 : decode cX3_init 6 = .ok (.newarray .long, 2) := dk_188_11 (dk_at dksX3_init_0 6 rfl rfl)
theorem dX3_init_8 : decode cX3_init 8 = .ok (.putfield 9, 3) := dk_181 0 9 (dk_at dksX3_init_0 8 rfl rfl)
theorem dX3_init_11 : decode cX3_init 11 = .ok (.aload_n 0, 1) := dk_42 (dk_at dksX3_init_0 11 rfl rfl)
theorem dX3_init_12 : decode cX3_init 12 = .ok (.bipush 6, 2) := dk_16 6 (dk_at dksX3_init_0 12 rfl rfl)
theorem dX3_init_14 : decode cX3_init 14 = .ok (.newarray .long, 2) := dk_188_11 (dk_at dksX3_init_0 14 rfl rfl)
theorem dX3_init_16 : decode cX3_init 16 = .ok (.putfield 15, 3) := dk_181 0 15 (dk_at dksX3_init_0 16 rfl rfl)
theorem dX3_init_19 : decode cX3_init 19 = .ok (.aload_n 0, 1) := dk_42 (dk_at dksX3_init_0 19 rfl rfl)
theorem dX3_init_20 : decode cX3_init 20 = .ok (.iconst 4, 1) := dk_7 (dk_at dksX3_init_0 20 rfl rfl)
theorem dX3_init_21 : decode cX3_init 21 = .ok (.newarray .long, 2) := dk_188_11 (dk_at dksX3_init_0 21 rfl rfl)
theorem dX3_init_23 : decode cX3_init 23 = .ok (.putfield 18, 3) := dk_181 0 18 (dk_at dksX3_init_1 0 rfl rfl)
theorem dX3_init_26 : decode cX3_init 26 = .ok (.aload_n 0, 1) := dk_42 (dk_at dksX3_init_1 3 rfl rfl)
theorem dX3_init_27 : decode cX3_init 27 = .ok (.iconst 5, 1) := dk_8 (dk_at dksX3_init_1 4 rfl rfl)
theorem dX3_init_28 : decode cX3_init 28 = .ok (.newarray .long, 2) := dk_188_11 (dk_at dksX3_init_1 5 rfl rfl)
theorem dX3_init_30 : decode cX3_init 30 = .ok (.putfield 21, 3) := dk_181 0 21 (dk_at dksX3_init_1 7 rfl rfl)
theorem dX3_init_33 : decode cX3_init 33 = .ok (.aload_n 0, 1) := dk_42 (dk_at dksX3_init_1 10 rfl rfl)
theorem dX3_init_34 : decode cX3_init 34 = .ok (.iconst 5, 1) := dk_8 (dk_at dksX3_init_1 11 rfl rfl)
theorem dX3_init_35 : decode cX3_init 35 = .ok (.newarray .int, 2) := dk_188_10 (dk_at dksX3_init_1 12 rfl rfl)
theorem dX3_init_37 : decode cX3_init 37 = .ok (.putfield 24, 3) := dk_181 0 24 (dk_at dksX3_init_1 14 rfl rfl)
theorem dX3_init_40 : decode cX3_init 40 = .ok (.aload_n 0, 1) := dk_42 (dk_at dksX3_init_1 17 rfl rfl)
theorem dX3_init_41 : decode cX3_init 41 = .ok (.bipush 6, 2) := dk_16 6 (dk_at dksX3_init_1 18 rfl rfl)
theorem dX3_init_43 : decode cX3_init 43 = .ok (.newarray .int, 2) := dk_188_10 (dk_at dksX3_init_1 20 rfl rfl)
theorem dX3_init_45 : decode cX3_init 45 = .ok (.putfield 28, 3) := dk_181 0 28 (dk_at dksX3_init_2 0 rfl rfl)
theorem dX3_init_48 : decode cX3_init 48 = .ok (.aload_n 0, 1) := dk_42 (dk_at dksX3_init_2 3 rfl rfl)
theorem dX3_init_49 : decode cX3_init 49 = .ok (.bipush 6, 2) := dk_16 6 (dk_at dksX3_init_2 4 rfl rfl)
theorem dX3_init_51 : decode cX3_init 51 = .ok (.newarray .int, 2) := dk_188_10 (dk_at dksX3_init_2 6 rfl rfl)
theorem dX3_init_53 : decode cX3_init 53 = .ok (.putfield 31, 3) := dk_181 0 31 (dk_at dksX3_init_2 8 rfl rfl)
theorem dX3_init_56 : decode cX3_init 56 = .ok (.aload_n 0, 1) := dk_42 (dk_at dksX3_init_2 11 rfl rfl)
theorem dX3_init_57 : decode cX3_init 57 = .ok (.bipush 6, 2) := dk_16 6 (dk_at dksX3_init_2 12 rfl rfl)
theorem dX3_init_59 : decode cX3_init 59 = .ok (.putfield 34, 3) := dk_181 0 34 (dk_at dksX3_init_2 14 rfl rfl)
theorem dX3_init_62 : decode cX3_init 62 = .ok (.aload_n 0, 1) := dk_42 (dk_at dksX3_init_2 17 rfl rfl)
theorem dX3_init_63 : decode cX3_init 63 = .ok (.iconst 2, 1) := dk_5 (dk_at dksX3_init_2 18 rfl rfl)
theorem dX3_init_64 : decode cX3_init 64 = .ok (.putfield 38, 3) := dk_181 0 38 (dk_at dksX3_init_2 19 rfl rfl)
theorem dX3_init_67 : decode cX3_init 67 = .ok (.return_, 1) := dk_177 (dk_at dksX3_init_2 22 rfl rfl)
abbrev cX3_seenFrom : ByteArray := prog_11_method_3_code
def yX3_seenFrom : MethodName := ⟨RX3, "seenFrom", "(I)I"⟩
def dkwX3_seenFrom_1 : List UInt8 := [180, 0, 24, 29, 46, 128, 61, 132, 3, 1, 167, 255, 228, 28, 172]
abbrev dktX3_seenFrom_1 : List UInt8 := dkwX3_seenFrom_1 ++ []
def dkwX3_seenFrom_0 : List UInt8 := [27, 61, 3, 62, 29, 42, 180, 0, 41, 162, 0, 26, 27, 29, 184, 0, 44, 153, 0, 12, 28, 42]
abbrev dktX3_seenFrom_0 : List UInt8 := dkwX3_seenFrom_0 ++ dktX3_seenFrom_1
theorem dksX3_seenFrom_0 : cX3_seenFrom.data.toList.drop 0 = dktX3_seenFrom_0 := by decide +kernel
theorem dksX3_seenFrom_1 : cX3_seenFrom.data.toList.drop 22 = dktX3_seenFrom_1 := dk_seg dksX3_seenFrom_0 22 rfl rfl
theorem dX3_seenFrom_0 : decode cX3_seenFrom 0 = .ok (.iload_n 1, 1) := dk_27 (dk_at dksX3_seenFrom_0 0 rfl rfl)
theorem dX3_seenFrom_1 : decode cX3_seenFrom 1 = .ok (.istore_n 2, 1) := dk_61 (dk_at dksX3_seenFrom_0 1 rfl rfl)
theorem dX3_seenFrom_2 : decode cX3_seenFrom 2 = .ok (.iconst 0, 1) := dk_3 (dk_at dksX3_seenFrom_0 2 rfl rfl)
theorem dX3_seenFrom_3 : decode cX3_seenFrom 3 = .ok (.istore_n 3, 1) := dk_62 (dk_at dksX3_seenFrom_0 3 rfl rfl)
theorem dX3_seenFrom_4 : decode cX3_seenFrom 4 = .ok (.iload_n 3, 1) := dk_29 (dk_at dksX3_seenFrom_0 4 rfl rfl)
theorem dX3_seenFrom_5 : decode cX3_seenFrom 5 = .ok (.aload_n 0, 1) := dk_42 (dk_at dksX3_seenFrom_0 5 rfl rfl)
theorem dX3_seenFrom_6 : decode cX3_seenFrom 6 = .ok (.getfield 41, 3) := dk_180 0 41 (dk_at dksX3_seenFrom_0 6 rfl rfl)
theorem dX3_seenFrom_9 : decode cX3_seenFrom 9 = .ok (.if_icmp .ge 26, 3) := dk_162 0 26 (dk_at dksX3_seenFrom_0 9 rfl rfl)
theorem dX3_seenFrom_12 : decode cX3_seenFrom 12 = .ok (.iload_n 1, 1) := dk_27 (dk_at dksX3_seenFrom_0 12 rfl rfl)
theorem dX3_seenFrom_13 : decode cX3_seenFrom 13 = .ok (.iload_n 3, 1) := dk_29 (dk_at dksX3_seenFrom_0 13 rfl rfl)
theorem dX3_seenFrom_14 : decode cX3_seenFrom 14 = .ok (.invokestatic 44, 3) := dk_184 0 44 (dk_at dksX3_seenFrom_0 14 rfl rfl)
theorem dX3_seenFrom_17 : decode cX3_seenFrom 17 = .ok (.ifCond .eq 12, 3) := dk_153 0 12 (dk_at dksX3_seenFrom_0 17 rfl rfl)
theorem dX3_seenFrom_20 : decode cX3_seenFrom 20 = .ok (.iload_n 2, 1) := dk_28 (dk_at dksX3_seenFrom_0 20 rfl rfl)
theorem dX3_seenFrom_21 : decode cX3_seenFrom 21 = .ok (.aload_n 0, 1) := dk_42 (dk_at dksX3_seenFrom_0 21 rfl rfl)
theorem dX3_seenFrom_22 : decode cX3_seenFrom 22 = .ok (.getfield 24, 3) := dk_180 0 24 (dk_at dksX3_seenFrom_1 0 rfl rfl)
theorem dX3_seenFrom_25 : decode cX3_seenFrom 25 = .ok (.iload_n 3, 1) := dk_29 (dk_at dksX3_seenFrom_1 3 rfl rfl)
theorem dX3_seenFrom_26 : decode cX3_seenFrom 26 = .ok (.iaload, 1) := dk_46 (dk_at dksX3_seenFrom_1 4 rfl rfl)
theorem dX3_seenFrom_27 : decode cX3_seenFrom 27 = .ok (.ior, 1) := dk_128 (dk_at dksX3_seenFrom_1 5 rfl rfl)
theorem dX3_seenFrom_28 : decode cX3_seenFrom 28 = .ok (.istore_n 2, 1) := dk_61 (dk_at dksX3_seenFrom_1 6 rfl rfl)
theorem dX3_seenFrom_29 : decode cX3_seenFrom 29 = .ok (.iinc 3 1, 3) := dk_132 3 1 (dk_at dksX3_seenFrom_1 7 rfl rfl)
theorem dX3_seenFrom_32 : decode cX3_seenFrom 32 = .ok (.goto (-28), 3) := dk_167 255 228 (dk_at dksX3_seenFrom_1 10 rfl rfl)
theorem dX3_seenFrom_35 : decode cX3_seenFrom 35 = .ok (.iload_n 2, 1) := dk_28 (dk_at dksX3_seenFrom_1 13 rfl rfl)
theorem dX3_seenFrom_36 : decode cX3_seenFrom 36 = .ok (.ireturn, 1) := dk_172 (dk_at dksX3_seenFrom_1 14 rfl rfl)
abbrev cX3_all : ByteArray := prog_11_method_2_code
def yX3_all : MethodName := ⟨RX3, "all", "()I"⟩
def dkwX3_all_0 : List UInt8 := [4, 42, 180, 0, 41, 120, 4, 100, 172]
abbrev dktX3_all_0 : List UInt8 := dkwX3_all_0 ++ []
theorem dksX3_all_0 : cX3_all.data.toList.drop 0 = dktX3_all_0 := by decide +kernel
theorem dX3_all_0 : decode cX3_all 0 = .ok (.iconst 1, 1) := dk_4 (dk_at dksX3_all_0 0 rfl rfl)
theorem dX3_all_1 : decode cX3_all 1 = .ok (.aload_n 0, 1) := dk_42 (dk_at dksX3_all_0 1 rfl rfl)
theorem dX3_all_2 : decode cX3_all 2 = .ok (.getfield 41, 3) := dk_180 0 41 (dk_at dksX3_all_0 2 rfl rfl)
theorem dX3_all_5 : decode cX3_all 5 = .ok (.ishl, 1) := dk_120 (dk_at dksX3_all_0 5 rfl rfl)
theorem dX3_all_6 : decode cX3_all 6 = .ok (.iconst 1, 1) := dk_4 (dk_at dksX3_all_0 6 rfl rfl)
theorem dX3_all_7 : decode cX3_all 7 = .ok (.isub, 1) := dk_100 (dk_at dksX3_all_0 7 rfl rfl)
theorem dX3_all_8 : decode cX3_all 8 = .ok (.ireturn, 1) := dk_172 (dk_at dksX3_all_0 8 rfl rfl)
theorem q113 : (Jvm.Cond.initialized "ParlourLeaves$House") ∈ lw_all := lw_g (lw_at lw_m1 5 rfl) rfl
theorem q244 : (Jvm.Cond.instantiable "ParlourLeaves$House" (14 : Nat)) ∈ lw_all := lw_g (lw_at lw_m1 136 rfl) rfl
theorem q246 : (Jvm.Cond.instanceMethod ({ cls := "ParlourLeaves$House", name := "<init>", desc := "()V" } : Jvm.MethodName)) ∈ lw_all := lw_g (lw_at lw_m1 138 rfl) rfl
theorem q247 : (Jvm.Cond.code ({ cls := "ParlourLeaves$House", name := "<init>", desc := "()V" } : Jvm.MethodName) prog_11_method_1_code (1 : Nat) (Option.none : Option Jvm.ClassFile.FieldType)) ∈ lw_all := lw_g (lw_at lw_m1 139 rfl) rfl
theorem q248 : (Jvm.Cond.methodLink "ParlourLeaves$House" (3 : Nat) ({ cls := "java/lang/Object", name := "<init>", desc := "()V" } : Jvm.MethodName)) ∈ lw_all := lw_g (lw_at lw_m1 140 rfl) rfl
theorem q249 : (Jvm.Cond.fieldLink "ParlourLeaves$House" (9 : Nat) "ParlourLeaves$House" "parlourNames" "[J") ∈ lw_all := lw_g (lw_at lw_m1 141 rfl) rfl
theorem q253 : (Jvm.Cond.fieldLink "ParlourLeaves$House" (15 : Nat) "ParlourLeaves$House" "plantNames" "[J") ∈ lw_all := lw_g (lw_at lw_m1 145 rfl) rfl
theorem q257 : (Jvm.Cond.fieldLink "ParlourLeaves$House" (18 : Nat) "ParlourLeaves$House" "personNames" "[J") ∈ lw_all := lw_g (lw_at lw_m1 149 rfl) rfl
theorem q261 : (Jvm.Cond.fieldLink "ParlourLeaves$House" (21 : Nat) "ParlourLeaves$House" "deedNames" "[J") ∈ lw_all := lw_g (lw_at lw_m1 153 rfl) rfl
theorem q264 : (Jvm.Cond.fieldLink "ParlourLeaves$House" (24 : Nat) "ParlourLeaves$House" "sights" "[I") ∈ lw_all := lw_g (lw_at lw_m1 156 rfl) rfl
theorem q267 : (Jvm.Cond.fieldLink "ParlourLeaves$House" (28 : Nat) "ParlourLeaves$House" "place" "[I") ∈ lw_all := lw_g (lw_at lw_m1 159 rfl) rfl
theorem q270 : (Jvm.Cond.fieldLink "ParlourLeaves$House" (31 : Nat) "ParlourLeaves$House" "slow" "[I") ∈ lw_all := lw_g (lw_at lw_m1 162 rfl) rfl
theorem q274 : (Jvm.Cond.fieldLink "ParlourLeaves$House" (41 : Nat) "ParlourLeaves$House" "parlours" "I") ∈ lw_all := lw_g (lw_at lw_m1 166 rfl) rfl
theorem q297 : (Jvm.Cond.fieldLink "ParlourLeaves$House" (34 : Nat) "ParlourLeaves$House" "dusty" "I") ∈ lw_all := lw_g (lw_at lw_m1 189 rfl) rfl
theorem q301 : (Jvm.Cond.fieldLink "ParlourLeaves$House" (38 : Nat) "ParlourLeaves$House" "proof" "I") ∈ lw_all := lw_g (lw_at lw_m1 193 rfl) rfl
theorem q305 : (Jvm.Cond.laysFinal "ParlourLeaves$House" "ParlourLeaves$House" "parlourNames" "[J") ∈ lw_all := lw_g (lw_at lw_m1 197 rfl) rfl
theorem q306 : (Jvm.Cond.soleField "ParlourLeaves$House" "parlourNames") ∈ lw_all := lw_g (lw_at lw_m1 198 rfl) rfl
theorem q307 : (Jvm.Cond.laysFinal "ParlourLeaves$House" "ParlourLeaves$House" "plantNames" "[J") ∈ lw_all := lw_g (lw_at lw_m1 199 rfl) rfl
theorem q308 : (Jvm.Cond.soleField "ParlourLeaves$House" "plantNames") ∈ lw_all := lw_g (lw_at lw_m1 200 rfl) rfl
theorem q309 : (Jvm.Cond.laysFinal "ParlourLeaves$House" "ParlourLeaves$House" "personNames" "[J") ∈ lw_all := lw_g (lw_at lw_m1 201 rfl) rfl
theorem q310 : (Jvm.Cond.soleField "ParlourLeaves$House" "personNames") ∈ lw_all := lw_g (lw_at lw_m1 202 rfl) rfl
theorem q311 : (Jvm.Cond.laysFinal "ParlourLeaves$House" "ParlourLeaves$House" "deedNames" "[J") ∈ lw_all := lw_g (lw_at lw_m1 203 rfl) rfl
theorem q312 : (Jvm.Cond.soleField "ParlourLeaves$House" "deedNames") ∈ lw_all := lw_g (lw_at lw_m1 204 rfl) rfl
theorem q313 : (Jvm.Cond.laysFinal "ParlourLeaves$House" "ParlourLeaves$House" "sights" "[I") ∈ lw_all := lw_g (lw_at lw_m1 205 rfl) rfl
theorem q314 : (Jvm.Cond.soleField "ParlourLeaves$House" "sights") ∈ lw_all := lw_g (lw_at lw_m1 206 rfl) rfl
theorem q315 : (Jvm.Cond.laysFinal "ParlourLeaves$House" "ParlourLeaves$House" "place" "[I") ∈ lw_all := lw_g (lw_at lw_m1 207 rfl) rfl
theorem q316 : (Jvm.Cond.soleField "ParlourLeaves$House" "place") ∈ lw_all := lw_g (lw_at lw_m1 208 rfl) rfl
theorem q317 : (Jvm.Cond.laysFinal "ParlourLeaves$House" "ParlourLeaves$House" "slow" "[I") ∈ lw_all := lw_g (lw_at lw_m1 209 rfl) rfl
theorem q318 : (Jvm.Cond.soleField "ParlourLeaves$House" "slow") ∈ lw_all := lw_g (lw_at lw_m1 210 rfl) rfl
theorem q319 : (Jvm.Cond.lays "ParlourLeaves$House" "ParlourLeaves$House" "parlours" "I") ∈ lw_all := lw_g (lw_at lw_m1 211 rfl) rfl
theorem q320 : (Jvm.Cond.soleField "ParlourLeaves$House" "parlours") ∈ lw_all := lw_g (lw_at lw_m1 212 rfl) rfl
theorem q321 : (Jvm.Cond.lays "ParlourLeaves$House" "ParlourLeaves$House" "plants" "I") ∈ lw_all := lw_g (lw_at lw_m1 213 rfl) rfl
theorem q322 : (Jvm.Cond.soleField "ParlourLeaves$House" "plants") ∈ lw_all := lw_g (lw_at lw_m1 214 rfl) rfl
theorem q323 : (Jvm.Cond.lays "ParlourLeaves$House" "ParlourLeaves$House" "persons" "I") ∈ lw_all := lw_g (lw_at lw_m1 215 rfl) rfl
theorem q324 : (Jvm.Cond.soleField "ParlourLeaves$House" "persons") ∈ lw_all := lw_g (lw_at lw_m1 216 rfl) rfl
theorem q325 : (Jvm.Cond.lays "ParlourLeaves$House" "ParlourLeaves$House" "deeds" "I") ∈ lw_all := lw_g (lw_at lw_m1 217 rfl) rfl
theorem q326 : (Jvm.Cond.soleField "ParlourLeaves$House" "deeds") ∈ lw_all := lw_g (lw_at lw_m1 218 rfl) rfl
theorem q327 : (Jvm.Cond.lays "ParlourLeaves$House" "ParlourLeaves$House" "ferns" "I") ∈ lw_all := lw_g (lw_at lw_m1 219 rfl) rfl
theorem q328 : (Jvm.Cond.soleField "ParlourLeaves$House" "ferns") ∈ lw_all := lw_g (lw_at lw_m1 220 rfl) rfl
theorem q329 : (Jvm.Cond.lays "ParlourLeaves$House" "ParlourLeaves$House" "dusty" "I") ∈ lw_all := lw_g (lw_at lw_m1 221 rfl) rfl
theorem q330 : (Jvm.Cond.soleField "ParlourLeaves$House" "dusty") ∈ lw_all := lw_g (lw_at lw_m1 222 rfl) rfl
theorem q331 : (Jvm.Cond.lays "ParlourLeaves$House" "ParlourLeaves$House" "proof" "I") ∈ lw_all := lw_g (lw_at lw_m1 223 rfl) rfl
theorem q332 : (Jvm.Cond.soleField "ParlourLeaves$House" "proof") ∈ lw_all := lw_g (lw_at lw_m1 224 rfl) rfl
theorem q333 : (Jvm.Cond.superclass "ParlourLeaves$House" "java/lang/Object") ∈ lw_all := lw_g (lw_at lw_m1 225 rfl) rfl
theorem q877 : (Jvm.Cond.instanceMethod ({ cls := "ParlourLeaves$House", name := "seenFrom", desc := "(I)I" } : Jvm.MethodName)) ∈ lw_all := lw_g (lw_at lw_m4 49 rfl) rfl
theorem q878 : (Jvm.Cond.selects "ParlourLeaves$House" ({ cls := "ParlourLeaves$House", name := "seenFrom", desc := "(I)I" } : Jvm.MethodName) ({ cls := "ParlourLeaves$House", name := "seenFrom", desc := "(I)I" } : Jvm.MethodName)) ∈ lw_all := lw_g (lw_at lw_m4 50 rfl) rfl
theorem q879 : (Jvm.Cond.code ({ cls := "ParlourLeaves$House", name := "seenFrom", desc := "(I)I" } : Jvm.MethodName) prog_11_method_3_code (4 : Nat) (Option.some Jvm.ClassFile.FieldType.int)) ∈ lw_all := lw_g (lw_at lw_m4 51 rfl) rfl
theorem q880 : (Jvm.Cond.methodLinkNest "ParlourLeaves$House" (44 : Nat) ({ cls := "ParlourLeaves", name := "has", desc := "(II)Z" } : Jvm.MethodName) "ParlourLeaves") ∈ lw_tbl := lw_at lw_m4 52 rfl
theorem q909 : (Jvm.Cond.instanceMethod ({ cls := "ParlourLeaves$House", name := "all", desc := "()I" } : Jvm.MethodName)) ∈ lw_all := lw_g (lw_at lw_m4 81 rfl) rfl
theorem q910 : (Jvm.Cond.selects "ParlourLeaves$House" ({ cls := "ParlourLeaves$House", name := "all", desc := "()I" } : Jvm.MethodName) ({ cls := "ParlourLeaves$House", name := "all", desc := "()I" } : Jvm.MethodName)) ∈ lw_all := lw_g (lw_at lw_m4 82 rfl) rfl
theorem q911 : (Jvm.Cond.code ({ cls := "ParlourLeaves$House", name := "all", desc := "()I" } : Jvm.MethodName) prog_11_method_2_code (1 : Nat) (Option.some Jvm.ClassFile.FieldType.int)) ∈ lw_all := lw_g (lw_at lw_m4 83 rfl) rfl
theorem q2219 : (Jvm.Cond.castable "ParlourLeaves$House" "java/lang/Object") ∈ lw_tbl := lw_at lw_m9 191 rfl
theorem in_X3 : ∀ w ∈ wsX30, w ∈ lw_all := lw_in wsX30 [305, 307, 309, 311, 313, 315, 317, 319, 321, 323, 325, 327, 329, 331] (by decide +kernel) (by decide +kernel)
/-! ParlourLeaves$State -/
set_option maxRecDepth 100000
def RX4 : String := "ParlourLeaves$State"
def TX4 : u_T := fun k => match k with
  | 0 => ("ParlourLeaves$State", "place", "[I", true)
  | 1 => ("ParlourLeaves$State", "dust", "[I", true)
  | 2 => ("ParlourLeaves$State", "who", "[I", true)
  | 3 => ("ParlourLeaves$State", "what", "[I", true)
  | 4 => ("ParlourLeaves$State", "where", "[I", true)
  | 5 => ("ParlourLeaves$State", "when", "[I", true)
  | 6 => ("ParlourLeaves$State", "comes", "[I", true)
  | 7 => ("ParlourLeaves$State", "day", "I", false)
  | 8 => ("ParlourLeaves$State", "acts", "I", false)
  | _ => ("ParlourLeaves$State", "seed", "I", false)
def tyX4 : Nat → FieldType := fun k => match k with
  | 0 => .array .int
  | 1 => .array .int
  | 2 => .array .int
  | 3 => .array .int
  | 4 => .array .int
  | 5 => .array .int
  | 6 => .array .int
  | 7 => .int
  | 8 => .int
  | _ => .int
abbrev wsX40 : List Cond := u_ws RX4 TX4 10
theorem nmX4 : ∀ a, a < 10 → ∀ b, b < 10 → a ≠ b → (TX4 a).2.1 ≠ (TX4 b).2.1 := by decide +kernel
theorem tyX4_ok : ∀ k, k < 10 → parseFieldDescriptor (TX4 k).2.2.1 = some (tyX4 k) := by decide +kernel
abbrev cX4_init : ByteArray := prog_20_method_1_code
def yX4_init : MethodName := ⟨RX4, "<init>", "()V"⟩
def dkwX4_init_2 : List UInt8 := [188, 10, 181, 0, 27, 42, 16, 72, 188, 10, 181, 0, 30, 177]
abbrev dktX4_init_2 : List UInt8 := dkwX4_init_2 ++ []
def dkwX4_init_1 : List UInt8 := [188, 10, 181, 0, 18, 42, 16, 12, 188, 10, 181, 0, 21, 42, 16, 12, 188, 10, 181, 0, 24, 42, 16, 12]
abbrev dktX4_init_1 : List UInt8 := dkwX4_init_1 ++ dktX4_init_2
def dkwX4_init_0 : List UInt8 := [42, 183, 0, 3, 42, 16, 6, 188, 10, 181, 0, 9, 42, 16, 6, 188, 10, 181, 0, 15, 42, 16, 12]
abbrev dktX4_init_0 : List UInt8 := dkwX4_init_0 ++ dktX4_init_1
theorem dksX4_init_0 : cX4_init.data.toList.drop 0 = dktX4_init_0 := by decide +kernel
theorem dksX4_init_1 : cX4_init.data.toList.drop 23 = dktX4_init_1 := dk_seg dksX4_init_0 23 rfl rfl
theorem dksX4_init_2 : cX4_init.data.toList.drop 47 = dktX4_init_2 := dk_seg dksX4_init_1 24 rfl rfl
theorem dX4_init_0 : decode cX4_init 0 = .ok (.aload_n 0, 1) := dk_42 (dk_at dksX4_init_0 0 rfl rfl)
theorem dX4_init_1 : decode cX4_init 1 = .ok (.invokespecial 3, 3) := dk_183 0 3 (dk_at dksX4_init_0 1 rfl rfl)
theorem dX4_init_4 : decode cX4_init 4 = .ok (.aload_n 0, 1) := dk_42 (dk_at dksX4_init_0 4 rfl rfl)
theorem dX4_init_5 : decode cX4_init 5 = .ok (.bipush 6, 2) := dk_16 6 (dk_at dksX4_init_0 5 rfl rfl)
theorem dX4_init_7 : decode cX4_init 7 = .ok (.newarray .int, 2) := dk_188_10 (dk_at dksX4_init_0 7 rfl rfl)
theorem dX4_init_9 : decode cX4_init 9 = .ok (.putfield 9, 3) := dk_181 0 9 (dk_at dksX4_init_0 9 rfl rfl)
theorem dX4_init_12 : decode cX4_init 12 = .ok (.aload_n 0, 1) := dk_42 (dk_at dksX4_init_0 12 rfl rfl)
theorem dX4_init_13 : decode cX4_init 13 = .ok (.bipush 6, 2) := dk_16 6 (dk_at dksX4_init_0 13 rfl rfl)
theorem dX4_init_15 : decode cX4_init 15 = .ok (.newarray .int, 2) := dk_188_10 (dk_at dksX4_init_0 15 rfl rfl)
theorem dX4_init_17 : decode cX4_init 17 = .ok (.putfield 15, 3) := dk_181 0 15 (dk_at dksX4_init_0 17 rfl rfl)
theorem dX4_init_20 : decode cX4_init 20 = .ok (.aload_n 0, 1) := dk_42 (dk_at dksX4_init_0 20 rfl rfl)
theorem dX4_init_21 : decode cX4_init 21 = .ok (.bipush 12, 2) := dk_16 12 (dk_at dksX4_init_0 21 rfl rfl)
theorem dX4_init_23 : decode cX4_init 23 = .ok (.newarray .int, 2) := dk_188_10 (dk_at dksX4_init_1 0 rfl rfl)
theorem dX4_init_25 : decode cX4_init 25 = .ok (.putfield 18, 3) := dk_181 0 18 (dk_at dksX4_init_1 2 rfl rfl)
theorem dX4_init_28 : decode cX4_init 28 = .ok (.aload_n 0, 1) := dk_42 (dk_at dksX4_init_1 5 rfl rfl)
theorem dX4_init_29 : decode cX4_init 29 = .ok (.bipush 12, 2) := dk_16 12 (dk_at dksX4_init_1 6 rfl rfl)
theorem dX4_init_31 : decode cX4_init 31 = .ok (.newarray .int, 2) := dk_188_10 (dk_at dksX4_init_1 8 rfl rfl)
theorem dX4_init_33 : decode cX4_init 33 = .ok (.putfield 21, 3) := dk_181 0 21 (dk_at dksX4_init_1 10 rfl rfl)
theorem dX4_init_36 : decode cX4_init 36 = .ok (.aload_n 0, 1) := dk_42 (dk_at dksX4_init_1 13 rfl rfl)
theorem dX4_init_37 : decode cX4_init 37 = .ok (.bipush 12, 2) := dk_16 12 (dk_at dksX4_init_1 14 rfl rfl)
theorem dX4_init_39 : decode cX4_init 39 = .ok (.newarray .int, 2) := dk_188_10 (dk_at dksX4_init_1 16 rfl rfl)
theorem dX4_init_41 : decode cX4_init 41 = .ok (.putfield 24, 3) := dk_181 0 24 (dk_at dksX4_init_1 18 rfl rfl)
theorem dX4_init_44 : decode cX4_init 44 = .ok (.aload_n 0, 1) := dk_42 (dk_at dksX4_init_1 21 rfl rfl)
theorem dX4_init_45 : decode cX4_init 45 = .ok (.bipush 12, 2) := dk_16 12 (dk_at dksX4_init_1 22 rfl rfl)
theorem dX4_init_47 : decode cX4_init 47 = .ok (.newarray .int, 2) := dk_188_10 (dk_at dksX4_init_2 0 rfl rfl)
theorem dX4_init_49 : decode cX4_init 49 = .ok (.putfield 27, 3) := dk_181 0 27 (dk_at dksX4_init_2 2 rfl rfl)
theorem dX4_init_52 : decode cX4_init 52 = .ok (.aload_n 0, 1) := dk_42 (dk_at dksX4_init_2 5 rfl rfl)
theorem dX4_init_53 : decode cX4_init 53 = .ok (.bipush 72, 2) := dk_16 72 (dk_at dksX4_init_2 6 rfl rfl)
theorem dX4_init_55 : decode cX4_init 55 = .ok (.newarray .int, 2) := dk_188_10 (dk_at dksX4_init_2 8 rfl rfl)
theorem dX4_init_57 : decode cX4_init 57 = .ok (.putfield 30, 3) := dk_181 0 30 (dk_at dksX4_init_2 10 rfl rfl)
theorem dX4_init_60 : decode cX4_init 60 = .ok (.return_, 1) := dk_177 (dk_at dksX4_init_2 13 rfl rfl)
abbrev cX4_begin : ByteArray := prog_20_method_3_code
def yX4_begin : MethodName := ⟨RX4, "begin", "(LParlourLeaves$House;)V"⟩
def dkwX4_begin_3 : List UInt8 := [181, 0, 43, 177]
abbrev dktX4_begin_3 : List UInt8 := dkwX4_begin_3 ++ []
def dkwX4_begin_2 : List UInt8 := [180, 0, 27, 3, 184, 0, 49, 42, 180, 0, 30, 2, 184, 0, 49, 42, 3, 181, 0, 39, 42, 3]
abbrev dktX4_begin_2 : List UInt8 := dkwX4_begin_2 ++ dktX4_begin_3
def dkwX4_begin_1 : List UInt8 := [180, 0, 18, 3, 184, 0, 49, 42, 180, 0, 21, 3, 184, 0, 49, 42, 180, 0, 24, 3, 184, 0, 49, 42]
abbrev dktX4_begin_1 : List UInt8 := dkwX4_begin_1 ++ dktX4_begin_2
def dkwX4_begin_0 : List UInt8 := [43, 180, 0, 46, 3, 42, 180, 0, 9, 3, 16, 6, 184, 0, 33, 42, 180, 0, 15, 3, 184, 0, 49, 42]
abbrev dktX4_begin_0 : List UInt8 := dkwX4_begin_0 ++ dktX4_begin_1
theorem dksX4_begin_0 : cX4_begin.data.toList.drop 0 = dktX4_begin_0 := by decide +kernel
theorem dksX4_begin_1 : cX4_begin.data.toList.drop 24 = dktX4_begin_1 := dk_seg dksX4_begin_0 24 rfl rfl
theorem dksX4_begin_2 : cX4_begin.data.toList.drop 48 = dktX4_begin_2 := dk_seg dksX4_begin_1 24 rfl rfl
theorem dksX4_begin_3 : cX4_begin.data.toList.drop 70 = dktX4_begin_3 := dk_seg dksX4_begin_2 22 rfl rfl
theorem dX4_begin_0 : decode cX4_begin 0 = .ok (.aload_n 1, 1) := dk_43 (dk_at dksX4_begin_0 0 rfl rfl)
theorem dX4_begin_1 : decode cX4_begin 1 = .ok (.getfield 46, 3) := dk_180 0 46 (dk_at dksX4_begin_0 1 rfl rfl)
theorem dX4_begin_4 : decode cX4_begin 4 = .ok (.iconst 0, 1) := dk_3 (dk_at dksX4_begin_0 4 rfl rfl)
theorem dX4_begin_5 : decode cX4_begin 5 = .ok (.aload_n 0, 1) := dk_42 (dk_at dksX4_begin_0 5 rfl rfl)
theorem dX4_begin_6 : decode cX4_begin 6 = .ok (.getfield 9, 3) := dk_180 0 9 (dk_at dksX4_begin_0 6 rfl rfl)
theorem dX4_begin_9 : decode cX4_begin 9 = .ok (.iconst 0, 1) := dk_3 (dk_at dksX4_begin_0 9 rfl rfl)
theorem dX4_begin_10 : decode cX4_begin 10 = .ok (.bipush 6, 2) := dk_16 6 (dk_at dksX4_begin_0 10 rfl rfl)
theorem dX4_begin_12 : decode cX4_begin 12 = .ok (.invokestatic 33, 3) := dk_184 0 33 (dk_at dksX4_begin_0 12 rfl rfl)
theorem dX4_begin_15 : decode cX4_begin 15 = .ok (.aload_n 0, 1) := dk_42 (dk_at dksX4_begin_0 15 rfl rfl)
theorem dX4_begin_16 : decode cX4_begin 16 = .ok (.getfield 15, 3) := dk_180 0 15 (dk_at dksX4_begin_0 16 rfl rfl)
theorem dX4_begin_19 : decode cX4_begin 19 = .ok (.iconst 0, 1) := dk_3 (dk_at dksX4_begin_0 19 rfl rfl)
theorem dX4_begin_20 : decode cX4_begin 20 = .ok (.invokestatic 49, 3) := dk_184 0 49 (dk_at dksX4_begin_0 20 rfl rfl)
theorem dX4_begin_23 : decode cX4_begin 23 = .ok (.aload_n 0, 1) := dk_42 (dk_at dksX4_begin_0 23 rfl rfl)
theorem dX4_begin_24 : decode cX4_begin 24 = .ok (.getfield 18, 3) := dk_180 0 18 (dk_at dksX4_begin_1 0 rfl rfl)
theorem dX4_begin_27 : decode cX4_begin 27 = .ok (.iconst 0, 1) := dk_3 (dk_at dksX4_begin_1 3 rfl rfl)
theorem dX4_begin_28 : decode cX4_begin 28 = .ok (.invokestatic 49, 3) := dk_184 0 49 (dk_at dksX4_begin_1 4 rfl rfl)
theorem dX4_begin_31 : decode cX4_begin 31 = .ok (.aload_n 0, 1) := dk_42 (dk_at dksX4_begin_1 7 rfl rfl)
theorem dX4_begin_32 : decode cX4_begin 32 = .ok (.getfield 21, 3) := dk_180 0 21 (dk_at dksX4_begin_1 8 rfl rfl)
theorem dX4_begin_35 : decode cX4_begin 35 = .ok (.iconst 0, 1) := dk_3 (dk_at dksX4_begin_1 11 rfl rfl)
theorem dX4_begin_36 : decode cX4_begin 36 = .ok (.invokestatic 49, 3) := dk_184 0 49 (dk_at dksX4_begin_1 12 rfl rfl)
theorem dX4_begin_39 : decode cX4_begin 39 = .ok (.aload_n 0, 1) := dk_42 (dk_at dksX4_begin_1 15 rfl rfl)
theorem dX4_begin_40 : decode cX4_begin 40 = .ok (.getfield 24, 3) := dk_180 0 24 (dk_at dksX4_begin_1 16 rfl rfl)
theorem dX4_begin_43 : decode cX4_begin 43 = .ok (.iconst 0, 1) := dk_3 (dk_at dksX4_begin_1 19 rfl rfl)
theorem dX4_begin_44 : decode cX4_begin 44 = .ok (.invokestatic 49, 3) := dk_184 0 49 (dk_at dksX4_begin_1 20 rfl rfl)
theorem dX4_begin_47 : decode cX4_begin 47 = .ok (.aload_n 0, 1) := dk_42 (dk_at dksX4_begin_1 23 rfl rfl)
theorem dX4_begin_48 : decode cX4_begin 48 = .ok (.getfield 27, 3) := dk_180 0 27 (dk_at dksX4_begin_2 0 rfl rfl)
theorem dX4_begin_51 : decode cX4_begin 51 = .ok (.iconst 0, 1) := dk_3 (dk_at dksX4_begin_2 3 rfl rfl)
theorem dX4_begin_52 : decode cX4_begin 52 = .ok (.invokestatic 49, 3) := dk_184 0 49 (dk_at dksX4_begin_2 4 rfl rfl)
theorem dX4_begin_55 : decode cX4_begin 55 = .ok (.aload_n 0, 1) := dk_42 (dk_at dksX4_begin_2 7 rfl rfl)
theorem dX4_begin_56 : decode cX4_begin 56 = .ok (.getfield 30, 3) := dk_180 0 30 (dk_at dksX4_begin_2 8 rfl rfl)
theorem dX4_begin_59 : decode cX4_begin 59 = .ok (.iconst (-1), 1) := dk_2 (dk_at dksX4_begin_2 11 rfl rfl)
theorem dX4_begin_60 : decode cX4_begin 60 = .ok (.invokestatic 49, 3) := dk_184 0 49 (dk_at dksX4_begin_2 12 rfl rfl)
theorem dX4_begin_63 : decode cX4_begin 63 = .ok (.aload_n 0, 1) := dk_42 (dk_at dksX4_begin_2 15 rfl rfl)
theorem dX4_begin_64 : decode cX4_begin 64 = .ok (.iconst 0, 1) := dk_3 (dk_at dksX4_begin_2 16 rfl rfl)
theorem dX4_begin_65 : decode cX4_begin 65 = .ok (.putfield 39, 3) := dk_181 0 39 (dk_at dksX4_begin_2 17 rfl rfl)
theorem dX4_begin_68 : decode cX4_begin 68 = .ok (.aload_n 0, 1) := dk_42 (dk_at dksX4_begin_2 20 rfl rfl)
theorem dX4_begin_69 : decode cX4_begin 69 = .ok (.iconst 0, 1) := dk_3 (dk_at dksX4_begin_2 21 rfl rfl)
theorem dX4_begin_70 : decode cX4_begin 70 = .ok (.putfield 43, 3) := dk_181 0 43 (dk_at dksX4_begin_3 0 rfl rfl)
theorem dX4_begin_73 : decode cX4_begin 73 = .ok (.return_, 1) := dk_177 (dk_at dksX4_begin_3 3 rfl rfl)
abbrev cX4_comes : ByteArray := prog_20_method_6_code
def yX4_comes : MethodName := ⟨RX4, "comes", "(II)I"⟩
def dkwX4_comes_0 : List UInt8 := [42, 180, 0, 30, 16, 12, 27, 104, 28, 96, 46, 172]
abbrev dktX4_comes_0 : List UInt8 := dkwX4_comes_0 ++ []
theorem dksX4_comes_0 : cX4_comes.data.toList.drop 0 = dktX4_comes_0 := by decide +kernel
theorem dX4_comes_0 : decode cX4_comes 0 = .ok (.aload_n 0, 1) := dk_42 (dk_at dksX4_comes_0 0 rfl rfl)
theorem dX4_comes_1 : decode cX4_comes 1 = .ok (.getfield 30, 3) := dk_180 0 30 (dk_at dksX4_comes_0 1 rfl rfl)
theorem dX4_comes_4 : decode cX4_comes 4 = .ok (.bipush 12, 2) := dk_16 12 (dk_at dksX4_comes_0 4 rfl rfl)
theorem dX4_comes_6 : decode cX4_comes 6 = .ok (.iload_n 1, 1) := dk_27 (dk_at dksX4_comes_0 6 rfl rfl)
theorem dX4_comes_7 : decode cX4_comes 7 = .ok (.imul, 1) := dk_104 (dk_at dksX4_comes_0 7 rfl rfl)
theorem dX4_comes_8 : decode cX4_comes 8 = .ok (.iload_n 2, 1) := dk_28 (dk_at dksX4_comes_0 8 rfl rfl)
theorem dX4_comes_9 : decode cX4_comes 9 = .ok (.iadd, 1) := dk_96 (dk_at dksX4_comes_0 9 rfl rfl)
theorem dX4_comes_10 : decode cX4_comes 10 = .ok (.iaload, 1) := dk_46 (dk_at dksX4_comes_0 10 rfl rfl)
theorem dX4_comes_11 : decode cX4_comes 11 = .ok (.ireturn, 1) := dk_172 (dk_at dksX4_comes_0 11 rfl rfl)
abbrev cX4_sees : ByteArray := prog_20_method_4_code
def yX4_sees : MethodName := ⟨RX4, "sees", "(LParlourLeaves$House;I)I"⟩
def dkwX4_sees_1 : List UInt8 := [3, 167, 0, 15, 43, 4, 42, 180, 0, 9, 28, 46, 120, 182, 0, 65, 172]
abbrev dktX4_sees_1 : List UInt8 := dkwX4_sees_1 ++ []
def dkwX4_sees_0 : List UInt8 := [43, 180, 0, 55, 28, 184, 0, 58, 154, 0, 16, 42, 180, 0, 15, 28, 46, 43, 180, 0, 62, 161, 0, 7]
abbrev dktX4_sees_0 : List UInt8 := dkwX4_sees_0 ++ dktX4_sees_1
theorem dksX4_sees_0 : cX4_sees.data.toList.drop 0 = dktX4_sees_0 := by decide +kernel
theorem dksX4_sees_1 : cX4_sees.data.toList.drop 24 = dktX4_sees_1 := dk_seg dksX4_sees_0 24 rfl rfl
theorem dX4_sees_0 : decode cX4_sees 0 = .ok (.aload_n 1, 1) := dk_43 (dk_at dksX4_sees_0 0 rfl rfl)
theorem dX4_sees_1 : decode cX4_sees 1 = .ok (.getfield 55, 3) := dk_180 0 55 (dk_at dksX4_sees_0 1 rfl rfl)
theorem dX4_sees_4 : decode cX4_sees 4 = .ok (.iload_n 2, 1) := dk_28 (dk_at dksX4_sees_0 4 rfl rfl)
theorem dX4_sees_5 : decode cX4_sees 5 = .ok (.invokestatic 58, 3) := dk_184 0 58 (dk_at dksX4_sees_0 5 rfl rfl)
theorem dX4_sees_8 : decode cX4_sees 8 = .ok (.ifCond .ne 16, 3) := dk_154 0 16 (dk_at dksX4_sees_0 8 rfl rfl)
theorem dX4_sees_11 : decode cX4_sees 11 = .ok (.aload_n 0, 1) := dk_42 (dk_at dksX4_sees_0 11 rfl rfl)
theorem dX4_sees_12 : decode cX4_sees 12 = .ok (.getfield 15, 3) := dk_180 0 15 (dk_at dksX4_sees_0 12 rfl rfl)
theorem dX4_sees_15 : decode cX4_sees 15 = .ok (.iload_n 2, 1) := dk_28 (dk_at dksX4_sees_0 15 rfl rfl)
theorem dX4_sees_16 : decode cX4_sees 16 = .ok (.iaload, 1) := dk_46 (dk_at dksX4_sees_0 16 rfl rfl)
theorem dX4_sees_17 : decode cX4_sees 17 = .ok (.aload_n 1, 1) := dk_43 (dk_at dksX4_sees_0 17 rfl rfl)
theorem dX4_sees_18 : decode cX4_sees 18 = .ok (.getfield 62, 3) := dk_180 0 62 (dk_at dksX4_sees_0 18 rfl rfl)
theorem dX4_sees_21 : decode cX4_sees 21 = .ok (.if_icmp .lt 7, 3) := dk_161 0 7 (dk_at dksX4_sees_0 21 rfl rfl)
theorem dX4_sees_24 : decode cX4_sees 24 = .ok (.iconst 0, 1) := dk_3 (dk_at dksX4_sees_1 0 rfl rfl)
theorem dX4_sees_25 : decode cX4_sees 25 = .ok (.goto 15, 3) := dk_167 0 15 (dk_at dksX4_sees_1 1 rfl rfl)
theorem dX4_sees_28 : decode cX4_sees 28 = .ok (.aload_n 1, 1) := dk_43 (dk_at dksX4_sees_1 4 rfl rfl)
theorem dX4_sees_29 : decode cX4_sees 29 = .ok (.iconst 1, 1) := dk_4 (dk_at dksX4_sees_1 5 rfl rfl)
theorem dX4_sees_30 : decode cX4_sees 30 = .ok (.aload_n 0, 1) := dk_42 (dk_at dksX4_sees_1 6 rfl rfl)
theorem dX4_sees_31 : decode cX4_sees 31 = .ok (.getfield 9, 3) := dk_180 0 9 (dk_at dksX4_sees_1 7 rfl rfl)
theorem dX4_sees_34 : decode cX4_sees 34 = .ok (.iload_n 2, 1) := dk_28 (dk_at dksX4_sees_1 10 rfl rfl)
theorem dX4_sees_35 : decode cX4_sees 35 = .ok (.iaload, 1) := dk_46 (dk_at dksX4_sees_1 11 rfl rfl)
theorem dX4_sees_36 : decode cX4_sees 36 = .ok (.ishl, 1) := dk_120 (dk_at dksX4_sees_1 12 rfl rfl)
theorem dX4_sees_37 : decode cX4_sees 37 = .ok (.invokevirtual 65, 3) := dk_182 0 65 (dk_at dksX4_sees_1 13 rfl rfl)
theorem dX4_sees_40 : decode cX4_sees 40 = .ok (.ireturn, 1) := dk_172 (dk_at dksX4_sees_1 16 rfl rfl)
abbrev cX4_leaves : ByteArray := prog_20_method_9_code
def yX4_leaves : MethodName := ⟨RX4, "leaves", "(IZ)I"⟩
def dkwX4_leaves_2 : List UInt8 := [172]
abbrev dktX4_leaves_2 : List UInt8 := dkwX4_leaves_2 ++ []
def dkwX4_leaves_1 : List UInt8 := [159, 0, 17, 42, 27, 21, 4, 182, 0, 87, 28, 160, 0, 6, 132, 3, 1, 132, 4, 1, 167, 255, 219, 29]
abbrev dktX4_leaves_1 : List UInt8 := dkwX4_leaves_1 ++ dktX4_leaves_2
def dkwX4_leaves_0 : List UInt8 := [3, 62, 3, 54, 4, 21, 4, 42, 180, 0, 43, 162, 0, 34, 42, 27, 21, 4, 182, 0, 76, 2]
abbrev dktX4_leaves_0 : List UInt8 := dkwX4_leaves_0 ++ dktX4_leaves_1
theorem dksX4_leaves_0 : cX4_leaves.data.toList.drop 0 = dktX4_leaves_0 := by decide +kernel
theorem dksX4_leaves_1 : cX4_leaves.data.toList.drop 22 = dktX4_leaves_1 := dk_seg dksX4_leaves_0 22 rfl rfl
theorem dksX4_leaves_2 : cX4_leaves.data.toList.drop 46 = dktX4_leaves_2 := dk_seg dksX4_leaves_1 24 rfl rfl
theorem dX4_leaves_0 : decode cX4_leaves 0 = .ok (.iconst 0, 1) := dk_3 (dk_at dksX4_leaves_0 0 rfl rfl)
theorem dX4_leaves_1 : decode cX4_leaves 1 = .ok (.istore_n 3, 1) := dk_62 (dk_at dksX4_leaves_0 1 rfl rfl)
theorem dX4_leaves_2 : decode cX4_leaves 2 = .ok (.iconst 0, 1) := dk_3 (dk_at dksX4_leaves_0 2 rfl rfl)
theorem dX4_leaves_3 : decode cX4_leaves 3 = .ok (.istore 4, 2) := dk_54 4 (dk_at dksX4_leaves_0 3 rfl rfl)
theorem dX4_leaves_5 : decode cX4_leaves 5 = .ok (.iload 4, 2) := dk_21 4 (dk_at dksX4_leaves_0 5 rfl rfl)
theorem dX4_leaves_7 : decode cX4_leaves 7 = .ok (.aload_n 0, 1) := dk_42 (dk_at dksX4_leaves_0 7 rfl rfl)
theorem dX4_leaves_8 : decode cX4_leaves 8 = .ok (.getfield 43, 3) := dk_180 0 43 (dk_at dksX4_leaves_0 8 rfl rfl)
theorem dX4_leaves_11 : decode cX4_leaves 11 = .ok (.if_icmp .ge 34, 3) := dk_162 0 34 (dk_at dksX4_leaves_0 11 rfl rfl)
theorem dX4_leaves_14 : decode cX4_leaves 14 = .ok (.aload_n 0, 1) := dk_42 (dk_at dksX4_leaves_0 14 rfl rfl)
theorem dX4_leaves_15 : decode cX4_leaves 15 = .ok (.iload_n 1, 1) := dk_27 (dk_at dksX4_leaves_0 15 rfl rfl)
theorem dX4_leaves_16 : decode cX4_leaves 16 = .ok (.iload 4, 2) := dk_21 4 (dk_at dksX4_leaves_0 16 rfl rfl)
theorem dX4_leaves_18 : decode cX4_leaves 18 = .ok (.invokevirtual 76, 3) := dk_182 0 76 (dk_at dksX4_leaves_0 18 rfl rfl)
theorem dX4_leaves_21 : decode cX4_leaves 21 = .ok (.iconst (-1), 1) := dk_2 (dk_at dksX4_leaves_0 21 rfl rfl)
theorem dX4_leaves_22 : decode cX4_leaves 22 = .ok (.if_icmp .eq 17, 3) := dk_159 0 17 (dk_at dksX4_leaves_1 0 rfl rfl)
theorem dX4_leaves_25 : decode cX4_leaves 25 = .ok (.aload_n 0, 1) := dk_42 (dk_at dksX4_leaves_1 3 rfl rfl)
theorem dX4_leaves_26 : decode cX4_leaves 26 = .ok (.iload_n 1, 1) := dk_27 (dk_at dksX4_leaves_1 4 rfl rfl)
theorem dX4_leaves_27 : decode cX4_leaves 27 = .ok (.iload 4, 2) := dk_21 4 (dk_at dksX4_leaves_1 5 rfl rfl)
theorem dX4_leaves_29 : decode cX4_leaves 29 = .ok (.invokevirtual 87, 3) := dk_182 0 87 (dk_at dksX4_leaves_1 7 rfl rfl)
theorem dX4_leaves_32 : decode cX4_leaves 32 = .ok (.iload_n 2, 1) := dk_28 (dk_at dksX4_leaves_1 10 rfl rfl)
theorem dX4_leaves_33 : decode cX4_leaves 33 = .ok (.if_icmp .ne 6, 3) := dk_160 0 6 (dk_at dksX4_leaves_1 11 rfl rfl)
theorem dX4_leaves_36 : decode cX4_leaves 36 = .ok (.iinc 3 1, 3) := dk_132 3 1 (dk_at dksX4_leaves_1 14 rfl rfl)
theorem dX4_leaves_39 : decode cX4_leaves 39 = .ok (.iinc 4 1, 3) := dk_132 4 1 (dk_at dksX4_leaves_1 17 rfl rfl)
theorem dX4_leaves_42 : decode cX4_leaves 42 = .ok (.goto (-37), 3) := dk_167 255 219 (dk_at dksX4_leaves_1 20 rfl rfl)
theorem dX4_leaves_45 : decode cX4_leaves 45 = .ok (.iload_n 3, 1) := dk_29 (dk_at dksX4_leaves_1 23 rfl rfl)
theorem dX4_leaves_46 : decode cX4_leaves 46 = .ok (.ireturn, 1) := dk_172 (dk_at dksX4_leaves_2 0 rfl rfl)
abbrev cX4_hasCome : ByteArray := prog_20_method_8_code
def yX4_hasCome : MethodName := ⟨RX4, "hasCome", "(II)Z"⟩
def dkwX4_hasCome_1 : List UInt8 := [167, 0, 4, 3, 172]
abbrev dktX4_hasCome_1 : List UInt8 := dkwX4_hasCome_1 ++ []
def dkwX4_hasCome_0 : List UInt8 := [42, 27, 28, 182, 0, 76, 2, 159, 0, 20, 42, 27, 28, 182, 0, 76, 42, 180, 0, 39, 163, 0, 7, 4]
abbrev dktX4_hasCome_0 : List UInt8 := dkwX4_hasCome_0 ++ dktX4_hasCome_1
theorem dksX4_hasCome_0 : cX4_hasCome.data.toList.drop 0 = dktX4_hasCome_0 := by decide +kernel
theorem dksX4_hasCome_1 : cX4_hasCome.data.toList.drop 24 = dktX4_hasCome_1 := dk_seg dksX4_hasCome_0 24 rfl rfl
theorem dX4_hasCome_0 : decode cX4_hasCome 0 = .ok (.aload_n 0, 1) := dk_42 (dk_at dksX4_hasCome_0 0 rfl rfl)
theorem dX4_hasCome_1 : decode cX4_hasCome 1 = .ok (.iload_n 1, 1) := dk_27 (dk_at dksX4_hasCome_0 1 rfl rfl)
theorem dX4_hasCome_2 : decode cX4_hasCome 2 = .ok (.iload_n 2, 1) := dk_28 (dk_at dksX4_hasCome_0 2 rfl rfl)
theorem dX4_hasCome_3 : decode cX4_hasCome 3 = .ok (.invokevirtual 76, 3) := dk_182 0 76 (dk_at dksX4_hasCome_0 3 rfl rfl)
theorem dX4_hasCome_6 : decode cX4_hasCome 6 = .ok (.iconst (-1), 1) := dk_2 (dk_at dksX4_hasCome_0 6 rfl rfl)
theorem dX4_hasCome_7 : decode cX4_hasCome 7 = .ok (.if_icmp .eq 20, 3) := dk_159 0 20 (dk_at dksX4_hasCome_0 7 rfl rfl)
theorem dX4_hasCome_10 : decode cX4_hasCome 10 = .ok (.aload_n 0, 1) := dk_42 (dk_at dksX4_hasCome_0 10 rfl rfl)
theorem dX4_hasCome_11 : decode cX4_hasCome 11 = .ok (.iload_n 1, 1) := dk_27 (dk_at dksX4_hasCome_0 11 rfl rfl)
theorem dX4_hasCome_12 : decode cX4_hasCome 12 = .ok (.iload_n 2, 1) := dk_28 (dk_at dksX4_hasCome_0 12 rfl rfl)
theorem dX4_hasCome_13 : decode cX4_hasCome 13 = .ok (.invokevirtual 76, 3) := dk_182 0 76 (dk_at dksX4_hasCome_0 13 rfl rfl)
theorem dX4_hasCome_16 : decode cX4_hasCome 16 = .ok (.aload_n 0, 1) := dk_42 (dk_at dksX4_hasCome_0 16 rfl rfl)
theorem dX4_hasCome_17 : decode cX4_hasCome 17 = .ok (.getfield 39, 3) := dk_180 0 39 (dk_at dksX4_hasCome_0 17 rfl rfl)
theorem dX4_hasCome_20 : decode cX4_hasCome 20 = .ok (.if_icmp .gt 7, 3) := dk_163 0 7 (dk_at dksX4_hasCome_0 20 rfl rfl)
theorem dX4_hasCome_23 : decode cX4_hasCome 23 = .ok (.iconst 1, 1) := dk_4 (dk_at dksX4_hasCome_0 23 rfl rfl)
theorem dX4_hasCome_24 : decode cX4_hasCome 24 = .ok (.goto 4, 3) := dk_167 0 4 (dk_at dksX4_hasCome_1 0 rfl rfl)
theorem dX4_hasCome_27 : decode cX4_hasCome 27 = .ok (.iconst 0, 1) := dk_3 (dk_at dksX4_hasCome_1 3 rfl rfl)
theorem dX4_hasCome_28 : decode cX4_hasCome 28 = .ok (.ireturn, 1) := dk_172 (dk_at dksX4_hasCome_1 4 rfl rfl)
abbrev cX4_proved : ByteArray := prog_20_method_13_code
def yX4_proved : MethodName := ⟨RX4, "proved", "(LParlourLeaves$House;)I"⟩
def dkwX4_proved_1 : List UInt8 := [120, 128, 61, 132, 3, 1, 167, 255, 230, 28, 172]
abbrev dktX4_proved_1 : List UInt8 := dkwX4_proved_1 ++ []
def dkwX4_proved_0 : List UInt8 := [3, 61, 3, 62, 29, 42, 180, 0, 43, 162, 0, 24, 42, 43, 29, 182, 0, 102, 153, 0, 9, 28, 4, 29]
abbrev dktX4_proved_0 : List UInt8 := dkwX4_proved_0 ++ dktX4_proved_1
theorem dksX4_proved_0 : cX4_proved.data.toList.drop 0 = dktX4_proved_0 := by decide +kernel
theorem dksX4_proved_1 : cX4_proved.data.toList.drop 24 = dktX4_proved_1 := dk_seg dksX4_proved_0 24 rfl rfl
theorem dX4_proved_0 : decode cX4_proved 0 = .ok (.iconst 0, 1) := dk_3 (dk_at dksX4_proved_0 0 rfl rfl)
theorem dX4_proved_1 : decode cX4_proved 1 = .ok (.istore_n 2, 1) := dk_61 (dk_at dksX4_proved_0 1 rfl rfl)
theorem dX4_proved_2 : decode cX4_proved 2 = .ok (.iconst 0, 1) := dk_3 (dk_at dksX4_proved_0 2 rfl rfl)
theorem dX4_proved_3 : decode cX4_proved 3 = .ok (.istore_n 3, 1) := dk_62 (dk_at dksX4_proved_0 3 rfl rfl)
theorem dX4_proved_4 : decode cX4_proved 4 = .ok (.iload_n 3, 1) := dk_29 (dk_at dksX4_proved_0 4 rfl rfl)
theorem dX4_proved_5 : decode cX4_proved 5 = .ok (.aload_n 0, 1) := dk_42 (dk_at dksX4_proved_0 5 rfl rfl)
theorem dX4_proved_6 : decode cX4_proved 6 = .ok (.getfield 43, 3) := dk_180 0 43 (dk_at dksX4_proved_0 6 rfl rfl)
theorem dX4_proved_9 : decode cX4_proved 9 = .ok (.if_icmp .ge 24, 3) := dk_162 0 24 (dk_at dksX4_proved_0 9 rfl rfl)
theorem dX4_proved_12 : decode cX4_proved 12 = .ok (.aload_n 0, 1) := dk_42 (dk_at dksX4_proved_0 12 rfl rfl)
theorem dX4_proved_13 : decode cX4_proved 13 = .ok (.aload_n 1, 1) := dk_43 (dk_at dksX4_proved_0 13 rfl rfl)
theorem dX4_proved_14 : decode cX4_proved 14 = .ok (.iload_n 3, 1) := dk_29 (dk_at dksX4_proved_0 14 rfl rfl)
theorem dX4_proved_15 : decode cX4_proved 15 = .ok (.invokevirtual 102, 3) := dk_182 0 102 (dk_at dksX4_proved_0 15 rfl rfl)
theorem dX4_proved_18 : decode cX4_proved 18 = .ok (.ifCond .eq 9, 3) := dk_153 0 9 (dk_at dksX4_proved_0 18 rfl rfl)
theorem dX4_proved_21 : decode cX4_proved 21 = .ok (.iload_n 2, 1) := dk_28 (dk_at dksX4_proved_0 21 rfl rfl)
theorem dX4_proved_22 : decode cX4_proved 22 = .ok (.iconst 1, 1) := dk_4 (dk_at dksX4_proved_0 22 rfl rfl)
theorem dX4_proved_23 : decode cX4_proved 23 = .ok (.iload_n 3, 1) := dk_29 (dk_at dksX4_proved_0 23 rfl rfl)
theorem dX4_proved_24 : decode cX4_proved 24 = .ok (.ishl, 1) := dk_120 (dk_at dksX4_proved_1 0 rfl rfl)
theorem dX4_proved_25 : decode cX4_proved 25 = .ok (.ior, 1) := dk_128 (dk_at dksX4_proved_1 1 rfl rfl)
theorem dX4_proved_26 : decode cX4_proved 26 = .ok (.istore_n 2, 1) := dk_61 (dk_at dksX4_proved_1 2 rfl rfl)
theorem dX4_proved_27 : decode cX4_proved 27 = .ok (.iinc 3 1, 3) := dk_132 3 1 (dk_at dksX4_proved_1 3 rfl rfl)
theorem dX4_proved_30 : decode cX4_proved 30 = .ok (.goto (-26), 3) := dk_167 255 230 (dk_at dksX4_proved_1 6 rfl rfl)
theorem dX4_proved_33 : decode cX4_proved 33 = .ok (.iload_n 2, 1) := dk_28 (dk_at dksX4_proved_1 9 rfl rfl)
theorem dX4_proved_34 : decode cX4_proved 34 = .ok (.ireturn, 1) := dk_172 (dk_at dksX4_proved_1 10 rfl rfl)
abbrev cX4_isProved : ByteArray := prog_20_method_12_code
def yX4_isProved : MethodName := ⟨RX4, "isProved", "(LParlourLeaves$House;I)Z"⟩
def dkwX4_isProved_0 : List UInt8 := [42, 43, 28, 4, 182, 0, 90, 184, 0, 94, 43, 180, 0, 99, 161, 0, 7, 4, 167, 0, 4, 3, 172]
abbrev dktX4_isProved_0 : List UInt8 := dkwX4_isProved_0 ++ []
theorem dksX4_isProved_0 : cX4_isProved.data.toList.drop 0 = dktX4_isProved_0 := by decide +kernel
theorem dX4_isProved_0 : decode cX4_isProved 0 = .ok (.aload_n 0, 1) := dk_42 (dk_at dksX4_isProved_0 0 rfl rfl)
theorem dX4_isProved_1 : decode cX4_isProved 1 = .ok (.aload_n 1, 1) := dk_43 (dk_at dksX4_isProved_0 1 rfl rfl)
theorem dX4_isProved_2 : decode cX4_isProved 2 = .ok (.iload_n 2, 1) := dk_28 (dk_at dksX4_isProved_0 2 rfl rfl)
theorem dX4_isProved_3 : decode cX4_isProved 3 = .ok (.iconst 1, 1) := dk_4 (dk_at dksX4_isProved_0 3 rfl rfl)
theorem dX4_isProved_4 : decode cX4_isProved 4 = .ok (.invokevirtual 90, 3) := dk_182 0 90 (dk_at dksX4_isProved_0 4 rfl rfl)
theorem dX4_isProved_7 : decode cX4_isProved 7 = .ok (.invokestatic 94, 3) := dk_184 0 94 (dk_at dksX4_isProved_0 7 rfl rfl)
theorem dX4_isProved_10 : decode cX4_isProved 10 = .ok (.aload_n 1, 1) := dk_43 (dk_at dksX4_isProved_0 10 rfl rfl)
theorem dX4_isProved_11 : decode cX4_isProved 11 = .ok (.getfield 99, 3) := dk_180 0 99 (dk_at dksX4_isProved_0 11 rfl rfl)
theorem dX4_isProved_14 : decode cX4_isProved 14 = .ok (.if_icmp .lt 7, 3) := dk_161 0 7 (dk_at dksX4_isProved_0 14 rfl rfl)
theorem dX4_isProved_17 : decode cX4_isProved 17 = .ok (.iconst 1, 1) := dk_4 (dk_at dksX4_isProved_0 17 rfl rfl)
theorem dX4_isProved_18 : decode cX4_isProved 18 = .ok (.goto 4, 3) := dk_167 0 4 (dk_at dksX4_isProved_0 18 rfl rfl)
theorem dX4_isProved_21 : decode cX4_isProved 21 = .ok (.iconst 0, 1) := dk_3 (dk_at dksX4_isProved_0 21 rfl rfl)
theorem dX4_isProved_22 : decode cX4_isProved 22 = .ok (.ireturn, 1) := dk_172 (dk_at dksX4_isProved_0 22 rfl rfl)
abbrev cX4_witnesses : ByteArray := prog_20_method_11_code
def yX4_witnesses : MethodName := ⟨RX4, "witnesses", "(LParlourLeaves$House;IZ)I"⟩
def dkwX4_witnesses_2 : List UInt8 := [132, 5, 1, 167, 255, 213, 21, 4, 172]
abbrev dktX4_witnesses_2 : List UInt8 := dkwX4_witnesses_2 ++ []
def dkwX4_witnesses_1 : List UInt8 := [159, 0, 23, 42, 21, 5, 28, 182, 0, 87, 29, 160, 0, 12, 21, 4, 4, 21, 5, 120, 128, 54, 4]
abbrev dktX4_witnesses_1 : List UInt8 := dkwX4_witnesses_1 ++ dktX4_witnesses_2
def dkwX4_witnesses_0 : List UInt8 := [3, 54, 4, 3, 54, 5, 21, 5, 43, 180, 0, 69, 162, 0, 40, 42, 21, 5, 28, 182, 0, 76, 2]
abbrev dktX4_witnesses_0 : List UInt8 := dkwX4_witnesses_0 ++ dktX4_witnesses_1
theorem dksX4_witnesses_0 : cX4_witnesses.data.toList.drop 0 = dktX4_witnesses_0 := by decide +kernel
theorem dksX4_witnesses_1 : cX4_witnesses.data.toList.drop 23 = dktX4_witnesses_1 := dk_seg dksX4_witnesses_0 23 rfl rfl
theorem dksX4_witnesses_2 : cX4_witnesses.data.toList.drop 46 = dktX4_witnesses_2 := dk_seg dksX4_witnesses_1 23 rfl rfl
theorem dX4_witnesses_0 : decode cX4_witnesses 0 = .ok (.iconst 0, 1) := dk_3 (dk_at dksX4_witnesses_0 0 rfl rfl)
theorem dX4_witnesses_1 : decode cX4_witnesses 1 = .ok (.istore 4, 2) := dk_54 4 (dk_at dksX4_witnesses_0 1 rfl rfl)
theorem dX4_witnesses_3 : decode cX4_witnesses 3 = .ok (.iconst 0, 1) := dk_3 (dk_at dksX4_witnesses_0 3 rfl rfl)
theorem dX4_witnesses_4 : decode cX4_witnesses 4 = .ok (.istore 5, 2) := dk_54 5 (dk_at dksX4_witnesses_0 4 rfl rfl)
theorem dX4_witnesses_6 : decode cX4_witnesses 6 = .ok (.iload 5, 2) := dk_21 5 (dk_at dksX4_witnesses_0 6 rfl rfl)
theorem dX4_witnesses_8 : decode cX4_witnesses 8 = .ok (.aload_n 1, 1) := dk_43 (dk_at dksX4_witnesses_0 8 rfl rfl)
theorem dX4_witnesses_9 : decode cX4_witnesses 9 = .ok (.getfield 69, 3) := dk_180 0 69 (dk_at dksX4_witnesses_0 9 rfl rfl)
theorem dX4_witnesses_12 : decode cX4_witnesses 12 = .ok (.if_icmp .ge 40, 3) := dk_162 0 40 (dk_at dksX4_witnesses_0 12 rfl rfl)
theorem dX4_witnesses_15 : decode cX4_witnesses 15 = .ok (.aload_n 0, 1) := dk_42 (dk_at dksX4_witnesses_0 15 rfl rfl)
theorem dX4_witnesses_16 : decode cX4_witnesses 16 = .ok (.iload 5, 2) := dk_21 5 (dk_at dksX4_witnesses_0 16 rfl rfl)
theorem dX4_witnesses_18 : decode cX4_witnesses 18 = .ok (.iload_n 2, 1) := dk_28 (dk_at dksX4_witnesses_0 18 rfl rfl)
theorem dX4_witnesses_19 : decode cX4_witnesses 19 = .ok (.invokevirtual 76, 3) := dk_182 0 76 (dk_at dksX4_witnesses_0 19 rfl rfl)
theorem dX4_witnesses_22 : decode cX4_witnesses 22 = .ok (.iconst (-1), 1) := dk_2 (dk_at dksX4_witnesses_0 22 rfl rfl)
theorem dX4_witnesses_23 : decode cX4_witnesses 23 = .ok (.if_icmp .eq 23, 3) := dk_159 0 23 (dk_at dksX4_witnesses_1 0 rfl rfl)
theorem dX4_witnesses_26 : decode cX4_witnesses 26 = .ok (.aload_n 0, 1) := dk_42 (dk_at dksX4_witnesses_1 3 rfl rfl)
theorem dX4_witnesses_27 : decode cX4_witnesses 27 = .ok (.iload 5, 2) := dk_21 5 (dk_at dksX4_witnesses_1 4 rfl rfl)
theorem dX4_witnesses_29 : decode cX4_witnesses 29 = .ok (.iload_n 2, 1) := dk_28 (dk_at dksX4_witnesses_1 6 rfl rfl)
theorem dX4_witnesses_30 : decode cX4_witnesses 30 = .ok (.invokevirtual 87, 3) := dk_182 0 87 (dk_at dksX4_witnesses_1 7 rfl rfl)
theorem dX4_witnesses_33 : decode cX4_witnesses 33 = .ok (.iload_n 3, 1) := dk_29 (dk_at dksX4_witnesses_1 10 rfl rfl)
theorem dX4_witnesses_34 : decode cX4_witnesses 34 = .ok (.if_icmp .ne 12, 3) := dk_160 0 12 (dk_at dksX4_witnesses_1 11 rfl rfl)
theorem dX4_witnesses_37 : decode cX4_witnesses 37 = .ok (.iload 4, 2) := dk_21 4 (dk_at dksX4_witnesses_1 14 rfl rfl)
theorem dX4_witnesses_39 : decode cX4_witnesses 39 = .ok (.iconst 1, 1) := dk_4 (dk_at dksX4_witnesses_1 16 rfl rfl)
theorem dX4_witnesses_40 : decode cX4_witnesses 40 = .ok (.iload 5, 2) := dk_21 5 (dk_at dksX4_witnesses_1 17 rfl rfl)
theorem dX4_witnesses_42 : decode cX4_witnesses 42 = .ok (.ishl, 1) := dk_120 (dk_at dksX4_witnesses_1 19 rfl rfl)
theorem dX4_witnesses_43 : decode cX4_witnesses 43 = .ok (.ior, 1) := dk_128 (dk_at dksX4_witnesses_1 20 rfl rfl)
theorem dX4_witnesses_44 : decode cX4_witnesses 44 = .ok (.istore 4, 2) := dk_54 4 (dk_at dksX4_witnesses_1 21 rfl rfl)
theorem dX4_witnesses_46 : decode cX4_witnesses 46 = .ok (.iinc 5 1, 3) := dk_132 5 1 (dk_at dksX4_witnesses_2 0 rfl rfl)
theorem dX4_witnesses_49 : decode cX4_witnesses 49 = .ok (.goto (-43), 3) := dk_167 255 213 (dk_at dksX4_witnesses_2 3 rfl rfl)
theorem dX4_witnesses_52 : decode cX4_witnesses 52 = .ok (.iload 4, 2) := dk_21 4 (dk_at dksX4_witnesses_2 6 rfl rfl)
theorem dX4_witnesses_54 : decode cX4_witnesses 54 = .ok (.ireturn, 1) := dk_172 (dk_at dksX4_witnesses_2 8 rfl rfl)
abbrev cX4_be : ByteArray := prog_20_method_2_code
def yX4_be : MethodName := ⟨RX4, "be", "(LParlourLeaves$State;)V"⟩
def dkwX4_be_5 : List UInt8 := [180, 0, 43, 181, 0, 43, 177]
abbrev dktX4_be_5 : List UInt8 := dkwX4_be_5 ++ []
def dkwX4_be_4 : List UInt8 := [3, 42, 180, 0, 30, 3, 42, 180, 0, 30, 190, 184, 0, 33, 42, 43, 180, 0, 39, 181, 0, 39, 42, 43]
abbrev dktX4_be_4 : List UInt8 := dkwX4_be_4 ++ dktX4_be_5
def dkwX4_be_3 : List UInt8 := [16, 12, 184, 0, 33, 43, 180, 0, 27, 3, 42, 180, 0, 27, 3, 16, 12, 184, 0, 33, 43, 180, 0, 30]
abbrev dktX4_be_3 : List UInt8 := dkwX4_be_3 ++ dktX4_be_4
def dkwX4_be_2 : List UInt8 := [180, 0, 21, 3, 42, 180, 0, 21, 3, 16, 12, 184, 0, 33, 43, 180, 0, 24, 3, 42, 180, 0, 24, 3]
abbrev dktX4_be_2 : List UInt8 := dkwX4_be_2 ++ dktX4_be_3
def dkwX4_be_1 : List UInt8 := [3, 16, 6, 184, 0, 33, 43, 180, 0, 18, 3, 42, 180, 0, 18, 3, 16, 12, 184, 0, 33, 43]
abbrev dktX4_be_1 : List UInt8 := dkwX4_be_1 ++ dktX4_be_2
def dkwX4_be_0 : List UInt8 := [43, 180, 0, 9, 3, 42, 180, 0, 9, 3, 16, 6, 184, 0, 33, 43, 180, 0, 15, 3, 42, 180, 0, 15]
abbrev dktX4_be_0 : List UInt8 := dkwX4_be_0 ++ dktX4_be_1
theorem dksX4_be_0 : cX4_be.data.toList.drop 0 = dktX4_be_0 := by decide +kernel
theorem dksX4_be_1 : cX4_be.data.toList.drop 24 = dktX4_be_1 := dk_seg dksX4_be_0 24 rfl rfl
theorem dksX4_be_2 : cX4_be.data.toList.drop 46 = dktX4_be_2 := dk_seg dksX4_be_1 22 rfl rfl
theorem dksX4_be_3 : cX4_be.data.toList.drop 70 = dktX4_be_3 := dk_seg dksX4_be_2 24 rfl rfl
theorem dksX4_be_4 : cX4_be.data.toList.drop 94 = dktX4_be_4 := dk_seg dksX4_be_3 24 rfl rfl
theorem dksX4_be_5 : cX4_be.data.toList.drop 118 = dktX4_be_5 := dk_seg dksX4_be_4 24 rfl rfl
theorem dX4_be_0 : decode cX4_be 0 = .ok (.aload_n 1, 1) := dk_43 (dk_at dksX4_be_0 0 rfl rfl)
theorem dX4_be_1 : decode cX4_be 1 = .ok (.getfield 9, 3) := dk_180 0 9 (dk_at dksX4_be_0 1 rfl rfl)
theorem dX4_be_4 : decode cX4_be 4 = .ok (.iconst 0, 1) := dk_3 (dk_at dksX4_be_0 4 rfl rfl)
theorem dX4_be_5 : decode cX4_be 5 = .ok (.aload_n 0, 1) := dk_42 (dk_at dksX4_be_0 5 rfl rfl)
theorem dX4_be_6 : decode cX4_be 6 = .ok (.getfield 9, 3) := dk_180 0 9 (dk_at dksX4_be_0 6 rfl rfl)
theorem dX4_be_9 : decode cX4_be 9 = .ok (.iconst 0, 1) := dk_3 (dk_at dksX4_be_0 9 rfl rfl)
theorem dX4_be_10 : decode cX4_be 10 = .ok (.bipush 6, 2) := dk_16 6 (dk_at dksX4_be_0 10 rfl rfl)
theorem dX4_be_12 : decode cX4_be 12 = .ok (.invokestatic 33, 3) := dk_184 0 33 (dk_at dksX4_be_0 12 rfl rfl)
theorem dX4_be_15 : decode cX4_be 15 = .ok (.aload_n 1, 1) := dk_43 (dk_at dksX4_be_0 15 rfl rfl)
theorem dX4_be_16 : decode cX4_be 16 = .ok (.getfield 15, 3) := dk_180 0 15 (dk_at dksX4_be_0 16 rfl rfl)
theorem dX4_be_19 : decode cX4_be 19 = .ok (.iconst 0, 1) := dk_3 (dk_at dksX4_be_0 19 rfl rfl)
theorem dX4_be_20 : decode cX4_be 20 = .ok (.aload_n 0, 1) := dk_42 (dk_at dksX4_be_0 20 rfl rfl)
theorem dX4_be_21 : decode cX4_be 21 = .ok (.getfield 15, 3) := dk_180 0 15 (dk_at dksX4_be_0 21 rfl rfl)
theorem dX4_be_24 : decode cX4_be 24 = .ok (.iconst 0, 1) := dk_3 (dk_at dksX4_be_1 0 rfl rfl)
theorem dX4_be_25 : decode cX4_be 25 = .ok (.bipush 6, 2) := dk_16 6 (dk_at dksX4_be_1 1 rfl rfl)
theorem dX4_be_27 : decode cX4_be 27 = .ok (.invokestatic 33, 3) := dk_184 0 33 (dk_at dksX4_be_1 3 rfl rfl)
theorem dX4_be_30 : decode cX4_be 30 = .ok (.aload_n 1, 1) := dk_43 (dk_at dksX4_be_1 6 rfl rfl)
theorem dX4_be_31 : decode cX4_be 31 = .ok (.getfield 18, 3) := dk_180 0 18 (dk_at dksX4_be_1 7 rfl rfl)
theorem dX4_be_34 : decode cX4_be 34 = .ok (.iconst 0, 1) := dk_3 (dk_at dksX4_be_1 10 rfl rfl)
theorem dX4_be_35 : decode cX4_be 35 = .ok (.aload_n 0, 1) := dk_42 (dk_at dksX4_be_1 11 rfl rfl)
theorem dX4_be_36 : decode cX4_be 36 = .ok (.getfield 18, 3) := dk_180 0 18 (dk_at dksX4_be_1 12 rfl rfl)
theorem dX4_be_39 : decode cX4_be 39 = .ok (.iconst 0, 1) := dk_3 (dk_at dksX4_be_1 15 rfl rfl)
theorem dX4_be_40 : decode cX4_be 40 = .ok (.bipush 12, 2) := dk_16 12 (dk_at dksX4_be_1 16 rfl rfl)
theorem dX4_be_42 : decode cX4_be 42 = .ok (.invokestatic 33, 3) := dk_184 0 33 (dk_at dksX4_be_1 18 rfl rfl)
theorem dX4_be_45 : decode cX4_be 45 = .ok (.aload_n 1, 1) := dk_43 (dk_at dksX4_be_1 21 rfl rfl)
theorem dX4_be_46 : decode cX4_be 46 = .ok (.getfield 21, 3) := dk_180 0 21 (dk_at dksX4_be_2 0 rfl rfl)
theorem dX4_be_49 : decode cX4_be 49 = .ok (.iconst 0, 1) := dk_3 (dk_at dksX4_be_2 3 rfl rfl)
theorem dX4_be_50 : decode cX4_be 50 = .ok (.aload_n 0, 1) := dk_42 (dk_at dksX4_be_2 4 rfl rfl)
theorem dX4_be_51 : decode cX4_be 51 = .ok (.getfield 21, 3) := dk_180 0 21 (dk_at dksX4_be_2 5 rfl rfl)
theorem dX4_be_54 : decode cX4_be 54 = .ok (.iconst 0, 1) := dk_3 (dk_at dksX4_be_2 8 rfl rfl)
theorem dX4_be_55 : decode cX4_be 55 = .ok (.bipush 12, 2) := dk_16 12 (dk_at dksX4_be_2 9 rfl rfl)
theorem dX4_be_57 : decode cX4_be 57 = .ok (.invokestatic 33, 3) := dk_184 0 33 (dk_at dksX4_be_2 11 rfl rfl)
theorem dX4_be_60 : decode cX4_be 60 = .ok (.aload_n 1, 1) := dk_43 (dk_at dksX4_be_2 14 rfl rfl)
theorem dX4_be_61 : decode cX4_be 61 = .ok (.getfield 24, 3) := dk_180 0 24 (dk_at dksX4_be_2 15 rfl rfl)
theorem dX4_be_64 : decode cX4_be 64 = .ok (.iconst 0, 1) := dk_3 (dk_at dksX4_be_2 18 rfl rfl)
theorem dX4_be_65 : decode cX4_be 65 = .ok (.aload_n 0, 1) := dk_42 (dk_at dksX4_be_2 19 rfl rfl)
theorem dX4_be_66 : decode cX4_be 66 = .ok (.getfield 24, 3) := dk_180 0 24 (dk_at dksX4_be_2 20 rfl rfl)
theorem dX4_be_69 : decode cX4_be 69 = .ok (.iconst 0, 1) := dk_3 (dk_at dksX4_be_2 23 rfl rfl)
theorem dX4_be_70 : decode cX4_be 70 = .ok (.bipush 12, 2) := dk_16 12 (dk_at dksX4_be_3 0 rfl rfl)
theorem dX4_be_72 : decode cX4_be 72 = .ok (.invokestatic 33, 3) := dk_184 0 33 (dk_at dksX4_be_3 2 rfl rfl)
theorem dX4_be_75 : decode cX4_be 75 = .ok (.aload_n 1, 1) := dk_43 (dk_at dksX4_be_3 5 rfl rfl)
theorem dX4_be_76 : decode cX4_be 76 = .ok (.getfield 27, 3) := dk_180 0 27 (dk_at dksX4_be_3 6 rfl rfl)
theorem dX4_be_79 : decode cX4_be 79 = .ok (.iconst 0, 1) := dk_3 (dk_at dksX4_be_3 9 rfl rfl)
theorem dX4_be_80 : decode cX4_be 80 = .ok (.aload_n 0, 1) := dk_42 (dk_at dksX4_be_3 10 rfl rfl)
theorem dX4_be_81 : decode cX4_be 81 = .ok (.getfield 27, 3) := dk_180 0 27 (dk_at dksX4_be_3 11 rfl rfl)
theorem dX4_be_84 : decode cX4_be 84 = .ok (.iconst 0, 1) := dk_3 (dk_at dksX4_be_3 14 rfl rfl)
theorem dX4_be_85 : decode cX4_be 85 = .ok (.bipush 12, 2) := dk_16 12 (dk_at dksX4_be_3 15 rfl rfl)
theorem dX4_be_87 : decode cX4_be 87 = .ok (.invokestatic 33, 3) := dk_184 0 33 (dk_at dksX4_be_3 17 rfl rfl)
theorem dX4_be_90 : decode cX4_be 90 = .ok (.aload_n 1, 1) := dk_43 (dk_at dksX4_be_3 20 rfl rfl)
theorem dX4_be_91 : decode cX4_be 91 = .ok (.getfield 30, 3) := dk_180 0 30 (dk_at dksX4_be_3 21 rfl rfl)
theorem dX4_be_94 : decode cX4_be 94 = .ok (.iconst 0, 1) := dk_3 (dk_at dksX4_be_4 0 rfl rfl)
theorem dX4_be_95 : decode cX4_be 95 = .ok (.aload_n 0, 1) := dk_42 (dk_at dksX4_be_4 1 rfl rfl)
theorem dX4_be_96 : decode cX4_be 96 = .ok (.getfield 30, 3) := dk_180 0 30 (dk_at dksX4_be_4 2 rfl rfl)
theorem dX4_be_99 : decode cX4_be 99 = .ok (.iconst 0, 1) := dk_3 (dk_at dksX4_be_4 5 rfl rfl)
theorem dX4_be_100 : decode cX4_be 100 = .ok (.aload_n 0, 1) := dk_42 (dk_at dksX4_be_4 6 rfl rfl)
theorem dX4_be_101 : decode cX4_be 101 = .ok (.getfield 30, 3) := dk_180 0 30 (dk_at dksX4_be_4 7 rfl rfl)
theorem dX4_be_104 : decode cX4_be 104 = .ok (.arraylength, 1) := dk_190 (dk_at dksX4_be_4 10 rfl rfl)
theorem dX4_be_105 : decode cX4_be 105 = .ok (.invokestatic 33, 3) := dk_184 0 33 (dk_at dksX4_be_4 11 rfl rfl)
theorem dX4_be_108 : decode cX4_be 108 = .ok (.aload_n 0, 1) := dk_42 (dk_at dksX4_be_4 14 rfl rfl)
theorem dX4_be_109 : decode cX4_be 109 = .ok (.aload_n 1, 1) := dk_43 (dk_at dksX4_be_4 15 rfl rfl)
theorem dX4_be_110 : decode cX4_be 110 = .ok (.getfield 39, 3) := dk_180 0 39 (dk_at dksX4_be_4 16 rfl rfl)
theorem dX4_be_113 : decode cX4_be 113 = .ok (.putfield 39, 3) := dk_181 0 39 (dk_at dksX4_be_4 19 rfl rfl)
theorem dX4_be_116 : decode cX4_be 116 = .ok (.aload_n 0, 1) := dk_42 (dk_at dksX4_be_4 22 rfl rfl)
theorem dX4_be_117 : decode cX4_be 117 = .ok (.aload_n 1, 1) := dk_43 (dk_at dksX4_be_4 23 rfl rfl)
theorem dX4_be_118 : decode cX4_be 118 = .ok (.getfield 43, 3) := dk_180 0 43 (dk_at dksX4_be_5 0 rfl rfl)
theorem dX4_be_121 : decode cX4_be 121 = .ok (.putfield 43, 3) := dk_181 0 43 (dk_at dksX4_be_5 3 rfl rfl)
theorem dX4_be_124 : decode cX4_be 124 = .ok (.return_, 1) := dk_177 (dk_at dksX4_be_5 6 rfl rfl)
abbrev cX4_whyDo : ByteArray := prog_20_method_14_code
def yX4_whyDo : MethodName := ⟨RX4, "whyDo", "()I"⟩
def dkwX4_whyDo_0 : List UInt8 := [42, 180, 0, 43, 16, 12, 160, 0, 7, 4, 167, 0, 4, 3, 172]
abbrev dktX4_whyDo_0 : List UInt8 := dkwX4_whyDo_0 ++ []
theorem dksX4_whyDo_0 : cX4_whyDo.data.toList.drop 0 = dktX4_whyDo_0 := by decide +kernel
theorem dX4_whyDo_0 : decode cX4_whyDo 0 = .ok (.aload_n 0, 1) := dk_42 (dk_at dksX4_whyDo_0 0 rfl rfl)
theorem dX4_whyDo_1 : decode cX4_whyDo 1 = .ok (.getfield 43, 3) := dk_180 0 43 (dk_at dksX4_whyDo_0 1 rfl rfl)
theorem dX4_whyDo_4 : decode cX4_whyDo 4 = .ok (.bipush 12, 2) := dk_16 12 (dk_at dksX4_whyDo_0 4 rfl rfl)
theorem dX4_whyDo_6 : decode cX4_whyDo 6 = .ok (.if_icmp .ne 7, 3) := dk_160 0 7 (dk_at dksX4_whyDo_0 6 rfl rfl)
theorem dX4_whyDo_9 : decode cX4_whyDo 9 = .ok (.iconst 1, 1) := dk_4 (dk_at dksX4_whyDo_0 9 rfl rfl)
theorem dX4_whyDo_10 : decode cX4_whyDo 10 = .ok (.goto 4, 3) := dk_167 0 4 (dk_at dksX4_whyDo_0 10 rfl rfl)
theorem dX4_whyDo_13 : decode cX4_whyDo 13 = .ok (.iconst 0, 1) := dk_3 (dk_at dksX4_whyDo_0 13 rfl rfl)
theorem dX4_whyDo_14 : decode cX4_whyDo 14 = .ok (.ireturn, 1) := dk_172 (dk_at dksX4_whyDo_0 14 rfl rfl)
abbrev cX4_does : ByteArray := prog_20_method_15_code
def yX4_does : MethodName := ⟨RX4, "does", "(LParlourLeaves$House;III)V"⟩
def dkwX4_does_4 : List UInt8 := [132, 5, 1, 167, 255, 207, 42, 89, 180, 0, 43, 4, 96, 181, 0, 43, 177]
abbrev dktX4_does_4 : List UInt8 := dkwX4_does_4 ++ []
def dkwX4_does_3 : List UInt8 := [42, 180, 0, 30, 16, 12, 21, 5, 104, 42, 180, 0, 43, 96, 42, 43, 21, 5, 182, 0, 106, 79]
abbrev dktX4_does_3 : List UInt8 := dkwX4_does_3 ++ dktX4_does_4
def dkwX4_does_2 : List UInt8 := [21, 5, 43, 180, 0, 69, 162, 0, 46, 42, 43, 21, 5, 182, 0, 72, 21, 4, 184, 0, 58, 153, 0, 25]
abbrev dktX4_does_2 : List UInt8 := dkwX4_does_2 ++ dktX4_does_3
def dkwX4_does_1 : List UInt8 := [42, 180, 0, 43, 21, 4, 79, 42, 180, 0, 27, 42, 180, 0, 43, 42, 180, 0, 39, 79, 3, 54, 5]
abbrev dktX4_does_1 : List UInt8 := dkwX4_does_1 ++ dktX4_does_2
def dkwX4_does_0 : List UInt8 := [42, 180, 0, 18, 42, 180, 0, 43, 28, 79, 42, 180, 0, 21, 42, 180, 0, 43, 29, 79, 42, 180, 0, 24]
abbrev dktX4_does_0 : List UInt8 := dkwX4_does_0 ++ dktX4_does_1
theorem dksX4_does_0 : cX4_does.data.toList.drop 0 = dktX4_does_0 := by decide +kernel
theorem dksX4_does_1 : cX4_does.data.toList.drop 24 = dktX4_does_1 := dk_seg dksX4_does_0 24 rfl rfl
theorem dksX4_does_2 : cX4_does.data.toList.drop 47 = dktX4_does_2 := dk_seg dksX4_does_1 23 rfl rfl
theorem dksX4_does_3 : cX4_does.data.toList.drop 71 = dktX4_does_3 := dk_seg dksX4_does_2 24 rfl rfl
theorem dksX4_does_4 : cX4_does.data.toList.drop 93 = dktX4_does_4 := dk_seg dksX4_does_3 22 rfl rfl
theorem dX4_does_0 : decode cX4_does 0 = .ok (.aload_n 0, 1) := dk_42 (dk_at dksX4_does_0 0 rfl rfl)
theorem dX4_does_1 : decode cX4_does 1 = .ok (.getfield 18, 3) := dk_180 0 18 (dk_at dksX4_does_0 1 rfl rfl)
theorem dX4_does_4 : decode cX4_does 4 = .ok (.aload_n 0, 1) := dk_42 (dk_at dksX4_does_0 4 rfl rfl)
theorem dX4_does_5 : decode cX4_does 5 = .ok (.getfield 43, 3) := dk_180 0 43 (dk_at dksX4_does_0 5 rfl rfl)
theorem dX4_does_8 : decode cX4_does 8 = .ok (.iload_n 2, 1) := dk_28 (dk_at dksX4_does_0 8 rfl rfl)
theorem dX4_does_9 : decode cX4_does 9 = .ok (.iastore, 1) := dk_79 (dk_at dksX4_does_0 9 rfl rfl)
theorem dX4_does_10 : decode cX4_does 10 = .ok (.aload_n 0, 1) := dk_42 (dk_at dksX4_does_0 10 rfl rfl)
theorem dX4_does_11 : decode cX4_does 11 = .ok (.getfield 21, 3) := dk_180 0 21 (dk_at dksX4_does_0 11 rfl rfl)
theorem dX4_does_14 : decode cX4_does 14 = .ok (.aload_n 0, 1) := dk_42 (dk_at dksX4_does_0 14 rfl rfl)
theorem dX4_does_15 : decode cX4_does 15 = .ok (.getfield 43, 3) := dk_180 0 43 (dk_at dksX4_does_0 15 rfl rfl)
theorem dX4_does_18 : decode cX4_does 18 = .ok (.iload_n 3, 1) := dk_29 (dk_at dksX4_does_0 18 rfl rfl)
theorem dX4_does_19 : decode cX4_does 19 = .ok (.iastore, 1) := dk_79 (dk_at dksX4_does_0 19 rfl rfl)
theorem dX4_does_20 : decode cX4_does 20 = .ok (.aload_n 0, 1) := dk_42 (dk_at dksX4_does_0 20 rfl rfl)
theorem dX4_does_21 : decode cX4_does 21 = .ok (.getfield 24, 3) := dk_180 0 24 (dk_at dksX4_does_0 21 rfl rfl)
theorem dX4_does_24 : decode cX4_does 24 = .ok (.aload_n 0, 1) := dk_42 (dk_at dksX4_does_1 0 rfl rfl)
theorem dX4_does_25 : decode cX4_does 25 = .ok (.getfield 43, 3) := dk_180 0 43 (dk_at dksX4_does_1 1 rfl rfl)
theorem dX4_does_28 : decode cX4_does 28 = .ok (.iload 4, 2) := dk_21 4 (dk_at dksX4_does_1 4 rfl rfl)
theorem dX4_does_30 : decode cX4_does 30 = .ok (.iastore, 1) := dk_79 (dk_at dksX4_does_1 6 rfl rfl)
theorem dX4_does_31 : decode cX4_does 31 = .ok (.aload_n 0, 1) := dk_42 (dk_at dksX4_does_1 7 rfl rfl)
theorem dX4_does_32 : decode cX4_does 32 = .ok (.getfield 27, 3) := dk_180 0 27 (dk_at dksX4_does_1 8 rfl rfl)
theorem dX4_does_35 : decode cX4_does 35 = .ok (.aload_n 0, 1) := dk_42 (dk_at dksX4_does_1 11 rfl rfl)
theorem dX4_does_36 : decode cX4_does 36 = .ok (.getfield 43, 3) := dk_180 0 43 (dk_at dksX4_does_1 12 rfl rfl)
theorem dX4_does_39 : decode cX4_does 39 = .ok (.aload_n 0, 1) := dk_42 (dk_at dksX4_does_1 15 rfl rfl)
theorem dX4_does_40 : decode cX4_does 40 = .ok (.getfield 39, 3) := dk_180 0 39 (dk_at dksX4_does_1 16 rfl rfl)
theorem dX4_does_43 : decode cX4_does 43 = .ok (.iastore, 1) := dk_79 (dk_at dksX4_does_1 19 rfl rfl)
theorem dX4_does_44 : decode cX4_does 44 = .ok (.iconst 0, 1) := dk_3 (dk_at dksX4_does_1 20 rfl rfl)
theorem dX4_does_45 : decode cX4_does 45 = .ok (.istore 5, 2) := dk_54 5 (dk_at dksX4_does_1 21 rfl rfl)
theorem dX4_does_47 : decode cX4_does 47 = .ok (.iload 5, 2) := dk_21 5 (dk_at dksX4_does_2 0 rfl rfl)
theorem dX4_does_49 : decode cX4_does 49 = .ok (.aload_n 1, 1) := dk_43 (dk_at dksX4_does_2 2 rfl rfl)
theorem dX4_does_50 : decode cX4_does 50 = .ok (.getfield 69, 3) := dk_180 0 69 (dk_at dksX4_does_2 3 rfl rfl)
theorem dX4_does_53 : decode cX4_does 53 = .ok (.if_icmp .ge 46, 3) := dk_162 0 46 (dk_at dksX4_does_2 6 rfl rfl)
theorem dX4_does_56 : decode cX4_does 56 = .ok (.aload_n 0, 1) := dk_42 (dk_at dksX4_does_2 9 rfl rfl)
theorem dX4_does_57 : decode cX4_does 57 = .ok (.aload_n 1, 1) := dk_43 (dk_at dksX4_does_2 10 rfl rfl)
theorem dX4_does_58 : decode cX4_does 58 = .ok (.iload 5, 2) := dk_21 5 (dk_at dksX4_does_2 11 rfl rfl)
theorem dX4_does_60 : decode cX4_does 60 = .ok (.invokevirtual 72, 3) := dk_182 0 72 (dk_at dksX4_does_2 13 rfl rfl)
theorem dX4_does_63 : decode cX4_does 63 = .ok (.iload 4, 2) := dk_21 4 (dk_at dksX4_does_2 16 rfl rfl)
theorem dX4_does_65 : decode cX4_does 65 = .ok (.invokestatic 58, 3) := dk_184 0 58 (dk_at dksX4_does_2 18 rfl rfl)
theorem dX4_does_68 : decode cX4_does 68 = .ok (.ifCond .eq 25, 3) := dk_153 0 25 (dk_at dksX4_does_2 21 rfl rfl)
theorem dX4_does_71 : decode cX4_does 71 = .ok (.aload_n 0, 1) := dk_42 (dk_at dksX4_does_3 0 rfl rfl)
theorem dX4_does_72 : decode cX4_does 72 = .ok (.getfield 30, 3) := dk_180 0 30 (dk_at dksX4_does_3 1 rfl rfl)
theorem dX4_does_75 : decode cX4_does 75 = .ok (.bipush 12, 2) := dk_16 12 (dk_at dksX4_does_3 4 rfl rfl)
theorem dX4_does_77 : decode cX4_does 77 = .ok (.iload 5, 2) := dk_21 5 (dk_at dksX4_does_3 6 rfl rfl)
theorem dX4_does_79 : decode cX4_does 79 = .ok (.imul, 1) := dk_104 (dk_at dksX4_does_3 8 rfl rfl)
theorem dX4_does_80 : decode cX4_does 80 = .ok (.aload_n 0, 1) := dk_42 (dk_at dksX4_does_3 9 rfl rfl)
theorem dX4_does_81 : decode cX4_does 81 = .ok (.getfield 43, 3) := dk_180 0 43 (dk_at dksX4_does_3 10 rfl rfl)
theorem dX4_does_84 : decode cX4_does 84 = .ok (.iadd, 1) := dk_96 (dk_at dksX4_does_3 13 rfl rfl)
theorem dX4_does_85 : decode cX4_does 85 = .ok (.aload_n 0, 1) := dk_42 (dk_at dksX4_does_3 14 rfl rfl)
theorem dX4_does_86 : decode cX4_does 86 = .ok (.aload_n 1, 1) := dk_43 (dk_at dksX4_does_3 15 rfl rfl)
theorem dX4_does_87 : decode cX4_does 87 = .ok (.iload 5, 2) := dk_21 5 (dk_at dksX4_does_3 16 rfl rfl)
theorem dX4_does_89 : decode cX4_does 89 = .ok (.invokevirtual 106, 3) := dk_182 0 106 (dk_at dksX4_does_3 18 rfl rfl)
theorem dX4_does_92 : decode cX4_does 92 = .ok (.iastore, 1) := dk_79 (dk_at dksX4_does_3 21 rfl rfl)
theorem dX4_does_93 : decode cX4_does 93 = .ok (.iinc 5 1, 3) := dk_132 5 1 (dk_at dksX4_does_4 0 rfl rfl)
theorem dX4_does_96 : decode cX4_does 96 = .ok (.goto (-49), 3) := dk_167 255 207 (dk_at dksX4_does_4 3 rfl rfl)
theorem dX4_does_99 : decode cX4_does 99 = .ok (.aload_n 0, 1) := dk_42 (dk_at dksX4_does_4 6 rfl rfl)
theorem dX4_does_100 : decode cX4_does 100 = .ok (.dup, 1) := dk_89 (dk_at dksX4_does_4 7 rfl rfl)
theorem dX4_does_101 : decode cX4_does 101 = .ok (.getfield 43, 3) := dk_180 0 43 (dk_at dksX4_does_4 8 rfl rfl)
theorem dX4_does_104 : decode cX4_does 104 = .ok (.iconst 1, 1) := dk_4 (dk_at dksX4_does_4 11 rfl rfl)
theorem dX4_does_105 : decode cX4_does 105 = .ok (.iadd, 1) := dk_96 (dk_at dksX4_does_4 12 rfl rfl)
theorem dX4_does_106 : decode cX4_does 106 = .ok (.putfield 43, 3) := dk_181 0 43 (dk_at dksX4_does_4 13 rfl rfl)
theorem dX4_does_109 : decode cX4_does 109 = .ok (.return_, 1) := dk_177 (dk_at dksX4_does_4 16 rfl rfl)
abbrev cX4_next : ByteArray := prog_20_method_7_code
def yX4_next : MethodName := ⟨RX4, "next", "(LParlourLeaves$House;I)I"⟩
def dkwX4_next_1 : List UInt8 := [182, 0, 76, 184, 0, 79, 62, 132, 4, 1, 167, 255, 232, 29, 43, 180, 0, 84, 28, 46, 96, 172]
abbrev dktX4_next_1 : List UInt8 := dkwX4_next_1 ++ []
def dkwX4_next_0 : List UInt8 := [42, 180, 0, 39, 62, 3, 54, 4, 21, 4, 42, 180, 0, 43, 162, 0, 21, 29, 42, 28, 21, 4]
abbrev dktX4_next_0 : List UInt8 := dkwX4_next_0 ++ dktX4_next_1
theorem dksX4_next_0 : cX4_next.data.toList.drop 0 = dktX4_next_0 := by decide +kernel
theorem dksX4_next_1 : cX4_next.data.toList.drop 22 = dktX4_next_1 := dk_seg dksX4_next_0 22 rfl rfl
theorem dX4_next_0 : decode cX4_next 0 = .ok (.aload_n 0, 1) := dk_42 (dk_at dksX4_next_0 0 rfl rfl)
theorem dX4_next_1 : decode cX4_next 1 = .ok (.getfield 39, 3) := dk_180 0 39 (dk_at dksX4_next_0 1 rfl rfl)
theorem dX4_next_4 : decode cX4_next 4 = .ok (.istore_n 3, 1) := dk_62 (dk_at dksX4_next_0 4 rfl rfl)
theorem dX4_next_5 : decode cX4_next 5 = .ok (.iconst 0, 1) := dk_3 (dk_at dksX4_next_0 5 rfl rfl)
theorem dX4_next_6 : decode cX4_next 6 = .ok (.istore 4, 2) := dk_54 4 (dk_at dksX4_next_0 6 rfl rfl)
theorem dX4_next_8 : decode cX4_next 8 = .ok (.iload 4, 2) := dk_21 4 (dk_at dksX4_next_0 8 rfl rfl)
theorem dX4_next_10 : decode cX4_next 10 = .ok (.aload_n 0, 1) := dk_42 (dk_at dksX4_next_0 10 rfl rfl)
theorem dX4_next_11 : decode cX4_next 11 = .ok (.getfield 43, 3) := dk_180 0 43 (dk_at dksX4_next_0 11 rfl rfl)
theorem dX4_next_14 : decode cX4_next 14 = .ok (.if_icmp .ge 21, 3) := dk_162 0 21 (dk_at dksX4_next_0 14 rfl rfl)
theorem dX4_next_17 : decode cX4_next 17 = .ok (.iload_n 3, 1) := dk_29 (dk_at dksX4_next_0 17 rfl rfl)
theorem dX4_next_18 : decode cX4_next 18 = .ok (.aload_n 0, 1) := dk_42 (dk_at dksX4_next_0 18 rfl rfl)
theorem dX4_next_19 : decode cX4_next 19 = .ok (.iload_n 2, 1) := dk_28 (dk_at dksX4_next_0 19 rfl rfl)
theorem dX4_next_20 : decode cX4_next 20 = .ok (.iload 4, 2) := dk_21 4 (dk_at dksX4_next_0 20 rfl rfl)
theorem dX4_next_22 : decode cX4_next 22 = .ok (.invokevirtual 76, 3) := dk_182 0 76 (dk_at dksX4_next_1 0 rfl rfl)
theorem dX4_next_25 : decode cX4_next 25 = .ok (.invokestatic 79, 3) := dk_184 0 79 (dk_at dksX4_next_1 3 rfl rfl)
theorem dX4_next_28 : decode cX4_next 28 = .ok (.istore_n 3, 1) := dk_62 (dk_at dksX4_next_1 6 rfl rfl)
theorem dX4_next_29 : decode cX4_next 29 = .ok (.iinc 4 1, 3) := dk_132 4 1 (dk_at dksX4_next_1 7 rfl rfl)
theorem dX4_next_32 : decode cX4_next 32 = .ok (.goto (-24), 3) := dk_167 255 232 (dk_at dksX4_next_1 10 rfl rfl)
theorem dX4_next_35 : decode cX4_next 35 = .ok (.iload_n 3, 1) := dk_29 (dk_at dksX4_next_1 13 rfl rfl)
theorem dX4_next_36 : decode cX4_next 36 = .ok (.aload_n 1, 1) := dk_43 (dk_at dksX4_next_1 14 rfl rfl)
theorem dX4_next_37 : decode cX4_next 37 = .ok (.getfield 84, 3) := dk_180 0 84 (dk_at dksX4_next_1 15 rfl rfl)
theorem dX4_next_40 : decode cX4_next 40 = .ok (.iload_n 2, 1) := dk_28 (dk_at dksX4_next_1 18 rfl rfl)
theorem dX4_next_41 : decode cX4_next 41 = .ok (.iaload, 1) := dk_46 (dk_at dksX4_next_1 19 rfl rfl)
theorem dX4_next_42 : decode cX4_next 42 = .ok (.iadd, 1) := dk_96 (dk_at dksX4_next_1 20 rfl rfl)
theorem dX4_next_43 : decode cX4_next 43 = .ok (.ireturn, 1) := dk_172 (dk_at dksX4_next_1 21 rfl rfl)
abbrev cX4_whySponge : ByteArray := prog_20_method_16_code
def yX4_whySponge : MethodName := ⟨RX4, "whySponge", "(I)I"⟩
def dkwX4_whySponge_0 : List UInt8 := [42, 180, 0, 15, 27, 46, 154, 0, 7, 4, 167, 0, 4, 3, 172]
abbrev dktX4_whySponge_0 : List UInt8 := dkwX4_whySponge_0 ++ []
theorem dksX4_whySponge_0 : cX4_whySponge.data.toList.drop 0 = dktX4_whySponge_0 := by decide +kernel
theorem dX4_whySponge_0 : decode cX4_whySponge 0 = .ok (.aload_n 0, 1) := dk_42 (dk_at dksX4_whySponge_0 0 rfl rfl)
theorem dX4_whySponge_1 : decode cX4_whySponge 1 = .ok (.getfield 15, 3) := dk_180 0 15 (dk_at dksX4_whySponge_0 1 rfl rfl)
theorem dX4_whySponge_4 : decode cX4_whySponge 4 = .ok (.iload_n 1, 1) := dk_27 (dk_at dksX4_whySponge_0 4 rfl rfl)
theorem dX4_whySponge_5 : decode cX4_whySponge 5 = .ok (.iaload, 1) := dk_46 (dk_at dksX4_whySponge_0 5 rfl rfl)
theorem dX4_whySponge_6 : decode cX4_whySponge 6 = .ok (.ifCond .ne 7, 3) := dk_154 0 7 (dk_at dksX4_whySponge_0 6 rfl rfl)
theorem dX4_whySponge_9 : decode cX4_whySponge 9 = .ok (.iconst 1, 1) := dk_4 (dk_at dksX4_whySponge_0 9 rfl rfl)
theorem dX4_whySponge_10 : decode cX4_whySponge 10 = .ok (.goto 4, 3) := dk_167 0 4 (dk_at dksX4_whySponge_0 10 rfl rfl)
theorem dX4_whySponge_13 : decode cX4_whySponge 13 = .ok (.iconst 0, 1) := dk_3 (dk_at dksX4_whySponge_0 13 rfl rfl)
theorem dX4_whySponge_14 : decode cX4_whySponge 14 = .ok (.ireturn, 1) := dk_172 (dk_at dksX4_whySponge_0 14 rfl rfl)
abbrev cX4_whyCarry : ByteArray := prog_20_method_17_code
def yX4_whyCarry : MethodName := ⟨RX4, "whyCarry", "(II)I"⟩
def dkwX4_whyCarry_0 : List UInt8 := [42, 180, 0, 9, 27, 46, 28, 160, 0, 7, 4, 167, 0, 4, 3, 172]
abbrev dktX4_whyCarry_0 : List UInt8 := dkwX4_whyCarry_0 ++ []
theorem dksX4_whyCarry_0 : cX4_whyCarry.data.toList.drop 0 = dktX4_whyCarry_0 := by decide +kernel
theorem dX4_whyCarry_0 : decode cX4_whyCarry 0 = .ok (.aload_n 0, 1) := dk_42 (dk_at dksX4_whyCarry_0 0 rfl rfl)
theorem dX4_whyCarry_1 : decode cX4_whyCarry 1 = .ok (.getfield 9, 3) := dk_180 0 9 (dk_at dksX4_whyCarry_0 1 rfl rfl)
theorem dX4_whyCarry_4 : decode cX4_whyCarry 4 = .ok (.iload_n 1, 1) := dk_27 (dk_at dksX4_whyCarry_0 4 rfl rfl)
theorem dX4_whyCarry_5 : decode cX4_whyCarry 5 = .ok (.iaload, 1) := dk_46 (dk_at dksX4_whyCarry_0 5 rfl rfl)
theorem dX4_whyCarry_6 : decode cX4_whyCarry 6 = .ok (.iload_n 2, 1) := dk_28 (dk_at dksX4_whyCarry_0 6 rfl rfl)
theorem dX4_whyCarry_7 : decode cX4_whyCarry 7 = .ok (.if_icmp .ne 7, 3) := dk_160 0 7 (dk_at dksX4_whyCarry_0 7 rfl rfl)
theorem dX4_whyCarry_10 : decode cX4_whyCarry 10 = .ok (.iconst 1, 1) := dk_4 (dk_at dksX4_whyCarry_0 10 rfl rfl)
theorem dX4_whyCarry_11 : decode cX4_whyCarry 11 = .ok (.goto 4, 3) := dk_167 0 4 (dk_at dksX4_whyCarry_0 11 rfl rfl)
theorem dX4_whyCarry_14 : decode cX4_whyCarry 14 = .ok (.iconst 0, 1) := dk_3 (dk_at dksX4_whyCarry_0 14 rfl rfl)
theorem dX4_whyCarry_15 : decode cX4_whyCarry 15 = .ok (.ireturn, 1) := dk_172 (dk_at dksX4_whyCarry_0 15 rfl rfl)
abbrev cX4_days : ByteArray := prog_20_method_19_code
def yX4_days : MethodName := ⟨RX4, "days", "(LParlourLeaves$House;I)I"⟩
def dkwX4_days_1 : List UInt8 := [132, 3, 1, 167, 255, 233, 29, 172]
abbrev dktX4_days_1 : List UInt8 := dkwX4_days_1 ++ []
def dkwX4_days_0 : List UInt8 := [3, 62, 29, 28, 162, 0, 24, 42, 180, 0, 39, 17, 1, 144, 162, 0, 14, 42, 43, 182, 0, 112]
abbrev dktX4_days_0 : List UInt8 := dkwX4_days_0 ++ dktX4_days_1
theorem dksX4_days_0 : cX4_days.data.toList.drop 0 = dktX4_days_0 := by decide +kernel
theorem dksX4_days_1 : cX4_days.data.toList.drop 22 = dktX4_days_1 := dk_seg dksX4_days_0 22 rfl rfl
theorem dX4_days_0 : decode cX4_days 0 = .ok (.iconst 0, 1) := dk_3 (dk_at dksX4_days_0 0 rfl rfl)
theorem dX4_days_1 : decode cX4_days 1 = .ok (.istore_n 3, 1) := dk_62 (dk_at dksX4_days_0 1 rfl rfl)
theorem dX4_days_2 : decode cX4_days 2 = .ok (.iload_n 3, 1) := dk_29 (dk_at dksX4_days_0 2 rfl rfl)
theorem dX4_days_3 : decode cX4_days 3 = .ok (.iload_n 2, 1) := dk_28 (dk_at dksX4_days_0 3 rfl rfl)
theorem dX4_days_4 : decode cX4_days 4 = .ok (.if_icmp .ge 24, 3) := dk_162 0 24 (dk_at dksX4_days_0 4 rfl rfl)
theorem dX4_days_7 : decode cX4_days 7 = .ok (.aload_n 0, 1) := dk_42 (dk_at dksX4_days_0 7 rfl rfl)
theorem dX4_days_8 : decode cX4_days 8 = .ok (.getfield 39, 3) := dk_180 0 39 (dk_at dksX4_days_0 8 rfl rfl)
theorem dX4_days_11 : decode cX4_days 11 = .ok (.sipush 400, 3) := dk_17 1 144 (dk_at dksX4_days_0 11 rfl rfl)
theorem dX4_days_14 : decode cX4_days 14 = .ok (.if_icmp .ge 14, 3) := dk_162 0 14 (dk_at dksX4_days_0 14 rfl rfl)
theorem dX4_days_17 : decode cX4_days 17 = .ok (.aload_n 0, 1) := dk_42 (dk_at dksX4_days_0 17 rfl rfl)
theorem dX4_days_18 : decode cX4_days 18 = .ok (.aload_n 1, 1) := dk_43 (dk_at dksX4_days_0 18 rfl rfl)
theorem dX4_days_19 : decode cX4_days 19 = .ok (.invokevirtual 112, 3) := dk_182 0 112 (dk_at dksX4_days_0 19 rfl rfl)
theorem dX4_days_22 : decode cX4_days 22 = .ok (.iinc 3 1, 3) := dk_132 3 1 (dk_at dksX4_days_1 0 rfl rfl)
theorem dX4_days_25 : decode cX4_days 25 = .ok (.goto (-23), 3) := dk_167 255 233 (dk_at dksX4_days_1 3 rfl rfl)
theorem dX4_days_28 : decode cX4_days 28 = .ok (.iload_n 3, 1) := dk_29 (dk_at dksX4_days_1 6 rfl rfl)
theorem dX4_days_29 : decode cX4_days 29 = .ok (.ireturn, 1) := dk_172 (dk_at dksX4_days_1 7 rfl rfl)
abbrev cX4_goOn : ByteArray := prog_20_method_18_code
def yX4_goOn : MethodName := ⟨RX4, "goOn", "(LParlourLeaves$House;)V"⟩
def dkwX4_goOn_1 : List UInt8 := [96, 184, 0, 109, 79, 132, 2, 1, 167, 255, 226, 42, 89, 180, 0, 39, 4, 96, 181, 0, 39, 177]
abbrev dktX4_goOn_1 : List UInt8 := dkwX4_goOn_1 ++ []
def dkwX4_goOn_0 : List UInt8 := [3, 61, 28, 43, 180, 0, 69, 162, 0, 28, 42, 180, 0, 15, 28, 16, 99, 42, 180, 0, 15, 28, 46, 4]
abbrev dktX4_goOn_0 : List UInt8 := dkwX4_goOn_0 ++ dktX4_goOn_1
theorem dksX4_goOn_0 : cX4_goOn.data.toList.drop 0 = dktX4_goOn_0 := by decide +kernel
theorem dksX4_goOn_1 : cX4_goOn.data.toList.drop 24 = dktX4_goOn_1 := dk_seg dksX4_goOn_0 24 rfl rfl
theorem dX4_goOn_0 : decode cX4_goOn 0 = .ok (.iconst 0, 1) := dk_3 (dk_at dksX4_goOn_0 0 rfl rfl)
theorem dX4_goOn_1 : decode cX4_goOn 1 = .ok (.istore_n 2, 1) := dk_61 (dk_at dksX4_goOn_0 1 rfl rfl)
theorem dX4_goOn_2 : decode cX4_goOn 2 = .ok (.iload_n 2, 1) := dk_28 (dk_at dksX4_goOn_0 2 rfl rfl)
theorem dX4_goOn_3 : decode cX4_goOn 3 = .ok (.aload_n 1, 1) := dk_43 (dk_at dksX4_goOn_0 3 rfl rfl)
theorem dX4_goOn_4 : decode cX4_goOn 4 = .ok (.getfield 69, 3) := dk_180 0 69 (dk_at dksX4_goOn_0 4 rfl rfl)
theorem dX4_goOn_7 : decode cX4_goOn 7 = .ok (.if_icmp .ge 28, 3) := dk_162 0 28 (dk_at dksX4_goOn_0 7 rfl rfl)
theorem dX4_goOn_10 : decode cX4_goOn 10 = .ok (.aload_n 0, 1) := dk_42 (dk_at dksX4_goOn_0 10 rfl rfl)
theorem dX4_goOn_11 : decode cX4_goOn 11 = .ok (.getfield 15, 3) := dk_180 0 15 (dk_at dksX4_goOn_0 11 rfl rfl)
theorem dX4_goOn_14 : decode cX4_goOn 14 = .ok (.iload_n 2, 1) := dk_28 (dk_at dksX4_goOn_0 14 rfl rfl)
theorem dX4_goOn_15 : decode cX4_goOn 15 = .ok (.bipush 99, 2) := dk_16 99 (dk_at dksX4_goOn_0 15 rfl rfl)
theorem dX4_goOn_17 : decode cX4_goOn 17 = .ok (.aload_n 0, 1) := dk_42 (dk_at dksX4_goOn_0 17 rfl rfl)
theorem dX4_goOn_18 : decode cX4_goOn 18 = .ok (.getfield 15, 3) := dk_180 0 15 (dk_at dksX4_goOn_0 18 rfl rfl)
theorem dX4_goOn_21 : decode cX4_goOn 21 = .ok (.iload_n 2, 1) := dk_28 (dk_at dksX4_goOn_0 21 rfl rfl)
theorem dX4_goOn_22 : decode cX4_goOn 22 = .ok (.iaload, 1) := dk_46 (dk_at dksX4_goOn_0 22 rfl rfl)
theorem dX4_goOn_23 : decode cX4_goOn 23 = .ok (.iconst 1, 1) := dk_4 (dk_at dksX4_goOn_0 23 rfl rfl)
theorem dX4_goOn_24 : decode cX4_goOn 24 = .ok (.iadd, 1) := dk_96 (dk_at dksX4_goOn_1 0 rfl rfl)
theorem dX4_goOn_25 : decode cX4_goOn 25 = .ok (.invokestatic 109, 3) := dk_184 0 109 (dk_at dksX4_goOn_1 1 rfl rfl)
theorem dX4_goOn_28 : decode cX4_goOn 28 = .ok (.iastore, 1) := dk_79 (dk_at dksX4_goOn_1 4 rfl rfl)
theorem dX4_goOn_29 : decode cX4_goOn 29 = .ok (.iinc 2 1, 3) := dk_132 2 1 (dk_at dksX4_goOn_1 5 rfl rfl)
theorem dX4_goOn_32 : decode cX4_goOn 32 = .ok (.goto (-30), 3) := dk_167 255 226 (dk_at dksX4_goOn_1 8 rfl rfl)
theorem dX4_goOn_35 : decode cX4_goOn 35 = .ok (.aload_n 0, 1) := dk_42 (dk_at dksX4_goOn_1 11 rfl rfl)
theorem dX4_goOn_36 : decode cX4_goOn 36 = .ok (.dup, 1) := dk_89 (dk_at dksX4_goOn_1 12 rfl rfl)
theorem dX4_goOn_37 : decode cX4_goOn 37 = .ok (.getfield 39, 3) := dk_180 0 39 (dk_at dksX4_goOn_1 13 rfl rfl)
theorem dX4_goOn_40 : decode cX4_goOn 40 = .ok (.iconst 1, 1) := dk_4 (dk_at dksX4_goOn_1 16 rfl rfl)
theorem dX4_goOn_41 : decode cX4_goOn 41 = .ok (.iadd, 1) := dk_96 (dk_at dksX4_goOn_1 17 rfl rfl)
theorem dX4_goOn_42 : decode cX4_goOn 42 = .ok (.putfield 39, 3) := dk_181 0 39 (dk_at dksX4_goOn_1 18 rfl rfl)
theorem dX4_goOn_45 : decode cX4_goOn 45 = .ok (.return_, 1) := dk_177 (dk_at dksX4_goOn_1 21 rfl rfl)
abbrev cX4_seers : ByteArray := prog_20_method_5_code
def yX4_seers : MethodName := ⟨RX4, "seers", "(LParlourLeaves$House;I)I"⟩
def dkwX4_seers_1 : List UInt8 := [184, 0, 58, 153, 0, 10, 29, 4, 21, 4, 120, 128, 62, 132, 4, 1, 167, 255, 223, 29, 172]
abbrev dktX4_seers_1 : List UInt8 := dkwX4_seers_1 ++ []
def dkwX4_seers_0 : List UInt8 := [3, 62, 3, 54, 4, 21, 4, 43, 180, 0, 69, 162, 0, 30, 42, 43, 21, 4, 182, 0, 72, 28]
abbrev dktX4_seers_0 : List UInt8 := dkwX4_seers_0 ++ dktX4_seers_1
theorem dksX4_seers_0 : cX4_seers.data.toList.drop 0 = dktX4_seers_0 := by decide +kernel
theorem dksX4_seers_1 : cX4_seers.data.toList.drop 22 = dktX4_seers_1 := dk_seg dksX4_seers_0 22 rfl rfl
theorem dX4_seers_0 : decode cX4_seers 0 = .ok (.iconst 0, 1) := dk_3 (dk_at dksX4_seers_0 0 rfl rfl)
theorem dX4_seers_1 : decode cX4_seers 1 = .ok (.istore_n 3, 1) := dk_62 (dk_at dksX4_seers_0 1 rfl rfl)
theorem dX4_seers_2 : decode cX4_seers 2 = .ok (.iconst 0, 1) := dk_3 (dk_at dksX4_seers_0 2 rfl rfl)
theorem dX4_seers_3 : decode cX4_seers 3 = .ok (.istore 4, 2) := dk_54 4 (dk_at dksX4_seers_0 3 rfl rfl)
theorem dX4_seers_5 : decode cX4_seers 5 = .ok (.iload 4, 2) := dk_21 4 (dk_at dksX4_seers_0 5 rfl rfl)
theorem dX4_seers_7 : decode cX4_seers 7 = .ok (.aload_n 1, 1) := dk_43 (dk_at dksX4_seers_0 7 rfl rfl)
theorem dX4_seers_8 : decode cX4_seers 8 = .ok (.getfield 69, 3) := dk_180 0 69 (dk_at dksX4_seers_0 8 rfl rfl)
theorem dX4_seers_11 : decode cX4_seers 11 = .ok (.if_icmp .ge 30, 3) := dk_162 0 30 (dk_at dksX4_seers_0 11 rfl rfl)
theorem dX4_seers_14 : decode cX4_seers 14 = .ok (.aload_n 0, 1) := dk_42 (dk_at dksX4_seers_0 14 rfl rfl)
theorem dX4_seers_15 : decode cX4_seers 15 = .ok (.aload_n 1, 1) := dk_43 (dk_at dksX4_seers_0 15 rfl rfl)
theorem dX4_seers_16 : decode cX4_seers 16 = .ok (.iload 4, 2) := dk_21 4 (dk_at dksX4_seers_0 16 rfl rfl)
theorem dX4_seers_18 : decode cX4_seers 18 = .ok (.invokevirtual 72, 3) := dk_182 0 72 (dk_at dksX4_seers_0 18 rfl rfl)
theorem dX4_seers_21 : decode cX4_seers 21 = .ok (.iload_n 2, 1) := dk_28 (dk_at dksX4_seers_0 21 rfl rfl)
theorem dX4_seers_22 : decode cX4_seers 22 = .ok (.invokestatic 58, 3) := dk_184 0 58 (dk_at dksX4_seers_1 0 rfl rfl)
theorem dX4_seers_25 : decode cX4_seers 25 = .ok (.ifCond .eq 10, 3) := dk_153 0 10 (dk_at dksX4_seers_1 3 rfl rfl)
theorem dX4_seers_28 : decode cX4_seers 28 = .ok (.iload_n 3, 1) := dk_29 (dk_at dksX4_seers_1 6 rfl rfl)
theorem dX4_seers_29 : decode cX4_seers 29 = .ok (.iconst 1, 1) := dk_4 (dk_at dksX4_seers_1 7 rfl rfl)
theorem dX4_seers_30 : decode cX4_seers 30 = .ok (.iload 4, 2) := dk_21 4 (dk_at dksX4_seers_1 8 rfl rfl)
theorem dX4_seers_32 : decode cX4_seers 32 = .ok (.ishl, 1) := dk_120 (dk_at dksX4_seers_1 10 rfl rfl)
theorem dX4_seers_33 : decode cX4_seers 33 = .ok (.ior, 1) := dk_128 (dk_at dksX4_seers_1 11 rfl rfl)
theorem dX4_seers_34 : decode cX4_seers 34 = .ok (.istore_n 3, 1) := dk_62 (dk_at dksX4_seers_1 12 rfl rfl)
theorem dX4_seers_35 : decode cX4_seers 35 = .ok (.iinc 4 1, 3) := dk_132 4 1 (dk_at dksX4_seers_1 13 rfl rfl)
theorem dX4_seers_38 : decode cX4_seers 38 = .ok (.goto (-33), 3) := dk_167 255 223 (dk_at dksX4_seers_1 16 rfl rfl)
theorem dX4_seers_41 : decode cX4_seers 41 = .ok (.iload_n 3, 1) := dk_29 (dk_at dksX4_seers_1 19 rfl rfl)
theorem dX4_seers_42 : decode cX4_seers 42 = .ok (.ireturn, 1) := dk_172 (dk_at dksX4_seers_1 20 rfl rfl)
abbrev cX4_draws : ByteArray := prog_20_method_22_code
def yX4_draws : MethodName := ⟨RX4, "draws", "(LParlourLeaves$House;II)I"⟩
def dkwX4_draws_2 : List UInt8 := [167, 255, 237, 42, 43, 182, 0, 112, 132, 4, 1, 167, 255, 207, 21, 4, 172]
abbrev dktX4_draws_2 : List UInt8 := dkwX4_draws_2 ++ []
def dkwX4_draws_1 : List UInt8 := [3, 54, 5, 21, 5, 43, 180, 0, 137, 162, 0, 16, 42, 43, 21, 5, 182, 0, 140, 132, 5, 1]
abbrev dktX4_draws_1 : List UInt8 := dkwX4_draws_1 ++ dktX4_draws_2
def dkwX4_draws_0 : List UInt8 := [42, 29, 181, 0, 116, 3, 54, 4, 21, 4, 28, 162, 0, 49, 42, 180, 0, 39, 17, 1, 144, 162, 0, 39]
abbrev dktX4_draws_0 : List UInt8 := dkwX4_draws_0 ++ dktX4_draws_1
theorem dksX4_draws_0 : cX4_draws.data.toList.drop 0 = dktX4_draws_0 := by decide +kernel
theorem dksX4_draws_1 : cX4_draws.data.toList.drop 24 = dktX4_draws_1 := dk_seg dksX4_draws_0 24 rfl rfl
theorem dksX4_draws_2 : cX4_draws.data.toList.drop 46 = dktX4_draws_2 := dk_seg dksX4_draws_1 22 rfl rfl
theorem dX4_draws_0 : decode cX4_draws 0 = .ok (.aload_n 0, 1) := dk_42 (dk_at dksX4_draws_0 0 rfl rfl)
theorem dX4_draws_1 : decode cX4_draws 1 = .ok (.iload_n 3, 1) := dk_29 (dk_at dksX4_draws_0 1 rfl rfl)
theorem dX4_draws_2 : decode cX4_draws 2 = .ok (.putfield 116, 3) := dk_181 0 116 (dk_at dksX4_draws_0 2 rfl rfl)
theorem dX4_draws_5 : decode cX4_draws 5 = .ok (.iconst 0, 1) := dk_3 (dk_at dksX4_draws_0 5 rfl rfl)
theorem dX4_draws_6 : decode cX4_draws 6 = .ok (.istore 4, 2) := dk_54 4 (dk_at dksX4_draws_0 6 rfl rfl)
theorem dX4_draws_8 : decode cX4_draws 8 = .ok (.iload 4, 2) := dk_21 4 (dk_at dksX4_draws_0 8 rfl rfl)
theorem dX4_draws_10 : decode cX4_draws 10 = .ok (.iload_n 2, 1) := dk_28 (dk_at dksX4_draws_0 10 rfl rfl)
theorem dX4_draws_11 : decode cX4_draws 11 = .ok (.if_icmp .ge 49, 3) := dk_162 0 49 (dk_at dksX4_draws_0 11 rfl rfl)
theorem dX4_draws_14 : decode cX4_draws 14 = .ok (.aload_n 0, 1) := dk_42 (dk_at dksX4_draws_0 14 rfl rfl)
theorem dX4_draws_15 : decode cX4_draws 15 = .ok (.getfield 39, 3) := dk_180 0 39 (dk_at dksX4_draws_0 15 rfl rfl)
theorem dX4_draws_18 : decode cX4_draws 18 = .ok (.sipush 400, 3) := dk_17 1 144 (dk_at dksX4_draws_0 18 rfl rfl)
theorem dX4_draws_21 : decode cX4_draws 21 = .ok (.if_icmp .ge 39, 3) := dk_162 0 39 (dk_at dksX4_draws_0 21 rfl rfl)
theorem dX4_draws_24 : decode cX4_draws 24 = .ok (.iconst 0, 1) := dk_3 (dk_at dksX4_draws_1 0 rfl rfl)
theorem dX4_draws_25 : decode cX4_draws 25 = .ok (.istore 5, 2) := dk_54 5 (dk_at dksX4_draws_1 1 rfl rfl)
theorem dX4_draws_27 : decode cX4_draws 27 = .ok (.iload 5, 2) := dk_21 5 (dk_at dksX4_draws_1 3 rfl rfl)
theorem dX4_draws_29 : decode cX4_draws 29 = .ok (.aload_n 1, 1) := dk_43 (dk_at dksX4_draws_1 5 rfl rfl)
theorem dX4_draws_30 : decode cX4_draws 30 = .ok (.getfield 137, 3) := dk_180 0 137 (dk_at dksX4_draws_1 6 rfl rfl)
theorem dX4_draws_33 : decode cX4_draws 33 = .ok (.if_icmp .ge 16, 3) := dk_162 0 16 (dk_at dksX4_draws_1 9 rfl rfl)
theorem dX4_draws_36 : decode cX4_draws 36 = .ok (.aload_n 0, 1) := dk_42 (dk_at dksX4_draws_1 12 rfl rfl)
theorem dX4_draws_37 : decode cX4_draws 37 = .ok (.aload_n 1, 1) := dk_43 (dk_at dksX4_draws_1 13 rfl rfl)
theorem dX4_draws_38 : decode cX4_draws 38 = .ok (.iload 5, 2) := dk_21 5 (dk_at dksX4_draws_1 14 rfl rfl)
theorem dX4_draws_40 : decode cX4_draws 40 = .ok (.invokevirtual 140, 3) := dk_182 0 140 (dk_at dksX4_draws_1 16 rfl rfl)
theorem dX4_draws_43 : decode cX4_draws 43 = .ok (.iinc 5 1, 3) := dk_132 5 1 (dk_at dksX4_draws_1 19 rfl rfl)
theorem dX4_draws_46 : decode cX4_draws 46 = .ok (.goto (-19), 3) := dk_167 255 237 (dk_at dksX4_draws_2 0 rfl rfl)
theorem dX4_draws_49 : decode cX4_draws 49 = .ok (.aload_n 0, 1) := dk_42 (dk_at dksX4_draws_2 3 rfl rfl)
theorem dX4_draws_50 : decode cX4_draws 50 = .ok (.aload_n 1, 1) := dk_43 (dk_at dksX4_draws_2 4 rfl rfl)
theorem dX4_draws_51 : decode cX4_draws 51 = .ok (.invokevirtual 112, 3) := dk_182 0 112 (dk_at dksX4_draws_2 5 rfl rfl)
theorem dX4_draws_54 : decode cX4_draws 54 = .ok (.iinc 4 1, 3) := dk_132 4 1 (dk_at dksX4_draws_2 8 rfl rfl)
theorem dX4_draws_57 : decode cX4_draws 57 = .ok (.goto (-49), 3) := dk_167 255 207 (dk_at dksX4_draws_2 11 rfl rfl)
theorem dX4_draws_60 : decode cX4_draws 60 = .ok (.iload 4, 2) := dk_21 4 (dk_at dksX4_draws_2 14 rfl rfl)
theorem dX4_draws_62 : decode cX4_draws 62 = .ok (.ireturn, 1) := dk_172 (dk_at dksX4_draws_2 16 rfl rfl)
abbrev cX4_drawPerson : ByteArray := prog_20_method_21_code
def yX4_drawPerson : MethodName := ⟨RX4, "drawPerson", "(LParlourLeaves$House;I)V"⟩
def dkwX4_drawPerson_5 : List UInt8 := [21, 4, 42, 43, 180, 0, 126, 182, 0, 120, 79, 177]
abbrev dktX4_drawPerson_5 : List UInt8 := dkwX4_drawPerson_5 ++ []
def dkwX4_drawPerson_4 : List UInt8 := [160, 0, 35, 43, 180, 0, 69, 158, 0, 28, 42, 43, 180, 0, 69, 182, 0, 120, 54, 4, 42, 180, 0, 9]
abbrev dktX4_drawPerson_4 : List UInt8 := dkwX4_drawPerson_4 ++ dktX4_drawPerson_5
def dkwX4_drawPerson_3 : List UInt8 := [180, 0, 69, 158, 0, 17, 42, 180, 0, 15, 42, 43, 180, 0, 69, 182, 0, 120, 3, 79, 29, 5]
abbrev dktX4_drawPerson_3 : List UInt8 := dkwX4_drawPerson_3 ++ dktX4_drawPerson_4
def dkwX4_drawPerson_2 : List UInt8 := [182, 0, 129, 154, 0, 13, 42, 43, 28, 21, 4, 21, 5, 182, 0, 133, 29, 4, 160, 0, 24, 43]
abbrev dktX4_drawPerson_2 : List UInt8 := dkwX4_drawPerson_2 ++ dktX4_drawPerson_3
def dkwX4_drawPerson_1 : List UInt8 := [158, 0, 40, 42, 43, 180, 0, 123, 182, 0, 120, 54, 4, 42, 43, 180, 0, 126, 182, 0, 120, 54, 5, 42]
abbrev dktX4_drawPerson_1 : List UInt8 := dkwX4_drawPerson_1 ++ dktX4_drawPerson_2
def dkwX4_drawPerson_0 : List UInt8 := [42, 16, 6, 182, 0, 120, 62, 29, 154, 0, 54, 43, 180, 0, 123, 158, 0, 47, 43, 180, 0, 126]
abbrev dktX4_drawPerson_0 : List UInt8 := dkwX4_drawPerson_0 ++ dktX4_drawPerson_1
theorem dksX4_drawPerson_0 : cX4_drawPerson.data.toList.drop 0 = dktX4_drawPerson_0 := by decide +kernel
theorem dksX4_drawPerson_1 : cX4_drawPerson.data.toList.drop 22 = dktX4_drawPerson_1 := dk_seg dksX4_drawPerson_0 22 rfl rfl
theorem dksX4_drawPerson_2 : cX4_drawPerson.data.toList.drop 46 = dktX4_drawPerson_2 := dk_seg dksX4_drawPerson_1 24 rfl rfl
theorem dksX4_drawPerson_3 : cX4_drawPerson.data.toList.drop 68 = dktX4_drawPerson_3 := dk_seg dksX4_drawPerson_2 22 rfl rfl
theorem dksX4_drawPerson_4 : cX4_drawPerson.data.toList.drop 90 = dktX4_drawPerson_4 := dk_seg dksX4_drawPerson_3 22 rfl rfl
theorem dksX4_drawPerson_5 : cX4_drawPerson.data.toList.drop 114 = dktX4_drawPerson_5 := dk_seg dksX4_drawPerson_4 24 rfl rfl
theorem dX4_drawPerson_0 : decode cX4_drawPerson 0 = .ok (.aload_n 0, 1) := dk_42 (dk_at dksX4_drawPerson_0 0 rfl rfl)
theorem dX4_drawPerson_1 : decode cX4_drawPerson 1 = .ok (.bipush 6, 2) := dk_16 6 (dk_at dksX4_drawPerson_0 1 rfl rfl)
theorem dX4_drawPerson_3 : decode cX4_drawPerson 3 = .ok (.invokevirtual 120, 3) := dk_182 0 120 (dk_at dksX4_drawPerson_0 3 rfl rfl)
theorem dX4_drawPerson_6 : decode cX4_drawPerson 6 = .ok (.istore_n 3, 1) := dk_62 (dk_at dksX4_drawPerson_0 6 rfl rfl)
theorem dX4_drawPerson_7 : decode cX4_drawPerson 7 = .ok (.iload_n 3, 1) := dk_29 (dk_at dksX4_drawPerson_0 7 rfl rfl)
theorem dX4_drawPerson_8 : decode cX4_drawPerson 8 = .ok (.ifCond .ne 54, 3) := dk_154 0 54 (dk_at dksX4_drawPerson_0 8 rfl rfl)
theorem dX4_drawPerson_11 : decode cX4_drawPerson 11 = .ok (.aload_n 1, 1) := dk_43 (dk_at dksX4_drawPerson_0 11 rfl rfl)
theorem dX4_drawPerson_12 : decode cX4_drawPerson 12 = .ok (.getfield 123, 3) := dk_180 0 123 (dk_at dksX4_drawPerson_0 12 rfl rfl)
theorem dX4_drawPerson_15 : decode cX4_drawPerson 15 = .ok (.ifCond .le 47, 3) := dk_158 0 47 (dk_at dksX4_drawPerson_0 15 rfl rfl)
theorem dX4_drawPerson_18 : decode cX4_drawPerson 18 = .ok (.aload_n 1, 1) := dk_43 (dk_at dksX4_drawPerson_0 18 rfl rfl)
theorem dX4_drawPerson_19 : decode cX4_drawPerson 19 = .ok (.getfield 126, 3) := dk_180 0 126 (dk_at dksX4_drawPerson_0 19 rfl rfl)
theorem dX4_drawPerson_22 : decode cX4_drawPerson 22 = .ok (.ifCond .le 40, 3) := dk_158 0 40 (dk_at dksX4_drawPerson_1 0 rfl rfl)
theorem dX4_drawPerson_25 : decode cX4_drawPerson 25 = .ok (.aload_n 0, 1) := dk_42 (dk_at dksX4_drawPerson_1 3 rfl rfl)
theorem dX4_drawPerson_26 : decode cX4_drawPerson 26 = .ok (.aload_n 1, 1) := dk_43 (dk_at dksX4_drawPerson_1 4 rfl rfl)
theorem dX4_drawPerson_27 : decode cX4_drawPerson 27 = .ok (.getfield 123, 3) := dk_180 0 123 (dk_at dksX4_drawPerson_1 5 rfl rfl)
theorem dX4_drawPerson_30 : decode cX4_drawPerson 30 = .ok (.invokevirtual 120, 3) := dk_182 0 120 (dk_at dksX4_drawPerson_1 8 rfl rfl)
theorem dX4_drawPerson_33 : decode cX4_drawPerson 33 = .ok (.istore 4, 2) := dk_54 4 (dk_at dksX4_drawPerson_1 11 rfl rfl)
theorem dX4_drawPerson_35 : decode cX4_drawPerson 35 = .ok (.aload_n 0, 1) := dk_42 (dk_at dksX4_drawPerson_1 13 rfl rfl)
theorem dX4_drawPerson_36 : decode cX4_drawPerson 36 = .ok (.aload_n 1, 1) := dk_43 (dk_at dksX4_drawPerson_1 14 rfl rfl)
theorem dX4_drawPerson_37 : decode cX4_drawPerson 37 = .ok (.getfield 126, 3) := dk_180 0 126 (dk_at dksX4_drawPerson_1 15 rfl rfl)
theorem dX4_drawPerson_40 : decode cX4_drawPerson 40 = .ok (.invokevirtual 120, 3) := dk_182 0 120 (dk_at dksX4_drawPerson_1 18 rfl rfl)
theorem dX4_drawPerson_43 : decode cX4_drawPerson 43 = .ok (.istore 5, 2) := dk_54 5 (dk_at dksX4_drawPerson_1 21 rfl rfl)
theorem dX4_drawPerson_45 : decode cX4_drawPerson 45 = .ok (.aload_n 0, 1) := dk_42 (dk_at dksX4_drawPerson_1 23 rfl rfl)
theorem dX4_drawPerson_46 : decode cX4_drawPerson 46 = .ok (.invokevirtual 129, 3) := dk_182 0 129 (dk_at dksX4_drawPerson_2 0 rfl rfl)
theorem dX4_drawPerson_49 : decode cX4_drawPerson 49 = .ok (.ifCond .ne 13, 3) := dk_154 0 13 (dk_at dksX4_drawPerson_2 3 rfl rfl)
theorem dX4_drawPerson_52 : decode cX4_drawPerson 52 = .ok (.aload_n 0, 1) := dk_42 (dk_at dksX4_drawPerson_2 6 rfl rfl)
theorem dX4_drawPerson_53 : decode cX4_drawPerson 53 = .ok (.aload_n 1, 1) := dk_43 (dk_at dksX4_drawPerson_2 7 rfl rfl)
theorem dX4_drawPerson_54 : decode cX4_drawPerson 54 = .ok (.iload_n 2, 1) := dk_28 (dk_at dksX4_drawPerson_2 8 rfl rfl)
theorem dX4_drawPerson_55 : decode cX4_drawPerson 55 = .ok (.iload 4, 2) := dk_21 4 (dk_at dksX4_drawPerson_2 9 rfl rfl)
theorem dX4_drawPerson_57 : decode cX4_drawPerson 57 = .ok (.iload 5, 2) := dk_21 5 (dk_at dksX4_drawPerson_2 11 rfl rfl)
theorem dX4_drawPerson_59 : decode cX4_drawPerson 59 = .ok (.invokevirtual 133, 3) := dk_182 0 133 (dk_at dksX4_drawPerson_2 13 rfl rfl)
theorem dX4_drawPerson_62 : decode cX4_drawPerson 62 = .ok (.iload_n 3, 1) := dk_29 (dk_at dksX4_drawPerson_2 16 rfl rfl)
theorem dX4_drawPerson_63 : decode cX4_drawPerson 63 = .ok (.iconst 1, 1) := dk_4 (dk_at dksX4_drawPerson_2 17 rfl rfl)
theorem dX4_drawPerson_64 : decode cX4_drawPerson 64 = .ok (.if_icmp .ne 24, 3) := dk_160 0 24 (dk_at dksX4_drawPerson_2 18 rfl rfl)
theorem dX4_drawPerson_67 : decode cX4_drawPerson 67 = .ok (.aload_n 1, 1) := dk_43 (dk_at dksX4_drawPerson_2 21 rfl rfl)
theorem dX4_drawPerson_68 : decode cX4_drawPerson 68 = .ok (.getfield 69, 3) := dk_180 0 69 (dk_at dksX4_drawPerson_3 0 rfl rfl)
theorem dX4_drawPerson_71 : decode cX4_drawPerson 71 = .ok (.ifCond .le 17, 3) := dk_158 0 17 (dk_at dksX4_drawPerson_3 3 rfl rfl)
theorem dX4_drawPerson_74 : decode cX4_drawPerson 74 = .ok (.aload_n 0, 1) := dk_42 (dk_at dksX4_drawPerson_3 6 rfl rfl)
theorem dX4_drawPerson_75 : decode cX4_drawPerson 75 = .ok (.getfield 15, 3) := dk_180 0 15 (dk_at dksX4_drawPerson_3 7 rfl rfl)
theorem dX4_drawPerson_78 : decode cX4_drawPerson 78 = .ok (.aload_n 0, 1) := dk_42 (dk_at dksX4_drawPerson_3 10 rfl rfl)
theorem dX4_drawPerson_79 : decode cX4_drawPerson 79 = .ok (.aload_n 1, 1) := dk_43 (dk_at dksX4_drawPerson_3 11 rfl rfl)
theorem dX4_drawPerson_80 : decode cX4_drawPerson 80 = .ok (.getfield 69, 3) := dk_180 0 69 (dk_at dksX4_drawPerson_3 12 rfl rfl)
theorem dX4_drawPerson_83 : decode cX4_drawPerson 83 = .ok (.invokevirtual 120, 3) := dk_182 0 120 (dk_at dksX4_drawPerson_3 15 rfl rfl)
theorem dX4_drawPerson_86 : decode cX4_drawPerson 86 = .ok (.iconst 0, 1) := dk_3 (dk_at dksX4_drawPerson_3 18 rfl rfl)
theorem dX4_drawPerson_87 : decode cX4_drawPerson 87 = .ok (.iastore, 1) := dk_79 (dk_at dksX4_drawPerson_3 19 rfl rfl)
theorem dX4_drawPerson_88 : decode cX4_drawPerson 88 = .ok (.iload_n 3, 1) := dk_29 (dk_at dksX4_drawPerson_3 20 rfl rfl)
theorem dX4_drawPerson_89 : decode cX4_drawPerson 89 = .ok (.iconst 2, 1) := dk_5 (dk_at dksX4_drawPerson_3 21 rfl rfl)
theorem dX4_drawPerson_90 : decode cX4_drawPerson 90 = .ok (.if_icmp .ne 35, 3) := dk_160 0 35 (dk_at dksX4_drawPerson_4 0 rfl rfl)
theorem dX4_drawPerson_93 : decode cX4_drawPerson 93 = .ok (.aload_n 1, 1) := dk_43 (dk_at dksX4_drawPerson_4 3 rfl rfl)
theorem dX4_drawPerson_94 : decode cX4_drawPerson 94 = .ok (.getfield 69, 3) := dk_180 0 69 (dk_at dksX4_drawPerson_4 4 rfl rfl)
theorem dX4_drawPerson_97 : decode cX4_drawPerson 97 = .ok (.ifCond .le 28, 3) := dk_158 0 28 (dk_at dksX4_drawPerson_4 7 rfl rfl)
theorem dX4_drawPerson_100 : decode cX4_drawPerson 100 = .ok (.aload_n 0, 1) := dk_42 (dk_at dksX4_drawPerson_4 10 rfl rfl)
theorem dX4_drawPerson_101 : decode cX4_drawPerson 101 = .ok (.aload_n 1, 1) := dk_43 (dk_at dksX4_drawPerson_4 11 rfl rfl)
theorem dX4_drawPerson_102 : decode cX4_drawPerson 102 = .ok (.getfield 69, 3) := dk_180 0 69 (dk_at dksX4_drawPerson_4 12 rfl rfl)
theorem dX4_drawPerson_105 : decode cX4_drawPerson 105 = .ok (.invokevirtual 120, 3) := dk_182 0 120 (dk_at dksX4_drawPerson_4 15 rfl rfl)
theorem dX4_drawPerson_108 : decode cX4_drawPerson 108 = .ok (.istore 4, 2) := dk_54 4 (dk_at dksX4_drawPerson_4 18 rfl rfl)
theorem dX4_drawPerson_110 : decode cX4_drawPerson 110 = .ok (.aload_n 0, 1) := dk_42 (dk_at dksX4_drawPerson_4 20 rfl rfl)
theorem dX4_drawPerson_111 : decode cX4_drawPerson 111 = .ok (.getfield 9, 3) := dk_180 0 9 (dk_at dksX4_drawPerson_4 21 rfl rfl)
theorem dX4_drawPerson_114 : decode cX4_drawPerson 114 = .ok (.iload 4, 2) := dk_21 4 (dk_at dksX4_drawPerson_5 0 rfl rfl)
theorem dX4_drawPerson_116 : decode cX4_drawPerson 116 = .ok (.aload_n 0, 1) := dk_42 (dk_at dksX4_drawPerson_5 2 rfl rfl)
theorem dX4_drawPerson_117 : decode cX4_drawPerson 117 = .ok (.aload_n 1, 1) := dk_43 (dk_at dksX4_drawPerson_5 3 rfl rfl)
theorem dX4_drawPerson_118 : decode cX4_drawPerson 118 = .ok (.getfield 126, 3) := dk_180 0 126 (dk_at dksX4_drawPerson_5 4 rfl rfl)
theorem dX4_drawPerson_121 : decode cX4_drawPerson 121 = .ok (.invokevirtual 120, 3) := dk_182 0 120 (dk_at dksX4_drawPerson_5 7 rfl rfl)
theorem dX4_drawPerson_124 : decode cX4_drawPerson 124 = .ok (.iastore, 1) := dk_79 (dk_at dksX4_drawPerson_5 10 rfl rfl)
theorem dX4_drawPerson_125 : decode cX4_drawPerson 125 = .ok (.return_, 1) := dk_177 (dk_at dksX4_drawPerson_5 11 rfl rfl)
abbrev cX4_draw : ByteArray := prog_20_method_20_code
def yX4_draw : MethodName := ⟨RX4, "draw", "(I)I"⟩
def dkwX4_draw_1 : List UInt8 := [172]
abbrev dktX4_draw_1 : List UInt8 := dkwX4_draw_1 ++ []
def dkwX4_draw_0 : List UInt8 := [42, 42, 180, 0, 116, 18, 119, 104, 17, 48, 57, 96, 181, 0, 116, 42, 180, 0, 116, 16, 8, 124, 27, 112]
abbrev dktX4_draw_0 : List UInt8 := dkwX4_draw_0 ++ dktX4_draw_1
theorem dksX4_draw_0 : cX4_draw.data.toList.drop 0 = dktX4_draw_0 := by decide +kernel
theorem dksX4_draw_1 : cX4_draw.data.toList.drop 24 = dktX4_draw_1 := dk_seg dksX4_draw_0 24 rfl rfl
theorem dX4_draw_0 : decode cX4_draw 0 = .ok (.aload_n 0, 1) := dk_42 (dk_at dksX4_draw_0 0 rfl rfl)
theorem dX4_draw_1 : decode cX4_draw 1 = .ok (.aload_n 0, 1) := dk_42 (dk_at dksX4_draw_0 1 rfl rfl)
theorem dX4_draw_2 : decode cX4_draw 2 = .ok (.getfield 116, 3) := dk_180 0 116 (dk_at dksX4_draw_0 2 rfl rfl)
theorem dX4_draw_5 : decode cX4_draw 5 = .ok (.ldc 119, 2) := dk_18 119 (dk_at dksX4_draw_0 5 rfl rfl)
theorem dX4_draw_7 : decode cX4_draw 7 = .ok (.imul, 1) := dk_104 (dk_at dksX4_draw_0 7 rfl rfl)
theorem dX4_draw_8 : decode cX4_draw 8 = .ok (.sipush 12345, 3) := dk_17 48 57 (dk_at dksX4_draw_0 8 rfl rfl)
theorem dX4_draw_11 : decode cX4_draw 11 = .ok (.iadd, 1) := dk_96 (dk_at dksX4_draw_0 11 rfl rfl)
theorem dX4_draw_12 : decode cX4_draw 12 = .ok (.putfield 116, 3) := dk_181 0 116 (dk_at dksX4_draw_0 12 rfl rfl)
theorem dX4_draw_15 : decode cX4_draw 15 = .ok (.aload_n 0, 1) := dk_42 (dk_at dksX4_draw_0 15 rfl rfl)
theorem dX4_draw_16 : decode cX4_draw 16 = .ok (.getfield 116, 3) := dk_180 0 116 (dk_at dksX4_draw_0 16 rfl rfl)
theorem dX4_draw_19 : decode cX4_draw 19 = .ok (.bipush 8, 2) := dk_16 8 (dk_at dksX4_draw_0 19 rfl rfl)
theorem dX4_draw_21 : decode cX4_draw 21 = .ok (.iushr, 1) := dk_124 (dk_at dksX4_draw_0 21 rfl rfl)
theorem dX4_draw_22 : decode cX4_draw 22 = .ok (.iload_n 1, 1) := dk_27 (dk_at dksX4_draw_0 22 rfl rfl)
theorem dX4_draw_23 : decode cX4_draw 23 = .ok (.irem, 1) := dk_112 (dk_at dksX4_draw_0 23 rfl rfl)
theorem dX4_draw_24 : decode cX4_draw 24 = .ok (.ireturn, 1) := dk_172 (dk_at dksX4_draw_1 0 rfl rfl)
abbrev cX4_shown : ByteArray := prog_20_method_10_code
def yX4_shown : MethodName := ⟨RX4, "shown", "(I)I"⟩
def dkwX4_shown_1 : List UInt8 := [120, 128, 61, 132, 3, 1, 167, 255, 230, 28, 172]
abbrev dktX4_shown_1 : List UInt8 := dkwX4_shown_1 ++ []
def dkwX4_shown_0 : List UInt8 := [3, 61, 3, 62, 29, 42, 180, 0, 43, 162, 0, 24, 42, 27, 29, 182, 0, 87, 153, 0, 9, 28, 4, 29]
abbrev dktX4_shown_0 : List UInt8 := dkwX4_shown_0 ++ dktX4_shown_1
theorem dksX4_shown_0 : cX4_shown.data.toList.drop 0 = dktX4_shown_0 := by decide +kernel
theorem dksX4_shown_1 : cX4_shown.data.toList.drop 24 = dktX4_shown_1 := dk_seg dksX4_shown_0 24 rfl rfl
theorem dX4_shown_0 : decode cX4_shown 0 = .ok (.iconst 0, 1) := dk_3 (dk_at dksX4_shown_0 0 rfl rfl)
theorem dX4_shown_1 : decode cX4_shown 1 = .ok (.istore_n 2, 1) := dk_61 (dk_at dksX4_shown_0 1 rfl rfl)
theorem dX4_shown_2 : decode cX4_shown 2 = .ok (.iconst 0, 1) := dk_3 (dk_at dksX4_shown_0 2 rfl rfl)
theorem dX4_shown_3 : decode cX4_shown 3 = .ok (.istore_n 3, 1) := dk_62 (dk_at dksX4_shown_0 3 rfl rfl)
theorem dX4_shown_4 : decode cX4_shown 4 = .ok (.iload_n 3, 1) := dk_29 (dk_at dksX4_shown_0 4 rfl rfl)
theorem dX4_shown_5 : decode cX4_shown 5 = .ok (.aload_n 0, 1) := dk_42 (dk_at dksX4_shown_0 5 rfl rfl)
theorem dX4_shown_6 : decode cX4_shown 6 = .ok (.getfield 43, 3) := dk_180 0 43 (dk_at dksX4_shown_0 6 rfl rfl)
theorem dX4_shown_9 : decode cX4_shown 9 = .ok (.if_icmp .ge 24, 3) := dk_162 0 24 (dk_at dksX4_shown_0 9 rfl rfl)
theorem dX4_shown_12 : decode cX4_shown 12 = .ok (.aload_n 0, 1) := dk_42 (dk_at dksX4_shown_0 12 rfl rfl)
theorem dX4_shown_13 : decode cX4_shown 13 = .ok (.iload_n 1, 1) := dk_27 (dk_at dksX4_shown_0 13 rfl rfl)
theorem dX4_shown_14 : decode cX4_shown 14 = .ok (.iload_n 3, 1) := dk_29 (dk_at dksX4_shown_0 14 rfl rfl)
theorem dX4_shown_15 : decode cX4_shown 15 = .ok (.invokevirtual 87, 3) := dk_182 0 87 (dk_at dksX4_shown_0 15 rfl rfl)
theorem dX4_shown_18 : decode cX4_shown 18 = .ok (.ifCond .eq 9, 3) := dk_153 0 9 (dk_at dksX4_shown_0 18 rfl rfl)
theorem dX4_shown_21 : decode cX4_shown 21 = .ok (.iload_n 2, 1) := dk_28 (dk_at dksX4_shown_0 21 rfl rfl)
theorem dX4_shown_22 : decode cX4_shown 22 = .ok (.iconst 1, 1) := dk_4 (dk_at dksX4_shown_0 22 rfl rfl)
theorem dX4_shown_23 : decode cX4_shown 23 = .ok (.iload_n 3, 1) := dk_29 (dk_at dksX4_shown_0 23 rfl rfl)
theorem dX4_shown_24 : decode cX4_shown 24 = .ok (.ishl, 1) := dk_120 (dk_at dksX4_shown_1 0 rfl rfl)
theorem dX4_shown_25 : decode cX4_shown 25 = .ok (.ior, 1) := dk_128 (dk_at dksX4_shown_1 1 rfl rfl)
theorem dX4_shown_26 : decode cX4_shown 26 = .ok (.istore_n 2, 1) := dk_61 (dk_at dksX4_shown_1 2 rfl rfl)
theorem dX4_shown_27 : decode cX4_shown 27 = .ok (.iinc 3 1, 3) := dk_132 3 1 (dk_at dksX4_shown_1 3 rfl rfl)
theorem dX4_shown_30 : decode cX4_shown 30 = .ok (.goto (-26), 3) := dk_167 255 230 (dk_at dksX4_shown_1 6 rfl rfl)
theorem dX4_shown_33 : decode cX4_shown 33 = .ok (.iload_n 2, 1) := dk_28 (dk_at dksX4_shown_1 9 rfl rfl)
theorem dX4_shown_34 : decode cX4_shown 34 = .ok (.ireturn, 1) := dk_172 (dk_at dksX4_shown_1 10 rfl rfl)
theorem q114 : (Jvm.Cond.initialized "ParlourLeaves$State") ∈ lw_all := lw_g (lw_at lw_m1 6 rfl) rfl
theorem q268 : (Jvm.Cond.fieldLinkNest "ParlourLeaves$State" (46 : Nat) "ParlourLeaves$House" "place" "[I" "ParlourLeaves") ∈ lw_tbl := lw_at lw_m1 160 rfl
theorem q272 : (Jvm.Cond.fieldLinkNest "ParlourLeaves$State" (84 : Nat) "ParlourLeaves$House" "slow" "[I" "ParlourLeaves") ∈ lw_tbl := lw_at lw_m1 164 rfl
theorem q279 : (Jvm.Cond.fieldLinkNest "ParlourLeaves$State" (126 : Nat) "ParlourLeaves$House" "parlours" "I" "ParlourLeaves") ∈ lw_tbl := lw_at lw_m1 171 rfl
theorem q282 : (Jvm.Cond.fieldLinkNest "ParlourLeaves$State" (69 : Nat) "ParlourLeaves$House" "plants" "I" "ParlourLeaves") ∈ lw_tbl := lw_at lw_m1 174 rfl
theorem q288 : (Jvm.Cond.fieldLinkNest "ParlourLeaves$State" (137 : Nat) "ParlourLeaves$House" "persons" "I" "ParlourLeaves") ∈ lw_tbl := lw_at lw_m1 180 rfl
theorem q292 : (Jvm.Cond.fieldLinkNest "ParlourLeaves$State" (123 : Nat) "ParlourLeaves$House" "deeds" "I" "ParlourLeaves") ∈ lw_tbl := lw_at lw_m1 184 rfl
theorem q294 : (Jvm.Cond.fieldLinkNest "ParlourLeaves$State" (55 : Nat) "ParlourLeaves$House" "ferns" "I" "ParlourLeaves") ∈ lw_tbl := lw_at lw_m1 186 rfl
theorem q298 : (Jvm.Cond.fieldLinkNest "ParlourLeaves$State" (62 : Nat) "ParlourLeaves$House" "dusty" "I" "ParlourLeaves") ∈ lw_tbl := lw_at lw_m1 190 rfl
theorem q303 : (Jvm.Cond.fieldLinkNest "ParlourLeaves$State" (99 : Nat) "ParlourLeaves$House" "proof" "I" "ParlourLeaves") ∈ lw_tbl := lw_at lw_m1 195 rfl
theorem q337 : (Jvm.Cond.instantiable "ParlourLeaves$State" (10 : Nat)) ∈ lw_all := lw_g (lw_at lw_m1 229 rfl) rfl
theorem q339 : (Jvm.Cond.instanceMethod ({ cls := "ParlourLeaves$State", name := "<init>", desc := "()V" } : Jvm.MethodName)) ∈ lw_all := lw_g (lw_at lw_m1 231 rfl) rfl
theorem q340 : (Jvm.Cond.code ({ cls := "ParlourLeaves$State", name := "<init>", desc := "()V" } : Jvm.MethodName) prog_20_method_1_code (1 : Nat) (Option.none : Option Jvm.ClassFile.FieldType)) ∈ lw_all := lw_g (lw_at lw_m1 232 rfl) rfl
theorem q341 : (Jvm.Cond.methodLink "ParlourLeaves$State" (3 : Nat) ({ cls := "java/lang/Object", name := "<init>", desc := "()V" } : Jvm.MethodName)) ∈ lw_all := lw_g (lw_at lw_m1 233 rfl) rfl
theorem q342 : (Jvm.Cond.fieldLink "ParlourLeaves$State" (9 : Nat) "ParlourLeaves$State" "place" "[I") ∈ lw_all := lw_g (lw_at lw_m1 234 rfl) rfl
theorem q346 : (Jvm.Cond.fieldLink "ParlourLeaves$State" (15 : Nat) "ParlourLeaves$State" "dust" "[I") ∈ lw_all := lw_g (lw_at lw_m1 238 rfl) rfl
theorem q350 : (Jvm.Cond.fieldLink "ParlourLeaves$State" (18 : Nat) "ParlourLeaves$State" "who" "[I") ∈ lw_all := lw_g (lw_at lw_m2 2 rfl) rfl
theorem q353 : (Jvm.Cond.fieldLink "ParlourLeaves$State" (21 : Nat) "ParlourLeaves$State" "what" "[I") ∈ lw_all := lw_g (lw_at lw_m2 5 rfl) rfl
theorem q355 : (Jvm.Cond.fieldLink "ParlourLeaves$State" (24 : Nat) "ParlourLeaves$State" "where" "[I") ∈ lw_all := lw_g (lw_at lw_m2 7 rfl) rfl
theorem q357 : (Jvm.Cond.fieldLink "ParlourLeaves$State" (27 : Nat) "ParlourLeaves$State" "when" "[I") ∈ lw_all := lw_g (lw_at lw_m2 9 rfl) rfl
theorem q359 : (Jvm.Cond.fieldLink "ParlourLeaves$State" (30 : Nat) "ParlourLeaves$State" "comes" "[I") ∈ lw_all := lw_g (lw_at lw_m2 11 rfl) rfl
theorem q361 : (Jvm.Cond.fieldLink "ParlourLeaves$State" (39 : Nat) "ParlourLeaves$State" "day" "I") ∈ lw_all := lw_g (lw_at lw_m2 13 rfl) rfl
theorem q364 : (Jvm.Cond.fieldLink "ParlourLeaves$State" (43 : Nat) "ParlourLeaves$State" "acts" "I") ∈ lw_all := lw_g (lw_at lw_m2 16 rfl) rfl
theorem q366 : (Jvm.Cond.fieldLink "ParlourLeaves$State" (116 : Nat) "ParlourLeaves$State" "seed" "I") ∈ lw_all := lw_g (lw_at lw_m2 18 rfl) rfl
theorem q367 : (Jvm.Cond.laysFinal "ParlourLeaves$State" "ParlourLeaves$State" "place" "[I") ∈ lw_all := lw_g (lw_at lw_m2 19 rfl) rfl
theorem q368 : (Jvm.Cond.soleField "ParlourLeaves$State" "place") ∈ lw_all := lw_g (lw_at lw_m2 20 rfl) rfl
theorem q369 : (Jvm.Cond.laysFinal "ParlourLeaves$State" "ParlourLeaves$State" "dust" "[I") ∈ lw_all := lw_g (lw_at lw_m2 21 rfl) rfl
theorem q370 : (Jvm.Cond.soleField "ParlourLeaves$State" "dust") ∈ lw_all := lw_g (lw_at lw_m2 22 rfl) rfl
theorem q371 : (Jvm.Cond.laysFinal "ParlourLeaves$State" "ParlourLeaves$State" "who" "[I") ∈ lw_all := lw_g (lw_at lw_m2 23 rfl) rfl
theorem q372 : (Jvm.Cond.soleField "ParlourLeaves$State" "who") ∈ lw_all := lw_g (lw_at lw_m2 24 rfl) rfl
theorem q373 : (Jvm.Cond.laysFinal "ParlourLeaves$State" "ParlourLeaves$State" "what" "[I") ∈ lw_all := lw_g (lw_at lw_m2 25 rfl) rfl
theorem q374 : (Jvm.Cond.soleField "ParlourLeaves$State" "what") ∈ lw_all := lw_g (lw_at lw_m2 26 rfl) rfl
theorem q375 : (Jvm.Cond.laysFinal "ParlourLeaves$State" "ParlourLeaves$State" "where" "[I") ∈ lw_all := lw_g (lw_at lw_m2 27 rfl) rfl
theorem q376 : (Jvm.Cond.soleField "ParlourLeaves$State" "where") ∈ lw_all := lw_g (lw_at lw_m2 28 rfl) rfl
theorem q377 : (Jvm.Cond.laysFinal "ParlourLeaves$State" "ParlourLeaves$State" "when" "[I") ∈ lw_all := lw_g (lw_at lw_m2 29 rfl) rfl
theorem q378 : (Jvm.Cond.soleField "ParlourLeaves$State" "when") ∈ lw_all := lw_g (lw_at lw_m2 30 rfl) rfl
theorem q379 : (Jvm.Cond.laysFinal "ParlourLeaves$State" "ParlourLeaves$State" "comes" "[I") ∈ lw_all := lw_g (lw_at lw_m2 31 rfl) rfl
theorem q380 : (Jvm.Cond.soleField "ParlourLeaves$State" "comes") ∈ lw_all := lw_g (lw_at lw_m2 32 rfl) rfl
theorem q381 : (Jvm.Cond.lays "ParlourLeaves$State" "ParlourLeaves$State" "day" "I") ∈ lw_all := lw_g (lw_at lw_m2 33 rfl) rfl
theorem q382 : (Jvm.Cond.soleField "ParlourLeaves$State" "day") ∈ lw_all := lw_g (lw_at lw_m2 34 rfl) rfl
theorem q383 : (Jvm.Cond.lays "ParlourLeaves$State" "ParlourLeaves$State" "acts" "I") ∈ lw_all := lw_g (lw_at lw_m2 35 rfl) rfl
theorem q384 : (Jvm.Cond.soleField "ParlourLeaves$State" "acts") ∈ lw_all := lw_g (lw_at lw_m2 36 rfl) rfl
theorem q385 : (Jvm.Cond.lays "ParlourLeaves$State" "ParlourLeaves$State" "seed" "I") ∈ lw_all := lw_g (lw_at lw_m2 37 rfl) rfl
theorem q386 : (Jvm.Cond.soleField "ParlourLeaves$State" "seed") ∈ lw_all := lw_g (lw_at lw_m2 38 rfl) rfl
theorem q387 : (Jvm.Cond.superclass "ParlourLeaves$State" "java/lang/Object") ∈ lw_all := lw_g (lw_at lw_m2 39 rfl) rfl
theorem q470 : (Jvm.Cond.instanceMethod ({ cls := "ParlourLeaves$State", name := "begin", desc := "(LParlourLeaves$House;)V" } : Jvm.MethodName)) ∈ lw_all := lw_g (lw_at lw_m2 122 rfl) rfl
theorem q471 : (Jvm.Cond.selects "ParlourLeaves$State" ({ cls := "ParlourLeaves$State", name := "begin", desc := "(LParlourLeaves$House;)V" } : Jvm.MethodName) ({ cls := "ParlourLeaves$State", name := "begin", desc := "(LParlourLeaves$House;)V" } : Jvm.MethodName)) ∈ lw_all := lw_g (lw_at lw_m2 123 rfl) rfl
theorem q472 : (Jvm.Cond.code ({ cls := "ParlourLeaves$State", name := "begin", desc := "(LParlourLeaves$House;)V" } : Jvm.MethodName) prog_20_method_3_code (2 : Nat) (Option.none : Option Jvm.ClassFile.FieldType)) ∈ lw_all := lw_g (lw_at lw_m2 124 rfl) rfl
theorem q473 : (Jvm.Cond.methodLink "ParlourLeaves$State" (33 : Nat) ({ cls := "java/lang/System", name := "arraycopy", desc := "(Ljava/lang/Object;ILjava/lang/Object;II)V" } : Jvm.MethodName)) ∈ lw_all := lw_g (lw_at lw_m2 125 rfl) rfl
theorem q476 : (Jvm.Cond.methodLink "ParlourLeaves$State" (49 : Nat) ({ cls := "java/util/Arrays", name := "fill", desc := "([II)V" } : Jvm.MethodName)) ∈ lw_all := lw_g (lw_at lw_m2 128 rfl) rfl
theorem q856 : (Jvm.Cond.instanceMethod ({ cls := "ParlourLeaves$State", name := "comes", desc := "(II)I" } : Jvm.MethodName)) ∈ lw_all := lw_g (lw_at lw_m4 28 rfl) rfl
theorem q857 : (Jvm.Cond.selects "ParlourLeaves$State" ({ cls := "ParlourLeaves$State", name := "comes", desc := "(II)I" } : Jvm.MethodName) ({ cls := "ParlourLeaves$State", name := "comes", desc := "(II)I" } : Jvm.MethodName)) ∈ lw_all := lw_g (lw_at lw_m4 29 rfl) rfl
theorem q858 : (Jvm.Cond.code ({ cls := "ParlourLeaves$State", name := "comes", desc := "(II)I" } : Jvm.MethodName) prog_20_method_6_code (3 : Nat) (Option.some Jvm.ClassFile.FieldType.int)) ∈ lw_all := lw_g (lw_at lw_m4 30 rfl) rfl
theorem q872 : (Jvm.Cond.instanceMethod ({ cls := "ParlourLeaves$State", name := "sees", desc := "(LParlourLeaves$House;I)I" } : Jvm.MethodName)) ∈ lw_all := lw_g (lw_at lw_m4 44 rfl) rfl
theorem q873 : (Jvm.Cond.selects "ParlourLeaves$State" ({ cls := "ParlourLeaves$State", name := "sees", desc := "(LParlourLeaves$House;I)I" } : Jvm.MethodName) ({ cls := "ParlourLeaves$State", name := "sees", desc := "(LParlourLeaves$House;I)I" } : Jvm.MethodName)) ∈ lw_all := lw_g (lw_at lw_m4 45 rfl) rfl
theorem q874 : (Jvm.Cond.code ({ cls := "ParlourLeaves$State", name := "sees", desc := "(LParlourLeaves$House;I)I" } : Jvm.MethodName) prog_20_method_4_code (3 : Nat) (Option.some Jvm.ClassFile.FieldType.int)) ∈ lw_all := lw_g (lw_at lw_m4 46 rfl) rfl
theorem q875 : (Jvm.Cond.methodLinkNest "ParlourLeaves$State" (58 : Nat) ({ cls := "ParlourLeaves", name := "has", desc := "(II)Z" } : Jvm.MethodName) "ParlourLeaves") ∈ lw_tbl := lw_at lw_m4 47 rfl
theorem q876 : (Jvm.Cond.methodLink "ParlourLeaves$State" (65 : Nat) ({ cls := "ParlourLeaves$House", name := "seenFrom", desc := "(I)I" } : Jvm.MethodName)) ∈ lw_all := lw_g (lw_at lw_m4 48 rfl) rfl
theorem q882 : (Jvm.Cond.instanceMethod ({ cls := "ParlourLeaves$State", name := "leaves", desc := "(IZ)I" } : Jvm.MethodName)) ∈ lw_all := lw_g (lw_at lw_m4 54 rfl) rfl
theorem q883 : (Jvm.Cond.selects "ParlourLeaves$State" ({ cls := "ParlourLeaves$State", name := "leaves", desc := "(IZ)I" } : Jvm.MethodName) ({ cls := "ParlourLeaves$State", name := "leaves", desc := "(IZ)I" } : Jvm.MethodName)) ∈ lw_all := lw_g (lw_at lw_m4 55 rfl) rfl
theorem q884 : (Jvm.Cond.code ({ cls := "ParlourLeaves$State", name := "leaves", desc := "(IZ)I" } : Jvm.MethodName) prog_20_method_9_code (5 : Nat) (Option.some Jvm.ClassFile.FieldType.int)) ∈ lw_all := lw_g (lw_at lw_m4 56 rfl) rfl
theorem q885 : (Jvm.Cond.methodLink "ParlourLeaves$State" (76 : Nat) ({ cls := "ParlourLeaves$State", name := "comes", desc := "(II)I" } : Jvm.MethodName)) ∈ lw_all := lw_g (lw_at lw_m4 57 rfl) rfl
theorem q886 : (Jvm.Cond.methodLink "ParlourLeaves$State" (87 : Nat) ({ cls := "ParlourLeaves$State", name := "hasCome", desc := "(II)Z" } : Jvm.MethodName)) ∈ lw_all := lw_g (lw_at lw_m4 58 rfl) rfl
theorem q887 : (Jvm.Cond.instanceMethod ({ cls := "ParlourLeaves$State", name := "hasCome", desc := "(II)Z" } : Jvm.MethodName)) ∈ lw_all := lw_g (lw_at lw_m4 59 rfl) rfl
theorem q888 : (Jvm.Cond.selects "ParlourLeaves$State" ({ cls := "ParlourLeaves$State", name := "hasCome", desc := "(II)Z" } : Jvm.MethodName) ({ cls := "ParlourLeaves$State", name := "hasCome", desc := "(II)Z" } : Jvm.MethodName)) ∈ lw_all := lw_g (lw_at lw_m4 60 rfl) rfl
theorem q889 : (Jvm.Cond.code ({ cls := "ParlourLeaves$State", name := "hasCome", desc := "(II)Z" } : Jvm.MethodName) prog_20_method_8_code (3 : Nat) (Option.some Jvm.ClassFile.FieldType.boolean)) ∈ lw_all := lw_g (lw_at lw_m4 61 rfl) rfl
theorem q891 : (Jvm.Cond.instanceMethod ({ cls := "ParlourLeaves$State", name := "proved", desc := "(LParlourLeaves$House;)I" } : Jvm.MethodName)) ∈ lw_all := lw_g (lw_at lw_m4 63 rfl) rfl
theorem q892 : (Jvm.Cond.selects "ParlourLeaves$State" ({ cls := "ParlourLeaves$State", name := "proved", desc := "(LParlourLeaves$House;)I" } : Jvm.MethodName) ({ cls := "ParlourLeaves$State", name := "proved", desc := "(LParlourLeaves$House;)I" } : Jvm.MethodName)) ∈ lw_all := lw_g (lw_at lw_m4 64 rfl) rfl
theorem q893 : (Jvm.Cond.code ({ cls := "ParlourLeaves$State", name := "proved", desc := "(LParlourLeaves$House;)I" } : Jvm.MethodName) prog_20_method_13_code (4 : Nat) (Option.some Jvm.ClassFile.FieldType.int)) ∈ lw_all := lw_g (lw_at lw_m4 65 rfl) rfl
theorem q894 : (Jvm.Cond.methodLink "ParlourLeaves$State" (102 : Nat) ({ cls := "ParlourLeaves$State", name := "isProved", desc := "(LParlourLeaves$House;I)Z" } : Jvm.MethodName)) ∈ lw_all := lw_g (lw_at lw_m4 66 rfl) rfl
theorem q895 : (Jvm.Cond.instanceMethod ({ cls := "ParlourLeaves$State", name := "isProved", desc := "(LParlourLeaves$House;I)Z" } : Jvm.MethodName)) ∈ lw_all := lw_g (lw_at lw_m4 67 rfl) rfl
theorem q896 : (Jvm.Cond.selects "ParlourLeaves$State" ({ cls := "ParlourLeaves$State", name := "isProved", desc := "(LParlourLeaves$House;I)Z" } : Jvm.MethodName) ({ cls := "ParlourLeaves$State", name := "isProved", desc := "(LParlourLeaves$House;I)Z" } : Jvm.MethodName)) ∈ lw_all := lw_g (lw_at lw_m4 68 rfl) rfl
theorem q897 : (Jvm.Cond.code ({ cls := "ParlourLeaves$State", name := "isProved", desc := "(LParlourLeaves$House;I)Z" } : Jvm.MethodName) prog_20_method_12_code (3 : Nat) (Option.some Jvm.ClassFile.FieldType.boolean)) ∈ lw_all := lw_g (lw_at lw_m4 69 rfl) rfl
theorem q898 : (Jvm.Cond.methodLink "ParlourLeaves$State" (90 : Nat) ({ cls := "ParlourLeaves$State", name := "witnesses", desc := "(LParlourLeaves$House;IZ)I" } : Jvm.MethodName)) ∈ lw_all := lw_g (lw_at lw_m4 70 rfl) rfl
theorem q899 : (Jvm.Cond.instanceMethod ({ cls := "ParlourLeaves$State", name := "witnesses", desc := "(LParlourLeaves$House;IZ)I" } : Jvm.MethodName)) ∈ lw_all := lw_g (lw_at lw_m4 71 rfl) rfl
theorem q900 : (Jvm.Cond.selects "ParlourLeaves$State" ({ cls := "ParlourLeaves$State", name := "witnesses", desc := "(LParlourLeaves$House;IZ)I" } : Jvm.MethodName) ({ cls := "ParlourLeaves$State", name := "witnesses", desc := "(LParlourLeaves$House;IZ)I" } : Jvm.MethodName)) ∈ lw_all := lw_g (lw_at lw_m4 72 rfl) rfl
theorem q901 : (Jvm.Cond.code ({ cls := "ParlourLeaves$State", name := "witnesses", desc := "(LParlourLeaves$House;IZ)I" } : Jvm.MethodName) prog_20_method_11_code (6 : Nat) (Option.some Jvm.ClassFile.FieldType.int)) ∈ lw_all := lw_g (lw_at lw_m4 73 rfl) rfl
theorem q902 : (Jvm.Cond.methodLink "ParlourLeaves$State" (94 : Nat) ({ cls := "java/lang/Integer", name := "bitCount", desc := "(I)I" } : Jvm.MethodName)) ∈ lw_all := lw_g (lw_at lw_m4 74 rfl) rfl
theorem q917 : (Jvm.Cond.instanceMethod ({ cls := "ParlourLeaves$State", name := "be", desc := "(LParlourLeaves$State;)V" } : Jvm.MethodName)) ∈ lw_all := lw_g (lw_at lw_m4 89 rfl) rfl
theorem q918 : (Jvm.Cond.selects "ParlourLeaves$State" ({ cls := "ParlourLeaves$State", name := "be", desc := "(LParlourLeaves$State;)V" } : Jvm.MethodName) ({ cls := "ParlourLeaves$State", name := "be", desc := "(LParlourLeaves$State;)V" } : Jvm.MethodName)) ∈ lw_all := lw_g (lw_at lw_m4 90 rfl) rfl
theorem q919 : (Jvm.Cond.code ({ cls := "ParlourLeaves$State", name := "be", desc := "(LParlourLeaves$State;)V" } : Jvm.MethodName) prog_20_method_2_code (2 : Nat) (Option.none : Option Jvm.ClassFile.FieldType)) ∈ lw_all := lw_g (lw_at lw_m4 91 rfl) rfl
theorem q933 : (Jvm.Cond.instanceMethod ({ cls := "ParlourLeaves$State", name := "whyDo", desc := "()I" } : Jvm.MethodName)) ∈ lw_all := lw_g (lw_at lw_m4 105 rfl) rfl
theorem q934 : (Jvm.Cond.selects "ParlourLeaves$State" ({ cls := "ParlourLeaves$State", name := "whyDo", desc := "()I" } : Jvm.MethodName) ({ cls := "ParlourLeaves$State", name := "whyDo", desc := "()I" } : Jvm.MethodName)) ∈ lw_all := lw_g (lw_at lw_m4 106 rfl) rfl
theorem q935 : (Jvm.Cond.code ({ cls := "ParlourLeaves$State", name := "whyDo", desc := "()I" } : Jvm.MethodName) prog_20_method_14_code (1 : Nat) (Option.some Jvm.ClassFile.FieldType.int)) ∈ lw_all := lw_g (lw_at lw_m4 107 rfl) rfl
theorem q942 : (Jvm.Cond.instanceMethod ({ cls := "ParlourLeaves$State", name := "does", desc := "(LParlourLeaves$House;III)V" } : Jvm.MethodName)) ∈ lw_all := lw_g (lw_at lw_m4 114 rfl) rfl
theorem q943 : (Jvm.Cond.selects "ParlourLeaves$State" ({ cls := "ParlourLeaves$State", name := "does", desc := "(LParlourLeaves$House;III)V" } : Jvm.MethodName) ({ cls := "ParlourLeaves$State", name := "does", desc := "(LParlourLeaves$House;III)V" } : Jvm.MethodName)) ∈ lw_all := lw_g (lw_at lw_m4 115 rfl) rfl
theorem q944 : (Jvm.Cond.code ({ cls := "ParlourLeaves$State", name := "does", desc := "(LParlourLeaves$House;III)V" } : Jvm.MethodName) prog_20_method_15_code (6 : Nat) (Option.none : Option Jvm.ClassFile.FieldType)) ∈ lw_all := lw_g (lw_at lw_m4 116 rfl) rfl
theorem q945 : (Jvm.Cond.methodLink "ParlourLeaves$State" (72 : Nat) ({ cls := "ParlourLeaves$State", name := "sees", desc := "(LParlourLeaves$House;I)I" } : Jvm.MethodName)) ∈ lw_all := lw_g (lw_at lw_m4 117 rfl) rfl
theorem q946 : (Jvm.Cond.methodLink "ParlourLeaves$State" (106 : Nat) ({ cls := "ParlourLeaves$State", name := "next", desc := "(LParlourLeaves$House;I)I" } : Jvm.MethodName)) ∈ lw_all := lw_g (lw_at lw_m4 118 rfl) rfl
theorem q947 : (Jvm.Cond.instanceMethod ({ cls := "ParlourLeaves$State", name := "next", desc := "(LParlourLeaves$House;I)I" } : Jvm.MethodName)) ∈ lw_all := lw_g (lw_at lw_m4 119 rfl) rfl
theorem q948 : (Jvm.Cond.selects "ParlourLeaves$State" ({ cls := "ParlourLeaves$State", name := "next", desc := "(LParlourLeaves$House;I)I" } : Jvm.MethodName) ({ cls := "ParlourLeaves$State", name := "next", desc := "(LParlourLeaves$House;I)I" } : Jvm.MethodName)) ∈ lw_all := lw_g (lw_at lw_m4 120 rfl) rfl
theorem q949 : (Jvm.Cond.code ({ cls := "ParlourLeaves$State", name := "next", desc := "(LParlourLeaves$House;I)I" } : Jvm.MethodName) prog_20_method_7_code (5 : Nat) (Option.some Jvm.ClassFile.FieldType.int)) ∈ lw_all := lw_g (lw_at lw_m4 121 rfl) rfl
theorem q950 : (Jvm.Cond.methodLink "ParlourLeaves$State" (79 : Nat) ({ cls := "java/lang/Math", name := "max", desc := "(II)I" } : Jvm.MethodName)) ∈ lw_all := lw_g (lw_at lw_m4 122 rfl) rfl
theorem q958 : (Jvm.Cond.instanceMethod ({ cls := "ParlourLeaves$State", name := "whySponge", desc := "(I)I" } : Jvm.MethodName)) ∈ lw_all := lw_g (lw_at lw_m4 130 rfl) rfl
theorem q959 : (Jvm.Cond.selects "ParlourLeaves$State" ({ cls := "ParlourLeaves$State", name := "whySponge", desc := "(I)I" } : Jvm.MethodName) ({ cls := "ParlourLeaves$State", name := "whySponge", desc := "(I)I" } : Jvm.MethodName)) ∈ lw_all := lw_g (lw_at lw_m4 131 rfl) rfl
theorem q960 : (Jvm.Cond.code ({ cls := "ParlourLeaves$State", name := "whySponge", desc := "(I)I" } : Jvm.MethodName) prog_20_method_16_code (2 : Nat) (Option.some Jvm.ClassFile.FieldType.int)) ∈ lw_all := lw_g (lw_at lw_m4 132 rfl) rfl
theorem q966 : (Jvm.Cond.instanceMethod ({ cls := "ParlourLeaves$State", name := "whyCarry", desc := "(II)I" } : Jvm.MethodName)) ∈ lw_all := lw_g (lw_at lw_m4 138 rfl) rfl
theorem q967 : (Jvm.Cond.selects "ParlourLeaves$State" ({ cls := "ParlourLeaves$State", name := "whyCarry", desc := "(II)I" } : Jvm.MethodName) ({ cls := "ParlourLeaves$State", name := "whyCarry", desc := "(II)I" } : Jvm.MethodName)) ∈ lw_all := lw_g (lw_at lw_m4 139 rfl) rfl
theorem q968 : (Jvm.Cond.code ({ cls := "ParlourLeaves$State", name := "whyCarry", desc := "(II)I" } : Jvm.MethodName) prog_20_method_17_code (3 : Nat) (Option.some Jvm.ClassFile.FieldType.int)) ∈ lw_all := lw_g (lw_at lw_m4 140 rfl) rfl
theorem q974 : (Jvm.Cond.instanceMethod ({ cls := "ParlourLeaves$State", name := "days", desc := "(LParlourLeaves$House;I)I" } : Jvm.MethodName)) ∈ lw_all := lw_g (lw_at lw_m4 146 rfl) rfl
theorem q975 : (Jvm.Cond.selects "ParlourLeaves$State" ({ cls := "ParlourLeaves$State", name := "days", desc := "(LParlourLeaves$House;I)I" } : Jvm.MethodName) ({ cls := "ParlourLeaves$State", name := "days", desc := "(LParlourLeaves$House;I)I" } : Jvm.MethodName)) ∈ lw_all := lw_g (lw_at lw_m4 147 rfl) rfl
theorem q976 : (Jvm.Cond.code ({ cls := "ParlourLeaves$State", name := "days", desc := "(LParlourLeaves$House;I)I" } : Jvm.MethodName) prog_20_method_19_code (4 : Nat) (Option.some Jvm.ClassFile.FieldType.int)) ∈ lw_all := lw_g (lw_at lw_m4 148 rfl) rfl
theorem q977 : (Jvm.Cond.methodLink "ParlourLeaves$State" (112 : Nat) ({ cls := "ParlourLeaves$State", name := "goOn", desc := "(LParlourLeaves$House;)V" } : Jvm.MethodName)) ∈ lw_all := lw_g (lw_at lw_m4 149 rfl) rfl
theorem q978 : (Jvm.Cond.instanceMethod ({ cls := "ParlourLeaves$State", name := "goOn", desc := "(LParlourLeaves$House;)V" } : Jvm.MethodName)) ∈ lw_all := lw_g (lw_at lw_m4 150 rfl) rfl
theorem q979 : (Jvm.Cond.selects "ParlourLeaves$State" ({ cls := "ParlourLeaves$State", name := "goOn", desc := "(LParlourLeaves$House;)V" } : Jvm.MethodName) ({ cls := "ParlourLeaves$State", name := "goOn", desc := "(LParlourLeaves$House;)V" } : Jvm.MethodName)) ∈ lw_all := lw_g (lw_at lw_m4 151 rfl) rfl
theorem q980 : (Jvm.Cond.code ({ cls := "ParlourLeaves$State", name := "goOn", desc := "(LParlourLeaves$House;)V" } : Jvm.MethodName) prog_20_method_18_code (3 : Nat) (Option.none : Option Jvm.ClassFile.FieldType)) ∈ lw_all := lw_g (lw_at lw_m4 152 rfl) rfl
theorem q981 : (Jvm.Cond.methodLink "ParlourLeaves$State" (109 : Nat) ({ cls := "java/lang/Math", name := "min", desc := "(II)I" } : Jvm.MethodName)) ∈ lw_all := lw_g (lw_at lw_m4 153 rfl) rfl
theorem q1063 : (Jvm.Cond.instanceMethod ({ cls := "ParlourLeaves$State", name := "seers", desc := "(LParlourLeaves$House;I)I" } : Jvm.MethodName)) ∈ lw_all := lw_g (lw_at lw_m4 235 rfl) rfl
theorem q1064 : (Jvm.Cond.selects "ParlourLeaves$State" ({ cls := "ParlourLeaves$State", name := "seers", desc := "(LParlourLeaves$House;I)I" } : Jvm.MethodName) ({ cls := "ParlourLeaves$State", name := "seers", desc := "(LParlourLeaves$House;I)I" } : Jvm.MethodName)) ∈ lw_all := lw_g (lw_at lw_m4 236 rfl) rfl
theorem q1065 : (Jvm.Cond.code ({ cls := "ParlourLeaves$State", name := "seers", desc := "(LParlourLeaves$House;I)I" } : Jvm.MethodName) prog_20_method_5_code (5 : Nat) (Option.some Jvm.ClassFile.FieldType.int)) ∈ lw_all := lw_g (lw_at lw_m4 237 rfl) rfl
theorem q1144 : (Jvm.Cond.instanceMethod ({ cls := "ParlourLeaves$State", name := "draws", desc := "(LParlourLeaves$House;II)I" } : Jvm.MethodName)) ∈ lw_all := lw_g (lw_at lw_m5 76 rfl) rfl
theorem q1145 : (Jvm.Cond.selects "ParlourLeaves$State" ({ cls := "ParlourLeaves$State", name := "draws", desc := "(LParlourLeaves$House;II)I" } : Jvm.MethodName) ({ cls := "ParlourLeaves$State", name := "draws", desc := "(LParlourLeaves$House;II)I" } : Jvm.MethodName)) ∈ lw_all := lw_g (lw_at lw_m5 77 rfl) rfl
theorem q1146 : (Jvm.Cond.code ({ cls := "ParlourLeaves$State", name := "draws", desc := "(LParlourLeaves$House;II)I" } : Jvm.MethodName) prog_20_method_22_code (6 : Nat) (Option.some Jvm.ClassFile.FieldType.int)) ∈ lw_all := lw_g (lw_at lw_m5 78 rfl) rfl
theorem q1147 : (Jvm.Cond.methodLink "ParlourLeaves$State" (140 : Nat) ({ cls := "ParlourLeaves$State", name := "drawPerson", desc := "(LParlourLeaves$House;I)V" } : Jvm.MethodName)) ∈ lw_all := lw_g (lw_at lw_m5 79 rfl) rfl
theorem q1148 : (Jvm.Cond.privateMethod ({ cls := "ParlourLeaves$State", name := "drawPerson", desc := "(LParlourLeaves$House;I)V" } : Jvm.MethodName)) ∈ lw_tbl := lw_at lw_m5 80 rfl
theorem q1149 : (Jvm.Cond.instanceMethod ({ cls := "ParlourLeaves$State", name := "drawPerson", desc := "(LParlourLeaves$House;I)V" } : Jvm.MethodName)) ∈ lw_all := lw_g (lw_at lw_m5 81 rfl) rfl
theorem q1150 : (Jvm.Cond.code ({ cls := "ParlourLeaves$State", name := "drawPerson", desc := "(LParlourLeaves$House;I)V" } : Jvm.MethodName) prog_20_method_21_code (6 : Nat) (Option.none : Option Jvm.ClassFile.FieldType)) ∈ lw_all := lw_g (lw_at lw_m5 82 rfl) rfl
theorem q1151 : (Jvm.Cond.methodLink "ParlourLeaves$State" (120 : Nat) ({ cls := "ParlourLeaves$State", name := "draw", desc := "(I)I" } : Jvm.MethodName)) ∈ lw_all := lw_g (lw_at lw_m5 83 rfl) rfl
theorem q1152 : (Jvm.Cond.privateMethod ({ cls := "ParlourLeaves$State", name := "draw", desc := "(I)I" } : Jvm.MethodName)) ∈ lw_tbl := lw_at lw_m5 84 rfl
theorem q1153 : (Jvm.Cond.instanceMethod ({ cls := "ParlourLeaves$State", name := "draw", desc := "(I)I" } : Jvm.MethodName)) ∈ lw_all := lw_g (lw_at lw_m5 85 rfl) rfl
theorem q1154 : (Jvm.Cond.code ({ cls := "ParlourLeaves$State", name := "draw", desc := "(I)I" } : Jvm.MethodName) prog_20_method_20_code (2 : Nat) (Option.some Jvm.ClassFile.FieldType.int)) ∈ lw_all := lw_g (lw_at lw_m5 86 rfl) rfl
theorem q1155 : (Jvm.Cond.constant "ParlourLeaves$State" (119 : Nat) (1103515245 : Int32)) ∈ lw_all := lw_g (lw_at lw_m5 87 rfl) rfl
theorem q1156 : (Jvm.Cond.methodLink "ParlourLeaves$State" (129 : Nat) ({ cls := "ParlourLeaves$State", name := "whyDo", desc := "()I" } : Jvm.MethodName)) ∈ lw_all := lw_g (lw_at lw_m5 88 rfl) rfl
theorem q1157 : (Jvm.Cond.methodLink "ParlourLeaves$State" (133 : Nat) ({ cls := "ParlourLeaves$State", name := "does", desc := "(LParlourLeaves$House;III)V" } : Jvm.MethodName)) ∈ lw_all := lw_g (lw_at lw_m5 89 rfl) rfl
theorem q1533 : (Jvm.Cond.instanceMethod ({ cls := "ParlourLeaves$State", name := "shown", desc := "(I)I" } : Jvm.MethodName)) ∈ lw_all := lw_g (lw_at lw_m6 225 rfl) rfl
theorem q1534 : (Jvm.Cond.selects "ParlourLeaves$State" ({ cls := "ParlourLeaves$State", name := "shown", desc := "(I)I" } : Jvm.MethodName) ({ cls := "ParlourLeaves$State", name := "shown", desc := "(I)I" } : Jvm.MethodName)) ∈ lw_all := lw_g (lw_at lw_m6 226 rfl) rfl
theorem q1535 : (Jvm.Cond.code ({ cls := "ParlourLeaves$State", name := "shown", desc := "(I)I" } : Jvm.MethodName) prog_20_method_10_code (4 : Nat) (Option.some Jvm.ClassFile.FieldType.int)) ∈ lw_all := lw_g (lw_at lw_m6 227 rfl) rfl
theorem q2220 : (Jvm.Cond.castable "ParlourLeaves$State" "java/lang/Object") ∈ lw_tbl := lw_at lw_m9 192 rfl
theorem in_X4 : ∀ w ∈ wsX40, w ∈ lw_all := lw_in wsX40 [367, 369, 371, 373, 375, 377, 379, 381, 383, 385] (by decide +kernel) (by decide +kernel)
/-! ParlourLeaves$Reader -/
set_option maxRecDepth 100000
def RX5 : String := "ParlourLeaves$Reader"
abbrev cX5_init : ByteArray := prog_17_method_1_code
def yX5_init : MethodName := ⟨RX5, "<init>", "(LParlourLeaves;I)V"⟩
def dkwX5_init_0 : List UInt8 := [42, 43, 181, 0, 3, 42, 183, 0, 9, 42, 28, 181, 0, 15, 177]
abbrev dktX5_init_0 : List UInt8 := dkwX5_init_0 ++ []
theorem dksX5_init_0 : cX5_init.data.toList.drop 0 = dktX5_init_0 := by decide +kernel
theorem dX5_init_0 : decode cX5_init 0 = .ok (.aload_n 0, 1) := dk_42 (dk_at dksX5_init_0 0 rfl rfl)
theorem dX5_init_1 : decode cX5_init 1 = .ok (.aload_n 1, 1) := dk_43 (dk_at dksX5_init_0 1 rfl rfl)
theorem dX5_init_2 : decode cX5_init 2 = .ok (.putfield 3, 3) := dk_181 0 3 (dk_at dksX5_init_0 2 rfl rfl)
theorem dX5_init_5 : decode cX5_init 5 = .ok (.aload_n 0, 1) := dk_42 (dk_at dksX5_init_0 5 rfl rfl)
theorem dX5_init_6 : decode cX5_init 6 = .ok (.invokespecial 9, 3) := dk_183 0 9 (dk_at dksX5_init_0 6 rfl rfl)
theorem dX5_init_9 : decode cX5_init 9 = .ok (.aload_n 0, 1) := dk_42 (dk_at dksX5_init_0 9 rfl rfl)
theorem dX5_init_10 : decode cX5_init 10 = .ok (.iload_n 2, 1) := dk_28 (dk_at dksX5_init_0 10 rfl rfl)
theorem dX5_init_11 : decode cX5_init 11 = .ok (.putfield 15, 3) := dk_181 0 15 (dk_at dksX5_init_0 11 rfl rfl)
theorem dX5_init_14 : decode cX5_init 14 = .ok (.return_, 1) := dk_177 (dk_at dksX5_init_0 14 rfl rfl)
abbrev cX5_begin : ByteArray := prog_17_method_2_code
def yX5_begin : MethodName := ⟨RX5, "begin", "()V"⟩
def dkwX5_begin_0 : List UInt8 := [42, 3, 181, 0, 19, 42, 182, 0, 22, 177]
abbrev dktX5_begin_0 : List UInt8 := dkwX5_begin_0 ++ []
theorem dksX5_begin_0 : cX5_begin.data.toList.drop 0 = dktX5_begin_0 := by decide +kernel
theorem dX5_begin_0 : decode cX5_begin 0 = .ok (.aload_n 0, 1) := dk_42 (dk_at dksX5_begin_0 0 rfl rfl)
theorem dX5_begin_1 : decode cX5_begin 1 = .ok (.iconst 0, 1) := dk_3 (dk_at dksX5_begin_0 1 rfl rfl)
theorem dX5_begin_2 : decode cX5_begin 2 = .ok (.putfield 19, 3) := dk_181 0 19 (dk_at dksX5_begin_0 2 rfl rfl)
theorem dX5_begin_5 : decode cX5_begin 5 = .ok (.aload_n 0, 1) := dk_42 (dk_at dksX5_begin_0 5 rfl rfl)
theorem dX5_begin_6 : decode cX5_begin 6 = .ok (.invokevirtual 22, 3) := dk_182 0 22 (dk_at dksX5_begin_0 6 rfl rfl)
theorem dX5_begin_9 : decode cX5_begin 9 = .ok (.return_, 1) := dk_177 (dk_at dksX5_begin_0 9 rfl rfl)
abbrev cX5_next : ByteArray := prog_17_method_6_code
def yX5_next : MethodName := ⟨RX5, "next", "()V"⟩
def dkwX5_next_7 : List UInt8 := [42, 27, 181, 0, 57, 42, 89, 180, 0, 19, 4, 96, 181, 0, 19, 177]
abbrev dktX5_next_7 : List UInt8 := dkwX5_next_7 ++ []
def dkwX5_next_6 : List UInt8 := [16, 41, 159, 0, 14, 27, 16, 60, 16, 62, 184, 0, 32, 153, 0, 7, 6, 167, 0, 4, 7, 181, 0, 43]
abbrev dktX5_next_6 : List UInt8 := dkwX5_next_6 ++ dktX5_next_7
def dkwX5_next_5 : List UInt8 := [182, 0, 46, 182, 0, 53, 167, 0, 56, 42, 27, 16, 59, 159, 0, 26, 27, 16, 40, 159, 0, 20, 27]
abbrev dktX5_next_5 : List UInt8 := dkwX5_next_5 ++ dktX5_next_6
def dkwX5_next_4 : List UInt8 := [167, 0, 84, 42, 27, 182, 0, 46, 154, 0, 11, 42, 27, 182, 0, 50, 153, 0, 15, 42, 42, 27]
abbrev dktX5_next_4 : List UInt8 := dkwX5_next_4 ++ dktX5_next_5
def dkwX5_next_3 : List UInt8 := [181, 0, 40, 42, 7, 181, 0, 43, 177, 42, 182, 0, 36, 60, 27, 156, 0, 11, 42, 3, 181, 0, 43]
abbrev dktX5_next_3 : List UInt8 := dkwX5_next_3 ++ dktX5_next_4
def dkwX5_next_2 : List UInt8 := [180, 0, 15, 164, 0, 28, 42, 180, 0, 19, 42, 180, 0, 15, 161, 0, 17, 42, 42, 180, 0, 15]
abbrev dktX5_next_2 : List UInt8 := dkwX5_next_2 ++ dktX5_next_3
def dkwX5_next_1 : List UInt8 := [96, 181, 0, 19, 167, 255, 228, 42, 42, 180, 0, 19, 181, 0, 40, 42, 180, 0, 3, 180, 0, 25, 42]
abbrev dktX5_next_1 : List UInt8 := dkwX5_next_1 ++ dktX5_next_2
def dkwX5_next_0 : List UInt8 := [42, 182, 0, 36, 16, 32, 159, 0, 12, 42, 182, 0, 36, 16, 10, 160, 0, 16, 42, 89, 180, 0, 19, 4]
abbrev dktX5_next_0 : List UInt8 := dkwX5_next_0 ++ dktX5_next_1
theorem dksX5_next_0 : cX5_next.data.toList.drop 0 = dktX5_next_0 := by decide +kernel
theorem dksX5_next_1 : cX5_next.data.toList.drop 24 = dktX5_next_1 := dk_seg dksX5_next_0 24 rfl rfl
theorem dksX5_next_2 : cX5_next.data.toList.drop 47 = dktX5_next_2 := dk_seg dksX5_next_1 23 rfl rfl
theorem dksX5_next_3 : cX5_next.data.toList.drop 69 = dktX5_next_3 := dk_seg dksX5_next_2 22 rfl rfl
theorem dksX5_next_4 : cX5_next.data.toList.drop 92 = dktX5_next_4 := dk_seg dksX5_next_3 23 rfl rfl
theorem dksX5_next_5 : cX5_next.data.toList.drop 114 = dktX5_next_5 := dk_seg dksX5_next_4 22 rfl rfl
theorem dksX5_next_6 : cX5_next.data.toList.drop 137 = dktX5_next_6 := dk_seg dksX5_next_5 23 rfl rfl
theorem dksX5_next_7 : cX5_next.data.toList.drop 161 = dktX5_next_7 := dk_seg dksX5_next_6 24 rfl rfl
theorem dX5_next_0 : decode cX5_next 0 = .ok (.aload_n 0, 1) := dk_42 (dk_at dksX5_next_0 0 rfl rfl)
theorem dX5_next_1 : decode cX5_next 1 = .ok (.invokevirtual 36, 3) := dk_182 0 36 (dk_at dksX5_next_0 1 rfl rfl)
theorem dX5_next_4 : decode cX5_next 4 = .ok (.bipush 32, 2) := dk_16 32 (dk_at dksX5_next_0 4 rfl rfl)
theorem dX5_next_6 : decode cX5_next 6 = .ok (.if_icmp .eq 12, 3) := dk_159 0 12 (dk_at dksX5_next_0 6 rfl rfl)
theorem dX5_next_9 : decode cX5_next 9 = .ok (.aload_n 0, 1) := dk_42 (dk_at dksX5_next_0 9 rfl rfl)
theorem dX5_next_10 : decode cX5_next 10 = .ok (.invokevirtual 36, 3) := dk_182 0 36 (dk_at dksX5_next_0 10 rfl rfl)
theorem dX5_next_13 : decode cX5_next 13 = .ok (.bipush 10, 2) := dk_16 10 (dk_at dksX5_next_0 13 rfl rfl)
theorem dX5_next_15 : decode cX5_next 15 = .ok (.if_icmp .ne 16, 3) := dk_160 0 16 (dk_at dksX5_next_0 15 rfl rfl)
theorem dX5_next_18 : decode cX5_next 18 = .ok (.aload_n 0, 1) := dk_42 (dk_at dksX5_next_0 18 rfl rfl)
theorem dX5_next_19 : decode cX5_next 19 = .ok (.dup, 1) := dk_89 (dk_at dksX5_next_0 19 rfl rfl)
theorem dX5_next_20 : decode cX5_next 20 = .ok (.getfield 19, 3) := dk_180 0 19 (dk_at dksX5_next_0 20 rfl rfl)
theorem dX5_next_23 : decode cX5_next 23 = .ok (.iconst 1, 1) := dk_4 (dk_at dksX5_next_0 23 rfl rfl)
theorem dX5_next_24 : decode cX5_next 24 = .ok (.iadd, 1) := dk_96 (dk_at dksX5_next_1 0 rfl rfl)
theorem dX5_next_25 : decode cX5_next 25 = .ok (.putfield 19, 3) := dk_181 0 19 (dk_at dksX5_next_1 1 rfl rfl)
theorem dX5_next_28 : decode cX5_next 28 = .ok (.goto (-28), 3) := dk_167 255 228 (dk_at dksX5_next_1 4 rfl rfl)
theorem dX5_next_31 : decode cX5_next 31 = .ok (.aload_n 0, 1) := dk_42 (dk_at dksX5_next_1 7 rfl rfl)
theorem dX5_next_32 : decode cX5_next 32 = .ok (.aload_n 0, 1) := dk_42 (dk_at dksX5_next_1 8 rfl rfl)
theorem dX5_next_33 : decode cX5_next 33 = .ok (.getfield 19, 3) := dk_180 0 19 (dk_at dksX5_next_1 9 rfl rfl)
theorem dX5_next_36 : decode cX5_next 36 = .ok (.putfield 40, 3) := dk_181 0 40 (dk_at dksX5_next_1 12 rfl rfl)
theorem dX5_next_39 : decode cX5_next 39 = .ok (.aload_n 0, 1) := dk_42 (dk_at dksX5_next_1 15 rfl rfl)
theorem dX5_next_40 : decode cX5_next 40 = .ok (.getfield 3, 3) := dk_180 0 3 (dk_at dksX5_next_1 16 rfl rfl)
theorem dX5_next_43 : decode cX5_next 43 = .ok (.getfield 25, 3) := dk_180 0 25 (dk_at dksX5_next_1 19 rfl rfl)
theorem dX5_next_46 : decode cX5_next 46 = .ok (.aload_n 0, 1) := dk_42 (dk_at dksX5_next_1 22 rfl rfl)
theorem dX5_next_47 : decode cX5_next 47 = .ok (.getfield 15, 3) := dk_180 0 15 (dk_at dksX5_next_2 0 rfl rfl)
theorem dX5_next_50 : decode cX5_next 50 = .ok (.if_icmp .le 28, 3) := dk_164 0 28 (dk_at dksX5_next_2 3 rfl rfl)
theorem dX5_next_53 : decode cX5_next 53 = .ok (.aload_n 0, 1) := dk_42 (dk_at dksX5_next_2 6 rfl rfl)
theorem dX5_next_54 : decode cX5_next 54 = .ok (.getfield 19, 3) := dk_180 0 19 (dk_at dksX5_next_2 7 rfl rfl)
theorem dX5_next_57 : decode cX5_next 57 = .ok (.aload_n 0, 1) := dk_42 (dk_at dksX5_next_2 10 rfl rfl)
theorem dX5_next_58 : decode cX5_next 58 = .ok (.getfield 15, 3) := dk_180 0 15 (dk_at dksX5_next_2 11 rfl rfl)
theorem dX5_next_61 : decode cX5_next 61 = .ok (.if_icmp .lt 17, 3) := dk_161 0 17 (dk_at dksX5_next_2 14 rfl rfl)
theorem dX5_next_64 : decode cX5_next 64 = .ok (.aload_n 0, 1) := dk_42 (dk_at dksX5_next_2 17 rfl rfl)
theorem dX5_next_65 : decode cX5_next 65 = .ok (.aload_n 0, 1) := dk_42 (dk_at dksX5_next_2 18 rfl rfl)
theorem dX5_next_66 : decode cX5_next 66 = .ok (.getfield 15, 3) := dk_180 0 15 (dk_at dksX5_next_2 19 rfl rfl)
theorem dX5_next_69 : decode cX5_next 69 = .ok (.putfield 40, 3) := dk_181 0 40 (dk_at dksX5_next_3 0 rfl rfl)
theorem dX5_next_72 : decode cX5_next 72 = .ok (.aload_n 0, 1) := dk_42 (dk_at dksX5_next_3 3 rfl rfl)
theorem dX5_next_73 : decode cX5_next 73 = .ok (.iconst 4, 1) := dk_7 (dk_at dksX5_next_3 4 rfl rfl)
theorem dX5_next_74 : decode cX5_next 74 = .ok (.putfield 43, 3) := dk_181 0 43 (dk_at dksX5_next_3 5 rfl rfl)
theorem dX5_next_77 : decode cX5_next 77 = .ok (.return_, 1) := dk_177 (dk_at dksX5_next_3 8 rfl rfl)
theorem dX5_next_78 : decode cX5_next 78 = .ok (.aload_n 0, 1) := dk_42 (dk_at dksX5_next_3 9 rfl rfl)
theorem dX5_next_79 : decode cX5_next 79 = .ok (.invokevirtual 36, 3) := dk_182 0 36 (dk_at dksX5_next_3 10 rfl rfl)
theorem dX5_next_82 : decode cX5_next 82 = .ok (.istore_n 1, 1) := dk_60 (dk_at dksX5_next_3 13 rfl rfl)
theorem dX5_next_83 : decode cX5_next 83 = .ok (.iload_n 1, 1) := dk_27 (dk_at dksX5_next_3 14 rfl rfl)
theorem dX5_next_84 : decode cX5_next 84 = .ok (.ifCond .ge 11, 3) := dk_156 0 11 (dk_at dksX5_next_3 15 rfl rfl)
theorem dX5_next_87 : decode cX5_next 87 = .ok (.aload_n 0, 1) := dk_42 (dk_at dksX5_next_3 18 rfl rfl)
theorem dX5_next_88 : decode cX5_next 88 = .ok (.iconst 0, 1) := dk_3 (dk_at dksX5_next_3 19 rfl rfl)
theorem dX5_next_89 : decode cX5_next 89 = .ok (.putfield 43, 3) := dk_181 0 43 (dk_at dksX5_next_3 20 rfl rfl)
theorem dX5_next_92 : decode cX5_next 92 = .ok (.goto 84, 3) := dk_167 0 84 (dk_at dksX5_next_4 0 rfl rfl)
theorem dX5_next_95 : decode cX5_next 95 = .ok (.aload_n 0, 1) := dk_42 (dk_at dksX5_next_4 3 rfl rfl)
theorem dX5_next_96 : decode cX5_next 96 = .ok (.iload_n 1, 1) := dk_27 (dk_at dksX5_next_4 4 rfl rfl)
theorem dX5_next_97 : decode cX5_next 97 = .ok (.invokevirtual 46, 3) := dk_182 0 46 (dk_at dksX5_next_4 5 rfl rfl)
theorem dX5_next_100 : decode cX5_next 100 = .ok (.ifCond .ne 11, 3) := dk_154 0 11 (dk_at dksX5_next_4 8 rfl rfl)
theorem dX5_next_103 : decode cX5_next 103 = .ok (.aload_n 0, 1) := dk_42 (dk_at dksX5_next_4 11 rfl rfl)
theorem dX5_next_104 : decode cX5_next 104 = .ok (.iload_n 1, 1) := dk_27 (dk_at dksX5_next_4 12 rfl rfl)
theorem dX5_next_105 : decode cX5_next 105 = .ok (.invokevirtual 50, 3) := dk_182 0 50 (dk_at dksX5_next_4 13 rfl rfl)
theorem dX5_next_108 : decode cX5_next 108 = .ok (.ifCond .eq 15, 3) := dk_153 0 15 (dk_at dksX5_next_4 16 rfl rfl)
theorem dX5_next_111 : decode cX5_next 111 = .ok (.aload_n 0, 1) := dk_42 (dk_at dksX5_next_4 19 rfl rfl)
theorem dX5_next_112 : decode cX5_next 112 = .ok (.aload_n 0, 1) := dk_42 (dk_at dksX5_next_4 20 rfl rfl)
theorem dX5_next_113 : decode cX5_next 113 = .ok (.iload_n 1, 1) := dk_27 (dk_at dksX5_next_4 21 rfl rfl)
theorem dX5_next_114 : decode cX5_next 114 = .ok (.invokevirtual 46, 3) := dk_182 0 46 (dk_at dksX5_next_5 0 rfl rfl)
theorem dX5_next_117 : decode cX5_next 117 = .ok (.invokevirtual 53, 3) := dk_182 0 53 (dk_at dksX5_next_5 3 rfl rfl)
theorem dX5_next_120 : decode cX5_next 120 = .ok (.goto 56, 3) := dk_167 0 56 (dk_at dksX5_next_5 6 rfl rfl)
theorem dX5_next_123 : decode cX5_next 123 = .ok (.aload_n 0, 1) := dk_42 (dk_at dksX5_next_5 9 rfl rfl)
theorem dX5_next_124 : decode cX5_next 124 = .ok (.iload_n 1, 1) := dk_27 (dk_at dksX5_next_5 10 rfl rfl)
theorem dX5_next_125 : decode cX5_next 125 = .ok (.bipush 59, 2) := dk_16 59 (dk_at dksX5_next_5 11 rfl rfl)
theorem dX5_next_127 : decode cX5_next 127 = .ok (.if_icmp .eq 26, 3) := dk_159 0 26 (dk_at dksX5_next_5 13 rfl rfl)
theorem dX5_next_130 : decode cX5_next 130 = .ok (.iload_n 1, 1) := dk_27 (dk_at dksX5_next_5 16 rfl rfl)
theorem dX5_next_131 : decode cX5_next 131 = .ok (.bipush 40, 2) := dk_16 40 (dk_at dksX5_next_5 17 rfl rfl)
theorem dX5_next_133 : decode cX5_next 133 = .ok (.if_icmp .eq 20, 3) := dk_159 0 20 (dk_at dksX5_next_5 19 rfl rfl)
theorem dX5_next_136 : decode cX5_next 136 = .ok (.iload_n 1, 1) := dk_27 (dk_at dksX5_next_5 22 rfl rfl)
theorem dX5_next_137 : decode cX5_next 137 = .ok (.bipush 41, 2) := dk_16 41 (dk_at dksX5_next_6 0 rfl rfl)
theorem dX5_next_139 : decode cX5_next 139 = .ok (.if_icmp .eq 14, 3) := dk_159 0 14 (dk_at dksX5_next_6 2 rfl rfl)
theorem dX5_next_142 : decode cX5_next 142 = .ok (.iload_n 1, 1) := dk_27 (dk_at dksX5_next_6 5 rfl rfl)
theorem dX5_next_143 : decode cX5_next 143 = .ok (.bipush 60, 2) := dk_16 60 (dk_at dksX5_next_6 6 rfl rfl)
theorem dX5_next_145 : decode cX5_next 145 = .ok (.bipush 62, 2) := dk_16 62 (dk_at dksX5_next_6 8 rfl rfl)
theorem dX5_next_147 : decode cX5_next 147 = .ok (.invokestatic 32, 3) := dk_184 0 32 (dk_at dksX5_next_6 10 rfl rfl)
theorem dX5_next_150 : decode cX5_next 150 = .ok (.ifCond .eq 7, 3) := dk_153 0 7 (dk_at dksX5_next_6 13 rfl rfl)
theorem dX5_next_153 : decode cX5_next 153 = .ok (.iconst 3, 1) := dk_6 (dk_at dksX5_next_6 16 rfl rfl)
theorem dX5_next_154 : decode cX5_next 154 = .ok (.goto 4, 3) := dk_167 0 4 (dk_at dksX5_next_6 17 rfl rfl)
theorem dX5_next_157 : decode cX5_next 157 = .ok (.iconst 4, 1) := dk_7 (dk_at dksX5_next_6 20 rfl rfl)
theorem dX5_next_158 : decode cX5_next 158 = .ok (.putfield 43, 3) := dk_181 0 43 (dk_at dksX5_next_6 21 rfl rfl)
theorem dX5_next_161 : decode cX5_next 161 = .ok (.aload_n 0, 1) := dk_42 (dk_at dksX5_next_7 0 rfl rfl)
theorem dX5_next_162 : decode cX5_next 162 = .ok (.iload_n 1, 1) := dk_27 (dk_at dksX5_next_7 1 rfl rfl)
theorem dX5_next_163 : decode cX5_next 163 = .ok (.putfield 57, 3) := dk_181 0 57 (dk_at dksX5_next_7 2 rfl rfl)
theorem dX5_next_166 : decode cX5_next 166 = .ok (.aload_n 0, 1) := dk_42 (dk_at dksX5_next_7 5 rfl rfl)
theorem dX5_next_167 : decode cX5_next 167 = .ok (.dup, 1) := dk_89 (dk_at dksX5_next_7 6 rfl rfl)
theorem dX5_next_168 : decode cX5_next 168 = .ok (.getfield 19, 3) := dk_180 0 19 (dk_at dksX5_next_7 7 rfl rfl)
theorem dX5_next_171 : decode cX5_next 171 = .ok (.iconst 1, 1) := dk_4 (dk_at dksX5_next_7 10 rfl rfl)
theorem dX5_next_172 : decode cX5_next 172 = .ok (.iadd, 1) := dk_96 (dk_at dksX5_next_7 11 rfl rfl)
theorem dX5_next_173 : decode cX5_next 173 = .ok (.putfield 19, 3) := dk_181 0 19 (dk_at dksX5_next_7 12 rfl rfl)
theorem dX5_next_176 : decode cX5_next 176 = .ok (.return_, 1) := dk_177 (dk_at dksX5_next_7 15 rfl rfl)
abbrev cX5_peek : ByteArray := prog_17_method_3_code
def yX5_peek : MethodName := ⟨RX5, "peek", "()I"⟩
def dkwX5_peek_1 : List UInt8 := [180, 0, 19, 51, 17, 0, 255, 126, 167, 0, 4, 2, 172]
abbrev dktX5_peek_1 : List UInt8 := dkwX5_peek_1 ++ []
def dkwX5_peek_0 : List UInt8 := [42, 180, 0, 19, 42, 180, 0, 3, 180, 0, 25, 162, 0, 22, 42, 180, 0, 3, 180, 0, 28, 42]
abbrev dktX5_peek_0 : List UInt8 := dkwX5_peek_0 ++ dktX5_peek_1
theorem dksX5_peek_0 : cX5_peek.data.toList.drop 0 = dktX5_peek_0 := by decide +kernel
theorem dksX5_peek_1 : cX5_peek.data.toList.drop 22 = dktX5_peek_1 := dk_seg dksX5_peek_0 22 rfl rfl
theorem dX5_peek_0 : decode cX5_peek 0 = .ok (.aload_n 0, 1) := dk_42 (dk_at dksX5_peek_0 0 rfl rfl)
theorem dX5_peek_1 : decode cX5_peek 1 = .ok (.getfield 19, 3) := dk_180 0 19 (dk_at dksX5_peek_0 1 rfl rfl)
theorem dX5_peek_4 : decode cX5_peek 4 = .ok (.aload_n 0, 1) := dk_42 (dk_at dksX5_peek_0 4 rfl rfl)
theorem dX5_peek_5 : decode cX5_peek 5 = .ok (.getfield 3, 3) := dk_180 0 3 (dk_at dksX5_peek_0 5 rfl rfl)
theorem dX5_peek_8 : decode cX5_peek 8 = .ok (.getfield 25, 3) := dk_180 0 25 (dk_at dksX5_peek_0 8 rfl rfl)
theorem dX5_peek_11 : decode cX5_peek 11 = .ok (.if_icmp .ge 22, 3) := dk_162 0 22 (dk_at dksX5_peek_0 11 rfl rfl)
theorem dX5_peek_14 : decode cX5_peek 14 = .ok (.aload_n 0, 1) := dk_42 (dk_at dksX5_peek_0 14 rfl rfl)
theorem dX5_peek_15 : decode cX5_peek 15 = .ok (.getfield 3, 3) := dk_180 0 3 (dk_at dksX5_peek_0 15 rfl rfl)
theorem dX5_peek_18 : decode cX5_peek 18 = .ok (.getfield 28, 3) := dk_180 0 28 (dk_at dksX5_peek_0 18 rfl rfl)
theorem dX5_peek_21 : decode cX5_peek 21 = .ok (.aload_n 0, 1) := dk_42 (dk_at dksX5_peek_0 21 rfl rfl)
theorem dX5_peek_22 : decode cX5_peek 22 = .ok (.getfield 19, 3) := dk_180 0 19 (dk_at dksX5_peek_1 0 rfl rfl)
theorem dX5_peek_25 : decode cX5_peek 25 = .ok (.baload, 1) := dk_51 (dk_at dksX5_peek_1 3 rfl rfl)
theorem dX5_peek_26 : decode cX5_peek 26 = .ok (.sipush 255, 3) := dk_17 0 255 (dk_at dksX5_peek_1 4 rfl rfl)
theorem dX5_peek_29 : decode cX5_peek 29 = .ok (.iand, 1) := dk_126 (dk_at dksX5_peek_1 7 rfl rfl)
theorem dX5_peek_30 : decode cX5_peek 30 = .ok (.goto 4, 3) := dk_167 0 4 (dk_at dksX5_peek_1 8 rfl rfl)
theorem dX5_peek_33 : decode cX5_peek 33 = .ok (.iconst (-1), 1) := dk_2 (dk_at dksX5_peek_1 11 rfl rfl)
theorem dX5_peek_34 : decode cX5_peek 34 = .ok (.ireturn, 1) := dk_172 (dk_at dksX5_peek_1 12 rfl rfl)
abbrev cX5_isLetter : ByteArray := prog_17_method_4_code
def yX5_isLetter : MethodName := ⟨RX5, "isLetter", "(I)Z"⟩
def dkwX5_isLetter_0 : List UInt8 := [27, 16, 97, 16, 122, 184, 0, 32, 172]
abbrev dktX5_isLetter_0 : List UInt8 := dkwX5_isLetter_0 ++ []
theorem dksX5_isLetter_0 : cX5_isLetter.data.toList.drop 0 = dktX5_isLetter_0 := by decide +kernel
theorem dX5_isLetter_0 : decode cX5_isLetter 0 = .ok (.iload_n 1, 1) := dk_27 (dk_at dksX5_isLetter_0 0 rfl rfl)
theorem dX5_isLetter_1 : decode cX5_isLetter 1 = .ok (.bipush 97, 2) := dk_16 97 (dk_at dksX5_isLetter_0 1 rfl rfl)
theorem dX5_isLetter_3 : decode cX5_isLetter 3 = .ok (.bipush 122, 2) := dk_16 122 (dk_at dksX5_isLetter_0 3 rfl rfl)
theorem dX5_isLetter_5 : decode cX5_isLetter 5 = .ok (.invokestatic 32, 3) := dk_184 0 32 (dk_at dksX5_isLetter_0 5 rfl rfl)
theorem dX5_isLetter_8 : decode cX5_isLetter 8 = .ok (.ireturn, 1) := dk_172 (dk_at dksX5_isLetter_0 8 rfl rfl)
abbrev cX5_isDigit : ByteArray := prog_17_method_5_code
def yX5_isDigit : MethodName := ⟨RX5, "isDigit", "(I)Z"⟩
def dkwX5_isDigit_0 : List UInt8 := [27, 16, 48, 16, 57, 184, 0, 32, 172]
abbrev dktX5_isDigit_0 : List UInt8 := dkwX5_isDigit_0 ++ []
theorem dksX5_isDigit_0 : cX5_isDigit.data.toList.drop 0 = dktX5_isDigit_0 := by decide +kernel
theorem dX5_isDigit_0 : decode cX5_isDigit 0 = .ok (.iload_n 1, 1) := dk_27 (dk_at dksX5_isDigit_0 0 rfl rfl)
theorem dX5_isDigit_1 : decode cX5_isDigit 1 = .ok (.bipush 48, 2) := dk_16 48 (dk_at dksX5_isDigit_0 1 rfl rfl)
theorem dX5_isDigit_3 : decode cX5_isDigit 3 = .ok (.bipush 57, 2) := dk_16 57 (dk_at dksX5_isDigit_0 3 rfl rfl)
theorem dX5_isDigit_5 : decode cX5_isDigit 5 = .ok (.invokestatic 32, 3) := dk_184 0 32 (dk_at dksX5_isDigit_0 5 rfl rfl)
theorem dX5_isDigit_8 : decode cX5_isDigit 8 = .ok (.ireturn, 1) := dk_172 (dk_at dksX5_isDigit_0 8 rfl rfl)
abbrev cX5_run : ByteArray := prog_17_method_7_code
def yX5_run : MethodName := ⟨RX5, "run", "(Z)V"⟩
def dkwX5_run_7 : List UInt8 := [164, 0, 7, 7, 167, 0, 12, 27, 153, 0, 7, 4, 167, 0, 4, 5, 181, 0, 43, 177]
abbrev dktX5_run_7 : List UInt8 := dkwX5_run_7 ++ []
def dkwX5_run_6 : List UInt8 := [181, 0, 64, 42, 28, 153, 0, 20, 42, 180, 0, 64, 27, 153, 0, 8, 16, 7, 167, 0, 4, 6]
abbrev dktX5_run_6 : List UInt8 := dkwX5_run_6 ++ dktX5_run_7
def dkwX5_run_5 : List UInt8 := [42, 89, 180, 0, 19, 4, 96, 181, 0, 19, 167, 255, 139, 42, 42, 180, 0, 19, 42, 180, 0, 40, 100]
abbrev dktX5_run_5 : List UInt8 := dkwX5_run_5 ++ dktX5_run_6
def dkwX5_run_4 : List UInt8 := [100, 6, 162, 0, 22, 42, 16, 10, 42, 180, 0, 57, 104, 42, 182, 0, 36, 96, 16, 48, 100, 181, 0, 57]
abbrev dktX5_run_4 : List UInt8 := dkwX5_run_4 ++ dktX5_run_5
def dkwX5_run_3 : List UInt8 := [42, 180, 0, 60, 16, 8, 121, 42, 182, 0, 36, 133, 129, 181, 0, 60, 42, 180, 0, 19, 42, 180, 0, 40]
abbrev dktX5_run_3 : List UInt8 := dkwX5_run_3 ++ dktX5_run_4
def dkwX5_run_2 : List UInt8 := [160, 0, 7, 4, 167, 0, 4, 3, 61, 42, 180, 0, 19, 42, 180, 0, 40, 100, 16, 7, 162, 0, 20, 42]
abbrev dktX5_run_2 : List UInt8 := dkwX5_run_2 ++ dktX5_run_3
def dkwX5_run_1 : List UInt8 := [42, 182, 0, 36, 182, 0, 50, 153, 0, 101, 28, 153, 0, 19, 42, 42, 182, 0, 36, 182, 0, 46, 27]
abbrev dktX5_run_1 : List UInt8 := dkwX5_run_1 ++ dktX5_run_2
def dkwX5_run_0 : List UInt8 := [4, 61, 42, 3, 181, 0, 57, 42, 9, 181, 0, 60, 42, 42, 182, 0, 36, 182, 0, 46, 154, 0, 14, 42]
abbrev dktX5_run_0 : List UInt8 := dkwX5_run_0 ++ dktX5_run_1
theorem dksX5_run_0 : cX5_run.data.toList.drop 0 = dktX5_run_0 := by decide +kernel
theorem dksX5_run_1 : cX5_run.data.toList.drop 24 = dktX5_run_1 := dk_seg dksX5_run_0 24 rfl rfl
theorem dksX5_run_2 : cX5_run.data.toList.drop 47 = dktX5_run_2 := dk_seg dksX5_run_1 23 rfl rfl
theorem dksX5_run_3 : cX5_run.data.toList.drop 71 = dktX5_run_3 := dk_seg dksX5_run_2 24 rfl rfl
theorem dksX5_run_4 : cX5_run.data.toList.drop 95 = dktX5_run_4 := dk_seg dksX5_run_3 24 rfl rfl
theorem dksX5_run_5 : cX5_run.data.toList.drop 119 = dktX5_run_5 := dk_seg dksX5_run_4 24 rfl rfl
theorem dksX5_run_6 : cX5_run.data.toList.drop 142 = dktX5_run_6 := dk_seg dksX5_run_5 23 rfl rfl
theorem dksX5_run_7 : cX5_run.data.toList.drop 164 = dktX5_run_7 := dk_seg dksX5_run_6 22 rfl rfl
theorem dX5_run_0 : decode cX5_run 0 = .ok (.iconst 1, 1) := dk_4 (dk_at dksX5_run_0 0 rfl rfl)
theorem dX5_run_1 : decode cX5_run 1 = .ok (.istore_n 2, 1) := dk_61 (dk_at dksX5_run_0 1 rfl rfl)
theorem dX5_run_2 : decode cX5_run 2 = .ok (.aload_n 0, 1) := dk_42 (dk_at dksX5_run_0 2 rfl rfl)
theorem dX5_run_3 : decode cX5_run 3 = .ok (.iconst 0, 1) := dk_3 (dk_at dksX5_run_0 3 rfl rfl)
theorem dX5_run_4 : decode cX5_run 4 = .ok (.putfield 57, 3) := dk_181 0 57 (dk_at dksX5_run_0 4 rfl rfl)
theorem dX5_run_7 : decode cX5_run 7 = .ok (.aload_n 0, 1) := dk_42 (dk_at dksX5_run_0 7 rfl rfl)
theorem dX5_run_8 : decode cX5_run 8 = .ok (.lconst 0, 1) := dk_9 (dk_at dksX5_run_0 8 rfl rfl)
theorem dX5_run_9 : decode cX5_run 9 = .ok (.putfield 60, 3) := dk_181 0 60 (dk_at dksX5_run_0 9 rfl rfl)
theorem dX5_run_12 : decode cX5_run 12 = .ok (.aload_n 0, 1) := dk_42 (dk_at dksX5_run_0 12 rfl rfl)
theorem dX5_run_13 : decode cX5_run 13 = .ok (.aload_n 0, 1) := dk_42 (dk_at dksX5_run_0 13 rfl rfl)
theorem dX5_run_14 : decode cX5_run 14 = .ok (.invokevirtual 36, 3) := dk_182 0 36 (dk_at dksX5_run_0 14 rfl rfl)
theorem dX5_run_17 : decode cX5_run 17 = .ok (.invokevirtual 46, 3) := dk_182 0 46 (dk_at dksX5_run_0 17 rfl rfl)
theorem dX5_run_20 : decode cX5_run 20 = .ok (.ifCond .ne 14, 3) := dk_154 0 14 (dk_at dksX5_run_0 20 rfl rfl)
theorem dX5_run_23 : decode cX5_run 23 = .ok (.aload_n 0, 1) := dk_42 (dk_at dksX5_run_0 23 rfl rfl)
theorem dX5_run_24 : decode cX5_run 24 = .ok (.aload_n 0, 1) := dk_42 (dk_at dksX5_run_1 0 rfl rfl)
theorem dX5_run_25 : decode cX5_run 25 = .ok (.invokevirtual 36, 3) := dk_182 0 36 (dk_at dksX5_run_1 1 rfl rfl)
theorem dX5_run_28 : decode cX5_run 28 = .ok (.invokevirtual 50, 3) := dk_182 0 50 (dk_at dksX5_run_1 4 rfl rfl)
theorem dX5_run_31 : decode cX5_run 31 = .ok (.ifCond .eq 101, 3) := dk_153 0 101 (dk_at dksX5_run_1 7 rfl rfl)
theorem dX5_run_34 : decode cX5_run 34 = .ok (.iload_n 2, 1) := dk_28 (dk_at dksX5_run_1 10 rfl rfl)
theorem dX5_run_35 : decode cX5_run 35 = .ok (.ifCond .eq 19, 3) := dk_153 0 19 (dk_at dksX5_run_1 11 rfl rfl)
theorem dX5_run_38 : decode cX5_run 38 = .ok (.aload_n 0, 1) := dk_42 (dk_at dksX5_run_1 14 rfl rfl)
theorem dX5_run_39 : decode cX5_run 39 = .ok (.aload_n 0, 1) := dk_42 (dk_at dksX5_run_1 15 rfl rfl)
theorem dX5_run_40 : decode cX5_run 40 = .ok (.invokevirtual 36, 3) := dk_182 0 36 (dk_at dksX5_run_1 16 rfl rfl)
theorem dX5_run_43 : decode cX5_run 43 = .ok (.invokevirtual 46, 3) := dk_182 0 46 (dk_at dksX5_run_1 19 rfl rfl)
theorem dX5_run_46 : decode cX5_run 46 = .ok (.iload_n 1, 1) := dk_27 (dk_at dksX5_run_1 22 rfl rfl)
theorem dX5_run_47 : decode cX5_run 47 = .ok (.if_icmp .ne 7, 3) := dk_160 0 7 (dk_at dksX5_run_2 0 rfl rfl)
theorem dX5_run_50 : decode cX5_run 50 = .ok (.iconst 1, 1) := dk_4 (dk_at dksX5_run_2 3 rfl rfl)
theorem dX5_run_51 : decode cX5_run 51 = .ok (.goto 4, 3) := dk_167 0 4 (dk_at dksX5_run_2 4 rfl rfl)
theorem dX5_run_54 : decode cX5_run 54 = .ok (.iconst 0, 1) := dk_3 (dk_at dksX5_run_2 7 rfl rfl)
theorem dX5_run_55 : decode cX5_run 55 = .ok (.istore_n 2, 1) := dk_61 (dk_at dksX5_run_2 8 rfl rfl)
theorem dX5_run_56 : decode cX5_run 56 = .ok (.aload_n 0, 1) := dk_42 (dk_at dksX5_run_2 9 rfl rfl)
theorem dX5_run_57 : decode cX5_run 57 = .ok (.getfield 19, 3) := dk_180 0 19 (dk_at dksX5_run_2 10 rfl rfl)
theorem dX5_run_60 : decode cX5_run 60 = .ok (.aload_n 0, 1) := dk_42 (dk_at dksX5_run_2 13 rfl rfl)
theorem dX5_run_61 : decode cX5_run 61 = .ok (.getfield 40, 3) := dk_180 0 40 (dk_at dksX5_run_2 14 rfl rfl)
theorem dX5_run_64 : decode cX5_run 64 = .ok (.isub, 1) := dk_100 (dk_at dksX5_run_2 17 rfl rfl)
theorem dX5_run_65 : decode cX5_run 65 = .ok (.bipush 7, 2) := dk_16 7 (dk_at dksX5_run_2 18 rfl rfl)
theorem dX5_run_67 : decode cX5_run 67 = .ok (.if_icmp .ge 20, 3) := dk_162 0 20 (dk_at dksX5_run_2 20 rfl rfl)
theorem dX5_run_70 : decode cX5_run 70 = .ok (.aload_n 0, 1) := dk_42 (dk_at dksX5_run_2 23 rfl rfl)
theorem dX5_run_71 : decode cX5_run 71 = .ok (.aload_n 0, 1) := dk_42 (dk_at dksX5_run_3 0 rfl rfl)
theorem dX5_run_72 : decode cX5_run 72 = .ok (.getfield 60, 3) := dk_180 0 60 (dk_at dksX5_run_3 1 rfl rfl)
theorem dX5_run_75 : decode cX5_run 75 = .ok (.bipush 8, 2) := dk_16 8 (dk_at dksX5_run_3 4 rfl rfl)
theorem dX5_run_77 : decode cX5_run 77 = .ok (.lshl, 1) := dk_121 (dk_at dksX5_run_3 6 rfl rfl)
theorem dX5_run_78 : decode cX5_run 78 = .ok (.aload_n 0, 1) := dk_42 (dk_at dksX5_run_3 7 rfl rfl)
theorem dX5_run_79 : decode cX5_run 79 = .ok (.invokevirtual 36, 3) := dk_182 0 36 (dk_at dksX5_run_3 8 rfl rfl)
theorem dX5_run_82 : decode cX5_run 82 = .ok (.i2l, 1) := dk_133 (dk_at dksX5_run_3 11 rfl rfl)
theorem dX5_run_83 : decode cX5_run 83 = .ok (.lor, 1) := dk_129 (dk_at dksX5_run_3 12 rfl rfl)
theorem dX5_run_84 : decode cX5_run 84 = .ok (.putfield 60, 3) := dk_181 0 60 (dk_at dksX5_run_3 13 rfl rfl)
theorem dX5_run_87 : decode cX5_run 87 = .ok (.aload_n 0, 1) := dk_42 (dk_at dksX5_run_3 16 rfl rfl)
theorem dX5_run_88 : decode cX5_run 88 = .ok (.getfield 19, 3) := dk_180 0 19 (dk_at dksX5_run_3 17 rfl rfl)
theorem dX5_run_91 : decode cX5_run 91 = .ok (.aload_n 0, 1) := dk_42 (dk_at dksX5_run_3 20 rfl rfl)
theorem dX5_run_92 : decode cX5_run 92 = .ok (.getfield 40, 3) := dk_180 0 40 (dk_at dksX5_run_3 21 rfl rfl)
theorem dX5_run_95 : decode cX5_run 95 = .ok (.isub, 1) := dk_100 (dk_at dksX5_run_4 0 rfl rfl)
theorem dX5_run_96 : decode cX5_run 96 = .ok (.iconst 3, 1) := dk_6 (dk_at dksX5_run_4 1 rfl rfl)
theorem dX5_run_97 : decode cX5_run 97 = .ok (.if_icmp .ge 22, 3) := dk_162 0 22 (dk_at dksX5_run_4 2 rfl rfl)
theorem dX5_run_100 : decode cX5_run 100 = .ok (.aload_n 0, 1) := dk_42 (dk_at dksX5_run_4 5 rfl rfl)
theorem dX5_run_101 : decode cX5_run 101 = .ok (.bipush 10, 2) := dk_16 10 (dk_at dksX5_run_4 6 rfl rfl)
theorem dX5_run_103 : decode cX5_run 103 = .ok (.aload_n 0, 1) := dk_42 (dk_at dksX5_run_4 8 rfl rfl)
theorem dX5_run_104 : decode cX5_run 104 = .ok (.getfield 57, 3) := dk_180 0 57 (dk_at dksX5_run_4 9 rfl rfl)
theorem dX5_run_107 : decode cX5_run 107 = .ok (.imul, 1) := dk_104 (dk_at dksX5_run_4 12 rfl rfl)
theorem dX5_run_108 : decode cX5_run 108 = .ok (.aload_n 0, 1) := dk_42 (dk_at dksX5_run_4 13 rfl rfl)
theorem dX5_run_109 : decode cX5_run 109 = .ok (.invokevirtual 36, 3) := dk_182 0 36 (dk_at dksX5_run_4 14 rfl rfl)
theorem dX5_run_112 : decode cX5_run 112 = .ok (.iadd, 1) := dk_96 (dk_at dksX5_run_4 17 rfl rfl)
theorem dX5_run_113 : decode cX5_run 113 = .ok (.bipush 48, 2) := dk_16 48 (dk_at dksX5_run_4 18 rfl rfl)
theorem dX5_run_115 : decode cX5_run 115 = .ok (.isub, 1) := dk_100 (dk_at dksX5_run_4 20 rfl rfl)
theorem dX5_run_116 : decode cX5_run 116 = .ok (.putfield 57, 3) := dk_181 0 57 (dk_at dksX5_run_4 21 rfl rfl)
theorem dX5_run_119 : decode cX5_run 119 = .ok (.aload_n 0, 1) := dk_42 (dk_at dksX5_run_5 0 rfl rfl)
theorem dX5_run_120 : decode cX5_run 120 = .ok (.dup, 1) := dk_89 (dk_at dksX5_run_5 1 rfl rfl)
theorem dX5_run_121 : decode cX5_run 121 = .ok (.getfield 19, 3) := dk_180 0 19 (dk_at dksX5_run_5 2 rfl rfl)
theorem dX5_run_124 : decode cX5_run 124 = .ok (.iconst 1, 1) := dk_4 (dk_at dksX5_run_5 5 rfl rfl)
theorem dX5_run_125 : decode cX5_run 125 = .ok (.iadd, 1) := dk_96 (dk_at dksX5_run_5 6 rfl rfl)
theorem dX5_run_126 : decode cX5_run 126 = .ok (.putfield 19, 3) := dk_181 0 19 (dk_at dksX5_run_5 7 rfl rfl)
theorem dX5_run_129 : decode cX5_run 129 = .ok (.goto (-117), 3) := dk_167 255 139 (dk_at dksX5_run_5 10 rfl rfl)
theorem dX5_run_132 : decode cX5_run 132 = .ok (.aload_n 0, 1) := dk_42 (dk_at dksX5_run_5 13 rfl rfl)
theorem dX5_run_133 : decode cX5_run 133 = .ok (.aload_n 0, 1) := dk_42 (dk_at dksX5_run_5 14 rfl rfl)
theorem dX5_run_134 : decode cX5_run 134 = .ok (.getfield 19, 3) := dk_180 0 19 (dk_at dksX5_run_5 15 rfl rfl)
theorem dX5_run_137 : decode cX5_run 137 = .ok (.aload_n 0, 1) := dk_42 (dk_at dksX5_run_5 18 rfl rfl)
theorem dX5_run_138 : decode cX5_run 138 = .ok (.getfield 40, 3) := dk_180 0 40 (dk_at dksX5_run_5 19 rfl rfl)
theorem dX5_run_141 : decode cX5_run 141 = .ok (.isub, 1) := dk_100 (dk_at dksX5_run_5 22 rfl rfl)
theorem dX5_run_142 : decode cX5_run 142 = .ok (.putfield 64, 3) := dk_181 0 64 (dk_at dksX5_run_6 0 rfl rfl)
theorem dX5_run_145 : decode cX5_run 145 = .ok (.aload_n 0, 1) := dk_42 (dk_at dksX5_run_6 3 rfl rfl)
theorem dX5_run_146 : decode cX5_run 146 = .ok (.iload_n 2, 1) := dk_28 (dk_at dksX5_run_6 4 rfl rfl)
theorem dX5_run_147 : decode cX5_run 147 = .ok (.ifCond .eq 20, 3) := dk_153 0 20 (dk_at dksX5_run_6 5 rfl rfl)
theorem dX5_run_150 : decode cX5_run 150 = .ok (.aload_n 0, 1) := dk_42 (dk_at dksX5_run_6 8 rfl rfl)
theorem dX5_run_151 : decode cX5_run 151 = .ok (.getfield 64, 3) := dk_180 0 64 (dk_at dksX5_run_6 9 rfl rfl)
theorem dX5_run_154 : decode cX5_run 154 = .ok (.iload_n 1, 1) := dk_27 (dk_at dksX5_run_6 12 rfl rfl)
theorem dX5_run_155 : decode cX5_run 155 = .ok (.ifCond .eq 8, 3) := dk_153 0 8 (dk_at dksX5_run_6 13 rfl rfl)
theorem dX5_run_158 : decode cX5_run 158 = .ok (.bipush 7, 2) := dk_16 7 (dk_at dksX5_run_6 16 rfl rfl)
theorem dX5_run_160 : decode cX5_run 160 = .ok (.goto 4, 3) := dk_167 0 4 (dk_at dksX5_run_6 18 rfl rfl)
theorem dX5_run_163 : decode cX5_run 163 = .ok (.iconst 3, 1) := dk_6 (dk_at dksX5_run_6 21 rfl rfl)
theorem dX5_run_164 : decode cX5_run 164 = .ok (.if_icmp .le 7, 3) := dk_164 0 7 (dk_at dksX5_run_7 0 rfl rfl)
theorem dX5_run_167 : decode cX5_run 167 = .ok (.iconst 4, 1) := dk_7 (dk_at dksX5_run_7 3 rfl rfl)
theorem dX5_run_168 : decode cX5_run 168 = .ok (.goto 12, 3) := dk_167 0 12 (dk_at dksX5_run_7 4 rfl rfl)
theorem dX5_run_171 : decode cX5_run 171 = .ok (.iload_n 1, 1) := dk_27 (dk_at dksX5_run_7 7 rfl rfl)
theorem dX5_run_172 : decode cX5_run 172 = .ok (.ifCond .eq 7, 3) := dk_153 0 7 (dk_at dksX5_run_7 8 rfl rfl)
theorem dX5_run_175 : decode cX5_run 175 = .ok (.iconst 1, 1) := dk_4 (dk_at dksX5_run_7 11 rfl rfl)
theorem dX5_run_176 : decode cX5_run 176 = .ok (.goto 4, 3) := dk_167 0 4 (dk_at dksX5_run_7 12 rfl rfl)
theorem dX5_run_179 : decode cX5_run 179 = .ok (.iconst 2, 1) := dk_5 (dk_at dksX5_run_7 15 rfl rfl)
theorem dX5_run_180 : decode cX5_run 180 = .ok (.putfield 43, 3) := dk_181 0 43 (dk_at dksX5_run_7 16 rfl rfl)
theorem dX5_run_183 : decode cX5_run 183 = .ok (.return_, 1) := dk_177 (dk_at dksX5_run_7 19 rfl rfl)
abbrev cX5_find : ByteArray := prog_17_method_10_code
def yX5_find : MethodName := ⟨RX5, "find", "([Ljava/lang/String;)I"⟩
def dkwX5_find_1 : List UInt8 := [167, 255, 235, 2, 172]
abbrev dktX5_find_1 : List UInt8 := dkwX5_find_1 ++ []
def dkwX5_find_0 : List UInt8 := [3, 61, 28, 43, 190, 162, 0, 21, 42, 43, 28, 50, 182, 0, 76, 153, 0, 5, 28, 172, 132, 2, 1]
abbrev dktX5_find_0 : List UInt8 := dkwX5_find_0 ++ dktX5_find_1
theorem dksX5_find_0 : cX5_find.data.toList.drop 0 = dktX5_find_0 := by decide +kernel
theorem dksX5_find_1 : cX5_find.data.toList.drop 23 = dktX5_find_1 := dk_seg dksX5_find_0 23 rfl rfl
theorem dX5_find_0 : decode cX5_find 0 = .ok (.iconst 0, 1) := dk_3 (dk_at dksX5_find_0 0 rfl rfl)
theorem dX5_find_1 : decode cX5_find 1 = .ok (.istore_n 2, 1) := dk_61 (dk_at dksX5_find_0 1 rfl rfl)
theorem dX5_find_2 : decode cX5_find 2 = .ok (.iload_n 2, 1) := dk_28 (dk_at dksX5_find_0 2 rfl rfl)
theorem dX5_find_3 : decode cX5_find 3 = .ok (.aload_n 1, 1) := dk_43 (dk_at dksX5_find_0 3 rfl rfl)
theorem dX5_find_4 : decode cX5_find 4 = .ok (.arraylength, 1) := dk_190 (dk_at dksX5_find_0 4 rfl rfl)
theorem dX5_find_5 : decode cX5_find 5 = .ok (.if_icmp .ge 21, 3) := dk_162 0 21 (dk_at dksX5_find_0 5 rfl rfl)
theorem dX5_find_8 : decode cX5_find 8 = .ok (.aload_n 0, 1) := dk_42 (dk_at dksX5_find_0 8 rfl rfl)
theorem dX5_find_9 : decode cX5_find 9 = .ok (.aload_n 1, 1) := dk_43 (dk_at dksX5_find_0 9 rfl rfl)
theorem dX5_find_10 : decode cX5_find 10 = .ok (.iload_n 2, 1) := dk_28 (dk_at dksX5_find_0 10 rfl rfl)
theorem dX5_find_11 : decode cX5_find 11 = .ok (.aaload, 1) := dk_50 (dk_at dksX5_find_0 11 rfl rfl)
theorem dX5_find_12 : decode cX5_find 12 = .ok (.invokevirtual 76, 3) := dk_182 0 76 (dk_at dksX5_find_0 12 rfl rfl)
theorem dX5_find_15 : decode cX5_find 15 = .ok (.ifCond .eq 5, 3) := dk_153 0 5 (dk_at dksX5_find_0 15 rfl rfl)
theorem dX5_find_18 : decode cX5_find 18 = .ok (.iload_n 2, 1) := dk_28 (dk_at dksX5_find_0 18 rfl rfl)
theorem dX5_find_19 : decode cX5_find 19 = .ok (.ireturn, 1) := dk_172 (dk_at dksX5_find_0 19 rfl rfl)
theorem dX5_find_20 : decode cX5_find 20 = .ok (.iinc 2 1, 3) := dk_132 2 1 (dk_at dksX5_find_0 20 rfl rfl)
theorem dX5_find_23 : decode cX5_find 23 = .ok (.goto (-21), 3) := dk_167 255 235 (dk_at dksX5_find_1 0 rfl rfl)
theorem dX5_find_26 : decode cX5_find 26 = .ok (.iconst (-1), 1) := dk_2 (dk_at dksX5_find_1 3 rfl rfl)
theorem dX5_find_27 : decode cX5_find 27 = .ok (.ireturn, 1) := dk_172 (dk_at dksX5_find_1 4 rfl rfl)
abbrev cX5_is : ByteArray := prog_17_method_8_code
def yX5_is : MethodName := ⟨RX5, "is", "(Ljava/lang/String;)Z"⟩
def dkwX5_is_2 : List UInt8 := [182, 0, 72, 159, 0, 5, 3, 172, 132, 2, 1, 167, 255, 221, 4, 172]
abbrev dktX5_is_2 : List UInt8 := dkwX5_is_2 ++ []
def dkwX5_is_1 : List UInt8 := [42, 180, 0, 64, 162, 0, 33, 42, 180, 0, 3, 180, 0, 28, 42, 180, 0, 40, 28, 96, 51, 43, 28]
abbrev dktX5_is_1 : List UInt8 := dkwX5_is_1 ++ dktX5_is_2
def dkwX5_is_0 : List UInt8 := [42, 180, 0, 43, 4, 160, 0, 14, 42, 180, 0, 64, 43, 182, 0, 67, 159, 0, 5, 3, 172, 3, 61, 28]
abbrev dktX5_is_0 : List UInt8 := dkwX5_is_0 ++ dktX5_is_1
theorem dksX5_is_0 : cX5_is.data.toList.drop 0 = dktX5_is_0 := by decide +kernel
theorem dksX5_is_1 : cX5_is.data.toList.drop 24 = dktX5_is_1 := dk_seg dksX5_is_0 24 rfl rfl
theorem dksX5_is_2 : cX5_is.data.toList.drop 47 = dktX5_is_2 := dk_seg dksX5_is_1 23 rfl rfl
theorem dX5_is_0 : decode cX5_is 0 = .ok (.aload_n 0, 1) := dk_42 (dk_at dksX5_is_0 0 rfl rfl)
theorem dX5_is_1 : decode cX5_is 1 = .ok (.getfield 43, 3) := dk_180 0 43 (dk_at dksX5_is_0 1 rfl rfl)
theorem dX5_is_4 : decode cX5_is 4 = .ok (.iconst 1, 1) := dk_4 (dk_at dksX5_is_0 4 rfl rfl)
theorem dX5_is_5 : decode cX5_is 5 = .ok (.if_icmp .ne 14, 3) := dk_160 0 14 (dk_at dksX5_is_0 5 rfl rfl)
theorem dX5_is_8 : decode cX5_is 8 = .ok (.aload_n 0, 1) := dk_42 (dk_at dksX5_is_0 8 rfl rfl)
theorem dX5_is_9 : decode cX5_is 9 = .ok (.getfield 64, 3) := dk_180 0 64 (dk_at dksX5_is_0 9 rfl rfl)
theorem dX5_is_12 : decode cX5_is 12 = .ok (.aload_n 1, 1) := dk_43 (dk_at dksX5_is_0 12 rfl rfl)
theorem dX5_is_13 : decode cX5_is 13 = .ok (.invokevirtual 67, 3) := dk_182 0 67 (dk_at dksX5_is_0 13 rfl rfl)
theorem dX5_is_16 : decode cX5_is 16 = .ok (.if_icmp .eq 5, 3) := dk_159 0 5 (dk_at dksX5_is_0 16 rfl rfl)
theorem dX5_is_19 : decode cX5_is 19 = .ok (.iconst 0, 1) := dk_3 (dk_at dksX5_is_0 19 rfl rfl)
theorem dX5_is_20 : decode cX5_is 20 = .ok (.ireturn, 1) := dk_172 (dk_at dksX5_is_0 20 rfl rfl)
theorem dX5_is_21 : decode cX5_is 21 = .ok (.iconst 0, 1) := dk_3 (dk_at dksX5_is_0 21 rfl rfl)
theorem dX5_is_22 : decode cX5_is 22 = .ok (.istore_n 2, 1) := dk_61 (dk_at dksX5_is_0 22 rfl rfl)
theorem dX5_is_23 : decode cX5_is 23 = .ok (.iload_n 2, 1) := dk_28 (dk_at dksX5_is_0 23 rfl rfl)
theorem dX5_is_24 : decode cX5_is 24 = .ok (.aload_n 0, 1) := dk_42 (dk_at dksX5_is_1 0 rfl rfl)
theorem dX5_is_25 : decode cX5_is 25 = .ok (.getfield 64, 3) := dk_180 0 64 (dk_at dksX5_is_1 1 rfl rfl)
theorem dX5_is_28 : decode cX5_is 28 = .ok (.if_icmp .ge 33, 3) := dk_162 0 33 (dk_at dksX5_is_1 4 rfl rfl)
theorem dX5_is_31 : decode cX5_is 31 = .ok (.aload_n 0, 1) := dk_42 (dk_at dksX5_is_1 7 rfl rfl)
theorem dX5_is_32 : decode cX5_is 32 = .ok (.getfield 3, 3) := dk_180 0 3 (dk_at dksX5_is_1 8 rfl rfl)
theorem dX5_is_35 : decode cX5_is 35 = .ok (.getfield 28, 3) := dk_180 0 28 (dk_at dksX5_is_1 11 rfl rfl)
theorem dX5_is_38 : decode cX5_is 38 = .ok (.aload_n 0, 1) := dk_42 (dk_at dksX5_is_1 14 rfl rfl)
theorem dX5_is_39 : decode cX5_is 39 = .ok (.getfield 40, 3) := dk_180 0 40 (dk_at dksX5_is_1 15 rfl rfl)
theorem dX5_is_42 : decode cX5_is 42 = .ok (.iload_n 2, 1) := dk_28 (dk_at dksX5_is_1 18 rfl rfl)
theorem dX5_is_43 : decode cX5_is 43 = .ok (.iadd, 1) := dk_96 (dk_at dksX5_is_1 19 rfl rfl)
theorem dX5_is_44 : decode cX5_is 44 = .ok (.baload, 1) := dk_51 (dk_at dksX5_is_1 20 rfl rfl)
theorem dX5_is_45 : decode cX5_is 45 = .ok (.aload_n 1, 1) := dk_43 (dk_at dksX5_is_1 21 rfl rfl)
theorem dX5_is_46 : decode cX5_is 46 = .ok (.iload_n 2, 1) := dk_28 (dk_at dksX5_is_1 22 rfl rfl)
theorem dX5_is_47 : decode cX5_is 47 = .ok (.invokevirtual 72, 3) := dk_182 0 72 (dk_at dksX5_is_2 0 rfl rfl)
theorem dX5_is_50 : decode cX5_is 50 = .ok (.if_icmp .eq 5, 3) := dk_159 0 5 (dk_at dksX5_is_2 3 rfl rfl)
theorem dX5_is_53 : decode cX5_is 53 = .ok (.iconst 0, 1) := dk_3 (dk_at dksX5_is_2 6 rfl rfl)
theorem dX5_is_54 : decode cX5_is 54 = .ok (.ireturn, 1) := dk_172 (dk_at dksX5_is_2 7 rfl rfl)
theorem dX5_is_55 : decode cX5_is 55 = .ok (.iinc 2 1, 3) := dk_132 2 1 (dk_at dksX5_is_2 8 rfl rfl)
theorem dX5_is_58 : decode cX5_is 58 = .ok (.goto (-35), 3) := dk_167 255 221 (dk_at dksX5_is_2 11 rfl rfl)
theorem dX5_is_61 : decode cX5_is 61 = .ok (.iconst 1, 1) := dk_4 (dk_at dksX5_is_2 14 rfl rfl)
theorem dX5_is_62 : decode cX5_is 62 = .ok (.ireturn, 1) := dk_172 (dk_at dksX5_is_2 15 rfl rfl)
abbrev cX5_must : ByteArray := prog_17_method_13_code
def yX5_must : MethodName := ⟨RX5, "must", "(ZI)V"⟩
def dkwX5_must_0 : List UInt8 := [27, 154, 0, 9, 42, 28, 182, 0, 103, 191, 177]
abbrev dktX5_must_0 : List UInt8 := dkwX5_must_0 ++ []
theorem dksX5_must_0 : cX5_must.data.toList.drop 0 = dktX5_must_0 := by decide +kernel
theorem dX5_must_0 : decode cX5_must 0 = .ok (.iload_n 1, 1) := dk_27 (dk_at dksX5_must_0 0 rfl rfl)
theorem dX5_must_1 : decode cX5_must 1 = .ok (.ifCond .ne 9, 3) := dk_154 0 9 (dk_at dksX5_must_0 1 rfl rfl)
theorem dX5_must_4 : decode cX5_must 4 = .ok (.aload_n 0, 1) := dk_42 (dk_at dksX5_must_0 4 rfl rfl)
theorem dX5_must_5 : decode cX5_must 5 = .ok (.iload_n 2, 1) := dk_28 (dk_at dksX5_must_0 5 rfl rfl)
theorem dX5_must_6 : decode cX5_must 6 = .ok (.invokevirtual 103, 3) := dk_182 0 103 (dk_at dksX5_must_0 6 rfl rfl)
theorem dX5_must_9 : decode cX5_must 9 = .ok (.athrow, 1) := dk_191 (dk_at dksX5_must_0 9 rfl rfl)
theorem dX5_must_10 : decode cX5_must 10 = .ok (.return_, 1) := dk_177 (dk_at dksX5_must_0 10 rfl rfl)
abbrev cX5_wrong : ByteArray := prog_17_method_12_code
def yX5_wrong : MethodName := ⟨RX5, "wrong", "(I)LParlourLeaves$Fault;"⟩
def dkwX5_wrong_1 : List UInt8 := [181, 0, 100, 42, 180, 0, 3, 180, 0, 91, 176]
abbrev dktX5_wrong_1 : List UInt8 := dkwX5_wrong_1 ++ []
def dkwX5_wrong_0 : List UInt8 := [42, 180, 0, 3, 180, 0, 91, 27, 181, 0, 95, 42, 180, 0, 3, 180, 0, 91, 42, 180, 0, 40]
abbrev dktX5_wrong_0 : List UInt8 := dkwX5_wrong_0 ++ dktX5_wrong_1
theorem dksX5_wrong_0 : cX5_wrong.data.toList.drop 0 = dktX5_wrong_0 := by decide +kernel
theorem dksX5_wrong_1 : cX5_wrong.data.toList.drop 22 = dktX5_wrong_1 := dk_seg dksX5_wrong_0 22 rfl rfl
theorem dX5_wrong_0 : decode cX5_wrong 0 = .ok (.aload_n 0, 1) := dk_42 (dk_at dksX5_wrong_0 0 rfl rfl)
theorem dX5_wrong_1 : decode cX5_wrong 1 = .ok (.getfield 3, 3) := dk_180 0 3 (dk_at dksX5_wrong_0 1 rfl rfl)
theorem dX5_wrong_4 : decode cX5_wrong 4 = .ok (.getfield 91, 3) := dk_180 0 91 (dk_at dksX5_wrong_0 4 rfl rfl)
theorem dX5_wrong_7 : decode cX5_wrong 7 = .ok (.iload_n 1, 1) := dk_27 (dk_at dksX5_wrong_0 7 rfl rfl)
theorem dX5_wrong_8 : decode cX5_wrong 8 = .ok (.putfield 95, 3) := dk_181 0 95 (dk_at dksX5_wrong_0 8 rfl rfl)
theorem dX5_wrong_11 : decode cX5_wrong 11 = .ok (.aload_n 0, 1) := dk_42 (dk_at dksX5_wrong_0 11 rfl rfl)
theorem dX5_wrong_12 : decode cX5_wrong 12 = .ok (.getfield 3, 3) := dk_180 0 3 (dk_at dksX5_wrong_0 12 rfl rfl)
theorem dX5_wrong_15 : decode cX5_wrong 15 = .ok (.getfield 91, 3) := dk_180 0 91 (dk_at dksX5_wrong_0 15 rfl rfl)
theorem dX5_wrong_18 : decode cX5_wrong 18 = .ok (.aload_n 0, 1) := dk_42 (dk_at dksX5_wrong_0 18 rfl rfl)
theorem dX5_wrong_19 : decode cX5_wrong 19 = .ok (.getfield 40, 3) := dk_180 0 40 (dk_at dksX5_wrong_0 19 rfl rfl)
theorem dX5_wrong_22 : decode cX5_wrong 22 = .ok (.putfield 100, 3) := dk_181 0 100 (dk_at dksX5_wrong_1 0 rfl rfl)
theorem dX5_wrong_25 : decode cX5_wrong 25 = .ok (.aload_n 0, 1) := dk_42 (dk_at dksX5_wrong_1 3 rfl rfl)
theorem dX5_wrong_26 : decode cX5_wrong 26 = .ok (.getfield 3, 3) := dk_180 0 3 (dk_at dksX5_wrong_1 4 rfl rfl)
theorem dX5_wrong_29 : decode cX5_wrong 29 = .ok (.getfield 91, 3) := dk_180 0 91 (dk_at dksX5_wrong_1 7 rfl rfl)
theorem dX5_wrong_32 : decode cX5_wrong 32 = .ok (.areturn, 1) := dk_176 (dk_at dksX5_wrong_1 10 rfl rfl)
abbrev cX5_isName : ByteArray := prog_17_method_11_code
def yX5_isName : MethodName := ⟨RX5, "isName", "()Z"⟩
def dkwX5_isName_1 : List UInt8 := [42, 180, 0, 3, 180, 0, 88, 182, 0, 84, 2, 160, 0, 7, 4, 167, 0, 4, 3, 172]
abbrev dktX5_isName_1 : List UInt8 := dkwX5_isName_1 ++ []
def dkwX5_isName_0 : List UInt8 := [42, 180, 0, 43, 4, 160, 0, 37, 42, 42, 180, 0, 3, 180, 0, 80, 182, 0, 84, 2, 160, 0, 22, 42]
abbrev dktX5_isName_0 : List UInt8 := dkwX5_isName_0 ++ dktX5_isName_1
theorem dksX5_isName_0 : cX5_isName.data.toList.drop 0 = dktX5_isName_0 := by decide +kernel
theorem dksX5_isName_1 : cX5_isName.data.toList.drop 24 = dktX5_isName_1 := dk_seg dksX5_isName_0 24 rfl rfl
theorem dX5_isName_0 : decode cX5_isName 0 = .ok (.aload_n 0, 1) := dk_42 (dk_at dksX5_isName_0 0 rfl rfl)
theorem dX5_isName_1 : decode cX5_isName 1 = .ok (.getfield 43, 3) := dk_180 0 43 (dk_at dksX5_isName_0 1 rfl rfl)
theorem dX5_isName_4 : decode cX5_isName 4 = .ok (.iconst 1, 1) := dk_4 (dk_at dksX5_isName_0 4 rfl rfl)
theorem dX5_isName_5 : decode cX5_isName 5 = .ok (.if_icmp .ne 37, 3) := dk_160 0 37 (dk_at dksX5_isName_0 5 rfl rfl)
theorem dX5_isName_8 : decode cX5_isName 8 = .ok (.aload_n 0, 1) := dk_42 (dk_at dksX5_isName_0 8 rfl rfl)
theorem dX5_isName_9 : decode cX5_isName 9 = .ok (.aload_n 0, 1) := dk_42 (dk_at dksX5_isName_0 9 rfl rfl)
theorem dX5_isName_10 : decode cX5_isName 10 = .ok (.getfield 3, 3) := dk_180 0 3 (dk_at dksX5_isName_0 10 rfl rfl)
theorem dX5_isName_13 : decode cX5_isName 13 = .ok (.getfield 80, 3) := dk_180 0 80 (dk_at dksX5_isName_0 13 rfl rfl)
theorem dX5_isName_16 : decode cX5_isName 16 = .ok (.invokevirtual 84, 3) := dk_182 0 84 (dk_at dksX5_isName_0 16 rfl rfl)
theorem dX5_isName_19 : decode cX5_isName 19 = .ok (.iconst (-1), 1) := dk_2 (dk_at dksX5_isName_0 19 rfl rfl)
theorem dX5_isName_20 : decode cX5_isName 20 = .ok (.if_icmp .ne 22, 3) := dk_160 0 22 (dk_at dksX5_isName_0 20 rfl rfl)
theorem dX5_isName_23 : decode cX5_isName 23 = .ok (.aload_n 0, 1) := dk_42 (dk_at dksX5_isName_0 23 rfl rfl)
theorem dX5_isName_24 : decode cX5_isName 24 = .ok (.aload_n 0, 1) := dk_42 (dk_at dksX5_isName_1 0 rfl rfl)
theorem dX5_isName_25 : decode cX5_isName 25 = .ok (.getfield 3, 3) := dk_180 0 3 (dk_at dksX5_isName_1 1 rfl rfl)
theorem dX5_isName_28 : decode cX5_isName 28 = .ok (.getfield 88, 3) := dk_180 0 88 (dk_at dksX5_isName_1 4 rfl rfl)
theorem dX5_isName_31 : decode cX5_isName 31 = .ok (.invokevirtual 84, 3) := dk_182 0 84 (dk_at dksX5_isName_1 7 rfl rfl)
theorem dX5_isName_34 : decode cX5_isName 34 = .ok (.iconst (-1), 1) := dk_2 (dk_at dksX5_isName_1 10 rfl rfl)
theorem dX5_isName_35 : decode cX5_isName 35 = .ok (.if_icmp .ne 7, 3) := dk_160 0 7 (dk_at dksX5_isName_1 11 rfl rfl)
theorem dX5_isName_38 : decode cX5_isName 38 = .ok (.iconst 1, 1) := dk_4 (dk_at dksX5_isName_1 14 rfl rfl)
theorem dX5_isName_39 : decode cX5_isName 39 = .ok (.goto 4, 3) := dk_167 0 4 (dk_at dksX5_isName_1 15 rfl rfl)
theorem dX5_isName_42 : decode cX5_isName 42 = .ok (.iconst 0, 1) := dk_3 (dk_at dksX5_isName_1 18 rfl rfl)
theorem dX5_isName_43 : decode cX5_isName 43 = .ok (.ireturn, 1) := dk_172 (dk_at dksX5_isName_1 19 rfl rfl)
abbrev cX5_of : ByteArray := prog_17_method_16_code
def yX5_of : MethodName := ⟨RX5, "of", "([JI)I"⟩
def dkwX5_of_1 : List UInt8 := [167, 255, 235, 2, 172]
abbrev dktX5_of_1 : List UInt8 := dkwX5_of_1 ++ []
def dkwX5_of_0 : List UInt8 := [3, 62, 29, 28, 162, 0, 22, 43, 29, 47, 42, 180, 0, 60, 148, 154, 0, 5, 29, 172, 132, 3, 1]
abbrev dktX5_of_0 : List UInt8 := dkwX5_of_0 ++ dktX5_of_1
theorem dksX5_of_0 : cX5_of.data.toList.drop 0 = dktX5_of_0 := by decide +kernel
theorem dksX5_of_1 : cX5_of.data.toList.drop 23 = dktX5_of_1 := dk_seg dksX5_of_0 23 rfl rfl
theorem dX5_of_0 : decode cX5_of 0 = .ok (.iconst 0, 1) := dk_3 (dk_at dksX5_of_0 0 rfl rfl)
theorem dX5_of_1 : decode cX5_of 1 = .ok (.istore_n 3, 1) := dk_62 (dk_at dksX5_of_0 1 rfl rfl)
theorem dX5_of_2 : decode cX5_of 2 = .ok (.iload_n 3, 1) := dk_29 (dk_at dksX5_of_0 2 rfl rfl)
theorem dX5_of_3 : decode cX5_of 3 = .ok (.iload_n 2, 1) := dk_28 (dk_at dksX5_of_0 3 rfl rfl)
theorem dX5_of_4 : decode cX5_of 4 = .ok (.if_icmp .ge 22, 3) := dk_162 0 22 (dk_at dksX5_of_0 4 rfl rfl)
theorem dX5_of_7 : decode cX5_of 7 = .ok (.aload_n 1, 1) := dk_43 (dk_at dksX5_of_0 7 rfl rfl)
theorem dX5_of_8 : decode cX5_of 8 = .ok (.iload_n 3, 1) := dk_29 (dk_at dksX5_of_0 8 rfl rfl)
theorem dX5_of_9 : decode cX5_of 9 = .ok (.laload, 1) := dk_47 (dk_at dksX5_of_0 9 rfl rfl)
theorem dX5_of_10 : decode cX5_of 10 = .ok (.aload_n 0, 1) := dk_42 (dk_at dksX5_of_0 10 rfl rfl)
theorem dX5_of_11 : decode cX5_of 11 = .ok (.getfield 60, 3) := dk_180 0 60 (dk_at dksX5_of_0 11 rfl rfl)
theorem dX5_of_14 : decode cX5_of 14 = .ok (.lcmp, 1) := dk_148 (dk_at dksX5_of_0 14 rfl rfl)
theorem dX5_of_15 : decode cX5_of 15 = .ok (.ifCond .ne 5, 3) := dk_154 0 5 (dk_at dksX5_of_0 15 rfl rfl)
theorem dX5_of_18 : decode cX5_of 18 = .ok (.iload_n 3, 1) := dk_29 (dk_at dksX5_of_0 18 rfl rfl)
theorem dX5_of_19 : decode cX5_of 19 = .ok (.ireturn, 1) := dk_172 (dk_at dksX5_of_0 19 rfl rfl)
theorem dX5_of_20 : decode cX5_of 20 = .ok (.iinc 3 1, 3) := dk_132 3 1 (dk_at dksX5_of_0 20 rfl rfl)
theorem dX5_of_23 : decode cX5_of 23 = .ok (.goto (-21), 3) := dk_167 255 235 (dk_at dksX5_of_1 0 rfl rfl)
theorem dX5_of_26 : decode cX5_of 26 = .ok (.iconst (-1), 1) := dk_2 (dk_at dksX5_of_1 3 rfl rfl)
theorem dX5_of_27 : decode cX5_of 27 = .ok (.ireturn, 1) := dk_172 (dk_at dksX5_of_1 4 rfl rfl)
abbrev cX5_known : ByteArray := prog_17_method_18_code
def yX5_known : MethodName := ⟨RX5, "known", "([JI)I"⟩
def dkwX5_known_0 : List UInt8 := [42, 43, 28, 182, 0, 121, 62, 42, 182, 0, 22, 29, 172]
abbrev dktX5_known_0 : List UInt8 := dkwX5_known_0 ++ []
theorem dksX5_known_0 : cX5_known.data.toList.drop 0 = dktX5_known_0 := by decide +kernel
theorem dX5_known_0 : decode cX5_known 0 = .ok (.aload_n 0, 1) := dk_42 (dk_at dksX5_known_0 0 rfl rfl)
theorem dX5_known_1 : decode cX5_known 1 = .ok (.aload_n 1, 1) := dk_43 (dk_at dksX5_known_0 1 rfl rfl)
theorem dX5_known_2 : decode cX5_known 2 = .ok (.iload_n 2, 1) := dk_28 (dk_at dksX5_known_0 2 rfl rfl)
theorem dX5_known_3 : decode cX5_known 3 = .ok (.invokevirtual 121, 3) := dk_182 0 121 (dk_at dksX5_known_0 3 rfl rfl)
theorem dX5_known_6 : decode cX5_known 6 = .ok (.istore_n 3, 1) := dk_62 (dk_at dksX5_known_0 6 rfl rfl)
theorem dX5_known_7 : decode cX5_known 7 = .ok (.aload_n 0, 1) := dk_42 (dk_at dksX5_known_0 7 rfl rfl)
theorem dX5_known_8 : decode cX5_known 8 = .ok (.invokevirtual 22, 3) := dk_182 0 22 (dk_at dksX5_known_0 8 rfl rfl)
theorem dX5_known_11 : decode cX5_known 11 = .ok (.iload_n 3, 1) := dk_29 (dk_at dksX5_known_0 11 rfl rfl)
theorem dX5_known_12 : decode cX5_known 12 = .ok (.ireturn, 1) := dk_172 (dk_at dksX5_known_0 12 rfl rfl)
abbrev cX5_look : ByteArray := prog_17_method_17_code
def yX5_look : MethodName := ⟨RX5, "look", "([JI)I"⟩
def dkwX5_look_1 : List UInt8 := [167, 0, 4, 3, 6, 182, 0, 109, 29, 172]
abbrev dktX5_look_1 : List UInt8 := dkwX5_look_1 ++ []
def dkwX5_look_0 : List UInt8 := [42, 42, 182, 0, 113, 4, 182, 0, 109, 42, 43, 28, 182, 0, 117, 62, 42, 29, 2, 159, 0, 7, 4]
abbrev dktX5_look_0 : List UInt8 := dkwX5_look_0 ++ dktX5_look_1
theorem dksX5_look_0 : cX5_look.data.toList.drop 0 = dktX5_look_0 := by decide +kernel
theorem dksX5_look_1 : cX5_look.data.toList.drop 23 = dktX5_look_1 := dk_seg dksX5_look_0 23 rfl rfl
theorem dX5_look_0 : decode cX5_look 0 = .ok (.aload_n 0, 1) := dk_42 (dk_at dksX5_look_0 0 rfl rfl)
theorem dX5_look_1 : decode cX5_look 1 = .ok (.aload_n 0, 1) := dk_42 (dk_at dksX5_look_0 1 rfl rfl)
theorem dX5_look_2 : decode cX5_look 2 = .ok (.invokevirtual 113, 3) := dk_182 0 113 (dk_at dksX5_look_0 2 rfl rfl)
theorem dX5_look_5 : decode cX5_look 5 = .ok (.iconst 1, 1) := dk_4 (dk_at dksX5_look_0 5 rfl rfl)
theorem dX5_look_6 : decode cX5_look 6 = .ok (.invokevirtual 109, 3) := dk_182 0 109 (dk_at dksX5_look_0 6 rfl rfl)
theorem dX5_look_9 : decode cX5_look 9 = .ok (.aload_n 0, 1) := dk_42 (dk_at dksX5_look_0 9 rfl rfl)
theorem dX5_look_10 : decode cX5_look 10 = .ok (.aload_n 1, 1) := dk_43 (dk_at dksX5_look_0 10 rfl rfl)
theorem dX5_look_11 : decode cX5_look 11 = .ok (.iload_n 2, 1) := dk_28 (dk_at dksX5_look_0 11 rfl rfl)
theorem dX5_look_12 : decode cX5_look 12 = .ok (.invokevirtual 117, 3) := dk_182 0 117 (dk_at dksX5_look_0 12 rfl rfl)
theorem dX5_look_15 : decode cX5_look 15 = .ok (.istore_n 3, 1) := dk_62 (dk_at dksX5_look_0 15 rfl rfl)
theorem dX5_look_16 : decode cX5_look 16 = .ok (.aload_n 0, 1) := dk_42 (dk_at dksX5_look_0 16 rfl rfl)
theorem dX5_look_17 : decode cX5_look 17 = .ok (.iload_n 3, 1) := dk_29 (dk_at dksX5_look_0 17 rfl rfl)
theorem dX5_look_18 : decode cX5_look 18 = .ok (.iconst (-1), 1) := dk_2 (dk_at dksX5_look_0 18 rfl rfl)
theorem dX5_look_19 : decode cX5_look 19 = .ok (.if_icmp .eq 7, 3) := dk_159 0 7 (dk_at dksX5_look_0 19 rfl rfl)
theorem dX5_look_22 : decode cX5_look 22 = .ok (.iconst 1, 1) := dk_4 (dk_at dksX5_look_0 22 rfl rfl)
theorem dX5_look_23 : decode cX5_look 23 = .ok (.goto 4, 3) := dk_167 0 4 (dk_at dksX5_look_1 0 rfl rfl)
theorem dX5_look_26 : decode cX5_look 26 = .ok (.iconst 0, 1) := dk_3 (dk_at dksX5_look_1 3 rfl rfl)
theorem dX5_look_27 : decode cX5_look 27 = .ok (.iconst 3, 1) := dk_6 (dk_at dksX5_look_1 4 rfl rfl)
theorem dX5_look_28 : decode cX5_look 28 = .ok (.invokevirtual 109, 3) := dk_182 0 109 (dk_at dksX5_look_1 5 rfl rfl)
theorem dX5_look_31 : decode cX5_look 31 = .ok (.iload_n 3, 1) := dk_29 (dk_at dksX5_look_1 8 rfl rfl)
theorem dX5_look_32 : decode cX5_look 32 = .ok (.ireturn, 1) := dk_172 (dk_at dksX5_look_1 9 rfl rfl)
abbrev cX5_number : ByteArray := prog_17_method_15_code
def yX5_number : MethodName := ⟨RX5, "number", "(II)I"⟩
def dkwX5_number_1 : List UInt8 := [28, 184, 0, 32, 5, 182, 0, 109, 42, 180, 0, 57, 62, 42, 182, 0, 22, 29, 172]
abbrev dktX5_number_1 : List UInt8 := dkwX5_number_1 ++ []
def dkwX5_number_0 : List UInt8 := [42, 42, 180, 0, 43, 5, 160, 0, 7, 4, 167, 0, 4, 3, 4, 182, 0, 109, 42, 42, 180, 0, 57, 27]
abbrev dktX5_number_0 : List UInt8 := dkwX5_number_0 ++ dktX5_number_1
theorem dksX5_number_0 : cX5_number.data.toList.drop 0 = dktX5_number_0 := by decide +kernel
theorem dksX5_number_1 : cX5_number.data.toList.drop 24 = dktX5_number_1 := dk_seg dksX5_number_0 24 rfl rfl
theorem dX5_number_0 : decode cX5_number 0 = .ok (.aload_n 0, 1) := dk_42 (dk_at dksX5_number_0 0 rfl rfl)
theorem dX5_number_1 : decode cX5_number 1 = .ok (.aload_n 0, 1) := dk_42 (dk_at dksX5_number_0 1 rfl rfl)
theorem dX5_number_2 : decode cX5_number 2 = .ok (.getfield 43, 3) := dk_180 0 43 (dk_at dksX5_number_0 2 rfl rfl)
theorem dX5_number_5 : decode cX5_number 5 = .ok (.iconst 2, 1) := dk_5 (dk_at dksX5_number_0 5 rfl rfl)
theorem dX5_number_6 : decode cX5_number 6 = .ok (.if_icmp .ne 7, 3) := dk_160 0 7 (dk_at dksX5_number_0 6 rfl rfl)
theorem dX5_number_9 : decode cX5_number 9 = .ok (.iconst 1, 1) := dk_4 (dk_at dksX5_number_0 9 rfl rfl)
theorem dX5_number_10 : decode cX5_number 10 = .ok (.goto 4, 3) := dk_167 0 4 (dk_at dksX5_number_0 10 rfl rfl)
theorem dX5_number_13 : decode cX5_number 13 = .ok (.iconst 0, 1) := dk_3 (dk_at dksX5_number_0 13 rfl rfl)
theorem dX5_number_14 : decode cX5_number 14 = .ok (.iconst 1, 1) := dk_4 (dk_at dksX5_number_0 14 rfl rfl)
theorem dX5_number_15 : decode cX5_number 15 = .ok (.invokevirtual 109, 3) := dk_182 0 109 (dk_at dksX5_number_0 15 rfl rfl)
theorem dX5_number_18 : decode cX5_number 18 = .ok (.aload_n 0, 1) := dk_42 (dk_at dksX5_number_0 18 rfl rfl)
theorem dX5_number_19 : decode cX5_number 19 = .ok (.aload_n 0, 1) := dk_42 (dk_at dksX5_number_0 19 rfl rfl)
theorem dX5_number_20 : decode cX5_number 20 = .ok (.getfield 57, 3) := dk_180 0 57 (dk_at dksX5_number_0 20 rfl rfl)
theorem dX5_number_23 : decode cX5_number 23 = .ok (.iload_n 1, 1) := dk_27 (dk_at dksX5_number_0 23 rfl rfl)
theorem dX5_number_24 : decode cX5_number 24 = .ok (.iload_n 2, 1) := dk_28 (dk_at dksX5_number_1 0 rfl rfl)
theorem dX5_number_25 : decode cX5_number 25 = .ok (.invokestatic 32, 3) := dk_184 0 32 (dk_at dksX5_number_1 1 rfl rfl)
theorem dX5_number_28 : decode cX5_number 28 = .ok (.iconst 2, 1) := dk_5 (dk_at dksX5_number_1 4 rfl rfl)
theorem dX5_number_29 : decode cX5_number 29 = .ok (.invokevirtual 109, 3) := dk_182 0 109 (dk_at dksX5_number_1 5 rfl rfl)
theorem dX5_number_32 : decode cX5_number 32 = .ok (.aload_n 0, 1) := dk_42 (dk_at dksX5_number_1 8 rfl rfl)
theorem dX5_number_33 : decode cX5_number 33 = .ok (.getfield 57, 3) := dk_180 0 57 (dk_at dksX5_number_1 9 rfl rfl)
theorem dX5_number_36 : decode cX5_number 36 = .ok (.istore_n 3, 1) := dk_62 (dk_at dksX5_number_1 12 rfl rfl)
theorem dX5_number_37 : decode cX5_number 37 = .ok (.aload_n 0, 1) := dk_42 (dk_at dksX5_number_1 13 rfl rfl)
theorem dX5_number_38 : decode cX5_number 38 = .ok (.invokevirtual 22, 3) := dk_182 0 22 (dk_at dksX5_number_1 14 rfl rfl)
theorem dX5_number_41 : decode cX5_number 41 = .ok (.iload_n 3, 1) := dk_29 (dk_at dksX5_number_1 17 rfl rfl)
theorem dX5_number_42 : decode cX5_number 42 = .ok (.ireturn, 1) := dk_172 (dk_at dksX5_number_1 18 rfl rfl)
abbrev cX5_sign : ByteArray := prog_17_method_14_code
def yX5_sign : MethodName := ⟨RX5, "sign", "(I)V"⟩
def dkwX5_sign_0 : List UInt8 := [42, 42, 27, 182, 0, 107, 4, 182, 0, 109, 42, 182, 0, 22, 177]
abbrev dktX5_sign_0 : List UInt8 := dkwX5_sign_0 ++ []
theorem dksX5_sign_0 : cX5_sign.data.toList.drop 0 = dktX5_sign_0 := by decide +kernel
theorem dX5_sign_0 : decode cX5_sign 0 = .ok (.aload_n 0, 1) := dk_42 (dk_at dksX5_sign_0 0 rfl rfl)
theorem dX5_sign_1 : decode cX5_sign 1 = .ok (.aload_n 0, 1) := dk_42 (dk_at dksX5_sign_0 1 rfl rfl)
theorem dX5_sign_2 : decode cX5_sign 2 = .ok (.iload_n 1, 1) := dk_27 (dk_at dksX5_sign_0 2 rfl rfl)
theorem dX5_sign_3 : decode cX5_sign 3 = .ok (.invokevirtual 107, 3) := dk_182 0 107 (dk_at dksX5_sign_0 3 rfl rfl)
theorem dX5_sign_6 : decode cX5_sign 6 = .ok (.iconst 1, 1) := dk_4 (dk_at dksX5_sign_0 6 rfl rfl)
theorem dX5_sign_7 : decode cX5_sign 7 = .ok (.invokevirtual 109, 3) := dk_182 0 109 (dk_at dksX5_sign_0 7 rfl rfl)
theorem dX5_sign_10 : decode cX5_sign 10 = .ok (.aload_n 0, 1) := dk_42 (dk_at dksX5_sign_0 10 rfl rfl)
theorem dX5_sign_11 : decode cX5_sign 11 = .ok (.invokevirtual 22, 3) := dk_182 0 22 (dk_at dksX5_sign_0 11 rfl rfl)
theorem dX5_sign_14 : decode cX5_sign 14 = .ok (.return_, 1) := dk_177 (dk_at dksX5_sign_0 14 rfl rfl)
abbrev cX5_is_2 : ByteArray := prog_17_method_9_code
def yX5_is_2 : MethodName := ⟨RX5, "is", "(I)Z"⟩
def dkwX5_is_2_0 : List UInt8 := [42, 180, 0, 43, 6, 160, 0, 15, 42, 180, 0, 57, 27, 160, 0, 7, 4, 167, 0, 4, 3, 172]
abbrev dktX5_is_2_0 : List UInt8 := dkwX5_is_2_0 ++ []
theorem dksX5_is_2_0 : cX5_is_2.data.toList.drop 0 = dktX5_is_2_0 := by decide +kernel
theorem dX5_is_2_0 : decode cX5_is_2 0 = .ok (.aload_n 0, 1) := dk_42 (dk_at dksX5_is_2_0 0 rfl rfl)
theorem dX5_is_2_1 : decode cX5_is_2 1 = .ok (.getfield 43, 3) := dk_180 0 43 (dk_at dksX5_is_2_0 1 rfl rfl)
theorem dX5_is_2_4 : decode cX5_is_2 4 = .ok (.iconst 3, 1) := dk_6 (dk_at dksX5_is_2_0 4 rfl rfl)
theorem dX5_is_2_5 : decode cX5_is_2 5 = .ok (.if_icmp .ne 15, 3) := dk_160 0 15 (dk_at dksX5_is_2_0 5 rfl rfl)
theorem dX5_is_2_8 : decode cX5_is_2 8 = .ok (.aload_n 0, 1) := dk_42 (dk_at dksX5_is_2_0 8 rfl rfl)
theorem dX5_is_2_9 : decode cX5_is_2 9 = .ok (.getfield 57, 3) := dk_180 0 57 (dk_at dksX5_is_2_0 9 rfl rfl)
theorem dX5_is_2_12 : decode cX5_is_2 12 = .ok (.iload_n 1, 1) := dk_27 (dk_at dksX5_is_2_0 12 rfl rfl)
theorem dX5_is_2_13 : decode cX5_is_2 13 = .ok (.if_icmp .ne 7, 3) := dk_160 0 7 (dk_at dksX5_is_2_0 13 rfl rfl)
theorem dX5_is_2_16 : decode cX5_is_2 16 = .ok (.iconst 1, 1) := dk_4 (dk_at dksX5_is_2_0 16 rfl rfl)
theorem dX5_is_2_17 : decode cX5_is_2 17 = .ok (.goto 4, 3) := dk_167 0 4 (dk_at dksX5_is_2_0 17 rfl rfl)
theorem dX5_is_2_20 : decode cX5_is_2 20 = .ok (.iconst 0, 1) := dk_3 (dk_at dksX5_is_2_0 20 rfl rfl)
theorem dX5_is_2_21 : decode cX5_is_2 21 = .ok (.ireturn, 1) := dk_172 (dk_at dksX5_is_2_0 21 rfl rfl)
theorem q115 : (Jvm.Cond.initialized "ParlourLeaves$Reader") ∈ lw_all := lw_g (lw_at lw_m1 7 rfl) rfl
theorem q198 : (Jvm.Cond.fieldLink "ParlourLeaves$Reader" (95 : Nat) "ParlourLeaves$Fault" "kind" "I") ∈ lw_all := lw_g (lw_at lw_m1 90 rfl) rfl
theorem q200 : (Jvm.Cond.fieldLink "ParlourLeaves$Reader" (100 : Nat) "ParlourLeaves$Fault" "place" "I") ∈ lw_all := lw_g (lw_at lw_m1 92 rfl) rfl
theorem q394 : (Jvm.Cond.instanceMethod ({ cls := "ParlourLeaves$Reader", name := "<init>", desc := "(LParlourLeaves;I)V" } : Jvm.MethodName)) ∈ lw_all := lw_g (lw_at lw_m2 46 rfl) rfl
theorem q395 : (Jvm.Cond.code ({ cls := "ParlourLeaves$Reader", name := "<init>", desc := "(LParlourLeaves;I)V" } : Jvm.MethodName) prog_17_method_1_code (3 : Nat) (Option.none : Option Jvm.ClassFile.FieldType)) ∈ lw_all := lw_g (lw_at lw_m2 47 rfl) rfl
theorem q396 : (Jvm.Cond.methodLink "ParlourLeaves$Reader" (9 : Nat) ({ cls := "java/lang/Object", name := "<init>", desc := "()V" } : Jvm.MethodName)) ∈ lw_all := lw_g (lw_at lw_m2 48 rfl) rfl
theorem q400 : (Jvm.Cond.fieldLink "ParlourLeaves$Reader" (15 : Nat) "ParlourLeaves$Reader" "most" "I") ∈ lw_all := lw_g (lw_at lw_m2 52 rfl) rfl
theorem q401 : (Jvm.Cond.fieldLink "ParlourLeaves$Reader" (19 : Nat) "ParlourLeaves$Reader" "p" "I") ∈ lw_all := lw_g (lw_at lw_m2 53 rfl) rfl
theorem q402 : (Jvm.Cond.fieldLink "ParlourLeaves$Reader" (40 : Nat) "ParlourLeaves$Reader" "at" "I") ∈ lw_all := lw_g (lw_at lw_m2 54 rfl) rfl
theorem q409 : (Jvm.Cond.fieldLink "ParlourLeaves$Reader" (43 : Nat) "ParlourLeaves$Reader" "token" "I") ∈ lw_all := lw_g (lw_at lw_m2 61 rfl) rfl
theorem q412 : (Jvm.Cond.fieldLink "ParlourLeaves$Reader" (57 : Nat) "ParlourLeaves$Reader" "value" "I") ∈ lw_all := lw_g (lw_at lw_m2 64 rfl) rfl
theorem q413 : (Jvm.Cond.fieldLink "ParlourLeaves$Reader" (64 : Nat) "ParlourLeaves$Reader" "many" "I") ∈ lw_all := lw_g (lw_at lw_m2 65 rfl) rfl
theorem q416 : (Jvm.Cond.fieldLink "ParlourLeaves$Reader" (60 : Nat) "ParlourLeaves$Reader" "name" "J") ∈ lw_all := lw_g (lw_at lw_m2 68 rfl) rfl
theorem q417 : (Jvm.Cond.fieldLink "ParlourLeaves$Reader" (3 : Nat) "ParlourLeaves$Reader" "this$0" "LParlourLeaves;") ∈ lw_all := lw_g (lw_at lw_m2 69 rfl) rfl
theorem q425 : (Jvm.Cond.soleField "ParlourLeaves$Reader" "most") ∈ lw_all := lw_g (lw_at lw_m2 77 rfl) rfl
theorem q427 : (Jvm.Cond.soleField "ParlourLeaves$Reader" "p") ∈ lw_all := lw_g (lw_at lw_m2 79 rfl) rfl
theorem q429 : (Jvm.Cond.soleField "ParlourLeaves$Reader" "at") ∈ lw_all := lw_g (lw_at lw_m2 81 rfl) rfl
theorem q431 : (Jvm.Cond.soleField "ParlourLeaves$Reader" "token") ∈ lw_all := lw_g (lw_at lw_m2 83 rfl) rfl
theorem q433 : (Jvm.Cond.soleField "ParlourLeaves$Reader" "value") ∈ lw_all := lw_g (lw_at lw_m2 85 rfl) rfl
theorem q435 : (Jvm.Cond.soleField "ParlourLeaves$Reader" "many") ∈ lw_all := lw_g (lw_at lw_m2 87 rfl) rfl
theorem q437 : (Jvm.Cond.soleField "ParlourLeaves$Reader" "name") ∈ lw_all := lw_g (lw_at lw_m2 89 rfl) rfl
theorem q439 : (Jvm.Cond.soleField "ParlourLeaves$Reader" "this$0") ∈ lw_all := lw_g (lw_at lw_m2 91 rfl) rfl
theorem q522 : (Jvm.Cond.fieldLinkNest "ParlourLeaves$Reader" (28 : Nat) "ParlourLeaves" "tape" "[B" "ParlourLeaves") ∈ lw_tbl := lw_at lw_m2 174 rfl
theorem q524 : (Jvm.Cond.fieldLinkNest "ParlourLeaves$Reader" (25 : Nat) "ParlourLeaves" "size" "I" "ParlourLeaves") ∈ lw_tbl := lw_at lw_m2 176 rfl
theorem q527 : (Jvm.Cond.fieldLinkNest "ParlourLeaves$Reader" (91 : Nat) "ParlourLeaves" "broken" "LParlourLeaves$Fault;" "ParlourLeaves") ∈ lw_tbl := lw_at lw_m2 179 rfl
theorem q530 : (Jvm.Cond.fieldLinkNest "ParlourLeaves$Reader" (80 : Nat) "ParlourLeaves" "lines" "[Ljava/lang/String;" "ParlourLeaves") ∈ lw_tbl := lw_at lw_m2 182 rfl
theorem q532 : (Jvm.Cond.fieldLinkNest "ParlourLeaves$Reader" (88 : Nat) "ParlourLeaves" "words" "[Ljava/lang/String;" "ParlourLeaves") ∈ lw_tbl := lw_at lw_m2 184 rfl
theorem q658 : (Jvm.Cond.declares ({ cls := "ParlourLeaves$Reader", name := "begin", desc := "()V" } : Jvm.MethodName)) ∈ lw_tbl := lw_at lw_m3 70 rfl
theorem q660 : (Jvm.Cond.instanceMethod ({ cls := "ParlourLeaves$Reader", name := "begin", desc := "()V" } : Jvm.MethodName)) ∈ lw_all := lw_g (lw_at lw_m3 72 rfl) rfl
theorem q661 : (Jvm.Cond.code ({ cls := "ParlourLeaves$Reader", name := "begin", desc := "()V" } : Jvm.MethodName) prog_17_method_2_code (1 : Nat) (Option.none : Option Jvm.ClassFile.FieldType)) ∈ lw_all := lw_g (lw_at lw_m3 73 rfl) rfl
theorem q662 : (Jvm.Cond.methodLink "ParlourLeaves$Reader" (22 : Nat) ({ cls := "ParlourLeaves$Reader", name := "next", desc := "()V" } : Jvm.MethodName)) ∈ lw_all := lw_g (lw_at lw_m3 74 rfl) rfl
theorem q663 : (Jvm.Cond.instanceMethod ({ cls := "ParlourLeaves$Reader", name := "next", desc := "()V" } : Jvm.MethodName)) ∈ lw_all := lw_g (lw_at lw_m3 75 rfl) rfl
theorem q664 : (Jvm.Cond.sameMethod "ParlourLeaves$Reader" "ParlourLeaves$Reader" "next" "()V") ∈ lw_all := lw_g (lw_at lw_m3 76 rfl) rfl
theorem q668 : (Jvm.Cond.code ({ cls := "ParlourLeaves$Reader", name := "next", desc := "()V" } : Jvm.MethodName) prog_17_method_6_code (2 : Nat) (Option.none : Option Jvm.ClassFile.FieldType)) ∈ lw_all := lw_g (lw_at lw_m3 80 rfl) rfl
theorem q669 : (Jvm.Cond.methodLink "ParlourLeaves$Reader" (36 : Nat) ({ cls := "ParlourLeaves$Reader", name := "peek", desc := "()I" } : Jvm.MethodName)) ∈ lw_all := lw_g (lw_at lw_m3 81 rfl) rfl
theorem q670 : (Jvm.Cond.privateMethod ({ cls := "ParlourLeaves$Reader", name := "peek", desc := "()I" } : Jvm.MethodName)) ∈ lw_tbl := lw_at lw_m3 82 rfl
theorem q671 : (Jvm.Cond.instanceMethod ({ cls := "ParlourLeaves$Reader", name := "peek", desc := "()I" } : Jvm.MethodName)) ∈ lw_all := lw_g (lw_at lw_m3 83 rfl) rfl
theorem q672 : (Jvm.Cond.code ({ cls := "ParlourLeaves$Reader", name := "peek", desc := "()I" } : Jvm.MethodName) prog_17_method_3_code (1 : Nat) (Option.some Jvm.ClassFile.FieldType.int)) ∈ lw_all := lw_g (lw_at lw_m3 84 rfl) rfl
theorem q673 : (Jvm.Cond.methodLink "ParlourLeaves$Reader" (46 : Nat) ({ cls := "ParlourLeaves$Reader", name := "isLetter", desc := "(I)Z" } : Jvm.MethodName)) ∈ lw_all := lw_g (lw_at lw_m3 85 rfl) rfl
theorem q674 : (Jvm.Cond.privateMethod ({ cls := "ParlourLeaves$Reader", name := "isLetter", desc := "(I)Z" } : Jvm.MethodName)) ∈ lw_tbl := lw_at lw_m3 86 rfl
theorem q675 : (Jvm.Cond.instanceMethod ({ cls := "ParlourLeaves$Reader", name := "isLetter", desc := "(I)Z" } : Jvm.MethodName)) ∈ lw_all := lw_g (lw_at lw_m3 87 rfl) rfl
theorem q676 : (Jvm.Cond.code ({ cls := "ParlourLeaves$Reader", name := "isLetter", desc := "(I)Z" } : Jvm.MethodName) prog_17_method_4_code (2 : Nat) (Option.some Jvm.ClassFile.FieldType.boolean)) ∈ lw_all := lw_g (lw_at lw_m3 88 rfl) rfl
theorem q677 : (Jvm.Cond.methodLinkNest "ParlourLeaves$Reader" (32 : Nat) ({ cls := "ParlourLeaves", name := "isIn", desc := "(III)Z" } : Jvm.MethodName) "ParlourLeaves") ∈ lw_tbl := lw_at lw_m3 89 rfl
theorem q680 : (Jvm.Cond.methodLink "ParlourLeaves$Reader" (50 : Nat) ({ cls := "ParlourLeaves$Reader", name := "isDigit", desc := "(I)Z" } : Jvm.MethodName)) ∈ lw_all := lw_g (lw_at lw_m3 92 rfl) rfl
theorem q681 : (Jvm.Cond.privateMethod ({ cls := "ParlourLeaves$Reader", name := "isDigit", desc := "(I)Z" } : Jvm.MethodName)) ∈ lw_tbl := lw_at lw_m3 93 rfl
theorem q682 : (Jvm.Cond.instanceMethod ({ cls := "ParlourLeaves$Reader", name := "isDigit", desc := "(I)Z" } : Jvm.MethodName)) ∈ lw_all := lw_g (lw_at lw_m3 94 rfl) rfl
theorem q683 : (Jvm.Cond.code ({ cls := "ParlourLeaves$Reader", name := "isDigit", desc := "(I)Z" } : Jvm.MethodName) prog_17_method_5_code (2 : Nat) (Option.some Jvm.ClassFile.FieldType.boolean)) ∈ lw_all := lw_g (lw_at lw_m3 95 rfl) rfl
theorem q684 : (Jvm.Cond.methodLink "ParlourLeaves$Reader" (53 : Nat) ({ cls := "ParlourLeaves$Reader", name := "run", desc := "(Z)V" } : Jvm.MethodName)) ∈ lw_all := lw_g (lw_at lw_m3 96 rfl) rfl
theorem q685 : (Jvm.Cond.privateMethod ({ cls := "ParlourLeaves$Reader", name := "run", desc := "(Z)V" } : Jvm.MethodName)) ∈ lw_tbl := lw_at lw_m3 97 rfl
theorem q686 : (Jvm.Cond.instanceMethod ({ cls := "ParlourLeaves$Reader", name := "run", desc := "(Z)V" } : Jvm.MethodName)) ∈ lw_all := lw_g (lw_at lw_m3 98 rfl) rfl
theorem q687 : (Jvm.Cond.code ({ cls := "ParlourLeaves$Reader", name := "run", desc := "(Z)V" } : Jvm.MethodName) prog_17_method_7_code (3 : Nat) (Option.none : Option Jvm.ClassFile.FieldType)) ∈ lw_all := lw_g (lw_at lw_m3 99 rfl) rfl
theorem q690 : (Jvm.Cond.declares ({ cls := "ParlourLeaves$Reader", name := "find", desc := "([Ljava/lang/String;)I" } : Jvm.MethodName)) ∈ lw_tbl := lw_at lw_m3 102 rfl
theorem q692 : (Jvm.Cond.instanceMethod ({ cls := "ParlourLeaves$Reader", name := "find", desc := "([Ljava/lang/String;)I" } : Jvm.MethodName)) ∈ lw_all := lw_g (lw_at lw_m3 104 rfl) rfl
theorem q693 : (Jvm.Cond.code ({ cls := "ParlourLeaves$Reader", name := "find", desc := "([Ljava/lang/String;)I" } : Jvm.MethodName) prog_17_method_10_code (3 : Nat) (Option.some Jvm.ClassFile.FieldType.int)) ∈ lw_all := lw_g (lw_at lw_m3 105 rfl) rfl
theorem q694 : (Jvm.Cond.methodLink "ParlourLeaves$Reader" (76 : Nat) ({ cls := "ParlourLeaves$Reader", name := "is", desc := "(Ljava/lang/String;)Z" } : Jvm.MethodName)) ∈ lw_all := lw_g (lw_at lw_m3 106 rfl) rfl
theorem q695 : (Jvm.Cond.instanceMethod ({ cls := "ParlourLeaves$Reader", name := "is", desc := "(Ljava/lang/String;)Z" } : Jvm.MethodName)) ∈ lw_all := lw_g (lw_at lw_m3 107 rfl) rfl
theorem q696 : (Jvm.Cond.sameMethod "ParlourLeaves$Reader" "ParlourLeaves$Reader" "is" "(Ljava/lang/String;)Z") ∈ lw_all := lw_g (lw_at lw_m3 108 rfl) rfl
theorem q700 : (Jvm.Cond.code ({ cls := "ParlourLeaves$Reader", name := "is", desc := "(Ljava/lang/String;)Z" } : Jvm.MethodName) prog_17_method_8_code (3 : Nat) (Option.some Jvm.ClassFile.FieldType.boolean)) ∈ lw_all := lw_g (lw_at lw_m3 112 rfl) rfl
theorem q701 : (Jvm.Cond.methodLink "ParlourLeaves$Reader" (67 : Nat) ({ cls := "java/lang/String", name := "length", desc := "()I" } : Jvm.MethodName)) ∈ lw_all := lw_g (lw_at lw_m3 113 rfl) rfl
theorem q711 : (Jvm.Cond.methodLink "ParlourLeaves$Reader" (72 : Nat) ({ cls := "java/lang/String", name := "charAt", desc := "(I)C" } : Jvm.MethodName)) ∈ lw_all := lw_g (lw_at lw_m3 123 rfl) rfl
theorem q751 : (Jvm.Cond.declares ({ cls := "ParlourLeaves$Reader", name := "must", desc := "(ZI)V" } : Jvm.MethodName)) ∈ lw_tbl := lw_at lw_m3 163 rfl
theorem q753 : (Jvm.Cond.instanceMethod ({ cls := "ParlourLeaves$Reader", name := "must", desc := "(ZI)V" } : Jvm.MethodName)) ∈ lw_all := lw_g (lw_at lw_m3 165 rfl) rfl
theorem q754 : (Jvm.Cond.code ({ cls := "ParlourLeaves$Reader", name := "must", desc := "(ZI)V" } : Jvm.MethodName) prog_17_method_13_code (3 : Nat) (Option.none : Option Jvm.ClassFile.FieldType)) ∈ lw_all := lw_g (lw_at lw_m3 166 rfl) rfl
theorem q755 : (Jvm.Cond.methodLink "ParlourLeaves$Reader" (103 : Nat) ({ cls := "ParlourLeaves$Reader", name := "wrong", desc := "(I)LParlourLeaves$Fault;" } : Jvm.MethodName)) ∈ lw_all := lw_g (lw_at lw_m3 167 rfl) rfl
theorem q756 : (Jvm.Cond.instanceMethod ({ cls := "ParlourLeaves$Reader", name := "wrong", desc := "(I)LParlourLeaves$Fault;" } : Jvm.MethodName)) ∈ lw_all := lw_g (lw_at lw_m3 168 rfl) rfl
theorem q757 : (Jvm.Cond.sameMethod "ParlourLeaves$Reader" "ParlourLeaves$Reader" "wrong" "(I)LParlourLeaves$Fault;") ∈ lw_all := lw_g (lw_at lw_m3 169 rfl) rfl
theorem q761 : (Jvm.Cond.code ({ cls := "ParlourLeaves$Reader", name := "wrong", desc := "(I)LParlourLeaves$Fault;" } : Jvm.MethodName) prog_17_method_12_code (2 : Nat) (Option.some (Jvm.ClassFile.FieldType.object "ParlourLeaves$Fault"))) ∈ lw_all := lw_g (lw_at lw_m3 173 rfl) rfl
theorem q771 : (Jvm.Cond.declares ({ cls := "ParlourLeaves$Reader", name := "next", desc := "()V" } : Jvm.MethodName)) ∈ lw_tbl := lw_at lw_m3 183 rfl
theorem q783 : (Jvm.Cond.declares ({ cls := "ParlourLeaves$Reader", name := "isName", desc := "()Z" } : Jvm.MethodName)) ∈ lw_tbl := lw_at lw_m3 195 rfl
theorem q785 : (Jvm.Cond.instanceMethod ({ cls := "ParlourLeaves$Reader", name := "isName", desc := "()Z" } : Jvm.MethodName)) ∈ lw_all := lw_g (lw_at lw_m3 197 rfl) rfl
theorem q786 : (Jvm.Cond.code ({ cls := "ParlourLeaves$Reader", name := "isName", desc := "()Z" } : Jvm.MethodName) prog_17_method_11_code (1 : Nat) (Option.some Jvm.ClassFile.FieldType.boolean)) ∈ lw_all := lw_g (lw_at lw_m3 198 rfl) rfl
theorem q787 : (Jvm.Cond.methodLink "ParlourLeaves$Reader" (84 : Nat) ({ cls := "ParlourLeaves$Reader", name := "find", desc := "([Ljava/lang/String;)I" } : Jvm.MethodName)) ∈ lw_all := lw_g (lw_at lw_m3 199 rfl) rfl
theorem q790 : (Jvm.Cond.declares ({ cls := "ParlourLeaves$Reader", name := "of", desc := "([JI)I" } : Jvm.MethodName)) ∈ lw_tbl := lw_at lw_m3 202 rfl
theorem q792 : (Jvm.Cond.instanceMethod ({ cls := "ParlourLeaves$Reader", name := "of", desc := "([JI)I" } : Jvm.MethodName)) ∈ lw_all := lw_g (lw_at lw_m3 204 rfl) rfl
theorem q793 : (Jvm.Cond.code ({ cls := "ParlourLeaves$Reader", name := "of", desc := "([JI)I" } : Jvm.MethodName) prog_17_method_16_code (4 : Nat) (Option.some Jvm.ClassFile.FieldType.int)) ∈ lw_all := lw_g (lw_at lw_m3 205 rfl) rfl
theorem q796 : (Jvm.Cond.declares ({ cls := "ParlourLeaves$Reader", name := "known", desc := "([JI)I" } : Jvm.MethodName)) ∈ lw_tbl := lw_at lw_m3 208 rfl
theorem q798 : (Jvm.Cond.instanceMethod ({ cls := "ParlourLeaves$Reader", name := "known", desc := "([JI)I" } : Jvm.MethodName)) ∈ lw_all := lw_g (lw_at lw_m3 210 rfl) rfl
theorem q799 : (Jvm.Cond.code ({ cls := "ParlourLeaves$Reader", name := "known", desc := "([JI)I" } : Jvm.MethodName) prog_17_method_18_code (4 : Nat) (Option.some Jvm.ClassFile.FieldType.int)) ∈ lw_all := lw_g (lw_at lw_m3 211 rfl) rfl
theorem q800 : (Jvm.Cond.methodLink "ParlourLeaves$Reader" (121 : Nat) ({ cls := "ParlourLeaves$Reader", name := "look", desc := "([JI)I" } : Jvm.MethodName)) ∈ lw_all := lw_g (lw_at lw_m3 212 rfl) rfl
theorem q801 : (Jvm.Cond.instanceMethod ({ cls := "ParlourLeaves$Reader", name := "look", desc := "([JI)I" } : Jvm.MethodName)) ∈ lw_all := lw_g (lw_at lw_m3 213 rfl) rfl
theorem q802 : (Jvm.Cond.sameMethod "ParlourLeaves$Reader" "ParlourLeaves$Reader" "look" "([JI)I") ∈ lw_all := lw_g (lw_at lw_m3 214 rfl) rfl
theorem q806 : (Jvm.Cond.code ({ cls := "ParlourLeaves$Reader", name := "look", desc := "([JI)I" } : Jvm.MethodName) prog_17_method_17_code (4 : Nat) (Option.some Jvm.ClassFile.FieldType.int)) ∈ lw_all := lw_g (lw_at lw_m3 218 rfl) rfl
theorem q807 : (Jvm.Cond.methodLink "ParlourLeaves$Reader" (113 : Nat) ({ cls := "ParlourLeaves$Reader", name := "isName", desc := "()Z" } : Jvm.MethodName)) ∈ lw_all := lw_g (lw_at lw_m3 219 rfl) rfl
theorem q808 : (Jvm.Cond.methodLink "ParlourLeaves$Reader" (109 : Nat) ({ cls := "ParlourLeaves$Reader", name := "must", desc := "(ZI)V" } : Jvm.MethodName)) ∈ lw_all := lw_g (lw_at lw_m3 220 rfl) rfl
theorem q809 : (Jvm.Cond.methodLink "ParlourLeaves$Reader" (117 : Nat) ({ cls := "ParlourLeaves$Reader", name := "of", desc := "([JI)I" } : Jvm.MethodName)) ∈ lw_all := lw_g (lw_at lw_m3 221 rfl) rfl
theorem q812 : (Jvm.Cond.declares ({ cls := "ParlourLeaves$Reader", name := "look", desc := "([JI)I" } : Jvm.MethodName)) ∈ lw_tbl := lw_at lw_m3 224 rfl
theorem q816 : (Jvm.Cond.declares ({ cls := "ParlourLeaves$Reader", name := "number", desc := "(II)I" } : Jvm.MethodName)) ∈ lw_tbl := lw_at lw_m3 228 rfl
theorem q818 : (Jvm.Cond.instanceMethod ({ cls := "ParlourLeaves$Reader", name := "number", desc := "(II)I" } : Jvm.MethodName)) ∈ lw_all := lw_g (lw_at lw_m3 230 rfl) rfl
theorem q819 : (Jvm.Cond.code ({ cls := "ParlourLeaves$Reader", name := "number", desc := "(II)I" } : Jvm.MethodName) prog_17_method_15_code (4 : Nat) (Option.some Jvm.ClassFile.FieldType.int)) ∈ lw_all := lw_g (lw_at lw_m3 231 rfl) rfl
theorem q823 : (Jvm.Cond.declares ({ cls := "ParlourLeaves$Reader", name := "is", desc := "(Ljava/lang/String;)Z" } : Jvm.MethodName)) ∈ lw_tbl := lw_at lw_m3 235 rfl
theorem q827 : (Jvm.Cond.declares ({ cls := "ParlourLeaves$Reader", name := "sign", desc := "(I)V" } : Jvm.MethodName)) ∈ lw_tbl := lw_at lw_m3 239 rfl
theorem q829 : (Jvm.Cond.instanceMethod ({ cls := "ParlourLeaves$Reader", name := "sign", desc := "(I)V" } : Jvm.MethodName)) ∈ lw_all := lw_g (lw_at lw_m4 1 rfl) rfl
theorem q830 : (Jvm.Cond.code ({ cls := "ParlourLeaves$Reader", name := "sign", desc := "(I)V" } : Jvm.MethodName) prog_17_method_14_code (2 : Nat) (Option.none : Option Jvm.ClassFile.FieldType)) ∈ lw_all := lw_g (lw_at lw_m4 2 rfl) rfl
theorem q831 : (Jvm.Cond.methodLink "ParlourLeaves$Reader" (107 : Nat) ({ cls := "ParlourLeaves$Reader", name := "is", desc := "(I)Z" } : Jvm.MethodName)) ∈ lw_all := lw_g (lw_at lw_m4 3 rfl) rfl
theorem q832 : (Jvm.Cond.instanceMethod ({ cls := "ParlourLeaves$Reader", name := "is", desc := "(I)Z" } : Jvm.MethodName)) ∈ lw_all := lw_g (lw_at lw_m4 4 rfl) rfl
theorem q833 : (Jvm.Cond.sameMethod "ParlourLeaves$Reader" "ParlourLeaves$Reader" "is" "(I)Z") ∈ lw_all := lw_g (lw_at lw_m4 5 rfl) rfl
theorem q837 : (Jvm.Cond.code ({ cls := "ParlourLeaves$Reader", name := "is", desc := "(I)Z" } : Jvm.MethodName) prog_17_method_9_code (2 : Nat) (Option.some Jvm.ClassFile.FieldType.boolean)) ∈ lw_all := lw_g (lw_at lw_m4 9 rfl) rfl
theorem q1332 : (Jvm.Cond.declares ({ cls := "ParlourLeaves$Reader", name := "is", desc := "(I)Z" } : Jvm.MethodName)) ∈ lw_tbl := lw_at lw_m6 24 rfl
theorem q2197 : (Jvm.Cond.sameMethod "ParlourLeaves$Reader" "ParlourLeaves$Reader" "peek" "()I") ∈ lw_all := lw_g (lw_at lw_m9 169 rfl) rfl
theorem q2198 : (Jvm.Cond.sameMethod "ParlourLeaves$Reader" "ParlourLeaves$Reader" "isLetter" "(I)Z") ∈ lw_all := lw_g (lw_at lw_m9 170 rfl) rfl
theorem q2199 : (Jvm.Cond.sameMethod "ParlourLeaves$Reader" "ParlourLeaves$Reader" "isDigit" "(I)Z") ∈ lw_all := lw_g (lw_at lw_m9 171 rfl) rfl
theorem q2200 : (Jvm.Cond.sameMethod "ParlourLeaves$Reader" "ParlourLeaves$Reader" "run" "(Z)V") ∈ lw_all := lw_g (lw_at lw_m9 172 rfl) rfl
theorem q2201 : (Jvm.Cond.sameMethod "ParlourLeaves$Reader" "ParlourLeaves$Reader" "find" "([Ljava/lang/String;)I") ∈ lw_all := lw_g (lw_at lw_m9 173 rfl) rfl
theorem q2205 : (Jvm.Cond.sameMethod "ParlourLeaves$Reader" "ParlourLeaves$Reader" "isName" "()Z") ∈ lw_all := lw_g (lw_at lw_m9 177 rfl) rfl
theorem q2209 : (Jvm.Cond.sameMethod "ParlourLeaves$Reader" "ParlourLeaves$Reader" "must" "(ZI)V") ∈ lw_all := lw_g (lw_at lw_m9 181 rfl) rfl
theorem q2213 : (Jvm.Cond.sameMethod "ParlourLeaves$Reader" "ParlourLeaves$Reader" "of" "([JI)I") ∈ lw_all := lw_g (lw_at lw_m9 185 rfl) rfl
/-! ParlourLeaves$HouseReader -/
set_option maxRecDepth 100000
def RX6 : String := "ParlourLeaves$HouseReader"
def TX6 : u_T := fun k => match k with
  | 0 => ("ParlourLeaves$Reader", "most", "I", true)
  | 1 => ("ParlourLeaves$Reader", "p", "I", false)
  | 2 => ("ParlourLeaves$Reader", "at", "I", false)
  | 3 => ("ParlourLeaves$Reader", "token", "I", false)
  | 4 => ("ParlourLeaves$Reader", "value", "I", false)
  | 5 => ("ParlourLeaves$Reader", "many", "I", false)
  | 6 => ("ParlourLeaves$Reader", "name", "J", false)
  | 7 => ("ParlourLeaves$Reader", "this$0", "LParlourLeaves;", true)
  | 8 => ("ParlourLeaves$HouseReader", "x", "LParlourLeaves$House;", false)
  | 9 => ("ParlourLeaves$HouseReader", "onces", "I", false)
  | _ => ("ParlourLeaves$HouseReader", "this$0", "LParlourLeaves;", true)
def tyX6 : Nat → FieldType := fun k => match k with
  | 0 => .int
  | 1 => .int
  | 2 => .int
  | 3 => .int
  | 4 => .int
  | 5 => .int
  | 6 => .long
  | 7 => .object "ParlourLeaves"
  | 8 => .object "ParlourLeaves$House"
  | 9 => .int
  | _ => .object "ParlourLeaves"
abbrev wsX60 : List Cond := u_ws RX6 TX6 11
-- two fields of one name: no nmX6
theorem tyX6_ok : ∀ k, k < 11 → parseFieldDescriptor (TX6 k).2.2.1 = some (tyX6 k) := by decide +kernel
abbrev cX6_init : ByteArray := prog_12_method_1_code
def yX6_init : MethodName := ⟨RX6, "<init>", "(LParlourLeaves;)V"⟩
def dkwX6_init_0 : List UInt8 := [42, 43, 181, 0, 3, 42, 43, 17, 3, 132, 183, 0, 9, 177]
abbrev dktX6_init_0 : List UInt8 := dkwX6_init_0 ++ []
theorem dksX6_init_0 : cX6_init.data.toList.drop 0 = dktX6_init_0 := by decide +kernel
theorem dX6_init_0 : decode cX6_init 0 = .ok (.aload_n 0, 1) := dk_42 (dk_at dksX6_init_0 0 rfl rfl)
theorem dX6_init_1 : decode cX6_init 1 = .ok (.aload_n 1, 1) := dk_43 (dk_at dksX6_init_0 1 rfl rfl)
theorem dX6_init_2 : decode cX6_init 2 = .ok (.putfield 3, 3) := dk_181 0 3 (dk_at dksX6_init_0 2 rfl rfl)
theorem dX6_init_5 : decode cX6_init 5 = .ok (.aload_n 0, 1) := dk_42 (dk_at dksX6_init_0 5 rfl rfl)
theorem dX6_init_6 : decode cX6_init 6 = .ok (.aload_n 1, 1) := dk_43 (dk_at dksX6_init_0 6 rfl rfl)
theorem dX6_init_7 : decode cX6_init 7 = .ok (.sipush 900, 3) := dk_17 3 132 (dk_at dksX6_init_0 7 rfl rfl)
theorem dX6_init_10 : decode cX6_init 10 = .ok (.invokespecial 9, 3) := dk_183 0 9 (dk_at dksX6_init_0 10 rfl rfl)
theorem dX6_init_13 : decode cX6_init 13 = .ok (.return_, 1) := dk_177 (dk_at dksX6_init_0 13 rfl rfl)
abbrev cX6_read : ByteArray := prog_12_method_2_code
def yX6_read : MethodName := ⟨RX6, "read", "(LParlourLeaves$House;)I"⟩
def dkwX6_read_5 : List UInt8 := [28, 172]
abbrev dktX6_read_5 : List UInt8 := dkwX6_read_5 ++ []
def dkwX6_read_4 : List UInt8 := [181, 0, 19, 42, 182, 0, 50, 42, 29, 182, 0, 53, 42, 16, 59, 182, 0, 57, 132, 2, 1, 167, 255, 156]
abbrev dktX6_read_4 : List UInt8 := dkwX6_read_4 ++ dktX6_read_5
def dkwX6_read_3 : List UInt8 := [3, 6, 182, 0, 38, 42, 42, 29, 182, 0, 46, 7, 182, 0, 38, 42, 89, 180, 0, 19, 4, 29, 120, 128]
abbrev dktX6_read_3 : List UInt8 := dkwX6_read_3 ++ dktX6_read_4
def dkwX6_read_2 : List UInt8 := [182, 0, 38, 42, 29, 8, 161, 0, 14, 42, 180, 0, 19, 29, 184, 0, 42, 154, 0, 7, 4, 167, 0, 4]
abbrev dktX6_read_2 : List UInt8 := dkwX6_read_2 ++ dktX6_read_3
def dkwX6_read_1 : List UInt8 := [42, 180, 0, 3, 180, 0, 30, 182, 0, 34, 62, 42, 29, 2, 159, 0, 7, 4, 167, 0, 4, 3, 4]
abbrev dktX6_read_1 : List UInt8 := dkwX6_read_1 ++ dktX6_read_2
def dkwX6_read_0 : List UInt8 := [42, 43, 181, 0, 15, 42, 3, 181, 0, 19, 3, 61, 42, 182, 0, 23, 42, 180, 0, 27, 153, 0, 99, 42]
abbrev dktX6_read_0 : List UInt8 := dkwX6_read_0 ++ dktX6_read_1
theorem dksX6_read_0 : cX6_read.data.toList.drop 0 = dktX6_read_0 := by decide +kernel
theorem dksX6_read_1 : cX6_read.data.toList.drop 24 = dktX6_read_1 := dk_seg dksX6_read_0 24 rfl rfl
theorem dksX6_read_2 : cX6_read.data.toList.drop 47 = dktX6_read_2 := dk_seg dksX6_read_1 23 rfl rfl
theorem dksX6_read_3 : cX6_read.data.toList.drop 71 = dktX6_read_3 := dk_seg dksX6_read_2 24 rfl rfl
theorem dksX6_read_4 : cX6_read.data.toList.drop 95 = dktX6_read_4 := dk_seg dksX6_read_3 24 rfl rfl
theorem dksX6_read_5 : cX6_read.data.toList.drop 119 = dktX6_read_5 := dk_seg dksX6_read_4 24 rfl rfl
theorem dX6_read_0 : decode cX6_read 0 = .ok (.aload_n 0, 1) := dk_42 (dk_at dksX6_read_0 0 rfl rfl)
theorem dX6_read_1 : decode cX6_read 1 = .ok (.aload_n 1, 1) := dk_43 (dk_at dksX6_read_0 1 rfl rfl)
theorem dX6_read_2 : decode cX6_read 2 = .ok (.putfield 15, 3) := dk_181 0 15 (dk_at dksX6_read_0 2 rfl rfl)
theorem dX6_read_5 : decode cX6_read 5 = .ok (.aload_n 0, 1) := dk_42 (dk_at dksX6_read_0 5 rfl rfl)
theorem dX6_read_6 : decode cX6_read 6 = .ok (.iconst 0, 1) := dk_3 (dk_at dksX6_read_0 6 rfl rfl)
theorem dX6_read_7 : decode cX6_read 7 = .ok (.putfield 19, 3) := dk_181 0 19 (dk_at dksX6_read_0 7 rfl rfl)
theorem dX6_read_10 : decode cX6_read 10 = .ok (.iconst 0, 1) := dk_3 (dk_at dksX6_read_0 10 rfl rfl)
theorem dX6_read_11 : decode cX6_read 11 = .ok (.istore_n 2, 1) := dk_61 (dk_at dksX6_read_0 11 rfl rfl)
theorem dX6_read_12 : decode cX6_read 12 = .ok (.aload_n 0, 1) := dk_42 (dk_at dksX6_read_0 12 rfl rfl)
theorem dX6_read_13 : decode cX6_read 13 = .ok (.invokevirtual 23, 3) := dk_182 0 23 (dk_at dksX6_read_0 13 rfl rfl)
theorem dX6_read_16 : decode cX6_read 16 = .ok (.aload_n 0, 1) := dk_42 (dk_at dksX6_read_0 16 rfl rfl)
theorem dX6_read_17 : decode cX6_read 17 = .ok (.getfield 27, 3) := dk_180 0 27 (dk_at dksX6_read_0 17 rfl rfl)
theorem dX6_read_20 : decode cX6_read 20 = .ok (.ifCond .eq 99, 3) := dk_153 0 99 (dk_at dksX6_read_0 20 rfl rfl)
theorem dX6_read_23 : decode cX6_read 23 = .ok (.aload_n 0, 1) := dk_42 (dk_at dksX6_read_0 23 rfl rfl)
theorem dX6_read_24 : decode cX6_read 24 = .ok (.aload_n 0, 1) := dk_42 (dk_at dksX6_read_1 0 rfl rfl)
theorem dX6_read_25 : decode cX6_read 25 = .ok (.getfield 3, 3) := dk_180 0 3 (dk_at dksX6_read_1 1 rfl rfl)
theorem dX6_read_28 : decode cX6_read 28 = .ok (.getfield 30, 3) := dk_180 0 30 (dk_at dksX6_read_1 4 rfl rfl)
theorem dX6_read_31 : decode cX6_read 31 = .ok (.invokevirtual 34, 3) := dk_182 0 34 (dk_at dksX6_read_1 7 rfl rfl)
theorem dX6_read_34 : decode cX6_read 34 = .ok (.istore_n 3, 1) := dk_62 (dk_at dksX6_read_1 10 rfl rfl)
theorem dX6_read_35 : decode cX6_read 35 = .ok (.aload_n 0, 1) := dk_42 (dk_at dksX6_read_1 11 rfl rfl)
theorem dX6_read_36 : decode cX6_read 36 = .ok (.iload_n 3, 1) := dk_29 (dk_at dksX6_read_1 12 rfl rfl)
theorem dX6_read_37 : decode cX6_read 37 = .ok (.iconst (-1), 1) := dk_2 (dk_at dksX6_read_1 13 rfl rfl)
theorem dX6_read_38 : decode cX6_read 38 = .ok (.if_icmp .eq 7, 3) := dk_159 0 7 (dk_at dksX6_read_1 14 rfl rfl)
theorem dX6_read_41 : decode cX6_read 41 = .ok (.iconst 1, 1) := dk_4 (dk_at dksX6_read_1 17 rfl rfl)
theorem dX6_read_42 : decode cX6_read 42 = .ok (.goto 4, 3) := dk_167 0 4 (dk_at dksX6_read_1 18 rfl rfl)
theorem dX6_read_45 : decode cX6_read 45 = .ok (.iconst 0, 1) := dk_3 (dk_at dksX6_read_1 21 rfl rfl)
theorem dX6_read_46 : decode cX6_read 46 = .ok (.iconst 1, 1) := dk_4 (dk_at dksX6_read_1 22 rfl rfl)
theorem dX6_read_47 : decode cX6_read 47 = .ok (.invokevirtual 38, 3) := dk_182 0 38 (dk_at dksX6_read_2 0 rfl rfl)
theorem dX6_read_50 : decode cX6_read 50 = .ok (.aload_n 0, 1) := dk_42 (dk_at dksX6_read_2 3 rfl rfl)
theorem dX6_read_51 : decode cX6_read 51 = .ok (.iload_n 3, 1) := dk_29 (dk_at dksX6_read_2 4 rfl rfl)
theorem dX6_read_52 : decode cX6_read 52 = .ok (.iconst 5, 1) := dk_8 (dk_at dksX6_read_2 5 rfl rfl)
theorem dX6_read_53 : decode cX6_read 53 = .ok (.if_icmp .lt 14, 3) := dk_161 0 14 (dk_at dksX6_read_2 6 rfl rfl)
theorem dX6_read_56 : decode cX6_read 56 = .ok (.aload_n 0, 1) := dk_42 (dk_at dksX6_read_2 9 rfl rfl)
theorem dX6_read_57 : decode cX6_read 57 = .ok (.getfield 19, 3) := dk_180 0 19 (dk_at dksX6_read_2 10 rfl rfl)
theorem dX6_read_60 : decode cX6_read 60 = .ok (.iload_n 3, 1) := dk_29 (dk_at dksX6_read_2 13 rfl rfl)
theorem dX6_read_61 : decode cX6_read 61 = .ok (.invokestatic 42, 3) := dk_184 0 42 (dk_at dksX6_read_2 14 rfl rfl)
theorem dX6_read_64 : decode cX6_read 64 = .ok (.ifCond .ne 7, 3) := dk_154 0 7 (dk_at dksX6_read_2 17 rfl rfl)
theorem dX6_read_67 : decode cX6_read 67 = .ok (.iconst 1, 1) := dk_4 (dk_at dksX6_read_2 20 rfl rfl)
theorem dX6_read_68 : decode cX6_read 68 = .ok (.goto 4, 3) := dk_167 0 4 (dk_at dksX6_read_2 21 rfl rfl)
theorem dX6_read_71 : decode cX6_read 71 = .ok (.iconst 0, 1) := dk_3 (dk_at dksX6_read_3 0 rfl rfl)
theorem dX6_read_72 : decode cX6_read 72 = .ok (.iconst 3, 1) := dk_6 (dk_at dksX6_read_3 1 rfl rfl)
theorem dX6_read_73 : decode cX6_read 73 = .ok (.invokevirtual 38, 3) := dk_182 0 38 (dk_at dksX6_read_3 2 rfl rfl)
theorem dX6_read_76 : decode cX6_read 76 = .ok (.aload_n 0, 1) := dk_42 (dk_at dksX6_read_3 5 rfl rfl)
theorem dX6_read_77 : decode cX6_read 77 = .ok (.aload_n 0, 1) := dk_42 (dk_at dksX6_read_3 6 rfl rfl)
theorem dX6_read_78 : decode cX6_read 78 = .ok (.iload_n 3, 1) := dk_29 (dk_at dksX6_read_3 7 rfl rfl)
theorem dX6_read_79 : decode cX6_read 79 = .ok (.invokevirtual 46, 3) := dk_182 0 46 (dk_at dksX6_read_3 8 rfl rfl)
theorem dX6_read_82 : decode cX6_read 82 = .ok (.iconst 4, 1) := dk_7 (dk_at dksX6_read_3 11 rfl rfl)
theorem dX6_read_83 : decode cX6_read 83 = .ok (.invokevirtual 38, 3) := dk_182 0 38 (dk_at dksX6_read_3 12 rfl rfl)
theorem dX6_read_86 : decode cX6_read 86 = .ok (.aload_n 0, 1) := dk_42 (dk_at dksX6_read_3 15 rfl rfl)
theorem dX6_read_87 : decode cX6_read 87 = .ok (.dup, 1) := dk_89 (dk_at dksX6_read_3 16 rfl rfl)
theorem dX6_read_88 : decode cX6_read 88 = .ok (.getfield 19, 3) := dk_180 0 19 (dk_at dksX6_read_3 17 rfl rfl)
theorem dX6_read_91 : decode cX6_read 91 = .ok (.iconst 1, 1) := dk_4 (dk_at dksX6_read_3 20 rfl rfl)
theorem dX6_read_92 : decode cX6_read 92 = .ok (.iload_n 3, 1) := dk_29 (dk_at dksX6_read_3 21 rfl rfl)
theorem dX6_read_93 : decode cX6_read 93 = .ok (.ishl, 1) := dk_120 (dk_at dksX6_read_3 22 rfl rfl)
theorem dX6_read_94 : decode cX6_read 94 = .ok (.ior, 1) := dk_128 (dk_at dksX6_read_3 23 rfl rfl)
theorem dX6_read_95 : decode cX6_read 95 = .ok (.putfield 19, 3) := dk_181 0 19 (dk_at dksX6_read_4 0 rfl rfl)
theorem dX6_read_98 : decode cX6_read 98 = .ok (.aload_n 0, 1) := dk_42 (dk_at dksX6_read_4 3 rfl rfl)
theorem dX6_read_99 : decode cX6_read 99 = .ok (.invokevirtual 50, 3) := dk_182 0 50 (dk_at dksX6_read_4 4 rfl rfl)
theorem dX6_read_102 : decode cX6_read 102 = .ok (.aload_n 0, 1) := dk_42 (dk_at dksX6_read_4 7 rfl rfl)
theorem dX6_read_103 : decode cX6_read 103 = .ok (.iload_n 3, 1) := dk_29 (dk_at dksX6_read_4 8 rfl rfl)
theorem dX6_read_104 : decode cX6_read 104 = .ok (.invokevirtual 53, 3) := dk_182 0 53 (dk_at dksX6_read_4 9 rfl rfl)
theorem dX6_read_107 : decode cX6_read 107 = .ok (.aload_n 0, 1) := dk_42 (dk_at dksX6_read_4 12 rfl rfl)
theorem dX6_read_108 : decode cX6_read 108 = .ok (.bipush 59, 2) := dk_16 59 (dk_at dksX6_read_4 13 rfl rfl)
theorem dX6_read_110 : decode cX6_read 110 = .ok (.invokevirtual 57, 3) := dk_182 0 57 (dk_at dksX6_read_4 15 rfl rfl)
theorem dX6_read_113 : decode cX6_read 113 = .ok (.iinc 2 1, 3) := dk_132 2 1 (dk_at dksX6_read_4 18 rfl rfl)
theorem dX6_read_116 : decode cX6_read 116 = .ok (.goto (-100), 3) := dk_167 255 156 (dk_at dksX6_read_4 21 rfl rfl)
theorem dX6_read_119 : decode cX6_read 119 = .ok (.iload_n 2, 1) := dk_28 (dk_at dksX6_read_5 0 rfl rfl)
theorem dX6_read_120 : decode cX6_read 120 = .ok (.ireturn, 1) := dk_172 (dk_at dksX6_read_5 1 rfl rfl)
abbrev cX6_isRoom : ByteArray := prog_12_method_3_code
def yX6_isRoom : MethodName := ⟨RX6, "isRoom", "(I)Z"⟩
def dkwX6_isRoom_4 : List UInt8 := [167, 0, 4, 3, 172, 42, 180, 0, 15, 180, 0, 71, 8, 162, 0, 7, 4, 167, 0, 4, 3, 172, 4, 172]
abbrev dktX6_isRoom_4 : List UInt8 := dkwX6_isRoom_4 ++ []
def dkwX6_isRoom_3 : List UInt8 := [16, 6, 162, 0, 7, 4, 167, 0, 4, 3, 172, 42, 180, 0, 15, 180, 0, 68, 7, 162, 0, 7, 4]
abbrev dktX6_isRoom_3 : List UInt8 := dkwX6_isRoom_3 ++ dktX6_isRoom_4
def dkwX6_isRoom_2 : List UInt8 := [42, 180, 0, 15, 180, 0, 60, 8, 162, 0, 7, 4, 167, 0, 4, 3, 172, 42, 180, 0, 15, 180, 0, 65]
abbrev dktX6_isRoom_2 : List UInt8 := dkwX6_isRoom_2 ++ dktX6_isRoom_3
def dkwX6_isRoom_1 : List UInt8 := [170, 0, 0, 0, 0, 0, 104, 0, 0, 0, 0, 0, 0, 0, 4, 0, 0, 0, 35, 0, 0, 0, 104, 0, 0, 0, 52, 0, 0, 0, 70, 0, 0, 0, 87]
abbrev dktX6_isRoom_1 : List UInt8 := dkwX6_isRoom_1 ++ dktX6_isRoom_2
def dkwX6_isRoom_0 : List UInt8 := [27]
abbrev dktX6_isRoom_0 : List UInt8 := dkwX6_isRoom_0 ++ dktX6_isRoom_1
theorem dksX6_isRoom_0 : cX6_isRoom.data.toList.drop 0 = dktX6_isRoom_0 := by decide +kernel
theorem dksX6_isRoom_1 : cX6_isRoom.data.toList.drop 1 = dktX6_isRoom_1 := dk_seg dksX6_isRoom_0 1 rfl rfl
theorem dksX6_isRoom_2 : cX6_isRoom.data.toList.drop 36 = dktX6_isRoom_2 := dk_seg dksX6_isRoom_1 35 rfl rfl
theorem dksX6_isRoom_3 : cX6_isRoom.data.toList.drop 60 = dktX6_isRoom_3 := dk_seg dksX6_isRoom_2 24 rfl rfl
theorem dksX6_isRoom_4 : cX6_isRoom.data.toList.drop 83 = dktX6_isRoom_4 := dk_seg dksX6_isRoom_3 23 rfl rfl
theorem dX6_isRoom_0 : decode cX6_isRoom 0 = .ok (.iload_n 1, 1) := dk_27 (dk_at dksX6_isRoom_0 0 rfl rfl)
theorem dX6_isRoom_1 : decode cX6_isRoom 1 = .ok (.tableswitch 104 0 4 #[35, 104, 52, 70, 87], 35) := by decide +kernel
theorem dX6_isRoom_36 : decode cX6_isRoom 36 = .ok (.aload_n 0, 1) := dk_42 (dk_at dksX6_isRoom_2 0 rfl rfl)
theorem dX6_isRoom_37 : decode cX6_isRoom 37 = .ok (.getfield 15, 3) := dk_180 0 15 (dk_at dksX6_isRoom_2 1 rfl rfl)
theorem dX6_isRoom_40 : decode cX6_isRoom 40 = .ok (.getfield 60, 3) := dk_180 0 60 (dk_at dksX6_isRoom_2 4 rfl rfl)
theorem dX6_isRoom_43 : decode cX6_isRoom 43 = .ok (.iconst 5, 1) := dk_8 (dk_at dksX6_isRoom_2 7 rfl rfl)
theorem dX6_isRoom_44 : decode cX6_isRoom 44 = .ok (.if_icmp .ge 7, 3) := dk_162 0 7 (dk_at dksX6_isRoom_2 8 rfl rfl)
theorem dX6_isRoom_47 : decode cX6_isRoom 47 = .ok (.iconst 1, 1) := dk_4 (dk_at dksX6_isRoom_2 11 rfl rfl)
theorem dX6_isRoom_48 : decode cX6_isRoom 48 = .ok (.goto 4, 3) := dk_167 0 4 (dk_at dksX6_isRoom_2 12 rfl rfl)
theorem dX6_isRoom_51 : decode cX6_isRoom 51 = .ok (.iconst 0, 1) := dk_3 (dk_at dksX6_isRoom_2 15 rfl rfl)
theorem dX6_isRoom_52 : decode cX6_isRoom 52 = .ok (.ireturn, 1) := dk_172 (dk_at dksX6_isRoom_2 16 rfl rfl)
theorem dX6_isRoom_53 : decode cX6_isRoom 53 = .ok (.aload_n 0, 1) := dk_42 (dk_at dksX6_isRoom_2 17 rfl rfl)
theorem dX6_isRoom_54 : decode cX6_isRoom 54 = .ok (.getfield 15, 3) := dk_180 0 15 (dk_at dksX6_isRoom_2 18 rfl rfl)
theorem dX6_isRoom_57 : decode cX6_isRoom 57 = .ok (.getfield 65, 3) := dk_180 0 65 (dk_at dksX6_isRoom_2 21 rfl rfl)
theorem dX6_isRoom_60 : decode cX6_isRoom 60 = .ok (.bipush 6, 2) := dk_16 6 (dk_at dksX6_isRoom_3 0 rfl rfl)
theorem dX6_isRoom_62 : decode cX6_isRoom 62 = .ok (.if_icmp .ge 7, 3) := dk_162 0 7 (dk_at dksX6_isRoom_3 2 rfl rfl)
theorem dX6_isRoom_65 : decode cX6_isRoom 65 = .ok (.iconst 1, 1) := dk_4 (dk_at dksX6_isRoom_3 5 rfl rfl)
theorem dX6_isRoom_66 : decode cX6_isRoom 66 = .ok (.goto 4, 3) := dk_167 0 4 (dk_at dksX6_isRoom_3 6 rfl rfl)
theorem dX6_isRoom_69 : decode cX6_isRoom 69 = .ok (.iconst 0, 1) := dk_3 (dk_at dksX6_isRoom_3 9 rfl rfl)
theorem dX6_isRoom_70 : decode cX6_isRoom 70 = .ok (.ireturn, 1) := dk_172 (dk_at dksX6_isRoom_3 10 rfl rfl)
theorem dX6_isRoom_71 : decode cX6_isRoom 71 = .ok (.aload_n 0, 1) := dk_42 (dk_at dksX6_isRoom_3 11 rfl rfl)
theorem dX6_isRoom_72 : decode cX6_isRoom 72 = .ok (.getfield 15, 3) := dk_180 0 15 (dk_at dksX6_isRoom_3 12 rfl rfl)
theorem dX6_isRoom_75 : decode cX6_isRoom 75 = .ok (.getfield 68, 3) := dk_180 0 68 (dk_at dksX6_isRoom_3 15 rfl rfl)
theorem dX6_isRoom_78 : decode cX6_isRoom 78 = .ok (.iconst 4, 1) := dk_7 (dk_at dksX6_isRoom_3 18 rfl rfl)
theorem dX6_isRoom_79 : decode cX6_isRoom 79 = .ok (.if_icmp .ge 7, 3) := dk_162 0 7 (dk_at dksX6_isRoom_3 19 rfl rfl)
theorem dX6_isRoom_82 : decode cX6_isRoom 82 = .ok (.iconst 1, 1) := dk_4 (dk_at dksX6_isRoom_3 22 rfl rfl)
theorem dX6_isRoom_83 : decode cX6_isRoom 83 = .ok (.goto 4, 3) := dk_167 0 4 (dk_at dksX6_isRoom_4 0 rfl rfl)
theorem dX6_isRoom_86 : decode cX6_isRoom 86 = .ok (.iconst 0, 1) := dk_3 (dk_at dksX6_isRoom_4 3 rfl rfl)
theorem dX6_isRoom_87 : decode cX6_isRoom 87 = .ok (.ireturn, 1) := dk_172 (dk_at dksX6_isRoom_4 4 rfl rfl)
theorem dX6_isRoom_88 : decode cX6_isRoom 88 = .ok (.aload_n 0, 1) := dk_42 (dk_at dksX6_isRoom_4 5 rfl rfl)
theorem dX6_isRoom_89 : decode cX6_isRoom 89 = .ok (.getfield 15, 3) := dk_180 0 15 (dk_at dksX6_isRoom_4 6 rfl rfl)
theorem dX6_isRoom_92 : decode cX6_isRoom 92 = .ok (.getfield 71, 3) := dk_180 0 71 (dk_at dksX6_isRoom_4 9 rfl rfl)
theorem dX6_isRoom_95 : decode cX6_isRoom 95 = .ok (.iconst 5, 1) := dk_8 (dk_at dksX6_isRoom_4 12 rfl rfl)
theorem dX6_isRoom_96 : decode cX6_isRoom 96 = .ok (.if_icmp .ge 7, 3) := dk_162 0 7 (dk_at dksX6_isRoom_4 13 rfl rfl)
theorem dX6_isRoom_99 : decode cX6_isRoom 99 = .ok (.iconst 1, 1) := dk_4 (dk_at dksX6_isRoom_4 16 rfl rfl)
theorem dX6_isRoom_100 : decode cX6_isRoom 100 = .ok (.goto 4, 3) := dk_167 0 4 (dk_at dksX6_isRoom_4 17 rfl rfl)
theorem dX6_isRoom_103 : decode cX6_isRoom 103 = .ok (.iconst 0, 1) := dk_3 (dk_at dksX6_isRoom_4 20 rfl rfl)
theorem dX6_isRoom_104 : decode cX6_isRoom 104 = .ok (.ireturn, 1) := dk_172 (dk_at dksX6_isRoom_4 21 rfl rfl)
theorem dX6_isRoom_105 : decode cX6_isRoom 105 = .ok (.iconst 1, 1) := dk_4 (dk_at dksX6_isRoom_4 22 rfl rfl)
theorem dX6_isRoom_106 : decode cX6_isRoom 106 = .ok (.ireturn, 1) := dk_172 (dk_at dksX6_isRoom_4 23 rfl rfl)
abbrev cX6_line : ByteArray := prog_12_method_5_code
def yX6_line : MethodName := ⟨RX6, "line", "(I)V"⟩
def dkwX6_line_17 : List UInt8 := [181, 0, 135, 177]
abbrev dktX6_line_17 : List UInt8 := dkwX6_line_17 ++ []
def dkwX6_line_16 : List UInt8 := [42, 4, 16, 60, 182, 0, 119, 181, 0, 132, 167, 0, 17, 42, 180, 0, 15, 42, 4, 16, 6, 182, 0, 119]
abbrev dktX6_line_16 : List UInt8 := dkwX6_line_16 ++ dktX6_line_17
def dkwX6_line_15 : List UInt8 := [182, 0, 99, 80, 42, 180, 0, 15, 89, 180, 0, 71, 4, 96, 181, 0, 71, 167, 0, 34, 42, 180, 0, 15]
abbrev dktX6_line_15 : List UInt8 := dkwX6_line_15 ++ dktX6_line_16
def dkwX6_line_14 : List UInt8 := [96, 181, 0, 68, 167, 0, 69, 42, 180, 0, 15, 180, 0, 92, 42, 180, 0, 15, 180, 0, 71, 42]
abbrev dktX6_line_14 : List UInt8 := dkwX6_line_14 ++ dktX6_line_15
def dkwX6_line_13 : List UInt8 := [180, 0, 89, 42, 180, 0, 15, 180, 0, 68, 42, 182, 0, 99, 80, 42, 180, 0, 15, 89, 180, 0, 68, 4]
abbrev dktX6_line_13 : List UInt8 := dkwX6_line_13 ++ dktX6_line_14
def dkwX6_line_12 : List UInt8 := [181, 0, 129, 42, 180, 0, 15, 89, 180, 0, 65, 4, 96, 181, 0, 65, 167, 0, 104, 42, 180, 0, 15]
abbrev dktX6_line_12 : List UInt8 := dkwX6_line_12 ++ dktX6_line_13
def dkwX6_line_11 : List UInt8 := [182, 0, 125, 153, 0, 22, 42, 182, 0, 50, 42, 180, 0, 15, 89, 180, 0, 129, 4, 28, 120, 128]
abbrev dktX6_line_11 : List UInt8 := dkwX6_line_11 ++ dktX6_line_12
def dkwX6_line_10 : List UInt8 := [182, 0, 103, 79, 42, 180, 0, 15, 180, 0, 116, 28, 42, 4, 16, 9, 182, 0, 119, 79, 42, 18, 123]
abbrev dktX6_line_10 : List UInt8 := dkwX6_line_10 ++ dktX6_line_11
def dkwX6_line_9 : List UInt8 := [42, 180, 0, 15, 180, 0, 113, 28, 42, 42, 180, 0, 15, 180, 0, 78, 42, 180, 0, 15, 180, 0, 60]
abbrev dktX6_line_9 : List UInt8 := dkwX6_line_9 ++ dktX6_line_10
def dkwX6_line_8 : List UInt8 := [167, 0, 212, 42, 180, 0, 15, 180, 0, 65, 61, 42, 180, 0, 15, 180, 0, 86, 28, 42, 182, 0, 99, 80]
abbrev dktX6_line_8 : List UInt8 := dkwX6_line_8 ++ dktX6_line_9
def dkwX6_line_7 : List UInt8 := [92, 46, 4, 29, 120, 128, 79, 42, 180, 0, 15, 180, 0, 109, 29, 92, 46, 4, 28, 120, 128, 79]
abbrev dktX6_line_7 : List UInt8 := dkwX6_line_7 ++ dktX6_line_8
def dkwX6_line_6 : List UInt8 := [154, 0, 7, 4, 167, 0, 4, 3, 6, 182, 0, 38, 42, 182, 0, 50, 42, 180, 0, 15, 180, 0, 109, 28]
abbrev dktX6_line_6 : List UInt8 := dkwX6_line_6 ++ dktX6_line_7
def dkwX6_line_5 : List UInt8 := [182, 0, 106, 62, 42, 28, 29, 159, 0, 23, 42, 180, 0, 15, 180, 0, 109, 28, 46, 29, 184, 0, 42]
abbrev dktX6_line_5 : List UInt8 := dkwX6_line_5 ++ dktX6_line_6
def dkwX6_line_4 : List UInt8 := [180, 0, 60, 182, 0, 103, 61, 42, 42, 180, 0, 15, 180, 0, 78, 42, 180, 0, 15, 180, 0, 60]
abbrev dktX6_line_4 : List UInt8 := dkwX6_line_4 ++ dktX6_line_5
def dkwX6_line_3 : List UInt8 := [180, 0, 60, 4, 96, 181, 0, 60, 167, 1, 62, 42, 42, 180, 0, 15, 180, 0, 78, 42, 180, 0, 15]
abbrev dktX6_line_3 : List UInt8 := dkwX6_line_3 ++ dktX6_line_4
def dkwX6_line_2 : List UInt8 := [42, 180, 0, 15, 180, 0, 78, 42, 180, 0, 15, 180, 0, 60, 42, 182, 0, 99, 80, 42, 180, 0, 15, 89]
abbrev dktX6_line_2 : List UInt8 := dkwX6_line_2 ++ dktX6_line_3
def dkwX6_line_1 : List UInt8 := [170, 0, 0, 0, 0, 1, 119, 0, 0, 0, 0, 0, 0, 0, 5, 0, 0, 0, 39, 0, 0, 0, 74, 0, 0, 0, 180, 0, 0, 1, 32, 0, 0, 1, 67, 0, 0, 1, 102]
abbrev dktX6_line_1 : List UInt8 := dkwX6_line_1 ++ dktX6_line_2
def dkwX6_line_0 : List UInt8 := [27]
abbrev dktX6_line_0 : List UInt8 := dkwX6_line_0 ++ dktX6_line_1
theorem dksX6_line_0 : cX6_line.data.toList.drop 0 = dktX6_line_0 := by decide +kernel
theorem dksX6_line_1 : cX6_line.data.toList.drop 1 = dktX6_line_1 := dk_seg dksX6_line_0 1 rfl rfl
theorem dksX6_line_2 : cX6_line.data.toList.drop 40 = dktX6_line_2 := dk_seg dksX6_line_1 39 rfl rfl
theorem dksX6_line_3 : cX6_line.data.toList.drop 64 = dktX6_line_3 := dk_seg dksX6_line_2 24 rfl rfl
theorem dksX6_line_4 : cX6_line.data.toList.drop 87 = dktX6_line_4 := dk_seg dksX6_line_3 23 rfl rfl
theorem dksX6_line_5 : cX6_line.data.toList.drop 109 = dktX6_line_5 := dk_seg dksX6_line_4 22 rfl rfl
theorem dksX6_line_6 : cX6_line.data.toList.drop 132 = dktX6_line_6 := dk_seg dksX6_line_5 23 rfl rfl
theorem dksX6_line_7 : cX6_line.data.toList.drop 156 = dktX6_line_7 := dk_seg dksX6_line_6 24 rfl rfl
theorem dksX6_line_8 : cX6_line.data.toList.drop 178 = dktX6_line_8 := dk_seg dksX6_line_7 22 rfl rfl
theorem dksX6_line_9 : cX6_line.data.toList.drop 202 = dktX6_line_9 := dk_seg dksX6_line_8 24 rfl rfl
theorem dksX6_line_10 : cX6_line.data.toList.drop 225 = dktX6_line_10 := dk_seg dksX6_line_9 23 rfl rfl
theorem dksX6_line_11 : cX6_line.data.toList.drop 248 = dktX6_line_11 := dk_seg dksX6_line_10 23 rfl rfl
theorem dksX6_line_12 : cX6_line.data.toList.drop 270 = dktX6_line_12 := dk_seg dksX6_line_11 22 rfl rfl
theorem dksX6_line_13 : cX6_line.data.toList.drop 293 = dktX6_line_13 := dk_seg dksX6_line_12 23 rfl rfl
theorem dksX6_line_14 : cX6_line.data.toList.drop 317 = dktX6_line_14 := dk_seg dksX6_line_13 24 rfl rfl
theorem dksX6_line_15 : cX6_line.data.toList.drop 339 = dktX6_line_15 := dk_seg dksX6_line_14 22 rfl rfl
theorem dksX6_line_16 : cX6_line.data.toList.drop 363 = dktX6_line_16 := dk_seg dksX6_line_15 24 rfl rfl
theorem dksX6_line_17 : cX6_line.data.toList.drop 387 = dktX6_line_17 := dk_seg dksX6_line_16 24 rfl rfl
theorem dX6_line_0 : decode cX6_line 0 = .ok (.iload_n 1, 1) := dk_27 (dk_at dksX6_line_0 0 rfl rfl)
theorem dX6_line_1 : decode cX6_line 1 = .ok (.tableswitch 375 0 5 #[39, 74, 180, 288, 323, 358], 39) := by decide +kernel
theorem dX6_line_40 : decode cX6_line 40 = .ok (.aload_n 0, 1) := dk_42 (dk_at dksX6_line_2 0 rfl rfl)
theorem dX6_line_41 : decode cX6_line 41 = .ok (.getfield 15, 3) := dk_180 0 15 (dk_at dksX6_line_2 1 rfl rfl)
theorem dX6_line_44 : decode cX6_line 44 = .ok (.getfield 78, 3) := dk_180 0 78 (dk_at dksX6_line_2 4 rfl rfl)
theorem dX6_line_47 : decode cX6_line 47 = .ok (.aload_n 0, 1) := dk_42 (dk_at dksX6_line_2 7 rfl rfl)
theorem dX6_line_48 : decode cX6_line 48 = .ok (.getfield 15, 3) := dk_180 0 15 (dk_at dksX6_line_2 8 rfl rfl)
theorem dX6_line_51 : decode cX6_line 51 = .ok (.getfield 60, 3) := dk_180 0 60 (dk_at dksX6_line_2 11 rfl rfl)
theorem dX6_line_54 : decode cX6_line 54 = .ok (.aload_n 0, 1) := dk_42 (dk_at dksX6_line_2 14 rfl rfl)
theorem dX6_line_55 : decode cX6_line 55 = .ok (.invokevirtual 99, 3) := dk_182 0 99 (dk_at dksX6_line_2 15 rfl rfl)
theorem dX6_line_58 : decode cX6_line 58 = .ok (.lastore, 1) := dk_80 (dk_at dksX6_line_2 18 rfl rfl)
theorem dX6_line_59 : decode cX6_line 59 = .ok (.aload_n 0, 1) := dk_42 (dk_at dksX6_line_2 19 rfl rfl)
theorem dX6_line_60 : decode cX6_line 60 = .ok (.getfield 15, 3) := dk_180 0 15 (dk_at dksX6_line_2 20 rfl rfl)
theorem dX6_line_63 : decode cX6_line 63 = .ok (.dup, 1) := dk_89 (dk_at dksX6_line_2 23 rfl rfl)
theorem dX6_line_64 : decode cX6_line 64 = .ok (.getfield 60, 3) := dk_180 0 60 (dk_at dksX6_line_3 0 rfl rfl)
theorem dX6_line_67 : decode cX6_line 67 = .ok (.iconst 1, 1) := dk_4 (dk_at dksX6_line_3 3 rfl rfl)
theorem dX6_line_68 : decode cX6_line 68 = .ok (.iadd, 1) := dk_96 (dk_at dksX6_line_3 4 rfl rfl)
theorem dX6_line_69 : decode cX6_line 69 = .ok (.putfield 60, 3) := dk_181 0 60 (dk_at dksX6_line_3 5 rfl rfl)
theorem dX6_line_72 : decode cX6_line 72 = .ok (.goto 318, 3) := dk_167 1 62 (dk_at dksX6_line_3 8 rfl rfl)
theorem dX6_line_75 : decode cX6_line 75 = .ok (.aload_n 0, 1) := dk_42 (dk_at dksX6_line_3 11 rfl rfl)
theorem dX6_line_76 : decode cX6_line 76 = .ok (.aload_n 0, 1) := dk_42 (dk_at dksX6_line_3 12 rfl rfl)
theorem dX6_line_77 : decode cX6_line 77 = .ok (.getfield 15, 3) := dk_180 0 15 (dk_at dksX6_line_3 13 rfl rfl)
theorem dX6_line_80 : decode cX6_line 80 = .ok (.getfield 78, 3) := dk_180 0 78 (dk_at dksX6_line_3 16 rfl rfl)
theorem dX6_line_83 : decode cX6_line 83 = .ok (.aload_n 0, 1) := dk_42 (dk_at dksX6_line_3 19 rfl rfl)
theorem dX6_line_84 : decode cX6_line 84 = .ok (.getfield 15, 3) := dk_180 0 15 (dk_at dksX6_line_3 20 rfl rfl)
theorem dX6_line_87 : decode cX6_line 87 = .ok (.getfield 60, 3) := dk_180 0 60 (dk_at dksX6_line_4 0 rfl rfl)
theorem dX6_line_90 : decode cX6_line 90 = .ok (.invokevirtual 103, 3) := dk_182 0 103 (dk_at dksX6_line_4 3 rfl rfl)
theorem dX6_line_93 : decode cX6_line 93 = .ok (.istore_n 2, 1) := dk_61 (dk_at dksX6_line_4 6 rfl rfl)
theorem dX6_line_94 : decode cX6_line 94 = .ok (.aload_n 0, 1) := dk_42 (dk_at dksX6_line_4 7 rfl rfl)
theorem dX6_line_95 : decode cX6_line 95 = .ok (.aload_n 0, 1) := dk_42 (dk_at dksX6_line_4 8 rfl rfl)
theorem dX6_line_96 : decode cX6_line 96 = .ok (.getfield 15, 3) := dk_180 0 15 (dk_at dksX6_line_4 9 rfl rfl)
theorem dX6_line_99 : decode cX6_line 99 = .ok (.getfield 78, 3) := dk_180 0 78 (dk_at dksX6_line_4 12 rfl rfl)
theorem dX6_line_102 : decode cX6_line 102 = .ok (.aload_n 0, 1) := dk_42 (dk_at dksX6_line_4 15 rfl rfl)
theorem dX6_line_103 : decode cX6_line 103 = .ok (.getfield 15, 3) := dk_180 0 15 (dk_at dksX6_line_4 16 rfl rfl)
theorem dX6_line_106 : decode cX6_line 106 = .ok (.getfield 60, 3) := dk_180 0 60 (dk_at dksX6_line_4 19 rfl rfl)
theorem dX6_line_109 : decode cX6_line 109 = .ok (.invokevirtual 106, 3) := dk_182 0 106 (dk_at dksX6_line_5 0 rfl rfl)
theorem dX6_line_112 : decode cX6_line 112 = .ok (.istore_n 3, 1) := dk_62 (dk_at dksX6_line_5 3 rfl rfl)
theorem dX6_line_113 : decode cX6_line 113 = .ok (.aload_n 0, 1) := dk_42 (dk_at dksX6_line_5 4 rfl rfl)
theorem dX6_line_114 : decode cX6_line 114 = .ok (.iload_n 2, 1) := dk_28 (dk_at dksX6_line_5 5 rfl rfl)
theorem dX6_line_115 : decode cX6_line 115 = .ok (.iload_n 3, 1) := dk_29 (dk_at dksX6_line_5 6 rfl rfl)
theorem dX6_line_116 : decode cX6_line 116 = .ok (.if_icmp .eq 23, 3) := dk_159 0 23 (dk_at dksX6_line_5 7 rfl rfl)
theorem dX6_line_119 : decode cX6_line 119 = .ok (.aload_n 0, 1) := dk_42 (dk_at dksX6_line_5 10 rfl rfl)
theorem dX6_line_120 : decode cX6_line 120 = .ok (.getfield 15, 3) := dk_180 0 15 (dk_at dksX6_line_5 11 rfl rfl)
theorem dX6_line_123 : decode cX6_line 123 = .ok (.getfield 109, 3) := dk_180 0 109 (dk_at dksX6_line_5 14 rfl rfl)
theorem dX6_line_126 : decode cX6_line 126 = .ok (.iload_n 2, 1) := dk_28 (dk_at dksX6_line_5 17 rfl rfl)
theorem dX6_line_127 : decode cX6_line 127 = .ok (.iaload, 1) := dk_46 (dk_at dksX6_line_5 18 rfl rfl)
theorem dX6_line_128 : decode cX6_line 128 = .ok (.iload_n 3, 1) := dk_29 (dk_at dksX6_line_5 19 rfl rfl)
theorem dX6_line_129 : decode cX6_line 129 = .ok (.invokestatic 42, 3) := dk_184 0 42 (dk_at dksX6_line_5 20 rfl rfl)
theorem dX6_line_132 : decode cX6_line 132 = .ok (.ifCond .ne 7, 3) := dk_154 0 7 (dk_at dksX6_line_6 0 rfl rfl)
theorem dX6_line_135 : decode cX6_line 135 = .ok (.iconst 1, 1) := dk_4 (dk_at dksX6_line_6 3 rfl rfl)
theorem dX6_line_136 : decode cX6_line 136 = .ok (.goto 4, 3) := dk_167 0 4 (dk_at dksX6_line_6 4 rfl rfl)
theorem dX6_line_139 : decode cX6_line 139 = .ok (.iconst 0, 1) := dk_3 (dk_at dksX6_line_6 7 rfl rfl)
theorem dX6_line_140 : decode cX6_line 140 = .ok (.iconst 3, 1) := dk_6 (dk_at dksX6_line_6 8 rfl rfl)
theorem dX6_line_141 : decode cX6_line 141 = .ok (.invokevirtual 38, 3) := dk_182 0 38 (dk_at dksX6_line_6 9 rfl rfl)
theorem dX6_line_144 : decode cX6_line 144 = .ok (.aload_n 0, 1) := dk_42 (dk_at dksX6_line_6 12 rfl rfl)
theorem dX6_line_145 : decode cX6_line 145 = .ok (.invokevirtual 50, 3) := dk_182 0 50 (dk_at dksX6_line_6 13 rfl rfl)
theorem dX6_line_148 : decode cX6_line 148 = .ok (.aload_n 0, 1) := dk_42 (dk_at dksX6_line_6 16 rfl rfl)
theorem dX6_line_149 : decode cX6_line 149 = .ok (.getfield 15, 3) := dk_180 0 15 (dk_at dksX6_line_6 17 rfl rfl)
theorem dX6_line_152 : decode cX6_line 152 = .ok (.getfield 109, 3) := dk_180 0 109 (dk_at dksX6_line_6 20 rfl rfl)
theorem dX6_line_155 : decode cX6_line 155 = .ok (.iload_n 2, 1) := dk_28 (dk_at dksX6_line_6 23 rfl rfl)
theorem dX6_line_156 : decode cX6_line 156 = .ok (.dup2, 1) := dk_92 (dk_at dksX6_line_7 0 rfl rfl)
theorem dX6_line_157 : decode cX6_line 157 = .ok (.iaload, 1) := dk_46 (dk_at dksX6_line_7 1 rfl rfl)
theorem dX6_line_158 : decode cX6_line 158 = .ok (.iconst 1, 1) := dk_4 (dk_at dksX6_line_7 2 rfl rfl)
theorem dX6_line_159 : decode cX6_line 159 = .ok (.iload_n 3, 1) := dk_29 (dk_at dksX6_line_7 3 rfl rfl)
theorem dX6_line_160 : decode cX6_line 160 = .ok (.ishl, 1) := dk_120 (dk_at dksX6_line_7 4 rfl rfl)
theorem dX6_line_161 : decode cX6_line 161 = .ok (.ior, 1) := dk_128 (dk_at dksX6_line_7 5 rfl rfl)
theorem dX6_line_162 : decode cX6_line 162 = .ok (.iastore, 1) := dk_79 (dk_at dksX6_line_7 6 rfl rfl)
theorem dX6_line_163 : decode cX6_line 163 = .ok (.aload_n 0, 1) := dk_42 (dk_at dksX6_line_7 7 rfl rfl)
theorem dX6_line_164 : decode cX6_line 164 = .ok (.getfield 15, 3) := dk_180 0 15 (dk_at dksX6_line_7 8 rfl rfl)
theorem dX6_line_167 : decode cX6_line 167 = .ok (.getfield 109, 3) := dk_180 0 109 (dk_at dksX6_line_7 11 rfl rfl)
theorem dX6_line_170 : decode cX6_line 170 = .ok (.iload_n 3, 1) := dk_29 (dk_at dksX6_line_7 14 rfl rfl)
theorem dX6_line_171 : decode cX6_line 171 = .ok (.dup2, 1) := dk_92 (dk_at dksX6_line_7 15 rfl rfl)
theorem dX6_line_172 : decode cX6_line 172 = .ok (.iaload, 1) := dk_46 (dk_at dksX6_line_7 16 rfl rfl)
theorem dX6_line_173 : decode cX6_line 173 = .ok (.iconst 1, 1) := dk_4 (dk_at dksX6_line_7 17 rfl rfl)
theorem dX6_line_174 : decode cX6_line 174 = .ok (.iload_n 2, 1) := dk_28 (dk_at dksX6_line_7 18 rfl rfl)
theorem dX6_line_175 : decode cX6_line 175 = .ok (.ishl, 1) := dk_120 (dk_at dksX6_line_7 19 rfl rfl)
theorem dX6_line_176 : decode cX6_line 176 = .ok (.ior, 1) := dk_128 (dk_at dksX6_line_7 20 rfl rfl)
theorem dX6_line_177 : decode cX6_line 177 = .ok (.iastore, 1) := dk_79 (dk_at dksX6_line_7 21 rfl rfl)
theorem dX6_line_178 : decode cX6_line 178 = .ok (.goto 212, 3) := dk_167 0 212 (dk_at dksX6_line_8 0 rfl rfl)
theorem dX6_line_181 : decode cX6_line 181 = .ok (.aload_n 0, 1) := dk_42 (dk_at dksX6_line_8 3 rfl rfl)
theorem dX6_line_182 : decode cX6_line 182 = .ok (.getfield 15, 3) := dk_180 0 15 (dk_at dksX6_line_8 4 rfl rfl)
theorem dX6_line_185 : decode cX6_line 185 = .ok (.getfield 65, 3) := dk_180 0 65 (dk_at dksX6_line_8 7 rfl rfl)
theorem dX6_line_188 : decode cX6_line 188 = .ok (.istore_n 2, 1) := dk_61 (dk_at dksX6_line_8 10 rfl rfl)
theorem dX6_line_189 : decode cX6_line 189 = .ok (.aload_n 0, 1) := dk_42 (dk_at dksX6_line_8 11 rfl rfl)
theorem dX6_line_190 : decode cX6_line 190 = .ok (.getfield 15, 3) := dk_180 0 15 (dk_at dksX6_line_8 12 rfl rfl)
theorem dX6_line_193 : decode cX6_line 193 = .ok (.getfield 86, 3) := dk_180 0 86 (dk_at dksX6_line_8 15 rfl rfl)
theorem dX6_line_196 : decode cX6_line 196 = .ok (.iload_n 2, 1) := dk_28 (dk_at dksX6_line_8 18 rfl rfl)
theorem dX6_line_197 : decode cX6_line 197 = .ok (.aload_n 0, 1) := dk_42 (dk_at dksX6_line_8 19 rfl rfl)
theorem dX6_line_198 : decode cX6_line 198 = .ok (.invokevirtual 99, 3) := dk_182 0 99 (dk_at dksX6_line_8 20 rfl rfl)
theorem dX6_line_201 : decode cX6_line 201 = .ok (.lastore, 1) := dk_80 (dk_at dksX6_line_8 23 rfl rfl)
theorem dX6_line_202 : decode cX6_line 202 = .ok (.aload_n 0, 1) := dk_42 (dk_at dksX6_line_9 0 rfl rfl)
theorem dX6_line_203 : decode cX6_line 203 = .ok (.getfield 15, 3) := dk_180 0 15 (dk_at dksX6_line_9 1 rfl rfl)
theorem dX6_line_206 : decode cX6_line 206 = .ok (.getfield 113, 3) := dk_180 0 113 (dk_at dksX6_line_9 4 rfl rfl)
theorem dX6_line_209 : decode cX6_line 209 = .ok (.iload_n 2, 1) := dk_28 (dk_at dksX6_line_9 7 rfl rfl)
theorem dX6_line_210 : decode cX6_line 210 = .ok (.aload_n 0, 1) := dk_42 (dk_at dksX6_line_9 8 rfl rfl)
theorem dX6_line_211 : decode cX6_line 211 = .ok (.aload_n 0, 1) := dk_42 (dk_at dksX6_line_9 9 rfl rfl)
theorem dX6_line_212 : decode cX6_line 212 = .ok (.getfield 15, 3) := dk_180 0 15 (dk_at dksX6_line_9 10 rfl rfl)
theorem dX6_line_215 : decode cX6_line 215 = .ok (.getfield 78, 3) := dk_180 0 78 (dk_at dksX6_line_9 13 rfl rfl)
theorem dX6_line_218 : decode cX6_line 218 = .ok (.aload_n 0, 1) := dk_42 (dk_at dksX6_line_9 16 rfl rfl)
theorem dX6_line_219 : decode cX6_line 219 = .ok (.getfield 15, 3) := dk_180 0 15 (dk_at dksX6_line_9 17 rfl rfl)
theorem dX6_line_222 : decode cX6_line 222 = .ok (.getfield 60, 3) := dk_180 0 60 (dk_at dksX6_line_9 20 rfl rfl)
theorem dX6_line_225 : decode cX6_line 225 = .ok (.invokevirtual 103, 3) := dk_182 0 103 (dk_at dksX6_line_10 0 rfl rfl)
theorem dX6_line_228 : decode cX6_line 228 = .ok (.iastore, 1) := dk_79 (dk_at dksX6_line_10 3 rfl rfl)
theorem dX6_line_229 : decode cX6_line 229 = .ok (.aload_n 0, 1) := dk_42 (dk_at dksX6_line_10 4 rfl rfl)
theorem dX6_line_230 : decode cX6_line 230 = .ok (.getfield 15, 3) := dk_180 0 15 (dk_at dksX6_line_10 5 rfl rfl)
theorem dX6_line_233 : decode cX6_line 233 = .ok (.getfield 116, 3) := dk_180 0 116 (dk_at dksX6_line_10 8 rfl rfl)
theorem dX6_line_236 : decode cX6_line 236 = .ok (.iload_n 2, 1) := dk_28 (dk_at dksX6_line_10 11 rfl rfl)
theorem dX6_line_237 : decode cX6_line 237 = .ok (.aload_n 0, 1) := dk_42 (dk_at dksX6_line_10 12 rfl rfl)
theorem dX6_line_238 : decode cX6_line 238 = .ok (.iconst 1, 1) := dk_4 (dk_at dksX6_line_10 13 rfl rfl)
theorem dX6_line_239 : decode cX6_line 239 = .ok (.bipush 9, 2) := dk_16 9 (dk_at dksX6_line_10 14 rfl rfl)
theorem dX6_line_241 : decode cX6_line 241 = .ok (.invokevirtual 119, 3) := dk_182 0 119 (dk_at dksX6_line_10 16 rfl rfl)
theorem dX6_line_244 : decode cX6_line 244 = .ok (.iastore, 1) := dk_79 (dk_at dksX6_line_10 19 rfl rfl)
theorem dX6_line_245 : decode cX6_line 245 = .ok (.aload_n 0, 1) := dk_42 (dk_at dksX6_line_10 20 rfl rfl)
theorem dX6_line_246 : decode cX6_line 246 = .ok (.ldc 123, 2) := dk_18 123 (dk_at dksX6_line_10 21 rfl rfl)
theorem dX6_line_248 : decode cX6_line 248 = .ok (.invokevirtual 125, 3) := dk_182 0 125 (dk_at dksX6_line_11 0 rfl rfl)
theorem dX6_line_251 : decode cX6_line 251 = .ok (.ifCond .eq 22, 3) := dk_153 0 22 (dk_at dksX6_line_11 3 rfl rfl)
theorem dX6_line_254 : decode cX6_line 254 = .ok (.aload_n 0, 1) := dk_42 (dk_at dksX6_line_11 6 rfl rfl)
theorem dX6_line_255 : decode cX6_line 255 = .ok (.invokevirtual 50, 3) := dk_182 0 50 (dk_at dksX6_line_11 7 rfl rfl)
theorem dX6_line_258 : decode cX6_line 258 = .ok (.aload_n 0, 1) := dk_42 (dk_at dksX6_line_11 10 rfl rfl)
theorem dX6_line_259 : decode cX6_line 259 = .ok (.getfield 15, 3) := dk_180 0 15 (dk_at dksX6_line_11 11 rfl rfl)
theorem dX6_line_262 : decode cX6_line 262 = .ok (.dup, 1) := dk_89 (dk_at dksX6_line_11 14 rfl rfl)
theorem dX6_line_263 : decode cX6_line 263 = .ok (.getfield 129, 3) := dk_180 0 129 (dk_at dksX6_line_11 15 rfl rfl)
theorem dX6_line_266 : decode cX6_line 266 = .ok (.iconst 1, 1) := dk_4 (dk_at dksX6_line_11 18 rfl rfl)
theorem dX6_line_267 : decode cX6_line 267 = .ok (.iload_n 2, 1) := dk_28 (dk_at dksX6_line_11 19 rfl rfl)
theorem dX6_line_268 : decode cX6_line 268 = .ok (.ishl, 1) := dk_120 (dk_at dksX6_line_11 20 rfl rfl)
theorem dX6_line_269 : decode cX6_line 269 = .ok (.ior, 1) := dk_128 (dk_at dksX6_line_11 21 rfl rfl)
theorem dX6_line_270 : decode cX6_line 270 = .ok (.putfield 129, 3) := dk_181 0 129 (dk_at dksX6_line_12 0 rfl rfl)
theorem dX6_line_273 : decode cX6_line 273 = .ok (.aload_n 0, 1) := dk_42 (dk_at dksX6_line_12 3 rfl rfl)
theorem dX6_line_274 : decode cX6_line 274 = .ok (.getfield 15, 3) := dk_180 0 15 (dk_at dksX6_line_12 4 rfl rfl)
theorem dX6_line_277 : decode cX6_line 277 = .ok (.dup, 1) := dk_89 (dk_at dksX6_line_12 7 rfl rfl)
theorem dX6_line_278 : decode cX6_line 278 = .ok (.getfield 65, 3) := dk_180 0 65 (dk_at dksX6_line_12 8 rfl rfl)
theorem dX6_line_281 : decode cX6_line 281 = .ok (.iconst 1, 1) := dk_4 (dk_at dksX6_line_12 11 rfl rfl)
theorem dX6_line_282 : decode cX6_line 282 = .ok (.iadd, 1) := dk_96 (dk_at dksX6_line_12 12 rfl rfl)
theorem dX6_line_283 : decode cX6_line 283 = .ok (.putfield 65, 3) := dk_181 0 65 (dk_at dksX6_line_12 13 rfl rfl)
theorem dX6_line_286 : decode cX6_line 286 = .ok (.goto 104, 3) := dk_167 0 104 (dk_at dksX6_line_12 16 rfl rfl)
theorem dX6_line_289 : decode cX6_line 289 = .ok (.aload_n 0, 1) := dk_42 (dk_at dksX6_line_12 19 rfl rfl)
theorem dX6_line_290 : decode cX6_line 290 = .ok (.getfield 15, 3) := dk_180 0 15 (dk_at dksX6_line_12 20 rfl rfl)
theorem dX6_line_293 : decode cX6_line 293 = .ok (.getfield 89, 3) := dk_180 0 89 (dk_at dksX6_line_13 0 rfl rfl)
theorem dX6_line_296 : decode cX6_line 296 = .ok (.aload_n 0, 1) := dk_42 (dk_at dksX6_line_13 3 rfl rfl)
theorem dX6_line_297 : decode cX6_line 297 = .ok (.getfield 15, 3) := dk_180 0 15 (dk_at dksX6_line_13 4 rfl rfl)
theorem dX6_line_300 : decode cX6_line 300 = .ok (.getfield 68, 3) := dk_180 0 68 (dk_at dksX6_line_13 7 rfl rfl)
theorem dX6_line_303 : decode cX6_line 303 = .ok (.aload_n 0, 1) := dk_42 (dk_at dksX6_line_13 10 rfl rfl)
theorem dX6_line_304 : decode cX6_line 304 = .ok (.invokevirtual 99, 3) := dk_182 0 99 (dk_at dksX6_line_13 11 rfl rfl)
theorem dX6_line_307 : decode cX6_line 307 = .ok (.lastore, 1) := dk_80 (dk_at dksX6_line_13 14 rfl rfl)
theorem dX6_line_308 : decode cX6_line 308 = .ok (.aload_n 0, 1) := dk_42 (dk_at dksX6_line_13 15 rfl rfl)
theorem dX6_line_309 : decode cX6_line 309 = .ok (.getfield 15, 3) := dk_180 0 15 (dk_at dksX6_line_13 16 rfl rfl)
theorem dX6_line_312 : decode cX6_line 312 = .ok (.dup, 1) := dk_89 (dk_at dksX6_line_13 19 rfl rfl)
theorem dX6_line_313 : decode cX6_line 313 = .ok (.getfield 68, 3) := dk_180 0 68 (dk_at dksX6_line_13 20 rfl rfl)
theorem dX6_line_316 : decode cX6_line 316 = .ok (.iconst 1, 1) := dk_4 (dk_at dksX6_line_13 23 rfl rfl)
theorem dX6_line_317 : decode cX6_line 317 = .ok (.iadd, 1) := dk_96 (dk_at dksX6_line_14 0 rfl rfl)
theorem dX6_line_318 : decode cX6_line 318 = .ok (.putfield 68, 3) := dk_181 0 68 (dk_at dksX6_line_14 1 rfl rfl)
theorem dX6_line_321 : decode cX6_line 321 = .ok (.goto 69, 3) := dk_167 0 69 (dk_at dksX6_line_14 4 rfl rfl)
theorem dX6_line_324 : decode cX6_line 324 = .ok (.aload_n 0, 1) := dk_42 (dk_at dksX6_line_14 7 rfl rfl)
theorem dX6_line_325 : decode cX6_line 325 = .ok (.getfield 15, 3) := dk_180 0 15 (dk_at dksX6_line_14 8 rfl rfl)
theorem dX6_line_328 : decode cX6_line 328 = .ok (.getfield 92, 3) := dk_180 0 92 (dk_at dksX6_line_14 11 rfl rfl)
theorem dX6_line_331 : decode cX6_line 331 = .ok (.aload_n 0, 1) := dk_42 (dk_at dksX6_line_14 14 rfl rfl)
theorem dX6_line_332 : decode cX6_line 332 = .ok (.getfield 15, 3) := dk_180 0 15 (dk_at dksX6_line_14 15 rfl rfl)
theorem dX6_line_335 : decode cX6_line 335 = .ok (.getfield 71, 3) := dk_180 0 71 (dk_at dksX6_line_14 18 rfl rfl)
theorem dX6_line_338 : decode cX6_line 338 = .ok (.aload_n 0, 1) := dk_42 (dk_at dksX6_line_14 21 rfl rfl)
theorem dX6_line_339 : decode cX6_line 339 = .ok (.invokevirtual 99, 3) := dk_182 0 99 (dk_at dksX6_line_15 0 rfl rfl)
theorem dX6_line_342 : decode cX6_line 342 = .ok (.lastore, 1) := dk_80 (dk_at dksX6_line_15 3 rfl rfl)
theorem dX6_line_343 : decode cX6_line 343 = .ok (.aload_n 0, 1) := dk_42 (dk_at dksX6_line_15 4 rfl rfl)
theorem dX6_line_344 : decode cX6_line 344 = .ok (.getfield 15, 3) := dk_180 0 15 (dk_at dksX6_line_15 5 rfl rfl)
theorem dX6_line_347 : decode cX6_line 347 = .ok (.dup, 1) := dk_89 (dk_at dksX6_line_15 8 rfl rfl)
theorem dX6_line_348 : decode cX6_line 348 = .ok (.getfield 71, 3) := dk_180 0 71 (dk_at dksX6_line_15 9 rfl rfl)
theorem dX6_line_351 : decode cX6_line 351 = .ok (.iconst 1, 1) := dk_4 (dk_at dksX6_line_15 12 rfl rfl)
theorem dX6_line_352 : decode cX6_line 352 = .ok (.iadd, 1) := dk_96 (dk_at dksX6_line_15 13 rfl rfl)
theorem dX6_line_353 : decode cX6_line 353 = .ok (.putfield 71, 3) := dk_181 0 71 (dk_at dksX6_line_15 14 rfl rfl)
theorem dX6_line_356 : decode cX6_line 356 = .ok (.goto 34, 3) := dk_167 0 34 (dk_at dksX6_line_15 17 rfl rfl)
theorem dX6_line_359 : decode cX6_line 359 = .ok (.aload_n 0, 1) := dk_42 (dk_at dksX6_line_15 20 rfl rfl)
theorem dX6_line_360 : decode cX6_line 360 = .ok (.getfield 15, 3) := dk_180 0 15 (dk_at dksX6_line_15 21 rfl rfl)
theorem dX6_line_363 : decode cX6_line 363 = .ok (.aload_n 0, 1) := dk_42 (dk_at dksX6_line_16 0 rfl rfl)
theorem dX6_line_364 : decode cX6_line 364 = .ok (.iconst 1, 1) := dk_4 (dk_at dksX6_line_16 1 rfl rfl)
theorem dX6_line_365 : decode cX6_line 365 = .ok (.bipush 60, 2) := dk_16 60 (dk_at dksX6_line_16 2 rfl rfl)
theorem dX6_line_367 : decode cX6_line 367 = .ok (.invokevirtual 119, 3) := dk_182 0 119 (dk_at dksX6_line_16 4 rfl rfl)
theorem dX6_line_370 : decode cX6_line 370 = .ok (.putfield 132, 3) := dk_181 0 132 (dk_at dksX6_line_16 7 rfl rfl)
theorem dX6_line_373 : decode cX6_line 373 = .ok (.goto 17, 3) := dk_167 0 17 (dk_at dksX6_line_16 10 rfl rfl)
theorem dX6_line_376 : decode cX6_line 376 = .ok (.aload_n 0, 1) := dk_42 (dk_at dksX6_line_16 13 rfl rfl)
theorem dX6_line_377 : decode cX6_line 377 = .ok (.getfield 15, 3) := dk_180 0 15 (dk_at dksX6_line_16 14 rfl rfl)
theorem dX6_line_380 : decode cX6_line 380 = .ok (.aload_n 0, 1) := dk_42 (dk_at dksX6_line_16 17 rfl rfl)
theorem dX6_line_381 : decode cX6_line 381 = .ok (.iconst 1, 1) := dk_4 (dk_at dksX6_line_16 18 rfl rfl)
theorem dX6_line_382 : decode cX6_line 382 = .ok (.bipush 6, 2) := dk_16 6 (dk_at dksX6_line_16 19 rfl rfl)
theorem dX6_line_384 : decode cX6_line 384 = .ok (.invokevirtual 119, 3) := dk_182 0 119 (dk_at dksX6_line_16 21 rfl rfl)
theorem dX6_line_387 : decode cX6_line 387 = .ok (.putfield 135, 3) := dk_181 0 135 (dk_at dksX6_line_17 0 rfl rfl)
theorem dX6_line_390 : decode cX6_line 390 = .ok (.return_, 1) := dk_177 (dk_at dksX6_line_17 3 rfl rfl)
abbrev cX6_fresh : ByteArray := prog_12_method_4_code
def yX6_fresh : MethodName := ⟨RX6, "fresh", "()J"⟩
def dkwX6_fresh_5 : List UInt8 := [42, 182, 0, 50, 31, 173]
abbrev dktX6_fresh_5 : List UInt8 := dkwX6_fresh_5 ++ []
def dkwX6_fresh_4 : List UInt8 := [180, 0, 71, 182, 0, 82, 2, 160, 0, 7, 4, 167, 0, 4, 3, 6, 182, 0, 38, 42, 180, 0, 95, 64]
abbrev dktX6_fresh_4 : List UInt8 := dkwX6_fresh_4 ++ dktX6_fresh_5
def dkwX6_fresh_3 : List UInt8 := [180, 0, 68, 182, 0, 82, 2, 160, 0, 29, 42, 42, 180, 0, 15, 180, 0, 92, 42, 180, 0, 15]
abbrev dktX6_fresh_3 : List UInt8 := dkwX6_fresh_3 ++ dktX6_fresh_4
def dkwX6_fresh_2 : List UInt8 := [180, 0, 65, 182, 0, 82, 2, 160, 0, 51, 42, 42, 180, 0, 15, 180, 0, 89, 42, 180, 0, 15]
abbrev dktX6_fresh_2 : List UInt8 := dkwX6_fresh_2 ++ dktX6_fresh_3
def dkwX6_fresh_1 : List UInt8 := [180, 0, 60, 182, 0, 82, 2, 160, 0, 73, 42, 42, 180, 0, 15, 180, 0, 86, 42, 180, 0, 15]
abbrev dktX6_fresh_1 : List UInt8 := dkwX6_fresh_1 ++ dktX6_fresh_2
def dkwX6_fresh_0 : List UInt8 := [42, 42, 182, 0, 74, 4, 182, 0, 38, 42, 42, 42, 180, 0, 15, 180, 0, 78, 42, 180, 0, 15]
abbrev dktX6_fresh_0 : List UInt8 := dkwX6_fresh_0 ++ dktX6_fresh_1
theorem dksX6_fresh_0 : cX6_fresh.data.toList.drop 0 = dktX6_fresh_0 := by decide +kernel
theorem dksX6_fresh_1 : cX6_fresh.data.toList.drop 22 = dktX6_fresh_1 := dk_seg dksX6_fresh_0 22 rfl rfl
theorem dksX6_fresh_2 : cX6_fresh.data.toList.drop 44 = dktX6_fresh_2 := dk_seg dksX6_fresh_1 22 rfl rfl
theorem dksX6_fresh_3 : cX6_fresh.data.toList.drop 66 = dktX6_fresh_3 := dk_seg dksX6_fresh_2 22 rfl rfl
theorem dksX6_fresh_4 : cX6_fresh.data.toList.drop 88 = dktX6_fresh_4 := dk_seg dksX6_fresh_3 22 rfl rfl
theorem dksX6_fresh_5 : cX6_fresh.data.toList.drop 112 = dktX6_fresh_5 := dk_seg dksX6_fresh_4 24 rfl rfl
theorem dX6_fresh_0 : decode cX6_fresh 0 = .ok (.aload_n 0, 1) := dk_42 (dk_at dksX6_fresh_0 0 rfl rfl)
theorem dX6_fresh_1 : decode cX6_fresh 1 = .ok (.aload_n 0, 1) := dk_42 (dk_at dksX6_fresh_0 1 rfl rfl)
theorem dX6_fresh_2 : decode cX6_fresh 2 = .ok (.invokevirtual 74, 3) := dk_182 0 74 (dk_at dksX6_fresh_0 2 rfl rfl)
theorem dX6_fresh_5 : decode cX6_fresh 5 = .ok (.iconst 1, 1) := dk_4 (dk_at dksX6_fresh_0 5 rfl rfl)
theorem dX6_fresh_6 : decode cX6_fresh 6 = .ok (.invokevirtual 38, 3) := dk_182 0 38 (dk_at dksX6_fresh_0 6 rfl rfl)
theorem dX6_fresh_9 : decode cX6_fresh 9 = .ok (.aload_n 0, 1) := dk_42 (dk_at dksX6_fresh_0 9 rfl rfl)
theorem dX6_fresh_10 : decode cX6_fresh 10 = .ok (.aload_n 0, 1) := dk_42 (dk_at dksX6_fresh_0 10 rfl rfl)
theorem dX6_fresh_11 : decode cX6_fresh 11 = .ok (.aload_n 0, 1) := dk_42 (dk_at dksX6_fresh_0 11 rfl rfl)
theorem dX6_fresh_12 : decode cX6_fresh 12 = .ok (.getfield 15, 3) := dk_180 0 15 (dk_at dksX6_fresh_0 12 rfl rfl)
theorem dX6_fresh_15 : decode cX6_fresh 15 = .ok (.getfield 78, 3) := dk_180 0 78 (dk_at dksX6_fresh_0 15 rfl rfl)
theorem dX6_fresh_18 : decode cX6_fresh 18 = .ok (.aload_n 0, 1) := dk_42 (dk_at dksX6_fresh_0 18 rfl rfl)
theorem dX6_fresh_19 : decode cX6_fresh 19 = .ok (.getfield 15, 3) := dk_180 0 15 (dk_at dksX6_fresh_0 19 rfl rfl)
theorem dX6_fresh_22 : decode cX6_fresh 22 = .ok (.getfield 60, 3) := dk_180 0 60 (dk_at dksX6_fresh_1 0 rfl rfl)
theorem dX6_fresh_25 : decode cX6_fresh 25 = .ok (.invokevirtual 82, 3) := dk_182 0 82 (dk_at dksX6_fresh_1 3 rfl rfl)
theorem dX6_fresh_28 : decode cX6_fresh 28 = .ok (.iconst (-1), 1) := dk_2 (dk_at dksX6_fresh_1 6 rfl rfl)
theorem dX6_fresh_29 : decode cX6_fresh 29 = .ok (.if_icmp .ne 73, 3) := dk_160 0 73 (dk_at dksX6_fresh_1 7 rfl rfl)
theorem dX6_fresh_32 : decode cX6_fresh 32 = .ok (.aload_n 0, 1) := dk_42 (dk_at dksX6_fresh_1 10 rfl rfl)
theorem dX6_fresh_33 : decode cX6_fresh 33 = .ok (.aload_n 0, 1) := dk_42 (dk_at dksX6_fresh_1 11 rfl rfl)
theorem dX6_fresh_34 : decode cX6_fresh 34 = .ok (.getfield 15, 3) := dk_180 0 15 (dk_at dksX6_fresh_1 12 rfl rfl)
theorem dX6_fresh_37 : decode cX6_fresh 37 = .ok (.getfield 86, 3) := dk_180 0 86 (dk_at dksX6_fresh_1 15 rfl rfl)
theorem dX6_fresh_40 : decode cX6_fresh 40 = .ok (.aload_n 0, 1) := dk_42 (dk_at dksX6_fresh_1 18 rfl rfl)
theorem dX6_fresh_41 : decode cX6_fresh 41 = .ok (.getfield 15, 3) := dk_180 0 15 (dk_at dksX6_fresh_1 19 rfl rfl)
theorem dX6_fresh_44 : decode cX6_fresh 44 = .ok (.getfield 65, 3) := dk_180 0 65 (dk_at dksX6_fresh_2 0 rfl rfl)
theorem dX6_fresh_47 : decode cX6_fresh 47 = .ok (.invokevirtual 82, 3) := dk_182 0 82 (dk_at dksX6_fresh_2 3 rfl rfl)
theorem dX6_fresh_50 : decode cX6_fresh 50 = .ok (.iconst (-1), 1) := dk_2 (dk_at dksX6_fresh_2 6 rfl rfl)
theorem dX6_fresh_51 : decode cX6_fresh 51 = .ok (.if_icmp .ne 51, 3) := dk_160 0 51 (dk_at dksX6_fresh_2 7 rfl rfl)
theorem dX6_fresh_54 : decode cX6_fresh 54 = .ok (.aload_n 0, 1) := dk_42 (dk_at dksX6_fresh_2 10 rfl rfl)
theorem dX6_fresh_55 : decode cX6_fresh 55 = .ok (.aload_n 0, 1) := dk_42 (dk_at dksX6_fresh_2 11 rfl rfl)
theorem dX6_fresh_56 : decode cX6_fresh 56 = .ok (.getfield 15, 3) := dk_180 0 15 (dk_at dksX6_fresh_2 12 rfl rfl)
theorem dX6_fresh_59 : decode cX6_fresh 59 = .ok (.getfield 89, 3) := dk_180 0 89 (dk_at dksX6_fresh_2 15 rfl rfl)
theorem dX6_fresh_62 : decode cX6_fresh 62 = .ok (.aload_n 0, 1) := dk_42 (dk_at dksX6_fresh_2 18 rfl rfl)
theorem dX6_fresh_63 : decode cX6_fresh 63 = .ok (.getfield 15, 3) := dk_180 0 15 (dk_at dksX6_fresh_2 19 rfl rfl)
theorem dX6_fresh_66 : decode cX6_fresh 66 = .ok (.getfield 68, 3) := dk_180 0 68 (dk_at dksX6_fresh_3 0 rfl rfl)
theorem dX6_fresh_69 : decode cX6_fresh 69 = .ok (.invokevirtual 82, 3) := dk_182 0 82 (dk_at dksX6_fresh_3 3 rfl rfl)
theorem dX6_fresh_72 : decode cX6_fresh 72 = .ok (.iconst (-1), 1) := dk_2 (dk_at dksX6_fresh_3 6 rfl rfl)
theorem dX6_fresh_73 : decode cX6_fresh 73 = .ok (.if_icmp .ne 29, 3) := dk_160 0 29 (dk_at dksX6_fresh_3 7 rfl rfl)
theorem dX6_fresh_76 : decode cX6_fresh 76 = .ok (.aload_n 0, 1) := dk_42 (dk_at dksX6_fresh_3 10 rfl rfl)
theorem dX6_fresh_77 : decode cX6_fresh 77 = .ok (.aload_n 0, 1) := dk_42 (dk_at dksX6_fresh_3 11 rfl rfl)
theorem dX6_fresh_78 : decode cX6_fresh 78 = .ok (.getfield 15, 3) := dk_180 0 15 (dk_at dksX6_fresh_3 12 rfl rfl)
theorem dX6_fresh_81 : decode cX6_fresh 81 = .ok (.getfield 92, 3) := dk_180 0 92 (dk_at dksX6_fresh_3 15 rfl rfl)
theorem dX6_fresh_84 : decode cX6_fresh 84 = .ok (.aload_n 0, 1) := dk_42 (dk_at dksX6_fresh_3 18 rfl rfl)
theorem dX6_fresh_85 : decode cX6_fresh 85 = .ok (.getfield 15, 3) := dk_180 0 15 (dk_at dksX6_fresh_3 19 rfl rfl)
theorem dX6_fresh_88 : decode cX6_fresh 88 = .ok (.getfield 71, 3) := dk_180 0 71 (dk_at dksX6_fresh_4 0 rfl rfl)
theorem dX6_fresh_91 : decode cX6_fresh 91 = .ok (.invokevirtual 82, 3) := dk_182 0 82 (dk_at dksX6_fresh_4 3 rfl rfl)
theorem dX6_fresh_94 : decode cX6_fresh 94 = .ok (.iconst (-1), 1) := dk_2 (dk_at dksX6_fresh_4 6 rfl rfl)
theorem dX6_fresh_95 : decode cX6_fresh 95 = .ok (.if_icmp .ne 7, 3) := dk_160 0 7 (dk_at dksX6_fresh_4 7 rfl rfl)
theorem dX6_fresh_98 : decode cX6_fresh 98 = .ok (.iconst 1, 1) := dk_4 (dk_at dksX6_fresh_4 10 rfl rfl)
theorem dX6_fresh_99 : decode cX6_fresh 99 = .ok (.goto 4, 3) := dk_167 0 4 (dk_at dksX6_fresh_4 11 rfl rfl)
theorem dX6_fresh_102 : decode cX6_fresh 102 = .ok (.iconst 0, 1) := dk_3 (dk_at dksX6_fresh_4 14 rfl rfl)
theorem dX6_fresh_103 : decode cX6_fresh 103 = .ok (.iconst 3, 1) := dk_6 (dk_at dksX6_fresh_4 15 rfl rfl)
theorem dX6_fresh_104 : decode cX6_fresh 104 = .ok (.invokevirtual 38, 3) := dk_182 0 38 (dk_at dksX6_fresh_4 16 rfl rfl)
theorem dX6_fresh_107 : decode cX6_fresh 107 = .ok (.aload_n 0, 1) := dk_42 (dk_at dksX6_fresh_4 19 rfl rfl)
theorem dX6_fresh_108 : decode cX6_fresh 108 = .ok (.getfield 95, 3) := dk_180 0 95 (dk_at dksX6_fresh_4 20 rfl rfl)
theorem dX6_fresh_111 : decode cX6_fresh 111 = .ok (.lstore_n 1, 1) := dk_64 (dk_at dksX6_fresh_4 23 rfl rfl)
theorem dX6_fresh_112 : decode cX6_fresh 112 = .ok (.aload_n 0, 1) := dk_42 (dk_at dksX6_fresh_5 0 rfl rfl)
theorem dX6_fresh_113 : decode cX6_fresh 113 = .ok (.invokevirtual 50, 3) := dk_182 0 50 (dk_at dksX6_fresh_5 1 rfl rfl)
theorem dX6_fresh_116 : decode cX6_fresh 116 = .ok (.lload_n 1, 1) := dk_31 (dk_at dksX6_fresh_5 4 rfl rfl)
theorem dX6_fresh_117 : decode cX6_fresh 117 = .ok (.lreturn, 1) := dk_173 (dk_at dksX6_fresh_5 5 rfl rfl)
theorem q116 : (Jvm.Cond.initialized "ParlourLeaves$HouseReader") ∈ lw_all := lw_g (lw_at lw_m1 8 rfl) rfl
theorem q251 : (Jvm.Cond.fieldLinkNest "ParlourLeaves$HouseReader" (78 : Nat) "ParlourLeaves$House" "parlourNames" "[J" "ParlourLeaves") ∈ lw_tbl := lw_at lw_m1 143 rfl
theorem q255 : (Jvm.Cond.fieldLinkNest "ParlourLeaves$HouseReader" (86 : Nat) "ParlourLeaves$House" "plantNames" "[J" "ParlourLeaves") ∈ lw_tbl := lw_at lw_m1 147 rfl
theorem q259 : (Jvm.Cond.fieldLinkNest "ParlourLeaves$HouseReader" (89 : Nat) "ParlourLeaves$House" "personNames" "[J" "ParlourLeaves") ∈ lw_tbl := lw_at lw_m1 151 rfl
theorem q263 : (Jvm.Cond.fieldLinkNest "ParlourLeaves$HouseReader" (92 : Nat) "ParlourLeaves$House" "deedNames" "[J" "ParlourLeaves") ∈ lw_tbl := lw_at lw_m1 155 rfl
theorem q265 : (Jvm.Cond.fieldLinkNest "ParlourLeaves$HouseReader" (109 : Nat) "ParlourLeaves$House" "sights" "[I" "ParlourLeaves") ∈ lw_tbl := lw_at lw_m1 157 rfl
theorem q269 : (Jvm.Cond.fieldLinkNest "ParlourLeaves$HouseReader" (113 : Nat) "ParlourLeaves$House" "place" "[I" "ParlourLeaves") ∈ lw_tbl := lw_at lw_m1 161 rfl
theorem q271 : (Jvm.Cond.fieldLinkNest "ParlourLeaves$HouseReader" (116 : Nat) "ParlourLeaves$House" "slow" "[I" "ParlourLeaves") ∈ lw_tbl := lw_at lw_m1 163 rfl
theorem q275 : (Jvm.Cond.fieldLinkNest "ParlourLeaves$HouseReader" (60 : Nat) "ParlourLeaves$House" "parlours" "I" "ParlourLeaves") ∈ lw_tbl := lw_at lw_m1 167 rfl
theorem q280 : (Jvm.Cond.fieldLinkNest "ParlourLeaves$HouseReader" (65 : Nat) "ParlourLeaves$House" "plants" "I" "ParlourLeaves") ∈ lw_tbl := lw_at lw_m1 172 rfl
theorem q285 : (Jvm.Cond.fieldLinkNest "ParlourLeaves$HouseReader" (68 : Nat) "ParlourLeaves$House" "persons" "I" "ParlourLeaves") ∈ lw_tbl := lw_at lw_m1 177 rfl
theorem q289 : (Jvm.Cond.fieldLinkNest "ParlourLeaves$HouseReader" (71 : Nat) "ParlourLeaves$House" "deeds" "I" "ParlourLeaves") ∈ lw_tbl := lw_at lw_m1 181 rfl
theorem q295 : (Jvm.Cond.fieldLinkNest "ParlourLeaves$HouseReader" (129 : Nat) "ParlourLeaves$House" "ferns" "I" "ParlourLeaves") ∈ lw_tbl := lw_at lw_m1 187 rfl
theorem q299 : (Jvm.Cond.fieldLinkNest "ParlourLeaves$HouseReader" (132 : Nat) "ParlourLeaves$House" "dusty" "I" "ParlourLeaves") ∈ lw_tbl := lw_at lw_m1 191 rfl
theorem q302 : (Jvm.Cond.fieldLinkNest "ParlourLeaves$HouseReader" (135 : Nat) "ParlourLeaves$House" "proof" "I" "ParlourLeaves") ∈ lw_tbl := lw_at lw_m1 194 rfl
theorem q389 : (Jvm.Cond.instantiable "ParlourLeaves$HouseReader" (11 : Nat)) ∈ lw_all := lw_g (lw_at lw_m2 41 rfl) rfl
theorem q391 : (Jvm.Cond.instanceMethod ({ cls := "ParlourLeaves$HouseReader", name := "<init>", desc := "(LParlourLeaves;)V" } : Jvm.MethodName)) ∈ lw_all := lw_g (lw_at lw_m2 43 rfl) rfl
theorem q392 : (Jvm.Cond.code ({ cls := "ParlourLeaves$HouseReader", name := "<init>", desc := "(LParlourLeaves;)V" } : Jvm.MethodName) prog_12_method_1_code (2 : Nat) (Option.none : Option Jvm.ClassFile.FieldType)) ∈ lw_all := lw_g (lw_at lw_m2 44 rfl) rfl
theorem q393 : (Jvm.Cond.methodLink "ParlourLeaves$HouseReader" (9 : Nat) ({ cls := "ParlourLeaves$Reader", name := "<init>", desc := "(LParlourLeaves;I)V" } : Jvm.MethodName)) ∈ lw_all := lw_g (lw_at lw_m2 45 rfl) rfl
theorem q397 : (Jvm.Cond.fieldLink "ParlourLeaves$HouseReader" (15 : Nat) "ParlourLeaves$HouseReader" "x" "LParlourLeaves$House;") ∈ lw_all := lw_g (lw_at lw_m2 49 rfl) rfl
theorem q398 : (Jvm.Cond.fieldLink "ParlourLeaves$HouseReader" (19 : Nat) "ParlourLeaves$HouseReader" "onces" "I") ∈ lw_all := lw_g (lw_at lw_m2 50 rfl) rfl
theorem q399 : (Jvm.Cond.fieldLink "ParlourLeaves$HouseReader" (3 : Nat) "ParlourLeaves$HouseReader" "this$0" "LParlourLeaves;") ∈ lw_all := lw_g (lw_at lw_m2 51 rfl) rfl
theorem q405 : (Jvm.Cond.fieldLink "ParlourLeaves$HouseReader" (27 : Nat) "ParlourLeaves$HouseReader" "token" "I") ∈ lw_all := lw_g (lw_at lw_m2 57 rfl) rfl
theorem q406 : (Jvm.Cond.sameField "ParlourLeaves$HouseReader" "ParlourLeaves$Reader" "token" "I") ∈ lw_all := lw_g (lw_at lw_m2 58 rfl) rfl
theorem q414 : (Jvm.Cond.fieldLink "ParlourLeaves$HouseReader" (95 : Nat) "ParlourLeaves$HouseReader" "name" "J") ∈ lw_all := lw_g (lw_at lw_m2 66 rfl) rfl
theorem q415 : (Jvm.Cond.sameField "ParlourLeaves$HouseReader" "ParlourLeaves$Reader" "name" "J") ∈ lw_all := lw_g (lw_at lw_m2 67 rfl) rfl
theorem q418 : (Jvm.Cond.lays "ParlourLeaves$HouseReader" "ParlourLeaves$HouseReader" "x" "LParlourLeaves$House;") ∈ lw_all := lw_g (lw_at lw_m2 70 rfl) rfl
theorem q419 : (Jvm.Cond.soleField "ParlourLeaves$HouseReader" "x") ∈ lw_all := lw_g (lw_at lw_m2 71 rfl) rfl
theorem q420 : (Jvm.Cond.lays "ParlourLeaves$HouseReader" "ParlourLeaves$HouseReader" "onces" "I") ∈ lw_all := lw_g (lw_at lw_m2 72 rfl) rfl
theorem q421 : (Jvm.Cond.soleField "ParlourLeaves$HouseReader" "onces") ∈ lw_all := lw_g (lw_at lw_m2 73 rfl) rfl
theorem q422 : (Jvm.Cond.laysFinal "ParlourLeaves$HouseReader" "ParlourLeaves$HouseReader" "this$0" "LParlourLeaves;") ∈ lw_all := lw_g (lw_at lw_m2 74 rfl) rfl
theorem q423 : (Jvm.Cond.soleField "ParlourLeaves$HouseReader" "this$0") ∈ lw_all := lw_g (lw_at lw_m2 75 rfl) rfl
theorem q424 : (Jvm.Cond.laysFinal "ParlourLeaves$HouseReader" "ParlourLeaves$Reader" "most" "I") ∈ lw_all := lw_g (lw_at lw_m2 76 rfl) rfl
theorem q426 : (Jvm.Cond.lays "ParlourLeaves$HouseReader" "ParlourLeaves$Reader" "p" "I") ∈ lw_all := lw_g (lw_at lw_m2 78 rfl) rfl
theorem q428 : (Jvm.Cond.lays "ParlourLeaves$HouseReader" "ParlourLeaves$Reader" "at" "I") ∈ lw_all := lw_g (lw_at lw_m2 80 rfl) rfl
theorem q430 : (Jvm.Cond.lays "ParlourLeaves$HouseReader" "ParlourLeaves$Reader" "token" "I") ∈ lw_all := lw_g (lw_at lw_m2 82 rfl) rfl
theorem q432 : (Jvm.Cond.lays "ParlourLeaves$HouseReader" "ParlourLeaves$Reader" "value" "I") ∈ lw_all := lw_g (lw_at lw_m2 84 rfl) rfl
theorem q434 : (Jvm.Cond.lays "ParlourLeaves$HouseReader" "ParlourLeaves$Reader" "many" "I") ∈ lw_all := lw_g (lw_at lw_m2 86 rfl) rfl
theorem q436 : (Jvm.Cond.lays "ParlourLeaves$HouseReader" "ParlourLeaves$Reader" "name" "J") ∈ lw_all := lw_g (lw_at lw_m2 88 rfl) rfl
theorem q438 : (Jvm.Cond.laysFinal "ParlourLeaves$HouseReader" "ParlourLeaves$Reader" "this$0" "LParlourLeaves;") ∈ lw_all := lw_g (lw_at lw_m2 90 rfl) rfl
theorem q440 : (Jvm.Cond.superclass "ParlourLeaves$HouseReader" "ParlourLeaves$Reader") ∈ lw_all := lw_g (lw_at lw_m2 92 rfl) rfl
theorem q529 : (Jvm.Cond.fieldLinkNest "ParlourLeaves$HouseReader" (30 : Nat) "ParlourLeaves" "lines" "[Ljava/lang/String;" "ParlourLeaves") ∈ lw_tbl := lw_at lw_m2 181 rfl
theorem q653 : (Jvm.Cond.instanceMethod ({ cls := "ParlourLeaves$HouseReader", name := "read", desc := "(LParlourLeaves$House;)I" } : Jvm.MethodName)) ∈ lw_all := lw_g (lw_at lw_m3 65 rfl) rfl
theorem q654 : (Jvm.Cond.selects "ParlourLeaves$HouseReader" ({ cls := "ParlourLeaves$HouseReader", name := "read", desc := "(LParlourLeaves$House;)I" } : Jvm.MethodName) ({ cls := "ParlourLeaves$HouseReader", name := "read", desc := "(LParlourLeaves$House;)I" } : Jvm.MethodName)) ∈ lw_all := lw_g (lw_at lw_m3 66 rfl) rfl
theorem q655 : (Jvm.Cond.code ({ cls := "ParlourLeaves$HouseReader", name := "read", desc := "(LParlourLeaves$House;)I" } : Jvm.MethodName) prog_12_method_2_code (4 : Nat) (Option.some Jvm.ClassFile.FieldType.int)) ∈ lw_all := lw_g (lw_at lw_m3 67 rfl) rfl
theorem q656 : (Jvm.Cond.methodLink "ParlourLeaves$HouseReader" (23 : Nat) ({ cls := "ParlourLeaves$HouseReader", name := "begin", desc := "()V" } : Jvm.MethodName)) ∈ lw_all := lw_g (lw_at lw_m3 68 rfl) rfl
theorem q657 : (Jvm.Cond.sameMethod "ParlourLeaves$HouseReader" "ParlourLeaves$Reader" "begin" "()V") ∈ lw_all := lw_g (lw_at lw_m3 69 rfl) rfl
theorem q659 : (Jvm.Cond.selects "ParlourLeaves$HouseReader" ({ cls := "ParlourLeaves$HouseReader", name := "begin", desc := "()V" } : Jvm.MethodName) ({ cls := "ParlourLeaves$Reader", name := "begin", desc := "()V" } : Jvm.MethodName)) ∈ lw_all := lw_g (lw_at lw_m3 71 rfl) rfl
theorem q666 : (Jvm.Cond.selects "ParlourLeaves$HouseReader" ({ cls := "ParlourLeaves$Reader", name := "next", desc := "()V" } : Jvm.MethodName) ({ cls := "ParlourLeaves$Reader", name := "next", desc := "()V" } : Jvm.MethodName)) ∈ lw_all := lw_g (lw_at lw_m3 78 rfl) rfl
theorem q688 : (Jvm.Cond.methodLink "ParlourLeaves$HouseReader" (34 : Nat) ({ cls := "ParlourLeaves$HouseReader", name := "find", desc := "([Ljava/lang/String;)I" } : Jvm.MethodName)) ∈ lw_all := lw_g (lw_at lw_m3 100 rfl) rfl
theorem q689 : (Jvm.Cond.sameMethod "ParlourLeaves$HouseReader" "ParlourLeaves$Reader" "find" "([Ljava/lang/String;)I") ∈ lw_all := lw_g (lw_at lw_m3 101 rfl) rfl
theorem q691 : (Jvm.Cond.selects "ParlourLeaves$HouseReader" ({ cls := "ParlourLeaves$HouseReader", name := "find", desc := "([Ljava/lang/String;)I" } : Jvm.MethodName) ({ cls := "ParlourLeaves$Reader", name := "find", desc := "([Ljava/lang/String;)I" } : Jvm.MethodName)) ∈ lw_all := lw_g (lw_at lw_m3 103 rfl) rfl
theorem q698 : (Jvm.Cond.selects "ParlourLeaves$HouseReader" ({ cls := "ParlourLeaves$Reader", name := "is", desc := "(Ljava/lang/String;)Z" } : Jvm.MethodName) ({ cls := "ParlourLeaves$Reader", name := "is", desc := "(Ljava/lang/String;)Z" } : Jvm.MethodName)) ∈ lw_all := lw_g (lw_at lw_m3 110 rfl) rfl
theorem q749 : (Jvm.Cond.methodLink "ParlourLeaves$HouseReader" (38 : Nat) ({ cls := "ParlourLeaves$HouseReader", name := "must", desc := "(ZI)V" } : Jvm.MethodName)) ∈ lw_all := lw_g (lw_at lw_m3 161 rfl) rfl
theorem q750 : (Jvm.Cond.sameMethod "ParlourLeaves$HouseReader" "ParlourLeaves$Reader" "must" "(ZI)V") ∈ lw_all := lw_g (lw_at lw_m3 162 rfl) rfl
theorem q752 : (Jvm.Cond.selects "ParlourLeaves$HouseReader" ({ cls := "ParlourLeaves$HouseReader", name := "must", desc := "(ZI)V" } : Jvm.MethodName) ({ cls := "ParlourLeaves$Reader", name := "must", desc := "(ZI)V" } : Jvm.MethodName)) ∈ lw_all := lw_g (lw_at lw_m3 164 rfl) rfl
theorem q759 : (Jvm.Cond.selects "ParlourLeaves$HouseReader" ({ cls := "ParlourLeaves$Reader", name := "wrong", desc := "(I)LParlourLeaves$Fault;" } : Jvm.MethodName) ({ cls := "ParlourLeaves$Reader", name := "wrong", desc := "(I)LParlourLeaves$Fault;" } : Jvm.MethodName)) ∈ lw_all := lw_g (lw_at lw_m3 171 rfl) rfl
theorem q762 : (Jvm.Cond.methodLinkNest "ParlourLeaves$HouseReader" (42 : Nat) ({ cls := "ParlourLeaves", name := "has", desc := "(II)Z" } : Jvm.MethodName) "ParlourLeaves") ∈ lw_tbl := lw_at lw_m3 174 rfl
theorem q765 : (Jvm.Cond.methodLink "ParlourLeaves$HouseReader" (46 : Nat) ({ cls := "ParlourLeaves$HouseReader", name := "isRoom", desc := "(I)Z" } : Jvm.MethodName)) ∈ lw_all := lw_g (lw_at lw_m3 177 rfl) rfl
theorem q766 : (Jvm.Cond.privateMethod ({ cls := "ParlourLeaves$HouseReader", name := "isRoom", desc := "(I)Z" } : Jvm.MethodName)) ∈ lw_tbl := lw_at lw_m3 178 rfl
theorem q767 : (Jvm.Cond.instanceMethod ({ cls := "ParlourLeaves$HouseReader", name := "isRoom", desc := "(I)Z" } : Jvm.MethodName)) ∈ lw_all := lw_g (lw_at lw_m3 179 rfl) rfl
theorem q768 : (Jvm.Cond.code ({ cls := "ParlourLeaves$HouseReader", name := "isRoom", desc := "(I)Z" } : Jvm.MethodName) prog_12_method_3_code (2 : Nat) (Option.some Jvm.ClassFile.FieldType.boolean)) ∈ lw_all := lw_g (lw_at lw_m3 180 rfl) rfl
theorem q769 : (Jvm.Cond.methodLink "ParlourLeaves$HouseReader" (50 : Nat) ({ cls := "ParlourLeaves$HouseReader", name := "next", desc := "()V" } : Jvm.MethodName)) ∈ lw_all := lw_g (lw_at lw_m3 181 rfl) rfl
theorem q770 : (Jvm.Cond.sameMethod "ParlourLeaves$HouseReader" "ParlourLeaves$Reader" "next" "()V") ∈ lw_all := lw_g (lw_at lw_m3 182 rfl) rfl
theorem q772 : (Jvm.Cond.selects "ParlourLeaves$HouseReader" ({ cls := "ParlourLeaves$HouseReader", name := "next", desc := "()V" } : Jvm.MethodName) ({ cls := "ParlourLeaves$Reader", name := "next", desc := "()V" } : Jvm.MethodName)) ∈ lw_all := lw_g (lw_at lw_m3 184 rfl) rfl
theorem q773 : (Jvm.Cond.methodLink "ParlourLeaves$HouseReader" (53 : Nat) ({ cls := "ParlourLeaves$HouseReader", name := "line", desc := "(I)V" } : Jvm.MethodName)) ∈ lw_all := lw_g (lw_at lw_m3 185 rfl) rfl
theorem q774 : (Jvm.Cond.privateMethod ({ cls := "ParlourLeaves$HouseReader", name := "line", desc := "(I)V" } : Jvm.MethodName)) ∈ lw_tbl := lw_at lw_m3 186 rfl
theorem q775 : (Jvm.Cond.instanceMethod ({ cls := "ParlourLeaves$HouseReader", name := "line", desc := "(I)V" } : Jvm.MethodName)) ∈ lw_all := lw_g (lw_at lw_m3 187 rfl) rfl
theorem q776 : (Jvm.Cond.code ({ cls := "ParlourLeaves$HouseReader", name := "line", desc := "(I)V" } : Jvm.MethodName) prog_12_method_5_code (4 : Nat) (Option.none : Option Jvm.ClassFile.FieldType)) ∈ lw_all := lw_g (lw_at lw_m3 188 rfl) rfl
theorem q777 : (Jvm.Cond.methodLink "ParlourLeaves$HouseReader" (99 : Nat) ({ cls := "ParlourLeaves$HouseReader", name := "fresh", desc := "()J" } : Jvm.MethodName)) ∈ lw_all := lw_g (lw_at lw_m3 189 rfl) rfl
theorem q778 : (Jvm.Cond.privateMethod ({ cls := "ParlourLeaves$HouseReader", name := "fresh", desc := "()J" } : Jvm.MethodName)) ∈ lw_tbl := lw_at lw_m3 190 rfl
theorem q779 : (Jvm.Cond.instanceMethod ({ cls := "ParlourLeaves$HouseReader", name := "fresh", desc := "()J" } : Jvm.MethodName)) ∈ lw_all := lw_g (lw_at lw_m3 191 rfl) rfl
theorem q780 : (Jvm.Cond.code ({ cls := "ParlourLeaves$HouseReader", name := "fresh", desc := "()J" } : Jvm.MethodName) prog_12_method_4_code (3 : Nat) (Option.some Jvm.ClassFile.FieldType.long)) ∈ lw_all := lw_g (lw_at lw_m3 192 rfl) rfl
theorem q781 : (Jvm.Cond.methodLink "ParlourLeaves$HouseReader" (74 : Nat) ({ cls := "ParlourLeaves$HouseReader", name := "isName", desc := "()Z" } : Jvm.MethodName)) ∈ lw_all := lw_g (lw_at lw_m3 193 rfl) rfl
theorem q782 : (Jvm.Cond.sameMethod "ParlourLeaves$HouseReader" "ParlourLeaves$Reader" "isName" "()Z") ∈ lw_all := lw_g (lw_at lw_m3 194 rfl) rfl
theorem q784 : (Jvm.Cond.selects "ParlourLeaves$HouseReader" ({ cls := "ParlourLeaves$HouseReader", name := "isName", desc := "()Z" } : Jvm.MethodName) ({ cls := "ParlourLeaves$Reader", name := "isName", desc := "()Z" } : Jvm.MethodName)) ∈ lw_all := lw_g (lw_at lw_m3 196 rfl) rfl
theorem q788 : (Jvm.Cond.methodLink "ParlourLeaves$HouseReader" (82 : Nat) ({ cls := "ParlourLeaves$HouseReader", name := "of", desc := "([JI)I" } : Jvm.MethodName)) ∈ lw_all := lw_g (lw_at lw_m3 200 rfl) rfl
theorem q789 : (Jvm.Cond.sameMethod "ParlourLeaves$HouseReader" "ParlourLeaves$Reader" "of" "([JI)I") ∈ lw_all := lw_g (lw_at lw_m3 201 rfl) rfl
theorem q791 : (Jvm.Cond.selects "ParlourLeaves$HouseReader" ({ cls := "ParlourLeaves$HouseReader", name := "of", desc := "([JI)I" } : Jvm.MethodName) ({ cls := "ParlourLeaves$Reader", name := "of", desc := "([JI)I" } : Jvm.MethodName)) ∈ lw_all := lw_g (lw_at lw_m3 203 rfl) rfl
theorem q794 : (Jvm.Cond.methodLink "ParlourLeaves$HouseReader" (103 : Nat) ({ cls := "ParlourLeaves$HouseReader", name := "known", desc := "([JI)I" } : Jvm.MethodName)) ∈ lw_all := lw_g (lw_at lw_m3 206 rfl) rfl
theorem q795 : (Jvm.Cond.sameMethod "ParlourLeaves$HouseReader" "ParlourLeaves$Reader" "known" "([JI)I") ∈ lw_all := lw_g (lw_at lw_m3 207 rfl) rfl
theorem q797 : (Jvm.Cond.selects "ParlourLeaves$HouseReader" ({ cls := "ParlourLeaves$HouseReader", name := "known", desc := "([JI)I" } : Jvm.MethodName) ({ cls := "ParlourLeaves$Reader", name := "known", desc := "([JI)I" } : Jvm.MethodName)) ∈ lw_all := lw_g (lw_at lw_m3 209 rfl) rfl
theorem q804 : (Jvm.Cond.selects "ParlourLeaves$HouseReader" ({ cls := "ParlourLeaves$Reader", name := "look", desc := "([JI)I" } : Jvm.MethodName) ({ cls := "ParlourLeaves$Reader", name := "look", desc := "([JI)I" } : Jvm.MethodName)) ∈ lw_all := lw_g (lw_at lw_m3 216 rfl) rfl
theorem q810 : (Jvm.Cond.methodLink "ParlourLeaves$HouseReader" (106 : Nat) ({ cls := "ParlourLeaves$HouseReader", name := "look", desc := "([JI)I" } : Jvm.MethodName)) ∈ lw_all := lw_g (lw_at lw_m3 222 rfl) rfl
theorem q811 : (Jvm.Cond.sameMethod "ParlourLeaves$HouseReader" "ParlourLeaves$Reader" "look" "([JI)I") ∈ lw_all := lw_g (lw_at lw_m3 223 rfl) rfl
theorem q813 : (Jvm.Cond.selects "ParlourLeaves$HouseReader" ({ cls := "ParlourLeaves$HouseReader", name := "look", desc := "([JI)I" } : Jvm.MethodName) ({ cls := "ParlourLeaves$Reader", name := "look", desc := "([JI)I" } : Jvm.MethodName)) ∈ lw_all := lw_g (lw_at lw_m3 225 rfl) rfl
theorem q814 : (Jvm.Cond.methodLink "ParlourLeaves$HouseReader" (119 : Nat) ({ cls := "ParlourLeaves$HouseReader", name := "number", desc := "(II)I" } : Jvm.MethodName)) ∈ lw_all := lw_g (lw_at lw_m3 226 rfl) rfl
theorem q815 : (Jvm.Cond.sameMethod "ParlourLeaves$HouseReader" "ParlourLeaves$Reader" "number" "(II)I") ∈ lw_all := lw_g (lw_at lw_m3 227 rfl) rfl
theorem q817 : (Jvm.Cond.selects "ParlourLeaves$HouseReader" ({ cls := "ParlourLeaves$HouseReader", name := "number", desc := "(II)I" } : Jvm.MethodName) ({ cls := "ParlourLeaves$Reader", name := "number", desc := "(II)I" } : Jvm.MethodName)) ∈ lw_all := lw_g (lw_at lw_m3 229 rfl) rfl
theorem q820 : (Jvm.Cond.stringRef "ParlourLeaves$HouseReader" (123 : Nat) "fern") ∈ lw_tbl := lw_at lw_m3 232 rfl
theorem q821 : (Jvm.Cond.methodLink "ParlourLeaves$HouseReader" (125 : Nat) ({ cls := "ParlourLeaves$HouseReader", name := "is", desc := "(Ljava/lang/String;)Z" } : Jvm.MethodName)) ∈ lw_all := lw_g (lw_at lw_m3 233 rfl) rfl
theorem q822 : (Jvm.Cond.sameMethod "ParlourLeaves$HouseReader" "ParlourLeaves$Reader" "is" "(Ljava/lang/String;)Z") ∈ lw_all := lw_g (lw_at lw_m3 234 rfl) rfl
theorem q824 : (Jvm.Cond.selects "ParlourLeaves$HouseReader" ({ cls := "ParlourLeaves$HouseReader", name := "is", desc := "(Ljava/lang/String;)Z" } : Jvm.MethodName) ({ cls := "ParlourLeaves$Reader", name := "is", desc := "(Ljava/lang/String;)Z" } : Jvm.MethodName)) ∈ lw_all := lw_g (lw_at lw_m3 236 rfl) rfl
theorem q825 : (Jvm.Cond.methodLink "ParlourLeaves$HouseReader" (57 : Nat) ({ cls := "ParlourLeaves$HouseReader", name := "sign", desc := "(I)V" } : Jvm.MethodName)) ∈ lw_all := lw_g (lw_at lw_m3 237 rfl) rfl
theorem q826 : (Jvm.Cond.sameMethod "ParlourLeaves$HouseReader" "ParlourLeaves$Reader" "sign" "(I)V") ∈ lw_all := lw_g (lw_at lw_m3 238 rfl) rfl
theorem q828 : (Jvm.Cond.selects "ParlourLeaves$HouseReader" ({ cls := "ParlourLeaves$HouseReader", name := "sign", desc := "(I)V" } : Jvm.MethodName) ({ cls := "ParlourLeaves$Reader", name := "sign", desc := "(I)V" } : Jvm.MethodName)) ∈ lw_all := lw_g (lw_at lw_m4 0 rfl) rfl
theorem q835 : (Jvm.Cond.selects "ParlourLeaves$HouseReader" ({ cls := "ParlourLeaves$Reader", name := "is", desc := "(I)Z" } : Jvm.MethodName) ({ cls := "ParlourLeaves$Reader", name := "is", desc := "(I)Z" } : Jvm.MethodName)) ∈ lw_all := lw_g (lw_at lw_m4 7 rfl) rfl
theorem q2203 : (Jvm.Cond.selects "ParlourLeaves$HouseReader" ({ cls := "ParlourLeaves$Reader", name := "find", desc := "([Ljava/lang/String;)I" } : Jvm.MethodName) ({ cls := "ParlourLeaves$Reader", name := "find", desc := "([Ljava/lang/String;)I" } : Jvm.MethodName)) ∈ lw_all := lw_g (lw_at lw_m9 175 rfl) rfl
theorem q2207 : (Jvm.Cond.selects "ParlourLeaves$HouseReader" ({ cls := "ParlourLeaves$Reader", name := "isName", desc := "()Z" } : Jvm.MethodName) ({ cls := "ParlourLeaves$Reader", name := "isName", desc := "()Z" } : Jvm.MethodName)) ∈ lw_all := lw_g (lw_at lw_m9 179 rfl) rfl
theorem q2211 : (Jvm.Cond.selects "ParlourLeaves$HouseReader" ({ cls := "ParlourLeaves$Reader", name := "must", desc := "(ZI)V" } : Jvm.MethodName) ({ cls := "ParlourLeaves$Reader", name := "must", desc := "(ZI)V" } : Jvm.MethodName)) ∈ lw_all := lw_g (lw_at lw_m9 183 rfl) rfl
theorem q2215 : (Jvm.Cond.selects "ParlourLeaves$HouseReader" ({ cls := "ParlourLeaves$Reader", name := "of", desc := "([JI)I" } : Jvm.MethodName) ({ cls := "ParlourLeaves$Reader", name := "of", desc := "([JI)I" } : Jvm.MethodName)) ∈ lw_all := lw_g (lw_at lw_m9 187 rfl) rfl
theorem q2221 : (Jvm.Cond.castable "ParlourLeaves$HouseReader" "java/lang/Object") ∈ lw_tbl := lw_at lw_m9 193 rfl
theorem in_X6 : ∀ w ∈ wsX60, w ∈ lw_all := lw_in wsX60 [424, 426, 428, 430, 432, 434, 436, 438, 418, 420, 422] (by decide +kernel) (by decide +kernel)
/-! ParlourLeaves$BookReader -/
set_option maxRecDepth 100000
def RX7 : String := "ParlourLeaves$BookReader"
def TX7 : u_T := fun k => match k with
  | 0 => ("ParlourLeaves$Reader", "most", "I", true)
  | 1 => ("ParlourLeaves$Reader", "p", "I", false)
  | 2 => ("ParlourLeaves$Reader", "at", "I", false)
  | 3 => ("ParlourLeaves$Reader", "token", "I", false)
  | 4 => ("ParlourLeaves$Reader", "value", "I", false)
  | 5 => ("ParlourLeaves$Reader", "many", "I", false)
  | 6 => ("ParlourLeaves$Reader", "name", "J", false)
  | 7 => ("ParlourLeaves$Reader", "this$0", "LParlourLeaves;", true)
  | 8 => ("ParlourLeaves$BookReader", "row", "[LParlourLeaves$Line;", true)
  | 9 => ("ParlourLeaves$BookReader", "n", "I", false)
  | _ => ("ParlourLeaves$BookReader", "this$0", "LParlourLeaves;", true)
def tyX7 : Nat → FieldType := fun k => match k with
  | 0 => .int
  | 1 => .int
  | 2 => .int
  | 3 => .int
  | 4 => .int
  | 5 => .int
  | 6 => .long
  | 7 => .object "ParlourLeaves"
  | 8 => .array (.object "ParlourLeaves$Line")
  | 9 => .int
  | _ => .object "ParlourLeaves"
abbrev wsX70 : List Cond := u_ws RX7 TX7 11
-- two fields of one name: no nmX7
theorem tyX7_ok : ∀ k, k < 11 → parseFieldDescriptor (TX7 k).2.2.1 = some (tyX7 k) := by decide +kernel
abbrev cX7_init : ByteArray := prog_3_method_1_code
def yX7_init : MethodName := ⟨RX7, "<init>", "(LParlourLeaves;)V"⟩
def dkwX7_init_0 : List UInt8 := [42, 43, 181, 0, 3, 42, 43, 17, 1, 144, 183, 0, 9, 42, 16, 40, 189, 0, 15, 181, 0, 17, 177]
abbrev dktX7_init_0 : List UInt8 := dkwX7_init_0 ++ []
theorem dksX7_init_0 : cX7_init.data.toList.drop 0 = dktX7_init_0 := by decide +kernel
theorem dX7_init_0 : decode cX7_init 0 = .ok (.aload_n 0, 1) := dk_42 (dk_at dksX7_init_0 0 rfl rfl)
theorem dX7_init_1 : decode cX7_init 1 = .ok (.aload_n 1, 1) := dk_43 (dk_at dksX7_init_0 1 rfl rfl)
theorem dX7_init_2 : decode cX7_init 2 = .ok (.putfield 3, 3) := dk_181 0 3 (dk_at dksX7_init_0 2 rfl rfl)
theorem dX7_init_5 : decode cX7_init 5 = .ok (.aload_n 0, 1) := dk_42 (dk_at dksX7_init_0 5 rfl rfl)
theorem dX7_init_6 : decode cX7_init 6 = .ok (.aload_n 1, 1) := dk_43 (dk_at dksX7_init_0 6 rfl rfl)
theorem dX7_init_7 : decode cX7_init 7 = .ok (.sipush 400, 3) := dk_17 1 144 (dk_at dksX7_init_0 7 rfl rfl)
theorem dX7_init_10 : decode cX7_init 10 = .ok (.invokespecial 9, 3) := dk_183 0 9 (dk_at dksX7_init_0 10 rfl rfl)
theorem dX7_init_13 : decode cX7_init 13 = .ok (.aload_n 0, 1) := dk_42 (dk_at dksX7_init_0 13 rfl rfl)
theorem dX7_init_14 : decode cX7_init 14 = .ok (.bipush 40, 2) := dk_16 40 (dk_at dksX7_init_0 14 rfl rfl)
theorem dX7_init_16 : decode cX7_init 16 = .ok (.anewarray 15, 3) := dk_189 0 15 (dk_at dksX7_init_0 16 rfl rfl)
theorem dX7_init_19 : decode cX7_init 19 = .ok (.putfield 17, 3) := dk_181 0 17 (dk_at dksX7_init_0 19 rfl rfl)
theorem dX7_init_22 : decode cX7_init 22 = .ok (.return_, 1) := dk_177 (dk_at dksX7_init_0 22 rfl rfl)
abbrev cX7_read : ByteArray := prog_3_method_2_code
def yX7_read : MethodName := ⟨RX7, "read", "()V"⟩
def dkwX7_read_2 : List UInt8 := [167, 255, 218, 177]
abbrev dktX7_read_2 : List UInt8 := dkwX7_read_2 ++ []
def dkwX7_read_1 : List UInt8 := [182, 0, 36, 42, 180, 0, 17, 42, 180, 0, 21, 43, 83, 42, 89, 180, 0, 21, 4, 96, 181, 0, 21]
abbrev dktX7_read_1 : List UInt8 := dkwX7_read_1 ++ dktX7_read_2
def dkwX7_read_0 : List UInt8 := [42, 3, 181, 0, 21, 42, 182, 0, 25, 42, 180, 0, 29, 153, 0, 37, 42, 182, 0, 32, 76, 42, 16, 59]
abbrev dktX7_read_0 : List UInt8 := dkwX7_read_0 ++ dktX7_read_1
theorem dksX7_read_0 : cX7_read.data.toList.drop 0 = dktX7_read_0 := by decide +kernel
theorem dksX7_read_1 : cX7_read.data.toList.drop 24 = dktX7_read_1 := dk_seg dksX7_read_0 24 rfl rfl
theorem dksX7_read_2 : cX7_read.data.toList.drop 47 = dktX7_read_2 := dk_seg dksX7_read_1 23 rfl rfl
theorem dX7_read_0 : decode cX7_read 0 = .ok (.aload_n 0, 1) := dk_42 (dk_at dksX7_read_0 0 rfl rfl)
theorem dX7_read_1 : decode cX7_read 1 = .ok (.iconst 0, 1) := dk_3 (dk_at dksX7_read_0 1 rfl rfl)
theorem dX7_read_2 : decode cX7_read 2 = .ok (.putfield 21, 3) := dk_181 0 21 (dk_at dksX7_read_0 2 rfl rfl)
theorem dX7_read_5 : decode cX7_read 5 = .ok (.aload_n 0, 1) := dk_42 (dk_at dksX7_read_0 5 rfl rfl)
theorem dX7_read_6 : decode cX7_read 6 = .ok (.invokevirtual 25, 3) := dk_182 0 25 (dk_at dksX7_read_0 6 rfl rfl)
theorem dX7_read_9 : decode cX7_read 9 = .ok (.aload_n 0, 1) := dk_42 (dk_at dksX7_read_0 9 rfl rfl)
theorem dX7_read_10 : decode cX7_read 10 = .ok (.getfield 29, 3) := dk_180 0 29 (dk_at dksX7_read_0 10 rfl rfl)
theorem dX7_read_13 : decode cX7_read 13 = .ok (.ifCond .eq 37, 3) := dk_153 0 37 (dk_at dksX7_read_0 13 rfl rfl)
theorem dX7_read_16 : decode cX7_read 16 = .ok (.aload_n 0, 1) := dk_42 (dk_at dksX7_read_0 16 rfl rfl)
theorem dX7_read_17 : decode cX7_read 17 = .ok (.invokevirtual 32, 3) := dk_182 0 32 (dk_at dksX7_read_0 17 rfl rfl)
theorem dX7_read_20 : decode cX7_read 20 = .ok (.astore_n 1, 1) := dk_76 (dk_at dksX7_read_0 20 rfl rfl)
theorem dX7_read_21 : decode cX7_read 21 = .ok (.aload_n 0, 1) := dk_42 (dk_at dksX7_read_0 21 rfl rfl)
theorem dX7_read_22 : decode cX7_read 22 = .ok (.bipush 59, 2) := dk_16 59 (dk_at dksX7_read_0 22 rfl rfl)
theorem dX7_read_24 : decode cX7_read 24 = .ok (.invokevirtual 36, 3) := dk_182 0 36 (dk_at dksX7_read_1 0 rfl rfl)
theorem dX7_read_27 : decode cX7_read 27 = .ok (.aload_n 0, 1) := dk_42 (dk_at dksX7_read_1 3 rfl rfl)
theorem dX7_read_28 : decode cX7_read 28 = .ok (.getfield 17, 3) := dk_180 0 17 (dk_at dksX7_read_1 4 rfl rfl)
theorem dX7_read_31 : decode cX7_read 31 = .ok (.aload_n 0, 1) := dk_42 (dk_at dksX7_read_1 7 rfl rfl)
theorem dX7_read_32 : decode cX7_read 32 = .ok (.getfield 21, 3) := dk_180 0 21 (dk_at dksX7_read_1 8 rfl rfl)
theorem dX7_read_35 : decode cX7_read 35 = .ok (.aload_n 1, 1) := dk_43 (dk_at dksX7_read_1 11 rfl rfl)
theorem dX7_read_36 : decode cX7_read 36 = .ok (.aastore, 1) := dk_83 (dk_at dksX7_read_1 12 rfl rfl)
theorem dX7_read_37 : decode cX7_read 37 = .ok (.aload_n 0, 1) := dk_42 (dk_at dksX7_read_1 13 rfl rfl)
theorem dX7_read_38 : decode cX7_read 38 = .ok (.dup, 1) := dk_89 (dk_at dksX7_read_1 14 rfl rfl)
theorem dX7_read_39 : decode cX7_read 39 = .ok (.getfield 21, 3) := dk_180 0 21 (dk_at dksX7_read_1 15 rfl rfl)
theorem dX7_read_42 : decode cX7_read 42 = .ok (.iconst 1, 1) := dk_4 (dk_at dksX7_read_1 18 rfl rfl)
theorem dX7_read_43 : decode cX7_read 43 = .ok (.iadd, 1) := dk_96 (dk_at dksX7_read_1 19 rfl rfl)
theorem dX7_read_44 : decode cX7_read 44 = .ok (.putfield 21, 3) := dk_181 0 21 (dk_at dksX7_read_1 20 rfl rfl)
theorem dX7_read_47 : decode cX7_read 47 = .ok (.goto (-38), 3) := dk_167 255 218 (dk_at dksX7_read_2 0 rfl rfl)
theorem dX7_read_50 : decode cX7_read 50 = .ok (.return_, 1) := dk_177 (dk_at dksX7_read_2 3 rfl rfl)
abbrev cX7_line : ByteArray := prog_3_method_3_code
def yX7_line : MethodName := ⟨RX7, "line", "()LParlourLeaves$Line;"⟩
def dkwX7_line_12 : List UInt8 := [182, 0, 90, 183, 0, 115, 176]
abbrev dktX7_line_12 : List UInt8 := dkwX7_line_12 ++ []
def dkwX7_line_11 : List UInt8 := [21, 5, 42, 42, 180, 0, 3, 180, 0, 50, 180, 0, 96, 42, 180, 0, 3, 180, 0, 50, 180, 0, 99]
abbrev dktX7_line_11 : List UInt8 := dkwX7_line_11 ++ dktX7_line_12
def dkwX7_line_10 : List UInt8 := [180, 0, 107, 42, 180, 0, 3, 180, 0, 50, 180, 0, 110, 182, 0, 90, 54, 5, 187, 0, 113, 89, 21, 4]
abbrev dktX7_line_10 : List UInt8 := dkwX7_line_10 ++ dktX7_line_11
def dkwX7_line_9 : List UInt8 := [42, 18, 105, 182, 0, 42, 4, 182, 0, 67, 42, 182, 0, 71, 42, 42, 180, 0, 3, 180, 0, 50]
abbrev dktX7_line_9 : List UInt8 := dkwX7_line_9 ++ dktX7_line_10
def dkwX7_line_8 : List UInt8 := [180, 0, 50, 180, 0, 96, 42, 180, 0, 3, 180, 0, 50, 180, 0, 99, 182, 0, 90, 183, 0, 102, 176, 42]
abbrev dktX7_line_8 : List UInt8 := dkwX7_line_8 ++ dktX7_line_9
def dkwX7_line_7 : List UInt8 := [180, 0, 50, 180, 0, 87, 182, 0, 90, 54, 5, 187, 0, 94, 89, 21, 5, 42, 42, 180, 0, 3]
abbrev dktX7_line_7 : List UInt8 := dkwX7_line_7 ++ dktX7_line_8
def dkwX7_line_6 : List UInt8 := [183, 0, 93, 176, 28, 153, 0, 63, 42, 42, 180, 0, 3, 180, 0, 50, 180, 0, 84, 42, 180, 0, 3]
abbrev dktX7_line_6 : List UInt8 := dkwX7_line_6 ++ dktX7_line_7
def dkwX7_line_5 : List UInt8 := [42, 180, 0, 3, 180, 0, 50, 180, 0, 84, 42, 180, 0, 3, 180, 0, 50, 180, 0, 87, 182, 0, 90]
abbrev dktX7_line_5 : List UInt8 := dkwX7_line_5 ++ dktX7_line_6
def dkwX7_line_4 : List UInt8 := [187, 0, 74, 89, 42, 4, 16, 60, 182, 0, 76, 183, 0, 80, 176, 27, 153, 0, 35, 187, 0, 82, 89, 42]
abbrev dktX7_line_4 : List UInt8 := dkwX7_line_4 ++ dktX7_line_5
def dkwX7_line_3 : List UInt8 := [16, 40, 162, 0, 7, 4, 167, 0, 4, 3, 7, 182, 0, 67, 42, 182, 0, 71, 29, 153, 0, 18]
abbrev dktX7_line_3 : List UInt8 := dkwX7_line_3 ++ dktX7_line_4
def dkwX7_line_2 : List UInt8 := [180, 0, 54, 42, 180, 0, 3, 180, 0, 50, 180, 0, 60, 182, 0, 63, 54, 4, 42, 42, 180, 0, 21]
abbrev dktX7_line_2 : List UInt8 := dkwX7_line_2 ++ dktX7_line_3
def dkwX7_line_1 : List UInt8 := [154, 0, 11, 28, 154, 0, 7, 29, 153, 0, 7, 2, 167, 0, 27, 42, 42, 180, 0, 3, 180, 0, 50]
abbrev dktX7_line_1 : List UInt8 := dkwX7_line_1 ++ dktX7_line_2
def dkwX7_line_0 : List UInt8 := [42, 18, 40, 182, 0, 42, 60, 42, 18, 46, 182, 0, 42, 61, 42, 18, 48, 182, 0, 42, 62, 27]
abbrev dktX7_line_0 : List UInt8 := dkwX7_line_0 ++ dktX7_line_1
theorem dksX7_line_0 : cX7_line.data.toList.drop 0 = dktX7_line_0 := by decide +kernel
theorem dksX7_line_1 : cX7_line.data.toList.drop 22 = dktX7_line_1 := dk_seg dksX7_line_0 22 rfl rfl
theorem dksX7_line_2 : cX7_line.data.toList.drop 45 = dktX7_line_2 := dk_seg dksX7_line_1 23 rfl rfl
theorem dksX7_line_3 : cX7_line.data.toList.drop 68 = dktX7_line_3 := dk_seg dksX7_line_2 23 rfl rfl
theorem dksX7_line_4 : cX7_line.data.toList.drop 90 = dktX7_line_4 := dk_seg dksX7_line_3 22 rfl rfl
theorem dksX7_line_5 : cX7_line.data.toList.drop 114 = dktX7_line_5 := dk_seg dksX7_line_4 24 rfl rfl
theorem dksX7_line_6 : cX7_line.data.toList.drop 137 = dktX7_line_6 := dk_seg dksX7_line_5 23 rfl rfl
theorem dksX7_line_7 : cX7_line.data.toList.drop 160 = dktX7_line_7 := dk_seg dksX7_line_6 23 rfl rfl
theorem dksX7_line_8 : cX7_line.data.toList.drop 182 = dktX7_line_8 := dk_seg dksX7_line_7 22 rfl rfl
theorem dksX7_line_9 : cX7_line.data.toList.drop 206 = dktX7_line_9 := dk_seg dksX7_line_8 24 rfl rfl
theorem dksX7_line_10 : cX7_line.data.toList.drop 228 = dktX7_line_10 := dk_seg dksX7_line_9 22 rfl rfl
theorem dksX7_line_11 : cX7_line.data.toList.drop 252 = dktX7_line_11 := dk_seg dksX7_line_10 24 rfl rfl
theorem dksX7_line_12 : cX7_line.data.toList.drop 275 = dktX7_line_12 := dk_seg dksX7_line_11 23 rfl rfl
theorem dX7_line_0 : decode cX7_line 0 = .ok (.aload_n 0, 1) := dk_42 (dk_at dksX7_line_0 0 rfl rfl)
theorem dX7_line_1 : decode cX7_line 1 = .ok (.ldc 40, 2) := dk_18 40 (dk_at dksX7_line_0 1 rfl rfl)
theorem dX7_line_3 : decode cX7_line 3 = .ok (.invokevirtual 42, 3) := dk_182 0 42 (dk_at dksX7_line_0 3 rfl rfl)
theorem dX7_line_6 : decode cX7_line 6 = .ok (.istore_n 1, 1) := dk_60 (dk_at dksX7_line_0 6 rfl rfl)
theorem dX7_line_7 : decode cX7_line 7 = .ok (.aload_n 0, 1) := dk_42 (dk_at dksX7_line_0 7 rfl rfl)
theorem dX7_line_8 : decode cX7_line 8 = .ok (.ldc 46, 2) := dk_18 46 (dk_at dksX7_line_0 8 rfl rfl)
theorem dX7_line_10 : decode cX7_line 10 = .ok (.invokevirtual 42, 3) := dk_182 0 42 (dk_at dksX7_line_0 10 rfl rfl)
theorem dX7_line_13 : decode cX7_line 13 = .ok (.istore_n 2, 1) := dk_61 (dk_at dksX7_line_0 13 rfl rfl)
theorem dX7_line_14 : decode cX7_line 14 = .ok (.aload_n 0, 1) := dk_42 (dk_at dksX7_line_0 14 rfl rfl)
theorem dX7_line_15 : decode cX7_line 15 = .ok (.ldc 48, 2) := dk_18 48 (dk_at dksX7_line_0 15 rfl rfl)
theorem dX7_line_17 : decode cX7_line 17 = .ok (.invokevirtual 42, 3) := dk_182 0 42 (dk_at dksX7_line_0 17 rfl rfl)
theorem dX7_line_20 : decode cX7_line 20 = .ok (.istore_n 3, 1) := dk_62 (dk_at dksX7_line_0 20 rfl rfl)
theorem dX7_line_21 : decode cX7_line 21 = .ok (.iload_n 1, 1) := dk_27 (dk_at dksX7_line_0 21 rfl rfl)
theorem dX7_line_22 : decode cX7_line 22 = .ok (.ifCond .ne 11, 3) := dk_154 0 11 (dk_at dksX7_line_1 0 rfl rfl)
theorem dX7_line_25 : decode cX7_line 25 = .ok (.iload_n 2, 1) := dk_28 (dk_at dksX7_line_1 3 rfl rfl)
theorem dX7_line_26 : decode cX7_line 26 = .ok (.ifCond .ne 7, 3) := dk_154 0 7 (dk_at dksX7_line_1 4 rfl rfl)
theorem dX7_line_29 : decode cX7_line 29 = .ok (.iload_n 3, 1) := dk_29 (dk_at dksX7_line_1 7 rfl rfl)
theorem dX7_line_30 : decode cX7_line 30 = .ok (.ifCond .eq 7, 3) := dk_153 0 7 (dk_at dksX7_line_1 8 rfl rfl)
theorem dX7_line_33 : decode cX7_line 33 = .ok (.iconst (-1), 1) := dk_2 (dk_at dksX7_line_1 11 rfl rfl)
theorem dX7_line_34 : decode cX7_line 34 = .ok (.goto 27, 3) := dk_167 0 27 (dk_at dksX7_line_1 12 rfl rfl)
theorem dX7_line_37 : decode cX7_line 37 = .ok (.aload_n 0, 1) := dk_42 (dk_at dksX7_line_1 15 rfl rfl)
theorem dX7_line_38 : decode cX7_line 38 = .ok (.aload_n 0, 1) := dk_42 (dk_at dksX7_line_1 16 rfl rfl)
theorem dX7_line_39 : decode cX7_line 39 = .ok (.getfield 3, 3) := dk_180 0 3 (dk_at dksX7_line_1 17 rfl rfl)
theorem dX7_line_42 : decode cX7_line 42 = .ok (.getfield 50, 3) := dk_180 0 50 (dk_at dksX7_line_1 20 rfl rfl)
theorem dX7_line_45 : decode cX7_line 45 = .ok (.getfield 54, 3) := dk_180 0 54 (dk_at dksX7_line_2 0 rfl rfl)
theorem dX7_line_48 : decode cX7_line 48 = .ok (.aload_n 0, 1) := dk_42 (dk_at dksX7_line_2 3 rfl rfl)
theorem dX7_line_49 : decode cX7_line 49 = .ok (.getfield 3, 3) := dk_180 0 3 (dk_at dksX7_line_2 4 rfl rfl)
theorem dX7_line_52 : decode cX7_line 52 = .ok (.getfield 50, 3) := dk_180 0 50 (dk_at dksX7_line_2 7 rfl rfl)
theorem dX7_line_55 : decode cX7_line 55 = .ok (.getfield 60, 3) := dk_180 0 60 (dk_at dksX7_line_2 10 rfl rfl)
theorem dX7_line_58 : decode cX7_line 58 = .ok (.invokevirtual 63, 3) := dk_182 0 63 (dk_at dksX7_line_2 13 rfl rfl)
theorem dX7_line_61 : decode cX7_line 61 = .ok (.istore 4, 2) := dk_54 4 (dk_at dksX7_line_2 16 rfl rfl)
theorem dX7_line_63 : decode cX7_line 63 = .ok (.aload_n 0, 1) := dk_42 (dk_at dksX7_line_2 18 rfl rfl)
theorem dX7_line_64 : decode cX7_line 64 = .ok (.aload_n 0, 1) := dk_42 (dk_at dksX7_line_2 19 rfl rfl)
theorem dX7_line_65 : decode cX7_line 65 = .ok (.getfield 21, 3) := dk_180 0 21 (dk_at dksX7_line_2 20 rfl rfl)
theorem dX7_line_68 : decode cX7_line 68 = .ok (.bipush 40, 2) := dk_16 40 (dk_at dksX7_line_3 0 rfl rfl)
theorem dX7_line_70 : decode cX7_line 70 = .ok (.if_icmp .ge 7, 3) := dk_162 0 7 (dk_at dksX7_line_3 2 rfl rfl)
theorem dX7_line_73 : decode cX7_line 73 = .ok (.iconst 1, 1) := dk_4 (dk_at dksX7_line_3 5 rfl rfl)
theorem dX7_line_74 : decode cX7_line 74 = .ok (.goto 4, 3) := dk_167 0 4 (dk_at dksX7_line_3 6 rfl rfl)
theorem dX7_line_77 : decode cX7_line 77 = .ok (.iconst 0, 1) := dk_3 (dk_at dksX7_line_3 9 rfl rfl)
theorem dX7_line_78 : decode cX7_line 78 = .ok (.iconst 4, 1) := dk_7 (dk_at dksX7_line_3 10 rfl rfl)
theorem dX7_line_79 : decode cX7_line 79 = .ok (.invokevirtual 67, 3) := dk_182 0 67 (dk_at dksX7_line_3 11 rfl rfl)
theorem dX7_line_82 : decode cX7_line 82 = .ok (.aload_n 0, 1) := dk_42 (dk_at dksX7_line_3 14 rfl rfl)
theorem dX7_line_83 : decode cX7_line 83 = .ok (.invokevirtual 71, 3) := dk_182 0 71 (dk_at dksX7_line_3 15 rfl rfl)
theorem dX7_line_86 : decode cX7_line 86 = .ok (.iload_n 3, 1) := dk_29 (dk_at dksX7_line_3 18 rfl rfl)
theorem dX7_line_87 : decode cX7_line 87 = .ok (.ifCond .eq 18, 3) := dk_153 0 18 (dk_at dksX7_line_3 19 rfl rfl)
theorem dX7_line_90 : decode cX7_line 90 = .ok (.new 74, 3) := dk_187 0 74 (dk_at dksX7_line_4 0 rfl rfl)
theorem dX7_line_93 : decode cX7_line 93 = .ok (.dup, 1) := dk_89 (dk_at dksX7_line_4 3 rfl rfl)
theorem dX7_line_94 : decode cX7_line 94 = .ok (.aload_n 0, 1) := dk_42 (dk_at dksX7_line_4 4 rfl rfl)
theorem dX7_line_95 : decode cX7_line 95 = .ok (.iconst 1, 1) := dk_4 (dk_at dksX7_line_4 5 rfl rfl)
theorem dX7_line_96 : decode cX7_line 96 = .ok (.bipush 60, 2) := dk_16 60 (dk_at dksX7_line_4 6 rfl rfl)
theorem dX7_line_98 : decode cX7_line 98 = .ok (.invokevirtual 76, 3) := dk_182 0 76 (dk_at dksX7_line_4 8 rfl rfl)
theorem dX7_line_101 : decode cX7_line 101 = .ok (.invokespecial 80, 3) := dk_183 0 80 (dk_at dksX7_line_4 11 rfl rfl)
theorem dX7_line_104 : decode cX7_line 104 = .ok (.areturn, 1) := dk_176 (dk_at dksX7_line_4 14 rfl rfl)
theorem dX7_line_105 : decode cX7_line 105 = .ok (.iload_n 1, 1) := dk_27 (dk_at dksX7_line_4 15 rfl rfl)
theorem dX7_line_106 : decode cX7_line 106 = .ok (.ifCond .eq 35, 3) := dk_153 0 35 (dk_at dksX7_line_4 16 rfl rfl)
theorem dX7_line_109 : decode cX7_line 109 = .ok (.new 82, 3) := dk_187 0 82 (dk_at dksX7_line_4 19 rfl rfl)
theorem dX7_line_112 : decode cX7_line 112 = .ok (.dup, 1) := dk_89 (dk_at dksX7_line_4 22 rfl rfl)
theorem dX7_line_113 : decode cX7_line 113 = .ok (.aload_n 0, 1) := dk_42 (dk_at dksX7_line_4 23 rfl rfl)
theorem dX7_line_114 : decode cX7_line 114 = .ok (.aload_n 0, 1) := dk_42 (dk_at dksX7_line_5 0 rfl rfl)
theorem dX7_line_115 : decode cX7_line 115 = .ok (.getfield 3, 3) := dk_180 0 3 (dk_at dksX7_line_5 1 rfl rfl)
theorem dX7_line_118 : decode cX7_line 118 = .ok (.getfield 50, 3) := dk_180 0 50 (dk_at dksX7_line_5 4 rfl rfl)
theorem dX7_line_121 : decode cX7_line 121 = .ok (.getfield 84, 3) := dk_180 0 84 (dk_at dksX7_line_5 7 rfl rfl)
theorem dX7_line_124 : decode cX7_line 124 = .ok (.aload_n 0, 1) := dk_42 (dk_at dksX7_line_5 10 rfl rfl)
theorem dX7_line_125 : decode cX7_line 125 = .ok (.getfield 3, 3) := dk_180 0 3 (dk_at dksX7_line_5 11 rfl rfl)
theorem dX7_line_128 : decode cX7_line 128 = .ok (.getfield 50, 3) := dk_180 0 50 (dk_at dksX7_line_5 14 rfl rfl)
theorem dX7_line_131 : decode cX7_line 131 = .ok (.getfield 87, 3) := dk_180 0 87 (dk_at dksX7_line_5 17 rfl rfl)
theorem dX7_line_134 : decode cX7_line 134 = .ok (.invokevirtual 90, 3) := dk_182 0 90 (dk_at dksX7_line_5 20 rfl rfl)
theorem dX7_line_137 : decode cX7_line 137 = .ok (.invokespecial 93, 3) := dk_183 0 93 (dk_at dksX7_line_6 0 rfl rfl)
theorem dX7_line_140 : decode cX7_line 140 = .ok (.areturn, 1) := dk_176 (dk_at dksX7_line_6 3 rfl rfl)
theorem dX7_line_141 : decode cX7_line 141 = .ok (.iload_n 2, 1) := dk_28 (dk_at dksX7_line_6 4 rfl rfl)
theorem dX7_line_142 : decode cX7_line 142 = .ok (.ifCond .eq 63, 3) := dk_153 0 63 (dk_at dksX7_line_6 5 rfl rfl)
theorem dX7_line_145 : decode cX7_line 145 = .ok (.aload_n 0, 1) := dk_42 (dk_at dksX7_line_6 8 rfl rfl)
theorem dX7_line_146 : decode cX7_line 146 = .ok (.aload_n 0, 1) := dk_42 (dk_at dksX7_line_6 9 rfl rfl)
theorem dX7_line_147 : decode cX7_line 147 = .ok (.getfield 3, 3) := dk_180 0 3 (dk_at dksX7_line_6 10 rfl rfl)
theorem dX7_line_150 : decode cX7_line 150 = .ok (.getfield 50, 3) := dk_180 0 50 (dk_at dksX7_line_6 13 rfl rfl)
theorem dX7_line_153 : decode cX7_line 153 = .ok (.getfield 84, 3) := dk_180 0 84 (dk_at dksX7_line_6 16 rfl rfl)
theorem dX7_line_156 : decode cX7_line 156 = .ok (.aload_n 0, 1) := dk_42 (dk_at dksX7_line_6 19 rfl rfl)
theorem dX7_line_157 : decode cX7_line 157 = .ok (.getfield 3, 3) := dk_180 0 3 (dk_at dksX7_line_6 20 rfl rfl)
theorem dX7_line_160 : decode cX7_line 160 = .ok (.getfield 50, 3) := dk_180 0 50 (dk_at dksX7_line_7 0 rfl rfl)
theorem dX7_line_163 : decode cX7_line 163 = .ok (.getfield 87, 3) := dk_180 0 87 (dk_at dksX7_line_7 3 rfl rfl)
theorem dX7_line_166 : decode cX7_line 166 = .ok (.invokevirtual 90, 3) := dk_182 0 90 (dk_at dksX7_line_7 6 rfl rfl)
theorem dX7_line_169 : decode cX7_line 169 = .ok (.istore 5, 2) := dk_54 5 (dk_at dksX7_line_7 9 rfl rfl)
theorem dX7_line_171 : decode cX7_line 171 = .ok (.new 94, 3) := dk_187 0 94 (dk_at dksX7_line_7 11 rfl rfl)
theorem dX7_line_174 : decode cX7_line 174 = .ok (.dup, 1) := dk_89 (dk_at dksX7_line_7 14 rfl rfl)
theorem dX7_line_175 : decode cX7_line 175 = .ok (.iload 5, 2) := dk_21 5 (dk_at dksX7_line_7 15 rfl rfl)
theorem dX7_line_177 : decode cX7_line 177 = .ok (.aload_n 0, 1) := dk_42 (dk_at dksX7_line_7 17 rfl rfl)
theorem dX7_line_178 : decode cX7_line 178 = .ok (.aload_n 0, 1) := dk_42 (dk_at dksX7_line_7 18 rfl rfl)
theorem dX7_line_179 : decode cX7_line 179 = .ok (.getfield 3, 3) := dk_180 0 3 (dk_at dksX7_line_7 19 rfl rfl)
theorem dX7_line_182 : decode cX7_line 182 = .ok (.getfield 50, 3) := dk_180 0 50 (dk_at dksX7_line_8 0 rfl rfl)
theorem dX7_line_185 : decode cX7_line 185 = .ok (.getfield 96, 3) := dk_180 0 96 (dk_at dksX7_line_8 3 rfl rfl)
theorem dX7_line_188 : decode cX7_line 188 = .ok (.aload_n 0, 1) := dk_42 (dk_at dksX7_line_8 6 rfl rfl)
theorem dX7_line_189 : decode cX7_line 189 = .ok (.getfield 3, 3) := dk_180 0 3 (dk_at dksX7_line_8 7 rfl rfl)
theorem dX7_line_192 : decode cX7_line 192 = .ok (.getfield 50, 3) := dk_180 0 50 (dk_at dksX7_line_8 10 rfl rfl)
theorem dX7_line_195 : decode cX7_line 195 = .ok (.getfield 99, 3) := dk_180 0 99 (dk_at dksX7_line_8 13 rfl rfl)
theorem dX7_line_198 : decode cX7_line 198 = .ok (.invokevirtual 90, 3) := dk_182 0 90 (dk_at dksX7_line_8 16 rfl rfl)
theorem dX7_line_201 : decode cX7_line 201 = .ok (.invokespecial 102, 3) := dk_183 0 102 (dk_at dksX7_line_8 19 rfl rfl)
theorem dX7_line_204 : decode cX7_line 204 = .ok (.areturn, 1) := dk_176 (dk_at dksX7_line_8 22 rfl rfl)
theorem dX7_line_205 : decode cX7_line 205 = .ok (.aload_n 0, 1) := dk_42 (dk_at dksX7_line_8 23 rfl rfl)
theorem dX7_line_206 : decode cX7_line 206 = .ok (.aload_n 0, 1) := dk_42 (dk_at dksX7_line_9 0 rfl rfl)
theorem dX7_line_207 : decode cX7_line 207 = .ok (.ldc 105, 2) := dk_18 105 (dk_at dksX7_line_9 1 rfl rfl)
theorem dX7_line_209 : decode cX7_line 209 = .ok (.invokevirtual 42, 3) := dk_182 0 42 (dk_at dksX7_line_9 3 rfl rfl)
theorem dX7_line_212 : decode cX7_line 212 = .ok (.iconst 1, 1) := dk_4 (dk_at dksX7_line_9 6 rfl rfl)
theorem dX7_line_213 : decode cX7_line 213 = .ok (.invokevirtual 67, 3) := dk_182 0 67 (dk_at dksX7_line_9 7 rfl rfl)
theorem dX7_line_216 : decode cX7_line 216 = .ok (.aload_n 0, 1) := dk_42 (dk_at dksX7_line_9 10 rfl rfl)
theorem dX7_line_217 : decode cX7_line 217 = .ok (.invokevirtual 71, 3) := dk_182 0 71 (dk_at dksX7_line_9 11 rfl rfl)
theorem dX7_line_220 : decode cX7_line 220 = .ok (.aload_n 0, 1) := dk_42 (dk_at dksX7_line_9 14 rfl rfl)
theorem dX7_line_221 : decode cX7_line 221 = .ok (.aload_n 0, 1) := dk_42 (dk_at dksX7_line_9 15 rfl rfl)
theorem dX7_line_222 : decode cX7_line 222 = .ok (.getfield 3, 3) := dk_180 0 3 (dk_at dksX7_line_9 16 rfl rfl)
theorem dX7_line_225 : decode cX7_line 225 = .ok (.getfield 50, 3) := dk_180 0 50 (dk_at dksX7_line_9 19 rfl rfl)
theorem dX7_line_228 : decode cX7_line 228 = .ok (.getfield 107, 3) := dk_180 0 107 (dk_at dksX7_line_10 0 rfl rfl)
theorem dX7_line_231 : decode cX7_line 231 = .ok (.aload_n 0, 1) := dk_42 (dk_at dksX7_line_10 3 rfl rfl)
theorem dX7_line_232 : decode cX7_line 232 = .ok (.getfield 3, 3) := dk_180 0 3 (dk_at dksX7_line_10 4 rfl rfl)
theorem dX7_line_235 : decode cX7_line 235 = .ok (.getfield 50, 3) := dk_180 0 50 (dk_at dksX7_line_10 7 rfl rfl)
theorem dX7_line_238 : decode cX7_line 238 = .ok (.getfield 110, 3) := dk_180 0 110 (dk_at dksX7_line_10 10 rfl rfl)
theorem dX7_line_241 : decode cX7_line 241 = .ok (.invokevirtual 90, 3) := dk_182 0 90 (dk_at dksX7_line_10 13 rfl rfl)
theorem dX7_line_244 : decode cX7_line 244 = .ok (.istore 5, 2) := dk_54 5 (dk_at dksX7_line_10 16 rfl rfl)
theorem dX7_line_246 : decode cX7_line 246 = .ok (.new 113, 3) := dk_187 0 113 (dk_at dksX7_line_10 18 rfl rfl)
theorem dX7_line_249 : decode cX7_line 249 = .ok (.dup, 1) := dk_89 (dk_at dksX7_line_10 21 rfl rfl)
theorem dX7_line_250 : decode cX7_line 250 = .ok (.iload 4, 2) := dk_21 4 (dk_at dksX7_line_10 22 rfl rfl)
theorem dX7_line_252 : decode cX7_line 252 = .ok (.iload 5, 2) := dk_21 5 (dk_at dksX7_line_11 0 rfl rfl)
theorem dX7_line_254 : decode cX7_line 254 = .ok (.aload_n 0, 1) := dk_42 (dk_at dksX7_line_11 2 rfl rfl)
theorem dX7_line_255 : decode cX7_line 255 = .ok (.aload_n 0, 1) := dk_42 (dk_at dksX7_line_11 3 rfl rfl)
theorem dX7_line_256 : decode cX7_line 256 = .ok (.getfield 3, 3) := dk_180 0 3 (dk_at dksX7_line_11 4 rfl rfl)
theorem dX7_line_259 : decode cX7_line 259 = .ok (.getfield 50, 3) := dk_180 0 50 (dk_at dksX7_line_11 7 rfl rfl)
theorem dX7_line_262 : decode cX7_line 262 = .ok (.getfield 96, 3) := dk_180 0 96 (dk_at dksX7_line_11 10 rfl rfl)
theorem dX7_line_265 : decode cX7_line 265 = .ok (.aload_n 0, 1) := dk_42 (dk_at dksX7_line_11 13 rfl rfl)
theorem dX7_line_266 : decode cX7_line 266 = .ok (.getfield 3, 3) := dk_180 0 3 (dk_at dksX7_line_11 14 rfl rfl)
theorem dX7_line_269 : decode cX7_line 269 = .ok (.getfield 50, 3) := dk_180 0 50 (dk_at dksX7_line_11 17 rfl rfl)
theorem dX7_line_272 : decode cX7_line 272 = .ok (.getfield 99, 3) := dk_180 0 99 (dk_at dksX7_line_11 20 rfl rfl)
theorem dX7_line_275 : decode cX7_line 275 = .ok (.invokevirtual 90, 3) := dk_182 0 90 (dk_at dksX7_line_12 0 rfl rfl)
theorem dX7_line_278 : decode cX7_line 278 = .ok (.invokespecial 115, 3) := dk_183 0 115 (dk_at dksX7_line_12 3 rfl rfl)
theorem dX7_line_281 : decode cX7_line 281 = .ok (.areturn, 1) := dk_176 (dk_at dksX7_line_12 6 rfl rfl)
theorem q117 : (Jvm.Cond.initialized "ParlourLeaves$BookReader") ∈ lw_all := lw_g (lw_at lw_m1 9 rfl) rfl
theorem q250 : (Jvm.Cond.fieldLinkNest "ParlourLeaves$BookReader" (96 : Nat) "ParlourLeaves$House" "parlourNames" "[J" "ParlourLeaves") ∈ lw_tbl := lw_at lw_m1 142 rfl
theorem q254 : (Jvm.Cond.fieldLinkNest "ParlourLeaves$BookReader" (84 : Nat) "ParlourLeaves$House" "plantNames" "[J" "ParlourLeaves") ∈ lw_tbl := lw_at lw_m1 146 rfl
theorem q258 : (Jvm.Cond.fieldLinkNest "ParlourLeaves$BookReader" (54 : Nat) "ParlourLeaves$House" "personNames" "[J" "ParlourLeaves") ∈ lw_tbl := lw_at lw_m1 150 rfl
theorem q262 : (Jvm.Cond.fieldLinkNest "ParlourLeaves$BookReader" (107 : Nat) "ParlourLeaves$House" "deedNames" "[J" "ParlourLeaves") ∈ lw_tbl := lw_at lw_m1 154 rfl
theorem q276 : (Jvm.Cond.fieldLinkNest "ParlourLeaves$BookReader" (99 : Nat) "ParlourLeaves$House" "parlours" "I" "ParlourLeaves") ∈ lw_tbl := lw_at lw_m1 168 rfl
theorem q281 : (Jvm.Cond.fieldLinkNest "ParlourLeaves$BookReader" (87 : Nat) "ParlourLeaves$House" "plants" "I" "ParlourLeaves") ∈ lw_tbl := lw_at lw_m1 173 rfl
theorem q284 : (Jvm.Cond.fieldLinkNest "ParlourLeaves$BookReader" (60 : Nat) "ParlourLeaves$House" "persons" "I" "ParlourLeaves") ∈ lw_tbl := lw_at lw_m1 176 rfl
theorem q290 : (Jvm.Cond.fieldLinkNest "ParlourLeaves$BookReader" (110 : Nat) "ParlourLeaves$House" "deeds" "I" "ParlourLeaves") ∈ lw_tbl := lw_at lw_m1 182 rfl
theorem q403 : (Jvm.Cond.fieldLink "ParlourLeaves$BookReader" (29 : Nat) "ParlourLeaves$BookReader" "token" "I") ∈ lw_all := lw_g (lw_at lw_m2 55 rfl) rfl
theorem q404 : (Jvm.Cond.sameField "ParlourLeaves$BookReader" "ParlourLeaves$Reader" "token" "I") ∈ lw_all := lw_g (lw_at lw_m2 56 rfl) rfl
theorem q442 : (Jvm.Cond.instantiable "ParlourLeaves$BookReader" (11 : Nat)) ∈ lw_all := lw_g (lw_at lw_m2 94 rfl) rfl
theorem q444 : (Jvm.Cond.instanceMethod ({ cls := "ParlourLeaves$BookReader", name := "<init>", desc := "(LParlourLeaves;)V" } : Jvm.MethodName)) ∈ lw_all := lw_g (lw_at lw_m2 96 rfl) rfl
theorem q445 : (Jvm.Cond.code ({ cls := "ParlourLeaves$BookReader", name := "<init>", desc := "(LParlourLeaves;)V" } : Jvm.MethodName) prog_3_method_1_code (2 : Nat) (Option.none : Option Jvm.ClassFile.FieldType)) ∈ lw_all := lw_g (lw_at lw_m2 97 rfl) rfl
theorem q446 : (Jvm.Cond.methodLink "ParlourLeaves$BookReader" (9 : Nat) ({ cls := "ParlourLeaves$Reader", name := "<init>", desc := "(LParlourLeaves;I)V" } : Jvm.MethodName)) ∈ lw_all := lw_g (lw_at lw_m2 98 rfl) rfl
theorem q447 : (Jvm.Cond.classLink "ParlourLeaves$BookReader" (15 : Nat) "ParlourLeaves$Line") ∈ lw_all := lw_g (lw_at lw_m2 99 rfl) rfl
theorem q449 : (Jvm.Cond.fieldLink "ParlourLeaves$BookReader" (17 : Nat) "ParlourLeaves$BookReader" "row" "[LParlourLeaves$Line;") ∈ lw_all := lw_g (lw_at lw_m2 101 rfl) rfl
theorem q451 : (Jvm.Cond.fieldLink "ParlourLeaves$BookReader" (21 : Nat) "ParlourLeaves$BookReader" "n" "I") ∈ lw_all := lw_g (lw_at lw_m2 103 rfl) rfl
theorem q453 : (Jvm.Cond.fieldLink "ParlourLeaves$BookReader" (3 : Nat) "ParlourLeaves$BookReader" "this$0" "LParlourLeaves;") ∈ lw_all := lw_g (lw_at lw_m2 105 rfl) rfl
theorem q454 : (Jvm.Cond.laysFinal "ParlourLeaves$BookReader" "ParlourLeaves$BookReader" "row" "[LParlourLeaves$Line;") ∈ lw_all := lw_g (lw_at lw_m2 106 rfl) rfl
theorem q455 : (Jvm.Cond.soleField "ParlourLeaves$BookReader" "row") ∈ lw_all := lw_g (lw_at lw_m2 107 rfl) rfl
theorem q456 : (Jvm.Cond.lays "ParlourLeaves$BookReader" "ParlourLeaves$BookReader" "n" "I") ∈ lw_all := lw_g (lw_at lw_m2 108 rfl) rfl
theorem q457 : (Jvm.Cond.soleField "ParlourLeaves$BookReader" "n") ∈ lw_all := lw_g (lw_at lw_m2 109 rfl) rfl
theorem q458 : (Jvm.Cond.laysFinal "ParlourLeaves$BookReader" "ParlourLeaves$BookReader" "this$0" "LParlourLeaves;") ∈ lw_all := lw_g (lw_at lw_m2 110 rfl) rfl
theorem q459 : (Jvm.Cond.soleField "ParlourLeaves$BookReader" "this$0") ∈ lw_all := lw_g (lw_at lw_m2 111 rfl) rfl
theorem q460 : (Jvm.Cond.laysFinal "ParlourLeaves$BookReader" "ParlourLeaves$Reader" "most" "I") ∈ lw_all := lw_g (lw_at lw_m2 112 rfl) rfl
theorem q461 : (Jvm.Cond.lays "ParlourLeaves$BookReader" "ParlourLeaves$Reader" "p" "I") ∈ lw_all := lw_g (lw_at lw_m2 113 rfl) rfl
theorem q462 : (Jvm.Cond.lays "ParlourLeaves$BookReader" "ParlourLeaves$Reader" "at" "I") ∈ lw_all := lw_g (lw_at lw_m2 114 rfl) rfl
theorem q463 : (Jvm.Cond.lays "ParlourLeaves$BookReader" "ParlourLeaves$Reader" "token" "I") ∈ lw_all := lw_g (lw_at lw_m2 115 rfl) rfl
theorem q464 : (Jvm.Cond.lays "ParlourLeaves$BookReader" "ParlourLeaves$Reader" "value" "I") ∈ lw_all := lw_g (lw_at lw_m2 116 rfl) rfl
theorem q465 : (Jvm.Cond.lays "ParlourLeaves$BookReader" "ParlourLeaves$Reader" "many" "I") ∈ lw_all := lw_g (lw_at lw_m2 117 rfl) rfl
theorem q466 : (Jvm.Cond.lays "ParlourLeaves$BookReader" "ParlourLeaves$Reader" "name" "J") ∈ lw_all := lw_g (lw_at lw_m2 118 rfl) rfl
theorem q467 : (Jvm.Cond.laysFinal "ParlourLeaves$BookReader" "ParlourLeaves$Reader" "this$0" "LParlourLeaves;") ∈ lw_all := lw_g (lw_at lw_m2 119 rfl) rfl
theorem q468 : (Jvm.Cond.superclass "ParlourLeaves$BookReader" "ParlourLeaves$Reader") ∈ lw_all := lw_g (lw_at lw_m2 120 rfl) rfl
theorem q535 : (Jvm.Cond.fieldLinkNest "ParlourLeaves$BookReader" (50 : Nat) "ParlourLeaves" "house" "LParlourLeaves$House;" "ParlourLeaves") ∈ lw_tbl := lw_at lw_m2 187 rfl
theorem q665 : (Jvm.Cond.selects "ParlourLeaves$BookReader" ({ cls := "ParlourLeaves$Reader", name := "next", desc := "()V" } : Jvm.MethodName) ({ cls := "ParlourLeaves$Reader", name := "next", desc := "()V" } : Jvm.MethodName)) ∈ lw_all := lw_g (lw_at lw_m3 77 rfl) rfl
theorem q697 : (Jvm.Cond.selects "ParlourLeaves$BookReader" ({ cls := "ParlourLeaves$Reader", name := "is", desc := "(Ljava/lang/String;)Z" } : Jvm.MethodName) ({ cls := "ParlourLeaves$Reader", name := "is", desc := "(Ljava/lang/String;)Z" } : Jvm.MethodName)) ∈ lw_all := lw_g (lw_at lw_m3 109 rfl) rfl
theorem q758 : (Jvm.Cond.selects "ParlourLeaves$BookReader" ({ cls := "ParlourLeaves$Reader", name := "wrong", desc := "(I)LParlourLeaves$Fault;" } : Jvm.MethodName) ({ cls := "ParlourLeaves$Reader", name := "wrong", desc := "(I)LParlourLeaves$Fault;" } : Jvm.MethodName)) ∈ lw_all := lw_g (lw_at lw_m3 170 rfl) rfl
theorem q803 : (Jvm.Cond.selects "ParlourLeaves$BookReader" ({ cls := "ParlourLeaves$Reader", name := "look", desc := "([JI)I" } : Jvm.MethodName) ({ cls := "ParlourLeaves$Reader", name := "look", desc := "([JI)I" } : Jvm.MethodName)) ∈ lw_all := lw_g (lw_at lw_m3 215 rfl) rfl
theorem q834 : (Jvm.Cond.selects "ParlourLeaves$BookReader" ({ cls := "ParlourLeaves$Reader", name := "is", desc := "(I)Z" } : Jvm.MethodName) ({ cls := "ParlourLeaves$Reader", name := "is", desc := "(I)Z" } : Jvm.MethodName)) ∈ lw_all := lw_g (lw_at lw_m4 6 rfl) rfl
theorem q1171 : (Jvm.Cond.instanceMethod ({ cls := "ParlourLeaves$BookReader", name := "read", desc := "()V" } : Jvm.MethodName)) ∈ lw_all := lw_g (lw_at lw_m5 103 rfl) rfl
theorem q1172 : (Jvm.Cond.selects "ParlourLeaves$BookReader" ({ cls := "ParlourLeaves$BookReader", name := "read", desc := "()V" } : Jvm.MethodName) ({ cls := "ParlourLeaves$BookReader", name := "read", desc := "()V" } : Jvm.MethodName)) ∈ lw_all := lw_g (lw_at lw_m5 104 rfl) rfl
theorem q1173 : (Jvm.Cond.code ({ cls := "ParlourLeaves$BookReader", name := "read", desc := "()V" } : Jvm.MethodName) prog_3_method_2_code (2 : Nat) (Option.none : Option Jvm.ClassFile.FieldType)) ∈ lw_all := lw_g (lw_at lw_m5 105 rfl) rfl
theorem q1174 : (Jvm.Cond.methodLink "ParlourLeaves$BookReader" (25 : Nat) ({ cls := "ParlourLeaves$BookReader", name := "begin", desc := "()V" } : Jvm.MethodName)) ∈ lw_all := lw_g (lw_at lw_m5 106 rfl) rfl
theorem q1175 : (Jvm.Cond.sameMethod "ParlourLeaves$BookReader" "ParlourLeaves$Reader" "begin" "()V") ∈ lw_all := lw_g (lw_at lw_m5 107 rfl) rfl
theorem q1176 : (Jvm.Cond.selects "ParlourLeaves$BookReader" ({ cls := "ParlourLeaves$BookReader", name := "begin", desc := "()V" } : Jvm.MethodName) ({ cls := "ParlourLeaves$Reader", name := "begin", desc := "()V" } : Jvm.MethodName)) ∈ lw_all := lw_g (lw_at lw_m5 108 rfl) rfl
theorem q1177 : (Jvm.Cond.methodLink "ParlourLeaves$BookReader" (32 : Nat) ({ cls := "ParlourLeaves$BookReader", name := "line", desc := "()LParlourLeaves$Line;" } : Jvm.MethodName)) ∈ lw_all := lw_g (lw_at lw_m5 109 rfl) rfl
theorem q1178 : (Jvm.Cond.privateMethod ({ cls := "ParlourLeaves$BookReader", name := "line", desc := "()LParlourLeaves$Line;" } : Jvm.MethodName)) ∈ lw_tbl := lw_at lw_m5 110 rfl
theorem q1179 : (Jvm.Cond.instanceMethod ({ cls := "ParlourLeaves$BookReader", name := "line", desc := "()LParlourLeaves$Line;" } : Jvm.MethodName)) ∈ lw_all := lw_g (lw_at lw_m5 111 rfl) rfl
theorem q1180 : (Jvm.Cond.code ({ cls := "ParlourLeaves$BookReader", name := "line", desc := "()LParlourLeaves$Line;" } : Jvm.MethodName) prog_3_method_3_code (6 : Nat) (Option.some (Jvm.ClassFile.FieldType.object "ParlourLeaves$Line"))) ∈ lw_all := lw_g (lw_at lw_m5 112 rfl) rfl
theorem q1181 : (Jvm.Cond.stringRef "ParlourLeaves$BookReader" (40 : Nat) "sponge") ∈ lw_tbl := lw_at lw_m5 113 rfl
theorem q1182 : (Jvm.Cond.methodLink "ParlourLeaves$BookReader" (42 : Nat) ({ cls := "ParlourLeaves$BookReader", name := "is", desc := "(Ljava/lang/String;)Z" } : Jvm.MethodName)) ∈ lw_all := lw_g (lw_at lw_m5 114 rfl) rfl
theorem q1183 : (Jvm.Cond.sameMethod "ParlourLeaves$BookReader" "ParlourLeaves$Reader" "is" "(Ljava/lang/String;)Z") ∈ lw_all := lw_g (lw_at lw_m5 115 rfl) rfl
theorem q1184 : (Jvm.Cond.selects "ParlourLeaves$BookReader" ({ cls := "ParlourLeaves$BookReader", name := "is", desc := "(Ljava/lang/String;)Z" } : Jvm.MethodName) ({ cls := "ParlourLeaves$Reader", name := "is", desc := "(Ljava/lang/String;)Z" } : Jvm.MethodName)) ∈ lw_all := lw_g (lw_at lw_m5 116 rfl) rfl
theorem q1185 : (Jvm.Cond.stringRef "ParlourLeaves$BookReader" (46 : Nat) "carry") ∈ lw_tbl := lw_at lw_m5 117 rfl
theorem q1186 : (Jvm.Cond.stringRef "ParlourLeaves$BookReader" (48 : Nat) "day") ∈ lw_tbl := lw_at lw_m5 118 rfl
theorem q1187 : (Jvm.Cond.methodLink "ParlourLeaves$BookReader" (63 : Nat) ({ cls := "ParlourLeaves$BookReader", name := "look", desc := "([JI)I" } : Jvm.MethodName)) ∈ lw_all := lw_g (lw_at lw_m5 119 rfl) rfl
theorem q1188 : (Jvm.Cond.sameMethod "ParlourLeaves$BookReader" "ParlourLeaves$Reader" "look" "([JI)I") ∈ lw_all := lw_g (lw_at lw_m5 120 rfl) rfl
theorem q1189 : (Jvm.Cond.selects "ParlourLeaves$BookReader" ({ cls := "ParlourLeaves$BookReader", name := "look", desc := "([JI)I" } : Jvm.MethodName) ({ cls := "ParlourLeaves$Reader", name := "look", desc := "([JI)I" } : Jvm.MethodName)) ∈ lw_all := lw_g (lw_at lw_m5 121 rfl) rfl
theorem q1190 : (Jvm.Cond.methodLink "ParlourLeaves$BookReader" (67 : Nat) ({ cls := "ParlourLeaves$BookReader", name := "must", desc := "(ZI)V" } : Jvm.MethodName)) ∈ lw_all := lw_g (lw_at lw_m5 122 rfl) rfl
theorem q1191 : (Jvm.Cond.sameMethod "ParlourLeaves$BookReader" "ParlourLeaves$Reader" "must" "(ZI)V") ∈ lw_all := lw_g (lw_at lw_m5 123 rfl) rfl
theorem q1192 : (Jvm.Cond.selects "ParlourLeaves$BookReader" ({ cls := "ParlourLeaves$BookReader", name := "must", desc := "(ZI)V" } : Jvm.MethodName) ({ cls := "ParlourLeaves$Reader", name := "must", desc := "(ZI)V" } : Jvm.MethodName)) ∈ lw_all := lw_g (lw_at lw_m5 124 rfl) rfl
theorem q1193 : (Jvm.Cond.methodLink "ParlourLeaves$BookReader" (71 : Nat) ({ cls := "ParlourLeaves$BookReader", name := "next", desc := "()V" } : Jvm.MethodName)) ∈ lw_all := lw_g (lw_at lw_m5 125 rfl) rfl
theorem q1194 : (Jvm.Cond.sameMethod "ParlourLeaves$BookReader" "ParlourLeaves$Reader" "next" "()V") ∈ lw_all := lw_g (lw_at lw_m5 126 rfl) rfl
theorem q1195 : (Jvm.Cond.selects "ParlourLeaves$BookReader" ({ cls := "ParlourLeaves$BookReader", name := "next", desc := "()V" } : Jvm.MethodName) ({ cls := "ParlourLeaves$Reader", name := "next", desc := "()V" } : Jvm.MethodName)) ∈ lw_all := lw_g (lw_at lw_m5 127 rfl) rfl
theorem q1196 : (Jvm.Cond.classLink "ParlourLeaves$BookReader" (74 : Nat) "ParlourLeaves$Days") ∈ lw_all := lw_g (lw_at lw_m5 128 rfl) rfl
theorem q1198 : (Jvm.Cond.methodLink "ParlourLeaves$BookReader" (76 : Nat) ({ cls := "ParlourLeaves$BookReader", name := "number", desc := "(II)I" } : Jvm.MethodName)) ∈ lw_all := lw_g (lw_at lw_m5 130 rfl) rfl
theorem q1199 : (Jvm.Cond.sameMethod "ParlourLeaves$BookReader" "ParlourLeaves$Reader" "number" "(II)I") ∈ lw_all := lw_g (lw_at lw_m5 131 rfl) rfl
theorem q1200 : (Jvm.Cond.selects "ParlourLeaves$BookReader" ({ cls := "ParlourLeaves$BookReader", name := "number", desc := "(II)I" } : Jvm.MethodName) ({ cls := "ParlourLeaves$Reader", name := "number", desc := "(II)I" } : Jvm.MethodName)) ∈ lw_all := lw_g (lw_at lw_m5 132 rfl) rfl
theorem q1201 : (Jvm.Cond.methodLink "ParlourLeaves$BookReader" (80 : Nat) ({ cls := "ParlourLeaves$Days", name := "<init>", desc := "(I)V" } : Jvm.MethodName)) ∈ lw_all := lw_g (lw_at lw_m5 133 rfl) rfl
theorem q1212 : (Jvm.Cond.classLink "ParlourLeaves$BookReader" (82 : Nat) "ParlourLeaves$Sponges") ∈ lw_all := lw_g (lw_at lw_m5 144 rfl) rfl
theorem q1214 : (Jvm.Cond.methodLink "ParlourLeaves$BookReader" (90 : Nat) ({ cls := "ParlourLeaves$BookReader", name := "known", desc := "([JI)I" } : Jvm.MethodName)) ∈ lw_all := lw_g (lw_at lw_m5 146 rfl) rfl
theorem q1215 : (Jvm.Cond.sameMethod "ParlourLeaves$BookReader" "ParlourLeaves$Reader" "known" "([JI)I") ∈ lw_all := lw_g (lw_at lw_m5 147 rfl) rfl
theorem q1216 : (Jvm.Cond.selects "ParlourLeaves$BookReader" ({ cls := "ParlourLeaves$BookReader", name := "known", desc := "([JI)I" } : Jvm.MethodName) ({ cls := "ParlourLeaves$Reader", name := "known", desc := "([JI)I" } : Jvm.MethodName)) ∈ lw_all := lw_g (lw_at lw_m5 148 rfl) rfl
theorem q1217 : (Jvm.Cond.methodLink "ParlourLeaves$BookReader" (93 : Nat) ({ cls := "ParlourLeaves$Sponges", name := "<init>", desc := "(I)V" } : Jvm.MethodName)) ∈ lw_all := lw_g (lw_at lw_m5 149 rfl) rfl
theorem q1225 : (Jvm.Cond.classLink "ParlourLeaves$BookReader" (94 : Nat) "ParlourLeaves$Carries") ∈ lw_all := lw_g (lw_at lw_m5 157 rfl) rfl
theorem q1227 : (Jvm.Cond.methodLink "ParlourLeaves$BookReader" (102 : Nat) ({ cls := "ParlourLeaves$Carries", name := "<init>", desc := "(II)V" } : Jvm.MethodName)) ∈ lw_all := lw_g (lw_at lw_m5 159 rfl) rfl
theorem q1238 : (Jvm.Cond.stringRef "ParlourLeaves$BookReader" (105 : Nat) "does") ∈ lw_tbl := lw_at lw_m5 170 rfl
theorem q1239 : (Jvm.Cond.classLink "ParlourLeaves$BookReader" (113 : Nat) "ParlourLeaves$Does") ∈ lw_all := lw_g (lw_at lw_m5 171 rfl) rfl
theorem q1241 : (Jvm.Cond.methodLink "ParlourLeaves$BookReader" (115 : Nat) ({ cls := "ParlourLeaves$Does", name := "<init>", desc := "(III)V" } : Jvm.MethodName)) ∈ lw_all := lw_g (lw_at lw_m5 173 rfl) rfl
theorem q1255 : (Jvm.Cond.methodLink "ParlourLeaves$BookReader" (36 : Nat) ({ cls := "ParlourLeaves$BookReader", name := "sign", desc := "(I)V" } : Jvm.MethodName)) ∈ lw_all := lw_g (lw_at lw_m5 187 rfl) rfl
theorem q1256 : (Jvm.Cond.sameMethod "ParlourLeaves$BookReader" "ParlourLeaves$Reader" "sign" "(I)V") ∈ lw_all := lw_g (lw_at lw_m5 188 rfl) rfl
theorem q1257 : (Jvm.Cond.selects "ParlourLeaves$BookReader" ({ cls := "ParlourLeaves$BookReader", name := "sign", desc := "(I)V" } : Jvm.MethodName) ({ cls := "ParlourLeaves$Reader", name := "sign", desc := "(I)V" } : Jvm.MethodName)) ∈ lw_all := lw_g (lw_at lw_m5 189 rfl) rfl
theorem q2202 : (Jvm.Cond.selects "ParlourLeaves$BookReader" ({ cls := "ParlourLeaves$Reader", name := "find", desc := "([Ljava/lang/String;)I" } : Jvm.MethodName) ({ cls := "ParlourLeaves$Reader", name := "find", desc := "([Ljava/lang/String;)I" } : Jvm.MethodName)) ∈ lw_all := lw_g (lw_at lw_m9 174 rfl) rfl
theorem q2206 : (Jvm.Cond.selects "ParlourLeaves$BookReader" ({ cls := "ParlourLeaves$Reader", name := "isName", desc := "()Z" } : Jvm.MethodName) ({ cls := "ParlourLeaves$Reader", name := "isName", desc := "()Z" } : Jvm.MethodName)) ∈ lw_all := lw_g (lw_at lw_m9 178 rfl) rfl
theorem q2210 : (Jvm.Cond.selects "ParlourLeaves$BookReader" ({ cls := "ParlourLeaves$Reader", name := "must", desc := "(ZI)V" } : Jvm.MethodName) ({ cls := "ParlourLeaves$Reader", name := "must", desc := "(ZI)V" } : Jvm.MethodName)) ∈ lw_all := lw_g (lw_at lw_m9 182 rfl) rfl
theorem q2214 : (Jvm.Cond.selects "ParlourLeaves$BookReader" ({ cls := "ParlourLeaves$Reader", name := "of", desc := "([JI)I" } : Jvm.MethodName) ({ cls := "ParlourLeaves$Reader", name := "of", desc := "([JI)I" } : Jvm.MethodName)) ∈ lw_all := lw_g (lw_at lw_m9 186 rfl) rfl
theorem q2222 : (Jvm.Cond.castable "ParlourLeaves$BookReader" "java/lang/Object") ∈ lw_tbl := lw_at lw_m9 194 rfl
theorem in_X7 : ∀ w ∈ wsX70, w ∈ lw_all := lw_in wsX70 [460, 461, 462, 463, 464, 465, 466, 467, 454, 456, 458] (by decide +kernel) (by decide +kernel)
/-! ParlourLeaves$SentenceReader -/
set_option maxRecDepth 100000
def RX8 : String := "ParlourLeaves$SentenceReader"
def TX8 : u_T := fun k => match k with
  | 0 => ("ParlourLeaves$Reader", "most", "I", true)
  | 1 => ("ParlourLeaves$Reader", "p", "I", false)
  | 2 => ("ParlourLeaves$Reader", "at", "I", false)
  | 3 => ("ParlourLeaves$Reader", "token", "I", false)
  | 4 => ("ParlourLeaves$Reader", "value", "I", false)
  | 5 => ("ParlourLeaves$Reader", "many", "I", false)
  | 6 => ("ParlourLeaves$Reader", "name", "J", false)
  | 7 => ("ParlourLeaves$Reader", "this$0", "LParlourLeaves;", true)
  | 8 => ("ParlourLeaves$SentenceReader", "marks", "[Ljava/lang/String;", true)
  | 9 => ("ParlourLeaves$SentenceReader", "counts", "[Ljava/lang/String;", true)
  | 10 => ("ParlourLeaves$SentenceReader", "ones", "I", false)
  | _ => ("ParlourLeaves$SentenceReader", "this$0", "LParlourLeaves;", true)
def tyX8 : Nat → FieldType := fun k => match k with
  | 0 => .int
  | 1 => .int
  | 2 => .int
  | 3 => .int
  | 4 => .int
  | 5 => .int
  | 6 => .long
  | 7 => .object "ParlourLeaves"
  | 8 => .array (.object "java/lang/String")
  | 9 => .array (.object "java/lang/String")
  | 10 => .int
  | _ => .object "ParlourLeaves"
abbrev wsX80 : List Cond := u_ws RX8 TX8 12
-- two fields of one name: no nmX8
theorem tyX8_ok : ∀ k, k < 12 → parseFieldDescriptor (TX8 k).2.2.1 = some (tyX8 k) := by decide +kernel
abbrev cX8_init : ByteArray := prog_18_method_1_code
def yX8_init : MethodName := ⟨RX8, "<init>", "(LParlourLeaves;)V"⟩
def dkwX8_init_2 : List UInt8 := [189, 0, 15, 89, 3, 18, 31, 83, 89, 4, 18, 33, 83, 89, 5, 18, 35, 83, 181, 0, 37, 177]
abbrev dktX8_init_2 : List UInt8 := dkwX8_init_2 ++ []
def dkwX8_init_1 : List UInt8 := [4, 18, 19, 83, 89, 5, 18, 21, 83, 89, 6, 18, 23, 83, 89, 7, 18, 25, 83, 181, 0, 27, 42, 6]
abbrev dktX8_init_1 : List UInt8 := dkwX8_init_1 ++ dktX8_init_2
def dkwX8_init_0 : List UInt8 := [42, 43, 181, 0, 3, 42, 43, 17, 0, 200, 183, 0, 9, 42, 8, 189, 0, 15, 89, 3, 18, 17, 83, 89]
abbrev dktX8_init_0 : List UInt8 := dkwX8_init_0 ++ dktX8_init_1
theorem dksX8_init_0 : cX8_init.data.toList.drop 0 = dktX8_init_0 := by decide +kernel
theorem dksX8_init_1 : cX8_init.data.toList.drop 24 = dktX8_init_1 := dk_seg dksX8_init_0 24 rfl rfl
theorem dksX8_init_2 : cX8_init.data.toList.drop 48 = dktX8_init_2 := dk_seg dksX8_init_1 24 rfl rfl
theorem dX8_init_0 : decode cX8_init 0 = .ok (.aload_n 0, 1) := dk_42 (dk_at dksX8_init_0 0 rfl rfl)
theorem dX8_init_1 : decode cX8_init 1 = .ok (.aload_n 1, 1) := dk_43 (dk_at dksX8_init_0 1 rfl rfl)
theorem dX8_init_2 : decode cX8_init 2 = .ok (.putfield 3, 3) := dk_181 0 3 (dk_at dksX8_init_0 2 rfl rfl)
theorem dX8_init_5 : decode cX8_init 5 = .ok (.aload_n 0, 1) := dk_42 (dk_at dksX8_init_0 5 rfl rfl)
theorem dX8_init_6 : decode cX8_init 6 = .ok (.aload_n 1, 1) := dk_43 (dk_at dksX8_init_0 6 rfl rfl)
theorem dX8_init_7 : decode cX8_init 7 = .ok (.sipush 200, 3) := dk_17 0 200 (dk_at dksX8_init_0 7 rfl rfl)
theorem dX8_init_10 : decode cX8_init 10 = .ok (.invokespecial 9, 3) := dk_183 0 9 (dk_at dksX8_init_0 10 rfl rfl)
theorem dX8_init_13 : decode cX8_init 13 = .ok (.aload_n 0, 1) := dk_42 (dk_at dksX8_init_0 13 rfl rfl)
theorem dX8_init_14 : decode cX8_init 14 = .ok (.iconst 5, 1) := dk_8 (dk_at dksX8_init_0 14 rfl rfl)
theorem dX8_init_15 : decode cX8_init 15 = .ok (.anewarray 15, 3) := dk_189 0 15 (dk_at dksX8_init_0 15 rfl rfl)
theorem dX8_init_18 : decode cX8_init 18 = .ok (.dup, 1) := dk_89 (dk_at dksX8_init_0 18 rfl rfl)
theorem dX8_init_19 : decode cX8_init 19 = .ok (.iconst 0, 1) := dk_3 (dk_at dksX8_init_0 19 rfl rfl)
theorem dX8_init_20 : decode cX8_init 20 = .ok (.ldc 17, 2) := dk_18 17 (dk_at dksX8_init_0 20 rfl rfl)
theorem dX8_init_22 : decode cX8_init 22 = .ok (.aastore, 1) := dk_83 (dk_at dksX8_init_0 22 rfl rfl)
theorem dX8_init_23 : decode cX8_init 23 = .ok (.dup, 1) := dk_89 (dk_at dksX8_init_0 23 rfl rfl)
theorem dX8_init_24 : decode cX8_init 24 = .ok (.iconst 1, 1) := dk_4 (dk_at dksX8_init_1 0 rfl rfl)
theorem dX8_init_25 : decode cX8_init 25 = .ok (.ldc 19, 2) := dk_18 19 (dk_at dksX8_init_1 1 rfl rfl)
theorem dX8_init_27 : decode cX8_init 27 = .ok (.aastore, 1) := dk_83 (dk_at dksX8_init_1 3 rfl rfl)
theorem dX8_init_28 : decode cX8_init 28 = .ok (.dup, 1) := dk_89 (dk_at dksX8_init_1 4 rfl rfl)
theorem dX8_init_29 : decode cX8_init 29 = .ok (.iconst 2, 1) := dk_5 (dk_at dksX8_init_1 5 rfl rfl)
theorem dX8_init_30 : decode cX8_init 30 = .ok (.ldc 21, 2) := dk_18 21 (dk_at dksX8_init_1 6 rfl rfl)
theorem dX8_init_32 : decode cX8_init 32 = .ok (.aastore, 1) := dk_83 (dk_at dksX8_init_1 8 rfl rfl)
theorem dX8_init_33 : decode cX8_init 33 = .ok (.dup, 1) := dk_89 (dk_at dksX8_init_1 9 rfl rfl)
theorem dX8_init_34 : decode cX8_init 34 = .ok (.iconst 3, 1) := dk_6 (dk_at dksX8_init_1 10 rfl rfl)
theorem dX8_init_35 : decode cX8_init 35 = .ok (.ldc 23, 2) := dk_18 23 (dk_at dksX8_init_1 11 rfl rfl)
theorem dX8_init_37 : decode cX8_init 37 = .ok (.aastore, 1) := dk_83 (dk_at dksX8_init_1 13 rfl rfl)
theorem dX8_init_38 : decode cX8_init 38 = .ok (.dup, 1) := dk_89 (dk_at dksX8_init_1 14 rfl rfl)
theorem dX8_init_39 : decode cX8_init 39 = .ok (.iconst 4, 1) := dk_7 (dk_at dksX8_init_1 15 rfl rfl)
theorem dX8_init_40 : decode cX8_init 40 = .ok (.ldc 25, 2) := dk_18 25 (dk_at dksX8_init_1 16 rfl rfl)
theorem dX8_init_42 : decode cX8_init 42 = .ok (.aastore, 1) := dk_83 (dk_at dksX8_init_1 18 rfl rfl)
theorem dX8_init_43 : decode cX8_init 43 = .ok (.putfield 27, 3) := dk_181 0 27 (dk_at dksX8_init_1 19 rfl rfl)
theorem dX8_init_46 : decode cX8_init 46 = .ok (.aload_n 0, 1) := dk_42 (dk_at dksX8_init_1 22 rfl rfl)
theorem dX8_init_47 : decode cX8_init 47 = .ok (.iconst 3, 1) := dk_6 (dk_at dksX8_init_1 23 rfl rfl)
theorem dX8_init_48 : decode cX8_init 48 = .ok (.anewarray 15, 3) := dk_189 0 15 (dk_at dksX8_init_2 0 rfl rfl)
theorem dX8_init_51 : decode cX8_init 51 = .ok (.dup, 1) := dk_89 (dk_at dksX8_init_2 3 rfl rfl)
theorem dX8_init_52 : decode cX8_init 52 = .ok (.iconst 0, 1) := dk_3 (dk_at dksX8_init_2 4 rfl rfl)
theorem dX8_init_53 : decode cX8_init 53 = .ok (.ldc 31, 2) := dk_18 31 (dk_at dksX8_init_2 5 rfl rfl)
theorem dX8_init_55 : decode cX8_init 55 = .ok (.aastore, 1) := dk_83 (dk_at dksX8_init_2 7 rfl rfl)
theorem dX8_init_56 : decode cX8_init 56 = .ok (.dup, 1) := dk_89 (dk_at dksX8_init_2 8 rfl rfl)
theorem dX8_init_57 : decode cX8_init 57 = .ok (.iconst 1, 1) := dk_4 (dk_at dksX8_init_2 9 rfl rfl)
theorem dX8_init_58 : decode cX8_init 58 = .ok (.ldc 33, 2) := dk_18 33 (dk_at dksX8_init_2 10 rfl rfl)
theorem dX8_init_60 : decode cX8_init 60 = .ok (.aastore, 1) := dk_83 (dk_at dksX8_init_2 12 rfl rfl)
theorem dX8_init_61 : decode cX8_init 61 = .ok (.dup, 1) := dk_89 (dk_at dksX8_init_2 13 rfl rfl)
theorem dX8_init_62 : decode cX8_init 62 = .ok (.iconst 2, 1) := dk_5 (dk_at dksX8_init_2 14 rfl rfl)
theorem dX8_init_63 : decode cX8_init 63 = .ok (.ldc 35, 2) := dk_18 35 (dk_at dksX8_init_2 15 rfl rfl)
theorem dX8_init_65 : decode cX8_init 65 = .ok (.aastore, 1) := dk_83 (dk_at dksX8_init_2 17 rfl rfl)
theorem dX8_init_66 : decode cX8_init 66 = .ok (.putfield 37, 3) := dk_181 0 37 (dk_at dksX8_init_2 18 rfl rfl)
theorem dX8_init_69 : decode cX8_init 69 = .ok (.return_, 1) := dk_177 (dk_at dksX8_init_2 21 rfl rfl)
abbrev cX8_read : ByteArray := prog_18_method_2_code
def yX8_read : MethodName := ⟨RX8, "read", "()LParlourLeaves$Cond;"⟩
def dkwX8_read_1 : List UInt8 := [167, 0, 4, 3, 4, 182, 0, 55, 43, 176]
abbrev dktX8_read_1 : List UInt8 := dkwX8_read_1 ++ []
def dkwX8_read_0 : List UInt8 := [42, 3, 181, 0, 40, 42, 182, 0, 44, 42, 4, 182, 0, 48, 76, 42, 42, 180, 0, 52, 154, 0, 7, 4]
abbrev dktX8_read_0 : List UInt8 := dkwX8_read_0 ++ dktX8_read_1
theorem dksX8_read_0 : cX8_read.data.toList.drop 0 = dktX8_read_0 := by decide +kernel
theorem dksX8_read_1 : cX8_read.data.toList.drop 24 = dktX8_read_1 := dk_seg dksX8_read_0 24 rfl rfl
theorem dX8_read_0 : decode cX8_read 0 = .ok (.aload_n 0, 1) := dk_42 (dk_at dksX8_read_0 0 rfl rfl)
theorem dX8_read_1 : decode cX8_read 1 = .ok (.iconst 0, 1) := dk_3 (dk_at dksX8_read_0 1 rfl rfl)
theorem dX8_read_2 : decode cX8_read 2 = .ok (.putfield 40, 3) := dk_181 0 40 (dk_at dksX8_read_0 2 rfl rfl)
theorem dX8_read_5 : decode cX8_read 5 = .ok (.aload_n 0, 1) := dk_42 (dk_at dksX8_read_0 5 rfl rfl)
theorem dX8_read_6 : decode cX8_read 6 = .ok (.invokevirtual 44, 3) := dk_182 0 44 (dk_at dksX8_read_0 6 rfl rfl)
theorem dX8_read_9 : decode cX8_read 9 = .ok (.aload_n 0, 1) := dk_42 (dk_at dksX8_read_0 9 rfl rfl)
theorem dX8_read_10 : decode cX8_read 10 = .ok (.iconst 1, 1) := dk_4 (dk_at dksX8_read_0 10 rfl rfl)
theorem dX8_read_11 : decode cX8_read 11 = .ok (.invokevirtual 48, 3) := dk_182 0 48 (dk_at dksX8_read_0 11 rfl rfl)
theorem dX8_read_14 : decode cX8_read 14 = .ok (.astore_n 1, 1) := dk_76 (dk_at dksX8_read_0 14 rfl rfl)
theorem dX8_read_15 : decode cX8_read 15 = .ok (.aload_n 0, 1) := dk_42 (dk_at dksX8_read_0 15 rfl rfl)
theorem dX8_read_16 : decode cX8_read 16 = .ok (.aload_n 0, 1) := dk_42 (dk_at dksX8_read_0 16 rfl rfl)
theorem dX8_read_17 : decode cX8_read 17 = .ok (.getfield 52, 3) := dk_180 0 52 (dk_at dksX8_read_0 17 rfl rfl)
theorem dX8_read_20 : decode cX8_read 20 = .ok (.ifCond .ne 7, 3) := dk_154 0 7 (dk_at dksX8_read_0 20 rfl rfl)
theorem dX8_read_23 : decode cX8_read 23 = .ok (.iconst 1, 1) := dk_4 (dk_at dksX8_read_0 23 rfl rfl)
theorem dX8_read_24 : decode cX8_read 24 = .ok (.goto 4, 3) := dk_167 0 4 (dk_at dksX8_read_1 0 rfl rfl)
theorem dX8_read_27 : decode cX8_read 27 = .ok (.iconst 0, 1) := dk_3 (dk_at dksX8_read_1 3 rfl rfl)
theorem dX8_read_28 : decode cX8_read 28 = .ok (.iconst 1, 1) := dk_4 (dk_at dksX8_read_1 4 rfl rfl)
theorem dX8_read_29 : decode cX8_read 29 = .ok (.invokevirtual 55, 3) := dk_182 0 55 (dk_at dksX8_read_1 5 rfl rfl)
theorem dX8_read_32 : decode cX8_read 32 = .ok (.aload_n 1, 1) := dk_43 (dk_at dksX8_read_1 8 rfl rfl)
theorem dX8_read_33 : decode cX8_read 33 = .ok (.areturn, 1) := dk_176 (dk_at dksX8_read_1 9 rfl rfl)
abbrev cX8_any : ByteArray := prog_18_method_3_code
def yX8_any : MethodName := ⟨RX8, "any", "(I)LParlourLeaves$Cond;"⟩
def dkwX8_any_1 : List UInt8 := [42, 27, 182, 0, 59, 183, 0, 73, 77, 167, 255, 229, 44, 176]
abbrev dktX8_any_1 : List UInt8 := dkwX8_any_1 ++ []
def dkwX8_any_0 : List UInt8 := [42, 27, 182, 0, 59, 77, 42, 18, 62, 182, 0, 64, 153, 0, 24, 42, 182, 0, 68, 187, 0, 71, 89, 44]
abbrev dktX8_any_0 : List UInt8 := dkwX8_any_0 ++ dktX8_any_1
theorem dksX8_any_0 : cX8_any.data.toList.drop 0 = dktX8_any_0 := by decide +kernel
theorem dksX8_any_1 : cX8_any.data.toList.drop 24 = dktX8_any_1 := dk_seg dksX8_any_0 24 rfl rfl
theorem dX8_any_0 : decode cX8_any 0 = .ok (.aload_n 0, 1) := dk_42 (dk_at dksX8_any_0 0 rfl rfl)
theorem dX8_any_1 : decode cX8_any 1 = .ok (.iload_n 1, 1) := dk_27 (dk_at dksX8_any_0 1 rfl rfl)
theorem dX8_any_2 : decode cX8_any 2 = .ok (.invokevirtual 59, 3) := dk_182 0 59 (dk_at dksX8_any_0 2 rfl rfl)
theorem dX8_any_5 : decode cX8_any 5 = .ok (.astore_n 2, 1) := dk_77 (dk_at dksX8_any_0 5 rfl rfl)
theorem dX8_any_6 : decode cX8_any 6 = .ok (.aload_n 0, 1) := dk_42 (dk_at dksX8_any_0 6 rfl rfl)
theorem dX8_any_7 : decode cX8_any 7 = .ok (.ldc 62, 2) := dk_18 62 (dk_at dksX8_any_0 7 rfl rfl)
theorem dX8_any_9 : decode cX8_any 9 = .ok (.invokevirtual 64, 3) := dk_182 0 64 (dk_at dksX8_any_0 9 rfl rfl)
theorem dX8_any_12 : decode cX8_any 12 = .ok (.ifCond .eq 24, 3) := dk_153 0 24 (dk_at dksX8_any_0 12 rfl rfl)
theorem dX8_any_15 : decode cX8_any 15 = .ok (.aload_n 0, 1) := dk_42 (dk_at dksX8_any_0 15 rfl rfl)
theorem dX8_any_16 : decode cX8_any 16 = .ok (.invokevirtual 68, 3) := dk_182 0 68 (dk_at dksX8_any_0 16 rfl rfl)
theorem dX8_any_19 : decode cX8_any 19 = .ok (.new 71, 3) := dk_187 0 71 (dk_at dksX8_any_0 19 rfl rfl)
theorem dX8_any_22 : decode cX8_any 22 = .ok (.dup, 1) := dk_89 (dk_at dksX8_any_0 22 rfl rfl)
theorem dX8_any_23 : decode cX8_any 23 = .ok (.aload_n 2, 1) := dk_44 (dk_at dksX8_any_0 23 rfl rfl)
theorem dX8_any_24 : decode cX8_any 24 = .ok (.aload_n 0, 1) := dk_42 (dk_at dksX8_any_1 0 rfl rfl)
theorem dX8_any_25 : decode cX8_any 25 = .ok (.iload_n 1, 1) := dk_27 (dk_at dksX8_any_1 1 rfl rfl)
theorem dX8_any_26 : decode cX8_any 26 = .ok (.invokevirtual 59, 3) := dk_182 0 59 (dk_at dksX8_any_1 2 rfl rfl)
theorem dX8_any_29 : decode cX8_any 29 = .ok (.invokespecial 73, 3) := dk_183 0 73 (dk_at dksX8_any_1 5 rfl rfl)
theorem dX8_any_32 : decode cX8_any 32 = .ok (.astore_n 2, 1) := dk_77 (dk_at dksX8_any_1 8 rfl rfl)
theorem dX8_any_33 : decode cX8_any 33 = .ok (.goto (-27), 3) := dk_167 255 229 (dk_at dksX8_any_1 9 rfl rfl)
theorem dX8_any_36 : decode cX8_any 36 = .ok (.aload_n 2, 1) := dk_44 (dk_at dksX8_any_1 12 rfl rfl)
theorem dX8_any_37 : decode cX8_any 37 = .ok (.areturn, 1) := dk_176 (dk_at dksX8_any_1 13 rfl rfl)
abbrev cX8_both : ByteArray := prog_18_method_4_code
def yX8_both : MethodName := ⟨RX8, "both", "(I)LParlourLeaves$Cond;"⟩
def dkwX8_both_1 : List UInt8 := [42, 27, 182, 0, 76, 183, 0, 83, 77, 167, 255, 229, 44, 176]
abbrev dktX8_both_1 : List UInt8 := dkwX8_both_1 ++ []
def dkwX8_both_0 : List UInt8 := [42, 27, 182, 0, 76, 77, 42, 18, 79, 182, 0, 64, 153, 0, 24, 42, 182, 0, 68, 187, 0, 81, 89, 44]
abbrev dktX8_both_0 : List UInt8 := dkwX8_both_0 ++ dktX8_both_1
theorem dksX8_both_0 : cX8_both.data.toList.drop 0 = dktX8_both_0 := by decide +kernel
theorem dksX8_both_1 : cX8_both.data.toList.drop 24 = dktX8_both_1 := dk_seg dksX8_both_0 24 rfl rfl
theorem dX8_both_0 : decode cX8_both 0 = .ok (.aload_n 0, 1) := dk_42 (dk_at dksX8_both_0 0 rfl rfl)
theorem dX8_both_1 : decode cX8_both 1 = .ok (.iload_n 1, 1) := dk_27 (dk_at dksX8_both_0 1 rfl rfl)
theorem dX8_both_2 : decode cX8_both 2 = .ok (.invokevirtual 76, 3) := dk_182 0 76 (dk_at dksX8_both_0 2 rfl rfl)
theorem dX8_both_5 : decode cX8_both 5 = .ok (.astore_n 2, 1) := dk_77 (dk_at dksX8_both_0 5 rfl rfl)
theorem dX8_both_6 : decode cX8_both 6 = .ok (.aload_n 0, 1) := dk_42 (dk_at dksX8_both_0 6 rfl rfl)
theorem dX8_both_7 : decode cX8_both 7 = .ok (.ldc 79, 2) := dk_18 79 (dk_at dksX8_both_0 7 rfl rfl)
theorem dX8_both_9 : decode cX8_both 9 = .ok (.invokevirtual 64, 3) := dk_182 0 64 (dk_at dksX8_both_0 9 rfl rfl)
theorem dX8_both_12 : decode cX8_both 12 = .ok (.ifCond .eq 24, 3) := dk_153 0 24 (dk_at dksX8_both_0 12 rfl rfl)
theorem dX8_both_15 : decode cX8_both 15 = .ok (.aload_n 0, 1) := dk_42 (dk_at dksX8_both_0 15 rfl rfl)
theorem dX8_both_16 : decode cX8_both 16 = .ok (.invokevirtual 68, 3) := dk_182 0 68 (dk_at dksX8_both_0 16 rfl rfl)
theorem dX8_both_19 : decode cX8_both 19 = .ok (.new 81, 3) := dk_187 0 81 (dk_at dksX8_both_0 19 rfl rfl)
theorem dX8_both_22 : decode cX8_both 22 = .ok (.dup, 1) := dk_89 (dk_at dksX8_both_0 22 rfl rfl)
theorem dX8_both_23 : decode cX8_both 23 = .ok (.aload_n 2, 1) := dk_44 (dk_at dksX8_both_0 23 rfl rfl)
theorem dX8_both_24 : decode cX8_both 24 = .ok (.aload_n 0, 1) := dk_42 (dk_at dksX8_both_1 0 rfl rfl)
theorem dX8_both_25 : decode cX8_both 25 = .ok (.iload_n 1, 1) := dk_27 (dk_at dksX8_both_1 1 rfl rfl)
theorem dX8_both_26 : decode cX8_both 26 = .ok (.invokevirtual 76, 3) := dk_182 0 76 (dk_at dksX8_both_1 2 rfl rfl)
theorem dX8_both_29 : decode cX8_both 29 = .ok (.invokespecial 83, 3) := dk_183 0 83 (dk_at dksX8_both_1 5 rfl rfl)
theorem dX8_both_32 : decode cX8_both 32 = .ok (.astore_n 2, 1) := dk_77 (dk_at dksX8_both_1 8 rfl rfl)
theorem dX8_both_33 : decode cX8_both 33 = .ok (.goto (-27), 3) := dk_167 255 229 (dk_at dksX8_both_1 9 rfl rfl)
theorem dX8_both_36 : decode cX8_both 36 = .ok (.aload_n 2, 1) := dk_44 (dk_at dksX8_both_1 12 rfl rfl)
theorem dX8_both_37 : decode cX8_both 37 = .ok (.areturn, 1) := dk_176 (dk_at dksX8_both_1 13 rfl rfl)
abbrev cX8_single : ByteArray := prog_18_method_5_code
def yX8_single : MethodName := ⟨RX8, "single", "(I)LParlourLeaves$Cond;"⟩
def dkwX8_single_13 : List UInt8 := [187, 0, 133, 89, 21, 5, 21, 6, 21, 7, 183, 0, 135, 176]
abbrev dktX8_single_13 : List UInt8 := dkwX8_single_13 ++ []
def dkwX8_single_12 : List UInt8 := [5, 160, 0, 7, 4, 167, 0, 4, 3, 4, 182, 0, 55, 42, 180, 0, 130, 54, 7, 42, 182, 0, 68]
abbrev dktX8_single_12 : List UInt8 := dkwX8_single_12 ++ dktX8_single_13
def dkwX8_single_11 : List UInt8 := [4, 167, 0, 4, 3, 4, 182, 0, 55, 42, 180, 0, 130, 54, 6, 42, 182, 0, 68, 42, 42, 180, 0, 52]
abbrev dktX8_single_11 : List UInt8 := dkwX8_single_11 ++ dktX8_single_12
def dkwX8_single_10 : List UInt8 := [182, 0, 86, 154, 0, 21, 42, 16, 61, 182, 0, 86, 154, 0, 12, 42, 16, 62, 182, 0, 86, 153, 0, 7]
abbrev dktX8_single_10 : List UInt8 := dkwX8_single_10 ++ dktX8_single_11
def dkwX8_single_9 : List UInt8 := [180, 0, 121, 42, 180, 0, 3, 180, 0, 104, 180, 0, 124, 182, 0, 117, 183, 0, 127, 176, 42, 42, 16, 60]
abbrev dktX8_single_9 : List UInt8 := dkwX8_single_9 ++ dktX8_single_10
def dkwX8_single_8 : List UInt8 := [180, 0, 3, 180, 0, 104, 180, 0, 114, 182, 0, 117, 167, 0, 27, 42, 42, 180, 0, 3, 180, 0, 104]
abbrev dktX8_single_8 : List UInt8 := dkwX8_single_8 ++ dktX8_single_9
def dkwX8_single_7 : List UInt8 := [2, 167, 0, 60, 21, 4, 7, 162, 0, 30, 42, 42, 180, 0, 3, 180, 0, 104, 180, 0, 108, 42]
abbrev dktX8_single_7 : List UInt8 := dkwX8_single_7 ++ dktX8_single_8
def dkwX8_single_6 : List UInt8 := [182, 0, 98, 25, 6, 176, 21, 4, 2, 159, 0, 80, 187, 0, 102, 89, 21, 4, 21, 4, 5, 162, 0, 7]
abbrev dktX8_single_6 : List UInt8 := dkwX8_single_6 ++ dktX8_single_7
def dkwX8_single_5 : List UInt8 := [182, 0, 76, 183, 0, 95, 176, 29, 153, 0, 21, 42, 27, 4, 96, 182, 0, 48, 58, 6, 42, 16, 41]
abbrev dktX8_single_5 : List UInt8 := dkwX8_single_5 ++ dktX8_single_6
def dkwX8_single_4 : List UInt8 := [180, 0, 40, 4, 96, 181, 0, 40, 42, 182, 0, 68, 28, 153, 0, 18, 187, 0, 93, 89, 42, 27, 4, 96]
abbrev dktX8_single_4 : List UInt8 := dkwX8_single_4 ++ dktX8_single_5
def dkwX8_single_3 : List UInt8 := [16, 20, 162, 0, 13, 27, 16, 8, 163, 0, 7, 4, 167, 0, 4, 3, 7, 182, 0, 55, 42, 89]
abbrev dktX8_single_3 : List UInt8 := dkwX8_single_3 ++ dktX8_single_4
def dkwX8_single_2 : List UInt8 := [160, 0, 9, 21, 5, 2, 159, 0, 7, 4, 167, 0, 4, 3, 4, 182, 0, 55, 42, 42, 180, 0, 40]
abbrev dktX8_single_2 : List UInt8 := dkwX8_single_2 ++ dktX8_single_3
def dkwX8_single_1 : List UInt8 := [42, 42, 180, 0, 37, 182, 0, 89, 54, 5, 42, 28, 154, 0, 19, 29, 154, 0, 15, 21, 4, 2]
abbrev dktX8_single_1 : List UInt8 := dkwX8_single_1 ++ dktX8_single_2
def dkwX8_single_0 : List UInt8 := [42, 18, 84, 182, 0, 64, 61, 42, 16, 40, 182, 0, 86, 62, 42, 42, 180, 0, 27, 182, 0, 89, 54, 4]
abbrev dktX8_single_0 : List UInt8 := dkwX8_single_0 ++ dktX8_single_1
theorem dksX8_single_0 : cX8_single.data.toList.drop 0 = dktX8_single_0 := by decide +kernel
theorem dksX8_single_1 : cX8_single.data.toList.drop 24 = dktX8_single_1 := dk_seg dksX8_single_0 24 rfl rfl
theorem dksX8_single_2 : cX8_single.data.toList.drop 46 = dktX8_single_2 := dk_seg dksX8_single_1 22 rfl rfl
theorem dksX8_single_3 : cX8_single.data.toList.drop 69 = dktX8_single_3 := dk_seg dksX8_single_2 23 rfl rfl
theorem dksX8_single_4 : cX8_single.data.toList.drop 91 = dktX8_single_4 := dk_seg dksX8_single_3 22 rfl rfl
theorem dksX8_single_5 : cX8_single.data.toList.drop 115 = dktX8_single_5 := dk_seg dksX8_single_4 24 rfl rfl
theorem dksX8_single_6 : cX8_single.data.toList.drop 138 = dktX8_single_6 := dk_seg dksX8_single_5 23 rfl rfl
theorem dksX8_single_7 : cX8_single.data.toList.drop 162 = dktX8_single_7 := dk_seg dksX8_single_6 24 rfl rfl
theorem dksX8_single_8 : cX8_single.data.toList.drop 184 = dktX8_single_8 := dk_seg dksX8_single_7 22 rfl rfl
theorem dksX8_single_9 : cX8_single.data.toList.drop 207 = dktX8_single_9 := dk_seg dksX8_single_8 23 rfl rfl
theorem dksX8_single_10 : cX8_single.data.toList.drop 231 = dktX8_single_10 := dk_seg dksX8_single_9 24 rfl rfl
theorem dksX8_single_11 : cX8_single.data.toList.drop 255 = dktX8_single_11 := dk_seg dksX8_single_10 24 rfl rfl
theorem dksX8_single_12 : cX8_single.data.toList.drop 279 = dktX8_single_12 := dk_seg dksX8_single_11 24 rfl rfl
theorem dksX8_single_13 : cX8_single.data.toList.drop 302 = dktX8_single_13 := dk_seg dksX8_single_12 23 rfl rfl
theorem dX8_single_0 : decode cX8_single 0 = .ok (.aload_n 0, 1) := dk_42 (dk_at dksX8_single_0 0 rfl rfl)
theorem dX8_single_1 : decode cX8_single 1 = .ok (.ldc 84, 2) := dk_18 84 (dk_at dksX8_single_0 1 rfl rfl)
theorem dX8_single_3 : decode cX8_single 3 = .ok (.invokevirtual 64, 3) := dk_182 0 64 (dk_at dksX8_single_0 3 rfl rfl)
theorem dX8_single_6 : decode cX8_single 6 = .ok (.istore_n 2, 1) := dk_61 (dk_at dksX8_single_0 6 rfl rfl)
theorem dX8_single_7 : decode cX8_single 7 = .ok (.aload_n 0, 1) := dk_42 (dk_at dksX8_single_0 7 rfl rfl)
theorem dX8_single_8 : decode cX8_single 8 = .ok (.bipush 40, 2) := dk_16 40 (dk_at dksX8_single_0 8 rfl rfl)
theorem dX8_single_10 : decode cX8_single 10 = .ok (.invokevirtual 86, 3) := dk_182 0 86 (dk_at dksX8_single_0 10 rfl rfl)
theorem dX8_single_13 : decode cX8_single 13 = .ok (.istore_n 3, 1) := dk_62 (dk_at dksX8_single_0 13 rfl rfl)
theorem dX8_single_14 : decode cX8_single 14 = .ok (.aload_n 0, 1) := dk_42 (dk_at dksX8_single_0 14 rfl rfl)
theorem dX8_single_15 : decode cX8_single 15 = .ok (.aload_n 0, 1) := dk_42 (dk_at dksX8_single_0 15 rfl rfl)
theorem dX8_single_16 : decode cX8_single 16 = .ok (.getfield 27, 3) := dk_180 0 27 (dk_at dksX8_single_0 16 rfl rfl)
theorem dX8_single_19 : decode cX8_single 19 = .ok (.invokevirtual 89, 3) := dk_182 0 89 (dk_at dksX8_single_0 19 rfl rfl)
theorem dX8_single_22 : decode cX8_single 22 = .ok (.istore 4, 2) := dk_54 4 (dk_at dksX8_single_0 22 rfl rfl)
theorem dX8_single_24 : decode cX8_single 24 = .ok (.aload_n 0, 1) := dk_42 (dk_at dksX8_single_1 0 rfl rfl)
theorem dX8_single_25 : decode cX8_single 25 = .ok (.aload_n 0, 1) := dk_42 (dk_at dksX8_single_1 1 rfl rfl)
theorem dX8_single_26 : decode cX8_single 26 = .ok (.getfield 37, 3) := dk_180 0 37 (dk_at dksX8_single_1 2 rfl rfl)
theorem dX8_single_29 : decode cX8_single 29 = .ok (.invokevirtual 89, 3) := dk_182 0 89 (dk_at dksX8_single_1 5 rfl rfl)
theorem dX8_single_32 : decode cX8_single 32 = .ok (.istore 5, 2) := dk_54 5 (dk_at dksX8_single_1 8 rfl rfl)
theorem dX8_single_34 : decode cX8_single 34 = .ok (.aload_n 0, 1) := dk_42 (dk_at dksX8_single_1 10 rfl rfl)
theorem dX8_single_35 : decode cX8_single 35 = .ok (.iload_n 2, 1) := dk_28 (dk_at dksX8_single_1 11 rfl rfl)
theorem dX8_single_36 : decode cX8_single 36 = .ok (.ifCond .ne 19, 3) := dk_154 0 19 (dk_at dksX8_single_1 12 rfl rfl)
theorem dX8_single_39 : decode cX8_single 39 = .ok (.iload_n 3, 1) := dk_29 (dk_at dksX8_single_1 15 rfl rfl)
theorem dX8_single_40 : decode cX8_single 40 = .ok (.ifCond .ne 15, 3) := dk_154 0 15 (dk_at dksX8_single_1 16 rfl rfl)
theorem dX8_single_43 : decode cX8_single 43 = .ok (.iload 4, 2) := dk_21 4 (dk_at dksX8_single_1 19 rfl rfl)
theorem dX8_single_45 : decode cX8_single 45 = .ok (.iconst (-1), 1) := dk_2 (dk_at dksX8_single_1 21 rfl rfl)
theorem dX8_single_46 : decode cX8_single 46 = .ok (.if_icmp .ne 9, 3) := dk_160 0 9 (dk_at dksX8_single_2 0 rfl rfl)
theorem dX8_single_49 : decode cX8_single 49 = .ok (.iload 5, 2) := dk_21 5 (dk_at dksX8_single_2 3 rfl rfl)
theorem dX8_single_51 : decode cX8_single 51 = .ok (.iconst (-1), 1) := dk_2 (dk_at dksX8_single_2 5 rfl rfl)
theorem dX8_single_52 : decode cX8_single 52 = .ok (.if_icmp .eq 7, 3) := dk_159 0 7 (dk_at dksX8_single_2 6 rfl rfl)
theorem dX8_single_55 : decode cX8_single 55 = .ok (.iconst 1, 1) := dk_4 (dk_at dksX8_single_2 9 rfl rfl)
theorem dX8_single_56 : decode cX8_single 56 = .ok (.goto 4, 3) := dk_167 0 4 (dk_at dksX8_single_2 10 rfl rfl)
theorem dX8_single_59 : decode cX8_single 59 = .ok (.iconst 0, 1) := dk_3 (dk_at dksX8_single_2 13 rfl rfl)
theorem dX8_single_60 : decode cX8_single 60 = .ok (.iconst 1, 1) := dk_4 (dk_at dksX8_single_2 14 rfl rfl)
theorem dX8_single_61 : decode cX8_single 61 = .ok (.invokevirtual 55, 3) := dk_182 0 55 (dk_at dksX8_single_2 15 rfl rfl)
theorem dX8_single_64 : decode cX8_single 64 = .ok (.aload_n 0, 1) := dk_42 (dk_at dksX8_single_2 18 rfl rfl)
theorem dX8_single_65 : decode cX8_single 65 = .ok (.aload_n 0, 1) := dk_42 (dk_at dksX8_single_2 19 rfl rfl)
theorem dX8_single_66 : decode cX8_single 66 = .ok (.getfield 40, 3) := dk_180 0 40 (dk_at dksX8_single_2 20 rfl rfl)
theorem dX8_single_69 : decode cX8_single 69 = .ok (.bipush 20, 2) := dk_16 20 (dk_at dksX8_single_3 0 rfl rfl)
theorem dX8_single_71 : decode cX8_single 71 = .ok (.if_icmp .ge 13, 3) := dk_162 0 13 (dk_at dksX8_single_3 2 rfl rfl)
theorem dX8_single_74 : decode cX8_single 74 = .ok (.iload_n 1, 1) := dk_27 (dk_at dksX8_single_3 5 rfl rfl)
theorem dX8_single_75 : decode cX8_single 75 = .ok (.bipush 8, 2) := dk_16 8 (dk_at dksX8_single_3 6 rfl rfl)
theorem dX8_single_77 : decode cX8_single 77 = .ok (.if_icmp .gt 7, 3) := dk_163 0 7 (dk_at dksX8_single_3 8 rfl rfl)
theorem dX8_single_80 : decode cX8_single 80 = .ok (.iconst 1, 1) := dk_4 (dk_at dksX8_single_3 11 rfl rfl)
theorem dX8_single_81 : decode cX8_single 81 = .ok (.goto 4, 3) := dk_167 0 4 (dk_at dksX8_single_3 12 rfl rfl)
theorem dX8_single_84 : decode cX8_single 84 = .ok (.iconst 0, 1) := dk_3 (dk_at dksX8_single_3 15 rfl rfl)
theorem dX8_single_85 : decode cX8_single 85 = .ok (.iconst 4, 1) := dk_7 (dk_at dksX8_single_3 16 rfl rfl)
theorem dX8_single_86 : decode cX8_single 86 = .ok (.invokevirtual 55, 3) := dk_182 0 55 (dk_at dksX8_single_3 17 rfl rfl)
theorem dX8_single_89 : decode cX8_single 89 = .ok (.aload_n 0, 1) := dk_42 (dk_at dksX8_single_3 20 rfl rfl)
theorem dX8_single_90 : decode cX8_single 90 = .ok (.dup, 1) := dk_89 (dk_at dksX8_single_3 21 rfl rfl)
theorem dX8_single_91 : decode cX8_single 91 = .ok (.getfield 40, 3) := dk_180 0 40 (dk_at dksX8_single_4 0 rfl rfl)
theorem dX8_single_94 : decode cX8_single 94 = .ok (.iconst 1, 1) := dk_4 (dk_at dksX8_single_4 3 rfl rfl)
theorem dX8_single_95 : decode cX8_single 95 = .ok (.iadd, 1) := dk_96 (dk_at dksX8_single_4 4 rfl rfl)
theorem dX8_single_96 : decode cX8_single 96 = .ok (.putfield 40, 3) := dk_181 0 40 (dk_at dksX8_single_4 5 rfl rfl)
theorem dX8_single_99 : decode cX8_single 99 = .ok (.aload_n 0, 1) := dk_42 (dk_at dksX8_single_4 8 rfl rfl)
theorem dX8_single_100 : decode cX8_single 100 = .ok (.invokevirtual 68, 3) := dk_182 0 68 (dk_at dksX8_single_4 9 rfl rfl)
theorem dX8_single_103 : decode cX8_single 103 = .ok (.iload_n 2, 1) := dk_28 (dk_at dksX8_single_4 12 rfl rfl)
theorem dX8_single_104 : decode cX8_single 104 = .ok (.ifCond .eq 18, 3) := dk_153 0 18 (dk_at dksX8_single_4 13 rfl rfl)
theorem dX8_single_107 : decode cX8_single 107 = .ok (.new 93, 3) := dk_187 0 93 (dk_at dksX8_single_4 16 rfl rfl)
theorem dX8_single_110 : decode cX8_single 110 = .ok (.dup, 1) := dk_89 (dk_at dksX8_single_4 19 rfl rfl)
theorem dX8_single_111 : decode cX8_single 111 = .ok (.aload_n 0, 1) := dk_42 (dk_at dksX8_single_4 20 rfl rfl)
theorem dX8_single_112 : decode cX8_single 112 = .ok (.iload_n 1, 1) := dk_27 (dk_at dksX8_single_4 21 rfl rfl)
theorem dX8_single_113 : decode cX8_single 113 = .ok (.iconst 1, 1) := dk_4 (dk_at dksX8_single_4 22 rfl rfl)
theorem dX8_single_114 : decode cX8_single 114 = .ok (.iadd, 1) := dk_96 (dk_at dksX8_single_4 23 rfl rfl)
theorem dX8_single_115 : decode cX8_single 115 = .ok (.invokevirtual 76, 3) := dk_182 0 76 (dk_at dksX8_single_5 0 rfl rfl)
theorem dX8_single_118 : decode cX8_single 118 = .ok (.invokespecial 95, 3) := dk_183 0 95 (dk_at dksX8_single_5 3 rfl rfl)
theorem dX8_single_121 : decode cX8_single 121 = .ok (.areturn, 1) := dk_176 (dk_at dksX8_single_5 6 rfl rfl)
theorem dX8_single_122 : decode cX8_single 122 = .ok (.iload_n 3, 1) := dk_29 (dk_at dksX8_single_5 7 rfl rfl)
theorem dX8_single_123 : decode cX8_single 123 = .ok (.ifCond .eq 21, 3) := dk_153 0 21 (dk_at dksX8_single_5 8 rfl rfl)
theorem dX8_single_126 : decode cX8_single 126 = .ok (.aload_n 0, 1) := dk_42 (dk_at dksX8_single_5 11 rfl rfl)
theorem dX8_single_127 : decode cX8_single 127 = .ok (.iload_n 1, 1) := dk_27 (dk_at dksX8_single_5 12 rfl rfl)
theorem dX8_single_128 : decode cX8_single 128 = .ok (.iconst 1, 1) := dk_4 (dk_at dksX8_single_5 13 rfl rfl)
theorem dX8_single_129 : decode cX8_single 129 = .ok (.iadd, 1) := dk_96 (dk_at dksX8_single_5 14 rfl rfl)
theorem dX8_single_130 : decode cX8_single 130 = .ok (.invokevirtual 48, 3) := dk_182 0 48 (dk_at dksX8_single_5 15 rfl rfl)
theorem dX8_single_133 : decode cX8_single 133 = .ok (.astore 6, 2) := dk_58 6 (dk_at dksX8_single_5 18 rfl rfl)
theorem dX8_single_135 : decode cX8_single 135 = .ok (.aload_n 0, 1) := dk_42 (dk_at dksX8_single_5 20 rfl rfl)
theorem dX8_single_136 : decode cX8_single 136 = .ok (.bipush 41, 2) := dk_16 41 (dk_at dksX8_single_5 21 rfl rfl)
theorem dX8_single_138 : decode cX8_single 138 = .ok (.invokevirtual 98, 3) := dk_182 0 98 (dk_at dksX8_single_6 0 rfl rfl)
theorem dX8_single_141 : decode cX8_single 141 = .ok (.aload 6, 2) := dk_25 6 (dk_at dksX8_single_6 3 rfl rfl)
theorem dX8_single_143 : decode cX8_single 143 = .ok (.areturn, 1) := dk_176 (dk_at dksX8_single_6 5 rfl rfl)
theorem dX8_single_144 : decode cX8_single 144 = .ok (.iload 4, 2) := dk_21 4 (dk_at dksX8_single_6 6 rfl rfl)
theorem dX8_single_146 : decode cX8_single 146 = .ok (.iconst (-1), 1) := dk_2 (dk_at dksX8_single_6 8 rfl rfl)
theorem dX8_single_147 : decode cX8_single 147 = .ok (.if_icmp .eq 80, 3) := dk_159 0 80 (dk_at dksX8_single_6 9 rfl rfl)
theorem dX8_single_150 : decode cX8_single 150 = .ok (.new 102, 3) := dk_187 0 102 (dk_at dksX8_single_6 12 rfl rfl)
theorem dX8_single_153 : decode cX8_single 153 = .ok (.dup, 1) := dk_89 (dk_at dksX8_single_6 15 rfl rfl)
theorem dX8_single_154 : decode cX8_single 154 = .ok (.iload 4, 2) := dk_21 4 (dk_at dksX8_single_6 16 rfl rfl)
theorem dX8_single_156 : decode cX8_single 156 = .ok (.iload 4, 2) := dk_21 4 (dk_at dksX8_single_6 18 rfl rfl)
theorem dX8_single_158 : decode cX8_single 158 = .ok (.iconst 2, 1) := dk_5 (dk_at dksX8_single_6 20 rfl rfl)
theorem dX8_single_159 : decode cX8_single 159 = .ok (.if_icmp .ge 7, 3) := dk_162 0 7 (dk_at dksX8_single_6 21 rfl rfl)
theorem dX8_single_162 : decode cX8_single 162 = .ok (.iconst (-1), 1) := dk_2 (dk_at dksX8_single_7 0 rfl rfl)
theorem dX8_single_163 : decode cX8_single 163 = .ok (.goto 60, 3) := dk_167 0 60 (dk_at dksX8_single_7 1 rfl rfl)
theorem dX8_single_166 : decode cX8_single 166 = .ok (.iload 4, 2) := dk_21 4 (dk_at dksX8_single_7 4 rfl rfl)
theorem dX8_single_168 : decode cX8_single 168 = .ok (.iconst 4, 1) := dk_7 (dk_at dksX8_single_7 6 rfl rfl)
theorem dX8_single_169 : decode cX8_single 169 = .ok (.if_icmp .ge 30, 3) := dk_162 0 30 (dk_at dksX8_single_7 7 rfl rfl)
theorem dX8_single_172 : decode cX8_single 172 = .ok (.aload_n 0, 1) := dk_42 (dk_at dksX8_single_7 10 rfl rfl)
theorem dX8_single_173 : decode cX8_single 173 = .ok (.aload_n 0, 1) := dk_42 (dk_at dksX8_single_7 11 rfl rfl)
theorem dX8_single_174 : decode cX8_single 174 = .ok (.getfield 3, 3) := dk_180 0 3 (dk_at dksX8_single_7 12 rfl rfl)
theorem dX8_single_177 : decode cX8_single 177 = .ok (.getfield 104, 3) := dk_180 0 104 (dk_at dksX8_single_7 15 rfl rfl)
theorem dX8_single_180 : decode cX8_single 180 = .ok (.getfield 108, 3) := dk_180 0 108 (dk_at dksX8_single_7 18 rfl rfl)
theorem dX8_single_183 : decode cX8_single 183 = .ok (.aload_n 0, 1) := dk_42 (dk_at dksX8_single_7 21 rfl rfl)
theorem dX8_single_184 : decode cX8_single 184 = .ok (.getfield 3, 3) := dk_180 0 3 (dk_at dksX8_single_8 0 rfl rfl)
theorem dX8_single_187 : decode cX8_single 187 = .ok (.getfield 104, 3) := dk_180 0 104 (dk_at dksX8_single_8 3 rfl rfl)
theorem dX8_single_190 : decode cX8_single 190 = .ok (.getfield 114, 3) := dk_180 0 114 (dk_at dksX8_single_8 6 rfl rfl)
theorem dX8_single_193 : decode cX8_single 193 = .ok (.invokevirtual 117, 3) := dk_182 0 117 (dk_at dksX8_single_8 9 rfl rfl)
theorem dX8_single_196 : decode cX8_single 196 = .ok (.goto 27, 3) := dk_167 0 27 (dk_at dksX8_single_8 12 rfl rfl)
theorem dX8_single_199 : decode cX8_single 199 = .ok (.aload_n 0, 1) := dk_42 (dk_at dksX8_single_8 15 rfl rfl)
theorem dX8_single_200 : decode cX8_single 200 = .ok (.aload_n 0, 1) := dk_42 (dk_at dksX8_single_8 16 rfl rfl)
theorem dX8_single_201 : decode cX8_single 201 = .ok (.getfield 3, 3) := dk_180 0 3 (dk_at dksX8_single_8 17 rfl rfl)
theorem dX8_single_204 : decode cX8_single 204 = .ok (.getfield 104, 3) := dk_180 0 104 (dk_at dksX8_single_8 20 rfl rfl)
theorem dX8_single_207 : decode cX8_single 207 = .ok (.getfield 121, 3) := dk_180 0 121 (dk_at dksX8_single_9 0 rfl rfl)
theorem dX8_single_210 : decode cX8_single 210 = .ok (.aload_n 0, 1) := dk_42 (dk_at dksX8_single_9 3 rfl rfl)
theorem dX8_single_211 : decode cX8_single 211 = .ok (.getfield 3, 3) := dk_180 0 3 (dk_at dksX8_single_9 4 rfl rfl)
theorem dX8_single_214 : decode cX8_single 214 = .ok (.getfield 104, 3) := dk_180 0 104 (dk_at dksX8_single_9 7 rfl rfl)
theorem dX8_single_217 : decode cX8_single 217 = .ok (.getfield 124, 3) := dk_180 0 124 (dk_at dksX8_single_9 10 rfl rfl)
theorem dX8_single_220 : decode cX8_single 220 = .ok (.invokevirtual 117, 3) := dk_182 0 117 (dk_at dksX8_single_9 13 rfl rfl)
theorem dX8_single_223 : decode cX8_single 223 = .ok (.invokespecial 127, 3) := dk_183 0 127 (dk_at dksX8_single_9 16 rfl rfl)
theorem dX8_single_226 : decode cX8_single 226 = .ok (.areturn, 1) := dk_176 (dk_at dksX8_single_9 19 rfl rfl)
theorem dX8_single_227 : decode cX8_single 227 = .ok (.aload_n 0, 1) := dk_42 (dk_at dksX8_single_9 20 rfl rfl)
theorem dX8_single_228 : decode cX8_single 228 = .ok (.aload_n 0, 1) := dk_42 (dk_at dksX8_single_9 21 rfl rfl)
theorem dX8_single_229 : decode cX8_single 229 = .ok (.bipush 60, 2) := dk_16 60 (dk_at dksX8_single_9 22 rfl rfl)
theorem dX8_single_231 : decode cX8_single 231 = .ok (.invokevirtual 86, 3) := dk_182 0 86 (dk_at dksX8_single_10 0 rfl rfl)
theorem dX8_single_234 : decode cX8_single 234 = .ok (.ifCond .ne 21, 3) := dk_154 0 21 (dk_at dksX8_single_10 3 rfl rfl)
theorem dX8_single_237 : decode cX8_single 237 = .ok (.aload_n 0, 1) := dk_42 (dk_at dksX8_single_10 6 rfl rfl)
theorem dX8_single_238 : decode cX8_single 238 = .ok (.bipush 61, 2) := dk_16 61 (dk_at dksX8_single_10 7 rfl rfl)
theorem dX8_single_240 : decode cX8_single 240 = .ok (.invokevirtual 86, 3) := dk_182 0 86 (dk_at dksX8_single_10 9 rfl rfl)
theorem dX8_single_243 : decode cX8_single 243 = .ok (.ifCond .ne 12, 3) := dk_154 0 12 (dk_at dksX8_single_10 12 rfl rfl)
theorem dX8_single_246 : decode cX8_single 246 = .ok (.aload_n 0, 1) := dk_42 (dk_at dksX8_single_10 15 rfl rfl)
theorem dX8_single_247 : decode cX8_single 247 = .ok (.bipush 62, 2) := dk_16 62 (dk_at dksX8_single_10 16 rfl rfl)
theorem dX8_single_249 : decode cX8_single 249 = .ok (.invokevirtual 86, 3) := dk_182 0 86 (dk_at dksX8_single_10 18 rfl rfl)
theorem dX8_single_252 : decode cX8_single 252 = .ok (.ifCond .eq 7, 3) := dk_153 0 7 (dk_at dksX8_single_10 21 rfl rfl)
theorem dX8_single_255 : decode cX8_single 255 = .ok (.iconst 1, 1) := dk_4 (dk_at dksX8_single_11 0 rfl rfl)
theorem dX8_single_256 : decode cX8_single 256 = .ok (.goto 4, 3) := dk_167 0 4 (dk_at dksX8_single_11 1 rfl rfl)
theorem dX8_single_259 : decode cX8_single 259 = .ok (.iconst 0, 1) := dk_3 (dk_at dksX8_single_11 4 rfl rfl)
theorem dX8_single_260 : decode cX8_single 260 = .ok (.iconst 1, 1) := dk_4 (dk_at dksX8_single_11 5 rfl rfl)
theorem dX8_single_261 : decode cX8_single 261 = .ok (.invokevirtual 55, 3) := dk_182 0 55 (dk_at dksX8_single_11 6 rfl rfl)
theorem dX8_single_264 : decode cX8_single 264 = .ok (.aload_n 0, 1) := dk_42 (dk_at dksX8_single_11 9 rfl rfl)
theorem dX8_single_265 : decode cX8_single 265 = .ok (.getfield 130, 3) := dk_180 0 130 (dk_at dksX8_single_11 10 rfl rfl)
theorem dX8_single_268 : decode cX8_single 268 = .ok (.istore 6, 2) := dk_54 6 (dk_at dksX8_single_11 13 rfl rfl)
theorem dX8_single_270 : decode cX8_single 270 = .ok (.aload_n 0, 1) := dk_42 (dk_at dksX8_single_11 15 rfl rfl)
theorem dX8_single_271 : decode cX8_single 271 = .ok (.invokevirtual 68, 3) := dk_182 0 68 (dk_at dksX8_single_11 16 rfl rfl)
theorem dX8_single_274 : decode cX8_single 274 = .ok (.aload_n 0, 1) := dk_42 (dk_at dksX8_single_11 19 rfl rfl)
theorem dX8_single_275 : decode cX8_single 275 = .ok (.aload_n 0, 1) := dk_42 (dk_at dksX8_single_11 20 rfl rfl)
theorem dX8_single_276 : decode cX8_single 276 = .ok (.getfield 52, 3) := dk_180 0 52 (dk_at dksX8_single_11 21 rfl rfl)
theorem dX8_single_279 : decode cX8_single 279 = .ok (.iconst 2, 1) := dk_5 (dk_at dksX8_single_12 0 rfl rfl)
theorem dX8_single_280 : decode cX8_single 280 = .ok (.if_icmp .ne 7, 3) := dk_160 0 7 (dk_at dksX8_single_12 1 rfl rfl)
theorem dX8_single_283 : decode cX8_single 283 = .ok (.iconst 1, 1) := dk_4 (dk_at dksX8_single_12 4 rfl rfl)
theorem dX8_single_284 : decode cX8_single 284 = .ok (.goto 4, 3) := dk_167 0 4 (dk_at dksX8_single_12 5 rfl rfl)
theorem dX8_single_287 : decode cX8_single 287 = .ok (.iconst 0, 1) := dk_3 (dk_at dksX8_single_12 8 rfl rfl)
theorem dX8_single_288 : decode cX8_single 288 = .ok (.iconst 1, 1) := dk_4 (dk_at dksX8_single_12 9 rfl rfl)
theorem dX8_single_289 : decode cX8_single 289 = .ok (.invokevirtual 55, 3) := dk_182 0 55 (dk_at dksX8_single_12 10 rfl rfl)
theorem dX8_single_292 : decode cX8_single 292 = .ok (.aload_n 0, 1) := dk_42 (dk_at dksX8_single_12 13 rfl rfl)
theorem dX8_single_293 : decode cX8_single 293 = .ok (.getfield 130, 3) := dk_180 0 130 (dk_at dksX8_single_12 14 rfl rfl)
theorem dX8_single_296 : decode cX8_single 296 = .ok (.istore 7, 2) := dk_54 7 (dk_at dksX8_single_12 17 rfl rfl)
theorem dX8_single_298 : decode cX8_single 298 = .ok (.aload_n 0, 1) := dk_42 (dk_at dksX8_single_12 19 rfl rfl)
theorem dX8_single_299 : decode cX8_single 299 = .ok (.invokevirtual 68, 3) := dk_182 0 68 (dk_at dksX8_single_12 20 rfl rfl)
theorem dX8_single_302 : decode cX8_single 302 = .ok (.new 133, 3) := dk_187 0 133 (dk_at dksX8_single_13 0 rfl rfl)
theorem dX8_single_305 : decode cX8_single 305 = .ok (.dup, 1) := dk_89 (dk_at dksX8_single_13 3 rfl rfl)
theorem dX8_single_306 : decode cX8_single 306 = .ok (.iload 5, 2) := dk_21 5 (dk_at dksX8_single_13 4 rfl rfl)
theorem dX8_single_308 : decode cX8_single 308 = .ok (.iload 6, 2) := dk_21 6 (dk_at dksX8_single_13 6 rfl rfl)
theorem dX8_single_310 : decode cX8_single 310 = .ok (.iload 7, 2) := dk_21 7 (dk_at dksX8_single_13 8 rfl rfl)
theorem dX8_single_312 : decode cX8_single 312 = .ok (.invokespecial 135, 3) := dk_183 0 135 (dk_at dksX8_single_13 10 rfl rfl)
theorem dX8_single_315 : decode cX8_single 315 = .ok (.areturn, 1) := dk_176 (dk_at dksX8_single_13 13 rfl rfl)
theorem q120 : (Jvm.Cond.initialized "ParlourLeaves$SentenceReader") ∈ lw_all := lw_g (lw_at lw_m1 12 rfl) rfl
theorem q252 : (Jvm.Cond.fieldLinkNest "ParlourLeaves$SentenceReader" (108 : Nat) "ParlourLeaves$House" "parlourNames" "[J" "ParlourLeaves") ∈ lw_tbl := lw_at lw_m1 144 rfl
theorem q260 : (Jvm.Cond.fieldLinkNest "ParlourLeaves$SentenceReader" (121 : Nat) "ParlourLeaves$House" "personNames" "[J" "ParlourLeaves") ∈ lw_tbl := lw_at lw_m1 152 rfl
theorem q277 : (Jvm.Cond.fieldLinkNest "ParlourLeaves$SentenceReader" (114 : Nat) "ParlourLeaves$House" "parlours" "I" "ParlourLeaves") ∈ lw_tbl := lw_at lw_m1 169 rfl
theorem q286 : (Jvm.Cond.fieldLinkNest "ParlourLeaves$SentenceReader" (124 : Nat) "ParlourLeaves$House" "persons" "I" "ParlourLeaves") ∈ lw_tbl := lw_at lw_m1 178 rfl
theorem q407 : (Jvm.Cond.fieldLink "ParlourLeaves$SentenceReader" (52 : Nat) "ParlourLeaves$SentenceReader" "token" "I") ∈ lw_all := lw_g (lw_at lw_m2 59 rfl) rfl
theorem q408 : (Jvm.Cond.sameField "ParlourLeaves$SentenceReader" "ParlourLeaves$Reader" "token" "I") ∈ lw_all := lw_g (lw_at lw_m2 60 rfl) rfl
theorem q410 : (Jvm.Cond.fieldLink "ParlourLeaves$SentenceReader" (130 : Nat) "ParlourLeaves$SentenceReader" "value" "I") ∈ lw_all := lw_g (lw_at lw_m2 62 rfl) rfl
theorem q411 : (Jvm.Cond.sameField "ParlourLeaves$SentenceReader" "ParlourLeaves$Reader" "value" "I") ∈ lw_all := lw_g (lw_at lw_m2 63 rfl) rfl
theorem q483 : (Jvm.Cond.instantiable "ParlourLeaves$SentenceReader" (12 : Nat)) ∈ lw_all := lw_g (lw_at lw_m2 135 rfl) rfl
theorem q485 : (Jvm.Cond.instanceMethod ({ cls := "ParlourLeaves$SentenceReader", name := "<init>", desc := "(LParlourLeaves;)V" } : Jvm.MethodName)) ∈ lw_all := lw_g (lw_at lw_m2 137 rfl) rfl
theorem q486 : (Jvm.Cond.code ({ cls := "ParlourLeaves$SentenceReader", name := "<init>", desc := "(LParlourLeaves;)V" } : Jvm.MethodName) prog_18_method_1_code (2 : Nat) (Option.none : Option Jvm.ClassFile.FieldType)) ∈ lw_all := lw_g (lw_at lw_m2 138 rfl) rfl
theorem q487 : (Jvm.Cond.methodLink "ParlourLeaves$SentenceReader" (9 : Nat) ({ cls := "ParlourLeaves$Reader", name := "<init>", desc := "(LParlourLeaves;I)V" } : Jvm.MethodName)) ∈ lw_all := lw_g (lw_at lw_m2 139 rfl) rfl
theorem q488 : (Jvm.Cond.classLink "ParlourLeaves$SentenceReader" (15 : Nat) "java/lang/String") ∈ lw_all := lw_g (lw_at lw_m2 140 rfl) rfl
theorem q489 : (Jvm.Cond.stringRef "ParlourLeaves$SentenceReader" (17 : Nat) "blind") ∈ lw_tbl := lw_at lw_m2 141 rfl
theorem q490 : (Jvm.Cond.stringRef "ParlourLeaves$SentenceReader" (19 : Nat) "fern") ∈ lw_tbl := lw_at lw_m2 142 rfl
theorem q491 : (Jvm.Cond.stringRef "ParlourLeaves$SentenceReader" (21 : Nat) "in") ∈ lw_tbl := lw_at lw_m2 143 rfl
theorem q492 : (Jvm.Cond.stringRef "ParlourLeaves$SentenceReader" (23 : Nat) "sees") ∈ lw_tbl := lw_at lw_m2 144 rfl
theorem q493 : (Jvm.Cond.stringRef "ParlourLeaves$SentenceReader" (25 : Nat) "tells") ∈ lw_tbl := lw_at lw_m2 145 rfl
theorem q494 : (Jvm.Cond.stringRef "ParlourLeaves$SentenceReader" (31 : Nat) "leaves") ∈ lw_tbl := lw_at lw_m2 146 rfl
theorem q495 : (Jvm.Cond.stringRef "ParlourLeaves$SentenceReader" (33 : Nat) "dust") ∈ lw_tbl := lw_at lw_m2 147 rfl
theorem q496 : (Jvm.Cond.stringRef "ParlourLeaves$SentenceReader" (35 : Nat) "number") ∈ lw_tbl := lw_at lw_m2 148 rfl
theorem q497 : (Jvm.Cond.fieldLink "ParlourLeaves$SentenceReader" (27 : Nat) "ParlourLeaves$SentenceReader" "marks" "[Ljava/lang/String;") ∈ lw_all := lw_g (lw_at lw_m2 149 rfl) rfl
theorem q498 : (Jvm.Cond.fieldLink "ParlourLeaves$SentenceReader" (37 : Nat) "ParlourLeaves$SentenceReader" "counts" "[Ljava/lang/String;") ∈ lw_all := lw_g (lw_at lw_m2 150 rfl) rfl
theorem q499 : (Jvm.Cond.fieldLink "ParlourLeaves$SentenceReader" (40 : Nat) "ParlourLeaves$SentenceReader" "ones" "I") ∈ lw_all := lw_g (lw_at lw_m2 151 rfl) rfl
theorem q501 : (Jvm.Cond.fieldLink "ParlourLeaves$SentenceReader" (3 : Nat) "ParlourLeaves$SentenceReader" "this$0" "LParlourLeaves;") ∈ lw_all := lw_g (lw_at lw_m2 153 rfl) rfl
theorem q502 : (Jvm.Cond.laysFinal "ParlourLeaves$SentenceReader" "ParlourLeaves$SentenceReader" "marks" "[Ljava/lang/String;") ∈ lw_all := lw_g (lw_at lw_m2 154 rfl) rfl
theorem q503 : (Jvm.Cond.soleField "ParlourLeaves$SentenceReader" "marks") ∈ lw_all := lw_g (lw_at lw_m2 155 rfl) rfl
theorem q504 : (Jvm.Cond.laysFinal "ParlourLeaves$SentenceReader" "ParlourLeaves$SentenceReader" "counts" "[Ljava/lang/String;") ∈ lw_all := lw_g (lw_at lw_m2 156 rfl) rfl
theorem q505 : (Jvm.Cond.soleField "ParlourLeaves$SentenceReader" "counts") ∈ lw_all := lw_g (lw_at lw_m2 157 rfl) rfl
theorem q506 : (Jvm.Cond.lays "ParlourLeaves$SentenceReader" "ParlourLeaves$SentenceReader" "ones" "I") ∈ lw_all := lw_g (lw_at lw_m2 158 rfl) rfl
theorem q507 : (Jvm.Cond.soleField "ParlourLeaves$SentenceReader" "ones") ∈ lw_all := lw_g (lw_at lw_m2 159 rfl) rfl
theorem q508 : (Jvm.Cond.laysFinal "ParlourLeaves$SentenceReader" "ParlourLeaves$SentenceReader" "this$0" "LParlourLeaves;") ∈ lw_all := lw_g (lw_at lw_m2 160 rfl) rfl
theorem q509 : (Jvm.Cond.soleField "ParlourLeaves$SentenceReader" "this$0") ∈ lw_all := lw_g (lw_at lw_m2 161 rfl) rfl
theorem q510 : (Jvm.Cond.laysFinal "ParlourLeaves$SentenceReader" "ParlourLeaves$Reader" "most" "I") ∈ lw_all := lw_g (lw_at lw_m2 162 rfl) rfl
theorem q511 : (Jvm.Cond.lays "ParlourLeaves$SentenceReader" "ParlourLeaves$Reader" "p" "I") ∈ lw_all := lw_g (lw_at lw_m2 163 rfl) rfl
theorem q512 : (Jvm.Cond.lays "ParlourLeaves$SentenceReader" "ParlourLeaves$Reader" "at" "I") ∈ lw_all := lw_g (lw_at lw_m2 164 rfl) rfl
theorem q513 : (Jvm.Cond.lays "ParlourLeaves$SentenceReader" "ParlourLeaves$Reader" "token" "I") ∈ lw_all := lw_g (lw_at lw_m2 165 rfl) rfl
theorem q514 : (Jvm.Cond.lays "ParlourLeaves$SentenceReader" "ParlourLeaves$Reader" "value" "I") ∈ lw_all := lw_g (lw_at lw_m2 166 rfl) rfl
theorem q515 : (Jvm.Cond.lays "ParlourLeaves$SentenceReader" "ParlourLeaves$Reader" "many" "I") ∈ lw_all := lw_g (lw_at lw_m2 167 rfl) rfl
theorem q516 : (Jvm.Cond.lays "ParlourLeaves$SentenceReader" "ParlourLeaves$Reader" "name" "J") ∈ lw_all := lw_g (lw_at lw_m2 168 rfl) rfl
theorem q517 : (Jvm.Cond.laysFinal "ParlourLeaves$SentenceReader" "ParlourLeaves$Reader" "this$0" "LParlourLeaves;") ∈ lw_all := lw_g (lw_at lw_m2 169 rfl) rfl
theorem q518 : (Jvm.Cond.superclass "ParlourLeaves$SentenceReader" "ParlourLeaves$Reader") ∈ lw_all := lw_g (lw_at lw_m2 170 rfl) rfl
theorem q536 : (Jvm.Cond.fieldLinkNest "ParlourLeaves$SentenceReader" (104 : Nat) "ParlourLeaves" "house" "LParlourLeaves$House;" "ParlourLeaves") ∈ lw_tbl := lw_at lw_m2 188 rfl
theorem q667 : (Jvm.Cond.selects "ParlourLeaves$SentenceReader" ({ cls := "ParlourLeaves$Reader", name := "next", desc := "()V" } : Jvm.MethodName) ({ cls := "ParlourLeaves$Reader", name := "next", desc := "()V" } : Jvm.MethodName)) ∈ lw_all := lw_g (lw_at lw_m3 79 rfl) rfl
theorem q699 : (Jvm.Cond.selects "ParlourLeaves$SentenceReader" ({ cls := "ParlourLeaves$Reader", name := "is", desc := "(Ljava/lang/String;)Z" } : Jvm.MethodName) ({ cls := "ParlourLeaves$Reader", name := "is", desc := "(Ljava/lang/String;)Z" } : Jvm.MethodName)) ∈ lw_all := lw_g (lw_at lw_m3 111 rfl) rfl
theorem q760 : (Jvm.Cond.selects "ParlourLeaves$SentenceReader" ({ cls := "ParlourLeaves$Reader", name := "wrong", desc := "(I)LParlourLeaves$Fault;" } : Jvm.MethodName) ({ cls := "ParlourLeaves$Reader", name := "wrong", desc := "(I)LParlourLeaves$Fault;" } : Jvm.MethodName)) ∈ lw_all := lw_g (lw_at lw_m3 172 rfl) rfl
theorem q805 : (Jvm.Cond.selects "ParlourLeaves$SentenceReader" ({ cls := "ParlourLeaves$Reader", name := "look", desc := "([JI)I" } : Jvm.MethodName) ({ cls := "ParlourLeaves$Reader", name := "look", desc := "([JI)I" } : Jvm.MethodName)) ∈ lw_all := lw_g (lw_at lw_m3 217 rfl) rfl
theorem q836 : (Jvm.Cond.selects "ParlourLeaves$SentenceReader" ({ cls := "ParlourLeaves$Reader", name := "is", desc := "(I)Z" } : Jvm.MethodName) ({ cls := "ParlourLeaves$Reader", name := "is", desc := "(I)Z" } : Jvm.MethodName)) ∈ lw_all := lw_g (lw_at lw_m4 8 rfl) rfl
theorem q1308 : (Jvm.Cond.instanceMethod ({ cls := "ParlourLeaves$SentenceReader", name := "read", desc := "()LParlourLeaves$Cond;" } : Jvm.MethodName)) ∈ lw_all := lw_g (lw_at lw_m6 0 rfl) rfl
theorem q1309 : (Jvm.Cond.selects "ParlourLeaves$SentenceReader" ({ cls := "ParlourLeaves$SentenceReader", name := "read", desc := "()LParlourLeaves$Cond;" } : Jvm.MethodName) ({ cls := "ParlourLeaves$SentenceReader", name := "read", desc := "()LParlourLeaves$Cond;" } : Jvm.MethodName)) ∈ lw_all := lw_g (lw_at lw_m6 1 rfl) rfl
theorem q1310 : (Jvm.Cond.code ({ cls := "ParlourLeaves$SentenceReader", name := "read", desc := "()LParlourLeaves$Cond;" } : Jvm.MethodName) prog_18_method_2_code (2 : Nat) (Option.some (Jvm.ClassFile.FieldType.object "ParlourLeaves$Cond"))) ∈ lw_all := lw_g (lw_at lw_m6 2 rfl) rfl
theorem q1311 : (Jvm.Cond.methodLink "ParlourLeaves$SentenceReader" (44 : Nat) ({ cls := "ParlourLeaves$SentenceReader", name := "begin", desc := "()V" } : Jvm.MethodName)) ∈ lw_all := lw_g (lw_at lw_m6 3 rfl) rfl
theorem q1312 : (Jvm.Cond.sameMethod "ParlourLeaves$SentenceReader" "ParlourLeaves$Reader" "begin" "()V") ∈ lw_all := lw_g (lw_at lw_m6 4 rfl) rfl
theorem q1313 : (Jvm.Cond.selects "ParlourLeaves$SentenceReader" ({ cls := "ParlourLeaves$SentenceReader", name := "begin", desc := "()V" } : Jvm.MethodName) ({ cls := "ParlourLeaves$Reader", name := "begin", desc := "()V" } : Jvm.MethodName)) ∈ lw_all := lw_g (lw_at lw_m6 5 rfl) rfl
theorem q1314 : (Jvm.Cond.methodLink "ParlourLeaves$SentenceReader" (48 : Nat) ({ cls := "ParlourLeaves$SentenceReader", name := "any", desc := "(I)LParlourLeaves$Cond;" } : Jvm.MethodName)) ∈ lw_all := lw_g (lw_at lw_m6 6 rfl) rfl
theorem q1315 : (Jvm.Cond.privateMethod ({ cls := "ParlourLeaves$SentenceReader", name := "any", desc := "(I)LParlourLeaves$Cond;" } : Jvm.MethodName)) ∈ lw_tbl := lw_at lw_m6 7 rfl
theorem q1316 : (Jvm.Cond.instanceMethod ({ cls := "ParlourLeaves$SentenceReader", name := "any", desc := "(I)LParlourLeaves$Cond;" } : Jvm.MethodName)) ∈ lw_all := lw_g (lw_at lw_m6 8 rfl) rfl
theorem q1317 : (Jvm.Cond.code ({ cls := "ParlourLeaves$SentenceReader", name := "any", desc := "(I)LParlourLeaves$Cond;" } : Jvm.MethodName) prog_18_method_3_code (3 : Nat) (Option.some (Jvm.ClassFile.FieldType.object "ParlourLeaves$Cond"))) ∈ lw_all := lw_g (lw_at lw_m6 9 rfl) rfl
theorem q1318 : (Jvm.Cond.methodLink "ParlourLeaves$SentenceReader" (59 : Nat) ({ cls := "ParlourLeaves$SentenceReader", name := "both", desc := "(I)LParlourLeaves$Cond;" } : Jvm.MethodName)) ∈ lw_all := lw_g (lw_at lw_m6 10 rfl) rfl
theorem q1319 : (Jvm.Cond.privateMethod ({ cls := "ParlourLeaves$SentenceReader", name := "both", desc := "(I)LParlourLeaves$Cond;" } : Jvm.MethodName)) ∈ lw_tbl := lw_at lw_m6 11 rfl
theorem q1320 : (Jvm.Cond.instanceMethod ({ cls := "ParlourLeaves$SentenceReader", name := "both", desc := "(I)LParlourLeaves$Cond;" } : Jvm.MethodName)) ∈ lw_all := lw_g (lw_at lw_m6 12 rfl) rfl
theorem q1321 : (Jvm.Cond.code ({ cls := "ParlourLeaves$SentenceReader", name := "both", desc := "(I)LParlourLeaves$Cond;" } : Jvm.MethodName) prog_18_method_4_code (3 : Nat) (Option.some (Jvm.ClassFile.FieldType.object "ParlourLeaves$Cond"))) ∈ lw_all := lw_g (lw_at lw_m6 13 rfl) rfl
theorem q1322 : (Jvm.Cond.methodLink "ParlourLeaves$SentenceReader" (76 : Nat) ({ cls := "ParlourLeaves$SentenceReader", name := "single", desc := "(I)LParlourLeaves$Cond;" } : Jvm.MethodName)) ∈ lw_all := lw_g (lw_at lw_m6 14 rfl) rfl
theorem q1323 : (Jvm.Cond.privateMethod ({ cls := "ParlourLeaves$SentenceReader", name := "single", desc := "(I)LParlourLeaves$Cond;" } : Jvm.MethodName)) ∈ lw_tbl := lw_at lw_m6 15 rfl
theorem q1324 : (Jvm.Cond.instanceMethod ({ cls := "ParlourLeaves$SentenceReader", name := "single", desc := "(I)LParlourLeaves$Cond;" } : Jvm.MethodName)) ∈ lw_all := lw_g (lw_at lw_m6 16 rfl) rfl
theorem q1325 : (Jvm.Cond.code ({ cls := "ParlourLeaves$SentenceReader", name := "single", desc := "(I)LParlourLeaves$Cond;" } : Jvm.MethodName) prog_18_method_5_code (8 : Nat) (Option.some (Jvm.ClassFile.FieldType.object "ParlourLeaves$Cond"))) ∈ lw_all := lw_g (lw_at lw_m6 17 rfl) rfl
theorem q1326 : (Jvm.Cond.stringRef "ParlourLeaves$SentenceReader" (84 : Nat) "not") ∈ lw_tbl := lw_at lw_m6 18 rfl
theorem q1327 : (Jvm.Cond.methodLink "ParlourLeaves$SentenceReader" (64 : Nat) ({ cls := "ParlourLeaves$SentenceReader", name := "is", desc := "(Ljava/lang/String;)Z" } : Jvm.MethodName)) ∈ lw_all := lw_g (lw_at lw_m6 19 rfl) rfl
theorem q1328 : (Jvm.Cond.sameMethod "ParlourLeaves$SentenceReader" "ParlourLeaves$Reader" "is" "(Ljava/lang/String;)Z") ∈ lw_all := lw_g (lw_at lw_m6 20 rfl) rfl
theorem q1329 : (Jvm.Cond.selects "ParlourLeaves$SentenceReader" ({ cls := "ParlourLeaves$SentenceReader", name := "is", desc := "(Ljava/lang/String;)Z" } : Jvm.MethodName) ({ cls := "ParlourLeaves$Reader", name := "is", desc := "(Ljava/lang/String;)Z" } : Jvm.MethodName)) ∈ lw_all := lw_g (lw_at lw_m6 21 rfl) rfl
theorem q1330 : (Jvm.Cond.methodLink "ParlourLeaves$SentenceReader" (86 : Nat) ({ cls := "ParlourLeaves$SentenceReader", name := "is", desc := "(I)Z" } : Jvm.MethodName)) ∈ lw_all := lw_g (lw_at lw_m6 22 rfl) rfl
theorem q1331 : (Jvm.Cond.sameMethod "ParlourLeaves$SentenceReader" "ParlourLeaves$Reader" "is" "(I)Z") ∈ lw_all := lw_g (lw_at lw_m6 23 rfl) rfl
theorem q1333 : (Jvm.Cond.selects "ParlourLeaves$SentenceReader" ({ cls := "ParlourLeaves$SentenceReader", name := "is", desc := "(I)Z" } : Jvm.MethodName) ({ cls := "ParlourLeaves$Reader", name := "is", desc := "(I)Z" } : Jvm.MethodName)) ∈ lw_all := lw_g (lw_at lw_m6 25 rfl) rfl
theorem q1334 : (Jvm.Cond.methodLink "ParlourLeaves$SentenceReader" (89 : Nat) ({ cls := "ParlourLeaves$SentenceReader", name := "find", desc := "([Ljava/lang/String;)I" } : Jvm.MethodName)) ∈ lw_all := lw_g (lw_at lw_m6 26 rfl) rfl
theorem q1335 : (Jvm.Cond.sameMethod "ParlourLeaves$SentenceReader" "ParlourLeaves$Reader" "find" "([Ljava/lang/String;)I") ∈ lw_all := lw_g (lw_at lw_m6 27 rfl) rfl
theorem q1336 : (Jvm.Cond.selects "ParlourLeaves$SentenceReader" ({ cls := "ParlourLeaves$SentenceReader", name := "find", desc := "([Ljava/lang/String;)I" } : Jvm.MethodName) ({ cls := "ParlourLeaves$Reader", name := "find", desc := "([Ljava/lang/String;)I" } : Jvm.MethodName)) ∈ lw_all := lw_g (lw_at lw_m6 28 rfl) rfl
theorem q1337 : (Jvm.Cond.methodLink "ParlourLeaves$SentenceReader" (55 : Nat) ({ cls := "ParlourLeaves$SentenceReader", name := "must", desc := "(ZI)V" } : Jvm.MethodName)) ∈ lw_all := lw_g (lw_at lw_m6 29 rfl) rfl
theorem q1338 : (Jvm.Cond.sameMethod "ParlourLeaves$SentenceReader" "ParlourLeaves$Reader" "must" "(ZI)V") ∈ lw_all := lw_g (lw_at lw_m6 30 rfl) rfl
theorem q1339 : (Jvm.Cond.selects "ParlourLeaves$SentenceReader" ({ cls := "ParlourLeaves$SentenceReader", name := "must", desc := "(ZI)V" } : Jvm.MethodName) ({ cls := "ParlourLeaves$Reader", name := "must", desc := "(ZI)V" } : Jvm.MethodName)) ∈ lw_all := lw_g (lw_at lw_m6 31 rfl) rfl
theorem q1340 : (Jvm.Cond.methodLink "ParlourLeaves$SentenceReader" (68 : Nat) ({ cls := "ParlourLeaves$SentenceReader", name := "next", desc := "()V" } : Jvm.MethodName)) ∈ lw_all := lw_g (lw_at lw_m6 32 rfl) rfl
theorem q1341 : (Jvm.Cond.sameMethod "ParlourLeaves$SentenceReader" "ParlourLeaves$Reader" "next" "()V") ∈ lw_all := lw_g (lw_at lw_m6 33 rfl) rfl
theorem q1342 : (Jvm.Cond.selects "ParlourLeaves$SentenceReader" ({ cls := "ParlourLeaves$SentenceReader", name := "next", desc := "()V" } : Jvm.MethodName) ({ cls := "ParlourLeaves$Reader", name := "next", desc := "()V" } : Jvm.MethodName)) ∈ lw_all := lw_g (lw_at lw_m6 34 rfl) rfl
theorem q1343 : (Jvm.Cond.classLink "ParlourLeaves$SentenceReader" (93 : Nat) "ParlourLeaves$Not") ∈ lw_all := lw_g (lw_at lw_m6 35 rfl) rfl
theorem q1345 : (Jvm.Cond.methodLink "ParlourLeaves$SentenceReader" (95 : Nat) ({ cls := "ParlourLeaves$Not", name := "<init>", desc := "(LParlourLeaves$Cond;)V" } : Jvm.MethodName)) ∈ lw_all := lw_g (lw_at lw_m6 37 rfl) rfl
theorem q1353 : (Jvm.Cond.methodLink "ParlourLeaves$SentenceReader" (98 : Nat) ({ cls := "ParlourLeaves$SentenceReader", name := "sign", desc := "(I)V" } : Jvm.MethodName)) ∈ lw_all := lw_g (lw_at lw_m6 45 rfl) rfl
theorem q1354 : (Jvm.Cond.sameMethod "ParlourLeaves$SentenceReader" "ParlourLeaves$Reader" "sign" "(I)V") ∈ lw_all := lw_g (lw_at lw_m6 46 rfl) rfl
theorem q1355 : (Jvm.Cond.selects "ParlourLeaves$SentenceReader" ({ cls := "ParlourLeaves$SentenceReader", name := "sign", desc := "(I)V" } : Jvm.MethodName) ({ cls := "ParlourLeaves$Reader", name := "sign", desc := "(I)V" } : Jvm.MethodName)) ∈ lw_all := lw_g (lw_at lw_m6 47 rfl) rfl
theorem q1356 : (Jvm.Cond.classLink "ParlourLeaves$SentenceReader" (102 : Nat) "ParlourLeaves$Marks") ∈ lw_all := lw_g (lw_at lw_m6 48 rfl) rfl
theorem q1358 : (Jvm.Cond.methodLink "ParlourLeaves$SentenceReader" (117 : Nat) ({ cls := "ParlourLeaves$SentenceReader", name := "known", desc := "([JI)I" } : Jvm.MethodName)) ∈ lw_all := lw_g (lw_at lw_m6 50 rfl) rfl
theorem q1359 : (Jvm.Cond.sameMethod "ParlourLeaves$SentenceReader" "ParlourLeaves$Reader" "known" "([JI)I") ∈ lw_all := lw_g (lw_at lw_m6 51 rfl) rfl
theorem q1360 : (Jvm.Cond.selects "ParlourLeaves$SentenceReader" ({ cls := "ParlourLeaves$SentenceReader", name := "known", desc := "([JI)I" } : Jvm.MethodName) ({ cls := "ParlourLeaves$Reader", name := "known", desc := "([JI)I" } : Jvm.MethodName)) ∈ lw_all := lw_g (lw_at lw_m6 52 rfl) rfl
theorem q1361 : (Jvm.Cond.methodLink "ParlourLeaves$SentenceReader" (127 : Nat) ({ cls := "ParlourLeaves$Marks", name := "<init>", desc := "(II)V" } : Jvm.MethodName)) ∈ lw_all := lw_g (lw_at lw_m6 53 rfl) rfl
theorem q1372 : (Jvm.Cond.classLink "ParlourLeaves$SentenceReader" (133 : Nat) "ParlourLeaves$Counts") ∈ lw_all := lw_g (lw_at lw_m6 64 rfl) rfl
theorem q1374 : (Jvm.Cond.methodLink "ParlourLeaves$SentenceReader" (135 : Nat) ({ cls := "ParlourLeaves$Counts", name := "<init>", desc := "(III)V" } : Jvm.MethodName)) ∈ lw_all := lw_g (lw_at lw_m6 66 rfl) rfl
theorem q1388 : (Jvm.Cond.stringRef "ParlourLeaves$SentenceReader" (79 : Nat) "and") ∈ lw_tbl := lw_at lw_m6 80 rfl
theorem q1389 : (Jvm.Cond.classLink "ParlourLeaves$SentenceReader" (81 : Nat) "ParlourLeaves$Both") ∈ lw_all := lw_g (lw_at lw_m6 81 rfl) rfl
theorem q1391 : (Jvm.Cond.methodLink "ParlourLeaves$SentenceReader" (83 : Nat) ({ cls := "ParlourLeaves$Both", name := "<init>", desc := "(LParlourLeaves$Cond;LParlourLeaves$Cond;)V" } : Jvm.MethodName)) ∈ lw_all := lw_g (lw_at lw_m6 83 rfl) rfl
theorem q1402 : (Jvm.Cond.stringRef "ParlourLeaves$SentenceReader" (62 : Nat) "or") ∈ lw_tbl := lw_at lw_m6 94 rfl
theorem q1403 : (Jvm.Cond.classLink "ParlourLeaves$SentenceReader" (71 : Nat) "ParlourLeaves$Any") ∈ lw_all := lw_g (lw_at lw_m6 95 rfl) rfl
theorem q1405 : (Jvm.Cond.methodLink "ParlourLeaves$SentenceReader" (73 : Nat) ({ cls := "ParlourLeaves$Any", name := "<init>", desc := "(LParlourLeaves$Cond;LParlourLeaves$Cond;)V" } : Jvm.MethodName)) ∈ lw_all := lw_g (lw_at lw_m6 97 rfl) rfl
theorem q2204 : (Jvm.Cond.selects "ParlourLeaves$SentenceReader" ({ cls := "ParlourLeaves$Reader", name := "find", desc := "([Ljava/lang/String;)I" } : Jvm.MethodName) ({ cls := "ParlourLeaves$Reader", name := "find", desc := "([Ljava/lang/String;)I" } : Jvm.MethodName)) ∈ lw_all := lw_g (lw_at lw_m9 176 rfl) rfl
theorem q2208 : (Jvm.Cond.selects "ParlourLeaves$SentenceReader" ({ cls := "ParlourLeaves$Reader", name := "isName", desc := "()Z" } : Jvm.MethodName) ({ cls := "ParlourLeaves$Reader", name := "isName", desc := "()Z" } : Jvm.MethodName)) ∈ lw_all := lw_g (lw_at lw_m9 180 rfl) rfl
theorem q2212 : (Jvm.Cond.selects "ParlourLeaves$SentenceReader" ({ cls := "ParlourLeaves$Reader", name := "must", desc := "(ZI)V" } : Jvm.MethodName) ({ cls := "ParlourLeaves$Reader", name := "must", desc := "(ZI)V" } : Jvm.MethodName)) ∈ lw_all := lw_g (lw_at lw_m9 184 rfl) rfl
theorem q2216 : (Jvm.Cond.selects "ParlourLeaves$SentenceReader" ({ cls := "ParlourLeaves$Reader", name := "of", desc := "([JI)I" } : Jvm.MethodName) ({ cls := "ParlourLeaves$Reader", name := "of", desc := "([JI)I" } : Jvm.MethodName)) ∈ lw_all := lw_g (lw_at lw_m9 188 rfl) rfl
theorem q2223 : (Jvm.Cond.castable "ParlourLeaves$SentenceReader" "java/lang/Object") ∈ lw_tbl := lw_at lw_m9 195 rfl
theorem in_X8 : ∀ w ∈ wsX80, w ∈ lw_all := lw_in wsX80 [510, 511, 512, 513, 514, 515, 516, 517, 502, 504, 506, 508] (by decide +kernel) (by decide +kernel)
/-! ParlourLeaves$Line -/
set_option maxRecDepth 100000
def RX10 : String := "ParlourLeaves$Line"
abbrev cX10_init : ByteArray := prog_14_method_1_code
def yX10_init : MethodName := ⟨RX10, "<init>", "()V"⟩
theorem dX10_init_0 : decode cX10_init 0 = .ok (.aload_n 0, 1) := by decide +kernel
theorem dX10_init_1 : decode cX10_init 1 = .ok (.invokespecial 1, 3) := by decide +kernel
theorem dX10_init_4 : decode cX10_init 4 = .ok (.return_, 1) := by decide +kernel
abbrev cX10_coded : ByteArray := prog_14_method_4_code
def yX10_coded : MethodName := ⟨RX10, "coded", "(II)I"⟩
def dkwX10_coded_0 : List UInt8 := [27, 154, 0, 7, 3, 167, 0, 9, 16, 10, 26, 104, 27, 96, 172]
abbrev dktX10_coded_0 : List UInt8 := dkwX10_coded_0 ++ []
theorem dksX10_coded_0 : cX10_coded.data.toList.drop 0 = dktX10_coded_0 := by decide +kernel
theorem dX10_coded_0 : decode cX10_coded 0 = .ok (.iload_n 1, 1) := dk_27 (dk_at dksX10_coded_0 0 rfl rfl)
theorem dX10_coded_1 : decode cX10_coded 1 = .ok (.ifCond .ne 7, 3) := dk_154 0 7 (dk_at dksX10_coded_0 1 rfl rfl)
theorem dX10_coded_4 : decode cX10_coded 4 = .ok (.iconst 0, 1) := dk_3 (dk_at dksX10_coded_0 4 rfl rfl)
theorem dX10_coded_5 : decode cX10_coded 5 = .ok (.goto 9, 3) := dk_167 0 9 (dk_at dksX10_coded_0 5 rfl rfl)
theorem dX10_coded_8 : decode cX10_coded 8 = .ok (.bipush 10, 2) := dk_16 10 (dk_at dksX10_coded_0 8 rfl rfl)
theorem dX10_coded_10 : decode cX10_coded 10 = .ok (.iload_n 0, 1) := dk_26 (dk_at dksX10_coded_0 10 rfl rfl)
theorem dX10_coded_11 : decode cX10_coded 11 = .ok (.imul, 1) := dk_104 (dk_at dksX10_coded_0 11 rfl rfl)
theorem dX10_coded_12 : decode cX10_coded 12 = .ok (.iload_n 1, 1) := dk_27 (dk_at dksX10_coded_0 12 rfl rfl)
theorem dX10_coded_13 : decode cX10_coded 13 = .ok (.iadd, 1) := dk_96 (dk_at dksX10_coded_0 13 rfl rfl)
theorem dX10_coded_14 : decode cX10_coded 14 = .ok (.ireturn, 1) := dk_172 (dk_at dksX10_coded_0 14 rfl rfl)
theorem q131 : (Jvm.Cond.initialized "ParlourLeaves$Line") ∈ lw_all := lw_g (lw_at lw_m1 23 rfl) rfl
theorem q1205 : (Jvm.Cond.instanceMethod ({ cls := "ParlourLeaves$Line", name := "<init>", desc := "()V" } : Jvm.MethodName)) ∈ lw_all := lw_g (lw_at lw_m5 137 rfl) rfl
theorem q1206 : (Jvm.Cond.code ({ cls := "ParlourLeaves$Line", name := "<init>", desc := "()V" } : Jvm.MethodName) prog_14_method_1_code (1 : Nat) (Option.none : Option Jvm.ClassFile.FieldType)) ∈ lw_all := lw_g (lw_at lw_m5 138 rfl) rfl
theorem q1207 : (Jvm.Cond.methodLink "ParlourLeaves$Line" (1 : Nat) ({ cls := "java/lang/Object", name := "<init>", desc := "()V" } : Jvm.MethodName)) ∈ lw_all := lw_g (lw_at lw_m5 139 rfl) rfl
theorem q1259 : (Jvm.Cond.declares ({ cls := "ParlourLeaves$Line", name := "why", desc := "(LParlourLeaves$House;LParlourLeaves$State;)I" } : Jvm.MethodName)) ∈ lw_tbl := lw_at lw_m5 191 rfl
theorem q1260 : (Jvm.Cond.sameMethod "ParlourLeaves$Line" "ParlourLeaves$Line" "why" "(LParlourLeaves$House;LParlourLeaves$State;)I") ∈ lw_all := lw_g (lw_at lw_m5 192 rfl) rfl
theorem q1267 : (Jvm.Cond.static ({ cls := "ParlourLeaves$Line", name := "coded", desc := "(II)I" } : Jvm.MethodName)) ∈ lw_all := lw_g (lw_at lw_m5 199 rfl) rfl
theorem q1268 : (Jvm.Cond.code ({ cls := "ParlourLeaves$Line", name := "coded", desc := "(II)I" } : Jvm.MethodName) prog_14_method_4_code (2 : Nat) (Option.some Jvm.ClassFile.FieldType.int)) ∈ lw_all := lw_g (lw_at lw_m5 200 rfl) rfl
theorem q1283 : (Jvm.Cond.declares ({ cls := "ParlourLeaves$Line", name := "live", desc := "(LParlourLeaves$House;LParlourLeaves$State;)V" } : Jvm.MethodName)) ∈ lw_tbl := lw_at lw_m5 215 rfl
theorem q1284 : (Jvm.Cond.sameMethod "ParlourLeaves$Line" "ParlourLeaves$Line" "live" "(LParlourLeaves$House;LParlourLeaves$State;)V") ∈ lw_all := lw_g (lw_at lw_m5 216 rfl) rfl
/-! ParlourLeaves$Days -/
set_option maxRecDepth 100000
def RX11 : String := "ParlourLeaves$Days"
def TX11 : u_T := fun k => match k with
  | _ => ("ParlourLeaves$Days", "n", "I", true)
def tyX11 : Nat → FieldType := fun k => match k with
  | _ => .int
abbrev wsX110 : List Cond := u_ws RX11 TX11 1
theorem nmX11 : ∀ a, a < 1 → ∀ b, b < 1 → a ≠ b → (TX11 a).2.1 ≠ (TX11 b).2.1 := by decide +kernel
theorem tyX11_ok : ∀ k, k < 1 → parseFieldDescriptor (TX11 k).2.2.1 = some (tyX11 k) := by decide +kernel
abbrev cX11_init : ByteArray := prog_8_method_1_code
def yX11_init : MethodName := ⟨RX11, "<init>", "(I)V"⟩
def dkwX11_init_0 : List UInt8 := [42, 183, 0, 3, 42, 27, 181, 0, 9, 177]
abbrev dktX11_init_0 : List UInt8 := dkwX11_init_0 ++ []
theorem dksX11_init_0 : cX11_init.data.toList.drop 0 = dktX11_init_0 := by decide +kernel
theorem dX11_init_0 : decode cX11_init 0 = .ok (.aload_n 0, 1) := dk_42 (dk_at dksX11_init_0 0 rfl rfl)
theorem dX11_init_1 : decode cX11_init 1 = .ok (.invokespecial 3, 3) := dk_183 0 3 (dk_at dksX11_init_0 1 rfl rfl)
theorem dX11_init_4 : decode cX11_init 4 = .ok (.aload_n 0, 1) := dk_42 (dk_at dksX11_init_0 4 rfl rfl)
theorem dX11_init_5 : decode cX11_init 5 = .ok (.iload_n 1, 1) := dk_27 (dk_at dksX11_init_0 5 rfl rfl)
theorem dX11_init_6 : decode cX11_init 6 = .ok (.putfield 9, 3) := dk_181 0 9 (dk_at dksX11_init_0 6 rfl rfl)
theorem dX11_init_9 : decode cX11_init 9 = .ok (.return_, 1) := dk_177 (dk_at dksX11_init_0 9 rfl rfl)
abbrev cX11_why : ByteArray := prog_8_method_2_code
def yX11_why : MethodName := ⟨RX11, "why", "(LParlourLeaves$House;LParlourLeaves$State;)I"⟩
def dkwX11_why_0 : List UInt8 := [44, 180, 0, 15, 42, 180, 0, 9, 96, 17, 1, 144, 164, 0, 8, 16, 31, 167, 0, 4, 3, 172]
abbrev dktX11_why_0 : List UInt8 := dkwX11_why_0 ++ []
theorem dksX11_why_0 : cX11_why.data.toList.drop 0 = dktX11_why_0 := by decide +kernel
theorem dX11_why_0 : decode cX11_why 0 = .ok (.aload_n 2, 1) := dk_44 (dk_at dksX11_why_0 0 rfl rfl)
theorem dX11_why_1 : decode cX11_why 1 = .ok (.getfield 15, 3) := dk_180 0 15 (dk_at dksX11_why_0 1 rfl rfl)
theorem dX11_why_4 : decode cX11_why 4 = .ok (.aload_n 0, 1) := dk_42 (dk_at dksX11_why_0 4 rfl rfl)
theorem dX11_why_5 : decode cX11_why 5 = .ok (.getfield 9, 3) := dk_180 0 9 (dk_at dksX11_why_0 5 rfl rfl)
theorem dX11_why_8 : decode cX11_why 8 = .ok (.iadd, 1) := dk_96 (dk_at dksX11_why_0 8 rfl rfl)
theorem dX11_why_9 : decode cX11_why 9 = .ok (.sipush 400, 3) := dk_17 1 144 (dk_at dksX11_why_0 9 rfl rfl)
theorem dX11_why_12 : decode cX11_why 12 = .ok (.if_icmp .le 8, 3) := dk_164 0 8 (dk_at dksX11_why_0 12 rfl rfl)
theorem dX11_why_15 : decode cX11_why 15 = .ok (.bipush 31, 2) := dk_16 31 (dk_at dksX11_why_0 15 rfl rfl)
theorem dX11_why_17 : decode cX11_why 17 = .ok (.goto 4, 3) := dk_167 0 4 (dk_at dksX11_why_0 17 rfl rfl)
theorem dX11_why_20 : decode cX11_why 20 = .ok (.iconst 0, 1) := dk_3 (dk_at dksX11_why_0 20 rfl rfl)
theorem dX11_why_21 : decode cX11_why 21 = .ok (.ireturn, 1) := dk_172 (dk_at dksX11_why_0 21 rfl rfl)
abbrev cX11_live : ByteArray := prog_8_method_3_code
def yX11_live : MethodName := ⟨RX11, "live", "(LParlourLeaves$House;LParlourLeaves$State;)V"⟩
def dkwX11_live_0 : List UInt8 := [44, 43, 42, 180, 0, 9, 182, 0, 20, 87, 177]
abbrev dktX11_live_0 : List UInt8 := dkwX11_live_0 ++ []
theorem dksX11_live_0 : cX11_live.data.toList.drop 0 = dktX11_live_0 := by decide +kernel
theorem dX11_live_0 : decode cX11_live 0 = .ok (.aload_n 2, 1) := dk_44 (dk_at dksX11_live_0 0 rfl rfl)
theorem dX11_live_1 : decode cX11_live 1 = .ok (.aload_n 1, 1) := dk_43 (dk_at dksX11_live_0 1 rfl rfl)
theorem dX11_live_2 : decode cX11_live 2 = .ok (.aload_n 0, 1) := dk_42 (dk_at dksX11_live_0 2 rfl rfl)
theorem dX11_live_3 : decode cX11_live 3 = .ok (.getfield 9, 3) := dk_180 0 9 (dk_at dksX11_live_0 3 rfl rfl)
theorem dX11_live_6 : decode cX11_live 6 = .ok (.invokevirtual 20, 3) := dk_182 0 20 (dk_at dksX11_live_0 6 rfl rfl)
theorem dX11_live_9 : decode cX11_live 9 = .ok (.pop, 1) := dk_87 (dk_at dksX11_live_0 9 rfl rfl)
theorem dX11_live_10 : decode cX11_live 10 = .ok (.return_, 1) := dk_177 (dk_at dksX11_live_0 10 rfl rfl)
theorem q132 : (Jvm.Cond.initialized "ParlourLeaves$Days") ∈ lw_all := lw_g (lw_at lw_m1 24 rfl) rfl
theorem q360 : (Jvm.Cond.fieldLinkNest "ParlourLeaves$Days" (15 : Nat) "ParlourLeaves$State" "day" "I" "ParlourLeaves") ∈ lw_tbl := lw_at lw_m2 12 rfl
theorem q1197 : (Jvm.Cond.instantiable "ParlourLeaves$Days" (1 : Nat)) ∈ lw_all := lw_g (lw_at lw_m5 129 rfl) rfl
theorem q1202 : (Jvm.Cond.instanceMethod ({ cls := "ParlourLeaves$Days", name := "<init>", desc := "(I)V" } : Jvm.MethodName)) ∈ lw_all := lw_g (lw_at lw_m5 134 rfl) rfl
theorem q1203 : (Jvm.Cond.code ({ cls := "ParlourLeaves$Days", name := "<init>", desc := "(I)V" } : Jvm.MethodName) prog_8_method_1_code (2 : Nat) (Option.none : Option Jvm.ClassFile.FieldType)) ∈ lw_all := lw_g (lw_at lw_m5 135 rfl) rfl
theorem q1204 : (Jvm.Cond.methodLinkNest "ParlourLeaves$Days" (3 : Nat) ({ cls := "ParlourLeaves$Line", name := "<init>", desc := "()V" } : Jvm.MethodName) "ParlourLeaves") ∈ lw_tbl := lw_at lw_m5 136 rfl
theorem q1208 : (Jvm.Cond.fieldLink "ParlourLeaves$Days" (9 : Nat) "ParlourLeaves$Days" "n" "I") ∈ lw_all := lw_g (lw_at lw_m5 140 rfl) rfl
theorem q1209 : (Jvm.Cond.laysFinal "ParlourLeaves$Days" "ParlourLeaves$Days" "n" "I") ∈ lw_all := lw_g (lw_at lw_m5 141 rfl) rfl
theorem q1210 : (Jvm.Cond.soleField "ParlourLeaves$Days" "n") ∈ lw_all := lw_g (lw_at lw_m5 142 rfl) rfl
theorem q1211 : (Jvm.Cond.superclass "ParlourLeaves$Days" "ParlourLeaves$Line") ∈ lw_all := lw_g (lw_at lw_m5 143 rfl) rfl
theorem q1269 : (Jvm.Cond.selects "ParlourLeaves$Days" ({ cls := "ParlourLeaves$Line", name := "why", desc := "(LParlourLeaves$House;LParlourLeaves$State;)I" } : Jvm.MethodName) ({ cls := "ParlourLeaves$Days", name := "why", desc := "(LParlourLeaves$House;LParlourLeaves$State;)I" } : Jvm.MethodName)) ∈ lw_all := lw_g (lw_at lw_m5 201 rfl) rfl
theorem q1270 : (Jvm.Cond.instanceMethod ({ cls := "ParlourLeaves$Days", name := "why", desc := "(LParlourLeaves$House;LParlourLeaves$State;)I" } : Jvm.MethodName)) ∈ lw_all := lw_g (lw_at lw_m5 202 rfl) rfl
theorem q1271 : (Jvm.Cond.code ({ cls := "ParlourLeaves$Days", name := "why", desc := "(LParlourLeaves$House;LParlourLeaves$State;)I" } : Jvm.MethodName) prog_8_method_2_code (3 : Nat) (Option.some Jvm.ClassFile.FieldType.int)) ∈ lw_all := lw_g (lw_at lw_m5 203 rfl) rfl
theorem q1288 : (Jvm.Cond.selects "ParlourLeaves$Days" ({ cls := "ParlourLeaves$Line", name := "live", desc := "(LParlourLeaves$House;LParlourLeaves$State;)V" } : Jvm.MethodName) ({ cls := "ParlourLeaves$Days", name := "live", desc := "(LParlourLeaves$House;LParlourLeaves$State;)V" } : Jvm.MethodName)) ∈ lw_all := lw_g (lw_at lw_m5 220 rfl) rfl
theorem q1289 : (Jvm.Cond.instanceMethod ({ cls := "ParlourLeaves$Days", name := "live", desc := "(LParlourLeaves$House;LParlourLeaves$State;)V" } : Jvm.MethodName)) ∈ lw_all := lw_g (lw_at lw_m5 221 rfl) rfl
theorem q1290 : (Jvm.Cond.code ({ cls := "ParlourLeaves$Days", name := "live", desc := "(LParlourLeaves$House;LParlourLeaves$State;)V" } : Jvm.MethodName) prog_8_method_3_code (3 : Nat) (Option.none : Option Jvm.ClassFile.FieldType)) ∈ lw_all := lw_g (lw_at lw_m5 222 rfl) rfl
theorem q1291 : (Jvm.Cond.methodLink "ParlourLeaves$Days" (20 : Nat) ({ cls := "ParlourLeaves$State", name := "days", desc := "(LParlourLeaves$House;I)I" } : Jvm.MethodName)) ∈ lw_all := lw_g (lw_at lw_m5 223 rfl) rfl
theorem q2227 : (Jvm.Cond.castable "ParlourLeaves$Days" "java/lang/Object") ∈ lw_tbl := lw_at lw_m9 199 rfl
theorem q2238 : (Jvm.Cond.castable "ParlourLeaves$Days" "ParlourLeaves$Line") ∈ lw_tbl := lw_at lw_m9 210 rfl
theorem in_X11 : ∀ w ∈ wsX110, w ∈ lw_all := lw_in wsX110 [1209] (by decide +kernel) (by decide +kernel)
/-! ParlourLeaves$Sponges -/
set_option maxRecDepth 100000
def RX12 : String := "ParlourLeaves$Sponges"
def TX12 : u_T := fun k => match k with
  | _ => ("ParlourLeaves$Sponges", "p", "I", true)
def tyX12 : Nat → FieldType := fun k => match k with
  | _ => .int
abbrev wsX120 : List Cond := u_ws RX12 TX12 1
theorem nmX12 : ∀ a, a < 1 → ∀ b, b < 1 → a ≠ b → (TX12 a).2.1 ≠ (TX12 b).2.1 := by decide +kernel
theorem tyX12_ok : ∀ k, k < 1 → parseFieldDescriptor (TX12 k).2.2.1 = some (tyX12 k) := by decide +kernel
abbrev cX12_init : ByteArray := prog_19_method_1_code
def yX12_init : MethodName := ⟨RX12, "<init>", "(I)V"⟩
def dkwX12_init_0 : List UInt8 := [42, 183, 0, 1, 42, 27, 181, 0, 7, 177]
abbrev dktX12_init_0 : List UInt8 := dkwX12_init_0 ++ []
theorem dksX12_init_0 : cX12_init.data.toList.drop 0 = dktX12_init_0 := by decide +kernel
theorem dX12_init_0 : decode cX12_init 0 = .ok (.aload_n 0, 1) := dk_42 (dk_at dksX12_init_0 0 rfl rfl)
theorem dX12_init_1 : decode cX12_init 1 = .ok (.invokespecial 1, 3) := dk_183 0 1 (dk_at dksX12_init_0 1 rfl rfl)
theorem dX12_init_4 : decode cX12_init 4 = .ok (.aload_n 0, 1) := dk_42 (dk_at dksX12_init_0 4 rfl rfl)
theorem dX12_init_5 : decode cX12_init 5 = .ok (.iload_n 1, 1) := dk_27 (dk_at dksX12_init_0 5 rfl rfl)
theorem dX12_init_6 : decode cX12_init 6 = .ok (.putfield 7, 3) := dk_181 0 7 (dk_at dksX12_init_0 6 rfl rfl)
theorem dX12_init_9 : decode cX12_init 9 = .ok (.return_, 1) := dk_177 (dk_at dksX12_init_0 9 rfl rfl)
abbrev cX12_why : ByteArray := prog_19_method_2_code
def yX12_why : MethodName := ⟨RX12, "why", "(LParlourLeaves$House;LParlourLeaves$State;)I"⟩
def dkwX12_why_0 : List UInt8 := [4, 44, 42, 180, 0, 7, 182, 0, 13, 184, 0, 19, 172]
abbrev dktX12_why_0 : List UInt8 := dkwX12_why_0 ++ []
theorem dksX12_why_0 : cX12_why.data.toList.drop 0 = dktX12_why_0 := by decide +kernel
theorem dX12_why_0 : decode cX12_why 0 = .ok (.iconst 1, 1) := dk_4 (dk_at dksX12_why_0 0 rfl rfl)
theorem dX12_why_1 : decode cX12_why 1 = .ok (.aload_n 2, 1) := dk_44 (dk_at dksX12_why_0 1 rfl rfl)
theorem dX12_why_2 : decode cX12_why 2 = .ok (.aload_n 0, 1) := dk_42 (dk_at dksX12_why_0 2 rfl rfl)
theorem dX12_why_3 : decode cX12_why 3 = .ok (.getfield 7, 3) := dk_180 0 7 (dk_at dksX12_why_0 3 rfl rfl)
theorem dX12_why_6 : decode cX12_why 6 = .ok (.invokevirtual 13, 3) := dk_182 0 13 (dk_at dksX12_why_0 6 rfl rfl)
theorem dX12_why_9 : decode cX12_why 9 = .ok (.invokestatic 19, 3) := dk_184 0 19 (dk_at dksX12_why_0 9 rfl rfl)
theorem dX12_why_12 : decode cX12_why 12 = .ok (.ireturn, 1) := dk_172 (dk_at dksX12_why_0 12 rfl rfl)
abbrev cX12_live : ByteArray := prog_19_method_3_code
def yX12_live : MethodName := ⟨RX12, "live", "(LParlourLeaves$House;LParlourLeaves$State;)V"⟩
def dkwX12_live_0 : List UInt8 := [44, 180, 0, 23, 42, 180, 0, 7, 3, 79, 177]
abbrev dktX12_live_0 : List UInt8 := dkwX12_live_0 ++ []
theorem dksX12_live_0 : cX12_live.data.toList.drop 0 = dktX12_live_0 := by decide +kernel
theorem dX12_live_0 : decode cX12_live 0 = .ok (.aload_n 2, 1) := dk_44 (dk_at dksX12_live_0 0 rfl rfl)
theorem dX12_live_1 : decode cX12_live 1 = .ok (.getfield 23, 3) := dk_180 0 23 (dk_at dksX12_live_0 1 rfl rfl)
theorem dX12_live_4 : decode cX12_live 4 = .ok (.aload_n 0, 1) := dk_42 (dk_at dksX12_live_0 4 rfl rfl)
theorem dX12_live_5 : decode cX12_live 5 = .ok (.getfield 7, 3) := dk_180 0 7 (dk_at dksX12_live_0 5 rfl rfl)
theorem dX12_live_8 : decode cX12_live 8 = .ok (.iconst 0, 1) := dk_3 (dk_at dksX12_live_0 8 rfl rfl)
theorem dX12_live_9 : decode cX12_live 9 = .ok (.iastore, 1) := dk_79 (dk_at dksX12_live_0 9 rfl rfl)
theorem dX12_live_10 : decode cX12_live 10 = .ok (.return_, 1) := dk_177 (dk_at dksX12_live_0 10 rfl rfl)
theorem q133 : (Jvm.Cond.initialized "ParlourLeaves$Sponges") ∈ lw_all := lw_g (lw_at lw_m1 25 rfl) rfl
theorem q348 : (Jvm.Cond.fieldLinkNest "ParlourLeaves$Sponges" (23 : Nat) "ParlourLeaves$State" "dust" "[I" "ParlourLeaves") ∈ lw_tbl := lw_at lw_m2 0 rfl
theorem q1213 : (Jvm.Cond.instantiable "ParlourLeaves$Sponges" (1 : Nat)) ∈ lw_all := lw_g (lw_at lw_m5 145 rfl) rfl
theorem q1218 : (Jvm.Cond.instanceMethod ({ cls := "ParlourLeaves$Sponges", name := "<init>", desc := "(I)V" } : Jvm.MethodName)) ∈ lw_all := lw_g (lw_at lw_m5 150 rfl) rfl
theorem q1219 : (Jvm.Cond.code ({ cls := "ParlourLeaves$Sponges", name := "<init>", desc := "(I)V" } : Jvm.MethodName) prog_19_method_1_code (2 : Nat) (Option.none : Option Jvm.ClassFile.FieldType)) ∈ lw_all := lw_g (lw_at lw_m5 151 rfl) rfl
theorem q1220 : (Jvm.Cond.methodLinkNest "ParlourLeaves$Sponges" (1 : Nat) ({ cls := "ParlourLeaves$Line", name := "<init>", desc := "()V" } : Jvm.MethodName) "ParlourLeaves") ∈ lw_tbl := lw_at lw_m5 152 rfl
theorem q1221 : (Jvm.Cond.fieldLink "ParlourLeaves$Sponges" (7 : Nat) "ParlourLeaves$Sponges" "p" "I") ∈ lw_all := lw_g (lw_at lw_m5 153 rfl) rfl
theorem q1222 : (Jvm.Cond.laysFinal "ParlourLeaves$Sponges" "ParlourLeaves$Sponges" "p" "I") ∈ lw_all := lw_g (lw_at lw_m5 154 rfl) rfl
theorem q1223 : (Jvm.Cond.soleField "ParlourLeaves$Sponges" "p") ∈ lw_all := lw_g (lw_at lw_m5 155 rfl) rfl
theorem q1224 : (Jvm.Cond.superclass "ParlourLeaves$Sponges" "ParlourLeaves$Line") ∈ lw_all := lw_g (lw_at lw_m5 156 rfl) rfl
theorem q1276 : (Jvm.Cond.selects "ParlourLeaves$Sponges" ({ cls := "ParlourLeaves$Line", name := "why", desc := "(LParlourLeaves$House;LParlourLeaves$State;)I" } : Jvm.MethodName) ({ cls := "ParlourLeaves$Sponges", name := "why", desc := "(LParlourLeaves$House;LParlourLeaves$State;)I" } : Jvm.MethodName)) ∈ lw_all := lw_g (lw_at lw_m5 208 rfl) rfl
theorem q1277 : (Jvm.Cond.instanceMethod ({ cls := "ParlourLeaves$Sponges", name := "why", desc := "(LParlourLeaves$House;LParlourLeaves$State;)I" } : Jvm.MethodName)) ∈ lw_all := lw_g (lw_at lw_m5 209 rfl) rfl
theorem q1278 : (Jvm.Cond.code ({ cls := "ParlourLeaves$Sponges", name := "why", desc := "(LParlourLeaves$House;LParlourLeaves$State;)I" } : Jvm.MethodName) prog_19_method_2_code (3 : Nat) (Option.some Jvm.ClassFile.FieldType.int)) ∈ lw_all := lw_g (lw_at lw_m5 210 rfl) rfl
theorem q1279 : (Jvm.Cond.methodLink "ParlourLeaves$Sponges" (13 : Nat) ({ cls := "ParlourLeaves$State", name := "whySponge", desc := "(I)I" } : Jvm.MethodName)) ∈ lw_all := lw_g (lw_at lw_m5 211 rfl) rfl
theorem q1280 : (Jvm.Cond.methodLink "ParlourLeaves$Sponges" (19 : Nat) ({ cls := "ParlourLeaves$Sponges", name := "coded", desc := "(II)I" } : Jvm.MethodName)) ∈ lw_all := lw_g (lw_at lw_m5 212 rfl) rfl
theorem q1281 : (Jvm.Cond.sameMethod "ParlourLeaves$Sponges" "ParlourLeaves$Line" "coded" "(II)I") ∈ lw_all := lw_g (lw_at lw_m5 213 rfl) rfl
theorem q1296 : (Jvm.Cond.selects "ParlourLeaves$Sponges" ({ cls := "ParlourLeaves$Line", name := "live", desc := "(LParlourLeaves$House;LParlourLeaves$State;)V" } : Jvm.MethodName) ({ cls := "ParlourLeaves$Sponges", name := "live", desc := "(LParlourLeaves$House;LParlourLeaves$State;)V" } : Jvm.MethodName)) ∈ lw_all := lw_g (lw_at lw_m5 228 rfl) rfl
theorem q1297 : (Jvm.Cond.instanceMethod ({ cls := "ParlourLeaves$Sponges", name := "live", desc := "(LParlourLeaves$House;LParlourLeaves$State;)V" } : Jvm.MethodName)) ∈ lw_all := lw_g (lw_at lw_m5 229 rfl) rfl
theorem q1298 : (Jvm.Cond.code ({ cls := "ParlourLeaves$Sponges", name := "live", desc := "(LParlourLeaves$House;LParlourLeaves$State;)V" } : Jvm.MethodName) prog_19_method_3_code (3 : Nat) (Option.none : Option Jvm.ClassFile.FieldType)) ∈ lw_all := lw_g (lw_at lw_m5 230 rfl) rfl
theorem q2228 : (Jvm.Cond.castable "ParlourLeaves$Sponges" "java/lang/Object") ∈ lw_tbl := lw_at lw_m9 200 rfl
theorem q2239 : (Jvm.Cond.castable "ParlourLeaves$Sponges" "ParlourLeaves$Line") ∈ lw_tbl := lw_at lw_m9 211 rfl
theorem in_X12 : ∀ w ∈ wsX120, w ∈ lw_all := lw_in wsX120 [1222] (by decide +kernel) (by decide +kernel)
/-! ParlourLeaves$Carries -/
set_option maxRecDepth 100000
def RX13 : String := "ParlourLeaves$Carries"
def TX13 : u_T := fun k => match k with
  | 0 => ("ParlourLeaves$Carries", "p", "I", true)
  | _ => ("ParlourLeaves$Carries", "l", "I", true)
def tyX13 : Nat → FieldType := fun k => match k with
  | 0 => .int
  | _ => .int
abbrev wsX130 : List Cond := u_ws RX13 TX13 2
theorem nmX13 : ∀ a, a < 2 → ∀ b, b < 2 → a ≠ b → (TX13 a).2.1 ≠ (TX13 b).2.1 := by decide +kernel
theorem tyX13_ok : ∀ k, k < 2 → parseFieldDescriptor (TX13 k).2.2.1 = some (tyX13 k) := by decide +kernel
abbrev cX13_init : ByteArray := prog_5_method_1_code
def yX13_init : MethodName := ⟨RX13, "<init>", "(II)V"⟩
def dkwX13_init_0 : List UInt8 := [42, 183, 0, 1, 42, 27, 181, 0, 7, 42, 28, 181, 0, 13, 177]
abbrev dktX13_init_0 : List UInt8 := dkwX13_init_0 ++ []
theorem dksX13_init_0 : cX13_init.data.toList.drop 0 = dktX13_init_0 := by decide +kernel
theorem dX13_init_0 : decode cX13_init 0 = .ok (.aload_n 0, 1) := dk_42 (dk_at dksX13_init_0 0 rfl rfl)
theorem dX13_init_1 : decode cX13_init 1 = .ok (.invokespecial 1, 3) := dk_183 0 1 (dk_at dksX13_init_0 1 rfl rfl)
theorem dX13_init_4 : decode cX13_init 4 = .ok (.aload_n 0, 1) := dk_42 (dk_at dksX13_init_0 4 rfl rfl)
theorem dX13_init_5 : decode cX13_init 5 = .ok (.iload_n 1, 1) := dk_27 (dk_at dksX13_init_0 5 rfl rfl)
theorem dX13_init_6 : decode cX13_init 6 = .ok (.putfield 7, 3) := dk_181 0 7 (dk_at dksX13_init_0 6 rfl rfl)
theorem dX13_init_9 : decode cX13_init 9 = .ok (.aload_n 0, 1) := dk_42 (dk_at dksX13_init_0 9 rfl rfl)
theorem dX13_init_10 : decode cX13_init 10 = .ok (.iload_n 2, 1) := dk_28 (dk_at dksX13_init_0 10 rfl rfl)
theorem dX13_init_11 : decode cX13_init 11 = .ok (.putfield 13, 3) := dk_181 0 13 (dk_at dksX13_init_0 11 rfl rfl)
theorem dX13_init_14 : decode cX13_init 14 = .ok (.return_, 1) := dk_177 (dk_at dksX13_init_0 14 rfl rfl)
abbrev cX13_why : ByteArray := prog_5_method_2_code
def yX13_why : MethodName := ⟨RX13, "why", "(LParlourLeaves$House;LParlourLeaves$State;)I"⟩
def dkwX13_why_0 : List UInt8 := [5, 44, 42, 180, 0, 7, 42, 180, 0, 13, 182, 0, 16, 184, 0, 22, 172]
abbrev dktX13_why_0 : List UInt8 := dkwX13_why_0 ++ []
theorem dksX13_why_0 : cX13_why.data.toList.drop 0 = dktX13_why_0 := by decide +kernel
theorem dX13_why_0 : decode cX13_why 0 = .ok (.iconst 2, 1) := dk_5 (dk_at dksX13_why_0 0 rfl rfl)
theorem dX13_why_1 : decode cX13_why 1 = .ok (.aload_n 2, 1) := dk_44 (dk_at dksX13_why_0 1 rfl rfl)
theorem dX13_why_2 : decode cX13_why 2 = .ok (.aload_n 0, 1) := dk_42 (dk_at dksX13_why_0 2 rfl rfl)
theorem dX13_why_3 : decode cX13_why 3 = .ok (.getfield 7, 3) := dk_180 0 7 (dk_at dksX13_why_0 3 rfl rfl)
theorem dX13_why_6 : decode cX13_why 6 = .ok (.aload_n 0, 1) := dk_42 (dk_at dksX13_why_0 6 rfl rfl)
theorem dX13_why_7 : decode cX13_why 7 = .ok (.getfield 13, 3) := dk_180 0 13 (dk_at dksX13_why_0 7 rfl rfl)
theorem dX13_why_10 : decode cX13_why 10 = .ok (.invokevirtual 16, 3) := dk_182 0 16 (dk_at dksX13_why_0 10 rfl rfl)
theorem dX13_why_13 : decode cX13_why 13 = .ok (.invokestatic 22, 3) := dk_184 0 22 (dk_at dksX13_why_0 13 rfl rfl)
theorem dX13_why_16 : decode cX13_why 16 = .ok (.ireturn, 1) := dk_172 (dk_at dksX13_why_0 16 rfl rfl)
abbrev cX13_live : ByteArray := prog_5_method_3_code
def yX13_live : MethodName := ⟨RX13, "live", "(LParlourLeaves$House;LParlourLeaves$State;)V"⟩
def dkwX13_live_0 : List UInt8 := [44, 180, 0, 25, 42, 180, 0, 7, 42, 180, 0, 13, 79, 177]
abbrev dktX13_live_0 : List UInt8 := dkwX13_live_0 ++ []
theorem dksX13_live_0 : cX13_live.data.toList.drop 0 = dktX13_live_0 := by decide +kernel
theorem dX13_live_0 : decode cX13_live 0 = .ok (.aload_n 2, 1) := dk_44 (dk_at dksX13_live_0 0 rfl rfl)
theorem dX13_live_1 : decode cX13_live 1 = .ok (.getfield 25, 3) := dk_180 0 25 (dk_at dksX13_live_0 1 rfl rfl)
theorem dX13_live_4 : decode cX13_live 4 = .ok (.aload_n 0, 1) := dk_42 (dk_at dksX13_live_0 4 rfl rfl)
theorem dX13_live_5 : decode cX13_live 5 = .ok (.getfield 7, 3) := dk_180 0 7 (dk_at dksX13_live_0 5 rfl rfl)
theorem dX13_live_8 : decode cX13_live 8 = .ok (.aload_n 0, 1) := dk_42 (dk_at dksX13_live_0 8 rfl rfl)
theorem dX13_live_9 : decode cX13_live 9 = .ok (.getfield 13, 3) := dk_180 0 13 (dk_at dksX13_live_0 9 rfl rfl)
theorem dX13_live_12 : decode cX13_live 12 = .ok (.iastore, 1) := dk_79 (dk_at dksX13_live_0 12 rfl rfl)
theorem dX13_live_13 : decode cX13_live 13 = .ok (.return_, 1) := dk_177 (dk_at dksX13_live_0 13 rfl rfl)
theorem q134 : (Jvm.Cond.initialized "ParlourLeaves$Carries") ∈ lw_all := lw_g (lw_at lw_m1 26 rfl) rfl
theorem q343 : (Jvm.Cond.fieldLinkNest "ParlourLeaves$Carries" (25 : Nat) "ParlourLeaves$State" "place" "[I" "ParlourLeaves") ∈ lw_tbl := lw_at lw_m1 235 rfl
theorem q1226 : (Jvm.Cond.instantiable "ParlourLeaves$Carries" (2 : Nat)) ∈ lw_all := lw_g (lw_at lw_m5 158 rfl) rfl
theorem q1228 : (Jvm.Cond.instanceMethod ({ cls := "ParlourLeaves$Carries", name := "<init>", desc := "(II)V" } : Jvm.MethodName)) ∈ lw_all := lw_g (lw_at lw_m5 160 rfl) rfl
theorem q1229 : (Jvm.Cond.code ({ cls := "ParlourLeaves$Carries", name := "<init>", desc := "(II)V" } : Jvm.MethodName) prog_5_method_1_code (3 : Nat) (Option.none : Option Jvm.ClassFile.FieldType)) ∈ lw_all := lw_g (lw_at lw_m5 161 rfl) rfl
theorem q1230 : (Jvm.Cond.methodLinkNest "ParlourLeaves$Carries" (1 : Nat) ({ cls := "ParlourLeaves$Line", name := "<init>", desc := "()V" } : Jvm.MethodName) "ParlourLeaves") ∈ lw_tbl := lw_at lw_m5 162 rfl
theorem q1231 : (Jvm.Cond.fieldLink "ParlourLeaves$Carries" (7 : Nat) "ParlourLeaves$Carries" "p" "I") ∈ lw_all := lw_g (lw_at lw_m5 163 rfl) rfl
theorem q1232 : (Jvm.Cond.fieldLink "ParlourLeaves$Carries" (13 : Nat) "ParlourLeaves$Carries" "l" "I") ∈ lw_all := lw_g (lw_at lw_m5 164 rfl) rfl
theorem q1233 : (Jvm.Cond.laysFinal "ParlourLeaves$Carries" "ParlourLeaves$Carries" "p" "I") ∈ lw_all := lw_g (lw_at lw_m5 165 rfl) rfl
theorem q1234 : (Jvm.Cond.soleField "ParlourLeaves$Carries" "p") ∈ lw_all := lw_g (lw_at lw_m5 166 rfl) rfl
theorem q1235 : (Jvm.Cond.laysFinal "ParlourLeaves$Carries" "ParlourLeaves$Carries" "l" "I") ∈ lw_all := lw_g (lw_at lw_m5 167 rfl) rfl
theorem q1236 : (Jvm.Cond.soleField "ParlourLeaves$Carries" "l") ∈ lw_all := lw_g (lw_at lw_m5 168 rfl) rfl
theorem q1237 : (Jvm.Cond.superclass "ParlourLeaves$Carries" "ParlourLeaves$Line") ∈ lw_all := lw_g (lw_at lw_m5 169 rfl) rfl
theorem q1261 : (Jvm.Cond.selects "ParlourLeaves$Carries" ({ cls := "ParlourLeaves$Line", name := "why", desc := "(LParlourLeaves$House;LParlourLeaves$State;)I" } : Jvm.MethodName) ({ cls := "ParlourLeaves$Carries", name := "why", desc := "(LParlourLeaves$House;LParlourLeaves$State;)I" } : Jvm.MethodName)) ∈ lw_all := lw_g (lw_at lw_m5 193 rfl) rfl
theorem q1262 : (Jvm.Cond.instanceMethod ({ cls := "ParlourLeaves$Carries", name := "why", desc := "(LParlourLeaves$House;LParlourLeaves$State;)I" } : Jvm.MethodName)) ∈ lw_all := lw_g (lw_at lw_m5 194 rfl) rfl
theorem q1263 : (Jvm.Cond.code ({ cls := "ParlourLeaves$Carries", name := "why", desc := "(LParlourLeaves$House;LParlourLeaves$State;)I" } : Jvm.MethodName) prog_5_method_2_code (3 : Nat) (Option.some Jvm.ClassFile.FieldType.int)) ∈ lw_all := lw_g (lw_at lw_m5 195 rfl) rfl
theorem q1264 : (Jvm.Cond.methodLink "ParlourLeaves$Carries" (16 : Nat) ({ cls := "ParlourLeaves$State", name := "whyCarry", desc := "(II)I" } : Jvm.MethodName)) ∈ lw_all := lw_g (lw_at lw_m5 196 rfl) rfl
theorem q1265 : (Jvm.Cond.methodLink "ParlourLeaves$Carries" (22 : Nat) ({ cls := "ParlourLeaves$Carries", name := "coded", desc := "(II)I" } : Jvm.MethodName)) ∈ lw_all := lw_g (lw_at lw_m5 197 rfl) rfl
theorem q1266 : (Jvm.Cond.sameMethod "ParlourLeaves$Carries" "ParlourLeaves$Line" "coded" "(II)I") ∈ lw_all := lw_g (lw_at lw_m5 198 rfl) rfl
theorem q1285 : (Jvm.Cond.selects "ParlourLeaves$Carries" ({ cls := "ParlourLeaves$Line", name := "live", desc := "(LParlourLeaves$House;LParlourLeaves$State;)V" } : Jvm.MethodName) ({ cls := "ParlourLeaves$Carries", name := "live", desc := "(LParlourLeaves$House;LParlourLeaves$State;)V" } : Jvm.MethodName)) ∈ lw_all := lw_g (lw_at lw_m5 217 rfl) rfl
theorem q1286 : (Jvm.Cond.instanceMethod ({ cls := "ParlourLeaves$Carries", name := "live", desc := "(LParlourLeaves$House;LParlourLeaves$State;)V" } : Jvm.MethodName)) ∈ lw_all := lw_g (lw_at lw_m5 218 rfl) rfl
theorem q1287 : (Jvm.Cond.code ({ cls := "ParlourLeaves$Carries", name := "live", desc := "(LParlourLeaves$House;LParlourLeaves$State;)V" } : Jvm.MethodName) prog_5_method_3_code (3 : Nat) (Option.none : Option Jvm.ClassFile.FieldType)) ∈ lw_all := lw_g (lw_at lw_m5 219 rfl) rfl
theorem q2229 : (Jvm.Cond.castable "ParlourLeaves$Carries" "java/lang/Object") ∈ lw_tbl := lw_at lw_m9 201 rfl
theorem q2240 : (Jvm.Cond.castable "ParlourLeaves$Carries" "ParlourLeaves$Line") ∈ lw_tbl := lw_at lw_m9 212 rfl
theorem in_X13 : ∀ w ∈ wsX130, w ∈ lw_all := lw_in wsX130 [1233, 1235] (by decide +kernel) (by decide +kernel)
/-! ParlourLeaves$Does -/
set_option maxRecDepth 100000
def RX14 : String := "ParlourLeaves$Does"
def TX14 : u_T := fun k => match k with
  | 0 => ("ParlourLeaves$Does", "person", "I", true)
  | 1 => ("ParlourLeaves$Does", "d", "I", true)
  | _ => ("ParlourLeaves$Does", "l", "I", true)
def tyX14 : Nat → FieldType := fun k => match k with
  | 0 => .int
  | 1 => .int
  | _ => .int
abbrev wsX140 : List Cond := u_ws RX14 TX14 3
theorem nmX14 : ∀ a, a < 3 → ∀ b, b < 3 → a ≠ b → (TX14 a).2.1 ≠ (TX14 b).2.1 := by decide +kernel
theorem tyX14_ok : ∀ k, k < 3 → parseFieldDescriptor (TX14 k).2.2.1 = some (tyX14 k) := by decide +kernel
abbrev cX14_init : ByteArray := prog_9_method_1_code
def yX14_init : MethodName := ⟨RX14, "<init>", "(III)V"⟩
def dkwX14_init_0 : List UInt8 := [42, 183, 0, 1, 42, 27, 181, 0, 7, 42, 28, 181, 0, 13, 42, 29, 181, 0, 16, 177]
abbrev dktX14_init_0 : List UInt8 := dkwX14_init_0 ++ []
theorem dksX14_init_0 : cX14_init.data.toList.drop 0 = dktX14_init_0 := by decide +kernel
theorem dX14_init_0 : decode cX14_init 0 = .ok (.aload_n 0, 1) := dk_42 (dk_at dksX14_init_0 0 rfl rfl)
theorem dX14_init_1 : decode cX14_init 1 = .ok (.invokespecial 1, 3) := dk_183 0 1 (dk_at dksX14_init_0 1 rfl rfl)
theorem dX14_init_4 : decode cX14_init 4 = .ok (.aload_n 0, 1) := dk_42 (dk_at dksX14_init_0 4 rfl rfl)
theorem dX14_init_5 : decode cX14_init 5 = .ok (.iload_n 1, 1) := dk_27 (dk_at dksX14_init_0 5 rfl rfl)
theorem dX14_init_6 : decode cX14_init 6 = .ok (.putfield 7, 3) := dk_181 0 7 (dk_at dksX14_init_0 6 rfl rfl)
theorem dX14_init_9 : decode cX14_init 9 = .ok (.aload_n 0, 1) := dk_42 (dk_at dksX14_init_0 9 rfl rfl)
theorem dX14_init_10 : decode cX14_init 10 = .ok (.iload_n 2, 1) := dk_28 (dk_at dksX14_init_0 10 rfl rfl)
theorem dX14_init_11 : decode cX14_init 11 = .ok (.putfield 13, 3) := dk_181 0 13 (dk_at dksX14_init_0 11 rfl rfl)
theorem dX14_init_14 : decode cX14_init 14 = .ok (.aload_n 0, 1) := dk_42 (dk_at dksX14_init_0 14 rfl rfl)
theorem dX14_init_15 : decode cX14_init 15 = .ok (.iload_n 3, 1) := dk_29 (dk_at dksX14_init_0 15 rfl rfl)
theorem dX14_init_16 : decode cX14_init 16 = .ok (.putfield 16, 3) := dk_181 0 16 (dk_at dksX14_init_0 16 rfl rfl)
theorem dX14_init_19 : decode cX14_init 19 = .ok (.return_, 1) := dk_177 (dk_at dksX14_init_0 19 rfl rfl)
abbrev cX14_why : ByteArray := prog_9_method_2_code
def yX14_why : MethodName := ⟨RX14, "why", "(LParlourLeaves$House;LParlourLeaves$State;)I"⟩
theorem dX14_why_0 : decode cX14_why 0 = .ok (.aload_n 2, 1) := by decide +kernel
theorem dX14_why_1 : decode cX14_why 1 = .ok (.invokevirtual 19, 3) := by decide +kernel
theorem dX14_why_4 : decode cX14_why 4 = .ok (.ireturn, 1) := by decide +kernel
abbrev cX14_live : ByteArray := prog_9_method_3_code
def yX14_live : MethodName := ⟨RX14, "live", "(LParlourLeaves$House;LParlourLeaves$State;)V"⟩
def dkwX14_live_0 : List UInt8 := [44, 43, 42, 180, 0, 7, 42, 180, 0, 13, 42, 180, 0, 16, 182, 0, 25, 177]
abbrev dktX14_live_0 : List UInt8 := dkwX14_live_0 ++ []
theorem dksX14_live_0 : cX14_live.data.toList.drop 0 = dktX14_live_0 := by decide +kernel
theorem dX14_live_0 : decode cX14_live 0 = .ok (.aload_n 2, 1) := dk_44 (dk_at dksX14_live_0 0 rfl rfl)
theorem dX14_live_1 : decode cX14_live 1 = .ok (.aload_n 1, 1) := dk_43 (dk_at dksX14_live_0 1 rfl rfl)
theorem dX14_live_2 : decode cX14_live 2 = .ok (.aload_n 0, 1) := dk_42 (dk_at dksX14_live_0 2 rfl rfl)
theorem dX14_live_3 : decode cX14_live 3 = .ok (.getfield 7, 3) := dk_180 0 7 (dk_at dksX14_live_0 3 rfl rfl)
theorem dX14_live_6 : decode cX14_live 6 = .ok (.aload_n 0, 1) := dk_42 (dk_at dksX14_live_0 6 rfl rfl)
theorem dX14_live_7 : decode cX14_live 7 = .ok (.getfield 13, 3) := dk_180 0 13 (dk_at dksX14_live_0 7 rfl rfl)
theorem dX14_live_10 : decode cX14_live 10 = .ok (.aload_n 0, 1) := dk_42 (dk_at dksX14_live_0 10 rfl rfl)
theorem dX14_live_11 : decode cX14_live 11 = .ok (.getfield 16, 3) := dk_180 0 16 (dk_at dksX14_live_0 11 rfl rfl)
theorem dX14_live_14 : decode cX14_live 14 = .ok (.invokevirtual 25, 3) := dk_182 0 25 (dk_at dksX14_live_0 14 rfl rfl)
theorem dX14_live_17 : decode cX14_live 17 = .ok (.return_, 1) := dk_177 (dk_at dksX14_live_0 17 rfl rfl)
theorem q135 : (Jvm.Cond.initialized "ParlourLeaves$Does") ∈ lw_all := lw_g (lw_at lw_m1 27 rfl) rfl
theorem q1240 : (Jvm.Cond.instantiable "ParlourLeaves$Does" (3 : Nat)) ∈ lw_all := lw_g (lw_at lw_m5 172 rfl) rfl
theorem q1242 : (Jvm.Cond.instanceMethod ({ cls := "ParlourLeaves$Does", name := "<init>", desc := "(III)V" } : Jvm.MethodName)) ∈ lw_all := lw_g (lw_at lw_m5 174 rfl) rfl
theorem q1243 : (Jvm.Cond.code ({ cls := "ParlourLeaves$Does", name := "<init>", desc := "(III)V" } : Jvm.MethodName) prog_9_method_1_code (4 : Nat) (Option.none : Option Jvm.ClassFile.FieldType)) ∈ lw_all := lw_g (lw_at lw_m5 175 rfl) rfl
theorem q1244 : (Jvm.Cond.methodLinkNest "ParlourLeaves$Does" (1 : Nat) ({ cls := "ParlourLeaves$Line", name := "<init>", desc := "()V" } : Jvm.MethodName) "ParlourLeaves") ∈ lw_tbl := lw_at lw_m5 176 rfl
theorem q1245 : (Jvm.Cond.fieldLink "ParlourLeaves$Does" (7 : Nat) "ParlourLeaves$Does" "person" "I") ∈ lw_all := lw_g (lw_at lw_m5 177 rfl) rfl
theorem q1246 : (Jvm.Cond.fieldLink "ParlourLeaves$Does" (13 : Nat) "ParlourLeaves$Does" "d" "I") ∈ lw_all := lw_g (lw_at lw_m5 178 rfl) rfl
theorem q1247 : (Jvm.Cond.fieldLink "ParlourLeaves$Does" (16 : Nat) "ParlourLeaves$Does" "l" "I") ∈ lw_all := lw_g (lw_at lw_m5 179 rfl) rfl
theorem q1248 : (Jvm.Cond.laysFinal "ParlourLeaves$Does" "ParlourLeaves$Does" "person" "I") ∈ lw_all := lw_g (lw_at lw_m5 180 rfl) rfl
theorem q1249 : (Jvm.Cond.soleField "ParlourLeaves$Does" "person") ∈ lw_all := lw_g (lw_at lw_m5 181 rfl) rfl
theorem q1250 : (Jvm.Cond.laysFinal "ParlourLeaves$Does" "ParlourLeaves$Does" "d" "I") ∈ lw_all := lw_g (lw_at lw_m5 182 rfl) rfl
theorem q1251 : (Jvm.Cond.soleField "ParlourLeaves$Does" "d") ∈ lw_all := lw_g (lw_at lw_m5 183 rfl) rfl
theorem q1252 : (Jvm.Cond.laysFinal "ParlourLeaves$Does" "ParlourLeaves$Does" "l" "I") ∈ lw_all := lw_g (lw_at lw_m5 184 rfl) rfl
theorem q1253 : (Jvm.Cond.soleField "ParlourLeaves$Does" "l") ∈ lw_all := lw_g (lw_at lw_m5 185 rfl) rfl
theorem q1254 : (Jvm.Cond.superclass "ParlourLeaves$Does" "ParlourLeaves$Line") ∈ lw_all := lw_g (lw_at lw_m5 186 rfl) rfl
theorem q1272 : (Jvm.Cond.selects "ParlourLeaves$Does" ({ cls := "ParlourLeaves$Line", name := "why", desc := "(LParlourLeaves$House;LParlourLeaves$State;)I" } : Jvm.MethodName) ({ cls := "ParlourLeaves$Does", name := "why", desc := "(LParlourLeaves$House;LParlourLeaves$State;)I" } : Jvm.MethodName)) ∈ lw_all := lw_g (lw_at lw_m5 204 rfl) rfl
theorem q1273 : (Jvm.Cond.instanceMethod ({ cls := "ParlourLeaves$Does", name := "why", desc := "(LParlourLeaves$House;LParlourLeaves$State;)I" } : Jvm.MethodName)) ∈ lw_all := lw_g (lw_at lw_m5 205 rfl) rfl
theorem q1274 : (Jvm.Cond.code ({ cls := "ParlourLeaves$Does", name := "why", desc := "(LParlourLeaves$House;LParlourLeaves$State;)I" } : Jvm.MethodName) prog_9_method_2_code (3 : Nat) (Option.some Jvm.ClassFile.FieldType.int)) ∈ lw_all := lw_g (lw_at lw_m5 206 rfl) rfl
theorem q1275 : (Jvm.Cond.methodLink "ParlourLeaves$Does" (19 : Nat) ({ cls := "ParlourLeaves$State", name := "whyDo", desc := "()I" } : Jvm.MethodName)) ∈ lw_all := lw_g (lw_at lw_m5 207 rfl) rfl
theorem q1292 : (Jvm.Cond.selects "ParlourLeaves$Does" ({ cls := "ParlourLeaves$Line", name := "live", desc := "(LParlourLeaves$House;LParlourLeaves$State;)V" } : Jvm.MethodName) ({ cls := "ParlourLeaves$Does", name := "live", desc := "(LParlourLeaves$House;LParlourLeaves$State;)V" } : Jvm.MethodName)) ∈ lw_all := lw_g (lw_at lw_m5 224 rfl) rfl
theorem q1293 : (Jvm.Cond.instanceMethod ({ cls := "ParlourLeaves$Does", name := "live", desc := "(LParlourLeaves$House;LParlourLeaves$State;)V" } : Jvm.MethodName)) ∈ lw_all := lw_g (lw_at lw_m5 225 rfl) rfl
theorem q1294 : (Jvm.Cond.code ({ cls := "ParlourLeaves$Does", name := "live", desc := "(LParlourLeaves$House;LParlourLeaves$State;)V" } : Jvm.MethodName) prog_9_method_3_code (3 : Nat) (Option.none : Option Jvm.ClassFile.FieldType)) ∈ lw_all := lw_g (lw_at lw_m5 226 rfl) rfl
theorem q1295 : (Jvm.Cond.methodLink "ParlourLeaves$Does" (25 : Nat) ({ cls := "ParlourLeaves$State", name := "does", desc := "(LParlourLeaves$House;III)V" } : Jvm.MethodName)) ∈ lw_all := lw_g (lw_at lw_m5 227 rfl) rfl
theorem q2230 : (Jvm.Cond.castable "ParlourLeaves$Does" "java/lang/Object") ∈ lw_tbl := lw_at lw_m9 202 rfl
theorem q2241 : (Jvm.Cond.castable "ParlourLeaves$Does" "ParlourLeaves$Line") ∈ lw_tbl := lw_at lw_m9 213 rfl
theorem in_X14 : ∀ w ∈ wsX140, w ∈ lw_all := lw_in wsX140 [1248, 1250, 1252] (by decide +kernel) (by decide +kernel)
/-! ParlourLeaves$Not -/
set_option maxRecDepth 100000
def RX15 : String := "ParlourLeaves$Not"
def TX15 : u_T := fun k => match k with
  | _ => ("ParlourLeaves$Not", "a", "LParlourLeaves$Cond;", true)
def tyX15 : Nat → FieldType := fun k => match k with
  | _ => .object "ParlourLeaves$Cond"
abbrev wsX150 : List Cond := u_ws RX15 TX15 1
theorem nmX15 : ∀ a, a < 1 → ∀ b, b < 1 → a ≠ b → (TX15 a).2.1 ≠ (TX15 b).2.1 := by decide +kernel
theorem tyX15_ok : ∀ k, k < 1 → parseFieldDescriptor (TX15 k).2.2.1 = some (tyX15 k) := by decide +kernel
abbrev cX15_init : ByteArray := prog_16_method_1_code
def yX15_init : MethodName := ⟨RX15, "<init>", "(LParlourLeaves$Cond;)V"⟩
def dkwX15_init_0 : List UInt8 := [42, 183, 0, 1, 42, 43, 181, 0, 7, 177]
abbrev dktX15_init_0 : List UInt8 := dkwX15_init_0 ++ []
theorem dksX15_init_0 : cX15_init.data.toList.drop 0 = dktX15_init_0 := by decide +kernel
theorem dX15_init_0 : decode cX15_init 0 = .ok (.aload_n 0, 1) := dk_42 (dk_at dksX15_init_0 0 rfl rfl)
theorem dX15_init_1 : decode cX15_init 1 = .ok (.invokespecial 1, 3) := dk_183 0 1 (dk_at dksX15_init_0 1 rfl rfl)
theorem dX15_init_4 : decode cX15_init 4 = .ok (.aload_n 0, 1) := dk_42 (dk_at dksX15_init_0 4 rfl rfl)
theorem dX15_init_5 : decode cX15_init 5 = .ok (.aload_n 1, 1) := dk_43 (dk_at dksX15_init_0 5 rfl rfl)
theorem dX15_init_6 : decode cX15_init 6 = .ok (.putfield 7, 3) := dk_181 0 7 (dk_at dksX15_init_0 6 rfl rfl)
theorem dX15_init_9 : decode cX15_init 9 = .ok (.return_, 1) := dk_177 (dk_at dksX15_init_0 9 rfl rfl)
abbrev cX15_is : ByteArray := prog_16_method_2_code
def yX15_is : MethodName := ⟨RX15, "is", "(LParlourLeaves;I)Z"⟩
def dkwX15_is_0 : List UInt8 := [42, 180, 0, 7, 43, 28, 185, 0, 13, 3, 0, 154, 0, 7, 4, 167, 0, 4, 3, 172]
abbrev dktX15_is_0 : List UInt8 := dkwX15_is_0 ++ []
theorem dksX15_is_0 : cX15_is.data.toList.drop 0 = dktX15_is_0 := by decide +kernel
theorem dX15_is_0 : decode cX15_is 0 = .ok (.aload_n 0, 1) := dk_42 (dk_at dksX15_is_0 0 rfl rfl)
theorem dX15_is_1 : decode cX15_is 1 = .ok (.getfield 7, 3) := dk_180 0 7 (dk_at dksX15_is_0 1 rfl rfl)
theorem dX15_is_4 : decode cX15_is 4 = .ok (.aload_n 1, 1) := dk_43 (dk_at dksX15_is_0 4 rfl rfl)
theorem dX15_is_5 : decode cX15_is 5 = .ok (.iload_n 2, 1) := dk_28 (dk_at dksX15_is_0 5 rfl rfl)
theorem dX15_is_6 : decode cX15_is 6 = .ok (.invokeinterface 13 3, 5) := by decide +kernel
theorem dX15_is_11 : decode cX15_is 11 = .ok (.ifCond .ne 7, 3) := dk_154 0 7 (dk_at dksX15_is_0 11 rfl rfl)
theorem dX15_is_14 : decode cX15_is 14 = .ok (.iconst 1, 1) := dk_4 (dk_at dksX15_is_0 14 rfl rfl)
theorem dX15_is_15 : decode cX15_is 15 = .ok (.goto 4, 3) := dk_167 0 4 (dk_at dksX15_is_0 15 rfl rfl)
theorem dX15_is_18 : decode cX15_is 18 = .ok (.iconst 0, 1) := dk_3 (dk_at dksX15_is_0 18 rfl rfl)
theorem dX15_is_19 : decode cX15_is 19 = .ok (.ireturn, 1) := dk_172 (dk_at dksX15_is_0 19 rfl rfl)
theorem q136 : (Jvm.Cond.initialized "ParlourLeaves$Not") ∈ lw_all := lw_g (lw_at lw_m1 28 rfl) rfl
theorem q1344 : (Jvm.Cond.instantiable "ParlourLeaves$Not" (1 : Nat)) ∈ lw_all := lw_g (lw_at lw_m6 36 rfl) rfl
theorem q1346 : (Jvm.Cond.instanceMethod ({ cls := "ParlourLeaves$Not", name := "<init>", desc := "(LParlourLeaves$Cond;)V" } : Jvm.MethodName)) ∈ lw_all := lw_g (lw_at lw_m6 38 rfl) rfl
theorem q1347 : (Jvm.Cond.code ({ cls := "ParlourLeaves$Not", name := "<init>", desc := "(LParlourLeaves$Cond;)V" } : Jvm.MethodName) prog_16_method_1_code (2 : Nat) (Option.none : Option Jvm.ClassFile.FieldType)) ∈ lw_all := lw_g (lw_at lw_m6 39 rfl) rfl
theorem q1348 : (Jvm.Cond.methodLink "ParlourLeaves$Not" (1 : Nat) ({ cls := "java/lang/Object", name := "<init>", desc := "()V" } : Jvm.MethodName)) ∈ lw_all := lw_g (lw_at lw_m6 40 rfl) rfl
theorem q1349 : (Jvm.Cond.fieldLink "ParlourLeaves$Not" (7 : Nat) "ParlourLeaves$Not" "a" "LParlourLeaves$Cond;") ∈ lw_all := lw_g (lw_at lw_m6 41 rfl) rfl
theorem q1350 : (Jvm.Cond.laysFinal "ParlourLeaves$Not" "ParlourLeaves$Not" "a" "LParlourLeaves$Cond;") ∈ lw_all := lw_g (lw_at lw_m6 42 rfl) rfl
theorem q1351 : (Jvm.Cond.soleField "ParlourLeaves$Not" "a") ∈ lw_all := lw_g (lw_at lw_m6 43 rfl) rfl
theorem q1352 : (Jvm.Cond.superclass "ParlourLeaves$Not" "java/lang/Object") ∈ lw_all := lw_g (lw_at lw_m6 44 rfl) rfl
theorem q1460 : (Jvm.Cond.castable "ParlourLeaves$Not" "ParlourLeaves$Cond") ∈ lw_tbl := lw_at lw_m6 152 rfl
theorem q1461 : (Jvm.Cond.selects "ParlourLeaves$Not" ({ cls := "ParlourLeaves$Cond", name := "is", desc := "(LParlourLeaves;I)Z" } : Jvm.MethodName) ({ cls := "ParlourLeaves$Not", name := "is", desc := "(LParlourLeaves;I)Z" } : Jvm.MethodName)) ∈ lw_all := lw_g (lw_at lw_m6 153 rfl) rfl
theorem q1462 : (Jvm.Cond.unhidden "ParlourLeaves$Not" "is" "(LParlourLeaves;I)Z") ∈ lw_tbl := lw_at lw_m6 154 rfl
theorem q1463 : (Jvm.Cond.instanceMethod ({ cls := "ParlourLeaves$Not", name := "is", desc := "(LParlourLeaves;I)Z" } : Jvm.MethodName)) ∈ lw_all := lw_g (lw_at lw_m6 155 rfl) rfl
theorem q1464 : (Jvm.Cond.publicMethod ({ cls := "ParlourLeaves$Not", name := "is", desc := "(LParlourLeaves;I)Z" } : Jvm.MethodName)) ∈ lw_tbl := lw_at lw_m6 156 rfl
theorem q1465 : (Jvm.Cond.code ({ cls := "ParlourLeaves$Not", name := "is", desc := "(LParlourLeaves;I)Z" } : Jvm.MethodName) prog_16_method_2_code (3 : Nat) (Option.some Jvm.ClassFile.FieldType.boolean)) ∈ lw_all := lw_g (lw_at lw_m6 157 rfl) rfl
theorem q1466 : (Jvm.Cond.interfaceEntry "ParlourLeaves$Not" (13 : Nat)) ∈ lw_tbl := lw_at lw_m6 158 rfl
theorem q1467 : (Jvm.Cond.methodLink "ParlourLeaves$Not" (13 : Nat) ({ cls := "ParlourLeaves$Cond", name := "is", desc := "(LParlourLeaves;I)Z" } : Jvm.MethodName)) ∈ lw_all := lw_g (lw_at lw_m6 159 rfl) rfl
theorem q2231 : (Jvm.Cond.castable "ParlourLeaves$Not" "java/lang/Object") ∈ lw_tbl := lw_at lw_m9 203 rfl
theorem in_X15 : ∀ w ∈ wsX150, w ∈ lw_all := lw_in wsX150 [1350] (by decide +kernel) (by decide +kernel)
/-! ParlourLeaves$Marks -/
set_option maxRecDepth 100000
def RX16 : String := "ParlourLeaves$Marks"
def TX16 : u_T := fun k => match k with
  | 0 => ("ParlourLeaves$Marks", "what", "I", true)
  | _ => ("ParlourLeaves$Marks", "of", "I", true)
def tyX16 : Nat → FieldType := fun k => match k with
  | 0 => .int
  | _ => .int
abbrev wsX160 : List Cond := u_ws RX16 TX16 2
theorem nmX16 : ∀ a, a < 2 → ∀ b, b < 2 → a ≠ b → (TX16 a).2.1 ≠ (TX16 b).2.1 := by decide +kernel
theorem tyX16_ok : ∀ k, k < 2 → parseFieldDescriptor (TX16 k).2.2.1 = some (tyX16 k) := by decide +kernel
abbrev cX16_init : ByteArray := prog_15_method_1_code
def yX16_init : MethodName := ⟨RX16, "<init>", "(II)V"⟩
def dkwX16_init_0 : List UInt8 := [42, 183, 0, 1, 42, 27, 181, 0, 7, 42, 28, 181, 0, 13, 177]
abbrev dktX16_init_0 : List UInt8 := dkwX16_init_0 ++ []
theorem dksX16_init_0 : cX16_init.data.toList.drop 0 = dktX16_init_0 := by decide +kernel
theorem dX16_init_0 : decode cX16_init 0 = .ok (.aload_n 0, 1) := dk_42 (dk_at dksX16_init_0 0 rfl rfl)
theorem dX16_init_1 : decode cX16_init 1 = .ok (.invokespecial 1, 3) := dk_183 0 1 (dk_at dksX16_init_0 1 rfl rfl)
theorem dX16_init_4 : decode cX16_init 4 = .ok (.aload_n 0, 1) := dk_42 (dk_at dksX16_init_0 4 rfl rfl)
theorem dX16_init_5 : decode cX16_init 5 = .ok (.iload_n 1, 1) := dk_27 (dk_at dksX16_init_0 5 rfl rfl)
theorem dX16_init_6 : decode cX16_init 6 = .ok (.putfield 7, 3) := dk_181 0 7 (dk_at dksX16_init_0 6 rfl rfl)
theorem dX16_init_9 : decode cX16_init 9 = .ok (.aload_n 0, 1) := dk_42 (dk_at dksX16_init_0 9 rfl rfl)
theorem dX16_init_10 : decode cX16_init 10 = .ok (.iload_n 2, 1) := dk_28 (dk_at dksX16_init_0 10 rfl rfl)
theorem dX16_init_11 : decode cX16_init 11 = .ok (.putfield 13, 3) := dk_181 0 13 (dk_at dksX16_init_0 11 rfl rfl)
theorem dX16_init_14 : decode cX16_init 14 = .ok (.return_, 1) := dk_177 (dk_at dksX16_init_0 14 rfl rfl)
abbrev cX16_is : ByteArray := prog_15_method_3_code
def yX16_is : MethodName := ⟨RX16, "is", "(LParlourLeaves;I)Z"⟩
def dkwX16_is_5 : List UInt8 := [180, 0, 13, 184, 0, 48, 172, 42, 43, 180, 0, 29, 28, 182, 0, 54, 172]
abbrev dktX16_is_5 : List UInt8 := dkwX16_is_5 ++ []
def dkwX16_is_4 : List UInt8 := [160, 0, 7, 4, 167, 0, 4, 3, 172, 43, 180, 0, 29, 43, 180, 0, 35, 28, 182, 0, 39, 42]
abbrev dktX16_is_4 : List UInt8 := dkwX16_is_4 ++ dktX16_is_5
def dkwX16_is_3 : List UInt8 := [180, 0, 35, 180, 0, 43, 28, 184, 0, 48, 172, 43, 180, 0, 29, 180, 0, 51, 28, 46, 42, 180, 0, 13]
abbrev dktX16_is_3 : List UInt8 := dkwX16_is_3 ++ dktX16_is_4
def dkwX16_is_2 : List UInt8 := [43, 180, 0, 29, 43, 180, 0, 35, 28, 182, 0, 39, 154, 0, 7, 4, 167, 0, 4, 3, 172, 43]
abbrev dktX16_is_2 : List UInt8 := dkwX16_is_2 ++ dktX16_is_3
def dkwX16_is_1 : List UInt8 := [170, 0, 0, 0, 0, 0, 0, 107, 0, 0, 0, 0, 0, 0, 0, 3, 0, 0, 0, 32, 0, 0, 0, 53, 0, 0, 0, 65, 0, 0, 0, 87]
abbrev dktX16_is_1 : List UInt8 := dkwX16_is_1 ++ dktX16_is_2
def dkwX16_is_0 : List UInt8 := [42, 180, 0, 7]
abbrev dktX16_is_0 : List UInt8 := dkwX16_is_0 ++ dktX16_is_1
theorem dksX16_is_0 : cX16_is.data.toList.drop 0 = dktX16_is_0 := by decide +kernel
theorem dksX16_is_1 : cX16_is.data.toList.drop 4 = dktX16_is_1 := dk_seg dksX16_is_0 4 rfl rfl
theorem dksX16_is_2 : cX16_is.data.toList.drop 36 = dktX16_is_2 := dk_seg dksX16_is_1 32 rfl rfl
theorem dksX16_is_3 : cX16_is.data.toList.drop 58 = dktX16_is_3 := dk_seg dksX16_is_2 22 rfl rfl
theorem dksX16_is_4 : cX16_is.data.toList.drop 82 = dktX16_is_4 := dk_seg dksX16_is_3 24 rfl rfl
theorem dksX16_is_5 : cX16_is.data.toList.drop 104 = dktX16_is_5 := dk_seg dksX16_is_4 22 rfl rfl
theorem dX16_is_0 : decode cX16_is 0 = .ok (.aload_n 0, 1) := dk_42 (dk_at dksX16_is_0 0 rfl rfl)
theorem dX16_is_1 : decode cX16_is 1 = .ok (.getfield 7, 3) := dk_180 0 7 (dk_at dksX16_is_0 1 rfl rfl)
theorem dX16_is_4 : decode cX16_is 4 = .ok (.tableswitch 107 0 3 #[32, 53, 65, 87], 32) := by decide +kernel
theorem dX16_is_36 : decode cX16_is 36 = .ok (.aload_n 1, 1) := dk_43 (dk_at dksX16_is_2 0 rfl rfl)
theorem dX16_is_37 : decode cX16_is 37 = .ok (.getfield 29, 3) := dk_180 0 29 (dk_at dksX16_is_2 1 rfl rfl)
theorem dX16_is_40 : decode cX16_is 40 = .ok (.aload_n 1, 1) := dk_43 (dk_at dksX16_is_2 4 rfl rfl)
theorem dX16_is_41 : decode cX16_is 41 = .ok (.getfield 35, 3) := dk_180 0 35 (dk_at dksX16_is_2 5 rfl rfl)
theorem dX16_is_44 : decode cX16_is 44 = .ok (.iload_n 2, 1) := dk_28 (dk_at dksX16_is_2 8 rfl rfl)
theorem dX16_is_45 : decode cX16_is 45 = .ok (.invokevirtual 39, 3) := dk_182 0 39 (dk_at dksX16_is_2 9 rfl rfl)
theorem dX16_is_48 : decode cX16_is 48 = .ok (.ifCond .ne 7, 3) := dk_154 0 7 (dk_at dksX16_is_2 12 rfl rfl)
theorem dX16_is_51 : decode cX16_is 51 = .ok (.iconst 1, 1) := dk_4 (dk_at dksX16_is_2 15 rfl rfl)
theorem dX16_is_52 : decode cX16_is 52 = .ok (.goto 4, 3) := dk_167 0 4 (dk_at dksX16_is_2 16 rfl rfl)
theorem dX16_is_55 : decode cX16_is 55 = .ok (.iconst 0, 1) := dk_3 (dk_at dksX16_is_2 19 rfl rfl)
theorem dX16_is_56 : decode cX16_is 56 = .ok (.ireturn, 1) := dk_172 (dk_at dksX16_is_2 20 rfl rfl)
theorem dX16_is_57 : decode cX16_is 57 = .ok (.aload_n 1, 1) := dk_43 (dk_at dksX16_is_2 21 rfl rfl)
theorem dX16_is_58 : decode cX16_is 58 = .ok (.getfield 35, 3) := dk_180 0 35 (dk_at dksX16_is_3 0 rfl rfl)
theorem dX16_is_61 : decode cX16_is 61 = .ok (.getfield 43, 3) := dk_180 0 43 (dk_at dksX16_is_3 3 rfl rfl)
theorem dX16_is_64 : decode cX16_is 64 = .ok (.iload_n 2, 1) := dk_28 (dk_at dksX16_is_3 6 rfl rfl)
theorem dX16_is_65 : decode cX16_is 65 = .ok (.invokestatic 48, 3) := dk_184 0 48 (dk_at dksX16_is_3 7 rfl rfl)
theorem dX16_is_68 : decode cX16_is 68 = .ok (.ireturn, 1) := dk_172 (dk_at dksX16_is_3 10 rfl rfl)
theorem dX16_is_69 : decode cX16_is 69 = .ok (.aload_n 1, 1) := dk_43 (dk_at dksX16_is_3 11 rfl rfl)
theorem dX16_is_70 : decode cX16_is 70 = .ok (.getfield 29, 3) := dk_180 0 29 (dk_at dksX16_is_3 12 rfl rfl)
theorem dX16_is_73 : decode cX16_is 73 = .ok (.getfield 51, 3) := dk_180 0 51 (dk_at dksX16_is_3 15 rfl rfl)
theorem dX16_is_76 : decode cX16_is 76 = .ok (.iload_n 2, 1) := dk_28 (dk_at dksX16_is_3 18 rfl rfl)
theorem dX16_is_77 : decode cX16_is 77 = .ok (.iaload, 1) := dk_46 (dk_at dksX16_is_3 19 rfl rfl)
theorem dX16_is_78 : decode cX16_is 78 = .ok (.aload_n 0, 1) := dk_42 (dk_at dksX16_is_3 20 rfl rfl)
theorem dX16_is_79 : decode cX16_is 79 = .ok (.getfield 13, 3) := dk_180 0 13 (dk_at dksX16_is_3 21 rfl rfl)
theorem dX16_is_82 : decode cX16_is 82 = .ok (.if_icmp .ne 7, 3) := dk_160 0 7 (dk_at dksX16_is_4 0 rfl rfl)
theorem dX16_is_85 : decode cX16_is 85 = .ok (.iconst 1, 1) := dk_4 (dk_at dksX16_is_4 3 rfl rfl)
theorem dX16_is_86 : decode cX16_is 86 = .ok (.goto 4, 3) := dk_167 0 4 (dk_at dksX16_is_4 4 rfl rfl)
theorem dX16_is_89 : decode cX16_is 89 = .ok (.iconst 0, 1) := dk_3 (dk_at dksX16_is_4 7 rfl rfl)
theorem dX16_is_90 : decode cX16_is 90 = .ok (.ireturn, 1) := dk_172 (dk_at dksX16_is_4 8 rfl rfl)
theorem dX16_is_91 : decode cX16_is 91 = .ok (.aload_n 1, 1) := dk_43 (dk_at dksX16_is_4 9 rfl rfl)
theorem dX16_is_92 : decode cX16_is 92 = .ok (.getfield 29, 3) := dk_180 0 29 (dk_at dksX16_is_4 10 rfl rfl)
theorem dX16_is_95 : decode cX16_is 95 = .ok (.aload_n 1, 1) := dk_43 (dk_at dksX16_is_4 13 rfl rfl)
theorem dX16_is_96 : decode cX16_is 96 = .ok (.getfield 35, 3) := dk_180 0 35 (dk_at dksX16_is_4 14 rfl rfl)
theorem dX16_is_99 : decode cX16_is 99 = .ok (.iload_n 2, 1) := dk_28 (dk_at dksX16_is_4 17 rfl rfl)
theorem dX16_is_100 : decode cX16_is 100 = .ok (.invokevirtual 39, 3) := dk_182 0 39 (dk_at dksX16_is_4 18 rfl rfl)
theorem dX16_is_103 : decode cX16_is 103 = .ok (.aload_n 0, 1) := dk_42 (dk_at dksX16_is_4 21 rfl rfl)
theorem dX16_is_104 : decode cX16_is 104 = .ok (.getfield 13, 3) := dk_180 0 13 (dk_at dksX16_is_5 0 rfl rfl)
theorem dX16_is_107 : decode cX16_is 107 = .ok (.invokestatic 48, 3) := dk_184 0 48 (dk_at dksX16_is_5 3 rfl rfl)
theorem dX16_is_110 : decode cX16_is 110 = .ok (.ireturn, 1) := dk_172 (dk_at dksX16_is_5 6 rfl rfl)
theorem dX16_is_111 : decode cX16_is 111 = .ok (.aload_n 0, 1) := dk_42 (dk_at dksX16_is_5 7 rfl rfl)
theorem dX16_is_112 : decode cX16_is 112 = .ok (.aload_n 1, 1) := dk_43 (dk_at dksX16_is_5 8 rfl rfl)
theorem dX16_is_113 : decode cX16_is 113 = .ok (.getfield 29, 3) := dk_180 0 29 (dk_at dksX16_is_5 9 rfl rfl)
theorem dX16_is_116 : decode cX16_is 116 = .ok (.iload_n 2, 1) := dk_28 (dk_at dksX16_is_5 12 rfl rfl)
theorem dX16_is_117 : decode cX16_is 117 = .ok (.invokevirtual 54, 3) := dk_182 0 54 (dk_at dksX16_is_5 13 rfl rfl)
theorem dX16_is_120 : decode cX16_is 120 = .ok (.ireturn, 1) := dk_172 (dk_at dksX16_is_5 16 rfl rfl)
abbrev cX16_tells : ByteArray := prog_15_method_2_code
def yX16_tells : MethodName := ⟨RX16, "tells", "(LParlourLeaves$State;I)Z"⟩
def dkwX16_tells_1 : List UInt8 := [28, 29, 182, 0, 25, 153, 0, 5, 4, 172, 132, 3, 1, 167, 255, 221, 3, 172]
abbrev dktX16_tells_1 : List UInt8 := dkwX16_tells_1 ++ []
def dkwX16_tells_0 : List UInt8 := [3, 62, 29, 43, 180, 0, 16, 162, 0, 33, 43, 180, 0, 21, 29, 46, 42, 180, 0, 13, 160, 0, 14, 43]
abbrev dktX16_tells_0 : List UInt8 := dkwX16_tells_0 ++ dktX16_tells_1
theorem dksX16_tells_0 : cX16_tells.data.toList.drop 0 = dktX16_tells_0 := by decide +kernel
theorem dksX16_tells_1 : cX16_tells.data.toList.drop 24 = dktX16_tells_1 := dk_seg dksX16_tells_0 24 rfl rfl
theorem dX16_tells_0 : decode cX16_tells 0 = .ok (.iconst 0, 1) := dk_3 (dk_at dksX16_tells_0 0 rfl rfl)
theorem dX16_tells_1 : decode cX16_tells 1 = .ok (.istore_n 3, 1) := dk_62 (dk_at dksX16_tells_0 1 rfl rfl)
theorem dX16_tells_2 : decode cX16_tells 2 = .ok (.iload_n 3, 1) := dk_29 (dk_at dksX16_tells_0 2 rfl rfl)
theorem dX16_tells_3 : decode cX16_tells 3 = .ok (.aload_n 1, 1) := dk_43 (dk_at dksX16_tells_0 3 rfl rfl)
theorem dX16_tells_4 : decode cX16_tells 4 = .ok (.getfield 16, 3) := dk_180 0 16 (dk_at dksX16_tells_0 4 rfl rfl)
theorem dX16_tells_7 : decode cX16_tells 7 = .ok (.if_icmp .ge 33, 3) := dk_162 0 33 (dk_at dksX16_tells_0 7 rfl rfl)
theorem dX16_tells_10 : decode cX16_tells 10 = .ok (.aload_n 1, 1) := dk_43 (dk_at dksX16_tells_0 10 rfl rfl)
theorem dX16_tells_11 : decode cX16_tells 11 = .ok (.getfield 21, 3) := dk_180 0 21 (dk_at dksX16_tells_0 11 rfl rfl)
theorem dX16_tells_14 : decode cX16_tells 14 = .ok (.iload_n 3, 1) := dk_29 (dk_at dksX16_tells_0 14 rfl rfl)
theorem dX16_tells_15 : decode cX16_tells 15 = .ok (.iaload, 1) := dk_46 (dk_at dksX16_tells_0 15 rfl rfl)
theorem dX16_tells_16 : decode cX16_tells 16 = .ok (.aload_n 0, 1) := dk_42 (dk_at dksX16_tells_0 16 rfl rfl)
theorem dX16_tells_17 : decode cX16_tells 17 = .ok (.getfield 13, 3) := dk_180 0 13 (dk_at dksX16_tells_0 17 rfl rfl)
theorem dX16_tells_20 : decode cX16_tells 20 = .ok (.if_icmp .ne 14, 3) := dk_160 0 14 (dk_at dksX16_tells_0 20 rfl rfl)
theorem dX16_tells_23 : decode cX16_tells 23 = .ok (.aload_n 1, 1) := dk_43 (dk_at dksX16_tells_0 23 rfl rfl)
theorem dX16_tells_24 : decode cX16_tells 24 = .ok (.iload_n 2, 1) := dk_28 (dk_at dksX16_tells_1 0 rfl rfl)
theorem dX16_tells_25 : decode cX16_tells 25 = .ok (.iload_n 3, 1) := dk_29 (dk_at dksX16_tells_1 1 rfl rfl)
theorem dX16_tells_26 : decode cX16_tells 26 = .ok (.invokevirtual 25, 3) := dk_182 0 25 (dk_at dksX16_tells_1 2 rfl rfl)
theorem dX16_tells_29 : decode cX16_tells 29 = .ok (.ifCond .eq 5, 3) := dk_153 0 5 (dk_at dksX16_tells_1 5 rfl rfl)
theorem dX16_tells_32 : decode cX16_tells 32 = .ok (.iconst 1, 1) := dk_4 (dk_at dksX16_tells_1 8 rfl rfl)
theorem dX16_tells_33 : decode cX16_tells 33 = .ok (.ireturn, 1) := dk_172 (dk_at dksX16_tells_1 9 rfl rfl)
theorem dX16_tells_34 : decode cX16_tells 34 = .ok (.iinc 3 1, 3) := dk_132 3 1 (dk_at dksX16_tells_1 10 rfl rfl)
theorem dX16_tells_37 : decode cX16_tells 37 = .ok (.goto (-35), 3) := dk_167 255 221 (dk_at dksX16_tells_1 13 rfl rfl)
theorem dX16_tells_40 : decode cX16_tells 40 = .ok (.iconst 0, 1) := dk_3 (dk_at dksX16_tells_1 16 rfl rfl)
theorem dX16_tells_41 : decode cX16_tells 41 = .ok (.ireturn, 1) := dk_172 (dk_at dksX16_tells_1 17 rfl rfl)
theorem q137 : (Jvm.Cond.initialized "ParlourLeaves$Marks") ∈ lw_all := lw_g (lw_at lw_m1 29 rfl) rfl
theorem q293 : (Jvm.Cond.fieldLinkNest "ParlourLeaves$Marks" (43 : Nat) "ParlourLeaves$House" "ferns" "I" "ParlourLeaves") ∈ lw_tbl := lw_at lw_m1 185 rfl
theorem q344 : (Jvm.Cond.fieldLinkNest "ParlourLeaves$Marks" (51 : Nat) "ParlourLeaves$State" "place" "[I" "ParlourLeaves") ∈ lw_tbl := lw_at lw_m1 236 rfl
theorem q351 : (Jvm.Cond.fieldLinkNest "ParlourLeaves$Marks" (21 : Nat) "ParlourLeaves$State" "who" "[I" "ParlourLeaves") ∈ lw_tbl := lw_at lw_m2 3 rfl
theorem q363 : (Jvm.Cond.fieldLinkNest "ParlourLeaves$Marks" (16 : Nat) "ParlourLeaves$State" "acts" "I" "ParlourLeaves") ∈ lw_tbl := lw_at lw_m2 15 rfl
theorem q534 : (Jvm.Cond.fieldLinkNest "ParlourLeaves$Marks" (35 : Nat) "ParlourLeaves" "house" "LParlourLeaves$House;" "ParlourLeaves") ∈ lw_tbl := lw_at lw_m2 186 rfl
theorem q539 : (Jvm.Cond.fieldLinkNest "ParlourLeaves$Marks" (29 : Nat) "ParlourLeaves" "now" "LParlourLeaves$State;" "ParlourLeaves") ∈ lw_tbl := lw_at lw_m2 191 rfl
theorem q1357 : (Jvm.Cond.instantiable "ParlourLeaves$Marks" (2 : Nat)) ∈ lw_all := lw_g (lw_at lw_m6 49 rfl) rfl
theorem q1362 : (Jvm.Cond.instanceMethod ({ cls := "ParlourLeaves$Marks", name := "<init>", desc := "(II)V" } : Jvm.MethodName)) ∈ lw_all := lw_g (lw_at lw_m6 54 rfl) rfl
theorem q1363 : (Jvm.Cond.code ({ cls := "ParlourLeaves$Marks", name := "<init>", desc := "(II)V" } : Jvm.MethodName) prog_15_method_1_code (3 : Nat) (Option.none : Option Jvm.ClassFile.FieldType)) ∈ lw_all := lw_g (lw_at lw_m6 55 rfl) rfl
theorem q1364 : (Jvm.Cond.methodLink "ParlourLeaves$Marks" (1 : Nat) ({ cls := "java/lang/Object", name := "<init>", desc := "()V" } : Jvm.MethodName)) ∈ lw_all := lw_g (lw_at lw_m6 56 rfl) rfl
theorem q1365 : (Jvm.Cond.fieldLink "ParlourLeaves$Marks" (7 : Nat) "ParlourLeaves$Marks" "what" "I") ∈ lw_all := lw_g (lw_at lw_m6 57 rfl) rfl
theorem q1366 : (Jvm.Cond.fieldLink "ParlourLeaves$Marks" (13 : Nat) "ParlourLeaves$Marks" "of" "I") ∈ lw_all := lw_g (lw_at lw_m6 58 rfl) rfl
theorem q1367 : (Jvm.Cond.laysFinal "ParlourLeaves$Marks" "ParlourLeaves$Marks" "what" "I") ∈ lw_all := lw_g (lw_at lw_m6 59 rfl) rfl
theorem q1368 : (Jvm.Cond.soleField "ParlourLeaves$Marks" "what") ∈ lw_all := lw_g (lw_at lw_m6 60 rfl) rfl
theorem q1369 : (Jvm.Cond.laysFinal "ParlourLeaves$Marks" "ParlourLeaves$Marks" "of" "I") ∈ lw_all := lw_g (lw_at lw_m6 61 rfl) rfl
theorem q1370 : (Jvm.Cond.soleField "ParlourLeaves$Marks" "of") ∈ lw_all := lw_g (lw_at lw_m6 62 rfl) rfl
theorem q1371 : (Jvm.Cond.superclass "ParlourLeaves$Marks" "java/lang/Object") ∈ lw_all := lw_g (lw_at lw_m6 63 rfl) rfl
theorem q1447 : (Jvm.Cond.castable "ParlourLeaves$Marks" "ParlourLeaves$Cond") ∈ lw_tbl := lw_at lw_m6 139 rfl
theorem q1448 : (Jvm.Cond.selects "ParlourLeaves$Marks" ({ cls := "ParlourLeaves$Cond", name := "is", desc := "(LParlourLeaves;I)Z" } : Jvm.MethodName) ({ cls := "ParlourLeaves$Marks", name := "is", desc := "(LParlourLeaves;I)Z" } : Jvm.MethodName)) ∈ lw_all := lw_g (lw_at lw_m6 140 rfl) rfl
theorem q1449 : (Jvm.Cond.unhidden "ParlourLeaves$Marks" "is" "(LParlourLeaves;I)Z") ∈ lw_tbl := lw_at lw_m6 141 rfl
theorem q1450 : (Jvm.Cond.instanceMethod ({ cls := "ParlourLeaves$Marks", name := "is", desc := "(LParlourLeaves;I)Z" } : Jvm.MethodName)) ∈ lw_all := lw_g (lw_at lw_m6 142 rfl) rfl
theorem q1451 : (Jvm.Cond.publicMethod ({ cls := "ParlourLeaves$Marks", name := "is", desc := "(LParlourLeaves;I)Z" } : Jvm.MethodName)) ∈ lw_tbl := lw_at lw_m6 143 rfl
theorem q1452 : (Jvm.Cond.code ({ cls := "ParlourLeaves$Marks", name := "is", desc := "(LParlourLeaves;I)Z" } : Jvm.MethodName) prog_15_method_3_code (3 : Nat) (Option.some Jvm.ClassFile.FieldType.boolean)) ∈ lw_all := lw_g (lw_at lw_m6 144 rfl) rfl
theorem q1453 : (Jvm.Cond.methodLink "ParlourLeaves$Marks" (39 : Nat) ({ cls := "ParlourLeaves$State", name := "sees", desc := "(LParlourLeaves$House;I)I" } : Jvm.MethodName)) ∈ lw_all := lw_g (lw_at lw_m6 145 rfl) rfl
theorem q1454 : (Jvm.Cond.methodLinkNest "ParlourLeaves$Marks" (48 : Nat) ({ cls := "ParlourLeaves", name := "has", desc := "(II)Z" } : Jvm.MethodName) "ParlourLeaves") ∈ lw_tbl := lw_at lw_m6 146 rfl
theorem q1455 : (Jvm.Cond.methodLink "ParlourLeaves$Marks" (54 : Nat) ({ cls := "ParlourLeaves$Marks", name := "tells", desc := "(LParlourLeaves$State;I)Z" } : Jvm.MethodName)) ∈ lw_all := lw_g (lw_at lw_m6 147 rfl) rfl
theorem q1456 : (Jvm.Cond.privateMethod ({ cls := "ParlourLeaves$Marks", name := "tells", desc := "(LParlourLeaves$State;I)Z" } : Jvm.MethodName)) ∈ lw_tbl := lw_at lw_m6 148 rfl
theorem q1457 : (Jvm.Cond.instanceMethod ({ cls := "ParlourLeaves$Marks", name := "tells", desc := "(LParlourLeaves$State;I)Z" } : Jvm.MethodName)) ∈ lw_all := lw_g (lw_at lw_m6 149 rfl) rfl
theorem q1458 : (Jvm.Cond.code ({ cls := "ParlourLeaves$Marks", name := "tells", desc := "(LParlourLeaves$State;I)Z" } : Jvm.MethodName) prog_15_method_2_code (4 : Nat) (Option.some Jvm.ClassFile.FieldType.boolean)) ∈ lw_all := lw_g (lw_at lw_m6 150 rfl) rfl
theorem q1459 : (Jvm.Cond.methodLink "ParlourLeaves$Marks" (25 : Nat) ({ cls := "ParlourLeaves$State", name := "hasCome", desc := "(II)Z" } : Jvm.MethodName)) ∈ lw_all := lw_g (lw_at lw_m6 151 rfl) rfl
theorem q2232 : (Jvm.Cond.castable "ParlourLeaves$Marks" "java/lang/Object") ∈ lw_tbl := lw_at lw_m9 204 rfl
theorem in_X16 : ∀ w ∈ wsX160, w ∈ lw_all := lw_in wsX160 [1367, 1369] (by decide +kernel) (by decide +kernel)
/-! ParlourLeaves$Counts -/
set_option maxRecDepth 100000
def RX17 : String := "ParlourLeaves$Counts"
def TX17 : u_T := fun k => match k with
  | 0 => ("ParlourLeaves$Counts", "what", "I", true)
  | 1 => ("ParlourLeaves$Counts", "sign", "I", true)
  | _ => ("ParlourLeaves$Counts", "number", "I", true)
def tyX17 : Nat → FieldType := fun k => match k with
  | 0 => .int
  | 1 => .int
  | _ => .int
abbrev wsX170 : List Cond := u_ws RX17 TX17 3
theorem nmX17 : ∀ a, a < 3 → ∀ b, b < 3 → a ≠ b → (TX17 a).2.1 ≠ (TX17 b).2.1 := by decide +kernel
theorem tyX17_ok : ∀ k, k < 3 → parseFieldDescriptor (TX17 k).2.2.1 = some (tyX17 k) := by decide +kernel
abbrev cX17_init : ByteArray := prog_7_method_1_code
def yX17_init : MethodName := ⟨RX17, "<init>", "(III)V"⟩
def dkwX17_init_0 : List UInt8 := [42, 183, 0, 1, 42, 27, 181, 0, 7, 42, 28, 181, 0, 13, 42, 29, 181, 0, 16, 177]
abbrev dktX17_init_0 : List UInt8 := dkwX17_init_0 ++ []
theorem dksX17_init_0 : cX17_init.data.toList.drop 0 = dktX17_init_0 := by decide +kernel
theorem dX17_init_0 : decode cX17_init 0 = .ok (.aload_n 0, 1) := dk_42 (dk_at dksX17_init_0 0 rfl rfl)
theorem dX17_init_1 : decode cX17_init 1 = .ok (.invokespecial 1, 3) := dk_183 0 1 (dk_at dksX17_init_0 1 rfl rfl)
theorem dX17_init_4 : decode cX17_init 4 = .ok (.aload_n 0, 1) := dk_42 (dk_at dksX17_init_0 4 rfl rfl)
theorem dX17_init_5 : decode cX17_init 5 = .ok (.iload_n 1, 1) := dk_27 (dk_at dksX17_init_0 5 rfl rfl)
theorem dX17_init_6 : decode cX17_init 6 = .ok (.putfield 7, 3) := dk_181 0 7 (dk_at dksX17_init_0 6 rfl rfl)
theorem dX17_init_9 : decode cX17_init 9 = .ok (.aload_n 0, 1) := dk_42 (dk_at dksX17_init_0 9 rfl rfl)
theorem dX17_init_10 : decode cX17_init 10 = .ok (.iload_n 2, 1) := dk_28 (dk_at dksX17_init_0 10 rfl rfl)
theorem dX17_init_11 : decode cX17_init 11 = .ok (.putfield 13, 3) := dk_181 0 13 (dk_at dksX17_init_0 11 rfl rfl)
theorem dX17_init_14 : decode cX17_init 14 = .ok (.aload_n 0, 1) := dk_42 (dk_at dksX17_init_0 14 rfl rfl)
theorem dX17_init_15 : decode cX17_init 15 = .ok (.iload_n 3, 1) := dk_29 (dk_at dksX17_init_0 15 rfl rfl)
theorem dX17_init_16 : decode cX17_init 16 = .ok (.putfield 16, 3) := dk_181 0 16 (dk_at dksX17_init_0 16 rfl rfl)
theorem dX17_init_19 : decode cX17_init 19 = .ok (.return_, 1) := dk_177 (dk_at dksX17_init_0 19 rfl rfl)
abbrev cX17_is : ByteArray := prog_7_method_2_code
def yX17_is : MethodName := ⟨RX17, "is", "(LParlourLeaves;I)Z"⟩
def dkwX17_is_4 : List UInt8 := [180, 0, 16, 164, 0, 7, 4, 167, 0, 4, 3, 172]
abbrev dktX17_is_4 : List UInt8 := dkwX17_is_4 ++ []
def dkwX17_is_3 : List UInt8 := [16, 61, 160, 0, 19, 29, 42, 180, 0, 16, 160, 0, 7, 4, 167, 0, 20, 3, 167, 0, 16, 29, 42]
abbrev dktX17_is_3 : List UInt8 := dkwX17_is_3 ++ dktX17_is_4
def dkwX17_is_2 : List UInt8 := [160, 0, 19, 29, 42, 180, 0, 16, 162, 0, 7, 4, 167, 0, 45, 3, 167, 0, 41, 42, 180, 0, 13]
abbrev dktX17_is_2 : List UInt8 := dkwX17_is_2 ++ dktX17_is_3
def dkwX17_is_1 : List UInt8 := [160, 0, 15, 43, 180, 0, 19, 180, 0, 31, 28, 46, 167, 0, 4, 28, 62, 42, 180, 0, 13, 16, 60]
abbrev dktX17_is_1 : List UInt8 := dkwX17_is_1 ++ dktX17_is_2
def dkwX17_is_0 : List UInt8 := [42, 180, 0, 7, 154, 0, 15, 43, 180, 0, 19, 28, 4, 182, 0, 25, 167, 0, 24, 42, 180, 0, 7, 4]
abbrev dktX17_is_0 : List UInt8 := dkwX17_is_0 ++ dktX17_is_1
theorem dksX17_is_0 : cX17_is.data.toList.drop 0 = dktX17_is_0 := by decide +kernel
theorem dksX17_is_1 : cX17_is.data.toList.drop 24 = dktX17_is_1 := dk_seg dksX17_is_0 24 rfl rfl
theorem dksX17_is_2 : cX17_is.data.toList.drop 47 = dktX17_is_2 := dk_seg dksX17_is_1 23 rfl rfl
theorem dksX17_is_3 : cX17_is.data.toList.drop 70 = dktX17_is_3 := dk_seg dksX17_is_2 23 rfl rfl
theorem dksX17_is_4 : cX17_is.data.toList.drop 93 = dktX17_is_4 := dk_seg dksX17_is_3 23 rfl rfl
theorem dX17_is_0 : decode cX17_is 0 = .ok (.aload_n 0, 1) := dk_42 (dk_at dksX17_is_0 0 rfl rfl)
theorem dX17_is_1 : decode cX17_is 1 = .ok (.getfield 7, 3) := dk_180 0 7 (dk_at dksX17_is_0 1 rfl rfl)
theorem dX17_is_4 : decode cX17_is 4 = .ok (.ifCond .ne 15, 3) := dk_154 0 15 (dk_at dksX17_is_0 4 rfl rfl)
theorem dX17_is_7 : decode cX17_is 7 = .ok (.aload_n 1, 1) := dk_43 (dk_at dksX17_is_0 7 rfl rfl)
theorem dX17_is_8 : decode cX17_is 8 = .ok (.getfield 19, 3) := dk_180 0 19 (dk_at dksX17_is_0 8 rfl rfl)
theorem dX17_is_11 : decode cX17_is 11 = .ok (.iload_n 2, 1) := dk_28 (dk_at dksX17_is_0 11 rfl rfl)
theorem dX17_is_12 : decode cX17_is 12 = .ok (.iconst 1, 1) := dk_4 (dk_at dksX17_is_0 12 rfl rfl)
theorem dX17_is_13 : decode cX17_is 13 = .ok (.invokevirtual 25, 3) := dk_182 0 25 (dk_at dksX17_is_0 13 rfl rfl)
theorem dX17_is_16 : decode cX17_is 16 = .ok (.goto 24, 3) := dk_167 0 24 (dk_at dksX17_is_0 16 rfl rfl)
theorem dX17_is_19 : decode cX17_is 19 = .ok (.aload_n 0, 1) := dk_42 (dk_at dksX17_is_0 19 rfl rfl)
theorem dX17_is_20 : decode cX17_is 20 = .ok (.getfield 7, 3) := dk_180 0 7 (dk_at dksX17_is_0 20 rfl rfl)
theorem dX17_is_23 : decode cX17_is 23 = .ok (.iconst 1, 1) := dk_4 (dk_at dksX17_is_0 23 rfl rfl)
theorem dX17_is_24 : decode cX17_is 24 = .ok (.if_icmp .ne 15, 3) := dk_160 0 15 (dk_at dksX17_is_1 0 rfl rfl)
theorem dX17_is_27 : decode cX17_is 27 = .ok (.aload_n 1, 1) := dk_43 (dk_at dksX17_is_1 3 rfl rfl)
theorem dX17_is_28 : decode cX17_is 28 = .ok (.getfield 19, 3) := dk_180 0 19 (dk_at dksX17_is_1 4 rfl rfl)
theorem dX17_is_31 : decode cX17_is 31 = .ok (.getfield 31, 3) := dk_180 0 31 (dk_at dksX17_is_1 7 rfl rfl)
theorem dX17_is_34 : decode cX17_is 34 = .ok (.iload_n 2, 1) := dk_28 (dk_at dksX17_is_1 10 rfl rfl)
theorem dX17_is_35 : decode cX17_is 35 = .ok (.iaload, 1) := dk_46 (dk_at dksX17_is_1 11 rfl rfl)
theorem dX17_is_36 : decode cX17_is 36 = .ok (.goto 4, 3) := dk_167 0 4 (dk_at dksX17_is_1 12 rfl rfl)
theorem dX17_is_39 : decode cX17_is 39 = .ok (.iload_n 2, 1) := dk_28 (dk_at dksX17_is_1 15 rfl rfl)
theorem dX17_is_40 : decode cX17_is 40 = .ok (.istore_n 3, 1) := dk_62 (dk_at dksX17_is_1 16 rfl rfl)
theorem dX17_is_41 : decode cX17_is 41 = .ok (.aload_n 0, 1) := dk_42 (dk_at dksX17_is_1 17 rfl rfl)
theorem dX17_is_42 : decode cX17_is 42 = .ok (.getfield 13, 3) := dk_180 0 13 (dk_at dksX17_is_1 18 rfl rfl)
theorem dX17_is_45 : decode cX17_is 45 = .ok (.bipush 60, 2) := dk_16 60 (dk_at dksX17_is_1 21 rfl rfl)
theorem dX17_is_47 : decode cX17_is 47 = .ok (.if_icmp .ne 19, 3) := dk_160 0 19 (dk_at dksX17_is_2 0 rfl rfl)
theorem dX17_is_50 : decode cX17_is 50 = .ok (.iload_n 3, 1) := dk_29 (dk_at dksX17_is_2 3 rfl rfl)
theorem dX17_is_51 : decode cX17_is 51 = .ok (.aload_n 0, 1) := dk_42 (dk_at dksX17_is_2 4 rfl rfl)
theorem dX17_is_52 : decode cX17_is 52 = .ok (.getfield 16, 3) := dk_180 0 16 (dk_at dksX17_is_2 5 rfl rfl)
theorem dX17_is_55 : decode cX17_is 55 = .ok (.if_icmp .ge 7, 3) := dk_162 0 7 (dk_at dksX17_is_2 8 rfl rfl)
theorem dX17_is_58 : decode cX17_is 58 = .ok (.iconst 1, 1) := dk_4 (dk_at dksX17_is_2 11 rfl rfl)
theorem dX17_is_59 : decode cX17_is 59 = .ok (.goto 45, 3) := dk_167 0 45 (dk_at dksX17_is_2 12 rfl rfl)
theorem dX17_is_62 : decode cX17_is 62 = .ok (.iconst 0, 1) := dk_3 (dk_at dksX17_is_2 15 rfl rfl)
theorem dX17_is_63 : decode cX17_is 63 = .ok (.goto 41, 3) := dk_167 0 41 (dk_at dksX17_is_2 16 rfl rfl)
theorem dX17_is_66 : decode cX17_is 66 = .ok (.aload_n 0, 1) := dk_42 (dk_at dksX17_is_2 19 rfl rfl)
theorem dX17_is_67 : decode cX17_is 67 = .ok (.getfield 13, 3) := dk_180 0 13 (dk_at dksX17_is_2 20 rfl rfl)
theorem dX17_is_70 : decode cX17_is 70 = .ok (.bipush 61, 2) := dk_16 61 (dk_at dksX17_is_3 0 rfl rfl)
theorem dX17_is_72 : decode cX17_is 72 = .ok (.if_icmp .ne 19, 3) := dk_160 0 19 (dk_at dksX17_is_3 2 rfl rfl)
theorem dX17_is_75 : decode cX17_is 75 = .ok (.iload_n 3, 1) := dk_29 (dk_at dksX17_is_3 5 rfl rfl)
theorem dX17_is_76 : decode cX17_is 76 = .ok (.aload_n 0, 1) := dk_42 (dk_at dksX17_is_3 6 rfl rfl)
theorem dX17_is_77 : decode cX17_is 77 = .ok (.getfield 16, 3) := dk_180 0 16 (dk_at dksX17_is_3 7 rfl rfl)
theorem dX17_is_80 : decode cX17_is 80 = .ok (.if_icmp .ne 7, 3) := dk_160 0 7 (dk_at dksX17_is_3 10 rfl rfl)
theorem dX17_is_83 : decode cX17_is 83 = .ok (.iconst 1, 1) := dk_4 (dk_at dksX17_is_3 13 rfl rfl)
theorem dX17_is_84 : decode cX17_is 84 = .ok (.goto 20, 3) := dk_167 0 20 (dk_at dksX17_is_3 14 rfl rfl)
theorem dX17_is_87 : decode cX17_is 87 = .ok (.iconst 0, 1) := dk_3 (dk_at dksX17_is_3 17 rfl rfl)
theorem dX17_is_88 : decode cX17_is 88 = .ok (.goto 16, 3) := dk_167 0 16 (dk_at dksX17_is_3 18 rfl rfl)
theorem dX17_is_91 : decode cX17_is 91 = .ok (.iload_n 3, 1) := dk_29 (dk_at dksX17_is_3 21 rfl rfl)
theorem dX17_is_92 : decode cX17_is 92 = .ok (.aload_n 0, 1) := dk_42 (dk_at dksX17_is_3 22 rfl rfl)
theorem dX17_is_93 : decode cX17_is 93 = .ok (.getfield 16, 3) := dk_180 0 16 (dk_at dksX17_is_4 0 rfl rfl)
theorem dX17_is_96 : decode cX17_is 96 = .ok (.if_icmp .le 7, 3) := dk_164 0 7 (dk_at dksX17_is_4 3 rfl rfl)
theorem dX17_is_99 : decode cX17_is 99 = .ok (.iconst 1, 1) := dk_4 (dk_at dksX17_is_4 6 rfl rfl)
theorem dX17_is_100 : decode cX17_is 100 = .ok (.goto 4, 3) := dk_167 0 4 (dk_at dksX17_is_4 7 rfl rfl)
theorem dX17_is_103 : decode cX17_is 103 = .ok (.iconst 0, 1) := dk_3 (dk_at dksX17_is_4 10 rfl rfl)
theorem dX17_is_104 : decode cX17_is 104 = .ok (.ireturn, 1) := dk_172 (dk_at dksX17_is_4 11 rfl rfl)
theorem q138 : (Jvm.Cond.initialized "ParlourLeaves$Counts") ∈ lw_all := lw_g (lw_at lw_m1 30 rfl) rfl
theorem q347 : (Jvm.Cond.fieldLinkNest "ParlourLeaves$Counts" (31 : Nat) "ParlourLeaves$State" "dust" "[I" "ParlourLeaves") ∈ lw_tbl := lw_at lw_m1 239 rfl
theorem q538 : (Jvm.Cond.fieldLinkNest "ParlourLeaves$Counts" (19 : Nat) "ParlourLeaves" "now" "LParlourLeaves$State;" "ParlourLeaves") ∈ lw_tbl := lw_at lw_m2 190 rfl
theorem q1373 : (Jvm.Cond.instantiable "ParlourLeaves$Counts" (3 : Nat)) ∈ lw_all := lw_g (lw_at lw_m6 65 rfl) rfl
theorem q1375 : (Jvm.Cond.instanceMethod ({ cls := "ParlourLeaves$Counts", name := "<init>", desc := "(III)V" } : Jvm.MethodName)) ∈ lw_all := lw_g (lw_at lw_m6 67 rfl) rfl
theorem q1376 : (Jvm.Cond.code ({ cls := "ParlourLeaves$Counts", name := "<init>", desc := "(III)V" } : Jvm.MethodName) prog_7_method_1_code (4 : Nat) (Option.none : Option Jvm.ClassFile.FieldType)) ∈ lw_all := lw_g (lw_at lw_m6 68 rfl) rfl
theorem q1377 : (Jvm.Cond.methodLink "ParlourLeaves$Counts" (1 : Nat) ({ cls := "java/lang/Object", name := "<init>", desc := "()V" } : Jvm.MethodName)) ∈ lw_all := lw_g (lw_at lw_m6 69 rfl) rfl
theorem q1378 : (Jvm.Cond.fieldLink "ParlourLeaves$Counts" (7 : Nat) "ParlourLeaves$Counts" "what" "I") ∈ lw_all := lw_g (lw_at lw_m6 70 rfl) rfl
theorem q1379 : (Jvm.Cond.fieldLink "ParlourLeaves$Counts" (13 : Nat) "ParlourLeaves$Counts" "sign" "I") ∈ lw_all := lw_g (lw_at lw_m6 71 rfl) rfl
theorem q1380 : (Jvm.Cond.fieldLink "ParlourLeaves$Counts" (16 : Nat) "ParlourLeaves$Counts" "number" "I") ∈ lw_all := lw_g (lw_at lw_m6 72 rfl) rfl
theorem q1381 : (Jvm.Cond.laysFinal "ParlourLeaves$Counts" "ParlourLeaves$Counts" "what" "I") ∈ lw_all := lw_g (lw_at lw_m6 73 rfl) rfl
theorem q1382 : (Jvm.Cond.soleField "ParlourLeaves$Counts" "what") ∈ lw_all := lw_g (lw_at lw_m6 74 rfl) rfl
theorem q1383 : (Jvm.Cond.laysFinal "ParlourLeaves$Counts" "ParlourLeaves$Counts" "sign" "I") ∈ lw_all := lw_g (lw_at lw_m6 75 rfl) rfl
theorem q1384 : (Jvm.Cond.soleField "ParlourLeaves$Counts" "sign") ∈ lw_all := lw_g (lw_at lw_m6 76 rfl) rfl
theorem q1385 : (Jvm.Cond.laysFinal "ParlourLeaves$Counts" "ParlourLeaves$Counts" "number" "I") ∈ lw_all := lw_g (lw_at lw_m6 77 rfl) rfl
theorem q1386 : (Jvm.Cond.soleField "ParlourLeaves$Counts" "number") ∈ lw_all := lw_g (lw_at lw_m6 78 rfl) rfl
theorem q1387 : (Jvm.Cond.superclass "ParlourLeaves$Counts" "java/lang/Object") ∈ lw_all := lw_g (lw_at lw_m6 79 rfl) rfl
theorem q1440 : (Jvm.Cond.castable "ParlourLeaves$Counts" "ParlourLeaves$Cond") ∈ lw_tbl := lw_at lw_m6 132 rfl
theorem q1441 : (Jvm.Cond.selects "ParlourLeaves$Counts" ({ cls := "ParlourLeaves$Cond", name := "is", desc := "(LParlourLeaves;I)Z" } : Jvm.MethodName) ({ cls := "ParlourLeaves$Counts", name := "is", desc := "(LParlourLeaves;I)Z" } : Jvm.MethodName)) ∈ lw_all := lw_g (lw_at lw_m6 133 rfl) rfl
theorem q1442 : (Jvm.Cond.unhidden "ParlourLeaves$Counts" "is" "(LParlourLeaves;I)Z") ∈ lw_tbl := lw_at lw_m6 134 rfl
theorem q1443 : (Jvm.Cond.instanceMethod ({ cls := "ParlourLeaves$Counts", name := "is", desc := "(LParlourLeaves;I)Z" } : Jvm.MethodName)) ∈ lw_all := lw_g (lw_at lw_m6 135 rfl) rfl
theorem q1444 : (Jvm.Cond.publicMethod ({ cls := "ParlourLeaves$Counts", name := "is", desc := "(LParlourLeaves;I)Z" } : Jvm.MethodName)) ∈ lw_tbl := lw_at lw_m6 136 rfl
theorem q1445 : (Jvm.Cond.code ({ cls := "ParlourLeaves$Counts", name := "is", desc := "(LParlourLeaves;I)Z" } : Jvm.MethodName) prog_7_method_2_code (4 : Nat) (Option.some Jvm.ClassFile.FieldType.boolean)) ∈ lw_all := lw_g (lw_at lw_m6 137 rfl) rfl
theorem q1446 : (Jvm.Cond.methodLink "ParlourLeaves$Counts" (25 : Nat) ({ cls := "ParlourLeaves$State", name := "leaves", desc := "(IZ)I" } : Jvm.MethodName)) ∈ lw_all := lw_g (lw_at lw_m6 138 rfl) rfl
theorem q2233 : (Jvm.Cond.castable "ParlourLeaves$Counts" "java/lang/Object") ∈ lw_tbl := lw_at lw_m9 205 rfl
theorem in_X17 : ∀ w ∈ wsX170, w ∈ lw_all := lw_in wsX170 [1381, 1383, 1385] (by decide +kernel) (by decide +kernel)
/-! ParlourLeaves$Both -/
set_option maxRecDepth 100000
def RX18 : String := "ParlourLeaves$Both"
def TX18 : u_T := fun k => match k with
  | 0 => ("ParlourLeaves$Both", "a", "LParlourLeaves$Cond;", true)
  | _ => ("ParlourLeaves$Both", "b", "LParlourLeaves$Cond;", true)
def tyX18 : Nat → FieldType := fun k => match k with
  | 0 => .object "ParlourLeaves$Cond"
  | _ => .object "ParlourLeaves$Cond"
abbrev wsX180 : List Cond := u_ws RX18 TX18 2
theorem nmX18 : ∀ a, a < 2 → ∀ b, b < 2 → a ≠ b → (TX18 a).2.1 ≠ (TX18 b).2.1 := by decide +kernel
theorem tyX18_ok : ∀ k, k < 2 → parseFieldDescriptor (TX18 k).2.2.1 = some (tyX18 k) := by decide +kernel
abbrev cX18_init : ByteArray := prog_4_method_1_code
def yX18_init : MethodName := ⟨RX18, "<init>", "(LParlourLeaves$Cond;LParlourLeaves$Cond;)V"⟩
def dkwX18_init_0 : List UInt8 := [42, 183, 0, 1, 42, 43, 181, 0, 7, 42, 44, 181, 0, 13, 177]
abbrev dktX18_init_0 : List UInt8 := dkwX18_init_0 ++ []
theorem dksX18_init_0 : cX18_init.data.toList.drop 0 = dktX18_init_0 := by decide +kernel
theorem dX18_init_0 : decode cX18_init 0 = .ok (.aload_n 0, 1) := dk_42 (dk_at dksX18_init_0 0 rfl rfl)
theorem dX18_init_1 : decode cX18_init 1 = .ok (.invokespecial 1, 3) := dk_183 0 1 (dk_at dksX18_init_0 1 rfl rfl)
theorem dX18_init_4 : decode cX18_init 4 = .ok (.aload_n 0, 1) := dk_42 (dk_at dksX18_init_0 4 rfl rfl)
theorem dX18_init_5 : decode cX18_init 5 = .ok (.aload_n 1, 1) := dk_43 (dk_at dksX18_init_0 5 rfl rfl)
theorem dX18_init_6 : decode cX18_init 6 = .ok (.putfield 7, 3) := dk_181 0 7 (dk_at dksX18_init_0 6 rfl rfl)
theorem dX18_init_9 : decode cX18_init 9 = .ok (.aload_n 0, 1) := dk_42 (dk_at dksX18_init_0 9 rfl rfl)
theorem dX18_init_10 : decode cX18_init 10 = .ok (.aload_n 2, 1) := dk_44 (dk_at dksX18_init_0 10 rfl rfl)
theorem dX18_init_11 : decode cX18_init 11 = .ok (.putfield 13, 3) := dk_181 0 13 (dk_at dksX18_init_0 11 rfl rfl)
theorem dX18_init_14 : decode cX18_init 14 = .ok (.return_, 1) := dk_177 (dk_at dksX18_init_0 14 rfl rfl)
abbrev cX18_is : ByteArray := prog_4_method_2_code
def yX18_is : MethodName := ⟨RX18, "is", "(LParlourLeaves;I)Z"⟩
def dkwX18_is_1 : List UInt8 := [185, 0, 16, 3, 0, 153, 0, 7, 4, 167, 0, 4, 3, 172]
abbrev dktX18_is_1 : List UInt8 := dkwX18_is_1 ++ []
def dkwX18_is_0 : List UInt8 := [42, 180, 0, 7, 43, 28, 185, 0, 16, 3, 0, 153, 0, 21, 42, 180, 0, 13, 43, 28]
abbrev dktX18_is_0 : List UInt8 := dkwX18_is_0 ++ dktX18_is_1
theorem dksX18_is_0 : cX18_is.data.toList.drop 0 = dktX18_is_0 := by decide +kernel
theorem dksX18_is_1 : cX18_is.data.toList.drop 20 = dktX18_is_1 := dk_seg dksX18_is_0 20 rfl rfl
theorem dX18_is_0 : decode cX18_is 0 = .ok (.aload_n 0, 1) := dk_42 (dk_at dksX18_is_0 0 rfl rfl)
theorem dX18_is_1 : decode cX18_is 1 = .ok (.getfield 7, 3) := dk_180 0 7 (dk_at dksX18_is_0 1 rfl rfl)
theorem dX18_is_4 : decode cX18_is 4 = .ok (.aload_n 1, 1) := dk_43 (dk_at dksX18_is_0 4 rfl rfl)
theorem dX18_is_5 : decode cX18_is 5 = .ok (.iload_n 2, 1) := dk_28 (dk_at dksX18_is_0 5 rfl rfl)
theorem dX18_is_6 : decode cX18_is 6 = .ok (.invokeinterface 16 3, 5) := by decide +kernel
theorem dX18_is_11 : decode cX18_is 11 = .ok (.ifCond .eq 21, 3) := dk_153 0 21 (dk_at dksX18_is_0 11 rfl rfl)
theorem dX18_is_14 : decode cX18_is 14 = .ok (.aload_n 0, 1) := dk_42 (dk_at dksX18_is_0 14 rfl rfl)
theorem dX18_is_15 : decode cX18_is 15 = .ok (.getfield 13, 3) := dk_180 0 13 (dk_at dksX18_is_0 15 rfl rfl)
theorem dX18_is_18 : decode cX18_is 18 = .ok (.aload_n 1, 1) := dk_43 (dk_at dksX18_is_0 18 rfl rfl)
theorem dX18_is_19 : decode cX18_is 19 = .ok (.iload_n 2, 1) := dk_28 (dk_at dksX18_is_0 19 rfl rfl)
theorem dX18_is_20 : decode cX18_is 20 = .ok (.invokeinterface 16 3, 5) := by decide +kernel
theorem dX18_is_25 : decode cX18_is 25 = .ok (.ifCond .eq 7, 3) := dk_153 0 7 (dk_at dksX18_is_1 5 rfl rfl)
theorem dX18_is_28 : decode cX18_is 28 = .ok (.iconst 1, 1) := dk_4 (dk_at dksX18_is_1 8 rfl rfl)
theorem dX18_is_29 : decode cX18_is 29 = .ok (.goto 4, 3) := dk_167 0 4 (dk_at dksX18_is_1 9 rfl rfl)
theorem dX18_is_32 : decode cX18_is 32 = .ok (.iconst 0, 1) := dk_3 (dk_at dksX18_is_1 12 rfl rfl)
theorem dX18_is_33 : decode cX18_is 33 = .ok (.ireturn, 1) := dk_172 (dk_at dksX18_is_1 13 rfl rfl)
theorem q139 : (Jvm.Cond.initialized "ParlourLeaves$Both") ∈ lw_all := lw_g (lw_at lw_m1 31 rfl) rfl
theorem q1390 : (Jvm.Cond.instantiable "ParlourLeaves$Both" (2 : Nat)) ∈ lw_all := lw_g (lw_at lw_m6 82 rfl) rfl
theorem q1392 : (Jvm.Cond.instanceMethod ({ cls := "ParlourLeaves$Both", name := "<init>", desc := "(LParlourLeaves$Cond;LParlourLeaves$Cond;)V" } : Jvm.MethodName)) ∈ lw_all := lw_g (lw_at lw_m6 84 rfl) rfl
theorem q1393 : (Jvm.Cond.code ({ cls := "ParlourLeaves$Both", name := "<init>", desc := "(LParlourLeaves$Cond;LParlourLeaves$Cond;)V" } : Jvm.MethodName) prog_4_method_1_code (3 : Nat) (Option.none : Option Jvm.ClassFile.FieldType)) ∈ lw_all := lw_g (lw_at lw_m6 85 rfl) rfl
theorem q1394 : (Jvm.Cond.methodLink "ParlourLeaves$Both" (1 : Nat) ({ cls := "java/lang/Object", name := "<init>", desc := "()V" } : Jvm.MethodName)) ∈ lw_all := lw_g (lw_at lw_m6 86 rfl) rfl
theorem q1395 : (Jvm.Cond.fieldLink "ParlourLeaves$Both" (7 : Nat) "ParlourLeaves$Both" "a" "LParlourLeaves$Cond;") ∈ lw_all := lw_g (lw_at lw_m6 87 rfl) rfl
theorem q1396 : (Jvm.Cond.fieldLink "ParlourLeaves$Both" (13 : Nat) "ParlourLeaves$Both" "b" "LParlourLeaves$Cond;") ∈ lw_all := lw_g (lw_at lw_m6 88 rfl) rfl
theorem q1397 : (Jvm.Cond.laysFinal "ParlourLeaves$Both" "ParlourLeaves$Both" "a" "LParlourLeaves$Cond;") ∈ lw_all := lw_g (lw_at lw_m6 89 rfl) rfl
theorem q1398 : (Jvm.Cond.soleField "ParlourLeaves$Both" "a") ∈ lw_all := lw_g (lw_at lw_m6 90 rfl) rfl
theorem q1399 : (Jvm.Cond.laysFinal "ParlourLeaves$Both" "ParlourLeaves$Both" "b" "LParlourLeaves$Cond;") ∈ lw_all := lw_g (lw_at lw_m6 91 rfl) rfl
theorem q1400 : (Jvm.Cond.soleField "ParlourLeaves$Both" "b") ∈ lw_all := lw_g (lw_at lw_m6 92 rfl) rfl
theorem q1401 : (Jvm.Cond.superclass "ParlourLeaves$Both" "java/lang/Object") ∈ lw_all := lw_g (lw_at lw_m6 93 rfl) rfl
theorem q1432 : (Jvm.Cond.castable "ParlourLeaves$Both" "ParlourLeaves$Cond") ∈ lw_tbl := lw_at lw_m6 124 rfl
theorem q1433 : (Jvm.Cond.selects "ParlourLeaves$Both" ({ cls := "ParlourLeaves$Cond", name := "is", desc := "(LParlourLeaves;I)Z" } : Jvm.MethodName) ({ cls := "ParlourLeaves$Both", name := "is", desc := "(LParlourLeaves;I)Z" } : Jvm.MethodName)) ∈ lw_all := lw_g (lw_at lw_m6 125 rfl) rfl
theorem q1434 : (Jvm.Cond.unhidden "ParlourLeaves$Both" "is" "(LParlourLeaves;I)Z") ∈ lw_tbl := lw_at lw_m6 126 rfl
theorem q1435 : (Jvm.Cond.instanceMethod ({ cls := "ParlourLeaves$Both", name := "is", desc := "(LParlourLeaves;I)Z" } : Jvm.MethodName)) ∈ lw_all := lw_g (lw_at lw_m6 127 rfl) rfl
theorem q1436 : (Jvm.Cond.publicMethod ({ cls := "ParlourLeaves$Both", name := "is", desc := "(LParlourLeaves;I)Z" } : Jvm.MethodName)) ∈ lw_tbl := lw_at lw_m6 128 rfl
theorem q1437 : (Jvm.Cond.code ({ cls := "ParlourLeaves$Both", name := "is", desc := "(LParlourLeaves;I)Z" } : Jvm.MethodName) prog_4_method_2_code (3 : Nat) (Option.some Jvm.ClassFile.FieldType.boolean)) ∈ lw_all := lw_g (lw_at lw_m6 129 rfl) rfl
theorem q1438 : (Jvm.Cond.interfaceEntry "ParlourLeaves$Both" (16 : Nat)) ∈ lw_tbl := lw_at lw_m6 130 rfl
theorem q1439 : (Jvm.Cond.methodLink "ParlourLeaves$Both" (16 : Nat) ({ cls := "ParlourLeaves$Cond", name := "is", desc := "(LParlourLeaves;I)Z" } : Jvm.MethodName)) ∈ lw_all := lw_g (lw_at lw_m6 131 rfl) rfl
theorem q2234 : (Jvm.Cond.castable "ParlourLeaves$Both" "java/lang/Object") ∈ lw_tbl := lw_at lw_m9 206 rfl
theorem in_X18 : ∀ w ∈ wsX180, w ∈ lw_all := lw_in wsX180 [1397, 1399] (by decide +kernel) (by decide +kernel)
/-! ParlourLeaves$Any -/
set_option maxRecDepth 100000
def RX19 : String := "ParlourLeaves$Any"
def TX19 : u_T := fun k => match k with
  | 0 => ("ParlourLeaves$Any", "a", "LParlourLeaves$Cond;", true)
  | _ => ("ParlourLeaves$Any", "b", "LParlourLeaves$Cond;", true)
def tyX19 : Nat → FieldType := fun k => match k with
  | 0 => .object "ParlourLeaves$Cond"
  | _ => .object "ParlourLeaves$Cond"
abbrev wsX190 : List Cond := u_ws RX19 TX19 2
theorem nmX19 : ∀ a, a < 2 → ∀ b, b < 2 → a ≠ b → (TX19 a).2.1 ≠ (TX19 b).2.1 := by decide +kernel
theorem tyX19_ok : ∀ k, k < 2 → parseFieldDescriptor (TX19 k).2.2.1 = some (tyX19 k) := by decide +kernel
abbrev cX19_init : ByteArray := prog_2_method_1_code
def yX19_init : MethodName := ⟨RX19, "<init>", "(LParlourLeaves$Cond;LParlourLeaves$Cond;)V"⟩
def dkwX19_init_0 : List UInt8 := [42, 183, 0, 1, 42, 43, 181, 0, 7, 42, 44, 181, 0, 13, 177]
abbrev dktX19_init_0 : List UInt8 := dkwX19_init_0 ++ []
theorem dksX19_init_0 : cX19_init.data.toList.drop 0 = dktX19_init_0 := by decide +kernel
theorem dX19_init_0 : decode cX19_init 0 = .ok (.aload_n 0, 1) := dk_42 (dk_at dksX19_init_0 0 rfl rfl)
theorem dX19_init_1 : decode cX19_init 1 = .ok (.invokespecial 1, 3) := dk_183 0 1 (dk_at dksX19_init_0 1 rfl rfl)
theorem dX19_init_4 : decode cX19_init 4 = .ok (.aload_n 0, 1) := dk_42 (dk_at dksX19_init_0 4 rfl rfl)
theorem dX19_init_5 : decode cX19_init 5 = .ok (.aload_n 1, 1) := dk_43 (dk_at dksX19_init_0 5 rfl rfl)
theorem dX19_init_6 : decode cX19_init 6 = .ok (.putfield 7, 3) := dk_181 0 7 (dk_at dksX19_init_0 6 rfl rfl)
theorem dX19_init_9 : decode cX19_init 9 = .ok (.aload_n 0, 1) := dk_42 (dk_at dksX19_init_0 9 rfl rfl)
theorem dX19_init_10 : decode cX19_init 10 = .ok (.aload_n 2, 1) := dk_44 (dk_at dksX19_init_0 10 rfl rfl)
theorem dX19_init_11 : decode cX19_init 11 = .ok (.putfield 13, 3) := dk_181 0 13 (dk_at dksX19_init_0 11 rfl rfl)
theorem dX19_init_14 : decode cX19_init 14 = .ok (.return_, 1) := dk_177 (dk_at dksX19_init_0 14 rfl rfl)
abbrev cX19_is : ByteArray := prog_2_method_2_code
def yX19_is : MethodName := ⟨RX19, "is", "(LParlourLeaves;I)Z"⟩
def dkwX19_is_1 : List UInt8 := [185, 0, 16, 3, 0, 153, 0, 7, 4, 167, 0, 4, 3, 172]
abbrev dktX19_is_1 : List UInt8 := dkwX19_is_1 ++ []
def dkwX19_is_0 : List UInt8 := [42, 180, 0, 7, 43, 28, 185, 0, 16, 3, 0, 154, 0, 17, 42, 180, 0, 13, 43, 28]
abbrev dktX19_is_0 : List UInt8 := dkwX19_is_0 ++ dktX19_is_1
theorem dksX19_is_0 : cX19_is.data.toList.drop 0 = dktX19_is_0 := by decide +kernel
theorem dksX19_is_1 : cX19_is.data.toList.drop 20 = dktX19_is_1 := dk_seg dksX19_is_0 20 rfl rfl
theorem dX19_is_0 : decode cX19_is 0 = .ok (.aload_n 0, 1) := dk_42 (dk_at dksX19_is_0 0 rfl rfl)
theorem dX19_is_1 : decode cX19_is 1 = .ok (.getfield 7, 3) := dk_180 0 7 (dk_at dksX19_is_0 1 rfl rfl)
theorem dX19_is_4 : decode cX19_is 4 = .ok (.aload_n 1, 1) := dk_43 (dk_at dksX19_is_0 4 rfl rfl)
theorem dX19_is_5 : decode cX19_is 5 = .ok (.iload_n 2, 1) := dk_28 (dk_at dksX19_is_0 5 rfl rfl)
theorem dX19_is_6 : decode cX19_is 6 = .ok (.invokeinterface 16 3, 5) := by decide +kernel
theorem dX19_is_11 : decode cX19_is 11 = .ok (.ifCond .ne 17, 3) := dk_154 0 17 (dk_at dksX19_is_0 11 rfl rfl)
theorem dX19_is_14 : decode cX19_is 14 = .ok (.aload_n 0, 1) := dk_42 (dk_at dksX19_is_0 14 rfl rfl)
theorem dX19_is_15 : decode cX19_is 15 = .ok (.getfield 13, 3) := dk_180 0 13 (dk_at dksX19_is_0 15 rfl rfl)
theorem dX19_is_18 : decode cX19_is 18 = .ok (.aload_n 1, 1) := dk_43 (dk_at dksX19_is_0 18 rfl rfl)
theorem dX19_is_19 : decode cX19_is 19 = .ok (.iload_n 2, 1) := dk_28 (dk_at dksX19_is_0 19 rfl rfl)
theorem dX19_is_20 : decode cX19_is 20 = .ok (.invokeinterface 16 3, 5) := by decide +kernel
theorem dX19_is_25 : decode cX19_is 25 = .ok (.ifCond .eq 7, 3) := dk_153 0 7 (dk_at dksX19_is_1 5 rfl rfl)
theorem dX19_is_28 : decode cX19_is 28 = .ok (.iconst 1, 1) := dk_4 (dk_at dksX19_is_1 8 rfl rfl)
theorem dX19_is_29 : decode cX19_is 29 = .ok (.goto 4, 3) := dk_167 0 4 (dk_at dksX19_is_1 9 rfl rfl)
theorem dX19_is_32 : decode cX19_is 32 = .ok (.iconst 0, 1) := dk_3 (dk_at dksX19_is_1 12 rfl rfl)
theorem dX19_is_33 : decode cX19_is 33 = .ok (.ireturn, 1) := dk_172 (dk_at dksX19_is_1 13 rfl rfl)
theorem q140 : (Jvm.Cond.initialized "ParlourLeaves$Any") ∈ lw_all := lw_g (lw_at lw_m1 32 rfl) rfl
theorem q1404 : (Jvm.Cond.instantiable "ParlourLeaves$Any" (2 : Nat)) ∈ lw_all := lw_g (lw_at lw_m6 96 rfl) rfl
theorem q1406 : (Jvm.Cond.instanceMethod ({ cls := "ParlourLeaves$Any", name := "<init>", desc := "(LParlourLeaves$Cond;LParlourLeaves$Cond;)V" } : Jvm.MethodName)) ∈ lw_all := lw_g (lw_at lw_m6 98 rfl) rfl
theorem q1407 : (Jvm.Cond.code ({ cls := "ParlourLeaves$Any", name := "<init>", desc := "(LParlourLeaves$Cond;LParlourLeaves$Cond;)V" } : Jvm.MethodName) prog_2_method_1_code (3 : Nat) (Option.none : Option Jvm.ClassFile.FieldType)) ∈ lw_all := lw_g (lw_at lw_m6 99 rfl) rfl
theorem q1408 : (Jvm.Cond.methodLink "ParlourLeaves$Any" (1 : Nat) ({ cls := "java/lang/Object", name := "<init>", desc := "()V" } : Jvm.MethodName)) ∈ lw_all := lw_g (lw_at lw_m6 100 rfl) rfl
theorem q1409 : (Jvm.Cond.fieldLink "ParlourLeaves$Any" (7 : Nat) "ParlourLeaves$Any" "a" "LParlourLeaves$Cond;") ∈ lw_all := lw_g (lw_at lw_m6 101 rfl) rfl
theorem q1410 : (Jvm.Cond.fieldLink "ParlourLeaves$Any" (13 : Nat) "ParlourLeaves$Any" "b" "LParlourLeaves$Cond;") ∈ lw_all := lw_g (lw_at lw_m6 102 rfl) rfl
theorem q1411 : (Jvm.Cond.laysFinal "ParlourLeaves$Any" "ParlourLeaves$Any" "a" "LParlourLeaves$Cond;") ∈ lw_all := lw_g (lw_at lw_m6 103 rfl) rfl
theorem q1412 : (Jvm.Cond.soleField "ParlourLeaves$Any" "a") ∈ lw_all := lw_g (lw_at lw_m6 104 rfl) rfl
theorem q1413 : (Jvm.Cond.laysFinal "ParlourLeaves$Any" "ParlourLeaves$Any" "b" "LParlourLeaves$Cond;") ∈ lw_all := lw_g (lw_at lw_m6 105 rfl) rfl
theorem q1414 : (Jvm.Cond.soleField "ParlourLeaves$Any" "b") ∈ lw_all := lw_g (lw_at lw_m6 106 rfl) rfl
theorem q1415 : (Jvm.Cond.superclass "ParlourLeaves$Any" "java/lang/Object") ∈ lw_all := lw_g (lw_at lw_m6 107 rfl) rfl
theorem q1424 : (Jvm.Cond.castable "ParlourLeaves$Any" "ParlourLeaves$Cond") ∈ lw_tbl := lw_at lw_m6 116 rfl
theorem q1425 : (Jvm.Cond.selects "ParlourLeaves$Any" ({ cls := "ParlourLeaves$Cond", name := "is", desc := "(LParlourLeaves;I)Z" } : Jvm.MethodName) ({ cls := "ParlourLeaves$Any", name := "is", desc := "(LParlourLeaves;I)Z" } : Jvm.MethodName)) ∈ lw_all := lw_g (lw_at lw_m6 117 rfl) rfl
theorem q1426 : (Jvm.Cond.unhidden "ParlourLeaves$Any" "is" "(LParlourLeaves;I)Z") ∈ lw_tbl := lw_at lw_m6 118 rfl
theorem q1427 : (Jvm.Cond.instanceMethod ({ cls := "ParlourLeaves$Any", name := "is", desc := "(LParlourLeaves;I)Z" } : Jvm.MethodName)) ∈ lw_all := lw_g (lw_at lw_m6 119 rfl) rfl
theorem q1428 : (Jvm.Cond.publicMethod ({ cls := "ParlourLeaves$Any", name := "is", desc := "(LParlourLeaves;I)Z" } : Jvm.MethodName)) ∈ lw_tbl := lw_at lw_m6 120 rfl
theorem q1429 : (Jvm.Cond.code ({ cls := "ParlourLeaves$Any", name := "is", desc := "(LParlourLeaves;I)Z" } : Jvm.MethodName) prog_2_method_2_code (3 : Nat) (Option.some Jvm.ClassFile.FieldType.boolean)) ∈ lw_all := lw_g (lw_at lw_m6 121 rfl) rfl
theorem q1430 : (Jvm.Cond.interfaceEntry "ParlourLeaves$Any" (16 : Nat)) ∈ lw_tbl := lw_at lw_m6 122 rfl
theorem q1431 : (Jvm.Cond.methodLink "ParlourLeaves$Any" (16 : Nat) ({ cls := "ParlourLeaves$Cond", name := "is", desc := "(LParlourLeaves;I)Z" } : Jvm.MethodName)) ∈ lw_all := lw_g (lw_at lw_m6 123 rfl) rfl
theorem q2235 : (Jvm.Cond.castable "ParlourLeaves$Any" "java/lang/Object") ∈ lw_tbl := lw_at lw_m9 207 rfl
theorem in_X19 : ∀ w ∈ wsX190, w ∈ lw_all := lw_in wsX190 [1411, 1413] (by decide +kernel) (by decide +kernel)
/-! ParlourLeaves$Kept -/
set_option maxRecDepth 100000
def RX20 : String := "ParlourLeaves$Kept"
def TX20 : u_T := fun k => match k with
  | 0 => ("ParlourLeaves$Kept", "house", "LParlourLeaves$House;", false)
  | 1 => ("ParlourLeaves$Kept", "state", "LParlourLeaves$State;", true)
  | _ => ("ParlourLeaves$Kept", "sentence", "LParlourLeaves$Cond;", false)
def tyX20 : Nat → FieldType := fun k => match k with
  | 0 => .object "ParlourLeaves$House"
  | 1 => .object "ParlourLeaves$State"
  | _ => .object "ParlourLeaves$Cond"
abbrev wsX200 : List Cond := u_ws RX20 TX20 3
theorem nmX20 : ∀ a, a < 3 → ∀ b, b < 3 → a ≠ b → (TX20 a).2.1 ≠ (TX20 b).2.1 := by decide +kernel
theorem tyX20_ok : ∀ k, k < 3 → parseFieldDescriptor (TX20 k).2.2.1 = some (tyX20 k) := by decide +kernel
abbrev cX20_init : ByteArray := prog_13_method_1_code
def yX20_init : MethodName := ⟨RX20, "<init>", "()V"⟩
def dkwX20_init_0 : List UInt8 := [42, 183, 0, 1, 42, 187, 0, 7, 89, 183, 0, 9, 181, 0, 10, 177]
abbrev dktX20_init_0 : List UInt8 := dkwX20_init_0 ++ []
theorem dksX20_init_0 : cX20_init.data.toList.drop 0 = dktX20_init_0 := by decide +kernel
theorem dX20_init_0 : decode cX20_init 0 = .ok (.aload_n 0, 1) := dk_42 (dk_at dksX20_init_0 0 rfl rfl)
theorem dX20_init_1 : decode cX20_init 1 = .ok (.invokespecial 1, 3) := dk_183 0 1 (dk_at dksX20_init_0 1 rfl rfl)
theorem dX20_init_4 : decode cX20_init 4 = .ok (.aload_n 0, 1) := dk_42 (dk_at dksX20_init_0 4 rfl rfl)
theorem dX20_init_5 : decode cX20_init 5 = .ok (.new 7, 3) := dk_187 0 7 (dk_at dksX20_init_0 5 rfl rfl)
theorem dX20_init_8 : decode cX20_init 8 = .ok (.dup, 1) := dk_89 (dk_at dksX20_init_0 8 rfl rfl)
theorem dX20_init_9 : decode cX20_init 9 = .ok (.invokespecial 9, 3) := dk_183 0 9 (dk_at dksX20_init_0 9 rfl rfl)
theorem dX20_init_12 : decode cX20_init 12 = .ok (.putfield 10, 3) := dk_181 0 10 (dk_at dksX20_init_0 12 rfl rfl)
theorem dX20_init_15 : decode cX20_init 15 = .ok (.return_, 1) := dk_177 (dk_at dksX20_init_0 15 rfl rfl)
theorem q141 : (Jvm.Cond.initialized "ParlourLeaves$Kept") ∈ lw_all := lw_g (lw_at lw_m1 33 rfl) rfl
theorem q1472 : (Jvm.Cond.instantiable "ParlourLeaves$Kept" (3 : Nat)) ∈ lw_all := lw_g (lw_at lw_m6 164 rfl) rfl
theorem q1474 : (Jvm.Cond.instanceMethod ({ cls := "ParlourLeaves$Kept", name := "<init>", desc := "()V" } : Jvm.MethodName)) ∈ lw_all := lw_g (lw_at lw_m6 166 rfl) rfl
theorem q1475 : (Jvm.Cond.code ({ cls := "ParlourLeaves$Kept", name := "<init>", desc := "()V" } : Jvm.MethodName) prog_13_method_1_code (1 : Nat) (Option.none : Option Jvm.ClassFile.FieldType)) ∈ lw_all := lw_g (lw_at lw_m6 167 rfl) rfl
theorem q1476 : (Jvm.Cond.methodLink "ParlourLeaves$Kept" (1 : Nat) ({ cls := "java/lang/Object", name := "<init>", desc := "()V" } : Jvm.MethodName)) ∈ lw_all := lw_g (lw_at lw_m6 168 rfl) rfl
theorem q1477 : (Jvm.Cond.classLink "ParlourLeaves$Kept" (7 : Nat) "ParlourLeaves$State") ∈ lw_all := lw_g (lw_at lw_m6 169 rfl) rfl
theorem q1478 : (Jvm.Cond.methodLinkNest "ParlourLeaves$Kept" (9 : Nat) ({ cls := "ParlourLeaves$State", name := "<init>", desc := "()V" } : Jvm.MethodName) "ParlourLeaves") ∈ lw_tbl := lw_at lw_m6 170 rfl
theorem q1480 : (Jvm.Cond.fieldLink "ParlourLeaves$Kept" (10 : Nat) "ParlourLeaves$Kept" "state" "LParlourLeaves$State;") ∈ lw_all := lw_g (lw_at lw_m6 172 rfl) rfl
theorem q1483 : (Jvm.Cond.lays "ParlourLeaves$Kept" "ParlourLeaves$Kept" "house" "LParlourLeaves$House;") ∈ lw_all := lw_g (lw_at lw_m6 175 rfl) rfl
theorem q1484 : (Jvm.Cond.soleField "ParlourLeaves$Kept" "house") ∈ lw_all := lw_g (lw_at lw_m6 176 rfl) rfl
theorem q1485 : (Jvm.Cond.laysFinal "ParlourLeaves$Kept" "ParlourLeaves$Kept" "state" "LParlourLeaves$State;") ∈ lw_all := lw_g (lw_at lw_m6 177 rfl) rfl
theorem q1486 : (Jvm.Cond.soleField "ParlourLeaves$Kept" "state") ∈ lw_all := lw_g (lw_at lw_m6 178 rfl) rfl
theorem q1487 : (Jvm.Cond.lays "ParlourLeaves$Kept" "ParlourLeaves$Kept" "sentence" "LParlourLeaves$Cond;") ∈ lw_all := lw_g (lw_at lw_m6 179 rfl) rfl
theorem q1488 : (Jvm.Cond.soleField "ParlourLeaves$Kept" "sentence") ∈ lw_all := lw_g (lw_at lw_m6 180 rfl) rfl
theorem q1489 : (Jvm.Cond.superclass "ParlourLeaves$Kept" "java/lang/Object") ∈ lw_all := lw_g (lw_at lw_m6 181 rfl) rfl
theorem q2236 : (Jvm.Cond.castable "ParlourLeaves$Kept" "java/lang/Object") ∈ lw_tbl := lw_at lw_m9 208 rfl
theorem in_X20 : ∀ w ∈ wsX200, w ∈ lw_all := lw_in wsX200 [1483, 1485, 1487] (by decide +kernel) (by decide +kernel)
/-! java/lang/Throwable -/
set_option maxRecDepth 100000
def RJ0 : String := "java/lang/Throwable"
def TJ0 : u_T := fun k => match k with
  | 0 => ("java/lang/Throwable", "cause", "Ljava/lang/Throwable;", false)
  | 1 => ("java/lang/Throwable", "stackTrace", "[Ljava/lang/StackTraceElement;", false)
  | 2 => ("java/lang/Throwable", "suppressedExceptions", "Ljava/util/List;", false)
  | 3 => ("java/lang/Throwable", "detailMessage", "Ljava/lang/String;", false)
  | _ => ("java/lang/Throwable", "backtrace", "Ljava/lang/Object;", false)
def tyJ0 : Nat → FieldType := fun k => match k with
  | 0 => .object "java/lang/Throwable"
  | 1 => .array (.object "java/lang/StackTraceElement")
  | 2 => .object "java/util/List"
  | 3 => .object "java/lang/String"
  | _ => .object "java/lang/Object"
abbrev wsJ00 : List Cond := u_ws RJ0 TJ0 5
theorem nmJ0 : ∀ a, a < 5 → ∀ b, b < 5 → a ≠ b → (TJ0 a).2.1 ≠ (TJ0 b).2.1 := by decide +kernel
theorem tyJ0_ok : ∀ k, k < 5 → parseFieldDescriptor (TJ0 k).2.2.1 = some (tyJ0 k) := by decide +kernel
abbrev cJ0_init : ByteArray := prog_35_method_1_code
def yJ0_init : MethodName := ⟨RJ0, "<init>", "()V"⟩
def dkwJ0_init_1 : List UInt8 := [182, 0, 27, 87, 177]
abbrev dktJ0_init_1 : List UInt8 := dkwJ0_init_1 ++ []
def dkwJ0_init_0 : List UInt8 := [42, 183, 0, 1, 42, 42, 181, 0, 7, 42, 178, 0, 13, 181, 0, 17, 42, 178, 0, 20, 181, 0, 24, 42]
abbrev dktJ0_init_0 : List UInt8 := dkwJ0_init_0 ++ dktJ0_init_1
theorem dksJ0_init_0 : cJ0_init.data.toList.drop 0 = dktJ0_init_0 := by decide +kernel
theorem dksJ0_init_1 : cJ0_init.data.toList.drop 24 = dktJ0_init_1 := dk_seg dksJ0_init_0 24 rfl rfl
theorem dJ0_init_0 : decode cJ0_init 0 = .ok (.aload_n 0, 1) := dk_42 (dk_at dksJ0_init_0 0 rfl rfl)
theorem dJ0_init_1 : decode cJ0_init 1 = .ok (.invokespecial 1, 3) := dk_183 0 1 (dk_at dksJ0_init_0 1 rfl rfl)
theorem dJ0_init_4 : decode cJ0_init 4 = .ok (.aload_n 0, 1) := dk_42 (dk_at dksJ0_init_0 4 rfl rfl)
theorem dJ0_init_5 : decode cJ0_init 5 = .ok (.aload_n 0, 1) := dk_42 (dk_at dksJ0_init_0 5 rfl rfl)
theorem dJ0_init_6 : decode cJ0_init 6 = .ok (.putfield 7, 3) := dk_181 0 7 (dk_at dksJ0_init_0 6 rfl rfl)
theorem dJ0_init_9 : decode cJ0_init 9 = .ok (.aload_n 0, 1) := dk_42 (dk_at dksJ0_init_0 9 rfl rfl)
theorem dJ0_init_10 : decode cJ0_init 10 = .ok (.getstatic 13, 3) := dk_178 0 13 (dk_at dksJ0_init_0 10 rfl rfl)
theorem dJ0_init_13 : decode cJ0_init 13 = .ok (.putfield 17, 3) := dk_181 0 17 (dk_at dksJ0_init_0 13 rfl rfl)
theorem dJ0_init_16 : decode cJ0_init 16 = .ok (.aload_n 0, 1) := dk_42 (dk_at dksJ0_init_0 16 rfl rfl)
theorem dJ0_init_17 : decode cJ0_init 17 = .ok (.getstatic 20, 3) := dk_178 0 20 (dk_at dksJ0_init_0 17 rfl rfl)
theorem dJ0_init_20 : decode cJ0_init 20 = .ok (.putfield 24, 3) := dk_181 0 24 (dk_at dksJ0_init_0 20 rfl rfl)
theorem dJ0_init_23 : decode cJ0_init 23 = .ok (.aload_n 0, 1) := dk_42 (dk_at dksJ0_init_0 23 rfl rfl)
theorem dJ0_init_24 : decode cJ0_init 24 = .ok (.invokevirtual 27, 3) := dk_182 0 27 (dk_at dksJ0_init_1 0 rfl rfl)
theorem dJ0_init_27 : decode cJ0_init 27 = .ok (.pop, 1) := dk_87 (dk_at dksJ0_init_1 3 rfl rfl)
theorem dJ0_init_28 : decode cJ0_init 28 = .ok (.return_, 1) := dk_177 (dk_at dksJ0_init_1 4 rfl rfl)
abbrev cJ0_init_2 : ByteArray := prog_35_method_5_code
def yJ0_init_2 : MethodName := ⟨RJ0, "<init>", "(Ljava/lang/String;Ljava/lang/Throwable;ZZ)V"⟩
def dkwJ0_init_2_2 : List UInt8 := [44, 181, 0, 7, 29, 154, 0, 8, 42, 1, 181, 0, 24, 177]
abbrev dktJ0_init_2_2 : List UInt8 := dkwJ0_init_2_2 ++ []
def dkwJ0_init_2_1 : List UInt8 := [21, 4, 153, 0, 11, 42, 182, 0, 27, 87, 167, 0, 8, 42, 1, 181, 0, 17, 42, 43, 181, 0, 31, 42]
abbrev dktJ0_init_2_1 : List UInt8 := dkwJ0_init_2_1 ++ dktJ0_init_2_2
def dkwJ0_init_2_0 : List UInt8 := [42, 183, 0, 1, 42, 42, 181, 0, 7, 42, 178, 0, 13, 181, 0, 17, 42, 178, 0, 20, 181, 0, 24]
abbrev dktJ0_init_2_0 : List UInt8 := dkwJ0_init_2_0 ++ dktJ0_init_2_1
theorem dksJ0_init_2_0 : cJ0_init_2.data.toList.drop 0 = dktJ0_init_2_0 := by decide +kernel
theorem dksJ0_init_2_1 : cJ0_init_2.data.toList.drop 23 = dktJ0_init_2_1 := dk_seg dksJ0_init_2_0 23 rfl rfl
theorem dksJ0_init_2_2 : cJ0_init_2.data.toList.drop 47 = dktJ0_init_2_2 := dk_seg dksJ0_init_2_1 24 rfl rfl
theorem dJ0_init_2_0 : decode cJ0_init_2 0 = .ok (.aload_n 0, 1) := dk_42 (dk_at dksJ0_init_2_0 0 rfl rfl)
theorem dJ0_init_2_1 : decode cJ0_init_2 1 = .ok (.invokespecial 1, 3) := dk_183 0 1 (dk_at dksJ0_init_2_0 1 rfl rfl)
theorem dJ0_init_2_4 : decode cJ0_init_2 4 = .ok (.aload_n 0, 1) := dk_42 (dk_at dksJ0_init_2_0 4 rfl rfl)
theorem dJ0_init_2_5 : decode cJ0_init_2 5 = .ok (.aload_n 0, 1) := dk_42 (dk_at dksJ0_init_2_0 5 rfl rfl)
theorem dJ0_init_2_6 : decode cJ0_init_2 6 = .ok (.putfield 7, 3) := dk_181 0 7 (dk_at dksJ0_init_2_0 6 rfl rfl)
theorem dJ0_init_2_9 : decode cJ0_init_2 9 = .ok (.aload_n 0, 1) := dk_42 (dk_at dksJ0_init_2_0 9 rfl rfl)
theorem dJ0_init_2_10 : decode cJ0_init_2 10 = .ok (.getstatic 13, 3) := dk_178 0 13 (dk_at dksJ0_init_2_0 10 rfl rfl)
theorem dJ0_init_2_13 : decode cJ0_init_2 13 = .ok (.putfield 17, 3) := dk_181 0 17 (dk_at dksJ0_init_2_0 13 rfl rfl)
theorem dJ0_init_2_16 : decode cJ0_init_2 16 = .ok (.aload_n 0, 1) := dk_42 (dk_at dksJ0_init_2_0 16 rfl rfl)
theorem dJ0_init_2_17 : decode cJ0_init_2 17 = .ok (.getstatic 20, 3) := dk_178 0 20 (dk_at dksJ0_init_2_0 17 rfl rfl)
theorem dJ0_init_2_20 : decode cJ0_init_2 20 = .ok (.putfield 24, 3) := dk_181 0 24 (dk_at dksJ0_init_2_0 20 rfl rfl)
theorem dJ0_init_2_23 : decode cJ0_init_2 23 = .ok (.iload 4, 2) := dk_21 4 (dk_at dksJ0_init_2_1 0 rfl rfl)
theorem dJ0_init_2_25 : decode cJ0_init_2 25 = .ok (.ifCond .eq 11, 3) := dk_153 0 11 (dk_at dksJ0_init_2_1 2 rfl rfl)
theorem dJ0_init_2_28 : decode cJ0_init_2 28 = .ok (.aload_n 0, 1) := dk_42 (dk_at dksJ0_init_2_1 5 rfl rfl)
theorem dJ0_init_2_29 : decode cJ0_init_2 29 = .ok (.invokevirtual 27, 3) := dk_182 0 27 (dk_at dksJ0_init_2_1 6 rfl rfl)
theorem dJ0_init_2_32 : decode cJ0_init_2 32 = .ok (.pop, 1) := dk_87 (dk_at dksJ0_init_2_1 9 rfl rfl)
theorem dJ0_init_2_33 : decode cJ0_init_2 33 = .ok (.goto 8, 3) := dk_167 0 8 (dk_at dksJ0_init_2_1 10 rfl rfl)
theorem dJ0_init_2_36 : decode cJ0_init_2 36 = .ok (.aload_n 0, 1) := dk_42 (dk_at dksJ0_init_2_1 13 rfl rfl)
theorem dJ0_init_2_37 : decode cJ0_init_2 37 = .ok (.aconst_null, 1) := dk_1 (dk_at dksJ0_init_2_1 14 rfl rfl)
theorem dJ0_init_2_38 : decode cJ0_init_2 38 = .ok (.putfield 17, 3) := dk_181 0 17 (dk_at dksJ0_init_2_1 15 rfl rfl)
theorem dJ0_init_2_41 : decode cJ0_init_2 41 = .ok (.aload_n 0, 1) := dk_42 (dk_at dksJ0_init_2_1 18 rfl rfl)
theorem dJ0_init_2_42 : decode cJ0_init_2 42 = .ok (.aload_n 1, 1) := dk_43 (dk_at dksJ0_init_2_1 19 rfl rfl)
theorem dJ0_init_2_43 : decode cJ0_init_2 43 = .ok (.putfield 31, 3) := dk_181 0 31 (dk_at dksJ0_init_2_1 20 rfl rfl)
theorem dJ0_init_2_46 : decode cJ0_init_2 46 = .ok (.aload_n 0, 1) := dk_42 (dk_at dksJ0_init_2_1 23 rfl rfl)
theorem dJ0_init_2_47 : decode cJ0_init_2 47 = .ok (.aload_n 2, 1) := dk_44 (dk_at dksJ0_init_2_2 0 rfl rfl)
theorem dJ0_init_2_48 : decode cJ0_init_2 48 = .ok (.putfield 7, 3) := dk_181 0 7 (dk_at dksJ0_init_2_2 1 rfl rfl)
theorem dJ0_init_2_51 : decode cJ0_init_2 51 = .ok (.iload_n 3, 1) := dk_29 (dk_at dksJ0_init_2_2 4 rfl rfl)
theorem dJ0_init_2_52 : decode cJ0_init_2 52 = .ok (.ifCond .ne 8, 3) := dk_154 0 8 (dk_at dksJ0_init_2_2 5 rfl rfl)
theorem dJ0_init_2_55 : decode cJ0_init_2 55 = .ok (.aload_n 0, 1) := dk_42 (dk_at dksJ0_init_2_2 8 rfl rfl)
theorem dJ0_init_2_56 : decode cJ0_init_2 56 = .ok (.aconst_null, 1) := dk_1 (dk_at dksJ0_init_2_2 9 rfl rfl)
theorem dJ0_init_2_57 : decode cJ0_init_2 57 = .ok (.putfield 24, 3) := dk_181 0 24 (dk_at dksJ0_init_2_2 10 rfl rfl)
theorem dJ0_init_2_60 : decode cJ0_init_2 60 = .ok (.return_, 1) := dk_177 (dk_at dksJ0_init_2_2 13 rfl rfl)
theorem q110 : (Jvm.Cond.initialized "java/lang/Throwable") ∈ lw_all := lw_g (lw_at lw_m1 2 rfl) rfl
theorem q155 : (Jvm.Cond.declares ({ cls := "java/lang/Throwable", name := "<init>", desc := "()V" } : Jvm.MethodName)) ∈ lw_tbl := lw_at lw_m1 47 rfl
theorem q156 : (Jvm.Cond.declares ({ cls := "java/lang/Throwable", name := "<init>", desc := "(Ljava/lang/String;)V" } : Jvm.MethodName)) ∈ lw_tbl := lw_at lw_m1 48 rfl
theorem q160 : (Jvm.Cond.lays "java/lang/Throwable" "java/lang/Throwable" "cause" "Ljava/lang/Throwable;") ∈ lw_all := lw_g (lw_at lw_m1 52 rfl) rfl
theorem q162 : (Jvm.Cond.lays "java/lang/Throwable" "java/lang/Throwable" "stackTrace" "[Ljava/lang/StackTraceElement;") ∈ lw_all := lw_g (lw_at lw_m1 54 rfl) rfl
theorem q164 : (Jvm.Cond.lays "java/lang/Throwable" "java/lang/Throwable" "suppressedExceptions" "Ljava/util/List;") ∈ lw_all := lw_g (lw_at lw_m1 56 rfl) rfl
theorem q166 : (Jvm.Cond.lays "java/lang/Throwable" "java/lang/Throwable" "detailMessage" "Ljava/lang/String;") ∈ lw_all := lw_g (lw_at lw_m1 58 rfl) rfl
theorem q168 : (Jvm.Cond.lays "java/lang/Throwable" "java/lang/Throwable" "backtrace" "Ljava/lang/Object;") ∈ lw_all := lw_g (lw_at lw_m1 60 rfl) rfl
theorem q169 : (Jvm.Cond.fieldLink "java/lang/Throwable" (198 : Nat) "java/lang/Throwable" "backtrace" "Ljava/lang/Object;") ∈ lw_all := lw_g (lw_at lw_m1 61 rfl) rfl
theorem q170 : (Jvm.Cond.superclass "java/lang/Throwable" "java/lang/Object") ∈ lw_all := lw_g (lw_at lw_m1 62 rfl) rfl
theorem q171 : (Jvm.Cond.instanceMethod ({ cls := "java/lang/Throwable", name := "<init>", desc := "()V" } : Jvm.MethodName)) ∈ lw_all := lw_g (lw_at lw_m1 63 rfl) rfl
theorem q172 : (Jvm.Cond.code ({ cls := "java/lang/Throwable", name := "<init>", desc := "()V" } : Jvm.MethodName) prog_35_method_1_code (1 : Nat) (Option.none : Option Jvm.ClassFile.FieldType)) ∈ lw_all := lw_g (lw_at lw_m1 64 rfl) rfl
theorem q173 : (Jvm.Cond.methodLink "java/lang/Throwable" (1 : Nat) ({ cls := "java/lang/Object", name := "<init>", desc := "()V" } : Jvm.MethodName)) ∈ lw_all := lw_g (lw_at lw_m1 65 rfl) rfl
theorem q174 : (Jvm.Cond.fieldLink "java/lang/Throwable" (13 : Nat) "java/lang/Throwable" "UNASSIGNED_STACK" "[Ljava/lang/StackTraceElement;") ∈ lw_all := lw_g (lw_at lw_m1 66 rfl) rfl
theorem q175 : (Jvm.Cond.laysStatic "java/lang/Throwable" "UNASSIGNED_STACK" "[Ljava/lang/StackTraceElement;") ∈ lw_tbl := lw_at lw_m1 67 rfl
theorem q176 : (Jvm.Cond.fieldLink "java/lang/Throwable" (20 : Nat) "java/lang/Throwable" "SUPPRESSED_SENTINEL" "Ljava/util/List;") ∈ lw_all := lw_g (lw_at lw_m1 68 rfl) rfl
theorem q177 : (Jvm.Cond.laysStatic "java/lang/Throwable" "SUPPRESSED_SENTINEL" "Ljava/util/List;") ∈ lw_tbl := lw_at lw_m1 69 rfl
theorem q178 : (Jvm.Cond.methodLink "java/lang/Throwable" (27 : Nat) ({ cls := "java/lang/Throwable", name := "fillInStackTrace", desc := "()Ljava/lang/Throwable;" } : Jvm.MethodName)) ∈ lw_all := lw_g (lw_at lw_m1 70 rfl) rfl
theorem q179 : (Jvm.Cond.instanceMethod ({ cls := "java/lang/Throwable", name := "fillInStackTrace", desc := "()Ljava/lang/Throwable;" } : Jvm.MethodName)) ∈ lw_all := lw_g (lw_at lw_m1 71 rfl) rfl
theorem q180 : (Jvm.Cond.sameMethod "java/lang/Throwable" "java/lang/Throwable" "fillInStackTrace" "()Ljava/lang/Throwable;") ∈ lw_all := lw_g (lw_at lw_m1 72 rfl) rfl
theorem q182 : (Jvm.Cond.codeSync ({ cls := "java/lang/Throwable", name := "fillInStackTrace", desc := "()Ljava/lang/Throwable;" } : Jvm.MethodName) prog_35_method_18_code (1 : Nat) (Option.some (Jvm.ClassFile.FieldType.object "java/lang/Throwable"))) ∈ lw_all := lw_g (lw_at lw_m1 74 rfl) rfl
theorem q183 : (Jvm.Cond.methodLink "java/lang/Throwable" (202 : Nat) ({ cls := "java/lang/Throwable", name := "fillInStackTrace", desc := "(I)Ljava/lang/Throwable;" } : Jvm.MethodName)) ∈ lw_all := lw_g (lw_at lw_m1 75 rfl) rfl
theorem q184 : (Jvm.Cond.privateMethod ({ cls := "java/lang/Throwable", name := "fillInStackTrace", desc := "(I)Ljava/lang/Throwable;" } : Jvm.MethodName)) ∈ lw_tbl := lw_at lw_m1 76 rfl
theorem q185 : (Jvm.Cond.instanceMethod ({ cls := "java/lang/Throwable", name := "fillInStackTrace", desc := "(I)Ljava/lang/Throwable;" } : Jvm.MethodName)) ∈ lw_all := lw_g (lw_at lw_m1 77 rfl) rfl
theorem q186 : (Jvm.Cond.instantiable "java/lang/Throwable" (6 : Nat)) ∈ lw_all := lw_g (lw_at lw_m1 78 rfl) rfl
theorem q187 : (Jvm.Cond.native ({ cls := "java/lang/Throwable", name := "fillInStackTrace", desc := "(I)Ljava/lang/Throwable;" } : Jvm.MethodName)) ∈ lw_all := lw_g (lw_at lw_m1 79 rfl) rfl
theorem q195 : (Jvm.Cond.instanceMethod ({ cls := "java/lang/Throwable", name := "<init>", desc := "(Ljava/lang/String;Ljava/lang/Throwable;ZZ)V" } : Jvm.MethodName)) ∈ lw_all := lw_g (lw_at lw_m1 87 rfl) rfl
theorem q196 : (Jvm.Cond.code ({ cls := "java/lang/Throwable", name := "<init>", desc := "(Ljava/lang/String;Ljava/lang/Throwable;ZZ)V" } : Jvm.MethodName) prog_35_method_5_code (5 : Nat) (Option.none : Option Jvm.ClassFile.FieldType)) ∈ lw_all := lw_g (lw_at lw_m1 88 rfl) rfl
theorem q201 : (Jvm.Cond.fieldLink "java/lang/Throwable" (198 : Nat) "java/lang/Throwable" "backtrace" "Ljava/lang/Object;") ∈ lw_all := lw_g (lw_at lw_m1 93 rfl) rfl
theorem q202 : (Jvm.Cond.fieldLink "java/lang/Throwable" (31 : Nat) "java/lang/Throwable" "detailMessage" "Ljava/lang/String;") ∈ lw_all := lw_g (lw_at lw_m1 94 rfl) rfl
theorem q203 : (Jvm.Cond.fieldLink "java/lang/Throwable" (7 : Nat) "java/lang/Throwable" "cause" "Ljava/lang/Throwable;") ∈ lw_all := lw_g (lw_at lw_m1 95 rfl) rfl
theorem q204 : (Jvm.Cond.fieldLink "java/lang/Throwable" (17 : Nat) "java/lang/Throwable" "stackTrace" "[Ljava/lang/StackTraceElement;") ∈ lw_all := lw_g (lw_at lw_m1 96 rfl) rfl
theorem q205 : (Jvm.Cond.fieldLink "java/lang/Throwable" (24 : Nat) "java/lang/Throwable" "suppressedExceptions" "Ljava/util/List;") ∈ lw_all := lw_g (lw_at lw_m1 97 rfl) rfl
theorem q210 : (Jvm.Cond.soleField "java/lang/Throwable" "backtrace") ∈ lw_all := lw_g (lw_at lw_m1 102 rfl) rfl
theorem q211 : (Jvm.Cond.soleField "java/lang/Throwable" "detailMessage") ∈ lw_all := lw_g (lw_at lw_m1 103 rfl) rfl
theorem q212 : (Jvm.Cond.soleField "java/lang/Throwable" "cause") ∈ lw_all := lw_g (lw_at lw_m1 104 rfl) rfl
theorem q213 : (Jvm.Cond.soleField "java/lang/Throwable" "stackTrace") ∈ lw_all := lw_g (lw_at lw_m1 105 rfl) rfl
theorem q215 : (Jvm.Cond.soleField "java/lang/Throwable" "depth") ∈ lw_all := lw_g (lw_at lw_m1 107 rfl) rfl
theorem q216 : (Jvm.Cond.soleField "java/lang/Throwable" "suppressedExceptions") ∈ lw_all := lw_g (lw_at lw_m1 108 rfl) rfl
theorem q2196 : (Jvm.Cond.sameMethod "java/lang/Throwable" "java/lang/Throwable" "fillInStackTrace" "(I)Ljava/lang/Throwable;") ∈ lw_all := lw_g (lw_at lw_m9 168 rfl) rfl
theorem q2237 : (Jvm.Cond.castable "java/lang/Throwable" "java/lang/Object") ∈ lw_tbl := lw_at lw_m9 209 rfl
theorem in_J0 : ∀ w ∈ wsJ00, w ∈ lw_all := lw_in wsJ00 [160, 162, 164, 166, 168] (by decide +kernel) (by decide +kernel)
/-! java/lang/Exception -/
set_option maxRecDepth 100000
def RJ1 : String := "java/lang/Exception"
abbrev cJ1_init : ByteArray := prog_26_method_5_code
def yJ1_init : MethodName := ⟨RJ1, "<init>", "(Ljava/lang/String;Ljava/lang/Throwable;ZZ)V"⟩
def dkwJ1_init_0 : List UInt8 := [42, 43, 44, 29, 21, 4, 183, 0, 16, 177]
abbrev dktJ1_init_0 : List UInt8 := dkwJ1_init_0 ++ []
theorem dksJ1_init_0 : cJ1_init.data.toList.drop 0 = dktJ1_init_0 := by decide +kernel
theorem dJ1_init_0 : decode cJ1_init 0 = .ok (.aload_n 0, 1) := dk_42 (dk_at dksJ1_init_0 0 rfl rfl)
theorem dJ1_init_1 : decode cJ1_init 1 = .ok (.aload_n 1, 1) := dk_43 (dk_at dksJ1_init_0 1 rfl rfl)
theorem dJ1_init_2 : decode cJ1_init 2 = .ok (.aload_n 2, 1) := dk_44 (dk_at dksJ1_init_0 2 rfl rfl)
theorem dJ1_init_3 : decode cJ1_init 3 = .ok (.iload_n 3, 1) := dk_29 (dk_at dksJ1_init_0 3 rfl rfl)
theorem dJ1_init_4 : decode cJ1_init 4 = .ok (.iload 4, 2) := dk_21 4 (dk_at dksJ1_init_0 4 rfl rfl)
theorem dJ1_init_6 : decode cJ1_init 6 = .ok (.invokespecial 16, 3) := dk_183 0 16 (dk_at dksJ1_init_0 6 rfl rfl)
theorem dJ1_init_9 : decode cJ1_init 9 = .ok (.return_, 1) := dk_177 (dk_at dksJ1_init_0 9 rfl rfl)
abbrev cJ1_init_2 : ByteArray := prog_26_method_1_code
def yJ1_init_2 : MethodName := ⟨RJ1, "<init>", "()V"⟩
theorem dJ1_init_2_0 : decode cJ1_init_2 0 = .ok (.aload_n 0, 1) := by decide +kernel
theorem dJ1_init_2_1 : decode cJ1_init_2 1 = .ok (.invokespecial 1, 3) := by decide +kernel
theorem dJ1_init_2_4 : decode cJ1_init_2 4 = .ok (.return_, 1) := by decide +kernel
theorem q111 : (Jvm.Cond.initialized "java/lang/Exception") ∈ lw_all := lw_g (lw_at lw_m1 3 rfl) rfl
theorem q153 : (Jvm.Cond.declares ({ cls := "java/lang/Exception", name := "<init>", desc := "()V" } : Jvm.MethodName)) ∈ lw_tbl := lw_at lw_m1 45 rfl
theorem q154 : (Jvm.Cond.declares ({ cls := "java/lang/Exception", name := "<init>", desc := "(Ljava/lang/String;)V" } : Jvm.MethodName)) ∈ lw_tbl := lw_at lw_m1 46 rfl
theorem q192 : (Jvm.Cond.instanceMethod ({ cls := "java/lang/Exception", name := "<init>", desc := "(Ljava/lang/String;Ljava/lang/Throwable;ZZ)V" } : Jvm.MethodName)) ∈ lw_all := lw_g (lw_at lw_m1 84 rfl) rfl
theorem q193 : (Jvm.Cond.code ({ cls := "java/lang/Exception", name := "<init>", desc := "(Ljava/lang/String;Ljava/lang/Throwable;ZZ)V" } : Jvm.MethodName) prog_26_method_5_code (5 : Nat) (Option.none : Option Jvm.ClassFile.FieldType)) ∈ lw_all := lw_g (lw_at lw_m1 85 rfl) rfl
theorem q194 : (Jvm.Cond.methodLink "java/lang/Exception" (16 : Nat) ({ cls := "java/lang/Throwable", name := "<init>", desc := "(Ljava/lang/String;Ljava/lang/Throwable;ZZ)V" } : Jvm.MethodName)) ∈ lw_all := lw_g (lw_at lw_m1 86 rfl) rfl
theorem q1527 : (Jvm.Cond.instanceMethod ({ cls := "java/lang/Exception", name := "<init>", desc := "()V" } : Jvm.MethodName)) ∈ lw_all := lw_g (lw_at lw_m6 219 rfl) rfl
theorem q1528 : (Jvm.Cond.code ({ cls := "java/lang/Exception", name := "<init>", desc := "()V" } : Jvm.MethodName) prog_26_method_1_code (1 : Nat) (Option.none : Option Jvm.ClassFile.FieldType)) ∈ lw_all := lw_g (lw_at lw_m6 220 rfl) rfl
theorem q1529 : (Jvm.Cond.methodLink "java/lang/Exception" (1 : Nat) ({ cls := "java/lang/Throwable", name := "<init>", desc := "()V" } : Jvm.MethodName)) ∈ lw_all := lw_g (lw_at lw_m6 221 rfl) rfl
/-! java/lang/Math -/
set_option maxRecDepth 100000
def RJ10 : String := "java/lang/Math"
abbrev cJ10_max : ByteArray := prog_28_method_65_code
def yJ10_max : MethodName := ⟨RJ10, "max", "(II)I"⟩
def dkwJ10_max_0 : List UInt8 := [26, 27, 161, 0, 7, 26, 167, 0, 4, 27, 172]
abbrev dktJ10_max_0 : List UInt8 := dkwJ10_max_0 ++ []
theorem dksJ10_max_0 : cJ10_max.data.toList.drop 0 = dktJ10_max_0 := by decide +kernel
theorem dJ10_max_0 : decode cJ10_max 0 = .ok (.iload_n 0, 1) := dk_26 (dk_at dksJ10_max_0 0 rfl rfl)
theorem dJ10_max_1 : decode cJ10_max 1 = .ok (.iload_n 1, 1) := dk_27 (dk_at dksJ10_max_0 1 rfl rfl)
theorem dJ10_max_2 : decode cJ10_max 2 = .ok (.if_icmp .lt 7, 3) := dk_161 0 7 (dk_at dksJ10_max_0 2 rfl rfl)
theorem dJ10_max_5 : decode cJ10_max 5 = .ok (.iload_n 0, 1) := dk_26 (dk_at dksJ10_max_0 5 rfl rfl)
theorem dJ10_max_6 : decode cJ10_max 6 = .ok (.goto 4, 3) := dk_167 0 4 (dk_at dksJ10_max_0 6 rfl rfl)
theorem dJ10_max_9 : decode cJ10_max 9 = .ok (.iload_n 1, 1) := dk_27 (dk_at dksJ10_max_0 9 rfl rfl)
theorem dJ10_max_10 : decode cJ10_max 10 = .ok (.ireturn, 1) := dk_172 (dk_at dksJ10_max_0 10 rfl rfl)
abbrev cJ10_min : ByteArray := prog_28_method_69_code
def yJ10_min : MethodName := ⟨RJ10, "min", "(II)I"⟩
def dkwJ10_min_0 : List UInt8 := [26, 27, 163, 0, 7, 26, 167, 0, 4, 27, 172]
abbrev dktJ10_min_0 : List UInt8 := dkwJ10_min_0 ++ []
theorem dksJ10_min_0 : cJ10_min.data.toList.drop 0 = dktJ10_min_0 := by decide +kernel
theorem dJ10_min_0 : decode cJ10_min 0 = .ok (.iload_n 0, 1) := dk_26 (dk_at dksJ10_min_0 0 rfl rfl)
theorem dJ10_min_1 : decode cJ10_min 1 = .ok (.iload_n 1, 1) := dk_27 (dk_at dksJ10_min_0 1 rfl rfl)
theorem dJ10_min_2 : decode cJ10_min 2 = .ok (.if_icmp .gt 7, 3) := dk_163 0 7 (dk_at dksJ10_min_0 2 rfl rfl)
theorem dJ10_min_5 : decode cJ10_min 5 = .ok (.iload_n 0, 1) := dk_26 (dk_at dksJ10_min_0 5 rfl rfl)
theorem dJ10_min_6 : decode cJ10_min 6 = .ok (.goto 4, 3) := dk_167 0 4 (dk_at dksJ10_min_0 6 rfl rfl)
theorem dJ10_min_9 : decode cJ10_min 9 = .ok (.iload_n 1, 1) := dk_27 (dk_at dksJ10_min_0 9 rfl rfl)
theorem dJ10_min_10 : decode cJ10_min 10 = .ok (.ireturn, 1) := dk_172 (dk_at dksJ10_min_0 10 rfl rfl)
abbrev cJ10_abs : ByteArray := prog_28_method_59_code
def yJ10_abs : MethodName := ⟨RJ10, "abs", "(I)I"⟩
def dkwJ10_abs_0 : List UInt8 := [26, 156, 0, 8, 26, 116, 167, 0, 4, 26, 172]
abbrev dktJ10_abs_0 : List UInt8 := dkwJ10_abs_0 ++ []
theorem dksJ10_abs_0 : cJ10_abs.data.toList.drop 0 = dktJ10_abs_0 := by decide +kernel
theorem dJ10_abs_0 : decode cJ10_abs 0 = .ok (.iload_n 0, 1) := dk_26 (dk_at dksJ10_abs_0 0 rfl rfl)
theorem dJ10_abs_1 : decode cJ10_abs 1 = .ok (.ifCond .ge 8, 3) := dk_156 0 8 (dk_at dksJ10_abs_0 1 rfl rfl)
theorem dJ10_abs_4 : decode cJ10_abs 4 = .ok (.iload_n 0, 1) := dk_26 (dk_at dksJ10_abs_0 4 rfl rfl)
theorem dJ10_abs_5 : decode cJ10_abs 5 = .ok (.ineg, 1) := dk_116 (dk_at dksJ10_abs_0 5 rfl rfl)
theorem dJ10_abs_6 : decode cJ10_abs 6 = .ok (.goto 4, 3) := dk_167 0 4 (dk_at dksJ10_abs_0 6 rfl rfl)
theorem dJ10_abs_9 : decode cJ10_abs 9 = .ok (.iload_n 0, 1) := dk_26 (dk_at dksJ10_abs_0 9 rfl rfl)
theorem dJ10_abs_10 : decode cJ10_abs 10 = .ok (.ireturn, 1) := dk_172 (dk_at dksJ10_abs_0 10 rfl rfl)
theorem q130 : (Jvm.Cond.initialized "java/lang/Math") ∈ lw_all := lw_g (lw_at lw_m1 22 rfl) rfl
theorem q951 : (Jvm.Cond.static ({ cls := "java/lang/Math", name := "max", desc := "(II)I" } : Jvm.MethodName)) ∈ lw_all := lw_g (lw_at lw_m4 123 rfl) rfl
theorem q952 : (Jvm.Cond.code ({ cls := "java/lang/Math", name := "max", desc := "(II)I" } : Jvm.MethodName) prog_28_method_65_code (2 : Nat) (Option.some Jvm.ClassFile.FieldType.int)) ∈ lw_all := lw_g (lw_at lw_m4 124 rfl) rfl
theorem q982 : (Jvm.Cond.static ({ cls := "java/lang/Math", name := "min", desc := "(II)I" } : Jvm.MethodName)) ∈ lw_all := lw_g (lw_at lw_m4 154 rfl) rfl
theorem q983 : (Jvm.Cond.code ({ cls := "java/lang/Math", name := "min", desc := "(II)I" } : Jvm.MethodName) prog_28_method_69_code (2 : Nat) (Option.some Jvm.ClassFile.FieldType.int)) ∈ lw_all := lw_g (lw_at lw_m4 155 rfl) rfl
theorem q1022 : (Jvm.Cond.static ({ cls := "java/lang/Math", name := "abs", desc := "(I)I" } : Jvm.MethodName)) ∈ lw_all := lw_g (lw_at lw_m4 194 rfl) rfl
theorem q1023 : (Jvm.Cond.code ({ cls := "java/lang/Math", name := "abs", desc := "(I)I" } : Jvm.MethodName) prog_28_method_59_code (1 : Nat) (Option.some Jvm.ClassFile.FieldType.int)) ∈ lw_all := lw_g (lw_at lw_m4 195 rfl) rfl
/-! java/lang/Object -/
set_option maxRecDepth 100000
def RJ11 : String := "java/lang/Object"
abbrev cJ11_init : ByteArray := object_method_1_code
def yJ11_init : MethodName := ⟨RJ11, "<init>", "()V"⟩
theorem dJ11_init_0 : decode cJ11_init 0 = .ok (.return_, 1) := by decide +kernel
theorem q148 : (Jvm.Cond.instanceMethod ({ cls := "java/lang/Object", name := "<init>", desc := "()V" } : Jvm.MethodName)) ∈ lw_all := lw_g (lw_at lw_m1 40 rfl) rfl
theorem q149 : (Jvm.Cond.code ({ cls := "java/lang/Object", name := "<init>", desc := "()V" } : Jvm.MethodName) object_method_1_code (1 : Nat) (Option.none : Option Jvm.ClassFile.FieldType)) ∈ lw_all := lw_g (lw_at lw_m1 41 rfl) rfl
/-! java/util/Arrays -/
set_option maxRecDepth 100000
def RJ2 : String := "java/util/Arrays"
abbrev cJ2_fill : ByteArray := prog_38_method_103_code
def yJ2_fill : MethodName := ⟨RJ2, "fill", "([II)V"⟩
def dkwJ2_fill_0 : List UInt8 := [3, 61, 42, 190, 62, 28, 29, 162, 0, 13, 42, 28, 27, 79, 132, 2, 1, 167, 255, 244, 177]
abbrev dktJ2_fill_0 : List UInt8 := dkwJ2_fill_0 ++ []
theorem dksJ2_fill_0 : cJ2_fill.data.toList.drop 0 = dktJ2_fill_0 := by decide +kernel
theorem dJ2_fill_0 : decode cJ2_fill 0 = .ok (.iconst 0, 1) := dk_3 (dk_at dksJ2_fill_0 0 rfl rfl)
theorem dJ2_fill_1 : decode cJ2_fill 1 = .ok (.istore_n 2, 1) := dk_61 (dk_at dksJ2_fill_0 1 rfl rfl)
theorem dJ2_fill_2 : decode cJ2_fill 2 = .ok (.aload_n 0, 1) := dk_42 (dk_at dksJ2_fill_0 2 rfl rfl)
theorem dJ2_fill_3 : decode cJ2_fill 3 = .ok (.arraylength, 1) := dk_190 (dk_at dksJ2_fill_0 3 rfl rfl)
theorem dJ2_fill_4 : decode cJ2_fill 4 = .ok (.istore_n 3, 1) := dk_62 (dk_at dksJ2_fill_0 4 rfl rfl)
theorem dJ2_fill_5 : decode cJ2_fill 5 = .ok (.iload_n 2, 1) := dk_28 (dk_at dksJ2_fill_0 5 rfl rfl)
theorem dJ2_fill_6 : decode cJ2_fill 6 = .ok (.iload_n 3, 1) := dk_29 (dk_at dksJ2_fill_0 6 rfl rfl)
theorem dJ2_fill_7 : decode cJ2_fill 7 = .ok (.if_icmp .ge 13, 3) := dk_162 0 13 (dk_at dksJ2_fill_0 7 rfl rfl)
theorem dJ2_fill_10 : decode cJ2_fill 10 = .ok (.aload_n 0, 1) := dk_42 (dk_at dksJ2_fill_0 10 rfl rfl)
theorem dJ2_fill_11 : decode cJ2_fill 11 = .ok (.iload_n 2, 1) := dk_28 (dk_at dksJ2_fill_0 11 rfl rfl)
theorem dJ2_fill_12 : decode cJ2_fill 12 = .ok (.iload_n 1, 1) := dk_27 (dk_at dksJ2_fill_0 12 rfl rfl)
theorem dJ2_fill_13 : decode cJ2_fill 13 = .ok (.iastore, 1) := dk_79 (dk_at dksJ2_fill_0 13 rfl rfl)
theorem dJ2_fill_14 : decode cJ2_fill 14 = .ok (.iinc 2 1, 3) := dk_132 2 1 (dk_at dksJ2_fill_0 14 rfl rfl)
theorem dJ2_fill_17 : decode cJ2_fill 17 = .ok (.goto (-12), 3) := dk_167 255 244 (dk_at dksJ2_fill_0 17 rfl rfl)
theorem dJ2_fill_20 : decode cJ2_fill 20 = .ok (.return_, 1) := dk_177 (dk_at dksJ2_fill_0 20 rfl rfl)
theorem q119 : (Jvm.Cond.initialized "java/util/Arrays") ∈ lw_all := lw_g (lw_at lw_m1 11 rfl) rfl
theorem q477 : (Jvm.Cond.static ({ cls := "java/util/Arrays", name := "fill", desc := "([II)V" } : Jvm.MethodName)) ∈ lw_all := lw_g (lw_at lw_m2 129 rfl) rfl
theorem q478 : (Jvm.Cond.code ({ cls := "java/util/Arrays", name := "fill", desc := "([II)V" } : Jvm.MethodName) prog_38_method_103_code (4 : Nat) (Option.none : Option Jvm.ClassFile.FieldType)) ∈ lw_all := lw_g (lw_at lw_m2 130 rfl) rfl
/-! java/lang/String -/
set_option maxRecDepth 100000
def RJ3 : String := "java/lang/String"
def TJ3 : u_T := fun k => match k with
  | 0 => ("java/lang/String", "value", "[B", true)
  | 1 => ("java/lang/String", "coder", "B", true)
  | 2 => ("java/lang/String", "hash", "I", false)
  | _ => ("java/lang/String", "hashIsZero", "Z", false)
def tyJ3 : Nat → FieldType := fun k => match k with
  | 0 => .array .byte
  | 1 => .byte
  | 2 => .int
  | _ => .boolean
abbrev wsJ30 : List Cond := u_ws RJ3 TJ3 4
theorem nmJ3 : ∀ a, a < 4 → ∀ b, b < 4 → a ≠ b → (TJ3 a).2.1 ≠ (TJ3 b).2.1 := by decide +kernel
theorem tyJ3_ok : ∀ k, k < 4 → parseFieldDescriptor (TJ3 k).2.2.1 = some (tyJ3 k) := by decide +kernel
abbrev cJ3_length : ByteArray := prog_31_method_54_code
def yJ3_length : MethodName := ⟨RJ3, "length", "()I"⟩
def dkwJ3_length_0 : List UInt8 := [42, 180, 0, 9, 190, 42, 182, 1, 79, 122, 172]
abbrev dktJ3_length_0 : List UInt8 := dkwJ3_length_0 ++ []
theorem dksJ3_length_0 : cJ3_length.data.toList.drop 0 = dktJ3_length_0 := by decide +kernel
theorem dJ3_length_0 : decode cJ3_length 0 = .ok (.aload_n 0, 1) := dk_42 (dk_at dksJ3_length_0 0 rfl rfl)
theorem dJ3_length_1 : decode cJ3_length 1 = .ok (.getfield 9, 3) := dk_180 0 9 (dk_at dksJ3_length_0 1 rfl rfl)
theorem dJ3_length_4 : decode cJ3_length 4 = .ok (.arraylength, 1) := dk_190 (dk_at dksJ3_length_0 4 rfl rfl)
theorem dJ3_length_5 : decode cJ3_length 5 = .ok (.aload_n 0, 1) := dk_42 (dk_at dksJ3_length_0 5 rfl rfl)
theorem dJ3_length_6 : decode cJ3_length 6 = .ok (.invokevirtual 335, 3) := dk_182 1 79 (dk_at dksJ3_length_0 6 rfl rfl)
theorem dJ3_length_9 : decode cJ3_length 9 = .ok (.ishr, 1) := dk_122 (dk_at dksJ3_length_0 9 rfl rfl)
theorem dJ3_length_10 : decode cJ3_length 10 = .ok (.ireturn, 1) := dk_172 (dk_at dksJ3_length_0 10 rfl rfl)
abbrev cJ3_coder : ByteArray := prog_31_method_152_code
def yJ3_coder : MethodName := ⟨RJ3, "coder", "()B"⟩
def dkwJ3_coder_0 : List UInt8 := [178, 0, 38, 153, 0, 10, 42, 180, 0, 15, 167, 0, 4, 4, 172]
abbrev dktJ3_coder_0 : List UInt8 := dkwJ3_coder_0 ++ []
theorem dksJ3_coder_0 : cJ3_coder.data.toList.drop 0 = dktJ3_coder_0 := by decide +kernel
theorem dJ3_coder_0 : decode cJ3_coder 0 = .ok (.getstatic 38, 3) := dk_178 0 38 (dk_at dksJ3_coder_0 0 rfl rfl)
theorem dJ3_coder_3 : decode cJ3_coder 3 = .ok (.ifCond .eq 10, 3) := dk_153 0 10 (dk_at dksJ3_coder_0 3 rfl rfl)
theorem dJ3_coder_6 : decode cJ3_coder 6 = .ok (.aload_n 0, 1) := dk_42 (dk_at dksJ3_coder_0 6 rfl rfl)
theorem dJ3_coder_7 : decode cJ3_coder 7 = .ok (.getfield 15, 3) := dk_180 0 15 (dk_at dksJ3_coder_0 7 rfl rfl)
theorem dJ3_coder_10 : decode cJ3_coder 10 = .ok (.goto 4, 3) := dk_167 0 4 (dk_at dksJ3_coder_0 10 rfl rfl)
theorem dJ3_coder_13 : decode cJ3_coder 13 = .ok (.iconst 1, 1) := dk_4 (dk_at dksJ3_coder_0 13 rfl rfl)
theorem dJ3_coder_14 : decode cJ3_coder 14 = .ok (.ireturn, 1) := dk_172 (dk_at dksJ3_coder_0 14 rfl rfl)
abbrev cJ3_charAt : ByteArray := prog_31_method_56_code
def yJ3_charAt : MethodName := ⟨RJ3, "charAt", "(I)C"⟩
def dkwJ3_charAt_1 : List UInt8 := [172]
abbrev dktJ3_charAt_1 : List UInt8 := dkwJ3_charAt_1 ++ []
def dkwJ3_charAt_0 : List UInt8 := [42, 182, 1, 236, 153, 0, 12, 42, 180, 0, 9, 27, 184, 1, 239, 172, 42, 180, 0, 9, 27, 184, 1, 242]
abbrev dktJ3_charAt_0 : List UInt8 := dkwJ3_charAt_0 ++ dktJ3_charAt_1
theorem dksJ3_charAt_0 : cJ3_charAt.data.toList.drop 0 = dktJ3_charAt_0 := by decide +kernel
theorem dksJ3_charAt_1 : cJ3_charAt.data.toList.drop 24 = dktJ3_charAt_1 := dk_seg dksJ3_charAt_0 24 rfl rfl
theorem dJ3_charAt_0 : decode cJ3_charAt 0 = .ok (.aload_n 0, 1) := dk_42 (dk_at dksJ3_charAt_0 0 rfl rfl)
theorem dJ3_charAt_1 : decode cJ3_charAt 1 = .ok (.invokevirtual 492, 3) := dk_182 1 236 (dk_at dksJ3_charAt_0 1 rfl rfl)
theorem dJ3_charAt_4 : decode cJ3_charAt 4 = .ok (.ifCond .eq 12, 3) := dk_153 0 12 (dk_at dksJ3_charAt_0 4 rfl rfl)
theorem dJ3_charAt_7 : decode cJ3_charAt 7 = .ok (.aload_n 0, 1) := dk_42 (dk_at dksJ3_charAt_0 7 rfl rfl)
theorem dJ3_charAt_8 : decode cJ3_charAt 8 = .ok (.getfield 9, 3) := dk_180 0 9 (dk_at dksJ3_charAt_0 8 rfl rfl)
theorem dJ3_charAt_11 : decode cJ3_charAt 11 = .ok (.iload_n 1, 1) := dk_27 (dk_at dksJ3_charAt_0 11 rfl rfl)
theorem dJ3_charAt_12 : decode cJ3_charAt 12 = .ok (.invokestatic 495, 3) := dk_184 1 239 (dk_at dksJ3_charAt_0 12 rfl rfl)
theorem dJ3_charAt_15 : decode cJ3_charAt 15 = .ok (.ireturn, 1) := dk_172 (dk_at dksJ3_charAt_0 15 rfl rfl)
theorem dJ3_charAt_16 : decode cJ3_charAt 16 = .ok (.aload_n 0, 1) := dk_42 (dk_at dksJ3_charAt_0 16 rfl rfl)
theorem dJ3_charAt_17 : decode cJ3_charAt 17 = .ok (.getfield 9, 3) := dk_180 0 9 (dk_at dksJ3_charAt_0 17 rfl rfl)
theorem dJ3_charAt_20 : decode cJ3_charAt 20 = .ok (.iload_n 1, 1) := dk_27 (dk_at dksJ3_charAt_0 20 rfl rfl)
theorem dJ3_charAt_21 : decode cJ3_charAt 21 = .ok (.invokestatic 498, 3) := dk_184 1 242 (dk_at dksJ3_charAt_0 21 rfl rfl)
theorem dJ3_charAt_24 : decode cJ3_charAt 24 = .ok (.ireturn, 1) := dk_172 (dk_at dksJ3_charAt_1 0 rfl rfl)
abbrev cJ3_isLatin1 : ByteArray := prog_31_method_154_code
def yJ3_isLatin1 : MethodName := ⟨RJ3, "isLatin1", "()Z"⟩
def dkwJ3_isLatin1_0 : List UInt8 := [178, 0, 38, 153, 0, 14, 42, 180, 0, 15, 154, 0, 7, 4, 167, 0, 4, 3, 172]
abbrev dktJ3_isLatin1_0 : List UInt8 := dkwJ3_isLatin1_0 ++ []
theorem dksJ3_isLatin1_0 : cJ3_isLatin1.data.toList.drop 0 = dktJ3_isLatin1_0 := by decide +kernel
theorem dJ3_isLatin1_0 : decode cJ3_isLatin1 0 = .ok (.getstatic 38, 3) := dk_178 0 38 (dk_at dksJ3_isLatin1_0 0 rfl rfl)
theorem dJ3_isLatin1_3 : decode cJ3_isLatin1 3 = .ok (.ifCond .eq 14, 3) := dk_153 0 14 (dk_at dksJ3_isLatin1_0 3 rfl rfl)
theorem dJ3_isLatin1_6 : decode cJ3_isLatin1 6 = .ok (.aload_n 0, 1) := dk_42 (dk_at dksJ3_isLatin1_0 6 rfl rfl)
theorem dJ3_isLatin1_7 : decode cJ3_isLatin1 7 = .ok (.getfield 15, 3) := dk_180 0 15 (dk_at dksJ3_isLatin1_0 7 rfl rfl)
theorem dJ3_isLatin1_10 : decode cJ3_isLatin1 10 = .ok (.ifCond .ne 7, 3) := dk_154 0 7 (dk_at dksJ3_isLatin1_0 10 rfl rfl)
theorem dJ3_isLatin1_13 : decode cJ3_isLatin1 13 = .ok (.iconst 1, 1) := dk_4 (dk_at dksJ3_isLatin1_0 13 rfl rfl)
theorem dJ3_isLatin1_14 : decode cJ3_isLatin1 14 = .ok (.goto 4, 3) := dk_167 0 4 (dk_at dksJ3_isLatin1_0 14 rfl rfl)
theorem dJ3_isLatin1_17 : decode cJ3_isLatin1 17 = .ok (.iconst 0, 1) := dk_3 (dk_at dksJ3_isLatin1_0 17 rfl rfl)
theorem dJ3_isLatin1_18 : decode cJ3_isLatin1 18 = .ok (.ireturn, 1) := dk_172 (dk_at dksJ3_isLatin1_0 18 rfl rfl)
abbrev cJ3_checkIndex : ByteArray := prog_31_method_155_code
def yJ3_checkIndex : MethodName := ⟨RJ3, "checkIndex", "(II)V"⟩
def dkwJ3_checkIndex_0 : List UInt8 := [26, 27, 178, 4, 29, 184, 4, 35, 87, 177]
abbrev dktJ3_checkIndex_0 : List UInt8 := dkwJ3_checkIndex_0 ++ []
theorem dksJ3_checkIndex_0 : cJ3_checkIndex.data.toList.drop 0 = dktJ3_checkIndex_0 := by decide +kernel
theorem dJ3_checkIndex_0 : decode cJ3_checkIndex 0 = .ok (.iload_n 0, 1) := dk_26 (dk_at dksJ3_checkIndex_0 0 rfl rfl)
theorem dJ3_checkIndex_1 : decode cJ3_checkIndex 1 = .ok (.iload_n 1, 1) := dk_27 (dk_at dksJ3_checkIndex_0 1 rfl rfl)
theorem dJ3_checkIndex_2 : decode cJ3_checkIndex 2 = .ok (.getstatic 1053, 3) := dk_178 4 29 (dk_at dksJ3_checkIndex_0 2 rfl rfl)
theorem dJ3_checkIndex_5 : decode cJ3_checkIndex 5 = .ok (.invokestatic 1059, 3) := dk_184 4 35 (dk_at dksJ3_checkIndex_0 5 rfl rfl)
theorem dJ3_checkIndex_8 : decode cJ3_checkIndex 8 = .ok (.pop, 1) := dk_87 (dk_at dksJ3_checkIndex_0 8 rfl rfl)
theorem dJ3_checkIndex_9 : decode cJ3_checkIndex 9 = .ok (.return_, 1) := dk_177 (dk_at dksJ3_checkIndex_0 9 rfl rfl)
abbrev cJ3_init : ByteArray := prog_31_method_151_code
def yJ3_init : MethodName := ⟨RJ3, "<init>", "([BB)V"⟩
def dkwJ3_init_0 : List UInt8 := [42, 183, 0, 1, 42, 43, 181, 0, 9, 42, 28, 181, 0, 15, 177]
abbrev dktJ3_init_0 : List UInt8 := dkwJ3_init_0 ++ []
theorem dksJ3_init_0 : cJ3_init.data.toList.drop 0 = dktJ3_init_0 := by decide +kernel
theorem dJ3_init_0 : decode cJ3_init 0 = .ok (.aload_n 0, 1) := dk_42 (dk_at dksJ3_init_0 0 rfl rfl)
theorem dJ3_init_1 : decode cJ3_init 1 = .ok (.invokespecial 1, 3) := dk_183 0 1 (dk_at dksJ3_init_0 1 rfl rfl)
theorem dJ3_init_4 : decode cJ3_init 4 = .ok (.aload_n 0, 1) := dk_42 (dk_at dksJ3_init_0 4 rfl rfl)
theorem dJ3_init_5 : decode cJ3_init 5 = .ok (.aload_n 1, 1) := dk_43 (dk_at dksJ3_init_0 5 rfl rfl)
theorem dJ3_init_6 : decode cJ3_init 6 = .ok (.putfield 9, 3) := dk_181 0 9 (dk_at dksJ3_init_0 6 rfl rfl)
theorem dJ3_init_9 : decode cJ3_init 9 = .ok (.aload_n 0, 1) := dk_42 (dk_at dksJ3_init_0 9 rfl rfl)
theorem dJ3_init_10 : decode cJ3_init 10 = .ok (.iload_n 2, 1) := dk_28 (dk_at dksJ3_init_0 10 rfl rfl)
theorem dJ3_init_11 : decode cJ3_init 11 = .ok (.putfield 15, 3) := dk_181 0 15 (dk_at dksJ3_init_0 11 rfl rfl)
theorem dJ3_init_14 : decode cJ3_init 14 = .ok (.return_, 1) := dk_177 (dk_at dksJ3_init_0 14 rfl rfl)
theorem q122 : (Jvm.Cond.initialized "java/lang/String") ∈ lw_all := lw_g (lw_at lw_m1 14 rfl) rfl
theorem q702 : (Jvm.Cond.instanceMethod ({ cls := "java/lang/String", name := "length", desc := "()I" } : Jvm.MethodName)) ∈ lw_all := lw_g (lw_at lw_m3 114 rfl) rfl
theorem q703 : (Jvm.Cond.selects "java/lang/String" ({ cls := "java/lang/String", name := "length", desc := "()I" } : Jvm.MethodName) ({ cls := "java/lang/String", name := "length", desc := "()I" } : Jvm.MethodName)) ∈ lw_all := lw_g (lw_at lw_m3 115 rfl) rfl
theorem q704 : (Jvm.Cond.code ({ cls := "java/lang/String", name := "length", desc := "()I" } : Jvm.MethodName) prog_31_method_54_code (1 : Nat) (Option.some Jvm.ClassFile.FieldType.int)) ∈ lw_all := lw_g (lw_at lw_m3 116 rfl) rfl
theorem q705 : (Jvm.Cond.methodLink "java/lang/String" (335 : Nat) ({ cls := "java/lang/String", name := "coder", desc := "()B" } : Jvm.MethodName)) ∈ lw_all := lw_g (lw_at lw_m3 117 rfl) rfl
theorem q706 : (Jvm.Cond.instanceMethod ({ cls := "java/lang/String", name := "coder", desc := "()B" } : Jvm.MethodName)) ∈ lw_all := lw_g (lw_at lw_m3 118 rfl) rfl
theorem q707 : (Jvm.Cond.selects "java/lang/String" ({ cls := "java/lang/String", name := "coder", desc := "()B" } : Jvm.MethodName) ({ cls := "java/lang/String", name := "coder", desc := "()B" } : Jvm.MethodName)) ∈ lw_all := lw_g (lw_at lw_m3 119 rfl) rfl
theorem q708 : (Jvm.Cond.code ({ cls := "java/lang/String", name := "coder", desc := "()B" } : Jvm.MethodName) prog_31_method_152_code (1 : Nat) (Option.some Jvm.ClassFile.FieldType.byte)) ∈ lw_all := lw_g (lw_at lw_m3 120 rfl) rfl
theorem q709 : (Jvm.Cond.fieldLink "java/lang/String" (38 : Nat) "java/lang/String" "COMPACT_STRINGS" "Z") ∈ lw_all := lw_g (lw_at lw_m3 121 rfl) rfl
theorem q710 : (Jvm.Cond.laysStatic "java/lang/String" "COMPACT_STRINGS" "Z") ∈ lw_tbl := lw_at lw_m3 122 rfl
theorem q712 : (Jvm.Cond.instanceMethod ({ cls := "java/lang/String", name := "charAt", desc := "(I)C" } : Jvm.MethodName)) ∈ lw_all := lw_g (lw_at lw_m3 124 rfl) rfl
theorem q713 : (Jvm.Cond.selects "java/lang/String" ({ cls := "java/lang/String", name := "charAt", desc := "(I)C" } : Jvm.MethodName) ({ cls := "java/lang/String", name := "charAt", desc := "(I)C" } : Jvm.MethodName)) ∈ lw_all := lw_g (lw_at lw_m3 125 rfl) rfl
theorem q714 : (Jvm.Cond.code ({ cls := "java/lang/String", name := "charAt", desc := "(I)C" } : Jvm.MethodName) prog_31_method_56_code (2 : Nat) (Option.some Jvm.ClassFile.FieldType.char)) ∈ lw_all := lw_g (lw_at lw_m3 126 rfl) rfl
theorem q715 : (Jvm.Cond.methodLink "java/lang/String" (492 : Nat) ({ cls := "java/lang/String", name := "isLatin1", desc := "()Z" } : Jvm.MethodName)) ∈ lw_all := lw_g (lw_at lw_m3 127 rfl) rfl
theorem q716 : (Jvm.Cond.instanceMethod ({ cls := "java/lang/String", name := "isLatin1", desc := "()Z" } : Jvm.MethodName)) ∈ lw_all := lw_g (lw_at lw_m3 128 rfl) rfl
theorem q717 : (Jvm.Cond.selects "java/lang/String" ({ cls := "java/lang/String", name := "isLatin1", desc := "()Z" } : Jvm.MethodName) ({ cls := "java/lang/String", name := "isLatin1", desc := "()Z" } : Jvm.MethodName)) ∈ lw_all := lw_g (lw_at lw_m3 129 rfl) rfl
theorem q718 : (Jvm.Cond.code ({ cls := "java/lang/String", name := "isLatin1", desc := "()Z" } : Jvm.MethodName) prog_31_method_154_code (1 : Nat) (Option.some Jvm.ClassFile.FieldType.boolean)) ∈ lw_all := lw_g (lw_at lw_m3 130 rfl) rfl
theorem q719 : (Jvm.Cond.methodLink "java/lang/String" (495 : Nat) ({ cls := "java/lang/StringLatin1", name := "charAt", desc := "([BI)C" } : Jvm.MethodName)) ∈ lw_all := lw_g (lw_at lw_m3 131 rfl) rfl
theorem q723 : (Jvm.Cond.static ({ cls := "java/lang/String", name := "checkIndex", desc := "(II)V" } : Jvm.MethodName)) ∈ lw_all := lw_g (lw_at lw_m3 135 rfl) rfl
theorem q724 : (Jvm.Cond.code ({ cls := "java/lang/String", name := "checkIndex", desc := "(II)V" } : Jvm.MethodName) prog_31_method_155_code (2 : Nat) (Option.none : Option Jvm.ClassFile.FieldType)) ∈ lw_all := lw_g (lw_at lw_m3 136 rfl) rfl
theorem q725 : (Jvm.Cond.fieldLink "java/lang/String" (1053 : Nat) "jdk/internal/util/Preconditions" "SIOOBE_FORMATTER" "Ljava/util/function/BiFunction;") ∈ lw_all := lw_g (lw_at lw_m3 137 rfl) rfl
theorem q727 : (Jvm.Cond.methodLink "java/lang/String" (1059 : Nat) ({ cls := "jdk/internal/util/Preconditions", name := "checkIndex", desc := "(IILjava/util/function/BiFunction;)I" } : Jvm.MethodName)) ∈ lw_all := lw_g (lw_at lw_m3 139 rfl) rfl
theorem q730 : (Jvm.Cond.methodLink "java/lang/String" (498 : Nat) ({ cls := "java/lang/StringUTF16", name := "charAt", desc := "([BI)C" } : Jvm.MethodName)) ∈ lw_all := lw_g (lw_at lw_m3 142 rfl) rfl
theorem q1110 : (Jvm.Cond.instantiable "java/lang/String" (4 : Nat)) ∈ lw_all := lw_g (lw_at lw_m5 42 rfl) rfl
theorem q1112 : (Jvm.Cond.instanceMethod ({ cls := "java/lang/String", name := "<init>", desc := "([BB)V" } : Jvm.MethodName)) ∈ lw_all := lw_g (lw_at lw_m5 44 rfl) rfl
theorem q1113 : (Jvm.Cond.code ({ cls := "java/lang/String", name := "<init>", desc := "([BB)V" } : Jvm.MethodName) prog_31_method_151_code (3 : Nat) (Option.none : Option Jvm.ClassFile.FieldType)) ∈ lw_all := lw_g (lw_at lw_m5 45 rfl) rfl
theorem q1114 : (Jvm.Cond.methodLink "java/lang/String" (1 : Nat) ({ cls := "java/lang/Object", name := "<init>", desc := "()V" } : Jvm.MethodName)) ∈ lw_all := lw_g (lw_at lw_m5 46 rfl) rfl
theorem q1115 : (Jvm.Cond.fieldLink "java/lang/String" (9 : Nat) "java/lang/String" "value" "[B") ∈ lw_all := lw_g (lw_at lw_m5 47 rfl) rfl
theorem q1116 : (Jvm.Cond.fieldLink "java/lang/String" (15 : Nat) "java/lang/String" "coder" "B") ∈ lw_all := lw_g (lw_at lw_m5 48 rfl) rfl
theorem q1117 : (Jvm.Cond.laysFinal "java/lang/String" "java/lang/String" "value" "[B") ∈ lw_all := lw_g (lw_at lw_m5 49 rfl) rfl
theorem q1118 : (Jvm.Cond.soleField "java/lang/String" "value") ∈ lw_all := lw_g (lw_at lw_m5 50 rfl) rfl
theorem q1119 : (Jvm.Cond.laysFinal "java/lang/String" "java/lang/String" "coder" "B") ∈ lw_all := lw_g (lw_at lw_m5 51 rfl) rfl
theorem q1120 : (Jvm.Cond.soleField "java/lang/String" "coder") ∈ lw_all := lw_g (lw_at lw_m5 52 rfl) rfl
theorem q1121 : (Jvm.Cond.lays "java/lang/String" "java/lang/String" "hash" "I") ∈ lw_all := lw_g (lw_at lw_m5 53 rfl) rfl
theorem q1122 : (Jvm.Cond.soleField "java/lang/String" "hash") ∈ lw_all := lw_g (lw_at lw_m5 54 rfl) rfl
theorem q1123 : (Jvm.Cond.lays "java/lang/String" "java/lang/String" "hashIsZero" "Z") ∈ lw_all := lw_g (lw_at lw_m5 55 rfl) rfl
theorem q1124 : (Jvm.Cond.soleField "java/lang/String" "hashIsZero") ∈ lw_all := lw_g (lw_at lw_m5 56 rfl) rfl
theorem q1125 : (Jvm.Cond.superclass "java/lang/String" "java/lang/Object") ∈ lw_all := lw_g (lw_at lw_m5 57 rfl) rfl
theorem q2226 : (Jvm.Cond.castable "java/lang/String" "java/lang/Object") ∈ lw_tbl := lw_at lw_m9 198 rfl
theorem in_J3 : ∀ w ∈ wsJ30, w ∈ lw_all := lw_in wsJ30 [1117, 1119, 1121, 1123] (by decide +kernel) (by decide +kernel)
/-! java/lang/StringLatin1 -/
set_option maxRecDepth 100000
def RJ4 : String := "java/lang/StringLatin1"
abbrev cJ4_charAt : ByteArray := prog_32_method_2_code
def yJ4_charAt : MethodName := ⟨RJ4, "charAt", "([BI)C"⟩
def dkwJ4_charAt_0 : List UInt8 := [27, 42, 190, 184, 0, 9, 42, 27, 51, 17, 0, 255, 126, 146, 172]
abbrev dktJ4_charAt_0 : List UInt8 := dkwJ4_charAt_0 ++ []
theorem dksJ4_charAt_0 : cJ4_charAt.data.toList.drop 0 = dktJ4_charAt_0 := by decide +kernel
theorem dJ4_charAt_0 : decode cJ4_charAt 0 = .ok (.iload_n 1, 1) := dk_27 (dk_at dksJ4_charAt_0 0 rfl rfl)
theorem dJ4_charAt_1 : decode cJ4_charAt 1 = .ok (.aload_n 0, 1) := dk_42 (dk_at dksJ4_charAt_0 1 rfl rfl)
theorem dJ4_charAt_2 : decode cJ4_charAt 2 = .ok (.arraylength, 1) := dk_190 (dk_at dksJ4_charAt_0 2 rfl rfl)
theorem dJ4_charAt_3 : decode cJ4_charAt 3 = .ok (.invokestatic 9, 3) := dk_184 0 9 (dk_at dksJ4_charAt_0 3 rfl rfl)
theorem dJ4_charAt_6 : decode cJ4_charAt 6 = .ok (.aload_n 0, 1) := dk_42 (dk_at dksJ4_charAt_0 6 rfl rfl)
theorem dJ4_charAt_7 : decode cJ4_charAt 7 = .ok (.iload_n 1, 1) := dk_27 (dk_at dksJ4_charAt_0 7 rfl rfl)
theorem dJ4_charAt_8 : decode cJ4_charAt 8 = .ok (.baload, 1) := dk_51 (dk_at dksJ4_charAt_0 8 rfl rfl)
theorem dJ4_charAt_9 : decode cJ4_charAt 9 = .ok (.sipush 255, 3) := dk_17 0 255 (dk_at dksJ4_charAt_0 9 rfl rfl)
theorem dJ4_charAt_12 : decode cJ4_charAt 12 = .ok (.iand, 1) := dk_126 (dk_at dksJ4_charAt_0 12 rfl rfl)
theorem dJ4_charAt_13 : decode cJ4_charAt 13 = .ok (.i2c, 1) := dk_146 (dk_at dksJ4_charAt_0 13 rfl rfl)
theorem dJ4_charAt_14 : decode cJ4_charAt 14 = .ok (.ireturn, 1) := dk_172 (dk_at dksJ4_charAt_0 14 rfl rfl)
theorem q123 : (Jvm.Cond.initialized "java/lang/StringLatin1") ∈ lw_all := lw_g (lw_at lw_m1 15 rfl) rfl
theorem q720 : (Jvm.Cond.static ({ cls := "java/lang/StringLatin1", name := "charAt", desc := "([BI)C" } : Jvm.MethodName)) ∈ lw_all := lw_g (lw_at lw_m3 132 rfl) rfl
theorem q721 : (Jvm.Cond.code ({ cls := "java/lang/StringLatin1", name := "charAt", desc := "([BI)C" } : Jvm.MethodName) prog_32_method_2_code (2 : Nat) (Option.some Jvm.ClassFile.FieldType.char)) ∈ lw_all := lw_g (lw_at lw_m3 133 rfl) rfl
theorem q722 : (Jvm.Cond.methodLink "java/lang/StringLatin1" (9 : Nat) ({ cls := "java/lang/String", name := "checkIndex", desc := "(II)V" } : Jvm.MethodName)) ∈ lw_all := lw_g (lw_at lw_m3 134 rfl) rfl
/-! jdk/internal/util/Preconditions -/
set_option maxRecDepth 100000
def RJ5 : String := "jdk/internal/util/Preconditions"
abbrev cJ5_checkIndex : ByteArray := prog_40_method_11_code
def yJ5_checkIndex : MethodName := ⟨RJ5, "checkIndex", "(IILjava/util/function/BiFunction;)I"⟩
def dkwJ5_checkIndex_0 : List UInt8 := [26, 155, 0, 8, 26, 27, 161, 0, 10, 44, 26, 27, 184, 0, 95, 191, 26, 172]
abbrev dktJ5_checkIndex_0 : List UInt8 := dkwJ5_checkIndex_0 ++ []
theorem dksJ5_checkIndex_0 : cJ5_checkIndex.data.toList.drop 0 = dktJ5_checkIndex_0 := by decide +kernel
theorem dJ5_checkIndex_0 : decode cJ5_checkIndex 0 = .ok (.iload_n 0, 1) := dk_26 (dk_at dksJ5_checkIndex_0 0 rfl rfl)
theorem dJ5_checkIndex_1 : decode cJ5_checkIndex 1 = .ok (.ifCond .lt 8, 3) := dk_155 0 8 (dk_at dksJ5_checkIndex_0 1 rfl rfl)
theorem dJ5_checkIndex_4 : decode cJ5_checkIndex 4 = .ok (.iload_n 0, 1) := dk_26 (dk_at dksJ5_checkIndex_0 4 rfl rfl)
theorem dJ5_checkIndex_5 : decode cJ5_checkIndex 5 = .ok (.iload_n 1, 1) := dk_27 (dk_at dksJ5_checkIndex_0 5 rfl rfl)
theorem dJ5_checkIndex_6 : decode cJ5_checkIndex 6 = .ok (.if_icmp .lt 10, 3) := dk_161 0 10 (dk_at dksJ5_checkIndex_0 6 rfl rfl)
theorem dJ5_checkIndex_9 : decode cJ5_checkIndex 9 = .ok (.aload_n 2, 1) := dk_44 (dk_at dksJ5_checkIndex_0 9 rfl rfl)
theorem dJ5_checkIndex_10 : decode cJ5_checkIndex 10 = .ok (.iload_n 0, 1) := dk_26 (dk_at dksJ5_checkIndex_0 10 rfl rfl)
theorem dJ5_checkIndex_11 : decode cJ5_checkIndex 11 = .ok (.iload_n 1, 1) := dk_27 (dk_at dksJ5_checkIndex_0 11 rfl rfl)
theorem dJ5_checkIndex_12 : decode cJ5_checkIndex 12 = .ok (.invokestatic 95, 3) := dk_184 0 95 (dk_at dksJ5_checkIndex_0 12 rfl rfl)
theorem dJ5_checkIndex_15 : decode cJ5_checkIndex 15 = .ok (.athrow, 1) := dk_191 (dk_at dksJ5_checkIndex_0 15 rfl rfl)
theorem dJ5_checkIndex_16 : decode cJ5_checkIndex 16 = .ok (.iload_n 0, 1) := dk_26 (dk_at dksJ5_checkIndex_0 16 rfl rfl)
theorem dJ5_checkIndex_17 : decode cJ5_checkIndex 17 = .ok (.ireturn, 1) := dk_172 (dk_at dksJ5_checkIndex_0 17 rfl rfl)
theorem q124 : (Jvm.Cond.initialized "jdk/internal/util/Preconditions") ∈ lw_all := lw_g (lw_at lw_m1 16 rfl) rfl
theorem q726 : (Jvm.Cond.laysStatic "jdk/internal/util/Preconditions" "SIOOBE_FORMATTER" "Ljava/util/function/BiFunction;") ∈ lw_tbl := lw_at lw_m3 138 rfl
theorem q728 : (Jvm.Cond.static ({ cls := "jdk/internal/util/Preconditions", name := "checkIndex", desc := "(IILjava/util/function/BiFunction;)I" } : Jvm.MethodName)) ∈ lw_all := lw_g (lw_at lw_m3 140 rfl) rfl
theorem q729 : (Jvm.Cond.code ({ cls := "jdk/internal/util/Preconditions", name := "checkIndex", desc := "(IILjava/util/function/BiFunction;)I" } : Jvm.MethodName) prog_40_method_11_code (3 : Nat) (Option.some Jvm.ClassFile.FieldType.int)) ∈ lw_all := lw_g (lw_at lw_m3 141 rfl) rfl
/-! java/lang/StringUTF16 -/
set_option maxRecDepth 100000
def RJ6 : String := "java/lang/StringUTF16"
abbrev cJ6_charAt : ByteArray := prog_33_method_83_code
def yJ6_charAt : MethodName := ⟨RJ6, "charAt", "([BI)C"⟩
def dkwJ6_charAt_0 : List UInt8 := [27, 42, 184, 0, 67, 42, 27, 184, 0, 71, 172]
abbrev dktJ6_charAt_0 : List UInt8 := dkwJ6_charAt_0 ++ []
theorem dksJ6_charAt_0 : cJ6_charAt.data.toList.drop 0 = dktJ6_charAt_0 := by decide +kernel
theorem dJ6_charAt_0 : decode cJ6_charAt 0 = .ok (.iload_n 1, 1) := dk_27 (dk_at dksJ6_charAt_0 0 rfl rfl)
theorem dJ6_charAt_1 : decode cJ6_charAt 1 = .ok (.aload_n 0, 1) := dk_42 (dk_at dksJ6_charAt_0 1 rfl rfl)
theorem dJ6_charAt_2 : decode cJ6_charAt 2 = .ok (.invokestatic 67, 3) := dk_184 0 67 (dk_at dksJ6_charAt_0 2 rfl rfl)
theorem dJ6_charAt_5 : decode cJ6_charAt 5 = .ok (.aload_n 0, 1) := dk_42 (dk_at dksJ6_charAt_0 5 rfl rfl)
theorem dJ6_charAt_6 : decode cJ6_charAt 6 = .ok (.iload_n 1, 1) := dk_27 (dk_at dksJ6_charAt_0 6 rfl rfl)
theorem dJ6_charAt_7 : decode cJ6_charAt 7 = .ok (.invokestatic 71, 3) := dk_184 0 71 (dk_at dksJ6_charAt_0 7 rfl rfl)
theorem dJ6_charAt_10 : decode cJ6_charAt 10 = .ok (.ireturn, 1) := dk_172 (dk_at dksJ6_charAt_0 10 rfl rfl)
abbrev cJ6_checkIndex : ByteArray := prog_33_method_91_code
def yJ6_checkIndex : MethodName := ⟨RJ6, "checkIndex", "(I[B)V"⟩
def dkwJ6_checkIndex_0 : List UInt8 := [26, 43, 184, 0, 48, 184, 1, 158, 177]
abbrev dktJ6_checkIndex_0 : List UInt8 := dkwJ6_checkIndex_0 ++ []
theorem dksJ6_checkIndex_0 : cJ6_checkIndex.data.toList.drop 0 = dktJ6_checkIndex_0 := by decide +kernel
theorem dJ6_checkIndex_0 : decode cJ6_checkIndex 0 = .ok (.iload_n 0, 1) := dk_26 (dk_at dksJ6_checkIndex_0 0 rfl rfl)
theorem dJ6_checkIndex_1 : decode cJ6_checkIndex 1 = .ok (.aload_n 1, 1) := dk_43 (dk_at dksJ6_checkIndex_0 1 rfl rfl)
theorem dJ6_checkIndex_2 : decode cJ6_checkIndex 2 = .ok (.invokestatic 48, 3) := dk_184 0 48 (dk_at dksJ6_checkIndex_0 2 rfl rfl)
theorem dJ6_checkIndex_5 : decode cJ6_checkIndex 5 = .ok (.invokestatic 414, 3) := dk_184 1 158 (dk_at dksJ6_checkIndex_0 5 rfl rfl)
theorem dJ6_checkIndex_8 : decode cJ6_checkIndex 8 = .ok (.return_, 1) := dk_177 (dk_at dksJ6_checkIndex_0 8 rfl rfl)
abbrev cJ6_length : ByteArray := prog_33_method_6_code
def yJ6_length : MethodName := ⟨RJ6, "length", "([B)I"⟩
def dkwJ6_length_0 : List UInt8 := [42, 190, 4, 122, 172]
abbrev dktJ6_length_0 : List UInt8 := dkwJ6_length_0 ++ []
theorem dksJ6_length_0 : cJ6_length.data.toList.drop 0 = dktJ6_length_0 := by decide +kernel
theorem dJ6_length_0 : decode cJ6_length 0 = .ok (.aload_n 0, 1) := dk_42 (dk_at dksJ6_length_0 0 rfl rfl)
theorem dJ6_length_1 : decode cJ6_length 1 = .ok (.arraylength, 1) := dk_190 (dk_at dksJ6_length_0 1 rfl rfl)
theorem dJ6_length_2 : decode cJ6_length 2 = .ok (.iconst 1, 1) := dk_4 (dk_at dksJ6_length_0 2 rfl rfl)
theorem dJ6_length_3 : decode cJ6_length 3 = .ok (.ishr, 1) := dk_122 (dk_at dksJ6_length_0 3 rfl rfl)
theorem dJ6_length_4 : decode cJ6_length 4 = .ok (.ireturn, 1) := dk_172 (dk_at dksJ6_length_0 4 rfl rfl)
abbrev cJ6_getChar : ByteArray := prog_33_method_5_code
def yJ6_getChar : MethodName := ⟨RJ6, "getChar", "([BI)C"⟩
def dkwJ6_getChar_2 : List UInt8 := [51, 17, 0, 255, 126, 178, 0, 63, 120, 128, 146, 172]
abbrev dktJ6_getChar_2 : List UInt8 := dkwJ6_getChar_2 ++ []
def dkwJ6_getChar_1 : List UInt8 := [183, 0, 56, 191, 27, 4, 120, 60, 42, 27, 132, 1, 1, 51, 17, 0, 255, 126, 178, 0, 59, 120, 42, 27]
abbrev dktJ6_getChar_1 : List UInt8 := dkwJ6_getChar_1 ++ dktJ6_getChar_2
def dkwJ6_getChar_0 : List UInt8 := [178, 0, 44, 154, 0, 25, 27, 155, 0, 11, 27, 42, 184, 0, 48, 161, 0, 13, 187, 0, 52, 89, 18, 54]
abbrev dktJ6_getChar_0 : List UInt8 := dkwJ6_getChar_0 ++ dktJ6_getChar_1
theorem dksJ6_getChar_0 : cJ6_getChar.data.toList.drop 0 = dktJ6_getChar_0 := by decide +kernel
theorem dksJ6_getChar_1 : cJ6_getChar.data.toList.drop 24 = dktJ6_getChar_1 := dk_seg dksJ6_getChar_0 24 rfl rfl
theorem dksJ6_getChar_2 : cJ6_getChar.data.toList.drop 48 = dktJ6_getChar_2 := dk_seg dksJ6_getChar_1 24 rfl rfl
theorem dJ6_getChar_0 : decode cJ6_getChar 0 = .ok (.getstatic 44, 3) := dk_178 0 44 (dk_at dksJ6_getChar_0 0 rfl rfl)
theorem dJ6_getChar_3 : decode cJ6_getChar 3 = .ok (.ifCond .ne 25, 3) := dk_154 0 25 (dk_at dksJ6_getChar_0 3 rfl rfl)
theorem dJ6_getChar_6 : decode cJ6_getChar 6 = .ok (.iload_n 1, 1) := dk_27 (dk_at dksJ6_getChar_0 6 rfl rfl)
theorem dJ6_getChar_7 : decode cJ6_getChar 7 = .ok (.ifCond .lt 11, 3) := dk_155 0 11 (dk_at dksJ6_getChar_0 7 rfl rfl)
theorem dJ6_getChar_10 : decode cJ6_getChar 10 = .ok (.iload_n 1, 1) := dk_27 (dk_at dksJ6_getChar_0 10 rfl rfl)
theorem dJ6_getChar_11 : decode cJ6_getChar 11 = .ok (.aload_n 0, 1) := dk_42 (dk_at dksJ6_getChar_0 11 rfl rfl)
theorem dJ6_getChar_12 : decode cJ6_getChar 12 = .ok (.invokestatic 48, 3) := dk_184 0 48 (dk_at dksJ6_getChar_0 12 rfl rfl)
theorem dJ6_getChar_15 : decode cJ6_getChar 15 = .ok (.if_icmp .lt 13, 3) := dk_161 0 13 (dk_at dksJ6_getChar_0 15 rfl rfl)
theorem dJ6_getChar_18 : decode cJ6_getChar 18 = .ok (.new 52, 3) := dk_187 0 52 (dk_at dksJ6_getChar_0 18 rfl rfl)
theorem dJ6_getChar_21 : decode cJ6_getChar 21 = .ok (.dup, 1) := dk_89 (dk_at dksJ6_getChar_0 21 rfl rfl)
theorem dJ6_getChar_22 : decode cJ6_getChar 22 = .ok (.ldc 54, 2) := dk_18 54 (dk_at dksJ6_getChar_0 22 rfl rfl)
theorem dJ6_getChar_24 : decode cJ6_getChar 24 = .ok (.invokespecial 56, 3) := dk_183 0 56 (dk_at dksJ6_getChar_1 0 rfl rfl)
theorem dJ6_getChar_27 : decode cJ6_getChar 27 = .ok (.athrow, 1) := dk_191 (dk_at dksJ6_getChar_1 3 rfl rfl)
theorem dJ6_getChar_28 : decode cJ6_getChar 28 = .ok (.iload_n 1, 1) := dk_27 (dk_at dksJ6_getChar_1 4 rfl rfl)
theorem dJ6_getChar_29 : decode cJ6_getChar 29 = .ok (.iconst 1, 1) := dk_4 (dk_at dksJ6_getChar_1 5 rfl rfl)
theorem dJ6_getChar_30 : decode cJ6_getChar 30 = .ok (.ishl, 1) := dk_120 (dk_at dksJ6_getChar_1 6 rfl rfl)
theorem dJ6_getChar_31 : decode cJ6_getChar 31 = .ok (.istore_n 1, 1) := dk_60 (dk_at dksJ6_getChar_1 7 rfl rfl)
theorem dJ6_getChar_32 : decode cJ6_getChar 32 = .ok (.aload_n 0, 1) := dk_42 (dk_at dksJ6_getChar_1 8 rfl rfl)
theorem dJ6_getChar_33 : decode cJ6_getChar 33 = .ok (.iload_n 1, 1) := dk_27 (dk_at dksJ6_getChar_1 9 rfl rfl)
theorem dJ6_getChar_34 : decode cJ6_getChar 34 = .ok (.iinc 1 1, 3) := dk_132 1 1 (dk_at dksJ6_getChar_1 10 rfl rfl)
theorem dJ6_getChar_37 : decode cJ6_getChar 37 = .ok (.baload, 1) := dk_51 (dk_at dksJ6_getChar_1 13 rfl rfl)
theorem dJ6_getChar_38 : decode cJ6_getChar 38 = .ok (.sipush 255, 3) := dk_17 0 255 (dk_at dksJ6_getChar_1 14 rfl rfl)
theorem dJ6_getChar_41 : decode cJ6_getChar 41 = .ok (.iand, 1) := dk_126 (dk_at dksJ6_getChar_1 17 rfl rfl)
theorem dJ6_getChar_42 : decode cJ6_getChar 42 = .ok (.getstatic 59, 3) := dk_178 0 59 (dk_at dksJ6_getChar_1 18 rfl rfl)
theorem dJ6_getChar_45 : decode cJ6_getChar 45 = .ok (.ishl, 1) := dk_120 (dk_at dksJ6_getChar_1 21 rfl rfl)
theorem dJ6_getChar_46 : decode cJ6_getChar 46 = .ok (.aload_n 0, 1) := dk_42 (dk_at dksJ6_getChar_1 22 rfl rfl)
theorem dJ6_getChar_47 : decode cJ6_getChar 47 = .ok (.iload_n 1, 1) := dk_27 (dk_at dksJ6_getChar_1 23 rfl rfl)
theorem dJ6_getChar_48 : decode cJ6_getChar 48 = .ok (.baload, 1) := dk_51 (dk_at dksJ6_getChar_2 0 rfl rfl)
theorem dJ6_getChar_49 : decode cJ6_getChar 49 = .ok (.sipush 255, 3) := dk_17 0 255 (dk_at dksJ6_getChar_2 1 rfl rfl)
theorem dJ6_getChar_52 : decode cJ6_getChar 52 = .ok (.iand, 1) := dk_126 (dk_at dksJ6_getChar_2 4 rfl rfl)
theorem dJ6_getChar_53 : decode cJ6_getChar 53 = .ok (.getstatic 63, 3) := dk_178 0 63 (dk_at dksJ6_getChar_2 5 rfl rfl)
theorem dJ6_getChar_56 : decode cJ6_getChar 56 = .ok (.ishl, 1) := dk_120 (dk_at dksJ6_getChar_2 8 rfl rfl)
theorem dJ6_getChar_57 : decode cJ6_getChar 57 = .ok (.ior, 1) := dk_128 (dk_at dksJ6_getChar_2 9 rfl rfl)
theorem dJ6_getChar_58 : decode cJ6_getChar 58 = .ok (.i2c, 1) := dk_146 (dk_at dksJ6_getChar_2 10 rfl rfl)
theorem dJ6_getChar_59 : decode cJ6_getChar 59 = .ok (.ireturn, 1) := dk_172 (dk_at dksJ6_getChar_2 11 rfl rfl)
abbrev cJ6_getChars : ByteArray := prog_33_method_89_code
def yJ6_getChars : MethodName := ⟨RJ6, "getChars", "(II[B)I"⟩
def dkwJ6_getChars_5 : List UInt8 := [132, 5, 255, 21, 5, 16, 45, 184, 0, 111, 21, 5, 172]
abbrev dktJ6_getChars_5 : List UInt8 := dkwJ6_getChars_5 ++ []
def dkwJ6_getChars_4 : List UInt8 := [162, 0, 18, 44, 132, 5, 255, 21, 5, 178, 1, 151, 26, 116, 51, 184, 0, 111, 21, 6, 153, 0, 14, 44]
abbrev dktJ6_getChars_4 : List UInt8 := dkwJ6_getChars_4 ++ dktJ6_getChars_5
def dkwJ6_getChars_3 : List UInt8 := [184, 0, 111, 167, 255, 205, 44, 132, 5, 255, 21, 5, 178, 1, 147, 26, 116, 51, 184, 0, 111, 26, 16, 247]
abbrev dktJ6_getChars_3 : List UInt8 := dkwJ6_getChars_3 ++ dktJ6_getChars_4
def dkwJ6_getChars_2 : List UInt8 := [21, 5, 178, 1, 147, 21, 4, 51, 184, 0, 111, 44, 132, 5, 255, 21, 5, 178, 1, 151, 21, 4, 51]
abbrev dktJ6_getChars_2 : List UInt8 := dkwJ6_getChars_2 ++ dktJ6_getChars_3
def dkwJ6_getChars_1 : List UInt8 := [16, 156, 163, 0, 51, 26, 16, 100, 108, 62, 29, 16, 100, 104, 26, 100, 54, 4, 29, 59, 44, 132, 5, 255]
abbrev dktJ6_getChars_1 : List UInt8 := dkwJ6_getChars_1 ++ dktJ6_getChars_2
def dkwJ6_getChars_0 : List UInt8 := [27, 54, 5, 26, 156, 0, 7, 4, 167, 0, 4, 3, 54, 6, 21, 6, 154, 0, 6, 26, 116, 59, 26]
abbrev dktJ6_getChars_0 : List UInt8 := dkwJ6_getChars_0 ++ dktJ6_getChars_1
theorem dksJ6_getChars_0 : cJ6_getChars.data.toList.drop 0 = dktJ6_getChars_0 := by decide +kernel
theorem dksJ6_getChars_1 : cJ6_getChars.data.toList.drop 23 = dktJ6_getChars_1 := dk_seg dksJ6_getChars_0 23 rfl rfl
theorem dksJ6_getChars_2 : cJ6_getChars.data.toList.drop 47 = dktJ6_getChars_2 := dk_seg dksJ6_getChars_1 24 rfl rfl
theorem dksJ6_getChars_3 : cJ6_getChars.data.toList.drop 70 = dktJ6_getChars_3 := dk_seg dksJ6_getChars_2 23 rfl rfl
theorem dksJ6_getChars_4 : cJ6_getChars.data.toList.drop 94 = dktJ6_getChars_4 := dk_seg dksJ6_getChars_3 24 rfl rfl
theorem dksJ6_getChars_5 : cJ6_getChars.data.toList.drop 118 = dktJ6_getChars_5 := dk_seg dksJ6_getChars_4 24 rfl rfl
theorem dJ6_getChars_0 : decode cJ6_getChars 0 = .ok (.iload_n 1, 1) := dk_27 (dk_at dksJ6_getChars_0 0 rfl rfl)
theorem dJ6_getChars_1 : decode cJ6_getChars 1 = .ok (.istore 5, 2) := dk_54 5 (dk_at dksJ6_getChars_0 1 rfl rfl)
theorem dJ6_getChars_3 : decode cJ6_getChars 3 = .ok (.iload_n 0, 1) := dk_26 (dk_at dksJ6_getChars_0 3 rfl rfl)
theorem dJ6_getChars_4 : decode cJ6_getChars 4 = .ok (.ifCond .ge 7, 3) := dk_156 0 7 (dk_at dksJ6_getChars_0 4 rfl rfl)
theorem dJ6_getChars_7 : decode cJ6_getChars 7 = .ok (.iconst 1, 1) := dk_4 (dk_at dksJ6_getChars_0 7 rfl rfl)
theorem dJ6_getChars_8 : decode cJ6_getChars 8 = .ok (.goto 4, 3) := dk_167 0 4 (dk_at dksJ6_getChars_0 8 rfl rfl)
theorem dJ6_getChars_11 : decode cJ6_getChars 11 = .ok (.iconst 0, 1) := dk_3 (dk_at dksJ6_getChars_0 11 rfl rfl)
theorem dJ6_getChars_12 : decode cJ6_getChars 12 = .ok (.istore 6, 2) := dk_54 6 (dk_at dksJ6_getChars_0 12 rfl rfl)
theorem dJ6_getChars_14 : decode cJ6_getChars 14 = .ok (.iload 6, 2) := dk_21 6 (dk_at dksJ6_getChars_0 14 rfl rfl)
theorem dJ6_getChars_16 : decode cJ6_getChars 16 = .ok (.ifCond .ne 6, 3) := dk_154 0 6 (dk_at dksJ6_getChars_0 16 rfl rfl)
theorem dJ6_getChars_19 : decode cJ6_getChars 19 = .ok (.iload_n 0, 1) := dk_26 (dk_at dksJ6_getChars_0 19 rfl rfl)
theorem dJ6_getChars_20 : decode cJ6_getChars 20 = .ok (.ineg, 1) := dk_116 (dk_at dksJ6_getChars_0 20 rfl rfl)
theorem dJ6_getChars_21 : decode cJ6_getChars 21 = .ok (.istore_n 0, 1) := dk_59 (dk_at dksJ6_getChars_0 21 rfl rfl)
theorem dJ6_getChars_22 : decode cJ6_getChars 22 = .ok (.iload_n 0, 1) := dk_26 (dk_at dksJ6_getChars_0 22 rfl rfl)
theorem dJ6_getChars_23 : decode cJ6_getChars 23 = .ok (.bipush (-100), 2) := dk_16 156 (dk_at dksJ6_getChars_1 0 rfl rfl)
theorem dJ6_getChars_25 : decode cJ6_getChars 25 = .ok (.if_icmp .gt 51, 3) := dk_163 0 51 (dk_at dksJ6_getChars_1 2 rfl rfl)
theorem dJ6_getChars_28 : decode cJ6_getChars 28 = .ok (.iload_n 0, 1) := dk_26 (dk_at dksJ6_getChars_1 5 rfl rfl)
theorem dJ6_getChars_29 : decode cJ6_getChars 29 = .ok (.bipush 100, 2) := dk_16 100 (dk_at dksJ6_getChars_1 6 rfl rfl)
theorem dJ6_getChars_31 : decode cJ6_getChars 31 = .ok (.idiv, 1) := dk_108 (dk_at dksJ6_getChars_1 8 rfl rfl)
theorem dJ6_getChars_32 : decode cJ6_getChars 32 = .ok (.istore_n 3, 1) := dk_62 (dk_at dksJ6_getChars_1 9 rfl rfl)
theorem dJ6_getChars_33 : decode cJ6_getChars 33 = .ok (.iload_n 3, 1) := dk_29 (dk_at dksJ6_getChars_1 10 rfl rfl)
theorem dJ6_getChars_34 : decode cJ6_getChars 34 = .ok (.bipush 100, 2) := dk_16 100 (dk_at dksJ6_getChars_1 11 rfl rfl)
theorem dJ6_getChars_36 : decode cJ6_getChars 36 = .ok (.imul, 1) := dk_104 (dk_at dksJ6_getChars_1 13 rfl rfl)
theorem dJ6_getChars_37 : decode cJ6_getChars 37 = .ok (.iload_n 0, 1) := dk_26 (dk_at dksJ6_getChars_1 14 rfl rfl)
theorem dJ6_getChars_38 : decode cJ6_getChars 38 = .ok (.isub, 1) := dk_100 (dk_at dksJ6_getChars_1 15 rfl rfl)
theorem dJ6_getChars_39 : decode cJ6_getChars 39 = .ok (.istore 4, 2) := dk_54 4 (dk_at dksJ6_getChars_1 16 rfl rfl)
theorem dJ6_getChars_41 : decode cJ6_getChars 41 = .ok (.iload_n 3, 1) := dk_29 (dk_at dksJ6_getChars_1 18 rfl rfl)
theorem dJ6_getChars_42 : decode cJ6_getChars 42 = .ok (.istore_n 0, 1) := dk_59 (dk_at dksJ6_getChars_1 19 rfl rfl)
theorem dJ6_getChars_43 : decode cJ6_getChars 43 = .ok (.aload_n 2, 1) := dk_44 (dk_at dksJ6_getChars_1 20 rfl rfl)
theorem dJ6_getChars_44 : decode cJ6_getChars 44 = .ok (.iinc 5 (-1), 3) := dk_132 5 255 (dk_at dksJ6_getChars_1 21 rfl rfl)
theorem dJ6_getChars_47 : decode cJ6_getChars 47 = .ok (.iload 5, 2) := dk_21 5 (dk_at dksJ6_getChars_2 0 rfl rfl)
theorem dJ6_getChars_49 : decode cJ6_getChars 49 = .ok (.getstatic 403, 3) := dk_178 1 147 (dk_at dksJ6_getChars_2 2 rfl rfl)
theorem dJ6_getChars_52 : decode cJ6_getChars 52 = .ok (.iload 4, 2) := dk_21 4 (dk_at dksJ6_getChars_2 5 rfl rfl)
theorem dJ6_getChars_54 : decode cJ6_getChars 54 = .ok (.baload, 1) := dk_51 (dk_at dksJ6_getChars_2 7 rfl rfl)
theorem dJ6_getChars_55 : decode cJ6_getChars 55 = .ok (.invokestatic 111, 3) := dk_184 0 111 (dk_at dksJ6_getChars_2 8 rfl rfl)
theorem dJ6_getChars_58 : decode cJ6_getChars 58 = .ok (.aload_n 2, 1) := dk_44 (dk_at dksJ6_getChars_2 11 rfl rfl)
theorem dJ6_getChars_59 : decode cJ6_getChars 59 = .ok (.iinc 5 (-1), 3) := dk_132 5 255 (dk_at dksJ6_getChars_2 12 rfl rfl)
theorem dJ6_getChars_62 : decode cJ6_getChars 62 = .ok (.iload 5, 2) := dk_21 5 (dk_at dksJ6_getChars_2 15 rfl rfl)
theorem dJ6_getChars_64 : decode cJ6_getChars 64 = .ok (.getstatic 407, 3) := dk_178 1 151 (dk_at dksJ6_getChars_2 17 rfl rfl)
theorem dJ6_getChars_67 : decode cJ6_getChars 67 = .ok (.iload 4, 2) := dk_21 4 (dk_at dksJ6_getChars_2 20 rfl rfl)
theorem dJ6_getChars_69 : decode cJ6_getChars 69 = .ok (.baload, 1) := dk_51 (dk_at dksJ6_getChars_2 22 rfl rfl)
theorem dJ6_getChars_70 : decode cJ6_getChars 70 = .ok (.invokestatic 111, 3) := dk_184 0 111 (dk_at dksJ6_getChars_3 0 rfl rfl)
theorem dJ6_getChars_73 : decode cJ6_getChars 73 = .ok (.goto (-51), 3) := dk_167 255 205 (dk_at dksJ6_getChars_3 3 rfl rfl)
theorem dJ6_getChars_76 : decode cJ6_getChars 76 = .ok (.aload_n 2, 1) := dk_44 (dk_at dksJ6_getChars_3 6 rfl rfl)
theorem dJ6_getChars_77 : decode cJ6_getChars 77 = .ok (.iinc 5 (-1), 3) := dk_132 5 255 (dk_at dksJ6_getChars_3 7 rfl rfl)
theorem dJ6_getChars_80 : decode cJ6_getChars 80 = .ok (.iload 5, 2) := dk_21 5 (dk_at dksJ6_getChars_3 10 rfl rfl)
theorem dJ6_getChars_82 : decode cJ6_getChars 82 = .ok (.getstatic 403, 3) := dk_178 1 147 (dk_at dksJ6_getChars_3 12 rfl rfl)
theorem dJ6_getChars_85 : decode cJ6_getChars 85 = .ok (.iload_n 0, 1) := dk_26 (dk_at dksJ6_getChars_3 15 rfl rfl)
theorem dJ6_getChars_86 : decode cJ6_getChars 86 = .ok (.ineg, 1) := dk_116 (dk_at dksJ6_getChars_3 16 rfl rfl)
theorem dJ6_getChars_87 : decode cJ6_getChars 87 = .ok (.baload, 1) := dk_51 (dk_at dksJ6_getChars_3 17 rfl rfl)
theorem dJ6_getChars_88 : decode cJ6_getChars 88 = .ok (.invokestatic 111, 3) := dk_184 0 111 (dk_at dksJ6_getChars_3 18 rfl rfl)
theorem dJ6_getChars_91 : decode cJ6_getChars 91 = .ok (.iload_n 0, 1) := dk_26 (dk_at dksJ6_getChars_3 21 rfl rfl)
theorem dJ6_getChars_92 : decode cJ6_getChars 92 = .ok (.bipush (-9), 2) := dk_16 247 (dk_at dksJ6_getChars_3 22 rfl rfl)
theorem dJ6_getChars_94 : decode cJ6_getChars 94 = .ok (.if_icmp .ge 18, 3) := dk_162 0 18 (dk_at dksJ6_getChars_4 0 rfl rfl)
theorem dJ6_getChars_97 : decode cJ6_getChars 97 = .ok (.aload_n 2, 1) := dk_44 (dk_at dksJ6_getChars_4 3 rfl rfl)
theorem dJ6_getChars_98 : decode cJ6_getChars 98 = .ok (.iinc 5 (-1), 3) := dk_132 5 255 (dk_at dksJ6_getChars_4 4 rfl rfl)
theorem dJ6_getChars_101 : decode cJ6_getChars 101 = .ok (.iload 5, 2) := dk_21 5 (dk_at dksJ6_getChars_4 7 rfl rfl)
theorem dJ6_getChars_103 : decode cJ6_getChars 103 = .ok (.getstatic 407, 3) := dk_178 1 151 (dk_at dksJ6_getChars_4 9 rfl rfl)
theorem dJ6_getChars_106 : decode cJ6_getChars 106 = .ok (.iload_n 0, 1) := dk_26 (dk_at dksJ6_getChars_4 12 rfl rfl)
theorem dJ6_getChars_107 : decode cJ6_getChars 107 = .ok (.ineg, 1) := dk_116 (dk_at dksJ6_getChars_4 13 rfl rfl)
theorem dJ6_getChars_108 : decode cJ6_getChars 108 = .ok (.baload, 1) := dk_51 (dk_at dksJ6_getChars_4 14 rfl rfl)
theorem dJ6_getChars_109 : decode cJ6_getChars 109 = .ok (.invokestatic 111, 3) := dk_184 0 111 (dk_at dksJ6_getChars_4 15 rfl rfl)
theorem dJ6_getChars_112 : decode cJ6_getChars 112 = .ok (.iload 6, 2) := dk_21 6 (dk_at dksJ6_getChars_4 18 rfl rfl)
theorem dJ6_getChars_114 : decode cJ6_getChars 114 = .ok (.ifCond .eq 14, 3) := dk_153 0 14 (dk_at dksJ6_getChars_4 20 rfl rfl)
theorem dJ6_getChars_117 : decode cJ6_getChars 117 = .ok (.aload_n 2, 1) := dk_44 (dk_at dksJ6_getChars_4 23 rfl rfl)
theorem dJ6_getChars_118 : decode cJ6_getChars 118 = .ok (.iinc 5 (-1), 3) := dk_132 5 255 (dk_at dksJ6_getChars_5 0 rfl rfl)
theorem dJ6_getChars_121 : decode cJ6_getChars 121 = .ok (.iload 5, 2) := dk_21 5 (dk_at dksJ6_getChars_5 3 rfl rfl)
theorem dJ6_getChars_123 : decode cJ6_getChars 123 = .ok (.bipush 45, 2) := dk_16 45 (dk_at dksJ6_getChars_5 5 rfl rfl)
theorem dJ6_getChars_125 : decode cJ6_getChars 125 = .ok (.invokestatic 111, 3) := dk_184 0 111 (dk_at dksJ6_getChars_5 7 rfl rfl)
theorem dJ6_getChars_128 : decode cJ6_getChars 128 = .ok (.iload 5, 2) := dk_21 5 (dk_at dksJ6_getChars_5 10 rfl rfl)
theorem dJ6_getChars_130 : decode cJ6_getChars 130 = .ok (.ireturn, 1) := dk_172 (dk_at dksJ6_getChars_5 12 rfl rfl)
abbrev cJ6_putChar : ByteArray := prog_33_method_4_code
def yJ6_putChar : MethodName := ⟨RJ6, "putChar", "([BII)V"⟩
def dkwJ6_putChar_2 : List UInt8 := [178, 0, 63, 122, 145, 84, 177]
abbrev dktJ6_putChar_2 : List UInt8 := dkwJ6_putChar_2 ++ []
def dkwJ6_putChar_1 : List UInt8 := [183, 0, 56, 191, 27, 4, 120, 60, 42, 27, 132, 1, 1, 28, 178, 0, 59, 122, 145, 84, 42, 27, 28]
abbrev dktJ6_putChar_1 : List UInt8 := dkwJ6_putChar_1 ++ dktJ6_putChar_2
def dkwJ6_putChar_0 : List UInt8 := [178, 0, 44, 154, 0, 25, 27, 155, 0, 11, 27, 42, 184, 0, 48, 161, 0, 13, 187, 0, 52, 89, 18, 54]
abbrev dktJ6_putChar_0 : List UInt8 := dkwJ6_putChar_0 ++ dktJ6_putChar_1
theorem dksJ6_putChar_0 : cJ6_putChar.data.toList.drop 0 = dktJ6_putChar_0 := by decide +kernel
theorem dksJ6_putChar_1 : cJ6_putChar.data.toList.drop 24 = dktJ6_putChar_1 := dk_seg dksJ6_putChar_0 24 rfl rfl
theorem dksJ6_putChar_2 : cJ6_putChar.data.toList.drop 47 = dktJ6_putChar_2 := dk_seg dksJ6_putChar_1 23 rfl rfl
theorem dJ6_putChar_0 : decode cJ6_putChar 0 = .ok (.getstatic 44, 3) := dk_178 0 44 (dk_at dksJ6_putChar_0 0 rfl rfl)
theorem dJ6_putChar_3 : decode cJ6_putChar 3 = .ok (.ifCond .ne 25, 3) := dk_154 0 25 (dk_at dksJ6_putChar_0 3 rfl rfl)
theorem dJ6_putChar_6 : decode cJ6_putChar 6 = .ok (.iload_n 1, 1) := dk_27 (dk_at dksJ6_putChar_0 6 rfl rfl)
theorem dJ6_putChar_7 : decode cJ6_putChar 7 = .ok (.ifCond .lt 11, 3) := dk_155 0 11 (dk_at dksJ6_putChar_0 7 rfl rfl)
theorem dJ6_putChar_10 : decode cJ6_putChar 10 = .ok (.iload_n 1, 1) := dk_27 (dk_at dksJ6_putChar_0 10 rfl rfl)
theorem dJ6_putChar_11 : decode cJ6_putChar 11 = .ok (.aload_n 0, 1) := dk_42 (dk_at dksJ6_putChar_0 11 rfl rfl)
theorem dJ6_putChar_12 : decode cJ6_putChar 12 = .ok (.invokestatic 48, 3) := dk_184 0 48 (dk_at dksJ6_putChar_0 12 rfl rfl)
theorem dJ6_putChar_15 : decode cJ6_putChar 15 = .ok (.if_icmp .lt 13, 3) := dk_161 0 13 (dk_at dksJ6_putChar_0 15 rfl rfl)
theorem dJ6_putChar_18 : decode cJ6_putChar 18 = .ok (.new 52, 3) := dk_187 0 52 (dk_at dksJ6_putChar_0 18 rfl rfl)
theorem dJ6_putChar_21 : decode cJ6_putChar 21 = .ok (.dup, 1) := dk_89 (dk_at dksJ6_putChar_0 21 rfl rfl)
theorem dJ6_putChar_22 : decode cJ6_putChar 22 = .ok (.ldc 54, 2) := dk_18 54 (dk_at dksJ6_putChar_0 22 rfl rfl)
theorem dJ6_putChar_24 : decode cJ6_putChar 24 = .ok (.invokespecial 56, 3) := dk_183 0 56 (dk_at dksJ6_putChar_1 0 rfl rfl)
theorem dJ6_putChar_27 : decode cJ6_putChar 27 = .ok (.athrow, 1) := dk_191 (dk_at dksJ6_putChar_1 3 rfl rfl)
theorem dJ6_putChar_28 : decode cJ6_putChar 28 = .ok (.iload_n 1, 1) := dk_27 (dk_at dksJ6_putChar_1 4 rfl rfl)
theorem dJ6_putChar_29 : decode cJ6_putChar 29 = .ok (.iconst 1, 1) := dk_4 (dk_at dksJ6_putChar_1 5 rfl rfl)
theorem dJ6_putChar_30 : decode cJ6_putChar 30 = .ok (.ishl, 1) := dk_120 (dk_at dksJ6_putChar_1 6 rfl rfl)
theorem dJ6_putChar_31 : decode cJ6_putChar 31 = .ok (.istore_n 1, 1) := dk_60 (dk_at dksJ6_putChar_1 7 rfl rfl)
theorem dJ6_putChar_32 : decode cJ6_putChar 32 = .ok (.aload_n 0, 1) := dk_42 (dk_at dksJ6_putChar_1 8 rfl rfl)
theorem dJ6_putChar_33 : decode cJ6_putChar 33 = .ok (.iload_n 1, 1) := dk_27 (dk_at dksJ6_putChar_1 9 rfl rfl)
theorem dJ6_putChar_34 : decode cJ6_putChar 34 = .ok (.iinc 1 1, 3) := dk_132 1 1 (dk_at dksJ6_putChar_1 10 rfl rfl)
theorem dJ6_putChar_37 : decode cJ6_putChar 37 = .ok (.iload_n 2, 1) := dk_28 (dk_at dksJ6_putChar_1 13 rfl rfl)
theorem dJ6_putChar_38 : decode cJ6_putChar 38 = .ok (.getstatic 59, 3) := dk_178 0 59 (dk_at dksJ6_putChar_1 14 rfl rfl)
theorem dJ6_putChar_41 : decode cJ6_putChar 41 = .ok (.ishr, 1) := dk_122 (dk_at dksJ6_putChar_1 17 rfl rfl)
theorem dJ6_putChar_42 : decode cJ6_putChar 42 = .ok (.i2b, 1) := dk_145 (dk_at dksJ6_putChar_1 18 rfl rfl)
theorem dJ6_putChar_43 : decode cJ6_putChar 43 = .ok (.bastore, 1) := dk_84 (dk_at dksJ6_putChar_1 19 rfl rfl)
theorem dJ6_putChar_44 : decode cJ6_putChar 44 = .ok (.aload_n 0, 1) := dk_42 (dk_at dksJ6_putChar_1 20 rfl rfl)
theorem dJ6_putChar_45 : decode cJ6_putChar 45 = .ok (.iload_n 1, 1) := dk_27 (dk_at dksJ6_putChar_1 21 rfl rfl)
theorem dJ6_putChar_46 : decode cJ6_putChar 46 = .ok (.iload_n 2, 1) := dk_28 (dk_at dksJ6_putChar_1 22 rfl rfl)
theorem dJ6_putChar_47 : decode cJ6_putChar 47 = .ok (.getstatic 63, 3) := dk_178 0 63 (dk_at dksJ6_putChar_2 0 rfl rfl)
theorem dJ6_putChar_50 : decode cJ6_putChar 50 = .ok (.ishr, 1) := dk_122 (dk_at dksJ6_putChar_2 3 rfl rfl)
theorem dJ6_putChar_51 : decode cJ6_putChar 51 = .ok (.i2b, 1) := dk_145 (dk_at dksJ6_putChar_2 4 rfl rfl)
theorem dJ6_putChar_52 : decode cJ6_putChar 52 = .ok (.bastore, 1) := dk_84 (dk_at dksJ6_putChar_2 5 rfl rfl)
theorem dJ6_putChar_53 : decode cJ6_putChar 53 = .ok (.return_, 1) := dk_177 (dk_at dksJ6_putChar_2 6 rfl rfl)
theorem q125 : (Jvm.Cond.initialized "java/lang/StringUTF16") ∈ lw_all := lw_g (lw_at lw_m1 17 rfl) rfl
theorem q731 : (Jvm.Cond.static ({ cls := "java/lang/StringUTF16", name := "charAt", desc := "([BI)C" } : Jvm.MethodName)) ∈ lw_all := lw_g (lw_at lw_m3 143 rfl) rfl
theorem q732 : (Jvm.Cond.code ({ cls := "java/lang/StringUTF16", name := "charAt", desc := "([BI)C" } : Jvm.MethodName) prog_33_method_83_code (2 : Nat) (Option.some Jvm.ClassFile.FieldType.char)) ∈ lw_all := lw_g (lw_at lw_m3 144 rfl) rfl
theorem q733 : (Jvm.Cond.methodLink "java/lang/StringUTF16" (67 : Nat) ({ cls := "java/lang/StringUTF16", name := "checkIndex", desc := "(I[B)V" } : Jvm.MethodName)) ∈ lw_all := lw_g (lw_at lw_m3 145 rfl) rfl
theorem q734 : (Jvm.Cond.static ({ cls := "java/lang/StringUTF16", name := "checkIndex", desc := "(I[B)V" } : Jvm.MethodName)) ∈ lw_all := lw_g (lw_at lw_m3 146 rfl) rfl
theorem q735 : (Jvm.Cond.code ({ cls := "java/lang/StringUTF16", name := "checkIndex", desc := "(I[B)V" } : Jvm.MethodName) prog_33_method_91_code (2 : Nat) (Option.none : Option Jvm.ClassFile.FieldType)) ∈ lw_all := lw_g (lw_at lw_m3 147 rfl) rfl
theorem q736 : (Jvm.Cond.methodLink "java/lang/StringUTF16" (48 : Nat) ({ cls := "java/lang/StringUTF16", name := "length", desc := "([B)I" } : Jvm.MethodName)) ∈ lw_all := lw_g (lw_at lw_m3 148 rfl) rfl
theorem q737 : (Jvm.Cond.static ({ cls := "java/lang/StringUTF16", name := "length", desc := "([B)I" } : Jvm.MethodName)) ∈ lw_all := lw_g (lw_at lw_m3 149 rfl) rfl
theorem q738 : (Jvm.Cond.code ({ cls := "java/lang/StringUTF16", name := "length", desc := "([B)I" } : Jvm.MethodName) prog_33_method_6_code (1 : Nat) (Option.some Jvm.ClassFile.FieldType.int)) ∈ lw_all := lw_g (lw_at lw_m3 150 rfl) rfl
theorem q739 : (Jvm.Cond.methodLink "java/lang/StringUTF16" (414 : Nat) ({ cls := "java/lang/String", name := "checkIndex", desc := "(II)V" } : Jvm.MethodName)) ∈ lw_all := lw_g (lw_at lw_m3 151 rfl) rfl
theorem q740 : (Jvm.Cond.methodLink "java/lang/StringUTF16" (71 : Nat) ({ cls := "java/lang/StringUTF16", name := "getChar", desc := "([BI)C" } : Jvm.MethodName)) ∈ lw_all := lw_g (lw_at lw_m3 152 rfl) rfl
theorem q741 : (Jvm.Cond.static ({ cls := "java/lang/StringUTF16", name := "getChar", desc := "([BI)C" } : Jvm.MethodName)) ∈ lw_all := lw_g (lw_at lw_m3 153 rfl) rfl
theorem q742 : (Jvm.Cond.code ({ cls := "java/lang/StringUTF16", name := "getChar", desc := "([BI)C" } : Jvm.MethodName) prog_33_method_5_code (2 : Nat) (Option.some Jvm.ClassFile.FieldType.char)) ∈ lw_all := lw_g (lw_at lw_m3 154 rfl) rfl
theorem q743 : (Jvm.Cond.fieldLink "java/lang/StringUTF16" (44 : Nat) "java/lang/StringUTF16" "$assertionsDisabled" "Z") ∈ lw_all := lw_g (lw_at lw_m3 155 rfl) rfl
theorem q744 : (Jvm.Cond.laysStatic "java/lang/StringUTF16" "$assertionsDisabled" "Z") ∈ lw_tbl := lw_at lw_m3 156 rfl
theorem q745 : (Jvm.Cond.fieldLink "java/lang/StringUTF16" (59 : Nat) "java/lang/StringUTF16" "HI_BYTE_SHIFT" "I") ∈ lw_all := lw_g (lw_at lw_m3 157 rfl) rfl
theorem q746 : (Jvm.Cond.laysStatic "java/lang/StringUTF16" "HI_BYTE_SHIFT" "I") ∈ lw_tbl := lw_at lw_m3 158 rfl
theorem q747 : (Jvm.Cond.fieldLink "java/lang/StringUTF16" (63 : Nat) "java/lang/StringUTF16" "LO_BYTE_SHIFT" "I") ∈ lw_all := lw_g (lw_at lw_m3 159 rfl) rfl
theorem q748 : (Jvm.Cond.laysStatic "java/lang/StringUTF16" "LO_BYTE_SHIFT" "I") ∈ lw_tbl := lw_at lw_m3 160 rfl
theorem q1127 : (Jvm.Cond.static ({ cls := "java/lang/StringUTF16", name := "getChars", desc := "(II[B)I" } : Jvm.MethodName)) ∈ lw_all := lw_g (lw_at lw_m5 59 rfl) rfl
theorem q1128 : (Jvm.Cond.code ({ cls := "java/lang/StringUTF16", name := "getChars", desc := "(II[B)I" } : Jvm.MethodName) prog_33_method_89_code (7 : Nat) (Option.some Jvm.ClassFile.FieldType.int)) ∈ lw_all := lw_g (lw_at lw_m5 60 rfl) rfl
theorem q1129 : (Jvm.Cond.fieldLink "java/lang/StringUTF16" (403 : Nat) "java/lang/Integer" "DigitOnes" "[B") ∈ lw_all := lw_g (lw_at lw_m5 61 rfl) rfl
theorem q1130 : (Jvm.Cond.methodLink "java/lang/StringUTF16" (111 : Nat) ({ cls := "java/lang/StringUTF16", name := "putChar", desc := "([BII)V" } : Jvm.MethodName)) ∈ lw_all := lw_g (lw_at lw_m5 62 rfl) rfl
theorem q1131 : (Jvm.Cond.static ({ cls := "java/lang/StringUTF16", name := "putChar", desc := "([BII)V" } : Jvm.MethodName)) ∈ lw_all := lw_g (lw_at lw_m5 63 rfl) rfl
theorem q1132 : (Jvm.Cond.code ({ cls := "java/lang/StringUTF16", name := "putChar", desc := "([BII)V" } : Jvm.MethodName) prog_33_method_4_code (3 : Nat) (Option.none : Option Jvm.ClassFile.FieldType)) ∈ lw_all := lw_g (lw_at lw_m5 64 rfl) rfl
theorem q1133 : (Jvm.Cond.fieldLink "java/lang/StringUTF16" (407 : Nat) "java/lang/Integer" "DigitTens" "[B") ∈ lw_all := lw_g (lw_at lw_m5 65 rfl) rfl
/-! java/lang/RuntimeException -/
set_option maxRecDepth 100000
def RJ7 : String := "java/lang/RuntimeException"
abbrev cJ7_init : ByteArray := prog_30_method_1_code
def yJ7_init : MethodName := ⟨RJ7, "<init>", "()V"⟩
theorem dJ7_init_0 : decode cJ7_init 0 = .ok (.aload_n 0, 1) := by decide +kernel
theorem dJ7_init_1 : decode cJ7_init 1 = .ok (.invokespecial 1, 3) := by decide +kernel
theorem dJ7_init_4 : decode cJ7_init 4 = .ok (.return_, 1) := by decide +kernel
theorem q126 : (Jvm.Cond.initialized "java/lang/RuntimeException") ∈ lw_all := lw_g (lw_at lw_m1 18 rfl) rfl
theorem q1512 : (Jvm.Cond.declares ({ cls := "java/lang/RuntimeException", name := "<init>", desc := "()V" } : Jvm.MethodName)) ∈ lw_tbl := lw_at lw_m6 204 rfl
theorem q1513 : (Jvm.Cond.declares ({ cls := "java/lang/RuntimeException", name := "<init>", desc := "(Ljava/lang/String;)V" } : Jvm.MethodName)) ∈ lw_tbl := lw_at lw_m6 205 rfl
theorem q1524 : (Jvm.Cond.instanceMethod ({ cls := "java/lang/RuntimeException", name := "<init>", desc := "()V" } : Jvm.MethodName)) ∈ lw_all := lw_g (lw_at lw_m6 216 rfl) rfl
theorem q1525 : (Jvm.Cond.code ({ cls := "java/lang/RuntimeException", name := "<init>", desc := "()V" } : Jvm.MethodName) prog_30_method_1_code (1 : Nat) (Option.none : Option Jvm.ClassFile.FieldType)) ∈ lw_all := lw_g (lw_at lw_m6 217 rfl) rfl
theorem q1526 : (Jvm.Cond.methodLink "java/lang/RuntimeException" (1 : Nat) ({ cls := "java/lang/Exception", name := "<init>", desc := "()V" } : Jvm.MethodName)) ∈ lw_all := lw_g (lw_at lw_m6 218 rfl) rfl
/-! java/util/NoSuchElementException -/
set_option maxRecDepth 100000
def RJ8 : String := "java/util/NoSuchElementException"
def TJ8 : u_T := fun k => match k with
  | 0 => ("java/lang/Throwable", "cause", "Ljava/lang/Throwable;", false)
  | 1 => ("java/lang/Throwable", "stackTrace", "[Ljava/lang/StackTraceElement;", false)
  | 2 => ("java/lang/Throwable", "suppressedExceptions", "Ljava/util/List;", false)
  | 3 => ("java/lang/Throwable", "detailMessage", "Ljava/lang/String;", false)
  | 4 => ("java/lang/Throwable", "backtrace", "Ljava/lang/Object;", false)
  | _ => ("java/lang/Throwable", "depth", "I", false)
def tyJ8 : Nat → FieldType := fun k => match k with
  | 0 => .object "java/lang/Throwable"
  | 1 => .array (.object "java/lang/StackTraceElement")
  | 2 => .object "java/util/List"
  | 3 => .object "java/lang/String"
  | 4 => .object "java/lang/Object"
  | _ => .int
abbrev wsJ80 : List Cond := u_ws RJ8 TJ8 6
theorem nmJ8 : ∀ a, a < 6 → ∀ b, b < 6 → a ≠ b → (TJ8 a).2.1 ≠ (TJ8 b).2.1 := by decide +kernel
theorem tyJ8_ok : ∀ k, k < 6 → parseFieldDescriptor (TJ8 k).2.2.1 = some (tyJ8 k) := by decide +kernel
abbrev cJ8_init : ByteArray := prog_39_method_1_code
def yJ8_init : MethodName := ⟨RJ8, "<init>", "()V"⟩
theorem dJ8_init_0 : decode cJ8_init 0 = .ok (.aload_n 0, 1) := by decide +kernel
theorem dJ8_init_1 : decode cJ8_init 1 = .ok (.invokespecial 1, 3) := by decide +kernel
theorem dJ8_init_4 : decode cJ8_init 4 = .ok (.return_, 1) := by decide +kernel
theorem q127 : (Jvm.Cond.initialized "java/util/NoSuchElementException") ∈ lw_all := lw_g (lw_at lw_m1 19 rfl) rfl
theorem q181 : (Jvm.Cond.selects "java/util/NoSuchElementException" ({ cls := "java/lang/Throwable", name := "fillInStackTrace", desc := "()Ljava/lang/Throwable;" } : Jvm.MethodName) ({ cls := "java/lang/Throwable", name := "fillInStackTrace", desc := "()Ljava/lang/Throwable;" } : Jvm.MethodName)) ∈ lw_all := lw_g (lw_at lw_m1 73 rfl) rfl
theorem q1510 : (Jvm.Cond.instantiable "java/util/NoSuchElementException" (6 : Nat)) ∈ lw_all := lw_g (lw_at lw_m6 202 rfl) rfl
theorem q1511 : (Jvm.Cond.castable "java/util/NoSuchElementException" "java/util/NoSuchElementException") ∈ lw_tbl := lw_at lw_m6 203 rfl
theorem q1514 : (Jvm.Cond.selects "java/util/NoSuchElementException" ({ cls := "java/lang/Throwable", name := "fillInStackTrace", desc := "(I)Ljava/lang/Throwable;" } : Jvm.MethodName) ({ cls := "java/lang/Throwable", name := "fillInStackTrace", desc := "(I)Ljava/lang/Throwable;" } : Jvm.MethodName)) ∈ lw_all := lw_g (lw_at lw_m6 206 rfl) rfl
theorem q1515 : (Jvm.Cond.lays "java/util/NoSuchElementException" "java/lang/Throwable" "cause" "Ljava/lang/Throwable;") ∈ lw_all := lw_g (lw_at lw_m6 207 rfl) rfl
theorem q1516 : (Jvm.Cond.lays "java/util/NoSuchElementException" "java/lang/Throwable" "stackTrace" "[Ljava/lang/StackTraceElement;") ∈ lw_all := lw_g (lw_at lw_m6 208 rfl) rfl
theorem q1517 : (Jvm.Cond.lays "java/util/NoSuchElementException" "java/lang/Throwable" "suppressedExceptions" "Ljava/util/List;") ∈ lw_all := lw_g (lw_at lw_m6 209 rfl) rfl
theorem q1518 : (Jvm.Cond.lays "java/util/NoSuchElementException" "java/lang/Throwable" "detailMessage" "Ljava/lang/String;") ∈ lw_all := lw_g (lw_at lw_m6 210 rfl) rfl
theorem q1519 : (Jvm.Cond.lays "java/util/NoSuchElementException" "java/lang/Throwable" "backtrace" "Ljava/lang/Object;") ∈ lw_all := lw_g (lw_at lw_m6 211 rfl) rfl
theorem q1521 : (Jvm.Cond.instanceMethod ({ cls := "java/util/NoSuchElementException", name := "<init>", desc := "()V" } : Jvm.MethodName)) ∈ lw_all := lw_g (lw_at lw_m6 213 rfl) rfl
theorem q1522 : (Jvm.Cond.code ({ cls := "java/util/NoSuchElementException", name := "<init>", desc := "()V" } : Jvm.MethodName) prog_39_method_1_code (1 : Nat) (Option.none : Option Jvm.ClassFile.FieldType)) ∈ lw_all := lw_g (lw_at lw_m6 214 rfl) rfl
theorem q1523 : (Jvm.Cond.methodLink "java/util/NoSuchElementException" (1 : Nat) ({ cls := "java/lang/RuntimeException", name := "<init>", desc := "()V" } : Jvm.MethodName)) ∈ lw_all := lw_g (lw_at lw_m6 215 rfl) rfl
theorem q1530 : (Jvm.Cond.lays "java/util/NoSuchElementException" "java/lang/Throwable" "depth" "I") ∈ lw_all := lw_g (lw_at lw_m6 222 rfl) rfl
theorem q1531 : (Jvm.Cond.superclass "java/util/NoSuchElementException" "java/lang/RuntimeException") ∈ lw_all := lw_g (lw_at lw_m6 223 rfl) rfl
theorem q2225 : (Jvm.Cond.castable "java/util/NoSuchElementException" "java/lang/Object") ∈ lw_tbl := lw_at lw_m9 197 rfl
theorem in_J8 : ∀ w ∈ wsJ80, w ∈ lw_all := lw_in wsJ80 [1515, 1516, 1517, 1518, 1519, 1530] (by decide +kernel) (by decide +kernel)
/-! java/lang/Integer -/
set_option maxRecDepth 100000
def RJ9 : String := "java/lang/Integer"
abbrev cJ9_bitCount : ByteArray := prog_27_method_49_code
def yJ9_bitCount : MethodName := ⟨RJ9, "bitCount", "(I)I"⟩
def dkwJ9_bitCount_2 : List UInt8 := [26, 16, 63, 126, 172]
abbrev dktJ9_bitCount_2 : List UInt8 := dkwJ9_bitCount_2 ++ []
def dkwJ9_bitCount_1 : List UInt8 := [26, 26, 7, 124, 96, 19, 1, 11, 126, 59, 26, 26, 16, 8, 124, 96, 59, 26, 26, 16, 16, 124, 96, 59]
abbrev dktJ9_bitCount_1 : List UInt8 := dkwJ9_bitCount_1 ++ dktJ9_bitCount_2
def dkwJ9_bitCount_0 : List UInt8 := [26, 26, 4, 124, 19, 1, 9, 126, 100, 59, 26, 19, 1, 10, 126, 26, 5, 124, 19, 1, 10, 126, 96, 59]
abbrev dktJ9_bitCount_0 : List UInt8 := dkwJ9_bitCount_0 ++ dktJ9_bitCount_1
theorem dksJ9_bitCount_0 : cJ9_bitCount.data.toList.drop 0 = dktJ9_bitCount_0 := by decide +kernel
theorem dksJ9_bitCount_1 : cJ9_bitCount.data.toList.drop 24 = dktJ9_bitCount_1 := dk_seg dksJ9_bitCount_0 24 rfl rfl
theorem dksJ9_bitCount_2 : cJ9_bitCount.data.toList.drop 48 = dktJ9_bitCount_2 := dk_seg dksJ9_bitCount_1 24 rfl rfl
theorem dJ9_bitCount_0 : decode cJ9_bitCount 0 = .ok (.iload_n 0, 1) := dk_26 (dk_at dksJ9_bitCount_0 0 rfl rfl)
theorem dJ9_bitCount_1 : decode cJ9_bitCount 1 = .ok (.iload_n 0, 1) := dk_26 (dk_at dksJ9_bitCount_0 1 rfl rfl)
theorem dJ9_bitCount_2 : decode cJ9_bitCount 2 = .ok (.iconst 1, 1) := dk_4 (dk_at dksJ9_bitCount_0 2 rfl rfl)
theorem dJ9_bitCount_3 : decode cJ9_bitCount 3 = .ok (.iushr, 1) := dk_124 (dk_at dksJ9_bitCount_0 3 rfl rfl)
theorem dJ9_bitCount_4 : decode cJ9_bitCount 4 = .ok (.ldc_w 265, 3) := dk_19 1 9 (dk_at dksJ9_bitCount_0 4 rfl rfl)
theorem dJ9_bitCount_7 : decode cJ9_bitCount 7 = .ok (.iand, 1) := dk_126 (dk_at dksJ9_bitCount_0 7 rfl rfl)
theorem dJ9_bitCount_8 : decode cJ9_bitCount 8 = .ok (.isub, 1) := dk_100 (dk_at dksJ9_bitCount_0 8 rfl rfl)
theorem dJ9_bitCount_9 : decode cJ9_bitCount 9 = .ok (.istore_n 0, 1) := dk_59 (dk_at dksJ9_bitCount_0 9 rfl rfl)
theorem dJ9_bitCount_10 : decode cJ9_bitCount 10 = .ok (.iload_n 0, 1) := dk_26 (dk_at dksJ9_bitCount_0 10 rfl rfl)
theorem dJ9_bitCount_11 : decode cJ9_bitCount 11 = .ok (.ldc_w 266, 3) := dk_19 1 10 (dk_at dksJ9_bitCount_0 11 rfl rfl)
theorem dJ9_bitCount_14 : decode cJ9_bitCount 14 = .ok (.iand, 1) := dk_126 (dk_at dksJ9_bitCount_0 14 rfl rfl)
theorem dJ9_bitCount_15 : decode cJ9_bitCount 15 = .ok (.iload_n 0, 1) := dk_26 (dk_at dksJ9_bitCount_0 15 rfl rfl)
theorem dJ9_bitCount_16 : decode cJ9_bitCount 16 = .ok (.iconst 2, 1) := dk_5 (dk_at dksJ9_bitCount_0 16 rfl rfl)
theorem dJ9_bitCount_17 : decode cJ9_bitCount 17 = .ok (.iushr, 1) := dk_124 (dk_at dksJ9_bitCount_0 17 rfl rfl)
theorem dJ9_bitCount_18 : decode cJ9_bitCount 18 = .ok (.ldc_w 266, 3) := dk_19 1 10 (dk_at dksJ9_bitCount_0 18 rfl rfl)
theorem dJ9_bitCount_21 : decode cJ9_bitCount 21 = .ok (.iand, 1) := dk_126 (dk_at dksJ9_bitCount_0 21 rfl rfl)
theorem dJ9_bitCount_22 : decode cJ9_bitCount 22 = .ok (.iadd, 1) := dk_96 (dk_at dksJ9_bitCount_0 22 rfl rfl)
theorem dJ9_bitCount_23 : decode cJ9_bitCount 23 = .ok (.istore_n 0, 1) := dk_59 (dk_at dksJ9_bitCount_0 23 rfl rfl)
theorem dJ9_bitCount_24 : decode cJ9_bitCount 24 = .ok (.iload_n 0, 1) := dk_26 (dk_at dksJ9_bitCount_1 0 rfl rfl)
theorem dJ9_bitCount_25 : decode cJ9_bitCount 25 = .ok (.iload_n 0, 1) := dk_26 (dk_at dksJ9_bitCount_1 1 rfl rfl)
theorem dJ9_bitCount_26 : decode cJ9_bitCount 26 = .ok (.iconst 4, 1) := dk_7 (dk_at dksJ9_bitCount_1 2 rfl rfl)
theorem dJ9_bitCount_27 : decode cJ9_bitCount 27 = .ok (.iushr, 1) := dk_124 (dk_at dksJ9_bitCount_1 3 rfl rfl)
theorem dJ9_bitCount_28 : decode cJ9_bitCount 28 = .ok (.iadd, 1) := dk_96 (dk_at dksJ9_bitCount_1 4 rfl rfl)
theorem dJ9_bitCount_29 : decode cJ9_bitCount 29 = .ok (.ldc_w 267, 3) := dk_19 1 11 (dk_at dksJ9_bitCount_1 5 rfl rfl)
theorem dJ9_bitCount_32 : decode cJ9_bitCount 32 = .ok (.iand, 1) := dk_126 (dk_at dksJ9_bitCount_1 8 rfl rfl)
theorem dJ9_bitCount_33 : decode cJ9_bitCount 33 = .ok (.istore_n 0, 1) := dk_59 (dk_at dksJ9_bitCount_1 9 rfl rfl)
theorem dJ9_bitCount_34 : decode cJ9_bitCount 34 = .ok (.iload_n 0, 1) := dk_26 (dk_at dksJ9_bitCount_1 10 rfl rfl)
theorem dJ9_bitCount_35 : decode cJ9_bitCount 35 = .ok (.iload_n 0, 1) := dk_26 (dk_at dksJ9_bitCount_1 11 rfl rfl)
theorem dJ9_bitCount_36 : decode cJ9_bitCount 36 = .ok (.bipush 8, 2) := dk_16 8 (dk_at dksJ9_bitCount_1 12 rfl rfl)
theorem dJ9_bitCount_38 : decode cJ9_bitCount 38 = .ok (.iushr, 1) := dk_124 (dk_at dksJ9_bitCount_1 14 rfl rfl)
theorem dJ9_bitCount_39 : decode cJ9_bitCount 39 = .ok (.iadd, 1) := dk_96 (dk_at dksJ9_bitCount_1 15 rfl rfl)
theorem dJ9_bitCount_40 : decode cJ9_bitCount 40 = .ok (.istore_n 0, 1) := dk_59 (dk_at dksJ9_bitCount_1 16 rfl rfl)
theorem dJ9_bitCount_41 : decode cJ9_bitCount 41 = .ok (.iload_n 0, 1) := dk_26 (dk_at dksJ9_bitCount_1 17 rfl rfl)
theorem dJ9_bitCount_42 : decode cJ9_bitCount 42 = .ok (.iload_n 0, 1) := dk_26 (dk_at dksJ9_bitCount_1 18 rfl rfl)
theorem dJ9_bitCount_43 : decode cJ9_bitCount 43 = .ok (.bipush 16, 2) := dk_16 16 (dk_at dksJ9_bitCount_1 19 rfl rfl)
theorem dJ9_bitCount_45 : decode cJ9_bitCount 45 = .ok (.iushr, 1) := dk_124 (dk_at dksJ9_bitCount_1 21 rfl rfl)
theorem dJ9_bitCount_46 : decode cJ9_bitCount 46 = .ok (.iadd, 1) := dk_96 (dk_at dksJ9_bitCount_1 22 rfl rfl)
theorem dJ9_bitCount_47 : decode cJ9_bitCount 47 = .ok (.istore_n 0, 1) := dk_59 (dk_at dksJ9_bitCount_1 23 rfl rfl)
theorem dJ9_bitCount_48 : decode cJ9_bitCount 48 = .ok (.iload_n 0, 1) := dk_26 (dk_at dksJ9_bitCount_2 0 rfl rfl)
theorem dJ9_bitCount_49 : decode cJ9_bitCount 49 = .ok (.bipush 63, 2) := dk_16 63 (dk_at dksJ9_bitCount_2 1 rfl rfl)
theorem dJ9_bitCount_51 : decode cJ9_bitCount 51 = .ok (.iand, 1) := dk_126 (dk_at dksJ9_bitCount_2 3 rfl rfl)
theorem dJ9_bitCount_52 : decode cJ9_bitCount 52 = .ok (.ireturn, 1) := dk_172 (dk_at dksJ9_bitCount_2 4 rfl rfl)
abbrev cJ9_toString : ByteArray := prog_27_method_10_code
def yJ9_toString : MethodName := ⟨RJ9, "toString", "(I)Ljava/lang/String;"⟩
def dkwJ9_toString_2 : List UInt8 := [187, 0, 5, 89, 44, 4, 183, 0, 65, 176]
abbrev dktJ9_toString_2 : List UInt8 := dkwJ9_toString_2 ++ []
def dkwJ9_toString_1 : List UInt8 := [187, 0, 5, 89, 44, 3, 183, 0, 65, 176, 27, 5, 104, 188, 8, 77, 26, 27, 44, 184, 0, 79, 87]
abbrev dktJ9_toString_1 : List UInt8 := dkwJ9_toString_1 ++ dktJ9_toString_2
def dkwJ9_toString_0 : List UInt8 := [26, 184, 0, 72, 60, 178, 0, 13, 153, 0, 24, 27, 188, 8, 77, 26, 27, 44, 184, 0, 75, 87]
abbrev dktJ9_toString_0 : List UInt8 := dkwJ9_toString_0 ++ dktJ9_toString_1
theorem dksJ9_toString_0 : cJ9_toString.data.toList.drop 0 = dktJ9_toString_0 := by decide +kernel
theorem dksJ9_toString_1 : cJ9_toString.data.toList.drop 22 = dktJ9_toString_1 := dk_seg dksJ9_toString_0 22 rfl rfl
theorem dksJ9_toString_2 : cJ9_toString.data.toList.drop 45 = dktJ9_toString_2 := dk_seg dksJ9_toString_1 23 rfl rfl
theorem dJ9_toString_0 : decode cJ9_toString 0 = .ok (.iload_n 0, 1) := dk_26 (dk_at dksJ9_toString_0 0 rfl rfl)
theorem dJ9_toString_1 : decode cJ9_toString 1 = .ok (.invokestatic 72, 3) := dk_184 0 72 (dk_at dksJ9_toString_0 1 rfl rfl)
theorem dJ9_toString_4 : decode cJ9_toString 4 = .ok (.istore_n 1, 1) := dk_60 (dk_at dksJ9_toString_0 4 rfl rfl)
theorem dJ9_toString_5 : decode cJ9_toString 5 = .ok (.getstatic 13, 3) := dk_178 0 13 (dk_at dksJ9_toString_0 5 rfl rfl)
theorem dJ9_toString_8 : decode cJ9_toString 8 = .ok (.ifCond .eq 24, 3) := dk_153 0 24 (dk_at dksJ9_toString_0 8 rfl rfl)
theorem dJ9_toString_11 : decode cJ9_toString 11 = .ok (.iload_n 1, 1) := dk_27 (dk_at dksJ9_toString_0 11 rfl rfl)
theorem dJ9_toString_12 : decode cJ9_toString 12 = .ok (.newarray .byte, 2) := dk_188_8 (dk_at dksJ9_toString_0 12 rfl rfl)
theorem dJ9_toString_14 : decode cJ9_toString 14 = .ok (.astore_n 2, 1) := dk_77 (dk_at dksJ9_toString_0 14 rfl rfl)
theorem dJ9_toString_15 : decode cJ9_toString 15 = .ok (.iload_n 0, 1) := dk_26 (dk_at dksJ9_toString_0 15 rfl rfl)
theorem dJ9_toString_16 : decode cJ9_toString 16 = .ok (.iload_n 1, 1) := dk_27 (dk_at dksJ9_toString_0 16 rfl rfl)
theorem dJ9_toString_17 : decode cJ9_toString 17 = .ok (.aload_n 2, 1) := dk_44 (dk_at dksJ9_toString_0 17 rfl rfl)
theorem dJ9_toString_18 : decode cJ9_toString 18 = .ok (.invokestatic 75, 3) := dk_184 0 75 (dk_at dksJ9_toString_0 18 rfl rfl)
theorem dJ9_toString_21 : decode cJ9_toString 21 = .ok (.pop, 1) := dk_87 (dk_at dksJ9_toString_0 21 rfl rfl)
theorem dJ9_toString_22 : decode cJ9_toString 22 = .ok (.new 5, 3) := dk_187 0 5 (dk_at dksJ9_toString_1 0 rfl rfl)
theorem dJ9_toString_25 : decode cJ9_toString 25 = .ok (.dup, 1) := dk_89 (dk_at dksJ9_toString_1 3 rfl rfl)
theorem dJ9_toString_26 : decode cJ9_toString 26 = .ok (.aload_n 2, 1) := dk_44 (dk_at dksJ9_toString_1 4 rfl rfl)
theorem dJ9_toString_27 : decode cJ9_toString 27 = .ok (.iconst 0, 1) := dk_3 (dk_at dksJ9_toString_1 5 rfl rfl)
theorem dJ9_toString_28 : decode cJ9_toString 28 = .ok (.invokespecial 65, 3) := dk_183 0 65 (dk_at dksJ9_toString_1 6 rfl rfl)
theorem dJ9_toString_31 : decode cJ9_toString 31 = .ok (.areturn, 1) := dk_176 (dk_at dksJ9_toString_1 9 rfl rfl)
theorem dJ9_toString_32 : decode cJ9_toString 32 = .ok (.iload_n 1, 1) := dk_27 (dk_at dksJ9_toString_1 10 rfl rfl)
theorem dJ9_toString_33 : decode cJ9_toString 33 = .ok (.iconst 2, 1) := dk_5 (dk_at dksJ9_toString_1 11 rfl rfl)
theorem dJ9_toString_34 : decode cJ9_toString 34 = .ok (.imul, 1) := dk_104 (dk_at dksJ9_toString_1 12 rfl rfl)
theorem dJ9_toString_35 : decode cJ9_toString 35 = .ok (.newarray .byte, 2) := dk_188_8 (dk_at dksJ9_toString_1 13 rfl rfl)
theorem dJ9_toString_37 : decode cJ9_toString 37 = .ok (.astore_n 2, 1) := dk_77 (dk_at dksJ9_toString_1 15 rfl rfl)
theorem dJ9_toString_38 : decode cJ9_toString 38 = .ok (.iload_n 0, 1) := dk_26 (dk_at dksJ9_toString_1 16 rfl rfl)
theorem dJ9_toString_39 : decode cJ9_toString 39 = .ok (.iload_n 1, 1) := dk_27 (dk_at dksJ9_toString_1 17 rfl rfl)
theorem dJ9_toString_40 : decode cJ9_toString 40 = .ok (.aload_n 2, 1) := dk_44 (dk_at dksJ9_toString_1 18 rfl rfl)
theorem dJ9_toString_41 : decode cJ9_toString 41 = .ok (.invokestatic 79, 3) := dk_184 0 79 (dk_at dksJ9_toString_1 19 rfl rfl)
theorem dJ9_toString_44 : decode cJ9_toString 44 = .ok (.pop, 1) := dk_87 (dk_at dksJ9_toString_1 22 rfl rfl)
theorem dJ9_toString_45 : decode cJ9_toString 45 = .ok (.new 5, 3) := dk_187 0 5 (dk_at dksJ9_toString_2 0 rfl rfl)
theorem dJ9_toString_48 : decode cJ9_toString 48 = .ok (.dup, 1) := dk_89 (dk_at dksJ9_toString_2 3 rfl rfl)
theorem dJ9_toString_49 : decode cJ9_toString 49 = .ok (.aload_n 2, 1) := dk_44 (dk_at dksJ9_toString_2 4 rfl rfl)
theorem dJ9_toString_50 : decode cJ9_toString 50 = .ok (.iconst 1, 1) := dk_4 (dk_at dksJ9_toString_2 5 rfl rfl)
theorem dJ9_toString_51 : decode cJ9_toString 51 = .ok (.invokespecial 65, 3) := dk_183 0 65 (dk_at dksJ9_toString_2 6 rfl rfl)
theorem dJ9_toString_54 : decode cJ9_toString 54 = .ok (.areturn, 1) := dk_176 (dk_at dksJ9_toString_2 9 rfl rfl)
abbrev cJ9_stringSize : ByteArray := prog_27_method_13_code
def yJ9_stringSize : MethodName := ⟨RJ9, "stringSize", "(I)I"⟩
def dkwJ9_stringSize_1 : List UInt8 := [164, 0, 7, 29, 27, 96, 172, 16, 10, 28, 104, 61, 132, 3, 1, 167, 255, 233, 16, 10, 27, 96, 172]
abbrev dktJ9_stringSize_1 : List UInt8 := dkwJ9_stringSize_1 ++ []
def dkwJ9_stringSize_0 : List UInt8 := [4, 60, 26, 155, 0, 8, 3, 60, 26, 116, 59, 16, 246, 61, 4, 62, 29, 16, 10, 162, 0, 23, 26, 28]
abbrev dktJ9_stringSize_0 : List UInt8 := dkwJ9_stringSize_0 ++ dktJ9_stringSize_1
theorem dksJ9_stringSize_0 : cJ9_stringSize.data.toList.drop 0 = dktJ9_stringSize_0 := by decide +kernel
theorem dksJ9_stringSize_1 : cJ9_stringSize.data.toList.drop 24 = dktJ9_stringSize_1 := dk_seg dksJ9_stringSize_0 24 rfl rfl
theorem dJ9_stringSize_0 : decode cJ9_stringSize 0 = .ok (.iconst 1, 1) := dk_4 (dk_at dksJ9_stringSize_0 0 rfl rfl)
theorem dJ9_stringSize_1 : decode cJ9_stringSize 1 = .ok (.istore_n 1, 1) := dk_60 (dk_at dksJ9_stringSize_0 1 rfl rfl)
theorem dJ9_stringSize_2 : decode cJ9_stringSize 2 = .ok (.iload_n 0, 1) := dk_26 (dk_at dksJ9_stringSize_0 2 rfl rfl)
theorem dJ9_stringSize_3 : decode cJ9_stringSize 3 = .ok (.ifCond .lt 8, 3) := dk_155 0 8 (dk_at dksJ9_stringSize_0 3 rfl rfl)
theorem dJ9_stringSize_6 : decode cJ9_stringSize 6 = .ok (.iconst 0, 1) := dk_3 (dk_at dksJ9_stringSize_0 6 rfl rfl)
theorem dJ9_stringSize_7 : decode cJ9_stringSize 7 = .ok (.istore_n 1, 1) := dk_60 (dk_at dksJ9_stringSize_0 7 rfl rfl)
theorem dJ9_stringSize_8 : decode cJ9_stringSize 8 = .ok (.iload_n 0, 1) := dk_26 (dk_at dksJ9_stringSize_0 8 rfl rfl)
theorem dJ9_stringSize_9 : decode cJ9_stringSize 9 = .ok (.ineg, 1) := dk_116 (dk_at dksJ9_stringSize_0 9 rfl rfl)
theorem dJ9_stringSize_10 : decode cJ9_stringSize 10 = .ok (.istore_n 0, 1) := dk_59 (dk_at dksJ9_stringSize_0 10 rfl rfl)
theorem dJ9_stringSize_11 : decode cJ9_stringSize 11 = .ok (.bipush (-10), 2) := dk_16 246 (dk_at dksJ9_stringSize_0 11 rfl rfl)
theorem dJ9_stringSize_13 : decode cJ9_stringSize 13 = .ok (.istore_n 2, 1) := dk_61 (dk_at dksJ9_stringSize_0 13 rfl rfl)
theorem dJ9_stringSize_14 : decode cJ9_stringSize 14 = .ok (.iconst 1, 1) := dk_4 (dk_at dksJ9_stringSize_0 14 rfl rfl)
theorem dJ9_stringSize_15 : decode cJ9_stringSize 15 = .ok (.istore_n 3, 1) := dk_62 (dk_at dksJ9_stringSize_0 15 rfl rfl)
theorem dJ9_stringSize_16 : decode cJ9_stringSize 16 = .ok (.iload_n 3, 1) := dk_29 (dk_at dksJ9_stringSize_0 16 rfl rfl)
theorem dJ9_stringSize_17 : decode cJ9_stringSize 17 = .ok (.bipush 10, 2) := dk_16 10 (dk_at dksJ9_stringSize_0 17 rfl rfl)
theorem dJ9_stringSize_19 : decode cJ9_stringSize 19 = .ok (.if_icmp .ge 23, 3) := dk_162 0 23 (dk_at dksJ9_stringSize_0 19 rfl rfl)
theorem dJ9_stringSize_22 : decode cJ9_stringSize 22 = .ok (.iload_n 0, 1) := dk_26 (dk_at dksJ9_stringSize_0 22 rfl rfl)
theorem dJ9_stringSize_23 : decode cJ9_stringSize 23 = .ok (.iload_n 2, 1) := dk_28 (dk_at dksJ9_stringSize_0 23 rfl rfl)
theorem dJ9_stringSize_24 : decode cJ9_stringSize 24 = .ok (.if_icmp .le 7, 3) := dk_164 0 7 (dk_at dksJ9_stringSize_1 0 rfl rfl)
theorem dJ9_stringSize_27 : decode cJ9_stringSize 27 = .ok (.iload_n 3, 1) := dk_29 (dk_at dksJ9_stringSize_1 3 rfl rfl)
theorem dJ9_stringSize_28 : decode cJ9_stringSize 28 = .ok (.iload_n 1, 1) := dk_27 (dk_at dksJ9_stringSize_1 4 rfl rfl)
theorem dJ9_stringSize_29 : decode cJ9_stringSize 29 = .ok (.iadd, 1) := dk_96 (dk_at dksJ9_stringSize_1 5 rfl rfl)
theorem dJ9_stringSize_30 : decode cJ9_stringSize 30 = .ok (.ireturn, 1) := dk_172 (dk_at dksJ9_stringSize_1 6 rfl rfl)
theorem dJ9_stringSize_31 : decode cJ9_stringSize 31 = .ok (.bipush 10, 2) := dk_16 10 (dk_at dksJ9_stringSize_1 7 rfl rfl)
theorem dJ9_stringSize_33 : decode cJ9_stringSize 33 = .ok (.iload_n 2, 1) := dk_28 (dk_at dksJ9_stringSize_1 9 rfl rfl)
theorem dJ9_stringSize_34 : decode cJ9_stringSize 34 = .ok (.imul, 1) := dk_104 (dk_at dksJ9_stringSize_1 10 rfl rfl)
theorem dJ9_stringSize_35 : decode cJ9_stringSize 35 = .ok (.istore_n 2, 1) := dk_61 (dk_at dksJ9_stringSize_1 11 rfl rfl)
theorem dJ9_stringSize_36 : decode cJ9_stringSize 36 = .ok (.iinc 3 1, 3) := dk_132 3 1 (dk_at dksJ9_stringSize_1 12 rfl rfl)
theorem dJ9_stringSize_39 : decode cJ9_stringSize 39 = .ok (.goto (-23), 3) := dk_167 255 233 (dk_at dksJ9_stringSize_1 15 rfl rfl)
theorem dJ9_stringSize_42 : decode cJ9_stringSize 42 = .ok (.bipush 10, 2) := dk_16 10 (dk_at dksJ9_stringSize_1 18 rfl rfl)
theorem dJ9_stringSize_44 : decode cJ9_stringSize 44 = .ok (.iload_n 1, 1) := dk_27 (dk_at dksJ9_stringSize_1 20 rfl rfl)
theorem dJ9_stringSize_45 : decode cJ9_stringSize 45 = .ok (.iadd, 1) := dk_96 (dk_at dksJ9_stringSize_1 21 rfl rfl)
theorem dJ9_stringSize_46 : decode cJ9_stringSize 46 = .ok (.ireturn, 1) := dk_172 (dk_at dksJ9_stringSize_1 22 rfl rfl)
abbrev cJ9_getChars : ByteArray := prog_27_method_12_code
def yJ9_getChars : MethodName := ⟨RJ9, "getChars", "(II[B)I"⟩
def dkwJ9_getChars_5 : List UInt8 := [16, 45, 84, 21, 5, 172]
abbrev dktJ9_getChars_5 : List UInt8 := dkwJ9_getChars_5 ++ []
def dkwJ9_getChars_4 : List UInt8 := [132, 5, 255, 21, 5, 178, 0, 87, 26, 116, 51, 84, 21, 6, 153, 0, 12, 44, 132, 5, 255, 21, 5]
abbrev dktJ9_getChars_4 : List UInt8 := dkwJ9_getChars_4 ++ dktJ9_getChars_5
def dkwJ9_getChars_3 : List UInt8 := [167, 255, 209, 44, 132, 5, 255, 21, 5, 178, 0, 83, 26, 116, 51, 84, 26, 16, 247, 162, 0, 16, 44]
abbrev dktJ9_getChars_3 : List UInt8 := dkwJ9_getChars_3 ++ dktJ9_getChars_4
def dkwJ9_getChars_2 : List UInt8 := [21, 5, 178, 0, 83, 21, 4, 51, 84, 44, 132, 5, 255, 21, 5, 178, 0, 87, 21, 4, 51, 84]
abbrev dktJ9_getChars_2 : List UInt8 := dkwJ9_getChars_2 ++ dktJ9_getChars_3
def dkwJ9_getChars_1 : List UInt8 := [16, 156, 163, 0, 47, 26, 16, 100, 108, 62, 29, 16, 100, 104, 26, 100, 54, 4, 29, 59, 44, 132, 5, 255]
abbrev dktJ9_getChars_1 : List UInt8 := dkwJ9_getChars_1 ++ dktJ9_getChars_2
def dkwJ9_getChars_0 : List UInt8 := [27, 54, 5, 26, 156, 0, 7, 4, 167, 0, 4, 3, 54, 6, 21, 6, 154, 0, 6, 26, 116, 59, 26]
abbrev dktJ9_getChars_0 : List UInt8 := dkwJ9_getChars_0 ++ dktJ9_getChars_1
theorem dksJ9_getChars_0 : cJ9_getChars.data.toList.drop 0 = dktJ9_getChars_0 := by decide +kernel
theorem dksJ9_getChars_1 : cJ9_getChars.data.toList.drop 23 = dktJ9_getChars_1 := dk_seg dksJ9_getChars_0 23 rfl rfl
theorem dksJ9_getChars_2 : cJ9_getChars.data.toList.drop 47 = dktJ9_getChars_2 := dk_seg dksJ9_getChars_1 24 rfl rfl
theorem dksJ9_getChars_3 : cJ9_getChars.data.toList.drop 69 = dktJ9_getChars_3 := dk_seg dksJ9_getChars_2 22 rfl rfl
theorem dksJ9_getChars_4 : cJ9_getChars.data.toList.drop 92 = dktJ9_getChars_4 := dk_seg dksJ9_getChars_3 23 rfl rfl
theorem dksJ9_getChars_5 : cJ9_getChars.data.toList.drop 115 = dktJ9_getChars_5 := dk_seg dksJ9_getChars_4 23 rfl rfl
theorem dJ9_getChars_0 : decode cJ9_getChars 0 = .ok (.iload_n 1, 1) := dk_27 (dk_at dksJ9_getChars_0 0 rfl rfl)
theorem dJ9_getChars_1 : decode cJ9_getChars 1 = .ok (.istore 5, 2) := dk_54 5 (dk_at dksJ9_getChars_0 1 rfl rfl)
theorem dJ9_getChars_3 : decode cJ9_getChars 3 = .ok (.iload_n 0, 1) := dk_26 (dk_at dksJ9_getChars_0 3 rfl rfl)
theorem dJ9_getChars_4 : decode cJ9_getChars 4 = .ok (.ifCond .ge 7, 3) := dk_156 0 7 (dk_at dksJ9_getChars_0 4 rfl rfl)
theorem dJ9_getChars_7 : decode cJ9_getChars 7 = .ok (.iconst 1, 1) := dk_4 (dk_at dksJ9_getChars_0 7 rfl rfl)
theorem dJ9_getChars_8 : decode cJ9_getChars 8 = .ok (.goto 4, 3) := dk_167 0 4 (dk_at dksJ9_getChars_0 8 rfl rfl)
theorem dJ9_getChars_11 : decode cJ9_getChars 11 = .ok (.iconst 0, 1) := dk_3 (dk_at dksJ9_getChars_0 11 rfl rfl)
theorem dJ9_getChars_12 : decode cJ9_getChars 12 = .ok (.istore 6, 2) := dk_54 6 (dk_at dksJ9_getChars_0 12 rfl rfl)
theorem dJ9_getChars_14 : decode cJ9_getChars 14 = .ok (.iload 6, 2) := dk_21 6 (dk_at dksJ9_getChars_0 14 rfl rfl)
theorem dJ9_getChars_16 : decode cJ9_getChars 16 = .ok (.ifCond .ne 6, 3) := dk_154 0 6 (dk_at dksJ9_getChars_0 16 rfl rfl)
theorem dJ9_getChars_19 : decode cJ9_getChars 19 = .ok (.iload_n 0, 1) := dk_26 (dk_at dksJ9_getChars_0 19 rfl rfl)
theorem dJ9_getChars_20 : decode cJ9_getChars 20 = .ok (.ineg, 1) := dk_116 (dk_at dksJ9_getChars_0 20 rfl rfl)
theorem dJ9_getChars_21 : decode cJ9_getChars 21 = .ok (.istore_n 0, 1) := dk_59 (dk_at dksJ9_getChars_0 21 rfl rfl)
theorem dJ9_getChars_22 : decode cJ9_getChars 22 = .ok (.iload_n 0, 1) := dk_26 (dk_at dksJ9_getChars_0 22 rfl rfl)
theorem dJ9_getChars_23 : decode cJ9_getChars 23 = .ok (.bipush (-100), 2) := dk_16 156 (dk_at dksJ9_getChars_1 0 rfl rfl)
theorem dJ9_getChars_25 : decode cJ9_getChars 25 = .ok (.if_icmp .gt 47, 3) := dk_163 0 47 (dk_at dksJ9_getChars_1 2 rfl rfl)
theorem dJ9_getChars_28 : decode cJ9_getChars 28 = .ok (.iload_n 0, 1) := dk_26 (dk_at dksJ9_getChars_1 5 rfl rfl)
theorem dJ9_getChars_29 : decode cJ9_getChars 29 = .ok (.bipush 100, 2) := dk_16 100 (dk_at dksJ9_getChars_1 6 rfl rfl)
theorem dJ9_getChars_31 : decode cJ9_getChars 31 = .ok (.idiv, 1) := dk_108 (dk_at dksJ9_getChars_1 8 rfl rfl)
theorem dJ9_getChars_32 : decode cJ9_getChars 32 = .ok (.istore_n 3, 1) := dk_62 (dk_at dksJ9_getChars_1 9 rfl rfl)
theorem dJ9_getChars_33 : decode cJ9_getChars 33 = .ok (.iload_n 3, 1) := dk_29 (dk_at dksJ9_getChars_1 10 rfl rfl)
theorem dJ9_getChars_34 : decode cJ9_getChars 34 = .ok (.bipush 100, 2) := dk_16 100 (dk_at dksJ9_getChars_1 11 rfl rfl)
theorem dJ9_getChars_36 : decode cJ9_getChars 36 = .ok (.imul, 1) := dk_104 (dk_at dksJ9_getChars_1 13 rfl rfl)
theorem dJ9_getChars_37 : decode cJ9_getChars 37 = .ok (.iload_n 0, 1) := dk_26 (dk_at dksJ9_getChars_1 14 rfl rfl)
theorem dJ9_getChars_38 : decode cJ9_getChars 38 = .ok (.isub, 1) := dk_100 (dk_at dksJ9_getChars_1 15 rfl rfl)
theorem dJ9_getChars_39 : decode cJ9_getChars 39 = .ok (.istore 4, 2) := dk_54 4 (dk_at dksJ9_getChars_1 16 rfl rfl)
theorem dJ9_getChars_41 : decode cJ9_getChars 41 = .ok (.iload_n 3, 1) := dk_29 (dk_at dksJ9_getChars_1 18 rfl rfl)
theorem dJ9_getChars_42 : decode cJ9_getChars 42 = .ok (.istore_n 0, 1) := dk_59 (dk_at dksJ9_getChars_1 19 rfl rfl)
theorem dJ9_getChars_43 : decode cJ9_getChars 43 = .ok (.aload_n 2, 1) := dk_44 (dk_at dksJ9_getChars_1 20 rfl rfl)
theorem dJ9_getChars_44 : decode cJ9_getChars 44 = .ok (.iinc 5 (-1), 3) := dk_132 5 255 (dk_at dksJ9_getChars_1 21 rfl rfl)
theorem dJ9_getChars_47 : decode cJ9_getChars 47 = .ok (.iload 5, 2) := dk_21 5 (dk_at dksJ9_getChars_2 0 rfl rfl)
theorem dJ9_getChars_49 : decode cJ9_getChars 49 = .ok (.getstatic 83, 3) := dk_178 0 83 (dk_at dksJ9_getChars_2 2 rfl rfl)
theorem dJ9_getChars_52 : decode cJ9_getChars 52 = .ok (.iload 4, 2) := dk_21 4 (dk_at dksJ9_getChars_2 5 rfl rfl)
theorem dJ9_getChars_54 : decode cJ9_getChars 54 = .ok (.baload, 1) := dk_51 (dk_at dksJ9_getChars_2 7 rfl rfl)
theorem dJ9_getChars_55 : decode cJ9_getChars 55 = .ok (.bastore, 1) := dk_84 (dk_at dksJ9_getChars_2 8 rfl rfl)
theorem dJ9_getChars_56 : decode cJ9_getChars 56 = .ok (.aload_n 2, 1) := dk_44 (dk_at dksJ9_getChars_2 9 rfl rfl)
theorem dJ9_getChars_57 : decode cJ9_getChars 57 = .ok (.iinc 5 (-1), 3) := dk_132 5 255 (dk_at dksJ9_getChars_2 10 rfl rfl)
theorem dJ9_getChars_60 : decode cJ9_getChars 60 = .ok (.iload 5, 2) := dk_21 5 (dk_at dksJ9_getChars_2 13 rfl rfl)
theorem dJ9_getChars_62 : decode cJ9_getChars 62 = .ok (.getstatic 87, 3) := dk_178 0 87 (dk_at dksJ9_getChars_2 15 rfl rfl)
theorem dJ9_getChars_65 : decode cJ9_getChars 65 = .ok (.iload 4, 2) := dk_21 4 (dk_at dksJ9_getChars_2 18 rfl rfl)
theorem dJ9_getChars_67 : decode cJ9_getChars 67 = .ok (.baload, 1) := dk_51 (dk_at dksJ9_getChars_2 20 rfl rfl)
theorem dJ9_getChars_68 : decode cJ9_getChars 68 = .ok (.bastore, 1) := dk_84 (dk_at dksJ9_getChars_2 21 rfl rfl)
theorem dJ9_getChars_69 : decode cJ9_getChars 69 = .ok (.goto (-47), 3) := dk_167 255 209 (dk_at dksJ9_getChars_3 0 rfl rfl)
theorem dJ9_getChars_72 : decode cJ9_getChars 72 = .ok (.aload_n 2, 1) := dk_44 (dk_at dksJ9_getChars_3 3 rfl rfl)
theorem dJ9_getChars_73 : decode cJ9_getChars 73 = .ok (.iinc 5 (-1), 3) := dk_132 5 255 (dk_at dksJ9_getChars_3 4 rfl rfl)
theorem dJ9_getChars_76 : decode cJ9_getChars 76 = .ok (.iload 5, 2) := dk_21 5 (dk_at dksJ9_getChars_3 7 rfl rfl)
theorem dJ9_getChars_78 : decode cJ9_getChars 78 = .ok (.getstatic 83, 3) := dk_178 0 83 (dk_at dksJ9_getChars_3 9 rfl rfl)
theorem dJ9_getChars_81 : decode cJ9_getChars 81 = .ok (.iload_n 0, 1) := dk_26 (dk_at dksJ9_getChars_3 12 rfl rfl)
theorem dJ9_getChars_82 : decode cJ9_getChars 82 = .ok (.ineg, 1) := dk_116 (dk_at dksJ9_getChars_3 13 rfl rfl)
theorem dJ9_getChars_83 : decode cJ9_getChars 83 = .ok (.baload, 1) := dk_51 (dk_at dksJ9_getChars_3 14 rfl rfl)
theorem dJ9_getChars_84 : decode cJ9_getChars 84 = .ok (.bastore, 1) := dk_84 (dk_at dksJ9_getChars_3 15 rfl rfl)
theorem dJ9_getChars_85 : decode cJ9_getChars 85 = .ok (.iload_n 0, 1) := dk_26 (dk_at dksJ9_getChars_3 16 rfl rfl)
theorem dJ9_getChars_86 : decode cJ9_getChars 86 = .ok (.bipush (-9), 2) := dk_16 247 (dk_at dksJ9_getChars_3 17 rfl rfl)
theorem dJ9_getChars_88 : decode cJ9_getChars 88 = .ok (.if_icmp .ge 16, 3) := dk_162 0 16 (dk_at dksJ9_getChars_3 19 rfl rfl)
theorem dJ9_getChars_91 : decode cJ9_getChars 91 = .ok (.aload_n 2, 1) := dk_44 (dk_at dksJ9_getChars_3 22 rfl rfl)
theorem dJ9_getChars_92 : decode cJ9_getChars 92 = .ok (.iinc 5 (-1), 3) := dk_132 5 255 (dk_at dksJ9_getChars_4 0 rfl rfl)
theorem dJ9_getChars_95 : decode cJ9_getChars 95 = .ok (.iload 5, 2) := dk_21 5 (dk_at dksJ9_getChars_4 3 rfl rfl)
theorem dJ9_getChars_97 : decode cJ9_getChars 97 = .ok (.getstatic 87, 3) := dk_178 0 87 (dk_at dksJ9_getChars_4 5 rfl rfl)
theorem dJ9_getChars_100 : decode cJ9_getChars 100 = .ok (.iload_n 0, 1) := dk_26 (dk_at dksJ9_getChars_4 8 rfl rfl)
theorem dJ9_getChars_101 : decode cJ9_getChars 101 = .ok (.ineg, 1) := dk_116 (dk_at dksJ9_getChars_4 9 rfl rfl)
theorem dJ9_getChars_102 : decode cJ9_getChars 102 = .ok (.baload, 1) := dk_51 (dk_at dksJ9_getChars_4 10 rfl rfl)
theorem dJ9_getChars_103 : decode cJ9_getChars 103 = .ok (.bastore, 1) := dk_84 (dk_at dksJ9_getChars_4 11 rfl rfl)
theorem dJ9_getChars_104 : decode cJ9_getChars 104 = .ok (.iload 6, 2) := dk_21 6 (dk_at dksJ9_getChars_4 12 rfl rfl)
theorem dJ9_getChars_106 : decode cJ9_getChars 106 = .ok (.ifCond .eq 12, 3) := dk_153 0 12 (dk_at dksJ9_getChars_4 14 rfl rfl)
theorem dJ9_getChars_109 : decode cJ9_getChars 109 = .ok (.aload_n 2, 1) := dk_44 (dk_at dksJ9_getChars_4 17 rfl rfl)
theorem dJ9_getChars_110 : decode cJ9_getChars 110 = .ok (.iinc 5 (-1), 3) := dk_132 5 255 (dk_at dksJ9_getChars_4 18 rfl rfl)
theorem dJ9_getChars_113 : decode cJ9_getChars 113 = .ok (.iload 5, 2) := dk_21 5 (dk_at dksJ9_getChars_4 21 rfl rfl)
theorem dJ9_getChars_115 : decode cJ9_getChars 115 = .ok (.bipush 45, 2) := dk_16 45 (dk_at dksJ9_getChars_5 0 rfl rfl)
theorem dJ9_getChars_117 : decode cJ9_getChars 117 = .ok (.bastore, 1) := dk_84 (dk_at dksJ9_getChars_5 2 rfl rfl)
theorem dJ9_getChars_118 : decode cJ9_getChars 118 = .ok (.iload 5, 2) := dk_21 5 (dk_at dksJ9_getChars_5 3 rfl rfl)
theorem dJ9_getChars_120 : decode cJ9_getChars 120 = .ok (.ireturn, 1) := dk_172 (dk_at dksJ9_getChars_5 5 rfl rfl)
theorem q129 : (Jvm.Cond.initialized "java/lang/Integer") ∈ lw_all := lw_g (lw_at lw_m1 21 rfl) rfl
theorem q903 : (Jvm.Cond.static ({ cls := "java/lang/Integer", name := "bitCount", desc := "(I)I" } : Jvm.MethodName)) ∈ lw_all := lw_g (lw_at lw_m4 75 rfl) rfl
theorem q904 : (Jvm.Cond.code ({ cls := "java/lang/Integer", name := "bitCount", desc := "(I)I" } : Jvm.MethodName) prog_27_method_49_code (1 : Nat) (Option.some Jvm.ClassFile.FieldType.int)) ∈ lw_all := lw_g (lw_at lw_m4 76 rfl) rfl
theorem q905 : (Jvm.Cond.constant "java/lang/Integer" (265 : Nat) (1431655765 : Int32)) ∈ lw_all := lw_g (lw_at lw_m4 77 rfl) rfl
theorem q906 : (Jvm.Cond.constant "java/lang/Integer" (266 : Nat) (858993459 : Int32)) ∈ lw_all := lw_g (lw_at lw_m4 78 rfl) rfl
theorem q907 : (Jvm.Cond.constant "java/lang/Integer" (267 : Nat) (252645135 : Int32)) ∈ lw_all := lw_g (lw_at lw_m4 79 rfl) rfl
theorem q1096 : (Jvm.Cond.static ({ cls := "java/lang/Integer", name := "toString", desc := "(I)Ljava/lang/String;" } : Jvm.MethodName)) ∈ lw_all := lw_g (lw_at lw_m5 28 rfl) rfl
theorem q1097 : (Jvm.Cond.code ({ cls := "java/lang/Integer", name := "toString", desc := "(I)Ljava/lang/String;" } : Jvm.MethodName) prog_27_method_10_code (3 : Nat) (Option.some (Jvm.ClassFile.FieldType.object "java/lang/String"))) ∈ lw_all := lw_g (lw_at lw_m5 29 rfl) rfl
theorem q1098 : (Jvm.Cond.methodLink "java/lang/Integer" (72 : Nat) ({ cls := "java/lang/Integer", name := "stringSize", desc := "(I)I" } : Jvm.MethodName)) ∈ lw_all := lw_g (lw_at lw_m5 30 rfl) rfl
theorem q1099 : (Jvm.Cond.static ({ cls := "java/lang/Integer", name := "stringSize", desc := "(I)I" } : Jvm.MethodName)) ∈ lw_all := lw_g (lw_at lw_m5 31 rfl) rfl
theorem q1100 : (Jvm.Cond.code ({ cls := "java/lang/Integer", name := "stringSize", desc := "(I)I" } : Jvm.MethodName) prog_27_method_13_code (4 : Nat) (Option.some Jvm.ClassFile.FieldType.int)) ∈ lw_all := lw_g (lw_at lw_m5 32 rfl) rfl
theorem q1101 : (Jvm.Cond.fieldLink "java/lang/Integer" (13 : Nat) "java/lang/String" "COMPACT_STRINGS" "Z") ∈ lw_all := lw_g (lw_at lw_m5 33 rfl) rfl
theorem q1102 : (Jvm.Cond.methodLink "java/lang/Integer" (75 : Nat) ({ cls := "java/lang/Integer", name := "getChars", desc := "(II[B)I" } : Jvm.MethodName)) ∈ lw_all := lw_g (lw_at lw_m5 34 rfl) rfl
theorem q1103 : (Jvm.Cond.static ({ cls := "java/lang/Integer", name := "getChars", desc := "(II[B)I" } : Jvm.MethodName)) ∈ lw_all := lw_g (lw_at lw_m5 35 rfl) rfl
theorem q1104 : (Jvm.Cond.code ({ cls := "java/lang/Integer", name := "getChars", desc := "(II[B)I" } : Jvm.MethodName) prog_27_method_12_code (7 : Nat) (Option.some Jvm.ClassFile.FieldType.int)) ∈ lw_all := lw_g (lw_at lw_m5 36 rfl) rfl
theorem q1105 : (Jvm.Cond.fieldLink "java/lang/Integer" (83 : Nat) "java/lang/Integer" "DigitOnes" "[B") ∈ lw_all := lw_g (lw_at lw_m5 37 rfl) rfl
theorem q1106 : (Jvm.Cond.laysStatic "java/lang/Integer" "DigitOnes" "[B") ∈ lw_tbl := lw_at lw_m5 38 rfl
theorem q1107 : (Jvm.Cond.fieldLink "java/lang/Integer" (87 : Nat) "java/lang/Integer" "DigitTens" "[B") ∈ lw_all := lw_g (lw_at lw_m5 39 rfl) rfl
theorem q1108 : (Jvm.Cond.laysStatic "java/lang/Integer" "DigitTens" "[B") ∈ lw_tbl := lw_at lw_m5 40 rfl
theorem q1109 : (Jvm.Cond.classLink "java/lang/Integer" (5 : Nat) "java/lang/String") ∈ lw_all := lw_g (lw_at lw_m5 41 rfl) rfl
theorem q1111 : (Jvm.Cond.methodLink "java/lang/Integer" (65 : Nat) ({ cls := "java/lang/String", name := "<init>", desc := "([BB)V" } : Jvm.MethodName)) ∈ lw_all := lw_g (lw_at lw_m5 43 rfl) rfl
theorem q1126 : (Jvm.Cond.methodLink "java/lang/Integer" (79 : Nat) ({ cls := "java/lang/StringUTF16", name := "getChars", desc := "(II[B)I" } : Jvm.MethodName)) ∈ lw_all := lw_g (lw_at lw_m5 58 rfl) rfl
theorem q1422 : (Jvm.Cond.interfaceMethod "ParlourLeaves$Cond" "ParlourLeaves$Cond" "is" "(LParlourLeaves;I)Z") ∈ lw_tbl := lw_at lw_m6 114 rfl
set_option maxRecDepth 100000
theorem q1423 : (Jvm.Cond.declares ({ cls := "ParlourLeaves$Cond", name := "is", desc := "(LParlourLeaves;I)Z" } : Jvm.MethodName)) ∈ lw_tbl := lw_at lw_m6 115 rfl
theorem q128 : (Jvm.Cond.initialized "java/lang/Number") ∈ lw_all := lw_g (lw_at lw_m1 20 rfl) rfl
set_option maxRecDepth 100000
theorem q118 : (Jvm.Cond.initialized "java/lang/System") ∈ lw_all := lw_g (lw_at lw_m1 10 rfl) rfl
set_option maxRecDepth 100000
theorem q474 : (Jvm.Cond.static ({ cls := "java/lang/System", name := "arraycopy", desc := "(Ljava/lang/Object;ILjava/lang/Object;II)V" } : Jvm.MethodName)) ∈ lw_all := lw_g (lw_at lw_m2 126 rfl) rfl
theorem q475 : (Jvm.Cond.native ({ cls := "java/lang/System", name := "arraycopy", desc := "(Ljava/lang/Object;ILjava/lang/Object;II)V" } : Jvm.MethodName)) ∈ lw_all := lw_g (lw_at lw_m2 127 rfl) rfl
theorem q218 : (Jvm.Cond.arrayClass Jvm.ClassFile.FieldType.byte) ∈ lw_all := lw_g (lw_at lw_m1 110 rfl) rfl
set_option maxRecDepth 100000
theorem q220 : (Jvm.Cond.arrayOver (Jvm.ClassFile.FieldType.object "java/lang/String")) ∈ lw_tbl := lw_at lw_m1 112 rfl
theorem q334 : (Jvm.Cond.arrayClass Jvm.ClassFile.FieldType.long) ∈ lw_all := lw_g (lw_at lw_m1 226 rfl) rfl
theorem q335 : (Jvm.Cond.arrayClass Jvm.ClassFile.FieldType.int) ∈ lw_all := lw_g (lw_at lw_m1 227 rfl) rfl
theorem q448 : (Jvm.Cond.arrayOver (Jvm.ClassFile.FieldType.object "ParlourLeaves$Line")) ∈ lw_tbl := lw_at lw_m2 100 rfl
theorem q479 : (Jvm.Cond.arrayOver (Jvm.ClassFile.FieldType.object "ParlourLeaves$State")) ∈ lw_tbl := lw_at lw_m2 131 rfl
theorem q481 : (Jvm.Cond.arrayOver (Jvm.ClassFile.FieldType.array Jvm.ClassFile.FieldType.int)) ∈ lw_tbl := lw_at lw_m2 133 rfl
theorem q520 : (Jvm.Cond.arrayOver (Jvm.ClassFile.FieldType.object "ParlourLeaves$Kept")) ∈ lw_tbl := lw_at lw_m2 172 rfl
theorem q1706 : (Jvm.Cond.arrayClass Jvm.ClassFile.FieldType.boolean) ∈ lw_all := lw_g (lw_at lw_m7 158 rfl) rfl
