/-! ParlourLeavesModel -/
set_option maxRecDepth 100000
def RX9 : String := "ParlourLeavesModel"
def TX9 : u_T := fun k => match k with
  | 0 => ("ParlourLeavesModel", "thrown", "I", false)
  | 1 => ("ParlourLeavesModel", "tape", "[I", true)
  | 2 => ("ParlourLeavesModel", "taped", "I", false)
  | 3 => ("ParlourLeavesModel", "size", "I", false)
  | 4 => ("ParlourLeavesModel", "limit", "I", false)
  | 5 => ("ParlourLeavesModel", "to", "I", false)
  | 6 => ("ParlourLeavesModel", "from", "I", false)
  | 7 => ("ParlourLeavesModel", "kind", "I", false)
  | 8 => ("ParlourLeavesModel", "number", "I", false)
  | 9 => ("ParlourLeavesModel", "sign", "I", false)
  | 10 => ("ParlourLeavesModel", "fault", "I", false)
  | 11 => ("ParlourLeavesModel", "place", "I", false)
  | 12 => ("ParlourLeavesModel", "word", "J", false)
  | 13 => ("ParlourLeavesModel", "told", "I", false)
  | 14 => ("ParlourLeavesModel", "now", "[I", true)
  | 15 => ("ParlourLeavesModel", "read", "[I", true)
  | 16 => ("ParlourLeavesModel", "kept", "[I", true)
  | 17 => ("ParlourLeavesModel", "snaps", "[I", true)
  | 18 => ("ParlourLeavesModel", "aside", "[I", true)
  | 19 => ("ParlourLeavesModel", "name", "[J", true)
  | 20 => ("ParlourLeavesModel", "readName", "[J", true)
  | 21 => ("ParlourLeavesModel", "keptName", "[J", true)
  | 22 => ("ParlourLeavesModel", "isKept", "[Z", true)
  | 23 => ("ParlourLeavesModel", "onces", "[Z", true)
  | 24 => ("ParlourLeavesModel", "snapMany", "I", false)
  | 25 => ("ParlourLeavesModel", "asking", "I", false)
  | 26 => ("ParlourLeavesModel", "covering", "I", false)
  | 27 => ("ParlourLeavesModel", "steps", "[I", true)
  | 28 => ("ParlourLeavesModel", "walk", "[I", true)
  | 29 => ("ParlourLeavesModel", "walkMany", "I", false)
  | 30 => ("ParlourLeavesModel", "chosen", "[I", true)
  | 31 => ("ParlourLeavesModel", "hasChosen", "Z", false)
  | 32 => ("ParlourLeavesModel", "darkest", "I", false)
  | 33 => ("ParlourLeavesModel", "text", "[I", true)
  | 34 => ("ParlourLeavesModel", "texts", "I", false)
  | 35 => ("ParlourLeavesModel", "seed", "I", false)
  | 36 => ("ParlourLeavesModel", "line", "[I", true)
  | 37 => ("ParlourLeavesModel", "written", "[I", true)
  | 38 => ("ParlourLeavesModel", "lineMany", "I", false)
  | 39 => ("ParlourLeavesModel", "hasWritten", "Z", false)
  | 40 => ("ParlourLeavesModel", "node", "[I", true)
  | 41 => ("ParlourLeavesModel", "nodes", "I", false)
  | 42 => ("ParlourLeavesModel", "onesMany", "I", false)
  | 43 => ("ParlourLeavesModel", "within", "I", false)
  | _ => ("ParlourLeavesModel", "top", "I", false)
def tyX9 : Nat → FieldType := fun k => match k with
  | 0 => .int
  | 1 => .array .int
  | 2 => .int
  | 3 => .int
  | 4 => .int
  | 5 => .int
  | 6 => .int
  | 7 => .int
  | 8 => .int
  | 9 => .int
  | 10 => .int
  | 11 => .int
  | 12 => .long
  | 13 => .int
  | 14 => .array .int
  | 15 => .array .int
  | 16 => .array .int
  | 17 => .array .int
  | 18 => .array .int
  | 19 => .array .long
  | 20 => .array .long
  | 21 => .array .long
  | 22 => .array .boolean
  | 23 => .array .boolean
  | 24 => .int
  | 25 => .int
  | 26 => .int
  | 27 => .array .int
  | 28 => .array .int
  | 29 => .int
  | 30 => .array .int
  | 31 => .boolean
  | 32 => .int
  | 33 => .array .int
  | 34 => .int
  | 35 => .int
  | 36 => .array .int
  | 37 => .array .int
  | 38 => .int
  | 39 => .boolean
  | 40 => .array .int
  | 41 => .int
  | 42 => .int
  | 43 => .int
  | _ => .int
abbrev wsX90 : List Cond := u_ws RX9 TX9 45
set_option maxRecDepth 100000 in
theorem nmX9 : ∀ a, a < 45 → ∀ b, b < 45 → a ≠ b → (TX9 a).2.1 ≠ (TX9 b).2.1 := by decide +kernel
set_option maxRecDepth 100000 in
theorem tyX9_ok : ∀ k, k < 45 → parseFieldDescriptor (TX9 k).2.2.1 = some (tyX9 k) := by decide +kernel
abbrev cX9_thrown : ByteArray := prog_22_method_1_code
def yX9_thrown : MethodName := ⟨RX9, "thrown", "()I"⟩
theorem dX9_thrown_0 : decode cX9_thrown 0 = .ok (.aload_n 0, 1) := by decide +kernel
theorem dX9_thrown_1 : decode cX9_thrown 1 = .ok (.getfield 1, 3) := by decide +kernel
theorem dX9_thrown_4 : decode cX9_thrown 4 = .ok (.ireturn, 1) := by decide +kernel
abbrev cX9_feed : ByteArray := prog_22_method_4_code
def yX9_feed : MethodName := ⟨RX9, "feed", "(IIIII)I"⟩
def dkwX9_feed_2 : List UInt8 := [182, 0, 14, 42, 180, 0, 11, 172]
abbrev dktX9_feed_2 : List UInt8 := dkwX9_feed_2 ++ []
def dkwX9_feed_1 : List UInt8 := [182, 0, 14, 42, 28, 182, 0, 14, 42, 29, 182, 0, 14, 42, 21, 4, 182, 0, 14, 42, 21, 5]
abbrev dktX9_feed_1 : List UInt8 := dkwX9_feed_1 ++ dktX9_feed_2
def dkwX9_feed_0 : List UInt8 := [42, 3, 181, 0, 1, 42, 180, 0, 11, 16, 20, 96, 17, 3, 172, 164, 0, 5, 2, 172, 42, 27]
abbrev dktX9_feed_0 : List UInt8 := dkwX9_feed_0 ++ dktX9_feed_1
theorem dksX9_feed_0 : cX9_feed.data.toList.drop 0 = dktX9_feed_0 := by decide +kernel
theorem dksX9_feed_1 : cX9_feed.data.toList.drop 22 = dktX9_feed_1 := dk_seg dksX9_feed_0 22 rfl rfl
theorem dksX9_feed_2 : cX9_feed.data.toList.drop 44 = dktX9_feed_2 := dk_seg dksX9_feed_1 22 rfl rfl
theorem dX9_feed_0 : decode cX9_feed 0 = .ok (.aload_n 0, 1) := dk_42 (dk_at dksX9_feed_0 0 rfl rfl)
theorem dX9_feed_1 : decode cX9_feed 1 = .ok (.iconst 0, 1) := dk_3 (dk_at dksX9_feed_0 1 rfl rfl)
theorem dX9_feed_2 : decode cX9_feed 2 = .ok (.putfield 1, 3) := dk_181 0 1 (dk_at dksX9_feed_0 2 rfl rfl)
theorem dX9_feed_5 : decode cX9_feed 5 = .ok (.aload_n 0, 1) := dk_42 (dk_at dksX9_feed_0 5 rfl rfl)
theorem dX9_feed_6 : decode cX9_feed 6 = .ok (.getfield 11, 3) := dk_180 0 11 (dk_at dksX9_feed_0 6 rfl rfl)
theorem dX9_feed_9 : decode cX9_feed 9 = .ok (.bipush 20, 2) := dk_16 20 (dk_at dksX9_feed_0 9 rfl rfl)
theorem dX9_feed_11 : decode cX9_feed 11 = .ok (.iadd, 1) := dk_96 (dk_at dksX9_feed_0 11 rfl rfl)
theorem dX9_feed_12 : decode cX9_feed 12 = .ok (.sipush 940, 3) := dk_17 3 172 (dk_at dksX9_feed_0 12 rfl rfl)
theorem dX9_feed_15 : decode cX9_feed 15 = .ok (.if_icmp .le 5, 3) := dk_164 0 5 (dk_at dksX9_feed_0 15 rfl rfl)
theorem dX9_feed_18 : decode cX9_feed 18 = .ok (.iconst (-1), 1) := dk_2 (dk_at dksX9_feed_0 18 rfl rfl)
theorem dX9_feed_19 : decode cX9_feed 19 = .ok (.ireturn, 1) := dk_172 (dk_at dksX9_feed_0 19 rfl rfl)
theorem dX9_feed_20 : decode cX9_feed 20 = .ok (.aload_n 0, 1) := dk_42 (dk_at dksX9_feed_0 20 rfl rfl)
theorem dX9_feed_21 : decode cX9_feed 21 = .ok (.iload_n 1, 1) := dk_27 (dk_at dksX9_feed_0 21 rfl rfl)
theorem dX9_feed_22 : decode cX9_feed 22 = .ok (.invokevirtual 14, 3) := dk_182 0 14 (dk_at dksX9_feed_1 0 rfl rfl)
theorem dX9_feed_25 : decode cX9_feed 25 = .ok (.aload_n 0, 1) := dk_42 (dk_at dksX9_feed_1 3 rfl rfl)
theorem dX9_feed_26 : decode cX9_feed 26 = .ok (.iload_n 2, 1) := dk_28 (dk_at dksX9_feed_1 4 rfl rfl)
theorem dX9_feed_27 : decode cX9_feed 27 = .ok (.invokevirtual 14, 3) := dk_182 0 14 (dk_at dksX9_feed_1 5 rfl rfl)
theorem dX9_feed_30 : decode cX9_feed 30 = .ok (.aload_n 0, 1) := dk_42 (dk_at dksX9_feed_1 8 rfl rfl)
theorem dX9_feed_31 : decode cX9_feed 31 = .ok (.iload_n 3, 1) := dk_29 (dk_at dksX9_feed_1 9 rfl rfl)
theorem dX9_feed_32 : decode cX9_feed 32 = .ok (.invokevirtual 14, 3) := dk_182 0 14 (dk_at dksX9_feed_1 10 rfl rfl)
theorem dX9_feed_35 : decode cX9_feed 35 = .ok (.aload_n 0, 1) := dk_42 (dk_at dksX9_feed_1 13 rfl rfl)
theorem dX9_feed_36 : decode cX9_feed 36 = .ok (.iload 4, 2) := dk_21 4 (dk_at dksX9_feed_1 14 rfl rfl)
theorem dX9_feed_38 : decode cX9_feed 38 = .ok (.invokevirtual 14, 3) := dk_182 0 14 (dk_at dksX9_feed_1 16 rfl rfl)
theorem dX9_feed_41 : decode cX9_feed 41 = .ok (.aload_n 0, 1) := dk_42 (dk_at dksX9_feed_1 19 rfl rfl)
theorem dX9_feed_42 : decode cX9_feed 42 = .ok (.iload 5, 2) := dk_21 5 (dk_at dksX9_feed_1 20 rfl rfl)
theorem dX9_feed_44 : decode cX9_feed 44 = .ok (.invokevirtual 14, 3) := dk_182 0 14 (dk_at dksX9_feed_2 0 rfl rfl)
theorem dX9_feed_47 : decode cX9_feed 47 = .ok (.aload_n 0, 1) := dk_42 (dk_at dksX9_feed_2 3 rfl rfl)
theorem dX9_feed_48 : decode cX9_feed 48 = .ok (.getfield 11, 3) := dk_180 0 11 (dk_at dksX9_feed_2 4 rfl rfl)
theorem dX9_feed_51 : decode cX9_feed 51 = .ok (.ireturn, 1) := dk_172 (dk_at dksX9_feed_2 7 rfl rfl)
abbrev cX9_come : ByteArray := prog_22_method_3_code
def yX9_come : MethodName := ⟨RX9, "come", "(I)V"⟩
def dkwX9_come_1 : List UInt8 := [89, 180, 0, 11, 4, 96, 181, 0, 11, 132, 2, 248, 167, 255, 223, 177]
abbrev dktX9_come_1 : List UInt8 := dkwX9_come_1 ++ []
def dkwX9_come_0 : List UInt8 := [16, 24, 61, 28, 155, 0, 35, 42, 180, 0, 7, 42, 180, 0, 11, 27, 28, 124, 17, 0, 255, 126, 79, 42]
abbrev dktX9_come_0 : List UInt8 := dkwX9_come_0 ++ dktX9_come_1
theorem dksX9_come_0 : cX9_come.data.toList.drop 0 = dktX9_come_0 := by decide +kernel
theorem dksX9_come_1 : cX9_come.data.toList.drop 24 = dktX9_come_1 := dk_seg dksX9_come_0 24 rfl rfl
theorem dX9_come_0 : decode cX9_come 0 = .ok (.bipush 24, 2) := dk_16 24 (dk_at dksX9_come_0 0 rfl rfl)
theorem dX9_come_2 : decode cX9_come 2 = .ok (.istore_n 2, 1) := dk_61 (dk_at dksX9_come_0 2 rfl rfl)
theorem dX9_come_3 : decode cX9_come 3 = .ok (.iload_n 2, 1) := dk_28 (dk_at dksX9_come_0 3 rfl rfl)
theorem dX9_come_4 : decode cX9_come 4 = .ok (.ifCond .lt 35, 3) := dk_155 0 35 (dk_at dksX9_come_0 4 rfl rfl)
theorem dX9_come_7 : decode cX9_come 7 = .ok (.aload_n 0, 1) := dk_42 (dk_at dksX9_come_0 7 rfl rfl)
theorem dX9_come_8 : decode cX9_come 8 = .ok (.getfield 7, 3) := dk_180 0 7 (dk_at dksX9_come_0 8 rfl rfl)
theorem dX9_come_11 : decode cX9_come 11 = .ok (.aload_n 0, 1) := dk_42 (dk_at dksX9_come_0 11 rfl rfl)
theorem dX9_come_12 : decode cX9_come 12 = .ok (.getfield 11, 3) := dk_180 0 11 (dk_at dksX9_come_0 12 rfl rfl)
theorem dX9_come_15 : decode cX9_come 15 = .ok (.iload_n 1, 1) := dk_27 (dk_at dksX9_come_0 15 rfl rfl)
theorem dX9_come_16 : decode cX9_come 16 = .ok (.iload_n 2, 1) := dk_28 (dk_at dksX9_come_0 16 rfl rfl)
theorem dX9_come_17 : decode cX9_come 17 = .ok (.iushr, 1) := dk_124 (dk_at dksX9_come_0 17 rfl rfl)
theorem dX9_come_18 : decode cX9_come 18 = .ok (.sipush 255, 3) := dk_17 0 255 (dk_at dksX9_come_0 18 rfl rfl)
theorem dX9_come_21 : decode cX9_come 21 = .ok (.iand, 1) := dk_126 (dk_at dksX9_come_0 21 rfl rfl)
theorem dX9_come_22 : decode cX9_come 22 = .ok (.iastore, 1) := dk_79 (dk_at dksX9_come_0 22 rfl rfl)
theorem dX9_come_23 : decode cX9_come 23 = .ok (.aload_n 0, 1) := dk_42 (dk_at dksX9_come_0 23 rfl rfl)
theorem dX9_come_24 : decode cX9_come 24 = .ok (.dup, 1) := dk_89 (dk_at dksX9_come_1 0 rfl rfl)
theorem dX9_come_25 : decode cX9_come 25 = .ok (.getfield 11, 3) := dk_180 0 11 (dk_at dksX9_come_1 1 rfl rfl)
theorem dX9_come_28 : decode cX9_come 28 = .ok (.iconst 1, 1) := dk_4 (dk_at dksX9_come_1 4 rfl rfl)
theorem dX9_come_29 : decode cX9_come 29 = .ok (.iadd, 1) := dk_96 (dk_at dksX9_come_1 5 rfl rfl)
theorem dX9_come_30 : decode cX9_come 30 = .ok (.putfield 11, 3) := dk_181 0 11 (dk_at dksX9_come_1 6 rfl rfl)
theorem dX9_come_33 : decode cX9_come 33 = .ok (.iinc 2 (-8), 3) := dk_132 2 248 (dk_at dksX9_come_1 9 rfl rfl)
theorem dX9_come_36 : decode cX9_come 36 = .ok (.goto (-33), 3) := dk_167 255 223 (dk_at dksX9_come_1 12 rfl rfl)
theorem dX9_come_39 : decode cX9_come 39 = .ok (.return_, 1) := dk_177 (dk_at dksX9_come_1 15 rfl rfl)
abbrev cX9_end : ByteArray := prog_22_method_5_code
def yX9_end : MethodName := ⟨RX9, "end", "(I)Z"⟩
def dkwX9_end_1 : List UInt8 := [4, 172]
abbrev dktX9_end_1 : List UInt8 := dkwX9_end_1 ++ []
def dkwX9_end_0 : List UInt8 := [42, 3, 181, 0, 1, 27, 155, 0, 11, 27, 42, 180, 0, 11, 164, 0, 5, 3, 172, 42, 27, 181, 0, 11]
abbrev dktX9_end_0 : List UInt8 := dkwX9_end_0 ++ dktX9_end_1
theorem dksX9_end_0 : cX9_end.data.toList.drop 0 = dktX9_end_0 := by decide +kernel
theorem dksX9_end_1 : cX9_end.data.toList.drop 24 = dktX9_end_1 := dk_seg dksX9_end_0 24 rfl rfl
theorem dX9_end_0 : decode cX9_end 0 = .ok (.aload_n 0, 1) := dk_42 (dk_at dksX9_end_0 0 rfl rfl)
theorem dX9_end_1 : decode cX9_end 1 = .ok (.iconst 0, 1) := dk_3 (dk_at dksX9_end_0 1 rfl rfl)
theorem dX9_end_2 : decode cX9_end 2 = .ok (.putfield 1, 3) := dk_181 0 1 (dk_at dksX9_end_0 2 rfl rfl)
theorem dX9_end_5 : decode cX9_end 5 = .ok (.iload_n 1, 1) := dk_27 (dk_at dksX9_end_0 5 rfl rfl)
theorem dX9_end_6 : decode cX9_end 6 = .ok (.ifCond .lt 11, 3) := dk_155 0 11 (dk_at dksX9_end_0 6 rfl rfl)
theorem dX9_end_9 : decode cX9_end 9 = .ok (.iload_n 1, 1) := dk_27 (dk_at dksX9_end_0 9 rfl rfl)
theorem dX9_end_10 : decode cX9_end 10 = .ok (.aload_n 0, 1) := dk_42 (dk_at dksX9_end_0 10 rfl rfl)
theorem dX9_end_11 : decode cX9_end 11 = .ok (.getfield 11, 3) := dk_180 0 11 (dk_at dksX9_end_0 11 rfl rfl)
theorem dX9_end_14 : decode cX9_end 14 = .ok (.if_icmp .le 5, 3) := dk_164 0 5 (dk_at dksX9_end_0 14 rfl rfl)
theorem dX9_end_17 : decode cX9_end 17 = .ok (.iconst 0, 1) := dk_3 (dk_at dksX9_end_0 17 rfl rfl)
theorem dX9_end_18 : decode cX9_end 18 = .ok (.ireturn, 1) := dk_172 (dk_at dksX9_end_0 18 rfl rfl)
theorem dX9_end_19 : decode cX9_end 19 = .ok (.aload_n 0, 1) := dk_42 (dk_at dksX9_end_0 19 rfl rfl)
theorem dX9_end_20 : decode cX9_end 20 = .ok (.iload_n 1, 1) := dk_27 (dk_at dksX9_end_0 20 rfl rfl)
theorem dX9_end_21 : decode cX9_end 21 = .ok (.putfield 11, 3) := dk_181 0 11 (dk_at dksX9_end_0 21 rfl rfl)
theorem dX9_end_24 : decode cX9_end 24 = .ok (.iconst 1, 1) := dk_4 (dk_at dksX9_end_1 0 rfl rfl)
theorem dX9_end_25 : decode cX9_end 25 = .ok (.ireturn, 1) := dk_172 (dk_at dksX9_end_1 1 rfl rfl)
abbrev cX9_init : ByteArray := prog_22_method_26_code
def yX9_init : MethodName := ⟨RX9, "<init>", "()V"⟩
def dkwX9_init_7 : List UInt8 := [42, 180, 0, 98, 7, 16, 6, 79, 42, 180, 0, 98, 8, 5, 79, 42, 182, 0, 157, 177]
abbrev dktX9_init_7 : List UInt8 := dkwX9_init_7 ++ []
def dkwX9_init_6 : List UInt8 := [17, 0, 160, 188, 10, 181, 0, 148, 42, 7, 188, 10, 181, 0, 151, 42, 17, 0, 240, 188, 10, 181, 0, 154]
abbrev dktX9_init_6 : List UInt8 := dkwX9_init_6 ++ dktX9_init_7
def dkwX9_init_5 : List UInt8 := [16, 32, 188, 10, 181, 0, 139, 42, 6, 188, 10, 181, 0, 142, 42, 16, 64, 188, 10, 181, 0, 145, 42]
abbrev dktX9_init_5 : List UInt8 := dkwX9_init_5 ++ dktX9_init_6
def dkwX9_init_4 : List UInt8 := [181, 0, 127, 42, 2, 181, 0, 130, 42, 2, 181, 0, 133, 42, 17, 0, 160, 188, 10, 181, 0, 136, 42]
abbrev dktX9_init_4 : List UInt8 := dkwX9_init_4 ++ dktX9_init_5
def dkwX9_init_3 : List UInt8 := [188, 11, 181, 0, 117, 42, 16, 40, 188, 11, 181, 0, 120, 42, 5, 188, 4, 181, 0, 123, 42, 5, 188, 4]
abbrev dktX9_init_3 : List UInt8 := dkwX9_init_3 ++ dktX9_init_4
def dkwX9_init_2 : List UInt8 := [181, 0, 107, 42, 17, 0, 140, 188, 10, 181, 0, 110, 42, 16, 20, 188, 11, 181, 0, 113, 42, 16, 20]
abbrev dktX9_init_2 : List UInt8 := dkwX9_init_2 ++ dktX9_init_3
def dkwX9_init_1 : List UInt8 := [16, 24, 188, 10, 181, 0, 101, 42, 17, 3, 44, 188, 10, 181, 0, 104, 42, 17, 4, 96, 188, 10]
abbrev dktX9_init_1 : List UInt8 := dkwX9_init_1 ++ dktX9_init_2
def dkwX9_init_0 : List UInt8 := [42, 183, 0, 93, 42, 17, 3, 172, 188, 10, 181, 0, 7, 42, 17, 1, 150, 188, 10, 181, 0, 98, 42]
abbrev dktX9_init_0 : List UInt8 := dkwX9_init_0 ++ dktX9_init_1
theorem dksX9_init_0 : cX9_init.data.toList.drop 0 = dktX9_init_0 := by decide +kernel
theorem dksX9_init_1 : cX9_init.data.toList.drop 23 = dktX9_init_1 := dk_seg dksX9_init_0 23 rfl rfl
theorem dksX9_init_2 : cX9_init.data.toList.drop 45 = dktX9_init_2 := dk_seg dksX9_init_1 22 rfl rfl
theorem dksX9_init_3 : cX9_init.data.toList.drop 68 = dktX9_init_3 := dk_seg dksX9_init_2 23 rfl rfl
theorem dksX9_init_4 : cX9_init.data.toList.drop 92 = dktX9_init_4 := dk_seg dksX9_init_3 24 rfl rfl
theorem dksX9_init_5 : cX9_init.data.toList.drop 115 = dktX9_init_5 := dk_seg dksX9_init_4 23 rfl rfl
theorem dksX9_init_6 : cX9_init.data.toList.drop 138 = dktX9_init_6 := dk_seg dksX9_init_5 23 rfl rfl
theorem dksX9_init_7 : cX9_init.data.toList.drop 162 = dktX9_init_7 := dk_seg dksX9_init_6 24 rfl rfl
theorem dX9_init_0 : decode cX9_init 0 = .ok (.aload_n 0, 1) := dk_42 (dk_at dksX9_init_0 0 rfl rfl)
theorem dX9_init_1 : decode cX9_init 1 = .ok (.invokespecial 93, 3) := dk_183 0 93 (dk_at dksX9_init_0 1 rfl rfl)
theorem dX9_init_4 : decode cX9_init 4 = .ok (.aload_n 0, 1) := dk_42 (dk_at dksX9_init_0 4 rfl rfl)
theorem dX9_init_5 : decode cX9_init 5 = .ok (.sipush 940, 3) := dk_17 3 172 (dk_at dksX9_init_0 5 rfl rfl)
theorem dX9_init_8 : decode cX9_init 8 = .ok (.newarray .int, 2) := dk_188_10 (dk_at dksX9_init_0 8 rfl rfl)
theorem dX9_init_10 : decode cX9_init 10 = .ok (.putfield 7, 3) := dk_181 0 7 (dk_at dksX9_init_0 10 rfl rfl)
theorem dX9_init_13 : decode cX9_init 13 = .ok (.aload_n 0, 1) := dk_42 (dk_at dksX9_init_0 13 rfl rfl)
theorem dX9_init_14 : decode cX9_init 14 = .ok (.sipush 406, 3) := dk_17 1 150 (dk_at dksX9_init_0 14 rfl rfl)
theorem dX9_init_17 : decode cX9_init 17 = .ok (.newarray .int, 2) := dk_188_10 (dk_at dksX9_init_0 17 rfl rfl)
theorem dX9_init_19 : decode cX9_init 19 = .ok (.putfield 98, 3) := dk_181 0 98 (dk_at dksX9_init_0 19 rfl rfl)
theorem dX9_init_22 : decode cX9_init 22 = .ok (.aload_n 0, 1) := dk_42 (dk_at dksX9_init_0 22 rfl rfl)
theorem dX9_init_23 : decode cX9_init 23 = .ok (.bipush 24, 2) := dk_16 24 (dk_at dksX9_init_1 0 rfl rfl)
theorem dX9_init_25 : decode cX9_init 25 = .ok (.newarray .int, 2) := dk_188_10 (dk_at dksX9_init_1 2 rfl rfl)
theorem dX9_init_27 : decode cX9_init 27 = .ok (.putfield 101, 3) := dk_181 0 101 (dk_at dksX9_init_1 4 rfl rfl)
theorem dX9_init_30 : decode cX9_init 30 = .ok (.aload_n 0, 1) := dk_42 (dk_at dksX9_init_1 7 rfl rfl)
theorem dX9_init_31 : decode cX9_init 31 = .ok (.sipush 812, 3) := dk_17 3 44 (dk_at dksX9_init_1 8 rfl rfl)
theorem dX9_init_34 : decode cX9_init 34 = .ok (.newarray .int, 2) := dk_188_10 (dk_at dksX9_init_1 11 rfl rfl)
theorem dX9_init_36 : decode cX9_init 36 = .ok (.putfield 104, 3) := dk_181 0 104 (dk_at dksX9_init_1 13 rfl rfl)
theorem dX9_init_39 : decode cX9_init 39 = .ok (.aload_n 0, 1) := dk_42 (dk_at dksX9_init_1 16 rfl rfl)
theorem dX9_init_40 : decode cX9_init 40 = .ok (.sipush 1120, 3) := dk_17 4 96 (dk_at dksX9_init_1 17 rfl rfl)
theorem dX9_init_43 : decode cX9_init 43 = .ok (.newarray .int, 2) := dk_188_10 (dk_at dksX9_init_1 20 rfl rfl)
theorem dX9_init_45 : decode cX9_init 45 = .ok (.putfield 107, 3) := dk_181 0 107 (dk_at dksX9_init_2 0 rfl rfl)
theorem dX9_init_48 : decode cX9_init 48 = .ok (.aload_n 0, 1) := dk_42 (dk_at dksX9_init_2 3 rfl rfl)
theorem dX9_init_49 : decode cX9_init 49 = .ok (.sipush 140, 3) := dk_17 0 140 (dk_at dksX9_init_2 4 rfl rfl)
theorem dX9_init_52 : decode cX9_init 52 = .ok (.newarray .int, 2) := dk_188_10 (dk_at dksX9_init_2 7 rfl rfl)
theorem dX9_init_54 : decode cX9_init 54 = .ok (.putfield 110, 3) := dk_181 0 110 (dk_at dksX9_init_2 9 rfl rfl)
theorem dX9_init_57 : decode cX9_init 57 = .ok (.aload_n 0, 1) := dk_42 (dk_at dksX9_init_2 12 rfl rfl)
theorem dX9_init_58 : decode cX9_init 58 = .ok (.bipush 20, 2) := dk_16 20 (dk_at dksX9_init_2 13 rfl rfl)
theorem dX9_init_60 : decode cX9_init 60 = .ok (.newarray .long, 2) := dk_188_11 (dk_at dksX9_init_2 15 rfl rfl)
theorem dX9_init_62 : decode cX9_init 62 = .ok (.putfield 113, 3) := dk_181 0 113 (dk_at dksX9_init_2 17 rfl rfl)
theorem dX9_init_65 : decode cX9_init 65 = .ok (.aload_n 0, 1) := dk_42 (dk_at dksX9_init_2 20 rfl rfl)
theorem dX9_init_66 : decode cX9_init 66 = .ok (.bipush 20, 2) := dk_16 20 (dk_at dksX9_init_2 21 rfl rfl)
theorem dX9_init_68 : decode cX9_init 68 = .ok (.newarray .long, 2) := dk_188_11 (dk_at dksX9_init_3 0 rfl rfl)
theorem dX9_init_70 : decode cX9_init 70 = .ok (.putfield 117, 3) := dk_181 0 117 (dk_at dksX9_init_3 2 rfl rfl)
theorem dX9_init_73 : decode cX9_init 73 = .ok (.aload_n 0, 1) := dk_42 (dk_at dksX9_init_3 5 rfl rfl)
theorem dX9_init_74 : decode cX9_init 74 = .ok (.bipush 40, 2) := dk_16 40 (dk_at dksX9_init_3 6 rfl rfl)
theorem dX9_init_76 : decode cX9_init 76 = .ok (.newarray .long, 2) := dk_188_11 (dk_at dksX9_init_3 8 rfl rfl)
theorem dX9_init_78 : decode cX9_init 78 = .ok (.putfield 120, 3) := dk_181 0 120 (dk_at dksX9_init_3 10 rfl rfl)
theorem dX9_init_81 : decode cX9_init 81 = .ok (.aload_n 0, 1) := dk_42 (dk_at dksX9_init_3 13 rfl rfl)
theorem dX9_init_82 : decode cX9_init 82 = .ok (.iconst 2, 1) := dk_5 (dk_at dksX9_init_3 14 rfl rfl)
theorem dX9_init_83 : decode cX9_init 83 = .ok (.newarray .boolean, 2) := dk_188_4 (dk_at dksX9_init_3 15 rfl rfl)
theorem dX9_init_85 : decode cX9_init 85 = .ok (.putfield 123, 3) := dk_181 0 123 (dk_at dksX9_init_3 17 rfl rfl)
theorem dX9_init_88 : decode cX9_init 88 = .ok (.aload_n 0, 1) := dk_42 (dk_at dksX9_init_3 20 rfl rfl)
theorem dX9_init_89 : decode cX9_init 89 = .ok (.iconst 2, 1) := dk_5 (dk_at dksX9_init_3 21 rfl rfl)
theorem dX9_init_90 : decode cX9_init 90 = .ok (.newarray .boolean, 2) := dk_188_4 (dk_at dksX9_init_3 22 rfl rfl)
theorem dX9_init_92 : decode cX9_init 92 = .ok (.putfield 127, 3) := dk_181 0 127 (dk_at dksX9_init_4 0 rfl rfl)
theorem dX9_init_95 : decode cX9_init 95 = .ok (.aload_n 0, 1) := dk_42 (dk_at dksX9_init_4 3 rfl rfl)
theorem dX9_init_96 : decode cX9_init 96 = .ok (.iconst (-1), 1) := dk_2 (dk_at dksX9_init_4 4 rfl rfl)
theorem dX9_init_97 : decode cX9_init 97 = .ok (.putfield 130, 3) := dk_181 0 130 (dk_at dksX9_init_4 5 rfl rfl)
theorem dX9_init_100 : decode cX9_init 100 = .ok (.aload_n 0, 1) := dk_42 (dk_at dksX9_init_4 8 rfl rfl)
theorem dX9_init_101 : decode cX9_init 101 = .ok (.iconst (-1), 1) := dk_2 (dk_at dksX9_init_4 9 rfl rfl)
theorem dX9_init_102 : decode cX9_init 102 = .ok (.putfield 133, 3) := dk_181 0 133 (dk_at dksX9_init_4 10 rfl rfl)
theorem dX9_init_105 : decode cX9_init 105 = .ok (.aload_n 0, 1) := dk_42 (dk_at dksX9_init_4 13 rfl rfl)
theorem dX9_init_106 : decode cX9_init 106 = .ok (.sipush 160, 3) := dk_17 0 160 (dk_at dksX9_init_4 14 rfl rfl)
theorem dX9_init_109 : decode cX9_init 109 = .ok (.newarray .int, 2) := dk_188_10 (dk_at dksX9_init_4 17 rfl rfl)
theorem dX9_init_111 : decode cX9_init 111 = .ok (.putfield 136, 3) := dk_181 0 136 (dk_at dksX9_init_4 19 rfl rfl)
theorem dX9_init_114 : decode cX9_init 114 = .ok (.aload_n 0, 1) := dk_42 (dk_at dksX9_init_4 22 rfl rfl)
theorem dX9_init_115 : decode cX9_init 115 = .ok (.bipush 32, 2) := dk_16 32 (dk_at dksX9_init_5 0 rfl rfl)
theorem dX9_init_117 : decode cX9_init 117 = .ok (.newarray .int, 2) := dk_188_10 (dk_at dksX9_init_5 2 rfl rfl)
theorem dX9_init_119 : decode cX9_init 119 = .ok (.putfield 139, 3) := dk_181 0 139 (dk_at dksX9_init_5 4 rfl rfl)
theorem dX9_init_122 : decode cX9_init 122 = .ok (.aload_n 0, 1) := dk_42 (dk_at dksX9_init_5 7 rfl rfl)
theorem dX9_init_123 : decode cX9_init 123 = .ok (.iconst 3, 1) := dk_6 (dk_at dksX9_init_5 8 rfl rfl)
theorem dX9_init_124 : decode cX9_init 124 = .ok (.newarray .int, 2) := dk_188_10 (dk_at dksX9_init_5 9 rfl rfl)
theorem dX9_init_126 : decode cX9_init 126 = .ok (.putfield 142, 3) := dk_181 0 142 (dk_at dksX9_init_5 11 rfl rfl)
theorem dX9_init_129 : decode cX9_init 129 = .ok (.aload_n 0, 1) := dk_42 (dk_at dksX9_init_5 14 rfl rfl)
theorem dX9_init_130 : decode cX9_init 130 = .ok (.bipush 64, 2) := dk_16 64 (dk_at dksX9_init_5 15 rfl rfl)
theorem dX9_init_132 : decode cX9_init 132 = .ok (.newarray .int, 2) := dk_188_10 (dk_at dksX9_init_5 17 rfl rfl)
theorem dX9_init_134 : decode cX9_init 134 = .ok (.putfield 145, 3) := dk_181 0 145 (dk_at dksX9_init_5 19 rfl rfl)
theorem dX9_init_137 : decode cX9_init 137 = .ok (.aload_n 0, 1) := dk_42 (dk_at dksX9_init_5 22 rfl rfl)
theorem dX9_init_138 : decode cX9_init 138 = .ok (.sipush 160, 3) := dk_17 0 160 (dk_at dksX9_init_6 0 rfl rfl)
theorem dX9_init_141 : decode cX9_init 141 = .ok (.newarray .int, 2) := dk_188_10 (dk_at dksX9_init_6 3 rfl rfl)
theorem dX9_init_143 : decode cX9_init 143 = .ok (.putfield 148, 3) := dk_181 0 148 (dk_at dksX9_init_6 5 rfl rfl)
theorem dX9_init_146 : decode cX9_init 146 = .ok (.aload_n 0, 1) := dk_42 (dk_at dksX9_init_6 8 rfl rfl)
theorem dX9_init_147 : decode cX9_init 147 = .ok (.iconst 4, 1) := dk_7 (dk_at dksX9_init_6 9 rfl rfl)
theorem dX9_init_148 : decode cX9_init 148 = .ok (.newarray .int, 2) := dk_188_10 (dk_at dksX9_init_6 10 rfl rfl)
theorem dX9_init_150 : decode cX9_init 150 = .ok (.putfield 151, 3) := dk_181 0 151 (dk_at dksX9_init_6 12 rfl rfl)
theorem dX9_init_153 : decode cX9_init 153 = .ok (.aload_n 0, 1) := dk_42 (dk_at dksX9_init_6 15 rfl rfl)
theorem dX9_init_154 : decode cX9_init 154 = .ok (.sipush 240, 3) := dk_17 0 240 (dk_at dksX9_init_6 16 rfl rfl)
theorem dX9_init_157 : decode cX9_init 157 = .ok (.newarray .int, 2) := dk_188_10 (dk_at dksX9_init_6 19 rfl rfl)
theorem dX9_init_159 : decode cX9_init 159 = .ok (.putfield 154, 3) := dk_181 0 154 (dk_at dksX9_init_6 21 rfl rfl)
theorem dX9_init_162 : decode cX9_init 162 = .ok (.aload_n 0, 1) := dk_42 (dk_at dksX9_init_7 0 rfl rfl)
theorem dX9_init_163 : decode cX9_init 163 = .ok (.getfield 98, 3) := dk_180 0 98 (dk_at dksX9_init_7 1 rfl rfl)
theorem dX9_init_166 : decode cX9_init 166 = .ok (.iconst 4, 1) := dk_7 (dk_at dksX9_init_7 4 rfl rfl)
theorem dX9_init_167 : decode cX9_init 167 = .ok (.bipush 6, 2) := dk_16 6 (dk_at dksX9_init_7 5 rfl rfl)
theorem dX9_init_169 : decode cX9_init 169 = .ok (.iastore, 1) := dk_79 (dk_at dksX9_init_7 7 rfl rfl)
theorem dX9_init_170 : decode cX9_init 170 = .ok (.aload_n 0, 1) := dk_42 (dk_at dksX9_init_7 8 rfl rfl)
theorem dX9_init_171 : decode cX9_init 171 = .ok (.getfield 98, 3) := dk_180 0 98 (dk_at dksX9_init_7 9 rfl rfl)
theorem dX9_init_174 : decode cX9_init 174 = .ok (.iconst 5, 1) := dk_8 (dk_at dksX9_init_7 12 rfl rfl)
theorem dX9_init_175 : decode cX9_init 175 = .ok (.iconst 2, 1) := dk_5 (dk_at dksX9_init_7 13 rfl rfl)
theorem dX9_init_176 : decode cX9_init 176 = .ok (.iastore, 1) := dk_79 (dk_at dksX9_init_7 14 rfl rfl)
theorem dX9_init_177 : decode cX9_init 177 = .ok (.aload_n 0, 1) := dk_42 (dk_at dksX9_init_7 15 rfl rfl)
theorem dX9_init_178 : decode cX9_init 178 = .ok (.invokevirtual 157, 3) := dk_182 0 157 (dk_at dksX9_init_7 16 rfl rfl)
theorem dX9_init_181 : decode cX9_init 181 = .ok (.return_, 1) := dk_177 (dk_at dksX9_init_7 19 rfl rfl)
abbrev cX9_startSo : ByteArray := prog_22_method_27_code
def yX9_startSo : MethodName := ⟨RX9, "startSo", "()V"⟩
def dkwX9_startSo_3 : List UInt8 := [79, 132, 1, 1, 167, 255, 229, 177]
abbrev dktX9_startSo_3 : List UInt8 := dkwX9_startSo_3 ++ []
def dkwX9_startSo_2 : List UInt8 := [60, 27, 16, 6, 162, 0, 27, 42, 180, 0, 98, 16, 26, 27, 96, 42, 180, 0, 98, 16, 11, 27, 96, 46]
abbrev dktX9_startSo_2 : List UInt8 := dkwX9_startSo_2 ++ dktX9_startSo_3
def dkwX9_startSo_1 : List UInt8 := [16, 86, 60, 27, 17, 0, 164, 162, 0, 16, 42, 180, 0, 98, 27, 2, 79, 132, 1, 1, 167, 255, 239, 3]
abbrev dktX9_startSo_1 : List UInt8 := dkwX9_startSo_1 ++ dktX9_startSo_2
def dkwX9_startSo_0 : List UInt8 := [16, 24, 60, 27, 17, 1, 150, 162, 0, 16, 42, 180, 0, 98, 27, 3, 79, 132, 1, 1, 167, 255, 239]
abbrev dktX9_startSo_0 : List UInt8 := dkwX9_startSo_0 ++ dktX9_startSo_1
theorem dksX9_startSo_0 : cX9_startSo.data.toList.drop 0 = dktX9_startSo_0 := by decide +kernel
theorem dksX9_startSo_1 : cX9_startSo.data.toList.drop 23 = dktX9_startSo_1 := dk_seg dksX9_startSo_0 23 rfl rfl
theorem dksX9_startSo_2 : cX9_startSo.data.toList.drop 47 = dktX9_startSo_2 := dk_seg dksX9_startSo_1 24 rfl rfl
theorem dksX9_startSo_3 : cX9_startSo.data.toList.drop 71 = dktX9_startSo_3 := dk_seg dksX9_startSo_2 24 rfl rfl
theorem dX9_startSo_0 : decode cX9_startSo 0 = .ok (.bipush 24, 2) := dk_16 24 (dk_at dksX9_startSo_0 0 rfl rfl)
theorem dX9_startSo_2 : decode cX9_startSo 2 = .ok (.istore_n 1, 1) := dk_60 (dk_at dksX9_startSo_0 2 rfl rfl)
theorem dX9_startSo_3 : decode cX9_startSo 3 = .ok (.iload_n 1, 1) := dk_27 (dk_at dksX9_startSo_0 3 rfl rfl)
theorem dX9_startSo_4 : decode cX9_startSo 4 = .ok (.sipush 406, 3) := dk_17 1 150 (dk_at dksX9_startSo_0 4 rfl rfl)
theorem dX9_startSo_7 : decode cX9_startSo 7 = .ok (.if_icmp .ge 16, 3) := dk_162 0 16 (dk_at dksX9_startSo_0 7 rfl rfl)
theorem dX9_startSo_10 : decode cX9_startSo 10 = .ok (.aload_n 0, 1) := dk_42 (dk_at dksX9_startSo_0 10 rfl rfl)
theorem dX9_startSo_11 : decode cX9_startSo 11 = .ok (.getfield 98, 3) := dk_180 0 98 (dk_at dksX9_startSo_0 11 rfl rfl)
theorem dX9_startSo_14 : decode cX9_startSo 14 = .ok (.iload_n 1, 1) := dk_27 (dk_at dksX9_startSo_0 14 rfl rfl)
theorem dX9_startSo_15 : decode cX9_startSo 15 = .ok (.iconst 0, 1) := dk_3 (dk_at dksX9_startSo_0 15 rfl rfl)
theorem dX9_startSo_16 : decode cX9_startSo 16 = .ok (.iastore, 1) := dk_79 (dk_at dksX9_startSo_0 16 rfl rfl)
theorem dX9_startSo_17 : decode cX9_startSo 17 = .ok (.iinc 1 1, 3) := dk_132 1 1 (dk_at dksX9_startSo_0 17 rfl rfl)
theorem dX9_startSo_20 : decode cX9_startSo 20 = .ok (.goto (-17), 3) := dk_167 255 239 (dk_at dksX9_startSo_0 20 rfl rfl)
theorem dX9_startSo_23 : decode cX9_startSo 23 = .ok (.bipush 86, 2) := dk_16 86 (dk_at dksX9_startSo_1 0 rfl rfl)
theorem dX9_startSo_25 : decode cX9_startSo 25 = .ok (.istore_n 1, 1) := dk_60 (dk_at dksX9_startSo_1 2 rfl rfl)
theorem dX9_startSo_26 : decode cX9_startSo 26 = .ok (.iload_n 1, 1) := dk_27 (dk_at dksX9_startSo_1 3 rfl rfl)
theorem dX9_startSo_27 : decode cX9_startSo 27 = .ok (.sipush 164, 3) := dk_17 0 164 (dk_at dksX9_startSo_1 4 rfl rfl)
theorem dX9_startSo_30 : decode cX9_startSo 30 = .ok (.if_icmp .ge 16, 3) := dk_162 0 16 (dk_at dksX9_startSo_1 7 rfl rfl)
theorem dX9_startSo_33 : decode cX9_startSo 33 = .ok (.aload_n 0, 1) := dk_42 (dk_at dksX9_startSo_1 10 rfl rfl)
theorem dX9_startSo_34 : decode cX9_startSo 34 = .ok (.getfield 98, 3) := dk_180 0 98 (dk_at dksX9_startSo_1 11 rfl rfl)
theorem dX9_startSo_37 : decode cX9_startSo 37 = .ok (.iload_n 1, 1) := dk_27 (dk_at dksX9_startSo_1 14 rfl rfl)
theorem dX9_startSo_38 : decode cX9_startSo 38 = .ok (.iconst (-1), 1) := dk_2 (dk_at dksX9_startSo_1 15 rfl rfl)
theorem dX9_startSo_39 : decode cX9_startSo 39 = .ok (.iastore, 1) := dk_79 (dk_at dksX9_startSo_1 16 rfl rfl)
theorem dX9_startSo_40 : decode cX9_startSo 40 = .ok (.iinc 1 1, 3) := dk_132 1 1 (dk_at dksX9_startSo_1 17 rfl rfl)
theorem dX9_startSo_43 : decode cX9_startSo 43 = .ok (.goto (-17), 3) := dk_167 255 239 (dk_at dksX9_startSo_1 20 rfl rfl)
theorem dX9_startSo_46 : decode cX9_startSo 46 = .ok (.iconst 0, 1) := dk_3 (dk_at dksX9_startSo_1 23 rfl rfl)
theorem dX9_startSo_47 : decode cX9_startSo 47 = .ok (.istore_n 1, 1) := dk_60 (dk_at dksX9_startSo_2 0 rfl rfl)
theorem dX9_startSo_48 : decode cX9_startSo 48 = .ok (.iload_n 1, 1) := dk_27 (dk_at dksX9_startSo_2 1 rfl rfl)
theorem dX9_startSo_49 : decode cX9_startSo 49 = .ok (.bipush 6, 2) := dk_16 6 (dk_at dksX9_startSo_2 2 rfl rfl)
theorem dX9_startSo_51 : decode cX9_startSo 51 = .ok (.if_icmp .ge 27, 3) := dk_162 0 27 (dk_at dksX9_startSo_2 4 rfl rfl)
theorem dX9_startSo_54 : decode cX9_startSo 54 = .ok (.aload_n 0, 1) := dk_42 (dk_at dksX9_startSo_2 7 rfl rfl)
theorem dX9_startSo_55 : decode cX9_startSo 55 = .ok (.getfield 98, 3) := dk_180 0 98 (dk_at dksX9_startSo_2 8 rfl rfl)
theorem dX9_startSo_58 : decode cX9_startSo 58 = .ok (.bipush 26, 2) := dk_16 26 (dk_at dksX9_startSo_2 11 rfl rfl)
theorem dX9_startSo_60 : decode cX9_startSo 60 = .ok (.iload_n 1, 1) := dk_27 (dk_at dksX9_startSo_2 13 rfl rfl)
theorem dX9_startSo_61 : decode cX9_startSo 61 = .ok (.iadd, 1) := dk_96 (dk_at dksX9_startSo_2 14 rfl rfl)
theorem dX9_startSo_62 : decode cX9_startSo 62 = .ok (.aload_n 0, 1) := dk_42 (dk_at dksX9_startSo_2 15 rfl rfl)
theorem dX9_startSo_63 : decode cX9_startSo 63 = .ok (.getfield 98, 3) := dk_180 0 98 (dk_at dksX9_startSo_2 16 rfl rfl)
theorem dX9_startSo_66 : decode cX9_startSo 66 = .ok (.bipush 11, 2) := dk_16 11 (dk_at dksX9_startSo_2 19 rfl rfl)
theorem dX9_startSo_68 : decode cX9_startSo 68 = .ok (.iload_n 1, 1) := dk_27 (dk_at dksX9_startSo_2 21 rfl rfl)
theorem dX9_startSo_69 : decode cX9_startSo 69 = .ok (.iadd, 1) := dk_96 (dk_at dksX9_startSo_2 22 rfl rfl)
theorem dX9_startSo_70 : decode cX9_startSo 70 = .ok (.iaload, 1) := dk_46 (dk_at dksX9_startSo_2 23 rfl rfl)
theorem dX9_startSo_71 : decode cX9_startSo 71 = .ok (.iastore, 1) := dk_79 (dk_at dksX9_startSo_3 0 rfl rfl)
theorem dX9_startSo_72 : decode cX9_startSo 72 = .ok (.iinc 1 1, 3) := dk_132 1 1 (dk_at dksX9_startSo_3 1 rfl rfl)
theorem dX9_startSo_75 : decode cX9_startSo 75 = .ok (.goto (-27), 3) := dk_167 255 229 (dk_at dksX9_startSo_3 4 rfl rfl)
theorem dX9_startSo_78 : decode cX9_startSo 78 = .ok (.return_, 1) := dk_177 (dk_at dksX9_startSo_3 7 rfl rfl)
abbrev cX9_house : ByteArray := prog_22_method_39_code
def yX9_house : MethodName := ⟨RX9, "house", "()I"⟩
def dkwX9_house_6 : List UInt8 := [132, 2, 1, 167, 255, 235, 42, 182, 0, 157, 42, 3, 181, 0, 215, 27, 172]
abbrev dktX9_house_6 : List UInt8 := dkwX9_house_6 ++ []
def dkwX9_house_5 : List UInt8 := [167, 255, 235, 3, 61, 28, 16, 20, 162, 0, 21, 42, 180, 0, 113, 28, 42, 180, 0, 117, 28, 47, 80]
abbrev dktX9_house_5 : List UInt8 := dkwX9_house_5 ++ dktX9_house_6
def dkwX9_house_4 : List UInt8 := [61, 28, 16, 24, 162, 0, 21, 42, 180, 0, 98, 28, 42, 180, 0, 101, 28, 46, 79, 132, 2, 1]
abbrev dktX9_house_4 : List UInt8 := dkwX9_house_4 ++ dktX9_house_5
def dkwX9_house_3 : List UInt8 := [153, 0, 10, 42, 182, 0, 212, 154, 0, 10, 2, 42, 180, 0, 69, 100, 172, 132, 1, 1, 167, 255, 225, 3]
abbrev dktX9_house_3 : List UInt8 := dkwX9_house_3 ++ dktX9_house_4
def dkwX9_house_2 : List UInt8 := [7, 16, 6, 79, 42, 180, 0, 101, 8, 5, 79, 3, 60, 42, 180, 0, 30, 153, 0, 30, 42, 182, 0, 209]
abbrev dktX9_house_2 : List UInt8 := dkwX9_house_2 ++ dktX9_house_3
def dkwX9_house_1 : List UInt8 := [132, 1, 1, 167, 255, 240, 42, 180, 0, 127, 3, 3, 84, 42, 180, 0, 127, 4, 3, 84, 42, 180, 0, 101]
abbrev dktX9_house_1 : List UInt8 := dkwX9_house_1 ++ dktX9_house_2
def dkwX9_house_0 : List UInt8 := [42, 17, 3, 132, 182, 0, 206, 3, 60, 27, 16, 24, 162, 0, 16, 42, 180, 0, 101, 27, 3, 79]
abbrev dktX9_house_0 : List UInt8 := dkwX9_house_0 ++ dktX9_house_1
theorem dksX9_house_0 : cX9_house.data.toList.drop 0 = dktX9_house_0 := by decide +kernel
theorem dksX9_house_1 : cX9_house.data.toList.drop 22 = dktX9_house_1 := dk_seg dksX9_house_0 22 rfl rfl
theorem dksX9_house_2 : cX9_house.data.toList.drop 46 = dktX9_house_2 := dk_seg dksX9_house_1 24 rfl rfl
theorem dksX9_house_3 : cX9_house.data.toList.drop 70 = dktX9_house_3 := dk_seg dksX9_house_2 24 rfl rfl
theorem dksX9_house_4 : cX9_house.data.toList.drop 94 = dktX9_house_4 := dk_seg dksX9_house_3 24 rfl rfl
theorem dksX9_house_5 : cX9_house.data.toList.drop 116 = dktX9_house_5 := dk_seg dksX9_house_4 22 rfl rfl
theorem dksX9_house_6 : cX9_house.data.toList.drop 139 = dktX9_house_6 := dk_seg dksX9_house_5 23 rfl rfl
theorem dX9_house_0 : decode cX9_house 0 = .ok (.aload_n 0, 1) := dk_42 (dk_at dksX9_house_0 0 rfl rfl)
theorem dX9_house_1 : decode cX9_house 1 = .ok (.sipush 900, 3) := dk_17 3 132 (dk_at dksX9_house_0 1 rfl rfl)
theorem dX9_house_4 : decode cX9_house 4 = .ok (.invokevirtual 206, 3) := dk_182 0 206 (dk_at dksX9_house_0 4 rfl rfl)
theorem dX9_house_7 : decode cX9_house 7 = .ok (.iconst 0, 1) := dk_3 (dk_at dksX9_house_0 7 rfl rfl)
theorem dX9_house_8 : decode cX9_house 8 = .ok (.istore_n 1, 1) := dk_60 (dk_at dksX9_house_0 8 rfl rfl)
theorem dX9_house_9 : decode cX9_house 9 = .ok (.iload_n 1, 1) := dk_27 (dk_at dksX9_house_0 9 rfl rfl)
theorem dX9_house_10 : decode cX9_house 10 = .ok (.bipush 24, 2) := dk_16 24 (dk_at dksX9_house_0 10 rfl rfl)
theorem dX9_house_12 : decode cX9_house 12 = .ok (.if_icmp .ge 16, 3) := dk_162 0 16 (dk_at dksX9_house_0 12 rfl rfl)
theorem dX9_house_15 : decode cX9_house 15 = .ok (.aload_n 0, 1) := dk_42 (dk_at dksX9_house_0 15 rfl rfl)
theorem dX9_house_16 : decode cX9_house 16 = .ok (.getfield 101, 3) := dk_180 0 101 (dk_at dksX9_house_0 16 rfl rfl)
theorem dX9_house_19 : decode cX9_house 19 = .ok (.iload_n 1, 1) := dk_27 (dk_at dksX9_house_0 19 rfl rfl)
theorem dX9_house_20 : decode cX9_house 20 = .ok (.iconst 0, 1) := dk_3 (dk_at dksX9_house_0 20 rfl rfl)
theorem dX9_house_21 : decode cX9_house 21 = .ok (.iastore, 1) := dk_79 (dk_at dksX9_house_0 21 rfl rfl)
theorem dX9_house_22 : decode cX9_house 22 = .ok (.iinc 1 1, 3) := dk_132 1 1 (dk_at dksX9_house_1 0 rfl rfl)
theorem dX9_house_25 : decode cX9_house 25 = .ok (.goto (-16), 3) := dk_167 255 240 (dk_at dksX9_house_1 3 rfl rfl)
theorem dX9_house_28 : decode cX9_house 28 = .ok (.aload_n 0, 1) := dk_42 (dk_at dksX9_house_1 6 rfl rfl)
theorem dX9_house_29 : decode cX9_house 29 = .ok (.getfield 127, 3) := dk_180 0 127 (dk_at dksX9_house_1 7 rfl rfl)
theorem dX9_house_32 : decode cX9_house 32 = .ok (.iconst 0, 1) := dk_3 (dk_at dksX9_house_1 10 rfl rfl)
theorem dX9_house_33 : decode cX9_house 33 = .ok (.iconst 0, 1) := dk_3 (dk_at dksX9_house_1 11 rfl rfl)
theorem dX9_house_34 : decode cX9_house 34 = .ok (.bastore, 1) := dk_84 (dk_at dksX9_house_1 12 rfl rfl)
theorem dX9_house_35 : decode cX9_house 35 = .ok (.aload_n 0, 1) := dk_42 (dk_at dksX9_house_1 13 rfl rfl)
theorem dX9_house_36 : decode cX9_house 36 = .ok (.getfield 127, 3) := dk_180 0 127 (dk_at dksX9_house_1 14 rfl rfl)
theorem dX9_house_39 : decode cX9_house 39 = .ok (.iconst 1, 1) := dk_4 (dk_at dksX9_house_1 17 rfl rfl)
theorem dX9_house_40 : decode cX9_house 40 = .ok (.iconst 0, 1) := dk_3 (dk_at dksX9_house_1 18 rfl rfl)
theorem dX9_house_41 : decode cX9_house 41 = .ok (.bastore, 1) := dk_84 (dk_at dksX9_house_1 19 rfl rfl)
theorem dX9_house_42 : decode cX9_house 42 = .ok (.aload_n 0, 1) := dk_42 (dk_at dksX9_house_1 20 rfl rfl)
theorem dX9_house_43 : decode cX9_house 43 = .ok (.getfield 101, 3) := dk_180 0 101 (dk_at dksX9_house_1 21 rfl rfl)
theorem dX9_house_46 : decode cX9_house 46 = .ok (.iconst 4, 1) := dk_7 (dk_at dksX9_house_2 0 rfl rfl)
theorem dX9_house_47 : decode cX9_house 47 = .ok (.bipush 6, 2) := dk_16 6 (dk_at dksX9_house_2 1 rfl rfl)
theorem dX9_house_49 : decode cX9_house 49 = .ok (.iastore, 1) := dk_79 (dk_at dksX9_house_2 3 rfl rfl)
theorem dX9_house_50 : decode cX9_house 50 = .ok (.aload_n 0, 1) := dk_42 (dk_at dksX9_house_2 4 rfl rfl)
theorem dX9_house_51 : decode cX9_house 51 = .ok (.getfield 101, 3) := dk_180 0 101 (dk_at dksX9_house_2 5 rfl rfl)
theorem dX9_house_54 : decode cX9_house 54 = .ok (.iconst 5, 1) := dk_8 (dk_at dksX9_house_2 8 rfl rfl)
theorem dX9_house_55 : decode cX9_house 55 = .ok (.iconst 2, 1) := dk_5 (dk_at dksX9_house_2 9 rfl rfl)
theorem dX9_house_56 : decode cX9_house 56 = .ok (.iastore, 1) := dk_79 (dk_at dksX9_house_2 10 rfl rfl)
theorem dX9_house_57 : decode cX9_house 57 = .ok (.iconst 0, 1) := dk_3 (dk_at dksX9_house_2 11 rfl rfl)
theorem dX9_house_58 : decode cX9_house 58 = .ok (.istore_n 1, 1) := dk_60 (dk_at dksX9_house_2 12 rfl rfl)
theorem dX9_house_59 : decode cX9_house 59 = .ok (.aload_n 0, 1) := dk_42 (dk_at dksX9_house_2 13 rfl rfl)
theorem dX9_house_60 : decode cX9_house 60 = .ok (.getfield 30, 3) := dk_180 0 30 (dk_at dksX9_house_2 14 rfl rfl)
theorem dX9_house_63 : decode cX9_house 63 = .ok (.ifCond .eq 30, 3) := dk_153 0 30 (dk_at dksX9_house_2 17 rfl rfl)
theorem dX9_house_66 : decode cX9_house 66 = .ok (.aload_n 0, 1) := dk_42 (dk_at dksX9_house_2 20 rfl rfl)
theorem dX9_house_67 : decode cX9_house 67 = .ok (.invokevirtual 209, 3) := dk_182 0 209 (dk_at dksX9_house_2 21 rfl rfl)
theorem dX9_house_70 : decode cX9_house 70 = .ok (.ifCond .eq 10, 3) := dk_153 0 10 (dk_at dksX9_house_3 0 rfl rfl)
theorem dX9_house_73 : decode cX9_house 73 = .ok (.aload_n 0, 1) := dk_42 (dk_at dksX9_house_3 3 rfl rfl)
theorem dX9_house_74 : decode cX9_house 74 = .ok (.invokevirtual 212, 3) := dk_182 0 212 (dk_at dksX9_house_3 4 rfl rfl)
theorem dX9_house_77 : decode cX9_house 77 = .ok (.ifCond .ne 10, 3) := dk_154 0 10 (dk_at dksX9_house_3 7 rfl rfl)
theorem dX9_house_80 : decode cX9_house 80 = .ok (.iconst (-1), 1) := dk_2 (dk_at dksX9_house_3 10 rfl rfl)
theorem dX9_house_81 : decode cX9_house 81 = .ok (.aload_n 0, 1) := dk_42 (dk_at dksX9_house_3 11 rfl rfl)
theorem dX9_house_82 : decode cX9_house 82 = .ok (.getfield 69, 3) := dk_180 0 69 (dk_at dksX9_house_3 12 rfl rfl)
theorem dX9_house_85 : decode cX9_house 85 = .ok (.isub, 1) := dk_100 (dk_at dksX9_house_3 15 rfl rfl)
theorem dX9_house_86 : decode cX9_house 86 = .ok (.ireturn, 1) := dk_172 (dk_at dksX9_house_3 16 rfl rfl)
theorem dX9_house_87 : decode cX9_house 87 = .ok (.iinc 1 1, 3) := dk_132 1 1 (dk_at dksX9_house_3 17 rfl rfl)
theorem dX9_house_90 : decode cX9_house 90 = .ok (.goto (-31), 3) := dk_167 255 225 (dk_at dksX9_house_3 20 rfl rfl)
theorem dX9_house_93 : decode cX9_house 93 = .ok (.iconst 0, 1) := dk_3 (dk_at dksX9_house_3 23 rfl rfl)
theorem dX9_house_94 : decode cX9_house 94 = .ok (.istore_n 2, 1) := dk_61 (dk_at dksX9_house_4 0 rfl rfl)
theorem dX9_house_95 : decode cX9_house 95 = .ok (.iload_n 2, 1) := dk_28 (dk_at dksX9_house_4 1 rfl rfl)
theorem dX9_house_96 : decode cX9_house 96 = .ok (.bipush 24, 2) := dk_16 24 (dk_at dksX9_house_4 2 rfl rfl)
theorem dX9_house_98 : decode cX9_house 98 = .ok (.if_icmp .ge 21, 3) := dk_162 0 21 (dk_at dksX9_house_4 4 rfl rfl)
theorem dX9_house_101 : decode cX9_house 101 = .ok (.aload_n 0, 1) := dk_42 (dk_at dksX9_house_4 7 rfl rfl)
theorem dX9_house_102 : decode cX9_house 102 = .ok (.getfield 98, 3) := dk_180 0 98 (dk_at dksX9_house_4 8 rfl rfl)
theorem dX9_house_105 : decode cX9_house 105 = .ok (.iload_n 2, 1) := dk_28 (dk_at dksX9_house_4 11 rfl rfl)
theorem dX9_house_106 : decode cX9_house 106 = .ok (.aload_n 0, 1) := dk_42 (dk_at dksX9_house_4 12 rfl rfl)
theorem dX9_house_107 : decode cX9_house 107 = .ok (.getfield 101, 3) := dk_180 0 101 (dk_at dksX9_house_4 13 rfl rfl)
theorem dX9_house_110 : decode cX9_house 110 = .ok (.iload_n 2, 1) := dk_28 (dk_at dksX9_house_4 16 rfl rfl)
theorem dX9_house_111 : decode cX9_house 111 = .ok (.iaload, 1) := dk_46 (dk_at dksX9_house_4 17 rfl rfl)
theorem dX9_house_112 : decode cX9_house 112 = .ok (.iastore, 1) := dk_79 (dk_at dksX9_house_4 18 rfl rfl)
theorem dX9_house_113 : decode cX9_house 113 = .ok (.iinc 2 1, 3) := dk_132 2 1 (dk_at dksX9_house_4 19 rfl rfl)
theorem dX9_house_116 : decode cX9_house 116 = .ok (.goto (-21), 3) := dk_167 255 235 (dk_at dksX9_house_5 0 rfl rfl)
theorem dX9_house_119 : decode cX9_house 119 = .ok (.iconst 0, 1) := dk_3 (dk_at dksX9_house_5 3 rfl rfl)
theorem dX9_house_120 : decode cX9_house 120 = .ok (.istore_n 2, 1) := dk_61 (dk_at dksX9_house_5 4 rfl rfl)
theorem dX9_house_121 : decode cX9_house 121 = .ok (.iload_n 2, 1) := dk_28 (dk_at dksX9_house_5 5 rfl rfl)
theorem dX9_house_122 : decode cX9_house 122 = .ok (.bipush 20, 2) := dk_16 20 (dk_at dksX9_house_5 6 rfl rfl)
theorem dX9_house_124 : decode cX9_house 124 = .ok (.if_icmp .ge 21, 3) := dk_162 0 21 (dk_at dksX9_house_5 8 rfl rfl)
theorem dX9_house_127 : decode cX9_house 127 = .ok (.aload_n 0, 1) := dk_42 (dk_at dksX9_house_5 11 rfl rfl)
theorem dX9_house_128 : decode cX9_house 128 = .ok (.getfield 113, 3) := dk_180 0 113 (dk_at dksX9_house_5 12 rfl rfl)
theorem dX9_house_131 : decode cX9_house 131 = .ok (.iload_n 2, 1) := dk_28 (dk_at dksX9_house_5 15 rfl rfl)
theorem dX9_house_132 : decode cX9_house 132 = .ok (.aload_n 0, 1) := dk_42 (dk_at dksX9_house_5 16 rfl rfl)
theorem dX9_house_133 : decode cX9_house 133 = .ok (.getfield 117, 3) := dk_180 0 117 (dk_at dksX9_house_5 17 rfl rfl)
theorem dX9_house_136 : decode cX9_house 136 = .ok (.iload_n 2, 1) := dk_28 (dk_at dksX9_house_5 20 rfl rfl)
theorem dX9_house_137 : decode cX9_house 137 = .ok (.laload, 1) := dk_47 (dk_at dksX9_house_5 21 rfl rfl)
theorem dX9_house_138 : decode cX9_house 138 = .ok (.lastore, 1) := dk_80 (dk_at dksX9_house_5 22 rfl rfl)
theorem dX9_house_139 : decode cX9_house 139 = .ok (.iinc 2 1, 3) := dk_132 2 1 (dk_at dksX9_house_6 0 rfl rfl)
theorem dX9_house_142 : decode cX9_house 142 = .ok (.goto (-21), 3) := dk_167 255 235 (dk_at dksX9_house_6 3 rfl rfl)
theorem dX9_house_145 : decode cX9_house 145 = .ok (.aload_n 0, 1) := dk_42 (dk_at dksX9_house_6 6 rfl rfl)
theorem dX9_house_146 : decode cX9_house 146 = .ok (.invokevirtual 157, 3) := dk_182 0 157 (dk_at dksX9_house_6 7 rfl rfl)
theorem dX9_house_149 : decode cX9_house 149 = .ok (.aload_n 0, 1) := dk_42 (dk_at dksX9_house_6 10 rfl rfl)
theorem dX9_house_150 : decode cX9_house 150 = .ok (.iconst 0, 1) := dk_3 (dk_at dksX9_house_6 11 rfl rfl)
theorem dX9_house_151 : decode cX9_house 151 = .ok (.putfield 215, 3) := dk_181 0 215 (dk_at dksX9_house_6 12 rfl rfl)
theorem dX9_house_154 : decode cX9_house 154 = .ok (.iload_n 1, 1) := dk_27 (dk_at dksX9_house_6 15 rfl rfl)
theorem dX9_house_155 : decode cX9_house 155 = .ok (.ireturn, 1) := dk_172 (dk_at dksX9_house_6 16 rfl rfl)
abbrev cX9_begin : ByteArray := prog_22_method_25_code
def yX9_begin : MethodName := ⟨RX9, "begin", "(I)V"⟩
def dkwX9_begin_1 : List UInt8 := [3, 181, 0, 21, 42, 182, 0, 82, 177]
abbrev dktX9_begin_1 : List UInt8 := dkwX9_begin_1 ++ []
def dkwX9_begin_0 : List UInt8 := [42, 3, 181, 0, 1, 42, 42, 182, 0, 89, 181, 0, 18, 42, 27, 181, 0, 27, 42, 3, 181, 0, 66, 42]
abbrev dktX9_begin_0 : List UInt8 := dkwX9_begin_0 ++ dktX9_begin_1
theorem dksX9_begin_0 : cX9_begin.data.toList.drop 0 = dktX9_begin_0 := by decide +kernel
theorem dksX9_begin_1 : cX9_begin.data.toList.drop 24 = dktX9_begin_1 := dk_seg dksX9_begin_0 24 rfl rfl
theorem dX9_begin_0 : decode cX9_begin 0 = .ok (.aload_n 0, 1) := dk_42 (dk_at dksX9_begin_0 0 rfl rfl)
theorem dX9_begin_1 : decode cX9_begin 1 = .ok (.iconst 0, 1) := dk_3 (dk_at dksX9_begin_0 1 rfl rfl)
theorem dX9_begin_2 : decode cX9_begin 2 = .ok (.putfield 1, 3) := dk_181 0 1 (dk_at dksX9_begin_0 2 rfl rfl)
theorem dX9_begin_5 : decode cX9_begin 5 = .ok (.aload_n 0, 1) := dk_42 (dk_at dksX9_begin_0 5 rfl rfl)
theorem dX9_begin_6 : decode cX9_begin 6 = .ok (.aload_n 0, 1) := dk_42 (dk_at dksX9_begin_0 6 rfl rfl)
theorem dX9_begin_7 : decode cX9_begin 7 = .ok (.invokevirtual 89, 3) := dk_182 0 89 (dk_at dksX9_begin_0 7 rfl rfl)
theorem dX9_begin_10 : decode cX9_begin 10 = .ok (.putfield 18, 3) := dk_181 0 18 (dk_at dksX9_begin_0 10 rfl rfl)
theorem dX9_begin_13 : decode cX9_begin 13 = .ok (.aload_n 0, 1) := dk_42 (dk_at dksX9_begin_0 13 rfl rfl)
theorem dX9_begin_14 : decode cX9_begin 14 = .ok (.iload_n 1, 1) := dk_27 (dk_at dksX9_begin_0 14 rfl rfl)
theorem dX9_begin_15 : decode cX9_begin 15 = .ok (.putfield 27, 3) := dk_181 0 27 (dk_at dksX9_begin_0 15 rfl rfl)
theorem dX9_begin_18 : decode cX9_begin 18 = .ok (.aload_n 0, 1) := dk_42 (dk_at dksX9_begin_0 18 rfl rfl)
theorem dX9_begin_19 : decode cX9_begin 19 = .ok (.iconst 0, 1) := dk_3 (dk_at dksX9_begin_0 19 rfl rfl)
theorem dX9_begin_20 : decode cX9_begin 20 = .ok (.putfield 66, 3) := dk_181 0 66 (dk_at dksX9_begin_0 20 rfl rfl)
theorem dX9_begin_23 : decode cX9_begin 23 = .ok (.aload_n 0, 1) := dk_42 (dk_at dksX9_begin_0 23 rfl rfl)
theorem dX9_begin_24 : decode cX9_begin 24 = .ok (.iconst 0, 1) := dk_3 (dk_at dksX9_begin_1 0 rfl rfl)
theorem dX9_begin_25 : decode cX9_begin 25 = .ok (.putfield 21, 3) := dk_181 0 21 (dk_at dksX9_begin_1 1 rfl rfl)
theorem dX9_begin_28 : decode cX9_begin 28 = .ok (.aload_n 0, 1) := dk_42 (dk_at dksX9_begin_1 4 rfl rfl)
theorem dX9_begin_29 : decode cX9_begin 29 = .ok (.invokevirtual 82, 3) := dk_182 0 82 (dk_at dksX9_begin_1 5 rfl rfl)
theorem dX9_begin_32 : decode cX9_begin 32 = .ok (.return_, 1) := dk_177 (dk_at dksX9_begin_1 8 rfl rfl)
abbrev cX9_take : ByteArray := prog_22_method_6_code
def yX9_take : MethodName := ⟨RX9, "take", "()I"⟩
def dkwX9_take_0 : List UInt8 := [42, 180, 0, 11, 60, 42, 3, 181, 0, 11, 27, 172]
abbrev dktX9_take_0 : List UInt8 := dkwX9_take_0 ++ []
theorem dksX9_take_0 : cX9_take.data.toList.drop 0 = dktX9_take_0 := by decide +kernel
theorem dX9_take_0 : decode cX9_take 0 = .ok (.aload_n 0, 1) := dk_42 (dk_at dksX9_take_0 0 rfl rfl)
theorem dX9_take_1 : decode cX9_take 1 = .ok (.getfield 11, 3) := dk_180 0 11 (dk_at dksX9_take_0 1 rfl rfl)
theorem dX9_take_4 : decode cX9_take 4 = .ok (.istore_n 1, 1) := dk_60 (dk_at dksX9_take_0 4 rfl rfl)
theorem dX9_take_5 : decode cX9_take 5 = .ok (.aload_n 0, 1) := dk_42 (dk_at dksX9_take_0 5 rfl rfl)
theorem dX9_take_6 : decode cX9_take 6 = .ok (.iconst 0, 1) := dk_3 (dk_at dksX9_take_0 6 rfl rfl)
theorem dX9_take_7 : decode cX9_take 7 = .ok (.putfield 11, 3) := dk_181 0 11 (dk_at dksX9_take_0 7 rfl rfl)
theorem dX9_take_10 : decode cX9_take 10 = .ok (.iload_n 1, 1) := dk_27 (dk_at dksX9_take_0 10 rfl rfl)
theorem dX9_take_11 : decode cX9_take 11 = .ok (.ireturn, 1) := dk_172 (dk_at dksX9_take_0 11 rfl rfl)
abbrev cX9_go : ByteArray := prog_22_method_16_code
def yX9_go : MethodName := ⟨RX9, "go", "()V"⟩
def dkwX9_go_16 : List UInt8 := [167, 0, 4, 6, 164, 0, 7, 4, 167, 0, 12, 28, 153, 0, 7, 5, 167, 0, 4, 6, 181, 0, 30, 177]
abbrev dktX9_go_16 : List UInt8 := dkwX9_go_16 ++ []
def dkwX9_go_15 : List UInt8 := [167, 255, 124, 42, 29, 153, 0, 25, 42, 180, 0, 21, 42, 180, 0, 24, 100, 28, 153, 0, 8, 16, 7]
abbrev dktX9_go_15 : List UInt8 := dkwX9_go_15 ++ dktX9_go_16
def dkwX9_go_14 : List UInt8 := [180, 0, 47, 104, 21, 4, 96, 16, 48, 100, 181, 0, 47, 42, 89, 180, 0, 21, 4, 96, 181, 0, 21]
abbrev dktX9_go_14 : List UInt8 := dkwX9_go_14 ++ dktX9_go_15
def dkwX9_go_13 : List UInt8 := [20, 0, 56, 101, 181, 0, 43, 42, 180, 0, 21, 42, 180, 0, 24, 100, 6, 162, 0, 20, 42, 16, 10, 42]
abbrev dktX9_go_13 : List UInt8 := dkwX9_go_13 ++ dktX9_go_14
def dkwX9_go_12 : List UInt8 := [180, 0, 24, 100, 16, 7, 162, 0, 23, 42, 20, 0, 54, 42, 180, 0, 43, 105, 21, 4, 133, 97]
abbrev dktX9_go_12 : List UInt8 := dkwX9_go_12 ++ dktX9_go_13
def dkwX9_go_11 : List UInt8 := [153, 0, 16, 21, 4, 184, 0, 33, 28, 160, 0, 7, 4, 167, 0, 4, 3, 62, 42, 180, 0, 21, 42]
abbrev dktX9_go_11 : List UInt8 := dkwX9_go_11 ++ dktX9_go_12
def dkwX9_go_10 : List UInt8 := [180, 0, 21, 182, 0, 50, 184, 0, 37, 153, 0, 110, 42, 180, 0, 7, 42, 180, 0, 21, 46, 54, 4, 29]
abbrev dktX9_go_10 : List UInt8 := dkwX9_go_10 ++ dktX9_go_11
def dkwX9_go_9 : List UInt8 := [181, 0, 43, 42, 3, 181, 0, 47, 42, 42, 180, 0, 21, 182, 0, 50, 184, 0, 33, 154, 0, 17, 42, 42]
abbrev dktX9_go_9 : List UInt8 := dkwX9_go_9 ++ dktX9_go_10
def dkwX9_go_8 : List UInt8 := [181, 0, 40, 42, 89, 180, 0, 21, 4, 96, 181, 0, 21, 177, 27, 184, 0, 33, 61, 4, 62, 42, 9]
abbrev dktX9_go_8 : List UInt8 := dkwX9_go_8 ++ dktX9_go_9
def dkwX9_go_7 : List UInt8 := [27, 16, 40, 159, 0, 9, 27, 16, 41, 160, 0, 7, 7, 167, 0, 4, 4, 181, 0, 30, 42, 27]
abbrev dktX9_go_7 : List UInt8 := dkwX9_go_7 ++ dktX9_go_8
def dkwX9_go_6 : List UInt8 := [27, 16, 59, 159, 0, 33, 27, 16, 60, 159, 0, 27, 27, 16, 61, 159, 0, 21, 27, 16, 62, 159, 0, 15]
abbrev dktX9_go_6 : List UInt8 := dkwX9_go_6 ++ dktX9_go_7
def dkwX9_go_5 : List UInt8 := [180, 0, 7, 42, 180, 0, 21, 46, 60, 27, 184, 0, 33, 154, 0, 71, 27, 184, 0, 37, 154, 0, 64, 42]
abbrev dktX9_go_5 : List UInt8 := dkwX9_go_5 ++ dktX9_go_6
def dkwX9_go_4 : List UInt8 := [181, 0, 30, 177, 42, 180, 0, 21, 42, 180, 0, 18, 161, 0, 9, 42, 3, 181, 0, 30, 177, 42]
abbrev dktX9_go_4 : List UInt8 := dkwX9_go_4 ++ dktX9_go_5
def dkwX9_go_3 : List UInt8 := [164, 0, 28, 42, 180, 0, 24, 42, 180, 0, 27, 161, 0, 17, 42, 42, 180, 0, 27, 181, 0, 24, 42, 4]
abbrev dktX9_go_3 : List UInt8 := dkwX9_go_3 ++ dktX9_go_4
def dkwX9_go_2 : List UInt8 := [181, 0, 21, 167, 255, 207, 42, 42, 180, 0, 21, 181, 0, 24, 42, 180, 0, 18, 42, 180, 0, 27]
abbrev dktX9_go_2 : List UInt8 := dkwX9_go_2 ++ dktX9_go_3
def dkwX9_go_1 : List UInt8 := [159, 0, 17, 42, 180, 0, 7, 42, 180, 0, 21, 46, 16, 10, 160, 0, 16, 42, 89, 180, 0, 21, 4, 96]
abbrev dktX9_go_1 : List UInt8 := dkwX9_go_1 ++ dktX9_go_2
def dkwX9_go_0 : List UInt8 := [42, 180, 0, 21, 42, 180, 0, 18, 162, 0, 44, 42, 180, 0, 7, 42, 180, 0, 21, 46, 16, 32]
abbrev dktX9_go_0 : List UInt8 := dkwX9_go_0 ++ dktX9_go_1
theorem dksX9_go_0 : cX9_go.data.toList.drop 0 = dktX9_go_0 := by decide +kernel
theorem dksX9_go_1 : cX9_go.data.toList.drop 22 = dktX9_go_1 := dk_seg dksX9_go_0 22 rfl rfl
theorem dksX9_go_2 : cX9_go.data.toList.drop 46 = dktX9_go_2 := dk_seg dksX9_go_1 24 rfl rfl
theorem dksX9_go_3 : cX9_go.data.toList.drop 68 = dktX9_go_3 := dk_seg dksX9_go_2 22 rfl rfl
theorem dksX9_go_4 : cX9_go.data.toList.drop 92 = dktX9_go_4 := dk_seg dksX9_go_3 24 rfl rfl
theorem dksX9_go_5 : cX9_go.data.toList.drop 114 = dktX9_go_5 := dk_seg dksX9_go_4 22 rfl rfl
theorem dksX9_go_6 : cX9_go.data.toList.drop 138 = dktX9_go_6 := dk_seg dksX9_go_5 24 rfl rfl
theorem dksX9_go_7 : cX9_go.data.toList.drop 162 = dktX9_go_7 := dk_seg dksX9_go_6 24 rfl rfl
theorem dksX9_go_8 : cX9_go.data.toList.drop 184 = dktX9_go_8 := dk_seg dksX9_go_7 22 rfl rfl
theorem dksX9_go_9 : cX9_go.data.toList.drop 207 = dktX9_go_9 := dk_seg dksX9_go_8 23 rfl rfl
theorem dksX9_go_10 : cX9_go.data.toList.drop 231 = dktX9_go_10 := dk_seg dksX9_go_9 24 rfl rfl
theorem dksX9_go_11 : cX9_go.data.toList.drop 255 = dktX9_go_11 := dk_seg dksX9_go_10 24 rfl rfl
theorem dksX9_go_12 : cX9_go.data.toList.drop 278 = dktX9_go_12 := dk_seg dksX9_go_11 23 rfl rfl
theorem dksX9_go_13 : cX9_go.data.toList.drop 300 = dktX9_go_13 := dk_seg dksX9_go_12 22 rfl rfl
theorem dksX9_go_14 : cX9_go.data.toList.drop 324 = dktX9_go_14 := dk_seg dksX9_go_13 24 rfl rfl
theorem dksX9_go_15 : cX9_go.data.toList.drop 347 = dktX9_go_15 := dk_seg dksX9_go_14 23 rfl rfl
theorem dksX9_go_16 : cX9_go.data.toList.drop 370 = dktX9_go_16 := dk_seg dksX9_go_15 23 rfl rfl
theorem dX9_go_0 : decode cX9_go 0 = .ok (.aload_n 0, 1) := dk_42 (dk_at dksX9_go_0 0 rfl rfl)
theorem dX9_go_1 : decode cX9_go 1 = .ok (.getfield 21, 3) := dk_180 0 21 (dk_at dksX9_go_0 1 rfl rfl)
theorem dX9_go_4 : decode cX9_go 4 = .ok (.aload_n 0, 1) := dk_42 (dk_at dksX9_go_0 4 rfl rfl)
theorem dX9_go_5 : decode cX9_go 5 = .ok (.getfield 18, 3) := dk_180 0 18 (dk_at dksX9_go_0 5 rfl rfl)
theorem dX9_go_8 : decode cX9_go 8 = .ok (.if_icmp .ge 44, 3) := dk_162 0 44 (dk_at dksX9_go_0 8 rfl rfl)
theorem dX9_go_11 : decode cX9_go 11 = .ok (.aload_n 0, 1) := dk_42 (dk_at dksX9_go_0 11 rfl rfl)
theorem dX9_go_12 : decode cX9_go 12 = .ok (.getfield 7, 3) := dk_180 0 7 (dk_at dksX9_go_0 12 rfl rfl)
theorem dX9_go_15 : decode cX9_go 15 = .ok (.aload_n 0, 1) := dk_42 (dk_at dksX9_go_0 15 rfl rfl)
theorem dX9_go_16 : decode cX9_go 16 = .ok (.getfield 21, 3) := dk_180 0 21 (dk_at dksX9_go_0 16 rfl rfl)
theorem dX9_go_19 : decode cX9_go 19 = .ok (.iaload, 1) := dk_46 (dk_at dksX9_go_0 19 rfl rfl)
theorem dX9_go_20 : decode cX9_go 20 = .ok (.bipush 32, 2) := dk_16 32 (dk_at dksX9_go_0 20 rfl rfl)
theorem dX9_go_22 : decode cX9_go 22 = .ok (.if_icmp .eq 17, 3) := dk_159 0 17 (dk_at dksX9_go_1 0 rfl rfl)
theorem dX9_go_25 : decode cX9_go 25 = .ok (.aload_n 0, 1) := dk_42 (dk_at dksX9_go_1 3 rfl rfl)
theorem dX9_go_26 : decode cX9_go 26 = .ok (.getfield 7, 3) := dk_180 0 7 (dk_at dksX9_go_1 4 rfl rfl)
theorem dX9_go_29 : decode cX9_go 29 = .ok (.aload_n 0, 1) := dk_42 (dk_at dksX9_go_1 7 rfl rfl)
theorem dX9_go_30 : decode cX9_go 30 = .ok (.getfield 21, 3) := dk_180 0 21 (dk_at dksX9_go_1 8 rfl rfl)
theorem dX9_go_33 : decode cX9_go 33 = .ok (.iaload, 1) := dk_46 (dk_at dksX9_go_1 11 rfl rfl)
theorem dX9_go_34 : decode cX9_go 34 = .ok (.bipush 10, 2) := dk_16 10 (dk_at dksX9_go_1 12 rfl rfl)
theorem dX9_go_36 : decode cX9_go 36 = .ok (.if_icmp .ne 16, 3) := dk_160 0 16 (dk_at dksX9_go_1 14 rfl rfl)
theorem dX9_go_39 : decode cX9_go 39 = .ok (.aload_n 0, 1) := dk_42 (dk_at dksX9_go_1 17 rfl rfl)
theorem dX9_go_40 : decode cX9_go 40 = .ok (.dup, 1) := dk_89 (dk_at dksX9_go_1 18 rfl rfl)
theorem dX9_go_41 : decode cX9_go 41 = .ok (.getfield 21, 3) := dk_180 0 21 (dk_at dksX9_go_1 19 rfl rfl)
theorem dX9_go_44 : decode cX9_go 44 = .ok (.iconst 1, 1) := dk_4 (dk_at dksX9_go_1 22 rfl rfl)
theorem dX9_go_45 : decode cX9_go 45 = .ok (.iadd, 1) := dk_96 (dk_at dksX9_go_1 23 rfl rfl)
theorem dX9_go_46 : decode cX9_go 46 = .ok (.putfield 21, 3) := dk_181 0 21 (dk_at dksX9_go_2 0 rfl rfl)
theorem dX9_go_49 : decode cX9_go 49 = .ok (.goto (-49), 3) := dk_167 255 207 (dk_at dksX9_go_2 3 rfl rfl)
theorem dX9_go_52 : decode cX9_go 52 = .ok (.aload_n 0, 1) := dk_42 (dk_at dksX9_go_2 6 rfl rfl)
theorem dX9_go_53 : decode cX9_go 53 = .ok (.aload_n 0, 1) := dk_42 (dk_at dksX9_go_2 7 rfl rfl)
theorem dX9_go_54 : decode cX9_go 54 = .ok (.getfield 21, 3) := dk_180 0 21 (dk_at dksX9_go_2 8 rfl rfl)
theorem dX9_go_57 : decode cX9_go 57 = .ok (.putfield 24, 3) := dk_181 0 24 (dk_at dksX9_go_2 11 rfl rfl)
theorem dX9_go_60 : decode cX9_go 60 = .ok (.aload_n 0, 1) := dk_42 (dk_at dksX9_go_2 14 rfl rfl)
theorem dX9_go_61 : decode cX9_go 61 = .ok (.getfield 18, 3) := dk_180 0 18 (dk_at dksX9_go_2 15 rfl rfl)
theorem dX9_go_64 : decode cX9_go 64 = .ok (.aload_n 0, 1) := dk_42 (dk_at dksX9_go_2 18 rfl rfl)
theorem dX9_go_65 : decode cX9_go 65 = .ok (.getfield 27, 3) := dk_180 0 27 (dk_at dksX9_go_2 19 rfl rfl)
theorem dX9_go_68 : decode cX9_go 68 = .ok (.if_icmp .le 28, 3) := dk_164 0 28 (dk_at dksX9_go_3 0 rfl rfl)
theorem dX9_go_71 : decode cX9_go 71 = .ok (.aload_n 0, 1) := dk_42 (dk_at dksX9_go_3 3 rfl rfl)
theorem dX9_go_72 : decode cX9_go 72 = .ok (.getfield 24, 3) := dk_180 0 24 (dk_at dksX9_go_3 4 rfl rfl)
theorem dX9_go_75 : decode cX9_go 75 = .ok (.aload_n 0, 1) := dk_42 (dk_at dksX9_go_3 7 rfl rfl)
theorem dX9_go_76 : decode cX9_go 76 = .ok (.getfield 27, 3) := dk_180 0 27 (dk_at dksX9_go_3 8 rfl rfl)
theorem dX9_go_79 : decode cX9_go 79 = .ok (.if_icmp .lt 17, 3) := dk_161 0 17 (dk_at dksX9_go_3 11 rfl rfl)
theorem dX9_go_82 : decode cX9_go 82 = .ok (.aload_n 0, 1) := dk_42 (dk_at dksX9_go_3 14 rfl rfl)
theorem dX9_go_83 : decode cX9_go 83 = .ok (.aload_n 0, 1) := dk_42 (dk_at dksX9_go_3 15 rfl rfl)
theorem dX9_go_84 : decode cX9_go 84 = .ok (.getfield 27, 3) := dk_180 0 27 (dk_at dksX9_go_3 16 rfl rfl)
theorem dX9_go_87 : decode cX9_go 87 = .ok (.putfield 24, 3) := dk_181 0 24 (dk_at dksX9_go_3 19 rfl rfl)
theorem dX9_go_90 : decode cX9_go 90 = .ok (.aload_n 0, 1) := dk_42 (dk_at dksX9_go_3 22 rfl rfl)
theorem dX9_go_91 : decode cX9_go 91 = .ok (.iconst 1, 1) := dk_4 (dk_at dksX9_go_3 23 rfl rfl)
theorem dX9_go_92 : decode cX9_go 92 = .ok (.putfield 30, 3) := dk_181 0 30 (dk_at dksX9_go_4 0 rfl rfl)
theorem dX9_go_95 : decode cX9_go 95 = .ok (.return_, 1) := dk_177 (dk_at dksX9_go_4 3 rfl rfl)
theorem dX9_go_96 : decode cX9_go 96 = .ok (.aload_n 0, 1) := dk_42 (dk_at dksX9_go_4 4 rfl rfl)
theorem dX9_go_97 : decode cX9_go 97 = .ok (.getfield 21, 3) := dk_180 0 21 (dk_at dksX9_go_4 5 rfl rfl)
theorem dX9_go_100 : decode cX9_go 100 = .ok (.aload_n 0, 1) := dk_42 (dk_at dksX9_go_4 8 rfl rfl)
theorem dX9_go_101 : decode cX9_go 101 = .ok (.getfield 18, 3) := dk_180 0 18 (dk_at dksX9_go_4 9 rfl rfl)
theorem dX9_go_104 : decode cX9_go 104 = .ok (.if_icmp .lt 9, 3) := dk_161 0 9 (dk_at dksX9_go_4 12 rfl rfl)
theorem dX9_go_107 : decode cX9_go 107 = .ok (.aload_n 0, 1) := dk_42 (dk_at dksX9_go_4 15 rfl rfl)
theorem dX9_go_108 : decode cX9_go 108 = .ok (.iconst 0, 1) := dk_3 (dk_at dksX9_go_4 16 rfl rfl)
theorem dX9_go_109 : decode cX9_go 109 = .ok (.putfield 30, 3) := dk_181 0 30 (dk_at dksX9_go_4 17 rfl rfl)
theorem dX9_go_112 : decode cX9_go 112 = .ok (.return_, 1) := dk_177 (dk_at dksX9_go_4 20 rfl rfl)
theorem dX9_go_113 : decode cX9_go 113 = .ok (.aload_n 0, 1) := dk_42 (dk_at dksX9_go_4 21 rfl rfl)
theorem dX9_go_114 : decode cX9_go 114 = .ok (.getfield 7, 3) := dk_180 0 7 (dk_at dksX9_go_5 0 rfl rfl)
theorem dX9_go_117 : decode cX9_go 117 = .ok (.aload_n 0, 1) := dk_42 (dk_at dksX9_go_5 3 rfl rfl)
theorem dX9_go_118 : decode cX9_go 118 = .ok (.getfield 21, 3) := dk_180 0 21 (dk_at dksX9_go_5 4 rfl rfl)
theorem dX9_go_121 : decode cX9_go 121 = .ok (.iaload, 1) := dk_46 (dk_at dksX9_go_5 7 rfl rfl)
theorem dX9_go_122 : decode cX9_go 122 = .ok (.istore_n 1, 1) := dk_60 (dk_at dksX9_go_5 8 rfl rfl)
theorem dX9_go_123 : decode cX9_go 123 = .ok (.iload_n 1, 1) := dk_27 (dk_at dksX9_go_5 9 rfl rfl)
theorem dX9_go_124 : decode cX9_go 124 = .ok (.invokestatic 33, 3) := dk_184 0 33 (dk_at dksX9_go_5 10 rfl rfl)
theorem dX9_go_127 : decode cX9_go 127 = .ok (.ifCond .ne 71, 3) := dk_154 0 71 (dk_at dksX9_go_5 13 rfl rfl)
theorem dX9_go_130 : decode cX9_go 130 = .ok (.iload_n 1, 1) := dk_27 (dk_at dksX9_go_5 16 rfl rfl)
theorem dX9_go_131 : decode cX9_go 131 = .ok (.invokestatic 37, 3) := dk_184 0 37 (dk_at dksX9_go_5 17 rfl rfl)
theorem dX9_go_134 : decode cX9_go 134 = .ok (.ifCond .ne 64, 3) := dk_154 0 64 (dk_at dksX9_go_5 20 rfl rfl)
theorem dX9_go_137 : decode cX9_go 137 = .ok (.aload_n 0, 1) := dk_42 (dk_at dksX9_go_5 23 rfl rfl)
theorem dX9_go_138 : decode cX9_go 138 = .ok (.iload_n 1, 1) := dk_27 (dk_at dksX9_go_6 0 rfl rfl)
theorem dX9_go_139 : decode cX9_go 139 = .ok (.bipush 59, 2) := dk_16 59 (dk_at dksX9_go_6 1 rfl rfl)
theorem dX9_go_141 : decode cX9_go 141 = .ok (.if_icmp .eq 33, 3) := dk_159 0 33 (dk_at dksX9_go_6 3 rfl rfl)
theorem dX9_go_144 : decode cX9_go 144 = .ok (.iload_n 1, 1) := dk_27 (dk_at dksX9_go_6 6 rfl rfl)
theorem dX9_go_145 : decode cX9_go 145 = .ok (.bipush 60, 2) := dk_16 60 (dk_at dksX9_go_6 7 rfl rfl)
theorem dX9_go_147 : decode cX9_go 147 = .ok (.if_icmp .eq 27, 3) := dk_159 0 27 (dk_at dksX9_go_6 9 rfl rfl)
theorem dX9_go_150 : decode cX9_go 150 = .ok (.iload_n 1, 1) := dk_27 (dk_at dksX9_go_6 12 rfl rfl)
theorem dX9_go_151 : decode cX9_go 151 = .ok (.bipush 61, 2) := dk_16 61 (dk_at dksX9_go_6 13 rfl rfl)
theorem dX9_go_153 : decode cX9_go 153 = .ok (.if_icmp .eq 21, 3) := dk_159 0 21 (dk_at dksX9_go_6 15 rfl rfl)
theorem dX9_go_156 : decode cX9_go 156 = .ok (.iload_n 1, 1) := dk_27 (dk_at dksX9_go_6 18 rfl rfl)
theorem dX9_go_157 : decode cX9_go 157 = .ok (.bipush 62, 2) := dk_16 62 (dk_at dksX9_go_6 19 rfl rfl)
theorem dX9_go_159 : decode cX9_go 159 = .ok (.if_icmp .eq 15, 3) := dk_159 0 15 (dk_at dksX9_go_6 21 rfl rfl)
theorem dX9_go_162 : decode cX9_go 162 = .ok (.iload_n 1, 1) := dk_27 (dk_at dksX9_go_7 0 rfl rfl)
theorem dX9_go_163 : decode cX9_go 163 = .ok (.bipush 40, 2) := dk_16 40 (dk_at dksX9_go_7 1 rfl rfl)
theorem dX9_go_165 : decode cX9_go 165 = .ok (.if_icmp .eq 9, 3) := dk_159 0 9 (dk_at dksX9_go_7 3 rfl rfl)
theorem dX9_go_168 : decode cX9_go 168 = .ok (.iload_n 1, 1) := dk_27 (dk_at dksX9_go_7 6 rfl rfl)
theorem dX9_go_169 : decode cX9_go 169 = .ok (.bipush 41, 2) := dk_16 41 (dk_at dksX9_go_7 7 rfl rfl)
theorem dX9_go_171 : decode cX9_go 171 = .ok (.if_icmp .ne 7, 3) := dk_160 0 7 (dk_at dksX9_go_7 9 rfl rfl)
theorem dX9_go_174 : decode cX9_go 174 = .ok (.iconst 4, 1) := dk_7 (dk_at dksX9_go_7 12 rfl rfl)
theorem dX9_go_175 : decode cX9_go 175 = .ok (.goto 4, 3) := dk_167 0 4 (dk_at dksX9_go_7 13 rfl rfl)
theorem dX9_go_178 : decode cX9_go 178 = .ok (.iconst 1, 1) := dk_4 (dk_at dksX9_go_7 16 rfl rfl)
theorem dX9_go_179 : decode cX9_go 179 = .ok (.putfield 30, 3) := dk_181 0 30 (dk_at dksX9_go_7 17 rfl rfl)
theorem dX9_go_182 : decode cX9_go 182 = .ok (.aload_n 0, 1) := dk_42 (dk_at dksX9_go_7 20 rfl rfl)
theorem dX9_go_183 : decode cX9_go 183 = .ok (.iload_n 1, 1) := dk_27 (dk_at dksX9_go_7 21 rfl rfl)
theorem dX9_go_184 : decode cX9_go 184 = .ok (.putfield 40, 3) := dk_181 0 40 (dk_at dksX9_go_8 0 rfl rfl)
theorem dX9_go_187 : decode cX9_go 187 = .ok (.aload_n 0, 1) := dk_42 (dk_at dksX9_go_8 3 rfl rfl)
theorem dX9_go_188 : decode cX9_go 188 = .ok (.dup, 1) := dk_89 (dk_at dksX9_go_8 4 rfl rfl)
theorem dX9_go_189 : decode cX9_go 189 = .ok (.getfield 21, 3) := dk_180 0 21 (dk_at dksX9_go_8 5 rfl rfl)
theorem dX9_go_192 : decode cX9_go 192 = .ok (.iconst 1, 1) := dk_4 (dk_at dksX9_go_8 8 rfl rfl)
theorem dX9_go_193 : decode cX9_go 193 = .ok (.iadd, 1) := dk_96 (dk_at dksX9_go_8 9 rfl rfl)
theorem dX9_go_194 : decode cX9_go 194 = .ok (.putfield 21, 3) := dk_181 0 21 (dk_at dksX9_go_8 10 rfl rfl)
theorem dX9_go_197 : decode cX9_go 197 = .ok (.return_, 1) := dk_177 (dk_at dksX9_go_8 13 rfl rfl)
theorem dX9_go_198 : decode cX9_go 198 = .ok (.iload_n 1, 1) := dk_27 (dk_at dksX9_go_8 14 rfl rfl)
theorem dX9_go_199 : decode cX9_go 199 = .ok (.invokestatic 33, 3) := dk_184 0 33 (dk_at dksX9_go_8 15 rfl rfl)
theorem dX9_go_202 : decode cX9_go 202 = .ok (.istore_n 2, 1) := dk_61 (dk_at dksX9_go_8 18 rfl rfl)
theorem dX9_go_203 : decode cX9_go 203 = .ok (.iconst 1, 1) := dk_4 (dk_at dksX9_go_8 19 rfl rfl)
theorem dX9_go_204 : decode cX9_go 204 = .ok (.istore_n 3, 1) := dk_62 (dk_at dksX9_go_8 20 rfl rfl)
theorem dX9_go_205 : decode cX9_go 205 = .ok (.aload_n 0, 1) := dk_42 (dk_at dksX9_go_8 21 rfl rfl)
theorem dX9_go_206 : decode cX9_go 206 = .ok (.lconst 0, 1) := dk_9 (dk_at dksX9_go_8 22 rfl rfl)
theorem dX9_go_207 : decode cX9_go 207 = .ok (.putfield 43, 3) := dk_181 0 43 (dk_at dksX9_go_9 0 rfl rfl)
theorem dX9_go_210 : decode cX9_go 210 = .ok (.aload_n 0, 1) := dk_42 (dk_at dksX9_go_9 3 rfl rfl)
theorem dX9_go_211 : decode cX9_go 211 = .ok (.iconst 0, 1) := dk_3 (dk_at dksX9_go_9 4 rfl rfl)
theorem dX9_go_212 : decode cX9_go 212 = .ok (.putfield 47, 3) := dk_181 0 47 (dk_at dksX9_go_9 5 rfl rfl)
theorem dX9_go_215 : decode cX9_go 215 = .ok (.aload_n 0, 1) := dk_42 (dk_at dksX9_go_9 8 rfl rfl)
theorem dX9_go_216 : decode cX9_go 216 = .ok (.aload_n 0, 1) := dk_42 (dk_at dksX9_go_9 9 rfl rfl)
theorem dX9_go_217 : decode cX9_go 217 = .ok (.getfield 21, 3) := dk_180 0 21 (dk_at dksX9_go_9 10 rfl rfl)
theorem dX9_go_220 : decode cX9_go 220 = .ok (.invokevirtual 50, 3) := dk_182 0 50 (dk_at dksX9_go_9 13 rfl rfl)
theorem dX9_go_223 : decode cX9_go 223 = .ok (.invokestatic 33, 3) := dk_184 0 33 (dk_at dksX9_go_9 16 rfl rfl)
theorem dX9_go_226 : decode cX9_go 226 = .ok (.ifCond .ne 17, 3) := dk_154 0 17 (dk_at dksX9_go_9 19 rfl rfl)
theorem dX9_go_229 : decode cX9_go 229 = .ok (.aload_n 0, 1) := dk_42 (dk_at dksX9_go_9 22 rfl rfl)
theorem dX9_go_230 : decode cX9_go 230 = .ok (.aload_n 0, 1) := dk_42 (dk_at dksX9_go_9 23 rfl rfl)
theorem dX9_go_231 : decode cX9_go 231 = .ok (.getfield 21, 3) := dk_180 0 21 (dk_at dksX9_go_10 0 rfl rfl)
theorem dX9_go_234 : decode cX9_go 234 = .ok (.invokevirtual 50, 3) := dk_182 0 50 (dk_at dksX9_go_10 3 rfl rfl)
theorem dX9_go_237 : decode cX9_go 237 = .ok (.invokestatic 37, 3) := dk_184 0 37 (dk_at dksX9_go_10 6 rfl rfl)
theorem dX9_go_240 : decode cX9_go 240 = .ok (.ifCond .eq 110, 3) := dk_153 0 110 (dk_at dksX9_go_10 9 rfl rfl)
theorem dX9_go_243 : decode cX9_go 243 = .ok (.aload_n 0, 1) := dk_42 (dk_at dksX9_go_10 12 rfl rfl)
theorem dX9_go_244 : decode cX9_go 244 = .ok (.getfield 7, 3) := dk_180 0 7 (dk_at dksX9_go_10 13 rfl rfl)
theorem dX9_go_247 : decode cX9_go 247 = .ok (.aload_n 0, 1) := dk_42 (dk_at dksX9_go_10 16 rfl rfl)
theorem dX9_go_248 : decode cX9_go 248 = .ok (.getfield 21, 3) := dk_180 0 21 (dk_at dksX9_go_10 17 rfl rfl)
theorem dX9_go_251 : decode cX9_go 251 = .ok (.iaload, 1) := dk_46 (dk_at dksX9_go_10 20 rfl rfl)
theorem dX9_go_252 : decode cX9_go 252 = .ok (.istore 4, 2) := dk_54 4 (dk_at dksX9_go_10 21 rfl rfl)
theorem dX9_go_254 : decode cX9_go 254 = .ok (.iload_n 3, 1) := dk_29 (dk_at dksX9_go_10 23 rfl rfl)
theorem dX9_go_255 : decode cX9_go 255 = .ok (.ifCond .eq 16, 3) := dk_153 0 16 (dk_at dksX9_go_11 0 rfl rfl)
theorem dX9_go_258 : decode cX9_go 258 = .ok (.iload 4, 2) := dk_21 4 (dk_at dksX9_go_11 3 rfl rfl)
theorem dX9_go_260 : decode cX9_go 260 = .ok (.invokestatic 33, 3) := dk_184 0 33 (dk_at dksX9_go_11 5 rfl rfl)
theorem dX9_go_263 : decode cX9_go 263 = .ok (.iload_n 2, 1) := dk_28 (dk_at dksX9_go_11 8 rfl rfl)
theorem dX9_go_264 : decode cX9_go 264 = .ok (.if_icmp .ne 7, 3) := dk_160 0 7 (dk_at dksX9_go_11 9 rfl rfl)
theorem dX9_go_267 : decode cX9_go 267 = .ok (.iconst 1, 1) := dk_4 (dk_at dksX9_go_11 12 rfl rfl)
theorem dX9_go_268 : decode cX9_go 268 = .ok (.goto 4, 3) := dk_167 0 4 (dk_at dksX9_go_11 13 rfl rfl)
theorem dX9_go_271 : decode cX9_go 271 = .ok (.iconst 0, 1) := dk_3 (dk_at dksX9_go_11 16 rfl rfl)
theorem dX9_go_272 : decode cX9_go 272 = .ok (.istore_n 3, 1) := dk_62 (dk_at dksX9_go_11 17 rfl rfl)
theorem dX9_go_273 : decode cX9_go 273 = .ok (.aload_n 0, 1) := dk_42 (dk_at dksX9_go_11 18 rfl rfl)
theorem dX9_go_274 : decode cX9_go 274 = .ok (.getfield 21, 3) := dk_180 0 21 (dk_at dksX9_go_11 19 rfl rfl)
theorem dX9_go_277 : decode cX9_go 277 = .ok (.aload_n 0, 1) := dk_42 (dk_at dksX9_go_11 22 rfl rfl)
theorem dX9_go_278 : decode cX9_go 278 = .ok (.getfield 24, 3) := dk_180 0 24 (dk_at dksX9_go_12 0 rfl rfl)
theorem dX9_go_281 : decode cX9_go 281 = .ok (.isub, 1) := dk_100 (dk_at dksX9_go_12 3 rfl rfl)
theorem dX9_go_282 : decode cX9_go 282 = .ok (.bipush 7, 2) := dk_16 7 (dk_at dksX9_go_12 4 rfl rfl)
theorem dX9_go_284 : decode cX9_go 284 = .ok (.if_icmp .ge 23, 3) := dk_162 0 23 (dk_at dksX9_go_12 6 rfl rfl)
theorem dX9_go_287 : decode cX9_go 287 = .ok (.aload_n 0, 1) := dk_42 (dk_at dksX9_go_12 9 rfl rfl)
theorem dX9_go_288 : decode cX9_go 288 = .ok (.ldc2_w 54, 3) := dk_20 0 54 (dk_at dksX9_go_12 10 rfl rfl)
theorem dX9_go_291 : decode cX9_go 291 = .ok (.aload_n 0, 1) := dk_42 (dk_at dksX9_go_12 13 rfl rfl)
theorem dX9_go_292 : decode cX9_go 292 = .ok (.getfield 43, 3) := dk_180 0 43 (dk_at dksX9_go_12 14 rfl rfl)
theorem dX9_go_295 : decode cX9_go 295 = .ok (.lmul, 1) := dk_105 (dk_at dksX9_go_12 17 rfl rfl)
theorem dX9_go_296 : decode cX9_go 296 = .ok (.iload 4, 2) := dk_21 4 (dk_at dksX9_go_12 18 rfl rfl)
theorem dX9_go_298 : decode cX9_go 298 = .ok (.i2l, 1) := dk_133 (dk_at dksX9_go_12 20 rfl rfl)
theorem dX9_go_299 : decode cX9_go 299 = .ok (.ladd, 1) := dk_97 (dk_at dksX9_go_12 21 rfl rfl)
theorem dX9_go_300 : decode cX9_go 300 = .ok (.ldc2_w 56, 3) := dk_20 0 56 (dk_at dksX9_go_13 0 rfl rfl)
theorem dX9_go_303 : decode cX9_go 303 = .ok (.lsub, 1) := dk_101 (dk_at dksX9_go_13 3 rfl rfl)
theorem dX9_go_304 : decode cX9_go 304 = .ok (.putfield 43, 3) := dk_181 0 43 (dk_at dksX9_go_13 4 rfl rfl)
theorem dX9_go_307 : decode cX9_go 307 = .ok (.aload_n 0, 1) := dk_42 (dk_at dksX9_go_13 7 rfl rfl)
theorem dX9_go_308 : decode cX9_go 308 = .ok (.getfield 21, 3) := dk_180 0 21 (dk_at dksX9_go_13 8 rfl rfl)
theorem dX9_go_311 : decode cX9_go 311 = .ok (.aload_n 0, 1) := dk_42 (dk_at dksX9_go_13 11 rfl rfl)
theorem dX9_go_312 : decode cX9_go 312 = .ok (.getfield 24, 3) := dk_180 0 24 (dk_at dksX9_go_13 12 rfl rfl)
theorem dX9_go_315 : decode cX9_go 315 = .ok (.isub, 1) := dk_100 (dk_at dksX9_go_13 15 rfl rfl)
theorem dX9_go_316 : decode cX9_go 316 = .ok (.iconst 3, 1) := dk_6 (dk_at dksX9_go_13 16 rfl rfl)
theorem dX9_go_317 : decode cX9_go 317 = .ok (.if_icmp .ge 20, 3) := dk_162 0 20 (dk_at dksX9_go_13 17 rfl rfl)
theorem dX9_go_320 : decode cX9_go 320 = .ok (.aload_n 0, 1) := dk_42 (dk_at dksX9_go_13 20 rfl rfl)
theorem dX9_go_321 : decode cX9_go 321 = .ok (.bipush 10, 2) := dk_16 10 (dk_at dksX9_go_13 21 rfl rfl)
theorem dX9_go_323 : decode cX9_go 323 = .ok (.aload_n 0, 1) := dk_42 (dk_at dksX9_go_13 23 rfl rfl)
theorem dX9_go_324 : decode cX9_go 324 = .ok (.getfield 47, 3) := dk_180 0 47 (dk_at dksX9_go_14 0 rfl rfl)
theorem dX9_go_327 : decode cX9_go 327 = .ok (.imul, 1) := dk_104 (dk_at dksX9_go_14 3 rfl rfl)
theorem dX9_go_328 : decode cX9_go 328 = .ok (.iload 4, 2) := dk_21 4 (dk_at dksX9_go_14 4 rfl rfl)
theorem dX9_go_330 : decode cX9_go 330 = .ok (.iadd, 1) := dk_96 (dk_at dksX9_go_14 6 rfl rfl)
theorem dX9_go_331 : decode cX9_go 331 = .ok (.bipush 48, 2) := dk_16 48 (dk_at dksX9_go_14 7 rfl rfl)
theorem dX9_go_333 : decode cX9_go 333 = .ok (.isub, 1) := dk_100 (dk_at dksX9_go_14 9 rfl rfl)
theorem dX9_go_334 : decode cX9_go 334 = .ok (.putfield 47, 3) := dk_181 0 47 (dk_at dksX9_go_14 10 rfl rfl)
theorem dX9_go_337 : decode cX9_go 337 = .ok (.aload_n 0, 1) := dk_42 (dk_at dksX9_go_14 13 rfl rfl)
theorem dX9_go_338 : decode cX9_go 338 = .ok (.dup, 1) := dk_89 (dk_at dksX9_go_14 14 rfl rfl)
theorem dX9_go_339 : decode cX9_go 339 = .ok (.getfield 21, 3) := dk_180 0 21 (dk_at dksX9_go_14 15 rfl rfl)
theorem dX9_go_342 : decode cX9_go 342 = .ok (.iconst 1, 1) := dk_4 (dk_at dksX9_go_14 18 rfl rfl)
theorem dX9_go_343 : decode cX9_go 343 = .ok (.iadd, 1) := dk_96 (dk_at dksX9_go_14 19 rfl rfl)
theorem dX9_go_344 : decode cX9_go 344 = .ok (.putfield 21, 3) := dk_181 0 21 (dk_at dksX9_go_14 20 rfl rfl)
theorem dX9_go_347 : decode cX9_go 347 = .ok (.goto (-132), 3) := dk_167 255 124 (dk_at dksX9_go_15 0 rfl rfl)
theorem dX9_go_350 : decode cX9_go 350 = .ok (.aload_n 0, 1) := dk_42 (dk_at dksX9_go_15 3 rfl rfl)
theorem dX9_go_351 : decode cX9_go 351 = .ok (.iload_n 3, 1) := dk_29 (dk_at dksX9_go_15 4 rfl rfl)
theorem dX9_go_352 : decode cX9_go 352 = .ok (.ifCond .eq 25, 3) := dk_153 0 25 (dk_at dksX9_go_15 5 rfl rfl)
theorem dX9_go_355 : decode cX9_go 355 = .ok (.aload_n 0, 1) := dk_42 (dk_at dksX9_go_15 8 rfl rfl)
theorem dX9_go_356 : decode cX9_go 356 = .ok (.getfield 21, 3) := dk_180 0 21 (dk_at dksX9_go_15 9 rfl rfl)
theorem dX9_go_359 : decode cX9_go 359 = .ok (.aload_n 0, 1) := dk_42 (dk_at dksX9_go_15 12 rfl rfl)
theorem dX9_go_360 : decode cX9_go 360 = .ok (.getfield 24, 3) := dk_180 0 24 (dk_at dksX9_go_15 13 rfl rfl)
theorem dX9_go_363 : decode cX9_go 363 = .ok (.isub, 1) := dk_100 (dk_at dksX9_go_15 16 rfl rfl)
theorem dX9_go_364 : decode cX9_go 364 = .ok (.iload_n 2, 1) := dk_28 (dk_at dksX9_go_15 17 rfl rfl)
theorem dX9_go_365 : decode cX9_go 365 = .ok (.ifCond .eq 8, 3) := dk_153 0 8 (dk_at dksX9_go_15 18 rfl rfl)
theorem dX9_go_368 : decode cX9_go 368 = .ok (.bipush 7, 2) := dk_16 7 (dk_at dksX9_go_15 21 rfl rfl)
theorem dX9_go_370 : decode cX9_go 370 = .ok (.goto 4, 3) := dk_167 0 4 (dk_at dksX9_go_16 0 rfl rfl)
theorem dX9_go_373 : decode cX9_go 373 = .ok (.iconst 3, 1) := dk_6 (dk_at dksX9_go_16 3 rfl rfl)
theorem dX9_go_374 : decode cX9_go 374 = .ok (.if_icmp .le 7, 3) := dk_164 0 7 (dk_at dksX9_go_16 4 rfl rfl)
theorem dX9_go_377 : decode cX9_go 377 = .ok (.iconst 1, 1) := dk_4 (dk_at dksX9_go_16 7 rfl rfl)
theorem dX9_go_378 : decode cX9_go 378 = .ok (.goto 12, 3) := dk_167 0 12 (dk_at dksX9_go_16 8 rfl rfl)
theorem dX9_go_381 : decode cX9_go 381 = .ok (.iload_n 2, 1) := dk_28 (dk_at dksX9_go_16 11 rfl rfl)
theorem dX9_go_382 : decode cX9_go 382 = .ok (.ifCond .eq 7, 3) := dk_153 0 7 (dk_at dksX9_go_16 12 rfl rfl)
theorem dX9_go_385 : decode cX9_go 385 = .ok (.iconst 2, 1) := dk_5 (dk_at dksX9_go_16 15 rfl rfl)
theorem dX9_go_386 : decode cX9_go 386 = .ok (.goto 4, 3) := dk_167 0 4 (dk_at dksX9_go_16 16 rfl rfl)
theorem dX9_go_389 : decode cX9_go 389 = .ok (.iconst 3, 1) := dk_6 (dk_at dksX9_go_16 19 rfl rfl)
theorem dX9_go_390 : decode cX9_go 390 = .ok (.putfield 30, 3) := dk_181 0 30 (dk_at dksX9_go_16 20 rfl rfl)
theorem dX9_go_393 : decode cX9_go 393 = .ok (.return_, 1) := dk_177 (dk_at dksX9_go_16 23 rfl rfl)
abbrev cX9_isLetter : ByteArray := prog_22_method_15_code
def yX9_isLetter : MethodName := ⟨RX9, "isLetter", "(I)Z"⟩
def dkwX9_isLetter_0 : List UInt8 := [26, 16, 97, 161, 0, 13, 26, 16, 122, 163, 0, 7, 4, 167, 0, 4, 3, 172]
abbrev dktX9_isLetter_0 : List UInt8 := dkwX9_isLetter_0 ++ []
theorem dksX9_isLetter_0 : cX9_isLetter.data.toList.drop 0 = dktX9_isLetter_0 := by decide +kernel
theorem dX9_isLetter_0 : decode cX9_isLetter 0 = .ok (.iload_n 0, 1) := dk_26 (dk_at dksX9_isLetter_0 0 rfl rfl)
theorem dX9_isLetter_1 : decode cX9_isLetter 1 = .ok (.bipush 97, 2) := dk_16 97 (dk_at dksX9_isLetter_0 1 rfl rfl)
theorem dX9_isLetter_3 : decode cX9_isLetter 3 = .ok (.if_icmp .lt 13, 3) := dk_161 0 13 (dk_at dksX9_isLetter_0 3 rfl rfl)
theorem dX9_isLetter_6 : decode cX9_isLetter 6 = .ok (.iload_n 0, 1) := dk_26 (dk_at dksX9_isLetter_0 6 rfl rfl)
theorem dX9_isLetter_7 : decode cX9_isLetter 7 = .ok (.bipush 122, 2) := dk_16 122 (dk_at dksX9_isLetter_0 7 rfl rfl)
theorem dX9_isLetter_9 : decode cX9_isLetter 9 = .ok (.if_icmp .gt 7, 3) := dk_163 0 7 (dk_at dksX9_isLetter_0 9 rfl rfl)
theorem dX9_isLetter_12 : decode cX9_isLetter 12 = .ok (.iconst 1, 1) := dk_4 (dk_at dksX9_isLetter_0 12 rfl rfl)
theorem dX9_isLetter_13 : decode cX9_isLetter 13 = .ok (.goto 4, 3) := dk_167 0 4 (dk_at dksX9_isLetter_0 13 rfl rfl)
theorem dX9_isLetter_16 : decode cX9_isLetter 16 = .ok (.iconst 0, 1) := dk_3 (dk_at dksX9_isLetter_0 16 rfl rfl)
theorem dX9_isLetter_17 : decode cX9_isLetter 17 = .ok (.ireturn, 1) := dk_172 (dk_at dksX9_isLetter_0 17 rfl rfl)
abbrev cX9_isDigit : ByteArray := prog_22_method_14_code
def yX9_isDigit : MethodName := ⟨RX9, "isDigit", "(I)Z"⟩
def dkwX9_isDigit_0 : List UInt8 := [26, 16, 48, 161, 0, 13, 26, 16, 57, 163, 0, 7, 4, 167, 0, 4, 3, 172]
abbrev dktX9_isDigit_0 : List UInt8 := dkwX9_isDigit_0 ++ []
theorem dksX9_isDigit_0 : cX9_isDigit.data.toList.drop 0 = dktX9_isDigit_0 := by decide +kernel
theorem dX9_isDigit_0 : decode cX9_isDigit 0 = .ok (.iload_n 0, 1) := dk_26 (dk_at dksX9_isDigit_0 0 rfl rfl)
theorem dX9_isDigit_1 : decode cX9_isDigit 1 = .ok (.bipush 48, 2) := dk_16 48 (dk_at dksX9_isDigit_0 1 rfl rfl)
theorem dX9_isDigit_3 : decode cX9_isDigit 3 = .ok (.if_icmp .lt 13, 3) := dk_161 0 13 (dk_at dksX9_isDigit_0 3 rfl rfl)
theorem dX9_isDigit_6 : decode cX9_isDigit 6 = .ok (.iload_n 0, 1) := dk_26 (dk_at dksX9_isDigit_0 6 rfl rfl)
theorem dX9_isDigit_7 : decode cX9_isDigit 7 = .ok (.bipush 57, 2) := dk_16 57 (dk_at dksX9_isDigit_0 7 rfl rfl)
theorem dX9_isDigit_9 : decode cX9_isDigit 9 = .ok (.if_icmp .gt 7, 3) := dk_163 0 7 (dk_at dksX9_isDigit_0 9 rfl rfl)
theorem dX9_isDigit_12 : decode cX9_isDigit 12 = .ok (.iconst 1, 1) := dk_4 (dk_at dksX9_isDigit_0 12 rfl rfl)
theorem dX9_isDigit_13 : decode cX9_isDigit 13 = .ok (.goto 4, 3) := dk_167 0 4 (dk_at dksX9_isDigit_0 13 rfl rfl)
theorem dX9_isDigit_16 : decode cX9_isDigit 16 = .ok (.iconst 0, 1) := dk_3 (dk_at dksX9_isDigit_0 16 rfl rfl)
theorem dX9_isDigit_17 : decode cX9_isDigit 17 = .ok (.ireturn, 1) := dk_172 (dk_at dksX9_isDigit_0 17 rfl rfl)
abbrev cX9_tapeAt : ByteArray := prog_22_method_13_code
def yX9_tapeAt : MethodName := ⟨RX9, "tapeAt", "(I)I"⟩
def dkwX9_tapeAt_0 : List UInt8 := [27, 42, 180, 0, 18, 162, 0, 12, 42, 180, 0, 7, 27, 46, 167, 0, 4, 3, 172]
abbrev dktX9_tapeAt_0 : List UInt8 := dkwX9_tapeAt_0 ++ []
theorem dksX9_tapeAt_0 : cX9_tapeAt.data.toList.drop 0 = dktX9_tapeAt_0 := by decide +kernel
theorem dX9_tapeAt_0 : decode cX9_tapeAt 0 = .ok (.iload_n 1, 1) := dk_27 (dk_at dksX9_tapeAt_0 0 rfl rfl)
theorem dX9_tapeAt_1 : decode cX9_tapeAt 1 = .ok (.aload_n 0, 1) := dk_42 (dk_at dksX9_tapeAt_0 1 rfl rfl)
theorem dX9_tapeAt_2 : decode cX9_tapeAt 2 = .ok (.getfield 18, 3) := dk_180 0 18 (dk_at dksX9_tapeAt_0 2 rfl rfl)
theorem dX9_tapeAt_5 : decode cX9_tapeAt 5 = .ok (.if_icmp .ge 12, 3) := dk_162 0 12 (dk_at dksX9_tapeAt_0 5 rfl rfl)
theorem dX9_tapeAt_8 : decode cX9_tapeAt 8 = .ok (.aload_n 0, 1) := dk_42 (dk_at dksX9_tapeAt_0 8 rfl rfl)
theorem dX9_tapeAt_9 : decode cX9_tapeAt 9 = .ok (.getfield 7, 3) := dk_180 0 7 (dk_at dksX9_tapeAt_0 9 rfl rfl)
theorem dX9_tapeAt_12 : decode cX9_tapeAt 12 = .ok (.iload_n 1, 1) := dk_27 (dk_at dksX9_tapeAt_0 12 rfl rfl)
theorem dX9_tapeAt_13 : decode cX9_tapeAt 13 = .ok (.iaload, 1) := dk_46 (dk_at dksX9_tapeAt_0 13 rfl rfl)
theorem dX9_tapeAt_14 : decode cX9_tapeAt 14 = .ok (.goto 4, 3) := dk_167 0 4 (dk_at dksX9_tapeAt_0 14 rfl rfl)
theorem dX9_tapeAt_17 : decode cX9_tapeAt 17 = .ok (.iconst 0, 1) := dk_3 (dk_at dksX9_tapeAt_0 17 rfl rfl)
theorem dX9_tapeAt_18 : decode cX9_tapeAt 18 = .ok (.ireturn, 1) := dk_172 (dk_at dksX9_tapeAt_0 18 rfl rfl)
abbrev cX9_readLine : ByteArray := prog_22_method_38_code
def yX9_readLine : MethodName := ⟨RX9, "readLine", "()Z"⟩
def dkwX9_readLine_5 : List UInt8 := [172]
abbrev dktX9_readLine_5 : List UInt8 := dkwX9_readLine_5 ++ []
def dkwX9_readLine_4 : List UInt8 := [16, 6, 182, 0, 191, 153, 0, 14, 42, 4, 8, 16, 6, 182, 0, 203, 167, 0, 8, 42, 4, 182, 0, 72]
abbrev dktX9_readLine_4 : List UInt8 := dkwX9_readLine_4 ++ dktX9_readLine_5
def dkwX9_readLine_3 : List UInt8 := [16, 15, 182, 0, 194, 172, 42, 8, 182, 0, 191, 153, 0, 12, 42, 3, 7, 16, 60, 182, 0, 203, 172, 42]
abbrev dktX9_readLine_3 : List UInt8 := dkwX9_readLine_3 ++ dktX9_readLine_4
def dkwX9_readLine_2 : List UInt8 := [153, 0, 12, 42, 5, 7, 16, 11, 182, 0, 194, 172, 42, 7, 182, 0, 191, 153, 0, 12, 42, 6, 8]
abbrev dktX9_readLine_2 : List UInt8 := dkwX9_readLine_2 ++ dktX9_readLine_3
def dkwX9_readLine_1 : List UInt8 := [42, 182, 0, 197, 172, 42, 5, 182, 0, 191, 153, 0, 8, 42, 182, 0, 200, 172, 42, 6, 182, 0, 191]
abbrev dktX9_readLine_1 : List UInt8 := dkwX9_readLine_1 ++ dktX9_readLine_2
def dkwX9_readLine_0 : List UInt8 := [42, 3, 182, 0, 191, 153, 0, 11, 42, 3, 8, 3, 182, 0, 194, 172, 42, 4, 182, 0, 191, 153, 0, 8]
abbrev dktX9_readLine_0 : List UInt8 := dkwX9_readLine_0 ++ dktX9_readLine_1
theorem dksX9_readLine_0 : cX9_readLine.data.toList.drop 0 = dktX9_readLine_0 := by decide +kernel
theorem dksX9_readLine_1 : cX9_readLine.data.toList.drop 24 = dktX9_readLine_1 := dk_seg dksX9_readLine_0 24 rfl rfl
theorem dksX9_readLine_2 : cX9_readLine.data.toList.drop 47 = dktX9_readLine_2 := dk_seg dksX9_readLine_1 23 rfl rfl
theorem dksX9_readLine_3 : cX9_readLine.data.toList.drop 70 = dktX9_readLine_3 := dk_seg dksX9_readLine_2 23 rfl rfl
theorem dksX9_readLine_4 : cX9_readLine.data.toList.drop 94 = dktX9_readLine_4 := dk_seg dksX9_readLine_3 24 rfl rfl
theorem dksX9_readLine_5 : cX9_readLine.data.toList.drop 118 = dktX9_readLine_5 := dk_seg dksX9_readLine_4 24 rfl rfl
theorem dX9_readLine_0 : decode cX9_readLine 0 = .ok (.aload_n 0, 1) := dk_42 (dk_at dksX9_readLine_0 0 rfl rfl)
theorem dX9_readLine_1 : decode cX9_readLine 1 = .ok (.iconst 0, 1) := dk_3 (dk_at dksX9_readLine_0 1 rfl rfl)
theorem dX9_readLine_2 : decode cX9_readLine 2 = .ok (.invokevirtual 191, 3) := dk_182 0 191 (dk_at dksX9_readLine_0 2 rfl rfl)
theorem dX9_readLine_5 : decode cX9_readLine 5 = .ok (.ifCond .eq 11, 3) := dk_153 0 11 (dk_at dksX9_readLine_0 5 rfl rfl)
theorem dX9_readLine_8 : decode cX9_readLine 8 = .ok (.aload_n 0, 1) := dk_42 (dk_at dksX9_readLine_0 8 rfl rfl)
theorem dX9_readLine_9 : decode cX9_readLine 9 = .ok (.iconst 0, 1) := dk_3 (dk_at dksX9_readLine_0 9 rfl rfl)
theorem dX9_readLine_10 : decode cX9_readLine 10 = .ok (.iconst 5, 1) := dk_8 (dk_at dksX9_readLine_0 10 rfl rfl)
theorem dX9_readLine_11 : decode cX9_readLine 11 = .ok (.iconst 0, 1) := dk_3 (dk_at dksX9_readLine_0 11 rfl rfl)
theorem dX9_readLine_12 : decode cX9_readLine 12 = .ok (.invokevirtual 194, 3) := dk_182 0 194 (dk_at dksX9_readLine_0 12 rfl rfl)
theorem dX9_readLine_15 : decode cX9_readLine 15 = .ok (.ireturn, 1) := dk_172 (dk_at dksX9_readLine_0 15 rfl rfl)
theorem dX9_readLine_16 : decode cX9_readLine 16 = .ok (.aload_n 0, 1) := dk_42 (dk_at dksX9_readLine_0 16 rfl rfl)
theorem dX9_readLine_17 : decode cX9_readLine 17 = .ok (.iconst 1, 1) := dk_4 (dk_at dksX9_readLine_0 17 rfl rfl)
theorem dX9_readLine_18 : decode cX9_readLine 18 = .ok (.invokevirtual 191, 3) := dk_182 0 191 (dk_at dksX9_readLine_0 18 rfl rfl)
theorem dX9_readLine_21 : decode cX9_readLine 21 = .ok (.ifCond .eq 8, 3) := dk_153 0 8 (dk_at dksX9_readLine_0 21 rfl rfl)
theorem dX9_readLine_24 : decode cX9_readLine 24 = .ok (.aload_n 0, 1) := dk_42 (dk_at dksX9_readLine_1 0 rfl rfl)
theorem dX9_readLine_25 : decode cX9_readLine 25 = .ok (.invokevirtual 197, 3) := dk_182 0 197 (dk_at dksX9_readLine_1 1 rfl rfl)
theorem dX9_readLine_28 : decode cX9_readLine 28 = .ok (.ireturn, 1) := dk_172 (dk_at dksX9_readLine_1 4 rfl rfl)
theorem dX9_readLine_29 : decode cX9_readLine 29 = .ok (.aload_n 0, 1) := dk_42 (dk_at dksX9_readLine_1 5 rfl rfl)
theorem dX9_readLine_30 : decode cX9_readLine 30 = .ok (.iconst 2, 1) := dk_5 (dk_at dksX9_readLine_1 6 rfl rfl)
theorem dX9_readLine_31 : decode cX9_readLine 31 = .ok (.invokevirtual 191, 3) := dk_182 0 191 (dk_at dksX9_readLine_1 7 rfl rfl)
theorem dX9_readLine_34 : decode cX9_readLine 34 = .ok (.ifCond .eq 8, 3) := dk_153 0 8 (dk_at dksX9_readLine_1 10 rfl rfl)
theorem dX9_readLine_37 : decode cX9_readLine 37 = .ok (.aload_n 0, 1) := dk_42 (dk_at dksX9_readLine_1 13 rfl rfl)
theorem dX9_readLine_38 : decode cX9_readLine 38 = .ok (.invokevirtual 200, 3) := dk_182 0 200 (dk_at dksX9_readLine_1 14 rfl rfl)
theorem dX9_readLine_41 : decode cX9_readLine 41 = .ok (.ireturn, 1) := dk_172 (dk_at dksX9_readLine_1 17 rfl rfl)
theorem dX9_readLine_42 : decode cX9_readLine 42 = .ok (.aload_n 0, 1) := dk_42 (dk_at dksX9_readLine_1 18 rfl rfl)
theorem dX9_readLine_43 : decode cX9_readLine 43 = .ok (.iconst 3, 1) := dk_6 (dk_at dksX9_readLine_1 19 rfl rfl)
theorem dX9_readLine_44 : decode cX9_readLine 44 = .ok (.invokevirtual 191, 3) := dk_182 0 191 (dk_at dksX9_readLine_1 20 rfl rfl)
theorem dX9_readLine_47 : decode cX9_readLine 47 = .ok (.ifCond .eq 12, 3) := dk_153 0 12 (dk_at dksX9_readLine_2 0 rfl rfl)
theorem dX9_readLine_50 : decode cX9_readLine 50 = .ok (.aload_n 0, 1) := dk_42 (dk_at dksX9_readLine_2 3 rfl rfl)
theorem dX9_readLine_51 : decode cX9_readLine 51 = .ok (.iconst 2, 1) := dk_5 (dk_at dksX9_readLine_2 4 rfl rfl)
theorem dX9_readLine_52 : decode cX9_readLine 52 = .ok (.iconst 4, 1) := dk_7 (dk_at dksX9_readLine_2 5 rfl rfl)
theorem dX9_readLine_53 : decode cX9_readLine 53 = .ok (.bipush 11, 2) := dk_16 11 (dk_at dksX9_readLine_2 6 rfl rfl)
theorem dX9_readLine_55 : decode cX9_readLine 55 = .ok (.invokevirtual 194, 3) := dk_182 0 194 (dk_at dksX9_readLine_2 8 rfl rfl)
theorem dX9_readLine_58 : decode cX9_readLine 58 = .ok (.ireturn, 1) := dk_172 (dk_at dksX9_readLine_2 11 rfl rfl)
theorem dX9_readLine_59 : decode cX9_readLine 59 = .ok (.aload_n 0, 1) := dk_42 (dk_at dksX9_readLine_2 12 rfl rfl)
theorem dX9_readLine_60 : decode cX9_readLine 60 = .ok (.iconst 4, 1) := dk_7 (dk_at dksX9_readLine_2 13 rfl rfl)
theorem dX9_readLine_61 : decode cX9_readLine 61 = .ok (.invokevirtual 191, 3) := dk_182 0 191 (dk_at dksX9_readLine_2 14 rfl rfl)
theorem dX9_readLine_64 : decode cX9_readLine 64 = .ok (.ifCond .eq 12, 3) := dk_153 0 12 (dk_at dksX9_readLine_2 17 rfl rfl)
theorem dX9_readLine_67 : decode cX9_readLine 67 = .ok (.aload_n 0, 1) := dk_42 (dk_at dksX9_readLine_2 20 rfl rfl)
theorem dX9_readLine_68 : decode cX9_readLine 68 = .ok (.iconst 3, 1) := dk_6 (dk_at dksX9_readLine_2 21 rfl rfl)
theorem dX9_readLine_69 : decode cX9_readLine 69 = .ok (.iconst 5, 1) := dk_8 (dk_at dksX9_readLine_2 22 rfl rfl)
theorem dX9_readLine_70 : decode cX9_readLine 70 = .ok (.bipush 15, 2) := dk_16 15 (dk_at dksX9_readLine_3 0 rfl rfl)
theorem dX9_readLine_72 : decode cX9_readLine 72 = .ok (.invokevirtual 194, 3) := dk_182 0 194 (dk_at dksX9_readLine_3 2 rfl rfl)
theorem dX9_readLine_75 : decode cX9_readLine 75 = .ok (.ireturn, 1) := dk_172 (dk_at dksX9_readLine_3 5 rfl rfl)
theorem dX9_readLine_76 : decode cX9_readLine 76 = .ok (.aload_n 0, 1) := dk_42 (dk_at dksX9_readLine_3 6 rfl rfl)
theorem dX9_readLine_77 : decode cX9_readLine 77 = .ok (.iconst 5, 1) := dk_8 (dk_at dksX9_readLine_3 7 rfl rfl)
theorem dX9_readLine_78 : decode cX9_readLine 78 = .ok (.invokevirtual 191, 3) := dk_182 0 191 (dk_at dksX9_readLine_3 8 rfl rfl)
theorem dX9_readLine_81 : decode cX9_readLine 81 = .ok (.ifCond .eq 12, 3) := dk_153 0 12 (dk_at dksX9_readLine_3 11 rfl rfl)
theorem dX9_readLine_84 : decode cX9_readLine 84 = .ok (.aload_n 0, 1) := dk_42 (dk_at dksX9_readLine_3 14 rfl rfl)
theorem dX9_readLine_85 : decode cX9_readLine 85 = .ok (.iconst 0, 1) := dk_3 (dk_at dksX9_readLine_3 15 rfl rfl)
theorem dX9_readLine_86 : decode cX9_readLine 86 = .ok (.iconst 4, 1) := dk_7 (dk_at dksX9_readLine_3 16 rfl rfl)
theorem dX9_readLine_87 : decode cX9_readLine 87 = .ok (.bipush 60, 2) := dk_16 60 (dk_at dksX9_readLine_3 17 rfl rfl)
theorem dX9_readLine_89 : decode cX9_readLine 89 = .ok (.invokevirtual 203, 3) := dk_182 0 203 (dk_at dksX9_readLine_3 19 rfl rfl)
theorem dX9_readLine_92 : decode cX9_readLine 92 = .ok (.ireturn, 1) := dk_172 (dk_at dksX9_readLine_3 22 rfl rfl)
theorem dX9_readLine_93 : decode cX9_readLine 93 = .ok (.aload_n 0, 1) := dk_42 (dk_at dksX9_readLine_3 23 rfl rfl)
theorem dX9_readLine_94 : decode cX9_readLine 94 = .ok (.bipush 6, 2) := dk_16 6 (dk_at dksX9_readLine_4 0 rfl rfl)
theorem dX9_readLine_96 : decode cX9_readLine 96 = .ok (.invokevirtual 191, 3) := dk_182 0 191 (dk_at dksX9_readLine_4 2 rfl rfl)
theorem dX9_readLine_99 : decode cX9_readLine 99 = .ok (.ifCond .eq 14, 3) := dk_153 0 14 (dk_at dksX9_readLine_4 5 rfl rfl)
theorem dX9_readLine_102 : decode cX9_readLine 102 = .ok (.aload_n 0, 1) := dk_42 (dk_at dksX9_readLine_4 8 rfl rfl)
theorem dX9_readLine_103 : decode cX9_readLine 103 = .ok (.iconst 1, 1) := dk_4 (dk_at dksX9_readLine_4 9 rfl rfl)
theorem dX9_readLine_104 : decode cX9_readLine 104 = .ok (.iconst 5, 1) := dk_8 (dk_at dksX9_readLine_4 10 rfl rfl)
theorem dX9_readLine_105 : decode cX9_readLine 105 = .ok (.bipush 6, 2) := dk_16 6 (dk_at dksX9_readLine_4 11 rfl rfl)
theorem dX9_readLine_107 : decode cX9_readLine 107 = .ok (.invokevirtual 203, 3) := dk_182 0 203 (dk_at dksX9_readLine_4 13 rfl rfl)
theorem dX9_readLine_110 : decode cX9_readLine 110 = .ok (.goto 8, 3) := dk_167 0 8 (dk_at dksX9_readLine_4 16 rfl rfl)
theorem dX9_readLine_113 : decode cX9_readLine 113 = .ok (.aload_n 0, 1) := dk_42 (dk_at dksX9_readLine_4 19 rfl rfl)
theorem dX9_readLine_114 : decode cX9_readLine 114 = .ok (.iconst 1, 1) := dk_4 (dk_at dksX9_readLine_4 20 rfl rfl)
theorem dX9_readLine_115 : decode cX9_readLine 115 = .ok (.invokevirtual 72, 3) := dk_182 0 72 (dk_at dksX9_readLine_4 21 rfl rfl)
theorem dX9_readLine_118 : decode cX9_readLine 118 = .ok (.ireturn, 1) := dk_172 (dk_at dksX9_readLine_5 0 rfl rfl)
abbrev cX9_isWord : ByteArray := prog_22_method_19_code
def yX9_isWord : MethodName := ⟨RX9, "isWord", "(I)Z"⟩
def dkwX9_isWord_1 : List UInt8 := [3, 172]
abbrev dktX9_isWord_1 : List UInt8 := dkwX9_isWord_1 ++ []
def dkwX9_isWord_0 : List UInt8 := [42, 180, 0, 30, 5, 160, 0, 19, 42, 180, 0, 43, 27, 184, 0, 62, 148, 154, 0, 7, 4, 167, 0, 4]
abbrev dktX9_isWord_0 : List UInt8 := dkwX9_isWord_0 ++ dktX9_isWord_1
theorem dksX9_isWord_0 : cX9_isWord.data.toList.drop 0 = dktX9_isWord_0 := by decide +kernel
theorem dksX9_isWord_1 : cX9_isWord.data.toList.drop 24 = dktX9_isWord_1 := dk_seg dksX9_isWord_0 24 rfl rfl
theorem dX9_isWord_0 : decode cX9_isWord 0 = .ok (.aload_n 0, 1) := dk_42 (dk_at dksX9_isWord_0 0 rfl rfl)
theorem dX9_isWord_1 : decode cX9_isWord 1 = .ok (.getfield 30, 3) := dk_180 0 30 (dk_at dksX9_isWord_0 1 rfl rfl)
theorem dX9_isWord_4 : decode cX9_isWord 4 = .ok (.iconst 2, 1) := dk_5 (dk_at dksX9_isWord_0 4 rfl rfl)
theorem dX9_isWord_5 : decode cX9_isWord 5 = .ok (.if_icmp .ne 19, 3) := dk_160 0 19 (dk_at dksX9_isWord_0 5 rfl rfl)
theorem dX9_isWord_8 : decode cX9_isWord 8 = .ok (.aload_n 0, 1) := dk_42 (dk_at dksX9_isWord_0 8 rfl rfl)
theorem dX9_isWord_9 : decode cX9_isWord 9 = .ok (.getfield 43, 3) := dk_180 0 43 (dk_at dksX9_isWord_0 9 rfl rfl)
theorem dX9_isWord_12 : decode cX9_isWord 12 = .ok (.iload_n 1, 1) := dk_27 (dk_at dksX9_isWord_0 12 rfl rfl)
theorem dX9_isWord_13 : decode cX9_isWord 13 = .ok (.invokestatic 62, 3) := dk_184 0 62 (dk_at dksX9_isWord_0 13 rfl rfl)
theorem dX9_isWord_16 : decode cX9_isWord 16 = .ok (.lcmp, 1) := dk_148 (dk_at dksX9_isWord_0 16 rfl rfl)
theorem dX9_isWord_17 : decode cX9_isWord 17 = .ok (.ifCond .ne 7, 3) := dk_154 0 7 (dk_at dksX9_isWord_0 17 rfl rfl)
theorem dX9_isWord_20 : decode cX9_isWord 20 = .ok (.iconst 1, 1) := dk_4 (dk_at dksX9_isWord_0 20 rfl rfl)
theorem dX9_isWord_21 : decode cX9_isWord 21 = .ok (.goto 4, 3) := dk_167 0 4 (dk_at dksX9_isWord_0 21 rfl rfl)
theorem dX9_isWord_24 : decode cX9_isWord 24 = .ok (.iconst 0, 1) := dk_3 (dk_at dksX9_isWord_1 0 rfl rfl)
theorem dX9_isWord_25 : decode cX9_isWord 25 = .ok (.ireturn, 1) := dk_172 (dk_at dksX9_isWord_1 1 rfl rfl)
abbrev cX9_wordOf : ByteArray := prog_22_method_18_code
def yX9_wordOf : MethodName := ⟨RX9, "wordOf", "(I)J"⟩
def dkwX9_wordOf_16 : List UInt8 := [16, 109, 16, 98, 16, 101, 16, 114, 3, 184, 0, 58, 173]
abbrev dktX9_wordOf_16 : List UInt8 := dkwX9_wordOf_16 ++ []
def dkwX9_wordOf_15 : List UInt8 := [3, 184, 0, 58, 173, 16, 100, 16, 117, 16, 115, 16, 116, 3, 3, 3, 184, 0, 58, 173, 16, 110, 16, 117]
abbrev dktX9_wordOf_15 : List UInt8 := dkwX9_wordOf_15 ++ dktX9_wordOf_16
def dkwX9_wordOf_14 : List UInt8 := [16, 108, 16, 108, 16, 115, 3, 3, 184, 0, 58, 173, 16, 108, 16, 101, 16, 97, 16, 118, 16, 101, 16, 115]
abbrev dktX9_wordOf_14 : List UInt8 := dkwX9_wordOf_14 ++ dktX9_wordOf_15
def dkwX9_wordOf_13 : List UInt8 := [184, 0, 58, 173, 16, 115, 16, 101, 16, 101, 16, 115, 3, 3, 3, 184, 0, 58, 173, 16, 116, 16, 101]
abbrev dktX9_wordOf_13 : List UInt8 := dkwX9_wordOf_13 ++ dktX9_wordOf_14
def dkwX9_wordOf_12 : List UInt8 := [16, 102, 16, 101, 16, 114, 16, 110, 3, 3, 3, 184, 0, 58, 173, 16, 105, 16, 110, 3, 3, 3, 3, 3]
abbrev dktX9_wordOf_12 : List UInt8 := dkwX9_wordOf_12 ++ dktX9_wordOf_13
def dkwX9_wordOf_11 : List UInt8 := [3, 3, 3, 3, 184, 0, 58, 173, 16, 98, 16, 108, 16, 105, 16, 110, 16, 100, 3, 3, 184, 0, 58, 173]
abbrev dktX9_wordOf_11 : List UInt8 := dkwX9_wordOf_11 ++ dktX9_wordOf_12
def dkwX9_wordOf_10 : List UInt8 := [184, 0, 58, 173, 16, 97, 16, 110, 16, 100, 3, 3, 3, 3, 184, 0, 58, 173, 16, 110, 16, 111, 16, 116]
abbrev dktX9_wordOf_10 : List UInt8 := dkwX9_wordOf_10 ++ dktX9_wordOf_11
def dkwX9_wordOf_9 : List UInt8 := [16, 100, 16, 97, 16, 121, 3, 3, 3, 3, 184, 0, 58, 173, 16, 111, 16, 114, 3, 3, 3, 3, 3]
abbrev dktX9_wordOf_9 : List UInt8 := dkwX9_wordOf_9 ++ dktX9_wordOf_10
def dkwX9_wordOf_8 : List UInt8 := [16, 101, 3, 184, 0, 58, 173, 16, 99, 16, 97, 16, 114, 16, 114, 16, 121, 3, 3, 184, 0, 58, 173]
abbrev dktX9_wordOf_8 : List UInt8 := dkwX9_wordOf_8 ++ dktX9_wordOf_9
def dkwX9_wordOf_7 : List UInt8 := [16, 111, 16, 101, 16, 115, 3, 3, 3, 184, 0, 58, 173, 16, 115, 16, 112, 16, 111, 16, 110, 16, 103]
abbrev dktX9_wordOf_7 : List UInt8 := dkwX9_wordOf_7 ++ dktX9_wordOf_8
def dkwX9_wordOf_6 : List UInt8 := [3, 184, 0, 58, 173, 16, 112, 16, 114, 16, 111, 16, 111, 16, 102, 3, 3, 184, 0, 58, 173, 16, 100]
abbrev dktX9_wordOf_6 : List UInt8 := dkwX9_wordOf_6 ++ dktX9_wordOf_7
def dkwX9_wordOf_5 : List UInt8 := [16, 101, 16, 101, 16, 100, 3, 3, 3, 184, 0, 58, 173, 16, 100, 16, 117, 16, 115, 16, 116, 16, 121, 3]
abbrev dktX9_wordOf_5 : List UInt8 := dkwX9_wordOf_5 ++ dktX9_wordOf_6
def dkwX9_wordOf_4 : List UInt8 := [184, 0, 58, 173, 16, 112, 16, 101, 16, 114, 16, 115, 16, 111, 16, 110, 3, 184, 0, 58, 173, 16, 100]
abbrev dktX9_wordOf_4 : List UInt8 := dkwX9_wordOf_4 ++ dktX9_wordOf_5
def dkwX9_wordOf_3 : List UInt8 := [16, 104, 16, 116, 3, 3, 184, 0, 58, 173, 16, 112, 16, 108, 16, 97, 16, 110, 16, 116, 3, 3]
abbrev dktX9_wordOf_3 : List UInt8 := dkwX9_wordOf_3 ++ dktX9_wordOf_4
def dkwX9_wordOf_2 : List UInt8 := [16, 112, 16, 97, 16, 114, 16, 108, 16, 111, 16, 117, 16, 114, 184, 0, 58, 173, 16, 115, 16, 105, 16, 103]
abbrev dktX9_wordOf_2 : List UInt8 := dkwX9_wordOf_2 ++ dktX9_wordOf_3
def dkwX9_wordOf_1 : List UInt8 := [170, 0, 0, 0, 0, 1, 167, 0, 0, 0, 0, 0, 0, 0, 20, 0, 0, 0, 99, 0, 0, 0, 117, 0, 0, 0, 133, 0, 0, 0, 149, 0, 0, 0, 166, 0, 0, 0, 181, 0, 0, 0, 197, 0, 0, 0, 213, 0, 0, 0, 228, 0, 0, 0, 245, 0, 0, 1, 5, 0, 0, 1, 19, 0, 0, 1, 32, 0, 0, 1, 46, 0, 0, 1, 60, 0, 0, 1, 76, 0, 0, 1, 91, 0, 0, 1, 104, 0, 0, 1, 119, 0, 0, 1, 135, 0, 0, 1, 152]
abbrev dktX9_wordOf_1 : List UInt8 := dkwX9_wordOf_1 ++ dktX9_wordOf_2
def dkwX9_wordOf_0 : List UInt8 := [26]
abbrev dktX9_wordOf_0 : List UInt8 := dkwX9_wordOf_0 ++ dktX9_wordOf_1
theorem dksX9_wordOf_0 : cX9_wordOf.data.toList.drop 0 = dktX9_wordOf_0 := by decide +kernel
theorem dksX9_wordOf_1 : cX9_wordOf.data.toList.drop 1 = dktX9_wordOf_1 := dk_seg dksX9_wordOf_0 1 rfl rfl
theorem dksX9_wordOf_2 : cX9_wordOf.data.toList.drop 100 = dktX9_wordOf_2 := dk_seg dksX9_wordOf_1 99 rfl rfl
theorem dksX9_wordOf_3 : cX9_wordOf.data.toList.drop 124 = dktX9_wordOf_3 := dk_seg dksX9_wordOf_2 24 rfl rfl
theorem dksX9_wordOf_4 : cX9_wordOf.data.toList.drop 146 = dktX9_wordOf_4 := dk_seg dksX9_wordOf_3 22 rfl rfl
theorem dksX9_wordOf_5 : cX9_wordOf.data.toList.drop 169 = dktX9_wordOf_5 := dk_seg dksX9_wordOf_4 23 rfl rfl
theorem dksX9_wordOf_6 : cX9_wordOf.data.toList.drop 193 = dktX9_wordOf_6 := dk_seg dksX9_wordOf_5 24 rfl rfl
theorem dksX9_wordOf_7 : cX9_wordOf.data.toList.drop 216 = dktX9_wordOf_7 := dk_seg dksX9_wordOf_6 23 rfl rfl
theorem dksX9_wordOf_8 : cX9_wordOf.data.toList.drop 239 = dktX9_wordOf_8 := dk_seg dksX9_wordOf_7 23 rfl rfl
theorem dksX9_wordOf_9 : cX9_wordOf.data.toList.drop 262 = dktX9_wordOf_9 := dk_seg dksX9_wordOf_8 23 rfl rfl
theorem dksX9_wordOf_10 : cX9_wordOf.data.toList.drop 285 = dktX9_wordOf_10 := dk_seg dksX9_wordOf_9 23 rfl rfl
theorem dksX9_wordOf_11 : cX9_wordOf.data.toList.drop 309 = dktX9_wordOf_11 := dk_seg dksX9_wordOf_10 24 rfl rfl
theorem dksX9_wordOf_12 : cX9_wordOf.data.toList.drop 333 = dktX9_wordOf_12 := dk_seg dksX9_wordOf_11 24 rfl rfl
theorem dksX9_wordOf_13 : cX9_wordOf.data.toList.drop 357 = dktX9_wordOf_13 := dk_seg dksX9_wordOf_12 24 rfl rfl
theorem dksX9_wordOf_14 : cX9_wordOf.data.toList.drop 380 = dktX9_wordOf_14 := dk_seg dksX9_wordOf_13 23 rfl rfl
theorem dksX9_wordOf_15 : cX9_wordOf.data.toList.drop 404 = dktX9_wordOf_15 := dk_seg dksX9_wordOf_14 24 rfl rfl
theorem dksX9_wordOf_16 : cX9_wordOf.data.toList.drop 428 = dktX9_wordOf_16 := dk_seg dksX9_wordOf_15 24 rfl rfl
theorem dX9_wordOf_0 : decode cX9_wordOf 0 = .ok (.iload_n 0, 1) := dk_26 (dk_at dksX9_wordOf_0 0 rfl rfl)
theorem dX9_wordOf_1 : decode cX9_wordOf 1 = .ok (.tableswitch 423 0 20 #[99, 117, 133, 149, 166, 181, 197, 213, 228, 245, 261, 275, 288, 302, 316, 332, 347, 360, 375, 391, 408], 99) := by decide +kernel
theorem dX9_wordOf_100 : decode cX9_wordOf 100 = .ok (.bipush 112, 2) := dk_16 112 (dk_at dksX9_wordOf_2 0 rfl rfl)
theorem dX9_wordOf_102 : decode cX9_wordOf 102 = .ok (.bipush 97, 2) := dk_16 97 (dk_at dksX9_wordOf_2 2 rfl rfl)
theorem dX9_wordOf_104 : decode cX9_wordOf 104 = .ok (.bipush 114, 2) := dk_16 114 (dk_at dksX9_wordOf_2 4 rfl rfl)
theorem dX9_wordOf_106 : decode cX9_wordOf 106 = .ok (.bipush 108, 2) := dk_16 108 (dk_at dksX9_wordOf_2 6 rfl rfl)
theorem dX9_wordOf_108 : decode cX9_wordOf 108 = .ok (.bipush 111, 2) := dk_16 111 (dk_at dksX9_wordOf_2 8 rfl rfl)
theorem dX9_wordOf_110 : decode cX9_wordOf 110 = .ok (.bipush 117, 2) := dk_16 117 (dk_at dksX9_wordOf_2 10 rfl rfl)
theorem dX9_wordOf_112 : decode cX9_wordOf 112 = .ok (.bipush 114, 2) := dk_16 114 (dk_at dksX9_wordOf_2 12 rfl rfl)
theorem dX9_wordOf_114 : decode cX9_wordOf 114 = .ok (.invokestatic 58, 3) := dk_184 0 58 (dk_at dksX9_wordOf_2 14 rfl rfl)
theorem dX9_wordOf_117 : decode cX9_wordOf 117 = .ok (.lreturn, 1) := dk_173 (dk_at dksX9_wordOf_2 17 rfl rfl)
theorem dX9_wordOf_118 : decode cX9_wordOf 118 = .ok (.bipush 115, 2) := dk_16 115 (dk_at dksX9_wordOf_2 18 rfl rfl)
theorem dX9_wordOf_120 : decode cX9_wordOf 120 = .ok (.bipush 105, 2) := dk_16 105 (dk_at dksX9_wordOf_2 20 rfl rfl)
theorem dX9_wordOf_122 : decode cX9_wordOf 122 = .ok (.bipush 103, 2) := dk_16 103 (dk_at dksX9_wordOf_2 22 rfl rfl)
theorem dX9_wordOf_124 : decode cX9_wordOf 124 = .ok (.bipush 104, 2) := dk_16 104 (dk_at dksX9_wordOf_3 0 rfl rfl)
theorem dX9_wordOf_126 : decode cX9_wordOf 126 = .ok (.bipush 116, 2) := dk_16 116 (dk_at dksX9_wordOf_3 2 rfl rfl)
theorem dX9_wordOf_128 : decode cX9_wordOf 128 = .ok (.iconst 0, 1) := dk_3 (dk_at dksX9_wordOf_3 4 rfl rfl)
theorem dX9_wordOf_129 : decode cX9_wordOf 129 = .ok (.iconst 0, 1) := dk_3 (dk_at dksX9_wordOf_3 5 rfl rfl)
theorem dX9_wordOf_130 : decode cX9_wordOf 130 = .ok (.invokestatic 58, 3) := dk_184 0 58 (dk_at dksX9_wordOf_3 6 rfl rfl)
theorem dX9_wordOf_133 : decode cX9_wordOf 133 = .ok (.lreturn, 1) := dk_173 (dk_at dksX9_wordOf_3 9 rfl rfl)
theorem dX9_wordOf_134 : decode cX9_wordOf 134 = .ok (.bipush 112, 2) := dk_16 112 (dk_at dksX9_wordOf_3 10 rfl rfl)
theorem dX9_wordOf_136 : decode cX9_wordOf 136 = .ok (.bipush 108, 2) := dk_16 108 (dk_at dksX9_wordOf_3 12 rfl rfl)
theorem dX9_wordOf_138 : decode cX9_wordOf 138 = .ok (.bipush 97, 2) := dk_16 97 (dk_at dksX9_wordOf_3 14 rfl rfl)
theorem dX9_wordOf_140 : decode cX9_wordOf 140 = .ok (.bipush 110, 2) := dk_16 110 (dk_at dksX9_wordOf_3 16 rfl rfl)
theorem dX9_wordOf_142 : decode cX9_wordOf 142 = .ok (.bipush 116, 2) := dk_16 116 (dk_at dksX9_wordOf_3 18 rfl rfl)
theorem dX9_wordOf_144 : decode cX9_wordOf 144 = .ok (.iconst 0, 1) := dk_3 (dk_at dksX9_wordOf_3 20 rfl rfl)
theorem dX9_wordOf_145 : decode cX9_wordOf 145 = .ok (.iconst 0, 1) := dk_3 (dk_at dksX9_wordOf_3 21 rfl rfl)
theorem dX9_wordOf_146 : decode cX9_wordOf 146 = .ok (.invokestatic 58, 3) := dk_184 0 58 (dk_at dksX9_wordOf_4 0 rfl rfl)
theorem dX9_wordOf_149 : decode cX9_wordOf 149 = .ok (.lreturn, 1) := dk_173 (dk_at dksX9_wordOf_4 3 rfl rfl)
theorem dX9_wordOf_150 : decode cX9_wordOf 150 = .ok (.bipush 112, 2) := dk_16 112 (dk_at dksX9_wordOf_4 4 rfl rfl)
theorem dX9_wordOf_152 : decode cX9_wordOf 152 = .ok (.bipush 101, 2) := dk_16 101 (dk_at dksX9_wordOf_4 6 rfl rfl)
theorem dX9_wordOf_154 : decode cX9_wordOf 154 = .ok (.bipush 114, 2) := dk_16 114 (dk_at dksX9_wordOf_4 8 rfl rfl)
theorem dX9_wordOf_156 : decode cX9_wordOf 156 = .ok (.bipush 115, 2) := dk_16 115 (dk_at dksX9_wordOf_4 10 rfl rfl)
theorem dX9_wordOf_158 : decode cX9_wordOf 158 = .ok (.bipush 111, 2) := dk_16 111 (dk_at dksX9_wordOf_4 12 rfl rfl)
theorem dX9_wordOf_160 : decode cX9_wordOf 160 = .ok (.bipush 110, 2) := dk_16 110 (dk_at dksX9_wordOf_4 14 rfl rfl)
theorem dX9_wordOf_162 : decode cX9_wordOf 162 = .ok (.iconst 0, 1) := dk_3 (dk_at dksX9_wordOf_4 16 rfl rfl)
theorem dX9_wordOf_163 : decode cX9_wordOf 163 = .ok (.invokestatic 58, 3) := dk_184 0 58 (dk_at dksX9_wordOf_4 17 rfl rfl)
theorem dX9_wordOf_166 : decode cX9_wordOf 166 = .ok (.lreturn, 1) := dk_173 (dk_at dksX9_wordOf_4 20 rfl rfl)
theorem dX9_wordOf_167 : decode cX9_wordOf 167 = .ok (.bipush 100, 2) := dk_16 100 (dk_at dksX9_wordOf_4 21 rfl rfl)
theorem dX9_wordOf_169 : decode cX9_wordOf 169 = .ok (.bipush 101, 2) := dk_16 101 (dk_at dksX9_wordOf_5 0 rfl rfl)
theorem dX9_wordOf_171 : decode cX9_wordOf 171 = .ok (.bipush 101, 2) := dk_16 101 (dk_at dksX9_wordOf_5 2 rfl rfl)
theorem dX9_wordOf_173 : decode cX9_wordOf 173 = .ok (.bipush 100, 2) := dk_16 100 (dk_at dksX9_wordOf_5 4 rfl rfl)
theorem dX9_wordOf_175 : decode cX9_wordOf 175 = .ok (.iconst 0, 1) := dk_3 (dk_at dksX9_wordOf_5 6 rfl rfl)
theorem dX9_wordOf_176 : decode cX9_wordOf 176 = .ok (.iconst 0, 1) := dk_3 (dk_at dksX9_wordOf_5 7 rfl rfl)
theorem dX9_wordOf_177 : decode cX9_wordOf 177 = .ok (.iconst 0, 1) := dk_3 (dk_at dksX9_wordOf_5 8 rfl rfl)
theorem dX9_wordOf_178 : decode cX9_wordOf 178 = .ok (.invokestatic 58, 3) := dk_184 0 58 (dk_at dksX9_wordOf_5 9 rfl rfl)
theorem dX9_wordOf_181 : decode cX9_wordOf 181 = .ok (.lreturn, 1) := dk_173 (dk_at dksX9_wordOf_5 12 rfl rfl)
theorem dX9_wordOf_182 : decode cX9_wordOf 182 = .ok (.bipush 100, 2) := dk_16 100 (dk_at dksX9_wordOf_5 13 rfl rfl)
theorem dX9_wordOf_184 : decode cX9_wordOf 184 = .ok (.bipush 117, 2) := dk_16 117 (dk_at dksX9_wordOf_5 15 rfl rfl)
theorem dX9_wordOf_186 : decode cX9_wordOf 186 = .ok (.bipush 115, 2) := dk_16 115 (dk_at dksX9_wordOf_5 17 rfl rfl)
theorem dX9_wordOf_188 : decode cX9_wordOf 188 = .ok (.bipush 116, 2) := dk_16 116 (dk_at dksX9_wordOf_5 19 rfl rfl)
theorem dX9_wordOf_190 : decode cX9_wordOf 190 = .ok (.bipush 121, 2) := dk_16 121 (dk_at dksX9_wordOf_5 21 rfl rfl)
theorem dX9_wordOf_192 : decode cX9_wordOf 192 = .ok (.iconst 0, 1) := dk_3 (dk_at dksX9_wordOf_5 23 rfl rfl)
theorem dX9_wordOf_193 : decode cX9_wordOf 193 = .ok (.iconst 0, 1) := dk_3 (dk_at dksX9_wordOf_6 0 rfl rfl)
theorem dX9_wordOf_194 : decode cX9_wordOf 194 = .ok (.invokestatic 58, 3) := dk_184 0 58 (dk_at dksX9_wordOf_6 1 rfl rfl)
theorem dX9_wordOf_197 : decode cX9_wordOf 197 = .ok (.lreturn, 1) := dk_173 (dk_at dksX9_wordOf_6 4 rfl rfl)
theorem dX9_wordOf_198 : decode cX9_wordOf 198 = .ok (.bipush 112, 2) := dk_16 112 (dk_at dksX9_wordOf_6 5 rfl rfl)
theorem dX9_wordOf_200 : decode cX9_wordOf 200 = .ok (.bipush 114, 2) := dk_16 114 (dk_at dksX9_wordOf_6 7 rfl rfl)
theorem dX9_wordOf_202 : decode cX9_wordOf 202 = .ok (.bipush 111, 2) := dk_16 111 (dk_at dksX9_wordOf_6 9 rfl rfl)
theorem dX9_wordOf_204 : decode cX9_wordOf 204 = .ok (.bipush 111, 2) := dk_16 111 (dk_at dksX9_wordOf_6 11 rfl rfl)
theorem dX9_wordOf_206 : decode cX9_wordOf 206 = .ok (.bipush 102, 2) := dk_16 102 (dk_at dksX9_wordOf_6 13 rfl rfl)
theorem dX9_wordOf_208 : decode cX9_wordOf 208 = .ok (.iconst 0, 1) := dk_3 (dk_at dksX9_wordOf_6 15 rfl rfl)
theorem dX9_wordOf_209 : decode cX9_wordOf 209 = .ok (.iconst 0, 1) := dk_3 (dk_at dksX9_wordOf_6 16 rfl rfl)
theorem dX9_wordOf_210 : decode cX9_wordOf 210 = .ok (.invokestatic 58, 3) := dk_184 0 58 (dk_at dksX9_wordOf_6 17 rfl rfl)
theorem dX9_wordOf_213 : decode cX9_wordOf 213 = .ok (.lreturn, 1) := dk_173 (dk_at dksX9_wordOf_6 20 rfl rfl)
theorem dX9_wordOf_214 : decode cX9_wordOf 214 = .ok (.bipush 100, 2) := dk_16 100 (dk_at dksX9_wordOf_6 21 rfl rfl)
theorem dX9_wordOf_216 : decode cX9_wordOf 216 = .ok (.bipush 111, 2) := dk_16 111 (dk_at dksX9_wordOf_7 0 rfl rfl)
theorem dX9_wordOf_218 : decode cX9_wordOf 218 = .ok (.bipush 101, 2) := dk_16 101 (dk_at dksX9_wordOf_7 2 rfl rfl)
theorem dX9_wordOf_220 : decode cX9_wordOf 220 = .ok (.bipush 115, 2) := dk_16 115 (dk_at dksX9_wordOf_7 4 rfl rfl)
theorem dX9_wordOf_222 : decode cX9_wordOf 222 = .ok (.iconst 0, 1) := dk_3 (dk_at dksX9_wordOf_7 6 rfl rfl)
theorem dX9_wordOf_223 : decode cX9_wordOf 223 = .ok (.iconst 0, 1) := dk_3 (dk_at dksX9_wordOf_7 7 rfl rfl)
theorem dX9_wordOf_224 : decode cX9_wordOf 224 = .ok (.iconst 0, 1) := dk_3 (dk_at dksX9_wordOf_7 8 rfl rfl)
theorem dX9_wordOf_225 : decode cX9_wordOf 225 = .ok (.invokestatic 58, 3) := dk_184 0 58 (dk_at dksX9_wordOf_7 9 rfl rfl)
theorem dX9_wordOf_228 : decode cX9_wordOf 228 = .ok (.lreturn, 1) := dk_173 (dk_at dksX9_wordOf_7 12 rfl rfl)
theorem dX9_wordOf_229 : decode cX9_wordOf 229 = .ok (.bipush 115, 2) := dk_16 115 (dk_at dksX9_wordOf_7 13 rfl rfl)
theorem dX9_wordOf_231 : decode cX9_wordOf 231 = .ok (.bipush 112, 2) := dk_16 112 (dk_at dksX9_wordOf_7 15 rfl rfl)
theorem dX9_wordOf_233 : decode cX9_wordOf 233 = .ok (.bipush 111, 2) := dk_16 111 (dk_at dksX9_wordOf_7 17 rfl rfl)
theorem dX9_wordOf_235 : decode cX9_wordOf 235 = .ok (.bipush 110, 2) := dk_16 110 (dk_at dksX9_wordOf_7 19 rfl rfl)
theorem dX9_wordOf_237 : decode cX9_wordOf 237 = .ok (.bipush 103, 2) := dk_16 103 (dk_at dksX9_wordOf_7 21 rfl rfl)
theorem dX9_wordOf_239 : decode cX9_wordOf 239 = .ok (.bipush 101, 2) := dk_16 101 (dk_at dksX9_wordOf_8 0 rfl rfl)
theorem dX9_wordOf_241 : decode cX9_wordOf 241 = .ok (.iconst 0, 1) := dk_3 (dk_at dksX9_wordOf_8 2 rfl rfl)
theorem dX9_wordOf_242 : decode cX9_wordOf 242 = .ok (.invokestatic 58, 3) := dk_184 0 58 (dk_at dksX9_wordOf_8 3 rfl rfl)
theorem dX9_wordOf_245 : decode cX9_wordOf 245 = .ok (.lreturn, 1) := dk_173 (dk_at dksX9_wordOf_8 6 rfl rfl)
theorem dX9_wordOf_246 : decode cX9_wordOf 246 = .ok (.bipush 99, 2) := dk_16 99 (dk_at dksX9_wordOf_8 7 rfl rfl)
theorem dX9_wordOf_248 : decode cX9_wordOf 248 = .ok (.bipush 97, 2) := dk_16 97 (dk_at dksX9_wordOf_8 9 rfl rfl)
theorem dX9_wordOf_250 : decode cX9_wordOf 250 = .ok (.bipush 114, 2) := dk_16 114 (dk_at dksX9_wordOf_8 11 rfl rfl)
theorem dX9_wordOf_252 : decode cX9_wordOf 252 = .ok (.bipush 114, 2) := dk_16 114 (dk_at dksX9_wordOf_8 13 rfl rfl)
theorem dX9_wordOf_254 : decode cX9_wordOf 254 = .ok (.bipush 121, 2) := dk_16 121 (dk_at dksX9_wordOf_8 15 rfl rfl)
theorem dX9_wordOf_256 : decode cX9_wordOf 256 = .ok (.iconst 0, 1) := dk_3 (dk_at dksX9_wordOf_8 17 rfl rfl)
theorem dX9_wordOf_257 : decode cX9_wordOf 257 = .ok (.iconst 0, 1) := dk_3 (dk_at dksX9_wordOf_8 18 rfl rfl)
theorem dX9_wordOf_258 : decode cX9_wordOf 258 = .ok (.invokestatic 58, 3) := dk_184 0 58 (dk_at dksX9_wordOf_8 19 rfl rfl)
theorem dX9_wordOf_261 : decode cX9_wordOf 261 = .ok (.lreturn, 1) := dk_173 (dk_at dksX9_wordOf_8 22 rfl rfl)
theorem dX9_wordOf_262 : decode cX9_wordOf 262 = .ok (.bipush 100, 2) := dk_16 100 (dk_at dksX9_wordOf_9 0 rfl rfl)
theorem dX9_wordOf_264 : decode cX9_wordOf 264 = .ok (.bipush 97, 2) := dk_16 97 (dk_at dksX9_wordOf_9 2 rfl rfl)
theorem dX9_wordOf_266 : decode cX9_wordOf 266 = .ok (.bipush 121, 2) := dk_16 121 (dk_at dksX9_wordOf_9 4 rfl rfl)
theorem dX9_wordOf_268 : decode cX9_wordOf 268 = .ok (.iconst 0, 1) := dk_3 (dk_at dksX9_wordOf_9 6 rfl rfl)
theorem dX9_wordOf_269 : decode cX9_wordOf 269 = .ok (.iconst 0, 1) := dk_3 (dk_at dksX9_wordOf_9 7 rfl rfl)
theorem dX9_wordOf_270 : decode cX9_wordOf 270 = .ok (.iconst 0, 1) := dk_3 (dk_at dksX9_wordOf_9 8 rfl rfl)
theorem dX9_wordOf_271 : decode cX9_wordOf 271 = .ok (.iconst 0, 1) := dk_3 (dk_at dksX9_wordOf_9 9 rfl rfl)
theorem dX9_wordOf_272 : decode cX9_wordOf 272 = .ok (.invokestatic 58, 3) := dk_184 0 58 (dk_at dksX9_wordOf_9 10 rfl rfl)
theorem dX9_wordOf_275 : decode cX9_wordOf 275 = .ok (.lreturn, 1) := dk_173 (dk_at dksX9_wordOf_9 13 rfl rfl)
theorem dX9_wordOf_276 : decode cX9_wordOf 276 = .ok (.bipush 111, 2) := dk_16 111 (dk_at dksX9_wordOf_9 14 rfl rfl)
theorem dX9_wordOf_278 : decode cX9_wordOf 278 = .ok (.bipush 114, 2) := dk_16 114 (dk_at dksX9_wordOf_9 16 rfl rfl)
theorem dX9_wordOf_280 : decode cX9_wordOf 280 = .ok (.iconst 0, 1) := dk_3 (dk_at dksX9_wordOf_9 18 rfl rfl)
theorem dX9_wordOf_281 : decode cX9_wordOf 281 = .ok (.iconst 0, 1) := dk_3 (dk_at dksX9_wordOf_9 19 rfl rfl)
theorem dX9_wordOf_282 : decode cX9_wordOf 282 = .ok (.iconst 0, 1) := dk_3 (dk_at dksX9_wordOf_9 20 rfl rfl)
theorem dX9_wordOf_283 : decode cX9_wordOf 283 = .ok (.iconst 0, 1) := dk_3 (dk_at dksX9_wordOf_9 21 rfl rfl)
theorem dX9_wordOf_284 : decode cX9_wordOf 284 = .ok (.iconst 0, 1) := dk_3 (dk_at dksX9_wordOf_9 22 rfl rfl)
theorem dX9_wordOf_285 : decode cX9_wordOf 285 = .ok (.invokestatic 58, 3) := dk_184 0 58 (dk_at dksX9_wordOf_10 0 rfl rfl)
theorem dX9_wordOf_288 : decode cX9_wordOf 288 = .ok (.lreturn, 1) := dk_173 (dk_at dksX9_wordOf_10 3 rfl rfl)
theorem dX9_wordOf_289 : decode cX9_wordOf 289 = .ok (.bipush 97, 2) := dk_16 97 (dk_at dksX9_wordOf_10 4 rfl rfl)
theorem dX9_wordOf_291 : decode cX9_wordOf 291 = .ok (.bipush 110, 2) := dk_16 110 (dk_at dksX9_wordOf_10 6 rfl rfl)
theorem dX9_wordOf_293 : decode cX9_wordOf 293 = .ok (.bipush 100, 2) := dk_16 100 (dk_at dksX9_wordOf_10 8 rfl rfl)
theorem dX9_wordOf_295 : decode cX9_wordOf 295 = .ok (.iconst 0, 1) := dk_3 (dk_at dksX9_wordOf_10 10 rfl rfl)
theorem dX9_wordOf_296 : decode cX9_wordOf 296 = .ok (.iconst 0, 1) := dk_3 (dk_at dksX9_wordOf_10 11 rfl rfl)
theorem dX9_wordOf_297 : decode cX9_wordOf 297 = .ok (.iconst 0, 1) := dk_3 (dk_at dksX9_wordOf_10 12 rfl rfl)
theorem dX9_wordOf_298 : decode cX9_wordOf 298 = .ok (.iconst 0, 1) := dk_3 (dk_at dksX9_wordOf_10 13 rfl rfl)
theorem dX9_wordOf_299 : decode cX9_wordOf 299 = .ok (.invokestatic 58, 3) := dk_184 0 58 (dk_at dksX9_wordOf_10 14 rfl rfl)
theorem dX9_wordOf_302 : decode cX9_wordOf 302 = .ok (.lreturn, 1) := dk_173 (dk_at dksX9_wordOf_10 17 rfl rfl)
theorem dX9_wordOf_303 : decode cX9_wordOf 303 = .ok (.bipush 110, 2) := dk_16 110 (dk_at dksX9_wordOf_10 18 rfl rfl)
theorem dX9_wordOf_305 : decode cX9_wordOf 305 = .ok (.bipush 111, 2) := dk_16 111 (dk_at dksX9_wordOf_10 20 rfl rfl)
theorem dX9_wordOf_307 : decode cX9_wordOf 307 = .ok (.bipush 116, 2) := dk_16 116 (dk_at dksX9_wordOf_10 22 rfl rfl)
theorem dX9_wordOf_309 : decode cX9_wordOf 309 = .ok (.iconst 0, 1) := dk_3 (dk_at dksX9_wordOf_11 0 rfl rfl)
theorem dX9_wordOf_310 : decode cX9_wordOf 310 = .ok (.iconst 0, 1) := dk_3 (dk_at dksX9_wordOf_11 1 rfl rfl)
theorem dX9_wordOf_311 : decode cX9_wordOf 311 = .ok (.iconst 0, 1) := dk_3 (dk_at dksX9_wordOf_11 2 rfl rfl)
theorem dX9_wordOf_312 : decode cX9_wordOf 312 = .ok (.iconst 0, 1) := dk_3 (dk_at dksX9_wordOf_11 3 rfl rfl)
theorem dX9_wordOf_313 : decode cX9_wordOf 313 = .ok (.invokestatic 58, 3) := dk_184 0 58 (dk_at dksX9_wordOf_11 4 rfl rfl)
theorem dX9_wordOf_316 : decode cX9_wordOf 316 = .ok (.lreturn, 1) := dk_173 (dk_at dksX9_wordOf_11 7 rfl rfl)
theorem dX9_wordOf_317 : decode cX9_wordOf 317 = .ok (.bipush 98, 2) := dk_16 98 (dk_at dksX9_wordOf_11 8 rfl rfl)
theorem dX9_wordOf_319 : decode cX9_wordOf 319 = .ok (.bipush 108, 2) := dk_16 108 (dk_at dksX9_wordOf_11 10 rfl rfl)
theorem dX9_wordOf_321 : decode cX9_wordOf 321 = .ok (.bipush 105, 2) := dk_16 105 (dk_at dksX9_wordOf_11 12 rfl rfl)
theorem dX9_wordOf_323 : decode cX9_wordOf 323 = .ok (.bipush 110, 2) := dk_16 110 (dk_at dksX9_wordOf_11 14 rfl rfl)
theorem dX9_wordOf_325 : decode cX9_wordOf 325 = .ok (.bipush 100, 2) := dk_16 100 (dk_at dksX9_wordOf_11 16 rfl rfl)
theorem dX9_wordOf_327 : decode cX9_wordOf 327 = .ok (.iconst 0, 1) := dk_3 (dk_at dksX9_wordOf_11 18 rfl rfl)
theorem dX9_wordOf_328 : decode cX9_wordOf 328 = .ok (.iconst 0, 1) := dk_3 (dk_at dksX9_wordOf_11 19 rfl rfl)
theorem dX9_wordOf_329 : decode cX9_wordOf 329 = .ok (.invokestatic 58, 3) := dk_184 0 58 (dk_at dksX9_wordOf_11 20 rfl rfl)
theorem dX9_wordOf_332 : decode cX9_wordOf 332 = .ok (.lreturn, 1) := dk_173 (dk_at dksX9_wordOf_11 23 rfl rfl)
theorem dX9_wordOf_333 : decode cX9_wordOf 333 = .ok (.bipush 102, 2) := dk_16 102 (dk_at dksX9_wordOf_12 0 rfl rfl)
theorem dX9_wordOf_335 : decode cX9_wordOf 335 = .ok (.bipush 101, 2) := dk_16 101 (dk_at dksX9_wordOf_12 2 rfl rfl)
theorem dX9_wordOf_337 : decode cX9_wordOf 337 = .ok (.bipush 114, 2) := dk_16 114 (dk_at dksX9_wordOf_12 4 rfl rfl)
theorem dX9_wordOf_339 : decode cX9_wordOf 339 = .ok (.bipush 110, 2) := dk_16 110 (dk_at dksX9_wordOf_12 6 rfl rfl)
theorem dX9_wordOf_341 : decode cX9_wordOf 341 = .ok (.iconst 0, 1) := dk_3 (dk_at dksX9_wordOf_12 8 rfl rfl)
theorem dX9_wordOf_342 : decode cX9_wordOf 342 = .ok (.iconst 0, 1) := dk_3 (dk_at dksX9_wordOf_12 9 rfl rfl)
theorem dX9_wordOf_343 : decode cX9_wordOf 343 = .ok (.iconst 0, 1) := dk_3 (dk_at dksX9_wordOf_12 10 rfl rfl)
theorem dX9_wordOf_344 : decode cX9_wordOf 344 = .ok (.invokestatic 58, 3) := dk_184 0 58 (dk_at dksX9_wordOf_12 11 rfl rfl)
theorem dX9_wordOf_347 : decode cX9_wordOf 347 = .ok (.lreturn, 1) := dk_173 (dk_at dksX9_wordOf_12 14 rfl rfl)
theorem dX9_wordOf_348 : decode cX9_wordOf 348 = .ok (.bipush 105, 2) := dk_16 105 (dk_at dksX9_wordOf_12 15 rfl rfl)
theorem dX9_wordOf_350 : decode cX9_wordOf 350 = .ok (.bipush 110, 2) := dk_16 110 (dk_at dksX9_wordOf_12 17 rfl rfl)
theorem dX9_wordOf_352 : decode cX9_wordOf 352 = .ok (.iconst 0, 1) := dk_3 (dk_at dksX9_wordOf_12 19 rfl rfl)
theorem dX9_wordOf_353 : decode cX9_wordOf 353 = .ok (.iconst 0, 1) := dk_3 (dk_at dksX9_wordOf_12 20 rfl rfl)
theorem dX9_wordOf_354 : decode cX9_wordOf 354 = .ok (.iconst 0, 1) := dk_3 (dk_at dksX9_wordOf_12 21 rfl rfl)
theorem dX9_wordOf_355 : decode cX9_wordOf 355 = .ok (.iconst 0, 1) := dk_3 (dk_at dksX9_wordOf_12 22 rfl rfl)
theorem dX9_wordOf_356 : decode cX9_wordOf 356 = .ok (.iconst 0, 1) := dk_3 (dk_at dksX9_wordOf_12 23 rfl rfl)
theorem dX9_wordOf_357 : decode cX9_wordOf 357 = .ok (.invokestatic 58, 3) := dk_184 0 58 (dk_at dksX9_wordOf_13 0 rfl rfl)
theorem dX9_wordOf_360 : decode cX9_wordOf 360 = .ok (.lreturn, 1) := dk_173 (dk_at dksX9_wordOf_13 3 rfl rfl)
theorem dX9_wordOf_361 : decode cX9_wordOf 361 = .ok (.bipush 115, 2) := dk_16 115 (dk_at dksX9_wordOf_13 4 rfl rfl)
theorem dX9_wordOf_363 : decode cX9_wordOf 363 = .ok (.bipush 101, 2) := dk_16 101 (dk_at dksX9_wordOf_13 6 rfl rfl)
theorem dX9_wordOf_365 : decode cX9_wordOf 365 = .ok (.bipush 101, 2) := dk_16 101 (dk_at dksX9_wordOf_13 8 rfl rfl)
theorem dX9_wordOf_367 : decode cX9_wordOf 367 = .ok (.bipush 115, 2) := dk_16 115 (dk_at dksX9_wordOf_13 10 rfl rfl)
theorem dX9_wordOf_369 : decode cX9_wordOf 369 = .ok (.iconst 0, 1) := dk_3 (dk_at dksX9_wordOf_13 12 rfl rfl)
theorem dX9_wordOf_370 : decode cX9_wordOf 370 = .ok (.iconst 0, 1) := dk_3 (dk_at dksX9_wordOf_13 13 rfl rfl)
theorem dX9_wordOf_371 : decode cX9_wordOf 371 = .ok (.iconst 0, 1) := dk_3 (dk_at dksX9_wordOf_13 14 rfl rfl)
theorem dX9_wordOf_372 : decode cX9_wordOf 372 = .ok (.invokestatic 58, 3) := dk_184 0 58 (dk_at dksX9_wordOf_13 15 rfl rfl)
theorem dX9_wordOf_375 : decode cX9_wordOf 375 = .ok (.lreturn, 1) := dk_173 (dk_at dksX9_wordOf_13 18 rfl rfl)
theorem dX9_wordOf_376 : decode cX9_wordOf 376 = .ok (.bipush 116, 2) := dk_16 116 (dk_at dksX9_wordOf_13 19 rfl rfl)
theorem dX9_wordOf_378 : decode cX9_wordOf 378 = .ok (.bipush 101, 2) := dk_16 101 (dk_at dksX9_wordOf_13 21 rfl rfl)
theorem dX9_wordOf_380 : decode cX9_wordOf 380 = .ok (.bipush 108, 2) := dk_16 108 (dk_at dksX9_wordOf_14 0 rfl rfl)
theorem dX9_wordOf_382 : decode cX9_wordOf 382 = .ok (.bipush 108, 2) := dk_16 108 (dk_at dksX9_wordOf_14 2 rfl rfl)
theorem dX9_wordOf_384 : decode cX9_wordOf 384 = .ok (.bipush 115, 2) := dk_16 115 (dk_at dksX9_wordOf_14 4 rfl rfl)
theorem dX9_wordOf_386 : decode cX9_wordOf 386 = .ok (.iconst 0, 1) := dk_3 (dk_at dksX9_wordOf_14 6 rfl rfl)
theorem dX9_wordOf_387 : decode cX9_wordOf 387 = .ok (.iconst 0, 1) := dk_3 (dk_at dksX9_wordOf_14 7 rfl rfl)
theorem dX9_wordOf_388 : decode cX9_wordOf 388 = .ok (.invokestatic 58, 3) := dk_184 0 58 (dk_at dksX9_wordOf_14 8 rfl rfl)
theorem dX9_wordOf_391 : decode cX9_wordOf 391 = .ok (.lreturn, 1) := dk_173 (dk_at dksX9_wordOf_14 11 rfl rfl)
theorem dX9_wordOf_392 : decode cX9_wordOf 392 = .ok (.bipush 108, 2) := dk_16 108 (dk_at dksX9_wordOf_14 12 rfl rfl)
theorem dX9_wordOf_394 : decode cX9_wordOf 394 = .ok (.bipush 101, 2) := dk_16 101 (dk_at dksX9_wordOf_14 14 rfl rfl)
theorem dX9_wordOf_396 : decode cX9_wordOf 396 = .ok (.bipush 97, 2) := dk_16 97 (dk_at dksX9_wordOf_14 16 rfl rfl)
theorem dX9_wordOf_398 : decode cX9_wordOf 398 = .ok (.bipush 118, 2) := dk_16 118 (dk_at dksX9_wordOf_14 18 rfl rfl)
theorem dX9_wordOf_400 : decode cX9_wordOf 400 = .ok (.bipush 101, 2) := dk_16 101 (dk_at dksX9_wordOf_14 20 rfl rfl)
theorem dX9_wordOf_402 : decode cX9_wordOf 402 = .ok (.bipush 115, 2) := dk_16 115 (dk_at dksX9_wordOf_14 22 rfl rfl)
theorem dX9_wordOf_404 : decode cX9_wordOf 404 = .ok (.iconst 0, 1) := dk_3 (dk_at dksX9_wordOf_15 0 rfl rfl)
theorem dX9_wordOf_405 : decode cX9_wordOf 405 = .ok (.invokestatic 58, 3) := dk_184 0 58 (dk_at dksX9_wordOf_15 1 rfl rfl)
theorem dX9_wordOf_408 : decode cX9_wordOf 408 = .ok (.lreturn, 1) := dk_173 (dk_at dksX9_wordOf_15 4 rfl rfl)
theorem dX9_wordOf_409 : decode cX9_wordOf 409 = .ok (.bipush 100, 2) := dk_16 100 (dk_at dksX9_wordOf_15 5 rfl rfl)
theorem dX9_wordOf_411 : decode cX9_wordOf 411 = .ok (.bipush 117, 2) := dk_16 117 (dk_at dksX9_wordOf_15 7 rfl rfl)
theorem dX9_wordOf_413 : decode cX9_wordOf 413 = .ok (.bipush 115, 2) := dk_16 115 (dk_at dksX9_wordOf_15 9 rfl rfl)
theorem dX9_wordOf_415 : decode cX9_wordOf 415 = .ok (.bipush 116, 2) := dk_16 116 (dk_at dksX9_wordOf_15 11 rfl rfl)
theorem dX9_wordOf_417 : decode cX9_wordOf 417 = .ok (.iconst 0, 1) := dk_3 (dk_at dksX9_wordOf_15 13 rfl rfl)
theorem dX9_wordOf_418 : decode cX9_wordOf 418 = .ok (.iconst 0, 1) := dk_3 (dk_at dksX9_wordOf_15 14 rfl rfl)
theorem dX9_wordOf_419 : decode cX9_wordOf 419 = .ok (.iconst 0, 1) := dk_3 (dk_at dksX9_wordOf_15 15 rfl rfl)
theorem dX9_wordOf_420 : decode cX9_wordOf 420 = .ok (.invokestatic 58, 3) := dk_184 0 58 (dk_at dksX9_wordOf_15 16 rfl rfl)
theorem dX9_wordOf_423 : decode cX9_wordOf 423 = .ok (.lreturn, 1) := dk_173 (dk_at dksX9_wordOf_15 19 rfl rfl)
theorem dX9_wordOf_424 : decode cX9_wordOf 424 = .ok (.bipush 110, 2) := dk_16 110 (dk_at dksX9_wordOf_15 20 rfl rfl)
theorem dX9_wordOf_426 : decode cX9_wordOf 426 = .ok (.bipush 117, 2) := dk_16 117 (dk_at dksX9_wordOf_15 22 rfl rfl)
theorem dX9_wordOf_428 : decode cX9_wordOf 428 = .ok (.bipush 109, 2) := dk_16 109 (dk_at dksX9_wordOf_16 0 rfl rfl)
theorem dX9_wordOf_430 : decode cX9_wordOf 430 = .ok (.bipush 98, 2) := dk_16 98 (dk_at dksX9_wordOf_16 2 rfl rfl)
theorem dX9_wordOf_432 : decode cX9_wordOf 432 = .ok (.bipush 101, 2) := dk_16 101 (dk_at dksX9_wordOf_16 4 rfl rfl)
theorem dX9_wordOf_434 : decode cX9_wordOf 434 = .ok (.bipush 114, 2) := dk_16 114 (dk_at dksX9_wordOf_16 6 rfl rfl)
theorem dX9_wordOf_436 : decode cX9_wordOf 436 = .ok (.iconst 0, 1) := dk_3 (dk_at dksX9_wordOf_16 8 rfl rfl)
theorem dX9_wordOf_437 : decode cX9_wordOf 437 = .ok (.invokestatic 58, 3) := dk_184 0 58 (dk_at dksX9_wordOf_16 9 rfl rfl)
theorem dX9_wordOf_440 : decode cX9_wordOf 440 = .ok (.lreturn, 1) := dk_173 (dk_at dksX9_wordOf_16 12 rfl rfl)
abbrev cX9_spelt : ByteArray := prog_22_method_17_code
def yX9_spelt : MethodName := ⟨RX9, "spelt", "(IIIIIII)J"⟩
def dkwX9_spelt_5 : List UInt8 := [21, 6, 133, 97, 20, 0, 56, 101, 55, 7, 22, 7, 173]
abbrev dktX9_spelt_5 : List UInt8 := dkwX9_spelt_5 ++ []
def dkwX9_spelt_4 : List UInt8 := [22, 7, 105, 21, 5, 133, 97, 20, 0, 56, 101, 55, 7, 21, 6, 158, 0, 19, 20, 0, 54, 22, 7, 105]
abbrev dktX9_spelt_4 : List UInt8 := dkwX9_spelt_4 ++ dktX9_spelt_5
def dkwX9_spelt_3 : List UInt8 := [20, 0, 54, 22, 7, 105, 21, 4, 133, 97, 20, 0, 56, 101, 55, 7, 21, 5, 158, 0, 19, 20, 0, 54]
abbrev dktX9_spelt_3 : List UInt8 := dkwX9_spelt_3 ++ dktX9_spelt_4
def dkwX9_spelt_2 : List UInt8 := [158, 0, 18, 20, 0, 54, 22, 7, 105, 29, 133, 97, 20, 0, 56, 101, 55, 7, 21, 4, 158, 0, 19]
abbrev dktX9_spelt_2 : List UInt8 := dkwX9_spelt_2 ++ dktX9_spelt_3
def dkwX9_spelt_1 : List UInt8 := [101, 55, 7, 28, 158, 0, 18, 20, 0, 54, 22, 7, 105, 28, 133, 97, 20, 0, 56, 101, 55, 7, 29]
abbrev dktX9_spelt_1 : List UInt8 := dkwX9_spelt_1 ++ dktX9_spelt_2
def dkwX9_spelt_0 : List UInt8 := [26, 133, 20, 0, 56, 101, 55, 7, 27, 158, 0, 18, 20, 0, 54, 22, 7, 105, 27, 133, 97, 20, 0, 56]
abbrev dktX9_spelt_0 : List UInt8 := dkwX9_spelt_0 ++ dktX9_spelt_1
theorem dksX9_spelt_0 : cX9_spelt.data.toList.drop 0 = dktX9_spelt_0 := by decide +kernel
theorem dksX9_spelt_1 : cX9_spelt.data.toList.drop 24 = dktX9_spelt_1 := dk_seg dksX9_spelt_0 24 rfl rfl
theorem dksX9_spelt_2 : cX9_spelt.data.toList.drop 47 = dktX9_spelt_2 := dk_seg dksX9_spelt_1 23 rfl rfl
theorem dksX9_spelt_3 : cX9_spelt.data.toList.drop 70 = dktX9_spelt_3 := dk_seg dksX9_spelt_2 23 rfl rfl
theorem dksX9_spelt_4 : cX9_spelt.data.toList.drop 94 = dktX9_spelt_4 := dk_seg dksX9_spelt_3 24 rfl rfl
theorem dksX9_spelt_5 : cX9_spelt.data.toList.drop 118 = dktX9_spelt_5 := dk_seg dksX9_spelt_4 24 rfl rfl
theorem dX9_spelt_0 : decode cX9_spelt 0 = .ok (.iload_n 0, 1) := dk_26 (dk_at dksX9_spelt_0 0 rfl rfl)
theorem dX9_spelt_1 : decode cX9_spelt 1 = .ok (.i2l, 1) := dk_133 (dk_at dksX9_spelt_0 1 rfl rfl)
theorem dX9_spelt_2 : decode cX9_spelt 2 = .ok (.ldc2_w 56, 3) := dk_20 0 56 (dk_at dksX9_spelt_0 2 rfl rfl)
theorem dX9_spelt_5 : decode cX9_spelt 5 = .ok (.lsub, 1) := dk_101 (dk_at dksX9_spelt_0 5 rfl rfl)
theorem dX9_spelt_6 : decode cX9_spelt 6 = .ok (.lstore 7, 2) := dk_55 7 (dk_at dksX9_spelt_0 6 rfl rfl)
theorem dX9_spelt_8 : decode cX9_spelt 8 = .ok (.iload_n 1, 1) := dk_27 (dk_at dksX9_spelt_0 8 rfl rfl)
theorem dX9_spelt_9 : decode cX9_spelt 9 = .ok (.ifCond .le 18, 3) := dk_158 0 18 (dk_at dksX9_spelt_0 9 rfl rfl)
theorem dX9_spelt_12 : decode cX9_spelt 12 = .ok (.ldc2_w 54, 3) := dk_20 0 54 (dk_at dksX9_spelt_0 12 rfl rfl)
theorem dX9_spelt_15 : decode cX9_spelt 15 = .ok (.lload 7, 2) := dk_22 7 (dk_at dksX9_spelt_0 15 rfl rfl)
theorem dX9_spelt_17 : decode cX9_spelt 17 = .ok (.lmul, 1) := dk_105 (dk_at dksX9_spelt_0 17 rfl rfl)
theorem dX9_spelt_18 : decode cX9_spelt 18 = .ok (.iload_n 1, 1) := dk_27 (dk_at dksX9_spelt_0 18 rfl rfl)
theorem dX9_spelt_19 : decode cX9_spelt 19 = .ok (.i2l, 1) := dk_133 (dk_at dksX9_spelt_0 19 rfl rfl)
theorem dX9_spelt_20 : decode cX9_spelt 20 = .ok (.ladd, 1) := dk_97 (dk_at dksX9_spelt_0 20 rfl rfl)
theorem dX9_spelt_21 : decode cX9_spelt 21 = .ok (.ldc2_w 56, 3) := dk_20 0 56 (dk_at dksX9_spelt_0 21 rfl rfl)
theorem dX9_spelt_24 : decode cX9_spelt 24 = .ok (.lsub, 1) := dk_101 (dk_at dksX9_spelt_1 0 rfl rfl)
theorem dX9_spelt_25 : decode cX9_spelt 25 = .ok (.lstore 7, 2) := dk_55 7 (dk_at dksX9_spelt_1 1 rfl rfl)
theorem dX9_spelt_27 : decode cX9_spelt 27 = .ok (.iload_n 2, 1) := dk_28 (dk_at dksX9_spelt_1 3 rfl rfl)
theorem dX9_spelt_28 : decode cX9_spelt 28 = .ok (.ifCond .le 18, 3) := dk_158 0 18 (dk_at dksX9_spelt_1 4 rfl rfl)
theorem dX9_spelt_31 : decode cX9_spelt 31 = .ok (.ldc2_w 54, 3) := dk_20 0 54 (dk_at dksX9_spelt_1 7 rfl rfl)
theorem dX9_spelt_34 : decode cX9_spelt 34 = .ok (.lload 7, 2) := dk_22 7 (dk_at dksX9_spelt_1 10 rfl rfl)
theorem dX9_spelt_36 : decode cX9_spelt 36 = .ok (.lmul, 1) := dk_105 (dk_at dksX9_spelt_1 12 rfl rfl)
theorem dX9_spelt_37 : decode cX9_spelt 37 = .ok (.iload_n 2, 1) := dk_28 (dk_at dksX9_spelt_1 13 rfl rfl)
theorem dX9_spelt_38 : decode cX9_spelt 38 = .ok (.i2l, 1) := dk_133 (dk_at dksX9_spelt_1 14 rfl rfl)
theorem dX9_spelt_39 : decode cX9_spelt 39 = .ok (.ladd, 1) := dk_97 (dk_at dksX9_spelt_1 15 rfl rfl)
theorem dX9_spelt_40 : decode cX9_spelt 40 = .ok (.ldc2_w 56, 3) := dk_20 0 56 (dk_at dksX9_spelt_1 16 rfl rfl)
theorem dX9_spelt_43 : decode cX9_spelt 43 = .ok (.lsub, 1) := dk_101 (dk_at dksX9_spelt_1 19 rfl rfl)
theorem dX9_spelt_44 : decode cX9_spelt 44 = .ok (.lstore 7, 2) := dk_55 7 (dk_at dksX9_spelt_1 20 rfl rfl)
theorem dX9_spelt_46 : decode cX9_spelt 46 = .ok (.iload_n 3, 1) := dk_29 (dk_at dksX9_spelt_1 22 rfl rfl)
theorem dX9_spelt_47 : decode cX9_spelt 47 = .ok (.ifCond .le 18, 3) := dk_158 0 18 (dk_at dksX9_spelt_2 0 rfl rfl)
theorem dX9_spelt_50 : decode cX9_spelt 50 = .ok (.ldc2_w 54, 3) := dk_20 0 54 (dk_at dksX9_spelt_2 3 rfl rfl)
theorem dX9_spelt_53 : decode cX9_spelt 53 = .ok (.lload 7, 2) := dk_22 7 (dk_at dksX9_spelt_2 6 rfl rfl)
theorem dX9_spelt_55 : decode cX9_spelt 55 = .ok (.lmul, 1) := dk_105 (dk_at dksX9_spelt_2 8 rfl rfl)
theorem dX9_spelt_56 : decode cX9_spelt 56 = .ok (.iload_n 3, 1) := dk_29 (dk_at dksX9_spelt_2 9 rfl rfl)
theorem dX9_spelt_57 : decode cX9_spelt 57 = .ok (.i2l, 1) := dk_133 (dk_at dksX9_spelt_2 10 rfl rfl)
theorem dX9_spelt_58 : decode cX9_spelt 58 = .ok (.ladd, 1) := dk_97 (dk_at dksX9_spelt_2 11 rfl rfl)
theorem dX9_spelt_59 : decode cX9_spelt 59 = .ok (.ldc2_w 56, 3) := dk_20 0 56 (dk_at dksX9_spelt_2 12 rfl rfl)
theorem dX9_spelt_62 : decode cX9_spelt 62 = .ok (.lsub, 1) := dk_101 (dk_at dksX9_spelt_2 15 rfl rfl)
theorem dX9_spelt_63 : decode cX9_spelt 63 = .ok (.lstore 7, 2) := dk_55 7 (dk_at dksX9_spelt_2 16 rfl rfl)
theorem dX9_spelt_65 : decode cX9_spelt 65 = .ok (.iload 4, 2) := dk_21 4 (dk_at dksX9_spelt_2 18 rfl rfl)
theorem dX9_spelt_67 : decode cX9_spelt 67 = .ok (.ifCond .le 19, 3) := dk_158 0 19 (dk_at dksX9_spelt_2 20 rfl rfl)
theorem dX9_spelt_70 : decode cX9_spelt 70 = .ok (.ldc2_w 54, 3) := dk_20 0 54 (dk_at dksX9_spelt_3 0 rfl rfl)
theorem dX9_spelt_73 : decode cX9_spelt 73 = .ok (.lload 7, 2) := dk_22 7 (dk_at dksX9_spelt_3 3 rfl rfl)
theorem dX9_spelt_75 : decode cX9_spelt 75 = .ok (.lmul, 1) := dk_105 (dk_at dksX9_spelt_3 5 rfl rfl)
theorem dX9_spelt_76 : decode cX9_spelt 76 = .ok (.iload 4, 2) := dk_21 4 (dk_at dksX9_spelt_3 6 rfl rfl)
theorem dX9_spelt_78 : decode cX9_spelt 78 = .ok (.i2l, 1) := dk_133 (dk_at dksX9_spelt_3 8 rfl rfl)
theorem dX9_spelt_79 : decode cX9_spelt 79 = .ok (.ladd, 1) := dk_97 (dk_at dksX9_spelt_3 9 rfl rfl)
theorem dX9_spelt_80 : decode cX9_spelt 80 = .ok (.ldc2_w 56, 3) := dk_20 0 56 (dk_at dksX9_spelt_3 10 rfl rfl)
theorem dX9_spelt_83 : decode cX9_spelt 83 = .ok (.lsub, 1) := dk_101 (dk_at dksX9_spelt_3 13 rfl rfl)
theorem dX9_spelt_84 : decode cX9_spelt 84 = .ok (.lstore 7, 2) := dk_55 7 (dk_at dksX9_spelt_3 14 rfl rfl)
theorem dX9_spelt_86 : decode cX9_spelt 86 = .ok (.iload 5, 2) := dk_21 5 (dk_at dksX9_spelt_3 16 rfl rfl)
theorem dX9_spelt_88 : decode cX9_spelt 88 = .ok (.ifCond .le 19, 3) := dk_158 0 19 (dk_at dksX9_spelt_3 18 rfl rfl)
theorem dX9_spelt_91 : decode cX9_spelt 91 = .ok (.ldc2_w 54, 3) := dk_20 0 54 (dk_at dksX9_spelt_3 21 rfl rfl)
theorem dX9_spelt_94 : decode cX9_spelt 94 = .ok (.lload 7, 2) := dk_22 7 (dk_at dksX9_spelt_4 0 rfl rfl)
theorem dX9_spelt_96 : decode cX9_spelt 96 = .ok (.lmul, 1) := dk_105 (dk_at dksX9_spelt_4 2 rfl rfl)
theorem dX9_spelt_97 : decode cX9_spelt 97 = .ok (.iload 5, 2) := dk_21 5 (dk_at dksX9_spelt_4 3 rfl rfl)
theorem dX9_spelt_99 : decode cX9_spelt 99 = .ok (.i2l, 1) := dk_133 (dk_at dksX9_spelt_4 5 rfl rfl)
theorem dX9_spelt_100 : decode cX9_spelt 100 = .ok (.ladd, 1) := dk_97 (dk_at dksX9_spelt_4 6 rfl rfl)
theorem dX9_spelt_101 : decode cX9_spelt 101 = .ok (.ldc2_w 56, 3) := dk_20 0 56 (dk_at dksX9_spelt_4 7 rfl rfl)
theorem dX9_spelt_104 : decode cX9_spelt 104 = .ok (.lsub, 1) := dk_101 (dk_at dksX9_spelt_4 10 rfl rfl)
theorem dX9_spelt_105 : decode cX9_spelt 105 = .ok (.lstore 7, 2) := dk_55 7 (dk_at dksX9_spelt_4 11 rfl rfl)
theorem dX9_spelt_107 : decode cX9_spelt 107 = .ok (.iload 6, 2) := dk_21 6 (dk_at dksX9_spelt_4 13 rfl rfl)
theorem dX9_spelt_109 : decode cX9_spelt 109 = .ok (.ifCond .le 19, 3) := dk_158 0 19 (dk_at dksX9_spelt_4 15 rfl rfl)
theorem dX9_spelt_112 : decode cX9_spelt 112 = .ok (.ldc2_w 54, 3) := dk_20 0 54 (dk_at dksX9_spelt_4 18 rfl rfl)
theorem dX9_spelt_115 : decode cX9_spelt 115 = .ok (.lload 7, 2) := dk_22 7 (dk_at dksX9_spelt_4 21 rfl rfl)
theorem dX9_spelt_117 : decode cX9_spelt 117 = .ok (.lmul, 1) := dk_105 (dk_at dksX9_spelt_4 23 rfl rfl)
theorem dX9_spelt_118 : decode cX9_spelt 118 = .ok (.iload 6, 2) := dk_21 6 (dk_at dksX9_spelt_5 0 rfl rfl)
theorem dX9_spelt_120 : decode cX9_spelt 120 = .ok (.i2l, 1) := dk_133 (dk_at dksX9_spelt_5 2 rfl rfl)
theorem dX9_spelt_121 : decode cX9_spelt 121 = .ok (.ladd, 1) := dk_97 (dk_at dksX9_spelt_5 3 rfl rfl)
theorem dX9_spelt_122 : decode cX9_spelt 122 = .ok (.ldc2_w 56, 3) := dk_20 0 56 (dk_at dksX9_spelt_5 4 rfl rfl)
theorem dX9_spelt_125 : decode cX9_spelt 125 = .ok (.lsub, 1) := dk_101 (dk_at dksX9_spelt_5 7 rfl rfl)
theorem dX9_spelt_126 : decode cX9_spelt 126 = .ok (.lstore 7, 2) := dk_55 7 (dk_at dksX9_spelt_5 8 rfl rfl)
theorem dX9_spelt_128 : decode cX9_spelt 128 = .ok (.lload 7, 2) := dk_22 7 (dk_at dksX9_spelt_5 10 rfl rfl)
theorem dX9_spelt_130 : decode cX9_spelt 130 = .ok (.lreturn, 1) := dk_173 (dk_at dksX9_spelt_5 12 rfl rfl)
abbrev cX9_readPlain : ByteArray := prog_22_method_34_code
def yX9_readPlain : MethodName := ⟨RX9, "readPlain", "(III)Z"⟩
def dkwX9_readPlain_1 : List UInt8 := [3, 172, 42, 180, 0, 101, 27, 92, 46, 4, 96, 79, 4, 172]
abbrev dktX9_readPlain_1 : List UInt8 := dkwX9_readPlain_1 ++ []
def dkwX9_readPlain_0 : List UInt8 := [42, 27, 28, 182, 0, 171, 153, 0, 18, 42, 29, 42, 180, 0, 101, 27, 46, 96, 182, 0, 175, 154, 0, 5]
abbrev dktX9_readPlain_0 : List UInt8 := dkwX9_readPlain_0 ++ dktX9_readPlain_1
theorem dksX9_readPlain_0 : cX9_readPlain.data.toList.drop 0 = dktX9_readPlain_0 := by decide +kernel
theorem dksX9_readPlain_1 : cX9_readPlain.data.toList.drop 24 = dktX9_readPlain_1 := dk_seg dksX9_readPlain_0 24 rfl rfl
theorem dX9_readPlain_0 : decode cX9_readPlain 0 = .ok (.aload_n 0, 1) := dk_42 (dk_at dksX9_readPlain_0 0 rfl rfl)
theorem dX9_readPlain_1 : decode cX9_readPlain 1 = .ok (.iload_n 1, 1) := dk_27 (dk_at dksX9_readPlain_0 1 rfl rfl)
theorem dX9_readPlain_2 : decode cX9_readPlain 2 = .ok (.iload_n 2, 1) := dk_28 (dk_at dksX9_readPlain_0 2 rfl rfl)
theorem dX9_readPlain_3 : decode cX9_readPlain 3 = .ok (.invokevirtual 171, 3) := dk_182 0 171 (dk_at dksX9_readPlain_0 3 rfl rfl)
theorem dX9_readPlain_6 : decode cX9_readPlain 6 = .ok (.ifCond .eq 18, 3) := dk_153 0 18 (dk_at dksX9_readPlain_0 6 rfl rfl)
theorem dX9_readPlain_9 : decode cX9_readPlain 9 = .ok (.aload_n 0, 1) := dk_42 (dk_at dksX9_readPlain_0 9 rfl rfl)
theorem dX9_readPlain_10 : decode cX9_readPlain 10 = .ok (.iload_n 3, 1) := dk_29 (dk_at dksX9_readPlain_0 10 rfl rfl)
theorem dX9_readPlain_11 : decode cX9_readPlain 11 = .ok (.aload_n 0, 1) := dk_42 (dk_at dksX9_readPlain_0 11 rfl rfl)
theorem dX9_readPlain_12 : decode cX9_readPlain 12 = .ok (.getfield 101, 3) := dk_180 0 101 (dk_at dksX9_readPlain_0 12 rfl rfl)
theorem dX9_readPlain_15 : decode cX9_readPlain 15 = .ok (.iload_n 1, 1) := dk_27 (dk_at dksX9_readPlain_0 15 rfl rfl)
theorem dX9_readPlain_16 : decode cX9_readPlain 16 = .ok (.iaload, 1) := dk_46 (dk_at dksX9_readPlain_0 16 rfl rfl)
theorem dX9_readPlain_17 : decode cX9_readPlain 17 = .ok (.iadd, 1) := dk_96 (dk_at dksX9_readPlain_0 17 rfl rfl)
theorem dX9_readPlain_18 : decode cX9_readPlain 18 = .ok (.invokevirtual 175, 3) := dk_182 0 175 (dk_at dksX9_readPlain_0 18 rfl rfl)
theorem dX9_readPlain_21 : decode cX9_readPlain 21 = .ok (.ifCond .ne 5, 3) := dk_154 0 5 (dk_at dksX9_readPlain_0 21 rfl rfl)
theorem dX9_readPlain_24 : decode cX9_readPlain 24 = .ok (.iconst 0, 1) := dk_3 (dk_at dksX9_readPlain_1 0 rfl rfl)
theorem dX9_readPlain_25 : decode cX9_readPlain 25 = .ok (.ireturn, 1) := dk_172 (dk_at dksX9_readPlain_1 1 rfl rfl)
theorem dX9_readPlain_26 : decode cX9_readPlain 26 = .ok (.aload_n 0, 1) := dk_42 (dk_at dksX9_readPlain_1 2 rfl rfl)
theorem dX9_readPlain_27 : decode cX9_readPlain 27 = .ok (.getfield 101, 3) := dk_180 0 101 (dk_at dksX9_readPlain_1 3 rfl rfl)
theorem dX9_readPlain_30 : decode cX9_readPlain 30 = .ok (.iload_n 1, 1) := dk_27 (dk_at dksX9_readPlain_1 6 rfl rfl)
theorem dX9_readPlain_31 : decode cX9_readPlain 31 = .ok (.dup2, 1) := dk_92 (dk_at dksX9_readPlain_1 7 rfl rfl)
theorem dX9_readPlain_32 : decode cX9_readPlain 32 = .ok (.iaload, 1) := dk_46 (dk_at dksX9_readPlain_1 8 rfl rfl)
theorem dX9_readPlain_33 : decode cX9_readPlain 33 = .ok (.iconst 1, 1) := dk_4 (dk_at dksX9_readPlain_1 9 rfl rfl)
theorem dX9_readPlain_34 : decode cX9_readPlain 34 = .ok (.iadd, 1) := dk_96 (dk_at dksX9_readPlain_1 10 rfl rfl)
theorem dX9_readPlain_35 : decode cX9_readPlain 35 = .ok (.iastore, 1) := dk_79 (dk_at dksX9_readPlain_1 11 rfl rfl)
theorem dX9_readPlain_36 : decode cX9_readPlain 36 = .ok (.iconst 1, 1) := dk_4 (dk_at dksX9_readPlain_1 12 rfl rfl)
theorem dX9_readPlain_37 : decode cX9_readPlain 37 = .ok (.ireturn, 1) := dk_172 (dk_at dksX9_readPlain_1 13 rfl rfl)
abbrev cX9_readFirst : ByteArray := prog_22_method_32_code
def yX9_readFirst : MethodName := ⟨RX9, "readFirst", "(II)Z"⟩
def dkwX9_readFirst_0 : List UInt8 := [42, 180, 0, 101, 27, 46, 28, 160, 0, 9, 42, 7, 182, 0, 72, 172, 42, 182, 0, 82, 4, 172]
abbrev dktX9_readFirst_0 : List UInt8 := dkwX9_readFirst_0 ++ []
theorem dksX9_readFirst_0 : cX9_readFirst.data.toList.drop 0 = dktX9_readFirst_0 := by decide +kernel
theorem dX9_readFirst_0 : decode cX9_readFirst 0 = .ok (.aload_n 0, 1) := dk_42 (dk_at dksX9_readFirst_0 0 rfl rfl)
theorem dX9_readFirst_1 : decode cX9_readFirst 1 = .ok (.getfield 101, 3) := dk_180 0 101 (dk_at dksX9_readFirst_0 1 rfl rfl)
theorem dX9_readFirst_4 : decode cX9_readFirst 4 = .ok (.iload_n 1, 1) := dk_27 (dk_at dksX9_readFirst_0 4 rfl rfl)
theorem dX9_readFirst_5 : decode cX9_readFirst 5 = .ok (.iaload, 1) := dk_46 (dk_at dksX9_readFirst_0 5 rfl rfl)
theorem dX9_readFirst_6 : decode cX9_readFirst 6 = .ok (.iload_n 2, 1) := dk_28 (dk_at dksX9_readFirst_0 6 rfl rfl)
theorem dX9_readFirst_7 : decode cX9_readFirst 7 = .ok (.if_icmp .ne 9, 3) := dk_160 0 9 (dk_at dksX9_readFirst_0 7 rfl rfl)
theorem dX9_readFirst_10 : decode cX9_readFirst 10 = .ok (.aload_n 0, 1) := dk_42 (dk_at dksX9_readFirst_0 10 rfl rfl)
theorem dX9_readFirst_11 : decode cX9_readFirst 11 = .ok (.iconst 4, 1) := dk_7 (dk_at dksX9_readFirst_0 11 rfl rfl)
theorem dX9_readFirst_12 : decode cX9_readFirst 12 = .ok (.invokevirtual 72, 3) := dk_182 0 72 (dk_at dksX9_readFirst_0 12 rfl rfl)
theorem dX9_readFirst_15 : decode cX9_readFirst 15 = .ok (.ireturn, 1) := dk_172 (dk_at dksX9_readFirst_0 15 rfl rfl)
theorem dX9_readFirst_16 : decode cX9_readFirst 16 = .ok (.aload_n 0, 1) := dk_42 (dk_at dksX9_readFirst_0 16 rfl rfl)
theorem dX9_readFirst_17 : decode cX9_readFirst 17 = .ok (.invokevirtual 82, 3) := dk_182 0 82 (dk_at dksX9_readFirst_0 17 rfl rfl)
theorem dX9_readFirst_20 : decode cX9_readFirst 20 = .ok (.iconst 1, 1) := dk_4 (dk_at dksX9_readFirst_0 20 rfl rfl)
theorem dX9_readFirst_21 : decode cX9_readFirst 21 = .ok (.ireturn, 1) := dk_172 (dk_at dksX9_readFirst_0 21 rfl rfl)
abbrev cX9_bad : ByteArray := prog_22_method_22_code
def yX9_bad : MethodName := ⟨RX9, "bad", "(I)Z"⟩
def dkwX9_bad_1 : List UInt8 := [181, 0, 69, 3, 172]
abbrev dktX9_bad_1 : List UInt8 := dkwX9_bad_1 ++ []
def dkwX9_bad_0 : List UInt8 := [42, 42, 180, 0, 30, 4, 160, 0, 7, 4, 167, 0, 4, 27, 181, 0, 66, 42, 42, 180, 0, 24]
abbrev dktX9_bad_0 : List UInt8 := dkwX9_bad_0 ++ dktX9_bad_1
theorem dksX9_bad_0 : cX9_bad.data.toList.drop 0 = dktX9_bad_0 := by decide +kernel
theorem dksX9_bad_1 : cX9_bad.data.toList.drop 22 = dktX9_bad_1 := dk_seg dksX9_bad_0 22 rfl rfl
theorem dX9_bad_0 : decode cX9_bad 0 = .ok (.aload_n 0, 1) := dk_42 (dk_at dksX9_bad_0 0 rfl rfl)
theorem dX9_bad_1 : decode cX9_bad 1 = .ok (.aload_n 0, 1) := dk_42 (dk_at dksX9_bad_0 1 rfl rfl)
theorem dX9_bad_2 : decode cX9_bad 2 = .ok (.getfield 30, 3) := dk_180 0 30 (dk_at dksX9_bad_0 2 rfl rfl)
theorem dX9_bad_5 : decode cX9_bad 5 = .ok (.iconst 1, 1) := dk_4 (dk_at dksX9_bad_0 5 rfl rfl)
theorem dX9_bad_6 : decode cX9_bad 6 = .ok (.if_icmp .ne 7, 3) := dk_160 0 7 (dk_at dksX9_bad_0 6 rfl rfl)
theorem dX9_bad_9 : decode cX9_bad 9 = .ok (.iconst 1, 1) := dk_4 (dk_at dksX9_bad_0 9 rfl rfl)
theorem dX9_bad_10 : decode cX9_bad 10 = .ok (.goto 4, 3) := dk_167 0 4 (dk_at dksX9_bad_0 10 rfl rfl)
theorem dX9_bad_13 : decode cX9_bad 13 = .ok (.iload_n 1, 1) := dk_27 (dk_at dksX9_bad_0 13 rfl rfl)
theorem dX9_bad_14 : decode cX9_bad 14 = .ok (.putfield 66, 3) := dk_181 0 66 (dk_at dksX9_bad_0 14 rfl rfl)
theorem dX9_bad_17 : decode cX9_bad 17 = .ok (.aload_n 0, 1) := dk_42 (dk_at dksX9_bad_0 17 rfl rfl)
theorem dX9_bad_18 : decode cX9_bad 18 = .ok (.aload_n 0, 1) := dk_42 (dk_at dksX9_bad_0 18 rfl rfl)
theorem dX9_bad_19 : decode cX9_bad 19 = .ok (.getfield 24, 3) := dk_180 0 24 (dk_at dksX9_bad_0 19 rfl rfl)
theorem dX9_bad_22 : decode cX9_bad 22 = .ok (.putfield 69, 3) := dk_181 0 69 (dk_at dksX9_bad_1 0 rfl rfl)
theorem dX9_bad_25 : decode cX9_bad 25 = .ok (.iconst 0, 1) := dk_3 (dk_at dksX9_bad_1 3 rfl rfl)
theorem dX9_bad_26 : decode cX9_bad 26 = .ok (.ireturn, 1) := dk_172 (dk_at dksX9_bad_1 4 rfl rfl)
abbrev cX9_readNew : ByteArray := prog_22_method_30_code
def yX9_readNew : MethodName := ⟨RX9, "readNew", "(I)Z"⟩
def dkwX9_readNew_1 : List UInt8 := [182, 0, 72, 172, 42, 180, 0, 117, 27, 42, 180, 0, 43, 80, 42, 182, 0, 82, 4, 172]
abbrev dktX9_readNew_1 : List UInt8 := dkwX9_readNew_1 ++ []
def dkwX9_readNew_0 : List UInt8 := [42, 182, 0, 164, 154, 0, 9, 42, 4, 182, 0, 72, 172, 42, 182, 0, 168, 153, 0, 9, 42, 6]
abbrev dktX9_readNew_0 : List UInt8 := dkwX9_readNew_0 ++ dktX9_readNew_1
theorem dksX9_readNew_0 : cX9_readNew.data.toList.drop 0 = dktX9_readNew_0 := by decide +kernel
theorem dksX9_readNew_1 : cX9_readNew.data.toList.drop 22 = dktX9_readNew_1 := dk_seg dksX9_readNew_0 22 rfl rfl
theorem dX9_readNew_0 : decode cX9_readNew 0 = .ok (.aload_n 0, 1) := dk_42 (dk_at dksX9_readNew_0 0 rfl rfl)
theorem dX9_readNew_1 : decode cX9_readNew 1 = .ok (.invokevirtual 164, 3) := dk_182 0 164 (dk_at dksX9_readNew_0 1 rfl rfl)
theorem dX9_readNew_4 : decode cX9_readNew 4 = .ok (.ifCond .ne 9, 3) := dk_154 0 9 (dk_at dksX9_readNew_0 4 rfl rfl)
theorem dX9_readNew_7 : decode cX9_readNew 7 = .ok (.aload_n 0, 1) := dk_42 (dk_at dksX9_readNew_0 7 rfl rfl)
theorem dX9_readNew_8 : decode cX9_readNew 8 = .ok (.iconst 1, 1) := dk_4 (dk_at dksX9_readNew_0 8 rfl rfl)
theorem dX9_readNew_9 : decode cX9_readNew 9 = .ok (.invokevirtual 72, 3) := dk_182 0 72 (dk_at dksX9_readNew_0 9 rfl rfl)
theorem dX9_readNew_12 : decode cX9_readNew 12 = .ok (.ireturn, 1) := dk_172 (dk_at dksX9_readNew_0 12 rfl rfl)
theorem dX9_readNew_13 : decode cX9_readNew 13 = .ok (.aload_n 0, 1) := dk_42 (dk_at dksX9_readNew_0 13 rfl rfl)
theorem dX9_readNew_14 : decode cX9_readNew 14 = .ok (.invokevirtual 168, 3) := dk_182 0 168 (dk_at dksX9_readNew_0 14 rfl rfl)
theorem dX9_readNew_17 : decode cX9_readNew 17 = .ok (.ifCond .eq 9, 3) := dk_153 0 9 (dk_at dksX9_readNew_0 17 rfl rfl)
theorem dX9_readNew_20 : decode cX9_readNew 20 = .ok (.aload_n 0, 1) := dk_42 (dk_at dksX9_readNew_0 20 rfl rfl)
theorem dX9_readNew_21 : decode cX9_readNew 21 = .ok (.iconst 3, 1) := dk_6 (dk_at dksX9_readNew_0 21 rfl rfl)
theorem dX9_readNew_22 : decode cX9_readNew 22 = .ok (.invokevirtual 72, 3) := dk_182 0 72 (dk_at dksX9_readNew_1 0 rfl rfl)
theorem dX9_readNew_25 : decode cX9_readNew 25 = .ok (.ireturn, 1) := dk_172 (dk_at dksX9_readNew_1 3 rfl rfl)
theorem dX9_readNew_26 : decode cX9_readNew 26 = .ok (.aload_n 0, 1) := dk_42 (dk_at dksX9_readNew_1 4 rfl rfl)
theorem dX9_readNew_27 : decode cX9_readNew 27 = .ok (.getfield 117, 3) := dk_180 0 117 (dk_at dksX9_readNew_1 5 rfl rfl)
theorem dX9_readNew_30 : decode cX9_readNew 30 = .ok (.iload_n 1, 1) := dk_27 (dk_at dksX9_readNew_1 8 rfl rfl)
theorem dX9_readNew_31 : decode cX9_readNew 31 = .ok (.aload_n 0, 1) := dk_42 (dk_at dksX9_readNew_1 9 rfl rfl)
theorem dX9_readNew_32 : decode cX9_readNew 32 = .ok (.getfield 43, 3) := dk_180 0 43 (dk_at dksX9_readNew_1 10 rfl rfl)
theorem dX9_readNew_35 : decode cX9_readNew 35 = .ok (.lastore, 1) := dk_80 (dk_at dksX9_readNew_1 13 rfl rfl)
theorem dX9_readNew_36 : decode cX9_readNew 36 = .ok (.aload_n 0, 1) := dk_42 (dk_at dksX9_readNew_1 14 rfl rfl)
theorem dX9_readNew_37 : decode cX9_readNew 37 = .ok (.invokevirtual 82, 3) := dk_182 0 82 (dk_at dksX9_readNew_1 15 rfl rfl)
theorem dX9_readNew_40 : decode cX9_readNew 40 = .ok (.iconst 1, 1) := dk_4 (dk_at dksX9_readNew_1 18 rfl rfl)
theorem dX9_readNew_41 : decode cX9_readNew 41 = .ok (.ireturn, 1) := dk_172 (dk_at dksX9_readNew_1 19 rfl rfl)
abbrev cX9_isName : ByteArray := prog_22_method_21_code
def yX9_isName : MethodName := ⟨RX9, "isName", "()Z"⟩
def dkwX9_isName_1 : List UInt8 := [184, 0, 62, 148, 154, 0, 5, 3, 172, 132, 1, 1, 167, 255, 233, 4, 172]
abbrev dktX9_isName_1 : List UInt8 := dkwX9_isName_1 ++ []
def dkwX9_isName_0 : List UInt8 := [42, 180, 0, 30, 5, 159, 0, 5, 3, 172, 3, 60, 27, 16, 21, 163, 0, 23, 42, 180, 0, 43, 27]
abbrev dktX9_isName_0 : List UInt8 := dkwX9_isName_0 ++ dktX9_isName_1
theorem dksX9_isName_0 : cX9_isName.data.toList.drop 0 = dktX9_isName_0 := by decide +kernel
theorem dksX9_isName_1 : cX9_isName.data.toList.drop 23 = dktX9_isName_1 := dk_seg dksX9_isName_0 23 rfl rfl
theorem dX9_isName_0 : decode cX9_isName 0 = .ok (.aload_n 0, 1) := dk_42 (dk_at dksX9_isName_0 0 rfl rfl)
theorem dX9_isName_1 : decode cX9_isName 1 = .ok (.getfield 30, 3) := dk_180 0 30 (dk_at dksX9_isName_0 1 rfl rfl)
theorem dX9_isName_4 : decode cX9_isName 4 = .ok (.iconst 2, 1) := dk_5 (dk_at dksX9_isName_0 4 rfl rfl)
theorem dX9_isName_5 : decode cX9_isName 5 = .ok (.if_icmp .eq 5, 3) := dk_159 0 5 (dk_at dksX9_isName_0 5 rfl rfl)
theorem dX9_isName_8 : decode cX9_isName 8 = .ok (.iconst 0, 1) := dk_3 (dk_at dksX9_isName_0 8 rfl rfl)
theorem dX9_isName_9 : decode cX9_isName 9 = .ok (.ireturn, 1) := dk_172 (dk_at dksX9_isName_0 9 rfl rfl)
theorem dX9_isName_10 : decode cX9_isName 10 = .ok (.iconst 0, 1) := dk_3 (dk_at dksX9_isName_0 10 rfl rfl)
theorem dX9_isName_11 : decode cX9_isName 11 = .ok (.istore_n 1, 1) := dk_60 (dk_at dksX9_isName_0 11 rfl rfl)
theorem dX9_isName_12 : decode cX9_isName 12 = .ok (.iload_n 1, 1) := dk_27 (dk_at dksX9_isName_0 12 rfl rfl)
theorem dX9_isName_13 : decode cX9_isName 13 = .ok (.bipush 21, 2) := dk_16 21 (dk_at dksX9_isName_0 13 rfl rfl)
theorem dX9_isName_15 : decode cX9_isName 15 = .ok (.if_icmp .gt 23, 3) := dk_163 0 23 (dk_at dksX9_isName_0 15 rfl rfl)
theorem dX9_isName_18 : decode cX9_isName 18 = .ok (.aload_n 0, 1) := dk_42 (dk_at dksX9_isName_0 18 rfl rfl)
theorem dX9_isName_19 : decode cX9_isName 19 = .ok (.getfield 43, 3) := dk_180 0 43 (dk_at dksX9_isName_0 19 rfl rfl)
theorem dX9_isName_22 : decode cX9_isName 22 = .ok (.iload_n 1, 1) := dk_27 (dk_at dksX9_isName_0 22 rfl rfl)
theorem dX9_isName_23 : decode cX9_isName 23 = .ok (.invokestatic 62, 3) := dk_184 0 62 (dk_at dksX9_isName_1 0 rfl rfl)
theorem dX9_isName_26 : decode cX9_isName 26 = .ok (.lcmp, 1) := dk_148 (dk_at dksX9_isName_1 3 rfl rfl)
theorem dX9_isName_27 : decode cX9_isName 27 = .ok (.ifCond .ne 5, 3) := dk_154 0 5 (dk_at dksX9_isName_1 4 rfl rfl)
theorem dX9_isName_30 : decode cX9_isName 30 = .ok (.iconst 0, 1) := dk_3 (dk_at dksX9_isName_1 7 rfl rfl)
theorem dX9_isName_31 : decode cX9_isName 31 = .ok (.ireturn, 1) := dk_172 (dk_at dksX9_isName_1 8 rfl rfl)
theorem dX9_isName_32 : decode cX9_isName 32 = .ok (.iinc 1 1, 3) := dk_132 1 1 (dk_at dksX9_isName_1 9 rfl rfl)
theorem dX9_isName_35 : decode cX9_isName 35 = .ok (.goto (-23), 3) := dk_167 255 233 (dk_at dksX9_isName_1 12 rfl rfl)
theorem dX9_isName_38 : decode cX9_isName 38 = .ok (.iconst 1, 1) := dk_4 (dk_at dksX9_isName_1 15 rfl rfl)
theorem dX9_isName_39 : decode cX9_isName 39 = .ok (.ireturn, 1) := dk_172 (dk_at dksX9_isName_1 16 rfl rfl)
abbrev cX9_isTaken : ByteArray := prog_22_method_29_code
def yX9_isTaken : MethodName := ⟨RX9, "isTaken", "()Z"⟩
def dkwX9_isTaken_4 : List UInt8 := [167, 0, 4, 3, 172]
abbrev dktX9_isTaken_4 : List UInt8 := dkwX9_isTaken_4 ++ []
def dkwX9_isTaken_3 : List UInt8 := [180, 0, 117, 16, 15, 42, 180, 0, 101, 6, 46, 42, 180, 0, 43, 184, 0, 160, 2, 159, 0, 7, 4]
abbrev dktX9_isTaken_3 : List UInt8 := dkwX9_isTaken_3 ++ dktX9_isTaken_4
def dkwX9_isTaken_2 : List UInt8 := [180, 0, 117, 16, 11, 42, 180, 0, 101, 5, 46, 42, 180, 0, 43, 184, 0, 160, 2, 160, 0, 26, 42]
abbrev dktX9_isTaken_2 : List UInt8 := dkwX9_isTaken_2 ++ dktX9_isTaken_3
def dkwX9_isTaken_1 : List UInt8 := [180, 0, 117, 8, 42, 180, 0, 101, 4, 46, 42, 180, 0, 43, 184, 0, 160, 2, 160, 0, 49, 42]
abbrev dktX9_isTaken_1 : List UInt8 := dkwX9_isTaken_1 ++ dktX9_isTaken_2
def dkwX9_isTaken_0 : List UInt8 := [42, 180, 0, 117, 3, 42, 180, 0, 101, 3, 46, 42, 180, 0, 43, 184, 0, 160, 2, 160, 0, 71, 42]
abbrev dktX9_isTaken_0 : List UInt8 := dkwX9_isTaken_0 ++ dktX9_isTaken_1
theorem dksX9_isTaken_0 : cX9_isTaken.data.toList.drop 0 = dktX9_isTaken_0 := by decide +kernel
theorem dksX9_isTaken_1 : cX9_isTaken.data.toList.drop 23 = dktX9_isTaken_1 := dk_seg dksX9_isTaken_0 23 rfl rfl
theorem dksX9_isTaken_2 : cX9_isTaken.data.toList.drop 45 = dktX9_isTaken_2 := dk_seg dksX9_isTaken_1 22 rfl rfl
theorem dksX9_isTaken_3 : cX9_isTaken.data.toList.drop 68 = dktX9_isTaken_3 := dk_seg dksX9_isTaken_2 23 rfl rfl
theorem dksX9_isTaken_4 : cX9_isTaken.data.toList.drop 91 = dktX9_isTaken_4 := dk_seg dksX9_isTaken_3 23 rfl rfl
theorem dX9_isTaken_0 : decode cX9_isTaken 0 = .ok (.aload_n 0, 1) := dk_42 (dk_at dksX9_isTaken_0 0 rfl rfl)
theorem dX9_isTaken_1 : decode cX9_isTaken 1 = .ok (.getfield 117, 3) := dk_180 0 117 (dk_at dksX9_isTaken_0 1 rfl rfl)
theorem dX9_isTaken_4 : decode cX9_isTaken 4 = .ok (.iconst 0, 1) := dk_3 (dk_at dksX9_isTaken_0 4 rfl rfl)
theorem dX9_isTaken_5 : decode cX9_isTaken 5 = .ok (.aload_n 0, 1) := dk_42 (dk_at dksX9_isTaken_0 5 rfl rfl)
theorem dX9_isTaken_6 : decode cX9_isTaken 6 = .ok (.getfield 101, 3) := dk_180 0 101 (dk_at dksX9_isTaken_0 6 rfl rfl)
theorem dX9_isTaken_9 : decode cX9_isTaken 9 = .ok (.iconst 0, 1) := dk_3 (dk_at dksX9_isTaken_0 9 rfl rfl)
theorem dX9_isTaken_10 : decode cX9_isTaken 10 = .ok (.iaload, 1) := dk_46 (dk_at dksX9_isTaken_0 10 rfl rfl)
theorem dX9_isTaken_11 : decode cX9_isTaken 11 = .ok (.aload_n 0, 1) := dk_42 (dk_at dksX9_isTaken_0 11 rfl rfl)
theorem dX9_isTaken_12 : decode cX9_isTaken 12 = .ok (.getfield 43, 3) := dk_180 0 43 (dk_at dksX9_isTaken_0 12 rfl rfl)
theorem dX9_isTaken_15 : decode cX9_isTaken 15 = .ok (.invokestatic 160, 3) := dk_184 0 160 (dk_at dksX9_isTaken_0 15 rfl rfl)
theorem dX9_isTaken_18 : decode cX9_isTaken 18 = .ok (.iconst (-1), 1) := dk_2 (dk_at dksX9_isTaken_0 18 rfl rfl)
theorem dX9_isTaken_19 : decode cX9_isTaken 19 = .ok (.if_icmp .ne 71, 3) := dk_160 0 71 (dk_at dksX9_isTaken_0 19 rfl rfl)
theorem dX9_isTaken_22 : decode cX9_isTaken 22 = .ok (.aload_n 0, 1) := dk_42 (dk_at dksX9_isTaken_0 22 rfl rfl)
theorem dX9_isTaken_23 : decode cX9_isTaken 23 = .ok (.getfield 117, 3) := dk_180 0 117 (dk_at dksX9_isTaken_1 0 rfl rfl)
theorem dX9_isTaken_26 : decode cX9_isTaken 26 = .ok (.iconst 5, 1) := dk_8 (dk_at dksX9_isTaken_1 3 rfl rfl)
theorem dX9_isTaken_27 : decode cX9_isTaken 27 = .ok (.aload_n 0, 1) := dk_42 (dk_at dksX9_isTaken_1 4 rfl rfl)
theorem dX9_isTaken_28 : decode cX9_isTaken 28 = .ok (.getfield 101, 3) := dk_180 0 101 (dk_at dksX9_isTaken_1 5 rfl rfl)
theorem dX9_isTaken_31 : decode cX9_isTaken 31 = .ok (.iconst 1, 1) := dk_4 (dk_at dksX9_isTaken_1 8 rfl rfl)
theorem dX9_isTaken_32 : decode cX9_isTaken 32 = .ok (.iaload, 1) := dk_46 (dk_at dksX9_isTaken_1 9 rfl rfl)
theorem dX9_isTaken_33 : decode cX9_isTaken 33 = .ok (.aload_n 0, 1) := dk_42 (dk_at dksX9_isTaken_1 10 rfl rfl)
theorem dX9_isTaken_34 : decode cX9_isTaken 34 = .ok (.getfield 43, 3) := dk_180 0 43 (dk_at dksX9_isTaken_1 11 rfl rfl)
theorem dX9_isTaken_37 : decode cX9_isTaken 37 = .ok (.invokestatic 160, 3) := dk_184 0 160 (dk_at dksX9_isTaken_1 14 rfl rfl)
theorem dX9_isTaken_40 : decode cX9_isTaken 40 = .ok (.iconst (-1), 1) := dk_2 (dk_at dksX9_isTaken_1 17 rfl rfl)
theorem dX9_isTaken_41 : decode cX9_isTaken 41 = .ok (.if_icmp .ne 49, 3) := dk_160 0 49 (dk_at dksX9_isTaken_1 18 rfl rfl)
theorem dX9_isTaken_44 : decode cX9_isTaken 44 = .ok (.aload_n 0, 1) := dk_42 (dk_at dksX9_isTaken_1 21 rfl rfl)
theorem dX9_isTaken_45 : decode cX9_isTaken 45 = .ok (.getfield 117, 3) := dk_180 0 117 (dk_at dksX9_isTaken_2 0 rfl rfl)
theorem dX9_isTaken_48 : decode cX9_isTaken 48 = .ok (.bipush 11, 2) := dk_16 11 (dk_at dksX9_isTaken_2 3 rfl rfl)
theorem dX9_isTaken_50 : decode cX9_isTaken 50 = .ok (.aload_n 0, 1) := dk_42 (dk_at dksX9_isTaken_2 5 rfl rfl)
theorem dX9_isTaken_51 : decode cX9_isTaken 51 = .ok (.getfield 101, 3) := dk_180 0 101 (dk_at dksX9_isTaken_2 6 rfl rfl)
theorem dX9_isTaken_54 : decode cX9_isTaken 54 = .ok (.iconst 2, 1) := dk_5 (dk_at dksX9_isTaken_2 9 rfl rfl)
theorem dX9_isTaken_55 : decode cX9_isTaken 55 = .ok (.iaload, 1) := dk_46 (dk_at dksX9_isTaken_2 10 rfl rfl)
theorem dX9_isTaken_56 : decode cX9_isTaken 56 = .ok (.aload_n 0, 1) := dk_42 (dk_at dksX9_isTaken_2 11 rfl rfl)
theorem dX9_isTaken_57 : decode cX9_isTaken 57 = .ok (.getfield 43, 3) := dk_180 0 43 (dk_at dksX9_isTaken_2 12 rfl rfl)
theorem dX9_isTaken_60 : decode cX9_isTaken 60 = .ok (.invokestatic 160, 3) := dk_184 0 160 (dk_at dksX9_isTaken_2 15 rfl rfl)
theorem dX9_isTaken_63 : decode cX9_isTaken 63 = .ok (.iconst (-1), 1) := dk_2 (dk_at dksX9_isTaken_2 18 rfl rfl)
theorem dX9_isTaken_64 : decode cX9_isTaken 64 = .ok (.if_icmp .ne 26, 3) := dk_160 0 26 (dk_at dksX9_isTaken_2 19 rfl rfl)
theorem dX9_isTaken_67 : decode cX9_isTaken 67 = .ok (.aload_n 0, 1) := dk_42 (dk_at dksX9_isTaken_2 22 rfl rfl)
theorem dX9_isTaken_68 : decode cX9_isTaken 68 = .ok (.getfield 117, 3) := dk_180 0 117 (dk_at dksX9_isTaken_3 0 rfl rfl)
theorem dX9_isTaken_71 : decode cX9_isTaken 71 = .ok (.bipush 15, 2) := dk_16 15 (dk_at dksX9_isTaken_3 3 rfl rfl)
theorem dX9_isTaken_73 : decode cX9_isTaken 73 = .ok (.aload_n 0, 1) := dk_42 (dk_at dksX9_isTaken_3 5 rfl rfl)
theorem dX9_isTaken_74 : decode cX9_isTaken 74 = .ok (.getfield 101, 3) := dk_180 0 101 (dk_at dksX9_isTaken_3 6 rfl rfl)
theorem dX9_isTaken_77 : decode cX9_isTaken 77 = .ok (.iconst 3, 1) := dk_6 (dk_at dksX9_isTaken_3 9 rfl rfl)
theorem dX9_isTaken_78 : decode cX9_isTaken 78 = .ok (.iaload, 1) := dk_46 (dk_at dksX9_isTaken_3 10 rfl rfl)
theorem dX9_isTaken_79 : decode cX9_isTaken 79 = .ok (.aload_n 0, 1) := dk_42 (dk_at dksX9_isTaken_3 11 rfl rfl)
theorem dX9_isTaken_80 : decode cX9_isTaken 80 = .ok (.getfield 43, 3) := dk_180 0 43 (dk_at dksX9_isTaken_3 12 rfl rfl)
theorem dX9_isTaken_83 : decode cX9_isTaken 83 = .ok (.invokestatic 160, 3) := dk_184 0 160 (dk_at dksX9_isTaken_3 15 rfl rfl)
theorem dX9_isTaken_86 : decode cX9_isTaken 86 = .ok (.iconst (-1), 1) := dk_2 (dk_at dksX9_isTaken_3 18 rfl rfl)
theorem dX9_isTaken_87 : decode cX9_isTaken 87 = .ok (.if_icmp .eq 7, 3) := dk_159 0 7 (dk_at dksX9_isTaken_3 19 rfl rfl)
theorem dX9_isTaken_90 : decode cX9_isTaken 90 = .ok (.iconst 1, 1) := dk_4 (dk_at dksX9_isTaken_3 22 rfl rfl)
theorem dX9_isTaken_91 : decode cX9_isTaken 91 = .ok (.goto 4, 3) := dk_167 0 4 (dk_at dksX9_isTaken_4 0 rfl rfl)
theorem dX9_isTaken_94 : decode cX9_isTaken 94 = .ok (.iconst 0, 1) := dk_3 (dk_at dksX9_isTaken_4 3 rfl rfl)
theorem dX9_isTaken_95 : decode cX9_isTaken 95 = .ok (.ireturn, 1) := dk_172 (dk_at dksX9_isTaken_4 4 rfl rfl)
abbrev cX9_findIn : ByteArray := prog_22_method_28_code
def yX9_findIn : MethodName := ⟨RX9, "findIn", "([JIIJ)I"⟩
def dkwX9_findIn_1 : List UInt8 := [132, 5, 1, 167, 255, 233, 2, 172]
abbrev dktX9_findIn_1 : List UInt8 := dkwX9_findIn_1 ++ []
def dkwX9_findIn_0 : List UInt8 := [3, 54, 5, 21, 5, 28, 162, 0, 23, 42, 27, 21, 5, 96, 47, 33, 148, 154, 0, 6, 21, 5, 172]
abbrev dktX9_findIn_0 : List UInt8 := dkwX9_findIn_0 ++ dktX9_findIn_1
theorem dksX9_findIn_0 : cX9_findIn.data.toList.drop 0 = dktX9_findIn_0 := by decide +kernel
theorem dksX9_findIn_1 : cX9_findIn.data.toList.drop 23 = dktX9_findIn_1 := dk_seg dksX9_findIn_0 23 rfl rfl
theorem dX9_findIn_0 : decode cX9_findIn 0 = .ok (.iconst 0, 1) := dk_3 (dk_at dksX9_findIn_0 0 rfl rfl)
theorem dX9_findIn_1 : decode cX9_findIn 1 = .ok (.istore 5, 2) := dk_54 5 (dk_at dksX9_findIn_0 1 rfl rfl)
theorem dX9_findIn_3 : decode cX9_findIn 3 = .ok (.iload 5, 2) := dk_21 5 (dk_at dksX9_findIn_0 3 rfl rfl)
theorem dX9_findIn_5 : decode cX9_findIn 5 = .ok (.iload_n 2, 1) := dk_28 (dk_at dksX9_findIn_0 5 rfl rfl)
theorem dX9_findIn_6 : decode cX9_findIn 6 = .ok (.if_icmp .ge 23, 3) := dk_162 0 23 (dk_at dksX9_findIn_0 6 rfl rfl)
theorem dX9_findIn_9 : decode cX9_findIn 9 = .ok (.aload_n 0, 1) := dk_42 (dk_at dksX9_findIn_0 9 rfl rfl)
theorem dX9_findIn_10 : decode cX9_findIn 10 = .ok (.iload_n 1, 1) := dk_27 (dk_at dksX9_findIn_0 10 rfl rfl)
theorem dX9_findIn_11 : decode cX9_findIn 11 = .ok (.iload 5, 2) := dk_21 5 (dk_at dksX9_findIn_0 11 rfl rfl)
theorem dX9_findIn_13 : decode cX9_findIn 13 = .ok (.iadd, 1) := dk_96 (dk_at dksX9_findIn_0 13 rfl rfl)
theorem dX9_findIn_14 : decode cX9_findIn 14 = .ok (.laload, 1) := dk_47 (dk_at dksX9_findIn_0 14 rfl rfl)
theorem dX9_findIn_15 : decode cX9_findIn 15 = .ok (.lload_n 3, 1) := dk_33 (dk_at dksX9_findIn_0 15 rfl rfl)
theorem dX9_findIn_16 : decode cX9_findIn 16 = .ok (.lcmp, 1) := dk_148 (dk_at dksX9_findIn_0 16 rfl rfl)
theorem dX9_findIn_17 : decode cX9_findIn 17 = .ok (.ifCond .ne 6, 3) := dk_154 0 6 (dk_at dksX9_findIn_0 17 rfl rfl)
theorem dX9_findIn_20 : decode cX9_findIn 20 = .ok (.iload 5, 2) := dk_21 5 (dk_at dksX9_findIn_0 20 rfl rfl)
theorem dX9_findIn_22 : decode cX9_findIn 22 = .ok (.ireturn, 1) := dk_172 (dk_at dksX9_findIn_0 22 rfl rfl)
theorem dX9_findIn_23 : decode cX9_findIn 23 = .ok (.iinc 5 1, 3) := dk_132 5 1 (dk_at dksX9_findIn_1 0 rfl rfl)
theorem dX9_findIn_26 : decode cX9_findIn 26 = .ok (.goto (-23), 3) := dk_167 255 233 (dk_at dksX9_findIn_1 3 rfl rfl)
theorem dX9_findIn_29 : decode cX9_findIn 29 = .ok (.iconst (-1), 1) := dk_2 (dk_at dksX9_findIn_1 6 rfl rfl)
theorem dX9_findIn_30 : decode cX9_findIn 30 = .ok (.ireturn, 1) := dk_172 (dk_at dksX9_findIn_1 7 rfl rfl)
abbrev cX9_readSight : ByteArray := prog_22_method_35_code
def yX9_readSight : MethodName := ⟨RX9, "readSight", "()Z"⟩
def dkwX9_readSight_4 : List UInt8 := [4, 27, 120, 128, 79, 42, 182, 0, 82, 4, 172]
abbrev dktX9_readSight_4 : List UInt8 := dkwX9_readSight_4 ++ []
def dkwX9_readSight_3 : List UInt8 := [96, 92, 46, 4, 42, 180, 0, 79, 120, 128, 79, 42, 180, 0, 101, 16, 6, 42, 180, 0, 79, 96, 92, 46]
abbrev dktX9_readSight_3 : List UInt8 := dkwX9_readSight_3 ++ dktX9_readSight_4
def dkwX9_readSight_2 : List UInt8 := [46, 42, 180, 0, 79, 184, 0, 181, 153, 0, 9, 42, 6, 182, 0, 72, 172, 42, 180, 0, 101, 16, 6, 27]
abbrev dktX9_readSight_2 : List UInt8 := dkwX9_readSight_2 ++ dktX9_readSight_3
def dkwX9_readSight_1 : List UInt8 := [182, 0, 178, 154, 0, 5, 3, 172, 42, 180, 0, 79, 27, 159, 0, 22, 42, 180, 0, 101, 16, 6, 27, 96]
abbrev dktX9_readSight_1 : List UInt8 := dkwX9_readSight_1 ++ dktX9_readSight_2
def dkwX9_readSight_0 : List UInt8 := [42, 182, 0, 82, 42, 182, 0, 178, 154, 0, 5, 3, 172, 42, 180, 0, 79, 60, 42, 182, 0, 82, 42]
abbrev dktX9_readSight_0 : List UInt8 := dkwX9_readSight_0 ++ dktX9_readSight_1
theorem dksX9_readSight_0 : cX9_readSight.data.toList.drop 0 = dktX9_readSight_0 := by decide +kernel
theorem dksX9_readSight_1 : cX9_readSight.data.toList.drop 23 = dktX9_readSight_1 := dk_seg dksX9_readSight_0 23 rfl rfl
theorem dksX9_readSight_2 : cX9_readSight.data.toList.drop 47 = dktX9_readSight_2 := dk_seg dksX9_readSight_1 24 rfl rfl
theorem dksX9_readSight_3 : cX9_readSight.data.toList.drop 71 = dktX9_readSight_3 := dk_seg dksX9_readSight_2 24 rfl rfl
theorem dksX9_readSight_4 : cX9_readSight.data.toList.drop 95 = dktX9_readSight_4 := dk_seg dksX9_readSight_3 24 rfl rfl
theorem dX9_readSight_0 : decode cX9_readSight 0 = .ok (.aload_n 0, 1) := dk_42 (dk_at dksX9_readSight_0 0 rfl rfl)
theorem dX9_readSight_1 : decode cX9_readSight 1 = .ok (.invokevirtual 82, 3) := dk_182 0 82 (dk_at dksX9_readSight_0 1 rfl rfl)
theorem dX9_readSight_4 : decode cX9_readSight 4 = .ok (.aload_n 0, 1) := dk_42 (dk_at dksX9_readSight_0 4 rfl rfl)
theorem dX9_readSight_5 : decode cX9_readSight 5 = .ok (.invokevirtual 178, 3) := dk_182 0 178 (dk_at dksX9_readSight_0 5 rfl rfl)
theorem dX9_readSight_8 : decode cX9_readSight 8 = .ok (.ifCond .ne 5, 3) := dk_154 0 5 (dk_at dksX9_readSight_0 8 rfl rfl)
theorem dX9_readSight_11 : decode cX9_readSight 11 = .ok (.iconst 0, 1) := dk_3 (dk_at dksX9_readSight_0 11 rfl rfl)
theorem dX9_readSight_12 : decode cX9_readSight 12 = .ok (.ireturn, 1) := dk_172 (dk_at dksX9_readSight_0 12 rfl rfl)
theorem dX9_readSight_13 : decode cX9_readSight 13 = .ok (.aload_n 0, 1) := dk_42 (dk_at dksX9_readSight_0 13 rfl rfl)
theorem dX9_readSight_14 : decode cX9_readSight 14 = .ok (.getfield 79, 3) := dk_180 0 79 (dk_at dksX9_readSight_0 14 rfl rfl)
theorem dX9_readSight_17 : decode cX9_readSight 17 = .ok (.istore_n 1, 1) := dk_60 (dk_at dksX9_readSight_0 17 rfl rfl)
theorem dX9_readSight_18 : decode cX9_readSight 18 = .ok (.aload_n 0, 1) := dk_42 (dk_at dksX9_readSight_0 18 rfl rfl)
theorem dX9_readSight_19 : decode cX9_readSight 19 = .ok (.invokevirtual 82, 3) := dk_182 0 82 (dk_at dksX9_readSight_0 19 rfl rfl)
theorem dX9_readSight_22 : decode cX9_readSight 22 = .ok (.aload_n 0, 1) := dk_42 (dk_at dksX9_readSight_0 22 rfl rfl)
theorem dX9_readSight_23 : decode cX9_readSight 23 = .ok (.invokevirtual 178, 3) := dk_182 0 178 (dk_at dksX9_readSight_1 0 rfl rfl)
theorem dX9_readSight_26 : decode cX9_readSight 26 = .ok (.ifCond .ne 5, 3) := dk_154 0 5 (dk_at dksX9_readSight_1 3 rfl rfl)
theorem dX9_readSight_29 : decode cX9_readSight 29 = .ok (.iconst 0, 1) := dk_3 (dk_at dksX9_readSight_1 6 rfl rfl)
theorem dX9_readSight_30 : decode cX9_readSight 30 = .ok (.ireturn, 1) := dk_172 (dk_at dksX9_readSight_1 7 rfl rfl)
theorem dX9_readSight_31 : decode cX9_readSight 31 = .ok (.aload_n 0, 1) := dk_42 (dk_at dksX9_readSight_1 8 rfl rfl)
theorem dX9_readSight_32 : decode cX9_readSight 32 = .ok (.getfield 79, 3) := dk_180 0 79 (dk_at dksX9_readSight_1 9 rfl rfl)
theorem dX9_readSight_35 : decode cX9_readSight 35 = .ok (.iload_n 1, 1) := dk_27 (dk_at dksX9_readSight_1 12 rfl rfl)
theorem dX9_readSight_36 : decode cX9_readSight 36 = .ok (.if_icmp .eq 22, 3) := dk_159 0 22 (dk_at dksX9_readSight_1 13 rfl rfl)
theorem dX9_readSight_39 : decode cX9_readSight 39 = .ok (.aload_n 0, 1) := dk_42 (dk_at dksX9_readSight_1 16 rfl rfl)
theorem dX9_readSight_40 : decode cX9_readSight 40 = .ok (.getfield 101, 3) := dk_180 0 101 (dk_at dksX9_readSight_1 17 rfl rfl)
theorem dX9_readSight_43 : decode cX9_readSight 43 = .ok (.bipush 6, 2) := dk_16 6 (dk_at dksX9_readSight_1 20 rfl rfl)
theorem dX9_readSight_45 : decode cX9_readSight 45 = .ok (.iload_n 1, 1) := dk_27 (dk_at dksX9_readSight_1 22 rfl rfl)
theorem dX9_readSight_46 : decode cX9_readSight 46 = .ok (.iadd, 1) := dk_96 (dk_at dksX9_readSight_1 23 rfl rfl)
theorem dX9_readSight_47 : decode cX9_readSight 47 = .ok (.iaload, 1) := dk_46 (dk_at dksX9_readSight_2 0 rfl rfl)
theorem dX9_readSight_48 : decode cX9_readSight 48 = .ok (.aload_n 0, 1) := dk_42 (dk_at dksX9_readSight_2 1 rfl rfl)
theorem dX9_readSight_49 : decode cX9_readSight 49 = .ok (.getfield 79, 3) := dk_180 0 79 (dk_at dksX9_readSight_2 2 rfl rfl)
theorem dX9_readSight_52 : decode cX9_readSight 52 = .ok (.invokestatic 181, 3) := dk_184 0 181 (dk_at dksX9_readSight_2 5 rfl rfl)
theorem dX9_readSight_55 : decode cX9_readSight 55 = .ok (.ifCond .eq 9, 3) := dk_153 0 9 (dk_at dksX9_readSight_2 8 rfl rfl)
theorem dX9_readSight_58 : decode cX9_readSight 58 = .ok (.aload_n 0, 1) := dk_42 (dk_at dksX9_readSight_2 11 rfl rfl)
theorem dX9_readSight_59 : decode cX9_readSight 59 = .ok (.iconst 3, 1) := dk_6 (dk_at dksX9_readSight_2 12 rfl rfl)
theorem dX9_readSight_60 : decode cX9_readSight 60 = .ok (.invokevirtual 72, 3) := dk_182 0 72 (dk_at dksX9_readSight_2 13 rfl rfl)
theorem dX9_readSight_63 : decode cX9_readSight 63 = .ok (.ireturn, 1) := dk_172 (dk_at dksX9_readSight_2 16 rfl rfl)
theorem dX9_readSight_64 : decode cX9_readSight 64 = .ok (.aload_n 0, 1) := dk_42 (dk_at dksX9_readSight_2 17 rfl rfl)
theorem dX9_readSight_65 : decode cX9_readSight 65 = .ok (.getfield 101, 3) := dk_180 0 101 (dk_at dksX9_readSight_2 18 rfl rfl)
theorem dX9_readSight_68 : decode cX9_readSight 68 = .ok (.bipush 6, 2) := dk_16 6 (dk_at dksX9_readSight_2 21 rfl rfl)
theorem dX9_readSight_70 : decode cX9_readSight 70 = .ok (.iload_n 1, 1) := dk_27 (dk_at dksX9_readSight_2 23 rfl rfl)
theorem dX9_readSight_71 : decode cX9_readSight 71 = .ok (.iadd, 1) := dk_96 (dk_at dksX9_readSight_3 0 rfl rfl)
theorem dX9_readSight_72 : decode cX9_readSight 72 = .ok (.dup2, 1) := dk_92 (dk_at dksX9_readSight_3 1 rfl rfl)
theorem dX9_readSight_73 : decode cX9_readSight 73 = .ok (.iaload, 1) := dk_46 (dk_at dksX9_readSight_3 2 rfl rfl)
theorem dX9_readSight_74 : decode cX9_readSight 74 = .ok (.iconst 1, 1) := dk_4 (dk_at dksX9_readSight_3 3 rfl rfl)
theorem dX9_readSight_75 : decode cX9_readSight 75 = .ok (.aload_n 0, 1) := dk_42 (dk_at dksX9_readSight_3 4 rfl rfl)
theorem dX9_readSight_76 : decode cX9_readSight 76 = .ok (.getfield 79, 3) := dk_180 0 79 (dk_at dksX9_readSight_3 5 rfl rfl)
theorem dX9_readSight_79 : decode cX9_readSight 79 = .ok (.ishl, 1) := dk_120 (dk_at dksX9_readSight_3 8 rfl rfl)
theorem dX9_readSight_80 : decode cX9_readSight 80 = .ok (.ior, 1) := dk_128 (dk_at dksX9_readSight_3 9 rfl rfl)
theorem dX9_readSight_81 : decode cX9_readSight 81 = .ok (.iastore, 1) := dk_79 (dk_at dksX9_readSight_3 10 rfl rfl)
theorem dX9_readSight_82 : decode cX9_readSight 82 = .ok (.aload_n 0, 1) := dk_42 (dk_at dksX9_readSight_3 11 rfl rfl)
theorem dX9_readSight_83 : decode cX9_readSight 83 = .ok (.getfield 101, 3) := dk_180 0 101 (dk_at dksX9_readSight_3 12 rfl rfl)
theorem dX9_readSight_86 : decode cX9_readSight 86 = .ok (.bipush 6, 2) := dk_16 6 (dk_at dksX9_readSight_3 15 rfl rfl)
theorem dX9_readSight_88 : decode cX9_readSight 88 = .ok (.aload_n 0, 1) := dk_42 (dk_at dksX9_readSight_3 17 rfl rfl)
theorem dX9_readSight_89 : decode cX9_readSight 89 = .ok (.getfield 79, 3) := dk_180 0 79 (dk_at dksX9_readSight_3 18 rfl rfl)
theorem dX9_readSight_92 : decode cX9_readSight 92 = .ok (.iadd, 1) := dk_96 (dk_at dksX9_readSight_3 21 rfl rfl)
theorem dX9_readSight_93 : decode cX9_readSight 93 = .ok (.dup2, 1) := dk_92 (dk_at dksX9_readSight_3 22 rfl rfl)
theorem dX9_readSight_94 : decode cX9_readSight 94 = .ok (.iaload, 1) := dk_46 (dk_at dksX9_readSight_3 23 rfl rfl)
theorem dX9_readSight_95 : decode cX9_readSight 95 = .ok (.iconst 1, 1) := dk_4 (dk_at dksX9_readSight_4 0 rfl rfl)
theorem dX9_readSight_96 : decode cX9_readSight 96 = .ok (.iload_n 1, 1) := dk_27 (dk_at dksX9_readSight_4 1 rfl rfl)
theorem dX9_readSight_97 : decode cX9_readSight 97 = .ok (.ishl, 1) := dk_120 (dk_at dksX9_readSight_4 2 rfl rfl)
theorem dX9_readSight_98 : decode cX9_readSight 98 = .ok (.ior, 1) := dk_128 (dk_at dksX9_readSight_4 3 rfl rfl)
theorem dX9_readSight_99 : decode cX9_readSight 99 = .ok (.iastore, 1) := dk_79 (dk_at dksX9_readSight_4 4 rfl rfl)
theorem dX9_readSight_100 : decode cX9_readSight 100 = .ok (.aload_n 0, 1) := dk_42 (dk_at dksX9_readSight_4 5 rfl rfl)
theorem dX9_readSight_101 : decode cX9_readSight 101 = .ok (.invokevirtual 82, 3) := dk_182 0 82 (dk_at dksX9_readSight_4 6 rfl rfl)
theorem dX9_readSight_104 : decode cX9_readSight 104 = .ok (.iconst 1, 1) := dk_4 (dk_at dksX9_readSight_4 9 rfl rfl)
theorem dX9_readSight_105 : decode cX9_readSight 105 = .ok (.ireturn, 1) := dk_172 (dk_at dksX9_readSight_4 10 rfl rfl)
abbrev cX9_isParlourHere : ByteArray := prog_22_method_31_code
def yX9_isParlourHere : MethodName := ⟨RX9, "isParlourHere", "()Z"⟩
def dkwX9_isParlourHere_2 : List UInt8 := [153, 0, 7, 4, 167, 0, 4, 3, 172]
abbrev dktX9_isParlourHere_2 : List UInt8 := dkwX9_isParlourHere_2 ++ []
def dkwX9_isParlourHere_1 : List UInt8 := [46, 42, 180, 0, 43, 184, 0, 160, 181, 0, 79, 42, 180, 0, 79, 2, 160, 0, 11, 42, 6, 182, 0, 72]
abbrev dktX9_isParlourHere_1 : List UInt8 := dkwX9_isParlourHere_1 ++ dktX9_isParlourHere_2
def dkwX9_isParlourHere_0 : List UInt8 := [42, 182, 0, 164, 154, 0, 9, 42, 4, 182, 0, 72, 172, 42, 42, 180, 0, 117, 3, 42, 180, 0, 101, 3]
abbrev dktX9_isParlourHere_0 : List UInt8 := dkwX9_isParlourHere_0 ++ dktX9_isParlourHere_1
theorem dksX9_isParlourHere_0 : cX9_isParlourHere.data.toList.drop 0 = dktX9_isParlourHere_0 := by decide +kernel
theorem dksX9_isParlourHere_1 : cX9_isParlourHere.data.toList.drop 24 = dktX9_isParlourHere_1 := dk_seg dksX9_isParlourHere_0 24 rfl rfl
theorem dksX9_isParlourHere_2 : cX9_isParlourHere.data.toList.drop 48 = dktX9_isParlourHere_2 := dk_seg dksX9_isParlourHere_1 24 rfl rfl
theorem dX9_isParlourHere_0 : decode cX9_isParlourHere 0 = .ok (.aload_n 0, 1) := dk_42 (dk_at dksX9_isParlourHere_0 0 rfl rfl)
theorem dX9_isParlourHere_1 : decode cX9_isParlourHere 1 = .ok (.invokevirtual 164, 3) := dk_182 0 164 (dk_at dksX9_isParlourHere_0 1 rfl rfl)
theorem dX9_isParlourHere_4 : decode cX9_isParlourHere 4 = .ok (.ifCond .ne 9, 3) := dk_154 0 9 (dk_at dksX9_isParlourHere_0 4 rfl rfl)
theorem dX9_isParlourHere_7 : decode cX9_isParlourHere 7 = .ok (.aload_n 0, 1) := dk_42 (dk_at dksX9_isParlourHere_0 7 rfl rfl)
theorem dX9_isParlourHere_8 : decode cX9_isParlourHere 8 = .ok (.iconst 1, 1) := dk_4 (dk_at dksX9_isParlourHere_0 8 rfl rfl)
theorem dX9_isParlourHere_9 : decode cX9_isParlourHere 9 = .ok (.invokevirtual 72, 3) := dk_182 0 72 (dk_at dksX9_isParlourHere_0 9 rfl rfl)
theorem dX9_isParlourHere_12 : decode cX9_isParlourHere 12 = .ok (.ireturn, 1) := dk_172 (dk_at dksX9_isParlourHere_0 12 rfl rfl)
theorem dX9_isParlourHere_13 : decode cX9_isParlourHere 13 = .ok (.aload_n 0, 1) := dk_42 (dk_at dksX9_isParlourHere_0 13 rfl rfl)
theorem dX9_isParlourHere_14 : decode cX9_isParlourHere 14 = .ok (.aload_n 0, 1) := dk_42 (dk_at dksX9_isParlourHere_0 14 rfl rfl)
theorem dX9_isParlourHere_15 : decode cX9_isParlourHere 15 = .ok (.getfield 117, 3) := dk_180 0 117 (dk_at dksX9_isParlourHere_0 15 rfl rfl)
theorem dX9_isParlourHere_18 : decode cX9_isParlourHere 18 = .ok (.iconst 0, 1) := dk_3 (dk_at dksX9_isParlourHere_0 18 rfl rfl)
theorem dX9_isParlourHere_19 : decode cX9_isParlourHere 19 = .ok (.aload_n 0, 1) := dk_42 (dk_at dksX9_isParlourHere_0 19 rfl rfl)
theorem dX9_isParlourHere_20 : decode cX9_isParlourHere 20 = .ok (.getfield 101, 3) := dk_180 0 101 (dk_at dksX9_isParlourHere_0 20 rfl rfl)
theorem dX9_isParlourHere_23 : decode cX9_isParlourHere 23 = .ok (.iconst 0, 1) := dk_3 (dk_at dksX9_isParlourHere_0 23 rfl rfl)
theorem dX9_isParlourHere_24 : decode cX9_isParlourHere 24 = .ok (.iaload, 1) := dk_46 (dk_at dksX9_isParlourHere_1 0 rfl rfl)
theorem dX9_isParlourHere_25 : decode cX9_isParlourHere 25 = .ok (.aload_n 0, 1) := dk_42 (dk_at dksX9_isParlourHere_1 1 rfl rfl)
theorem dX9_isParlourHere_26 : decode cX9_isParlourHere 26 = .ok (.getfield 43, 3) := dk_180 0 43 (dk_at dksX9_isParlourHere_1 2 rfl rfl)
theorem dX9_isParlourHere_29 : decode cX9_isParlourHere 29 = .ok (.invokestatic 160, 3) := dk_184 0 160 (dk_at dksX9_isParlourHere_1 5 rfl rfl)
theorem dX9_isParlourHere_32 : decode cX9_isParlourHere 32 = .ok (.putfield 79, 3) := dk_181 0 79 (dk_at dksX9_isParlourHere_1 8 rfl rfl)
theorem dX9_isParlourHere_35 : decode cX9_isParlourHere 35 = .ok (.aload_n 0, 1) := dk_42 (dk_at dksX9_isParlourHere_1 11 rfl rfl)
theorem dX9_isParlourHere_36 : decode cX9_isParlourHere 36 = .ok (.getfield 79, 3) := dk_180 0 79 (dk_at dksX9_isParlourHere_1 12 rfl rfl)
theorem dX9_isParlourHere_39 : decode cX9_isParlourHere 39 = .ok (.iconst (-1), 1) := dk_2 (dk_at dksX9_isParlourHere_1 15 rfl rfl)
theorem dX9_isParlourHere_40 : decode cX9_isParlourHere 40 = .ok (.if_icmp .ne 11, 3) := dk_160 0 11 (dk_at dksX9_isParlourHere_1 16 rfl rfl)
theorem dX9_isParlourHere_43 : decode cX9_isParlourHere 43 = .ok (.aload_n 0, 1) := dk_42 (dk_at dksX9_isParlourHere_1 19 rfl rfl)
theorem dX9_isParlourHere_44 : decode cX9_isParlourHere 44 = .ok (.iconst 3, 1) := dk_6 (dk_at dksX9_isParlourHere_1 20 rfl rfl)
theorem dX9_isParlourHere_45 : decode cX9_isParlourHere 45 = .ok (.invokevirtual 72, 3) := dk_182 0 72 (dk_at dksX9_isParlourHere_1 21 rfl rfl)
theorem dX9_isParlourHere_48 : decode cX9_isParlourHere 48 = .ok (.ifCond .eq 7, 3) := dk_153 0 7 (dk_at dksX9_isParlourHere_2 0 rfl rfl)
theorem dX9_isParlourHere_51 : decode cX9_isParlourHere 51 = .ok (.iconst 1, 1) := dk_4 (dk_at dksX9_isParlourHere_2 3 rfl rfl)
theorem dX9_isParlourHere_52 : decode cX9_isParlourHere 52 = .ok (.goto 4, 3) := dk_167 0 4 (dk_at dksX9_isParlourHere_2 4 rfl rfl)
theorem dX9_isParlourHere_55 : decode cX9_isParlourHere 55 = .ok (.iconst 0, 1) := dk_3 (dk_at dksX9_isParlourHere_2 7 rfl rfl)
theorem dX9_isParlourHere_56 : decode cX9_isParlourHere 56 = .ok (.ireturn, 1) := dk_172 (dk_at dksX9_isParlourHere_2 8 rfl rfl)
abbrev cX9_has : ByteArray := prog_22_method_8_code
def yX9_has : MethodName := ⟨RX9, "has", "(II)Z"⟩
def dkwX9_has_0 : List UInt8 := [26, 27, 122, 4, 126, 4, 160, 0, 7, 4, 167, 0, 4, 3, 172]
abbrev dktX9_has_0 : List UInt8 := dkwX9_has_0 ++ []
theorem dksX9_has_0 : cX9_has.data.toList.drop 0 = dktX9_has_0 := by decide +kernel
theorem dX9_has_0 : decode cX9_has 0 = .ok (.iload_n 0, 1) := dk_26 (dk_at dksX9_has_0 0 rfl rfl)
theorem dX9_has_1 : decode cX9_has 1 = .ok (.iload_n 1, 1) := dk_27 (dk_at dksX9_has_0 1 rfl rfl)
theorem dX9_has_2 : decode cX9_has 2 = .ok (.ishr, 1) := dk_122 (dk_at dksX9_has_0 2 rfl rfl)
theorem dX9_has_3 : decode cX9_has 3 = .ok (.iconst 1, 1) := dk_4 (dk_at dksX9_has_0 3 rfl rfl)
theorem dX9_has_4 : decode cX9_has 4 = .ok (.iand, 1) := dk_126 (dk_at dksX9_has_0 4 rfl rfl)
theorem dX9_has_5 : decode cX9_has 5 = .ok (.iconst 1, 1) := dk_4 (dk_at dksX9_has_0 5 rfl rfl)
theorem dX9_has_6 : decode cX9_has 6 = .ok (.if_icmp .ne 7, 3) := dk_160 0 7 (dk_at dksX9_has_0 6 rfl rfl)
theorem dX9_has_9 : decode cX9_has 9 = .ok (.iconst 1, 1) := dk_4 (dk_at dksX9_has_0 9 rfl rfl)
theorem dX9_has_10 : decode cX9_has 10 = .ok (.goto 4, 3) := dk_167 0 4 (dk_at dksX9_has_0 10 rfl rfl)
theorem dX9_has_13 : decode cX9_has 13 = .ok (.iconst 0, 1) := dk_3 (dk_at dksX9_has_0 13 rfl rfl)
theorem dX9_has_14 : decode cX9_has 14 = .ok (.ireturn, 1) := dk_172 (dk_at dksX9_has_0 14 rfl rfl)
abbrev cX9_readPlant : ByteArray := prog_22_method_36_code
def yX9_readPlant : MethodName := ⟨RX9, "readPlant", "()Z"⟩
def dkwX9_readPlant_4 : List UInt8 := [182, 0, 82, 42, 180, 0, 101, 4, 92, 46, 4, 96, 79, 4, 172]
abbrev dktX9_readPlant_4 : List UInt8 := dkwX9_readPlant_4 ++ []
def dkwX9_readPlant_3 : List UInt8 := [16, 15, 182, 0, 191, 153, 0, 20, 42, 180, 0, 101, 16, 23, 92, 46, 4, 27, 120, 128, 79, 42]
abbrev dktX9_readPlant_3 : List UInt8 := dkwX9_readPlant_3 ++ dktX9_readPlant_4
def dkwX9_readPlant_2 : List UInt8 := [182, 0, 82, 42, 16, 17, 27, 96, 42, 4, 16, 9, 182, 0, 188, 182, 0, 184, 154, 0, 5, 3, 172, 42]
abbrev dktX9_readPlant_2 : List UInt8 := dkwX9_readPlant_2 ++ dktX9_readPlant_3
def dkwX9_readPlant_1 : List UInt8 := [182, 0, 175, 153, 0, 18, 42, 16, 11, 27, 96, 42, 182, 0, 178, 182, 0, 184, 154, 0, 5, 3, 172, 42]
abbrev dktX9_readPlant_1 : List UInt8 := dkwX9_readPlant_1 ++ dktX9_readPlant_2
def dkwX9_readPlant_0 : List UInt8 := [42, 4, 16, 6, 182, 0, 171, 154, 0, 5, 3, 172, 42, 180, 0, 101, 4, 46, 60, 42, 8, 27, 96]
abbrev dktX9_readPlant_0 : List UInt8 := dkwX9_readPlant_0 ++ dktX9_readPlant_1
theorem dksX9_readPlant_0 : cX9_readPlant.data.toList.drop 0 = dktX9_readPlant_0 := by decide +kernel
theorem dksX9_readPlant_1 : cX9_readPlant.data.toList.drop 23 = dktX9_readPlant_1 := dk_seg dksX9_readPlant_0 23 rfl rfl
theorem dksX9_readPlant_2 : cX9_readPlant.data.toList.drop 47 = dktX9_readPlant_2 := dk_seg dksX9_readPlant_1 24 rfl rfl
theorem dksX9_readPlant_3 : cX9_readPlant.data.toList.drop 71 = dktX9_readPlant_3 := dk_seg dksX9_readPlant_2 24 rfl rfl
theorem dksX9_readPlant_4 : cX9_readPlant.data.toList.drop 93 = dktX9_readPlant_4 := dk_seg dksX9_readPlant_3 22 rfl rfl
theorem dX9_readPlant_0 : decode cX9_readPlant 0 = .ok (.aload_n 0, 1) := dk_42 (dk_at dksX9_readPlant_0 0 rfl rfl)
theorem dX9_readPlant_1 : decode cX9_readPlant 1 = .ok (.iconst 1, 1) := dk_4 (dk_at dksX9_readPlant_0 1 rfl rfl)
theorem dX9_readPlant_2 : decode cX9_readPlant 2 = .ok (.bipush 6, 2) := dk_16 6 (dk_at dksX9_readPlant_0 2 rfl rfl)
theorem dX9_readPlant_4 : decode cX9_readPlant 4 = .ok (.invokevirtual 171, 3) := dk_182 0 171 (dk_at dksX9_readPlant_0 4 rfl rfl)
theorem dX9_readPlant_7 : decode cX9_readPlant 7 = .ok (.ifCond .ne 5, 3) := dk_154 0 5 (dk_at dksX9_readPlant_0 7 rfl rfl)
theorem dX9_readPlant_10 : decode cX9_readPlant 10 = .ok (.iconst 0, 1) := dk_3 (dk_at dksX9_readPlant_0 10 rfl rfl)
theorem dX9_readPlant_11 : decode cX9_readPlant 11 = .ok (.ireturn, 1) := dk_172 (dk_at dksX9_readPlant_0 11 rfl rfl)
theorem dX9_readPlant_12 : decode cX9_readPlant 12 = .ok (.aload_n 0, 1) := dk_42 (dk_at dksX9_readPlant_0 12 rfl rfl)
theorem dX9_readPlant_13 : decode cX9_readPlant 13 = .ok (.getfield 101, 3) := dk_180 0 101 (dk_at dksX9_readPlant_0 13 rfl rfl)
theorem dX9_readPlant_16 : decode cX9_readPlant 16 = .ok (.iconst 1, 1) := dk_4 (dk_at dksX9_readPlant_0 16 rfl rfl)
theorem dX9_readPlant_17 : decode cX9_readPlant 17 = .ok (.iaload, 1) := dk_46 (dk_at dksX9_readPlant_0 17 rfl rfl)
theorem dX9_readPlant_18 : decode cX9_readPlant 18 = .ok (.istore_n 1, 1) := dk_60 (dk_at dksX9_readPlant_0 18 rfl rfl)
theorem dX9_readPlant_19 : decode cX9_readPlant 19 = .ok (.aload_n 0, 1) := dk_42 (dk_at dksX9_readPlant_0 19 rfl rfl)
theorem dX9_readPlant_20 : decode cX9_readPlant 20 = .ok (.iconst 5, 1) := dk_8 (dk_at dksX9_readPlant_0 20 rfl rfl)
theorem dX9_readPlant_21 : decode cX9_readPlant 21 = .ok (.iload_n 1, 1) := dk_27 (dk_at dksX9_readPlant_0 21 rfl rfl)
theorem dX9_readPlant_22 : decode cX9_readPlant 22 = .ok (.iadd, 1) := dk_96 (dk_at dksX9_readPlant_0 22 rfl rfl)
theorem dX9_readPlant_23 : decode cX9_readPlant 23 = .ok (.invokevirtual 175, 3) := dk_182 0 175 (dk_at dksX9_readPlant_1 0 rfl rfl)
theorem dX9_readPlant_26 : decode cX9_readPlant 26 = .ok (.ifCond .eq 18, 3) := dk_153 0 18 (dk_at dksX9_readPlant_1 3 rfl rfl)
theorem dX9_readPlant_29 : decode cX9_readPlant 29 = .ok (.aload_n 0, 1) := dk_42 (dk_at dksX9_readPlant_1 6 rfl rfl)
theorem dX9_readPlant_30 : decode cX9_readPlant 30 = .ok (.bipush 11, 2) := dk_16 11 (dk_at dksX9_readPlant_1 7 rfl rfl)
theorem dX9_readPlant_32 : decode cX9_readPlant 32 = .ok (.iload_n 1, 1) := dk_27 (dk_at dksX9_readPlant_1 9 rfl rfl)
theorem dX9_readPlant_33 : decode cX9_readPlant 33 = .ok (.iadd, 1) := dk_96 (dk_at dksX9_readPlant_1 10 rfl rfl)
theorem dX9_readPlant_34 : decode cX9_readPlant 34 = .ok (.aload_n 0, 1) := dk_42 (dk_at dksX9_readPlant_1 11 rfl rfl)
theorem dX9_readPlant_35 : decode cX9_readPlant 35 = .ok (.invokevirtual 178, 3) := dk_182 0 178 (dk_at dksX9_readPlant_1 12 rfl rfl)
theorem dX9_readPlant_38 : decode cX9_readPlant 38 = .ok (.invokevirtual 184, 3) := dk_182 0 184 (dk_at dksX9_readPlant_1 15 rfl rfl)
theorem dX9_readPlant_41 : decode cX9_readPlant 41 = .ok (.ifCond .ne 5, 3) := dk_154 0 5 (dk_at dksX9_readPlant_1 18 rfl rfl)
theorem dX9_readPlant_44 : decode cX9_readPlant 44 = .ok (.iconst 0, 1) := dk_3 (dk_at dksX9_readPlant_1 21 rfl rfl)
theorem dX9_readPlant_45 : decode cX9_readPlant 45 = .ok (.ireturn, 1) := dk_172 (dk_at dksX9_readPlant_1 22 rfl rfl)
theorem dX9_readPlant_46 : decode cX9_readPlant 46 = .ok (.aload_n 0, 1) := dk_42 (dk_at dksX9_readPlant_1 23 rfl rfl)
theorem dX9_readPlant_47 : decode cX9_readPlant 47 = .ok (.invokevirtual 82, 3) := dk_182 0 82 (dk_at dksX9_readPlant_2 0 rfl rfl)
theorem dX9_readPlant_50 : decode cX9_readPlant 50 = .ok (.aload_n 0, 1) := dk_42 (dk_at dksX9_readPlant_2 3 rfl rfl)
theorem dX9_readPlant_51 : decode cX9_readPlant 51 = .ok (.bipush 17, 2) := dk_16 17 (dk_at dksX9_readPlant_2 4 rfl rfl)
theorem dX9_readPlant_53 : decode cX9_readPlant 53 = .ok (.iload_n 1, 1) := dk_27 (dk_at dksX9_readPlant_2 6 rfl rfl)
theorem dX9_readPlant_54 : decode cX9_readPlant 54 = .ok (.iadd, 1) := dk_96 (dk_at dksX9_readPlant_2 7 rfl rfl)
theorem dX9_readPlant_55 : decode cX9_readPlant 55 = .ok (.aload_n 0, 1) := dk_42 (dk_at dksX9_readPlant_2 8 rfl rfl)
theorem dX9_readPlant_56 : decode cX9_readPlant 56 = .ok (.iconst 1, 1) := dk_4 (dk_at dksX9_readPlant_2 9 rfl rfl)
theorem dX9_readPlant_57 : decode cX9_readPlant 57 = .ok (.bipush 9, 2) := dk_16 9 (dk_at dksX9_readPlant_2 10 rfl rfl)
theorem dX9_readPlant_59 : decode cX9_readPlant 59 = .ok (.invokevirtual 188, 3) := dk_182 0 188 (dk_at dksX9_readPlant_2 12 rfl rfl)
theorem dX9_readPlant_62 : decode cX9_readPlant 62 = .ok (.invokevirtual 184, 3) := dk_182 0 184 (dk_at dksX9_readPlant_2 15 rfl rfl)
theorem dX9_readPlant_65 : decode cX9_readPlant 65 = .ok (.ifCond .ne 5, 3) := dk_154 0 5 (dk_at dksX9_readPlant_2 18 rfl rfl)
theorem dX9_readPlant_68 : decode cX9_readPlant 68 = .ok (.iconst 0, 1) := dk_3 (dk_at dksX9_readPlant_2 21 rfl rfl)
theorem dX9_readPlant_69 : decode cX9_readPlant 69 = .ok (.ireturn, 1) := dk_172 (dk_at dksX9_readPlant_2 22 rfl rfl)
theorem dX9_readPlant_70 : decode cX9_readPlant 70 = .ok (.aload_n 0, 1) := dk_42 (dk_at dksX9_readPlant_2 23 rfl rfl)
theorem dX9_readPlant_71 : decode cX9_readPlant 71 = .ok (.bipush 15, 2) := dk_16 15 (dk_at dksX9_readPlant_3 0 rfl rfl)
theorem dX9_readPlant_73 : decode cX9_readPlant 73 = .ok (.invokevirtual 191, 3) := dk_182 0 191 (dk_at dksX9_readPlant_3 2 rfl rfl)
theorem dX9_readPlant_76 : decode cX9_readPlant 76 = .ok (.ifCond .eq 20, 3) := dk_153 0 20 (dk_at dksX9_readPlant_3 5 rfl rfl)
theorem dX9_readPlant_79 : decode cX9_readPlant 79 = .ok (.aload_n 0, 1) := dk_42 (dk_at dksX9_readPlant_3 8 rfl rfl)
theorem dX9_readPlant_80 : decode cX9_readPlant 80 = .ok (.getfield 101, 3) := dk_180 0 101 (dk_at dksX9_readPlant_3 9 rfl rfl)
theorem dX9_readPlant_83 : decode cX9_readPlant 83 = .ok (.bipush 23, 2) := dk_16 23 (dk_at dksX9_readPlant_3 12 rfl rfl)
theorem dX9_readPlant_85 : decode cX9_readPlant 85 = .ok (.dup2, 1) := dk_92 (dk_at dksX9_readPlant_3 14 rfl rfl)
theorem dX9_readPlant_86 : decode cX9_readPlant 86 = .ok (.iaload, 1) := dk_46 (dk_at dksX9_readPlant_3 15 rfl rfl)
theorem dX9_readPlant_87 : decode cX9_readPlant 87 = .ok (.iconst 1, 1) := dk_4 (dk_at dksX9_readPlant_3 16 rfl rfl)
theorem dX9_readPlant_88 : decode cX9_readPlant 88 = .ok (.iload_n 1, 1) := dk_27 (dk_at dksX9_readPlant_3 17 rfl rfl)
theorem dX9_readPlant_89 : decode cX9_readPlant 89 = .ok (.ishl, 1) := dk_120 (dk_at dksX9_readPlant_3 18 rfl rfl)
theorem dX9_readPlant_90 : decode cX9_readPlant 90 = .ok (.ior, 1) := dk_128 (dk_at dksX9_readPlant_3 19 rfl rfl)
theorem dX9_readPlant_91 : decode cX9_readPlant 91 = .ok (.iastore, 1) := dk_79 (dk_at dksX9_readPlant_3 20 rfl rfl)
theorem dX9_readPlant_92 : decode cX9_readPlant 92 = .ok (.aload_n 0, 1) := dk_42 (dk_at dksX9_readPlant_3 21 rfl rfl)
theorem dX9_readPlant_93 : decode cX9_readPlant 93 = .ok (.invokevirtual 82, 3) := dk_182 0 82 (dk_at dksX9_readPlant_4 0 rfl rfl)
theorem dX9_readPlant_96 : decode cX9_readPlant 96 = .ok (.aload_n 0, 1) := dk_42 (dk_at dksX9_readPlant_4 3 rfl rfl)
theorem dX9_readPlant_97 : decode cX9_readPlant 97 = .ok (.getfield 101, 3) := dk_180 0 101 (dk_at dksX9_readPlant_4 4 rfl rfl)
theorem dX9_readPlant_100 : decode cX9_readPlant 100 = .ok (.iconst 1, 1) := dk_4 (dk_at dksX9_readPlant_4 7 rfl rfl)
theorem dX9_readPlant_101 : decode cX9_readPlant 101 = .ok (.dup2, 1) := dk_92 (dk_at dksX9_readPlant_4 8 rfl rfl)
theorem dX9_readPlant_102 : decode cX9_readPlant 102 = .ok (.iaload, 1) := dk_46 (dk_at dksX9_readPlant_4 9 rfl rfl)
theorem dX9_readPlant_103 : decode cX9_readPlant 103 = .ok (.iconst 1, 1) := dk_4 (dk_at dksX9_readPlant_4 10 rfl rfl)
theorem dX9_readPlant_104 : decode cX9_readPlant 104 = .ok (.iadd, 1) := dk_96 (dk_at dksX9_readPlant_4 11 rfl rfl)
theorem dX9_readPlant_105 : decode cX9_readPlant 105 = .ok (.iastore, 1) := dk_79 (dk_at dksX9_readPlant_4 12 rfl rfl)
theorem dX9_readPlant_106 : decode cX9_readPlant 106 = .ok (.iconst 1, 1) := dk_4 (dk_at dksX9_readPlant_4 13 rfl rfl)
theorem dX9_readPlant_107 : decode cX9_readPlant 107 = .ok (.ireturn, 1) := dk_172 (dk_at dksX9_readPlant_4 14 rfl rfl)
abbrev cX9_put : ByteArray := prog_22_method_33_code
def yX9_put : MethodName := ⟨RX9, "put", "(IZ)Z"⟩
def dkwX9_put_0 : List UInt8 := [28, 153, 0, 13, 42, 180, 0, 101, 27, 42, 180, 0, 79, 79, 28, 172]
abbrev dktX9_put_0 : List UInt8 := dkwX9_put_0 ++ []
theorem dksX9_put_0 : cX9_put.data.toList.drop 0 = dktX9_put_0 := by decide +kernel
theorem dX9_put_0 : decode cX9_put 0 = .ok (.iload_n 2, 1) := dk_28 (dk_at dksX9_put_0 0 rfl rfl)
theorem dX9_put_1 : decode cX9_put 1 = .ok (.ifCond .eq 13, 3) := dk_153 0 13 (dk_at dksX9_put_0 1 rfl rfl)
theorem dX9_put_4 : decode cX9_put 4 = .ok (.aload_n 0, 1) := dk_42 (dk_at dksX9_put_0 4 rfl rfl)
theorem dX9_put_5 : decode cX9_put 5 = .ok (.getfield 101, 3) := dk_180 0 101 (dk_at dksX9_put_0 5 rfl rfl)
theorem dX9_put_8 : decode cX9_put 8 = .ok (.iload_n 1, 1) := dk_27 (dk_at dksX9_put_0 8 rfl rfl)
theorem dX9_put_9 : decode cX9_put 9 = .ok (.aload_n 0, 1) := dk_42 (dk_at dksX9_put_0 9 rfl rfl)
theorem dX9_put_10 : decode cX9_put 10 = .ok (.getfield 79, 3) := dk_180 0 79 (dk_at dksX9_put_0 10 rfl rfl)
theorem dX9_put_13 : decode cX9_put 13 = .ok (.iastore, 1) := dk_79 (dk_at dksX9_put_0 13 rfl rfl)
theorem dX9_put_14 : decode cX9_put 14 = .ok (.iload_n 2, 1) := dk_28 (dk_at dksX9_put_0 14 rfl rfl)
theorem dX9_put_15 : decode cX9_put 15 = .ok (.ireturn, 1) := dk_172 (dk_at dksX9_put_0 15 rfl rfl)
abbrev cX9_readNumber : ByteArray := prog_22_method_23_code
def yX9_readNumber : MethodName := ⟨RX9, "readNumber", "(II)Z"⟩
def dkwX9_readNumber_1 : List UInt8 := [154, 0, 9, 42, 5, 182, 0, 72, 172, 42, 42, 180, 0, 47, 181, 0, 79, 42, 182, 0, 82, 4, 172]
abbrev dktX9_readNumber_1 : List UInt8 := dkwX9_readNumber_1 ++ []
def dkwX9_readNumber_0 : List UInt8 := [42, 180, 0, 30, 6, 159, 0, 9, 42, 4, 182, 0, 72, 172, 42, 180, 0, 47, 27, 28, 184, 0, 75]
abbrev dktX9_readNumber_0 : List UInt8 := dkwX9_readNumber_0 ++ dktX9_readNumber_1
theorem dksX9_readNumber_0 : cX9_readNumber.data.toList.drop 0 = dktX9_readNumber_0 := by decide +kernel
theorem dksX9_readNumber_1 : cX9_readNumber.data.toList.drop 23 = dktX9_readNumber_1 := dk_seg dksX9_readNumber_0 23 rfl rfl
theorem dX9_readNumber_0 : decode cX9_readNumber 0 = .ok (.aload_n 0, 1) := dk_42 (dk_at dksX9_readNumber_0 0 rfl rfl)
theorem dX9_readNumber_1 : decode cX9_readNumber 1 = .ok (.getfield 30, 3) := dk_180 0 30 (dk_at dksX9_readNumber_0 1 rfl rfl)
theorem dX9_readNumber_4 : decode cX9_readNumber 4 = .ok (.iconst 3, 1) := dk_6 (dk_at dksX9_readNumber_0 4 rfl rfl)
theorem dX9_readNumber_5 : decode cX9_readNumber 5 = .ok (.if_icmp .eq 9, 3) := dk_159 0 9 (dk_at dksX9_readNumber_0 5 rfl rfl)
theorem dX9_readNumber_8 : decode cX9_readNumber 8 = .ok (.aload_n 0, 1) := dk_42 (dk_at dksX9_readNumber_0 8 rfl rfl)
theorem dX9_readNumber_9 : decode cX9_readNumber 9 = .ok (.iconst 1, 1) := dk_4 (dk_at dksX9_readNumber_0 9 rfl rfl)
theorem dX9_readNumber_10 : decode cX9_readNumber 10 = .ok (.invokevirtual 72, 3) := dk_182 0 72 (dk_at dksX9_readNumber_0 10 rfl rfl)
theorem dX9_readNumber_13 : decode cX9_readNumber 13 = .ok (.ireturn, 1) := dk_172 (dk_at dksX9_readNumber_0 13 rfl rfl)
theorem dX9_readNumber_14 : decode cX9_readNumber 14 = .ok (.aload_n 0, 1) := dk_42 (dk_at dksX9_readNumber_0 14 rfl rfl)
theorem dX9_readNumber_15 : decode cX9_readNumber 15 = .ok (.getfield 47, 3) := dk_180 0 47 (dk_at dksX9_readNumber_0 15 rfl rfl)
theorem dX9_readNumber_18 : decode cX9_readNumber 18 = .ok (.iload_n 1, 1) := dk_27 (dk_at dksX9_readNumber_0 18 rfl rfl)
theorem dX9_readNumber_19 : decode cX9_readNumber 19 = .ok (.iload_n 2, 1) := dk_28 (dk_at dksX9_readNumber_0 19 rfl rfl)
theorem dX9_readNumber_20 : decode cX9_readNumber 20 = .ok (.invokestatic 75, 3) := dk_184 0 75 (dk_at dksX9_readNumber_0 20 rfl rfl)
theorem dX9_readNumber_23 : decode cX9_readNumber 23 = .ok (.ifCond .ne 9, 3) := dk_154 0 9 (dk_at dksX9_readNumber_1 0 rfl rfl)
theorem dX9_readNumber_26 : decode cX9_readNumber 26 = .ok (.aload_n 0, 1) := dk_42 (dk_at dksX9_readNumber_1 3 rfl rfl)
theorem dX9_readNumber_27 : decode cX9_readNumber 27 = .ok (.iconst 2, 1) := dk_5 (dk_at dksX9_readNumber_1 4 rfl rfl)
theorem dX9_readNumber_28 : decode cX9_readNumber 28 = .ok (.invokevirtual 72, 3) := dk_182 0 72 (dk_at dksX9_readNumber_1 5 rfl rfl)
theorem dX9_readNumber_31 : decode cX9_readNumber 31 = .ok (.ireturn, 1) := dk_172 (dk_at dksX9_readNumber_1 8 rfl rfl)
theorem dX9_readNumber_32 : decode cX9_readNumber 32 = .ok (.aload_n 0, 1) := dk_42 (dk_at dksX9_readNumber_1 9 rfl rfl)
theorem dX9_readNumber_33 : decode cX9_readNumber 33 = .ok (.aload_n 0, 1) := dk_42 (dk_at dksX9_readNumber_1 10 rfl rfl)
theorem dX9_readNumber_34 : decode cX9_readNumber 34 = .ok (.getfield 47, 3) := dk_180 0 47 (dk_at dksX9_readNumber_1 11 rfl rfl)
theorem dX9_readNumber_37 : decode cX9_readNumber 37 = .ok (.putfield 79, 3) := dk_181 0 79 (dk_at dksX9_readNumber_1 14 rfl rfl)
theorem dX9_readNumber_40 : decode cX9_readNumber 40 = .ok (.aload_n 0, 1) := dk_42 (dk_at dksX9_readNumber_1 17 rfl rfl)
theorem dX9_readNumber_41 : decode cX9_readNumber 41 = .ok (.invokevirtual 82, 3) := dk_182 0 82 (dk_at dksX9_readNumber_1 18 rfl rfl)
theorem dX9_readNumber_44 : decode cX9_readNumber 44 = .ok (.iconst 1, 1) := dk_4 (dk_at dksX9_readNumber_1 21 rfl rfl)
theorem dX9_readNumber_45 : decode cX9_readNumber 45 = .ok (.ireturn, 1) := dk_172 (dk_at dksX9_readNumber_1 22 rfl rfl)
abbrev cX9_isIn : ByteArray := prog_22_method_7_code
def yX9_isIn : MethodName := ⟨RX9, "isIn", "(III)Z"⟩
def dkwX9_isIn_0 : List UInt8 := [26, 27, 161, 0, 12, 26, 28, 163, 0, 7, 4, 167, 0, 4, 3, 172]
abbrev dktX9_isIn_0 : List UInt8 := dkwX9_isIn_0 ++ []
theorem dksX9_isIn_0 : cX9_isIn.data.toList.drop 0 = dktX9_isIn_0 := by decide +kernel
theorem dX9_isIn_0 : decode cX9_isIn 0 = .ok (.iload_n 0, 1) := dk_26 (dk_at dksX9_isIn_0 0 rfl rfl)
theorem dX9_isIn_1 : decode cX9_isIn 1 = .ok (.iload_n 1, 1) := dk_27 (dk_at dksX9_isIn_0 1 rfl rfl)
theorem dX9_isIn_2 : decode cX9_isIn 2 = .ok (.if_icmp .lt 12, 3) := dk_161 0 12 (dk_at dksX9_isIn_0 2 rfl rfl)
theorem dX9_isIn_5 : decode cX9_isIn 5 = .ok (.iload_n 0, 1) := dk_26 (dk_at dksX9_isIn_0 5 rfl rfl)
theorem dX9_isIn_6 : decode cX9_isIn 6 = .ok (.iload_n 2, 1) := dk_28 (dk_at dksX9_isIn_0 6 rfl rfl)
theorem dX9_isIn_7 : decode cX9_isIn 7 = .ok (.if_icmp .gt 7, 3) := dk_163 0 7 (dk_at dksX9_isIn_0 7 rfl rfl)
theorem dX9_isIn_10 : decode cX9_isIn 10 = .ok (.iconst 1, 1) := dk_4 (dk_at dksX9_isIn_0 10 rfl rfl)
theorem dX9_isIn_11 : decode cX9_isIn 11 = .ok (.goto 4, 3) := dk_167 0 4 (dk_at dksX9_isIn_0 11 rfl rfl)
theorem dX9_isIn_14 : decode cX9_isIn 14 = .ok (.iconst 0, 1) := dk_3 (dk_at dksX9_isIn_0 14 rfl rfl)
theorem dX9_isIn_15 : decode cX9_isIn 15 = .ok (.ireturn, 1) := dk_172 (dk_at dksX9_isIn_0 15 rfl rfl)
abbrev cX9_readOnce : ByteArray := prog_22_method_37_code
def yX9_readOnce : MethodName := ⟨RX9, "readOnce", "(III)Z"⟩
def dkwX9_readOnce_1 : List UInt8 := [182, 0, 82, 42, 28, 42, 4, 29, 182, 0, 188, 182, 0, 184, 172]
abbrev dktX9_readOnce_1 : List UInt8 := dkwX9_readOnce_1 ++ []
def dkwX9_readOnce_0 : List UInt8 := [42, 180, 0, 127, 27, 51, 153, 0, 9, 42, 6, 182, 0, 72, 172, 42, 180, 0, 127, 27, 4, 84, 42]
abbrev dktX9_readOnce_0 : List UInt8 := dkwX9_readOnce_0 ++ dktX9_readOnce_1
theorem dksX9_readOnce_0 : cX9_readOnce.data.toList.drop 0 = dktX9_readOnce_0 := by decide +kernel
theorem dksX9_readOnce_1 : cX9_readOnce.data.toList.drop 23 = dktX9_readOnce_1 := dk_seg dksX9_readOnce_0 23 rfl rfl
theorem dX9_readOnce_0 : decode cX9_readOnce 0 = .ok (.aload_n 0, 1) := dk_42 (dk_at dksX9_readOnce_0 0 rfl rfl)
theorem dX9_readOnce_1 : decode cX9_readOnce 1 = .ok (.getfield 127, 3) := dk_180 0 127 (dk_at dksX9_readOnce_0 1 rfl rfl)
theorem dX9_readOnce_4 : decode cX9_readOnce 4 = .ok (.iload_n 1, 1) := dk_27 (dk_at dksX9_readOnce_0 4 rfl rfl)
theorem dX9_readOnce_5 : decode cX9_readOnce 5 = .ok (.baload, 1) := dk_51 (dk_at dksX9_readOnce_0 5 rfl rfl)
theorem dX9_readOnce_6 : decode cX9_readOnce 6 = .ok (.ifCond .eq 9, 3) := dk_153 0 9 (dk_at dksX9_readOnce_0 6 rfl rfl)
theorem dX9_readOnce_9 : decode cX9_readOnce 9 = .ok (.aload_n 0, 1) := dk_42 (dk_at dksX9_readOnce_0 9 rfl rfl)
theorem dX9_readOnce_10 : decode cX9_readOnce 10 = .ok (.iconst 3, 1) := dk_6 (dk_at dksX9_readOnce_0 10 rfl rfl)
theorem dX9_readOnce_11 : decode cX9_readOnce 11 = .ok (.invokevirtual 72, 3) := dk_182 0 72 (dk_at dksX9_readOnce_0 11 rfl rfl)
theorem dX9_readOnce_14 : decode cX9_readOnce 14 = .ok (.ireturn, 1) := dk_172 (dk_at dksX9_readOnce_0 14 rfl rfl)
theorem dX9_readOnce_15 : decode cX9_readOnce 15 = .ok (.aload_n 0, 1) := dk_42 (dk_at dksX9_readOnce_0 15 rfl rfl)
theorem dX9_readOnce_16 : decode cX9_readOnce 16 = .ok (.getfield 127, 3) := dk_180 0 127 (dk_at dksX9_readOnce_0 16 rfl rfl)
theorem dX9_readOnce_19 : decode cX9_readOnce 19 = .ok (.iload_n 1, 1) := dk_27 (dk_at dksX9_readOnce_0 19 rfl rfl)
theorem dX9_readOnce_20 : decode cX9_readOnce 20 = .ok (.iconst 1, 1) := dk_4 (dk_at dksX9_readOnce_0 20 rfl rfl)
theorem dX9_readOnce_21 : decode cX9_readOnce 21 = .ok (.bastore, 1) := dk_84 (dk_at dksX9_readOnce_0 21 rfl rfl)
theorem dX9_readOnce_22 : decode cX9_readOnce 22 = .ok (.aload_n 0, 1) := dk_42 (dk_at dksX9_readOnce_0 22 rfl rfl)
theorem dX9_readOnce_23 : decode cX9_readOnce 23 = .ok (.invokevirtual 82, 3) := dk_182 0 82 (dk_at dksX9_readOnce_1 0 rfl rfl)
theorem dX9_readOnce_26 : decode cX9_readOnce 26 = .ok (.aload_n 0, 1) := dk_42 (dk_at dksX9_readOnce_1 3 rfl rfl)
theorem dX9_readOnce_27 : decode cX9_readOnce 27 = .ok (.iload_n 2, 1) := dk_28 (dk_at dksX9_readOnce_1 4 rfl rfl)
theorem dX9_readOnce_28 : decode cX9_readOnce 28 = .ok (.aload_n 0, 1) := dk_42 (dk_at dksX9_readOnce_1 5 rfl rfl)
theorem dX9_readOnce_29 : decode cX9_readOnce 29 = .ok (.iconst 1, 1) := dk_4 (dk_at dksX9_readOnce_1 6 rfl rfl)
theorem dX9_readOnce_30 : decode cX9_readOnce 30 = .ok (.iload_n 3, 1) := dk_29 (dk_at dksX9_readOnce_1 7 rfl rfl)
theorem dX9_readOnce_31 : decode cX9_readOnce 31 = .ok (.invokevirtual 188, 3) := dk_182 0 188 (dk_at dksX9_readOnce_1 8 rfl rfl)
theorem dX9_readOnce_34 : decode cX9_readOnce 34 = .ok (.invokevirtual 184, 3) := dk_182 0 184 (dk_at dksX9_readOnce_1 11 rfl rfl)
theorem dX9_readOnce_37 : decode cX9_readOnce 37 = .ok (.ireturn, 1) := dk_172 (dk_at dksX9_readOnce_1 14 rfl rfl)
abbrev cX9_readEnd : ByteArray := prog_22_method_24_code
def yX9_readEnd : MethodName := ⟨RX9, "readEnd", "()Z"⟩
def dkwX9_readEnd_0 : List UInt8 := [42, 16, 59, 182, 0, 86, 154, 0, 9, 42, 4, 182, 0, 72, 172, 42, 182, 0, 82, 4, 172]
abbrev dktX9_readEnd_0 : List UInt8 := dkwX9_readEnd_0 ++ []
theorem dksX9_readEnd_0 : cX9_readEnd.data.toList.drop 0 = dktX9_readEnd_0 := by decide +kernel
theorem dX9_readEnd_0 : decode cX9_readEnd 0 = .ok (.aload_n 0, 1) := dk_42 (dk_at dksX9_readEnd_0 0 rfl rfl)
theorem dX9_readEnd_1 : decode cX9_readEnd 1 = .ok (.bipush 59, 2) := dk_16 59 (dk_at dksX9_readEnd_0 1 rfl rfl)
theorem dX9_readEnd_3 : decode cX9_readEnd 3 = .ok (.invokevirtual 86, 3) := dk_182 0 86 (dk_at dksX9_readEnd_0 3 rfl rfl)
theorem dX9_readEnd_6 : decode cX9_readEnd 6 = .ok (.ifCond .ne 9, 3) := dk_154 0 9 (dk_at dksX9_readEnd_0 6 rfl rfl)
theorem dX9_readEnd_9 : decode cX9_readEnd 9 = .ok (.aload_n 0, 1) := dk_42 (dk_at dksX9_readEnd_0 9 rfl rfl)
theorem dX9_readEnd_10 : decode cX9_readEnd 10 = .ok (.iconst 1, 1) := dk_4 (dk_at dksX9_readEnd_0 10 rfl rfl)
theorem dX9_readEnd_11 : decode cX9_readEnd 11 = .ok (.invokevirtual 72, 3) := dk_182 0 72 (dk_at dksX9_readEnd_0 11 rfl rfl)
theorem dX9_readEnd_14 : decode cX9_readEnd 14 = .ok (.ireturn, 1) := dk_172 (dk_at dksX9_readEnd_0 14 rfl rfl)
theorem dX9_readEnd_15 : decode cX9_readEnd 15 = .ok (.aload_n 0, 1) := dk_42 (dk_at dksX9_readEnd_0 15 rfl rfl)
theorem dX9_readEnd_16 : decode cX9_readEnd 16 = .ok (.invokevirtual 82, 3) := dk_182 0 82 (dk_at dksX9_readEnd_0 16 rfl rfl)
theorem dX9_readEnd_19 : decode cX9_readEnd 19 = .ok (.iconst 1, 1) := dk_4 (dk_at dksX9_readEnd_0 19 rfl rfl)
theorem dX9_readEnd_20 : decode cX9_readEnd 20 = .ok (.ireturn, 1) := dk_172 (dk_at dksX9_readEnd_0 20 rfl rfl)
abbrev cX9_isSign : ByteArray := prog_22_method_20_code
def yX9_isSign : MethodName := ⟨RX9, "isSign", "(I)Z"⟩
def dkwX9_isSign_0 : List UInt8 := [42, 180, 0, 30, 7, 160, 0, 15, 42, 180, 0, 40, 27, 160, 0, 7, 4, 167, 0, 4, 3, 172]
abbrev dktX9_isSign_0 : List UInt8 := dkwX9_isSign_0 ++ []
theorem dksX9_isSign_0 : cX9_isSign.data.toList.drop 0 = dktX9_isSign_0 := by decide +kernel
theorem dX9_isSign_0 : decode cX9_isSign 0 = .ok (.aload_n 0, 1) := dk_42 (dk_at dksX9_isSign_0 0 rfl rfl)
theorem dX9_isSign_1 : decode cX9_isSign 1 = .ok (.getfield 30, 3) := dk_180 0 30 (dk_at dksX9_isSign_0 1 rfl rfl)
theorem dX9_isSign_4 : decode cX9_isSign 4 = .ok (.iconst 4, 1) := dk_7 (dk_at dksX9_isSign_0 4 rfl rfl)
theorem dX9_isSign_5 : decode cX9_isSign 5 = .ok (.if_icmp .ne 15, 3) := dk_160 0 15 (dk_at dksX9_isSign_0 5 rfl rfl)
theorem dX9_isSign_8 : decode cX9_isSign 8 = .ok (.aload_n 0, 1) := dk_42 (dk_at dksX9_isSign_0 8 rfl rfl)
theorem dX9_isSign_9 : decode cX9_isSign 9 = .ok (.getfield 40, 3) := dk_180 0 40 (dk_at dksX9_isSign_0 9 rfl rfl)
theorem dX9_isSign_12 : decode cX9_isSign 12 = .ok (.iload_n 1, 1) := dk_27 (dk_at dksX9_isSign_0 12 rfl rfl)
theorem dX9_isSign_13 : decode cX9_isSign 13 = .ok (.if_icmp .ne 7, 3) := dk_160 0 7 (dk_at dksX9_isSign_0 13 rfl rfl)
theorem dX9_isSign_16 : decode cX9_isSign 16 = .ok (.iconst 1, 1) := dk_4 (dk_at dksX9_isSign_0 16 rfl rfl)
theorem dX9_isSign_17 : decode cX9_isSign 17 = .ok (.goto 4, 3) := dk_167 0 4 (dk_at dksX9_isSign_0 17 rfl rfl)
theorem dX9_isSign_20 : decode cX9_isSign 20 = .ok (.iconst 0, 1) := dk_3 (dk_at dksX9_isSign_0 20 rfl rfl)
theorem dX9_isSign_21 : decode cX9_isSign 21 = .ok (.ireturn, 1) := dk_172 (dk_at dksX9_isSign_0 21 rfl rfl)
abbrev cX9_fault : ByteArray := prog_22_method_40_code
def yX9_fault : MethodName := ⟨RX9, "fault", "()I"⟩
def dkwX9_fault_0 : List UInt8 := [42, 3, 181, 0, 1, 42, 180, 0, 66, 172]
abbrev dktX9_fault_0 : List UInt8 := dkwX9_fault_0 ++ []
theorem dksX9_fault_0 : cX9_fault.data.toList.drop 0 = dktX9_fault_0 := by decide +kernel
theorem dX9_fault_0 : decode cX9_fault 0 = .ok (.aload_n 0, 1) := dk_42 (dk_at dksX9_fault_0 0 rfl rfl)
theorem dX9_fault_1 : decode cX9_fault 1 = .ok (.iconst 0, 1) := dk_3 (dk_at dksX9_fault_0 1 rfl rfl)
theorem dX9_fault_2 : decode cX9_fault 2 = .ok (.putfield 1, 3) := dk_181 0 1 (dk_at dksX9_fault_0 2 rfl rfl)
theorem dX9_fault_5 : decode cX9_fault 5 = .ok (.aload_n 0, 1) := dk_42 (dk_at dksX9_fault_0 5 rfl rfl)
theorem dX9_fault_6 : decode cX9_fault 6 = .ok (.getfield 66, 3) := dk_180 0 66 (dk_at dksX9_fault_0 6 rfl rfl)
theorem dX9_fault_9 : decode cX9_fault 9 = .ok (.ireturn, 1) := dk_172 (dk_at dksX9_fault_0 9 rfl rfl)
abbrev cX9_plant : ByteArray := prog_22_method_56_code
def yX9_plant : MethodName := ⟨RX9, "plant", "(II)I"⟩
def dkwX9_plant_5 : List UInt8 := [3, 182, 0, 253, 184, 0, 238, 172, 42, 182, 0, 247, 172]
abbrev dktX9_plant_5 : List UInt8 := dkwX9_plant_5 ++ []
def dkwX9_plant_4 : List UInt8 := [3, 182, 0, 250, 172, 42, 27, 4, 182, 0, 253, 184, 0, 238, 172, 42, 27, 4, 182, 0, 253, 172, 42, 27]
abbrev dktX9_plant_4 : List UInt8 := dkwX9_plant_4 ++ dktX9_plant_5
def dkwX9_plant_3 : List UInt8 := [182, 0, 218, 153, 0, 7, 4, 167, 0, 4, 3, 172, 42, 180, 0, 98, 16, 32, 27, 96, 46, 172, 42, 27]
abbrev dktX9_plant_3 : List UInt8 := dkwX9_plant_3 ++ dktX9_plant_4
def dkwX9_plant_2 : List UInt8 := [42, 180, 0, 98, 16, 26, 27, 96, 46, 172, 42, 180, 0, 98, 16, 17, 27, 96, 46, 172, 42, 27]
abbrev dktX9_plant_2 : List UInt8 := dkwX9_plant_2 ++ dktX9_plant_3
def dkwX9_plant_1 : List UInt8 := [170, 0, 0, 0, 123, 0, 0, 0, 0, 0, 0, 0, 7, 0, 0, 0, 45, 0, 0, 0, 55, 0, 0, 0, 65, 0, 0, 0, 79, 0, 0, 0, 89, 0, 0, 0, 96, 0, 0, 0, 106, 0, 0, 0, 113]
abbrev dktX9_plant_1 : List UInt8 := dkwX9_plant_1 ++ dktX9_plant_2
def dkwX9_plant_0 : List UInt8 := [42, 3, 181, 0, 1, 42, 27, 182, 0, 244, 154, 0, 8, 42, 182, 0, 247, 172, 28]
abbrev dktX9_plant_0 : List UInt8 := dkwX9_plant_0 ++ dktX9_plant_1
theorem dksX9_plant_0 : cX9_plant.data.toList.drop 0 = dktX9_plant_0 := by decide +kernel
theorem dksX9_plant_1 : cX9_plant.data.toList.drop 19 = dktX9_plant_1 := dk_seg dksX9_plant_0 19 rfl rfl
theorem dksX9_plant_2 : cX9_plant.data.toList.drop 64 = dktX9_plant_2 := dk_seg dksX9_plant_1 45 rfl rfl
theorem dksX9_plant_3 : cX9_plant.data.toList.drop 86 = dktX9_plant_3 := dk_seg dksX9_plant_2 22 rfl rfl
theorem dksX9_plant_4 : cX9_plant.data.toList.drop 110 = dktX9_plant_4 := dk_seg dksX9_plant_3 24 rfl rfl
theorem dksX9_plant_5 : cX9_plant.data.toList.drop 134 = dktX9_plant_5 := dk_seg dksX9_plant_4 24 rfl rfl
theorem dX9_plant_0 : decode cX9_plant 0 = .ok (.aload_n 0, 1) := dk_42 (dk_at dksX9_plant_0 0 rfl rfl)
theorem dX9_plant_1 : decode cX9_plant 1 = .ok (.iconst 0, 1) := dk_3 (dk_at dksX9_plant_0 1 rfl rfl)
theorem dX9_plant_2 : decode cX9_plant 2 = .ok (.putfield 1, 3) := dk_181 0 1 (dk_at dksX9_plant_0 2 rfl rfl)
theorem dX9_plant_5 : decode cX9_plant 5 = .ok (.aload_n 0, 1) := dk_42 (dk_at dksX9_plant_0 5 rfl rfl)
theorem dX9_plant_6 : decode cX9_plant 6 = .ok (.iload_n 1, 1) := dk_27 (dk_at dksX9_plant_0 6 rfl rfl)
theorem dX9_plant_7 : decode cX9_plant 7 = .ok (.invokevirtual 244, 3) := dk_182 0 244 (dk_at dksX9_plant_0 7 rfl rfl)
theorem dX9_plant_10 : decode cX9_plant 10 = .ok (.ifCond .ne 8, 3) := dk_154 0 8 (dk_at dksX9_plant_0 10 rfl rfl)
theorem dX9_plant_13 : decode cX9_plant 13 = .ok (.aload_n 0, 1) := dk_42 (dk_at dksX9_plant_0 13 rfl rfl)
theorem dX9_plant_14 : decode cX9_plant 14 = .ok (.invokevirtual 247, 3) := dk_182 0 247 (dk_at dksX9_plant_0 14 rfl rfl)
theorem dX9_plant_17 : decode cX9_plant 17 = .ok (.ireturn, 1) := dk_172 (dk_at dksX9_plant_0 17 rfl rfl)
theorem dX9_plant_18 : decode cX9_plant 18 = .ok (.iload_n 2, 1) := dk_28 (dk_at dksX9_plant_0 18 rfl rfl)
theorem dX9_plant_19 : decode cX9_plant 19 = .ok (.tableswitch 123 0 7 #[45, 55, 65, 79, 89, 96, 106, 113], 45) := by decide +kernel
theorem dX9_plant_64 : decode cX9_plant 64 = .ok (.aload_n 0, 1) := dk_42 (dk_at dksX9_plant_2 0 rfl rfl)
theorem dX9_plant_65 : decode cX9_plant 65 = .ok (.getfield 98, 3) := dk_180 0 98 (dk_at dksX9_plant_2 1 rfl rfl)
theorem dX9_plant_68 : decode cX9_plant 68 = .ok (.bipush 26, 2) := dk_16 26 (dk_at dksX9_plant_2 4 rfl rfl)
theorem dX9_plant_70 : decode cX9_plant 70 = .ok (.iload_n 1, 1) := dk_27 (dk_at dksX9_plant_2 6 rfl rfl)
theorem dX9_plant_71 : decode cX9_plant 71 = .ok (.iadd, 1) := dk_96 (dk_at dksX9_plant_2 7 rfl rfl)
theorem dX9_plant_72 : decode cX9_plant 72 = .ok (.iaload, 1) := dk_46 (dk_at dksX9_plant_2 8 rfl rfl)
theorem dX9_plant_73 : decode cX9_plant 73 = .ok (.ireturn, 1) := dk_172 (dk_at dksX9_plant_2 9 rfl rfl)
theorem dX9_plant_74 : decode cX9_plant 74 = .ok (.aload_n 0, 1) := dk_42 (dk_at dksX9_plant_2 10 rfl rfl)
theorem dX9_plant_75 : decode cX9_plant 75 = .ok (.getfield 98, 3) := dk_180 0 98 (dk_at dksX9_plant_2 11 rfl rfl)
theorem dX9_plant_78 : decode cX9_plant 78 = .ok (.bipush 17, 2) := dk_16 17 (dk_at dksX9_plant_2 14 rfl rfl)
theorem dX9_plant_80 : decode cX9_plant 80 = .ok (.iload_n 1, 1) := dk_27 (dk_at dksX9_plant_2 16 rfl rfl)
theorem dX9_plant_81 : decode cX9_plant 81 = .ok (.iadd, 1) := dk_96 (dk_at dksX9_plant_2 17 rfl rfl)
theorem dX9_plant_82 : decode cX9_plant 82 = .ok (.iaload, 1) := dk_46 (dk_at dksX9_plant_2 18 rfl rfl)
theorem dX9_plant_83 : decode cX9_plant 83 = .ok (.ireturn, 1) := dk_172 (dk_at dksX9_plant_2 19 rfl rfl)
theorem dX9_plant_84 : decode cX9_plant 84 = .ok (.aload_n 0, 1) := dk_42 (dk_at dksX9_plant_2 20 rfl rfl)
theorem dX9_plant_85 : decode cX9_plant 85 = .ok (.iload_n 1, 1) := dk_27 (dk_at dksX9_plant_2 21 rfl rfl)
theorem dX9_plant_86 : decode cX9_plant 86 = .ok (.invokevirtual 218, 3) := dk_182 0 218 (dk_at dksX9_plant_3 0 rfl rfl)
theorem dX9_plant_89 : decode cX9_plant 89 = .ok (.ifCond .eq 7, 3) := dk_153 0 7 (dk_at dksX9_plant_3 3 rfl rfl)
theorem dX9_plant_92 : decode cX9_plant 92 = .ok (.iconst 1, 1) := dk_4 (dk_at dksX9_plant_3 6 rfl rfl)
theorem dX9_plant_93 : decode cX9_plant 93 = .ok (.goto 4, 3) := dk_167 0 4 (dk_at dksX9_plant_3 7 rfl rfl)
theorem dX9_plant_96 : decode cX9_plant 96 = .ok (.iconst 0, 1) := dk_3 (dk_at dksX9_plant_3 10 rfl rfl)
theorem dX9_plant_97 : decode cX9_plant 97 = .ok (.ireturn, 1) := dk_172 (dk_at dksX9_plant_3 11 rfl rfl)
theorem dX9_plant_98 : decode cX9_plant 98 = .ok (.aload_n 0, 1) := dk_42 (dk_at dksX9_plant_3 12 rfl rfl)
theorem dX9_plant_99 : decode cX9_plant 99 = .ok (.getfield 98, 3) := dk_180 0 98 (dk_at dksX9_plant_3 13 rfl rfl)
theorem dX9_plant_102 : decode cX9_plant 102 = .ok (.bipush 32, 2) := dk_16 32 (dk_at dksX9_plant_3 16 rfl rfl)
theorem dX9_plant_104 : decode cX9_plant 104 = .ok (.iload_n 1, 1) := dk_27 (dk_at dksX9_plant_3 18 rfl rfl)
theorem dX9_plant_105 : decode cX9_plant 105 = .ok (.iadd, 1) := dk_96 (dk_at dksX9_plant_3 19 rfl rfl)
theorem dX9_plant_106 : decode cX9_plant 106 = .ok (.iaload, 1) := dk_46 (dk_at dksX9_plant_3 20 rfl rfl)
theorem dX9_plant_107 : decode cX9_plant 107 = .ok (.ireturn, 1) := dk_172 (dk_at dksX9_plant_3 21 rfl rfl)
theorem dX9_plant_108 : decode cX9_plant 108 = .ok (.aload_n 0, 1) := dk_42 (dk_at dksX9_plant_3 22 rfl rfl)
theorem dX9_plant_109 : decode cX9_plant 109 = .ok (.iload_n 1, 1) := dk_27 (dk_at dksX9_plant_3 23 rfl rfl)
theorem dX9_plant_110 : decode cX9_plant 110 = .ok (.iconst 0, 1) := dk_3 (dk_at dksX9_plant_4 0 rfl rfl)
theorem dX9_plant_111 : decode cX9_plant 111 = .ok (.invokevirtual 250, 3) := dk_182 0 250 (dk_at dksX9_plant_4 1 rfl rfl)
theorem dX9_plant_114 : decode cX9_plant 114 = .ok (.ireturn, 1) := dk_172 (dk_at dksX9_plant_4 4 rfl rfl)
theorem dX9_plant_115 : decode cX9_plant 115 = .ok (.aload_n 0, 1) := dk_42 (dk_at dksX9_plant_4 5 rfl rfl)
theorem dX9_plant_116 : decode cX9_plant 116 = .ok (.iload_n 1, 1) := dk_27 (dk_at dksX9_plant_4 6 rfl rfl)
theorem dX9_plant_117 : decode cX9_plant 117 = .ok (.iconst 1, 1) := dk_4 (dk_at dksX9_plant_4 7 rfl rfl)
theorem dX9_plant_118 : decode cX9_plant 118 = .ok (.invokevirtual 253, 3) := dk_182 0 253 (dk_at dksX9_plant_4 8 rfl rfl)
theorem dX9_plant_121 : decode cX9_plant 121 = .ok (.invokestatic 238, 3) := dk_184 0 238 (dk_at dksX9_plant_4 11 rfl rfl)
theorem dX9_plant_124 : decode cX9_plant 124 = .ok (.ireturn, 1) := dk_172 (dk_at dksX9_plant_4 14 rfl rfl)
theorem dX9_plant_125 : decode cX9_plant 125 = .ok (.aload_n 0, 1) := dk_42 (dk_at dksX9_plant_4 15 rfl rfl)
theorem dX9_plant_126 : decode cX9_plant 126 = .ok (.iload_n 1, 1) := dk_27 (dk_at dksX9_plant_4 16 rfl rfl)
theorem dX9_plant_127 : decode cX9_plant 127 = .ok (.iconst 1, 1) := dk_4 (dk_at dksX9_plant_4 17 rfl rfl)
theorem dX9_plant_128 : decode cX9_plant 128 = .ok (.invokevirtual 253, 3) := dk_182 0 253 (dk_at dksX9_plant_4 18 rfl rfl)
theorem dX9_plant_131 : decode cX9_plant 131 = .ok (.ireturn, 1) := dk_172 (dk_at dksX9_plant_4 21 rfl rfl)
theorem dX9_plant_132 : decode cX9_plant 132 = .ok (.aload_n 0, 1) := dk_42 (dk_at dksX9_plant_4 22 rfl rfl)
theorem dX9_plant_133 : decode cX9_plant 133 = .ok (.iload_n 1, 1) := dk_27 (dk_at dksX9_plant_4 23 rfl rfl)
theorem dX9_plant_134 : decode cX9_plant 134 = .ok (.iconst 0, 1) := dk_3 (dk_at dksX9_plant_5 0 rfl rfl)
theorem dX9_plant_135 : decode cX9_plant 135 = .ok (.invokevirtual 253, 3) := dk_182 0 253 (dk_at dksX9_plant_5 1 rfl rfl)
theorem dX9_plant_138 : decode cX9_plant 138 = .ok (.invokestatic 238, 3) := dk_184 0 238 (dk_at dksX9_plant_5 4 rfl rfl)
theorem dX9_plant_141 : decode cX9_plant 141 = .ok (.ireturn, 1) := dk_172 (dk_at dksX9_plant_5 7 rfl rfl)
theorem dX9_plant_142 : decode cX9_plant 142 = .ok (.aload_n 0, 1) := dk_42 (dk_at dksX9_plant_5 8 rfl rfl)
theorem dX9_plant_143 : decode cX9_plant 143 = .ok (.invokevirtual 247, 3) := dk_182 0 247 (dk_at dksX9_plant_5 9 rfl rfl)
theorem dX9_plant_146 : decode cX9_plant 146 = .ok (.ireturn, 1) := dk_172 (dk_at dksX9_plant_5 12 rfl rfl)
abbrev cX9_isPlant : ByteArray := prog_22_method_42_code
def yX9_isPlant : MethodName := ⟨RX9, "isPlant", "(I)Z"⟩
def dkwX9_isPlant_0 : List UInt8 := [27, 3, 42, 180, 0, 98, 4, 46, 4, 100, 184, 0, 75, 172]
abbrev dktX9_isPlant_0 : List UInt8 := dkwX9_isPlant_0 ++ []
theorem dksX9_isPlant_0 : cX9_isPlant.data.toList.drop 0 = dktX9_isPlant_0 := by decide +kernel
theorem dX9_isPlant_0 : decode cX9_isPlant 0 = .ok (.iload_n 1, 1) := dk_27 (dk_at dksX9_isPlant_0 0 rfl rfl)
theorem dX9_isPlant_1 : decode cX9_isPlant 1 = .ok (.iconst 0, 1) := dk_3 (dk_at dksX9_isPlant_0 1 rfl rfl)
theorem dX9_isPlant_2 : decode cX9_isPlant 2 = .ok (.aload_n 0, 1) := dk_42 (dk_at dksX9_isPlant_0 2 rfl rfl)
theorem dX9_isPlant_3 : decode cX9_isPlant 3 = .ok (.getfield 98, 3) := dk_180 0 98 (dk_at dksX9_isPlant_0 3 rfl rfl)
theorem dX9_isPlant_6 : decode cX9_isPlant 6 = .ok (.iconst 1, 1) := dk_4 (dk_at dksX9_isPlant_0 6 rfl rfl)
theorem dX9_isPlant_7 : decode cX9_isPlant 7 = .ok (.iaload, 1) := dk_46 (dk_at dksX9_isPlant_0 7 rfl rfl)
theorem dX9_isPlant_8 : decode cX9_isPlant 8 = .ok (.iconst 1, 1) := dk_4 (dk_at dksX9_isPlant_0 8 rfl rfl)
theorem dX9_isPlant_9 : decode cX9_isPlant 9 = .ok (.isub, 1) := dk_100 (dk_at dksX9_isPlant_0 9 rfl rfl)
theorem dX9_isPlant_10 : decode cX9_isPlant 10 = .ok (.invokestatic 75, 3) := dk_184 0 75 (dk_at dksX9_isPlant_0 10 rfl rfl)
theorem dX9_isPlant_13 : decode cX9_isPlant 13 = .ok (.ireturn, 1) := dk_172 (dk_at dksX9_isPlant_0 13 rfl rfl)
abbrev cX9_refuse : ByteArray := prog_22_method_2_code
def yX9_refuse : MethodName := ⟨RX9, "refuse", "()I"⟩
def dkwX9_refuse_0 : List UInt8 := [42, 4, 181, 0, 1, 3, 172]
abbrev dktX9_refuse_0 : List UInt8 := dkwX9_refuse_0 ++ []
theorem dksX9_refuse_0 : cX9_refuse.data.toList.drop 0 = dktX9_refuse_0 := by decide +kernel
theorem dX9_refuse_0 : decode cX9_refuse 0 = .ok (.aload_n 0, 1) := dk_42 (dk_at dksX9_refuse_0 0 rfl rfl)
theorem dX9_refuse_1 : decode cX9_refuse 1 = .ok (.iconst 1, 1) := dk_4 (dk_at dksX9_refuse_0 1 rfl rfl)
theorem dX9_refuse_2 : decode cX9_refuse 2 = .ok (.putfield 1, 3) := dk_181 0 1 (dk_at dksX9_refuse_0 2 rfl rfl)
theorem dX9_refuse_5 : decode cX9_refuse 5 = .ok (.iconst 0, 1) := dk_3 (dk_at dksX9_refuse_0 5 rfl rfl)
theorem dX9_refuse_6 : decode cX9_refuse 6 = .ok (.ireturn, 1) := dk_172 (dk_at dksX9_refuse_0 6 rfl rfl)
abbrev cX9_isFern : ByteArray := prog_22_method_46_code
def yX9_isFern : MethodName := ⟨RX9, "isFern", "(I)Z"⟩
def dkwX9_isFern_0 : List UInt8 := [42, 180, 0, 98, 16, 23, 46, 27, 184, 0, 181, 172]
abbrev dktX9_isFern_0 : List UInt8 := dkwX9_isFern_0 ++ []
theorem dksX9_isFern_0 : cX9_isFern.data.toList.drop 0 = dktX9_isFern_0 := by decide +kernel
theorem dX9_isFern_0 : decode cX9_isFern 0 = .ok (.aload_n 0, 1) := dk_42 (dk_at dksX9_isFern_0 0 rfl rfl)
theorem dX9_isFern_1 : decode cX9_isFern 1 = .ok (.getfield 98, 3) := dk_180 0 98 (dk_at dksX9_isFern_0 1 rfl rfl)
theorem dX9_isFern_4 : decode cX9_isFern 4 = .ok (.bipush 23, 2) := dk_16 23 (dk_at dksX9_isFern_0 4 rfl rfl)
theorem dX9_isFern_6 : decode cX9_isFern 6 = .ok (.iaload, 1) := dk_46 (dk_at dksX9_isFern_0 6 rfl rfl)
theorem dX9_isFern_7 : decode cX9_isFern 7 = .ok (.iload_n 1, 1) := dk_27 (dk_at dksX9_isFern_0 7 rfl rfl)
theorem dX9_isFern_8 : decode cX9_isFern 8 = .ok (.invokestatic 181, 3) := dk_184 0 181 (dk_at dksX9_isFern_0 8 rfl rfl)
theorem dX9_isFern_11 : decode cX9_isFern 11 = .ok (.ireturn, 1) := dk_172 (dk_at dksX9_isFern_0 11 rfl rfl)
abbrev cX9_seesOf : ByteArray := prog_22_method_48_code
def yX9_seesOf : MethodName := ⟨RX9, "seesOf", "(II)I"⟩
def dkwX9_seesOf_1 : List UInt8 := [46, 161, 0, 7, 3, 167, 0, 16, 42, 42, 180, 0, 98, 16, 26, 27, 96, 46, 182, 0, 221, 172]
abbrev dktX9_seesOf_1 : List UInt8 := dkwX9_seesOf_1 ++ []
def dkwX9_seesOf_0 : List UInt8 := [42, 27, 182, 0, 218, 154, 0, 23, 42, 180, 0, 98, 16, 32, 27, 96, 46, 28, 96, 42, 180, 0, 98, 7]
abbrev dktX9_seesOf_0 : List UInt8 := dkwX9_seesOf_0 ++ dktX9_seesOf_1
theorem dksX9_seesOf_0 : cX9_seesOf.data.toList.drop 0 = dktX9_seesOf_0 := by decide +kernel
theorem dksX9_seesOf_1 : cX9_seesOf.data.toList.drop 24 = dktX9_seesOf_1 := dk_seg dksX9_seesOf_0 24 rfl rfl
theorem dX9_seesOf_0 : decode cX9_seesOf 0 = .ok (.aload_n 0, 1) := dk_42 (dk_at dksX9_seesOf_0 0 rfl rfl)
theorem dX9_seesOf_1 : decode cX9_seesOf 1 = .ok (.iload_n 1, 1) := dk_27 (dk_at dksX9_seesOf_0 1 rfl rfl)
theorem dX9_seesOf_2 : decode cX9_seesOf 2 = .ok (.invokevirtual 218, 3) := dk_182 0 218 (dk_at dksX9_seesOf_0 2 rfl rfl)
theorem dX9_seesOf_5 : decode cX9_seesOf 5 = .ok (.ifCond .ne 23, 3) := dk_154 0 23 (dk_at dksX9_seesOf_0 5 rfl rfl)
theorem dX9_seesOf_8 : decode cX9_seesOf 8 = .ok (.aload_n 0, 1) := dk_42 (dk_at dksX9_seesOf_0 8 rfl rfl)
theorem dX9_seesOf_9 : decode cX9_seesOf 9 = .ok (.getfield 98, 3) := dk_180 0 98 (dk_at dksX9_seesOf_0 9 rfl rfl)
theorem dX9_seesOf_12 : decode cX9_seesOf 12 = .ok (.bipush 32, 2) := dk_16 32 (dk_at dksX9_seesOf_0 12 rfl rfl)
theorem dX9_seesOf_14 : decode cX9_seesOf 14 = .ok (.iload_n 1, 1) := dk_27 (dk_at dksX9_seesOf_0 14 rfl rfl)
theorem dX9_seesOf_15 : decode cX9_seesOf 15 = .ok (.iadd, 1) := dk_96 (dk_at dksX9_seesOf_0 15 rfl rfl)
theorem dX9_seesOf_16 : decode cX9_seesOf 16 = .ok (.iaload, 1) := dk_46 (dk_at dksX9_seesOf_0 16 rfl rfl)
theorem dX9_seesOf_17 : decode cX9_seesOf 17 = .ok (.iload_n 2, 1) := dk_28 (dk_at dksX9_seesOf_0 17 rfl rfl)
theorem dX9_seesOf_18 : decode cX9_seesOf 18 = .ok (.iadd, 1) := dk_96 (dk_at dksX9_seesOf_0 18 rfl rfl)
theorem dX9_seesOf_19 : decode cX9_seesOf 19 = .ok (.aload_n 0, 1) := dk_42 (dk_at dksX9_seesOf_0 19 rfl rfl)
theorem dX9_seesOf_20 : decode cX9_seesOf 20 = .ok (.getfield 98, 3) := dk_180 0 98 (dk_at dksX9_seesOf_0 20 rfl rfl)
theorem dX9_seesOf_23 : decode cX9_seesOf 23 = .ok (.iconst 4, 1) := dk_7 (dk_at dksX9_seesOf_0 23 rfl rfl)
theorem dX9_seesOf_24 : decode cX9_seesOf 24 = .ok (.iaload, 1) := dk_46 (dk_at dksX9_seesOf_1 0 rfl rfl)
theorem dX9_seesOf_25 : decode cX9_seesOf 25 = .ok (.if_icmp .lt 7, 3) := dk_161 0 7 (dk_at dksX9_seesOf_1 1 rfl rfl)
theorem dX9_seesOf_28 : decode cX9_seesOf 28 = .ok (.iconst 0, 1) := dk_3 (dk_at dksX9_seesOf_1 4 rfl rfl)
theorem dX9_seesOf_29 : decode cX9_seesOf 29 = .ok (.goto 16, 3) := dk_167 0 16 (dk_at dksX9_seesOf_1 5 rfl rfl)
theorem dX9_seesOf_32 : decode cX9_seesOf 32 = .ok (.aload_n 0, 1) := dk_42 (dk_at dksX9_seesOf_1 8 rfl rfl)
theorem dX9_seesOf_33 : decode cX9_seesOf 33 = .ok (.aload_n 0, 1) := dk_42 (dk_at dksX9_seesOf_1 9 rfl rfl)
theorem dX9_seesOf_34 : decode cX9_seesOf 34 = .ok (.getfield 98, 3) := dk_180 0 98 (dk_at dksX9_seesOf_1 10 rfl rfl)
theorem dX9_seesOf_37 : decode cX9_seesOf 37 = .ok (.bipush 26, 2) := dk_16 26 (dk_at dksX9_seesOf_1 13 rfl rfl)
theorem dX9_seesOf_39 : decode cX9_seesOf 39 = .ok (.iload_n 1, 1) := dk_27 (dk_at dksX9_seesOf_1 15 rfl rfl)
theorem dX9_seesOf_40 : decode cX9_seesOf 40 = .ok (.iadd, 1) := dk_96 (dk_at dksX9_seesOf_1 16 rfl rfl)
theorem dX9_seesOf_41 : decode cX9_seesOf 41 = .ok (.iaload, 1) := dk_46 (dk_at dksX9_seesOf_1 17 rfl rfl)
theorem dX9_seesOf_42 : decode cX9_seesOf 42 = .ok (.invokevirtual 221, 3) := dk_182 0 221 (dk_at dksX9_seesOf_1 18 rfl rfl)
theorem dX9_seesOf_45 : decode cX9_seesOf 45 = .ok (.ireturn, 1) := dk_172 (dk_at dksX9_seesOf_1 21 rfl rfl)
abbrev cX9_around : ByteArray := prog_22_method_47_code
def yX9_around : MethodName := ⟨RX9, "around", "(I)I"⟩
def dkwX9_around_0 : List UInt8 := [42, 180, 0, 98, 16, 6, 27, 96, 46, 4, 27, 120, 128, 172]
abbrev dktX9_around_0 : List UInt8 := dkwX9_around_0 ++ []
theorem dksX9_around_0 : cX9_around.data.toList.drop 0 = dktX9_around_0 := by decide +kernel
theorem dX9_around_0 : decode cX9_around 0 = .ok (.aload_n 0, 1) := dk_42 (dk_at dksX9_around_0 0 rfl rfl)
theorem dX9_around_1 : decode cX9_around 1 = .ok (.getfield 98, 3) := dk_180 0 98 (dk_at dksX9_around_0 1 rfl rfl)
theorem dX9_around_4 : decode cX9_around 4 = .ok (.bipush 6, 2) := dk_16 6 (dk_at dksX9_around_0 4 rfl rfl)
theorem dX9_around_6 : decode cX9_around 6 = .ok (.iload_n 1, 1) := dk_27 (dk_at dksX9_around_0 6 rfl rfl)
theorem dX9_around_7 : decode cX9_around 7 = .ok (.iadd, 1) := dk_96 (dk_at dksX9_around_0 7 rfl rfl)
theorem dX9_around_8 : decode cX9_around 8 = .ok (.iaload, 1) := dk_46 (dk_at dksX9_around_0 8 rfl rfl)
theorem dX9_around_9 : decode cX9_around 9 = .ok (.iconst 1, 1) := dk_4 (dk_at dksX9_around_0 9 rfl rfl)
theorem dX9_around_10 : decode cX9_around 10 = .ok (.iload_n 1, 1) := dk_27 (dk_at dksX9_around_0 10 rfl rfl)
theorem dX9_around_11 : decode cX9_around 11 = .ok (.ishl, 1) := dk_120 (dk_at dksX9_around_0 11 rfl rfl)
theorem dX9_around_12 : decode cX9_around 12 = .ok (.ior, 1) := dk_128 (dk_at dksX9_around_0 12 rfl rfl)
theorem dX9_around_13 : decode cX9_around 13 = .ok (.ireturn, 1) := dk_172 (dk_at dksX9_around_0 13 rfl rfl)
abbrev cX9_shownBy : ByteArray := prog_22_method_52_code
def yX9_shownBy : MethodName := ⟨RX9, "shownBy", "(IZ)I"⟩
def dkwX9_shownBy_2 : List UInt8 := [21, 4, 120, 128, 62, 132, 4, 1, 167, 255, 207, 29, 172]
abbrev dktX9_shownBy_2 : List UInt8 := dkwX9_shownBy_2 ++ []
def dkwX9_shownBy_1 : List UInt8 := [21, 4, 182, 0, 228, 153, 0, 23, 167, 0, 13, 42, 27, 21, 4, 182, 0, 231, 153, 0, 10, 29, 4]
abbrev dktX9_shownBy_1 : List UInt8 := dkwX9_shownBy_1 ++ dktX9_shownBy_2
def dkwX9_shownBy_0 : List UInt8 := [3, 62, 3, 54, 4, 21, 4, 42, 180, 0, 98, 16, 25, 46, 162, 0, 43, 28, 153, 0, 16, 42, 27]
abbrev dktX9_shownBy_0 : List UInt8 := dkwX9_shownBy_0 ++ dktX9_shownBy_1
theorem dksX9_shownBy_0 : cX9_shownBy.data.toList.drop 0 = dktX9_shownBy_0 := by decide +kernel
theorem dksX9_shownBy_1 : cX9_shownBy.data.toList.drop 23 = dktX9_shownBy_1 := dk_seg dksX9_shownBy_0 23 rfl rfl
theorem dksX9_shownBy_2 : cX9_shownBy.data.toList.drop 46 = dktX9_shownBy_2 := dk_seg dksX9_shownBy_1 23 rfl rfl
theorem dX9_shownBy_0 : decode cX9_shownBy 0 = .ok (.iconst 0, 1) := dk_3 (dk_at dksX9_shownBy_0 0 rfl rfl)
theorem dX9_shownBy_1 : decode cX9_shownBy 1 = .ok (.istore_n 3, 1) := dk_62 (dk_at dksX9_shownBy_0 1 rfl rfl)
theorem dX9_shownBy_2 : decode cX9_shownBy 2 = .ok (.iconst 0, 1) := dk_3 (dk_at dksX9_shownBy_0 2 rfl rfl)
theorem dX9_shownBy_3 : decode cX9_shownBy 3 = .ok (.istore 4, 2) := dk_54 4 (dk_at dksX9_shownBy_0 3 rfl rfl)
theorem dX9_shownBy_5 : decode cX9_shownBy 5 = .ok (.iload 4, 2) := dk_21 4 (dk_at dksX9_shownBy_0 5 rfl rfl)
theorem dX9_shownBy_7 : decode cX9_shownBy 7 = .ok (.aload_n 0, 1) := dk_42 (dk_at dksX9_shownBy_0 7 rfl rfl)
theorem dX9_shownBy_8 : decode cX9_shownBy 8 = .ok (.getfield 98, 3) := dk_180 0 98 (dk_at dksX9_shownBy_0 8 rfl rfl)
theorem dX9_shownBy_11 : decode cX9_shownBy 11 = .ok (.bipush 25, 2) := dk_16 25 (dk_at dksX9_shownBy_0 11 rfl rfl)
theorem dX9_shownBy_13 : decode cX9_shownBy 13 = .ok (.iaload, 1) := dk_46 (dk_at dksX9_shownBy_0 13 rfl rfl)
theorem dX9_shownBy_14 : decode cX9_shownBy 14 = .ok (.if_icmp .ge 43, 3) := dk_162 0 43 (dk_at dksX9_shownBy_0 14 rfl rfl)
theorem dX9_shownBy_17 : decode cX9_shownBy 17 = .ok (.iload_n 2, 1) := dk_28 (dk_at dksX9_shownBy_0 17 rfl rfl)
theorem dX9_shownBy_18 : decode cX9_shownBy 18 = .ok (.ifCond .eq 16, 3) := dk_153 0 16 (dk_at dksX9_shownBy_0 18 rfl rfl)
theorem dX9_shownBy_21 : decode cX9_shownBy 21 = .ok (.aload_n 0, 1) := dk_42 (dk_at dksX9_shownBy_0 21 rfl rfl)
theorem dX9_shownBy_22 : decode cX9_shownBy 22 = .ok (.iload_n 1, 1) := dk_27 (dk_at dksX9_shownBy_0 22 rfl rfl)
theorem dX9_shownBy_23 : decode cX9_shownBy 23 = .ok (.iload 4, 2) := dk_21 4 (dk_at dksX9_shownBy_1 0 rfl rfl)
theorem dX9_shownBy_25 : decode cX9_shownBy 25 = .ok (.invokevirtual 228, 3) := dk_182 0 228 (dk_at dksX9_shownBy_1 2 rfl rfl)
theorem dX9_shownBy_28 : decode cX9_shownBy 28 = .ok (.ifCond .eq 23, 3) := dk_153 0 23 (dk_at dksX9_shownBy_1 5 rfl rfl)
theorem dX9_shownBy_31 : decode cX9_shownBy 31 = .ok (.goto 13, 3) := dk_167 0 13 (dk_at dksX9_shownBy_1 8 rfl rfl)
theorem dX9_shownBy_34 : decode cX9_shownBy 34 = .ok (.aload_n 0, 1) := dk_42 (dk_at dksX9_shownBy_1 11 rfl rfl)
theorem dX9_shownBy_35 : decode cX9_shownBy 35 = .ok (.iload_n 1, 1) := dk_27 (dk_at dksX9_shownBy_1 12 rfl rfl)
theorem dX9_shownBy_36 : decode cX9_shownBy 36 = .ok (.iload 4, 2) := dk_21 4 (dk_at dksX9_shownBy_1 13 rfl rfl)
theorem dX9_shownBy_38 : decode cX9_shownBy 38 = .ok (.invokevirtual 231, 3) := dk_182 0 231 (dk_at dksX9_shownBy_1 15 rfl rfl)
theorem dX9_shownBy_41 : decode cX9_shownBy 41 = .ok (.ifCond .eq 10, 3) := dk_153 0 10 (dk_at dksX9_shownBy_1 18 rfl rfl)
theorem dX9_shownBy_44 : decode cX9_shownBy 44 = .ok (.iload_n 3, 1) := dk_29 (dk_at dksX9_shownBy_1 21 rfl rfl)
theorem dX9_shownBy_45 : decode cX9_shownBy 45 = .ok (.iconst 1, 1) := dk_4 (dk_at dksX9_shownBy_1 22 rfl rfl)
theorem dX9_shownBy_46 : decode cX9_shownBy 46 = .ok (.iload 4, 2) := dk_21 4 (dk_at dksX9_shownBy_2 0 rfl rfl)
theorem dX9_shownBy_48 : decode cX9_shownBy 48 = .ok (.ishl, 1) := dk_120 (dk_at dksX9_shownBy_2 2 rfl rfl)
theorem dX9_shownBy_49 : decode cX9_shownBy 49 = .ok (.ior, 1) := dk_128 (dk_at dksX9_shownBy_2 3 rfl rfl)
theorem dX9_shownBy_50 : decode cX9_shownBy 50 = .ok (.istore_n 3, 1) := dk_62 (dk_at dksX9_shownBy_2 4 rfl rfl)
theorem dX9_shownBy_51 : decode cX9_shownBy 51 = .ok (.iinc 4 1, 3) := dk_132 4 1 (dk_at dksX9_shownBy_2 5 rfl rfl)
theorem dX9_shownBy_54 : decode cX9_shownBy 54 = .ok (.goto (-49), 3) := dk_167 255 207 (dk_at dksX9_shownBy_2 8 rfl rfl)
theorem dX9_shownBy_57 : decode cX9_shownBy 57 = .ok (.iload_n 3, 1) := dk_29 (dk_at dksX9_shownBy_2 11 rfl rfl)
theorem dX9_shownBy_58 : decode cX9_shownBy 58 = .ok (.ireturn, 1) := dk_172 (dk_at dksX9_shownBy_2 12 rfl rfl)
abbrev cX9_hasCome : ByteArray := prog_22_method_50_code
def yX9_hasCome : MethodName := ⟨RX9, "hasCome", "(II)Z"⟩
def dkwX9_hasCome_1 : List UInt8 := [163, 0, 7, 4, 167, 0, 4, 3, 172]
abbrev dktX9_hasCome_1 : List UInt8 := dkwX9_hasCome_1 ++ []
def dkwX9_hasCome_0 : List UInt8 := [42, 27, 28, 182, 0, 224, 2, 159, 0, 23, 42, 27, 28, 182, 0, 224, 42, 180, 0, 98, 16, 24, 46]
abbrev dktX9_hasCome_0 : List UInt8 := dkwX9_hasCome_0 ++ dktX9_hasCome_1
theorem dksX9_hasCome_0 : cX9_hasCome.data.toList.drop 0 = dktX9_hasCome_0 := by decide +kernel
theorem dksX9_hasCome_1 : cX9_hasCome.data.toList.drop 23 = dktX9_hasCome_1 := dk_seg dksX9_hasCome_0 23 rfl rfl
theorem dX9_hasCome_0 : decode cX9_hasCome 0 = .ok (.aload_n 0, 1) := dk_42 (dk_at dksX9_hasCome_0 0 rfl rfl)
theorem dX9_hasCome_1 : decode cX9_hasCome 1 = .ok (.iload_n 1, 1) := dk_27 (dk_at dksX9_hasCome_0 1 rfl rfl)
theorem dX9_hasCome_2 : decode cX9_hasCome 2 = .ok (.iload_n 2, 1) := dk_28 (dk_at dksX9_hasCome_0 2 rfl rfl)
theorem dX9_hasCome_3 : decode cX9_hasCome 3 = .ok (.invokevirtual 224, 3) := dk_182 0 224 (dk_at dksX9_hasCome_0 3 rfl rfl)
theorem dX9_hasCome_6 : decode cX9_hasCome 6 = .ok (.iconst (-1), 1) := dk_2 (dk_at dksX9_hasCome_0 6 rfl rfl)
theorem dX9_hasCome_7 : decode cX9_hasCome 7 = .ok (.if_icmp .eq 23, 3) := dk_159 0 23 (dk_at dksX9_hasCome_0 7 rfl rfl)
theorem dX9_hasCome_10 : decode cX9_hasCome 10 = .ok (.aload_n 0, 1) := dk_42 (dk_at dksX9_hasCome_0 10 rfl rfl)
theorem dX9_hasCome_11 : decode cX9_hasCome 11 = .ok (.iload_n 1, 1) := dk_27 (dk_at dksX9_hasCome_0 11 rfl rfl)
theorem dX9_hasCome_12 : decode cX9_hasCome 12 = .ok (.iload_n 2, 1) := dk_28 (dk_at dksX9_hasCome_0 12 rfl rfl)
theorem dX9_hasCome_13 : decode cX9_hasCome 13 = .ok (.invokevirtual 224, 3) := dk_182 0 224 (dk_at dksX9_hasCome_0 13 rfl rfl)
theorem dX9_hasCome_16 : decode cX9_hasCome 16 = .ok (.aload_n 0, 1) := dk_42 (dk_at dksX9_hasCome_0 16 rfl rfl)
theorem dX9_hasCome_17 : decode cX9_hasCome 17 = .ok (.getfield 98, 3) := dk_180 0 98 (dk_at dksX9_hasCome_0 17 rfl rfl)
theorem dX9_hasCome_20 : decode cX9_hasCome 20 = .ok (.bipush 24, 2) := dk_16 24 (dk_at dksX9_hasCome_0 20 rfl rfl)
theorem dX9_hasCome_22 : decode cX9_hasCome 22 = .ok (.iaload, 1) := dk_46 (dk_at dksX9_hasCome_0 22 rfl rfl)
theorem dX9_hasCome_23 : decode cX9_hasCome 23 = .ok (.if_icmp .gt 7, 3) := dk_163 0 7 (dk_at dksX9_hasCome_1 0 rfl rfl)
theorem dX9_hasCome_26 : decode cX9_hasCome 26 = .ok (.iconst 1, 1) := dk_4 (dk_at dksX9_hasCome_1 3 rfl rfl)
theorem dX9_hasCome_27 : decode cX9_hasCome 27 = .ok (.goto 4, 3) := dk_167 0 4 (dk_at dksX9_hasCome_1 4 rfl rfl)
theorem dX9_hasCome_30 : decode cX9_hasCome 30 = .ok (.iconst 0, 1) := dk_3 (dk_at dksX9_hasCome_1 7 rfl rfl)
theorem dX9_hasCome_31 : decode cX9_hasCome 31 = .ok (.ireturn, 1) := dk_172 (dk_at dksX9_hasCome_1 8 rfl rfl)
abbrev cX9_leafOf : ByteArray := prog_22_method_49_code
def yX9_leafOf : MethodName := ⟨RX9, "leafOf", "(II)I"⟩
def dkwX9_leafOf_0 : List UInt8 := [42, 180, 0, 98, 16, 86, 16, 12, 27, 104, 96, 28, 96, 46, 172]
abbrev dktX9_leafOf_0 : List UInt8 := dkwX9_leafOf_0 ++ []
theorem dksX9_leafOf_0 : cX9_leafOf.data.toList.drop 0 = dktX9_leafOf_0 := by decide +kernel
theorem dX9_leafOf_0 : decode cX9_leafOf 0 = .ok (.aload_n 0, 1) := dk_42 (dk_at dksX9_leafOf_0 0 rfl rfl)
theorem dX9_leafOf_1 : decode cX9_leafOf 1 = .ok (.getfield 98, 3) := dk_180 0 98 (dk_at dksX9_leafOf_0 1 rfl rfl)
theorem dX9_leafOf_4 : decode cX9_leafOf 4 = .ok (.bipush 86, 2) := dk_16 86 (dk_at dksX9_leafOf_0 4 rfl rfl)
theorem dX9_leafOf_6 : decode cX9_leafOf 6 = .ok (.bipush 12, 2) := dk_16 12 (dk_at dksX9_leafOf_0 6 rfl rfl)
theorem dX9_leafOf_8 : decode cX9_leafOf 8 = .ok (.iload_n 1, 1) := dk_27 (dk_at dksX9_leafOf_0 8 rfl rfl)
theorem dX9_leafOf_9 : decode cX9_leafOf 9 = .ok (.imul, 1) := dk_104 (dk_at dksX9_leafOf_0 9 rfl rfl)
theorem dX9_leafOf_10 : decode cX9_leafOf 10 = .ok (.iadd, 1) := dk_96 (dk_at dksX9_leafOf_0 10 rfl rfl)
theorem dX9_leafOf_11 : decode cX9_leafOf 11 = .ok (.iload_n 2, 1) := dk_28 (dk_at dksX9_leafOf_0 11 rfl rfl)
theorem dX9_leafOf_12 : decode cX9_leafOf 12 = .ok (.iadd, 1) := dk_96 (dk_at dksX9_leafOf_0 12 rfl rfl)
theorem dX9_leafOf_13 : decode cX9_leafOf 13 = .ok (.iaload, 1) := dk_46 (dk_at dksX9_leafOf_0 13 rfl rfl)
theorem dX9_leafOf_14 : decode cX9_leafOf 14 = .ok (.ireturn, 1) := dk_172 (dk_at dksX9_leafOf_0 14 rfl rfl)
abbrev cX9_willCome : ByteArray := prog_22_method_51_code
def yX9_willCome : MethodName := ⟨RX9, "willCome", "(II)Z"⟩
def dkwX9_willCome_0 : List UInt8 := [42, 27, 28, 182, 0, 224, 42, 180, 0, 98, 16, 24, 46, 164, 0, 7, 4, 167, 0, 4, 3, 172]
abbrev dktX9_willCome_0 : List UInt8 := dkwX9_willCome_0 ++ []
theorem dksX9_willCome_0 : cX9_willCome.data.toList.drop 0 = dktX9_willCome_0 := by decide +kernel
theorem dX9_willCome_0 : decode cX9_willCome 0 = .ok (.aload_n 0, 1) := dk_42 (dk_at dksX9_willCome_0 0 rfl rfl)
theorem dX9_willCome_1 : decode cX9_willCome 1 = .ok (.iload_n 1, 1) := dk_27 (dk_at dksX9_willCome_0 1 rfl rfl)
theorem dX9_willCome_2 : decode cX9_willCome 2 = .ok (.iload_n 2, 1) := dk_28 (dk_at dksX9_willCome_0 2 rfl rfl)
theorem dX9_willCome_3 : decode cX9_willCome 3 = .ok (.invokevirtual 224, 3) := dk_182 0 224 (dk_at dksX9_willCome_0 3 rfl rfl)
theorem dX9_willCome_6 : decode cX9_willCome 6 = .ok (.aload_n 0, 1) := dk_42 (dk_at dksX9_willCome_0 6 rfl rfl)
theorem dX9_willCome_7 : decode cX9_willCome 7 = .ok (.getfield 98, 3) := dk_180 0 98 (dk_at dksX9_willCome_0 7 rfl rfl)
theorem dX9_willCome_10 : decode cX9_willCome 10 = .ok (.bipush 24, 2) := dk_16 24 (dk_at dksX9_willCome_0 10 rfl rfl)
theorem dX9_willCome_12 : decode cX9_willCome 12 = .ok (.iaload, 1) := dk_46 (dk_at dksX9_willCome_0 12 rfl rfl)
theorem dX9_willCome_13 : decode cX9_willCome 13 = .ok (.if_icmp .le 7, 3) := dk_164 0 7 (dk_at dksX9_willCome_0 13 rfl rfl)
theorem dX9_willCome_16 : decode cX9_willCome 16 = .ok (.iconst 1, 1) := dk_4 (dk_at dksX9_willCome_0 16 rfl rfl)
theorem dX9_willCome_17 : decode cX9_willCome 17 = .ok (.goto 4, 3) := dk_167 0 4 (dk_at dksX9_willCome_0 17 rfl rfl)
theorem dX9_willCome_20 : decode cX9_willCome 20 = .ok (.iconst 0, 1) := dk_3 (dk_at dksX9_willCome_0 20 rfl rfl)
theorem dX9_willCome_21 : decode cX9_willCome 21 = .ok (.ireturn, 1) := dk_172 (dk_at dksX9_willCome_0 21 rfl rfl)
abbrev cX9_bits : ByteArray := prog_22_method_9_code
def yX9_bits : MethodName := ⟨RX9, "bits", "(I)I"⟩
def dkwX9_bits_0 : List UInt8 := [3, 60, 26, 61, 28, 153, 0, 15, 132, 1, 1, 28, 28, 4, 100, 126, 61, 167, 255, 243, 27, 172]
abbrev dktX9_bits_0 : List UInt8 := dkwX9_bits_0 ++ []
theorem dksX9_bits_0 : cX9_bits.data.toList.drop 0 = dktX9_bits_0 := by decide +kernel
theorem dX9_bits_0 : decode cX9_bits 0 = .ok (.iconst 0, 1) := dk_3 (dk_at dksX9_bits_0 0 rfl rfl)
theorem dX9_bits_1 : decode cX9_bits 1 = .ok (.istore_n 1, 1) := dk_60 (dk_at dksX9_bits_0 1 rfl rfl)
theorem dX9_bits_2 : decode cX9_bits 2 = .ok (.iload_n 0, 1) := dk_26 (dk_at dksX9_bits_0 2 rfl rfl)
theorem dX9_bits_3 : decode cX9_bits 3 = .ok (.istore_n 2, 1) := dk_61 (dk_at dksX9_bits_0 3 rfl rfl)
theorem dX9_bits_4 : decode cX9_bits 4 = .ok (.iload_n 2, 1) := dk_28 (dk_at dksX9_bits_0 4 rfl rfl)
theorem dX9_bits_5 : decode cX9_bits 5 = .ok (.ifCond .eq 15, 3) := dk_153 0 15 (dk_at dksX9_bits_0 5 rfl rfl)
theorem dX9_bits_8 : decode cX9_bits 8 = .ok (.iinc 1 1, 3) := dk_132 1 1 (dk_at dksX9_bits_0 8 rfl rfl)
theorem dX9_bits_11 : decode cX9_bits 11 = .ok (.iload_n 2, 1) := dk_28 (dk_at dksX9_bits_0 11 rfl rfl)
theorem dX9_bits_12 : decode cX9_bits 12 = .ok (.iload_n 2, 1) := dk_28 (dk_at dksX9_bits_0 12 rfl rfl)
theorem dX9_bits_13 : decode cX9_bits 13 = .ok (.iconst 1, 1) := dk_4 (dk_at dksX9_bits_0 13 rfl rfl)
theorem dX9_bits_14 : decode cX9_bits 14 = .ok (.isub, 1) := dk_100 (dk_at dksX9_bits_0 14 rfl rfl)
theorem dX9_bits_15 : decode cX9_bits 15 = .ok (.iand, 1) := dk_126 (dk_at dksX9_bits_0 15 rfl rfl)
theorem dX9_bits_16 : decode cX9_bits 16 = .ok (.istore_n 2, 1) := dk_61 (dk_at dksX9_bits_0 16 rfl rfl)
theorem dX9_bits_17 : decode cX9_bits 17 = .ok (.goto (-13), 3) := dk_167 255 243 (dk_at dksX9_bits_0 17 rfl rfl)
theorem dX9_bits_20 : decode cX9_bits 20 = .ok (.iload_n 1, 1) := dk_27 (dk_at dksX9_bits_0 20 rfl rfl)
theorem dX9_bits_21 : decode cX9_bits 21 = .ok (.ireturn, 1) := dk_172 (dk_at dksX9_bits_0 21 rfl rfl)
abbrev cX9_act : ByteArray := prog_22_method_57_code
def yX9_act : MethodName := ⟨RX9, "act", "(II)I"⟩
def dkwX9_act_5 : List UInt8 := [172]
abbrev dktX9_act_5 : List UInt8 := dkwX9_act_5 ++ []
def dkwX9_act_4 : List UInt8 := [27, 3, 182, 0, 234, 172, 42, 27, 182, 0, 241, 153, 0, 7, 4, 167, 0, 4, 3, 172, 42, 182, 0, 247]
abbrev dktX9_act_4 : List UInt8 := dkwX9_act_4 ++ dktX9_act_5
def dkwX9_act_3 : List UInt8 := [16, 62, 27, 96, 46, 172, 42, 180, 0, 98, 16, 74, 27, 96, 46, 172, 42, 27, 4, 182, 0, 234, 172, 42]
abbrev dktX9_act_3 : List UInt8 := dkwX9_act_3 ++ dktX9_act_4
def dkwX9_act_2 : List UInt8 := [42, 180, 0, 98, 16, 38, 27, 96, 46, 172, 42, 180, 0, 98, 16, 50, 27, 96, 46, 172, 42, 180, 0, 98]
abbrev dktX9_act_2 : List UInt8 := dkwX9_act_2 ++ dktX9_act_3
def dkwX9_act_1 : List UInt8 := [170, 0, 0, 0, 109, 0, 0, 0, 0, 0, 0, 0, 6, 0, 0, 0, 41, 0, 0, 0, 51, 0, 0, 0, 61, 0, 0, 0, 71, 0, 0, 0, 81, 0, 0, 0, 88, 0, 0, 0, 95]
abbrev dktX9_act_1 : List UInt8 := dkwX9_act_1 ++ dktX9_act_2
def dkwX9_act_0 : List UInt8 := [42, 3, 181, 0, 1, 42, 27, 182, 1, 0, 154, 0, 8, 42, 182, 0, 247, 172, 28]
abbrev dktX9_act_0 : List UInt8 := dkwX9_act_0 ++ dktX9_act_1
theorem dksX9_act_0 : cX9_act.data.toList.drop 0 = dktX9_act_0 := by decide +kernel
theorem dksX9_act_1 : cX9_act.data.toList.drop 19 = dktX9_act_1 := dk_seg dksX9_act_0 19 rfl rfl
theorem dksX9_act_2 : cX9_act.data.toList.drop 60 = dktX9_act_2 := dk_seg dksX9_act_1 41 rfl rfl
theorem dksX9_act_3 : cX9_act.data.toList.drop 84 = dktX9_act_3 := dk_seg dksX9_act_2 24 rfl rfl
theorem dksX9_act_4 : cX9_act.data.toList.drop 108 = dktX9_act_4 := dk_seg dksX9_act_3 24 rfl rfl
theorem dksX9_act_5 : cX9_act.data.toList.drop 132 = dktX9_act_5 := dk_seg dksX9_act_4 24 rfl rfl
theorem dX9_act_0 : decode cX9_act 0 = .ok (.aload_n 0, 1) := dk_42 (dk_at dksX9_act_0 0 rfl rfl)
theorem dX9_act_1 : decode cX9_act 1 = .ok (.iconst 0, 1) := dk_3 (dk_at dksX9_act_0 1 rfl rfl)
theorem dX9_act_2 : decode cX9_act 2 = .ok (.putfield 1, 3) := dk_181 0 1 (dk_at dksX9_act_0 2 rfl rfl)
theorem dX9_act_5 : decode cX9_act 5 = .ok (.aload_n 0, 1) := dk_42 (dk_at dksX9_act_0 5 rfl rfl)
theorem dX9_act_6 : decode cX9_act 6 = .ok (.iload_n 1, 1) := dk_27 (dk_at dksX9_act_0 6 rfl rfl)
theorem dX9_act_7 : decode cX9_act 7 = .ok (.invokevirtual 256, 3) := dk_182 1 0 (dk_at dksX9_act_0 7 rfl rfl)
theorem dX9_act_10 : decode cX9_act 10 = .ok (.ifCond .ne 8, 3) := dk_154 0 8 (dk_at dksX9_act_0 10 rfl rfl)
theorem dX9_act_13 : decode cX9_act 13 = .ok (.aload_n 0, 1) := dk_42 (dk_at dksX9_act_0 13 rfl rfl)
theorem dX9_act_14 : decode cX9_act 14 = .ok (.invokevirtual 247, 3) := dk_182 0 247 (dk_at dksX9_act_0 14 rfl rfl)
theorem dX9_act_17 : decode cX9_act 17 = .ok (.ireturn, 1) := dk_172 (dk_at dksX9_act_0 17 rfl rfl)
theorem dX9_act_18 : decode cX9_act 18 = .ok (.iload_n 2, 1) := dk_28 (dk_at dksX9_act_0 18 rfl rfl)
theorem dX9_act_19 : decode cX9_act 19 = .ok (.tableswitch 109 0 6 #[41, 51, 61, 71, 81, 88, 95], 41) := by decide +kernel
theorem dX9_act_60 : decode cX9_act 60 = .ok (.aload_n 0, 1) := dk_42 (dk_at dksX9_act_2 0 rfl rfl)
theorem dX9_act_61 : decode cX9_act 61 = .ok (.getfield 98, 3) := dk_180 0 98 (dk_at dksX9_act_2 1 rfl rfl)
theorem dX9_act_64 : decode cX9_act 64 = .ok (.bipush 38, 2) := dk_16 38 (dk_at dksX9_act_2 4 rfl rfl)
theorem dX9_act_66 : decode cX9_act 66 = .ok (.iload_n 1, 1) := dk_27 (dk_at dksX9_act_2 6 rfl rfl)
theorem dX9_act_67 : decode cX9_act 67 = .ok (.iadd, 1) := dk_96 (dk_at dksX9_act_2 7 rfl rfl)
theorem dX9_act_68 : decode cX9_act 68 = .ok (.iaload, 1) := dk_46 (dk_at dksX9_act_2 8 rfl rfl)
theorem dX9_act_69 : decode cX9_act 69 = .ok (.ireturn, 1) := dk_172 (dk_at dksX9_act_2 9 rfl rfl)
theorem dX9_act_70 : decode cX9_act 70 = .ok (.aload_n 0, 1) := dk_42 (dk_at dksX9_act_2 10 rfl rfl)
theorem dX9_act_71 : decode cX9_act 71 = .ok (.getfield 98, 3) := dk_180 0 98 (dk_at dksX9_act_2 11 rfl rfl)
theorem dX9_act_74 : decode cX9_act 74 = .ok (.bipush 50, 2) := dk_16 50 (dk_at dksX9_act_2 14 rfl rfl)
theorem dX9_act_76 : decode cX9_act 76 = .ok (.iload_n 1, 1) := dk_27 (dk_at dksX9_act_2 16 rfl rfl)
theorem dX9_act_77 : decode cX9_act 77 = .ok (.iadd, 1) := dk_96 (dk_at dksX9_act_2 17 rfl rfl)
theorem dX9_act_78 : decode cX9_act 78 = .ok (.iaload, 1) := dk_46 (dk_at dksX9_act_2 18 rfl rfl)
theorem dX9_act_79 : decode cX9_act 79 = .ok (.ireturn, 1) := dk_172 (dk_at dksX9_act_2 19 rfl rfl)
theorem dX9_act_80 : decode cX9_act 80 = .ok (.aload_n 0, 1) := dk_42 (dk_at dksX9_act_2 20 rfl rfl)
theorem dX9_act_81 : decode cX9_act 81 = .ok (.getfield 98, 3) := dk_180 0 98 (dk_at dksX9_act_2 21 rfl rfl)
theorem dX9_act_84 : decode cX9_act 84 = .ok (.bipush 62, 2) := dk_16 62 (dk_at dksX9_act_3 0 rfl rfl)
theorem dX9_act_86 : decode cX9_act 86 = .ok (.iload_n 1, 1) := dk_27 (dk_at dksX9_act_3 2 rfl rfl)
theorem dX9_act_87 : decode cX9_act 87 = .ok (.iadd, 1) := dk_96 (dk_at dksX9_act_3 3 rfl rfl)
theorem dX9_act_88 : decode cX9_act 88 = .ok (.iaload, 1) := dk_46 (dk_at dksX9_act_3 4 rfl rfl)
theorem dX9_act_89 : decode cX9_act 89 = .ok (.ireturn, 1) := dk_172 (dk_at dksX9_act_3 5 rfl rfl)
theorem dX9_act_90 : decode cX9_act 90 = .ok (.aload_n 0, 1) := dk_42 (dk_at dksX9_act_3 6 rfl rfl)
theorem dX9_act_91 : decode cX9_act 91 = .ok (.getfield 98, 3) := dk_180 0 98 (dk_at dksX9_act_3 7 rfl rfl)
theorem dX9_act_94 : decode cX9_act 94 = .ok (.bipush 74, 2) := dk_16 74 (dk_at dksX9_act_3 10 rfl rfl)
theorem dX9_act_96 : decode cX9_act 96 = .ok (.iload_n 1, 1) := dk_27 (dk_at dksX9_act_3 12 rfl rfl)
theorem dX9_act_97 : decode cX9_act 97 = .ok (.iadd, 1) := dk_96 (dk_at dksX9_act_3 13 rfl rfl)
theorem dX9_act_98 : decode cX9_act 98 = .ok (.iaload, 1) := dk_46 (dk_at dksX9_act_3 14 rfl rfl)
theorem dX9_act_99 : decode cX9_act 99 = .ok (.ireturn, 1) := dk_172 (dk_at dksX9_act_3 15 rfl rfl)
theorem dX9_act_100 : decode cX9_act 100 = .ok (.aload_n 0, 1) := dk_42 (dk_at dksX9_act_3 16 rfl rfl)
theorem dX9_act_101 : decode cX9_act 101 = .ok (.iload_n 1, 1) := dk_27 (dk_at dksX9_act_3 17 rfl rfl)
theorem dX9_act_102 : decode cX9_act 102 = .ok (.iconst 1, 1) := dk_4 (dk_at dksX9_act_3 18 rfl rfl)
theorem dX9_act_103 : decode cX9_act 103 = .ok (.invokevirtual 234, 3) := dk_182 0 234 (dk_at dksX9_act_3 19 rfl rfl)
theorem dX9_act_106 : decode cX9_act 106 = .ok (.ireturn, 1) := dk_172 (dk_at dksX9_act_3 22 rfl rfl)
theorem dX9_act_107 : decode cX9_act 107 = .ok (.aload_n 0, 1) := dk_42 (dk_at dksX9_act_3 23 rfl rfl)
theorem dX9_act_108 : decode cX9_act 108 = .ok (.iload_n 1, 1) := dk_27 (dk_at dksX9_act_4 0 rfl rfl)
theorem dX9_act_109 : decode cX9_act 109 = .ok (.iconst 0, 1) := dk_3 (dk_at dksX9_act_4 1 rfl rfl)
theorem dX9_act_110 : decode cX9_act 110 = .ok (.invokevirtual 234, 3) := dk_182 0 234 (dk_at dksX9_act_4 2 rfl rfl)
theorem dX9_act_113 : decode cX9_act 113 = .ok (.ireturn, 1) := dk_172 (dk_at dksX9_act_4 5 rfl rfl)
theorem dX9_act_114 : decode cX9_act 114 = .ok (.aload_n 0, 1) := dk_42 (dk_at dksX9_act_4 6 rfl rfl)
theorem dX9_act_115 : decode cX9_act 115 = .ok (.iload_n 1, 1) := dk_27 (dk_at dksX9_act_4 7 rfl rfl)
theorem dX9_act_116 : decode cX9_act 116 = .ok (.invokevirtual 241, 3) := dk_182 0 241 (dk_at dksX9_act_4 8 rfl rfl)
theorem dX9_act_119 : decode cX9_act 119 = .ok (.ifCond .eq 7, 3) := dk_153 0 7 (dk_at dksX9_act_4 11 rfl rfl)
theorem dX9_act_122 : decode cX9_act 122 = .ok (.iconst 1, 1) := dk_4 (dk_at dksX9_act_4 14 rfl rfl)
theorem dX9_act_123 : decode cX9_act 123 = .ok (.goto 4, 3) := dk_167 0 4 (dk_at dksX9_act_4 15 rfl rfl)
theorem dX9_act_126 : decode cX9_act 126 = .ok (.iconst 0, 1) := dk_3 (dk_at dksX9_act_4 18 rfl rfl)
theorem dX9_act_127 : decode cX9_act 127 = .ok (.ireturn, 1) := dk_172 (dk_at dksX9_act_4 19 rfl rfl)
theorem dX9_act_128 : decode cX9_act 128 = .ok (.aload_n 0, 1) := dk_42 (dk_at dksX9_act_4 20 rfl rfl)
theorem dX9_act_129 : decode cX9_act 129 = .ok (.invokevirtual 247, 3) := dk_182 0 247 (dk_at dksX9_act_4 21 rfl rfl)
theorem dX9_act_132 : decode cX9_act 132 = .ok (.ireturn, 1) := dk_172 (dk_at dksX9_act_5 0 rfl rfl)
abbrev cX9_isAct : ByteArray := prog_22_method_45_code
def yX9_isAct : MethodName := ⟨RX9, "isAct", "(I)Z"⟩
def dkwX9_isAct_0 : List UInt8 := [27, 3, 42, 180, 0, 98, 16, 25, 46, 4, 100, 184, 0, 75, 172]
abbrev dktX9_isAct_0 : List UInt8 := dkwX9_isAct_0 ++ []
theorem dksX9_isAct_0 : cX9_isAct.data.toList.drop 0 = dktX9_isAct_0 := by decide +kernel
theorem dX9_isAct_0 : decode cX9_isAct 0 = .ok (.iload_n 1, 1) := dk_27 (dk_at dksX9_isAct_0 0 rfl rfl)
theorem dX9_isAct_1 : decode cX9_isAct 1 = .ok (.iconst 0, 1) := dk_3 (dk_at dksX9_isAct_0 1 rfl rfl)
theorem dX9_isAct_2 : decode cX9_isAct 2 = .ok (.aload_n 0, 1) := dk_42 (dk_at dksX9_isAct_0 2 rfl rfl)
theorem dX9_isAct_3 : decode cX9_isAct 3 = .ok (.getfield 98, 3) := dk_180 0 98 (dk_at dksX9_isAct_0 3 rfl rfl)
theorem dX9_isAct_6 : decode cX9_isAct 6 = .ok (.bipush 25, 2) := dk_16 25 (dk_at dksX9_isAct_0 6 rfl rfl)
theorem dX9_isAct_8 : decode cX9_isAct 8 = .ok (.iaload, 1) := dk_46 (dk_at dksX9_isAct_0 8 rfl rfl)
theorem dX9_isAct_9 : decode cX9_isAct 9 = .ok (.iconst 1, 1) := dk_4 (dk_at dksX9_isAct_0 9 rfl rfl)
theorem dX9_isAct_10 : decode cX9_isAct 10 = .ok (.isub, 1) := dk_100 (dk_at dksX9_isAct_0 10 rfl rfl)
theorem dX9_isAct_11 : decode cX9_isAct 11 = .ok (.invokestatic 75, 3) := dk_184 0 75 (dk_at dksX9_isAct_0 11 rfl rfl)
theorem dX9_isAct_14 : decode cX9_isAct 14 = .ok (.ireturn, 1) := dk_172 (dk_at dksX9_isAct_0 14 rfl rfl)
abbrev cX9_plantsFor : ByteArray := prog_22_method_53_code
def yX9_plantsFor : MethodName := ⟨RX9, "plantsFor", "(IZ)I"⟩
def dkwX9_plantsFor_2 : List UInt8 := [128, 62, 132, 4, 1, 167, 255, 208, 29, 172]
abbrev dktX9_plantsFor_2 : List UInt8 := dkwX9_plantsFor_2 ++ []
def dkwX9_plantsFor_1 : List UInt8 := [182, 0, 228, 153, 0, 23, 167, 0, 13, 42, 21, 4, 27, 182, 0, 231, 153, 0, 10, 29, 4, 21, 4, 120]
abbrev dktX9_plantsFor_1 : List UInt8 := dkwX9_plantsFor_1 ++ dktX9_plantsFor_2
def dkwX9_plantsFor_0 : List UInt8 := [3, 62, 3, 54, 4, 21, 4, 42, 180, 0, 98, 4, 46, 162, 0, 43, 28, 153, 0, 16, 42, 21, 4, 27]
abbrev dktX9_plantsFor_0 : List UInt8 := dkwX9_plantsFor_0 ++ dktX9_plantsFor_1
theorem dksX9_plantsFor_0 : cX9_plantsFor.data.toList.drop 0 = dktX9_plantsFor_0 := by decide +kernel
theorem dksX9_plantsFor_1 : cX9_plantsFor.data.toList.drop 24 = dktX9_plantsFor_1 := dk_seg dksX9_plantsFor_0 24 rfl rfl
theorem dksX9_plantsFor_2 : cX9_plantsFor.data.toList.drop 48 = dktX9_plantsFor_2 := dk_seg dksX9_plantsFor_1 24 rfl rfl
theorem dX9_plantsFor_0 : decode cX9_plantsFor 0 = .ok (.iconst 0, 1) := dk_3 (dk_at dksX9_plantsFor_0 0 rfl rfl)
theorem dX9_plantsFor_1 : decode cX9_plantsFor 1 = .ok (.istore_n 3, 1) := dk_62 (dk_at dksX9_plantsFor_0 1 rfl rfl)
theorem dX9_plantsFor_2 : decode cX9_plantsFor 2 = .ok (.iconst 0, 1) := dk_3 (dk_at dksX9_plantsFor_0 2 rfl rfl)
theorem dX9_plantsFor_3 : decode cX9_plantsFor 3 = .ok (.istore 4, 2) := dk_54 4 (dk_at dksX9_plantsFor_0 3 rfl rfl)
theorem dX9_plantsFor_5 : decode cX9_plantsFor 5 = .ok (.iload 4, 2) := dk_21 4 (dk_at dksX9_plantsFor_0 5 rfl rfl)
theorem dX9_plantsFor_7 : decode cX9_plantsFor 7 = .ok (.aload_n 0, 1) := dk_42 (dk_at dksX9_plantsFor_0 7 rfl rfl)
theorem dX9_plantsFor_8 : decode cX9_plantsFor 8 = .ok (.getfield 98, 3) := dk_180 0 98 (dk_at dksX9_plantsFor_0 8 rfl rfl)
theorem dX9_plantsFor_11 : decode cX9_plantsFor 11 = .ok (.iconst 1, 1) := dk_4 (dk_at dksX9_plantsFor_0 11 rfl rfl)
theorem dX9_plantsFor_12 : decode cX9_plantsFor 12 = .ok (.iaload, 1) := dk_46 (dk_at dksX9_plantsFor_0 12 rfl rfl)
theorem dX9_plantsFor_13 : decode cX9_plantsFor 13 = .ok (.if_icmp .ge 43, 3) := dk_162 0 43 (dk_at dksX9_plantsFor_0 13 rfl rfl)
theorem dX9_plantsFor_16 : decode cX9_plantsFor 16 = .ok (.iload_n 2, 1) := dk_28 (dk_at dksX9_plantsFor_0 16 rfl rfl)
theorem dX9_plantsFor_17 : decode cX9_plantsFor 17 = .ok (.ifCond .eq 16, 3) := dk_153 0 16 (dk_at dksX9_plantsFor_0 17 rfl rfl)
theorem dX9_plantsFor_20 : decode cX9_plantsFor 20 = .ok (.aload_n 0, 1) := dk_42 (dk_at dksX9_plantsFor_0 20 rfl rfl)
theorem dX9_plantsFor_21 : decode cX9_plantsFor 21 = .ok (.iload 4, 2) := dk_21 4 (dk_at dksX9_plantsFor_0 21 rfl rfl)
theorem dX9_plantsFor_23 : decode cX9_plantsFor 23 = .ok (.iload_n 1, 1) := dk_27 (dk_at dksX9_plantsFor_0 23 rfl rfl)
theorem dX9_plantsFor_24 : decode cX9_plantsFor 24 = .ok (.invokevirtual 228, 3) := dk_182 0 228 (dk_at dksX9_plantsFor_1 0 rfl rfl)
theorem dX9_plantsFor_27 : decode cX9_plantsFor 27 = .ok (.ifCond .eq 23, 3) := dk_153 0 23 (dk_at dksX9_plantsFor_1 3 rfl rfl)
theorem dX9_plantsFor_30 : decode cX9_plantsFor 30 = .ok (.goto 13, 3) := dk_167 0 13 (dk_at dksX9_plantsFor_1 6 rfl rfl)
theorem dX9_plantsFor_33 : decode cX9_plantsFor 33 = .ok (.aload_n 0, 1) := dk_42 (dk_at dksX9_plantsFor_1 9 rfl rfl)
theorem dX9_plantsFor_34 : decode cX9_plantsFor 34 = .ok (.iload 4, 2) := dk_21 4 (dk_at dksX9_plantsFor_1 10 rfl rfl)
theorem dX9_plantsFor_36 : decode cX9_plantsFor 36 = .ok (.iload_n 1, 1) := dk_27 (dk_at dksX9_plantsFor_1 12 rfl rfl)
theorem dX9_plantsFor_37 : decode cX9_plantsFor 37 = .ok (.invokevirtual 231, 3) := dk_182 0 231 (dk_at dksX9_plantsFor_1 13 rfl rfl)
theorem dX9_plantsFor_40 : decode cX9_plantsFor 40 = .ok (.ifCond .eq 10, 3) := dk_153 0 10 (dk_at dksX9_plantsFor_1 16 rfl rfl)
theorem dX9_plantsFor_43 : decode cX9_plantsFor 43 = .ok (.iload_n 3, 1) := dk_29 (dk_at dksX9_plantsFor_1 19 rfl rfl)
theorem dX9_plantsFor_44 : decode cX9_plantsFor 44 = .ok (.iconst 1, 1) := dk_4 (dk_at dksX9_plantsFor_1 20 rfl rfl)
theorem dX9_plantsFor_45 : decode cX9_plantsFor 45 = .ok (.iload 4, 2) := dk_21 4 (dk_at dksX9_plantsFor_1 21 rfl rfl)
theorem dX9_plantsFor_47 : decode cX9_plantsFor 47 = .ok (.ishl, 1) := dk_120 (dk_at dksX9_plantsFor_1 23 rfl rfl)
theorem dX9_plantsFor_48 : decode cX9_plantsFor 48 = .ok (.ior, 1) := dk_128 (dk_at dksX9_plantsFor_2 0 rfl rfl)
theorem dX9_plantsFor_49 : decode cX9_plantsFor 49 = .ok (.istore_n 3, 1) := dk_62 (dk_at dksX9_plantsFor_2 1 rfl rfl)
theorem dX9_plantsFor_50 : decode cX9_plantsFor 50 = .ok (.iinc 4 1, 3) := dk_132 4 1 (dk_at dksX9_plantsFor_2 2 rfl rfl)
theorem dX9_plantsFor_53 : decode cX9_plantsFor 53 = .ok (.goto (-48), 3) := dk_167 255 208 (dk_at dksX9_plantsFor_2 5 rfl rfl)
theorem dX9_plantsFor_56 : decode cX9_plantsFor 56 = .ok (.iload_n 3, 1) := dk_29 (dk_at dksX9_plantsFor_2 8 rfl rfl)
theorem dX9_plantsFor_57 : decode cX9_plantsFor 57 = .ok (.ireturn, 1) := dk_172 (dk_at dksX9_plantsFor_2 9 rfl rfl)
abbrev cX9_isProved : ByteArray := prog_22_method_54_code
def yX9_isProved : MethodName := ⟨RX9, "isProved", "(I)Z"⟩
def dkwX9_isProved_0 : List UInt8 := [42, 27, 4, 182, 0, 234, 184, 0, 238, 42, 180, 0, 98, 8, 46, 161, 0, 7, 4, 167, 0, 4, 3, 172]
abbrev dktX9_isProved_0 : List UInt8 := dkwX9_isProved_0 ++ []
theorem dksX9_isProved_0 : cX9_isProved.data.toList.drop 0 = dktX9_isProved_0 := by decide +kernel
theorem dX9_isProved_0 : decode cX9_isProved 0 = .ok (.aload_n 0, 1) := dk_42 (dk_at dksX9_isProved_0 0 rfl rfl)
theorem dX9_isProved_1 : decode cX9_isProved 1 = .ok (.iload_n 1, 1) := dk_27 (dk_at dksX9_isProved_0 1 rfl rfl)
theorem dX9_isProved_2 : decode cX9_isProved 2 = .ok (.iconst 1, 1) := dk_4 (dk_at dksX9_isProved_0 2 rfl rfl)
theorem dX9_isProved_3 : decode cX9_isProved 3 = .ok (.invokevirtual 234, 3) := dk_182 0 234 (dk_at dksX9_isProved_0 3 rfl rfl)
theorem dX9_isProved_6 : decode cX9_isProved 6 = .ok (.invokestatic 238, 3) := dk_184 0 238 (dk_at dksX9_isProved_0 6 rfl rfl)
theorem dX9_isProved_9 : decode cX9_isProved 9 = .ok (.aload_n 0, 1) := dk_42 (dk_at dksX9_isProved_0 9 rfl rfl)
theorem dX9_isProved_10 : decode cX9_isProved 10 = .ok (.getfield 98, 3) := dk_180 0 98 (dk_at dksX9_isProved_0 10 rfl rfl)
theorem dX9_isProved_13 : decode cX9_isProved 13 = .ok (.iconst 5, 1) := dk_8 (dk_at dksX9_isProved_0 13 rfl rfl)
theorem dX9_isProved_14 : decode cX9_isProved 14 = .ok (.iaload, 1) := dk_46 (dk_at dksX9_isProved_0 14 rfl rfl)
theorem dX9_isProved_15 : decode cX9_isProved 15 = .ok (.if_icmp .lt 7, 3) := dk_161 0 7 (dk_at dksX9_isProved_0 15 rfl rfl)
theorem dX9_isProved_18 : decode cX9_isProved 18 = .ok (.iconst 1, 1) := dk_4 (dk_at dksX9_isProved_0 18 rfl rfl)
theorem dX9_isProved_19 : decode cX9_isProved 19 = .ok (.goto 4, 3) := dk_167 0 4 (dk_at dksX9_isProved_0 19 rfl rfl)
theorem dX9_isProved_22 : decode cX9_isProved 22 = .ok (.iconst 0, 1) := dk_3 (dk_at dksX9_isProved_0 22 rfl rfl)
theorem dX9_isProved_23 : decode cX9_isProved 23 = .ok (.ireturn, 1) := dk_172 (dk_at dksX9_isProved_0 23 rfl rfl)
abbrev cX9_comes : ByteArray := prog_22_method_58_code
def yX9_comes : MethodName := ⟨RX9, "comes", "(II)I"⟩
def dkwX9_comes_1 : List UInt8 := [182, 0, 224, 167, 0, 4, 2, 172]
abbrev dktX9_comes_1 : List UInt8 := dkwX9_comes_1 ++ []
def dkwX9_comes_0 : List UInt8 := [42, 3, 181, 0, 1, 42, 27, 182, 0, 244, 153, 0, 20, 42, 28, 182, 1, 0, 153, 0, 12, 42, 27, 28]
abbrev dktX9_comes_0 : List UInt8 := dkwX9_comes_0 ++ dktX9_comes_1
theorem dksX9_comes_0 : cX9_comes.data.toList.drop 0 = dktX9_comes_0 := by decide +kernel
theorem dksX9_comes_1 : cX9_comes.data.toList.drop 24 = dktX9_comes_1 := dk_seg dksX9_comes_0 24 rfl rfl
theorem dX9_comes_0 : decode cX9_comes 0 = .ok (.aload_n 0, 1) := dk_42 (dk_at dksX9_comes_0 0 rfl rfl)
theorem dX9_comes_1 : decode cX9_comes 1 = .ok (.iconst 0, 1) := dk_3 (dk_at dksX9_comes_0 1 rfl rfl)
theorem dX9_comes_2 : decode cX9_comes 2 = .ok (.putfield 1, 3) := dk_181 0 1 (dk_at dksX9_comes_0 2 rfl rfl)
theorem dX9_comes_5 : decode cX9_comes 5 = .ok (.aload_n 0, 1) := dk_42 (dk_at dksX9_comes_0 5 rfl rfl)
theorem dX9_comes_6 : decode cX9_comes 6 = .ok (.iload_n 1, 1) := dk_27 (dk_at dksX9_comes_0 6 rfl rfl)
theorem dX9_comes_7 : decode cX9_comes 7 = .ok (.invokevirtual 244, 3) := dk_182 0 244 (dk_at dksX9_comes_0 7 rfl rfl)
theorem dX9_comes_10 : decode cX9_comes 10 = .ok (.ifCond .eq 20, 3) := dk_153 0 20 (dk_at dksX9_comes_0 10 rfl rfl)
theorem dX9_comes_13 : decode cX9_comes 13 = .ok (.aload_n 0, 1) := dk_42 (dk_at dksX9_comes_0 13 rfl rfl)
theorem dX9_comes_14 : decode cX9_comes 14 = .ok (.iload_n 2, 1) := dk_28 (dk_at dksX9_comes_0 14 rfl rfl)
theorem dX9_comes_15 : decode cX9_comes 15 = .ok (.invokevirtual 256, 3) := dk_182 1 0 (dk_at dksX9_comes_0 15 rfl rfl)
theorem dX9_comes_18 : decode cX9_comes 18 = .ok (.ifCond .eq 12, 3) := dk_153 0 12 (dk_at dksX9_comes_0 18 rfl rfl)
theorem dX9_comes_21 : decode cX9_comes 21 = .ok (.aload_n 0, 1) := dk_42 (dk_at dksX9_comes_0 21 rfl rfl)
theorem dX9_comes_22 : decode cX9_comes 22 = .ok (.iload_n 1, 1) := dk_27 (dk_at dksX9_comes_0 22 rfl rfl)
theorem dX9_comes_23 : decode cX9_comes 23 = .ok (.iload_n 2, 1) := dk_28 (dk_at dksX9_comes_0 23 rfl rfl)
theorem dX9_comes_24 : decode cX9_comes 24 = .ok (.invokevirtual 224, 3) := dk_182 0 224 (dk_at dksX9_comes_1 0 rfl rfl)
theorem dX9_comes_27 : decode cX9_comes 27 = .ok (.goto 4, 3) := dk_167 0 4 (dk_at dksX9_comes_1 3 rfl rfl)
theorem dX9_comes_30 : decode cX9_comes 30 = .ok (.iconst (-1), 1) := dk_2 (dk_at dksX9_comes_1 6 rfl rfl)
theorem dX9_comes_31 : decode cX9_comes 31 = .ok (.ireturn, 1) := dk_172 (dk_at dksX9_comes_1 7 rfl rfl)
abbrev cX9_sights : ByteArray := prog_22_method_59_code
def yX9_sights : MethodName := ⟨RX9, "sights", "(I)I"⟩
def dkwX9_sights_1 : List UInt8 := [167, 0, 4, 2, 172]
abbrev dktX9_sights_1 : List UInt8 := dkwX9_sights_1 ++ []
def dkwX9_sights_0 : List UInt8 := [42, 3, 181, 0, 1, 42, 27, 182, 1, 3, 153, 0, 15, 42, 180, 0, 98, 16, 6, 27, 96, 46]
abbrev dktX9_sights_0 : List UInt8 := dkwX9_sights_0 ++ dktX9_sights_1
theorem dksX9_sights_0 : cX9_sights.data.toList.drop 0 = dktX9_sights_0 := by decide +kernel
theorem dksX9_sights_1 : cX9_sights.data.toList.drop 22 = dktX9_sights_1 := dk_seg dksX9_sights_0 22 rfl rfl
theorem dX9_sights_0 : decode cX9_sights 0 = .ok (.aload_n 0, 1) := dk_42 (dk_at dksX9_sights_0 0 rfl rfl)
theorem dX9_sights_1 : decode cX9_sights 1 = .ok (.iconst 0, 1) := dk_3 (dk_at dksX9_sights_0 1 rfl rfl)
theorem dX9_sights_2 : decode cX9_sights 2 = .ok (.putfield 1, 3) := dk_181 0 1 (dk_at dksX9_sights_0 2 rfl rfl)
theorem dX9_sights_5 : decode cX9_sights 5 = .ok (.aload_n 0, 1) := dk_42 (dk_at dksX9_sights_0 5 rfl rfl)
theorem dX9_sights_6 : decode cX9_sights 6 = .ok (.iload_n 1, 1) := dk_27 (dk_at dksX9_sights_0 6 rfl rfl)
theorem dX9_sights_7 : decode cX9_sights 7 = .ok (.invokevirtual 259, 3) := dk_182 1 3 (dk_at dksX9_sights_0 7 rfl rfl)
theorem dX9_sights_10 : decode cX9_sights 10 = .ok (.ifCond .eq 15, 3) := dk_153 0 15 (dk_at dksX9_sights_0 10 rfl rfl)
theorem dX9_sights_13 : decode cX9_sights 13 = .ok (.aload_n 0, 1) := dk_42 (dk_at dksX9_sights_0 13 rfl rfl)
theorem dX9_sights_14 : decode cX9_sights 14 = .ok (.getfield 98, 3) := dk_180 0 98 (dk_at dksX9_sights_0 14 rfl rfl)
theorem dX9_sights_17 : decode cX9_sights 17 = .ok (.bipush 6, 2) := dk_16 6 (dk_at dksX9_sights_0 17 rfl rfl)
theorem dX9_sights_19 : decode cX9_sights 19 = .ok (.iload_n 1, 1) := dk_27 (dk_at dksX9_sights_0 19 rfl rfl)
theorem dX9_sights_20 : decode cX9_sights 20 = .ok (.iadd, 1) := dk_96 (dk_at dksX9_sights_0 20 rfl rfl)
theorem dX9_sights_21 : decode cX9_sights 21 = .ok (.iaload, 1) := dk_46 (dk_at dksX9_sights_0 21 rfl rfl)
theorem dX9_sights_22 : decode cX9_sights 22 = .ok (.goto 4, 3) := dk_167 0 4 (dk_at dksX9_sights_1 0 rfl rfl)
theorem dX9_sights_25 : decode cX9_sights 25 = .ok (.iconst (-1), 1) := dk_2 (dk_at dksX9_sights_1 3 rfl rfl)
theorem dX9_sights_26 : decode cX9_sights 26 = .ok (.ireturn, 1) := dk_172 (dk_at dksX9_sights_1 4 rfl rfl)
abbrev cX9_isParlour : ByteArray := prog_22_method_41_code
def yX9_isParlour : MethodName := ⟨RX9, "isParlour", "(I)Z"⟩
def dkwX9_isParlour_0 : List UInt8 := [27, 3, 42, 180, 0, 98, 3, 46, 4, 100, 184, 0, 75, 172]
abbrev dktX9_isParlour_0 : List UInt8 := dkwX9_isParlour_0 ++ []
theorem dksX9_isParlour_0 : cX9_isParlour.data.toList.drop 0 = dktX9_isParlour_0 := by decide +kernel
theorem dX9_isParlour_0 : decode cX9_isParlour 0 = .ok (.iload_n 1, 1) := dk_27 (dk_at dksX9_isParlour_0 0 rfl rfl)
theorem dX9_isParlour_1 : decode cX9_isParlour 1 = .ok (.iconst 0, 1) := dk_3 (dk_at dksX9_isParlour_0 1 rfl rfl)
theorem dX9_isParlour_2 : decode cX9_isParlour 2 = .ok (.aload_n 0, 1) := dk_42 (dk_at dksX9_isParlour_0 2 rfl rfl)
theorem dX9_isParlour_3 : decode cX9_isParlour 3 = .ok (.getfield 98, 3) := dk_180 0 98 (dk_at dksX9_isParlour_0 3 rfl rfl)
theorem dX9_isParlour_6 : decode cX9_isParlour 6 = .ok (.iconst 0, 1) := dk_3 (dk_at dksX9_isParlour_0 6 rfl rfl)
theorem dX9_isParlour_7 : decode cX9_isParlour 7 = .ok (.iaload, 1) := dk_46 (dk_at dksX9_isParlour_0 7 rfl rfl)
theorem dX9_isParlour_8 : decode cX9_isParlour 8 = .ok (.iconst 1, 1) := dk_4 (dk_at dksX9_isParlour_0 8 rfl rfl)
theorem dX9_isParlour_9 : decode cX9_isParlour 9 = .ok (.isub, 1) := dk_100 (dk_at dksX9_isParlour_0 9 rfl rfl)
theorem dX9_isParlour_10 : decode cX9_isParlour 10 = .ok (.invokestatic 75, 3) := dk_184 0 75 (dk_at dksX9_isParlour_0 10 rfl rfl)
theorem dX9_isParlour_13 : decode cX9_isParlour 13 = .ok (.ireturn, 1) := dk_172 (dk_at dksX9_isParlour_0 13 rfl rfl)
abbrev cX9_now : ByteArray := prog_22_method_61_code
def yX9_now : MethodName := ⟨RX9, "now", "(I)I"⟩
def dkwX9_now_7 : List UInt8 := [182, 0, 253, 184, 0, 238, 96, 61, 132, 3, 1, 167, 255, 222, 28, 172, 42, 3, 182, 1, 9, 172, 2, 172]
abbrev dktX9_now_7 : List UInt8 := dkwX9_now_7 ++ []
def dkwX9_now_6 : List UInt8 := [29, 42, 180, 0, 98, 4, 46, 162, 0, 30, 28, 42, 29, 27, 8, 160, 0, 7, 4, 167, 0, 4, 3]
abbrev dktX9_now_6 : List UInt8 := dkwX9_now_6 ++ dktX9_now_7
def dkwX9_now_5 : List UInt8 := [16, 32, 29, 96, 46, 158, 0, 9, 28, 4, 29, 120, 128, 61, 132, 3, 1, 167, 255, 225, 28, 172, 3, 62]
abbrev dktX9_now_5 : List UInt8 := dkwX9_now_5 ++ dktX9_now_6
def dkwX9_now_4 : List UInt8 := [132, 3, 1, 167, 255, 228, 28, 172, 3, 62, 29, 42, 180, 0, 98, 4, 46, 162, 0, 27, 42, 180, 0, 98]
abbrev dktX9_now_4 : List UInt8 := dkwX9_now_4 ++ dktX9_now_5
def dkwX9_now_3 : List UInt8 := [42, 180, 0, 98, 4, 46, 162, 0, 24, 42, 29, 3, 182, 0, 250, 153, 0, 9, 28, 4, 29, 120, 128, 61]
abbrev dktX9_now_3 : List UInt8 := dkwX9_now_3 ++ dktX9_now_4
def dkwX9_now_2 : List UInt8 := [42, 180, 0, 98, 16, 24, 46, 172, 42, 180, 0, 98, 16, 25, 46, 172, 42, 182, 1, 6, 172, 3, 62, 29]
abbrev dktX9_now_2 : List UInt8 := dkwX9_now_2 ++ dktX9_now_3
def dkwX9_now_1 : List UInt8 := [170, 0, 0, 0, 0, 0, 0, 189, 0, 0, 0, 0, 0, 0, 0, 7, 0, 0, 0, 48, 0, 0, 0, 56, 0, 0, 0, 64, 0, 0, 0, 69, 0, 0, 0, 104, 0, 0, 0, 142, 0, 0, 0, 142, 0, 0, 0, 183]
abbrev dktX9_now_1 : List UInt8 := dkwX9_now_1 ++ dktX9_now_2
def dkwX9_now_0 : List UInt8 := [42, 3, 181, 0, 1, 3, 61, 27]
abbrev dktX9_now_0 : List UInt8 := dkwX9_now_0 ++ dktX9_now_1
theorem dksX9_now_0 : cX9_now.data.toList.drop 0 = dktX9_now_0 := by decide +kernel
theorem dksX9_now_1 : cX9_now.data.toList.drop 8 = dktX9_now_1 := dk_seg dksX9_now_0 8 rfl rfl
theorem dksX9_now_2 : cX9_now.data.toList.drop 56 = dktX9_now_2 := dk_seg dksX9_now_1 48 rfl rfl
theorem dksX9_now_3 : cX9_now.data.toList.drop 80 = dktX9_now_3 := dk_seg dksX9_now_2 24 rfl rfl
theorem dksX9_now_4 : cX9_now.data.toList.drop 104 = dktX9_now_4 := dk_seg dksX9_now_3 24 rfl rfl
theorem dksX9_now_5 : cX9_now.data.toList.drop 128 = dktX9_now_5 := dk_seg dksX9_now_4 24 rfl rfl
theorem dksX9_now_6 : cX9_now.data.toList.drop 152 = dktX9_now_6 := dk_seg dksX9_now_5 24 rfl rfl
theorem dksX9_now_7 : cX9_now.data.toList.drop 175 = dktX9_now_7 := dk_seg dksX9_now_6 23 rfl rfl
theorem dX9_now_0 : decode cX9_now 0 = .ok (.aload_n 0, 1) := dk_42 (dk_at dksX9_now_0 0 rfl rfl)
theorem dX9_now_1 : decode cX9_now 1 = .ok (.iconst 0, 1) := dk_3 (dk_at dksX9_now_0 1 rfl rfl)
theorem dX9_now_2 : decode cX9_now 2 = .ok (.putfield 1, 3) := dk_181 0 1 (dk_at dksX9_now_0 2 rfl rfl)
theorem dX9_now_5 : decode cX9_now 5 = .ok (.iconst 0, 1) := dk_3 (dk_at dksX9_now_0 5 rfl rfl)
theorem dX9_now_6 : decode cX9_now 6 = .ok (.istore_n 2, 1) := dk_61 (dk_at dksX9_now_0 6 rfl rfl)
theorem dX9_now_7 : decode cX9_now 7 = .ok (.iload_n 1, 1) := dk_27 (dk_at dksX9_now_0 7 rfl rfl)
theorem dX9_now_8 : decode cX9_now 8 = .ok (.tableswitch 189 0 7 #[48, 56, 64, 69, 104, 142, 142, 183], 48) := by decide +kernel
theorem dX9_now_56 : decode cX9_now 56 = .ok (.aload_n 0, 1) := dk_42 (dk_at dksX9_now_2 0 rfl rfl)
theorem dX9_now_57 : decode cX9_now 57 = .ok (.getfield 98, 3) := dk_180 0 98 (dk_at dksX9_now_2 1 rfl rfl)
theorem dX9_now_60 : decode cX9_now 60 = .ok (.bipush 24, 2) := dk_16 24 (dk_at dksX9_now_2 4 rfl rfl)
theorem dX9_now_62 : decode cX9_now 62 = .ok (.iaload, 1) := dk_46 (dk_at dksX9_now_2 6 rfl rfl)
theorem dX9_now_63 : decode cX9_now 63 = .ok (.ireturn, 1) := dk_172 (dk_at dksX9_now_2 7 rfl rfl)
theorem dX9_now_64 : decode cX9_now 64 = .ok (.aload_n 0, 1) := dk_42 (dk_at dksX9_now_2 8 rfl rfl)
theorem dX9_now_65 : decode cX9_now 65 = .ok (.getfield 98, 3) := dk_180 0 98 (dk_at dksX9_now_2 9 rfl rfl)
theorem dX9_now_68 : decode cX9_now 68 = .ok (.bipush 25, 2) := dk_16 25 (dk_at dksX9_now_2 12 rfl rfl)
theorem dX9_now_70 : decode cX9_now 70 = .ok (.iaload, 1) := dk_46 (dk_at dksX9_now_2 14 rfl rfl)
theorem dX9_now_71 : decode cX9_now 71 = .ok (.ireturn, 1) := dk_172 (dk_at dksX9_now_2 15 rfl rfl)
theorem dX9_now_72 : decode cX9_now 72 = .ok (.aload_n 0, 1) := dk_42 (dk_at dksX9_now_2 16 rfl rfl)
theorem dX9_now_73 : decode cX9_now 73 = .ok (.invokevirtual 262, 3) := dk_182 1 6 (dk_at dksX9_now_2 17 rfl rfl)
theorem dX9_now_76 : decode cX9_now 76 = .ok (.ireturn, 1) := dk_172 (dk_at dksX9_now_2 20 rfl rfl)
theorem dX9_now_77 : decode cX9_now 77 = .ok (.iconst 0, 1) := dk_3 (dk_at dksX9_now_2 21 rfl rfl)
theorem dX9_now_78 : decode cX9_now 78 = .ok (.istore_n 3, 1) := dk_62 (dk_at dksX9_now_2 22 rfl rfl)
theorem dX9_now_79 : decode cX9_now 79 = .ok (.iload_n 3, 1) := dk_29 (dk_at dksX9_now_2 23 rfl rfl)
theorem dX9_now_80 : decode cX9_now 80 = .ok (.aload_n 0, 1) := dk_42 (dk_at dksX9_now_3 0 rfl rfl)
theorem dX9_now_81 : decode cX9_now 81 = .ok (.getfield 98, 3) := dk_180 0 98 (dk_at dksX9_now_3 1 rfl rfl)
theorem dX9_now_84 : decode cX9_now 84 = .ok (.iconst 1, 1) := dk_4 (dk_at dksX9_now_3 4 rfl rfl)
theorem dX9_now_85 : decode cX9_now 85 = .ok (.iaload, 1) := dk_46 (dk_at dksX9_now_3 5 rfl rfl)
theorem dX9_now_86 : decode cX9_now 86 = .ok (.if_icmp .ge 24, 3) := dk_162 0 24 (dk_at dksX9_now_3 6 rfl rfl)
theorem dX9_now_89 : decode cX9_now 89 = .ok (.aload_n 0, 1) := dk_42 (dk_at dksX9_now_3 9 rfl rfl)
theorem dX9_now_90 : decode cX9_now 90 = .ok (.iload_n 3, 1) := dk_29 (dk_at dksX9_now_3 10 rfl rfl)
theorem dX9_now_91 : decode cX9_now 91 = .ok (.iconst 0, 1) := dk_3 (dk_at dksX9_now_3 11 rfl rfl)
theorem dX9_now_92 : decode cX9_now 92 = .ok (.invokevirtual 250, 3) := dk_182 0 250 (dk_at dksX9_now_3 12 rfl rfl)
theorem dX9_now_95 : decode cX9_now 95 = .ok (.ifCond .eq 9, 3) := dk_153 0 9 (dk_at dksX9_now_3 15 rfl rfl)
theorem dX9_now_98 : decode cX9_now 98 = .ok (.iload_n 2, 1) := dk_28 (dk_at dksX9_now_3 18 rfl rfl)
theorem dX9_now_99 : decode cX9_now 99 = .ok (.iconst 1, 1) := dk_4 (dk_at dksX9_now_3 19 rfl rfl)
theorem dX9_now_100 : decode cX9_now 100 = .ok (.iload_n 3, 1) := dk_29 (dk_at dksX9_now_3 20 rfl rfl)
theorem dX9_now_101 : decode cX9_now 101 = .ok (.ishl, 1) := dk_120 (dk_at dksX9_now_3 21 rfl rfl)
theorem dX9_now_102 : decode cX9_now 102 = .ok (.ior, 1) := dk_128 (dk_at dksX9_now_3 22 rfl rfl)
theorem dX9_now_103 : decode cX9_now 103 = .ok (.istore_n 2, 1) := dk_61 (dk_at dksX9_now_3 23 rfl rfl)
theorem dX9_now_104 : decode cX9_now 104 = .ok (.iinc 3 1, 3) := dk_132 3 1 (dk_at dksX9_now_4 0 rfl rfl)
theorem dX9_now_107 : decode cX9_now 107 = .ok (.goto (-28), 3) := dk_167 255 228 (dk_at dksX9_now_4 3 rfl rfl)
theorem dX9_now_110 : decode cX9_now 110 = .ok (.iload_n 2, 1) := dk_28 (dk_at dksX9_now_4 6 rfl rfl)
theorem dX9_now_111 : decode cX9_now 111 = .ok (.ireturn, 1) := dk_172 (dk_at dksX9_now_4 7 rfl rfl)
theorem dX9_now_112 : decode cX9_now 112 = .ok (.iconst 0, 1) := dk_3 (dk_at dksX9_now_4 8 rfl rfl)
theorem dX9_now_113 : decode cX9_now 113 = .ok (.istore_n 3, 1) := dk_62 (dk_at dksX9_now_4 9 rfl rfl)
theorem dX9_now_114 : decode cX9_now 114 = .ok (.iload_n 3, 1) := dk_29 (dk_at dksX9_now_4 10 rfl rfl)
theorem dX9_now_115 : decode cX9_now 115 = .ok (.aload_n 0, 1) := dk_42 (dk_at dksX9_now_4 11 rfl rfl)
theorem dX9_now_116 : decode cX9_now 116 = .ok (.getfield 98, 3) := dk_180 0 98 (dk_at dksX9_now_4 12 rfl rfl)
theorem dX9_now_119 : decode cX9_now 119 = .ok (.iconst 1, 1) := dk_4 (dk_at dksX9_now_4 15 rfl rfl)
theorem dX9_now_120 : decode cX9_now 120 = .ok (.iaload, 1) := dk_46 (dk_at dksX9_now_4 16 rfl rfl)
theorem dX9_now_121 : decode cX9_now 121 = .ok (.if_icmp .ge 27, 3) := dk_162 0 27 (dk_at dksX9_now_4 17 rfl rfl)
theorem dX9_now_124 : decode cX9_now 124 = .ok (.aload_n 0, 1) := dk_42 (dk_at dksX9_now_4 20 rfl rfl)
theorem dX9_now_125 : decode cX9_now 125 = .ok (.getfield 98, 3) := dk_180 0 98 (dk_at dksX9_now_4 21 rfl rfl)
theorem dX9_now_128 : decode cX9_now 128 = .ok (.bipush 32, 2) := dk_16 32 (dk_at dksX9_now_5 0 rfl rfl)
theorem dX9_now_130 : decode cX9_now 130 = .ok (.iload_n 3, 1) := dk_29 (dk_at dksX9_now_5 2 rfl rfl)
theorem dX9_now_131 : decode cX9_now 131 = .ok (.iadd, 1) := dk_96 (dk_at dksX9_now_5 3 rfl rfl)
theorem dX9_now_132 : decode cX9_now 132 = .ok (.iaload, 1) := dk_46 (dk_at dksX9_now_5 4 rfl rfl)
theorem dX9_now_133 : decode cX9_now 133 = .ok (.ifCond .le 9, 3) := dk_158 0 9 (dk_at dksX9_now_5 5 rfl rfl)
theorem dX9_now_136 : decode cX9_now 136 = .ok (.iload_n 2, 1) := dk_28 (dk_at dksX9_now_5 8 rfl rfl)
theorem dX9_now_137 : decode cX9_now 137 = .ok (.iconst 1, 1) := dk_4 (dk_at dksX9_now_5 9 rfl rfl)
theorem dX9_now_138 : decode cX9_now 138 = .ok (.iload_n 3, 1) := dk_29 (dk_at dksX9_now_5 10 rfl rfl)
theorem dX9_now_139 : decode cX9_now 139 = .ok (.ishl, 1) := dk_120 (dk_at dksX9_now_5 11 rfl rfl)
theorem dX9_now_140 : decode cX9_now 140 = .ok (.ior, 1) := dk_128 (dk_at dksX9_now_5 12 rfl rfl)
theorem dX9_now_141 : decode cX9_now 141 = .ok (.istore_n 2, 1) := dk_61 (dk_at dksX9_now_5 13 rfl rfl)
theorem dX9_now_142 : decode cX9_now 142 = .ok (.iinc 3 1, 3) := dk_132 3 1 (dk_at dksX9_now_5 14 rfl rfl)
theorem dX9_now_145 : decode cX9_now 145 = .ok (.goto (-31), 3) := dk_167 255 225 (dk_at dksX9_now_5 17 rfl rfl)
theorem dX9_now_148 : decode cX9_now 148 = .ok (.iload_n 2, 1) := dk_28 (dk_at dksX9_now_5 20 rfl rfl)
theorem dX9_now_149 : decode cX9_now 149 = .ok (.ireturn, 1) := dk_172 (dk_at dksX9_now_5 21 rfl rfl)
theorem dX9_now_150 : decode cX9_now 150 = .ok (.iconst 0, 1) := dk_3 (dk_at dksX9_now_5 22 rfl rfl)
theorem dX9_now_151 : decode cX9_now 151 = .ok (.istore_n 3, 1) := dk_62 (dk_at dksX9_now_5 23 rfl rfl)
theorem dX9_now_152 : decode cX9_now 152 = .ok (.iload_n 3, 1) := dk_29 (dk_at dksX9_now_6 0 rfl rfl)
theorem dX9_now_153 : decode cX9_now 153 = .ok (.aload_n 0, 1) := dk_42 (dk_at dksX9_now_6 1 rfl rfl)
theorem dX9_now_154 : decode cX9_now 154 = .ok (.getfield 98, 3) := dk_180 0 98 (dk_at dksX9_now_6 2 rfl rfl)
theorem dX9_now_157 : decode cX9_now 157 = .ok (.iconst 1, 1) := dk_4 (dk_at dksX9_now_6 5 rfl rfl)
theorem dX9_now_158 : decode cX9_now 158 = .ok (.iaload, 1) := dk_46 (dk_at dksX9_now_6 6 rfl rfl)
theorem dX9_now_159 : decode cX9_now 159 = .ok (.if_icmp .ge 30, 3) := dk_162 0 30 (dk_at dksX9_now_6 7 rfl rfl)
theorem dX9_now_162 : decode cX9_now 162 = .ok (.iload_n 2, 1) := dk_28 (dk_at dksX9_now_6 10 rfl rfl)
theorem dX9_now_163 : decode cX9_now 163 = .ok (.aload_n 0, 1) := dk_42 (dk_at dksX9_now_6 11 rfl rfl)
theorem dX9_now_164 : decode cX9_now 164 = .ok (.iload_n 3, 1) := dk_29 (dk_at dksX9_now_6 12 rfl rfl)
theorem dX9_now_165 : decode cX9_now 165 = .ok (.iload_n 1, 1) := dk_27 (dk_at dksX9_now_6 13 rfl rfl)
theorem dX9_now_166 : decode cX9_now 166 = .ok (.iconst 5, 1) := dk_8 (dk_at dksX9_now_6 14 rfl rfl)
theorem dX9_now_167 : decode cX9_now 167 = .ok (.if_icmp .ne 7, 3) := dk_160 0 7 (dk_at dksX9_now_6 15 rfl rfl)
theorem dX9_now_170 : decode cX9_now 170 = .ok (.iconst 1, 1) := dk_4 (dk_at dksX9_now_6 18 rfl rfl)
theorem dX9_now_171 : decode cX9_now 171 = .ok (.goto 4, 3) := dk_167 0 4 (dk_at dksX9_now_6 19 rfl rfl)
theorem dX9_now_174 : decode cX9_now 174 = .ok (.iconst 0, 1) := dk_3 (dk_at dksX9_now_6 22 rfl rfl)
theorem dX9_now_175 : decode cX9_now 175 = .ok (.invokevirtual 253, 3) := dk_182 0 253 (dk_at dksX9_now_7 0 rfl rfl)
theorem dX9_now_178 : decode cX9_now 178 = .ok (.invokestatic 238, 3) := dk_184 0 238 (dk_at dksX9_now_7 3 rfl rfl)
theorem dX9_now_181 : decode cX9_now 181 = .ok (.iadd, 1) := dk_96 (dk_at dksX9_now_7 6 rfl rfl)
theorem dX9_now_182 : decode cX9_now 182 = .ok (.istore_n 2, 1) := dk_61 (dk_at dksX9_now_7 7 rfl rfl)
theorem dX9_now_183 : decode cX9_now 183 = .ok (.iinc 3 1, 3) := dk_132 3 1 (dk_at dksX9_now_7 8 rfl rfl)
theorem dX9_now_186 : decode cX9_now 186 = .ok (.goto (-34), 3) := dk_167 255 222 (dk_at dksX9_now_7 11 rfl rfl)
theorem dX9_now_189 : decode cX9_now 189 = .ok (.iload_n 2, 1) := dk_28 (dk_at dksX9_now_7 14 rfl rfl)
theorem dX9_now_190 : decode cX9_now 190 = .ok (.ireturn, 1) := dk_172 (dk_at dksX9_now_7 15 rfl rfl)
theorem dX9_now_191 : decode cX9_now 191 = .ok (.aload_n 0, 1) := dk_42 (dk_at dksX9_now_7 16 rfl rfl)
theorem dX9_now_192 : decode cX9_now 192 = .ok (.iconst 0, 1) := dk_3 (dk_at dksX9_now_7 17 rfl rfl)
theorem dX9_now_193 : decode cX9_now 193 = .ok (.invokevirtual 265, 3) := dk_182 1 9 (dk_at dksX9_now_7 18 rfl rfl)
theorem dX9_now_196 : decode cX9_now 196 = .ok (.ireturn, 1) := dk_172 (dk_at dksX9_now_7 21 rfl rfl)
theorem dX9_now_197 : decode cX9_now 197 = .ok (.iconst (-1), 1) := dk_2 (dk_at dksX9_now_7 22 rfl rfl)
theorem dX9_now_198 : decode cX9_now 198 = .ok (.ireturn, 1) := dk_172 (dk_at dksX9_now_7 23 rfl rfl)
abbrev cX9_proved : ByteArray := prog_22_method_55_code
def yX9_proved : MethodName := ⟨RX9, "proved", "()I"⟩
def dkwX9_proved_1 : List UInt8 := [4, 28, 120, 128, 60, 132, 2, 1, 167, 255, 228, 27, 172]
abbrev dktX9_proved_1 : List UInt8 := dkwX9_proved_1 ++ []
def dkwX9_proved_0 : List UInt8 := [3, 60, 3, 61, 28, 42, 180, 0, 98, 16, 25, 46, 162, 0, 23, 42, 28, 182, 0, 241, 153, 0, 9, 27]
abbrev dktX9_proved_0 : List UInt8 := dkwX9_proved_0 ++ dktX9_proved_1
theorem dksX9_proved_0 : cX9_proved.data.toList.drop 0 = dktX9_proved_0 := by decide +kernel
theorem dksX9_proved_1 : cX9_proved.data.toList.drop 24 = dktX9_proved_1 := dk_seg dksX9_proved_0 24 rfl rfl
theorem dX9_proved_0 : decode cX9_proved 0 = .ok (.iconst 0, 1) := dk_3 (dk_at dksX9_proved_0 0 rfl rfl)
theorem dX9_proved_1 : decode cX9_proved 1 = .ok (.istore_n 1, 1) := dk_60 (dk_at dksX9_proved_0 1 rfl rfl)
theorem dX9_proved_2 : decode cX9_proved 2 = .ok (.iconst 0, 1) := dk_3 (dk_at dksX9_proved_0 2 rfl rfl)
theorem dX9_proved_3 : decode cX9_proved 3 = .ok (.istore_n 2, 1) := dk_61 (dk_at dksX9_proved_0 3 rfl rfl)
theorem dX9_proved_4 : decode cX9_proved 4 = .ok (.iload_n 2, 1) := dk_28 (dk_at dksX9_proved_0 4 rfl rfl)
theorem dX9_proved_5 : decode cX9_proved 5 = .ok (.aload_n 0, 1) := dk_42 (dk_at dksX9_proved_0 5 rfl rfl)
theorem dX9_proved_6 : decode cX9_proved 6 = .ok (.getfield 98, 3) := dk_180 0 98 (dk_at dksX9_proved_0 6 rfl rfl)
theorem dX9_proved_9 : decode cX9_proved 9 = .ok (.bipush 25, 2) := dk_16 25 (dk_at dksX9_proved_0 9 rfl rfl)
theorem dX9_proved_11 : decode cX9_proved 11 = .ok (.iaload, 1) := dk_46 (dk_at dksX9_proved_0 11 rfl rfl)
theorem dX9_proved_12 : decode cX9_proved 12 = .ok (.if_icmp .ge 23, 3) := dk_162 0 23 (dk_at dksX9_proved_0 12 rfl rfl)
theorem dX9_proved_15 : decode cX9_proved 15 = .ok (.aload_n 0, 1) := dk_42 (dk_at dksX9_proved_0 15 rfl rfl)
theorem dX9_proved_16 : decode cX9_proved 16 = .ok (.iload_n 2, 1) := dk_28 (dk_at dksX9_proved_0 16 rfl rfl)
theorem dX9_proved_17 : decode cX9_proved 17 = .ok (.invokevirtual 241, 3) := dk_182 0 241 (dk_at dksX9_proved_0 17 rfl rfl)
theorem dX9_proved_20 : decode cX9_proved 20 = .ok (.ifCond .eq 9, 3) := dk_153 0 9 (dk_at dksX9_proved_0 20 rfl rfl)
theorem dX9_proved_23 : decode cX9_proved 23 = .ok (.iload_n 1, 1) := dk_27 (dk_at dksX9_proved_0 23 rfl rfl)
theorem dX9_proved_24 : decode cX9_proved 24 = .ok (.iconst 1, 1) := dk_4 (dk_at dksX9_proved_1 0 rfl rfl)
theorem dX9_proved_25 : decode cX9_proved 25 = .ok (.iload_n 2, 1) := dk_28 (dk_at dksX9_proved_1 1 rfl rfl)
theorem dX9_proved_26 : decode cX9_proved 26 = .ok (.ishl, 1) := dk_120 (dk_at dksX9_proved_1 2 rfl rfl)
theorem dX9_proved_27 : decode cX9_proved 27 = .ok (.ior, 1) := dk_128 (dk_at dksX9_proved_1 3 rfl rfl)
theorem dX9_proved_28 : decode cX9_proved 28 = .ok (.istore_n 1, 1) := dk_60 (dk_at dksX9_proved_1 4 rfl rfl)
theorem dX9_proved_29 : decode cX9_proved 29 = .ok (.iinc 2 1, 3) := dk_132 2 1 (dk_at dksX9_proved_1 5 rfl rfl)
theorem dX9_proved_32 : decode cX9_proved 32 = .ok (.goto (-28), 3) := dk_167 255 228 (dk_at dksX9_proved_1 8 rfl rfl)
theorem dX9_proved_35 : decode cX9_proved 35 = .ok (.iload_n 1, 1) := dk_27 (dk_at dksX9_proved_1 11 rfl rfl)
theorem dX9_proved_36 : decode cX9_proved 36 = .ok (.ireturn, 1) := dk_172 (dk_at dksX9_proved_1 12 rfl rfl)
abbrev cX9_unseen : ByteArray := prog_22_method_60_code
def yX9_unseen : MethodName := ⟨RX9, "unseen", "(I)I"⟩
def dkwX9_unseen_1 : List UInt8 := [42, 29, 27, 182, 0, 250, 2, 130, 126, 61, 132, 3, 1, 167, 255, 232, 28, 172]
abbrev dktX9_unseen_1 : List UInt8 := dkwX9_unseen_1 ++ []
def dkwX9_unseen_0 : List UInt8 := [4, 42, 180, 0, 98, 3, 46, 120, 4, 100, 61, 3, 62, 29, 42, 180, 0, 98, 4, 46, 162, 0, 20, 28]
abbrev dktX9_unseen_0 : List UInt8 := dkwX9_unseen_0 ++ dktX9_unseen_1
theorem dksX9_unseen_0 : cX9_unseen.data.toList.drop 0 = dktX9_unseen_0 := by decide +kernel
theorem dksX9_unseen_1 : cX9_unseen.data.toList.drop 24 = dktX9_unseen_1 := dk_seg dksX9_unseen_0 24 rfl rfl
theorem dX9_unseen_0 : decode cX9_unseen 0 = .ok (.iconst 1, 1) := dk_4 (dk_at dksX9_unseen_0 0 rfl rfl)
theorem dX9_unseen_1 : decode cX9_unseen 1 = .ok (.aload_n 0, 1) := dk_42 (dk_at dksX9_unseen_0 1 rfl rfl)
theorem dX9_unseen_2 : decode cX9_unseen 2 = .ok (.getfield 98, 3) := dk_180 0 98 (dk_at dksX9_unseen_0 2 rfl rfl)
theorem dX9_unseen_5 : decode cX9_unseen 5 = .ok (.iconst 0, 1) := dk_3 (dk_at dksX9_unseen_0 5 rfl rfl)
theorem dX9_unseen_6 : decode cX9_unseen 6 = .ok (.iaload, 1) := dk_46 (dk_at dksX9_unseen_0 6 rfl rfl)
theorem dX9_unseen_7 : decode cX9_unseen 7 = .ok (.ishl, 1) := dk_120 (dk_at dksX9_unseen_0 7 rfl rfl)
theorem dX9_unseen_8 : decode cX9_unseen 8 = .ok (.iconst 1, 1) := dk_4 (dk_at dksX9_unseen_0 8 rfl rfl)
theorem dX9_unseen_9 : decode cX9_unseen 9 = .ok (.isub, 1) := dk_100 (dk_at dksX9_unseen_0 9 rfl rfl)
theorem dX9_unseen_10 : decode cX9_unseen 10 = .ok (.istore_n 2, 1) := dk_61 (dk_at dksX9_unseen_0 10 rfl rfl)
theorem dX9_unseen_11 : decode cX9_unseen 11 = .ok (.iconst 0, 1) := dk_3 (dk_at dksX9_unseen_0 11 rfl rfl)
theorem dX9_unseen_12 : decode cX9_unseen 12 = .ok (.istore_n 3, 1) := dk_62 (dk_at dksX9_unseen_0 12 rfl rfl)
theorem dX9_unseen_13 : decode cX9_unseen 13 = .ok (.iload_n 3, 1) := dk_29 (dk_at dksX9_unseen_0 13 rfl rfl)
theorem dX9_unseen_14 : decode cX9_unseen 14 = .ok (.aload_n 0, 1) := dk_42 (dk_at dksX9_unseen_0 14 rfl rfl)
theorem dX9_unseen_15 : decode cX9_unseen 15 = .ok (.getfield 98, 3) := dk_180 0 98 (dk_at dksX9_unseen_0 15 rfl rfl)
theorem dX9_unseen_18 : decode cX9_unseen 18 = .ok (.iconst 1, 1) := dk_4 (dk_at dksX9_unseen_0 18 rfl rfl)
theorem dX9_unseen_19 : decode cX9_unseen 19 = .ok (.iaload, 1) := dk_46 (dk_at dksX9_unseen_0 19 rfl rfl)
theorem dX9_unseen_20 : decode cX9_unseen 20 = .ok (.if_icmp .ge 20, 3) := dk_162 0 20 (dk_at dksX9_unseen_0 20 rfl rfl)
theorem dX9_unseen_23 : decode cX9_unseen 23 = .ok (.iload_n 2, 1) := dk_28 (dk_at dksX9_unseen_0 23 rfl rfl)
theorem dX9_unseen_24 : decode cX9_unseen 24 = .ok (.aload_n 0, 1) := dk_42 (dk_at dksX9_unseen_1 0 rfl rfl)
theorem dX9_unseen_25 : decode cX9_unseen 25 = .ok (.iload_n 3, 1) := dk_29 (dk_at dksX9_unseen_1 1 rfl rfl)
theorem dX9_unseen_26 : decode cX9_unseen 26 = .ok (.iload_n 1, 1) := dk_27 (dk_at dksX9_unseen_1 2 rfl rfl)
theorem dX9_unseen_27 : decode cX9_unseen 27 = .ok (.invokevirtual 250, 3) := dk_182 0 250 (dk_at dksX9_unseen_1 3 rfl rfl)
theorem dX9_unseen_30 : decode cX9_unseen 30 = .ok (.iconst (-1), 1) := dk_2 (dk_at dksX9_unseen_1 6 rfl rfl)
theorem dX9_unseen_31 : decode cX9_unseen 31 = .ok (.ixor, 1) := dk_130 (dk_at dksX9_unseen_1 7 rfl rfl)
theorem dX9_unseen_32 : decode cX9_unseen 32 = .ok (.iand, 1) := dk_126 (dk_at dksX9_unseen_1 8 rfl rfl)
theorem dX9_unseen_33 : decode cX9_unseen 33 = .ok (.istore_n 2, 1) := dk_61 (dk_at dksX9_unseen_1 9 rfl rfl)
theorem dX9_unseen_34 : decode cX9_unseen 34 = .ok (.iinc 3 1, 3) := dk_132 3 1 (dk_at dksX9_unseen_1 10 rfl rfl)
theorem dX9_unseen_37 : decode cX9_unseen 37 = .ok (.goto (-24), 3) := dk_167 255 232 (dk_at dksX9_unseen_1 13 rfl rfl)
theorem dX9_unseen_40 : decode cX9_unseen 40 = .ok (.iload_n 2, 1) := dk_28 (dk_at dksX9_unseen_1 16 rfl rfl)
theorem dX9_unseen_41 : decode cX9_unseen 41 = .ok (.ireturn, 1) := dk_172 (dk_at dksX9_unseen_1 17 rfl rfl)
abbrev cX9_does : ByteArray := prog_22_method_68_code
def yX9_does : MethodName := ⟨RX9, "does", "(III)I"⟩
def dkwX9_does_1 : List UInt8 := [153, 0, 15, 42, 29, 182, 1, 3, 153, 0, 7, 4, 167, 0, 4, 3, 182, 1, 36, 172]
abbrev dktX9_does_1 : List UInt8 := dkwX9_does_1 ++ []
def dkwX9_does_0 : List UInt8 := [42, 3, 181, 0, 1, 42, 3, 27, 28, 29, 42, 27, 182, 1, 30, 153, 0, 23, 42, 28, 182, 1, 33]
abbrev dktX9_does_0 : List UInt8 := dkwX9_does_0 ++ dktX9_does_1
theorem dksX9_does_0 : cX9_does.data.toList.drop 0 = dktX9_does_0 := by decide +kernel
theorem dksX9_does_1 : cX9_does.data.toList.drop 23 = dktX9_does_1 := dk_seg dksX9_does_0 23 rfl rfl
theorem dX9_does_0 : decode cX9_does 0 = .ok (.aload_n 0, 1) := dk_42 (dk_at dksX9_does_0 0 rfl rfl)
theorem dX9_does_1 : decode cX9_does 1 = .ok (.iconst 0, 1) := dk_3 (dk_at dksX9_does_0 1 rfl rfl)
theorem dX9_does_2 : decode cX9_does 2 = .ok (.putfield 1, 3) := dk_181 0 1 (dk_at dksX9_does_0 2 rfl rfl)
theorem dX9_does_5 : decode cX9_does 5 = .ok (.aload_n 0, 1) := dk_42 (dk_at dksX9_does_0 5 rfl rfl)
theorem dX9_does_6 : decode cX9_does 6 = .ok (.iconst 0, 1) := dk_3 (dk_at dksX9_does_0 6 rfl rfl)
theorem dX9_does_7 : decode cX9_does 7 = .ok (.iload_n 1, 1) := dk_27 (dk_at dksX9_does_0 7 rfl rfl)
theorem dX9_does_8 : decode cX9_does 8 = .ok (.iload_n 2, 1) := dk_28 (dk_at dksX9_does_0 8 rfl rfl)
theorem dX9_does_9 : decode cX9_does 9 = .ok (.iload_n 3, 1) := dk_29 (dk_at dksX9_does_0 9 rfl rfl)
theorem dX9_does_10 : decode cX9_does 10 = .ok (.aload_n 0, 1) := dk_42 (dk_at dksX9_does_0 10 rfl rfl)
theorem dX9_does_11 : decode cX9_does 11 = .ok (.iload_n 1, 1) := dk_27 (dk_at dksX9_does_0 11 rfl rfl)
theorem dX9_does_12 : decode cX9_does 12 = .ok (.invokevirtual 286, 3) := dk_182 1 30 (dk_at dksX9_does_0 12 rfl rfl)
theorem dX9_does_15 : decode cX9_does 15 = .ok (.ifCond .eq 23, 3) := dk_153 0 23 (dk_at dksX9_does_0 15 rfl rfl)
theorem dX9_does_18 : decode cX9_does 18 = .ok (.aload_n 0, 1) := dk_42 (dk_at dksX9_does_0 18 rfl rfl)
theorem dX9_does_19 : decode cX9_does 19 = .ok (.iload_n 2, 1) := dk_28 (dk_at dksX9_does_0 19 rfl rfl)
theorem dX9_does_20 : decode cX9_does 20 = .ok (.invokevirtual 289, 3) := dk_182 1 33 (dk_at dksX9_does_0 20 rfl rfl)
theorem dX9_does_23 : decode cX9_does 23 = .ok (.ifCond .eq 15, 3) := dk_153 0 15 (dk_at dksX9_does_1 0 rfl rfl)
theorem dX9_does_26 : decode cX9_does 26 = .ok (.aload_n 0, 1) := dk_42 (dk_at dksX9_does_1 3 rfl rfl)
theorem dX9_does_27 : decode cX9_does 27 = .ok (.iload_n 3, 1) := dk_29 (dk_at dksX9_does_1 4 rfl rfl)
theorem dX9_does_28 : decode cX9_does 28 = .ok (.invokevirtual 259, 3) := dk_182 1 3 (dk_at dksX9_does_1 5 rfl rfl)
theorem dX9_does_31 : decode cX9_does 31 = .ok (.ifCond .eq 7, 3) := dk_153 0 7 (dk_at dksX9_does_1 8 rfl rfl)
theorem dX9_does_34 : decode cX9_does 34 = .ok (.iconst 1, 1) := dk_4 (dk_at dksX9_does_1 11 rfl rfl)
theorem dX9_does_35 : decode cX9_does 35 = .ok (.goto 4, 3) := dk_167 0 4 (dk_at dksX9_does_1 12 rfl rfl)
theorem dX9_does_38 : decode cX9_does 38 = .ok (.iconst 0, 1) := dk_3 (dk_at dksX9_does_1 15 rfl rfl)
theorem dX9_does_39 : decode cX9_does 39 = .ok (.invokevirtual 292, 3) := dk_182 1 36 (dk_at dksX9_does_1 16 rfl rfl)
theorem dX9_does_42 : decode cX9_does 42 = .ok (.ireturn, 1) := dk_172 (dk_at dksX9_does_1 19 rfl rfl)
abbrev cX9_isPerson : ByteArray := prog_22_method_43_code
def yX9_isPerson : MethodName := ⟨RX9, "isPerson", "(I)Z"⟩
def dkwX9_isPerson_0 : List UInt8 := [27, 3, 42, 180, 0, 98, 5, 46, 4, 100, 184, 0, 75, 172]
abbrev dktX9_isPerson_0 : List UInt8 := dkwX9_isPerson_0 ++ []
theorem dksX9_isPerson_0 : cX9_isPerson.data.toList.drop 0 = dktX9_isPerson_0 := by decide +kernel
theorem dX9_isPerson_0 : decode cX9_isPerson 0 = .ok (.iload_n 1, 1) := dk_27 (dk_at dksX9_isPerson_0 0 rfl rfl)
theorem dX9_isPerson_1 : decode cX9_isPerson 1 = .ok (.iconst 0, 1) := dk_3 (dk_at dksX9_isPerson_0 1 rfl rfl)
theorem dX9_isPerson_2 : decode cX9_isPerson 2 = .ok (.aload_n 0, 1) := dk_42 (dk_at dksX9_isPerson_0 2 rfl rfl)
theorem dX9_isPerson_3 : decode cX9_isPerson 3 = .ok (.getfield 98, 3) := dk_180 0 98 (dk_at dksX9_isPerson_0 3 rfl rfl)
theorem dX9_isPerson_6 : decode cX9_isPerson 6 = .ok (.iconst 2, 1) := dk_5 (dk_at dksX9_isPerson_0 6 rfl rfl)
theorem dX9_isPerson_7 : decode cX9_isPerson 7 = .ok (.iaload, 1) := dk_46 (dk_at dksX9_isPerson_0 7 rfl rfl)
theorem dX9_isPerson_8 : decode cX9_isPerson 8 = .ok (.iconst 1, 1) := dk_4 (dk_at dksX9_isPerson_0 8 rfl rfl)
theorem dX9_isPerson_9 : decode cX9_isPerson 9 = .ok (.isub, 1) := dk_100 (dk_at dksX9_isPerson_0 9 rfl rfl)
theorem dX9_isPerson_10 : decode cX9_isPerson 10 = .ok (.invokestatic 75, 3) := dk_184 0 75 (dk_at dksX9_isPerson_0 10 rfl rfl)
theorem dX9_isPerson_13 : decode cX9_isPerson 13 = .ok (.ireturn, 1) := dk_172 (dk_at dksX9_isPerson_0 13 rfl rfl)
abbrev cX9_isDeed : ByteArray := prog_22_method_44_code
def yX9_isDeed : MethodName := ⟨RX9, "isDeed", "(I)Z"⟩
def dkwX9_isDeed_0 : List UInt8 := [27, 3, 42, 180, 0, 98, 6, 46, 4, 100, 184, 0, 75, 172]
abbrev dktX9_isDeed_0 : List UInt8 := dkwX9_isDeed_0 ++ []
theorem dksX9_isDeed_0 : cX9_isDeed.data.toList.drop 0 = dktX9_isDeed_0 := by decide +kernel
theorem dX9_isDeed_0 : decode cX9_isDeed 0 = .ok (.iload_n 1, 1) := dk_27 (dk_at dksX9_isDeed_0 0 rfl rfl)
theorem dX9_isDeed_1 : decode cX9_isDeed 1 = .ok (.iconst 0, 1) := dk_3 (dk_at dksX9_isDeed_0 1 rfl rfl)
theorem dX9_isDeed_2 : decode cX9_isDeed 2 = .ok (.aload_n 0, 1) := dk_42 (dk_at dksX9_isDeed_0 2 rfl rfl)
theorem dX9_isDeed_3 : decode cX9_isDeed 3 = .ok (.getfield 98, 3) := dk_180 0 98 (dk_at dksX9_isDeed_0 3 rfl rfl)
theorem dX9_isDeed_6 : decode cX9_isDeed 6 = .ok (.iconst 3, 1) := dk_6 (dk_at dksX9_isDeed_0 6 rfl rfl)
theorem dX9_isDeed_7 : decode cX9_isDeed 7 = .ok (.iaload, 1) := dk_46 (dk_at dksX9_isDeed_0 7 rfl rfl)
theorem dX9_isDeed_8 : decode cX9_isDeed 8 = .ok (.iconst 1, 1) := dk_4 (dk_at dksX9_isDeed_0 8 rfl rfl)
theorem dX9_isDeed_9 : decode cX9_isDeed 9 = .ok (.isub, 1) := dk_100 (dk_at dksX9_isDeed_0 9 rfl rfl)
theorem dX9_isDeed_10 : decode cX9_isDeed 10 = .ok (.invokestatic 75, 3) := dk_184 0 75 (dk_at dksX9_isDeed_0 10 rfl rfl)
theorem dX9_isDeed_13 : decode cX9_isDeed 13 = .ok (.ireturn, 1) := dk_172 (dk_at dksX9_isDeed_0 13 rfl rfl)
abbrev cX9_doIt : ByteArray := prog_22_method_67_code
def yX9_doIt : MethodName := ⟨RX9, "doIt", "(IIIIZ)I"⟩
def dkwX9_doIt_1 : List UInt8 := [42, 182, 1, 23, 42, 27, 28, 29, 21, 4, 182, 1, 26, 3, 172]
abbrev dktX9_doIt_1 : List UInt8 := dkwX9_doIt_1 ++ []
def dkwX9_doIt_0 : List UInt8 := [21, 5, 154, 0, 5, 2, 172, 42, 27, 28, 29, 182, 1, 19, 54, 6, 21, 6, 153, 0, 6, 21, 6, 172]
abbrev dktX9_doIt_0 : List UInt8 := dkwX9_doIt_0 ++ dktX9_doIt_1
theorem dksX9_doIt_0 : cX9_doIt.data.toList.drop 0 = dktX9_doIt_0 := by decide +kernel
theorem dksX9_doIt_1 : cX9_doIt.data.toList.drop 24 = dktX9_doIt_1 := dk_seg dksX9_doIt_0 24 rfl rfl
theorem dX9_doIt_0 : decode cX9_doIt 0 = .ok (.iload 5, 2) := dk_21 5 (dk_at dksX9_doIt_0 0 rfl rfl)
theorem dX9_doIt_2 : decode cX9_doIt 2 = .ok (.ifCond .ne 5, 3) := dk_154 0 5 (dk_at dksX9_doIt_0 2 rfl rfl)
theorem dX9_doIt_5 : decode cX9_doIt 5 = .ok (.iconst (-1), 1) := dk_2 (dk_at dksX9_doIt_0 5 rfl rfl)
theorem dX9_doIt_6 : decode cX9_doIt 6 = .ok (.ireturn, 1) := dk_172 (dk_at dksX9_doIt_0 6 rfl rfl)
theorem dX9_doIt_7 : decode cX9_doIt 7 = .ok (.aload_n 0, 1) := dk_42 (dk_at dksX9_doIt_0 7 rfl rfl)
theorem dX9_doIt_8 : decode cX9_doIt 8 = .ok (.iload_n 1, 1) := dk_27 (dk_at dksX9_doIt_0 8 rfl rfl)
theorem dX9_doIt_9 : decode cX9_doIt 9 = .ok (.iload_n 2, 1) := dk_28 (dk_at dksX9_doIt_0 9 rfl rfl)
theorem dX9_doIt_10 : decode cX9_doIt 10 = .ok (.iload_n 3, 1) := dk_29 (dk_at dksX9_doIt_0 10 rfl rfl)
theorem dX9_doIt_11 : decode cX9_doIt 11 = .ok (.invokevirtual 275, 3) := dk_182 1 19 (dk_at dksX9_doIt_0 11 rfl rfl)
theorem dX9_doIt_14 : decode cX9_doIt 14 = .ok (.istore 6, 2) := dk_54 6 (dk_at dksX9_doIt_0 14 rfl rfl)
theorem dX9_doIt_16 : decode cX9_doIt 16 = .ok (.iload 6, 2) := dk_21 6 (dk_at dksX9_doIt_0 16 rfl rfl)
theorem dX9_doIt_18 : decode cX9_doIt 18 = .ok (.ifCond .eq 6, 3) := dk_153 0 6 (dk_at dksX9_doIt_0 18 rfl rfl)
theorem dX9_doIt_21 : decode cX9_doIt 21 = .ok (.iload 6, 2) := dk_21 6 (dk_at dksX9_doIt_0 21 rfl rfl)
theorem dX9_doIt_23 : decode cX9_doIt 23 = .ok (.ireturn, 1) := dk_172 (dk_at dksX9_doIt_0 23 rfl rfl)
theorem dX9_doIt_24 : decode cX9_doIt 24 = .ok (.aload_n 0, 1) := dk_42 (dk_at dksX9_doIt_1 0 rfl rfl)
theorem dX9_doIt_25 : decode cX9_doIt 25 = .ok (.invokevirtual 279, 3) := dk_182 1 23 (dk_at dksX9_doIt_1 1 rfl rfl)
theorem dX9_doIt_28 : decode cX9_doIt 28 = .ok (.aload_n 0, 1) := dk_42 (dk_at dksX9_doIt_1 4 rfl rfl)
theorem dX9_doIt_29 : decode cX9_doIt 29 = .ok (.iload_n 1, 1) := dk_27 (dk_at dksX9_doIt_1 5 rfl rfl)
theorem dX9_doIt_30 : decode cX9_doIt 30 = .ok (.iload_n 2, 1) := dk_28 (dk_at dksX9_doIt_1 6 rfl rfl)
theorem dX9_doIt_31 : decode cX9_doIt 31 = .ok (.iload_n 3, 1) := dk_29 (dk_at dksX9_doIt_1 7 rfl rfl)
theorem dX9_doIt_32 : decode cX9_doIt 32 = .ok (.iload 4, 2) := dk_21 4 (dk_at dksX9_doIt_1 8 rfl rfl)
theorem dX9_doIt_34 : decode cX9_doIt 34 = .ok (.invokevirtual 282, 3) := dk_182 1 26 (dk_at dksX9_doIt_1 10 rfl rfl)
theorem dX9_doIt_37 : decode cX9_doIt 37 = .ok (.iconst 0, 1) := dk_3 (dk_at dksX9_doIt_1 13 rfl rfl)
theorem dX9_doIt_38 : decode cX9_doIt 38 = .ok (.ireturn, 1) := dk_172 (dk_at dksX9_doIt_1 14 rfl rfl)
abbrev cX9_why : ByteArray := prog_22_method_63_code
def yX9_why : MethodName := ⟨RX9, "why", "(III)I"⟩
def dkwX9_why_4 : List UInt8 := [160, 0, 7, 4, 167, 0, 4, 3, 172]
abbrev dktX9_why_4 : List UInt8 := dkwX9_why_4 ++ []
def dkwX9_why_3 : List UInt8 := [28, 96, 46, 154, 0, 7, 4, 167, 0, 4, 3, 172, 42, 180, 0, 98, 16, 26, 28, 96, 46, 29]
abbrev dktX9_why_3 : List UInt8 := dkwX9_why_3 ++ dktX9_why_4
def dkwX9_why_2 : List UInt8 := [42, 180, 0, 98, 16, 25, 46, 16, 12, 160, 0, 7, 4, 167, 0, 4, 3, 172, 42, 180, 0, 98, 16, 32]
abbrev dktX9_why_2 : List UInt8 := dkwX9_why_2 ++ dktX9_why_3
def dkwX9_why_1 : List UInt8 := [171, 0, 0, 0, 0, 0, 63, 0, 0, 0, 2, 0, 0, 0, 0, 0, 0, 0, 27, 0, 0, 0, 1, 0, 0, 0, 45]
abbrev dktX9_why_1 : List UInt8 := dkwX9_why_1 ++ dktX9_why_2
def dkwX9_why_0 : List UInt8 := [27]
abbrev dktX9_why_0 : List UInt8 := dkwX9_why_0 ++ dktX9_why_1
theorem dksX9_why_0 : cX9_why.data.toList.drop 0 = dktX9_why_0 := by decide +kernel
theorem dksX9_why_1 : cX9_why.data.toList.drop 1 = dktX9_why_1 := dk_seg dksX9_why_0 1 rfl rfl
theorem dksX9_why_2 : cX9_why.data.toList.drop 28 = dktX9_why_2 := dk_seg dksX9_why_1 27 rfl rfl
theorem dksX9_why_3 : cX9_why.data.toList.drop 52 = dktX9_why_3 := dk_seg dksX9_why_2 24 rfl rfl
theorem dksX9_why_4 : cX9_why.data.toList.drop 74 = dktX9_why_4 := dk_seg dksX9_why_3 22 rfl rfl
theorem dX9_why_0 : decode cX9_why 0 = .ok (.iload_n 1, 1) := dk_27 (dk_at dksX9_why_0 0 rfl rfl)
theorem dX9_why_1 : decode cX9_why 1 = .ok (.lookupswitch 63 #[(0, 27), (1, 45)], 27) := by decide +kernel
theorem dX9_why_28 : decode cX9_why 28 = .ok (.aload_n 0, 1) := dk_42 (dk_at dksX9_why_2 0 rfl rfl)
theorem dX9_why_29 : decode cX9_why 29 = .ok (.getfield 98, 3) := dk_180 0 98 (dk_at dksX9_why_2 1 rfl rfl)
theorem dX9_why_32 : decode cX9_why 32 = .ok (.bipush 25, 2) := dk_16 25 (dk_at dksX9_why_2 4 rfl rfl)
theorem dX9_why_34 : decode cX9_why 34 = .ok (.iaload, 1) := dk_46 (dk_at dksX9_why_2 6 rfl rfl)
theorem dX9_why_35 : decode cX9_why 35 = .ok (.bipush 12, 2) := dk_16 12 (dk_at dksX9_why_2 7 rfl rfl)
theorem dX9_why_37 : decode cX9_why 37 = .ok (.if_icmp .ne 7, 3) := dk_160 0 7 (dk_at dksX9_why_2 9 rfl rfl)
theorem dX9_why_40 : decode cX9_why 40 = .ok (.iconst 1, 1) := dk_4 (dk_at dksX9_why_2 12 rfl rfl)
theorem dX9_why_41 : decode cX9_why 41 = .ok (.goto 4, 3) := dk_167 0 4 (dk_at dksX9_why_2 13 rfl rfl)
theorem dX9_why_44 : decode cX9_why 44 = .ok (.iconst 0, 1) := dk_3 (dk_at dksX9_why_2 16 rfl rfl)
theorem dX9_why_45 : decode cX9_why 45 = .ok (.ireturn, 1) := dk_172 (dk_at dksX9_why_2 17 rfl rfl)
theorem dX9_why_46 : decode cX9_why 46 = .ok (.aload_n 0, 1) := dk_42 (dk_at dksX9_why_2 18 rfl rfl)
theorem dX9_why_47 : decode cX9_why 47 = .ok (.getfield 98, 3) := dk_180 0 98 (dk_at dksX9_why_2 19 rfl rfl)
theorem dX9_why_50 : decode cX9_why 50 = .ok (.bipush 32, 2) := dk_16 32 (dk_at dksX9_why_2 22 rfl rfl)
theorem dX9_why_52 : decode cX9_why 52 = .ok (.iload_n 2, 1) := dk_28 (dk_at dksX9_why_3 0 rfl rfl)
theorem dX9_why_53 : decode cX9_why 53 = .ok (.iadd, 1) := dk_96 (dk_at dksX9_why_3 1 rfl rfl)
theorem dX9_why_54 : decode cX9_why 54 = .ok (.iaload, 1) := dk_46 (dk_at dksX9_why_3 2 rfl rfl)
theorem dX9_why_55 : decode cX9_why 55 = .ok (.ifCond .ne 7, 3) := dk_154 0 7 (dk_at dksX9_why_3 3 rfl rfl)
theorem dX9_why_58 : decode cX9_why 58 = .ok (.iconst 1, 1) := dk_4 (dk_at dksX9_why_3 6 rfl rfl)
theorem dX9_why_59 : decode cX9_why 59 = .ok (.goto 4, 3) := dk_167 0 4 (dk_at dksX9_why_3 7 rfl rfl)
theorem dX9_why_62 : decode cX9_why 62 = .ok (.iconst 0, 1) := dk_3 (dk_at dksX9_why_3 10 rfl rfl)
theorem dX9_why_63 : decode cX9_why 63 = .ok (.ireturn, 1) := dk_172 (dk_at dksX9_why_3 11 rfl rfl)
theorem dX9_why_64 : decode cX9_why 64 = .ok (.aload_n 0, 1) := dk_42 (dk_at dksX9_why_3 12 rfl rfl)
theorem dX9_why_65 : decode cX9_why 65 = .ok (.getfield 98, 3) := dk_180 0 98 (dk_at dksX9_why_3 13 rfl rfl)
theorem dX9_why_68 : decode cX9_why 68 = .ok (.bipush 26, 2) := dk_16 26 (dk_at dksX9_why_3 16 rfl rfl)
theorem dX9_why_70 : decode cX9_why 70 = .ok (.iload_n 2, 1) := dk_28 (dk_at dksX9_why_3 18 rfl rfl)
theorem dX9_why_71 : decode cX9_why 71 = .ok (.iadd, 1) := dk_96 (dk_at dksX9_why_3 19 rfl rfl)
theorem dX9_why_72 : decode cX9_why 72 = .ok (.iaload, 1) := dk_46 (dk_at dksX9_why_3 20 rfl rfl)
theorem dX9_why_73 : decode cX9_why 73 = .ok (.iload_n 3, 1) := dk_29 (dk_at dksX9_why_3 21 rfl rfl)
theorem dX9_why_74 : decode cX9_why 74 = .ok (.if_icmp .ne 7, 3) := dk_160 0 7 (dk_at dksX9_why_4 0 rfl rfl)
theorem dX9_why_77 : decode cX9_why 77 = .ok (.iconst 1, 1) := dk_4 (dk_at dksX9_why_4 3 rfl rfl)
theorem dX9_why_78 : decode cX9_why 78 = .ok (.goto 4, 3) := dk_167 0 4 (dk_at dksX9_why_4 4 rfl rfl)
theorem dX9_why_81 : decode cX9_why 81 = .ok (.iconst 0, 1) := dk_3 (dk_at dksX9_why_4 7 rfl rfl)
theorem dX9_why_82 : decode cX9_why 82 = .ok (.ireturn, 1) := dk_172 (dk_at dksX9_why_4 8 rfl rfl)
abbrev cX9_snap : ByteArray := prog_22_method_62_code
def yX9_snap : MethodName := ⟨RX9, "snap", "()V"⟩
def dkwX9_snap_4 : List UInt8 := [96, 181, 0, 215, 177]
abbrev dktX9_snap_4 : List UInt8 := dkwX9_snap_4 ++ []
def dkwX9_snap_3 : List UInt8 := [27, 96, 42, 180, 0, 98, 16, 24, 27, 96, 46, 79, 132, 1, 1, 167, 255, 222, 42, 89, 180, 0, 215, 4]
abbrev dktX9_snap_3 : List UInt8 := dkwX9_snap_3 ++ dktX9_snap_4
def dkwX9_snap_2 : List UInt8 := [181, 0, 215, 3, 60, 27, 17, 0, 140, 162, 0, 33, 42, 180, 0, 107, 17, 0, 140, 42, 180, 0, 215, 104]
abbrev dktX9_snap_2 : List UInt8 := dkwX9_snap_2 ++ dktX9_snap_3
def dkwX9_snap_1 : List UInt8 := [180, 0, 107, 27, 17, 0, 140, 96, 46, 79, 132, 1, 1, 167, 255, 230, 42, 89, 180, 0, 215, 4, 100]
abbrev dktX9_snap_1 : List UInt8 := dkwX9_snap_1 ++ dktX9_snap_2
def dkwX9_snap_0 : List UInt8 := [42, 180, 0, 215, 16, 8, 160, 0, 44, 3, 60, 27, 17, 3, 212, 162, 0, 25, 42, 180, 0, 107, 27, 42]
abbrev dktX9_snap_0 : List UInt8 := dkwX9_snap_0 ++ dktX9_snap_1
theorem dksX9_snap_0 : cX9_snap.data.toList.drop 0 = dktX9_snap_0 := by decide +kernel
theorem dksX9_snap_1 : cX9_snap.data.toList.drop 24 = dktX9_snap_1 := dk_seg dksX9_snap_0 24 rfl rfl
theorem dksX9_snap_2 : cX9_snap.data.toList.drop 47 = dktX9_snap_2 := dk_seg dksX9_snap_1 23 rfl rfl
theorem dksX9_snap_3 : cX9_snap.data.toList.drop 71 = dktX9_snap_3 := dk_seg dksX9_snap_2 24 rfl rfl
theorem dksX9_snap_4 : cX9_snap.data.toList.drop 95 = dktX9_snap_4 := dk_seg dksX9_snap_3 24 rfl rfl
theorem dX9_snap_0 : decode cX9_snap 0 = .ok (.aload_n 0, 1) := dk_42 (dk_at dksX9_snap_0 0 rfl rfl)
theorem dX9_snap_1 : decode cX9_snap 1 = .ok (.getfield 215, 3) := dk_180 0 215 (dk_at dksX9_snap_0 1 rfl rfl)
theorem dX9_snap_4 : decode cX9_snap 4 = .ok (.bipush 8, 2) := dk_16 8 (dk_at dksX9_snap_0 4 rfl rfl)
theorem dX9_snap_6 : decode cX9_snap 6 = .ok (.if_icmp .ne 44, 3) := dk_160 0 44 (dk_at dksX9_snap_0 6 rfl rfl)
theorem dX9_snap_9 : decode cX9_snap 9 = .ok (.iconst 0, 1) := dk_3 (dk_at dksX9_snap_0 9 rfl rfl)
theorem dX9_snap_10 : decode cX9_snap 10 = .ok (.istore_n 1, 1) := dk_60 (dk_at dksX9_snap_0 10 rfl rfl)
theorem dX9_snap_11 : decode cX9_snap 11 = .ok (.iload_n 1, 1) := dk_27 (dk_at dksX9_snap_0 11 rfl rfl)
theorem dX9_snap_12 : decode cX9_snap 12 = .ok (.sipush 980, 3) := dk_17 3 212 (dk_at dksX9_snap_0 12 rfl rfl)
theorem dX9_snap_15 : decode cX9_snap 15 = .ok (.if_icmp .ge 25, 3) := dk_162 0 25 (dk_at dksX9_snap_0 15 rfl rfl)
theorem dX9_snap_18 : decode cX9_snap 18 = .ok (.aload_n 0, 1) := dk_42 (dk_at dksX9_snap_0 18 rfl rfl)
theorem dX9_snap_19 : decode cX9_snap 19 = .ok (.getfield 107, 3) := dk_180 0 107 (dk_at dksX9_snap_0 19 rfl rfl)
theorem dX9_snap_22 : decode cX9_snap 22 = .ok (.iload_n 1, 1) := dk_27 (dk_at dksX9_snap_0 22 rfl rfl)
theorem dX9_snap_23 : decode cX9_snap 23 = .ok (.aload_n 0, 1) := dk_42 (dk_at dksX9_snap_0 23 rfl rfl)
theorem dX9_snap_24 : decode cX9_snap 24 = .ok (.getfield 107, 3) := dk_180 0 107 (dk_at dksX9_snap_1 0 rfl rfl)
theorem dX9_snap_27 : decode cX9_snap 27 = .ok (.iload_n 1, 1) := dk_27 (dk_at dksX9_snap_1 3 rfl rfl)
theorem dX9_snap_28 : decode cX9_snap 28 = .ok (.sipush 140, 3) := dk_17 0 140 (dk_at dksX9_snap_1 4 rfl rfl)
theorem dX9_snap_31 : decode cX9_snap 31 = .ok (.iadd, 1) := dk_96 (dk_at dksX9_snap_1 7 rfl rfl)
theorem dX9_snap_32 : decode cX9_snap 32 = .ok (.iaload, 1) := dk_46 (dk_at dksX9_snap_1 8 rfl rfl)
theorem dX9_snap_33 : decode cX9_snap 33 = .ok (.iastore, 1) := dk_79 (dk_at dksX9_snap_1 9 rfl rfl)
theorem dX9_snap_34 : decode cX9_snap 34 = .ok (.iinc 1 1, 3) := dk_132 1 1 (dk_at dksX9_snap_1 10 rfl rfl)
theorem dX9_snap_37 : decode cX9_snap 37 = .ok (.goto (-26), 3) := dk_167 255 230 (dk_at dksX9_snap_1 13 rfl rfl)
theorem dX9_snap_40 : decode cX9_snap 40 = .ok (.aload_n 0, 1) := dk_42 (dk_at dksX9_snap_1 16 rfl rfl)
theorem dX9_snap_41 : decode cX9_snap 41 = .ok (.dup, 1) := dk_89 (dk_at dksX9_snap_1 17 rfl rfl)
theorem dX9_snap_42 : decode cX9_snap 42 = .ok (.getfield 215, 3) := dk_180 0 215 (dk_at dksX9_snap_1 18 rfl rfl)
theorem dX9_snap_45 : decode cX9_snap 45 = .ok (.iconst 1, 1) := dk_4 (dk_at dksX9_snap_1 21 rfl rfl)
theorem dX9_snap_46 : decode cX9_snap 46 = .ok (.isub, 1) := dk_100 (dk_at dksX9_snap_1 22 rfl rfl)
theorem dX9_snap_47 : decode cX9_snap 47 = .ok (.putfield 215, 3) := dk_181 0 215 (dk_at dksX9_snap_2 0 rfl rfl)
theorem dX9_snap_50 : decode cX9_snap 50 = .ok (.iconst 0, 1) := dk_3 (dk_at dksX9_snap_2 3 rfl rfl)
theorem dX9_snap_51 : decode cX9_snap 51 = .ok (.istore_n 1, 1) := dk_60 (dk_at dksX9_snap_2 4 rfl rfl)
theorem dX9_snap_52 : decode cX9_snap 52 = .ok (.iload_n 1, 1) := dk_27 (dk_at dksX9_snap_2 5 rfl rfl)
theorem dX9_snap_53 : decode cX9_snap 53 = .ok (.sipush 140, 3) := dk_17 0 140 (dk_at dksX9_snap_2 6 rfl rfl)
theorem dX9_snap_56 : decode cX9_snap 56 = .ok (.if_icmp .ge 33, 3) := dk_162 0 33 (dk_at dksX9_snap_2 9 rfl rfl)
theorem dX9_snap_59 : decode cX9_snap 59 = .ok (.aload_n 0, 1) := dk_42 (dk_at dksX9_snap_2 12 rfl rfl)
theorem dX9_snap_60 : decode cX9_snap 60 = .ok (.getfield 107, 3) := dk_180 0 107 (dk_at dksX9_snap_2 13 rfl rfl)
theorem dX9_snap_63 : decode cX9_snap 63 = .ok (.sipush 140, 3) := dk_17 0 140 (dk_at dksX9_snap_2 16 rfl rfl)
theorem dX9_snap_66 : decode cX9_snap 66 = .ok (.aload_n 0, 1) := dk_42 (dk_at dksX9_snap_2 19 rfl rfl)
theorem dX9_snap_67 : decode cX9_snap 67 = .ok (.getfield 215, 3) := dk_180 0 215 (dk_at dksX9_snap_2 20 rfl rfl)
theorem dX9_snap_70 : decode cX9_snap 70 = .ok (.imul, 1) := dk_104 (dk_at dksX9_snap_2 23 rfl rfl)
theorem dX9_snap_71 : decode cX9_snap 71 = .ok (.iload_n 1, 1) := dk_27 (dk_at dksX9_snap_3 0 rfl rfl)
theorem dX9_snap_72 : decode cX9_snap 72 = .ok (.iadd, 1) := dk_96 (dk_at dksX9_snap_3 1 rfl rfl)
theorem dX9_snap_73 : decode cX9_snap 73 = .ok (.aload_n 0, 1) := dk_42 (dk_at dksX9_snap_3 2 rfl rfl)
theorem dX9_snap_74 : decode cX9_snap 74 = .ok (.getfield 98, 3) := dk_180 0 98 (dk_at dksX9_snap_3 3 rfl rfl)
theorem dX9_snap_77 : decode cX9_snap 77 = .ok (.bipush 24, 2) := dk_16 24 (dk_at dksX9_snap_3 6 rfl rfl)
theorem dX9_snap_79 : decode cX9_snap 79 = .ok (.iload_n 1, 1) := dk_27 (dk_at dksX9_snap_3 8 rfl rfl)
theorem dX9_snap_80 : decode cX9_snap 80 = .ok (.iadd, 1) := dk_96 (dk_at dksX9_snap_3 9 rfl rfl)
theorem dX9_snap_81 : decode cX9_snap 81 = .ok (.iaload, 1) := dk_46 (dk_at dksX9_snap_3 10 rfl rfl)
theorem dX9_snap_82 : decode cX9_snap 82 = .ok (.iastore, 1) := dk_79 (dk_at dksX9_snap_3 11 rfl rfl)
theorem dX9_snap_83 : decode cX9_snap 83 = .ok (.iinc 1 1, 3) := dk_132 1 1 (dk_at dksX9_snap_3 12 rfl rfl)
theorem dX9_snap_86 : decode cX9_snap 86 = .ok (.goto (-34), 3) := dk_167 255 222 (dk_at dksX9_snap_3 15 rfl rfl)
theorem dX9_snap_89 : decode cX9_snap 89 = .ok (.aload_n 0, 1) := dk_42 (dk_at dksX9_snap_3 18 rfl rfl)
theorem dX9_snap_90 : decode cX9_snap 90 = .ok (.dup, 1) := dk_89 (dk_at dksX9_snap_3 19 rfl rfl)
theorem dX9_snap_91 : decode cX9_snap 91 = .ok (.getfield 215, 3) := dk_180 0 215 (dk_at dksX9_snap_3 20 rfl rfl)
theorem dX9_snap_94 : decode cX9_snap 94 = .ok (.iconst 1, 1) := dk_4 (dk_at dksX9_snap_3 23 rfl rfl)
theorem dX9_snap_95 : decode cX9_snap 95 = .ok (.iadd, 1) := dk_96 (dk_at dksX9_snap_4 0 rfl rfl)
theorem dX9_snap_96 : decode cX9_snap 96 = .ok (.putfield 215, 3) := dk_181 0 215 (dk_at dksX9_snap_4 1 rfl rfl)
theorem dX9_snap_99 : decode cX9_snap 99 = .ok (.return_, 1) := dk_177 (dk_at dksX9_snap_4 4 rfl rfl)
abbrev cX9_live : ByteArray := prog_22_method_66_code
def yX9_live : MethodName := ⟨RX9, "live", "(IIII)V"⟩
def dkwX9_live_3 : List UInt8 := [16, 26, 28, 96, 29, 79, 177]
abbrev dktX9_live_3 : List UInt8 := dkwX9_live_3 ++ []
def dkwX9_live_2 : List UInt8 := [42, 28, 29, 21, 4, 182, 1, 15, 177, 42, 180, 0, 98, 16, 32, 28, 96, 3, 79, 177, 42, 180, 0, 98]
abbrev dktX9_live_2 : List UInt8 := dkwX9_live_2 ++ dktX9_live_3
def dkwX9_live_1 : List UInt8 := [171, 0, 0, 0, 0, 0, 47, 0, 0, 0, 2, 0, 0, 0, 0, 0, 0, 0, 27, 0, 0, 0, 1, 0, 0, 0, 36]
abbrev dktX9_live_1 : List UInt8 := dkwX9_live_1 ++ dktX9_live_2
def dkwX9_live_0 : List UInt8 := [27]
abbrev dktX9_live_0 : List UInt8 := dkwX9_live_0 ++ dktX9_live_1
theorem dksX9_live_0 : cX9_live.data.toList.drop 0 = dktX9_live_0 := by decide +kernel
theorem dksX9_live_1 : cX9_live.data.toList.drop 1 = dktX9_live_1 := dk_seg dksX9_live_0 1 rfl rfl
theorem dksX9_live_2 : cX9_live.data.toList.drop 28 = dktX9_live_2 := dk_seg dksX9_live_1 27 rfl rfl
theorem dksX9_live_3 : cX9_live.data.toList.drop 52 = dktX9_live_3 := dk_seg dksX9_live_2 24 rfl rfl
theorem dX9_live_0 : decode cX9_live 0 = .ok (.iload_n 1, 1) := dk_27 (dk_at dksX9_live_0 0 rfl rfl)
theorem dX9_live_1 : decode cX9_live 1 = .ok (.lookupswitch 47 #[(0, 27), (1, 36)], 27) := by decide +kernel
theorem dX9_live_28 : decode cX9_live 28 = .ok (.aload_n 0, 1) := dk_42 (dk_at dksX9_live_2 0 rfl rfl)
theorem dX9_live_29 : decode cX9_live 29 = .ok (.iload_n 2, 1) := dk_28 (dk_at dksX9_live_2 1 rfl rfl)
theorem dX9_live_30 : decode cX9_live 30 = .ok (.iload_n 3, 1) := dk_29 (dk_at dksX9_live_2 2 rfl rfl)
theorem dX9_live_31 : decode cX9_live 31 = .ok (.iload 4, 2) := dk_21 4 (dk_at dksX9_live_2 3 rfl rfl)
theorem dX9_live_33 : decode cX9_live 33 = .ok (.invokevirtual 271, 3) := dk_182 1 15 (dk_at dksX9_live_2 5 rfl rfl)
theorem dX9_live_36 : decode cX9_live 36 = .ok (.return_, 1) := dk_177 (dk_at dksX9_live_2 8 rfl rfl)
theorem dX9_live_37 : decode cX9_live 37 = .ok (.aload_n 0, 1) := dk_42 (dk_at dksX9_live_2 9 rfl rfl)
theorem dX9_live_38 : decode cX9_live 38 = .ok (.getfield 98, 3) := dk_180 0 98 (dk_at dksX9_live_2 10 rfl rfl)
theorem dX9_live_41 : decode cX9_live 41 = .ok (.bipush 32, 2) := dk_16 32 (dk_at dksX9_live_2 13 rfl rfl)
theorem dX9_live_43 : decode cX9_live 43 = .ok (.iload_n 2, 1) := dk_28 (dk_at dksX9_live_2 15 rfl rfl)
theorem dX9_live_44 : decode cX9_live 44 = .ok (.iadd, 1) := dk_96 (dk_at dksX9_live_2 16 rfl rfl)
theorem dX9_live_45 : decode cX9_live 45 = .ok (.iconst 0, 1) := dk_3 (dk_at dksX9_live_2 17 rfl rfl)
theorem dX9_live_46 : decode cX9_live 46 = .ok (.iastore, 1) := dk_79 (dk_at dksX9_live_2 18 rfl rfl)
theorem dX9_live_47 : decode cX9_live 47 = .ok (.return_, 1) := dk_177 (dk_at dksX9_live_2 19 rfl rfl)
theorem dX9_live_48 : decode cX9_live 48 = .ok (.aload_n 0, 1) := dk_42 (dk_at dksX9_live_2 20 rfl rfl)
theorem dX9_live_49 : decode cX9_live 49 = .ok (.getfield 98, 3) := dk_180 0 98 (dk_at dksX9_live_2 21 rfl rfl)
theorem dX9_live_52 : decode cX9_live 52 = .ok (.bipush 26, 2) := dk_16 26 (dk_at dksX9_live_3 0 rfl rfl)
theorem dX9_live_54 : decode cX9_live 54 = .ok (.iload_n 2, 1) := dk_28 (dk_at dksX9_live_3 2 rfl rfl)
theorem dX9_live_55 : decode cX9_live 55 = .ok (.iadd, 1) := dk_96 (dk_at dksX9_live_3 3 rfl rfl)
theorem dX9_live_56 : decode cX9_live 56 = .ok (.iload_n 3, 1) := dk_29 (dk_at dksX9_live_3 4 rfl rfl)
theorem dX9_live_57 : decode cX9_live 57 = .ok (.iastore, 1) := dk_79 (dk_at dksX9_live_3 5 rfl rfl)
theorem dX9_live_58 : decode cX9_live 58 = .ok (.return_, 1) := dk_177 (dk_at dksX9_live_3 6 rfl rfl)
abbrev cX9_doDeed : ByteArray := prog_22_method_65_code
def yX9_doDeed : MethodName := ⟨RX9, "doDeed", "(III)V"⟩
def dkwX9_doDeed_6 : List UInt8 := [46, 79, 132, 5, 1, 167, 255, 181, 177]
abbrev dktX9_doDeed_6 : List UInt8 := dkwX9_doDeed_6 ++ []
def dkwX9_doDeed_5 : List UInt8 := [180, 0, 98, 16, 86, 16, 12, 21, 5, 104, 96, 21, 4, 96, 42, 180, 0, 98, 17, 0, 158, 21, 5, 96]
abbrev dktX9_doDeed_5 : List UInt8 := dkwX9_doDeed_5 ++ dktX9_doDeed_6
def dkwX9_doDeed_4 : List UInt8 := [154, 0, 6, 167, 0, 47, 42, 180, 0, 98, 17, 0, 158, 21, 5, 96, 42, 21, 5, 182, 1, 12, 79, 42]
abbrev dktX9_doDeed_4 : List UInt8 := dkwX9_doDeed_4 ++ dktX9_doDeed_5
def dkwX9_doDeed_3 : List UInt8 := [54, 5, 21, 5, 42, 180, 0, 98, 4, 46, 162, 0, 70, 42, 21, 5, 3, 182, 0, 250, 29, 184, 0, 181]
abbrev dktX9_doDeed_3 : List UInt8 := dkwX9_doDeed_3 ++ dktX9_doDeed_4
def dkwX9_doDeed_2 : List UInt8 := [21, 4, 96, 42, 180, 0, 98, 16, 24, 46, 79, 42, 180, 0, 98, 16, 25, 92, 46, 4, 96, 79, 3]
abbrev dktX9_doDeed_2 : List UInt8 := dkwX9_doDeed_2 ++ dktX9_doDeed_3
def dkwX9_doDeed_1 : List UInt8 := [16, 50, 21, 4, 96, 28, 79, 42, 180, 0, 98, 16, 62, 21, 4, 96, 29, 79, 42, 180, 0, 98, 16, 74]
abbrev dktX9_doDeed_1 : List UInt8 := dkwX9_doDeed_1 ++ dktX9_doDeed_2
def dkwX9_doDeed_0 : List UInt8 := [42, 180, 0, 98, 16, 25, 46, 54, 4, 42, 180, 0, 98, 16, 38, 21, 4, 96, 27, 79, 42, 180, 0, 98]
abbrev dktX9_doDeed_0 : List UInt8 := dkwX9_doDeed_0 ++ dktX9_doDeed_1
theorem dksX9_doDeed_0 : cX9_doDeed.data.toList.drop 0 = dktX9_doDeed_0 := by decide +kernel
theorem dksX9_doDeed_1 : cX9_doDeed.data.toList.drop 24 = dktX9_doDeed_1 := dk_seg dksX9_doDeed_0 24 rfl rfl
theorem dksX9_doDeed_2 : cX9_doDeed.data.toList.drop 48 = dktX9_doDeed_2 := dk_seg dksX9_doDeed_1 24 rfl rfl
theorem dksX9_doDeed_3 : cX9_doDeed.data.toList.drop 71 = dktX9_doDeed_3 := dk_seg dksX9_doDeed_2 23 rfl rfl
theorem dksX9_doDeed_4 : cX9_doDeed.data.toList.drop 95 = dktX9_doDeed_4 := dk_seg dksX9_doDeed_3 24 rfl rfl
theorem dksX9_doDeed_5 : cX9_doDeed.data.toList.drop 119 = dktX9_doDeed_5 := dk_seg dksX9_doDeed_4 24 rfl rfl
theorem dksX9_doDeed_6 : cX9_doDeed.data.toList.drop 143 = dktX9_doDeed_6 := dk_seg dksX9_doDeed_5 24 rfl rfl
theorem dX9_doDeed_0 : decode cX9_doDeed 0 = .ok (.aload_n 0, 1) := dk_42 (dk_at dksX9_doDeed_0 0 rfl rfl)
theorem dX9_doDeed_1 : decode cX9_doDeed 1 = .ok (.getfield 98, 3) := dk_180 0 98 (dk_at dksX9_doDeed_0 1 rfl rfl)
theorem dX9_doDeed_4 : decode cX9_doDeed 4 = .ok (.bipush 25, 2) := dk_16 25 (dk_at dksX9_doDeed_0 4 rfl rfl)
theorem dX9_doDeed_6 : decode cX9_doDeed 6 = .ok (.iaload, 1) := dk_46 (dk_at dksX9_doDeed_0 6 rfl rfl)
theorem dX9_doDeed_7 : decode cX9_doDeed 7 = .ok (.istore 4, 2) := dk_54 4 (dk_at dksX9_doDeed_0 7 rfl rfl)
theorem dX9_doDeed_9 : decode cX9_doDeed 9 = .ok (.aload_n 0, 1) := dk_42 (dk_at dksX9_doDeed_0 9 rfl rfl)
theorem dX9_doDeed_10 : decode cX9_doDeed 10 = .ok (.getfield 98, 3) := dk_180 0 98 (dk_at dksX9_doDeed_0 10 rfl rfl)
theorem dX9_doDeed_13 : decode cX9_doDeed 13 = .ok (.bipush 38, 2) := dk_16 38 (dk_at dksX9_doDeed_0 13 rfl rfl)
theorem dX9_doDeed_15 : decode cX9_doDeed 15 = .ok (.iload 4, 2) := dk_21 4 (dk_at dksX9_doDeed_0 15 rfl rfl)
theorem dX9_doDeed_17 : decode cX9_doDeed 17 = .ok (.iadd, 1) := dk_96 (dk_at dksX9_doDeed_0 17 rfl rfl)
theorem dX9_doDeed_18 : decode cX9_doDeed 18 = .ok (.iload_n 1, 1) := dk_27 (dk_at dksX9_doDeed_0 18 rfl rfl)
theorem dX9_doDeed_19 : decode cX9_doDeed 19 = .ok (.iastore, 1) := dk_79 (dk_at dksX9_doDeed_0 19 rfl rfl)
theorem dX9_doDeed_20 : decode cX9_doDeed 20 = .ok (.aload_n 0, 1) := dk_42 (dk_at dksX9_doDeed_0 20 rfl rfl)
theorem dX9_doDeed_21 : decode cX9_doDeed 21 = .ok (.getfield 98, 3) := dk_180 0 98 (dk_at dksX9_doDeed_0 21 rfl rfl)
theorem dX9_doDeed_24 : decode cX9_doDeed 24 = .ok (.bipush 50, 2) := dk_16 50 (dk_at dksX9_doDeed_1 0 rfl rfl)
theorem dX9_doDeed_26 : decode cX9_doDeed 26 = .ok (.iload 4, 2) := dk_21 4 (dk_at dksX9_doDeed_1 2 rfl rfl)
theorem dX9_doDeed_28 : decode cX9_doDeed 28 = .ok (.iadd, 1) := dk_96 (dk_at dksX9_doDeed_1 4 rfl rfl)
theorem dX9_doDeed_29 : decode cX9_doDeed 29 = .ok (.iload_n 2, 1) := dk_28 (dk_at dksX9_doDeed_1 5 rfl rfl)
theorem dX9_doDeed_30 : decode cX9_doDeed 30 = .ok (.iastore, 1) := dk_79 (dk_at dksX9_doDeed_1 6 rfl rfl)
theorem dX9_doDeed_31 : decode cX9_doDeed 31 = .ok (.aload_n 0, 1) := dk_42 (dk_at dksX9_doDeed_1 7 rfl rfl)
theorem dX9_doDeed_32 : decode cX9_doDeed 32 = .ok (.getfield 98, 3) := dk_180 0 98 (dk_at dksX9_doDeed_1 8 rfl rfl)
theorem dX9_doDeed_35 : decode cX9_doDeed 35 = .ok (.bipush 62, 2) := dk_16 62 (dk_at dksX9_doDeed_1 11 rfl rfl)
theorem dX9_doDeed_37 : decode cX9_doDeed 37 = .ok (.iload 4, 2) := dk_21 4 (dk_at dksX9_doDeed_1 13 rfl rfl)
theorem dX9_doDeed_39 : decode cX9_doDeed 39 = .ok (.iadd, 1) := dk_96 (dk_at dksX9_doDeed_1 15 rfl rfl)
theorem dX9_doDeed_40 : decode cX9_doDeed 40 = .ok (.iload_n 3, 1) := dk_29 (dk_at dksX9_doDeed_1 16 rfl rfl)
theorem dX9_doDeed_41 : decode cX9_doDeed 41 = .ok (.iastore, 1) := dk_79 (dk_at dksX9_doDeed_1 17 rfl rfl)
theorem dX9_doDeed_42 : decode cX9_doDeed 42 = .ok (.aload_n 0, 1) := dk_42 (dk_at dksX9_doDeed_1 18 rfl rfl)
theorem dX9_doDeed_43 : decode cX9_doDeed 43 = .ok (.getfield 98, 3) := dk_180 0 98 (dk_at dksX9_doDeed_1 19 rfl rfl)
theorem dX9_doDeed_46 : decode cX9_doDeed 46 = .ok (.bipush 74, 2) := dk_16 74 (dk_at dksX9_doDeed_1 22 rfl rfl)
theorem dX9_doDeed_48 : decode cX9_doDeed 48 = .ok (.iload 4, 2) := dk_21 4 (dk_at dksX9_doDeed_2 0 rfl rfl)
theorem dX9_doDeed_50 : decode cX9_doDeed 50 = .ok (.iadd, 1) := dk_96 (dk_at dksX9_doDeed_2 2 rfl rfl)
theorem dX9_doDeed_51 : decode cX9_doDeed 51 = .ok (.aload_n 0, 1) := dk_42 (dk_at dksX9_doDeed_2 3 rfl rfl)
theorem dX9_doDeed_52 : decode cX9_doDeed 52 = .ok (.getfield 98, 3) := dk_180 0 98 (dk_at dksX9_doDeed_2 4 rfl rfl)
theorem dX9_doDeed_55 : decode cX9_doDeed 55 = .ok (.bipush 24, 2) := dk_16 24 (dk_at dksX9_doDeed_2 7 rfl rfl)
theorem dX9_doDeed_57 : decode cX9_doDeed 57 = .ok (.iaload, 1) := dk_46 (dk_at dksX9_doDeed_2 9 rfl rfl)
theorem dX9_doDeed_58 : decode cX9_doDeed 58 = .ok (.iastore, 1) := dk_79 (dk_at dksX9_doDeed_2 10 rfl rfl)
theorem dX9_doDeed_59 : decode cX9_doDeed 59 = .ok (.aload_n 0, 1) := dk_42 (dk_at dksX9_doDeed_2 11 rfl rfl)
theorem dX9_doDeed_60 : decode cX9_doDeed 60 = .ok (.getfield 98, 3) := dk_180 0 98 (dk_at dksX9_doDeed_2 12 rfl rfl)
theorem dX9_doDeed_63 : decode cX9_doDeed 63 = .ok (.bipush 25, 2) := dk_16 25 (dk_at dksX9_doDeed_2 15 rfl rfl)
theorem dX9_doDeed_65 : decode cX9_doDeed 65 = .ok (.dup2, 1) := dk_92 (dk_at dksX9_doDeed_2 17 rfl rfl)
theorem dX9_doDeed_66 : decode cX9_doDeed 66 = .ok (.iaload, 1) := dk_46 (dk_at dksX9_doDeed_2 18 rfl rfl)
theorem dX9_doDeed_67 : decode cX9_doDeed 67 = .ok (.iconst 1, 1) := dk_4 (dk_at dksX9_doDeed_2 19 rfl rfl)
theorem dX9_doDeed_68 : decode cX9_doDeed 68 = .ok (.iadd, 1) := dk_96 (dk_at dksX9_doDeed_2 20 rfl rfl)
theorem dX9_doDeed_69 : decode cX9_doDeed 69 = .ok (.iastore, 1) := dk_79 (dk_at dksX9_doDeed_2 21 rfl rfl)
theorem dX9_doDeed_70 : decode cX9_doDeed 70 = .ok (.iconst 0, 1) := dk_3 (dk_at dksX9_doDeed_2 22 rfl rfl)
theorem dX9_doDeed_71 : decode cX9_doDeed 71 = .ok (.istore 5, 2) := dk_54 5 (dk_at dksX9_doDeed_3 0 rfl rfl)
theorem dX9_doDeed_73 : decode cX9_doDeed 73 = .ok (.iload 5, 2) := dk_21 5 (dk_at dksX9_doDeed_3 2 rfl rfl)
theorem dX9_doDeed_75 : decode cX9_doDeed 75 = .ok (.aload_n 0, 1) := dk_42 (dk_at dksX9_doDeed_3 4 rfl rfl)
theorem dX9_doDeed_76 : decode cX9_doDeed 76 = .ok (.getfield 98, 3) := dk_180 0 98 (dk_at dksX9_doDeed_3 5 rfl rfl)
theorem dX9_doDeed_79 : decode cX9_doDeed 79 = .ok (.iconst 1, 1) := dk_4 (dk_at dksX9_doDeed_3 8 rfl rfl)
theorem dX9_doDeed_80 : decode cX9_doDeed 80 = .ok (.iaload, 1) := dk_46 (dk_at dksX9_doDeed_3 9 rfl rfl)
theorem dX9_doDeed_81 : decode cX9_doDeed 81 = .ok (.if_icmp .ge 70, 3) := dk_162 0 70 (dk_at dksX9_doDeed_3 10 rfl rfl)
theorem dX9_doDeed_84 : decode cX9_doDeed 84 = .ok (.aload_n 0, 1) := dk_42 (dk_at dksX9_doDeed_3 13 rfl rfl)
theorem dX9_doDeed_85 : decode cX9_doDeed 85 = .ok (.iload 5, 2) := dk_21 5 (dk_at dksX9_doDeed_3 14 rfl rfl)
theorem dX9_doDeed_87 : decode cX9_doDeed 87 = .ok (.iconst 0, 1) := dk_3 (dk_at dksX9_doDeed_3 16 rfl rfl)
theorem dX9_doDeed_88 : decode cX9_doDeed 88 = .ok (.invokevirtual 250, 3) := dk_182 0 250 (dk_at dksX9_doDeed_3 17 rfl rfl)
theorem dX9_doDeed_91 : decode cX9_doDeed 91 = .ok (.iload_n 3, 1) := dk_29 (dk_at dksX9_doDeed_3 20 rfl rfl)
theorem dX9_doDeed_92 : decode cX9_doDeed 92 = .ok (.invokestatic 181, 3) := dk_184 0 181 (dk_at dksX9_doDeed_3 21 rfl rfl)
theorem dX9_doDeed_95 : decode cX9_doDeed 95 = .ok (.ifCond .ne 6, 3) := dk_154 0 6 (dk_at dksX9_doDeed_4 0 rfl rfl)
theorem dX9_doDeed_98 : decode cX9_doDeed 98 = .ok (.goto 47, 3) := dk_167 0 47 (dk_at dksX9_doDeed_4 3 rfl rfl)
theorem dX9_doDeed_101 : decode cX9_doDeed 101 = .ok (.aload_n 0, 1) := dk_42 (dk_at dksX9_doDeed_4 6 rfl rfl)
theorem dX9_doDeed_102 : decode cX9_doDeed 102 = .ok (.getfield 98, 3) := dk_180 0 98 (dk_at dksX9_doDeed_4 7 rfl rfl)
theorem dX9_doDeed_105 : decode cX9_doDeed 105 = .ok (.sipush 158, 3) := dk_17 0 158 (dk_at dksX9_doDeed_4 10 rfl rfl)
theorem dX9_doDeed_108 : decode cX9_doDeed 108 = .ok (.iload 5, 2) := dk_21 5 (dk_at dksX9_doDeed_4 13 rfl rfl)
theorem dX9_doDeed_110 : decode cX9_doDeed 110 = .ok (.iadd, 1) := dk_96 (dk_at dksX9_doDeed_4 15 rfl rfl)
theorem dX9_doDeed_111 : decode cX9_doDeed 111 = .ok (.aload_n 0, 1) := dk_42 (dk_at dksX9_doDeed_4 16 rfl rfl)
theorem dX9_doDeed_112 : decode cX9_doDeed 112 = .ok (.iload 5, 2) := dk_21 5 (dk_at dksX9_doDeed_4 17 rfl rfl)
theorem dX9_doDeed_114 : decode cX9_doDeed 114 = .ok (.invokevirtual 268, 3) := dk_182 1 12 (dk_at dksX9_doDeed_4 19 rfl rfl)
theorem dX9_doDeed_117 : decode cX9_doDeed 117 = .ok (.iastore, 1) := dk_79 (dk_at dksX9_doDeed_4 22 rfl rfl)
theorem dX9_doDeed_118 : decode cX9_doDeed 118 = .ok (.aload_n 0, 1) := dk_42 (dk_at dksX9_doDeed_4 23 rfl rfl)
theorem dX9_doDeed_119 : decode cX9_doDeed 119 = .ok (.getfield 98, 3) := dk_180 0 98 (dk_at dksX9_doDeed_5 0 rfl rfl)
theorem dX9_doDeed_122 : decode cX9_doDeed 122 = .ok (.bipush 86, 2) := dk_16 86 (dk_at dksX9_doDeed_5 3 rfl rfl)
theorem dX9_doDeed_124 : decode cX9_doDeed 124 = .ok (.bipush 12, 2) := dk_16 12 (dk_at dksX9_doDeed_5 5 rfl rfl)
theorem dX9_doDeed_126 : decode cX9_doDeed 126 = .ok (.iload 5, 2) := dk_21 5 (dk_at dksX9_doDeed_5 7 rfl rfl)
theorem dX9_doDeed_128 : decode cX9_doDeed 128 = .ok (.imul, 1) := dk_104 (dk_at dksX9_doDeed_5 9 rfl rfl)
theorem dX9_doDeed_129 : decode cX9_doDeed 129 = .ok (.iadd, 1) := dk_96 (dk_at dksX9_doDeed_5 10 rfl rfl)
theorem dX9_doDeed_130 : decode cX9_doDeed 130 = .ok (.iload 4, 2) := dk_21 4 (dk_at dksX9_doDeed_5 11 rfl rfl)
theorem dX9_doDeed_132 : decode cX9_doDeed 132 = .ok (.iadd, 1) := dk_96 (dk_at dksX9_doDeed_5 13 rfl rfl)
theorem dX9_doDeed_133 : decode cX9_doDeed 133 = .ok (.aload_n 0, 1) := dk_42 (dk_at dksX9_doDeed_5 14 rfl rfl)
theorem dX9_doDeed_134 : decode cX9_doDeed 134 = .ok (.getfield 98, 3) := dk_180 0 98 (dk_at dksX9_doDeed_5 15 rfl rfl)
theorem dX9_doDeed_137 : decode cX9_doDeed 137 = .ok (.sipush 158, 3) := dk_17 0 158 (dk_at dksX9_doDeed_5 18 rfl rfl)
theorem dX9_doDeed_140 : decode cX9_doDeed 140 = .ok (.iload 5, 2) := dk_21 5 (dk_at dksX9_doDeed_5 21 rfl rfl)
theorem dX9_doDeed_142 : decode cX9_doDeed 142 = .ok (.iadd, 1) := dk_96 (dk_at dksX9_doDeed_5 23 rfl rfl)
theorem dX9_doDeed_143 : decode cX9_doDeed 143 = .ok (.iaload, 1) := dk_46 (dk_at dksX9_doDeed_6 0 rfl rfl)
theorem dX9_doDeed_144 : decode cX9_doDeed 144 = .ok (.iastore, 1) := dk_79 (dk_at dksX9_doDeed_6 1 rfl rfl)
theorem dX9_doDeed_145 : decode cX9_doDeed 145 = .ok (.iinc 5 1, 3) := dk_132 5 1 (dk_at dksX9_doDeed_6 2 rfl rfl)
theorem dX9_doDeed_148 : decode cX9_doDeed 148 = .ok (.goto (-75), 3) := dk_167 255 181 (dk_at dksX9_doDeed_6 5 rfl rfl)
theorem dX9_doDeed_151 : decode cX9_doDeed 151 = .ok (.return_, 1) := dk_177 (dk_at dksX9_doDeed_6 8 rfl rfl)
abbrev cX9_nextLeaf : ByteArray := prog_22_method_64_code
def yX9_nextLeaf : MethodName := ⟨RX9, "nextLeaf", "(I)I"⟩
def dkwX9_nextLeaf_2 : List UInt8 := [46, 96, 172]
abbrev dktX9_nextLeaf_2 : List UInt8 := dkwX9_nextLeaf_2 ++ []
def dkwX9_nextLeaf_1 : List UInt8 := [17, 0, 158, 27, 96, 46, 167, 0, 10, 42, 180, 0, 98, 16, 24, 46, 42, 180, 0, 98, 16, 17, 27, 96]
abbrev dktX9_nextLeaf_1 : List UInt8 := dkwX9_nextLeaf_1 ++ dktX9_nextLeaf_2
def dkwX9_nextLeaf_0 : List UInt8 := [42, 180, 0, 98, 17, 0, 158, 27, 96, 46, 42, 180, 0, 98, 16, 24, 46, 164, 0, 16, 42, 180, 0, 98]
abbrev dktX9_nextLeaf_0 : List UInt8 := dkwX9_nextLeaf_0 ++ dktX9_nextLeaf_1
theorem dksX9_nextLeaf_0 : cX9_nextLeaf.data.toList.drop 0 = dktX9_nextLeaf_0 := by decide +kernel
theorem dksX9_nextLeaf_1 : cX9_nextLeaf.data.toList.drop 24 = dktX9_nextLeaf_1 := dk_seg dksX9_nextLeaf_0 24 rfl rfl
theorem dksX9_nextLeaf_2 : cX9_nextLeaf.data.toList.drop 48 = dktX9_nextLeaf_2 := dk_seg dksX9_nextLeaf_1 24 rfl rfl
theorem dX9_nextLeaf_0 : decode cX9_nextLeaf 0 = .ok (.aload_n 0, 1) := dk_42 (dk_at dksX9_nextLeaf_0 0 rfl rfl)
theorem dX9_nextLeaf_1 : decode cX9_nextLeaf 1 = .ok (.getfield 98, 3) := dk_180 0 98 (dk_at dksX9_nextLeaf_0 1 rfl rfl)
theorem dX9_nextLeaf_4 : decode cX9_nextLeaf 4 = .ok (.sipush 158, 3) := dk_17 0 158 (dk_at dksX9_nextLeaf_0 4 rfl rfl)
theorem dX9_nextLeaf_7 : decode cX9_nextLeaf 7 = .ok (.iload_n 1, 1) := dk_27 (dk_at dksX9_nextLeaf_0 7 rfl rfl)
theorem dX9_nextLeaf_8 : decode cX9_nextLeaf 8 = .ok (.iadd, 1) := dk_96 (dk_at dksX9_nextLeaf_0 8 rfl rfl)
theorem dX9_nextLeaf_9 : decode cX9_nextLeaf 9 = .ok (.iaload, 1) := dk_46 (dk_at dksX9_nextLeaf_0 9 rfl rfl)
theorem dX9_nextLeaf_10 : decode cX9_nextLeaf 10 = .ok (.aload_n 0, 1) := dk_42 (dk_at dksX9_nextLeaf_0 10 rfl rfl)
theorem dX9_nextLeaf_11 : decode cX9_nextLeaf 11 = .ok (.getfield 98, 3) := dk_180 0 98 (dk_at dksX9_nextLeaf_0 11 rfl rfl)
theorem dX9_nextLeaf_14 : decode cX9_nextLeaf 14 = .ok (.bipush 24, 2) := dk_16 24 (dk_at dksX9_nextLeaf_0 14 rfl rfl)
theorem dX9_nextLeaf_16 : decode cX9_nextLeaf 16 = .ok (.iaload, 1) := dk_46 (dk_at dksX9_nextLeaf_0 16 rfl rfl)
theorem dX9_nextLeaf_17 : decode cX9_nextLeaf 17 = .ok (.if_icmp .le 16, 3) := dk_164 0 16 (dk_at dksX9_nextLeaf_0 17 rfl rfl)
theorem dX9_nextLeaf_20 : decode cX9_nextLeaf 20 = .ok (.aload_n 0, 1) := dk_42 (dk_at dksX9_nextLeaf_0 20 rfl rfl)
theorem dX9_nextLeaf_21 : decode cX9_nextLeaf 21 = .ok (.getfield 98, 3) := dk_180 0 98 (dk_at dksX9_nextLeaf_0 21 rfl rfl)
theorem dX9_nextLeaf_24 : decode cX9_nextLeaf 24 = .ok (.sipush 158, 3) := dk_17 0 158 (dk_at dksX9_nextLeaf_1 0 rfl rfl)
theorem dX9_nextLeaf_27 : decode cX9_nextLeaf 27 = .ok (.iload_n 1, 1) := dk_27 (dk_at dksX9_nextLeaf_1 3 rfl rfl)
theorem dX9_nextLeaf_28 : decode cX9_nextLeaf 28 = .ok (.iadd, 1) := dk_96 (dk_at dksX9_nextLeaf_1 4 rfl rfl)
theorem dX9_nextLeaf_29 : decode cX9_nextLeaf 29 = .ok (.iaload, 1) := dk_46 (dk_at dksX9_nextLeaf_1 5 rfl rfl)
theorem dX9_nextLeaf_30 : decode cX9_nextLeaf 30 = .ok (.goto 10, 3) := dk_167 0 10 (dk_at dksX9_nextLeaf_1 6 rfl rfl)
theorem dX9_nextLeaf_33 : decode cX9_nextLeaf 33 = .ok (.aload_n 0, 1) := dk_42 (dk_at dksX9_nextLeaf_1 9 rfl rfl)
theorem dX9_nextLeaf_34 : decode cX9_nextLeaf 34 = .ok (.getfield 98, 3) := dk_180 0 98 (dk_at dksX9_nextLeaf_1 10 rfl rfl)
theorem dX9_nextLeaf_37 : decode cX9_nextLeaf 37 = .ok (.bipush 24, 2) := dk_16 24 (dk_at dksX9_nextLeaf_1 13 rfl rfl)
theorem dX9_nextLeaf_39 : decode cX9_nextLeaf 39 = .ok (.iaload, 1) := dk_46 (dk_at dksX9_nextLeaf_1 15 rfl rfl)
theorem dX9_nextLeaf_40 : decode cX9_nextLeaf 40 = .ok (.aload_n 0, 1) := dk_42 (dk_at dksX9_nextLeaf_1 16 rfl rfl)
theorem dX9_nextLeaf_41 : decode cX9_nextLeaf 41 = .ok (.getfield 98, 3) := dk_180 0 98 (dk_at dksX9_nextLeaf_1 17 rfl rfl)
theorem dX9_nextLeaf_44 : decode cX9_nextLeaf 44 = .ok (.bipush 17, 2) := dk_16 17 (dk_at dksX9_nextLeaf_1 20 rfl rfl)
theorem dX9_nextLeaf_46 : decode cX9_nextLeaf 46 = .ok (.iload_n 1, 1) := dk_27 (dk_at dksX9_nextLeaf_1 22 rfl rfl)
theorem dX9_nextLeaf_47 : decode cX9_nextLeaf 47 = .ok (.iadd, 1) := dk_96 (dk_at dksX9_nextLeaf_1 23 rfl rfl)
theorem dX9_nextLeaf_48 : decode cX9_nextLeaf 48 = .ok (.iaload, 1) := dk_46 (dk_at dksX9_nextLeaf_2 0 rfl rfl)
theorem dX9_nextLeaf_49 : decode cX9_nextLeaf 49 = .ok (.iadd, 1) := dk_96 (dk_at dksX9_nextLeaf_2 1 rfl rfl)
theorem dX9_nextLeaf_50 : decode cX9_nextLeaf 50 = .ok (.ireturn, 1) := dk_172 (dk_at dksX9_nextLeaf_2 2 rfl rfl)
abbrev cX9_sponge : ByteArray := prog_22_method_69_code
def yX9_sponge : MethodName := ⟨RX9, "sponge", "(I)I"⟩
def dkwX9_sponge_0 : List UInt8 := [42, 3, 181, 0, 1, 42, 4, 27, 3, 3, 42, 27, 182, 0, 244, 182, 1, 36, 172]
abbrev dktX9_sponge_0 : List UInt8 := dkwX9_sponge_0 ++ []
theorem dksX9_sponge_0 : cX9_sponge.data.toList.drop 0 = dktX9_sponge_0 := by decide +kernel
theorem dX9_sponge_0 : decode cX9_sponge 0 = .ok (.aload_n 0, 1) := dk_42 (dk_at dksX9_sponge_0 0 rfl rfl)
theorem dX9_sponge_1 : decode cX9_sponge 1 = .ok (.iconst 0, 1) := dk_3 (dk_at dksX9_sponge_0 1 rfl rfl)
theorem dX9_sponge_2 : decode cX9_sponge 2 = .ok (.putfield 1, 3) := dk_181 0 1 (dk_at dksX9_sponge_0 2 rfl rfl)
theorem dX9_sponge_5 : decode cX9_sponge 5 = .ok (.aload_n 0, 1) := dk_42 (dk_at dksX9_sponge_0 5 rfl rfl)
theorem dX9_sponge_6 : decode cX9_sponge 6 = .ok (.iconst 1, 1) := dk_4 (dk_at dksX9_sponge_0 6 rfl rfl)
theorem dX9_sponge_7 : decode cX9_sponge 7 = .ok (.iload_n 1, 1) := dk_27 (dk_at dksX9_sponge_0 7 rfl rfl)
theorem dX9_sponge_8 : decode cX9_sponge 8 = .ok (.iconst 0, 1) := dk_3 (dk_at dksX9_sponge_0 8 rfl rfl)
theorem dX9_sponge_9 : decode cX9_sponge 9 = .ok (.iconst 0, 1) := dk_3 (dk_at dksX9_sponge_0 9 rfl rfl)
theorem dX9_sponge_10 : decode cX9_sponge 10 = .ok (.aload_n 0, 1) := dk_42 (dk_at dksX9_sponge_0 10 rfl rfl)
theorem dX9_sponge_11 : decode cX9_sponge 11 = .ok (.iload_n 1, 1) := dk_27 (dk_at dksX9_sponge_0 11 rfl rfl)
theorem dX9_sponge_12 : decode cX9_sponge 12 = .ok (.invokevirtual 244, 3) := dk_182 0 244 (dk_at dksX9_sponge_0 12 rfl rfl)
theorem dX9_sponge_15 : decode cX9_sponge 15 = .ok (.invokevirtual 292, 3) := dk_182 1 36 (dk_at dksX9_sponge_0 15 rfl rfl)
theorem dX9_sponge_18 : decode cX9_sponge 18 = .ok (.ireturn, 1) := dk_172 (dk_at dksX9_sponge_0 18 rfl rfl)
abbrev cX9_carry : ByteArray := prog_22_method_70_code
def yX9_carry : MethodName := ⟨RX9, "carry", "(II)I"⟩
def dkwX9_carry_1 : List UInt8 := [153, 0, 7, 4, 167, 0, 4, 3, 182, 1, 36, 172]
abbrev dktX9_carry_1 : List UInt8 := dkwX9_carry_1 ++ []
def dkwX9_carry_0 : List UInt8 := [42, 3, 181, 0, 1, 42, 5, 27, 28, 3, 42, 27, 182, 0, 244, 153, 0, 15, 42, 28, 182, 1, 3]
abbrev dktX9_carry_0 : List UInt8 := dkwX9_carry_0 ++ dktX9_carry_1
theorem dksX9_carry_0 : cX9_carry.data.toList.drop 0 = dktX9_carry_0 := by decide +kernel
theorem dksX9_carry_1 : cX9_carry.data.toList.drop 23 = dktX9_carry_1 := dk_seg dksX9_carry_0 23 rfl rfl
theorem dX9_carry_0 : decode cX9_carry 0 = .ok (.aload_n 0, 1) := dk_42 (dk_at dksX9_carry_0 0 rfl rfl)
theorem dX9_carry_1 : decode cX9_carry 1 = .ok (.iconst 0, 1) := dk_3 (dk_at dksX9_carry_0 1 rfl rfl)
theorem dX9_carry_2 : decode cX9_carry 2 = .ok (.putfield 1, 3) := dk_181 0 1 (dk_at dksX9_carry_0 2 rfl rfl)
theorem dX9_carry_5 : decode cX9_carry 5 = .ok (.aload_n 0, 1) := dk_42 (dk_at dksX9_carry_0 5 rfl rfl)
theorem dX9_carry_6 : decode cX9_carry 6 = .ok (.iconst 2, 1) := dk_5 (dk_at dksX9_carry_0 6 rfl rfl)
theorem dX9_carry_7 : decode cX9_carry 7 = .ok (.iload_n 1, 1) := dk_27 (dk_at dksX9_carry_0 7 rfl rfl)
theorem dX9_carry_8 : decode cX9_carry 8 = .ok (.iload_n 2, 1) := dk_28 (dk_at dksX9_carry_0 8 rfl rfl)
theorem dX9_carry_9 : decode cX9_carry 9 = .ok (.iconst 0, 1) := dk_3 (dk_at dksX9_carry_0 9 rfl rfl)
theorem dX9_carry_10 : decode cX9_carry 10 = .ok (.aload_n 0, 1) := dk_42 (dk_at dksX9_carry_0 10 rfl rfl)
theorem dX9_carry_11 : decode cX9_carry 11 = .ok (.iload_n 1, 1) := dk_27 (dk_at dksX9_carry_0 11 rfl rfl)
theorem dX9_carry_12 : decode cX9_carry 12 = .ok (.invokevirtual 244, 3) := dk_182 0 244 (dk_at dksX9_carry_0 12 rfl rfl)
theorem dX9_carry_15 : decode cX9_carry 15 = .ok (.ifCond .eq 15, 3) := dk_153 0 15 (dk_at dksX9_carry_0 15 rfl rfl)
theorem dX9_carry_18 : decode cX9_carry 18 = .ok (.aload_n 0, 1) := dk_42 (dk_at dksX9_carry_0 18 rfl rfl)
theorem dX9_carry_19 : decode cX9_carry 19 = .ok (.iload_n 2, 1) := dk_28 (dk_at dksX9_carry_0 19 rfl rfl)
theorem dX9_carry_20 : decode cX9_carry 20 = .ok (.invokevirtual 259, 3) := dk_182 1 3 (dk_at dksX9_carry_0 20 rfl rfl)
theorem dX9_carry_23 : decode cX9_carry 23 = .ok (.ifCond .eq 7, 3) := dk_153 0 7 (dk_at dksX9_carry_1 0 rfl rfl)
theorem dX9_carry_26 : decode cX9_carry 26 = .ok (.iconst 1, 1) := dk_4 (dk_at dksX9_carry_1 3 rfl rfl)
theorem dX9_carry_27 : decode cX9_carry 27 = .ok (.goto 4, 3) := dk_167 0 4 (dk_at dksX9_carry_1 4 rfl rfl)
theorem dX9_carry_30 : decode cX9_carry 30 = .ok (.iconst 0, 1) := dk_3 (dk_at dksX9_carry_1 7 rfl rfl)
theorem dX9_carry_31 : decode cX9_carry 31 = .ok (.invokevirtual 292, 3) := dk_182 1 36 (dk_at dksX9_carry_1 8 rfl rfl)
theorem dX9_carry_34 : decode cX9_carry 34 = .ok (.ireturn, 1) := dk_172 (dk_at dksX9_carry_1 11 rfl rfl)
abbrev cX9_undo : ByteArray := prog_22_method_71_code
def yX9_undo : MethodName := ⟨RX9, "undo", "()I"⟩
def dkwX9_undo_2 : List UInt8 := [42, 180, 0, 215, 104, 27, 96, 46, 79, 132, 1, 1, 167, 255, 222, 42, 180, 0, 215, 172]
abbrev dktX9_undo_2 : List UInt8 := dkwX9_undo_2 ++ []
def dkwX9_undo_1 : List UInt8 := [3, 60, 27, 17, 0, 140, 162, 0, 33, 42, 180, 0, 98, 16, 24, 27, 96, 42, 180, 0, 107, 17, 0, 140]
abbrev dktX9_undo_1 : List UInt8 := dkwX9_undo_1 ++ dktX9_undo_2
def dkwX9_undo_0 : List UInt8 := [42, 3, 181, 0, 1, 42, 180, 0, 215, 154, 0, 5, 2, 172, 42, 89, 180, 0, 215, 4, 100, 181, 0, 215]
abbrev dktX9_undo_0 : List UInt8 := dkwX9_undo_0 ++ dktX9_undo_1
theorem dksX9_undo_0 : cX9_undo.data.toList.drop 0 = dktX9_undo_0 := by decide +kernel
theorem dksX9_undo_1 : cX9_undo.data.toList.drop 24 = dktX9_undo_1 := dk_seg dksX9_undo_0 24 rfl rfl
theorem dksX9_undo_2 : cX9_undo.data.toList.drop 48 = dktX9_undo_2 := dk_seg dksX9_undo_1 24 rfl rfl
theorem dX9_undo_0 : decode cX9_undo 0 = .ok (.aload_n 0, 1) := dk_42 (dk_at dksX9_undo_0 0 rfl rfl)
theorem dX9_undo_1 : decode cX9_undo 1 = .ok (.iconst 0, 1) := dk_3 (dk_at dksX9_undo_0 1 rfl rfl)
theorem dX9_undo_2 : decode cX9_undo 2 = .ok (.putfield 1, 3) := dk_181 0 1 (dk_at dksX9_undo_0 2 rfl rfl)
theorem dX9_undo_5 : decode cX9_undo 5 = .ok (.aload_n 0, 1) := dk_42 (dk_at dksX9_undo_0 5 rfl rfl)
theorem dX9_undo_6 : decode cX9_undo 6 = .ok (.getfield 215, 3) := dk_180 0 215 (dk_at dksX9_undo_0 6 rfl rfl)
theorem dX9_undo_9 : decode cX9_undo 9 = .ok (.ifCond .ne 5, 3) := dk_154 0 5 (dk_at dksX9_undo_0 9 rfl rfl)
theorem dX9_undo_12 : decode cX9_undo 12 = .ok (.iconst (-1), 1) := dk_2 (dk_at dksX9_undo_0 12 rfl rfl)
theorem dX9_undo_13 : decode cX9_undo 13 = .ok (.ireturn, 1) := dk_172 (dk_at dksX9_undo_0 13 rfl rfl)
theorem dX9_undo_14 : decode cX9_undo 14 = .ok (.aload_n 0, 1) := dk_42 (dk_at dksX9_undo_0 14 rfl rfl)
theorem dX9_undo_15 : decode cX9_undo 15 = .ok (.dup, 1) := dk_89 (dk_at dksX9_undo_0 15 rfl rfl)
theorem dX9_undo_16 : decode cX9_undo 16 = .ok (.getfield 215, 3) := dk_180 0 215 (dk_at dksX9_undo_0 16 rfl rfl)
theorem dX9_undo_19 : decode cX9_undo 19 = .ok (.iconst 1, 1) := dk_4 (dk_at dksX9_undo_0 19 rfl rfl)
theorem dX9_undo_20 : decode cX9_undo 20 = .ok (.isub, 1) := dk_100 (dk_at dksX9_undo_0 20 rfl rfl)
theorem dX9_undo_21 : decode cX9_undo 21 = .ok (.putfield 215, 3) := dk_181 0 215 (dk_at dksX9_undo_0 21 rfl rfl)
theorem dX9_undo_24 : decode cX9_undo 24 = .ok (.iconst 0, 1) := dk_3 (dk_at dksX9_undo_1 0 rfl rfl)
theorem dX9_undo_25 : decode cX9_undo 25 = .ok (.istore_n 1, 1) := dk_60 (dk_at dksX9_undo_1 1 rfl rfl)
theorem dX9_undo_26 : decode cX9_undo 26 = .ok (.iload_n 1, 1) := dk_27 (dk_at dksX9_undo_1 2 rfl rfl)
theorem dX9_undo_27 : decode cX9_undo 27 = .ok (.sipush 140, 3) := dk_17 0 140 (dk_at dksX9_undo_1 3 rfl rfl)
theorem dX9_undo_30 : decode cX9_undo 30 = .ok (.if_icmp .ge 33, 3) := dk_162 0 33 (dk_at dksX9_undo_1 6 rfl rfl)
theorem dX9_undo_33 : decode cX9_undo 33 = .ok (.aload_n 0, 1) := dk_42 (dk_at dksX9_undo_1 9 rfl rfl)
theorem dX9_undo_34 : decode cX9_undo 34 = .ok (.getfield 98, 3) := dk_180 0 98 (dk_at dksX9_undo_1 10 rfl rfl)
theorem dX9_undo_37 : decode cX9_undo 37 = .ok (.bipush 24, 2) := dk_16 24 (dk_at dksX9_undo_1 13 rfl rfl)
theorem dX9_undo_39 : decode cX9_undo 39 = .ok (.iload_n 1, 1) := dk_27 (dk_at dksX9_undo_1 15 rfl rfl)
theorem dX9_undo_40 : decode cX9_undo 40 = .ok (.iadd, 1) := dk_96 (dk_at dksX9_undo_1 16 rfl rfl)
theorem dX9_undo_41 : decode cX9_undo 41 = .ok (.aload_n 0, 1) := dk_42 (dk_at dksX9_undo_1 17 rfl rfl)
theorem dX9_undo_42 : decode cX9_undo 42 = .ok (.getfield 107, 3) := dk_180 0 107 (dk_at dksX9_undo_1 18 rfl rfl)
theorem dX9_undo_45 : decode cX9_undo 45 = .ok (.sipush 140, 3) := dk_17 0 140 (dk_at dksX9_undo_1 21 rfl rfl)
theorem dX9_undo_48 : decode cX9_undo 48 = .ok (.aload_n 0, 1) := dk_42 (dk_at dksX9_undo_2 0 rfl rfl)
theorem dX9_undo_49 : decode cX9_undo 49 = .ok (.getfield 215, 3) := dk_180 0 215 (dk_at dksX9_undo_2 1 rfl rfl)
theorem dX9_undo_52 : decode cX9_undo 52 = .ok (.imul, 1) := dk_104 (dk_at dksX9_undo_2 4 rfl rfl)
theorem dX9_undo_53 : decode cX9_undo 53 = .ok (.iload_n 1, 1) := dk_27 (dk_at dksX9_undo_2 5 rfl rfl)
theorem dX9_undo_54 : decode cX9_undo 54 = .ok (.iadd, 1) := dk_96 (dk_at dksX9_undo_2 6 rfl rfl)
theorem dX9_undo_55 : decode cX9_undo 55 = .ok (.iaload, 1) := dk_46 (dk_at dksX9_undo_2 7 rfl rfl)
theorem dX9_undo_56 : decode cX9_undo 56 = .ok (.iastore, 1) := dk_79 (dk_at dksX9_undo_2 8 rfl rfl)
theorem dX9_undo_57 : decode cX9_undo 57 = .ok (.iinc 1 1, 3) := dk_132 1 1 (dk_at dksX9_undo_2 9 rfl rfl)
theorem dX9_undo_60 : decode cX9_undo 60 = .ok (.goto (-34), 3) := dk_167 255 222 (dk_at dksX9_undo_2 12 rfl rfl)
theorem dX9_undo_63 : decode cX9_undo 63 = .ok (.aload_n 0, 1) := dk_42 (dk_at dksX9_undo_2 15 rfl rfl)
theorem dX9_undo_64 : decode cX9_undo 64 = .ok (.getfield 215, 3) := dk_180 0 215 (dk_at dksX9_undo_2 16 rfl rfl)
theorem dX9_undo_67 : decode cX9_undo 67 = .ok (.ireturn, 1) := dk_172 (dk_at dksX9_undo_2 19 rfl rfl)
abbrev cX9_days : ByteArray := prog_22_method_74_code
def yX9_days : MethodName := ⟨RX9, "days", "(I)I"⟩
def dkwX9_days_1 : List UInt8 := [17, 1, 144, 160, 0, 5, 3, 172, 42, 182, 1, 23, 42, 27, 182, 1, 46, 172]
abbrev dktX9_days_1 : List UInt8 := dkwX9_days_1 ++ []
def dkwX9_days_0 : List UInt8 := [42, 3, 181, 0, 1, 27, 4, 16, 60, 184, 0, 75, 154, 0, 5, 2, 172, 42, 180, 0, 98, 16, 24, 46]
abbrev dktX9_days_0 : List UInt8 := dkwX9_days_0 ++ dktX9_days_1
theorem dksX9_days_0 : cX9_days.data.toList.drop 0 = dktX9_days_0 := by decide +kernel
theorem dksX9_days_1 : cX9_days.data.toList.drop 24 = dktX9_days_1 := dk_seg dksX9_days_0 24 rfl rfl
theorem dX9_days_0 : decode cX9_days 0 = .ok (.aload_n 0, 1) := dk_42 (dk_at dksX9_days_0 0 rfl rfl)
theorem dX9_days_1 : decode cX9_days 1 = .ok (.iconst 0, 1) := dk_3 (dk_at dksX9_days_0 1 rfl rfl)
theorem dX9_days_2 : decode cX9_days 2 = .ok (.putfield 1, 3) := dk_181 0 1 (dk_at dksX9_days_0 2 rfl rfl)
theorem dX9_days_5 : decode cX9_days 5 = .ok (.iload_n 1, 1) := dk_27 (dk_at dksX9_days_0 5 rfl rfl)
theorem dX9_days_6 : decode cX9_days 6 = .ok (.iconst 1, 1) := dk_4 (dk_at dksX9_days_0 6 rfl rfl)
theorem dX9_days_7 : decode cX9_days 7 = .ok (.bipush 60, 2) := dk_16 60 (dk_at dksX9_days_0 7 rfl rfl)
theorem dX9_days_9 : decode cX9_days 9 = .ok (.invokestatic 75, 3) := dk_184 0 75 (dk_at dksX9_days_0 9 rfl rfl)
theorem dX9_days_12 : decode cX9_days 12 = .ok (.ifCond .ne 5, 3) := dk_154 0 5 (dk_at dksX9_days_0 12 rfl rfl)
theorem dX9_days_15 : decode cX9_days 15 = .ok (.iconst (-1), 1) := dk_2 (dk_at dksX9_days_0 15 rfl rfl)
theorem dX9_days_16 : decode cX9_days 16 = .ok (.ireturn, 1) := dk_172 (dk_at dksX9_days_0 16 rfl rfl)
theorem dX9_days_17 : decode cX9_days 17 = .ok (.aload_n 0, 1) := dk_42 (dk_at dksX9_days_0 17 rfl rfl)
theorem dX9_days_18 : decode cX9_days 18 = .ok (.getfield 98, 3) := dk_180 0 98 (dk_at dksX9_days_0 18 rfl rfl)
theorem dX9_days_21 : decode cX9_days 21 = .ok (.bipush 24, 2) := dk_16 24 (dk_at dksX9_days_0 21 rfl rfl)
theorem dX9_days_23 : decode cX9_days 23 = .ok (.iaload, 1) := dk_46 (dk_at dksX9_days_0 23 rfl rfl)
theorem dX9_days_24 : decode cX9_days 24 = .ok (.sipush 400, 3) := dk_17 1 144 (dk_at dksX9_days_1 0 rfl rfl)
theorem dX9_days_27 : decode cX9_days 27 = .ok (.if_icmp .ne 5, 3) := dk_160 0 5 (dk_at dksX9_days_1 3 rfl rfl)
theorem dX9_days_30 : decode cX9_days 30 = .ok (.iconst 0, 1) := dk_3 (dk_at dksX9_days_1 6 rfl rfl)
theorem dX9_days_31 : decode cX9_days 31 = .ok (.ireturn, 1) := dk_172 (dk_at dksX9_days_1 7 rfl rfl)
theorem dX9_days_32 : decode cX9_days 32 = .ok (.aload_n 0, 1) := dk_42 (dk_at dksX9_days_1 8 rfl rfl)
theorem dX9_days_33 : decode cX9_days 33 = .ok (.invokevirtual 279, 3) := dk_182 1 23 (dk_at dksX9_days_1 9 rfl rfl)
theorem dX9_days_36 : decode cX9_days 36 = .ok (.aload_n 0, 1) := dk_42 (dk_at dksX9_days_1 12 rfl rfl)
theorem dX9_days_37 : decode cX9_days 37 = .ok (.iload_n 1, 1) := dk_27 (dk_at dksX9_days_1 13 rfl rfl)
theorem dX9_days_38 : decode cX9_days 38 = .ok (.invokevirtual 302, 3) := dk_182 1 46 (dk_at dksX9_days_1 14 rfl rfl)
theorem dX9_days_41 : decode cX9_days 41 = .ok (.ireturn, 1) := dk_172 (dk_at dksX9_days_1 17 rfl rfl)
abbrev cX9_passDays : ByteArray := prog_22_method_73_code
def yX9_passDays : MethodName := ⟨RX9, "passDays", "(I)I"⟩
def dkwX9_passDays_1 : List UInt8 := [182, 1, 43, 132, 3, 1, 167, 255, 244, 28, 172]
abbrev dktX9_passDays_1 : List UInt8 := dkwX9_passDays_1 ++ []
def dkwX9_passDays_0 : List UInt8 := [27, 17, 1, 144, 42, 180, 0, 98, 16, 24, 46, 100, 184, 1, 40, 61, 3, 62, 29, 28, 162, 0, 13, 42]
abbrev dktX9_passDays_0 : List UInt8 := dkwX9_passDays_0 ++ dktX9_passDays_1
theorem dksX9_passDays_0 : cX9_passDays.data.toList.drop 0 = dktX9_passDays_0 := by decide +kernel
theorem dksX9_passDays_1 : cX9_passDays.data.toList.drop 24 = dktX9_passDays_1 := dk_seg dksX9_passDays_0 24 rfl rfl
theorem dX9_passDays_0 : decode cX9_passDays 0 = .ok (.iload_n 1, 1) := dk_27 (dk_at dksX9_passDays_0 0 rfl rfl)
theorem dX9_passDays_1 : decode cX9_passDays 1 = .ok (.sipush 400, 3) := dk_17 1 144 (dk_at dksX9_passDays_0 1 rfl rfl)
theorem dX9_passDays_4 : decode cX9_passDays 4 = .ok (.aload_n 0, 1) := dk_42 (dk_at dksX9_passDays_0 4 rfl rfl)
theorem dX9_passDays_5 : decode cX9_passDays 5 = .ok (.getfield 98, 3) := dk_180 0 98 (dk_at dksX9_passDays_0 5 rfl rfl)
theorem dX9_passDays_8 : decode cX9_passDays 8 = .ok (.bipush 24, 2) := dk_16 24 (dk_at dksX9_passDays_0 8 rfl rfl)
theorem dX9_passDays_10 : decode cX9_passDays 10 = .ok (.iaload, 1) := dk_46 (dk_at dksX9_passDays_0 10 rfl rfl)
theorem dX9_passDays_11 : decode cX9_passDays 11 = .ok (.isub, 1) := dk_100 (dk_at dksX9_passDays_0 11 rfl rfl)
theorem dX9_passDays_12 : decode cX9_passDays 12 = .ok (.invokestatic 296, 3) := dk_184 1 40 (dk_at dksX9_passDays_0 12 rfl rfl)
theorem dX9_passDays_15 : decode cX9_passDays 15 = .ok (.istore_n 2, 1) := dk_61 (dk_at dksX9_passDays_0 15 rfl rfl)
theorem dX9_passDays_16 : decode cX9_passDays 16 = .ok (.iconst 0, 1) := dk_3 (dk_at dksX9_passDays_0 16 rfl rfl)
theorem dX9_passDays_17 : decode cX9_passDays 17 = .ok (.istore_n 3, 1) := dk_62 (dk_at dksX9_passDays_0 17 rfl rfl)
theorem dX9_passDays_18 : decode cX9_passDays 18 = .ok (.iload_n 3, 1) := dk_29 (dk_at dksX9_passDays_0 18 rfl rfl)
theorem dX9_passDays_19 : decode cX9_passDays 19 = .ok (.iload_n 2, 1) := dk_28 (dk_at dksX9_passDays_0 19 rfl rfl)
theorem dX9_passDays_20 : decode cX9_passDays 20 = .ok (.if_icmp .ge 13, 3) := dk_162 0 13 (dk_at dksX9_passDays_0 20 rfl rfl)
theorem dX9_passDays_23 : decode cX9_passDays 23 = .ok (.aload_n 0, 1) := dk_42 (dk_at dksX9_passDays_0 23 rfl rfl)
theorem dX9_passDays_24 : decode cX9_passDays 24 = .ok (.invokevirtual 299, 3) := dk_182 1 43 (dk_at dksX9_passDays_1 0 rfl rfl)
theorem dX9_passDays_27 : decode cX9_passDays 27 = .ok (.iinc 3 1, 3) := dk_132 3 1 (dk_at dksX9_passDays_1 3 rfl rfl)
theorem dX9_passDays_30 : decode cX9_passDays 30 = .ok (.goto (-12), 3) := dk_167 255 244 (dk_at dksX9_passDays_1 6 rfl rfl)
theorem dX9_passDays_33 : decode cX9_passDays 33 = .ok (.iload_n 2, 1) := dk_28 (dk_at dksX9_passDays_1 9 rfl rfl)
theorem dX9_passDays_34 : decode cX9_passDays 34 = .ok (.ireturn, 1) := dk_172 (dk_at dksX9_passDays_1 10 rfl rfl)
abbrev cX9_least : ByteArray := prog_22_method_10_code
def yX9_least : MethodName := ⟨RX9, "least", "(II)I"⟩
def dkwX9_least_0 : List UInt8 := [26, 27, 162, 0, 7, 26, 167, 0, 4, 27, 172]
abbrev dktX9_least_0 : List UInt8 := dkwX9_least_0 ++ []
theorem dksX9_least_0 : cX9_least.data.toList.drop 0 = dktX9_least_0 := by decide +kernel
theorem dX9_least_0 : decode cX9_least 0 = .ok (.iload_n 0, 1) := dk_26 (dk_at dksX9_least_0 0 rfl rfl)
theorem dX9_least_1 : decode cX9_least 1 = .ok (.iload_n 1, 1) := dk_27 (dk_at dksX9_least_0 1 rfl rfl)
theorem dX9_least_2 : decode cX9_least 2 = .ok (.if_icmp .ge 7, 3) := dk_162 0 7 (dk_at dksX9_least_0 2 rfl rfl)
theorem dX9_least_5 : decode cX9_least 5 = .ok (.iload_n 0, 1) := dk_26 (dk_at dksX9_least_0 5 rfl rfl)
theorem dX9_least_6 : decode cX9_least 6 = .ok (.goto 4, 3) := dk_167 0 4 (dk_at dksX9_least_0 6 rfl rfl)
theorem dX9_least_9 : decode cX9_least 9 = .ok (.iload_n 1, 1) := dk_27 (dk_at dksX9_least_0 9 rfl rfl)
theorem dX9_least_10 : decode cX9_least 10 = .ok (.ireturn, 1) := dk_172 (dk_at dksX9_least_0 10 rfl rfl)
abbrev cX9_oneDay : ByteArray := prog_22_method_72_code
def yX9_oneDay : MethodName := ⟨RX9, "oneDay", "()V"⟩
def dkwX9_oneDay_2 : List UInt8 := [16, 24, 92, 46, 4, 96, 79, 177]
abbrev dktX9_oneDay_2 : List UInt8 := dkwX9_oneDay_2 ++ []
def dkwX9_oneDay_1 : List UInt8 := [180, 0, 98, 16, 32, 27, 96, 46, 4, 96, 184, 1, 40, 79, 132, 1, 1, 167, 255, 218, 42, 180, 0, 98]
abbrev dktX9_oneDay_1 : List UInt8 := dkwX9_oneDay_1 ++ dktX9_oneDay_2
def dkwX9_oneDay_0 : List UInt8 := [3, 60, 27, 42, 180, 0, 98, 4, 46, 162, 0, 34, 42, 180, 0, 98, 16, 32, 27, 96, 16, 99, 42]
abbrev dktX9_oneDay_0 : List UInt8 := dkwX9_oneDay_0 ++ dktX9_oneDay_1
theorem dksX9_oneDay_0 : cX9_oneDay.data.toList.drop 0 = dktX9_oneDay_0 := by decide +kernel
theorem dksX9_oneDay_1 : cX9_oneDay.data.toList.drop 23 = dktX9_oneDay_1 := dk_seg dksX9_oneDay_0 23 rfl rfl
theorem dksX9_oneDay_2 : cX9_oneDay.data.toList.drop 47 = dktX9_oneDay_2 := dk_seg dksX9_oneDay_1 24 rfl rfl
theorem dX9_oneDay_0 : decode cX9_oneDay 0 = .ok (.iconst 0, 1) := dk_3 (dk_at dksX9_oneDay_0 0 rfl rfl)
theorem dX9_oneDay_1 : decode cX9_oneDay 1 = .ok (.istore_n 1, 1) := dk_60 (dk_at dksX9_oneDay_0 1 rfl rfl)
theorem dX9_oneDay_2 : decode cX9_oneDay 2 = .ok (.iload_n 1, 1) := dk_27 (dk_at dksX9_oneDay_0 2 rfl rfl)
theorem dX9_oneDay_3 : decode cX9_oneDay 3 = .ok (.aload_n 0, 1) := dk_42 (dk_at dksX9_oneDay_0 3 rfl rfl)
theorem dX9_oneDay_4 : decode cX9_oneDay 4 = .ok (.getfield 98, 3) := dk_180 0 98 (dk_at dksX9_oneDay_0 4 rfl rfl)
theorem dX9_oneDay_7 : decode cX9_oneDay 7 = .ok (.iconst 1, 1) := dk_4 (dk_at dksX9_oneDay_0 7 rfl rfl)
theorem dX9_oneDay_8 : decode cX9_oneDay 8 = .ok (.iaload, 1) := dk_46 (dk_at dksX9_oneDay_0 8 rfl rfl)
theorem dX9_oneDay_9 : decode cX9_oneDay 9 = .ok (.if_icmp .ge 34, 3) := dk_162 0 34 (dk_at dksX9_oneDay_0 9 rfl rfl)
theorem dX9_oneDay_12 : decode cX9_oneDay 12 = .ok (.aload_n 0, 1) := dk_42 (dk_at dksX9_oneDay_0 12 rfl rfl)
theorem dX9_oneDay_13 : decode cX9_oneDay 13 = .ok (.getfield 98, 3) := dk_180 0 98 (dk_at dksX9_oneDay_0 13 rfl rfl)
theorem dX9_oneDay_16 : decode cX9_oneDay 16 = .ok (.bipush 32, 2) := dk_16 32 (dk_at dksX9_oneDay_0 16 rfl rfl)
theorem dX9_oneDay_18 : decode cX9_oneDay 18 = .ok (.iload_n 1, 1) := dk_27 (dk_at dksX9_oneDay_0 18 rfl rfl)
theorem dX9_oneDay_19 : decode cX9_oneDay 19 = .ok (.iadd, 1) := dk_96 (dk_at dksX9_oneDay_0 19 rfl rfl)
theorem dX9_oneDay_20 : decode cX9_oneDay 20 = .ok (.bipush 99, 2) := dk_16 99 (dk_at dksX9_oneDay_0 20 rfl rfl)
theorem dX9_oneDay_22 : decode cX9_oneDay 22 = .ok (.aload_n 0, 1) := dk_42 (dk_at dksX9_oneDay_0 22 rfl rfl)
theorem dX9_oneDay_23 : decode cX9_oneDay 23 = .ok (.getfield 98, 3) := dk_180 0 98 (dk_at dksX9_oneDay_1 0 rfl rfl)
theorem dX9_oneDay_26 : decode cX9_oneDay 26 = .ok (.bipush 32, 2) := dk_16 32 (dk_at dksX9_oneDay_1 3 rfl rfl)
theorem dX9_oneDay_28 : decode cX9_oneDay 28 = .ok (.iload_n 1, 1) := dk_27 (dk_at dksX9_oneDay_1 5 rfl rfl)
theorem dX9_oneDay_29 : decode cX9_oneDay 29 = .ok (.iadd, 1) := dk_96 (dk_at dksX9_oneDay_1 6 rfl rfl)
theorem dX9_oneDay_30 : decode cX9_oneDay 30 = .ok (.iaload, 1) := dk_46 (dk_at dksX9_oneDay_1 7 rfl rfl)
theorem dX9_oneDay_31 : decode cX9_oneDay 31 = .ok (.iconst 1, 1) := dk_4 (dk_at dksX9_oneDay_1 8 rfl rfl)
theorem dX9_oneDay_32 : decode cX9_oneDay 32 = .ok (.iadd, 1) := dk_96 (dk_at dksX9_oneDay_1 9 rfl rfl)
theorem dX9_oneDay_33 : decode cX9_oneDay 33 = .ok (.invokestatic 296, 3) := dk_184 1 40 (dk_at dksX9_oneDay_1 10 rfl rfl)
theorem dX9_oneDay_36 : decode cX9_oneDay 36 = .ok (.iastore, 1) := dk_79 (dk_at dksX9_oneDay_1 13 rfl rfl)
theorem dX9_oneDay_37 : decode cX9_oneDay 37 = .ok (.iinc 1 1, 3) := dk_132 1 1 (dk_at dksX9_oneDay_1 14 rfl rfl)
theorem dX9_oneDay_40 : decode cX9_oneDay 40 = .ok (.goto (-38), 3) := dk_167 255 218 (dk_at dksX9_oneDay_1 17 rfl rfl)
theorem dX9_oneDay_43 : decode cX9_oneDay 43 = .ok (.aload_n 0, 1) := dk_42 (dk_at dksX9_oneDay_1 20 rfl rfl)
theorem dX9_oneDay_44 : decode cX9_oneDay 44 = .ok (.getfield 98, 3) := dk_180 0 98 (dk_at dksX9_oneDay_1 21 rfl rfl)
theorem dX9_oneDay_47 : decode cX9_oneDay 47 = .ok (.bipush 24, 2) := dk_16 24 (dk_at dksX9_oneDay_2 0 rfl rfl)
theorem dX9_oneDay_49 : decode cX9_oneDay 49 = .ok (.dup2, 1) := dk_92 (dk_at dksX9_oneDay_2 2 rfl rfl)
theorem dX9_oneDay_50 : decode cX9_oneDay 50 = .ok (.iaload, 1) := dk_46 (dk_at dksX9_oneDay_2 3 rfl rfl)
theorem dX9_oneDay_51 : decode cX9_oneDay 51 = .ok (.iconst 1, 1) := dk_4 (dk_at dksX9_oneDay_2 4 rfl rfl)
theorem dX9_oneDay_52 : decode cX9_oneDay 52 = .ok (.iadd, 1) := dk_96 (dk_at dksX9_oneDay_2 5 rfl rfl)
theorem dX9_oneDay_53 : decode cX9_oneDay 53 = .ok (.iastore, 1) := dk_79 (dk_at dksX9_oneDay_2 6 rfl rfl)
theorem dX9_oneDay_54 : decode cX9_oneDay 54 = .ok (.return_, 1) := dk_177 (dk_at dksX9_oneDay_2 7 rfl rfl)
abbrev cX9_guilty : ByteArray := prog_22_method_75_code
def yX9_guilty : MethodName := ⟨RX9, "guilty", "(II)I"⟩
def dkwX9_guilty_3 : List UInt8 := [4, 172, 132, 3, 1, 167, 255, 206, 3, 172]
abbrev dktX9_guilty_3 : List UInt8 := dkwX9_guilty_3 ++ []
def dkwX9_guilty_2 : List UInt8 := [160, 0, 26, 42, 180, 0, 98, 16, 50, 29, 96, 46, 28, 160, 0, 13, 42, 29, 182, 0, 241, 153, 0, 5]
abbrev dktX9_guilty_2 : List UInt8 := dkwX9_guilty_2 ++ dktX9_guilty_3
def dkwX9_guilty_1 : List UInt8 := [62, 29, 42, 180, 0, 98, 16, 25, 46, 162, 0, 45, 42, 180, 0, 98, 16, 38, 29, 96, 46, 27]
abbrev dktX9_guilty_1 : List UInt8 := dkwX9_guilty_1 ++ dktX9_guilty_2
def dkwX9_guilty_0 : List UInt8 := [42, 3, 181, 0, 1, 42, 27, 182, 1, 30, 153, 0, 11, 42, 28, 182, 1, 33, 154, 0, 5, 2, 172, 3]
abbrev dktX9_guilty_0 : List UInt8 := dkwX9_guilty_0 ++ dktX9_guilty_1
theorem dksX9_guilty_0 : cX9_guilty.data.toList.drop 0 = dktX9_guilty_0 := by decide +kernel
theorem dksX9_guilty_1 : cX9_guilty.data.toList.drop 24 = dktX9_guilty_1 := dk_seg dksX9_guilty_0 24 rfl rfl
theorem dksX9_guilty_2 : cX9_guilty.data.toList.drop 46 = dktX9_guilty_2 := dk_seg dksX9_guilty_1 22 rfl rfl
theorem dksX9_guilty_3 : cX9_guilty.data.toList.drop 70 = dktX9_guilty_3 := dk_seg dksX9_guilty_2 24 rfl rfl
theorem dX9_guilty_0 : decode cX9_guilty 0 = .ok (.aload_n 0, 1) := dk_42 (dk_at dksX9_guilty_0 0 rfl rfl)
theorem dX9_guilty_1 : decode cX9_guilty 1 = .ok (.iconst 0, 1) := dk_3 (dk_at dksX9_guilty_0 1 rfl rfl)
theorem dX9_guilty_2 : decode cX9_guilty 2 = .ok (.putfield 1, 3) := dk_181 0 1 (dk_at dksX9_guilty_0 2 rfl rfl)
theorem dX9_guilty_5 : decode cX9_guilty 5 = .ok (.aload_n 0, 1) := dk_42 (dk_at dksX9_guilty_0 5 rfl rfl)
theorem dX9_guilty_6 : decode cX9_guilty 6 = .ok (.iload_n 1, 1) := dk_27 (dk_at dksX9_guilty_0 6 rfl rfl)
theorem dX9_guilty_7 : decode cX9_guilty 7 = .ok (.invokevirtual 286, 3) := dk_182 1 30 (dk_at dksX9_guilty_0 7 rfl rfl)
theorem dX9_guilty_10 : decode cX9_guilty 10 = .ok (.ifCond .eq 11, 3) := dk_153 0 11 (dk_at dksX9_guilty_0 10 rfl rfl)
theorem dX9_guilty_13 : decode cX9_guilty 13 = .ok (.aload_n 0, 1) := dk_42 (dk_at dksX9_guilty_0 13 rfl rfl)
theorem dX9_guilty_14 : decode cX9_guilty 14 = .ok (.iload_n 2, 1) := dk_28 (dk_at dksX9_guilty_0 14 rfl rfl)
theorem dX9_guilty_15 : decode cX9_guilty 15 = .ok (.invokevirtual 289, 3) := dk_182 1 33 (dk_at dksX9_guilty_0 15 rfl rfl)
theorem dX9_guilty_18 : decode cX9_guilty 18 = .ok (.ifCond .ne 5, 3) := dk_154 0 5 (dk_at dksX9_guilty_0 18 rfl rfl)
theorem dX9_guilty_21 : decode cX9_guilty 21 = .ok (.iconst (-1), 1) := dk_2 (dk_at dksX9_guilty_0 21 rfl rfl)
theorem dX9_guilty_22 : decode cX9_guilty 22 = .ok (.ireturn, 1) := dk_172 (dk_at dksX9_guilty_0 22 rfl rfl)
theorem dX9_guilty_23 : decode cX9_guilty 23 = .ok (.iconst 0, 1) := dk_3 (dk_at dksX9_guilty_0 23 rfl rfl)
theorem dX9_guilty_24 : decode cX9_guilty 24 = .ok (.istore_n 3, 1) := dk_62 (dk_at dksX9_guilty_1 0 rfl rfl)
theorem dX9_guilty_25 : decode cX9_guilty 25 = .ok (.iload_n 3, 1) := dk_29 (dk_at dksX9_guilty_1 1 rfl rfl)
theorem dX9_guilty_26 : decode cX9_guilty 26 = .ok (.aload_n 0, 1) := dk_42 (dk_at dksX9_guilty_1 2 rfl rfl)
theorem dX9_guilty_27 : decode cX9_guilty 27 = .ok (.getfield 98, 3) := dk_180 0 98 (dk_at dksX9_guilty_1 3 rfl rfl)
theorem dX9_guilty_30 : decode cX9_guilty 30 = .ok (.bipush 25, 2) := dk_16 25 (dk_at dksX9_guilty_1 6 rfl rfl)
theorem dX9_guilty_32 : decode cX9_guilty 32 = .ok (.iaload, 1) := dk_46 (dk_at dksX9_guilty_1 8 rfl rfl)
theorem dX9_guilty_33 : decode cX9_guilty 33 = .ok (.if_icmp .ge 45, 3) := dk_162 0 45 (dk_at dksX9_guilty_1 9 rfl rfl)
theorem dX9_guilty_36 : decode cX9_guilty 36 = .ok (.aload_n 0, 1) := dk_42 (dk_at dksX9_guilty_1 12 rfl rfl)
theorem dX9_guilty_37 : decode cX9_guilty 37 = .ok (.getfield 98, 3) := dk_180 0 98 (dk_at dksX9_guilty_1 13 rfl rfl)
theorem dX9_guilty_40 : decode cX9_guilty 40 = .ok (.bipush 38, 2) := dk_16 38 (dk_at dksX9_guilty_1 16 rfl rfl)
theorem dX9_guilty_42 : decode cX9_guilty 42 = .ok (.iload_n 3, 1) := dk_29 (dk_at dksX9_guilty_1 18 rfl rfl)
theorem dX9_guilty_43 : decode cX9_guilty 43 = .ok (.iadd, 1) := dk_96 (dk_at dksX9_guilty_1 19 rfl rfl)
theorem dX9_guilty_44 : decode cX9_guilty 44 = .ok (.iaload, 1) := dk_46 (dk_at dksX9_guilty_1 20 rfl rfl)
theorem dX9_guilty_45 : decode cX9_guilty 45 = .ok (.iload_n 1, 1) := dk_27 (dk_at dksX9_guilty_1 21 rfl rfl)
theorem dX9_guilty_46 : decode cX9_guilty 46 = .ok (.if_icmp .ne 26, 3) := dk_160 0 26 (dk_at dksX9_guilty_2 0 rfl rfl)
theorem dX9_guilty_49 : decode cX9_guilty 49 = .ok (.aload_n 0, 1) := dk_42 (dk_at dksX9_guilty_2 3 rfl rfl)
theorem dX9_guilty_50 : decode cX9_guilty 50 = .ok (.getfield 98, 3) := dk_180 0 98 (dk_at dksX9_guilty_2 4 rfl rfl)
theorem dX9_guilty_53 : decode cX9_guilty 53 = .ok (.bipush 50, 2) := dk_16 50 (dk_at dksX9_guilty_2 7 rfl rfl)
theorem dX9_guilty_55 : decode cX9_guilty 55 = .ok (.iload_n 3, 1) := dk_29 (dk_at dksX9_guilty_2 9 rfl rfl)
theorem dX9_guilty_56 : decode cX9_guilty 56 = .ok (.iadd, 1) := dk_96 (dk_at dksX9_guilty_2 10 rfl rfl)
theorem dX9_guilty_57 : decode cX9_guilty 57 = .ok (.iaload, 1) := dk_46 (dk_at dksX9_guilty_2 11 rfl rfl)
theorem dX9_guilty_58 : decode cX9_guilty 58 = .ok (.iload_n 2, 1) := dk_28 (dk_at dksX9_guilty_2 12 rfl rfl)
theorem dX9_guilty_59 : decode cX9_guilty 59 = .ok (.if_icmp .ne 13, 3) := dk_160 0 13 (dk_at dksX9_guilty_2 13 rfl rfl)
theorem dX9_guilty_62 : decode cX9_guilty 62 = .ok (.aload_n 0, 1) := dk_42 (dk_at dksX9_guilty_2 16 rfl rfl)
theorem dX9_guilty_63 : decode cX9_guilty 63 = .ok (.iload_n 3, 1) := dk_29 (dk_at dksX9_guilty_2 17 rfl rfl)
theorem dX9_guilty_64 : decode cX9_guilty 64 = .ok (.invokevirtual 241, 3) := dk_182 0 241 (dk_at dksX9_guilty_2 18 rfl rfl)
theorem dX9_guilty_67 : decode cX9_guilty 67 = .ok (.ifCond .eq 5, 3) := dk_153 0 5 (dk_at dksX9_guilty_2 21 rfl rfl)
theorem dX9_guilty_70 : decode cX9_guilty 70 = .ok (.iconst 1, 1) := dk_4 (dk_at dksX9_guilty_3 0 rfl rfl)
theorem dX9_guilty_71 : decode cX9_guilty 71 = .ok (.ireturn, 1) := dk_172 (dk_at dksX9_guilty_3 1 rfl rfl)
theorem dX9_guilty_72 : decode cX9_guilty 72 = .ok (.iinc 3 1, 3) := dk_132 3 1 (dk_at dksX9_guilty_3 2 rfl rfl)
theorem dX9_guilty_75 : decode cX9_guilty 75 = .ok (.goto (-50), 3) := dk_167 255 206 (dk_at dksX9_guilty_3 5 rfl rfl)
theorem dX9_guilty_78 : decode cX9_guilty 78 = .ok (.iconst 0, 1) := dk_3 (dk_at dksX9_guilty_3 8 rfl rfl)
theorem dX9_guilty_79 : decode cX9_guilty 79 = .ok (.ireturn, 1) := dk_172 (dk_at dksX9_guilty_3 9 rfl rfl)
abbrev cX9_proves : ByteArray := prog_22_method_76_code
def yX9_proves : MethodName := ⟨RX9, "proves", "(I)I"⟩
def dkwX9_proves_5 : List UInt8 := [61, 132, 3, 1, 167, 255, 155, 28, 17, 1, 144, 164, 0, 7, 2, 167, 0, 4, 28, 172]
abbrev dktX9_proves_5 : List UInt8 := dkwX9_proves_5 ++ []
def dkwX9_proves_4 : List UInt8 := [21, 5, 42, 180, 0, 98, 8, 46, 161, 0, 17, 28, 2, 159, 0, 9, 21, 4, 28, 162, 0, 6, 21, 4]
abbrev dktX9_proves_4 : List UInt8 := dkwX9_proves_4 ++ dktX9_proves_5
def dkwX9_proves_3 : List UInt8 := [182, 0, 224, 21, 4, 163, 0, 6, 132, 5, 1, 132, 6, 1, 167, 255, 216, 21, 4, 2, 159, 0, 28]
abbrev dktX9_proves_3 : List UInt8 := dkwX9_proves_3 ++ dktX9_proves_4
def dkwX9_proves_2 : List UInt8 := [180, 0, 98, 4, 46, 162, 0, 35, 42, 21, 6, 27, 182, 0, 224, 2, 159, 0, 18, 42, 21, 6, 27]
abbrev dktX9_proves_2 : List UInt8 := dkwX9_proves_2 ++ dktX9_proves_3
def dkwX9_proves_1 : List UInt8 := [4, 46, 162, 0, 97, 42, 29, 27, 182, 0, 224, 54, 4, 3, 54, 5, 3, 54, 6, 21, 6, 42]
abbrev dktX9_proves_1 : List UInt8 := dkwX9_proves_1 ++ dktX9_proves_2
def dkwX9_proves_0 : List UInt8 := [42, 3, 181, 0, 1, 42, 27, 182, 1, 0, 154, 0, 5, 2, 172, 2, 61, 3, 62, 29, 42, 180, 0, 98]
abbrev dktX9_proves_0 : List UInt8 := dkwX9_proves_0 ++ dktX9_proves_1
theorem dksX9_proves_0 : cX9_proves.data.toList.drop 0 = dktX9_proves_0 := by decide +kernel
theorem dksX9_proves_1 : cX9_proves.data.toList.drop 24 = dktX9_proves_1 := dk_seg dksX9_proves_0 24 rfl rfl
theorem dksX9_proves_2 : cX9_proves.data.toList.drop 46 = dktX9_proves_2 := dk_seg dksX9_proves_1 22 rfl rfl
theorem dksX9_proves_3 : cX9_proves.data.toList.drop 69 = dktX9_proves_3 := dk_seg dksX9_proves_2 23 rfl rfl
theorem dksX9_proves_4 : cX9_proves.data.toList.drop 92 = dktX9_proves_4 := dk_seg dksX9_proves_3 23 rfl rfl
theorem dksX9_proves_5 : cX9_proves.data.toList.drop 116 = dktX9_proves_5 := dk_seg dksX9_proves_4 24 rfl rfl
theorem dX9_proves_0 : decode cX9_proves 0 = .ok (.aload_n 0, 1) := dk_42 (dk_at dksX9_proves_0 0 rfl rfl)
theorem dX9_proves_1 : decode cX9_proves 1 = .ok (.iconst 0, 1) := dk_3 (dk_at dksX9_proves_0 1 rfl rfl)
theorem dX9_proves_2 : decode cX9_proves 2 = .ok (.putfield 1, 3) := dk_181 0 1 (dk_at dksX9_proves_0 2 rfl rfl)
theorem dX9_proves_5 : decode cX9_proves 5 = .ok (.aload_n 0, 1) := dk_42 (dk_at dksX9_proves_0 5 rfl rfl)
theorem dX9_proves_6 : decode cX9_proves 6 = .ok (.iload_n 1, 1) := dk_27 (dk_at dksX9_proves_0 6 rfl rfl)
theorem dX9_proves_7 : decode cX9_proves 7 = .ok (.invokevirtual 256, 3) := dk_182 1 0 (dk_at dksX9_proves_0 7 rfl rfl)
theorem dX9_proves_10 : decode cX9_proves 10 = .ok (.ifCond .ne 5, 3) := dk_154 0 5 (dk_at dksX9_proves_0 10 rfl rfl)
theorem dX9_proves_13 : decode cX9_proves 13 = .ok (.iconst (-1), 1) := dk_2 (dk_at dksX9_proves_0 13 rfl rfl)
theorem dX9_proves_14 : decode cX9_proves 14 = .ok (.ireturn, 1) := dk_172 (dk_at dksX9_proves_0 14 rfl rfl)
theorem dX9_proves_15 : decode cX9_proves 15 = .ok (.iconst (-1), 1) := dk_2 (dk_at dksX9_proves_0 15 rfl rfl)
theorem dX9_proves_16 : decode cX9_proves 16 = .ok (.istore_n 2, 1) := dk_61 (dk_at dksX9_proves_0 16 rfl rfl)
theorem dX9_proves_17 : decode cX9_proves 17 = .ok (.iconst 0, 1) := dk_3 (dk_at dksX9_proves_0 17 rfl rfl)
theorem dX9_proves_18 : decode cX9_proves 18 = .ok (.istore_n 3, 1) := dk_62 (dk_at dksX9_proves_0 18 rfl rfl)
theorem dX9_proves_19 : decode cX9_proves 19 = .ok (.iload_n 3, 1) := dk_29 (dk_at dksX9_proves_0 19 rfl rfl)
theorem dX9_proves_20 : decode cX9_proves 20 = .ok (.aload_n 0, 1) := dk_42 (dk_at dksX9_proves_0 20 rfl rfl)
theorem dX9_proves_21 : decode cX9_proves 21 = .ok (.getfield 98, 3) := dk_180 0 98 (dk_at dksX9_proves_0 21 rfl rfl)
theorem dX9_proves_24 : decode cX9_proves 24 = .ok (.iconst 1, 1) := dk_4 (dk_at dksX9_proves_1 0 rfl rfl)
theorem dX9_proves_25 : decode cX9_proves 25 = .ok (.iaload, 1) := dk_46 (dk_at dksX9_proves_1 1 rfl rfl)
theorem dX9_proves_26 : decode cX9_proves 26 = .ok (.if_icmp .ge 97, 3) := dk_162 0 97 (dk_at dksX9_proves_1 2 rfl rfl)
theorem dX9_proves_29 : decode cX9_proves 29 = .ok (.aload_n 0, 1) := dk_42 (dk_at dksX9_proves_1 5 rfl rfl)
theorem dX9_proves_30 : decode cX9_proves 30 = .ok (.iload_n 3, 1) := dk_29 (dk_at dksX9_proves_1 6 rfl rfl)
theorem dX9_proves_31 : decode cX9_proves 31 = .ok (.iload_n 1, 1) := dk_27 (dk_at dksX9_proves_1 7 rfl rfl)
theorem dX9_proves_32 : decode cX9_proves 32 = .ok (.invokevirtual 224, 3) := dk_182 0 224 (dk_at dksX9_proves_1 8 rfl rfl)
theorem dX9_proves_35 : decode cX9_proves 35 = .ok (.istore 4, 2) := dk_54 4 (dk_at dksX9_proves_1 11 rfl rfl)
theorem dX9_proves_37 : decode cX9_proves 37 = .ok (.iconst 0, 1) := dk_3 (dk_at dksX9_proves_1 13 rfl rfl)
theorem dX9_proves_38 : decode cX9_proves 38 = .ok (.istore 5, 2) := dk_54 5 (dk_at dksX9_proves_1 14 rfl rfl)
theorem dX9_proves_40 : decode cX9_proves 40 = .ok (.iconst 0, 1) := dk_3 (dk_at dksX9_proves_1 16 rfl rfl)
theorem dX9_proves_41 : decode cX9_proves 41 = .ok (.istore 6, 2) := dk_54 6 (dk_at dksX9_proves_1 17 rfl rfl)
theorem dX9_proves_43 : decode cX9_proves 43 = .ok (.iload 6, 2) := dk_21 6 (dk_at dksX9_proves_1 19 rfl rfl)
theorem dX9_proves_45 : decode cX9_proves 45 = .ok (.aload_n 0, 1) := dk_42 (dk_at dksX9_proves_1 21 rfl rfl)
theorem dX9_proves_46 : decode cX9_proves 46 = .ok (.getfield 98, 3) := dk_180 0 98 (dk_at dksX9_proves_2 0 rfl rfl)
theorem dX9_proves_49 : decode cX9_proves 49 = .ok (.iconst 1, 1) := dk_4 (dk_at dksX9_proves_2 3 rfl rfl)
theorem dX9_proves_50 : decode cX9_proves 50 = .ok (.iaload, 1) := dk_46 (dk_at dksX9_proves_2 4 rfl rfl)
theorem dX9_proves_51 : decode cX9_proves 51 = .ok (.if_icmp .ge 35, 3) := dk_162 0 35 (dk_at dksX9_proves_2 5 rfl rfl)
theorem dX9_proves_54 : decode cX9_proves 54 = .ok (.aload_n 0, 1) := dk_42 (dk_at dksX9_proves_2 8 rfl rfl)
theorem dX9_proves_55 : decode cX9_proves 55 = .ok (.iload 6, 2) := dk_21 6 (dk_at dksX9_proves_2 9 rfl rfl)
theorem dX9_proves_57 : decode cX9_proves 57 = .ok (.iload_n 1, 1) := dk_27 (dk_at dksX9_proves_2 11 rfl rfl)
theorem dX9_proves_58 : decode cX9_proves 58 = .ok (.invokevirtual 224, 3) := dk_182 0 224 (dk_at dksX9_proves_2 12 rfl rfl)
theorem dX9_proves_61 : decode cX9_proves 61 = .ok (.iconst (-1), 1) := dk_2 (dk_at dksX9_proves_2 15 rfl rfl)
theorem dX9_proves_62 : decode cX9_proves 62 = .ok (.if_icmp .eq 18, 3) := dk_159 0 18 (dk_at dksX9_proves_2 16 rfl rfl)
theorem dX9_proves_65 : decode cX9_proves 65 = .ok (.aload_n 0, 1) := dk_42 (dk_at dksX9_proves_2 19 rfl rfl)
theorem dX9_proves_66 : decode cX9_proves 66 = .ok (.iload 6, 2) := dk_21 6 (dk_at dksX9_proves_2 20 rfl rfl)
theorem dX9_proves_68 : decode cX9_proves 68 = .ok (.iload_n 1, 1) := dk_27 (dk_at dksX9_proves_2 22 rfl rfl)
theorem dX9_proves_69 : decode cX9_proves 69 = .ok (.invokevirtual 224, 3) := dk_182 0 224 (dk_at dksX9_proves_3 0 rfl rfl)
theorem dX9_proves_72 : decode cX9_proves 72 = .ok (.iload 4, 2) := dk_21 4 (dk_at dksX9_proves_3 3 rfl rfl)
theorem dX9_proves_74 : decode cX9_proves 74 = .ok (.if_icmp .gt 6, 3) := dk_163 0 6 (dk_at dksX9_proves_3 5 rfl rfl)
theorem dX9_proves_77 : decode cX9_proves 77 = .ok (.iinc 5 1, 3) := dk_132 5 1 (dk_at dksX9_proves_3 8 rfl rfl)
theorem dX9_proves_80 : decode cX9_proves 80 = .ok (.iinc 6 1, 3) := dk_132 6 1 (dk_at dksX9_proves_3 11 rfl rfl)
theorem dX9_proves_83 : decode cX9_proves 83 = .ok (.goto (-40), 3) := dk_167 255 216 (dk_at dksX9_proves_3 14 rfl rfl)
theorem dX9_proves_86 : decode cX9_proves 86 = .ok (.iload 4, 2) := dk_21 4 (dk_at dksX9_proves_3 17 rfl rfl)
theorem dX9_proves_88 : decode cX9_proves 88 = .ok (.iconst (-1), 1) := dk_2 (dk_at dksX9_proves_3 19 rfl rfl)
theorem dX9_proves_89 : decode cX9_proves 89 = .ok (.if_icmp .eq 28, 3) := dk_159 0 28 (dk_at dksX9_proves_3 20 rfl rfl)
theorem dX9_proves_92 : decode cX9_proves 92 = .ok (.iload 5, 2) := dk_21 5 (dk_at dksX9_proves_4 0 rfl rfl)
theorem dX9_proves_94 : decode cX9_proves 94 = .ok (.aload_n 0, 1) := dk_42 (dk_at dksX9_proves_4 2 rfl rfl)
theorem dX9_proves_95 : decode cX9_proves 95 = .ok (.getfield 98, 3) := dk_180 0 98 (dk_at dksX9_proves_4 3 rfl rfl)
theorem dX9_proves_98 : decode cX9_proves 98 = .ok (.iconst 5, 1) := dk_8 (dk_at dksX9_proves_4 6 rfl rfl)
theorem dX9_proves_99 : decode cX9_proves 99 = .ok (.iaload, 1) := dk_46 (dk_at dksX9_proves_4 7 rfl rfl)
theorem dX9_proves_100 : decode cX9_proves 100 = .ok (.if_icmp .lt 17, 3) := dk_161 0 17 (dk_at dksX9_proves_4 8 rfl rfl)
theorem dX9_proves_103 : decode cX9_proves 103 = .ok (.iload_n 2, 1) := dk_28 (dk_at dksX9_proves_4 11 rfl rfl)
theorem dX9_proves_104 : decode cX9_proves 104 = .ok (.iconst (-1), 1) := dk_2 (dk_at dksX9_proves_4 12 rfl rfl)
theorem dX9_proves_105 : decode cX9_proves 105 = .ok (.if_icmp .eq 9, 3) := dk_159 0 9 (dk_at dksX9_proves_4 13 rfl rfl)
theorem dX9_proves_108 : decode cX9_proves 108 = .ok (.iload 4, 2) := dk_21 4 (dk_at dksX9_proves_4 16 rfl rfl)
theorem dX9_proves_110 : decode cX9_proves 110 = .ok (.iload_n 2, 1) := dk_28 (dk_at dksX9_proves_4 18 rfl rfl)
theorem dX9_proves_111 : decode cX9_proves 111 = .ok (.if_icmp .ge 6, 3) := dk_162 0 6 (dk_at dksX9_proves_4 19 rfl rfl)
theorem dX9_proves_114 : decode cX9_proves 114 = .ok (.iload 4, 2) := dk_21 4 (dk_at dksX9_proves_4 22 rfl rfl)
theorem dX9_proves_116 : decode cX9_proves 116 = .ok (.istore_n 2, 1) := dk_61 (dk_at dksX9_proves_5 0 rfl rfl)
theorem dX9_proves_117 : decode cX9_proves 117 = .ok (.iinc 3 1, 3) := dk_132 3 1 (dk_at dksX9_proves_5 1 rfl rfl)
theorem dX9_proves_120 : decode cX9_proves 120 = .ok (.goto (-101), 3) := dk_167 255 155 (dk_at dksX9_proves_5 4 rfl rfl)
theorem dX9_proves_123 : decode cX9_proves 123 = .ok (.iload_n 2, 1) := dk_28 (dk_at dksX9_proves_5 7 rfl rfl)
theorem dX9_proves_124 : decode cX9_proves 124 = .ok (.sipush 400, 3) := dk_17 1 144 (dk_at dksX9_proves_5 8 rfl rfl)
theorem dX9_proves_127 : decode cX9_proves 127 = .ok (.if_icmp .le 7, 3) := dk_164 0 7 (dk_at dksX9_proves_5 11 rfl rfl)
theorem dX9_proves_130 : decode cX9_proves 130 = .ok (.iconst (-1), 1) := dk_2 (dk_at dksX9_proves_5 14 rfl rfl)
theorem dX9_proves_131 : decode cX9_proves 131 = .ok (.goto 4, 3) := dk_167 0 4 (dk_at dksX9_proves_5 15 rfl rfl)
theorem dX9_proves_134 : decode cX9_proves 134 = .ok (.iload_n 2, 1) := dk_28 (dk_at dksX9_proves_5 18 rfl rfl)
theorem dX9_proves_135 : decode cX9_proves 135 = .ok (.ireturn, 1) := dk_172 (dk_at dksX9_proves_5 19 rfl rfl)
abbrev cX9_hides : ByteArray := prog_22_method_77_code
def yX9_hides : MethodName := ⟨RX9, "hides", "(I)I"⟩
def dkwX9_hides_3 : List UInt8 := [132, 3, 1, 167, 255, 215, 28, 172]
abbrev dktX9_hides_3 : List UInt8 := dkwX9_hides_3 ++ []
def dkwX9_hides_2 : List UInt8 := [180, 0, 98, 16, 24, 46, 27, 96, 163, 0, 14, 28, 42, 29, 3, 182, 0, 250, 2, 130, 126, 61]
abbrev dktX9_hides_2 : List UInt8 := dkwX9_hides_2 ++ dktX9_hides_3
def dkwX9_hides_1 : List UInt8 := [120, 4, 100, 61, 3, 62, 29, 42, 180, 0, 98, 4, 46, 162, 0, 37, 42, 29, 182, 1, 12, 42]
abbrev dktX9_hides_1 : List UInt8 := dkwX9_hides_1 ++ dktX9_hides_2
def dkwX9_hides_0 : List UInt8 := [42, 3, 181, 0, 1, 27, 3, 16, 60, 184, 0, 75, 154, 0, 5, 2, 172, 4, 42, 180, 0, 98, 3, 46]
abbrev dktX9_hides_0 : List UInt8 := dkwX9_hides_0 ++ dktX9_hides_1
theorem dksX9_hides_0 : cX9_hides.data.toList.drop 0 = dktX9_hides_0 := by decide +kernel
theorem dksX9_hides_1 : cX9_hides.data.toList.drop 24 = dktX9_hides_1 := dk_seg dksX9_hides_0 24 rfl rfl
theorem dksX9_hides_2 : cX9_hides.data.toList.drop 46 = dktX9_hides_2 := dk_seg dksX9_hides_1 22 rfl rfl
theorem dksX9_hides_3 : cX9_hides.data.toList.drop 68 = dktX9_hides_3 := dk_seg dksX9_hides_2 22 rfl rfl
theorem dX9_hides_0 : decode cX9_hides 0 = .ok (.aload_n 0, 1) := dk_42 (dk_at dksX9_hides_0 0 rfl rfl)
theorem dX9_hides_1 : decode cX9_hides 1 = .ok (.iconst 0, 1) := dk_3 (dk_at dksX9_hides_0 1 rfl rfl)
theorem dX9_hides_2 : decode cX9_hides 2 = .ok (.putfield 1, 3) := dk_181 0 1 (dk_at dksX9_hides_0 2 rfl rfl)
theorem dX9_hides_5 : decode cX9_hides 5 = .ok (.iload_n 1, 1) := dk_27 (dk_at dksX9_hides_0 5 rfl rfl)
theorem dX9_hides_6 : decode cX9_hides 6 = .ok (.iconst 0, 1) := dk_3 (dk_at dksX9_hides_0 6 rfl rfl)
theorem dX9_hides_7 : decode cX9_hides 7 = .ok (.bipush 60, 2) := dk_16 60 (dk_at dksX9_hides_0 7 rfl rfl)
theorem dX9_hides_9 : decode cX9_hides 9 = .ok (.invokestatic 75, 3) := dk_184 0 75 (dk_at dksX9_hides_0 9 rfl rfl)
theorem dX9_hides_12 : decode cX9_hides 12 = .ok (.ifCond .ne 5, 3) := dk_154 0 5 (dk_at dksX9_hides_0 12 rfl rfl)
theorem dX9_hides_15 : decode cX9_hides 15 = .ok (.iconst (-1), 1) := dk_2 (dk_at dksX9_hides_0 15 rfl rfl)
theorem dX9_hides_16 : decode cX9_hides 16 = .ok (.ireturn, 1) := dk_172 (dk_at dksX9_hides_0 16 rfl rfl)
theorem dX9_hides_17 : decode cX9_hides 17 = .ok (.iconst 1, 1) := dk_4 (dk_at dksX9_hides_0 17 rfl rfl)
theorem dX9_hides_18 : decode cX9_hides 18 = .ok (.aload_n 0, 1) := dk_42 (dk_at dksX9_hides_0 18 rfl rfl)
theorem dX9_hides_19 : decode cX9_hides 19 = .ok (.getfield 98, 3) := dk_180 0 98 (dk_at dksX9_hides_0 19 rfl rfl)
theorem dX9_hides_22 : decode cX9_hides 22 = .ok (.iconst 0, 1) := dk_3 (dk_at dksX9_hides_0 22 rfl rfl)
theorem dX9_hides_23 : decode cX9_hides 23 = .ok (.iaload, 1) := dk_46 (dk_at dksX9_hides_0 23 rfl rfl)
theorem dX9_hides_24 : decode cX9_hides 24 = .ok (.ishl, 1) := dk_120 (dk_at dksX9_hides_1 0 rfl rfl)
theorem dX9_hides_25 : decode cX9_hides 25 = .ok (.iconst 1, 1) := dk_4 (dk_at dksX9_hides_1 1 rfl rfl)
theorem dX9_hides_26 : decode cX9_hides 26 = .ok (.isub, 1) := dk_100 (dk_at dksX9_hides_1 2 rfl rfl)
theorem dX9_hides_27 : decode cX9_hides 27 = .ok (.istore_n 2, 1) := dk_61 (dk_at dksX9_hides_1 3 rfl rfl)
theorem dX9_hides_28 : decode cX9_hides 28 = .ok (.iconst 0, 1) := dk_3 (dk_at dksX9_hides_1 4 rfl rfl)
theorem dX9_hides_29 : decode cX9_hides 29 = .ok (.istore_n 3, 1) := dk_62 (dk_at dksX9_hides_1 5 rfl rfl)
theorem dX9_hides_30 : decode cX9_hides 30 = .ok (.iload_n 3, 1) := dk_29 (dk_at dksX9_hides_1 6 rfl rfl)
theorem dX9_hides_31 : decode cX9_hides 31 = .ok (.aload_n 0, 1) := dk_42 (dk_at dksX9_hides_1 7 rfl rfl)
theorem dX9_hides_32 : decode cX9_hides 32 = .ok (.getfield 98, 3) := dk_180 0 98 (dk_at dksX9_hides_1 8 rfl rfl)
theorem dX9_hides_35 : decode cX9_hides 35 = .ok (.iconst 1, 1) := dk_4 (dk_at dksX9_hides_1 11 rfl rfl)
theorem dX9_hides_36 : decode cX9_hides 36 = .ok (.iaload, 1) := dk_46 (dk_at dksX9_hides_1 12 rfl rfl)
theorem dX9_hides_37 : decode cX9_hides 37 = .ok (.if_icmp .ge 37, 3) := dk_162 0 37 (dk_at dksX9_hides_1 13 rfl rfl)
theorem dX9_hides_40 : decode cX9_hides 40 = .ok (.aload_n 0, 1) := dk_42 (dk_at dksX9_hides_1 16 rfl rfl)
theorem dX9_hides_41 : decode cX9_hides 41 = .ok (.iload_n 3, 1) := dk_29 (dk_at dksX9_hides_1 17 rfl rfl)
theorem dX9_hides_42 : decode cX9_hides 42 = .ok (.invokevirtual 268, 3) := dk_182 1 12 (dk_at dksX9_hides_1 18 rfl rfl)
theorem dX9_hides_45 : decode cX9_hides 45 = .ok (.aload_n 0, 1) := dk_42 (dk_at dksX9_hides_1 21 rfl rfl)
theorem dX9_hides_46 : decode cX9_hides 46 = .ok (.getfield 98, 3) := dk_180 0 98 (dk_at dksX9_hides_2 0 rfl rfl)
theorem dX9_hides_49 : decode cX9_hides 49 = .ok (.bipush 24, 2) := dk_16 24 (dk_at dksX9_hides_2 3 rfl rfl)
theorem dX9_hides_51 : decode cX9_hides 51 = .ok (.iaload, 1) := dk_46 (dk_at dksX9_hides_2 5 rfl rfl)
theorem dX9_hides_52 : decode cX9_hides 52 = .ok (.iload_n 1, 1) := dk_27 (dk_at dksX9_hides_2 6 rfl rfl)
theorem dX9_hides_53 : decode cX9_hides 53 = .ok (.iadd, 1) := dk_96 (dk_at dksX9_hides_2 7 rfl rfl)
theorem dX9_hides_54 : decode cX9_hides 54 = .ok (.if_icmp .gt 14, 3) := dk_163 0 14 (dk_at dksX9_hides_2 8 rfl rfl)
theorem dX9_hides_57 : decode cX9_hides 57 = .ok (.iload_n 2, 1) := dk_28 (dk_at dksX9_hides_2 11 rfl rfl)
theorem dX9_hides_58 : decode cX9_hides 58 = .ok (.aload_n 0, 1) := dk_42 (dk_at dksX9_hides_2 12 rfl rfl)
theorem dX9_hides_59 : decode cX9_hides 59 = .ok (.iload_n 3, 1) := dk_29 (dk_at dksX9_hides_2 13 rfl rfl)
theorem dX9_hides_60 : decode cX9_hides 60 = .ok (.iconst 0, 1) := dk_3 (dk_at dksX9_hides_2 14 rfl rfl)
theorem dX9_hides_61 : decode cX9_hides 61 = .ok (.invokevirtual 250, 3) := dk_182 0 250 (dk_at dksX9_hides_2 15 rfl rfl)
theorem dX9_hides_64 : decode cX9_hides 64 = .ok (.iconst (-1), 1) := dk_2 (dk_at dksX9_hides_2 18 rfl rfl)
theorem dX9_hides_65 : decode cX9_hides 65 = .ok (.ixor, 1) := dk_130 (dk_at dksX9_hides_2 19 rfl rfl)
theorem dX9_hides_66 : decode cX9_hides 66 = .ok (.iand, 1) := dk_126 (dk_at dksX9_hides_2 20 rfl rfl)
theorem dX9_hides_67 : decode cX9_hides 67 = .ok (.istore_n 2, 1) := dk_61 (dk_at dksX9_hides_2 21 rfl rfl)
theorem dX9_hides_68 : decode cX9_hides 68 = .ok (.iinc 3 1, 3) := dk_132 3 1 (dk_at dksX9_hides_3 0 rfl rfl)
theorem dX9_hides_71 : decode cX9_hides 71 = .ok (.goto (-41), 3) := dk_167 255 215 (dk_at dksX9_hides_3 3 rfl rfl)
theorem dX9_hides_74 : decode cX9_hides 74 = .ok (.iload_n 2, 1) := dk_28 (dk_at dksX9_hides_3 6 rfl rfl)
theorem dX9_hides_75 : decode cX9_hides 75 = .ok (.ireturn, 1) := dk_172 (dk_at dksX9_hides_3 7 rfl rfl)
abbrev cX9_dark : ByteArray := prog_22_method_78_code
def yX9_dark : MethodName := ⟨RX9, "dark", "(I)I"⟩
def dkwX9_dark_2 : List UInt8 := [153, 0, 5, 28, 172, 132, 2, 1, 167, 255, 218, 2, 172]
abbrev dktX9_dark_2 : List UInt8 := dkwX9_dark_2 ++ []
def dkwX9_dark_1 : List UInt8 := [180, 0, 98, 16, 24, 46, 28, 96, 17, 1, 144, 163, 0, 23, 42, 28, 182, 1, 9, 27, 184, 0, 181]
abbrev dktX9_dark_1 : List UInt8 := dkwX9_dark_1 ++ dktX9_dark_2
def dkwX9_dark_0 : List UInt8 := [42, 3, 181, 0, 1, 42, 27, 182, 1, 3, 154, 0, 5, 2, 172, 3, 61, 28, 16, 60, 163, 0, 38, 42]
abbrev dktX9_dark_0 : List UInt8 := dkwX9_dark_0 ++ dktX9_dark_1
theorem dksX9_dark_0 : cX9_dark.data.toList.drop 0 = dktX9_dark_0 := by decide +kernel
theorem dksX9_dark_1 : cX9_dark.data.toList.drop 24 = dktX9_dark_1 := dk_seg dksX9_dark_0 24 rfl rfl
theorem dksX9_dark_2 : cX9_dark.data.toList.drop 47 = dktX9_dark_2 := dk_seg dksX9_dark_1 23 rfl rfl
theorem dX9_dark_0 : decode cX9_dark 0 = .ok (.aload_n 0, 1) := dk_42 (dk_at dksX9_dark_0 0 rfl rfl)
theorem dX9_dark_1 : decode cX9_dark 1 = .ok (.iconst 0, 1) := dk_3 (dk_at dksX9_dark_0 1 rfl rfl)
theorem dX9_dark_2 : decode cX9_dark 2 = .ok (.putfield 1, 3) := dk_181 0 1 (dk_at dksX9_dark_0 2 rfl rfl)
theorem dX9_dark_5 : decode cX9_dark 5 = .ok (.aload_n 0, 1) := dk_42 (dk_at dksX9_dark_0 5 rfl rfl)
theorem dX9_dark_6 : decode cX9_dark 6 = .ok (.iload_n 1, 1) := dk_27 (dk_at dksX9_dark_0 6 rfl rfl)
theorem dX9_dark_7 : decode cX9_dark 7 = .ok (.invokevirtual 259, 3) := dk_182 1 3 (dk_at dksX9_dark_0 7 rfl rfl)
theorem dX9_dark_10 : decode cX9_dark 10 = .ok (.ifCond .ne 5, 3) := dk_154 0 5 (dk_at dksX9_dark_0 10 rfl rfl)
theorem dX9_dark_13 : decode cX9_dark 13 = .ok (.iconst (-1), 1) := dk_2 (dk_at dksX9_dark_0 13 rfl rfl)
theorem dX9_dark_14 : decode cX9_dark 14 = .ok (.ireturn, 1) := dk_172 (dk_at dksX9_dark_0 14 rfl rfl)
theorem dX9_dark_15 : decode cX9_dark 15 = .ok (.iconst 0, 1) := dk_3 (dk_at dksX9_dark_0 15 rfl rfl)
theorem dX9_dark_16 : decode cX9_dark 16 = .ok (.istore_n 2, 1) := dk_61 (dk_at dksX9_dark_0 16 rfl rfl)
theorem dX9_dark_17 : decode cX9_dark 17 = .ok (.iload_n 2, 1) := dk_28 (dk_at dksX9_dark_0 17 rfl rfl)
theorem dX9_dark_18 : decode cX9_dark 18 = .ok (.bipush 60, 2) := dk_16 60 (dk_at dksX9_dark_0 18 rfl rfl)
theorem dX9_dark_20 : decode cX9_dark 20 = .ok (.if_icmp .gt 38, 3) := dk_163 0 38 (dk_at dksX9_dark_0 20 rfl rfl)
theorem dX9_dark_23 : decode cX9_dark 23 = .ok (.aload_n 0, 1) := dk_42 (dk_at dksX9_dark_0 23 rfl rfl)
theorem dX9_dark_24 : decode cX9_dark 24 = .ok (.getfield 98, 3) := dk_180 0 98 (dk_at dksX9_dark_1 0 rfl rfl)
theorem dX9_dark_27 : decode cX9_dark 27 = .ok (.bipush 24, 2) := dk_16 24 (dk_at dksX9_dark_1 3 rfl rfl)
theorem dX9_dark_29 : decode cX9_dark 29 = .ok (.iaload, 1) := dk_46 (dk_at dksX9_dark_1 5 rfl rfl)
theorem dX9_dark_30 : decode cX9_dark 30 = .ok (.iload_n 2, 1) := dk_28 (dk_at dksX9_dark_1 6 rfl rfl)
theorem dX9_dark_31 : decode cX9_dark 31 = .ok (.iadd, 1) := dk_96 (dk_at dksX9_dark_1 7 rfl rfl)
theorem dX9_dark_32 : decode cX9_dark 32 = .ok (.sipush 400, 3) := dk_17 1 144 (dk_at dksX9_dark_1 8 rfl rfl)
theorem dX9_dark_35 : decode cX9_dark 35 = .ok (.if_icmp .gt 23, 3) := dk_163 0 23 (dk_at dksX9_dark_1 11 rfl rfl)
theorem dX9_dark_38 : decode cX9_dark 38 = .ok (.aload_n 0, 1) := dk_42 (dk_at dksX9_dark_1 14 rfl rfl)
theorem dX9_dark_39 : decode cX9_dark 39 = .ok (.iload_n 2, 1) := dk_28 (dk_at dksX9_dark_1 15 rfl rfl)
theorem dX9_dark_40 : decode cX9_dark 40 = .ok (.invokevirtual 265, 3) := dk_182 1 9 (dk_at dksX9_dark_1 16 rfl rfl)
theorem dX9_dark_43 : decode cX9_dark 43 = .ok (.iload_n 1, 1) := dk_27 (dk_at dksX9_dark_1 19 rfl rfl)
theorem dX9_dark_44 : decode cX9_dark 44 = .ok (.invokestatic 181, 3) := dk_184 0 181 (dk_at dksX9_dark_1 20 rfl rfl)
theorem dX9_dark_47 : decode cX9_dark 47 = .ok (.ifCond .eq 5, 3) := dk_153 0 5 (dk_at dksX9_dark_2 0 rfl rfl)
theorem dX9_dark_50 : decode cX9_dark 50 = .ok (.iload_n 2, 1) := dk_28 (dk_at dksX9_dark_2 3 rfl rfl)
theorem dX9_dark_51 : decode cX9_dark 51 = .ok (.ireturn, 1) := dk_172 (dk_at dksX9_dark_2 4 rfl rfl)
theorem dX9_dark_52 : decode cX9_dark 52 = .ok (.iinc 2 1, 3) := dk_132 2 1 (dk_at dksX9_dark_2 5 rfl rfl)
theorem dX9_dark_55 : decode cX9_dark 55 = .ok (.goto (-38), 3) := dk_167 255 218 (dk_at dksX9_dark_2 8 rfl rfl)
theorem dX9_dark_58 : decode cX9_dark 58 = .ok (.iconst (-1), 1) := dk_2 (dk_at dksX9_dark_2 11 rfl rfl)
theorem dX9_dark_59 : decode cX9_dark 59 = .ok (.ireturn, 1) := dk_172 (dk_at dksX9_dark_2 12 rfl rfl)
abbrev cX9_fits : ByteArray := prog_22_method_79_code
def yX9_fits : MethodName := ⟨RX9, "fits", "()I"⟩
def dkwX9_fits_9 : List UInt8 := [21, 5, 181, 0, 130, 132, 5, 1, 167, 255, 198, 29, 172]
abbrev dktX9_fits_9 : List UInt8 := dkwX9_fits_9 ++ []
def dkwX9_fits_8 : List UInt8 := [184, 0, 238, 100, 184, 1, 50, 54, 6, 21, 6, 21, 4, 161, 0, 6, 167, 0, 13, 21, 6, 54, 4, 42]
abbrev dktX9_fits_8 : List UInt8 := dkwX9_fits_8 ++ dktX9_fits_9
def dkwX9_fits_7 : List UInt8 := [180, 0, 98, 4, 46, 162, 0, 53, 5, 29, 42, 21, 5, 3, 182, 0, 250, 126, 184, 0, 238, 104, 29]
abbrev dktX9_fits_7 : List UInt8 := dkwX9_fits_7 ++ dktX9_fits_8
def dkwX9_fits_6 : List UInt8 := [132, 4, 2, 167, 255, 202, 29, 154, 0, 5, 3, 172, 19, 1, 49, 54, 4, 3, 54, 5, 21, 5, 42]
abbrev dktX9_fits_6 : List UInt8 := dkwX9_fits_6 ++ dktX9_fits_7
def dkwX9_fits_5 : List UInt8 := [46, 3, 182, 0, 250, 167, 0, 17, 42, 42, 180, 0, 7, 21, 4, 46, 3, 182, 0, 250, 2, 130, 126, 62]
abbrev dktX9_fits_5 : List UInt8 := dkwX9_fits_5 ++ dktX9_fits_6
def dkwX9_fits_4 : List UInt8 := [162, 0, 54, 29, 42, 180, 0, 7, 21, 4, 4, 96, 46, 4, 160, 0, 18, 42, 42, 180, 0, 7, 21, 4]
abbrev dktX9_fits_4 : List UInt8 := dkwX9_fits_4 ++ dktX9_fits_5
def dkwX9_fits_3 : List UInt8 := [167, 255, 221, 4, 42, 180, 0, 98, 3, 46, 120, 4, 100, 61, 28, 62, 3, 54, 4, 21, 4, 27]
abbrev dktX9_fits_3 : List UInt8 := dkwX9_fits_3 ++ dktX9_fits_4
def dkwX9_fits_2 : List UInt8 := [182, 0, 244, 153, 0, 15, 42, 180, 0, 7, 28, 4, 96, 46, 4, 164, 0, 5, 2, 172, 132, 2, 2]
abbrev dktX9_fits_2 : List UInt8 := dkwX9_fits_2 ++ dktX9_fits_3
def dkwX9_fits_1 : List UInt8 := [184, 0, 75, 154, 0, 5, 2, 172, 3, 61, 28, 27, 162, 0, 36, 42, 42, 180, 0, 7, 28, 46]
abbrev dktX9_fits_1 : List UInt8 := dkwX9_fits_1 ++ dktX9_fits_2
def dkwX9_fits_0 : List UInt8 := [42, 3, 181, 0, 1, 42, 182, 0, 89, 60, 27, 5, 112, 154, 0, 15, 27, 5, 108, 4, 16, 6]
abbrev dktX9_fits_0 : List UInt8 := dkwX9_fits_0 ++ dktX9_fits_1
theorem dksX9_fits_0 : cX9_fits.data.toList.drop 0 = dktX9_fits_0 := by decide +kernel
theorem dksX9_fits_1 : cX9_fits.data.toList.drop 22 = dktX9_fits_1 := dk_seg dksX9_fits_0 22 rfl rfl
theorem dksX9_fits_2 : cX9_fits.data.toList.drop 44 = dktX9_fits_2 := dk_seg dksX9_fits_1 22 rfl rfl
theorem dksX9_fits_3 : cX9_fits.data.toList.drop 67 = dktX9_fits_3 := dk_seg dksX9_fits_2 23 rfl rfl
theorem dksX9_fits_4 : cX9_fits.data.toList.drop 89 = dktX9_fits_4 := dk_seg dksX9_fits_3 22 rfl rfl
theorem dksX9_fits_5 : cX9_fits.data.toList.drop 113 = dktX9_fits_5 := dk_seg dksX9_fits_4 24 rfl rfl
theorem dksX9_fits_6 : cX9_fits.data.toList.drop 137 = dktX9_fits_6 := dk_seg dksX9_fits_5 24 rfl rfl
theorem dksX9_fits_7 : cX9_fits.data.toList.drop 160 = dktX9_fits_7 := dk_seg dksX9_fits_6 23 rfl rfl
theorem dksX9_fits_8 : cX9_fits.data.toList.drop 183 = dktX9_fits_8 := dk_seg dksX9_fits_7 23 rfl rfl
theorem dksX9_fits_9 : cX9_fits.data.toList.drop 207 = dktX9_fits_9 := dk_seg dksX9_fits_8 24 rfl rfl
theorem dX9_fits_0 : decode cX9_fits 0 = .ok (.aload_n 0, 1) := dk_42 (dk_at dksX9_fits_0 0 rfl rfl)
theorem dX9_fits_1 : decode cX9_fits 1 = .ok (.iconst 0, 1) := dk_3 (dk_at dksX9_fits_0 1 rfl rfl)
theorem dX9_fits_2 : decode cX9_fits 2 = .ok (.putfield 1, 3) := dk_181 0 1 (dk_at dksX9_fits_0 2 rfl rfl)
theorem dX9_fits_5 : decode cX9_fits 5 = .ok (.aload_n 0, 1) := dk_42 (dk_at dksX9_fits_0 5 rfl rfl)
theorem dX9_fits_6 : decode cX9_fits 6 = .ok (.invokevirtual 89, 3) := dk_182 0 89 (dk_at dksX9_fits_0 6 rfl rfl)
theorem dX9_fits_9 : decode cX9_fits 9 = .ok (.istore_n 1, 1) := dk_60 (dk_at dksX9_fits_0 9 rfl rfl)
theorem dX9_fits_10 : decode cX9_fits 10 = .ok (.iload_n 1, 1) := dk_27 (dk_at dksX9_fits_0 10 rfl rfl)
theorem dX9_fits_11 : decode cX9_fits 11 = .ok (.iconst 2, 1) := dk_5 (dk_at dksX9_fits_0 11 rfl rfl)
theorem dX9_fits_12 : decode cX9_fits 12 = .ok (.irem, 1) := dk_112 (dk_at dksX9_fits_0 12 rfl rfl)
theorem dX9_fits_13 : decode cX9_fits 13 = .ok (.ifCond .ne 15, 3) := dk_154 0 15 (dk_at dksX9_fits_0 13 rfl rfl)
theorem dX9_fits_16 : decode cX9_fits 16 = .ok (.iload_n 1, 1) := dk_27 (dk_at dksX9_fits_0 16 rfl rfl)
theorem dX9_fits_17 : decode cX9_fits 17 = .ok (.iconst 2, 1) := dk_5 (dk_at dksX9_fits_0 17 rfl rfl)
theorem dX9_fits_18 : decode cX9_fits 18 = .ok (.idiv, 1) := dk_108 (dk_at dksX9_fits_0 18 rfl rfl)
theorem dX9_fits_19 : decode cX9_fits 19 = .ok (.iconst 1, 1) := dk_4 (dk_at dksX9_fits_0 19 rfl rfl)
theorem dX9_fits_20 : decode cX9_fits 20 = .ok (.bipush 6, 2) := dk_16 6 (dk_at dksX9_fits_0 20 rfl rfl)
theorem dX9_fits_22 : decode cX9_fits 22 = .ok (.invokestatic 75, 3) := dk_184 0 75 (dk_at dksX9_fits_1 0 rfl rfl)
theorem dX9_fits_25 : decode cX9_fits 25 = .ok (.ifCond .ne 5, 3) := dk_154 0 5 (dk_at dksX9_fits_1 3 rfl rfl)
theorem dX9_fits_28 : decode cX9_fits 28 = .ok (.iconst (-1), 1) := dk_2 (dk_at dksX9_fits_1 6 rfl rfl)
theorem dX9_fits_29 : decode cX9_fits 29 = .ok (.ireturn, 1) := dk_172 (dk_at dksX9_fits_1 7 rfl rfl)
theorem dX9_fits_30 : decode cX9_fits 30 = .ok (.iconst 0, 1) := dk_3 (dk_at dksX9_fits_1 8 rfl rfl)
theorem dX9_fits_31 : decode cX9_fits 31 = .ok (.istore_n 2, 1) := dk_61 (dk_at dksX9_fits_1 9 rfl rfl)
theorem dX9_fits_32 : decode cX9_fits 32 = .ok (.iload_n 2, 1) := dk_28 (dk_at dksX9_fits_1 10 rfl rfl)
theorem dX9_fits_33 : decode cX9_fits 33 = .ok (.iload_n 1, 1) := dk_27 (dk_at dksX9_fits_1 11 rfl rfl)
theorem dX9_fits_34 : decode cX9_fits 34 = .ok (.if_icmp .ge 36, 3) := dk_162 0 36 (dk_at dksX9_fits_1 12 rfl rfl)
theorem dX9_fits_37 : decode cX9_fits 37 = .ok (.aload_n 0, 1) := dk_42 (dk_at dksX9_fits_1 15 rfl rfl)
theorem dX9_fits_38 : decode cX9_fits 38 = .ok (.aload_n 0, 1) := dk_42 (dk_at dksX9_fits_1 16 rfl rfl)
theorem dX9_fits_39 : decode cX9_fits 39 = .ok (.getfield 7, 3) := dk_180 0 7 (dk_at dksX9_fits_1 17 rfl rfl)
theorem dX9_fits_42 : decode cX9_fits 42 = .ok (.iload_n 2, 1) := dk_28 (dk_at dksX9_fits_1 20 rfl rfl)
theorem dX9_fits_43 : decode cX9_fits 43 = .ok (.iaload, 1) := dk_46 (dk_at dksX9_fits_1 21 rfl rfl)
theorem dX9_fits_44 : decode cX9_fits 44 = .ok (.invokevirtual 244, 3) := dk_182 0 244 (dk_at dksX9_fits_2 0 rfl rfl)
theorem dX9_fits_47 : decode cX9_fits 47 = .ok (.ifCond .eq 15, 3) := dk_153 0 15 (dk_at dksX9_fits_2 3 rfl rfl)
theorem dX9_fits_50 : decode cX9_fits 50 = .ok (.aload_n 0, 1) := dk_42 (dk_at dksX9_fits_2 6 rfl rfl)
theorem dX9_fits_51 : decode cX9_fits 51 = .ok (.getfield 7, 3) := dk_180 0 7 (dk_at dksX9_fits_2 7 rfl rfl)
theorem dX9_fits_54 : decode cX9_fits 54 = .ok (.iload_n 2, 1) := dk_28 (dk_at dksX9_fits_2 10 rfl rfl)
theorem dX9_fits_55 : decode cX9_fits 55 = .ok (.iconst 1, 1) := dk_4 (dk_at dksX9_fits_2 11 rfl rfl)
theorem dX9_fits_56 : decode cX9_fits 56 = .ok (.iadd, 1) := dk_96 (dk_at dksX9_fits_2 12 rfl rfl)
theorem dX9_fits_57 : decode cX9_fits 57 = .ok (.iaload, 1) := dk_46 (dk_at dksX9_fits_2 13 rfl rfl)
theorem dX9_fits_58 : decode cX9_fits 58 = .ok (.iconst 1, 1) := dk_4 (dk_at dksX9_fits_2 14 rfl rfl)
theorem dX9_fits_59 : decode cX9_fits 59 = .ok (.if_icmp .le 5, 3) := dk_164 0 5 (dk_at dksX9_fits_2 15 rfl rfl)
theorem dX9_fits_62 : decode cX9_fits 62 = .ok (.iconst (-1), 1) := dk_2 (dk_at dksX9_fits_2 18 rfl rfl)
theorem dX9_fits_63 : decode cX9_fits 63 = .ok (.ireturn, 1) := dk_172 (dk_at dksX9_fits_2 19 rfl rfl)
theorem dX9_fits_64 : decode cX9_fits 64 = .ok (.iinc 2 2, 3) := dk_132 2 2 (dk_at dksX9_fits_2 20 rfl rfl)
theorem dX9_fits_67 : decode cX9_fits 67 = .ok (.goto (-35), 3) := dk_167 255 221 (dk_at dksX9_fits_3 0 rfl rfl)
theorem dX9_fits_70 : decode cX9_fits 70 = .ok (.iconst 1, 1) := dk_4 (dk_at dksX9_fits_3 3 rfl rfl)
theorem dX9_fits_71 : decode cX9_fits 71 = .ok (.aload_n 0, 1) := dk_42 (dk_at dksX9_fits_3 4 rfl rfl)
theorem dX9_fits_72 : decode cX9_fits 72 = .ok (.getfield 98, 3) := dk_180 0 98 (dk_at dksX9_fits_3 5 rfl rfl)
theorem dX9_fits_75 : decode cX9_fits 75 = .ok (.iconst 0, 1) := dk_3 (dk_at dksX9_fits_3 8 rfl rfl)
theorem dX9_fits_76 : decode cX9_fits 76 = .ok (.iaload, 1) := dk_46 (dk_at dksX9_fits_3 9 rfl rfl)
theorem dX9_fits_77 : decode cX9_fits 77 = .ok (.ishl, 1) := dk_120 (dk_at dksX9_fits_3 10 rfl rfl)
theorem dX9_fits_78 : decode cX9_fits 78 = .ok (.iconst 1, 1) := dk_4 (dk_at dksX9_fits_3 11 rfl rfl)
theorem dX9_fits_79 : decode cX9_fits 79 = .ok (.isub, 1) := dk_100 (dk_at dksX9_fits_3 12 rfl rfl)
theorem dX9_fits_80 : decode cX9_fits 80 = .ok (.istore_n 2, 1) := dk_61 (dk_at dksX9_fits_3 13 rfl rfl)
theorem dX9_fits_81 : decode cX9_fits 81 = .ok (.iload_n 2, 1) := dk_28 (dk_at dksX9_fits_3 14 rfl rfl)
theorem dX9_fits_82 : decode cX9_fits 82 = .ok (.istore_n 3, 1) := dk_62 (dk_at dksX9_fits_3 15 rfl rfl)
theorem dX9_fits_83 : decode cX9_fits 83 = .ok (.iconst 0, 1) := dk_3 (dk_at dksX9_fits_3 16 rfl rfl)
theorem dX9_fits_84 : decode cX9_fits 84 = .ok (.istore 4, 2) := dk_54 4 (dk_at dksX9_fits_3 17 rfl rfl)
theorem dX9_fits_86 : decode cX9_fits 86 = .ok (.iload 4, 2) := dk_21 4 (dk_at dksX9_fits_3 19 rfl rfl)
theorem dX9_fits_88 : decode cX9_fits 88 = .ok (.iload_n 1, 1) := dk_27 (dk_at dksX9_fits_3 21 rfl rfl)
theorem dX9_fits_89 : decode cX9_fits 89 = .ok (.if_icmp .ge 54, 3) := dk_162 0 54 (dk_at dksX9_fits_4 0 rfl rfl)
theorem dX9_fits_92 : decode cX9_fits 92 = .ok (.iload_n 3, 1) := dk_29 (dk_at dksX9_fits_4 3 rfl rfl)
theorem dX9_fits_93 : decode cX9_fits 93 = .ok (.aload_n 0, 1) := dk_42 (dk_at dksX9_fits_4 4 rfl rfl)
theorem dX9_fits_94 : decode cX9_fits 94 = .ok (.getfield 7, 3) := dk_180 0 7 (dk_at dksX9_fits_4 5 rfl rfl)
theorem dX9_fits_97 : decode cX9_fits 97 = .ok (.iload 4, 2) := dk_21 4 (dk_at dksX9_fits_4 8 rfl rfl)
theorem dX9_fits_99 : decode cX9_fits 99 = .ok (.iconst 1, 1) := dk_4 (dk_at dksX9_fits_4 10 rfl rfl)
theorem dX9_fits_100 : decode cX9_fits 100 = .ok (.iadd, 1) := dk_96 (dk_at dksX9_fits_4 11 rfl rfl)
theorem dX9_fits_101 : decode cX9_fits 101 = .ok (.iaload, 1) := dk_46 (dk_at dksX9_fits_4 12 rfl rfl)
theorem dX9_fits_102 : decode cX9_fits 102 = .ok (.iconst 1, 1) := dk_4 (dk_at dksX9_fits_4 13 rfl rfl)
theorem dX9_fits_103 : decode cX9_fits 103 = .ok (.if_icmp .ne 18, 3) := dk_160 0 18 (dk_at dksX9_fits_4 14 rfl rfl)
theorem dX9_fits_106 : decode cX9_fits 106 = .ok (.aload_n 0, 1) := dk_42 (dk_at dksX9_fits_4 17 rfl rfl)
theorem dX9_fits_107 : decode cX9_fits 107 = .ok (.aload_n 0, 1) := dk_42 (dk_at dksX9_fits_4 18 rfl rfl)
theorem dX9_fits_108 : decode cX9_fits 108 = .ok (.getfield 7, 3) := dk_180 0 7 (dk_at dksX9_fits_4 19 rfl rfl)
theorem dX9_fits_111 : decode cX9_fits 111 = .ok (.iload 4, 2) := dk_21 4 (dk_at dksX9_fits_4 22 rfl rfl)
theorem dX9_fits_113 : decode cX9_fits 113 = .ok (.iaload, 1) := dk_46 (dk_at dksX9_fits_5 0 rfl rfl)
theorem dX9_fits_114 : decode cX9_fits 114 = .ok (.iconst 0, 1) := dk_3 (dk_at dksX9_fits_5 1 rfl rfl)
theorem dX9_fits_115 : decode cX9_fits 115 = .ok (.invokevirtual 250, 3) := dk_182 0 250 (dk_at dksX9_fits_5 2 rfl rfl)
theorem dX9_fits_118 : decode cX9_fits 118 = .ok (.goto 17, 3) := dk_167 0 17 (dk_at dksX9_fits_5 5 rfl rfl)
theorem dX9_fits_121 : decode cX9_fits 121 = .ok (.aload_n 0, 1) := dk_42 (dk_at dksX9_fits_5 8 rfl rfl)
theorem dX9_fits_122 : decode cX9_fits 122 = .ok (.aload_n 0, 1) := dk_42 (dk_at dksX9_fits_5 9 rfl rfl)
theorem dX9_fits_123 : decode cX9_fits 123 = .ok (.getfield 7, 3) := dk_180 0 7 (dk_at dksX9_fits_5 10 rfl rfl)
theorem dX9_fits_126 : decode cX9_fits 126 = .ok (.iload 4, 2) := dk_21 4 (dk_at dksX9_fits_5 13 rfl rfl)
theorem dX9_fits_128 : decode cX9_fits 128 = .ok (.iaload, 1) := dk_46 (dk_at dksX9_fits_5 15 rfl rfl)
theorem dX9_fits_129 : decode cX9_fits 129 = .ok (.iconst 0, 1) := dk_3 (dk_at dksX9_fits_5 16 rfl rfl)
theorem dX9_fits_130 : decode cX9_fits 130 = .ok (.invokevirtual 250, 3) := dk_182 0 250 (dk_at dksX9_fits_5 17 rfl rfl)
theorem dX9_fits_133 : decode cX9_fits 133 = .ok (.iconst (-1), 1) := dk_2 (dk_at dksX9_fits_5 20 rfl rfl)
theorem dX9_fits_134 : decode cX9_fits 134 = .ok (.ixor, 1) := dk_130 (dk_at dksX9_fits_5 21 rfl rfl)
theorem dX9_fits_135 : decode cX9_fits 135 = .ok (.iand, 1) := dk_126 (dk_at dksX9_fits_5 22 rfl rfl)
theorem dX9_fits_136 : decode cX9_fits 136 = .ok (.istore_n 3, 1) := dk_62 (dk_at dksX9_fits_5 23 rfl rfl)
theorem dX9_fits_137 : decode cX9_fits 137 = .ok (.iinc 4 2, 3) := dk_132 4 2 (dk_at dksX9_fits_6 0 rfl rfl)
theorem dX9_fits_140 : decode cX9_fits 140 = .ok (.goto (-54), 3) := dk_167 255 202 (dk_at dksX9_fits_6 3 rfl rfl)
theorem dX9_fits_143 : decode cX9_fits 143 = .ok (.iload_n 3, 1) := dk_29 (dk_at dksX9_fits_6 6 rfl rfl)
theorem dX9_fits_144 : decode cX9_fits 144 = .ok (.ifCond .ne 5, 3) := dk_154 0 5 (dk_at dksX9_fits_6 7 rfl rfl)
theorem dX9_fits_147 : decode cX9_fits 147 = .ok (.iconst 0, 1) := dk_3 (dk_at dksX9_fits_6 10 rfl rfl)
theorem dX9_fits_148 : decode cX9_fits 148 = .ok (.ireturn, 1) := dk_172 (dk_at dksX9_fits_6 11 rfl rfl)
theorem dX9_fits_149 : decode cX9_fits 149 = .ok (.ldc_w 305, 3) := dk_19 1 49 (dk_at dksX9_fits_6 12 rfl rfl)
theorem dX9_fits_152 : decode cX9_fits 152 = .ok (.istore 4, 2) := dk_54 4 (dk_at dksX9_fits_6 15 rfl rfl)
theorem dX9_fits_154 : decode cX9_fits 154 = .ok (.iconst 0, 1) := dk_3 (dk_at dksX9_fits_6 17 rfl rfl)
theorem dX9_fits_155 : decode cX9_fits 155 = .ok (.istore 5, 2) := dk_54 5 (dk_at dksX9_fits_6 18 rfl rfl)
theorem dX9_fits_157 : decode cX9_fits 157 = .ok (.iload 5, 2) := dk_21 5 (dk_at dksX9_fits_6 20 rfl rfl)
theorem dX9_fits_159 : decode cX9_fits 159 = .ok (.aload_n 0, 1) := dk_42 (dk_at dksX9_fits_6 22 rfl rfl)
theorem dX9_fits_160 : decode cX9_fits 160 = .ok (.getfield 98, 3) := dk_180 0 98 (dk_at dksX9_fits_7 0 rfl rfl)
theorem dX9_fits_163 : decode cX9_fits 163 = .ok (.iconst 1, 1) := dk_4 (dk_at dksX9_fits_7 3 rfl rfl)
theorem dX9_fits_164 : decode cX9_fits 164 = .ok (.iaload, 1) := dk_46 (dk_at dksX9_fits_7 4 rfl rfl)
theorem dX9_fits_165 : decode cX9_fits 165 = .ok (.if_icmp .ge 53, 3) := dk_162 0 53 (dk_at dksX9_fits_7 5 rfl rfl)
theorem dX9_fits_168 : decode cX9_fits 168 = .ok (.iconst 2, 1) := dk_5 (dk_at dksX9_fits_7 8 rfl rfl)
theorem dX9_fits_169 : decode cX9_fits 169 = .ok (.iload_n 3, 1) := dk_29 (dk_at dksX9_fits_7 9 rfl rfl)
theorem dX9_fits_170 : decode cX9_fits 170 = .ok (.aload_n 0, 1) := dk_42 (dk_at dksX9_fits_7 10 rfl rfl)
theorem dX9_fits_171 : decode cX9_fits 171 = .ok (.iload 5, 2) := dk_21 5 (dk_at dksX9_fits_7 11 rfl rfl)
theorem dX9_fits_173 : decode cX9_fits 173 = .ok (.iconst 0, 1) := dk_3 (dk_at dksX9_fits_7 13 rfl rfl)
theorem dX9_fits_174 : decode cX9_fits 174 = .ok (.invokevirtual 250, 3) := dk_182 0 250 (dk_at dksX9_fits_7 14 rfl rfl)
theorem dX9_fits_177 : decode cX9_fits 177 = .ok (.iand, 1) := dk_126 (dk_at dksX9_fits_7 17 rfl rfl)
theorem dX9_fits_178 : decode cX9_fits 178 = .ok (.invokestatic 238, 3) := dk_184 0 238 (dk_at dksX9_fits_7 18 rfl rfl)
theorem dX9_fits_181 : decode cX9_fits 181 = .ok (.imul, 1) := dk_104 (dk_at dksX9_fits_7 21 rfl rfl)
theorem dX9_fits_182 : decode cX9_fits 182 = .ok (.iload_n 3, 1) := dk_29 (dk_at dksX9_fits_7 22 rfl rfl)
theorem dX9_fits_183 : decode cX9_fits 183 = .ok (.invokestatic 238, 3) := dk_184 0 238 (dk_at dksX9_fits_8 0 rfl rfl)
theorem dX9_fits_186 : decode cX9_fits 186 = .ok (.isub, 1) := dk_100 (dk_at dksX9_fits_8 3 rfl rfl)
theorem dX9_fits_187 : decode cX9_fits 187 = .ok (.invokestatic 306, 3) := dk_184 1 50 (dk_at dksX9_fits_8 4 rfl rfl)
theorem dX9_fits_190 : decode cX9_fits 190 = .ok (.istore 6, 2) := dk_54 6 (dk_at dksX9_fits_8 7 rfl rfl)
theorem dX9_fits_192 : decode cX9_fits 192 = .ok (.iload 6, 2) := dk_21 6 (dk_at dksX9_fits_8 9 rfl rfl)
theorem dX9_fits_194 : decode cX9_fits 194 = .ok (.iload 4, 2) := dk_21 4 (dk_at dksX9_fits_8 11 rfl rfl)
theorem dX9_fits_196 : decode cX9_fits 196 = .ok (.if_icmp .lt 6, 3) := dk_161 0 6 (dk_at dksX9_fits_8 13 rfl rfl)
theorem dX9_fits_199 : decode cX9_fits 199 = .ok (.goto 13, 3) := dk_167 0 13 (dk_at dksX9_fits_8 16 rfl rfl)
theorem dX9_fits_202 : decode cX9_fits 202 = .ok (.iload 6, 2) := dk_21 6 (dk_at dksX9_fits_8 19 rfl rfl)
theorem dX9_fits_204 : decode cX9_fits 204 = .ok (.istore 4, 2) := dk_54 4 (dk_at dksX9_fits_8 21 rfl rfl)
theorem dX9_fits_206 : decode cX9_fits 206 = .ok (.aload_n 0, 1) := dk_42 (dk_at dksX9_fits_8 23 rfl rfl)
theorem dX9_fits_207 : decode cX9_fits 207 = .ok (.iload 5, 2) := dk_21 5 (dk_at dksX9_fits_9 0 rfl rfl)
theorem dX9_fits_209 : decode cX9_fits 209 = .ok (.putfield 130, 3) := dk_181 0 130 (dk_at dksX9_fits_9 2 rfl rfl)
theorem dX9_fits_212 : decode cX9_fits 212 = .ok (.iinc 5 1, 3) := dk_132 5 1 (dk_at dksX9_fits_9 5 rfl rfl)
theorem dX9_fits_215 : decode cX9_fits 215 = .ok (.goto (-58), 3) := dk_167 255 198 (dk_at dksX9_fits_9 8 rfl rfl)
theorem dX9_fits_218 : decode cX9_fits 218 = .ok (.iload_n 3, 1) := dk_29 (dk_at dksX9_fits_9 11 rfl rfl)
theorem dX9_fits_219 : decode cX9_fits 219 = .ok (.ireturn, 1) := dk_172 (dk_at dksX9_fits_9 12 rfl rfl)
abbrev cX9_size : ByteArray := prog_22_method_11_code
def yX9_size : MethodName := ⟨RX9, "size", "(I)I"⟩
def dkwX9_size_0 : List UInt8 := [26, 156, 0, 8, 26, 116, 167, 0, 4, 26, 172]
abbrev dktX9_size_0 : List UInt8 := dkwX9_size_0 ++ []
theorem dksX9_size_0 : cX9_size.data.toList.drop 0 = dktX9_size_0 := by decide +kernel
theorem dX9_size_0 : decode cX9_size 0 = .ok (.iload_n 0, 1) := dk_26 (dk_at dksX9_size_0 0 rfl rfl)
theorem dX9_size_1 : decode cX9_size 1 = .ok (.ifCond .ge 8, 3) := dk_156 0 8 (dk_at dksX9_size_0 1 rfl rfl)
theorem dX9_size_4 : decode cX9_size 4 = .ok (.iload_n 0, 1) := dk_26 (dk_at dksX9_size_0 4 rfl rfl)
theorem dX9_size_5 : decode cX9_size 5 = .ok (.ineg, 1) := dk_116 (dk_at dksX9_size_0 5 rfl rfl)
theorem dX9_size_6 : decode cX9_size 6 = .ok (.goto 4, 3) := dk_167 0 4 (dk_at dksX9_size_0 6 rfl rfl)
theorem dX9_size_9 : decode cX9_size 9 = .ok (.iload_n 0, 1) := dk_26 (dk_at dksX9_size_0 9 rfl rfl)
theorem dX9_size_10 : decode cX9_size 10 = .ok (.ireturn, 1) := dk_172 (dk_at dksX9_size_0 10 rfl rfl)
abbrev cX9_ask : ByteArray := prog_22_method_80_code
def yX9_ask : MethodName := ⟨RX9, "ask", "()I"⟩
def dkwX9_ask_0 : List UInt8 := [42, 3, 181, 0, 1, 42, 180, 0, 130, 172]
abbrev dktX9_ask_0 : List UInt8 := dkwX9_ask_0 ++ []
theorem dksX9_ask_0 : cX9_ask.data.toList.drop 0 = dktX9_ask_0 := by decide +kernel
theorem dX9_ask_0 : decode cX9_ask 0 = .ok (.aload_n 0, 1) := dk_42 (dk_at dksX9_ask_0 0 rfl rfl)
theorem dX9_ask_1 : decode cX9_ask 1 = .ok (.iconst 0, 1) := dk_3 (dk_at dksX9_ask_0 1 rfl rfl)
theorem dX9_ask_2 : decode cX9_ask 2 = .ok (.putfield 1, 3) := dk_181 0 1 (dk_at dksX9_ask_0 2 rfl rfl)
theorem dX9_ask_5 : decode cX9_ask 5 = .ok (.aload_n 0, 1) := dk_42 (dk_at dksX9_ask_0 5 rfl rfl)
theorem dX9_ask_6 : decode cX9_ask 6 = .ok (.getfield 130, 3) := dk_180 0 130 (dk_at dksX9_ask_0 6 rfl rfl)
theorem dX9_ask_9 : decode cX9_ask 9 = .ok (.ireturn, 1) := dk_172 (dk_at dksX9_ask_0 9 rfl rfl)
abbrev cX9_cover : ByteArray := prog_22_method_82_code
def yX9_cover : MethodName := ⟨RX9, "cover", "()I"⟩
def dkwX9_cover_2 : List UInt8 := [132, 3, 255, 167, 255, 227, 42, 28, 181, 0, 133, 28, 184, 0, 238, 172]
abbrev dktX9_cover_2 : List UInt8 := dkwX9_cover_2 ++ []
def dkwX9_cover_1 : List UInt8 := [42, 29, 182, 1, 52, 27, 160, 0, 16, 29, 184, 0, 238, 28, 184, 0, 238, 163, 0, 5, 29, 61]
abbrev dktX9_cover_1 : List UInt8 := dkwX9_cover_1 ++ dktX9_cover_2
def dkwX9_cover_0 : List UInt8 := [42, 3, 181, 0, 1, 4, 42, 180, 0, 98, 3, 46, 120, 4, 100, 60, 27, 61, 27, 62, 29, 155, 0, 31]
abbrev dktX9_cover_0 : List UInt8 := dkwX9_cover_0 ++ dktX9_cover_1
theorem dksX9_cover_0 : cX9_cover.data.toList.drop 0 = dktX9_cover_0 := by decide +kernel
theorem dksX9_cover_1 : cX9_cover.data.toList.drop 24 = dktX9_cover_1 := dk_seg dksX9_cover_0 24 rfl rfl
theorem dksX9_cover_2 : cX9_cover.data.toList.drop 46 = dktX9_cover_2 := dk_seg dksX9_cover_1 22 rfl rfl
theorem dX9_cover_0 : decode cX9_cover 0 = .ok (.aload_n 0, 1) := dk_42 (dk_at dksX9_cover_0 0 rfl rfl)
theorem dX9_cover_1 : decode cX9_cover 1 = .ok (.iconst 0, 1) := dk_3 (dk_at dksX9_cover_0 1 rfl rfl)
theorem dX9_cover_2 : decode cX9_cover 2 = .ok (.putfield 1, 3) := dk_181 0 1 (dk_at dksX9_cover_0 2 rfl rfl)
theorem dX9_cover_5 : decode cX9_cover 5 = .ok (.iconst 1, 1) := dk_4 (dk_at dksX9_cover_0 5 rfl rfl)
theorem dX9_cover_6 : decode cX9_cover 6 = .ok (.aload_n 0, 1) := dk_42 (dk_at dksX9_cover_0 6 rfl rfl)
theorem dX9_cover_7 : decode cX9_cover 7 = .ok (.getfield 98, 3) := dk_180 0 98 (dk_at dksX9_cover_0 7 rfl rfl)
theorem dX9_cover_10 : decode cX9_cover 10 = .ok (.iconst 0, 1) := dk_3 (dk_at dksX9_cover_0 10 rfl rfl)
theorem dX9_cover_11 : decode cX9_cover 11 = .ok (.iaload, 1) := dk_46 (dk_at dksX9_cover_0 11 rfl rfl)
theorem dX9_cover_12 : decode cX9_cover 12 = .ok (.ishl, 1) := dk_120 (dk_at dksX9_cover_0 12 rfl rfl)
theorem dX9_cover_13 : decode cX9_cover 13 = .ok (.iconst 1, 1) := dk_4 (dk_at dksX9_cover_0 13 rfl rfl)
theorem dX9_cover_14 : decode cX9_cover 14 = .ok (.isub, 1) := dk_100 (dk_at dksX9_cover_0 14 rfl rfl)
theorem dX9_cover_15 : decode cX9_cover 15 = .ok (.istore_n 1, 1) := dk_60 (dk_at dksX9_cover_0 15 rfl rfl)
theorem dX9_cover_16 : decode cX9_cover 16 = .ok (.iload_n 1, 1) := dk_27 (dk_at dksX9_cover_0 16 rfl rfl)
theorem dX9_cover_17 : decode cX9_cover 17 = .ok (.istore_n 2, 1) := dk_61 (dk_at dksX9_cover_0 17 rfl rfl)
theorem dX9_cover_18 : decode cX9_cover 18 = .ok (.iload_n 1, 1) := dk_27 (dk_at dksX9_cover_0 18 rfl rfl)
theorem dX9_cover_19 : decode cX9_cover 19 = .ok (.istore_n 3, 1) := dk_62 (dk_at dksX9_cover_0 19 rfl rfl)
theorem dX9_cover_20 : decode cX9_cover 20 = .ok (.iload_n 3, 1) := dk_29 (dk_at dksX9_cover_0 20 rfl rfl)
theorem dX9_cover_21 : decode cX9_cover 21 = .ok (.ifCond .lt 31, 3) := dk_155 0 31 (dk_at dksX9_cover_0 21 rfl rfl)
theorem dX9_cover_24 : decode cX9_cover 24 = .ok (.aload_n 0, 1) := dk_42 (dk_at dksX9_cover_1 0 rfl rfl)
theorem dX9_cover_25 : decode cX9_cover 25 = .ok (.iload_n 3, 1) := dk_29 (dk_at dksX9_cover_1 1 rfl rfl)
theorem dX9_cover_26 : decode cX9_cover 26 = .ok (.invokevirtual 308, 3) := dk_182 1 52 (dk_at dksX9_cover_1 2 rfl rfl)
theorem dX9_cover_29 : decode cX9_cover 29 = .ok (.iload_n 1, 1) := dk_27 (dk_at dksX9_cover_1 5 rfl rfl)
theorem dX9_cover_30 : decode cX9_cover 30 = .ok (.if_icmp .ne 16, 3) := dk_160 0 16 (dk_at dksX9_cover_1 6 rfl rfl)
theorem dX9_cover_33 : decode cX9_cover 33 = .ok (.iload_n 3, 1) := dk_29 (dk_at dksX9_cover_1 9 rfl rfl)
theorem dX9_cover_34 : decode cX9_cover 34 = .ok (.invokestatic 238, 3) := dk_184 0 238 (dk_at dksX9_cover_1 10 rfl rfl)
theorem dX9_cover_37 : decode cX9_cover 37 = .ok (.iload_n 2, 1) := dk_28 (dk_at dksX9_cover_1 13 rfl rfl)
theorem dX9_cover_38 : decode cX9_cover 38 = .ok (.invokestatic 238, 3) := dk_184 0 238 (dk_at dksX9_cover_1 14 rfl rfl)
theorem dX9_cover_41 : decode cX9_cover 41 = .ok (.if_icmp .gt 5, 3) := dk_163 0 5 (dk_at dksX9_cover_1 17 rfl rfl)
theorem dX9_cover_44 : decode cX9_cover 44 = .ok (.iload_n 3, 1) := dk_29 (dk_at dksX9_cover_1 20 rfl rfl)
theorem dX9_cover_45 : decode cX9_cover 45 = .ok (.istore_n 2, 1) := dk_61 (dk_at dksX9_cover_1 21 rfl rfl)
theorem dX9_cover_46 : decode cX9_cover 46 = .ok (.iinc 3 (-1), 3) := dk_132 3 255 (dk_at dksX9_cover_2 0 rfl rfl)
theorem dX9_cover_49 : decode cX9_cover 49 = .ok (.goto (-29), 3) := dk_167 255 227 (dk_at dksX9_cover_2 3 rfl rfl)
theorem dX9_cover_52 : decode cX9_cover 52 = .ok (.aload_n 0, 1) := dk_42 (dk_at dksX9_cover_2 6 rfl rfl)
theorem dX9_cover_53 : decode cX9_cover 53 = .ok (.iload_n 2, 1) := dk_28 (dk_at dksX9_cover_2 7 rfl rfl)
theorem dX9_cover_54 : decode cX9_cover 54 = .ok (.putfield 133, 3) := dk_181 0 133 (dk_at dksX9_cover_2 8 rfl rfl)
theorem dX9_cover_57 : decode cX9_cover 57 = .ok (.iload_n 2, 1) := dk_28 (dk_at dksX9_cover_2 11 rfl rfl)
theorem dX9_cover_58 : decode cX9_cover 58 = .ok (.invokestatic 238, 3) := dk_184 0 238 (dk_at dksX9_cover_2 12 rfl rfl)
theorem dX9_cover_61 : decode cX9_cover 61 = .ok (.ireturn, 1) := dk_172 (dk_at dksX9_cover_2 15 rfl rfl)
abbrev cX9_seenFrom : ByteArray := prog_22_method_81_code
def yX9_seenFrom : MethodName := ⟨RX9, "seenFrom", "(I)I"⟩
def dkwX9_seenFrom_1 : List UInt8 := [61, 132, 3, 1, 167, 255, 232, 28, 172]
abbrev dktX9_seenFrom_1 : List UInt8 := dkwX9_seenFrom_1 ++ []
def dkwX9_seenFrom_0 : List UInt8 := [3, 61, 3, 62, 29, 8, 162, 0, 25, 27, 29, 184, 0, 181, 153, 0, 11, 28, 42, 29, 182, 0, 221, 128]
abbrev dktX9_seenFrom_0 : List UInt8 := dkwX9_seenFrom_0 ++ dktX9_seenFrom_1
theorem dksX9_seenFrom_0 : cX9_seenFrom.data.toList.drop 0 = dktX9_seenFrom_0 := by decide +kernel
theorem dksX9_seenFrom_1 : cX9_seenFrom.data.toList.drop 24 = dktX9_seenFrom_1 := dk_seg dksX9_seenFrom_0 24 rfl rfl
theorem dX9_seenFrom_0 : decode cX9_seenFrom 0 = .ok (.iconst 0, 1) := dk_3 (dk_at dksX9_seenFrom_0 0 rfl rfl)
theorem dX9_seenFrom_1 : decode cX9_seenFrom 1 = .ok (.istore_n 2, 1) := dk_61 (dk_at dksX9_seenFrom_0 1 rfl rfl)
theorem dX9_seenFrom_2 : decode cX9_seenFrom 2 = .ok (.iconst 0, 1) := dk_3 (dk_at dksX9_seenFrom_0 2 rfl rfl)
theorem dX9_seenFrom_3 : decode cX9_seenFrom 3 = .ok (.istore_n 3, 1) := dk_62 (dk_at dksX9_seenFrom_0 3 rfl rfl)
theorem dX9_seenFrom_4 : decode cX9_seenFrom 4 = .ok (.iload_n 3, 1) := dk_29 (dk_at dksX9_seenFrom_0 4 rfl rfl)
theorem dX9_seenFrom_5 : decode cX9_seenFrom 5 = .ok (.iconst 5, 1) := dk_8 (dk_at dksX9_seenFrom_0 5 rfl rfl)
theorem dX9_seenFrom_6 : decode cX9_seenFrom 6 = .ok (.if_icmp .ge 25, 3) := dk_162 0 25 (dk_at dksX9_seenFrom_0 6 rfl rfl)
theorem dX9_seenFrom_9 : decode cX9_seenFrom 9 = .ok (.iload_n 1, 1) := dk_27 (dk_at dksX9_seenFrom_0 9 rfl rfl)
theorem dX9_seenFrom_10 : decode cX9_seenFrom 10 = .ok (.iload_n 3, 1) := dk_29 (dk_at dksX9_seenFrom_0 10 rfl rfl)
theorem dX9_seenFrom_11 : decode cX9_seenFrom 11 = .ok (.invokestatic 181, 3) := dk_184 0 181 (dk_at dksX9_seenFrom_0 11 rfl rfl)
theorem dX9_seenFrom_14 : decode cX9_seenFrom 14 = .ok (.ifCond .eq 11, 3) := dk_153 0 11 (dk_at dksX9_seenFrom_0 14 rfl rfl)
theorem dX9_seenFrom_17 : decode cX9_seenFrom 17 = .ok (.iload_n 2, 1) := dk_28 (dk_at dksX9_seenFrom_0 17 rfl rfl)
theorem dX9_seenFrom_18 : decode cX9_seenFrom 18 = .ok (.aload_n 0, 1) := dk_42 (dk_at dksX9_seenFrom_0 18 rfl rfl)
theorem dX9_seenFrom_19 : decode cX9_seenFrom 19 = .ok (.iload_n 3, 1) := dk_29 (dk_at dksX9_seenFrom_0 19 rfl rfl)
theorem dX9_seenFrom_20 : decode cX9_seenFrom 20 = .ok (.invokevirtual 221, 3) := dk_182 0 221 (dk_at dksX9_seenFrom_0 20 rfl rfl)
theorem dX9_seenFrom_23 : decode cX9_seenFrom 23 = .ok (.ior, 1) := dk_128 (dk_at dksX9_seenFrom_0 23 rfl rfl)
theorem dX9_seenFrom_24 : decode cX9_seenFrom 24 = .ok (.istore_n 2, 1) := dk_61 (dk_at dksX9_seenFrom_1 0 rfl rfl)
theorem dX9_seenFrom_25 : decode cX9_seenFrom 25 = .ok (.iinc 3 1, 3) := dk_132 3 1 (dk_at dksX9_seenFrom_1 1 rfl rfl)
theorem dX9_seenFrom_28 : decode cX9_seenFrom 28 = .ok (.goto (-24), 3) := dk_167 255 232 (dk_at dksX9_seenFrom_1 4 rfl rfl)
theorem dX9_seenFrom_31 : decode cX9_seenFrom 31 = .ok (.iload_n 2, 1) := dk_28 (dk_at dksX9_seenFrom_1 7 rfl rfl)
theorem dX9_seenFrom_32 : decode cX9_seenFrom 32 = .ok (.ireturn, 1) := dk_172 (dk_at dksX9_seenFrom_1 8 rfl rfl)
abbrev cX9_covering : ByteArray := prog_22_method_83_code
def yX9_covering : MethodName := ⟨RX9, "covering", "()I"⟩
def dkwX9_covering_0 : List UInt8 := [42, 3, 181, 0, 1, 42, 180, 0, 133, 172]
abbrev dktX9_covering_0 : List UInt8 := dkwX9_covering_0 ++ []
theorem dksX9_covering_0 : cX9_covering.data.toList.drop 0 = dktX9_covering_0 := by decide +kernel
theorem dX9_covering_0 : decode cX9_covering 0 = .ok (.aload_n 0, 1) := dk_42 (dk_at dksX9_covering_0 0 rfl rfl)
theorem dX9_covering_1 : decode cX9_covering 1 = .ok (.iconst 0, 1) := dk_3 (dk_at dksX9_covering_0 1 rfl rfl)
theorem dX9_covering_2 : decode cX9_covering 2 = .ok (.putfield 1, 3) := dk_181 0 1 (dk_at dksX9_covering_0 2 rfl rfl)
theorem dX9_covering_5 : decode cX9_covering 5 = .ok (.aload_n 0, 1) := dk_42 (dk_at dksX9_covering_0 5 rfl rfl)
theorem dX9_covering_6 : decode cX9_covering 6 = .ok (.getfield 133, 3) := dk_180 0 133 (dk_at dksX9_covering_0 6 rfl rfl)
theorem dX9_covering_9 : decode cX9_covering 9 = .ok (.ireturn, 1) := dk_172 (dk_at dksX9_covering_0 9 rfl rfl)
abbrev cX9_round : ByteArray := prog_22_method_86_code
def yX9_round : MethodName := ⟨RX9, "round", "(I)I"⟩
def dkwX9_round_8 : List UInt8 := [42, 29, 181, 1, 61, 29, 172]
abbrev dktX9_round_8 : List UInt8 := dkwX9_round_8 ++ []
def dkwX9_round_7 : List UInt8 := [21, 5, 21, 6, 79, 28, 4, 21, 6, 120, 2, 130, 126, 61, 21, 6, 54, 4, 132, 5, 1, 167, 255, 171]
abbrev dktX9_round_7 : List UInt8 := dkwX9_round_7 ++ dktX9_round_8
def dkwX9_round_6 : List UInt8 := [184, 1, 55, 46, 29, 21, 5, 100, 4, 100, 159, 0, 9, 132, 6, 1, 167, 255, 208, 42, 180, 0, 139]
abbrev dktX9_round_6 : List UInt8 := dkwX9_round_6 ++ dktX9_round_7
def dkwX9_round_5 : List UInt8 := [21, 6, 184, 0, 181, 153, 0, 30, 42, 180, 0, 136, 21, 6, 28, 4, 21, 6, 120, 2, 130, 126]
abbrev dktX9_round_5 : List UInt8 := dkwX9_round_5 ++ dktX9_round_6
def dkwX9_round_4 : List UInt8 := [54, 4, 3, 54, 5, 21, 5, 29, 162, 0, 85, 3, 54, 6, 42, 180, 0, 98, 16, 6, 21, 4, 96, 46]
abbrev dktX9_round_4 : List UInt8 := dkwX9_round_4 ++ dktX9_round_5
def dkwX9_round_3 : List UInt8 := [182, 1, 58, 42, 180, 0, 136, 27, 28, 184, 1, 55, 46, 62, 29, 19, 1, 49, 161, 0, 5, 2, 172, 27]
abbrev dktX9_round_3 : List UInt8 := dkwX9_round_3 ++ dktX9_round_4
def dkwX9_round_2 : List UInt8 := [16, 26, 29, 96, 46, 120, 128, 61, 132, 3, 1, 167, 255, 217, 28, 4, 27, 120, 2, 130, 126, 61, 42]
abbrev dktX9_round_2 : List UInt8 := dkwX9_round_2 ++ dktX9_round_3
def dkwX9_round_1 : List UInt8 := [4, 46, 162, 0, 35, 42, 180, 0, 98, 16, 32, 29, 96, 46, 158, 0, 17, 28, 4, 42, 180, 0, 98]
abbrev dktX9_round_1 : List UInt8 := dkwX9_round_1 ++ dktX9_round_2
def dkwX9_round_0 : List UInt8 := [42, 3, 181, 0, 1, 42, 27, 182, 1, 3, 154, 0, 5, 2, 172, 3, 61, 3, 62, 29, 42, 180, 0, 98]
abbrev dktX9_round_0 : List UInt8 := dkwX9_round_0 ++ dktX9_round_1
theorem dksX9_round_0 : cX9_round.data.toList.drop 0 = dktX9_round_0 := by decide +kernel
theorem dksX9_round_1 : cX9_round.data.toList.drop 24 = dktX9_round_1 := dk_seg dksX9_round_0 24 rfl rfl
theorem dksX9_round_2 : cX9_round.data.toList.drop 47 = dktX9_round_2 := dk_seg dksX9_round_1 23 rfl rfl
theorem dksX9_round_3 : cX9_round.data.toList.drop 70 = dktX9_round_3 := dk_seg dksX9_round_2 23 rfl rfl
theorem dksX9_round_4 : cX9_round.data.toList.drop 94 = dktX9_round_4 := dk_seg dksX9_round_3 24 rfl rfl
theorem dksX9_round_5 : cX9_round.data.toList.drop 118 = dktX9_round_5 := dk_seg dksX9_round_4 24 rfl rfl
theorem dksX9_round_6 : cX9_round.data.toList.drop 140 = dktX9_round_6 := dk_seg dksX9_round_5 22 rfl rfl
theorem dksX9_round_7 : cX9_round.data.toList.drop 163 = dktX9_round_7 := dk_seg dksX9_round_6 23 rfl rfl
theorem dksX9_round_8 : cX9_round.data.toList.drop 187 = dktX9_round_8 := dk_seg dksX9_round_7 24 rfl rfl
theorem dX9_round_0 : decode cX9_round 0 = .ok (.aload_n 0, 1) := dk_42 (dk_at dksX9_round_0 0 rfl rfl)
theorem dX9_round_1 : decode cX9_round 1 = .ok (.iconst 0, 1) := dk_3 (dk_at dksX9_round_0 1 rfl rfl)
theorem dX9_round_2 : decode cX9_round 2 = .ok (.putfield 1, 3) := dk_181 0 1 (dk_at dksX9_round_0 2 rfl rfl)
theorem dX9_round_5 : decode cX9_round 5 = .ok (.aload_n 0, 1) := dk_42 (dk_at dksX9_round_0 5 rfl rfl)
theorem dX9_round_6 : decode cX9_round 6 = .ok (.iload_n 1, 1) := dk_27 (dk_at dksX9_round_0 6 rfl rfl)
theorem dX9_round_7 : decode cX9_round 7 = .ok (.invokevirtual 259, 3) := dk_182 1 3 (dk_at dksX9_round_0 7 rfl rfl)
theorem dX9_round_10 : decode cX9_round 10 = .ok (.ifCond .ne 5, 3) := dk_154 0 5 (dk_at dksX9_round_0 10 rfl rfl)
theorem dX9_round_13 : decode cX9_round 13 = .ok (.iconst (-1), 1) := dk_2 (dk_at dksX9_round_0 13 rfl rfl)
theorem dX9_round_14 : decode cX9_round 14 = .ok (.ireturn, 1) := dk_172 (dk_at dksX9_round_0 14 rfl rfl)
theorem dX9_round_15 : decode cX9_round 15 = .ok (.iconst 0, 1) := dk_3 (dk_at dksX9_round_0 15 rfl rfl)
theorem dX9_round_16 : decode cX9_round 16 = .ok (.istore_n 2, 1) := dk_61 (dk_at dksX9_round_0 16 rfl rfl)
theorem dX9_round_17 : decode cX9_round 17 = .ok (.iconst 0, 1) := dk_3 (dk_at dksX9_round_0 17 rfl rfl)
theorem dX9_round_18 : decode cX9_round 18 = .ok (.istore_n 3, 1) := dk_62 (dk_at dksX9_round_0 18 rfl rfl)
theorem dX9_round_19 : decode cX9_round 19 = .ok (.iload_n 3, 1) := dk_29 (dk_at dksX9_round_0 19 rfl rfl)
theorem dX9_round_20 : decode cX9_round 20 = .ok (.aload_n 0, 1) := dk_42 (dk_at dksX9_round_0 20 rfl rfl)
theorem dX9_round_21 : decode cX9_round 21 = .ok (.getfield 98, 3) := dk_180 0 98 (dk_at dksX9_round_0 21 rfl rfl)
theorem dX9_round_24 : decode cX9_round 24 = .ok (.iconst 1, 1) := dk_4 (dk_at dksX9_round_1 0 rfl rfl)
theorem dX9_round_25 : decode cX9_round 25 = .ok (.iaload, 1) := dk_46 (dk_at dksX9_round_1 1 rfl rfl)
theorem dX9_round_26 : decode cX9_round 26 = .ok (.if_icmp .ge 35, 3) := dk_162 0 35 (dk_at dksX9_round_1 2 rfl rfl)
theorem dX9_round_29 : decode cX9_round 29 = .ok (.aload_n 0, 1) := dk_42 (dk_at dksX9_round_1 5 rfl rfl)
theorem dX9_round_30 : decode cX9_round 30 = .ok (.getfield 98, 3) := dk_180 0 98 (dk_at dksX9_round_1 6 rfl rfl)
theorem dX9_round_33 : decode cX9_round 33 = .ok (.bipush 32, 2) := dk_16 32 (dk_at dksX9_round_1 9 rfl rfl)
theorem dX9_round_35 : decode cX9_round 35 = .ok (.iload_n 3, 1) := dk_29 (dk_at dksX9_round_1 11 rfl rfl)
theorem dX9_round_36 : decode cX9_round 36 = .ok (.iadd, 1) := dk_96 (dk_at dksX9_round_1 12 rfl rfl)
theorem dX9_round_37 : decode cX9_round 37 = .ok (.iaload, 1) := dk_46 (dk_at dksX9_round_1 13 rfl rfl)
theorem dX9_round_38 : decode cX9_round 38 = .ok (.ifCond .le 17, 3) := dk_158 0 17 (dk_at dksX9_round_1 14 rfl rfl)
theorem dX9_round_41 : decode cX9_round 41 = .ok (.iload_n 2, 1) := dk_28 (dk_at dksX9_round_1 17 rfl rfl)
theorem dX9_round_42 : decode cX9_round 42 = .ok (.iconst 1, 1) := dk_4 (dk_at dksX9_round_1 18 rfl rfl)
theorem dX9_round_43 : decode cX9_round 43 = .ok (.aload_n 0, 1) := dk_42 (dk_at dksX9_round_1 19 rfl rfl)
theorem dX9_round_44 : decode cX9_round 44 = .ok (.getfield 98, 3) := dk_180 0 98 (dk_at dksX9_round_1 20 rfl rfl)
theorem dX9_round_47 : decode cX9_round 47 = .ok (.bipush 26, 2) := dk_16 26 (dk_at dksX9_round_2 0 rfl rfl)
theorem dX9_round_49 : decode cX9_round 49 = .ok (.iload_n 3, 1) := dk_29 (dk_at dksX9_round_2 2 rfl rfl)
theorem dX9_round_50 : decode cX9_round 50 = .ok (.iadd, 1) := dk_96 (dk_at dksX9_round_2 3 rfl rfl)
theorem dX9_round_51 : decode cX9_round 51 = .ok (.iaload, 1) := dk_46 (dk_at dksX9_round_2 4 rfl rfl)
theorem dX9_round_52 : decode cX9_round 52 = .ok (.ishl, 1) := dk_120 (dk_at dksX9_round_2 5 rfl rfl)
theorem dX9_round_53 : decode cX9_round 53 = .ok (.ior, 1) := dk_128 (dk_at dksX9_round_2 6 rfl rfl)
theorem dX9_round_54 : decode cX9_round 54 = .ok (.istore_n 2, 1) := dk_61 (dk_at dksX9_round_2 7 rfl rfl)
theorem dX9_round_55 : decode cX9_round 55 = .ok (.iinc 3 1, 3) := dk_132 3 1 (dk_at dksX9_round_2 8 rfl rfl)
theorem dX9_round_58 : decode cX9_round 58 = .ok (.goto (-39), 3) := dk_167 255 217 (dk_at dksX9_round_2 11 rfl rfl)
theorem dX9_round_61 : decode cX9_round 61 = .ok (.iload_n 2, 1) := dk_28 (dk_at dksX9_round_2 14 rfl rfl)
theorem dX9_round_62 : decode cX9_round 62 = .ok (.iconst 1, 1) := dk_4 (dk_at dksX9_round_2 15 rfl rfl)
theorem dX9_round_63 : decode cX9_round 63 = .ok (.iload_n 1, 1) := dk_27 (dk_at dksX9_round_2 16 rfl rfl)
theorem dX9_round_64 : decode cX9_round 64 = .ok (.ishl, 1) := dk_120 (dk_at dksX9_round_2 17 rfl rfl)
theorem dX9_round_65 : decode cX9_round 65 = .ok (.iconst (-1), 1) := dk_2 (dk_at dksX9_round_2 18 rfl rfl)
theorem dX9_round_66 : decode cX9_round 66 = .ok (.ixor, 1) := dk_130 (dk_at dksX9_round_2 19 rfl rfl)
theorem dX9_round_67 : decode cX9_round 67 = .ok (.iand, 1) := dk_126 (dk_at dksX9_round_2 20 rfl rfl)
theorem dX9_round_68 : decode cX9_round 68 = .ok (.istore_n 2, 1) := dk_61 (dk_at dksX9_round_2 21 rfl rfl)
theorem dX9_round_69 : decode cX9_round 69 = .ok (.aload_n 0, 1) := dk_42 (dk_at dksX9_round_2 22 rfl rfl)
theorem dX9_round_70 : decode cX9_round 70 = .ok (.invokevirtual 314, 3) := dk_182 1 58 (dk_at dksX9_round_3 0 rfl rfl)
theorem dX9_round_73 : decode cX9_round 73 = .ok (.aload_n 0, 1) := dk_42 (dk_at dksX9_round_3 3 rfl rfl)
theorem dX9_round_74 : decode cX9_round 74 = .ok (.getfield 136, 3) := dk_180 0 136 (dk_at dksX9_round_3 4 rfl rfl)
theorem dX9_round_77 : decode cX9_round 77 = .ok (.iload_n 1, 1) := dk_27 (dk_at dksX9_round_3 7 rfl rfl)
theorem dX9_round_78 : decode cX9_round 78 = .ok (.iload_n 2, 1) := dk_28 (dk_at dksX9_round_3 8 rfl rfl)
theorem dX9_round_79 : decode cX9_round 79 = .ok (.invokestatic 311, 3) := dk_184 1 55 (dk_at dksX9_round_3 9 rfl rfl)
theorem dX9_round_82 : decode cX9_round 82 = .ok (.iaload, 1) := dk_46 (dk_at dksX9_round_3 12 rfl rfl)
theorem dX9_round_83 : decode cX9_round 83 = .ok (.istore_n 3, 1) := dk_62 (dk_at dksX9_round_3 13 rfl rfl)
theorem dX9_round_84 : decode cX9_round 84 = .ok (.iload_n 3, 1) := dk_29 (dk_at dksX9_round_3 14 rfl rfl)
theorem dX9_round_85 : decode cX9_round 85 = .ok (.ldc_w 305, 3) := dk_19 1 49 (dk_at dksX9_round_3 15 rfl rfl)
theorem dX9_round_88 : decode cX9_round 88 = .ok (.if_icmp .lt 5, 3) := dk_161 0 5 (dk_at dksX9_round_3 18 rfl rfl)
theorem dX9_round_91 : decode cX9_round 91 = .ok (.iconst (-1), 1) := dk_2 (dk_at dksX9_round_3 21 rfl rfl)
theorem dX9_round_92 : decode cX9_round 92 = .ok (.ireturn, 1) := dk_172 (dk_at dksX9_round_3 22 rfl rfl)
theorem dX9_round_93 : decode cX9_round 93 = .ok (.iload_n 1, 1) := dk_27 (dk_at dksX9_round_3 23 rfl rfl)
theorem dX9_round_94 : decode cX9_round 94 = .ok (.istore 4, 2) := dk_54 4 (dk_at dksX9_round_4 0 rfl rfl)
theorem dX9_round_96 : decode cX9_round 96 = .ok (.iconst 0, 1) := dk_3 (dk_at dksX9_round_4 2 rfl rfl)
theorem dX9_round_97 : decode cX9_round 97 = .ok (.istore 5, 2) := dk_54 5 (dk_at dksX9_round_4 3 rfl rfl)
theorem dX9_round_99 : decode cX9_round 99 = .ok (.iload 5, 2) := dk_21 5 (dk_at dksX9_round_4 5 rfl rfl)
theorem dX9_round_101 : decode cX9_round 101 = .ok (.iload_n 3, 1) := dk_29 (dk_at dksX9_round_4 7 rfl rfl)
theorem dX9_round_102 : decode cX9_round 102 = .ok (.if_icmp .ge 85, 3) := dk_162 0 85 (dk_at dksX9_round_4 8 rfl rfl)
theorem dX9_round_105 : decode cX9_round 105 = .ok (.iconst 0, 1) := dk_3 (dk_at dksX9_round_4 11 rfl rfl)
theorem dX9_round_106 : decode cX9_round 106 = .ok (.istore 6, 2) := dk_54 6 (dk_at dksX9_round_4 12 rfl rfl)
theorem dX9_round_108 : decode cX9_round 108 = .ok (.aload_n 0, 1) := dk_42 (dk_at dksX9_round_4 14 rfl rfl)
theorem dX9_round_109 : decode cX9_round 109 = .ok (.getfield 98, 3) := dk_180 0 98 (dk_at dksX9_round_4 15 rfl rfl)
theorem dX9_round_112 : decode cX9_round 112 = .ok (.bipush 6, 2) := dk_16 6 (dk_at dksX9_round_4 18 rfl rfl)
theorem dX9_round_114 : decode cX9_round 114 = .ok (.iload 4, 2) := dk_21 4 (dk_at dksX9_round_4 20 rfl rfl)
theorem dX9_round_116 : decode cX9_round 116 = .ok (.iadd, 1) := dk_96 (dk_at dksX9_round_4 22 rfl rfl)
theorem dX9_round_117 : decode cX9_round 117 = .ok (.iaload, 1) := dk_46 (dk_at dksX9_round_4 23 rfl rfl)
theorem dX9_round_118 : decode cX9_round 118 = .ok (.iload 6, 2) := dk_21 6 (dk_at dksX9_round_5 0 rfl rfl)
theorem dX9_round_120 : decode cX9_round 120 = .ok (.invokestatic 181, 3) := dk_184 0 181 (dk_at dksX9_round_5 2 rfl rfl)
theorem dX9_round_123 : decode cX9_round 123 = .ok (.ifCond .eq 30, 3) := dk_153 0 30 (dk_at dksX9_round_5 5 rfl rfl)
theorem dX9_round_126 : decode cX9_round 126 = .ok (.aload_n 0, 1) := dk_42 (dk_at dksX9_round_5 8 rfl rfl)
theorem dX9_round_127 : decode cX9_round 127 = .ok (.getfield 136, 3) := dk_180 0 136 (dk_at dksX9_round_5 9 rfl rfl)
theorem dX9_round_130 : decode cX9_round 130 = .ok (.iload 6, 2) := dk_21 6 (dk_at dksX9_round_5 12 rfl rfl)
theorem dX9_round_132 : decode cX9_round 132 = .ok (.iload_n 2, 1) := dk_28 (dk_at dksX9_round_5 14 rfl rfl)
theorem dX9_round_133 : decode cX9_round 133 = .ok (.iconst 1, 1) := dk_4 (dk_at dksX9_round_5 15 rfl rfl)
theorem dX9_round_134 : decode cX9_round 134 = .ok (.iload 6, 2) := dk_21 6 (dk_at dksX9_round_5 16 rfl rfl)
theorem dX9_round_136 : decode cX9_round 136 = .ok (.ishl, 1) := dk_120 (dk_at dksX9_round_5 18 rfl rfl)
theorem dX9_round_137 : decode cX9_round 137 = .ok (.iconst (-1), 1) := dk_2 (dk_at dksX9_round_5 19 rfl rfl)
theorem dX9_round_138 : decode cX9_round 138 = .ok (.ixor, 1) := dk_130 (dk_at dksX9_round_5 20 rfl rfl)
theorem dX9_round_139 : decode cX9_round 139 = .ok (.iand, 1) := dk_126 (dk_at dksX9_round_5 21 rfl rfl)
theorem dX9_round_140 : decode cX9_round 140 = .ok (.invokestatic 311, 3) := dk_184 1 55 (dk_at dksX9_round_6 0 rfl rfl)
theorem dX9_round_143 : decode cX9_round 143 = .ok (.iaload, 1) := dk_46 (dk_at dksX9_round_6 3 rfl rfl)
theorem dX9_round_144 : decode cX9_round 144 = .ok (.iload_n 3, 1) := dk_29 (dk_at dksX9_round_6 4 rfl rfl)
theorem dX9_round_145 : decode cX9_round 145 = .ok (.iload 5, 2) := dk_21 5 (dk_at dksX9_round_6 5 rfl rfl)
theorem dX9_round_147 : decode cX9_round 147 = .ok (.isub, 1) := dk_100 (dk_at dksX9_round_6 7 rfl rfl)
theorem dX9_round_148 : decode cX9_round 148 = .ok (.iconst 1, 1) := dk_4 (dk_at dksX9_round_6 8 rfl rfl)
theorem dX9_round_149 : decode cX9_round 149 = .ok (.isub, 1) := dk_100 (dk_at dksX9_round_6 9 rfl rfl)
theorem dX9_round_150 : decode cX9_round 150 = .ok (.if_icmp .eq 9, 3) := dk_159 0 9 (dk_at dksX9_round_6 10 rfl rfl)
theorem dX9_round_153 : decode cX9_round 153 = .ok (.iinc 6 1, 3) := dk_132 6 1 (dk_at dksX9_round_6 13 rfl rfl)
theorem dX9_round_156 : decode cX9_round 156 = .ok (.goto (-48), 3) := dk_167 255 208 (dk_at dksX9_round_6 16 rfl rfl)
theorem dX9_round_159 : decode cX9_round 159 = .ok (.aload_n 0, 1) := dk_42 (dk_at dksX9_round_6 19 rfl rfl)
theorem dX9_round_160 : decode cX9_round 160 = .ok (.getfield 139, 3) := dk_180 0 139 (dk_at dksX9_round_6 20 rfl rfl)
theorem dX9_round_163 : decode cX9_round 163 = .ok (.iload 5, 2) := dk_21 5 (dk_at dksX9_round_7 0 rfl rfl)
theorem dX9_round_165 : decode cX9_round 165 = .ok (.iload 6, 2) := dk_21 6 (dk_at dksX9_round_7 2 rfl rfl)
theorem dX9_round_167 : decode cX9_round 167 = .ok (.iastore, 1) := dk_79 (dk_at dksX9_round_7 4 rfl rfl)
theorem dX9_round_168 : decode cX9_round 168 = .ok (.iload_n 2, 1) := dk_28 (dk_at dksX9_round_7 5 rfl rfl)
theorem dX9_round_169 : decode cX9_round 169 = .ok (.iconst 1, 1) := dk_4 (dk_at dksX9_round_7 6 rfl rfl)
theorem dX9_round_170 : decode cX9_round 170 = .ok (.iload 6, 2) := dk_21 6 (dk_at dksX9_round_7 7 rfl rfl)
theorem dX9_round_172 : decode cX9_round 172 = .ok (.ishl, 1) := dk_120 (dk_at dksX9_round_7 9 rfl rfl)
theorem dX9_round_173 : decode cX9_round 173 = .ok (.iconst (-1), 1) := dk_2 (dk_at dksX9_round_7 10 rfl rfl)
theorem dX9_round_174 : decode cX9_round 174 = .ok (.ixor, 1) := dk_130 (dk_at dksX9_round_7 11 rfl rfl)
theorem dX9_round_175 : decode cX9_round 175 = .ok (.iand, 1) := dk_126 (dk_at dksX9_round_7 12 rfl rfl)
theorem dX9_round_176 : decode cX9_round 176 = .ok (.istore_n 2, 1) := dk_61 (dk_at dksX9_round_7 13 rfl rfl)
theorem dX9_round_177 : decode cX9_round 177 = .ok (.iload 6, 2) := dk_21 6 (dk_at dksX9_round_7 14 rfl rfl)
theorem dX9_round_179 : decode cX9_round 179 = .ok (.istore 4, 2) := dk_54 4 (dk_at dksX9_round_7 16 rfl rfl)
theorem dX9_round_181 : decode cX9_round 181 = .ok (.iinc 5 1, 3) := dk_132 5 1 (dk_at dksX9_round_7 18 rfl rfl)
theorem dX9_round_184 : decode cX9_round 184 = .ok (.goto (-85), 3) := dk_167 255 171 (dk_at dksX9_round_7 21 rfl rfl)
theorem dX9_round_187 : decode cX9_round 187 = .ok (.aload_n 0, 1) := dk_42 (dk_at dksX9_round_8 0 rfl rfl)
theorem dX9_round_188 : decode cX9_round 188 = .ok (.iload_n 3, 1) := dk_29 (dk_at dksX9_round_8 1 rfl rfl)
theorem dX9_round_189 : decode cX9_round 189 = .ok (.putfield 317, 3) := dk_181 1 61 (dk_at dksX9_round_8 2 rfl rfl)
theorem dX9_round_192 : decode cX9_round 192 = .ok (.iload_n 3, 1) := dk_29 (dk_at dksX9_round_8 5 rfl rfl)
theorem dX9_round_193 : decode cX9_round 193 = .ok (.ireturn, 1) := dk_172 (dk_at dksX9_round_8 6 rfl rfl)
abbrev cX9_laySteps : ByteArray := prog_22_method_85_code
def yX9_laySteps : MethodName := ⟨RX9, "laySteps", "()V"⟩
def dkwX9_laySteps_7 : List UInt8 := [167, 255, 153, 132, 2, 1, 167, 255, 135, 167, 255, 124, 177]
abbrev dktX9_laySteps_7 : List UInt8 := dkwX9_laySteps_7 ++ []
def dkwX9_laySteps_6 : List UInt8 := [180, 0, 136, 28, 29, 184, 1, 55, 21, 5, 79, 4, 60, 132, 4, 1, 167, 255, 168, 132, 3, 1]
abbrev dktX9_laySteps_6 : List UInt8 := dkwX9_laySteps_6 ++ dktX9_laySteps_7
def dkwX9_laySteps_5 : List UInt8 := [4, 96, 54, 5, 21, 5, 42, 180, 0, 136, 28, 29, 184, 1, 55, 46, 161, 0, 6, 167, 0, 17, 42]
abbrev dktX9_laySteps_5 : List UInt8 := dkwX9_laySteps_5 ++ dktX9_laySteps_6
def dkwX9_laySteps_4 : List UInt8 := [154, 0, 6, 167, 0, 57, 42, 180, 0, 136, 21, 4, 29, 4, 21, 4, 120, 2, 130, 126, 184, 1, 55, 46]
abbrev dktX9_laySteps_4 : List UInt8 := dkwX9_laySteps_4 ++ dktX9_laySteps_5
def dkwX9_laySteps_3 : List UInt8 := [180, 0, 98, 3, 46, 162, 0, 83, 42, 180, 0, 98, 16, 6, 28, 96, 46, 21, 4, 184, 0, 181]
abbrev dktX9_laySteps_3 : List UInt8 := dkwX9_laySteps_3 ++ dktX9_laySteps_4
def dkwX9_laySteps_2 : List UInt8 := [42, 180, 0, 98, 3, 46, 162, 0, 117, 4, 62, 29, 16, 32, 162, 0, 103, 3, 54, 4, 21, 4, 42]
abbrev dktX9_laySteps_2 : List UInt8 := dkwX9_laySteps_2 ++ dktX9_laySteps_3
def dkwX9_laySteps_1 : List UInt8 := [167, 0, 6, 19, 1, 49, 79, 132, 1, 1, 167, 255, 226, 4, 60, 27, 153, 0, 134, 3, 60, 3, 61, 28]
abbrev dktX9_laySteps_1 : List UInt8 := dkwX9_laySteps_1 ++ dktX9_laySteps_2
def dkwX9_laySteps_0 : List UInt8 := [3, 60, 27, 17, 0, 160, 162, 0, 29, 42, 180, 0, 136, 27, 27, 16, 32, 112, 154, 0, 7, 3]
abbrev dktX9_laySteps_0 : List UInt8 := dkwX9_laySteps_0 ++ dktX9_laySteps_1
theorem dksX9_laySteps_0 : cX9_laySteps.data.toList.drop 0 = dktX9_laySteps_0 := by decide +kernel
theorem dksX9_laySteps_1 : cX9_laySteps.data.toList.drop 22 = dktX9_laySteps_1 := dk_seg dksX9_laySteps_0 22 rfl rfl
theorem dksX9_laySteps_2 : cX9_laySteps.data.toList.drop 46 = dktX9_laySteps_2 := dk_seg dksX9_laySteps_1 24 rfl rfl
theorem dksX9_laySteps_3 : cX9_laySteps.data.toList.drop 69 = dktX9_laySteps_3 := dk_seg dksX9_laySteps_2 23 rfl rfl
theorem dksX9_laySteps_4 : cX9_laySteps.data.toList.drop 91 = dktX9_laySteps_4 := dk_seg dksX9_laySteps_3 22 rfl rfl
theorem dksX9_laySteps_5 : cX9_laySteps.data.toList.drop 115 = dktX9_laySteps_5 := dk_seg dksX9_laySteps_4 24 rfl rfl
theorem dksX9_laySteps_6 : cX9_laySteps.data.toList.drop 138 = dktX9_laySteps_6 := dk_seg dksX9_laySteps_5 23 rfl rfl
theorem dksX9_laySteps_7 : cX9_laySteps.data.toList.drop 160 = dktX9_laySteps_7 := dk_seg dksX9_laySteps_6 22 rfl rfl
theorem dX9_laySteps_0 : decode cX9_laySteps 0 = .ok (.iconst 0, 1) := dk_3 (dk_at dksX9_laySteps_0 0 rfl rfl)
theorem dX9_laySteps_1 : decode cX9_laySteps 1 = .ok (.istore_n 1, 1) := dk_60 (dk_at dksX9_laySteps_0 1 rfl rfl)
theorem dX9_laySteps_2 : decode cX9_laySteps 2 = .ok (.iload_n 1, 1) := dk_27 (dk_at dksX9_laySteps_0 2 rfl rfl)
theorem dX9_laySteps_3 : decode cX9_laySteps 3 = .ok (.sipush 160, 3) := dk_17 0 160 (dk_at dksX9_laySteps_0 3 rfl rfl)
theorem dX9_laySteps_6 : decode cX9_laySteps 6 = .ok (.if_icmp .ge 29, 3) := dk_162 0 29 (dk_at dksX9_laySteps_0 6 rfl rfl)
theorem dX9_laySteps_9 : decode cX9_laySteps 9 = .ok (.aload_n 0, 1) := dk_42 (dk_at dksX9_laySteps_0 9 rfl rfl)
theorem dX9_laySteps_10 : decode cX9_laySteps 10 = .ok (.getfield 136, 3) := dk_180 0 136 (dk_at dksX9_laySteps_0 10 rfl rfl)
theorem dX9_laySteps_13 : decode cX9_laySteps 13 = .ok (.iload_n 1, 1) := dk_27 (dk_at dksX9_laySteps_0 13 rfl rfl)
theorem dX9_laySteps_14 : decode cX9_laySteps 14 = .ok (.iload_n 1, 1) := dk_27 (dk_at dksX9_laySteps_0 14 rfl rfl)
theorem dX9_laySteps_15 : decode cX9_laySteps 15 = .ok (.bipush 32, 2) := dk_16 32 (dk_at dksX9_laySteps_0 15 rfl rfl)
theorem dX9_laySteps_17 : decode cX9_laySteps 17 = .ok (.irem, 1) := dk_112 (dk_at dksX9_laySteps_0 17 rfl rfl)
theorem dX9_laySteps_18 : decode cX9_laySteps 18 = .ok (.ifCond .ne 7, 3) := dk_154 0 7 (dk_at dksX9_laySteps_0 18 rfl rfl)
theorem dX9_laySteps_21 : decode cX9_laySteps 21 = .ok (.iconst 0, 1) := dk_3 (dk_at dksX9_laySteps_0 21 rfl rfl)
theorem dX9_laySteps_22 : decode cX9_laySteps 22 = .ok (.goto 6, 3) := dk_167 0 6 (dk_at dksX9_laySteps_1 0 rfl rfl)
theorem dX9_laySteps_25 : decode cX9_laySteps 25 = .ok (.ldc_w 305, 3) := dk_19 1 49 (dk_at dksX9_laySteps_1 3 rfl rfl)
theorem dX9_laySteps_28 : decode cX9_laySteps 28 = .ok (.iastore, 1) := dk_79 (dk_at dksX9_laySteps_1 6 rfl rfl)
theorem dX9_laySteps_29 : decode cX9_laySteps 29 = .ok (.iinc 1 1, 3) := dk_132 1 1 (dk_at dksX9_laySteps_1 7 rfl rfl)
theorem dX9_laySteps_32 : decode cX9_laySteps 32 = .ok (.goto (-30), 3) := dk_167 255 226 (dk_at dksX9_laySteps_1 10 rfl rfl)
theorem dX9_laySteps_35 : decode cX9_laySteps 35 = .ok (.iconst 1, 1) := dk_4 (dk_at dksX9_laySteps_1 13 rfl rfl)
theorem dX9_laySteps_36 : decode cX9_laySteps 36 = .ok (.istore_n 1, 1) := dk_60 (dk_at dksX9_laySteps_1 14 rfl rfl)
theorem dX9_laySteps_37 : decode cX9_laySteps 37 = .ok (.iload_n 1, 1) := dk_27 (dk_at dksX9_laySteps_1 15 rfl rfl)
theorem dX9_laySteps_38 : decode cX9_laySteps 38 = .ok (.ifCond .eq 134, 3) := dk_153 0 134 (dk_at dksX9_laySteps_1 16 rfl rfl)
theorem dX9_laySteps_41 : decode cX9_laySteps 41 = .ok (.iconst 0, 1) := dk_3 (dk_at dksX9_laySteps_1 19 rfl rfl)
theorem dX9_laySteps_42 : decode cX9_laySteps 42 = .ok (.istore_n 1, 1) := dk_60 (dk_at dksX9_laySteps_1 20 rfl rfl)
theorem dX9_laySteps_43 : decode cX9_laySteps 43 = .ok (.iconst 0, 1) := dk_3 (dk_at dksX9_laySteps_1 21 rfl rfl)
theorem dX9_laySteps_44 : decode cX9_laySteps 44 = .ok (.istore_n 2, 1) := dk_61 (dk_at dksX9_laySteps_1 22 rfl rfl)
theorem dX9_laySteps_45 : decode cX9_laySteps 45 = .ok (.iload_n 2, 1) := dk_28 (dk_at dksX9_laySteps_1 23 rfl rfl)
theorem dX9_laySteps_46 : decode cX9_laySteps 46 = .ok (.aload_n 0, 1) := dk_42 (dk_at dksX9_laySteps_2 0 rfl rfl)
theorem dX9_laySteps_47 : decode cX9_laySteps 47 = .ok (.getfield 98, 3) := dk_180 0 98 (dk_at dksX9_laySteps_2 1 rfl rfl)
theorem dX9_laySteps_50 : decode cX9_laySteps 50 = .ok (.iconst 0, 1) := dk_3 (dk_at dksX9_laySteps_2 4 rfl rfl)
theorem dX9_laySteps_51 : decode cX9_laySteps 51 = .ok (.iaload, 1) := dk_46 (dk_at dksX9_laySteps_2 5 rfl rfl)
theorem dX9_laySteps_52 : decode cX9_laySteps 52 = .ok (.if_icmp .ge 117, 3) := dk_162 0 117 (dk_at dksX9_laySteps_2 6 rfl rfl)
theorem dX9_laySteps_55 : decode cX9_laySteps 55 = .ok (.iconst 1, 1) := dk_4 (dk_at dksX9_laySteps_2 9 rfl rfl)
theorem dX9_laySteps_56 : decode cX9_laySteps 56 = .ok (.istore_n 3, 1) := dk_62 (dk_at dksX9_laySteps_2 10 rfl rfl)
theorem dX9_laySteps_57 : decode cX9_laySteps 57 = .ok (.iload_n 3, 1) := dk_29 (dk_at dksX9_laySteps_2 11 rfl rfl)
theorem dX9_laySteps_58 : decode cX9_laySteps 58 = .ok (.bipush 32, 2) := dk_16 32 (dk_at dksX9_laySteps_2 12 rfl rfl)
theorem dX9_laySteps_60 : decode cX9_laySteps 60 = .ok (.if_icmp .ge 103, 3) := dk_162 0 103 (dk_at dksX9_laySteps_2 14 rfl rfl)
theorem dX9_laySteps_63 : decode cX9_laySteps 63 = .ok (.iconst 0, 1) := dk_3 (dk_at dksX9_laySteps_2 17 rfl rfl)
theorem dX9_laySteps_64 : decode cX9_laySteps 64 = .ok (.istore 4, 2) := dk_54 4 (dk_at dksX9_laySteps_2 18 rfl rfl)
theorem dX9_laySteps_66 : decode cX9_laySteps 66 = .ok (.iload 4, 2) := dk_21 4 (dk_at dksX9_laySteps_2 20 rfl rfl)
theorem dX9_laySteps_68 : decode cX9_laySteps 68 = .ok (.aload_n 0, 1) := dk_42 (dk_at dksX9_laySteps_2 22 rfl rfl)
theorem dX9_laySteps_69 : decode cX9_laySteps 69 = .ok (.getfield 98, 3) := dk_180 0 98 (dk_at dksX9_laySteps_3 0 rfl rfl)
theorem dX9_laySteps_72 : decode cX9_laySteps 72 = .ok (.iconst 0, 1) := dk_3 (dk_at dksX9_laySteps_3 3 rfl rfl)
theorem dX9_laySteps_73 : decode cX9_laySteps 73 = .ok (.iaload, 1) := dk_46 (dk_at dksX9_laySteps_3 4 rfl rfl)
theorem dX9_laySteps_74 : decode cX9_laySteps 74 = .ok (.if_icmp .ge 83, 3) := dk_162 0 83 (dk_at dksX9_laySteps_3 5 rfl rfl)
theorem dX9_laySteps_77 : decode cX9_laySteps 77 = .ok (.aload_n 0, 1) := dk_42 (dk_at dksX9_laySteps_3 8 rfl rfl)
theorem dX9_laySteps_78 : decode cX9_laySteps 78 = .ok (.getfield 98, 3) := dk_180 0 98 (dk_at dksX9_laySteps_3 9 rfl rfl)
theorem dX9_laySteps_81 : decode cX9_laySteps 81 = .ok (.bipush 6, 2) := dk_16 6 (dk_at dksX9_laySteps_3 12 rfl rfl)
theorem dX9_laySteps_83 : decode cX9_laySteps 83 = .ok (.iload_n 2, 1) := dk_28 (dk_at dksX9_laySteps_3 14 rfl rfl)
theorem dX9_laySteps_84 : decode cX9_laySteps 84 = .ok (.iadd, 1) := dk_96 (dk_at dksX9_laySteps_3 15 rfl rfl)
theorem dX9_laySteps_85 : decode cX9_laySteps 85 = .ok (.iaload, 1) := dk_46 (dk_at dksX9_laySteps_3 16 rfl rfl)
theorem dX9_laySteps_86 : decode cX9_laySteps 86 = .ok (.iload 4, 2) := dk_21 4 (dk_at dksX9_laySteps_3 17 rfl rfl)
theorem dX9_laySteps_88 : decode cX9_laySteps 88 = .ok (.invokestatic 181, 3) := dk_184 0 181 (dk_at dksX9_laySteps_3 19 rfl rfl)
theorem dX9_laySteps_91 : decode cX9_laySteps 91 = .ok (.ifCond .ne 6, 3) := dk_154 0 6 (dk_at dksX9_laySteps_4 0 rfl rfl)
theorem dX9_laySteps_94 : decode cX9_laySteps 94 = .ok (.goto 57, 3) := dk_167 0 57 (dk_at dksX9_laySteps_4 3 rfl rfl)
theorem dX9_laySteps_97 : decode cX9_laySteps 97 = .ok (.aload_n 0, 1) := dk_42 (dk_at dksX9_laySteps_4 6 rfl rfl)
theorem dX9_laySteps_98 : decode cX9_laySteps 98 = .ok (.getfield 136, 3) := dk_180 0 136 (dk_at dksX9_laySteps_4 7 rfl rfl)
theorem dX9_laySteps_101 : decode cX9_laySteps 101 = .ok (.iload 4, 2) := dk_21 4 (dk_at dksX9_laySteps_4 10 rfl rfl)
theorem dX9_laySteps_103 : decode cX9_laySteps 103 = .ok (.iload_n 3, 1) := dk_29 (dk_at dksX9_laySteps_4 12 rfl rfl)
theorem dX9_laySteps_104 : decode cX9_laySteps 104 = .ok (.iconst 1, 1) := dk_4 (dk_at dksX9_laySteps_4 13 rfl rfl)
theorem dX9_laySteps_105 : decode cX9_laySteps 105 = .ok (.iload 4, 2) := dk_21 4 (dk_at dksX9_laySteps_4 14 rfl rfl)
theorem dX9_laySteps_107 : decode cX9_laySteps 107 = .ok (.ishl, 1) := dk_120 (dk_at dksX9_laySteps_4 16 rfl rfl)
theorem dX9_laySteps_108 : decode cX9_laySteps 108 = .ok (.iconst (-1), 1) := dk_2 (dk_at dksX9_laySteps_4 17 rfl rfl)
theorem dX9_laySteps_109 : decode cX9_laySteps 109 = .ok (.ixor, 1) := dk_130 (dk_at dksX9_laySteps_4 18 rfl rfl)
theorem dX9_laySteps_110 : decode cX9_laySteps 110 = .ok (.iand, 1) := dk_126 (dk_at dksX9_laySteps_4 19 rfl rfl)
theorem dX9_laySteps_111 : decode cX9_laySteps 111 = .ok (.invokestatic 311, 3) := dk_184 1 55 (dk_at dksX9_laySteps_4 20 rfl rfl)
theorem dX9_laySteps_114 : decode cX9_laySteps 114 = .ok (.iaload, 1) := dk_46 (dk_at dksX9_laySteps_4 23 rfl rfl)
theorem dX9_laySteps_115 : decode cX9_laySteps 115 = .ok (.iconst 1, 1) := dk_4 (dk_at dksX9_laySteps_5 0 rfl rfl)
theorem dX9_laySteps_116 : decode cX9_laySteps 116 = .ok (.iadd, 1) := dk_96 (dk_at dksX9_laySteps_5 1 rfl rfl)
theorem dX9_laySteps_117 : decode cX9_laySteps 117 = .ok (.istore 5, 2) := dk_54 5 (dk_at dksX9_laySteps_5 2 rfl rfl)
theorem dX9_laySteps_119 : decode cX9_laySteps 119 = .ok (.iload 5, 2) := dk_21 5 (dk_at dksX9_laySteps_5 4 rfl rfl)
theorem dX9_laySteps_121 : decode cX9_laySteps 121 = .ok (.aload_n 0, 1) := dk_42 (dk_at dksX9_laySteps_5 6 rfl rfl)
theorem dX9_laySteps_122 : decode cX9_laySteps 122 = .ok (.getfield 136, 3) := dk_180 0 136 (dk_at dksX9_laySteps_5 7 rfl rfl)
theorem dX9_laySteps_125 : decode cX9_laySteps 125 = .ok (.iload_n 2, 1) := dk_28 (dk_at dksX9_laySteps_5 10 rfl rfl)
theorem dX9_laySteps_126 : decode cX9_laySteps 126 = .ok (.iload_n 3, 1) := dk_29 (dk_at dksX9_laySteps_5 11 rfl rfl)
theorem dX9_laySteps_127 : decode cX9_laySteps 127 = .ok (.invokestatic 311, 3) := dk_184 1 55 (dk_at dksX9_laySteps_5 12 rfl rfl)
theorem dX9_laySteps_130 : decode cX9_laySteps 130 = .ok (.iaload, 1) := dk_46 (dk_at dksX9_laySteps_5 15 rfl rfl)
theorem dX9_laySteps_131 : decode cX9_laySteps 131 = .ok (.if_icmp .lt 6, 3) := dk_161 0 6 (dk_at dksX9_laySteps_5 16 rfl rfl)
theorem dX9_laySteps_134 : decode cX9_laySteps 134 = .ok (.goto 17, 3) := dk_167 0 17 (dk_at dksX9_laySteps_5 19 rfl rfl)
theorem dX9_laySteps_137 : decode cX9_laySteps 137 = .ok (.aload_n 0, 1) := dk_42 (dk_at dksX9_laySteps_5 22 rfl rfl)
theorem dX9_laySteps_138 : decode cX9_laySteps 138 = .ok (.getfield 136, 3) := dk_180 0 136 (dk_at dksX9_laySteps_6 0 rfl rfl)
theorem dX9_laySteps_141 : decode cX9_laySteps 141 = .ok (.iload_n 2, 1) := dk_28 (dk_at dksX9_laySteps_6 3 rfl rfl)
theorem dX9_laySteps_142 : decode cX9_laySteps 142 = .ok (.iload_n 3, 1) := dk_29 (dk_at dksX9_laySteps_6 4 rfl rfl)
theorem dX9_laySteps_143 : decode cX9_laySteps 143 = .ok (.invokestatic 311, 3) := dk_184 1 55 (dk_at dksX9_laySteps_6 5 rfl rfl)
theorem dX9_laySteps_146 : decode cX9_laySteps 146 = .ok (.iload 5, 2) := dk_21 5 (dk_at dksX9_laySteps_6 8 rfl rfl)
theorem dX9_laySteps_148 : decode cX9_laySteps 148 = .ok (.iastore, 1) := dk_79 (dk_at dksX9_laySteps_6 10 rfl rfl)
theorem dX9_laySteps_149 : decode cX9_laySteps 149 = .ok (.iconst 1, 1) := dk_4 (dk_at dksX9_laySteps_6 11 rfl rfl)
theorem dX9_laySteps_150 : decode cX9_laySteps 150 = .ok (.istore_n 1, 1) := dk_60 (dk_at dksX9_laySteps_6 12 rfl rfl)
theorem dX9_laySteps_151 : decode cX9_laySteps 151 = .ok (.iinc 4 1, 3) := dk_132 4 1 (dk_at dksX9_laySteps_6 13 rfl rfl)
theorem dX9_laySteps_154 : decode cX9_laySteps 154 = .ok (.goto (-88), 3) := dk_167 255 168 (dk_at dksX9_laySteps_6 16 rfl rfl)
theorem dX9_laySteps_157 : decode cX9_laySteps 157 = .ok (.iinc 3 1, 3) := dk_132 3 1 (dk_at dksX9_laySteps_6 19 rfl rfl)
theorem dX9_laySteps_160 : decode cX9_laySteps 160 = .ok (.goto (-103), 3) := dk_167 255 153 (dk_at dksX9_laySteps_7 0 rfl rfl)
theorem dX9_laySteps_163 : decode cX9_laySteps 163 = .ok (.iinc 2 1, 3) := dk_132 2 1 (dk_at dksX9_laySteps_7 3 rfl rfl)
theorem dX9_laySteps_166 : decode cX9_laySteps 166 = .ok (.goto (-121), 3) := dk_167 255 135 (dk_at dksX9_laySteps_7 6 rfl rfl)
theorem dX9_laySteps_169 : decode cX9_laySteps 169 = .ok (.goto (-132), 3) := dk_167 255 124 (dk_at dksX9_laySteps_7 9 rfl rfl)
theorem dX9_laySteps_172 : decode cX9_laySteps 172 = .ok (.return_, 1) := dk_177 (dk_at dksX9_laySteps_7 12 rfl rfl)
abbrev cX9_cellOf : ByteArray := prog_22_method_84_code
def yX9_cellOf : MethodName := ⟨RX9, "cellOf", "(II)I"⟩
def dkwX9_cellOf_0 : List UInt8 := [16, 32, 26, 104, 27, 96, 172]
abbrev dktX9_cellOf_0 : List UInt8 := dkwX9_cellOf_0 ++ []
theorem dksX9_cellOf_0 : cX9_cellOf.data.toList.drop 0 = dktX9_cellOf_0 := by decide +kernel
theorem dX9_cellOf_0 : decode cX9_cellOf 0 = .ok (.bipush 32, 2) := dk_16 32 (dk_at dksX9_cellOf_0 0 rfl rfl)
theorem dX9_cellOf_2 : decode cX9_cellOf 2 = .ok (.iload_n 0, 1) := dk_26 (dk_at dksX9_cellOf_0 2 rfl rfl)
theorem dX9_cellOf_3 : decode cX9_cellOf 3 = .ok (.imul, 1) := dk_104 (dk_at dksX9_cellOf_0 3 rfl rfl)
theorem dX9_cellOf_4 : decode cX9_cellOf 4 = .ok (.iload_n 1, 1) := dk_27 (dk_at dksX9_cellOf_0 4 rfl rfl)
theorem dX9_cellOf_5 : decode cX9_cellOf 5 = .ok (.iadd, 1) := dk_96 (dk_at dksX9_cellOf_0 5 rfl rfl)
theorem dX9_cellOf_6 : decode cX9_cellOf 6 = .ok (.ireturn, 1) := dk_172 (dk_at dksX9_cellOf_0 6 rfl rfl)
abbrev cX9_roundAt : ByteArray := prog_22_method_87_code
def yX9_roundAt : MethodName := ⟨RX9, "roundAt", "(I)I"⟩
def dkwX9_roundAt_1 : List UInt8 := [46, 167, 0, 4, 2, 172]
abbrev dktX9_roundAt_1 : List UInt8 := dkwX9_roundAt_1 ++ []
def dkwX9_roundAt_0 : List UInt8 := [42, 3, 181, 0, 1, 27, 3, 42, 180, 1, 61, 4, 100, 184, 0, 75, 153, 0, 12, 42, 180, 0, 139, 27]
abbrev dktX9_roundAt_0 : List UInt8 := dkwX9_roundAt_0 ++ dktX9_roundAt_1
theorem dksX9_roundAt_0 : cX9_roundAt.data.toList.drop 0 = dktX9_roundAt_0 := by decide +kernel
theorem dksX9_roundAt_1 : cX9_roundAt.data.toList.drop 24 = dktX9_roundAt_1 := dk_seg dksX9_roundAt_0 24 rfl rfl
theorem dX9_roundAt_0 : decode cX9_roundAt 0 = .ok (.aload_n 0, 1) := dk_42 (dk_at dksX9_roundAt_0 0 rfl rfl)
theorem dX9_roundAt_1 : decode cX9_roundAt 1 = .ok (.iconst 0, 1) := dk_3 (dk_at dksX9_roundAt_0 1 rfl rfl)
theorem dX9_roundAt_2 : decode cX9_roundAt 2 = .ok (.putfield 1, 3) := dk_181 0 1 (dk_at dksX9_roundAt_0 2 rfl rfl)
theorem dX9_roundAt_5 : decode cX9_roundAt 5 = .ok (.iload_n 1, 1) := dk_27 (dk_at dksX9_roundAt_0 5 rfl rfl)
theorem dX9_roundAt_6 : decode cX9_roundAt 6 = .ok (.iconst 0, 1) := dk_3 (dk_at dksX9_roundAt_0 6 rfl rfl)
theorem dX9_roundAt_7 : decode cX9_roundAt 7 = .ok (.aload_n 0, 1) := dk_42 (dk_at dksX9_roundAt_0 7 rfl rfl)
theorem dX9_roundAt_8 : decode cX9_roundAt 8 = .ok (.getfield 317, 3) := dk_180 1 61 (dk_at dksX9_roundAt_0 8 rfl rfl)
theorem dX9_roundAt_11 : decode cX9_roundAt 11 = .ok (.iconst 1, 1) := dk_4 (dk_at dksX9_roundAt_0 11 rfl rfl)
theorem dX9_roundAt_12 : decode cX9_roundAt 12 = .ok (.isub, 1) := dk_100 (dk_at dksX9_roundAt_0 12 rfl rfl)
theorem dX9_roundAt_13 : decode cX9_roundAt 13 = .ok (.invokestatic 75, 3) := dk_184 0 75 (dk_at dksX9_roundAt_0 13 rfl rfl)
theorem dX9_roundAt_16 : decode cX9_roundAt 16 = .ok (.ifCond .eq 12, 3) := dk_153 0 12 (dk_at dksX9_roundAt_0 16 rfl rfl)
theorem dX9_roundAt_19 : decode cX9_roundAt 19 = .ok (.aload_n 0, 1) := dk_42 (dk_at dksX9_roundAt_0 19 rfl rfl)
theorem dX9_roundAt_20 : decode cX9_roundAt 20 = .ok (.getfield 139, 3) := dk_180 0 139 (dk_at dksX9_roundAt_0 20 rfl rfl)
theorem dX9_roundAt_23 : decode cX9_roundAt 23 = .ok (.iload_n 1, 1) := dk_27 (dk_at dksX9_roundAt_0 23 rfl rfl)
theorem dX9_roundAt_24 : decode cX9_roundAt 24 = .ok (.iaload, 1) := dk_46 (dk_at dksX9_roundAt_1 0 rfl rfl)
theorem dX9_roundAt_25 : decode cX9_roundAt 25 = .ok (.goto 4, 3) := dk_167 0 4 (dk_at dksX9_roundAt_1 1 rfl rfl)
theorem dX9_roundAt_28 : decode cX9_roundAt 28 = .ok (.iconst (-1), 1) := dk_2 (dk_at dksX9_roundAt_1 4 rfl rfl)
theorem dX9_roundAt_29 : decode cX9_roundAt 29 = .ok (.ireturn, 1) := dk_172 (dk_at dksX9_roundAt_1 5 rfl rfl)
abbrev cX9_choice : ByteArray := prog_22_method_90_code
def yX9_choice : MethodName := ⟨RX9, "choice", "()I"⟩
def dkwX9_choice_5 : List UInt8 := [167, 255, 197, 42, 180, 0, 98, 16, 26, 28, 96, 29, 79, 132, 2, 1, 167, 255, 158, 27, 172]
abbrev dktX9_choice_5 : List UInt8 := dkwX9_choice_5 ++ []
def dkwX9_choice_4 : List UInt8 := [21, 5, 27, 163, 0, 6, 167, 0, 13, 21, 5, 60, 42, 28, 21, 4, 182, 1, 70, 132, 4, 1]
abbrev dktX9_choice_4 : List UInt8 := dkwX9_choice_4 ++ dktX9_choice_5
def dkwX9_choice_3 : List UInt8 := [160, 0, 6, 167, 0, 39, 42, 180, 0, 98, 16, 26, 28, 96, 21, 4, 79, 42, 182, 1, 67, 54, 5]
abbrev dktX9_choice_3 : List UInt8 := dkwX9_choice_3 ++ dktX9_choice_4
def dkwX9_choice_2 : List UInt8 := [16, 26, 28, 96, 46, 62, 3, 54, 4, 21, 4, 42, 180, 0, 98, 3, 46, 162, 0, 54, 21, 4, 29]
abbrev dktX9_choice_2 : List UInt8 := dkwX9_choice_2 ++ dktX9_choice_3
def dkwX9_choice_1 : List UInt8 := [182, 1, 70, 42, 4, 181, 1, 74, 3, 61, 28, 42, 180, 0, 98, 4, 46, 162, 0, 94, 42, 180, 0, 98]
abbrev dktX9_choice_1 : List UInt8 := dkwX9_choice_1 ++ dktX9_choice_2
def dkwX9_choice_0 : List UInt8 := [42, 3, 181, 0, 1, 42, 180, 0, 98, 3, 46, 154, 0, 5, 2, 172, 42, 182, 1, 67, 60, 42, 2, 2]
abbrev dktX9_choice_0 : List UInt8 := dkwX9_choice_0 ++ dktX9_choice_1
theorem dksX9_choice_0 : cX9_choice.data.toList.drop 0 = dktX9_choice_0 := by decide +kernel
theorem dksX9_choice_1 : cX9_choice.data.toList.drop 24 = dktX9_choice_1 := dk_seg dksX9_choice_0 24 rfl rfl
theorem dksX9_choice_2 : cX9_choice.data.toList.drop 48 = dktX9_choice_2 := dk_seg dksX9_choice_1 24 rfl rfl
theorem dksX9_choice_3 : cX9_choice.data.toList.drop 71 = dktX9_choice_3 := dk_seg dksX9_choice_2 23 rfl rfl
theorem dksX9_choice_4 : cX9_choice.data.toList.drop 94 = dktX9_choice_4 := dk_seg dksX9_choice_3 23 rfl rfl
theorem dksX9_choice_5 : cX9_choice.data.toList.drop 116 = dktX9_choice_5 := dk_seg dksX9_choice_4 22 rfl rfl
theorem dX9_choice_0 : decode cX9_choice 0 = .ok (.aload_n 0, 1) := dk_42 (dk_at dksX9_choice_0 0 rfl rfl)
theorem dX9_choice_1 : decode cX9_choice 1 = .ok (.iconst 0, 1) := dk_3 (dk_at dksX9_choice_0 1 rfl rfl)
theorem dX9_choice_2 : decode cX9_choice 2 = .ok (.putfield 1, 3) := dk_181 0 1 (dk_at dksX9_choice_0 2 rfl rfl)
theorem dX9_choice_5 : decode cX9_choice 5 = .ok (.aload_n 0, 1) := dk_42 (dk_at dksX9_choice_0 5 rfl rfl)
theorem dX9_choice_6 : decode cX9_choice 6 = .ok (.getfield 98, 3) := dk_180 0 98 (dk_at dksX9_choice_0 6 rfl rfl)
theorem dX9_choice_9 : decode cX9_choice 9 = .ok (.iconst 0, 1) := dk_3 (dk_at dksX9_choice_0 9 rfl rfl)
theorem dX9_choice_10 : decode cX9_choice 10 = .ok (.iaload, 1) := dk_46 (dk_at dksX9_choice_0 10 rfl rfl)
theorem dX9_choice_11 : decode cX9_choice 11 = .ok (.ifCond .ne 5, 3) := dk_154 0 5 (dk_at dksX9_choice_0 11 rfl rfl)
theorem dX9_choice_14 : decode cX9_choice 14 = .ok (.iconst (-1), 1) := dk_2 (dk_at dksX9_choice_0 14 rfl rfl)
theorem dX9_choice_15 : decode cX9_choice 15 = .ok (.ireturn, 1) := dk_172 (dk_at dksX9_choice_0 15 rfl rfl)
theorem dX9_choice_16 : decode cX9_choice 16 = .ok (.aload_n 0, 1) := dk_42 (dk_at dksX9_choice_0 16 rfl rfl)
theorem dX9_choice_17 : decode cX9_choice 17 = .ok (.invokevirtual 323, 3) := dk_182 1 67 (dk_at dksX9_choice_0 17 rfl rfl)
theorem dX9_choice_20 : decode cX9_choice 20 = .ok (.istore_n 1, 1) := dk_60 (dk_at dksX9_choice_0 20 rfl rfl)
theorem dX9_choice_21 : decode cX9_choice 21 = .ok (.aload_n 0, 1) := dk_42 (dk_at dksX9_choice_0 21 rfl rfl)
theorem dX9_choice_22 : decode cX9_choice 22 = .ok (.iconst (-1), 1) := dk_2 (dk_at dksX9_choice_0 22 rfl rfl)
theorem dX9_choice_23 : decode cX9_choice 23 = .ok (.iconst (-1), 1) := dk_2 (dk_at dksX9_choice_0 23 rfl rfl)
theorem dX9_choice_24 : decode cX9_choice 24 = .ok (.invokevirtual 326, 3) := dk_182 1 70 (dk_at dksX9_choice_1 0 rfl rfl)
theorem dX9_choice_27 : decode cX9_choice 27 = .ok (.aload_n 0, 1) := dk_42 (dk_at dksX9_choice_1 3 rfl rfl)
theorem dX9_choice_28 : decode cX9_choice 28 = .ok (.iconst 1, 1) := dk_4 (dk_at dksX9_choice_1 4 rfl rfl)
theorem dX9_choice_29 : decode cX9_choice 29 = .ok (.putfield 330, 3) := dk_181 1 74 (dk_at dksX9_choice_1 5 rfl rfl)
theorem dX9_choice_32 : decode cX9_choice 32 = .ok (.iconst 0, 1) := dk_3 (dk_at dksX9_choice_1 8 rfl rfl)
theorem dX9_choice_33 : decode cX9_choice 33 = .ok (.istore_n 2, 1) := dk_61 (dk_at dksX9_choice_1 9 rfl rfl)
theorem dX9_choice_34 : decode cX9_choice 34 = .ok (.iload_n 2, 1) := dk_28 (dk_at dksX9_choice_1 10 rfl rfl)
theorem dX9_choice_35 : decode cX9_choice 35 = .ok (.aload_n 0, 1) := dk_42 (dk_at dksX9_choice_1 11 rfl rfl)
theorem dX9_choice_36 : decode cX9_choice 36 = .ok (.getfield 98, 3) := dk_180 0 98 (dk_at dksX9_choice_1 12 rfl rfl)
theorem dX9_choice_39 : decode cX9_choice 39 = .ok (.iconst 1, 1) := dk_4 (dk_at dksX9_choice_1 15 rfl rfl)
theorem dX9_choice_40 : decode cX9_choice 40 = .ok (.iaload, 1) := dk_46 (dk_at dksX9_choice_1 16 rfl rfl)
theorem dX9_choice_41 : decode cX9_choice 41 = .ok (.if_icmp .ge 94, 3) := dk_162 0 94 (dk_at dksX9_choice_1 17 rfl rfl)
theorem dX9_choice_44 : decode cX9_choice 44 = .ok (.aload_n 0, 1) := dk_42 (dk_at dksX9_choice_1 20 rfl rfl)
theorem dX9_choice_45 : decode cX9_choice 45 = .ok (.getfield 98, 3) := dk_180 0 98 (dk_at dksX9_choice_1 21 rfl rfl)
theorem dX9_choice_48 : decode cX9_choice 48 = .ok (.bipush 26, 2) := dk_16 26 (dk_at dksX9_choice_2 0 rfl rfl)
theorem dX9_choice_50 : decode cX9_choice 50 = .ok (.iload_n 2, 1) := dk_28 (dk_at dksX9_choice_2 2 rfl rfl)
theorem dX9_choice_51 : decode cX9_choice 51 = .ok (.iadd, 1) := dk_96 (dk_at dksX9_choice_2 3 rfl rfl)
theorem dX9_choice_52 : decode cX9_choice 52 = .ok (.iaload, 1) := dk_46 (dk_at dksX9_choice_2 4 rfl rfl)
theorem dX9_choice_53 : decode cX9_choice 53 = .ok (.istore_n 3, 1) := dk_62 (dk_at dksX9_choice_2 5 rfl rfl)
theorem dX9_choice_54 : decode cX9_choice 54 = .ok (.iconst 0, 1) := dk_3 (dk_at dksX9_choice_2 6 rfl rfl)
theorem dX9_choice_55 : decode cX9_choice 55 = .ok (.istore 4, 2) := dk_54 4 (dk_at dksX9_choice_2 7 rfl rfl)
theorem dX9_choice_57 : decode cX9_choice 57 = .ok (.iload 4, 2) := dk_21 4 (dk_at dksX9_choice_2 9 rfl rfl)
theorem dX9_choice_59 : decode cX9_choice 59 = .ok (.aload_n 0, 1) := dk_42 (dk_at dksX9_choice_2 11 rfl rfl)
theorem dX9_choice_60 : decode cX9_choice 60 = .ok (.getfield 98, 3) := dk_180 0 98 (dk_at dksX9_choice_2 12 rfl rfl)
theorem dX9_choice_63 : decode cX9_choice 63 = .ok (.iconst 0, 1) := dk_3 (dk_at dksX9_choice_2 15 rfl rfl)
theorem dX9_choice_64 : decode cX9_choice 64 = .ok (.iaload, 1) := dk_46 (dk_at dksX9_choice_2 16 rfl rfl)
theorem dX9_choice_65 : decode cX9_choice 65 = .ok (.if_icmp .ge 54, 3) := dk_162 0 54 (dk_at dksX9_choice_2 17 rfl rfl)
theorem dX9_choice_68 : decode cX9_choice 68 = .ok (.iload 4, 2) := dk_21 4 (dk_at dksX9_choice_2 20 rfl rfl)
theorem dX9_choice_70 : decode cX9_choice 70 = .ok (.iload_n 3, 1) := dk_29 (dk_at dksX9_choice_2 22 rfl rfl)
theorem dX9_choice_71 : decode cX9_choice 71 = .ok (.if_icmp .ne 6, 3) := dk_160 0 6 (dk_at dksX9_choice_3 0 rfl rfl)
theorem dX9_choice_74 : decode cX9_choice 74 = .ok (.goto 39, 3) := dk_167 0 39 (dk_at dksX9_choice_3 3 rfl rfl)
theorem dX9_choice_77 : decode cX9_choice 77 = .ok (.aload_n 0, 1) := dk_42 (dk_at dksX9_choice_3 6 rfl rfl)
theorem dX9_choice_78 : decode cX9_choice 78 = .ok (.getfield 98, 3) := dk_180 0 98 (dk_at dksX9_choice_3 7 rfl rfl)
theorem dX9_choice_81 : decode cX9_choice 81 = .ok (.bipush 26, 2) := dk_16 26 (dk_at dksX9_choice_3 10 rfl rfl)
theorem dX9_choice_83 : decode cX9_choice 83 = .ok (.iload_n 2, 1) := dk_28 (dk_at dksX9_choice_3 12 rfl rfl)
theorem dX9_choice_84 : decode cX9_choice 84 = .ok (.iadd, 1) := dk_96 (dk_at dksX9_choice_3 13 rfl rfl)
theorem dX9_choice_85 : decode cX9_choice 85 = .ok (.iload 4, 2) := dk_21 4 (dk_at dksX9_choice_3 14 rfl rfl)
theorem dX9_choice_87 : decode cX9_choice 87 = .ok (.iastore, 1) := dk_79 (dk_at dksX9_choice_3 16 rfl rfl)
theorem dX9_choice_88 : decode cX9_choice 88 = .ok (.aload_n 0, 1) := dk_42 (dk_at dksX9_choice_3 17 rfl rfl)
theorem dX9_choice_89 : decode cX9_choice 89 = .ok (.invokevirtual 323, 3) := dk_182 1 67 (dk_at dksX9_choice_3 18 rfl rfl)
theorem dX9_choice_92 : decode cX9_choice 92 = .ok (.istore 5, 2) := dk_54 5 (dk_at dksX9_choice_3 21 rfl rfl)
theorem dX9_choice_94 : decode cX9_choice 94 = .ok (.iload 5, 2) := dk_21 5 (dk_at dksX9_choice_4 0 rfl rfl)
theorem dX9_choice_96 : decode cX9_choice 96 = .ok (.iload_n 1, 1) := dk_27 (dk_at dksX9_choice_4 2 rfl rfl)
theorem dX9_choice_97 : decode cX9_choice 97 = .ok (.if_icmp .gt 6, 3) := dk_163 0 6 (dk_at dksX9_choice_4 3 rfl rfl)
theorem dX9_choice_100 : decode cX9_choice 100 = .ok (.goto 13, 3) := dk_167 0 13 (dk_at dksX9_choice_4 6 rfl rfl)
theorem dX9_choice_103 : decode cX9_choice 103 = .ok (.iload 5, 2) := dk_21 5 (dk_at dksX9_choice_4 9 rfl rfl)
theorem dX9_choice_105 : decode cX9_choice 105 = .ok (.istore_n 1, 1) := dk_60 (dk_at dksX9_choice_4 11 rfl rfl)
theorem dX9_choice_106 : decode cX9_choice 106 = .ok (.aload_n 0, 1) := dk_42 (dk_at dksX9_choice_4 12 rfl rfl)
theorem dX9_choice_107 : decode cX9_choice 107 = .ok (.iload_n 2, 1) := dk_28 (dk_at dksX9_choice_4 13 rfl rfl)
theorem dX9_choice_108 : decode cX9_choice 108 = .ok (.iload 4, 2) := dk_21 4 (dk_at dksX9_choice_4 14 rfl rfl)
theorem dX9_choice_110 : decode cX9_choice 110 = .ok (.invokevirtual 326, 3) := dk_182 1 70 (dk_at dksX9_choice_4 16 rfl rfl)
theorem dX9_choice_113 : decode cX9_choice 113 = .ok (.iinc 4 1, 3) := dk_132 4 1 (dk_at dksX9_choice_4 19 rfl rfl)
theorem dX9_choice_116 : decode cX9_choice 116 = .ok (.goto (-59), 3) := dk_167 255 197 (dk_at dksX9_choice_5 0 rfl rfl)
theorem dX9_choice_119 : decode cX9_choice 119 = .ok (.aload_n 0, 1) := dk_42 (dk_at dksX9_choice_5 3 rfl rfl)
theorem dX9_choice_120 : decode cX9_choice 120 = .ok (.getfield 98, 3) := dk_180 0 98 (dk_at dksX9_choice_5 4 rfl rfl)
theorem dX9_choice_123 : decode cX9_choice 123 = .ok (.bipush 26, 2) := dk_16 26 (dk_at dksX9_choice_5 7 rfl rfl)
theorem dX9_choice_125 : decode cX9_choice 125 = .ok (.iload_n 2, 1) := dk_28 (dk_at dksX9_choice_5 9 rfl rfl)
theorem dX9_choice_126 : decode cX9_choice 126 = .ok (.iadd, 1) := dk_96 (dk_at dksX9_choice_5 10 rfl rfl)
theorem dX9_choice_127 : decode cX9_choice 127 = .ok (.iload_n 3, 1) := dk_29 (dk_at dksX9_choice_5 11 rfl rfl)
theorem dX9_choice_128 : decode cX9_choice 128 = .ok (.iastore, 1) := dk_79 (dk_at dksX9_choice_5 12 rfl rfl)
theorem dX9_choice_129 : decode cX9_choice 129 = .ok (.iinc 2 1, 3) := dk_132 2 1 (dk_at dksX9_choice_5 13 rfl rfl)
theorem dX9_choice_132 : decode cX9_choice 132 = .ok (.goto (-98), 3) := dk_167 255 158 (dk_at dksX9_choice_5 16 rfl rfl)
theorem dX9_choice_135 : decode cX9_choice 135 = .ok (.iload_n 1, 1) := dk_27 (dk_at dksX9_choice_5 19 rfl rfl)
theorem dX9_choice_136 : decode cX9_choice 136 = .ok (.ireturn, 1) := dk_172 (dk_at dksX9_choice_5 20 rfl rfl)
abbrev cX9_fewestSee : ByteArray := prog_22_method_88_code
def yX9_fewestSee : MethodName := ⟨RX9, "fewestSee", "()I"⟩
def dkwX9_fewestSee_3 : List UInt8 := [132, 2, 1, 167, 255, 189, 27, 172]
abbrev dktX9_fewestSee_3 : List UInt8 := dkwX9_fewestSee_3 ++ []
def dkwX9_fewestSee_2 : List UInt8 := [132, 3, 1, 132, 4, 1, 167, 255, 225, 29, 27, 161, 0, 6, 167, 0, 10, 29, 60, 42, 28, 181, 1, 64]
abbrev dktX9_fewestSee_2 : List UInt8 := dkwX9_fewestSee_2 ++ dktX9_fewestSee_3
def dkwX9_fewestSee_1 : List UInt8 := [180, 0, 98, 4, 46, 162, 0, 26, 42, 21, 4, 3, 182, 0, 250, 28, 184, 0, 181, 153, 0, 6]
abbrev dktX9_fewestSee_1 : List UInt8 := dkwX9_fewestSee_1 ++ dktX9_fewestSee_2
def dkwX9_fewestSee_0 : List UInt8 := [19, 1, 49, 60, 3, 61, 28, 42, 180, 0, 98, 3, 46, 162, 0, 63, 3, 62, 3, 54, 4, 21, 4, 42]
abbrev dktX9_fewestSee_0 : List UInt8 := dkwX9_fewestSee_0 ++ dktX9_fewestSee_1
theorem dksX9_fewestSee_0 : cX9_fewestSee.data.toList.drop 0 = dktX9_fewestSee_0 := by decide +kernel
theorem dksX9_fewestSee_1 : cX9_fewestSee.data.toList.drop 24 = dktX9_fewestSee_1 := dk_seg dksX9_fewestSee_0 24 rfl rfl
theorem dksX9_fewestSee_2 : cX9_fewestSee.data.toList.drop 46 = dktX9_fewestSee_2 := dk_seg dksX9_fewestSee_1 22 rfl rfl
theorem dksX9_fewestSee_3 : cX9_fewestSee.data.toList.drop 70 = dktX9_fewestSee_3 := dk_seg dksX9_fewestSee_2 24 rfl rfl
theorem dX9_fewestSee_0 : decode cX9_fewestSee 0 = .ok (.ldc_w 305, 3) := dk_19 1 49 (dk_at dksX9_fewestSee_0 0 rfl rfl)
theorem dX9_fewestSee_3 : decode cX9_fewestSee 3 = .ok (.istore_n 1, 1) := dk_60 (dk_at dksX9_fewestSee_0 3 rfl rfl)
theorem dX9_fewestSee_4 : decode cX9_fewestSee 4 = .ok (.iconst 0, 1) := dk_3 (dk_at dksX9_fewestSee_0 4 rfl rfl)
theorem dX9_fewestSee_5 : decode cX9_fewestSee 5 = .ok (.istore_n 2, 1) := dk_61 (dk_at dksX9_fewestSee_0 5 rfl rfl)
theorem dX9_fewestSee_6 : decode cX9_fewestSee 6 = .ok (.iload_n 2, 1) := dk_28 (dk_at dksX9_fewestSee_0 6 rfl rfl)
theorem dX9_fewestSee_7 : decode cX9_fewestSee 7 = .ok (.aload_n 0, 1) := dk_42 (dk_at dksX9_fewestSee_0 7 rfl rfl)
theorem dX9_fewestSee_8 : decode cX9_fewestSee 8 = .ok (.getfield 98, 3) := dk_180 0 98 (dk_at dksX9_fewestSee_0 8 rfl rfl)
theorem dX9_fewestSee_11 : decode cX9_fewestSee 11 = .ok (.iconst 0, 1) := dk_3 (dk_at dksX9_fewestSee_0 11 rfl rfl)
theorem dX9_fewestSee_12 : decode cX9_fewestSee 12 = .ok (.iaload, 1) := dk_46 (dk_at dksX9_fewestSee_0 12 rfl rfl)
theorem dX9_fewestSee_13 : decode cX9_fewestSee 13 = .ok (.if_icmp .ge 63, 3) := dk_162 0 63 (dk_at dksX9_fewestSee_0 13 rfl rfl)
theorem dX9_fewestSee_16 : decode cX9_fewestSee 16 = .ok (.iconst 0, 1) := dk_3 (dk_at dksX9_fewestSee_0 16 rfl rfl)
theorem dX9_fewestSee_17 : decode cX9_fewestSee 17 = .ok (.istore_n 3, 1) := dk_62 (dk_at dksX9_fewestSee_0 17 rfl rfl)
theorem dX9_fewestSee_18 : decode cX9_fewestSee 18 = .ok (.iconst 0, 1) := dk_3 (dk_at dksX9_fewestSee_0 18 rfl rfl)
theorem dX9_fewestSee_19 : decode cX9_fewestSee 19 = .ok (.istore 4, 2) := dk_54 4 (dk_at dksX9_fewestSee_0 19 rfl rfl)
theorem dX9_fewestSee_21 : decode cX9_fewestSee 21 = .ok (.iload 4, 2) := dk_21 4 (dk_at dksX9_fewestSee_0 21 rfl rfl)
theorem dX9_fewestSee_23 : decode cX9_fewestSee 23 = .ok (.aload_n 0, 1) := dk_42 (dk_at dksX9_fewestSee_0 23 rfl rfl)
theorem dX9_fewestSee_24 : decode cX9_fewestSee 24 = .ok (.getfield 98, 3) := dk_180 0 98 (dk_at dksX9_fewestSee_1 0 rfl rfl)
theorem dX9_fewestSee_27 : decode cX9_fewestSee 27 = .ok (.iconst 1, 1) := dk_4 (dk_at dksX9_fewestSee_1 3 rfl rfl)
theorem dX9_fewestSee_28 : decode cX9_fewestSee 28 = .ok (.iaload, 1) := dk_46 (dk_at dksX9_fewestSee_1 4 rfl rfl)
theorem dX9_fewestSee_29 : decode cX9_fewestSee 29 = .ok (.if_icmp .ge 26, 3) := dk_162 0 26 (dk_at dksX9_fewestSee_1 5 rfl rfl)
theorem dX9_fewestSee_32 : decode cX9_fewestSee 32 = .ok (.aload_n 0, 1) := dk_42 (dk_at dksX9_fewestSee_1 8 rfl rfl)
theorem dX9_fewestSee_33 : decode cX9_fewestSee 33 = .ok (.iload 4, 2) := dk_21 4 (dk_at dksX9_fewestSee_1 9 rfl rfl)
theorem dX9_fewestSee_35 : decode cX9_fewestSee 35 = .ok (.iconst 0, 1) := dk_3 (dk_at dksX9_fewestSee_1 11 rfl rfl)
theorem dX9_fewestSee_36 : decode cX9_fewestSee 36 = .ok (.invokevirtual 250, 3) := dk_182 0 250 (dk_at dksX9_fewestSee_1 12 rfl rfl)
theorem dX9_fewestSee_39 : decode cX9_fewestSee 39 = .ok (.iload_n 2, 1) := dk_28 (dk_at dksX9_fewestSee_1 15 rfl rfl)
theorem dX9_fewestSee_40 : decode cX9_fewestSee 40 = .ok (.invokestatic 181, 3) := dk_184 0 181 (dk_at dksX9_fewestSee_1 16 rfl rfl)
theorem dX9_fewestSee_43 : decode cX9_fewestSee 43 = .ok (.ifCond .eq 6, 3) := dk_153 0 6 (dk_at dksX9_fewestSee_1 19 rfl rfl)
theorem dX9_fewestSee_46 : decode cX9_fewestSee 46 = .ok (.iinc 3 1, 3) := dk_132 3 1 (dk_at dksX9_fewestSee_2 0 rfl rfl)
theorem dX9_fewestSee_49 : decode cX9_fewestSee 49 = .ok (.iinc 4 1, 3) := dk_132 4 1 (dk_at dksX9_fewestSee_2 3 rfl rfl)
theorem dX9_fewestSee_52 : decode cX9_fewestSee 52 = .ok (.goto (-31), 3) := dk_167 255 225 (dk_at dksX9_fewestSee_2 6 rfl rfl)
theorem dX9_fewestSee_55 : decode cX9_fewestSee 55 = .ok (.iload_n 3, 1) := dk_29 (dk_at dksX9_fewestSee_2 9 rfl rfl)
theorem dX9_fewestSee_56 : decode cX9_fewestSee 56 = .ok (.iload_n 1, 1) := dk_27 (dk_at dksX9_fewestSee_2 10 rfl rfl)
theorem dX9_fewestSee_57 : decode cX9_fewestSee 57 = .ok (.if_icmp .lt 6, 3) := dk_161 0 6 (dk_at dksX9_fewestSee_2 11 rfl rfl)
theorem dX9_fewestSee_60 : decode cX9_fewestSee 60 = .ok (.goto 10, 3) := dk_167 0 10 (dk_at dksX9_fewestSee_2 14 rfl rfl)
theorem dX9_fewestSee_63 : decode cX9_fewestSee 63 = .ok (.iload_n 3, 1) := dk_29 (dk_at dksX9_fewestSee_2 17 rfl rfl)
theorem dX9_fewestSee_64 : decode cX9_fewestSee 64 = .ok (.istore_n 1, 1) := dk_60 (dk_at dksX9_fewestSee_2 18 rfl rfl)
theorem dX9_fewestSee_65 : decode cX9_fewestSee 65 = .ok (.aload_n 0, 1) := dk_42 (dk_at dksX9_fewestSee_2 19 rfl rfl)
theorem dX9_fewestSee_66 : decode cX9_fewestSee 66 = .ok (.iload_n 2, 1) := dk_28 (dk_at dksX9_fewestSee_2 20 rfl rfl)
theorem dX9_fewestSee_67 : decode cX9_fewestSee 67 = .ok (.putfield 320, 3) := dk_181 1 64 (dk_at dksX9_fewestSee_2 21 rfl rfl)
theorem dX9_fewestSee_70 : decode cX9_fewestSee 70 = .ok (.iinc 2 1, 3) := dk_132 2 1 (dk_at dksX9_fewestSee_3 0 rfl rfl)
theorem dX9_fewestSee_73 : decode cX9_fewestSee 73 = .ok (.goto (-67), 3) := dk_167 255 189 (dk_at dksX9_fewestSee_3 3 rfl rfl)
theorem dX9_fewestSee_76 : decode cX9_fewestSee 76 = .ok (.iload_n 1, 1) := dk_27 (dk_at dksX9_fewestSee_3 6 rfl rfl)
theorem dX9_fewestSee_77 : decode cX9_fewestSee 77 = .ok (.ireturn, 1) := dk_172 (dk_at dksX9_fewestSee_3 7 rfl rfl)
abbrev cX9_choose : ByteArray := prog_22_method_89_code
def yX9_choose : MethodName := ⟨RX9, "choose", "(II)V"⟩
def dkwX9_choose_1 : List UInt8 := [177]
abbrev dktX9_choose_1 : List UInt8 := dkwX9_choose_1 ++ []
def dkwX9_choose_0 : List UInt8 := [42, 180, 0, 142, 3, 27, 79, 42, 180, 0, 142, 4, 28, 79, 42, 180, 0, 142, 5, 42, 180, 1, 64, 79]
abbrev dktX9_choose_0 : List UInt8 := dkwX9_choose_0 ++ dktX9_choose_1
theorem dksX9_choose_0 : cX9_choose.data.toList.drop 0 = dktX9_choose_0 := by decide +kernel
theorem dksX9_choose_1 : cX9_choose.data.toList.drop 24 = dktX9_choose_1 := dk_seg dksX9_choose_0 24 rfl rfl
theorem dX9_choose_0 : decode cX9_choose 0 = .ok (.aload_n 0, 1) := dk_42 (dk_at dksX9_choose_0 0 rfl rfl)
theorem dX9_choose_1 : decode cX9_choose 1 = .ok (.getfield 142, 3) := dk_180 0 142 (dk_at dksX9_choose_0 1 rfl rfl)
theorem dX9_choose_4 : decode cX9_choose 4 = .ok (.iconst 0, 1) := dk_3 (dk_at dksX9_choose_0 4 rfl rfl)
theorem dX9_choose_5 : decode cX9_choose 5 = .ok (.iload_n 1, 1) := dk_27 (dk_at dksX9_choose_0 5 rfl rfl)
theorem dX9_choose_6 : decode cX9_choose 6 = .ok (.iastore, 1) := dk_79 (dk_at dksX9_choose_0 6 rfl rfl)
theorem dX9_choose_7 : decode cX9_choose 7 = .ok (.aload_n 0, 1) := dk_42 (dk_at dksX9_choose_0 7 rfl rfl)
theorem dX9_choose_8 : decode cX9_choose 8 = .ok (.getfield 142, 3) := dk_180 0 142 (dk_at dksX9_choose_0 8 rfl rfl)
theorem dX9_choose_11 : decode cX9_choose 11 = .ok (.iconst 1, 1) := dk_4 (dk_at dksX9_choose_0 11 rfl rfl)
theorem dX9_choose_12 : decode cX9_choose 12 = .ok (.iload_n 2, 1) := dk_28 (dk_at dksX9_choose_0 12 rfl rfl)
theorem dX9_choose_13 : decode cX9_choose 13 = .ok (.iastore, 1) := dk_79 (dk_at dksX9_choose_0 13 rfl rfl)
theorem dX9_choose_14 : decode cX9_choose 14 = .ok (.aload_n 0, 1) := dk_42 (dk_at dksX9_choose_0 14 rfl rfl)
theorem dX9_choose_15 : decode cX9_choose 15 = .ok (.getfield 142, 3) := dk_180 0 142 (dk_at dksX9_choose_0 15 rfl rfl)
theorem dX9_choose_18 : decode cX9_choose 18 = .ok (.iconst 2, 1) := dk_5 (dk_at dksX9_choose_0 18 rfl rfl)
theorem dX9_choose_19 : decode cX9_choose 19 = .ok (.aload_n 0, 1) := dk_42 (dk_at dksX9_choose_0 19 rfl rfl)
theorem dX9_choose_20 : decode cX9_choose 20 = .ok (.getfield 320, 3) := dk_180 1 64 (dk_at dksX9_choose_0 20 rfl rfl)
theorem dX9_choose_23 : decode cX9_choose 23 = .ok (.iastore, 1) := dk_79 (dk_at dksX9_choose_0 23 rfl rfl)
theorem dX9_choose_24 : decode cX9_choose 24 = .ok (.return_, 1) := dk_177 (dk_at dksX9_choose_1 0 rfl rfl)
abbrev cX9_chosen : ByteArray := prog_22_method_91_code
def yX9_chosen : MethodName := ⟨RX9, "chosen", "(I)I"⟩
def dkwX9_chosen_1 : List UInt8 := [180, 0, 142, 27, 46, 167, 0, 4, 2, 172]
abbrev dktX9_chosen_1 : List UInt8 := dkwX9_chosen_1 ++ []
def dkwX9_chosen_0 : List UInt8 := [42, 3, 181, 0, 1, 42, 180, 1, 74, 153, 0, 21, 27, 3, 5, 184, 0, 75, 153, 0, 12, 42]
abbrev dktX9_chosen_0 : List UInt8 := dkwX9_chosen_0 ++ dktX9_chosen_1
theorem dksX9_chosen_0 : cX9_chosen.data.toList.drop 0 = dktX9_chosen_0 := by decide +kernel
theorem dksX9_chosen_1 : cX9_chosen.data.toList.drop 22 = dktX9_chosen_1 := dk_seg dksX9_chosen_0 22 rfl rfl
theorem dX9_chosen_0 : decode cX9_chosen 0 = .ok (.aload_n 0, 1) := dk_42 (dk_at dksX9_chosen_0 0 rfl rfl)
theorem dX9_chosen_1 : decode cX9_chosen 1 = .ok (.iconst 0, 1) := dk_3 (dk_at dksX9_chosen_0 1 rfl rfl)
theorem dX9_chosen_2 : decode cX9_chosen 2 = .ok (.putfield 1, 3) := dk_181 0 1 (dk_at dksX9_chosen_0 2 rfl rfl)
theorem dX9_chosen_5 : decode cX9_chosen 5 = .ok (.aload_n 0, 1) := dk_42 (dk_at dksX9_chosen_0 5 rfl rfl)
theorem dX9_chosen_6 : decode cX9_chosen 6 = .ok (.getfield 330, 3) := dk_180 1 74 (dk_at dksX9_chosen_0 6 rfl rfl)
theorem dX9_chosen_9 : decode cX9_chosen 9 = .ok (.ifCond .eq 21, 3) := dk_153 0 21 (dk_at dksX9_chosen_0 9 rfl rfl)
theorem dX9_chosen_12 : decode cX9_chosen 12 = .ok (.iload_n 1, 1) := dk_27 (dk_at dksX9_chosen_0 12 rfl rfl)
theorem dX9_chosen_13 : decode cX9_chosen 13 = .ok (.iconst 0, 1) := dk_3 (dk_at dksX9_chosen_0 13 rfl rfl)
theorem dX9_chosen_14 : decode cX9_chosen 14 = .ok (.iconst 2, 1) := dk_5 (dk_at dksX9_chosen_0 14 rfl rfl)
theorem dX9_chosen_15 : decode cX9_chosen 15 = .ok (.invokestatic 75, 3) := dk_184 0 75 (dk_at dksX9_chosen_0 15 rfl rfl)
theorem dX9_chosen_18 : decode cX9_chosen 18 = .ok (.ifCond .eq 12, 3) := dk_153 0 12 (dk_at dksX9_chosen_0 18 rfl rfl)
theorem dX9_chosen_21 : decode cX9_chosen 21 = .ok (.aload_n 0, 1) := dk_42 (dk_at dksX9_chosen_0 21 rfl rfl)
theorem dX9_chosen_22 : decode cX9_chosen 22 = .ok (.getfield 142, 3) := dk_180 0 142 (dk_at dksX9_chosen_1 0 rfl rfl)
theorem dX9_chosen_25 : decode cX9_chosen 25 = .ok (.iload_n 1, 1) := dk_27 (dk_at dksX9_chosen_1 3 rfl rfl)
theorem dX9_chosen_26 : decode cX9_chosen 26 = .ok (.iaload, 1) := dk_46 (dk_at dksX9_chosen_1 4 rfl rfl)
theorem dX9_chosen_27 : decode cX9_chosen 27 = .ok (.goto 4, 3) := dk_167 0 4 (dk_at dksX9_chosen_1 5 rfl rfl)
theorem dX9_chosen_30 : decode cX9_chosen 30 = .ok (.iconst (-1), 1) := dk_2 (dk_at dksX9_chosen_1 8 rfl rfl)
theorem dX9_chosen_31 : decode cX9_chosen 31 = .ok (.ireturn, 1) := dk_172 (dk_at dksX9_chosen_1 9 rfl rfl)
abbrev cX9_elder : ByteArray := prog_22_method_92_code
def yX9_elder : MethodName := ⟨RX9, "elder", "()I"⟩
def dkwX9_elder_2 : List UInt8 := [132, 3, 1, 167, 255, 218, 27, 172]
abbrev dktX9_elder_2 : List UInt8 := dkwX9_elder_2 ++ []
def dkwX9_elder_1 : List UInt8 := [182, 0, 253, 184, 0, 238, 54, 4, 21, 4, 28, 163, 0, 6, 167, 0, 8, 21, 4, 61, 29, 60]
abbrev dktX9_elder_1 : List UInt8 := dkwX9_elder_1 ++ dktX9_elder_2
def dkwX9_elder_0 : List UInt8 := [42, 3, 181, 0, 1, 2, 60, 3, 61, 3, 62, 29, 42, 180, 0, 98, 4, 46, 162, 0, 34, 42, 29, 4]
abbrev dktX9_elder_0 : List UInt8 := dkwX9_elder_0 ++ dktX9_elder_1
theorem dksX9_elder_0 : cX9_elder.data.toList.drop 0 = dktX9_elder_0 := by decide +kernel
theorem dksX9_elder_1 : cX9_elder.data.toList.drop 24 = dktX9_elder_1 := dk_seg dksX9_elder_0 24 rfl rfl
theorem dksX9_elder_2 : cX9_elder.data.toList.drop 46 = dktX9_elder_2 := dk_seg dksX9_elder_1 22 rfl rfl
theorem dX9_elder_0 : decode cX9_elder 0 = .ok (.aload_n 0, 1) := dk_42 (dk_at dksX9_elder_0 0 rfl rfl)
theorem dX9_elder_1 : decode cX9_elder 1 = .ok (.iconst 0, 1) := dk_3 (dk_at dksX9_elder_0 1 rfl rfl)
theorem dX9_elder_2 : decode cX9_elder 2 = .ok (.putfield 1, 3) := dk_181 0 1 (dk_at dksX9_elder_0 2 rfl rfl)
theorem dX9_elder_5 : decode cX9_elder 5 = .ok (.iconst (-1), 1) := dk_2 (dk_at dksX9_elder_0 5 rfl rfl)
theorem dX9_elder_6 : decode cX9_elder 6 = .ok (.istore_n 1, 1) := dk_60 (dk_at dksX9_elder_0 6 rfl rfl)
theorem dX9_elder_7 : decode cX9_elder 7 = .ok (.iconst 0, 1) := dk_3 (dk_at dksX9_elder_0 7 rfl rfl)
theorem dX9_elder_8 : decode cX9_elder 8 = .ok (.istore_n 2, 1) := dk_61 (dk_at dksX9_elder_0 8 rfl rfl)
theorem dX9_elder_9 : decode cX9_elder 9 = .ok (.iconst 0, 1) := dk_3 (dk_at dksX9_elder_0 9 rfl rfl)
theorem dX9_elder_10 : decode cX9_elder 10 = .ok (.istore_n 3, 1) := dk_62 (dk_at dksX9_elder_0 10 rfl rfl)
theorem dX9_elder_11 : decode cX9_elder 11 = .ok (.iload_n 3, 1) := dk_29 (dk_at dksX9_elder_0 11 rfl rfl)
theorem dX9_elder_12 : decode cX9_elder 12 = .ok (.aload_n 0, 1) := dk_42 (dk_at dksX9_elder_0 12 rfl rfl)
theorem dX9_elder_13 : decode cX9_elder 13 = .ok (.getfield 98, 3) := dk_180 0 98 (dk_at dksX9_elder_0 13 rfl rfl)
theorem dX9_elder_16 : decode cX9_elder 16 = .ok (.iconst 1, 1) := dk_4 (dk_at dksX9_elder_0 16 rfl rfl)
theorem dX9_elder_17 : decode cX9_elder 17 = .ok (.iaload, 1) := dk_46 (dk_at dksX9_elder_0 17 rfl rfl)
theorem dX9_elder_18 : decode cX9_elder 18 = .ok (.if_icmp .ge 34, 3) := dk_162 0 34 (dk_at dksX9_elder_0 18 rfl rfl)
theorem dX9_elder_21 : decode cX9_elder 21 = .ok (.aload_n 0, 1) := dk_42 (dk_at dksX9_elder_0 21 rfl rfl)
theorem dX9_elder_22 : decode cX9_elder 22 = .ok (.iload_n 3, 1) := dk_29 (dk_at dksX9_elder_0 22 rfl rfl)
theorem dX9_elder_23 : decode cX9_elder 23 = .ok (.iconst 1, 1) := dk_4 (dk_at dksX9_elder_0 23 rfl rfl)
theorem dX9_elder_24 : decode cX9_elder 24 = .ok (.invokevirtual 253, 3) := dk_182 0 253 (dk_at dksX9_elder_1 0 rfl rfl)
theorem dX9_elder_27 : decode cX9_elder 27 = .ok (.invokestatic 238, 3) := dk_184 0 238 (dk_at dksX9_elder_1 3 rfl rfl)
theorem dX9_elder_30 : decode cX9_elder 30 = .ok (.istore 4, 2) := dk_54 4 (dk_at dksX9_elder_1 6 rfl rfl)
theorem dX9_elder_32 : decode cX9_elder 32 = .ok (.iload 4, 2) := dk_21 4 (dk_at dksX9_elder_1 8 rfl rfl)
theorem dX9_elder_34 : decode cX9_elder 34 = .ok (.iload_n 2, 1) := dk_28 (dk_at dksX9_elder_1 10 rfl rfl)
theorem dX9_elder_35 : decode cX9_elder 35 = .ok (.if_icmp .gt 6, 3) := dk_163 0 6 (dk_at dksX9_elder_1 11 rfl rfl)
theorem dX9_elder_38 : decode cX9_elder 38 = .ok (.goto 8, 3) := dk_167 0 8 (dk_at dksX9_elder_1 14 rfl rfl)
theorem dX9_elder_41 : decode cX9_elder 41 = .ok (.iload 4, 2) := dk_21 4 (dk_at dksX9_elder_1 17 rfl rfl)
theorem dX9_elder_43 : decode cX9_elder 43 = .ok (.istore_n 2, 1) := dk_61 (dk_at dksX9_elder_1 19 rfl rfl)
theorem dX9_elder_44 : decode cX9_elder 44 = .ok (.iload_n 3, 1) := dk_29 (dk_at dksX9_elder_1 20 rfl rfl)
theorem dX9_elder_45 : decode cX9_elder 45 = .ok (.istore_n 1, 1) := dk_60 (dk_at dksX9_elder_1 21 rfl rfl)
theorem dX9_elder_46 : decode cX9_elder 46 = .ok (.iinc 3 1, 3) := dk_132 3 1 (dk_at dksX9_elder_2 0 rfl rfl)
theorem dX9_elder_49 : decode cX9_elder 49 = .ok (.goto (-38), 3) := dk_167 255 218 (dk_at dksX9_elder_2 3 rfl rfl)
theorem dX9_elder_52 : decode cX9_elder 52 = .ok (.iload_n 1, 1) := dk_27 (dk_at dksX9_elder_2 6 rfl rfl)
theorem dX9_elder_53 : decode cX9_elder 53 = .ok (.ireturn, 1) := dk_172 (dk_at dksX9_elder_2 7 rfl rfl)
abbrev cX9_card : ByteArray := prog_22_method_97_code
def yX9_card : MethodName := ⟨RX9, "card", "(I)I"⟩
def dkwX9_card_6 : List UInt8 := [42, 180, 1, 78, 172]
abbrev dktX9_card_6 : List UInt8 := dkwX9_card_6 ++ []
def dkwX9_card_5 : List UInt8 := [184, 0, 238, 182, 1, 88, 42, 27, 3, 182, 0, 250, 154, 0, 12, 42, 16, 14, 184, 0, 62, 182, 1, 91]
abbrev dktX9_card_5 : List UInt8 := dkwX9_card_5 ++ dktX9_card_6
def dkwX9_card_4 : List UInt8 := [3, 3, 3, 3, 184, 0, 58, 182, 1, 91, 42, 16, 32, 182, 1, 85, 42, 42, 27, 4, 182, 0, 253]
abbrev dktX9_card_4 : List UInt8 := dkwX9_card_4 ++ dktX9_card_5
def dkwX9_card_3 : List UInt8 := [182, 1, 91, 42, 16, 15, 184, 0, 62, 182, 1, 91, 42, 180, 1, 78, 172, 42, 16, 104, 16, 97, 16, 115]
abbrev dktX9_card_3 : List UInt8 := dkwX9_card_3 ++ dktX9_card_4
def dkwX9_card_2 : List UInt8 := [3, 3, 3, 3, 184, 0, 58, 182, 1, 91, 42, 16, 97, 3, 3, 3, 3, 3, 3, 184, 0, 58]
abbrev dktX9_card_2 : List UInt8 := dkwX9_card_2 ++ dktX9_card_3
def dkwX9_card_1 : List UInt8 := [180, 0, 113, 8, 27, 96, 47, 182, 1, 81, 42, 27, 182, 0, 218, 153, 0, 48, 42, 16, 105, 16, 115, 3]
abbrev dktX9_card_1 : List UInt8 := dkwX9_card_1 ++ dktX9_card_2
def dkwX9_card_0 : List UInt8 := [42, 3, 181, 0, 1, 42, 27, 182, 0, 244, 154, 0, 5, 2, 172, 42, 3, 181, 1, 78, 42, 42]
abbrev dktX9_card_0 : List UInt8 := dkwX9_card_0 ++ dktX9_card_1
theorem dksX9_card_0 : cX9_card.data.toList.drop 0 = dktX9_card_0 := by decide +kernel
theorem dksX9_card_1 : cX9_card.data.toList.drop 22 = dktX9_card_1 := dk_seg dksX9_card_0 22 rfl rfl
theorem dksX9_card_2 : cX9_card.data.toList.drop 46 = dktX9_card_2 := dk_seg dksX9_card_1 24 rfl rfl
theorem dksX9_card_3 : cX9_card.data.toList.drop 68 = dktX9_card_3 := dk_seg dksX9_card_2 22 rfl rfl
theorem dksX9_card_4 : cX9_card.data.toList.drop 92 = dktX9_card_4 := dk_seg dksX9_card_3 24 rfl rfl
theorem dksX9_card_5 : cX9_card.data.toList.drop 115 = dktX9_card_5 := dk_seg dksX9_card_4 23 rfl rfl
theorem dksX9_card_6 : cX9_card.data.toList.drop 139 = dktX9_card_6 := dk_seg dksX9_card_5 24 rfl rfl
theorem dX9_card_0 : decode cX9_card 0 = .ok (.aload_n 0, 1) := dk_42 (dk_at dksX9_card_0 0 rfl rfl)
theorem dX9_card_1 : decode cX9_card 1 = .ok (.iconst 0, 1) := dk_3 (dk_at dksX9_card_0 1 rfl rfl)
theorem dX9_card_2 : decode cX9_card 2 = .ok (.putfield 1, 3) := dk_181 0 1 (dk_at dksX9_card_0 2 rfl rfl)
theorem dX9_card_5 : decode cX9_card 5 = .ok (.aload_n 0, 1) := dk_42 (dk_at dksX9_card_0 5 rfl rfl)
theorem dX9_card_6 : decode cX9_card 6 = .ok (.iload_n 1, 1) := dk_27 (dk_at dksX9_card_0 6 rfl rfl)
theorem dX9_card_7 : decode cX9_card 7 = .ok (.invokevirtual 244, 3) := dk_182 0 244 (dk_at dksX9_card_0 7 rfl rfl)
theorem dX9_card_10 : decode cX9_card 10 = .ok (.ifCond .ne 5, 3) := dk_154 0 5 (dk_at dksX9_card_0 10 rfl rfl)
theorem dX9_card_13 : decode cX9_card 13 = .ok (.iconst (-1), 1) := dk_2 (dk_at dksX9_card_0 13 rfl rfl)
theorem dX9_card_14 : decode cX9_card 14 = .ok (.ireturn, 1) := dk_172 (dk_at dksX9_card_0 14 rfl rfl)
theorem dX9_card_15 : decode cX9_card 15 = .ok (.aload_n 0, 1) := dk_42 (dk_at dksX9_card_0 15 rfl rfl)
theorem dX9_card_16 : decode cX9_card 16 = .ok (.iconst 0, 1) := dk_3 (dk_at dksX9_card_0 16 rfl rfl)
theorem dX9_card_17 : decode cX9_card 17 = .ok (.putfield 334, 3) := dk_181 1 78 (dk_at dksX9_card_0 17 rfl rfl)
theorem dX9_card_20 : decode cX9_card 20 = .ok (.aload_n 0, 1) := dk_42 (dk_at dksX9_card_0 20 rfl rfl)
theorem dX9_card_21 : decode cX9_card 21 = .ok (.aload_n 0, 1) := dk_42 (dk_at dksX9_card_0 21 rfl rfl)
theorem dX9_card_22 : decode cX9_card 22 = .ok (.getfield 113, 3) := dk_180 0 113 (dk_at dksX9_card_1 0 rfl rfl)
theorem dX9_card_25 : decode cX9_card 25 = .ok (.iconst 5, 1) := dk_8 (dk_at dksX9_card_1 3 rfl rfl)
theorem dX9_card_26 : decode cX9_card 26 = .ok (.iload_n 1, 1) := dk_27 (dk_at dksX9_card_1 4 rfl rfl)
theorem dX9_card_27 : decode cX9_card 27 = .ok (.iadd, 1) := dk_96 (dk_at dksX9_card_1 5 rfl rfl)
theorem dX9_card_28 : decode cX9_card 28 = .ok (.laload, 1) := dk_47 (dk_at dksX9_card_1 6 rfl rfl)
theorem dX9_card_29 : decode cX9_card 29 = .ok (.invokevirtual 337, 3) := dk_182 1 81 (dk_at dksX9_card_1 7 rfl rfl)
theorem dX9_card_32 : decode cX9_card 32 = .ok (.aload_n 0, 1) := dk_42 (dk_at dksX9_card_1 10 rfl rfl)
theorem dX9_card_33 : decode cX9_card 33 = .ok (.iload_n 1, 1) := dk_27 (dk_at dksX9_card_1 11 rfl rfl)
theorem dX9_card_34 : decode cX9_card 34 = .ok (.invokevirtual 218, 3) := dk_182 0 218 (dk_at dksX9_card_1 12 rfl rfl)
theorem dX9_card_37 : decode cX9_card 37 = .ok (.ifCond .eq 48, 3) := dk_153 0 48 (dk_at dksX9_card_1 15 rfl rfl)
theorem dX9_card_40 : decode cX9_card 40 = .ok (.aload_n 0, 1) := dk_42 (dk_at dksX9_card_1 18 rfl rfl)
theorem dX9_card_41 : decode cX9_card 41 = .ok (.bipush 105, 2) := dk_16 105 (dk_at dksX9_card_1 19 rfl rfl)
theorem dX9_card_43 : decode cX9_card 43 = .ok (.bipush 115, 2) := dk_16 115 (dk_at dksX9_card_1 21 rfl rfl)
theorem dX9_card_45 : decode cX9_card 45 = .ok (.iconst 0, 1) := dk_3 (dk_at dksX9_card_1 23 rfl rfl)
theorem dX9_card_46 : decode cX9_card 46 = .ok (.iconst 0, 1) := dk_3 (dk_at dksX9_card_2 0 rfl rfl)
theorem dX9_card_47 : decode cX9_card 47 = .ok (.iconst 0, 1) := dk_3 (dk_at dksX9_card_2 1 rfl rfl)
theorem dX9_card_48 : decode cX9_card 48 = .ok (.iconst 0, 1) := dk_3 (dk_at dksX9_card_2 2 rfl rfl)
theorem dX9_card_49 : decode cX9_card 49 = .ok (.iconst 0, 1) := dk_3 (dk_at dksX9_card_2 3 rfl rfl)
theorem dX9_card_50 : decode cX9_card 50 = .ok (.invokestatic 58, 3) := dk_184 0 58 (dk_at dksX9_card_2 4 rfl rfl)
theorem dX9_card_53 : decode cX9_card 53 = .ok (.invokevirtual 347, 3) := dk_182 1 91 (dk_at dksX9_card_2 7 rfl rfl)
theorem dX9_card_56 : decode cX9_card 56 = .ok (.aload_n 0, 1) := dk_42 (dk_at dksX9_card_2 10 rfl rfl)
theorem dX9_card_57 : decode cX9_card 57 = .ok (.bipush 97, 2) := dk_16 97 (dk_at dksX9_card_2 11 rfl rfl)
theorem dX9_card_59 : decode cX9_card 59 = .ok (.iconst 0, 1) := dk_3 (dk_at dksX9_card_2 13 rfl rfl)
theorem dX9_card_60 : decode cX9_card 60 = .ok (.iconst 0, 1) := dk_3 (dk_at dksX9_card_2 14 rfl rfl)
theorem dX9_card_61 : decode cX9_card 61 = .ok (.iconst 0, 1) := dk_3 (dk_at dksX9_card_2 15 rfl rfl)
theorem dX9_card_62 : decode cX9_card 62 = .ok (.iconst 0, 1) := dk_3 (dk_at dksX9_card_2 16 rfl rfl)
theorem dX9_card_63 : decode cX9_card 63 = .ok (.iconst 0, 1) := dk_3 (dk_at dksX9_card_2 17 rfl rfl)
theorem dX9_card_64 : decode cX9_card 64 = .ok (.iconst 0, 1) := dk_3 (dk_at dksX9_card_2 18 rfl rfl)
theorem dX9_card_65 : decode cX9_card 65 = .ok (.invokestatic 58, 3) := dk_184 0 58 (dk_at dksX9_card_2 19 rfl rfl)
theorem dX9_card_68 : decode cX9_card 68 = .ok (.invokevirtual 347, 3) := dk_182 1 91 (dk_at dksX9_card_3 0 rfl rfl)
theorem dX9_card_71 : decode cX9_card 71 = .ok (.aload_n 0, 1) := dk_42 (dk_at dksX9_card_3 3 rfl rfl)
theorem dX9_card_72 : decode cX9_card 72 = .ok (.bipush 15, 2) := dk_16 15 (dk_at dksX9_card_3 4 rfl rfl)
theorem dX9_card_74 : decode cX9_card 74 = .ok (.invokestatic 62, 3) := dk_184 0 62 (dk_at dksX9_card_3 6 rfl rfl)
theorem dX9_card_77 : decode cX9_card 77 = .ok (.invokevirtual 347, 3) := dk_182 1 91 (dk_at dksX9_card_3 9 rfl rfl)
theorem dX9_card_80 : decode cX9_card 80 = .ok (.aload_n 0, 1) := dk_42 (dk_at dksX9_card_3 12 rfl rfl)
theorem dX9_card_81 : decode cX9_card 81 = .ok (.getfield 334, 3) := dk_180 1 78 (dk_at dksX9_card_3 13 rfl rfl)
theorem dX9_card_84 : decode cX9_card 84 = .ok (.ireturn, 1) := dk_172 (dk_at dksX9_card_3 16 rfl rfl)
theorem dX9_card_85 : decode cX9_card 85 = .ok (.aload_n 0, 1) := dk_42 (dk_at dksX9_card_3 17 rfl rfl)
theorem dX9_card_86 : decode cX9_card 86 = .ok (.bipush 104, 2) := dk_16 104 (dk_at dksX9_card_3 18 rfl rfl)
theorem dX9_card_88 : decode cX9_card 88 = .ok (.bipush 97, 2) := dk_16 97 (dk_at dksX9_card_3 20 rfl rfl)
theorem dX9_card_90 : decode cX9_card 90 = .ok (.bipush 115, 2) := dk_16 115 (dk_at dksX9_card_3 22 rfl rfl)
theorem dX9_card_92 : decode cX9_card 92 = .ok (.iconst 0, 1) := dk_3 (dk_at dksX9_card_4 0 rfl rfl)
theorem dX9_card_93 : decode cX9_card 93 = .ok (.iconst 0, 1) := dk_3 (dk_at dksX9_card_4 1 rfl rfl)
theorem dX9_card_94 : decode cX9_card 94 = .ok (.iconst 0, 1) := dk_3 (dk_at dksX9_card_4 2 rfl rfl)
theorem dX9_card_95 : decode cX9_card 95 = .ok (.iconst 0, 1) := dk_3 (dk_at dksX9_card_4 3 rfl rfl)
theorem dX9_card_96 : decode cX9_card 96 = .ok (.invokestatic 58, 3) := dk_184 0 58 (dk_at dksX9_card_4 4 rfl rfl)
theorem dX9_card_99 : decode cX9_card 99 = .ok (.invokevirtual 347, 3) := dk_182 1 91 (dk_at dksX9_card_4 7 rfl rfl)
theorem dX9_card_102 : decode cX9_card 102 = .ok (.aload_n 0, 1) := dk_42 (dk_at dksX9_card_4 10 rfl rfl)
theorem dX9_card_103 : decode cX9_card 103 = .ok (.bipush 32, 2) := dk_16 32 (dk_at dksX9_card_4 11 rfl rfl)
theorem dX9_card_105 : decode cX9_card 105 = .ok (.invokevirtual 341, 3) := dk_182 1 85 (dk_at dksX9_card_4 13 rfl rfl)
theorem dX9_card_108 : decode cX9_card 108 = .ok (.aload_n 0, 1) := dk_42 (dk_at dksX9_card_4 16 rfl rfl)
theorem dX9_card_109 : decode cX9_card 109 = .ok (.aload_n 0, 1) := dk_42 (dk_at dksX9_card_4 17 rfl rfl)
theorem dX9_card_110 : decode cX9_card 110 = .ok (.iload_n 1, 1) := dk_27 (dk_at dksX9_card_4 18 rfl rfl)
theorem dX9_card_111 : decode cX9_card 111 = .ok (.iconst 1, 1) := dk_4 (dk_at dksX9_card_4 19 rfl rfl)
theorem dX9_card_112 : decode cX9_card 112 = .ok (.invokevirtual 253, 3) := dk_182 0 253 (dk_at dksX9_card_4 20 rfl rfl)
theorem dX9_card_115 : decode cX9_card 115 = .ok (.invokestatic 238, 3) := dk_184 0 238 (dk_at dksX9_card_5 0 rfl rfl)
theorem dX9_card_118 : decode cX9_card 118 = .ok (.invokevirtual 344, 3) := dk_182 1 88 (dk_at dksX9_card_5 3 rfl rfl)
theorem dX9_card_121 : decode cX9_card 121 = .ok (.aload_n 0, 1) := dk_42 (dk_at dksX9_card_5 6 rfl rfl)
theorem dX9_card_122 : decode cX9_card 122 = .ok (.iload_n 1, 1) := dk_27 (dk_at dksX9_card_5 7 rfl rfl)
theorem dX9_card_123 : decode cX9_card 123 = .ok (.iconst 0, 1) := dk_3 (dk_at dksX9_card_5 8 rfl rfl)
theorem dX9_card_124 : decode cX9_card 124 = .ok (.invokevirtual 250, 3) := dk_182 0 250 (dk_at dksX9_card_5 9 rfl rfl)
theorem dX9_card_127 : decode cX9_card 127 = .ok (.ifCond .ne 12, 3) := dk_154 0 12 (dk_at dksX9_card_5 12 rfl rfl)
theorem dX9_card_130 : decode cX9_card 130 = .ok (.aload_n 0, 1) := dk_42 (dk_at dksX9_card_5 15 rfl rfl)
theorem dX9_card_131 : decode cX9_card 131 = .ok (.bipush 14, 2) := dk_16 14 (dk_at dksX9_card_5 16 rfl rfl)
theorem dX9_card_133 : decode cX9_card 133 = .ok (.invokestatic 62, 3) := dk_184 0 62 (dk_at dksX9_card_5 18 rfl rfl)
theorem dX9_card_136 : decode cX9_card 136 = .ok (.invokevirtual 347, 3) := dk_182 1 91 (dk_at dksX9_card_5 21 rfl rfl)
theorem dX9_card_139 : decode cX9_card 139 = .ok (.aload_n 0, 1) := dk_42 (dk_at dksX9_card_6 0 rfl rfl)
theorem dX9_card_140 : decode cX9_card 140 = .ok (.getfield 334, 3) := dk_180 1 78 (dk_at dksX9_card_6 1 rfl rfl)
theorem dX9_card_143 : decode cX9_card 143 = .ok (.ireturn, 1) := dk_172 (dk_at dksX9_card_6 4 rfl rfl)
abbrev cX9_writeWord : ByteArray := prog_22_method_94_code
def yX9_writeWord : MethodName := ⟨RX9, "writeWord", "(J)V"⟩
def dkwX9_writeWord_1 : List UInt8 := [113, 136, 96, 182, 1, 85, 177]
abbrev dktX9_writeWord_1 : List UInt8 := dkwX9_writeWord_1 ++ []
def dkwX9_writeWord_0 : List UInt8 := [31, 20, 0, 54, 148, 155, 0, 12, 42, 31, 20, 0, 54, 109, 182, 1, 81, 42, 16, 96, 31, 20, 0, 54]
abbrev dktX9_writeWord_0 : List UInt8 := dkwX9_writeWord_0 ++ dktX9_writeWord_1
theorem dksX9_writeWord_0 : cX9_writeWord.data.toList.drop 0 = dktX9_writeWord_0 := by decide +kernel
theorem dksX9_writeWord_1 : cX9_writeWord.data.toList.drop 24 = dktX9_writeWord_1 := dk_seg dksX9_writeWord_0 24 rfl rfl
theorem dX9_writeWord_0 : decode cX9_writeWord 0 = .ok (.lload_n 1, 1) := dk_31 (dk_at dksX9_writeWord_0 0 rfl rfl)
theorem dX9_writeWord_1 : decode cX9_writeWord 1 = .ok (.ldc2_w 54, 3) := dk_20 0 54 (dk_at dksX9_writeWord_0 1 rfl rfl)
theorem dX9_writeWord_4 : decode cX9_writeWord 4 = .ok (.lcmp, 1) := dk_148 (dk_at dksX9_writeWord_0 4 rfl rfl)
theorem dX9_writeWord_5 : decode cX9_writeWord 5 = .ok (.ifCond .lt 12, 3) := dk_155 0 12 (dk_at dksX9_writeWord_0 5 rfl rfl)
theorem dX9_writeWord_8 : decode cX9_writeWord 8 = .ok (.aload_n 0, 1) := dk_42 (dk_at dksX9_writeWord_0 8 rfl rfl)
theorem dX9_writeWord_9 : decode cX9_writeWord 9 = .ok (.lload_n 1, 1) := dk_31 (dk_at dksX9_writeWord_0 9 rfl rfl)
theorem dX9_writeWord_10 : decode cX9_writeWord 10 = .ok (.ldc2_w 54, 3) := dk_20 0 54 (dk_at dksX9_writeWord_0 10 rfl rfl)
theorem dX9_writeWord_13 : decode cX9_writeWord 13 = .ok (.ldiv, 1) := dk_109 (dk_at dksX9_writeWord_0 13 rfl rfl)
theorem dX9_writeWord_14 : decode cX9_writeWord 14 = .ok (.invokevirtual 337, 3) := dk_182 1 81 (dk_at dksX9_writeWord_0 14 rfl rfl)
theorem dX9_writeWord_17 : decode cX9_writeWord 17 = .ok (.aload_n 0, 1) := dk_42 (dk_at dksX9_writeWord_0 17 rfl rfl)
theorem dX9_writeWord_18 : decode cX9_writeWord 18 = .ok (.bipush 96, 2) := dk_16 96 (dk_at dksX9_writeWord_0 18 rfl rfl)
theorem dX9_writeWord_20 : decode cX9_writeWord 20 = .ok (.lload_n 1, 1) := dk_31 (dk_at dksX9_writeWord_0 20 rfl rfl)
theorem dX9_writeWord_21 : decode cX9_writeWord 21 = .ok (.ldc2_w 54, 3) := dk_20 0 54 (dk_at dksX9_writeWord_0 21 rfl rfl)
theorem dX9_writeWord_24 : decode cX9_writeWord 24 = .ok (.lrem, 1) := dk_113 (dk_at dksX9_writeWord_1 0 rfl rfl)
theorem dX9_writeWord_25 : decode cX9_writeWord 25 = .ok (.l2i, 1) := dk_136 (dk_at dksX9_writeWord_1 1 rfl rfl)
theorem dX9_writeWord_26 : decode cX9_writeWord 26 = .ok (.iadd, 1) := dk_96 (dk_at dksX9_writeWord_1 2 rfl rfl)
theorem dX9_writeWord_27 : decode cX9_writeWord 27 = .ok (.invokevirtual 341, 3) := dk_182 1 85 (dk_at dksX9_writeWord_1 3 rfl rfl)
theorem dX9_writeWord_30 : decode cX9_writeWord 30 = .ok (.return_, 1) := dk_177 (dk_at dksX9_writeWord_1 6 rfl rfl)
abbrev cX9_write : ByteArray := prog_22_method_93_code
def yX9_write : MethodName := ⟨RX9, "write", "(I)V"⟩
def dkwX9_write_0 : List UInt8 := [42, 180, 0, 145, 42, 180, 1, 78, 27, 79, 42, 89, 180, 1, 78, 4, 96, 181, 1, 78, 177]
abbrev dktX9_write_0 : List UInt8 := dkwX9_write_0 ++ []
theorem dksX9_write_0 : cX9_write.data.toList.drop 0 = dktX9_write_0 := by decide +kernel
theorem dX9_write_0 : decode cX9_write 0 = .ok (.aload_n 0, 1) := dk_42 (dk_at dksX9_write_0 0 rfl rfl)
theorem dX9_write_1 : decode cX9_write 1 = .ok (.getfield 145, 3) := dk_180 0 145 (dk_at dksX9_write_0 1 rfl rfl)
theorem dX9_write_4 : decode cX9_write 4 = .ok (.aload_n 0, 1) := dk_42 (dk_at dksX9_write_0 4 rfl rfl)
theorem dX9_write_5 : decode cX9_write 5 = .ok (.getfield 334, 3) := dk_180 1 78 (dk_at dksX9_write_0 5 rfl rfl)
theorem dX9_write_8 : decode cX9_write 8 = .ok (.iload_n 1, 1) := dk_27 (dk_at dksX9_write_0 8 rfl rfl)
theorem dX9_write_9 : decode cX9_write 9 = .ok (.iastore, 1) := dk_79 (dk_at dksX9_write_0 9 rfl rfl)
theorem dX9_write_10 : decode cX9_write 10 = .ok (.aload_n 0, 1) := dk_42 (dk_at dksX9_write_0 10 rfl rfl)
theorem dX9_write_11 : decode cX9_write 11 = .ok (.dup, 1) := dk_89 (dk_at dksX9_write_0 11 rfl rfl)
theorem dX9_write_12 : decode cX9_write 12 = .ok (.getfield 334, 3) := dk_180 1 78 (dk_at dksX9_write_0 12 rfl rfl)
theorem dX9_write_15 : decode cX9_write 15 = .ok (.iconst 1, 1) := dk_4 (dk_at dksX9_write_0 15 rfl rfl)
theorem dX9_write_16 : decode cX9_write 16 = .ok (.iadd, 1) := dk_96 (dk_at dksX9_write_0 16 rfl rfl)
theorem dX9_write_17 : decode cX9_write 17 = .ok (.putfield 334, 3) := dk_181 1 78 (dk_at dksX9_write_0 17 rfl rfl)
theorem dX9_write_20 : decode cX9_write 20 = .ok (.return_, 1) := dk_177 (dk_at dksX9_write_0 20 rfl rfl)
abbrev cX9_writeNext : ByteArray := prog_22_method_96_code
def yX9_writeNext : MethodName := ⟨RX9, "writeNext", "(J)V"⟩
def dkwX9_writeNext_0 : List UInt8 := [42, 16, 32, 182, 1, 85, 42, 31, 182, 1, 81, 177]
abbrev dktX9_writeNext_0 : List UInt8 := dkwX9_writeNext_0 ++ []
theorem dksX9_writeNext_0 : cX9_writeNext.data.toList.drop 0 = dktX9_writeNext_0 := by decide +kernel
theorem dX9_writeNext_0 : decode cX9_writeNext 0 = .ok (.aload_n 0, 1) := dk_42 (dk_at dksX9_writeNext_0 0 rfl rfl)
theorem dX9_writeNext_1 : decode cX9_writeNext 1 = .ok (.bipush 32, 2) := dk_16 32 (dk_at dksX9_writeNext_0 1 rfl rfl)
theorem dX9_writeNext_3 : decode cX9_writeNext 3 = .ok (.invokevirtual 341, 3) := dk_182 1 85 (dk_at dksX9_writeNext_0 3 rfl rfl)
theorem dX9_writeNext_6 : decode cX9_writeNext 6 = .ok (.aload_n 0, 1) := dk_42 (dk_at dksX9_writeNext_0 6 rfl rfl)
theorem dX9_writeNext_7 : decode cX9_writeNext 7 = .ok (.lload_n 1, 1) := dk_31 (dk_at dksX9_writeNext_0 7 rfl rfl)
theorem dX9_writeNext_8 : decode cX9_writeNext 8 = .ok (.invokevirtual 337, 3) := dk_182 1 81 (dk_at dksX9_writeNext_0 8 rfl rfl)
theorem dX9_writeNext_11 : decode cX9_writeNext 11 = .ok (.return_, 1) := dk_177 (dk_at dksX9_writeNext_0 11 rfl rfl)
abbrev cX9_writeNumber : ByteArray := prog_22_method_95_code
def yX9_writeNumber : MethodName := ⟨RX9, "writeNumber", "(I)V"⟩
def dkwX9_writeNumber_1 : List UInt8 := [182, 1, 85, 177]
abbrev dktX9_writeNumber_1 : List UInt8 := dkwX9_writeNumber_1 ++ []
def dkwX9_writeNumber_0 : List UInt8 := [27, 16, 9, 164, 0, 11, 42, 27, 16, 10, 108, 182, 1, 88, 42, 16, 48, 27, 16, 10, 112, 96]
abbrev dktX9_writeNumber_0 : List UInt8 := dkwX9_writeNumber_0 ++ dktX9_writeNumber_1
theorem dksX9_writeNumber_0 : cX9_writeNumber.data.toList.drop 0 = dktX9_writeNumber_0 := by decide +kernel
theorem dksX9_writeNumber_1 : cX9_writeNumber.data.toList.drop 22 = dktX9_writeNumber_1 := dk_seg dksX9_writeNumber_0 22 rfl rfl
theorem dX9_writeNumber_0 : decode cX9_writeNumber 0 = .ok (.iload_n 1, 1) := dk_27 (dk_at dksX9_writeNumber_0 0 rfl rfl)
theorem dX9_writeNumber_1 : decode cX9_writeNumber 1 = .ok (.bipush 9, 2) := dk_16 9 (dk_at dksX9_writeNumber_0 1 rfl rfl)
theorem dX9_writeNumber_3 : decode cX9_writeNumber 3 = .ok (.if_icmp .le 11, 3) := dk_164 0 11 (dk_at dksX9_writeNumber_0 3 rfl rfl)
theorem dX9_writeNumber_6 : decode cX9_writeNumber 6 = .ok (.aload_n 0, 1) := dk_42 (dk_at dksX9_writeNumber_0 6 rfl rfl)
theorem dX9_writeNumber_7 : decode cX9_writeNumber 7 = .ok (.iload_n 1, 1) := dk_27 (dk_at dksX9_writeNumber_0 7 rfl rfl)
theorem dX9_writeNumber_8 : decode cX9_writeNumber 8 = .ok (.bipush 10, 2) := dk_16 10 (dk_at dksX9_writeNumber_0 8 rfl rfl)
theorem dX9_writeNumber_10 : decode cX9_writeNumber 10 = .ok (.idiv, 1) := dk_108 (dk_at dksX9_writeNumber_0 10 rfl rfl)
theorem dX9_writeNumber_11 : decode cX9_writeNumber 11 = .ok (.invokevirtual 344, 3) := dk_182 1 88 (dk_at dksX9_writeNumber_0 11 rfl rfl)
theorem dX9_writeNumber_14 : decode cX9_writeNumber 14 = .ok (.aload_n 0, 1) := dk_42 (dk_at dksX9_writeNumber_0 14 rfl rfl)
theorem dX9_writeNumber_15 : decode cX9_writeNumber 15 = .ok (.bipush 48, 2) := dk_16 48 (dk_at dksX9_writeNumber_0 15 rfl rfl)
theorem dX9_writeNumber_17 : decode cX9_writeNumber 17 = .ok (.iload_n 1, 1) := dk_27 (dk_at dksX9_writeNumber_0 17 rfl rfl)
theorem dX9_writeNumber_18 : decode cX9_writeNumber 18 = .ok (.bipush 10, 2) := dk_16 10 (dk_at dksX9_writeNumber_0 18 rfl rfl)
theorem dX9_writeNumber_20 : decode cX9_writeNumber 20 = .ok (.irem, 1) := dk_112 (dk_at dksX9_writeNumber_0 20 rfl rfl)
theorem dX9_writeNumber_21 : decode cX9_writeNumber 21 = .ok (.iadd, 1) := dk_96 (dk_at dksX9_writeNumber_0 21 rfl rfl)
theorem dX9_writeNumber_22 : decode cX9_writeNumber 22 = .ok (.invokevirtual 341, 3) := dk_182 1 85 (dk_at dksX9_writeNumber_1 0 rfl rfl)
theorem dX9_writeNumber_25 : decode cX9_writeNumber 25 = .ok (.return_, 1) := dk_177 (dk_at dksX9_writeNumber_1 3 rfl rfl)
abbrev cX9_byteAt : ByteArray := prog_22_method_98_code
def yX9_byteAt : MethodName := ⟨RX9, "byteAt", "(I)I"⟩
def dkwX9_byteAt_1 : List UInt8 := [46, 167, 0, 4, 2, 172]
abbrev dktX9_byteAt_1 : List UInt8 := dkwX9_byteAt_1 ++ []
def dkwX9_byteAt_0 : List UInt8 := [42, 3, 181, 0, 1, 27, 3, 42, 180, 1, 78, 4, 100, 184, 0, 75, 153, 0, 12, 42, 180, 0, 145, 27]
abbrev dktX9_byteAt_0 : List UInt8 := dkwX9_byteAt_0 ++ dktX9_byteAt_1
theorem dksX9_byteAt_0 : cX9_byteAt.data.toList.drop 0 = dktX9_byteAt_0 := by decide +kernel
theorem dksX9_byteAt_1 : cX9_byteAt.data.toList.drop 24 = dktX9_byteAt_1 := dk_seg dksX9_byteAt_0 24 rfl rfl
theorem dX9_byteAt_0 : decode cX9_byteAt 0 = .ok (.aload_n 0, 1) := dk_42 (dk_at dksX9_byteAt_0 0 rfl rfl)
theorem dX9_byteAt_1 : decode cX9_byteAt 1 = .ok (.iconst 0, 1) := dk_3 (dk_at dksX9_byteAt_0 1 rfl rfl)
theorem dX9_byteAt_2 : decode cX9_byteAt 2 = .ok (.putfield 1, 3) := dk_181 0 1 (dk_at dksX9_byteAt_0 2 rfl rfl)
theorem dX9_byteAt_5 : decode cX9_byteAt 5 = .ok (.iload_n 1, 1) := dk_27 (dk_at dksX9_byteAt_0 5 rfl rfl)
theorem dX9_byteAt_6 : decode cX9_byteAt 6 = .ok (.iconst 0, 1) := dk_3 (dk_at dksX9_byteAt_0 6 rfl rfl)
theorem dX9_byteAt_7 : decode cX9_byteAt 7 = .ok (.aload_n 0, 1) := dk_42 (dk_at dksX9_byteAt_0 7 rfl rfl)
theorem dX9_byteAt_8 : decode cX9_byteAt 8 = .ok (.getfield 334, 3) := dk_180 1 78 (dk_at dksX9_byteAt_0 8 rfl rfl)
theorem dX9_byteAt_11 : decode cX9_byteAt 11 = .ok (.iconst 1, 1) := dk_4 (dk_at dksX9_byteAt_0 11 rfl rfl)
theorem dX9_byteAt_12 : decode cX9_byteAt 12 = .ok (.isub, 1) := dk_100 (dk_at dksX9_byteAt_0 12 rfl rfl)
theorem dX9_byteAt_13 : decode cX9_byteAt 13 = .ok (.invokestatic 75, 3) := dk_184 0 75 (dk_at dksX9_byteAt_0 13 rfl rfl)
theorem dX9_byteAt_16 : decode cX9_byteAt 16 = .ok (.ifCond .eq 12, 3) := dk_153 0 12 (dk_at dksX9_byteAt_0 16 rfl rfl)
theorem dX9_byteAt_19 : decode cX9_byteAt 19 = .ok (.aload_n 0, 1) := dk_42 (dk_at dksX9_byteAt_0 19 rfl rfl)
theorem dX9_byteAt_20 : decode cX9_byteAt 20 = .ok (.getfield 145, 3) := dk_180 0 145 (dk_at dksX9_byteAt_0 20 rfl rfl)
theorem dX9_byteAt_23 : decode cX9_byteAt 23 = .ok (.iload_n 1, 1) := dk_27 (dk_at dksX9_byteAt_0 23 rfl rfl)
theorem dX9_byteAt_24 : decode cX9_byteAt 24 = .ok (.iaload, 1) := dk_46 (dk_at dksX9_byteAt_1 0 rfl rfl)
theorem dX9_byteAt_25 : decode cX9_byteAt 25 = .ok (.goto 4, 3) := dk_167 0 4 (dk_at dksX9_byteAt_1 1 rfl rfl)
theorem dX9_byteAt_28 : decode cX9_byteAt 28 = .ok (.iconst (-1), 1) := dk_2 (dk_at dksX9_byteAt_1 4 rfl rfl)
theorem dX9_byteAt_29 : decode cX9_byteAt 29 = .ok (.ireturn, 1) := dk_172 (dk_at dksX9_byteAt_1 5 rfl rfl)
abbrev cX9_drawn : ByteArray := prog_22_method_102_code
def yX9_drawn : MethodName := ⟨RX9, "drawn", "(II)I"⟩
def dkwX9_drawn_1 : List UInt8 := [17, 1, 144, 160, 0, 5, 3, 172, 42, 182, 1, 23, 42, 27, 28, 182, 1, 104, 172]
abbrev dktX9_drawn_1 : List UInt8 := dkwX9_drawn_1 ++ []
def dkwX9_drawn_0 : List UInt8 := [42, 3, 181, 0, 1, 27, 4, 16, 60, 184, 0, 75, 154, 0, 5, 2, 172, 42, 180, 0, 98, 16, 24, 46]
abbrev dktX9_drawn_0 : List UInt8 := dkwX9_drawn_0 ++ dktX9_drawn_1
theorem dksX9_drawn_0 : cX9_drawn.data.toList.drop 0 = dktX9_drawn_0 := by decide +kernel
theorem dksX9_drawn_1 : cX9_drawn.data.toList.drop 24 = dktX9_drawn_1 := dk_seg dksX9_drawn_0 24 rfl rfl
theorem dX9_drawn_0 : decode cX9_drawn 0 = .ok (.aload_n 0, 1) := dk_42 (dk_at dksX9_drawn_0 0 rfl rfl)
theorem dX9_drawn_1 : decode cX9_drawn 1 = .ok (.iconst 0, 1) := dk_3 (dk_at dksX9_drawn_0 1 rfl rfl)
theorem dX9_drawn_2 : decode cX9_drawn 2 = .ok (.putfield 1, 3) := dk_181 0 1 (dk_at dksX9_drawn_0 2 rfl rfl)
theorem dX9_drawn_5 : decode cX9_drawn 5 = .ok (.iload_n 1, 1) := dk_27 (dk_at dksX9_drawn_0 5 rfl rfl)
theorem dX9_drawn_6 : decode cX9_drawn 6 = .ok (.iconst 1, 1) := dk_4 (dk_at dksX9_drawn_0 6 rfl rfl)
theorem dX9_drawn_7 : decode cX9_drawn 7 = .ok (.bipush 60, 2) := dk_16 60 (dk_at dksX9_drawn_0 7 rfl rfl)
theorem dX9_drawn_9 : decode cX9_drawn 9 = .ok (.invokestatic 75, 3) := dk_184 0 75 (dk_at dksX9_drawn_0 9 rfl rfl)
theorem dX9_drawn_12 : decode cX9_drawn 12 = .ok (.ifCond .ne 5, 3) := dk_154 0 5 (dk_at dksX9_drawn_0 12 rfl rfl)
theorem dX9_drawn_15 : decode cX9_drawn 15 = .ok (.iconst (-1), 1) := dk_2 (dk_at dksX9_drawn_0 15 rfl rfl)
theorem dX9_drawn_16 : decode cX9_drawn 16 = .ok (.ireturn, 1) := dk_172 (dk_at dksX9_drawn_0 16 rfl rfl)
theorem dX9_drawn_17 : decode cX9_drawn 17 = .ok (.aload_n 0, 1) := dk_42 (dk_at dksX9_drawn_0 17 rfl rfl)
theorem dX9_drawn_18 : decode cX9_drawn 18 = .ok (.getfield 98, 3) := dk_180 0 98 (dk_at dksX9_drawn_0 18 rfl rfl)
theorem dX9_drawn_21 : decode cX9_drawn 21 = .ok (.bipush 24, 2) := dk_16 24 (dk_at dksX9_drawn_0 21 rfl rfl)
theorem dX9_drawn_23 : decode cX9_drawn 23 = .ok (.iaload, 1) := dk_46 (dk_at dksX9_drawn_0 23 rfl rfl)
theorem dX9_drawn_24 : decode cX9_drawn 24 = .ok (.sipush 400, 3) := dk_17 1 144 (dk_at dksX9_drawn_1 0 rfl rfl)
theorem dX9_drawn_27 : decode cX9_drawn 27 = .ok (.if_icmp .ne 5, 3) := dk_160 0 5 (dk_at dksX9_drawn_1 3 rfl rfl)
theorem dX9_drawn_30 : decode cX9_drawn 30 = .ok (.iconst 0, 1) := dk_3 (dk_at dksX9_drawn_1 6 rfl rfl)
theorem dX9_drawn_31 : decode cX9_drawn 31 = .ok (.ireturn, 1) := dk_172 (dk_at dksX9_drawn_1 7 rfl rfl)
theorem dX9_drawn_32 : decode cX9_drawn 32 = .ok (.aload_n 0, 1) := dk_42 (dk_at dksX9_drawn_1 8 rfl rfl)
theorem dX9_drawn_33 : decode cX9_drawn 33 = .ok (.invokevirtual 279, 3) := dk_182 1 23 (dk_at dksX9_drawn_1 9 rfl rfl)
theorem dX9_drawn_36 : decode cX9_drawn 36 = .ok (.aload_n 0, 1) := dk_42 (dk_at dksX9_drawn_1 12 rfl rfl)
theorem dX9_drawn_37 : decode cX9_drawn 37 = .ok (.iload_n 1, 1) := dk_27 (dk_at dksX9_drawn_1 13 rfl rfl)
theorem dX9_drawn_38 : decode cX9_drawn 38 = .ok (.iload_n 2, 1) := dk_28 (dk_at dksX9_drawn_1 14 rfl rfl)
theorem dX9_drawn_39 : decode cX9_drawn 39 = .ok (.invokevirtual 360, 3) := dk_182 1 104 (dk_at dksX9_drawn_1 15 rfl rfl)
theorem dX9_drawn_42 : decode cX9_drawn 42 = .ok (.ireturn, 1) := dk_172 (dk_at dksX9_drawn_1 18 rfl rfl)
abbrev cX9_drawDays : ByteArray := prog_22_method_101_code
def yX9_drawDays : MethodName := ⟨RX9, "drawDays", "(II)I"⟩
def dkwX9_drawDays_2 : List UInt8 := [182, 1, 101, 132, 5, 1, 167, 255, 236, 42, 182, 1, 43, 132, 4, 1, 167, 255, 217, 29, 172]
abbrev dktX9_drawDays_2 : List UInt8 := dkwX9_drawDays_2 ++ []
def dkwX9_drawDays_1 : List UInt8 := [21, 4, 29, 162, 0, 39, 3, 54, 5, 21, 5, 42, 180, 0, 98, 5, 46, 162, 0, 15, 42, 21, 5]
abbrev dktX9_drawDays_1 : List UInt8 := dkwX9_drawDays_1 ++ dktX9_drawDays_2
def dkwX9_drawDays_0 : List UInt8 := [42, 28, 181, 1, 94, 27, 17, 1, 144, 42, 180, 0, 98, 16, 24, 46, 100, 184, 1, 40, 62, 3, 54, 4]
abbrev dktX9_drawDays_0 : List UInt8 := dkwX9_drawDays_0 ++ dktX9_drawDays_1
theorem dksX9_drawDays_0 : cX9_drawDays.data.toList.drop 0 = dktX9_drawDays_0 := by decide +kernel
theorem dksX9_drawDays_1 : cX9_drawDays.data.toList.drop 24 = dktX9_drawDays_1 := dk_seg dksX9_drawDays_0 24 rfl rfl
theorem dksX9_drawDays_2 : cX9_drawDays.data.toList.drop 47 = dktX9_drawDays_2 := dk_seg dksX9_drawDays_1 23 rfl rfl
theorem dX9_drawDays_0 : decode cX9_drawDays 0 = .ok (.aload_n 0, 1) := dk_42 (dk_at dksX9_drawDays_0 0 rfl rfl)
theorem dX9_drawDays_1 : decode cX9_drawDays 1 = .ok (.iload_n 2, 1) := dk_28 (dk_at dksX9_drawDays_0 1 rfl rfl)
theorem dX9_drawDays_2 : decode cX9_drawDays 2 = .ok (.putfield 350, 3) := dk_181 1 94 (dk_at dksX9_drawDays_0 2 rfl rfl)
theorem dX9_drawDays_5 : decode cX9_drawDays 5 = .ok (.iload_n 1, 1) := dk_27 (dk_at dksX9_drawDays_0 5 rfl rfl)
theorem dX9_drawDays_6 : decode cX9_drawDays 6 = .ok (.sipush 400, 3) := dk_17 1 144 (dk_at dksX9_drawDays_0 6 rfl rfl)
theorem dX9_drawDays_9 : decode cX9_drawDays 9 = .ok (.aload_n 0, 1) := dk_42 (dk_at dksX9_drawDays_0 9 rfl rfl)
theorem dX9_drawDays_10 : decode cX9_drawDays 10 = .ok (.getfield 98, 3) := dk_180 0 98 (dk_at dksX9_drawDays_0 10 rfl rfl)
theorem dX9_drawDays_13 : decode cX9_drawDays 13 = .ok (.bipush 24, 2) := dk_16 24 (dk_at dksX9_drawDays_0 13 rfl rfl)
theorem dX9_drawDays_15 : decode cX9_drawDays 15 = .ok (.iaload, 1) := dk_46 (dk_at dksX9_drawDays_0 15 rfl rfl)
theorem dX9_drawDays_16 : decode cX9_drawDays 16 = .ok (.isub, 1) := dk_100 (dk_at dksX9_drawDays_0 16 rfl rfl)
theorem dX9_drawDays_17 : decode cX9_drawDays 17 = .ok (.invokestatic 296, 3) := dk_184 1 40 (dk_at dksX9_drawDays_0 17 rfl rfl)
theorem dX9_drawDays_20 : decode cX9_drawDays 20 = .ok (.istore_n 3, 1) := dk_62 (dk_at dksX9_drawDays_0 20 rfl rfl)
theorem dX9_drawDays_21 : decode cX9_drawDays 21 = .ok (.iconst 0, 1) := dk_3 (dk_at dksX9_drawDays_0 21 rfl rfl)
theorem dX9_drawDays_22 : decode cX9_drawDays 22 = .ok (.istore 4, 2) := dk_54 4 (dk_at dksX9_drawDays_0 22 rfl rfl)
theorem dX9_drawDays_24 : decode cX9_drawDays 24 = .ok (.iload 4, 2) := dk_21 4 (dk_at dksX9_drawDays_1 0 rfl rfl)
theorem dX9_drawDays_26 : decode cX9_drawDays 26 = .ok (.iload_n 3, 1) := dk_29 (dk_at dksX9_drawDays_1 2 rfl rfl)
theorem dX9_drawDays_27 : decode cX9_drawDays 27 = .ok (.if_icmp .ge 39, 3) := dk_162 0 39 (dk_at dksX9_drawDays_1 3 rfl rfl)
theorem dX9_drawDays_30 : decode cX9_drawDays 30 = .ok (.iconst 0, 1) := dk_3 (dk_at dksX9_drawDays_1 6 rfl rfl)
theorem dX9_drawDays_31 : decode cX9_drawDays 31 = .ok (.istore 5, 2) := dk_54 5 (dk_at dksX9_drawDays_1 7 rfl rfl)
theorem dX9_drawDays_33 : decode cX9_drawDays 33 = .ok (.iload 5, 2) := dk_21 5 (dk_at dksX9_drawDays_1 9 rfl rfl)
theorem dX9_drawDays_35 : decode cX9_drawDays 35 = .ok (.aload_n 0, 1) := dk_42 (dk_at dksX9_drawDays_1 11 rfl rfl)
theorem dX9_drawDays_36 : decode cX9_drawDays 36 = .ok (.getfield 98, 3) := dk_180 0 98 (dk_at dksX9_drawDays_1 12 rfl rfl)
theorem dX9_drawDays_39 : decode cX9_drawDays 39 = .ok (.iconst 2, 1) := dk_5 (dk_at dksX9_drawDays_1 15 rfl rfl)
theorem dX9_drawDays_40 : decode cX9_drawDays 40 = .ok (.iaload, 1) := dk_46 (dk_at dksX9_drawDays_1 16 rfl rfl)
theorem dX9_drawDays_41 : decode cX9_drawDays 41 = .ok (.if_icmp .ge 15, 3) := dk_162 0 15 (dk_at dksX9_drawDays_1 17 rfl rfl)
theorem dX9_drawDays_44 : decode cX9_drawDays 44 = .ok (.aload_n 0, 1) := dk_42 (dk_at dksX9_drawDays_1 20 rfl rfl)
theorem dX9_drawDays_45 : decode cX9_drawDays 45 = .ok (.iload 5, 2) := dk_21 5 (dk_at dksX9_drawDays_1 21 rfl rfl)
theorem dX9_drawDays_47 : decode cX9_drawDays 47 = .ok (.invokevirtual 357, 3) := dk_182 1 101 (dk_at dksX9_drawDays_2 0 rfl rfl)
theorem dX9_drawDays_50 : decode cX9_drawDays 50 = .ok (.iinc 5 1, 3) := dk_132 5 1 (dk_at dksX9_drawDays_2 3 rfl rfl)
theorem dX9_drawDays_53 : decode cX9_drawDays 53 = .ok (.goto (-20), 3) := dk_167 255 236 (dk_at dksX9_drawDays_2 6 rfl rfl)
theorem dX9_drawDays_56 : decode cX9_drawDays 56 = .ok (.aload_n 0, 1) := dk_42 (dk_at dksX9_drawDays_2 9 rfl rfl)
theorem dX9_drawDays_57 : decode cX9_drawDays 57 = .ok (.invokevirtual 299, 3) := dk_182 1 43 (dk_at dksX9_drawDays_2 10 rfl rfl)
theorem dX9_drawDays_60 : decode cX9_drawDays 60 = .ok (.iinc 4 1, 3) := dk_132 4 1 (dk_at dksX9_drawDays_2 13 rfl rfl)
theorem dX9_drawDays_63 : decode cX9_drawDays 63 = .ok (.goto (-39), 3) := dk_167 255 217 (dk_at dksX9_drawDays_2 16 rfl rfl)
theorem dX9_drawDays_66 : decode cX9_drawDays 66 = .ok (.iload_n 3, 1) := dk_29 (dk_at dksX9_drawDays_2 19 rfl rfl)
theorem dX9_drawDays_67 : decode cX9_drawDays 67 = .ok (.ireturn, 1) := dk_172 (dk_at dksX9_drawDays_2 20 rfl rfl)
abbrev cX9_drawsFor : ByteArray := prog_22_method_100_code
def yX9_drawsFor : MethodName := ⟨RX9, "drawsFor", "(I)V"⟩
def dkwX9_drawsFor_5 : List UInt8 := [5, 29, 42, 42, 180, 0, 98, 3, 46, 182, 1, 98, 3, 182, 1, 26, 177]
abbrev dktX9_drawsFor_5 : List UInt8 := dkwX9_drawsFor_5 ++ []
def dkwX9_drawsFor_4 : List UInt8 := [180, 0, 98, 4, 46, 182, 1, 98, 62, 28, 4, 160, 0, 12, 42, 4, 29, 3, 3, 182, 1, 26, 177, 42]
abbrev dktX9_drawsFor_4 : List UInt8 := dkwX9_drawsFor_4 ++ dktX9_drawsFor_5
def dkwX9_drawsFor_3 : List UInt8 := [28, 4, 159, 0, 8, 28, 5, 160, 0, 12, 42, 180, 0, 98, 4, 46, 154, 0, 4, 177, 42, 42]
abbrev dktX9_drawsFor_3 : List UInt8 := dkwX9_drawsFor_3 ++ dktX9_drawsFor_4
def dkwX9_drawsFor_2 : List UInt8 := [182, 1, 98, 54, 4, 42, 3, 27, 29, 182, 1, 19, 154, 0, 12, 42, 3, 27, 29, 21, 4, 182, 1, 26]
abbrev dktX9_drawsFor_2 : List UInt8 := dkwX9_drawsFor_2 ++ dktX9_drawsFor_3
def dkwX9_drawsFor_1 : List UInt8 := [3, 46, 158, 0, 45, 42, 42, 180, 0, 98, 6, 46, 182, 1, 98, 62, 42, 42, 180, 0, 98, 3, 46]
abbrev dktX9_drawsFor_1 : List UInt8 := dkwX9_drawsFor_1 ++ dktX9_drawsFor_2
def dkwX9_drawsFor_0 : List UInt8 := [42, 16, 6, 182, 1, 98, 61, 28, 154, 0, 63, 42, 180, 0, 98, 6, 46, 158, 0, 54, 42, 180, 0, 98]
abbrev dktX9_drawsFor_0 : List UInt8 := dkwX9_drawsFor_0 ++ dktX9_drawsFor_1
theorem dksX9_drawsFor_0 : cX9_drawsFor.data.toList.drop 0 = dktX9_drawsFor_0 := by decide +kernel
theorem dksX9_drawsFor_1 : cX9_drawsFor.data.toList.drop 24 = dktX9_drawsFor_1 := dk_seg dksX9_drawsFor_0 24 rfl rfl
theorem dksX9_drawsFor_2 : cX9_drawsFor.data.toList.drop 47 = dktX9_drawsFor_2 := dk_seg dksX9_drawsFor_1 23 rfl rfl
theorem dksX9_drawsFor_3 : cX9_drawsFor.data.toList.drop 71 = dktX9_drawsFor_3 := dk_seg dksX9_drawsFor_2 24 rfl rfl
theorem dksX9_drawsFor_4 : cX9_drawsFor.data.toList.drop 93 = dktX9_drawsFor_4 := dk_seg dksX9_drawsFor_3 22 rfl rfl
theorem dksX9_drawsFor_5 : cX9_drawsFor.data.toList.drop 117 = dktX9_drawsFor_5 := dk_seg dksX9_drawsFor_4 24 rfl rfl
theorem dX9_drawsFor_0 : decode cX9_drawsFor 0 = .ok (.aload_n 0, 1) := dk_42 (dk_at dksX9_drawsFor_0 0 rfl rfl)
theorem dX9_drawsFor_1 : decode cX9_drawsFor 1 = .ok (.bipush 6, 2) := dk_16 6 (dk_at dksX9_drawsFor_0 1 rfl rfl)
theorem dX9_drawsFor_3 : decode cX9_drawsFor 3 = .ok (.invokevirtual 354, 3) := dk_182 1 98 (dk_at dksX9_drawsFor_0 3 rfl rfl)
theorem dX9_drawsFor_6 : decode cX9_drawsFor 6 = .ok (.istore_n 2, 1) := dk_61 (dk_at dksX9_drawsFor_0 6 rfl rfl)
theorem dX9_drawsFor_7 : decode cX9_drawsFor 7 = .ok (.iload_n 2, 1) := dk_28 (dk_at dksX9_drawsFor_0 7 rfl rfl)
theorem dX9_drawsFor_8 : decode cX9_drawsFor 8 = .ok (.ifCond .ne 63, 3) := dk_154 0 63 (dk_at dksX9_drawsFor_0 8 rfl rfl)
theorem dX9_drawsFor_11 : decode cX9_drawsFor 11 = .ok (.aload_n 0, 1) := dk_42 (dk_at dksX9_drawsFor_0 11 rfl rfl)
theorem dX9_drawsFor_12 : decode cX9_drawsFor 12 = .ok (.getfield 98, 3) := dk_180 0 98 (dk_at dksX9_drawsFor_0 12 rfl rfl)
theorem dX9_drawsFor_15 : decode cX9_drawsFor 15 = .ok (.iconst 3, 1) := dk_6 (dk_at dksX9_drawsFor_0 15 rfl rfl)
theorem dX9_drawsFor_16 : decode cX9_drawsFor 16 = .ok (.iaload, 1) := dk_46 (dk_at dksX9_drawsFor_0 16 rfl rfl)
theorem dX9_drawsFor_17 : decode cX9_drawsFor 17 = .ok (.ifCond .le 54, 3) := dk_158 0 54 (dk_at dksX9_drawsFor_0 17 rfl rfl)
theorem dX9_drawsFor_20 : decode cX9_drawsFor 20 = .ok (.aload_n 0, 1) := dk_42 (dk_at dksX9_drawsFor_0 20 rfl rfl)
theorem dX9_drawsFor_21 : decode cX9_drawsFor 21 = .ok (.getfield 98, 3) := dk_180 0 98 (dk_at dksX9_drawsFor_0 21 rfl rfl)
theorem dX9_drawsFor_24 : decode cX9_drawsFor 24 = .ok (.iconst 0, 1) := dk_3 (dk_at dksX9_drawsFor_1 0 rfl rfl)
theorem dX9_drawsFor_25 : decode cX9_drawsFor 25 = .ok (.iaload, 1) := dk_46 (dk_at dksX9_drawsFor_1 1 rfl rfl)
theorem dX9_drawsFor_26 : decode cX9_drawsFor 26 = .ok (.ifCond .le 45, 3) := dk_158 0 45 (dk_at dksX9_drawsFor_1 2 rfl rfl)
theorem dX9_drawsFor_29 : decode cX9_drawsFor 29 = .ok (.aload_n 0, 1) := dk_42 (dk_at dksX9_drawsFor_1 5 rfl rfl)
theorem dX9_drawsFor_30 : decode cX9_drawsFor 30 = .ok (.aload_n 0, 1) := dk_42 (dk_at dksX9_drawsFor_1 6 rfl rfl)
theorem dX9_drawsFor_31 : decode cX9_drawsFor 31 = .ok (.getfield 98, 3) := dk_180 0 98 (dk_at dksX9_drawsFor_1 7 rfl rfl)
theorem dX9_drawsFor_34 : decode cX9_drawsFor 34 = .ok (.iconst 3, 1) := dk_6 (dk_at dksX9_drawsFor_1 10 rfl rfl)
theorem dX9_drawsFor_35 : decode cX9_drawsFor 35 = .ok (.iaload, 1) := dk_46 (dk_at dksX9_drawsFor_1 11 rfl rfl)
theorem dX9_drawsFor_36 : decode cX9_drawsFor 36 = .ok (.invokevirtual 354, 3) := dk_182 1 98 (dk_at dksX9_drawsFor_1 12 rfl rfl)
theorem dX9_drawsFor_39 : decode cX9_drawsFor 39 = .ok (.istore_n 3, 1) := dk_62 (dk_at dksX9_drawsFor_1 15 rfl rfl)
theorem dX9_drawsFor_40 : decode cX9_drawsFor 40 = .ok (.aload_n 0, 1) := dk_42 (dk_at dksX9_drawsFor_1 16 rfl rfl)
theorem dX9_drawsFor_41 : decode cX9_drawsFor 41 = .ok (.aload_n 0, 1) := dk_42 (dk_at dksX9_drawsFor_1 17 rfl rfl)
theorem dX9_drawsFor_42 : decode cX9_drawsFor 42 = .ok (.getfield 98, 3) := dk_180 0 98 (dk_at dksX9_drawsFor_1 18 rfl rfl)
theorem dX9_drawsFor_45 : decode cX9_drawsFor 45 = .ok (.iconst 0, 1) := dk_3 (dk_at dksX9_drawsFor_1 21 rfl rfl)
theorem dX9_drawsFor_46 : decode cX9_drawsFor 46 = .ok (.iaload, 1) := dk_46 (dk_at dksX9_drawsFor_1 22 rfl rfl)
theorem dX9_drawsFor_47 : decode cX9_drawsFor 47 = .ok (.invokevirtual 354, 3) := dk_182 1 98 (dk_at dksX9_drawsFor_2 0 rfl rfl)
theorem dX9_drawsFor_50 : decode cX9_drawsFor 50 = .ok (.istore 4, 2) := dk_54 4 (dk_at dksX9_drawsFor_2 3 rfl rfl)
theorem dX9_drawsFor_52 : decode cX9_drawsFor 52 = .ok (.aload_n 0, 1) := dk_42 (dk_at dksX9_drawsFor_2 5 rfl rfl)
theorem dX9_drawsFor_53 : decode cX9_drawsFor 53 = .ok (.iconst 0, 1) := dk_3 (dk_at dksX9_drawsFor_2 6 rfl rfl)
theorem dX9_drawsFor_54 : decode cX9_drawsFor 54 = .ok (.iload_n 1, 1) := dk_27 (dk_at dksX9_drawsFor_2 7 rfl rfl)
theorem dX9_drawsFor_55 : decode cX9_drawsFor 55 = .ok (.iload_n 3, 1) := dk_29 (dk_at dksX9_drawsFor_2 8 rfl rfl)
theorem dX9_drawsFor_56 : decode cX9_drawsFor 56 = .ok (.invokevirtual 275, 3) := dk_182 1 19 (dk_at dksX9_drawsFor_2 9 rfl rfl)
theorem dX9_drawsFor_59 : decode cX9_drawsFor 59 = .ok (.ifCond .ne 12, 3) := dk_154 0 12 (dk_at dksX9_drawsFor_2 12 rfl rfl)
theorem dX9_drawsFor_62 : decode cX9_drawsFor 62 = .ok (.aload_n 0, 1) := dk_42 (dk_at dksX9_drawsFor_2 15 rfl rfl)
theorem dX9_drawsFor_63 : decode cX9_drawsFor 63 = .ok (.iconst 0, 1) := dk_3 (dk_at dksX9_drawsFor_2 16 rfl rfl)
theorem dX9_drawsFor_64 : decode cX9_drawsFor 64 = .ok (.iload_n 1, 1) := dk_27 (dk_at dksX9_drawsFor_2 17 rfl rfl)
theorem dX9_drawsFor_65 : decode cX9_drawsFor 65 = .ok (.iload_n 3, 1) := dk_29 (dk_at dksX9_drawsFor_2 18 rfl rfl)
theorem dX9_drawsFor_66 : decode cX9_drawsFor 66 = .ok (.iload 4, 2) := dk_21 4 (dk_at dksX9_drawsFor_2 19 rfl rfl)
theorem dX9_drawsFor_68 : decode cX9_drawsFor 68 = .ok (.invokevirtual 282, 3) := dk_182 1 26 (dk_at dksX9_drawsFor_2 21 rfl rfl)
theorem dX9_drawsFor_71 : decode cX9_drawsFor 71 = .ok (.iload_n 2, 1) := dk_28 (dk_at dksX9_drawsFor_3 0 rfl rfl)
theorem dX9_drawsFor_72 : decode cX9_drawsFor 72 = .ok (.iconst 1, 1) := dk_4 (dk_at dksX9_drawsFor_3 1 rfl rfl)
theorem dX9_drawsFor_73 : decode cX9_drawsFor 73 = .ok (.if_icmp .eq 8, 3) := dk_159 0 8 (dk_at dksX9_drawsFor_3 2 rfl rfl)
theorem dX9_drawsFor_76 : decode cX9_drawsFor 76 = .ok (.iload_n 2, 1) := dk_28 (dk_at dksX9_drawsFor_3 5 rfl rfl)
theorem dX9_drawsFor_77 : decode cX9_drawsFor 77 = .ok (.iconst 2, 1) := dk_5 (dk_at dksX9_drawsFor_3 6 rfl rfl)
theorem dX9_drawsFor_78 : decode cX9_drawsFor 78 = .ok (.if_icmp .ne 12, 3) := dk_160 0 12 (dk_at dksX9_drawsFor_3 7 rfl rfl)
theorem dX9_drawsFor_81 : decode cX9_drawsFor 81 = .ok (.aload_n 0, 1) := dk_42 (dk_at dksX9_drawsFor_3 10 rfl rfl)
theorem dX9_drawsFor_82 : decode cX9_drawsFor 82 = .ok (.getfield 98, 3) := dk_180 0 98 (dk_at dksX9_drawsFor_3 11 rfl rfl)
theorem dX9_drawsFor_85 : decode cX9_drawsFor 85 = .ok (.iconst 1, 1) := dk_4 (dk_at dksX9_drawsFor_3 14 rfl rfl)
theorem dX9_drawsFor_86 : decode cX9_drawsFor 86 = .ok (.iaload, 1) := dk_46 (dk_at dksX9_drawsFor_3 15 rfl rfl)
theorem dX9_drawsFor_87 : decode cX9_drawsFor 87 = .ok (.ifCond .ne 4, 3) := dk_154 0 4 (dk_at dksX9_drawsFor_3 16 rfl rfl)
theorem dX9_drawsFor_90 : decode cX9_drawsFor 90 = .ok (.return_, 1) := dk_177 (dk_at dksX9_drawsFor_3 19 rfl rfl)
theorem dX9_drawsFor_91 : decode cX9_drawsFor 91 = .ok (.aload_n 0, 1) := dk_42 (dk_at dksX9_drawsFor_3 20 rfl rfl)
theorem dX9_drawsFor_92 : decode cX9_drawsFor 92 = .ok (.aload_n 0, 1) := dk_42 (dk_at dksX9_drawsFor_3 21 rfl rfl)
theorem dX9_drawsFor_93 : decode cX9_drawsFor 93 = .ok (.getfield 98, 3) := dk_180 0 98 (dk_at dksX9_drawsFor_4 0 rfl rfl)
theorem dX9_drawsFor_96 : decode cX9_drawsFor 96 = .ok (.iconst 1, 1) := dk_4 (dk_at dksX9_drawsFor_4 3 rfl rfl)
theorem dX9_drawsFor_97 : decode cX9_drawsFor 97 = .ok (.iaload, 1) := dk_46 (dk_at dksX9_drawsFor_4 4 rfl rfl)
theorem dX9_drawsFor_98 : decode cX9_drawsFor 98 = .ok (.invokevirtual 354, 3) := dk_182 1 98 (dk_at dksX9_drawsFor_4 5 rfl rfl)
theorem dX9_drawsFor_101 : decode cX9_drawsFor 101 = .ok (.istore_n 3, 1) := dk_62 (dk_at dksX9_drawsFor_4 8 rfl rfl)
theorem dX9_drawsFor_102 : decode cX9_drawsFor 102 = .ok (.iload_n 2, 1) := dk_28 (dk_at dksX9_drawsFor_4 9 rfl rfl)
theorem dX9_drawsFor_103 : decode cX9_drawsFor 103 = .ok (.iconst 1, 1) := dk_4 (dk_at dksX9_drawsFor_4 10 rfl rfl)
theorem dX9_drawsFor_104 : decode cX9_drawsFor 104 = .ok (.if_icmp .ne 12, 3) := dk_160 0 12 (dk_at dksX9_drawsFor_4 11 rfl rfl)
theorem dX9_drawsFor_107 : decode cX9_drawsFor 107 = .ok (.aload_n 0, 1) := dk_42 (dk_at dksX9_drawsFor_4 14 rfl rfl)
theorem dX9_drawsFor_108 : decode cX9_drawsFor 108 = .ok (.iconst 1, 1) := dk_4 (dk_at dksX9_drawsFor_4 15 rfl rfl)
theorem dX9_drawsFor_109 : decode cX9_drawsFor 109 = .ok (.iload_n 3, 1) := dk_29 (dk_at dksX9_drawsFor_4 16 rfl rfl)
theorem dX9_drawsFor_110 : decode cX9_drawsFor 110 = .ok (.iconst 0, 1) := dk_3 (dk_at dksX9_drawsFor_4 17 rfl rfl)
theorem dX9_drawsFor_111 : decode cX9_drawsFor 111 = .ok (.iconst 0, 1) := dk_3 (dk_at dksX9_drawsFor_4 18 rfl rfl)
theorem dX9_drawsFor_112 : decode cX9_drawsFor 112 = .ok (.invokevirtual 282, 3) := dk_182 1 26 (dk_at dksX9_drawsFor_4 19 rfl rfl)
theorem dX9_drawsFor_115 : decode cX9_drawsFor 115 = .ok (.return_, 1) := dk_177 (dk_at dksX9_drawsFor_4 22 rfl rfl)
theorem dX9_drawsFor_116 : decode cX9_drawsFor 116 = .ok (.aload_n 0, 1) := dk_42 (dk_at dksX9_drawsFor_4 23 rfl rfl)
theorem dX9_drawsFor_117 : decode cX9_drawsFor 117 = .ok (.iconst 2, 1) := dk_5 (dk_at dksX9_drawsFor_5 0 rfl rfl)
theorem dX9_drawsFor_118 : decode cX9_drawsFor 118 = .ok (.iload_n 3, 1) := dk_29 (dk_at dksX9_drawsFor_5 1 rfl rfl)
theorem dX9_drawsFor_119 : decode cX9_drawsFor 119 = .ok (.aload_n 0, 1) := dk_42 (dk_at dksX9_drawsFor_5 2 rfl rfl)
theorem dX9_drawsFor_120 : decode cX9_drawsFor 120 = .ok (.aload_n 0, 1) := dk_42 (dk_at dksX9_drawsFor_5 3 rfl rfl)
theorem dX9_drawsFor_121 : decode cX9_drawsFor 121 = .ok (.getfield 98, 3) := dk_180 0 98 (dk_at dksX9_drawsFor_5 4 rfl rfl)
theorem dX9_drawsFor_124 : decode cX9_drawsFor 124 = .ok (.iconst 0, 1) := dk_3 (dk_at dksX9_drawsFor_5 7 rfl rfl)
theorem dX9_drawsFor_125 : decode cX9_drawsFor 125 = .ok (.iaload, 1) := dk_46 (dk_at dksX9_drawsFor_5 8 rfl rfl)
theorem dX9_drawsFor_126 : decode cX9_drawsFor 126 = .ok (.invokevirtual 354, 3) := dk_182 1 98 (dk_at dksX9_drawsFor_5 9 rfl rfl)
theorem dX9_drawsFor_129 : decode cX9_drawsFor 129 = .ok (.iconst 0, 1) := dk_3 (dk_at dksX9_drawsFor_5 12 rfl rfl)
theorem dX9_drawsFor_130 : decode cX9_drawsFor 130 = .ok (.invokevirtual 282, 3) := dk_182 1 26 (dk_at dksX9_drawsFor_5 13 rfl rfl)
theorem dX9_drawsFor_133 : decode cX9_drawsFor 133 = .ok (.return_, 1) := dk_177 (dk_at dksX9_drawsFor_5 16 rfl rfl)
abbrev cX9_draw : ByteArray := prog_22_method_99_code
def yX9_draw : MethodName := ⟨RX9, "draw", "(I)I"⟩
def dkwX9_draw_1 : List UInt8 := [112, 172]
abbrev dktX9_draw_1 : List UInt8 := dkwX9_draw_1 ++ []
def dkwX9_draw_0 : List UInt8 := [42, 42, 180, 1, 94, 19, 1, 97, 104, 17, 48, 57, 96, 181, 1, 94, 42, 180, 1, 94, 16, 8, 124, 27]
abbrev dktX9_draw_0 : List UInt8 := dkwX9_draw_0 ++ dktX9_draw_1
theorem dksX9_draw_0 : cX9_draw.data.toList.drop 0 = dktX9_draw_0 := by decide +kernel
theorem dksX9_draw_1 : cX9_draw.data.toList.drop 24 = dktX9_draw_1 := dk_seg dksX9_draw_0 24 rfl rfl
theorem dX9_draw_0 : decode cX9_draw 0 = .ok (.aload_n 0, 1) := dk_42 (dk_at dksX9_draw_0 0 rfl rfl)
theorem dX9_draw_1 : decode cX9_draw 1 = .ok (.aload_n 0, 1) := dk_42 (dk_at dksX9_draw_0 1 rfl rfl)
theorem dX9_draw_2 : decode cX9_draw 2 = .ok (.getfield 350, 3) := dk_180 1 94 (dk_at dksX9_draw_0 2 rfl rfl)
theorem dX9_draw_5 : decode cX9_draw 5 = .ok (.ldc_w 353, 3) := dk_19 1 97 (dk_at dksX9_draw_0 5 rfl rfl)
theorem dX9_draw_8 : decode cX9_draw 8 = .ok (.imul, 1) := dk_104 (dk_at dksX9_draw_0 8 rfl rfl)
theorem dX9_draw_9 : decode cX9_draw 9 = .ok (.sipush 12345, 3) := dk_17 48 57 (dk_at dksX9_draw_0 9 rfl rfl)
theorem dX9_draw_12 : decode cX9_draw 12 = .ok (.iadd, 1) := dk_96 (dk_at dksX9_draw_0 12 rfl rfl)
theorem dX9_draw_13 : decode cX9_draw 13 = .ok (.putfield 350, 3) := dk_181 1 94 (dk_at dksX9_draw_0 13 rfl rfl)
theorem dX9_draw_16 : decode cX9_draw 16 = .ok (.aload_n 0, 1) := dk_42 (dk_at dksX9_draw_0 16 rfl rfl)
theorem dX9_draw_17 : decode cX9_draw 17 = .ok (.getfield 350, 3) := dk_180 1 94 (dk_at dksX9_draw_0 17 rfl rfl)
theorem dX9_draw_20 : decode cX9_draw 20 = .ok (.bipush 8, 2) := dk_16 8 (dk_at dksX9_draw_0 20 rfl rfl)
theorem dX9_draw_22 : decode cX9_draw 22 = .ok (.iushr, 1) := dk_124 (dk_at dksX9_draw_0 22 rfl rfl)
theorem dX9_draw_23 : decode cX9_draw 23 = .ok (.iload_n 1, 1) := dk_27 (dk_at dksX9_draw_0 23 rfl rfl)
theorem dX9_draw_24 : decode cX9_draw 24 = .ok (.irem, 1) := dk_112 (dk_at dksX9_draw_1 0 rfl rfl)
theorem dX9_draw_25 : decode cX9_draw 25 = .ok (.ireturn, 1) := dk_172 (dk_at dksX9_draw_1 1 rfl rfl)
abbrev cX9_odds : ByteArray := prog_22_method_106_code
def yX9_odds : MethodName := ⟨RX9, "odds", "(III)I"⟩
def dkwX9_odds_3 : List UInt8 := [167, 255, 221, 21, 4, 172]
abbrev dktX9_odds_3 : List UInt8 := dkwX9_odds_3 ++ []
def dkwX9_odds_2 : List UInt8 := [182, 1, 104, 87, 42, 27, 182, 1, 110, 153, 0, 6, 132, 4, 1, 42, 182, 1, 113, 132, 5, 1]
abbrev dktX9_odds_2 : List UInt8 := dkwX9_odds_2 ++ dktX9_odds_3
def dkwX9_odds_1 : List UInt8 := [172, 42, 182, 1, 107, 3, 54, 4, 3, 54, 5, 21, 5, 28, 162, 0, 35, 42, 16, 20, 29, 21, 5, 96]
abbrev dktX9_odds_1 : List UInt8 := dkwX9_odds_1 ++ dktX9_odds_2
def dkwX9_odds_0 : List UInt8 := [42, 3, 181, 0, 1, 42, 27, 182, 1, 30, 153, 0, 13, 28, 4, 16, 30, 184, 0, 75, 154, 0, 5, 2]
abbrev dktX9_odds_0 : List UInt8 := dkwX9_odds_0 ++ dktX9_odds_1
theorem dksX9_odds_0 : cX9_odds.data.toList.drop 0 = dktX9_odds_0 := by decide +kernel
theorem dksX9_odds_1 : cX9_odds.data.toList.drop 24 = dktX9_odds_1 := dk_seg dksX9_odds_0 24 rfl rfl
theorem dksX9_odds_2 : cX9_odds.data.toList.drop 48 = dktX9_odds_2 := dk_seg dksX9_odds_1 24 rfl rfl
theorem dksX9_odds_3 : cX9_odds.data.toList.drop 70 = dktX9_odds_3 := dk_seg dksX9_odds_2 22 rfl rfl
theorem dX9_odds_0 : decode cX9_odds 0 = .ok (.aload_n 0, 1) := dk_42 (dk_at dksX9_odds_0 0 rfl rfl)
theorem dX9_odds_1 : decode cX9_odds 1 = .ok (.iconst 0, 1) := dk_3 (dk_at dksX9_odds_0 1 rfl rfl)
theorem dX9_odds_2 : decode cX9_odds 2 = .ok (.putfield 1, 3) := dk_181 0 1 (dk_at dksX9_odds_0 2 rfl rfl)
theorem dX9_odds_5 : decode cX9_odds 5 = .ok (.aload_n 0, 1) := dk_42 (dk_at dksX9_odds_0 5 rfl rfl)
theorem dX9_odds_6 : decode cX9_odds 6 = .ok (.iload_n 1, 1) := dk_27 (dk_at dksX9_odds_0 6 rfl rfl)
theorem dX9_odds_7 : decode cX9_odds 7 = .ok (.invokevirtual 286, 3) := dk_182 1 30 (dk_at dksX9_odds_0 7 rfl rfl)
theorem dX9_odds_10 : decode cX9_odds 10 = .ok (.ifCond .eq 13, 3) := dk_153 0 13 (dk_at dksX9_odds_0 10 rfl rfl)
theorem dX9_odds_13 : decode cX9_odds 13 = .ok (.iload_n 2, 1) := dk_28 (dk_at dksX9_odds_0 13 rfl rfl)
theorem dX9_odds_14 : decode cX9_odds 14 = .ok (.iconst 1, 1) := dk_4 (dk_at dksX9_odds_0 14 rfl rfl)
theorem dX9_odds_15 : decode cX9_odds 15 = .ok (.bipush 30, 2) := dk_16 30 (dk_at dksX9_odds_0 15 rfl rfl)
theorem dX9_odds_17 : decode cX9_odds 17 = .ok (.invokestatic 75, 3) := dk_184 0 75 (dk_at dksX9_odds_0 17 rfl rfl)
theorem dX9_odds_20 : decode cX9_odds 20 = .ok (.ifCond .ne 5, 3) := dk_154 0 5 (dk_at dksX9_odds_0 20 rfl rfl)
theorem dX9_odds_23 : decode cX9_odds 23 = .ok (.iconst (-1), 1) := dk_2 (dk_at dksX9_odds_0 23 rfl rfl)
theorem dX9_odds_24 : decode cX9_odds 24 = .ok (.ireturn, 1) := dk_172 (dk_at dksX9_odds_1 0 rfl rfl)
theorem dX9_odds_25 : decode cX9_odds 25 = .ok (.aload_n 0, 1) := dk_42 (dk_at dksX9_odds_1 1 rfl rfl)
theorem dX9_odds_26 : decode cX9_odds 26 = .ok (.invokevirtual 363, 3) := dk_182 1 107 (dk_at dksX9_odds_1 2 rfl rfl)
theorem dX9_odds_29 : decode cX9_odds 29 = .ok (.iconst 0, 1) := dk_3 (dk_at dksX9_odds_1 5 rfl rfl)
theorem dX9_odds_30 : decode cX9_odds 30 = .ok (.istore 4, 2) := dk_54 4 (dk_at dksX9_odds_1 6 rfl rfl)
theorem dX9_odds_32 : decode cX9_odds 32 = .ok (.iconst 0, 1) := dk_3 (dk_at dksX9_odds_1 8 rfl rfl)
theorem dX9_odds_33 : decode cX9_odds 33 = .ok (.istore 5, 2) := dk_54 5 (dk_at dksX9_odds_1 9 rfl rfl)
theorem dX9_odds_35 : decode cX9_odds 35 = .ok (.iload 5, 2) := dk_21 5 (dk_at dksX9_odds_1 11 rfl rfl)
theorem dX9_odds_37 : decode cX9_odds 37 = .ok (.iload_n 2, 1) := dk_28 (dk_at dksX9_odds_1 13 rfl rfl)
theorem dX9_odds_38 : decode cX9_odds 38 = .ok (.if_icmp .ge 35, 3) := dk_162 0 35 (dk_at dksX9_odds_1 14 rfl rfl)
theorem dX9_odds_41 : decode cX9_odds 41 = .ok (.aload_n 0, 1) := dk_42 (dk_at dksX9_odds_1 17 rfl rfl)
theorem dX9_odds_42 : decode cX9_odds 42 = .ok (.bipush 20, 2) := dk_16 20 (dk_at dksX9_odds_1 18 rfl rfl)
theorem dX9_odds_44 : decode cX9_odds 44 = .ok (.iload_n 3, 1) := dk_29 (dk_at dksX9_odds_1 20 rfl rfl)
theorem dX9_odds_45 : decode cX9_odds 45 = .ok (.iload 5, 2) := dk_21 5 (dk_at dksX9_odds_1 21 rfl rfl)
theorem dX9_odds_47 : decode cX9_odds 47 = .ok (.iadd, 1) := dk_96 (dk_at dksX9_odds_1 23 rfl rfl)
theorem dX9_odds_48 : decode cX9_odds 48 = .ok (.invokevirtual 360, 3) := dk_182 1 104 (dk_at dksX9_odds_2 0 rfl rfl)
theorem dX9_odds_51 : decode cX9_odds 51 = .ok (.pop, 1) := dk_87 (dk_at dksX9_odds_2 3 rfl rfl)
theorem dX9_odds_52 : decode cX9_odds 52 = .ok (.aload_n 0, 1) := dk_42 (dk_at dksX9_odds_2 4 rfl rfl)
theorem dX9_odds_53 : decode cX9_odds 53 = .ok (.iload_n 1, 1) := dk_27 (dk_at dksX9_odds_2 5 rfl rfl)
theorem dX9_odds_54 : decode cX9_odds 54 = .ok (.invokevirtual 366, 3) := dk_182 1 110 (dk_at dksX9_odds_2 6 rfl rfl)
theorem dX9_odds_57 : decode cX9_odds 57 = .ok (.ifCond .eq 6, 3) := dk_153 0 6 (dk_at dksX9_odds_2 9 rfl rfl)
theorem dX9_odds_60 : decode cX9_odds 60 = .ok (.iinc 4 1, 3) := dk_132 4 1 (dk_at dksX9_odds_2 12 rfl rfl)
theorem dX9_odds_63 : decode cX9_odds 63 = .ok (.aload_n 0, 1) := dk_42 (dk_at dksX9_odds_2 15 rfl rfl)
theorem dX9_odds_64 : decode cX9_odds 64 = .ok (.invokevirtual 369, 3) := dk_182 1 113 (dk_at dksX9_odds_2 16 rfl rfl)
theorem dX9_odds_67 : decode cX9_odds 67 = .ok (.iinc 5 1, 3) := dk_132 5 1 (dk_at dksX9_odds_2 19 rfl rfl)
theorem dX9_odds_70 : decode cX9_odds 70 = .ok (.goto (-35), 3) := dk_167 255 221 (dk_at dksX9_odds_3 0 rfl rfl)
theorem dX9_odds_73 : decode cX9_odds 73 = .ok (.iload 4, 2) := dk_21 4 (dk_at dksX9_odds_3 3 rfl rfl)
theorem dX9_odds_75 : decode cX9_odds 75 = .ok (.ireturn, 1) := dk_172 (dk_at dksX9_odds_3 5 rfl rfl)
abbrev cX9_layAside : ByteArray := prog_22_method_103_code
def yX9_layAside : MethodName := ⟨RX9, "layAside", "()V"⟩
def dkwX9_layAside_1 : List UInt8 := [132, 1, 1, 167, 255, 231, 177]
abbrev dktX9_layAside_1 : List UInt8 := dkwX9_layAside_1 ++ []
def dkwX9_layAside_0 : List UInt8 := [3, 60, 27, 17, 0, 140, 162, 0, 24, 42, 180, 0, 110, 27, 42, 180, 0, 98, 16, 24, 27, 96, 46, 79]
abbrev dktX9_layAside_0 : List UInt8 := dkwX9_layAside_0 ++ dktX9_layAside_1
theorem dksX9_layAside_0 : cX9_layAside.data.toList.drop 0 = dktX9_layAside_0 := by decide +kernel
theorem dksX9_layAside_1 : cX9_layAside.data.toList.drop 24 = dktX9_layAside_1 := dk_seg dksX9_layAside_0 24 rfl rfl
theorem dX9_layAside_0 : decode cX9_layAside 0 = .ok (.iconst 0, 1) := dk_3 (dk_at dksX9_layAside_0 0 rfl rfl)
theorem dX9_layAside_1 : decode cX9_layAside 1 = .ok (.istore_n 1, 1) := dk_60 (dk_at dksX9_layAside_0 1 rfl rfl)
theorem dX9_layAside_2 : decode cX9_layAside 2 = .ok (.iload_n 1, 1) := dk_27 (dk_at dksX9_layAside_0 2 rfl rfl)
theorem dX9_layAside_3 : decode cX9_layAside 3 = .ok (.sipush 140, 3) := dk_17 0 140 (dk_at dksX9_layAside_0 3 rfl rfl)
theorem dX9_layAside_6 : decode cX9_layAside 6 = .ok (.if_icmp .ge 24, 3) := dk_162 0 24 (dk_at dksX9_layAside_0 6 rfl rfl)
theorem dX9_layAside_9 : decode cX9_layAside 9 = .ok (.aload_n 0, 1) := dk_42 (dk_at dksX9_layAside_0 9 rfl rfl)
theorem dX9_layAside_10 : decode cX9_layAside 10 = .ok (.getfield 110, 3) := dk_180 0 110 (dk_at dksX9_layAside_0 10 rfl rfl)
theorem dX9_layAside_13 : decode cX9_layAside 13 = .ok (.iload_n 1, 1) := dk_27 (dk_at dksX9_layAside_0 13 rfl rfl)
theorem dX9_layAside_14 : decode cX9_layAside 14 = .ok (.aload_n 0, 1) := dk_42 (dk_at dksX9_layAside_0 14 rfl rfl)
theorem dX9_layAside_15 : decode cX9_layAside 15 = .ok (.getfield 98, 3) := dk_180 0 98 (dk_at dksX9_layAside_0 15 rfl rfl)
theorem dX9_layAside_18 : decode cX9_layAside 18 = .ok (.bipush 24, 2) := dk_16 24 (dk_at dksX9_layAside_0 18 rfl rfl)
theorem dX9_layAside_20 : decode cX9_layAside 20 = .ok (.iload_n 1, 1) := dk_27 (dk_at dksX9_layAside_0 20 rfl rfl)
theorem dX9_layAside_21 : decode cX9_layAside 21 = .ok (.iadd, 1) := dk_96 (dk_at dksX9_layAside_0 21 rfl rfl)
theorem dX9_layAside_22 : decode cX9_layAside 22 = .ok (.iaload, 1) := dk_46 (dk_at dksX9_layAside_0 22 rfl rfl)
theorem dX9_layAside_23 : decode cX9_layAside 23 = .ok (.iastore, 1) := dk_79 (dk_at dksX9_layAside_0 23 rfl rfl)
theorem dX9_layAside_24 : decode cX9_layAside 24 = .ok (.iinc 1 1, 3) := dk_132 1 1 (dk_at dksX9_layAside_1 0 rfl rfl)
theorem dX9_layAside_27 : decode cX9_layAside 27 = .ok (.goto (-25), 3) := dk_167 255 231 (dk_at dksX9_layAside_1 3 rfl rfl)
theorem dX9_layAside_30 : decode cX9_layAside 30 = .ok (.return_, 1) := dk_177 (dk_at dksX9_layAside_1 6 rfl rfl)
abbrev cX9_isProvedOf : ByteArray := prog_22_method_105_code
def yX9_isProvedOf : MethodName := ⟨RX9, "isProvedOf", "(I)Z"⟩
def dkwX9_isProvedOf_1 : List UInt8 := [160, 0, 13, 42, 28, 182, 0, 241, 153, 0, 5, 4, 172, 132, 2, 1, 167, 255, 219, 3, 172]
abbrev dktX9_isProvedOf_1 : List UInt8 := dkwX9_isProvedOf_1 ++ []
def dkwX9_isProvedOf_0 : List UInt8 := [3, 61, 28, 42, 180, 0, 98, 16, 25, 46, 162, 0, 32, 42, 180, 0, 98, 16, 38, 28, 96, 46, 27]
abbrev dktX9_isProvedOf_0 : List UInt8 := dkwX9_isProvedOf_0 ++ dktX9_isProvedOf_1
theorem dksX9_isProvedOf_0 : cX9_isProvedOf.data.toList.drop 0 = dktX9_isProvedOf_0 := by decide +kernel
theorem dksX9_isProvedOf_1 : cX9_isProvedOf.data.toList.drop 23 = dktX9_isProvedOf_1 := dk_seg dksX9_isProvedOf_0 23 rfl rfl
theorem dX9_isProvedOf_0 : decode cX9_isProvedOf 0 = .ok (.iconst 0, 1) := dk_3 (dk_at dksX9_isProvedOf_0 0 rfl rfl)
theorem dX9_isProvedOf_1 : decode cX9_isProvedOf 1 = .ok (.istore_n 2, 1) := dk_61 (dk_at dksX9_isProvedOf_0 1 rfl rfl)
theorem dX9_isProvedOf_2 : decode cX9_isProvedOf 2 = .ok (.iload_n 2, 1) := dk_28 (dk_at dksX9_isProvedOf_0 2 rfl rfl)
theorem dX9_isProvedOf_3 : decode cX9_isProvedOf 3 = .ok (.aload_n 0, 1) := dk_42 (dk_at dksX9_isProvedOf_0 3 rfl rfl)
theorem dX9_isProvedOf_4 : decode cX9_isProvedOf 4 = .ok (.getfield 98, 3) := dk_180 0 98 (dk_at dksX9_isProvedOf_0 4 rfl rfl)
theorem dX9_isProvedOf_7 : decode cX9_isProvedOf 7 = .ok (.bipush 25, 2) := dk_16 25 (dk_at dksX9_isProvedOf_0 7 rfl rfl)
theorem dX9_isProvedOf_9 : decode cX9_isProvedOf 9 = .ok (.iaload, 1) := dk_46 (dk_at dksX9_isProvedOf_0 9 rfl rfl)
theorem dX9_isProvedOf_10 : decode cX9_isProvedOf 10 = .ok (.if_icmp .ge 32, 3) := dk_162 0 32 (dk_at dksX9_isProvedOf_0 10 rfl rfl)
theorem dX9_isProvedOf_13 : decode cX9_isProvedOf 13 = .ok (.aload_n 0, 1) := dk_42 (dk_at dksX9_isProvedOf_0 13 rfl rfl)
theorem dX9_isProvedOf_14 : decode cX9_isProvedOf 14 = .ok (.getfield 98, 3) := dk_180 0 98 (dk_at dksX9_isProvedOf_0 14 rfl rfl)
theorem dX9_isProvedOf_17 : decode cX9_isProvedOf 17 = .ok (.bipush 38, 2) := dk_16 38 (dk_at dksX9_isProvedOf_0 17 rfl rfl)
theorem dX9_isProvedOf_19 : decode cX9_isProvedOf 19 = .ok (.iload_n 2, 1) := dk_28 (dk_at dksX9_isProvedOf_0 19 rfl rfl)
theorem dX9_isProvedOf_20 : decode cX9_isProvedOf 20 = .ok (.iadd, 1) := dk_96 (dk_at dksX9_isProvedOf_0 20 rfl rfl)
theorem dX9_isProvedOf_21 : decode cX9_isProvedOf 21 = .ok (.iaload, 1) := dk_46 (dk_at dksX9_isProvedOf_0 21 rfl rfl)
theorem dX9_isProvedOf_22 : decode cX9_isProvedOf 22 = .ok (.iload_n 1, 1) := dk_27 (dk_at dksX9_isProvedOf_0 22 rfl rfl)
theorem dX9_isProvedOf_23 : decode cX9_isProvedOf 23 = .ok (.if_icmp .ne 13, 3) := dk_160 0 13 (dk_at dksX9_isProvedOf_1 0 rfl rfl)
theorem dX9_isProvedOf_26 : decode cX9_isProvedOf 26 = .ok (.aload_n 0, 1) := dk_42 (dk_at dksX9_isProvedOf_1 3 rfl rfl)
theorem dX9_isProvedOf_27 : decode cX9_isProvedOf 27 = .ok (.iload_n 2, 1) := dk_28 (dk_at dksX9_isProvedOf_1 4 rfl rfl)
theorem dX9_isProvedOf_28 : decode cX9_isProvedOf 28 = .ok (.invokevirtual 241, 3) := dk_182 0 241 (dk_at dksX9_isProvedOf_1 5 rfl rfl)
theorem dX9_isProvedOf_31 : decode cX9_isProvedOf 31 = .ok (.ifCond .eq 5, 3) := dk_153 0 5 (dk_at dksX9_isProvedOf_1 8 rfl rfl)
theorem dX9_isProvedOf_34 : decode cX9_isProvedOf 34 = .ok (.iconst 1, 1) := dk_4 (dk_at dksX9_isProvedOf_1 11 rfl rfl)
theorem dX9_isProvedOf_35 : decode cX9_isProvedOf 35 = .ok (.ireturn, 1) := dk_172 (dk_at dksX9_isProvedOf_1 12 rfl rfl)
theorem dX9_isProvedOf_36 : decode cX9_isProvedOf 36 = .ok (.iinc 2 1, 3) := dk_132 2 1 (dk_at dksX9_isProvedOf_1 13 rfl rfl)
theorem dX9_isProvedOf_39 : decode cX9_isProvedOf 39 = .ok (.goto (-37), 3) := dk_167 255 219 (dk_at dksX9_isProvedOf_1 16 rfl rfl)
theorem dX9_isProvedOf_42 : decode cX9_isProvedOf 42 = .ok (.iconst 0, 1) := dk_3 (dk_at dksX9_isProvedOf_1 19 rfl rfl)
theorem dX9_isProvedOf_43 : decode cX9_isProvedOf 43 = .ok (.ireturn, 1) := dk_172 (dk_at dksX9_isProvedOf_1 20 rfl rfl)
abbrev cX9_takeBack : ByteArray := prog_22_method_104_code
def yX9_takeBack : MethodName := ⟨RX9, "takeBack", "()V"⟩
def dkwX9_takeBack_1 : List UInt8 := [132, 1, 1, 167, 255, 231, 177]
abbrev dktX9_takeBack_1 : List UInt8 := dkwX9_takeBack_1 ++ []
def dkwX9_takeBack_0 : List UInt8 := [3, 60, 27, 17, 0, 140, 162, 0, 24, 42, 180, 0, 98, 16, 24, 27, 96, 42, 180, 0, 110, 27, 46, 79]
abbrev dktX9_takeBack_0 : List UInt8 := dkwX9_takeBack_0 ++ dktX9_takeBack_1
theorem dksX9_takeBack_0 : cX9_takeBack.data.toList.drop 0 = dktX9_takeBack_0 := by decide +kernel
theorem dksX9_takeBack_1 : cX9_takeBack.data.toList.drop 24 = dktX9_takeBack_1 := dk_seg dksX9_takeBack_0 24 rfl rfl
theorem dX9_takeBack_0 : decode cX9_takeBack 0 = .ok (.iconst 0, 1) := dk_3 (dk_at dksX9_takeBack_0 0 rfl rfl)
theorem dX9_takeBack_1 : decode cX9_takeBack 1 = .ok (.istore_n 1, 1) := dk_60 (dk_at dksX9_takeBack_0 1 rfl rfl)
theorem dX9_takeBack_2 : decode cX9_takeBack 2 = .ok (.iload_n 1, 1) := dk_27 (dk_at dksX9_takeBack_0 2 rfl rfl)
theorem dX9_takeBack_3 : decode cX9_takeBack 3 = .ok (.sipush 140, 3) := dk_17 0 140 (dk_at dksX9_takeBack_0 3 rfl rfl)
theorem dX9_takeBack_6 : decode cX9_takeBack 6 = .ok (.if_icmp .ge 24, 3) := dk_162 0 24 (dk_at dksX9_takeBack_0 6 rfl rfl)
theorem dX9_takeBack_9 : decode cX9_takeBack 9 = .ok (.aload_n 0, 1) := dk_42 (dk_at dksX9_takeBack_0 9 rfl rfl)
theorem dX9_takeBack_10 : decode cX9_takeBack 10 = .ok (.getfield 98, 3) := dk_180 0 98 (dk_at dksX9_takeBack_0 10 rfl rfl)
theorem dX9_takeBack_13 : decode cX9_takeBack 13 = .ok (.bipush 24, 2) := dk_16 24 (dk_at dksX9_takeBack_0 13 rfl rfl)
theorem dX9_takeBack_15 : decode cX9_takeBack 15 = .ok (.iload_n 1, 1) := dk_27 (dk_at dksX9_takeBack_0 15 rfl rfl)
theorem dX9_takeBack_16 : decode cX9_takeBack 16 = .ok (.iadd, 1) := dk_96 (dk_at dksX9_takeBack_0 16 rfl rfl)
theorem dX9_takeBack_17 : decode cX9_takeBack 17 = .ok (.aload_n 0, 1) := dk_42 (dk_at dksX9_takeBack_0 17 rfl rfl)
theorem dX9_takeBack_18 : decode cX9_takeBack 18 = .ok (.getfield 110, 3) := dk_180 0 110 (dk_at dksX9_takeBack_0 18 rfl rfl)
theorem dX9_takeBack_21 : decode cX9_takeBack 21 = .ok (.iload_n 1, 1) := dk_27 (dk_at dksX9_takeBack_0 21 rfl rfl)
theorem dX9_takeBack_22 : decode cX9_takeBack 22 = .ok (.iaload, 1) := dk_46 (dk_at dksX9_takeBack_0 22 rfl rfl)
theorem dX9_takeBack_23 : decode cX9_takeBack 23 = .ok (.iastore, 1) := dk_79 (dk_at dksX9_takeBack_0 23 rfl rfl)
theorem dX9_takeBack_24 : decode cX9_takeBack 24 = .ok (.iinc 1 1, 3) := dk_132 1 1 (dk_at dksX9_takeBack_1 0 rfl rfl)
theorem dX9_takeBack_27 : decode cX9_takeBack 27 = .ok (.goto (-25), 3) := dk_167 255 231 (dk_at dksX9_takeBack_1 3 rfl rfl)
theorem dX9_takeBack_30 : decode cX9_takeBack 30 = .ok (.return_, 1) := dk_177 (dk_at dksX9_takeBack_1 6 rfl rfl)
abbrev cX9_book : ByteArray := prog_22_method_114_code
def yX9_book : MethodName := ⟨RX9, "book", "(I)I"⟩
def dkwX9_book_7 : List UInt8 := [154, 0, 7, 2, 167, 0, 4, 28, 172]
abbrev dktX9_book_7 : List UInt8 := dkwX9_book_7 ++ []
def dkwX9_book_6 : List UInt8 := [181, 1, 140, 42, 27, 4, 160, 0, 11, 28, 158, 0, 7, 4, 167, 0, 4, 3, 182, 1, 143, 29]
abbrev dktX9_book_6 : List UInt8 := dkwX9_book_6 ++ dktX9_book_7
def dkwX9_book_5 : List UInt8 := [180, 0, 151, 5, 42, 180, 0, 98, 16, 24, 46, 79, 42, 180, 0, 151, 6, 42, 182, 1, 6, 79, 42, 4]
abbrev dktX9_book_5 : List UInt8 := dkwX9_book_5 ++ dktX9_book_6
def dkwX9_book_4 : List UInt8 := [154, 255, 235, 132, 2, 1, 167, 255, 229, 42, 180, 0, 151, 3, 29, 79, 42, 180, 0, 151, 4, 28, 79, 42]
abbrev dktX9_book_4 : List UInt8 := dkwX9_book_4 ++ dktX9_book_5
def dkwX9_book_3 : List UInt8 := [61, 3, 62, 28, 42, 180, 1, 125, 162, 0, 25, 29, 154, 0, 21, 42, 7, 28, 104, 182, 1, 137, 62, 29]
abbrev dktX9_book_3 : List UInt8 := dkwX9_book_3 ++ dktX9_book_4
def dkwX9_book_2 : List UInt8 := [42, 180, 0, 69, 100, 172, 42, 89, 180, 1, 125, 4, 96, 181, 1, 125, 167, 255, 224, 42, 182, 1, 107, 3]
abbrev dktX9_book_2 : List UInt8 := dkwX9_book_2 ++ dktX9_book_3
def dkwX9_book_1 : List UInt8 := [182, 0, 206, 42, 3, 181, 1, 125, 42, 180, 0, 30, 153, 0, 31, 42, 182, 1, 134, 154, 0, 11, 16, 254]
abbrev dktX9_book_1 : List UInt8 := dkwX9_book_1 ++ dktX9_book_2
def dkwX9_book_0 : List UInt8 := [42, 3, 181, 0, 1, 27, 3, 4, 184, 0, 75, 154, 0, 7, 17, 252, 24, 172, 42, 17, 1, 144]
abbrev dktX9_book_0 : List UInt8 := dkwX9_book_0 ++ dktX9_book_1
theorem dksX9_book_0 : cX9_book.data.toList.drop 0 = dktX9_book_0 := by decide +kernel
theorem dksX9_book_1 : cX9_book.data.toList.drop 22 = dktX9_book_1 := dk_seg dksX9_book_0 22 rfl rfl
theorem dksX9_book_2 : cX9_book.data.toList.drop 46 = dktX9_book_2 := dk_seg dksX9_book_1 24 rfl rfl
theorem dksX9_book_3 : cX9_book.data.toList.drop 70 = dktX9_book_3 := dk_seg dksX9_book_2 24 rfl rfl
theorem dksX9_book_4 : cX9_book.data.toList.drop 94 = dktX9_book_4 := dk_seg dksX9_book_3 24 rfl rfl
theorem dksX9_book_5 : cX9_book.data.toList.drop 118 = dktX9_book_5 := dk_seg dksX9_book_4 24 rfl rfl
theorem dksX9_book_6 : cX9_book.data.toList.drop 142 = dktX9_book_6 := dk_seg dksX9_book_5 24 rfl rfl
theorem dksX9_book_7 : cX9_book.data.toList.drop 164 = dktX9_book_7 := dk_seg dksX9_book_6 22 rfl rfl
theorem dX9_book_0 : decode cX9_book 0 = .ok (.aload_n 0, 1) := dk_42 (dk_at dksX9_book_0 0 rfl rfl)
theorem dX9_book_1 : decode cX9_book 1 = .ok (.iconst 0, 1) := dk_3 (dk_at dksX9_book_0 1 rfl rfl)
theorem dX9_book_2 : decode cX9_book 2 = .ok (.putfield 1, 3) := dk_181 0 1 (dk_at dksX9_book_0 2 rfl rfl)
theorem dX9_book_5 : decode cX9_book 5 = .ok (.iload_n 1, 1) := dk_27 (dk_at dksX9_book_0 5 rfl rfl)
theorem dX9_book_6 : decode cX9_book 6 = .ok (.iconst 0, 1) := dk_3 (dk_at dksX9_book_0 6 rfl rfl)
theorem dX9_book_7 : decode cX9_book 7 = .ok (.iconst 1, 1) := dk_4 (dk_at dksX9_book_0 7 rfl rfl)
theorem dX9_book_8 : decode cX9_book 8 = .ok (.invokestatic 75, 3) := dk_184 0 75 (dk_at dksX9_book_0 8 rfl rfl)
theorem dX9_book_11 : decode cX9_book 11 = .ok (.ifCond .ne 7, 3) := dk_154 0 7 (dk_at dksX9_book_0 11 rfl rfl)
theorem dX9_book_14 : decode cX9_book 14 = .ok (.sipush (-1000), 3) := dk_17 252 24 (dk_at dksX9_book_0 14 rfl rfl)
theorem dX9_book_17 : decode cX9_book 17 = .ok (.ireturn, 1) := dk_172 (dk_at dksX9_book_0 17 rfl rfl)
theorem dX9_book_18 : decode cX9_book 18 = .ok (.aload_n 0, 1) := dk_42 (dk_at dksX9_book_0 18 rfl rfl)
theorem dX9_book_19 : decode cX9_book 19 = .ok (.sipush 400, 3) := dk_17 1 144 (dk_at dksX9_book_0 19 rfl rfl)
theorem dX9_book_22 : decode cX9_book 22 = .ok (.invokevirtual 206, 3) := dk_182 0 206 (dk_at dksX9_book_1 0 rfl rfl)
theorem dX9_book_25 : decode cX9_book 25 = .ok (.aload_n 0, 1) := dk_42 (dk_at dksX9_book_1 3 rfl rfl)
theorem dX9_book_26 : decode cX9_book 26 = .ok (.iconst 0, 1) := dk_3 (dk_at dksX9_book_1 4 rfl rfl)
theorem dX9_book_27 : decode cX9_book 27 = .ok (.putfield 381, 3) := dk_181 1 125 (dk_at dksX9_book_1 5 rfl rfl)
theorem dX9_book_30 : decode cX9_book 30 = .ok (.aload_n 0, 1) := dk_42 (dk_at dksX9_book_1 8 rfl rfl)
theorem dX9_book_31 : decode cX9_book 31 = .ok (.getfield 30, 3) := dk_180 0 30 (dk_at dksX9_book_1 9 rfl rfl)
theorem dX9_book_34 : decode cX9_book 34 = .ok (.ifCond .eq 31, 3) := dk_153 0 31 (dk_at dksX9_book_1 12 rfl rfl)
theorem dX9_book_37 : decode cX9_book 37 = .ok (.aload_n 0, 1) := dk_42 (dk_at dksX9_book_1 15 rfl rfl)
theorem dX9_book_38 : decode cX9_book 38 = .ok (.invokevirtual 390, 3) := dk_182 1 134 (dk_at dksX9_book_1 16 rfl rfl)
theorem dX9_book_41 : decode cX9_book 41 = .ok (.ifCond .ne 11, 3) := dk_154 0 11 (dk_at dksX9_book_1 19 rfl rfl)
theorem dX9_book_44 : decode cX9_book 44 = .ok (.bipush (-2), 2) := dk_16 254 (dk_at dksX9_book_1 22 rfl rfl)
theorem dX9_book_46 : decode cX9_book 46 = .ok (.aload_n 0, 1) := dk_42 (dk_at dksX9_book_2 0 rfl rfl)
theorem dX9_book_47 : decode cX9_book 47 = .ok (.getfield 69, 3) := dk_180 0 69 (dk_at dksX9_book_2 1 rfl rfl)
theorem dX9_book_50 : decode cX9_book 50 = .ok (.isub, 1) := dk_100 (dk_at dksX9_book_2 4 rfl rfl)
theorem dX9_book_51 : decode cX9_book 51 = .ok (.ireturn, 1) := dk_172 (dk_at dksX9_book_2 5 rfl rfl)
theorem dX9_book_52 : decode cX9_book 52 = .ok (.aload_n 0, 1) := dk_42 (dk_at dksX9_book_2 6 rfl rfl)
theorem dX9_book_53 : decode cX9_book 53 = .ok (.dup, 1) := dk_89 (dk_at dksX9_book_2 7 rfl rfl)
theorem dX9_book_54 : decode cX9_book 54 = .ok (.getfield 381, 3) := dk_180 1 125 (dk_at dksX9_book_2 8 rfl rfl)
theorem dX9_book_57 : decode cX9_book 57 = .ok (.iconst 1, 1) := dk_4 (dk_at dksX9_book_2 11 rfl rfl)
theorem dX9_book_58 : decode cX9_book 58 = .ok (.iadd, 1) := dk_96 (dk_at dksX9_book_2 12 rfl rfl)
theorem dX9_book_59 : decode cX9_book 59 = .ok (.putfield 381, 3) := dk_181 1 125 (dk_at dksX9_book_2 13 rfl rfl)
theorem dX9_book_62 : decode cX9_book 62 = .ok (.goto (-32), 3) := dk_167 255 224 (dk_at dksX9_book_2 16 rfl rfl)
theorem dX9_book_65 : decode cX9_book 65 = .ok (.aload_n 0, 1) := dk_42 (dk_at dksX9_book_2 19 rfl rfl)
theorem dX9_book_66 : decode cX9_book 66 = .ok (.invokevirtual 363, 3) := dk_182 1 107 (dk_at dksX9_book_2 20 rfl rfl)
theorem dX9_book_69 : decode cX9_book 69 = .ok (.iconst 0, 1) := dk_3 (dk_at dksX9_book_2 23 rfl rfl)
theorem dX9_book_70 : decode cX9_book 70 = .ok (.istore_n 2, 1) := dk_61 (dk_at dksX9_book_3 0 rfl rfl)
theorem dX9_book_71 : decode cX9_book 71 = .ok (.iconst 0, 1) := dk_3 (dk_at dksX9_book_3 1 rfl rfl)
theorem dX9_book_72 : decode cX9_book 72 = .ok (.istore_n 3, 1) := dk_62 (dk_at dksX9_book_3 2 rfl rfl)
theorem dX9_book_73 : decode cX9_book 73 = .ok (.iload_n 2, 1) := dk_28 (dk_at dksX9_book_3 3 rfl rfl)
theorem dX9_book_74 : decode cX9_book 74 = .ok (.aload_n 0, 1) := dk_42 (dk_at dksX9_book_3 4 rfl rfl)
theorem dX9_book_75 : decode cX9_book 75 = .ok (.getfield 381, 3) := dk_180 1 125 (dk_at dksX9_book_3 5 rfl rfl)
theorem dX9_book_78 : decode cX9_book 78 = .ok (.if_icmp .ge 25, 3) := dk_162 0 25 (dk_at dksX9_book_3 8 rfl rfl)
theorem dX9_book_81 : decode cX9_book 81 = .ok (.iload_n 3, 1) := dk_29 (dk_at dksX9_book_3 11 rfl rfl)
theorem dX9_book_82 : decode cX9_book 82 = .ok (.ifCond .ne 21, 3) := dk_154 0 21 (dk_at dksX9_book_3 12 rfl rfl)
theorem dX9_book_85 : decode cX9_book 85 = .ok (.aload_n 0, 1) := dk_42 (dk_at dksX9_book_3 15 rfl rfl)
theorem dX9_book_86 : decode cX9_book 86 = .ok (.iconst 4, 1) := dk_7 (dk_at dksX9_book_3 16 rfl rfl)
theorem dX9_book_87 : decode cX9_book 87 = .ok (.iload_n 2, 1) := dk_28 (dk_at dksX9_book_3 17 rfl rfl)
theorem dX9_book_88 : decode cX9_book 88 = .ok (.imul, 1) := dk_104 (dk_at dksX9_book_3 18 rfl rfl)
theorem dX9_book_89 : decode cX9_book 89 = .ok (.invokevirtual 393, 3) := dk_182 1 137 (dk_at dksX9_book_3 19 rfl rfl)
theorem dX9_book_92 : decode cX9_book 92 = .ok (.istore_n 3, 1) := dk_62 (dk_at dksX9_book_3 22 rfl rfl)
theorem dX9_book_93 : decode cX9_book 93 = .ok (.iload_n 3, 1) := dk_29 (dk_at dksX9_book_3 23 rfl rfl)
theorem dX9_book_94 : decode cX9_book 94 = .ok (.ifCond .ne (-21), 3) := dk_154 255 235 (dk_at dksX9_book_4 0 rfl rfl)
theorem dX9_book_97 : decode cX9_book 97 = .ok (.iinc 2 1, 3) := dk_132 2 1 (dk_at dksX9_book_4 3 rfl rfl)
theorem dX9_book_100 : decode cX9_book 100 = .ok (.goto (-27), 3) := dk_167 255 229 (dk_at dksX9_book_4 6 rfl rfl)
theorem dX9_book_103 : decode cX9_book 103 = .ok (.aload_n 0, 1) := dk_42 (dk_at dksX9_book_4 9 rfl rfl)
theorem dX9_book_104 : decode cX9_book 104 = .ok (.getfield 151, 3) := dk_180 0 151 (dk_at dksX9_book_4 10 rfl rfl)
theorem dX9_book_107 : decode cX9_book 107 = .ok (.iconst 0, 1) := dk_3 (dk_at dksX9_book_4 13 rfl rfl)
theorem dX9_book_108 : decode cX9_book 108 = .ok (.iload_n 3, 1) := dk_29 (dk_at dksX9_book_4 14 rfl rfl)
theorem dX9_book_109 : decode cX9_book 109 = .ok (.iastore, 1) := dk_79 (dk_at dksX9_book_4 15 rfl rfl)
theorem dX9_book_110 : decode cX9_book 110 = .ok (.aload_n 0, 1) := dk_42 (dk_at dksX9_book_4 16 rfl rfl)
theorem dX9_book_111 : decode cX9_book 111 = .ok (.getfield 151, 3) := dk_180 0 151 (dk_at dksX9_book_4 17 rfl rfl)
theorem dX9_book_114 : decode cX9_book 114 = .ok (.iconst 1, 1) := dk_4 (dk_at dksX9_book_4 20 rfl rfl)
theorem dX9_book_115 : decode cX9_book 115 = .ok (.iload_n 2, 1) := dk_28 (dk_at dksX9_book_4 21 rfl rfl)
theorem dX9_book_116 : decode cX9_book 116 = .ok (.iastore, 1) := dk_79 (dk_at dksX9_book_4 22 rfl rfl)
theorem dX9_book_117 : decode cX9_book 117 = .ok (.aload_n 0, 1) := dk_42 (dk_at dksX9_book_4 23 rfl rfl)
theorem dX9_book_118 : decode cX9_book 118 = .ok (.getfield 151, 3) := dk_180 0 151 (dk_at dksX9_book_5 0 rfl rfl)
theorem dX9_book_121 : decode cX9_book 121 = .ok (.iconst 2, 1) := dk_5 (dk_at dksX9_book_5 3 rfl rfl)
theorem dX9_book_122 : decode cX9_book 122 = .ok (.aload_n 0, 1) := dk_42 (dk_at dksX9_book_5 4 rfl rfl)
theorem dX9_book_123 : decode cX9_book 123 = .ok (.getfield 98, 3) := dk_180 0 98 (dk_at dksX9_book_5 5 rfl rfl)
theorem dX9_book_126 : decode cX9_book 126 = .ok (.bipush 24, 2) := dk_16 24 (dk_at dksX9_book_5 8 rfl rfl)
theorem dX9_book_128 : decode cX9_book 128 = .ok (.iaload, 1) := dk_46 (dk_at dksX9_book_5 10 rfl rfl)
theorem dX9_book_129 : decode cX9_book 129 = .ok (.iastore, 1) := dk_79 (dk_at dksX9_book_5 11 rfl rfl)
theorem dX9_book_130 : decode cX9_book 130 = .ok (.aload_n 0, 1) := dk_42 (dk_at dksX9_book_5 12 rfl rfl)
theorem dX9_book_131 : decode cX9_book 131 = .ok (.getfield 151, 3) := dk_180 0 151 (dk_at dksX9_book_5 13 rfl rfl)
theorem dX9_book_134 : decode cX9_book 134 = .ok (.iconst 3, 1) := dk_6 (dk_at dksX9_book_5 16 rfl rfl)
theorem dX9_book_135 : decode cX9_book 135 = .ok (.aload_n 0, 1) := dk_42 (dk_at dksX9_book_5 17 rfl rfl)
theorem dX9_book_136 : decode cX9_book 136 = .ok (.invokevirtual 262, 3) := dk_182 1 6 (dk_at dksX9_book_5 18 rfl rfl)
theorem dX9_book_139 : decode cX9_book 139 = .ok (.iastore, 1) := dk_79 (dk_at dksX9_book_5 21 rfl rfl)
theorem dX9_book_140 : decode cX9_book 140 = .ok (.aload_n 0, 1) := dk_42 (dk_at dksX9_book_5 22 rfl rfl)
theorem dX9_book_141 : decode cX9_book 141 = .ok (.iconst 1, 1) := dk_4 (dk_at dksX9_book_5 23 rfl rfl)
theorem dX9_book_142 : decode cX9_book 142 = .ok (.putfield 396, 3) := dk_181 1 140 (dk_at dksX9_book_6 0 rfl rfl)
theorem dX9_book_145 : decode cX9_book 145 = .ok (.aload_n 0, 1) := dk_42 (dk_at dksX9_book_6 3 rfl rfl)
theorem dX9_book_146 : decode cX9_book 146 = .ok (.iload_n 1, 1) := dk_27 (dk_at dksX9_book_6 4 rfl rfl)
theorem dX9_book_147 : decode cX9_book 147 = .ok (.iconst 1, 1) := dk_4 (dk_at dksX9_book_6 5 rfl rfl)
theorem dX9_book_148 : decode cX9_book 148 = .ok (.if_icmp .ne 11, 3) := dk_160 0 11 (dk_at dksX9_book_6 6 rfl rfl)
theorem dX9_book_151 : decode cX9_book 151 = .ok (.iload_n 2, 1) := dk_28 (dk_at dksX9_book_6 9 rfl rfl)
theorem dX9_book_152 : decode cX9_book 152 = .ok (.ifCond .le 7, 3) := dk_158 0 7 (dk_at dksX9_book_6 10 rfl rfl)
theorem dX9_book_155 : decode cX9_book 155 = .ok (.iconst 1, 1) := dk_4 (dk_at dksX9_book_6 13 rfl rfl)
theorem dX9_book_156 : decode cX9_book 156 = .ok (.goto 4, 3) := dk_167 0 4 (dk_at dksX9_book_6 14 rfl rfl)
theorem dX9_book_159 : decode cX9_book 159 = .ok (.iconst 0, 1) := dk_3 (dk_at dksX9_book_6 17 rfl rfl)
theorem dX9_book_160 : decode cX9_book 160 = .ok (.invokevirtual 399, 3) := dk_182 1 143 (dk_at dksX9_book_6 18 rfl rfl)
theorem dX9_book_163 : decode cX9_book 163 = .ok (.iload_n 3, 1) := dk_29 (dk_at dksX9_book_6 21 rfl rfl)
theorem dX9_book_164 : decode cX9_book 164 = .ok (.ifCond .ne 7, 3) := dk_154 0 7 (dk_at dksX9_book_7 0 rfl rfl)
theorem dX9_book_167 : decode cX9_book 167 = .ok (.iconst (-1), 1) := dk_2 (dk_at dksX9_book_7 3 rfl rfl)
theorem dX9_book_168 : decode cX9_book 168 = .ok (.goto 4, 3) := dk_167 0 4 (dk_at dksX9_book_7 4 rfl rfl)
theorem dX9_book_171 : decode cX9_book 171 = .ok (.iload_n 2, 1) := dk_28 (dk_at dksX9_book_7 7 rfl rfl)
theorem dX9_book_172 : decode cX9_book 172 = .ok (.ireturn, 1) := dk_172 (dk_at dksX9_book_7 8 rfl rfl)
abbrev cX9_readBookLine : ByteArray := prog_22_method_112_code
def yX9_readBookLine : MethodName := ⟨RX9, "readBookLine", "()Z"⟩
def dkwX9_readBookLine_13 : List UInt8 := [172]
abbrev dktX9_readBookLine_13 : List UInt8 := dkwX9_readBookLine_13 ++ []
def dkwX9_readBookLine_12 : List UInt8 := [5, 96, 42, 182, 1, 122, 182, 1, 119, 153, 0, 14, 42, 182, 0, 212, 153, 0, 7, 4, 167, 0, 4, 3]
abbrev dktX9_readBookLine_12 : List UInt8 := dkwX9_readBookLine_12 ++ dktX9_readBookLine_13
def dkwX9_readBookLine_11 : List UInt8 := [42, 21, 5, 4, 96, 42, 182, 1, 131, 182, 1, 119, 154, 0, 5, 3, 172, 27, 154, 0, 18, 42, 21, 5]
abbrev dktX9_readBookLine_11 : List UInt8 := dkwX9_readBookLine_11 ++ dktX9_readBookLine_12
def dkwX9_readBookLine_10 : List UInt8 := [16, 60, 182, 0, 188, 182, 1, 119, 153, 0, 14, 42, 182, 0, 212, 153, 0, 7, 4, 167, 0, 4, 3, 172]
abbrev dktX9_readBookLine_10 : List UInt8 := dkwX9_readBookLine_10 ++ dktX9_readBookLine_11
def dkwX9_readBookLine_9 : List UInt8 := [182, 0, 212, 153, 0, 7, 4, 167, 0, 4, 3, 172, 29, 153, 0, 34, 42, 21, 5, 4, 96, 42, 4]
abbrev dktX9_readBookLine_9 : List UInt8 := dkwX9_readBookLine_9 ++ dktX9_readBookLine_10
def dkwX9_readBookLine_8 : List UInt8 := [6, 96, 3, 79, 42, 182, 0, 82, 21, 4, 153, 0, 25, 42, 21, 5, 182, 1, 128, 153, 0, 14, 42]
abbrev dktX9_readBookLine_8 : List UInt8 := dkwX9_readBookLine_8 ++ dktX9_readBookLine_9
def dkwX9_readBookLine_7 : List UInt8 := [184, 0, 160, 167, 0, 4, 3, 79, 42, 180, 0, 148, 21, 5, 5, 96, 3, 79, 42, 180, 0, 148, 21, 5]
abbrev dktX9_readBookLine_7 : List UInt8 := dkwX9_readBookLine_7 ++ dktX9_readBookLine_8
def dkwX9_readBookLine_6 : List UInt8 := [96, 21, 4, 153, 0, 25, 42, 180, 0, 113, 16, 11, 42, 180, 0, 98, 5, 46, 42, 180, 0, 43]
abbrev dktX9_readBookLine_6 : List UInt8 := dkwX9_readBookLine_6 ++ dktX9_readBookLine_7
def dkwX9_readBookLine_5 : List UInt8 := [153, 0, 7, 4, 167, 0, 12, 28, 153, 0, 7, 5, 167, 0, 4, 6, 79, 42, 180, 0, 148, 21, 5, 4]
abbrev dktX9_readBookLine_5 : List UInt8 := dkwX9_readBookLine_5 ++ dktX9_readBookLine_6
def dkwX9_readBookLine_4 : List UInt8 := [160, 0, 9, 42, 7, 182, 0, 72, 172, 7, 42, 180, 1, 125, 104, 54, 5, 42, 180, 0, 148, 21, 5, 27]
abbrev dktX9_readBookLine_4 : List UInt8 := dkwX9_readBookLine_4 ++ dktX9_readBookLine_5
def dkwX9_readBookLine_3 : List UInt8 := [42, 180, 0, 43, 184, 0, 160, 2, 160, 0, 9, 42, 6, 182, 0, 72, 172, 42, 180, 1, 125, 16, 40]
abbrev dktX9_readBookLine_3 : List UInt8 := dkwX9_readBookLine_3 ++ dktX9_readBookLine_4
def dkwX9_readBookLine_2 : List UInt8 := [182, 0, 164, 154, 0, 9, 42, 4, 182, 0, 72, 172, 42, 180, 0, 113, 16, 11, 42, 180, 0, 98, 5, 46]
abbrev dktX9_readBookLine_2 : List UInt8 := dkwX9_readBookLine_2 ++ dktX9_readBookLine_3
def dkwX9_readBookLine_1 : List UInt8 := [154, 0, 15, 28, 154, 0, 11, 29, 154, 0, 7, 4, 167, 0, 4, 3, 54, 4, 21, 4, 153, 0, 45, 42]
abbrev dktX9_readBookLine_1 : List UInt8 := dkwX9_readBookLine_1 ++ dktX9_readBookLine_2
def dkwX9_readBookLine_0 : List UInt8 := [42, 16, 8, 182, 0, 191, 60, 42, 16, 9, 182, 0, 191, 61, 42, 16, 10, 182, 0, 191, 62, 27]
abbrev dktX9_readBookLine_0 : List UInt8 := dkwX9_readBookLine_0 ++ dktX9_readBookLine_1
theorem dksX9_readBookLine_0 : cX9_readBookLine.data.toList.drop 0 = dktX9_readBookLine_0 := by decide +kernel
theorem dksX9_readBookLine_1 : cX9_readBookLine.data.toList.drop 22 = dktX9_readBookLine_1 := dk_seg dksX9_readBookLine_0 22 rfl rfl
theorem dksX9_readBookLine_2 : cX9_readBookLine.data.toList.drop 46 = dktX9_readBookLine_2 := dk_seg dksX9_readBookLine_1 24 rfl rfl
theorem dksX9_readBookLine_3 : cX9_readBookLine.data.toList.drop 70 = dktX9_readBookLine_3 := dk_seg dksX9_readBookLine_2 24 rfl rfl
theorem dksX9_readBookLine_4 : cX9_readBookLine.data.toList.drop 93 = dktX9_readBookLine_4 := dk_seg dksX9_readBookLine_3 23 rfl rfl
theorem dksX9_readBookLine_5 : cX9_readBookLine.data.toList.drop 117 = dktX9_readBookLine_5 := dk_seg dksX9_readBookLine_4 24 rfl rfl
theorem dksX9_readBookLine_6 : cX9_readBookLine.data.toList.drop 141 = dktX9_readBookLine_6 := dk_seg dksX9_readBookLine_5 24 rfl rfl
theorem dksX9_readBookLine_7 : cX9_readBookLine.data.toList.drop 163 = dktX9_readBookLine_7 := dk_seg dksX9_readBookLine_6 22 rfl rfl
theorem dksX9_readBookLine_8 : cX9_readBookLine.data.toList.drop 187 = dktX9_readBookLine_8 := dk_seg dksX9_readBookLine_7 24 rfl rfl
theorem dksX9_readBookLine_9 : cX9_readBookLine.data.toList.drop 210 = dktX9_readBookLine_9 := dk_seg dksX9_readBookLine_8 23 rfl rfl
theorem dksX9_readBookLine_10 : cX9_readBookLine.data.toList.drop 233 = dktX9_readBookLine_10 := dk_seg dksX9_readBookLine_9 23 rfl rfl
theorem dksX9_readBookLine_11 : cX9_readBookLine.data.toList.drop 257 = dktX9_readBookLine_11 := dk_seg dksX9_readBookLine_10 24 rfl rfl
theorem dksX9_readBookLine_12 : cX9_readBookLine.data.toList.drop 281 = dktX9_readBookLine_12 := dk_seg dksX9_readBookLine_11 24 rfl rfl
theorem dksX9_readBookLine_13 : cX9_readBookLine.data.toList.drop 305 = dktX9_readBookLine_13 := dk_seg dksX9_readBookLine_12 24 rfl rfl
theorem dX9_readBookLine_0 : decode cX9_readBookLine 0 = .ok (.aload_n 0, 1) := dk_42 (dk_at dksX9_readBookLine_0 0 rfl rfl)
theorem dX9_readBookLine_1 : decode cX9_readBookLine 1 = .ok (.bipush 8, 2) := dk_16 8 (dk_at dksX9_readBookLine_0 1 rfl rfl)
theorem dX9_readBookLine_3 : decode cX9_readBookLine 3 = .ok (.invokevirtual 191, 3) := dk_182 0 191 (dk_at dksX9_readBookLine_0 3 rfl rfl)
theorem dX9_readBookLine_6 : decode cX9_readBookLine 6 = .ok (.istore_n 1, 1) := dk_60 (dk_at dksX9_readBookLine_0 6 rfl rfl)
theorem dX9_readBookLine_7 : decode cX9_readBookLine 7 = .ok (.aload_n 0, 1) := dk_42 (dk_at dksX9_readBookLine_0 7 rfl rfl)
theorem dX9_readBookLine_8 : decode cX9_readBookLine 8 = .ok (.bipush 9, 2) := dk_16 9 (dk_at dksX9_readBookLine_0 8 rfl rfl)
theorem dX9_readBookLine_10 : decode cX9_readBookLine 10 = .ok (.invokevirtual 191, 3) := dk_182 0 191 (dk_at dksX9_readBookLine_0 10 rfl rfl)
theorem dX9_readBookLine_13 : decode cX9_readBookLine 13 = .ok (.istore_n 2, 1) := dk_61 (dk_at dksX9_readBookLine_0 13 rfl rfl)
theorem dX9_readBookLine_14 : decode cX9_readBookLine 14 = .ok (.aload_n 0, 1) := dk_42 (dk_at dksX9_readBookLine_0 14 rfl rfl)
theorem dX9_readBookLine_15 : decode cX9_readBookLine 15 = .ok (.bipush 10, 2) := dk_16 10 (dk_at dksX9_readBookLine_0 15 rfl rfl)
theorem dX9_readBookLine_17 : decode cX9_readBookLine 17 = .ok (.invokevirtual 191, 3) := dk_182 0 191 (dk_at dksX9_readBookLine_0 17 rfl rfl)
theorem dX9_readBookLine_20 : decode cX9_readBookLine 20 = .ok (.istore_n 3, 1) := dk_62 (dk_at dksX9_readBookLine_0 20 rfl rfl)
theorem dX9_readBookLine_21 : decode cX9_readBookLine 21 = .ok (.iload_n 1, 1) := dk_27 (dk_at dksX9_readBookLine_0 21 rfl rfl)
theorem dX9_readBookLine_22 : decode cX9_readBookLine 22 = .ok (.ifCond .ne 15, 3) := dk_154 0 15 (dk_at dksX9_readBookLine_1 0 rfl rfl)
theorem dX9_readBookLine_25 : decode cX9_readBookLine 25 = .ok (.iload_n 2, 1) := dk_28 (dk_at dksX9_readBookLine_1 3 rfl rfl)
theorem dX9_readBookLine_26 : decode cX9_readBookLine 26 = .ok (.ifCond .ne 11, 3) := dk_154 0 11 (dk_at dksX9_readBookLine_1 4 rfl rfl)
theorem dX9_readBookLine_29 : decode cX9_readBookLine 29 = .ok (.iload_n 3, 1) := dk_29 (dk_at dksX9_readBookLine_1 7 rfl rfl)
theorem dX9_readBookLine_30 : decode cX9_readBookLine 30 = .ok (.ifCond .ne 7, 3) := dk_154 0 7 (dk_at dksX9_readBookLine_1 8 rfl rfl)
theorem dX9_readBookLine_33 : decode cX9_readBookLine 33 = .ok (.iconst 1, 1) := dk_4 (dk_at dksX9_readBookLine_1 11 rfl rfl)
theorem dX9_readBookLine_34 : decode cX9_readBookLine 34 = .ok (.goto 4, 3) := dk_167 0 4 (dk_at dksX9_readBookLine_1 12 rfl rfl)
theorem dX9_readBookLine_37 : decode cX9_readBookLine 37 = .ok (.iconst 0, 1) := dk_3 (dk_at dksX9_readBookLine_1 15 rfl rfl)
theorem dX9_readBookLine_38 : decode cX9_readBookLine 38 = .ok (.istore 4, 2) := dk_54 4 (dk_at dksX9_readBookLine_1 16 rfl rfl)
theorem dX9_readBookLine_40 : decode cX9_readBookLine 40 = .ok (.iload 4, 2) := dk_21 4 (dk_at dksX9_readBookLine_1 18 rfl rfl)
theorem dX9_readBookLine_42 : decode cX9_readBookLine 42 = .ok (.ifCond .eq 45, 3) := dk_153 0 45 (dk_at dksX9_readBookLine_1 20 rfl rfl)
theorem dX9_readBookLine_45 : decode cX9_readBookLine 45 = .ok (.aload_n 0, 1) := dk_42 (dk_at dksX9_readBookLine_1 23 rfl rfl)
theorem dX9_readBookLine_46 : decode cX9_readBookLine 46 = .ok (.invokevirtual 164, 3) := dk_182 0 164 (dk_at dksX9_readBookLine_2 0 rfl rfl)
theorem dX9_readBookLine_49 : decode cX9_readBookLine 49 = .ok (.ifCond .ne 9, 3) := dk_154 0 9 (dk_at dksX9_readBookLine_2 3 rfl rfl)
theorem dX9_readBookLine_52 : decode cX9_readBookLine 52 = .ok (.aload_n 0, 1) := dk_42 (dk_at dksX9_readBookLine_2 6 rfl rfl)
theorem dX9_readBookLine_53 : decode cX9_readBookLine 53 = .ok (.iconst 1, 1) := dk_4 (dk_at dksX9_readBookLine_2 7 rfl rfl)
theorem dX9_readBookLine_54 : decode cX9_readBookLine 54 = .ok (.invokevirtual 72, 3) := dk_182 0 72 (dk_at dksX9_readBookLine_2 8 rfl rfl)
theorem dX9_readBookLine_57 : decode cX9_readBookLine 57 = .ok (.ireturn, 1) := dk_172 (dk_at dksX9_readBookLine_2 11 rfl rfl)
theorem dX9_readBookLine_58 : decode cX9_readBookLine 58 = .ok (.aload_n 0, 1) := dk_42 (dk_at dksX9_readBookLine_2 12 rfl rfl)
theorem dX9_readBookLine_59 : decode cX9_readBookLine 59 = .ok (.getfield 113, 3) := dk_180 0 113 (dk_at dksX9_readBookLine_2 13 rfl rfl)
theorem dX9_readBookLine_62 : decode cX9_readBookLine 62 = .ok (.bipush 11, 2) := dk_16 11 (dk_at dksX9_readBookLine_2 16 rfl rfl)
theorem dX9_readBookLine_64 : decode cX9_readBookLine 64 = .ok (.aload_n 0, 1) := dk_42 (dk_at dksX9_readBookLine_2 18 rfl rfl)
theorem dX9_readBookLine_65 : decode cX9_readBookLine 65 = .ok (.getfield 98, 3) := dk_180 0 98 (dk_at dksX9_readBookLine_2 19 rfl rfl)
theorem dX9_readBookLine_68 : decode cX9_readBookLine 68 = .ok (.iconst 2, 1) := dk_5 (dk_at dksX9_readBookLine_2 22 rfl rfl)
theorem dX9_readBookLine_69 : decode cX9_readBookLine 69 = .ok (.iaload, 1) := dk_46 (dk_at dksX9_readBookLine_2 23 rfl rfl)
theorem dX9_readBookLine_70 : decode cX9_readBookLine 70 = .ok (.aload_n 0, 1) := dk_42 (dk_at dksX9_readBookLine_3 0 rfl rfl)
theorem dX9_readBookLine_71 : decode cX9_readBookLine 71 = .ok (.getfield 43, 3) := dk_180 0 43 (dk_at dksX9_readBookLine_3 1 rfl rfl)
theorem dX9_readBookLine_74 : decode cX9_readBookLine 74 = .ok (.invokestatic 160, 3) := dk_184 0 160 (dk_at dksX9_readBookLine_3 4 rfl rfl)
theorem dX9_readBookLine_77 : decode cX9_readBookLine 77 = .ok (.iconst (-1), 1) := dk_2 (dk_at dksX9_readBookLine_3 7 rfl rfl)
theorem dX9_readBookLine_78 : decode cX9_readBookLine 78 = .ok (.if_icmp .ne 9, 3) := dk_160 0 9 (dk_at dksX9_readBookLine_3 8 rfl rfl)
theorem dX9_readBookLine_81 : decode cX9_readBookLine 81 = .ok (.aload_n 0, 1) := dk_42 (dk_at dksX9_readBookLine_3 11 rfl rfl)
theorem dX9_readBookLine_82 : decode cX9_readBookLine 82 = .ok (.iconst 3, 1) := dk_6 (dk_at dksX9_readBookLine_3 12 rfl rfl)
theorem dX9_readBookLine_83 : decode cX9_readBookLine 83 = .ok (.invokevirtual 72, 3) := dk_182 0 72 (dk_at dksX9_readBookLine_3 13 rfl rfl)
theorem dX9_readBookLine_86 : decode cX9_readBookLine 86 = .ok (.ireturn, 1) := dk_172 (dk_at dksX9_readBookLine_3 16 rfl rfl)
theorem dX9_readBookLine_87 : decode cX9_readBookLine 87 = .ok (.aload_n 0, 1) := dk_42 (dk_at dksX9_readBookLine_3 17 rfl rfl)
theorem dX9_readBookLine_88 : decode cX9_readBookLine 88 = .ok (.getfield 381, 3) := dk_180 1 125 (dk_at dksX9_readBookLine_3 18 rfl rfl)
theorem dX9_readBookLine_91 : decode cX9_readBookLine 91 = .ok (.bipush 40, 2) := dk_16 40 (dk_at dksX9_readBookLine_3 21 rfl rfl)
theorem dX9_readBookLine_93 : decode cX9_readBookLine 93 = .ok (.if_icmp .ne 9, 3) := dk_160 0 9 (dk_at dksX9_readBookLine_4 0 rfl rfl)
theorem dX9_readBookLine_96 : decode cX9_readBookLine 96 = .ok (.aload_n 0, 1) := dk_42 (dk_at dksX9_readBookLine_4 3 rfl rfl)
theorem dX9_readBookLine_97 : decode cX9_readBookLine 97 = .ok (.iconst 4, 1) := dk_7 (dk_at dksX9_readBookLine_4 4 rfl rfl)
theorem dX9_readBookLine_98 : decode cX9_readBookLine 98 = .ok (.invokevirtual 72, 3) := dk_182 0 72 (dk_at dksX9_readBookLine_4 5 rfl rfl)
theorem dX9_readBookLine_101 : decode cX9_readBookLine 101 = .ok (.ireturn, 1) := dk_172 (dk_at dksX9_readBookLine_4 8 rfl rfl)
theorem dX9_readBookLine_102 : decode cX9_readBookLine 102 = .ok (.iconst 4, 1) := dk_7 (dk_at dksX9_readBookLine_4 9 rfl rfl)
theorem dX9_readBookLine_103 : decode cX9_readBookLine 103 = .ok (.aload_n 0, 1) := dk_42 (dk_at dksX9_readBookLine_4 10 rfl rfl)
theorem dX9_readBookLine_104 : decode cX9_readBookLine 104 = .ok (.getfield 381, 3) := dk_180 1 125 (dk_at dksX9_readBookLine_4 11 rfl rfl)
theorem dX9_readBookLine_107 : decode cX9_readBookLine 107 = .ok (.imul, 1) := dk_104 (dk_at dksX9_readBookLine_4 14 rfl rfl)
theorem dX9_readBookLine_108 : decode cX9_readBookLine 108 = .ok (.istore 5, 2) := dk_54 5 (dk_at dksX9_readBookLine_4 15 rfl rfl)
theorem dX9_readBookLine_110 : decode cX9_readBookLine 110 = .ok (.aload_n 0, 1) := dk_42 (dk_at dksX9_readBookLine_4 17 rfl rfl)
theorem dX9_readBookLine_111 : decode cX9_readBookLine 111 = .ok (.getfield 148, 3) := dk_180 0 148 (dk_at dksX9_readBookLine_4 18 rfl rfl)
theorem dX9_readBookLine_114 : decode cX9_readBookLine 114 = .ok (.iload 5, 2) := dk_21 5 (dk_at dksX9_readBookLine_4 21 rfl rfl)
theorem dX9_readBookLine_116 : decode cX9_readBookLine 116 = .ok (.iload_n 1, 1) := dk_27 (dk_at dksX9_readBookLine_4 23 rfl rfl)
theorem dX9_readBookLine_117 : decode cX9_readBookLine 117 = .ok (.ifCond .eq 7, 3) := dk_153 0 7 (dk_at dksX9_readBookLine_5 0 rfl rfl)
theorem dX9_readBookLine_120 : decode cX9_readBookLine 120 = .ok (.iconst 1, 1) := dk_4 (dk_at dksX9_readBookLine_5 3 rfl rfl)
theorem dX9_readBookLine_121 : decode cX9_readBookLine 121 = .ok (.goto 12, 3) := dk_167 0 12 (dk_at dksX9_readBookLine_5 4 rfl rfl)
theorem dX9_readBookLine_124 : decode cX9_readBookLine 124 = .ok (.iload_n 2, 1) := dk_28 (dk_at dksX9_readBookLine_5 7 rfl rfl)
theorem dX9_readBookLine_125 : decode cX9_readBookLine 125 = .ok (.ifCond .eq 7, 3) := dk_153 0 7 (dk_at dksX9_readBookLine_5 8 rfl rfl)
theorem dX9_readBookLine_128 : decode cX9_readBookLine 128 = .ok (.iconst 2, 1) := dk_5 (dk_at dksX9_readBookLine_5 11 rfl rfl)
theorem dX9_readBookLine_129 : decode cX9_readBookLine 129 = .ok (.goto 4, 3) := dk_167 0 4 (dk_at dksX9_readBookLine_5 12 rfl rfl)
theorem dX9_readBookLine_132 : decode cX9_readBookLine 132 = .ok (.iconst 3, 1) := dk_6 (dk_at dksX9_readBookLine_5 15 rfl rfl)
theorem dX9_readBookLine_133 : decode cX9_readBookLine 133 = .ok (.iastore, 1) := dk_79 (dk_at dksX9_readBookLine_5 16 rfl rfl)
theorem dX9_readBookLine_134 : decode cX9_readBookLine 134 = .ok (.aload_n 0, 1) := dk_42 (dk_at dksX9_readBookLine_5 17 rfl rfl)
theorem dX9_readBookLine_135 : decode cX9_readBookLine 135 = .ok (.getfield 148, 3) := dk_180 0 148 (dk_at dksX9_readBookLine_5 18 rfl rfl)
theorem dX9_readBookLine_138 : decode cX9_readBookLine 138 = .ok (.iload 5, 2) := dk_21 5 (dk_at dksX9_readBookLine_5 21 rfl rfl)
theorem dX9_readBookLine_140 : decode cX9_readBookLine 140 = .ok (.iconst 1, 1) := dk_4 (dk_at dksX9_readBookLine_5 23 rfl rfl)
theorem dX9_readBookLine_141 : decode cX9_readBookLine 141 = .ok (.iadd, 1) := dk_96 (dk_at dksX9_readBookLine_6 0 rfl rfl)
theorem dX9_readBookLine_142 : decode cX9_readBookLine 142 = .ok (.iload 4, 2) := dk_21 4 (dk_at dksX9_readBookLine_6 1 rfl rfl)
theorem dX9_readBookLine_144 : decode cX9_readBookLine 144 = .ok (.ifCond .eq 25, 3) := dk_153 0 25 (dk_at dksX9_readBookLine_6 3 rfl rfl)
theorem dX9_readBookLine_147 : decode cX9_readBookLine 147 = .ok (.aload_n 0, 1) := dk_42 (dk_at dksX9_readBookLine_6 6 rfl rfl)
theorem dX9_readBookLine_148 : decode cX9_readBookLine 148 = .ok (.getfield 113, 3) := dk_180 0 113 (dk_at dksX9_readBookLine_6 7 rfl rfl)
theorem dX9_readBookLine_151 : decode cX9_readBookLine 151 = .ok (.bipush 11, 2) := dk_16 11 (dk_at dksX9_readBookLine_6 10 rfl rfl)
theorem dX9_readBookLine_153 : decode cX9_readBookLine 153 = .ok (.aload_n 0, 1) := dk_42 (dk_at dksX9_readBookLine_6 12 rfl rfl)
theorem dX9_readBookLine_154 : decode cX9_readBookLine 154 = .ok (.getfield 98, 3) := dk_180 0 98 (dk_at dksX9_readBookLine_6 13 rfl rfl)
theorem dX9_readBookLine_157 : decode cX9_readBookLine 157 = .ok (.iconst 2, 1) := dk_5 (dk_at dksX9_readBookLine_6 16 rfl rfl)
theorem dX9_readBookLine_158 : decode cX9_readBookLine 158 = .ok (.iaload, 1) := dk_46 (dk_at dksX9_readBookLine_6 17 rfl rfl)
theorem dX9_readBookLine_159 : decode cX9_readBookLine 159 = .ok (.aload_n 0, 1) := dk_42 (dk_at dksX9_readBookLine_6 18 rfl rfl)
theorem dX9_readBookLine_160 : decode cX9_readBookLine 160 = .ok (.getfield 43, 3) := dk_180 0 43 (dk_at dksX9_readBookLine_6 19 rfl rfl)
theorem dX9_readBookLine_163 : decode cX9_readBookLine 163 = .ok (.invokestatic 160, 3) := dk_184 0 160 (dk_at dksX9_readBookLine_7 0 rfl rfl)
theorem dX9_readBookLine_166 : decode cX9_readBookLine 166 = .ok (.goto 4, 3) := dk_167 0 4 (dk_at dksX9_readBookLine_7 3 rfl rfl)
theorem dX9_readBookLine_169 : decode cX9_readBookLine 169 = .ok (.iconst 0, 1) := dk_3 (dk_at dksX9_readBookLine_7 6 rfl rfl)
theorem dX9_readBookLine_170 : decode cX9_readBookLine 170 = .ok (.iastore, 1) := dk_79 (dk_at dksX9_readBookLine_7 7 rfl rfl)
theorem dX9_readBookLine_171 : decode cX9_readBookLine 171 = .ok (.aload_n 0, 1) := dk_42 (dk_at dksX9_readBookLine_7 8 rfl rfl)
theorem dX9_readBookLine_172 : decode cX9_readBookLine 172 = .ok (.getfield 148, 3) := dk_180 0 148 (dk_at dksX9_readBookLine_7 9 rfl rfl)
theorem dX9_readBookLine_175 : decode cX9_readBookLine 175 = .ok (.iload 5, 2) := dk_21 5 (dk_at dksX9_readBookLine_7 12 rfl rfl)
theorem dX9_readBookLine_177 : decode cX9_readBookLine 177 = .ok (.iconst 2, 1) := dk_5 (dk_at dksX9_readBookLine_7 14 rfl rfl)
theorem dX9_readBookLine_178 : decode cX9_readBookLine 178 = .ok (.iadd, 1) := dk_96 (dk_at dksX9_readBookLine_7 15 rfl rfl)
theorem dX9_readBookLine_179 : decode cX9_readBookLine 179 = .ok (.iconst 0, 1) := dk_3 (dk_at dksX9_readBookLine_7 16 rfl rfl)
theorem dX9_readBookLine_180 : decode cX9_readBookLine 180 = .ok (.iastore, 1) := dk_79 (dk_at dksX9_readBookLine_7 17 rfl rfl)
theorem dX9_readBookLine_181 : decode cX9_readBookLine 181 = .ok (.aload_n 0, 1) := dk_42 (dk_at dksX9_readBookLine_7 18 rfl rfl)
theorem dX9_readBookLine_182 : decode cX9_readBookLine 182 = .ok (.getfield 148, 3) := dk_180 0 148 (dk_at dksX9_readBookLine_7 19 rfl rfl)
theorem dX9_readBookLine_185 : decode cX9_readBookLine 185 = .ok (.iload 5, 2) := dk_21 5 (dk_at dksX9_readBookLine_7 22 rfl rfl)
theorem dX9_readBookLine_187 : decode cX9_readBookLine 187 = .ok (.iconst 3, 1) := dk_6 (dk_at dksX9_readBookLine_8 0 rfl rfl)
theorem dX9_readBookLine_188 : decode cX9_readBookLine 188 = .ok (.iadd, 1) := dk_96 (dk_at dksX9_readBookLine_8 1 rfl rfl)
theorem dX9_readBookLine_189 : decode cX9_readBookLine 189 = .ok (.iconst 0, 1) := dk_3 (dk_at dksX9_readBookLine_8 2 rfl rfl)
theorem dX9_readBookLine_190 : decode cX9_readBookLine 190 = .ok (.iastore, 1) := dk_79 (dk_at dksX9_readBookLine_8 3 rfl rfl)
theorem dX9_readBookLine_191 : decode cX9_readBookLine 191 = .ok (.aload_n 0, 1) := dk_42 (dk_at dksX9_readBookLine_8 4 rfl rfl)
theorem dX9_readBookLine_192 : decode cX9_readBookLine 192 = .ok (.invokevirtual 82, 3) := dk_182 0 82 (dk_at dksX9_readBookLine_8 5 rfl rfl)
theorem dX9_readBookLine_195 : decode cX9_readBookLine 195 = .ok (.iload 4, 2) := dk_21 4 (dk_at dksX9_readBookLine_8 8 rfl rfl)
theorem dX9_readBookLine_197 : decode cX9_readBookLine 197 = .ok (.ifCond .eq 25, 3) := dk_153 0 25 (dk_at dksX9_readBookLine_8 10 rfl rfl)
theorem dX9_readBookLine_200 : decode cX9_readBookLine 200 = .ok (.aload_n 0, 1) := dk_42 (dk_at dksX9_readBookLine_8 13 rfl rfl)
theorem dX9_readBookLine_201 : decode cX9_readBookLine 201 = .ok (.iload 5, 2) := dk_21 5 (dk_at dksX9_readBookLine_8 14 rfl rfl)
theorem dX9_readBookLine_203 : decode cX9_readBookLine 203 = .ok (.invokevirtual 384, 3) := dk_182 1 128 (dk_at dksX9_readBookLine_8 16 rfl rfl)
theorem dX9_readBookLine_206 : decode cX9_readBookLine 206 = .ok (.ifCond .eq 14, 3) := dk_153 0 14 (dk_at dksX9_readBookLine_8 19 rfl rfl)
theorem dX9_readBookLine_209 : decode cX9_readBookLine 209 = .ok (.aload_n 0, 1) := dk_42 (dk_at dksX9_readBookLine_8 22 rfl rfl)
theorem dX9_readBookLine_210 : decode cX9_readBookLine 210 = .ok (.invokevirtual 212, 3) := dk_182 0 212 (dk_at dksX9_readBookLine_9 0 rfl rfl)
theorem dX9_readBookLine_213 : decode cX9_readBookLine 213 = .ok (.ifCond .eq 7, 3) := dk_153 0 7 (dk_at dksX9_readBookLine_9 3 rfl rfl)
theorem dX9_readBookLine_216 : decode cX9_readBookLine 216 = .ok (.iconst 1, 1) := dk_4 (dk_at dksX9_readBookLine_9 6 rfl rfl)
theorem dX9_readBookLine_217 : decode cX9_readBookLine 217 = .ok (.goto 4, 3) := dk_167 0 4 (dk_at dksX9_readBookLine_9 7 rfl rfl)
theorem dX9_readBookLine_220 : decode cX9_readBookLine 220 = .ok (.iconst 0, 1) := dk_3 (dk_at dksX9_readBookLine_9 10 rfl rfl)
theorem dX9_readBookLine_221 : decode cX9_readBookLine 221 = .ok (.ireturn, 1) := dk_172 (dk_at dksX9_readBookLine_9 11 rfl rfl)
theorem dX9_readBookLine_222 : decode cX9_readBookLine 222 = .ok (.iload_n 3, 1) := dk_29 (dk_at dksX9_readBookLine_9 12 rfl rfl)
theorem dX9_readBookLine_223 : decode cX9_readBookLine 223 = .ok (.ifCond .eq 34, 3) := dk_153 0 34 (dk_at dksX9_readBookLine_9 13 rfl rfl)
theorem dX9_readBookLine_226 : decode cX9_readBookLine 226 = .ok (.aload_n 0, 1) := dk_42 (dk_at dksX9_readBookLine_9 16 rfl rfl)
theorem dX9_readBookLine_227 : decode cX9_readBookLine 227 = .ok (.iload 5, 2) := dk_21 5 (dk_at dksX9_readBookLine_9 17 rfl rfl)
theorem dX9_readBookLine_229 : decode cX9_readBookLine 229 = .ok (.iconst 1, 1) := dk_4 (dk_at dksX9_readBookLine_9 19 rfl rfl)
theorem dX9_readBookLine_230 : decode cX9_readBookLine 230 = .ok (.iadd, 1) := dk_96 (dk_at dksX9_readBookLine_9 20 rfl rfl)
theorem dX9_readBookLine_231 : decode cX9_readBookLine 231 = .ok (.aload_n 0, 1) := dk_42 (dk_at dksX9_readBookLine_9 21 rfl rfl)
theorem dX9_readBookLine_232 : decode cX9_readBookLine 232 = .ok (.iconst 1, 1) := dk_4 (dk_at dksX9_readBookLine_9 22 rfl rfl)
theorem dX9_readBookLine_233 : decode cX9_readBookLine 233 = .ok (.bipush 60, 2) := dk_16 60 (dk_at dksX9_readBookLine_10 0 rfl rfl)
theorem dX9_readBookLine_235 : decode cX9_readBookLine 235 = .ok (.invokevirtual 188, 3) := dk_182 0 188 (dk_at dksX9_readBookLine_10 2 rfl rfl)
theorem dX9_readBookLine_238 : decode cX9_readBookLine 238 = .ok (.invokevirtual 375, 3) := dk_182 1 119 (dk_at dksX9_readBookLine_10 5 rfl rfl)
theorem dX9_readBookLine_241 : decode cX9_readBookLine 241 = .ok (.ifCond .eq 14, 3) := dk_153 0 14 (dk_at dksX9_readBookLine_10 8 rfl rfl)
theorem dX9_readBookLine_244 : decode cX9_readBookLine 244 = .ok (.aload_n 0, 1) := dk_42 (dk_at dksX9_readBookLine_10 11 rfl rfl)
theorem dX9_readBookLine_245 : decode cX9_readBookLine 245 = .ok (.invokevirtual 212, 3) := dk_182 0 212 (dk_at dksX9_readBookLine_10 12 rfl rfl)
theorem dX9_readBookLine_248 : decode cX9_readBookLine 248 = .ok (.ifCond .eq 7, 3) := dk_153 0 7 (dk_at dksX9_readBookLine_10 15 rfl rfl)
theorem dX9_readBookLine_251 : decode cX9_readBookLine 251 = .ok (.iconst 1, 1) := dk_4 (dk_at dksX9_readBookLine_10 18 rfl rfl)
theorem dX9_readBookLine_252 : decode cX9_readBookLine 252 = .ok (.goto 4, 3) := dk_167 0 4 (dk_at dksX9_readBookLine_10 19 rfl rfl)
theorem dX9_readBookLine_255 : decode cX9_readBookLine 255 = .ok (.iconst 0, 1) := dk_3 (dk_at dksX9_readBookLine_10 22 rfl rfl)
theorem dX9_readBookLine_256 : decode cX9_readBookLine 256 = .ok (.ireturn, 1) := dk_172 (dk_at dksX9_readBookLine_10 23 rfl rfl)
theorem dX9_readBookLine_257 : decode cX9_readBookLine 257 = .ok (.aload_n 0, 1) := dk_42 (dk_at dksX9_readBookLine_11 0 rfl rfl)
theorem dX9_readBookLine_258 : decode cX9_readBookLine 258 = .ok (.iload 5, 2) := dk_21 5 (dk_at dksX9_readBookLine_11 1 rfl rfl)
theorem dX9_readBookLine_260 : decode cX9_readBookLine 260 = .ok (.iconst 1, 1) := dk_4 (dk_at dksX9_readBookLine_11 3 rfl rfl)
theorem dX9_readBookLine_261 : decode cX9_readBookLine 261 = .ok (.iadd, 1) := dk_96 (dk_at dksX9_readBookLine_11 4 rfl rfl)
theorem dX9_readBookLine_262 : decode cX9_readBookLine 262 = .ok (.aload_n 0, 1) := dk_42 (dk_at dksX9_readBookLine_11 5 rfl rfl)
theorem dX9_readBookLine_263 : decode cX9_readBookLine 263 = .ok (.invokevirtual 387, 3) := dk_182 1 131 (dk_at dksX9_readBookLine_11 6 rfl rfl)
theorem dX9_readBookLine_266 : decode cX9_readBookLine 266 = .ok (.invokevirtual 375, 3) := dk_182 1 119 (dk_at dksX9_readBookLine_11 9 rfl rfl)
theorem dX9_readBookLine_269 : decode cX9_readBookLine 269 = .ok (.ifCond .ne 5, 3) := dk_154 0 5 (dk_at dksX9_readBookLine_11 12 rfl rfl)
theorem dX9_readBookLine_272 : decode cX9_readBookLine 272 = .ok (.iconst 0, 1) := dk_3 (dk_at dksX9_readBookLine_11 15 rfl rfl)
theorem dX9_readBookLine_273 : decode cX9_readBookLine 273 = .ok (.ireturn, 1) := dk_172 (dk_at dksX9_readBookLine_11 16 rfl rfl)
theorem dX9_readBookLine_274 : decode cX9_readBookLine 274 = .ok (.iload_n 1, 1) := dk_27 (dk_at dksX9_readBookLine_11 17 rfl rfl)
theorem dX9_readBookLine_275 : decode cX9_readBookLine 275 = .ok (.ifCond .ne 18, 3) := dk_154 0 18 (dk_at dksX9_readBookLine_11 18 rfl rfl)
theorem dX9_readBookLine_278 : decode cX9_readBookLine 278 = .ok (.aload_n 0, 1) := dk_42 (dk_at dksX9_readBookLine_11 21 rfl rfl)
theorem dX9_readBookLine_279 : decode cX9_readBookLine 279 = .ok (.iload 5, 2) := dk_21 5 (dk_at dksX9_readBookLine_11 22 rfl rfl)
theorem dX9_readBookLine_281 : decode cX9_readBookLine 281 = .ok (.iconst 2, 1) := dk_5 (dk_at dksX9_readBookLine_12 0 rfl rfl)
theorem dX9_readBookLine_282 : decode cX9_readBookLine 282 = .ok (.iadd, 1) := dk_96 (dk_at dksX9_readBookLine_12 1 rfl rfl)
theorem dX9_readBookLine_283 : decode cX9_readBookLine 283 = .ok (.aload_n 0, 1) := dk_42 (dk_at dksX9_readBookLine_12 2 rfl rfl)
theorem dX9_readBookLine_284 : decode cX9_readBookLine 284 = .ok (.invokevirtual 378, 3) := dk_182 1 122 (dk_at dksX9_readBookLine_12 3 rfl rfl)
theorem dX9_readBookLine_287 : decode cX9_readBookLine 287 = .ok (.invokevirtual 375, 3) := dk_182 1 119 (dk_at dksX9_readBookLine_12 6 rfl rfl)
theorem dX9_readBookLine_290 : decode cX9_readBookLine 290 = .ok (.ifCond .eq 14, 3) := dk_153 0 14 (dk_at dksX9_readBookLine_12 9 rfl rfl)
theorem dX9_readBookLine_293 : decode cX9_readBookLine 293 = .ok (.aload_n 0, 1) := dk_42 (dk_at dksX9_readBookLine_12 12 rfl rfl)
theorem dX9_readBookLine_294 : decode cX9_readBookLine 294 = .ok (.invokevirtual 212, 3) := dk_182 0 212 (dk_at dksX9_readBookLine_12 13 rfl rfl)
theorem dX9_readBookLine_297 : decode cX9_readBookLine 297 = .ok (.ifCond .eq 7, 3) := dk_153 0 7 (dk_at dksX9_readBookLine_12 16 rfl rfl)
theorem dX9_readBookLine_300 : decode cX9_readBookLine 300 = .ok (.iconst 1, 1) := dk_4 (dk_at dksX9_readBookLine_12 19 rfl rfl)
theorem dX9_readBookLine_301 : decode cX9_readBookLine 301 = .ok (.goto 4, 3) := dk_167 0 4 (dk_at dksX9_readBookLine_12 20 rfl rfl)
theorem dX9_readBookLine_304 : decode cX9_readBookLine 304 = .ok (.iconst 0, 1) := dk_3 (dk_at dksX9_readBookLine_12 23 rfl rfl)
theorem dX9_readBookLine_305 : decode cX9_readBookLine 305 = .ok (.ireturn, 1) := dk_172 (dk_at dksX9_readBookLine_13 0 rfl rfl)
abbrev cX9_readDoes : ByteArray := prog_22_method_111_code
def yX9_readDoes : MethodName := ⟨RX9, "readDoes", "(I)Z"⟩
def dkwX9_readDoes_2 : List UInt8 := [42, 27, 6, 96, 42, 182, 1, 122, 182, 1, 119, 153, 0, 7, 4, 167, 0, 4, 3, 172]
abbrev dktX9_readDoes_2 : List UInt8 := dkwX9_readDoes_2 ++ []
def dkwX9_readDoes_1 : List UInt8 := [3, 79, 42, 27, 5, 96, 42, 16, 15, 42, 180, 0, 98, 6, 46, 182, 1, 116, 182, 1, 119, 153, 0, 21]
abbrev dktX9_readDoes_1 : List UInt8 := dkwX9_readDoes_1 ++ dktX9_readDoes_2
def dkwX9_readDoes_0 : List UInt8 := [42, 16, 7, 182, 0, 191, 154, 0, 9, 42, 4, 182, 0, 72, 172, 42, 182, 0, 82, 42, 180, 0, 148, 27]
abbrev dktX9_readDoes_0 : List UInt8 := dkwX9_readDoes_0 ++ dktX9_readDoes_1
theorem dksX9_readDoes_0 : cX9_readDoes.data.toList.drop 0 = dktX9_readDoes_0 := by decide +kernel
theorem dksX9_readDoes_1 : cX9_readDoes.data.toList.drop 24 = dktX9_readDoes_1 := dk_seg dksX9_readDoes_0 24 rfl rfl
theorem dksX9_readDoes_2 : cX9_readDoes.data.toList.drop 48 = dktX9_readDoes_2 := dk_seg dksX9_readDoes_1 24 rfl rfl
theorem dX9_readDoes_0 : decode cX9_readDoes 0 = .ok (.aload_n 0, 1) := dk_42 (dk_at dksX9_readDoes_0 0 rfl rfl)
theorem dX9_readDoes_1 : decode cX9_readDoes 1 = .ok (.bipush 7, 2) := dk_16 7 (dk_at dksX9_readDoes_0 1 rfl rfl)
theorem dX9_readDoes_3 : decode cX9_readDoes 3 = .ok (.invokevirtual 191, 3) := dk_182 0 191 (dk_at dksX9_readDoes_0 3 rfl rfl)
theorem dX9_readDoes_6 : decode cX9_readDoes 6 = .ok (.ifCond .ne 9, 3) := dk_154 0 9 (dk_at dksX9_readDoes_0 6 rfl rfl)
theorem dX9_readDoes_9 : decode cX9_readDoes 9 = .ok (.aload_n 0, 1) := dk_42 (dk_at dksX9_readDoes_0 9 rfl rfl)
theorem dX9_readDoes_10 : decode cX9_readDoes 10 = .ok (.iconst 1, 1) := dk_4 (dk_at dksX9_readDoes_0 10 rfl rfl)
theorem dX9_readDoes_11 : decode cX9_readDoes 11 = .ok (.invokevirtual 72, 3) := dk_182 0 72 (dk_at dksX9_readDoes_0 11 rfl rfl)
theorem dX9_readDoes_14 : decode cX9_readDoes 14 = .ok (.ireturn, 1) := dk_172 (dk_at dksX9_readDoes_0 14 rfl rfl)
theorem dX9_readDoes_15 : decode cX9_readDoes 15 = .ok (.aload_n 0, 1) := dk_42 (dk_at dksX9_readDoes_0 15 rfl rfl)
theorem dX9_readDoes_16 : decode cX9_readDoes 16 = .ok (.invokevirtual 82, 3) := dk_182 0 82 (dk_at dksX9_readDoes_0 16 rfl rfl)
theorem dX9_readDoes_19 : decode cX9_readDoes 19 = .ok (.aload_n 0, 1) := dk_42 (dk_at dksX9_readDoes_0 19 rfl rfl)
theorem dX9_readDoes_20 : decode cX9_readDoes 20 = .ok (.getfield 148, 3) := dk_180 0 148 (dk_at dksX9_readDoes_0 20 rfl rfl)
theorem dX9_readDoes_23 : decode cX9_readDoes 23 = .ok (.iload_n 1, 1) := dk_27 (dk_at dksX9_readDoes_0 23 rfl rfl)
theorem dX9_readDoes_24 : decode cX9_readDoes 24 = .ok (.iconst 0, 1) := dk_3 (dk_at dksX9_readDoes_1 0 rfl rfl)
theorem dX9_readDoes_25 : decode cX9_readDoes 25 = .ok (.iastore, 1) := dk_79 (dk_at dksX9_readDoes_1 1 rfl rfl)
theorem dX9_readDoes_26 : decode cX9_readDoes 26 = .ok (.aload_n 0, 1) := dk_42 (dk_at dksX9_readDoes_1 2 rfl rfl)
theorem dX9_readDoes_27 : decode cX9_readDoes 27 = .ok (.iload_n 1, 1) := dk_27 (dk_at dksX9_readDoes_1 3 rfl rfl)
theorem dX9_readDoes_28 : decode cX9_readDoes 28 = .ok (.iconst 2, 1) := dk_5 (dk_at dksX9_readDoes_1 4 rfl rfl)
theorem dX9_readDoes_29 : decode cX9_readDoes 29 = .ok (.iadd, 1) := dk_96 (dk_at dksX9_readDoes_1 5 rfl rfl)
theorem dX9_readDoes_30 : decode cX9_readDoes 30 = .ok (.aload_n 0, 1) := dk_42 (dk_at dksX9_readDoes_1 6 rfl rfl)
theorem dX9_readDoes_31 : decode cX9_readDoes 31 = .ok (.bipush 15, 2) := dk_16 15 (dk_at dksX9_readDoes_1 7 rfl rfl)
theorem dX9_readDoes_33 : decode cX9_readDoes 33 = .ok (.aload_n 0, 1) := dk_42 (dk_at dksX9_readDoes_1 9 rfl rfl)
theorem dX9_readDoes_34 : decode cX9_readDoes 34 = .ok (.getfield 98, 3) := dk_180 0 98 (dk_at dksX9_readDoes_1 10 rfl rfl)
theorem dX9_readDoes_37 : decode cX9_readDoes 37 = .ok (.iconst 3, 1) := dk_6 (dk_at dksX9_readDoes_1 13 rfl rfl)
theorem dX9_readDoes_38 : decode cX9_readDoes 38 = .ok (.iaload, 1) := dk_46 (dk_at dksX9_readDoes_1 14 rfl rfl)
theorem dX9_readDoes_39 : decode cX9_readDoes 39 = .ok (.invokevirtual 372, 3) := dk_182 1 116 (dk_at dksX9_readDoes_1 15 rfl rfl)
theorem dX9_readDoes_42 : decode cX9_readDoes 42 = .ok (.invokevirtual 375, 3) := dk_182 1 119 (dk_at dksX9_readDoes_1 18 rfl rfl)
theorem dX9_readDoes_45 : decode cX9_readDoes 45 = .ok (.ifCond .eq 21, 3) := dk_153 0 21 (dk_at dksX9_readDoes_1 21 rfl rfl)
theorem dX9_readDoes_48 : decode cX9_readDoes 48 = .ok (.aload_n 0, 1) := dk_42 (dk_at dksX9_readDoes_2 0 rfl rfl)
theorem dX9_readDoes_49 : decode cX9_readDoes 49 = .ok (.iload_n 1, 1) := dk_27 (dk_at dksX9_readDoes_2 1 rfl rfl)
theorem dX9_readDoes_50 : decode cX9_readDoes 50 = .ok (.iconst 3, 1) := dk_6 (dk_at dksX9_readDoes_2 2 rfl rfl)
theorem dX9_readDoes_51 : decode cX9_readDoes 51 = .ok (.iadd, 1) := dk_96 (dk_at dksX9_readDoes_2 3 rfl rfl)
theorem dX9_readDoes_52 : decode cX9_readDoes 52 = .ok (.aload_n 0, 1) := dk_42 (dk_at dksX9_readDoes_2 4 rfl rfl)
theorem dX9_readDoes_53 : decode cX9_readDoes 53 = .ok (.invokevirtual 378, 3) := dk_182 1 122 (dk_at dksX9_readDoes_2 5 rfl rfl)
theorem dX9_readDoes_56 : decode cX9_readDoes 56 = .ok (.invokevirtual 375, 3) := dk_182 1 119 (dk_at dksX9_readDoes_2 8 rfl rfl)
theorem dX9_readDoes_59 : decode cX9_readDoes 59 = .ok (.ifCond .eq 7, 3) := dk_153 0 7 (dk_at dksX9_readDoes_2 11 rfl rfl)
theorem dX9_readDoes_62 : decode cX9_readDoes 62 = .ok (.iconst 1, 1) := dk_4 (dk_at dksX9_readDoes_2 14 rfl rfl)
theorem dX9_readDoes_63 : decode cX9_readDoes 63 = .ok (.goto 4, 3) := dk_167 0 4 (dk_at dksX9_readDoes_2 15 rfl rfl)
theorem dX9_readDoes_66 : decode cX9_readDoes 66 = .ok (.iconst 0, 1) := dk_3 (dk_at dksX9_readDoes_2 18 rfl rfl)
theorem dX9_readDoes_67 : decode cX9_readDoes 67 = .ok (.ireturn, 1) := dk_172 (dk_at dksX9_readDoes_2 19 rfl rfl)
abbrev cX9_readNamed : ByteArray := prog_22_method_108_code
def yX9_readNamed : MethodName := ⟨RX9, "readNamed", "(II)Z"⟩
def dkwX9_readNamed_2 : List UInt8 := [4, 172]
abbrev dktX9_readNamed_2 : List UInt8 := dkwX9_readNamed_2 ++ []
def dkwX9_readNamed_1 : List UInt8 := [184, 0, 160, 181, 0, 79, 42, 180, 0, 79, 2, 160, 0, 9, 42, 6, 182, 0, 72, 172, 42, 182, 0, 82]
abbrev dktX9_readNamed_1 : List UInt8 := dkwX9_readNamed_1 ++ dktX9_readNamed_2
def dkwX9_readNamed_0 : List UInt8 := [42, 182, 0, 164, 154, 0, 9, 42, 4, 182, 0, 72, 172, 42, 42, 180, 0, 113, 27, 28, 42, 180, 0, 43]
abbrev dktX9_readNamed_0 : List UInt8 := dkwX9_readNamed_0 ++ dktX9_readNamed_1
theorem dksX9_readNamed_0 : cX9_readNamed.data.toList.drop 0 = dktX9_readNamed_0 := by decide +kernel
theorem dksX9_readNamed_1 : cX9_readNamed.data.toList.drop 24 = dktX9_readNamed_1 := dk_seg dksX9_readNamed_0 24 rfl rfl
theorem dksX9_readNamed_2 : cX9_readNamed.data.toList.drop 48 = dktX9_readNamed_2 := dk_seg dksX9_readNamed_1 24 rfl rfl
theorem dX9_readNamed_0 : decode cX9_readNamed 0 = .ok (.aload_n 0, 1) := dk_42 (dk_at dksX9_readNamed_0 0 rfl rfl)
theorem dX9_readNamed_1 : decode cX9_readNamed 1 = .ok (.invokevirtual 164, 3) := dk_182 0 164 (dk_at dksX9_readNamed_0 1 rfl rfl)
theorem dX9_readNamed_4 : decode cX9_readNamed 4 = .ok (.ifCond .ne 9, 3) := dk_154 0 9 (dk_at dksX9_readNamed_0 4 rfl rfl)
theorem dX9_readNamed_7 : decode cX9_readNamed 7 = .ok (.aload_n 0, 1) := dk_42 (dk_at dksX9_readNamed_0 7 rfl rfl)
theorem dX9_readNamed_8 : decode cX9_readNamed 8 = .ok (.iconst 1, 1) := dk_4 (dk_at dksX9_readNamed_0 8 rfl rfl)
theorem dX9_readNamed_9 : decode cX9_readNamed 9 = .ok (.invokevirtual 72, 3) := dk_182 0 72 (dk_at dksX9_readNamed_0 9 rfl rfl)
theorem dX9_readNamed_12 : decode cX9_readNamed 12 = .ok (.ireturn, 1) := dk_172 (dk_at dksX9_readNamed_0 12 rfl rfl)
theorem dX9_readNamed_13 : decode cX9_readNamed 13 = .ok (.aload_n 0, 1) := dk_42 (dk_at dksX9_readNamed_0 13 rfl rfl)
theorem dX9_readNamed_14 : decode cX9_readNamed 14 = .ok (.aload_n 0, 1) := dk_42 (dk_at dksX9_readNamed_0 14 rfl rfl)
theorem dX9_readNamed_15 : decode cX9_readNamed 15 = .ok (.getfield 113, 3) := dk_180 0 113 (dk_at dksX9_readNamed_0 15 rfl rfl)
theorem dX9_readNamed_18 : decode cX9_readNamed 18 = .ok (.iload_n 1, 1) := dk_27 (dk_at dksX9_readNamed_0 18 rfl rfl)
theorem dX9_readNamed_19 : decode cX9_readNamed 19 = .ok (.iload_n 2, 1) := dk_28 (dk_at dksX9_readNamed_0 19 rfl rfl)
theorem dX9_readNamed_20 : decode cX9_readNamed 20 = .ok (.aload_n 0, 1) := dk_42 (dk_at dksX9_readNamed_0 20 rfl rfl)
theorem dX9_readNamed_21 : decode cX9_readNamed 21 = .ok (.getfield 43, 3) := dk_180 0 43 (dk_at dksX9_readNamed_0 21 rfl rfl)
theorem dX9_readNamed_24 : decode cX9_readNamed 24 = .ok (.invokestatic 160, 3) := dk_184 0 160 (dk_at dksX9_readNamed_1 0 rfl rfl)
theorem dX9_readNamed_27 : decode cX9_readNamed 27 = .ok (.putfield 79, 3) := dk_181 0 79 (dk_at dksX9_readNamed_1 3 rfl rfl)
theorem dX9_readNamed_30 : decode cX9_readNamed 30 = .ok (.aload_n 0, 1) := dk_42 (dk_at dksX9_readNamed_1 6 rfl rfl)
theorem dX9_readNamed_31 : decode cX9_readNamed 31 = .ok (.getfield 79, 3) := dk_180 0 79 (dk_at dksX9_readNamed_1 7 rfl rfl)
theorem dX9_readNamed_34 : decode cX9_readNamed 34 = .ok (.iconst (-1), 1) := dk_2 (dk_at dksX9_readNamed_1 10 rfl rfl)
theorem dX9_readNamed_35 : decode cX9_readNamed 35 = .ok (.if_icmp .ne 9, 3) := dk_160 0 9 (dk_at dksX9_readNamed_1 11 rfl rfl)
theorem dX9_readNamed_38 : decode cX9_readNamed 38 = .ok (.aload_n 0, 1) := dk_42 (dk_at dksX9_readNamed_1 14 rfl rfl)
theorem dX9_readNamed_39 : decode cX9_readNamed 39 = .ok (.iconst 3, 1) := dk_6 (dk_at dksX9_readNamed_1 15 rfl rfl)
theorem dX9_readNamed_40 : decode cX9_readNamed 40 = .ok (.invokevirtual 72, 3) := dk_182 0 72 (dk_at dksX9_readNamed_1 16 rfl rfl)
theorem dX9_readNamed_43 : decode cX9_readNamed 43 = .ok (.ireturn, 1) := dk_172 (dk_at dksX9_readNamed_1 19 rfl rfl)
theorem dX9_readNamed_44 : decode cX9_readNamed 44 = .ok (.aload_n 0, 1) := dk_42 (dk_at dksX9_readNamed_1 20 rfl rfl)
theorem dX9_readNamed_45 : decode cX9_readNamed 45 = .ok (.invokevirtual 82, 3) := dk_182 0 82 (dk_at dksX9_readNamed_1 21 rfl rfl)
theorem dX9_readNamed_48 : decode cX9_readNamed 48 = .ok (.iconst 1, 1) := dk_4 (dk_at dksX9_readNamed_2 0 rfl rfl)
theorem dX9_readNamed_49 : decode cX9_readNamed 49 = .ok (.ireturn, 1) := dk_172 (dk_at dksX9_readNamed_2 1 rfl rfl)
abbrev cX9_keep : ByteArray := prog_22_method_107_code
def yX9_keep : MethodName := ⟨RX9, "keep", "(IZ)Z"⟩
def dkwX9_keep_0 : List UInt8 := [28, 153, 0, 13, 42, 180, 0, 148, 27, 42, 180, 0, 79, 79, 28, 172]
abbrev dktX9_keep_0 : List UInt8 := dkwX9_keep_0 ++ []
theorem dksX9_keep_0 : cX9_keep.data.toList.drop 0 = dktX9_keep_0 := by decide +kernel
theorem dX9_keep_0 : decode cX9_keep 0 = .ok (.iload_n 2, 1) := dk_28 (dk_at dksX9_keep_0 0 rfl rfl)
theorem dX9_keep_1 : decode cX9_keep 1 = .ok (.ifCond .eq 13, 3) := dk_153 0 13 (dk_at dksX9_keep_0 1 rfl rfl)
theorem dX9_keep_4 : decode cX9_keep 4 = .ok (.aload_n 0, 1) := dk_42 (dk_at dksX9_keep_0 4 rfl rfl)
theorem dX9_keep_5 : decode cX9_keep 5 = .ok (.getfield 148, 3) := dk_180 0 148 (dk_at dksX9_keep_0 5 rfl rfl)
theorem dX9_keep_8 : decode cX9_keep 8 = .ok (.iload_n 1, 1) := dk_27 (dk_at dksX9_keep_0 8 rfl rfl)
theorem dX9_keep_9 : decode cX9_keep 9 = .ok (.aload_n 0, 1) := dk_42 (dk_at dksX9_keep_0 9 rfl rfl)
theorem dX9_keep_10 : decode cX9_keep 10 = .ok (.getfield 79, 3) := dk_180 0 79 (dk_at dksX9_keep_0 10 rfl rfl)
theorem dX9_keep_13 : decode cX9_keep 13 = .ok (.iastore, 1) := dk_79 (dk_at dksX9_keep_0 13 rfl rfl)
theorem dX9_keep_14 : decode cX9_keep 14 = .ok (.iload_n 2, 1) := dk_28 (dk_at dksX9_keep_0 14 rfl rfl)
theorem dX9_keep_15 : decode cX9_keep 15 = .ok (.ireturn, 1) := dk_172 (dk_at dksX9_keep_0 15 rfl rfl)
abbrev cX9_readParlourName : ByteArray := prog_22_method_109_code
def yX9_readParlourName : MethodName := ⟨RX9, "readParlourName", "()Z"⟩
def dkwX9_readParlourName_0 : List UInt8 := [42, 3, 42, 180, 0, 98, 3, 46, 182, 1, 116, 172]
abbrev dktX9_readParlourName_0 : List UInt8 := dkwX9_readParlourName_0 ++ []
theorem dksX9_readParlourName_0 : cX9_readParlourName.data.toList.drop 0 = dktX9_readParlourName_0 := by decide +kernel
theorem dX9_readParlourName_0 : decode cX9_readParlourName 0 = .ok (.aload_n 0, 1) := dk_42 (dk_at dksX9_readParlourName_0 0 rfl rfl)
theorem dX9_readParlourName_1 : decode cX9_readParlourName 1 = .ok (.iconst 0, 1) := dk_3 (dk_at dksX9_readParlourName_0 1 rfl rfl)
theorem dX9_readParlourName_2 : decode cX9_readParlourName 2 = .ok (.aload_n 0, 1) := dk_42 (dk_at dksX9_readParlourName_0 2 rfl rfl)
theorem dX9_readParlourName_3 : decode cX9_readParlourName 3 = .ok (.getfield 98, 3) := dk_180 0 98 (dk_at dksX9_readParlourName_0 3 rfl rfl)
theorem dX9_readParlourName_6 : decode cX9_readParlourName 6 = .ok (.iconst 0, 1) := dk_3 (dk_at dksX9_readParlourName_0 6 rfl rfl)
theorem dX9_readParlourName_7 : decode cX9_readParlourName 7 = .ok (.iaload, 1) := dk_46 (dk_at dksX9_readParlourName_0 7 rfl rfl)
theorem dX9_readParlourName_8 : decode cX9_readParlourName 8 = .ok (.invokevirtual 372, 3) := dk_182 1 116 (dk_at dksX9_readParlourName_0 8 rfl rfl)
theorem dX9_readParlourName_11 : decode cX9_readParlourName 11 = .ok (.ireturn, 1) := dk_172 (dk_at dksX9_readParlourName_0 11 rfl rfl)
abbrev cX9_readPlantName : ByteArray := prog_22_method_110_code
def yX9_readPlantName : MethodName := ⟨RX9, "readPlantName", "()Z"⟩
def dkwX9_readPlantName_0 : List UInt8 := [42, 8, 42, 180, 0, 98, 4, 46, 182, 1, 116, 172]
abbrev dktX9_readPlantName_0 : List UInt8 := dkwX9_readPlantName_0 ++ []
theorem dksX9_readPlantName_0 : cX9_readPlantName.data.toList.drop 0 = dktX9_readPlantName_0 := by decide +kernel
theorem dX9_readPlantName_0 : decode cX9_readPlantName 0 = .ok (.aload_n 0, 1) := dk_42 (dk_at dksX9_readPlantName_0 0 rfl rfl)
theorem dX9_readPlantName_1 : decode cX9_readPlantName 1 = .ok (.iconst 5, 1) := dk_8 (dk_at dksX9_readPlantName_0 1 rfl rfl)
theorem dX9_readPlantName_2 : decode cX9_readPlantName 2 = .ok (.aload_n 0, 1) := dk_42 (dk_at dksX9_readPlantName_0 2 rfl rfl)
theorem dX9_readPlantName_3 : decode cX9_readPlantName 3 = .ok (.getfield 98, 3) := dk_180 0 98 (dk_at dksX9_readPlantName_0 3 rfl rfl)
theorem dX9_readPlantName_6 : decode cX9_readPlantName 6 = .ok (.iconst 1, 1) := dk_4 (dk_at dksX9_readPlantName_0 6 rfl rfl)
theorem dX9_readPlantName_7 : decode cX9_readPlantName 7 = .ok (.iaload, 1) := dk_46 (dk_at dksX9_readPlantName_0 7 rfl rfl)
theorem dX9_readPlantName_8 : decode cX9_readPlantName 8 = .ok (.invokevirtual 372, 3) := dk_182 1 116 (dk_at dksX9_readPlantName_0 8 rfl rfl)
theorem dX9_readPlantName_11 : decode cX9_readPlantName 11 = .ok (.ireturn, 1) := dk_172 (dk_at dksX9_readPlantName_0 11 rfl rfl)
abbrev cX9_goBy : ByteArray := prog_22_method_113_code
def yX9_goBy : MethodName := ⟨RX9, "goBy", "(I)I"⟩
def dkwX9_goBy_4 : List UInt8 := [96, 46, 42, 180, 0, 148, 27, 6, 96, 46, 182, 1, 26, 3, 172]
abbrev dktX9_goBy_4 : List UInt8 := dkwX9_goBy_4 ++ []
def dkwX9_goBy_3 : List UInt8 := [42, 180, 0, 148, 27, 46, 104, 29, 96, 172, 42, 42, 180, 0, 148, 27, 46, 28, 42, 180, 0, 148, 27, 5]
abbrev dktX9_goBy_3 : List UInt8 := dkwX9_goBy_3 ++ dktX9_goBy_4
def dkwX9_goBy_2 : List UInt8 := [180, 0, 148, 27, 46, 28, 42, 180, 0, 148, 27, 5, 96, 46, 182, 1, 19, 62, 29, 153, 0, 15, 16, 10]
abbrev dktX9_goBy_2 : List UInt8 := dkwX9_goBy_2 ++ dktX9_goBy_3
def dkwX9_goBy_1 : List UInt8 := [16, 24, 46, 28, 96, 17, 1, 144, 164, 0, 6, 16, 31, 172, 42, 28, 182, 1, 46, 87, 3, 172, 42, 42]
abbrev dktX9_goBy_1 : List UInt8 := dkwX9_goBy_1 ++ dktX9_goBy_2
def dkwX9_goBy_0 : List UInt8 := [42, 180, 0, 148, 27, 4, 96, 46, 61, 42, 180, 0, 148, 27, 46, 6, 160, 0, 29, 42, 180, 0, 98]
abbrev dktX9_goBy_0 : List UInt8 := dkwX9_goBy_0 ++ dktX9_goBy_1
theorem dksX9_goBy_0 : cX9_goBy.data.toList.drop 0 = dktX9_goBy_0 := by decide +kernel
theorem dksX9_goBy_1 : cX9_goBy.data.toList.drop 23 = dktX9_goBy_1 := dk_seg dksX9_goBy_0 23 rfl rfl
theorem dksX9_goBy_2 : cX9_goBy.data.toList.drop 47 = dktX9_goBy_2 := dk_seg dksX9_goBy_1 24 rfl rfl
theorem dksX9_goBy_3 : cX9_goBy.data.toList.drop 71 = dktX9_goBy_3 := dk_seg dksX9_goBy_2 24 rfl rfl
theorem dksX9_goBy_4 : cX9_goBy.data.toList.drop 95 = dktX9_goBy_4 := dk_seg dksX9_goBy_3 24 rfl rfl
theorem dX9_goBy_0 : decode cX9_goBy 0 = .ok (.aload_n 0, 1) := dk_42 (dk_at dksX9_goBy_0 0 rfl rfl)
theorem dX9_goBy_1 : decode cX9_goBy 1 = .ok (.getfield 148, 3) := dk_180 0 148 (dk_at dksX9_goBy_0 1 rfl rfl)
theorem dX9_goBy_4 : decode cX9_goBy 4 = .ok (.iload_n 1, 1) := dk_27 (dk_at dksX9_goBy_0 4 rfl rfl)
theorem dX9_goBy_5 : decode cX9_goBy 5 = .ok (.iconst 1, 1) := dk_4 (dk_at dksX9_goBy_0 5 rfl rfl)
theorem dX9_goBy_6 : decode cX9_goBy 6 = .ok (.iadd, 1) := dk_96 (dk_at dksX9_goBy_0 6 rfl rfl)
theorem dX9_goBy_7 : decode cX9_goBy 7 = .ok (.iaload, 1) := dk_46 (dk_at dksX9_goBy_0 7 rfl rfl)
theorem dX9_goBy_8 : decode cX9_goBy 8 = .ok (.istore_n 2, 1) := dk_61 (dk_at dksX9_goBy_0 8 rfl rfl)
theorem dX9_goBy_9 : decode cX9_goBy 9 = .ok (.aload_n 0, 1) := dk_42 (dk_at dksX9_goBy_0 9 rfl rfl)
theorem dX9_goBy_10 : decode cX9_goBy 10 = .ok (.getfield 148, 3) := dk_180 0 148 (dk_at dksX9_goBy_0 10 rfl rfl)
theorem dX9_goBy_13 : decode cX9_goBy 13 = .ok (.iload_n 1, 1) := dk_27 (dk_at dksX9_goBy_0 13 rfl rfl)
theorem dX9_goBy_14 : decode cX9_goBy 14 = .ok (.iaload, 1) := dk_46 (dk_at dksX9_goBy_0 14 rfl rfl)
theorem dX9_goBy_15 : decode cX9_goBy 15 = .ok (.iconst 3, 1) := dk_6 (dk_at dksX9_goBy_0 15 rfl rfl)
theorem dX9_goBy_16 : decode cX9_goBy 16 = .ok (.if_icmp .ne 29, 3) := dk_160 0 29 (dk_at dksX9_goBy_0 16 rfl rfl)
theorem dX9_goBy_19 : decode cX9_goBy 19 = .ok (.aload_n 0, 1) := dk_42 (dk_at dksX9_goBy_0 19 rfl rfl)
theorem dX9_goBy_20 : decode cX9_goBy 20 = .ok (.getfield 98, 3) := dk_180 0 98 (dk_at dksX9_goBy_0 20 rfl rfl)
theorem dX9_goBy_23 : decode cX9_goBy 23 = .ok (.bipush 24, 2) := dk_16 24 (dk_at dksX9_goBy_1 0 rfl rfl)
theorem dX9_goBy_25 : decode cX9_goBy 25 = .ok (.iaload, 1) := dk_46 (dk_at dksX9_goBy_1 2 rfl rfl)
theorem dX9_goBy_26 : decode cX9_goBy 26 = .ok (.iload_n 2, 1) := dk_28 (dk_at dksX9_goBy_1 3 rfl rfl)
theorem dX9_goBy_27 : decode cX9_goBy 27 = .ok (.iadd, 1) := dk_96 (dk_at dksX9_goBy_1 4 rfl rfl)
theorem dX9_goBy_28 : decode cX9_goBy 28 = .ok (.sipush 400, 3) := dk_17 1 144 (dk_at dksX9_goBy_1 5 rfl rfl)
theorem dX9_goBy_31 : decode cX9_goBy 31 = .ok (.if_icmp .le 6, 3) := dk_164 0 6 (dk_at dksX9_goBy_1 8 rfl rfl)
theorem dX9_goBy_34 : decode cX9_goBy 34 = .ok (.bipush 31, 2) := dk_16 31 (dk_at dksX9_goBy_1 11 rfl rfl)
theorem dX9_goBy_36 : decode cX9_goBy 36 = .ok (.ireturn, 1) := dk_172 (dk_at dksX9_goBy_1 13 rfl rfl)
theorem dX9_goBy_37 : decode cX9_goBy 37 = .ok (.aload_n 0, 1) := dk_42 (dk_at dksX9_goBy_1 14 rfl rfl)
theorem dX9_goBy_38 : decode cX9_goBy 38 = .ok (.iload_n 2, 1) := dk_28 (dk_at dksX9_goBy_1 15 rfl rfl)
theorem dX9_goBy_39 : decode cX9_goBy 39 = .ok (.invokevirtual 302, 3) := dk_182 1 46 (dk_at dksX9_goBy_1 16 rfl rfl)
theorem dX9_goBy_42 : decode cX9_goBy 42 = .ok (.pop, 1) := dk_87 (dk_at dksX9_goBy_1 19 rfl rfl)
theorem dX9_goBy_43 : decode cX9_goBy 43 = .ok (.iconst 0, 1) := dk_3 (dk_at dksX9_goBy_1 20 rfl rfl)
theorem dX9_goBy_44 : decode cX9_goBy 44 = .ok (.ireturn, 1) := dk_172 (dk_at dksX9_goBy_1 21 rfl rfl)
theorem dX9_goBy_45 : decode cX9_goBy 45 = .ok (.aload_n 0, 1) := dk_42 (dk_at dksX9_goBy_1 22 rfl rfl)
theorem dX9_goBy_46 : decode cX9_goBy 46 = .ok (.aload_n 0, 1) := dk_42 (dk_at dksX9_goBy_1 23 rfl rfl)
theorem dX9_goBy_47 : decode cX9_goBy 47 = .ok (.getfield 148, 3) := dk_180 0 148 (dk_at dksX9_goBy_2 0 rfl rfl)
theorem dX9_goBy_50 : decode cX9_goBy 50 = .ok (.iload_n 1, 1) := dk_27 (dk_at dksX9_goBy_2 3 rfl rfl)
theorem dX9_goBy_51 : decode cX9_goBy 51 = .ok (.iaload, 1) := dk_46 (dk_at dksX9_goBy_2 4 rfl rfl)
theorem dX9_goBy_52 : decode cX9_goBy 52 = .ok (.iload_n 2, 1) := dk_28 (dk_at dksX9_goBy_2 5 rfl rfl)
theorem dX9_goBy_53 : decode cX9_goBy 53 = .ok (.aload_n 0, 1) := dk_42 (dk_at dksX9_goBy_2 6 rfl rfl)
theorem dX9_goBy_54 : decode cX9_goBy 54 = .ok (.getfield 148, 3) := dk_180 0 148 (dk_at dksX9_goBy_2 7 rfl rfl)
theorem dX9_goBy_57 : decode cX9_goBy 57 = .ok (.iload_n 1, 1) := dk_27 (dk_at dksX9_goBy_2 10 rfl rfl)
theorem dX9_goBy_58 : decode cX9_goBy 58 = .ok (.iconst 2, 1) := dk_5 (dk_at dksX9_goBy_2 11 rfl rfl)
theorem dX9_goBy_59 : decode cX9_goBy 59 = .ok (.iadd, 1) := dk_96 (dk_at dksX9_goBy_2 12 rfl rfl)
theorem dX9_goBy_60 : decode cX9_goBy 60 = .ok (.iaload, 1) := dk_46 (dk_at dksX9_goBy_2 13 rfl rfl)
theorem dX9_goBy_61 : decode cX9_goBy 61 = .ok (.invokevirtual 275, 3) := dk_182 1 19 (dk_at dksX9_goBy_2 14 rfl rfl)
theorem dX9_goBy_64 : decode cX9_goBy 64 = .ok (.istore_n 3, 1) := dk_62 (dk_at dksX9_goBy_2 17 rfl rfl)
theorem dX9_goBy_65 : decode cX9_goBy 65 = .ok (.iload_n 3, 1) := dk_29 (dk_at dksX9_goBy_2 18 rfl rfl)
theorem dX9_goBy_66 : decode cX9_goBy 66 = .ok (.ifCond .eq 15, 3) := dk_153 0 15 (dk_at dksX9_goBy_2 19 rfl rfl)
theorem dX9_goBy_69 : decode cX9_goBy 69 = .ok (.bipush 10, 2) := dk_16 10 (dk_at dksX9_goBy_2 22 rfl rfl)
theorem dX9_goBy_71 : decode cX9_goBy 71 = .ok (.aload_n 0, 1) := dk_42 (dk_at dksX9_goBy_3 0 rfl rfl)
theorem dX9_goBy_72 : decode cX9_goBy 72 = .ok (.getfield 148, 3) := dk_180 0 148 (dk_at dksX9_goBy_3 1 rfl rfl)
theorem dX9_goBy_75 : decode cX9_goBy 75 = .ok (.iload_n 1, 1) := dk_27 (dk_at dksX9_goBy_3 4 rfl rfl)
theorem dX9_goBy_76 : decode cX9_goBy 76 = .ok (.iaload, 1) := dk_46 (dk_at dksX9_goBy_3 5 rfl rfl)
theorem dX9_goBy_77 : decode cX9_goBy 77 = .ok (.imul, 1) := dk_104 (dk_at dksX9_goBy_3 6 rfl rfl)
theorem dX9_goBy_78 : decode cX9_goBy 78 = .ok (.iload_n 3, 1) := dk_29 (dk_at dksX9_goBy_3 7 rfl rfl)
theorem dX9_goBy_79 : decode cX9_goBy 79 = .ok (.iadd, 1) := dk_96 (dk_at dksX9_goBy_3 8 rfl rfl)
theorem dX9_goBy_80 : decode cX9_goBy 80 = .ok (.ireturn, 1) := dk_172 (dk_at dksX9_goBy_3 9 rfl rfl)
theorem dX9_goBy_81 : decode cX9_goBy 81 = .ok (.aload_n 0, 1) := dk_42 (dk_at dksX9_goBy_3 10 rfl rfl)
theorem dX9_goBy_82 : decode cX9_goBy 82 = .ok (.aload_n 0, 1) := dk_42 (dk_at dksX9_goBy_3 11 rfl rfl)
theorem dX9_goBy_83 : decode cX9_goBy 83 = .ok (.getfield 148, 3) := dk_180 0 148 (dk_at dksX9_goBy_3 12 rfl rfl)
theorem dX9_goBy_86 : decode cX9_goBy 86 = .ok (.iload_n 1, 1) := dk_27 (dk_at dksX9_goBy_3 15 rfl rfl)
theorem dX9_goBy_87 : decode cX9_goBy 87 = .ok (.iaload, 1) := dk_46 (dk_at dksX9_goBy_3 16 rfl rfl)
theorem dX9_goBy_88 : decode cX9_goBy 88 = .ok (.iload_n 2, 1) := dk_28 (dk_at dksX9_goBy_3 17 rfl rfl)
theorem dX9_goBy_89 : decode cX9_goBy 89 = .ok (.aload_n 0, 1) := dk_42 (dk_at dksX9_goBy_3 18 rfl rfl)
theorem dX9_goBy_90 : decode cX9_goBy 90 = .ok (.getfield 148, 3) := dk_180 0 148 (dk_at dksX9_goBy_3 19 rfl rfl)
theorem dX9_goBy_93 : decode cX9_goBy 93 = .ok (.iload_n 1, 1) := dk_27 (dk_at dksX9_goBy_3 22 rfl rfl)
theorem dX9_goBy_94 : decode cX9_goBy 94 = .ok (.iconst 2, 1) := dk_5 (dk_at dksX9_goBy_3 23 rfl rfl)
theorem dX9_goBy_95 : decode cX9_goBy 95 = .ok (.iadd, 1) := dk_96 (dk_at dksX9_goBy_4 0 rfl rfl)
theorem dX9_goBy_96 : decode cX9_goBy 96 = .ok (.iaload, 1) := dk_46 (dk_at dksX9_goBy_4 1 rfl rfl)
theorem dX9_goBy_97 : decode cX9_goBy 97 = .ok (.aload_n 0, 1) := dk_42 (dk_at dksX9_goBy_4 2 rfl rfl)
theorem dX9_goBy_98 : decode cX9_goBy 98 = .ok (.getfield 148, 3) := dk_180 0 148 (dk_at dksX9_goBy_4 3 rfl rfl)
theorem dX9_goBy_101 : decode cX9_goBy 101 = .ok (.iload_n 1, 1) := dk_27 (dk_at dksX9_goBy_4 6 rfl rfl)
theorem dX9_goBy_102 : decode cX9_goBy 102 = .ok (.iconst 3, 1) := dk_6 (dk_at dksX9_goBy_4 7 rfl rfl)
theorem dX9_goBy_103 : decode cX9_goBy 103 = .ok (.iadd, 1) := dk_96 (dk_at dksX9_goBy_4 8 rfl rfl)
theorem dX9_goBy_104 : decode cX9_goBy 104 = .ok (.iaload, 1) := dk_46 (dk_at dksX9_goBy_4 9 rfl rfl)
theorem dX9_goBy_105 : decode cX9_goBy 105 = .ok (.invokevirtual 282, 3) := dk_182 1 26 (dk_at dksX9_goBy_4 10 rfl rfl)
theorem dX9_goBy_108 : decode cX9_goBy 108 = .ok (.iconst 0, 1) := dk_3 (dk_at dksX9_goBy_4 13 rfl rfl)
theorem dX9_goBy_109 : decode cX9_goBy 109 = .ok (.ireturn, 1) := dk_172 (dk_at dksX9_goBy_4 14 rfl rfl)
abbrev cX9_stay : ByteArray := prog_22_method_115_code
def yX9_stay : MethodName := ⟨RX9, "stay", "(Z)V"⟩
def dkwX9_stay_2 : List UInt8 := [27, 154, 0, 4, 177, 42, 182, 1, 23, 42, 182, 1, 113, 177]
abbrev dktX9_stay_2 : List UInt8 := dkwX9_stay_2 ++ []
def dkwX9_stay_1 : List UInt8 := [16, 24, 28, 96, 42, 180, 0, 110, 28, 46, 79, 42, 180, 0, 110, 28, 29, 79, 132, 2, 1, 167, 255, 214]
abbrev dktX9_stay_1 : List UInt8 := dkwX9_stay_1 ++ dktX9_stay_2
def dkwX9_stay_0 : List UInt8 := [3, 61, 28, 17, 0, 140, 162, 0, 41, 42, 180, 0, 98, 16, 24, 28, 96, 46, 62, 42, 180, 0, 98]
abbrev dktX9_stay_0 : List UInt8 := dkwX9_stay_0 ++ dktX9_stay_1
theorem dksX9_stay_0 : cX9_stay.data.toList.drop 0 = dktX9_stay_0 := by decide +kernel
theorem dksX9_stay_1 : cX9_stay.data.toList.drop 23 = dktX9_stay_1 := dk_seg dksX9_stay_0 23 rfl rfl
theorem dksX9_stay_2 : cX9_stay.data.toList.drop 47 = dktX9_stay_2 := dk_seg dksX9_stay_1 24 rfl rfl
theorem dX9_stay_0 : decode cX9_stay 0 = .ok (.iconst 0, 1) := dk_3 (dk_at dksX9_stay_0 0 rfl rfl)
theorem dX9_stay_1 : decode cX9_stay 1 = .ok (.istore_n 2, 1) := dk_61 (dk_at dksX9_stay_0 1 rfl rfl)
theorem dX9_stay_2 : decode cX9_stay 2 = .ok (.iload_n 2, 1) := dk_28 (dk_at dksX9_stay_0 2 rfl rfl)
theorem dX9_stay_3 : decode cX9_stay 3 = .ok (.sipush 140, 3) := dk_17 0 140 (dk_at dksX9_stay_0 3 rfl rfl)
theorem dX9_stay_6 : decode cX9_stay 6 = .ok (.if_icmp .ge 41, 3) := dk_162 0 41 (dk_at dksX9_stay_0 6 rfl rfl)
theorem dX9_stay_9 : decode cX9_stay 9 = .ok (.aload_n 0, 1) := dk_42 (dk_at dksX9_stay_0 9 rfl rfl)
theorem dX9_stay_10 : decode cX9_stay 10 = .ok (.getfield 98, 3) := dk_180 0 98 (dk_at dksX9_stay_0 10 rfl rfl)
theorem dX9_stay_13 : decode cX9_stay 13 = .ok (.bipush 24, 2) := dk_16 24 (dk_at dksX9_stay_0 13 rfl rfl)
theorem dX9_stay_15 : decode cX9_stay 15 = .ok (.iload_n 2, 1) := dk_28 (dk_at dksX9_stay_0 15 rfl rfl)
theorem dX9_stay_16 : decode cX9_stay 16 = .ok (.iadd, 1) := dk_96 (dk_at dksX9_stay_0 16 rfl rfl)
theorem dX9_stay_17 : decode cX9_stay 17 = .ok (.iaload, 1) := dk_46 (dk_at dksX9_stay_0 17 rfl rfl)
theorem dX9_stay_18 : decode cX9_stay 18 = .ok (.istore_n 3, 1) := dk_62 (dk_at dksX9_stay_0 18 rfl rfl)
theorem dX9_stay_19 : decode cX9_stay 19 = .ok (.aload_n 0, 1) := dk_42 (dk_at dksX9_stay_0 19 rfl rfl)
theorem dX9_stay_20 : decode cX9_stay 20 = .ok (.getfield 98, 3) := dk_180 0 98 (dk_at dksX9_stay_0 20 rfl rfl)
theorem dX9_stay_23 : decode cX9_stay 23 = .ok (.bipush 24, 2) := dk_16 24 (dk_at dksX9_stay_1 0 rfl rfl)
theorem dX9_stay_25 : decode cX9_stay 25 = .ok (.iload_n 2, 1) := dk_28 (dk_at dksX9_stay_1 2 rfl rfl)
theorem dX9_stay_26 : decode cX9_stay 26 = .ok (.iadd, 1) := dk_96 (dk_at dksX9_stay_1 3 rfl rfl)
theorem dX9_stay_27 : decode cX9_stay 27 = .ok (.aload_n 0, 1) := dk_42 (dk_at dksX9_stay_1 4 rfl rfl)
theorem dX9_stay_28 : decode cX9_stay 28 = .ok (.getfield 110, 3) := dk_180 0 110 (dk_at dksX9_stay_1 5 rfl rfl)
theorem dX9_stay_31 : decode cX9_stay 31 = .ok (.iload_n 2, 1) := dk_28 (dk_at dksX9_stay_1 8 rfl rfl)
theorem dX9_stay_32 : decode cX9_stay 32 = .ok (.iaload, 1) := dk_46 (dk_at dksX9_stay_1 9 rfl rfl)
theorem dX9_stay_33 : decode cX9_stay 33 = .ok (.iastore, 1) := dk_79 (dk_at dksX9_stay_1 10 rfl rfl)
theorem dX9_stay_34 : decode cX9_stay 34 = .ok (.aload_n 0, 1) := dk_42 (dk_at dksX9_stay_1 11 rfl rfl)
theorem dX9_stay_35 : decode cX9_stay 35 = .ok (.getfield 110, 3) := dk_180 0 110 (dk_at dksX9_stay_1 12 rfl rfl)
theorem dX9_stay_38 : decode cX9_stay 38 = .ok (.iload_n 2, 1) := dk_28 (dk_at dksX9_stay_1 15 rfl rfl)
theorem dX9_stay_39 : decode cX9_stay 39 = .ok (.iload_n 3, 1) := dk_29 (dk_at dksX9_stay_1 16 rfl rfl)
theorem dX9_stay_40 : decode cX9_stay 40 = .ok (.iastore, 1) := dk_79 (dk_at dksX9_stay_1 17 rfl rfl)
theorem dX9_stay_41 : decode cX9_stay 41 = .ok (.iinc 2 1, 3) := dk_132 2 1 (dk_at dksX9_stay_1 18 rfl rfl)
theorem dX9_stay_44 : decode cX9_stay 44 = .ok (.goto (-42), 3) := dk_167 255 214 (dk_at dksX9_stay_1 21 rfl rfl)
theorem dX9_stay_47 : decode cX9_stay 47 = .ok (.iload_n 1, 1) := dk_27 (dk_at dksX9_stay_2 0 rfl rfl)
theorem dX9_stay_48 : decode cX9_stay 48 = .ok (.ifCond .ne 4, 3) := dk_154 0 4 (dk_at dksX9_stay_2 1 rfl rfl)
theorem dX9_stay_51 : decode cX9_stay 51 = .ok (.return_, 1) := dk_177 (dk_at dksX9_stay_2 4 rfl rfl)
theorem dX9_stay_52 : decode cX9_stay 52 = .ok (.aload_n 0, 1) := dk_42 (dk_at dksX9_stay_2 5 rfl rfl)
theorem dX9_stay_53 : decode cX9_stay 53 = .ok (.invokevirtual 279, 3) := dk_182 1 23 (dk_at dksX9_stay_2 6 rfl rfl)
theorem dX9_stay_56 : decode cX9_stay 56 = .ok (.aload_n 0, 1) := dk_42 (dk_at dksX9_stay_2 9 rfl rfl)
theorem dX9_stay_57 : decode cX9_stay 57 = .ok (.invokevirtual 369, 3) := dk_182 1 113 (dk_at dksX9_stay_2 10 rfl rfl)
theorem dX9_stay_60 : decode cX9_stay 60 = .ok (.return_, 1) := dk_177 (dk_at dksX9_stay_2 13 rfl rfl)
abbrev cX9_told : ByteArray := prog_22_method_116_code
def yX9_told : MethodName := ⟨RX9, "told", "(I)I"⟩
def dkwX9_told_1 : List UInt8 := [180, 0, 151, 27, 46, 167, 0, 4, 2, 172]
abbrev dktX9_told_1 : List UInt8 := dkwX9_told_1 ++ []
def dkwX9_told_0 : List UInt8 := [42, 3, 181, 0, 1, 42, 180, 1, 140, 153, 0, 21, 27, 3, 6, 184, 0, 75, 153, 0, 12, 42]
abbrev dktX9_told_0 : List UInt8 := dkwX9_told_0 ++ dktX9_told_1
theorem dksX9_told_0 : cX9_told.data.toList.drop 0 = dktX9_told_0 := by decide +kernel
theorem dksX9_told_1 : cX9_told.data.toList.drop 22 = dktX9_told_1 := dk_seg dksX9_told_0 22 rfl rfl
theorem dX9_told_0 : decode cX9_told 0 = .ok (.aload_n 0, 1) := dk_42 (dk_at dksX9_told_0 0 rfl rfl)
theorem dX9_told_1 : decode cX9_told 1 = .ok (.iconst 0, 1) := dk_3 (dk_at dksX9_told_0 1 rfl rfl)
theorem dX9_told_2 : decode cX9_told 2 = .ok (.putfield 1, 3) := dk_181 0 1 (dk_at dksX9_told_0 2 rfl rfl)
theorem dX9_told_5 : decode cX9_told 5 = .ok (.aload_n 0, 1) := dk_42 (dk_at dksX9_told_0 5 rfl rfl)
theorem dX9_told_6 : decode cX9_told 6 = .ok (.getfield 396, 3) := dk_180 1 140 (dk_at dksX9_told_0 6 rfl rfl)
theorem dX9_told_9 : decode cX9_told 9 = .ok (.ifCond .eq 21, 3) := dk_153 0 21 (dk_at dksX9_told_0 9 rfl rfl)
theorem dX9_told_12 : decode cX9_told 12 = .ok (.iload_n 1, 1) := dk_27 (dk_at dksX9_told_0 12 rfl rfl)
theorem dX9_told_13 : decode cX9_told 13 = .ok (.iconst 0, 1) := dk_3 (dk_at dksX9_told_0 13 rfl rfl)
theorem dX9_told_14 : decode cX9_told 14 = .ok (.iconst 3, 1) := dk_6 (dk_at dksX9_told_0 14 rfl rfl)
theorem dX9_told_15 : decode cX9_told 15 = .ok (.invokestatic 75, 3) := dk_184 0 75 (dk_at dksX9_told_0 15 rfl rfl)
theorem dX9_told_18 : decode cX9_told 18 = .ok (.ifCond .eq 12, 3) := dk_153 0 12 (dk_at dksX9_told_0 18 rfl rfl)
theorem dX9_told_21 : decode cX9_told 21 = .ok (.aload_n 0, 1) := dk_42 (dk_at dksX9_told_0 21 rfl rfl)
theorem dX9_told_22 : decode cX9_told 22 = .ok (.getfield 151, 3) := dk_180 0 151 (dk_at dksX9_told_1 0 rfl rfl)
theorem dX9_told_25 : decode cX9_told 25 = .ok (.iload_n 1, 1) := dk_27 (dk_at dksX9_told_1 3 rfl rfl)
theorem dX9_told_26 : decode cX9_told 26 = .ok (.iaload, 1) := dk_46 (dk_at dksX9_told_1 4 rfl rfl)
theorem dX9_told_27 : decode cX9_told 27 = .ok (.goto 4, 3) := dk_167 0 4 (dk_at dksX9_told_1 5 rfl rfl)
theorem dX9_told_30 : decode cX9_told 30 = .ok (.iconst (-1), 1) := dk_2 (dk_at dksX9_told_1 8 rfl rfl)
theorem dX9_told_31 : decode cX9_told 31 = .ok (.ireturn, 1) := dk_172 (dk_at dksX9_told_1 9 rfl rfl)
abbrev cX9_sentence : ByteArray := prog_22_method_126_code
def yX9_sentence : MethodName := ⟨RX9, "sentence", "()I"⟩
def dkwX9_sentence_4 : List UInt8 := [27, 96, 42, 180, 0, 154, 27, 46, 79, 132, 1, 1, 167, 255, 230, 42, 180, 1, 163, 172]
abbrev dktX9_sentence_4 : List UInt8 := dkwX9_sentence_4 ++ []
def dkwX9_sentence_3 : List UInt8 := [17, 0, 165, 42, 180, 1, 153, 79, 3, 60, 27, 17, 0, 240, 162, 0, 25, 42, 180, 0, 98, 17, 0, 166]
abbrev dktX9_sentence_3 : List UInt8 := dkwX9_sentence_3 ++ dktX9_sentence_4
def dkwX9_sentence_2 : List UInt8 := [182, 0, 72, 87, 2, 42, 180, 0, 69, 100, 172, 42, 180, 0, 98, 17, 0, 164, 4, 79, 42, 180, 0, 98]
abbrev dktX9_sentence_2 : List UInt8 := dkwX9_sentence_2 ++ dktX9_sentence_3
def dkwX9_sentence_1 : List UInt8 := [182, 1, 181, 154, 0, 10, 2, 42, 180, 0, 69, 100, 172, 42, 180, 0, 30, 153, 0, 16, 42, 4]
abbrev dktX9_sentence_1 : List UInt8 := dkwX9_sentence_1 ++ dktX9_sentence_2
def dkwX9_sentence_0 : List UInt8 := [42, 17, 0, 200, 182, 0, 206, 42, 3, 181, 1, 147, 42, 3, 181, 1, 163, 42, 3, 181, 1, 166, 42]
abbrev dktX9_sentence_0 : List UInt8 := dkwX9_sentence_0 ++ dktX9_sentence_1
theorem dksX9_sentence_0 : cX9_sentence.data.toList.drop 0 = dktX9_sentence_0 := by decide +kernel
theorem dksX9_sentence_1 : cX9_sentence.data.toList.drop 23 = dktX9_sentence_1 := dk_seg dksX9_sentence_0 23 rfl rfl
theorem dksX9_sentence_2 : cX9_sentence.data.toList.drop 45 = dktX9_sentence_2 := dk_seg dksX9_sentence_1 22 rfl rfl
theorem dksX9_sentence_3 : cX9_sentence.data.toList.drop 69 = dktX9_sentence_3 := dk_seg dksX9_sentence_2 24 rfl rfl
theorem dksX9_sentence_4 : cX9_sentence.data.toList.drop 93 = dktX9_sentence_4 := dk_seg dksX9_sentence_3 24 rfl rfl
theorem dX9_sentence_0 : decode cX9_sentence 0 = .ok (.aload_n 0, 1) := dk_42 (dk_at dksX9_sentence_0 0 rfl rfl)
theorem dX9_sentence_1 : decode cX9_sentence 1 = .ok (.sipush 200, 3) := dk_17 0 200 (dk_at dksX9_sentence_0 1 rfl rfl)
theorem dX9_sentence_4 : decode cX9_sentence 4 = .ok (.invokevirtual 206, 3) := dk_182 0 206 (dk_at dksX9_sentence_0 4 rfl rfl)
theorem dX9_sentence_7 : decode cX9_sentence 7 = .ok (.aload_n 0, 1) := dk_42 (dk_at dksX9_sentence_0 7 rfl rfl)
theorem dX9_sentence_8 : decode cX9_sentence 8 = .ok (.iconst 0, 1) := dk_3 (dk_at dksX9_sentence_0 8 rfl rfl)
theorem dX9_sentence_9 : decode cX9_sentence 9 = .ok (.putfield 403, 3) := dk_181 1 147 (dk_at dksX9_sentence_0 9 rfl rfl)
theorem dX9_sentence_12 : decode cX9_sentence 12 = .ok (.aload_n 0, 1) := dk_42 (dk_at dksX9_sentence_0 12 rfl rfl)
theorem dX9_sentence_13 : decode cX9_sentence 13 = .ok (.iconst 0, 1) := dk_3 (dk_at dksX9_sentence_0 13 rfl rfl)
theorem dX9_sentence_14 : decode cX9_sentence 14 = .ok (.putfield 419, 3) := dk_181 1 163 (dk_at dksX9_sentence_0 14 rfl rfl)
theorem dX9_sentence_17 : decode cX9_sentence 17 = .ok (.aload_n 0, 1) := dk_42 (dk_at dksX9_sentence_0 17 rfl rfl)
theorem dX9_sentence_18 : decode cX9_sentence 18 = .ok (.iconst 0, 1) := dk_3 (dk_at dksX9_sentence_0 18 rfl rfl)
theorem dX9_sentence_19 : decode cX9_sentence 19 = .ok (.putfield 422, 3) := dk_181 1 166 (dk_at dksX9_sentence_0 19 rfl rfl)
theorem dX9_sentence_22 : decode cX9_sentence 22 = .ok (.aload_n 0, 1) := dk_42 (dk_at dksX9_sentence_0 22 rfl rfl)
theorem dX9_sentence_23 : decode cX9_sentence 23 = .ok (.invokevirtual 437, 3) := dk_182 1 181 (dk_at dksX9_sentence_1 0 rfl rfl)
theorem dX9_sentence_26 : decode cX9_sentence 26 = .ok (.ifCond .ne 10, 3) := dk_154 0 10 (dk_at dksX9_sentence_1 3 rfl rfl)
theorem dX9_sentence_29 : decode cX9_sentence 29 = .ok (.iconst (-1), 1) := dk_2 (dk_at dksX9_sentence_1 6 rfl rfl)
theorem dX9_sentence_30 : decode cX9_sentence 30 = .ok (.aload_n 0, 1) := dk_42 (dk_at dksX9_sentence_1 7 rfl rfl)
theorem dX9_sentence_31 : decode cX9_sentence 31 = .ok (.getfield 69, 3) := dk_180 0 69 (dk_at dksX9_sentence_1 8 rfl rfl)
theorem dX9_sentence_34 : decode cX9_sentence 34 = .ok (.isub, 1) := dk_100 (dk_at dksX9_sentence_1 11 rfl rfl)
theorem dX9_sentence_35 : decode cX9_sentence 35 = .ok (.ireturn, 1) := dk_172 (dk_at dksX9_sentence_1 12 rfl rfl)
theorem dX9_sentence_36 : decode cX9_sentence 36 = .ok (.aload_n 0, 1) := dk_42 (dk_at dksX9_sentence_1 13 rfl rfl)
theorem dX9_sentence_37 : decode cX9_sentence 37 = .ok (.getfield 30, 3) := dk_180 0 30 (dk_at dksX9_sentence_1 14 rfl rfl)
theorem dX9_sentence_40 : decode cX9_sentence 40 = .ok (.ifCond .eq 16, 3) := dk_153 0 16 (dk_at dksX9_sentence_1 17 rfl rfl)
theorem dX9_sentence_43 : decode cX9_sentence 43 = .ok (.aload_n 0, 1) := dk_42 (dk_at dksX9_sentence_1 20 rfl rfl)
theorem dX9_sentence_44 : decode cX9_sentence 44 = .ok (.iconst 1, 1) := dk_4 (dk_at dksX9_sentence_1 21 rfl rfl)
theorem dX9_sentence_45 : decode cX9_sentence 45 = .ok (.invokevirtual 72, 3) := dk_182 0 72 (dk_at dksX9_sentence_2 0 rfl rfl)
theorem dX9_sentence_48 : decode cX9_sentence 48 = .ok (.pop, 1) := dk_87 (dk_at dksX9_sentence_2 3 rfl rfl)
theorem dX9_sentence_49 : decode cX9_sentence 49 = .ok (.iconst (-1), 1) := dk_2 (dk_at dksX9_sentence_2 4 rfl rfl)
theorem dX9_sentence_50 : decode cX9_sentence 50 = .ok (.aload_n 0, 1) := dk_42 (dk_at dksX9_sentence_2 5 rfl rfl)
theorem dX9_sentence_51 : decode cX9_sentence 51 = .ok (.getfield 69, 3) := dk_180 0 69 (dk_at dksX9_sentence_2 6 rfl rfl)
theorem dX9_sentence_54 : decode cX9_sentence 54 = .ok (.isub, 1) := dk_100 (dk_at dksX9_sentence_2 9 rfl rfl)
theorem dX9_sentence_55 : decode cX9_sentence 55 = .ok (.ireturn, 1) := dk_172 (dk_at dksX9_sentence_2 10 rfl rfl)
theorem dX9_sentence_56 : decode cX9_sentence 56 = .ok (.aload_n 0, 1) := dk_42 (dk_at dksX9_sentence_2 11 rfl rfl)
theorem dX9_sentence_57 : decode cX9_sentence 57 = .ok (.getfield 98, 3) := dk_180 0 98 (dk_at dksX9_sentence_2 12 rfl rfl)
theorem dX9_sentence_60 : decode cX9_sentence 60 = .ok (.sipush 164, 3) := dk_17 0 164 (dk_at dksX9_sentence_2 15 rfl rfl)
theorem dX9_sentence_63 : decode cX9_sentence 63 = .ok (.iconst 1, 1) := dk_4 (dk_at dksX9_sentence_2 18 rfl rfl)
theorem dX9_sentence_64 : decode cX9_sentence 64 = .ok (.iastore, 1) := dk_79 (dk_at dksX9_sentence_2 19 rfl rfl)
theorem dX9_sentence_65 : decode cX9_sentence 65 = .ok (.aload_n 0, 1) := dk_42 (dk_at dksX9_sentence_2 20 rfl rfl)
theorem dX9_sentence_66 : decode cX9_sentence 66 = .ok (.getfield 98, 3) := dk_180 0 98 (dk_at dksX9_sentence_2 21 rfl rfl)
theorem dX9_sentence_69 : decode cX9_sentence 69 = .ok (.sipush 165, 3) := dk_17 0 165 (dk_at dksX9_sentence_3 0 rfl rfl)
theorem dX9_sentence_72 : decode cX9_sentence 72 = .ok (.aload_n 0, 1) := dk_42 (dk_at dksX9_sentence_3 3 rfl rfl)
theorem dX9_sentence_73 : decode cX9_sentence 73 = .ok (.getfield 409, 3) := dk_180 1 153 (dk_at dksX9_sentence_3 4 rfl rfl)
theorem dX9_sentence_76 : decode cX9_sentence 76 = .ok (.iastore, 1) := dk_79 (dk_at dksX9_sentence_3 7 rfl rfl)
theorem dX9_sentence_77 : decode cX9_sentence 77 = .ok (.iconst 0, 1) := dk_3 (dk_at dksX9_sentence_3 8 rfl rfl)
theorem dX9_sentence_78 : decode cX9_sentence 78 = .ok (.istore_n 1, 1) := dk_60 (dk_at dksX9_sentence_3 9 rfl rfl)
theorem dX9_sentence_79 : decode cX9_sentence 79 = .ok (.iload_n 1, 1) := dk_27 (dk_at dksX9_sentence_3 10 rfl rfl)
theorem dX9_sentence_80 : decode cX9_sentence 80 = .ok (.sipush 240, 3) := dk_17 0 240 (dk_at dksX9_sentence_3 11 rfl rfl)
theorem dX9_sentence_83 : decode cX9_sentence 83 = .ok (.if_icmp .ge 25, 3) := dk_162 0 25 (dk_at dksX9_sentence_3 14 rfl rfl)
theorem dX9_sentence_86 : decode cX9_sentence 86 = .ok (.aload_n 0, 1) := dk_42 (dk_at dksX9_sentence_3 17 rfl rfl)
theorem dX9_sentence_87 : decode cX9_sentence 87 = .ok (.getfield 98, 3) := dk_180 0 98 (dk_at dksX9_sentence_3 18 rfl rfl)
theorem dX9_sentence_90 : decode cX9_sentence 90 = .ok (.sipush 166, 3) := dk_17 0 166 (dk_at dksX9_sentence_3 21 rfl rfl)
theorem dX9_sentence_93 : decode cX9_sentence 93 = .ok (.iload_n 1, 1) := dk_27 (dk_at dksX9_sentence_4 0 rfl rfl)
theorem dX9_sentence_94 : decode cX9_sentence 94 = .ok (.iadd, 1) := dk_96 (dk_at dksX9_sentence_4 1 rfl rfl)
theorem dX9_sentence_95 : decode cX9_sentence 95 = .ok (.aload_n 0, 1) := dk_42 (dk_at dksX9_sentence_4 2 rfl rfl)
theorem dX9_sentence_96 : decode cX9_sentence 96 = .ok (.getfield 154, 3) := dk_180 0 154 (dk_at dksX9_sentence_4 3 rfl rfl)
theorem dX9_sentence_99 : decode cX9_sentence 99 = .ok (.iload_n 1, 1) := dk_27 (dk_at dksX9_sentence_4 6 rfl rfl)
theorem dX9_sentence_100 : decode cX9_sentence 100 = .ok (.iaload, 1) := dk_46 (dk_at dksX9_sentence_4 7 rfl rfl)
theorem dX9_sentence_101 : decode cX9_sentence 101 = .ok (.iastore, 1) := dk_79 (dk_at dksX9_sentence_4 8 rfl rfl)
theorem dX9_sentence_102 : decode cX9_sentence 102 = .ok (.iinc 1 1, 3) := dk_132 1 1 (dk_at dksX9_sentence_4 9 rfl rfl)
theorem dX9_sentence_105 : decode cX9_sentence 105 = .ok (.goto (-26), 3) := dk_167 255 230 (dk_at dksX9_sentence_4 12 rfl rfl)
theorem dX9_sentence_108 : decode cX9_sentence 108 = .ok (.aload_n 0, 1) := dk_42 (dk_at dksX9_sentence_4 15 rfl rfl)
theorem dX9_sentence_109 : decode cX9_sentence 109 = .ok (.getfield 419, 3) := dk_180 1 163 (dk_at dksX9_sentence_4 16 rfl rfl)
theorem dX9_sentence_112 : decode cX9_sentence 112 = .ok (.ireturn, 1) := dk_172 (dk_at dksX9_sentence_4 19 rfl rfl)
abbrev cX9_readOr : ByteArray := prog_22_method_119_code
def yX9_readOr : MethodName := ⟨RX9, "readOr", "()Z"⟩
def dkwX9_readOr_2 : List UInt8 := [167, 255, 222, 42, 27, 181, 1, 153, 4, 172]
abbrev dktX9_readOr_2 : List UInt8 := dkwX9_readOr_2 ++ []
def dkwX9_readOr_1 : List UInt8 := [182, 0, 82, 42, 182, 1, 150, 154, 0, 5, 3, 172, 42, 6, 27, 42, 180, 1, 153, 3, 182, 1, 156, 60]
abbrev dktX9_readOr_1 : List UInt8 := dkwX9_readOr_1 ++ dktX9_readOr_2
def dkwX9_readOr_0 : List UInt8 := [42, 182, 1, 150, 154, 0, 5, 3, 172, 42, 180, 1, 153, 60, 42, 16, 11, 182, 0, 191, 153, 0, 31, 42]
abbrev dktX9_readOr_0 : List UInt8 := dkwX9_readOr_0 ++ dktX9_readOr_1
theorem dksX9_readOr_0 : cX9_readOr.data.toList.drop 0 = dktX9_readOr_0 := by decide +kernel
theorem dksX9_readOr_1 : cX9_readOr.data.toList.drop 24 = dktX9_readOr_1 := dk_seg dksX9_readOr_0 24 rfl rfl
theorem dksX9_readOr_2 : cX9_readOr.data.toList.drop 48 = dktX9_readOr_2 := dk_seg dksX9_readOr_1 24 rfl rfl
theorem dX9_readOr_0 : decode cX9_readOr 0 = .ok (.aload_n 0, 1) := dk_42 (dk_at dksX9_readOr_0 0 rfl rfl)
theorem dX9_readOr_1 : decode cX9_readOr 1 = .ok (.invokevirtual 406, 3) := dk_182 1 150 (dk_at dksX9_readOr_0 1 rfl rfl)
theorem dX9_readOr_4 : decode cX9_readOr 4 = .ok (.ifCond .ne 5, 3) := dk_154 0 5 (dk_at dksX9_readOr_0 4 rfl rfl)
theorem dX9_readOr_7 : decode cX9_readOr 7 = .ok (.iconst 0, 1) := dk_3 (dk_at dksX9_readOr_0 7 rfl rfl)
theorem dX9_readOr_8 : decode cX9_readOr 8 = .ok (.ireturn, 1) := dk_172 (dk_at dksX9_readOr_0 8 rfl rfl)
theorem dX9_readOr_9 : decode cX9_readOr 9 = .ok (.aload_n 0, 1) := dk_42 (dk_at dksX9_readOr_0 9 rfl rfl)
theorem dX9_readOr_10 : decode cX9_readOr 10 = .ok (.getfield 409, 3) := dk_180 1 153 (dk_at dksX9_readOr_0 10 rfl rfl)
theorem dX9_readOr_13 : decode cX9_readOr 13 = .ok (.istore_n 1, 1) := dk_60 (dk_at dksX9_readOr_0 13 rfl rfl)
theorem dX9_readOr_14 : decode cX9_readOr 14 = .ok (.aload_n 0, 1) := dk_42 (dk_at dksX9_readOr_0 14 rfl rfl)
theorem dX9_readOr_15 : decode cX9_readOr 15 = .ok (.bipush 11, 2) := dk_16 11 (dk_at dksX9_readOr_0 15 rfl rfl)
theorem dX9_readOr_17 : decode cX9_readOr 17 = .ok (.invokevirtual 191, 3) := dk_182 0 191 (dk_at dksX9_readOr_0 17 rfl rfl)
theorem dX9_readOr_20 : decode cX9_readOr 20 = .ok (.ifCond .eq 31, 3) := dk_153 0 31 (dk_at dksX9_readOr_0 20 rfl rfl)
theorem dX9_readOr_23 : decode cX9_readOr 23 = .ok (.aload_n 0, 1) := dk_42 (dk_at dksX9_readOr_0 23 rfl rfl)
theorem dX9_readOr_24 : decode cX9_readOr 24 = .ok (.invokevirtual 82, 3) := dk_182 0 82 (dk_at dksX9_readOr_1 0 rfl rfl)
theorem dX9_readOr_27 : decode cX9_readOr 27 = .ok (.aload_n 0, 1) := dk_42 (dk_at dksX9_readOr_1 3 rfl rfl)
theorem dX9_readOr_28 : decode cX9_readOr 28 = .ok (.invokevirtual 406, 3) := dk_182 1 150 (dk_at dksX9_readOr_1 4 rfl rfl)
theorem dX9_readOr_31 : decode cX9_readOr 31 = .ok (.ifCond .ne 5, 3) := dk_154 0 5 (dk_at dksX9_readOr_1 7 rfl rfl)
theorem dX9_readOr_34 : decode cX9_readOr 34 = .ok (.iconst 0, 1) := dk_3 (dk_at dksX9_readOr_1 10 rfl rfl)
theorem dX9_readOr_35 : decode cX9_readOr 35 = .ok (.ireturn, 1) := dk_172 (dk_at dksX9_readOr_1 11 rfl rfl)
theorem dX9_readOr_36 : decode cX9_readOr 36 = .ok (.aload_n 0, 1) := dk_42 (dk_at dksX9_readOr_1 12 rfl rfl)
theorem dX9_readOr_37 : decode cX9_readOr 37 = .ok (.iconst 3, 1) := dk_6 (dk_at dksX9_readOr_1 13 rfl rfl)
theorem dX9_readOr_38 : decode cX9_readOr 38 = .ok (.iload_n 1, 1) := dk_27 (dk_at dksX9_readOr_1 14 rfl rfl)
theorem dX9_readOr_39 : decode cX9_readOr 39 = .ok (.aload_n 0, 1) := dk_42 (dk_at dksX9_readOr_1 15 rfl rfl)
theorem dX9_readOr_40 : decode cX9_readOr 40 = .ok (.getfield 409, 3) := dk_180 1 153 (dk_at dksX9_readOr_1 16 rfl rfl)
theorem dX9_readOr_43 : decode cX9_readOr 43 = .ok (.iconst 0, 1) := dk_3 (dk_at dksX9_readOr_1 19 rfl rfl)
theorem dX9_readOr_44 : decode cX9_readOr 44 = .ok (.invokevirtual 412, 3) := dk_182 1 156 (dk_at dksX9_readOr_1 20 rfl rfl)
theorem dX9_readOr_47 : decode cX9_readOr 47 = .ok (.istore_n 1, 1) := dk_60 (dk_at dksX9_readOr_1 23 rfl rfl)
theorem dX9_readOr_48 : decode cX9_readOr 48 = .ok (.goto (-34), 3) := dk_167 255 222 (dk_at dksX9_readOr_2 0 rfl rfl)
theorem dX9_readOr_51 : decode cX9_readOr 51 = .ok (.aload_n 0, 1) := dk_42 (dk_at dksX9_readOr_2 3 rfl rfl)
theorem dX9_readOr_52 : decode cX9_readOr 52 = .ok (.iload_n 1, 1) := dk_27 (dk_at dksX9_readOr_2 4 rfl rfl)
theorem dX9_readOr_53 : decode cX9_readOr 53 = .ok (.putfield 409, 3) := dk_181 1 153 (dk_at dksX9_readOr_2 5 rfl rfl)
theorem dX9_readOr_56 : decode cX9_readOr 56 = .ok (.iconst 1, 1) := dk_4 (dk_at dksX9_readOr_2 8 rfl rfl)
theorem dX9_readOr_57 : decode cX9_readOr 57 = .ok (.ireturn, 1) := dk_172 (dk_at dksX9_readOr_2 9 rfl rfl)
abbrev cX9_readAnd : ByteArray := prog_22_method_120_code
def yX9_readAnd : MethodName := ⟨RX9, "readAnd", "()Z"⟩
def dkwX9_readAnd_2 : List UInt8 := [167, 255, 222, 42, 27, 181, 1, 153, 4, 172]
abbrev dktX9_readAnd_2 : List UInt8 := dkwX9_readAnd_2 ++ []
def dkwX9_readAnd_1 : List UInt8 := [182, 0, 82, 42, 182, 1, 160, 154, 0, 5, 3, 172, 42, 5, 27, 42, 180, 1, 153, 3, 182, 1, 156, 60]
abbrev dktX9_readAnd_1 : List UInt8 := dkwX9_readAnd_1 ++ dktX9_readAnd_2
def dkwX9_readAnd_0 : List UInt8 := [42, 182, 1, 160, 154, 0, 5, 3, 172, 42, 180, 1, 153, 60, 42, 16, 12, 182, 0, 191, 153, 0, 31, 42]
abbrev dktX9_readAnd_0 : List UInt8 := dkwX9_readAnd_0 ++ dktX9_readAnd_1
theorem dksX9_readAnd_0 : cX9_readAnd.data.toList.drop 0 = dktX9_readAnd_0 := by decide +kernel
theorem dksX9_readAnd_1 : cX9_readAnd.data.toList.drop 24 = dktX9_readAnd_1 := dk_seg dksX9_readAnd_0 24 rfl rfl
theorem dksX9_readAnd_2 : cX9_readAnd.data.toList.drop 48 = dktX9_readAnd_2 := dk_seg dksX9_readAnd_1 24 rfl rfl
theorem dX9_readAnd_0 : decode cX9_readAnd 0 = .ok (.aload_n 0, 1) := dk_42 (dk_at dksX9_readAnd_0 0 rfl rfl)
theorem dX9_readAnd_1 : decode cX9_readAnd 1 = .ok (.invokevirtual 416, 3) := dk_182 1 160 (dk_at dksX9_readAnd_0 1 rfl rfl)
theorem dX9_readAnd_4 : decode cX9_readAnd 4 = .ok (.ifCond .ne 5, 3) := dk_154 0 5 (dk_at dksX9_readAnd_0 4 rfl rfl)
theorem dX9_readAnd_7 : decode cX9_readAnd 7 = .ok (.iconst 0, 1) := dk_3 (dk_at dksX9_readAnd_0 7 rfl rfl)
theorem dX9_readAnd_8 : decode cX9_readAnd 8 = .ok (.ireturn, 1) := dk_172 (dk_at dksX9_readAnd_0 8 rfl rfl)
theorem dX9_readAnd_9 : decode cX9_readAnd 9 = .ok (.aload_n 0, 1) := dk_42 (dk_at dksX9_readAnd_0 9 rfl rfl)
theorem dX9_readAnd_10 : decode cX9_readAnd 10 = .ok (.getfield 409, 3) := dk_180 1 153 (dk_at dksX9_readAnd_0 10 rfl rfl)
theorem dX9_readAnd_13 : decode cX9_readAnd 13 = .ok (.istore_n 1, 1) := dk_60 (dk_at dksX9_readAnd_0 13 rfl rfl)
theorem dX9_readAnd_14 : decode cX9_readAnd 14 = .ok (.aload_n 0, 1) := dk_42 (dk_at dksX9_readAnd_0 14 rfl rfl)
theorem dX9_readAnd_15 : decode cX9_readAnd 15 = .ok (.bipush 12, 2) := dk_16 12 (dk_at dksX9_readAnd_0 15 rfl rfl)
theorem dX9_readAnd_17 : decode cX9_readAnd 17 = .ok (.invokevirtual 191, 3) := dk_182 0 191 (dk_at dksX9_readAnd_0 17 rfl rfl)
theorem dX9_readAnd_20 : decode cX9_readAnd 20 = .ok (.ifCond .eq 31, 3) := dk_153 0 31 (dk_at dksX9_readAnd_0 20 rfl rfl)
theorem dX9_readAnd_23 : decode cX9_readAnd 23 = .ok (.aload_n 0, 1) := dk_42 (dk_at dksX9_readAnd_0 23 rfl rfl)
theorem dX9_readAnd_24 : decode cX9_readAnd 24 = .ok (.invokevirtual 82, 3) := dk_182 0 82 (dk_at dksX9_readAnd_1 0 rfl rfl)
theorem dX9_readAnd_27 : decode cX9_readAnd 27 = .ok (.aload_n 0, 1) := dk_42 (dk_at dksX9_readAnd_1 3 rfl rfl)
theorem dX9_readAnd_28 : decode cX9_readAnd 28 = .ok (.invokevirtual 416, 3) := dk_182 1 160 (dk_at dksX9_readAnd_1 4 rfl rfl)
theorem dX9_readAnd_31 : decode cX9_readAnd 31 = .ok (.ifCond .ne 5, 3) := dk_154 0 5 (dk_at dksX9_readAnd_1 7 rfl rfl)
theorem dX9_readAnd_34 : decode cX9_readAnd 34 = .ok (.iconst 0, 1) := dk_3 (dk_at dksX9_readAnd_1 10 rfl rfl)
theorem dX9_readAnd_35 : decode cX9_readAnd 35 = .ok (.ireturn, 1) := dk_172 (dk_at dksX9_readAnd_1 11 rfl rfl)
theorem dX9_readAnd_36 : decode cX9_readAnd 36 = .ok (.aload_n 0, 1) := dk_42 (dk_at dksX9_readAnd_1 12 rfl rfl)
theorem dX9_readAnd_37 : decode cX9_readAnd 37 = .ok (.iconst 2, 1) := dk_5 (dk_at dksX9_readAnd_1 13 rfl rfl)
theorem dX9_readAnd_38 : decode cX9_readAnd 38 = .ok (.iload_n 1, 1) := dk_27 (dk_at dksX9_readAnd_1 14 rfl rfl)
theorem dX9_readAnd_39 : decode cX9_readAnd 39 = .ok (.aload_n 0, 1) := dk_42 (dk_at dksX9_readAnd_1 15 rfl rfl)
theorem dX9_readAnd_40 : decode cX9_readAnd 40 = .ok (.getfield 409, 3) := dk_180 1 153 (dk_at dksX9_readAnd_1 16 rfl rfl)
theorem dX9_readAnd_43 : decode cX9_readAnd 43 = .ok (.iconst 0, 1) := dk_3 (dk_at dksX9_readAnd_1 19 rfl rfl)
theorem dX9_readAnd_44 : decode cX9_readAnd 44 = .ok (.invokevirtual 412, 3) := dk_182 1 156 (dk_at dksX9_readAnd_1 20 rfl rfl)
theorem dX9_readAnd_47 : decode cX9_readAnd 47 = .ok (.istore_n 1, 1) := dk_60 (dk_at dksX9_readAnd_1 23 rfl rfl)
theorem dX9_readAnd_48 : decode cX9_readAnd 48 = .ok (.goto (-34), 3) := dk_167 255 222 (dk_at dksX9_readAnd_2 0 rfl rfl)
theorem dX9_readAnd_51 : decode cX9_readAnd 51 = .ok (.aload_n 0, 1) := dk_42 (dk_at dksX9_readAnd_2 3 rfl rfl)
theorem dX9_readAnd_52 : decode cX9_readAnd 52 = .ok (.iload_n 1, 1) := dk_27 (dk_at dksX9_readAnd_2 4 rfl rfl)
theorem dX9_readAnd_53 : decode cX9_readAnd 53 = .ok (.putfield 409, 3) := dk_181 1 153 (dk_at dksX9_readAnd_2 5 rfl rfl)
theorem dX9_readAnd_56 : decode cX9_readAnd 56 = .ok (.iconst 1, 1) := dk_4 (dk_at dksX9_readAnd_2 8 rfl rfl)
theorem dX9_readAnd_57 : decode cX9_readAnd 57 = .ok (.ireturn, 1) := dk_172 (dk_at dksX9_readAnd_2 9 rfl rfl)
abbrev cX9_readSaid : ByteArray := prog_22_method_121_code
def yX9_readSaid : MethodName := ⟨RX9, "readSaid", "()Z"⟩
def dkwX9_readSaid_7 : List UInt8 := [89, 180, 1, 166, 4, 100, 181, 1, 166, 29, 172]
abbrev dktX9_readSaid_7 : List UInt8 := dkwX9_readSaid_7 ++ []
def dkwX9_readSaid_6 : List UInt8 := [167, 0, 23, 28, 16, 19, 162, 0, 11, 42, 28, 182, 1, 175, 167, 0, 8, 42, 28, 182, 1, 178, 62, 42]
abbrev dktX9_readSaid_6 : List UInt8 := dkwX9_readSaid_6 ++ dktX9_readSaid_7
def dkwX9_readSaid_5 : List UInt8 := [167, 0, 47, 28, 16, 16, 162, 0, 21, 42, 42, 16, 50, 28, 96, 3, 3, 3, 182, 1, 156, 181, 1, 153]
abbrev dktX9_readSaid_5 : List UInt8 := dkwX9_readSaid_5 ++ dktX9_readSaid_6
def dkwX9_readSaid_4 : List UInt8 := [62, 27, 153, 0, 11, 42, 182, 1, 169, 62, 167, 0, 61, 28, 16, 13, 160, 0, 11, 42, 182, 1, 172, 62]
abbrev dktX9_readSaid_4 : List UInt8 := dkwX9_readSaid_4 ++ dktX9_readSaid_5
def dkwX9_readSaid_3 : List UInt8 := [89, 180, 1, 163, 4, 96, 181, 1, 163, 42, 89, 180, 1, 166, 4, 96, 181, 1, 166, 42, 182, 0, 82, 4]
abbrev dktX9_readSaid_3 : List UInt8 := dkwX9_readSaid_3 ++ dktX9_readSaid_4
def dkwX9_readSaid_2 : List UInt8 := [180, 1, 163, 16, 20, 159, 0, 12, 42, 180, 1, 166, 16, 8, 160, 0, 9, 42, 7, 182, 0, 72, 172, 42]
abbrev dktX9_readSaid_2 : List UInt8 := dkwX9_readSaid_2 ++ dktX9_readSaid_3
def dkwX9_readSaid_1 : List UInt8 := [132, 2, 1, 167, 255, 239, 27, 154, 0, 15, 28, 16, 21, 164, 0, 9, 42, 4, 182, 0, 72, 172, 42]
abbrev dktX9_readSaid_1 : List UInt8 := dkwX9_readSaid_1 ++ dktX9_readSaid_2
def dkwX9_readSaid_0 : List UInt8 := [42, 16, 40, 182, 0, 86, 60, 16, 13, 61, 28, 16, 21, 163, 0, 17, 42, 28, 182, 0, 191, 154, 0, 9]
abbrev dktX9_readSaid_0 : List UInt8 := dkwX9_readSaid_0 ++ dktX9_readSaid_1
theorem dksX9_readSaid_0 : cX9_readSaid.data.toList.drop 0 = dktX9_readSaid_0 := by decide +kernel
theorem dksX9_readSaid_1 : cX9_readSaid.data.toList.drop 24 = dktX9_readSaid_1 := dk_seg dksX9_readSaid_0 24 rfl rfl
theorem dksX9_readSaid_2 : cX9_readSaid.data.toList.drop 47 = dktX9_readSaid_2 := dk_seg dksX9_readSaid_1 23 rfl rfl
theorem dksX9_readSaid_3 : cX9_readSaid.data.toList.drop 71 = dktX9_readSaid_3 := dk_seg dksX9_readSaid_2 24 rfl rfl
theorem dksX9_readSaid_4 : cX9_readSaid.data.toList.drop 95 = dktX9_readSaid_4 := dk_seg dksX9_readSaid_3 24 rfl rfl
theorem dksX9_readSaid_5 : cX9_readSaid.data.toList.drop 119 = dktX9_readSaid_5 := dk_seg dksX9_readSaid_4 24 rfl rfl
theorem dksX9_readSaid_6 : cX9_readSaid.data.toList.drop 143 = dktX9_readSaid_6 := dk_seg dksX9_readSaid_5 24 rfl rfl
theorem dksX9_readSaid_7 : cX9_readSaid.data.toList.drop 167 = dktX9_readSaid_7 := dk_seg dksX9_readSaid_6 24 rfl rfl
theorem dX9_readSaid_0 : decode cX9_readSaid 0 = .ok (.aload_n 0, 1) := dk_42 (dk_at dksX9_readSaid_0 0 rfl rfl)
theorem dX9_readSaid_1 : decode cX9_readSaid 1 = .ok (.bipush 40, 2) := dk_16 40 (dk_at dksX9_readSaid_0 1 rfl rfl)
theorem dX9_readSaid_3 : decode cX9_readSaid 3 = .ok (.invokevirtual 86, 3) := dk_182 0 86 (dk_at dksX9_readSaid_0 3 rfl rfl)
theorem dX9_readSaid_6 : decode cX9_readSaid 6 = .ok (.istore_n 1, 1) := dk_60 (dk_at dksX9_readSaid_0 6 rfl rfl)
theorem dX9_readSaid_7 : decode cX9_readSaid 7 = .ok (.bipush 13, 2) := dk_16 13 (dk_at dksX9_readSaid_0 7 rfl rfl)
theorem dX9_readSaid_9 : decode cX9_readSaid 9 = .ok (.istore_n 2, 1) := dk_61 (dk_at dksX9_readSaid_0 9 rfl rfl)
theorem dX9_readSaid_10 : decode cX9_readSaid 10 = .ok (.iload_n 2, 1) := dk_28 (dk_at dksX9_readSaid_0 10 rfl rfl)
theorem dX9_readSaid_11 : decode cX9_readSaid 11 = .ok (.bipush 21, 2) := dk_16 21 (dk_at dksX9_readSaid_0 11 rfl rfl)
theorem dX9_readSaid_13 : decode cX9_readSaid 13 = .ok (.if_icmp .gt 17, 3) := dk_163 0 17 (dk_at dksX9_readSaid_0 13 rfl rfl)
theorem dX9_readSaid_16 : decode cX9_readSaid 16 = .ok (.aload_n 0, 1) := dk_42 (dk_at dksX9_readSaid_0 16 rfl rfl)
theorem dX9_readSaid_17 : decode cX9_readSaid 17 = .ok (.iload_n 2, 1) := dk_28 (dk_at dksX9_readSaid_0 17 rfl rfl)
theorem dX9_readSaid_18 : decode cX9_readSaid 18 = .ok (.invokevirtual 191, 3) := dk_182 0 191 (dk_at dksX9_readSaid_0 18 rfl rfl)
theorem dX9_readSaid_21 : decode cX9_readSaid 21 = .ok (.ifCond .ne 9, 3) := dk_154 0 9 (dk_at dksX9_readSaid_0 21 rfl rfl)
theorem dX9_readSaid_24 : decode cX9_readSaid 24 = .ok (.iinc 2 1, 3) := dk_132 2 1 (dk_at dksX9_readSaid_1 0 rfl rfl)
theorem dX9_readSaid_27 : decode cX9_readSaid 27 = .ok (.goto (-17), 3) := dk_167 255 239 (dk_at dksX9_readSaid_1 3 rfl rfl)
theorem dX9_readSaid_30 : decode cX9_readSaid 30 = .ok (.iload_n 1, 1) := dk_27 (dk_at dksX9_readSaid_1 6 rfl rfl)
theorem dX9_readSaid_31 : decode cX9_readSaid 31 = .ok (.ifCond .ne 15, 3) := dk_154 0 15 (dk_at dksX9_readSaid_1 7 rfl rfl)
theorem dX9_readSaid_34 : decode cX9_readSaid 34 = .ok (.iload_n 2, 1) := dk_28 (dk_at dksX9_readSaid_1 10 rfl rfl)
theorem dX9_readSaid_35 : decode cX9_readSaid 35 = .ok (.bipush 21, 2) := dk_16 21 (dk_at dksX9_readSaid_1 11 rfl rfl)
theorem dX9_readSaid_37 : decode cX9_readSaid 37 = .ok (.if_icmp .le 9, 3) := dk_164 0 9 (dk_at dksX9_readSaid_1 13 rfl rfl)
theorem dX9_readSaid_40 : decode cX9_readSaid 40 = .ok (.aload_n 0, 1) := dk_42 (dk_at dksX9_readSaid_1 16 rfl rfl)
theorem dX9_readSaid_41 : decode cX9_readSaid 41 = .ok (.iconst 1, 1) := dk_4 (dk_at dksX9_readSaid_1 17 rfl rfl)
theorem dX9_readSaid_42 : decode cX9_readSaid 42 = .ok (.invokevirtual 72, 3) := dk_182 0 72 (dk_at dksX9_readSaid_1 18 rfl rfl)
theorem dX9_readSaid_45 : decode cX9_readSaid 45 = .ok (.ireturn, 1) := dk_172 (dk_at dksX9_readSaid_1 21 rfl rfl)
theorem dX9_readSaid_46 : decode cX9_readSaid 46 = .ok (.aload_n 0, 1) := dk_42 (dk_at dksX9_readSaid_1 22 rfl rfl)
theorem dX9_readSaid_47 : decode cX9_readSaid 47 = .ok (.getfield 419, 3) := dk_180 1 163 (dk_at dksX9_readSaid_2 0 rfl rfl)
theorem dX9_readSaid_50 : decode cX9_readSaid 50 = .ok (.bipush 20, 2) := dk_16 20 (dk_at dksX9_readSaid_2 3 rfl rfl)
theorem dX9_readSaid_52 : decode cX9_readSaid 52 = .ok (.if_icmp .eq 12, 3) := dk_159 0 12 (dk_at dksX9_readSaid_2 5 rfl rfl)
theorem dX9_readSaid_55 : decode cX9_readSaid 55 = .ok (.aload_n 0, 1) := dk_42 (dk_at dksX9_readSaid_2 8 rfl rfl)
theorem dX9_readSaid_56 : decode cX9_readSaid 56 = .ok (.getfield 422, 3) := dk_180 1 166 (dk_at dksX9_readSaid_2 9 rfl rfl)
theorem dX9_readSaid_59 : decode cX9_readSaid 59 = .ok (.bipush 8, 2) := dk_16 8 (dk_at dksX9_readSaid_2 12 rfl rfl)
theorem dX9_readSaid_61 : decode cX9_readSaid 61 = .ok (.if_icmp .ne 9, 3) := dk_160 0 9 (dk_at dksX9_readSaid_2 14 rfl rfl)
theorem dX9_readSaid_64 : decode cX9_readSaid 64 = .ok (.aload_n 0, 1) := dk_42 (dk_at dksX9_readSaid_2 17 rfl rfl)
theorem dX9_readSaid_65 : decode cX9_readSaid 65 = .ok (.iconst 4, 1) := dk_7 (dk_at dksX9_readSaid_2 18 rfl rfl)
theorem dX9_readSaid_66 : decode cX9_readSaid 66 = .ok (.invokevirtual 72, 3) := dk_182 0 72 (dk_at dksX9_readSaid_2 19 rfl rfl)
theorem dX9_readSaid_69 : decode cX9_readSaid 69 = .ok (.ireturn, 1) := dk_172 (dk_at dksX9_readSaid_2 22 rfl rfl)
theorem dX9_readSaid_70 : decode cX9_readSaid 70 = .ok (.aload_n 0, 1) := dk_42 (dk_at dksX9_readSaid_2 23 rfl rfl)
theorem dX9_readSaid_71 : decode cX9_readSaid 71 = .ok (.dup, 1) := dk_89 (dk_at dksX9_readSaid_3 0 rfl rfl)
theorem dX9_readSaid_72 : decode cX9_readSaid 72 = .ok (.getfield 419, 3) := dk_180 1 163 (dk_at dksX9_readSaid_3 1 rfl rfl)
theorem dX9_readSaid_75 : decode cX9_readSaid 75 = .ok (.iconst 1, 1) := dk_4 (dk_at dksX9_readSaid_3 4 rfl rfl)
theorem dX9_readSaid_76 : decode cX9_readSaid 76 = .ok (.iadd, 1) := dk_96 (dk_at dksX9_readSaid_3 5 rfl rfl)
theorem dX9_readSaid_77 : decode cX9_readSaid 77 = .ok (.putfield 419, 3) := dk_181 1 163 (dk_at dksX9_readSaid_3 6 rfl rfl)
theorem dX9_readSaid_80 : decode cX9_readSaid 80 = .ok (.aload_n 0, 1) := dk_42 (dk_at dksX9_readSaid_3 9 rfl rfl)
theorem dX9_readSaid_81 : decode cX9_readSaid 81 = .ok (.dup, 1) := dk_89 (dk_at dksX9_readSaid_3 10 rfl rfl)
theorem dX9_readSaid_82 : decode cX9_readSaid 82 = .ok (.getfield 422, 3) := dk_180 1 166 (dk_at dksX9_readSaid_3 11 rfl rfl)
theorem dX9_readSaid_85 : decode cX9_readSaid 85 = .ok (.iconst 1, 1) := dk_4 (dk_at dksX9_readSaid_3 14 rfl rfl)
theorem dX9_readSaid_86 : decode cX9_readSaid 86 = .ok (.iadd, 1) := dk_96 (dk_at dksX9_readSaid_3 15 rfl rfl)
theorem dX9_readSaid_87 : decode cX9_readSaid 87 = .ok (.putfield 422, 3) := dk_181 1 166 (dk_at dksX9_readSaid_3 16 rfl rfl)
theorem dX9_readSaid_90 : decode cX9_readSaid 90 = .ok (.aload_n 0, 1) := dk_42 (dk_at dksX9_readSaid_3 19 rfl rfl)
theorem dX9_readSaid_91 : decode cX9_readSaid 91 = .ok (.invokevirtual 82, 3) := dk_182 0 82 (dk_at dksX9_readSaid_3 20 rfl rfl)
theorem dX9_readSaid_94 : decode cX9_readSaid 94 = .ok (.iconst 1, 1) := dk_4 (dk_at dksX9_readSaid_3 23 rfl rfl)
theorem dX9_readSaid_95 : decode cX9_readSaid 95 = .ok (.istore_n 3, 1) := dk_62 (dk_at dksX9_readSaid_4 0 rfl rfl)
theorem dX9_readSaid_96 : decode cX9_readSaid 96 = .ok (.iload_n 1, 1) := dk_27 (dk_at dksX9_readSaid_4 1 rfl rfl)
theorem dX9_readSaid_97 : decode cX9_readSaid 97 = .ok (.ifCond .eq 11, 3) := dk_153 0 11 (dk_at dksX9_readSaid_4 2 rfl rfl)
theorem dX9_readSaid_100 : decode cX9_readSaid 100 = .ok (.aload_n 0, 1) := dk_42 (dk_at dksX9_readSaid_4 5 rfl rfl)
theorem dX9_readSaid_101 : decode cX9_readSaid 101 = .ok (.invokevirtual 425, 3) := dk_182 1 169 (dk_at dksX9_readSaid_4 6 rfl rfl)
theorem dX9_readSaid_104 : decode cX9_readSaid 104 = .ok (.istore_n 3, 1) := dk_62 (dk_at dksX9_readSaid_4 9 rfl rfl)
theorem dX9_readSaid_105 : decode cX9_readSaid 105 = .ok (.goto 61, 3) := dk_167 0 61 (dk_at dksX9_readSaid_4 10 rfl rfl)
theorem dX9_readSaid_108 : decode cX9_readSaid 108 = .ok (.iload_n 2, 1) := dk_28 (dk_at dksX9_readSaid_4 13 rfl rfl)
theorem dX9_readSaid_109 : decode cX9_readSaid 109 = .ok (.bipush 13, 2) := dk_16 13 (dk_at dksX9_readSaid_4 14 rfl rfl)
theorem dX9_readSaid_111 : decode cX9_readSaid 111 = .ok (.if_icmp .ne 11, 3) := dk_160 0 11 (dk_at dksX9_readSaid_4 16 rfl rfl)
theorem dX9_readSaid_114 : decode cX9_readSaid 114 = .ok (.aload_n 0, 1) := dk_42 (dk_at dksX9_readSaid_4 19 rfl rfl)
theorem dX9_readSaid_115 : decode cX9_readSaid 115 = .ok (.invokevirtual 428, 3) := dk_182 1 172 (dk_at dksX9_readSaid_4 20 rfl rfl)
theorem dX9_readSaid_118 : decode cX9_readSaid 118 = .ok (.istore_n 3, 1) := dk_62 (dk_at dksX9_readSaid_4 23 rfl rfl)
theorem dX9_readSaid_119 : decode cX9_readSaid 119 = .ok (.goto 47, 3) := dk_167 0 47 (dk_at dksX9_readSaid_5 0 rfl rfl)
theorem dX9_readSaid_122 : decode cX9_readSaid 122 = .ok (.iload_n 2, 1) := dk_28 (dk_at dksX9_readSaid_5 3 rfl rfl)
theorem dX9_readSaid_123 : decode cX9_readSaid 123 = .ok (.bipush 16, 2) := dk_16 16 (dk_at dksX9_readSaid_5 4 rfl rfl)
theorem dX9_readSaid_125 : decode cX9_readSaid 125 = .ok (.if_icmp .ge 21, 3) := dk_162 0 21 (dk_at dksX9_readSaid_5 6 rfl rfl)
theorem dX9_readSaid_128 : decode cX9_readSaid 128 = .ok (.aload_n 0, 1) := dk_42 (dk_at dksX9_readSaid_5 9 rfl rfl)
theorem dX9_readSaid_129 : decode cX9_readSaid 129 = .ok (.aload_n 0, 1) := dk_42 (dk_at dksX9_readSaid_5 10 rfl rfl)
theorem dX9_readSaid_130 : decode cX9_readSaid 130 = .ok (.bipush 50, 2) := dk_16 50 (dk_at dksX9_readSaid_5 11 rfl rfl)
theorem dX9_readSaid_132 : decode cX9_readSaid 132 = .ok (.iload_n 2, 1) := dk_28 (dk_at dksX9_readSaid_5 13 rfl rfl)
theorem dX9_readSaid_133 : decode cX9_readSaid 133 = .ok (.iadd, 1) := dk_96 (dk_at dksX9_readSaid_5 14 rfl rfl)
theorem dX9_readSaid_134 : decode cX9_readSaid 134 = .ok (.iconst 0, 1) := dk_3 (dk_at dksX9_readSaid_5 15 rfl rfl)
theorem dX9_readSaid_135 : decode cX9_readSaid 135 = .ok (.iconst 0, 1) := dk_3 (dk_at dksX9_readSaid_5 16 rfl rfl)
theorem dX9_readSaid_136 : decode cX9_readSaid 136 = .ok (.iconst 0, 1) := dk_3 (dk_at dksX9_readSaid_5 17 rfl rfl)
theorem dX9_readSaid_137 : decode cX9_readSaid 137 = .ok (.invokevirtual 412, 3) := dk_182 1 156 (dk_at dksX9_readSaid_5 18 rfl rfl)
theorem dX9_readSaid_140 : decode cX9_readSaid 140 = .ok (.putfield 409, 3) := dk_181 1 153 (dk_at dksX9_readSaid_5 21 rfl rfl)
theorem dX9_readSaid_143 : decode cX9_readSaid 143 = .ok (.goto 23, 3) := dk_167 0 23 (dk_at dksX9_readSaid_6 0 rfl rfl)
theorem dX9_readSaid_146 : decode cX9_readSaid 146 = .ok (.iload_n 2, 1) := dk_28 (dk_at dksX9_readSaid_6 3 rfl rfl)
theorem dX9_readSaid_147 : decode cX9_readSaid 147 = .ok (.bipush 19, 2) := dk_16 19 (dk_at dksX9_readSaid_6 4 rfl rfl)
theorem dX9_readSaid_149 : decode cX9_readSaid 149 = .ok (.if_icmp .ge 11, 3) := dk_162 0 11 (dk_at dksX9_readSaid_6 6 rfl rfl)
theorem dX9_readSaid_152 : decode cX9_readSaid 152 = .ok (.aload_n 0, 1) := dk_42 (dk_at dksX9_readSaid_6 9 rfl rfl)
theorem dX9_readSaid_153 : decode cX9_readSaid 153 = .ok (.iload_n 2, 1) := dk_28 (dk_at dksX9_readSaid_6 10 rfl rfl)
theorem dX9_readSaid_154 : decode cX9_readSaid 154 = .ok (.invokevirtual 431, 3) := dk_182 1 175 (dk_at dksX9_readSaid_6 11 rfl rfl)
theorem dX9_readSaid_157 : decode cX9_readSaid 157 = .ok (.goto 8, 3) := dk_167 0 8 (dk_at dksX9_readSaid_6 14 rfl rfl)
theorem dX9_readSaid_160 : decode cX9_readSaid 160 = .ok (.aload_n 0, 1) := dk_42 (dk_at dksX9_readSaid_6 17 rfl rfl)
theorem dX9_readSaid_161 : decode cX9_readSaid 161 = .ok (.iload_n 2, 1) := dk_28 (dk_at dksX9_readSaid_6 18 rfl rfl)
theorem dX9_readSaid_162 : decode cX9_readSaid 162 = .ok (.invokevirtual 434, 3) := dk_182 1 178 (dk_at dksX9_readSaid_6 19 rfl rfl)
theorem dX9_readSaid_165 : decode cX9_readSaid 165 = .ok (.istore_n 3, 1) := dk_62 (dk_at dksX9_readSaid_6 22 rfl rfl)
theorem dX9_readSaid_166 : decode cX9_readSaid 166 = .ok (.aload_n 0, 1) := dk_42 (dk_at dksX9_readSaid_6 23 rfl rfl)
theorem dX9_readSaid_167 : decode cX9_readSaid 167 = .ok (.dup, 1) := dk_89 (dk_at dksX9_readSaid_7 0 rfl rfl)
theorem dX9_readSaid_168 : decode cX9_readSaid 168 = .ok (.getfield 422, 3) := dk_180 1 166 (dk_at dksX9_readSaid_7 1 rfl rfl)
theorem dX9_readSaid_171 : decode cX9_readSaid 171 = .ok (.iconst 1, 1) := dk_4 (dk_at dksX9_readSaid_7 4 rfl rfl)
theorem dX9_readSaid_172 : decode cX9_readSaid 172 = .ok (.isub, 1) := dk_100 (dk_at dksX9_readSaid_7 5 rfl rfl)
theorem dX9_readSaid_173 : decode cX9_readSaid 173 = .ok (.putfield 422, 3) := dk_181 1 166 (dk_at dksX9_readSaid_7 6 rfl rfl)
theorem dX9_readSaid_176 : decode cX9_readSaid 176 = .ok (.iload_n 3, 1) := dk_29 (dk_at dksX9_readSaid_7 9 rfl rfl)
theorem dX9_readSaid_177 : decode cX9_readSaid 177 = .ok (.ireturn, 1) := dk_172 (dk_at dksX9_readSaid_7 10 rfl rfl)
abbrev cX9_readBracket : ByteArray := prog_22_method_123_code
def yX9_readBracket : MethodName := ⟨RX9, "readBracket", "()Z"⟩
def dkwX9_readBracket_1 : List UInt8 := [42, 182, 0, 82, 4, 172]
abbrev dktX9_readBracket_1 : List UInt8 := dkwX9_readBracket_1 ++ []
def dkwX9_readBracket_0 : List UInt8 := [42, 182, 1, 181, 154, 0, 5, 3, 172, 42, 16, 41, 182, 0, 86, 154, 0, 9, 42, 4, 182, 0, 72, 172]
abbrev dktX9_readBracket_0 : List UInt8 := dkwX9_readBracket_0 ++ dktX9_readBracket_1
theorem dksX9_readBracket_0 : cX9_readBracket.data.toList.drop 0 = dktX9_readBracket_0 := by decide +kernel
theorem dksX9_readBracket_1 : cX9_readBracket.data.toList.drop 24 = dktX9_readBracket_1 := dk_seg dksX9_readBracket_0 24 rfl rfl
theorem dX9_readBracket_0 : decode cX9_readBracket 0 = .ok (.aload_n 0, 1) := dk_42 (dk_at dksX9_readBracket_0 0 rfl rfl)
theorem dX9_readBracket_1 : decode cX9_readBracket 1 = .ok (.invokevirtual 437, 3) := dk_182 1 181 (dk_at dksX9_readBracket_0 1 rfl rfl)
theorem dX9_readBracket_4 : decode cX9_readBracket 4 = .ok (.ifCond .ne 5, 3) := dk_154 0 5 (dk_at dksX9_readBracket_0 4 rfl rfl)
theorem dX9_readBracket_7 : decode cX9_readBracket 7 = .ok (.iconst 0, 1) := dk_3 (dk_at dksX9_readBracket_0 7 rfl rfl)
theorem dX9_readBracket_8 : decode cX9_readBracket 8 = .ok (.ireturn, 1) := dk_172 (dk_at dksX9_readBracket_0 8 rfl rfl)
theorem dX9_readBracket_9 : decode cX9_readBracket 9 = .ok (.aload_n 0, 1) := dk_42 (dk_at dksX9_readBracket_0 9 rfl rfl)
theorem dX9_readBracket_10 : decode cX9_readBracket 10 = .ok (.bipush 41, 2) := dk_16 41 (dk_at dksX9_readBracket_0 10 rfl rfl)
theorem dX9_readBracket_12 : decode cX9_readBracket 12 = .ok (.invokevirtual 86, 3) := dk_182 0 86 (dk_at dksX9_readBracket_0 12 rfl rfl)
theorem dX9_readBracket_15 : decode cX9_readBracket 15 = .ok (.ifCond .ne 9, 3) := dk_154 0 9 (dk_at dksX9_readBracket_0 15 rfl rfl)
theorem dX9_readBracket_18 : decode cX9_readBracket 18 = .ok (.aload_n 0, 1) := dk_42 (dk_at dksX9_readBracket_0 18 rfl rfl)
theorem dX9_readBracket_19 : decode cX9_readBracket 19 = .ok (.iconst 1, 1) := dk_4 (dk_at dksX9_readBracket_0 19 rfl rfl)
theorem dX9_readBracket_20 : decode cX9_readBracket 20 = .ok (.invokevirtual 72, 3) := dk_182 0 72 (dk_at dksX9_readBracket_0 20 rfl rfl)
theorem dX9_readBracket_23 : decode cX9_readBracket 23 = .ok (.ireturn, 1) := dk_172 (dk_at dksX9_readBracket_0 23 rfl rfl)
theorem dX9_readBracket_24 : decode cX9_readBracket 24 = .ok (.aload_n 0, 1) := dk_42 (dk_at dksX9_readBracket_1 0 rfl rfl)
theorem dX9_readBracket_25 : decode cX9_readBracket 25 = .ok (.invokevirtual 82, 3) := dk_182 0 82 (dk_at dksX9_readBracket_1 1 rfl rfl)
theorem dX9_readBracket_28 : decode cX9_readBracket 28 = .ok (.iconst 1, 1) := dk_4 (dk_at dksX9_readBracket_1 4 rfl rfl)
theorem dX9_readBracket_29 : decode cX9_readBracket 29 = .ok (.ireturn, 1) := dk_172 (dk_at dksX9_readBracket_1 5 rfl rfl)
abbrev cX9_readNot : ByteArray := prog_22_method_122_code
def yX9_readNot : MethodName := ⟨RX9, "readNot", "()Z"⟩
def dkwX9_readNot_1 : List UInt8 := [4, 172]
abbrev dktX9_readNot_1 : List UInt8 := dkwX9_readNot_1 ++ []
def dkwX9_readNot_0 : List UInt8 := [42, 182, 1, 160, 154, 0, 5, 3, 172, 42, 42, 4, 42, 180, 1, 153, 3, 3, 182, 1, 156, 181, 1, 153]
abbrev dktX9_readNot_0 : List UInt8 := dkwX9_readNot_0 ++ dktX9_readNot_1
theorem dksX9_readNot_0 : cX9_readNot.data.toList.drop 0 = dktX9_readNot_0 := by decide +kernel
theorem dksX9_readNot_1 : cX9_readNot.data.toList.drop 24 = dktX9_readNot_1 := dk_seg dksX9_readNot_0 24 rfl rfl
theorem dX9_readNot_0 : decode cX9_readNot 0 = .ok (.aload_n 0, 1) := dk_42 (dk_at dksX9_readNot_0 0 rfl rfl)
theorem dX9_readNot_1 : decode cX9_readNot 1 = .ok (.invokevirtual 416, 3) := dk_182 1 160 (dk_at dksX9_readNot_0 1 rfl rfl)
theorem dX9_readNot_4 : decode cX9_readNot 4 = .ok (.ifCond .ne 5, 3) := dk_154 0 5 (dk_at dksX9_readNot_0 4 rfl rfl)
theorem dX9_readNot_7 : decode cX9_readNot 7 = .ok (.iconst 0, 1) := dk_3 (dk_at dksX9_readNot_0 7 rfl rfl)
theorem dX9_readNot_8 : decode cX9_readNot 8 = .ok (.ireturn, 1) := dk_172 (dk_at dksX9_readNot_0 8 rfl rfl)
theorem dX9_readNot_9 : decode cX9_readNot 9 = .ok (.aload_n 0, 1) := dk_42 (dk_at dksX9_readNot_0 9 rfl rfl)
theorem dX9_readNot_10 : decode cX9_readNot 10 = .ok (.aload_n 0, 1) := dk_42 (dk_at dksX9_readNot_0 10 rfl rfl)
theorem dX9_readNot_11 : decode cX9_readNot 11 = .ok (.iconst 1, 1) := dk_4 (dk_at dksX9_readNot_0 11 rfl rfl)
theorem dX9_readNot_12 : decode cX9_readNot 12 = .ok (.aload_n 0, 1) := dk_42 (dk_at dksX9_readNot_0 12 rfl rfl)
theorem dX9_readNot_13 : decode cX9_readNot 13 = .ok (.getfield 409, 3) := dk_180 1 153 (dk_at dksX9_readNot_0 13 rfl rfl)
theorem dX9_readNot_16 : decode cX9_readNot 16 = .ok (.iconst 0, 1) := dk_3 (dk_at dksX9_readNot_0 16 rfl rfl)
theorem dX9_readNot_17 : decode cX9_readNot 17 = .ok (.iconst 0, 1) := dk_3 (dk_at dksX9_readNot_0 17 rfl rfl)
theorem dX9_readNot_18 : decode cX9_readNot 18 = .ok (.invokevirtual 412, 3) := dk_182 1 156 (dk_at dksX9_readNot_0 18 rfl rfl)
theorem dX9_readNot_21 : decode cX9_readNot 21 = .ok (.putfield 409, 3) := dk_181 1 153 (dk_at dksX9_readNot_0 21 rfl rfl)
theorem dX9_readNot_24 : decode cX9_readNot 24 = .ok (.iconst 1, 1) := dk_4 (dk_at dksX9_readNot_1 0 rfl rfl)
theorem dX9_readNot_25 : decode cX9_readNot 25 = .ok (.ireturn, 1) := dk_172 (dk_at dksX9_readNot_1 1 rfl rfl)
abbrev cX9_saysOne : ByteArray := prog_22_method_118_code
def yX9_saysOne : MethodName := ⟨RX9, "saysOne", "(IIII)I"⟩
def dkwX9_saysOne_2 : List UInt8 := [89, 180, 1, 147, 4, 96, 181, 1, 147, 42, 180, 1, 147, 4, 100, 172]
abbrev dktX9_saysOne_2 : List UInt8 := dkwX9_saysOne_2 ++ []
def dkwX9_saysOne_1 : List UInt8 := [28, 79, 42, 180, 0, 154, 21, 5, 5, 96, 29, 79, 42, 180, 0, 154, 21, 5, 6, 96, 21, 4, 79, 42]
abbrev dktX9_saysOne_1 : List UInt8 := dkwX9_saysOne_1 ++ dktX9_saysOne_2
def dkwX9_saysOne_0 : List UInt8 := [7, 42, 180, 1, 147, 104, 54, 5, 42, 180, 0, 154, 21, 5, 27, 79, 42, 180, 0, 154, 21, 5, 4, 96]
abbrev dktX9_saysOne_0 : List UInt8 := dkwX9_saysOne_0 ++ dktX9_saysOne_1
theorem dksX9_saysOne_0 : cX9_saysOne.data.toList.drop 0 = dktX9_saysOne_0 := by decide +kernel
theorem dksX9_saysOne_1 : cX9_saysOne.data.toList.drop 24 = dktX9_saysOne_1 := dk_seg dksX9_saysOne_0 24 rfl rfl
theorem dksX9_saysOne_2 : cX9_saysOne.data.toList.drop 48 = dktX9_saysOne_2 := dk_seg dksX9_saysOne_1 24 rfl rfl
theorem dX9_saysOne_0 : decode cX9_saysOne 0 = .ok (.iconst 4, 1) := dk_7 (dk_at dksX9_saysOne_0 0 rfl rfl)
theorem dX9_saysOne_1 : decode cX9_saysOne 1 = .ok (.aload_n 0, 1) := dk_42 (dk_at dksX9_saysOne_0 1 rfl rfl)
theorem dX9_saysOne_2 : decode cX9_saysOne 2 = .ok (.getfield 403, 3) := dk_180 1 147 (dk_at dksX9_saysOne_0 2 rfl rfl)
theorem dX9_saysOne_5 : decode cX9_saysOne 5 = .ok (.imul, 1) := dk_104 (dk_at dksX9_saysOne_0 5 rfl rfl)
theorem dX9_saysOne_6 : decode cX9_saysOne 6 = .ok (.istore 5, 2) := dk_54 5 (dk_at dksX9_saysOne_0 6 rfl rfl)
theorem dX9_saysOne_8 : decode cX9_saysOne 8 = .ok (.aload_n 0, 1) := dk_42 (dk_at dksX9_saysOne_0 8 rfl rfl)
theorem dX9_saysOne_9 : decode cX9_saysOne 9 = .ok (.getfield 154, 3) := dk_180 0 154 (dk_at dksX9_saysOne_0 9 rfl rfl)
theorem dX9_saysOne_12 : decode cX9_saysOne 12 = .ok (.iload 5, 2) := dk_21 5 (dk_at dksX9_saysOne_0 12 rfl rfl)
theorem dX9_saysOne_14 : decode cX9_saysOne 14 = .ok (.iload_n 1, 1) := dk_27 (dk_at dksX9_saysOne_0 14 rfl rfl)
theorem dX9_saysOne_15 : decode cX9_saysOne 15 = .ok (.iastore, 1) := dk_79 (dk_at dksX9_saysOne_0 15 rfl rfl)
theorem dX9_saysOne_16 : decode cX9_saysOne 16 = .ok (.aload_n 0, 1) := dk_42 (dk_at dksX9_saysOne_0 16 rfl rfl)
theorem dX9_saysOne_17 : decode cX9_saysOne 17 = .ok (.getfield 154, 3) := dk_180 0 154 (dk_at dksX9_saysOne_0 17 rfl rfl)
theorem dX9_saysOne_20 : decode cX9_saysOne 20 = .ok (.iload 5, 2) := dk_21 5 (dk_at dksX9_saysOne_0 20 rfl rfl)
theorem dX9_saysOne_22 : decode cX9_saysOne 22 = .ok (.iconst 1, 1) := dk_4 (dk_at dksX9_saysOne_0 22 rfl rfl)
theorem dX9_saysOne_23 : decode cX9_saysOne 23 = .ok (.iadd, 1) := dk_96 (dk_at dksX9_saysOne_0 23 rfl rfl)
theorem dX9_saysOne_24 : decode cX9_saysOne 24 = .ok (.iload_n 2, 1) := dk_28 (dk_at dksX9_saysOne_1 0 rfl rfl)
theorem dX9_saysOne_25 : decode cX9_saysOne 25 = .ok (.iastore, 1) := dk_79 (dk_at dksX9_saysOne_1 1 rfl rfl)
theorem dX9_saysOne_26 : decode cX9_saysOne 26 = .ok (.aload_n 0, 1) := dk_42 (dk_at dksX9_saysOne_1 2 rfl rfl)
theorem dX9_saysOne_27 : decode cX9_saysOne 27 = .ok (.getfield 154, 3) := dk_180 0 154 (dk_at dksX9_saysOne_1 3 rfl rfl)
theorem dX9_saysOne_30 : decode cX9_saysOne 30 = .ok (.iload 5, 2) := dk_21 5 (dk_at dksX9_saysOne_1 6 rfl rfl)
theorem dX9_saysOne_32 : decode cX9_saysOne 32 = .ok (.iconst 2, 1) := dk_5 (dk_at dksX9_saysOne_1 8 rfl rfl)
theorem dX9_saysOne_33 : decode cX9_saysOne 33 = .ok (.iadd, 1) := dk_96 (dk_at dksX9_saysOne_1 9 rfl rfl)
theorem dX9_saysOne_34 : decode cX9_saysOne 34 = .ok (.iload_n 3, 1) := dk_29 (dk_at dksX9_saysOne_1 10 rfl rfl)
theorem dX9_saysOne_35 : decode cX9_saysOne 35 = .ok (.iastore, 1) := dk_79 (dk_at dksX9_saysOne_1 11 rfl rfl)
theorem dX9_saysOne_36 : decode cX9_saysOne 36 = .ok (.aload_n 0, 1) := dk_42 (dk_at dksX9_saysOne_1 12 rfl rfl)
theorem dX9_saysOne_37 : decode cX9_saysOne 37 = .ok (.getfield 154, 3) := dk_180 0 154 (dk_at dksX9_saysOne_1 13 rfl rfl)
theorem dX9_saysOne_40 : decode cX9_saysOne 40 = .ok (.iload 5, 2) := dk_21 5 (dk_at dksX9_saysOne_1 16 rfl rfl)
theorem dX9_saysOne_42 : decode cX9_saysOne 42 = .ok (.iconst 3, 1) := dk_6 (dk_at dksX9_saysOne_1 18 rfl rfl)
theorem dX9_saysOne_43 : decode cX9_saysOne 43 = .ok (.iadd, 1) := dk_96 (dk_at dksX9_saysOne_1 19 rfl rfl)
theorem dX9_saysOne_44 : decode cX9_saysOne 44 = .ok (.iload 4, 2) := dk_21 4 (dk_at dksX9_saysOne_1 20 rfl rfl)
theorem dX9_saysOne_46 : decode cX9_saysOne 46 = .ok (.iastore, 1) := dk_79 (dk_at dksX9_saysOne_1 22 rfl rfl)
theorem dX9_saysOne_47 : decode cX9_saysOne 47 = .ok (.aload_n 0, 1) := dk_42 (dk_at dksX9_saysOne_1 23 rfl rfl)
theorem dX9_saysOne_48 : decode cX9_saysOne 48 = .ok (.dup, 1) := dk_89 (dk_at dksX9_saysOne_2 0 rfl rfl)
theorem dX9_saysOne_49 : decode cX9_saysOne 49 = .ok (.getfield 403, 3) := dk_180 1 147 (dk_at dksX9_saysOne_2 1 rfl rfl)
theorem dX9_saysOne_52 : decode cX9_saysOne 52 = .ok (.iconst 1, 1) := dk_4 (dk_at dksX9_saysOne_2 4 rfl rfl)
theorem dX9_saysOne_53 : decode cX9_saysOne 53 = .ok (.iadd, 1) := dk_96 (dk_at dksX9_saysOne_2 5 rfl rfl)
theorem dX9_saysOne_54 : decode cX9_saysOne 54 = .ok (.putfield 403, 3) := dk_181 1 147 (dk_at dksX9_saysOne_2 6 rfl rfl)
theorem dX9_saysOne_57 : decode cX9_saysOne 57 = .ok (.aload_n 0, 1) := dk_42 (dk_at dksX9_saysOne_2 9 rfl rfl)
theorem dX9_saysOne_58 : decode cX9_saysOne 58 = .ok (.getfield 403, 3) := dk_180 1 147 (dk_at dksX9_saysOne_2 10 rfl rfl)
theorem dX9_saysOne_61 : decode cX9_saysOne 61 = .ok (.iconst 1, 1) := dk_4 (dk_at dksX9_saysOne_2 13 rfl rfl)
theorem dX9_saysOne_62 : decode cX9_saysOne 62 = .ok (.isub, 1) := dk_100 (dk_at dksX9_saysOne_2 14 rfl rfl)
theorem dX9_saysOne_63 : decode cX9_saysOne 63 = .ok (.ireturn, 1) := dk_172 (dk_at dksX9_saysOne_2 15 rfl rfl)
abbrev cX9_readOf : ByteArray := prog_22_method_124_code
def yX9_readOf : MethodName := ⟨RX9, "readOf", "(I)Z"⟩
def dkwX9_readOf_2 : List UInt8 := [3, 182, 1, 156, 181, 1, 153, 4, 172]
abbrev dktX9_readOf_2 : List UInt8 := dkwX9_readOf_2 ++ []
def dkwX9_readOf_1 : List UInt8 := [167, 0, 4, 3, 46, 182, 1, 116, 154, 0, 5, 3, 172, 42, 42, 16, 50, 27, 96, 42, 180, 0, 79, 3]
abbrev dktX9_readOf_1 : List UInt8 := dkwX9_readOf_1 ++ dktX9_readOf_2
def dkwX9_readOf_0 : List UInt8 := [42, 27, 16, 18, 160, 0, 8, 16, 11, 167, 0, 4, 3, 42, 180, 0, 98, 27, 16, 18, 160, 0, 7, 5]
abbrev dktX9_readOf_0 : List UInt8 := dkwX9_readOf_0 ++ dktX9_readOf_1
theorem dksX9_readOf_0 : cX9_readOf.data.toList.drop 0 = dktX9_readOf_0 := by decide +kernel
theorem dksX9_readOf_1 : cX9_readOf.data.toList.drop 24 = dktX9_readOf_1 := dk_seg dksX9_readOf_0 24 rfl rfl
theorem dksX9_readOf_2 : cX9_readOf.data.toList.drop 48 = dktX9_readOf_2 := dk_seg dksX9_readOf_1 24 rfl rfl
theorem dX9_readOf_0 : decode cX9_readOf 0 = .ok (.aload_n 0, 1) := dk_42 (dk_at dksX9_readOf_0 0 rfl rfl)
theorem dX9_readOf_1 : decode cX9_readOf 1 = .ok (.iload_n 1, 1) := dk_27 (dk_at dksX9_readOf_0 1 rfl rfl)
theorem dX9_readOf_2 : decode cX9_readOf 2 = .ok (.bipush 18, 2) := dk_16 18 (dk_at dksX9_readOf_0 2 rfl rfl)
theorem dX9_readOf_4 : decode cX9_readOf 4 = .ok (.if_icmp .ne 8, 3) := dk_160 0 8 (dk_at dksX9_readOf_0 4 rfl rfl)
theorem dX9_readOf_7 : decode cX9_readOf 7 = .ok (.bipush 11, 2) := dk_16 11 (dk_at dksX9_readOf_0 7 rfl rfl)
theorem dX9_readOf_9 : decode cX9_readOf 9 = .ok (.goto 4, 3) := dk_167 0 4 (dk_at dksX9_readOf_0 9 rfl rfl)
theorem dX9_readOf_12 : decode cX9_readOf 12 = .ok (.iconst 0, 1) := dk_3 (dk_at dksX9_readOf_0 12 rfl rfl)
theorem dX9_readOf_13 : decode cX9_readOf 13 = .ok (.aload_n 0, 1) := dk_42 (dk_at dksX9_readOf_0 13 rfl rfl)
theorem dX9_readOf_14 : decode cX9_readOf 14 = .ok (.getfield 98, 3) := dk_180 0 98 (dk_at dksX9_readOf_0 14 rfl rfl)
theorem dX9_readOf_17 : decode cX9_readOf 17 = .ok (.iload_n 1, 1) := dk_27 (dk_at dksX9_readOf_0 17 rfl rfl)
theorem dX9_readOf_18 : decode cX9_readOf 18 = .ok (.bipush 18, 2) := dk_16 18 (dk_at dksX9_readOf_0 18 rfl rfl)
theorem dX9_readOf_20 : decode cX9_readOf 20 = .ok (.if_icmp .ne 7, 3) := dk_160 0 7 (dk_at dksX9_readOf_0 20 rfl rfl)
theorem dX9_readOf_23 : decode cX9_readOf 23 = .ok (.iconst 2, 1) := dk_5 (dk_at dksX9_readOf_0 23 rfl rfl)
theorem dX9_readOf_24 : decode cX9_readOf 24 = .ok (.goto 4, 3) := dk_167 0 4 (dk_at dksX9_readOf_1 0 rfl rfl)
theorem dX9_readOf_27 : decode cX9_readOf 27 = .ok (.iconst 0, 1) := dk_3 (dk_at dksX9_readOf_1 3 rfl rfl)
theorem dX9_readOf_28 : decode cX9_readOf 28 = .ok (.iaload, 1) := dk_46 (dk_at dksX9_readOf_1 4 rfl rfl)
theorem dX9_readOf_29 : decode cX9_readOf 29 = .ok (.invokevirtual 372, 3) := dk_182 1 116 (dk_at dksX9_readOf_1 5 rfl rfl)
theorem dX9_readOf_32 : decode cX9_readOf 32 = .ok (.ifCond .ne 5, 3) := dk_154 0 5 (dk_at dksX9_readOf_1 8 rfl rfl)
theorem dX9_readOf_35 : decode cX9_readOf 35 = .ok (.iconst 0, 1) := dk_3 (dk_at dksX9_readOf_1 11 rfl rfl)
theorem dX9_readOf_36 : decode cX9_readOf 36 = .ok (.ireturn, 1) := dk_172 (dk_at dksX9_readOf_1 12 rfl rfl)
theorem dX9_readOf_37 : decode cX9_readOf 37 = .ok (.aload_n 0, 1) := dk_42 (dk_at dksX9_readOf_1 13 rfl rfl)
theorem dX9_readOf_38 : decode cX9_readOf 38 = .ok (.aload_n 0, 1) := dk_42 (dk_at dksX9_readOf_1 14 rfl rfl)
theorem dX9_readOf_39 : decode cX9_readOf 39 = .ok (.bipush 50, 2) := dk_16 50 (dk_at dksX9_readOf_1 15 rfl rfl)
theorem dX9_readOf_41 : decode cX9_readOf 41 = .ok (.iload_n 1, 1) := dk_27 (dk_at dksX9_readOf_1 17 rfl rfl)
theorem dX9_readOf_42 : decode cX9_readOf 42 = .ok (.iadd, 1) := dk_96 (dk_at dksX9_readOf_1 18 rfl rfl)
theorem dX9_readOf_43 : decode cX9_readOf 43 = .ok (.aload_n 0, 1) := dk_42 (dk_at dksX9_readOf_1 19 rfl rfl)
theorem dX9_readOf_44 : decode cX9_readOf 44 = .ok (.getfield 79, 3) := dk_180 0 79 (dk_at dksX9_readOf_1 20 rfl rfl)
theorem dX9_readOf_47 : decode cX9_readOf 47 = .ok (.iconst 0, 1) := dk_3 (dk_at dksX9_readOf_1 23 rfl rfl)
theorem dX9_readOf_48 : decode cX9_readOf 48 = .ok (.iconst 0, 1) := dk_3 (dk_at dksX9_readOf_2 0 rfl rfl)
theorem dX9_readOf_49 : decode cX9_readOf 49 = .ok (.invokevirtual 412, 3) := dk_182 1 156 (dk_at dksX9_readOf_2 1 rfl rfl)
theorem dX9_readOf_52 : decode cX9_readOf 52 = .ok (.putfield 409, 3) := dk_181 1 153 (dk_at dksX9_readOf_2 4 rfl rfl)
theorem dX9_readOf_55 : decode cX9_readOf 55 = .ok (.iconst 1, 1) := dk_4 (dk_at dksX9_readOf_2 7 rfl rfl)
theorem dX9_readOf_56 : decode cX9_readOf 56 = .ok (.ireturn, 1) := dk_172 (dk_at dksX9_readOf_2 8 rfl rfl)
abbrev cX9_readCompare : ByteArray := prog_22_method_125_code
def yX9_readCompare : MethodName := ⟨RX9, "readCompare", "(I)Z"⟩
def dkwX9_readCompare_3 : List UInt8 := [181, 1, 153, 4, 172]
abbrev dktX9_readCompare_3 : List UInt8 := dkwX9_readCompare_3 ++ []
def dkwX9_readCompare_2 : List UInt8 := [182, 0, 188, 154, 0, 5, 3, 172, 42, 42, 16, 50, 27, 96, 3, 42, 180, 0, 79, 28, 182, 1, 156]
abbrev dktX9_readCompare_2 : List UInt8 := dkwX9_readCompare_2 ++ dktX9_readCompare_3
def dkwX9_readCompare_1 : List UInt8 := [154, 0, 9, 42, 4, 182, 0, 72, 172, 42, 180, 0, 40, 61, 42, 182, 0, 82, 42, 3, 17, 3, 231]
abbrev dktX9_readCompare_1 : List UInt8 := dkwX9_readCompare_1 ++ dktX9_readCompare_2
def dkwX9_readCompare_0 : List UInt8 := [42, 16, 60, 182, 0, 86, 154, 0, 27, 42, 16, 61, 182, 0, 86, 154, 0, 18, 42, 16, 62, 182, 0, 86]
abbrev dktX9_readCompare_0 : List UInt8 := dkwX9_readCompare_0 ++ dktX9_readCompare_1
theorem dksX9_readCompare_0 : cX9_readCompare.data.toList.drop 0 = dktX9_readCompare_0 := by decide +kernel
theorem dksX9_readCompare_1 : cX9_readCompare.data.toList.drop 24 = dktX9_readCompare_1 := dk_seg dksX9_readCompare_0 24 rfl rfl
theorem dksX9_readCompare_2 : cX9_readCompare.data.toList.drop 47 = dktX9_readCompare_2 := dk_seg dksX9_readCompare_1 23 rfl rfl
theorem dksX9_readCompare_3 : cX9_readCompare.data.toList.drop 70 = dktX9_readCompare_3 := dk_seg dksX9_readCompare_2 23 rfl rfl
theorem dX9_readCompare_0 : decode cX9_readCompare 0 = .ok (.aload_n 0, 1) := dk_42 (dk_at dksX9_readCompare_0 0 rfl rfl)
theorem dX9_readCompare_1 : decode cX9_readCompare 1 = .ok (.bipush 60, 2) := dk_16 60 (dk_at dksX9_readCompare_0 1 rfl rfl)
theorem dX9_readCompare_3 : decode cX9_readCompare 3 = .ok (.invokevirtual 86, 3) := dk_182 0 86 (dk_at dksX9_readCompare_0 3 rfl rfl)
theorem dX9_readCompare_6 : decode cX9_readCompare 6 = .ok (.ifCond .ne 27, 3) := dk_154 0 27 (dk_at dksX9_readCompare_0 6 rfl rfl)
theorem dX9_readCompare_9 : decode cX9_readCompare 9 = .ok (.aload_n 0, 1) := dk_42 (dk_at dksX9_readCompare_0 9 rfl rfl)
theorem dX9_readCompare_10 : decode cX9_readCompare 10 = .ok (.bipush 61, 2) := dk_16 61 (dk_at dksX9_readCompare_0 10 rfl rfl)
theorem dX9_readCompare_12 : decode cX9_readCompare 12 = .ok (.invokevirtual 86, 3) := dk_182 0 86 (dk_at dksX9_readCompare_0 12 rfl rfl)
theorem dX9_readCompare_15 : decode cX9_readCompare 15 = .ok (.ifCond .ne 18, 3) := dk_154 0 18 (dk_at dksX9_readCompare_0 15 rfl rfl)
theorem dX9_readCompare_18 : decode cX9_readCompare 18 = .ok (.aload_n 0, 1) := dk_42 (dk_at dksX9_readCompare_0 18 rfl rfl)
theorem dX9_readCompare_19 : decode cX9_readCompare 19 = .ok (.bipush 62, 2) := dk_16 62 (dk_at dksX9_readCompare_0 19 rfl rfl)
theorem dX9_readCompare_21 : decode cX9_readCompare 21 = .ok (.invokevirtual 86, 3) := dk_182 0 86 (dk_at dksX9_readCompare_0 21 rfl rfl)
theorem dX9_readCompare_24 : decode cX9_readCompare 24 = .ok (.ifCond .ne 9, 3) := dk_154 0 9 (dk_at dksX9_readCompare_1 0 rfl rfl)
theorem dX9_readCompare_27 : decode cX9_readCompare 27 = .ok (.aload_n 0, 1) := dk_42 (dk_at dksX9_readCompare_1 3 rfl rfl)
theorem dX9_readCompare_28 : decode cX9_readCompare 28 = .ok (.iconst 1, 1) := dk_4 (dk_at dksX9_readCompare_1 4 rfl rfl)
theorem dX9_readCompare_29 : decode cX9_readCompare 29 = .ok (.invokevirtual 72, 3) := dk_182 0 72 (dk_at dksX9_readCompare_1 5 rfl rfl)
theorem dX9_readCompare_32 : decode cX9_readCompare 32 = .ok (.ireturn, 1) := dk_172 (dk_at dksX9_readCompare_1 8 rfl rfl)
theorem dX9_readCompare_33 : decode cX9_readCompare 33 = .ok (.aload_n 0, 1) := dk_42 (dk_at dksX9_readCompare_1 9 rfl rfl)
theorem dX9_readCompare_34 : decode cX9_readCompare 34 = .ok (.getfield 40, 3) := dk_180 0 40 (dk_at dksX9_readCompare_1 10 rfl rfl)
theorem dX9_readCompare_37 : decode cX9_readCompare 37 = .ok (.istore_n 2, 1) := dk_61 (dk_at dksX9_readCompare_1 13 rfl rfl)
theorem dX9_readCompare_38 : decode cX9_readCompare 38 = .ok (.aload_n 0, 1) := dk_42 (dk_at dksX9_readCompare_1 14 rfl rfl)
theorem dX9_readCompare_39 : decode cX9_readCompare 39 = .ok (.invokevirtual 82, 3) := dk_182 0 82 (dk_at dksX9_readCompare_1 15 rfl rfl)
theorem dX9_readCompare_42 : decode cX9_readCompare 42 = .ok (.aload_n 0, 1) := dk_42 (dk_at dksX9_readCompare_1 18 rfl rfl)
theorem dX9_readCompare_43 : decode cX9_readCompare 43 = .ok (.iconst 0, 1) := dk_3 (dk_at dksX9_readCompare_1 19 rfl rfl)
theorem dX9_readCompare_44 : decode cX9_readCompare 44 = .ok (.sipush 999, 3) := dk_17 3 231 (dk_at dksX9_readCompare_1 20 rfl rfl)
theorem dX9_readCompare_47 : decode cX9_readCompare 47 = .ok (.invokevirtual 188, 3) := dk_182 0 188 (dk_at dksX9_readCompare_2 0 rfl rfl)
theorem dX9_readCompare_50 : decode cX9_readCompare 50 = .ok (.ifCond .ne 5, 3) := dk_154 0 5 (dk_at dksX9_readCompare_2 3 rfl rfl)
theorem dX9_readCompare_53 : decode cX9_readCompare 53 = .ok (.iconst 0, 1) := dk_3 (dk_at dksX9_readCompare_2 6 rfl rfl)
theorem dX9_readCompare_54 : decode cX9_readCompare 54 = .ok (.ireturn, 1) := dk_172 (dk_at dksX9_readCompare_2 7 rfl rfl)
theorem dX9_readCompare_55 : decode cX9_readCompare 55 = .ok (.aload_n 0, 1) := dk_42 (dk_at dksX9_readCompare_2 8 rfl rfl)
theorem dX9_readCompare_56 : decode cX9_readCompare 56 = .ok (.aload_n 0, 1) := dk_42 (dk_at dksX9_readCompare_2 9 rfl rfl)
theorem dX9_readCompare_57 : decode cX9_readCompare 57 = .ok (.bipush 50, 2) := dk_16 50 (dk_at dksX9_readCompare_2 10 rfl rfl)
theorem dX9_readCompare_59 : decode cX9_readCompare 59 = .ok (.iload_n 1, 1) := dk_27 (dk_at dksX9_readCompare_2 12 rfl rfl)
theorem dX9_readCompare_60 : decode cX9_readCompare 60 = .ok (.iadd, 1) := dk_96 (dk_at dksX9_readCompare_2 13 rfl rfl)
theorem dX9_readCompare_61 : decode cX9_readCompare 61 = .ok (.iconst 0, 1) := dk_3 (dk_at dksX9_readCompare_2 14 rfl rfl)
theorem dX9_readCompare_62 : decode cX9_readCompare 62 = .ok (.aload_n 0, 1) := dk_42 (dk_at dksX9_readCompare_2 15 rfl rfl)
theorem dX9_readCompare_63 : decode cX9_readCompare 63 = .ok (.getfield 79, 3) := dk_180 0 79 (dk_at dksX9_readCompare_2 16 rfl rfl)
theorem dX9_readCompare_66 : decode cX9_readCompare 66 = .ok (.iload_n 2, 1) := dk_28 (dk_at dksX9_readCompare_2 19 rfl rfl)
theorem dX9_readCompare_67 : decode cX9_readCompare 67 = .ok (.invokevirtual 412, 3) := dk_182 1 156 (dk_at dksX9_readCompare_2 20 rfl rfl)
theorem dX9_readCompare_70 : decode cX9_readCompare 70 = .ok (.putfield 409, 3) := dk_181 1 153 (dk_at dksX9_readCompare_3 0 rfl rfl)
theorem dX9_readCompare_73 : decode cX9_readCompare 73 = .ok (.iconst 1, 1) := dk_4 (dk_at dksX9_readCompare_3 3 rfl rfl)
theorem dX9_readCompare_74 : decode cX9_readCompare 74 = .ok (.ireturn, 1) := dk_172 (dk_at dksX9_readCompare_3 4 rfl rfl)
abbrev cX9_said : ByteArray := prog_22_method_128_code
def yX9_said : MethodName := ⟨RX9, "said", "(I)I"⟩
def dkwX9_said_3 : List UInt8 := [28, 167, 0, 4, 2, 172]
abbrev dktX9_said_3 : List UInt8 := dkwX9_said_3 ++ []
def dkwX9_said_2 : List UInt8 := [167, 0, 13, 28, 27, 160, 0, 5, 29, 172, 132, 2, 1, 132, 3, 1, 167, 255, 214, 27, 2, 160, 0, 7]
abbrev dktX9_said_2 : List UInt8 := dkwX9_said_2 ++ dktX9_said_3
def dkwX9_said_1 : List UInt8 := [180, 0, 98, 4, 46, 162, 0, 38, 42, 42, 180, 0, 98, 17, 0, 165, 46, 29, 182, 1, 184, 154, 0, 6]
abbrev dktX9_said_1 : List UInt8 := dkwX9_said_1 ++ dktX9_said_2
def dkwX9_said_0 : List UInt8 := [42, 3, 181, 0, 1, 42, 180, 0, 98, 17, 0, 164, 46, 154, 0, 5, 2, 172, 3, 61, 3, 62, 29, 42]
abbrev dktX9_said_0 : List UInt8 := dkwX9_said_0 ++ dktX9_said_1
theorem dksX9_said_0 : cX9_said.data.toList.drop 0 = dktX9_said_0 := by decide +kernel
theorem dksX9_said_1 : cX9_said.data.toList.drop 24 = dktX9_said_1 := dk_seg dksX9_said_0 24 rfl rfl
theorem dksX9_said_2 : cX9_said.data.toList.drop 48 = dktX9_said_2 := dk_seg dksX9_said_1 24 rfl rfl
theorem dksX9_said_3 : cX9_said.data.toList.drop 72 = dktX9_said_3 := dk_seg dksX9_said_2 24 rfl rfl
theorem dX9_said_0 : decode cX9_said 0 = .ok (.aload_n 0, 1) := dk_42 (dk_at dksX9_said_0 0 rfl rfl)
theorem dX9_said_1 : decode cX9_said 1 = .ok (.iconst 0, 1) := dk_3 (dk_at dksX9_said_0 1 rfl rfl)
theorem dX9_said_2 : decode cX9_said 2 = .ok (.putfield 1, 3) := dk_181 0 1 (dk_at dksX9_said_0 2 rfl rfl)
theorem dX9_said_5 : decode cX9_said 5 = .ok (.aload_n 0, 1) := dk_42 (dk_at dksX9_said_0 5 rfl rfl)
theorem dX9_said_6 : decode cX9_said 6 = .ok (.getfield 98, 3) := dk_180 0 98 (dk_at dksX9_said_0 6 rfl rfl)
theorem dX9_said_9 : decode cX9_said 9 = .ok (.sipush 164, 3) := dk_17 0 164 (dk_at dksX9_said_0 9 rfl rfl)
theorem dX9_said_12 : decode cX9_said 12 = .ok (.iaload, 1) := dk_46 (dk_at dksX9_said_0 12 rfl rfl)
theorem dX9_said_13 : decode cX9_said 13 = .ok (.ifCond .ne 5, 3) := dk_154 0 5 (dk_at dksX9_said_0 13 rfl rfl)
theorem dX9_said_16 : decode cX9_said 16 = .ok (.iconst (-1), 1) := dk_2 (dk_at dksX9_said_0 16 rfl rfl)
theorem dX9_said_17 : decode cX9_said 17 = .ok (.ireturn, 1) := dk_172 (dk_at dksX9_said_0 17 rfl rfl)
theorem dX9_said_18 : decode cX9_said 18 = .ok (.iconst 0, 1) := dk_3 (dk_at dksX9_said_0 18 rfl rfl)
theorem dX9_said_19 : decode cX9_said 19 = .ok (.istore_n 2, 1) := dk_61 (dk_at dksX9_said_0 19 rfl rfl)
theorem dX9_said_20 : decode cX9_said 20 = .ok (.iconst 0, 1) := dk_3 (dk_at dksX9_said_0 20 rfl rfl)
theorem dX9_said_21 : decode cX9_said 21 = .ok (.istore_n 3, 1) := dk_62 (dk_at dksX9_said_0 21 rfl rfl)
theorem dX9_said_22 : decode cX9_said 22 = .ok (.iload_n 3, 1) := dk_29 (dk_at dksX9_said_0 22 rfl rfl)
theorem dX9_said_23 : decode cX9_said 23 = .ok (.aload_n 0, 1) := dk_42 (dk_at dksX9_said_0 23 rfl rfl)
theorem dX9_said_24 : decode cX9_said 24 = .ok (.getfield 98, 3) := dk_180 0 98 (dk_at dksX9_said_1 0 rfl rfl)
theorem dX9_said_27 : decode cX9_said 27 = .ok (.iconst 1, 1) := dk_4 (dk_at dksX9_said_1 3 rfl rfl)
theorem dX9_said_28 : decode cX9_said 28 = .ok (.iaload, 1) := dk_46 (dk_at dksX9_said_1 4 rfl rfl)
theorem dX9_said_29 : decode cX9_said 29 = .ok (.if_icmp .ge 38, 3) := dk_162 0 38 (dk_at dksX9_said_1 5 rfl rfl)
theorem dX9_said_32 : decode cX9_said 32 = .ok (.aload_n 0, 1) := dk_42 (dk_at dksX9_said_1 8 rfl rfl)
theorem dX9_said_33 : decode cX9_said 33 = .ok (.aload_n 0, 1) := dk_42 (dk_at dksX9_said_1 9 rfl rfl)
theorem dX9_said_34 : decode cX9_said 34 = .ok (.getfield 98, 3) := dk_180 0 98 (dk_at dksX9_said_1 10 rfl rfl)
theorem dX9_said_37 : decode cX9_said 37 = .ok (.sipush 165, 3) := dk_17 0 165 (dk_at dksX9_said_1 13 rfl rfl)
theorem dX9_said_40 : decode cX9_said 40 = .ok (.iaload, 1) := dk_46 (dk_at dksX9_said_1 16 rfl rfl)
theorem dX9_said_41 : decode cX9_said 41 = .ok (.iload_n 3, 1) := dk_29 (dk_at dksX9_said_1 17 rfl rfl)
theorem dX9_said_42 : decode cX9_said 42 = .ok (.invokevirtual 440, 3) := dk_182 1 184 (dk_at dksX9_said_1 18 rfl rfl)
theorem dX9_said_45 : decode cX9_said 45 = .ok (.ifCond .ne 6, 3) := dk_154 0 6 (dk_at dksX9_said_1 21 rfl rfl)
theorem dX9_said_48 : decode cX9_said 48 = .ok (.goto 13, 3) := dk_167 0 13 (dk_at dksX9_said_2 0 rfl rfl)
theorem dX9_said_51 : decode cX9_said 51 = .ok (.iload_n 2, 1) := dk_28 (dk_at dksX9_said_2 3 rfl rfl)
theorem dX9_said_52 : decode cX9_said 52 = .ok (.iload_n 1, 1) := dk_27 (dk_at dksX9_said_2 4 rfl rfl)
theorem dX9_said_53 : decode cX9_said 53 = .ok (.if_icmp .ne 5, 3) := dk_160 0 5 (dk_at dksX9_said_2 5 rfl rfl)
theorem dX9_said_56 : decode cX9_said 56 = .ok (.iload_n 3, 1) := dk_29 (dk_at dksX9_said_2 8 rfl rfl)
theorem dX9_said_57 : decode cX9_said 57 = .ok (.ireturn, 1) := dk_172 (dk_at dksX9_said_2 9 rfl rfl)
theorem dX9_said_58 : decode cX9_said 58 = .ok (.iinc 2 1, 3) := dk_132 2 1 (dk_at dksX9_said_2 10 rfl rfl)
theorem dX9_said_61 : decode cX9_said 61 = .ok (.iinc 3 1, 3) := dk_132 3 1 (dk_at dksX9_said_2 13 rfl rfl)
theorem dX9_said_64 : decode cX9_said 64 = .ok (.goto (-42), 3) := dk_167 255 214 (dk_at dksX9_said_2 16 rfl rfl)
theorem dX9_said_67 : decode cX9_said 67 = .ok (.iload_n 1, 1) := dk_27 (dk_at dksX9_said_2 19 rfl rfl)
theorem dX9_said_68 : decode cX9_said 68 = .ok (.iconst (-1), 1) := dk_2 (dk_at dksX9_said_2 20 rfl rfl)
theorem dX9_said_69 : decode cX9_said 69 = .ok (.if_icmp .ne 7, 3) := dk_160 0 7 (dk_at dksX9_said_2 21 rfl rfl)
theorem dX9_said_72 : decode cX9_said 72 = .ok (.iload_n 2, 1) := dk_28 (dk_at dksX9_said_3 0 rfl rfl)
theorem dX9_said_73 : decode cX9_said 73 = .ok (.goto 4, 3) := dk_167 0 4 (dk_at dksX9_said_3 1 rfl rfl)
theorem dX9_said_76 : decode cX9_said 76 = .ok (.iconst (-1), 1) := dk_2 (dk_at dksX9_said_3 4 rfl rfl)
theorem dX9_said_77 : decode cX9_said 77 = .ok (.ireturn, 1) := dk_172 (dk_at dksX9_said_3 5 rfl rfl)
abbrev cX9_holds : ByteArray := prog_22_method_127_code
def yX9_holds : MethodName := ⟨RX9, "holds", "(II)Z"⟩
def dkwX9_holds_13 : List UInt8 := [167, 0, 15, 21, 7, 21, 5, 164, 0, 7, 4, 167, 0, 4, 3, 172]
abbrev dktX9_holds_13 : List UInt8 := dkwX9_holds_13 ++ []
def dkwX9_holds_12 : List UInt8 := [180, 0, 98, 29, 6, 96, 46, 16, 61, 160, 0, 18, 21, 7, 21, 5, 160, 0, 7, 4, 167, 0, 19, 3]
abbrev dktX9_holds_12 : List UInt8 := dkwX9_holds_12 ++ dktX9_holds_13
def dkwX9_holds_11 : List UInt8 := [96, 46, 16, 60, 160, 0, 18, 21, 7, 21, 5, 162, 0, 7, 4, 167, 0, 47, 3, 167, 0, 43, 42]
abbrev dktX9_holds_11 : List UInt8 := dkwX9_holds_11 ++ dktX9_holds_12
def dkwX9_holds_10 : List UInt8 := [160, 0, 15, 42, 180, 0, 98, 16, 32, 28, 96, 46, 167, 0, 4, 28, 54, 7, 42, 180, 0, 98, 29, 6]
abbrev dktX9_holds_10 : List UInt8 := dkwX9_holds_10 ++ dktX9_holds_11
def dkwX9_holds_9 : List UInt8 := [21, 6, 16, 19, 160, 0, 15, 42, 28, 4, 182, 0, 253, 184, 0, 238, 167, 0, 23, 21, 6, 16, 20]
abbrev dktX9_holds_9 : List UInt8 := dkwX9_holds_9 ++ dktX9_holds_10
def dkwX9_holds_8 : List UInt8 := [184, 0, 181, 172, 42, 28, 21, 4, 182, 1, 187, 172, 42, 180, 0, 98, 29, 46, 16, 50, 100, 54, 6]
abbrev dktX9_holds_8 : List UInt8 := dkwX9_holds_8 ++ dktX9_holds_9
def dkwX9_holds_7 : List UInt8 := [16, 26, 28, 96, 46, 21, 4, 160, 0, 7, 4, 167, 0, 4, 3, 172, 42, 28, 3, 182, 0, 250, 21, 4]
abbrev dktX9_holds_7 : List UInt8 := dkwX9_holds_7 ++ dktX9_holds_8
def dkwX9_holds_6 : List UInt8 := [3, 182, 0, 250, 154, 0, 7, 4, 167, 0, 4, 3, 172, 42, 28, 182, 0, 218, 172, 42, 180, 0, 98]
abbrev dktX9_holds_6 : List UInt8 := dkwX9_holds_6 ++ dktX9_holds_7
def dkwX9_holds_5 : List UInt8 := [182, 1, 184, 154, 0, 13, 42, 21, 5, 28, 182, 1, 184, 153, 0, 7, 4, 167, 0, 4, 3, 172, 42, 28]
abbrev dktX9_holds_5 : List UInt8 := dkwX9_holds_5 ++ dktX9_holds_6
def dkwX9_holds_4 : List UInt8 := [153, 0, 17, 42, 21, 5, 28, 182, 1, 184, 153, 0, 7, 4, 167, 0, 4, 3, 172, 42, 21, 4, 28]
abbrev dktX9_holds_4 : List UInt8 := dkwX9_holds_4 ++ dktX9_holds_5
def dkwX9_holds_3 : List UInt8 := [42, 21, 4, 28, 182, 1, 184, 154, 0, 7, 4, 167, 0, 4, 3, 172, 42, 21, 4, 28, 182, 1, 184]
abbrev dktX9_holds_3 : List UInt8 := dkwX9_holds_3 ++ dktX9_holds_4
def dkwX9_holds_2 : List UInt8 := [171, 0, 0, 0, 0, 203, 0, 0, 0, 8, 0, 0, 0, 1, 0, 0, 0, 74, 0, 0, 0, 2, 0, 0, 0, 90, 0, 0, 0, 3, 0, 0, 0, 116, 0, 0, 0, 64, 0, 0, 0, 142, 0, 0, 0, 65, 0, 0, 0, 157, 0, 0, 0, 66, 0, 0, 0, 163, 0, 0, 0, 67, 0, 0, 0, 183, 0, 0, 0, 68, 0, 0, 0, 195]
abbrev dktX9_holds_2 : List UInt8 := dkwX9_holds_2 ++ dktX9_holds_3
def dkwX9_holds_1 : List UInt8 := [96, 46, 54, 5, 42, 180, 0, 98, 29, 46]
abbrev dktX9_holds_1 : List UInt8 := dkwX9_holds_1 ++ dktX9_holds_2
def dkwX9_holds_0 : List UInt8 := [17, 0, 166, 7, 27, 104, 96, 62, 42, 180, 0, 98, 29, 4, 96, 46, 54, 4, 42, 180, 0, 98, 29, 5]
abbrev dktX9_holds_0 : List UInt8 := dkwX9_holds_0 ++ dktX9_holds_1
theorem dksX9_holds_0 : cX9_holds.data.toList.drop 0 = dktX9_holds_0 := by decide +kernel
theorem dksX9_holds_1 : cX9_holds.data.toList.drop 24 = dktX9_holds_1 := dk_seg dksX9_holds_0 24 rfl rfl
theorem dksX9_holds_2 : cX9_holds.data.toList.drop 34 = dktX9_holds_2 := dk_seg dksX9_holds_1 10 rfl rfl
theorem dksX9_holds_3 : cX9_holds.data.toList.drop 108 = dktX9_holds_3 := dk_seg dksX9_holds_2 74 rfl rfl
theorem dksX9_holds_4 : cX9_holds.data.toList.drop 131 = dktX9_holds_4 := dk_seg dksX9_holds_3 23 rfl rfl
theorem dksX9_holds_5 : cX9_holds.data.toList.drop 154 = dktX9_holds_5 := dk_seg dksX9_holds_4 23 rfl rfl
theorem dksX9_holds_6 : cX9_holds.data.toList.drop 178 = dktX9_holds_6 := dk_seg dksX9_holds_5 24 rfl rfl
theorem dksX9_holds_7 : cX9_holds.data.toList.drop 201 = dktX9_holds_7 := dk_seg dksX9_holds_6 23 rfl rfl
theorem dksX9_holds_8 : cX9_holds.data.toList.drop 225 = dktX9_holds_8 := dk_seg dksX9_holds_7 24 rfl rfl
theorem dksX9_holds_9 : cX9_holds.data.toList.drop 248 = dktX9_holds_9 := dk_seg dksX9_holds_8 23 rfl rfl
theorem dksX9_holds_10 : cX9_holds.data.toList.drop 271 = dktX9_holds_10 := dk_seg dksX9_holds_9 23 rfl rfl
theorem dksX9_holds_11 : cX9_holds.data.toList.drop 295 = dktX9_holds_11 := dk_seg dksX9_holds_10 24 rfl rfl
theorem dksX9_holds_12 : cX9_holds.data.toList.drop 318 = dktX9_holds_12 := dk_seg dksX9_holds_11 23 rfl rfl
theorem dksX9_holds_13 : cX9_holds.data.toList.drop 342 = dktX9_holds_13 := dk_seg dksX9_holds_12 24 rfl rfl
theorem dX9_holds_0 : decode cX9_holds 0 = .ok (.sipush 166, 3) := dk_17 0 166 (dk_at dksX9_holds_0 0 rfl rfl)
theorem dX9_holds_3 : decode cX9_holds 3 = .ok (.iconst 4, 1) := dk_7 (dk_at dksX9_holds_0 3 rfl rfl)
theorem dX9_holds_4 : decode cX9_holds 4 = .ok (.iload_n 1, 1) := dk_27 (dk_at dksX9_holds_0 4 rfl rfl)
theorem dX9_holds_5 : decode cX9_holds 5 = .ok (.imul, 1) := dk_104 (dk_at dksX9_holds_0 5 rfl rfl)
theorem dX9_holds_6 : decode cX9_holds 6 = .ok (.iadd, 1) := dk_96 (dk_at dksX9_holds_0 6 rfl rfl)
theorem dX9_holds_7 : decode cX9_holds 7 = .ok (.istore_n 3, 1) := dk_62 (dk_at dksX9_holds_0 7 rfl rfl)
theorem dX9_holds_8 : decode cX9_holds 8 = .ok (.aload_n 0, 1) := dk_42 (dk_at dksX9_holds_0 8 rfl rfl)
theorem dX9_holds_9 : decode cX9_holds 9 = .ok (.getfield 98, 3) := dk_180 0 98 (dk_at dksX9_holds_0 9 rfl rfl)
theorem dX9_holds_12 : decode cX9_holds 12 = .ok (.iload_n 3, 1) := dk_29 (dk_at dksX9_holds_0 12 rfl rfl)
theorem dX9_holds_13 : decode cX9_holds 13 = .ok (.iconst 1, 1) := dk_4 (dk_at dksX9_holds_0 13 rfl rfl)
theorem dX9_holds_14 : decode cX9_holds 14 = .ok (.iadd, 1) := dk_96 (dk_at dksX9_holds_0 14 rfl rfl)
theorem dX9_holds_15 : decode cX9_holds 15 = .ok (.iaload, 1) := dk_46 (dk_at dksX9_holds_0 15 rfl rfl)
theorem dX9_holds_16 : decode cX9_holds 16 = .ok (.istore 4, 2) := dk_54 4 (dk_at dksX9_holds_0 16 rfl rfl)
theorem dX9_holds_18 : decode cX9_holds 18 = .ok (.aload_n 0, 1) := dk_42 (dk_at dksX9_holds_0 18 rfl rfl)
theorem dX9_holds_19 : decode cX9_holds 19 = .ok (.getfield 98, 3) := dk_180 0 98 (dk_at dksX9_holds_0 19 rfl rfl)
theorem dX9_holds_22 : decode cX9_holds 22 = .ok (.iload_n 3, 1) := dk_29 (dk_at dksX9_holds_0 22 rfl rfl)
theorem dX9_holds_23 : decode cX9_holds 23 = .ok (.iconst 2, 1) := dk_5 (dk_at dksX9_holds_0 23 rfl rfl)
theorem dX9_holds_24 : decode cX9_holds 24 = .ok (.iadd, 1) := dk_96 (dk_at dksX9_holds_1 0 rfl rfl)
theorem dX9_holds_25 : decode cX9_holds 25 = .ok (.iaload, 1) := dk_46 (dk_at dksX9_holds_1 1 rfl rfl)
theorem dX9_holds_26 : decode cX9_holds 26 = .ok (.istore 5, 2) := dk_54 5 (dk_at dksX9_holds_1 2 rfl rfl)
theorem dX9_holds_28 : decode cX9_holds 28 = .ok (.aload_n 0, 1) := dk_42 (dk_at dksX9_holds_1 4 rfl rfl)
theorem dX9_holds_29 : decode cX9_holds 29 = .ok (.getfield 98, 3) := dk_180 0 98 (dk_at dksX9_holds_1 5 rfl rfl)
theorem dX9_holds_32 : decode cX9_holds 32 = .ok (.iload_n 3, 1) := dk_29 (dk_at dksX9_holds_1 8 rfl rfl)
theorem dX9_holds_33 : decode cX9_holds 33 = .ok (.iaload, 1) := dk_46 (dk_at dksX9_holds_1 9 rfl rfl)
theorem dX9_holds_34 : decode cX9_holds 34 = .ok (.lookupswitch 203 #[(1, 74), (2, 90), (3, 116), (64, 142), (65, 157), (66, 163), (67, 183), (68, 195)], 74) := by decide +kernel
theorem dX9_holds_108 : decode cX9_holds 108 = .ok (.aload_n 0, 1) := dk_42 (dk_at dksX9_holds_3 0 rfl rfl)
theorem dX9_holds_109 : decode cX9_holds 109 = .ok (.iload 4, 2) := dk_21 4 (dk_at dksX9_holds_3 1 rfl rfl)
theorem dX9_holds_111 : decode cX9_holds 111 = .ok (.iload_n 2, 1) := dk_28 (dk_at dksX9_holds_3 3 rfl rfl)
theorem dX9_holds_112 : decode cX9_holds 112 = .ok (.invokevirtual 440, 3) := dk_182 1 184 (dk_at dksX9_holds_3 4 rfl rfl)
theorem dX9_holds_115 : decode cX9_holds 115 = .ok (.ifCond .ne 7, 3) := dk_154 0 7 (dk_at dksX9_holds_3 7 rfl rfl)
theorem dX9_holds_118 : decode cX9_holds 118 = .ok (.iconst 1, 1) := dk_4 (dk_at dksX9_holds_3 10 rfl rfl)
theorem dX9_holds_119 : decode cX9_holds 119 = .ok (.goto 4, 3) := dk_167 0 4 (dk_at dksX9_holds_3 11 rfl rfl)
theorem dX9_holds_122 : decode cX9_holds 122 = .ok (.iconst 0, 1) := dk_3 (dk_at dksX9_holds_3 14 rfl rfl)
theorem dX9_holds_123 : decode cX9_holds 123 = .ok (.ireturn, 1) := dk_172 (dk_at dksX9_holds_3 15 rfl rfl)
theorem dX9_holds_124 : decode cX9_holds 124 = .ok (.aload_n 0, 1) := dk_42 (dk_at dksX9_holds_3 16 rfl rfl)
theorem dX9_holds_125 : decode cX9_holds 125 = .ok (.iload 4, 2) := dk_21 4 (dk_at dksX9_holds_3 17 rfl rfl)
theorem dX9_holds_127 : decode cX9_holds 127 = .ok (.iload_n 2, 1) := dk_28 (dk_at dksX9_holds_3 19 rfl rfl)
theorem dX9_holds_128 : decode cX9_holds 128 = .ok (.invokevirtual 440, 3) := dk_182 1 184 (dk_at dksX9_holds_3 20 rfl rfl)
theorem dX9_holds_131 : decode cX9_holds 131 = .ok (.ifCond .eq 17, 3) := dk_153 0 17 (dk_at dksX9_holds_4 0 rfl rfl)
theorem dX9_holds_134 : decode cX9_holds 134 = .ok (.aload_n 0, 1) := dk_42 (dk_at dksX9_holds_4 3 rfl rfl)
theorem dX9_holds_135 : decode cX9_holds 135 = .ok (.iload 5, 2) := dk_21 5 (dk_at dksX9_holds_4 4 rfl rfl)
theorem dX9_holds_137 : decode cX9_holds 137 = .ok (.iload_n 2, 1) := dk_28 (dk_at dksX9_holds_4 6 rfl rfl)
theorem dX9_holds_138 : decode cX9_holds 138 = .ok (.invokevirtual 440, 3) := dk_182 1 184 (dk_at dksX9_holds_4 7 rfl rfl)
theorem dX9_holds_141 : decode cX9_holds 141 = .ok (.ifCond .eq 7, 3) := dk_153 0 7 (dk_at dksX9_holds_4 10 rfl rfl)
theorem dX9_holds_144 : decode cX9_holds 144 = .ok (.iconst 1, 1) := dk_4 (dk_at dksX9_holds_4 13 rfl rfl)
theorem dX9_holds_145 : decode cX9_holds 145 = .ok (.goto 4, 3) := dk_167 0 4 (dk_at dksX9_holds_4 14 rfl rfl)
theorem dX9_holds_148 : decode cX9_holds 148 = .ok (.iconst 0, 1) := dk_3 (dk_at dksX9_holds_4 17 rfl rfl)
theorem dX9_holds_149 : decode cX9_holds 149 = .ok (.ireturn, 1) := dk_172 (dk_at dksX9_holds_4 18 rfl rfl)
theorem dX9_holds_150 : decode cX9_holds 150 = .ok (.aload_n 0, 1) := dk_42 (dk_at dksX9_holds_4 19 rfl rfl)
theorem dX9_holds_151 : decode cX9_holds 151 = .ok (.iload 4, 2) := dk_21 4 (dk_at dksX9_holds_4 20 rfl rfl)
theorem dX9_holds_153 : decode cX9_holds 153 = .ok (.iload_n 2, 1) := dk_28 (dk_at dksX9_holds_4 22 rfl rfl)
theorem dX9_holds_154 : decode cX9_holds 154 = .ok (.invokevirtual 440, 3) := dk_182 1 184 (dk_at dksX9_holds_5 0 rfl rfl)
theorem dX9_holds_157 : decode cX9_holds 157 = .ok (.ifCond .ne 13, 3) := dk_154 0 13 (dk_at dksX9_holds_5 3 rfl rfl)
theorem dX9_holds_160 : decode cX9_holds 160 = .ok (.aload_n 0, 1) := dk_42 (dk_at dksX9_holds_5 6 rfl rfl)
theorem dX9_holds_161 : decode cX9_holds 161 = .ok (.iload 5, 2) := dk_21 5 (dk_at dksX9_holds_5 7 rfl rfl)
theorem dX9_holds_163 : decode cX9_holds 163 = .ok (.iload_n 2, 1) := dk_28 (dk_at dksX9_holds_5 9 rfl rfl)
theorem dX9_holds_164 : decode cX9_holds 164 = .ok (.invokevirtual 440, 3) := dk_182 1 184 (dk_at dksX9_holds_5 10 rfl rfl)
theorem dX9_holds_167 : decode cX9_holds 167 = .ok (.ifCond .eq 7, 3) := dk_153 0 7 (dk_at dksX9_holds_5 13 rfl rfl)
theorem dX9_holds_170 : decode cX9_holds 170 = .ok (.iconst 1, 1) := dk_4 (dk_at dksX9_holds_5 16 rfl rfl)
theorem dX9_holds_171 : decode cX9_holds 171 = .ok (.goto 4, 3) := dk_167 0 4 (dk_at dksX9_holds_5 17 rfl rfl)
theorem dX9_holds_174 : decode cX9_holds 174 = .ok (.iconst 0, 1) := dk_3 (dk_at dksX9_holds_5 20 rfl rfl)
theorem dX9_holds_175 : decode cX9_holds 175 = .ok (.ireturn, 1) := dk_172 (dk_at dksX9_holds_5 21 rfl rfl)
theorem dX9_holds_176 : decode cX9_holds 176 = .ok (.aload_n 0, 1) := dk_42 (dk_at dksX9_holds_5 22 rfl rfl)
theorem dX9_holds_177 : decode cX9_holds 177 = .ok (.iload_n 2, 1) := dk_28 (dk_at dksX9_holds_5 23 rfl rfl)
theorem dX9_holds_178 : decode cX9_holds 178 = .ok (.iconst 0, 1) := dk_3 (dk_at dksX9_holds_6 0 rfl rfl)
theorem dX9_holds_179 : decode cX9_holds 179 = .ok (.invokevirtual 250, 3) := dk_182 0 250 (dk_at dksX9_holds_6 1 rfl rfl)
theorem dX9_holds_182 : decode cX9_holds 182 = .ok (.ifCond .ne 7, 3) := dk_154 0 7 (dk_at dksX9_holds_6 4 rfl rfl)
theorem dX9_holds_185 : decode cX9_holds 185 = .ok (.iconst 1, 1) := dk_4 (dk_at dksX9_holds_6 7 rfl rfl)
theorem dX9_holds_186 : decode cX9_holds 186 = .ok (.goto 4, 3) := dk_167 0 4 (dk_at dksX9_holds_6 8 rfl rfl)
theorem dX9_holds_189 : decode cX9_holds 189 = .ok (.iconst 0, 1) := dk_3 (dk_at dksX9_holds_6 11 rfl rfl)
theorem dX9_holds_190 : decode cX9_holds 190 = .ok (.ireturn, 1) := dk_172 (dk_at dksX9_holds_6 12 rfl rfl)
theorem dX9_holds_191 : decode cX9_holds 191 = .ok (.aload_n 0, 1) := dk_42 (dk_at dksX9_holds_6 13 rfl rfl)
theorem dX9_holds_192 : decode cX9_holds 192 = .ok (.iload_n 2, 1) := dk_28 (dk_at dksX9_holds_6 14 rfl rfl)
theorem dX9_holds_193 : decode cX9_holds 193 = .ok (.invokevirtual 218, 3) := dk_182 0 218 (dk_at dksX9_holds_6 15 rfl rfl)
theorem dX9_holds_196 : decode cX9_holds 196 = .ok (.ireturn, 1) := dk_172 (dk_at dksX9_holds_6 18 rfl rfl)
theorem dX9_holds_197 : decode cX9_holds 197 = .ok (.aload_n 0, 1) := dk_42 (dk_at dksX9_holds_6 19 rfl rfl)
theorem dX9_holds_198 : decode cX9_holds 198 = .ok (.getfield 98, 3) := dk_180 0 98 (dk_at dksX9_holds_6 20 rfl rfl)
theorem dX9_holds_201 : decode cX9_holds 201 = .ok (.bipush 26, 2) := dk_16 26 (dk_at dksX9_holds_7 0 rfl rfl)
theorem dX9_holds_203 : decode cX9_holds 203 = .ok (.iload_n 2, 1) := dk_28 (dk_at dksX9_holds_7 2 rfl rfl)
theorem dX9_holds_204 : decode cX9_holds 204 = .ok (.iadd, 1) := dk_96 (dk_at dksX9_holds_7 3 rfl rfl)
theorem dX9_holds_205 : decode cX9_holds 205 = .ok (.iaload, 1) := dk_46 (dk_at dksX9_holds_7 4 rfl rfl)
theorem dX9_holds_206 : decode cX9_holds 206 = .ok (.iload 4, 2) := dk_21 4 (dk_at dksX9_holds_7 5 rfl rfl)
theorem dX9_holds_208 : decode cX9_holds 208 = .ok (.if_icmp .ne 7, 3) := dk_160 0 7 (dk_at dksX9_holds_7 7 rfl rfl)
theorem dX9_holds_211 : decode cX9_holds 211 = .ok (.iconst 1, 1) := dk_4 (dk_at dksX9_holds_7 10 rfl rfl)
theorem dX9_holds_212 : decode cX9_holds 212 = .ok (.goto 4, 3) := dk_167 0 4 (dk_at dksX9_holds_7 11 rfl rfl)
theorem dX9_holds_215 : decode cX9_holds 215 = .ok (.iconst 0, 1) := dk_3 (dk_at dksX9_holds_7 14 rfl rfl)
theorem dX9_holds_216 : decode cX9_holds 216 = .ok (.ireturn, 1) := dk_172 (dk_at dksX9_holds_7 15 rfl rfl)
theorem dX9_holds_217 : decode cX9_holds 217 = .ok (.aload_n 0, 1) := dk_42 (dk_at dksX9_holds_7 16 rfl rfl)
theorem dX9_holds_218 : decode cX9_holds 218 = .ok (.iload_n 2, 1) := dk_28 (dk_at dksX9_holds_7 17 rfl rfl)
theorem dX9_holds_219 : decode cX9_holds 219 = .ok (.iconst 0, 1) := dk_3 (dk_at dksX9_holds_7 18 rfl rfl)
theorem dX9_holds_220 : decode cX9_holds 220 = .ok (.invokevirtual 250, 3) := dk_182 0 250 (dk_at dksX9_holds_7 19 rfl rfl)
theorem dX9_holds_223 : decode cX9_holds 223 = .ok (.iload 4, 2) := dk_21 4 (dk_at dksX9_holds_7 22 rfl rfl)
theorem dX9_holds_225 : decode cX9_holds 225 = .ok (.invokestatic 181, 3) := dk_184 0 181 (dk_at dksX9_holds_8 0 rfl rfl)
theorem dX9_holds_228 : decode cX9_holds 228 = .ok (.ireturn, 1) := dk_172 (dk_at dksX9_holds_8 3 rfl rfl)
theorem dX9_holds_229 : decode cX9_holds 229 = .ok (.aload_n 0, 1) := dk_42 (dk_at dksX9_holds_8 4 rfl rfl)
theorem dX9_holds_230 : decode cX9_holds 230 = .ok (.iload_n 2, 1) := dk_28 (dk_at dksX9_holds_8 5 rfl rfl)
theorem dX9_holds_231 : decode cX9_holds 231 = .ok (.iload 4, 2) := dk_21 4 (dk_at dksX9_holds_8 6 rfl rfl)
theorem dX9_holds_233 : decode cX9_holds 233 = .ok (.invokevirtual 443, 3) := dk_182 1 187 (dk_at dksX9_holds_8 8 rfl rfl)
theorem dX9_holds_236 : decode cX9_holds 236 = .ok (.ireturn, 1) := dk_172 (dk_at dksX9_holds_8 11 rfl rfl)
theorem dX9_holds_237 : decode cX9_holds 237 = .ok (.aload_n 0, 1) := dk_42 (dk_at dksX9_holds_8 12 rfl rfl)
theorem dX9_holds_238 : decode cX9_holds 238 = .ok (.getfield 98, 3) := dk_180 0 98 (dk_at dksX9_holds_8 13 rfl rfl)
theorem dX9_holds_241 : decode cX9_holds 241 = .ok (.iload_n 3, 1) := dk_29 (dk_at dksX9_holds_8 16 rfl rfl)
theorem dX9_holds_242 : decode cX9_holds 242 = .ok (.iaload, 1) := dk_46 (dk_at dksX9_holds_8 17 rfl rfl)
theorem dX9_holds_243 : decode cX9_holds 243 = .ok (.bipush 50, 2) := dk_16 50 (dk_at dksX9_holds_8 18 rfl rfl)
theorem dX9_holds_245 : decode cX9_holds 245 = .ok (.isub, 1) := dk_100 (dk_at dksX9_holds_8 20 rfl rfl)
theorem dX9_holds_246 : decode cX9_holds 246 = .ok (.istore 6, 2) := dk_54 6 (dk_at dksX9_holds_8 21 rfl rfl)
theorem dX9_holds_248 : decode cX9_holds 248 = .ok (.iload 6, 2) := dk_21 6 (dk_at dksX9_holds_9 0 rfl rfl)
theorem dX9_holds_250 : decode cX9_holds 250 = .ok (.bipush 19, 2) := dk_16 19 (dk_at dksX9_holds_9 2 rfl rfl)
theorem dX9_holds_252 : decode cX9_holds 252 = .ok (.if_icmp .ne 15, 3) := dk_160 0 15 (dk_at dksX9_holds_9 4 rfl rfl)
theorem dX9_holds_255 : decode cX9_holds 255 = .ok (.aload_n 0, 1) := dk_42 (dk_at dksX9_holds_9 7 rfl rfl)
theorem dX9_holds_256 : decode cX9_holds 256 = .ok (.iload_n 2, 1) := dk_28 (dk_at dksX9_holds_9 8 rfl rfl)
theorem dX9_holds_257 : decode cX9_holds 257 = .ok (.iconst 1, 1) := dk_4 (dk_at dksX9_holds_9 9 rfl rfl)
theorem dX9_holds_258 : decode cX9_holds 258 = .ok (.invokevirtual 253, 3) := dk_182 0 253 (dk_at dksX9_holds_9 10 rfl rfl)
theorem dX9_holds_261 : decode cX9_holds 261 = .ok (.invokestatic 238, 3) := dk_184 0 238 (dk_at dksX9_holds_9 13 rfl rfl)
theorem dX9_holds_264 : decode cX9_holds 264 = .ok (.goto 23, 3) := dk_167 0 23 (dk_at dksX9_holds_9 16 rfl rfl)
theorem dX9_holds_267 : decode cX9_holds 267 = .ok (.iload 6, 2) := dk_21 6 (dk_at dksX9_holds_9 19 rfl rfl)
theorem dX9_holds_269 : decode cX9_holds 269 = .ok (.bipush 20, 2) := dk_16 20 (dk_at dksX9_holds_9 21 rfl rfl)
theorem dX9_holds_271 : decode cX9_holds 271 = .ok (.if_icmp .ne 15, 3) := dk_160 0 15 (dk_at dksX9_holds_10 0 rfl rfl)
theorem dX9_holds_274 : decode cX9_holds 274 = .ok (.aload_n 0, 1) := dk_42 (dk_at dksX9_holds_10 3 rfl rfl)
theorem dX9_holds_275 : decode cX9_holds 275 = .ok (.getfield 98, 3) := dk_180 0 98 (dk_at dksX9_holds_10 4 rfl rfl)
theorem dX9_holds_278 : decode cX9_holds 278 = .ok (.bipush 32, 2) := dk_16 32 (dk_at dksX9_holds_10 7 rfl rfl)
theorem dX9_holds_280 : decode cX9_holds 280 = .ok (.iload_n 2, 1) := dk_28 (dk_at dksX9_holds_10 9 rfl rfl)
theorem dX9_holds_281 : decode cX9_holds 281 = .ok (.iadd, 1) := dk_96 (dk_at dksX9_holds_10 10 rfl rfl)
theorem dX9_holds_282 : decode cX9_holds 282 = .ok (.iaload, 1) := dk_46 (dk_at dksX9_holds_10 11 rfl rfl)
theorem dX9_holds_283 : decode cX9_holds 283 = .ok (.goto 4, 3) := dk_167 0 4 (dk_at dksX9_holds_10 12 rfl rfl)
theorem dX9_holds_286 : decode cX9_holds 286 = .ok (.iload_n 2, 1) := dk_28 (dk_at dksX9_holds_10 15 rfl rfl)
theorem dX9_holds_287 : decode cX9_holds 287 = .ok (.istore 7, 2) := dk_54 7 (dk_at dksX9_holds_10 16 rfl rfl)
theorem dX9_holds_289 : decode cX9_holds 289 = .ok (.aload_n 0, 1) := dk_42 (dk_at dksX9_holds_10 18 rfl rfl)
theorem dX9_holds_290 : decode cX9_holds 290 = .ok (.getfield 98, 3) := dk_180 0 98 (dk_at dksX9_holds_10 19 rfl rfl)
theorem dX9_holds_293 : decode cX9_holds 293 = .ok (.iload_n 3, 1) := dk_29 (dk_at dksX9_holds_10 22 rfl rfl)
theorem dX9_holds_294 : decode cX9_holds 294 = .ok (.iconst 3, 1) := dk_6 (dk_at dksX9_holds_10 23 rfl rfl)
theorem dX9_holds_295 : decode cX9_holds 295 = .ok (.iadd, 1) := dk_96 (dk_at dksX9_holds_11 0 rfl rfl)
theorem dX9_holds_296 : decode cX9_holds 296 = .ok (.iaload, 1) := dk_46 (dk_at dksX9_holds_11 1 rfl rfl)
theorem dX9_holds_297 : decode cX9_holds 297 = .ok (.bipush 60, 2) := dk_16 60 (dk_at dksX9_holds_11 2 rfl rfl)
theorem dX9_holds_299 : decode cX9_holds 299 = .ok (.if_icmp .ne 18, 3) := dk_160 0 18 (dk_at dksX9_holds_11 4 rfl rfl)
theorem dX9_holds_302 : decode cX9_holds 302 = .ok (.iload 7, 2) := dk_21 7 (dk_at dksX9_holds_11 7 rfl rfl)
theorem dX9_holds_304 : decode cX9_holds 304 = .ok (.iload 5, 2) := dk_21 5 (dk_at dksX9_holds_11 9 rfl rfl)
theorem dX9_holds_306 : decode cX9_holds 306 = .ok (.if_icmp .ge 7, 3) := dk_162 0 7 (dk_at dksX9_holds_11 11 rfl rfl)
theorem dX9_holds_309 : decode cX9_holds 309 = .ok (.iconst 1, 1) := dk_4 (dk_at dksX9_holds_11 14 rfl rfl)
theorem dX9_holds_310 : decode cX9_holds 310 = .ok (.goto 47, 3) := dk_167 0 47 (dk_at dksX9_holds_11 15 rfl rfl)
theorem dX9_holds_313 : decode cX9_holds 313 = .ok (.iconst 0, 1) := dk_3 (dk_at dksX9_holds_11 18 rfl rfl)
theorem dX9_holds_314 : decode cX9_holds 314 = .ok (.goto 43, 3) := dk_167 0 43 (dk_at dksX9_holds_11 19 rfl rfl)
theorem dX9_holds_317 : decode cX9_holds 317 = .ok (.aload_n 0, 1) := dk_42 (dk_at dksX9_holds_11 22 rfl rfl)
theorem dX9_holds_318 : decode cX9_holds 318 = .ok (.getfield 98, 3) := dk_180 0 98 (dk_at dksX9_holds_12 0 rfl rfl)
theorem dX9_holds_321 : decode cX9_holds 321 = .ok (.iload_n 3, 1) := dk_29 (dk_at dksX9_holds_12 3 rfl rfl)
theorem dX9_holds_322 : decode cX9_holds 322 = .ok (.iconst 3, 1) := dk_6 (dk_at dksX9_holds_12 4 rfl rfl)
theorem dX9_holds_323 : decode cX9_holds 323 = .ok (.iadd, 1) := dk_96 (dk_at dksX9_holds_12 5 rfl rfl)
theorem dX9_holds_324 : decode cX9_holds 324 = .ok (.iaload, 1) := dk_46 (dk_at dksX9_holds_12 6 rfl rfl)
theorem dX9_holds_325 : decode cX9_holds 325 = .ok (.bipush 61, 2) := dk_16 61 (dk_at dksX9_holds_12 7 rfl rfl)
theorem dX9_holds_327 : decode cX9_holds 327 = .ok (.if_icmp .ne 18, 3) := dk_160 0 18 (dk_at dksX9_holds_12 9 rfl rfl)
theorem dX9_holds_330 : decode cX9_holds 330 = .ok (.iload 7, 2) := dk_21 7 (dk_at dksX9_holds_12 12 rfl rfl)
theorem dX9_holds_332 : decode cX9_holds 332 = .ok (.iload 5, 2) := dk_21 5 (dk_at dksX9_holds_12 14 rfl rfl)
theorem dX9_holds_334 : decode cX9_holds 334 = .ok (.if_icmp .ne 7, 3) := dk_160 0 7 (dk_at dksX9_holds_12 16 rfl rfl)
theorem dX9_holds_337 : decode cX9_holds 337 = .ok (.iconst 1, 1) := dk_4 (dk_at dksX9_holds_12 19 rfl rfl)
theorem dX9_holds_338 : decode cX9_holds 338 = .ok (.goto 19, 3) := dk_167 0 19 (dk_at dksX9_holds_12 20 rfl rfl)
theorem dX9_holds_341 : decode cX9_holds 341 = .ok (.iconst 0, 1) := dk_3 (dk_at dksX9_holds_12 23 rfl rfl)
theorem dX9_holds_342 : decode cX9_holds 342 = .ok (.goto 15, 3) := dk_167 0 15 (dk_at dksX9_holds_13 0 rfl rfl)
theorem dX9_holds_345 : decode cX9_holds 345 = .ok (.iload 7, 2) := dk_21 7 (dk_at dksX9_holds_13 3 rfl rfl)
theorem dX9_holds_347 : decode cX9_holds 347 = .ok (.iload 5, 2) := dk_21 5 (dk_at dksX9_holds_13 5 rfl rfl)
theorem dX9_holds_349 : decode cX9_holds 349 = .ok (.if_icmp .le 7, 3) := dk_164 0 7 (dk_at dksX9_holds_13 7 rfl rfl)
theorem dX9_holds_352 : decode cX9_holds 352 = .ok (.iconst 1, 1) := dk_4 (dk_at dksX9_holds_13 10 rfl rfl)
theorem dX9_holds_353 : decode cX9_holds 353 = .ok (.goto 4, 3) := dk_167 0 4 (dk_at dksX9_holds_13 11 rfl rfl)
theorem dX9_holds_356 : decode cX9_holds 356 = .ok (.iconst 0, 1) := dk_3 (dk_at dksX9_holds_13 14 rfl rfl)
theorem dX9_holds_357 : decode cX9_holds 357 = .ok (.ireturn, 1) := dk_172 (dk_at dksX9_holds_13 15 rfl rfl)
abbrev cX9_tellsOf : ByteArray := prog_22_method_117_code
def yX9_tellsOf : MethodName := ⟨RX9, "tellsOf", "(II)Z"⟩
def dkwX9_tellsOf_1 : List UInt8 := [160, 0, 14, 42, 27, 29, 182, 0, 228, 153, 0, 5, 4, 172, 132, 3, 1, 167, 255, 218, 3, 172]
abbrev dktX9_tellsOf_1 : List UInt8 := dkwX9_tellsOf_1 ++ []
def dkwX9_tellsOf_0 : List UInt8 := [3, 62, 29, 42, 180, 0, 98, 16, 25, 46, 162, 0, 33, 42, 180, 0, 98, 16, 38, 29, 96, 46, 28]
abbrev dktX9_tellsOf_0 : List UInt8 := dkwX9_tellsOf_0 ++ dktX9_tellsOf_1
theorem dksX9_tellsOf_0 : cX9_tellsOf.data.toList.drop 0 = dktX9_tellsOf_0 := by decide +kernel
theorem dksX9_tellsOf_1 : cX9_tellsOf.data.toList.drop 23 = dktX9_tellsOf_1 := dk_seg dksX9_tellsOf_0 23 rfl rfl
theorem dX9_tellsOf_0 : decode cX9_tellsOf 0 = .ok (.iconst 0, 1) := dk_3 (dk_at dksX9_tellsOf_0 0 rfl rfl)
theorem dX9_tellsOf_1 : decode cX9_tellsOf 1 = .ok (.istore_n 3, 1) := dk_62 (dk_at dksX9_tellsOf_0 1 rfl rfl)
theorem dX9_tellsOf_2 : decode cX9_tellsOf 2 = .ok (.iload_n 3, 1) := dk_29 (dk_at dksX9_tellsOf_0 2 rfl rfl)
theorem dX9_tellsOf_3 : decode cX9_tellsOf 3 = .ok (.aload_n 0, 1) := dk_42 (dk_at dksX9_tellsOf_0 3 rfl rfl)
theorem dX9_tellsOf_4 : decode cX9_tellsOf 4 = .ok (.getfield 98, 3) := dk_180 0 98 (dk_at dksX9_tellsOf_0 4 rfl rfl)
theorem dX9_tellsOf_7 : decode cX9_tellsOf 7 = .ok (.bipush 25, 2) := dk_16 25 (dk_at dksX9_tellsOf_0 7 rfl rfl)
theorem dX9_tellsOf_9 : decode cX9_tellsOf 9 = .ok (.iaload, 1) := dk_46 (dk_at dksX9_tellsOf_0 9 rfl rfl)
theorem dX9_tellsOf_10 : decode cX9_tellsOf 10 = .ok (.if_icmp .ge 33, 3) := dk_162 0 33 (dk_at dksX9_tellsOf_0 10 rfl rfl)
theorem dX9_tellsOf_13 : decode cX9_tellsOf 13 = .ok (.aload_n 0, 1) := dk_42 (dk_at dksX9_tellsOf_0 13 rfl rfl)
theorem dX9_tellsOf_14 : decode cX9_tellsOf 14 = .ok (.getfield 98, 3) := dk_180 0 98 (dk_at dksX9_tellsOf_0 14 rfl rfl)
theorem dX9_tellsOf_17 : decode cX9_tellsOf 17 = .ok (.bipush 38, 2) := dk_16 38 (dk_at dksX9_tellsOf_0 17 rfl rfl)
theorem dX9_tellsOf_19 : decode cX9_tellsOf 19 = .ok (.iload_n 3, 1) := dk_29 (dk_at dksX9_tellsOf_0 19 rfl rfl)
theorem dX9_tellsOf_20 : decode cX9_tellsOf 20 = .ok (.iadd, 1) := dk_96 (dk_at dksX9_tellsOf_0 20 rfl rfl)
theorem dX9_tellsOf_21 : decode cX9_tellsOf 21 = .ok (.iaload, 1) := dk_46 (dk_at dksX9_tellsOf_0 21 rfl rfl)
theorem dX9_tellsOf_22 : decode cX9_tellsOf 22 = .ok (.iload_n 2, 1) := dk_28 (dk_at dksX9_tellsOf_0 22 rfl rfl)
theorem dX9_tellsOf_23 : decode cX9_tellsOf 23 = .ok (.if_icmp .ne 14, 3) := dk_160 0 14 (dk_at dksX9_tellsOf_1 0 rfl rfl)
theorem dX9_tellsOf_26 : decode cX9_tellsOf 26 = .ok (.aload_n 0, 1) := dk_42 (dk_at dksX9_tellsOf_1 3 rfl rfl)
theorem dX9_tellsOf_27 : decode cX9_tellsOf 27 = .ok (.iload_n 1, 1) := dk_27 (dk_at dksX9_tellsOf_1 4 rfl rfl)
theorem dX9_tellsOf_28 : decode cX9_tellsOf 28 = .ok (.iload_n 3, 1) := dk_29 (dk_at dksX9_tellsOf_1 5 rfl rfl)
theorem dX9_tellsOf_29 : decode cX9_tellsOf 29 = .ok (.invokevirtual 228, 3) := dk_182 0 228 (dk_at dksX9_tellsOf_1 6 rfl rfl)
theorem dX9_tellsOf_32 : decode cX9_tellsOf 32 = .ok (.ifCond .eq 5, 3) := dk_153 0 5 (dk_at dksX9_tellsOf_1 9 rfl rfl)
theorem dX9_tellsOf_35 : decode cX9_tellsOf 35 = .ok (.iconst 1, 1) := dk_4 (dk_at dksX9_tellsOf_1 12 rfl rfl)
theorem dX9_tellsOf_36 : decode cX9_tellsOf 36 = .ok (.ireturn, 1) := dk_172 (dk_at dksX9_tellsOf_1 13 rfl rfl)
theorem dX9_tellsOf_37 : decode cX9_tellsOf 37 = .ok (.iinc 3 1, 3) := dk_132 3 1 (dk_at dksX9_tellsOf_1 14 rfl rfl)
theorem dX9_tellsOf_40 : decode cX9_tellsOf 40 = .ok (.goto (-38), 3) := dk_167 255 218 (dk_at dksX9_tellsOf_1 17 rfl rfl)
theorem dX9_tellsOf_43 : decode cX9_tellsOf 43 = .ok (.iconst 0, 1) := dk_3 (dk_at dksX9_tellsOf_1 20 rfl rfl)
theorem dX9_tellsOf_44 : decode cX9_tellsOf 44 = .ok (.ireturn, 1) := dk_172 (dk_at dksX9_tellsOf_1 21 rfl rfl)
abbrev cX9_image : ByteArray := prog_22_method_129_code
def yX9_image : MethodName := ⟨RX9, "image", "(I)Z"⟩
def dkwX9_image_3 : List UInt8 := [180, 0, 113, 28, 47, 80, 132, 2, 1, 167, 255, 230, 42, 180, 0, 123, 27, 4, 84, 4, 172]
abbrev dktX9_image_3 : List UInt8 := dkwX9_image_3 ++ []
def dkwX9_image_2 : List UInt8 := [167, 255, 228, 3, 61, 28, 16, 20, 162, 0, 26, 42, 180, 0, 120, 16, 20, 27, 104, 28, 96, 42]
abbrev dktX9_image_2 : List UInt8 := dkwX9_image_2 ++ dktX9_image_3
def dkwX9_image_1 : List UInt8 := [162, 0, 27, 42, 180, 0, 104, 17, 1, 150, 27, 104, 28, 96, 42, 180, 0, 98, 28, 46, 79, 132, 2, 1]
abbrev dktX9_image_1 : List UInt8 := dkwX9_image_1 ++ dktX9_image_2
def dkwX9_image_0 : List UInt8 := [42, 3, 181, 0, 1, 27, 3, 4, 184, 0, 75, 154, 0, 5, 3, 172, 3, 61, 28, 17, 1, 150]
abbrev dktX9_image_0 : List UInt8 := dkwX9_image_0 ++ dktX9_image_1
theorem dksX9_image_0 : cX9_image.data.toList.drop 0 = dktX9_image_0 := by decide +kernel
theorem dksX9_image_1 : cX9_image.data.toList.drop 22 = dktX9_image_1 := dk_seg dksX9_image_0 22 rfl rfl
theorem dksX9_image_2 : cX9_image.data.toList.drop 46 = dktX9_image_2 := dk_seg dksX9_image_1 24 rfl rfl
theorem dksX9_image_3 : cX9_image.data.toList.drop 68 = dktX9_image_3 := dk_seg dksX9_image_2 22 rfl rfl
theorem dX9_image_0 : decode cX9_image 0 = .ok (.aload_n 0, 1) := dk_42 (dk_at dksX9_image_0 0 rfl rfl)
theorem dX9_image_1 : decode cX9_image 1 = .ok (.iconst 0, 1) := dk_3 (dk_at dksX9_image_0 1 rfl rfl)
theorem dX9_image_2 : decode cX9_image 2 = .ok (.putfield 1, 3) := dk_181 0 1 (dk_at dksX9_image_0 2 rfl rfl)
theorem dX9_image_5 : decode cX9_image 5 = .ok (.iload_n 1, 1) := dk_27 (dk_at dksX9_image_0 5 rfl rfl)
theorem dX9_image_6 : decode cX9_image 6 = .ok (.iconst 0, 1) := dk_3 (dk_at dksX9_image_0 6 rfl rfl)
theorem dX9_image_7 : decode cX9_image 7 = .ok (.iconst 1, 1) := dk_4 (dk_at dksX9_image_0 7 rfl rfl)
theorem dX9_image_8 : decode cX9_image 8 = .ok (.invokestatic 75, 3) := dk_184 0 75 (dk_at dksX9_image_0 8 rfl rfl)
theorem dX9_image_11 : decode cX9_image 11 = .ok (.ifCond .ne 5, 3) := dk_154 0 5 (dk_at dksX9_image_0 11 rfl rfl)
theorem dX9_image_14 : decode cX9_image 14 = .ok (.iconst 0, 1) := dk_3 (dk_at dksX9_image_0 14 rfl rfl)
theorem dX9_image_15 : decode cX9_image 15 = .ok (.ireturn, 1) := dk_172 (dk_at dksX9_image_0 15 rfl rfl)
theorem dX9_image_16 : decode cX9_image 16 = .ok (.iconst 0, 1) := dk_3 (dk_at dksX9_image_0 16 rfl rfl)
theorem dX9_image_17 : decode cX9_image 17 = .ok (.istore_n 2, 1) := dk_61 (dk_at dksX9_image_0 17 rfl rfl)
theorem dX9_image_18 : decode cX9_image 18 = .ok (.iload_n 2, 1) := dk_28 (dk_at dksX9_image_0 18 rfl rfl)
theorem dX9_image_19 : decode cX9_image 19 = .ok (.sipush 406, 3) := dk_17 1 150 (dk_at dksX9_image_0 19 rfl rfl)
theorem dX9_image_22 : decode cX9_image 22 = .ok (.if_icmp .ge 27, 3) := dk_162 0 27 (dk_at dksX9_image_1 0 rfl rfl)
theorem dX9_image_25 : decode cX9_image 25 = .ok (.aload_n 0, 1) := dk_42 (dk_at dksX9_image_1 3 rfl rfl)
theorem dX9_image_26 : decode cX9_image 26 = .ok (.getfield 104, 3) := dk_180 0 104 (dk_at dksX9_image_1 4 rfl rfl)
theorem dX9_image_29 : decode cX9_image 29 = .ok (.sipush 406, 3) := dk_17 1 150 (dk_at dksX9_image_1 7 rfl rfl)
theorem dX9_image_32 : decode cX9_image 32 = .ok (.iload_n 1, 1) := dk_27 (dk_at dksX9_image_1 10 rfl rfl)
theorem dX9_image_33 : decode cX9_image 33 = .ok (.imul, 1) := dk_104 (dk_at dksX9_image_1 11 rfl rfl)
theorem dX9_image_34 : decode cX9_image 34 = .ok (.iload_n 2, 1) := dk_28 (dk_at dksX9_image_1 12 rfl rfl)
theorem dX9_image_35 : decode cX9_image 35 = .ok (.iadd, 1) := dk_96 (dk_at dksX9_image_1 13 rfl rfl)
theorem dX9_image_36 : decode cX9_image 36 = .ok (.aload_n 0, 1) := dk_42 (dk_at dksX9_image_1 14 rfl rfl)
theorem dX9_image_37 : decode cX9_image 37 = .ok (.getfield 98, 3) := dk_180 0 98 (dk_at dksX9_image_1 15 rfl rfl)
theorem dX9_image_40 : decode cX9_image 40 = .ok (.iload_n 2, 1) := dk_28 (dk_at dksX9_image_1 18 rfl rfl)
theorem dX9_image_41 : decode cX9_image 41 = .ok (.iaload, 1) := dk_46 (dk_at dksX9_image_1 19 rfl rfl)
theorem dX9_image_42 : decode cX9_image 42 = .ok (.iastore, 1) := dk_79 (dk_at dksX9_image_1 20 rfl rfl)
theorem dX9_image_43 : decode cX9_image 43 = .ok (.iinc 2 1, 3) := dk_132 2 1 (dk_at dksX9_image_1 21 rfl rfl)
theorem dX9_image_46 : decode cX9_image 46 = .ok (.goto (-28), 3) := dk_167 255 228 (dk_at dksX9_image_2 0 rfl rfl)
theorem dX9_image_49 : decode cX9_image 49 = .ok (.iconst 0, 1) := dk_3 (dk_at dksX9_image_2 3 rfl rfl)
theorem dX9_image_50 : decode cX9_image 50 = .ok (.istore_n 2, 1) := dk_61 (dk_at dksX9_image_2 4 rfl rfl)
theorem dX9_image_51 : decode cX9_image 51 = .ok (.iload_n 2, 1) := dk_28 (dk_at dksX9_image_2 5 rfl rfl)
theorem dX9_image_52 : decode cX9_image 52 = .ok (.bipush 20, 2) := dk_16 20 (dk_at dksX9_image_2 6 rfl rfl)
theorem dX9_image_54 : decode cX9_image 54 = .ok (.if_icmp .ge 26, 3) := dk_162 0 26 (dk_at dksX9_image_2 8 rfl rfl)
theorem dX9_image_57 : decode cX9_image 57 = .ok (.aload_n 0, 1) := dk_42 (dk_at dksX9_image_2 11 rfl rfl)
theorem dX9_image_58 : decode cX9_image 58 = .ok (.getfield 120, 3) := dk_180 0 120 (dk_at dksX9_image_2 12 rfl rfl)
theorem dX9_image_61 : decode cX9_image 61 = .ok (.bipush 20, 2) := dk_16 20 (dk_at dksX9_image_2 15 rfl rfl)
theorem dX9_image_63 : decode cX9_image 63 = .ok (.iload_n 1, 1) := dk_27 (dk_at dksX9_image_2 17 rfl rfl)
theorem dX9_image_64 : decode cX9_image 64 = .ok (.imul, 1) := dk_104 (dk_at dksX9_image_2 18 rfl rfl)
theorem dX9_image_65 : decode cX9_image 65 = .ok (.iload_n 2, 1) := dk_28 (dk_at dksX9_image_2 19 rfl rfl)
theorem dX9_image_66 : decode cX9_image 66 = .ok (.iadd, 1) := dk_96 (dk_at dksX9_image_2 20 rfl rfl)
theorem dX9_image_67 : decode cX9_image 67 = .ok (.aload_n 0, 1) := dk_42 (dk_at dksX9_image_2 21 rfl rfl)
theorem dX9_image_68 : decode cX9_image 68 = .ok (.getfield 113, 3) := dk_180 0 113 (dk_at dksX9_image_3 0 rfl rfl)
theorem dX9_image_71 : decode cX9_image 71 = .ok (.iload_n 2, 1) := dk_28 (dk_at dksX9_image_3 3 rfl rfl)
theorem dX9_image_72 : decode cX9_image 72 = .ok (.laload, 1) := dk_47 (dk_at dksX9_image_3 4 rfl rfl)
theorem dX9_image_73 : decode cX9_image 73 = .ok (.lastore, 1) := dk_80 (dk_at dksX9_image_3 5 rfl rfl)
theorem dX9_image_74 : decode cX9_image 74 = .ok (.iinc 2 1, 3) := dk_132 2 1 (dk_at dksX9_image_3 6 rfl rfl)
theorem dX9_image_77 : decode cX9_image 77 = .ok (.goto (-26), 3) := dk_167 255 230 (dk_at dksX9_image_3 9 rfl rfl)
theorem dX9_image_80 : decode cX9_image 80 = .ok (.aload_n 0, 1) := dk_42 (dk_at dksX9_image_3 12 rfl rfl)
theorem dX9_image_81 : decode cX9_image 81 = .ok (.getfield 123, 3) := dk_180 0 123 (dk_at dksX9_image_3 13 rfl rfl)
theorem dX9_image_84 : decode cX9_image 84 = .ok (.iload_n 1, 1) := dk_27 (dk_at dksX9_image_3 16 rfl rfl)
theorem dX9_image_85 : decode cX9_image 85 = .ok (.iconst 1, 1) := dk_4 (dk_at dksX9_image_3 17 rfl rfl)
theorem dX9_image_86 : decode cX9_image 86 = .ok (.bastore, 1) := dk_84 (dk_at dksX9_image_3 18 rfl rfl)
theorem dX9_image_87 : decode cX9_image 87 = .ok (.iconst 1, 1) := dk_4 (dk_at dksX9_image_3 19 rfl rfl)
theorem dX9_image_88 : decode cX9_image 88 = .ok (.ireturn, 1) := dk_172 (dk_at dksX9_image_3 20 rfl rfl)
abbrev cX9_restore : ByteArray := prog_22_method_130_code
def yX9_restore : MethodName := ⟨RX9, "restore", "(I)Z"⟩
def dkwX9_restore_3 : List UInt8 := [180, 0, 120, 16, 20, 27, 104, 28, 96, 47, 80, 132, 2, 1, 167, 255, 230, 42, 3, 181, 0, 215, 4, 172]
abbrev dktX9_restore_3 : List UInt8 := dkwX9_restore_3 ++ []
def dkwX9_restore_2 : List UInt8 := [28, 96, 46, 79, 132, 2, 1, 167, 255, 228, 3, 61, 28, 16, 20, 162, 0, 26, 42, 180, 0, 113, 28, 42]
abbrev dktX9_restore_2 : List UInt8 := dkwX9_restore_2 ++ dktX9_restore_3
def dkwX9_restore_1 : List UInt8 := [172, 3, 61, 28, 17, 1, 150, 162, 0, 27, 42, 180, 0, 98, 28, 42, 180, 0, 104, 17, 1, 150, 27, 104]
abbrev dktX9_restore_1 : List UInt8 := dkwX9_restore_1 ++ dktX9_restore_2
def dkwX9_restore_0 : List UInt8 := [42, 3, 181, 0, 1, 27, 3, 4, 184, 0, 75, 153, 0, 12, 42, 180, 0, 123, 27, 51, 154, 0, 5, 3]
abbrev dktX9_restore_0 : List UInt8 := dkwX9_restore_0 ++ dktX9_restore_1
theorem dksX9_restore_0 : cX9_restore.data.toList.drop 0 = dktX9_restore_0 := by decide +kernel
theorem dksX9_restore_1 : cX9_restore.data.toList.drop 24 = dktX9_restore_1 := dk_seg dksX9_restore_0 24 rfl rfl
theorem dksX9_restore_2 : cX9_restore.data.toList.drop 48 = dktX9_restore_2 := dk_seg dksX9_restore_1 24 rfl rfl
theorem dksX9_restore_3 : cX9_restore.data.toList.drop 72 = dktX9_restore_3 := dk_seg dksX9_restore_2 24 rfl rfl
theorem dX9_restore_0 : decode cX9_restore 0 = .ok (.aload_n 0, 1) := dk_42 (dk_at dksX9_restore_0 0 rfl rfl)
theorem dX9_restore_1 : decode cX9_restore 1 = .ok (.iconst 0, 1) := dk_3 (dk_at dksX9_restore_0 1 rfl rfl)
theorem dX9_restore_2 : decode cX9_restore 2 = .ok (.putfield 1, 3) := dk_181 0 1 (dk_at dksX9_restore_0 2 rfl rfl)
theorem dX9_restore_5 : decode cX9_restore 5 = .ok (.iload_n 1, 1) := dk_27 (dk_at dksX9_restore_0 5 rfl rfl)
theorem dX9_restore_6 : decode cX9_restore 6 = .ok (.iconst 0, 1) := dk_3 (dk_at dksX9_restore_0 6 rfl rfl)
theorem dX9_restore_7 : decode cX9_restore 7 = .ok (.iconst 1, 1) := dk_4 (dk_at dksX9_restore_0 7 rfl rfl)
theorem dX9_restore_8 : decode cX9_restore 8 = .ok (.invokestatic 75, 3) := dk_184 0 75 (dk_at dksX9_restore_0 8 rfl rfl)
theorem dX9_restore_11 : decode cX9_restore 11 = .ok (.ifCond .eq 12, 3) := dk_153 0 12 (dk_at dksX9_restore_0 11 rfl rfl)
theorem dX9_restore_14 : decode cX9_restore 14 = .ok (.aload_n 0, 1) := dk_42 (dk_at dksX9_restore_0 14 rfl rfl)
theorem dX9_restore_15 : decode cX9_restore 15 = .ok (.getfield 123, 3) := dk_180 0 123 (dk_at dksX9_restore_0 15 rfl rfl)
theorem dX9_restore_18 : decode cX9_restore 18 = .ok (.iload_n 1, 1) := dk_27 (dk_at dksX9_restore_0 18 rfl rfl)
theorem dX9_restore_19 : decode cX9_restore 19 = .ok (.baload, 1) := dk_51 (dk_at dksX9_restore_0 19 rfl rfl)
theorem dX9_restore_20 : decode cX9_restore 20 = .ok (.ifCond .ne 5, 3) := dk_154 0 5 (dk_at dksX9_restore_0 20 rfl rfl)
theorem dX9_restore_23 : decode cX9_restore 23 = .ok (.iconst 0, 1) := dk_3 (dk_at dksX9_restore_0 23 rfl rfl)
theorem dX9_restore_24 : decode cX9_restore 24 = .ok (.ireturn, 1) := dk_172 (dk_at dksX9_restore_1 0 rfl rfl)
theorem dX9_restore_25 : decode cX9_restore 25 = .ok (.iconst 0, 1) := dk_3 (dk_at dksX9_restore_1 1 rfl rfl)
theorem dX9_restore_26 : decode cX9_restore 26 = .ok (.istore_n 2, 1) := dk_61 (dk_at dksX9_restore_1 2 rfl rfl)
theorem dX9_restore_27 : decode cX9_restore 27 = .ok (.iload_n 2, 1) := dk_28 (dk_at dksX9_restore_1 3 rfl rfl)
theorem dX9_restore_28 : decode cX9_restore 28 = .ok (.sipush 406, 3) := dk_17 1 150 (dk_at dksX9_restore_1 4 rfl rfl)
theorem dX9_restore_31 : decode cX9_restore 31 = .ok (.if_icmp .ge 27, 3) := dk_162 0 27 (dk_at dksX9_restore_1 7 rfl rfl)
theorem dX9_restore_34 : decode cX9_restore 34 = .ok (.aload_n 0, 1) := dk_42 (dk_at dksX9_restore_1 10 rfl rfl)
theorem dX9_restore_35 : decode cX9_restore 35 = .ok (.getfield 98, 3) := dk_180 0 98 (dk_at dksX9_restore_1 11 rfl rfl)
theorem dX9_restore_38 : decode cX9_restore 38 = .ok (.iload_n 2, 1) := dk_28 (dk_at dksX9_restore_1 14 rfl rfl)
theorem dX9_restore_39 : decode cX9_restore 39 = .ok (.aload_n 0, 1) := dk_42 (dk_at dksX9_restore_1 15 rfl rfl)
theorem dX9_restore_40 : decode cX9_restore 40 = .ok (.getfield 104, 3) := dk_180 0 104 (dk_at dksX9_restore_1 16 rfl rfl)
theorem dX9_restore_43 : decode cX9_restore 43 = .ok (.sipush 406, 3) := dk_17 1 150 (dk_at dksX9_restore_1 19 rfl rfl)
theorem dX9_restore_46 : decode cX9_restore 46 = .ok (.iload_n 1, 1) := dk_27 (dk_at dksX9_restore_1 22 rfl rfl)
theorem dX9_restore_47 : decode cX9_restore 47 = .ok (.imul, 1) := dk_104 (dk_at dksX9_restore_1 23 rfl rfl)
theorem dX9_restore_48 : decode cX9_restore 48 = .ok (.iload_n 2, 1) := dk_28 (dk_at dksX9_restore_2 0 rfl rfl)
theorem dX9_restore_49 : decode cX9_restore 49 = .ok (.iadd, 1) := dk_96 (dk_at dksX9_restore_2 1 rfl rfl)
theorem dX9_restore_50 : decode cX9_restore 50 = .ok (.iaload, 1) := dk_46 (dk_at dksX9_restore_2 2 rfl rfl)
theorem dX9_restore_51 : decode cX9_restore 51 = .ok (.iastore, 1) := dk_79 (dk_at dksX9_restore_2 3 rfl rfl)
theorem dX9_restore_52 : decode cX9_restore 52 = .ok (.iinc 2 1, 3) := dk_132 2 1 (dk_at dksX9_restore_2 4 rfl rfl)
theorem dX9_restore_55 : decode cX9_restore 55 = .ok (.goto (-28), 3) := dk_167 255 228 (dk_at dksX9_restore_2 7 rfl rfl)
theorem dX9_restore_58 : decode cX9_restore 58 = .ok (.iconst 0, 1) := dk_3 (dk_at dksX9_restore_2 10 rfl rfl)
theorem dX9_restore_59 : decode cX9_restore 59 = .ok (.istore_n 2, 1) := dk_61 (dk_at dksX9_restore_2 11 rfl rfl)
theorem dX9_restore_60 : decode cX9_restore 60 = .ok (.iload_n 2, 1) := dk_28 (dk_at dksX9_restore_2 12 rfl rfl)
theorem dX9_restore_61 : decode cX9_restore 61 = .ok (.bipush 20, 2) := dk_16 20 (dk_at dksX9_restore_2 13 rfl rfl)
theorem dX9_restore_63 : decode cX9_restore 63 = .ok (.if_icmp .ge 26, 3) := dk_162 0 26 (dk_at dksX9_restore_2 15 rfl rfl)
theorem dX9_restore_66 : decode cX9_restore 66 = .ok (.aload_n 0, 1) := dk_42 (dk_at dksX9_restore_2 18 rfl rfl)
theorem dX9_restore_67 : decode cX9_restore 67 = .ok (.getfield 113, 3) := dk_180 0 113 (dk_at dksX9_restore_2 19 rfl rfl)
theorem dX9_restore_70 : decode cX9_restore 70 = .ok (.iload_n 2, 1) := dk_28 (dk_at dksX9_restore_2 22 rfl rfl)
theorem dX9_restore_71 : decode cX9_restore 71 = .ok (.aload_n 0, 1) := dk_42 (dk_at dksX9_restore_2 23 rfl rfl)
theorem dX9_restore_72 : decode cX9_restore 72 = .ok (.getfield 120, 3) := dk_180 0 120 (dk_at dksX9_restore_3 0 rfl rfl)
theorem dX9_restore_75 : decode cX9_restore 75 = .ok (.bipush 20, 2) := dk_16 20 (dk_at dksX9_restore_3 3 rfl rfl)
theorem dX9_restore_77 : decode cX9_restore 77 = .ok (.iload_n 1, 1) := dk_27 (dk_at dksX9_restore_3 5 rfl rfl)
theorem dX9_restore_78 : decode cX9_restore 78 = .ok (.imul, 1) := dk_104 (dk_at dksX9_restore_3 6 rfl rfl)
theorem dX9_restore_79 : decode cX9_restore 79 = .ok (.iload_n 2, 1) := dk_28 (dk_at dksX9_restore_3 7 rfl rfl)
theorem dX9_restore_80 : decode cX9_restore 80 = .ok (.iadd, 1) := dk_96 (dk_at dksX9_restore_3 8 rfl rfl)
theorem dX9_restore_81 : decode cX9_restore 81 = .ok (.laload, 1) := dk_47 (dk_at dksX9_restore_3 9 rfl rfl)
theorem dX9_restore_82 : decode cX9_restore 82 = .ok (.lastore, 1) := dk_80 (dk_at dksX9_restore_3 10 rfl rfl)
theorem dX9_restore_83 : decode cX9_restore 83 = .ok (.iinc 2 1, 3) := dk_132 2 1 (dk_at dksX9_restore_3 11 rfl rfl)
theorem dX9_restore_86 : decode cX9_restore 86 = .ok (.goto (-26), 3) := dk_167 255 230 (dk_at dksX9_restore_3 14 rfl rfl)
theorem dX9_restore_89 : decode cX9_restore 89 = .ok (.aload_n 0, 1) := dk_42 (dk_at dksX9_restore_3 17 rfl rfl)
theorem dX9_restore_90 : decode cX9_restore 90 = .ok (.iconst 0, 1) := dk_3 (dk_at dksX9_restore_3 18 rfl rfl)
theorem dX9_restore_91 : decode cX9_restore 91 = .ok (.putfield 215, 3) := dk_181 0 215 (dk_at dksX9_restore_3 19 rfl rfl)
theorem dX9_restore_94 : decode cX9_restore 94 = .ok (.iconst 1, 1) := dk_4 (dk_at dksX9_restore_3 22 rfl rfl)
theorem dX9_restore_95 : decode cX9_restore 95 = .ok (.ireturn, 1) := dk_172 (dk_at dksX9_restore_3 23 rfl rfl)
abbrev cX9_count : ByteArray := prog_22_method_131_code
def yX9_count : MethodName := ⟨RX9, "count", "(I)I"⟩
def dkwX9_count_4 : List UInt8 := [172, 2, 172]
abbrev dktX9_count_4 : List UInt8 := dkwX9_count_4 ++ []
def dkwX9_count_3 : List UInt8 := [180, 0, 98, 6, 46, 172, 42, 180, 0, 98, 7, 46, 172, 42, 180, 0, 98, 8, 46, 172, 42, 180, 0, 11]
abbrev dktX9_count_3 : List UInt8 := dkwX9_count_3 ++ dktX9_count_4
def dkwX9_count_2 : List UInt8 := [42, 180, 0, 98, 3, 46, 172, 42, 180, 0, 98, 4, 46, 172, 42, 180, 0, 98, 5, 46, 172, 42]
abbrev dktX9_count_2 : List UInt8 := dkwX9_count_2 ++ dktX9_count_3
def dkwX9_count_1 : List UInt8 := [170, 0, 0, 0, 0, 89, 0, 0, 0, 0, 0, 0, 0, 6, 0, 0, 0, 42, 0, 0, 0, 49, 0, 0, 0, 56, 0, 0, 0, 63, 0, 0, 0, 70, 0, 0, 0, 77, 0, 0, 0, 84]
abbrev dktX9_count_1 : List UInt8 := dkwX9_count_1 ++ dktX9_count_2
def dkwX9_count_0 : List UInt8 := [42, 3, 181, 0, 1, 27]
abbrev dktX9_count_0 : List UInt8 := dkwX9_count_0 ++ dktX9_count_1
theorem dksX9_count_0 : cX9_count.data.toList.drop 0 = dktX9_count_0 := by decide +kernel
theorem dksX9_count_1 : cX9_count.data.toList.drop 6 = dktX9_count_1 := dk_seg dksX9_count_0 6 rfl rfl
theorem dksX9_count_2 : cX9_count.data.toList.drop 48 = dktX9_count_2 := dk_seg dksX9_count_1 42 rfl rfl
theorem dksX9_count_3 : cX9_count.data.toList.drop 70 = dktX9_count_3 := dk_seg dksX9_count_2 22 rfl rfl
theorem dksX9_count_4 : cX9_count.data.toList.drop 94 = dktX9_count_4 := dk_seg dksX9_count_3 24 rfl rfl
theorem dX9_count_0 : decode cX9_count 0 = .ok (.aload_n 0, 1) := dk_42 (dk_at dksX9_count_0 0 rfl rfl)
theorem dX9_count_1 : decode cX9_count 1 = .ok (.iconst 0, 1) := dk_3 (dk_at dksX9_count_0 1 rfl rfl)
theorem dX9_count_2 : decode cX9_count 2 = .ok (.putfield 1, 3) := dk_181 0 1 (dk_at dksX9_count_0 2 rfl rfl)
theorem dX9_count_5 : decode cX9_count 5 = .ok (.iload_n 1, 1) := dk_27 (dk_at dksX9_count_0 5 rfl rfl)
theorem dX9_count_6 : decode cX9_count 6 = .ok (.tableswitch 89 0 6 #[42, 49, 56, 63, 70, 77, 84], 42) := by decide +kernel
theorem dX9_count_48 : decode cX9_count 48 = .ok (.aload_n 0, 1) := dk_42 (dk_at dksX9_count_2 0 rfl rfl)
theorem dX9_count_49 : decode cX9_count 49 = .ok (.getfield 98, 3) := dk_180 0 98 (dk_at dksX9_count_2 1 rfl rfl)
theorem dX9_count_52 : decode cX9_count 52 = .ok (.iconst 0, 1) := dk_3 (dk_at dksX9_count_2 4 rfl rfl)
theorem dX9_count_53 : decode cX9_count 53 = .ok (.iaload, 1) := dk_46 (dk_at dksX9_count_2 5 rfl rfl)
theorem dX9_count_54 : decode cX9_count 54 = .ok (.ireturn, 1) := dk_172 (dk_at dksX9_count_2 6 rfl rfl)
theorem dX9_count_55 : decode cX9_count 55 = .ok (.aload_n 0, 1) := dk_42 (dk_at dksX9_count_2 7 rfl rfl)
theorem dX9_count_56 : decode cX9_count 56 = .ok (.getfield 98, 3) := dk_180 0 98 (dk_at dksX9_count_2 8 rfl rfl)
theorem dX9_count_59 : decode cX9_count 59 = .ok (.iconst 1, 1) := dk_4 (dk_at dksX9_count_2 11 rfl rfl)
theorem dX9_count_60 : decode cX9_count 60 = .ok (.iaload, 1) := dk_46 (dk_at dksX9_count_2 12 rfl rfl)
theorem dX9_count_61 : decode cX9_count 61 = .ok (.ireturn, 1) := dk_172 (dk_at dksX9_count_2 13 rfl rfl)
theorem dX9_count_62 : decode cX9_count 62 = .ok (.aload_n 0, 1) := dk_42 (dk_at dksX9_count_2 14 rfl rfl)
theorem dX9_count_63 : decode cX9_count 63 = .ok (.getfield 98, 3) := dk_180 0 98 (dk_at dksX9_count_2 15 rfl rfl)
theorem dX9_count_66 : decode cX9_count 66 = .ok (.iconst 2, 1) := dk_5 (dk_at dksX9_count_2 18 rfl rfl)
theorem dX9_count_67 : decode cX9_count 67 = .ok (.iaload, 1) := dk_46 (dk_at dksX9_count_2 19 rfl rfl)
theorem dX9_count_68 : decode cX9_count 68 = .ok (.ireturn, 1) := dk_172 (dk_at dksX9_count_2 20 rfl rfl)
theorem dX9_count_69 : decode cX9_count 69 = .ok (.aload_n 0, 1) := dk_42 (dk_at dksX9_count_2 21 rfl rfl)
theorem dX9_count_70 : decode cX9_count 70 = .ok (.getfield 98, 3) := dk_180 0 98 (dk_at dksX9_count_3 0 rfl rfl)
theorem dX9_count_73 : decode cX9_count 73 = .ok (.iconst 3, 1) := dk_6 (dk_at dksX9_count_3 3 rfl rfl)
theorem dX9_count_74 : decode cX9_count 74 = .ok (.iaload, 1) := dk_46 (dk_at dksX9_count_3 4 rfl rfl)
theorem dX9_count_75 : decode cX9_count 75 = .ok (.ireturn, 1) := dk_172 (dk_at dksX9_count_3 5 rfl rfl)
theorem dX9_count_76 : decode cX9_count 76 = .ok (.aload_n 0, 1) := dk_42 (dk_at dksX9_count_3 6 rfl rfl)
theorem dX9_count_77 : decode cX9_count 77 = .ok (.getfield 98, 3) := dk_180 0 98 (dk_at dksX9_count_3 7 rfl rfl)
theorem dX9_count_80 : decode cX9_count 80 = .ok (.iconst 4, 1) := dk_7 (dk_at dksX9_count_3 10 rfl rfl)
theorem dX9_count_81 : decode cX9_count 81 = .ok (.iaload, 1) := dk_46 (dk_at dksX9_count_3 11 rfl rfl)
theorem dX9_count_82 : decode cX9_count 82 = .ok (.ireturn, 1) := dk_172 (dk_at dksX9_count_3 12 rfl rfl)
theorem dX9_count_83 : decode cX9_count 83 = .ok (.aload_n 0, 1) := dk_42 (dk_at dksX9_count_3 13 rfl rfl)
theorem dX9_count_84 : decode cX9_count 84 = .ok (.getfield 98, 3) := dk_180 0 98 (dk_at dksX9_count_3 14 rfl rfl)
theorem dX9_count_87 : decode cX9_count 87 = .ok (.iconst 5, 1) := dk_8 (dk_at dksX9_count_3 17 rfl rfl)
theorem dX9_count_88 : decode cX9_count 88 = .ok (.iaload, 1) := dk_46 (dk_at dksX9_count_3 18 rfl rfl)
theorem dX9_count_89 : decode cX9_count 89 = .ok (.ireturn, 1) := dk_172 (dk_at dksX9_count_3 19 rfl rfl)
theorem dX9_count_90 : decode cX9_count 90 = .ok (.aload_n 0, 1) := dk_42 (dk_at dksX9_count_3 20 rfl rfl)
theorem dX9_count_91 : decode cX9_count 91 = .ok (.getfield 11, 3) := dk_180 0 11 (dk_at dksX9_count_3 21 rfl rfl)
theorem dX9_count_94 : decode cX9_count 94 = .ok (.ireturn, 1) := dk_172 (dk_at dksX9_count_4 0 rfl rfl)
theorem dX9_count_95 : decode cX9_count 95 = .ok (.iconst (-1), 1) := dk_2 (dk_at dksX9_count_4 1 rfl rfl)
theorem dX9_count_96 : decode cX9_count 96 = .ok (.ireturn, 1) := dk_172 (dk_at dksX9_count_4 2 rfl rfl)
theorem q121 : (Jvm.Cond.initialized "ParlourLeavesModel") ∈ lw_all := lw_g (lw_at lw_m1 13 rfl) rfl
theorem q1545 : (Jvm.Cond.instanceMethod ({ cls := "ParlourLeavesModel", name := "thrown", desc := "()I" } : Jvm.MethodName)) ∈ lw_all := lw_g (lw_at lw_m6 237 rfl) rfl
theorem q1546 : (Jvm.Cond.selects "ParlourLeavesModel" ({ cls := "ParlourLeavesModel", name := "thrown", desc := "()I" } : Jvm.MethodName) ({ cls := "ParlourLeavesModel", name := "thrown", desc := "()I" } : Jvm.MethodName)) ∈ lw_all := lw_g (lw_at lw_m6 238 rfl) rfl
theorem q1547 : (Jvm.Cond.code ({ cls := "ParlourLeavesModel", name := "thrown", desc := "()I" } : Jvm.MethodName) prog_22_method_1_code (1 : Nat) (Option.some Jvm.ClassFile.FieldType.int)) ∈ lw_all := lw_g (lw_at lw_m6 239 rfl) rfl
theorem q1549 : (Jvm.Cond.instanceMethod ({ cls := "ParlourLeavesModel", name := "feed", desc := "(IIIII)I" } : Jvm.MethodName)) ∈ lw_all := lw_g (lw_at lw_m7 1 rfl) rfl
theorem q1550 : (Jvm.Cond.selects "ParlourLeavesModel" ({ cls := "ParlourLeavesModel", name := "feed", desc := "(IIIII)I" } : Jvm.MethodName) ({ cls := "ParlourLeavesModel", name := "feed", desc := "(IIIII)I" } : Jvm.MethodName)) ∈ lw_all := lw_g (lw_at lw_m7 2 rfl) rfl
theorem q1551 : (Jvm.Cond.code ({ cls := "ParlourLeavesModel", name := "feed", desc := "(IIIII)I" } : Jvm.MethodName) prog_22_method_4_code (6 : Nat) (Option.some Jvm.ClassFile.FieldType.int)) ∈ lw_all := lw_g (lw_at lw_m7 3 rfl) rfl
theorem q1552 : (Jvm.Cond.methodLink "ParlourLeavesModel" (14 : Nat) ({ cls := "ParlourLeavesModel", name := "come", desc := "(I)V" } : Jvm.MethodName)) ∈ lw_all := lw_g (lw_at lw_m7 4 rfl) rfl
theorem q1553 : (Jvm.Cond.privateMethod ({ cls := "ParlourLeavesModel", name := "come", desc := "(I)V" } : Jvm.MethodName)) ∈ lw_tbl := lw_at lw_m7 5 rfl
theorem q1554 : (Jvm.Cond.instanceMethod ({ cls := "ParlourLeavesModel", name := "come", desc := "(I)V" } : Jvm.MethodName)) ∈ lw_all := lw_g (lw_at lw_m7 6 rfl) rfl
theorem q1555 : (Jvm.Cond.instantiable "ParlourLeavesModel" (45 : Nat)) ∈ lw_all := lw_g (lw_at lw_m7 7 rfl) rfl
theorem q1556 : (Jvm.Cond.code ({ cls := "ParlourLeavesModel", name := "come", desc := "(I)V" } : Jvm.MethodName) prog_22_method_3_code (3 : Nat) (Option.none : Option Jvm.ClassFile.FieldType)) ∈ lw_all := lw_g (lw_at lw_m7 8 rfl) rfl
theorem q1558 : (Jvm.Cond.instanceMethod ({ cls := "ParlourLeavesModel", name := "end", desc := "(I)Z" } : Jvm.MethodName)) ∈ lw_all := lw_g (lw_at lw_m7 10 rfl) rfl
theorem q1559 : (Jvm.Cond.selects "ParlourLeavesModel" ({ cls := "ParlourLeavesModel", name := "end", desc := "(I)Z" } : Jvm.MethodName) ({ cls := "ParlourLeavesModel", name := "end", desc := "(I)Z" } : Jvm.MethodName)) ∈ lw_all := lw_g (lw_at lw_m7 11 rfl) rfl
theorem q1560 : (Jvm.Cond.code ({ cls := "ParlourLeavesModel", name := "end", desc := "(I)Z" } : Jvm.MethodName) prog_22_method_5_code (2 : Nat) (Option.some Jvm.ClassFile.FieldType.boolean)) ∈ lw_all := lw_g (lw_at lw_m7 12 rfl) rfl
theorem q1563 : (Jvm.Cond.instanceMethod ({ cls := "ParlourLeavesModel", name := "<init>", desc := "()V" } : Jvm.MethodName)) ∈ lw_all := lw_g (lw_at lw_m7 15 rfl) rfl
theorem q1564 : (Jvm.Cond.code ({ cls := "ParlourLeavesModel", name := "<init>", desc := "()V" } : Jvm.MethodName) prog_22_method_26_code (1 : Nat) (Option.none : Option Jvm.ClassFile.FieldType)) ∈ lw_all := lw_g (lw_at lw_m7 16 rfl) rfl
theorem q1565 : (Jvm.Cond.methodLink "ParlourLeavesModel" (93 : Nat) ({ cls := "java/lang/Object", name := "<init>", desc := "()V" } : Jvm.MethodName)) ∈ lw_all := lw_g (lw_at lw_m7 17 rfl) rfl
theorem q1566 : (Jvm.Cond.methodLink "ParlourLeavesModel" (157 : Nat) ({ cls := "ParlourLeavesModel", name := "startSo", desc := "()V" } : Jvm.MethodName)) ∈ lw_all := lw_g (lw_at lw_m7 18 rfl) rfl
theorem q1567 : (Jvm.Cond.privateMethod ({ cls := "ParlourLeavesModel", name := "startSo", desc := "()V" } : Jvm.MethodName)) ∈ lw_tbl := lw_at lw_m7 19 rfl
theorem q1568 : (Jvm.Cond.instanceMethod ({ cls := "ParlourLeavesModel", name := "startSo", desc := "()V" } : Jvm.MethodName)) ∈ lw_all := lw_g (lw_at lw_m7 20 rfl) rfl
theorem q1569 : (Jvm.Cond.code ({ cls := "ParlourLeavesModel", name := "startSo", desc := "()V" } : Jvm.MethodName) prog_22_method_27_code (2 : Nat) (Option.none : Option Jvm.ClassFile.FieldType)) ∈ lw_all := lw_g (lw_at lw_m7 21 rfl) rfl
theorem q1570 : (Jvm.Cond.fieldLink "ParlourLeavesModel" (1 : Nat) "ParlourLeavesModel" "thrown" "I") ∈ lw_all := lw_g (lw_at lw_m7 22 rfl) rfl
theorem q1571 : (Jvm.Cond.fieldLink "ParlourLeavesModel" (7 : Nat) "ParlourLeavesModel" "tape" "[I") ∈ lw_all := lw_g (lw_at lw_m7 23 rfl) rfl
theorem q1572 : (Jvm.Cond.fieldLink "ParlourLeavesModel" (11 : Nat) "ParlourLeavesModel" "taped" "I") ∈ lw_all := lw_g (lw_at lw_m7 24 rfl) rfl
theorem q1573 : (Jvm.Cond.fieldLink "ParlourLeavesModel" (18 : Nat) "ParlourLeavesModel" "size" "I") ∈ lw_all := lw_g (lw_at lw_m7 25 rfl) rfl
theorem q1574 : (Jvm.Cond.fieldLink "ParlourLeavesModel" (27 : Nat) "ParlourLeavesModel" "limit" "I") ∈ lw_all := lw_g (lw_at lw_m7 26 rfl) rfl
theorem q1575 : (Jvm.Cond.fieldLink "ParlourLeavesModel" (21 : Nat) "ParlourLeavesModel" "to" "I") ∈ lw_all := lw_g (lw_at lw_m7 27 rfl) rfl
theorem q1576 : (Jvm.Cond.fieldLink "ParlourLeavesModel" (24 : Nat) "ParlourLeavesModel" "from" "I") ∈ lw_all := lw_g (lw_at lw_m7 28 rfl) rfl
theorem q1577 : (Jvm.Cond.fieldLink "ParlourLeavesModel" (30 : Nat) "ParlourLeavesModel" "kind" "I") ∈ lw_all := lw_g (lw_at lw_m7 29 rfl) rfl
theorem q1578 : (Jvm.Cond.fieldLink "ParlourLeavesModel" (47 : Nat) "ParlourLeavesModel" "number" "I") ∈ lw_all := lw_g (lw_at lw_m7 30 rfl) rfl
theorem q1579 : (Jvm.Cond.fieldLink "ParlourLeavesModel" (40 : Nat) "ParlourLeavesModel" "sign" "I") ∈ lw_all := lw_g (lw_at lw_m7 31 rfl) rfl
theorem q1580 : (Jvm.Cond.fieldLink "ParlourLeavesModel" (66 : Nat) "ParlourLeavesModel" "fault" "I") ∈ lw_all := lw_g (lw_at lw_m7 32 rfl) rfl
theorem q1581 : (Jvm.Cond.fieldLink "ParlourLeavesModel" (69 : Nat) "ParlourLeavesModel" "place" "I") ∈ lw_all := lw_g (lw_at lw_m7 33 rfl) rfl
theorem q1582 : (Jvm.Cond.fieldLink "ParlourLeavesModel" (43 : Nat) "ParlourLeavesModel" "word" "J") ∈ lw_all := lw_g (lw_at lw_m7 34 rfl) rfl
theorem q1583 : (Jvm.Cond.fieldLink "ParlourLeavesModel" (79 : Nat) "ParlourLeavesModel" "told" "I") ∈ lw_all := lw_g (lw_at lw_m7 35 rfl) rfl
theorem q1584 : (Jvm.Cond.fieldLink "ParlourLeavesModel" (98 : Nat) "ParlourLeavesModel" "now" "[I") ∈ lw_all := lw_g (lw_at lw_m7 36 rfl) rfl
theorem q1585 : (Jvm.Cond.fieldLink "ParlourLeavesModel" (101 : Nat) "ParlourLeavesModel" "read" "[I") ∈ lw_all := lw_g (lw_at lw_m7 37 rfl) rfl
theorem q1586 : (Jvm.Cond.fieldLink "ParlourLeavesModel" (104 : Nat) "ParlourLeavesModel" "kept" "[I") ∈ lw_all := lw_g (lw_at lw_m7 38 rfl) rfl
theorem q1587 : (Jvm.Cond.fieldLink "ParlourLeavesModel" (107 : Nat) "ParlourLeavesModel" "snaps" "[I") ∈ lw_all := lw_g (lw_at lw_m7 39 rfl) rfl
theorem q1588 : (Jvm.Cond.fieldLink "ParlourLeavesModel" (110 : Nat) "ParlourLeavesModel" "aside" "[I") ∈ lw_all := lw_g (lw_at lw_m7 40 rfl) rfl
theorem q1589 : (Jvm.Cond.fieldLink "ParlourLeavesModel" (113 : Nat) "ParlourLeavesModel" "name" "[J") ∈ lw_all := lw_g (lw_at lw_m7 41 rfl) rfl
theorem q1590 : (Jvm.Cond.fieldLink "ParlourLeavesModel" (117 : Nat) "ParlourLeavesModel" "readName" "[J") ∈ lw_all := lw_g (lw_at lw_m7 42 rfl) rfl
theorem q1591 : (Jvm.Cond.fieldLink "ParlourLeavesModel" (120 : Nat) "ParlourLeavesModel" "keptName" "[J") ∈ lw_all := lw_g (lw_at lw_m7 43 rfl) rfl
theorem q1592 : (Jvm.Cond.fieldLink "ParlourLeavesModel" (123 : Nat) "ParlourLeavesModel" "isKept" "[Z") ∈ lw_all := lw_g (lw_at lw_m7 44 rfl) rfl
theorem q1593 : (Jvm.Cond.fieldLink "ParlourLeavesModel" (127 : Nat) "ParlourLeavesModel" "onces" "[Z") ∈ lw_all := lw_g (lw_at lw_m7 45 rfl) rfl
theorem q1594 : (Jvm.Cond.fieldLink "ParlourLeavesModel" (215 : Nat) "ParlourLeavesModel" "snapMany" "I") ∈ lw_all := lw_g (lw_at lw_m7 46 rfl) rfl
theorem q1595 : (Jvm.Cond.fieldLink "ParlourLeavesModel" (130 : Nat) "ParlourLeavesModel" "asking" "I") ∈ lw_all := lw_g (lw_at lw_m7 47 rfl) rfl
theorem q1596 : (Jvm.Cond.fieldLink "ParlourLeavesModel" (133 : Nat) "ParlourLeavesModel" "covering" "I") ∈ lw_all := lw_g (lw_at lw_m7 48 rfl) rfl
theorem q1597 : (Jvm.Cond.fieldLink "ParlourLeavesModel" (136 : Nat) "ParlourLeavesModel" "steps" "[I") ∈ lw_all := lw_g (lw_at lw_m7 49 rfl) rfl
theorem q1598 : (Jvm.Cond.fieldLink "ParlourLeavesModel" (139 : Nat) "ParlourLeavesModel" "walk" "[I") ∈ lw_all := lw_g (lw_at lw_m7 50 rfl) rfl
theorem q1599 : (Jvm.Cond.fieldLink "ParlourLeavesModel" (317 : Nat) "ParlourLeavesModel" "walkMany" "I") ∈ lw_all := lw_g (lw_at lw_m7 51 rfl) rfl
theorem q1600 : (Jvm.Cond.fieldLink "ParlourLeavesModel" (142 : Nat) "ParlourLeavesModel" "chosen" "[I") ∈ lw_all := lw_g (lw_at lw_m7 52 rfl) rfl
theorem q1601 : (Jvm.Cond.fieldLink "ParlourLeavesModel" (330 : Nat) "ParlourLeavesModel" "hasChosen" "Z") ∈ lw_all := lw_g (lw_at lw_m7 53 rfl) rfl
theorem q1602 : (Jvm.Cond.fieldLink "ParlourLeavesModel" (320 : Nat) "ParlourLeavesModel" "darkest" "I") ∈ lw_all := lw_g (lw_at lw_m7 54 rfl) rfl
theorem q1603 : (Jvm.Cond.fieldLink "ParlourLeavesModel" (145 : Nat) "ParlourLeavesModel" "text" "[I") ∈ lw_all := lw_g (lw_at lw_m7 55 rfl) rfl
theorem q1604 : (Jvm.Cond.fieldLink "ParlourLeavesModel" (334 : Nat) "ParlourLeavesModel" "texts" "I") ∈ lw_all := lw_g (lw_at lw_m7 56 rfl) rfl
theorem q1605 : (Jvm.Cond.fieldLink "ParlourLeavesModel" (350 : Nat) "ParlourLeavesModel" "seed" "I") ∈ lw_all := lw_g (lw_at lw_m7 57 rfl) rfl
theorem q1606 : (Jvm.Cond.fieldLink "ParlourLeavesModel" (148 : Nat) "ParlourLeavesModel" "line" "[I") ∈ lw_all := lw_g (lw_at lw_m7 58 rfl) rfl
theorem q1607 : (Jvm.Cond.fieldLink "ParlourLeavesModel" (151 : Nat) "ParlourLeavesModel" "written" "[I") ∈ lw_all := lw_g (lw_at lw_m7 59 rfl) rfl
theorem q1608 : (Jvm.Cond.fieldLink "ParlourLeavesModel" (381 : Nat) "ParlourLeavesModel" "lineMany" "I") ∈ lw_all := lw_g (lw_at lw_m7 60 rfl) rfl
theorem q1609 : (Jvm.Cond.fieldLink "ParlourLeavesModel" (396 : Nat) "ParlourLeavesModel" "hasWritten" "Z") ∈ lw_all := lw_g (lw_at lw_m7 61 rfl) rfl
theorem q1610 : (Jvm.Cond.fieldLink "ParlourLeavesModel" (154 : Nat) "ParlourLeavesModel" "node" "[I") ∈ lw_all := lw_g (lw_at lw_m7 62 rfl) rfl
theorem q1611 : (Jvm.Cond.fieldLink "ParlourLeavesModel" (403 : Nat) "ParlourLeavesModel" "nodes" "I") ∈ lw_all := lw_g (lw_at lw_m7 63 rfl) rfl
theorem q1612 : (Jvm.Cond.fieldLink "ParlourLeavesModel" (419 : Nat) "ParlourLeavesModel" "onesMany" "I") ∈ lw_all := lw_g (lw_at lw_m7 64 rfl) rfl
theorem q1613 : (Jvm.Cond.fieldLink "ParlourLeavesModel" (422 : Nat) "ParlourLeavesModel" "within" "I") ∈ lw_all := lw_g (lw_at lw_m7 65 rfl) rfl
theorem q1614 : (Jvm.Cond.fieldLink "ParlourLeavesModel" (409 : Nat) "ParlourLeavesModel" "top" "I") ∈ lw_all := lw_g (lw_at lw_m7 66 rfl) rfl
theorem q1615 : (Jvm.Cond.lays "ParlourLeavesModel" "ParlourLeavesModel" "thrown" "I") ∈ lw_all := lw_g (lw_at lw_m7 67 rfl) rfl
theorem q1616 : (Jvm.Cond.soleField "ParlourLeavesModel" "thrown") ∈ lw_all := lw_g (lw_at lw_m7 68 rfl) rfl
theorem q1617 : (Jvm.Cond.laysFinal "ParlourLeavesModel" "ParlourLeavesModel" "tape" "[I") ∈ lw_all := lw_g (lw_at lw_m7 69 rfl) rfl
theorem q1618 : (Jvm.Cond.soleField "ParlourLeavesModel" "tape") ∈ lw_all := lw_g (lw_at lw_m7 70 rfl) rfl
theorem q1619 : (Jvm.Cond.lays "ParlourLeavesModel" "ParlourLeavesModel" "taped" "I") ∈ lw_all := lw_g (lw_at lw_m7 71 rfl) rfl
theorem q1620 : (Jvm.Cond.soleField "ParlourLeavesModel" "taped") ∈ lw_all := lw_g (lw_at lw_m7 72 rfl) rfl
theorem q1621 : (Jvm.Cond.lays "ParlourLeavesModel" "ParlourLeavesModel" "size" "I") ∈ lw_all := lw_g (lw_at lw_m7 73 rfl) rfl
theorem q1622 : (Jvm.Cond.soleField "ParlourLeavesModel" "size") ∈ lw_all := lw_g (lw_at lw_m7 74 rfl) rfl
theorem q1623 : (Jvm.Cond.lays "ParlourLeavesModel" "ParlourLeavesModel" "limit" "I") ∈ lw_all := lw_g (lw_at lw_m7 75 rfl) rfl
theorem q1624 : (Jvm.Cond.soleField "ParlourLeavesModel" "limit") ∈ lw_all := lw_g (lw_at lw_m7 76 rfl) rfl
theorem q1625 : (Jvm.Cond.lays "ParlourLeavesModel" "ParlourLeavesModel" "to" "I") ∈ lw_all := lw_g (lw_at lw_m7 77 rfl) rfl
theorem q1626 : (Jvm.Cond.soleField "ParlourLeavesModel" "to") ∈ lw_all := lw_g (lw_at lw_m7 78 rfl) rfl
theorem q1627 : (Jvm.Cond.lays "ParlourLeavesModel" "ParlourLeavesModel" "from" "I") ∈ lw_all := lw_g (lw_at lw_m7 79 rfl) rfl
theorem q1628 : (Jvm.Cond.soleField "ParlourLeavesModel" "from") ∈ lw_all := lw_g (lw_at lw_m7 80 rfl) rfl
theorem q1629 : (Jvm.Cond.lays "ParlourLeavesModel" "ParlourLeavesModel" "kind" "I") ∈ lw_all := lw_g (lw_at lw_m7 81 rfl) rfl
theorem q1630 : (Jvm.Cond.soleField "ParlourLeavesModel" "kind") ∈ lw_all := lw_g (lw_at lw_m7 82 rfl) rfl
theorem q1631 : (Jvm.Cond.lays "ParlourLeavesModel" "ParlourLeavesModel" "number" "I") ∈ lw_all := lw_g (lw_at lw_m7 83 rfl) rfl
theorem q1632 : (Jvm.Cond.soleField "ParlourLeavesModel" "number") ∈ lw_all := lw_g (lw_at lw_m7 84 rfl) rfl
theorem q1633 : (Jvm.Cond.lays "ParlourLeavesModel" "ParlourLeavesModel" "sign" "I") ∈ lw_all := lw_g (lw_at lw_m7 85 rfl) rfl
theorem q1634 : (Jvm.Cond.soleField "ParlourLeavesModel" "sign") ∈ lw_all := lw_g (lw_at lw_m7 86 rfl) rfl
theorem q1635 : (Jvm.Cond.lays "ParlourLeavesModel" "ParlourLeavesModel" "fault" "I") ∈ lw_all := lw_g (lw_at lw_m7 87 rfl) rfl
theorem q1636 : (Jvm.Cond.soleField "ParlourLeavesModel" "fault") ∈ lw_all := lw_g (lw_at lw_m7 88 rfl) rfl
theorem q1637 : (Jvm.Cond.lays "ParlourLeavesModel" "ParlourLeavesModel" "place" "I") ∈ lw_all := lw_g (lw_at lw_m7 89 rfl) rfl
theorem q1638 : (Jvm.Cond.soleField "ParlourLeavesModel" "place") ∈ lw_all := lw_g (lw_at lw_m7 90 rfl) rfl
theorem q1639 : (Jvm.Cond.lays "ParlourLeavesModel" "ParlourLeavesModel" "word" "J") ∈ lw_all := lw_g (lw_at lw_m7 91 rfl) rfl
theorem q1640 : (Jvm.Cond.soleField "ParlourLeavesModel" "word") ∈ lw_all := lw_g (lw_at lw_m7 92 rfl) rfl
theorem q1641 : (Jvm.Cond.lays "ParlourLeavesModel" "ParlourLeavesModel" "told" "I") ∈ lw_all := lw_g (lw_at lw_m7 93 rfl) rfl
theorem q1642 : (Jvm.Cond.soleField "ParlourLeavesModel" "told") ∈ lw_all := lw_g (lw_at lw_m7 94 rfl) rfl
theorem q1643 : (Jvm.Cond.laysFinal "ParlourLeavesModel" "ParlourLeavesModel" "now" "[I") ∈ lw_all := lw_g (lw_at lw_m7 95 rfl) rfl
theorem q1644 : (Jvm.Cond.soleField "ParlourLeavesModel" "now") ∈ lw_all := lw_g (lw_at lw_m7 96 rfl) rfl
theorem q1645 : (Jvm.Cond.laysFinal "ParlourLeavesModel" "ParlourLeavesModel" "read" "[I") ∈ lw_all := lw_g (lw_at lw_m7 97 rfl) rfl
theorem q1646 : (Jvm.Cond.soleField "ParlourLeavesModel" "read") ∈ lw_all := lw_g (lw_at lw_m7 98 rfl) rfl
theorem q1647 : (Jvm.Cond.laysFinal "ParlourLeavesModel" "ParlourLeavesModel" "kept" "[I") ∈ lw_all := lw_g (lw_at lw_m7 99 rfl) rfl
theorem q1648 : (Jvm.Cond.soleField "ParlourLeavesModel" "kept") ∈ lw_all := lw_g (lw_at lw_m7 100 rfl) rfl
theorem q1649 : (Jvm.Cond.laysFinal "ParlourLeavesModel" "ParlourLeavesModel" "snaps" "[I") ∈ lw_all := lw_g (lw_at lw_m7 101 rfl) rfl
theorem q1650 : (Jvm.Cond.soleField "ParlourLeavesModel" "snaps") ∈ lw_all := lw_g (lw_at lw_m7 102 rfl) rfl
theorem q1651 : (Jvm.Cond.laysFinal "ParlourLeavesModel" "ParlourLeavesModel" "aside" "[I") ∈ lw_all := lw_g (lw_at lw_m7 103 rfl) rfl
theorem q1652 : (Jvm.Cond.soleField "ParlourLeavesModel" "aside") ∈ lw_all := lw_g (lw_at lw_m7 104 rfl) rfl
theorem q1653 : (Jvm.Cond.laysFinal "ParlourLeavesModel" "ParlourLeavesModel" "name" "[J") ∈ lw_all := lw_g (lw_at lw_m7 105 rfl) rfl
theorem q1654 : (Jvm.Cond.soleField "ParlourLeavesModel" "name") ∈ lw_all := lw_g (lw_at lw_m7 106 rfl) rfl
theorem q1655 : (Jvm.Cond.laysFinal "ParlourLeavesModel" "ParlourLeavesModel" "readName" "[J") ∈ lw_all := lw_g (lw_at lw_m7 107 rfl) rfl
theorem q1656 : (Jvm.Cond.soleField "ParlourLeavesModel" "readName") ∈ lw_all := lw_g (lw_at lw_m7 108 rfl) rfl
theorem q1657 : (Jvm.Cond.laysFinal "ParlourLeavesModel" "ParlourLeavesModel" "keptName" "[J") ∈ lw_all := lw_g (lw_at lw_m7 109 rfl) rfl
theorem q1658 : (Jvm.Cond.soleField "ParlourLeavesModel" "keptName") ∈ lw_all := lw_g (lw_at lw_m7 110 rfl) rfl
theorem q1659 : (Jvm.Cond.laysFinal "ParlourLeavesModel" "ParlourLeavesModel" "isKept" "[Z") ∈ lw_all := lw_g (lw_at lw_m7 111 rfl) rfl
theorem q1660 : (Jvm.Cond.soleField "ParlourLeavesModel" "isKept") ∈ lw_all := lw_g (lw_at lw_m7 112 rfl) rfl
theorem q1661 : (Jvm.Cond.laysFinal "ParlourLeavesModel" "ParlourLeavesModel" "onces" "[Z") ∈ lw_all := lw_g (lw_at lw_m7 113 rfl) rfl
theorem q1662 : (Jvm.Cond.soleField "ParlourLeavesModel" "onces") ∈ lw_all := lw_g (lw_at lw_m7 114 rfl) rfl
theorem q1663 : (Jvm.Cond.lays "ParlourLeavesModel" "ParlourLeavesModel" "snapMany" "I") ∈ lw_all := lw_g (lw_at lw_m7 115 rfl) rfl
theorem q1664 : (Jvm.Cond.soleField "ParlourLeavesModel" "snapMany") ∈ lw_all := lw_g (lw_at lw_m7 116 rfl) rfl
theorem q1665 : (Jvm.Cond.lays "ParlourLeavesModel" "ParlourLeavesModel" "asking" "I") ∈ lw_all := lw_g (lw_at lw_m7 117 rfl) rfl
theorem q1666 : (Jvm.Cond.soleField "ParlourLeavesModel" "asking") ∈ lw_all := lw_g (lw_at lw_m7 118 rfl) rfl
theorem q1667 : (Jvm.Cond.lays "ParlourLeavesModel" "ParlourLeavesModel" "covering" "I") ∈ lw_all := lw_g (lw_at lw_m7 119 rfl) rfl
theorem q1668 : (Jvm.Cond.soleField "ParlourLeavesModel" "covering") ∈ lw_all := lw_g (lw_at lw_m7 120 rfl) rfl
theorem q1669 : (Jvm.Cond.laysFinal "ParlourLeavesModel" "ParlourLeavesModel" "steps" "[I") ∈ lw_all := lw_g (lw_at lw_m7 121 rfl) rfl
theorem q1670 : (Jvm.Cond.soleField "ParlourLeavesModel" "steps") ∈ lw_all := lw_g (lw_at lw_m7 122 rfl) rfl
theorem q1671 : (Jvm.Cond.laysFinal "ParlourLeavesModel" "ParlourLeavesModel" "walk" "[I") ∈ lw_all := lw_g (lw_at lw_m7 123 rfl) rfl
theorem q1672 : (Jvm.Cond.soleField "ParlourLeavesModel" "walk") ∈ lw_all := lw_g (lw_at lw_m7 124 rfl) rfl
theorem q1673 : (Jvm.Cond.lays "ParlourLeavesModel" "ParlourLeavesModel" "walkMany" "I") ∈ lw_all := lw_g (lw_at lw_m7 125 rfl) rfl
theorem q1674 : (Jvm.Cond.soleField "ParlourLeavesModel" "walkMany") ∈ lw_all := lw_g (lw_at lw_m7 126 rfl) rfl
theorem q1675 : (Jvm.Cond.laysFinal "ParlourLeavesModel" "ParlourLeavesModel" "chosen" "[I") ∈ lw_all := lw_g (lw_at lw_m7 127 rfl) rfl
theorem q1676 : (Jvm.Cond.soleField "ParlourLeavesModel" "chosen") ∈ lw_all := lw_g (lw_at lw_m7 128 rfl) rfl
theorem q1677 : (Jvm.Cond.lays "ParlourLeavesModel" "ParlourLeavesModel" "hasChosen" "Z") ∈ lw_all := lw_g (lw_at lw_m7 129 rfl) rfl
theorem q1678 : (Jvm.Cond.soleField "ParlourLeavesModel" "hasChosen") ∈ lw_all := lw_g (lw_at lw_m7 130 rfl) rfl
theorem q1679 : (Jvm.Cond.lays "ParlourLeavesModel" "ParlourLeavesModel" "darkest" "I") ∈ lw_all := lw_g (lw_at lw_m7 131 rfl) rfl
theorem q1680 : (Jvm.Cond.soleField "ParlourLeavesModel" "darkest") ∈ lw_all := lw_g (lw_at lw_m7 132 rfl) rfl
theorem q1681 : (Jvm.Cond.laysFinal "ParlourLeavesModel" "ParlourLeavesModel" "text" "[I") ∈ lw_all := lw_g (lw_at lw_m7 133 rfl) rfl
theorem q1682 : (Jvm.Cond.soleField "ParlourLeavesModel" "text") ∈ lw_all := lw_g (lw_at lw_m7 134 rfl) rfl
theorem q1683 : (Jvm.Cond.lays "ParlourLeavesModel" "ParlourLeavesModel" "texts" "I") ∈ lw_all := lw_g (lw_at lw_m7 135 rfl) rfl
theorem q1684 : (Jvm.Cond.soleField "ParlourLeavesModel" "texts") ∈ lw_all := lw_g (lw_at lw_m7 136 rfl) rfl
theorem q1685 : (Jvm.Cond.lays "ParlourLeavesModel" "ParlourLeavesModel" "seed" "I") ∈ lw_all := lw_g (lw_at lw_m7 137 rfl) rfl
theorem q1686 : (Jvm.Cond.soleField "ParlourLeavesModel" "seed") ∈ lw_all := lw_g (lw_at lw_m7 138 rfl) rfl
theorem q1687 : (Jvm.Cond.laysFinal "ParlourLeavesModel" "ParlourLeavesModel" "line" "[I") ∈ lw_all := lw_g (lw_at lw_m7 139 rfl) rfl
theorem q1688 : (Jvm.Cond.soleField "ParlourLeavesModel" "line") ∈ lw_all := lw_g (lw_at lw_m7 140 rfl) rfl
theorem q1689 : (Jvm.Cond.laysFinal "ParlourLeavesModel" "ParlourLeavesModel" "written" "[I") ∈ lw_all := lw_g (lw_at lw_m7 141 rfl) rfl
theorem q1690 : (Jvm.Cond.soleField "ParlourLeavesModel" "written") ∈ lw_all := lw_g (lw_at lw_m7 142 rfl) rfl
theorem q1691 : (Jvm.Cond.lays "ParlourLeavesModel" "ParlourLeavesModel" "lineMany" "I") ∈ lw_all := lw_g (lw_at lw_m7 143 rfl) rfl
theorem q1692 : (Jvm.Cond.soleField "ParlourLeavesModel" "lineMany") ∈ lw_all := lw_g (lw_at lw_m7 144 rfl) rfl
theorem q1693 : (Jvm.Cond.lays "ParlourLeavesModel" "ParlourLeavesModel" "hasWritten" "Z") ∈ lw_all := lw_g (lw_at lw_m7 145 rfl) rfl
theorem q1694 : (Jvm.Cond.soleField "ParlourLeavesModel" "hasWritten") ∈ lw_all := lw_g (lw_at lw_m7 146 rfl) rfl
theorem q1695 : (Jvm.Cond.laysFinal "ParlourLeavesModel" "ParlourLeavesModel" "node" "[I") ∈ lw_all := lw_g (lw_at lw_m7 147 rfl) rfl
theorem q1696 : (Jvm.Cond.soleField "ParlourLeavesModel" "node") ∈ lw_all := lw_g (lw_at lw_m7 148 rfl) rfl
theorem q1697 : (Jvm.Cond.lays "ParlourLeavesModel" "ParlourLeavesModel" "nodes" "I") ∈ lw_all := lw_g (lw_at lw_m7 149 rfl) rfl
theorem q1698 : (Jvm.Cond.soleField "ParlourLeavesModel" "nodes") ∈ lw_all := lw_g (lw_at lw_m7 150 rfl) rfl
theorem q1699 : (Jvm.Cond.lays "ParlourLeavesModel" "ParlourLeavesModel" "onesMany" "I") ∈ lw_all := lw_g (lw_at lw_m7 151 rfl) rfl
theorem q1700 : (Jvm.Cond.soleField "ParlourLeavesModel" "onesMany") ∈ lw_all := lw_g (lw_at lw_m7 152 rfl) rfl
theorem q1701 : (Jvm.Cond.lays "ParlourLeavesModel" "ParlourLeavesModel" "within" "I") ∈ lw_all := lw_g (lw_at lw_m7 153 rfl) rfl
theorem q1702 : (Jvm.Cond.soleField "ParlourLeavesModel" "within") ∈ lw_all := lw_g (lw_at lw_m7 154 rfl) rfl
theorem q1703 : (Jvm.Cond.lays "ParlourLeavesModel" "ParlourLeavesModel" "top" "I") ∈ lw_all := lw_g (lw_at lw_m7 155 rfl) rfl
theorem q1704 : (Jvm.Cond.soleField "ParlourLeavesModel" "top") ∈ lw_all := lw_g (lw_at lw_m7 156 rfl) rfl
theorem q1705 : (Jvm.Cond.superclass "ParlourLeavesModel" "java/lang/Object") ∈ lw_all := lw_g (lw_at lw_m7 157 rfl) rfl
theorem q1708 : (Jvm.Cond.instanceMethod ({ cls := "ParlourLeavesModel", name := "house", desc := "()I" } : Jvm.MethodName)) ∈ lw_all := lw_g (lw_at lw_m7 160 rfl) rfl
theorem q1709 : (Jvm.Cond.selects "ParlourLeavesModel" ({ cls := "ParlourLeavesModel", name := "house", desc := "()I" } : Jvm.MethodName) ({ cls := "ParlourLeavesModel", name := "house", desc := "()I" } : Jvm.MethodName)) ∈ lw_all := lw_g (lw_at lw_m7 161 rfl) rfl
theorem q1710 : (Jvm.Cond.code ({ cls := "ParlourLeavesModel", name := "house", desc := "()I" } : Jvm.MethodName) prog_22_method_39_code (3 : Nat) (Option.some Jvm.ClassFile.FieldType.int)) ∈ lw_all := lw_g (lw_at lw_m7 162 rfl) rfl
theorem q1711 : (Jvm.Cond.methodLink "ParlourLeavesModel" (206 : Nat) ({ cls := "ParlourLeavesModel", name := "begin", desc := "(I)V" } : Jvm.MethodName)) ∈ lw_all := lw_g (lw_at lw_m7 163 rfl) rfl
theorem q1712 : (Jvm.Cond.privateMethod ({ cls := "ParlourLeavesModel", name := "begin", desc := "(I)V" } : Jvm.MethodName)) ∈ lw_tbl := lw_at lw_m7 164 rfl
theorem q1713 : (Jvm.Cond.instanceMethod ({ cls := "ParlourLeavesModel", name := "begin", desc := "(I)V" } : Jvm.MethodName)) ∈ lw_all := lw_g (lw_at lw_m7 165 rfl) rfl
theorem q1714 : (Jvm.Cond.code ({ cls := "ParlourLeavesModel", name := "begin", desc := "(I)V" } : Jvm.MethodName) prog_22_method_25_code (2 : Nat) (Option.none : Option Jvm.ClassFile.FieldType)) ∈ lw_all := lw_g (lw_at lw_m7 166 rfl) rfl
theorem q1715 : (Jvm.Cond.methodLink "ParlourLeavesModel" (89 : Nat) ({ cls := "ParlourLeavesModel", name := "take", desc := "()I" } : Jvm.MethodName)) ∈ lw_all := lw_g (lw_at lw_m7 167 rfl) rfl
theorem q1716 : (Jvm.Cond.privateMethod ({ cls := "ParlourLeavesModel", name := "take", desc := "()I" } : Jvm.MethodName)) ∈ lw_tbl := lw_at lw_m7 168 rfl
theorem q1717 : (Jvm.Cond.instanceMethod ({ cls := "ParlourLeavesModel", name := "take", desc := "()I" } : Jvm.MethodName)) ∈ lw_all := lw_g (lw_at lw_m7 169 rfl) rfl
theorem q1718 : (Jvm.Cond.code ({ cls := "ParlourLeavesModel", name := "take", desc := "()I" } : Jvm.MethodName) prog_22_method_6_code (2 : Nat) (Option.some Jvm.ClassFile.FieldType.int)) ∈ lw_all := lw_g (lw_at lw_m7 170 rfl) rfl
theorem q1719 : (Jvm.Cond.methodLink "ParlourLeavesModel" (82 : Nat) ({ cls := "ParlourLeavesModel", name := "go", desc := "()V" } : Jvm.MethodName)) ∈ lw_all := lw_g (lw_at lw_m7 171 rfl) rfl
theorem q1720 : (Jvm.Cond.privateMethod ({ cls := "ParlourLeavesModel", name := "go", desc := "()V" } : Jvm.MethodName)) ∈ lw_tbl := lw_at lw_m7 172 rfl
theorem q1721 : (Jvm.Cond.instanceMethod ({ cls := "ParlourLeavesModel", name := "go", desc := "()V" } : Jvm.MethodName)) ∈ lw_all := lw_g (lw_at lw_m7 173 rfl) rfl
theorem q1722 : (Jvm.Cond.code ({ cls := "ParlourLeavesModel", name := "go", desc := "()V" } : Jvm.MethodName) prog_22_method_16_code (5 : Nat) (Option.none : Option Jvm.ClassFile.FieldType)) ∈ lw_all := lw_g (lw_at lw_m7 174 rfl) rfl
theorem q1723 : (Jvm.Cond.methodLink "ParlourLeavesModel" (33 : Nat) ({ cls := "ParlourLeavesModel", name := "isLetter", desc := "(I)Z" } : Jvm.MethodName)) ∈ lw_all := lw_g (lw_at lw_m7 175 rfl) rfl
theorem q1724 : (Jvm.Cond.static ({ cls := "ParlourLeavesModel", name := "isLetter", desc := "(I)Z" } : Jvm.MethodName)) ∈ lw_all := lw_g (lw_at lw_m7 176 rfl) rfl
theorem q1725 : (Jvm.Cond.code ({ cls := "ParlourLeavesModel", name := "isLetter", desc := "(I)Z" } : Jvm.MethodName) prog_22_method_15_code (1 : Nat) (Option.some Jvm.ClassFile.FieldType.boolean)) ∈ lw_all := lw_g (lw_at lw_m7 177 rfl) rfl
theorem q1726 : (Jvm.Cond.methodLink "ParlourLeavesModel" (37 : Nat) ({ cls := "ParlourLeavesModel", name := "isDigit", desc := "(I)Z" } : Jvm.MethodName)) ∈ lw_all := lw_g (lw_at lw_m7 178 rfl) rfl
theorem q1727 : (Jvm.Cond.static ({ cls := "ParlourLeavesModel", name := "isDigit", desc := "(I)Z" } : Jvm.MethodName)) ∈ lw_all := lw_g (lw_at lw_m7 179 rfl) rfl
theorem q1728 : (Jvm.Cond.code ({ cls := "ParlourLeavesModel", name := "isDigit", desc := "(I)Z" } : Jvm.MethodName) prog_22_method_14_code (1 : Nat) (Option.some Jvm.ClassFile.FieldType.boolean)) ∈ lw_all := lw_g (lw_at lw_m7 180 rfl) rfl
theorem q1729 : (Jvm.Cond.methodLink "ParlourLeavesModel" (50 : Nat) ({ cls := "ParlourLeavesModel", name := "tapeAt", desc := "(I)I" } : Jvm.MethodName)) ∈ lw_all := lw_g (lw_at lw_m7 181 rfl) rfl
theorem q1730 : (Jvm.Cond.privateMethod ({ cls := "ParlourLeavesModel", name := "tapeAt", desc := "(I)I" } : Jvm.MethodName)) ∈ lw_tbl := lw_at lw_m7 182 rfl
theorem q1731 : (Jvm.Cond.instanceMethod ({ cls := "ParlourLeavesModel", name := "tapeAt", desc := "(I)I" } : Jvm.MethodName)) ∈ lw_all := lw_g (lw_at lw_m7 183 rfl) rfl
theorem q1732 : (Jvm.Cond.code ({ cls := "ParlourLeavesModel", name := "tapeAt", desc := "(I)I" } : Jvm.MethodName) prog_22_method_13_code (2 : Nat) (Option.some Jvm.ClassFile.FieldType.int)) ∈ lw_all := lw_g (lw_at lw_m7 184 rfl) rfl
theorem q1733 : (Jvm.Cond.constantLong "ParlourLeavesModel" (54 : Nat) (27 : Int64)) ∈ lw_all := lw_g (lw_at lw_m7 185 rfl) rfl
theorem q1734 : (Jvm.Cond.constantLong "ParlourLeavesModel" (56 : Nat) (96 : Int64)) ∈ lw_all := lw_g (lw_at lw_m7 186 rfl) rfl
theorem q1735 : (Jvm.Cond.methodLink "ParlourLeavesModel" (209 : Nat) ({ cls := "ParlourLeavesModel", name := "readLine", desc := "()Z" } : Jvm.MethodName)) ∈ lw_all := lw_g (lw_at lw_m7 187 rfl) rfl
theorem q1736 : (Jvm.Cond.privateMethod ({ cls := "ParlourLeavesModel", name := "readLine", desc := "()Z" } : Jvm.MethodName)) ∈ lw_tbl := lw_at lw_m7 188 rfl
theorem q1737 : (Jvm.Cond.instanceMethod ({ cls := "ParlourLeavesModel", name := "readLine", desc := "()Z" } : Jvm.MethodName)) ∈ lw_all := lw_g (lw_at lw_m7 189 rfl) rfl
theorem q1738 : (Jvm.Cond.code ({ cls := "ParlourLeavesModel", name := "readLine", desc := "()Z" } : Jvm.MethodName) prog_22_method_38_code (1 : Nat) (Option.some Jvm.ClassFile.FieldType.boolean)) ∈ lw_all := lw_g (lw_at lw_m7 190 rfl) rfl
theorem q1739 : (Jvm.Cond.methodLink "ParlourLeavesModel" (191 : Nat) ({ cls := "ParlourLeavesModel", name := "isWord", desc := "(I)Z" } : Jvm.MethodName)) ∈ lw_all := lw_g (lw_at lw_m7 191 rfl) rfl
theorem q1740 : (Jvm.Cond.privateMethod ({ cls := "ParlourLeavesModel", name := "isWord", desc := "(I)Z" } : Jvm.MethodName)) ∈ lw_tbl := lw_at lw_m7 192 rfl
theorem q1741 : (Jvm.Cond.instanceMethod ({ cls := "ParlourLeavesModel", name := "isWord", desc := "(I)Z" } : Jvm.MethodName)) ∈ lw_all := lw_g (lw_at lw_m7 193 rfl) rfl
theorem q1742 : (Jvm.Cond.code ({ cls := "ParlourLeavesModel", name := "isWord", desc := "(I)Z" } : Jvm.MethodName) prog_22_method_19_code (2 : Nat) (Option.some Jvm.ClassFile.FieldType.boolean)) ∈ lw_all := lw_g (lw_at lw_m7 194 rfl) rfl
theorem q1743 : (Jvm.Cond.methodLink "ParlourLeavesModel" (62 : Nat) ({ cls := "ParlourLeavesModel", name := "wordOf", desc := "(I)J" } : Jvm.MethodName)) ∈ lw_all := lw_g (lw_at lw_m7 195 rfl) rfl
theorem q1744 : (Jvm.Cond.static ({ cls := "ParlourLeavesModel", name := "wordOf", desc := "(I)J" } : Jvm.MethodName)) ∈ lw_all := lw_g (lw_at lw_m7 196 rfl) rfl
theorem q1745 : (Jvm.Cond.code ({ cls := "ParlourLeavesModel", name := "wordOf", desc := "(I)J" } : Jvm.MethodName) prog_22_method_18_code (1 : Nat) (Option.some Jvm.ClassFile.FieldType.long)) ∈ lw_all := lw_g (lw_at lw_m7 197 rfl) rfl
theorem q1746 : (Jvm.Cond.methodLink "ParlourLeavesModel" (58 : Nat) ({ cls := "ParlourLeavesModel", name := "spelt", desc := "(IIIIIII)J" } : Jvm.MethodName)) ∈ lw_all := lw_g (lw_at lw_m7 198 rfl) rfl
theorem q1747 : (Jvm.Cond.static ({ cls := "ParlourLeavesModel", name := "spelt", desc := "(IIIIIII)J" } : Jvm.MethodName)) ∈ lw_all := lw_g (lw_at lw_m7 199 rfl) rfl
theorem q1748 : (Jvm.Cond.code ({ cls := "ParlourLeavesModel", name := "spelt", desc := "(IIIIIII)J" } : Jvm.MethodName) prog_22_method_17_code (9 : Nat) (Option.some Jvm.ClassFile.FieldType.long)) ∈ lw_all := lw_g (lw_at lw_m7 200 rfl) rfl
theorem q1749 : (Jvm.Cond.methodLink "ParlourLeavesModel" (194 : Nat) ({ cls := "ParlourLeavesModel", name := "readPlain", desc := "(III)Z" } : Jvm.MethodName)) ∈ lw_all := lw_g (lw_at lw_m7 201 rfl) rfl
theorem q1750 : (Jvm.Cond.privateMethod ({ cls := "ParlourLeavesModel", name := "readPlain", desc := "(III)Z" } : Jvm.MethodName)) ∈ lw_tbl := lw_at lw_m7 202 rfl
theorem q1751 : (Jvm.Cond.instanceMethod ({ cls := "ParlourLeavesModel", name := "readPlain", desc := "(III)Z" } : Jvm.MethodName)) ∈ lw_all := lw_g (lw_at lw_m7 203 rfl) rfl
theorem q1752 : (Jvm.Cond.code ({ cls := "ParlourLeavesModel", name := "readPlain", desc := "(III)Z" } : Jvm.MethodName) prog_22_method_34_code (4 : Nat) (Option.some Jvm.ClassFile.FieldType.boolean)) ∈ lw_all := lw_g (lw_at lw_m7 204 rfl) rfl
theorem q1753 : (Jvm.Cond.methodLink "ParlourLeavesModel" (171 : Nat) ({ cls := "ParlourLeavesModel", name := "readFirst", desc := "(II)Z" } : Jvm.MethodName)) ∈ lw_all := lw_g (lw_at lw_m7 205 rfl) rfl
theorem q1754 : (Jvm.Cond.privateMethod ({ cls := "ParlourLeavesModel", name := "readFirst", desc := "(II)Z" } : Jvm.MethodName)) ∈ lw_tbl := lw_at lw_m7 206 rfl
theorem q1755 : (Jvm.Cond.instanceMethod ({ cls := "ParlourLeavesModel", name := "readFirst", desc := "(II)Z" } : Jvm.MethodName)) ∈ lw_all := lw_g (lw_at lw_m7 207 rfl) rfl
theorem q1756 : (Jvm.Cond.code ({ cls := "ParlourLeavesModel", name := "readFirst", desc := "(II)Z" } : Jvm.MethodName) prog_22_method_32_code (3 : Nat) (Option.some Jvm.ClassFile.FieldType.boolean)) ∈ lw_all := lw_g (lw_at lw_m7 208 rfl) rfl
theorem q1757 : (Jvm.Cond.methodLink "ParlourLeavesModel" (72 : Nat) ({ cls := "ParlourLeavesModel", name := "bad", desc := "(I)Z" } : Jvm.MethodName)) ∈ lw_all := lw_g (lw_at lw_m7 209 rfl) rfl
theorem q1758 : (Jvm.Cond.privateMethod ({ cls := "ParlourLeavesModel", name := "bad", desc := "(I)Z" } : Jvm.MethodName)) ∈ lw_tbl := lw_at lw_m7 210 rfl
theorem q1759 : (Jvm.Cond.instanceMethod ({ cls := "ParlourLeavesModel", name := "bad", desc := "(I)Z" } : Jvm.MethodName)) ∈ lw_all := lw_g (lw_at lw_m7 211 rfl) rfl
theorem q1760 : (Jvm.Cond.code ({ cls := "ParlourLeavesModel", name := "bad", desc := "(I)Z" } : Jvm.MethodName) prog_22_method_22_code (2 : Nat) (Option.some Jvm.ClassFile.FieldType.boolean)) ∈ lw_all := lw_g (lw_at lw_m7 212 rfl) rfl
theorem q1761 : (Jvm.Cond.methodLink "ParlourLeavesModel" (175 : Nat) ({ cls := "ParlourLeavesModel", name := "readNew", desc := "(I)Z" } : Jvm.MethodName)) ∈ lw_all := lw_g (lw_at lw_m7 213 rfl) rfl
theorem q1762 : (Jvm.Cond.privateMethod ({ cls := "ParlourLeavesModel", name := "readNew", desc := "(I)Z" } : Jvm.MethodName)) ∈ lw_tbl := lw_at lw_m7 214 rfl
theorem q1763 : (Jvm.Cond.instanceMethod ({ cls := "ParlourLeavesModel", name := "readNew", desc := "(I)Z" } : Jvm.MethodName)) ∈ lw_all := lw_g (lw_at lw_m7 215 rfl) rfl
theorem q1764 : (Jvm.Cond.code ({ cls := "ParlourLeavesModel", name := "readNew", desc := "(I)Z" } : Jvm.MethodName) prog_22_method_30_code (2 : Nat) (Option.some Jvm.ClassFile.FieldType.boolean)) ∈ lw_all := lw_g (lw_at lw_m7 216 rfl) rfl
theorem q1765 : (Jvm.Cond.methodLink "ParlourLeavesModel" (164 : Nat) ({ cls := "ParlourLeavesModel", name := "isName", desc := "()Z" } : Jvm.MethodName)) ∈ lw_all := lw_g (lw_at lw_m7 217 rfl) rfl
theorem q1766 : (Jvm.Cond.privateMethod ({ cls := "ParlourLeavesModel", name := "isName", desc := "()Z" } : Jvm.MethodName)) ∈ lw_tbl := lw_at lw_m7 218 rfl
theorem q1767 : (Jvm.Cond.instanceMethod ({ cls := "ParlourLeavesModel", name := "isName", desc := "()Z" } : Jvm.MethodName)) ∈ lw_all := lw_g (lw_at lw_m7 219 rfl) rfl
theorem q1768 : (Jvm.Cond.code ({ cls := "ParlourLeavesModel", name := "isName", desc := "()Z" } : Jvm.MethodName) prog_22_method_21_code (2 : Nat) (Option.some Jvm.ClassFile.FieldType.boolean)) ∈ lw_all := lw_g (lw_at lw_m7 220 rfl) rfl
theorem q1769 : (Jvm.Cond.methodLink "ParlourLeavesModel" (168 : Nat) ({ cls := "ParlourLeavesModel", name := "isTaken", desc := "()Z" } : Jvm.MethodName)) ∈ lw_all := lw_g (lw_at lw_m7 221 rfl) rfl
theorem q1770 : (Jvm.Cond.privateMethod ({ cls := "ParlourLeavesModel", name := "isTaken", desc := "()Z" } : Jvm.MethodName)) ∈ lw_tbl := lw_at lw_m7 222 rfl
theorem q1771 : (Jvm.Cond.instanceMethod ({ cls := "ParlourLeavesModel", name := "isTaken", desc := "()Z" } : Jvm.MethodName)) ∈ lw_all := lw_g (lw_at lw_m7 223 rfl) rfl
theorem q1772 : (Jvm.Cond.code ({ cls := "ParlourLeavesModel", name := "isTaken", desc := "()Z" } : Jvm.MethodName) prog_22_method_29_code (1 : Nat) (Option.some Jvm.ClassFile.FieldType.boolean)) ∈ lw_all := lw_g (lw_at lw_m7 224 rfl) rfl
theorem q1773 : (Jvm.Cond.methodLink "ParlourLeavesModel" (160 : Nat) ({ cls := "ParlourLeavesModel", name := "findIn", desc := "([JIIJ)I" } : Jvm.MethodName)) ∈ lw_all := lw_g (lw_at lw_m7 225 rfl) rfl
theorem q1774 : (Jvm.Cond.static ({ cls := "ParlourLeavesModel", name := "findIn", desc := "([JIIJ)I" } : Jvm.MethodName)) ∈ lw_all := lw_g (lw_at lw_m7 226 rfl) rfl
theorem q1775 : (Jvm.Cond.code ({ cls := "ParlourLeavesModel", name := "findIn", desc := "([JIIJ)I" } : Jvm.MethodName) prog_22_method_28_code (6 : Nat) (Option.some Jvm.ClassFile.FieldType.int)) ∈ lw_all := lw_g (lw_at lw_m7 227 rfl) rfl
theorem q1776 : (Jvm.Cond.methodLink "ParlourLeavesModel" (197 : Nat) ({ cls := "ParlourLeavesModel", name := "readSight", desc := "()Z" } : Jvm.MethodName)) ∈ lw_all := lw_g (lw_at lw_m7 228 rfl) rfl
theorem q1777 : (Jvm.Cond.privateMethod ({ cls := "ParlourLeavesModel", name := "readSight", desc := "()Z" } : Jvm.MethodName)) ∈ lw_tbl := lw_at lw_m7 229 rfl
theorem q1778 : (Jvm.Cond.instanceMethod ({ cls := "ParlourLeavesModel", name := "readSight", desc := "()Z" } : Jvm.MethodName)) ∈ lw_all := lw_g (lw_at lw_m7 230 rfl) rfl
theorem q1779 : (Jvm.Cond.code ({ cls := "ParlourLeavesModel", name := "readSight", desc := "()Z" } : Jvm.MethodName) prog_22_method_35_code (2 : Nat) (Option.some Jvm.ClassFile.FieldType.boolean)) ∈ lw_all := lw_g (lw_at lw_m7 231 rfl) rfl
theorem q1780 : (Jvm.Cond.methodLink "ParlourLeavesModel" (178 : Nat) ({ cls := "ParlourLeavesModel", name := "isParlourHere", desc := "()Z" } : Jvm.MethodName)) ∈ lw_all := lw_g (lw_at lw_m7 232 rfl) rfl
theorem q1781 : (Jvm.Cond.privateMethod ({ cls := "ParlourLeavesModel", name := "isParlourHere", desc := "()Z" } : Jvm.MethodName)) ∈ lw_tbl := lw_at lw_m7 233 rfl
theorem q1782 : (Jvm.Cond.instanceMethod ({ cls := "ParlourLeavesModel", name := "isParlourHere", desc := "()Z" } : Jvm.MethodName)) ∈ lw_all := lw_g (lw_at lw_m7 234 rfl) rfl
theorem q1783 : (Jvm.Cond.code ({ cls := "ParlourLeavesModel", name := "isParlourHere", desc := "()Z" } : Jvm.MethodName) prog_22_method_31_code (1 : Nat) (Option.some Jvm.ClassFile.FieldType.boolean)) ∈ lw_all := lw_g (lw_at lw_m7 235 rfl) rfl
theorem q1784 : (Jvm.Cond.methodLink "ParlourLeavesModel" (181 : Nat) ({ cls := "ParlourLeavesModel", name := "has", desc := "(II)Z" } : Jvm.MethodName)) ∈ lw_all := lw_g (lw_at lw_m7 236 rfl) rfl
theorem q1785 : (Jvm.Cond.static ({ cls := "ParlourLeavesModel", name := "has", desc := "(II)Z" } : Jvm.MethodName)) ∈ lw_all := lw_g (lw_at lw_m7 237 rfl) rfl
theorem q1786 : (Jvm.Cond.code ({ cls := "ParlourLeavesModel", name := "has", desc := "(II)Z" } : Jvm.MethodName) prog_22_method_8_code (2 : Nat) (Option.some Jvm.ClassFile.FieldType.boolean)) ∈ lw_all := lw_g (lw_at lw_m7 238 rfl) rfl
theorem q1787 : (Jvm.Cond.methodLink "ParlourLeavesModel" (200 : Nat) ({ cls := "ParlourLeavesModel", name := "readPlant", desc := "()Z" } : Jvm.MethodName)) ∈ lw_all := lw_g (lw_at lw_m7 239 rfl) rfl
theorem q1788 : (Jvm.Cond.privateMethod ({ cls := "ParlourLeavesModel", name := "readPlant", desc := "()Z" } : Jvm.MethodName)) ∈ lw_tbl := lw_at lw_m8 0 rfl
theorem q1789 : (Jvm.Cond.instanceMethod ({ cls := "ParlourLeavesModel", name := "readPlant", desc := "()Z" } : Jvm.MethodName)) ∈ lw_all := lw_g (lw_at lw_m8 1 rfl) rfl
theorem q1790 : (Jvm.Cond.code ({ cls := "ParlourLeavesModel", name := "readPlant", desc := "()Z" } : Jvm.MethodName) prog_22_method_36_code (2 : Nat) (Option.some Jvm.ClassFile.FieldType.boolean)) ∈ lw_all := lw_g (lw_at lw_m8 2 rfl) rfl
theorem q1791 : (Jvm.Cond.methodLink "ParlourLeavesModel" (184 : Nat) ({ cls := "ParlourLeavesModel", name := "put", desc := "(IZ)Z" } : Jvm.MethodName)) ∈ lw_all := lw_g (lw_at lw_m8 3 rfl) rfl
theorem q1792 : (Jvm.Cond.privateMethod ({ cls := "ParlourLeavesModel", name := "put", desc := "(IZ)Z" } : Jvm.MethodName)) ∈ lw_tbl := lw_at lw_m8 4 rfl
theorem q1793 : (Jvm.Cond.instanceMethod ({ cls := "ParlourLeavesModel", name := "put", desc := "(IZ)Z" } : Jvm.MethodName)) ∈ lw_all := lw_g (lw_at lw_m8 5 rfl) rfl
theorem q1794 : (Jvm.Cond.code ({ cls := "ParlourLeavesModel", name := "put", desc := "(IZ)Z" } : Jvm.MethodName) prog_22_method_33_code (3 : Nat) (Option.some Jvm.ClassFile.FieldType.boolean)) ∈ lw_all := lw_g (lw_at lw_m8 6 rfl) rfl
theorem q1795 : (Jvm.Cond.methodLink "ParlourLeavesModel" (188 : Nat) ({ cls := "ParlourLeavesModel", name := "readNumber", desc := "(II)Z" } : Jvm.MethodName)) ∈ lw_all := lw_g (lw_at lw_m8 7 rfl) rfl
theorem q1796 : (Jvm.Cond.privateMethod ({ cls := "ParlourLeavesModel", name := "readNumber", desc := "(II)Z" } : Jvm.MethodName)) ∈ lw_tbl := lw_at lw_m8 8 rfl
theorem q1797 : (Jvm.Cond.instanceMethod ({ cls := "ParlourLeavesModel", name := "readNumber", desc := "(II)Z" } : Jvm.MethodName)) ∈ lw_all := lw_g (lw_at lw_m8 9 rfl) rfl
theorem q1798 : (Jvm.Cond.code ({ cls := "ParlourLeavesModel", name := "readNumber", desc := "(II)Z" } : Jvm.MethodName) prog_22_method_23_code (3 : Nat) (Option.some Jvm.ClassFile.FieldType.boolean)) ∈ lw_all := lw_g (lw_at lw_m8 10 rfl) rfl
theorem q1799 : (Jvm.Cond.methodLink "ParlourLeavesModel" (75 : Nat) ({ cls := "ParlourLeavesModel", name := "isIn", desc := "(III)Z" } : Jvm.MethodName)) ∈ lw_all := lw_g (lw_at lw_m8 11 rfl) rfl
theorem q1800 : (Jvm.Cond.static ({ cls := "ParlourLeavesModel", name := "isIn", desc := "(III)Z" } : Jvm.MethodName)) ∈ lw_all := lw_g (lw_at lw_m8 12 rfl) rfl
theorem q1801 : (Jvm.Cond.code ({ cls := "ParlourLeavesModel", name := "isIn", desc := "(III)Z" } : Jvm.MethodName) prog_22_method_7_code (3 : Nat) (Option.some Jvm.ClassFile.FieldType.boolean)) ∈ lw_all := lw_g (lw_at lw_m8 13 rfl) rfl
theorem q1802 : (Jvm.Cond.methodLink "ParlourLeavesModel" (203 : Nat) ({ cls := "ParlourLeavesModel", name := "readOnce", desc := "(III)Z" } : Jvm.MethodName)) ∈ lw_all := lw_g (lw_at lw_m8 14 rfl) rfl
theorem q1803 : (Jvm.Cond.privateMethod ({ cls := "ParlourLeavesModel", name := "readOnce", desc := "(III)Z" } : Jvm.MethodName)) ∈ lw_tbl := lw_at lw_m8 15 rfl
theorem q1804 : (Jvm.Cond.instanceMethod ({ cls := "ParlourLeavesModel", name := "readOnce", desc := "(III)Z" } : Jvm.MethodName)) ∈ lw_all := lw_g (lw_at lw_m8 16 rfl) rfl
theorem q1805 : (Jvm.Cond.code ({ cls := "ParlourLeavesModel", name := "readOnce", desc := "(III)Z" } : Jvm.MethodName) prog_22_method_37_code (4 : Nat) (Option.some Jvm.ClassFile.FieldType.boolean)) ∈ lw_all := lw_g (lw_at lw_m8 17 rfl) rfl
theorem q1806 : (Jvm.Cond.methodLink "ParlourLeavesModel" (212 : Nat) ({ cls := "ParlourLeavesModel", name := "readEnd", desc := "()Z" } : Jvm.MethodName)) ∈ lw_all := lw_g (lw_at lw_m8 18 rfl) rfl
theorem q1807 : (Jvm.Cond.privateMethod ({ cls := "ParlourLeavesModel", name := "readEnd", desc := "()Z" } : Jvm.MethodName)) ∈ lw_tbl := lw_at lw_m8 19 rfl
theorem q1808 : (Jvm.Cond.instanceMethod ({ cls := "ParlourLeavesModel", name := "readEnd", desc := "()Z" } : Jvm.MethodName)) ∈ lw_all := lw_g (lw_at lw_m8 20 rfl) rfl
theorem q1809 : (Jvm.Cond.code ({ cls := "ParlourLeavesModel", name := "readEnd", desc := "()Z" } : Jvm.MethodName) prog_22_method_24_code (1 : Nat) (Option.some Jvm.ClassFile.FieldType.boolean)) ∈ lw_all := lw_g (lw_at lw_m8 21 rfl) rfl
theorem q1810 : (Jvm.Cond.methodLink "ParlourLeavesModel" (86 : Nat) ({ cls := "ParlourLeavesModel", name := "isSign", desc := "(I)Z" } : Jvm.MethodName)) ∈ lw_all := lw_g (lw_at lw_m8 22 rfl) rfl
theorem q1811 : (Jvm.Cond.privateMethod ({ cls := "ParlourLeavesModel", name := "isSign", desc := "(I)Z" } : Jvm.MethodName)) ∈ lw_tbl := lw_at lw_m8 23 rfl
theorem q1812 : (Jvm.Cond.instanceMethod ({ cls := "ParlourLeavesModel", name := "isSign", desc := "(I)Z" } : Jvm.MethodName)) ∈ lw_all := lw_g (lw_at lw_m8 24 rfl) rfl
theorem q1813 : (Jvm.Cond.code ({ cls := "ParlourLeavesModel", name := "isSign", desc := "(I)Z" } : Jvm.MethodName) prog_22_method_20_code (2 : Nat) (Option.some Jvm.ClassFile.FieldType.boolean)) ∈ lw_all := lw_g (lw_at lw_m8 25 rfl) rfl
theorem q1815 : (Jvm.Cond.instanceMethod ({ cls := "ParlourLeavesModel", name := "fault", desc := "()I" } : Jvm.MethodName)) ∈ lw_all := lw_g (lw_at lw_m8 27 rfl) rfl
theorem q1816 : (Jvm.Cond.selects "ParlourLeavesModel" ({ cls := "ParlourLeavesModel", name := "fault", desc := "()I" } : Jvm.MethodName) ({ cls := "ParlourLeavesModel", name := "fault", desc := "()I" } : Jvm.MethodName)) ∈ lw_all := lw_g (lw_at lw_m8 28 rfl) rfl
theorem q1817 : (Jvm.Cond.code ({ cls := "ParlourLeavesModel", name := "fault", desc := "()I" } : Jvm.MethodName) prog_22_method_40_code (1 : Nat) (Option.some Jvm.ClassFile.FieldType.int)) ∈ lw_all := lw_g (lw_at lw_m8 29 rfl) rfl
theorem q1819 : (Jvm.Cond.instanceMethod ({ cls := "ParlourLeavesModel", name := "plant", desc := "(II)I" } : Jvm.MethodName)) ∈ lw_all := lw_g (lw_at lw_m8 31 rfl) rfl
theorem q1820 : (Jvm.Cond.selects "ParlourLeavesModel" ({ cls := "ParlourLeavesModel", name := "plant", desc := "(II)I" } : Jvm.MethodName) ({ cls := "ParlourLeavesModel", name := "plant", desc := "(II)I" } : Jvm.MethodName)) ∈ lw_all := lw_g (lw_at lw_m8 32 rfl) rfl
theorem q1821 : (Jvm.Cond.code ({ cls := "ParlourLeavesModel", name := "plant", desc := "(II)I" } : Jvm.MethodName) prog_22_method_56_code (3 : Nat) (Option.some Jvm.ClassFile.FieldType.int)) ∈ lw_all := lw_g (lw_at lw_m8 33 rfl) rfl
theorem q1822 : (Jvm.Cond.methodLink "ParlourLeavesModel" (244 : Nat) ({ cls := "ParlourLeavesModel", name := "isPlant", desc := "(I)Z" } : Jvm.MethodName)) ∈ lw_all := lw_g (lw_at lw_m8 34 rfl) rfl
theorem q1823 : (Jvm.Cond.privateMethod ({ cls := "ParlourLeavesModel", name := "isPlant", desc := "(I)Z" } : Jvm.MethodName)) ∈ lw_tbl := lw_at lw_m8 35 rfl
theorem q1824 : (Jvm.Cond.instanceMethod ({ cls := "ParlourLeavesModel", name := "isPlant", desc := "(I)Z" } : Jvm.MethodName)) ∈ lw_all := lw_g (lw_at lw_m8 36 rfl) rfl
theorem q1825 : (Jvm.Cond.code ({ cls := "ParlourLeavesModel", name := "isPlant", desc := "(I)Z" } : Jvm.MethodName) prog_22_method_42_code (2 : Nat) (Option.some Jvm.ClassFile.FieldType.boolean)) ∈ lw_all := lw_g (lw_at lw_m8 37 rfl) rfl
theorem q1826 : (Jvm.Cond.methodLink "ParlourLeavesModel" (247 : Nat) ({ cls := "ParlourLeavesModel", name := "refuse", desc := "()I" } : Jvm.MethodName)) ∈ lw_all := lw_g (lw_at lw_m8 38 rfl) rfl
theorem q1827 : (Jvm.Cond.privateMethod ({ cls := "ParlourLeavesModel", name := "refuse", desc := "()I" } : Jvm.MethodName)) ∈ lw_tbl := lw_at lw_m8 39 rfl
theorem q1828 : (Jvm.Cond.instanceMethod ({ cls := "ParlourLeavesModel", name := "refuse", desc := "()I" } : Jvm.MethodName)) ∈ lw_all := lw_g (lw_at lw_m8 40 rfl) rfl
theorem q1829 : (Jvm.Cond.code ({ cls := "ParlourLeavesModel", name := "refuse", desc := "()I" } : Jvm.MethodName) prog_22_method_2_code (1 : Nat) (Option.some Jvm.ClassFile.FieldType.int)) ∈ lw_all := lw_g (lw_at lw_m8 41 rfl) rfl
theorem q1830 : (Jvm.Cond.methodLink "ParlourLeavesModel" (218 : Nat) ({ cls := "ParlourLeavesModel", name := "isFern", desc := "(I)Z" } : Jvm.MethodName)) ∈ lw_all := lw_g (lw_at lw_m8 42 rfl) rfl
theorem q1831 : (Jvm.Cond.privateMethod ({ cls := "ParlourLeavesModel", name := "isFern", desc := "(I)Z" } : Jvm.MethodName)) ∈ lw_tbl := lw_at lw_m8 43 rfl
theorem q1832 : (Jvm.Cond.instanceMethod ({ cls := "ParlourLeavesModel", name := "isFern", desc := "(I)Z" } : Jvm.MethodName)) ∈ lw_all := lw_g (lw_at lw_m8 44 rfl) rfl
theorem q1833 : (Jvm.Cond.code ({ cls := "ParlourLeavesModel", name := "isFern", desc := "(I)Z" } : Jvm.MethodName) prog_22_method_46_code (2 : Nat) (Option.some Jvm.ClassFile.FieldType.boolean)) ∈ lw_all := lw_g (lw_at lw_m8 45 rfl) rfl
theorem q1834 : (Jvm.Cond.methodLink "ParlourLeavesModel" (250 : Nat) ({ cls := "ParlourLeavesModel", name := "seesOf", desc := "(II)I" } : Jvm.MethodName)) ∈ lw_all := lw_g (lw_at lw_m8 46 rfl) rfl
theorem q1835 : (Jvm.Cond.privateMethod ({ cls := "ParlourLeavesModel", name := "seesOf", desc := "(II)I" } : Jvm.MethodName)) ∈ lw_tbl := lw_at lw_m8 47 rfl
theorem q1836 : (Jvm.Cond.instanceMethod ({ cls := "ParlourLeavesModel", name := "seesOf", desc := "(II)I" } : Jvm.MethodName)) ∈ lw_all := lw_g (lw_at lw_m8 48 rfl) rfl
theorem q1837 : (Jvm.Cond.code ({ cls := "ParlourLeavesModel", name := "seesOf", desc := "(II)I" } : Jvm.MethodName) prog_22_method_48_code (3 : Nat) (Option.some Jvm.ClassFile.FieldType.int)) ∈ lw_all := lw_g (lw_at lw_m8 49 rfl) rfl
theorem q1838 : (Jvm.Cond.methodLink "ParlourLeavesModel" (221 : Nat) ({ cls := "ParlourLeavesModel", name := "around", desc := "(I)I" } : Jvm.MethodName)) ∈ lw_all := lw_g (lw_at lw_m8 50 rfl) rfl
theorem q1839 : (Jvm.Cond.privateMethod ({ cls := "ParlourLeavesModel", name := "around", desc := "(I)I" } : Jvm.MethodName)) ∈ lw_tbl := lw_at lw_m8 51 rfl
theorem q1840 : (Jvm.Cond.instanceMethod ({ cls := "ParlourLeavesModel", name := "around", desc := "(I)I" } : Jvm.MethodName)) ∈ lw_all := lw_g (lw_at lw_m8 52 rfl) rfl
theorem q1841 : (Jvm.Cond.code ({ cls := "ParlourLeavesModel", name := "around", desc := "(I)I" } : Jvm.MethodName) prog_22_method_47_code (2 : Nat) (Option.some Jvm.ClassFile.FieldType.int)) ∈ lw_all := lw_g (lw_at lw_m8 53 rfl) rfl
theorem q1842 : (Jvm.Cond.methodLink "ParlourLeavesModel" (253 : Nat) ({ cls := "ParlourLeavesModel", name := "shownBy", desc := "(IZ)I" } : Jvm.MethodName)) ∈ lw_all := lw_g (lw_at lw_m8 54 rfl) rfl
theorem q1843 : (Jvm.Cond.privateMethod ({ cls := "ParlourLeavesModel", name := "shownBy", desc := "(IZ)I" } : Jvm.MethodName)) ∈ lw_tbl := lw_at lw_m8 55 rfl
theorem q1844 : (Jvm.Cond.instanceMethod ({ cls := "ParlourLeavesModel", name := "shownBy", desc := "(IZ)I" } : Jvm.MethodName)) ∈ lw_all := lw_g (lw_at lw_m8 56 rfl) rfl
theorem q1845 : (Jvm.Cond.code ({ cls := "ParlourLeavesModel", name := "shownBy", desc := "(IZ)I" } : Jvm.MethodName) prog_22_method_52_code (5 : Nat) (Option.some Jvm.ClassFile.FieldType.int)) ∈ lw_all := lw_g (lw_at lw_m8 57 rfl) rfl
theorem q1846 : (Jvm.Cond.methodLink "ParlourLeavesModel" (228 : Nat) ({ cls := "ParlourLeavesModel", name := "hasCome", desc := "(II)Z" } : Jvm.MethodName)) ∈ lw_all := lw_g (lw_at lw_m8 58 rfl) rfl
theorem q1847 : (Jvm.Cond.privateMethod ({ cls := "ParlourLeavesModel", name := "hasCome", desc := "(II)Z" } : Jvm.MethodName)) ∈ lw_tbl := lw_at lw_m8 59 rfl
theorem q1848 : (Jvm.Cond.instanceMethod ({ cls := "ParlourLeavesModel", name := "hasCome", desc := "(II)Z" } : Jvm.MethodName)) ∈ lw_all := lw_g (lw_at lw_m8 60 rfl) rfl
theorem q1849 : (Jvm.Cond.code ({ cls := "ParlourLeavesModel", name := "hasCome", desc := "(II)Z" } : Jvm.MethodName) prog_22_method_50_code (3 : Nat) (Option.some Jvm.ClassFile.FieldType.boolean)) ∈ lw_all := lw_g (lw_at lw_m8 61 rfl) rfl
theorem q1850 : (Jvm.Cond.methodLink "ParlourLeavesModel" (224 : Nat) ({ cls := "ParlourLeavesModel", name := "leafOf", desc := "(II)I" } : Jvm.MethodName)) ∈ lw_all := lw_g (lw_at lw_m8 62 rfl) rfl
theorem q1851 : (Jvm.Cond.privateMethod ({ cls := "ParlourLeavesModel", name := "leafOf", desc := "(II)I" } : Jvm.MethodName)) ∈ lw_tbl := lw_at lw_m8 63 rfl
theorem q1852 : (Jvm.Cond.instanceMethod ({ cls := "ParlourLeavesModel", name := "leafOf", desc := "(II)I" } : Jvm.MethodName)) ∈ lw_all := lw_g (lw_at lw_m8 64 rfl) rfl
theorem q1853 : (Jvm.Cond.code ({ cls := "ParlourLeavesModel", name := "leafOf", desc := "(II)I" } : Jvm.MethodName) prog_22_method_49_code (3 : Nat) (Option.some Jvm.ClassFile.FieldType.int)) ∈ lw_all := lw_g (lw_at lw_m8 65 rfl) rfl
theorem q1854 : (Jvm.Cond.methodLink "ParlourLeavesModel" (231 : Nat) ({ cls := "ParlourLeavesModel", name := "willCome", desc := "(II)Z" } : Jvm.MethodName)) ∈ lw_all := lw_g (lw_at lw_m8 66 rfl) rfl
theorem q1855 : (Jvm.Cond.privateMethod ({ cls := "ParlourLeavesModel", name := "willCome", desc := "(II)Z" } : Jvm.MethodName)) ∈ lw_tbl := lw_at lw_m8 67 rfl
theorem q1856 : (Jvm.Cond.instanceMethod ({ cls := "ParlourLeavesModel", name := "willCome", desc := "(II)Z" } : Jvm.MethodName)) ∈ lw_all := lw_g (lw_at lw_m8 68 rfl) rfl
theorem q1857 : (Jvm.Cond.code ({ cls := "ParlourLeavesModel", name := "willCome", desc := "(II)Z" } : Jvm.MethodName) prog_22_method_51_code (3 : Nat) (Option.some Jvm.ClassFile.FieldType.boolean)) ∈ lw_all := lw_g (lw_at lw_m8 69 rfl) rfl
theorem q1858 : (Jvm.Cond.methodLink "ParlourLeavesModel" (238 : Nat) ({ cls := "ParlourLeavesModel", name := "bits", desc := "(I)I" } : Jvm.MethodName)) ∈ lw_all := lw_g (lw_at lw_m8 70 rfl) rfl
theorem q1859 : (Jvm.Cond.static ({ cls := "ParlourLeavesModel", name := "bits", desc := "(I)I" } : Jvm.MethodName)) ∈ lw_all := lw_g (lw_at lw_m8 71 rfl) rfl
theorem q1860 : (Jvm.Cond.code ({ cls := "ParlourLeavesModel", name := "bits", desc := "(I)I" } : Jvm.MethodName) prog_22_method_9_code (3 : Nat) (Option.some Jvm.ClassFile.FieldType.int)) ∈ lw_all := lw_g (lw_at lw_m8 72 rfl) rfl
theorem q1862 : (Jvm.Cond.instanceMethod ({ cls := "ParlourLeavesModel", name := "act", desc := "(II)I" } : Jvm.MethodName)) ∈ lw_all := lw_g (lw_at lw_m8 74 rfl) rfl
theorem q1863 : (Jvm.Cond.selects "ParlourLeavesModel" ({ cls := "ParlourLeavesModel", name := "act", desc := "(II)I" } : Jvm.MethodName) ({ cls := "ParlourLeavesModel", name := "act", desc := "(II)I" } : Jvm.MethodName)) ∈ lw_all := lw_g (lw_at lw_m8 75 rfl) rfl
theorem q1864 : (Jvm.Cond.code ({ cls := "ParlourLeavesModel", name := "act", desc := "(II)I" } : Jvm.MethodName) prog_22_method_57_code (3 : Nat) (Option.some Jvm.ClassFile.FieldType.int)) ∈ lw_all := lw_g (lw_at lw_m8 76 rfl) rfl
theorem q1865 : (Jvm.Cond.methodLink "ParlourLeavesModel" (256 : Nat) ({ cls := "ParlourLeavesModel", name := "isAct", desc := "(I)Z" } : Jvm.MethodName)) ∈ lw_all := lw_g (lw_at lw_m8 77 rfl) rfl
theorem q1866 : (Jvm.Cond.privateMethod ({ cls := "ParlourLeavesModel", name := "isAct", desc := "(I)Z" } : Jvm.MethodName)) ∈ lw_tbl := lw_at lw_m8 78 rfl
theorem q1867 : (Jvm.Cond.instanceMethod ({ cls := "ParlourLeavesModel", name := "isAct", desc := "(I)Z" } : Jvm.MethodName)) ∈ lw_all := lw_g (lw_at lw_m8 79 rfl) rfl
theorem q1868 : (Jvm.Cond.code ({ cls := "ParlourLeavesModel", name := "isAct", desc := "(I)Z" } : Jvm.MethodName) prog_22_method_45_code (2 : Nat) (Option.some Jvm.ClassFile.FieldType.boolean)) ∈ lw_all := lw_g (lw_at lw_m8 80 rfl) rfl
theorem q1869 : (Jvm.Cond.methodLink "ParlourLeavesModel" (234 : Nat) ({ cls := "ParlourLeavesModel", name := "plantsFor", desc := "(IZ)I" } : Jvm.MethodName)) ∈ lw_all := lw_g (lw_at lw_m8 81 rfl) rfl
theorem q1870 : (Jvm.Cond.privateMethod ({ cls := "ParlourLeavesModel", name := "plantsFor", desc := "(IZ)I" } : Jvm.MethodName)) ∈ lw_tbl := lw_at lw_m8 82 rfl
theorem q1871 : (Jvm.Cond.instanceMethod ({ cls := "ParlourLeavesModel", name := "plantsFor", desc := "(IZ)I" } : Jvm.MethodName)) ∈ lw_all := lw_g (lw_at lw_m8 83 rfl) rfl
theorem q1872 : (Jvm.Cond.code ({ cls := "ParlourLeavesModel", name := "plantsFor", desc := "(IZ)I" } : Jvm.MethodName) prog_22_method_53_code (5 : Nat) (Option.some Jvm.ClassFile.FieldType.int)) ∈ lw_all := lw_g (lw_at lw_m8 84 rfl) rfl
theorem q1873 : (Jvm.Cond.methodLink "ParlourLeavesModel" (241 : Nat) ({ cls := "ParlourLeavesModel", name := "isProved", desc := "(I)Z" } : Jvm.MethodName)) ∈ lw_all := lw_g (lw_at lw_m8 85 rfl) rfl
theorem q1874 : (Jvm.Cond.privateMethod ({ cls := "ParlourLeavesModel", name := "isProved", desc := "(I)Z" } : Jvm.MethodName)) ∈ lw_tbl := lw_at lw_m8 86 rfl
theorem q1875 : (Jvm.Cond.instanceMethod ({ cls := "ParlourLeavesModel", name := "isProved", desc := "(I)Z" } : Jvm.MethodName)) ∈ lw_all := lw_g (lw_at lw_m8 87 rfl) rfl
theorem q1876 : (Jvm.Cond.code ({ cls := "ParlourLeavesModel", name := "isProved", desc := "(I)Z" } : Jvm.MethodName) prog_22_method_54_code (2 : Nat) (Option.some Jvm.ClassFile.FieldType.boolean)) ∈ lw_all := lw_g (lw_at lw_m8 88 rfl) rfl
theorem q1878 : (Jvm.Cond.instanceMethod ({ cls := "ParlourLeavesModel", name := "comes", desc := "(II)I" } : Jvm.MethodName)) ∈ lw_all := lw_g (lw_at lw_m8 90 rfl) rfl
theorem q1879 : (Jvm.Cond.selects "ParlourLeavesModel" ({ cls := "ParlourLeavesModel", name := "comes", desc := "(II)I" } : Jvm.MethodName) ({ cls := "ParlourLeavesModel", name := "comes", desc := "(II)I" } : Jvm.MethodName)) ∈ lw_all := lw_g (lw_at lw_m8 91 rfl) rfl
theorem q1880 : (Jvm.Cond.code ({ cls := "ParlourLeavesModel", name := "comes", desc := "(II)I" } : Jvm.MethodName) prog_22_method_58_code (3 : Nat) (Option.some Jvm.ClassFile.FieldType.int)) ∈ lw_all := lw_g (lw_at lw_m8 92 rfl) rfl
theorem q1882 : (Jvm.Cond.instanceMethod ({ cls := "ParlourLeavesModel", name := "sights", desc := "(I)I" } : Jvm.MethodName)) ∈ lw_all := lw_g (lw_at lw_m8 94 rfl) rfl
theorem q1883 : (Jvm.Cond.selects "ParlourLeavesModel" ({ cls := "ParlourLeavesModel", name := "sights", desc := "(I)I" } : Jvm.MethodName) ({ cls := "ParlourLeavesModel", name := "sights", desc := "(I)I" } : Jvm.MethodName)) ∈ lw_all := lw_g (lw_at lw_m8 95 rfl) rfl
theorem q1884 : (Jvm.Cond.code ({ cls := "ParlourLeavesModel", name := "sights", desc := "(I)I" } : Jvm.MethodName) prog_22_method_59_code (2 : Nat) (Option.some Jvm.ClassFile.FieldType.int)) ∈ lw_all := lw_g (lw_at lw_m8 96 rfl) rfl
theorem q1885 : (Jvm.Cond.methodLink "ParlourLeavesModel" (259 : Nat) ({ cls := "ParlourLeavesModel", name := "isParlour", desc := "(I)Z" } : Jvm.MethodName)) ∈ lw_all := lw_g (lw_at lw_m8 97 rfl) rfl
theorem q1886 : (Jvm.Cond.privateMethod ({ cls := "ParlourLeavesModel", name := "isParlour", desc := "(I)Z" } : Jvm.MethodName)) ∈ lw_tbl := lw_at lw_m8 98 rfl
theorem q1887 : (Jvm.Cond.instanceMethod ({ cls := "ParlourLeavesModel", name := "isParlour", desc := "(I)Z" } : Jvm.MethodName)) ∈ lw_all := lw_g (lw_at lw_m8 99 rfl) rfl
theorem q1888 : (Jvm.Cond.code ({ cls := "ParlourLeavesModel", name := "isParlour", desc := "(I)Z" } : Jvm.MethodName) prog_22_method_41_code (2 : Nat) (Option.some Jvm.ClassFile.FieldType.boolean)) ∈ lw_all := lw_g (lw_at lw_m8 100 rfl) rfl
theorem q1890 : (Jvm.Cond.instanceMethod ({ cls := "ParlourLeavesModel", name := "now", desc := "(I)I" } : Jvm.MethodName)) ∈ lw_all := lw_g (lw_at lw_m8 102 rfl) rfl
theorem q1891 : (Jvm.Cond.selects "ParlourLeavesModel" ({ cls := "ParlourLeavesModel", name := "now", desc := "(I)I" } : Jvm.MethodName) ({ cls := "ParlourLeavesModel", name := "now", desc := "(I)I" } : Jvm.MethodName)) ∈ lw_all := lw_g (lw_at lw_m8 103 rfl) rfl
theorem q1892 : (Jvm.Cond.code ({ cls := "ParlourLeavesModel", name := "now", desc := "(I)I" } : Jvm.MethodName) prog_22_method_61_code (4 : Nat) (Option.some Jvm.ClassFile.FieldType.int)) ∈ lw_all := lw_g (lw_at lw_m8 104 rfl) rfl
theorem q1893 : (Jvm.Cond.methodLink "ParlourLeavesModel" (262 : Nat) ({ cls := "ParlourLeavesModel", name := "proved", desc := "()I" } : Jvm.MethodName)) ∈ lw_all := lw_g (lw_at lw_m8 105 rfl) rfl
theorem q1894 : (Jvm.Cond.privateMethod ({ cls := "ParlourLeavesModel", name := "proved", desc := "()I" } : Jvm.MethodName)) ∈ lw_tbl := lw_at lw_m8 106 rfl
theorem q1895 : (Jvm.Cond.instanceMethod ({ cls := "ParlourLeavesModel", name := "proved", desc := "()I" } : Jvm.MethodName)) ∈ lw_all := lw_g (lw_at lw_m8 107 rfl) rfl
theorem q1896 : (Jvm.Cond.code ({ cls := "ParlourLeavesModel", name := "proved", desc := "()I" } : Jvm.MethodName) prog_22_method_55_code (3 : Nat) (Option.some Jvm.ClassFile.FieldType.int)) ∈ lw_all := lw_g (lw_at lw_m8 108 rfl) rfl
theorem q1897 : (Jvm.Cond.methodLink "ParlourLeavesModel" (265 : Nat) ({ cls := "ParlourLeavesModel", name := "unseen", desc := "(I)I" } : Jvm.MethodName)) ∈ lw_all := lw_g (lw_at lw_m8 109 rfl) rfl
theorem q1898 : (Jvm.Cond.privateMethod ({ cls := "ParlourLeavesModel", name := "unseen", desc := "(I)I" } : Jvm.MethodName)) ∈ lw_tbl := lw_at lw_m8 110 rfl
theorem q1899 : (Jvm.Cond.instanceMethod ({ cls := "ParlourLeavesModel", name := "unseen", desc := "(I)I" } : Jvm.MethodName)) ∈ lw_all := lw_g (lw_at lw_m8 111 rfl) rfl
theorem q1900 : (Jvm.Cond.code ({ cls := "ParlourLeavesModel", name := "unseen", desc := "(I)I" } : Jvm.MethodName) prog_22_method_60_code (4 : Nat) (Option.some Jvm.ClassFile.FieldType.int)) ∈ lw_all := lw_g (lw_at lw_m8 112 rfl) rfl
theorem q1902 : (Jvm.Cond.instanceMethod ({ cls := "ParlourLeavesModel", name := "does", desc := "(III)I" } : Jvm.MethodName)) ∈ lw_all := lw_g (lw_at lw_m8 114 rfl) rfl
theorem q1903 : (Jvm.Cond.selects "ParlourLeavesModel" ({ cls := "ParlourLeavesModel", name := "does", desc := "(III)I" } : Jvm.MethodName) ({ cls := "ParlourLeavesModel", name := "does", desc := "(III)I" } : Jvm.MethodName)) ∈ lw_all := lw_g (lw_at lw_m8 115 rfl) rfl
theorem q1904 : (Jvm.Cond.code ({ cls := "ParlourLeavesModel", name := "does", desc := "(III)I" } : Jvm.MethodName) prog_22_method_68_code (4 : Nat) (Option.some Jvm.ClassFile.FieldType.int)) ∈ lw_all := lw_g (lw_at lw_m8 116 rfl) rfl
theorem q1905 : (Jvm.Cond.methodLink "ParlourLeavesModel" (286 : Nat) ({ cls := "ParlourLeavesModel", name := "isPerson", desc := "(I)Z" } : Jvm.MethodName)) ∈ lw_all := lw_g (lw_at lw_m8 117 rfl) rfl
theorem q1906 : (Jvm.Cond.privateMethod ({ cls := "ParlourLeavesModel", name := "isPerson", desc := "(I)Z" } : Jvm.MethodName)) ∈ lw_tbl := lw_at lw_m8 118 rfl
theorem q1907 : (Jvm.Cond.instanceMethod ({ cls := "ParlourLeavesModel", name := "isPerson", desc := "(I)Z" } : Jvm.MethodName)) ∈ lw_all := lw_g (lw_at lw_m8 119 rfl) rfl
theorem q1908 : (Jvm.Cond.code ({ cls := "ParlourLeavesModel", name := "isPerson", desc := "(I)Z" } : Jvm.MethodName) prog_22_method_43_code (2 : Nat) (Option.some Jvm.ClassFile.FieldType.boolean)) ∈ lw_all := lw_g (lw_at lw_m8 120 rfl) rfl
theorem q1909 : (Jvm.Cond.methodLink "ParlourLeavesModel" (289 : Nat) ({ cls := "ParlourLeavesModel", name := "isDeed", desc := "(I)Z" } : Jvm.MethodName)) ∈ lw_all := lw_g (lw_at lw_m8 121 rfl) rfl
theorem q1910 : (Jvm.Cond.privateMethod ({ cls := "ParlourLeavesModel", name := "isDeed", desc := "(I)Z" } : Jvm.MethodName)) ∈ lw_tbl := lw_at lw_m8 122 rfl
theorem q1911 : (Jvm.Cond.instanceMethod ({ cls := "ParlourLeavesModel", name := "isDeed", desc := "(I)Z" } : Jvm.MethodName)) ∈ lw_all := lw_g (lw_at lw_m8 123 rfl) rfl
theorem q1912 : (Jvm.Cond.code ({ cls := "ParlourLeavesModel", name := "isDeed", desc := "(I)Z" } : Jvm.MethodName) prog_22_method_44_code (2 : Nat) (Option.some Jvm.ClassFile.FieldType.boolean)) ∈ lw_all := lw_g (lw_at lw_m8 124 rfl) rfl
theorem q1913 : (Jvm.Cond.methodLink "ParlourLeavesModel" (292 : Nat) ({ cls := "ParlourLeavesModel", name := "doIt", desc := "(IIIIZ)I" } : Jvm.MethodName)) ∈ lw_all := lw_g (lw_at lw_m8 125 rfl) rfl
theorem q1914 : (Jvm.Cond.privateMethod ({ cls := "ParlourLeavesModel", name := "doIt", desc := "(IIIIZ)I" } : Jvm.MethodName)) ∈ lw_tbl := lw_at lw_m8 126 rfl
theorem q1915 : (Jvm.Cond.instanceMethod ({ cls := "ParlourLeavesModel", name := "doIt", desc := "(IIIIZ)I" } : Jvm.MethodName)) ∈ lw_all := lw_g (lw_at lw_m8 127 rfl) rfl
theorem q1916 : (Jvm.Cond.code ({ cls := "ParlourLeavesModel", name := "doIt", desc := "(IIIIZ)I" } : Jvm.MethodName) prog_22_method_67_code (7 : Nat) (Option.some Jvm.ClassFile.FieldType.int)) ∈ lw_all := lw_g (lw_at lw_m8 128 rfl) rfl
theorem q1917 : (Jvm.Cond.methodLink "ParlourLeavesModel" (275 : Nat) ({ cls := "ParlourLeavesModel", name := "why", desc := "(III)I" } : Jvm.MethodName)) ∈ lw_all := lw_g (lw_at lw_m8 129 rfl) rfl
theorem q1918 : (Jvm.Cond.privateMethod ({ cls := "ParlourLeavesModel", name := "why", desc := "(III)I" } : Jvm.MethodName)) ∈ lw_tbl := lw_at lw_m8 130 rfl
theorem q1919 : (Jvm.Cond.instanceMethod ({ cls := "ParlourLeavesModel", name := "why", desc := "(III)I" } : Jvm.MethodName)) ∈ lw_all := lw_g (lw_at lw_m8 131 rfl) rfl
theorem q1920 : (Jvm.Cond.code ({ cls := "ParlourLeavesModel", name := "why", desc := "(III)I" } : Jvm.MethodName) prog_22_method_63_code (4 : Nat) (Option.some Jvm.ClassFile.FieldType.int)) ∈ lw_all := lw_g (lw_at lw_m8 132 rfl) rfl
theorem q1921 : (Jvm.Cond.methodLink "ParlourLeavesModel" (279 : Nat) ({ cls := "ParlourLeavesModel", name := "snap", desc := "()V" } : Jvm.MethodName)) ∈ lw_all := lw_g (lw_at lw_m8 133 rfl) rfl
theorem q1922 : (Jvm.Cond.privateMethod ({ cls := "ParlourLeavesModel", name := "snap", desc := "()V" } : Jvm.MethodName)) ∈ lw_tbl := lw_at lw_m8 134 rfl
theorem q1923 : (Jvm.Cond.instanceMethod ({ cls := "ParlourLeavesModel", name := "snap", desc := "()V" } : Jvm.MethodName)) ∈ lw_all := lw_g (lw_at lw_m8 135 rfl) rfl
theorem q1924 : (Jvm.Cond.code ({ cls := "ParlourLeavesModel", name := "snap", desc := "()V" } : Jvm.MethodName) prog_22_method_62_code (2 : Nat) (Option.none : Option Jvm.ClassFile.FieldType)) ∈ lw_all := lw_g (lw_at lw_m8 136 rfl) rfl
theorem q1925 : (Jvm.Cond.methodLink "ParlourLeavesModel" (282 : Nat) ({ cls := "ParlourLeavesModel", name := "live", desc := "(IIII)V" } : Jvm.MethodName)) ∈ lw_all := lw_g (lw_at lw_m8 137 rfl) rfl
theorem q1926 : (Jvm.Cond.privateMethod ({ cls := "ParlourLeavesModel", name := "live", desc := "(IIII)V" } : Jvm.MethodName)) ∈ lw_tbl := lw_at lw_m8 138 rfl
theorem q1927 : (Jvm.Cond.instanceMethod ({ cls := "ParlourLeavesModel", name := "live", desc := "(IIII)V" } : Jvm.MethodName)) ∈ lw_all := lw_g (lw_at lw_m8 139 rfl) rfl
theorem q1928 : (Jvm.Cond.code ({ cls := "ParlourLeavesModel", name := "live", desc := "(IIII)V" } : Jvm.MethodName) prog_22_method_66_code (5 : Nat) (Option.none : Option Jvm.ClassFile.FieldType)) ∈ lw_all := lw_g (lw_at lw_m8 140 rfl) rfl
theorem q1929 : (Jvm.Cond.methodLink "ParlourLeavesModel" (271 : Nat) ({ cls := "ParlourLeavesModel", name := "doDeed", desc := "(III)V" } : Jvm.MethodName)) ∈ lw_all := lw_g (lw_at lw_m8 141 rfl) rfl
theorem q1930 : (Jvm.Cond.privateMethod ({ cls := "ParlourLeavesModel", name := "doDeed", desc := "(III)V" } : Jvm.MethodName)) ∈ lw_tbl := lw_at lw_m8 142 rfl
theorem q1931 : (Jvm.Cond.instanceMethod ({ cls := "ParlourLeavesModel", name := "doDeed", desc := "(III)V" } : Jvm.MethodName)) ∈ lw_all := lw_g (lw_at lw_m8 143 rfl) rfl
theorem q1932 : (Jvm.Cond.code ({ cls := "ParlourLeavesModel", name := "doDeed", desc := "(III)V" } : Jvm.MethodName) prog_22_method_65_code (6 : Nat) (Option.none : Option Jvm.ClassFile.FieldType)) ∈ lw_all := lw_g (lw_at lw_m8 144 rfl) rfl
theorem q1933 : (Jvm.Cond.methodLink "ParlourLeavesModel" (268 : Nat) ({ cls := "ParlourLeavesModel", name := "nextLeaf", desc := "(I)I" } : Jvm.MethodName)) ∈ lw_all := lw_g (lw_at lw_m8 145 rfl) rfl
theorem q1934 : (Jvm.Cond.privateMethod ({ cls := "ParlourLeavesModel", name := "nextLeaf", desc := "(I)I" } : Jvm.MethodName)) ∈ lw_tbl := lw_at lw_m8 146 rfl
theorem q1935 : (Jvm.Cond.instanceMethod ({ cls := "ParlourLeavesModel", name := "nextLeaf", desc := "(I)I" } : Jvm.MethodName)) ∈ lw_all := lw_g (lw_at lw_m8 147 rfl) rfl
theorem q1936 : (Jvm.Cond.code ({ cls := "ParlourLeavesModel", name := "nextLeaf", desc := "(I)I" } : Jvm.MethodName) prog_22_method_64_code (2 : Nat) (Option.some Jvm.ClassFile.FieldType.int)) ∈ lw_all := lw_g (lw_at lw_m8 148 rfl) rfl
theorem q1938 : (Jvm.Cond.instanceMethod ({ cls := "ParlourLeavesModel", name := "sponge", desc := "(I)I" } : Jvm.MethodName)) ∈ lw_all := lw_g (lw_at lw_m8 150 rfl) rfl
theorem q1939 : (Jvm.Cond.selects "ParlourLeavesModel" ({ cls := "ParlourLeavesModel", name := "sponge", desc := "(I)I" } : Jvm.MethodName) ({ cls := "ParlourLeavesModel", name := "sponge", desc := "(I)I" } : Jvm.MethodName)) ∈ lw_all := lw_g (lw_at lw_m8 151 rfl) rfl
theorem q1940 : (Jvm.Cond.code ({ cls := "ParlourLeavesModel", name := "sponge", desc := "(I)I" } : Jvm.MethodName) prog_22_method_69_code (2 : Nat) (Option.some Jvm.ClassFile.FieldType.int)) ∈ lw_all := lw_g (lw_at lw_m8 152 rfl) rfl
theorem q1942 : (Jvm.Cond.instanceMethod ({ cls := "ParlourLeavesModel", name := "carry", desc := "(II)I" } : Jvm.MethodName)) ∈ lw_all := lw_g (lw_at lw_m8 154 rfl) rfl
theorem q1943 : (Jvm.Cond.selects "ParlourLeavesModel" ({ cls := "ParlourLeavesModel", name := "carry", desc := "(II)I" } : Jvm.MethodName) ({ cls := "ParlourLeavesModel", name := "carry", desc := "(II)I" } : Jvm.MethodName)) ∈ lw_all := lw_g (lw_at lw_m8 155 rfl) rfl
theorem q1944 : (Jvm.Cond.code ({ cls := "ParlourLeavesModel", name := "carry", desc := "(II)I" } : Jvm.MethodName) prog_22_method_70_code (3 : Nat) (Option.some Jvm.ClassFile.FieldType.int)) ∈ lw_all := lw_g (lw_at lw_m8 156 rfl) rfl
theorem q1946 : (Jvm.Cond.instanceMethod ({ cls := "ParlourLeavesModel", name := "undo", desc := "()I" } : Jvm.MethodName)) ∈ lw_all := lw_g (lw_at lw_m8 158 rfl) rfl
theorem q1947 : (Jvm.Cond.selects "ParlourLeavesModel" ({ cls := "ParlourLeavesModel", name := "undo", desc := "()I" } : Jvm.MethodName) ({ cls := "ParlourLeavesModel", name := "undo", desc := "()I" } : Jvm.MethodName)) ∈ lw_all := lw_g (lw_at lw_m8 159 rfl) rfl
theorem q1948 : (Jvm.Cond.code ({ cls := "ParlourLeavesModel", name := "undo", desc := "()I" } : Jvm.MethodName) prog_22_method_71_code (2 : Nat) (Option.some Jvm.ClassFile.FieldType.int)) ∈ lw_all := lw_g (lw_at lw_m8 160 rfl) rfl
theorem q1950 : (Jvm.Cond.instanceMethod ({ cls := "ParlourLeavesModel", name := "days", desc := "(I)I" } : Jvm.MethodName)) ∈ lw_all := lw_g (lw_at lw_m8 162 rfl) rfl
theorem q1951 : (Jvm.Cond.selects "ParlourLeavesModel" ({ cls := "ParlourLeavesModel", name := "days", desc := "(I)I" } : Jvm.MethodName) ({ cls := "ParlourLeavesModel", name := "days", desc := "(I)I" } : Jvm.MethodName)) ∈ lw_all := lw_g (lw_at lw_m8 163 rfl) rfl
theorem q1952 : (Jvm.Cond.code ({ cls := "ParlourLeavesModel", name := "days", desc := "(I)I" } : Jvm.MethodName) prog_22_method_74_code (2 : Nat) (Option.some Jvm.ClassFile.FieldType.int)) ∈ lw_all := lw_g (lw_at lw_m8 164 rfl) rfl
theorem q1953 : (Jvm.Cond.methodLink "ParlourLeavesModel" (302 : Nat) ({ cls := "ParlourLeavesModel", name := "passDays", desc := "(I)I" } : Jvm.MethodName)) ∈ lw_all := lw_g (lw_at lw_m8 165 rfl) rfl
theorem q1954 : (Jvm.Cond.privateMethod ({ cls := "ParlourLeavesModel", name := "passDays", desc := "(I)I" } : Jvm.MethodName)) ∈ lw_tbl := lw_at lw_m8 166 rfl
theorem q1955 : (Jvm.Cond.instanceMethod ({ cls := "ParlourLeavesModel", name := "passDays", desc := "(I)I" } : Jvm.MethodName)) ∈ lw_all := lw_g (lw_at lw_m8 167 rfl) rfl
theorem q1956 : (Jvm.Cond.code ({ cls := "ParlourLeavesModel", name := "passDays", desc := "(I)I" } : Jvm.MethodName) prog_22_method_73_code (4 : Nat) (Option.some Jvm.ClassFile.FieldType.int)) ∈ lw_all := lw_g (lw_at lw_m8 168 rfl) rfl
theorem q1957 : (Jvm.Cond.methodLink "ParlourLeavesModel" (296 : Nat) ({ cls := "ParlourLeavesModel", name := "least", desc := "(II)I" } : Jvm.MethodName)) ∈ lw_all := lw_g (lw_at lw_m8 169 rfl) rfl
theorem q1958 : (Jvm.Cond.static ({ cls := "ParlourLeavesModel", name := "least", desc := "(II)I" } : Jvm.MethodName)) ∈ lw_all := lw_g (lw_at lw_m8 170 rfl) rfl
theorem q1959 : (Jvm.Cond.code ({ cls := "ParlourLeavesModel", name := "least", desc := "(II)I" } : Jvm.MethodName) prog_22_method_10_code (2 : Nat) (Option.some Jvm.ClassFile.FieldType.int)) ∈ lw_all := lw_g (lw_at lw_m8 171 rfl) rfl
theorem q1960 : (Jvm.Cond.methodLink "ParlourLeavesModel" (299 : Nat) ({ cls := "ParlourLeavesModel", name := "oneDay", desc := "()V" } : Jvm.MethodName)) ∈ lw_all := lw_g (lw_at lw_m8 172 rfl) rfl
theorem q1961 : (Jvm.Cond.privateMethod ({ cls := "ParlourLeavesModel", name := "oneDay", desc := "()V" } : Jvm.MethodName)) ∈ lw_tbl := lw_at lw_m8 173 rfl
theorem q1962 : (Jvm.Cond.instanceMethod ({ cls := "ParlourLeavesModel", name := "oneDay", desc := "()V" } : Jvm.MethodName)) ∈ lw_all := lw_g (lw_at lw_m8 174 rfl) rfl
theorem q1963 : (Jvm.Cond.code ({ cls := "ParlourLeavesModel", name := "oneDay", desc := "()V" } : Jvm.MethodName) prog_22_method_72_code (2 : Nat) (Option.none : Option Jvm.ClassFile.FieldType)) ∈ lw_all := lw_g (lw_at lw_m8 175 rfl) rfl
theorem q1965 : (Jvm.Cond.instanceMethod ({ cls := "ParlourLeavesModel", name := "guilty", desc := "(II)I" } : Jvm.MethodName)) ∈ lw_all := lw_g (lw_at lw_m8 177 rfl) rfl
theorem q1966 : (Jvm.Cond.selects "ParlourLeavesModel" ({ cls := "ParlourLeavesModel", name := "guilty", desc := "(II)I" } : Jvm.MethodName) ({ cls := "ParlourLeavesModel", name := "guilty", desc := "(II)I" } : Jvm.MethodName)) ∈ lw_all := lw_g (lw_at lw_m8 178 rfl) rfl
theorem q1967 : (Jvm.Cond.code ({ cls := "ParlourLeavesModel", name := "guilty", desc := "(II)I" } : Jvm.MethodName) prog_22_method_75_code (4 : Nat) (Option.some Jvm.ClassFile.FieldType.int)) ∈ lw_all := lw_g (lw_at lw_m8 179 rfl) rfl
theorem q1969 : (Jvm.Cond.instanceMethod ({ cls := "ParlourLeavesModel", name := "proves", desc := "(I)I" } : Jvm.MethodName)) ∈ lw_all := lw_g (lw_at lw_m8 181 rfl) rfl
theorem q1970 : (Jvm.Cond.selects "ParlourLeavesModel" ({ cls := "ParlourLeavesModel", name := "proves", desc := "(I)I" } : Jvm.MethodName) ({ cls := "ParlourLeavesModel", name := "proves", desc := "(I)I" } : Jvm.MethodName)) ∈ lw_all := lw_g (lw_at lw_m8 182 rfl) rfl
theorem q1971 : (Jvm.Cond.code ({ cls := "ParlourLeavesModel", name := "proves", desc := "(I)I" } : Jvm.MethodName) prog_22_method_76_code (7 : Nat) (Option.some Jvm.ClassFile.FieldType.int)) ∈ lw_all := lw_g (lw_at lw_m8 183 rfl) rfl
theorem q1973 : (Jvm.Cond.instanceMethod ({ cls := "ParlourLeavesModel", name := "hides", desc := "(I)I" } : Jvm.MethodName)) ∈ lw_all := lw_g (lw_at lw_m8 185 rfl) rfl
theorem q1974 : (Jvm.Cond.selects "ParlourLeavesModel" ({ cls := "ParlourLeavesModel", name := "hides", desc := "(I)I" } : Jvm.MethodName) ({ cls := "ParlourLeavesModel", name := "hides", desc := "(I)I" } : Jvm.MethodName)) ∈ lw_all := lw_g (lw_at lw_m8 186 rfl) rfl
theorem q1975 : (Jvm.Cond.code ({ cls := "ParlourLeavesModel", name := "hides", desc := "(I)I" } : Jvm.MethodName) prog_22_method_77_code (4 : Nat) (Option.some Jvm.ClassFile.FieldType.int)) ∈ lw_all := lw_g (lw_at lw_m8 187 rfl) rfl
theorem q1977 : (Jvm.Cond.instanceMethod ({ cls := "ParlourLeavesModel", name := "dark", desc := "(I)I" } : Jvm.MethodName)) ∈ lw_all := lw_g (lw_at lw_m8 189 rfl) rfl
theorem q1978 : (Jvm.Cond.selects "ParlourLeavesModel" ({ cls := "ParlourLeavesModel", name := "dark", desc := "(I)I" } : Jvm.MethodName) ({ cls := "ParlourLeavesModel", name := "dark", desc := "(I)I" } : Jvm.MethodName)) ∈ lw_all := lw_g (lw_at lw_m8 190 rfl) rfl
theorem q1979 : (Jvm.Cond.code ({ cls := "ParlourLeavesModel", name := "dark", desc := "(I)I" } : Jvm.MethodName) prog_22_method_78_code (3 : Nat) (Option.some Jvm.ClassFile.FieldType.int)) ∈ lw_all := lw_g (lw_at lw_m8 191 rfl) rfl
theorem q1981 : (Jvm.Cond.instanceMethod ({ cls := "ParlourLeavesModel", name := "fits", desc := "()I" } : Jvm.MethodName)) ∈ lw_all := lw_g (lw_at lw_m8 193 rfl) rfl
theorem q1982 : (Jvm.Cond.selects "ParlourLeavesModel" ({ cls := "ParlourLeavesModel", name := "fits", desc := "()I" } : Jvm.MethodName) ({ cls := "ParlourLeavesModel", name := "fits", desc := "()I" } : Jvm.MethodName)) ∈ lw_all := lw_g (lw_at lw_m8 194 rfl) rfl
theorem q1983 : (Jvm.Cond.code ({ cls := "ParlourLeavesModel", name := "fits", desc := "()I" } : Jvm.MethodName) prog_22_method_79_code (7 : Nat) (Option.some Jvm.ClassFile.FieldType.int)) ∈ lw_all := lw_g (lw_at lw_m8 195 rfl) rfl
theorem q1984 : (Jvm.Cond.constant "ParlourLeavesModel" (305 : Nat) (100000 : Int32)) ∈ lw_all := lw_g (lw_at lw_m8 196 rfl) rfl
theorem q1985 : (Jvm.Cond.methodLink "ParlourLeavesModel" (306 : Nat) ({ cls := "ParlourLeavesModel", name := "size", desc := "(I)I" } : Jvm.MethodName)) ∈ lw_all := lw_g (lw_at lw_m8 197 rfl) rfl
theorem q1986 : (Jvm.Cond.static ({ cls := "ParlourLeavesModel", name := "size", desc := "(I)I" } : Jvm.MethodName)) ∈ lw_all := lw_g (lw_at lw_m8 198 rfl) rfl
theorem q1987 : (Jvm.Cond.code ({ cls := "ParlourLeavesModel", name := "size", desc := "(I)I" } : Jvm.MethodName) prog_22_method_11_code (1 : Nat) (Option.some Jvm.ClassFile.FieldType.int)) ∈ lw_all := lw_g (lw_at lw_m8 199 rfl) rfl
theorem q1989 : (Jvm.Cond.instanceMethod ({ cls := "ParlourLeavesModel", name := "ask", desc := "()I" } : Jvm.MethodName)) ∈ lw_all := lw_g (lw_at lw_m8 201 rfl) rfl
theorem q1990 : (Jvm.Cond.selects "ParlourLeavesModel" ({ cls := "ParlourLeavesModel", name := "ask", desc := "()I" } : Jvm.MethodName) ({ cls := "ParlourLeavesModel", name := "ask", desc := "()I" } : Jvm.MethodName)) ∈ lw_all := lw_g (lw_at lw_m8 202 rfl) rfl
theorem q1991 : (Jvm.Cond.code ({ cls := "ParlourLeavesModel", name := "ask", desc := "()I" } : Jvm.MethodName) prog_22_method_80_code (1 : Nat) (Option.some Jvm.ClassFile.FieldType.int)) ∈ lw_all := lw_g (lw_at lw_m8 203 rfl) rfl
theorem q1993 : (Jvm.Cond.instanceMethod ({ cls := "ParlourLeavesModel", name := "cover", desc := "()I" } : Jvm.MethodName)) ∈ lw_all := lw_g (lw_at lw_m8 205 rfl) rfl
theorem q1994 : (Jvm.Cond.selects "ParlourLeavesModel" ({ cls := "ParlourLeavesModel", name := "cover", desc := "()I" } : Jvm.MethodName) ({ cls := "ParlourLeavesModel", name := "cover", desc := "()I" } : Jvm.MethodName)) ∈ lw_all := lw_g (lw_at lw_m8 206 rfl) rfl
theorem q1995 : (Jvm.Cond.code ({ cls := "ParlourLeavesModel", name := "cover", desc := "()I" } : Jvm.MethodName) prog_22_method_82_code (4 : Nat) (Option.some Jvm.ClassFile.FieldType.int)) ∈ lw_all := lw_g (lw_at lw_m8 207 rfl) rfl
theorem q1996 : (Jvm.Cond.methodLink "ParlourLeavesModel" (308 : Nat) ({ cls := "ParlourLeavesModel", name := "seenFrom", desc := "(I)I" } : Jvm.MethodName)) ∈ lw_all := lw_g (lw_at lw_m8 208 rfl) rfl
theorem q1997 : (Jvm.Cond.privateMethod ({ cls := "ParlourLeavesModel", name := "seenFrom", desc := "(I)I" } : Jvm.MethodName)) ∈ lw_tbl := lw_at lw_m8 209 rfl
theorem q1998 : (Jvm.Cond.instanceMethod ({ cls := "ParlourLeavesModel", name := "seenFrom", desc := "(I)I" } : Jvm.MethodName)) ∈ lw_all := lw_g (lw_at lw_m8 210 rfl) rfl
theorem q1999 : (Jvm.Cond.code ({ cls := "ParlourLeavesModel", name := "seenFrom", desc := "(I)I" } : Jvm.MethodName) prog_22_method_81_code (4 : Nat) (Option.some Jvm.ClassFile.FieldType.int)) ∈ lw_all := lw_g (lw_at lw_m8 211 rfl) rfl
theorem q2001 : (Jvm.Cond.instanceMethod ({ cls := "ParlourLeavesModel", name := "covering", desc := "()I" } : Jvm.MethodName)) ∈ lw_all := lw_g (lw_at lw_m8 213 rfl) rfl
theorem q2002 : (Jvm.Cond.selects "ParlourLeavesModel" ({ cls := "ParlourLeavesModel", name := "covering", desc := "()I" } : Jvm.MethodName) ({ cls := "ParlourLeavesModel", name := "covering", desc := "()I" } : Jvm.MethodName)) ∈ lw_all := lw_g (lw_at lw_m8 214 rfl) rfl
theorem q2003 : (Jvm.Cond.code ({ cls := "ParlourLeavesModel", name := "covering", desc := "()I" } : Jvm.MethodName) prog_22_method_83_code (1 : Nat) (Option.some Jvm.ClassFile.FieldType.int)) ∈ lw_all := lw_g (lw_at lw_m8 215 rfl) rfl
theorem q2005 : (Jvm.Cond.instanceMethod ({ cls := "ParlourLeavesModel", name := "round", desc := "(I)I" } : Jvm.MethodName)) ∈ lw_all := lw_g (lw_at lw_m8 217 rfl) rfl
theorem q2006 : (Jvm.Cond.selects "ParlourLeavesModel" ({ cls := "ParlourLeavesModel", name := "round", desc := "(I)I" } : Jvm.MethodName) ({ cls := "ParlourLeavesModel", name := "round", desc := "(I)I" } : Jvm.MethodName)) ∈ lw_all := lw_g (lw_at lw_m8 218 rfl) rfl
theorem q2007 : (Jvm.Cond.code ({ cls := "ParlourLeavesModel", name := "round", desc := "(I)I" } : Jvm.MethodName) prog_22_method_86_code (7 : Nat) (Option.some Jvm.ClassFile.FieldType.int)) ∈ lw_all := lw_g (lw_at lw_m8 219 rfl) rfl
theorem q2008 : (Jvm.Cond.methodLink "ParlourLeavesModel" (314 : Nat) ({ cls := "ParlourLeavesModel", name := "laySteps", desc := "()V" } : Jvm.MethodName)) ∈ lw_all := lw_g (lw_at lw_m8 220 rfl) rfl
theorem q2009 : (Jvm.Cond.privateMethod ({ cls := "ParlourLeavesModel", name := "laySteps", desc := "()V" } : Jvm.MethodName)) ∈ lw_tbl := lw_at lw_m8 221 rfl
theorem q2010 : (Jvm.Cond.instanceMethod ({ cls := "ParlourLeavesModel", name := "laySteps", desc := "()V" } : Jvm.MethodName)) ∈ lw_all := lw_g (lw_at lw_m8 222 rfl) rfl
theorem q2011 : (Jvm.Cond.code ({ cls := "ParlourLeavesModel", name := "laySteps", desc := "()V" } : Jvm.MethodName) prog_22_method_85_code (6 : Nat) (Option.none : Option Jvm.ClassFile.FieldType)) ∈ lw_all := lw_g (lw_at lw_m8 223 rfl) rfl
theorem q2012 : (Jvm.Cond.methodLink "ParlourLeavesModel" (311 : Nat) ({ cls := "ParlourLeavesModel", name := "cellOf", desc := "(II)I" } : Jvm.MethodName)) ∈ lw_all := lw_g (lw_at lw_m8 224 rfl) rfl
theorem q2013 : (Jvm.Cond.static ({ cls := "ParlourLeavesModel", name := "cellOf", desc := "(II)I" } : Jvm.MethodName)) ∈ lw_all := lw_g (lw_at lw_m8 225 rfl) rfl
theorem q2014 : (Jvm.Cond.code ({ cls := "ParlourLeavesModel", name := "cellOf", desc := "(II)I" } : Jvm.MethodName) prog_22_method_84_code (2 : Nat) (Option.some Jvm.ClassFile.FieldType.int)) ∈ lw_all := lw_g (lw_at lw_m8 226 rfl) rfl
theorem q2016 : (Jvm.Cond.instanceMethod ({ cls := "ParlourLeavesModel", name := "roundAt", desc := "(I)I" } : Jvm.MethodName)) ∈ lw_all := lw_g (lw_at lw_m8 228 rfl) rfl
theorem q2017 : (Jvm.Cond.selects "ParlourLeavesModel" ({ cls := "ParlourLeavesModel", name := "roundAt", desc := "(I)I" } : Jvm.MethodName) ({ cls := "ParlourLeavesModel", name := "roundAt", desc := "(I)I" } : Jvm.MethodName)) ∈ lw_all := lw_g (lw_at lw_m8 229 rfl) rfl
theorem q2018 : (Jvm.Cond.code ({ cls := "ParlourLeavesModel", name := "roundAt", desc := "(I)I" } : Jvm.MethodName) prog_22_method_87_code (2 : Nat) (Option.some Jvm.ClassFile.FieldType.int)) ∈ lw_all := lw_g (lw_at lw_m8 230 rfl) rfl
theorem q2020 : (Jvm.Cond.instanceMethod ({ cls := "ParlourLeavesModel", name := "choice", desc := "()I" } : Jvm.MethodName)) ∈ lw_all := lw_g (lw_at lw_m8 232 rfl) rfl
theorem q2021 : (Jvm.Cond.selects "ParlourLeavesModel" ({ cls := "ParlourLeavesModel", name := "choice", desc := "()I" } : Jvm.MethodName) ({ cls := "ParlourLeavesModel", name := "choice", desc := "()I" } : Jvm.MethodName)) ∈ lw_all := lw_g (lw_at lw_m8 233 rfl) rfl
theorem q2022 : (Jvm.Cond.code ({ cls := "ParlourLeavesModel", name := "choice", desc := "()I" } : Jvm.MethodName) prog_22_method_90_code (6 : Nat) (Option.some Jvm.ClassFile.FieldType.int)) ∈ lw_all := lw_g (lw_at lw_m8 234 rfl) rfl
theorem q2023 : (Jvm.Cond.methodLink "ParlourLeavesModel" (323 : Nat) ({ cls := "ParlourLeavesModel", name := "fewestSee", desc := "()I" } : Jvm.MethodName)) ∈ lw_all := lw_g (lw_at lw_m8 235 rfl) rfl
theorem q2024 : (Jvm.Cond.privateMethod ({ cls := "ParlourLeavesModel", name := "fewestSee", desc := "()I" } : Jvm.MethodName)) ∈ lw_tbl := lw_at lw_m8 236 rfl
theorem q2025 : (Jvm.Cond.instanceMethod ({ cls := "ParlourLeavesModel", name := "fewestSee", desc := "()I" } : Jvm.MethodName)) ∈ lw_all := lw_g (lw_at lw_m8 237 rfl) rfl
theorem q2026 : (Jvm.Cond.code ({ cls := "ParlourLeavesModel", name := "fewestSee", desc := "()I" } : Jvm.MethodName) prog_22_method_88_code (5 : Nat) (Option.some Jvm.ClassFile.FieldType.int)) ∈ lw_all := lw_g (lw_at lw_m8 238 rfl) rfl
theorem q2027 : (Jvm.Cond.methodLink "ParlourLeavesModel" (326 : Nat) ({ cls := "ParlourLeavesModel", name := "choose", desc := "(II)V" } : Jvm.MethodName)) ∈ lw_all := lw_g (lw_at lw_m8 239 rfl) rfl
theorem q2028 : (Jvm.Cond.privateMethod ({ cls := "ParlourLeavesModel", name := "choose", desc := "(II)V" } : Jvm.MethodName)) ∈ lw_tbl := lw_at lw_m9 0 rfl
theorem q2029 : (Jvm.Cond.instanceMethod ({ cls := "ParlourLeavesModel", name := "choose", desc := "(II)V" } : Jvm.MethodName)) ∈ lw_all := lw_g (lw_at lw_m9 1 rfl) rfl
theorem q2030 : (Jvm.Cond.code ({ cls := "ParlourLeavesModel", name := "choose", desc := "(II)V" } : Jvm.MethodName) prog_22_method_89_code (3 : Nat) (Option.none : Option Jvm.ClassFile.FieldType)) ∈ lw_all := lw_g (lw_at lw_m9 2 rfl) rfl
theorem q2032 : (Jvm.Cond.instanceMethod ({ cls := "ParlourLeavesModel", name := "chosen", desc := "(I)I" } : Jvm.MethodName)) ∈ lw_all := lw_g (lw_at lw_m9 4 rfl) rfl
theorem q2033 : (Jvm.Cond.selects "ParlourLeavesModel" ({ cls := "ParlourLeavesModel", name := "chosen", desc := "(I)I" } : Jvm.MethodName) ({ cls := "ParlourLeavesModel", name := "chosen", desc := "(I)I" } : Jvm.MethodName)) ∈ lw_all := lw_g (lw_at lw_m9 5 rfl) rfl
theorem q2034 : (Jvm.Cond.code ({ cls := "ParlourLeavesModel", name := "chosen", desc := "(I)I" } : Jvm.MethodName) prog_22_method_91_code (2 : Nat) (Option.some Jvm.ClassFile.FieldType.int)) ∈ lw_all := lw_g (lw_at lw_m9 6 rfl) rfl
theorem q2036 : (Jvm.Cond.instanceMethod ({ cls := "ParlourLeavesModel", name := "elder", desc := "()I" } : Jvm.MethodName)) ∈ lw_all := lw_g (lw_at lw_m9 8 rfl) rfl
theorem q2037 : (Jvm.Cond.selects "ParlourLeavesModel" ({ cls := "ParlourLeavesModel", name := "elder", desc := "()I" } : Jvm.MethodName) ({ cls := "ParlourLeavesModel", name := "elder", desc := "()I" } : Jvm.MethodName)) ∈ lw_all := lw_g (lw_at lw_m9 9 rfl) rfl
theorem q2038 : (Jvm.Cond.code ({ cls := "ParlourLeavesModel", name := "elder", desc := "()I" } : Jvm.MethodName) prog_22_method_92_code (5 : Nat) (Option.some Jvm.ClassFile.FieldType.int)) ∈ lw_all := lw_g (lw_at lw_m9 10 rfl) rfl
theorem q2040 : (Jvm.Cond.instanceMethod ({ cls := "ParlourLeavesModel", name := "card", desc := "(I)I" } : Jvm.MethodName)) ∈ lw_all := lw_g (lw_at lw_m9 12 rfl) rfl
theorem q2041 : (Jvm.Cond.selects "ParlourLeavesModel" ({ cls := "ParlourLeavesModel", name := "card", desc := "(I)I" } : Jvm.MethodName) ({ cls := "ParlourLeavesModel", name := "card", desc := "(I)I" } : Jvm.MethodName)) ∈ lw_all := lw_g (lw_at lw_m9 13 rfl) rfl
theorem q2042 : (Jvm.Cond.code ({ cls := "ParlourLeavesModel", name := "card", desc := "(I)I" } : Jvm.MethodName) prog_22_method_97_code (2 : Nat) (Option.some Jvm.ClassFile.FieldType.int)) ∈ lw_all := lw_g (lw_at lw_m9 14 rfl) rfl
theorem q2043 : (Jvm.Cond.methodLink "ParlourLeavesModel" (337 : Nat) ({ cls := "ParlourLeavesModel", name := "writeWord", desc := "(J)V" } : Jvm.MethodName)) ∈ lw_all := lw_g (lw_at lw_m9 15 rfl) rfl
theorem q2044 : (Jvm.Cond.privateMethod ({ cls := "ParlourLeavesModel", name := "writeWord", desc := "(J)V" } : Jvm.MethodName)) ∈ lw_tbl := lw_at lw_m9 16 rfl
theorem q2045 : (Jvm.Cond.instanceMethod ({ cls := "ParlourLeavesModel", name := "writeWord", desc := "(J)V" } : Jvm.MethodName)) ∈ lw_all := lw_g (lw_at lw_m9 17 rfl) rfl
theorem q2046 : (Jvm.Cond.code ({ cls := "ParlourLeavesModel", name := "writeWord", desc := "(J)V" } : Jvm.MethodName) prog_22_method_94_code (3 : Nat) (Option.none : Option Jvm.ClassFile.FieldType)) ∈ lw_all := lw_g (lw_at lw_m9 18 rfl) rfl
theorem q2047 : (Jvm.Cond.methodLink "ParlourLeavesModel" (341 : Nat) ({ cls := "ParlourLeavesModel", name := "write", desc := "(I)V" } : Jvm.MethodName)) ∈ lw_all := lw_g (lw_at lw_m9 19 rfl) rfl
theorem q2048 : (Jvm.Cond.privateMethod ({ cls := "ParlourLeavesModel", name := "write", desc := "(I)V" } : Jvm.MethodName)) ∈ lw_tbl := lw_at lw_m9 20 rfl
theorem q2049 : (Jvm.Cond.instanceMethod ({ cls := "ParlourLeavesModel", name := "write", desc := "(I)V" } : Jvm.MethodName)) ∈ lw_all := lw_g (lw_at lw_m9 21 rfl) rfl
theorem q2050 : (Jvm.Cond.code ({ cls := "ParlourLeavesModel", name := "write", desc := "(I)V" } : Jvm.MethodName) prog_22_method_93_code (2 : Nat) (Option.none : Option Jvm.ClassFile.FieldType)) ∈ lw_all := lw_g (lw_at lw_m9 22 rfl) rfl
theorem q2051 : (Jvm.Cond.methodLink "ParlourLeavesModel" (347 : Nat) ({ cls := "ParlourLeavesModel", name := "writeNext", desc := "(J)V" } : Jvm.MethodName)) ∈ lw_all := lw_g (lw_at lw_m9 23 rfl) rfl
theorem q2052 : (Jvm.Cond.privateMethod ({ cls := "ParlourLeavesModel", name := "writeNext", desc := "(J)V" } : Jvm.MethodName)) ∈ lw_tbl := lw_at lw_m9 24 rfl
theorem q2053 : (Jvm.Cond.instanceMethod ({ cls := "ParlourLeavesModel", name := "writeNext", desc := "(J)V" } : Jvm.MethodName)) ∈ lw_all := lw_g (lw_at lw_m9 25 rfl) rfl
theorem q2054 : (Jvm.Cond.code ({ cls := "ParlourLeavesModel", name := "writeNext", desc := "(J)V" } : Jvm.MethodName) prog_22_method_96_code (3 : Nat) (Option.none : Option Jvm.ClassFile.FieldType)) ∈ lw_all := lw_g (lw_at lw_m9 26 rfl) rfl
theorem q2055 : (Jvm.Cond.methodLink "ParlourLeavesModel" (344 : Nat) ({ cls := "ParlourLeavesModel", name := "writeNumber", desc := "(I)V" } : Jvm.MethodName)) ∈ lw_all := lw_g (lw_at lw_m9 27 rfl) rfl
theorem q2056 : (Jvm.Cond.privateMethod ({ cls := "ParlourLeavesModel", name := "writeNumber", desc := "(I)V" } : Jvm.MethodName)) ∈ lw_tbl := lw_at lw_m9 28 rfl
theorem q2057 : (Jvm.Cond.instanceMethod ({ cls := "ParlourLeavesModel", name := "writeNumber", desc := "(I)V" } : Jvm.MethodName)) ∈ lw_all := lw_g (lw_at lw_m9 29 rfl) rfl
theorem q2058 : (Jvm.Cond.code ({ cls := "ParlourLeavesModel", name := "writeNumber", desc := "(I)V" } : Jvm.MethodName) prog_22_method_95_code (2 : Nat) (Option.none : Option Jvm.ClassFile.FieldType)) ∈ lw_all := lw_g (lw_at lw_m9 30 rfl) rfl
theorem q2060 : (Jvm.Cond.instanceMethod ({ cls := "ParlourLeavesModel", name := "byteAt", desc := "(I)I" } : Jvm.MethodName)) ∈ lw_all := lw_g (lw_at lw_m9 32 rfl) rfl
theorem q2061 : (Jvm.Cond.selects "ParlourLeavesModel" ({ cls := "ParlourLeavesModel", name := "byteAt", desc := "(I)I" } : Jvm.MethodName) ({ cls := "ParlourLeavesModel", name := "byteAt", desc := "(I)I" } : Jvm.MethodName)) ∈ lw_all := lw_g (lw_at lw_m9 33 rfl) rfl
theorem q2062 : (Jvm.Cond.code ({ cls := "ParlourLeavesModel", name := "byteAt", desc := "(I)I" } : Jvm.MethodName) prog_22_method_98_code (2 : Nat) (Option.some Jvm.ClassFile.FieldType.int)) ∈ lw_all := lw_g (lw_at lw_m9 34 rfl) rfl
theorem q2064 : (Jvm.Cond.instanceMethod ({ cls := "ParlourLeavesModel", name := "drawn", desc := "(II)I" } : Jvm.MethodName)) ∈ lw_all := lw_g (lw_at lw_m9 36 rfl) rfl
theorem q2065 : (Jvm.Cond.selects "ParlourLeavesModel" ({ cls := "ParlourLeavesModel", name := "drawn", desc := "(II)I" } : Jvm.MethodName) ({ cls := "ParlourLeavesModel", name := "drawn", desc := "(II)I" } : Jvm.MethodName)) ∈ lw_all := lw_g (lw_at lw_m9 37 rfl) rfl
theorem q2066 : (Jvm.Cond.code ({ cls := "ParlourLeavesModel", name := "drawn", desc := "(II)I" } : Jvm.MethodName) prog_22_method_102_code (3 : Nat) (Option.some Jvm.ClassFile.FieldType.int)) ∈ lw_all := lw_g (lw_at lw_m9 38 rfl) rfl
theorem q2067 : (Jvm.Cond.methodLink "ParlourLeavesModel" (360 : Nat) ({ cls := "ParlourLeavesModel", name := "drawDays", desc := "(II)I" } : Jvm.MethodName)) ∈ lw_all := lw_g (lw_at lw_m9 39 rfl) rfl
theorem q2068 : (Jvm.Cond.privateMethod ({ cls := "ParlourLeavesModel", name := "drawDays", desc := "(II)I" } : Jvm.MethodName)) ∈ lw_tbl := lw_at lw_m9 40 rfl
theorem q2069 : (Jvm.Cond.instanceMethod ({ cls := "ParlourLeavesModel", name := "drawDays", desc := "(II)I" } : Jvm.MethodName)) ∈ lw_all := lw_g (lw_at lw_m9 41 rfl) rfl
theorem q2070 : (Jvm.Cond.code ({ cls := "ParlourLeavesModel", name := "drawDays", desc := "(II)I" } : Jvm.MethodName) prog_22_method_101_code (6 : Nat) (Option.some Jvm.ClassFile.FieldType.int)) ∈ lw_all := lw_g (lw_at lw_m9 42 rfl) rfl
theorem q2071 : (Jvm.Cond.methodLink "ParlourLeavesModel" (357 : Nat) ({ cls := "ParlourLeavesModel", name := "drawsFor", desc := "(I)V" } : Jvm.MethodName)) ∈ lw_all := lw_g (lw_at lw_m9 43 rfl) rfl
theorem q2072 : (Jvm.Cond.privateMethod ({ cls := "ParlourLeavesModel", name := "drawsFor", desc := "(I)V" } : Jvm.MethodName)) ∈ lw_tbl := lw_at lw_m9 44 rfl
theorem q2073 : (Jvm.Cond.instanceMethod ({ cls := "ParlourLeavesModel", name := "drawsFor", desc := "(I)V" } : Jvm.MethodName)) ∈ lw_all := lw_g (lw_at lw_m9 45 rfl) rfl
theorem q2074 : (Jvm.Cond.code ({ cls := "ParlourLeavesModel", name := "drawsFor", desc := "(I)V" } : Jvm.MethodName) prog_22_method_100_code (5 : Nat) (Option.none : Option Jvm.ClassFile.FieldType)) ∈ lw_all := lw_g (lw_at lw_m9 46 rfl) rfl
theorem q2075 : (Jvm.Cond.methodLink "ParlourLeavesModel" (354 : Nat) ({ cls := "ParlourLeavesModel", name := "draw", desc := "(I)I" } : Jvm.MethodName)) ∈ lw_all := lw_g (lw_at lw_m9 47 rfl) rfl
theorem q2076 : (Jvm.Cond.privateMethod ({ cls := "ParlourLeavesModel", name := "draw", desc := "(I)I" } : Jvm.MethodName)) ∈ lw_tbl := lw_at lw_m9 48 rfl
theorem q2077 : (Jvm.Cond.instanceMethod ({ cls := "ParlourLeavesModel", name := "draw", desc := "(I)I" } : Jvm.MethodName)) ∈ lw_all := lw_g (lw_at lw_m9 49 rfl) rfl
theorem q2078 : (Jvm.Cond.code ({ cls := "ParlourLeavesModel", name := "draw", desc := "(I)I" } : Jvm.MethodName) prog_22_method_99_code (2 : Nat) (Option.some Jvm.ClassFile.FieldType.int)) ∈ lw_all := lw_g (lw_at lw_m9 50 rfl) rfl
theorem q2079 : (Jvm.Cond.constant "ParlourLeavesModel" (353 : Nat) (1103515245 : Int32)) ∈ lw_all := lw_g (lw_at lw_m9 51 rfl) rfl
theorem q2081 : (Jvm.Cond.instanceMethod ({ cls := "ParlourLeavesModel", name := "odds", desc := "(III)I" } : Jvm.MethodName)) ∈ lw_all := lw_g (lw_at lw_m9 53 rfl) rfl
theorem q2082 : (Jvm.Cond.selects "ParlourLeavesModel" ({ cls := "ParlourLeavesModel", name := "odds", desc := "(III)I" } : Jvm.MethodName) ({ cls := "ParlourLeavesModel", name := "odds", desc := "(III)I" } : Jvm.MethodName)) ∈ lw_all := lw_g (lw_at lw_m9 54 rfl) rfl
theorem q2083 : (Jvm.Cond.code ({ cls := "ParlourLeavesModel", name := "odds", desc := "(III)I" } : Jvm.MethodName) prog_22_method_106_code (6 : Nat) (Option.some Jvm.ClassFile.FieldType.int)) ∈ lw_all := lw_g (lw_at lw_m9 55 rfl) rfl
theorem q2084 : (Jvm.Cond.methodLink "ParlourLeavesModel" (363 : Nat) ({ cls := "ParlourLeavesModel", name := "layAside", desc := "()V" } : Jvm.MethodName)) ∈ lw_all := lw_g (lw_at lw_m9 56 rfl) rfl
theorem q2085 : (Jvm.Cond.privateMethod ({ cls := "ParlourLeavesModel", name := "layAside", desc := "()V" } : Jvm.MethodName)) ∈ lw_tbl := lw_at lw_m9 57 rfl
theorem q2086 : (Jvm.Cond.instanceMethod ({ cls := "ParlourLeavesModel", name := "layAside", desc := "()V" } : Jvm.MethodName)) ∈ lw_all := lw_g (lw_at lw_m9 58 rfl) rfl
theorem q2087 : (Jvm.Cond.code ({ cls := "ParlourLeavesModel", name := "layAside", desc := "()V" } : Jvm.MethodName) prog_22_method_103_code (2 : Nat) (Option.none : Option Jvm.ClassFile.FieldType)) ∈ lw_all := lw_g (lw_at lw_m9 59 rfl) rfl
theorem q2088 : (Jvm.Cond.methodLink "ParlourLeavesModel" (366 : Nat) ({ cls := "ParlourLeavesModel", name := "isProvedOf", desc := "(I)Z" } : Jvm.MethodName)) ∈ lw_all := lw_g (lw_at lw_m9 60 rfl) rfl
theorem q2089 : (Jvm.Cond.privateMethod ({ cls := "ParlourLeavesModel", name := "isProvedOf", desc := "(I)Z" } : Jvm.MethodName)) ∈ lw_tbl := lw_at lw_m9 61 rfl
theorem q2090 : (Jvm.Cond.instanceMethod ({ cls := "ParlourLeavesModel", name := "isProvedOf", desc := "(I)Z" } : Jvm.MethodName)) ∈ lw_all := lw_g (lw_at lw_m9 62 rfl) rfl
theorem q2091 : (Jvm.Cond.code ({ cls := "ParlourLeavesModel", name := "isProvedOf", desc := "(I)Z" } : Jvm.MethodName) prog_22_method_105_code (3 : Nat) (Option.some Jvm.ClassFile.FieldType.boolean)) ∈ lw_all := lw_g (lw_at lw_m9 63 rfl) rfl
theorem q2092 : (Jvm.Cond.methodLink "ParlourLeavesModel" (369 : Nat) ({ cls := "ParlourLeavesModel", name := "takeBack", desc := "()V" } : Jvm.MethodName)) ∈ lw_all := lw_g (lw_at lw_m9 64 rfl) rfl
theorem q2093 : (Jvm.Cond.privateMethod ({ cls := "ParlourLeavesModel", name := "takeBack", desc := "()V" } : Jvm.MethodName)) ∈ lw_tbl := lw_at lw_m9 65 rfl
theorem q2094 : (Jvm.Cond.instanceMethod ({ cls := "ParlourLeavesModel", name := "takeBack", desc := "()V" } : Jvm.MethodName)) ∈ lw_all := lw_g (lw_at lw_m9 66 rfl) rfl
theorem q2095 : (Jvm.Cond.code ({ cls := "ParlourLeavesModel", name := "takeBack", desc := "()V" } : Jvm.MethodName) prog_22_method_104_code (2 : Nat) (Option.none : Option Jvm.ClassFile.FieldType)) ∈ lw_all := lw_g (lw_at lw_m9 67 rfl) rfl
theorem q2097 : (Jvm.Cond.instanceMethod ({ cls := "ParlourLeavesModel", name := "book", desc := "(I)I" } : Jvm.MethodName)) ∈ lw_all := lw_g (lw_at lw_m9 69 rfl) rfl
theorem q2098 : (Jvm.Cond.selects "ParlourLeavesModel" ({ cls := "ParlourLeavesModel", name := "book", desc := "(I)I" } : Jvm.MethodName) ({ cls := "ParlourLeavesModel", name := "book", desc := "(I)I" } : Jvm.MethodName)) ∈ lw_all := lw_g (lw_at lw_m9 70 rfl) rfl
theorem q2099 : (Jvm.Cond.code ({ cls := "ParlourLeavesModel", name := "book", desc := "(I)I" } : Jvm.MethodName) prog_22_method_114_code (4 : Nat) (Option.some Jvm.ClassFile.FieldType.int)) ∈ lw_all := lw_g (lw_at lw_m9 71 rfl) rfl
theorem q2100 : (Jvm.Cond.methodLink "ParlourLeavesModel" (390 : Nat) ({ cls := "ParlourLeavesModel", name := "readBookLine", desc := "()Z" } : Jvm.MethodName)) ∈ lw_all := lw_g (lw_at lw_m9 72 rfl) rfl
theorem q2101 : (Jvm.Cond.privateMethod ({ cls := "ParlourLeavesModel", name := "readBookLine", desc := "()Z" } : Jvm.MethodName)) ∈ lw_tbl := lw_at lw_m9 73 rfl
theorem q2102 : (Jvm.Cond.instanceMethod ({ cls := "ParlourLeavesModel", name := "readBookLine", desc := "()Z" } : Jvm.MethodName)) ∈ lw_all := lw_g (lw_at lw_m9 74 rfl) rfl
theorem q2103 : (Jvm.Cond.code ({ cls := "ParlourLeavesModel", name := "readBookLine", desc := "()Z" } : Jvm.MethodName) prog_22_method_112_code (6 : Nat) (Option.some Jvm.ClassFile.FieldType.boolean)) ∈ lw_all := lw_g (lw_at lw_m9 75 rfl) rfl
theorem q2104 : (Jvm.Cond.methodLink "ParlourLeavesModel" (384 : Nat) ({ cls := "ParlourLeavesModel", name := "readDoes", desc := "(I)Z" } : Jvm.MethodName)) ∈ lw_all := lw_g (lw_at lw_m9 76 rfl) rfl
theorem q2105 : (Jvm.Cond.privateMethod ({ cls := "ParlourLeavesModel", name := "readDoes", desc := "(I)Z" } : Jvm.MethodName)) ∈ lw_tbl := lw_at lw_m9 77 rfl
theorem q2106 : (Jvm.Cond.instanceMethod ({ cls := "ParlourLeavesModel", name := "readDoes", desc := "(I)Z" } : Jvm.MethodName)) ∈ lw_all := lw_g (lw_at lw_m9 78 rfl) rfl
theorem q2107 : (Jvm.Cond.code ({ cls := "ParlourLeavesModel", name := "readDoes", desc := "(I)Z" } : Jvm.MethodName) prog_22_method_111_code (2 : Nat) (Option.some Jvm.ClassFile.FieldType.boolean)) ∈ lw_all := lw_g (lw_at lw_m9 79 rfl) rfl
theorem q2108 : (Jvm.Cond.methodLink "ParlourLeavesModel" (372 : Nat) ({ cls := "ParlourLeavesModel", name := "readNamed", desc := "(II)Z" } : Jvm.MethodName)) ∈ lw_all := lw_g (lw_at lw_m9 80 rfl) rfl
theorem q2109 : (Jvm.Cond.privateMethod ({ cls := "ParlourLeavesModel", name := "readNamed", desc := "(II)Z" } : Jvm.MethodName)) ∈ lw_tbl := lw_at lw_m9 81 rfl
theorem q2110 : (Jvm.Cond.instanceMethod ({ cls := "ParlourLeavesModel", name := "readNamed", desc := "(II)Z" } : Jvm.MethodName)) ∈ lw_all := lw_g (lw_at lw_m9 82 rfl) rfl
theorem q2111 : (Jvm.Cond.code ({ cls := "ParlourLeavesModel", name := "readNamed", desc := "(II)Z" } : Jvm.MethodName) prog_22_method_108_code (3 : Nat) (Option.some Jvm.ClassFile.FieldType.boolean)) ∈ lw_all := lw_g (lw_at lw_m9 83 rfl) rfl
theorem q2112 : (Jvm.Cond.methodLink "ParlourLeavesModel" (375 : Nat) ({ cls := "ParlourLeavesModel", name := "keep", desc := "(IZ)Z" } : Jvm.MethodName)) ∈ lw_all := lw_g (lw_at lw_m9 84 rfl) rfl
theorem q2113 : (Jvm.Cond.privateMethod ({ cls := "ParlourLeavesModel", name := "keep", desc := "(IZ)Z" } : Jvm.MethodName)) ∈ lw_tbl := lw_at lw_m9 85 rfl
theorem q2114 : (Jvm.Cond.instanceMethod ({ cls := "ParlourLeavesModel", name := "keep", desc := "(IZ)Z" } : Jvm.MethodName)) ∈ lw_all := lw_g (lw_at lw_m9 86 rfl) rfl
theorem q2115 : (Jvm.Cond.code ({ cls := "ParlourLeavesModel", name := "keep", desc := "(IZ)Z" } : Jvm.MethodName) prog_22_method_107_code (3 : Nat) (Option.some Jvm.ClassFile.FieldType.boolean)) ∈ lw_all := lw_g (lw_at lw_m9 87 rfl) rfl
theorem q2116 : (Jvm.Cond.methodLink "ParlourLeavesModel" (378 : Nat) ({ cls := "ParlourLeavesModel", name := "readParlourName", desc := "()Z" } : Jvm.MethodName)) ∈ lw_all := lw_g (lw_at lw_m9 88 rfl) rfl
theorem q2117 : (Jvm.Cond.privateMethod ({ cls := "ParlourLeavesModel", name := "readParlourName", desc := "()Z" } : Jvm.MethodName)) ∈ lw_tbl := lw_at lw_m9 89 rfl
theorem q2118 : (Jvm.Cond.instanceMethod ({ cls := "ParlourLeavesModel", name := "readParlourName", desc := "()Z" } : Jvm.MethodName)) ∈ lw_all := lw_g (lw_at lw_m9 90 rfl) rfl
theorem q2119 : (Jvm.Cond.code ({ cls := "ParlourLeavesModel", name := "readParlourName", desc := "()Z" } : Jvm.MethodName) prog_22_method_109_code (1 : Nat) (Option.some Jvm.ClassFile.FieldType.boolean)) ∈ lw_all := lw_g (lw_at lw_m9 91 rfl) rfl
theorem q2120 : (Jvm.Cond.methodLink "ParlourLeavesModel" (387 : Nat) ({ cls := "ParlourLeavesModel", name := "readPlantName", desc := "()Z" } : Jvm.MethodName)) ∈ lw_all := lw_g (lw_at lw_m9 92 rfl) rfl
theorem q2121 : (Jvm.Cond.privateMethod ({ cls := "ParlourLeavesModel", name := "readPlantName", desc := "()Z" } : Jvm.MethodName)) ∈ lw_tbl := lw_at lw_m9 93 rfl
theorem q2122 : (Jvm.Cond.instanceMethod ({ cls := "ParlourLeavesModel", name := "readPlantName", desc := "()Z" } : Jvm.MethodName)) ∈ lw_all := lw_g (lw_at lw_m9 94 rfl) rfl
theorem q2123 : (Jvm.Cond.code ({ cls := "ParlourLeavesModel", name := "readPlantName", desc := "()Z" } : Jvm.MethodName) prog_22_method_110_code (1 : Nat) (Option.some Jvm.ClassFile.FieldType.boolean)) ∈ lw_all := lw_g (lw_at lw_m9 95 rfl) rfl
theorem q2124 : (Jvm.Cond.methodLink "ParlourLeavesModel" (393 : Nat) ({ cls := "ParlourLeavesModel", name := "goBy", desc := "(I)I" } : Jvm.MethodName)) ∈ lw_all := lw_g (lw_at lw_m9 96 rfl) rfl
theorem q2125 : (Jvm.Cond.privateMethod ({ cls := "ParlourLeavesModel", name := "goBy", desc := "(I)I" } : Jvm.MethodName)) ∈ lw_tbl := lw_at lw_m9 97 rfl
theorem q2126 : (Jvm.Cond.instanceMethod ({ cls := "ParlourLeavesModel", name := "goBy", desc := "(I)I" } : Jvm.MethodName)) ∈ lw_all := lw_g (lw_at lw_m9 98 rfl) rfl
theorem q2127 : (Jvm.Cond.code ({ cls := "ParlourLeavesModel", name := "goBy", desc := "(I)I" } : Jvm.MethodName) prog_22_method_113_code (4 : Nat) (Option.some Jvm.ClassFile.FieldType.int)) ∈ lw_all := lw_g (lw_at lw_m9 99 rfl) rfl
theorem q2128 : (Jvm.Cond.methodLink "ParlourLeavesModel" (399 : Nat) ({ cls := "ParlourLeavesModel", name := "stay", desc := "(Z)V" } : Jvm.MethodName)) ∈ lw_all := lw_g (lw_at lw_m9 100 rfl) rfl
theorem q2129 : (Jvm.Cond.privateMethod ({ cls := "ParlourLeavesModel", name := "stay", desc := "(Z)V" } : Jvm.MethodName)) ∈ lw_tbl := lw_at lw_m9 101 rfl
theorem q2130 : (Jvm.Cond.instanceMethod ({ cls := "ParlourLeavesModel", name := "stay", desc := "(Z)V" } : Jvm.MethodName)) ∈ lw_all := lw_g (lw_at lw_m9 102 rfl) rfl
theorem q2131 : (Jvm.Cond.code ({ cls := "ParlourLeavesModel", name := "stay", desc := "(Z)V" } : Jvm.MethodName) prog_22_method_115_code (4 : Nat) (Option.none : Option Jvm.ClassFile.FieldType)) ∈ lw_all := lw_g (lw_at lw_m9 103 rfl) rfl
theorem q2133 : (Jvm.Cond.instanceMethod ({ cls := "ParlourLeavesModel", name := "told", desc := "(I)I" } : Jvm.MethodName)) ∈ lw_all := lw_g (lw_at lw_m9 105 rfl) rfl
theorem q2134 : (Jvm.Cond.selects "ParlourLeavesModel" ({ cls := "ParlourLeavesModel", name := "told", desc := "(I)I" } : Jvm.MethodName) ({ cls := "ParlourLeavesModel", name := "told", desc := "(I)I" } : Jvm.MethodName)) ∈ lw_all := lw_g (lw_at lw_m9 106 rfl) rfl
theorem q2135 : (Jvm.Cond.code ({ cls := "ParlourLeavesModel", name := "told", desc := "(I)I" } : Jvm.MethodName) prog_22_method_116_code (2 : Nat) (Option.some Jvm.ClassFile.FieldType.int)) ∈ lw_all := lw_g (lw_at lw_m9 107 rfl) rfl
theorem q2137 : (Jvm.Cond.instanceMethod ({ cls := "ParlourLeavesModel", name := "sentence", desc := "()I" } : Jvm.MethodName)) ∈ lw_all := lw_g (lw_at lw_m9 109 rfl) rfl
theorem q2138 : (Jvm.Cond.selects "ParlourLeavesModel" ({ cls := "ParlourLeavesModel", name := "sentence", desc := "()I" } : Jvm.MethodName) ({ cls := "ParlourLeavesModel", name := "sentence", desc := "()I" } : Jvm.MethodName)) ∈ lw_all := lw_g (lw_at lw_m9 110 rfl) rfl
theorem q2139 : (Jvm.Cond.code ({ cls := "ParlourLeavesModel", name := "sentence", desc := "()I" } : Jvm.MethodName) prog_22_method_126_code (2 : Nat) (Option.some Jvm.ClassFile.FieldType.int)) ∈ lw_all := lw_g (lw_at lw_m9 111 rfl) rfl
theorem q2140 : (Jvm.Cond.methodLink "ParlourLeavesModel" (437 : Nat) ({ cls := "ParlourLeavesModel", name := "readOr", desc := "()Z" } : Jvm.MethodName)) ∈ lw_all := lw_g (lw_at lw_m9 112 rfl) rfl
theorem q2141 : (Jvm.Cond.privateMethod ({ cls := "ParlourLeavesModel", name := "readOr", desc := "()Z" } : Jvm.MethodName)) ∈ lw_tbl := lw_at lw_m9 113 rfl
theorem q2142 : (Jvm.Cond.instanceMethod ({ cls := "ParlourLeavesModel", name := "readOr", desc := "()Z" } : Jvm.MethodName)) ∈ lw_all := lw_g (lw_at lw_m9 114 rfl) rfl
theorem q2143 : (Jvm.Cond.code ({ cls := "ParlourLeavesModel", name := "readOr", desc := "()Z" } : Jvm.MethodName) prog_22_method_119_code (2 : Nat) (Option.some Jvm.ClassFile.FieldType.boolean)) ∈ lw_all := lw_g (lw_at lw_m9 115 rfl) rfl
theorem q2144 : (Jvm.Cond.methodLink "ParlourLeavesModel" (406 : Nat) ({ cls := "ParlourLeavesModel", name := "readAnd", desc := "()Z" } : Jvm.MethodName)) ∈ lw_all := lw_g (lw_at lw_m9 116 rfl) rfl
theorem q2145 : (Jvm.Cond.privateMethod ({ cls := "ParlourLeavesModel", name := "readAnd", desc := "()Z" } : Jvm.MethodName)) ∈ lw_tbl := lw_at lw_m9 117 rfl
theorem q2146 : (Jvm.Cond.instanceMethod ({ cls := "ParlourLeavesModel", name := "readAnd", desc := "()Z" } : Jvm.MethodName)) ∈ lw_all := lw_g (lw_at lw_m9 118 rfl) rfl
theorem q2147 : (Jvm.Cond.code ({ cls := "ParlourLeavesModel", name := "readAnd", desc := "()Z" } : Jvm.MethodName) prog_22_method_120_code (2 : Nat) (Option.some Jvm.ClassFile.FieldType.boolean)) ∈ lw_all := lw_g (lw_at lw_m9 119 rfl) rfl
theorem q2148 : (Jvm.Cond.methodLink "ParlourLeavesModel" (416 : Nat) ({ cls := "ParlourLeavesModel", name := "readSaid", desc := "()Z" } : Jvm.MethodName)) ∈ lw_all := lw_g (lw_at lw_m9 120 rfl) rfl
theorem q2149 : (Jvm.Cond.privateMethod ({ cls := "ParlourLeavesModel", name := "readSaid", desc := "()Z" } : Jvm.MethodName)) ∈ lw_tbl := lw_at lw_m9 121 rfl
theorem q2150 : (Jvm.Cond.instanceMethod ({ cls := "ParlourLeavesModel", name := "readSaid", desc := "()Z" } : Jvm.MethodName)) ∈ lw_all := lw_g (lw_at lw_m9 122 rfl) rfl
theorem q2151 : (Jvm.Cond.code ({ cls := "ParlourLeavesModel", name := "readSaid", desc := "()Z" } : Jvm.MethodName) prog_22_method_121_code (4 : Nat) (Option.some Jvm.ClassFile.FieldType.boolean)) ∈ lw_all := lw_g (lw_at lw_m9 123 rfl) rfl
theorem q2152 : (Jvm.Cond.methodLink "ParlourLeavesModel" (425 : Nat) ({ cls := "ParlourLeavesModel", name := "readBracket", desc := "()Z" } : Jvm.MethodName)) ∈ lw_all := lw_g (lw_at lw_m9 124 rfl) rfl
theorem q2153 : (Jvm.Cond.privateMethod ({ cls := "ParlourLeavesModel", name := "readBracket", desc := "()Z" } : Jvm.MethodName)) ∈ lw_tbl := lw_at lw_m9 125 rfl
theorem q2154 : (Jvm.Cond.instanceMethod ({ cls := "ParlourLeavesModel", name := "readBracket", desc := "()Z" } : Jvm.MethodName)) ∈ lw_all := lw_g (lw_at lw_m9 126 rfl) rfl
theorem q2155 : (Jvm.Cond.code ({ cls := "ParlourLeavesModel", name := "readBracket", desc := "()Z" } : Jvm.MethodName) prog_22_method_123_code (1 : Nat) (Option.some Jvm.ClassFile.FieldType.boolean)) ∈ lw_all := lw_g (lw_at lw_m9 127 rfl) rfl
theorem q2156 : (Jvm.Cond.methodLink "ParlourLeavesModel" (428 : Nat) ({ cls := "ParlourLeavesModel", name := "readNot", desc := "()Z" } : Jvm.MethodName)) ∈ lw_all := lw_g (lw_at lw_m9 128 rfl) rfl
theorem q2157 : (Jvm.Cond.privateMethod ({ cls := "ParlourLeavesModel", name := "readNot", desc := "()Z" } : Jvm.MethodName)) ∈ lw_tbl := lw_at lw_m9 129 rfl
theorem q2158 : (Jvm.Cond.instanceMethod ({ cls := "ParlourLeavesModel", name := "readNot", desc := "()Z" } : Jvm.MethodName)) ∈ lw_all := lw_g (lw_at lw_m9 130 rfl) rfl
theorem q2159 : (Jvm.Cond.code ({ cls := "ParlourLeavesModel", name := "readNot", desc := "()Z" } : Jvm.MethodName) prog_22_method_122_code (1 : Nat) (Option.some Jvm.ClassFile.FieldType.boolean)) ∈ lw_all := lw_g (lw_at lw_m9 131 rfl) rfl
theorem q2160 : (Jvm.Cond.methodLink "ParlourLeavesModel" (412 : Nat) ({ cls := "ParlourLeavesModel", name := "saysOne", desc := "(IIII)I" } : Jvm.MethodName)) ∈ lw_all := lw_g (lw_at lw_m9 132 rfl) rfl
theorem q2161 : (Jvm.Cond.privateMethod ({ cls := "ParlourLeavesModel", name := "saysOne", desc := "(IIII)I" } : Jvm.MethodName)) ∈ lw_tbl := lw_at lw_m9 133 rfl
theorem q2162 : (Jvm.Cond.instanceMethod ({ cls := "ParlourLeavesModel", name := "saysOne", desc := "(IIII)I" } : Jvm.MethodName)) ∈ lw_all := lw_g (lw_at lw_m9 134 rfl) rfl
theorem q2163 : (Jvm.Cond.code ({ cls := "ParlourLeavesModel", name := "saysOne", desc := "(IIII)I" } : Jvm.MethodName) prog_22_method_118_code (6 : Nat) (Option.some Jvm.ClassFile.FieldType.int)) ∈ lw_all := lw_g (lw_at lw_m9 135 rfl) rfl
theorem q2164 : (Jvm.Cond.methodLink "ParlourLeavesModel" (431 : Nat) ({ cls := "ParlourLeavesModel", name := "readOf", desc := "(I)Z" } : Jvm.MethodName)) ∈ lw_all := lw_g (lw_at lw_m9 136 rfl) rfl
theorem q2165 : (Jvm.Cond.privateMethod ({ cls := "ParlourLeavesModel", name := "readOf", desc := "(I)Z" } : Jvm.MethodName)) ∈ lw_tbl := lw_at lw_m9 137 rfl
theorem q2166 : (Jvm.Cond.instanceMethod ({ cls := "ParlourLeavesModel", name := "readOf", desc := "(I)Z" } : Jvm.MethodName)) ∈ lw_all := lw_g (lw_at lw_m9 138 rfl) rfl
theorem q2167 : (Jvm.Cond.code ({ cls := "ParlourLeavesModel", name := "readOf", desc := "(I)Z" } : Jvm.MethodName) prog_22_method_124_code (2 : Nat) (Option.some Jvm.ClassFile.FieldType.boolean)) ∈ lw_all := lw_g (lw_at lw_m9 139 rfl) rfl
theorem q2168 : (Jvm.Cond.methodLink "ParlourLeavesModel" (434 : Nat) ({ cls := "ParlourLeavesModel", name := "readCompare", desc := "(I)Z" } : Jvm.MethodName)) ∈ lw_all := lw_g (lw_at lw_m9 140 rfl) rfl
theorem q2169 : (Jvm.Cond.privateMethod ({ cls := "ParlourLeavesModel", name := "readCompare", desc := "(I)Z" } : Jvm.MethodName)) ∈ lw_tbl := lw_at lw_m9 141 rfl
theorem q2170 : (Jvm.Cond.instanceMethod ({ cls := "ParlourLeavesModel", name := "readCompare", desc := "(I)Z" } : Jvm.MethodName)) ∈ lw_all := lw_g (lw_at lw_m9 142 rfl) rfl
theorem q2171 : (Jvm.Cond.code ({ cls := "ParlourLeavesModel", name := "readCompare", desc := "(I)Z" } : Jvm.MethodName) prog_22_method_125_code (3 : Nat) (Option.some Jvm.ClassFile.FieldType.boolean)) ∈ lw_all := lw_g (lw_at lw_m9 143 rfl) rfl
theorem q2173 : (Jvm.Cond.instanceMethod ({ cls := "ParlourLeavesModel", name := "said", desc := "(I)I" } : Jvm.MethodName)) ∈ lw_all := lw_g (lw_at lw_m9 145 rfl) rfl
theorem q2174 : (Jvm.Cond.selects "ParlourLeavesModel" ({ cls := "ParlourLeavesModel", name := "said", desc := "(I)I" } : Jvm.MethodName) ({ cls := "ParlourLeavesModel", name := "said", desc := "(I)I" } : Jvm.MethodName)) ∈ lw_all := lw_g (lw_at lw_m9 146 rfl) rfl
theorem q2175 : (Jvm.Cond.code ({ cls := "ParlourLeavesModel", name := "said", desc := "(I)I" } : Jvm.MethodName) prog_22_method_128_code (4 : Nat) (Option.some Jvm.ClassFile.FieldType.int)) ∈ lw_all := lw_g (lw_at lw_m9 147 rfl) rfl
theorem q2176 : (Jvm.Cond.methodLink "ParlourLeavesModel" (440 : Nat) ({ cls := "ParlourLeavesModel", name := "holds", desc := "(II)Z" } : Jvm.MethodName)) ∈ lw_all := lw_g (lw_at lw_m9 148 rfl) rfl
theorem q2177 : (Jvm.Cond.privateMethod ({ cls := "ParlourLeavesModel", name := "holds", desc := "(II)Z" } : Jvm.MethodName)) ∈ lw_tbl := lw_at lw_m9 149 rfl
theorem q2178 : (Jvm.Cond.instanceMethod ({ cls := "ParlourLeavesModel", name := "holds", desc := "(II)Z" } : Jvm.MethodName)) ∈ lw_all := lw_g (lw_at lw_m9 150 rfl) rfl
theorem q2179 : (Jvm.Cond.code ({ cls := "ParlourLeavesModel", name := "holds", desc := "(II)Z" } : Jvm.MethodName) prog_22_method_127_code (8 : Nat) (Option.some Jvm.ClassFile.FieldType.boolean)) ∈ lw_all := lw_g (lw_at lw_m9 151 rfl) rfl
theorem q2180 : (Jvm.Cond.methodLink "ParlourLeavesModel" (443 : Nat) ({ cls := "ParlourLeavesModel", name := "tellsOf", desc := "(II)Z" } : Jvm.MethodName)) ∈ lw_all := lw_g (lw_at lw_m9 152 rfl) rfl
theorem q2181 : (Jvm.Cond.privateMethod ({ cls := "ParlourLeavesModel", name := "tellsOf", desc := "(II)Z" } : Jvm.MethodName)) ∈ lw_tbl := lw_at lw_m9 153 rfl
theorem q2182 : (Jvm.Cond.instanceMethod ({ cls := "ParlourLeavesModel", name := "tellsOf", desc := "(II)Z" } : Jvm.MethodName)) ∈ lw_all := lw_g (lw_at lw_m9 154 rfl) rfl
theorem q2183 : (Jvm.Cond.code ({ cls := "ParlourLeavesModel", name := "tellsOf", desc := "(II)Z" } : Jvm.MethodName) prog_22_method_117_code (4 : Nat) (Option.some Jvm.ClassFile.FieldType.boolean)) ∈ lw_all := lw_g (lw_at lw_m9 155 rfl) rfl
theorem q2185 : (Jvm.Cond.instanceMethod ({ cls := "ParlourLeavesModel", name := "image", desc := "(I)Z" } : Jvm.MethodName)) ∈ lw_all := lw_g (lw_at lw_m9 157 rfl) rfl
theorem q2186 : (Jvm.Cond.selects "ParlourLeavesModel" ({ cls := "ParlourLeavesModel", name := "image", desc := "(I)Z" } : Jvm.MethodName) ({ cls := "ParlourLeavesModel", name := "image", desc := "(I)Z" } : Jvm.MethodName)) ∈ lw_all := lw_g (lw_at lw_m9 158 rfl) rfl
theorem q2187 : (Jvm.Cond.code ({ cls := "ParlourLeavesModel", name := "image", desc := "(I)Z" } : Jvm.MethodName) prog_22_method_129_code (3 : Nat) (Option.some Jvm.ClassFile.FieldType.boolean)) ∈ lw_all := lw_g (lw_at lw_m9 159 rfl) rfl
theorem q2189 : (Jvm.Cond.instanceMethod ({ cls := "ParlourLeavesModel", name := "restore", desc := "(I)Z" } : Jvm.MethodName)) ∈ lw_all := lw_g (lw_at lw_m9 161 rfl) rfl
theorem q2190 : (Jvm.Cond.selects "ParlourLeavesModel" ({ cls := "ParlourLeavesModel", name := "restore", desc := "(I)Z" } : Jvm.MethodName) ({ cls := "ParlourLeavesModel", name := "restore", desc := "(I)Z" } : Jvm.MethodName)) ∈ lw_all := lw_g (lw_at lw_m9 162 rfl) rfl
theorem q2191 : (Jvm.Cond.code ({ cls := "ParlourLeavesModel", name := "restore", desc := "(I)Z" } : Jvm.MethodName) prog_22_method_130_code (3 : Nat) (Option.some Jvm.ClassFile.FieldType.boolean)) ∈ lw_all := lw_g (lw_at lw_m9 163 rfl) rfl
theorem q2193 : (Jvm.Cond.instanceMethod ({ cls := "ParlourLeavesModel", name := "count", desc := "(I)I" } : Jvm.MethodName)) ∈ lw_all := lw_g (lw_at lw_m9 165 rfl) rfl
theorem q2194 : (Jvm.Cond.selects "ParlourLeavesModel" ({ cls := "ParlourLeavesModel", name := "count", desc := "(I)I" } : Jvm.MethodName) ({ cls := "ParlourLeavesModel", name := "count", desc := "(I)I" } : Jvm.MethodName)) ∈ lw_all := lw_g (lw_at lw_m9 166 rfl) rfl
theorem q2195 : (Jvm.Cond.code ({ cls := "ParlourLeavesModel", name := "count", desc := "(I)I" } : Jvm.MethodName) prog_22_method_131_code (2 : Nat) (Option.some Jvm.ClassFile.FieldType.int)) ∈ lw_all := lw_g (lw_at lw_m9 167 rfl) rfl
theorem q2224 : (Jvm.Cond.castable "ParlourLeavesModel" "java/lang/Object") ∈ lw_tbl := lw_at lw_m9 196 rfl
theorem in_X9 : ∀ w ∈ wsX90, w ∈ lw_all := lw_in wsX90 [1615, 1617, 1619, 1621, 1623, 1625, 1627, 1629, 1631, 1633, 1635, 1637, 1639, 1641, 1643, 1645, 1647, 1649, 1651, 1653, 1655, 1657, 1659, 1661, 1663, 1665, 1667, 1669, 1671, 1673, 1675, 1677, 1679, 1681, 1683, 1685, 1687, 1689, 1691, 1693, 1695, 1697, 1699, 1701, 1703] (by decide +kernel) (by decide +kernel)
