/-! SevenTableModel -/
set_option maxRecDepth 100000
def RX11 : String := "SevenTableModel"
def TX11 : u_T := fun k => match k with
  | 0 => ("SevenTableModel", "thrown", "I", false)
  | 1 => ("SevenTableModel", "tape", "[B", true)
  | 2 => ("SevenTableModel", "length", "I", false)
  | 3 => ("SevenTableModel", "size", "I", false)
  | 4 => ("SevenTableModel", "p", "I", false)
  | 5 => ("SevenTableModel", "limit", "I", false)
  | 6 => ("SevenTableModel", "s", "[I", true)
  | 7 => ("SevenTableModel", "h", "[I", true)
  | 8 => ("SevenTableModel", "read", "[I", true)
  | 9 => ("SevenTableModel", "names", "[J", true)
  | 10 => ("SevenTableModel", "reserved", "[J", true)
  | 11 => ("SevenTableModel", "token", "I", false)
  | 12 => ("SevenTableModel", "at", "I", false)
  | 13 => ("SevenTableModel", "span", "I", false)
  | 14 => ("SevenTableModel", "number", "I", false)
  | 15 => ("SevenTableModel", "fault", "I", false)
  | 16 => ("SevenTableModel", "faultAt", "I", false)
  | 17 => ("SevenTableModel", "word", "J", false)
  | 18 => ("SevenTableModel", "got", "I", false)
  | 19 => ("SevenTableModel", "lines", "I", false)
  | 20 => ("SevenTableModel", "hasKinds", "Z", false)
  | 21 => ("SevenTableModel", "hasAgain", "Z", false)
  | 22 => ("SevenTableModel", "hasRefill", "Z", false)
  | 23 => ("SevenTableModel", "askedAt", "[I", true)
  | 24 => ("SevenTableModel", "hasAsked", "Z", false)
  | 25 => ("SevenTableModel", "undone", "[I", true)
  | 26 => ("SevenTableModel", "before", "[I", true)
  | 27 => ("SevenTableModel", "undoMany", "I", false)
  | 28 => ("SevenTableModel", "left", "[I", true)
  | 29 => ("SevenTableModel", "kindAt", "[I", true)
  | 30 => ("SevenTableModel", "step", "[I", true)
  | 31 => ("SevenTableModel", "ways", "[J", true)
  | 32 => ("SevenTableModel", "waysOn", "[J", true)
  | 33 => ("SevenTableModel", "leftKinds", "I", false)
  | 34 => ("SevenTableModel", "leftCards", "I", false)
  | 35 => ("SevenTableModel", "slots", "I", false)
  | 36 => ("SevenTableModel", "sweepRow", "[I", true)
  | 37 => ("SevenTableModel", "sweepMany", "I", false)
  | 38 => ("SevenTableModel", "values", "[I", true)
  | 39 => ("SevenTableModel", "path", "[I", true)
  | 40 => ("SevenTableModel", "mine", "[I", true)
  | 41 => ("SevenTableModel", "hers", "[I", true)
  | 42 => ("SevenTableModel", "pos", "I", false)
  | 43 => ("SevenTableModel", "vain", "I", false)
  | 44 => ("SevenTableModel", "toCode", "I", false)
  | 45 => ("SevenTableModel", "toGain", "I", false)
  | 46 => ("SevenTableModel", "toSign", "I", false)
  | 47 => ("SevenTableModel", "openFirst", "I", false)
  | 48 => ("SevenTableModel", "rules", "[I", true)
  | 49 => ("SevenTableModel", "seed", "I", false)
  | 50 => ("SevenTableModel", "pack", "[I", true)
  | 51 => ("SevenTableModel", "askedSum", "I", false)
  | 52 => ("SevenTableModel", "told", "I", false)
  | 53 => ("SevenTableModel", "heardAt", "[I", true)
  | 54 => ("SevenTableModel", "hasHeard", "Z", false)
  | 55 => ("SevenTableModel", "stack", "[I", true)
  | 56 => ("SevenTableModel", "codes", "I", false)
  | 57 => ("SevenTableModel", "ones", "I", false)
  | 58 => ("SevenTableModel", "top", "I", false)
  | 59 => ("SevenTableModel", "deep", "I", false)
  | 60 => ("SevenTableModel", "isWhole", "Z", false)
  | 61 => ("SevenTableModel", "truths", "[Z", true)
  | 62 => ("SevenTableModel", "kept", "[I", true)
  | 63 => ("SevenTableModel", "namesKept", "[J", true)
  | _ => ("SevenTableModel", "isKept", "[Z", true)
def tyX11 : Nat → FieldType := fun k => match k with
  | 0 => .int
  | 1 => .array .byte
  | 2 => .int
  | 3 => .int
  | 4 => .int
  | 5 => .int
  | 6 => .array .int
  | 7 => .array .int
  | 8 => .array .int
  | 9 => .array .long
  | 10 => .array .long
  | 11 => .int
  | 12 => .int
  | 13 => .int
  | 14 => .int
  | 15 => .int
  | 16 => .int
  | 17 => .long
  | 18 => .int
  | 19 => .int
  | 20 => .boolean
  | 21 => .boolean
  | 22 => .boolean
  | 23 => .array .int
  | 24 => .boolean
  | 25 => .array .int
  | 26 => .array .int
  | 27 => .int
  | 28 => .array .int
  | 29 => .array .int
  | 30 => .array .int
  | 31 => .array .long
  | 32 => .array .long
  | 33 => .int
  | 34 => .int
  | 35 => .int
  | 36 => .array .int
  | 37 => .int
  | 38 => .array .int
  | 39 => .array .int
  | 40 => .array .int
  | 41 => .array .int
  | 42 => .int
  | 43 => .int
  | 44 => .int
  | 45 => .int
  | 46 => .int
  | 47 => .int
  | 48 => .array .int
  | 49 => .int
  | 50 => .array .int
  | 51 => .int
  | 52 => .int
  | 53 => .array .int
  | 54 => .boolean
  | 55 => .array .int
  | 56 => .int
  | 57 => .int
  | 58 => .int
  | 59 => .int
  | 60 => .boolean
  | 61 => .array .boolean
  | 62 => .array .int
  | 63 => .array .long
  | _ => .array .boolean
abbrev wsX110 : List Cond := u_ws RX11 TX11 65
set_option maxRecDepth 100000 in
theorem nmX11 : ∀ a, a < 65 → ∀ b, b < 65 → a ≠ b → (TX11 a).2.1 ≠ (TX11 b).2.1 := by decide +kernel
set_option maxRecDepth 100000 in
theorem tyX11_ok : ∀ k, k < 65 → parseFieldDescriptor (TX11 k).2.2.1 = some (tyX11 k) := by decide +kernel
abbrev cX11_thrown : ByteArray := prog_23_method_1_code
def yX11_thrown : MethodName := ⟨RX11, "thrown", "()I"⟩
theorem dX11_thrown_0 : decode cX11_thrown 0 = .ok (.aload_n 0, 1) := by decide +kernel
theorem dX11_thrown_1 : decode cX11_thrown 1 = .ok (.getfield 1, 3) := by decide +kernel
theorem dX11_thrown_4 : decode cX11_thrown 4 = .ok (.ireturn, 1) := by decide +kernel
abbrev cX11_feed : ByteArray := prog_23_method_3_code
def yX11_feed : MethodName := ⟨RX11, "feed", "(IIIII)I"⟩
def dkwX11_feed_2 : List UInt8 := [182, 0, 10, 42, 180, 0, 7, 172]
abbrev dktX11_feed_2 : List UInt8 := dkwX11_feed_2 ++ []
def dkwX11_feed_1 : List UInt8 := [182, 0, 10, 42, 28, 182, 0, 10, 42, 29, 182, 0, 10, 42, 21, 4, 182, 0, 10, 42, 21, 5]
abbrev dktX11_feed_1 : List UInt8 := dkwX11_feed_1 ++ dktX11_feed_2
def dkwX11_feed_0 : List UInt8 := [42, 3, 181, 0, 1, 42, 180, 0, 7, 16, 20, 96, 17, 3, 172, 164, 0, 5, 2, 172, 42, 27]
abbrev dktX11_feed_0 : List UInt8 := dkwX11_feed_0 ++ dktX11_feed_1
theorem dksX11_feed_0 : cX11_feed.data.toList.drop 0 = dktX11_feed_0 := by decide +kernel
theorem dksX11_feed_1 : cX11_feed.data.toList.drop 22 = dktX11_feed_1 := dk_seg dksX11_feed_0 22 rfl rfl
theorem dksX11_feed_2 : cX11_feed.data.toList.drop 44 = dktX11_feed_2 := dk_seg dksX11_feed_1 22 rfl rfl
theorem dX11_feed_0 : decode cX11_feed 0 = .ok (.aload_n 0, 1) := dk_42 (dk_at dksX11_feed_0 0 rfl rfl)
theorem dX11_feed_1 : decode cX11_feed 1 = .ok (.iconst 0, 1) := dk_3 (dk_at dksX11_feed_0 1 rfl rfl)
theorem dX11_feed_2 : decode cX11_feed 2 = .ok (.putfield 1, 3) := dk_181 0 1 (dk_at dksX11_feed_0 2 rfl rfl)
theorem dX11_feed_5 : decode cX11_feed 5 = .ok (.aload_n 0, 1) := dk_42 (dk_at dksX11_feed_0 5 rfl rfl)
theorem dX11_feed_6 : decode cX11_feed 6 = .ok (.getfield 7, 3) := dk_180 0 7 (dk_at dksX11_feed_0 6 rfl rfl)
theorem dX11_feed_9 : decode cX11_feed 9 = .ok (.bipush 20, 2) := dk_16 20 (dk_at dksX11_feed_0 9 rfl rfl)
theorem dX11_feed_11 : decode cX11_feed 11 = .ok (.iadd, 1) := dk_96 (dk_at dksX11_feed_0 11 rfl rfl)
theorem dX11_feed_12 : decode cX11_feed 12 = .ok (.sipush 940, 3) := dk_17 3 172 (dk_at dksX11_feed_0 12 rfl rfl)
theorem dX11_feed_15 : decode cX11_feed 15 = .ok (.if_icmp .le 5, 3) := dk_164 0 5 (dk_at dksX11_feed_0 15 rfl rfl)
theorem dX11_feed_18 : decode cX11_feed 18 = .ok (.iconst (-1), 1) := dk_2 (dk_at dksX11_feed_0 18 rfl rfl)
theorem dX11_feed_19 : decode cX11_feed 19 = .ok (.ireturn, 1) := dk_172 (dk_at dksX11_feed_0 19 rfl rfl)
theorem dX11_feed_20 : decode cX11_feed 20 = .ok (.aload_n 0, 1) := dk_42 (dk_at dksX11_feed_0 20 rfl rfl)
theorem dX11_feed_21 : decode cX11_feed 21 = .ok (.iload_n 1, 1) := dk_27 (dk_at dksX11_feed_0 21 rfl rfl)
theorem dX11_feed_22 : decode cX11_feed 22 = .ok (.invokevirtual 10, 3) := dk_182 0 10 (dk_at dksX11_feed_1 0 rfl rfl)
theorem dX11_feed_25 : decode cX11_feed 25 = .ok (.aload_n 0, 1) := dk_42 (dk_at dksX11_feed_1 3 rfl rfl)
theorem dX11_feed_26 : decode cX11_feed 26 = .ok (.iload_n 2, 1) := dk_28 (dk_at dksX11_feed_1 4 rfl rfl)
theorem dX11_feed_27 : decode cX11_feed 27 = .ok (.invokevirtual 10, 3) := dk_182 0 10 (dk_at dksX11_feed_1 5 rfl rfl)
theorem dX11_feed_30 : decode cX11_feed 30 = .ok (.aload_n 0, 1) := dk_42 (dk_at dksX11_feed_1 8 rfl rfl)
theorem dX11_feed_31 : decode cX11_feed 31 = .ok (.iload_n 3, 1) := dk_29 (dk_at dksX11_feed_1 9 rfl rfl)
theorem dX11_feed_32 : decode cX11_feed 32 = .ok (.invokevirtual 10, 3) := dk_182 0 10 (dk_at dksX11_feed_1 10 rfl rfl)
theorem dX11_feed_35 : decode cX11_feed 35 = .ok (.aload_n 0, 1) := dk_42 (dk_at dksX11_feed_1 13 rfl rfl)
theorem dX11_feed_36 : decode cX11_feed 36 = .ok (.iload 4, 2) := dk_21 4 (dk_at dksX11_feed_1 14 rfl rfl)
theorem dX11_feed_38 : decode cX11_feed 38 = .ok (.invokevirtual 10, 3) := dk_182 0 10 (dk_at dksX11_feed_1 16 rfl rfl)
theorem dX11_feed_41 : decode cX11_feed 41 = .ok (.aload_n 0, 1) := dk_42 (dk_at dksX11_feed_1 19 rfl rfl)
theorem dX11_feed_42 : decode cX11_feed 42 = .ok (.iload 5, 2) := dk_21 5 (dk_at dksX11_feed_1 20 rfl rfl)
theorem dX11_feed_44 : decode cX11_feed 44 = .ok (.invokevirtual 10, 3) := dk_182 0 10 (dk_at dksX11_feed_2 0 rfl rfl)
theorem dX11_feed_47 : decode cX11_feed 47 = .ok (.aload_n 0, 1) := dk_42 (dk_at dksX11_feed_2 3 rfl rfl)
theorem dX11_feed_48 : decode cX11_feed 48 = .ok (.getfield 7, 3) := dk_180 0 7 (dk_at dksX11_feed_2 4 rfl rfl)
theorem dX11_feed_51 : decode cX11_feed 51 = .ok (.ireturn, 1) := dk_172 (dk_at dksX11_feed_2 7 rfl rfl)
abbrev cX11_four : ByteArray := prog_23_method_4_code
def yX11_four : MethodName := ⟨RX11, "four", "(I)V"⟩
def dkwX11_four_1 : List UInt8 := [180, 0, 7, 4, 96, 181, 0, 7, 132, 2, 248, 167, 255, 226, 177]
abbrev dktX11_four_1 : List UInt8 := dkwX11_four_1 ++ []
def dkwX11_four_0 : List UInt8 := [16, 24, 61, 28, 155, 0, 32, 42, 180, 0, 14, 42, 180, 0, 7, 27, 28, 122, 145, 84, 42, 89]
abbrev dktX11_four_0 : List UInt8 := dkwX11_four_0 ++ dktX11_four_1
theorem dksX11_four_0 : cX11_four.data.toList.drop 0 = dktX11_four_0 := by decide +kernel
theorem dksX11_four_1 : cX11_four.data.toList.drop 22 = dktX11_four_1 := dk_seg dksX11_four_0 22 rfl rfl
theorem dX11_four_0 : decode cX11_four 0 = .ok (.bipush 24, 2) := dk_16 24 (dk_at dksX11_four_0 0 rfl rfl)
theorem dX11_four_2 : decode cX11_four 2 = .ok (.istore_n 2, 1) := dk_61 (dk_at dksX11_four_0 2 rfl rfl)
theorem dX11_four_3 : decode cX11_four 3 = .ok (.iload_n 2, 1) := dk_28 (dk_at dksX11_four_0 3 rfl rfl)
theorem dX11_four_4 : decode cX11_four 4 = .ok (.ifCond .lt 32, 3) := dk_155 0 32 (dk_at dksX11_four_0 4 rfl rfl)
theorem dX11_four_7 : decode cX11_four 7 = .ok (.aload_n 0, 1) := dk_42 (dk_at dksX11_four_0 7 rfl rfl)
theorem dX11_four_8 : decode cX11_four 8 = .ok (.getfield 14, 3) := dk_180 0 14 (dk_at dksX11_four_0 8 rfl rfl)
theorem dX11_four_11 : decode cX11_four 11 = .ok (.aload_n 0, 1) := dk_42 (dk_at dksX11_four_0 11 rfl rfl)
theorem dX11_four_12 : decode cX11_four 12 = .ok (.getfield 7, 3) := dk_180 0 7 (dk_at dksX11_four_0 12 rfl rfl)
theorem dX11_four_15 : decode cX11_four 15 = .ok (.iload_n 1, 1) := dk_27 (dk_at dksX11_four_0 15 rfl rfl)
theorem dX11_four_16 : decode cX11_four 16 = .ok (.iload_n 2, 1) := dk_28 (dk_at dksX11_four_0 16 rfl rfl)
theorem dX11_four_17 : decode cX11_four 17 = .ok (.ishr, 1) := dk_122 (dk_at dksX11_four_0 17 rfl rfl)
theorem dX11_four_18 : decode cX11_four 18 = .ok (.i2b, 1) := dk_145 (dk_at dksX11_four_0 18 rfl rfl)
theorem dX11_four_19 : decode cX11_four 19 = .ok (.bastore, 1) := dk_84 (dk_at dksX11_four_0 19 rfl rfl)
theorem dX11_four_20 : decode cX11_four 20 = .ok (.aload_n 0, 1) := dk_42 (dk_at dksX11_four_0 20 rfl rfl)
theorem dX11_four_21 : decode cX11_four 21 = .ok (.dup, 1) := dk_89 (dk_at dksX11_four_0 21 rfl rfl)
theorem dX11_four_22 : decode cX11_four 22 = .ok (.getfield 7, 3) := dk_180 0 7 (dk_at dksX11_four_1 0 rfl rfl)
theorem dX11_four_25 : decode cX11_four 25 = .ok (.iconst 1, 1) := dk_4 (dk_at dksX11_four_1 3 rfl rfl)
theorem dX11_four_26 : decode cX11_four 26 = .ok (.iadd, 1) := dk_96 (dk_at dksX11_four_1 4 rfl rfl)
theorem dX11_four_27 : decode cX11_four 27 = .ok (.putfield 7, 3) := dk_181 0 7 (dk_at dksX11_four_1 5 rfl rfl)
theorem dX11_four_30 : decode cX11_four 30 = .ok (.iinc 2 (-8), 3) := dk_132 2 248 (dk_at dksX11_four_1 8 rfl rfl)
theorem dX11_four_33 : decode cX11_four 33 = .ok (.goto (-30), 3) := dk_167 255 226 (dk_at dksX11_four_1 11 rfl rfl)
theorem dX11_four_36 : decode cX11_four 36 = .ok (.return_, 1) := dk_177 (dk_at dksX11_four_1 14 rfl rfl)
abbrev cX11_end : ByteArray := prog_23_method_5_code
def yX11_end : MethodName := ⟨RX11, "end", "(I)Z"⟩
def dkwX11_end_1 : List UInt8 := [4, 172]
abbrev dktX11_end_1 : List UInt8 := dkwX11_end_1 ++ []
def dkwX11_end_0 : List UInt8 := [42, 3, 181, 0, 1, 27, 155, 0, 11, 27, 42, 180, 0, 7, 164, 0, 5, 3, 172, 42, 27, 181, 0, 7]
abbrev dktX11_end_0 : List UInt8 := dkwX11_end_0 ++ dktX11_end_1
theorem dksX11_end_0 : cX11_end.data.toList.drop 0 = dktX11_end_0 := by decide +kernel
theorem dksX11_end_1 : cX11_end.data.toList.drop 24 = dktX11_end_1 := dk_seg dksX11_end_0 24 rfl rfl
theorem dX11_end_0 : decode cX11_end 0 = .ok (.aload_n 0, 1) := dk_42 (dk_at dksX11_end_0 0 rfl rfl)
theorem dX11_end_1 : decode cX11_end 1 = .ok (.iconst 0, 1) := dk_3 (dk_at dksX11_end_0 1 rfl rfl)
theorem dX11_end_2 : decode cX11_end 2 = .ok (.putfield 1, 3) := dk_181 0 1 (dk_at dksX11_end_0 2 rfl rfl)
theorem dX11_end_5 : decode cX11_end 5 = .ok (.iload_n 1, 1) := dk_27 (dk_at dksX11_end_0 5 rfl rfl)
theorem dX11_end_6 : decode cX11_end 6 = .ok (.ifCond .lt 11, 3) := dk_155 0 11 (dk_at dksX11_end_0 6 rfl rfl)
theorem dX11_end_9 : decode cX11_end 9 = .ok (.iload_n 1, 1) := dk_27 (dk_at dksX11_end_0 9 rfl rfl)
theorem dX11_end_10 : decode cX11_end 10 = .ok (.aload_n 0, 1) := dk_42 (dk_at dksX11_end_0 10 rfl rfl)
theorem dX11_end_11 : decode cX11_end 11 = .ok (.getfield 7, 3) := dk_180 0 7 (dk_at dksX11_end_0 11 rfl rfl)
theorem dX11_end_14 : decode cX11_end 14 = .ok (.if_icmp .le 5, 3) := dk_164 0 5 (dk_at dksX11_end_0 14 rfl rfl)
theorem dX11_end_17 : decode cX11_end 17 = .ok (.iconst 0, 1) := dk_3 (dk_at dksX11_end_0 17 rfl rfl)
theorem dX11_end_18 : decode cX11_end 18 = .ok (.ireturn, 1) := dk_172 (dk_at dksX11_end_0 18 rfl rfl)
theorem dX11_end_19 : decode cX11_end 19 = .ok (.aload_n 0, 1) := dk_42 (dk_at dksX11_end_0 19 rfl rfl)
theorem dX11_end_20 : decode cX11_end 20 = .ok (.iload_n 1, 1) := dk_27 (dk_at dksX11_end_0 20 rfl rfl)
theorem dX11_end_21 : decode cX11_end 21 = .ok (.putfield 7, 3) := dk_181 0 7 (dk_at dksX11_end_0 21 rfl rfl)
theorem dX11_end_24 : decode cX11_end 24 = .ok (.iconst 1, 1) := dk_4 (dk_at dksX11_end_1 0 rfl rfl)
theorem dX11_end_25 : decode cX11_end 25 = .ok (.ireturn, 1) := dk_172 (dk_at dksX11_end_1 1 rfl rfl)
abbrev cX11_init : ByteArray := prog_23_method_10_code
def yX11_init : MethodName := ⟨RX11, "<init>", "()V"⟩
def dkwX11_init_17 : List UInt8 := [16, 17, 20, 0, 149, 80, 42, 180, 0, 47, 16, 18, 20, 0, 151, 80, 42, 180, 0, 33, 7, 2, 79, 177]
abbrev dktX11_init_17 : List UInt8 := dkwX11_init_17 ++ []
def dkwX11_init_16 : List UInt8 := [42, 180, 0, 47, 16, 15, 20, 0, 145, 80, 42, 180, 0, 47, 16, 16, 20, 0, 147, 80, 42, 180, 0, 47]
abbrev dktX11_init_16 : List UInt8 := dkwX11_init_16 ++ dktX11_init_17
def dkwX11_init_15 : List UInt8 := [20, 0, 139, 80, 42, 180, 0, 47, 16, 13, 20, 0, 141, 80, 42, 180, 0, 47, 16, 14, 20, 0, 143, 80]
abbrev dktX11_init_15 : List UInt8 := dkwX11_init_15 ++ dktX11_init_16
def dkwX11_init_14 : List UInt8 := [16, 10, 20, 0, 135, 80, 42, 180, 0, 47, 16, 11, 20, 0, 137, 80, 42, 180, 0, 47, 16, 12]
abbrev dktX11_init_14 : List UInt8 := dkwX11_init_14 ++ dktX11_init_15
def dkwX11_init_13 : List UInt8 := [42, 180, 0, 47, 16, 8, 20, 0, 131, 80, 42, 180, 0, 47, 16, 9, 20, 0, 133, 80, 42, 180, 0, 47]
abbrev dktX11_init_13 : List UInt8 := dkwX11_init_13 ++ dktX11_init_14
def dkwX11_init_12 : List UInt8 := [20, 0, 125, 80, 42, 180, 0, 47, 16, 6, 20, 0, 127, 80, 42, 180, 0, 47, 16, 7, 20, 0, 129, 80]
abbrev dktX11_init_12 : List UInt8 := dkwX11_init_12 ++ dktX11_init_13
def dkwX11_init_11 : List UInt8 := [180, 0, 47, 6, 20, 0, 121, 80, 42, 180, 0, 47, 7, 20, 0, 123, 80, 42, 180, 0, 47, 8]
abbrev dktX11_init_11 : List UInt8 := dkwX11_init_11 ++ dktX11_init_12
def dkwX11_init_10 : List UInt8 := [3, 20, 0, 115, 80, 42, 180, 0, 47, 4, 20, 0, 117, 80, 42, 180, 0, 47, 5, 20, 0, 119, 80, 42]
abbrev dktX11_init_10 : List UInt8 := dkwX11_init_10 ++ dktX11_init_11
def dkwX11_init_9 : List UInt8 := [188, 10, 181, 0, 106, 42, 16, 12, 188, 11, 181, 0, 109, 42, 5, 188, 4, 181, 0, 112, 42, 180, 0, 47]
abbrev dktX11_init_9 : List UInt8 := dkwX11_init_9 ++ dktX11_init_10
def dkwX11_init_8 : List UInt8 := [181, 0, 96, 42, 16, 45, 188, 10, 181, 0, 99, 42, 16, 45, 188, 4, 181, 0, 102, 42, 17, 5, 250]
abbrev dktX11_init_8 : List UInt8 := dkwX11_init_8 ++ dktX11_init_9
def dkwX11_init_7 : List UInt8 := [181, 0, 87, 42, 16, 6, 188, 10, 181, 0, 90, 42, 16, 52, 188, 10, 181, 0, 93, 42, 7, 188, 10]
abbrev dktX11_init_7 : List UInt8 := dkwX11_init_7 ++ dktX11_init_8
def dkwX11_init_6 : List UInt8 := [181, 0, 78, 42, 17, 1, 144, 188, 10, 181, 0, 81, 42, 6, 188, 10, 181, 0, 84, 42, 6, 188, 10]
abbrev dktX11_init_6 : List UInt8 := dkwX11_init_6 ++ dktX11_init_7
def dkwX11_init_5 : List UInt8 := [42, 17, 61, 9, 188, 11, 181, 0, 71, 42, 16, 65, 188, 10, 181, 0, 74, 42, 18, 77, 188, 10]
abbrev dktX11_init_5 : List UInt8 := dkwX11_init_5 ++ dktX11_init_6
def dkwX11_init_4 : List UInt8 := [16, 6, 188, 10, 181, 0, 62, 42, 16, 6, 188, 10, 181, 0, 65, 42, 17, 61, 9, 188, 11, 181, 0, 68]
abbrev dktX11_init_4 : List UInt8 := dkwX11_init_4 ++ dktX11_init_5
def dkwX11_init_3 : List UInt8 := [188, 10, 181, 0, 53, 42, 17, 2, 68, 188, 10, 181, 0, 56, 42, 16, 13, 188, 10, 181, 0, 59, 42]
abbrev dktX11_init_3 : List UInt8 := dkwX11_init_3 ++ dktX11_init_4
def dkwX11_init_2 : List UInt8 := [181, 0, 43, 42, 16, 19, 188, 11, 181, 0, 47, 42, 16, 8, 188, 10, 181, 0, 50, 42, 17, 18, 32]
abbrev dktX11_init_2 : List UInt8 := dkwX11_init_2 ++ dktX11_init_3
def dkwX11_init_1 : List UInt8 := [17, 2, 72, 188, 10, 181, 0, 37, 42, 17, 0, 135, 188, 10, 181, 0, 40, 42, 16, 12, 188, 11]
abbrev dktX11_init_1 : List UInt8 := dkwX11_init_1 ++ dktX11_init_2
def dkwX11_init_0 : List UInt8 := [42, 183, 0, 27, 42, 17, 3, 172, 188, 8, 181, 0, 14, 42, 17, 2, 253, 188, 10, 181, 0, 33, 42]
abbrev dktX11_init_0 : List UInt8 := dkwX11_init_0 ++ dktX11_init_1
theorem dksX11_init_0 : cX11_init.data.toList.drop 0 = dktX11_init_0 := by decide +kernel
theorem dksX11_init_1 : cX11_init.data.toList.drop 23 = dktX11_init_1 := dk_seg dksX11_init_0 23 rfl rfl
theorem dksX11_init_2 : cX11_init.data.toList.drop 45 = dktX11_init_2 := dk_seg dksX11_init_1 22 rfl rfl
theorem dksX11_init_3 : cX11_init.data.toList.drop 68 = dktX11_init_3 := dk_seg dksX11_init_2 23 rfl rfl
theorem dksX11_init_4 : cX11_init.data.toList.drop 91 = dktX11_init_4 := dk_seg dksX11_init_3 23 rfl rfl
theorem dksX11_init_5 : cX11_init.data.toList.drop 115 = dktX11_init_5 := dk_seg dksX11_init_4 24 rfl rfl
theorem dksX11_init_6 : cX11_init.data.toList.drop 137 = dktX11_init_6 := dk_seg dksX11_init_5 22 rfl rfl
theorem dksX11_init_7 : cX11_init.data.toList.drop 160 = dktX11_init_7 := dk_seg dksX11_init_6 23 rfl rfl
theorem dksX11_init_8 : cX11_init.data.toList.drop 183 = dktX11_init_8 := dk_seg dksX11_init_7 23 rfl rfl
theorem dksX11_init_9 : cX11_init.data.toList.drop 206 = dktX11_init_9 := dk_seg dksX11_init_8 23 rfl rfl
theorem dksX11_init_10 : cX11_init.data.toList.drop 230 = dktX11_init_10 := dk_seg dksX11_init_9 24 rfl rfl
theorem dksX11_init_11 : cX11_init.data.toList.drop 254 = dktX11_init_11 := dk_seg dksX11_init_10 24 rfl rfl
theorem dksX11_init_12 : cX11_init.data.toList.drop 276 = dktX11_init_12 := dk_seg dksX11_init_11 22 rfl rfl
theorem dksX11_init_13 : cX11_init.data.toList.drop 300 = dktX11_init_13 := dk_seg dksX11_init_12 24 rfl rfl
theorem dksX11_init_14 : cX11_init.data.toList.drop 324 = dktX11_init_14 := dk_seg dksX11_init_13 24 rfl rfl
theorem dksX11_init_15 : cX11_init.data.toList.drop 346 = dktX11_init_15 := dk_seg dksX11_init_14 22 rfl rfl
theorem dksX11_init_16 : cX11_init.data.toList.drop 370 = dktX11_init_16 := dk_seg dksX11_init_15 24 rfl rfl
theorem dksX11_init_17 : cX11_init.data.toList.drop 394 = dktX11_init_17 := dk_seg dksX11_init_16 24 rfl rfl
theorem dX11_init_0 : decode cX11_init 0 = .ok (.aload_n 0, 1) := dk_42 (dk_at dksX11_init_0 0 rfl rfl)
theorem dX11_init_1 : decode cX11_init 1 = .ok (.invokespecial 27, 3) := dk_183 0 27 (dk_at dksX11_init_0 1 rfl rfl)
theorem dX11_init_4 : decode cX11_init 4 = .ok (.aload_n 0, 1) := dk_42 (dk_at dksX11_init_0 4 rfl rfl)
theorem dX11_init_5 : decode cX11_init 5 = .ok (.sipush 940, 3) := dk_17 3 172 (dk_at dksX11_init_0 5 rfl rfl)
theorem dX11_init_8 : decode cX11_init 8 = .ok (.newarray .byte, 2) := dk_188_8 (dk_at dksX11_init_0 8 rfl rfl)
theorem dX11_init_10 : decode cX11_init 10 = .ok (.putfield 14, 3) := dk_181 0 14 (dk_at dksX11_init_0 10 rfl rfl)
theorem dX11_init_13 : decode cX11_init 13 = .ok (.aload_n 0, 1) := dk_42 (dk_at dksX11_init_0 13 rfl rfl)
theorem dX11_init_14 : decode cX11_init 14 = .ok (.sipush 765, 3) := dk_17 2 253 (dk_at dksX11_init_0 14 rfl rfl)
theorem dX11_init_17 : decode cX11_init 17 = .ok (.newarray .int, 2) := dk_188_10 (dk_at dksX11_init_0 17 rfl rfl)
theorem dX11_init_19 : decode cX11_init 19 = .ok (.putfield 33, 3) := dk_181 0 33 (dk_at dksX11_init_0 19 rfl rfl)
theorem dX11_init_22 : decode cX11_init 22 = .ok (.aload_n 0, 1) := dk_42 (dk_at dksX11_init_0 22 rfl rfl)
theorem dX11_init_23 : decode cX11_init 23 = .ok (.sipush 584, 3) := dk_17 2 72 (dk_at dksX11_init_1 0 rfl rfl)
theorem dX11_init_26 : decode cX11_init 26 = .ok (.newarray .int, 2) := dk_188_10 (dk_at dksX11_init_1 3 rfl rfl)
theorem dX11_init_28 : decode cX11_init 28 = .ok (.putfield 37, 3) := dk_181 0 37 (dk_at dksX11_init_1 5 rfl rfl)
theorem dX11_init_31 : decode cX11_init 31 = .ok (.aload_n 0, 1) := dk_42 (dk_at dksX11_init_1 8 rfl rfl)
theorem dX11_init_32 : decode cX11_init 32 = .ok (.sipush 135, 3) := dk_17 0 135 (dk_at dksX11_init_1 9 rfl rfl)
theorem dX11_init_35 : decode cX11_init 35 = .ok (.newarray .int, 2) := dk_188_10 (dk_at dksX11_init_1 12 rfl rfl)
theorem dX11_init_37 : decode cX11_init 37 = .ok (.putfield 40, 3) := dk_181 0 40 (dk_at dksX11_init_1 14 rfl rfl)
theorem dX11_init_40 : decode cX11_init 40 = .ok (.aload_n 0, 1) := dk_42 (dk_at dksX11_init_1 17 rfl rfl)
theorem dX11_init_41 : decode cX11_init 41 = .ok (.bipush 12, 2) := dk_16 12 (dk_at dksX11_init_1 18 rfl rfl)
theorem dX11_init_43 : decode cX11_init 43 = .ok (.newarray .long, 2) := dk_188_11 (dk_at dksX11_init_1 20 rfl rfl)
theorem dX11_init_45 : decode cX11_init 45 = .ok (.putfield 43, 3) := dk_181 0 43 (dk_at dksX11_init_2 0 rfl rfl)
theorem dX11_init_48 : decode cX11_init 48 = .ok (.aload_n 0, 1) := dk_42 (dk_at dksX11_init_2 3 rfl rfl)
theorem dX11_init_49 : decode cX11_init 49 = .ok (.bipush 19, 2) := dk_16 19 (dk_at dksX11_init_2 4 rfl rfl)
theorem dX11_init_51 : decode cX11_init 51 = .ok (.newarray .long, 2) := dk_188_11 (dk_at dksX11_init_2 6 rfl rfl)
theorem dX11_init_53 : decode cX11_init 53 = .ok (.putfield 47, 3) := dk_181 0 47 (dk_at dksX11_init_2 8 rfl rfl)
theorem dX11_init_56 : decode cX11_init 56 = .ok (.aload_n 0, 1) := dk_42 (dk_at dksX11_init_2 11 rfl rfl)
theorem dX11_init_57 : decode cX11_init 57 = .ok (.bipush 8, 2) := dk_16 8 (dk_at dksX11_init_2 12 rfl rfl)
theorem dX11_init_59 : decode cX11_init 59 = .ok (.newarray .int, 2) := dk_188_10 (dk_at dksX11_init_2 14 rfl rfl)
theorem dX11_init_61 : decode cX11_init 61 = .ok (.putfield 50, 3) := dk_181 0 50 (dk_at dksX11_init_2 16 rfl rfl)
theorem dX11_init_64 : decode cX11_init 64 = .ok (.aload_n 0, 1) := dk_42 (dk_at dksX11_init_2 19 rfl rfl)
theorem dX11_init_65 : decode cX11_init 65 = .ok (.sipush 4640, 3) := dk_17 18 32 (dk_at dksX11_init_2 20 rfl rfl)
theorem dX11_init_68 : decode cX11_init 68 = .ok (.newarray .int, 2) := dk_188_10 (dk_at dksX11_init_3 0 rfl rfl)
theorem dX11_init_70 : decode cX11_init 70 = .ok (.putfield 53, 3) := dk_181 0 53 (dk_at dksX11_init_3 2 rfl rfl)
theorem dX11_init_73 : decode cX11_init 73 = .ok (.aload_n 0, 1) := dk_42 (dk_at dksX11_init_3 5 rfl rfl)
theorem dX11_init_74 : decode cX11_init 74 = .ok (.sipush 580, 3) := dk_17 2 68 (dk_at dksX11_init_3 6 rfl rfl)
theorem dX11_init_77 : decode cX11_init 77 = .ok (.newarray .int, 2) := dk_188_10 (dk_at dksX11_init_3 9 rfl rfl)
theorem dX11_init_79 : decode cX11_init 79 = .ok (.putfield 56, 3) := dk_181 0 56 (dk_at dksX11_init_3 11 rfl rfl)
theorem dX11_init_82 : decode cX11_init 82 = .ok (.aload_n 0, 1) := dk_42 (dk_at dksX11_init_3 14 rfl rfl)
theorem dX11_init_83 : decode cX11_init 83 = .ok (.bipush 13, 2) := dk_16 13 (dk_at dksX11_init_3 15 rfl rfl)
theorem dX11_init_85 : decode cX11_init 85 = .ok (.newarray .int, 2) := dk_188_10 (dk_at dksX11_init_3 17 rfl rfl)
theorem dX11_init_87 : decode cX11_init 87 = .ok (.putfield 59, 3) := dk_181 0 59 (dk_at dksX11_init_3 19 rfl rfl)
theorem dX11_init_90 : decode cX11_init 90 = .ok (.aload_n 0, 1) := dk_42 (dk_at dksX11_init_3 22 rfl rfl)
theorem dX11_init_91 : decode cX11_init 91 = .ok (.bipush 6, 2) := dk_16 6 (dk_at dksX11_init_4 0 rfl rfl)
theorem dX11_init_93 : decode cX11_init 93 = .ok (.newarray .int, 2) := dk_188_10 (dk_at dksX11_init_4 2 rfl rfl)
theorem dX11_init_95 : decode cX11_init 95 = .ok (.putfield 62, 3) := dk_181 0 62 (dk_at dksX11_init_4 4 rfl rfl)
theorem dX11_init_98 : decode cX11_init 98 = .ok (.aload_n 0, 1) := dk_42 (dk_at dksX11_init_4 7 rfl rfl)
theorem dX11_init_99 : decode cX11_init 99 = .ok (.bipush 6, 2) := dk_16 6 (dk_at dksX11_init_4 8 rfl rfl)
theorem dX11_init_101 : decode cX11_init 101 = .ok (.newarray .int, 2) := dk_188_10 (dk_at dksX11_init_4 10 rfl rfl)
theorem dX11_init_103 : decode cX11_init 103 = .ok (.putfield 65, 3) := dk_181 0 65 (dk_at dksX11_init_4 12 rfl rfl)
theorem dX11_init_106 : decode cX11_init 106 = .ok (.aload_n 0, 1) := dk_42 (dk_at dksX11_init_4 15 rfl rfl)
theorem dX11_init_107 : decode cX11_init 107 = .ok (.sipush 15625, 3) := dk_17 61 9 (dk_at dksX11_init_4 16 rfl rfl)
theorem dX11_init_110 : decode cX11_init 110 = .ok (.newarray .long, 2) := dk_188_11 (dk_at dksX11_init_4 19 rfl rfl)
theorem dX11_init_112 : decode cX11_init 112 = .ok (.putfield 68, 3) := dk_181 0 68 (dk_at dksX11_init_4 21 rfl rfl)
theorem dX11_init_115 : decode cX11_init 115 = .ok (.aload_n 0, 1) := dk_42 (dk_at dksX11_init_5 0 rfl rfl)
theorem dX11_init_116 : decode cX11_init 116 = .ok (.sipush 15625, 3) := dk_17 61 9 (dk_at dksX11_init_5 1 rfl rfl)
theorem dX11_init_119 : decode cX11_init 119 = .ok (.newarray .long, 2) := dk_188_11 (dk_at dksX11_init_5 4 rfl rfl)
theorem dX11_init_121 : decode cX11_init 121 = .ok (.putfield 71, 3) := dk_181 0 71 (dk_at dksX11_init_5 6 rfl rfl)
theorem dX11_init_124 : decode cX11_init 124 = .ok (.aload_n 0, 1) := dk_42 (dk_at dksX11_init_5 9 rfl rfl)
theorem dX11_init_125 : decode cX11_init 125 = .ok (.bipush 65, 2) := dk_16 65 (dk_at dksX11_init_5 10 rfl rfl)
theorem dX11_init_127 : decode cX11_init 127 = .ok (.newarray .int, 2) := dk_188_10 (dk_at dksX11_init_5 12 rfl rfl)
theorem dX11_init_129 : decode cX11_init 129 = .ok (.putfield 74, 3) := dk_181 0 74 (dk_at dksX11_init_5 14 rfl rfl)
theorem dX11_init_132 : decode cX11_init 132 = .ok (.aload_n 0, 1) := dk_42 (dk_at dksX11_init_5 17 rfl rfl)
theorem dX11_init_133 : decode cX11_init 133 = .ok (.ldc 77, 2) := dk_18 77 (dk_at dksX11_init_5 18 rfl rfl)
theorem dX11_init_135 : decode cX11_init 135 = .ok (.newarray .int, 2) := dk_188_10 (dk_at dksX11_init_5 20 rfl rfl)
theorem dX11_init_137 : decode cX11_init 137 = .ok (.putfield 78, 3) := dk_181 0 78 (dk_at dksX11_init_6 0 rfl rfl)
theorem dX11_init_140 : decode cX11_init 140 = .ok (.aload_n 0, 1) := dk_42 (dk_at dksX11_init_6 3 rfl rfl)
theorem dX11_init_141 : decode cX11_init 141 = .ok (.sipush 400, 3) := dk_17 1 144 (dk_at dksX11_init_6 4 rfl rfl)
theorem dX11_init_144 : decode cX11_init 144 = .ok (.newarray .int, 2) := dk_188_10 (dk_at dksX11_init_6 7 rfl rfl)
theorem dX11_init_146 : decode cX11_init 146 = .ok (.putfield 81, 3) := dk_181 0 81 (dk_at dksX11_init_6 9 rfl rfl)
theorem dX11_init_149 : decode cX11_init 149 = .ok (.aload_n 0, 1) := dk_42 (dk_at dksX11_init_6 12 rfl rfl)
theorem dX11_init_150 : decode cX11_init 150 = .ok (.iconst 3, 1) := dk_6 (dk_at dksX11_init_6 13 rfl rfl)
theorem dX11_init_151 : decode cX11_init 151 = .ok (.newarray .int, 2) := dk_188_10 (dk_at dksX11_init_6 14 rfl rfl)
theorem dX11_init_153 : decode cX11_init 153 = .ok (.putfield 84, 3) := dk_181 0 84 (dk_at dksX11_init_6 16 rfl rfl)
theorem dX11_init_156 : decode cX11_init 156 = .ok (.aload_n 0, 1) := dk_42 (dk_at dksX11_init_6 19 rfl rfl)
theorem dX11_init_157 : decode cX11_init 157 = .ok (.iconst 3, 1) := dk_6 (dk_at dksX11_init_6 20 rfl rfl)
theorem dX11_init_158 : decode cX11_init 158 = .ok (.newarray .int, 2) := dk_188_10 (dk_at dksX11_init_6 21 rfl rfl)
theorem dX11_init_160 : decode cX11_init 160 = .ok (.putfield 87, 3) := dk_181 0 87 (dk_at dksX11_init_7 0 rfl rfl)
theorem dX11_init_163 : decode cX11_init 163 = .ok (.aload_n 0, 1) := dk_42 (dk_at dksX11_init_7 3 rfl rfl)
theorem dX11_init_164 : decode cX11_init 164 = .ok (.bipush 6, 2) := dk_16 6 (dk_at dksX11_init_7 4 rfl rfl)
theorem dX11_init_166 : decode cX11_init 166 = .ok (.newarray .int, 2) := dk_188_10 (dk_at dksX11_init_7 6 rfl rfl)
theorem dX11_init_168 : decode cX11_init 168 = .ok (.putfield 90, 3) := dk_181 0 90 (dk_at dksX11_init_7 8 rfl rfl)
theorem dX11_init_171 : decode cX11_init 171 = .ok (.aload_n 0, 1) := dk_42 (dk_at dksX11_init_7 11 rfl rfl)
theorem dX11_init_172 : decode cX11_init 172 = .ok (.bipush 52, 2) := dk_16 52 (dk_at dksX11_init_7 12 rfl rfl)
theorem dX11_init_174 : decode cX11_init 174 = .ok (.newarray .int, 2) := dk_188_10 (dk_at dksX11_init_7 14 rfl rfl)
theorem dX11_init_176 : decode cX11_init 176 = .ok (.putfield 93, 3) := dk_181 0 93 (dk_at dksX11_init_7 16 rfl rfl)
theorem dX11_init_179 : decode cX11_init 179 = .ok (.aload_n 0, 1) := dk_42 (dk_at dksX11_init_7 19 rfl rfl)
theorem dX11_init_180 : decode cX11_init 180 = .ok (.iconst 4, 1) := dk_7 (dk_at dksX11_init_7 20 rfl rfl)
theorem dX11_init_181 : decode cX11_init 181 = .ok (.newarray .int, 2) := dk_188_10 (dk_at dksX11_init_7 21 rfl rfl)
theorem dX11_init_183 : decode cX11_init 183 = .ok (.putfield 96, 3) := dk_181 0 96 (dk_at dksX11_init_8 0 rfl rfl)
theorem dX11_init_186 : decode cX11_init 186 = .ok (.aload_n 0, 1) := dk_42 (dk_at dksX11_init_8 3 rfl rfl)
theorem dX11_init_187 : decode cX11_init 187 = .ok (.bipush 45, 2) := dk_16 45 (dk_at dksX11_init_8 4 rfl rfl)
theorem dX11_init_189 : decode cX11_init 189 = .ok (.newarray .int, 2) := dk_188_10 (dk_at dksX11_init_8 6 rfl rfl)
theorem dX11_init_191 : decode cX11_init 191 = .ok (.putfield 99, 3) := dk_181 0 99 (dk_at dksX11_init_8 8 rfl rfl)
theorem dX11_init_194 : decode cX11_init 194 = .ok (.aload_n 0, 1) := dk_42 (dk_at dksX11_init_8 11 rfl rfl)
theorem dX11_init_195 : decode cX11_init 195 = .ok (.bipush 45, 2) := dk_16 45 (dk_at dksX11_init_8 12 rfl rfl)
theorem dX11_init_197 : decode cX11_init 197 = .ok (.newarray .boolean, 2) := dk_188_4 (dk_at dksX11_init_8 14 rfl rfl)
theorem dX11_init_199 : decode cX11_init 199 = .ok (.putfield 102, 3) := dk_181 0 102 (dk_at dksX11_init_8 16 rfl rfl)
theorem dX11_init_202 : decode cX11_init 202 = .ok (.aload_n 0, 1) := dk_42 (dk_at dksX11_init_8 19 rfl rfl)
theorem dX11_init_203 : decode cX11_init 203 = .ok (.sipush 1530, 3) := dk_17 5 250 (dk_at dksX11_init_8 20 rfl rfl)
theorem dX11_init_206 : decode cX11_init 206 = .ok (.newarray .int, 2) := dk_188_10 (dk_at dksX11_init_9 0 rfl rfl)
theorem dX11_init_208 : decode cX11_init 208 = .ok (.putfield 106, 3) := dk_181 0 106 (dk_at dksX11_init_9 2 rfl rfl)
theorem dX11_init_211 : decode cX11_init 211 = .ok (.aload_n 0, 1) := dk_42 (dk_at dksX11_init_9 5 rfl rfl)
theorem dX11_init_212 : decode cX11_init 212 = .ok (.bipush 12, 2) := dk_16 12 (dk_at dksX11_init_9 6 rfl rfl)
theorem dX11_init_214 : decode cX11_init 214 = .ok (.newarray .long, 2) := dk_188_11 (dk_at dksX11_init_9 8 rfl rfl)
theorem dX11_init_216 : decode cX11_init 216 = .ok (.putfield 109, 3) := dk_181 0 109 (dk_at dksX11_init_9 10 rfl rfl)
theorem dX11_init_219 : decode cX11_init 219 = .ok (.aload_n 0, 1) := dk_42 (dk_at dksX11_init_9 13 rfl rfl)
theorem dX11_init_220 : decode cX11_init 220 = .ok (.iconst 2, 1) := dk_5 (dk_at dksX11_init_9 14 rfl rfl)
theorem dX11_init_221 : decode cX11_init 221 = .ok (.newarray .boolean, 2) := dk_188_4 (dk_at dksX11_init_9 15 rfl rfl)
theorem dX11_init_223 : decode cX11_init 223 = .ok (.putfield 112, 3) := dk_181 0 112 (dk_at dksX11_init_9 17 rfl rfl)
theorem dX11_init_226 : decode cX11_init 226 = .ok (.aload_n 0, 1) := dk_42 (dk_at dksX11_init_9 20 rfl rfl)
theorem dX11_init_227 : decode cX11_init 227 = .ok (.getfield 47, 3) := dk_180 0 47 (dk_at dksX11_init_9 21 rfl rfl)
theorem dX11_init_230 : decode cX11_init 230 = .ok (.iconst 0, 1) := dk_3 (dk_at dksX11_init_10 0 rfl rfl)
theorem dX11_init_231 : decode cX11_init 231 = .ok (.ldc2_w 115, 3) := dk_20 0 115 (dk_at dksX11_init_10 1 rfl rfl)
theorem dX11_init_234 : decode cX11_init 234 = .ok (.lastore, 1) := dk_80 (dk_at dksX11_init_10 4 rfl rfl)
theorem dX11_init_235 : decode cX11_init 235 = .ok (.aload_n 0, 1) := dk_42 (dk_at dksX11_init_10 5 rfl rfl)
theorem dX11_init_236 : decode cX11_init 236 = .ok (.getfield 47, 3) := dk_180 0 47 (dk_at dksX11_init_10 6 rfl rfl)
theorem dX11_init_239 : decode cX11_init 239 = .ok (.iconst 1, 1) := dk_4 (dk_at dksX11_init_10 9 rfl rfl)
theorem dX11_init_240 : decode cX11_init 240 = .ok (.ldc2_w 117, 3) := dk_20 0 117 (dk_at dksX11_init_10 10 rfl rfl)
theorem dX11_init_243 : decode cX11_init 243 = .ok (.lastore, 1) := dk_80 (dk_at dksX11_init_10 13 rfl rfl)
theorem dX11_init_244 : decode cX11_init 244 = .ok (.aload_n 0, 1) := dk_42 (dk_at dksX11_init_10 14 rfl rfl)
theorem dX11_init_245 : decode cX11_init 245 = .ok (.getfield 47, 3) := dk_180 0 47 (dk_at dksX11_init_10 15 rfl rfl)
theorem dX11_init_248 : decode cX11_init 248 = .ok (.iconst 2, 1) := dk_5 (dk_at dksX11_init_10 18 rfl rfl)
theorem dX11_init_249 : decode cX11_init 249 = .ok (.ldc2_w 119, 3) := dk_20 0 119 (dk_at dksX11_init_10 19 rfl rfl)
theorem dX11_init_252 : decode cX11_init 252 = .ok (.lastore, 1) := dk_80 (dk_at dksX11_init_10 22 rfl rfl)
theorem dX11_init_253 : decode cX11_init 253 = .ok (.aload_n 0, 1) := dk_42 (dk_at dksX11_init_10 23 rfl rfl)
theorem dX11_init_254 : decode cX11_init 254 = .ok (.getfield 47, 3) := dk_180 0 47 (dk_at dksX11_init_11 0 rfl rfl)
theorem dX11_init_257 : decode cX11_init 257 = .ok (.iconst 3, 1) := dk_6 (dk_at dksX11_init_11 3 rfl rfl)
theorem dX11_init_258 : decode cX11_init 258 = .ok (.ldc2_w 121, 3) := dk_20 0 121 (dk_at dksX11_init_11 4 rfl rfl)
theorem dX11_init_261 : decode cX11_init 261 = .ok (.lastore, 1) := dk_80 (dk_at dksX11_init_11 7 rfl rfl)
theorem dX11_init_262 : decode cX11_init 262 = .ok (.aload_n 0, 1) := dk_42 (dk_at dksX11_init_11 8 rfl rfl)
theorem dX11_init_263 : decode cX11_init 263 = .ok (.getfield 47, 3) := dk_180 0 47 (dk_at dksX11_init_11 9 rfl rfl)
theorem dX11_init_266 : decode cX11_init 266 = .ok (.iconst 4, 1) := dk_7 (dk_at dksX11_init_11 12 rfl rfl)
theorem dX11_init_267 : decode cX11_init 267 = .ok (.ldc2_w 123, 3) := dk_20 0 123 (dk_at dksX11_init_11 13 rfl rfl)
theorem dX11_init_270 : decode cX11_init 270 = .ok (.lastore, 1) := dk_80 (dk_at dksX11_init_11 16 rfl rfl)
theorem dX11_init_271 : decode cX11_init 271 = .ok (.aload_n 0, 1) := dk_42 (dk_at dksX11_init_11 17 rfl rfl)
theorem dX11_init_272 : decode cX11_init 272 = .ok (.getfield 47, 3) := dk_180 0 47 (dk_at dksX11_init_11 18 rfl rfl)
theorem dX11_init_275 : decode cX11_init 275 = .ok (.iconst 5, 1) := dk_8 (dk_at dksX11_init_11 21 rfl rfl)
theorem dX11_init_276 : decode cX11_init 276 = .ok (.ldc2_w 125, 3) := dk_20 0 125 (dk_at dksX11_init_12 0 rfl rfl)
theorem dX11_init_279 : decode cX11_init 279 = .ok (.lastore, 1) := dk_80 (dk_at dksX11_init_12 3 rfl rfl)
theorem dX11_init_280 : decode cX11_init 280 = .ok (.aload_n 0, 1) := dk_42 (dk_at dksX11_init_12 4 rfl rfl)
theorem dX11_init_281 : decode cX11_init 281 = .ok (.getfield 47, 3) := dk_180 0 47 (dk_at dksX11_init_12 5 rfl rfl)
theorem dX11_init_284 : decode cX11_init 284 = .ok (.bipush 6, 2) := dk_16 6 (dk_at dksX11_init_12 8 rfl rfl)
theorem dX11_init_286 : decode cX11_init 286 = .ok (.ldc2_w 127, 3) := dk_20 0 127 (dk_at dksX11_init_12 10 rfl rfl)
theorem dX11_init_289 : decode cX11_init 289 = .ok (.lastore, 1) := dk_80 (dk_at dksX11_init_12 13 rfl rfl)
theorem dX11_init_290 : decode cX11_init 290 = .ok (.aload_n 0, 1) := dk_42 (dk_at dksX11_init_12 14 rfl rfl)
theorem dX11_init_291 : decode cX11_init 291 = .ok (.getfield 47, 3) := dk_180 0 47 (dk_at dksX11_init_12 15 rfl rfl)
theorem dX11_init_294 : decode cX11_init 294 = .ok (.bipush 7, 2) := dk_16 7 (dk_at dksX11_init_12 18 rfl rfl)
theorem dX11_init_296 : decode cX11_init 296 = .ok (.ldc2_w 129, 3) := dk_20 0 129 (dk_at dksX11_init_12 20 rfl rfl)
theorem dX11_init_299 : decode cX11_init 299 = .ok (.lastore, 1) := dk_80 (dk_at dksX11_init_12 23 rfl rfl)
theorem dX11_init_300 : decode cX11_init 300 = .ok (.aload_n 0, 1) := dk_42 (dk_at dksX11_init_13 0 rfl rfl)
theorem dX11_init_301 : decode cX11_init 301 = .ok (.getfield 47, 3) := dk_180 0 47 (dk_at dksX11_init_13 1 rfl rfl)
theorem dX11_init_304 : decode cX11_init 304 = .ok (.bipush 8, 2) := dk_16 8 (dk_at dksX11_init_13 4 rfl rfl)
theorem dX11_init_306 : decode cX11_init 306 = .ok (.ldc2_w 131, 3) := dk_20 0 131 (dk_at dksX11_init_13 6 rfl rfl)
theorem dX11_init_309 : decode cX11_init 309 = .ok (.lastore, 1) := dk_80 (dk_at dksX11_init_13 9 rfl rfl)
theorem dX11_init_310 : decode cX11_init 310 = .ok (.aload_n 0, 1) := dk_42 (dk_at dksX11_init_13 10 rfl rfl)
theorem dX11_init_311 : decode cX11_init 311 = .ok (.getfield 47, 3) := dk_180 0 47 (dk_at dksX11_init_13 11 rfl rfl)
theorem dX11_init_314 : decode cX11_init 314 = .ok (.bipush 9, 2) := dk_16 9 (dk_at dksX11_init_13 14 rfl rfl)
theorem dX11_init_316 : decode cX11_init 316 = .ok (.ldc2_w 133, 3) := dk_20 0 133 (dk_at dksX11_init_13 16 rfl rfl)
theorem dX11_init_319 : decode cX11_init 319 = .ok (.lastore, 1) := dk_80 (dk_at dksX11_init_13 19 rfl rfl)
theorem dX11_init_320 : decode cX11_init 320 = .ok (.aload_n 0, 1) := dk_42 (dk_at dksX11_init_13 20 rfl rfl)
theorem dX11_init_321 : decode cX11_init 321 = .ok (.getfield 47, 3) := dk_180 0 47 (dk_at dksX11_init_13 21 rfl rfl)
theorem dX11_init_324 : decode cX11_init 324 = .ok (.bipush 10, 2) := dk_16 10 (dk_at dksX11_init_14 0 rfl rfl)
theorem dX11_init_326 : decode cX11_init 326 = .ok (.ldc2_w 135, 3) := dk_20 0 135 (dk_at dksX11_init_14 2 rfl rfl)
theorem dX11_init_329 : decode cX11_init 329 = .ok (.lastore, 1) := dk_80 (dk_at dksX11_init_14 5 rfl rfl)
theorem dX11_init_330 : decode cX11_init 330 = .ok (.aload_n 0, 1) := dk_42 (dk_at dksX11_init_14 6 rfl rfl)
theorem dX11_init_331 : decode cX11_init 331 = .ok (.getfield 47, 3) := dk_180 0 47 (dk_at dksX11_init_14 7 rfl rfl)
theorem dX11_init_334 : decode cX11_init 334 = .ok (.bipush 11, 2) := dk_16 11 (dk_at dksX11_init_14 10 rfl rfl)
theorem dX11_init_336 : decode cX11_init 336 = .ok (.ldc2_w 137, 3) := dk_20 0 137 (dk_at dksX11_init_14 12 rfl rfl)
theorem dX11_init_339 : decode cX11_init 339 = .ok (.lastore, 1) := dk_80 (dk_at dksX11_init_14 15 rfl rfl)
theorem dX11_init_340 : decode cX11_init 340 = .ok (.aload_n 0, 1) := dk_42 (dk_at dksX11_init_14 16 rfl rfl)
theorem dX11_init_341 : decode cX11_init 341 = .ok (.getfield 47, 3) := dk_180 0 47 (dk_at dksX11_init_14 17 rfl rfl)
theorem dX11_init_344 : decode cX11_init 344 = .ok (.bipush 12, 2) := dk_16 12 (dk_at dksX11_init_14 20 rfl rfl)
theorem dX11_init_346 : decode cX11_init 346 = .ok (.ldc2_w 139, 3) := dk_20 0 139 (dk_at dksX11_init_15 0 rfl rfl)
theorem dX11_init_349 : decode cX11_init 349 = .ok (.lastore, 1) := dk_80 (dk_at dksX11_init_15 3 rfl rfl)
theorem dX11_init_350 : decode cX11_init 350 = .ok (.aload_n 0, 1) := dk_42 (dk_at dksX11_init_15 4 rfl rfl)
theorem dX11_init_351 : decode cX11_init 351 = .ok (.getfield 47, 3) := dk_180 0 47 (dk_at dksX11_init_15 5 rfl rfl)
theorem dX11_init_354 : decode cX11_init 354 = .ok (.bipush 13, 2) := dk_16 13 (dk_at dksX11_init_15 8 rfl rfl)
theorem dX11_init_356 : decode cX11_init 356 = .ok (.ldc2_w 141, 3) := dk_20 0 141 (dk_at dksX11_init_15 10 rfl rfl)
theorem dX11_init_359 : decode cX11_init 359 = .ok (.lastore, 1) := dk_80 (dk_at dksX11_init_15 13 rfl rfl)
theorem dX11_init_360 : decode cX11_init 360 = .ok (.aload_n 0, 1) := dk_42 (dk_at dksX11_init_15 14 rfl rfl)
theorem dX11_init_361 : decode cX11_init 361 = .ok (.getfield 47, 3) := dk_180 0 47 (dk_at dksX11_init_15 15 rfl rfl)
theorem dX11_init_364 : decode cX11_init 364 = .ok (.bipush 14, 2) := dk_16 14 (dk_at dksX11_init_15 18 rfl rfl)
theorem dX11_init_366 : decode cX11_init 366 = .ok (.ldc2_w 143, 3) := dk_20 0 143 (dk_at dksX11_init_15 20 rfl rfl)
theorem dX11_init_369 : decode cX11_init 369 = .ok (.lastore, 1) := dk_80 (dk_at dksX11_init_15 23 rfl rfl)
theorem dX11_init_370 : decode cX11_init 370 = .ok (.aload_n 0, 1) := dk_42 (dk_at dksX11_init_16 0 rfl rfl)
theorem dX11_init_371 : decode cX11_init 371 = .ok (.getfield 47, 3) := dk_180 0 47 (dk_at dksX11_init_16 1 rfl rfl)
theorem dX11_init_374 : decode cX11_init 374 = .ok (.bipush 15, 2) := dk_16 15 (dk_at dksX11_init_16 4 rfl rfl)
theorem dX11_init_376 : decode cX11_init 376 = .ok (.ldc2_w 145, 3) := dk_20 0 145 (dk_at dksX11_init_16 6 rfl rfl)
theorem dX11_init_379 : decode cX11_init 379 = .ok (.lastore, 1) := dk_80 (dk_at dksX11_init_16 9 rfl rfl)
theorem dX11_init_380 : decode cX11_init 380 = .ok (.aload_n 0, 1) := dk_42 (dk_at dksX11_init_16 10 rfl rfl)
theorem dX11_init_381 : decode cX11_init 381 = .ok (.getfield 47, 3) := dk_180 0 47 (dk_at dksX11_init_16 11 rfl rfl)
theorem dX11_init_384 : decode cX11_init 384 = .ok (.bipush 16, 2) := dk_16 16 (dk_at dksX11_init_16 14 rfl rfl)
theorem dX11_init_386 : decode cX11_init 386 = .ok (.ldc2_w 147, 3) := dk_20 0 147 (dk_at dksX11_init_16 16 rfl rfl)
theorem dX11_init_389 : decode cX11_init 389 = .ok (.lastore, 1) := dk_80 (dk_at dksX11_init_16 19 rfl rfl)
theorem dX11_init_390 : decode cX11_init 390 = .ok (.aload_n 0, 1) := dk_42 (dk_at dksX11_init_16 20 rfl rfl)
theorem dX11_init_391 : decode cX11_init 391 = .ok (.getfield 47, 3) := dk_180 0 47 (dk_at dksX11_init_16 21 rfl rfl)
theorem dX11_init_394 : decode cX11_init 394 = .ok (.bipush 17, 2) := dk_16 17 (dk_at dksX11_init_17 0 rfl rfl)
theorem dX11_init_396 : decode cX11_init 396 = .ok (.ldc2_w 149, 3) := dk_20 0 149 (dk_at dksX11_init_17 2 rfl rfl)
theorem dX11_init_399 : decode cX11_init 399 = .ok (.lastore, 1) := dk_80 (dk_at dksX11_init_17 5 rfl rfl)
theorem dX11_init_400 : decode cX11_init 400 = .ok (.aload_n 0, 1) := dk_42 (dk_at dksX11_init_17 6 rfl rfl)
theorem dX11_init_401 : decode cX11_init 401 = .ok (.getfield 47, 3) := dk_180 0 47 (dk_at dksX11_init_17 7 rfl rfl)
theorem dX11_init_404 : decode cX11_init 404 = .ok (.bipush 18, 2) := dk_16 18 (dk_at dksX11_init_17 10 rfl rfl)
theorem dX11_init_406 : decode cX11_init 406 = .ok (.ldc2_w 151, 3) := dk_20 0 151 (dk_at dksX11_init_17 12 rfl rfl)
theorem dX11_init_409 : decode cX11_init 409 = .ok (.lastore, 1) := dk_80 (dk_at dksX11_init_17 15 rfl rfl)
theorem dX11_init_410 : decode cX11_init 410 = .ok (.aload_n 0, 1) := dk_42 (dk_at dksX11_init_17 16 rfl rfl)
theorem dX11_init_411 : decode cX11_init 411 = .ok (.getfield 33, 3) := dk_180 0 33 (dk_at dksX11_init_17 17 rfl rfl)
theorem dX11_init_414 : decode cX11_init 414 = .ok (.iconst 4, 1) := dk_7 (dk_at dksX11_init_17 20 rfl rfl)
theorem dX11_init_415 : decode cX11_init 415 = .ok (.iconst (-1), 1) := dk_2 (dk_at dksX11_init_17 21 rfl rfl)
theorem dX11_init_416 : decode cX11_init 416 = .ok (.iastore, 1) := dk_79 (dk_at dksX11_init_17 22 rfl rfl)
theorem dX11_init_417 : decode cX11_init 417 = .ok (.return_, 1) := dk_177 (dk_at dksX11_init_17 23 rfl rfl)
abbrev cX11_table : ByteArray := prog_23_method_25_code
def yX11_table : MethodName := ⟨RX11, "table", "()I"⟩
def dkwX11_table_7 : List UInt8 := [47, 80, 132, 1, 1, 167, 255, 232, 42, 3, 181, 0, 246, 42, 182, 0, 249, 42, 180, 0, 237, 172]
abbrev dktX11_table_7 : List UInt8 := dkwX11_table_7 ++ []
def dkwX11_table_6 : List UInt8 := [167, 255, 223, 3, 60, 27, 16, 6, 162, 0, 24, 42, 180, 0, 43, 27, 42, 180, 0, 43, 16, 6, 27, 96]
abbrev dktX11_table_6 : List UInt8 := dkwX11_table_6 ++ dktX11_table_7
def dkwX11_table_5 : List UInt8 := [27, 27, 17, 2, 72, 162, 0, 12, 42, 180, 0, 37, 27, 46, 167, 0, 4, 3, 79, 132, 1, 1]
abbrev dktX11_table_5 : List UInt8 := dkwX11_table_5 ++ dktX11_table_6
def dkwX11_table_4 : List UInt8 := [180, 0, 237, 4, 96, 181, 0, 237, 167, 255, 216, 3, 60, 27, 17, 2, 253, 162, 0, 32, 42, 180, 0, 33]
abbrev dktX11_table_4 : List UInt8 := dkwX11_table_4 ++ dktX11_table_5
def dkwX11_table_3 : List UInt8 := [182, 0, 240, 153, 0, 12, 42, 16, 59, 182, 0, 243, 154, 0, 10, 2, 42, 180, 0, 183, 100, 172, 42, 89]
abbrev dktX11_table_3 : List UInt8 := dkwX11_table_3 ++ dktX11_table_4
def dkwX11_table_2 : List UInt8 := [180, 0, 37, 27, 3, 79, 132, 1, 1, 167, 255, 239, 42, 182, 0, 192, 42, 180, 0, 163, 153, 0, 39, 42]
abbrev dktX11_table_2 : List UInt8 := dkwX11_table_2 ++ dktX11_table_3
def dkwX11_table_1 : List UInt8 := [181, 0, 206, 42, 3, 181, 0, 228, 42, 3, 181, 0, 231, 3, 60, 27, 17, 2, 72, 162, 0, 16, 42]
abbrev dktX11_table_1 : List UInt8 := dkwX11_table_1 ++ dktX11_table_2
def dkwX11_table_0 : List UInt8 := [42, 3, 181, 0, 1, 42, 17, 3, 132, 182, 0, 234, 42, 3, 181, 0, 180, 42, 3, 181, 0, 237, 42, 3]
abbrev dktX11_table_0 : List UInt8 := dkwX11_table_0 ++ dktX11_table_1
theorem dksX11_table_0 : cX11_table.data.toList.drop 0 = dktX11_table_0 := by decide +kernel
theorem dksX11_table_1 : cX11_table.data.toList.drop 24 = dktX11_table_1 := dk_seg dksX11_table_0 24 rfl rfl
theorem dksX11_table_2 : cX11_table.data.toList.drop 47 = dktX11_table_2 := dk_seg dksX11_table_1 23 rfl rfl
theorem dksX11_table_3 : cX11_table.data.toList.drop 71 = dktX11_table_3 := dk_seg dksX11_table_2 24 rfl rfl
theorem dksX11_table_4 : cX11_table.data.toList.drop 95 = dktX11_table_4 := dk_seg dksX11_table_3 24 rfl rfl
theorem dksX11_table_5 : cX11_table.data.toList.drop 119 = dktX11_table_5 := dk_seg dksX11_table_4 24 rfl rfl
theorem dksX11_table_6 : cX11_table.data.toList.drop 141 = dktX11_table_6 := dk_seg dksX11_table_5 22 rfl rfl
theorem dksX11_table_7 : cX11_table.data.toList.drop 165 = dktX11_table_7 := dk_seg dksX11_table_6 24 rfl rfl
theorem dX11_table_0 : decode cX11_table 0 = .ok (.aload_n 0, 1) := dk_42 (dk_at dksX11_table_0 0 rfl rfl)
theorem dX11_table_1 : decode cX11_table 1 = .ok (.iconst 0, 1) := dk_3 (dk_at dksX11_table_0 1 rfl rfl)
theorem dX11_table_2 : decode cX11_table 2 = .ok (.putfield 1, 3) := dk_181 0 1 (dk_at dksX11_table_0 2 rfl rfl)
theorem dX11_table_5 : decode cX11_table 5 = .ok (.aload_n 0, 1) := dk_42 (dk_at dksX11_table_0 5 rfl rfl)
theorem dX11_table_6 : decode cX11_table 6 = .ok (.sipush 900, 3) := dk_17 3 132 (dk_at dksX11_table_0 6 rfl rfl)
theorem dX11_table_9 : decode cX11_table 9 = .ok (.invokevirtual 234, 3) := dk_182 0 234 (dk_at dksX11_table_0 9 rfl rfl)
theorem dX11_table_12 : decode cX11_table 12 = .ok (.aload_n 0, 1) := dk_42 (dk_at dksX11_table_0 12 rfl rfl)
theorem dX11_table_13 : decode cX11_table 13 = .ok (.iconst 0, 1) := dk_3 (dk_at dksX11_table_0 13 rfl rfl)
theorem dX11_table_14 : decode cX11_table 14 = .ok (.putfield 180, 3) := dk_181 0 180 (dk_at dksX11_table_0 14 rfl rfl)
theorem dX11_table_17 : decode cX11_table 17 = .ok (.aload_n 0, 1) := dk_42 (dk_at dksX11_table_0 17 rfl rfl)
theorem dX11_table_18 : decode cX11_table 18 = .ok (.iconst 0, 1) := dk_3 (dk_at dksX11_table_0 18 rfl rfl)
theorem dX11_table_19 : decode cX11_table 19 = .ok (.putfield 237, 3) := dk_181 0 237 (dk_at dksX11_table_0 19 rfl rfl)
theorem dX11_table_22 : decode cX11_table 22 = .ok (.aload_n 0, 1) := dk_42 (dk_at dksX11_table_0 22 rfl rfl)
theorem dX11_table_23 : decode cX11_table 23 = .ok (.iconst 0, 1) := dk_3 (dk_at dksX11_table_0 23 rfl rfl)
theorem dX11_table_24 : decode cX11_table 24 = .ok (.putfield 206, 3) := dk_181 0 206 (dk_at dksX11_table_1 0 rfl rfl)
theorem dX11_table_27 : decode cX11_table 27 = .ok (.aload_n 0, 1) := dk_42 (dk_at dksX11_table_1 3 rfl rfl)
theorem dX11_table_28 : decode cX11_table 28 = .ok (.iconst 0, 1) := dk_3 (dk_at dksX11_table_1 4 rfl rfl)
theorem dX11_table_29 : decode cX11_table 29 = .ok (.putfield 228, 3) := dk_181 0 228 (dk_at dksX11_table_1 5 rfl rfl)
theorem dX11_table_32 : decode cX11_table 32 = .ok (.aload_n 0, 1) := dk_42 (dk_at dksX11_table_1 8 rfl rfl)
theorem dX11_table_33 : decode cX11_table 33 = .ok (.iconst 0, 1) := dk_3 (dk_at dksX11_table_1 9 rfl rfl)
theorem dX11_table_34 : decode cX11_table 34 = .ok (.putfield 231, 3) := dk_181 0 231 (dk_at dksX11_table_1 10 rfl rfl)
theorem dX11_table_37 : decode cX11_table 37 = .ok (.iconst 0, 1) := dk_3 (dk_at dksX11_table_1 13 rfl rfl)
theorem dX11_table_38 : decode cX11_table 38 = .ok (.istore_n 1, 1) := dk_60 (dk_at dksX11_table_1 14 rfl rfl)
theorem dX11_table_39 : decode cX11_table 39 = .ok (.iload_n 1, 1) := dk_27 (dk_at dksX11_table_1 15 rfl rfl)
theorem dX11_table_40 : decode cX11_table 40 = .ok (.sipush 584, 3) := dk_17 2 72 (dk_at dksX11_table_1 16 rfl rfl)
theorem dX11_table_43 : decode cX11_table 43 = .ok (.if_icmp .ge 16, 3) := dk_162 0 16 (dk_at dksX11_table_1 19 rfl rfl)
theorem dX11_table_46 : decode cX11_table 46 = .ok (.aload_n 0, 1) := dk_42 (dk_at dksX11_table_1 22 rfl rfl)
theorem dX11_table_47 : decode cX11_table 47 = .ok (.getfield 37, 3) := dk_180 0 37 (dk_at dksX11_table_2 0 rfl rfl)
theorem dX11_table_50 : decode cX11_table 50 = .ok (.iload_n 1, 1) := dk_27 (dk_at dksX11_table_2 3 rfl rfl)
theorem dX11_table_51 : decode cX11_table 51 = .ok (.iconst 0, 1) := dk_3 (dk_at dksX11_table_2 4 rfl rfl)
theorem dX11_table_52 : decode cX11_table 52 = .ok (.iastore, 1) := dk_79 (dk_at dksX11_table_2 5 rfl rfl)
theorem dX11_table_53 : decode cX11_table 53 = .ok (.iinc 1 1, 3) := dk_132 1 1 (dk_at dksX11_table_2 6 rfl rfl)
theorem dX11_table_56 : decode cX11_table 56 = .ok (.goto (-17), 3) := dk_167 255 239 (dk_at dksX11_table_2 9 rfl rfl)
theorem dX11_table_59 : decode cX11_table 59 = .ok (.aload_n 0, 1) := dk_42 (dk_at dksX11_table_2 12 rfl rfl)
theorem dX11_table_60 : decode cX11_table 60 = .ok (.invokevirtual 192, 3) := dk_182 0 192 (dk_at dksX11_table_2 13 rfl rfl)
theorem dX11_table_63 : decode cX11_table 63 = .ok (.aload_n 0, 1) := dk_42 (dk_at dksX11_table_2 16 rfl rfl)
theorem dX11_table_64 : decode cX11_table 64 = .ok (.getfield 163, 3) := dk_180 0 163 (dk_at dksX11_table_2 17 rfl rfl)
theorem dX11_table_67 : decode cX11_table 67 = .ok (.ifCond .eq 39, 3) := dk_153 0 39 (dk_at dksX11_table_2 20 rfl rfl)
theorem dX11_table_70 : decode cX11_table 70 = .ok (.aload_n 0, 1) := dk_42 (dk_at dksX11_table_2 23 rfl rfl)
theorem dX11_table_71 : decode cX11_table 71 = .ok (.invokevirtual 240, 3) := dk_182 0 240 (dk_at dksX11_table_3 0 rfl rfl)
theorem dX11_table_74 : decode cX11_table 74 = .ok (.ifCond .eq 12, 3) := dk_153 0 12 (dk_at dksX11_table_3 3 rfl rfl)
theorem dX11_table_77 : decode cX11_table 77 = .ok (.aload_n 0, 1) := dk_42 (dk_at dksX11_table_3 6 rfl rfl)
theorem dX11_table_78 : decode cX11_table 78 = .ok (.bipush 59, 2) := dk_16 59 (dk_at dksX11_table_3 7 rfl rfl)
theorem dX11_table_80 : decode cX11_table 80 = .ok (.invokevirtual 243, 3) := dk_182 0 243 (dk_at dksX11_table_3 9 rfl rfl)
theorem dX11_table_83 : decode cX11_table 83 = .ok (.ifCond .ne 10, 3) := dk_154 0 10 (dk_at dksX11_table_3 12 rfl rfl)
theorem dX11_table_86 : decode cX11_table 86 = .ok (.iconst (-1), 1) := dk_2 (dk_at dksX11_table_3 15 rfl rfl)
theorem dX11_table_87 : decode cX11_table 87 = .ok (.aload_n 0, 1) := dk_42 (dk_at dksX11_table_3 16 rfl rfl)
theorem dX11_table_88 : decode cX11_table 88 = .ok (.getfield 183, 3) := dk_180 0 183 (dk_at dksX11_table_3 17 rfl rfl)
theorem dX11_table_91 : decode cX11_table 91 = .ok (.isub, 1) := dk_100 (dk_at dksX11_table_3 20 rfl rfl)
theorem dX11_table_92 : decode cX11_table 92 = .ok (.ireturn, 1) := dk_172 (dk_at dksX11_table_3 21 rfl rfl)
theorem dX11_table_93 : decode cX11_table 93 = .ok (.aload_n 0, 1) := dk_42 (dk_at dksX11_table_3 22 rfl rfl)
theorem dX11_table_94 : decode cX11_table 94 = .ok (.dup, 1) := dk_89 (dk_at dksX11_table_3 23 rfl rfl)
theorem dX11_table_95 : decode cX11_table 95 = .ok (.getfield 237, 3) := dk_180 0 237 (dk_at dksX11_table_4 0 rfl rfl)
theorem dX11_table_98 : decode cX11_table 98 = .ok (.iconst 1, 1) := dk_4 (dk_at dksX11_table_4 3 rfl rfl)
theorem dX11_table_99 : decode cX11_table 99 = .ok (.iadd, 1) := dk_96 (dk_at dksX11_table_4 4 rfl rfl)
theorem dX11_table_100 : decode cX11_table 100 = .ok (.putfield 237, 3) := dk_181 0 237 (dk_at dksX11_table_4 5 rfl rfl)
theorem dX11_table_103 : decode cX11_table 103 = .ok (.goto (-40), 3) := dk_167 255 216 (dk_at dksX11_table_4 8 rfl rfl)
theorem dX11_table_106 : decode cX11_table 106 = .ok (.iconst 0, 1) := dk_3 (dk_at dksX11_table_4 11 rfl rfl)
theorem dX11_table_107 : decode cX11_table 107 = .ok (.istore_n 1, 1) := dk_60 (dk_at dksX11_table_4 12 rfl rfl)
theorem dX11_table_108 : decode cX11_table 108 = .ok (.iload_n 1, 1) := dk_27 (dk_at dksX11_table_4 13 rfl rfl)
theorem dX11_table_109 : decode cX11_table 109 = .ok (.sipush 765, 3) := dk_17 2 253 (dk_at dksX11_table_4 14 rfl rfl)
theorem dX11_table_112 : decode cX11_table 112 = .ok (.if_icmp .ge 32, 3) := dk_162 0 32 (dk_at dksX11_table_4 17 rfl rfl)
theorem dX11_table_115 : decode cX11_table 115 = .ok (.aload_n 0, 1) := dk_42 (dk_at dksX11_table_4 20 rfl rfl)
theorem dX11_table_116 : decode cX11_table 116 = .ok (.getfield 33, 3) := dk_180 0 33 (dk_at dksX11_table_4 21 rfl rfl)
theorem dX11_table_119 : decode cX11_table 119 = .ok (.iload_n 1, 1) := dk_27 (dk_at dksX11_table_5 0 rfl rfl)
theorem dX11_table_120 : decode cX11_table 120 = .ok (.iload_n 1, 1) := dk_27 (dk_at dksX11_table_5 1 rfl rfl)
theorem dX11_table_121 : decode cX11_table 121 = .ok (.sipush 584, 3) := dk_17 2 72 (dk_at dksX11_table_5 2 rfl rfl)
theorem dX11_table_124 : decode cX11_table 124 = .ok (.if_icmp .ge 12, 3) := dk_162 0 12 (dk_at dksX11_table_5 5 rfl rfl)
theorem dX11_table_127 : decode cX11_table 127 = .ok (.aload_n 0, 1) := dk_42 (dk_at dksX11_table_5 8 rfl rfl)
theorem dX11_table_128 : decode cX11_table 128 = .ok (.getfield 37, 3) := dk_180 0 37 (dk_at dksX11_table_5 9 rfl rfl)
theorem dX11_table_131 : decode cX11_table 131 = .ok (.iload_n 1, 1) := dk_27 (dk_at dksX11_table_5 12 rfl rfl)
theorem dX11_table_132 : decode cX11_table 132 = .ok (.iaload, 1) := dk_46 (dk_at dksX11_table_5 13 rfl rfl)
theorem dX11_table_133 : decode cX11_table 133 = .ok (.goto 4, 3) := dk_167 0 4 (dk_at dksX11_table_5 14 rfl rfl)
theorem dX11_table_136 : decode cX11_table 136 = .ok (.iconst 0, 1) := dk_3 (dk_at dksX11_table_5 17 rfl rfl)
theorem dX11_table_137 : decode cX11_table 137 = .ok (.iastore, 1) := dk_79 (dk_at dksX11_table_5 18 rfl rfl)
theorem dX11_table_138 : decode cX11_table 138 = .ok (.iinc 1 1, 3) := dk_132 1 1 (dk_at dksX11_table_5 19 rfl rfl)
theorem dX11_table_141 : decode cX11_table 141 = .ok (.goto (-33), 3) := dk_167 255 223 (dk_at dksX11_table_6 0 rfl rfl)
theorem dX11_table_144 : decode cX11_table 144 = .ok (.iconst 0, 1) := dk_3 (dk_at dksX11_table_6 3 rfl rfl)
theorem dX11_table_145 : decode cX11_table 145 = .ok (.istore_n 1, 1) := dk_60 (dk_at dksX11_table_6 4 rfl rfl)
theorem dX11_table_146 : decode cX11_table 146 = .ok (.iload_n 1, 1) := dk_27 (dk_at dksX11_table_6 5 rfl rfl)
theorem dX11_table_147 : decode cX11_table 147 = .ok (.bipush 6, 2) := dk_16 6 (dk_at dksX11_table_6 6 rfl rfl)
theorem dX11_table_149 : decode cX11_table 149 = .ok (.if_icmp .ge 24, 3) := dk_162 0 24 (dk_at dksX11_table_6 8 rfl rfl)
theorem dX11_table_152 : decode cX11_table 152 = .ok (.aload_n 0, 1) := dk_42 (dk_at dksX11_table_6 11 rfl rfl)
theorem dX11_table_153 : decode cX11_table 153 = .ok (.getfield 43, 3) := dk_180 0 43 (dk_at dksX11_table_6 12 rfl rfl)
theorem dX11_table_156 : decode cX11_table 156 = .ok (.iload_n 1, 1) := dk_27 (dk_at dksX11_table_6 15 rfl rfl)
theorem dX11_table_157 : decode cX11_table 157 = .ok (.aload_n 0, 1) := dk_42 (dk_at dksX11_table_6 16 rfl rfl)
theorem dX11_table_158 : decode cX11_table 158 = .ok (.getfield 43, 3) := dk_180 0 43 (dk_at dksX11_table_6 17 rfl rfl)
theorem dX11_table_161 : decode cX11_table 161 = .ok (.bipush 6, 2) := dk_16 6 (dk_at dksX11_table_6 20 rfl rfl)
theorem dX11_table_163 : decode cX11_table 163 = .ok (.iload_n 1, 1) := dk_27 (dk_at dksX11_table_6 22 rfl rfl)
theorem dX11_table_164 : decode cX11_table 164 = .ok (.iadd, 1) := dk_96 (dk_at dksX11_table_6 23 rfl rfl)
theorem dX11_table_165 : decode cX11_table 165 = .ok (.laload, 1) := dk_47 (dk_at dksX11_table_7 0 rfl rfl)
theorem dX11_table_166 : decode cX11_table 166 = .ok (.lastore, 1) := dk_80 (dk_at dksX11_table_7 1 rfl rfl)
theorem dX11_table_167 : decode cX11_table 167 = .ok (.iinc 1 1, 3) := dk_132 1 1 (dk_at dksX11_table_7 2 rfl rfl)
theorem dX11_table_170 : decode cX11_table 170 = .ok (.goto (-24), 3) := dk_167 255 232 (dk_at dksX11_table_7 5 rfl rfl)
theorem dX11_table_173 : decode cX11_table 173 = .ok (.aload_n 0, 1) := dk_42 (dk_at dksX11_table_7 8 rfl rfl)
theorem dX11_table_174 : decode cX11_table 174 = .ok (.iconst 0, 1) := dk_3 (dk_at dksX11_table_7 9 rfl rfl)
theorem dX11_table_175 : decode cX11_table 175 = .ok (.putfield 246, 3) := dk_181 0 246 (dk_at dksX11_table_7 10 rfl rfl)
theorem dX11_table_178 : decode cX11_table 178 = .ok (.aload_n 0, 1) := dk_42 (dk_at dksX11_table_7 13 rfl rfl)
theorem dX11_table_179 : decode cX11_table 179 = .ok (.invokevirtual 249, 3) := dk_182 0 249 (dk_at dksX11_table_7 14 rfl rfl)
theorem dX11_table_182 : decode cX11_table 182 = .ok (.aload_n 0, 1) := dk_42 (dk_at dksX11_table_7 17 rfl rfl)
theorem dX11_table_183 : decode cX11_table 183 = .ok (.getfield 237, 3) := dk_180 0 237 (dk_at dksX11_table_7 18 rfl rfl)
theorem dX11_table_186 : decode cX11_table 186 = .ok (.ireturn, 1) := dk_172 (dk_at dksX11_table_7 21 rfl rfl)
abbrev cX11_taken : ByteArray := prog_23_method_6_code
def yX11_taken : MethodName := ⟨RX11, "taken", "(I)V"⟩
def dkwX11_taken_0 : List UInt8 := [42, 42, 180, 0, 7, 181, 0, 18, 42, 3, 181, 0, 7, 42, 3, 181, 0, 21, 42, 27, 181, 0, 24, 177]
abbrev dktX11_taken_0 : List UInt8 := dkwX11_taken_0 ++ []
theorem dksX11_taken_0 : cX11_taken.data.toList.drop 0 = dktX11_taken_0 := by decide +kernel
theorem dX11_taken_0 : decode cX11_taken 0 = .ok (.aload_n 0, 1) := dk_42 (dk_at dksX11_taken_0 0 rfl rfl)
theorem dX11_taken_1 : decode cX11_taken 1 = .ok (.aload_n 0, 1) := dk_42 (dk_at dksX11_taken_0 1 rfl rfl)
theorem dX11_taken_2 : decode cX11_taken 2 = .ok (.getfield 7, 3) := dk_180 0 7 (dk_at dksX11_taken_0 2 rfl rfl)
theorem dX11_taken_5 : decode cX11_taken 5 = .ok (.putfield 18, 3) := dk_181 0 18 (dk_at dksX11_taken_0 5 rfl rfl)
theorem dX11_taken_8 : decode cX11_taken 8 = .ok (.aload_n 0, 1) := dk_42 (dk_at dksX11_taken_0 8 rfl rfl)
theorem dX11_taken_9 : decode cX11_taken 9 = .ok (.iconst 0, 1) := dk_3 (dk_at dksX11_taken_0 9 rfl rfl)
theorem dX11_taken_10 : decode cX11_taken 10 = .ok (.putfield 7, 3) := dk_181 0 7 (dk_at dksX11_taken_0 10 rfl rfl)
theorem dX11_taken_13 : decode cX11_taken 13 = .ok (.aload_n 0, 1) := dk_42 (dk_at dksX11_taken_0 13 rfl rfl)
theorem dX11_taken_14 : decode cX11_taken 14 = .ok (.iconst 0, 1) := dk_3 (dk_at dksX11_taken_0 14 rfl rfl)
theorem dX11_taken_15 : decode cX11_taken 15 = .ok (.putfield 21, 3) := dk_181 0 21 (dk_at dksX11_taken_0 15 rfl rfl)
theorem dX11_taken_18 : decode cX11_taken 18 = .ok (.aload_n 0, 1) := dk_42 (dk_at dksX11_taken_0 18 rfl rfl)
theorem dX11_taken_19 : decode cX11_taken 19 = .ok (.iload_n 1, 1) := dk_27 (dk_at dksX11_taken_0 19 rfl rfl)
theorem dX11_taken_20 : decode cX11_taken 20 = .ok (.putfield 24, 3) := dk_181 0 24 (dk_at dksX11_taken_0 20 rfl rfl)
theorem dX11_taken_23 : decode cX11_taken 23 = .ok (.return_, 1) := dk_177 (dk_at dksX11_taken_0 23 rfl rfl)
abbrev cX11_next : ByteArray := prog_23_method_14_code
def yX11_next : MethodName := ⟨RX11, "next", "()V"⟩
def dkwX11_next_14 : List UInt8 := [4, 167, 0, 4, 5, 181, 0, 163, 177]
abbrev dktX11_next_14 : List UInt8 := dkwX11_next_14 ++ []
def dkwX11_next_13 : List UInt8 := [180, 0, 160, 28, 153, 0, 8, 16, 7, 167, 0, 4, 6, 164, 0, 7, 7, 167, 0, 12, 28, 153, 0, 7]
abbrev dktX11_next_13 : List UInt8 := dkwX11_next_13 ++ dktX11_next_14
def dkwX11_next_12 : List UInt8 := [181, 0, 160, 42, 89, 180, 0, 21, 4, 96, 181, 0, 21, 167, 255, 142, 42, 29, 153, 0, 20, 42]
abbrev dktX11_next_12 : List UInt8 := dkwX11_next_12 ++ dktX11_next_13
def dkwX11_next_11 : List UInt8 := [180, 0, 173, 104, 42, 182, 0, 153, 96, 16, 48, 100, 181, 0, 173, 42, 89, 180, 0, 160, 4, 96]
abbrev dktX11_next_11 : List UInt8 := dkwX11_next_11 ++ dktX11_next_12
def dkwX11_next_10 : List UInt8 := [16, 8, 121, 42, 182, 0, 153, 133, 129, 181, 0, 176, 42, 180, 0, 160, 6, 162, 0, 22, 42, 16, 10, 42]
abbrev dktX11_next_10 : List UInt8 := dkwX11_next_10 ++ dktX11_next_11
def dkwX11_next_9 : List UInt8 := [28, 160, 0, 7, 4, 167, 0, 4, 3, 62, 42, 180, 0, 160, 16, 7, 162, 0, 20, 42, 42, 180, 0, 176]
abbrev dktX11_next_9 : List UInt8 := dkwX11_next_9 ++ dktX11_next_10
def dkwX11_next_8 : List UInt8 := [154, 0, 13, 42, 182, 0, 153, 184, 0, 170, 153, 0, 100, 29, 153, 0, 18, 42, 182, 0, 153, 184, 0, 166]
abbrev dktX11_next_8 : List UInt8 := dkwX11_next_8 ++ dktX11_next_9
def dkwX11_next_7 : List UInt8 := [184, 0, 166, 61, 4, 62, 42, 9, 181, 0, 176, 42, 3, 181, 0, 173, 42, 182, 0, 153, 184, 0, 166]
abbrev dktX11_next_7 : List UInt8 := dkwX11_next_7 ++ dktX11_next_8
def dkwX11_next_6 : List UInt8 := [167, 0, 4, 7, 181, 0, 163, 42, 27, 181, 0, 173, 42, 89, 180, 0, 21, 4, 96, 181, 0, 21, 177, 27]
abbrev dktX11_next_6 : List UInt8 := dkwX11_next_6 ++ dktX11_next_7
def dkwX11_next_5 : List UInt8 := [159, 0, 21, 27, 16, 41, 159, 0, 15, 27, 16, 60, 161, 0, 13, 27, 16, 62, 163, 0, 7, 6]
abbrev dktX11_next_5 : List UInt8 := dkwX11_next_5 ++ dktX11_next_6
def dkwX11_next_4 : List UInt8 := [27, 184, 0, 166, 154, 0, 65, 27, 184, 0, 170, 154, 0, 58, 42, 27, 16, 59, 159, 0, 27, 27, 16, 40]
abbrev dktX11_next_4 : List UInt8 := dkwX11_next_4 ++ dktX11_next_5
def dkwX11_next_3 : List UInt8 := [181, 0, 157, 42, 7, 181, 0, 163, 177, 42, 182, 0, 153, 60, 27, 156, 0, 9, 42, 3, 181, 0, 163, 177]
abbrev dktX11_next_3 : List UInt8 := dkwX11_next_3 ++ dktX11_next_4
def dkwX11_next_2 : List UInt8 := [42, 180, 0, 24, 164, 0, 28, 42, 180, 0, 21, 42, 180, 0, 24, 161, 0, 17, 42, 42, 180, 0, 24]
abbrev dktX11_next_2 : List UInt8 := dkwX11_next_2 ++ dktX11_next_3
def dkwX11_next_1 : List UInt8 := [96, 181, 0, 21, 167, 255, 228, 42, 42, 180, 0, 21, 181, 0, 157, 42, 3, 181, 0, 160, 42, 180, 0, 18]
abbrev dktX11_next_1 : List UInt8 := dkwX11_next_1 ++ dktX11_next_2
def dkwX11_next_0 : List UInt8 := [42, 182, 0, 153, 16, 32, 159, 0, 12, 42, 182, 0, 153, 16, 10, 160, 0, 16, 42, 89, 180, 0, 21, 4]
abbrev dktX11_next_0 : List UInt8 := dkwX11_next_0 ++ dktX11_next_1
theorem dksX11_next_0 : cX11_next.data.toList.drop 0 = dktX11_next_0 := by decide +kernel
theorem dksX11_next_1 : cX11_next.data.toList.drop 24 = dktX11_next_1 := dk_seg dksX11_next_0 24 rfl rfl
theorem dksX11_next_2 : cX11_next.data.toList.drop 48 = dktX11_next_2 := dk_seg dksX11_next_1 24 rfl rfl
theorem dksX11_next_3 : cX11_next.data.toList.drop 71 = dktX11_next_3 := dk_seg dksX11_next_2 23 rfl rfl
theorem dksX11_next_4 : cX11_next.data.toList.drop 95 = dktX11_next_4 := dk_seg dksX11_next_3 24 rfl rfl
theorem dksX11_next_5 : cX11_next.data.toList.drop 119 = dktX11_next_5 := dk_seg dksX11_next_4 24 rfl rfl
theorem dksX11_next_6 : cX11_next.data.toList.drop 141 = dktX11_next_6 := dk_seg dksX11_next_5 22 rfl rfl
theorem dksX11_next_7 : cX11_next.data.toList.drop 165 = dktX11_next_7 := dk_seg dksX11_next_6 24 rfl rfl
theorem dksX11_next_8 : cX11_next.data.toList.drop 188 = dktX11_next_8 := dk_seg dksX11_next_7 23 rfl rfl
theorem dksX11_next_9 : cX11_next.data.toList.drop 212 = dktX11_next_9 := dk_seg dksX11_next_8 24 rfl rfl
theorem dksX11_next_10 : cX11_next.data.toList.drop 236 = dktX11_next_10 := dk_seg dksX11_next_9 24 rfl rfl
theorem dksX11_next_11 : cX11_next.data.toList.drop 260 = dktX11_next_11 := dk_seg dksX11_next_10 24 rfl rfl
theorem dksX11_next_12 : cX11_next.data.toList.drop 282 = dktX11_next_12 := dk_seg dksX11_next_11 22 rfl rfl
theorem dksX11_next_13 : cX11_next.data.toList.drop 304 = dktX11_next_13 := dk_seg dksX11_next_12 22 rfl rfl
theorem dksX11_next_14 : cX11_next.data.toList.drop 328 = dktX11_next_14 := dk_seg dksX11_next_13 24 rfl rfl
theorem dX11_next_0 : decode cX11_next 0 = .ok (.aload_n 0, 1) := dk_42 (dk_at dksX11_next_0 0 rfl rfl)
theorem dX11_next_1 : decode cX11_next 1 = .ok (.invokevirtual 153, 3) := dk_182 0 153 (dk_at dksX11_next_0 1 rfl rfl)
theorem dX11_next_4 : decode cX11_next 4 = .ok (.bipush 32, 2) := dk_16 32 (dk_at dksX11_next_0 4 rfl rfl)
theorem dX11_next_6 : decode cX11_next 6 = .ok (.if_icmp .eq 12, 3) := dk_159 0 12 (dk_at dksX11_next_0 6 rfl rfl)
theorem dX11_next_9 : decode cX11_next 9 = .ok (.aload_n 0, 1) := dk_42 (dk_at dksX11_next_0 9 rfl rfl)
theorem dX11_next_10 : decode cX11_next 10 = .ok (.invokevirtual 153, 3) := dk_182 0 153 (dk_at dksX11_next_0 10 rfl rfl)
theorem dX11_next_13 : decode cX11_next 13 = .ok (.bipush 10, 2) := dk_16 10 (dk_at dksX11_next_0 13 rfl rfl)
theorem dX11_next_15 : decode cX11_next 15 = .ok (.if_icmp .ne 16, 3) := dk_160 0 16 (dk_at dksX11_next_0 15 rfl rfl)
theorem dX11_next_18 : decode cX11_next 18 = .ok (.aload_n 0, 1) := dk_42 (dk_at dksX11_next_0 18 rfl rfl)
theorem dX11_next_19 : decode cX11_next 19 = .ok (.dup, 1) := dk_89 (dk_at dksX11_next_0 19 rfl rfl)
theorem dX11_next_20 : decode cX11_next 20 = .ok (.getfield 21, 3) := dk_180 0 21 (dk_at dksX11_next_0 20 rfl rfl)
theorem dX11_next_23 : decode cX11_next 23 = .ok (.iconst 1, 1) := dk_4 (dk_at dksX11_next_0 23 rfl rfl)
theorem dX11_next_24 : decode cX11_next 24 = .ok (.iadd, 1) := dk_96 (dk_at dksX11_next_1 0 rfl rfl)
theorem dX11_next_25 : decode cX11_next 25 = .ok (.putfield 21, 3) := dk_181 0 21 (dk_at dksX11_next_1 1 rfl rfl)
theorem dX11_next_28 : decode cX11_next 28 = .ok (.goto (-28), 3) := dk_167 255 228 (dk_at dksX11_next_1 4 rfl rfl)
theorem dX11_next_31 : decode cX11_next 31 = .ok (.aload_n 0, 1) := dk_42 (dk_at dksX11_next_1 7 rfl rfl)
theorem dX11_next_32 : decode cX11_next 32 = .ok (.aload_n 0, 1) := dk_42 (dk_at dksX11_next_1 8 rfl rfl)
theorem dX11_next_33 : decode cX11_next 33 = .ok (.getfield 21, 3) := dk_180 0 21 (dk_at dksX11_next_1 9 rfl rfl)
theorem dX11_next_36 : decode cX11_next 36 = .ok (.putfield 157, 3) := dk_181 0 157 (dk_at dksX11_next_1 12 rfl rfl)
theorem dX11_next_39 : decode cX11_next 39 = .ok (.aload_n 0, 1) := dk_42 (dk_at dksX11_next_1 15 rfl rfl)
theorem dX11_next_40 : decode cX11_next 40 = .ok (.iconst 0, 1) := dk_3 (dk_at dksX11_next_1 16 rfl rfl)
theorem dX11_next_41 : decode cX11_next 41 = .ok (.putfield 160, 3) := dk_181 0 160 (dk_at dksX11_next_1 17 rfl rfl)
theorem dX11_next_44 : decode cX11_next 44 = .ok (.aload_n 0, 1) := dk_42 (dk_at dksX11_next_1 20 rfl rfl)
theorem dX11_next_45 : decode cX11_next 45 = .ok (.getfield 18, 3) := dk_180 0 18 (dk_at dksX11_next_1 21 rfl rfl)
theorem dX11_next_48 : decode cX11_next 48 = .ok (.aload_n 0, 1) := dk_42 (dk_at dksX11_next_2 0 rfl rfl)
theorem dX11_next_49 : decode cX11_next 49 = .ok (.getfield 24, 3) := dk_180 0 24 (dk_at dksX11_next_2 1 rfl rfl)
theorem dX11_next_52 : decode cX11_next 52 = .ok (.if_icmp .le 28, 3) := dk_164 0 28 (dk_at dksX11_next_2 4 rfl rfl)
theorem dX11_next_55 : decode cX11_next 55 = .ok (.aload_n 0, 1) := dk_42 (dk_at dksX11_next_2 7 rfl rfl)
theorem dX11_next_56 : decode cX11_next 56 = .ok (.getfield 21, 3) := dk_180 0 21 (dk_at dksX11_next_2 8 rfl rfl)
theorem dX11_next_59 : decode cX11_next 59 = .ok (.aload_n 0, 1) := dk_42 (dk_at dksX11_next_2 11 rfl rfl)
theorem dX11_next_60 : decode cX11_next 60 = .ok (.getfield 24, 3) := dk_180 0 24 (dk_at dksX11_next_2 12 rfl rfl)
theorem dX11_next_63 : decode cX11_next 63 = .ok (.if_icmp .lt 17, 3) := dk_161 0 17 (dk_at dksX11_next_2 15 rfl rfl)
theorem dX11_next_66 : decode cX11_next 66 = .ok (.aload_n 0, 1) := dk_42 (dk_at dksX11_next_2 18 rfl rfl)
theorem dX11_next_67 : decode cX11_next 67 = .ok (.aload_n 0, 1) := dk_42 (dk_at dksX11_next_2 19 rfl rfl)
theorem dX11_next_68 : decode cX11_next 68 = .ok (.getfield 24, 3) := dk_180 0 24 (dk_at dksX11_next_2 20 rfl rfl)
theorem dX11_next_71 : decode cX11_next 71 = .ok (.putfield 157, 3) := dk_181 0 157 (dk_at dksX11_next_3 0 rfl rfl)
theorem dX11_next_74 : decode cX11_next 74 = .ok (.aload_n 0, 1) := dk_42 (dk_at dksX11_next_3 3 rfl rfl)
theorem dX11_next_75 : decode cX11_next 75 = .ok (.iconst 4, 1) := dk_7 (dk_at dksX11_next_3 4 rfl rfl)
theorem dX11_next_76 : decode cX11_next 76 = .ok (.putfield 163, 3) := dk_181 0 163 (dk_at dksX11_next_3 5 rfl rfl)
theorem dX11_next_79 : decode cX11_next 79 = .ok (.return_, 1) := dk_177 (dk_at dksX11_next_3 8 rfl rfl)
theorem dX11_next_80 : decode cX11_next 80 = .ok (.aload_n 0, 1) := dk_42 (dk_at dksX11_next_3 9 rfl rfl)
theorem dX11_next_81 : decode cX11_next 81 = .ok (.invokevirtual 153, 3) := dk_182 0 153 (dk_at dksX11_next_3 10 rfl rfl)
theorem dX11_next_84 : decode cX11_next 84 = .ok (.istore_n 1, 1) := dk_60 (dk_at dksX11_next_3 13 rfl rfl)
theorem dX11_next_85 : decode cX11_next 85 = .ok (.iload_n 1, 1) := dk_27 (dk_at dksX11_next_3 14 rfl rfl)
theorem dX11_next_86 : decode cX11_next 86 = .ok (.ifCond .ge 9, 3) := dk_156 0 9 (dk_at dksX11_next_3 15 rfl rfl)
theorem dX11_next_89 : decode cX11_next 89 = .ok (.aload_n 0, 1) := dk_42 (dk_at dksX11_next_3 18 rfl rfl)
theorem dX11_next_90 : decode cX11_next 90 = .ok (.iconst 0, 1) := dk_3 (dk_at dksX11_next_3 19 rfl rfl)
theorem dX11_next_91 : decode cX11_next 91 = .ok (.putfield 163, 3) := dk_181 0 163 (dk_at dksX11_next_3 20 rfl rfl)
theorem dX11_next_94 : decode cX11_next 94 = .ok (.return_, 1) := dk_177 (dk_at dksX11_next_3 23 rfl rfl)
theorem dX11_next_95 : decode cX11_next 95 = .ok (.iload_n 1, 1) := dk_27 (dk_at dksX11_next_4 0 rfl rfl)
theorem dX11_next_96 : decode cX11_next 96 = .ok (.invokestatic 166, 3) := dk_184 0 166 (dk_at dksX11_next_4 1 rfl rfl)
theorem dX11_next_99 : decode cX11_next 99 = .ok (.ifCond .ne 65, 3) := dk_154 0 65 (dk_at dksX11_next_4 4 rfl rfl)
theorem dX11_next_102 : decode cX11_next 102 = .ok (.iload_n 1, 1) := dk_27 (dk_at dksX11_next_4 7 rfl rfl)
theorem dX11_next_103 : decode cX11_next 103 = .ok (.invokestatic 170, 3) := dk_184 0 170 (dk_at dksX11_next_4 8 rfl rfl)
theorem dX11_next_106 : decode cX11_next 106 = .ok (.ifCond .ne 58, 3) := dk_154 0 58 (dk_at dksX11_next_4 11 rfl rfl)
theorem dX11_next_109 : decode cX11_next 109 = .ok (.aload_n 0, 1) := dk_42 (dk_at dksX11_next_4 14 rfl rfl)
theorem dX11_next_110 : decode cX11_next 110 = .ok (.iload_n 1, 1) := dk_27 (dk_at dksX11_next_4 15 rfl rfl)
theorem dX11_next_111 : decode cX11_next 111 = .ok (.bipush 59, 2) := dk_16 59 (dk_at dksX11_next_4 16 rfl rfl)
theorem dX11_next_113 : decode cX11_next 113 = .ok (.if_icmp .eq 27, 3) := dk_159 0 27 (dk_at dksX11_next_4 18 rfl rfl)
theorem dX11_next_116 : decode cX11_next 116 = .ok (.iload_n 1, 1) := dk_27 (dk_at dksX11_next_4 21 rfl rfl)
theorem dX11_next_117 : decode cX11_next 117 = .ok (.bipush 40, 2) := dk_16 40 (dk_at dksX11_next_4 22 rfl rfl)
theorem dX11_next_119 : decode cX11_next 119 = .ok (.if_icmp .eq 21, 3) := dk_159 0 21 (dk_at dksX11_next_5 0 rfl rfl)
theorem dX11_next_122 : decode cX11_next 122 = .ok (.iload_n 1, 1) := dk_27 (dk_at dksX11_next_5 3 rfl rfl)
theorem dX11_next_123 : decode cX11_next 123 = .ok (.bipush 41, 2) := dk_16 41 (dk_at dksX11_next_5 4 rfl rfl)
theorem dX11_next_125 : decode cX11_next 125 = .ok (.if_icmp .eq 15, 3) := dk_159 0 15 (dk_at dksX11_next_5 6 rfl rfl)
theorem dX11_next_128 : decode cX11_next 128 = .ok (.iload_n 1, 1) := dk_27 (dk_at dksX11_next_5 9 rfl rfl)
theorem dX11_next_129 : decode cX11_next 129 = .ok (.bipush 60, 2) := dk_16 60 (dk_at dksX11_next_5 10 rfl rfl)
theorem dX11_next_131 : decode cX11_next 131 = .ok (.if_icmp .lt 13, 3) := dk_161 0 13 (dk_at dksX11_next_5 12 rfl rfl)
theorem dX11_next_134 : decode cX11_next 134 = .ok (.iload_n 1, 1) := dk_27 (dk_at dksX11_next_5 15 rfl rfl)
theorem dX11_next_135 : decode cX11_next 135 = .ok (.bipush 62, 2) := dk_16 62 (dk_at dksX11_next_5 16 rfl rfl)
theorem dX11_next_137 : decode cX11_next 137 = .ok (.if_icmp .gt 7, 3) := dk_163 0 7 (dk_at dksX11_next_5 18 rfl rfl)
theorem dX11_next_140 : decode cX11_next 140 = .ok (.iconst 3, 1) := dk_6 (dk_at dksX11_next_5 21 rfl rfl)
theorem dX11_next_141 : decode cX11_next 141 = .ok (.goto 4, 3) := dk_167 0 4 (dk_at dksX11_next_6 0 rfl rfl)
theorem dX11_next_144 : decode cX11_next 144 = .ok (.iconst 4, 1) := dk_7 (dk_at dksX11_next_6 3 rfl rfl)
theorem dX11_next_145 : decode cX11_next 145 = .ok (.putfield 163, 3) := dk_181 0 163 (dk_at dksX11_next_6 4 rfl rfl)
theorem dX11_next_148 : decode cX11_next 148 = .ok (.aload_n 0, 1) := dk_42 (dk_at dksX11_next_6 7 rfl rfl)
theorem dX11_next_149 : decode cX11_next 149 = .ok (.iload_n 1, 1) := dk_27 (dk_at dksX11_next_6 8 rfl rfl)
theorem dX11_next_150 : decode cX11_next 150 = .ok (.putfield 173, 3) := dk_181 0 173 (dk_at dksX11_next_6 9 rfl rfl)
theorem dX11_next_153 : decode cX11_next 153 = .ok (.aload_n 0, 1) := dk_42 (dk_at dksX11_next_6 12 rfl rfl)
theorem dX11_next_154 : decode cX11_next 154 = .ok (.dup, 1) := dk_89 (dk_at dksX11_next_6 13 rfl rfl)
theorem dX11_next_155 : decode cX11_next 155 = .ok (.getfield 21, 3) := dk_180 0 21 (dk_at dksX11_next_6 14 rfl rfl)
theorem dX11_next_158 : decode cX11_next 158 = .ok (.iconst 1, 1) := dk_4 (dk_at dksX11_next_6 17 rfl rfl)
theorem dX11_next_159 : decode cX11_next 159 = .ok (.iadd, 1) := dk_96 (dk_at dksX11_next_6 18 rfl rfl)
theorem dX11_next_160 : decode cX11_next 160 = .ok (.putfield 21, 3) := dk_181 0 21 (dk_at dksX11_next_6 19 rfl rfl)
theorem dX11_next_163 : decode cX11_next 163 = .ok (.return_, 1) := dk_177 (dk_at dksX11_next_6 22 rfl rfl)
theorem dX11_next_164 : decode cX11_next 164 = .ok (.iload_n 1, 1) := dk_27 (dk_at dksX11_next_6 23 rfl rfl)
theorem dX11_next_165 : decode cX11_next 165 = .ok (.invokestatic 166, 3) := dk_184 0 166 (dk_at dksX11_next_7 0 rfl rfl)
theorem dX11_next_168 : decode cX11_next 168 = .ok (.istore_n 2, 1) := dk_61 (dk_at dksX11_next_7 3 rfl rfl)
theorem dX11_next_169 : decode cX11_next 169 = .ok (.iconst 1, 1) := dk_4 (dk_at dksX11_next_7 4 rfl rfl)
theorem dX11_next_170 : decode cX11_next 170 = .ok (.istore_n 3, 1) := dk_62 (dk_at dksX11_next_7 5 rfl rfl)
theorem dX11_next_171 : decode cX11_next 171 = .ok (.aload_n 0, 1) := dk_42 (dk_at dksX11_next_7 6 rfl rfl)
theorem dX11_next_172 : decode cX11_next 172 = .ok (.lconst 0, 1) := dk_9 (dk_at dksX11_next_7 7 rfl rfl)
theorem dX11_next_173 : decode cX11_next 173 = .ok (.putfield 176, 3) := dk_181 0 176 (dk_at dksX11_next_7 8 rfl rfl)
theorem dX11_next_176 : decode cX11_next 176 = .ok (.aload_n 0, 1) := dk_42 (dk_at dksX11_next_7 11 rfl rfl)
theorem dX11_next_177 : decode cX11_next 177 = .ok (.iconst 0, 1) := dk_3 (dk_at dksX11_next_7 12 rfl rfl)
theorem dX11_next_178 : decode cX11_next 178 = .ok (.putfield 173, 3) := dk_181 0 173 (dk_at dksX11_next_7 13 rfl rfl)
theorem dX11_next_181 : decode cX11_next 181 = .ok (.aload_n 0, 1) := dk_42 (dk_at dksX11_next_7 16 rfl rfl)
theorem dX11_next_182 : decode cX11_next 182 = .ok (.invokevirtual 153, 3) := dk_182 0 153 (dk_at dksX11_next_7 17 rfl rfl)
theorem dX11_next_185 : decode cX11_next 185 = .ok (.invokestatic 166, 3) := dk_184 0 166 (dk_at dksX11_next_7 20 rfl rfl)
theorem dX11_next_188 : decode cX11_next 188 = .ok (.ifCond .ne 13, 3) := dk_154 0 13 (dk_at dksX11_next_8 0 rfl rfl)
theorem dX11_next_191 : decode cX11_next 191 = .ok (.aload_n 0, 1) := dk_42 (dk_at dksX11_next_8 3 rfl rfl)
theorem dX11_next_192 : decode cX11_next 192 = .ok (.invokevirtual 153, 3) := dk_182 0 153 (dk_at dksX11_next_8 4 rfl rfl)
theorem dX11_next_195 : decode cX11_next 195 = .ok (.invokestatic 170, 3) := dk_184 0 170 (dk_at dksX11_next_8 7 rfl rfl)
theorem dX11_next_198 : decode cX11_next 198 = .ok (.ifCond .eq 100, 3) := dk_153 0 100 (dk_at dksX11_next_8 10 rfl rfl)
theorem dX11_next_201 : decode cX11_next 201 = .ok (.iload_n 3, 1) := dk_29 (dk_at dksX11_next_8 13 rfl rfl)
theorem dX11_next_202 : decode cX11_next 202 = .ok (.ifCond .eq 18, 3) := dk_153 0 18 (dk_at dksX11_next_8 14 rfl rfl)
theorem dX11_next_205 : decode cX11_next 205 = .ok (.aload_n 0, 1) := dk_42 (dk_at dksX11_next_8 17 rfl rfl)
theorem dX11_next_206 : decode cX11_next 206 = .ok (.invokevirtual 153, 3) := dk_182 0 153 (dk_at dksX11_next_8 18 rfl rfl)
theorem dX11_next_209 : decode cX11_next 209 = .ok (.invokestatic 166, 3) := dk_184 0 166 (dk_at dksX11_next_8 21 rfl rfl)
theorem dX11_next_212 : decode cX11_next 212 = .ok (.iload_n 2, 1) := dk_28 (dk_at dksX11_next_9 0 rfl rfl)
theorem dX11_next_213 : decode cX11_next 213 = .ok (.if_icmp .ne 7, 3) := dk_160 0 7 (dk_at dksX11_next_9 1 rfl rfl)
theorem dX11_next_216 : decode cX11_next 216 = .ok (.iconst 1, 1) := dk_4 (dk_at dksX11_next_9 4 rfl rfl)
theorem dX11_next_217 : decode cX11_next 217 = .ok (.goto 4, 3) := dk_167 0 4 (dk_at dksX11_next_9 5 rfl rfl)
theorem dX11_next_220 : decode cX11_next 220 = .ok (.iconst 0, 1) := dk_3 (dk_at dksX11_next_9 8 rfl rfl)
theorem dX11_next_221 : decode cX11_next 221 = .ok (.istore_n 3, 1) := dk_62 (dk_at dksX11_next_9 9 rfl rfl)
theorem dX11_next_222 : decode cX11_next 222 = .ok (.aload_n 0, 1) := dk_42 (dk_at dksX11_next_9 10 rfl rfl)
theorem dX11_next_223 : decode cX11_next 223 = .ok (.getfield 160, 3) := dk_180 0 160 (dk_at dksX11_next_9 11 rfl rfl)
theorem dX11_next_226 : decode cX11_next 226 = .ok (.bipush 7, 2) := dk_16 7 (dk_at dksX11_next_9 14 rfl rfl)
theorem dX11_next_228 : decode cX11_next 228 = .ok (.if_icmp .ge 20, 3) := dk_162 0 20 (dk_at dksX11_next_9 16 rfl rfl)
theorem dX11_next_231 : decode cX11_next 231 = .ok (.aload_n 0, 1) := dk_42 (dk_at dksX11_next_9 19 rfl rfl)
theorem dX11_next_232 : decode cX11_next 232 = .ok (.aload_n 0, 1) := dk_42 (dk_at dksX11_next_9 20 rfl rfl)
theorem dX11_next_233 : decode cX11_next 233 = .ok (.getfield 176, 3) := dk_180 0 176 (dk_at dksX11_next_9 21 rfl rfl)
theorem dX11_next_236 : decode cX11_next 236 = .ok (.bipush 8, 2) := dk_16 8 (dk_at dksX11_next_10 0 rfl rfl)
theorem dX11_next_238 : decode cX11_next 238 = .ok (.lshl, 1) := dk_121 (dk_at dksX11_next_10 2 rfl rfl)
theorem dX11_next_239 : decode cX11_next 239 = .ok (.aload_n 0, 1) := dk_42 (dk_at dksX11_next_10 3 rfl rfl)
theorem dX11_next_240 : decode cX11_next 240 = .ok (.invokevirtual 153, 3) := dk_182 0 153 (dk_at dksX11_next_10 4 rfl rfl)
theorem dX11_next_243 : decode cX11_next 243 = .ok (.i2l, 1) := dk_133 (dk_at dksX11_next_10 7 rfl rfl)
theorem dX11_next_244 : decode cX11_next 244 = .ok (.lor, 1) := dk_129 (dk_at dksX11_next_10 8 rfl rfl)
theorem dX11_next_245 : decode cX11_next 245 = .ok (.putfield 176, 3) := dk_181 0 176 (dk_at dksX11_next_10 9 rfl rfl)
theorem dX11_next_248 : decode cX11_next 248 = .ok (.aload_n 0, 1) := dk_42 (dk_at dksX11_next_10 12 rfl rfl)
theorem dX11_next_249 : decode cX11_next 249 = .ok (.getfield 160, 3) := dk_180 0 160 (dk_at dksX11_next_10 13 rfl rfl)
theorem dX11_next_252 : decode cX11_next 252 = .ok (.iconst 3, 1) := dk_6 (dk_at dksX11_next_10 16 rfl rfl)
theorem dX11_next_253 : decode cX11_next 253 = .ok (.if_icmp .ge 22, 3) := dk_162 0 22 (dk_at dksX11_next_10 17 rfl rfl)
theorem dX11_next_256 : decode cX11_next 256 = .ok (.aload_n 0, 1) := dk_42 (dk_at dksX11_next_10 20 rfl rfl)
theorem dX11_next_257 : decode cX11_next 257 = .ok (.bipush 10, 2) := dk_16 10 (dk_at dksX11_next_10 21 rfl rfl)
theorem dX11_next_259 : decode cX11_next 259 = .ok (.aload_n 0, 1) := dk_42 (dk_at dksX11_next_10 23 rfl rfl)
theorem dX11_next_260 : decode cX11_next 260 = .ok (.getfield 173, 3) := dk_180 0 173 (dk_at dksX11_next_11 0 rfl rfl)
theorem dX11_next_263 : decode cX11_next 263 = .ok (.imul, 1) := dk_104 (dk_at dksX11_next_11 3 rfl rfl)
theorem dX11_next_264 : decode cX11_next 264 = .ok (.aload_n 0, 1) := dk_42 (dk_at dksX11_next_11 4 rfl rfl)
theorem dX11_next_265 : decode cX11_next 265 = .ok (.invokevirtual 153, 3) := dk_182 0 153 (dk_at dksX11_next_11 5 rfl rfl)
theorem dX11_next_268 : decode cX11_next 268 = .ok (.iadd, 1) := dk_96 (dk_at dksX11_next_11 8 rfl rfl)
theorem dX11_next_269 : decode cX11_next 269 = .ok (.bipush 48, 2) := dk_16 48 (dk_at dksX11_next_11 9 rfl rfl)
theorem dX11_next_271 : decode cX11_next 271 = .ok (.isub, 1) := dk_100 (dk_at dksX11_next_11 11 rfl rfl)
theorem dX11_next_272 : decode cX11_next 272 = .ok (.putfield 173, 3) := dk_181 0 173 (dk_at dksX11_next_11 12 rfl rfl)
theorem dX11_next_275 : decode cX11_next 275 = .ok (.aload_n 0, 1) := dk_42 (dk_at dksX11_next_11 15 rfl rfl)
theorem dX11_next_276 : decode cX11_next 276 = .ok (.dup, 1) := dk_89 (dk_at dksX11_next_11 16 rfl rfl)
theorem dX11_next_277 : decode cX11_next 277 = .ok (.getfield 160, 3) := dk_180 0 160 (dk_at dksX11_next_11 17 rfl rfl)
theorem dX11_next_280 : decode cX11_next 280 = .ok (.iconst 1, 1) := dk_4 (dk_at dksX11_next_11 20 rfl rfl)
theorem dX11_next_281 : decode cX11_next 281 = .ok (.iadd, 1) := dk_96 (dk_at dksX11_next_11 21 rfl rfl)
theorem dX11_next_282 : decode cX11_next 282 = .ok (.putfield 160, 3) := dk_181 0 160 (dk_at dksX11_next_12 0 rfl rfl)
theorem dX11_next_285 : decode cX11_next 285 = .ok (.aload_n 0, 1) := dk_42 (dk_at dksX11_next_12 3 rfl rfl)
theorem dX11_next_286 : decode cX11_next 286 = .ok (.dup, 1) := dk_89 (dk_at dksX11_next_12 4 rfl rfl)
theorem dX11_next_287 : decode cX11_next 287 = .ok (.getfield 21, 3) := dk_180 0 21 (dk_at dksX11_next_12 5 rfl rfl)
theorem dX11_next_290 : decode cX11_next 290 = .ok (.iconst 1, 1) := dk_4 (dk_at dksX11_next_12 8 rfl rfl)
theorem dX11_next_291 : decode cX11_next 291 = .ok (.iadd, 1) := dk_96 (dk_at dksX11_next_12 9 rfl rfl)
theorem dX11_next_292 : decode cX11_next 292 = .ok (.putfield 21, 3) := dk_181 0 21 (dk_at dksX11_next_12 10 rfl rfl)
theorem dX11_next_295 : decode cX11_next 295 = .ok (.goto (-114), 3) := dk_167 255 142 (dk_at dksX11_next_12 13 rfl rfl)
theorem dX11_next_298 : decode cX11_next 298 = .ok (.aload_n 0, 1) := dk_42 (dk_at dksX11_next_12 16 rfl rfl)
theorem dX11_next_299 : decode cX11_next 299 = .ok (.iload_n 3, 1) := dk_29 (dk_at dksX11_next_12 17 rfl rfl)
theorem dX11_next_300 : decode cX11_next 300 = .ok (.ifCond .eq 20, 3) := dk_153 0 20 (dk_at dksX11_next_12 18 rfl rfl)
theorem dX11_next_303 : decode cX11_next 303 = .ok (.aload_n 0, 1) := dk_42 (dk_at dksX11_next_12 21 rfl rfl)
theorem dX11_next_304 : decode cX11_next 304 = .ok (.getfield 160, 3) := dk_180 0 160 (dk_at dksX11_next_13 0 rfl rfl)
theorem dX11_next_307 : decode cX11_next 307 = .ok (.iload_n 2, 1) := dk_28 (dk_at dksX11_next_13 3 rfl rfl)
theorem dX11_next_308 : decode cX11_next 308 = .ok (.ifCond .eq 8, 3) := dk_153 0 8 (dk_at dksX11_next_13 4 rfl rfl)
theorem dX11_next_311 : decode cX11_next 311 = .ok (.bipush 7, 2) := dk_16 7 (dk_at dksX11_next_13 7 rfl rfl)
theorem dX11_next_313 : decode cX11_next 313 = .ok (.goto 4, 3) := dk_167 0 4 (dk_at dksX11_next_13 9 rfl rfl)
theorem dX11_next_316 : decode cX11_next 316 = .ok (.iconst 3, 1) := dk_6 (dk_at dksX11_next_13 12 rfl rfl)
theorem dX11_next_317 : decode cX11_next 317 = .ok (.if_icmp .le 7, 3) := dk_164 0 7 (dk_at dksX11_next_13 13 rfl rfl)
theorem dX11_next_320 : decode cX11_next 320 = .ok (.iconst 4, 1) := dk_7 (dk_at dksX11_next_13 16 rfl rfl)
theorem dX11_next_321 : decode cX11_next 321 = .ok (.goto 12, 3) := dk_167 0 12 (dk_at dksX11_next_13 17 rfl rfl)
theorem dX11_next_324 : decode cX11_next 324 = .ok (.iload_n 2, 1) := dk_28 (dk_at dksX11_next_13 20 rfl rfl)
theorem dX11_next_325 : decode cX11_next 325 = .ok (.ifCond .eq 7, 3) := dk_153 0 7 (dk_at dksX11_next_13 21 rfl rfl)
theorem dX11_next_328 : decode cX11_next 328 = .ok (.iconst 1, 1) := dk_4 (dk_at dksX11_next_14 0 rfl rfl)
theorem dX11_next_329 : decode cX11_next 329 = .ok (.goto 4, 3) := dk_167 0 4 (dk_at dksX11_next_14 1 rfl rfl)
theorem dX11_next_332 : decode cX11_next 332 = .ok (.iconst 2, 1) := dk_5 (dk_at dksX11_next_14 4 rfl rfl)
theorem dX11_next_333 : decode cX11_next 333 = .ok (.putfield 163, 3) := dk_181 0 163 (dk_at dksX11_next_14 5 rfl rfl)
theorem dX11_next_336 : decode cX11_next 336 = .ok (.return_, 1) := dk_177 (dk_at dksX11_next_14 8 rfl rfl)
abbrev cX11_peek : ByteArray := prog_23_method_11_code
def yX11_peek : MethodName := ⟨RX11, "peek", "()I"⟩
def dkwX11_peek_1 : List UInt8 := [167, 0, 4, 2, 172]
abbrev dktX11_peek_1 : List UInt8 := dkwX11_peek_1 ++ []
def dkwX11_peek_0 : List UInt8 := [42, 180, 0, 21, 42, 180, 0, 18, 162, 0, 19, 42, 180, 0, 14, 42, 180, 0, 21, 51, 17, 0, 255, 126]
abbrev dktX11_peek_0 : List UInt8 := dkwX11_peek_0 ++ dktX11_peek_1
theorem dksX11_peek_0 : cX11_peek.data.toList.drop 0 = dktX11_peek_0 := by decide +kernel
theorem dksX11_peek_1 : cX11_peek.data.toList.drop 24 = dktX11_peek_1 := dk_seg dksX11_peek_0 24 rfl rfl
theorem dX11_peek_0 : decode cX11_peek 0 = .ok (.aload_n 0, 1) := dk_42 (dk_at dksX11_peek_0 0 rfl rfl)
theorem dX11_peek_1 : decode cX11_peek 1 = .ok (.getfield 21, 3) := dk_180 0 21 (dk_at dksX11_peek_0 1 rfl rfl)
theorem dX11_peek_4 : decode cX11_peek 4 = .ok (.aload_n 0, 1) := dk_42 (dk_at dksX11_peek_0 4 rfl rfl)
theorem dX11_peek_5 : decode cX11_peek 5 = .ok (.getfield 18, 3) := dk_180 0 18 (dk_at dksX11_peek_0 5 rfl rfl)
theorem dX11_peek_8 : decode cX11_peek 8 = .ok (.if_icmp .ge 19, 3) := dk_162 0 19 (dk_at dksX11_peek_0 8 rfl rfl)
theorem dX11_peek_11 : decode cX11_peek 11 = .ok (.aload_n 0, 1) := dk_42 (dk_at dksX11_peek_0 11 rfl rfl)
theorem dX11_peek_12 : decode cX11_peek 12 = .ok (.getfield 14, 3) := dk_180 0 14 (dk_at dksX11_peek_0 12 rfl rfl)
theorem dX11_peek_15 : decode cX11_peek 15 = .ok (.aload_n 0, 1) := dk_42 (dk_at dksX11_peek_0 15 rfl rfl)
theorem dX11_peek_16 : decode cX11_peek 16 = .ok (.getfield 21, 3) := dk_180 0 21 (dk_at dksX11_peek_0 16 rfl rfl)
theorem dX11_peek_19 : decode cX11_peek 19 = .ok (.baload, 1) := dk_51 (dk_at dksX11_peek_0 19 rfl rfl)
theorem dX11_peek_20 : decode cX11_peek 20 = .ok (.sipush 255, 3) := dk_17 0 255 (dk_at dksX11_peek_0 20 rfl rfl)
theorem dX11_peek_23 : decode cX11_peek 23 = .ok (.iand, 1) := dk_126 (dk_at dksX11_peek_0 23 rfl rfl)
theorem dX11_peek_24 : decode cX11_peek 24 = .ok (.goto 4, 3) := dk_167 0 4 (dk_at dksX11_peek_1 0 rfl rfl)
theorem dX11_peek_27 : decode cX11_peek 27 = .ok (.iconst (-1), 1) := dk_2 (dk_at dksX11_peek_1 3 rfl rfl)
theorem dX11_peek_28 : decode cX11_peek 28 = .ok (.ireturn, 1) := dk_172 (dk_at dksX11_peek_1 4 rfl rfl)
abbrev cX11_isSmall : ByteArray := prog_23_method_12_code
def yX11_isSmall : MethodName := ⟨RX11, "isSmall", "(I)Z"⟩
def dkwX11_isSmall_0 : List UInt8 := [26, 16, 97, 161, 0, 13, 26, 16, 122, 163, 0, 7, 4, 167, 0, 4, 3, 172]
abbrev dktX11_isSmall_0 : List UInt8 := dkwX11_isSmall_0 ++ []
theorem dksX11_isSmall_0 : cX11_isSmall.data.toList.drop 0 = dktX11_isSmall_0 := by decide +kernel
theorem dX11_isSmall_0 : decode cX11_isSmall 0 = .ok (.iload_n 0, 1) := dk_26 (dk_at dksX11_isSmall_0 0 rfl rfl)
theorem dX11_isSmall_1 : decode cX11_isSmall 1 = .ok (.bipush 97, 2) := dk_16 97 (dk_at dksX11_isSmall_0 1 rfl rfl)
theorem dX11_isSmall_3 : decode cX11_isSmall 3 = .ok (.if_icmp .lt 13, 3) := dk_161 0 13 (dk_at dksX11_isSmall_0 3 rfl rfl)
theorem dX11_isSmall_6 : decode cX11_isSmall 6 = .ok (.iload_n 0, 1) := dk_26 (dk_at dksX11_isSmall_0 6 rfl rfl)
theorem dX11_isSmall_7 : decode cX11_isSmall 7 = .ok (.bipush 122, 2) := dk_16 122 (dk_at dksX11_isSmall_0 7 rfl rfl)
theorem dX11_isSmall_9 : decode cX11_isSmall 9 = .ok (.if_icmp .gt 7, 3) := dk_163 0 7 (dk_at dksX11_isSmall_0 9 rfl rfl)
theorem dX11_isSmall_12 : decode cX11_isSmall 12 = .ok (.iconst 1, 1) := dk_4 (dk_at dksX11_isSmall_0 12 rfl rfl)
theorem dX11_isSmall_13 : decode cX11_isSmall 13 = .ok (.goto 4, 3) := dk_167 0 4 (dk_at dksX11_isSmall_0 13 rfl rfl)
theorem dX11_isSmall_16 : decode cX11_isSmall 16 = .ok (.iconst 0, 1) := dk_3 (dk_at dksX11_isSmall_0 16 rfl rfl)
theorem dX11_isSmall_17 : decode cX11_isSmall 17 = .ok (.ireturn, 1) := dk_172 (dk_at dksX11_isSmall_0 17 rfl rfl)
abbrev cX11_isDigit : ByteArray := prog_23_method_13_code
def yX11_isDigit : MethodName := ⟨RX11, "isDigit", "(I)Z"⟩
def dkwX11_isDigit_0 : List UInt8 := [26, 16, 48, 161, 0, 13, 26, 16, 57, 163, 0, 7, 4, 167, 0, 4, 3, 172]
abbrev dktX11_isDigit_0 : List UInt8 := dkwX11_isDigit_0 ++ []
theorem dksX11_isDigit_0 : cX11_isDigit.data.toList.drop 0 = dktX11_isDigit_0 := by decide +kernel
theorem dX11_isDigit_0 : decode cX11_isDigit 0 = .ok (.iload_n 0, 1) := dk_26 (dk_at dksX11_isDigit_0 0 rfl rfl)
theorem dX11_isDigit_1 : decode cX11_isDigit 1 = .ok (.bipush 48, 2) := dk_16 48 (dk_at dksX11_isDigit_0 1 rfl rfl)
theorem dX11_isDigit_3 : decode cX11_isDigit 3 = .ok (.if_icmp .lt 13, 3) := dk_161 0 13 (dk_at dksX11_isDigit_0 3 rfl rfl)
theorem dX11_isDigit_6 : decode cX11_isDigit 6 = .ok (.iload_n 0, 1) := dk_26 (dk_at dksX11_isDigit_0 6 rfl rfl)
theorem dX11_isDigit_7 : decode cX11_isDigit 7 = .ok (.bipush 57, 2) := dk_16 57 (dk_at dksX11_isDigit_0 7 rfl rfl)
theorem dX11_isDigit_9 : decode cX11_isDigit 9 = .ok (.if_icmp .gt 7, 3) := dk_163 0 7 (dk_at dksX11_isDigit_0 9 rfl rfl)
theorem dX11_isDigit_12 : decode cX11_isDigit 12 = .ok (.iconst 1, 1) := dk_4 (dk_at dksX11_isDigit_0 12 rfl rfl)
theorem dX11_isDigit_13 : decode cX11_isDigit 13 = .ok (.goto 4, 3) := dk_167 0 4 (dk_at dksX11_isDigit_0 13 rfl rfl)
theorem dX11_isDigit_16 : decode cX11_isDigit 16 = .ok (.iconst 0, 1) := dk_3 (dk_at dksX11_isDigit_0 16 rfl rfl)
theorem dX11_isDigit_17 : decode cX11_isDigit 17 = .ok (.ireturn, 1) := dk_172 (dk_at dksX11_isDigit_0 17 rfl rfl)
abbrev cX11_line : ByteArray := prog_23_method_22_code
def yX11_line : MethodName := ⟨RX11, "line", "()Z"⟩
def dkwX11_line_12 : List UInt8 := [79, 4, 172]
abbrev dktX11_line_12 : List UInt8 := dkwX11_line_12 ++ []
def dkwX11_line_11 : List UInt8 := [182, 0, 192, 42, 3, 16, 9, 182, 0, 210, 154, 0, 5, 3, 172, 42, 180, 0, 37, 6, 42, 180, 0, 199]
abbrev dktX11_line_11 : List UInt8 := dkwX11_line_11 ++ dktX11_line_12
def dkwX11_line_10 : List UInt8 := [4, 182, 0, 189, 172, 42, 180, 0, 231, 153, 0, 9, 42, 6, 182, 0, 189, 172, 42, 4, 181, 0, 231, 42]
abbrev dktX11_line_10 : List UInt8 := dkwX11_line_10 ++ dktX11_line_11
def dkwX11_line_9 : List UInt8 := [42, 180, 0, 37, 5, 4, 79, 42, 182, 0, 192, 4, 172, 42, 20, 0, 125, 182, 0, 202, 154, 0, 9, 42]
abbrev dktX11_line_9 : List UInt8 := dkwX11_line_9 ++ dktX11_line_10
def dkwX11_line_8 : List UInt8 := [182, 0, 202, 153, 0, 34, 42, 180, 0, 228, 153, 0, 9, 42, 6, 182, 0, 189, 172, 42, 4, 181, 0, 228]
abbrev dktX11_line_8 : List UInt8 := dkwX11_line_8 ++ dktX11_line_9
def dkwX11_line_7 : List UInt8 := [182, 0, 222, 172, 42, 20, 0, 121, 182, 0, 202, 153, 0, 8, 42, 182, 0, 225, 172, 42, 20, 0, 123]
abbrev dktX11_line_7 : List UInt8 := dkwX11_line_7 ++ dktX11_line_8
def dkwX11_line_6 : List UInt8 := [92, 46, 4, 96, 79, 42, 182, 0, 192, 4, 172, 42, 20, 0, 119, 182, 0, 202, 153, 0, 8, 42]
abbrev dktX11_line_6 : List UInt8 := dkwX11_line_6 ++ dktX11_line_7
def dkwX11_line_5 : List UInt8 := [172, 42, 180, 0, 43, 16, 6, 42, 180, 0, 37, 4, 46, 96, 42, 180, 0, 176, 80, 42, 180, 0, 37, 4]
abbrev dktX11_line_5 : List UInt8 := dkwX11_line_5 ++ dktX11_line_6
def dkwX11_line_4 : List UInt8 := [182, 0, 189, 172, 42, 16, 6, 42, 180, 0, 37, 4, 46, 182, 0, 218, 155, 0, 9, 42, 6, 182, 0, 189]
abbrev dktX11_line_4 : List UInt8 := dkwX11_line_4 ++ dktX11_line_5
def dkwX11_line_3 : List UInt8 := [16, 6, 160, 0, 9, 42, 7, 182, 0, 189, 172, 42, 182, 0, 192, 42, 182, 0, 214, 154, 0, 9, 42, 4]
abbrev dktX11_line_3 : List UInt8 := dkwX11_line_3 ++ dktX11_line_4
def dkwX11_line_2 : List UInt8 := [3, 42, 180, 0, 199, 79, 4, 172, 42, 20, 0, 117, 182, 0, 202, 153, 0, 92, 42, 180, 0, 37, 4, 46]
abbrev dktX11_line_2 : List UInt8 := dkwX11_line_2 ++ dktX11_line_3
def dkwX11_line_1 : List UInt8 := [4, 181, 0, 206, 42, 182, 0, 192, 42, 5, 16, 13, 182, 0, 210, 154, 0, 5, 3, 172, 42, 180, 0, 37]
abbrev dktX11_line_1 : List UInt8 := dkwX11_line_1 ++ dktX11_line_2
def dkwX11_line_0 : List UInt8 := [42, 20, 0, 115, 182, 0, 202, 153, 0, 49, 42, 180, 0, 206, 153, 0, 9, 42, 6, 182, 0, 189, 172, 42]
abbrev dktX11_line_0 : List UInt8 := dkwX11_line_0 ++ dktX11_line_1
theorem dksX11_line_0 : cX11_line.data.toList.drop 0 = dktX11_line_0 := by decide +kernel
theorem dksX11_line_1 : cX11_line.data.toList.drop 24 = dktX11_line_1 := dk_seg dksX11_line_0 24 rfl rfl
theorem dksX11_line_2 : cX11_line.data.toList.drop 48 = dktX11_line_2 := dk_seg dksX11_line_1 24 rfl rfl
theorem dksX11_line_3 : cX11_line.data.toList.drop 72 = dktX11_line_3 := dk_seg dksX11_line_2 24 rfl rfl
theorem dksX11_line_4 : cX11_line.data.toList.drop 96 = dktX11_line_4 := dk_seg dksX11_line_3 24 rfl rfl
theorem dksX11_line_5 : cX11_line.data.toList.drop 120 = dktX11_line_5 := dk_seg dksX11_line_4 24 rfl rfl
theorem dksX11_line_6 : cX11_line.data.toList.drop 144 = dktX11_line_6 := dk_seg dksX11_line_5 24 rfl rfl
theorem dksX11_line_7 : cX11_line.data.toList.drop 166 = dktX11_line_7 := dk_seg dksX11_line_6 22 rfl rfl
theorem dksX11_line_8 : cX11_line.data.toList.drop 189 = dktX11_line_8 := dk_seg dksX11_line_7 23 rfl rfl
theorem dksX11_line_9 : cX11_line.data.toList.drop 213 = dktX11_line_9 := dk_seg dksX11_line_8 24 rfl rfl
theorem dksX11_line_10 : cX11_line.data.toList.drop 237 = dktX11_line_10 := dk_seg dksX11_line_9 24 rfl rfl
theorem dksX11_line_11 : cX11_line.data.toList.drop 261 = dktX11_line_11 := dk_seg dksX11_line_10 24 rfl rfl
theorem dksX11_line_12 : cX11_line.data.toList.drop 285 = dktX11_line_12 := dk_seg dksX11_line_11 24 rfl rfl
theorem dX11_line_0 : decode cX11_line 0 = .ok (.aload_n 0, 1) := dk_42 (dk_at dksX11_line_0 0 rfl rfl)
theorem dX11_line_1 : decode cX11_line 1 = .ok (.ldc2_w 115, 3) := dk_20 0 115 (dk_at dksX11_line_0 1 rfl rfl)
theorem dX11_line_4 : decode cX11_line 4 = .ok (.invokevirtual 202, 3) := dk_182 0 202 (dk_at dksX11_line_0 4 rfl rfl)
theorem dX11_line_7 : decode cX11_line 7 = .ok (.ifCond .eq 49, 3) := dk_153 0 49 (dk_at dksX11_line_0 7 rfl rfl)
theorem dX11_line_10 : decode cX11_line 10 = .ok (.aload_n 0, 1) := dk_42 (dk_at dksX11_line_0 10 rfl rfl)
theorem dX11_line_11 : decode cX11_line 11 = .ok (.getfield 206, 3) := dk_180 0 206 (dk_at dksX11_line_0 11 rfl rfl)
theorem dX11_line_14 : decode cX11_line 14 = .ok (.ifCond .eq 9, 3) := dk_153 0 9 (dk_at dksX11_line_0 14 rfl rfl)
theorem dX11_line_17 : decode cX11_line 17 = .ok (.aload_n 0, 1) := dk_42 (dk_at dksX11_line_0 17 rfl rfl)
theorem dX11_line_18 : decode cX11_line 18 = .ok (.iconst 3, 1) := dk_6 (dk_at dksX11_line_0 18 rfl rfl)
theorem dX11_line_19 : decode cX11_line 19 = .ok (.invokevirtual 189, 3) := dk_182 0 189 (dk_at dksX11_line_0 19 rfl rfl)
theorem dX11_line_22 : decode cX11_line 22 = .ok (.ireturn, 1) := dk_172 (dk_at dksX11_line_0 22 rfl rfl)
theorem dX11_line_23 : decode cX11_line 23 = .ok (.aload_n 0, 1) := dk_42 (dk_at dksX11_line_0 23 rfl rfl)
theorem dX11_line_24 : decode cX11_line 24 = .ok (.iconst 1, 1) := dk_4 (dk_at dksX11_line_1 0 rfl rfl)
theorem dX11_line_25 : decode cX11_line 25 = .ok (.putfield 206, 3) := dk_181 0 206 (dk_at dksX11_line_1 1 rfl rfl)
theorem dX11_line_28 : decode cX11_line 28 = .ok (.aload_n 0, 1) := dk_42 (dk_at dksX11_line_1 4 rfl rfl)
theorem dX11_line_29 : decode cX11_line 29 = .ok (.invokevirtual 192, 3) := dk_182 0 192 (dk_at dksX11_line_1 5 rfl rfl)
theorem dX11_line_32 : decode cX11_line 32 = .ok (.aload_n 0, 1) := dk_42 (dk_at dksX11_line_1 8 rfl rfl)
theorem dX11_line_33 : decode cX11_line 33 = .ok (.iconst 2, 1) := dk_5 (dk_at dksX11_line_1 9 rfl rfl)
theorem dX11_line_34 : decode cX11_line 34 = .ok (.bipush 13, 2) := dk_16 13 (dk_at dksX11_line_1 10 rfl rfl)
theorem dX11_line_36 : decode cX11_line 36 = .ok (.invokevirtual 210, 3) := dk_182 0 210 (dk_at dksX11_line_1 12 rfl rfl)
theorem dX11_line_39 : decode cX11_line 39 = .ok (.ifCond .ne 5, 3) := dk_154 0 5 (dk_at dksX11_line_1 15 rfl rfl)
theorem dX11_line_42 : decode cX11_line 42 = .ok (.iconst 0, 1) := dk_3 (dk_at dksX11_line_1 18 rfl rfl)
theorem dX11_line_43 : decode cX11_line 43 = .ok (.ireturn, 1) := dk_172 (dk_at dksX11_line_1 19 rfl rfl)
theorem dX11_line_44 : decode cX11_line 44 = .ok (.aload_n 0, 1) := dk_42 (dk_at dksX11_line_1 20 rfl rfl)
theorem dX11_line_45 : decode cX11_line 45 = .ok (.getfield 37, 3) := dk_180 0 37 (dk_at dksX11_line_1 21 rfl rfl)
theorem dX11_line_48 : decode cX11_line 48 = .ok (.iconst 0, 1) := dk_3 (dk_at dksX11_line_2 0 rfl rfl)
theorem dX11_line_49 : decode cX11_line 49 = .ok (.aload_n 0, 1) := dk_42 (dk_at dksX11_line_2 1 rfl rfl)
theorem dX11_line_50 : decode cX11_line 50 = .ok (.getfield 199, 3) := dk_180 0 199 (dk_at dksX11_line_2 2 rfl rfl)
theorem dX11_line_53 : decode cX11_line 53 = .ok (.iastore, 1) := dk_79 (dk_at dksX11_line_2 5 rfl rfl)
theorem dX11_line_54 : decode cX11_line 54 = .ok (.iconst 1, 1) := dk_4 (dk_at dksX11_line_2 6 rfl rfl)
theorem dX11_line_55 : decode cX11_line 55 = .ok (.ireturn, 1) := dk_172 (dk_at dksX11_line_2 7 rfl rfl)
theorem dX11_line_56 : decode cX11_line 56 = .ok (.aload_n 0, 1) := dk_42 (dk_at dksX11_line_2 8 rfl rfl)
theorem dX11_line_57 : decode cX11_line 57 = .ok (.ldc2_w 117, 3) := dk_20 0 117 (dk_at dksX11_line_2 9 rfl rfl)
theorem dX11_line_60 : decode cX11_line 60 = .ok (.invokevirtual 202, 3) := dk_182 0 202 (dk_at dksX11_line_2 12 rfl rfl)
theorem dX11_line_63 : decode cX11_line 63 = .ok (.ifCond .eq 92, 3) := dk_153 0 92 (dk_at dksX11_line_2 15 rfl rfl)
theorem dX11_line_66 : decode cX11_line 66 = .ok (.aload_n 0, 1) := dk_42 (dk_at dksX11_line_2 18 rfl rfl)
theorem dX11_line_67 : decode cX11_line 67 = .ok (.getfield 37, 3) := dk_180 0 37 (dk_at dksX11_line_2 19 rfl rfl)
theorem dX11_line_70 : decode cX11_line 70 = .ok (.iconst 1, 1) := dk_4 (dk_at dksX11_line_2 22 rfl rfl)
theorem dX11_line_71 : decode cX11_line 71 = .ok (.iaload, 1) := dk_46 (dk_at dksX11_line_2 23 rfl rfl)
theorem dX11_line_72 : decode cX11_line 72 = .ok (.bipush 6, 2) := dk_16 6 (dk_at dksX11_line_3 0 rfl rfl)
theorem dX11_line_74 : decode cX11_line 74 = .ok (.if_icmp .ne 9, 3) := dk_160 0 9 (dk_at dksX11_line_3 2 rfl rfl)
theorem dX11_line_77 : decode cX11_line 77 = .ok (.aload_n 0, 1) := dk_42 (dk_at dksX11_line_3 5 rfl rfl)
theorem dX11_line_78 : decode cX11_line 78 = .ok (.iconst 4, 1) := dk_7 (dk_at dksX11_line_3 6 rfl rfl)
theorem dX11_line_79 : decode cX11_line 79 = .ok (.invokevirtual 189, 3) := dk_182 0 189 (dk_at dksX11_line_3 7 rfl rfl)
theorem dX11_line_82 : decode cX11_line 82 = .ok (.ireturn, 1) := dk_172 (dk_at dksX11_line_3 10 rfl rfl)
theorem dX11_line_83 : decode cX11_line 83 = .ok (.aload_n 0, 1) := dk_42 (dk_at dksX11_line_3 11 rfl rfl)
theorem dX11_line_84 : decode cX11_line 84 = .ok (.invokevirtual 192, 3) := dk_182 0 192 (dk_at dksX11_line_3 12 rfl rfl)
theorem dX11_line_87 : decode cX11_line 87 = .ok (.aload_n 0, 1) := dk_42 (dk_at dksX11_line_3 15 rfl rfl)
theorem dX11_line_88 : decode cX11_line 88 = .ok (.invokevirtual 214, 3) := dk_182 0 214 (dk_at dksX11_line_3 16 rfl rfl)
theorem dX11_line_91 : decode cX11_line 91 = .ok (.ifCond .ne 9, 3) := dk_154 0 9 (dk_at dksX11_line_3 19 rfl rfl)
theorem dX11_line_94 : decode cX11_line 94 = .ok (.aload_n 0, 1) := dk_42 (dk_at dksX11_line_3 22 rfl rfl)
theorem dX11_line_95 : decode cX11_line 95 = .ok (.iconst 1, 1) := dk_4 (dk_at dksX11_line_3 23 rfl rfl)
theorem dX11_line_96 : decode cX11_line 96 = .ok (.invokevirtual 189, 3) := dk_182 0 189 (dk_at dksX11_line_4 0 rfl rfl)
theorem dX11_line_99 : decode cX11_line 99 = .ok (.ireturn, 1) := dk_172 (dk_at dksX11_line_4 3 rfl rfl)
theorem dX11_line_100 : decode cX11_line 100 = .ok (.aload_n 0, 1) := dk_42 (dk_at dksX11_line_4 4 rfl rfl)
theorem dX11_line_101 : decode cX11_line 101 = .ok (.bipush 6, 2) := dk_16 6 (dk_at dksX11_line_4 5 rfl rfl)
theorem dX11_line_103 : decode cX11_line 103 = .ok (.aload_n 0, 1) := dk_42 (dk_at dksX11_line_4 7 rfl rfl)
theorem dX11_line_104 : decode cX11_line 104 = .ok (.getfield 37, 3) := dk_180 0 37 (dk_at dksX11_line_4 8 rfl rfl)
theorem dX11_line_107 : decode cX11_line 107 = .ok (.iconst 1, 1) := dk_4 (dk_at dksX11_line_4 11 rfl rfl)
theorem dX11_line_108 : decode cX11_line 108 = .ok (.iaload, 1) := dk_46 (dk_at dksX11_line_4 12 rfl rfl)
theorem dX11_line_109 : decode cX11_line 109 = .ok (.invokevirtual 218, 3) := dk_182 0 218 (dk_at dksX11_line_4 13 rfl rfl)
theorem dX11_line_112 : decode cX11_line 112 = .ok (.ifCond .lt 9, 3) := dk_155 0 9 (dk_at dksX11_line_4 16 rfl rfl)
theorem dX11_line_115 : decode cX11_line 115 = .ok (.aload_n 0, 1) := dk_42 (dk_at dksX11_line_4 19 rfl rfl)
theorem dX11_line_116 : decode cX11_line 116 = .ok (.iconst 3, 1) := dk_6 (dk_at dksX11_line_4 20 rfl rfl)
theorem dX11_line_117 : decode cX11_line 117 = .ok (.invokevirtual 189, 3) := dk_182 0 189 (dk_at dksX11_line_4 21 rfl rfl)
theorem dX11_line_120 : decode cX11_line 120 = .ok (.ireturn, 1) := dk_172 (dk_at dksX11_line_5 0 rfl rfl)
theorem dX11_line_121 : decode cX11_line 121 = .ok (.aload_n 0, 1) := dk_42 (dk_at dksX11_line_5 1 rfl rfl)
theorem dX11_line_122 : decode cX11_line 122 = .ok (.getfield 43, 3) := dk_180 0 43 (dk_at dksX11_line_5 2 rfl rfl)
theorem dX11_line_125 : decode cX11_line 125 = .ok (.bipush 6, 2) := dk_16 6 (dk_at dksX11_line_5 5 rfl rfl)
theorem dX11_line_127 : decode cX11_line 127 = .ok (.aload_n 0, 1) := dk_42 (dk_at dksX11_line_5 7 rfl rfl)
theorem dX11_line_128 : decode cX11_line 128 = .ok (.getfield 37, 3) := dk_180 0 37 (dk_at dksX11_line_5 8 rfl rfl)
theorem dX11_line_131 : decode cX11_line 131 = .ok (.iconst 1, 1) := dk_4 (dk_at dksX11_line_5 11 rfl rfl)
theorem dX11_line_132 : decode cX11_line 132 = .ok (.iaload, 1) := dk_46 (dk_at dksX11_line_5 12 rfl rfl)
theorem dX11_line_133 : decode cX11_line 133 = .ok (.iadd, 1) := dk_96 (dk_at dksX11_line_5 13 rfl rfl)
theorem dX11_line_134 : decode cX11_line 134 = .ok (.aload_n 0, 1) := dk_42 (dk_at dksX11_line_5 14 rfl rfl)
theorem dX11_line_135 : decode cX11_line 135 = .ok (.getfield 176, 3) := dk_180 0 176 (dk_at dksX11_line_5 15 rfl rfl)
theorem dX11_line_138 : decode cX11_line 138 = .ok (.lastore, 1) := dk_80 (dk_at dksX11_line_5 18 rfl rfl)
theorem dX11_line_139 : decode cX11_line 139 = .ok (.aload_n 0, 1) := dk_42 (dk_at dksX11_line_5 19 rfl rfl)
theorem dX11_line_140 : decode cX11_line 140 = .ok (.getfield 37, 3) := dk_180 0 37 (dk_at dksX11_line_5 20 rfl rfl)
theorem dX11_line_143 : decode cX11_line 143 = .ok (.iconst 1, 1) := dk_4 (dk_at dksX11_line_5 23 rfl rfl)
theorem dX11_line_144 : decode cX11_line 144 = .ok (.dup2, 1) := dk_92 (dk_at dksX11_line_6 0 rfl rfl)
theorem dX11_line_145 : decode cX11_line 145 = .ok (.iaload, 1) := dk_46 (dk_at dksX11_line_6 1 rfl rfl)
theorem dX11_line_146 : decode cX11_line 146 = .ok (.iconst 1, 1) := dk_4 (dk_at dksX11_line_6 2 rfl rfl)
theorem dX11_line_147 : decode cX11_line 147 = .ok (.iadd, 1) := dk_96 (dk_at dksX11_line_6 3 rfl rfl)
theorem dX11_line_148 : decode cX11_line 148 = .ok (.iastore, 1) := dk_79 (dk_at dksX11_line_6 4 rfl rfl)
theorem dX11_line_149 : decode cX11_line 149 = .ok (.aload_n 0, 1) := dk_42 (dk_at dksX11_line_6 5 rfl rfl)
theorem dX11_line_150 : decode cX11_line 150 = .ok (.invokevirtual 192, 3) := dk_182 0 192 (dk_at dksX11_line_6 6 rfl rfl)
theorem dX11_line_153 : decode cX11_line 153 = .ok (.iconst 1, 1) := dk_4 (dk_at dksX11_line_6 9 rfl rfl)
theorem dX11_line_154 : decode cX11_line 154 = .ok (.ireturn, 1) := dk_172 (dk_at dksX11_line_6 10 rfl rfl)
theorem dX11_line_155 : decode cX11_line 155 = .ok (.aload_n 0, 1) := dk_42 (dk_at dksX11_line_6 11 rfl rfl)
theorem dX11_line_156 : decode cX11_line 156 = .ok (.ldc2_w 119, 3) := dk_20 0 119 (dk_at dksX11_line_6 12 rfl rfl)
theorem dX11_line_159 : decode cX11_line 159 = .ok (.invokevirtual 202, 3) := dk_182 0 202 (dk_at dksX11_line_6 15 rfl rfl)
theorem dX11_line_162 : decode cX11_line 162 = .ok (.ifCond .eq 8, 3) := dk_153 0 8 (dk_at dksX11_line_6 18 rfl rfl)
theorem dX11_line_165 : decode cX11_line 165 = .ok (.aload_n 0, 1) := dk_42 (dk_at dksX11_line_6 21 rfl rfl)
theorem dX11_line_166 : decode cX11_line 166 = .ok (.invokevirtual 222, 3) := dk_182 0 222 (dk_at dksX11_line_7 0 rfl rfl)
theorem dX11_line_169 : decode cX11_line 169 = .ok (.ireturn, 1) := dk_172 (dk_at dksX11_line_7 3 rfl rfl)
theorem dX11_line_170 : decode cX11_line 170 = .ok (.aload_n 0, 1) := dk_42 (dk_at dksX11_line_7 4 rfl rfl)
theorem dX11_line_171 : decode cX11_line 171 = .ok (.ldc2_w 121, 3) := dk_20 0 121 (dk_at dksX11_line_7 5 rfl rfl)
theorem dX11_line_174 : decode cX11_line 174 = .ok (.invokevirtual 202, 3) := dk_182 0 202 (dk_at dksX11_line_7 8 rfl rfl)
theorem dX11_line_177 : decode cX11_line 177 = .ok (.ifCond .eq 8, 3) := dk_153 0 8 (dk_at dksX11_line_7 11 rfl rfl)
theorem dX11_line_180 : decode cX11_line 180 = .ok (.aload_n 0, 1) := dk_42 (dk_at dksX11_line_7 14 rfl rfl)
theorem dX11_line_181 : decode cX11_line 181 = .ok (.invokevirtual 225, 3) := dk_182 0 225 (dk_at dksX11_line_7 15 rfl rfl)
theorem dX11_line_184 : decode cX11_line 184 = .ok (.ireturn, 1) := dk_172 (dk_at dksX11_line_7 18 rfl rfl)
theorem dX11_line_185 : decode cX11_line 185 = .ok (.aload_n 0, 1) := dk_42 (dk_at dksX11_line_7 19 rfl rfl)
theorem dX11_line_186 : decode cX11_line 186 = .ok (.ldc2_w 123, 3) := dk_20 0 123 (dk_at dksX11_line_7 20 rfl rfl)
theorem dX11_line_189 : decode cX11_line 189 = .ok (.invokevirtual 202, 3) := dk_182 0 202 (dk_at dksX11_line_8 0 rfl rfl)
theorem dX11_line_192 : decode cX11_line 192 = .ok (.ifCond .eq 34, 3) := dk_153 0 34 (dk_at dksX11_line_8 3 rfl rfl)
theorem dX11_line_195 : decode cX11_line 195 = .ok (.aload_n 0, 1) := dk_42 (dk_at dksX11_line_8 6 rfl rfl)
theorem dX11_line_196 : decode cX11_line 196 = .ok (.getfield 228, 3) := dk_180 0 228 (dk_at dksX11_line_8 7 rfl rfl)
theorem dX11_line_199 : decode cX11_line 199 = .ok (.ifCond .eq 9, 3) := dk_153 0 9 (dk_at dksX11_line_8 10 rfl rfl)
theorem dX11_line_202 : decode cX11_line 202 = .ok (.aload_n 0, 1) := dk_42 (dk_at dksX11_line_8 13 rfl rfl)
theorem dX11_line_203 : decode cX11_line 203 = .ok (.iconst 3, 1) := dk_6 (dk_at dksX11_line_8 14 rfl rfl)
theorem dX11_line_204 : decode cX11_line 204 = .ok (.invokevirtual 189, 3) := dk_182 0 189 (dk_at dksX11_line_8 15 rfl rfl)
theorem dX11_line_207 : decode cX11_line 207 = .ok (.ireturn, 1) := dk_172 (dk_at dksX11_line_8 18 rfl rfl)
theorem dX11_line_208 : decode cX11_line 208 = .ok (.aload_n 0, 1) := dk_42 (dk_at dksX11_line_8 19 rfl rfl)
theorem dX11_line_209 : decode cX11_line 209 = .ok (.iconst 1, 1) := dk_4 (dk_at dksX11_line_8 20 rfl rfl)
theorem dX11_line_210 : decode cX11_line 210 = .ok (.putfield 228, 3) := dk_181 0 228 (dk_at dksX11_line_8 21 rfl rfl)
theorem dX11_line_213 : decode cX11_line 213 = .ok (.aload_n 0, 1) := dk_42 (dk_at dksX11_line_9 0 rfl rfl)
theorem dX11_line_214 : decode cX11_line 214 = .ok (.getfield 37, 3) := dk_180 0 37 (dk_at dksX11_line_9 1 rfl rfl)
theorem dX11_line_217 : decode cX11_line 217 = .ok (.iconst 2, 1) := dk_5 (dk_at dksX11_line_9 4 rfl rfl)
theorem dX11_line_218 : decode cX11_line 218 = .ok (.iconst 1, 1) := dk_4 (dk_at dksX11_line_9 5 rfl rfl)
theorem dX11_line_219 : decode cX11_line 219 = .ok (.iastore, 1) := dk_79 (dk_at dksX11_line_9 6 rfl rfl)
theorem dX11_line_220 : decode cX11_line 220 = .ok (.aload_n 0, 1) := dk_42 (dk_at dksX11_line_9 7 rfl rfl)
theorem dX11_line_221 : decode cX11_line 221 = .ok (.invokevirtual 192, 3) := dk_182 0 192 (dk_at dksX11_line_9 8 rfl rfl)
theorem dX11_line_224 : decode cX11_line 224 = .ok (.iconst 1, 1) := dk_4 (dk_at dksX11_line_9 11 rfl rfl)
theorem dX11_line_225 : decode cX11_line 225 = .ok (.ireturn, 1) := dk_172 (dk_at dksX11_line_9 12 rfl rfl)
theorem dX11_line_226 : decode cX11_line 226 = .ok (.aload_n 0, 1) := dk_42 (dk_at dksX11_line_9 13 rfl rfl)
theorem dX11_line_227 : decode cX11_line 227 = .ok (.ldc2_w 125, 3) := dk_20 0 125 (dk_at dksX11_line_9 14 rfl rfl)
theorem dX11_line_230 : decode cX11_line 230 = .ok (.invokevirtual 202, 3) := dk_182 0 202 (dk_at dksX11_line_9 17 rfl rfl)
theorem dX11_line_233 : decode cX11_line 233 = .ok (.ifCond .ne 9, 3) := dk_154 0 9 (dk_at dksX11_line_9 20 rfl rfl)
theorem dX11_line_236 : decode cX11_line 236 = .ok (.aload_n 0, 1) := dk_42 (dk_at dksX11_line_9 23 rfl rfl)
theorem dX11_line_237 : decode cX11_line 237 = .ok (.iconst 1, 1) := dk_4 (dk_at dksX11_line_10 0 rfl rfl)
theorem dX11_line_238 : decode cX11_line 238 = .ok (.invokevirtual 189, 3) := dk_182 0 189 (dk_at dksX11_line_10 1 rfl rfl)
theorem dX11_line_241 : decode cX11_line 241 = .ok (.ireturn, 1) := dk_172 (dk_at dksX11_line_10 4 rfl rfl)
theorem dX11_line_242 : decode cX11_line 242 = .ok (.aload_n 0, 1) := dk_42 (dk_at dksX11_line_10 5 rfl rfl)
theorem dX11_line_243 : decode cX11_line 243 = .ok (.getfield 231, 3) := dk_180 0 231 (dk_at dksX11_line_10 6 rfl rfl)
theorem dX11_line_246 : decode cX11_line 246 = .ok (.ifCond .eq 9, 3) := dk_153 0 9 (dk_at dksX11_line_10 9 rfl rfl)
theorem dX11_line_249 : decode cX11_line 249 = .ok (.aload_n 0, 1) := dk_42 (dk_at dksX11_line_10 12 rfl rfl)
theorem dX11_line_250 : decode cX11_line 250 = .ok (.iconst 3, 1) := dk_6 (dk_at dksX11_line_10 13 rfl rfl)
theorem dX11_line_251 : decode cX11_line 251 = .ok (.invokevirtual 189, 3) := dk_182 0 189 (dk_at dksX11_line_10 14 rfl rfl)
theorem dX11_line_254 : decode cX11_line 254 = .ok (.ireturn, 1) := dk_172 (dk_at dksX11_line_10 17 rfl rfl)
theorem dX11_line_255 : decode cX11_line 255 = .ok (.aload_n 0, 1) := dk_42 (dk_at dksX11_line_10 18 rfl rfl)
theorem dX11_line_256 : decode cX11_line 256 = .ok (.iconst 1, 1) := dk_4 (dk_at dksX11_line_10 19 rfl rfl)
theorem dX11_line_257 : decode cX11_line 257 = .ok (.putfield 231, 3) := dk_181 0 231 (dk_at dksX11_line_10 20 rfl rfl)
theorem dX11_line_260 : decode cX11_line 260 = .ok (.aload_n 0, 1) := dk_42 (dk_at dksX11_line_10 23 rfl rfl)
theorem dX11_line_261 : decode cX11_line 261 = .ok (.invokevirtual 192, 3) := dk_182 0 192 (dk_at dksX11_line_11 0 rfl rfl)
theorem dX11_line_264 : decode cX11_line 264 = .ok (.aload_n 0, 1) := dk_42 (dk_at dksX11_line_11 3 rfl rfl)
theorem dX11_line_265 : decode cX11_line 265 = .ok (.iconst 0, 1) := dk_3 (dk_at dksX11_line_11 4 rfl rfl)
theorem dX11_line_266 : decode cX11_line 266 = .ok (.bipush 9, 2) := dk_16 9 (dk_at dksX11_line_11 5 rfl rfl)
theorem dX11_line_268 : decode cX11_line 268 = .ok (.invokevirtual 210, 3) := dk_182 0 210 (dk_at dksX11_line_11 7 rfl rfl)
theorem dX11_line_271 : decode cX11_line 271 = .ok (.ifCond .ne 5, 3) := dk_154 0 5 (dk_at dksX11_line_11 10 rfl rfl)
theorem dX11_line_274 : decode cX11_line 274 = .ok (.iconst 0, 1) := dk_3 (dk_at dksX11_line_11 13 rfl rfl)
theorem dX11_line_275 : decode cX11_line 275 = .ok (.ireturn, 1) := dk_172 (dk_at dksX11_line_11 14 rfl rfl)
theorem dX11_line_276 : decode cX11_line 276 = .ok (.aload_n 0, 1) := dk_42 (dk_at dksX11_line_11 15 rfl rfl)
theorem dX11_line_277 : decode cX11_line 277 = .ok (.getfield 37, 3) := dk_180 0 37 (dk_at dksX11_line_11 16 rfl rfl)
theorem dX11_line_280 : decode cX11_line 280 = .ok (.iconst 3, 1) := dk_6 (dk_at dksX11_line_11 19 rfl rfl)
theorem dX11_line_281 : decode cX11_line 281 = .ok (.aload_n 0, 1) := dk_42 (dk_at dksX11_line_11 20 rfl rfl)
theorem dX11_line_282 : decode cX11_line 282 = .ok (.getfield 199, 3) := dk_180 0 199 (dk_at dksX11_line_11 21 rfl rfl)
theorem dX11_line_285 : decode cX11_line 285 = .ok (.iastore, 1) := dk_79 (dk_at dksX11_line_12 0 rfl rfl)
theorem dX11_line_286 : decode cX11_line 286 = .ok (.iconst 1, 1) := dk_4 (dk_at dksX11_line_12 1 rfl rfl)
theorem dX11_line_287 : decode cX11_line 287 = .ok (.ireturn, 1) := dk_172 (dk_at dksX11_line_12 2 rfl rfl)
abbrev cX11_isWord : ByteArray := prog_23_method_16_code
def yX11_isWord : MethodName := ⟨RX11, "isWord", "(J)Z"⟩
def dkwX11_isWord_0 : List UInt8 := [42, 180, 0, 163, 4, 160, 0, 16, 42, 180, 0, 176, 31, 148, 154, 0, 7, 4, 167, 0, 4, 3, 172]
abbrev dktX11_isWord_0 : List UInt8 := dkwX11_isWord_0 ++ []
theorem dksX11_isWord_0 : cX11_isWord.data.toList.drop 0 = dktX11_isWord_0 := by decide +kernel
theorem dX11_isWord_0 : decode cX11_isWord 0 = .ok (.aload_n 0, 1) := dk_42 (dk_at dksX11_isWord_0 0 rfl rfl)
theorem dX11_isWord_1 : decode cX11_isWord 1 = .ok (.getfield 163, 3) := dk_180 0 163 (dk_at dksX11_isWord_0 1 rfl rfl)
theorem dX11_isWord_4 : decode cX11_isWord 4 = .ok (.iconst 1, 1) := dk_4 (dk_at dksX11_isWord_0 4 rfl rfl)
theorem dX11_isWord_5 : decode cX11_isWord 5 = .ok (.if_icmp .ne 16, 3) := dk_160 0 16 (dk_at dksX11_isWord_0 5 rfl rfl)
theorem dX11_isWord_8 : decode cX11_isWord 8 = .ok (.aload_n 0, 1) := dk_42 (dk_at dksX11_isWord_0 8 rfl rfl)
theorem dX11_isWord_9 : decode cX11_isWord 9 = .ok (.getfield 176, 3) := dk_180 0 176 (dk_at dksX11_isWord_0 9 rfl rfl)
theorem dX11_isWord_12 : decode cX11_isWord 12 = .ok (.lload_n 1, 1) := dk_31 (dk_at dksX11_isWord_0 12 rfl rfl)
theorem dX11_isWord_13 : decode cX11_isWord 13 = .ok (.lcmp, 1) := dk_148 (dk_at dksX11_isWord_0 13 rfl rfl)
theorem dX11_isWord_14 : decode cX11_isWord 14 = .ok (.ifCond .ne 7, 3) := dk_154 0 7 (dk_at dksX11_isWord_0 14 rfl rfl)
theorem dX11_isWord_17 : decode cX11_isWord 17 = .ok (.iconst 1, 1) := dk_4 (dk_at dksX11_isWord_0 17 rfl rfl)
theorem dX11_isWord_18 : decode cX11_isWord 18 = .ok (.goto 4, 3) := dk_167 0 4 (dk_at dksX11_isWord_0 18 rfl rfl)
theorem dX11_isWord_21 : decode cX11_isWord 21 = .ok (.iconst 0, 1) := dk_3 (dk_at dksX11_isWord_0 21 rfl rfl)
theorem dX11_isWord_22 : decode cX11_isWord 22 = .ok (.ireturn, 1) := dk_172 (dk_at dksX11_isWord_0 22 rfl rfl)
abbrev cX11_bad : ByteArray := prog_23_method_15_code
def yX11_bad : MethodName := ⟨RX11, "bad", "(I)Z"⟩
def dkwX11_bad_0 : List UInt8 := [42, 27, 181, 0, 180, 42, 42, 180, 0, 157, 181, 0, 183, 3, 172]
abbrev dktX11_bad_0 : List UInt8 := dkwX11_bad_0 ++ []
theorem dksX11_bad_0 : cX11_bad.data.toList.drop 0 = dktX11_bad_0 := by decide +kernel
theorem dX11_bad_0 : decode cX11_bad 0 = .ok (.aload_n 0, 1) := dk_42 (dk_at dksX11_bad_0 0 rfl rfl)
theorem dX11_bad_1 : decode cX11_bad 1 = .ok (.iload_n 1, 1) := dk_27 (dk_at dksX11_bad_0 1 rfl rfl)
theorem dX11_bad_2 : decode cX11_bad 2 = .ok (.putfield 180, 3) := dk_181 0 180 (dk_at dksX11_bad_0 2 rfl rfl)
theorem dX11_bad_5 : decode cX11_bad 5 = .ok (.aload_n 0, 1) := dk_42 (dk_at dksX11_bad_0 5 rfl rfl)
theorem dX11_bad_6 : decode cX11_bad 6 = .ok (.aload_n 0, 1) := dk_42 (dk_at dksX11_bad_0 6 rfl rfl)
theorem dX11_bad_7 : decode cX11_bad 7 = .ok (.getfield 157, 3) := dk_180 0 157 (dk_at dksX11_bad_0 7 rfl rfl)
theorem dX11_bad_10 : decode cX11_bad 10 = .ok (.putfield 183, 3) := dk_181 0 183 (dk_at dksX11_bad_0 10 rfl rfl)
theorem dX11_bad_13 : decode cX11_bad 13 = .ok (.iconst 0, 1) := dk_3 (dk_at dksX11_bad_0 13 rfl rfl)
theorem dX11_bad_14 : decode cX11_bad 14 = .ok (.ireturn, 1) := dk_172 (dk_at dksX11_bad_0 14 rfl rfl)
abbrev cX11_takes : ByteArray := prog_23_method_20_code
def yX11_takes : MethodName := ⟨RX11, "takes", "(II)Z"⟩
def dkwX11_takes_1 : List UInt8 := [154, 0, 9, 42, 5, 182, 0, 189, 172, 42, 42, 180, 0, 173, 181, 0, 199, 42, 182, 0, 192, 4, 172]
abbrev dktX11_takes_1 : List UInt8 := dkwX11_takes_1 ++ []
def dkwX11_takes_0 : List UInt8 := [42, 180, 0, 163, 5, 159, 0, 9, 42, 4, 182, 0, 189, 172, 42, 180, 0, 173, 27, 28, 184, 0, 195]
abbrev dktX11_takes_0 : List UInt8 := dkwX11_takes_0 ++ dktX11_takes_1
theorem dksX11_takes_0 : cX11_takes.data.toList.drop 0 = dktX11_takes_0 := by decide +kernel
theorem dksX11_takes_1 : cX11_takes.data.toList.drop 23 = dktX11_takes_1 := dk_seg dksX11_takes_0 23 rfl rfl
theorem dX11_takes_0 : decode cX11_takes 0 = .ok (.aload_n 0, 1) := dk_42 (dk_at dksX11_takes_0 0 rfl rfl)
theorem dX11_takes_1 : decode cX11_takes 1 = .ok (.getfield 163, 3) := dk_180 0 163 (dk_at dksX11_takes_0 1 rfl rfl)
theorem dX11_takes_4 : decode cX11_takes 4 = .ok (.iconst 2, 1) := dk_5 (dk_at dksX11_takes_0 4 rfl rfl)
theorem dX11_takes_5 : decode cX11_takes 5 = .ok (.if_icmp .eq 9, 3) := dk_159 0 9 (dk_at dksX11_takes_0 5 rfl rfl)
theorem dX11_takes_8 : decode cX11_takes 8 = .ok (.aload_n 0, 1) := dk_42 (dk_at dksX11_takes_0 8 rfl rfl)
theorem dX11_takes_9 : decode cX11_takes 9 = .ok (.iconst 1, 1) := dk_4 (dk_at dksX11_takes_0 9 rfl rfl)
theorem dX11_takes_10 : decode cX11_takes 10 = .ok (.invokevirtual 189, 3) := dk_182 0 189 (dk_at dksX11_takes_0 10 rfl rfl)
theorem dX11_takes_13 : decode cX11_takes 13 = .ok (.ireturn, 1) := dk_172 (dk_at dksX11_takes_0 13 rfl rfl)
theorem dX11_takes_14 : decode cX11_takes 14 = .ok (.aload_n 0, 1) := dk_42 (dk_at dksX11_takes_0 14 rfl rfl)
theorem dX11_takes_15 : decode cX11_takes 15 = .ok (.getfield 173, 3) := dk_180 0 173 (dk_at dksX11_takes_0 15 rfl rfl)
theorem dX11_takes_18 : decode cX11_takes 18 = .ok (.iload_n 1, 1) := dk_27 (dk_at dksX11_takes_0 18 rfl rfl)
theorem dX11_takes_19 : decode cX11_takes 19 = .ok (.iload_n 2, 1) := dk_28 (dk_at dksX11_takes_0 19 rfl rfl)
theorem dX11_takes_20 : decode cX11_takes 20 = .ok (.invokestatic 195, 3) := dk_184 0 195 (dk_at dksX11_takes_0 20 rfl rfl)
theorem dX11_takes_23 : decode cX11_takes 23 = .ok (.ifCond .ne 9, 3) := dk_154 0 9 (dk_at dksX11_takes_1 0 rfl rfl)
theorem dX11_takes_26 : decode cX11_takes 26 = .ok (.aload_n 0, 1) := dk_42 (dk_at dksX11_takes_1 3 rfl rfl)
theorem dX11_takes_27 : decode cX11_takes 27 = .ok (.iconst 2, 1) := dk_5 (dk_at dksX11_takes_1 4 rfl rfl)
theorem dX11_takes_28 : decode cX11_takes 28 = .ok (.invokevirtual 189, 3) := dk_182 0 189 (dk_at dksX11_takes_1 5 rfl rfl)
theorem dX11_takes_31 : decode cX11_takes 31 = .ok (.ireturn, 1) := dk_172 (dk_at dksX11_takes_1 8 rfl rfl)
theorem dX11_takes_32 : decode cX11_takes 32 = .ok (.aload_n 0, 1) := dk_42 (dk_at dksX11_takes_1 9 rfl rfl)
theorem dX11_takes_33 : decode cX11_takes 33 = .ok (.aload_n 0, 1) := dk_42 (dk_at dksX11_takes_1 10 rfl rfl)
theorem dX11_takes_34 : decode cX11_takes 34 = .ok (.getfield 173, 3) := dk_180 0 173 (dk_at dksX11_takes_1 11 rfl rfl)
theorem dX11_takes_37 : decode cX11_takes 37 = .ok (.putfield 199, 3) := dk_181 0 199 (dk_at dksX11_takes_1 14 rfl rfl)
theorem dX11_takes_40 : decode cX11_takes 40 = .ok (.aload_n 0, 1) := dk_42 (dk_at dksX11_takes_1 17 rfl rfl)
theorem dX11_takes_41 : decode cX11_takes 41 = .ok (.invokevirtual 192, 3) := dk_182 0 192 (dk_at dksX11_takes_1 18 rfl rfl)
theorem dX11_takes_44 : decode cX11_takes 44 = .ok (.iconst 1, 1) := dk_4 (dk_at dksX11_takes_1 21 rfl rfl)
theorem dX11_takes_45 : decode cX11_takes 45 = .ok (.ireturn, 1) := dk_172 (dk_at dksX11_takes_1 22 rfl rfl)
abbrev cX11_isIn : ByteArray := prog_23_method_7_code
def yX11_isIn : MethodName := ⟨RX11, "isIn", "(III)Z"⟩
def dkwX11_isIn_0 : List UInt8 := [26, 27, 161, 0, 12, 26, 28, 163, 0, 7, 4, 167, 0, 4, 3, 172]
abbrev dktX11_isIn_0 : List UInt8 := dkwX11_isIn_0 ++ []
theorem dksX11_isIn_0 : cX11_isIn.data.toList.drop 0 = dktX11_isIn_0 := by decide +kernel
theorem dX11_isIn_0 : decode cX11_isIn 0 = .ok (.iload_n 0, 1) := dk_26 (dk_at dksX11_isIn_0 0 rfl rfl)
theorem dX11_isIn_1 : decode cX11_isIn 1 = .ok (.iload_n 1, 1) := dk_27 (dk_at dksX11_isIn_0 1 rfl rfl)
theorem dX11_isIn_2 : decode cX11_isIn 2 = .ok (.if_icmp .lt 12, 3) := dk_161 0 12 (dk_at dksX11_isIn_0 2 rfl rfl)
theorem dX11_isIn_5 : decode cX11_isIn 5 = .ok (.iload_n 0, 1) := dk_26 (dk_at dksX11_isIn_0 5 rfl rfl)
theorem dX11_isIn_6 : decode cX11_isIn 6 = .ok (.iload_n 2, 1) := dk_28 (dk_at dksX11_isIn_0 6 rfl rfl)
theorem dX11_isIn_7 : decode cX11_isIn 7 = .ok (.if_icmp .gt 7, 3) := dk_163 0 7 (dk_at dksX11_isIn_0 7 rfl rfl)
theorem dX11_isIn_10 : decode cX11_isIn 10 = .ok (.iconst 1, 1) := dk_4 (dk_at dksX11_isIn_0 10 rfl rfl)
theorem dX11_isIn_11 : decode cX11_isIn 11 = .ok (.goto 4, 3) := dk_167 0 4 (dk_at dksX11_isIn_0 11 rfl rfl)
theorem dX11_isIn_14 : decode cX11_isIn 14 = .ok (.iconst 0, 1) := dk_3 (dk_at dksX11_isIn_0 14 rfl rfl)
theorem dX11_isIn_15 : decode cX11_isIn 15 = .ok (.ireturn, 1) := dk_172 (dk_at dksX11_isIn_0 15 rfl rfl)
abbrev cX11_isName : ByteArray := prog_23_method_19_code
def yX11_isName : MethodName := ⟨RX11, "isName", "()Z"⟩
def dkwX11_isName_2 : List UInt8 := [132, 2, 1, 167, 255, 223, 27, 172]
abbrev dktX11_isName_2 : List UInt8 := dkwX11_isName_2 ++ []
def dkwX11_isName_1 : List UInt8 := [153, 0, 21, 42, 180, 0, 176, 42, 180, 0, 47, 28, 47, 148, 153, 0, 7, 4, 167, 0, 4, 3, 60]
abbrev dktX11_isName_1 : List UInt8 := dkwX11_isName_1 ++ dktX11_isName_2
def dkwX11_isName_0 : List UInt8 := [42, 180, 0, 163, 4, 160, 0, 7, 4, 167, 0, 4, 3, 60, 3, 61, 28, 16, 19, 162, 0, 33, 27]
abbrev dktX11_isName_0 : List UInt8 := dkwX11_isName_0 ++ dktX11_isName_1
theorem dksX11_isName_0 : cX11_isName.data.toList.drop 0 = dktX11_isName_0 := by decide +kernel
theorem dksX11_isName_1 : cX11_isName.data.toList.drop 23 = dktX11_isName_1 := dk_seg dksX11_isName_0 23 rfl rfl
theorem dksX11_isName_2 : cX11_isName.data.toList.drop 46 = dktX11_isName_2 := dk_seg dksX11_isName_1 23 rfl rfl
theorem dX11_isName_0 : decode cX11_isName 0 = .ok (.aload_n 0, 1) := dk_42 (dk_at dksX11_isName_0 0 rfl rfl)
theorem dX11_isName_1 : decode cX11_isName 1 = .ok (.getfield 163, 3) := dk_180 0 163 (dk_at dksX11_isName_0 1 rfl rfl)
theorem dX11_isName_4 : decode cX11_isName 4 = .ok (.iconst 1, 1) := dk_4 (dk_at dksX11_isName_0 4 rfl rfl)
theorem dX11_isName_5 : decode cX11_isName 5 = .ok (.if_icmp .ne 7, 3) := dk_160 0 7 (dk_at dksX11_isName_0 5 rfl rfl)
theorem dX11_isName_8 : decode cX11_isName 8 = .ok (.iconst 1, 1) := dk_4 (dk_at dksX11_isName_0 8 rfl rfl)
theorem dX11_isName_9 : decode cX11_isName 9 = .ok (.goto 4, 3) := dk_167 0 4 (dk_at dksX11_isName_0 9 rfl rfl)
theorem dX11_isName_12 : decode cX11_isName 12 = .ok (.iconst 0, 1) := dk_3 (dk_at dksX11_isName_0 12 rfl rfl)
theorem dX11_isName_13 : decode cX11_isName 13 = .ok (.istore_n 1, 1) := dk_60 (dk_at dksX11_isName_0 13 rfl rfl)
theorem dX11_isName_14 : decode cX11_isName 14 = .ok (.iconst 0, 1) := dk_3 (dk_at dksX11_isName_0 14 rfl rfl)
theorem dX11_isName_15 : decode cX11_isName 15 = .ok (.istore_n 2, 1) := dk_61 (dk_at dksX11_isName_0 15 rfl rfl)
theorem dX11_isName_16 : decode cX11_isName 16 = .ok (.iload_n 2, 1) := dk_28 (dk_at dksX11_isName_0 16 rfl rfl)
theorem dX11_isName_17 : decode cX11_isName 17 = .ok (.bipush 19, 2) := dk_16 19 (dk_at dksX11_isName_0 17 rfl rfl)
theorem dX11_isName_19 : decode cX11_isName 19 = .ok (.if_icmp .ge 33, 3) := dk_162 0 33 (dk_at dksX11_isName_0 19 rfl rfl)
theorem dX11_isName_22 : decode cX11_isName 22 = .ok (.iload_n 1, 1) := dk_27 (dk_at dksX11_isName_0 22 rfl rfl)
theorem dX11_isName_23 : decode cX11_isName 23 = .ok (.ifCond .eq 21, 3) := dk_153 0 21 (dk_at dksX11_isName_1 0 rfl rfl)
theorem dX11_isName_26 : decode cX11_isName 26 = .ok (.aload_n 0, 1) := dk_42 (dk_at dksX11_isName_1 3 rfl rfl)
theorem dX11_isName_27 : decode cX11_isName 27 = .ok (.getfield 176, 3) := dk_180 0 176 (dk_at dksX11_isName_1 4 rfl rfl)
theorem dX11_isName_30 : decode cX11_isName 30 = .ok (.aload_n 0, 1) := dk_42 (dk_at dksX11_isName_1 7 rfl rfl)
theorem dX11_isName_31 : decode cX11_isName 31 = .ok (.getfield 47, 3) := dk_180 0 47 (dk_at dksX11_isName_1 8 rfl rfl)
theorem dX11_isName_34 : decode cX11_isName 34 = .ok (.iload_n 2, 1) := dk_28 (dk_at dksX11_isName_1 11 rfl rfl)
theorem dX11_isName_35 : decode cX11_isName 35 = .ok (.laload, 1) := dk_47 (dk_at dksX11_isName_1 12 rfl rfl)
theorem dX11_isName_36 : decode cX11_isName 36 = .ok (.lcmp, 1) := dk_148 (dk_at dksX11_isName_1 13 rfl rfl)
theorem dX11_isName_37 : decode cX11_isName 37 = .ok (.ifCond .eq 7, 3) := dk_153 0 7 (dk_at dksX11_isName_1 14 rfl rfl)
theorem dX11_isName_40 : decode cX11_isName 40 = .ok (.iconst 1, 1) := dk_4 (dk_at dksX11_isName_1 17 rfl rfl)
theorem dX11_isName_41 : decode cX11_isName 41 = .ok (.goto 4, 3) := dk_167 0 4 (dk_at dksX11_isName_1 18 rfl rfl)
theorem dX11_isName_44 : decode cX11_isName 44 = .ok (.iconst 0, 1) := dk_3 (dk_at dksX11_isName_1 21 rfl rfl)
theorem dX11_isName_45 : decode cX11_isName 45 = .ok (.istore_n 1, 1) := dk_60 (dk_at dksX11_isName_1 22 rfl rfl)
theorem dX11_isName_46 : decode cX11_isName 46 = .ok (.iinc 2 1, 3) := dk_132 2 1 (dk_at dksX11_isName_2 0 rfl rfl)
theorem dX11_isName_49 : decode cX11_isName 49 = .ok (.goto (-33), 3) := dk_167 255 223 (dk_at dksX11_isName_2 3 rfl rfl)
theorem dX11_isName_52 : decode cX11_isName 52 = .ok (.iload_n 1, 1) := dk_27 (dk_at dksX11_isName_2 6 rfl rfl)
theorem dX11_isName_53 : decode cX11_isName 53 = .ok (.ireturn, 1) := dk_172 (dk_at dksX11_isName_2 7 rfl rfl)
abbrev cX11_find : ByteArray := prog_23_method_21_code
def yX11_find : MethodName := ⟨RX11, "find", "(II)I"⟩
def dkwX11_find_1 : List UInt8 := [172, 132, 3, 1, 167, 255, 230, 2, 172]
abbrev dktX11_find_1 : List UInt8 := dkwX11_find_1 ++ []
def dkwX11_find_0 : List UInt8 := [3, 62, 29, 28, 162, 0, 27, 42, 180, 0, 43, 27, 29, 96, 47, 42, 180, 0, 176, 148, 154, 0, 5, 29]
abbrev dktX11_find_0 : List UInt8 := dkwX11_find_0 ++ dktX11_find_1
theorem dksX11_find_0 : cX11_find.data.toList.drop 0 = dktX11_find_0 := by decide +kernel
theorem dksX11_find_1 : cX11_find.data.toList.drop 24 = dktX11_find_1 := dk_seg dksX11_find_0 24 rfl rfl
theorem dX11_find_0 : decode cX11_find 0 = .ok (.iconst 0, 1) := dk_3 (dk_at dksX11_find_0 0 rfl rfl)
theorem dX11_find_1 : decode cX11_find 1 = .ok (.istore_n 3, 1) := dk_62 (dk_at dksX11_find_0 1 rfl rfl)
theorem dX11_find_2 : decode cX11_find 2 = .ok (.iload_n 3, 1) := dk_29 (dk_at dksX11_find_0 2 rfl rfl)
theorem dX11_find_3 : decode cX11_find 3 = .ok (.iload_n 2, 1) := dk_28 (dk_at dksX11_find_0 3 rfl rfl)
theorem dX11_find_4 : decode cX11_find 4 = .ok (.if_icmp .ge 27, 3) := dk_162 0 27 (dk_at dksX11_find_0 4 rfl rfl)
theorem dX11_find_7 : decode cX11_find 7 = .ok (.aload_n 0, 1) := dk_42 (dk_at dksX11_find_0 7 rfl rfl)
theorem dX11_find_8 : decode cX11_find 8 = .ok (.getfield 43, 3) := dk_180 0 43 (dk_at dksX11_find_0 8 rfl rfl)
theorem dX11_find_11 : decode cX11_find 11 = .ok (.iload_n 1, 1) := dk_27 (dk_at dksX11_find_0 11 rfl rfl)
theorem dX11_find_12 : decode cX11_find 12 = .ok (.iload_n 3, 1) := dk_29 (dk_at dksX11_find_0 12 rfl rfl)
theorem dX11_find_13 : decode cX11_find 13 = .ok (.iadd, 1) := dk_96 (dk_at dksX11_find_0 13 rfl rfl)
theorem dX11_find_14 : decode cX11_find 14 = .ok (.laload, 1) := dk_47 (dk_at dksX11_find_0 14 rfl rfl)
theorem dX11_find_15 : decode cX11_find 15 = .ok (.aload_n 0, 1) := dk_42 (dk_at dksX11_find_0 15 rfl rfl)
theorem dX11_find_16 : decode cX11_find 16 = .ok (.getfield 176, 3) := dk_180 0 176 (dk_at dksX11_find_0 16 rfl rfl)
theorem dX11_find_19 : decode cX11_find 19 = .ok (.lcmp, 1) := dk_148 (dk_at dksX11_find_0 19 rfl rfl)
theorem dX11_find_20 : decode cX11_find 20 = .ok (.ifCond .ne 5, 3) := dk_154 0 5 (dk_at dksX11_find_0 20 rfl rfl)
theorem dX11_find_23 : decode cX11_find 23 = .ok (.iload_n 3, 1) := dk_29 (dk_at dksX11_find_0 23 rfl rfl)
theorem dX11_find_24 : decode cX11_find 24 = .ok (.ireturn, 1) := dk_172 (dk_at dksX11_find_1 0 rfl rfl)
theorem dX11_find_25 : decode cX11_find 25 = .ok (.iinc 3 1, 3) := dk_132 3 1 (dk_at dksX11_find_1 1 rfl rfl)
theorem dX11_find_28 : decode cX11_find 28 = .ok (.goto (-26), 3) := dk_167 255 230 (dk_at dksX11_find_1 4 rfl rfl)
theorem dX11_find_31 : decode cX11_find 31 = .ok (.iconst (-1), 1) := dk_2 (dk_at dksX11_find_1 7 rfl rfl)
theorem dX11_find_32 : decode cX11_find 32 = .ok (.ireturn, 1) := dk_172 (dk_at dksX11_find_1 8 rfl rfl)
abbrev cX11_readHand : ByteArray := prog_23_method_23_code
def yX11_readHand : MethodName := ⟨RX11, "readHand", "()Z"⟩
def dkwX11_readHand_8 : List UInt8 := [16, 13, 27, 104, 96, 28, 96, 42, 180, 0, 173, 79, 42, 182, 0, 192, 4, 172]
abbrev dktX11_readHand_8 : List UInt8 := dkwX11_readHand_8 ++ []
def dkwX11_readHand_7 : List UInt8 := [42, 180, 0, 37, 17, 2, 59, 28, 96, 92, 46, 42, 180, 0, 173, 96, 79, 42, 180, 0, 37, 16, 60]
abbrev dktX11_readHand_7 : List UInt8 := dkwX11_readHand_7 ++ dktX11_readHand_8
def dkwX11_readHand_6 : List UInt8 := [180, 0, 37, 17, 2, 59, 28, 96, 46, 42, 180, 0, 173, 96, 7, 164, 0, 9, 42, 8, 182, 0, 189, 172]
abbrev dktX11_readHand_6 : List UInt8 := dkwX11_readHand_6 ++ dktX11_readHand_7
def dkwX11_readHand_5 : List UInt8 := [182, 0, 189, 172, 42, 180, 0, 173, 4, 7, 184, 0, 195, 154, 0, 9, 42, 5, 182, 0, 189, 172, 42]
abbrev dktX11_readHand_5 : List UInt8 := dkwX11_readHand_5 ++ dktX11_readHand_6
def dkwX11_readHand_4 : List UInt8 := [158, 0, 9, 42, 6, 182, 0, 189, 172, 42, 182, 0, 192, 42, 180, 0, 163, 5, 159, 0, 9, 42, 4]
abbrev dktX11_readHand_4 : List UInt8 := dkwX11_readHand_4 ++ dktX11_readHand_5
def dkwX11_readHand_3 : List UInt8 := [5, 182, 0, 189, 172, 42, 180, 0, 173, 61, 42, 180, 0, 37, 16, 60, 16, 13, 27, 104, 96, 28, 96, 46]
abbrev dktX11_readHand_3 : List UInt8 := dkwX11_readHand_3 ++ dktX11_readHand_4
def dkwX11_readHand_2 : List UInt8 := [5, 159, 0, 9, 42, 4, 182, 0, 189, 172, 42, 180, 0, 173, 42, 180, 0, 37, 3, 46, 161, 0, 9, 42]
abbrev dktX11_readHand_2 : List UInt8 := dkwX11_readHand_2 ++ dktX11_readHand_3
def dkwX11_readHand_1 : List UInt8 := [4, 46, 182, 0, 218, 60, 27, 156, 0, 9, 42, 6, 182, 0, 189, 172, 42, 182, 0, 192, 42, 180, 0, 163]
abbrev dktX11_readHand_1 : List UInt8 := dkwX11_readHand_1 ++ dktX11_readHand_2
def dkwX11_readHand_0 : List UInt8 := [42, 182, 0, 192, 42, 182, 0, 214, 154, 0, 9, 42, 4, 182, 0, 189, 172, 42, 16, 6, 42, 180, 0, 37]
abbrev dktX11_readHand_0 : List UInt8 := dkwX11_readHand_0 ++ dktX11_readHand_1
theorem dksX11_readHand_0 : cX11_readHand.data.toList.drop 0 = dktX11_readHand_0 := by decide +kernel
theorem dksX11_readHand_1 : cX11_readHand.data.toList.drop 24 = dktX11_readHand_1 := dk_seg dksX11_readHand_0 24 rfl rfl
theorem dksX11_readHand_2 : cX11_readHand.data.toList.drop 48 = dktX11_readHand_2 := dk_seg dksX11_readHand_1 24 rfl rfl
theorem dksX11_readHand_3 : cX11_readHand.data.toList.drop 72 = dktX11_readHand_3 := dk_seg dksX11_readHand_2 24 rfl rfl
theorem dksX11_readHand_4 : cX11_readHand.data.toList.drop 96 = dktX11_readHand_4 := dk_seg dksX11_readHand_3 24 rfl rfl
theorem dksX11_readHand_5 : cX11_readHand.data.toList.drop 119 = dktX11_readHand_5 := dk_seg dksX11_readHand_4 23 rfl rfl
theorem dksX11_readHand_6 : cX11_readHand.data.toList.drop 142 = dktX11_readHand_6 := dk_seg dksX11_readHand_5 23 rfl rfl
theorem dksX11_readHand_7 : cX11_readHand.data.toList.drop 166 = dktX11_readHand_7 := dk_seg dksX11_readHand_6 24 rfl rfl
theorem dksX11_readHand_8 : cX11_readHand.data.toList.drop 189 = dktX11_readHand_8 := dk_seg dksX11_readHand_7 23 rfl rfl
theorem dX11_readHand_0 : decode cX11_readHand 0 = .ok (.aload_n 0, 1) := dk_42 (dk_at dksX11_readHand_0 0 rfl rfl)
theorem dX11_readHand_1 : decode cX11_readHand 1 = .ok (.invokevirtual 192, 3) := dk_182 0 192 (dk_at dksX11_readHand_0 1 rfl rfl)
theorem dX11_readHand_4 : decode cX11_readHand 4 = .ok (.aload_n 0, 1) := dk_42 (dk_at dksX11_readHand_0 4 rfl rfl)
theorem dX11_readHand_5 : decode cX11_readHand 5 = .ok (.invokevirtual 214, 3) := dk_182 0 214 (dk_at dksX11_readHand_0 5 rfl rfl)
theorem dX11_readHand_8 : decode cX11_readHand 8 = .ok (.ifCond .ne 9, 3) := dk_154 0 9 (dk_at dksX11_readHand_0 8 rfl rfl)
theorem dX11_readHand_11 : decode cX11_readHand 11 = .ok (.aload_n 0, 1) := dk_42 (dk_at dksX11_readHand_0 11 rfl rfl)
theorem dX11_readHand_12 : decode cX11_readHand 12 = .ok (.iconst 1, 1) := dk_4 (dk_at dksX11_readHand_0 12 rfl rfl)
theorem dX11_readHand_13 : decode cX11_readHand 13 = .ok (.invokevirtual 189, 3) := dk_182 0 189 (dk_at dksX11_readHand_0 13 rfl rfl)
theorem dX11_readHand_16 : decode cX11_readHand 16 = .ok (.ireturn, 1) := dk_172 (dk_at dksX11_readHand_0 16 rfl rfl)
theorem dX11_readHand_17 : decode cX11_readHand 17 = .ok (.aload_n 0, 1) := dk_42 (dk_at dksX11_readHand_0 17 rfl rfl)
theorem dX11_readHand_18 : decode cX11_readHand 18 = .ok (.bipush 6, 2) := dk_16 6 (dk_at dksX11_readHand_0 18 rfl rfl)
theorem dX11_readHand_20 : decode cX11_readHand 20 = .ok (.aload_n 0, 1) := dk_42 (dk_at dksX11_readHand_0 20 rfl rfl)
theorem dX11_readHand_21 : decode cX11_readHand 21 = .ok (.getfield 37, 3) := dk_180 0 37 (dk_at dksX11_readHand_0 21 rfl rfl)
theorem dX11_readHand_24 : decode cX11_readHand 24 = .ok (.iconst 1, 1) := dk_4 (dk_at dksX11_readHand_1 0 rfl rfl)
theorem dX11_readHand_25 : decode cX11_readHand 25 = .ok (.iaload, 1) := dk_46 (dk_at dksX11_readHand_1 1 rfl rfl)
theorem dX11_readHand_26 : decode cX11_readHand 26 = .ok (.invokevirtual 218, 3) := dk_182 0 218 (dk_at dksX11_readHand_1 2 rfl rfl)
theorem dX11_readHand_29 : decode cX11_readHand 29 = .ok (.istore_n 1, 1) := dk_60 (dk_at dksX11_readHand_1 5 rfl rfl)
theorem dX11_readHand_30 : decode cX11_readHand 30 = .ok (.iload_n 1, 1) := dk_27 (dk_at dksX11_readHand_1 6 rfl rfl)
theorem dX11_readHand_31 : decode cX11_readHand 31 = .ok (.ifCond .ge 9, 3) := dk_156 0 9 (dk_at dksX11_readHand_1 7 rfl rfl)
theorem dX11_readHand_34 : decode cX11_readHand 34 = .ok (.aload_n 0, 1) := dk_42 (dk_at dksX11_readHand_1 10 rfl rfl)
theorem dX11_readHand_35 : decode cX11_readHand 35 = .ok (.iconst 3, 1) := dk_6 (dk_at dksX11_readHand_1 11 rfl rfl)
theorem dX11_readHand_36 : decode cX11_readHand 36 = .ok (.invokevirtual 189, 3) := dk_182 0 189 (dk_at dksX11_readHand_1 12 rfl rfl)
theorem dX11_readHand_39 : decode cX11_readHand 39 = .ok (.ireturn, 1) := dk_172 (dk_at dksX11_readHand_1 15 rfl rfl)
theorem dX11_readHand_40 : decode cX11_readHand 40 = .ok (.aload_n 0, 1) := dk_42 (dk_at dksX11_readHand_1 16 rfl rfl)
theorem dX11_readHand_41 : decode cX11_readHand 41 = .ok (.invokevirtual 192, 3) := dk_182 0 192 (dk_at dksX11_readHand_1 17 rfl rfl)
theorem dX11_readHand_44 : decode cX11_readHand 44 = .ok (.aload_n 0, 1) := dk_42 (dk_at dksX11_readHand_1 20 rfl rfl)
theorem dX11_readHand_45 : decode cX11_readHand 45 = .ok (.getfield 163, 3) := dk_180 0 163 (dk_at dksX11_readHand_1 21 rfl rfl)
theorem dX11_readHand_48 : decode cX11_readHand 48 = .ok (.iconst 2, 1) := dk_5 (dk_at dksX11_readHand_2 0 rfl rfl)
theorem dX11_readHand_49 : decode cX11_readHand 49 = .ok (.if_icmp .eq 9, 3) := dk_159 0 9 (dk_at dksX11_readHand_2 1 rfl rfl)
theorem dX11_readHand_52 : decode cX11_readHand 52 = .ok (.aload_n 0, 1) := dk_42 (dk_at dksX11_readHand_2 4 rfl rfl)
theorem dX11_readHand_53 : decode cX11_readHand 53 = .ok (.iconst 1, 1) := dk_4 (dk_at dksX11_readHand_2 5 rfl rfl)
theorem dX11_readHand_54 : decode cX11_readHand 54 = .ok (.invokevirtual 189, 3) := dk_182 0 189 (dk_at dksX11_readHand_2 6 rfl rfl)
theorem dX11_readHand_57 : decode cX11_readHand 57 = .ok (.ireturn, 1) := dk_172 (dk_at dksX11_readHand_2 9 rfl rfl)
theorem dX11_readHand_58 : decode cX11_readHand 58 = .ok (.aload_n 0, 1) := dk_42 (dk_at dksX11_readHand_2 10 rfl rfl)
theorem dX11_readHand_59 : decode cX11_readHand 59 = .ok (.getfield 173, 3) := dk_180 0 173 (dk_at dksX11_readHand_2 11 rfl rfl)
theorem dX11_readHand_62 : decode cX11_readHand 62 = .ok (.aload_n 0, 1) := dk_42 (dk_at dksX11_readHand_2 14 rfl rfl)
theorem dX11_readHand_63 : decode cX11_readHand 63 = .ok (.getfield 37, 3) := dk_180 0 37 (dk_at dksX11_readHand_2 15 rfl rfl)
theorem dX11_readHand_66 : decode cX11_readHand 66 = .ok (.iconst 0, 1) := dk_3 (dk_at dksX11_readHand_2 18 rfl rfl)
theorem dX11_readHand_67 : decode cX11_readHand 67 = .ok (.iaload, 1) := dk_46 (dk_at dksX11_readHand_2 19 rfl rfl)
theorem dX11_readHand_68 : decode cX11_readHand 68 = .ok (.if_icmp .lt 9, 3) := dk_161 0 9 (dk_at dksX11_readHand_2 20 rfl rfl)
theorem dX11_readHand_71 : decode cX11_readHand 71 = .ok (.aload_n 0, 1) := dk_42 (dk_at dksX11_readHand_2 23 rfl rfl)
theorem dX11_readHand_72 : decode cX11_readHand 72 = .ok (.iconst 2, 1) := dk_5 (dk_at dksX11_readHand_3 0 rfl rfl)
theorem dX11_readHand_73 : decode cX11_readHand 73 = .ok (.invokevirtual 189, 3) := dk_182 0 189 (dk_at dksX11_readHand_3 1 rfl rfl)
theorem dX11_readHand_76 : decode cX11_readHand 76 = .ok (.ireturn, 1) := dk_172 (dk_at dksX11_readHand_3 4 rfl rfl)
theorem dX11_readHand_77 : decode cX11_readHand 77 = .ok (.aload_n 0, 1) := dk_42 (dk_at dksX11_readHand_3 5 rfl rfl)
theorem dX11_readHand_78 : decode cX11_readHand 78 = .ok (.getfield 173, 3) := dk_180 0 173 (dk_at dksX11_readHand_3 6 rfl rfl)
theorem dX11_readHand_81 : decode cX11_readHand 81 = .ok (.istore_n 2, 1) := dk_61 (dk_at dksX11_readHand_3 9 rfl rfl)
theorem dX11_readHand_82 : decode cX11_readHand 82 = .ok (.aload_n 0, 1) := dk_42 (dk_at dksX11_readHand_3 10 rfl rfl)
theorem dX11_readHand_83 : decode cX11_readHand 83 = .ok (.getfield 37, 3) := dk_180 0 37 (dk_at dksX11_readHand_3 11 rfl rfl)
theorem dX11_readHand_86 : decode cX11_readHand 86 = .ok (.bipush 60, 2) := dk_16 60 (dk_at dksX11_readHand_3 14 rfl rfl)
theorem dX11_readHand_88 : decode cX11_readHand 88 = .ok (.bipush 13, 2) := dk_16 13 (dk_at dksX11_readHand_3 16 rfl rfl)
theorem dX11_readHand_90 : decode cX11_readHand 90 = .ok (.iload_n 1, 1) := dk_27 (dk_at dksX11_readHand_3 18 rfl rfl)
theorem dX11_readHand_91 : decode cX11_readHand 91 = .ok (.imul, 1) := dk_104 (dk_at dksX11_readHand_3 19 rfl rfl)
theorem dX11_readHand_92 : decode cX11_readHand 92 = .ok (.iadd, 1) := dk_96 (dk_at dksX11_readHand_3 20 rfl rfl)
theorem dX11_readHand_93 : decode cX11_readHand 93 = .ok (.iload_n 2, 1) := dk_28 (dk_at dksX11_readHand_3 21 rfl rfl)
theorem dX11_readHand_94 : decode cX11_readHand 94 = .ok (.iadd, 1) := dk_96 (dk_at dksX11_readHand_3 22 rfl rfl)
theorem dX11_readHand_95 : decode cX11_readHand 95 = .ok (.iaload, 1) := dk_46 (dk_at dksX11_readHand_3 23 rfl rfl)
theorem dX11_readHand_96 : decode cX11_readHand 96 = .ok (.ifCond .le 9, 3) := dk_158 0 9 (dk_at dksX11_readHand_4 0 rfl rfl)
theorem dX11_readHand_99 : decode cX11_readHand 99 = .ok (.aload_n 0, 1) := dk_42 (dk_at dksX11_readHand_4 3 rfl rfl)
theorem dX11_readHand_100 : decode cX11_readHand 100 = .ok (.iconst 3, 1) := dk_6 (dk_at dksX11_readHand_4 4 rfl rfl)
theorem dX11_readHand_101 : decode cX11_readHand 101 = .ok (.invokevirtual 189, 3) := dk_182 0 189 (dk_at dksX11_readHand_4 5 rfl rfl)
theorem dX11_readHand_104 : decode cX11_readHand 104 = .ok (.ireturn, 1) := dk_172 (dk_at dksX11_readHand_4 8 rfl rfl)
theorem dX11_readHand_105 : decode cX11_readHand 105 = .ok (.aload_n 0, 1) := dk_42 (dk_at dksX11_readHand_4 9 rfl rfl)
theorem dX11_readHand_106 : decode cX11_readHand 106 = .ok (.invokevirtual 192, 3) := dk_182 0 192 (dk_at dksX11_readHand_4 10 rfl rfl)
theorem dX11_readHand_109 : decode cX11_readHand 109 = .ok (.aload_n 0, 1) := dk_42 (dk_at dksX11_readHand_4 13 rfl rfl)
theorem dX11_readHand_110 : decode cX11_readHand 110 = .ok (.getfield 163, 3) := dk_180 0 163 (dk_at dksX11_readHand_4 14 rfl rfl)
theorem dX11_readHand_113 : decode cX11_readHand 113 = .ok (.iconst 2, 1) := dk_5 (dk_at dksX11_readHand_4 17 rfl rfl)
theorem dX11_readHand_114 : decode cX11_readHand 114 = .ok (.if_icmp .eq 9, 3) := dk_159 0 9 (dk_at dksX11_readHand_4 18 rfl rfl)
theorem dX11_readHand_117 : decode cX11_readHand 117 = .ok (.aload_n 0, 1) := dk_42 (dk_at dksX11_readHand_4 21 rfl rfl)
theorem dX11_readHand_118 : decode cX11_readHand 118 = .ok (.iconst 1, 1) := dk_4 (dk_at dksX11_readHand_4 22 rfl rfl)
theorem dX11_readHand_119 : decode cX11_readHand 119 = .ok (.invokevirtual 189, 3) := dk_182 0 189 (dk_at dksX11_readHand_5 0 rfl rfl)
theorem dX11_readHand_122 : decode cX11_readHand 122 = .ok (.ireturn, 1) := dk_172 (dk_at dksX11_readHand_5 3 rfl rfl)
theorem dX11_readHand_123 : decode cX11_readHand 123 = .ok (.aload_n 0, 1) := dk_42 (dk_at dksX11_readHand_5 4 rfl rfl)
theorem dX11_readHand_124 : decode cX11_readHand 124 = .ok (.getfield 173, 3) := dk_180 0 173 (dk_at dksX11_readHand_5 5 rfl rfl)
theorem dX11_readHand_127 : decode cX11_readHand 127 = .ok (.iconst 1, 1) := dk_4 (dk_at dksX11_readHand_5 8 rfl rfl)
theorem dX11_readHand_128 : decode cX11_readHand 128 = .ok (.iconst 4, 1) := dk_7 (dk_at dksX11_readHand_5 9 rfl rfl)
theorem dX11_readHand_129 : decode cX11_readHand 129 = .ok (.invokestatic 195, 3) := dk_184 0 195 (dk_at dksX11_readHand_5 10 rfl rfl)
theorem dX11_readHand_132 : decode cX11_readHand 132 = .ok (.ifCond .ne 9, 3) := dk_154 0 9 (dk_at dksX11_readHand_5 13 rfl rfl)
theorem dX11_readHand_135 : decode cX11_readHand 135 = .ok (.aload_n 0, 1) := dk_42 (dk_at dksX11_readHand_5 16 rfl rfl)
theorem dX11_readHand_136 : decode cX11_readHand 136 = .ok (.iconst 2, 1) := dk_5 (dk_at dksX11_readHand_5 17 rfl rfl)
theorem dX11_readHand_137 : decode cX11_readHand 137 = .ok (.invokevirtual 189, 3) := dk_182 0 189 (dk_at dksX11_readHand_5 18 rfl rfl)
theorem dX11_readHand_140 : decode cX11_readHand 140 = .ok (.ireturn, 1) := dk_172 (dk_at dksX11_readHand_5 21 rfl rfl)
theorem dX11_readHand_141 : decode cX11_readHand 141 = .ok (.aload_n 0, 1) := dk_42 (dk_at dksX11_readHand_5 22 rfl rfl)
theorem dX11_readHand_142 : decode cX11_readHand 142 = .ok (.getfield 37, 3) := dk_180 0 37 (dk_at dksX11_readHand_6 0 rfl rfl)
theorem dX11_readHand_145 : decode cX11_readHand 145 = .ok (.sipush 571, 3) := dk_17 2 59 (dk_at dksX11_readHand_6 3 rfl rfl)
theorem dX11_readHand_148 : decode cX11_readHand 148 = .ok (.iload_n 2, 1) := dk_28 (dk_at dksX11_readHand_6 6 rfl rfl)
theorem dX11_readHand_149 : decode cX11_readHand 149 = .ok (.iadd, 1) := dk_96 (dk_at dksX11_readHand_6 7 rfl rfl)
theorem dX11_readHand_150 : decode cX11_readHand 150 = .ok (.iaload, 1) := dk_46 (dk_at dksX11_readHand_6 8 rfl rfl)
theorem dX11_readHand_151 : decode cX11_readHand 151 = .ok (.aload_n 0, 1) := dk_42 (dk_at dksX11_readHand_6 9 rfl rfl)
theorem dX11_readHand_152 : decode cX11_readHand 152 = .ok (.getfield 173, 3) := dk_180 0 173 (dk_at dksX11_readHand_6 10 rfl rfl)
theorem dX11_readHand_155 : decode cX11_readHand 155 = .ok (.iadd, 1) := dk_96 (dk_at dksX11_readHand_6 13 rfl rfl)
theorem dX11_readHand_156 : decode cX11_readHand 156 = .ok (.iconst 4, 1) := dk_7 (dk_at dksX11_readHand_6 14 rfl rfl)
theorem dX11_readHand_157 : decode cX11_readHand 157 = .ok (.if_icmp .le 9, 3) := dk_164 0 9 (dk_at dksX11_readHand_6 15 rfl rfl)
theorem dX11_readHand_160 : decode cX11_readHand 160 = .ok (.aload_n 0, 1) := dk_42 (dk_at dksX11_readHand_6 18 rfl rfl)
theorem dX11_readHand_161 : decode cX11_readHand 161 = .ok (.iconst 5, 1) := dk_8 (dk_at dksX11_readHand_6 19 rfl rfl)
theorem dX11_readHand_162 : decode cX11_readHand 162 = .ok (.invokevirtual 189, 3) := dk_182 0 189 (dk_at dksX11_readHand_6 20 rfl rfl)
theorem dX11_readHand_165 : decode cX11_readHand 165 = .ok (.ireturn, 1) := dk_172 (dk_at dksX11_readHand_6 23 rfl rfl)
theorem dX11_readHand_166 : decode cX11_readHand 166 = .ok (.aload_n 0, 1) := dk_42 (dk_at dksX11_readHand_7 0 rfl rfl)
theorem dX11_readHand_167 : decode cX11_readHand 167 = .ok (.getfield 37, 3) := dk_180 0 37 (dk_at dksX11_readHand_7 1 rfl rfl)
theorem dX11_readHand_170 : decode cX11_readHand 170 = .ok (.sipush 571, 3) := dk_17 2 59 (dk_at dksX11_readHand_7 4 rfl rfl)
theorem dX11_readHand_173 : decode cX11_readHand 173 = .ok (.iload_n 2, 1) := dk_28 (dk_at dksX11_readHand_7 7 rfl rfl)
theorem dX11_readHand_174 : decode cX11_readHand 174 = .ok (.iadd, 1) := dk_96 (dk_at dksX11_readHand_7 8 rfl rfl)
theorem dX11_readHand_175 : decode cX11_readHand 175 = .ok (.dup2, 1) := dk_92 (dk_at dksX11_readHand_7 9 rfl rfl)
theorem dX11_readHand_176 : decode cX11_readHand 176 = .ok (.iaload, 1) := dk_46 (dk_at dksX11_readHand_7 10 rfl rfl)
theorem dX11_readHand_177 : decode cX11_readHand 177 = .ok (.aload_n 0, 1) := dk_42 (dk_at dksX11_readHand_7 11 rfl rfl)
theorem dX11_readHand_178 : decode cX11_readHand 178 = .ok (.getfield 173, 3) := dk_180 0 173 (dk_at dksX11_readHand_7 12 rfl rfl)
theorem dX11_readHand_181 : decode cX11_readHand 181 = .ok (.iadd, 1) := dk_96 (dk_at dksX11_readHand_7 15 rfl rfl)
theorem dX11_readHand_182 : decode cX11_readHand 182 = .ok (.iastore, 1) := dk_79 (dk_at dksX11_readHand_7 16 rfl rfl)
theorem dX11_readHand_183 : decode cX11_readHand 183 = .ok (.aload_n 0, 1) := dk_42 (dk_at dksX11_readHand_7 17 rfl rfl)
theorem dX11_readHand_184 : decode cX11_readHand 184 = .ok (.getfield 37, 3) := dk_180 0 37 (dk_at dksX11_readHand_7 18 rfl rfl)
theorem dX11_readHand_187 : decode cX11_readHand 187 = .ok (.bipush 60, 2) := dk_16 60 (dk_at dksX11_readHand_7 21 rfl rfl)
theorem dX11_readHand_189 : decode cX11_readHand 189 = .ok (.bipush 13, 2) := dk_16 13 (dk_at dksX11_readHand_8 0 rfl rfl)
theorem dX11_readHand_191 : decode cX11_readHand 191 = .ok (.iload_n 1, 1) := dk_27 (dk_at dksX11_readHand_8 2 rfl rfl)
theorem dX11_readHand_192 : decode cX11_readHand 192 = .ok (.imul, 1) := dk_104 (dk_at dksX11_readHand_8 3 rfl rfl)
theorem dX11_readHand_193 : decode cX11_readHand 193 = .ok (.iadd, 1) := dk_96 (dk_at dksX11_readHand_8 4 rfl rfl)
theorem dX11_readHand_194 : decode cX11_readHand 194 = .ok (.iload_n 2, 1) := dk_28 (dk_at dksX11_readHand_8 5 rfl rfl)
theorem dX11_readHand_195 : decode cX11_readHand 195 = .ok (.iadd, 1) := dk_96 (dk_at dksX11_readHand_8 6 rfl rfl)
theorem dX11_readHand_196 : decode cX11_readHand 196 = .ok (.aload_n 0, 1) := dk_42 (dk_at dksX11_readHand_8 7 rfl rfl)
theorem dX11_readHand_197 : decode cX11_readHand 197 = .ok (.getfield 173, 3) := dk_180 0 173 (dk_at dksX11_readHand_8 8 rfl rfl)
theorem dX11_readHand_200 : decode cX11_readHand 200 = .ok (.iastore, 1) := dk_79 (dk_at dksX11_readHand_8 11 rfl rfl)
theorem dX11_readHand_201 : decode cX11_readHand 201 = .ok (.aload_n 0, 1) := dk_42 (dk_at dksX11_readHand_8 12 rfl rfl)
theorem dX11_readHand_202 : decode cX11_readHand 202 = .ok (.invokevirtual 192, 3) := dk_182 0 192 (dk_at dksX11_readHand_8 13 rfl rfl)
theorem dX11_readHand_205 : decode cX11_readHand 205 = .ok (.iconst 1, 1) := dk_4 (dk_at dksX11_readHand_8 16 rfl rfl)
theorem dX11_readHand_206 : decode cX11_readHand 206 = .ok (.ireturn, 1) := dk_172 (dk_at dksX11_readHand_8 17 rfl rfl)
abbrev cX11_readHeap : ByteArray := prog_23_method_24_code
def yX11_readHeap : MethodName := ⟨RX11, "readHeap", "()Z"⟩
def dkwX11_readHeap_5 : List UInt8 := [42, 16, 59, 182, 0, 186, 154, 0, 7, 4, 167, 0, 4, 3, 60, 167, 255, 130, 4, 172]
abbrev dktX11_readHeap_5 : List UInt8 := dkwX11_readHeap_5 ++ []
def dkwX11_readHeap_4 : List UInt8 := [16, 7, 46, 96, 42, 180, 0, 173, 79, 42, 180, 0, 37, 16, 7, 92, 46, 4, 96, 79, 42, 182, 0, 192]
abbrev dktX11_readHeap_4 : List UInt8 := dkwX11_readHeap_4 ++ dktX11_readHeap_5
def dkwX11_readHeap_3 : List UInt8 := [17, 2, 59, 42, 180, 0, 173, 96, 92, 46, 4, 96, 79, 42, 180, 0, 37, 16, 8, 42, 180, 0, 37]
abbrev dktX11_readHeap_3 : List UInt8 := dkwX11_readHeap_3 ++ dktX11_readHeap_4
def dkwX11_readHeap_2 : List UInt8 := [17, 2, 59, 42, 180, 0, 173, 96, 46, 7, 160, 0, 9, 42, 8, 182, 0, 189, 172, 42, 180, 0, 37]
abbrev dktX11_readHeap_2 : List UInt8 := dkwX11_readHeap_2 ++ dktX11_readHeap_3
def dkwX11_readHeap_1 : List UInt8 := [42, 180, 0, 173, 42, 180, 0, 37, 3, 46, 161, 0, 9, 42, 5, 182, 0, 189, 172, 42, 180, 0, 37]
abbrev dktX11_readHeap_1 : List UInt8 := dkwX11_readHeap_1 ++ dktX11_readHeap_2
def dkwX11_readHeap_0 : List UInt8 := [42, 182, 0, 192, 4, 60, 27, 153, 0, 128, 42, 180, 0, 163, 5, 159, 0, 9, 42, 4, 182, 0, 189, 172]
abbrev dktX11_readHeap_0 : List UInt8 := dkwX11_readHeap_0 ++ dktX11_readHeap_1
theorem dksX11_readHeap_0 : cX11_readHeap.data.toList.drop 0 = dktX11_readHeap_0 := by decide +kernel
theorem dksX11_readHeap_1 : cX11_readHeap.data.toList.drop 24 = dktX11_readHeap_1 := dk_seg dksX11_readHeap_0 24 rfl rfl
theorem dksX11_readHeap_2 : cX11_readHeap.data.toList.drop 47 = dktX11_readHeap_2 := dk_seg dksX11_readHeap_1 23 rfl rfl
theorem dksX11_readHeap_3 : cX11_readHeap.data.toList.drop 70 = dktX11_readHeap_3 := dk_seg dksX11_readHeap_2 23 rfl rfl
theorem dksX11_readHeap_4 : cX11_readHeap.data.toList.drop 93 = dktX11_readHeap_4 := dk_seg dksX11_readHeap_3 23 rfl rfl
theorem dksX11_readHeap_5 : cX11_readHeap.data.toList.drop 117 = dktX11_readHeap_5 := dk_seg dksX11_readHeap_4 24 rfl rfl
theorem dX11_readHeap_0 : decode cX11_readHeap 0 = .ok (.aload_n 0, 1) := dk_42 (dk_at dksX11_readHeap_0 0 rfl rfl)
theorem dX11_readHeap_1 : decode cX11_readHeap 1 = .ok (.invokevirtual 192, 3) := dk_182 0 192 (dk_at dksX11_readHeap_0 1 rfl rfl)
theorem dX11_readHeap_4 : decode cX11_readHeap 4 = .ok (.iconst 1, 1) := dk_4 (dk_at dksX11_readHeap_0 4 rfl rfl)
theorem dX11_readHeap_5 : decode cX11_readHeap 5 = .ok (.istore_n 1, 1) := dk_60 (dk_at dksX11_readHeap_0 5 rfl rfl)
theorem dX11_readHeap_6 : decode cX11_readHeap 6 = .ok (.iload_n 1, 1) := dk_27 (dk_at dksX11_readHeap_0 6 rfl rfl)
theorem dX11_readHeap_7 : decode cX11_readHeap 7 = .ok (.ifCond .eq 128, 3) := dk_153 0 128 (dk_at dksX11_readHeap_0 7 rfl rfl)
theorem dX11_readHeap_10 : decode cX11_readHeap 10 = .ok (.aload_n 0, 1) := dk_42 (dk_at dksX11_readHeap_0 10 rfl rfl)
theorem dX11_readHeap_11 : decode cX11_readHeap 11 = .ok (.getfield 163, 3) := dk_180 0 163 (dk_at dksX11_readHeap_0 11 rfl rfl)
theorem dX11_readHeap_14 : decode cX11_readHeap 14 = .ok (.iconst 2, 1) := dk_5 (dk_at dksX11_readHeap_0 14 rfl rfl)
theorem dX11_readHeap_15 : decode cX11_readHeap 15 = .ok (.if_icmp .eq 9, 3) := dk_159 0 9 (dk_at dksX11_readHeap_0 15 rfl rfl)
theorem dX11_readHeap_18 : decode cX11_readHeap 18 = .ok (.aload_n 0, 1) := dk_42 (dk_at dksX11_readHeap_0 18 rfl rfl)
theorem dX11_readHeap_19 : decode cX11_readHeap 19 = .ok (.iconst 1, 1) := dk_4 (dk_at dksX11_readHeap_0 19 rfl rfl)
theorem dX11_readHeap_20 : decode cX11_readHeap 20 = .ok (.invokevirtual 189, 3) := dk_182 0 189 (dk_at dksX11_readHeap_0 20 rfl rfl)
theorem dX11_readHeap_23 : decode cX11_readHeap 23 = .ok (.ireturn, 1) := dk_172 (dk_at dksX11_readHeap_0 23 rfl rfl)
theorem dX11_readHeap_24 : decode cX11_readHeap 24 = .ok (.aload_n 0, 1) := dk_42 (dk_at dksX11_readHeap_1 0 rfl rfl)
theorem dX11_readHeap_25 : decode cX11_readHeap 25 = .ok (.getfield 173, 3) := dk_180 0 173 (dk_at dksX11_readHeap_1 1 rfl rfl)
theorem dX11_readHeap_28 : decode cX11_readHeap 28 = .ok (.aload_n 0, 1) := dk_42 (dk_at dksX11_readHeap_1 4 rfl rfl)
theorem dX11_readHeap_29 : decode cX11_readHeap 29 = .ok (.getfield 37, 3) := dk_180 0 37 (dk_at dksX11_readHeap_1 5 rfl rfl)
theorem dX11_readHeap_32 : decode cX11_readHeap 32 = .ok (.iconst 0, 1) := dk_3 (dk_at dksX11_readHeap_1 8 rfl rfl)
theorem dX11_readHeap_33 : decode cX11_readHeap 33 = .ok (.iaload, 1) := dk_46 (dk_at dksX11_readHeap_1 9 rfl rfl)
theorem dX11_readHeap_34 : decode cX11_readHeap 34 = .ok (.if_icmp .lt 9, 3) := dk_161 0 9 (dk_at dksX11_readHeap_1 10 rfl rfl)
theorem dX11_readHeap_37 : decode cX11_readHeap 37 = .ok (.aload_n 0, 1) := dk_42 (dk_at dksX11_readHeap_1 13 rfl rfl)
theorem dX11_readHeap_38 : decode cX11_readHeap 38 = .ok (.iconst 2, 1) := dk_5 (dk_at dksX11_readHeap_1 14 rfl rfl)
theorem dX11_readHeap_39 : decode cX11_readHeap 39 = .ok (.invokevirtual 189, 3) := dk_182 0 189 (dk_at dksX11_readHeap_1 15 rfl rfl)
theorem dX11_readHeap_42 : decode cX11_readHeap 42 = .ok (.ireturn, 1) := dk_172 (dk_at dksX11_readHeap_1 18 rfl rfl)
theorem dX11_readHeap_43 : decode cX11_readHeap 43 = .ok (.aload_n 0, 1) := dk_42 (dk_at dksX11_readHeap_1 19 rfl rfl)
theorem dX11_readHeap_44 : decode cX11_readHeap 44 = .ok (.getfield 37, 3) := dk_180 0 37 (dk_at dksX11_readHeap_1 20 rfl rfl)
theorem dX11_readHeap_47 : decode cX11_readHeap 47 = .ok (.sipush 571, 3) := dk_17 2 59 (dk_at dksX11_readHeap_2 0 rfl rfl)
theorem dX11_readHeap_50 : decode cX11_readHeap 50 = .ok (.aload_n 0, 1) := dk_42 (dk_at dksX11_readHeap_2 3 rfl rfl)
theorem dX11_readHeap_51 : decode cX11_readHeap 51 = .ok (.getfield 173, 3) := dk_180 0 173 (dk_at dksX11_readHeap_2 4 rfl rfl)
theorem dX11_readHeap_54 : decode cX11_readHeap 54 = .ok (.iadd, 1) := dk_96 (dk_at dksX11_readHeap_2 7 rfl rfl)
theorem dX11_readHeap_55 : decode cX11_readHeap 55 = .ok (.iaload, 1) := dk_46 (dk_at dksX11_readHeap_2 8 rfl rfl)
theorem dX11_readHeap_56 : decode cX11_readHeap 56 = .ok (.iconst 4, 1) := dk_7 (dk_at dksX11_readHeap_2 9 rfl rfl)
theorem dX11_readHeap_57 : decode cX11_readHeap 57 = .ok (.if_icmp .ne 9, 3) := dk_160 0 9 (dk_at dksX11_readHeap_2 10 rfl rfl)
theorem dX11_readHeap_60 : decode cX11_readHeap 60 = .ok (.aload_n 0, 1) := dk_42 (dk_at dksX11_readHeap_2 13 rfl rfl)
theorem dX11_readHeap_61 : decode cX11_readHeap 61 = .ok (.iconst 5, 1) := dk_8 (dk_at dksX11_readHeap_2 14 rfl rfl)
theorem dX11_readHeap_62 : decode cX11_readHeap 62 = .ok (.invokevirtual 189, 3) := dk_182 0 189 (dk_at dksX11_readHeap_2 15 rfl rfl)
theorem dX11_readHeap_65 : decode cX11_readHeap 65 = .ok (.ireturn, 1) := dk_172 (dk_at dksX11_readHeap_2 18 rfl rfl)
theorem dX11_readHeap_66 : decode cX11_readHeap 66 = .ok (.aload_n 0, 1) := dk_42 (dk_at dksX11_readHeap_2 19 rfl rfl)
theorem dX11_readHeap_67 : decode cX11_readHeap 67 = .ok (.getfield 37, 3) := dk_180 0 37 (dk_at dksX11_readHeap_2 20 rfl rfl)
theorem dX11_readHeap_70 : decode cX11_readHeap 70 = .ok (.sipush 571, 3) := dk_17 2 59 (dk_at dksX11_readHeap_3 0 rfl rfl)
theorem dX11_readHeap_73 : decode cX11_readHeap 73 = .ok (.aload_n 0, 1) := dk_42 (dk_at dksX11_readHeap_3 3 rfl rfl)
theorem dX11_readHeap_74 : decode cX11_readHeap 74 = .ok (.getfield 173, 3) := dk_180 0 173 (dk_at dksX11_readHeap_3 4 rfl rfl)
theorem dX11_readHeap_77 : decode cX11_readHeap 77 = .ok (.iadd, 1) := dk_96 (dk_at dksX11_readHeap_3 7 rfl rfl)
theorem dX11_readHeap_78 : decode cX11_readHeap 78 = .ok (.dup2, 1) := dk_92 (dk_at dksX11_readHeap_3 8 rfl rfl)
theorem dX11_readHeap_79 : decode cX11_readHeap 79 = .ok (.iaload, 1) := dk_46 (dk_at dksX11_readHeap_3 9 rfl rfl)
theorem dX11_readHeap_80 : decode cX11_readHeap 80 = .ok (.iconst 1, 1) := dk_4 (dk_at dksX11_readHeap_3 10 rfl rfl)
theorem dX11_readHeap_81 : decode cX11_readHeap 81 = .ok (.iadd, 1) := dk_96 (dk_at dksX11_readHeap_3 11 rfl rfl)
theorem dX11_readHeap_82 : decode cX11_readHeap 82 = .ok (.iastore, 1) := dk_79 (dk_at dksX11_readHeap_3 12 rfl rfl)
theorem dX11_readHeap_83 : decode cX11_readHeap 83 = .ok (.aload_n 0, 1) := dk_42 (dk_at dksX11_readHeap_3 13 rfl rfl)
theorem dX11_readHeap_84 : decode cX11_readHeap 84 = .ok (.getfield 37, 3) := dk_180 0 37 (dk_at dksX11_readHeap_3 14 rfl rfl)
theorem dX11_readHeap_87 : decode cX11_readHeap 87 = .ok (.bipush 8, 2) := dk_16 8 (dk_at dksX11_readHeap_3 17 rfl rfl)
theorem dX11_readHeap_89 : decode cX11_readHeap 89 = .ok (.aload_n 0, 1) := dk_42 (dk_at dksX11_readHeap_3 19 rfl rfl)
theorem dX11_readHeap_90 : decode cX11_readHeap 90 = .ok (.getfield 37, 3) := dk_180 0 37 (dk_at dksX11_readHeap_3 20 rfl rfl)
theorem dX11_readHeap_93 : decode cX11_readHeap 93 = .ok (.bipush 7, 2) := dk_16 7 (dk_at dksX11_readHeap_4 0 rfl rfl)
theorem dX11_readHeap_95 : decode cX11_readHeap 95 = .ok (.iaload, 1) := dk_46 (dk_at dksX11_readHeap_4 2 rfl rfl)
theorem dX11_readHeap_96 : decode cX11_readHeap 96 = .ok (.iadd, 1) := dk_96 (dk_at dksX11_readHeap_4 3 rfl rfl)
theorem dX11_readHeap_97 : decode cX11_readHeap 97 = .ok (.aload_n 0, 1) := dk_42 (dk_at dksX11_readHeap_4 4 rfl rfl)
theorem dX11_readHeap_98 : decode cX11_readHeap 98 = .ok (.getfield 173, 3) := dk_180 0 173 (dk_at dksX11_readHeap_4 5 rfl rfl)
theorem dX11_readHeap_101 : decode cX11_readHeap 101 = .ok (.iastore, 1) := dk_79 (dk_at dksX11_readHeap_4 8 rfl rfl)
theorem dX11_readHeap_102 : decode cX11_readHeap 102 = .ok (.aload_n 0, 1) := dk_42 (dk_at dksX11_readHeap_4 9 rfl rfl)
theorem dX11_readHeap_103 : decode cX11_readHeap 103 = .ok (.getfield 37, 3) := dk_180 0 37 (dk_at dksX11_readHeap_4 10 rfl rfl)
theorem dX11_readHeap_106 : decode cX11_readHeap 106 = .ok (.bipush 7, 2) := dk_16 7 (dk_at dksX11_readHeap_4 13 rfl rfl)
theorem dX11_readHeap_108 : decode cX11_readHeap 108 = .ok (.dup2, 1) := dk_92 (dk_at dksX11_readHeap_4 15 rfl rfl)
theorem dX11_readHeap_109 : decode cX11_readHeap 109 = .ok (.iaload, 1) := dk_46 (dk_at dksX11_readHeap_4 16 rfl rfl)
theorem dX11_readHeap_110 : decode cX11_readHeap 110 = .ok (.iconst 1, 1) := dk_4 (dk_at dksX11_readHeap_4 17 rfl rfl)
theorem dX11_readHeap_111 : decode cX11_readHeap 111 = .ok (.iadd, 1) := dk_96 (dk_at dksX11_readHeap_4 18 rfl rfl)
theorem dX11_readHeap_112 : decode cX11_readHeap 112 = .ok (.iastore, 1) := dk_79 (dk_at dksX11_readHeap_4 19 rfl rfl)
theorem dX11_readHeap_113 : decode cX11_readHeap 113 = .ok (.aload_n 0, 1) := dk_42 (dk_at dksX11_readHeap_4 20 rfl rfl)
theorem dX11_readHeap_114 : decode cX11_readHeap 114 = .ok (.invokevirtual 192, 3) := dk_182 0 192 (dk_at dksX11_readHeap_4 21 rfl rfl)
theorem dX11_readHeap_117 : decode cX11_readHeap 117 = .ok (.aload_n 0, 1) := dk_42 (dk_at dksX11_readHeap_5 0 rfl rfl)
theorem dX11_readHeap_118 : decode cX11_readHeap 118 = .ok (.bipush 59, 2) := dk_16 59 (dk_at dksX11_readHeap_5 1 rfl rfl)
theorem dX11_readHeap_120 : decode cX11_readHeap 120 = .ok (.invokevirtual 186, 3) := dk_182 0 186 (dk_at dksX11_readHeap_5 3 rfl rfl)
theorem dX11_readHeap_123 : decode cX11_readHeap 123 = .ok (.ifCond .ne 7, 3) := dk_154 0 7 (dk_at dksX11_readHeap_5 6 rfl rfl)
theorem dX11_readHeap_126 : decode cX11_readHeap 126 = .ok (.iconst 1, 1) := dk_4 (dk_at dksX11_readHeap_5 9 rfl rfl)
theorem dX11_readHeap_127 : decode cX11_readHeap 127 = .ok (.goto 4, 3) := dk_167 0 4 (dk_at dksX11_readHeap_5 10 rfl rfl)
theorem dX11_readHeap_130 : decode cX11_readHeap 130 = .ok (.iconst 0, 1) := dk_3 (dk_at dksX11_readHeap_5 13 rfl rfl)
theorem dX11_readHeap_131 : decode cX11_readHeap 131 = .ok (.istore_n 1, 1) := dk_60 (dk_at dksX11_readHeap_5 14 rfl rfl)
theorem dX11_readHeap_132 : decode cX11_readHeap 132 = .ok (.goto (-126), 3) := dk_167 255 130 (dk_at dksX11_readHeap_5 15 rfl rfl)
theorem dX11_readHeap_135 : decode cX11_readHeap 135 = .ok (.iconst 1, 1) := dk_4 (dk_at dksX11_readHeap_5 18 rfl rfl)
theorem dX11_readHeap_136 : decode cX11_readHeap 136 = .ok (.ireturn, 1) := dk_172 (dk_at dksX11_readHeap_5 19 rfl rfl)
abbrev cX11_isSign : ByteArray := prog_23_method_17_code
def yX11_isSign : MethodName := ⟨RX11, "isSign", "(I)Z"⟩
def dkwX11_isSign_0 : List UInt8 := [42, 180, 0, 163, 6, 160, 0, 15, 42, 180, 0, 173, 27, 160, 0, 7, 4, 167, 0, 4, 3, 172]
abbrev dktX11_isSign_0 : List UInt8 := dkwX11_isSign_0 ++ []
theorem dksX11_isSign_0 : cX11_isSign.data.toList.drop 0 = dktX11_isSign_0 := by decide +kernel
theorem dX11_isSign_0 : decode cX11_isSign 0 = .ok (.aload_n 0, 1) := dk_42 (dk_at dksX11_isSign_0 0 rfl rfl)
theorem dX11_isSign_1 : decode cX11_isSign 1 = .ok (.getfield 163, 3) := dk_180 0 163 (dk_at dksX11_isSign_0 1 rfl rfl)
theorem dX11_isSign_4 : decode cX11_isSign 4 = .ok (.iconst 3, 1) := dk_6 (dk_at dksX11_isSign_0 4 rfl rfl)
theorem dX11_isSign_5 : decode cX11_isSign 5 = .ok (.if_icmp .ne 15, 3) := dk_160 0 15 (dk_at dksX11_isSign_0 5 rfl rfl)
theorem dX11_isSign_8 : decode cX11_isSign 8 = .ok (.aload_n 0, 1) := dk_42 (dk_at dksX11_isSign_0 8 rfl rfl)
theorem dX11_isSign_9 : decode cX11_isSign 9 = .ok (.getfield 173, 3) := dk_180 0 173 (dk_at dksX11_isSign_0 9 rfl rfl)
theorem dX11_isSign_12 : decode cX11_isSign 12 = .ok (.iload_n 1, 1) := dk_27 (dk_at dksX11_isSign_0 12 rfl rfl)
theorem dX11_isSign_13 : decode cX11_isSign 13 = .ok (.if_icmp .ne 7, 3) := dk_160 0 7 (dk_at dksX11_isSign_0 13 rfl rfl)
theorem dX11_isSign_16 : decode cX11_isSign 16 = .ok (.iconst 1, 1) := dk_4 (dk_at dksX11_isSign_0 16 rfl rfl)
theorem dX11_isSign_17 : decode cX11_isSign 17 = .ok (.goto 4, 3) := dk_167 0 4 (dk_at dksX11_isSign_0 17 rfl rfl)
theorem dX11_isSign_20 : decode cX11_isSign 20 = .ok (.iconst 0, 1) := dk_3 (dk_at dksX11_isSign_0 20 rfl rfl)
theorem dX11_isSign_21 : decode cX11_isSign 21 = .ok (.ireturn, 1) := dk_172 (dk_at dksX11_isSign_0 21 rfl rfl)
abbrev cX11_sign : ByteArray := prog_23_method_18_code
def yX11_sign : MethodName := ⟨RX11, "sign", "(I)Z"⟩
def dkwX11_sign_0 : List UInt8 := [42, 27, 182, 0, 186, 154, 0, 9, 42, 4, 182, 0, 189, 172, 42, 182, 0, 192, 4, 172]
abbrev dktX11_sign_0 : List UInt8 := dkwX11_sign_0 ++ []
theorem dksX11_sign_0 : cX11_sign.data.toList.drop 0 = dktX11_sign_0 := by decide +kernel
theorem dX11_sign_0 : decode cX11_sign 0 = .ok (.aload_n 0, 1) := dk_42 (dk_at dksX11_sign_0 0 rfl rfl)
theorem dX11_sign_1 : decode cX11_sign 1 = .ok (.iload_n 1, 1) := dk_27 (dk_at dksX11_sign_0 1 rfl rfl)
theorem dX11_sign_2 : decode cX11_sign 2 = .ok (.invokevirtual 186, 3) := dk_182 0 186 (dk_at dksX11_sign_0 2 rfl rfl)
theorem dX11_sign_5 : decode cX11_sign 5 = .ok (.ifCond .ne 9, 3) := dk_154 0 9 (dk_at dksX11_sign_0 5 rfl rfl)
theorem dX11_sign_8 : decode cX11_sign 8 = .ok (.aload_n 0, 1) := dk_42 (dk_at dksX11_sign_0 8 rfl rfl)
theorem dX11_sign_9 : decode cX11_sign 9 = .ok (.iconst 1, 1) := dk_4 (dk_at dksX11_sign_0 9 rfl rfl)
theorem dX11_sign_10 : decode cX11_sign 10 = .ok (.invokevirtual 189, 3) := dk_182 0 189 (dk_at dksX11_sign_0 10 rfl rfl)
theorem dX11_sign_13 : decode cX11_sign 13 = .ok (.ireturn, 1) := dk_172 (dk_at dksX11_sign_0 13 rfl rfl)
theorem dX11_sign_14 : decode cX11_sign 14 = .ok (.aload_n 0, 1) := dk_42 (dk_at dksX11_sign_0 14 rfl rfl)
theorem dX11_sign_15 : decode cX11_sign 15 = .ok (.invokevirtual 192, 3) := dk_182 0 192 (dk_at dksX11_sign_0 15 rfl rfl)
theorem dX11_sign_18 : decode cX11_sign 18 = .ok (.iconst 1, 1) := dk_4 (dk_at dksX11_sign_0 18 rfl rfl)
theorem dX11_sign_19 : decode cX11_sign 19 = .ok (.ireturn, 1) := dk_172 (dk_at dksX11_sign_0 19 rfl rfl)
abbrev cX11_begins : ByteArray := prog_23_method_36_code
def yX11_begins : MethodName := ⟨RX11, "begins", "()V"⟩
def dkwX11_begins_3 : List UInt8 := [182, 1, 17, 87, 132, 2, 1, 167, 255, 236, 132, 1, 1, 167, 255, 218, 42, 3, 182, 1, 23, 177]
abbrev dktX11_begins_3 : List UInt8 := dkwX11_begins_3 ++ []
def dkwX11_begins_2 : List UInt8 := [42, 180, 0, 33, 4, 46, 162, 0, 34, 3, 61, 28, 42, 180, 0, 33, 3, 46, 162, 0, 16, 42, 27, 28]
abbrev dktX11_begins_2 : List UInt8 := dkwX11_begins_2 ++ dktX11_begins_3
def dkwX11_begins_1 : List UInt8 := [162, 0, 15, 42, 27, 3, 182, 1, 14, 132, 3, 1, 167, 255, 242, 132, 1, 1, 167, 255, 218, 3, 60, 27]
abbrev dktX11_begins_1 : List UInt8 := dkwX11_begins_1 ++ dktX11_begins_2
def dkwX11_begins_0 : List UInt8 := [3, 60, 27, 42, 180, 0, 33, 4, 46, 162, 0, 34, 42, 27, 182, 1, 7, 61, 3, 62, 29, 28]
abbrev dktX11_begins_0 : List UInt8 := dkwX11_begins_0 ++ dktX11_begins_1
theorem dksX11_begins_0 : cX11_begins.data.toList.drop 0 = dktX11_begins_0 := by decide +kernel
theorem dksX11_begins_1 : cX11_begins.data.toList.drop 22 = dktX11_begins_1 := dk_seg dksX11_begins_0 22 rfl rfl
theorem dksX11_begins_2 : cX11_begins.data.toList.drop 46 = dktX11_begins_2 := dk_seg dksX11_begins_1 24 rfl rfl
theorem dksX11_begins_3 : cX11_begins.data.toList.drop 70 = dktX11_begins_3 := dk_seg dksX11_begins_2 24 rfl rfl
theorem dX11_begins_0 : decode cX11_begins 0 = .ok (.iconst 0, 1) := dk_3 (dk_at dksX11_begins_0 0 rfl rfl)
theorem dX11_begins_1 : decode cX11_begins 1 = .ok (.istore_n 1, 1) := dk_60 (dk_at dksX11_begins_0 1 rfl rfl)
theorem dX11_begins_2 : decode cX11_begins 2 = .ok (.iload_n 1, 1) := dk_27 (dk_at dksX11_begins_0 2 rfl rfl)
theorem dX11_begins_3 : decode cX11_begins 3 = .ok (.aload_n 0, 1) := dk_42 (dk_at dksX11_begins_0 3 rfl rfl)
theorem dX11_begins_4 : decode cX11_begins 4 = .ok (.getfield 33, 3) := dk_180 0 33 (dk_at dksX11_begins_0 4 rfl rfl)
theorem dX11_begins_7 : decode cX11_begins 7 = .ok (.iconst 1, 1) := dk_4 (dk_at dksX11_begins_0 7 rfl rfl)
theorem dX11_begins_8 : decode cX11_begins 8 = .ok (.iaload, 1) := dk_46 (dk_at dksX11_begins_0 8 rfl rfl)
theorem dX11_begins_9 : decode cX11_begins 9 = .ok (.if_icmp .ge 34, 3) := dk_162 0 34 (dk_at dksX11_begins_0 9 rfl rfl)
theorem dX11_begins_12 : decode cX11_begins 12 = .ok (.aload_n 0, 1) := dk_42 (dk_at dksX11_begins_0 12 rfl rfl)
theorem dX11_begins_13 : decode cX11_begins 13 = .ok (.iload_n 1, 1) := dk_27 (dk_at dksX11_begins_0 13 rfl rfl)
theorem dX11_begins_14 : decode cX11_begins 14 = .ok (.invokevirtual 263, 3) := dk_182 1 7 (dk_at dksX11_begins_0 14 rfl rfl)
theorem dX11_begins_17 : decode cX11_begins 17 = .ok (.istore_n 2, 1) := dk_61 (dk_at dksX11_begins_0 17 rfl rfl)
theorem dX11_begins_18 : decode cX11_begins 18 = .ok (.iconst 0, 1) := dk_3 (dk_at dksX11_begins_0 18 rfl rfl)
theorem dX11_begins_19 : decode cX11_begins 19 = .ok (.istore_n 3, 1) := dk_62 (dk_at dksX11_begins_0 19 rfl rfl)
theorem dX11_begins_20 : decode cX11_begins 20 = .ok (.iload_n 3, 1) := dk_29 (dk_at dksX11_begins_0 20 rfl rfl)
theorem dX11_begins_21 : decode cX11_begins 21 = .ok (.iload_n 2, 1) := dk_28 (dk_at dksX11_begins_0 21 rfl rfl)
theorem dX11_begins_22 : decode cX11_begins 22 = .ok (.if_icmp .ge 15, 3) := dk_162 0 15 (dk_at dksX11_begins_1 0 rfl rfl)
theorem dX11_begins_25 : decode cX11_begins 25 = .ok (.aload_n 0, 1) := dk_42 (dk_at dksX11_begins_1 3 rfl rfl)
theorem dX11_begins_26 : decode cX11_begins 26 = .ok (.iload_n 1, 1) := dk_27 (dk_at dksX11_begins_1 4 rfl rfl)
theorem dX11_begins_27 : decode cX11_begins 27 = .ok (.iconst 0, 1) := dk_3 (dk_at dksX11_begins_1 5 rfl rfl)
theorem dX11_begins_28 : decode cX11_begins 28 = .ok (.invokevirtual 270, 3) := dk_182 1 14 (dk_at dksX11_begins_1 6 rfl rfl)
theorem dX11_begins_31 : decode cX11_begins 31 = .ok (.iinc 3 1, 3) := dk_132 3 1 (dk_at dksX11_begins_1 9 rfl rfl)
theorem dX11_begins_34 : decode cX11_begins 34 = .ok (.goto (-14), 3) := dk_167 255 242 (dk_at dksX11_begins_1 12 rfl rfl)
theorem dX11_begins_37 : decode cX11_begins 37 = .ok (.iinc 1 1, 3) := dk_132 1 1 (dk_at dksX11_begins_1 15 rfl rfl)
theorem dX11_begins_40 : decode cX11_begins 40 = .ok (.goto (-38), 3) := dk_167 255 218 (dk_at dksX11_begins_1 18 rfl rfl)
theorem dX11_begins_43 : decode cX11_begins 43 = .ok (.iconst 0, 1) := dk_3 (dk_at dksX11_begins_1 21 rfl rfl)
theorem dX11_begins_44 : decode cX11_begins 44 = .ok (.istore_n 1, 1) := dk_60 (dk_at dksX11_begins_1 22 rfl rfl)
theorem dX11_begins_45 : decode cX11_begins 45 = .ok (.iload_n 1, 1) := dk_27 (dk_at dksX11_begins_1 23 rfl rfl)
theorem dX11_begins_46 : decode cX11_begins 46 = .ok (.aload_n 0, 1) := dk_42 (dk_at dksX11_begins_2 0 rfl rfl)
theorem dX11_begins_47 : decode cX11_begins 47 = .ok (.getfield 33, 3) := dk_180 0 33 (dk_at dksX11_begins_2 1 rfl rfl)
theorem dX11_begins_50 : decode cX11_begins 50 = .ok (.iconst 1, 1) := dk_4 (dk_at dksX11_begins_2 4 rfl rfl)
theorem dX11_begins_51 : decode cX11_begins 51 = .ok (.iaload, 1) := dk_46 (dk_at dksX11_begins_2 5 rfl rfl)
theorem dX11_begins_52 : decode cX11_begins 52 = .ok (.if_icmp .ge 34, 3) := dk_162 0 34 (dk_at dksX11_begins_2 6 rfl rfl)
theorem dX11_begins_55 : decode cX11_begins 55 = .ok (.iconst 0, 1) := dk_3 (dk_at dksX11_begins_2 9 rfl rfl)
theorem dX11_begins_56 : decode cX11_begins 56 = .ok (.istore_n 2, 1) := dk_61 (dk_at dksX11_begins_2 10 rfl rfl)
theorem dX11_begins_57 : decode cX11_begins 57 = .ok (.iload_n 2, 1) := dk_28 (dk_at dksX11_begins_2 11 rfl rfl)
theorem dX11_begins_58 : decode cX11_begins 58 = .ok (.aload_n 0, 1) := dk_42 (dk_at dksX11_begins_2 12 rfl rfl)
theorem dX11_begins_59 : decode cX11_begins 59 = .ok (.getfield 33, 3) := dk_180 0 33 (dk_at dksX11_begins_2 13 rfl rfl)
theorem dX11_begins_62 : decode cX11_begins 62 = .ok (.iconst 0, 1) := dk_3 (dk_at dksX11_begins_2 16 rfl rfl)
theorem dX11_begins_63 : decode cX11_begins 63 = .ok (.iaload, 1) := dk_46 (dk_at dksX11_begins_2 17 rfl rfl)
theorem dX11_begins_64 : decode cX11_begins 64 = .ok (.if_icmp .ge 16, 3) := dk_162 0 16 (dk_at dksX11_begins_2 18 rfl rfl)
theorem dX11_begins_67 : decode cX11_begins 67 = .ok (.aload_n 0, 1) := dk_42 (dk_at dksX11_begins_2 21 rfl rfl)
theorem dX11_begins_68 : decode cX11_begins 68 = .ok (.iload_n 1, 1) := dk_27 (dk_at dksX11_begins_2 22 rfl rfl)
theorem dX11_begins_69 : decode cX11_begins 69 = .ok (.iload_n 2, 1) := dk_28 (dk_at dksX11_begins_2 23 rfl rfl)
theorem dX11_begins_70 : decode cX11_begins 70 = .ok (.invokevirtual 273, 3) := dk_182 1 17 (dk_at dksX11_begins_3 0 rfl rfl)
theorem dX11_begins_73 : decode cX11_begins 73 = .ok (.pop, 1) := dk_87 (dk_at dksX11_begins_3 3 rfl rfl)
theorem dX11_begins_74 : decode cX11_begins 74 = .ok (.iinc 2 1, 3) := dk_132 2 1 (dk_at dksX11_begins_3 4 rfl rfl)
theorem dX11_begins_77 : decode cX11_begins 77 = .ok (.goto (-20), 3) := dk_167 255 236 (dk_at dksX11_begins_3 7 rfl rfl)
theorem dX11_begins_80 : decode cX11_begins 80 = .ok (.iinc 1 1, 3) := dk_132 1 1 (dk_at dksX11_begins_3 10 rfl rfl)
theorem dX11_begins_83 : decode cX11_begins 83 = .ok (.goto (-38), 3) := dk_167 255 218 (dk_at dksX11_begins_3 13 rfl rfl)
theorem dX11_begins_86 : decode cX11_begins 86 = .ok (.aload_n 0, 1) := dk_42 (dk_at dksX11_begins_3 16 rfl rfl)
theorem dX11_begins_87 : decode cX11_begins 87 = .ok (.iconst 0, 1) := dk_3 (dk_at dksX11_begins_3 17 rfl rfl)
theorem dX11_begins_88 : decode cX11_begins 88 = .ok (.invokevirtual 279, 3) := dk_182 1 23 (dk_at dksX11_begins_3 18 rfl rfl)
theorem dX11_begins_91 : decode cX11_begins 91 = .ok (.return_, 1) := dk_177 (dk_at dksX11_begins_3 21 rfl rfl)
abbrev cX11_cards : ByteArray := prog_23_method_28_code
def yX11_cards : MethodName := ⟨RX11, "cards", "(I)I"⟩
def dkwX11_cards_1 : List UInt8 := [46, 96, 61, 132, 3, 1, 167, 255, 230, 28, 172]
abbrev dktX11_cards_1 : List UInt8 := dkwX11_cards_1 ++ []
def dkwX11_cards_0 : List UInt8 := [3, 61, 3, 62, 29, 16, 13, 162, 0, 26, 28, 42, 180, 0, 33, 16, 60, 16, 13, 27, 104, 96, 29, 96]
abbrev dktX11_cards_0 : List UInt8 := dkwX11_cards_0 ++ dktX11_cards_1
theorem dksX11_cards_0 : cX11_cards.data.toList.drop 0 = dktX11_cards_0 := by decide +kernel
theorem dksX11_cards_1 : cX11_cards.data.toList.drop 24 = dktX11_cards_1 := dk_seg dksX11_cards_0 24 rfl rfl
theorem dX11_cards_0 : decode cX11_cards 0 = .ok (.iconst 0, 1) := dk_3 (dk_at dksX11_cards_0 0 rfl rfl)
theorem dX11_cards_1 : decode cX11_cards 1 = .ok (.istore_n 2, 1) := dk_61 (dk_at dksX11_cards_0 1 rfl rfl)
theorem dX11_cards_2 : decode cX11_cards 2 = .ok (.iconst 0, 1) := dk_3 (dk_at dksX11_cards_0 2 rfl rfl)
theorem dX11_cards_3 : decode cX11_cards 3 = .ok (.istore_n 3, 1) := dk_62 (dk_at dksX11_cards_0 3 rfl rfl)
theorem dX11_cards_4 : decode cX11_cards 4 = .ok (.iload_n 3, 1) := dk_29 (dk_at dksX11_cards_0 4 rfl rfl)
theorem dX11_cards_5 : decode cX11_cards 5 = .ok (.bipush 13, 2) := dk_16 13 (dk_at dksX11_cards_0 5 rfl rfl)
theorem dX11_cards_7 : decode cX11_cards 7 = .ok (.if_icmp .ge 26, 3) := dk_162 0 26 (dk_at dksX11_cards_0 7 rfl rfl)
theorem dX11_cards_10 : decode cX11_cards 10 = .ok (.iload_n 2, 1) := dk_28 (dk_at dksX11_cards_0 10 rfl rfl)
theorem dX11_cards_11 : decode cX11_cards 11 = .ok (.aload_n 0, 1) := dk_42 (dk_at dksX11_cards_0 11 rfl rfl)
theorem dX11_cards_12 : decode cX11_cards 12 = .ok (.getfield 33, 3) := dk_180 0 33 (dk_at dksX11_cards_0 12 rfl rfl)
theorem dX11_cards_15 : decode cX11_cards 15 = .ok (.bipush 60, 2) := dk_16 60 (dk_at dksX11_cards_0 15 rfl rfl)
theorem dX11_cards_17 : decode cX11_cards 17 = .ok (.bipush 13, 2) := dk_16 13 (dk_at dksX11_cards_0 17 rfl rfl)
theorem dX11_cards_19 : decode cX11_cards 19 = .ok (.iload_n 1, 1) := dk_27 (dk_at dksX11_cards_0 19 rfl rfl)
theorem dX11_cards_20 : decode cX11_cards 20 = .ok (.imul, 1) := dk_104 (dk_at dksX11_cards_0 20 rfl rfl)
theorem dX11_cards_21 : decode cX11_cards 21 = .ok (.iadd, 1) := dk_96 (dk_at dksX11_cards_0 21 rfl rfl)
theorem dX11_cards_22 : decode cX11_cards 22 = .ok (.iload_n 3, 1) := dk_29 (dk_at dksX11_cards_0 22 rfl rfl)
theorem dX11_cards_23 : decode cX11_cards 23 = .ok (.iadd, 1) := dk_96 (dk_at dksX11_cards_0 23 rfl rfl)
theorem dX11_cards_24 : decode cX11_cards 24 = .ok (.iaload, 1) := dk_46 (dk_at dksX11_cards_1 0 rfl rfl)
theorem dX11_cards_25 : decode cX11_cards 25 = .ok (.iadd, 1) := dk_96 (dk_at dksX11_cards_1 1 rfl rfl)
theorem dX11_cards_26 : decode cX11_cards 26 = .ok (.istore_n 2, 1) := dk_61 (dk_at dksX11_cards_1 2 rfl rfl)
theorem dX11_cards_27 : decode cX11_cards 27 = .ok (.iinc 3 1, 3) := dk_132 3 1 (dk_at dksX11_cards_1 3 rfl rfl)
theorem dX11_cards_30 : decode cX11_cards 30 = .ok (.goto (-26), 3) := dk_167 255 230 (dk_at dksX11_cards_1 6 rfl rfl)
theorem dX11_cards_33 : decode cX11_cards 33 = .ok (.iload_n 2, 1) := dk_28 (dk_at dksX11_cards_1 9 rfl rfl)
theorem dX11_cards_34 : decode cX11_cards 34 = .ok (.ireturn, 1) := dk_172 (dk_at dksX11_cards_1 10 rfl rfl)
abbrev cX11_adds : ByteArray := prog_23_method_29_code
def yX11_adds : MethodName := ⟨RX11, "adds", "(II)V"⟩
def dkwX11_adds_1 : List UInt8 := [79, 42, 180, 0, 33, 17, 0, 229, 27, 96, 92, 46, 4, 96, 79, 177]
abbrev dktX11_adds_1 : List UInt8 := dkwX11_adds_1 ++ []
def dkwX11_adds_0 : List UInt8 := [42, 180, 0, 33, 17, 0, 235, 16, 52, 27, 104, 96, 42, 180, 0, 33, 17, 0, 229, 27, 96, 46, 96, 28]
abbrev dktX11_adds_0 : List UInt8 := dkwX11_adds_0 ++ dktX11_adds_1
theorem dksX11_adds_0 : cX11_adds.data.toList.drop 0 = dktX11_adds_0 := by decide +kernel
theorem dksX11_adds_1 : cX11_adds.data.toList.drop 24 = dktX11_adds_1 := dk_seg dksX11_adds_0 24 rfl rfl
theorem dX11_adds_0 : decode cX11_adds 0 = .ok (.aload_n 0, 1) := dk_42 (dk_at dksX11_adds_0 0 rfl rfl)
theorem dX11_adds_1 : decode cX11_adds 1 = .ok (.getfield 33, 3) := dk_180 0 33 (dk_at dksX11_adds_0 1 rfl rfl)
theorem dX11_adds_4 : decode cX11_adds 4 = .ok (.sipush 235, 3) := dk_17 0 235 (dk_at dksX11_adds_0 4 rfl rfl)
theorem dX11_adds_7 : decode cX11_adds 7 = .ok (.bipush 52, 2) := dk_16 52 (dk_at dksX11_adds_0 7 rfl rfl)
theorem dX11_adds_9 : decode cX11_adds 9 = .ok (.iload_n 1, 1) := dk_27 (dk_at dksX11_adds_0 9 rfl rfl)
theorem dX11_adds_10 : decode cX11_adds 10 = .ok (.imul, 1) := dk_104 (dk_at dksX11_adds_0 10 rfl rfl)
theorem dX11_adds_11 : decode cX11_adds 11 = .ok (.iadd, 1) := dk_96 (dk_at dksX11_adds_0 11 rfl rfl)
theorem dX11_adds_12 : decode cX11_adds 12 = .ok (.aload_n 0, 1) := dk_42 (dk_at dksX11_adds_0 12 rfl rfl)
theorem dX11_adds_13 : decode cX11_adds 13 = .ok (.getfield 33, 3) := dk_180 0 33 (dk_at dksX11_adds_0 13 rfl rfl)
theorem dX11_adds_16 : decode cX11_adds 16 = .ok (.sipush 229, 3) := dk_17 0 229 (dk_at dksX11_adds_0 16 rfl rfl)
theorem dX11_adds_19 : decode cX11_adds 19 = .ok (.iload_n 1, 1) := dk_27 (dk_at dksX11_adds_0 19 rfl rfl)
theorem dX11_adds_20 : decode cX11_adds 20 = .ok (.iadd, 1) := dk_96 (dk_at dksX11_adds_0 20 rfl rfl)
theorem dX11_adds_21 : decode cX11_adds 21 = .ok (.iaload, 1) := dk_46 (dk_at dksX11_adds_0 21 rfl rfl)
theorem dX11_adds_22 : decode cX11_adds 22 = .ok (.iadd, 1) := dk_96 (dk_at dksX11_adds_0 22 rfl rfl)
theorem dX11_adds_23 : decode cX11_adds 23 = .ok (.iload_n 2, 1) := dk_28 (dk_at dksX11_adds_0 23 rfl rfl)
theorem dX11_adds_24 : decode cX11_adds 24 = .ok (.iastore, 1) := dk_79 (dk_at dksX11_adds_1 0 rfl rfl)
theorem dX11_adds_25 : decode cX11_adds 25 = .ok (.aload_n 0, 1) := dk_42 (dk_at dksX11_adds_1 1 rfl rfl)
theorem dX11_adds_26 : decode cX11_adds 26 = .ok (.getfield 33, 3) := dk_180 0 33 (dk_at dksX11_adds_1 2 rfl rfl)
theorem dX11_adds_29 : decode cX11_adds 29 = .ok (.sipush 229, 3) := dk_17 0 229 (dk_at dksX11_adds_1 5 rfl rfl)
theorem dX11_adds_32 : decode cX11_adds 32 = .ok (.iload_n 1, 1) := dk_27 (dk_at dksX11_adds_1 8 rfl rfl)
theorem dX11_adds_33 : decode cX11_adds 33 = .ok (.iadd, 1) := dk_96 (dk_at dksX11_adds_1 9 rfl rfl)
theorem dX11_adds_34 : decode cX11_adds 34 = .ok (.dup2, 1) := dk_92 (dk_at dksX11_adds_1 10 rfl rfl)
theorem dX11_adds_35 : decode cX11_adds 35 = .ok (.iaload, 1) := dk_46 (dk_at dksX11_adds_1 11 rfl rfl)
theorem dX11_adds_36 : decode cX11_adds 36 = .ok (.iconst 1, 1) := dk_4 (dk_at dksX11_adds_1 12 rfl rfl)
theorem dX11_adds_37 : decode cX11_adds 37 = .ok (.iadd, 1) := dk_96 (dk_at dksX11_adds_1 13 rfl rfl)
theorem dX11_adds_38 : decode cX11_adds 38 = .ok (.iastore, 1) := dk_79 (dk_at dksX11_adds_1 14 rfl rfl)
theorem dX11_adds_39 : decode cX11_adds 39 = .ok (.return_, 1) := dk_177 (dk_at dksX11_adds_1 15 rfl rfl)
abbrev cX11_books : ByteArray := prog_23_method_32_code
def yX11_books : MethodName := ⟨RX11, "books", "(II)Z"⟩
def dkwX11_books_3 : List UInt8 := [42, 180, 0, 33, 17, 0, 138, 28, 96, 27, 4, 96, 79, 4, 172]
abbrev dktX11_books_3 : List UInt8 := dkwX11_books_3 ++ []
def dkwX11_books_2 : List UInt8 := [180, 0, 33, 17, 0, 151, 16, 13, 27, 104, 96, 28, 96, 3, 79, 42, 27, 28, 16, 252, 182, 0, 255, 87]
abbrev dktX11_books_2 : List UInt8 := dkwX11_books_2 ++ dktX11_books_3
def dkwX11_books_1 : List UInt8 := [96, 28, 96, 46, 62, 29, 7, 162, 0, 15, 42, 27, 28, 182, 1, 3, 132, 3, 1, 167, 255, 242, 42]
abbrev dktX11_books_1 : List UInt8 := dkwX11_books_1 ++ dktX11_books_2
def dkwX11_books_0 : List UInt8 := [42, 27, 28, 3, 182, 0, 255, 7, 162, 0, 5, 3, 172, 42, 180, 0, 33, 17, 0, 151, 16, 13, 27, 104]
abbrev dktX11_books_0 : List UInt8 := dkwX11_books_0 ++ dktX11_books_1
theorem dksX11_books_0 : cX11_books.data.toList.drop 0 = dktX11_books_0 := by decide +kernel
theorem dksX11_books_1 : cX11_books.data.toList.drop 24 = dktX11_books_1 := dk_seg dksX11_books_0 24 rfl rfl
theorem dksX11_books_2 : cX11_books.data.toList.drop 47 = dktX11_books_2 := dk_seg dksX11_books_1 23 rfl rfl
theorem dksX11_books_3 : cX11_books.data.toList.drop 71 = dktX11_books_3 := dk_seg dksX11_books_2 24 rfl rfl
theorem dX11_books_0 : decode cX11_books 0 = .ok (.aload_n 0, 1) := dk_42 (dk_at dksX11_books_0 0 rfl rfl)
theorem dX11_books_1 : decode cX11_books 1 = .ok (.iload_n 1, 1) := dk_27 (dk_at dksX11_books_0 1 rfl rfl)
theorem dX11_books_2 : decode cX11_books 2 = .ok (.iload_n 2, 1) := dk_28 (dk_at dksX11_books_0 2 rfl rfl)
theorem dX11_books_3 : decode cX11_books 3 = .ok (.iconst 0, 1) := dk_3 (dk_at dksX11_books_0 3 rfl rfl)
theorem dX11_books_4 : decode cX11_books 4 = .ok (.invokevirtual 255, 3) := dk_182 0 255 (dk_at dksX11_books_0 4 rfl rfl)
theorem dX11_books_7 : decode cX11_books 7 = .ok (.iconst 4, 1) := dk_7 (dk_at dksX11_books_0 7 rfl rfl)
theorem dX11_books_8 : decode cX11_books 8 = .ok (.if_icmp .ge 5, 3) := dk_162 0 5 (dk_at dksX11_books_0 8 rfl rfl)
theorem dX11_books_11 : decode cX11_books 11 = .ok (.iconst 0, 1) := dk_3 (dk_at dksX11_books_0 11 rfl rfl)
theorem dX11_books_12 : decode cX11_books 12 = .ok (.ireturn, 1) := dk_172 (dk_at dksX11_books_0 12 rfl rfl)
theorem dX11_books_13 : decode cX11_books 13 = .ok (.aload_n 0, 1) := dk_42 (dk_at dksX11_books_0 13 rfl rfl)
theorem dX11_books_14 : decode cX11_books 14 = .ok (.getfield 33, 3) := dk_180 0 33 (dk_at dksX11_books_0 14 rfl rfl)
theorem dX11_books_17 : decode cX11_books 17 = .ok (.sipush 151, 3) := dk_17 0 151 (dk_at dksX11_books_0 17 rfl rfl)
theorem dX11_books_20 : decode cX11_books 20 = .ok (.bipush 13, 2) := dk_16 13 (dk_at dksX11_books_0 20 rfl rfl)
theorem dX11_books_22 : decode cX11_books 22 = .ok (.iload_n 1, 1) := dk_27 (dk_at dksX11_books_0 22 rfl rfl)
theorem dX11_books_23 : decode cX11_books 23 = .ok (.imul, 1) := dk_104 (dk_at dksX11_books_0 23 rfl rfl)
theorem dX11_books_24 : decode cX11_books 24 = .ok (.iadd, 1) := dk_96 (dk_at dksX11_books_1 0 rfl rfl)
theorem dX11_books_25 : decode cX11_books 25 = .ok (.iload_n 2, 1) := dk_28 (dk_at dksX11_books_1 1 rfl rfl)
theorem dX11_books_26 : decode cX11_books 26 = .ok (.iadd, 1) := dk_96 (dk_at dksX11_books_1 2 rfl rfl)
theorem dX11_books_27 : decode cX11_books 27 = .ok (.iaload, 1) := dk_46 (dk_at dksX11_books_1 3 rfl rfl)
theorem dX11_books_28 : decode cX11_books 28 = .ok (.istore_n 3, 1) := dk_62 (dk_at dksX11_books_1 4 rfl rfl)
theorem dX11_books_29 : decode cX11_books 29 = .ok (.iload_n 3, 1) := dk_29 (dk_at dksX11_books_1 5 rfl rfl)
theorem dX11_books_30 : decode cX11_books 30 = .ok (.iconst 4, 1) := dk_7 (dk_at dksX11_books_1 6 rfl rfl)
theorem dX11_books_31 : decode cX11_books 31 = .ok (.if_icmp .ge 15, 3) := dk_162 0 15 (dk_at dksX11_books_1 7 rfl rfl)
theorem dX11_books_34 : decode cX11_books 34 = .ok (.aload_n 0, 1) := dk_42 (dk_at dksX11_books_1 10 rfl rfl)
theorem dX11_books_35 : decode cX11_books 35 = .ok (.iload_n 1, 1) := dk_27 (dk_at dksX11_books_1 11 rfl rfl)
theorem dX11_books_36 : decode cX11_books 36 = .ok (.iload_n 2, 1) := dk_28 (dk_at dksX11_books_1 12 rfl rfl)
theorem dX11_books_37 : decode cX11_books 37 = .ok (.invokevirtual 259, 3) := dk_182 1 3 (dk_at dksX11_books_1 13 rfl rfl)
theorem dX11_books_40 : decode cX11_books 40 = .ok (.iinc 3 1, 3) := dk_132 3 1 (dk_at dksX11_books_1 16 rfl rfl)
theorem dX11_books_43 : decode cX11_books 43 = .ok (.goto (-14), 3) := dk_167 255 242 (dk_at dksX11_books_1 19 rfl rfl)
theorem dX11_books_46 : decode cX11_books 46 = .ok (.aload_n 0, 1) := dk_42 (dk_at dksX11_books_1 22 rfl rfl)
theorem dX11_books_47 : decode cX11_books 47 = .ok (.getfield 33, 3) := dk_180 0 33 (dk_at dksX11_books_2 0 rfl rfl)
theorem dX11_books_50 : decode cX11_books 50 = .ok (.sipush 151, 3) := dk_17 0 151 (dk_at dksX11_books_2 3 rfl rfl)
theorem dX11_books_53 : decode cX11_books 53 = .ok (.bipush 13, 2) := dk_16 13 (dk_at dksX11_books_2 6 rfl rfl)
theorem dX11_books_55 : decode cX11_books 55 = .ok (.iload_n 1, 1) := dk_27 (dk_at dksX11_books_2 8 rfl rfl)
theorem dX11_books_56 : decode cX11_books 56 = .ok (.imul, 1) := dk_104 (dk_at dksX11_books_2 9 rfl rfl)
theorem dX11_books_57 : decode cX11_books 57 = .ok (.iadd, 1) := dk_96 (dk_at dksX11_books_2 10 rfl rfl)
theorem dX11_books_58 : decode cX11_books 58 = .ok (.iload_n 2, 1) := dk_28 (dk_at dksX11_books_2 11 rfl rfl)
theorem dX11_books_59 : decode cX11_books 59 = .ok (.iadd, 1) := dk_96 (dk_at dksX11_books_2 12 rfl rfl)
theorem dX11_books_60 : decode cX11_books 60 = .ok (.iconst 0, 1) := dk_3 (dk_at dksX11_books_2 13 rfl rfl)
theorem dX11_books_61 : decode cX11_books 61 = .ok (.iastore, 1) := dk_79 (dk_at dksX11_books_2 14 rfl rfl)
theorem dX11_books_62 : decode cX11_books 62 = .ok (.aload_n 0, 1) := dk_42 (dk_at dksX11_books_2 15 rfl rfl)
theorem dX11_books_63 : decode cX11_books 63 = .ok (.iload_n 1, 1) := dk_27 (dk_at dksX11_books_2 16 rfl rfl)
theorem dX11_books_64 : decode cX11_books 64 = .ok (.iload_n 2, 1) := dk_28 (dk_at dksX11_books_2 17 rfl rfl)
theorem dX11_books_65 : decode cX11_books 65 = .ok (.bipush (-4), 2) := dk_16 252 (dk_at dksX11_books_2 18 rfl rfl)
theorem dX11_books_67 : decode cX11_books 67 = .ok (.invokevirtual 255, 3) := dk_182 0 255 (dk_at dksX11_books_2 20 rfl rfl)
theorem dX11_books_70 : decode cX11_books 70 = .ok (.pop, 1) := dk_87 (dk_at dksX11_books_2 23 rfl rfl)
theorem dX11_books_71 : decode cX11_books 71 = .ok (.aload_n 0, 1) := dk_42 (dk_at dksX11_books_3 0 rfl rfl)
theorem dX11_books_72 : decode cX11_books 72 = .ok (.getfield 33, 3) := dk_180 0 33 (dk_at dksX11_books_3 1 rfl rfl)
theorem dX11_books_75 : decode cX11_books 75 = .ok (.sipush 138, 3) := dk_17 0 138 (dk_at dksX11_books_3 4 rfl rfl)
theorem dX11_books_78 : decode cX11_books 78 = .ok (.iload_n 2, 1) := dk_28 (dk_at dksX11_books_3 7 rfl rfl)
theorem dX11_books_79 : decode cX11_books 79 = .ok (.iadd, 1) := dk_96 (dk_at dksX11_books_3 8 rfl rfl)
theorem dX11_books_80 : decode cX11_books 80 = .ok (.iload_n 1, 1) := dk_27 (dk_at dksX11_books_3 9 rfl rfl)
theorem dX11_books_81 : decode cX11_books 81 = .ok (.iconst 1, 1) := dk_4 (dk_at dksX11_books_3 10 rfl rfl)
theorem dX11_books_82 : decode cX11_books 82 = .ok (.iadd, 1) := dk_96 (dk_at dksX11_books_3 11 rfl rfl)
theorem dX11_books_83 : decode cX11_books 83 = .ok (.iastore, 1) := dk_79 (dk_at dksX11_books_3 12 rfl rfl)
theorem dX11_books_84 : decode cX11_books 84 = .ok (.iconst 1, 1) := dk_4 (dk_at dksX11_books_3 13 rfl rfl)
theorem dX11_books_85 : decode cX11_books 85 = .ok (.ireturn, 1) := dk_172 (dk_at dksX11_books_3 14 rfl rfl)
abbrev cX11_handOf : ByteArray := prog_23_method_27_code
def yX11_handOf : MethodName := ⟨RX11, "handOf", "(III)I"⟩
def dkwX11_handOf_1 : List UInt8 := [16, 13, 27, 104, 96, 28, 96, 46, 172]
abbrev dktX11_handOf_1 : List UInt8 := dkwX11_handOf_1 ++ []
def dkwX11_handOf_0 : List UInt8 := [42, 180, 0, 33, 16, 60, 16, 13, 27, 104, 96, 28, 96, 92, 46, 29, 96, 79, 42, 180, 0, 33, 16, 60]
abbrev dktX11_handOf_0 : List UInt8 := dkwX11_handOf_0 ++ dktX11_handOf_1
theorem dksX11_handOf_0 : cX11_handOf.data.toList.drop 0 = dktX11_handOf_0 := by decide +kernel
theorem dksX11_handOf_1 : cX11_handOf.data.toList.drop 24 = dktX11_handOf_1 := dk_seg dksX11_handOf_0 24 rfl rfl
theorem dX11_handOf_0 : decode cX11_handOf 0 = .ok (.aload_n 0, 1) := dk_42 (dk_at dksX11_handOf_0 0 rfl rfl)
theorem dX11_handOf_1 : decode cX11_handOf 1 = .ok (.getfield 33, 3) := dk_180 0 33 (dk_at dksX11_handOf_0 1 rfl rfl)
theorem dX11_handOf_4 : decode cX11_handOf 4 = .ok (.bipush 60, 2) := dk_16 60 (dk_at dksX11_handOf_0 4 rfl rfl)
theorem dX11_handOf_6 : decode cX11_handOf 6 = .ok (.bipush 13, 2) := dk_16 13 (dk_at dksX11_handOf_0 6 rfl rfl)
theorem dX11_handOf_8 : decode cX11_handOf 8 = .ok (.iload_n 1, 1) := dk_27 (dk_at dksX11_handOf_0 8 rfl rfl)
theorem dX11_handOf_9 : decode cX11_handOf 9 = .ok (.imul, 1) := dk_104 (dk_at dksX11_handOf_0 9 rfl rfl)
theorem dX11_handOf_10 : decode cX11_handOf 10 = .ok (.iadd, 1) := dk_96 (dk_at dksX11_handOf_0 10 rfl rfl)
theorem dX11_handOf_11 : decode cX11_handOf 11 = .ok (.iload_n 2, 1) := dk_28 (dk_at dksX11_handOf_0 11 rfl rfl)
theorem dX11_handOf_12 : decode cX11_handOf 12 = .ok (.iadd, 1) := dk_96 (dk_at dksX11_handOf_0 12 rfl rfl)
theorem dX11_handOf_13 : decode cX11_handOf 13 = .ok (.dup2, 1) := dk_92 (dk_at dksX11_handOf_0 13 rfl rfl)
theorem dX11_handOf_14 : decode cX11_handOf 14 = .ok (.iaload, 1) := dk_46 (dk_at dksX11_handOf_0 14 rfl rfl)
theorem dX11_handOf_15 : decode cX11_handOf 15 = .ok (.iload_n 3, 1) := dk_29 (dk_at dksX11_handOf_0 15 rfl rfl)
theorem dX11_handOf_16 : decode cX11_handOf 16 = .ok (.iadd, 1) := dk_96 (dk_at dksX11_handOf_0 16 rfl rfl)
theorem dX11_handOf_17 : decode cX11_handOf 17 = .ok (.iastore, 1) := dk_79 (dk_at dksX11_handOf_0 17 rfl rfl)
theorem dX11_handOf_18 : decode cX11_handOf 18 = .ok (.aload_n 0, 1) := dk_42 (dk_at dksX11_handOf_0 18 rfl rfl)
theorem dX11_handOf_19 : decode cX11_handOf 19 = .ok (.getfield 33, 3) := dk_180 0 33 (dk_at dksX11_handOf_0 19 rfl rfl)
theorem dX11_handOf_22 : decode cX11_handOf 22 = .ok (.bipush 60, 2) := dk_16 60 (dk_at dksX11_handOf_0 22 rfl rfl)
theorem dX11_handOf_24 : decode cX11_handOf 24 = .ok (.bipush 13, 2) := dk_16 13 (dk_at dksX11_handOf_1 0 rfl rfl)
theorem dX11_handOf_26 : decode cX11_handOf 26 = .ok (.iload_n 1, 1) := dk_27 (dk_at dksX11_handOf_1 2 rfl rfl)
theorem dX11_handOf_27 : decode cX11_handOf 27 = .ok (.imul, 1) := dk_104 (dk_at dksX11_handOf_1 3 rfl rfl)
theorem dX11_handOf_28 : decode cX11_handOf 28 = .ok (.iadd, 1) := dk_96 (dk_at dksX11_handOf_1 4 rfl rfl)
theorem dX11_handOf_29 : decode cX11_handOf 29 = .ok (.iload_n 2, 1) := dk_28 (dk_at dksX11_handOf_1 5 rfl rfl)
theorem dX11_handOf_30 : decode cX11_handOf 30 = .ok (.iadd, 1) := dk_96 (dk_at dksX11_handOf_1 6 rfl rfl)
theorem dX11_handOf_31 : decode cX11_handOf 31 = .ok (.iaload, 1) := dk_46 (dk_at dksX11_handOf_1 7 rfl rfl)
theorem dX11_handOf_32 : decode cX11_handOf 32 = .ok (.ireturn, 1) := dk_172 (dk_at dksX11_handOf_1 8 rfl rfl)
abbrev cX11_learns : ByteArray := prog_23_method_30_code
def yX11_learns : MethodName := ⟨RX11, "learns", "(II)V"⟩
def dkwX11_learns_7 : List UInt8 := [79, 177]
abbrev dktX11_learns_7 : List UInt8 := dkwX11_learns_7 ++ []
def dkwX11_learns_6 : List UInt8 := [132, 4, 1, 167, 255, 218, 42, 180, 0, 33, 17, 0, 151, 16, 13, 27, 104, 96, 28, 96, 92, 46, 4, 96]
abbrev dktX11_learns_6 : List UInt8 := dkwX11_learns_6 ++ dktX11_learns_7
def dkwX11_learns_5 : List UInt8 := [46, 162, 0, 29, 42, 180, 0, 33, 29, 21, 4, 96, 42, 180, 0, 33, 29, 21, 4, 96, 4, 96, 46, 79]
abbrev dktX11_learns_5 : List UInt8 := dkwX11_learns_5 ++ dktX11_learns_6
def dkwX11_learns_4 : List UInt8 := [180, 0, 33, 17, 0, 229, 27, 96, 92, 46, 4, 100, 79, 21, 4, 42, 180, 0, 33, 17, 0, 229, 27, 96]
abbrev dktX11_learns_4 : List UInt8 := dkwX11_learns_4 ++ dktX11_learns_5
def dkwX11_learns_3 : List UInt8 := [27, 96, 46, 160, 0, 20, 3, 54, 4, 42, 180, 0, 33, 17, 2, 35, 27, 96, 92, 46, 4, 96, 79, 42]
abbrev dktX11_learns_3 : List UInt8 := dkwX11_learns_3 ++ dktX11_learns_4
def dkwX11_learns_2 : List UInt8 := [96, 46, 28, 184, 0, 252, 153, 0, 9, 132, 4, 1, 167, 255, 222, 21, 4, 42, 180, 0, 33, 17, 0, 229]
abbrev dktX11_learns_2 : List UInt8 := dkwX11_learns_2 ++ dktX11_learns_3
def dkwX11_learns_1 : List UInt8 := [54, 4, 21, 4, 42, 180, 0, 33, 17, 0, 229, 27, 96, 46, 162, 0, 25, 42, 180, 0, 33, 29, 21, 4]
abbrev dktX11_learns_1 : List UInt8 := dkwX11_learns_1 ++ dktX11_learns_2
def dkwX11_learns_0 : List UInt8 := [42, 180, 0, 33, 17, 0, 229, 27, 96, 46, 154, 0, 4, 177, 17, 0, 235, 16, 52, 27, 104, 96, 62, 3]
abbrev dktX11_learns_0 : List UInt8 := dkwX11_learns_0 ++ dktX11_learns_1
theorem dksX11_learns_0 : cX11_learns.data.toList.drop 0 = dktX11_learns_0 := by decide +kernel
theorem dksX11_learns_1 : cX11_learns.data.toList.drop 24 = dktX11_learns_1 := dk_seg dksX11_learns_0 24 rfl rfl
theorem dksX11_learns_2 : cX11_learns.data.toList.drop 48 = dktX11_learns_2 := dk_seg dksX11_learns_1 24 rfl rfl
theorem dksX11_learns_3 : cX11_learns.data.toList.drop 72 = dktX11_learns_3 := dk_seg dksX11_learns_2 24 rfl rfl
theorem dksX11_learns_4 : cX11_learns.data.toList.drop 96 = dktX11_learns_4 := dk_seg dksX11_learns_3 24 rfl rfl
theorem dksX11_learns_5 : cX11_learns.data.toList.drop 120 = dktX11_learns_5 := dk_seg dksX11_learns_4 24 rfl rfl
theorem dksX11_learns_6 : cX11_learns.data.toList.drop 144 = dktX11_learns_6 := dk_seg dksX11_learns_5 24 rfl rfl
theorem dksX11_learns_7 : cX11_learns.data.toList.drop 168 = dktX11_learns_7 := dk_seg dksX11_learns_6 24 rfl rfl
theorem dX11_learns_0 : decode cX11_learns 0 = .ok (.aload_n 0, 1) := dk_42 (dk_at dksX11_learns_0 0 rfl rfl)
theorem dX11_learns_1 : decode cX11_learns 1 = .ok (.getfield 33, 3) := dk_180 0 33 (dk_at dksX11_learns_0 1 rfl rfl)
theorem dX11_learns_4 : decode cX11_learns 4 = .ok (.sipush 229, 3) := dk_17 0 229 (dk_at dksX11_learns_0 4 rfl rfl)
theorem dX11_learns_7 : decode cX11_learns 7 = .ok (.iload_n 1, 1) := dk_27 (dk_at dksX11_learns_0 7 rfl rfl)
theorem dX11_learns_8 : decode cX11_learns 8 = .ok (.iadd, 1) := dk_96 (dk_at dksX11_learns_0 8 rfl rfl)
theorem dX11_learns_9 : decode cX11_learns 9 = .ok (.iaload, 1) := dk_46 (dk_at dksX11_learns_0 9 rfl rfl)
theorem dX11_learns_10 : decode cX11_learns 10 = .ok (.ifCond .ne 4, 3) := dk_154 0 4 (dk_at dksX11_learns_0 10 rfl rfl)
theorem dX11_learns_13 : decode cX11_learns 13 = .ok (.return_, 1) := dk_177 (dk_at dksX11_learns_0 13 rfl rfl)
theorem dX11_learns_14 : decode cX11_learns 14 = .ok (.sipush 235, 3) := dk_17 0 235 (dk_at dksX11_learns_0 14 rfl rfl)
theorem dX11_learns_17 : decode cX11_learns 17 = .ok (.bipush 52, 2) := dk_16 52 (dk_at dksX11_learns_0 17 rfl rfl)
theorem dX11_learns_19 : decode cX11_learns 19 = .ok (.iload_n 1, 1) := dk_27 (dk_at dksX11_learns_0 19 rfl rfl)
theorem dX11_learns_20 : decode cX11_learns 20 = .ok (.imul, 1) := dk_104 (dk_at dksX11_learns_0 20 rfl rfl)
theorem dX11_learns_21 : decode cX11_learns 21 = .ok (.iadd, 1) := dk_96 (dk_at dksX11_learns_0 21 rfl rfl)
theorem dX11_learns_22 : decode cX11_learns 22 = .ok (.istore_n 3, 1) := dk_62 (dk_at dksX11_learns_0 22 rfl rfl)
theorem dX11_learns_23 : decode cX11_learns 23 = .ok (.iconst 0, 1) := dk_3 (dk_at dksX11_learns_0 23 rfl rfl)
theorem dX11_learns_24 : decode cX11_learns 24 = .ok (.istore 4, 2) := dk_54 4 (dk_at dksX11_learns_1 0 rfl rfl)
theorem dX11_learns_26 : decode cX11_learns 26 = .ok (.iload 4, 2) := dk_21 4 (dk_at dksX11_learns_1 2 rfl rfl)
theorem dX11_learns_28 : decode cX11_learns 28 = .ok (.aload_n 0, 1) := dk_42 (dk_at dksX11_learns_1 4 rfl rfl)
theorem dX11_learns_29 : decode cX11_learns 29 = .ok (.getfield 33, 3) := dk_180 0 33 (dk_at dksX11_learns_1 5 rfl rfl)
theorem dX11_learns_32 : decode cX11_learns 32 = .ok (.sipush 229, 3) := dk_17 0 229 (dk_at dksX11_learns_1 8 rfl rfl)
theorem dX11_learns_35 : decode cX11_learns 35 = .ok (.iload_n 1, 1) := dk_27 (dk_at dksX11_learns_1 11 rfl rfl)
theorem dX11_learns_36 : decode cX11_learns 36 = .ok (.iadd, 1) := dk_96 (dk_at dksX11_learns_1 12 rfl rfl)
theorem dX11_learns_37 : decode cX11_learns 37 = .ok (.iaload, 1) := dk_46 (dk_at dksX11_learns_1 13 rfl rfl)
theorem dX11_learns_38 : decode cX11_learns 38 = .ok (.if_icmp .ge 25, 3) := dk_162 0 25 (dk_at dksX11_learns_1 14 rfl rfl)
theorem dX11_learns_41 : decode cX11_learns 41 = .ok (.aload_n 0, 1) := dk_42 (dk_at dksX11_learns_1 17 rfl rfl)
theorem dX11_learns_42 : decode cX11_learns 42 = .ok (.getfield 33, 3) := dk_180 0 33 (dk_at dksX11_learns_1 18 rfl rfl)
theorem dX11_learns_45 : decode cX11_learns 45 = .ok (.iload_n 3, 1) := dk_29 (dk_at dksX11_learns_1 21 rfl rfl)
theorem dX11_learns_46 : decode cX11_learns 46 = .ok (.iload 4, 2) := dk_21 4 (dk_at dksX11_learns_1 22 rfl rfl)
theorem dX11_learns_48 : decode cX11_learns 48 = .ok (.iadd, 1) := dk_96 (dk_at dksX11_learns_2 0 rfl rfl)
theorem dX11_learns_49 : decode cX11_learns 49 = .ok (.iaload, 1) := dk_46 (dk_at dksX11_learns_2 1 rfl rfl)
theorem dX11_learns_50 : decode cX11_learns 50 = .ok (.iload_n 2, 1) := dk_28 (dk_at dksX11_learns_2 2 rfl rfl)
theorem dX11_learns_51 : decode cX11_learns 51 = .ok (.invokestatic 252, 3) := dk_184 0 252 (dk_at dksX11_learns_2 3 rfl rfl)
theorem dX11_learns_54 : decode cX11_learns 54 = .ok (.ifCond .eq 9, 3) := dk_153 0 9 (dk_at dksX11_learns_2 6 rfl rfl)
theorem dX11_learns_57 : decode cX11_learns 57 = .ok (.iinc 4 1, 3) := dk_132 4 1 (dk_at dksX11_learns_2 9 rfl rfl)
theorem dX11_learns_60 : decode cX11_learns 60 = .ok (.goto (-34), 3) := dk_167 255 222 (dk_at dksX11_learns_2 12 rfl rfl)
theorem dX11_learns_63 : decode cX11_learns 63 = .ok (.iload 4, 2) := dk_21 4 (dk_at dksX11_learns_2 15 rfl rfl)
theorem dX11_learns_65 : decode cX11_learns 65 = .ok (.aload_n 0, 1) := dk_42 (dk_at dksX11_learns_2 17 rfl rfl)
theorem dX11_learns_66 : decode cX11_learns 66 = .ok (.getfield 33, 3) := dk_180 0 33 (dk_at dksX11_learns_2 18 rfl rfl)
theorem dX11_learns_69 : decode cX11_learns 69 = .ok (.sipush 229, 3) := dk_17 0 229 (dk_at dksX11_learns_2 21 rfl rfl)
theorem dX11_learns_72 : decode cX11_learns 72 = .ok (.iload_n 1, 1) := dk_27 (dk_at dksX11_learns_3 0 rfl rfl)
theorem dX11_learns_73 : decode cX11_learns 73 = .ok (.iadd, 1) := dk_96 (dk_at dksX11_learns_3 1 rfl rfl)
theorem dX11_learns_74 : decode cX11_learns 74 = .ok (.iaload, 1) := dk_46 (dk_at dksX11_learns_3 2 rfl rfl)
theorem dX11_learns_75 : decode cX11_learns 75 = .ok (.if_icmp .ne 20, 3) := dk_160 0 20 (dk_at dksX11_learns_3 3 rfl rfl)
theorem dX11_learns_78 : decode cX11_learns 78 = .ok (.iconst 0, 1) := dk_3 (dk_at dksX11_learns_3 6 rfl rfl)
theorem dX11_learns_79 : decode cX11_learns 79 = .ok (.istore 4, 2) := dk_54 4 (dk_at dksX11_learns_3 7 rfl rfl)
theorem dX11_learns_81 : decode cX11_learns 81 = .ok (.aload_n 0, 1) := dk_42 (dk_at dksX11_learns_3 9 rfl rfl)
theorem dX11_learns_82 : decode cX11_learns 82 = .ok (.getfield 33, 3) := dk_180 0 33 (dk_at dksX11_learns_3 10 rfl rfl)
theorem dX11_learns_85 : decode cX11_learns 85 = .ok (.sipush 547, 3) := dk_17 2 35 (dk_at dksX11_learns_3 13 rfl rfl)
theorem dX11_learns_88 : decode cX11_learns 88 = .ok (.iload_n 1, 1) := dk_27 (dk_at dksX11_learns_3 16 rfl rfl)
theorem dX11_learns_89 : decode cX11_learns 89 = .ok (.iadd, 1) := dk_96 (dk_at dksX11_learns_3 17 rfl rfl)
theorem dX11_learns_90 : decode cX11_learns 90 = .ok (.dup2, 1) := dk_92 (dk_at dksX11_learns_3 18 rfl rfl)
theorem dX11_learns_91 : decode cX11_learns 91 = .ok (.iaload, 1) := dk_46 (dk_at dksX11_learns_3 19 rfl rfl)
theorem dX11_learns_92 : decode cX11_learns 92 = .ok (.iconst 1, 1) := dk_4 (dk_at dksX11_learns_3 20 rfl rfl)
theorem dX11_learns_93 : decode cX11_learns 93 = .ok (.iadd, 1) := dk_96 (dk_at dksX11_learns_3 21 rfl rfl)
theorem dX11_learns_94 : decode cX11_learns 94 = .ok (.iastore, 1) := dk_79 (dk_at dksX11_learns_3 22 rfl rfl)
theorem dX11_learns_95 : decode cX11_learns 95 = .ok (.aload_n 0, 1) := dk_42 (dk_at dksX11_learns_3 23 rfl rfl)
theorem dX11_learns_96 : decode cX11_learns 96 = .ok (.getfield 33, 3) := dk_180 0 33 (dk_at dksX11_learns_4 0 rfl rfl)
theorem dX11_learns_99 : decode cX11_learns 99 = .ok (.sipush 229, 3) := dk_17 0 229 (dk_at dksX11_learns_4 3 rfl rfl)
theorem dX11_learns_102 : decode cX11_learns 102 = .ok (.iload_n 1, 1) := dk_27 (dk_at dksX11_learns_4 6 rfl rfl)
theorem dX11_learns_103 : decode cX11_learns 103 = .ok (.iadd, 1) := dk_96 (dk_at dksX11_learns_4 7 rfl rfl)
theorem dX11_learns_104 : decode cX11_learns 104 = .ok (.dup2, 1) := dk_92 (dk_at dksX11_learns_4 8 rfl rfl)
theorem dX11_learns_105 : decode cX11_learns 105 = .ok (.iaload, 1) := dk_46 (dk_at dksX11_learns_4 9 rfl rfl)
theorem dX11_learns_106 : decode cX11_learns 106 = .ok (.iconst 1, 1) := dk_4 (dk_at dksX11_learns_4 10 rfl rfl)
theorem dX11_learns_107 : decode cX11_learns 107 = .ok (.isub, 1) := dk_100 (dk_at dksX11_learns_4 11 rfl rfl)
theorem dX11_learns_108 : decode cX11_learns 108 = .ok (.iastore, 1) := dk_79 (dk_at dksX11_learns_4 12 rfl rfl)
theorem dX11_learns_109 : decode cX11_learns 109 = .ok (.iload 4, 2) := dk_21 4 (dk_at dksX11_learns_4 13 rfl rfl)
theorem dX11_learns_111 : decode cX11_learns 111 = .ok (.aload_n 0, 1) := dk_42 (dk_at dksX11_learns_4 15 rfl rfl)
theorem dX11_learns_112 : decode cX11_learns 112 = .ok (.getfield 33, 3) := dk_180 0 33 (dk_at dksX11_learns_4 16 rfl rfl)
theorem dX11_learns_115 : decode cX11_learns 115 = .ok (.sipush 229, 3) := dk_17 0 229 (dk_at dksX11_learns_4 19 rfl rfl)
theorem dX11_learns_118 : decode cX11_learns 118 = .ok (.iload_n 1, 1) := dk_27 (dk_at dksX11_learns_4 22 rfl rfl)
theorem dX11_learns_119 : decode cX11_learns 119 = .ok (.iadd, 1) := dk_96 (dk_at dksX11_learns_4 23 rfl rfl)
theorem dX11_learns_120 : decode cX11_learns 120 = .ok (.iaload, 1) := dk_46 (dk_at dksX11_learns_5 0 rfl rfl)
theorem dX11_learns_121 : decode cX11_learns 121 = .ok (.if_icmp .ge 29, 3) := dk_162 0 29 (dk_at dksX11_learns_5 1 rfl rfl)
theorem dX11_learns_124 : decode cX11_learns 124 = .ok (.aload_n 0, 1) := dk_42 (dk_at dksX11_learns_5 4 rfl rfl)
theorem dX11_learns_125 : decode cX11_learns 125 = .ok (.getfield 33, 3) := dk_180 0 33 (dk_at dksX11_learns_5 5 rfl rfl)
theorem dX11_learns_128 : decode cX11_learns 128 = .ok (.iload_n 3, 1) := dk_29 (dk_at dksX11_learns_5 8 rfl rfl)
theorem dX11_learns_129 : decode cX11_learns 129 = .ok (.iload 4, 2) := dk_21 4 (dk_at dksX11_learns_5 9 rfl rfl)
theorem dX11_learns_131 : decode cX11_learns 131 = .ok (.iadd, 1) := dk_96 (dk_at dksX11_learns_5 11 rfl rfl)
theorem dX11_learns_132 : decode cX11_learns 132 = .ok (.aload_n 0, 1) := dk_42 (dk_at dksX11_learns_5 12 rfl rfl)
theorem dX11_learns_133 : decode cX11_learns 133 = .ok (.getfield 33, 3) := dk_180 0 33 (dk_at dksX11_learns_5 13 rfl rfl)
theorem dX11_learns_136 : decode cX11_learns 136 = .ok (.iload_n 3, 1) := dk_29 (dk_at dksX11_learns_5 16 rfl rfl)
theorem dX11_learns_137 : decode cX11_learns 137 = .ok (.iload 4, 2) := dk_21 4 (dk_at dksX11_learns_5 17 rfl rfl)
theorem dX11_learns_139 : decode cX11_learns 139 = .ok (.iadd, 1) := dk_96 (dk_at dksX11_learns_5 19 rfl rfl)
theorem dX11_learns_140 : decode cX11_learns 140 = .ok (.iconst 1, 1) := dk_4 (dk_at dksX11_learns_5 20 rfl rfl)
theorem dX11_learns_141 : decode cX11_learns 141 = .ok (.iadd, 1) := dk_96 (dk_at dksX11_learns_5 21 rfl rfl)
theorem dX11_learns_142 : decode cX11_learns 142 = .ok (.iaload, 1) := dk_46 (dk_at dksX11_learns_5 22 rfl rfl)
theorem dX11_learns_143 : decode cX11_learns 143 = .ok (.iastore, 1) := dk_79 (dk_at dksX11_learns_5 23 rfl rfl)
theorem dX11_learns_144 : decode cX11_learns 144 = .ok (.iinc 4 1, 3) := dk_132 4 1 (dk_at dksX11_learns_6 0 rfl rfl)
theorem dX11_learns_147 : decode cX11_learns 147 = .ok (.goto (-38), 3) := dk_167 255 218 (dk_at dksX11_learns_6 3 rfl rfl)
theorem dX11_learns_150 : decode cX11_learns 150 = .ok (.aload_n 0, 1) := dk_42 (dk_at dksX11_learns_6 6 rfl rfl)
theorem dX11_learns_151 : decode cX11_learns 151 = .ok (.getfield 33, 3) := dk_180 0 33 (dk_at dksX11_learns_6 7 rfl rfl)
theorem dX11_learns_154 : decode cX11_learns 154 = .ok (.sipush 151, 3) := dk_17 0 151 (dk_at dksX11_learns_6 10 rfl rfl)
theorem dX11_learns_157 : decode cX11_learns 157 = .ok (.bipush 13, 2) := dk_16 13 (dk_at dksX11_learns_6 13 rfl rfl)
theorem dX11_learns_159 : decode cX11_learns 159 = .ok (.iload_n 1, 1) := dk_27 (dk_at dksX11_learns_6 15 rfl rfl)
theorem dX11_learns_160 : decode cX11_learns 160 = .ok (.imul, 1) := dk_104 (dk_at dksX11_learns_6 16 rfl rfl)
theorem dX11_learns_161 : decode cX11_learns 161 = .ok (.iadd, 1) := dk_96 (dk_at dksX11_learns_6 17 rfl rfl)
theorem dX11_learns_162 : decode cX11_learns 162 = .ok (.iload_n 2, 1) := dk_28 (dk_at dksX11_learns_6 18 rfl rfl)
theorem dX11_learns_163 : decode cX11_learns 163 = .ok (.iadd, 1) := dk_96 (dk_at dksX11_learns_6 19 rfl rfl)
theorem dX11_learns_164 : decode cX11_learns 164 = .ok (.dup2, 1) := dk_92 (dk_at dksX11_learns_6 20 rfl rfl)
theorem dX11_learns_165 : decode cX11_learns 165 = .ok (.iaload, 1) := dk_46 (dk_at dksX11_learns_6 21 rfl rfl)
theorem dX11_learns_166 : decode cX11_learns 166 = .ok (.iconst 1, 1) := dk_4 (dk_at dksX11_learns_6 22 rfl rfl)
theorem dX11_learns_167 : decode cX11_learns 167 = .ok (.iadd, 1) := dk_96 (dk_at dksX11_learns_6 23 rfl rfl)
theorem dX11_learns_168 : decode cX11_learns 168 = .ok (.iastore, 1) := dk_79 (dk_at dksX11_learns_7 0 rfl rfl)
theorem dX11_learns_169 : decode cX11_learns 169 = .ok (.return_, 1) := dk_177 (dk_at dksX11_learns_7 1 rfl rfl)
abbrev cX11_bitOf : ByteArray := prog_23_method_8_code
def yX11_bitOf : MethodName := ⟨RX11, "bitOf", "(II)Z"⟩
def dkwX11_bitOf_0 : List UInt8 := [26, 27, 122, 4, 126, 4, 160, 0, 7, 4, 167, 0, 4, 3, 172]
abbrev dktX11_bitOf_0 : List UInt8 := dkwX11_bitOf_0 ++ []
theorem dksX11_bitOf_0 : cX11_bitOf.data.toList.drop 0 = dktX11_bitOf_0 := by decide +kernel
theorem dX11_bitOf_0 : decode cX11_bitOf 0 = .ok (.iload_n 0, 1) := dk_26 (dk_at dksX11_bitOf_0 0 rfl rfl)
theorem dX11_bitOf_1 : decode cX11_bitOf 1 = .ok (.iload_n 1, 1) := dk_27 (dk_at dksX11_bitOf_0 1 rfl rfl)
theorem dX11_bitOf_2 : decode cX11_bitOf 2 = .ok (.ishr, 1) := dk_122 (dk_at dksX11_bitOf_0 2 rfl rfl)
theorem dX11_bitOf_3 : decode cX11_bitOf 3 = .ok (.iconst 1, 1) := dk_4 (dk_at dksX11_bitOf_0 3 rfl rfl)
theorem dX11_bitOf_4 : decode cX11_bitOf 4 = .ok (.iand, 1) := dk_126 (dk_at dksX11_bitOf_0 4 rfl rfl)
theorem dX11_bitOf_5 : decode cX11_bitOf 5 = .ok (.iconst 1, 1) := dk_4 (dk_at dksX11_bitOf_0 5 rfl rfl)
theorem dX11_bitOf_6 : decode cX11_bitOf 6 = .ok (.if_icmp .ne 7, 3) := dk_160 0 7 (dk_at dksX11_bitOf_0 6 rfl rfl)
theorem dX11_bitOf_9 : decode cX11_bitOf 9 = .ok (.iconst 1, 1) := dk_4 (dk_at dksX11_bitOf_0 9 rfl rfl)
theorem dX11_bitOf_10 : decode cX11_bitOf 10 = .ok (.goto 4, 3) := dk_167 0 4 (dk_at dksX11_bitOf_0 10 rfl rfl)
theorem dX11_bitOf_13 : decode cX11_bitOf 13 = .ok (.iconst 0, 1) := dk_3 (dk_at dksX11_bitOf_0 13 rfl rfl)
theorem dX11_bitOf_14 : decode cX11_bitOf 14 = .ok (.ireturn, 1) := dk_172 (dk_at dksX11_bitOf_0 14 rfl rfl)
abbrev cX11_settles : ByteArray := prog_23_method_35_code
def yX11_settles : MethodName := ⟨RX11, "settles", "(I)V"⟩
def dkwX11_settles_2 : List UInt8 := [180, 0, 33, 7, 29, 79, 177, 132, 2, 1, 167, 255, 208, 177]
abbrev dktX11_settles_2 : List UInt8 := dkwX11_settles_2 ++ []
def dkwX11_settles_1 : List UInt8 := [180, 0, 33, 4, 46, 112, 62, 42, 29, 182, 1, 20, 42, 29, 182, 1, 7, 154, 0, 6, 167, 0, 11, 42]
abbrev dktX11_settles_1 : List UInt8 := dkwX11_settles_1 ++ dktX11_settles_2
def dkwX11_settles_0 : List UInt8 := [42, 180, 0, 33, 7, 2, 79, 3, 61, 28, 42, 180, 0, 33, 4, 46, 162, 0, 44, 27, 28, 96, 42]
abbrev dktX11_settles_0 : List UInt8 := dkwX11_settles_0 ++ dktX11_settles_1
theorem dksX11_settles_0 : cX11_settles.data.toList.drop 0 = dktX11_settles_0 := by decide +kernel
theorem dksX11_settles_1 : cX11_settles.data.toList.drop 23 = dktX11_settles_1 := dk_seg dksX11_settles_0 23 rfl rfl
theorem dksX11_settles_2 : cX11_settles.data.toList.drop 47 = dktX11_settles_2 := dk_seg dksX11_settles_1 24 rfl rfl
theorem dX11_settles_0 : decode cX11_settles 0 = .ok (.aload_n 0, 1) := dk_42 (dk_at dksX11_settles_0 0 rfl rfl)
theorem dX11_settles_1 : decode cX11_settles 1 = .ok (.getfield 33, 3) := dk_180 0 33 (dk_at dksX11_settles_0 1 rfl rfl)
theorem dX11_settles_4 : decode cX11_settles 4 = .ok (.iconst 4, 1) := dk_7 (dk_at dksX11_settles_0 4 rfl rfl)
theorem dX11_settles_5 : decode cX11_settles 5 = .ok (.iconst (-1), 1) := dk_2 (dk_at dksX11_settles_0 5 rfl rfl)
theorem dX11_settles_6 : decode cX11_settles 6 = .ok (.iastore, 1) := dk_79 (dk_at dksX11_settles_0 6 rfl rfl)
theorem dX11_settles_7 : decode cX11_settles 7 = .ok (.iconst 0, 1) := dk_3 (dk_at dksX11_settles_0 7 rfl rfl)
theorem dX11_settles_8 : decode cX11_settles 8 = .ok (.istore_n 2, 1) := dk_61 (dk_at dksX11_settles_0 8 rfl rfl)
theorem dX11_settles_9 : decode cX11_settles 9 = .ok (.iload_n 2, 1) := dk_28 (dk_at dksX11_settles_0 9 rfl rfl)
theorem dX11_settles_10 : decode cX11_settles 10 = .ok (.aload_n 0, 1) := dk_42 (dk_at dksX11_settles_0 10 rfl rfl)
theorem dX11_settles_11 : decode cX11_settles 11 = .ok (.getfield 33, 3) := dk_180 0 33 (dk_at dksX11_settles_0 11 rfl rfl)
theorem dX11_settles_14 : decode cX11_settles 14 = .ok (.iconst 1, 1) := dk_4 (dk_at dksX11_settles_0 14 rfl rfl)
theorem dX11_settles_15 : decode cX11_settles 15 = .ok (.iaload, 1) := dk_46 (dk_at dksX11_settles_0 15 rfl rfl)
theorem dX11_settles_16 : decode cX11_settles 16 = .ok (.if_icmp .ge 44, 3) := dk_162 0 44 (dk_at dksX11_settles_0 16 rfl rfl)
theorem dX11_settles_19 : decode cX11_settles 19 = .ok (.iload_n 1, 1) := dk_27 (dk_at dksX11_settles_0 19 rfl rfl)
theorem dX11_settles_20 : decode cX11_settles 20 = .ok (.iload_n 2, 1) := dk_28 (dk_at dksX11_settles_0 20 rfl rfl)
theorem dX11_settles_21 : decode cX11_settles 21 = .ok (.iadd, 1) := dk_96 (dk_at dksX11_settles_0 21 rfl rfl)
theorem dX11_settles_22 : decode cX11_settles 22 = .ok (.aload_n 0, 1) := dk_42 (dk_at dksX11_settles_0 22 rfl rfl)
theorem dX11_settles_23 : decode cX11_settles 23 = .ok (.getfield 33, 3) := dk_180 0 33 (dk_at dksX11_settles_1 0 rfl rfl)
theorem dX11_settles_26 : decode cX11_settles 26 = .ok (.iconst 1, 1) := dk_4 (dk_at dksX11_settles_1 3 rfl rfl)
theorem dX11_settles_27 : decode cX11_settles 27 = .ok (.iaload, 1) := dk_46 (dk_at dksX11_settles_1 4 rfl rfl)
theorem dX11_settles_28 : decode cX11_settles 28 = .ok (.irem, 1) := dk_112 (dk_at dksX11_settles_1 5 rfl rfl)
theorem dX11_settles_29 : decode cX11_settles 29 = .ok (.istore_n 3, 1) := dk_62 (dk_at dksX11_settles_1 6 rfl rfl)
theorem dX11_settles_30 : decode cX11_settles 30 = .ok (.aload_n 0, 1) := dk_42 (dk_at dksX11_settles_1 7 rfl rfl)
theorem dX11_settles_31 : decode cX11_settles 31 = .ok (.iload_n 3, 1) := dk_29 (dk_at dksX11_settles_1 8 rfl rfl)
theorem dX11_settles_32 : decode cX11_settles 32 = .ok (.invokevirtual 276, 3) := dk_182 1 20 (dk_at dksX11_settles_1 9 rfl rfl)
theorem dX11_settles_35 : decode cX11_settles 35 = .ok (.aload_n 0, 1) := dk_42 (dk_at dksX11_settles_1 12 rfl rfl)
theorem dX11_settles_36 : decode cX11_settles 36 = .ok (.iload_n 3, 1) := dk_29 (dk_at dksX11_settles_1 13 rfl rfl)
theorem dX11_settles_37 : decode cX11_settles 37 = .ok (.invokevirtual 263, 3) := dk_182 1 7 (dk_at dksX11_settles_1 14 rfl rfl)
theorem dX11_settles_40 : decode cX11_settles 40 = .ok (.ifCond .ne 6, 3) := dk_154 0 6 (dk_at dksX11_settles_1 17 rfl rfl)
theorem dX11_settles_43 : decode cX11_settles 43 = .ok (.goto 11, 3) := dk_167 0 11 (dk_at dksX11_settles_1 20 rfl rfl)
theorem dX11_settles_46 : decode cX11_settles 46 = .ok (.aload_n 0, 1) := dk_42 (dk_at dksX11_settles_1 23 rfl rfl)
theorem dX11_settles_47 : decode cX11_settles 47 = .ok (.getfield 33, 3) := dk_180 0 33 (dk_at dksX11_settles_2 0 rfl rfl)
theorem dX11_settles_50 : decode cX11_settles 50 = .ok (.iconst 4, 1) := dk_7 (dk_at dksX11_settles_2 3 rfl rfl)
theorem dX11_settles_51 : decode cX11_settles 51 = .ok (.iload_n 3, 1) := dk_29 (dk_at dksX11_settles_2 4 rfl rfl)
theorem dX11_settles_52 : decode cX11_settles 52 = .ok (.iastore, 1) := dk_79 (dk_at dksX11_settles_2 5 rfl rfl)
theorem dX11_settles_53 : decode cX11_settles 53 = .ok (.return_, 1) := dk_177 (dk_at dksX11_settles_2 6 rfl rfl)
theorem dX11_settles_54 : decode cX11_settles 54 = .ok (.iinc 2 1, 3) := dk_132 2 1 (dk_at dksX11_settles_2 7 rfl rfl)
theorem dX11_settles_57 : decode cX11_settles 57 = .ok (.goto (-48), 3) := dk_167 255 208 (dk_at dksX11_settles_2 10 rfl rfl)
theorem dX11_settles_60 : decode cX11_settles 60 = .ok (.return_, 1) := dk_177 (dk_at dksX11_settles_2 13 rfl rfl)
abbrev cX11_refills : ByteArray := prog_23_method_34_code
def yX11_refills : MethodName := ⟨RX11, "refills", "(I)V"⟩
def dkwX11_refills_4 : List UInt8 := [167, 255, 162, 177]
abbrev dktX11_refills_4 : List UInt8 := dkwX11_refills_4 ++ []
def dkwX11_refills_3 : List UInt8 := [54, 4, 42, 27, 3, 182, 1, 14, 42, 27, 21, 4, 182, 1, 17, 87, 132, 3, 1, 167, 255, 227]
abbrev dktX11_refills_3 : List UInt8 := dkwX11_refills_3 ++ dktX11_refills_4
def dkwX11_refills_2 : List UInt8 := [46, 167, 0, 10, 42, 180, 0, 33, 16, 7, 46, 61, 3, 62, 29, 28, 162, 0, 30, 42, 27, 182, 1, 11]
abbrev dktX11_refills_2 : List UInt8 := dkwX11_refills_2 ++ dktX11_refills_3
def dkwX11_refills_1 : List UInt8 := [158, 0, 73, 42, 180, 0, 33, 6, 46, 42, 180, 0, 33, 16, 7, 46, 162, 0, 12, 42, 180, 0, 33, 6]
abbrev dktX11_refills_1 : List UInt8 := dkwX11_refills_1 ++ dktX11_refills_2
def dkwX11_refills_0 : List UInt8 := [42, 27, 182, 1, 7, 154, 0, 92, 42, 180, 0, 33, 16, 7, 46, 158, 0, 82, 42, 180, 0, 33, 6, 46]
abbrev dktX11_refills_0 : List UInt8 := dkwX11_refills_0 ++ dktX11_refills_1
theorem dksX11_refills_0 : cX11_refills.data.toList.drop 0 = dktX11_refills_0 := by decide +kernel
theorem dksX11_refills_1 : cX11_refills.data.toList.drop 24 = dktX11_refills_1 := dk_seg dksX11_refills_0 24 rfl rfl
theorem dksX11_refills_2 : cX11_refills.data.toList.drop 48 = dktX11_refills_2 := dk_seg dksX11_refills_1 24 rfl rfl
theorem dksX11_refills_3 : cX11_refills.data.toList.drop 72 = dktX11_refills_3 := dk_seg dksX11_refills_2 24 rfl rfl
theorem dksX11_refills_4 : cX11_refills.data.toList.drop 94 = dktX11_refills_4 := dk_seg dksX11_refills_3 22 rfl rfl
theorem dX11_refills_0 : decode cX11_refills 0 = .ok (.aload_n 0, 1) := dk_42 (dk_at dksX11_refills_0 0 rfl rfl)
theorem dX11_refills_1 : decode cX11_refills 1 = .ok (.iload_n 1, 1) := dk_27 (dk_at dksX11_refills_0 1 rfl rfl)
theorem dX11_refills_2 : decode cX11_refills 2 = .ok (.invokevirtual 263, 3) := dk_182 1 7 (dk_at dksX11_refills_0 2 rfl rfl)
theorem dX11_refills_5 : decode cX11_refills 5 = .ok (.ifCond .ne 92, 3) := dk_154 0 92 (dk_at dksX11_refills_0 5 rfl rfl)
theorem dX11_refills_8 : decode cX11_refills 8 = .ok (.aload_n 0, 1) := dk_42 (dk_at dksX11_refills_0 8 rfl rfl)
theorem dX11_refills_9 : decode cX11_refills 9 = .ok (.getfield 33, 3) := dk_180 0 33 (dk_at dksX11_refills_0 9 rfl rfl)
theorem dX11_refills_12 : decode cX11_refills 12 = .ok (.bipush 7, 2) := dk_16 7 (dk_at dksX11_refills_0 12 rfl rfl)
theorem dX11_refills_14 : decode cX11_refills 14 = .ok (.iaload, 1) := dk_46 (dk_at dksX11_refills_0 14 rfl rfl)
theorem dX11_refills_15 : decode cX11_refills 15 = .ok (.ifCond .le 82, 3) := dk_158 0 82 (dk_at dksX11_refills_0 15 rfl rfl)
theorem dX11_refills_18 : decode cX11_refills 18 = .ok (.aload_n 0, 1) := dk_42 (dk_at dksX11_refills_0 18 rfl rfl)
theorem dX11_refills_19 : decode cX11_refills 19 = .ok (.getfield 33, 3) := dk_180 0 33 (dk_at dksX11_refills_0 19 rfl rfl)
theorem dX11_refills_22 : decode cX11_refills 22 = .ok (.iconst 3, 1) := dk_6 (dk_at dksX11_refills_0 22 rfl rfl)
theorem dX11_refills_23 : decode cX11_refills 23 = .ok (.iaload, 1) := dk_46 (dk_at dksX11_refills_0 23 rfl rfl)
theorem dX11_refills_24 : decode cX11_refills 24 = .ok (.ifCond .le 73, 3) := dk_158 0 73 (dk_at dksX11_refills_1 0 rfl rfl)
theorem dX11_refills_27 : decode cX11_refills 27 = .ok (.aload_n 0, 1) := dk_42 (dk_at dksX11_refills_1 3 rfl rfl)
theorem dX11_refills_28 : decode cX11_refills 28 = .ok (.getfield 33, 3) := dk_180 0 33 (dk_at dksX11_refills_1 4 rfl rfl)
theorem dX11_refills_31 : decode cX11_refills 31 = .ok (.iconst 3, 1) := dk_6 (dk_at dksX11_refills_1 7 rfl rfl)
theorem dX11_refills_32 : decode cX11_refills 32 = .ok (.iaload, 1) := dk_46 (dk_at dksX11_refills_1 8 rfl rfl)
theorem dX11_refills_33 : decode cX11_refills 33 = .ok (.aload_n 0, 1) := dk_42 (dk_at dksX11_refills_1 9 rfl rfl)
theorem dX11_refills_34 : decode cX11_refills 34 = .ok (.getfield 33, 3) := dk_180 0 33 (dk_at dksX11_refills_1 10 rfl rfl)
theorem dX11_refills_37 : decode cX11_refills 37 = .ok (.bipush 7, 2) := dk_16 7 (dk_at dksX11_refills_1 13 rfl rfl)
theorem dX11_refills_39 : decode cX11_refills 39 = .ok (.iaload, 1) := dk_46 (dk_at dksX11_refills_1 15 rfl rfl)
theorem dX11_refills_40 : decode cX11_refills 40 = .ok (.if_icmp .ge 12, 3) := dk_162 0 12 (dk_at dksX11_refills_1 16 rfl rfl)
theorem dX11_refills_43 : decode cX11_refills 43 = .ok (.aload_n 0, 1) := dk_42 (dk_at dksX11_refills_1 19 rfl rfl)
theorem dX11_refills_44 : decode cX11_refills 44 = .ok (.getfield 33, 3) := dk_180 0 33 (dk_at dksX11_refills_1 20 rfl rfl)
theorem dX11_refills_47 : decode cX11_refills 47 = .ok (.iconst 3, 1) := dk_6 (dk_at dksX11_refills_1 23 rfl rfl)
theorem dX11_refills_48 : decode cX11_refills 48 = .ok (.iaload, 1) := dk_46 (dk_at dksX11_refills_2 0 rfl rfl)
theorem dX11_refills_49 : decode cX11_refills 49 = .ok (.goto 10, 3) := dk_167 0 10 (dk_at dksX11_refills_2 1 rfl rfl)
theorem dX11_refills_52 : decode cX11_refills 52 = .ok (.aload_n 0, 1) := dk_42 (dk_at dksX11_refills_2 4 rfl rfl)
theorem dX11_refills_53 : decode cX11_refills 53 = .ok (.getfield 33, 3) := dk_180 0 33 (dk_at dksX11_refills_2 5 rfl rfl)
theorem dX11_refills_56 : decode cX11_refills 56 = .ok (.bipush 7, 2) := dk_16 7 (dk_at dksX11_refills_2 8 rfl rfl)
theorem dX11_refills_58 : decode cX11_refills 58 = .ok (.iaload, 1) := dk_46 (dk_at dksX11_refills_2 10 rfl rfl)
theorem dX11_refills_59 : decode cX11_refills 59 = .ok (.istore_n 2, 1) := dk_61 (dk_at dksX11_refills_2 11 rfl rfl)
theorem dX11_refills_60 : decode cX11_refills 60 = .ok (.iconst 0, 1) := dk_3 (dk_at dksX11_refills_2 12 rfl rfl)
theorem dX11_refills_61 : decode cX11_refills 61 = .ok (.istore_n 3, 1) := dk_62 (dk_at dksX11_refills_2 13 rfl rfl)
theorem dX11_refills_62 : decode cX11_refills 62 = .ok (.iload_n 3, 1) := dk_29 (dk_at dksX11_refills_2 14 rfl rfl)
theorem dX11_refills_63 : decode cX11_refills 63 = .ok (.iload_n 2, 1) := dk_28 (dk_at dksX11_refills_2 15 rfl rfl)
theorem dX11_refills_64 : decode cX11_refills 64 = .ok (.if_icmp .ge 30, 3) := dk_162 0 30 (dk_at dksX11_refills_2 16 rfl rfl)
theorem dX11_refills_67 : decode cX11_refills 67 = .ok (.aload_n 0, 1) := dk_42 (dk_at dksX11_refills_2 19 rfl rfl)
theorem dX11_refills_68 : decode cX11_refills 68 = .ok (.iload_n 1, 1) := dk_27 (dk_at dksX11_refills_2 20 rfl rfl)
theorem dX11_refills_69 : decode cX11_refills 69 = .ok (.invokevirtual 267, 3) := dk_182 1 11 (dk_at dksX11_refills_2 21 rfl rfl)
theorem dX11_refills_72 : decode cX11_refills 72 = .ok (.istore 4, 2) := dk_54 4 (dk_at dksX11_refills_3 0 rfl rfl)
theorem dX11_refills_74 : decode cX11_refills 74 = .ok (.aload_n 0, 1) := dk_42 (dk_at dksX11_refills_3 2 rfl rfl)
theorem dX11_refills_75 : decode cX11_refills 75 = .ok (.iload_n 1, 1) := dk_27 (dk_at dksX11_refills_3 3 rfl rfl)
theorem dX11_refills_76 : decode cX11_refills 76 = .ok (.iconst 0, 1) := dk_3 (dk_at dksX11_refills_3 4 rfl rfl)
theorem dX11_refills_77 : decode cX11_refills 77 = .ok (.invokevirtual 270, 3) := dk_182 1 14 (dk_at dksX11_refills_3 5 rfl rfl)
theorem dX11_refills_80 : decode cX11_refills 80 = .ok (.aload_n 0, 1) := dk_42 (dk_at dksX11_refills_3 8 rfl rfl)
theorem dX11_refills_81 : decode cX11_refills 81 = .ok (.iload_n 1, 1) := dk_27 (dk_at dksX11_refills_3 9 rfl rfl)
theorem dX11_refills_82 : decode cX11_refills 82 = .ok (.iload 4, 2) := dk_21 4 (dk_at dksX11_refills_3 10 rfl rfl)
theorem dX11_refills_84 : decode cX11_refills 84 = .ok (.invokevirtual 273, 3) := dk_182 1 17 (dk_at dksX11_refills_3 12 rfl rfl)
theorem dX11_refills_87 : decode cX11_refills 87 = .ok (.pop, 1) := dk_87 (dk_at dksX11_refills_3 15 rfl rfl)
theorem dX11_refills_88 : decode cX11_refills 88 = .ok (.iinc 3 1, 3) := dk_132 3 1 (dk_at dksX11_refills_3 16 rfl rfl)
theorem dX11_refills_91 : decode cX11_refills 91 = .ok (.goto (-29), 3) := dk_167 255 227 (dk_at dksX11_refills_3 19 rfl rfl)
theorem dX11_refills_94 : decode cX11_refills 94 = .ok (.goto (-94), 3) := dk_167 255 162 (dk_at dksX11_refills_4 0 rfl rfl)
theorem dX11_refills_97 : decode cX11_refills 97 = .ok (.return_, 1) := dk_177 (dk_at dksX11_refills_4 3 rfl rfl)
abbrev cX11_draws : ByteArray := prog_23_method_33_code
def yX11_draws : MethodName := ⟨RX11, "draws", "(I)I"⟩
def dkwX11_draws_3 : List UInt8 := [17, 2, 53, 27, 96, 28, 4, 96, 79, 28, 172]
abbrev dktX11_draws_3 : List UInt8 := dkwX11_draws_3 ++ []
def dkwX11_draws_2 : List UInt8 := [96, 4, 96, 46, 79, 132, 3, 1, 167, 255, 222, 42, 27, 28, 4, 182, 0, 255, 87, 42, 180, 0, 33]
abbrev dktX11_draws_2 : List UInt8 := dkwX11_draws_2 ++ dktX11_draws_3
def dkwX11_draws_1 : List UInt8 := [180, 0, 33, 16, 7, 46, 162, 0, 29, 42, 180, 0, 33, 16, 8, 29, 96, 42, 180, 0, 33, 16, 8, 29]
abbrev dktX11_draws_1 : List UInt8 := dkwX11_draws_1 ++ dktX11_draws_2
def dkwX11_draws_0 : List UInt8 := [42, 180, 0, 33, 16, 8, 46, 61, 42, 180, 0, 33, 16, 7, 92, 46, 4, 100, 79, 3, 62, 29, 42]
abbrev dktX11_draws_0 : List UInt8 := dkwX11_draws_0 ++ dktX11_draws_1
theorem dksX11_draws_0 : cX11_draws.data.toList.drop 0 = dktX11_draws_0 := by decide +kernel
theorem dksX11_draws_1 : cX11_draws.data.toList.drop 23 = dktX11_draws_1 := dk_seg dksX11_draws_0 23 rfl rfl
theorem dksX11_draws_2 : cX11_draws.data.toList.drop 47 = dktX11_draws_2 := dk_seg dksX11_draws_1 24 rfl rfl
theorem dksX11_draws_3 : cX11_draws.data.toList.drop 70 = dktX11_draws_3 := dk_seg dksX11_draws_2 23 rfl rfl
theorem dX11_draws_0 : decode cX11_draws 0 = .ok (.aload_n 0, 1) := dk_42 (dk_at dksX11_draws_0 0 rfl rfl)
theorem dX11_draws_1 : decode cX11_draws 1 = .ok (.getfield 33, 3) := dk_180 0 33 (dk_at dksX11_draws_0 1 rfl rfl)
theorem dX11_draws_4 : decode cX11_draws 4 = .ok (.bipush 8, 2) := dk_16 8 (dk_at dksX11_draws_0 4 rfl rfl)
theorem dX11_draws_6 : decode cX11_draws 6 = .ok (.iaload, 1) := dk_46 (dk_at dksX11_draws_0 6 rfl rfl)
theorem dX11_draws_7 : decode cX11_draws 7 = .ok (.istore_n 2, 1) := dk_61 (dk_at dksX11_draws_0 7 rfl rfl)
theorem dX11_draws_8 : decode cX11_draws 8 = .ok (.aload_n 0, 1) := dk_42 (dk_at dksX11_draws_0 8 rfl rfl)
theorem dX11_draws_9 : decode cX11_draws 9 = .ok (.getfield 33, 3) := dk_180 0 33 (dk_at dksX11_draws_0 9 rfl rfl)
theorem dX11_draws_12 : decode cX11_draws 12 = .ok (.bipush 7, 2) := dk_16 7 (dk_at dksX11_draws_0 12 rfl rfl)
theorem dX11_draws_14 : decode cX11_draws 14 = .ok (.dup2, 1) := dk_92 (dk_at dksX11_draws_0 14 rfl rfl)
theorem dX11_draws_15 : decode cX11_draws 15 = .ok (.iaload, 1) := dk_46 (dk_at dksX11_draws_0 15 rfl rfl)
theorem dX11_draws_16 : decode cX11_draws 16 = .ok (.iconst 1, 1) := dk_4 (dk_at dksX11_draws_0 16 rfl rfl)
theorem dX11_draws_17 : decode cX11_draws 17 = .ok (.isub, 1) := dk_100 (dk_at dksX11_draws_0 17 rfl rfl)
theorem dX11_draws_18 : decode cX11_draws 18 = .ok (.iastore, 1) := dk_79 (dk_at dksX11_draws_0 18 rfl rfl)
theorem dX11_draws_19 : decode cX11_draws 19 = .ok (.iconst 0, 1) := dk_3 (dk_at dksX11_draws_0 19 rfl rfl)
theorem dX11_draws_20 : decode cX11_draws 20 = .ok (.istore_n 3, 1) := dk_62 (dk_at dksX11_draws_0 20 rfl rfl)
theorem dX11_draws_21 : decode cX11_draws 21 = .ok (.iload_n 3, 1) := dk_29 (dk_at dksX11_draws_0 21 rfl rfl)
theorem dX11_draws_22 : decode cX11_draws 22 = .ok (.aload_n 0, 1) := dk_42 (dk_at dksX11_draws_0 22 rfl rfl)
theorem dX11_draws_23 : decode cX11_draws 23 = .ok (.getfield 33, 3) := dk_180 0 33 (dk_at dksX11_draws_1 0 rfl rfl)
theorem dX11_draws_26 : decode cX11_draws 26 = .ok (.bipush 7, 2) := dk_16 7 (dk_at dksX11_draws_1 3 rfl rfl)
theorem dX11_draws_28 : decode cX11_draws 28 = .ok (.iaload, 1) := dk_46 (dk_at dksX11_draws_1 5 rfl rfl)
theorem dX11_draws_29 : decode cX11_draws 29 = .ok (.if_icmp .ge 29, 3) := dk_162 0 29 (dk_at dksX11_draws_1 6 rfl rfl)
theorem dX11_draws_32 : decode cX11_draws 32 = .ok (.aload_n 0, 1) := dk_42 (dk_at dksX11_draws_1 9 rfl rfl)
theorem dX11_draws_33 : decode cX11_draws 33 = .ok (.getfield 33, 3) := dk_180 0 33 (dk_at dksX11_draws_1 10 rfl rfl)
theorem dX11_draws_36 : decode cX11_draws 36 = .ok (.bipush 8, 2) := dk_16 8 (dk_at dksX11_draws_1 13 rfl rfl)
theorem dX11_draws_38 : decode cX11_draws 38 = .ok (.iload_n 3, 1) := dk_29 (dk_at dksX11_draws_1 15 rfl rfl)
theorem dX11_draws_39 : decode cX11_draws 39 = .ok (.iadd, 1) := dk_96 (dk_at dksX11_draws_1 16 rfl rfl)
theorem dX11_draws_40 : decode cX11_draws 40 = .ok (.aload_n 0, 1) := dk_42 (dk_at dksX11_draws_1 17 rfl rfl)
theorem dX11_draws_41 : decode cX11_draws 41 = .ok (.getfield 33, 3) := dk_180 0 33 (dk_at dksX11_draws_1 18 rfl rfl)
theorem dX11_draws_44 : decode cX11_draws 44 = .ok (.bipush 8, 2) := dk_16 8 (dk_at dksX11_draws_1 21 rfl rfl)
theorem dX11_draws_46 : decode cX11_draws 46 = .ok (.iload_n 3, 1) := dk_29 (dk_at dksX11_draws_1 23 rfl rfl)
theorem dX11_draws_47 : decode cX11_draws 47 = .ok (.iadd, 1) := dk_96 (dk_at dksX11_draws_2 0 rfl rfl)
theorem dX11_draws_48 : decode cX11_draws 48 = .ok (.iconst 1, 1) := dk_4 (dk_at dksX11_draws_2 1 rfl rfl)
theorem dX11_draws_49 : decode cX11_draws 49 = .ok (.iadd, 1) := dk_96 (dk_at dksX11_draws_2 2 rfl rfl)
theorem dX11_draws_50 : decode cX11_draws 50 = .ok (.iaload, 1) := dk_46 (dk_at dksX11_draws_2 3 rfl rfl)
theorem dX11_draws_51 : decode cX11_draws 51 = .ok (.iastore, 1) := dk_79 (dk_at dksX11_draws_2 4 rfl rfl)
theorem dX11_draws_52 : decode cX11_draws 52 = .ok (.iinc 3 1, 3) := dk_132 3 1 (dk_at dksX11_draws_2 5 rfl rfl)
theorem dX11_draws_55 : decode cX11_draws 55 = .ok (.goto (-34), 3) := dk_167 255 222 (dk_at dksX11_draws_2 8 rfl rfl)
theorem dX11_draws_58 : decode cX11_draws 58 = .ok (.aload_n 0, 1) := dk_42 (dk_at dksX11_draws_2 11 rfl rfl)
theorem dX11_draws_59 : decode cX11_draws 59 = .ok (.iload_n 1, 1) := dk_27 (dk_at dksX11_draws_2 12 rfl rfl)
theorem dX11_draws_60 : decode cX11_draws 60 = .ok (.iload_n 2, 1) := dk_28 (dk_at dksX11_draws_2 13 rfl rfl)
theorem dX11_draws_61 : decode cX11_draws 61 = .ok (.iconst 1, 1) := dk_4 (dk_at dksX11_draws_2 14 rfl rfl)
theorem dX11_draws_62 : decode cX11_draws 62 = .ok (.invokevirtual 255, 3) := dk_182 0 255 (dk_at dksX11_draws_2 15 rfl rfl)
theorem dX11_draws_65 : decode cX11_draws 65 = .ok (.pop, 1) := dk_87 (dk_at dksX11_draws_2 18 rfl rfl)
theorem dX11_draws_66 : decode cX11_draws 66 = .ok (.aload_n 0, 1) := dk_42 (dk_at dksX11_draws_2 19 rfl rfl)
theorem dX11_draws_67 : decode cX11_draws 67 = .ok (.getfield 33, 3) := dk_180 0 33 (dk_at dksX11_draws_2 20 rfl rfl)
theorem dX11_draws_70 : decode cX11_draws 70 = .ok (.sipush 565, 3) := dk_17 2 53 (dk_at dksX11_draws_3 0 rfl rfl)
theorem dX11_draws_73 : decode cX11_draws 73 = .ok (.iload_n 1, 1) := dk_27 (dk_at dksX11_draws_3 3 rfl rfl)
theorem dX11_draws_74 : decode cX11_draws 74 = .ok (.iadd, 1) := dk_96 (dk_at dksX11_draws_3 4 rfl rfl)
theorem dX11_draws_75 : decode cX11_draws 75 = .ok (.iload_n 2, 1) := dk_28 (dk_at dksX11_draws_3 5 rfl rfl)
theorem dX11_draws_76 : decode cX11_draws 76 = .ok (.iconst 1, 1) := dk_4 (dk_at dksX11_draws_3 6 rfl rfl)
theorem dX11_draws_77 : decode cX11_draws 77 = .ok (.iadd, 1) := dk_96 (dk_at dksX11_draws_3 7 rfl rfl)
theorem dX11_draws_78 : decode cX11_draws 78 = .ok (.iastore, 1) := dk_79 (dk_at dksX11_draws_3 8 rfl rfl)
theorem dX11_draws_79 : decode cX11_draws 79 = .ok (.iload_n 2, 1) := dk_28 (dk_at dksX11_draws_3 9 rfl rfl)
theorem dX11_draws_80 : decode cX11_draws 80 = .ok (.ireturn, 1) := dk_172 (dk_at dksX11_draws_3 10 rfl rfl)
abbrev cX11_fault : ByteArray := prog_23_method_26_code
def yX11_fault : MethodName := ⟨RX11, "fault", "()I"⟩
def dkwX11_fault_0 : List UInt8 := [42, 3, 181, 0, 1, 42, 180, 0, 180, 172]
abbrev dktX11_fault_0 : List UInt8 := dkwX11_fault_0 ++ []
theorem dksX11_fault_0 : cX11_fault.data.toList.drop 0 = dktX11_fault_0 := by decide +kernel
theorem dX11_fault_0 : decode cX11_fault 0 = .ok (.aload_n 0, 1) := dk_42 (dk_at dksX11_fault_0 0 rfl rfl)
theorem dX11_fault_1 : decode cX11_fault 1 = .ok (.iconst 0, 1) := dk_3 (dk_at dksX11_fault_0 1 rfl rfl)
theorem dX11_fault_2 : decode cX11_fault 2 = .ok (.putfield 1, 3) := dk_181 0 1 (dk_at dksX11_fault_0 2 rfl rfl)
theorem dX11_fault_5 : decode cX11_fault 5 = .ok (.aload_n 0, 1) := dk_42 (dk_at dksX11_fault_0 5 rfl rfl)
theorem dX11_fault_6 : decode cX11_fault 6 = .ok (.getfield 180, 3) := dk_180 0 180 (dk_at dksX11_fault_0 6 rfl rfl)
theorem dX11_fault_9 : decode cX11_fault 9 = .ok (.ireturn, 1) := dk_172 (dk_at dksX11_fault_0 9 rfl rfl)
abbrev cX11_hand : ByteArray := prog_23_method_39_code
def yX11_hand : MethodName := ⟨RX11, "hand", "(II)I"⟩
def dkwX11_hand_1 : List UInt8 := [182, 1, 32, 153, 0, 7, 3, 167, 0, 10, 42, 27, 28, 3, 182, 0, 255, 172]
abbrev dktX11_hand_1 : List UInt8 := dkwX11_hand_1 ++ []
def dkwX11_hand_0 : List UInt8 := [42, 42, 27, 182, 1, 26, 153, 0, 11, 42, 28, 182, 1, 29, 154, 0, 7, 4, 167, 0, 4, 3]
abbrev dktX11_hand_0 : List UInt8 := dkwX11_hand_0 ++ dktX11_hand_1
theorem dksX11_hand_0 : cX11_hand.data.toList.drop 0 = dktX11_hand_0 := by decide +kernel
theorem dksX11_hand_1 : cX11_hand.data.toList.drop 22 = dktX11_hand_1 := dk_seg dksX11_hand_0 22 rfl rfl
theorem dX11_hand_0 : decode cX11_hand 0 = .ok (.aload_n 0, 1) := dk_42 (dk_at dksX11_hand_0 0 rfl rfl)
theorem dX11_hand_1 : decode cX11_hand 1 = .ok (.aload_n 0, 1) := dk_42 (dk_at dksX11_hand_0 1 rfl rfl)
theorem dX11_hand_2 : decode cX11_hand 2 = .ok (.iload_n 1, 1) := dk_27 (dk_at dksX11_hand_0 2 rfl rfl)
theorem dX11_hand_3 : decode cX11_hand 3 = .ok (.invokevirtual 282, 3) := dk_182 1 26 (dk_at dksX11_hand_0 3 rfl rfl)
theorem dX11_hand_6 : decode cX11_hand 6 = .ok (.ifCond .eq 11, 3) := dk_153 0 11 (dk_at dksX11_hand_0 6 rfl rfl)
theorem dX11_hand_9 : decode cX11_hand 9 = .ok (.aload_n 0, 1) := dk_42 (dk_at dksX11_hand_0 9 rfl rfl)
theorem dX11_hand_10 : decode cX11_hand 10 = .ok (.iload_n 2, 1) := dk_28 (dk_at dksX11_hand_0 10 rfl rfl)
theorem dX11_hand_11 : decode cX11_hand 11 = .ok (.invokevirtual 285, 3) := dk_182 1 29 (dk_at dksX11_hand_0 11 rfl rfl)
theorem dX11_hand_14 : decode cX11_hand 14 = .ok (.ifCond .ne 7, 3) := dk_154 0 7 (dk_at dksX11_hand_0 14 rfl rfl)
theorem dX11_hand_17 : decode cX11_hand 17 = .ok (.iconst 1, 1) := dk_4 (dk_at dksX11_hand_0 17 rfl rfl)
theorem dX11_hand_18 : decode cX11_hand 18 = .ok (.goto 4, 3) := dk_167 0 4 (dk_at dksX11_hand_0 18 rfl rfl)
theorem dX11_hand_21 : decode cX11_hand 21 = .ok (.iconst 0, 1) := dk_3 (dk_at dksX11_hand_0 21 rfl rfl)
theorem dX11_hand_22 : decode cX11_hand 22 = .ok (.invokevirtual 288, 3) := dk_182 1 32 (dk_at dksX11_hand_1 0 rfl rfl)
theorem dX11_hand_25 : decode cX11_hand 25 = .ok (.ifCond .eq 7, 3) := dk_153 0 7 (dk_at dksX11_hand_1 3 rfl rfl)
theorem dX11_hand_28 : decode cX11_hand 28 = .ok (.iconst 0, 1) := dk_3 (dk_at dksX11_hand_1 6 rfl rfl)
theorem dX11_hand_29 : decode cX11_hand 29 = .ok (.goto 10, 3) := dk_167 0 10 (dk_at dksX11_hand_1 7 rfl rfl)
theorem dX11_hand_32 : decode cX11_hand 32 = .ok (.aload_n 0, 1) := dk_42 (dk_at dksX11_hand_1 10 rfl rfl)
theorem dX11_hand_33 : decode cX11_hand 33 = .ok (.iload_n 1, 1) := dk_27 (dk_at dksX11_hand_1 11 rfl rfl)
theorem dX11_hand_34 : decode cX11_hand 34 = .ok (.iload_n 2, 1) := dk_28 (dk_at dksX11_hand_1 12 rfl rfl)
theorem dX11_hand_35 : decode cX11_hand 35 = .ok (.iconst 0, 1) := dk_3 (dk_at dksX11_hand_1 13 rfl rfl)
theorem dX11_hand_36 : decode cX11_hand 36 = .ok (.invokevirtual 255, 3) := dk_182 0 255 (dk_at dksX11_hand_1 14 rfl rfl)
theorem dX11_hand_39 : decode cX11_hand 39 = .ok (.ireturn, 1) := dk_172 (dk_at dksX11_hand_1 17 rfl rfl)
abbrev cX11_isPerson : ByteArray := prog_23_method_37_code
def yX11_isPerson : MethodName := ⟨RX11, "isPerson", "(I)Z"⟩
def dkwX11_isPerson_0 : List UInt8 := [27, 3, 42, 180, 0, 33, 4, 46, 4, 100, 184, 0, 195, 172]
abbrev dktX11_isPerson_0 : List UInt8 := dkwX11_isPerson_0 ++ []
theorem dksX11_isPerson_0 : cX11_isPerson.data.toList.drop 0 = dktX11_isPerson_0 := by decide +kernel
theorem dX11_isPerson_0 : decode cX11_isPerson 0 = .ok (.iload_n 1, 1) := dk_27 (dk_at dksX11_isPerson_0 0 rfl rfl)
theorem dX11_isPerson_1 : decode cX11_isPerson 1 = .ok (.iconst 0, 1) := dk_3 (dk_at dksX11_isPerson_0 1 rfl rfl)
theorem dX11_isPerson_2 : decode cX11_isPerson 2 = .ok (.aload_n 0, 1) := dk_42 (dk_at dksX11_isPerson_0 2 rfl rfl)
theorem dX11_isPerson_3 : decode cX11_isPerson 3 = .ok (.getfield 33, 3) := dk_180 0 33 (dk_at dksX11_isPerson_0 3 rfl rfl)
theorem dX11_isPerson_6 : decode cX11_isPerson 6 = .ok (.iconst 1, 1) := dk_4 (dk_at dksX11_isPerson_0 6 rfl rfl)
theorem dX11_isPerson_7 : decode cX11_isPerson 7 = .ok (.iaload, 1) := dk_46 (dk_at dksX11_isPerson_0 7 rfl rfl)
theorem dX11_isPerson_8 : decode cX11_isPerson 8 = .ok (.iconst 1, 1) := dk_4 (dk_at dksX11_isPerson_0 8 rfl rfl)
theorem dX11_isPerson_9 : decode cX11_isPerson 9 = .ok (.isub, 1) := dk_100 (dk_at dksX11_isPerson_0 9 rfl rfl)
theorem dX11_isPerson_10 : decode cX11_isPerson 10 = .ok (.invokestatic 195, 3) := dk_184 0 195 (dk_at dksX11_isPerson_0 10 rfl rfl)
theorem dX11_isPerson_13 : decode cX11_isPerson 13 = .ok (.ireturn, 1) := dk_172 (dk_at dksX11_isPerson_0 13 rfl rfl)
abbrev cX11_isKind : ByteArray := prog_23_method_38_code
def yX11_isKind : MethodName := ⟨RX11, "isKind", "(I)Z"⟩
def dkwX11_isKind_0 : List UInt8 := [27, 3, 42, 180, 0, 33, 3, 46, 4, 100, 184, 0, 195, 172]
abbrev dktX11_isKind_0 : List UInt8 := dkwX11_isKind_0 ++ []
theorem dksX11_isKind_0 : cX11_isKind.data.toList.drop 0 = dktX11_isKind_0 := by decide +kernel
theorem dX11_isKind_0 : decode cX11_isKind 0 = .ok (.iload_n 1, 1) := dk_27 (dk_at dksX11_isKind_0 0 rfl rfl)
theorem dX11_isKind_1 : decode cX11_isKind 1 = .ok (.iconst 0, 1) := dk_3 (dk_at dksX11_isKind_0 1 rfl rfl)
theorem dX11_isKind_2 : decode cX11_isKind 2 = .ok (.aload_n 0, 1) := dk_42 (dk_at dksX11_isKind_0 2 rfl rfl)
theorem dX11_isKind_3 : decode cX11_isKind 3 = .ok (.getfield 33, 3) := dk_180 0 33 (dk_at dksX11_isKind_0 3 rfl rfl)
theorem dX11_isKind_6 : decode cX11_isKind 6 = .ok (.iconst 0, 1) := dk_3 (dk_at dksX11_isKind_0 6 rfl rfl)
theorem dX11_isKind_7 : decode cX11_isKind 7 = .ok (.iaload, 1) := dk_46 (dk_at dksX11_isKind_0 7 rfl rfl)
theorem dX11_isKind_8 : decode cX11_isKind 8 = .ok (.iconst 1, 1) := dk_4 (dk_at dksX11_isKind_0 8 rfl rfl)
theorem dX11_isKind_9 : decode cX11_isKind 9 = .ok (.isub, 1) := dk_100 (dk_at dksX11_isKind_0 9 rfl rfl)
theorem dX11_isKind_10 : decode cX11_isKind 10 = .ok (.invokestatic 195, 3) := dk_184 0 195 (dk_at dksX11_isKind_0 10 rfl rfl)
theorem dX11_isKind_13 : decode cX11_isKind 13 = .ok (.ireturn, 1) := dk_172 (dk_at dksX11_isKind_0 13 rfl rfl)
