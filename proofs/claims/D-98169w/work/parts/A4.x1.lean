/-! SevenTable -/
set_option maxRecDepth 100000
def RX1 : String := "SevenTable"
def TX1 : u_T := fun k => match k with
  | 0 => ("SevenTable", "tape", "[B", true)
  | 1 => ("SevenTable", "taped", "I", false)
  | 2 => ("SevenTable", "fault", "I", false)
  | 3 => ("SevenTable", "table", "LSevenTable$Table;", false)
  | 4 => ("SevenTable", "now", "LSevenTable$Game;", true)
  | 5 => ("SevenTable", "trial", "LSevenTable$Game;", true)
  | 6 => ("SevenTable", "sentence", "LSevenTable$Cond;", false)
  | 7 => ("SevenTable", "before", "[LSevenTable$Game;", true)
  | 8 => ("SevenTable", "befores", "I", false)
  | 9 => ("SevenTable", "asked", "[I", true)
  | 10 => ("SevenTable", "unseen", "[I", true)
  | 11 => ("SevenTable", "kindAt", "[I", true)
  | 12 => ("SevenTable", "scale", "[I", true)
  | 13 => ("SevenTable", "unseenKinds", "I", false)
  | 14 => ("SevenTable", "states", "I", false)
  | 15 => ("SevenTable", "ways", "[J", false)
  | 16 => ("SevenTable", "waysNext", "[J", false)
  | 17 => ("SevenTable", "swept", "[I", true)
  | 18 => ("SevenTable", "sweptMany", "I", false)
  | 19 => ("SevenTable", "opened", "LSevenTable$Open;", true)
  | 20 => ("SevenTable", "bents", "[LSevenTable$Bent;", true)
  | 21 => ("SevenTable", "lengths", "I", false)
  | 22 => ("SevenTable", "heard", "[I", true)
  | _ => ("SevenTable", "kept", "[LSevenTable$Kept;", true)
def tyX1 : Nat → FieldType := fun k => match k with
  | 0 => .array .byte
  | 1 => .int
  | 2 => .int
  | 3 => .object "SevenTable$Table"
  | 4 => .object "SevenTable$Game"
  | 5 => .object "SevenTable$Game"
  | 6 => .object "SevenTable$Cond"
  | 7 => .array (.object "SevenTable$Game")
  | 8 => .int
  | 9 => .array .int
  | 10 => .array .int
  | 11 => .array .int
  | 12 => .array .int
  | 13 => .int
  | 14 => .int
  | 15 => .array .long
  | 16 => .array .long
  | 17 => .array .int
  | 18 => .int
  | 19 => .object "SevenTable$Open"
  | 20 => .array (.object "SevenTable$Bent")
  | 21 => .int
  | 22 => .array .int
  | _ => .array (.object "SevenTable$Kept")
abbrev wsX10 : List Cond := u_ws RX1 TX1 24
set_option maxRecDepth 100000 in
theorem nmX1 : ∀ a, a < 24 → ∀ b, b < 24 → a ≠ b → (TX1 a).2.1 ≠ (TX1 b).2.1 := by decide +kernel
set_option maxRecDepth 100000 in
theorem tyX1_ok : ∀ k, k < 24 → parseFieldDescriptor (TX1 k).2.2.1 = some (tyX1 k) := by decide +kernel
abbrev cX1_init : ByteArray := prog_1_method_4_code
def yX1_init : MethodName := ⟨RX1, "<init>", "()V"⟩
def dkwX1_init_12 : List UInt8 := [132, 1, 1, 167, 255, 234, 177]
abbrev dktX1_init_12 : List UInt8 := dkwX1_init_12 ++ []
def dkwX1_init_11 : List UInt8 := [181, 0, 95, 3, 60, 27, 16, 8, 162, 0, 22, 42, 180, 0, 37, 27, 187, 0, 23, 89, 183, 0, 25, 83]
abbrev dktX1_init_11 : List UInt8 := dkwX1_init_11 ++ dktX1_init_12
def dkwX1_init_10 : List UInt8 := [5, 189, 0, 92, 89, 3, 187, 0, 92, 89, 183, 0, 94, 83, 89, 4, 187, 0, 92, 89, 183, 0, 94, 83]
abbrev dktX1_init_10 : List UInt8 := dkwX1_init_10 ++ dktX1_init_11
def dkwX1_init_9 : List UInt8 := [42, 7, 188, 10, 89, 3, 2, 79, 89, 4, 2, 79, 89, 5, 2, 79, 89, 6, 2, 79, 181, 0, 89, 42]
abbrev dktX1_init_9 : List UInt8 := dkwX1_init_9 ++ dktX1_init_10
def dkwX1_init_8 : List UInt8 := [83, 89, 5, 187, 0, 79, 89, 183, 0, 81, 83, 89, 6, 187, 0, 82, 89, 183, 0, 84, 83, 181, 0, 85]
abbrev dktX1_init_8 : List UInt8 := dkwX1_init_8 ++ dktX1_init_9
def dkwX1_init_7 : List UInt8 := [42, 7, 189, 0, 71, 89, 3, 187, 0, 73, 89, 183, 0, 75, 83, 89, 4, 187, 0, 76, 89, 183, 0, 78]
abbrev dktX1_init_7 : List UInt8 := dkwX1_init_7 ++ dktX1_init_8
def dkwX1_init_6 : List UInt8 := [188, 11, 181, 0, 58, 42, 16, 78, 188, 10, 181, 0, 61, 42, 187, 0, 64, 89, 183, 0, 66, 181, 0, 67]
abbrev dktX1_init_6 : List UInt8 := dkwX1_init_6 ++ dktX1_init_7
def dkwX1_init_5 : List UInt8 := [181, 0, 48, 42, 16, 6, 188, 10, 181, 0, 51, 42, 17, 61, 9, 188, 11, 181, 0, 54, 42, 17, 61, 9]
abbrev dktX1_init_5 : List UInt8 := dkwX1_init_5 ++ dktX1_init_6
def dkwX1_init_4 : List UInt8 := [79, 89, 16, 7, 2, 79, 181, 0, 41, 42, 16, 13, 188, 10, 181, 0, 45, 42, 16, 6, 188, 10]
abbrev dktX1_init_4 : List UInt8 := dkwX1_init_4 ++ dktX1_init_5
def dkwX1_init_3 : List UInt8 := [89, 4, 2, 79, 89, 5, 2, 79, 89, 6, 2, 79, 89, 7, 2, 79, 89, 8, 2, 79, 89, 16, 6, 2]
abbrev dktX1_init_3 : List UInt8 := dkwX1_init_3 ++ dktX1_init_4
def dkwX1_init_2 : List UInt8 := [183, 0, 25, 181, 0, 34, 42, 16, 8, 189, 0, 23, 181, 0, 37, 42, 16, 8, 188, 10, 89, 3, 2, 79]
abbrev dktX1_init_2 : List UInt8 := dkwX1_init_2 ++ dktX1_init_3
def dkwX1_init_1 : List UInt8 := [42, 187, 0, 23, 89, 183, 0, 25, 42, 180, 0, 19, 182, 0, 26, 181, 0, 30, 42, 187, 0, 23, 89]
abbrev dktX1_init_1 : List UInt8 := dkwX1_init_1 ++ dktX1_init_2
def dkwX1_init_0 : List UInt8 := [42, 183, 0, 9, 42, 17, 3, 172, 188, 8, 181, 0, 12, 42, 187, 0, 16, 89, 183, 0, 18, 181, 0, 19]
abbrev dktX1_init_0 : List UInt8 := dkwX1_init_0 ++ dktX1_init_1
theorem dksX1_init_0 : cX1_init.data.toList.drop 0 = dktX1_init_0 := by decide +kernel
theorem dksX1_init_1 : cX1_init.data.toList.drop 24 = dktX1_init_1 := dk_seg dksX1_init_0 24 rfl rfl
theorem dksX1_init_2 : cX1_init.data.toList.drop 47 = dktX1_init_2 := dk_seg dksX1_init_1 23 rfl rfl
theorem dksX1_init_3 : cX1_init.data.toList.drop 71 = dktX1_init_3 := dk_seg dksX1_init_2 24 rfl rfl
theorem dksX1_init_4 : cX1_init.data.toList.drop 95 = dktX1_init_4 := dk_seg dksX1_init_3 24 rfl rfl
theorem dksX1_init_5 : cX1_init.data.toList.drop 117 = dktX1_init_5 := dk_seg dksX1_init_4 22 rfl rfl
theorem dksX1_init_6 : cX1_init.data.toList.drop 141 = dktX1_init_6 := dk_seg dksX1_init_5 24 rfl rfl
theorem dksX1_init_7 : cX1_init.data.toList.drop 165 = dktX1_init_7 := dk_seg dksX1_init_6 24 rfl rfl
theorem dksX1_init_8 : cX1_init.data.toList.drop 189 = dktX1_init_8 := dk_seg dksX1_init_7 24 rfl rfl
theorem dksX1_init_9 : cX1_init.data.toList.drop 213 = dktX1_init_9 := dk_seg dksX1_init_8 24 rfl rfl
theorem dksX1_init_10 : cX1_init.data.toList.drop 237 = dktX1_init_10 := dk_seg dksX1_init_9 24 rfl rfl
theorem dksX1_init_11 : cX1_init.data.toList.drop 261 = dktX1_init_11 := dk_seg dksX1_init_10 24 rfl rfl
theorem dksX1_init_12 : cX1_init.data.toList.drop 285 = dktX1_init_12 := dk_seg dksX1_init_11 24 rfl rfl
theorem dX1_init_0 : decode cX1_init 0 = .ok (.aload_n 0, 1) := dk_42 (dk_at dksX1_init_0 0 rfl rfl)
theorem dX1_init_1 : decode cX1_init 1 = .ok (.invokespecial 9, 3) := dk_183 0 9 (dk_at dksX1_init_0 1 rfl rfl)
theorem dX1_init_4 : decode cX1_init 4 = .ok (.aload_n 0, 1) := dk_42 (dk_at dksX1_init_0 4 rfl rfl)
theorem dX1_init_5 : decode cX1_init 5 = .ok (.sipush 940, 3) := dk_17 3 172 (dk_at dksX1_init_0 5 rfl rfl)
theorem dX1_init_8 : decode cX1_init 8 = .ok (.newarray .byte, 2) := dk_188_8 (dk_at dksX1_init_0 8 rfl rfl)
theorem dX1_init_10 : decode cX1_init 10 = .ok (.putfield 12, 3) := dk_181 0 12 (dk_at dksX1_init_0 10 rfl rfl)
theorem dX1_init_13 : decode cX1_init 13 = .ok (.aload_n 0, 1) := dk_42 (dk_at dksX1_init_0 13 rfl rfl)
theorem dX1_init_14 : decode cX1_init 14 = .ok (.new 16, 3) := dk_187 0 16 (dk_at dksX1_init_0 14 rfl rfl)
theorem dX1_init_17 : decode cX1_init 17 = .ok (.dup, 1) := dk_89 (dk_at dksX1_init_0 17 rfl rfl)
theorem dX1_init_18 : decode cX1_init 18 = .ok (.invokespecial 18, 3) := dk_183 0 18 (dk_at dksX1_init_0 18 rfl rfl)
theorem dX1_init_21 : decode cX1_init 21 = .ok (.putfield 19, 3) := dk_181 0 19 (dk_at dksX1_init_0 21 rfl rfl)
theorem dX1_init_24 : decode cX1_init 24 = .ok (.aload_n 0, 1) := dk_42 (dk_at dksX1_init_1 0 rfl rfl)
theorem dX1_init_25 : decode cX1_init 25 = .ok (.new 23, 3) := dk_187 0 23 (dk_at dksX1_init_1 1 rfl rfl)
theorem dX1_init_28 : decode cX1_init 28 = .ok (.dup, 1) := dk_89 (dk_at dksX1_init_1 4 rfl rfl)
theorem dX1_init_29 : decode cX1_init 29 = .ok (.invokespecial 25, 3) := dk_183 0 25 (dk_at dksX1_init_1 5 rfl rfl)
theorem dX1_init_32 : decode cX1_init 32 = .ok (.aload_n 0, 1) := dk_42 (dk_at dksX1_init_1 8 rfl rfl)
theorem dX1_init_33 : decode cX1_init 33 = .ok (.getfield 19, 3) := dk_180 0 19 (dk_at dksX1_init_1 9 rfl rfl)
theorem dX1_init_36 : decode cX1_init 36 = .ok (.invokevirtual 26, 3) := dk_182 0 26 (dk_at dksX1_init_1 12 rfl rfl)
theorem dX1_init_39 : decode cX1_init 39 = .ok (.putfield 30, 3) := dk_181 0 30 (dk_at dksX1_init_1 15 rfl rfl)
theorem dX1_init_42 : decode cX1_init 42 = .ok (.aload_n 0, 1) := dk_42 (dk_at dksX1_init_1 18 rfl rfl)
theorem dX1_init_43 : decode cX1_init 43 = .ok (.new 23, 3) := dk_187 0 23 (dk_at dksX1_init_1 19 rfl rfl)
theorem dX1_init_46 : decode cX1_init 46 = .ok (.dup, 1) := dk_89 (dk_at dksX1_init_1 22 rfl rfl)
theorem dX1_init_47 : decode cX1_init 47 = .ok (.invokespecial 25, 3) := dk_183 0 25 (dk_at dksX1_init_2 0 rfl rfl)
theorem dX1_init_50 : decode cX1_init 50 = .ok (.putfield 34, 3) := dk_181 0 34 (dk_at dksX1_init_2 3 rfl rfl)
theorem dX1_init_53 : decode cX1_init 53 = .ok (.aload_n 0, 1) := dk_42 (dk_at dksX1_init_2 6 rfl rfl)
theorem dX1_init_54 : decode cX1_init 54 = .ok (.bipush 8, 2) := dk_16 8 (dk_at dksX1_init_2 7 rfl rfl)
theorem dX1_init_56 : decode cX1_init 56 = .ok (.anewarray 23, 3) := dk_189 0 23 (dk_at dksX1_init_2 9 rfl rfl)
theorem dX1_init_59 : decode cX1_init 59 = .ok (.putfield 37, 3) := dk_181 0 37 (dk_at dksX1_init_2 12 rfl rfl)
theorem dX1_init_62 : decode cX1_init 62 = .ok (.aload_n 0, 1) := dk_42 (dk_at dksX1_init_2 15 rfl rfl)
theorem dX1_init_63 : decode cX1_init 63 = .ok (.bipush 8, 2) := dk_16 8 (dk_at dksX1_init_2 16 rfl rfl)
theorem dX1_init_65 : decode cX1_init 65 = .ok (.newarray .int, 2) := dk_188_10 (dk_at dksX1_init_2 18 rfl rfl)
theorem dX1_init_67 : decode cX1_init 67 = .ok (.dup, 1) := dk_89 (dk_at dksX1_init_2 20 rfl rfl)
theorem dX1_init_68 : decode cX1_init 68 = .ok (.iconst 0, 1) := dk_3 (dk_at dksX1_init_2 21 rfl rfl)
theorem dX1_init_69 : decode cX1_init 69 = .ok (.iconst (-1), 1) := dk_2 (dk_at dksX1_init_2 22 rfl rfl)
theorem dX1_init_70 : decode cX1_init 70 = .ok (.iastore, 1) := dk_79 (dk_at dksX1_init_2 23 rfl rfl)
theorem dX1_init_71 : decode cX1_init 71 = .ok (.dup, 1) := dk_89 (dk_at dksX1_init_3 0 rfl rfl)
theorem dX1_init_72 : decode cX1_init 72 = .ok (.iconst 1, 1) := dk_4 (dk_at dksX1_init_3 1 rfl rfl)
theorem dX1_init_73 : decode cX1_init 73 = .ok (.iconst (-1), 1) := dk_2 (dk_at dksX1_init_3 2 rfl rfl)
theorem dX1_init_74 : decode cX1_init 74 = .ok (.iastore, 1) := dk_79 (dk_at dksX1_init_3 3 rfl rfl)
theorem dX1_init_75 : decode cX1_init 75 = .ok (.dup, 1) := dk_89 (dk_at dksX1_init_3 4 rfl rfl)
theorem dX1_init_76 : decode cX1_init 76 = .ok (.iconst 2, 1) := dk_5 (dk_at dksX1_init_3 5 rfl rfl)
theorem dX1_init_77 : decode cX1_init 77 = .ok (.iconst (-1), 1) := dk_2 (dk_at dksX1_init_3 6 rfl rfl)
theorem dX1_init_78 : decode cX1_init 78 = .ok (.iastore, 1) := dk_79 (dk_at dksX1_init_3 7 rfl rfl)
theorem dX1_init_79 : decode cX1_init 79 = .ok (.dup, 1) := dk_89 (dk_at dksX1_init_3 8 rfl rfl)
theorem dX1_init_80 : decode cX1_init 80 = .ok (.iconst 3, 1) := dk_6 (dk_at dksX1_init_3 9 rfl rfl)
theorem dX1_init_81 : decode cX1_init 81 = .ok (.iconst (-1), 1) := dk_2 (dk_at dksX1_init_3 10 rfl rfl)
theorem dX1_init_82 : decode cX1_init 82 = .ok (.iastore, 1) := dk_79 (dk_at dksX1_init_3 11 rfl rfl)
theorem dX1_init_83 : decode cX1_init 83 = .ok (.dup, 1) := dk_89 (dk_at dksX1_init_3 12 rfl rfl)
theorem dX1_init_84 : decode cX1_init 84 = .ok (.iconst 4, 1) := dk_7 (dk_at dksX1_init_3 13 rfl rfl)
theorem dX1_init_85 : decode cX1_init 85 = .ok (.iconst (-1), 1) := dk_2 (dk_at dksX1_init_3 14 rfl rfl)
theorem dX1_init_86 : decode cX1_init 86 = .ok (.iastore, 1) := dk_79 (dk_at dksX1_init_3 15 rfl rfl)
theorem dX1_init_87 : decode cX1_init 87 = .ok (.dup, 1) := dk_89 (dk_at dksX1_init_3 16 rfl rfl)
theorem dX1_init_88 : decode cX1_init 88 = .ok (.iconst 5, 1) := dk_8 (dk_at dksX1_init_3 17 rfl rfl)
theorem dX1_init_89 : decode cX1_init 89 = .ok (.iconst (-1), 1) := dk_2 (dk_at dksX1_init_3 18 rfl rfl)
theorem dX1_init_90 : decode cX1_init 90 = .ok (.iastore, 1) := dk_79 (dk_at dksX1_init_3 19 rfl rfl)
theorem dX1_init_91 : decode cX1_init 91 = .ok (.dup, 1) := dk_89 (dk_at dksX1_init_3 20 rfl rfl)
theorem dX1_init_92 : decode cX1_init 92 = .ok (.bipush 6, 2) := dk_16 6 (dk_at dksX1_init_3 21 rfl rfl)
theorem dX1_init_94 : decode cX1_init 94 = .ok (.iconst (-1), 1) := dk_2 (dk_at dksX1_init_3 23 rfl rfl)
theorem dX1_init_95 : decode cX1_init 95 = .ok (.iastore, 1) := dk_79 (dk_at dksX1_init_4 0 rfl rfl)
theorem dX1_init_96 : decode cX1_init 96 = .ok (.dup, 1) := dk_89 (dk_at dksX1_init_4 1 rfl rfl)
theorem dX1_init_97 : decode cX1_init 97 = .ok (.bipush 7, 2) := dk_16 7 (dk_at dksX1_init_4 2 rfl rfl)
theorem dX1_init_99 : decode cX1_init 99 = .ok (.iconst (-1), 1) := dk_2 (dk_at dksX1_init_4 4 rfl rfl)
theorem dX1_init_100 : decode cX1_init 100 = .ok (.iastore, 1) := dk_79 (dk_at dksX1_init_4 5 rfl rfl)
theorem dX1_init_101 : decode cX1_init 101 = .ok (.putfield 41, 3) := dk_181 0 41 (dk_at dksX1_init_4 6 rfl rfl)
theorem dX1_init_104 : decode cX1_init 104 = .ok (.aload_n 0, 1) := dk_42 (dk_at dksX1_init_4 9 rfl rfl)
theorem dX1_init_105 : decode cX1_init 105 = .ok (.bipush 13, 2) := dk_16 13 (dk_at dksX1_init_4 10 rfl rfl)
theorem dX1_init_107 : decode cX1_init 107 = .ok (.newarray .int, 2) := dk_188_10 (dk_at dksX1_init_4 12 rfl rfl)
theorem dX1_init_109 : decode cX1_init 109 = .ok (.putfield 45, 3) := dk_181 0 45 (dk_at dksX1_init_4 14 rfl rfl)
theorem dX1_init_112 : decode cX1_init 112 = .ok (.aload_n 0, 1) := dk_42 (dk_at dksX1_init_4 17 rfl rfl)
theorem dX1_init_113 : decode cX1_init 113 = .ok (.bipush 6, 2) := dk_16 6 (dk_at dksX1_init_4 18 rfl rfl)
theorem dX1_init_115 : decode cX1_init 115 = .ok (.newarray .int, 2) := dk_188_10 (dk_at dksX1_init_4 20 rfl rfl)
theorem dX1_init_117 : decode cX1_init 117 = .ok (.putfield 48, 3) := dk_181 0 48 (dk_at dksX1_init_5 0 rfl rfl)
theorem dX1_init_120 : decode cX1_init 120 = .ok (.aload_n 0, 1) := dk_42 (dk_at dksX1_init_5 3 rfl rfl)
theorem dX1_init_121 : decode cX1_init 121 = .ok (.bipush 6, 2) := dk_16 6 (dk_at dksX1_init_5 4 rfl rfl)
theorem dX1_init_123 : decode cX1_init 123 = .ok (.newarray .int, 2) := dk_188_10 (dk_at dksX1_init_5 6 rfl rfl)
theorem dX1_init_125 : decode cX1_init 125 = .ok (.putfield 51, 3) := dk_181 0 51 (dk_at dksX1_init_5 8 rfl rfl)
theorem dX1_init_128 : decode cX1_init 128 = .ok (.aload_n 0, 1) := dk_42 (dk_at dksX1_init_5 11 rfl rfl)
theorem dX1_init_129 : decode cX1_init 129 = .ok (.sipush 15625, 3) := dk_17 61 9 (dk_at dksX1_init_5 12 rfl rfl)
theorem dX1_init_132 : decode cX1_init 132 = .ok (.newarray .long, 2) := dk_188_11 (dk_at dksX1_init_5 15 rfl rfl)
theorem dX1_init_134 : decode cX1_init 134 = .ok (.putfield 54, 3) := dk_181 0 54 (dk_at dksX1_init_5 17 rfl rfl)
theorem dX1_init_137 : decode cX1_init 137 = .ok (.aload_n 0, 1) := dk_42 (dk_at dksX1_init_5 20 rfl rfl)
theorem dX1_init_138 : decode cX1_init 138 = .ok (.sipush 15625, 3) := dk_17 61 9 (dk_at dksX1_init_5 21 rfl rfl)
theorem dX1_init_141 : decode cX1_init 141 = .ok (.newarray .long, 2) := dk_188_11 (dk_at dksX1_init_6 0 rfl rfl)
theorem dX1_init_143 : decode cX1_init 143 = .ok (.putfield 58, 3) := dk_181 0 58 (dk_at dksX1_init_6 2 rfl rfl)
theorem dX1_init_146 : decode cX1_init 146 = .ok (.aload_n 0, 1) := dk_42 (dk_at dksX1_init_6 5 rfl rfl)
theorem dX1_init_147 : decode cX1_init 147 = .ok (.bipush 78, 2) := dk_16 78 (dk_at dksX1_init_6 6 rfl rfl)
theorem dX1_init_149 : decode cX1_init 149 = .ok (.newarray .int, 2) := dk_188_10 (dk_at dksX1_init_6 8 rfl rfl)
theorem dX1_init_151 : decode cX1_init 151 = .ok (.putfield 61, 3) := dk_181 0 61 (dk_at dksX1_init_6 10 rfl rfl)
theorem dX1_init_154 : decode cX1_init 154 = .ok (.aload_n 0, 1) := dk_42 (dk_at dksX1_init_6 13 rfl rfl)
theorem dX1_init_155 : decode cX1_init 155 = .ok (.new 64, 3) := dk_187 0 64 (dk_at dksX1_init_6 14 rfl rfl)
theorem dX1_init_158 : decode cX1_init 158 = .ok (.dup, 1) := dk_89 (dk_at dksX1_init_6 17 rfl rfl)
theorem dX1_init_159 : decode cX1_init 159 = .ok (.invokespecial 66, 3) := dk_183 0 66 (dk_at dksX1_init_6 18 rfl rfl)
theorem dX1_init_162 : decode cX1_init 162 = .ok (.putfield 67, 3) := dk_181 0 67 (dk_at dksX1_init_6 21 rfl rfl)
theorem dX1_init_165 : decode cX1_init 165 = .ok (.aload_n 0, 1) := dk_42 (dk_at dksX1_init_7 0 rfl rfl)
theorem dX1_init_166 : decode cX1_init 166 = .ok (.iconst 4, 1) := dk_7 (dk_at dksX1_init_7 1 rfl rfl)
theorem dX1_init_167 : decode cX1_init 167 = .ok (.anewarray 71, 3) := dk_189 0 71 (dk_at dksX1_init_7 2 rfl rfl)
theorem dX1_init_170 : decode cX1_init 170 = .ok (.dup, 1) := dk_89 (dk_at dksX1_init_7 5 rfl rfl)
theorem dX1_init_171 : decode cX1_init 171 = .ok (.iconst 0, 1) := dk_3 (dk_at dksX1_init_7 6 rfl rfl)
theorem dX1_init_172 : decode cX1_init 172 = .ok (.new 73, 3) := dk_187 0 73 (dk_at dksX1_init_7 7 rfl rfl)
theorem dX1_init_175 : decode cX1_init 175 = .ok (.dup, 1) := dk_89 (dk_at dksX1_init_7 10 rfl rfl)
theorem dX1_init_176 : decode cX1_init 176 = .ok (.invokespecial 75, 3) := dk_183 0 75 (dk_at dksX1_init_7 11 rfl rfl)
theorem dX1_init_179 : decode cX1_init 179 = .ok (.aastore, 1) := dk_83 (dk_at dksX1_init_7 14 rfl rfl)
theorem dX1_init_180 : decode cX1_init 180 = .ok (.dup, 1) := dk_89 (dk_at dksX1_init_7 15 rfl rfl)
theorem dX1_init_181 : decode cX1_init 181 = .ok (.iconst 1, 1) := dk_4 (dk_at dksX1_init_7 16 rfl rfl)
theorem dX1_init_182 : decode cX1_init 182 = .ok (.new 76, 3) := dk_187 0 76 (dk_at dksX1_init_7 17 rfl rfl)
theorem dX1_init_185 : decode cX1_init 185 = .ok (.dup, 1) := dk_89 (dk_at dksX1_init_7 20 rfl rfl)
theorem dX1_init_186 : decode cX1_init 186 = .ok (.invokespecial 78, 3) := dk_183 0 78 (dk_at dksX1_init_7 21 rfl rfl)
theorem dX1_init_189 : decode cX1_init 189 = .ok (.aastore, 1) := dk_83 (dk_at dksX1_init_8 0 rfl rfl)
theorem dX1_init_190 : decode cX1_init 190 = .ok (.dup, 1) := dk_89 (dk_at dksX1_init_8 1 rfl rfl)
theorem dX1_init_191 : decode cX1_init 191 = .ok (.iconst 2, 1) := dk_5 (dk_at dksX1_init_8 2 rfl rfl)
theorem dX1_init_192 : decode cX1_init 192 = .ok (.new 79, 3) := dk_187 0 79 (dk_at dksX1_init_8 3 rfl rfl)
theorem dX1_init_195 : decode cX1_init 195 = .ok (.dup, 1) := dk_89 (dk_at dksX1_init_8 6 rfl rfl)
theorem dX1_init_196 : decode cX1_init 196 = .ok (.invokespecial 81, 3) := dk_183 0 81 (dk_at dksX1_init_8 7 rfl rfl)
theorem dX1_init_199 : decode cX1_init 199 = .ok (.aastore, 1) := dk_83 (dk_at dksX1_init_8 10 rfl rfl)
theorem dX1_init_200 : decode cX1_init 200 = .ok (.dup, 1) := dk_89 (dk_at dksX1_init_8 11 rfl rfl)
theorem dX1_init_201 : decode cX1_init 201 = .ok (.iconst 3, 1) := dk_6 (dk_at dksX1_init_8 12 rfl rfl)
theorem dX1_init_202 : decode cX1_init 202 = .ok (.new 82, 3) := dk_187 0 82 (dk_at dksX1_init_8 13 rfl rfl)
theorem dX1_init_205 : decode cX1_init 205 = .ok (.dup, 1) := dk_89 (dk_at dksX1_init_8 16 rfl rfl)
theorem dX1_init_206 : decode cX1_init 206 = .ok (.invokespecial 84, 3) := dk_183 0 84 (dk_at dksX1_init_8 17 rfl rfl)
theorem dX1_init_209 : decode cX1_init 209 = .ok (.aastore, 1) := dk_83 (dk_at dksX1_init_8 20 rfl rfl)
theorem dX1_init_210 : decode cX1_init 210 = .ok (.putfield 85, 3) := dk_181 0 85 (dk_at dksX1_init_8 21 rfl rfl)
theorem dX1_init_213 : decode cX1_init 213 = .ok (.aload_n 0, 1) := dk_42 (dk_at dksX1_init_9 0 rfl rfl)
theorem dX1_init_214 : decode cX1_init 214 = .ok (.iconst 4, 1) := dk_7 (dk_at dksX1_init_9 1 rfl rfl)
theorem dX1_init_215 : decode cX1_init 215 = .ok (.newarray .int, 2) := dk_188_10 (dk_at dksX1_init_9 2 rfl rfl)
theorem dX1_init_217 : decode cX1_init 217 = .ok (.dup, 1) := dk_89 (dk_at dksX1_init_9 4 rfl rfl)
theorem dX1_init_218 : decode cX1_init 218 = .ok (.iconst 0, 1) := dk_3 (dk_at dksX1_init_9 5 rfl rfl)
theorem dX1_init_219 : decode cX1_init 219 = .ok (.iconst (-1), 1) := dk_2 (dk_at dksX1_init_9 6 rfl rfl)
theorem dX1_init_220 : decode cX1_init 220 = .ok (.iastore, 1) := dk_79 (dk_at dksX1_init_9 7 rfl rfl)
theorem dX1_init_221 : decode cX1_init 221 = .ok (.dup, 1) := dk_89 (dk_at dksX1_init_9 8 rfl rfl)
theorem dX1_init_222 : decode cX1_init 222 = .ok (.iconst 1, 1) := dk_4 (dk_at dksX1_init_9 9 rfl rfl)
theorem dX1_init_223 : decode cX1_init 223 = .ok (.iconst (-1), 1) := dk_2 (dk_at dksX1_init_9 10 rfl rfl)
theorem dX1_init_224 : decode cX1_init 224 = .ok (.iastore, 1) := dk_79 (dk_at dksX1_init_9 11 rfl rfl)
theorem dX1_init_225 : decode cX1_init 225 = .ok (.dup, 1) := dk_89 (dk_at dksX1_init_9 12 rfl rfl)
theorem dX1_init_226 : decode cX1_init 226 = .ok (.iconst 2, 1) := dk_5 (dk_at dksX1_init_9 13 rfl rfl)
theorem dX1_init_227 : decode cX1_init 227 = .ok (.iconst (-1), 1) := dk_2 (dk_at dksX1_init_9 14 rfl rfl)
theorem dX1_init_228 : decode cX1_init 228 = .ok (.iastore, 1) := dk_79 (dk_at dksX1_init_9 15 rfl rfl)
theorem dX1_init_229 : decode cX1_init 229 = .ok (.dup, 1) := dk_89 (dk_at dksX1_init_9 16 rfl rfl)
theorem dX1_init_230 : decode cX1_init 230 = .ok (.iconst 3, 1) := dk_6 (dk_at dksX1_init_9 17 rfl rfl)
theorem dX1_init_231 : decode cX1_init 231 = .ok (.iconst (-1), 1) := dk_2 (dk_at dksX1_init_9 18 rfl rfl)
theorem dX1_init_232 : decode cX1_init 232 = .ok (.iastore, 1) := dk_79 (dk_at dksX1_init_9 19 rfl rfl)
theorem dX1_init_233 : decode cX1_init 233 = .ok (.putfield 89, 3) := dk_181 0 89 (dk_at dksX1_init_9 20 rfl rfl)
theorem dX1_init_236 : decode cX1_init 236 = .ok (.aload_n 0, 1) := dk_42 (dk_at dksX1_init_9 23 rfl rfl)
theorem dX1_init_237 : decode cX1_init 237 = .ok (.iconst 2, 1) := dk_5 (dk_at dksX1_init_10 0 rfl rfl)
theorem dX1_init_238 : decode cX1_init 238 = .ok (.anewarray 92, 3) := dk_189 0 92 (dk_at dksX1_init_10 1 rfl rfl)
theorem dX1_init_241 : decode cX1_init 241 = .ok (.dup, 1) := dk_89 (dk_at dksX1_init_10 4 rfl rfl)
theorem dX1_init_242 : decode cX1_init 242 = .ok (.iconst 0, 1) := dk_3 (dk_at dksX1_init_10 5 rfl rfl)
theorem dX1_init_243 : decode cX1_init 243 = .ok (.new 92, 3) := dk_187 0 92 (dk_at dksX1_init_10 6 rfl rfl)
theorem dX1_init_246 : decode cX1_init 246 = .ok (.dup, 1) := dk_89 (dk_at dksX1_init_10 9 rfl rfl)
theorem dX1_init_247 : decode cX1_init 247 = .ok (.invokespecial 94, 3) := dk_183 0 94 (dk_at dksX1_init_10 10 rfl rfl)
theorem dX1_init_250 : decode cX1_init 250 = .ok (.aastore, 1) := dk_83 (dk_at dksX1_init_10 13 rfl rfl)
theorem dX1_init_251 : decode cX1_init 251 = .ok (.dup, 1) := dk_89 (dk_at dksX1_init_10 14 rfl rfl)
theorem dX1_init_252 : decode cX1_init 252 = .ok (.iconst 1, 1) := dk_4 (dk_at dksX1_init_10 15 rfl rfl)
theorem dX1_init_253 : decode cX1_init 253 = .ok (.new 92, 3) := dk_187 0 92 (dk_at dksX1_init_10 16 rfl rfl)
theorem dX1_init_256 : decode cX1_init 256 = .ok (.dup, 1) := dk_89 (dk_at dksX1_init_10 19 rfl rfl)
theorem dX1_init_257 : decode cX1_init 257 = .ok (.invokespecial 94, 3) := dk_183 0 94 (dk_at dksX1_init_10 20 rfl rfl)
theorem dX1_init_260 : decode cX1_init 260 = .ok (.aastore, 1) := dk_83 (dk_at dksX1_init_10 23 rfl rfl)
theorem dX1_init_261 : decode cX1_init 261 = .ok (.putfield 95, 3) := dk_181 0 95 (dk_at dksX1_init_11 0 rfl rfl)
theorem dX1_init_264 : decode cX1_init 264 = .ok (.iconst 0, 1) := dk_3 (dk_at dksX1_init_11 3 rfl rfl)
theorem dX1_init_265 : decode cX1_init 265 = .ok (.istore_n 1, 1) := dk_60 (dk_at dksX1_init_11 4 rfl rfl)
theorem dX1_init_266 : decode cX1_init 266 = .ok (.iload_n 1, 1) := dk_27 (dk_at dksX1_init_11 5 rfl rfl)
theorem dX1_init_267 : decode cX1_init 267 = .ok (.bipush 8, 2) := dk_16 8 (dk_at dksX1_init_11 6 rfl rfl)
theorem dX1_init_269 : decode cX1_init 269 = .ok (.if_icmp .ge 22, 3) := dk_162 0 22 (dk_at dksX1_init_11 8 rfl rfl)
theorem dX1_init_272 : decode cX1_init 272 = .ok (.aload_n 0, 1) := dk_42 (dk_at dksX1_init_11 11 rfl rfl)
theorem dX1_init_273 : decode cX1_init 273 = .ok (.getfield 37, 3) := dk_180 0 37 (dk_at dksX1_init_11 12 rfl rfl)
theorem dX1_init_276 : decode cX1_init 276 = .ok (.iload_n 1, 1) := dk_27 (dk_at dksX1_init_11 15 rfl rfl)
theorem dX1_init_277 : decode cX1_init 277 = .ok (.new 23, 3) := dk_187 0 23 (dk_at dksX1_init_11 16 rfl rfl)
theorem dX1_init_280 : decode cX1_init 280 = .ok (.dup, 1) := dk_89 (dk_at dksX1_init_11 19 rfl rfl)
theorem dX1_init_281 : decode cX1_init 281 = .ok (.invokespecial 25, 3) := dk_183 0 25 (dk_at dksX1_init_11 20 rfl rfl)
theorem dX1_init_284 : decode cX1_init 284 = .ok (.aastore, 1) := dk_83 (dk_at dksX1_init_11 23 rfl rfl)
theorem dX1_init_285 : decode cX1_init 285 = .ok (.iinc 1 1, 3) := dk_132 1 1 (dk_at dksX1_init_12 0 rfl rfl)
theorem dX1_init_288 : decode cX1_init 288 = .ok (.goto (-22), 3) := dk_167 255 234 (dk_at dksX1_init_12 3 rfl rfl)
theorem dX1_init_291 : decode cX1_init 291 = .ok (.return_, 1) := dk_177 (dk_at dksX1_init_12 6 rfl rfl)
abbrev cX1_isOf : ByteArray := prog_1_method_2_code
def yX1_isOf : MethodName := ⟨RX1, "isOf", "(II)Z"⟩
def dkwX1_isOf_0 : List UInt8 := [26, 27, 122, 4, 126, 4, 160, 0, 7, 4, 167, 0, 4, 3, 172]
abbrev dktX1_isOf_0 : List UInt8 := dkwX1_isOf_0 ++ []
theorem dksX1_isOf_0 : cX1_isOf.data.toList.drop 0 = dktX1_isOf_0 := by decide +kernel
theorem dX1_isOf_0 : decode cX1_isOf 0 = .ok (.iload_n 0, 1) := dk_26 (dk_at dksX1_isOf_0 0 rfl rfl)
theorem dX1_isOf_1 : decode cX1_isOf 1 = .ok (.iload_n 1, 1) := dk_27 (dk_at dksX1_isOf_0 1 rfl rfl)
theorem dX1_isOf_2 : decode cX1_isOf 2 = .ok (.ishr, 1) := dk_122 (dk_at dksX1_isOf_0 2 rfl rfl)
theorem dX1_isOf_3 : decode cX1_isOf 3 = .ok (.iconst 1, 1) := dk_4 (dk_at dksX1_isOf_0 3 rfl rfl)
theorem dX1_isOf_4 : decode cX1_isOf 4 = .ok (.iand, 1) := dk_126 (dk_at dksX1_isOf_0 4 rfl rfl)
theorem dX1_isOf_5 : decode cX1_isOf 5 = .ok (.iconst 1, 1) := dk_4 (dk_at dksX1_isOf_0 5 rfl rfl)
theorem dX1_isOf_6 : decode cX1_isOf 6 = .ok (.if_icmp .ne 7, 3) := dk_160 0 7 (dk_at dksX1_isOf_0 6 rfl rfl)
theorem dX1_isOf_9 : decode cX1_isOf 9 = .ok (.iconst 1, 1) := dk_4 (dk_at dksX1_isOf_0 9 rfl rfl)
theorem dX1_isOf_10 : decode cX1_isOf 10 = .ok (.goto 4, 3) := dk_167 0 4 (dk_at dksX1_isOf_0 10 rfl rfl)
theorem dX1_isOf_13 : decode cX1_isOf 13 = .ok (.iconst 0, 1) := dk_3 (dk_at dksX1_isOf_0 13 rfl rfl)
theorem dX1_isOf_14 : decode cX1_isOf 14 = .ok (.ireturn, 1) := dk_172 (dk_at dksX1_isOf_0 14 rfl rfl)
abbrev cX1_feed : ByteArray := prog_1_method_6_code
def yX1_feed : MethodName := ⟨RX1, "feed", "(IIIII)I"⟩
def dkwX1_feed_2 : List UInt8 := [172]
abbrev dktX1_feed_2 : List UInt8 := dkwX1_feed_2 ++ []
def dkwX1_feed_1 : List UInt8 := [182, 0, 103, 42, 29, 182, 0, 103, 42, 21, 4, 182, 0, 103, 42, 21, 5, 182, 0, 103, 42, 180, 0, 99]
abbrev dktX1_feed_1 : List UInt8 := dkwX1_feed_1 ++ dktX1_feed_2
def dkwX1_feed_0 : List UInt8 := [42, 180, 0, 99, 16, 20, 96, 17, 3, 172, 164, 0, 5, 2, 172, 42, 27, 182, 0, 103, 42, 28]
abbrev dktX1_feed_0 : List UInt8 := dkwX1_feed_0 ++ dktX1_feed_1
theorem dksX1_feed_0 : cX1_feed.data.toList.drop 0 = dktX1_feed_0 := by decide +kernel
theorem dksX1_feed_1 : cX1_feed.data.toList.drop 22 = dktX1_feed_1 := dk_seg dksX1_feed_0 22 rfl rfl
theorem dksX1_feed_2 : cX1_feed.data.toList.drop 46 = dktX1_feed_2 := dk_seg dksX1_feed_1 24 rfl rfl
theorem dX1_feed_0 : decode cX1_feed 0 = .ok (.aload_n 0, 1) := dk_42 (dk_at dksX1_feed_0 0 rfl rfl)
theorem dX1_feed_1 : decode cX1_feed 1 = .ok (.getfield 99, 3) := dk_180 0 99 (dk_at dksX1_feed_0 1 rfl rfl)
theorem dX1_feed_4 : decode cX1_feed 4 = .ok (.bipush 20, 2) := dk_16 20 (dk_at dksX1_feed_0 4 rfl rfl)
theorem dX1_feed_6 : decode cX1_feed 6 = .ok (.iadd, 1) := dk_96 (dk_at dksX1_feed_0 6 rfl rfl)
theorem dX1_feed_7 : decode cX1_feed 7 = .ok (.sipush 940, 3) := dk_17 3 172 (dk_at dksX1_feed_0 7 rfl rfl)
theorem dX1_feed_10 : decode cX1_feed 10 = .ok (.if_icmp .le 5, 3) := dk_164 0 5 (dk_at dksX1_feed_0 10 rfl rfl)
theorem dX1_feed_13 : decode cX1_feed 13 = .ok (.iconst (-1), 1) := dk_2 (dk_at dksX1_feed_0 13 rfl rfl)
theorem dX1_feed_14 : decode cX1_feed 14 = .ok (.ireturn, 1) := dk_172 (dk_at dksX1_feed_0 14 rfl rfl)
theorem dX1_feed_15 : decode cX1_feed 15 = .ok (.aload_n 0, 1) := dk_42 (dk_at dksX1_feed_0 15 rfl rfl)
theorem dX1_feed_16 : decode cX1_feed 16 = .ok (.iload_n 1, 1) := dk_27 (dk_at dksX1_feed_0 16 rfl rfl)
theorem dX1_feed_17 : decode cX1_feed 17 = .ok (.invokevirtual 103, 3) := dk_182 0 103 (dk_at dksX1_feed_0 17 rfl rfl)
theorem dX1_feed_20 : decode cX1_feed 20 = .ok (.aload_n 0, 1) := dk_42 (dk_at dksX1_feed_0 20 rfl rfl)
theorem dX1_feed_21 : decode cX1_feed 21 = .ok (.iload_n 2, 1) := dk_28 (dk_at dksX1_feed_0 21 rfl rfl)
theorem dX1_feed_22 : decode cX1_feed 22 = .ok (.invokevirtual 103, 3) := dk_182 0 103 (dk_at dksX1_feed_1 0 rfl rfl)
theorem dX1_feed_25 : decode cX1_feed 25 = .ok (.aload_n 0, 1) := dk_42 (dk_at dksX1_feed_1 3 rfl rfl)
theorem dX1_feed_26 : decode cX1_feed 26 = .ok (.iload_n 3, 1) := dk_29 (dk_at dksX1_feed_1 4 rfl rfl)
theorem dX1_feed_27 : decode cX1_feed 27 = .ok (.invokevirtual 103, 3) := dk_182 0 103 (dk_at dksX1_feed_1 5 rfl rfl)
theorem dX1_feed_30 : decode cX1_feed 30 = .ok (.aload_n 0, 1) := dk_42 (dk_at dksX1_feed_1 8 rfl rfl)
theorem dX1_feed_31 : decode cX1_feed 31 = .ok (.iload 4, 2) := dk_21 4 (dk_at dksX1_feed_1 9 rfl rfl)
theorem dX1_feed_33 : decode cX1_feed 33 = .ok (.invokevirtual 103, 3) := dk_182 0 103 (dk_at dksX1_feed_1 11 rfl rfl)
theorem dX1_feed_36 : decode cX1_feed 36 = .ok (.aload_n 0, 1) := dk_42 (dk_at dksX1_feed_1 14 rfl rfl)
theorem dX1_feed_37 : decode cX1_feed 37 = .ok (.iload 5, 2) := dk_21 5 (dk_at dksX1_feed_1 15 rfl rfl)
theorem dX1_feed_39 : decode cX1_feed 39 = .ok (.invokevirtual 103, 3) := dk_182 0 103 (dk_at dksX1_feed_1 17 rfl rfl)
theorem dX1_feed_42 : decode cX1_feed 42 = .ok (.aload_n 0, 1) := dk_42 (dk_at dksX1_feed_1 20 rfl rfl)
theorem dX1_feed_43 : decode cX1_feed 43 = .ok (.getfield 99, 3) := dk_180 0 99 (dk_at dksX1_feed_1 21 rfl rfl)
theorem dX1_feed_46 : decode cX1_feed 46 = .ok (.ireturn, 1) := dk_172 (dk_at dksX1_feed_2 0 rfl rfl)
abbrev cX1_come : ByteArray := prog_1_method_5_code
def yX1_come : MethodName := ⟨RX1, "come", "(I)V"⟩
def dkwX1_come_1 : List UInt8 := [180, 0, 99, 4, 96, 181, 0, 99, 132, 2, 248, 167, 255, 226, 177]
abbrev dktX1_come_1 : List UInt8 := dkwX1_come_1 ++ []
def dkwX1_come_0 : List UInt8 := [16, 24, 61, 28, 155, 0, 32, 42, 180, 0, 12, 42, 180, 0, 99, 27, 28, 122, 145, 84, 42, 89]
abbrev dktX1_come_0 : List UInt8 := dkwX1_come_0 ++ dktX1_come_1
theorem dksX1_come_0 : cX1_come.data.toList.drop 0 = dktX1_come_0 := by decide +kernel
theorem dksX1_come_1 : cX1_come.data.toList.drop 22 = dktX1_come_1 := dk_seg dksX1_come_0 22 rfl rfl
theorem dX1_come_0 : decode cX1_come 0 = .ok (.bipush 24, 2) := dk_16 24 (dk_at dksX1_come_0 0 rfl rfl)
theorem dX1_come_2 : decode cX1_come 2 = .ok (.istore_n 2, 1) := dk_61 (dk_at dksX1_come_0 2 rfl rfl)
theorem dX1_come_3 : decode cX1_come 3 = .ok (.iload_n 2, 1) := dk_28 (dk_at dksX1_come_0 3 rfl rfl)
theorem dX1_come_4 : decode cX1_come 4 = .ok (.ifCond .lt 32, 3) := dk_155 0 32 (dk_at dksX1_come_0 4 rfl rfl)
theorem dX1_come_7 : decode cX1_come 7 = .ok (.aload_n 0, 1) := dk_42 (dk_at dksX1_come_0 7 rfl rfl)
theorem dX1_come_8 : decode cX1_come 8 = .ok (.getfield 12, 3) := dk_180 0 12 (dk_at dksX1_come_0 8 rfl rfl)
theorem dX1_come_11 : decode cX1_come 11 = .ok (.aload_n 0, 1) := dk_42 (dk_at dksX1_come_0 11 rfl rfl)
theorem dX1_come_12 : decode cX1_come 12 = .ok (.getfield 99, 3) := dk_180 0 99 (dk_at dksX1_come_0 12 rfl rfl)
theorem dX1_come_15 : decode cX1_come 15 = .ok (.iload_n 1, 1) := dk_27 (dk_at dksX1_come_0 15 rfl rfl)
theorem dX1_come_16 : decode cX1_come 16 = .ok (.iload_n 2, 1) := dk_28 (dk_at dksX1_come_0 16 rfl rfl)
theorem dX1_come_17 : decode cX1_come 17 = .ok (.ishr, 1) := dk_122 (dk_at dksX1_come_0 17 rfl rfl)
theorem dX1_come_18 : decode cX1_come 18 = .ok (.i2b, 1) := dk_145 (dk_at dksX1_come_0 18 rfl rfl)
theorem dX1_come_19 : decode cX1_come 19 = .ok (.bastore, 1) := dk_84 (dk_at dksX1_come_0 19 rfl rfl)
theorem dX1_come_20 : decode cX1_come 20 = .ok (.aload_n 0, 1) := dk_42 (dk_at dksX1_come_0 20 rfl rfl)
theorem dX1_come_21 : decode cX1_come 21 = .ok (.dup, 1) := dk_89 (dk_at dksX1_come_0 21 rfl rfl)
theorem dX1_come_22 : decode cX1_come 22 = .ok (.getfield 99, 3) := dk_180 0 99 (dk_at dksX1_come_1 0 rfl rfl)
theorem dX1_come_25 : decode cX1_come 25 = .ok (.iconst 1, 1) := dk_4 (dk_at dksX1_come_1 3 rfl rfl)
theorem dX1_come_26 : decode cX1_come 26 = .ok (.iadd, 1) := dk_96 (dk_at dksX1_come_1 4 rfl rfl)
theorem dX1_come_27 : decode cX1_come 27 = .ok (.putfield 99, 3) := dk_181 0 99 (dk_at dksX1_come_1 5 rfl rfl)
theorem dX1_come_30 : decode cX1_come 30 = .ok (.iinc 2 (-8), 3) := dk_132 2 248 (dk_at dksX1_come_1 8 rfl rfl)
theorem dX1_come_33 : decode cX1_come 33 = .ok (.goto (-30), 3) := dk_167 255 226 (dk_at dksX1_come_1 11 rfl rfl)
theorem dX1_come_36 : decode cX1_come 36 = .ok (.return_, 1) := dk_177 (dk_at dksX1_come_1 14 rfl rfl)
abbrev cX1_end : ByteArray := prog_1_method_7_code
def yX1_end : MethodName := ⟨RX1, "end", "(I)Z"⟩
def dkwX1_end_0 : List UInt8 := [27, 155, 0, 11, 27, 42, 180, 0, 99, 164, 0, 5, 3, 172, 42, 27, 181, 0, 99, 4, 172]
abbrev dktX1_end_0 : List UInt8 := dkwX1_end_0 ++ []
theorem dksX1_end_0 : cX1_end.data.toList.drop 0 = dktX1_end_0 := by decide +kernel
theorem dX1_end_0 : decode cX1_end 0 = .ok (.iload_n 1, 1) := dk_27 (dk_at dksX1_end_0 0 rfl rfl)
theorem dX1_end_1 : decode cX1_end 1 = .ok (.ifCond .lt 11, 3) := dk_155 0 11 (dk_at dksX1_end_0 1 rfl rfl)
theorem dX1_end_4 : decode cX1_end 4 = .ok (.iload_n 1, 1) := dk_27 (dk_at dksX1_end_0 4 rfl rfl)
theorem dX1_end_5 : decode cX1_end 5 = .ok (.aload_n 0, 1) := dk_42 (dk_at dksX1_end_0 5 rfl rfl)
theorem dX1_end_6 : decode cX1_end 6 = .ok (.getfield 99, 3) := dk_180 0 99 (dk_at dksX1_end_0 6 rfl rfl)
theorem dX1_end_9 : decode cX1_end 9 = .ok (.if_icmp .le 5, 3) := dk_164 0 5 (dk_at dksX1_end_0 9 rfl rfl)
theorem dX1_end_12 : decode cX1_end 12 = .ok (.iconst 0, 1) := dk_3 (dk_at dksX1_end_0 12 rfl rfl)
theorem dX1_end_13 : decode cX1_end 13 = .ok (.ireturn, 1) := dk_172 (dk_at dksX1_end_0 13 rfl rfl)
theorem dX1_end_14 : decode cX1_end 14 = .ok (.aload_n 0, 1) := dk_42 (dk_at dksX1_end_0 14 rfl rfl)
theorem dX1_end_15 : decode cX1_end 15 = .ok (.iload_n 1, 1) := dk_27 (dk_at dksX1_end_0 15 rfl rfl)
theorem dX1_end_16 : decode cX1_end 16 = .ok (.putfield 99, 3) := dk_181 0 99 (dk_at dksX1_end_0 16 rfl rfl)
theorem dX1_end_19 : decode cX1_end 19 = .ok (.iconst 1, 1) := dk_4 (dk_at dksX1_end_0 19 rfl rfl)
theorem dX1_end_20 : decode cX1_end 20 = .ok (.ireturn, 1) := dk_172 (dk_at dksX1_end_0 20 rfl rfl)
abbrev cX1_table : ByteArray := prog_1_method_10_code
def yX1_table : MethodName := ⟨RX1, "table", "()I"⟩
def dkwX1_table_3 : List UInt8 := [180, 0, 138, 100, 172]
abbrev dktX1_table_3 : List UInt8 := dkwX1_table_3 ++ []
def dkwX1_table_2 : List UInt8 := [3, 181, 0, 127, 42, 180, 0, 19, 180, 0, 130, 172, 77, 42, 44, 180, 0, 135, 181, 0, 111, 2, 44]
abbrev dktX1_table_2 : List UInt8 := dkwX1_table_2 ++ dktX1_table_3
def dkwX1_table_1 : List UInt8 := [182, 0, 119, 181, 0, 19, 42, 180, 0, 30, 42, 180, 0, 19, 182, 0, 26, 87, 42, 1, 181, 0, 123, 42]
abbrev dktX1_table_1 : List UInt8 := dkwX1_table_1 ++ dktX1_table_2
def dkwX1_table_0 : List UInt8 := [42, 182, 0, 107, 60, 42, 3, 181, 0, 111, 42, 187, 0, 114, 89, 42, 180, 0, 12, 27, 183, 0, 116]
abbrev dktX1_table_0 : List UInt8 := dkwX1_table_0 ++ dktX1_table_1
theorem dksX1_table_0 : cX1_table.data.toList.drop 0 = dktX1_table_0 := by decide +kernel
theorem dksX1_table_1 : cX1_table.data.toList.drop 23 = dktX1_table_1 := dk_seg dksX1_table_0 23 rfl rfl
theorem dksX1_table_2 : cX1_table.data.toList.drop 47 = dktX1_table_2 := dk_seg dksX1_table_1 24 rfl rfl
theorem dksX1_table_3 : cX1_table.data.toList.drop 70 = dktX1_table_3 := dk_seg dksX1_table_2 23 rfl rfl
theorem dX1_table_0 : decode cX1_table 0 = .ok (.aload_n 0, 1) := dk_42 (dk_at dksX1_table_0 0 rfl rfl)
theorem dX1_table_1 : decode cX1_table 1 = .ok (.invokevirtual 107, 3) := dk_182 0 107 (dk_at dksX1_table_0 1 rfl rfl)
theorem dX1_table_4 : decode cX1_table 4 = .ok (.istore_n 1, 1) := dk_60 (dk_at dksX1_table_0 4 rfl rfl)
theorem dX1_table_5 : decode cX1_table 5 = .ok (.aload_n 0, 1) := dk_42 (dk_at dksX1_table_0 5 rfl rfl)
theorem dX1_table_6 : decode cX1_table 6 = .ok (.iconst 0, 1) := dk_3 (dk_at dksX1_table_0 6 rfl rfl)
theorem dX1_table_7 : decode cX1_table 7 = .ok (.putfield 111, 3) := dk_181 0 111 (dk_at dksX1_table_0 7 rfl rfl)
theorem dX1_table_10 : decode cX1_table 10 = .ok (.aload_n 0, 1) := dk_42 (dk_at dksX1_table_0 10 rfl rfl)
theorem dX1_table_11 : decode cX1_table 11 = .ok (.new 114, 3) := dk_187 0 114 (dk_at dksX1_table_0 11 rfl rfl)
theorem dX1_table_14 : decode cX1_table 14 = .ok (.dup, 1) := dk_89 (dk_at dksX1_table_0 14 rfl rfl)
theorem dX1_table_15 : decode cX1_table 15 = .ok (.aload_n 0, 1) := dk_42 (dk_at dksX1_table_0 15 rfl rfl)
theorem dX1_table_16 : decode cX1_table 16 = .ok (.getfield 12, 3) := dk_180 0 12 (dk_at dksX1_table_0 16 rfl rfl)
theorem dX1_table_19 : decode cX1_table 19 = .ok (.iload_n 1, 1) := dk_27 (dk_at dksX1_table_0 19 rfl rfl)
theorem dX1_table_20 : decode cX1_table 20 = .ok (.invokespecial 116, 3) := dk_183 0 116 (dk_at dksX1_table_0 20 rfl rfl)
theorem dX1_table_23 : decode cX1_table 23 = .ok (.invokevirtual 119, 3) := dk_182 0 119 (dk_at dksX1_table_1 0 rfl rfl)
theorem dX1_table_26 : decode cX1_table 26 = .ok (.putfield 19, 3) := dk_181 0 19 (dk_at dksX1_table_1 3 rfl rfl)
theorem dX1_table_29 : decode cX1_table 29 = .ok (.aload_n 0, 1) := dk_42 (dk_at dksX1_table_1 6 rfl rfl)
theorem dX1_table_30 : decode cX1_table 30 = .ok (.getfield 30, 3) := dk_180 0 30 (dk_at dksX1_table_1 7 rfl rfl)
theorem dX1_table_33 : decode cX1_table 33 = .ok (.aload_n 0, 1) := dk_42 (dk_at dksX1_table_1 10 rfl rfl)
theorem dX1_table_34 : decode cX1_table 34 = .ok (.getfield 19, 3) := dk_180 0 19 (dk_at dksX1_table_1 11 rfl rfl)
theorem dX1_table_37 : decode cX1_table 37 = .ok (.invokevirtual 26, 3) := dk_182 0 26 (dk_at dksX1_table_1 14 rfl rfl)
theorem dX1_table_40 : decode cX1_table 40 = .ok (.pop, 1) := dk_87 (dk_at dksX1_table_1 17 rfl rfl)
theorem dX1_table_41 : decode cX1_table 41 = .ok (.aload_n 0, 1) := dk_42 (dk_at dksX1_table_1 18 rfl rfl)
theorem dX1_table_42 : decode cX1_table 42 = .ok (.aconst_null, 1) := dk_1 (dk_at dksX1_table_1 19 rfl rfl)
theorem dX1_table_43 : decode cX1_table 43 = .ok (.putfield 123, 3) := dk_181 0 123 (dk_at dksX1_table_1 20 rfl rfl)
theorem dX1_table_46 : decode cX1_table 46 = .ok (.aload_n 0, 1) := dk_42 (dk_at dksX1_table_1 23 rfl rfl)
theorem dX1_table_47 : decode cX1_table 47 = .ok (.iconst 0, 1) := dk_3 (dk_at dksX1_table_2 0 rfl rfl)
theorem dX1_table_48 : decode cX1_table 48 = .ok (.putfield 127, 3) := dk_181 0 127 (dk_at dksX1_table_2 1 rfl rfl)
theorem dX1_table_51 : decode cX1_table 51 = .ok (.aload_n 0, 1) := dk_42 (dk_at dksX1_table_2 4 rfl rfl)
theorem dX1_table_52 : decode cX1_table 52 = .ok (.getfield 19, 3) := dk_180 0 19 (dk_at dksX1_table_2 5 rfl rfl)
theorem dX1_table_55 : decode cX1_table 55 = .ok (.getfield 130, 3) := dk_180 0 130 (dk_at dksX1_table_2 8 rfl rfl)
theorem dX1_table_58 : decode cX1_table 58 = .ok (.ireturn, 1) := dk_172 (dk_at dksX1_table_2 11 rfl rfl)
theorem dX1_table_59 : decode cX1_table 59 = .ok (.astore_n 2, 1) := dk_77 (dk_at dksX1_table_2 12 rfl rfl)
theorem dX1_table_60 : decode cX1_table 60 = .ok (.aload_n 0, 1) := dk_42 (dk_at dksX1_table_2 13 rfl rfl)
theorem dX1_table_61 : decode cX1_table 61 = .ok (.aload_n 2, 1) := dk_44 (dk_at dksX1_table_2 14 rfl rfl)
theorem dX1_table_62 : decode cX1_table 62 = .ok (.getfield 135, 3) := dk_180 0 135 (dk_at dksX1_table_2 15 rfl rfl)
theorem dX1_table_65 : decode cX1_table 65 = .ok (.putfield 111, 3) := dk_181 0 111 (dk_at dksX1_table_2 18 rfl rfl)
theorem dX1_table_68 : decode cX1_table 68 = .ok (.iconst (-1), 1) := dk_2 (dk_at dksX1_table_2 21 rfl rfl)
theorem dX1_table_69 : decode cX1_table 69 = .ok (.aload_n 2, 1) := dk_44 (dk_at dksX1_table_2 22 rfl rfl)
theorem dX1_table_70 : decode cX1_table 70 = .ok (.getfield 138, 3) := dk_180 0 138 (dk_at dksX1_table_3 0 rfl rfl)
theorem dX1_table_73 : decode cX1_table 73 = .ok (.isub, 1) := dk_100 (dk_at dksX1_table_3 3 rfl rfl)
theorem dX1_table_74 : decode cX1_table 74 = .ok (.ireturn, 1) := dk_172 (dk_at dksX1_table_3 4 rfl rfl)
abbrev cX1_take : ByteArray := prog_1_method_8_code
def yX1_take : MethodName := ⟨RX1, "take", "()I"⟩
def dkwX1_take_0 : List UInt8 := [42, 180, 0, 99, 60, 42, 3, 181, 0, 99, 27, 172]
abbrev dktX1_take_0 : List UInt8 := dkwX1_take_0 ++ []
theorem dksX1_take_0 : cX1_take.data.toList.drop 0 = dktX1_take_0 := by decide +kernel
theorem dX1_take_0 : decode cX1_take 0 = .ok (.aload_n 0, 1) := dk_42 (dk_at dksX1_take_0 0 rfl rfl)
theorem dX1_take_1 : decode cX1_take 1 = .ok (.getfield 99, 3) := dk_180 0 99 (dk_at dksX1_take_0 1 rfl rfl)
theorem dX1_take_4 : decode cX1_take 4 = .ok (.istore_n 1, 1) := dk_60 (dk_at dksX1_take_0 4 rfl rfl)
theorem dX1_take_5 : decode cX1_take 5 = .ok (.aload_n 0, 1) := dk_42 (dk_at dksX1_take_0 5 rfl rfl)
theorem dX1_take_6 : decode cX1_take 6 = .ok (.iconst 0, 1) := dk_3 (dk_at dksX1_take_0 6 rfl rfl)
theorem dX1_take_7 : decode cX1_take 7 = .ok (.putfield 99, 3) := dk_181 0 99 (dk_at dksX1_take_0 7 rfl rfl)
theorem dX1_take_10 : decode cX1_take 10 = .ok (.iload_n 1, 1) := dk_27 (dk_at dksX1_take_0 10 rfl rfl)
theorem dX1_take_11 : decode cX1_take 11 = .ok (.ireturn, 1) := dk_172 (dk_at dksX1_take_0 11 rfl rfl)
abbrev cX1_isIn : ByteArray := prog_1_method_1_code
def yX1_isIn : MethodName := ⟨RX1, "isIn", "(III)Z"⟩
def dkwX1_isIn_0 : List UInt8 := [26, 27, 161, 0, 12, 26, 28, 163, 0, 7, 4, 167, 0, 4, 3, 172]
abbrev dktX1_isIn_0 : List UInt8 := dkwX1_isIn_0 ++ []
theorem dksX1_isIn_0 : cX1_isIn.data.toList.drop 0 = dktX1_isIn_0 := by decide +kernel
theorem dX1_isIn_0 : decode cX1_isIn 0 = .ok (.iload_n 0, 1) := dk_26 (dk_at dksX1_isIn_0 0 rfl rfl)
theorem dX1_isIn_1 : decode cX1_isIn 1 = .ok (.iload_n 1, 1) := dk_27 (dk_at dksX1_isIn_0 1 rfl rfl)
theorem dX1_isIn_2 : decode cX1_isIn 2 = .ok (.if_icmp .lt 12, 3) := dk_161 0 12 (dk_at dksX1_isIn_0 2 rfl rfl)
theorem dX1_isIn_5 : decode cX1_isIn 5 = .ok (.iload_n 0, 1) := dk_26 (dk_at dksX1_isIn_0 5 rfl rfl)
theorem dX1_isIn_6 : decode cX1_isIn 6 = .ok (.iload_n 2, 1) := dk_28 (dk_at dksX1_isIn_0 6 rfl rfl)
theorem dX1_isIn_7 : decode cX1_isIn 7 = .ok (.if_icmp .gt 7, 3) := dk_163 0 7 (dk_at dksX1_isIn_0 7 rfl rfl)
theorem dX1_isIn_10 : decode cX1_isIn 10 = .ok (.iconst 1, 1) := dk_4 (dk_at dksX1_isIn_0 10 rfl rfl)
theorem dX1_isIn_11 : decode cX1_isIn 11 = .ok (.goto 4, 3) := dk_167 0 4 (dk_at dksX1_isIn_0 11 rfl rfl)
theorem dX1_isIn_14 : decode cX1_isIn 14 = .ok (.iconst 0, 1) := dk_3 (dk_at dksX1_isIn_0 14 rfl rfl)
theorem dX1_isIn_15 : decode cX1_isIn 15 = .ok (.ireturn, 1) := dk_172 (dk_at dksX1_isIn_0 15 rfl rfl)
abbrev cX1_fault : ByteArray := prog_1_method_11_code
def yX1_fault : MethodName := ⟨RX1, "fault", "()I"⟩
theorem dX1_fault_0 : decode cX1_fault 0 = .ok (.aload_n 0, 1) := by decide +kernel
theorem dX1_fault_1 : decode cX1_fault 1 = .ok (.getfield 111, 3) := by decide +kernel
theorem dX1_fault_4 : decode cX1_fault 4 = .ok (.ireturn, 1) := by decide +kernel
abbrev cX1_person : ByteArray := prog_1_method_13_code
def yX1_person : MethodName := ⟨RX1, "person", "(II)I"⟩
def dkwX1_person_5 : List UInt8 := [180, 0, 179, 27, 46, 172, 2, 172]
abbrev dktX1_person_5 : List UInt8 := dkwX1_person_5 ++ []
def dkwX1_person_4 : List UInt8 := [42, 180, 0, 30, 180, 0, 173, 27, 46, 172, 42, 180, 0, 30, 180, 0, 176, 27, 46, 172, 42, 180, 0, 30]
abbrev dktX1_person_4 : List UInt8 := dkwX1_person_4 ++ dktX1_person_5
def dkwX1_person_3 : List UInt8 := [184, 0, 163, 172, 42, 180, 0, 30, 180, 0, 167, 27, 46, 172, 42, 180, 0, 30, 180, 0, 170, 27, 46, 172]
abbrev dktX1_person_3 : List UInt8 := dkwX1_person_3 ++ dktX1_person_4
def dkwX1_person_2 : List UInt8 := [42, 180, 0, 30, 27, 182, 0, 156, 172, 42, 180, 0, 30, 27, 182, 0, 160, 172, 42, 180, 0, 30, 27]
abbrev dktX1_person_2 : List UInt8 := dkwX1_person_2 ++ dktX1_person_3
def dkwX1_person_1 : List UInt8 := [170, 0, 0, 0, 0, 123, 0, 0, 0, 0, 0, 0, 0, 7, 0, 0, 0, 46, 0, 0, 0, 55, 0, 0, 0, 64, 0, 0, 0, 73, 0, 0, 0, 83, 0, 0, 0, 93, 0, 0, 0, 103, 0, 0, 0, 113]
abbrev dktX1_person_1 : List UInt8 := dkwX1_person_1 ++ dktX1_person_2
def dkwX1_person_0 : List UInt8 := [42, 180, 0, 19, 27, 182, 0, 141, 154, 0, 5, 2, 172, 28]
abbrev dktX1_person_0 : List UInt8 := dkwX1_person_0 ++ dktX1_person_1
theorem dksX1_person_0 : cX1_person.data.toList.drop 0 = dktX1_person_0 := by decide +kernel
theorem dksX1_person_1 : cX1_person.data.toList.drop 14 = dktX1_person_1 := dk_seg dksX1_person_0 14 rfl rfl
theorem dksX1_person_2 : cX1_person.data.toList.drop 60 = dktX1_person_2 := dk_seg dksX1_person_1 46 rfl rfl
theorem dksX1_person_3 : cX1_person.data.toList.drop 83 = dktX1_person_3 := dk_seg dksX1_person_2 23 rfl rfl
theorem dksX1_person_4 : cX1_person.data.toList.drop 107 = dktX1_person_4 := dk_seg dksX1_person_3 24 rfl rfl
theorem dksX1_person_5 : cX1_person.data.toList.drop 131 = dktX1_person_5 := dk_seg dksX1_person_4 24 rfl rfl
theorem dX1_person_0 : decode cX1_person 0 = .ok (.aload_n 0, 1) := dk_42 (dk_at dksX1_person_0 0 rfl rfl)
theorem dX1_person_1 : decode cX1_person 1 = .ok (.getfield 19, 3) := dk_180 0 19 (dk_at dksX1_person_0 1 rfl rfl)
theorem dX1_person_4 : decode cX1_person 4 = .ok (.iload_n 1, 1) := dk_27 (dk_at dksX1_person_0 4 rfl rfl)
theorem dX1_person_5 : decode cX1_person 5 = .ok (.invokevirtual 141, 3) := dk_182 0 141 (dk_at dksX1_person_0 5 rfl rfl)
theorem dX1_person_8 : decode cX1_person 8 = .ok (.ifCond .ne 5, 3) := dk_154 0 5 (dk_at dksX1_person_0 8 rfl rfl)
theorem dX1_person_11 : decode cX1_person 11 = .ok (.iconst (-1), 1) := dk_2 (dk_at dksX1_person_0 11 rfl rfl)
theorem dX1_person_12 : decode cX1_person 12 = .ok (.ireturn, 1) := dk_172 (dk_at dksX1_person_0 12 rfl rfl)
theorem dX1_person_13 : decode cX1_person 13 = .ok (.iload_n 2, 1) := dk_28 (dk_at dksX1_person_0 13 rfl rfl)
theorem dX1_person_14 : decode cX1_person 14 = .ok (.tableswitch 123 0 7 #[46, 55, 64, 73, 83, 93, 103, 113], 46) := by decide +kernel
theorem dX1_person_60 : decode cX1_person 60 = .ok (.aload_n 0, 1) := dk_42 (dk_at dksX1_person_2 0 rfl rfl)
theorem dX1_person_61 : decode cX1_person 61 = .ok (.getfield 30, 3) := dk_180 0 30 (dk_at dksX1_person_2 1 rfl rfl)
theorem dX1_person_64 : decode cX1_person 64 = .ok (.iload_n 1, 1) := dk_27 (dk_at dksX1_person_2 4 rfl rfl)
theorem dX1_person_65 : decode cX1_person 65 = .ok (.invokevirtual 156, 3) := dk_182 0 156 (dk_at dksX1_person_2 5 rfl rfl)
theorem dX1_person_68 : decode cX1_person 68 = .ok (.ireturn, 1) := dk_172 (dk_at dksX1_person_2 8 rfl rfl)
theorem dX1_person_69 : decode cX1_person 69 = .ok (.aload_n 0, 1) := dk_42 (dk_at dksX1_person_2 9 rfl rfl)
theorem dX1_person_70 : decode cX1_person 70 = .ok (.getfield 30, 3) := dk_180 0 30 (dk_at dksX1_person_2 10 rfl rfl)
theorem dX1_person_73 : decode cX1_person 73 = .ok (.iload_n 1, 1) := dk_27 (dk_at dksX1_person_2 13 rfl rfl)
theorem dX1_person_74 : decode cX1_person 74 = .ok (.invokevirtual 160, 3) := dk_182 0 160 (dk_at dksX1_person_2 14 rfl rfl)
theorem dX1_person_77 : decode cX1_person 77 = .ok (.ireturn, 1) := dk_172 (dk_at dksX1_person_2 17 rfl rfl)
theorem dX1_person_78 : decode cX1_person 78 = .ok (.aload_n 0, 1) := dk_42 (dk_at dksX1_person_2 18 rfl rfl)
theorem dX1_person_79 : decode cX1_person 79 = .ok (.getfield 30, 3) := dk_180 0 30 (dk_at dksX1_person_2 19 rfl rfl)
theorem dX1_person_82 : decode cX1_person 82 = .ok (.iload_n 1, 1) := dk_27 (dk_at dksX1_person_2 22 rfl rfl)
theorem dX1_person_83 : decode cX1_person 83 = .ok (.invokestatic 163, 3) := dk_184 0 163 (dk_at dksX1_person_3 0 rfl rfl)
theorem dX1_person_86 : decode cX1_person 86 = .ok (.ireturn, 1) := dk_172 (dk_at dksX1_person_3 3 rfl rfl)
theorem dX1_person_87 : decode cX1_person 87 = .ok (.aload_n 0, 1) := dk_42 (dk_at dksX1_person_3 4 rfl rfl)
theorem dX1_person_88 : decode cX1_person 88 = .ok (.getfield 30, 3) := dk_180 0 30 (dk_at dksX1_person_3 5 rfl rfl)
theorem dX1_person_91 : decode cX1_person 91 = .ok (.getfield 167, 3) := dk_180 0 167 (dk_at dksX1_person_3 8 rfl rfl)
theorem dX1_person_94 : decode cX1_person 94 = .ok (.iload_n 1, 1) := dk_27 (dk_at dksX1_person_3 11 rfl rfl)
theorem dX1_person_95 : decode cX1_person 95 = .ok (.iaload, 1) := dk_46 (dk_at dksX1_person_3 12 rfl rfl)
theorem dX1_person_96 : decode cX1_person 96 = .ok (.ireturn, 1) := dk_172 (dk_at dksX1_person_3 13 rfl rfl)
theorem dX1_person_97 : decode cX1_person 97 = .ok (.aload_n 0, 1) := dk_42 (dk_at dksX1_person_3 14 rfl rfl)
theorem dX1_person_98 : decode cX1_person 98 = .ok (.getfield 30, 3) := dk_180 0 30 (dk_at dksX1_person_3 15 rfl rfl)
theorem dX1_person_101 : decode cX1_person 101 = .ok (.getfield 170, 3) := dk_180 0 170 (dk_at dksX1_person_3 18 rfl rfl)
theorem dX1_person_104 : decode cX1_person 104 = .ok (.iload_n 1, 1) := dk_27 (dk_at dksX1_person_3 21 rfl rfl)
theorem dX1_person_105 : decode cX1_person 105 = .ok (.iaload, 1) := dk_46 (dk_at dksX1_person_3 22 rfl rfl)
theorem dX1_person_106 : decode cX1_person 106 = .ok (.ireturn, 1) := dk_172 (dk_at dksX1_person_3 23 rfl rfl)
theorem dX1_person_107 : decode cX1_person 107 = .ok (.aload_n 0, 1) := dk_42 (dk_at dksX1_person_4 0 rfl rfl)
theorem dX1_person_108 : decode cX1_person 108 = .ok (.getfield 30, 3) := dk_180 0 30 (dk_at dksX1_person_4 1 rfl rfl)
theorem dX1_person_111 : decode cX1_person 111 = .ok (.getfield 173, 3) := dk_180 0 173 (dk_at dksX1_person_4 4 rfl rfl)
theorem dX1_person_114 : decode cX1_person 114 = .ok (.iload_n 1, 1) := dk_27 (dk_at dksX1_person_4 7 rfl rfl)
theorem dX1_person_115 : decode cX1_person 115 = .ok (.iaload, 1) := dk_46 (dk_at dksX1_person_4 8 rfl rfl)
theorem dX1_person_116 : decode cX1_person 116 = .ok (.ireturn, 1) := dk_172 (dk_at dksX1_person_4 9 rfl rfl)
theorem dX1_person_117 : decode cX1_person 117 = .ok (.aload_n 0, 1) := dk_42 (dk_at dksX1_person_4 10 rfl rfl)
theorem dX1_person_118 : decode cX1_person 118 = .ok (.getfield 30, 3) := dk_180 0 30 (dk_at dksX1_person_4 11 rfl rfl)
theorem dX1_person_121 : decode cX1_person 121 = .ok (.getfield 176, 3) := dk_180 0 176 (dk_at dksX1_person_4 14 rfl rfl)
theorem dX1_person_124 : decode cX1_person 124 = .ok (.iload_n 1, 1) := dk_27 (dk_at dksX1_person_4 17 rfl rfl)
theorem dX1_person_125 : decode cX1_person 125 = .ok (.iaload, 1) := dk_46 (dk_at dksX1_person_4 18 rfl rfl)
theorem dX1_person_126 : decode cX1_person 126 = .ok (.ireturn, 1) := dk_172 (dk_at dksX1_person_4 19 rfl rfl)
theorem dX1_person_127 : decode cX1_person 127 = .ok (.aload_n 0, 1) := dk_42 (dk_at dksX1_person_4 20 rfl rfl)
theorem dX1_person_128 : decode cX1_person 128 = .ok (.getfield 30, 3) := dk_180 0 30 (dk_at dksX1_person_4 21 rfl rfl)
theorem dX1_person_131 : decode cX1_person 131 = .ok (.getfield 179, 3) := dk_180 0 179 (dk_at dksX1_person_5 0 rfl rfl)
theorem dX1_person_134 : decode cX1_person 134 = .ok (.iload_n 1, 1) := dk_27 (dk_at dksX1_person_5 3 rfl rfl)
theorem dX1_person_135 : decode cX1_person 135 = .ok (.iaload, 1) := dk_46 (dk_at dksX1_person_5 4 rfl rfl)
theorem dX1_person_136 : decode cX1_person 136 = .ok (.ireturn, 1) := dk_172 (dk_at dksX1_person_5 5 rfl rfl)
theorem dX1_person_137 : decode cX1_person 137 = .ok (.iconst (-1), 1) := dk_2 (dk_at dksX1_person_5 6 rfl rfl)
theorem dX1_person_138 : decode cX1_person 138 = .ok (.ireturn, 1) := dk_172 (dk_at dksX1_person_5 7 rfl rfl)
abbrev cX1_book : ByteArray := prog_1_method_14_code
def yX1_book : MethodName := ⟨RX1, "book", "(I)I"⟩
def dkwX1_book_1 : List UInt8 := [172]
abbrev dktX1_book_1 : List UInt8 := dkwX1_book_1 ++ []
def dkwX1_book_0 : List UInt8 := [42, 180, 0, 19, 27, 182, 0, 145, 153, 0, 15, 42, 180, 0, 30, 180, 0, 182, 27, 46, 167, 0, 4, 2]
abbrev dktX1_book_0 : List UInt8 := dkwX1_book_0 ++ dktX1_book_1
theorem dksX1_book_0 : cX1_book.data.toList.drop 0 = dktX1_book_0 := by decide +kernel
theorem dksX1_book_1 : cX1_book.data.toList.drop 24 = dktX1_book_1 := dk_seg dksX1_book_0 24 rfl rfl
theorem dX1_book_0 : decode cX1_book 0 = .ok (.aload_n 0, 1) := dk_42 (dk_at dksX1_book_0 0 rfl rfl)
theorem dX1_book_1 : decode cX1_book 1 = .ok (.getfield 19, 3) := dk_180 0 19 (dk_at dksX1_book_0 1 rfl rfl)
theorem dX1_book_4 : decode cX1_book 4 = .ok (.iload_n 1, 1) := dk_27 (dk_at dksX1_book_0 4 rfl rfl)
theorem dX1_book_5 : decode cX1_book 5 = .ok (.invokevirtual 145, 3) := dk_182 0 145 (dk_at dksX1_book_0 5 rfl rfl)
theorem dX1_book_8 : decode cX1_book 8 = .ok (.ifCond .eq 15, 3) := dk_153 0 15 (dk_at dksX1_book_0 8 rfl rfl)
theorem dX1_book_11 : decode cX1_book 11 = .ok (.aload_n 0, 1) := dk_42 (dk_at dksX1_book_0 11 rfl rfl)
theorem dX1_book_12 : decode cX1_book 12 = .ok (.getfield 30, 3) := dk_180 0 30 (dk_at dksX1_book_0 12 rfl rfl)
theorem dX1_book_15 : decode cX1_book 15 = .ok (.getfield 182, 3) := dk_180 0 182 (dk_at dksX1_book_0 15 rfl rfl)
theorem dX1_book_18 : decode cX1_book 18 = .ok (.iload_n 1, 1) := dk_27 (dk_at dksX1_book_0 18 rfl rfl)
theorem dX1_book_19 : decode cX1_book 19 = .ok (.iaload, 1) := dk_46 (dk_at dksX1_book_0 19 rfl rfl)
theorem dX1_book_20 : decode cX1_book 20 = .ok (.goto 4, 3) := dk_167 0 4 (dk_at dksX1_book_0 20 rfl rfl)
theorem dX1_book_23 : decode cX1_book 23 = .ok (.iconst (-1), 1) := dk_2 (dk_at dksX1_book_0 23 rfl rfl)
theorem dX1_book_24 : decode cX1_book 24 = .ok (.ireturn, 1) := dk_172 (dk_at dksX1_book_1 0 rfl rfl)
abbrev cX1_heap : ByteArray := prog_1_method_15_code
def yX1_heap : MethodName := ⟨RX1, "heap", "(I)I"⟩
def dkwX1_heap_1 : List UInt8 := [42, 180, 0, 30, 180, 0, 195, 27, 96, 46, 167, 0, 4, 2, 172]
abbrev dktX1_heap_1 : List UInt8 := dkwX1_heap_1 ++ []
def dkwX1_heap_0 : List UInt8 := [27, 3, 42, 180, 0, 30, 182, 0, 185, 4, 100, 184, 0, 188, 153, 0, 23, 42, 180, 0, 30, 180, 0, 192]
abbrev dktX1_heap_0 : List UInt8 := dkwX1_heap_0 ++ dktX1_heap_1
theorem dksX1_heap_0 : cX1_heap.data.toList.drop 0 = dktX1_heap_0 := by decide +kernel
theorem dksX1_heap_1 : cX1_heap.data.toList.drop 24 = dktX1_heap_1 := dk_seg dksX1_heap_0 24 rfl rfl
theorem dX1_heap_0 : decode cX1_heap 0 = .ok (.iload_n 1, 1) := dk_27 (dk_at dksX1_heap_0 0 rfl rfl)
theorem dX1_heap_1 : decode cX1_heap 1 = .ok (.iconst 0, 1) := dk_3 (dk_at dksX1_heap_0 1 rfl rfl)
theorem dX1_heap_2 : decode cX1_heap 2 = .ok (.aload_n 0, 1) := dk_42 (dk_at dksX1_heap_0 2 rfl rfl)
theorem dX1_heap_3 : decode cX1_heap 3 = .ok (.getfield 30, 3) := dk_180 0 30 (dk_at dksX1_heap_0 3 rfl rfl)
theorem dX1_heap_6 : decode cX1_heap 6 = .ok (.invokevirtual 185, 3) := dk_182 0 185 (dk_at dksX1_heap_0 6 rfl rfl)
theorem dX1_heap_9 : decode cX1_heap 9 = .ok (.iconst 1, 1) := dk_4 (dk_at dksX1_heap_0 9 rfl rfl)
theorem dX1_heap_10 : decode cX1_heap 10 = .ok (.isub, 1) := dk_100 (dk_at dksX1_heap_0 10 rfl rfl)
theorem dX1_heap_11 : decode cX1_heap 11 = .ok (.invokestatic 188, 3) := dk_184 0 188 (dk_at dksX1_heap_0 11 rfl rfl)
theorem dX1_heap_14 : decode cX1_heap 14 = .ok (.ifCond .eq 23, 3) := dk_153 0 23 (dk_at dksX1_heap_0 14 rfl rfl)
theorem dX1_heap_17 : decode cX1_heap 17 = .ok (.aload_n 0, 1) := dk_42 (dk_at dksX1_heap_0 17 rfl rfl)
theorem dX1_heap_18 : decode cX1_heap 18 = .ok (.getfield 30, 3) := dk_180 0 30 (dk_at dksX1_heap_0 18 rfl rfl)
theorem dX1_heap_21 : decode cX1_heap 21 = .ok (.getfield 192, 3) := dk_180 0 192 (dk_at dksX1_heap_0 21 rfl rfl)
theorem dX1_heap_24 : decode cX1_heap 24 = .ok (.aload_n 0, 1) := dk_42 (dk_at dksX1_heap_1 0 rfl rfl)
theorem dX1_heap_25 : decode cX1_heap 25 = .ok (.getfield 30, 3) := dk_180 0 30 (dk_at dksX1_heap_1 1 rfl rfl)
theorem dX1_heap_28 : decode cX1_heap 28 = .ok (.getfield 195, 3) := dk_180 0 195 (dk_at dksX1_heap_1 4 rfl rfl)
theorem dX1_heap_31 : decode cX1_heap 31 = .ok (.iload_n 1, 1) := dk_27 (dk_at dksX1_heap_1 7 rfl rfl)
theorem dX1_heap_32 : decode cX1_heap 32 = .ok (.iadd, 1) := dk_96 (dk_at dksX1_heap_1 8 rfl rfl)
theorem dX1_heap_33 : decode cX1_heap 33 = .ok (.iaload, 1) := dk_46 (dk_at dksX1_heap_1 9 rfl rfl)
theorem dX1_heap_34 : decode cX1_heap 34 = .ok (.goto 4, 3) := dk_167 0 4 (dk_at dksX1_heap_1 10 rfl rfl)
theorem dX1_heap_37 : decode cX1_heap 37 = .ok (.iconst (-1), 1) := dk_2 (dk_at dksX1_heap_1 13 rfl rfl)
theorem dX1_heap_38 : decode cX1_heap 38 = .ok (.ireturn, 1) := dk_172 (dk_at dksX1_heap_1 14 rfl rfl)
abbrev cX1_now : ByteArray := prog_1_method_16_code
def yX1_now : MethodName := ⟨RX1, "now", "(I)I"⟩
def dkwX1_now_3 : List UInt8 := [42, 180, 0, 30, 182, 0, 204, 172, 42, 180, 0, 30, 180, 0, 207, 172, 42, 182, 0, 210, 172, 2, 172]
abbrev dktX1_now_3 : List UInt8 := dkwX1_now_3 ++ []
def dkwX1_now_2 : List UInt8 := [42, 180, 0, 30, 180, 0, 198, 172, 42, 180, 0, 30, 182, 0, 185, 172, 42, 180, 0, 30, 180, 0, 201, 172]
abbrev dktX1_now_2 : List UInt8 := dkwX1_now_2 ++ dktX1_now_3
def dkwX1_now_1 : List UInt8 := [170, 0, 0, 0, 0, 0, 84, 0, 0, 0, 0, 0, 0, 0, 5, 0, 0, 0, 39, 0, 0, 0, 47, 0, 0, 0, 55, 0, 0, 0, 63, 0, 0, 0, 71, 0, 0, 0, 79]
abbrev dktX1_now_1 : List UInt8 := dkwX1_now_1 ++ dktX1_now_2
def dkwX1_now_0 : List UInt8 := [27]
abbrev dktX1_now_0 : List UInt8 := dkwX1_now_0 ++ dktX1_now_1
theorem dksX1_now_0 : cX1_now.data.toList.drop 0 = dktX1_now_0 := by decide +kernel
theorem dksX1_now_1 : cX1_now.data.toList.drop 1 = dktX1_now_1 := dk_seg dksX1_now_0 1 rfl rfl
theorem dksX1_now_2 : cX1_now.data.toList.drop 40 = dktX1_now_2 := dk_seg dksX1_now_1 39 rfl rfl
theorem dksX1_now_3 : cX1_now.data.toList.drop 64 = dktX1_now_3 := dk_seg dksX1_now_2 24 rfl rfl
theorem dX1_now_0 : decode cX1_now 0 = .ok (.iload_n 1, 1) := dk_27 (dk_at dksX1_now_0 0 rfl rfl)
theorem dX1_now_1 : decode cX1_now 1 = .ok (.tableswitch 84 0 5 #[39, 47, 55, 63, 71, 79], 39) := by decide +kernel
theorem dX1_now_40 : decode cX1_now 40 = .ok (.aload_n 0, 1) := dk_42 (dk_at dksX1_now_2 0 rfl rfl)
theorem dX1_now_41 : decode cX1_now 41 = .ok (.getfield 30, 3) := dk_180 0 30 (dk_at dksX1_now_2 1 rfl rfl)
theorem dX1_now_44 : decode cX1_now 44 = .ok (.getfield 198, 3) := dk_180 0 198 (dk_at dksX1_now_2 4 rfl rfl)
theorem dX1_now_47 : decode cX1_now 47 = .ok (.ireturn, 1) := dk_172 (dk_at dksX1_now_2 7 rfl rfl)
theorem dX1_now_48 : decode cX1_now 48 = .ok (.aload_n 0, 1) := dk_42 (dk_at dksX1_now_2 8 rfl rfl)
theorem dX1_now_49 : decode cX1_now 49 = .ok (.getfield 30, 3) := dk_180 0 30 (dk_at dksX1_now_2 9 rfl rfl)
theorem dX1_now_52 : decode cX1_now 52 = .ok (.invokevirtual 185, 3) := dk_182 0 185 (dk_at dksX1_now_2 12 rfl rfl)
theorem dX1_now_55 : decode cX1_now 55 = .ok (.ireturn, 1) := dk_172 (dk_at dksX1_now_2 15 rfl rfl)
theorem dX1_now_56 : decode cX1_now 56 = .ok (.aload_n 0, 1) := dk_42 (dk_at dksX1_now_2 16 rfl rfl)
theorem dX1_now_57 : decode cX1_now 57 = .ok (.getfield 30, 3) := dk_180 0 30 (dk_at dksX1_now_2 17 rfl rfl)
theorem dX1_now_60 : decode cX1_now 60 = .ok (.getfield 201, 3) := dk_180 0 201 (dk_at dksX1_now_2 20 rfl rfl)
theorem dX1_now_63 : decode cX1_now 63 = .ok (.ireturn, 1) := dk_172 (dk_at dksX1_now_2 23 rfl rfl)
theorem dX1_now_64 : decode cX1_now 64 = .ok (.aload_n 0, 1) := dk_42 (dk_at dksX1_now_3 0 rfl rfl)
theorem dX1_now_65 : decode cX1_now 65 = .ok (.getfield 30, 3) := dk_180 0 30 (dk_at dksX1_now_3 1 rfl rfl)
theorem dX1_now_68 : decode cX1_now 68 = .ok (.invokevirtual 204, 3) := dk_182 0 204 (dk_at dksX1_now_3 4 rfl rfl)
theorem dX1_now_71 : decode cX1_now 71 = .ok (.ireturn, 1) := dk_172 (dk_at dksX1_now_3 7 rfl rfl)
theorem dX1_now_72 : decode cX1_now 72 = .ok (.aload_n 0, 1) := dk_42 (dk_at dksX1_now_3 8 rfl rfl)
theorem dX1_now_73 : decode cX1_now 73 = .ok (.getfield 30, 3) := dk_180 0 30 (dk_at dksX1_now_3 9 rfl rfl)
theorem dX1_now_76 : decode cX1_now 76 = .ok (.getfield 207, 3) := dk_180 0 207 (dk_at dksX1_now_3 12 rfl rfl)
theorem dX1_now_79 : decode cX1_now 79 = .ok (.ireturn, 1) := dk_172 (dk_at dksX1_now_3 15 rfl rfl)
theorem dX1_now_80 : decode cX1_now 80 = .ok (.aload_n 0, 1) := dk_42 (dk_at dksX1_now_3 16 rfl rfl)
theorem dX1_now_81 : decode cX1_now 81 = .ok (.invokevirtual 210, 3) := dk_182 0 210 (dk_at dksX1_now_3 17 rfl rfl)
theorem dX1_now_84 : decode cX1_now 84 = .ok (.ireturn, 1) := dk_172 (dk_at dksX1_now_3 20 rfl rfl)
theorem dX1_now_85 : decode cX1_now 85 = .ok (.iconst (-1), 1) := dk_2 (dk_at dksX1_now_3 21 rfl rfl)
theorem dX1_now_86 : decode cX1_now 86 = .ok (.ireturn, 1) := dk_172 (dk_at dksX1_now_3 22 rfl rfl)
abbrev cX1_inPlay : ByteArray := prog_1_method_17_code
def yX1_inPlay : MethodName := ⟨RX1, "inPlay", "()I"⟩
def dkwX1_inPlay_1 : List UInt8 := [180, 0, 30, 28, 182, 0, 156, 96, 60, 132, 2, 1, 167, 255, 231, 27, 172]
abbrev dktX1_inPlay_1 : List UInt8 := dkwX1_inPlay_1 ++ []
def dkwX1_inPlay_0 : List UInt8 := [42, 180, 0, 30, 182, 0, 185, 60, 3, 61, 28, 42, 180, 0, 19, 182, 0, 213, 162, 0, 20, 27, 42]
abbrev dktX1_inPlay_0 : List UInt8 := dkwX1_inPlay_0 ++ dktX1_inPlay_1
theorem dksX1_inPlay_0 : cX1_inPlay.data.toList.drop 0 = dktX1_inPlay_0 := by decide +kernel
theorem dksX1_inPlay_1 : cX1_inPlay.data.toList.drop 23 = dktX1_inPlay_1 := dk_seg dksX1_inPlay_0 23 rfl rfl
theorem dX1_inPlay_0 : decode cX1_inPlay 0 = .ok (.aload_n 0, 1) := dk_42 (dk_at dksX1_inPlay_0 0 rfl rfl)
theorem dX1_inPlay_1 : decode cX1_inPlay 1 = .ok (.getfield 30, 3) := dk_180 0 30 (dk_at dksX1_inPlay_0 1 rfl rfl)
theorem dX1_inPlay_4 : decode cX1_inPlay 4 = .ok (.invokevirtual 185, 3) := dk_182 0 185 (dk_at dksX1_inPlay_0 4 rfl rfl)
theorem dX1_inPlay_7 : decode cX1_inPlay 7 = .ok (.istore_n 1, 1) := dk_60 (dk_at dksX1_inPlay_0 7 rfl rfl)
theorem dX1_inPlay_8 : decode cX1_inPlay 8 = .ok (.iconst 0, 1) := dk_3 (dk_at dksX1_inPlay_0 8 rfl rfl)
theorem dX1_inPlay_9 : decode cX1_inPlay 9 = .ok (.istore_n 2, 1) := dk_61 (dk_at dksX1_inPlay_0 9 rfl rfl)
theorem dX1_inPlay_10 : decode cX1_inPlay 10 = .ok (.iload_n 2, 1) := dk_28 (dk_at dksX1_inPlay_0 10 rfl rfl)
theorem dX1_inPlay_11 : decode cX1_inPlay 11 = .ok (.aload_n 0, 1) := dk_42 (dk_at dksX1_inPlay_0 11 rfl rfl)
theorem dX1_inPlay_12 : decode cX1_inPlay 12 = .ok (.getfield 19, 3) := dk_180 0 19 (dk_at dksX1_inPlay_0 12 rfl rfl)
theorem dX1_inPlay_15 : decode cX1_inPlay 15 = .ok (.invokevirtual 213, 3) := dk_182 0 213 (dk_at dksX1_inPlay_0 15 rfl rfl)
theorem dX1_inPlay_18 : decode cX1_inPlay 18 = .ok (.if_icmp .ge 20, 3) := dk_162 0 20 (dk_at dksX1_inPlay_0 18 rfl rfl)
theorem dX1_inPlay_21 : decode cX1_inPlay 21 = .ok (.iload_n 1, 1) := dk_27 (dk_at dksX1_inPlay_0 21 rfl rfl)
theorem dX1_inPlay_22 : decode cX1_inPlay 22 = .ok (.aload_n 0, 1) := dk_42 (dk_at dksX1_inPlay_0 22 rfl rfl)
theorem dX1_inPlay_23 : decode cX1_inPlay 23 = .ok (.getfield 30, 3) := dk_180 0 30 (dk_at dksX1_inPlay_1 0 rfl rfl)
theorem dX1_inPlay_26 : decode cX1_inPlay 26 = .ok (.iload_n 2, 1) := dk_28 (dk_at dksX1_inPlay_1 3 rfl rfl)
theorem dX1_inPlay_27 : decode cX1_inPlay 27 = .ok (.invokevirtual 156, 3) := dk_182 0 156 (dk_at dksX1_inPlay_1 4 rfl rfl)
theorem dX1_inPlay_30 : decode cX1_inPlay 30 = .ok (.iadd, 1) := dk_96 (dk_at dksX1_inPlay_1 7 rfl rfl)
theorem dX1_inPlay_31 : decode cX1_inPlay 31 = .ok (.istore_n 1, 1) := dk_60 (dk_at dksX1_inPlay_1 8 rfl rfl)
theorem dX1_inPlay_32 : decode cX1_inPlay 32 = .ok (.iinc 2 1, 3) := dk_132 2 1 (dk_at dksX1_inPlay_1 9 rfl rfl)
theorem dX1_inPlay_35 : decode cX1_inPlay 35 = .ok (.goto (-25), 3) := dk_167 255 231 (dk_at dksX1_inPlay_1 12 rfl rfl)
theorem dX1_inPlay_38 : decode cX1_inPlay 38 = .ok (.iload_n 1, 1) := dk_27 (dk_at dksX1_inPlay_1 15 rfl rfl)
theorem dX1_inPlay_39 : decode cX1_inPlay 39 = .ok (.ireturn, 1) := dk_172 (dk_at dksX1_inPlay_1 16 rfl rfl)
abbrev cX1_why : ByteArray := prog_1_method_19_code
def yX1_why : MethodName := ⟨RX1, "why", "(III)I"⟩
def dkwX1_why_1 : List UInt8 := [172]
abbrev dktX1_why_1 : List UInt8 := dkwX1_why_1 ++ []
def dkwX1_why_0 : List UInt8 := [42, 27, 28, 29, 182, 0, 216, 153, 0, 16, 42, 180, 0, 30, 27, 28, 29, 182, 0, 219, 167, 0, 4, 2]
abbrev dktX1_why_0 : List UInt8 := dkwX1_why_0 ++ dktX1_why_1
theorem dksX1_why_0 : cX1_why.data.toList.drop 0 = dktX1_why_0 := by decide +kernel
theorem dksX1_why_1 : cX1_why.data.toList.drop 24 = dktX1_why_1 := dk_seg dksX1_why_0 24 rfl rfl
theorem dX1_why_0 : decode cX1_why 0 = .ok (.aload_n 0, 1) := dk_42 (dk_at dksX1_why_0 0 rfl rfl)
theorem dX1_why_1 : decode cX1_why 1 = .ok (.iload_n 1, 1) := dk_27 (dk_at dksX1_why_0 1 rfl rfl)
theorem dX1_why_2 : decode cX1_why 2 = .ok (.iload_n 2, 1) := dk_28 (dk_at dksX1_why_0 2 rfl rfl)
theorem dX1_why_3 : decode cX1_why 3 = .ok (.iload_n 3, 1) := dk_29 (dk_at dksX1_why_0 3 rfl rfl)
theorem dX1_why_4 : decode cX1_why 4 = .ok (.invokevirtual 216, 3) := dk_182 0 216 (dk_at dksX1_why_0 4 rfl rfl)
theorem dX1_why_7 : decode cX1_why 7 = .ok (.ifCond .eq 16, 3) := dk_153 0 16 (dk_at dksX1_why_0 7 rfl rfl)
theorem dX1_why_10 : decode cX1_why 10 = .ok (.aload_n 0, 1) := dk_42 (dk_at dksX1_why_0 10 rfl rfl)
theorem dX1_why_11 : decode cX1_why 11 = .ok (.getfield 30, 3) := dk_180 0 30 (dk_at dksX1_why_0 11 rfl rfl)
theorem dX1_why_14 : decode cX1_why 14 = .ok (.iload_n 1, 1) := dk_27 (dk_at dksX1_why_0 14 rfl rfl)
theorem dX1_why_15 : decode cX1_why 15 = .ok (.iload_n 2, 1) := dk_28 (dk_at dksX1_why_0 15 rfl rfl)
theorem dX1_why_16 : decode cX1_why 16 = .ok (.iload_n 3, 1) := dk_29 (dk_at dksX1_why_0 16 rfl rfl)
theorem dX1_why_17 : decode cX1_why 17 = .ok (.invokevirtual 219, 3) := dk_182 0 219 (dk_at dksX1_why_0 17 rfl rfl)
theorem dX1_why_20 : decode cX1_why 20 = .ok (.goto 4, 3) := dk_167 0 4 (dk_at dksX1_why_0 20 rfl rfl)
theorem dX1_why_23 : decode cX1_why 23 = .ok (.iconst (-1), 1) := dk_2 (dk_at dksX1_why_0 23 rfl rfl)
theorem dX1_why_24 : decode cX1_why 24 = .ok (.ireturn, 1) := dk_172 (dk_at dksX1_why_1 0 rfl rfl)
abbrev cX1_areTold : ByteArray := prog_1_method_18_code
def yX1_areTold : MethodName := ⟨RX1, "areTold", "(III)Z"⟩
def dkwX1_areTold_1 : List UInt8 := [180, 0, 19, 29, 182, 0, 145, 153, 0, 7, 4, 167, 0, 4, 3, 172]
abbrev dktX1_areTold_1 : List UInt8 := dkwX1_areTold_1 ++ []
def dkwX1_areTold_0 : List UInt8 := [42, 180, 0, 19, 27, 182, 0, 141, 153, 0, 29, 42, 180, 0, 19, 28, 182, 0, 141, 153, 0, 18, 42]
abbrev dktX1_areTold_0 : List UInt8 := dkwX1_areTold_0 ++ dktX1_areTold_1
theorem dksX1_areTold_0 : cX1_areTold.data.toList.drop 0 = dktX1_areTold_0 := by decide +kernel
theorem dksX1_areTold_1 : cX1_areTold.data.toList.drop 23 = dktX1_areTold_1 := dk_seg dksX1_areTold_0 23 rfl rfl
theorem dX1_areTold_0 : decode cX1_areTold 0 = .ok (.aload_n 0, 1) := dk_42 (dk_at dksX1_areTold_0 0 rfl rfl)
theorem dX1_areTold_1 : decode cX1_areTold 1 = .ok (.getfield 19, 3) := dk_180 0 19 (dk_at dksX1_areTold_0 1 rfl rfl)
theorem dX1_areTold_4 : decode cX1_areTold 4 = .ok (.iload_n 1, 1) := dk_27 (dk_at dksX1_areTold_0 4 rfl rfl)
theorem dX1_areTold_5 : decode cX1_areTold 5 = .ok (.invokevirtual 141, 3) := dk_182 0 141 (dk_at dksX1_areTold_0 5 rfl rfl)
theorem dX1_areTold_8 : decode cX1_areTold 8 = .ok (.ifCond .eq 29, 3) := dk_153 0 29 (dk_at dksX1_areTold_0 8 rfl rfl)
theorem dX1_areTold_11 : decode cX1_areTold 11 = .ok (.aload_n 0, 1) := dk_42 (dk_at dksX1_areTold_0 11 rfl rfl)
theorem dX1_areTold_12 : decode cX1_areTold 12 = .ok (.getfield 19, 3) := dk_180 0 19 (dk_at dksX1_areTold_0 12 rfl rfl)
theorem dX1_areTold_15 : decode cX1_areTold 15 = .ok (.iload_n 2, 1) := dk_28 (dk_at dksX1_areTold_0 15 rfl rfl)
theorem dX1_areTold_16 : decode cX1_areTold 16 = .ok (.invokevirtual 141, 3) := dk_182 0 141 (dk_at dksX1_areTold_0 16 rfl rfl)
theorem dX1_areTold_19 : decode cX1_areTold 19 = .ok (.ifCond .eq 18, 3) := dk_153 0 18 (dk_at dksX1_areTold_0 19 rfl rfl)
theorem dX1_areTold_22 : decode cX1_areTold 22 = .ok (.aload_n 0, 1) := dk_42 (dk_at dksX1_areTold_0 22 rfl rfl)
theorem dX1_areTold_23 : decode cX1_areTold 23 = .ok (.getfield 19, 3) := dk_180 0 19 (dk_at dksX1_areTold_1 0 rfl rfl)
theorem dX1_areTold_26 : decode cX1_areTold 26 = .ok (.iload_n 3, 1) := dk_29 (dk_at dksX1_areTold_1 3 rfl rfl)
theorem dX1_areTold_27 : decode cX1_areTold 27 = .ok (.invokevirtual 145, 3) := dk_182 0 145 (dk_at dksX1_areTold_1 4 rfl rfl)
theorem dX1_areTold_30 : decode cX1_areTold 30 = .ok (.ifCond .eq 7, 3) := dk_153 0 7 (dk_at dksX1_areTold_1 7 rfl rfl)
theorem dX1_areTold_33 : decode cX1_areTold 33 = .ok (.iconst 1, 1) := dk_4 (dk_at dksX1_areTold_1 10 rfl rfl)
theorem dX1_areTold_34 : decode cX1_areTold 34 = .ok (.goto 4, 3) := dk_167 0 4 (dk_at dksX1_areTold_1 11 rfl rfl)
theorem dX1_areTold_37 : decode cX1_areTold 37 = .ok (.iconst 0, 1) := dk_3 (dk_at dksX1_areTold_1 14 rfl rfl)
theorem dX1_areTold_38 : decode cX1_areTold 38 = .ok (.ireturn, 1) := dk_172 (dk_at dksX1_areTold_1 15 rfl rfl)
abbrev cX1_ask : ByteArray := prog_1_method_22_code
def yX1_ask : MethodName := ⟨RX1, "ask", "(IIII)I"⟩
def dkwX1_ask_3 : List UInt8 := [54, 6, 42, 182, 0, 242, 21, 6, 172]
abbrev dktX1_ask_3 : List UInt8 := dkwX1_ask_3 ++ []
def dkwX1_ask_2 : List UInt8 := [182, 0, 236, 42, 180, 0, 30, 27, 28, 29, 21, 4, 4, 160, 0, 7, 4, 167, 0, 4, 3, 182, 0, 239]
abbrev dktX1_ask_2 : List UInt8 := dkwX1_ask_2 ++ dktX1_ask_3
def dkwX1_ask_1 : List UInt8 := [180, 0, 30, 27, 28, 29, 182, 0, 219, 54, 5, 21, 5, 153, 0, 9, 16, 254, 21, 5, 100, 172, 42]
abbrev dktX1_ask_1 : List UInt8 := dkwX1_ask_1 ++ dktX1_ask_2
def dkwX1_ask_0 : List UInt8 := [42, 27, 28, 29, 182, 0, 216, 153, 0, 13, 21, 4, 3, 4, 184, 0, 188, 154, 0, 5, 2, 172, 42]
abbrev dktX1_ask_0 : List UInt8 := dkwX1_ask_0 ++ dktX1_ask_1
theorem dksX1_ask_0 : cX1_ask.data.toList.drop 0 = dktX1_ask_0 := by decide +kernel
theorem dksX1_ask_1 : cX1_ask.data.toList.drop 23 = dktX1_ask_1 := dk_seg dksX1_ask_0 23 rfl rfl
theorem dksX1_ask_2 : cX1_ask.data.toList.drop 46 = dktX1_ask_2 := dk_seg dksX1_ask_1 23 rfl rfl
theorem dksX1_ask_3 : cX1_ask.data.toList.drop 70 = dktX1_ask_3 := dk_seg dksX1_ask_2 24 rfl rfl
theorem dX1_ask_0 : decode cX1_ask 0 = .ok (.aload_n 0, 1) := dk_42 (dk_at dksX1_ask_0 0 rfl rfl)
theorem dX1_ask_1 : decode cX1_ask 1 = .ok (.iload_n 1, 1) := dk_27 (dk_at dksX1_ask_0 1 rfl rfl)
theorem dX1_ask_2 : decode cX1_ask 2 = .ok (.iload_n 2, 1) := dk_28 (dk_at dksX1_ask_0 2 rfl rfl)
theorem dX1_ask_3 : decode cX1_ask 3 = .ok (.iload_n 3, 1) := dk_29 (dk_at dksX1_ask_0 3 rfl rfl)
theorem dX1_ask_4 : decode cX1_ask 4 = .ok (.invokevirtual 216, 3) := dk_182 0 216 (dk_at dksX1_ask_0 4 rfl rfl)
theorem dX1_ask_7 : decode cX1_ask 7 = .ok (.ifCond .eq 13, 3) := dk_153 0 13 (dk_at dksX1_ask_0 7 rfl rfl)
theorem dX1_ask_10 : decode cX1_ask 10 = .ok (.iload 4, 2) := dk_21 4 (dk_at dksX1_ask_0 10 rfl rfl)
theorem dX1_ask_12 : decode cX1_ask 12 = .ok (.iconst 0, 1) := dk_3 (dk_at dksX1_ask_0 12 rfl rfl)
theorem dX1_ask_13 : decode cX1_ask 13 = .ok (.iconst 1, 1) := dk_4 (dk_at dksX1_ask_0 13 rfl rfl)
theorem dX1_ask_14 : decode cX1_ask 14 = .ok (.invokestatic 188, 3) := dk_184 0 188 (dk_at dksX1_ask_0 14 rfl rfl)
theorem dX1_ask_17 : decode cX1_ask 17 = .ok (.ifCond .ne 5, 3) := dk_154 0 5 (dk_at dksX1_ask_0 17 rfl rfl)
theorem dX1_ask_20 : decode cX1_ask 20 = .ok (.iconst (-1), 1) := dk_2 (dk_at dksX1_ask_0 20 rfl rfl)
theorem dX1_ask_21 : decode cX1_ask 21 = .ok (.ireturn, 1) := dk_172 (dk_at dksX1_ask_0 21 rfl rfl)
theorem dX1_ask_22 : decode cX1_ask 22 = .ok (.aload_n 0, 1) := dk_42 (dk_at dksX1_ask_0 22 rfl rfl)
theorem dX1_ask_23 : decode cX1_ask 23 = .ok (.getfield 30, 3) := dk_180 0 30 (dk_at dksX1_ask_1 0 rfl rfl)
theorem dX1_ask_26 : decode cX1_ask 26 = .ok (.iload_n 1, 1) := dk_27 (dk_at dksX1_ask_1 3 rfl rfl)
theorem dX1_ask_27 : decode cX1_ask 27 = .ok (.iload_n 2, 1) := dk_28 (dk_at dksX1_ask_1 4 rfl rfl)
theorem dX1_ask_28 : decode cX1_ask 28 = .ok (.iload_n 3, 1) := dk_29 (dk_at dksX1_ask_1 5 rfl rfl)
theorem dX1_ask_29 : decode cX1_ask 29 = .ok (.invokevirtual 219, 3) := dk_182 0 219 (dk_at dksX1_ask_1 6 rfl rfl)
theorem dX1_ask_32 : decode cX1_ask 32 = .ok (.istore 5, 2) := dk_54 5 (dk_at dksX1_ask_1 9 rfl rfl)
theorem dX1_ask_34 : decode cX1_ask 34 = .ok (.iload 5, 2) := dk_21 5 (dk_at dksX1_ask_1 11 rfl rfl)
theorem dX1_ask_36 : decode cX1_ask 36 = .ok (.ifCond .eq 9, 3) := dk_153 0 9 (dk_at dksX1_ask_1 13 rfl rfl)
theorem dX1_ask_39 : decode cX1_ask 39 = .ok (.bipush (-2), 2) := dk_16 254 (dk_at dksX1_ask_1 16 rfl rfl)
theorem dX1_ask_41 : decode cX1_ask 41 = .ok (.iload 5, 2) := dk_21 5 (dk_at dksX1_ask_1 18 rfl rfl)
theorem dX1_ask_43 : decode cX1_ask 43 = .ok (.isub, 1) := dk_100 (dk_at dksX1_ask_1 20 rfl rfl)
theorem dX1_ask_44 : decode cX1_ask 44 = .ok (.ireturn, 1) := dk_172 (dk_at dksX1_ask_1 21 rfl rfl)
theorem dX1_ask_45 : decode cX1_ask 45 = .ok (.aload_n 0, 1) := dk_42 (dk_at dksX1_ask_1 22 rfl rfl)
theorem dX1_ask_46 : decode cX1_ask 46 = .ok (.invokevirtual 236, 3) := dk_182 0 236 (dk_at dksX1_ask_2 0 rfl rfl)
theorem dX1_ask_49 : decode cX1_ask 49 = .ok (.aload_n 0, 1) := dk_42 (dk_at dksX1_ask_2 3 rfl rfl)
theorem dX1_ask_50 : decode cX1_ask 50 = .ok (.getfield 30, 3) := dk_180 0 30 (dk_at dksX1_ask_2 4 rfl rfl)
theorem dX1_ask_53 : decode cX1_ask 53 = .ok (.iload_n 1, 1) := dk_27 (dk_at dksX1_ask_2 7 rfl rfl)
theorem dX1_ask_54 : decode cX1_ask 54 = .ok (.iload_n 2, 1) := dk_28 (dk_at dksX1_ask_2 8 rfl rfl)
theorem dX1_ask_55 : decode cX1_ask 55 = .ok (.iload_n 3, 1) := dk_29 (dk_at dksX1_ask_2 9 rfl rfl)
theorem dX1_ask_56 : decode cX1_ask 56 = .ok (.iload 4, 2) := dk_21 4 (dk_at dksX1_ask_2 10 rfl rfl)
theorem dX1_ask_58 : decode cX1_ask 58 = .ok (.iconst 1, 1) := dk_4 (dk_at dksX1_ask_2 12 rfl rfl)
theorem dX1_ask_59 : decode cX1_ask 59 = .ok (.if_icmp .ne 7, 3) := dk_160 0 7 (dk_at dksX1_ask_2 13 rfl rfl)
theorem dX1_ask_62 : decode cX1_ask 62 = .ok (.iconst 1, 1) := dk_4 (dk_at dksX1_ask_2 16 rfl rfl)
theorem dX1_ask_63 : decode cX1_ask 63 = .ok (.goto 4, 3) := dk_167 0 4 (dk_at dksX1_ask_2 17 rfl rfl)
theorem dX1_ask_66 : decode cX1_ask 66 = .ok (.iconst 0, 1) := dk_3 (dk_at dksX1_ask_2 20 rfl rfl)
theorem dX1_ask_67 : decode cX1_ask 67 = .ok (.invokevirtual 239, 3) := dk_182 0 239 (dk_at dksX1_ask_2 21 rfl rfl)
theorem dX1_ask_70 : decode cX1_ask 70 = .ok (.istore 6, 2) := dk_54 6 (dk_at dksX1_ask_3 0 rfl rfl)
theorem dX1_ask_72 : decode cX1_ask 72 = .ok (.aload_n 0, 1) := dk_42 (dk_at dksX1_ask_3 2 rfl rfl)
theorem dX1_ask_73 : decode cX1_ask 73 = .ok (.invokevirtual 242, 3) := dk_182 0 242 (dk_at dksX1_ask_3 3 rfl rfl)
theorem dX1_ask_76 : decode cX1_ask 76 = .ok (.iload 6, 2) := dk_21 6 (dk_at dksX1_ask_3 6 rfl rfl)
theorem dX1_ask_78 : decode cX1_ask 78 = .ok (.ireturn, 1) := dk_172 (dk_at dksX1_ask_3 8 rfl rfl)
abbrev cX1_snap : ByteArray := prog_1_method_20_code
def yX1_snap : MethodName := ⟨RX1, "snap", "()V"⟩
def dkwX1_snap_3 : List UInt8 := [180, 0, 30, 182, 0, 223, 87, 42, 89, 180, 0, 127, 4, 96, 181, 0, 127, 177]
abbrev dktX1_snap_3 : List UInt8 := dkwX1_snap_3 ++ []
def dkwX1_snap_2 : List UInt8 := [16, 7, 43, 83, 42, 89, 180, 0, 127, 4, 100, 181, 0, 127, 42, 180, 0, 37, 42, 180, 0, 127, 50, 42]
abbrev dktX1_snap_2 : List UInt8 := dkwX1_snap_2 ++ dktX1_snap_3
def dkwX1_snap_1 : List UInt8 := [42, 180, 0, 37, 28, 4, 100, 42, 180, 0, 37, 28, 50, 83, 132, 2, 1, 167, 255, 233, 42, 180, 0, 37]
abbrev dktX1_snap_1 : List UInt8 := dkwX1_snap_1 ++ dktX1_snap_2
def dkwX1_snap_0 : List UInt8 := [42, 180, 0, 127, 16, 8, 160, 0, 56, 42, 180, 0, 37, 3, 50, 76, 4, 61, 28, 16, 8, 162, 0, 23]
abbrev dktX1_snap_0 : List UInt8 := dkwX1_snap_0 ++ dktX1_snap_1
theorem dksX1_snap_0 : cX1_snap.data.toList.drop 0 = dktX1_snap_0 := by decide +kernel
theorem dksX1_snap_1 : cX1_snap.data.toList.drop 24 = dktX1_snap_1 := dk_seg dksX1_snap_0 24 rfl rfl
theorem dksX1_snap_2 : cX1_snap.data.toList.drop 48 = dktX1_snap_2 := dk_seg dksX1_snap_1 24 rfl rfl
theorem dksX1_snap_3 : cX1_snap.data.toList.drop 72 = dktX1_snap_3 := dk_seg dksX1_snap_2 24 rfl rfl
theorem dX1_snap_0 : decode cX1_snap 0 = .ok (.aload_n 0, 1) := dk_42 (dk_at dksX1_snap_0 0 rfl rfl)
theorem dX1_snap_1 : decode cX1_snap 1 = .ok (.getfield 127, 3) := dk_180 0 127 (dk_at dksX1_snap_0 1 rfl rfl)
theorem dX1_snap_4 : decode cX1_snap 4 = .ok (.bipush 8, 2) := dk_16 8 (dk_at dksX1_snap_0 4 rfl rfl)
theorem dX1_snap_6 : decode cX1_snap 6 = .ok (.if_icmp .ne 56, 3) := dk_160 0 56 (dk_at dksX1_snap_0 6 rfl rfl)
theorem dX1_snap_9 : decode cX1_snap 9 = .ok (.aload_n 0, 1) := dk_42 (dk_at dksX1_snap_0 9 rfl rfl)
theorem dX1_snap_10 : decode cX1_snap 10 = .ok (.getfield 37, 3) := dk_180 0 37 (dk_at dksX1_snap_0 10 rfl rfl)
theorem dX1_snap_13 : decode cX1_snap 13 = .ok (.iconst 0, 1) := dk_3 (dk_at dksX1_snap_0 13 rfl rfl)
theorem dX1_snap_14 : decode cX1_snap 14 = .ok (.aaload, 1) := dk_50 (dk_at dksX1_snap_0 14 rfl rfl)
theorem dX1_snap_15 : decode cX1_snap 15 = .ok (.astore_n 1, 1) := dk_76 (dk_at dksX1_snap_0 15 rfl rfl)
theorem dX1_snap_16 : decode cX1_snap 16 = .ok (.iconst 1, 1) := dk_4 (dk_at dksX1_snap_0 16 rfl rfl)
theorem dX1_snap_17 : decode cX1_snap 17 = .ok (.istore_n 2, 1) := dk_61 (dk_at dksX1_snap_0 17 rfl rfl)
theorem dX1_snap_18 : decode cX1_snap 18 = .ok (.iload_n 2, 1) := dk_28 (dk_at dksX1_snap_0 18 rfl rfl)
theorem dX1_snap_19 : decode cX1_snap 19 = .ok (.bipush 8, 2) := dk_16 8 (dk_at dksX1_snap_0 19 rfl rfl)
theorem dX1_snap_21 : decode cX1_snap 21 = .ok (.if_icmp .ge 23, 3) := dk_162 0 23 (dk_at dksX1_snap_0 21 rfl rfl)
theorem dX1_snap_24 : decode cX1_snap 24 = .ok (.aload_n 0, 1) := dk_42 (dk_at dksX1_snap_1 0 rfl rfl)
theorem dX1_snap_25 : decode cX1_snap 25 = .ok (.getfield 37, 3) := dk_180 0 37 (dk_at dksX1_snap_1 1 rfl rfl)
theorem dX1_snap_28 : decode cX1_snap 28 = .ok (.iload_n 2, 1) := dk_28 (dk_at dksX1_snap_1 4 rfl rfl)
theorem dX1_snap_29 : decode cX1_snap 29 = .ok (.iconst 1, 1) := dk_4 (dk_at dksX1_snap_1 5 rfl rfl)
theorem dX1_snap_30 : decode cX1_snap 30 = .ok (.isub, 1) := dk_100 (dk_at dksX1_snap_1 6 rfl rfl)
theorem dX1_snap_31 : decode cX1_snap 31 = .ok (.aload_n 0, 1) := dk_42 (dk_at dksX1_snap_1 7 rfl rfl)
theorem dX1_snap_32 : decode cX1_snap 32 = .ok (.getfield 37, 3) := dk_180 0 37 (dk_at dksX1_snap_1 8 rfl rfl)
theorem dX1_snap_35 : decode cX1_snap 35 = .ok (.iload_n 2, 1) := dk_28 (dk_at dksX1_snap_1 11 rfl rfl)
theorem dX1_snap_36 : decode cX1_snap 36 = .ok (.aaload, 1) := dk_50 (dk_at dksX1_snap_1 12 rfl rfl)
theorem dX1_snap_37 : decode cX1_snap 37 = .ok (.aastore, 1) := dk_83 (dk_at dksX1_snap_1 13 rfl rfl)
theorem dX1_snap_38 : decode cX1_snap 38 = .ok (.iinc 2 1, 3) := dk_132 2 1 (dk_at dksX1_snap_1 14 rfl rfl)
theorem dX1_snap_41 : decode cX1_snap 41 = .ok (.goto (-23), 3) := dk_167 255 233 (dk_at dksX1_snap_1 17 rfl rfl)
theorem dX1_snap_44 : decode cX1_snap 44 = .ok (.aload_n 0, 1) := dk_42 (dk_at dksX1_snap_1 20 rfl rfl)
theorem dX1_snap_45 : decode cX1_snap 45 = .ok (.getfield 37, 3) := dk_180 0 37 (dk_at dksX1_snap_1 21 rfl rfl)
theorem dX1_snap_48 : decode cX1_snap 48 = .ok (.bipush 7, 2) := dk_16 7 (dk_at dksX1_snap_2 0 rfl rfl)
theorem dX1_snap_50 : decode cX1_snap 50 = .ok (.aload_n 1, 1) := dk_43 (dk_at dksX1_snap_2 2 rfl rfl)
theorem dX1_snap_51 : decode cX1_snap 51 = .ok (.aastore, 1) := dk_83 (dk_at dksX1_snap_2 3 rfl rfl)
theorem dX1_snap_52 : decode cX1_snap 52 = .ok (.aload_n 0, 1) := dk_42 (dk_at dksX1_snap_2 4 rfl rfl)
theorem dX1_snap_53 : decode cX1_snap 53 = .ok (.dup, 1) := dk_89 (dk_at dksX1_snap_2 5 rfl rfl)
theorem dX1_snap_54 : decode cX1_snap 54 = .ok (.getfield 127, 3) := dk_180 0 127 (dk_at dksX1_snap_2 6 rfl rfl)
theorem dX1_snap_57 : decode cX1_snap 57 = .ok (.iconst 1, 1) := dk_4 (dk_at dksX1_snap_2 9 rfl rfl)
theorem dX1_snap_58 : decode cX1_snap 58 = .ok (.isub, 1) := dk_100 (dk_at dksX1_snap_2 10 rfl rfl)
theorem dX1_snap_59 : decode cX1_snap 59 = .ok (.putfield 127, 3) := dk_181 0 127 (dk_at dksX1_snap_2 11 rfl rfl)
theorem dX1_snap_62 : decode cX1_snap 62 = .ok (.aload_n 0, 1) := dk_42 (dk_at dksX1_snap_2 14 rfl rfl)
theorem dX1_snap_63 : decode cX1_snap 63 = .ok (.getfield 37, 3) := dk_180 0 37 (dk_at dksX1_snap_2 15 rfl rfl)
theorem dX1_snap_66 : decode cX1_snap 66 = .ok (.aload_n 0, 1) := dk_42 (dk_at dksX1_snap_2 18 rfl rfl)
theorem dX1_snap_67 : decode cX1_snap 67 = .ok (.getfield 127, 3) := dk_180 0 127 (dk_at dksX1_snap_2 19 rfl rfl)
theorem dX1_snap_70 : decode cX1_snap 70 = .ok (.aaload, 1) := dk_50 (dk_at dksX1_snap_2 22 rfl rfl)
theorem dX1_snap_71 : decode cX1_snap 71 = .ok (.aload_n 0, 1) := dk_42 (dk_at dksX1_snap_2 23 rfl rfl)
theorem dX1_snap_72 : decode cX1_snap 72 = .ok (.getfield 30, 3) := dk_180 0 30 (dk_at dksX1_snap_3 0 rfl rfl)
theorem dX1_snap_75 : decode cX1_snap 75 = .ok (.invokevirtual 223, 3) := dk_182 0 223 (dk_at dksX1_snap_3 3 rfl rfl)
theorem dX1_snap_78 : decode cX1_snap 78 = .ok (.pop, 1) := dk_87 (dk_at dksX1_snap_3 6 rfl rfl)
theorem dX1_snap_79 : decode cX1_snap 79 = .ok (.aload_n 0, 1) := dk_42 (dk_at dksX1_snap_3 7 rfl rfl)
theorem dX1_snap_80 : decode cX1_snap 80 = .ok (.dup, 1) := dk_89 (dk_at dksX1_snap_3 8 rfl rfl)
theorem dX1_snap_81 : decode cX1_snap 81 = .ok (.getfield 127, 3) := dk_180 0 127 (dk_at dksX1_snap_3 9 rfl rfl)
theorem dX1_snap_84 : decode cX1_snap 84 = .ok (.iconst 1, 1) := dk_4 (dk_at dksX1_snap_3 12 rfl rfl)
theorem dX1_snap_85 : decode cX1_snap 85 = .ok (.iadd, 1) := dk_96 (dk_at dksX1_snap_3 13 rfl rfl)
theorem dX1_snap_86 : decode cX1_snap 86 = .ok (.putfield 127, 3) := dk_181 0 127 (dk_at dksX1_snap_3 14 rfl rfl)
theorem dX1_snap_89 : decode cX1_snap 89 = .ok (.return_, 1) := dk_177 (dk_at dksX1_snap_3 17 rfl rfl)
abbrev cX1_tellAsked : ByteArray := prog_1_method_21_code
def yX1_tellAsked : MethodName := ⟨RX1, "tellAsked", "()V"⟩
def dkwX1_tellAsked_0 : List UInt8 := [42, 180, 0, 30, 180, 0, 227, 3, 42, 180, 0, 41, 3, 42, 180, 0, 41, 190, 184, 0, 230, 177]
abbrev dktX1_tellAsked_0 : List UInt8 := dkwX1_tellAsked_0 ++ []
theorem dksX1_tellAsked_0 : cX1_tellAsked.data.toList.drop 0 = dktX1_tellAsked_0 := by decide +kernel
theorem dX1_tellAsked_0 : decode cX1_tellAsked 0 = .ok (.aload_n 0, 1) := dk_42 (dk_at dksX1_tellAsked_0 0 rfl rfl)
theorem dX1_tellAsked_1 : decode cX1_tellAsked 1 = .ok (.getfield 30, 3) := dk_180 0 30 (dk_at dksX1_tellAsked_0 1 rfl rfl)
theorem dX1_tellAsked_4 : decode cX1_tellAsked 4 = .ok (.getfield 227, 3) := dk_180 0 227 (dk_at dksX1_tellAsked_0 4 rfl rfl)
theorem dX1_tellAsked_7 : decode cX1_tellAsked 7 = .ok (.iconst 0, 1) := dk_3 (dk_at dksX1_tellAsked_0 7 rfl rfl)
theorem dX1_tellAsked_8 : decode cX1_tellAsked 8 = .ok (.aload_n 0, 1) := dk_42 (dk_at dksX1_tellAsked_0 8 rfl rfl)
theorem dX1_tellAsked_9 : decode cX1_tellAsked 9 = .ok (.getfield 41, 3) := dk_180 0 41 (dk_at dksX1_tellAsked_0 9 rfl rfl)
theorem dX1_tellAsked_12 : decode cX1_tellAsked 12 = .ok (.iconst 0, 1) := dk_3 (dk_at dksX1_tellAsked_0 12 rfl rfl)
theorem dX1_tellAsked_13 : decode cX1_tellAsked 13 = .ok (.aload_n 0, 1) := dk_42 (dk_at dksX1_tellAsked_0 13 rfl rfl)
theorem dX1_tellAsked_14 : decode cX1_tellAsked 14 = .ok (.getfield 41, 3) := dk_180 0 41 (dk_at dksX1_tellAsked_0 14 rfl rfl)
theorem dX1_tellAsked_17 : decode cX1_tellAsked 17 = .ok (.arraylength, 1) := dk_190 (dk_at dksX1_tellAsked_0 17 rfl rfl)
theorem dX1_tellAsked_18 : decode cX1_tellAsked 18 = .ok (.invokestatic 230, 3) := dk_184 0 230 (dk_at dksX1_tellAsked_0 18 rfl rfl)
theorem dX1_tellAsked_21 : decode cX1_tellAsked 21 = .ok (.return_, 1) := dk_177 (dk_at dksX1_tellAsked_0 21 rfl rfl)
abbrev cX1_asked : ByteArray := prog_1_method_23_code
def yX1_asked : MethodName := ⟨RX1, "asked", "(I)I"⟩
def dkwX1_asked_0 : List UInt8 := [27, 3, 16, 7, 184, 0, 188, 153, 0, 12, 42, 180, 0, 41, 27, 46, 167, 0, 4, 2, 172]
abbrev dktX1_asked_0 : List UInt8 := dkwX1_asked_0 ++ []
theorem dksX1_asked_0 : cX1_asked.data.toList.drop 0 = dktX1_asked_0 := by decide +kernel
theorem dX1_asked_0 : decode cX1_asked 0 = .ok (.iload_n 1, 1) := dk_27 (dk_at dksX1_asked_0 0 rfl rfl)
theorem dX1_asked_1 : decode cX1_asked 1 = .ok (.iconst 0, 1) := dk_3 (dk_at dksX1_asked_0 1 rfl rfl)
theorem dX1_asked_2 : decode cX1_asked 2 = .ok (.bipush 7, 2) := dk_16 7 (dk_at dksX1_asked_0 2 rfl rfl)
theorem dX1_asked_4 : decode cX1_asked 4 = .ok (.invokestatic 188, 3) := dk_184 0 188 (dk_at dksX1_asked_0 4 rfl rfl)
theorem dX1_asked_7 : decode cX1_asked 7 = .ok (.ifCond .eq 12, 3) := dk_153 0 12 (dk_at dksX1_asked_0 7 rfl rfl)
theorem dX1_asked_10 : decode cX1_asked 10 = .ok (.aload_n 0, 1) := dk_42 (dk_at dksX1_asked_0 10 rfl rfl)
theorem dX1_asked_11 : decode cX1_asked 11 = .ok (.getfield 41, 3) := dk_180 0 41 (dk_at dksX1_asked_0 11 rfl rfl)
theorem dX1_asked_14 : decode cX1_asked 14 = .ok (.iload_n 1, 1) := dk_27 (dk_at dksX1_asked_0 14 rfl rfl)
theorem dX1_asked_15 : decode cX1_asked 15 = .ok (.iaload, 1) := dk_46 (dk_at dksX1_asked_0 15 rfl rfl)
theorem dX1_asked_16 : decode cX1_asked 16 = .ok (.goto 4, 3) := dk_167 0 4 (dk_at dksX1_asked_0 16 rfl rfl)
theorem dX1_asked_19 : decode cX1_asked 19 = .ok (.iconst (-1), 1) := dk_2 (dk_at dksX1_asked_0 19 rfl rfl)
theorem dX1_asked_20 : decode cX1_asked 20 = .ok (.ireturn, 1) := dk_172 (dk_at dksX1_asked_0 20 rfl rfl)
abbrev cX1_undo : ByteArray := prog_1_method_24_code
def yX1_undo : MethodName := ⟨RX1, "undo", "()I"⟩
def dkwX1_undo_1 : List UInt8 := [180, 0, 37, 42, 180, 0, 127, 50, 182, 0, 223, 87, 42, 180, 0, 127, 172]
abbrev dktX1_undo_1 : List UInt8 := dkwX1_undo_1 ++ []
def dkwX1_undo_0 : List UInt8 := [42, 180, 0, 127, 154, 0, 5, 2, 172, 42, 89, 180, 0, 127, 4, 100, 181, 0, 127, 42, 180, 0, 30, 42]
abbrev dktX1_undo_0 : List UInt8 := dkwX1_undo_0 ++ dktX1_undo_1
theorem dksX1_undo_0 : cX1_undo.data.toList.drop 0 = dktX1_undo_0 := by decide +kernel
theorem dksX1_undo_1 : cX1_undo.data.toList.drop 24 = dktX1_undo_1 := dk_seg dksX1_undo_0 24 rfl rfl
theorem dX1_undo_0 : decode cX1_undo 0 = .ok (.aload_n 0, 1) := dk_42 (dk_at dksX1_undo_0 0 rfl rfl)
theorem dX1_undo_1 : decode cX1_undo 1 = .ok (.getfield 127, 3) := dk_180 0 127 (dk_at dksX1_undo_0 1 rfl rfl)
theorem dX1_undo_4 : decode cX1_undo 4 = .ok (.ifCond .ne 5, 3) := dk_154 0 5 (dk_at dksX1_undo_0 4 rfl rfl)
theorem dX1_undo_7 : decode cX1_undo 7 = .ok (.iconst (-1), 1) := dk_2 (dk_at dksX1_undo_0 7 rfl rfl)
theorem dX1_undo_8 : decode cX1_undo 8 = .ok (.ireturn, 1) := dk_172 (dk_at dksX1_undo_0 8 rfl rfl)
theorem dX1_undo_9 : decode cX1_undo 9 = .ok (.aload_n 0, 1) := dk_42 (dk_at dksX1_undo_0 9 rfl rfl)
theorem dX1_undo_10 : decode cX1_undo 10 = .ok (.dup, 1) := dk_89 (dk_at dksX1_undo_0 10 rfl rfl)
theorem dX1_undo_11 : decode cX1_undo 11 = .ok (.getfield 127, 3) := dk_180 0 127 (dk_at dksX1_undo_0 11 rfl rfl)
theorem dX1_undo_14 : decode cX1_undo 14 = .ok (.iconst 1, 1) := dk_4 (dk_at dksX1_undo_0 14 rfl rfl)
theorem dX1_undo_15 : decode cX1_undo 15 = .ok (.isub, 1) := dk_100 (dk_at dksX1_undo_0 15 rfl rfl)
theorem dX1_undo_16 : decode cX1_undo 16 = .ok (.putfield 127, 3) := dk_181 0 127 (dk_at dksX1_undo_0 16 rfl rfl)
theorem dX1_undo_19 : decode cX1_undo 19 = .ok (.aload_n 0, 1) := dk_42 (dk_at dksX1_undo_0 19 rfl rfl)
theorem dX1_undo_20 : decode cX1_undo 20 = .ok (.getfield 30, 3) := dk_180 0 30 (dk_at dksX1_undo_0 20 rfl rfl)
theorem dX1_undo_23 : decode cX1_undo 23 = .ok (.aload_n 0, 1) := dk_42 (dk_at dksX1_undo_0 23 rfl rfl)
theorem dX1_undo_24 : decode cX1_undo 24 = .ok (.getfield 37, 3) := dk_180 0 37 (dk_at dksX1_undo_1 0 rfl rfl)
theorem dX1_undo_27 : decode cX1_undo 27 = .ok (.aload_n 0, 1) := dk_42 (dk_at dksX1_undo_1 3 rfl rfl)
theorem dX1_undo_28 : decode cX1_undo 28 = .ok (.getfield 127, 3) := dk_180 0 127 (dk_at dksX1_undo_1 4 rfl rfl)
theorem dX1_undo_31 : decode cX1_undo 31 = .ok (.aaload, 1) := dk_50 (dk_at dksX1_undo_1 7 rfl rfl)
theorem dX1_undo_32 : decode cX1_undo 32 = .ok (.invokevirtual 223, 3) := dk_182 0 223 (dk_at dksX1_undo_1 8 rfl rfl)
theorem dX1_undo_35 : decode cX1_undo 35 = .ok (.pop, 1) := dk_87 (dk_at dksX1_undo_1 11 rfl rfl)
theorem dX1_undo_36 : decode cX1_undo 36 = .ok (.aload_n 0, 1) := dk_42 (dk_at dksX1_undo_1 12 rfl rfl)
theorem dX1_undo_37 : decode cX1_undo 37 = .ok (.getfield 127, 3) := dk_180 0 127 (dk_at dksX1_undo_1 13 rfl rfl)
theorem dX1_undo_40 : decode cX1_undo 40 = .ok (.ireturn, 1) := dk_172 (dk_at dksX1_undo_1 16 rfl rfl)
abbrev cX1_known : ByteArray := prog_1_method_25_code
def yX1_known : MethodName := ⟨RX1, "known", "(II)I"⟩
def dkwX1_known_1 : List UInt8 := [180, 0, 30, 180, 0, 245, 27, 50, 28, 46, 167, 0, 4, 2, 172]
abbrev dktX1_known_1 : List UInt8 := dkwX1_known_1 ++ []
def dkwX1_known_0 : List UInt8 := [42, 180, 0, 19, 27, 182, 0, 141, 153, 0, 28, 42, 180, 0, 19, 28, 182, 0, 145, 153, 0, 17, 42]
abbrev dktX1_known_0 : List UInt8 := dkwX1_known_0 ++ dktX1_known_1
theorem dksX1_known_0 : cX1_known.data.toList.drop 0 = dktX1_known_0 := by decide +kernel
theorem dksX1_known_1 : cX1_known.data.toList.drop 23 = dktX1_known_1 := dk_seg dksX1_known_0 23 rfl rfl
theorem dX1_known_0 : decode cX1_known 0 = .ok (.aload_n 0, 1) := dk_42 (dk_at dksX1_known_0 0 rfl rfl)
theorem dX1_known_1 : decode cX1_known 1 = .ok (.getfield 19, 3) := dk_180 0 19 (dk_at dksX1_known_0 1 rfl rfl)
theorem dX1_known_4 : decode cX1_known 4 = .ok (.iload_n 1, 1) := dk_27 (dk_at dksX1_known_0 4 rfl rfl)
theorem dX1_known_5 : decode cX1_known 5 = .ok (.invokevirtual 141, 3) := dk_182 0 141 (dk_at dksX1_known_0 5 rfl rfl)
theorem dX1_known_8 : decode cX1_known 8 = .ok (.ifCond .eq 28, 3) := dk_153 0 28 (dk_at dksX1_known_0 8 rfl rfl)
theorem dX1_known_11 : decode cX1_known 11 = .ok (.aload_n 0, 1) := dk_42 (dk_at dksX1_known_0 11 rfl rfl)
theorem dX1_known_12 : decode cX1_known 12 = .ok (.getfield 19, 3) := dk_180 0 19 (dk_at dksX1_known_0 12 rfl rfl)
theorem dX1_known_15 : decode cX1_known 15 = .ok (.iload_n 2, 1) := dk_28 (dk_at dksX1_known_0 15 rfl rfl)
theorem dX1_known_16 : decode cX1_known 16 = .ok (.invokevirtual 145, 3) := dk_182 0 145 (dk_at dksX1_known_0 16 rfl rfl)
theorem dX1_known_19 : decode cX1_known 19 = .ok (.ifCond .eq 17, 3) := dk_153 0 17 (dk_at dksX1_known_0 19 rfl rfl)
theorem dX1_known_22 : decode cX1_known 22 = .ok (.aload_n 0, 1) := dk_42 (dk_at dksX1_known_0 22 rfl rfl)
theorem dX1_known_23 : decode cX1_known 23 = .ok (.getfield 30, 3) := dk_180 0 30 (dk_at dksX1_known_1 0 rfl rfl)
theorem dX1_known_26 : decode cX1_known 26 = .ok (.getfield 245, 3) := dk_180 0 245 (dk_at dksX1_known_1 3 rfl rfl)
theorem dX1_known_29 : decode cX1_known 29 = .ok (.iload_n 1, 1) := dk_27 (dk_at dksX1_known_1 6 rfl rfl)
theorem dX1_known_30 : decode cX1_known 30 = .ok (.aaload, 1) := dk_50 (dk_at dksX1_known_1 7 rfl rfl)
theorem dX1_known_31 : decode cX1_known 31 = .ok (.iload_n 2, 1) := dk_28 (dk_at dksX1_known_1 8 rfl rfl)
theorem dX1_known_32 : decode cX1_known 32 = .ok (.iaload, 1) := dk_46 (dk_at dksX1_known_1 9 rfl rfl)
theorem dX1_known_33 : decode cX1_known 33 = .ok (.goto 4, 3) := dk_167 0 4 (dk_at dksX1_known_1 10 rfl rfl)
theorem dX1_known_36 : decode cX1_known 36 = .ok (.iconst (-1), 1) := dk_2 (dk_at dksX1_known_1 13 rfl rfl)
theorem dX1_known_37 : decode cX1_known 37 = .ok (.ireturn, 1) := dk_172 (dk_at dksX1_known_1 14 rfl rfl)
abbrev cX1_can : ByteArray := prog_1_method_26_code
def yX1_can : MethodName := ⟨RX1, "can", "(II)I"⟩
def dkwX1_can_1 : List UInt8 := [180, 0, 30, 27, 28, 182, 0, 248, 167, 0, 4, 2, 172]
abbrev dktX1_can_1 : List UInt8 := dkwX1_can_1 ++ []
def dkwX1_can_0 : List UInt8 := [42, 180, 0, 19, 27, 182, 0, 141, 153, 0, 26, 42, 180, 0, 19, 28, 182, 0, 145, 153, 0, 15, 42]
abbrev dktX1_can_0 : List UInt8 := dkwX1_can_0 ++ dktX1_can_1
theorem dksX1_can_0 : cX1_can.data.toList.drop 0 = dktX1_can_0 := by decide +kernel
theorem dksX1_can_1 : cX1_can.data.toList.drop 23 = dktX1_can_1 := dk_seg dksX1_can_0 23 rfl rfl
theorem dX1_can_0 : decode cX1_can 0 = .ok (.aload_n 0, 1) := dk_42 (dk_at dksX1_can_0 0 rfl rfl)
theorem dX1_can_1 : decode cX1_can 1 = .ok (.getfield 19, 3) := dk_180 0 19 (dk_at dksX1_can_0 1 rfl rfl)
theorem dX1_can_4 : decode cX1_can 4 = .ok (.iload_n 1, 1) := dk_27 (dk_at dksX1_can_0 4 rfl rfl)
theorem dX1_can_5 : decode cX1_can 5 = .ok (.invokevirtual 141, 3) := dk_182 0 141 (dk_at dksX1_can_0 5 rfl rfl)
theorem dX1_can_8 : decode cX1_can 8 = .ok (.ifCond .eq 26, 3) := dk_153 0 26 (dk_at dksX1_can_0 8 rfl rfl)
theorem dX1_can_11 : decode cX1_can 11 = .ok (.aload_n 0, 1) := dk_42 (dk_at dksX1_can_0 11 rfl rfl)
theorem dX1_can_12 : decode cX1_can 12 = .ok (.getfield 19, 3) := dk_180 0 19 (dk_at dksX1_can_0 12 rfl rfl)
theorem dX1_can_15 : decode cX1_can 15 = .ok (.iload_n 2, 1) := dk_28 (dk_at dksX1_can_0 15 rfl rfl)
theorem dX1_can_16 : decode cX1_can 16 = .ok (.invokevirtual 145, 3) := dk_182 0 145 (dk_at dksX1_can_0 16 rfl rfl)
theorem dX1_can_19 : decode cX1_can 19 = .ok (.ifCond .eq 15, 3) := dk_153 0 15 (dk_at dksX1_can_0 19 rfl rfl)
theorem dX1_can_22 : decode cX1_can 22 = .ok (.aload_n 0, 1) := dk_42 (dk_at dksX1_can_0 22 rfl rfl)
theorem dX1_can_23 : decode cX1_can 23 = .ok (.getfield 30, 3) := dk_180 0 30 (dk_at dksX1_can_1 0 rfl rfl)
theorem dX1_can_26 : decode cX1_can 26 = .ok (.iload_n 1, 1) := dk_27 (dk_at dksX1_can_1 3 rfl rfl)
theorem dX1_can_27 : decode cX1_can 27 = .ok (.iload_n 2, 1) := dk_28 (dk_at dksX1_can_1 4 rfl rfl)
theorem dX1_can_28 : decode cX1_can 28 = .ok (.invokevirtual 248, 3) := dk_182 0 248 (dk_at dksX1_can_1 5 rfl rfl)
theorem dX1_can_31 : decode cX1_can 31 = .ok (.goto 4, 3) := dk_167 0 4 (dk_at dksX1_can_1 8 rfl rfl)
theorem dX1_can_34 : decode cX1_can 34 = .ok (.iconst (-1), 1) := dk_2 (dk_at dksX1_can_1 11 rfl rfl)
theorem dX1_can_35 : decode cX1_can 35 = .ok (.ireturn, 1) := dk_172 (dk_at dksX1_can_1 12 rfl rfl)
abbrev cX1_whom : ByteArray := prog_1_method_35_code
def yX1_whom : MethodName := ⟨RX1, "whom", "(I)I"⟩
def dkwX1_whom_6 : List UInt8 := [96, 54, 4, 132, 8, 1, 167, 255, 180, 132, 7, 1, 167, 255, 153, 21, 4, 172]
abbrev dktX1_whom_6 : List UInt8 := dkwX1_whom_6 ++ []
def dkwX1_whom_5 : List UInt8 := [55, 9, 22, 9, 22, 5, 148, 157, 0, 6, 167, 0, 17, 22, 9, 55, 5, 16, 100, 21, 7, 104, 21, 8]
abbrev dktX1_whom_5 : List UInt8 := dkwX1_whom_5 ++ dktX1_whom_6
def dkwX1_whom_4 : List UInt8 := [180, 0, 152, 27, 50, 21, 8, 46, 154, 0, 6, 167, 0, 40, 42, 27, 21, 7, 21, 8, 32, 182, 1, 34]
abbrev dktX1_whom_4 : List UInt8 := dkwX1_whom_4 ++ dktX1_whom_5
def dkwX1_whom_3 : List UInt8 := [21, 8, 42, 180, 0, 19, 180, 0, 252, 162, 0, 70, 21, 7, 27, 159, 0, 58, 42, 180, 0, 30]
abbrev dktX1_whom_3 : List UInt8 := dkwX1_whom_3 ++ dktX1_whom_4
def dkwX1_whom_2 : List UInt8 := [3, 54, 7, 21, 7, 42, 180, 0, 19, 182, 0, 213, 162, 0, 97, 32, 9, 148, 158, 0, 91, 3, 54, 8]
abbrev dktX1_whom_2 : List UInt8 := dkwX1_whom_2 ++ dktX1_whom_3
def dkwX1_whom_1 : List UInt8 := [182, 1, 31, 154, 0, 5, 2, 172, 42, 27, 2, 2, 182, 1, 27, 65, 2, 54, 4, 20, 1, 42, 55, 5]
abbrev dktX1_whom_1 : List UInt8 := dkwX1_whom_1 ++ dktX1_whom_2
def dkwX1_whom_0 : List UInt8 := [42, 180, 0, 19, 27, 182, 0, 141, 153, 0, 22, 42, 180, 0, 30, 27, 182, 0, 156, 153, 0, 11, 42, 27]
abbrev dktX1_whom_0 : List UInt8 := dkwX1_whom_0 ++ dktX1_whom_1
theorem dksX1_whom_0 : cX1_whom.data.toList.drop 0 = dktX1_whom_0 := by decide +kernel
theorem dksX1_whom_1 : cX1_whom.data.toList.drop 24 = dktX1_whom_1 := dk_seg dksX1_whom_0 24 rfl rfl
theorem dksX1_whom_2 : cX1_whom.data.toList.drop 48 = dktX1_whom_2 := dk_seg dksX1_whom_1 24 rfl rfl
theorem dksX1_whom_3 : cX1_whom.data.toList.drop 72 = dktX1_whom_3 := dk_seg dksX1_whom_2 24 rfl rfl
theorem dksX1_whom_4 : cX1_whom.data.toList.drop 94 = dktX1_whom_4 := dk_seg dksX1_whom_3 22 rfl rfl
theorem dksX1_whom_5 : cX1_whom.data.toList.drop 118 = dktX1_whom_5 := dk_seg dksX1_whom_4 24 rfl rfl
theorem dksX1_whom_6 : cX1_whom.data.toList.drop 142 = dktX1_whom_6 := dk_seg dksX1_whom_5 24 rfl rfl
theorem dX1_whom_0 : decode cX1_whom 0 = .ok (.aload_n 0, 1) := dk_42 (dk_at dksX1_whom_0 0 rfl rfl)
theorem dX1_whom_1 : decode cX1_whom 1 = .ok (.getfield 19, 3) := dk_180 0 19 (dk_at dksX1_whom_0 1 rfl rfl)
theorem dX1_whom_4 : decode cX1_whom 4 = .ok (.iload_n 1, 1) := dk_27 (dk_at dksX1_whom_0 4 rfl rfl)
theorem dX1_whom_5 : decode cX1_whom 5 = .ok (.invokevirtual 141, 3) := dk_182 0 141 (dk_at dksX1_whom_0 5 rfl rfl)
theorem dX1_whom_8 : decode cX1_whom 8 = .ok (.ifCond .eq 22, 3) := dk_153 0 22 (dk_at dksX1_whom_0 8 rfl rfl)
theorem dX1_whom_11 : decode cX1_whom 11 = .ok (.aload_n 0, 1) := dk_42 (dk_at dksX1_whom_0 11 rfl rfl)
theorem dX1_whom_12 : decode cX1_whom 12 = .ok (.getfield 30, 3) := dk_180 0 30 (dk_at dksX1_whom_0 12 rfl rfl)
theorem dX1_whom_15 : decode cX1_whom 15 = .ok (.iload_n 1, 1) := dk_27 (dk_at dksX1_whom_0 15 rfl rfl)
theorem dX1_whom_16 : decode cX1_whom 16 = .ok (.invokevirtual 156, 3) := dk_182 0 156 (dk_at dksX1_whom_0 16 rfl rfl)
theorem dX1_whom_19 : decode cX1_whom 19 = .ok (.ifCond .eq 11, 3) := dk_153 0 11 (dk_at dksX1_whom_0 19 rfl rfl)
theorem dX1_whom_22 : decode cX1_whom 22 = .ok (.aload_n 0, 1) := dk_42 (dk_at dksX1_whom_0 22 rfl rfl)
theorem dX1_whom_23 : decode cX1_whom 23 = .ok (.iload_n 1, 1) := dk_27 (dk_at dksX1_whom_0 23 rfl rfl)
theorem dX1_whom_24 : decode cX1_whom 24 = .ok (.invokevirtual 287, 3) := dk_182 1 31 (dk_at dksX1_whom_1 0 rfl rfl)
theorem dX1_whom_27 : decode cX1_whom 27 = .ok (.ifCond .ne 5, 3) := dk_154 0 5 (dk_at dksX1_whom_1 3 rfl rfl)
theorem dX1_whom_30 : decode cX1_whom 30 = .ok (.iconst (-1), 1) := dk_2 (dk_at dksX1_whom_1 6 rfl rfl)
theorem dX1_whom_31 : decode cX1_whom 31 = .ok (.ireturn, 1) := dk_172 (dk_at dksX1_whom_1 7 rfl rfl)
theorem dX1_whom_32 : decode cX1_whom 32 = .ok (.aload_n 0, 1) := dk_42 (dk_at dksX1_whom_1 8 rfl rfl)
theorem dX1_whom_33 : decode cX1_whom 33 = .ok (.iload_n 1, 1) := dk_27 (dk_at dksX1_whom_1 9 rfl rfl)
theorem dX1_whom_34 : decode cX1_whom 34 = .ok (.iconst (-1), 1) := dk_2 (dk_at dksX1_whom_1 10 rfl rfl)
theorem dX1_whom_35 : decode cX1_whom 35 = .ok (.iconst (-1), 1) := dk_2 (dk_at dksX1_whom_1 11 rfl rfl)
theorem dX1_whom_36 : decode cX1_whom 36 = .ok (.invokevirtual 283, 3) := dk_182 1 27 (dk_at dksX1_whom_1 12 rfl rfl)
theorem dX1_whom_39 : decode cX1_whom 39 = .ok (.lstore_n 2, 1) := dk_65 (dk_at dksX1_whom_1 15 rfl rfl)
theorem dX1_whom_40 : decode cX1_whom 40 = .ok (.iconst (-1), 1) := dk_2 (dk_at dksX1_whom_1 16 rfl rfl)
theorem dX1_whom_41 : decode cX1_whom 41 = .ok (.istore 4, 2) := dk_54 4 (dk_at dksX1_whom_1 17 rfl rfl)
theorem dX1_whom_43 : decode cX1_whom 43 = .ok (.ldc2_w 298, 3) := dk_20 1 42 (dk_at dksX1_whom_1 19 rfl rfl)
theorem dX1_whom_46 : decode cX1_whom 46 = .ok (.lstore 5, 2) := dk_55 5 (dk_at dksX1_whom_1 22 rfl rfl)
theorem dX1_whom_48 : decode cX1_whom 48 = .ok (.iconst 0, 1) := dk_3 (dk_at dksX1_whom_2 0 rfl rfl)
theorem dX1_whom_49 : decode cX1_whom 49 = .ok (.istore 7, 2) := dk_54 7 (dk_at dksX1_whom_2 1 rfl rfl)
theorem dX1_whom_51 : decode cX1_whom 51 = .ok (.iload 7, 2) := dk_21 7 (dk_at dksX1_whom_2 3 rfl rfl)
theorem dX1_whom_53 : decode cX1_whom 53 = .ok (.aload_n 0, 1) := dk_42 (dk_at dksX1_whom_2 5 rfl rfl)
theorem dX1_whom_54 : decode cX1_whom 54 = .ok (.getfield 19, 3) := dk_180 0 19 (dk_at dksX1_whom_2 6 rfl rfl)
theorem dX1_whom_57 : decode cX1_whom 57 = .ok (.invokevirtual 213, 3) := dk_182 0 213 (dk_at dksX1_whom_2 9 rfl rfl)
theorem dX1_whom_60 : decode cX1_whom 60 = .ok (.if_icmp .ge 97, 3) := dk_162 0 97 (dk_at dksX1_whom_2 12 rfl rfl)
theorem dX1_whom_63 : decode cX1_whom 63 = .ok (.lload_n 2, 1) := dk_32 (dk_at dksX1_whom_2 15 rfl rfl)
theorem dX1_whom_64 : decode cX1_whom 64 = .ok (.lconst 0, 1) := dk_9 (dk_at dksX1_whom_2 16 rfl rfl)
theorem dX1_whom_65 : decode cX1_whom 65 = .ok (.lcmp, 1) := dk_148 (dk_at dksX1_whom_2 17 rfl rfl)
theorem dX1_whom_66 : decode cX1_whom 66 = .ok (.ifCond .le 91, 3) := dk_158 0 91 (dk_at dksX1_whom_2 18 rfl rfl)
theorem dX1_whom_69 : decode cX1_whom 69 = .ok (.iconst 0, 1) := dk_3 (dk_at dksX1_whom_2 21 rfl rfl)
theorem dX1_whom_70 : decode cX1_whom 70 = .ok (.istore 8, 2) := dk_54 8 (dk_at dksX1_whom_2 22 rfl rfl)
theorem dX1_whom_72 : decode cX1_whom 72 = .ok (.iload 8, 2) := dk_21 8 (dk_at dksX1_whom_3 0 rfl rfl)
theorem dX1_whom_74 : decode cX1_whom 74 = .ok (.aload_n 0, 1) := dk_42 (dk_at dksX1_whom_3 2 rfl rfl)
theorem dX1_whom_75 : decode cX1_whom 75 = .ok (.getfield 19, 3) := dk_180 0 19 (dk_at dksX1_whom_3 3 rfl rfl)
theorem dX1_whom_78 : decode cX1_whom 78 = .ok (.getfield 252, 3) := dk_180 0 252 (dk_at dksX1_whom_3 6 rfl rfl)
theorem dX1_whom_81 : decode cX1_whom 81 = .ok (.if_icmp .ge 70, 3) := dk_162 0 70 (dk_at dksX1_whom_3 9 rfl rfl)
theorem dX1_whom_84 : decode cX1_whom 84 = .ok (.iload 7, 2) := dk_21 7 (dk_at dksX1_whom_3 12 rfl rfl)
theorem dX1_whom_86 : decode cX1_whom 86 = .ok (.iload_n 1, 1) := dk_27 (dk_at dksX1_whom_3 14 rfl rfl)
theorem dX1_whom_87 : decode cX1_whom 87 = .ok (.if_icmp .eq 58, 3) := dk_159 0 58 (dk_at dksX1_whom_3 15 rfl rfl)
theorem dX1_whom_90 : decode cX1_whom 90 = .ok (.aload_n 0, 1) := dk_42 (dk_at dksX1_whom_3 18 rfl rfl)
theorem dX1_whom_91 : decode cX1_whom 91 = .ok (.getfield 30, 3) := dk_180 0 30 (dk_at dksX1_whom_3 19 rfl rfl)
theorem dX1_whom_94 : decode cX1_whom 94 = .ok (.getfield 152, 3) := dk_180 0 152 (dk_at dksX1_whom_4 0 rfl rfl)
theorem dX1_whom_97 : decode cX1_whom 97 = .ok (.iload_n 1, 1) := dk_27 (dk_at dksX1_whom_4 3 rfl rfl)
theorem dX1_whom_98 : decode cX1_whom 98 = .ok (.aaload, 1) := dk_50 (dk_at dksX1_whom_4 4 rfl rfl)
theorem dX1_whom_99 : decode cX1_whom 99 = .ok (.iload 8, 2) := dk_21 8 (dk_at dksX1_whom_4 5 rfl rfl)
theorem dX1_whom_101 : decode cX1_whom 101 = .ok (.iaload, 1) := dk_46 (dk_at dksX1_whom_4 7 rfl rfl)
theorem dX1_whom_102 : decode cX1_whom 102 = .ok (.ifCond .ne 6, 3) := dk_154 0 6 (dk_at dksX1_whom_4 8 rfl rfl)
theorem dX1_whom_105 : decode cX1_whom 105 = .ok (.goto 40, 3) := dk_167 0 40 (dk_at dksX1_whom_4 11 rfl rfl)
theorem dX1_whom_108 : decode cX1_whom 108 = .ok (.aload_n 0, 1) := dk_42 (dk_at dksX1_whom_4 14 rfl rfl)
theorem dX1_whom_109 : decode cX1_whom 109 = .ok (.iload_n 1, 1) := dk_27 (dk_at dksX1_whom_4 15 rfl rfl)
theorem dX1_whom_110 : decode cX1_whom 110 = .ok (.iload 7, 2) := dk_21 7 (dk_at dksX1_whom_4 16 rfl rfl)
theorem dX1_whom_112 : decode cX1_whom 112 = .ok (.iload 8, 2) := dk_21 8 (dk_at dksX1_whom_4 18 rfl rfl)
theorem dX1_whom_114 : decode cX1_whom 114 = .ok (.lload_n 2, 1) := dk_32 (dk_at dksX1_whom_4 20 rfl rfl)
theorem dX1_whom_115 : decode cX1_whom 115 = .ok (.invokevirtual 290, 3) := dk_182 1 34 (dk_at dksX1_whom_4 21 rfl rfl)
theorem dX1_whom_118 : decode cX1_whom 118 = .ok (.lstore 9, 2) := dk_55 9 (dk_at dksX1_whom_5 0 rfl rfl)
theorem dX1_whom_120 : decode cX1_whom 120 = .ok (.lload 9, 2) := dk_22 9 (dk_at dksX1_whom_5 2 rfl rfl)
theorem dX1_whom_122 : decode cX1_whom 122 = .ok (.lload 5, 2) := dk_22 5 (dk_at dksX1_whom_5 4 rfl rfl)
theorem dX1_whom_124 : decode cX1_whom 124 = .ok (.lcmp, 1) := dk_148 (dk_at dksX1_whom_5 6 rfl rfl)
theorem dX1_whom_125 : decode cX1_whom 125 = .ok (.ifCond .gt 6, 3) := dk_157 0 6 (dk_at dksX1_whom_5 7 rfl rfl)
theorem dX1_whom_128 : decode cX1_whom 128 = .ok (.goto 17, 3) := dk_167 0 17 (dk_at dksX1_whom_5 10 rfl rfl)
theorem dX1_whom_131 : decode cX1_whom 131 = .ok (.lload 9, 2) := dk_22 9 (dk_at dksX1_whom_5 13 rfl rfl)
theorem dX1_whom_133 : decode cX1_whom 133 = .ok (.lstore 5, 2) := dk_55 5 (dk_at dksX1_whom_5 15 rfl rfl)
theorem dX1_whom_135 : decode cX1_whom 135 = .ok (.bipush 100, 2) := dk_16 100 (dk_at dksX1_whom_5 17 rfl rfl)
theorem dX1_whom_137 : decode cX1_whom 137 = .ok (.iload 7, 2) := dk_21 7 (dk_at dksX1_whom_5 19 rfl rfl)
theorem dX1_whom_139 : decode cX1_whom 139 = .ok (.imul, 1) := dk_104 (dk_at dksX1_whom_5 21 rfl rfl)
theorem dX1_whom_140 : decode cX1_whom 140 = .ok (.iload 8, 2) := dk_21 8 (dk_at dksX1_whom_5 22 rfl rfl)
theorem dX1_whom_142 : decode cX1_whom 142 = .ok (.iadd, 1) := dk_96 (dk_at dksX1_whom_6 0 rfl rfl)
theorem dX1_whom_143 : decode cX1_whom 143 = .ok (.istore 4, 2) := dk_54 4 (dk_at dksX1_whom_6 1 rfl rfl)
theorem dX1_whom_145 : decode cX1_whom 145 = .ok (.iinc 8 1, 3) := dk_132 8 1 (dk_at dksX1_whom_6 3 rfl rfl)
theorem dX1_whom_148 : decode cX1_whom 148 = .ok (.goto (-76), 3) := dk_167 255 180 (dk_at dksX1_whom_6 6 rfl rfl)
theorem dX1_whom_151 : decode cX1_whom 151 = .ok (.iinc 7 1, 3) := dk_132 7 1 (dk_at dksX1_whom_6 9 rfl rfl)
theorem dX1_whom_154 : decode cX1_whom 154 = .ok (.goto (-103), 3) := dk_167 255 153 (dk_at dksX1_whom_6 12 rfl rfl)
theorem dX1_whom_157 : decode cX1_whom 157 = .ok (.iload 4, 2) := dk_21 4 (dk_at dksX1_whom_6 15 rfl rfl)
theorem dX1_whom_159 : decode cX1_whom 159 = .ok (.ireturn, 1) := dk_172 (dk_at dksX1_whom_6 17 rfl rfl)
abbrev cX1_layUnseen : ByteArray := prog_1_method_27_code
def yX1_layUnseen : MethodName := ⟨RX1, "layUnseen", "(I)Z"⟩
def dkwX1_layUnseen_11 : List UInt8 := [167, 255, 169, 28, 16, 12, 163, 0, 7, 4, 167, 0, 4, 3, 172]
abbrev dktX1_layUnseen_11 : List UInt8 := dkwX1_layUnseen_11 ++ []
def dkwX1_layUnseen_10 : List UInt8 := [180, 0, 45, 29, 46, 4, 96, 104, 181, 1, 4, 42, 89, 180, 1, 1, 4, 96, 181, 1, 1, 132, 3, 1]
abbrev dktX1_layUnseen_10 : List UInt8 := dkwX1_layUnseen_10 ++ dktX1_layUnseen_11
def dkwX1_layUnseen_9 : List UInt8 := [180, 1, 1, 29, 79, 42, 180, 0, 51, 42, 180, 1, 1, 42, 180, 1, 4, 79, 42, 89, 180, 1, 4, 42]
abbrev dktX1_layUnseen_9 : List UInt8 := dkwX1_layUnseen_9 ++ dktX1_layUnseen_10
def dkwX1_layUnseen_8 : List UInt8 := [157, 0, 6, 167, 0, 64, 42, 180, 1, 1, 16, 6, 160, 0, 5, 3, 172, 42, 180, 0, 48, 42]
abbrev dktX1_layUnseen_8 : List UInt8 := dkwX1_layUnseen_8 ++ dktX1_layUnseen_9
def dkwX1_layUnseen_7 : List UInt8 := [181, 1, 4, 3, 62, 29, 42, 180, 0, 19, 180, 0, 252, 162, 0, 82, 42, 180, 0, 45, 29, 46]
abbrev dktX1_layUnseen_7 : List UInt8 := dkwX1_layUnseen_7 ++ dktX1_layUnseen_8
def dkwX1_layUnseen_6 : List UInt8 := [180, 0, 30, 180, 0, 167, 29, 46, 96, 61, 132, 3, 1, 167, 255, 225, 42, 3, 181, 1, 1, 42, 4]
abbrev dktX1_layUnseen_6 : List UInt8 := dkwX1_layUnseen_6 ++ dktX1_layUnseen_7
def dkwX1_layUnseen_5 : List UInt8 := [167, 255, 144, 3, 62, 29, 42, 180, 0, 19, 182, 0, 213, 162, 0, 26, 29, 27, 159, 0, 15, 28, 42]
abbrev dktX1_layUnseen_5 : List UInt8 := dkwX1_layUnseen_5 ++ dktX1_layUnseen_6
def dkwX1_layUnseen_4 : List UInt8 := [180, 0, 30, 180, 0, 245, 21, 4, 50, 29, 46, 100, 79, 132, 4, 1, 167, 255, 214, 132, 3, 1]
abbrev dktX1_layUnseen_4 : List UInt8 := dkwX1_layUnseen_4 ++ dktX1_layUnseen_5
def dkwX1_layUnseen_3 : List UInt8 := [42, 180, 0, 19, 182, 0, 213, 162, 0, 36, 21, 4, 27, 159, 0, 24, 42, 180, 0, 45, 29, 92, 46, 42]
abbrev dktX1_layUnseen_3 : List UInt8 := dkwX1_layUnseen_3 ++ dktX1_layUnseen_4
def dkwX1_layUnseen_2 : List UInt8 := [180, 0, 182, 29, 46, 2, 159, 0, 13, 42, 180, 0, 45, 29, 92, 46, 7, 100, 79, 3, 54, 4, 21, 4]
abbrev dktX1_layUnseen_2 : List UInt8 := dkwX1_layUnseen_2 ++ dktX1_layUnseen_3
def dkwX1_layUnseen_1 : List UInt8 := [180, 0, 254, 29, 46, 42, 180, 0, 30, 180, 0, 152, 27, 50, 29, 46, 100, 79, 42, 180, 0, 30]
abbrev dktX1_layUnseen_1 : List UInt8 := dkwX1_layUnseen_1 ++ dktX1_layUnseen_2
def dkwX1_layUnseen_0 : List UInt8 := [3, 61, 3, 62, 29, 42, 180, 0, 19, 180, 0, 252, 162, 0, 107, 42, 180, 0, 45, 29, 42, 180, 0, 30]
abbrev dktX1_layUnseen_0 : List UInt8 := dkwX1_layUnseen_0 ++ dktX1_layUnseen_1
theorem dksX1_layUnseen_0 : cX1_layUnseen.data.toList.drop 0 = dktX1_layUnseen_0 := by decide +kernel
theorem dksX1_layUnseen_1 : cX1_layUnseen.data.toList.drop 24 = dktX1_layUnseen_1 := dk_seg dksX1_layUnseen_0 24 rfl rfl
theorem dksX1_layUnseen_2 : cX1_layUnseen.data.toList.drop 46 = dktX1_layUnseen_2 := dk_seg dksX1_layUnseen_1 22 rfl rfl
theorem dksX1_layUnseen_3 : cX1_layUnseen.data.toList.drop 70 = dktX1_layUnseen_3 := dk_seg dksX1_layUnseen_2 24 rfl rfl
theorem dksX1_layUnseen_4 : cX1_layUnseen.data.toList.drop 94 = dktX1_layUnseen_4 := dk_seg dksX1_layUnseen_3 24 rfl rfl
theorem dksX1_layUnseen_5 : cX1_layUnseen.data.toList.drop 116 = dktX1_layUnseen_5 := dk_seg dksX1_layUnseen_4 22 rfl rfl
theorem dksX1_layUnseen_6 : cX1_layUnseen.data.toList.drop 139 = dktX1_layUnseen_6 := dk_seg dksX1_layUnseen_5 23 rfl rfl
theorem dksX1_layUnseen_7 : cX1_layUnseen.data.toList.drop 162 = dktX1_layUnseen_7 := dk_seg dksX1_layUnseen_6 23 rfl rfl
theorem dksX1_layUnseen_8 : cX1_layUnseen.data.toList.drop 184 = dktX1_layUnseen_8 := dk_seg dksX1_layUnseen_7 22 rfl rfl
theorem dksX1_layUnseen_9 : cX1_layUnseen.data.toList.drop 206 = dktX1_layUnseen_9 := dk_seg dksX1_layUnseen_8 22 rfl rfl
theorem dksX1_layUnseen_10 : cX1_layUnseen.data.toList.drop 230 = dktX1_layUnseen_10 := dk_seg dksX1_layUnseen_9 24 rfl rfl
theorem dksX1_layUnseen_11 : cX1_layUnseen.data.toList.drop 254 = dktX1_layUnseen_11 := dk_seg dksX1_layUnseen_10 24 rfl rfl
theorem dX1_layUnseen_0 : decode cX1_layUnseen 0 = .ok (.iconst 0, 1) := dk_3 (dk_at dksX1_layUnseen_0 0 rfl rfl)
theorem dX1_layUnseen_1 : decode cX1_layUnseen 1 = .ok (.istore_n 2, 1) := dk_61 (dk_at dksX1_layUnseen_0 1 rfl rfl)
theorem dX1_layUnseen_2 : decode cX1_layUnseen 2 = .ok (.iconst 0, 1) := dk_3 (dk_at dksX1_layUnseen_0 2 rfl rfl)
theorem dX1_layUnseen_3 : decode cX1_layUnseen 3 = .ok (.istore_n 3, 1) := dk_62 (dk_at dksX1_layUnseen_0 3 rfl rfl)
theorem dX1_layUnseen_4 : decode cX1_layUnseen 4 = .ok (.iload_n 3, 1) := dk_29 (dk_at dksX1_layUnseen_0 4 rfl rfl)
theorem dX1_layUnseen_5 : decode cX1_layUnseen 5 = .ok (.aload_n 0, 1) := dk_42 (dk_at dksX1_layUnseen_0 5 rfl rfl)
theorem dX1_layUnseen_6 : decode cX1_layUnseen 6 = .ok (.getfield 19, 3) := dk_180 0 19 (dk_at dksX1_layUnseen_0 6 rfl rfl)
theorem dX1_layUnseen_9 : decode cX1_layUnseen 9 = .ok (.getfield 252, 3) := dk_180 0 252 (dk_at dksX1_layUnseen_0 9 rfl rfl)
theorem dX1_layUnseen_12 : decode cX1_layUnseen 12 = .ok (.if_icmp .ge 107, 3) := dk_162 0 107 (dk_at dksX1_layUnseen_0 12 rfl rfl)
theorem dX1_layUnseen_15 : decode cX1_layUnseen 15 = .ok (.aload_n 0, 1) := dk_42 (dk_at dksX1_layUnseen_0 15 rfl rfl)
theorem dX1_layUnseen_16 : decode cX1_layUnseen 16 = .ok (.getfield 45, 3) := dk_180 0 45 (dk_at dksX1_layUnseen_0 16 rfl rfl)
theorem dX1_layUnseen_19 : decode cX1_layUnseen 19 = .ok (.iload_n 3, 1) := dk_29 (dk_at dksX1_layUnseen_0 19 rfl rfl)
theorem dX1_layUnseen_20 : decode cX1_layUnseen 20 = .ok (.aload_n 0, 1) := dk_42 (dk_at dksX1_layUnseen_0 20 rfl rfl)
theorem dX1_layUnseen_21 : decode cX1_layUnseen 21 = .ok (.getfield 30, 3) := dk_180 0 30 (dk_at dksX1_layUnseen_0 21 rfl rfl)
theorem dX1_layUnseen_24 : decode cX1_layUnseen 24 = .ok (.getfield 254, 3) := dk_180 0 254 (dk_at dksX1_layUnseen_1 0 rfl rfl)
theorem dX1_layUnseen_27 : decode cX1_layUnseen 27 = .ok (.iload_n 3, 1) := dk_29 (dk_at dksX1_layUnseen_1 3 rfl rfl)
theorem dX1_layUnseen_28 : decode cX1_layUnseen 28 = .ok (.iaload, 1) := dk_46 (dk_at dksX1_layUnseen_1 4 rfl rfl)
theorem dX1_layUnseen_29 : decode cX1_layUnseen 29 = .ok (.aload_n 0, 1) := dk_42 (dk_at dksX1_layUnseen_1 5 rfl rfl)
theorem dX1_layUnseen_30 : decode cX1_layUnseen 30 = .ok (.getfield 30, 3) := dk_180 0 30 (dk_at dksX1_layUnseen_1 6 rfl rfl)
theorem dX1_layUnseen_33 : decode cX1_layUnseen 33 = .ok (.getfield 152, 3) := dk_180 0 152 (dk_at dksX1_layUnseen_1 9 rfl rfl)
theorem dX1_layUnseen_36 : decode cX1_layUnseen 36 = .ok (.iload_n 1, 1) := dk_27 (dk_at dksX1_layUnseen_1 12 rfl rfl)
theorem dX1_layUnseen_37 : decode cX1_layUnseen 37 = .ok (.aaload, 1) := dk_50 (dk_at dksX1_layUnseen_1 13 rfl rfl)
theorem dX1_layUnseen_38 : decode cX1_layUnseen 38 = .ok (.iload_n 3, 1) := dk_29 (dk_at dksX1_layUnseen_1 14 rfl rfl)
theorem dX1_layUnseen_39 : decode cX1_layUnseen 39 = .ok (.iaload, 1) := dk_46 (dk_at dksX1_layUnseen_1 15 rfl rfl)
theorem dX1_layUnseen_40 : decode cX1_layUnseen 40 = .ok (.isub, 1) := dk_100 (dk_at dksX1_layUnseen_1 16 rfl rfl)
theorem dX1_layUnseen_41 : decode cX1_layUnseen 41 = .ok (.iastore, 1) := dk_79 (dk_at dksX1_layUnseen_1 17 rfl rfl)
theorem dX1_layUnseen_42 : decode cX1_layUnseen 42 = .ok (.aload_n 0, 1) := dk_42 (dk_at dksX1_layUnseen_1 18 rfl rfl)
theorem dX1_layUnseen_43 : decode cX1_layUnseen 43 = .ok (.getfield 30, 3) := dk_180 0 30 (dk_at dksX1_layUnseen_1 19 rfl rfl)
theorem dX1_layUnseen_46 : decode cX1_layUnseen 46 = .ok (.getfield 182, 3) := dk_180 0 182 (dk_at dksX1_layUnseen_2 0 rfl rfl)
theorem dX1_layUnseen_49 : decode cX1_layUnseen 49 = .ok (.iload_n 3, 1) := dk_29 (dk_at dksX1_layUnseen_2 3 rfl rfl)
theorem dX1_layUnseen_50 : decode cX1_layUnseen 50 = .ok (.iaload, 1) := dk_46 (dk_at dksX1_layUnseen_2 4 rfl rfl)
theorem dX1_layUnseen_51 : decode cX1_layUnseen 51 = .ok (.iconst (-1), 1) := dk_2 (dk_at dksX1_layUnseen_2 5 rfl rfl)
theorem dX1_layUnseen_52 : decode cX1_layUnseen 52 = .ok (.if_icmp .eq 13, 3) := dk_159 0 13 (dk_at dksX1_layUnseen_2 6 rfl rfl)
theorem dX1_layUnseen_55 : decode cX1_layUnseen 55 = .ok (.aload_n 0, 1) := dk_42 (dk_at dksX1_layUnseen_2 9 rfl rfl)
theorem dX1_layUnseen_56 : decode cX1_layUnseen 56 = .ok (.getfield 45, 3) := dk_180 0 45 (dk_at dksX1_layUnseen_2 10 rfl rfl)
theorem dX1_layUnseen_59 : decode cX1_layUnseen 59 = .ok (.iload_n 3, 1) := dk_29 (dk_at dksX1_layUnseen_2 13 rfl rfl)
theorem dX1_layUnseen_60 : decode cX1_layUnseen 60 = .ok (.dup2, 1) := dk_92 (dk_at dksX1_layUnseen_2 14 rfl rfl)
theorem dX1_layUnseen_61 : decode cX1_layUnseen 61 = .ok (.iaload, 1) := dk_46 (dk_at dksX1_layUnseen_2 15 rfl rfl)
theorem dX1_layUnseen_62 : decode cX1_layUnseen 62 = .ok (.iconst 4, 1) := dk_7 (dk_at dksX1_layUnseen_2 16 rfl rfl)
theorem dX1_layUnseen_63 : decode cX1_layUnseen 63 = .ok (.isub, 1) := dk_100 (dk_at dksX1_layUnseen_2 17 rfl rfl)
theorem dX1_layUnseen_64 : decode cX1_layUnseen 64 = .ok (.iastore, 1) := dk_79 (dk_at dksX1_layUnseen_2 18 rfl rfl)
theorem dX1_layUnseen_65 : decode cX1_layUnseen 65 = .ok (.iconst 0, 1) := dk_3 (dk_at dksX1_layUnseen_2 19 rfl rfl)
theorem dX1_layUnseen_66 : decode cX1_layUnseen 66 = .ok (.istore 4, 2) := dk_54 4 (dk_at dksX1_layUnseen_2 20 rfl rfl)
theorem dX1_layUnseen_68 : decode cX1_layUnseen 68 = .ok (.iload 4, 2) := dk_21 4 (dk_at dksX1_layUnseen_2 22 rfl rfl)
theorem dX1_layUnseen_70 : decode cX1_layUnseen 70 = .ok (.aload_n 0, 1) := dk_42 (dk_at dksX1_layUnseen_3 0 rfl rfl)
theorem dX1_layUnseen_71 : decode cX1_layUnseen 71 = .ok (.getfield 19, 3) := dk_180 0 19 (dk_at dksX1_layUnseen_3 1 rfl rfl)
theorem dX1_layUnseen_74 : decode cX1_layUnseen 74 = .ok (.invokevirtual 213, 3) := dk_182 0 213 (dk_at dksX1_layUnseen_3 4 rfl rfl)
theorem dX1_layUnseen_77 : decode cX1_layUnseen 77 = .ok (.if_icmp .ge 36, 3) := dk_162 0 36 (dk_at dksX1_layUnseen_3 7 rfl rfl)
theorem dX1_layUnseen_80 : decode cX1_layUnseen 80 = .ok (.iload 4, 2) := dk_21 4 (dk_at dksX1_layUnseen_3 10 rfl rfl)
theorem dX1_layUnseen_82 : decode cX1_layUnseen 82 = .ok (.iload_n 1, 1) := dk_27 (dk_at dksX1_layUnseen_3 12 rfl rfl)
theorem dX1_layUnseen_83 : decode cX1_layUnseen 83 = .ok (.if_icmp .eq 24, 3) := dk_159 0 24 (dk_at dksX1_layUnseen_3 13 rfl rfl)
theorem dX1_layUnseen_86 : decode cX1_layUnseen 86 = .ok (.aload_n 0, 1) := dk_42 (dk_at dksX1_layUnseen_3 16 rfl rfl)
theorem dX1_layUnseen_87 : decode cX1_layUnseen 87 = .ok (.getfield 45, 3) := dk_180 0 45 (dk_at dksX1_layUnseen_3 17 rfl rfl)
theorem dX1_layUnseen_90 : decode cX1_layUnseen 90 = .ok (.iload_n 3, 1) := dk_29 (dk_at dksX1_layUnseen_3 20 rfl rfl)
theorem dX1_layUnseen_91 : decode cX1_layUnseen 91 = .ok (.dup2, 1) := dk_92 (dk_at dksX1_layUnseen_3 21 rfl rfl)
theorem dX1_layUnseen_92 : decode cX1_layUnseen 92 = .ok (.iaload, 1) := dk_46 (dk_at dksX1_layUnseen_3 22 rfl rfl)
theorem dX1_layUnseen_93 : decode cX1_layUnseen 93 = .ok (.aload_n 0, 1) := dk_42 (dk_at dksX1_layUnseen_3 23 rfl rfl)
theorem dX1_layUnseen_94 : decode cX1_layUnseen 94 = .ok (.getfield 30, 3) := dk_180 0 30 (dk_at dksX1_layUnseen_4 0 rfl rfl)
theorem dX1_layUnseen_97 : decode cX1_layUnseen 97 = .ok (.getfield 245, 3) := dk_180 0 245 (dk_at dksX1_layUnseen_4 3 rfl rfl)
theorem dX1_layUnseen_100 : decode cX1_layUnseen 100 = .ok (.iload 4, 2) := dk_21 4 (dk_at dksX1_layUnseen_4 6 rfl rfl)
theorem dX1_layUnseen_102 : decode cX1_layUnseen 102 = .ok (.aaload, 1) := dk_50 (dk_at dksX1_layUnseen_4 8 rfl rfl)
theorem dX1_layUnseen_103 : decode cX1_layUnseen 103 = .ok (.iload_n 3, 1) := dk_29 (dk_at dksX1_layUnseen_4 9 rfl rfl)
theorem dX1_layUnseen_104 : decode cX1_layUnseen 104 = .ok (.iaload, 1) := dk_46 (dk_at dksX1_layUnseen_4 10 rfl rfl)
theorem dX1_layUnseen_105 : decode cX1_layUnseen 105 = .ok (.isub, 1) := dk_100 (dk_at dksX1_layUnseen_4 11 rfl rfl)
theorem dX1_layUnseen_106 : decode cX1_layUnseen 106 = .ok (.iastore, 1) := dk_79 (dk_at dksX1_layUnseen_4 12 rfl rfl)
theorem dX1_layUnseen_107 : decode cX1_layUnseen 107 = .ok (.iinc 4 1, 3) := dk_132 4 1 (dk_at dksX1_layUnseen_4 13 rfl rfl)
theorem dX1_layUnseen_110 : decode cX1_layUnseen 110 = .ok (.goto (-42), 3) := dk_167 255 214 (dk_at dksX1_layUnseen_4 16 rfl rfl)
theorem dX1_layUnseen_113 : decode cX1_layUnseen 113 = .ok (.iinc 3 1, 3) := dk_132 3 1 (dk_at dksX1_layUnseen_4 19 rfl rfl)
theorem dX1_layUnseen_116 : decode cX1_layUnseen 116 = .ok (.goto (-112), 3) := dk_167 255 144 (dk_at dksX1_layUnseen_5 0 rfl rfl)
theorem dX1_layUnseen_119 : decode cX1_layUnseen 119 = .ok (.iconst 0, 1) := dk_3 (dk_at dksX1_layUnseen_5 3 rfl rfl)
theorem dX1_layUnseen_120 : decode cX1_layUnseen 120 = .ok (.istore_n 3, 1) := dk_62 (dk_at dksX1_layUnseen_5 4 rfl rfl)
theorem dX1_layUnseen_121 : decode cX1_layUnseen 121 = .ok (.iload_n 3, 1) := dk_29 (dk_at dksX1_layUnseen_5 5 rfl rfl)
theorem dX1_layUnseen_122 : decode cX1_layUnseen 122 = .ok (.aload_n 0, 1) := dk_42 (dk_at dksX1_layUnseen_5 6 rfl rfl)
theorem dX1_layUnseen_123 : decode cX1_layUnseen 123 = .ok (.getfield 19, 3) := dk_180 0 19 (dk_at dksX1_layUnseen_5 7 rfl rfl)
theorem dX1_layUnseen_126 : decode cX1_layUnseen 126 = .ok (.invokevirtual 213, 3) := dk_182 0 213 (dk_at dksX1_layUnseen_5 10 rfl rfl)
theorem dX1_layUnseen_129 : decode cX1_layUnseen 129 = .ok (.if_icmp .ge 26, 3) := dk_162 0 26 (dk_at dksX1_layUnseen_5 13 rfl rfl)
theorem dX1_layUnseen_132 : decode cX1_layUnseen 132 = .ok (.iload_n 3, 1) := dk_29 (dk_at dksX1_layUnseen_5 16 rfl rfl)
theorem dX1_layUnseen_133 : decode cX1_layUnseen 133 = .ok (.iload_n 1, 1) := dk_27 (dk_at dksX1_layUnseen_5 17 rfl rfl)
theorem dX1_layUnseen_134 : decode cX1_layUnseen 134 = .ok (.if_icmp .eq 15, 3) := dk_159 0 15 (dk_at dksX1_layUnseen_5 18 rfl rfl)
theorem dX1_layUnseen_137 : decode cX1_layUnseen 137 = .ok (.iload_n 2, 1) := dk_28 (dk_at dksX1_layUnseen_5 21 rfl rfl)
theorem dX1_layUnseen_138 : decode cX1_layUnseen 138 = .ok (.aload_n 0, 1) := dk_42 (dk_at dksX1_layUnseen_5 22 rfl rfl)
theorem dX1_layUnseen_139 : decode cX1_layUnseen 139 = .ok (.getfield 30, 3) := dk_180 0 30 (dk_at dksX1_layUnseen_6 0 rfl rfl)
theorem dX1_layUnseen_142 : decode cX1_layUnseen 142 = .ok (.getfield 167, 3) := dk_180 0 167 (dk_at dksX1_layUnseen_6 3 rfl rfl)
theorem dX1_layUnseen_145 : decode cX1_layUnseen 145 = .ok (.iload_n 3, 1) := dk_29 (dk_at dksX1_layUnseen_6 6 rfl rfl)
theorem dX1_layUnseen_146 : decode cX1_layUnseen 146 = .ok (.iaload, 1) := dk_46 (dk_at dksX1_layUnseen_6 7 rfl rfl)
theorem dX1_layUnseen_147 : decode cX1_layUnseen 147 = .ok (.iadd, 1) := dk_96 (dk_at dksX1_layUnseen_6 8 rfl rfl)
theorem dX1_layUnseen_148 : decode cX1_layUnseen 148 = .ok (.istore_n 2, 1) := dk_61 (dk_at dksX1_layUnseen_6 9 rfl rfl)
theorem dX1_layUnseen_149 : decode cX1_layUnseen 149 = .ok (.iinc 3 1, 3) := dk_132 3 1 (dk_at dksX1_layUnseen_6 10 rfl rfl)
theorem dX1_layUnseen_152 : decode cX1_layUnseen 152 = .ok (.goto (-31), 3) := dk_167 255 225 (dk_at dksX1_layUnseen_6 13 rfl rfl)
theorem dX1_layUnseen_155 : decode cX1_layUnseen 155 = .ok (.aload_n 0, 1) := dk_42 (dk_at dksX1_layUnseen_6 16 rfl rfl)
theorem dX1_layUnseen_156 : decode cX1_layUnseen 156 = .ok (.iconst 0, 1) := dk_3 (dk_at dksX1_layUnseen_6 17 rfl rfl)
theorem dX1_layUnseen_157 : decode cX1_layUnseen 157 = .ok (.putfield 257, 3) := dk_181 1 1 (dk_at dksX1_layUnseen_6 18 rfl rfl)
theorem dX1_layUnseen_160 : decode cX1_layUnseen 160 = .ok (.aload_n 0, 1) := dk_42 (dk_at dksX1_layUnseen_6 21 rfl rfl)
theorem dX1_layUnseen_161 : decode cX1_layUnseen 161 = .ok (.iconst 1, 1) := dk_4 (dk_at dksX1_layUnseen_6 22 rfl rfl)
theorem dX1_layUnseen_162 : decode cX1_layUnseen 162 = .ok (.putfield 260, 3) := dk_181 1 4 (dk_at dksX1_layUnseen_7 0 rfl rfl)
theorem dX1_layUnseen_165 : decode cX1_layUnseen 165 = .ok (.iconst 0, 1) := dk_3 (dk_at dksX1_layUnseen_7 3 rfl rfl)
theorem dX1_layUnseen_166 : decode cX1_layUnseen 166 = .ok (.istore_n 3, 1) := dk_62 (dk_at dksX1_layUnseen_7 4 rfl rfl)
theorem dX1_layUnseen_167 : decode cX1_layUnseen 167 = .ok (.iload_n 3, 1) := dk_29 (dk_at dksX1_layUnseen_7 5 rfl rfl)
theorem dX1_layUnseen_168 : decode cX1_layUnseen 168 = .ok (.aload_n 0, 1) := dk_42 (dk_at dksX1_layUnseen_7 6 rfl rfl)
theorem dX1_layUnseen_169 : decode cX1_layUnseen 169 = .ok (.getfield 19, 3) := dk_180 0 19 (dk_at dksX1_layUnseen_7 7 rfl rfl)
theorem dX1_layUnseen_172 : decode cX1_layUnseen 172 = .ok (.getfield 252, 3) := dk_180 0 252 (dk_at dksX1_layUnseen_7 10 rfl rfl)
theorem dX1_layUnseen_175 : decode cX1_layUnseen 175 = .ok (.if_icmp .ge 82, 3) := dk_162 0 82 (dk_at dksX1_layUnseen_7 13 rfl rfl)
theorem dX1_layUnseen_178 : decode cX1_layUnseen 178 = .ok (.aload_n 0, 1) := dk_42 (dk_at dksX1_layUnseen_7 16 rfl rfl)
theorem dX1_layUnseen_179 : decode cX1_layUnseen 179 = .ok (.getfield 45, 3) := dk_180 0 45 (dk_at dksX1_layUnseen_7 17 rfl rfl)
theorem dX1_layUnseen_182 : decode cX1_layUnseen 182 = .ok (.iload_n 3, 1) := dk_29 (dk_at dksX1_layUnseen_7 20 rfl rfl)
theorem dX1_layUnseen_183 : decode cX1_layUnseen 183 = .ok (.iaload, 1) := dk_46 (dk_at dksX1_layUnseen_7 21 rfl rfl)
theorem dX1_layUnseen_184 : decode cX1_layUnseen 184 = .ok (.ifCond .gt 6, 3) := dk_157 0 6 (dk_at dksX1_layUnseen_8 0 rfl rfl)
theorem dX1_layUnseen_187 : decode cX1_layUnseen 187 = .ok (.goto 64, 3) := dk_167 0 64 (dk_at dksX1_layUnseen_8 3 rfl rfl)
theorem dX1_layUnseen_190 : decode cX1_layUnseen 190 = .ok (.aload_n 0, 1) := dk_42 (dk_at dksX1_layUnseen_8 6 rfl rfl)
theorem dX1_layUnseen_191 : decode cX1_layUnseen 191 = .ok (.getfield 257, 3) := dk_180 1 1 (dk_at dksX1_layUnseen_8 7 rfl rfl)
theorem dX1_layUnseen_194 : decode cX1_layUnseen 194 = .ok (.bipush 6, 2) := dk_16 6 (dk_at dksX1_layUnseen_8 10 rfl rfl)
theorem dX1_layUnseen_196 : decode cX1_layUnseen 196 = .ok (.if_icmp .ne 5, 3) := dk_160 0 5 (dk_at dksX1_layUnseen_8 12 rfl rfl)
theorem dX1_layUnseen_199 : decode cX1_layUnseen 199 = .ok (.iconst 0, 1) := dk_3 (dk_at dksX1_layUnseen_8 15 rfl rfl)
theorem dX1_layUnseen_200 : decode cX1_layUnseen 200 = .ok (.ireturn, 1) := dk_172 (dk_at dksX1_layUnseen_8 16 rfl rfl)
theorem dX1_layUnseen_201 : decode cX1_layUnseen 201 = .ok (.aload_n 0, 1) := dk_42 (dk_at dksX1_layUnseen_8 17 rfl rfl)
theorem dX1_layUnseen_202 : decode cX1_layUnseen 202 = .ok (.getfield 48, 3) := dk_180 0 48 (dk_at dksX1_layUnseen_8 18 rfl rfl)
theorem dX1_layUnseen_205 : decode cX1_layUnseen 205 = .ok (.aload_n 0, 1) := dk_42 (dk_at dksX1_layUnseen_8 21 rfl rfl)
theorem dX1_layUnseen_206 : decode cX1_layUnseen 206 = .ok (.getfield 257, 3) := dk_180 1 1 (dk_at dksX1_layUnseen_9 0 rfl rfl)
theorem dX1_layUnseen_209 : decode cX1_layUnseen 209 = .ok (.iload_n 3, 1) := dk_29 (dk_at dksX1_layUnseen_9 3 rfl rfl)
theorem dX1_layUnseen_210 : decode cX1_layUnseen 210 = .ok (.iastore, 1) := dk_79 (dk_at dksX1_layUnseen_9 4 rfl rfl)
theorem dX1_layUnseen_211 : decode cX1_layUnseen 211 = .ok (.aload_n 0, 1) := dk_42 (dk_at dksX1_layUnseen_9 5 rfl rfl)
theorem dX1_layUnseen_212 : decode cX1_layUnseen 212 = .ok (.getfield 51, 3) := dk_180 0 51 (dk_at dksX1_layUnseen_9 6 rfl rfl)
theorem dX1_layUnseen_215 : decode cX1_layUnseen 215 = .ok (.aload_n 0, 1) := dk_42 (dk_at dksX1_layUnseen_9 9 rfl rfl)
theorem dX1_layUnseen_216 : decode cX1_layUnseen 216 = .ok (.getfield 257, 3) := dk_180 1 1 (dk_at dksX1_layUnseen_9 10 rfl rfl)
theorem dX1_layUnseen_219 : decode cX1_layUnseen 219 = .ok (.aload_n 0, 1) := dk_42 (dk_at dksX1_layUnseen_9 13 rfl rfl)
theorem dX1_layUnseen_220 : decode cX1_layUnseen 220 = .ok (.getfield 260, 3) := dk_180 1 4 (dk_at dksX1_layUnseen_9 14 rfl rfl)
theorem dX1_layUnseen_223 : decode cX1_layUnseen 223 = .ok (.iastore, 1) := dk_79 (dk_at dksX1_layUnseen_9 17 rfl rfl)
theorem dX1_layUnseen_224 : decode cX1_layUnseen 224 = .ok (.aload_n 0, 1) := dk_42 (dk_at dksX1_layUnseen_9 18 rfl rfl)
theorem dX1_layUnseen_225 : decode cX1_layUnseen 225 = .ok (.dup, 1) := dk_89 (dk_at dksX1_layUnseen_9 19 rfl rfl)
theorem dX1_layUnseen_226 : decode cX1_layUnseen 226 = .ok (.getfield 260, 3) := dk_180 1 4 (dk_at dksX1_layUnseen_9 20 rfl rfl)
theorem dX1_layUnseen_229 : decode cX1_layUnseen 229 = .ok (.aload_n 0, 1) := dk_42 (dk_at dksX1_layUnseen_9 23 rfl rfl)
theorem dX1_layUnseen_230 : decode cX1_layUnseen 230 = .ok (.getfield 45, 3) := dk_180 0 45 (dk_at dksX1_layUnseen_10 0 rfl rfl)
theorem dX1_layUnseen_233 : decode cX1_layUnseen 233 = .ok (.iload_n 3, 1) := dk_29 (dk_at dksX1_layUnseen_10 3 rfl rfl)
theorem dX1_layUnseen_234 : decode cX1_layUnseen 234 = .ok (.iaload, 1) := dk_46 (dk_at dksX1_layUnseen_10 4 rfl rfl)
theorem dX1_layUnseen_235 : decode cX1_layUnseen 235 = .ok (.iconst 1, 1) := dk_4 (dk_at dksX1_layUnseen_10 5 rfl rfl)
theorem dX1_layUnseen_236 : decode cX1_layUnseen 236 = .ok (.iadd, 1) := dk_96 (dk_at dksX1_layUnseen_10 6 rfl rfl)
theorem dX1_layUnseen_237 : decode cX1_layUnseen 237 = .ok (.imul, 1) := dk_104 (dk_at dksX1_layUnseen_10 7 rfl rfl)
theorem dX1_layUnseen_238 : decode cX1_layUnseen 238 = .ok (.putfield 260, 3) := dk_181 1 4 (dk_at dksX1_layUnseen_10 8 rfl rfl)
theorem dX1_layUnseen_241 : decode cX1_layUnseen 241 = .ok (.aload_n 0, 1) := dk_42 (dk_at dksX1_layUnseen_10 11 rfl rfl)
theorem dX1_layUnseen_242 : decode cX1_layUnseen 242 = .ok (.dup, 1) := dk_89 (dk_at dksX1_layUnseen_10 12 rfl rfl)
theorem dX1_layUnseen_243 : decode cX1_layUnseen 243 = .ok (.getfield 257, 3) := dk_180 1 1 (dk_at dksX1_layUnseen_10 13 rfl rfl)
theorem dX1_layUnseen_246 : decode cX1_layUnseen 246 = .ok (.iconst 1, 1) := dk_4 (dk_at dksX1_layUnseen_10 16 rfl rfl)
theorem dX1_layUnseen_247 : decode cX1_layUnseen 247 = .ok (.iadd, 1) := dk_96 (dk_at dksX1_layUnseen_10 17 rfl rfl)
theorem dX1_layUnseen_248 : decode cX1_layUnseen 248 = .ok (.putfield 257, 3) := dk_181 1 1 (dk_at dksX1_layUnseen_10 18 rfl rfl)
theorem dX1_layUnseen_251 : decode cX1_layUnseen 251 = .ok (.iinc 3 1, 3) := dk_132 3 1 (dk_at dksX1_layUnseen_10 21 rfl rfl)
theorem dX1_layUnseen_254 : decode cX1_layUnseen 254 = .ok (.goto (-87), 3) := dk_167 255 169 (dk_at dksX1_layUnseen_11 0 rfl rfl)
theorem dX1_layUnseen_257 : decode cX1_layUnseen 257 = .ok (.iload_n 2, 1) := dk_28 (dk_at dksX1_layUnseen_11 3 rfl rfl)
theorem dX1_layUnseen_258 : decode cX1_layUnseen 258 = .ok (.bipush 12, 2) := dk_16 12 (dk_at dksX1_layUnseen_11 4 rfl rfl)
theorem dX1_layUnseen_260 : decode cX1_layUnseen 260 = .ok (.if_icmp .gt 7, 3) := dk_163 0 7 (dk_at dksX1_layUnseen_11 6 rfl rfl)
theorem dX1_layUnseen_263 : decode cX1_layUnseen 263 = .ok (.iconst 1, 1) := dk_4 (dk_at dksX1_layUnseen_11 9 rfl rfl)
theorem dX1_layUnseen_264 : decode cX1_layUnseen 264 = .ok (.goto 4, 3) := dk_167 0 4 (dk_at dksX1_layUnseen_11 10 rfl rfl)
theorem dX1_layUnseen_267 : decode cX1_layUnseen 267 = .ok (.iconst 0, 1) := dk_3 (dk_at dksX1_layUnseen_11 13 rfl rfl)
theorem dX1_layUnseen_268 : decode cX1_layUnseen 268 = .ok (.ireturn, 1) := dk_172 (dk_at dksX1_layUnseen_11 14 rfl rfl)
abbrev cX1_count : ByteArray := prog_1_method_28_code
def yX1_count : MethodName := ⟨RX1, "count", "(III)J"⟩
def dkwX1_count_6 : List UInt8 := [22, 4, 173]
abbrev dktX1_count_6 : List UInt8 := dkwX1_count_6 ++ []
def dkwX1_count_5 : List UInt8 := [180, 1, 4, 162, 0, 21, 22, 4, 42, 180, 0, 54, 21, 6, 47, 97, 55, 4, 132, 6, 1, 167, 255, 232]
abbrev dktX1_count_5 : List UInt8 := dkwX1_count_5 ++ dktX1_count_6
def dkwX1_count_4 : List UInt8 := [182, 1, 16, 132, 5, 1, 167, 255, 196, 132, 4, 1, 167, 255, 175, 9, 55, 4, 3, 54, 6, 21, 6, 42]
abbrev dktX1_count_4 : List UInt8 := dkwX1_count_4 ++ dktX1_count_5
def dkwX1_count_3 : List UInt8 := [21, 5, 46, 21, 4, 28, 160, 0, 14, 29, 2, 159, 0, 9, 4, 29, 120, 167, 0, 4, 3, 128]
abbrev dktX1_count_3 : List UInt8 := dkwX1_count_3 ++ dktX1_count_4
def dkwX1_count_2 : List UInt8 := [21, 4, 46, 162, 0, 51, 21, 4, 27, 159, 0, 45, 42, 42, 180, 0, 30, 180, 1, 13, 21, 4, 50]
abbrev dktX1_count_2 : List UInt8 := dkwX1_count_2 ++ dktX1_count_3
def dkwX1_count_1 : List UInt8 := [21, 4, 42, 180, 0, 19, 182, 0, 213, 162, 0, 75, 3, 54, 5, 21, 5, 42, 180, 0, 30, 180, 0, 167]
abbrev dktX1_count_1 : List UInt8 := dkwX1_count_1 ++ dktX1_count_2
def dkwX1_count_0 : List UInt8 := [42, 180, 0, 54, 3, 42, 180, 1, 4, 9, 184, 1, 7, 42, 180, 0, 54, 3, 10, 80, 3, 54, 4]
abbrev dktX1_count_0 : List UInt8 := dkwX1_count_0 ++ dktX1_count_1
theorem dksX1_count_0 : cX1_count.data.toList.drop 0 = dktX1_count_0 := by decide +kernel
theorem dksX1_count_1 : cX1_count.data.toList.drop 23 = dktX1_count_1 := dk_seg dksX1_count_0 23 rfl rfl
theorem dksX1_count_2 : cX1_count.data.toList.drop 47 = dktX1_count_2 := dk_seg dksX1_count_1 24 rfl rfl
theorem dksX1_count_3 : cX1_count.data.toList.drop 70 = dktX1_count_3 := dk_seg dksX1_count_2 23 rfl rfl
theorem dksX1_count_4 : cX1_count.data.toList.drop 92 = dktX1_count_4 := dk_seg dksX1_count_3 22 rfl rfl
theorem dksX1_count_5 : cX1_count.data.toList.drop 116 = dktX1_count_5 := dk_seg dksX1_count_4 24 rfl rfl
theorem dksX1_count_6 : cX1_count.data.toList.drop 140 = dktX1_count_6 := dk_seg dksX1_count_5 24 rfl rfl
theorem dX1_count_0 : decode cX1_count 0 = .ok (.aload_n 0, 1) := dk_42 (dk_at dksX1_count_0 0 rfl rfl)
theorem dX1_count_1 : decode cX1_count 1 = .ok (.getfield 54, 3) := dk_180 0 54 (dk_at dksX1_count_0 1 rfl rfl)
theorem dX1_count_4 : decode cX1_count 4 = .ok (.iconst 0, 1) := dk_3 (dk_at dksX1_count_0 4 rfl rfl)
theorem dX1_count_5 : decode cX1_count 5 = .ok (.aload_n 0, 1) := dk_42 (dk_at dksX1_count_0 5 rfl rfl)
theorem dX1_count_6 : decode cX1_count 6 = .ok (.getfield 260, 3) := dk_180 1 4 (dk_at dksX1_count_0 6 rfl rfl)
theorem dX1_count_9 : decode cX1_count 9 = .ok (.lconst 0, 1) := dk_9 (dk_at dksX1_count_0 9 rfl rfl)
theorem dX1_count_10 : decode cX1_count 10 = .ok (.invokestatic 263, 3) := dk_184 1 7 (dk_at dksX1_count_0 10 rfl rfl)
theorem dX1_count_13 : decode cX1_count 13 = .ok (.aload_n 0, 1) := dk_42 (dk_at dksX1_count_0 13 rfl rfl)
theorem dX1_count_14 : decode cX1_count 14 = .ok (.getfield 54, 3) := dk_180 0 54 (dk_at dksX1_count_0 14 rfl rfl)
theorem dX1_count_17 : decode cX1_count 17 = .ok (.iconst 0, 1) := dk_3 (dk_at dksX1_count_0 17 rfl rfl)
theorem dX1_count_18 : decode cX1_count 18 = .ok (.lconst 1, 1) := dk_10 (dk_at dksX1_count_0 18 rfl rfl)
theorem dX1_count_19 : decode cX1_count 19 = .ok (.lastore, 1) := dk_80 (dk_at dksX1_count_0 19 rfl rfl)
theorem dX1_count_20 : decode cX1_count 20 = .ok (.iconst 0, 1) := dk_3 (dk_at dksX1_count_0 20 rfl rfl)
theorem dX1_count_21 : decode cX1_count 21 = .ok (.istore 4, 2) := dk_54 4 (dk_at dksX1_count_0 21 rfl rfl)
theorem dX1_count_23 : decode cX1_count 23 = .ok (.iload 4, 2) := dk_21 4 (dk_at dksX1_count_1 0 rfl rfl)
theorem dX1_count_25 : decode cX1_count 25 = .ok (.aload_n 0, 1) := dk_42 (dk_at dksX1_count_1 2 rfl rfl)
theorem dX1_count_26 : decode cX1_count 26 = .ok (.getfield 19, 3) := dk_180 0 19 (dk_at dksX1_count_1 3 rfl rfl)
theorem dX1_count_29 : decode cX1_count 29 = .ok (.invokevirtual 213, 3) := dk_182 0 213 (dk_at dksX1_count_1 6 rfl rfl)
theorem dX1_count_32 : decode cX1_count 32 = .ok (.if_icmp .ge 75, 3) := dk_162 0 75 (dk_at dksX1_count_1 9 rfl rfl)
theorem dX1_count_35 : decode cX1_count 35 = .ok (.iconst 0, 1) := dk_3 (dk_at dksX1_count_1 12 rfl rfl)
theorem dX1_count_36 : decode cX1_count 36 = .ok (.istore 5, 2) := dk_54 5 (dk_at dksX1_count_1 13 rfl rfl)
theorem dX1_count_38 : decode cX1_count 38 = .ok (.iload 5, 2) := dk_21 5 (dk_at dksX1_count_1 15 rfl rfl)
theorem dX1_count_40 : decode cX1_count 40 = .ok (.aload_n 0, 1) := dk_42 (dk_at dksX1_count_1 17 rfl rfl)
theorem dX1_count_41 : decode cX1_count 41 = .ok (.getfield 30, 3) := dk_180 0 30 (dk_at dksX1_count_1 18 rfl rfl)
theorem dX1_count_44 : decode cX1_count 44 = .ok (.getfield 167, 3) := dk_180 0 167 (dk_at dksX1_count_1 21 rfl rfl)
theorem dX1_count_47 : decode cX1_count 47 = .ok (.iload 4, 2) := dk_21 4 (dk_at dksX1_count_2 0 rfl rfl)
theorem dX1_count_49 : decode cX1_count 49 = .ok (.iaload, 1) := dk_46 (dk_at dksX1_count_2 2 rfl rfl)
theorem dX1_count_50 : decode cX1_count 50 = .ok (.if_icmp .ge 51, 3) := dk_162 0 51 (dk_at dksX1_count_2 3 rfl rfl)
theorem dX1_count_53 : decode cX1_count 53 = .ok (.iload 4, 2) := dk_21 4 (dk_at dksX1_count_2 6 rfl rfl)
theorem dX1_count_55 : decode cX1_count 55 = .ok (.iload_n 1, 1) := dk_27 (dk_at dksX1_count_2 8 rfl rfl)
theorem dX1_count_56 : decode cX1_count 56 = .ok (.if_icmp .eq 45, 3) := dk_159 0 45 (dk_at dksX1_count_2 9 rfl rfl)
theorem dX1_count_59 : decode cX1_count 59 = .ok (.aload_n 0, 1) := dk_42 (dk_at dksX1_count_2 12 rfl rfl)
theorem dX1_count_60 : decode cX1_count 60 = .ok (.aload_n 0, 1) := dk_42 (dk_at dksX1_count_2 13 rfl rfl)
theorem dX1_count_61 : decode cX1_count 61 = .ok (.getfield 30, 3) := dk_180 0 30 (dk_at dksX1_count_2 14 rfl rfl)
theorem dX1_count_64 : decode cX1_count 64 = .ok (.getfield 269, 3) := dk_180 1 13 (dk_at dksX1_count_2 17 rfl rfl)
theorem dX1_count_67 : decode cX1_count 67 = .ok (.iload 4, 2) := dk_21 4 (dk_at dksX1_count_2 20 rfl rfl)
theorem dX1_count_69 : decode cX1_count 69 = .ok (.aaload, 1) := dk_50 (dk_at dksX1_count_2 22 rfl rfl)
theorem dX1_count_70 : decode cX1_count 70 = .ok (.iload 5, 2) := dk_21 5 (dk_at dksX1_count_3 0 rfl rfl)
theorem dX1_count_72 : decode cX1_count 72 = .ok (.iaload, 1) := dk_46 (dk_at dksX1_count_3 2 rfl rfl)
theorem dX1_count_73 : decode cX1_count 73 = .ok (.iload 4, 2) := dk_21 4 (dk_at dksX1_count_3 3 rfl rfl)
theorem dX1_count_75 : decode cX1_count 75 = .ok (.iload_n 2, 1) := dk_28 (dk_at dksX1_count_3 5 rfl rfl)
theorem dX1_count_76 : decode cX1_count 76 = .ok (.if_icmp .ne 14, 3) := dk_160 0 14 (dk_at dksX1_count_3 6 rfl rfl)
theorem dX1_count_79 : decode cX1_count 79 = .ok (.iload_n 3, 1) := dk_29 (dk_at dksX1_count_3 9 rfl rfl)
theorem dX1_count_80 : decode cX1_count 80 = .ok (.iconst (-1), 1) := dk_2 (dk_at dksX1_count_3 10 rfl rfl)
theorem dX1_count_81 : decode cX1_count 81 = .ok (.if_icmp .eq 9, 3) := dk_159 0 9 (dk_at dksX1_count_3 11 rfl rfl)
theorem dX1_count_84 : decode cX1_count 84 = .ok (.iconst 1, 1) := dk_4 (dk_at dksX1_count_3 14 rfl rfl)
theorem dX1_count_85 : decode cX1_count 85 = .ok (.iload_n 3, 1) := dk_29 (dk_at dksX1_count_3 15 rfl rfl)
theorem dX1_count_86 : decode cX1_count 86 = .ok (.ishl, 1) := dk_120 (dk_at dksX1_count_3 16 rfl rfl)
theorem dX1_count_87 : decode cX1_count 87 = .ok (.goto 4, 3) := dk_167 0 4 (dk_at dksX1_count_3 17 rfl rfl)
theorem dX1_count_90 : decode cX1_count 90 = .ok (.iconst 0, 1) := dk_3 (dk_at dksX1_count_3 20 rfl rfl)
theorem dX1_count_91 : decode cX1_count 91 = .ok (.ior, 1) := dk_128 (dk_at dksX1_count_3 21 rfl rfl)
theorem dX1_count_92 : decode cX1_count 92 = .ok (.invokevirtual 272, 3) := dk_182 1 16 (dk_at dksX1_count_4 0 rfl rfl)
theorem dX1_count_95 : decode cX1_count 95 = .ok (.iinc 5 1, 3) := dk_132 5 1 (dk_at dksX1_count_4 3 rfl rfl)
theorem dX1_count_98 : decode cX1_count 98 = .ok (.goto (-60), 3) := dk_167 255 196 (dk_at dksX1_count_4 6 rfl rfl)
theorem dX1_count_101 : decode cX1_count 101 = .ok (.iinc 4 1, 3) := dk_132 4 1 (dk_at dksX1_count_4 9 rfl rfl)
theorem dX1_count_104 : decode cX1_count 104 = .ok (.goto (-81), 3) := dk_167 255 175 (dk_at dksX1_count_4 12 rfl rfl)
theorem dX1_count_107 : decode cX1_count 107 = .ok (.lconst 0, 1) := dk_9 (dk_at dksX1_count_4 15 rfl rfl)
theorem dX1_count_108 : decode cX1_count 108 = .ok (.lstore 4, 2) := dk_55 4 (dk_at dksX1_count_4 16 rfl rfl)
theorem dX1_count_110 : decode cX1_count 110 = .ok (.iconst 0, 1) := dk_3 (dk_at dksX1_count_4 18 rfl rfl)
theorem dX1_count_111 : decode cX1_count 111 = .ok (.istore 6, 2) := dk_54 6 (dk_at dksX1_count_4 19 rfl rfl)
theorem dX1_count_113 : decode cX1_count 113 = .ok (.iload 6, 2) := dk_21 6 (dk_at dksX1_count_4 21 rfl rfl)
theorem dX1_count_115 : decode cX1_count 115 = .ok (.aload_n 0, 1) := dk_42 (dk_at dksX1_count_4 23 rfl rfl)
theorem dX1_count_116 : decode cX1_count 116 = .ok (.getfield 260, 3) := dk_180 1 4 (dk_at dksX1_count_5 0 rfl rfl)
theorem dX1_count_119 : decode cX1_count 119 = .ok (.if_icmp .ge 21, 3) := dk_162 0 21 (dk_at dksX1_count_5 3 rfl rfl)
theorem dX1_count_122 : decode cX1_count 122 = .ok (.lload 4, 2) := dk_22 4 (dk_at dksX1_count_5 6 rfl rfl)
theorem dX1_count_124 : decode cX1_count 124 = .ok (.aload_n 0, 1) := dk_42 (dk_at dksX1_count_5 8 rfl rfl)
theorem dX1_count_125 : decode cX1_count 125 = .ok (.getfield 54, 3) := dk_180 0 54 (dk_at dksX1_count_5 9 rfl rfl)
theorem dX1_count_128 : decode cX1_count 128 = .ok (.iload 6, 2) := dk_21 6 (dk_at dksX1_count_5 12 rfl rfl)
theorem dX1_count_130 : decode cX1_count 130 = .ok (.laload, 1) := dk_47 (dk_at dksX1_count_5 14 rfl rfl)
theorem dX1_count_131 : decode cX1_count 131 = .ok (.ladd, 1) := dk_97 (dk_at dksX1_count_5 15 rfl rfl)
theorem dX1_count_132 : decode cX1_count 132 = .ok (.lstore 4, 2) := dk_55 4 (dk_at dksX1_count_5 16 rfl rfl)
theorem dX1_count_134 : decode cX1_count 134 = .ok (.iinc 6 1, 3) := dk_132 6 1 (dk_at dksX1_count_5 18 rfl rfl)
theorem dX1_count_137 : decode cX1_count 137 = .ok (.goto (-24), 3) := dk_167 255 232 (dk_at dksX1_count_5 21 rfl rfl)
theorem dX1_count_140 : decode cX1_count 140 = .ok (.lload 4, 2) := dk_22 4 (dk_at dksX1_count_6 0 rfl rfl)
theorem dX1_count_142 : decode cX1_count 142 = .ok (.lreturn, 1) := dk_173 (dk_at dksX1_count_6 2 rfl rfl)
abbrev cX1_one : ByteArray := prog_1_method_29_code
def yX1_one : MethodName := ⟨RX1, "one", "(I)V"⟩
def dkwX1_one_6 : List UInt8 := [77, 42, 42, 180, 0, 58, 181, 0, 54, 42, 44, 181, 0, 58, 177]
abbrev dktX1_one_6 : List UInt8 := dkwX1_one_6 ++ []
def dkwX1_one_5 : List UInt8 := [28, 47, 21, 4, 133, 105, 97, 80, 132, 3, 1, 167, 255, 165, 132, 2, 1, 167, 255, 135, 42, 180, 0, 54]
abbrev dktX1_one_5 : List UInt8 := dkwX1_one_5 ++ dktX1_one_6
def dkwX1_one_4 : List UInt8 := [184, 1, 19, 154, 0, 29, 42, 180, 0, 58, 28, 42, 180, 0, 51, 29, 46, 96, 92, 47, 42, 180, 0, 54]
abbrev dktX1_one_4 : List UInt8 := dkwX1_one_4 ++ dktX1_one_5
def dkwX1_one_3 : List UInt8 := [180, 0, 48, 29, 46, 46, 4, 96, 112, 100, 54, 4, 21, 4, 158, 0, 42, 27, 42, 180, 0, 48, 29, 46]
abbrev dktX1_one_3 : List UInt8 := dkwX1_one_3 ++ dktX1_one_4
def dkwX1_one_2 : List UInt8 := [180, 0, 45, 42, 180, 0, 48, 29, 46, 46, 28, 42, 180, 0, 51, 29, 46, 108, 42, 180, 0, 45, 42]
abbrev dktX1_one_2 : List UInt8 := dkwX1_one_2 ++ dktX1_one_3
def dkwX1_one_1 : List UInt8 := [180, 0, 54, 28, 47, 9, 148, 154, 0, 6, 167, 0, 99, 3, 62, 29, 42, 180, 1, 1, 162, 0, 89, 42]
abbrev dktX1_one_1 : List UInt8 := dkwX1_one_1 ++ dktX1_one_2
def dkwX1_one_0 : List UInt8 := [42, 180, 0, 58, 3, 42, 180, 1, 4, 9, 184, 1, 7, 3, 61, 28, 42, 180, 1, 4, 162, 0, 119, 42]
abbrev dktX1_one_0 : List UInt8 := dkwX1_one_0 ++ dktX1_one_1
theorem dksX1_one_0 : cX1_one.data.toList.drop 0 = dktX1_one_0 := by decide +kernel
theorem dksX1_one_1 : cX1_one.data.toList.drop 24 = dktX1_one_1 := dk_seg dksX1_one_0 24 rfl rfl
theorem dksX1_one_2 : cX1_one.data.toList.drop 48 = dktX1_one_2 := dk_seg dksX1_one_1 24 rfl rfl
theorem dksX1_one_3 : cX1_one.data.toList.drop 71 = dktX1_one_3 := dk_seg dksX1_one_2 23 rfl rfl
theorem dksX1_one_4 : cX1_one.data.toList.drop 95 = dktX1_one_4 := dk_seg dksX1_one_3 24 rfl rfl
theorem dksX1_one_5 : cX1_one.data.toList.drop 119 = dktX1_one_5 := dk_seg dksX1_one_4 24 rfl rfl
theorem dksX1_one_6 : cX1_one.data.toList.drop 143 = dktX1_one_6 := dk_seg dksX1_one_5 24 rfl rfl
theorem dX1_one_0 : decode cX1_one 0 = .ok (.aload_n 0, 1) := dk_42 (dk_at dksX1_one_0 0 rfl rfl)
theorem dX1_one_1 : decode cX1_one 1 = .ok (.getfield 58, 3) := dk_180 0 58 (dk_at dksX1_one_0 1 rfl rfl)
theorem dX1_one_4 : decode cX1_one 4 = .ok (.iconst 0, 1) := dk_3 (dk_at dksX1_one_0 4 rfl rfl)
theorem dX1_one_5 : decode cX1_one 5 = .ok (.aload_n 0, 1) := dk_42 (dk_at dksX1_one_0 5 rfl rfl)
theorem dX1_one_6 : decode cX1_one 6 = .ok (.getfield 260, 3) := dk_180 1 4 (dk_at dksX1_one_0 6 rfl rfl)
theorem dX1_one_9 : decode cX1_one 9 = .ok (.lconst 0, 1) := dk_9 (dk_at dksX1_one_0 9 rfl rfl)
theorem dX1_one_10 : decode cX1_one 10 = .ok (.invokestatic 263, 3) := dk_184 1 7 (dk_at dksX1_one_0 10 rfl rfl)
theorem dX1_one_13 : decode cX1_one 13 = .ok (.iconst 0, 1) := dk_3 (dk_at dksX1_one_0 13 rfl rfl)
theorem dX1_one_14 : decode cX1_one 14 = .ok (.istore_n 2, 1) := dk_61 (dk_at dksX1_one_0 14 rfl rfl)
theorem dX1_one_15 : decode cX1_one 15 = .ok (.iload_n 2, 1) := dk_28 (dk_at dksX1_one_0 15 rfl rfl)
theorem dX1_one_16 : decode cX1_one 16 = .ok (.aload_n 0, 1) := dk_42 (dk_at dksX1_one_0 16 rfl rfl)
theorem dX1_one_17 : decode cX1_one 17 = .ok (.getfield 260, 3) := dk_180 1 4 (dk_at dksX1_one_0 17 rfl rfl)
theorem dX1_one_20 : decode cX1_one 20 = .ok (.if_icmp .ge 119, 3) := dk_162 0 119 (dk_at dksX1_one_0 20 rfl rfl)
theorem dX1_one_23 : decode cX1_one 23 = .ok (.aload_n 0, 1) := dk_42 (dk_at dksX1_one_0 23 rfl rfl)
theorem dX1_one_24 : decode cX1_one 24 = .ok (.getfield 54, 3) := dk_180 0 54 (dk_at dksX1_one_1 0 rfl rfl)
theorem dX1_one_27 : decode cX1_one 27 = .ok (.iload_n 2, 1) := dk_28 (dk_at dksX1_one_1 3 rfl rfl)
theorem dX1_one_28 : decode cX1_one 28 = .ok (.laload, 1) := dk_47 (dk_at dksX1_one_1 4 rfl rfl)
theorem dX1_one_29 : decode cX1_one 29 = .ok (.lconst 0, 1) := dk_9 (dk_at dksX1_one_1 5 rfl rfl)
theorem dX1_one_30 : decode cX1_one 30 = .ok (.lcmp, 1) := dk_148 (dk_at dksX1_one_1 6 rfl rfl)
theorem dX1_one_31 : decode cX1_one 31 = .ok (.ifCond .ne 6, 3) := dk_154 0 6 (dk_at dksX1_one_1 7 rfl rfl)
theorem dX1_one_34 : decode cX1_one 34 = .ok (.goto 99, 3) := dk_167 0 99 (dk_at dksX1_one_1 10 rfl rfl)
theorem dX1_one_37 : decode cX1_one 37 = .ok (.iconst 0, 1) := dk_3 (dk_at dksX1_one_1 13 rfl rfl)
theorem dX1_one_38 : decode cX1_one 38 = .ok (.istore_n 3, 1) := dk_62 (dk_at dksX1_one_1 14 rfl rfl)
theorem dX1_one_39 : decode cX1_one 39 = .ok (.iload_n 3, 1) := dk_29 (dk_at dksX1_one_1 15 rfl rfl)
theorem dX1_one_40 : decode cX1_one 40 = .ok (.aload_n 0, 1) := dk_42 (dk_at dksX1_one_1 16 rfl rfl)
theorem dX1_one_41 : decode cX1_one 41 = .ok (.getfield 257, 3) := dk_180 1 1 (dk_at dksX1_one_1 17 rfl rfl)
theorem dX1_one_44 : decode cX1_one 44 = .ok (.if_icmp .ge 89, 3) := dk_162 0 89 (dk_at dksX1_one_1 20 rfl rfl)
theorem dX1_one_47 : decode cX1_one 47 = .ok (.aload_n 0, 1) := dk_42 (dk_at dksX1_one_1 23 rfl rfl)
theorem dX1_one_48 : decode cX1_one 48 = .ok (.getfield 45, 3) := dk_180 0 45 (dk_at dksX1_one_2 0 rfl rfl)
theorem dX1_one_51 : decode cX1_one 51 = .ok (.aload_n 0, 1) := dk_42 (dk_at dksX1_one_2 3 rfl rfl)
theorem dX1_one_52 : decode cX1_one 52 = .ok (.getfield 48, 3) := dk_180 0 48 (dk_at dksX1_one_2 4 rfl rfl)
theorem dX1_one_55 : decode cX1_one 55 = .ok (.iload_n 3, 1) := dk_29 (dk_at dksX1_one_2 7 rfl rfl)
theorem dX1_one_56 : decode cX1_one 56 = .ok (.iaload, 1) := dk_46 (dk_at dksX1_one_2 8 rfl rfl)
theorem dX1_one_57 : decode cX1_one 57 = .ok (.iaload, 1) := dk_46 (dk_at dksX1_one_2 9 rfl rfl)
theorem dX1_one_58 : decode cX1_one 58 = .ok (.iload_n 2, 1) := dk_28 (dk_at dksX1_one_2 10 rfl rfl)
theorem dX1_one_59 : decode cX1_one 59 = .ok (.aload_n 0, 1) := dk_42 (dk_at dksX1_one_2 11 rfl rfl)
theorem dX1_one_60 : decode cX1_one 60 = .ok (.getfield 51, 3) := dk_180 0 51 (dk_at dksX1_one_2 12 rfl rfl)
theorem dX1_one_63 : decode cX1_one 63 = .ok (.iload_n 3, 1) := dk_29 (dk_at dksX1_one_2 15 rfl rfl)
theorem dX1_one_64 : decode cX1_one 64 = .ok (.iaload, 1) := dk_46 (dk_at dksX1_one_2 16 rfl rfl)
theorem dX1_one_65 : decode cX1_one 65 = .ok (.idiv, 1) := dk_108 (dk_at dksX1_one_2 17 rfl rfl)
theorem dX1_one_66 : decode cX1_one 66 = .ok (.aload_n 0, 1) := dk_42 (dk_at dksX1_one_2 18 rfl rfl)
theorem dX1_one_67 : decode cX1_one 67 = .ok (.getfield 45, 3) := dk_180 0 45 (dk_at dksX1_one_2 19 rfl rfl)
theorem dX1_one_70 : decode cX1_one 70 = .ok (.aload_n 0, 1) := dk_42 (dk_at dksX1_one_2 22 rfl rfl)
theorem dX1_one_71 : decode cX1_one 71 = .ok (.getfield 48, 3) := dk_180 0 48 (dk_at dksX1_one_3 0 rfl rfl)
theorem dX1_one_74 : decode cX1_one 74 = .ok (.iload_n 3, 1) := dk_29 (dk_at dksX1_one_3 3 rfl rfl)
theorem dX1_one_75 : decode cX1_one 75 = .ok (.iaload, 1) := dk_46 (dk_at dksX1_one_3 4 rfl rfl)
theorem dX1_one_76 : decode cX1_one 76 = .ok (.iaload, 1) := dk_46 (dk_at dksX1_one_3 5 rfl rfl)
theorem dX1_one_77 : decode cX1_one 77 = .ok (.iconst 1, 1) := dk_4 (dk_at dksX1_one_3 6 rfl rfl)
theorem dX1_one_78 : decode cX1_one 78 = .ok (.iadd, 1) := dk_96 (dk_at dksX1_one_3 7 rfl rfl)
theorem dX1_one_79 : decode cX1_one 79 = .ok (.irem, 1) := dk_112 (dk_at dksX1_one_3 8 rfl rfl)
theorem dX1_one_80 : decode cX1_one 80 = .ok (.isub, 1) := dk_100 (dk_at dksX1_one_3 9 rfl rfl)
theorem dX1_one_81 : decode cX1_one 81 = .ok (.istore 4, 2) := dk_54 4 (dk_at dksX1_one_3 10 rfl rfl)
theorem dX1_one_83 : decode cX1_one 83 = .ok (.iload 4, 2) := dk_21 4 (dk_at dksX1_one_3 12 rfl rfl)
theorem dX1_one_85 : decode cX1_one 85 = .ok (.ifCond .le 42, 3) := dk_158 0 42 (dk_at dksX1_one_3 14 rfl rfl)
theorem dX1_one_88 : decode cX1_one 88 = .ok (.iload_n 1, 1) := dk_27 (dk_at dksX1_one_3 17 rfl rfl)
theorem dX1_one_89 : decode cX1_one 89 = .ok (.aload_n 0, 1) := dk_42 (dk_at dksX1_one_3 18 rfl rfl)
theorem dX1_one_90 : decode cX1_one 90 = .ok (.getfield 48, 3) := dk_180 0 48 (dk_at dksX1_one_3 19 rfl rfl)
theorem dX1_one_93 : decode cX1_one 93 = .ok (.iload_n 3, 1) := dk_29 (dk_at dksX1_one_3 22 rfl rfl)
theorem dX1_one_94 : decode cX1_one 94 = .ok (.iaload, 1) := dk_46 (dk_at dksX1_one_3 23 rfl rfl)
theorem dX1_one_95 : decode cX1_one 95 = .ok (.invokestatic 275, 3) := dk_184 1 19 (dk_at dksX1_one_4 0 rfl rfl)
theorem dX1_one_98 : decode cX1_one 98 = .ok (.ifCond .ne 29, 3) := dk_154 0 29 (dk_at dksX1_one_4 3 rfl rfl)
theorem dX1_one_101 : decode cX1_one 101 = .ok (.aload_n 0, 1) := dk_42 (dk_at dksX1_one_4 6 rfl rfl)
theorem dX1_one_102 : decode cX1_one 102 = .ok (.getfield 58, 3) := dk_180 0 58 (dk_at dksX1_one_4 7 rfl rfl)
theorem dX1_one_105 : decode cX1_one 105 = .ok (.iload_n 2, 1) := dk_28 (dk_at dksX1_one_4 10 rfl rfl)
theorem dX1_one_106 : decode cX1_one 106 = .ok (.aload_n 0, 1) := dk_42 (dk_at dksX1_one_4 11 rfl rfl)
theorem dX1_one_107 : decode cX1_one 107 = .ok (.getfield 51, 3) := dk_180 0 51 (dk_at dksX1_one_4 12 rfl rfl)
theorem dX1_one_110 : decode cX1_one 110 = .ok (.iload_n 3, 1) := dk_29 (dk_at dksX1_one_4 15 rfl rfl)
theorem dX1_one_111 : decode cX1_one 111 = .ok (.iaload, 1) := dk_46 (dk_at dksX1_one_4 16 rfl rfl)
theorem dX1_one_112 : decode cX1_one 112 = .ok (.iadd, 1) := dk_96 (dk_at dksX1_one_4 17 rfl rfl)
theorem dX1_one_113 : decode cX1_one 113 = .ok (.dup2, 1) := dk_92 (dk_at dksX1_one_4 18 rfl rfl)
theorem dX1_one_114 : decode cX1_one 114 = .ok (.laload, 1) := dk_47 (dk_at dksX1_one_4 19 rfl rfl)
theorem dX1_one_115 : decode cX1_one 115 = .ok (.aload_n 0, 1) := dk_42 (dk_at dksX1_one_4 20 rfl rfl)
theorem dX1_one_116 : decode cX1_one 116 = .ok (.getfield 54, 3) := dk_180 0 54 (dk_at dksX1_one_4 21 rfl rfl)
theorem dX1_one_119 : decode cX1_one 119 = .ok (.iload_n 2, 1) := dk_28 (dk_at dksX1_one_5 0 rfl rfl)
theorem dX1_one_120 : decode cX1_one 120 = .ok (.laload, 1) := dk_47 (dk_at dksX1_one_5 1 rfl rfl)
theorem dX1_one_121 : decode cX1_one 121 = .ok (.iload 4, 2) := dk_21 4 (dk_at dksX1_one_5 2 rfl rfl)
theorem dX1_one_123 : decode cX1_one 123 = .ok (.i2l, 1) := dk_133 (dk_at dksX1_one_5 4 rfl rfl)
theorem dX1_one_124 : decode cX1_one 124 = .ok (.lmul, 1) := dk_105 (dk_at dksX1_one_5 5 rfl rfl)
theorem dX1_one_125 : decode cX1_one 125 = .ok (.ladd, 1) := dk_97 (dk_at dksX1_one_5 6 rfl rfl)
theorem dX1_one_126 : decode cX1_one 126 = .ok (.lastore, 1) := dk_80 (dk_at dksX1_one_5 7 rfl rfl)
theorem dX1_one_127 : decode cX1_one 127 = .ok (.iinc 3 1, 3) := dk_132 3 1 (dk_at dksX1_one_5 8 rfl rfl)
theorem dX1_one_130 : decode cX1_one 130 = .ok (.goto (-91), 3) := dk_167 255 165 (dk_at dksX1_one_5 11 rfl rfl)
theorem dX1_one_133 : decode cX1_one 133 = .ok (.iinc 2 1, 3) := dk_132 2 1 (dk_at dksX1_one_5 14 rfl rfl)
theorem dX1_one_136 : decode cX1_one 136 = .ok (.goto (-121), 3) := dk_167 255 135 (dk_at dksX1_one_5 17 rfl rfl)
theorem dX1_one_139 : decode cX1_one 139 = .ok (.aload_n 0, 1) := dk_42 (dk_at dksX1_one_5 20 rfl rfl)
theorem dX1_one_140 : decode cX1_one 140 = .ok (.getfield 54, 3) := dk_180 0 54 (dk_at dksX1_one_5 21 rfl rfl)
theorem dX1_one_143 : decode cX1_one 143 = .ok (.astore_n 2, 1) := dk_77 (dk_at dksX1_one_6 0 rfl rfl)
theorem dX1_one_144 : decode cX1_one 144 = .ok (.aload_n 0, 1) := dk_42 (dk_at dksX1_one_6 1 rfl rfl)
theorem dX1_one_145 : decode cX1_one 145 = .ok (.aload_n 0, 1) := dk_42 (dk_at dksX1_one_6 2 rfl rfl)
theorem dX1_one_146 : decode cX1_one 146 = .ok (.getfield 58, 3) := dk_180 0 58 (dk_at dksX1_one_6 3 rfl rfl)
theorem dX1_one_149 : decode cX1_one 149 = .ok (.putfield 54, 3) := dk_181 0 54 (dk_at dksX1_one_6 6 rfl rfl)
theorem dX1_one_152 : decode cX1_one 152 = .ok (.aload_n 0, 1) := dk_42 (dk_at dksX1_one_6 9 rfl rfl)
theorem dX1_one_153 : decode cX1_one 153 = .ok (.aload_n 2, 1) := dk_44 (dk_at dksX1_one_6 10 rfl rfl)
theorem dX1_one_154 : decode cX1_one 154 = .ok (.putfield 58, 3) := dk_181 0 58 (dk_at dksX1_one_6 11 rfl rfl)
theorem dX1_one_157 : decode cX1_one 157 = .ok (.return_, 1) := dk_177 (dk_at dksX1_one_6 14 rfl rfl)
abbrev cX1_with : ByteArray := prog_1_method_32_code
def yX1_with : MethodName := ⟨RX1, "with", "(IIIJ)J"⟩
def dkwX1_with_1 : List UInt8 := [29, 182, 1, 27, 101, 173]
abbrev dktX1_with_1 : List UInt8 := dkwX1_with_1 ++ []
def dkwX1_with_0 : List UInt8 := [42, 180, 0, 30, 180, 0, 245, 28, 50, 29, 46, 158, 0, 8, 22, 4, 167, 0, 13, 22, 4, 42, 27, 28]
abbrev dktX1_with_0 : List UInt8 := dkwX1_with_0 ++ dktX1_with_1
theorem dksX1_with_0 : cX1_with.data.toList.drop 0 = dktX1_with_0 := by decide +kernel
theorem dksX1_with_1 : cX1_with.data.toList.drop 24 = dktX1_with_1 := dk_seg dksX1_with_0 24 rfl rfl
theorem dX1_with_0 : decode cX1_with 0 = .ok (.aload_n 0, 1) := dk_42 (dk_at dksX1_with_0 0 rfl rfl)
theorem dX1_with_1 : decode cX1_with 1 = .ok (.getfield 30, 3) := dk_180 0 30 (dk_at dksX1_with_0 1 rfl rfl)
theorem dX1_with_4 : decode cX1_with 4 = .ok (.getfield 245, 3) := dk_180 0 245 (dk_at dksX1_with_0 4 rfl rfl)
theorem dX1_with_7 : decode cX1_with 7 = .ok (.iload_n 2, 1) := dk_28 (dk_at dksX1_with_0 7 rfl rfl)
theorem dX1_with_8 : decode cX1_with 8 = .ok (.aaload, 1) := dk_50 (dk_at dksX1_with_0 8 rfl rfl)
theorem dX1_with_9 : decode cX1_with 9 = .ok (.iload_n 3, 1) := dk_29 (dk_at dksX1_with_0 9 rfl rfl)
theorem dX1_with_10 : decode cX1_with 10 = .ok (.iaload, 1) := dk_46 (dk_at dksX1_with_0 10 rfl rfl)
theorem dX1_with_11 : decode cX1_with 11 = .ok (.ifCond .le 8, 3) := dk_158 0 8 (dk_at dksX1_with_0 11 rfl rfl)
theorem dX1_with_14 : decode cX1_with 14 = .ok (.lload 4, 2) := dk_22 4 (dk_at dksX1_with_0 14 rfl rfl)
theorem dX1_with_16 : decode cX1_with 16 = .ok (.goto 13, 3) := dk_167 0 13 (dk_at dksX1_with_0 16 rfl rfl)
theorem dX1_with_19 : decode cX1_with 19 = .ok (.lload 4, 2) := dk_22 4 (dk_at dksX1_with_0 19 rfl rfl)
theorem dX1_with_21 : decode cX1_with 21 = .ok (.aload_n 0, 1) := dk_42 (dk_at dksX1_with_0 21 rfl rfl)
theorem dX1_with_22 : decode cX1_with 22 = .ok (.iload_n 1, 1) := dk_27 (dk_at dksX1_with_0 22 rfl rfl)
theorem dX1_with_23 : decode cX1_with 23 = .ok (.iload_n 2, 1) := dk_28 (dk_at dksX1_with_0 23 rfl rfl)
theorem dX1_with_24 : decode cX1_with 24 = .ok (.iload_n 3, 1) := dk_29 (dk_at dksX1_with_1 0 rfl rfl)
theorem dX1_with_25 : decode cX1_with 25 = .ok (.invokevirtual 283, 3) := dk_182 1 27 (dk_at dksX1_with_1 1 rfl rfl)
theorem dX1_with_28 : decode cX1_with 28 = .ok (.lsub, 1) := dk_101 (dk_at dksX1_with_1 4 rfl rfl)
theorem dX1_with_29 : decode cX1_with 29 = .ok (.lreturn, 1) := dk_173 (dk_at dksX1_with_1 5 rfl rfl)
abbrev cX1_sweep : ByteArray := prog_1_method_36_code
def yX1_sweep : MethodName := ⟨RX1, "sweep", "(I)I"⟩
def dkwX1_sweep_5 : List UInt8 := [180, 1, 44, 172]
abbrev dktX1_sweep_5 : List UInt8 := dkwX1_sweep_5 ++ []
def dkwX1_sweep_4 : List UInt8 := [79, 42, 89, 180, 1, 44, 4, 96, 181, 1, 44, 132, 3, 1, 167, 255, 181, 132, 2, 1, 167, 255, 162, 42]
abbrev dktX1_sweep_4 : List UInt8 := dkwX1_sweep_4 ++ dktX1_sweep_5
def dkwX1_sweep_3 : List UInt8 := [29, 50, 28, 46, 154, 0, 6, 167, 0, 28, 42, 180, 0, 61, 42, 180, 1, 44, 16, 100, 29, 104, 28, 96]
abbrev dktX1_sweep_3 : List UInt8 := dkwX1_sweep_3 ++ dktX1_sweep_4
def dkwX1_sweep_2 : List UInt8 := [159, 0, 59, 42, 180, 0, 30, 180, 0, 152, 27, 50, 28, 46, 153, 0, 45, 42, 180, 0, 30, 180, 0, 152]
abbrev dktX1_sweep_2 : List UInt8 := dkwX1_sweep_2 ++ dktX1_sweep_3
def dkwX1_sweep_1 : List UInt8 := [180, 0, 19, 180, 0, 252, 162, 0, 89, 3, 62, 29, 42, 180, 0, 19, 182, 0, 213, 162, 0, 70, 29, 27]
abbrev dktX1_sweep_1 : List UInt8 := dkwX1_sweep_1 ++ dktX1_sweep_2
def dkwX1_sweep_0 : List UInt8 := [42, 180, 0, 19, 27, 182, 0, 141, 154, 0, 5, 2, 172, 42, 3, 181, 1, 44, 3, 61, 28, 42]
abbrev dktX1_sweep_0 : List UInt8 := dkwX1_sweep_0 ++ dktX1_sweep_1
theorem dksX1_sweep_0 : cX1_sweep.data.toList.drop 0 = dktX1_sweep_0 := by decide +kernel
theorem dksX1_sweep_1 : cX1_sweep.data.toList.drop 22 = dktX1_sweep_1 := dk_seg dksX1_sweep_0 22 rfl rfl
theorem dksX1_sweep_2 : cX1_sweep.data.toList.drop 46 = dktX1_sweep_2 := dk_seg dksX1_sweep_1 24 rfl rfl
theorem dksX1_sweep_3 : cX1_sweep.data.toList.drop 70 = dktX1_sweep_3 := dk_seg dksX1_sweep_2 24 rfl rfl
theorem dksX1_sweep_4 : cX1_sweep.data.toList.drop 94 = dktX1_sweep_4 := dk_seg dksX1_sweep_3 24 rfl rfl
theorem dksX1_sweep_5 : cX1_sweep.data.toList.drop 118 = dktX1_sweep_5 := dk_seg dksX1_sweep_4 24 rfl rfl
theorem dX1_sweep_0 : decode cX1_sweep 0 = .ok (.aload_n 0, 1) := dk_42 (dk_at dksX1_sweep_0 0 rfl rfl)
theorem dX1_sweep_1 : decode cX1_sweep 1 = .ok (.getfield 19, 3) := dk_180 0 19 (dk_at dksX1_sweep_0 1 rfl rfl)
theorem dX1_sweep_4 : decode cX1_sweep 4 = .ok (.iload_n 1, 1) := dk_27 (dk_at dksX1_sweep_0 4 rfl rfl)
theorem dX1_sweep_5 : decode cX1_sweep 5 = .ok (.invokevirtual 141, 3) := dk_182 0 141 (dk_at dksX1_sweep_0 5 rfl rfl)
theorem dX1_sweep_8 : decode cX1_sweep 8 = .ok (.ifCond .ne 5, 3) := dk_154 0 5 (dk_at dksX1_sweep_0 8 rfl rfl)
theorem dX1_sweep_11 : decode cX1_sweep 11 = .ok (.iconst (-1), 1) := dk_2 (dk_at dksX1_sweep_0 11 rfl rfl)
theorem dX1_sweep_12 : decode cX1_sweep 12 = .ok (.ireturn, 1) := dk_172 (dk_at dksX1_sweep_0 12 rfl rfl)
theorem dX1_sweep_13 : decode cX1_sweep 13 = .ok (.aload_n 0, 1) := dk_42 (dk_at dksX1_sweep_0 13 rfl rfl)
theorem dX1_sweep_14 : decode cX1_sweep 14 = .ok (.iconst 0, 1) := dk_3 (dk_at dksX1_sweep_0 14 rfl rfl)
theorem dX1_sweep_15 : decode cX1_sweep 15 = .ok (.putfield 300, 3) := dk_181 1 44 (dk_at dksX1_sweep_0 15 rfl rfl)
theorem dX1_sweep_18 : decode cX1_sweep 18 = .ok (.iconst 0, 1) := dk_3 (dk_at dksX1_sweep_0 18 rfl rfl)
theorem dX1_sweep_19 : decode cX1_sweep 19 = .ok (.istore_n 2, 1) := dk_61 (dk_at dksX1_sweep_0 19 rfl rfl)
theorem dX1_sweep_20 : decode cX1_sweep 20 = .ok (.iload_n 2, 1) := dk_28 (dk_at dksX1_sweep_0 20 rfl rfl)
theorem dX1_sweep_21 : decode cX1_sweep 21 = .ok (.aload_n 0, 1) := dk_42 (dk_at dksX1_sweep_0 21 rfl rfl)
theorem dX1_sweep_22 : decode cX1_sweep 22 = .ok (.getfield 19, 3) := dk_180 0 19 (dk_at dksX1_sweep_1 0 rfl rfl)
theorem dX1_sweep_25 : decode cX1_sweep 25 = .ok (.getfield 252, 3) := dk_180 0 252 (dk_at dksX1_sweep_1 3 rfl rfl)
theorem dX1_sweep_28 : decode cX1_sweep 28 = .ok (.if_icmp .ge 89, 3) := dk_162 0 89 (dk_at dksX1_sweep_1 6 rfl rfl)
theorem dX1_sweep_31 : decode cX1_sweep 31 = .ok (.iconst 0, 1) := dk_3 (dk_at dksX1_sweep_1 9 rfl rfl)
theorem dX1_sweep_32 : decode cX1_sweep 32 = .ok (.istore_n 3, 1) := dk_62 (dk_at dksX1_sweep_1 10 rfl rfl)
theorem dX1_sweep_33 : decode cX1_sweep 33 = .ok (.iload_n 3, 1) := dk_29 (dk_at dksX1_sweep_1 11 rfl rfl)
theorem dX1_sweep_34 : decode cX1_sweep 34 = .ok (.aload_n 0, 1) := dk_42 (dk_at dksX1_sweep_1 12 rfl rfl)
theorem dX1_sweep_35 : decode cX1_sweep 35 = .ok (.getfield 19, 3) := dk_180 0 19 (dk_at dksX1_sweep_1 13 rfl rfl)
theorem dX1_sweep_38 : decode cX1_sweep 38 = .ok (.invokevirtual 213, 3) := dk_182 0 213 (dk_at dksX1_sweep_1 16 rfl rfl)
theorem dX1_sweep_41 : decode cX1_sweep 41 = .ok (.if_icmp .ge 70, 3) := dk_162 0 70 (dk_at dksX1_sweep_1 19 rfl rfl)
theorem dX1_sweep_44 : decode cX1_sweep 44 = .ok (.iload_n 3, 1) := dk_29 (dk_at dksX1_sweep_1 22 rfl rfl)
theorem dX1_sweep_45 : decode cX1_sweep 45 = .ok (.iload_n 1, 1) := dk_27 (dk_at dksX1_sweep_1 23 rfl rfl)
theorem dX1_sweep_46 : decode cX1_sweep 46 = .ok (.if_icmp .eq 59, 3) := dk_159 0 59 (dk_at dksX1_sweep_2 0 rfl rfl)
theorem dX1_sweep_49 : decode cX1_sweep 49 = .ok (.aload_n 0, 1) := dk_42 (dk_at dksX1_sweep_2 3 rfl rfl)
theorem dX1_sweep_50 : decode cX1_sweep 50 = .ok (.getfield 30, 3) := dk_180 0 30 (dk_at dksX1_sweep_2 4 rfl rfl)
theorem dX1_sweep_53 : decode cX1_sweep 53 = .ok (.getfield 152, 3) := dk_180 0 152 (dk_at dksX1_sweep_2 7 rfl rfl)
theorem dX1_sweep_56 : decode cX1_sweep 56 = .ok (.iload_n 1, 1) := dk_27 (dk_at dksX1_sweep_2 10 rfl rfl)
theorem dX1_sweep_57 : decode cX1_sweep 57 = .ok (.aaload, 1) := dk_50 (dk_at dksX1_sweep_2 11 rfl rfl)
theorem dX1_sweep_58 : decode cX1_sweep 58 = .ok (.iload_n 2, 1) := dk_28 (dk_at dksX1_sweep_2 12 rfl rfl)
theorem dX1_sweep_59 : decode cX1_sweep 59 = .ok (.iaload, 1) := dk_46 (dk_at dksX1_sweep_2 13 rfl rfl)
theorem dX1_sweep_60 : decode cX1_sweep 60 = .ok (.ifCond .eq 45, 3) := dk_153 0 45 (dk_at dksX1_sweep_2 14 rfl rfl)
theorem dX1_sweep_63 : decode cX1_sweep 63 = .ok (.aload_n 0, 1) := dk_42 (dk_at dksX1_sweep_2 17 rfl rfl)
theorem dX1_sweep_64 : decode cX1_sweep 64 = .ok (.getfield 30, 3) := dk_180 0 30 (dk_at dksX1_sweep_2 18 rfl rfl)
theorem dX1_sweep_67 : decode cX1_sweep 67 = .ok (.getfield 152, 3) := dk_180 0 152 (dk_at dksX1_sweep_2 21 rfl rfl)
theorem dX1_sweep_70 : decode cX1_sweep 70 = .ok (.iload_n 3, 1) := dk_29 (dk_at dksX1_sweep_3 0 rfl rfl)
theorem dX1_sweep_71 : decode cX1_sweep 71 = .ok (.aaload, 1) := dk_50 (dk_at dksX1_sweep_3 1 rfl rfl)
theorem dX1_sweep_72 : decode cX1_sweep 72 = .ok (.iload_n 2, 1) := dk_28 (dk_at dksX1_sweep_3 2 rfl rfl)
theorem dX1_sweep_73 : decode cX1_sweep 73 = .ok (.iaload, 1) := dk_46 (dk_at dksX1_sweep_3 3 rfl rfl)
theorem dX1_sweep_74 : decode cX1_sweep 74 = .ok (.ifCond .ne 6, 3) := dk_154 0 6 (dk_at dksX1_sweep_3 4 rfl rfl)
theorem dX1_sweep_77 : decode cX1_sweep 77 = .ok (.goto 28, 3) := dk_167 0 28 (dk_at dksX1_sweep_3 7 rfl rfl)
theorem dX1_sweep_80 : decode cX1_sweep 80 = .ok (.aload_n 0, 1) := dk_42 (dk_at dksX1_sweep_3 10 rfl rfl)
theorem dX1_sweep_81 : decode cX1_sweep 81 = .ok (.getfield 61, 3) := dk_180 0 61 (dk_at dksX1_sweep_3 11 rfl rfl)
theorem dX1_sweep_84 : decode cX1_sweep 84 = .ok (.aload_n 0, 1) := dk_42 (dk_at dksX1_sweep_3 14 rfl rfl)
theorem dX1_sweep_85 : decode cX1_sweep 85 = .ok (.getfield 300, 3) := dk_180 1 44 (dk_at dksX1_sweep_3 15 rfl rfl)
theorem dX1_sweep_88 : decode cX1_sweep 88 = .ok (.bipush 100, 2) := dk_16 100 (dk_at dksX1_sweep_3 18 rfl rfl)
theorem dX1_sweep_90 : decode cX1_sweep 90 = .ok (.iload_n 3, 1) := dk_29 (dk_at dksX1_sweep_3 20 rfl rfl)
theorem dX1_sweep_91 : decode cX1_sweep 91 = .ok (.imul, 1) := dk_104 (dk_at dksX1_sweep_3 21 rfl rfl)
theorem dX1_sweep_92 : decode cX1_sweep 92 = .ok (.iload_n 2, 1) := dk_28 (dk_at dksX1_sweep_3 22 rfl rfl)
theorem dX1_sweep_93 : decode cX1_sweep 93 = .ok (.iadd, 1) := dk_96 (dk_at dksX1_sweep_3 23 rfl rfl)
theorem dX1_sweep_94 : decode cX1_sweep 94 = .ok (.iastore, 1) := dk_79 (dk_at dksX1_sweep_4 0 rfl rfl)
theorem dX1_sweep_95 : decode cX1_sweep 95 = .ok (.aload_n 0, 1) := dk_42 (dk_at dksX1_sweep_4 1 rfl rfl)
theorem dX1_sweep_96 : decode cX1_sweep 96 = .ok (.dup, 1) := dk_89 (dk_at dksX1_sweep_4 2 rfl rfl)
theorem dX1_sweep_97 : decode cX1_sweep 97 = .ok (.getfield 300, 3) := dk_180 1 44 (dk_at dksX1_sweep_4 3 rfl rfl)
theorem dX1_sweep_100 : decode cX1_sweep 100 = .ok (.iconst 1, 1) := dk_4 (dk_at dksX1_sweep_4 6 rfl rfl)
theorem dX1_sweep_101 : decode cX1_sweep 101 = .ok (.iadd, 1) := dk_96 (dk_at dksX1_sweep_4 7 rfl rfl)
theorem dX1_sweep_102 : decode cX1_sweep 102 = .ok (.putfield 300, 3) := dk_181 1 44 (dk_at dksX1_sweep_4 8 rfl rfl)
theorem dX1_sweep_105 : decode cX1_sweep 105 = .ok (.iinc 3 1, 3) := dk_132 3 1 (dk_at dksX1_sweep_4 11 rfl rfl)
theorem dX1_sweep_108 : decode cX1_sweep 108 = .ok (.goto (-75), 3) := dk_167 255 181 (dk_at dksX1_sweep_4 14 rfl rfl)
theorem dX1_sweep_111 : decode cX1_sweep 111 = .ok (.iinc 2 1, 3) := dk_132 2 1 (dk_at dksX1_sweep_4 17 rfl rfl)
theorem dX1_sweep_114 : decode cX1_sweep 114 = .ok (.goto (-94), 3) := dk_167 255 162 (dk_at dksX1_sweep_4 20 rfl rfl)
theorem dX1_sweep_117 : decode cX1_sweep 117 = .ok (.aload_n 0, 1) := dk_42 (dk_at dksX1_sweep_4 23 rfl rfl)
theorem dX1_sweep_118 : decode cX1_sweep 118 = .ok (.getfield 300, 3) := dk_180 1 44 (dk_at dksX1_sweep_5 0 rfl rfl)
theorem dX1_sweep_121 : decode cX1_sweep 121 = .ok (.ireturn, 1) := dk_172 (dk_at dksX1_sweep_5 3 rfl rfl)
abbrev cX1_swept : ByteArray := prog_1_method_37_code
def yX1_swept : MethodName := ⟨RX1, "swept", "(I)I"⟩
def dkwX1_swept_1 : List UInt8 := [172]
abbrev dktX1_swept_1 : List UInt8 := dkwX1_swept_1 ++ []
def dkwX1_swept_0 : List UInt8 := [27, 3, 42, 180, 1, 44, 4, 100, 184, 0, 188, 153, 0, 12, 42, 180, 0, 61, 27, 46, 167, 0, 4, 2]
abbrev dktX1_swept_0 : List UInt8 := dkwX1_swept_0 ++ dktX1_swept_1
theorem dksX1_swept_0 : cX1_swept.data.toList.drop 0 = dktX1_swept_0 := by decide +kernel
theorem dksX1_swept_1 : cX1_swept.data.toList.drop 24 = dktX1_swept_1 := dk_seg dksX1_swept_0 24 rfl rfl
theorem dX1_swept_0 : decode cX1_swept 0 = .ok (.iload_n 1, 1) := dk_27 (dk_at dksX1_swept_0 0 rfl rfl)
theorem dX1_swept_1 : decode cX1_swept 1 = .ok (.iconst 0, 1) := dk_3 (dk_at dksX1_swept_0 1 rfl rfl)
theorem dX1_swept_2 : decode cX1_swept 2 = .ok (.aload_n 0, 1) := dk_42 (dk_at dksX1_swept_0 2 rfl rfl)
theorem dX1_swept_3 : decode cX1_swept 3 = .ok (.getfield 300, 3) := dk_180 1 44 (dk_at dksX1_swept_0 3 rfl rfl)
theorem dX1_swept_6 : decode cX1_swept 6 = .ok (.iconst 1, 1) := dk_4 (dk_at dksX1_swept_0 6 rfl rfl)
theorem dX1_swept_7 : decode cX1_swept 7 = .ok (.isub, 1) := dk_100 (dk_at dksX1_swept_0 7 rfl rfl)
theorem dX1_swept_8 : decode cX1_swept 8 = .ok (.invokestatic 188, 3) := dk_184 0 188 (dk_at dksX1_swept_0 8 rfl rfl)
theorem dX1_swept_11 : decode cX1_swept 11 = .ok (.ifCond .eq 12, 3) := dk_153 0 12 (dk_at dksX1_swept_0 11 rfl rfl)
theorem dX1_swept_14 : decode cX1_swept 14 = .ok (.aload_n 0, 1) := dk_42 (dk_at dksX1_swept_0 14 rfl rfl)
theorem dX1_swept_15 : decode cX1_swept 15 = .ok (.getfield 61, 3) := dk_180 0 61 (dk_at dksX1_swept_0 15 rfl rfl)
theorem dX1_swept_18 : decode cX1_swept 18 = .ok (.iload_n 1, 1) := dk_27 (dk_at dksX1_swept_0 18 rfl rfl)
theorem dX1_swept_19 : decode cX1_swept 19 = .ok (.iaload, 1) := dk_46 (dk_at dksX1_swept_0 19 rfl rfl)
theorem dX1_swept_20 : decode cX1_swept 20 = .ok (.goto 4, 3) := dk_167 0 4 (dk_at dksX1_swept_0 20 rfl rfl)
theorem dX1_swept_23 : decode cX1_swept 23 = .ok (.iconst (-1), 1) := dk_2 (dk_at dksX1_swept_0 23 rfl rfl)
theorem dX1_swept_24 : decode cX1_swept 24 = .ok (.ireturn, 1) := dk_172 (dk_at dksX1_swept_1 0 rfl rfl)
abbrev cX1_gains : ByteArray := prog_1_method_38_code
def yX1_gains : MethodName := ⟨RX1, "gains", "(I)I"⟩
def dkwX1_gains_4 : List UInt8 := [160, 0, 6, 132, 2, 1, 132, 3, 1, 167, 255, 178, 28, 172]
abbrev dktX1_gains_4 : List UInt8 := dkwX1_gains_4 ++ []
def dkwX1_gains_3 : List UInt8 := [132, 5, 1, 167, 255, 224, 42, 180, 0, 30, 180, 0, 152, 27, 50, 29, 46, 158, 0, 12, 21, 4, 7]
abbrev dktX1_gains_3 : List UInt8 := dkwX1_gains_3 ++ dktX1_gains_4
def dkwX1_gains_2 : List UInt8 := [182, 0, 213, 162, 0, 26, 21, 4, 42, 180, 0, 30, 180, 0, 152, 21, 5, 50, 29, 46, 96, 54, 4]
abbrev dktX1_gains_2 : List UInt8 := dkwX1_gains_2 ++ dktX1_gains_3
def dkwX1_gains_1 : List UInt8 := [29, 42, 180, 0, 19, 180, 0, 252, 162, 0, 73, 3, 54, 4, 3, 54, 5, 21, 5, 42, 180, 0, 19]
abbrev dktX1_gains_1 : List UInt8 := dkwX1_gains_1 ++ dktX1_gains_2
def dkwX1_gains_0 : List UInt8 := [42, 180, 0, 19, 27, 182, 0, 141, 154, 0, 5, 2, 172, 42, 180, 0, 30, 27, 182, 0, 160, 61, 3, 62]
abbrev dktX1_gains_0 : List UInt8 := dkwX1_gains_0 ++ dktX1_gains_1
theorem dksX1_gains_0 : cX1_gains.data.toList.drop 0 = dktX1_gains_0 := by decide +kernel
theorem dksX1_gains_1 : cX1_gains.data.toList.drop 24 = dktX1_gains_1 := dk_seg dksX1_gains_0 24 rfl rfl
theorem dksX1_gains_2 : cX1_gains.data.toList.drop 47 = dktX1_gains_2 := dk_seg dksX1_gains_1 23 rfl rfl
theorem dksX1_gains_3 : cX1_gains.data.toList.drop 70 = dktX1_gains_3 := dk_seg dksX1_gains_2 23 rfl rfl
theorem dksX1_gains_4 : cX1_gains.data.toList.drop 93 = dktX1_gains_4 := dk_seg dksX1_gains_3 23 rfl rfl
theorem dX1_gains_0 : decode cX1_gains 0 = .ok (.aload_n 0, 1) := dk_42 (dk_at dksX1_gains_0 0 rfl rfl)
theorem dX1_gains_1 : decode cX1_gains 1 = .ok (.getfield 19, 3) := dk_180 0 19 (dk_at dksX1_gains_0 1 rfl rfl)
theorem dX1_gains_4 : decode cX1_gains 4 = .ok (.iload_n 1, 1) := dk_27 (dk_at dksX1_gains_0 4 rfl rfl)
theorem dX1_gains_5 : decode cX1_gains 5 = .ok (.invokevirtual 141, 3) := dk_182 0 141 (dk_at dksX1_gains_0 5 rfl rfl)
theorem dX1_gains_8 : decode cX1_gains 8 = .ok (.ifCond .ne 5, 3) := dk_154 0 5 (dk_at dksX1_gains_0 8 rfl rfl)
theorem dX1_gains_11 : decode cX1_gains 11 = .ok (.iconst (-1), 1) := dk_2 (dk_at dksX1_gains_0 11 rfl rfl)
theorem dX1_gains_12 : decode cX1_gains 12 = .ok (.ireturn, 1) := dk_172 (dk_at dksX1_gains_0 12 rfl rfl)
theorem dX1_gains_13 : decode cX1_gains 13 = .ok (.aload_n 0, 1) := dk_42 (dk_at dksX1_gains_0 13 rfl rfl)
theorem dX1_gains_14 : decode cX1_gains 14 = .ok (.getfield 30, 3) := dk_180 0 30 (dk_at dksX1_gains_0 14 rfl rfl)
theorem dX1_gains_17 : decode cX1_gains 17 = .ok (.iload_n 1, 1) := dk_27 (dk_at dksX1_gains_0 17 rfl rfl)
theorem dX1_gains_18 : decode cX1_gains 18 = .ok (.invokevirtual 160, 3) := dk_182 0 160 (dk_at dksX1_gains_0 18 rfl rfl)
theorem dX1_gains_21 : decode cX1_gains 21 = .ok (.istore_n 2, 1) := dk_61 (dk_at dksX1_gains_0 21 rfl rfl)
theorem dX1_gains_22 : decode cX1_gains 22 = .ok (.iconst 0, 1) := dk_3 (dk_at dksX1_gains_0 22 rfl rfl)
theorem dX1_gains_23 : decode cX1_gains 23 = .ok (.istore_n 3, 1) := dk_62 (dk_at dksX1_gains_0 23 rfl rfl)
theorem dX1_gains_24 : decode cX1_gains 24 = .ok (.iload_n 3, 1) := dk_29 (dk_at dksX1_gains_1 0 rfl rfl)
theorem dX1_gains_25 : decode cX1_gains 25 = .ok (.aload_n 0, 1) := dk_42 (dk_at dksX1_gains_1 1 rfl rfl)
theorem dX1_gains_26 : decode cX1_gains 26 = .ok (.getfield 19, 3) := dk_180 0 19 (dk_at dksX1_gains_1 2 rfl rfl)
theorem dX1_gains_29 : decode cX1_gains 29 = .ok (.getfield 252, 3) := dk_180 0 252 (dk_at dksX1_gains_1 5 rfl rfl)
theorem dX1_gains_32 : decode cX1_gains 32 = .ok (.if_icmp .ge 73, 3) := dk_162 0 73 (dk_at dksX1_gains_1 8 rfl rfl)
theorem dX1_gains_35 : decode cX1_gains 35 = .ok (.iconst 0, 1) := dk_3 (dk_at dksX1_gains_1 11 rfl rfl)
theorem dX1_gains_36 : decode cX1_gains 36 = .ok (.istore 4, 2) := dk_54 4 (dk_at dksX1_gains_1 12 rfl rfl)
theorem dX1_gains_38 : decode cX1_gains 38 = .ok (.iconst 0, 1) := dk_3 (dk_at dksX1_gains_1 14 rfl rfl)
theorem dX1_gains_39 : decode cX1_gains 39 = .ok (.istore 5, 2) := dk_54 5 (dk_at dksX1_gains_1 15 rfl rfl)
theorem dX1_gains_41 : decode cX1_gains 41 = .ok (.iload 5, 2) := dk_21 5 (dk_at dksX1_gains_1 17 rfl rfl)
theorem dX1_gains_43 : decode cX1_gains 43 = .ok (.aload_n 0, 1) := dk_42 (dk_at dksX1_gains_1 19 rfl rfl)
theorem dX1_gains_44 : decode cX1_gains 44 = .ok (.getfield 19, 3) := dk_180 0 19 (dk_at dksX1_gains_1 20 rfl rfl)
theorem dX1_gains_47 : decode cX1_gains 47 = .ok (.invokevirtual 213, 3) := dk_182 0 213 (dk_at dksX1_gains_2 0 rfl rfl)
theorem dX1_gains_50 : decode cX1_gains 50 = .ok (.if_icmp .ge 26, 3) := dk_162 0 26 (dk_at dksX1_gains_2 3 rfl rfl)
theorem dX1_gains_53 : decode cX1_gains 53 = .ok (.iload 4, 2) := dk_21 4 (dk_at dksX1_gains_2 6 rfl rfl)
theorem dX1_gains_55 : decode cX1_gains 55 = .ok (.aload_n 0, 1) := dk_42 (dk_at dksX1_gains_2 8 rfl rfl)
theorem dX1_gains_56 : decode cX1_gains 56 = .ok (.getfield 30, 3) := dk_180 0 30 (dk_at dksX1_gains_2 9 rfl rfl)
theorem dX1_gains_59 : decode cX1_gains 59 = .ok (.getfield 152, 3) := dk_180 0 152 (dk_at dksX1_gains_2 12 rfl rfl)
theorem dX1_gains_62 : decode cX1_gains 62 = .ok (.iload 5, 2) := dk_21 5 (dk_at dksX1_gains_2 15 rfl rfl)
theorem dX1_gains_64 : decode cX1_gains 64 = .ok (.aaload, 1) := dk_50 (dk_at dksX1_gains_2 17 rfl rfl)
theorem dX1_gains_65 : decode cX1_gains 65 = .ok (.iload_n 3, 1) := dk_29 (dk_at dksX1_gains_2 18 rfl rfl)
theorem dX1_gains_66 : decode cX1_gains 66 = .ok (.iaload, 1) := dk_46 (dk_at dksX1_gains_2 19 rfl rfl)
theorem dX1_gains_67 : decode cX1_gains 67 = .ok (.iadd, 1) := dk_96 (dk_at dksX1_gains_2 20 rfl rfl)
theorem dX1_gains_68 : decode cX1_gains 68 = .ok (.istore 4, 2) := dk_54 4 (dk_at dksX1_gains_2 21 rfl rfl)
theorem dX1_gains_70 : decode cX1_gains 70 = .ok (.iinc 5 1, 3) := dk_132 5 1 (dk_at dksX1_gains_3 0 rfl rfl)
theorem dX1_gains_73 : decode cX1_gains 73 = .ok (.goto (-32), 3) := dk_167 255 224 (dk_at dksX1_gains_3 3 rfl rfl)
theorem dX1_gains_76 : decode cX1_gains 76 = .ok (.aload_n 0, 1) := dk_42 (dk_at dksX1_gains_3 6 rfl rfl)
theorem dX1_gains_77 : decode cX1_gains 77 = .ok (.getfield 30, 3) := dk_180 0 30 (dk_at dksX1_gains_3 7 rfl rfl)
theorem dX1_gains_80 : decode cX1_gains 80 = .ok (.getfield 152, 3) := dk_180 0 152 (dk_at dksX1_gains_3 10 rfl rfl)
theorem dX1_gains_83 : decode cX1_gains 83 = .ok (.iload_n 1, 1) := dk_27 (dk_at dksX1_gains_3 13 rfl rfl)
theorem dX1_gains_84 : decode cX1_gains 84 = .ok (.aaload, 1) := dk_50 (dk_at dksX1_gains_3 14 rfl rfl)
theorem dX1_gains_85 : decode cX1_gains 85 = .ok (.iload_n 3, 1) := dk_29 (dk_at dksX1_gains_3 15 rfl rfl)
theorem dX1_gains_86 : decode cX1_gains 86 = .ok (.iaload, 1) := dk_46 (dk_at dksX1_gains_3 16 rfl rfl)
theorem dX1_gains_87 : decode cX1_gains 87 = .ok (.ifCond .le 12, 3) := dk_158 0 12 (dk_at dksX1_gains_3 17 rfl rfl)
theorem dX1_gains_90 : decode cX1_gains 90 = .ok (.iload 4, 2) := dk_21 4 (dk_at dksX1_gains_3 20 rfl rfl)
theorem dX1_gains_92 : decode cX1_gains 92 = .ok (.iconst 4, 1) := dk_7 (dk_at dksX1_gains_3 22 rfl rfl)
theorem dX1_gains_93 : decode cX1_gains 93 = .ok (.if_icmp .ne 6, 3) := dk_160 0 6 (dk_at dksX1_gains_4 0 rfl rfl)
theorem dX1_gains_96 : decode cX1_gains 96 = .ok (.iinc 2 1, 3) := dk_132 2 1 (dk_at dksX1_gains_4 3 rfl rfl)
theorem dX1_gains_99 : decode cX1_gains 99 = .ok (.iinc 3 1, 3) := dk_132 3 1 (dk_at dksX1_gains_4 6 rfl rfl)
theorem dX1_gains_102 : decode cX1_gains 102 = .ok (.goto (-78), 3) := dk_167 255 178 (dk_at dksX1_gains_4 9 rfl rfl)
theorem dX1_gains_105 : decode cX1_gains 105 = .ok (.iload_n 2, 1) := dk_28 (dk_at dksX1_gains_4 12 rfl rfl)
theorem dX1_gains_106 : decode cX1_gains 106 = .ok (.ireturn, 1) := dk_172 (dk_at dksX1_gains_4 13 rfl rfl)
abbrev cX1_open : ByteArray := prog_1_method_40_code
def yX1_open : MethodName := ⟨RX1, "open", "()I"⟩
def dkwX1_open_2 : List UInt8 := [180, 0, 198, 100, 182, 0, 160, 100, 172]
abbrev dktX1_open_2 : List UInt8 := dkwX1_open_2 ++ []
def dkwX1_open_1 : List UInt8 := [180, 0, 30, 42, 180, 0, 30, 180, 0, 198, 182, 0, 160, 96, 42, 180, 0, 30, 4, 42, 180, 0, 30]
abbrev dktX1_open_1 : List UInt8 := dkwX1_open_1 ++ dktX1_open_2
def dkwX1_open_0 : List UInt8 := [42, 182, 1, 51, 154, 0, 6, 16, 155, 172, 42, 180, 0, 67, 42, 180, 0, 30, 182, 1, 54, 60, 27, 42]
abbrev dktX1_open_0 : List UInt8 := dkwX1_open_0 ++ dktX1_open_1
theorem dksX1_open_0 : cX1_open.data.toList.drop 0 = dktX1_open_0 := by decide +kernel
theorem dksX1_open_1 : cX1_open.data.toList.drop 24 = dktX1_open_1 := dk_seg dksX1_open_0 24 rfl rfl
theorem dksX1_open_2 : cX1_open.data.toList.drop 47 = dktX1_open_2 := dk_seg dksX1_open_1 23 rfl rfl
theorem dX1_open_0 : decode cX1_open 0 = .ok (.aload_n 0, 1) := dk_42 (dk_at dksX1_open_0 0 rfl rfl)
theorem dX1_open_1 : decode cX1_open 1 = .ok (.invokevirtual 307, 3) := dk_182 1 51 (dk_at dksX1_open_0 1 rfl rfl)
theorem dX1_open_4 : decode cX1_open 4 = .ok (.ifCond .ne 6, 3) := dk_154 0 6 (dk_at dksX1_open_0 4 rfl rfl)
theorem dX1_open_7 : decode cX1_open 7 = .ok (.bipush (-101), 2) := dk_16 155 (dk_at dksX1_open_0 7 rfl rfl)
theorem dX1_open_9 : decode cX1_open 9 = .ok (.ireturn, 1) := dk_172 (dk_at dksX1_open_0 9 rfl rfl)
theorem dX1_open_10 : decode cX1_open 10 = .ok (.aload_n 0, 1) := dk_42 (dk_at dksX1_open_0 10 rfl rfl)
theorem dX1_open_11 : decode cX1_open 11 = .ok (.getfield 67, 3) := dk_180 0 67 (dk_at dksX1_open_0 11 rfl rfl)
theorem dX1_open_14 : decode cX1_open 14 = .ok (.aload_n 0, 1) := dk_42 (dk_at dksX1_open_0 14 rfl rfl)
theorem dX1_open_15 : decode cX1_open 15 = .ok (.getfield 30, 3) := dk_180 0 30 (dk_at dksX1_open_0 15 rfl rfl)
theorem dX1_open_18 : decode cX1_open 18 = .ok (.invokevirtual 310, 3) := dk_182 1 54 (dk_at dksX1_open_0 18 rfl rfl)
theorem dX1_open_21 : decode cX1_open 21 = .ok (.istore_n 1, 1) := dk_60 (dk_at dksX1_open_0 21 rfl rfl)
theorem dX1_open_22 : decode cX1_open 22 = .ok (.iload_n 1, 1) := dk_27 (dk_at dksX1_open_0 22 rfl rfl)
theorem dX1_open_23 : decode cX1_open 23 = .ok (.aload_n 0, 1) := dk_42 (dk_at dksX1_open_0 23 rfl rfl)
theorem dX1_open_24 : decode cX1_open 24 = .ok (.getfield 30, 3) := dk_180 0 30 (dk_at dksX1_open_1 0 rfl rfl)
theorem dX1_open_27 : decode cX1_open 27 = .ok (.aload_n 0, 1) := dk_42 (dk_at dksX1_open_1 3 rfl rfl)
theorem dX1_open_28 : decode cX1_open 28 = .ok (.getfield 30, 3) := dk_180 0 30 (dk_at dksX1_open_1 4 rfl rfl)
theorem dX1_open_31 : decode cX1_open 31 = .ok (.getfield 198, 3) := dk_180 0 198 (dk_at dksX1_open_1 7 rfl rfl)
theorem dX1_open_34 : decode cX1_open 34 = .ok (.invokevirtual 160, 3) := dk_182 0 160 (dk_at dksX1_open_1 10 rfl rfl)
theorem dX1_open_37 : decode cX1_open 37 = .ok (.iadd, 1) := dk_96 (dk_at dksX1_open_1 13 rfl rfl)
theorem dX1_open_38 : decode cX1_open 38 = .ok (.aload_n 0, 1) := dk_42 (dk_at dksX1_open_1 14 rfl rfl)
theorem dX1_open_39 : decode cX1_open 39 = .ok (.getfield 30, 3) := dk_180 0 30 (dk_at dksX1_open_1 15 rfl rfl)
theorem dX1_open_42 : decode cX1_open 42 = .ok (.iconst 1, 1) := dk_4 (dk_at dksX1_open_1 18 rfl rfl)
theorem dX1_open_43 : decode cX1_open 43 = .ok (.aload_n 0, 1) := dk_42 (dk_at dksX1_open_1 19 rfl rfl)
theorem dX1_open_44 : decode cX1_open 44 = .ok (.getfield 30, 3) := dk_180 0 30 (dk_at dksX1_open_1 20 rfl rfl)
theorem dX1_open_47 : decode cX1_open 47 = .ok (.getfield 198, 3) := dk_180 0 198 (dk_at dksX1_open_2 0 rfl rfl)
theorem dX1_open_50 : decode cX1_open 50 = .ok (.isub, 1) := dk_100 (dk_at dksX1_open_2 3 rfl rfl)
theorem dX1_open_51 : decode cX1_open 51 = .ok (.invokevirtual 160, 3) := dk_182 0 160 (dk_at dksX1_open_2 4 rfl rfl)
theorem dX1_open_54 : decode cX1_open 54 = .ok (.isub, 1) := dk_100 (dk_at dksX1_open_2 7 rfl rfl)
theorem dX1_open_55 : decode cX1_open 55 = .ok (.ireturn, 1) := dk_172 (dk_at dksX1_open_2 8 rfl rfl)
abbrev cX1_isOpen : ByteArray := prog_1_method_39_code
def yX1_isOpen : MethodName := ⟨RX1, "isOpen", "()Z"⟩
def dkwX1_isOpen_2 : List UInt8 := [3, 172]
abbrev dktX1_isOpen_2 : List UInt8 := dkwX1_isOpen_2 ++ []
def dkwX1_isOpen_1 : List UInt8 := [180, 0, 30, 182, 0, 185, 7, 163, 0, 17, 42, 180, 0, 30, 182, 1, 47, 154, 0, 7, 4, 167, 0, 4]
abbrev dktX1_isOpen_1 : List UInt8 := dkwX1_isOpen_1 ++ dktX1_isOpen_2
def dkwX1_isOpen_0 : List UInt8 := [42, 180, 0, 19, 182, 0, 213, 5, 160, 0, 39, 42, 180, 0, 19, 180, 0, 252, 6, 163, 0, 28, 42]
abbrev dktX1_isOpen_0 : List UInt8 := dkwX1_isOpen_0 ++ dktX1_isOpen_1
theorem dksX1_isOpen_0 : cX1_isOpen.data.toList.drop 0 = dktX1_isOpen_0 := by decide +kernel
theorem dksX1_isOpen_1 : cX1_isOpen.data.toList.drop 23 = dktX1_isOpen_1 := dk_seg dksX1_isOpen_0 23 rfl rfl
theorem dksX1_isOpen_2 : cX1_isOpen.data.toList.drop 47 = dktX1_isOpen_2 := dk_seg dksX1_isOpen_1 24 rfl rfl
theorem dX1_isOpen_0 : decode cX1_isOpen 0 = .ok (.aload_n 0, 1) := dk_42 (dk_at dksX1_isOpen_0 0 rfl rfl)
theorem dX1_isOpen_1 : decode cX1_isOpen 1 = .ok (.getfield 19, 3) := dk_180 0 19 (dk_at dksX1_isOpen_0 1 rfl rfl)
theorem dX1_isOpen_4 : decode cX1_isOpen 4 = .ok (.invokevirtual 213, 3) := dk_182 0 213 (dk_at dksX1_isOpen_0 4 rfl rfl)
theorem dX1_isOpen_7 : decode cX1_isOpen 7 = .ok (.iconst 2, 1) := dk_5 (dk_at dksX1_isOpen_0 7 rfl rfl)
theorem dX1_isOpen_8 : decode cX1_isOpen 8 = .ok (.if_icmp .ne 39, 3) := dk_160 0 39 (dk_at dksX1_isOpen_0 8 rfl rfl)
theorem dX1_isOpen_11 : decode cX1_isOpen 11 = .ok (.aload_n 0, 1) := dk_42 (dk_at dksX1_isOpen_0 11 rfl rfl)
theorem dX1_isOpen_12 : decode cX1_isOpen 12 = .ok (.getfield 19, 3) := dk_180 0 19 (dk_at dksX1_isOpen_0 12 rfl rfl)
theorem dX1_isOpen_15 : decode cX1_isOpen 15 = .ok (.getfield 252, 3) := dk_180 0 252 (dk_at dksX1_isOpen_0 15 rfl rfl)
theorem dX1_isOpen_18 : decode cX1_isOpen 18 = .ok (.iconst 3, 1) := dk_6 (dk_at dksX1_isOpen_0 18 rfl rfl)
theorem dX1_isOpen_19 : decode cX1_isOpen 19 = .ok (.if_icmp .gt 28, 3) := dk_163 0 28 (dk_at dksX1_isOpen_0 19 rfl rfl)
theorem dX1_isOpen_22 : decode cX1_isOpen 22 = .ok (.aload_n 0, 1) := dk_42 (dk_at dksX1_isOpen_0 22 rfl rfl)
theorem dX1_isOpen_23 : decode cX1_isOpen 23 = .ok (.getfield 30, 3) := dk_180 0 30 (dk_at dksX1_isOpen_1 0 rfl rfl)
theorem dX1_isOpen_26 : decode cX1_isOpen 26 = .ok (.invokevirtual 185, 3) := dk_182 0 185 (dk_at dksX1_isOpen_1 3 rfl rfl)
theorem dX1_isOpen_29 : decode cX1_isOpen 29 = .ok (.iconst 4, 1) := dk_7 (dk_at dksX1_isOpen_1 6 rfl rfl)
theorem dX1_isOpen_30 : decode cX1_isOpen 30 = .ok (.if_icmp .gt 17, 3) := dk_163 0 17 (dk_at dksX1_isOpen_1 7 rfl rfl)
theorem dX1_isOpen_33 : decode cX1_isOpen 33 = .ok (.aload_n 0, 1) := dk_42 (dk_at dksX1_isOpen_1 10 rfl rfl)
theorem dX1_isOpen_34 : decode cX1_isOpen 34 = .ok (.getfield 30, 3) := dk_180 0 30 (dk_at dksX1_isOpen_1 11 rfl rfl)
theorem dX1_isOpen_37 : decode cX1_isOpen 37 = .ok (.invokevirtual 303, 3) := dk_182 1 47 (dk_at dksX1_isOpen_1 14 rfl rfl)
theorem dX1_isOpen_40 : decode cX1_isOpen 40 = .ok (.ifCond .ne 7, 3) := dk_154 0 7 (dk_at dksX1_isOpen_1 17 rfl rfl)
theorem dX1_isOpen_43 : decode cX1_isOpen 43 = .ok (.iconst 1, 1) := dk_4 (dk_at dksX1_isOpen_1 20 rfl rfl)
theorem dX1_isOpen_44 : decode cX1_isOpen 44 = .ok (.goto 4, 3) := dk_167 0 4 (dk_at dksX1_isOpen_1 21 rfl rfl)
theorem dX1_isOpen_47 : decode cX1_isOpen 47 = .ok (.iconst 0, 1) := dk_3 (dk_at dksX1_isOpen_2 0 rfl rfl)
theorem dX1_isOpen_48 : decode cX1_isOpen 48 = .ok (.ireturn, 1) := dk_172 (dk_at dksX1_isOpen_2 1 rfl rfl)
abbrev cX1_first : ByteArray := prog_1_method_41_code
def yX1_first : MethodName := ⟨RX1, "first", "()I"⟩
def dkwX1_first_1 : List UInt8 := [180, 0, 67, 180, 1, 58, 172]
abbrev dktX1_first_1 : List UInt8 := dkwX1_first_1 ++ []
def dkwX1_first_0 : List UInt8 := [42, 182, 1, 51, 154, 0, 5, 2, 172, 42, 180, 0, 67, 42, 180, 0, 30, 182, 1, 54, 87, 42]
abbrev dktX1_first_0 : List UInt8 := dkwX1_first_0 ++ dktX1_first_1
theorem dksX1_first_0 : cX1_first.data.toList.drop 0 = dktX1_first_0 := by decide +kernel
theorem dksX1_first_1 : cX1_first.data.toList.drop 22 = dktX1_first_1 := dk_seg dksX1_first_0 22 rfl rfl
theorem dX1_first_0 : decode cX1_first 0 = .ok (.aload_n 0, 1) := dk_42 (dk_at dksX1_first_0 0 rfl rfl)
theorem dX1_first_1 : decode cX1_first 1 = .ok (.invokevirtual 307, 3) := dk_182 1 51 (dk_at dksX1_first_0 1 rfl rfl)
theorem dX1_first_4 : decode cX1_first 4 = .ok (.ifCond .ne 5, 3) := dk_154 0 5 (dk_at dksX1_first_0 4 rfl rfl)
theorem dX1_first_7 : decode cX1_first 7 = .ok (.iconst (-1), 1) := dk_2 (dk_at dksX1_first_0 7 rfl rfl)
theorem dX1_first_8 : decode cX1_first 8 = .ok (.ireturn, 1) := dk_172 (dk_at dksX1_first_0 8 rfl rfl)
theorem dX1_first_9 : decode cX1_first 9 = .ok (.aload_n 0, 1) := dk_42 (dk_at dksX1_first_0 9 rfl rfl)
theorem dX1_first_10 : decode cX1_first 10 = .ok (.getfield 67, 3) := dk_180 0 67 (dk_at dksX1_first_0 10 rfl rfl)
theorem dX1_first_13 : decode cX1_first 13 = .ok (.aload_n 0, 1) := dk_42 (dk_at dksX1_first_0 13 rfl rfl)
theorem dX1_first_14 : decode cX1_first 14 = .ok (.getfield 30, 3) := dk_180 0 30 (dk_at dksX1_first_0 14 rfl rfl)
theorem dX1_first_17 : decode cX1_first 17 = .ok (.invokevirtual 310, 3) := dk_182 1 54 (dk_at dksX1_first_0 17 rfl rfl)
theorem dX1_first_20 : decode cX1_first 20 = .ok (.pop, 1) := dk_87 (dk_at dksX1_first_0 20 rfl rfl)
theorem dX1_first_21 : decode cX1_first 21 = .ok (.aload_n 0, 1) := dk_42 (dk_at dksX1_first_0 21 rfl rfl)
theorem dX1_first_22 : decode cX1_first 22 = .ok (.getfield 67, 3) := dk_180 0 67 (dk_at dksX1_first_1 0 rfl rfl)
theorem dX1_first_25 : decode cX1_first 25 = .ok (.getfield 314, 3) := dk_180 1 58 (dk_at dksX1_first_1 3 rfl rfl)
theorem dX1_first_28 : decode cX1_first 28 = .ok (.ireturn, 1) := dk_172 (dk_at dksX1_first_1 6 rfl rfl)
abbrev cX1_bent : ByteArray := prog_1_method_42_code
def yX1_bent : MethodName := ⟨RX1, "bent", "(II)I"⟩
def dkwX1_bent_2 : List UInt8 := [42, 180, 0, 30, 27, 182, 1, 61, 167, 0, 4, 2, 172]
abbrev dktX1_bent_2 : List UInt8 := dkwX1_bent_2 ++ []
def dkwX1_bent_1 : List UInt8 := [182, 0, 213, 4, 164, 0, 31, 42, 180, 0, 30, 27, 182, 0, 156, 158, 0, 20, 42, 180, 0, 85, 28, 50]
abbrev dktX1_bent_1 : List UInt8 := dkwX1_bent_1 ++ dktX1_bent_2
def dkwX1_bent_0 : List UInt8 := [42, 180, 0, 19, 27, 182, 0, 141, 153, 0, 51, 28, 3, 6, 184, 0, 188, 153, 0, 42, 42, 180, 0, 19]
abbrev dktX1_bent_0 : List UInt8 := dkwX1_bent_0 ++ dktX1_bent_1
theorem dksX1_bent_0 : cX1_bent.data.toList.drop 0 = dktX1_bent_0 := by decide +kernel
theorem dksX1_bent_1 : cX1_bent.data.toList.drop 24 = dktX1_bent_1 := dk_seg dksX1_bent_0 24 rfl rfl
theorem dksX1_bent_2 : cX1_bent.data.toList.drop 48 = dktX1_bent_2 := dk_seg dksX1_bent_1 24 rfl rfl
theorem dX1_bent_0 : decode cX1_bent 0 = .ok (.aload_n 0, 1) := dk_42 (dk_at dksX1_bent_0 0 rfl rfl)
theorem dX1_bent_1 : decode cX1_bent 1 = .ok (.getfield 19, 3) := dk_180 0 19 (dk_at dksX1_bent_0 1 rfl rfl)
theorem dX1_bent_4 : decode cX1_bent 4 = .ok (.iload_n 1, 1) := dk_27 (dk_at dksX1_bent_0 4 rfl rfl)
theorem dX1_bent_5 : decode cX1_bent 5 = .ok (.invokevirtual 141, 3) := dk_182 0 141 (dk_at dksX1_bent_0 5 rfl rfl)
theorem dX1_bent_8 : decode cX1_bent 8 = .ok (.ifCond .eq 51, 3) := dk_153 0 51 (dk_at dksX1_bent_0 8 rfl rfl)
theorem dX1_bent_11 : decode cX1_bent 11 = .ok (.iload_n 2, 1) := dk_28 (dk_at dksX1_bent_0 11 rfl rfl)
theorem dX1_bent_12 : decode cX1_bent 12 = .ok (.iconst 0, 1) := dk_3 (dk_at dksX1_bent_0 12 rfl rfl)
theorem dX1_bent_13 : decode cX1_bent 13 = .ok (.iconst 3, 1) := dk_6 (dk_at dksX1_bent_0 13 rfl rfl)
theorem dX1_bent_14 : decode cX1_bent 14 = .ok (.invokestatic 188, 3) := dk_184 0 188 (dk_at dksX1_bent_0 14 rfl rfl)
theorem dX1_bent_17 : decode cX1_bent 17 = .ok (.ifCond .eq 42, 3) := dk_153 0 42 (dk_at dksX1_bent_0 17 rfl rfl)
theorem dX1_bent_20 : decode cX1_bent 20 = .ok (.aload_n 0, 1) := dk_42 (dk_at dksX1_bent_0 20 rfl rfl)
theorem dX1_bent_21 : decode cX1_bent 21 = .ok (.getfield 19, 3) := dk_180 0 19 (dk_at dksX1_bent_0 21 rfl rfl)
theorem dX1_bent_24 : decode cX1_bent 24 = .ok (.invokevirtual 213, 3) := dk_182 0 213 (dk_at dksX1_bent_1 0 rfl rfl)
theorem dX1_bent_27 : decode cX1_bent 27 = .ok (.iconst 1, 1) := dk_4 (dk_at dksX1_bent_1 3 rfl rfl)
theorem dX1_bent_28 : decode cX1_bent 28 = .ok (.if_icmp .le 31, 3) := dk_164 0 31 (dk_at dksX1_bent_1 4 rfl rfl)
theorem dX1_bent_31 : decode cX1_bent 31 = .ok (.aload_n 0, 1) := dk_42 (dk_at dksX1_bent_1 7 rfl rfl)
theorem dX1_bent_32 : decode cX1_bent 32 = .ok (.getfield 30, 3) := dk_180 0 30 (dk_at dksX1_bent_1 8 rfl rfl)
theorem dX1_bent_35 : decode cX1_bent 35 = .ok (.iload_n 1, 1) := dk_27 (dk_at dksX1_bent_1 11 rfl rfl)
theorem dX1_bent_36 : decode cX1_bent 36 = .ok (.invokevirtual 156, 3) := dk_182 0 156 (dk_at dksX1_bent_1 12 rfl rfl)
theorem dX1_bent_39 : decode cX1_bent 39 = .ok (.ifCond .le 20, 3) := dk_158 0 20 (dk_at dksX1_bent_1 15 rfl rfl)
theorem dX1_bent_42 : decode cX1_bent 42 = .ok (.aload_n 0, 1) := dk_42 (dk_at dksX1_bent_1 18 rfl rfl)
theorem dX1_bent_43 : decode cX1_bent 43 = .ok (.getfield 85, 3) := dk_180 0 85 (dk_at dksX1_bent_1 19 rfl rfl)
theorem dX1_bent_46 : decode cX1_bent 46 = .ok (.iload_n 2, 1) := dk_28 (dk_at dksX1_bent_1 22 rfl rfl)
theorem dX1_bent_47 : decode cX1_bent 47 = .ok (.aaload, 1) := dk_50 (dk_at dksX1_bent_1 23 rfl rfl)
theorem dX1_bent_48 : decode cX1_bent 48 = .ok (.aload_n 0, 1) := dk_42 (dk_at dksX1_bent_2 0 rfl rfl)
theorem dX1_bent_49 : decode cX1_bent 49 = .ok (.getfield 30, 3) := dk_180 0 30 (dk_at dksX1_bent_2 1 rfl rfl)
theorem dX1_bent_52 : decode cX1_bent 52 = .ok (.iload_n 1, 1) := dk_27 (dk_at dksX1_bent_2 4 rfl rfl)
theorem dX1_bent_53 : decode cX1_bent 53 = .ok (.invokevirtual 317, 3) := dk_182 1 61 (dk_at dksX1_bent_2 5 rfl rfl)
theorem dX1_bent_56 : decode cX1_bent 56 = .ok (.goto 4, 3) := dk_167 0 4 (dk_at dksX1_bent_2 8 rfl rfl)
theorem dX1_bent_59 : decode cX1_bent 59 = .ok (.iconst (-1), 1) := dk_2 (dk_at dksX1_bent_2 11 rfl rfl)
theorem dX1_bent_60 : decode cX1_bent 60 = .ok (.ireturn, 1) := dk_172 (dk_at dksX1_bent_2 12 rfl rfl)
abbrev cX1_play : ByteArray := prog_1_method_44_code
def yX1_play : MethodName := ⟨RX1, "play", "(I)I"⟩
def dkwX1_play_5 : List UInt8 := [167, 255, 215, 42, 182, 0, 242, 29, 172]
abbrev dktX1_play_5 : List UInt8 := dkwX1_play_5 ++ []
def dkwX1_play_4 : List UInt8 := [42, 180, 0, 85, 42, 42, 180, 0, 30, 180, 0, 198, 182, 1, 63, 50, 184, 1, 66, 132, 3, 1]
abbrev dktX1_play_4 : List UInt8 := dkwX1_play_4 ++ dktX1_play_5
def dkwX1_play_3 : List UInt8 := [182, 0, 236, 3, 62, 29, 27, 162, 0, 42, 42, 180, 0, 30, 182, 1, 47, 154, 0, 32, 42, 180, 0, 30]
abbrev dktX1_play_3 : List UInt8 := dkwX1_play_3 ++ dktX1_play_4
def dkwX1_play_2 : List UInt8 := [161, 0, 5, 2, 172, 132, 3, 1, 167, 255, 237, 42, 180, 0, 30, 182, 1, 47, 153, 0, 5, 3, 172, 42]
abbrev dktX1_play_2 : List UInt8 := dkwX1_play_2 ++ dktX1_play_3
def dkwX1_play_1 : List UInt8 := [160, 0, 8, 28, 5, 162, 0, 5, 2, 172, 3, 62, 29, 28, 162, 0, 20, 42, 29, 182, 1, 63, 7]
abbrev dktX1_play_1 : List UInt8 := dkwX1_play_1 ++ dktX1_play_2
def dkwX1_play_0 : List UInt8 := [42, 182, 0, 107, 61, 27, 4, 17, 1, 144, 184, 0, 188, 153, 0, 19, 28, 42, 180, 0, 19, 182, 0, 213]
abbrev dktX1_play_0 : List UInt8 := dkwX1_play_0 ++ dktX1_play_1
theorem dksX1_play_0 : cX1_play.data.toList.drop 0 = dktX1_play_0 := by decide +kernel
theorem dksX1_play_1 : cX1_play.data.toList.drop 24 = dktX1_play_1 := dk_seg dksX1_play_0 24 rfl rfl
theorem dksX1_play_2 : cX1_play.data.toList.drop 47 = dktX1_play_2 := dk_seg dksX1_play_1 23 rfl rfl
theorem dksX1_play_3 : cX1_play.data.toList.drop 71 = dktX1_play_3 := dk_seg dksX1_play_2 24 rfl rfl
theorem dksX1_play_4 : cX1_play.data.toList.drop 95 = dktX1_play_4 := dk_seg dksX1_play_3 24 rfl rfl
theorem dksX1_play_5 : cX1_play.data.toList.drop 117 = dktX1_play_5 := dk_seg dksX1_play_4 22 rfl rfl
theorem dX1_play_0 : decode cX1_play 0 = .ok (.aload_n 0, 1) := dk_42 (dk_at dksX1_play_0 0 rfl rfl)
theorem dX1_play_1 : decode cX1_play 1 = .ok (.invokevirtual 107, 3) := dk_182 0 107 (dk_at dksX1_play_0 1 rfl rfl)
theorem dX1_play_4 : decode cX1_play 4 = .ok (.istore_n 2, 1) := dk_61 (dk_at dksX1_play_0 4 rfl rfl)
theorem dX1_play_5 : decode cX1_play 5 = .ok (.iload_n 1, 1) := dk_27 (dk_at dksX1_play_0 5 rfl rfl)
theorem dX1_play_6 : decode cX1_play 6 = .ok (.iconst 1, 1) := dk_4 (dk_at dksX1_play_0 6 rfl rfl)
theorem dX1_play_7 : decode cX1_play 7 = .ok (.sipush 400, 3) := dk_17 1 144 (dk_at dksX1_play_0 7 rfl rfl)
theorem dX1_play_10 : decode cX1_play 10 = .ok (.invokestatic 188, 3) := dk_184 0 188 (dk_at dksX1_play_0 10 rfl rfl)
theorem dX1_play_13 : decode cX1_play 13 = .ok (.ifCond .eq 19, 3) := dk_153 0 19 (dk_at dksX1_play_0 13 rfl rfl)
theorem dX1_play_16 : decode cX1_play 16 = .ok (.iload_n 2, 1) := dk_28 (dk_at dksX1_play_0 16 rfl rfl)
theorem dX1_play_17 : decode cX1_play 17 = .ok (.aload_n 0, 1) := dk_42 (dk_at dksX1_play_0 17 rfl rfl)
theorem dX1_play_18 : decode cX1_play 18 = .ok (.getfield 19, 3) := dk_180 0 19 (dk_at dksX1_play_0 18 rfl rfl)
theorem dX1_play_21 : decode cX1_play 21 = .ok (.invokevirtual 213, 3) := dk_182 0 213 (dk_at dksX1_play_0 21 rfl rfl)
theorem dX1_play_24 : decode cX1_play 24 = .ok (.if_icmp .ne 8, 3) := dk_160 0 8 (dk_at dksX1_play_1 0 rfl rfl)
theorem dX1_play_27 : decode cX1_play 27 = .ok (.iload_n 2, 1) := dk_28 (dk_at dksX1_play_1 3 rfl rfl)
theorem dX1_play_28 : decode cX1_play 28 = .ok (.iconst 2, 1) := dk_5 (dk_at dksX1_play_1 4 rfl rfl)
theorem dX1_play_29 : decode cX1_play 29 = .ok (.if_icmp .ge 5, 3) := dk_162 0 5 (dk_at dksX1_play_1 5 rfl rfl)
theorem dX1_play_32 : decode cX1_play 32 = .ok (.iconst (-1), 1) := dk_2 (dk_at dksX1_play_1 8 rfl rfl)
theorem dX1_play_33 : decode cX1_play 33 = .ok (.ireturn, 1) := dk_172 (dk_at dksX1_play_1 9 rfl rfl)
theorem dX1_play_34 : decode cX1_play 34 = .ok (.iconst 0, 1) := dk_3 (dk_at dksX1_play_1 10 rfl rfl)
theorem dX1_play_35 : decode cX1_play 35 = .ok (.istore_n 3, 1) := dk_62 (dk_at dksX1_play_1 11 rfl rfl)
theorem dX1_play_36 : decode cX1_play 36 = .ok (.iload_n 3, 1) := dk_29 (dk_at dksX1_play_1 12 rfl rfl)
theorem dX1_play_37 : decode cX1_play 37 = .ok (.iload_n 2, 1) := dk_28 (dk_at dksX1_play_1 13 rfl rfl)
theorem dX1_play_38 : decode cX1_play 38 = .ok (.if_icmp .ge 20, 3) := dk_162 0 20 (dk_at dksX1_play_1 14 rfl rfl)
theorem dX1_play_41 : decode cX1_play 41 = .ok (.aload_n 0, 1) := dk_42 (dk_at dksX1_play_1 17 rfl rfl)
theorem dX1_play_42 : decode cX1_play 42 = .ok (.iload_n 3, 1) := dk_29 (dk_at dksX1_play_1 18 rfl rfl)
theorem dX1_play_43 : decode cX1_play 43 = .ok (.invokevirtual 319, 3) := dk_182 1 63 (dk_at dksX1_play_1 19 rfl rfl)
theorem dX1_play_46 : decode cX1_play 46 = .ok (.iconst 4, 1) := dk_7 (dk_at dksX1_play_1 22 rfl rfl)
theorem dX1_play_47 : decode cX1_play 47 = .ok (.if_icmp .lt 5, 3) := dk_161 0 5 (dk_at dksX1_play_2 0 rfl rfl)
theorem dX1_play_50 : decode cX1_play 50 = .ok (.iconst (-1), 1) := dk_2 (dk_at dksX1_play_2 3 rfl rfl)
theorem dX1_play_51 : decode cX1_play 51 = .ok (.ireturn, 1) := dk_172 (dk_at dksX1_play_2 4 rfl rfl)
theorem dX1_play_52 : decode cX1_play 52 = .ok (.iinc 3 1, 3) := dk_132 3 1 (dk_at dksX1_play_2 5 rfl rfl)
theorem dX1_play_55 : decode cX1_play 55 = .ok (.goto (-19), 3) := dk_167 255 237 (dk_at dksX1_play_2 8 rfl rfl)
theorem dX1_play_58 : decode cX1_play 58 = .ok (.aload_n 0, 1) := dk_42 (dk_at dksX1_play_2 11 rfl rfl)
theorem dX1_play_59 : decode cX1_play 59 = .ok (.getfield 30, 3) := dk_180 0 30 (dk_at dksX1_play_2 12 rfl rfl)
theorem dX1_play_62 : decode cX1_play 62 = .ok (.invokevirtual 303, 3) := dk_182 1 47 (dk_at dksX1_play_2 15 rfl rfl)
theorem dX1_play_65 : decode cX1_play 65 = .ok (.ifCond .eq 5, 3) := dk_153 0 5 (dk_at dksX1_play_2 18 rfl rfl)
theorem dX1_play_68 : decode cX1_play 68 = .ok (.iconst 0, 1) := dk_3 (dk_at dksX1_play_2 21 rfl rfl)
theorem dX1_play_69 : decode cX1_play 69 = .ok (.ireturn, 1) := dk_172 (dk_at dksX1_play_2 22 rfl rfl)
theorem dX1_play_70 : decode cX1_play 70 = .ok (.aload_n 0, 1) := dk_42 (dk_at dksX1_play_2 23 rfl rfl)
theorem dX1_play_71 : decode cX1_play 71 = .ok (.invokevirtual 236, 3) := dk_182 0 236 (dk_at dksX1_play_3 0 rfl rfl)
theorem dX1_play_74 : decode cX1_play 74 = .ok (.iconst 0, 1) := dk_3 (dk_at dksX1_play_3 3 rfl rfl)
theorem dX1_play_75 : decode cX1_play 75 = .ok (.istore_n 3, 1) := dk_62 (dk_at dksX1_play_3 4 rfl rfl)
theorem dX1_play_76 : decode cX1_play 76 = .ok (.iload_n 3, 1) := dk_29 (dk_at dksX1_play_3 5 rfl rfl)
theorem dX1_play_77 : decode cX1_play 77 = .ok (.iload_n 1, 1) := dk_27 (dk_at dksX1_play_3 6 rfl rfl)
theorem dX1_play_78 : decode cX1_play 78 = .ok (.if_icmp .ge 42, 3) := dk_162 0 42 (dk_at dksX1_play_3 7 rfl rfl)
theorem dX1_play_81 : decode cX1_play 81 = .ok (.aload_n 0, 1) := dk_42 (dk_at dksX1_play_3 10 rfl rfl)
theorem dX1_play_82 : decode cX1_play 82 = .ok (.getfield 30, 3) := dk_180 0 30 (dk_at dksX1_play_3 11 rfl rfl)
theorem dX1_play_85 : decode cX1_play 85 = .ok (.invokevirtual 303, 3) := dk_182 1 47 (dk_at dksX1_play_3 14 rfl rfl)
theorem dX1_play_88 : decode cX1_play 88 = .ok (.ifCond .ne 32, 3) := dk_154 0 32 (dk_at dksX1_play_3 17 rfl rfl)
theorem dX1_play_91 : decode cX1_play 91 = .ok (.aload_n 0, 1) := dk_42 (dk_at dksX1_play_3 20 rfl rfl)
theorem dX1_play_92 : decode cX1_play 92 = .ok (.getfield 30, 3) := dk_180 0 30 (dk_at dksX1_play_3 21 rfl rfl)
theorem dX1_play_95 : decode cX1_play 95 = .ok (.aload_n 0, 1) := dk_42 (dk_at dksX1_play_4 0 rfl rfl)
theorem dX1_play_96 : decode cX1_play 96 = .ok (.getfield 85, 3) := dk_180 0 85 (dk_at dksX1_play_4 1 rfl rfl)
theorem dX1_play_99 : decode cX1_play 99 = .ok (.aload_n 0, 1) := dk_42 (dk_at dksX1_play_4 4 rfl rfl)
theorem dX1_play_100 : decode cX1_play 100 = .ok (.aload_n 0, 1) := dk_42 (dk_at dksX1_play_4 5 rfl rfl)
theorem dX1_play_101 : decode cX1_play 101 = .ok (.getfield 30, 3) := dk_180 0 30 (dk_at dksX1_play_4 6 rfl rfl)
theorem dX1_play_104 : decode cX1_play 104 = .ok (.getfield 198, 3) := dk_180 0 198 (dk_at dksX1_play_4 9 rfl rfl)
theorem dX1_play_107 : decode cX1_play 107 = .ok (.invokevirtual 319, 3) := dk_182 1 63 (dk_at dksX1_play_4 12 rfl rfl)
theorem dX1_play_110 : decode cX1_play 110 = .ok (.aaload, 1) := dk_50 (dk_at dksX1_play_4 15 rfl rfl)
theorem dX1_play_111 : decode cX1_play 111 = .ok (.invokestatic 322, 3) := dk_184 1 66 (dk_at dksX1_play_4 16 rfl rfl)
theorem dX1_play_114 : decode cX1_play 114 = .ok (.iinc 3 1, 3) := dk_132 3 1 (dk_at dksX1_play_4 19 rfl rfl)
theorem dX1_play_117 : decode cX1_play 117 = .ok (.goto (-41), 3) := dk_167 255 215 (dk_at dksX1_play_5 0 rfl rfl)
theorem dX1_play_120 : decode cX1_play 120 = .ok (.aload_n 0, 1) := dk_42 (dk_at dksX1_play_5 3 rfl rfl)
theorem dX1_play_121 : decode cX1_play 121 = .ok (.invokevirtual 242, 3) := dk_182 0 242 (dk_at dksX1_play_5 4 rfl rfl)
theorem dX1_play_124 : decode cX1_play 124 = .ok (.iload_n 3, 1) := dk_29 (dk_at dksX1_play_5 7 rfl rfl)
theorem dX1_play_125 : decode cX1_play 125 = .ok (.ireturn, 1) := dk_172 (dk_at dksX1_play_5 8 rfl rfl)
abbrev cX1_onTape : ByteArray := prog_1_method_9_code
def yX1_onTape : MethodName := ⟨RX1, "onTape", "(I)I"⟩
def dkwX1_onTape_0 : List UInt8 := [42, 180, 0, 12, 27, 51, 17, 0, 255, 126, 172]
abbrev dktX1_onTape_0 : List UInt8 := dkwX1_onTape_0 ++ []
theorem dksX1_onTape_0 : cX1_onTape.data.toList.drop 0 = dktX1_onTape_0 := by decide +kernel
theorem dX1_onTape_0 : decode cX1_onTape 0 = .ok (.aload_n 0, 1) := dk_42 (dk_at dksX1_onTape_0 0 rfl rfl)
theorem dX1_onTape_1 : decode cX1_onTape 1 = .ok (.getfield 12, 3) := dk_180 0 12 (dk_at dksX1_onTape_0 1 rfl rfl)
theorem dX1_onTape_4 : decode cX1_onTape 4 = .ok (.iload_n 1, 1) := dk_27 (dk_at dksX1_onTape_0 4 rfl rfl)
theorem dX1_onTape_5 : decode cX1_onTape 5 = .ok (.baload, 1) := dk_51 (dk_at dksX1_onTape_0 5 rfl rfl)
theorem dX1_onTape_6 : decode cX1_onTape 6 = .ok (.sipush 255, 3) := dk_17 0 255 (dk_at dksX1_onTape_0 6 rfl rfl)
theorem dX1_onTape_9 : decode cX1_onTape 9 = .ok (.iand, 1) := dk_126 (dk_at dksX1_onTape_0 9 rfl rfl)
theorem dX1_onTape_10 : decode cX1_onTape 10 = .ok (.ireturn, 1) := dk_172 (dk_at dksX1_onTape_0 10 rfl rfl)
abbrev cX1_asks : ByteArray := prog_1_method_43_code
def yX1_asks : MethodName := ⟨RX1, "asks", "(LSevenTable$Game;LSevenTable$Bent;)V"⟩
def dkwX1_asks_1 : List UInt8 := [182, 0, 239, 87, 177]
abbrev dktX1_asks_1 : List UInt8 := dkwX1_asks_1 ++ []
def dkwX1_asks_0 : List UInt8 := [43, 42, 42, 180, 0, 198, 182, 1, 61, 61, 42, 42, 180, 0, 198, 28, 16, 100, 108, 28, 16, 100, 112, 3]
abbrev dktX1_asks_0 : List UInt8 := dkwX1_asks_0 ++ dktX1_asks_1
theorem dksX1_asks_0 : cX1_asks.data.toList.drop 0 = dktX1_asks_0 := by decide +kernel
theorem dksX1_asks_1 : cX1_asks.data.toList.drop 24 = dktX1_asks_1 := dk_seg dksX1_asks_0 24 rfl rfl
theorem dX1_asks_0 : decode cX1_asks 0 = .ok (.aload_n 1, 1) := dk_43 (dk_at dksX1_asks_0 0 rfl rfl)
theorem dX1_asks_1 : decode cX1_asks 1 = .ok (.aload_n 0, 1) := dk_42 (dk_at dksX1_asks_0 1 rfl rfl)
theorem dX1_asks_2 : decode cX1_asks 2 = .ok (.aload_n 0, 1) := dk_42 (dk_at dksX1_asks_0 2 rfl rfl)
theorem dX1_asks_3 : decode cX1_asks 3 = .ok (.getfield 198, 3) := dk_180 0 198 (dk_at dksX1_asks_0 3 rfl rfl)
theorem dX1_asks_6 : decode cX1_asks 6 = .ok (.invokevirtual 317, 3) := dk_182 1 61 (dk_at dksX1_asks_0 6 rfl rfl)
theorem dX1_asks_9 : decode cX1_asks 9 = .ok (.istore_n 2, 1) := dk_61 (dk_at dksX1_asks_0 9 rfl rfl)
theorem dX1_asks_10 : decode cX1_asks 10 = .ok (.aload_n 0, 1) := dk_42 (dk_at dksX1_asks_0 10 rfl rfl)
theorem dX1_asks_11 : decode cX1_asks 11 = .ok (.aload_n 0, 1) := dk_42 (dk_at dksX1_asks_0 11 rfl rfl)
theorem dX1_asks_12 : decode cX1_asks 12 = .ok (.getfield 198, 3) := dk_180 0 198 (dk_at dksX1_asks_0 12 rfl rfl)
theorem dX1_asks_15 : decode cX1_asks 15 = .ok (.iload_n 2, 1) := dk_28 (dk_at dksX1_asks_0 15 rfl rfl)
theorem dX1_asks_16 : decode cX1_asks 16 = .ok (.bipush 100, 2) := dk_16 100 (dk_at dksX1_asks_0 16 rfl rfl)
theorem dX1_asks_18 : decode cX1_asks 18 = .ok (.idiv, 1) := dk_108 (dk_at dksX1_asks_0 18 rfl rfl)
theorem dX1_asks_19 : decode cX1_asks 19 = .ok (.iload_n 2, 1) := dk_28 (dk_at dksX1_asks_0 19 rfl rfl)
theorem dX1_asks_20 : decode cX1_asks 20 = .ok (.bipush 100, 2) := dk_16 100 (dk_at dksX1_asks_0 20 rfl rfl)
theorem dX1_asks_22 : decode cX1_asks 22 = .ok (.irem, 1) := dk_112 (dk_at dksX1_asks_0 22 rfl rfl)
theorem dX1_asks_23 : decode cX1_asks 23 = .ok (.iconst 0, 1) := dk_3 (dk_at dksX1_asks_0 23 rfl rfl)
theorem dX1_asks_24 : decode cX1_asks 24 = .ok (.invokevirtual 239, 3) := dk_182 0 239 (dk_at dksX1_asks_1 0 rfl rfl)
theorem dX1_asks_27 : decode cX1_asks 27 = .ok (.pop, 1) := dk_87 (dk_at dksX1_asks_1 3 rfl rfl)
theorem dX1_asks_28 : decode cX1_asks 28 = .ok (.return_, 1) := dk_177 (dk_at dksX1_asks_1 4 rfl rfl)
abbrev cX1_deal : ByteArray := prog_1_method_46_code
def yX1_deal : MethodName := ⟨RX1, "deal", "(II)Z"⟩
def dkwX1_deal_1 : List UInt8 := [42, 180, 0, 30, 42, 180, 0, 19, 27, 28, 182, 1, 72, 87, 4, 172]
abbrev dktX1_deal_1 : List UInt8 := dkwX1_deal_1 ++ []
def dkwX1_deal_0 : List UInt8 := [27, 4, 16, 9, 184, 0, 188, 153, 0, 11, 42, 27, 182, 1, 69, 154, 0, 5, 3, 172, 42, 182, 0, 236]
abbrev dktX1_deal_0 : List UInt8 := dkwX1_deal_0 ++ dktX1_deal_1
theorem dksX1_deal_0 : cX1_deal.data.toList.drop 0 = dktX1_deal_0 := by decide +kernel
theorem dksX1_deal_1 : cX1_deal.data.toList.drop 24 = dktX1_deal_1 := dk_seg dksX1_deal_0 24 rfl rfl
theorem dX1_deal_0 : decode cX1_deal 0 = .ok (.iload_n 1, 1) := dk_27 (dk_at dksX1_deal_0 0 rfl rfl)
theorem dX1_deal_1 : decode cX1_deal 1 = .ok (.iconst 1, 1) := dk_4 (dk_at dksX1_deal_0 1 rfl rfl)
theorem dX1_deal_2 : decode cX1_deal 2 = .ok (.bipush 9, 2) := dk_16 9 (dk_at dksX1_deal_0 2 rfl rfl)
theorem dX1_deal_4 : decode cX1_deal 4 = .ok (.invokestatic 188, 3) := dk_184 0 188 (dk_at dksX1_deal_0 4 rfl rfl)
theorem dX1_deal_7 : decode cX1_deal 7 = .ok (.ifCond .eq 11, 3) := dk_153 0 11 (dk_at dksX1_deal_0 7 rfl rfl)
theorem dX1_deal_10 : decode cX1_deal 10 = .ok (.aload_n 0, 1) := dk_42 (dk_at dksX1_deal_0 10 rfl rfl)
theorem dX1_deal_11 : decode cX1_deal 11 = .ok (.iload_n 1, 1) := dk_27 (dk_at dksX1_deal_0 11 rfl rfl)
theorem dX1_deal_12 : decode cX1_deal 12 = .ok (.invokevirtual 325, 3) := dk_182 1 69 (dk_at dksX1_deal_0 12 rfl rfl)
theorem dX1_deal_15 : decode cX1_deal 15 = .ok (.ifCond .ne 5, 3) := dk_154 0 5 (dk_at dksX1_deal_0 15 rfl rfl)
theorem dX1_deal_18 : decode cX1_deal 18 = .ok (.iconst 0, 1) := dk_3 (dk_at dksX1_deal_0 18 rfl rfl)
theorem dX1_deal_19 : decode cX1_deal 19 = .ok (.ireturn, 1) := dk_172 (dk_at dksX1_deal_0 19 rfl rfl)
theorem dX1_deal_20 : decode cX1_deal 20 = .ok (.aload_n 0, 1) := dk_42 (dk_at dksX1_deal_0 20 rfl rfl)
theorem dX1_deal_21 : decode cX1_deal 21 = .ok (.invokevirtual 236, 3) := dk_182 0 236 (dk_at dksX1_deal_0 21 rfl rfl)
theorem dX1_deal_24 : decode cX1_deal 24 = .ok (.aload_n 0, 1) := dk_42 (dk_at dksX1_deal_1 0 rfl rfl)
theorem dX1_deal_25 : decode cX1_deal 25 = .ok (.getfield 30, 3) := dk_180 0 30 (dk_at dksX1_deal_1 1 rfl rfl)
theorem dX1_deal_28 : decode cX1_deal 28 = .ok (.aload_n 0, 1) := dk_42 (dk_at dksX1_deal_1 4 rfl rfl)
theorem dX1_deal_29 : decode cX1_deal 29 = .ok (.getfield 19, 3) := dk_180 0 19 (dk_at dksX1_deal_1 5 rfl rfl)
theorem dX1_deal_32 : decode cX1_deal 32 = .ok (.iload_n 1, 1) := dk_27 (dk_at dksX1_deal_1 8 rfl rfl)
theorem dX1_deal_33 : decode cX1_deal 33 = .ok (.iload_n 2, 1) := dk_28 (dk_at dksX1_deal_1 9 rfl rfl)
theorem dX1_deal_34 : decode cX1_deal 34 = .ok (.invokevirtual 328, 3) := dk_182 1 72 (dk_at dksX1_deal_1 10 rfl rfl)
theorem dX1_deal_37 : decode cX1_deal 37 = .ok (.pop, 1) := dk_87 (dk_at dksX1_deal_1 13 rfl rfl)
theorem dX1_deal_38 : decode cX1_deal 38 = .ok (.iconst 1, 1) := dk_4 (dk_at dksX1_deal_1 14 rfl rfl)
theorem dX1_deal_39 : decode cX1_deal 39 = .ok (.ireturn, 1) := dk_172 (dk_at dksX1_deal_1 15 rfl rfl)
abbrev cX1_canDeal : ByteArray := prog_1_method_45_code
def yX1_canDeal : MethodName := ⟨RX1, "canDeal", "(I)Z"⟩
def dkwX1_canDeal_2 : List UInt8 := [172]
abbrev dktX1_canDeal_2 : List UInt8 := dkwX1_canDeal_2 ++ []
def dkwX1_canDeal_1 : List UInt8 := [180, 0, 19, 182, 0, 213, 104, 7, 42, 180, 0, 19, 180, 0, 252, 104, 163, 0, 7, 4, 167, 0, 4, 3]
abbrev dktX1_canDeal_1 : List UInt8 := dkwX1_canDeal_1 ++ dktX1_canDeal_2
def dkwX1_canDeal_0 : List UInt8 := [42, 180, 0, 19, 182, 0, 213, 158, 0, 38, 42, 180, 0, 19, 180, 0, 252, 158, 0, 28, 27, 42]
abbrev dktX1_canDeal_0 : List UInt8 := dkwX1_canDeal_0 ++ dktX1_canDeal_1
theorem dksX1_canDeal_0 : cX1_canDeal.data.toList.drop 0 = dktX1_canDeal_0 := by decide +kernel
theorem dksX1_canDeal_1 : cX1_canDeal.data.toList.drop 22 = dktX1_canDeal_1 := dk_seg dksX1_canDeal_0 22 rfl rfl
theorem dksX1_canDeal_2 : cX1_canDeal.data.toList.drop 46 = dktX1_canDeal_2 := dk_seg dksX1_canDeal_1 24 rfl rfl
theorem dX1_canDeal_0 : decode cX1_canDeal 0 = .ok (.aload_n 0, 1) := dk_42 (dk_at dksX1_canDeal_0 0 rfl rfl)
theorem dX1_canDeal_1 : decode cX1_canDeal 1 = .ok (.getfield 19, 3) := dk_180 0 19 (dk_at dksX1_canDeal_0 1 rfl rfl)
theorem dX1_canDeal_4 : decode cX1_canDeal 4 = .ok (.invokevirtual 213, 3) := dk_182 0 213 (dk_at dksX1_canDeal_0 4 rfl rfl)
theorem dX1_canDeal_7 : decode cX1_canDeal 7 = .ok (.ifCond .le 38, 3) := dk_158 0 38 (dk_at dksX1_canDeal_0 7 rfl rfl)
theorem dX1_canDeal_10 : decode cX1_canDeal 10 = .ok (.aload_n 0, 1) := dk_42 (dk_at dksX1_canDeal_0 10 rfl rfl)
theorem dX1_canDeal_11 : decode cX1_canDeal 11 = .ok (.getfield 19, 3) := dk_180 0 19 (dk_at dksX1_canDeal_0 11 rfl rfl)
theorem dX1_canDeal_14 : decode cX1_canDeal 14 = .ok (.getfield 252, 3) := dk_180 0 252 (dk_at dksX1_canDeal_0 14 rfl rfl)
theorem dX1_canDeal_17 : decode cX1_canDeal 17 = .ok (.ifCond .le 28, 3) := dk_158 0 28 (dk_at dksX1_canDeal_0 17 rfl rfl)
theorem dX1_canDeal_20 : decode cX1_canDeal 20 = .ok (.iload_n 1, 1) := dk_27 (dk_at dksX1_canDeal_0 20 rfl rfl)
theorem dX1_canDeal_21 : decode cX1_canDeal 21 = .ok (.aload_n 0, 1) := dk_42 (dk_at dksX1_canDeal_0 21 rfl rfl)
theorem dX1_canDeal_22 : decode cX1_canDeal 22 = .ok (.getfield 19, 3) := dk_180 0 19 (dk_at dksX1_canDeal_1 0 rfl rfl)
theorem dX1_canDeal_25 : decode cX1_canDeal 25 = .ok (.invokevirtual 213, 3) := dk_182 0 213 (dk_at dksX1_canDeal_1 3 rfl rfl)
theorem dX1_canDeal_28 : decode cX1_canDeal 28 = .ok (.imul, 1) := dk_104 (dk_at dksX1_canDeal_1 6 rfl rfl)
theorem dX1_canDeal_29 : decode cX1_canDeal 29 = .ok (.iconst 4, 1) := dk_7 (dk_at dksX1_canDeal_1 7 rfl rfl)
theorem dX1_canDeal_30 : decode cX1_canDeal 30 = .ok (.aload_n 0, 1) := dk_42 (dk_at dksX1_canDeal_1 8 rfl rfl)
theorem dX1_canDeal_31 : decode cX1_canDeal 31 = .ok (.getfield 19, 3) := dk_180 0 19 (dk_at dksX1_canDeal_1 9 rfl rfl)
theorem dX1_canDeal_34 : decode cX1_canDeal 34 = .ok (.getfield 252, 3) := dk_180 0 252 (dk_at dksX1_canDeal_1 12 rfl rfl)
theorem dX1_canDeal_37 : decode cX1_canDeal 37 = .ok (.imul, 1) := dk_104 (dk_at dksX1_canDeal_1 15 rfl rfl)
theorem dX1_canDeal_38 : decode cX1_canDeal 38 = .ok (.if_icmp .gt 7, 3) := dk_163 0 7 (dk_at dksX1_canDeal_1 16 rfl rfl)
theorem dX1_canDeal_41 : decode cX1_canDeal 41 = .ok (.iconst 1, 1) := dk_4 (dk_at dksX1_canDeal_1 19 rfl rfl)
theorem dX1_canDeal_42 : decode cX1_canDeal 42 = .ok (.goto 4, 3) := dk_167 0 4 (dk_at dksX1_canDeal_1 20 rfl rfl)
theorem dX1_canDeal_45 : decode cX1_canDeal 45 = .ok (.iconst 0, 1) := dk_3 (dk_at dksX1_canDeal_1 23 rfl rfl)
theorem dX1_canDeal_46 : decode cX1_canDeal 46 = .ok (.ireturn, 1) := dk_172 (dk_at dksX1_canDeal_2 0 rfl rfl)
abbrev cX1_games : ByteArray := prog_1_method_48_code
def yX1_games : MethodName := ⟨RX1, "games", "(IIII)I"⟩
def dkwX1_games_0 : List UInt8 := [42, 27, 28, 29, 21, 4, 182, 1, 84, 172]
abbrev dktX1_games_0 : List UInt8 := dkwX1_games_0 ++ []
theorem dksX1_games_0 : cX1_games.data.toList.drop 0 = dktX1_games_0 := by decide +kernel
theorem dX1_games_0 : decode cX1_games 0 = .ok (.aload_n 0, 1) := dk_42 (dk_at dksX1_games_0 0 rfl rfl)
theorem dX1_games_1 : decode cX1_games 1 = .ok (.iload_n 1, 1) := dk_27 (dk_at dksX1_games_0 1 rfl rfl)
theorem dX1_games_2 : decode cX1_games 2 = .ok (.iload_n 2, 1) := dk_28 (dk_at dksX1_games_0 2 rfl rfl)
theorem dX1_games_3 : decode cX1_games 3 = .ok (.iload_n 3, 1) := dk_29 (dk_at dksX1_games_0 3 rfl rfl)
theorem dX1_games_4 : decode cX1_games 4 = .ok (.iload 4, 2) := dk_21 4 (dk_at dksX1_games_0 4 rfl rfl)
theorem dX1_games_6 : decode cX1_games 6 = .ok (.invokevirtual 340, 3) := dk_182 1 84 (dk_at dksX1_games_0 6 rfl rfl)
theorem dX1_games_9 : decode cX1_games 9 = .ok (.ireturn, 1) := dk_172 (dk_at dksX1_games_0 9 rfl rfl)
abbrev cX1_wins : ByteArray := prog_1_method_47_code
def yX1_wins : MethodName := ⟨RX1, "wins", "(IIII)I"⟩
def dkwX1_wins_9 : List UInt8 := [132, 6, 1, 167, 255, 108, 21, 5, 172]
abbrev dktX1_wins_9 : List UInt8 := dkwX1_wins_9 ++ []
def dkwX1_wins_8 : List UInt8 := [54, 8, 132, 9, 1, 167, 255, 225, 42, 180, 0, 34, 3, 182, 0, 160, 21, 8, 164, 0, 6, 132, 5, 1]
abbrev dktX1_wins_8 : List UInt8 := dkwX1_wins_8 ++ dktX1_wins_9
def dkwX1_wins_7 : List UInt8 := [180, 0, 19, 182, 0, 213, 162, 0, 25, 21, 8, 42, 180, 0, 34, 21, 9, 182, 0, 160, 184, 1, 79]
abbrev dktX1_wins_7 : List UInt8 := dkwX1_wins_7 ++ dktX1_wins_8
def dkwX1_wins_6 : List UInt8 := [167, 255, 208, 42, 89, 180, 1, 76, 21, 7, 96, 181, 1, 76, 3, 54, 8, 4, 54, 9, 21, 9, 42]
abbrev dktX1_wins_6 : List UInt8 := dkwX1_wins_6 ++ dktX1_wins_7
def dkwX1_wins_5 : List UInt8 := [42, 180, 0, 34, 180, 0, 198, 154, 0, 7, 27, 167, 0, 4, 28, 50, 184, 1, 66, 132, 7, 1]
abbrev dktX1_wins_5 : List UInt8 := dkwX1_wins_5 ++ dktX1_wins_6
def dkwX1_wins_4 : List UInt8 := [17, 1, 44, 162, 0, 46, 42, 180, 0, 34, 182, 1, 47, 154, 0, 36, 42, 180, 0, 34, 42, 180, 0, 85]
abbrev dktX1_wins_4 : List UInt8 := dkwX1_wins_4 ++ dktX1_wins_5
def dkwX1_wins_3 : List UInt8 := [180, 0, 34, 42, 180, 0, 19, 8, 21, 4, 21, 6, 96, 182, 1, 72, 87, 3, 54, 7, 21, 7]
abbrev dktX1_wins_3 : List UInt8 := dkwX1_wins_3 ++ dktX1_wins_4
def dkwX1_wins_2 : List UInt8 := [154, 0, 5, 2, 172, 3, 54, 5, 42, 3, 181, 1, 76, 3, 54, 6, 21, 6, 29, 162, 0, 148, 42]
abbrev dktX1_wins_2 : List UInt8 := dkwX1_wins_2 ++ dktX1_wins_3
def dkwX1_wins_1 : List UInt8 := [184, 0, 188, 153, 0, 22, 42, 180, 0, 19, 182, 0, 213, 5, 161, 0, 11, 42, 8, 182, 1, 69]
abbrev dktX1_wins_1 : List UInt8 := dkwX1_wins_1 ++ dktX1_wins_2
def dkwX1_wins_0 : List UInt8 := [27, 3, 6, 184, 0, 188, 153, 0, 41, 28, 3, 6, 184, 0, 188, 153, 0, 32, 29, 4, 16, 30]
abbrev dktX1_wins_0 : List UInt8 := dkwX1_wins_0 ++ dktX1_wins_1
theorem dksX1_wins_0 : cX1_wins.data.toList.drop 0 = dktX1_wins_0 := by decide +kernel
theorem dksX1_wins_1 : cX1_wins.data.toList.drop 22 = dktX1_wins_1 := dk_seg dksX1_wins_0 22 rfl rfl
theorem dksX1_wins_2 : cX1_wins.data.toList.drop 44 = dktX1_wins_2 := dk_seg dksX1_wins_1 22 rfl rfl
theorem dksX1_wins_3 : cX1_wins.data.toList.drop 67 = dktX1_wins_3 := dk_seg dksX1_wins_2 23 rfl rfl
theorem dksX1_wins_4 : cX1_wins.data.toList.drop 89 = dktX1_wins_4 := dk_seg dksX1_wins_3 22 rfl rfl
theorem dksX1_wins_5 : cX1_wins.data.toList.drop 113 = dktX1_wins_5 := dk_seg dksX1_wins_4 24 rfl rfl
theorem dksX1_wins_6 : cX1_wins.data.toList.drop 135 = dktX1_wins_6 := dk_seg dksX1_wins_5 22 rfl rfl
theorem dksX1_wins_7 : cX1_wins.data.toList.drop 158 = dktX1_wins_7 := dk_seg dksX1_wins_6 23 rfl rfl
theorem dksX1_wins_8 : cX1_wins.data.toList.drop 181 = dktX1_wins_8 := dk_seg dksX1_wins_7 23 rfl rfl
theorem dksX1_wins_9 : cX1_wins.data.toList.drop 205 = dktX1_wins_9 := dk_seg dksX1_wins_8 24 rfl rfl
theorem dX1_wins_0 : decode cX1_wins 0 = .ok (.iload_n 1, 1) := dk_27 (dk_at dksX1_wins_0 0 rfl rfl)
theorem dX1_wins_1 : decode cX1_wins 1 = .ok (.iconst 0, 1) := dk_3 (dk_at dksX1_wins_0 1 rfl rfl)
theorem dX1_wins_2 : decode cX1_wins 2 = .ok (.iconst 3, 1) := dk_6 (dk_at dksX1_wins_0 2 rfl rfl)
theorem dX1_wins_3 : decode cX1_wins 3 = .ok (.invokestatic 188, 3) := dk_184 0 188 (dk_at dksX1_wins_0 3 rfl rfl)
theorem dX1_wins_6 : decode cX1_wins 6 = .ok (.ifCond .eq 41, 3) := dk_153 0 41 (dk_at dksX1_wins_0 6 rfl rfl)
theorem dX1_wins_9 : decode cX1_wins 9 = .ok (.iload_n 2, 1) := dk_28 (dk_at dksX1_wins_0 9 rfl rfl)
theorem dX1_wins_10 : decode cX1_wins 10 = .ok (.iconst 0, 1) := dk_3 (dk_at dksX1_wins_0 10 rfl rfl)
theorem dX1_wins_11 : decode cX1_wins 11 = .ok (.iconst 3, 1) := dk_6 (dk_at dksX1_wins_0 11 rfl rfl)
theorem dX1_wins_12 : decode cX1_wins 12 = .ok (.invokestatic 188, 3) := dk_184 0 188 (dk_at dksX1_wins_0 12 rfl rfl)
theorem dX1_wins_15 : decode cX1_wins 15 = .ok (.ifCond .eq 32, 3) := dk_153 0 32 (dk_at dksX1_wins_0 15 rfl rfl)
theorem dX1_wins_18 : decode cX1_wins 18 = .ok (.iload_n 3, 1) := dk_29 (dk_at dksX1_wins_0 18 rfl rfl)
theorem dX1_wins_19 : decode cX1_wins 19 = .ok (.iconst 1, 1) := dk_4 (dk_at dksX1_wins_0 19 rfl rfl)
theorem dX1_wins_20 : decode cX1_wins 20 = .ok (.bipush 30, 2) := dk_16 30 (dk_at dksX1_wins_0 20 rfl rfl)
theorem dX1_wins_22 : decode cX1_wins 22 = .ok (.invokestatic 188, 3) := dk_184 0 188 (dk_at dksX1_wins_1 0 rfl rfl)
theorem dX1_wins_25 : decode cX1_wins 25 = .ok (.ifCond .eq 22, 3) := dk_153 0 22 (dk_at dksX1_wins_1 3 rfl rfl)
theorem dX1_wins_28 : decode cX1_wins 28 = .ok (.aload_n 0, 1) := dk_42 (dk_at dksX1_wins_1 6 rfl rfl)
theorem dX1_wins_29 : decode cX1_wins 29 = .ok (.getfield 19, 3) := dk_180 0 19 (dk_at dksX1_wins_1 7 rfl rfl)
theorem dX1_wins_32 : decode cX1_wins 32 = .ok (.invokevirtual 213, 3) := dk_182 0 213 (dk_at dksX1_wins_1 10 rfl rfl)
theorem dX1_wins_35 : decode cX1_wins 35 = .ok (.iconst 2, 1) := dk_5 (dk_at dksX1_wins_1 13 rfl rfl)
theorem dX1_wins_36 : decode cX1_wins 36 = .ok (.if_icmp .lt 11, 3) := dk_161 0 11 (dk_at dksX1_wins_1 14 rfl rfl)
theorem dX1_wins_39 : decode cX1_wins 39 = .ok (.aload_n 0, 1) := dk_42 (dk_at dksX1_wins_1 17 rfl rfl)
theorem dX1_wins_40 : decode cX1_wins 40 = .ok (.iconst 5, 1) := dk_8 (dk_at dksX1_wins_1 18 rfl rfl)
theorem dX1_wins_41 : decode cX1_wins 41 = .ok (.invokevirtual 325, 3) := dk_182 1 69 (dk_at dksX1_wins_1 19 rfl rfl)
theorem dX1_wins_44 : decode cX1_wins 44 = .ok (.ifCond .ne 5, 3) := dk_154 0 5 (dk_at dksX1_wins_2 0 rfl rfl)
theorem dX1_wins_47 : decode cX1_wins 47 = .ok (.iconst (-1), 1) := dk_2 (dk_at dksX1_wins_2 3 rfl rfl)
theorem dX1_wins_48 : decode cX1_wins 48 = .ok (.ireturn, 1) := dk_172 (dk_at dksX1_wins_2 4 rfl rfl)
theorem dX1_wins_49 : decode cX1_wins 49 = .ok (.iconst 0, 1) := dk_3 (dk_at dksX1_wins_2 5 rfl rfl)
theorem dX1_wins_50 : decode cX1_wins 50 = .ok (.istore 5, 2) := dk_54 5 (dk_at dksX1_wins_2 6 rfl rfl)
theorem dX1_wins_52 : decode cX1_wins 52 = .ok (.aload_n 0, 1) := dk_42 (dk_at dksX1_wins_2 8 rfl rfl)
theorem dX1_wins_53 : decode cX1_wins 53 = .ok (.iconst 0, 1) := dk_3 (dk_at dksX1_wins_2 9 rfl rfl)
theorem dX1_wins_54 : decode cX1_wins 54 = .ok (.putfield 332, 3) := dk_181 1 76 (dk_at dksX1_wins_2 10 rfl rfl)
theorem dX1_wins_57 : decode cX1_wins 57 = .ok (.iconst 0, 1) := dk_3 (dk_at dksX1_wins_2 13 rfl rfl)
theorem dX1_wins_58 : decode cX1_wins 58 = .ok (.istore 6, 2) := dk_54 6 (dk_at dksX1_wins_2 14 rfl rfl)
theorem dX1_wins_60 : decode cX1_wins 60 = .ok (.iload 6, 2) := dk_21 6 (dk_at dksX1_wins_2 16 rfl rfl)
theorem dX1_wins_62 : decode cX1_wins 62 = .ok (.iload_n 3, 1) := dk_29 (dk_at dksX1_wins_2 18 rfl rfl)
theorem dX1_wins_63 : decode cX1_wins 63 = .ok (.if_icmp .ge 148, 3) := dk_162 0 148 (dk_at dksX1_wins_2 19 rfl rfl)
theorem dX1_wins_66 : decode cX1_wins 66 = .ok (.aload_n 0, 1) := dk_42 (dk_at dksX1_wins_2 22 rfl rfl)
theorem dX1_wins_67 : decode cX1_wins 67 = .ok (.getfield 34, 3) := dk_180 0 34 (dk_at dksX1_wins_3 0 rfl rfl)
theorem dX1_wins_70 : decode cX1_wins 70 = .ok (.aload_n 0, 1) := dk_42 (dk_at dksX1_wins_3 3 rfl rfl)
theorem dX1_wins_71 : decode cX1_wins 71 = .ok (.getfield 19, 3) := dk_180 0 19 (dk_at dksX1_wins_3 4 rfl rfl)
theorem dX1_wins_74 : decode cX1_wins 74 = .ok (.iconst 5, 1) := dk_8 (dk_at dksX1_wins_3 7 rfl rfl)
theorem dX1_wins_75 : decode cX1_wins 75 = .ok (.iload 4, 2) := dk_21 4 (dk_at dksX1_wins_3 8 rfl rfl)
theorem dX1_wins_77 : decode cX1_wins 77 = .ok (.iload 6, 2) := dk_21 6 (dk_at dksX1_wins_3 10 rfl rfl)
theorem dX1_wins_79 : decode cX1_wins 79 = .ok (.iadd, 1) := dk_96 (dk_at dksX1_wins_3 12 rfl rfl)
theorem dX1_wins_80 : decode cX1_wins 80 = .ok (.invokevirtual 328, 3) := dk_182 1 72 (dk_at dksX1_wins_3 13 rfl rfl)
theorem dX1_wins_83 : decode cX1_wins 83 = .ok (.pop, 1) := dk_87 (dk_at dksX1_wins_3 16 rfl rfl)
theorem dX1_wins_84 : decode cX1_wins 84 = .ok (.iconst 0, 1) := dk_3 (dk_at dksX1_wins_3 17 rfl rfl)
theorem dX1_wins_85 : decode cX1_wins 85 = .ok (.istore 7, 2) := dk_54 7 (dk_at dksX1_wins_3 18 rfl rfl)
theorem dX1_wins_87 : decode cX1_wins 87 = .ok (.iload 7, 2) := dk_21 7 (dk_at dksX1_wins_3 20 rfl rfl)
theorem dX1_wins_89 : decode cX1_wins 89 = .ok (.sipush 300, 3) := dk_17 1 44 (dk_at dksX1_wins_4 0 rfl rfl)
theorem dX1_wins_92 : decode cX1_wins 92 = .ok (.if_icmp .ge 46, 3) := dk_162 0 46 (dk_at dksX1_wins_4 3 rfl rfl)
theorem dX1_wins_95 : decode cX1_wins 95 = .ok (.aload_n 0, 1) := dk_42 (dk_at dksX1_wins_4 6 rfl rfl)
theorem dX1_wins_96 : decode cX1_wins 96 = .ok (.getfield 34, 3) := dk_180 0 34 (dk_at dksX1_wins_4 7 rfl rfl)
theorem dX1_wins_99 : decode cX1_wins 99 = .ok (.invokevirtual 303, 3) := dk_182 1 47 (dk_at dksX1_wins_4 10 rfl rfl)
theorem dX1_wins_102 : decode cX1_wins 102 = .ok (.ifCond .ne 36, 3) := dk_154 0 36 (dk_at dksX1_wins_4 13 rfl rfl)
theorem dX1_wins_105 : decode cX1_wins 105 = .ok (.aload_n 0, 1) := dk_42 (dk_at dksX1_wins_4 16 rfl rfl)
theorem dX1_wins_106 : decode cX1_wins 106 = .ok (.getfield 34, 3) := dk_180 0 34 (dk_at dksX1_wins_4 17 rfl rfl)
theorem dX1_wins_109 : decode cX1_wins 109 = .ok (.aload_n 0, 1) := dk_42 (dk_at dksX1_wins_4 20 rfl rfl)
theorem dX1_wins_110 : decode cX1_wins 110 = .ok (.getfield 85, 3) := dk_180 0 85 (dk_at dksX1_wins_4 21 rfl rfl)
theorem dX1_wins_113 : decode cX1_wins 113 = .ok (.aload_n 0, 1) := dk_42 (dk_at dksX1_wins_5 0 rfl rfl)
theorem dX1_wins_114 : decode cX1_wins 114 = .ok (.getfield 34, 3) := dk_180 0 34 (dk_at dksX1_wins_5 1 rfl rfl)
theorem dX1_wins_117 : decode cX1_wins 117 = .ok (.getfield 198, 3) := dk_180 0 198 (dk_at dksX1_wins_5 4 rfl rfl)
theorem dX1_wins_120 : decode cX1_wins 120 = .ok (.ifCond .ne 7, 3) := dk_154 0 7 (dk_at dksX1_wins_5 7 rfl rfl)
theorem dX1_wins_123 : decode cX1_wins 123 = .ok (.iload_n 1, 1) := dk_27 (dk_at dksX1_wins_5 10 rfl rfl)
theorem dX1_wins_124 : decode cX1_wins 124 = .ok (.goto 4, 3) := dk_167 0 4 (dk_at dksX1_wins_5 11 rfl rfl)
theorem dX1_wins_127 : decode cX1_wins 127 = .ok (.iload_n 2, 1) := dk_28 (dk_at dksX1_wins_5 14 rfl rfl)
theorem dX1_wins_128 : decode cX1_wins 128 = .ok (.aaload, 1) := dk_50 (dk_at dksX1_wins_5 15 rfl rfl)
theorem dX1_wins_129 : decode cX1_wins 129 = .ok (.invokestatic 322, 3) := dk_184 1 66 (dk_at dksX1_wins_5 16 rfl rfl)
theorem dX1_wins_132 : decode cX1_wins 132 = .ok (.iinc 7 1, 3) := dk_132 7 1 (dk_at dksX1_wins_5 19 rfl rfl)
theorem dX1_wins_135 : decode cX1_wins 135 = .ok (.goto (-48), 3) := dk_167 255 208 (dk_at dksX1_wins_6 0 rfl rfl)
theorem dX1_wins_138 : decode cX1_wins 138 = .ok (.aload_n 0, 1) := dk_42 (dk_at dksX1_wins_6 3 rfl rfl)
theorem dX1_wins_139 : decode cX1_wins 139 = .ok (.dup, 1) := dk_89 (dk_at dksX1_wins_6 4 rfl rfl)
theorem dX1_wins_140 : decode cX1_wins 140 = .ok (.getfield 332, 3) := dk_180 1 76 (dk_at dksX1_wins_6 5 rfl rfl)
theorem dX1_wins_143 : decode cX1_wins 143 = .ok (.iload 7, 2) := dk_21 7 (dk_at dksX1_wins_6 8 rfl rfl)
theorem dX1_wins_145 : decode cX1_wins 145 = .ok (.iadd, 1) := dk_96 (dk_at dksX1_wins_6 10 rfl rfl)
theorem dX1_wins_146 : decode cX1_wins 146 = .ok (.putfield 332, 3) := dk_181 1 76 (dk_at dksX1_wins_6 11 rfl rfl)
theorem dX1_wins_149 : decode cX1_wins 149 = .ok (.iconst 0, 1) := dk_3 (dk_at dksX1_wins_6 14 rfl rfl)
theorem dX1_wins_150 : decode cX1_wins 150 = .ok (.istore 8, 2) := dk_54 8 (dk_at dksX1_wins_6 15 rfl rfl)
theorem dX1_wins_152 : decode cX1_wins 152 = .ok (.iconst 1, 1) := dk_4 (dk_at dksX1_wins_6 17 rfl rfl)
theorem dX1_wins_153 : decode cX1_wins 153 = .ok (.istore 9, 2) := dk_54 9 (dk_at dksX1_wins_6 18 rfl rfl)
theorem dX1_wins_155 : decode cX1_wins 155 = .ok (.iload 9, 2) := dk_21 9 (dk_at dksX1_wins_6 20 rfl rfl)
theorem dX1_wins_157 : decode cX1_wins 157 = .ok (.aload_n 0, 1) := dk_42 (dk_at dksX1_wins_6 22 rfl rfl)
theorem dX1_wins_158 : decode cX1_wins 158 = .ok (.getfield 19, 3) := dk_180 0 19 (dk_at dksX1_wins_7 0 rfl rfl)
theorem dX1_wins_161 : decode cX1_wins 161 = .ok (.invokevirtual 213, 3) := dk_182 0 213 (dk_at dksX1_wins_7 3 rfl rfl)
theorem dX1_wins_164 : decode cX1_wins 164 = .ok (.if_icmp .ge 25, 3) := dk_162 0 25 (dk_at dksX1_wins_7 6 rfl rfl)
theorem dX1_wins_167 : decode cX1_wins 167 = .ok (.iload 8, 2) := dk_21 8 (dk_at dksX1_wins_7 9 rfl rfl)
theorem dX1_wins_169 : decode cX1_wins 169 = .ok (.aload_n 0, 1) := dk_42 (dk_at dksX1_wins_7 11 rfl rfl)
theorem dX1_wins_170 : decode cX1_wins 170 = .ok (.getfield 34, 3) := dk_180 0 34 (dk_at dksX1_wins_7 12 rfl rfl)
theorem dX1_wins_173 : decode cX1_wins 173 = .ok (.iload 9, 2) := dk_21 9 (dk_at dksX1_wins_7 15 rfl rfl)
theorem dX1_wins_175 : decode cX1_wins 175 = .ok (.invokevirtual 160, 3) := dk_182 0 160 (dk_at dksX1_wins_7 17 rfl rfl)
theorem dX1_wins_178 : decode cX1_wins 178 = .ok (.invokestatic 335, 3) := dk_184 1 79 (dk_at dksX1_wins_7 20 rfl rfl)
theorem dX1_wins_181 : decode cX1_wins 181 = .ok (.istore 8, 2) := dk_54 8 (dk_at dksX1_wins_8 0 rfl rfl)
theorem dX1_wins_183 : decode cX1_wins 183 = .ok (.iinc 9 1, 3) := dk_132 9 1 (dk_at dksX1_wins_8 2 rfl rfl)
theorem dX1_wins_186 : decode cX1_wins 186 = .ok (.goto (-31), 3) := dk_167 255 225 (dk_at dksX1_wins_8 5 rfl rfl)
theorem dX1_wins_189 : decode cX1_wins 189 = .ok (.aload_n 0, 1) := dk_42 (dk_at dksX1_wins_8 8 rfl rfl)
theorem dX1_wins_190 : decode cX1_wins 190 = .ok (.getfield 34, 3) := dk_180 0 34 (dk_at dksX1_wins_8 9 rfl rfl)
theorem dX1_wins_193 : decode cX1_wins 193 = .ok (.iconst 0, 1) := dk_3 (dk_at dksX1_wins_8 12 rfl rfl)
theorem dX1_wins_194 : decode cX1_wins 194 = .ok (.invokevirtual 160, 3) := dk_182 0 160 (dk_at dksX1_wins_8 13 rfl rfl)
theorem dX1_wins_197 : decode cX1_wins 197 = .ok (.iload 8, 2) := dk_21 8 (dk_at dksX1_wins_8 16 rfl rfl)
theorem dX1_wins_199 : decode cX1_wins 199 = .ok (.if_icmp .le 6, 3) := dk_164 0 6 (dk_at dksX1_wins_8 18 rfl rfl)
theorem dX1_wins_202 : decode cX1_wins 202 = .ok (.iinc 5 1, 3) := dk_132 5 1 (dk_at dksX1_wins_8 21 rfl rfl)
theorem dX1_wins_205 : decode cX1_wins 205 = .ok (.iinc 6 1, 3) := dk_132 6 1 (dk_at dksX1_wins_9 0 rfl rfl)
theorem dX1_wins_208 : decode cX1_wins 208 = .ok (.goto (-148), 3) := dk_167 255 108 (dk_at dksX1_wins_9 3 rfl rfl)
theorem dX1_wins_211 : decode cX1_wins 211 = .ok (.iload 5, 2) := dk_21 5 (dk_at dksX1_wins_9 6 rfl rfl)
theorem dX1_wins_213 : decode cX1_wins 213 = .ok (.ireturn, 1) := dk_172 (dk_at dksX1_wins_9 8 rfl rfl)
abbrev cX1_length : ByteArray := prog_1_method_49_code
def yX1_length : MethodName := ⟨RX1, "length", "(IIII)I"⟩
def dkwX1_length_0 : List UInt8 := [42, 27, 28, 29, 21, 4, 182, 1, 84, 2, 160, 0, 7, 2, 167, 0, 7, 42, 180, 1, 76, 172]
abbrev dktX1_length_0 : List UInt8 := dkwX1_length_0 ++ []
theorem dksX1_length_0 : cX1_length.data.toList.drop 0 = dktX1_length_0 := by decide +kernel
theorem dX1_length_0 : decode cX1_length 0 = .ok (.aload_n 0, 1) := dk_42 (dk_at dksX1_length_0 0 rfl rfl)
theorem dX1_length_1 : decode cX1_length 1 = .ok (.iload_n 1, 1) := dk_27 (dk_at dksX1_length_0 1 rfl rfl)
theorem dX1_length_2 : decode cX1_length 2 = .ok (.iload_n 2, 1) := dk_28 (dk_at dksX1_length_0 2 rfl rfl)
theorem dX1_length_3 : decode cX1_length 3 = .ok (.iload_n 3, 1) := dk_29 (dk_at dksX1_length_0 3 rfl rfl)
theorem dX1_length_4 : decode cX1_length 4 = .ok (.iload 4, 2) := dk_21 4 (dk_at dksX1_length_0 4 rfl rfl)
theorem dX1_length_6 : decode cX1_length 6 = .ok (.invokevirtual 340, 3) := dk_182 1 84 (dk_at dksX1_length_0 6 rfl rfl)
theorem dX1_length_9 : decode cX1_length 9 = .ok (.iconst (-1), 1) := dk_2 (dk_at dksX1_length_0 9 rfl rfl)
theorem dX1_length_10 : decode cX1_length 10 = .ok (.if_icmp .ne 7, 3) := dk_160 0 7 (dk_at dksX1_length_0 10 rfl rfl)
theorem dX1_length_13 : decode cX1_length 13 = .ok (.iconst (-1), 1) := dk_2 (dk_at dksX1_length_0 13 rfl rfl)
theorem dX1_length_14 : decode cX1_length 14 = .ok (.goto 7, 3) := dk_167 0 7 (dk_at dksX1_length_0 14 rfl rfl)
theorem dX1_length_17 : decode cX1_length 17 = .ok (.aload_n 0, 1) := dk_42 (dk_at dksX1_length_0 17 rfl rfl)
theorem dX1_length_18 : decode cX1_length 18 = .ok (.getfield 332, 3) := dk_180 1 76 (dk_at dksX1_length_0 18 rfl rfl)
theorem dX1_length_21 : decode cX1_length 21 = .ok (.ireturn, 1) := dk_172 (dk_at dksX1_length_0 21 rfl rfl)
abbrev cX1_reply : ByteArray := prog_1_method_50_code
def yX1_reply : MethodName := ⟨RX1, "reply", "(III)I"⟩
def dkwX1_reply_2 : List UInt8 := [167, 255, 218, 21, 4, 172]
abbrev dktX1_reply_2 : List UInt8 := dkwX1_reply_2 ++ []
def dkwX1_reply_1 : List UInt8 := [54, 7, 21, 7, 21, 5, 163, 0, 6, 167, 0, 11, 21, 7, 54, 5, 21, 6, 54, 4, 132, 6, 1]
abbrev dktX1_reply_1 : List UInt8 := dkwX1_reply_1 ++ dktX1_reply_2
def dkwX1_reply_0 : List UInt8 := [2, 54, 4, 2, 54, 5, 3, 54, 6, 21, 6, 7, 162, 0, 38, 42, 21, 6, 27, 28, 29, 182, 1, 84]
abbrev dktX1_reply_0 : List UInt8 := dkwX1_reply_0 ++ dktX1_reply_1
theorem dksX1_reply_0 : cX1_reply.data.toList.drop 0 = dktX1_reply_0 := by decide +kernel
theorem dksX1_reply_1 : cX1_reply.data.toList.drop 24 = dktX1_reply_1 := dk_seg dksX1_reply_0 24 rfl rfl
theorem dksX1_reply_2 : cX1_reply.data.toList.drop 47 = dktX1_reply_2 := dk_seg dksX1_reply_1 23 rfl rfl
theorem dX1_reply_0 : decode cX1_reply 0 = .ok (.iconst (-1), 1) := dk_2 (dk_at dksX1_reply_0 0 rfl rfl)
theorem dX1_reply_1 : decode cX1_reply 1 = .ok (.istore 4, 2) := dk_54 4 (dk_at dksX1_reply_0 1 rfl rfl)
theorem dX1_reply_3 : decode cX1_reply 3 = .ok (.iconst (-1), 1) := dk_2 (dk_at dksX1_reply_0 3 rfl rfl)
theorem dX1_reply_4 : decode cX1_reply 4 = .ok (.istore 5, 2) := dk_54 5 (dk_at dksX1_reply_0 4 rfl rfl)
theorem dX1_reply_6 : decode cX1_reply 6 = .ok (.iconst 0, 1) := dk_3 (dk_at dksX1_reply_0 6 rfl rfl)
theorem dX1_reply_7 : decode cX1_reply 7 = .ok (.istore 6, 2) := dk_54 6 (dk_at dksX1_reply_0 7 rfl rfl)
theorem dX1_reply_9 : decode cX1_reply 9 = .ok (.iload 6, 2) := dk_21 6 (dk_at dksX1_reply_0 9 rfl rfl)
theorem dX1_reply_11 : decode cX1_reply 11 = .ok (.iconst 4, 1) := dk_7 (dk_at dksX1_reply_0 11 rfl rfl)
theorem dX1_reply_12 : decode cX1_reply 12 = .ok (.if_icmp .ge 38, 3) := dk_162 0 38 (dk_at dksX1_reply_0 12 rfl rfl)
theorem dX1_reply_15 : decode cX1_reply 15 = .ok (.aload_n 0, 1) := dk_42 (dk_at dksX1_reply_0 15 rfl rfl)
theorem dX1_reply_16 : decode cX1_reply 16 = .ok (.iload 6, 2) := dk_21 6 (dk_at dksX1_reply_0 16 rfl rfl)
theorem dX1_reply_18 : decode cX1_reply 18 = .ok (.iload_n 1, 1) := dk_27 (dk_at dksX1_reply_0 18 rfl rfl)
theorem dX1_reply_19 : decode cX1_reply 19 = .ok (.iload_n 2, 1) := dk_28 (dk_at dksX1_reply_0 19 rfl rfl)
theorem dX1_reply_20 : decode cX1_reply 20 = .ok (.iload_n 3, 1) := dk_29 (dk_at dksX1_reply_0 20 rfl rfl)
theorem dX1_reply_21 : decode cX1_reply 21 = .ok (.invokevirtual 340, 3) := dk_182 1 84 (dk_at dksX1_reply_0 21 rfl rfl)
theorem dX1_reply_24 : decode cX1_reply 24 = .ok (.istore 7, 2) := dk_54 7 (dk_at dksX1_reply_1 0 rfl rfl)
theorem dX1_reply_26 : decode cX1_reply 26 = .ok (.iload 7, 2) := dk_21 7 (dk_at dksX1_reply_1 2 rfl rfl)
theorem dX1_reply_28 : decode cX1_reply 28 = .ok (.iload 5, 2) := dk_21 5 (dk_at dksX1_reply_1 4 rfl rfl)
theorem dX1_reply_30 : decode cX1_reply 30 = .ok (.if_icmp .gt 6, 3) := dk_163 0 6 (dk_at dksX1_reply_1 6 rfl rfl)
theorem dX1_reply_33 : decode cX1_reply 33 = .ok (.goto 11, 3) := dk_167 0 11 (dk_at dksX1_reply_1 9 rfl rfl)
theorem dX1_reply_36 : decode cX1_reply 36 = .ok (.iload 7, 2) := dk_21 7 (dk_at dksX1_reply_1 12 rfl rfl)
theorem dX1_reply_38 : decode cX1_reply 38 = .ok (.istore 5, 2) := dk_54 5 (dk_at dksX1_reply_1 14 rfl rfl)
theorem dX1_reply_40 : decode cX1_reply 40 = .ok (.iload 6, 2) := dk_21 6 (dk_at dksX1_reply_1 16 rfl rfl)
theorem dX1_reply_42 : decode cX1_reply 42 = .ok (.istore 4, 2) := dk_54 4 (dk_at dksX1_reply_1 18 rfl rfl)
theorem dX1_reply_44 : decode cX1_reply 44 = .ok (.iinc 6 1, 3) := dk_132 6 1 (dk_at dksX1_reply_1 20 rfl rfl)
theorem dX1_reply_47 : decode cX1_reply 47 = .ok (.goto (-38), 3) := dk_167 255 218 (dk_at dksX1_reply_2 0 rfl rfl)
theorem dX1_reply_50 : decode cX1_reply 50 = .ok (.iload 4, 2) := dk_21 4 (dk_at dksX1_reply_2 3 rfl rfl)
theorem dX1_reply_52 : decode cX1_reply 52 = .ok (.ireturn, 1) := dk_172 (dk_at dksX1_reply_2 5 rfl rfl)
abbrev cX1_leader : ByteArray := prog_1_method_51_code
def yX1_leader : MethodName := ⟨RX1, "leader", "()I"⟩
def dkwX1_leader_2 : List UInt8 := [172]
abbrev dktX1_leader_2 : List UInt8 := dkwX1_leader_2 ++ []
def dkwX1_leader_1 : List UInt8 := [28, 182, 0, 160, 42, 180, 0, 30, 27, 182, 0, 160, 164, 0, 5, 28, 60, 132, 2, 1, 167, 255, 216, 27]
abbrev dktX1_leader_1 : List UInt8 := dkwX1_leader_1 ++ dktX1_leader_2
def dkwX1_leader_0 : List UInt8 := [2, 60, 3, 61, 28, 42, 180, 0, 19, 182, 0, 213, 162, 0, 35, 27, 2, 159, 0, 22, 42, 180, 0, 30]
abbrev dktX1_leader_0 : List UInt8 := dkwX1_leader_0 ++ dktX1_leader_1
theorem dksX1_leader_0 : cX1_leader.data.toList.drop 0 = dktX1_leader_0 := by decide +kernel
theorem dksX1_leader_1 : cX1_leader.data.toList.drop 24 = dktX1_leader_1 := dk_seg dksX1_leader_0 24 rfl rfl
theorem dksX1_leader_2 : cX1_leader.data.toList.drop 48 = dktX1_leader_2 := dk_seg dksX1_leader_1 24 rfl rfl
theorem dX1_leader_0 : decode cX1_leader 0 = .ok (.iconst (-1), 1) := dk_2 (dk_at dksX1_leader_0 0 rfl rfl)
theorem dX1_leader_1 : decode cX1_leader 1 = .ok (.istore_n 1, 1) := dk_60 (dk_at dksX1_leader_0 1 rfl rfl)
theorem dX1_leader_2 : decode cX1_leader 2 = .ok (.iconst 0, 1) := dk_3 (dk_at dksX1_leader_0 2 rfl rfl)
theorem dX1_leader_3 : decode cX1_leader 3 = .ok (.istore_n 2, 1) := dk_61 (dk_at dksX1_leader_0 3 rfl rfl)
theorem dX1_leader_4 : decode cX1_leader 4 = .ok (.iload_n 2, 1) := dk_28 (dk_at dksX1_leader_0 4 rfl rfl)
theorem dX1_leader_5 : decode cX1_leader 5 = .ok (.aload_n 0, 1) := dk_42 (dk_at dksX1_leader_0 5 rfl rfl)
theorem dX1_leader_6 : decode cX1_leader 6 = .ok (.getfield 19, 3) := dk_180 0 19 (dk_at dksX1_leader_0 6 rfl rfl)
theorem dX1_leader_9 : decode cX1_leader 9 = .ok (.invokevirtual 213, 3) := dk_182 0 213 (dk_at dksX1_leader_0 9 rfl rfl)
theorem dX1_leader_12 : decode cX1_leader 12 = .ok (.if_icmp .ge 35, 3) := dk_162 0 35 (dk_at dksX1_leader_0 12 rfl rfl)
theorem dX1_leader_15 : decode cX1_leader 15 = .ok (.iload_n 1, 1) := dk_27 (dk_at dksX1_leader_0 15 rfl rfl)
theorem dX1_leader_16 : decode cX1_leader 16 = .ok (.iconst (-1), 1) := dk_2 (dk_at dksX1_leader_0 16 rfl rfl)
theorem dX1_leader_17 : decode cX1_leader 17 = .ok (.if_icmp .eq 22, 3) := dk_159 0 22 (dk_at dksX1_leader_0 17 rfl rfl)
theorem dX1_leader_20 : decode cX1_leader 20 = .ok (.aload_n 0, 1) := dk_42 (dk_at dksX1_leader_0 20 rfl rfl)
theorem dX1_leader_21 : decode cX1_leader 21 = .ok (.getfield 30, 3) := dk_180 0 30 (dk_at dksX1_leader_0 21 rfl rfl)
theorem dX1_leader_24 : decode cX1_leader 24 = .ok (.iload_n 2, 1) := dk_28 (dk_at dksX1_leader_1 0 rfl rfl)
theorem dX1_leader_25 : decode cX1_leader 25 = .ok (.invokevirtual 160, 3) := dk_182 0 160 (dk_at dksX1_leader_1 1 rfl rfl)
theorem dX1_leader_28 : decode cX1_leader 28 = .ok (.aload_n 0, 1) := dk_42 (dk_at dksX1_leader_1 4 rfl rfl)
theorem dX1_leader_29 : decode cX1_leader 29 = .ok (.getfield 30, 3) := dk_180 0 30 (dk_at dksX1_leader_1 5 rfl rfl)
theorem dX1_leader_32 : decode cX1_leader 32 = .ok (.iload_n 1, 1) := dk_27 (dk_at dksX1_leader_1 8 rfl rfl)
theorem dX1_leader_33 : decode cX1_leader 33 = .ok (.invokevirtual 160, 3) := dk_182 0 160 (dk_at dksX1_leader_1 9 rfl rfl)
theorem dX1_leader_36 : decode cX1_leader 36 = .ok (.if_icmp .le 5, 3) := dk_164 0 5 (dk_at dksX1_leader_1 12 rfl rfl)
theorem dX1_leader_39 : decode cX1_leader 39 = .ok (.iload_n 2, 1) := dk_28 (dk_at dksX1_leader_1 15 rfl rfl)
theorem dX1_leader_40 : decode cX1_leader 40 = .ok (.istore_n 1, 1) := dk_60 (dk_at dksX1_leader_1 16 rfl rfl)
theorem dX1_leader_41 : decode cX1_leader 41 = .ok (.iinc 2 1, 3) := dk_132 2 1 (dk_at dksX1_leader_1 17 rfl rfl)
theorem dX1_leader_44 : decode cX1_leader 44 = .ok (.goto (-40), 3) := dk_167 255 216 (dk_at dksX1_leader_1 20 rfl rfl)
theorem dX1_leader_47 : decode cX1_leader 47 = .ok (.iload_n 1, 1) := dk_27 (dk_at dksX1_leader_1 23 rfl rfl)
theorem dX1_leader_48 : decode cX1_leader 48 = .ok (.ireturn, 1) := dk_172 (dk_at dksX1_leader_2 0 rfl rfl)
abbrev cX1_evening : ByteArray := prog_1_method_52_code
def yX1_evening : MethodName := ⟨RX1, "evening", "(I)I"⟩
def dkwX1_evening_6 : List UInt8 := [181, 0, 111, 16, 254, 45, 180, 0, 138, 100, 172]
abbrev dktX1_evening_6 : List UInt8 := dkwX1_evening_6 ++ []
def dkwX1_evening_5 : List UInt8 := [42, 180, 0, 34, 182, 0, 223, 87, 42, 182, 0, 242, 45, 180, 1, 100, 172, 78, 42, 45, 180, 0, 135]
abbrev dktX1_evening_5 : List UInt8 := dkwX1_evening_5 ++ dktX1_evening_6
def dkwX1_evening_4 : List UInt8 := [180, 0, 198, 79, 27, 4, 160, 0, 30, 45, 180, 1, 99, 158, 0, 23, 42, 182, 0, 236, 42, 180, 0, 30]
abbrev dktX1_evening_4 : List UInt8 := dkwX1_evening_4 ++ dktX1_evening_5
def dkwX1_evening_3 : List UInt8 := [42, 180, 0, 89, 5, 42, 180, 0, 34, 182, 0, 204, 79, 42, 180, 0, 89, 6, 42, 180, 0, 34]
abbrev dktX1_evening_3 : List UInt8 := dkwX1_evening_3 ++ dktX1_evening_4
def dkwX1_evening_2 : List UInt8 := [182, 1, 93, 78, 42, 180, 0, 89, 3, 45, 180, 1, 96, 79, 42, 180, 0, 89, 4, 45, 180, 1, 99, 79]
abbrev dktX1_evening_2 : List UInt8 := dkwX1_evening_2 ++ dktX1_evening_3
def dkwX1_evening_1 : List UInt8 := [187, 1, 88, 89, 42, 180, 0, 12, 28, 42, 180, 0, 34, 42, 180, 0, 30, 182, 0, 223, 183, 1, 90]
abbrev dktX1_evening_1 : List UInt8 := dkwX1_evening_1 ++ dktX1_evening_2
def dkwX1_evening_0 : List UInt8 := [27, 3, 4, 184, 0, 188, 154, 0, 7, 17, 252, 24, 172, 42, 182, 0, 107, 61, 42, 3, 181, 0, 111]
abbrev dktX1_evening_0 : List UInt8 := dkwX1_evening_0 ++ dktX1_evening_1
theorem dksX1_evening_0 : cX1_evening.data.toList.drop 0 = dktX1_evening_0 := by decide +kernel
theorem dksX1_evening_1 : cX1_evening.data.toList.drop 23 = dktX1_evening_1 := dk_seg dksX1_evening_0 23 rfl rfl
theorem dksX1_evening_2 : cX1_evening.data.toList.drop 46 = dktX1_evening_2 := dk_seg dksX1_evening_1 23 rfl rfl
theorem dksX1_evening_3 : cX1_evening.data.toList.drop 70 = dktX1_evening_3 := dk_seg dksX1_evening_2 24 rfl rfl
theorem dksX1_evening_4 : cX1_evening.data.toList.drop 92 = dktX1_evening_4 := dk_seg dksX1_evening_3 22 rfl rfl
theorem dksX1_evening_5 : cX1_evening.data.toList.drop 116 = dktX1_evening_5 := dk_seg dksX1_evening_4 24 rfl rfl
theorem dksX1_evening_6 : cX1_evening.data.toList.drop 139 = dktX1_evening_6 := dk_seg dksX1_evening_5 23 rfl rfl
theorem dX1_evening_0 : decode cX1_evening 0 = .ok (.iload_n 1, 1) := dk_27 (dk_at dksX1_evening_0 0 rfl rfl)
theorem dX1_evening_1 : decode cX1_evening 1 = .ok (.iconst 0, 1) := dk_3 (dk_at dksX1_evening_0 1 rfl rfl)
theorem dX1_evening_2 : decode cX1_evening 2 = .ok (.iconst 1, 1) := dk_4 (dk_at dksX1_evening_0 2 rfl rfl)
theorem dX1_evening_3 : decode cX1_evening 3 = .ok (.invokestatic 188, 3) := dk_184 0 188 (dk_at dksX1_evening_0 3 rfl rfl)
theorem dX1_evening_6 : decode cX1_evening 6 = .ok (.ifCond .ne 7, 3) := dk_154 0 7 (dk_at dksX1_evening_0 6 rfl rfl)
theorem dX1_evening_9 : decode cX1_evening 9 = .ok (.sipush (-1000), 3) := dk_17 252 24 (dk_at dksX1_evening_0 9 rfl rfl)
theorem dX1_evening_12 : decode cX1_evening 12 = .ok (.ireturn, 1) := dk_172 (dk_at dksX1_evening_0 12 rfl rfl)
theorem dX1_evening_13 : decode cX1_evening 13 = .ok (.aload_n 0, 1) := dk_42 (dk_at dksX1_evening_0 13 rfl rfl)
theorem dX1_evening_14 : decode cX1_evening 14 = .ok (.invokevirtual 107, 3) := dk_182 0 107 (dk_at dksX1_evening_0 14 rfl rfl)
theorem dX1_evening_17 : decode cX1_evening 17 = .ok (.istore_n 2, 1) := dk_61 (dk_at dksX1_evening_0 17 rfl rfl)
theorem dX1_evening_18 : decode cX1_evening 18 = .ok (.aload_n 0, 1) := dk_42 (dk_at dksX1_evening_0 18 rfl rfl)
theorem dX1_evening_19 : decode cX1_evening 19 = .ok (.iconst 0, 1) := dk_3 (dk_at dksX1_evening_0 19 rfl rfl)
theorem dX1_evening_20 : decode cX1_evening 20 = .ok (.putfield 111, 3) := dk_181 0 111 (dk_at dksX1_evening_0 20 rfl rfl)
theorem dX1_evening_23 : decode cX1_evening 23 = .ok (.new 344, 3) := dk_187 1 88 (dk_at dksX1_evening_1 0 rfl rfl)
theorem dX1_evening_26 : decode cX1_evening 26 = .ok (.dup, 1) := dk_89 (dk_at dksX1_evening_1 3 rfl rfl)
theorem dX1_evening_27 : decode cX1_evening 27 = .ok (.aload_n 0, 1) := dk_42 (dk_at dksX1_evening_1 4 rfl rfl)
theorem dX1_evening_28 : decode cX1_evening 28 = .ok (.getfield 12, 3) := dk_180 0 12 (dk_at dksX1_evening_1 5 rfl rfl)
theorem dX1_evening_31 : decode cX1_evening 31 = .ok (.iload_n 2, 1) := dk_28 (dk_at dksX1_evening_1 8 rfl rfl)
theorem dX1_evening_32 : decode cX1_evening 32 = .ok (.aload_n 0, 1) := dk_42 (dk_at dksX1_evening_1 9 rfl rfl)
theorem dX1_evening_33 : decode cX1_evening 33 = .ok (.getfield 34, 3) := dk_180 0 34 (dk_at dksX1_evening_1 10 rfl rfl)
theorem dX1_evening_36 : decode cX1_evening 36 = .ok (.aload_n 0, 1) := dk_42 (dk_at dksX1_evening_1 13 rfl rfl)
theorem dX1_evening_37 : decode cX1_evening 37 = .ok (.getfield 30, 3) := dk_180 0 30 (dk_at dksX1_evening_1 14 rfl rfl)
theorem dX1_evening_40 : decode cX1_evening 40 = .ok (.invokevirtual 223, 3) := dk_182 0 223 (dk_at dksX1_evening_1 17 rfl rfl)
theorem dX1_evening_43 : decode cX1_evening 43 = .ok (.invokespecial 346, 3) := dk_183 1 90 (dk_at dksX1_evening_1 20 rfl rfl)
theorem dX1_evening_46 : decode cX1_evening 46 = .ok (.invokevirtual 349, 3) := dk_182 1 93 (dk_at dksX1_evening_2 0 rfl rfl)
theorem dX1_evening_49 : decode cX1_evening 49 = .ok (.astore_n 3, 1) := dk_78 (dk_at dksX1_evening_2 3 rfl rfl)
theorem dX1_evening_50 : decode cX1_evening 50 = .ok (.aload_n 0, 1) := dk_42 (dk_at dksX1_evening_2 4 rfl rfl)
theorem dX1_evening_51 : decode cX1_evening 51 = .ok (.getfield 89, 3) := dk_180 0 89 (dk_at dksX1_evening_2 5 rfl rfl)
theorem dX1_evening_54 : decode cX1_evening 54 = .ok (.iconst 0, 1) := dk_3 (dk_at dksX1_evening_2 8 rfl rfl)
theorem dX1_evening_55 : decode cX1_evening 55 = .ok (.aload_n 3, 1) := dk_45 (dk_at dksX1_evening_2 9 rfl rfl)
theorem dX1_evening_56 : decode cX1_evening 56 = .ok (.getfield 352, 3) := dk_180 1 96 (dk_at dksX1_evening_2 10 rfl rfl)
theorem dX1_evening_59 : decode cX1_evening 59 = .ok (.iastore, 1) := dk_79 (dk_at dksX1_evening_2 13 rfl rfl)
theorem dX1_evening_60 : decode cX1_evening 60 = .ok (.aload_n 0, 1) := dk_42 (dk_at dksX1_evening_2 14 rfl rfl)
theorem dX1_evening_61 : decode cX1_evening 61 = .ok (.getfield 89, 3) := dk_180 0 89 (dk_at dksX1_evening_2 15 rfl rfl)
theorem dX1_evening_64 : decode cX1_evening 64 = .ok (.iconst 1, 1) := dk_4 (dk_at dksX1_evening_2 18 rfl rfl)
theorem dX1_evening_65 : decode cX1_evening 65 = .ok (.aload_n 3, 1) := dk_45 (dk_at dksX1_evening_2 19 rfl rfl)
theorem dX1_evening_66 : decode cX1_evening 66 = .ok (.getfield 355, 3) := dk_180 1 99 (dk_at dksX1_evening_2 20 rfl rfl)
theorem dX1_evening_69 : decode cX1_evening 69 = .ok (.iastore, 1) := dk_79 (dk_at dksX1_evening_2 23 rfl rfl)
theorem dX1_evening_70 : decode cX1_evening 70 = .ok (.aload_n 0, 1) := dk_42 (dk_at dksX1_evening_3 0 rfl rfl)
theorem dX1_evening_71 : decode cX1_evening 71 = .ok (.getfield 89, 3) := dk_180 0 89 (dk_at dksX1_evening_3 1 rfl rfl)
theorem dX1_evening_74 : decode cX1_evening 74 = .ok (.iconst 2, 1) := dk_5 (dk_at dksX1_evening_3 4 rfl rfl)
theorem dX1_evening_75 : decode cX1_evening 75 = .ok (.aload_n 0, 1) := dk_42 (dk_at dksX1_evening_3 5 rfl rfl)
theorem dX1_evening_76 : decode cX1_evening 76 = .ok (.getfield 34, 3) := dk_180 0 34 (dk_at dksX1_evening_3 6 rfl rfl)
theorem dX1_evening_79 : decode cX1_evening 79 = .ok (.invokevirtual 204, 3) := dk_182 0 204 (dk_at dksX1_evening_3 9 rfl rfl)
theorem dX1_evening_82 : decode cX1_evening 82 = .ok (.iastore, 1) := dk_79 (dk_at dksX1_evening_3 12 rfl rfl)
theorem dX1_evening_83 : decode cX1_evening 83 = .ok (.aload_n 0, 1) := dk_42 (dk_at dksX1_evening_3 13 rfl rfl)
theorem dX1_evening_84 : decode cX1_evening 84 = .ok (.getfield 89, 3) := dk_180 0 89 (dk_at dksX1_evening_3 14 rfl rfl)
theorem dX1_evening_87 : decode cX1_evening 87 = .ok (.iconst 3, 1) := dk_6 (dk_at dksX1_evening_3 17 rfl rfl)
theorem dX1_evening_88 : decode cX1_evening 88 = .ok (.aload_n 0, 1) := dk_42 (dk_at dksX1_evening_3 18 rfl rfl)
theorem dX1_evening_89 : decode cX1_evening 89 = .ok (.getfield 34, 3) := dk_180 0 34 (dk_at dksX1_evening_3 19 rfl rfl)
theorem dX1_evening_92 : decode cX1_evening 92 = .ok (.getfield 198, 3) := dk_180 0 198 (dk_at dksX1_evening_4 0 rfl rfl)
theorem dX1_evening_95 : decode cX1_evening 95 = .ok (.iastore, 1) := dk_79 (dk_at dksX1_evening_4 3 rfl rfl)
theorem dX1_evening_96 : decode cX1_evening 96 = .ok (.iload_n 1, 1) := dk_27 (dk_at dksX1_evening_4 4 rfl rfl)
theorem dX1_evening_97 : decode cX1_evening 97 = .ok (.iconst 1, 1) := dk_4 (dk_at dksX1_evening_4 5 rfl rfl)
theorem dX1_evening_98 : decode cX1_evening 98 = .ok (.if_icmp .ne 30, 3) := dk_160 0 30 (dk_at dksX1_evening_4 6 rfl rfl)
theorem dX1_evening_101 : decode cX1_evening 101 = .ok (.aload_n 3, 1) := dk_45 (dk_at dksX1_evening_4 9 rfl rfl)
theorem dX1_evening_102 : decode cX1_evening 102 = .ok (.getfield 355, 3) := dk_180 1 99 (dk_at dksX1_evening_4 10 rfl rfl)
theorem dX1_evening_105 : decode cX1_evening 105 = .ok (.ifCond .le 23, 3) := dk_158 0 23 (dk_at dksX1_evening_4 13 rfl rfl)
theorem dX1_evening_108 : decode cX1_evening 108 = .ok (.aload_n 0, 1) := dk_42 (dk_at dksX1_evening_4 16 rfl rfl)
theorem dX1_evening_109 : decode cX1_evening 109 = .ok (.invokevirtual 236, 3) := dk_182 0 236 (dk_at dksX1_evening_4 17 rfl rfl)
theorem dX1_evening_112 : decode cX1_evening 112 = .ok (.aload_n 0, 1) := dk_42 (dk_at dksX1_evening_4 20 rfl rfl)
theorem dX1_evening_113 : decode cX1_evening 113 = .ok (.getfield 30, 3) := dk_180 0 30 (dk_at dksX1_evening_4 21 rfl rfl)
theorem dX1_evening_116 : decode cX1_evening 116 = .ok (.aload_n 0, 1) := dk_42 (dk_at dksX1_evening_5 0 rfl rfl)
theorem dX1_evening_117 : decode cX1_evening 117 = .ok (.getfield 34, 3) := dk_180 0 34 (dk_at dksX1_evening_5 1 rfl rfl)
theorem dX1_evening_120 : decode cX1_evening 120 = .ok (.invokevirtual 223, 3) := dk_182 0 223 (dk_at dksX1_evening_5 4 rfl rfl)
theorem dX1_evening_123 : decode cX1_evening 123 = .ok (.pop, 1) := dk_87 (dk_at dksX1_evening_5 7 rfl rfl)
theorem dX1_evening_124 : decode cX1_evening 124 = .ok (.aload_n 0, 1) := dk_42 (dk_at dksX1_evening_5 8 rfl rfl)
theorem dX1_evening_125 : decode cX1_evening 125 = .ok (.invokevirtual 242, 3) := dk_182 0 242 (dk_at dksX1_evening_5 9 rfl rfl)
theorem dX1_evening_128 : decode cX1_evening 128 = .ok (.aload_n 3, 1) := dk_45 (dk_at dksX1_evening_5 12 rfl rfl)
theorem dX1_evening_129 : decode cX1_evening 129 = .ok (.getfield 356, 3) := dk_180 1 100 (dk_at dksX1_evening_5 13 rfl rfl)
theorem dX1_evening_132 : decode cX1_evening 132 = .ok (.ireturn, 1) := dk_172 (dk_at dksX1_evening_5 16 rfl rfl)
theorem dX1_evening_133 : decode cX1_evening 133 = .ok (.astore_n 3, 1) := dk_78 (dk_at dksX1_evening_5 17 rfl rfl)
theorem dX1_evening_134 : decode cX1_evening 134 = .ok (.aload_n 0, 1) := dk_42 (dk_at dksX1_evening_5 18 rfl rfl)
theorem dX1_evening_135 : decode cX1_evening 135 = .ok (.aload_n 3, 1) := dk_45 (dk_at dksX1_evening_5 19 rfl rfl)
theorem dX1_evening_136 : decode cX1_evening 136 = .ok (.getfield 135, 3) := dk_180 0 135 (dk_at dksX1_evening_5 20 rfl rfl)
theorem dX1_evening_139 : decode cX1_evening 139 = .ok (.putfield 111, 3) := dk_181 0 111 (dk_at dksX1_evening_6 0 rfl rfl)
theorem dX1_evening_142 : decode cX1_evening 142 = .ok (.bipush (-2), 2) := dk_16 254 (dk_at dksX1_evening_6 3 rfl rfl)
theorem dX1_evening_144 : decode cX1_evening 144 = .ok (.aload_n 3, 1) := dk_45 (dk_at dksX1_evening_6 5 rfl rfl)
theorem dX1_evening_145 : decode cX1_evening 145 = .ok (.getfield 138, 3) := dk_180 0 138 (dk_at dksX1_evening_6 6 rfl rfl)
theorem dX1_evening_148 : decode cX1_evening 148 = .ok (.isub, 1) := dk_100 (dk_at dksX1_evening_6 9 rfl rfl)
theorem dX1_evening_149 : decode cX1_evening 149 = .ok (.ireturn, 1) := dk_172 (dk_at dksX1_evening_6 10 rfl rfl)
abbrev cX1_heard : ByteArray := prog_1_method_53_code
def yX1_heard : MethodName := ⟨RX1, "heard", "(I)I"⟩
def dkwX1_heard_0 : List UInt8 := [27, 3, 6, 184, 0, 188, 153, 0, 12, 42, 180, 0, 89, 27, 46, 167, 0, 4, 2, 172]
abbrev dktX1_heard_0 : List UInt8 := dkwX1_heard_0 ++ []
theorem dksX1_heard_0 : cX1_heard.data.toList.drop 0 = dktX1_heard_0 := by decide +kernel
theorem dX1_heard_0 : decode cX1_heard 0 = .ok (.iload_n 1, 1) := dk_27 (dk_at dksX1_heard_0 0 rfl rfl)
theorem dX1_heard_1 : decode cX1_heard 1 = .ok (.iconst 0, 1) := dk_3 (dk_at dksX1_heard_0 1 rfl rfl)
theorem dX1_heard_2 : decode cX1_heard 2 = .ok (.iconst 3, 1) := dk_6 (dk_at dksX1_heard_0 2 rfl rfl)
theorem dX1_heard_3 : decode cX1_heard 3 = .ok (.invokestatic 188, 3) := dk_184 0 188 (dk_at dksX1_heard_0 3 rfl rfl)
theorem dX1_heard_6 : decode cX1_heard 6 = .ok (.ifCond .eq 12, 3) := dk_153 0 12 (dk_at dksX1_heard_0 6 rfl rfl)
theorem dX1_heard_9 : decode cX1_heard 9 = .ok (.aload_n 0, 1) := dk_42 (dk_at dksX1_heard_0 9 rfl rfl)
theorem dX1_heard_10 : decode cX1_heard 10 = .ok (.getfield 89, 3) := dk_180 0 89 (dk_at dksX1_heard_0 10 rfl rfl)
theorem dX1_heard_13 : decode cX1_heard 13 = .ok (.iload_n 1, 1) := dk_27 (dk_at dksX1_heard_0 13 rfl rfl)
theorem dX1_heard_14 : decode cX1_heard 14 = .ok (.iaload, 1) := dk_46 (dk_at dksX1_heard_0 14 rfl rfl)
theorem dX1_heard_15 : decode cX1_heard 15 = .ok (.goto 4, 3) := dk_167 0 4 (dk_at dksX1_heard_0 15 rfl rfl)
theorem dX1_heard_18 : decode cX1_heard 18 = .ok (.iconst (-1), 1) := dk_2 (dk_at dksX1_heard_0 18 rfl rfl)
theorem dX1_heard_19 : decode cX1_heard 19 = .ok (.ireturn, 1) := dk_172 (dk_at dksX1_heard_0 19 rfl rfl)
abbrev cX1_sentence : ByteArray := prog_1_method_54_code
def yX1_sentence : MethodName := ⟨RX1, "sentence", "()I"⟩
def dkwX1_sentence_2 : List UInt8 := [181, 0, 111, 2, 44, 180, 0, 138, 100, 172]
abbrev dktX1_sentence_2 : List UInt8 := dkwX1_sentence_2 ++ []
def dkwX1_sentence_1 : List UInt8 := [183, 1, 105, 77, 42, 44, 182, 1, 108, 181, 0, 123, 44, 180, 1, 111, 172, 77, 42, 44, 180, 0, 135]
abbrev dktX1_sentence_1 : List UInt8 := dkwX1_sentence_1 ++ dktX1_sentence_2
def dkwX1_sentence_0 : List UInt8 := [42, 182, 0, 107, 60, 42, 3, 181, 0, 111, 187, 1, 103, 89, 42, 180, 0, 12, 27, 42, 180, 0, 19]
abbrev dktX1_sentence_0 : List UInt8 := dkwX1_sentence_0 ++ dktX1_sentence_1
theorem dksX1_sentence_0 : cX1_sentence.data.toList.drop 0 = dktX1_sentence_0 := by decide +kernel
theorem dksX1_sentence_1 : cX1_sentence.data.toList.drop 23 = dktX1_sentence_1 := dk_seg dksX1_sentence_0 23 rfl rfl
theorem dksX1_sentence_2 : cX1_sentence.data.toList.drop 46 = dktX1_sentence_2 := dk_seg dksX1_sentence_1 23 rfl rfl
theorem dX1_sentence_0 : decode cX1_sentence 0 = .ok (.aload_n 0, 1) := dk_42 (dk_at dksX1_sentence_0 0 rfl rfl)
theorem dX1_sentence_1 : decode cX1_sentence 1 = .ok (.invokevirtual 107, 3) := dk_182 0 107 (dk_at dksX1_sentence_0 1 rfl rfl)
theorem dX1_sentence_4 : decode cX1_sentence 4 = .ok (.istore_n 1, 1) := dk_60 (dk_at dksX1_sentence_0 4 rfl rfl)
theorem dX1_sentence_5 : decode cX1_sentence 5 = .ok (.aload_n 0, 1) := dk_42 (dk_at dksX1_sentence_0 5 rfl rfl)
theorem dX1_sentence_6 : decode cX1_sentence 6 = .ok (.iconst 0, 1) := dk_3 (dk_at dksX1_sentence_0 6 rfl rfl)
theorem dX1_sentence_7 : decode cX1_sentence 7 = .ok (.putfield 111, 3) := dk_181 0 111 (dk_at dksX1_sentence_0 7 rfl rfl)
theorem dX1_sentence_10 : decode cX1_sentence 10 = .ok (.new 359, 3) := dk_187 1 103 (dk_at dksX1_sentence_0 10 rfl rfl)
theorem dX1_sentence_13 : decode cX1_sentence 13 = .ok (.dup, 1) := dk_89 (dk_at dksX1_sentence_0 13 rfl rfl)
theorem dX1_sentence_14 : decode cX1_sentence 14 = .ok (.aload_n 0, 1) := dk_42 (dk_at dksX1_sentence_0 14 rfl rfl)
theorem dX1_sentence_15 : decode cX1_sentence 15 = .ok (.getfield 12, 3) := dk_180 0 12 (dk_at dksX1_sentence_0 15 rfl rfl)
theorem dX1_sentence_18 : decode cX1_sentence 18 = .ok (.iload_n 1, 1) := dk_27 (dk_at dksX1_sentence_0 18 rfl rfl)
theorem dX1_sentence_19 : decode cX1_sentence 19 = .ok (.aload_n 0, 1) := dk_42 (dk_at dksX1_sentence_0 19 rfl rfl)
theorem dX1_sentence_20 : decode cX1_sentence 20 = .ok (.getfield 19, 3) := dk_180 0 19 (dk_at dksX1_sentence_0 20 rfl rfl)
theorem dX1_sentence_23 : decode cX1_sentence 23 = .ok (.invokespecial 361, 3) := dk_183 1 105 (dk_at dksX1_sentence_1 0 rfl rfl)
theorem dX1_sentence_26 : decode cX1_sentence 26 = .ok (.astore_n 2, 1) := dk_77 (dk_at dksX1_sentence_1 3 rfl rfl)
theorem dX1_sentence_27 : decode cX1_sentence 27 = .ok (.aload_n 0, 1) := dk_42 (dk_at dksX1_sentence_1 4 rfl rfl)
theorem dX1_sentence_28 : decode cX1_sentence 28 = .ok (.aload_n 2, 1) := dk_44 (dk_at dksX1_sentence_1 5 rfl rfl)
theorem dX1_sentence_29 : decode cX1_sentence 29 = .ok (.invokevirtual 364, 3) := dk_182 1 108 (dk_at dksX1_sentence_1 6 rfl rfl)
theorem dX1_sentence_32 : decode cX1_sentence 32 = .ok (.putfield 123, 3) := dk_181 0 123 (dk_at dksX1_sentence_1 9 rfl rfl)
theorem dX1_sentence_35 : decode cX1_sentence 35 = .ok (.aload_n 2, 1) := dk_44 (dk_at dksX1_sentence_1 12 rfl rfl)
theorem dX1_sentence_36 : decode cX1_sentence 36 = .ok (.getfield 367, 3) := dk_180 1 111 (dk_at dksX1_sentence_1 13 rfl rfl)
theorem dX1_sentence_39 : decode cX1_sentence 39 = .ok (.ireturn, 1) := dk_172 (dk_at dksX1_sentence_1 16 rfl rfl)
theorem dX1_sentence_40 : decode cX1_sentence 40 = .ok (.astore_n 2, 1) := dk_77 (dk_at dksX1_sentence_1 17 rfl rfl)
theorem dX1_sentence_41 : decode cX1_sentence 41 = .ok (.aload_n 0, 1) := dk_42 (dk_at dksX1_sentence_1 18 rfl rfl)
theorem dX1_sentence_42 : decode cX1_sentence 42 = .ok (.aload_n 2, 1) := dk_44 (dk_at dksX1_sentence_1 19 rfl rfl)
theorem dX1_sentence_43 : decode cX1_sentence 43 = .ok (.getfield 135, 3) := dk_180 0 135 (dk_at dksX1_sentence_1 20 rfl rfl)
theorem dX1_sentence_46 : decode cX1_sentence 46 = .ok (.putfield 111, 3) := dk_181 0 111 (dk_at dksX1_sentence_2 0 rfl rfl)
theorem dX1_sentence_49 : decode cX1_sentence 49 = .ok (.iconst (-1), 1) := dk_2 (dk_at dksX1_sentence_2 3 rfl rfl)
theorem dX1_sentence_50 : decode cX1_sentence 50 = .ok (.aload_n 2, 1) := dk_44 (dk_at dksX1_sentence_2 4 rfl rfl)
theorem dX1_sentence_51 : decode cX1_sentence 51 = .ok (.getfield 138, 3) := dk_180 0 138 (dk_at dksX1_sentence_2 5 rfl rfl)
theorem dX1_sentence_54 : decode cX1_sentence 54 = .ok (.isub, 1) := dk_100 (dk_at dksX1_sentence_2 8 rfl rfl)
theorem dX1_sentence_55 : decode cX1_sentence 55 = .ok (.ireturn, 1) := dk_172 (dk_at dksX1_sentence_2 9 rfl rfl)
abbrev cX1_said : ByteArray := prog_1_method_55_code
def yX1_said : MethodName := ⟨RX1, "said", "(I)I"⟩
def dkwX1_said_2 : List UInt8 := [172, 132, 2, 1, 132, 3, 1, 167, 255, 214, 27, 2, 160, 0, 7, 28, 167, 0, 4, 2, 172]
abbrev dktX1_said_2 : List UInt8 := dkwX1_said_2 ++ []
def dkwX1_said_1 : List UInt8 := [42, 180, 0, 123, 42, 180, 0, 30, 29, 182, 1, 114, 154, 0, 6, 167, 0, 13, 28, 27, 160, 0, 5, 29]
abbrev dktX1_said_1 : List UInt8 := dkwX1_said_1 ++ dktX1_said_2
def dkwX1_said_0 : List UInt8 := [42, 180, 0, 123, 199, 0, 5, 2, 172, 3, 61, 3, 62, 29, 42, 180, 0, 19, 180, 0, 252, 162, 0, 37]
abbrev dktX1_said_0 : List UInt8 := dkwX1_said_0 ++ dktX1_said_1
theorem dksX1_said_0 : cX1_said.data.toList.drop 0 = dktX1_said_0 := by decide +kernel
theorem dksX1_said_1 : cX1_said.data.toList.drop 24 = dktX1_said_1 := dk_seg dksX1_said_0 24 rfl rfl
theorem dksX1_said_2 : cX1_said.data.toList.drop 48 = dktX1_said_2 := dk_seg dksX1_said_1 24 rfl rfl
theorem dX1_said_0 : decode cX1_said 0 = .ok (.aload_n 0, 1) := dk_42 (dk_at dksX1_said_0 0 rfl rfl)
theorem dX1_said_1 : decode cX1_said 1 = .ok (.getfield 123, 3) := dk_180 0 123 (dk_at dksX1_said_0 1 rfl rfl)
theorem dX1_said_4 : decode cX1_said 4 = .ok (.ifnonnull 5, 3) := dk_199 0 5 (dk_at dksX1_said_0 4 rfl rfl)
theorem dX1_said_7 : decode cX1_said 7 = .ok (.iconst (-1), 1) := dk_2 (dk_at dksX1_said_0 7 rfl rfl)
theorem dX1_said_8 : decode cX1_said 8 = .ok (.ireturn, 1) := dk_172 (dk_at dksX1_said_0 8 rfl rfl)
theorem dX1_said_9 : decode cX1_said 9 = .ok (.iconst 0, 1) := dk_3 (dk_at dksX1_said_0 9 rfl rfl)
theorem dX1_said_10 : decode cX1_said 10 = .ok (.istore_n 2, 1) := dk_61 (dk_at dksX1_said_0 10 rfl rfl)
theorem dX1_said_11 : decode cX1_said 11 = .ok (.iconst 0, 1) := dk_3 (dk_at dksX1_said_0 11 rfl rfl)
theorem dX1_said_12 : decode cX1_said 12 = .ok (.istore_n 3, 1) := dk_62 (dk_at dksX1_said_0 12 rfl rfl)
theorem dX1_said_13 : decode cX1_said 13 = .ok (.iload_n 3, 1) := dk_29 (dk_at dksX1_said_0 13 rfl rfl)
theorem dX1_said_14 : decode cX1_said 14 = .ok (.aload_n 0, 1) := dk_42 (dk_at dksX1_said_0 14 rfl rfl)
theorem dX1_said_15 : decode cX1_said 15 = .ok (.getfield 19, 3) := dk_180 0 19 (dk_at dksX1_said_0 15 rfl rfl)
theorem dX1_said_18 : decode cX1_said 18 = .ok (.getfield 252, 3) := dk_180 0 252 (dk_at dksX1_said_0 18 rfl rfl)
theorem dX1_said_21 : decode cX1_said 21 = .ok (.if_icmp .ge 37, 3) := dk_162 0 37 (dk_at dksX1_said_0 21 rfl rfl)
theorem dX1_said_24 : decode cX1_said 24 = .ok (.aload_n 0, 1) := dk_42 (dk_at dksX1_said_1 0 rfl rfl)
theorem dX1_said_25 : decode cX1_said 25 = .ok (.getfield 123, 3) := dk_180 0 123 (dk_at dksX1_said_1 1 rfl rfl)
theorem dX1_said_28 : decode cX1_said 28 = .ok (.aload_n 0, 1) := dk_42 (dk_at dksX1_said_1 4 rfl rfl)
theorem dX1_said_29 : decode cX1_said 29 = .ok (.getfield 30, 3) := dk_180 0 30 (dk_at dksX1_said_1 5 rfl rfl)
theorem dX1_said_32 : decode cX1_said 32 = .ok (.iload_n 3, 1) := dk_29 (dk_at dksX1_said_1 8 rfl rfl)
theorem dX1_said_33 : decode cX1_said 33 = .ok (.invokevirtual 370, 3) := dk_182 1 114 (dk_at dksX1_said_1 9 rfl rfl)
theorem dX1_said_36 : decode cX1_said 36 = .ok (.ifCond .ne 6, 3) := dk_154 0 6 (dk_at dksX1_said_1 12 rfl rfl)
theorem dX1_said_39 : decode cX1_said 39 = .ok (.goto 13, 3) := dk_167 0 13 (dk_at dksX1_said_1 15 rfl rfl)
theorem dX1_said_42 : decode cX1_said 42 = .ok (.iload_n 2, 1) := dk_28 (dk_at dksX1_said_1 18 rfl rfl)
theorem dX1_said_43 : decode cX1_said 43 = .ok (.iload_n 1, 1) := dk_27 (dk_at dksX1_said_1 19 rfl rfl)
theorem dX1_said_44 : decode cX1_said 44 = .ok (.if_icmp .ne 5, 3) := dk_160 0 5 (dk_at dksX1_said_1 20 rfl rfl)
theorem dX1_said_47 : decode cX1_said 47 = .ok (.iload_n 3, 1) := dk_29 (dk_at dksX1_said_1 23 rfl rfl)
theorem dX1_said_48 : decode cX1_said 48 = .ok (.ireturn, 1) := dk_172 (dk_at dksX1_said_2 0 rfl rfl)
theorem dX1_said_49 : decode cX1_said 49 = .ok (.iinc 2 1, 3) := dk_132 2 1 (dk_at dksX1_said_2 1 rfl rfl)
theorem dX1_said_52 : decode cX1_said 52 = .ok (.iinc 3 1, 3) := dk_132 3 1 (dk_at dksX1_said_2 4 rfl rfl)
theorem dX1_said_55 : decode cX1_said 55 = .ok (.goto (-42), 3) := dk_167 255 214 (dk_at dksX1_said_2 7 rfl rfl)
theorem dX1_said_58 : decode cX1_said 58 = .ok (.iload_n 1, 1) := dk_27 (dk_at dksX1_said_2 10 rfl rfl)
theorem dX1_said_59 : decode cX1_said 59 = .ok (.iconst (-1), 1) := dk_2 (dk_at dksX1_said_2 11 rfl rfl)
theorem dX1_said_60 : decode cX1_said 60 = .ok (.if_icmp .ne 7, 3) := dk_160 0 7 (dk_at dksX1_said_2 12 rfl rfl)
theorem dX1_said_63 : decode cX1_said 63 = .ok (.iload_n 2, 1) := dk_28 (dk_at dksX1_said_2 15 rfl rfl)
theorem dX1_said_64 : decode cX1_said 64 = .ok (.goto 4, 3) := dk_167 0 4 (dk_at dksX1_said_2 16 rfl rfl)
theorem dX1_said_67 : decode cX1_said 67 = .ok (.iconst (-1), 1) := dk_2 (dk_at dksX1_said_2 19 rfl rfl)
theorem dX1_said_68 : decode cX1_said 68 = .ok (.ireturn, 1) := dk_172 (dk_at dksX1_said_2 20 rfl rfl)
abbrev cX1_image : ByteArray := prog_1_method_56_code
def yX1_image : MethodName := ⟨RX1, "image", "(I)Z"⟩
def dkwX1_image_2 : List UInt8 := [180, 0, 30, 182, 0, 223, 87, 4, 172]
abbrev dktX1_image_2 : List UInt8 := dkwX1_image_2 ++ []
def dkwX1_image_1 : List UInt8 := [42, 180, 0, 95, 27, 50, 42, 180, 0, 123, 181, 1, 121, 42, 180, 0, 95, 27, 50, 180, 1, 122, 42]
abbrev dktX1_image_1 : List UInt8 := dkwX1_image_1 ++ dktX1_image_2
def dkwX1_image_0 : List UInt8 := [27, 3, 4, 184, 0, 188, 154, 0, 5, 3, 172, 42, 180, 0, 95, 27, 50, 42, 180, 0, 19, 181, 1, 120]
abbrev dktX1_image_0 : List UInt8 := dkwX1_image_0 ++ dktX1_image_1
theorem dksX1_image_0 : cX1_image.data.toList.drop 0 = dktX1_image_0 := by decide +kernel
theorem dksX1_image_1 : cX1_image.data.toList.drop 24 = dktX1_image_1 := dk_seg dksX1_image_0 24 rfl rfl
theorem dksX1_image_2 : cX1_image.data.toList.drop 47 = dktX1_image_2 := dk_seg dksX1_image_1 23 rfl rfl
theorem dX1_image_0 : decode cX1_image 0 = .ok (.iload_n 1, 1) := dk_27 (dk_at dksX1_image_0 0 rfl rfl)
theorem dX1_image_1 : decode cX1_image 1 = .ok (.iconst 0, 1) := dk_3 (dk_at dksX1_image_0 1 rfl rfl)
theorem dX1_image_2 : decode cX1_image 2 = .ok (.iconst 1, 1) := dk_4 (dk_at dksX1_image_0 2 rfl rfl)
theorem dX1_image_3 : decode cX1_image 3 = .ok (.invokestatic 188, 3) := dk_184 0 188 (dk_at dksX1_image_0 3 rfl rfl)
theorem dX1_image_6 : decode cX1_image 6 = .ok (.ifCond .ne 5, 3) := dk_154 0 5 (dk_at dksX1_image_0 6 rfl rfl)
theorem dX1_image_9 : decode cX1_image 9 = .ok (.iconst 0, 1) := dk_3 (dk_at dksX1_image_0 9 rfl rfl)
theorem dX1_image_10 : decode cX1_image 10 = .ok (.ireturn, 1) := dk_172 (dk_at dksX1_image_0 10 rfl rfl)
theorem dX1_image_11 : decode cX1_image 11 = .ok (.aload_n 0, 1) := dk_42 (dk_at dksX1_image_0 11 rfl rfl)
theorem dX1_image_12 : decode cX1_image 12 = .ok (.getfield 95, 3) := dk_180 0 95 (dk_at dksX1_image_0 12 rfl rfl)
theorem dX1_image_15 : decode cX1_image 15 = .ok (.iload_n 1, 1) := dk_27 (dk_at dksX1_image_0 15 rfl rfl)
theorem dX1_image_16 : decode cX1_image 16 = .ok (.aaload, 1) := dk_50 (dk_at dksX1_image_0 16 rfl rfl)
theorem dX1_image_17 : decode cX1_image 17 = .ok (.aload_n 0, 1) := dk_42 (dk_at dksX1_image_0 17 rfl rfl)
theorem dX1_image_18 : decode cX1_image 18 = .ok (.getfield 19, 3) := dk_180 0 19 (dk_at dksX1_image_0 18 rfl rfl)
theorem dX1_image_21 : decode cX1_image 21 = .ok (.putfield 376, 3) := dk_181 1 120 (dk_at dksX1_image_0 21 rfl rfl)
theorem dX1_image_24 : decode cX1_image 24 = .ok (.aload_n 0, 1) := dk_42 (dk_at dksX1_image_1 0 rfl rfl)
theorem dX1_image_25 : decode cX1_image 25 = .ok (.getfield 95, 3) := dk_180 0 95 (dk_at dksX1_image_1 1 rfl rfl)
theorem dX1_image_28 : decode cX1_image 28 = .ok (.iload_n 1, 1) := dk_27 (dk_at dksX1_image_1 4 rfl rfl)
theorem dX1_image_29 : decode cX1_image 29 = .ok (.aaload, 1) := dk_50 (dk_at dksX1_image_1 5 rfl rfl)
theorem dX1_image_30 : decode cX1_image 30 = .ok (.aload_n 0, 1) := dk_42 (dk_at dksX1_image_1 6 rfl rfl)
theorem dX1_image_31 : decode cX1_image 31 = .ok (.getfield 123, 3) := dk_180 0 123 (dk_at dksX1_image_1 7 rfl rfl)
theorem dX1_image_34 : decode cX1_image 34 = .ok (.putfield 377, 3) := dk_181 1 121 (dk_at dksX1_image_1 10 rfl rfl)
theorem dX1_image_37 : decode cX1_image 37 = .ok (.aload_n 0, 1) := dk_42 (dk_at dksX1_image_1 13 rfl rfl)
theorem dX1_image_38 : decode cX1_image 38 = .ok (.getfield 95, 3) := dk_180 0 95 (dk_at dksX1_image_1 14 rfl rfl)
theorem dX1_image_41 : decode cX1_image 41 = .ok (.iload_n 1, 1) := dk_27 (dk_at dksX1_image_1 17 rfl rfl)
theorem dX1_image_42 : decode cX1_image 42 = .ok (.aaload, 1) := dk_50 (dk_at dksX1_image_1 18 rfl rfl)
theorem dX1_image_43 : decode cX1_image 43 = .ok (.getfield 378, 3) := dk_180 1 122 (dk_at dksX1_image_1 19 rfl rfl)
theorem dX1_image_46 : decode cX1_image 46 = .ok (.aload_n 0, 1) := dk_42 (dk_at dksX1_image_1 22 rfl rfl)
theorem dX1_image_47 : decode cX1_image 47 = .ok (.getfield 30, 3) := dk_180 0 30 (dk_at dksX1_image_2 0 rfl rfl)
theorem dX1_image_50 : decode cX1_image 50 = .ok (.invokevirtual 223, 3) := dk_182 0 223 (dk_at dksX1_image_2 3 rfl rfl)
theorem dX1_image_53 : decode cX1_image 53 = .ok (.pop, 1) := dk_87 (dk_at dksX1_image_2 6 rfl rfl)
theorem dX1_image_54 : decode cX1_image 54 = .ok (.iconst 1, 1) := dk_4 (dk_at dksX1_image_2 7 rfl rfl)
theorem dX1_image_55 : decode cX1_image 55 = .ok (.ireturn, 1) := dk_172 (dk_at dksX1_image_2 8 rfl rfl)
abbrev cX1_restore : ByteArray := prog_1_method_57_code
def yX1_restore : MethodName := ⟨RX1, "restore", "(I)Z"⟩
def dkwX1_restore_3 : List UInt8 := [181, 0, 127, 4, 172]
abbrev dktX1_restore_3 : List UInt8 := dkwX1_restore_3 ++ []
def dkwX1_restore_2 : List UInt8 := [181, 0, 123, 42, 180, 0, 30, 42, 180, 0, 95, 27, 50, 180, 1, 122, 182, 0, 223, 87, 42, 3]
abbrev dktX1_restore_2 : List UInt8 := dkwX1_restore_2 ++ dktX1_restore_3
def dkwX1_restore_1 : List UInt8 := [42, 180, 0, 95, 27, 50, 180, 1, 120, 181, 0, 19, 42, 42, 180, 0, 95, 27, 50, 180, 1, 121]
abbrev dktX1_restore_1 : List UInt8 := dkwX1_restore_1 ++ dktX1_restore_2
def dkwX1_restore_0 : List UInt8 := [27, 3, 4, 184, 0, 188, 153, 0, 15, 42, 180, 0, 95, 27, 50, 180, 1, 120, 199, 0, 5, 3, 172, 42]
abbrev dktX1_restore_0 : List UInt8 := dkwX1_restore_0 ++ dktX1_restore_1
theorem dksX1_restore_0 : cX1_restore.data.toList.drop 0 = dktX1_restore_0 := by decide +kernel
theorem dksX1_restore_1 : cX1_restore.data.toList.drop 24 = dktX1_restore_1 := dk_seg dksX1_restore_0 24 rfl rfl
theorem dksX1_restore_2 : cX1_restore.data.toList.drop 46 = dktX1_restore_2 := dk_seg dksX1_restore_1 22 rfl rfl
theorem dksX1_restore_3 : cX1_restore.data.toList.drop 68 = dktX1_restore_3 := dk_seg dksX1_restore_2 22 rfl rfl
theorem dX1_restore_0 : decode cX1_restore 0 = .ok (.iload_n 1, 1) := dk_27 (dk_at dksX1_restore_0 0 rfl rfl)
theorem dX1_restore_1 : decode cX1_restore 1 = .ok (.iconst 0, 1) := dk_3 (dk_at dksX1_restore_0 1 rfl rfl)
theorem dX1_restore_2 : decode cX1_restore 2 = .ok (.iconst 1, 1) := dk_4 (dk_at dksX1_restore_0 2 rfl rfl)
theorem dX1_restore_3 : decode cX1_restore 3 = .ok (.invokestatic 188, 3) := dk_184 0 188 (dk_at dksX1_restore_0 3 rfl rfl)
theorem dX1_restore_6 : decode cX1_restore 6 = .ok (.ifCond .eq 15, 3) := dk_153 0 15 (dk_at dksX1_restore_0 6 rfl rfl)
theorem dX1_restore_9 : decode cX1_restore 9 = .ok (.aload_n 0, 1) := dk_42 (dk_at dksX1_restore_0 9 rfl rfl)
theorem dX1_restore_10 : decode cX1_restore 10 = .ok (.getfield 95, 3) := dk_180 0 95 (dk_at dksX1_restore_0 10 rfl rfl)
theorem dX1_restore_13 : decode cX1_restore 13 = .ok (.iload_n 1, 1) := dk_27 (dk_at dksX1_restore_0 13 rfl rfl)
theorem dX1_restore_14 : decode cX1_restore 14 = .ok (.aaload, 1) := dk_50 (dk_at dksX1_restore_0 14 rfl rfl)
theorem dX1_restore_15 : decode cX1_restore 15 = .ok (.getfield 376, 3) := dk_180 1 120 (dk_at dksX1_restore_0 15 rfl rfl)
theorem dX1_restore_18 : decode cX1_restore 18 = .ok (.ifnonnull 5, 3) := dk_199 0 5 (dk_at dksX1_restore_0 18 rfl rfl)
theorem dX1_restore_21 : decode cX1_restore 21 = .ok (.iconst 0, 1) := dk_3 (dk_at dksX1_restore_0 21 rfl rfl)
theorem dX1_restore_22 : decode cX1_restore 22 = .ok (.ireturn, 1) := dk_172 (dk_at dksX1_restore_0 22 rfl rfl)
theorem dX1_restore_23 : decode cX1_restore 23 = .ok (.aload_n 0, 1) := dk_42 (dk_at dksX1_restore_0 23 rfl rfl)
theorem dX1_restore_24 : decode cX1_restore 24 = .ok (.aload_n 0, 1) := dk_42 (dk_at dksX1_restore_1 0 rfl rfl)
theorem dX1_restore_25 : decode cX1_restore 25 = .ok (.getfield 95, 3) := dk_180 0 95 (dk_at dksX1_restore_1 1 rfl rfl)
theorem dX1_restore_28 : decode cX1_restore 28 = .ok (.iload_n 1, 1) := dk_27 (dk_at dksX1_restore_1 4 rfl rfl)
theorem dX1_restore_29 : decode cX1_restore 29 = .ok (.aaload, 1) := dk_50 (dk_at dksX1_restore_1 5 rfl rfl)
theorem dX1_restore_30 : decode cX1_restore 30 = .ok (.getfield 376, 3) := dk_180 1 120 (dk_at dksX1_restore_1 6 rfl rfl)
theorem dX1_restore_33 : decode cX1_restore 33 = .ok (.putfield 19, 3) := dk_181 0 19 (dk_at dksX1_restore_1 9 rfl rfl)
theorem dX1_restore_36 : decode cX1_restore 36 = .ok (.aload_n 0, 1) := dk_42 (dk_at dksX1_restore_1 12 rfl rfl)
theorem dX1_restore_37 : decode cX1_restore 37 = .ok (.aload_n 0, 1) := dk_42 (dk_at dksX1_restore_1 13 rfl rfl)
theorem dX1_restore_38 : decode cX1_restore 38 = .ok (.getfield 95, 3) := dk_180 0 95 (dk_at dksX1_restore_1 14 rfl rfl)
theorem dX1_restore_41 : decode cX1_restore 41 = .ok (.iload_n 1, 1) := dk_27 (dk_at dksX1_restore_1 17 rfl rfl)
theorem dX1_restore_42 : decode cX1_restore 42 = .ok (.aaload, 1) := dk_50 (dk_at dksX1_restore_1 18 rfl rfl)
theorem dX1_restore_43 : decode cX1_restore 43 = .ok (.getfield 377, 3) := dk_180 1 121 (dk_at dksX1_restore_1 19 rfl rfl)
theorem dX1_restore_46 : decode cX1_restore 46 = .ok (.putfield 123, 3) := dk_181 0 123 (dk_at dksX1_restore_2 0 rfl rfl)
theorem dX1_restore_49 : decode cX1_restore 49 = .ok (.aload_n 0, 1) := dk_42 (dk_at dksX1_restore_2 3 rfl rfl)
theorem dX1_restore_50 : decode cX1_restore 50 = .ok (.getfield 30, 3) := dk_180 0 30 (dk_at dksX1_restore_2 4 rfl rfl)
theorem dX1_restore_53 : decode cX1_restore 53 = .ok (.aload_n 0, 1) := dk_42 (dk_at dksX1_restore_2 7 rfl rfl)
theorem dX1_restore_54 : decode cX1_restore 54 = .ok (.getfield 95, 3) := dk_180 0 95 (dk_at dksX1_restore_2 8 rfl rfl)
theorem dX1_restore_57 : decode cX1_restore 57 = .ok (.iload_n 1, 1) := dk_27 (dk_at dksX1_restore_2 11 rfl rfl)
theorem dX1_restore_58 : decode cX1_restore 58 = .ok (.aaload, 1) := dk_50 (dk_at dksX1_restore_2 12 rfl rfl)
theorem dX1_restore_59 : decode cX1_restore 59 = .ok (.getfield 378, 3) := dk_180 1 122 (dk_at dksX1_restore_2 13 rfl rfl)
theorem dX1_restore_62 : decode cX1_restore 62 = .ok (.invokevirtual 223, 3) := dk_182 0 223 (dk_at dksX1_restore_2 16 rfl rfl)
theorem dX1_restore_65 : decode cX1_restore 65 = .ok (.pop, 1) := dk_87 (dk_at dksX1_restore_2 19 rfl rfl)
theorem dX1_restore_66 : decode cX1_restore 66 = .ok (.aload_n 0, 1) := dk_42 (dk_at dksX1_restore_2 20 rfl rfl)
theorem dX1_restore_67 : decode cX1_restore 67 = .ok (.iconst 0, 1) := dk_3 (dk_at dksX1_restore_2 21 rfl rfl)
theorem dX1_restore_68 : decode cX1_restore 68 = .ok (.putfield 127, 3) := dk_181 0 127 (dk_at dksX1_restore_3 0 rfl rfl)
theorem dX1_restore_71 : decode cX1_restore 71 = .ok (.iconst 1, 1) := dk_4 (dk_at dksX1_restore_3 3 rfl rfl)
theorem dX1_restore_72 : decode cX1_restore 72 = .ok (.ireturn, 1) := dk_172 (dk_at dksX1_restore_3 4 rfl rfl)
abbrev cX1_count_2 : ByteArray := prog_1_method_58_code
def yX1_count_2 : MethodName := ⟨RX1, "count", "(I)I"⟩
def dkwX1_count_2_3 : List UInt8 := [153, 0, 7, 4, 167, 0, 4, 3, 172, 42, 180, 0, 19, 180, 1, 129, 172, 42, 180, 0, 99, 172, 2, 172]
abbrev dktX1_count_2_3 : List UInt8 := dkwX1_count_2_3 ++ []
def dkwX1_count_2_2 : List UInt8 := [42, 180, 0, 19, 180, 0, 252, 172, 42, 180, 0, 19, 182, 0, 213, 172, 42, 180, 0, 19, 180, 1, 125]
abbrev dktX1_count_2_2 : List UInt8 := dkwX1_count_2_2 ++ dktX1_count_2_3
def dkwX1_count_2_1 : List UInt8 := [170, 0, 0, 0, 0, 0, 80, 0, 0, 0, 0, 0, 0, 0, 4, 0, 0, 0, 35, 0, 0, 0, 43, 0, 0, 0, 51, 0, 0, 0, 67, 0, 0, 0, 75]
abbrev dktX1_count_2_1 : List UInt8 := dkwX1_count_2_1 ++ dktX1_count_2_2
def dkwX1_count_2_0 : List UInt8 := [27]
abbrev dktX1_count_2_0 : List UInt8 := dkwX1_count_2_0 ++ dktX1_count_2_1
theorem dksX1_count_2_0 : cX1_count_2.data.toList.drop 0 = dktX1_count_2_0 := by decide +kernel
theorem dksX1_count_2_1 : cX1_count_2.data.toList.drop 1 = dktX1_count_2_1 := dk_seg dksX1_count_2_0 1 rfl rfl
theorem dksX1_count_2_2 : cX1_count_2.data.toList.drop 36 = dktX1_count_2_2 := dk_seg dksX1_count_2_1 35 rfl rfl
theorem dksX1_count_2_3 : cX1_count_2.data.toList.drop 59 = dktX1_count_2_3 := dk_seg dksX1_count_2_2 23 rfl rfl
theorem dX1_count_2_0 : decode cX1_count_2 0 = .ok (.iload_n 1, 1) := dk_27 (dk_at dksX1_count_2_0 0 rfl rfl)
theorem dX1_count_2_1 : decode cX1_count_2 1 = .ok (.tableswitch 80 0 4 #[35, 43, 51, 67, 75], 35) := by decide +kernel
theorem dX1_count_2_36 : decode cX1_count_2 36 = .ok (.aload_n 0, 1) := dk_42 (dk_at dksX1_count_2_2 0 rfl rfl)
theorem dX1_count_2_37 : decode cX1_count_2 37 = .ok (.getfield 19, 3) := dk_180 0 19 (dk_at dksX1_count_2_2 1 rfl rfl)
theorem dX1_count_2_40 : decode cX1_count_2 40 = .ok (.getfield 252, 3) := dk_180 0 252 (dk_at dksX1_count_2_2 4 rfl rfl)
theorem dX1_count_2_43 : decode cX1_count_2 43 = .ok (.ireturn, 1) := dk_172 (dk_at dksX1_count_2_2 7 rfl rfl)
theorem dX1_count_2_44 : decode cX1_count_2 44 = .ok (.aload_n 0, 1) := dk_42 (dk_at dksX1_count_2_2 8 rfl rfl)
theorem dX1_count_2_45 : decode cX1_count_2 45 = .ok (.getfield 19, 3) := dk_180 0 19 (dk_at dksX1_count_2_2 9 rfl rfl)
theorem dX1_count_2_48 : decode cX1_count_2 48 = .ok (.invokevirtual 213, 3) := dk_182 0 213 (dk_at dksX1_count_2_2 12 rfl rfl)
theorem dX1_count_2_51 : decode cX1_count_2 51 = .ok (.ireturn, 1) := dk_172 (dk_at dksX1_count_2_2 15 rfl rfl)
theorem dX1_count_2_52 : decode cX1_count_2 52 = .ok (.aload_n 0, 1) := dk_42 (dk_at dksX1_count_2_2 16 rfl rfl)
theorem dX1_count_2_53 : decode cX1_count_2 53 = .ok (.getfield 19, 3) := dk_180 0 19 (dk_at dksX1_count_2_2 17 rfl rfl)
theorem dX1_count_2_56 : decode cX1_count_2 56 = .ok (.getfield 381, 3) := dk_180 1 125 (dk_at dksX1_count_2_2 20 rfl rfl)
theorem dX1_count_2_59 : decode cX1_count_2 59 = .ok (.ifCond .eq 7, 3) := dk_153 0 7 (dk_at dksX1_count_2_3 0 rfl rfl)
theorem dX1_count_2_62 : decode cX1_count_2 62 = .ok (.iconst 1, 1) := dk_4 (dk_at dksX1_count_2_3 3 rfl rfl)
theorem dX1_count_2_63 : decode cX1_count_2 63 = .ok (.goto 4, 3) := dk_167 0 4 (dk_at dksX1_count_2_3 4 rfl rfl)
theorem dX1_count_2_66 : decode cX1_count_2 66 = .ok (.iconst 0, 1) := dk_3 (dk_at dksX1_count_2_3 7 rfl rfl)
theorem dX1_count_2_67 : decode cX1_count_2 67 = .ok (.ireturn, 1) := dk_172 (dk_at dksX1_count_2_3 8 rfl rfl)
theorem dX1_count_2_68 : decode cX1_count_2 68 = .ok (.aload_n 0, 1) := dk_42 (dk_at dksX1_count_2_3 9 rfl rfl)
theorem dX1_count_2_69 : decode cX1_count_2 69 = .ok (.getfield 19, 3) := dk_180 0 19 (dk_at dksX1_count_2_3 10 rfl rfl)
theorem dX1_count_2_72 : decode cX1_count_2 72 = .ok (.getfield 385, 3) := dk_180 1 129 (dk_at dksX1_count_2_3 13 rfl rfl)
theorem dX1_count_2_75 : decode cX1_count_2 75 = .ok (.ireturn, 1) := dk_172 (dk_at dksX1_count_2_3 16 rfl rfl)
theorem dX1_count_2_76 : decode cX1_count_2 76 = .ok (.aload_n 0, 1) := dk_42 (dk_at dksX1_count_2_3 17 rfl rfl)
theorem dX1_count_2_77 : decode cX1_count_2 77 = .ok (.getfield 99, 3) := dk_180 0 99 (dk_at dksX1_count_2_3 18 rfl rfl)
theorem dX1_count_2_80 : decode cX1_count_2 80 = .ok (.ireturn, 1) := dk_172 (dk_at dksX1_count_2_3 21 rfl rfl)
theorem dX1_count_2_81 : decode cX1_count_2 81 = .ok (.iconst (-1), 1) := dk_2 (dk_at dksX1_count_2_3 22 rfl rfl)
theorem dX1_count_2_82 : decode cX1_count_2 82 = .ok (.ireturn, 1) := dk_172 (dk_at dksX1_count_2_3 23 rfl rfl)
abbrev cX1_hand : ByteArray := prog_1_method_12_code
def yX1_hand : MethodName := ⟨RX1, "hand", "(II)I"⟩
def dkwX1_hand_1 : List UInt8 := [167, 0, 4, 3, 184, 0, 148, 42, 180, 0, 30, 180, 0, 152, 27, 50, 28, 46, 172]
abbrev dktX1_hand_1 : List UInt8 := dkwX1_hand_1 ++ []
def dkwX1_hand_0 : List UInt8 := [42, 180, 0, 19, 27, 182, 0, 141, 153, 0, 18, 42, 180, 0, 19, 28, 182, 0, 145, 153, 0, 7, 4]
abbrev dktX1_hand_0 : List UInt8 := dkwX1_hand_0 ++ dktX1_hand_1
theorem dksX1_hand_0 : cX1_hand.data.toList.drop 0 = dktX1_hand_0 := by decide +kernel
theorem dksX1_hand_1 : cX1_hand.data.toList.drop 23 = dktX1_hand_1 := dk_seg dksX1_hand_0 23 rfl rfl
theorem dX1_hand_0 : decode cX1_hand 0 = .ok (.aload_n 0, 1) := dk_42 (dk_at dksX1_hand_0 0 rfl rfl)
theorem dX1_hand_1 : decode cX1_hand 1 = .ok (.getfield 19, 3) := dk_180 0 19 (dk_at dksX1_hand_0 1 rfl rfl)
theorem dX1_hand_4 : decode cX1_hand 4 = .ok (.iload_n 1, 1) := dk_27 (dk_at dksX1_hand_0 4 rfl rfl)
theorem dX1_hand_5 : decode cX1_hand 5 = .ok (.invokevirtual 141, 3) := dk_182 0 141 (dk_at dksX1_hand_0 5 rfl rfl)
theorem dX1_hand_8 : decode cX1_hand 8 = .ok (.ifCond .eq 18, 3) := dk_153 0 18 (dk_at dksX1_hand_0 8 rfl rfl)
theorem dX1_hand_11 : decode cX1_hand 11 = .ok (.aload_n 0, 1) := dk_42 (dk_at dksX1_hand_0 11 rfl rfl)
theorem dX1_hand_12 : decode cX1_hand 12 = .ok (.getfield 19, 3) := dk_180 0 19 (dk_at dksX1_hand_0 12 rfl rfl)
theorem dX1_hand_15 : decode cX1_hand 15 = .ok (.iload_n 2, 1) := dk_28 (dk_at dksX1_hand_0 15 rfl rfl)
theorem dX1_hand_16 : decode cX1_hand 16 = .ok (.invokevirtual 145, 3) := dk_182 0 145 (dk_at dksX1_hand_0 16 rfl rfl)
theorem dX1_hand_19 : decode cX1_hand 19 = .ok (.ifCond .eq 7, 3) := dk_153 0 7 (dk_at dksX1_hand_0 19 rfl rfl)
theorem dX1_hand_22 : decode cX1_hand 22 = .ok (.iconst 1, 1) := dk_4 (dk_at dksX1_hand_0 22 rfl rfl)
theorem dX1_hand_23 : decode cX1_hand 23 = .ok (.goto 4, 3) := dk_167 0 4 (dk_at dksX1_hand_1 0 rfl rfl)
theorem dX1_hand_26 : decode cX1_hand 26 = .ok (.iconst 0, 1) := dk_3 (dk_at dksX1_hand_1 3 rfl rfl)
theorem dX1_hand_27 : decode cX1_hand 27 = .ok (.invokestatic 148, 3) := dk_184 0 148 (dk_at dksX1_hand_1 4 rfl rfl)
theorem dX1_hand_30 : decode cX1_hand 30 = .ok (.aload_n 0, 1) := dk_42 (dk_at dksX1_hand_1 7 rfl rfl)
theorem dX1_hand_31 : decode cX1_hand 31 = .ok (.getfield 30, 3) := dk_180 0 30 (dk_at dksX1_hand_1 8 rfl rfl)
theorem dX1_hand_34 : decode cX1_hand 34 = .ok (.getfield 152, 3) := dk_180 0 152 (dk_at dksX1_hand_1 11 rfl rfl)
theorem dX1_hand_37 : decode cX1_hand 37 = .ok (.iload_n 1, 1) := dk_27 (dk_at dksX1_hand_1 14 rfl rfl)
theorem dX1_hand_38 : decode cX1_hand 38 = .ok (.aaload, 1) := dk_50 (dk_at dksX1_hand_1 15 rfl rfl)
theorem dX1_hand_39 : decode cX1_hand 39 = .ok (.iload_n 2, 1) := dk_28 (dk_at dksX1_hand_1 16 rfl rfl)
theorem dX1_hand_40 : decode cX1_hand 40 = .ok (.iaload, 1) := dk_46 (dk_at dksX1_hand_1 17 rfl rfl)
theorem dX1_hand_41 : decode cX1_hand 41 = .ok (.ireturn, 1) := dk_172 (dk_at dksX1_hand_1 18 rfl rfl)
abbrev cX1_need : ByteArray := prog_1_method_3_code
def yX1_need : MethodName := ⟨RX1, "need", "(Z)V"⟩
def dkwX1_need_0 : List UInt8 := [26, 154, 0, 11, 187, 0, 3, 89, 183, 0, 5, 191, 177]
abbrev dktX1_need_0 : List UInt8 := dkwX1_need_0 ++ []
theorem dksX1_need_0 : cX1_need.data.toList.drop 0 = dktX1_need_0 := by decide +kernel
theorem dX1_need_0 : decode cX1_need 0 = .ok (.iload_n 0, 1) := dk_26 (dk_at dksX1_need_0 0 rfl rfl)
theorem dX1_need_1 : decode cX1_need 1 = .ok (.ifCond .ne 11, 3) := dk_154 0 11 (dk_at dksX1_need_0 1 rfl rfl)
theorem dX1_need_4 : decode cX1_need 4 = .ok (.new 3, 3) := dk_187 0 3 (dk_at dksX1_need_0 4 rfl rfl)
theorem dX1_need_7 : decode cX1_need 7 = .ok (.dup, 1) := dk_89 (dk_at dksX1_need_0 7 rfl rfl)
theorem dX1_need_8 : decode cX1_need 8 = .ok (.invokespecial 5, 3) := dk_183 0 5 (dk_at dksX1_need_0 8 rfl rfl)
theorem dX1_need_11 : decode cX1_need 11 = .ok (.athrow, 1) := dk_191 (dk_at dksX1_need_0 11 rfl rfl)
theorem dX1_need_12 : decode cX1_need 12 = .ok (.return_, 1) := dk_177 (dk_at dksX1_need_0 12 rfl rfl)
abbrev cX1_odds : ByteArray := prog_1_method_33_code
def yX1_odds : MethodName := ⟨RX1, "odds", "(IIII)J"⟩
def dkwX1_odds_3 : List UInt8 := [22, 5, 182, 1, 34, 22, 5, 21, 4, 184, 1, 38, 173]
abbrev dktX1_odds_3 : List UInt8 := dkwX1_odds_3 ++ []
def dkwX1_odds_2 : List UInt8 := [182, 1, 27, 55, 5, 22, 5, 9, 148, 158, 0, 7, 4, 167, 0, 4, 3, 184, 0, 148, 42, 27, 28, 29]
abbrev dktX1_odds_2 : List UInt8 := dkwX1_odds_2 ++ dktX1_odds_3
def dkwX1_odds_1 : List UInt8 := [153, 0, 15, 42, 27, 182, 1, 31, 153, 0, 7, 4, 167, 0, 4, 3, 184, 0, 148, 42, 27, 2, 2]
abbrev dktX1_odds_1 : List UInt8 := dkwX1_odds_1 ++ dktX1_odds_2
def dkwX1_odds_0 : List UInt8 := [42, 27, 28, 29, 182, 0, 216, 153, 0, 30, 27, 28, 159, 0, 25, 21, 4, 3, 4, 184, 0, 188]
abbrev dktX1_odds_0 : List UInt8 := dkwX1_odds_0 ++ dktX1_odds_1
theorem dksX1_odds_0 : cX1_odds.data.toList.drop 0 = dktX1_odds_0 := by decide +kernel
theorem dksX1_odds_1 : cX1_odds.data.toList.drop 22 = dktX1_odds_1 := dk_seg dksX1_odds_0 22 rfl rfl
theorem dksX1_odds_2 : cX1_odds.data.toList.drop 45 = dktX1_odds_2 := dk_seg dksX1_odds_1 23 rfl rfl
theorem dksX1_odds_3 : cX1_odds.data.toList.drop 69 = dktX1_odds_3 := dk_seg dksX1_odds_2 24 rfl rfl
theorem dX1_odds_0 : decode cX1_odds 0 = .ok (.aload_n 0, 1) := dk_42 (dk_at dksX1_odds_0 0 rfl rfl)
theorem dX1_odds_1 : decode cX1_odds 1 = .ok (.iload_n 1, 1) := dk_27 (dk_at dksX1_odds_0 1 rfl rfl)
theorem dX1_odds_2 : decode cX1_odds 2 = .ok (.iload_n 2, 1) := dk_28 (dk_at dksX1_odds_0 2 rfl rfl)
theorem dX1_odds_3 : decode cX1_odds 3 = .ok (.iload_n 3, 1) := dk_29 (dk_at dksX1_odds_0 3 rfl rfl)
theorem dX1_odds_4 : decode cX1_odds 4 = .ok (.invokevirtual 216, 3) := dk_182 0 216 (dk_at dksX1_odds_0 4 rfl rfl)
theorem dX1_odds_7 : decode cX1_odds 7 = .ok (.ifCond .eq 30, 3) := dk_153 0 30 (dk_at dksX1_odds_0 7 rfl rfl)
theorem dX1_odds_10 : decode cX1_odds 10 = .ok (.iload_n 1, 1) := dk_27 (dk_at dksX1_odds_0 10 rfl rfl)
theorem dX1_odds_11 : decode cX1_odds 11 = .ok (.iload_n 2, 1) := dk_28 (dk_at dksX1_odds_0 11 rfl rfl)
theorem dX1_odds_12 : decode cX1_odds 12 = .ok (.if_icmp .eq 25, 3) := dk_159 0 25 (dk_at dksX1_odds_0 12 rfl rfl)
theorem dX1_odds_15 : decode cX1_odds 15 = .ok (.iload 4, 2) := dk_21 4 (dk_at dksX1_odds_0 15 rfl rfl)
theorem dX1_odds_17 : decode cX1_odds 17 = .ok (.iconst 0, 1) := dk_3 (dk_at dksX1_odds_0 17 rfl rfl)
theorem dX1_odds_18 : decode cX1_odds 18 = .ok (.iconst 1, 1) := dk_4 (dk_at dksX1_odds_0 18 rfl rfl)
theorem dX1_odds_19 : decode cX1_odds 19 = .ok (.invokestatic 188, 3) := dk_184 0 188 (dk_at dksX1_odds_0 19 rfl rfl)
theorem dX1_odds_22 : decode cX1_odds 22 = .ok (.ifCond .eq 15, 3) := dk_153 0 15 (dk_at dksX1_odds_1 0 rfl rfl)
theorem dX1_odds_25 : decode cX1_odds 25 = .ok (.aload_n 0, 1) := dk_42 (dk_at dksX1_odds_1 3 rfl rfl)
theorem dX1_odds_26 : decode cX1_odds 26 = .ok (.iload_n 1, 1) := dk_27 (dk_at dksX1_odds_1 4 rfl rfl)
theorem dX1_odds_27 : decode cX1_odds 27 = .ok (.invokevirtual 287, 3) := dk_182 1 31 (dk_at dksX1_odds_1 5 rfl rfl)
theorem dX1_odds_30 : decode cX1_odds 30 = .ok (.ifCond .eq 7, 3) := dk_153 0 7 (dk_at dksX1_odds_1 8 rfl rfl)
theorem dX1_odds_33 : decode cX1_odds 33 = .ok (.iconst 1, 1) := dk_4 (dk_at dksX1_odds_1 11 rfl rfl)
theorem dX1_odds_34 : decode cX1_odds 34 = .ok (.goto 4, 3) := dk_167 0 4 (dk_at dksX1_odds_1 12 rfl rfl)
theorem dX1_odds_37 : decode cX1_odds 37 = .ok (.iconst 0, 1) := dk_3 (dk_at dksX1_odds_1 15 rfl rfl)
theorem dX1_odds_38 : decode cX1_odds 38 = .ok (.invokestatic 148, 3) := dk_184 0 148 (dk_at dksX1_odds_1 16 rfl rfl)
theorem dX1_odds_41 : decode cX1_odds 41 = .ok (.aload_n 0, 1) := dk_42 (dk_at dksX1_odds_1 19 rfl rfl)
theorem dX1_odds_42 : decode cX1_odds 42 = .ok (.iload_n 1, 1) := dk_27 (dk_at dksX1_odds_1 20 rfl rfl)
theorem dX1_odds_43 : decode cX1_odds 43 = .ok (.iconst (-1), 1) := dk_2 (dk_at dksX1_odds_1 21 rfl rfl)
theorem dX1_odds_44 : decode cX1_odds 44 = .ok (.iconst (-1), 1) := dk_2 (dk_at dksX1_odds_1 22 rfl rfl)
theorem dX1_odds_45 : decode cX1_odds 45 = .ok (.invokevirtual 283, 3) := dk_182 1 27 (dk_at dksX1_odds_2 0 rfl rfl)
theorem dX1_odds_48 : decode cX1_odds 48 = .ok (.lstore 5, 2) := dk_55 5 (dk_at dksX1_odds_2 3 rfl rfl)
theorem dX1_odds_50 : decode cX1_odds 50 = .ok (.lload 5, 2) := dk_22 5 (dk_at dksX1_odds_2 5 rfl rfl)
theorem dX1_odds_52 : decode cX1_odds 52 = .ok (.lconst 0, 1) := dk_9 (dk_at dksX1_odds_2 7 rfl rfl)
theorem dX1_odds_53 : decode cX1_odds 53 = .ok (.lcmp, 1) := dk_148 (dk_at dksX1_odds_2 8 rfl rfl)
theorem dX1_odds_54 : decode cX1_odds 54 = .ok (.ifCond .le 7, 3) := dk_158 0 7 (dk_at dksX1_odds_2 9 rfl rfl)
theorem dX1_odds_57 : decode cX1_odds 57 = .ok (.iconst 1, 1) := dk_4 (dk_at dksX1_odds_2 12 rfl rfl)
theorem dX1_odds_58 : decode cX1_odds 58 = .ok (.goto 4, 3) := dk_167 0 4 (dk_at dksX1_odds_2 13 rfl rfl)
theorem dX1_odds_61 : decode cX1_odds 61 = .ok (.iconst 0, 1) := dk_3 (dk_at dksX1_odds_2 16 rfl rfl)
theorem dX1_odds_62 : decode cX1_odds 62 = .ok (.invokestatic 148, 3) := dk_184 0 148 (dk_at dksX1_odds_2 17 rfl rfl)
theorem dX1_odds_65 : decode cX1_odds 65 = .ok (.aload_n 0, 1) := dk_42 (dk_at dksX1_odds_2 20 rfl rfl)
theorem dX1_odds_66 : decode cX1_odds 66 = .ok (.iload_n 1, 1) := dk_27 (dk_at dksX1_odds_2 21 rfl rfl)
theorem dX1_odds_67 : decode cX1_odds 67 = .ok (.iload_n 2, 1) := dk_28 (dk_at dksX1_odds_2 22 rfl rfl)
theorem dX1_odds_68 : decode cX1_odds 68 = .ok (.iload_n 3, 1) := dk_29 (dk_at dksX1_odds_2 23 rfl rfl)
theorem dX1_odds_69 : decode cX1_odds 69 = .ok (.lload 5, 2) := dk_22 5 (dk_at dksX1_odds_3 0 rfl rfl)
theorem dX1_odds_71 : decode cX1_odds 71 = .ok (.invokevirtual 290, 3) := dk_182 1 34 (dk_at dksX1_odds_3 2 rfl rfl)
theorem dX1_odds_74 : decode cX1_odds 74 = .ok (.lload 5, 2) := dk_22 5 (dk_at dksX1_odds_3 5 rfl rfl)
theorem dX1_odds_76 : decode cX1_odds 76 = .ok (.iload 4, 2) := dk_21 4 (dk_at dksX1_odds_3 7 rfl rfl)
theorem dX1_odds_78 : decode cX1_odds 78 = .ok (.invokestatic 294, 3) := dk_184 1 38 (dk_at dksX1_odds_3 9 rfl rfl)
theorem dX1_odds_81 : decode cX1_odds 81 = .ok (.lreturn, 1) := dk_173 (dk_at dksX1_odds_3 12 rfl rfl)
abbrev cX1_part : ByteArray := prog_1_method_31_code
def yX1_part : MethodName := ⟨RX1, "part", "(JJI)J"⟩
def dkwX1_part_0 : List UInt8 := [21, 4, 154, 0, 7, 30, 167, 0, 4, 32, 30, 32, 184, 1, 23, 109, 173]
abbrev dktX1_part_0 : List UInt8 := dkwX1_part_0 ++ []
theorem dksX1_part_0 : cX1_part.data.toList.drop 0 = dktX1_part_0 := by decide +kernel
theorem dX1_part_0 : decode cX1_part 0 = .ok (.iload 4, 2) := dk_21 4 (dk_at dksX1_part_0 0 rfl rfl)
theorem dX1_part_2 : decode cX1_part 2 = .ok (.ifCond .ne 7, 3) := dk_154 0 7 (dk_at dksX1_part_0 2 rfl rfl)
theorem dX1_part_5 : decode cX1_part 5 = .ok (.lload_n 0, 1) := dk_30 (dk_at dksX1_part_0 5 rfl rfl)
theorem dX1_part_6 : decode cX1_part 6 = .ok (.goto 4, 3) := dk_167 0 4 (dk_at dksX1_part_0 6 rfl rfl)
theorem dX1_part_9 : decode cX1_part 9 = .ok (.lload_n 2, 1) := dk_32 (dk_at dksX1_part_0 9 rfl rfl)
theorem dX1_part_10 : decode cX1_part 10 = .ok (.lload_n 0, 1) := dk_30 (dk_at dksX1_part_0 10 rfl rfl)
theorem dX1_part_11 : decode cX1_part 11 = .ok (.lload_n 2, 1) := dk_32 (dk_at dksX1_part_0 11 rfl rfl)
theorem dX1_part_12 : decode cX1_part 12 = .ok (.invokestatic 279, 3) := dk_184 1 23 (dk_at dksX1_part_0 12 rfl rfl)
theorem dX1_part_15 : decode cX1_part 15 = .ok (.ldiv, 1) := dk_109 (dk_at dksX1_part_0 15 rfl rfl)
theorem dX1_part_16 : decode cX1_part 16 = .ok (.lreturn, 1) := dk_173 (dk_at dksX1_part_0 16 rfl rfl)
abbrev cX1_common : ByteArray := prog_1_method_30_code
def yX1_common : MethodName := ⟨RX1, "common", "(JJ)J"⟩
def dkwX1_common_0 : List UInt8 := [32, 9, 148, 154, 0, 7, 30, 167, 0, 10, 32, 30, 32, 113, 184, 1, 23, 173]
abbrev dktX1_common_0 : List UInt8 := dkwX1_common_0 ++ []
theorem dksX1_common_0 : cX1_common.data.toList.drop 0 = dktX1_common_0 := by decide +kernel
theorem dX1_common_0 : decode cX1_common 0 = .ok (.lload_n 2, 1) := dk_32 (dk_at dksX1_common_0 0 rfl rfl)
theorem dX1_common_1 : decode cX1_common 1 = .ok (.lconst 0, 1) := dk_9 (dk_at dksX1_common_0 1 rfl rfl)
theorem dX1_common_2 : decode cX1_common 2 = .ok (.lcmp, 1) := dk_148 (dk_at dksX1_common_0 2 rfl rfl)
theorem dX1_common_3 : decode cX1_common 3 = .ok (.ifCond .ne 7, 3) := dk_154 0 7 (dk_at dksX1_common_0 3 rfl rfl)
theorem dX1_common_6 : decode cX1_common 6 = .ok (.lload_n 0, 1) := dk_30 (dk_at dksX1_common_0 6 rfl rfl)
theorem dX1_common_7 : decode cX1_common 7 = .ok (.goto 10, 3) := dk_167 0 10 (dk_at dksX1_common_0 7 rfl rfl)
theorem dX1_common_10 : decode cX1_common 10 = .ok (.lload_n 2, 1) := dk_32 (dk_at dksX1_common_0 10 rfl rfl)
theorem dX1_common_11 : decode cX1_common 11 = .ok (.lload_n 0, 1) := dk_30 (dk_at dksX1_common_0 11 rfl rfl)
theorem dX1_common_12 : decode cX1_common 12 = .ok (.lload_n 2, 1) := dk_32 (dk_at dksX1_common_0 12 rfl rfl)
theorem dX1_common_13 : decode cX1_common 13 = .ok (.lrem, 1) := dk_113 (dk_at dksX1_common_0 13 rfl rfl)
theorem dX1_common_14 : decode cX1_common 14 = .ok (.invokestatic 279, 3) := dk_184 1 23 (dk_at dksX1_common_0 14 rfl rfl)
theorem dX1_common_17 : decode cX1_common 17 = .ok (.lreturn, 1) := dk_173 (dk_at dksX1_common_0 17 rfl rfl)
abbrev cX1_next : ByteArray := prog_1_method_34_code
def yX1_next : MethodName := ⟨RX1, "next", "(III)J"⟩
def dkwX1_next_8 : List UInt8 := [184, 1, 38, 173]
abbrev dktX1_next_8 : List UInt8 := dkwX1_next_8 ++ []
def dkwX1_next_7 : List UInt8 := [167, 255, 204, 132, 8, 1, 167, 255, 175, 22, 6, 22, 4, 42, 180, 0, 30, 182, 0, 185, 133, 105, 29]
abbrev dktX1_next_7 : List UInt8 := dkwX1_next_7 ++ dktX1_next_8
def dkwX1_next_6 : List UInt8 := [21, 8, 46, 108, 42, 180, 0, 45, 28, 46, 4, 96, 112, 100, 133, 105, 97, 55, 6, 132, 9, 1]
abbrev dktX1_next_6 : List UInt8 := dkwX1_next_6 ++ dktX1_next_7
def dkwX1_next_5 : List UInt8 := [162, 0, 49, 22, 6, 42, 180, 0, 54, 21, 9, 47, 42, 180, 0, 45, 28, 46, 21, 9, 42, 180, 0, 51]
abbrev dktX1_next_5 : List UInt8 := dkwX1_next_5 ++ dktX1_next_6
def dkwX1_next_4 : List UInt8 := [162, 0, 78, 42, 180, 0, 48, 21, 8, 46, 28, 160, 0, 61, 3, 54, 9, 21, 9, 42, 180, 1, 4]
abbrev dktX1_next_4 : List UInt8 := dkwX1_next_4 ++ dktX1_next_5
def dkwX1_next_3 : List UInt8 := [158, 0, 7, 4, 167, 0, 4, 3, 184, 0, 148, 9, 55, 6, 3, 54, 8, 21, 8, 42, 180, 1, 1]
abbrev dktX1_next_3 : List UInt8 := dkwX1_next_3 ++ dktX1_next_4
def dkwX1_next_2 : List UInt8 := [153, 0, 7, 4, 167, 0, 4, 3, 184, 0, 148, 42, 27, 2, 2, 182, 1, 27, 55, 4, 22, 4, 9, 148]
abbrev dktX1_next_2 : List UInt8 := dkwX1_next_2 ++ dktX1_next_3
def dkwX1_next_1 : List UInt8 := [4, 184, 0, 188, 153, 0, 25, 42, 180, 0, 30, 182, 0, 185, 158, 0, 15, 42, 27, 182, 1, 31]
abbrev dktX1_next_1 : List UInt8 := dkwX1_next_1 ++ dktX1_next_2
def dkwX1_next_0 : List UInt8 := [42, 180, 0, 19, 27, 182, 0, 141, 153, 0, 45, 42, 180, 0, 19, 28, 182, 0, 145, 153, 0, 34, 29, 3]
abbrev dktX1_next_0 : List UInt8 := dkwX1_next_0 ++ dktX1_next_1
theorem dksX1_next_0 : cX1_next.data.toList.drop 0 = dktX1_next_0 := by decide +kernel
theorem dksX1_next_1 : cX1_next.data.toList.drop 24 = dktX1_next_1 := dk_seg dksX1_next_0 24 rfl rfl
theorem dksX1_next_2 : cX1_next.data.toList.drop 46 = dktX1_next_2 := dk_seg dksX1_next_1 22 rfl rfl
theorem dksX1_next_3 : cX1_next.data.toList.drop 70 = dktX1_next_3 := dk_seg dksX1_next_2 24 rfl rfl
theorem dksX1_next_4 : cX1_next.data.toList.drop 93 = dktX1_next_4 := dk_seg dksX1_next_3 23 rfl rfl
theorem dksX1_next_5 : cX1_next.data.toList.drop 116 = dktX1_next_5 := dk_seg dksX1_next_4 23 rfl rfl
theorem dksX1_next_6 : cX1_next.data.toList.drop 140 = dktX1_next_6 := dk_seg dksX1_next_5 24 rfl rfl
theorem dksX1_next_7 : cX1_next.data.toList.drop 162 = dktX1_next_7 := dk_seg dksX1_next_6 22 rfl rfl
theorem dksX1_next_8 : cX1_next.data.toList.drop 185 = dktX1_next_8 := dk_seg dksX1_next_7 23 rfl rfl
theorem dX1_next_0 : decode cX1_next 0 = .ok (.aload_n 0, 1) := dk_42 (dk_at dksX1_next_0 0 rfl rfl)
theorem dX1_next_1 : decode cX1_next 1 = .ok (.getfield 19, 3) := dk_180 0 19 (dk_at dksX1_next_0 1 rfl rfl)
theorem dX1_next_4 : decode cX1_next 4 = .ok (.iload_n 1, 1) := dk_27 (dk_at dksX1_next_0 4 rfl rfl)
theorem dX1_next_5 : decode cX1_next 5 = .ok (.invokevirtual 141, 3) := dk_182 0 141 (dk_at dksX1_next_0 5 rfl rfl)
theorem dX1_next_8 : decode cX1_next 8 = .ok (.ifCond .eq 45, 3) := dk_153 0 45 (dk_at dksX1_next_0 8 rfl rfl)
theorem dX1_next_11 : decode cX1_next 11 = .ok (.aload_n 0, 1) := dk_42 (dk_at dksX1_next_0 11 rfl rfl)
theorem dX1_next_12 : decode cX1_next 12 = .ok (.getfield 19, 3) := dk_180 0 19 (dk_at dksX1_next_0 12 rfl rfl)
theorem dX1_next_15 : decode cX1_next 15 = .ok (.iload_n 2, 1) := dk_28 (dk_at dksX1_next_0 15 rfl rfl)
theorem dX1_next_16 : decode cX1_next 16 = .ok (.invokevirtual 145, 3) := dk_182 0 145 (dk_at dksX1_next_0 16 rfl rfl)
theorem dX1_next_19 : decode cX1_next 19 = .ok (.ifCond .eq 34, 3) := dk_153 0 34 (dk_at dksX1_next_0 19 rfl rfl)
theorem dX1_next_22 : decode cX1_next 22 = .ok (.iload_n 3, 1) := dk_29 (dk_at dksX1_next_0 22 rfl rfl)
theorem dX1_next_23 : decode cX1_next 23 = .ok (.iconst 0, 1) := dk_3 (dk_at dksX1_next_0 23 rfl rfl)
theorem dX1_next_24 : decode cX1_next 24 = .ok (.iconst 1, 1) := dk_4 (dk_at dksX1_next_1 0 rfl rfl)
theorem dX1_next_25 : decode cX1_next 25 = .ok (.invokestatic 188, 3) := dk_184 0 188 (dk_at dksX1_next_1 1 rfl rfl)
theorem dX1_next_28 : decode cX1_next 28 = .ok (.ifCond .eq 25, 3) := dk_153 0 25 (dk_at dksX1_next_1 4 rfl rfl)
theorem dX1_next_31 : decode cX1_next 31 = .ok (.aload_n 0, 1) := dk_42 (dk_at dksX1_next_1 7 rfl rfl)
theorem dX1_next_32 : decode cX1_next 32 = .ok (.getfield 30, 3) := dk_180 0 30 (dk_at dksX1_next_1 8 rfl rfl)
theorem dX1_next_35 : decode cX1_next 35 = .ok (.invokevirtual 185, 3) := dk_182 0 185 (dk_at dksX1_next_1 11 rfl rfl)
theorem dX1_next_38 : decode cX1_next 38 = .ok (.ifCond .le 15, 3) := dk_158 0 15 (dk_at dksX1_next_1 14 rfl rfl)
theorem dX1_next_41 : decode cX1_next 41 = .ok (.aload_n 0, 1) := dk_42 (dk_at dksX1_next_1 17 rfl rfl)
theorem dX1_next_42 : decode cX1_next 42 = .ok (.iload_n 1, 1) := dk_27 (dk_at dksX1_next_1 18 rfl rfl)
theorem dX1_next_43 : decode cX1_next 43 = .ok (.invokevirtual 287, 3) := dk_182 1 31 (dk_at dksX1_next_1 19 rfl rfl)
theorem dX1_next_46 : decode cX1_next 46 = .ok (.ifCond .eq 7, 3) := dk_153 0 7 (dk_at dksX1_next_2 0 rfl rfl)
theorem dX1_next_49 : decode cX1_next 49 = .ok (.iconst 1, 1) := dk_4 (dk_at dksX1_next_2 3 rfl rfl)
theorem dX1_next_50 : decode cX1_next 50 = .ok (.goto 4, 3) := dk_167 0 4 (dk_at dksX1_next_2 4 rfl rfl)
theorem dX1_next_53 : decode cX1_next 53 = .ok (.iconst 0, 1) := dk_3 (dk_at dksX1_next_2 7 rfl rfl)
theorem dX1_next_54 : decode cX1_next 54 = .ok (.invokestatic 148, 3) := dk_184 0 148 (dk_at dksX1_next_2 8 rfl rfl)
theorem dX1_next_57 : decode cX1_next 57 = .ok (.aload_n 0, 1) := dk_42 (dk_at dksX1_next_2 11 rfl rfl)
theorem dX1_next_58 : decode cX1_next 58 = .ok (.iload_n 1, 1) := dk_27 (dk_at dksX1_next_2 12 rfl rfl)
theorem dX1_next_59 : decode cX1_next 59 = .ok (.iconst (-1), 1) := dk_2 (dk_at dksX1_next_2 13 rfl rfl)
theorem dX1_next_60 : decode cX1_next 60 = .ok (.iconst (-1), 1) := dk_2 (dk_at dksX1_next_2 14 rfl rfl)
theorem dX1_next_61 : decode cX1_next 61 = .ok (.invokevirtual 283, 3) := dk_182 1 27 (dk_at dksX1_next_2 15 rfl rfl)
theorem dX1_next_64 : decode cX1_next 64 = .ok (.lstore 4, 2) := dk_55 4 (dk_at dksX1_next_2 18 rfl rfl)
theorem dX1_next_66 : decode cX1_next 66 = .ok (.lload 4, 2) := dk_22 4 (dk_at dksX1_next_2 20 rfl rfl)
theorem dX1_next_68 : decode cX1_next 68 = .ok (.lconst 0, 1) := dk_9 (dk_at dksX1_next_2 22 rfl rfl)
theorem dX1_next_69 : decode cX1_next 69 = .ok (.lcmp, 1) := dk_148 (dk_at dksX1_next_2 23 rfl rfl)
theorem dX1_next_70 : decode cX1_next 70 = .ok (.ifCond .le 7, 3) := dk_158 0 7 (dk_at dksX1_next_3 0 rfl rfl)
theorem dX1_next_73 : decode cX1_next 73 = .ok (.iconst 1, 1) := dk_4 (dk_at dksX1_next_3 3 rfl rfl)
theorem dX1_next_74 : decode cX1_next 74 = .ok (.goto 4, 3) := dk_167 0 4 (dk_at dksX1_next_3 4 rfl rfl)
theorem dX1_next_77 : decode cX1_next 77 = .ok (.iconst 0, 1) := dk_3 (dk_at dksX1_next_3 7 rfl rfl)
theorem dX1_next_78 : decode cX1_next 78 = .ok (.invokestatic 148, 3) := dk_184 0 148 (dk_at dksX1_next_3 8 rfl rfl)
theorem dX1_next_81 : decode cX1_next 81 = .ok (.lconst 0, 1) := dk_9 (dk_at dksX1_next_3 11 rfl rfl)
theorem dX1_next_82 : decode cX1_next 82 = .ok (.lstore 6, 2) := dk_55 6 (dk_at dksX1_next_3 12 rfl rfl)
theorem dX1_next_84 : decode cX1_next 84 = .ok (.iconst 0, 1) := dk_3 (dk_at dksX1_next_3 14 rfl rfl)
theorem dX1_next_85 : decode cX1_next 85 = .ok (.istore 8, 2) := dk_54 8 (dk_at dksX1_next_3 15 rfl rfl)
theorem dX1_next_87 : decode cX1_next 87 = .ok (.iload 8, 2) := dk_21 8 (dk_at dksX1_next_3 17 rfl rfl)
theorem dX1_next_89 : decode cX1_next 89 = .ok (.aload_n 0, 1) := dk_42 (dk_at dksX1_next_3 19 rfl rfl)
theorem dX1_next_90 : decode cX1_next 90 = .ok (.getfield 257, 3) := dk_180 1 1 (dk_at dksX1_next_3 20 rfl rfl)
theorem dX1_next_93 : decode cX1_next 93 = .ok (.if_icmp .ge 78, 3) := dk_162 0 78 (dk_at dksX1_next_4 0 rfl rfl)
theorem dX1_next_96 : decode cX1_next 96 = .ok (.aload_n 0, 1) := dk_42 (dk_at dksX1_next_4 3 rfl rfl)
theorem dX1_next_97 : decode cX1_next 97 = .ok (.getfield 48, 3) := dk_180 0 48 (dk_at dksX1_next_4 4 rfl rfl)
theorem dX1_next_100 : decode cX1_next 100 = .ok (.iload 8, 2) := dk_21 8 (dk_at dksX1_next_4 7 rfl rfl)
theorem dX1_next_102 : decode cX1_next 102 = .ok (.iaload, 1) := dk_46 (dk_at dksX1_next_4 9 rfl rfl)
theorem dX1_next_103 : decode cX1_next 103 = .ok (.iload_n 2, 1) := dk_28 (dk_at dksX1_next_4 10 rfl rfl)
theorem dX1_next_104 : decode cX1_next 104 = .ok (.if_icmp .ne 61, 3) := dk_160 0 61 (dk_at dksX1_next_4 11 rfl rfl)
theorem dX1_next_107 : decode cX1_next 107 = .ok (.iconst 0, 1) := dk_3 (dk_at dksX1_next_4 14 rfl rfl)
theorem dX1_next_108 : decode cX1_next 108 = .ok (.istore 9, 2) := dk_54 9 (dk_at dksX1_next_4 15 rfl rfl)
theorem dX1_next_110 : decode cX1_next 110 = .ok (.iload 9, 2) := dk_21 9 (dk_at dksX1_next_4 17 rfl rfl)
theorem dX1_next_112 : decode cX1_next 112 = .ok (.aload_n 0, 1) := dk_42 (dk_at dksX1_next_4 19 rfl rfl)
theorem dX1_next_113 : decode cX1_next 113 = .ok (.getfield 260, 3) := dk_180 1 4 (dk_at dksX1_next_4 20 rfl rfl)
theorem dX1_next_116 : decode cX1_next 116 = .ok (.if_icmp .ge 49, 3) := dk_162 0 49 (dk_at dksX1_next_5 0 rfl rfl)
theorem dX1_next_119 : decode cX1_next 119 = .ok (.lload 6, 2) := dk_22 6 (dk_at dksX1_next_5 3 rfl rfl)
theorem dX1_next_121 : decode cX1_next 121 = .ok (.aload_n 0, 1) := dk_42 (dk_at dksX1_next_5 5 rfl rfl)
theorem dX1_next_122 : decode cX1_next 122 = .ok (.getfield 54, 3) := dk_180 0 54 (dk_at dksX1_next_5 6 rfl rfl)
theorem dX1_next_125 : decode cX1_next 125 = .ok (.iload 9, 2) := dk_21 9 (dk_at dksX1_next_5 9 rfl rfl)
theorem dX1_next_127 : decode cX1_next 127 = .ok (.laload, 1) := dk_47 (dk_at dksX1_next_5 11 rfl rfl)
theorem dX1_next_128 : decode cX1_next 128 = .ok (.aload_n 0, 1) := dk_42 (dk_at dksX1_next_5 12 rfl rfl)
theorem dX1_next_129 : decode cX1_next 129 = .ok (.getfield 45, 3) := dk_180 0 45 (dk_at dksX1_next_5 13 rfl rfl)
theorem dX1_next_132 : decode cX1_next 132 = .ok (.iload_n 2, 1) := dk_28 (dk_at dksX1_next_5 16 rfl rfl)
theorem dX1_next_133 : decode cX1_next 133 = .ok (.iaload, 1) := dk_46 (dk_at dksX1_next_5 17 rfl rfl)
theorem dX1_next_134 : decode cX1_next 134 = .ok (.iload 9, 2) := dk_21 9 (dk_at dksX1_next_5 18 rfl rfl)
theorem dX1_next_136 : decode cX1_next 136 = .ok (.aload_n 0, 1) := dk_42 (dk_at dksX1_next_5 20 rfl rfl)
theorem dX1_next_137 : decode cX1_next 137 = .ok (.getfield 51, 3) := dk_180 0 51 (dk_at dksX1_next_5 21 rfl rfl)
theorem dX1_next_140 : decode cX1_next 140 = .ok (.iload 8, 2) := dk_21 8 (dk_at dksX1_next_6 0 rfl rfl)
theorem dX1_next_142 : decode cX1_next 142 = .ok (.iaload, 1) := dk_46 (dk_at dksX1_next_6 2 rfl rfl)
theorem dX1_next_143 : decode cX1_next 143 = .ok (.idiv, 1) := dk_108 (dk_at dksX1_next_6 3 rfl rfl)
theorem dX1_next_144 : decode cX1_next 144 = .ok (.aload_n 0, 1) := dk_42 (dk_at dksX1_next_6 4 rfl rfl)
theorem dX1_next_145 : decode cX1_next 145 = .ok (.getfield 45, 3) := dk_180 0 45 (dk_at dksX1_next_6 5 rfl rfl)
theorem dX1_next_148 : decode cX1_next 148 = .ok (.iload_n 2, 1) := dk_28 (dk_at dksX1_next_6 8 rfl rfl)
theorem dX1_next_149 : decode cX1_next 149 = .ok (.iaload, 1) := dk_46 (dk_at dksX1_next_6 9 rfl rfl)
theorem dX1_next_150 : decode cX1_next 150 = .ok (.iconst 1, 1) := dk_4 (dk_at dksX1_next_6 10 rfl rfl)
theorem dX1_next_151 : decode cX1_next 151 = .ok (.iadd, 1) := dk_96 (dk_at dksX1_next_6 11 rfl rfl)
theorem dX1_next_152 : decode cX1_next 152 = .ok (.irem, 1) := dk_112 (dk_at dksX1_next_6 12 rfl rfl)
theorem dX1_next_153 : decode cX1_next 153 = .ok (.isub, 1) := dk_100 (dk_at dksX1_next_6 13 rfl rfl)
theorem dX1_next_154 : decode cX1_next 154 = .ok (.i2l, 1) := dk_133 (dk_at dksX1_next_6 14 rfl rfl)
theorem dX1_next_155 : decode cX1_next 155 = .ok (.lmul, 1) := dk_105 (dk_at dksX1_next_6 15 rfl rfl)
theorem dX1_next_156 : decode cX1_next 156 = .ok (.ladd, 1) := dk_97 (dk_at dksX1_next_6 16 rfl rfl)
theorem dX1_next_157 : decode cX1_next 157 = .ok (.lstore 6, 2) := dk_55 6 (dk_at dksX1_next_6 17 rfl rfl)
theorem dX1_next_159 : decode cX1_next 159 = .ok (.iinc 9 1, 3) := dk_132 9 1 (dk_at dksX1_next_6 19 rfl rfl)
theorem dX1_next_162 : decode cX1_next 162 = .ok (.goto (-52), 3) := dk_167 255 204 (dk_at dksX1_next_7 0 rfl rfl)
theorem dX1_next_165 : decode cX1_next 165 = .ok (.iinc 8 1, 3) := dk_132 8 1 (dk_at dksX1_next_7 3 rfl rfl)
theorem dX1_next_168 : decode cX1_next 168 = .ok (.goto (-81), 3) := dk_167 255 175 (dk_at dksX1_next_7 6 rfl rfl)
theorem dX1_next_171 : decode cX1_next 171 = .ok (.lload 6, 2) := dk_22 6 (dk_at dksX1_next_7 9 rfl rfl)
theorem dX1_next_173 : decode cX1_next 173 = .ok (.lload 4, 2) := dk_22 4 (dk_at dksX1_next_7 11 rfl rfl)
theorem dX1_next_175 : decode cX1_next 175 = .ok (.aload_n 0, 1) := dk_42 (dk_at dksX1_next_7 13 rfl rfl)
theorem dX1_next_176 : decode cX1_next 176 = .ok (.getfield 30, 3) := dk_180 0 30 (dk_at dksX1_next_7 14 rfl rfl)
theorem dX1_next_179 : decode cX1_next 179 = .ok (.invokevirtual 185, 3) := dk_182 0 185 (dk_at dksX1_next_7 17 rfl rfl)
theorem dX1_next_182 : decode cX1_next 182 = .ok (.i2l, 1) := dk_133 (dk_at dksX1_next_7 20 rfl rfl)
theorem dX1_next_183 : decode cX1_next 183 = .ok (.lmul, 1) := dk_105 (dk_at dksX1_next_7 21 rfl rfl)
theorem dX1_next_184 : decode cX1_next 184 = .ok (.iload_n 3, 1) := dk_29 (dk_at dksX1_next_7 22 rfl rfl)
theorem dX1_next_185 : decode cX1_next 185 = .ok (.invokestatic 294, 3) := dk_184 1 38 (dk_at dksX1_next_8 0 rfl rfl)
theorem dX1_next_188 : decode cX1_next 188 = .ok (.lreturn, 1) := dk_173 (dk_at dksX1_next_8 3 rfl rfl)
theorem q118 : (Jvm.Cond.initialized "SevenTable") ∈ lw_all := lw_g (lw_at lw_m1 1 rfl) rfl
theorem q159 : (Jvm.Cond.instantiable "SevenTable" (24 : Nat)) ∈ lw_all := lw_g (lw_at lw_m1 42 rfl) rfl
theorem q161 : (Jvm.Cond.instanceMethod ({ cls := "SevenTable", name := "<init>", desc := "()V" } : Jvm.MethodName)) ∈ lw_all := lw_g (lw_at lw_m1 44 rfl) rfl
theorem q162 : (Jvm.Cond.code ({ cls := "SevenTable", name := "<init>", desc := "()V" } : Jvm.MethodName) prog_1_method_4_code (2 : Nat) (Option.none : Option Jvm.ClassFile.FieldType)) ∈ lw_all := lw_g (lw_at lw_m1 45 rfl) rfl
theorem q163 : (Jvm.Cond.methodLink "SevenTable" (9 : Nat) ({ cls := "java/lang/Object", name := "<init>", desc := "()V" } : Jvm.MethodName)) ∈ lw_all := lw_g (lw_at lw_m1 46 rfl) rfl
theorem q166 : (Jvm.Cond.classLink "SevenTable" (16 : Nat) "SevenTable$Table") ∈ lw_all := lw_g (lw_at lw_m1 49 rfl) rfl
theorem q168 : (Jvm.Cond.methodLinkNest "SevenTable" (18 : Nat) ({ cls := "SevenTable$Table", name := "<init>", desc := "()V" } : Jvm.MethodName) "SevenTable") ∈ lw_tbl := lw_at lw_m1 51 rfl
theorem q205 : (Jvm.Cond.fieldLinkNest "SevenTable" (252 : Nat) "SevenTable$Table" "kinds" "I" "SevenTable") ∈ lw_tbl := lw_at lw_m1 88 rfl
theorem q210 : (Jvm.Cond.fieldLinkNest "SevenTable" (385 : Nat) "SevenTable$Table" "refill" "I" "SevenTable") ∈ lw_tbl := lw_at lw_m1 93 rfl
theorem q212 : (Jvm.Cond.fieldLinkNest "SevenTable" (130 : Nat) "SevenTable$Table" "lines" "I" "SevenTable") ∈ lw_tbl := lw_at lw_m1 95 rfl
theorem q218 : (Jvm.Cond.fieldLinkNest "SevenTable" (381 : Nat) "SevenTable$Table" "again" "Z" "SevenTable") ∈ lw_tbl := lw_at lw_m1 101 rfl
theorem q252 : (Jvm.Cond.classLink "SevenTable" (23 : Nat) "SevenTable$Game") ∈ lw_all := lw_g (lw_at lw_m1 135 rfl) rfl
theorem q254 : (Jvm.Cond.methodLinkNest "SevenTable" (25 : Nat) ({ cls := "SevenTable$Game", name := "<init>", desc := "()V" } : Jvm.MethodName) "SevenTable") ∈ lw_tbl := lw_at lw_m1 137 rfl
theorem q273 : (Jvm.Cond.fieldLinkNest "SevenTable" (152 : Nat) "SevenTable$Game" "hand" "[[I" "SevenTable") ∈ lw_tbl := lw_at lw_m1 156 rfl
theorem q277 : (Jvm.Cond.fieldLinkNest "SevenTable" (245 : Nat) "SevenTable$Game" "known" "[[I" "SevenTable") ∈ lw_tbl := lw_at lw_m1 160 rfl
theorem q279 : (Jvm.Cond.fieldLinkNest "SevenTable" (269 : Nat) "SevenTable$Game" "other" "[[I" "SevenTable") ∈ lw_tbl := lw_at lw_m1 162 rfl
theorem q281 : (Jvm.Cond.fieldLinkNest "SevenTable" (167 : Nat) "SevenTable$Game" "others" "[I" "SevenTable") ∈ lw_tbl := lw_at lw_m1 164 rfl
theorem q283 : (Jvm.Cond.fieldLinkNest "SevenTable" (170 : Nat) "SevenTable$Game" "caught" "[I" "SevenTable") ∈ lw_tbl := lw_at lw_m1 166 rfl
theorem q285 : (Jvm.Cond.fieldLinkNest "SevenTable" (173 : Nat) "SevenTable$Game" "asks" "[I" "SevenTable") ∈ lw_tbl := lw_at lw_m1 168 rfl
theorem q287 : (Jvm.Cond.fieldLinkNest "SevenTable" (176 : Nat) "SevenTable$Game" "given" "[I" "SevenTable") ∈ lw_tbl := lw_at lw_m1 170 rfl
theorem q290 : (Jvm.Cond.fieldLinkNest "SevenTable" (179 : Nat) "SevenTable$Game" "drew" "[I" "SevenTable") ∈ lw_tbl := lw_at lw_m1 173 rfl
theorem q293 : (Jvm.Cond.fieldLinkNest "SevenTable" (182 : Nat) "SevenTable$Game" "book" "[I" "SevenTable") ∈ lw_tbl := lw_at lw_m1 176 rfl
theorem q297 : (Jvm.Cond.fieldLinkNest "SevenTable" (192 : Nat) "SevenTable$Game" "heap" "[I" "SevenTable") ∈ lw_tbl := lw_at lw_m1 180 rfl
theorem q299 : (Jvm.Cond.fieldLinkNest "SevenTable" (254 : Nat) "SevenTable$Game" "cards" "[I" "SevenTable") ∈ lw_tbl := lw_at lw_m1 182 rfl
theorem q302 : (Jvm.Cond.fieldLinkNest "SevenTable" (195 : Nat) "SevenTable$Game" "heapAt" "I" "SevenTable") ∈ lw_tbl := lw_at lw_m1 185 rfl
theorem q308 : (Jvm.Cond.fieldLinkNest "SevenTable" (198 : Nat) "SevenTable$Game" "turn" "I" "SevenTable") ∈ lw_tbl := lw_at lw_m1 191 rfl
theorem q310 : (Jvm.Cond.fieldLinkNest "SevenTable" (201 : Nat) "SevenTable$Game" "askings" "I" "SevenTable") ∈ lw_tbl := lw_at lw_m1 193 rfl
theorem q313 : (Jvm.Cond.fieldLinkNest "SevenTable" (207 : Nat) "SevenTable$Game" "vain" "I" "SevenTable") ∈ lw_tbl := lw_at lw_m1 196 rfl
theorem q315 : (Jvm.Cond.fieldLinkNest "SevenTable" (227 : Nat) "SevenTable$Game" "latest" "[I" "SevenTable") ∈ lw_tbl := lw_at lw_m1 198 rfl
theorem q356 : (Jvm.Cond.methodLink "SevenTable" (26 : Nat) ({ cls := "SevenTable$Game", name := "begin", desc := "(LSevenTable$Table;)LSevenTable$Game;" } : Jvm.MethodName)) ∈ lw_all := lw_g (lw_at lw_m1 239 rfl) rfl
theorem q410 : (Jvm.Cond.static ({ cls := "SevenTable", name := "isOf", desc := "(II)Z" } : Jvm.MethodName)) ∈ lw_all := lw_g (lw_at lw_m2 53 rfl) rfl
theorem q411 : (Jvm.Cond.code ({ cls := "SevenTable", name := "isOf", desc := "(II)Z" } : Jvm.MethodName) prog_1_method_2_code (2 : Nat) (Option.some Jvm.ClassFile.FieldType.boolean)) ∈ lw_all := lw_g (lw_at lw_m2 54 rfl) rfl
theorem q435 : (Jvm.Cond.classLink "SevenTable" (64 : Nat) "SevenTable$Open") ∈ lw_all := lw_g (lw_at lw_m2 78 rfl) rfl
theorem q437 : (Jvm.Cond.methodLinkNest "SevenTable" (66 : Nat) ({ cls := "SevenTable$Open", name := "<init>", desc := "()V" } : Jvm.MethodName) "SevenTable") ∈ lw_tbl := lw_at lw_m2 80 rfl
theorem q446 : (Jvm.Cond.fieldLinkNest "SevenTable" (314 : Nat) "SevenTable$Open" "firstKind" "I" "SevenTable") ∈ lw_tbl := lw_at lw_m2 89 rfl
theorem q457 : (Jvm.Cond.classLink "SevenTable" (71 : Nat) "SevenTable$Bent") ∈ lw_all := lw_g (lw_at lw_m2 100 rfl) rfl
theorem q459 : (Jvm.Cond.classLink "SevenTable" (73 : Nat) "SevenTable$Least") ∈ lw_all := lw_g (lw_at lw_m2 102 rfl) rfl
theorem q461 : (Jvm.Cond.methodLinkNest "SevenTable" (75 : Nat) ({ cls := "SevenTable$Least", name := "<init>", desc := "()V" } : Jvm.MethodName) "SevenTable") ∈ lw_tbl := lw_at lw_m2 104 rfl
theorem q469 : (Jvm.Cond.classLink "SevenTable" (76 : Nat) "SevenTable$Knowing") ∈ lw_all := lw_g (lw_at lw_m2 112 rfl) rfl
theorem q471 : (Jvm.Cond.methodLinkNest "SevenTable" (78 : Nat) ({ cls := "SevenTable$Knowing", name := "<init>", desc := "()V" } : Jvm.MethodName) "SevenTable") ∈ lw_tbl := lw_at lw_m2 114 rfl
theorem q476 : (Jvm.Cond.classLink "SevenTable" (79 : Nat) "SevenTable$Most") ∈ lw_all := lw_g (lw_at lw_m2 119 rfl) rfl
theorem q478 : (Jvm.Cond.methodLinkNest "SevenTable" (81 : Nat) ({ cls := "SevenTable$Most", name := "<init>", desc := "()V" } : Jvm.MethodName) "SevenTable") ∈ lw_tbl := lw_at lw_m2 121 rfl
theorem q483 : (Jvm.Cond.classLink "SevenTable" (82 : Nat) "SevenTable$Latest") ∈ lw_all := lw_g (lw_at lw_m2 126 rfl) rfl
theorem q485 : (Jvm.Cond.methodLinkNest "SevenTable" (84 : Nat) ({ cls := "SevenTable$Latest", name := "<init>", desc := "()V" } : Jvm.MethodName) "SevenTable") ∈ lw_tbl := lw_at lw_m2 128 rfl
theorem q490 : (Jvm.Cond.classLink "SevenTable" (92 : Nat) "SevenTable$Kept") ∈ lw_all := lw_g (lw_at lw_m2 133 rfl) rfl
theorem q493 : (Jvm.Cond.methodLinkNest "SevenTable" (94 : Nat) ({ cls := "SevenTable$Kept", name := "<init>", desc := "()V" } : Jvm.MethodName) "SevenTable") ∈ lw_tbl := lw_at lw_m2 136 rfl
theorem q499 : (Jvm.Cond.fieldLinkNest "SevenTable" (376 : Nat) "SevenTable$Kept" "table" "LSevenTable$Table;" "SevenTable") ∈ lw_tbl := lw_at lw_m2 142 rfl
theorem q500 : (Jvm.Cond.fieldLinkNest "SevenTable" (377 : Nat) "SevenTable$Kept" "sentence" "LSevenTable$Cond;" "SevenTable") ∈ lw_tbl := lw_at lw_m2 143 rfl
theorem q502 : (Jvm.Cond.fieldLinkNest "SevenTable" (378 : Nat) "SevenTable$Kept" "game" "LSevenTable$Game;" "SevenTable") ∈ lw_tbl := lw_at lw_m2 145 rfl
theorem q510 : (Jvm.Cond.fieldLink "SevenTable" (12 : Nat) "SevenTable" "tape" "[B") ∈ lw_all := lw_g (lw_at lw_m2 153 rfl) rfl
theorem q511 : (Jvm.Cond.fieldLink "SevenTable" (99 : Nat) "SevenTable" "taped" "I") ∈ lw_all := lw_g (lw_at lw_m2 154 rfl) rfl
theorem q512 : (Jvm.Cond.fieldLink "SevenTable" (111 : Nat) "SevenTable" "fault" "I") ∈ lw_all := lw_g (lw_at lw_m2 155 rfl) rfl
theorem q513 : (Jvm.Cond.fieldLink "SevenTable" (19 : Nat) "SevenTable" "table" "LSevenTable$Table;") ∈ lw_all := lw_g (lw_at lw_m2 156 rfl) rfl
theorem q514 : (Jvm.Cond.fieldLink "SevenTable" (30 : Nat) "SevenTable" "now" "LSevenTable$Game;") ∈ lw_all := lw_g (lw_at lw_m2 157 rfl) rfl
theorem q515 : (Jvm.Cond.fieldLink "SevenTable" (34 : Nat) "SevenTable" "trial" "LSevenTable$Game;") ∈ lw_all := lw_g (lw_at lw_m2 158 rfl) rfl
theorem q516 : (Jvm.Cond.fieldLink "SevenTable" (123 : Nat) "SevenTable" "sentence" "LSevenTable$Cond;") ∈ lw_all := lw_g (lw_at lw_m2 159 rfl) rfl
theorem q517 : (Jvm.Cond.fieldLink "SevenTable" (37 : Nat) "SevenTable" "before" "[LSevenTable$Game;") ∈ lw_all := lw_g (lw_at lw_m2 160 rfl) rfl
theorem q518 : (Jvm.Cond.fieldLink "SevenTable" (127 : Nat) "SevenTable" "befores" "I") ∈ lw_all := lw_g (lw_at lw_m2 161 rfl) rfl
theorem q519 : (Jvm.Cond.fieldLink "SevenTable" (41 : Nat) "SevenTable" "asked" "[I") ∈ lw_all := lw_g (lw_at lw_m2 162 rfl) rfl
theorem q520 : (Jvm.Cond.fieldLink "SevenTable" (45 : Nat) "SevenTable" "unseen" "[I") ∈ lw_all := lw_g (lw_at lw_m2 163 rfl) rfl
theorem q521 : (Jvm.Cond.fieldLink "SevenTable" (48 : Nat) "SevenTable" "kindAt" "[I") ∈ lw_all := lw_g (lw_at lw_m2 164 rfl) rfl
theorem q522 : (Jvm.Cond.fieldLink "SevenTable" (51 : Nat) "SevenTable" "scale" "[I") ∈ lw_all := lw_g (lw_at lw_m2 165 rfl) rfl
theorem q523 : (Jvm.Cond.fieldLink "SevenTable" (257 : Nat) "SevenTable" "unseenKinds" "I") ∈ lw_all := lw_g (lw_at lw_m2 166 rfl) rfl
theorem q524 : (Jvm.Cond.fieldLink "SevenTable" (260 : Nat) "SevenTable" "states" "I") ∈ lw_all := lw_g (lw_at lw_m2 167 rfl) rfl
theorem q525 : (Jvm.Cond.fieldLink "SevenTable" (54 : Nat) "SevenTable" "ways" "[J") ∈ lw_all := lw_g (lw_at lw_m2 168 rfl) rfl
theorem q526 : (Jvm.Cond.fieldLink "SevenTable" (58 : Nat) "SevenTable" "waysNext" "[J") ∈ lw_all := lw_g (lw_at lw_m2 169 rfl) rfl
theorem q527 : (Jvm.Cond.fieldLink "SevenTable" (61 : Nat) "SevenTable" "swept" "[I") ∈ lw_all := lw_g (lw_at lw_m2 170 rfl) rfl
theorem q528 : (Jvm.Cond.fieldLink "SevenTable" (300 : Nat) "SevenTable" "sweptMany" "I") ∈ lw_all := lw_g (lw_at lw_m2 171 rfl) rfl
theorem q529 : (Jvm.Cond.fieldLink "SevenTable" (67 : Nat) "SevenTable" "opened" "LSevenTable$Open;") ∈ lw_all := lw_g (lw_at lw_m2 172 rfl) rfl
theorem q530 : (Jvm.Cond.fieldLink "SevenTable" (85 : Nat) "SevenTable" "bents" "[LSevenTable$Bent;") ∈ lw_all := lw_g (lw_at lw_m2 173 rfl) rfl
theorem q531 : (Jvm.Cond.fieldLink "SevenTable" (332 : Nat) "SevenTable" "lengths" "I") ∈ lw_all := lw_g (lw_at lw_m2 174 rfl) rfl
theorem q532 : (Jvm.Cond.fieldLink "SevenTable" (89 : Nat) "SevenTable" "heard" "[I") ∈ lw_all := lw_g (lw_at lw_m2 175 rfl) rfl
theorem q533 : (Jvm.Cond.fieldLink "SevenTable" (95 : Nat) "SevenTable" "kept" "[LSevenTable$Kept;") ∈ lw_all := lw_g (lw_at lw_m2 176 rfl) rfl
theorem q534 : (Jvm.Cond.laysFinal "SevenTable" "SevenTable" "tape" "[B") ∈ lw_all := lw_g (lw_at lw_m2 177 rfl) rfl
theorem q535 : (Jvm.Cond.soleField "SevenTable" "tape") ∈ lw_all := lw_g (lw_at lw_m2 178 rfl) rfl
theorem q536 : (Jvm.Cond.lays "SevenTable" "SevenTable" "taped" "I") ∈ lw_all := lw_g (lw_at lw_m2 179 rfl) rfl
theorem q537 : (Jvm.Cond.soleField "SevenTable" "taped") ∈ lw_all := lw_g (lw_at lw_m2 180 rfl) rfl
theorem q538 : (Jvm.Cond.lays "SevenTable" "SevenTable" "fault" "I") ∈ lw_all := lw_g (lw_at lw_m2 181 rfl) rfl
theorem q539 : (Jvm.Cond.soleField "SevenTable" "fault") ∈ lw_all := lw_g (lw_at lw_m2 182 rfl) rfl
theorem q540 : (Jvm.Cond.lays "SevenTable" "SevenTable" "table" "LSevenTable$Table;") ∈ lw_all := lw_g (lw_at lw_m2 183 rfl) rfl
theorem q541 : (Jvm.Cond.soleField "SevenTable" "table") ∈ lw_all := lw_g (lw_at lw_m2 184 rfl) rfl
theorem q542 : (Jvm.Cond.laysFinal "SevenTable" "SevenTable" "now" "LSevenTable$Game;") ∈ lw_all := lw_g (lw_at lw_m2 185 rfl) rfl
theorem q543 : (Jvm.Cond.soleField "SevenTable" "now") ∈ lw_all := lw_g (lw_at lw_m2 186 rfl) rfl
theorem q544 : (Jvm.Cond.laysFinal "SevenTable" "SevenTable" "trial" "LSevenTable$Game;") ∈ lw_all := lw_g (lw_at lw_m2 187 rfl) rfl
theorem q545 : (Jvm.Cond.soleField "SevenTable" "trial") ∈ lw_all := lw_g (lw_at lw_m2 188 rfl) rfl
theorem q546 : (Jvm.Cond.lays "SevenTable" "SevenTable" "sentence" "LSevenTable$Cond;") ∈ lw_all := lw_g (lw_at lw_m2 189 rfl) rfl
theorem q547 : (Jvm.Cond.soleField "SevenTable" "sentence") ∈ lw_all := lw_g (lw_at lw_m2 190 rfl) rfl
theorem q548 : (Jvm.Cond.laysFinal "SevenTable" "SevenTable" "before" "[LSevenTable$Game;") ∈ lw_all := lw_g (lw_at lw_m2 191 rfl) rfl
theorem q549 : (Jvm.Cond.soleField "SevenTable" "before") ∈ lw_all := lw_g (lw_at lw_m2 192 rfl) rfl
theorem q550 : (Jvm.Cond.lays "SevenTable" "SevenTable" "befores" "I") ∈ lw_all := lw_g (lw_at lw_m2 193 rfl) rfl
theorem q551 : (Jvm.Cond.soleField "SevenTable" "befores") ∈ lw_all := lw_g (lw_at lw_m2 194 rfl) rfl
theorem q552 : (Jvm.Cond.laysFinal "SevenTable" "SevenTable" "asked" "[I") ∈ lw_all := lw_g (lw_at lw_m2 195 rfl) rfl
theorem q553 : (Jvm.Cond.soleField "SevenTable" "asked") ∈ lw_all := lw_g (lw_at lw_m2 196 rfl) rfl
theorem q554 : (Jvm.Cond.laysFinal "SevenTable" "SevenTable" "unseen" "[I") ∈ lw_all := lw_g (lw_at lw_m2 197 rfl) rfl
theorem q555 : (Jvm.Cond.soleField "SevenTable" "unseen") ∈ lw_all := lw_g (lw_at lw_m2 198 rfl) rfl
theorem q556 : (Jvm.Cond.laysFinal "SevenTable" "SevenTable" "kindAt" "[I") ∈ lw_all := lw_g (lw_at lw_m2 199 rfl) rfl
theorem q557 : (Jvm.Cond.soleField "SevenTable" "kindAt") ∈ lw_all := lw_g (lw_at lw_m2 200 rfl) rfl
theorem q558 : (Jvm.Cond.laysFinal "SevenTable" "SevenTable" "scale" "[I") ∈ lw_all := lw_g (lw_at lw_m2 201 rfl) rfl
theorem q559 : (Jvm.Cond.soleField "SevenTable" "scale") ∈ lw_all := lw_g (lw_at lw_m2 202 rfl) rfl
theorem q560 : (Jvm.Cond.lays "SevenTable" "SevenTable" "unseenKinds" "I") ∈ lw_all := lw_g (lw_at lw_m2 203 rfl) rfl
theorem q561 : (Jvm.Cond.soleField "SevenTable" "unseenKinds") ∈ lw_all := lw_g (lw_at lw_m2 204 rfl) rfl
theorem q562 : (Jvm.Cond.lays "SevenTable" "SevenTable" "states" "I") ∈ lw_all := lw_g (lw_at lw_m2 205 rfl) rfl
theorem q563 : (Jvm.Cond.soleField "SevenTable" "states") ∈ lw_all := lw_g (lw_at lw_m2 206 rfl) rfl
theorem q564 : (Jvm.Cond.lays "SevenTable" "SevenTable" "ways" "[J") ∈ lw_all := lw_g (lw_at lw_m2 207 rfl) rfl
theorem q565 : (Jvm.Cond.soleField "SevenTable" "ways") ∈ lw_all := lw_g (lw_at lw_m2 208 rfl) rfl
theorem q566 : (Jvm.Cond.lays "SevenTable" "SevenTable" "waysNext" "[J") ∈ lw_all := lw_g (lw_at lw_m2 209 rfl) rfl
theorem q567 : (Jvm.Cond.soleField "SevenTable" "waysNext") ∈ lw_all := lw_g (lw_at lw_m2 210 rfl) rfl
theorem q568 : (Jvm.Cond.laysFinal "SevenTable" "SevenTable" "swept" "[I") ∈ lw_all := lw_g (lw_at lw_m2 211 rfl) rfl
theorem q569 : (Jvm.Cond.soleField "SevenTable" "swept") ∈ lw_all := lw_g (lw_at lw_m2 212 rfl) rfl
theorem q570 : (Jvm.Cond.lays "SevenTable" "SevenTable" "sweptMany" "I") ∈ lw_all := lw_g (lw_at lw_m2 213 rfl) rfl
theorem q571 : (Jvm.Cond.soleField "SevenTable" "sweptMany") ∈ lw_all := lw_g (lw_at lw_m2 214 rfl) rfl
theorem q572 : (Jvm.Cond.laysFinal "SevenTable" "SevenTable" "opened" "LSevenTable$Open;") ∈ lw_all := lw_g (lw_at lw_m2 215 rfl) rfl
theorem q573 : (Jvm.Cond.soleField "SevenTable" "opened") ∈ lw_all := lw_g (lw_at lw_m2 216 rfl) rfl
theorem q574 : (Jvm.Cond.laysFinal "SevenTable" "SevenTable" "bents" "[LSevenTable$Bent;") ∈ lw_all := lw_g (lw_at lw_m2 217 rfl) rfl
theorem q575 : (Jvm.Cond.soleField "SevenTable" "bents") ∈ lw_all := lw_g (lw_at lw_m2 218 rfl) rfl
theorem q576 : (Jvm.Cond.lays "SevenTable" "SevenTable" "lengths" "I") ∈ lw_all := lw_g (lw_at lw_m2 219 rfl) rfl
theorem q577 : (Jvm.Cond.soleField "SevenTable" "lengths") ∈ lw_all := lw_g (lw_at lw_m2 220 rfl) rfl
theorem q578 : (Jvm.Cond.laysFinal "SevenTable" "SevenTable" "heard" "[I") ∈ lw_all := lw_g (lw_at lw_m2 221 rfl) rfl
theorem q579 : (Jvm.Cond.soleField "SevenTable" "heard") ∈ lw_all := lw_g (lw_at lw_m2 222 rfl) rfl
theorem q580 : (Jvm.Cond.laysFinal "SevenTable" "SevenTable" "kept" "[LSevenTable$Kept;") ∈ lw_all := lw_g (lw_at lw_m2 223 rfl) rfl
theorem q581 : (Jvm.Cond.soleField "SevenTable" "kept") ∈ lw_all := lw_g (lw_at lw_m2 224 rfl) rfl
theorem q582 : (Jvm.Cond.superclass "SevenTable" "java/lang/Object") ∈ lw_all := lw_g (lw_at lw_m2 225 rfl) rfl
theorem q584 : (Jvm.Cond.instanceMethod ({ cls := "SevenTable", name := "feed", desc := "(IIIII)I" } : Jvm.MethodName)) ∈ lw_all := lw_g (lw_at lw_m2 227 rfl) rfl
theorem q585 : (Jvm.Cond.selects "SevenTable" ({ cls := "SevenTable", name := "feed", desc := "(IIIII)I" } : Jvm.MethodName) ({ cls := "SevenTable", name := "feed", desc := "(IIIII)I" } : Jvm.MethodName)) ∈ lw_all := lw_g (lw_at lw_m2 228 rfl) rfl
theorem q586 : (Jvm.Cond.code ({ cls := "SevenTable", name := "feed", desc := "(IIIII)I" } : Jvm.MethodName) prog_1_method_6_code (6 : Nat) (Option.some Jvm.ClassFile.FieldType.int)) ∈ lw_all := lw_g (lw_at lw_m2 229 rfl) rfl
theorem q587 : (Jvm.Cond.methodLink "SevenTable" (103 : Nat) ({ cls := "SevenTable", name := "come", desc := "(I)V" } : Jvm.MethodName)) ∈ lw_all := lw_g (lw_at lw_m2 230 rfl) rfl
theorem q588 : (Jvm.Cond.privateMethod ({ cls := "SevenTable", name := "come", desc := "(I)V" } : Jvm.MethodName)) ∈ lw_tbl := lw_at lw_m2 231 rfl
theorem q589 : (Jvm.Cond.instanceMethod ({ cls := "SevenTable", name := "come", desc := "(I)V" } : Jvm.MethodName)) ∈ lw_all := lw_g (lw_at lw_m2 232 rfl) rfl
theorem q590 : (Jvm.Cond.code ({ cls := "SevenTable", name := "come", desc := "(I)V" } : Jvm.MethodName) prog_1_method_5_code (3 : Nat) (Option.none : Option Jvm.ClassFile.FieldType)) ∈ lw_all := lw_g (lw_at lw_m2 233 rfl) rfl
theorem q592 : (Jvm.Cond.instanceMethod ({ cls := "SevenTable", name := "end", desc := "(I)Z" } : Jvm.MethodName)) ∈ lw_all := lw_g (lw_at lw_m2 235 rfl) rfl
theorem q593 : (Jvm.Cond.selects "SevenTable" ({ cls := "SevenTable", name := "end", desc := "(I)Z" } : Jvm.MethodName) ({ cls := "SevenTable", name := "end", desc := "(I)Z" } : Jvm.MethodName)) ∈ lw_all := lw_g (lw_at lw_m2 236 rfl) rfl
theorem q594 : (Jvm.Cond.code ({ cls := "SevenTable", name := "end", desc := "(I)Z" } : Jvm.MethodName) prog_1_method_7_code (2 : Nat) (Option.some Jvm.ClassFile.FieldType.boolean)) ∈ lw_all := lw_g (lw_at lw_m2 237 rfl) rfl
theorem q596 : (Jvm.Cond.instanceMethod ({ cls := "SevenTable", name := "table", desc := "()I" } : Jvm.MethodName)) ∈ lw_all := lw_g (lw_at lw_m2 239 rfl) rfl
theorem q597 : (Jvm.Cond.selects "SevenTable" ({ cls := "SevenTable", name := "table", desc := "()I" } : Jvm.MethodName) ({ cls := "SevenTable", name := "table", desc := "()I" } : Jvm.MethodName)) ∈ lw_all := lw_g (lw_at lw_m3 0 rfl) rfl
theorem q598 : (Jvm.Cond.codeWith ({ cls := "SevenTable", name := "table", desc := "()I" } : Jvm.MethodName) prog_1_method_10_code (3 : Nat) (Option.some Jvm.ClassFile.FieldType.int) [((10 : Nat), (58 : Nat), (59 : Nat), (133 : Nat))]) ∈ lw_all := lw_g (lw_at lw_m3 1 rfl) rfl
theorem q599 : (Jvm.Cond.classLink "SevenTable" (133 : Nat) "SevenTable$Fault") ∈ lw_all := lw_g (lw_at lw_m3 2 rfl) rfl
theorem q600 : (Jvm.Cond.methodLink "SevenTable" (107 : Nat) ({ cls := "SevenTable", name := "take", desc := "()I" } : Jvm.MethodName)) ∈ lw_all := lw_g (lw_at lw_m3 3 rfl) rfl
theorem q601 : (Jvm.Cond.privateMethod ({ cls := "SevenTable", name := "take", desc := "()I" } : Jvm.MethodName)) ∈ lw_tbl := lw_at lw_m3 4 rfl
theorem q602 : (Jvm.Cond.instanceMethod ({ cls := "SevenTable", name := "take", desc := "()I" } : Jvm.MethodName)) ∈ lw_all := lw_g (lw_at lw_m3 5 rfl) rfl
theorem q603 : (Jvm.Cond.code ({ cls := "SevenTable", name := "take", desc := "()I" } : Jvm.MethodName) prog_1_method_8_code (2 : Nat) (Option.some Jvm.ClassFile.FieldType.int)) ∈ lw_all := lw_g (lw_at lw_m3 6 rfl) rfl
theorem q604 : (Jvm.Cond.classLink "SevenTable" (114 : Nat) "SevenTable$TableReader") ∈ lw_all := lw_g (lw_at lw_m3 7 rfl) rfl
theorem q606 : (Jvm.Cond.methodLink "SevenTable" (116 : Nat) ({ cls := "SevenTable$TableReader", name := "<init>", desc := "([BI)V" } : Jvm.MethodName)) ∈ lw_all := lw_g (lw_at lw_m3 9 rfl) rfl
theorem q662 : (Jvm.Cond.methodLink "SevenTable" (119 : Nat) ({ cls := "SevenTable$TableReader", name := "read", desc := "()LSevenTable$Table;" } : Jvm.MethodName)) ∈ lw_all := lw_g (lw_at lw_m3 65 rfl) rfl
theorem q943 : (Jvm.Cond.fieldLinkNest "SevenTable" (135 : Nat) "SevenTable$Fault" "kind" "I" "SevenTable") ∈ lw_tbl := lw_at lw_m4 106 rfl
theorem q945 : (Jvm.Cond.fieldLinkNest "SevenTable" (138 : Nat) "SevenTable$Fault" "place" "I" "SevenTable") ∈ lw_tbl := lw_at lw_m4 108 rfl
theorem q977 : (Jvm.Cond.static ({ cls := "SevenTable", name := "isIn", desc := "(III)Z" } : Jvm.MethodName)) ∈ lw_all := lw_g (lw_at lw_m4 140 rfl) rfl
theorem q978 : (Jvm.Cond.code ({ cls := "SevenTable", name := "isIn", desc := "(III)Z" } : Jvm.MethodName) prog_1_method_1_code (3 : Nat) (Option.some Jvm.ClassFile.FieldType.boolean)) ∈ lw_all := lw_g (lw_at lw_m4 141 rfl) rfl
theorem q1078 : (Jvm.Cond.selects "SevenTable" ({ cls := "java/lang/Object", name := "equals", desc := "(Ljava/lang/Object;)Z" } : Jvm.MethodName) ({ cls := "java/lang/Object", name := "equals", desc := "(Ljava/lang/Object;)Z" } : Jvm.MethodName)) ∈ lw_all := lw_g (lw_at lw_m5 1 rfl) rfl
theorem q1123 : (Jvm.Cond.selects "SevenTable" ({ cls := "java/lang/Object", name := "getClass", desc := "()Ljava/lang/Class;" } : Jvm.MethodName) ({ cls := "java/lang/Object", name := "getClass", desc := "()Ljava/lang/Class;" } : Jvm.MethodName)) ∈ lw_all := lw_g (lw_at lw_m5 46 rfl) rfl
theorem q1194 : (Jvm.Cond.instanceMethod ({ cls := "SevenTable", name := "fault", desc := "()I" } : Jvm.MethodName)) ∈ lw_all := lw_g (lw_at lw_m5 117 rfl) rfl
theorem q1195 : (Jvm.Cond.selects "SevenTable" ({ cls := "SevenTable", name := "fault", desc := "()I" } : Jvm.MethodName) ({ cls := "SevenTable", name := "fault", desc := "()I" } : Jvm.MethodName)) ∈ lw_all := lw_g (lw_at lw_m5 118 rfl) rfl
theorem q1196 : (Jvm.Cond.code ({ cls := "SevenTable", name := "fault", desc := "()I" } : Jvm.MethodName) prog_1_method_11_code (1 : Nat) (Option.some Jvm.ClassFile.FieldType.int)) ∈ lw_all := lw_g (lw_at lw_m5 119 rfl) rfl
theorem q1198 : (Jvm.Cond.instanceMethod ({ cls := "SevenTable", name := "person", desc := "(II)I" } : Jvm.MethodName)) ∈ lw_all := lw_g (lw_at lw_m5 121 rfl) rfl
theorem q1199 : (Jvm.Cond.selects "SevenTable" ({ cls := "SevenTable", name := "person", desc := "(II)I" } : Jvm.MethodName) ({ cls := "SevenTable", name := "person", desc := "(II)I" } : Jvm.MethodName)) ∈ lw_all := lw_g (lw_at lw_m5 122 rfl) rfl
theorem q1200 : (Jvm.Cond.code ({ cls := "SevenTable", name := "person", desc := "(II)I" } : Jvm.MethodName) prog_1_method_13_code (3 : Nat) (Option.some Jvm.ClassFile.FieldType.int)) ∈ lw_all := lw_g (lw_at lw_m5 123 rfl) rfl
theorem q1201 : (Jvm.Cond.methodLink "SevenTable" (141 : Nat) ({ cls := "SevenTable$Table", name := "isPerson", desc := "(I)Z" } : Jvm.MethodName)) ∈ lw_all := lw_g (lw_at lw_m5 124 rfl) rfl
theorem q1207 : (Jvm.Cond.methodLink "SevenTable" (156 : Nat) ({ cls := "SevenTable$Game", name := "size", desc := "(I)I" } : Jvm.MethodName)) ∈ lw_all := lw_g (lw_at lw_m5 130 rfl) rfl
theorem q1208 : (Jvm.Cond.methodLink "SevenTable" (160 : Nat) ({ cls := "SevenTable$Game", name := "booksOf", desc := "(I)I" } : Jvm.MethodName)) ∈ lw_all := lw_g (lw_at lw_m5 131 rfl) rfl
theorem q1212 : (Jvm.Cond.methodLink "SevenTable" (163 : Nat) ({ cls := "SevenTable$Bent", name := "kinds", desc := "(LSevenTable$Game;I)I" } : Jvm.MethodName)) ∈ lw_all := lw_g (lw_at lw_m5 135 rfl) rfl
theorem q1216 : (Jvm.Cond.instanceMethod ({ cls := "SevenTable", name := "book", desc := "(I)I" } : Jvm.MethodName)) ∈ lw_all := lw_g (lw_at lw_m5 139 rfl) rfl
theorem q1217 : (Jvm.Cond.selects "SevenTable" ({ cls := "SevenTable", name := "book", desc := "(I)I" } : Jvm.MethodName) ({ cls := "SevenTable", name := "book", desc := "(I)I" } : Jvm.MethodName)) ∈ lw_all := lw_g (lw_at lw_m5 140 rfl) rfl
theorem q1218 : (Jvm.Cond.code ({ cls := "SevenTable", name := "book", desc := "(I)I" } : Jvm.MethodName) prog_1_method_14_code (2 : Nat) (Option.some Jvm.ClassFile.FieldType.int)) ∈ lw_all := lw_g (lw_at lw_m5 141 rfl) rfl
theorem q1219 : (Jvm.Cond.methodLink "SevenTable" (145 : Nat) ({ cls := "SevenTable$Table", name := "isKind", desc := "(I)Z" } : Jvm.MethodName)) ∈ lw_all := lw_g (lw_at lw_m5 142 rfl) rfl
theorem q1224 : (Jvm.Cond.instanceMethod ({ cls := "SevenTable", name := "heap", desc := "(I)I" } : Jvm.MethodName)) ∈ lw_all := lw_g (lw_at lw_m5 147 rfl) rfl
theorem q1225 : (Jvm.Cond.selects "SevenTable" ({ cls := "SevenTable", name := "heap", desc := "(I)I" } : Jvm.MethodName) ({ cls := "SevenTable", name := "heap", desc := "(I)I" } : Jvm.MethodName)) ∈ lw_all := lw_g (lw_at lw_m5 148 rfl) rfl
theorem q1226 : (Jvm.Cond.code ({ cls := "SevenTable", name := "heap", desc := "(I)I" } : Jvm.MethodName) prog_1_method_15_code (2 : Nat) (Option.some Jvm.ClassFile.FieldType.int)) ∈ lw_all := lw_g (lw_at lw_m5 149 rfl) rfl
theorem q1227 : (Jvm.Cond.methodLink "SevenTable" (185 : Nat) ({ cls := "SevenTable$Game", name := "left", desc := "()I" } : Jvm.MethodName)) ∈ lw_all := lw_g (lw_at lw_m5 150 rfl) rfl
theorem q1228 : (Jvm.Cond.methodLink "SevenTable" (188 : Nat) ({ cls := "SevenTable", name := "isIn", desc := "(III)Z" } : Jvm.MethodName)) ∈ lw_all := lw_g (lw_at lw_m5 151 rfl) rfl
theorem q1230 : (Jvm.Cond.instanceMethod ({ cls := "SevenTable", name := "now", desc := "(I)I" } : Jvm.MethodName)) ∈ lw_all := lw_g (lw_at lw_m5 153 rfl) rfl
theorem q1231 : (Jvm.Cond.selects "SevenTable" ({ cls := "SevenTable", name := "now", desc := "(I)I" } : Jvm.MethodName) ({ cls := "SevenTable", name := "now", desc := "(I)I" } : Jvm.MethodName)) ∈ lw_all := lw_g (lw_at lw_m5 154 rfl) rfl
theorem q1232 : (Jvm.Cond.code ({ cls := "SevenTable", name := "now", desc := "(I)I" } : Jvm.MethodName) prog_1_method_16_code (2 : Nat) (Option.some Jvm.ClassFile.FieldType.int)) ∈ lw_all := lw_g (lw_at lw_m5 155 rfl) rfl
theorem q1233 : (Jvm.Cond.methodLink "SevenTable" (204 : Nat) ({ cls := "SevenTable$Game", name := "books", desc := "()I" } : Jvm.MethodName)) ∈ lw_all := lw_g (lw_at lw_m5 156 rfl) rfl
theorem q1237 : (Jvm.Cond.methodLink "SevenTable" (210 : Nat) ({ cls := "SevenTable", name := "inPlay", desc := "()I" } : Jvm.MethodName)) ∈ lw_all := lw_g (lw_at lw_m5 160 rfl) rfl
theorem q1238 : (Jvm.Cond.privateMethod ({ cls := "SevenTable", name := "inPlay", desc := "()I" } : Jvm.MethodName)) ∈ lw_tbl := lw_at lw_m5 161 rfl
theorem q1239 : (Jvm.Cond.instanceMethod ({ cls := "SevenTable", name := "inPlay", desc := "()I" } : Jvm.MethodName)) ∈ lw_all := lw_g (lw_at lw_m5 162 rfl) rfl
theorem q1240 : (Jvm.Cond.code ({ cls := "SevenTable", name := "inPlay", desc := "()I" } : Jvm.MethodName) prog_1_method_17_code (3 : Nat) (Option.some Jvm.ClassFile.FieldType.int)) ∈ lw_all := lw_g (lw_at lw_m5 163 rfl) rfl
theorem q1241 : (Jvm.Cond.methodLink "SevenTable" (213 : Nat) ({ cls := "SevenTable$Table", name := "many", desc := "()I" } : Jvm.MethodName)) ∈ lw_all := lw_g (lw_at lw_m5 164 rfl) rfl
theorem q1243 : (Jvm.Cond.instanceMethod ({ cls := "SevenTable", name := "why", desc := "(III)I" } : Jvm.MethodName)) ∈ lw_all := lw_g (lw_at lw_m5 166 rfl) rfl
theorem q1244 : (Jvm.Cond.selects "SevenTable" ({ cls := "SevenTable", name := "why", desc := "(III)I" } : Jvm.MethodName) ({ cls := "SevenTable", name := "why", desc := "(III)I" } : Jvm.MethodName)) ∈ lw_all := lw_g (lw_at lw_m5 167 rfl) rfl
theorem q1245 : (Jvm.Cond.code ({ cls := "SevenTable", name := "why", desc := "(III)I" } : Jvm.MethodName) prog_1_method_19_code (4 : Nat) (Option.some Jvm.ClassFile.FieldType.int)) ∈ lw_all := lw_g (lw_at lw_m5 168 rfl) rfl
theorem q1246 : (Jvm.Cond.methodLink "SevenTable" (216 : Nat) ({ cls := "SevenTable", name := "areTold", desc := "(III)Z" } : Jvm.MethodName)) ∈ lw_all := lw_g (lw_at lw_m5 169 rfl) rfl
theorem q1247 : (Jvm.Cond.privateMethod ({ cls := "SevenTable", name := "areTold", desc := "(III)Z" } : Jvm.MethodName)) ∈ lw_tbl := lw_at lw_m5 170 rfl
theorem q1248 : (Jvm.Cond.instanceMethod ({ cls := "SevenTable", name := "areTold", desc := "(III)Z" } : Jvm.MethodName)) ∈ lw_all := lw_g (lw_at lw_m5 171 rfl) rfl
theorem q1249 : (Jvm.Cond.code ({ cls := "SevenTable", name := "areTold", desc := "(III)Z" } : Jvm.MethodName) prog_1_method_18_code (4 : Nat) (Option.some Jvm.ClassFile.FieldType.boolean)) ∈ lw_all := lw_g (lw_at lw_m5 172 rfl) rfl
theorem q1250 : (Jvm.Cond.methodLink "SevenTable" (219 : Nat) ({ cls := "SevenTable$Game", name := "whyNot", desc := "(III)I" } : Jvm.MethodName)) ∈ lw_all := lw_g (lw_at lw_m5 173 rfl) rfl
theorem q1259 : (Jvm.Cond.instanceMethod ({ cls := "SevenTable", name := "ask", desc := "(IIII)I" } : Jvm.MethodName)) ∈ lw_all := lw_g (lw_at lw_m5 182 rfl) rfl
theorem q1260 : (Jvm.Cond.selects "SevenTable" ({ cls := "SevenTable", name := "ask", desc := "(IIII)I" } : Jvm.MethodName) ({ cls := "SevenTable", name := "ask", desc := "(IIII)I" } : Jvm.MethodName)) ∈ lw_all := lw_g (lw_at lw_m5 183 rfl) rfl
theorem q1261 : (Jvm.Cond.code ({ cls := "SevenTable", name := "ask", desc := "(IIII)I" } : Jvm.MethodName) prog_1_method_22_code (7 : Nat) (Option.some Jvm.ClassFile.FieldType.int)) ∈ lw_all := lw_g (lw_at lw_m5 184 rfl) rfl
theorem q1262 : (Jvm.Cond.methodLink "SevenTable" (236 : Nat) ({ cls := "SevenTable", name := "snap", desc := "()V" } : Jvm.MethodName)) ∈ lw_all := lw_g (lw_at lw_m5 185 rfl) rfl
theorem q1263 : (Jvm.Cond.privateMethod ({ cls := "SevenTable", name := "snap", desc := "()V" } : Jvm.MethodName)) ∈ lw_tbl := lw_at lw_m5 186 rfl
theorem q1264 : (Jvm.Cond.instanceMethod ({ cls := "SevenTable", name := "snap", desc := "()V" } : Jvm.MethodName)) ∈ lw_all := lw_g (lw_at lw_m5 187 rfl) rfl
theorem q1265 : (Jvm.Cond.code ({ cls := "SevenTable", name := "snap", desc := "()V" } : Jvm.MethodName) prog_1_method_20_code (3 : Nat) (Option.none : Option Jvm.ClassFile.FieldType)) ∈ lw_all := lw_g (lw_at lw_m5 188 rfl) rfl
theorem q1266 : (Jvm.Cond.methodLink "SevenTable" (223 : Nat) ({ cls := "SevenTable$Game", name := "as", desc := "(LSevenTable$Game;)LSevenTable$Game;" } : Jvm.MethodName)) ∈ lw_all := lw_g (lw_at lw_m5 189 rfl) rfl
theorem q1270 : (Jvm.Cond.methodLink "SevenTable" (239 : Nat) ({ cls := "SevenTable$Game", name := "asks", desc := "(IIIZ)I" } : Jvm.MethodName)) ∈ lw_all := lw_g (lw_at lw_m5 193 rfl) rfl
theorem q1290 : (Jvm.Cond.methodLink "SevenTable" (242 : Nat) ({ cls := "SevenTable", name := "tellAsked", desc := "()V" } : Jvm.MethodName)) ∈ lw_all := lw_g (lw_at lw_m5 213 rfl) rfl
theorem q1291 : (Jvm.Cond.privateMethod ({ cls := "SevenTable", name := "tellAsked", desc := "()V" } : Jvm.MethodName)) ∈ lw_tbl := lw_at lw_m5 214 rfl
theorem q1292 : (Jvm.Cond.instanceMethod ({ cls := "SevenTable", name := "tellAsked", desc := "()V" } : Jvm.MethodName)) ∈ lw_all := lw_g (lw_at lw_m5 215 rfl) rfl
theorem q1293 : (Jvm.Cond.code ({ cls := "SevenTable", name := "tellAsked", desc := "()V" } : Jvm.MethodName) prog_1_method_21_code (1 : Nat) (Option.none : Option Jvm.ClassFile.FieldType)) ∈ lw_all := lw_g (lw_at lw_m5 216 rfl) rfl
theorem q1294 : (Jvm.Cond.methodLink "SevenTable" (230 : Nat) ({ cls := "java/lang/System", name := "arraycopy", desc := "(Ljava/lang/Object;ILjava/lang/Object;II)V" } : Jvm.MethodName)) ∈ lw_all := lw_g (lw_at lw_m5 217 rfl) rfl
theorem q1296 : (Jvm.Cond.instanceMethod ({ cls := "SevenTable", name := "asked", desc := "(I)I" } : Jvm.MethodName)) ∈ lw_all := lw_g (lw_at lw_m5 219 rfl) rfl
theorem q1297 : (Jvm.Cond.selects "SevenTable" ({ cls := "SevenTable", name := "asked", desc := "(I)I" } : Jvm.MethodName) ({ cls := "SevenTable", name := "asked", desc := "(I)I" } : Jvm.MethodName)) ∈ lw_all := lw_g (lw_at lw_m5 220 rfl) rfl
theorem q1298 : (Jvm.Cond.code ({ cls := "SevenTable", name := "asked", desc := "(I)I" } : Jvm.MethodName) prog_1_method_23_code (2 : Nat) (Option.some Jvm.ClassFile.FieldType.int)) ∈ lw_all := lw_g (lw_at lw_m5 221 rfl) rfl
theorem q1300 : (Jvm.Cond.instanceMethod ({ cls := "SevenTable", name := "undo", desc := "()I" } : Jvm.MethodName)) ∈ lw_all := lw_g (lw_at lw_m5 223 rfl) rfl
theorem q1301 : (Jvm.Cond.selects "SevenTable" ({ cls := "SevenTable", name := "undo", desc := "()I" } : Jvm.MethodName) ({ cls := "SevenTable", name := "undo", desc := "()I" } : Jvm.MethodName)) ∈ lw_all := lw_g (lw_at lw_m5 224 rfl) rfl
theorem q1302 : (Jvm.Cond.code ({ cls := "SevenTable", name := "undo", desc := "()I" } : Jvm.MethodName) prog_1_method_24_code (1 : Nat) (Option.some Jvm.ClassFile.FieldType.int)) ∈ lw_all := lw_g (lw_at lw_m5 225 rfl) rfl
theorem q1304 : (Jvm.Cond.instanceMethod ({ cls := "SevenTable", name := "known", desc := "(II)I" } : Jvm.MethodName)) ∈ lw_all := lw_g (lw_at lw_m5 227 rfl) rfl
theorem q1305 : (Jvm.Cond.selects "SevenTable" ({ cls := "SevenTable", name := "known", desc := "(II)I" } : Jvm.MethodName) ({ cls := "SevenTable", name := "known", desc := "(II)I" } : Jvm.MethodName)) ∈ lw_all := lw_g (lw_at lw_m5 228 rfl) rfl
theorem q1306 : (Jvm.Cond.code ({ cls := "SevenTable", name := "known", desc := "(II)I" } : Jvm.MethodName) prog_1_method_25_code (3 : Nat) (Option.some Jvm.ClassFile.FieldType.int)) ∈ lw_all := lw_g (lw_at lw_m5 229 rfl) rfl
theorem q1308 : (Jvm.Cond.instanceMethod ({ cls := "SevenTable", name := "can", desc := "(II)I" } : Jvm.MethodName)) ∈ lw_all := lw_g (lw_at lw_m5 231 rfl) rfl
theorem q1309 : (Jvm.Cond.selects "SevenTable" ({ cls := "SevenTable", name := "can", desc := "(II)I" } : Jvm.MethodName) ({ cls := "SevenTable", name := "can", desc := "(II)I" } : Jvm.MethodName)) ∈ lw_all := lw_g (lw_at lw_m5 232 rfl) rfl
theorem q1310 : (Jvm.Cond.code ({ cls := "SevenTable", name := "can", desc := "(II)I" } : Jvm.MethodName) prog_1_method_26_code (3 : Nat) (Option.some Jvm.ClassFile.FieldType.int)) ∈ lw_all := lw_g (lw_at lw_m5 233 rfl) rfl
theorem q1311 : (Jvm.Cond.methodLink "SevenTable" (248 : Nat) ({ cls := "SevenTable$Game", name := "can", desc := "(II)I" } : Jvm.MethodName)) ∈ lw_all := lw_g (lw_at lw_m5 234 rfl) rfl
theorem q1313 : (Jvm.Cond.instanceMethod ({ cls := "SevenTable", name := "whom", desc := "(I)I" } : Jvm.MethodName)) ∈ lw_all := lw_g (lw_at lw_m5 236 rfl) rfl
theorem q1314 : (Jvm.Cond.selects "SevenTable" ({ cls := "SevenTable", name := "whom", desc := "(I)I" } : Jvm.MethodName) ({ cls := "SevenTable", name := "whom", desc := "(I)I" } : Jvm.MethodName)) ∈ lw_all := lw_g (lw_at lw_m5 237 rfl) rfl
theorem q1315 : (Jvm.Cond.code ({ cls := "SevenTable", name := "whom", desc := "(I)I" } : Jvm.MethodName) prog_1_method_35_code (11 : Nat) (Option.some Jvm.ClassFile.FieldType.int)) ∈ lw_all := lw_g (lw_at lw_m5 238 rfl) rfl
theorem q1316 : (Jvm.Cond.methodLink "SevenTable" (287 : Nat) ({ cls := "SevenTable", name := "layUnseen", desc := "(I)Z" } : Jvm.MethodName)) ∈ lw_all := lw_g (lw_at lw_m5 239 rfl) rfl
theorem q1317 : (Jvm.Cond.privateMethod ({ cls := "SevenTable", name := "layUnseen", desc := "(I)Z" } : Jvm.MethodName)) ∈ lw_tbl := lw_at lw_m6 0 rfl
theorem q1318 : (Jvm.Cond.instanceMethod ({ cls := "SevenTable", name := "layUnseen", desc := "(I)Z" } : Jvm.MethodName)) ∈ lw_all := lw_g (lw_at lw_m6 1 rfl) rfl
theorem q1319 : (Jvm.Cond.code ({ cls := "SevenTable", name := "layUnseen", desc := "(I)Z" } : Jvm.MethodName) prog_1_method_27_code (5 : Nat) (Option.some Jvm.ClassFile.FieldType.boolean)) ∈ lw_all := lw_g (lw_at lw_m6 2 rfl) rfl
theorem q1320 : (Jvm.Cond.methodLink "SevenTable" (283 : Nat) ({ cls := "SevenTable", name := "count", desc := "(III)J" } : Jvm.MethodName)) ∈ lw_all := lw_g (lw_at lw_m6 3 rfl) rfl
theorem q1321 : (Jvm.Cond.privateMethod ({ cls := "SevenTable", name := "count", desc := "(III)J" } : Jvm.MethodName)) ∈ lw_tbl := lw_at lw_m6 4 rfl
theorem q1322 : (Jvm.Cond.instanceMethod ({ cls := "SevenTable", name := "count", desc := "(III)J" } : Jvm.MethodName)) ∈ lw_all := lw_g (lw_at lw_m6 5 rfl) rfl
theorem q1323 : (Jvm.Cond.code ({ cls := "SevenTable", name := "count", desc := "(III)J" } : Jvm.MethodName) prog_1_method_28_code (7 : Nat) (Option.some Jvm.ClassFile.FieldType.long)) ∈ lw_all := lw_g (lw_at lw_m6 6 rfl) rfl
theorem q1324 : (Jvm.Cond.methodLink "SevenTable" (263 : Nat) ({ cls := "java/util/Arrays", name := "fill", desc := "([JIIJ)V" } : Jvm.MethodName)) ∈ lw_all := lw_g (lw_at lw_m6 7 rfl) rfl
theorem q1330 : (Jvm.Cond.methodLink "SevenTable" (272 : Nat) ({ cls := "SevenTable", name := "one", desc := "(I)V" } : Jvm.MethodName)) ∈ lw_all := lw_g (lw_at lw_m6 13 rfl) rfl
theorem q1331 : (Jvm.Cond.privateMethod ({ cls := "SevenTable", name := "one", desc := "(I)V" } : Jvm.MethodName)) ∈ lw_tbl := lw_at lw_m6 14 rfl
theorem q1332 : (Jvm.Cond.instanceMethod ({ cls := "SevenTable", name := "one", desc := "(I)V" } : Jvm.MethodName)) ∈ lw_all := lw_g (lw_at lw_m6 15 rfl) rfl
theorem q1333 : (Jvm.Cond.code ({ cls := "SevenTable", name := "one", desc := "(I)V" } : Jvm.MethodName) prog_1_method_29_code (5 : Nat) (Option.none : Option Jvm.ClassFile.FieldType)) ∈ lw_all := lw_g (lw_at lw_m6 16 rfl) rfl
theorem q1334 : (Jvm.Cond.methodLink "SevenTable" (275 : Nat) ({ cls := "SevenTable", name := "isOf", desc := "(II)Z" } : Jvm.MethodName)) ∈ lw_all := lw_g (lw_at lw_m6 17 rfl) rfl
theorem q1335 : (Jvm.Cond.constantLong "SevenTable" (298 : Nat) (-1 : Int64)) ∈ lw_all := lw_g (lw_at lw_m6 18 rfl) rfl
theorem q1336 : (Jvm.Cond.methodLink "SevenTable" (290 : Nat) ({ cls := "SevenTable", name := "with", desc := "(IIIJ)J" } : Jvm.MethodName)) ∈ lw_all := lw_g (lw_at lw_m6 19 rfl) rfl
theorem q1337 : (Jvm.Cond.privateMethod ({ cls := "SevenTable", name := "with", desc := "(IIIJ)J" } : Jvm.MethodName)) ∈ lw_tbl := lw_at lw_m6 20 rfl
theorem q1338 : (Jvm.Cond.instanceMethod ({ cls := "SevenTable", name := "with", desc := "(IIIJ)J" } : Jvm.MethodName)) ∈ lw_all := lw_g (lw_at lw_m6 21 rfl) rfl
theorem q1339 : (Jvm.Cond.code ({ cls := "SevenTable", name := "with", desc := "(IIIJ)J" } : Jvm.MethodName) prog_1_method_32_code (6 : Nat) (Option.some Jvm.ClassFile.FieldType.long)) ∈ lw_all := lw_g (lw_at lw_m6 22 rfl) rfl
theorem q1341 : (Jvm.Cond.instanceMethod ({ cls := "SevenTable", name := "sweep", desc := "(I)I" } : Jvm.MethodName)) ∈ lw_all := lw_g (lw_at lw_m6 24 rfl) rfl
theorem q1342 : (Jvm.Cond.selects "SevenTable" ({ cls := "SevenTable", name := "sweep", desc := "(I)I" } : Jvm.MethodName) ({ cls := "SevenTable", name := "sweep", desc := "(I)I" } : Jvm.MethodName)) ∈ lw_all := lw_g (lw_at lw_m6 25 rfl) rfl
theorem q1343 : (Jvm.Cond.code ({ cls := "SevenTable", name := "sweep", desc := "(I)I" } : Jvm.MethodName) prog_1_method_36_code (4 : Nat) (Option.some Jvm.ClassFile.FieldType.int)) ∈ lw_all := lw_g (lw_at lw_m6 26 rfl) rfl
theorem q1345 : (Jvm.Cond.instanceMethod ({ cls := "SevenTable", name := "swept", desc := "(I)I" } : Jvm.MethodName)) ∈ lw_all := lw_g (lw_at lw_m6 28 rfl) rfl
theorem q1346 : (Jvm.Cond.selects "SevenTable" ({ cls := "SevenTable", name := "swept", desc := "(I)I" } : Jvm.MethodName) ({ cls := "SevenTable", name := "swept", desc := "(I)I" } : Jvm.MethodName)) ∈ lw_all := lw_g (lw_at lw_m6 29 rfl) rfl
theorem q1347 : (Jvm.Cond.code ({ cls := "SevenTable", name := "swept", desc := "(I)I" } : Jvm.MethodName) prog_1_method_37_code (2 : Nat) (Option.some Jvm.ClassFile.FieldType.int)) ∈ lw_all := lw_g (lw_at lw_m6 30 rfl) rfl
theorem q1349 : (Jvm.Cond.instanceMethod ({ cls := "SevenTable", name := "gains", desc := "(I)I" } : Jvm.MethodName)) ∈ lw_all := lw_g (lw_at lw_m6 32 rfl) rfl
theorem q1350 : (Jvm.Cond.selects "SevenTable" ({ cls := "SevenTable", name := "gains", desc := "(I)I" } : Jvm.MethodName) ({ cls := "SevenTable", name := "gains", desc := "(I)I" } : Jvm.MethodName)) ∈ lw_all := lw_g (lw_at lw_m6 33 rfl) rfl
theorem q1351 : (Jvm.Cond.code ({ cls := "SevenTable", name := "gains", desc := "(I)I" } : Jvm.MethodName) prog_1_method_38_code (6 : Nat) (Option.some Jvm.ClassFile.FieldType.int)) ∈ lw_all := lw_g (lw_at lw_m6 34 rfl) rfl
theorem q1353 : (Jvm.Cond.instanceMethod ({ cls := "SevenTable", name := "open", desc := "()I" } : Jvm.MethodName)) ∈ lw_all := lw_g (lw_at lw_m6 36 rfl) rfl
theorem q1354 : (Jvm.Cond.selects "SevenTable" ({ cls := "SevenTable", name := "open", desc := "()I" } : Jvm.MethodName) ({ cls := "SevenTable", name := "open", desc := "()I" } : Jvm.MethodName)) ∈ lw_all := lw_g (lw_at lw_m6 37 rfl) rfl
theorem q1355 : (Jvm.Cond.code ({ cls := "SevenTable", name := "open", desc := "()I" } : Jvm.MethodName) prog_1_method_40_code (2 : Nat) (Option.some Jvm.ClassFile.FieldType.int)) ∈ lw_all := lw_g (lw_at lw_m6 38 rfl) rfl
theorem q1356 : (Jvm.Cond.methodLink "SevenTable" (307 : Nat) ({ cls := "SevenTable", name := "isOpen", desc := "()Z" } : Jvm.MethodName)) ∈ lw_all := lw_g (lw_at lw_m6 39 rfl) rfl
theorem q1357 : (Jvm.Cond.privateMethod ({ cls := "SevenTable", name := "isOpen", desc := "()Z" } : Jvm.MethodName)) ∈ lw_tbl := lw_at lw_m6 40 rfl
theorem q1358 : (Jvm.Cond.instanceMethod ({ cls := "SevenTable", name := "isOpen", desc := "()Z" } : Jvm.MethodName)) ∈ lw_all := lw_g (lw_at lw_m6 41 rfl) rfl
theorem q1359 : (Jvm.Cond.code ({ cls := "SevenTable", name := "isOpen", desc := "()Z" } : Jvm.MethodName) prog_1_method_39_code (1 : Nat) (Option.some Jvm.ClassFile.FieldType.boolean)) ∈ lw_all := lw_g (lw_at lw_m6 42 rfl) rfl
theorem q1360 : (Jvm.Cond.methodLink "SevenTable" (303 : Nat) ({ cls := "SevenTable$Game", name := "isOver", desc := "()Z" } : Jvm.MethodName)) ∈ lw_all := lw_g (lw_at lw_m6 43 rfl) rfl
theorem q1361 : (Jvm.Cond.methodLink "SevenTable" (310 : Nat) ({ cls := "SevenTable$Open", name := "value", desc := "(LSevenTable$Game;)I" } : Jvm.MethodName)) ∈ lw_all := lw_g (lw_at lw_m6 44 rfl) rfl
theorem q1403 : (Jvm.Cond.instanceMethod ({ cls := "SevenTable", name := "first", desc := "()I" } : Jvm.MethodName)) ∈ lw_all := lw_g (lw_at lw_m6 86 rfl) rfl
theorem q1404 : (Jvm.Cond.selects "SevenTable" ({ cls := "SevenTable", name := "first", desc := "()I" } : Jvm.MethodName) ({ cls := "SevenTable", name := "first", desc := "()I" } : Jvm.MethodName)) ∈ lw_all := lw_g (lw_at lw_m6 87 rfl) rfl
theorem q1405 : (Jvm.Cond.code ({ cls := "SevenTable", name := "first", desc := "()I" } : Jvm.MethodName) prog_1_method_41_code (1 : Nat) (Option.some Jvm.ClassFile.FieldType.int)) ∈ lw_all := lw_g (lw_at lw_m6 88 rfl) rfl
theorem q1407 : (Jvm.Cond.instanceMethod ({ cls := "SevenTable", name := "bent", desc := "(II)I" } : Jvm.MethodName)) ∈ lw_all := lw_g (lw_at lw_m6 90 rfl) rfl
theorem q1408 : (Jvm.Cond.selects "SevenTable" ({ cls := "SevenTable", name := "bent", desc := "(II)I" } : Jvm.MethodName) ({ cls := "SevenTable", name := "bent", desc := "(II)I" } : Jvm.MethodName)) ∈ lw_all := lw_g (lw_at lw_m6 91 rfl) rfl
theorem q1409 : (Jvm.Cond.code ({ cls := "SevenTable", name := "bent", desc := "(II)I" } : Jvm.MethodName) prog_1_method_42_code (3 : Nat) (Option.some Jvm.ClassFile.FieldType.int)) ∈ lw_all := lw_g (lw_at lw_m6 92 rfl) rfl
theorem q1410 : (Jvm.Cond.methodLink "SevenTable" (317 : Nat) ({ cls := "SevenTable$Bent", name := "asks", desc := "(LSevenTable$Game;I)I" } : Jvm.MethodName)) ∈ lw_all := lw_g (lw_at lw_m6 93 rfl) rfl
theorem q1452 : (Jvm.Cond.instanceMethod ({ cls := "SevenTable", name := "play", desc := "(I)I" } : Jvm.MethodName)) ∈ lw_all := lw_g (lw_at lw_m6 135 rfl) rfl
theorem q1453 : (Jvm.Cond.selects "SevenTable" ({ cls := "SevenTable", name := "play", desc := "(I)I" } : Jvm.MethodName) ({ cls := "SevenTable", name := "play", desc := "(I)I" } : Jvm.MethodName)) ∈ lw_all := lw_g (lw_at lw_m6 136 rfl) rfl
theorem q1454 : (Jvm.Cond.code ({ cls := "SevenTable", name := "play", desc := "(I)I" } : Jvm.MethodName) prog_1_method_44_code (4 : Nat) (Option.some Jvm.ClassFile.FieldType.int)) ∈ lw_all := lw_g (lw_at lw_m6 137 rfl) rfl
theorem q1455 : (Jvm.Cond.methodLink "SevenTable" (319 : Nat) ({ cls := "SevenTable", name := "onTape", desc := "(I)I" } : Jvm.MethodName)) ∈ lw_all := lw_g (lw_at lw_m6 138 rfl) rfl
theorem q1456 : (Jvm.Cond.privateMethod ({ cls := "SevenTable", name := "onTape", desc := "(I)I" } : Jvm.MethodName)) ∈ lw_tbl := lw_at lw_m6 139 rfl
theorem q1457 : (Jvm.Cond.instanceMethod ({ cls := "SevenTable", name := "onTape", desc := "(I)I" } : Jvm.MethodName)) ∈ lw_all := lw_g (lw_at lw_m6 140 rfl) rfl
theorem q1458 : (Jvm.Cond.code ({ cls := "SevenTable", name := "onTape", desc := "(I)I" } : Jvm.MethodName) prog_1_method_9_code (2 : Nat) (Option.some Jvm.ClassFile.FieldType.int)) ∈ lw_all := lw_g (lw_at lw_m6 141 rfl) rfl
theorem q1459 : (Jvm.Cond.methodLink "SevenTable" (322 : Nat) ({ cls := "SevenTable", name := "asks", desc := "(LSevenTable$Game;LSevenTable$Bent;)V" } : Jvm.MethodName)) ∈ lw_all := lw_g (lw_at lw_m6 142 rfl) rfl
theorem q1460 : (Jvm.Cond.static ({ cls := "SevenTable", name := "asks", desc := "(LSevenTable$Game;LSevenTable$Bent;)V" } : Jvm.MethodName)) ∈ lw_all := lw_g (lw_at lw_m6 143 rfl) rfl
theorem q1461 : (Jvm.Cond.code ({ cls := "SevenTable", name := "asks", desc := "(LSevenTable$Game;LSevenTable$Bent;)V" } : Jvm.MethodName) prog_1_method_43_code (3 : Nat) (Option.none : Option Jvm.ClassFile.FieldType)) ∈ lw_all := lw_g (lw_at lw_m6 144 rfl) rfl
theorem q1463 : (Jvm.Cond.instanceMethod ({ cls := "SevenTable", name := "deal", desc := "(II)Z" } : Jvm.MethodName)) ∈ lw_all := lw_g (lw_at lw_m6 146 rfl) rfl
theorem q1464 : (Jvm.Cond.selects "SevenTable" ({ cls := "SevenTable", name := "deal", desc := "(II)Z" } : Jvm.MethodName) ({ cls := "SevenTable", name := "deal", desc := "(II)Z" } : Jvm.MethodName)) ∈ lw_all := lw_g (lw_at lw_m6 147 rfl) rfl
theorem q1465 : (Jvm.Cond.code ({ cls := "SevenTable", name := "deal", desc := "(II)Z" } : Jvm.MethodName) prog_1_method_46_code (3 : Nat) (Option.some Jvm.ClassFile.FieldType.boolean)) ∈ lw_all := lw_g (lw_at lw_m6 148 rfl) rfl
theorem q1466 : (Jvm.Cond.methodLink "SevenTable" (325 : Nat) ({ cls := "SevenTable", name := "canDeal", desc := "(I)Z" } : Jvm.MethodName)) ∈ lw_all := lw_g (lw_at lw_m6 149 rfl) rfl
theorem q1467 : (Jvm.Cond.privateMethod ({ cls := "SevenTable", name := "canDeal", desc := "(I)Z" } : Jvm.MethodName)) ∈ lw_tbl := lw_at lw_m6 150 rfl
theorem q1468 : (Jvm.Cond.instanceMethod ({ cls := "SevenTable", name := "canDeal", desc := "(I)Z" } : Jvm.MethodName)) ∈ lw_all := lw_g (lw_at lw_m6 151 rfl) rfl
theorem q1469 : (Jvm.Cond.code ({ cls := "SevenTable", name := "canDeal", desc := "(I)Z" } : Jvm.MethodName) prog_1_method_45_code (2 : Nat) (Option.some Jvm.ClassFile.FieldType.boolean)) ∈ lw_all := lw_g (lw_at lw_m6 152 rfl) rfl
theorem q1470 : (Jvm.Cond.methodLink "SevenTable" (328 : Nat) ({ cls := "SevenTable$Game", name := "deal", desc := "(LSevenTable$Table;II)LSevenTable$Game;" } : Jvm.MethodName)) ∈ lw_all := lw_g (lw_at lw_m6 153 rfl) rfl
theorem q1480 : (Jvm.Cond.instanceMethod ({ cls := "SevenTable", name := "games", desc := "(IIII)I" } : Jvm.MethodName)) ∈ lw_all := lw_g (lw_at lw_m6 163 rfl) rfl
theorem q1481 : (Jvm.Cond.selects "SevenTable" ({ cls := "SevenTable", name := "games", desc := "(IIII)I" } : Jvm.MethodName) ({ cls := "SevenTable", name := "games", desc := "(IIII)I" } : Jvm.MethodName)) ∈ lw_all := lw_g (lw_at lw_m6 164 rfl) rfl
theorem q1482 : (Jvm.Cond.code ({ cls := "SevenTable", name := "games", desc := "(IIII)I" } : Jvm.MethodName) prog_1_method_48_code (5 : Nat) (Option.some Jvm.ClassFile.FieldType.int)) ∈ lw_all := lw_g (lw_at lw_m6 165 rfl) rfl
theorem q1483 : (Jvm.Cond.methodLink "SevenTable" (340 : Nat) ({ cls := "SevenTable", name := "wins", desc := "(IIII)I" } : Jvm.MethodName)) ∈ lw_all := lw_g (lw_at lw_m6 166 rfl) rfl
theorem q1484 : (Jvm.Cond.privateMethod ({ cls := "SevenTable", name := "wins", desc := "(IIII)I" } : Jvm.MethodName)) ∈ lw_tbl := lw_at lw_m6 167 rfl
theorem q1485 : (Jvm.Cond.instanceMethod ({ cls := "SevenTable", name := "wins", desc := "(IIII)I" } : Jvm.MethodName)) ∈ lw_all := lw_g (lw_at lw_m6 168 rfl) rfl
theorem q1486 : (Jvm.Cond.code ({ cls := "SevenTable", name := "wins", desc := "(IIII)I" } : Jvm.MethodName) prog_1_method_47_code (10 : Nat) (Option.some Jvm.ClassFile.FieldType.int)) ∈ lw_all := lw_g (lw_at lw_m6 169 rfl) rfl
theorem q1487 : (Jvm.Cond.methodLink "SevenTable" (335 : Nat) ({ cls := "java/lang/Math", name := "max", desc := "(II)I" } : Jvm.MethodName)) ∈ lw_all := lw_g (lw_at lw_m6 170 rfl) rfl
theorem q1489 : (Jvm.Cond.instanceMethod ({ cls := "SevenTable", name := "length", desc := "(IIII)I" } : Jvm.MethodName)) ∈ lw_all := lw_g (lw_at lw_m6 172 rfl) rfl
theorem q1490 : (Jvm.Cond.selects "SevenTable" ({ cls := "SevenTable", name := "length", desc := "(IIII)I" } : Jvm.MethodName) ({ cls := "SevenTable", name := "length", desc := "(IIII)I" } : Jvm.MethodName)) ∈ lw_all := lw_g (lw_at lw_m6 173 rfl) rfl
theorem q1491 : (Jvm.Cond.code ({ cls := "SevenTable", name := "length", desc := "(IIII)I" } : Jvm.MethodName) prog_1_method_49_code (5 : Nat) (Option.some Jvm.ClassFile.FieldType.int)) ∈ lw_all := lw_g (lw_at lw_m6 174 rfl) rfl
theorem q1493 : (Jvm.Cond.instanceMethod ({ cls := "SevenTable", name := "reply", desc := "(III)I" } : Jvm.MethodName)) ∈ lw_all := lw_g (lw_at lw_m6 176 rfl) rfl
theorem q1494 : (Jvm.Cond.selects "SevenTable" ({ cls := "SevenTable", name := "reply", desc := "(III)I" } : Jvm.MethodName) ({ cls := "SevenTable", name := "reply", desc := "(III)I" } : Jvm.MethodName)) ∈ lw_all := lw_g (lw_at lw_m6 177 rfl) rfl
theorem q1495 : (Jvm.Cond.code ({ cls := "SevenTable", name := "reply", desc := "(III)I" } : Jvm.MethodName) prog_1_method_50_code (8 : Nat) (Option.some Jvm.ClassFile.FieldType.int)) ∈ lw_all := lw_g (lw_at lw_m6 178 rfl) rfl
theorem q1497 : (Jvm.Cond.instanceMethod ({ cls := "SevenTable", name := "leader", desc := "()I" } : Jvm.MethodName)) ∈ lw_all := lw_g (lw_at lw_m6 180 rfl) rfl
theorem q1498 : (Jvm.Cond.selects "SevenTable" ({ cls := "SevenTable", name := "leader", desc := "()I" } : Jvm.MethodName) ({ cls := "SevenTable", name := "leader", desc := "()I" } : Jvm.MethodName)) ∈ lw_all := lw_g (lw_at lw_m6 181 rfl) rfl
theorem q1499 : (Jvm.Cond.code ({ cls := "SevenTable", name := "leader", desc := "()I" } : Jvm.MethodName) prog_1_method_51_code (3 : Nat) (Option.some Jvm.ClassFile.FieldType.int)) ∈ lw_all := lw_g (lw_at lw_m6 182 rfl) rfl
theorem q1501 : (Jvm.Cond.instanceMethod ({ cls := "SevenTable", name := "evening", desc := "(I)I" } : Jvm.MethodName)) ∈ lw_all := lw_g (lw_at lw_m6 184 rfl) rfl
theorem q1502 : (Jvm.Cond.selects "SevenTable" ({ cls := "SevenTable", name := "evening", desc := "(I)I" } : Jvm.MethodName) ({ cls := "SevenTable", name := "evening", desc := "(I)I" } : Jvm.MethodName)) ∈ lw_all := lw_g (lw_at lw_m6 185 rfl) rfl
theorem q1503 : (Jvm.Cond.codeWith ({ cls := "SevenTable", name := "evening", desc := "(I)I" } : Jvm.MethodName) prog_1_method_52_code (4 : Nat) (Option.some Jvm.ClassFile.FieldType.int) [((23 : Nat), (132 : Nat), (133 : Nat), (133 : Nat))]) ∈ lw_all := lw_g (lw_at lw_m6 186 rfl) rfl
theorem q1504 : (Jvm.Cond.classLink "SevenTable" (344 : Nat) "SevenTable$EveningReader") ∈ lw_all := lw_g (lw_at lw_m6 187 rfl) rfl
theorem q1506 : (Jvm.Cond.methodLink "SevenTable" (346 : Nat) ({ cls := "SevenTable$EveningReader", name := "<init>", desc := "([BILSevenTable$Game;)V" } : Jvm.MethodName)) ∈ lw_all := lw_g (lw_at lw_m6 189 rfl) rfl
theorem q1512 : (Jvm.Cond.fieldLinkNest "SevenTable" (355 : Nat) "SevenTable$EveningReader" "lines" "I" "SevenTable") ∈ lw_tbl := lw_at lw_m6 195 rfl
theorem q1514 : (Jvm.Cond.fieldLinkNest "SevenTable" (352 : Nat) "SevenTable$EveningReader" "why" "I" "SevenTable") ∈ lw_tbl := lw_at lw_m6 197 rfl
theorem q1516 : (Jvm.Cond.fieldLinkNest "SevenTable" (356 : Nat) "SevenTable$EveningReader" "wrong" "I" "SevenTable") ∈ lw_tbl := lw_at lw_m6 199 rfl
theorem q1535 : (Jvm.Cond.methodLink "SevenTable" (349 : Nat) ({ cls := "SevenTable$EveningReader", name := "read", desc := "()LSevenTable$EveningReader;" } : Jvm.MethodName)) ∈ lw_all := lw_g (lw_at lw_m6 218 rfl) rfl
theorem q1575 : (Jvm.Cond.instanceMethod ({ cls := "SevenTable", name := "heard", desc := "(I)I" } : Jvm.MethodName)) ∈ lw_all := lw_g (lw_at lw_m7 18 rfl) rfl
theorem q1576 : (Jvm.Cond.selects "SevenTable" ({ cls := "SevenTable", name := "heard", desc := "(I)I" } : Jvm.MethodName) ({ cls := "SevenTable", name := "heard", desc := "(I)I" } : Jvm.MethodName)) ∈ lw_all := lw_g (lw_at lw_m7 19 rfl) rfl
theorem q1577 : (Jvm.Cond.code ({ cls := "SevenTable", name := "heard", desc := "(I)I" } : Jvm.MethodName) prog_1_method_53_code (2 : Nat) (Option.some Jvm.ClassFile.FieldType.int)) ∈ lw_all := lw_g (lw_at lw_m7 20 rfl) rfl
theorem q1579 : (Jvm.Cond.instanceMethod ({ cls := "SevenTable", name := "sentence", desc := "()I" } : Jvm.MethodName)) ∈ lw_all := lw_g (lw_at lw_m7 22 rfl) rfl
theorem q1580 : (Jvm.Cond.selects "SevenTable" ({ cls := "SevenTable", name := "sentence", desc := "()I" } : Jvm.MethodName) ({ cls := "SevenTable", name := "sentence", desc := "()I" } : Jvm.MethodName)) ∈ lw_all := lw_g (lw_at lw_m7 23 rfl) rfl
theorem q1581 : (Jvm.Cond.codeWith ({ cls := "SevenTable", name := "sentence", desc := "()I" } : Jvm.MethodName) prog_1_method_54_code (3 : Nat) (Option.some Jvm.ClassFile.FieldType.int) [((10 : Nat), (39 : Nat), (40 : Nat), (133 : Nat))]) ∈ lw_all := lw_g (lw_at lw_m7 24 rfl) rfl
theorem q1582 : (Jvm.Cond.classLink "SevenTable" (359 : Nat) "SevenTable$SentenceReader") ∈ lw_all := lw_g (lw_at lw_m7 25 rfl) rfl
theorem q1584 : (Jvm.Cond.methodLink "SevenTable" (361 : Nat) ({ cls := "SevenTable$SentenceReader", name := "<init>", desc := "([BILSevenTable$Table;)V" } : Jvm.MethodName)) ∈ lw_all := lw_g (lw_at lw_m7 27 rfl) rfl
theorem q1590 : (Jvm.Cond.fieldLinkNest "SevenTable" (367 : Nat) "SevenTable$SentenceReader" "ones" "I" "SevenTable") ∈ lw_tbl := lw_at lw_m7 33 rfl
theorem q1608 : (Jvm.Cond.methodLink "SevenTable" (364 : Nat) ({ cls := "SevenTable$SentenceReader", name := "read", desc := "()LSevenTable$Cond;" } : Jvm.MethodName)) ∈ lw_all := lw_g (lw_at lw_m7 51 rfl) rfl
theorem q1727 : (Jvm.Cond.instanceMethod ({ cls := "SevenTable", name := "said", desc := "(I)I" } : Jvm.MethodName)) ∈ lw_all := lw_g (lw_at lw_m7 170 rfl) rfl
theorem q1728 : (Jvm.Cond.selects "SevenTable" ({ cls := "SevenTable", name := "said", desc := "(I)I" } : Jvm.MethodName) ({ cls := "SevenTable", name := "said", desc := "(I)I" } : Jvm.MethodName)) ∈ lw_all := lw_g (lw_at lw_m7 171 rfl) rfl
theorem q1729 : (Jvm.Cond.code ({ cls := "SevenTable", name := "said", desc := "(I)I" } : Jvm.MethodName) prog_1_method_55_code (4 : Nat) (Option.some Jvm.ClassFile.FieldType.int)) ∈ lw_all := lw_g (lw_at lw_m7 172 rfl) rfl
theorem q1730 : (Jvm.Cond.methodLink "SevenTable" (370 : Nat) ({ cls := "SevenTable$Cond", name := "holds", desc := "(LSevenTable$Game;I)Z" } : Jvm.MethodName)) ∈ lw_all := lw_g (lw_at lw_m7 173 rfl) rfl
theorem q1756 : (Jvm.Cond.instanceMethod ({ cls := "SevenTable", name := "image", desc := "(I)Z" } : Jvm.MethodName)) ∈ lw_all := lw_g (lw_at lw_m7 199 rfl) rfl
theorem q1757 : (Jvm.Cond.selects "SevenTable" ({ cls := "SevenTable", name := "image", desc := "(I)Z" } : Jvm.MethodName) ({ cls := "SevenTable", name := "image", desc := "(I)Z" } : Jvm.MethodName)) ∈ lw_all := lw_g (lw_at lw_m7 200 rfl) rfl
theorem q1758 : (Jvm.Cond.code ({ cls := "SevenTable", name := "image", desc := "(I)Z" } : Jvm.MethodName) prog_1_method_56_code (2 : Nat) (Option.some Jvm.ClassFile.FieldType.boolean)) ∈ lw_all := lw_g (lw_at lw_m7 201 rfl) rfl
theorem q1760 : (Jvm.Cond.instanceMethod ({ cls := "SevenTable", name := "restore", desc := "(I)Z" } : Jvm.MethodName)) ∈ lw_all := lw_g (lw_at lw_m7 203 rfl) rfl
theorem q1761 : (Jvm.Cond.selects "SevenTable" ({ cls := "SevenTable", name := "restore", desc := "(I)Z" } : Jvm.MethodName) ({ cls := "SevenTable", name := "restore", desc := "(I)Z" } : Jvm.MethodName)) ∈ lw_all := lw_g (lw_at lw_m7 204 rfl) rfl
theorem q1762 : (Jvm.Cond.code ({ cls := "SevenTable", name := "restore", desc := "(I)Z" } : Jvm.MethodName) prog_1_method_57_code (2 : Nat) (Option.some Jvm.ClassFile.FieldType.boolean)) ∈ lw_all := lw_g (lw_at lw_m7 205 rfl) rfl
theorem q1764 : (Jvm.Cond.instanceMethod ({ cls := "SevenTable", name := "count", desc := "(I)I" } : Jvm.MethodName)) ∈ lw_all := lw_g (lw_at lw_m7 207 rfl) rfl
theorem q1765 : (Jvm.Cond.selects "SevenTable" ({ cls := "SevenTable", name := "count", desc := "(I)I" } : Jvm.MethodName) ({ cls := "SevenTable", name := "count", desc := "(I)I" } : Jvm.MethodName)) ∈ lw_all := lw_g (lw_at lw_m7 208 rfl) rfl
theorem q1766 : (Jvm.Cond.code ({ cls := "SevenTable", name := "count", desc := "(I)I" } : Jvm.MethodName) prog_1_method_58_code (2 : Nat) (Option.some Jvm.ClassFile.FieldType.int)) ∈ lw_all := lw_g (lw_at lw_m7 209 rfl) rfl
theorem q1772 : (Jvm.Cond.instanceMethod ({ cls := "SevenTable", name := "hand", desc := "(II)I" } : Jvm.MethodName)) ∈ lw_all := lw_g (lw_at lw_m7 215 rfl) rfl
theorem q1773 : (Jvm.Cond.selects "SevenTable" ({ cls := "SevenTable", name := "hand", desc := "(II)I" } : Jvm.MethodName) ({ cls := "SevenTable", name := "hand", desc := "(II)I" } : Jvm.MethodName)) ∈ lw_all := lw_g (lw_at lw_m7 216 rfl) rfl
theorem q1774 : (Jvm.Cond.code ({ cls := "SevenTable", name := "hand", desc := "(II)I" } : Jvm.MethodName) prog_1_method_12_code (3 : Nat) (Option.some Jvm.ClassFile.FieldType.int)) ∈ lw_all := lw_g (lw_at lw_m7 217 rfl) rfl
theorem q1775 : (Jvm.Cond.methodLink "SevenTable" (148 : Nat) ({ cls := "SevenTable", name := "need", desc := "(Z)V" } : Jvm.MethodName)) ∈ lw_all := lw_g (lw_at lw_m7 218 rfl) rfl
theorem q1776 : (Jvm.Cond.static ({ cls := "SevenTable", name := "need", desc := "(Z)V" } : Jvm.MethodName)) ∈ lw_all := lw_g (lw_at lw_m7 219 rfl) rfl
theorem q1777 : (Jvm.Cond.code ({ cls := "SevenTable", name := "need", desc := "(Z)V" } : Jvm.MethodName) prog_1_method_3_code (1 : Nat) (Option.none : Option Jvm.ClassFile.FieldType)) ∈ lw_all := lw_g (lw_at lw_m7 220 rfl) rfl
theorem q1778 : (Jvm.Cond.classLink "SevenTable" (3 : Nat) "java/util/NoSuchElementException") ∈ lw_all := lw_g (lw_at lw_m7 221 rfl) rfl
theorem q1789 : (Jvm.Cond.methodLink "SevenTable" (5 : Nat) ({ cls := "java/util/NoSuchElementException", name := "<init>", desc := "()V" } : Jvm.MethodName)) ∈ lw_all := lw_g (lw_at lw_m7 232 rfl) rfl
theorem q1802 : (Jvm.Cond.instanceMethod ({ cls := "SevenTable", name := "odds", desc := "(IIII)J" } : Jvm.MethodName)) ∈ lw_all := lw_g (lw_at lw_m8 5 rfl) rfl
theorem q1803 : (Jvm.Cond.selects "SevenTable" ({ cls := "SevenTable", name := "odds", desc := "(IIII)J" } : Jvm.MethodName) ({ cls := "SevenTable", name := "odds", desc := "(IIII)J" } : Jvm.MethodName)) ∈ lw_all := lw_g (lw_at lw_m8 6 rfl) rfl
theorem q1804 : (Jvm.Cond.code ({ cls := "SevenTable", name := "odds", desc := "(IIII)J" } : Jvm.MethodName) prog_1_method_33_code (7 : Nat) (Option.some Jvm.ClassFile.FieldType.long)) ∈ lw_all := lw_g (lw_at lw_m8 7 rfl) rfl
theorem q1805 : (Jvm.Cond.methodLink "SevenTable" (294 : Nat) ({ cls := "SevenTable", name := "part", desc := "(JJI)J" } : Jvm.MethodName)) ∈ lw_all := lw_g (lw_at lw_m8 8 rfl) rfl
theorem q1806 : (Jvm.Cond.static ({ cls := "SevenTable", name := "part", desc := "(JJI)J" } : Jvm.MethodName)) ∈ lw_all := lw_g (lw_at lw_m8 9 rfl) rfl
theorem q1807 : (Jvm.Cond.code ({ cls := "SevenTable", name := "part", desc := "(JJI)J" } : Jvm.MethodName) prog_1_method_31_code (5 : Nat) (Option.some Jvm.ClassFile.FieldType.long)) ∈ lw_all := lw_g (lw_at lw_m8 10 rfl) rfl
theorem q1808 : (Jvm.Cond.methodLink "SevenTable" (279 : Nat) ({ cls := "SevenTable", name := "common", desc := "(JJ)J" } : Jvm.MethodName)) ∈ lw_all := lw_g (lw_at lw_m8 11 rfl) rfl
theorem q1809 : (Jvm.Cond.static ({ cls := "SevenTable", name := "common", desc := "(JJ)J" } : Jvm.MethodName)) ∈ lw_all := lw_g (lw_at lw_m8 12 rfl) rfl
theorem q1810 : (Jvm.Cond.code ({ cls := "SevenTable", name := "common", desc := "(JJ)J" } : Jvm.MethodName) prog_1_method_30_code (4 : Nat) (Option.some Jvm.ClassFile.FieldType.long)) ∈ lw_all := lw_g (lw_at lw_m8 13 rfl) rfl
theorem q1815 : (Jvm.Cond.instanceMethod ({ cls := "SevenTable", name := "next", desc := "(III)J" } : Jvm.MethodName)) ∈ lw_all := lw_g (lw_at lw_m8 18 rfl) rfl
theorem q1816 : (Jvm.Cond.selects "SevenTable" ({ cls := "SevenTable", name := "next", desc := "(III)J" } : Jvm.MethodName) ({ cls := "SevenTable", name := "next", desc := "(III)J" } : Jvm.MethodName)) ∈ lw_all := lw_g (lw_at lw_m8 19 rfl) rfl
theorem q1817 : (Jvm.Cond.code ({ cls := "SevenTable", name := "next", desc := "(III)J" } : Jvm.MethodName) prog_1_method_34_code (10 : Nat) (Option.some Jvm.ClassFile.FieldType.long)) ∈ lw_all := lw_g (lw_at lw_m8 20 rfl) rfl
theorem q2496 : (Jvm.Cond.castable "SevenTable" "java/lang/Object") ∈ lw_tbl := lw_at lw_m10 219 rfl
theorem in_X1 : ∀ w ∈ wsX10, w ∈ lw_all := lw_in wsX10 [534, 536, 538, 540, 542, 544, 546, 548, 550, 552, 554, 556, 558, 560, 562, 564, 566, 568, 570, 572, 574, 576, 578, 580] (by decide +kernel) (by decide +kernel)
