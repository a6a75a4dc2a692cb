/-! SevenTable$Game -/
set_option maxRecDepth 100000
def RX3 : String := "SevenTable$Game"
def TX3 : u_T := fun k => match k with
  | 0 => ("SevenTable$Game", "t", "LSevenTable$Table;", false)
  | 1 => ("SevenTable$Game", "hand", "[[I", true)
  | 2 => ("SevenTable$Game", "known", "[[I", true)
  | 3 => ("SevenTable$Game", "other", "[[I", true)
  | 4 => ("SevenTable$Game", "others", "[I", true)
  | 5 => ("SevenTable$Game", "caught", "[I", true)
  | 6 => ("SevenTable$Game", "asks", "[I", true)
  | 7 => ("SevenTable$Game", "given", "[I", true)
  | 8 => ("SevenTable$Game", "drew", "[I", true)
  | 9 => ("SevenTable$Game", "book", "[I", true)
  | 10 => ("SevenTable$Game", "heap", "[I", true)
  | 11 => ("SevenTable$Game", "cards", "[I", true)
  | 12 => ("SevenTable$Game", "heapAt", "I", false)
  | 13 => ("SevenTable$Game", "heaped", "I", false)
  | 14 => ("SevenTable$Game", "turn", "I", false)
  | 15 => ("SevenTable$Game", "askings", "I", false)
  | 16 => ("SevenTable$Game", "vain", "I", false)
  | 17 => ("SevenTable$Game", "latest", "[I", true)
  | _ => ("SevenTable$Game", "seed", "I", false)
def tyX3 : Nat → FieldType := fun k => match k with
  | 0 => .object "SevenTable$Table"
  | 1 => .array (.array .int)
  | 2 => .array (.array .int)
  | 3 => .array (.array .int)
  | 4 => .array .int
  | 5 => .array .int
  | 6 => .array .int
  | 7 => .array .int
  | 8 => .array .int
  | 9 => .array .int
  | 10 => .array .int
  | 11 => .array .int
  | 12 => .int
  | 13 => .int
  | 14 => .int
  | 15 => .int
  | 16 => .int
  | 17 => .array .int
  | _ => .int
abbrev wsX30 : List Cond := u_ws RX3 TX3 19
set_option maxRecDepth 100000 in
theorem nmX3 : ∀ a, a < 19 → ∀ b, b < 19 → a ≠ b → (TX3 a).2.1 ≠ (TX3 b).2.1 := by decide +kernel
set_option maxRecDepth 100000 in
theorem tyX3_ok : ∀ k, k < 19 → parseFieldDescriptor (TX3 k).2.2.1 = some (tyX3 k) := by decide +kernel
abbrev cX3_init : ByteArray := prog_6_method_1_code
def yX3_init : MethodName := ⟨RX3, "<init>", "()V"⟩
def dkwX3_init_4 : List UInt8 := [181, 0, 41, 42, 16, 13, 188, 10, 181, 0, 44, 42, 16, 8, 188, 10, 181, 0, 47, 177]
abbrev dktX3_init_4 : List UInt8 := dkwX3_init_4 ++ []
def dkwX3_init_3 : List UInt8 := [181, 0, 32, 42, 16, 6, 188, 10, 181, 0, 35, 42, 16, 13, 188, 10, 181, 0, 38, 42, 16, 52, 188, 10]
abbrev dktX3_init_3 : List UInt8 := dkwX3_init_3 ++ dktX3_init_4
def dkwX3_init_2 : List UInt8 := [181, 0, 22, 42, 16, 6, 188, 10, 181, 0, 26, 42, 16, 6, 188, 10, 181, 0, 29, 42, 16, 6, 188, 10]
abbrev dktX3_init_2 : List UInt8 := dkwX3_init_2 ++ dktX3_init_3
def dkwX3_init_1 : List UInt8 := [197, 0, 9, 2, 181, 0, 16, 42, 16, 6, 16, 52, 197, 0, 9, 2, 181, 0, 19, 42, 16, 6, 188, 10]
abbrev dktX3_init_1 : List UInt8 := dkwX3_init_1 ++ dktX3_init_2
def dkwX3_init_0 : List UInt8 := [42, 183, 0, 3, 42, 16, 6, 16, 13, 197, 0, 9, 2, 181, 0, 11, 42, 16, 6, 16, 13]
abbrev dktX3_init_0 : List UInt8 := dkwX3_init_0 ++ dktX3_init_1
theorem dksX3_init_0 : cX3_init.data.toList.drop 0 = dktX3_init_0 := by decide +kernel
theorem dksX3_init_1 : cX3_init.data.toList.drop 21 = dktX3_init_1 := dk_seg dksX3_init_0 21 rfl rfl
theorem dksX3_init_2 : cX3_init.data.toList.drop 45 = dktX3_init_2 := dk_seg dksX3_init_1 24 rfl rfl
theorem dksX3_init_3 : cX3_init.data.toList.drop 69 = dktX3_init_3 := dk_seg dksX3_init_2 24 rfl rfl
theorem dksX3_init_4 : cX3_init.data.toList.drop 93 = dktX3_init_4 := dk_seg dksX3_init_3 24 rfl rfl
theorem dX3_init_0 : decode cX3_init 0 = .ok (.aload_n 0, 1) := dk_42 (dk_at dksX3_init_0 0 rfl rfl)
theorem dX3_init_1 : decode cX3_init 1 = .ok (.invokespecial 3, 3) := dk_183 0 3 (dk_at dksX3_init_0 1 rfl rfl)
theorem dX3_init_4 : decode cX3_init 4 = .ok (.aload_n 0, 1) := dk_42 (dk_at dksX3_init_0 4 rfl rfl)
theorem dX3_init_5 : decode cX3_init 5 = .ok (.bipush 6, 2) := dk_16 6 (dk_at dksX3_init_0 5 rfl rfl)
theorem dX3_init_7 : decode cX3_init 7 = .ok (.bipush 13, 2) := dk_16 13 (dk_at dksX3_init_0 7 rfl rfl)
theorem dX3_init_9 : decode cX3_init 9 = .ok (.multianewarray 9 2, 4) := by decide +kernel
theorem dX3_init_13 : decode cX3_init 13 = .ok (.putfield 11, 3) := dk_181 0 11 (dk_at dksX3_init_0 13 rfl rfl)
theorem dX3_init_16 : decode cX3_init 16 = .ok (.aload_n 0, 1) := dk_42 (dk_at dksX3_init_0 16 rfl rfl)
theorem dX3_init_17 : decode cX3_init 17 = .ok (.bipush 6, 2) := dk_16 6 (dk_at dksX3_init_0 17 rfl rfl)
theorem dX3_init_19 : decode cX3_init 19 = .ok (.bipush 13, 2) := dk_16 13 (dk_at dksX3_init_0 19 rfl rfl)
theorem dX3_init_21 : decode cX3_init 21 = .ok (.multianewarray 9 2, 4) := by decide +kernel
theorem dX3_init_25 : decode cX3_init 25 = .ok (.putfield 16, 3) := dk_181 0 16 (dk_at dksX3_init_1 4 rfl rfl)
theorem dX3_init_28 : decode cX3_init 28 = .ok (.aload_n 0, 1) := dk_42 (dk_at dksX3_init_1 7 rfl rfl)
theorem dX3_init_29 : decode cX3_init 29 = .ok (.bipush 6, 2) := dk_16 6 (dk_at dksX3_init_1 8 rfl rfl)
theorem dX3_init_31 : decode cX3_init 31 = .ok (.bipush 52, 2) := dk_16 52 (dk_at dksX3_init_1 10 rfl rfl)
theorem dX3_init_33 : decode cX3_init 33 = .ok (.multianewarray 9 2, 4) := by decide +kernel
theorem dX3_init_37 : decode cX3_init 37 = .ok (.putfield 19, 3) := dk_181 0 19 (dk_at dksX3_init_1 16 rfl rfl)
theorem dX3_init_40 : decode cX3_init 40 = .ok (.aload_n 0, 1) := dk_42 (dk_at dksX3_init_1 19 rfl rfl)
theorem dX3_init_41 : decode cX3_init 41 = .ok (.bipush 6, 2) := dk_16 6 (dk_at dksX3_init_1 20 rfl rfl)
theorem dX3_init_43 : decode cX3_init 43 = .ok (.newarray .int, 2) := dk_188_10 (dk_at dksX3_init_1 22 rfl rfl)
theorem dX3_init_45 : decode cX3_init 45 = .ok (.putfield 22, 3) := dk_181 0 22 (dk_at dksX3_init_2 0 rfl rfl)
theorem dX3_init_48 : decode cX3_init 48 = .ok (.aload_n 0, 1) := dk_42 (dk_at dksX3_init_2 3 rfl rfl)
theorem dX3_init_49 : decode cX3_init 49 = .ok (.bipush 6, 2) := dk_16 6 (dk_at dksX3_init_2 4 rfl rfl)
theorem dX3_init_51 : decode cX3_init 51 = .ok (.newarray .int, 2) := dk_188_10 (dk_at dksX3_init_2 6 rfl rfl)
theorem dX3_init_53 : decode cX3_init 53 = .ok (.putfield 26, 3) := dk_181 0 26 (dk_at dksX3_init_2 8 rfl rfl)
theorem dX3_init_56 : decode cX3_init 56 = .ok (.aload_n 0, 1) := dk_42 (dk_at dksX3_init_2 11 rfl rfl)
theorem dX3_init_57 : decode cX3_init 57 = .ok (.bipush 6, 2) := dk_16 6 (dk_at dksX3_init_2 12 rfl rfl)
theorem dX3_init_59 : decode cX3_init 59 = .ok (.newarray .int, 2) := dk_188_10 (dk_at dksX3_init_2 14 rfl rfl)
theorem dX3_init_61 : decode cX3_init 61 = .ok (.putfield 29, 3) := dk_181 0 29 (dk_at dksX3_init_2 16 rfl rfl)
theorem dX3_init_64 : decode cX3_init 64 = .ok (.aload_n 0, 1) := dk_42 (dk_at dksX3_init_2 19 rfl rfl)
theorem dX3_init_65 : decode cX3_init 65 = .ok (.bipush 6, 2) := dk_16 6 (dk_at dksX3_init_2 20 rfl rfl)
theorem dX3_init_67 : decode cX3_init 67 = .ok (.newarray .int, 2) := dk_188_10 (dk_at dksX3_init_2 22 rfl rfl)
theorem dX3_init_69 : decode cX3_init 69 = .ok (.putfield 32, 3) := dk_181 0 32 (dk_at dksX3_init_3 0 rfl rfl)
theorem dX3_init_72 : decode cX3_init 72 = .ok (.aload_n 0, 1) := dk_42 (dk_at dksX3_init_3 3 rfl rfl)
theorem dX3_init_73 : decode cX3_init 73 = .ok (.bipush 6, 2) := dk_16 6 (dk_at dksX3_init_3 4 rfl rfl)
theorem dX3_init_75 : decode cX3_init 75 = .ok (.newarray .int, 2) := dk_188_10 (dk_at dksX3_init_3 6 rfl rfl)
theorem dX3_init_77 : decode cX3_init 77 = .ok (.putfield 35, 3) := dk_181 0 35 (dk_at dksX3_init_3 8 rfl rfl)
theorem dX3_init_80 : decode cX3_init 80 = .ok (.aload_n 0, 1) := dk_42 (dk_at dksX3_init_3 11 rfl rfl)
theorem dX3_init_81 : decode cX3_init 81 = .ok (.bipush 13, 2) := dk_16 13 (dk_at dksX3_init_3 12 rfl rfl)
theorem dX3_init_83 : decode cX3_init 83 = .ok (.newarray .int, 2) := dk_188_10 (dk_at dksX3_init_3 14 rfl rfl)
theorem dX3_init_85 : decode cX3_init 85 = .ok (.putfield 38, 3) := dk_181 0 38 (dk_at dksX3_init_3 16 rfl rfl)
theorem dX3_init_88 : decode cX3_init 88 = .ok (.aload_n 0, 1) := dk_42 (dk_at dksX3_init_3 19 rfl rfl)
theorem dX3_init_89 : decode cX3_init 89 = .ok (.bipush 52, 2) := dk_16 52 (dk_at dksX3_init_3 20 rfl rfl)
theorem dX3_init_91 : decode cX3_init 91 = .ok (.newarray .int, 2) := dk_188_10 (dk_at dksX3_init_3 22 rfl rfl)
theorem dX3_init_93 : decode cX3_init 93 = .ok (.putfield 41, 3) := dk_181 0 41 (dk_at dksX3_init_4 0 rfl rfl)
theorem dX3_init_96 : decode cX3_init 96 = .ok (.aload_n 0, 1) := dk_42 (dk_at dksX3_init_4 3 rfl rfl)
theorem dX3_init_97 : decode cX3_init 97 = .ok (.bipush 13, 2) := dk_16 13 (dk_at dksX3_init_4 4 rfl rfl)
theorem dX3_init_99 : decode cX3_init 99 = .ok (.newarray .int, 2) := dk_188_10 (dk_at dksX3_init_4 6 rfl rfl)
theorem dX3_init_101 : decode cX3_init 101 = .ok (.putfield 44, 3) := dk_181 0 44 (dk_at dksX3_init_4 8 rfl rfl)
theorem dX3_init_104 : decode cX3_init 104 = .ok (.aload_n 0, 1) := dk_42 (dk_at dksX3_init_4 11 rfl rfl)
theorem dX3_init_105 : decode cX3_init 105 = .ok (.bipush 8, 2) := dk_16 8 (dk_at dksX3_init_4 12 rfl rfl)
theorem dX3_init_107 : decode cX3_init 107 = .ok (.newarray .int, 2) := dk_188_10 (dk_at dksX3_init_4 14 rfl rfl)
theorem dX3_init_109 : decode cX3_init 109 = .ok (.putfield 47, 3) := dk_181 0 47 (dk_at dksX3_init_4 16 rfl rfl)
theorem dX3_init_112 : decode cX3_init 112 = .ok (.return_, 1) := dk_177 (dk_at dksX3_init_4 19 rfl rfl)
abbrev cX3_begin : ByteArray := prog_6_method_3_code
def yX3_begin : MethodName := ⟨RX3, "begin", "(LSevenTable$Table;)LSevenTable$Game;"⟩
def dkwX3_begin_4 : List UInt8 := [42, 42, 180, 0, 50, 180, 0, 94, 181, 0, 97, 42, 182, 0, 98, 176]
abbrev dktX3_begin_4 : List UInt8 := dkwX3_begin_4 ++ []
def dkwX3_begin_3 : List UInt8 := [180, 0, 92, 42, 180, 0, 41, 184, 0, 81, 42, 180, 0, 50, 180, 0, 93, 42, 180, 0, 44, 184, 0, 81]
abbrev dktX3_begin_3 : List UInt8 := dkwX3_begin_3 ++ dktX3_begin_4
def dkwX3_begin_2 : List UInt8 := [42, 28, 3, 182, 0, 89, 132, 3, 255, 167, 255, 243, 132, 2, 1, 167, 255, 202, 42, 180, 0, 50]
abbrev dktX3_begin_2 : List UInt8 := dkwX3_begin_2 ++ dktX3_begin_3
def dkwX3_begin_1 : List UInt8 := [180, 0, 80, 28, 50, 42, 180, 0, 11, 28, 50, 184, 0, 81, 42, 28, 182, 0, 85, 62, 29, 158, 0, 15]
abbrev dktX3_begin_1 : List UInt8 := dkwX3_begin_1 ++ dktX3_begin_2
def dkwX3_begin_0 : List UInt8 := [42, 43, 182, 0, 70, 3, 61, 28, 42, 180, 0, 50, 182, 0, 74, 162, 0, 49, 42, 180, 0, 50]
abbrev dktX3_begin_0 : List UInt8 := dkwX3_begin_0 ++ dktX3_begin_1
theorem dksX3_begin_0 : cX3_begin.data.toList.drop 0 = dktX3_begin_0 := by decide +kernel
theorem dksX3_begin_1 : cX3_begin.data.toList.drop 22 = dktX3_begin_1 := dk_seg dksX3_begin_0 22 rfl rfl
theorem dksX3_begin_2 : cX3_begin.data.toList.drop 46 = dktX3_begin_2 := dk_seg dksX3_begin_1 24 rfl rfl
theorem dksX3_begin_3 : cX3_begin.data.toList.drop 68 = dktX3_begin_3 := dk_seg dksX3_begin_2 22 rfl rfl
theorem dksX3_begin_4 : cX3_begin.data.toList.drop 92 = dktX3_begin_4 := dk_seg dksX3_begin_3 24 rfl rfl
theorem dX3_begin_0 : decode cX3_begin 0 = .ok (.aload_n 0, 1) := dk_42 (dk_at dksX3_begin_0 0 rfl rfl)
theorem dX3_begin_1 : decode cX3_begin 1 = .ok (.aload_n 1, 1) := dk_43 (dk_at dksX3_begin_0 1 rfl rfl)
theorem dX3_begin_2 : decode cX3_begin 2 = .ok (.invokevirtual 70, 3) := dk_182 0 70 (dk_at dksX3_begin_0 2 rfl rfl)
theorem dX3_begin_5 : decode cX3_begin 5 = .ok (.iconst 0, 1) := dk_3 (dk_at dksX3_begin_0 5 rfl rfl)
theorem dX3_begin_6 : decode cX3_begin 6 = .ok (.istore_n 2, 1) := dk_61 (dk_at dksX3_begin_0 6 rfl rfl)
theorem dX3_begin_7 : decode cX3_begin 7 = .ok (.iload_n 2, 1) := dk_28 (dk_at dksX3_begin_0 7 rfl rfl)
theorem dX3_begin_8 : decode cX3_begin 8 = .ok (.aload_n 0, 1) := dk_42 (dk_at dksX3_begin_0 8 rfl rfl)
theorem dX3_begin_9 : decode cX3_begin 9 = .ok (.getfield 50, 3) := dk_180 0 50 (dk_at dksX3_begin_0 9 rfl rfl)
theorem dX3_begin_12 : decode cX3_begin 12 = .ok (.invokevirtual 74, 3) := dk_182 0 74 (dk_at dksX3_begin_0 12 rfl rfl)
theorem dX3_begin_15 : decode cX3_begin 15 = .ok (.if_icmp .ge 49, 3) := dk_162 0 49 (dk_at dksX3_begin_0 15 rfl rfl)
theorem dX3_begin_18 : decode cX3_begin 18 = .ok (.aload_n 0, 1) := dk_42 (dk_at dksX3_begin_0 18 rfl rfl)
theorem dX3_begin_19 : decode cX3_begin 19 = .ok (.getfield 50, 3) := dk_180 0 50 (dk_at dksX3_begin_0 19 rfl rfl)
theorem dX3_begin_22 : decode cX3_begin 22 = .ok (.getfield 80, 3) := dk_180 0 80 (dk_at dksX3_begin_1 0 rfl rfl)
theorem dX3_begin_25 : decode cX3_begin 25 = .ok (.iload_n 2, 1) := dk_28 (dk_at dksX3_begin_1 3 rfl rfl)
theorem dX3_begin_26 : decode cX3_begin 26 = .ok (.aaload, 1) := dk_50 (dk_at dksX3_begin_1 4 rfl rfl)
theorem dX3_begin_27 : decode cX3_begin 27 = .ok (.aload_n 0, 1) := dk_42 (dk_at dksX3_begin_1 5 rfl rfl)
theorem dX3_begin_28 : decode cX3_begin 28 = .ok (.getfield 11, 3) := dk_180 0 11 (dk_at dksX3_begin_1 6 rfl rfl)
theorem dX3_begin_31 : decode cX3_begin 31 = .ok (.iload_n 2, 1) := dk_28 (dk_at dksX3_begin_1 9 rfl rfl)
theorem dX3_begin_32 : decode cX3_begin 32 = .ok (.aaload, 1) := dk_50 (dk_at dksX3_begin_1 10 rfl rfl)
theorem dX3_begin_33 : decode cX3_begin 33 = .ok (.invokestatic 81, 3) := dk_184 0 81 (dk_at dksX3_begin_1 11 rfl rfl)
theorem dX3_begin_36 : decode cX3_begin 36 = .ok (.aload_n 0, 1) := dk_42 (dk_at dksX3_begin_1 14 rfl rfl)
theorem dX3_begin_37 : decode cX3_begin 37 = .ok (.iload_n 2, 1) := dk_28 (dk_at dksX3_begin_1 15 rfl rfl)
theorem dX3_begin_38 : decode cX3_begin 38 = .ok (.invokevirtual 85, 3) := dk_182 0 85 (dk_at dksX3_begin_1 16 rfl rfl)
theorem dX3_begin_41 : decode cX3_begin 41 = .ok (.istore_n 3, 1) := dk_62 (dk_at dksX3_begin_1 19 rfl rfl)
theorem dX3_begin_42 : decode cX3_begin 42 = .ok (.iload_n 3, 1) := dk_29 (dk_at dksX3_begin_1 20 rfl rfl)
theorem dX3_begin_43 : decode cX3_begin 43 = .ok (.ifCond .le 15, 3) := dk_158 0 15 (dk_at dksX3_begin_1 21 rfl rfl)
theorem dX3_begin_46 : decode cX3_begin 46 = .ok (.aload_n 0, 1) := dk_42 (dk_at dksX3_begin_2 0 rfl rfl)
theorem dX3_begin_47 : decode cX3_begin 47 = .ok (.iload_n 2, 1) := dk_28 (dk_at dksX3_begin_2 1 rfl rfl)
theorem dX3_begin_48 : decode cX3_begin 48 = .ok (.iconst 0, 1) := dk_3 (dk_at dksX3_begin_2 2 rfl rfl)
theorem dX3_begin_49 : decode cX3_begin 49 = .ok (.invokevirtual 89, 3) := dk_182 0 89 (dk_at dksX3_begin_2 3 rfl rfl)
theorem dX3_begin_52 : decode cX3_begin 52 = .ok (.iinc 3 (-1), 3) := dk_132 3 255 (dk_at dksX3_begin_2 6 rfl rfl)
theorem dX3_begin_55 : decode cX3_begin 55 = .ok (.goto (-13), 3) := dk_167 255 243 (dk_at dksX3_begin_2 9 rfl rfl)
theorem dX3_begin_58 : decode cX3_begin 58 = .ok (.iinc 2 1, 3) := dk_132 2 1 (dk_at dksX3_begin_2 12 rfl rfl)
theorem dX3_begin_61 : decode cX3_begin 61 = .ok (.goto (-54), 3) := dk_167 255 202 (dk_at dksX3_begin_2 15 rfl rfl)
theorem dX3_begin_64 : decode cX3_begin 64 = .ok (.aload_n 0, 1) := dk_42 (dk_at dksX3_begin_2 18 rfl rfl)
theorem dX3_begin_65 : decode cX3_begin 65 = .ok (.getfield 50, 3) := dk_180 0 50 (dk_at dksX3_begin_2 19 rfl rfl)
theorem dX3_begin_68 : decode cX3_begin 68 = .ok (.getfield 92, 3) := dk_180 0 92 (dk_at dksX3_begin_3 0 rfl rfl)
theorem dX3_begin_71 : decode cX3_begin 71 = .ok (.aload_n 0, 1) := dk_42 (dk_at dksX3_begin_3 3 rfl rfl)
theorem dX3_begin_72 : decode cX3_begin 72 = .ok (.getfield 41, 3) := dk_180 0 41 (dk_at dksX3_begin_3 4 rfl rfl)
theorem dX3_begin_75 : decode cX3_begin 75 = .ok (.invokestatic 81, 3) := dk_184 0 81 (dk_at dksX3_begin_3 7 rfl rfl)
theorem dX3_begin_78 : decode cX3_begin 78 = .ok (.aload_n 0, 1) := dk_42 (dk_at dksX3_begin_3 10 rfl rfl)
theorem dX3_begin_79 : decode cX3_begin 79 = .ok (.getfield 50, 3) := dk_180 0 50 (dk_at dksX3_begin_3 11 rfl rfl)
theorem dX3_begin_82 : decode cX3_begin 82 = .ok (.getfield 93, 3) := dk_180 0 93 (dk_at dksX3_begin_3 14 rfl rfl)
theorem dX3_begin_85 : decode cX3_begin 85 = .ok (.aload_n 0, 1) := dk_42 (dk_at dksX3_begin_3 17 rfl rfl)
theorem dX3_begin_86 : decode cX3_begin 86 = .ok (.getfield 44, 3) := dk_180 0 44 (dk_at dksX3_begin_3 18 rfl rfl)
theorem dX3_begin_89 : decode cX3_begin 89 = .ok (.invokestatic 81, 3) := dk_184 0 81 (dk_at dksX3_begin_3 21 rfl rfl)
theorem dX3_begin_92 : decode cX3_begin 92 = .ok (.aload_n 0, 1) := dk_42 (dk_at dksX3_begin_4 0 rfl rfl)
theorem dX3_begin_93 : decode cX3_begin 93 = .ok (.aload_n 0, 1) := dk_42 (dk_at dksX3_begin_4 1 rfl rfl)
theorem dX3_begin_94 : decode cX3_begin 94 = .ok (.getfield 50, 3) := dk_180 0 50 (dk_at dksX3_begin_4 2 rfl rfl)
theorem dX3_begin_97 : decode cX3_begin 97 = .ok (.getfield 94, 3) := dk_180 0 94 (dk_at dksX3_begin_4 5 rfl rfl)
theorem dX3_begin_100 : decode cX3_begin 100 = .ok (.putfield 97, 3) := dk_181 0 97 (dk_at dksX3_begin_4 8 rfl rfl)
theorem dX3_begin_103 : decode cX3_begin 103 = .ok (.aload_n 0, 1) := dk_42 (dk_at dksX3_begin_4 11 rfl rfl)
theorem dX3_begin_104 : decode cX3_begin 104 = .ok (.invokevirtual 98, 3) := dk_182 0 98 (dk_at dksX3_begin_4 12 rfl rfl)
theorem dX3_begin_107 : decode cX3_begin 107 = .ok (.areturn, 1) := dk_176 (dk_at dksX3_begin_4 15 rfl rfl)
abbrev cX3_clear : ByteArray := prog_6_method_2_code
def yX3_clear : MethodName := ⟨RX3, "clear", "(LSevenTable$Table;)V"⟩
def dkwX3_clear_4 : List UInt8 := [181, 0, 64, 42, 3, 181, 0, 67, 177]
abbrev dktX3_clear_4 : List UInt8 := dkwX3_clear_4 ++ []
def dkwX3_clear_3 : List UInt8 := [180, 0, 35, 2, 184, 0, 54, 42, 180, 0, 38, 2, 184, 0, 54, 42, 3, 181, 0, 60, 42, 3]
abbrev dktX3_clear_3 : List UInt8 := dkwX3_clear_3 ++ dktX3_clear_4
def dkwX3_clear_2 : List UInt8 := [180, 0, 26, 3, 184, 0, 54, 42, 180, 0, 29, 3, 184, 0, 54, 42, 180, 0, 32, 3, 184, 0, 54, 42]
abbrev dktX3_clear_2 : List UInt8 := dkwX3_clear_2 ++ dktX3_clear_3
def dkwX3_clear_1 : List UInt8 := [180, 0, 16, 28, 50, 3, 184, 0, 54, 42, 180, 0, 22, 28, 3, 79, 132, 2, 1, 167, 255, 220, 42]
abbrev dktX3_clear_1 : List UInt8 := dkwX3_clear_1 ++ dktX3_clear_2
def dkwX3_clear_0 : List UInt8 := [42, 43, 181, 0, 50, 3, 61, 28, 16, 6, 162, 0, 36, 42, 180, 0, 11, 28, 50, 3, 184, 0, 54, 42]
abbrev dktX3_clear_0 : List UInt8 := dkwX3_clear_0 ++ dktX3_clear_1
theorem dksX3_clear_0 : cX3_clear.data.toList.drop 0 = dktX3_clear_0 := by decide +kernel
theorem dksX3_clear_1 : cX3_clear.data.toList.drop 24 = dktX3_clear_1 := dk_seg dksX3_clear_0 24 rfl rfl
theorem dksX3_clear_2 : cX3_clear.data.toList.drop 47 = dktX3_clear_2 := dk_seg dksX3_clear_1 23 rfl rfl
theorem dksX3_clear_3 : cX3_clear.data.toList.drop 71 = dktX3_clear_3 := dk_seg dksX3_clear_2 24 rfl rfl
theorem dksX3_clear_4 : cX3_clear.data.toList.drop 93 = dktX3_clear_4 := dk_seg dksX3_clear_3 22 rfl rfl
theorem dX3_clear_0 : decode cX3_clear 0 = .ok (.aload_n 0, 1) := dk_42 (dk_at dksX3_clear_0 0 rfl rfl)
theorem dX3_clear_1 : decode cX3_clear 1 = .ok (.aload_n 1, 1) := dk_43 (dk_at dksX3_clear_0 1 rfl rfl)
theorem dX3_clear_2 : decode cX3_clear 2 = .ok (.putfield 50, 3) := dk_181 0 50 (dk_at dksX3_clear_0 2 rfl rfl)
theorem dX3_clear_5 : decode cX3_clear 5 = .ok (.iconst 0, 1) := dk_3 (dk_at dksX3_clear_0 5 rfl rfl)
theorem dX3_clear_6 : decode cX3_clear 6 = .ok (.istore_n 2, 1) := dk_61 (dk_at dksX3_clear_0 6 rfl rfl)
theorem dX3_clear_7 : decode cX3_clear 7 = .ok (.iload_n 2, 1) := dk_28 (dk_at dksX3_clear_0 7 rfl rfl)
theorem dX3_clear_8 : decode cX3_clear 8 = .ok (.bipush 6, 2) := dk_16 6 (dk_at dksX3_clear_0 8 rfl rfl)
theorem dX3_clear_10 : decode cX3_clear 10 = .ok (.if_icmp .ge 36, 3) := dk_162 0 36 (dk_at dksX3_clear_0 10 rfl rfl)
theorem dX3_clear_13 : decode cX3_clear 13 = .ok (.aload_n 0, 1) := dk_42 (dk_at dksX3_clear_0 13 rfl rfl)
theorem dX3_clear_14 : decode cX3_clear 14 = .ok (.getfield 11, 3) := dk_180 0 11 (dk_at dksX3_clear_0 14 rfl rfl)
theorem dX3_clear_17 : decode cX3_clear 17 = .ok (.iload_n 2, 1) := dk_28 (dk_at dksX3_clear_0 17 rfl rfl)
theorem dX3_clear_18 : decode cX3_clear 18 = .ok (.aaload, 1) := dk_50 (dk_at dksX3_clear_0 18 rfl rfl)
theorem dX3_clear_19 : decode cX3_clear 19 = .ok (.iconst 0, 1) := dk_3 (dk_at dksX3_clear_0 19 rfl rfl)
theorem dX3_clear_20 : decode cX3_clear 20 = .ok (.invokestatic 54, 3) := dk_184 0 54 (dk_at dksX3_clear_0 20 rfl rfl)
theorem dX3_clear_23 : decode cX3_clear 23 = .ok (.aload_n 0, 1) := dk_42 (dk_at dksX3_clear_0 23 rfl rfl)
theorem dX3_clear_24 : decode cX3_clear 24 = .ok (.getfield 16, 3) := dk_180 0 16 (dk_at dksX3_clear_1 0 rfl rfl)
theorem dX3_clear_27 : decode cX3_clear 27 = .ok (.iload_n 2, 1) := dk_28 (dk_at dksX3_clear_1 3 rfl rfl)
theorem dX3_clear_28 : decode cX3_clear 28 = .ok (.aaload, 1) := dk_50 (dk_at dksX3_clear_1 4 rfl rfl)
theorem dX3_clear_29 : decode cX3_clear 29 = .ok (.iconst 0, 1) := dk_3 (dk_at dksX3_clear_1 5 rfl rfl)
theorem dX3_clear_30 : decode cX3_clear 30 = .ok (.invokestatic 54, 3) := dk_184 0 54 (dk_at dksX3_clear_1 6 rfl rfl)
theorem dX3_clear_33 : decode cX3_clear 33 = .ok (.aload_n 0, 1) := dk_42 (dk_at dksX3_clear_1 9 rfl rfl)
theorem dX3_clear_34 : decode cX3_clear 34 = .ok (.getfield 22, 3) := dk_180 0 22 (dk_at dksX3_clear_1 10 rfl rfl)
theorem dX3_clear_37 : decode cX3_clear 37 = .ok (.iload_n 2, 1) := dk_28 (dk_at dksX3_clear_1 13 rfl rfl)
theorem dX3_clear_38 : decode cX3_clear 38 = .ok (.iconst 0, 1) := dk_3 (dk_at dksX3_clear_1 14 rfl rfl)
theorem dX3_clear_39 : decode cX3_clear 39 = .ok (.iastore, 1) := dk_79 (dk_at dksX3_clear_1 15 rfl rfl)
theorem dX3_clear_40 : decode cX3_clear 40 = .ok (.iinc 2 1, 3) := dk_132 2 1 (dk_at dksX3_clear_1 16 rfl rfl)
theorem dX3_clear_43 : decode cX3_clear 43 = .ok (.goto (-36), 3) := dk_167 255 220 (dk_at dksX3_clear_1 19 rfl rfl)
theorem dX3_clear_46 : decode cX3_clear 46 = .ok (.aload_n 0, 1) := dk_42 (dk_at dksX3_clear_1 22 rfl rfl)
theorem dX3_clear_47 : decode cX3_clear 47 = .ok (.getfield 26, 3) := dk_180 0 26 (dk_at dksX3_clear_2 0 rfl rfl)
theorem dX3_clear_50 : decode cX3_clear 50 = .ok (.iconst 0, 1) := dk_3 (dk_at dksX3_clear_2 3 rfl rfl)
theorem dX3_clear_51 : decode cX3_clear 51 = .ok (.invokestatic 54, 3) := dk_184 0 54 (dk_at dksX3_clear_2 4 rfl rfl)
theorem dX3_clear_54 : decode cX3_clear 54 = .ok (.aload_n 0, 1) := dk_42 (dk_at dksX3_clear_2 7 rfl rfl)
theorem dX3_clear_55 : decode cX3_clear 55 = .ok (.getfield 29, 3) := dk_180 0 29 (dk_at dksX3_clear_2 8 rfl rfl)
theorem dX3_clear_58 : decode cX3_clear 58 = .ok (.iconst 0, 1) := dk_3 (dk_at dksX3_clear_2 11 rfl rfl)
theorem dX3_clear_59 : decode cX3_clear 59 = .ok (.invokestatic 54, 3) := dk_184 0 54 (dk_at dksX3_clear_2 12 rfl rfl)
theorem dX3_clear_62 : decode cX3_clear 62 = .ok (.aload_n 0, 1) := dk_42 (dk_at dksX3_clear_2 15 rfl rfl)
theorem dX3_clear_63 : decode cX3_clear 63 = .ok (.getfield 32, 3) := dk_180 0 32 (dk_at dksX3_clear_2 16 rfl rfl)
theorem dX3_clear_66 : decode cX3_clear 66 = .ok (.iconst 0, 1) := dk_3 (dk_at dksX3_clear_2 19 rfl rfl)
theorem dX3_clear_67 : decode cX3_clear 67 = .ok (.invokestatic 54, 3) := dk_184 0 54 (dk_at dksX3_clear_2 20 rfl rfl)
theorem dX3_clear_70 : decode cX3_clear 70 = .ok (.aload_n 0, 1) := dk_42 (dk_at dksX3_clear_2 23 rfl rfl)
theorem dX3_clear_71 : decode cX3_clear 71 = .ok (.getfield 35, 3) := dk_180 0 35 (dk_at dksX3_clear_3 0 rfl rfl)
theorem dX3_clear_74 : decode cX3_clear 74 = .ok (.iconst (-1), 1) := dk_2 (dk_at dksX3_clear_3 3 rfl rfl)
theorem dX3_clear_75 : decode cX3_clear 75 = .ok (.invokestatic 54, 3) := dk_184 0 54 (dk_at dksX3_clear_3 4 rfl rfl)
theorem dX3_clear_78 : decode cX3_clear 78 = .ok (.aload_n 0, 1) := dk_42 (dk_at dksX3_clear_3 7 rfl rfl)
theorem dX3_clear_79 : decode cX3_clear 79 = .ok (.getfield 38, 3) := dk_180 0 38 (dk_at dksX3_clear_3 8 rfl rfl)
theorem dX3_clear_82 : decode cX3_clear 82 = .ok (.iconst (-1), 1) := dk_2 (dk_at dksX3_clear_3 11 rfl rfl)
theorem dX3_clear_83 : decode cX3_clear 83 = .ok (.invokestatic 54, 3) := dk_184 0 54 (dk_at dksX3_clear_3 12 rfl rfl)
theorem dX3_clear_86 : decode cX3_clear 86 = .ok (.aload_n 0, 1) := dk_42 (dk_at dksX3_clear_3 15 rfl rfl)
theorem dX3_clear_87 : decode cX3_clear 87 = .ok (.iconst 0, 1) := dk_3 (dk_at dksX3_clear_3 16 rfl rfl)
theorem dX3_clear_88 : decode cX3_clear 88 = .ok (.putfield 60, 3) := dk_181 0 60 (dk_at dksX3_clear_3 17 rfl rfl)
theorem dX3_clear_91 : decode cX3_clear 91 = .ok (.aload_n 0, 1) := dk_42 (dk_at dksX3_clear_3 20 rfl rfl)
theorem dX3_clear_92 : decode cX3_clear 92 = .ok (.iconst 0, 1) := dk_3 (dk_at dksX3_clear_3 21 rfl rfl)
theorem dX3_clear_93 : decode cX3_clear 93 = .ok (.putfield 64, 3) := dk_181 0 64 (dk_at dksX3_clear_4 0 rfl rfl)
theorem dX3_clear_96 : decode cX3_clear 96 = .ok (.aload_n 0, 1) := dk_42 (dk_at dksX3_clear_4 3 rfl rfl)
theorem dX3_clear_97 : decode cX3_clear 97 = .ok (.iconst 0, 1) := dk_3 (dk_at dksX3_clear_4 4 rfl rfl)
theorem dX3_clear_98 : decode cX3_clear 98 = .ok (.putfield 67, 3) := dk_181 0 67 (dk_at dksX3_clear_4 5 rfl rfl)
theorem dX3_clear_101 : decode cX3_clear 101 = .ok (.return_, 1) := dk_177 (dk_at dksX3_clear_4 8 rfl rfl)
abbrev cX3_copy : ByteArray := prog_6_method_6_code
def yX3_copy : MethodName := ⟨RX3, "copy", "([I[I)V"⟩
def dkwX3_copy_0 : List UInt8 := [42, 3, 43, 3, 43, 190, 184, 0, 112, 177]
abbrev dktX3_copy_0 : List UInt8 := dkwX3_copy_0 ++ []
theorem dksX3_copy_0 : cX3_copy.data.toList.drop 0 = dktX3_copy_0 := by decide +kernel
theorem dX3_copy_0 : decode cX3_copy 0 = .ok (.aload_n 0, 1) := dk_42 (dk_at dksX3_copy_0 0 rfl rfl)
theorem dX3_copy_1 : decode cX3_copy 1 = .ok (.iconst 0, 1) := dk_3 (dk_at dksX3_copy_0 1 rfl rfl)
theorem dX3_copy_2 : decode cX3_copy 2 = .ok (.aload_n 1, 1) := dk_43 (dk_at dksX3_copy_0 2 rfl rfl)
theorem dX3_copy_3 : decode cX3_copy 3 = .ok (.iconst 0, 1) := dk_3 (dk_at dksX3_copy_0 3 rfl rfl)
theorem dX3_copy_4 : decode cX3_copy 4 = .ok (.aload_n 1, 1) := dk_43 (dk_at dksX3_copy_0 4 rfl rfl)
theorem dX3_copy_5 : decode cX3_copy 5 = .ok (.arraylength, 1) := dk_190 (dk_at dksX3_copy_0 5 rfl rfl)
theorem dX3_copy_6 : decode cX3_copy 6 = .ok (.invokestatic 112, 3) := dk_184 0 112 (dk_at dksX3_copy_0 6 rfl rfl)
theorem dX3_copy_9 : decode cX3_copy 9 = .ok (.return_, 1) := dk_177 (dk_at dksX3_copy_0 9 rfl rfl)
abbrev cX3_size : ByteArray := prog_6_method_7_code
def yX3_size : MethodName := ⟨RX3, "size", "(I)I"⟩
def dkwX3_size_1 : List UInt8 := [167, 255, 236, 28, 172]
abbrev dktX3_size_1 : List UInt8 := dkwX3_size_1 ++ []
def dkwX3_size_0 : List UInt8 := [3, 61, 3, 62, 29, 16, 13, 162, 0, 20, 28, 42, 180, 0, 11, 27, 50, 29, 46, 96, 61, 132, 3, 1]
abbrev dktX3_size_0 : List UInt8 := dkwX3_size_0 ++ dktX3_size_1
theorem dksX3_size_0 : cX3_size.data.toList.drop 0 = dktX3_size_0 := by decide +kernel
theorem dksX3_size_1 : cX3_size.data.toList.drop 24 = dktX3_size_1 := dk_seg dksX3_size_0 24 rfl rfl
theorem dX3_size_0 : decode cX3_size 0 = .ok (.iconst 0, 1) := dk_3 (dk_at dksX3_size_0 0 rfl rfl)
theorem dX3_size_1 : decode cX3_size 1 = .ok (.istore_n 2, 1) := dk_61 (dk_at dksX3_size_0 1 rfl rfl)
theorem dX3_size_2 : decode cX3_size 2 = .ok (.iconst 0, 1) := dk_3 (dk_at dksX3_size_0 2 rfl rfl)
theorem dX3_size_3 : decode cX3_size 3 = .ok (.istore_n 3, 1) := dk_62 (dk_at dksX3_size_0 3 rfl rfl)
theorem dX3_size_4 : decode cX3_size 4 = .ok (.iload_n 3, 1) := dk_29 (dk_at dksX3_size_0 4 rfl rfl)
theorem dX3_size_5 : decode cX3_size 5 = .ok (.bipush 13, 2) := dk_16 13 (dk_at dksX3_size_0 5 rfl rfl)
theorem dX3_size_7 : decode cX3_size 7 = .ok (.if_icmp .ge 20, 3) := dk_162 0 20 (dk_at dksX3_size_0 7 rfl rfl)
theorem dX3_size_10 : decode cX3_size 10 = .ok (.iload_n 2, 1) := dk_28 (dk_at dksX3_size_0 10 rfl rfl)
theorem dX3_size_11 : decode cX3_size 11 = .ok (.aload_n 0, 1) := dk_42 (dk_at dksX3_size_0 11 rfl rfl)
theorem dX3_size_12 : decode cX3_size 12 = .ok (.getfield 11, 3) := dk_180 0 11 (dk_at dksX3_size_0 12 rfl rfl)
theorem dX3_size_15 : decode cX3_size 15 = .ok (.iload_n 1, 1) := dk_27 (dk_at dksX3_size_0 15 rfl rfl)
theorem dX3_size_16 : decode cX3_size 16 = .ok (.aaload, 1) := dk_50 (dk_at dksX3_size_0 16 rfl rfl)
theorem dX3_size_17 : decode cX3_size 17 = .ok (.iload_n 3, 1) := dk_29 (dk_at dksX3_size_0 17 rfl rfl)
theorem dX3_size_18 : decode cX3_size 18 = .ok (.iaload, 1) := dk_46 (dk_at dksX3_size_0 18 rfl rfl)
theorem dX3_size_19 : decode cX3_size 19 = .ok (.iadd, 1) := dk_96 (dk_at dksX3_size_0 19 rfl rfl)
theorem dX3_size_20 : decode cX3_size 20 = .ok (.istore_n 2, 1) := dk_61 (dk_at dksX3_size_0 20 rfl rfl)
theorem dX3_size_21 : decode cX3_size 21 = .ok (.iinc 3 1, 3) := dk_132 3 1 (dk_at dksX3_size_0 21 rfl rfl)
theorem dX3_size_24 : decode cX3_size 24 = .ok (.goto (-20), 3) := dk_167 255 236 (dk_at dksX3_size_1 0 rfl rfl)
theorem dX3_size_27 : decode cX3_size 27 = .ok (.iload_n 2, 1) := dk_28 (dk_at dksX3_size_1 3 rfl rfl)
theorem dX3_size_28 : decode cX3_size 28 = .ok (.ireturn, 1) := dk_172 (dk_at dksX3_size_1 4 rfl rfl)
abbrev cX3_others : ByteArray := prog_6_method_12_code
def yX3_others : MethodName := ⟨RX3, "others", "(II)V"⟩
def dkwX3_others_1 : List UInt8 := [177]
abbrev dktX3_others_1 : List UInt8 := dkwX3_others_1 ++ []
def dkwX3_others_0 : List UInt8 := [42, 180, 0, 19, 27, 50, 42, 180, 0, 22, 27, 46, 28, 79, 42, 180, 0, 22, 27, 92, 46, 4, 96, 79]
abbrev dktX3_others_0 : List UInt8 := dkwX3_others_0 ++ dktX3_others_1
theorem dksX3_others_0 : cX3_others.data.toList.drop 0 = dktX3_others_0 := by decide +kernel
theorem dksX3_others_1 : cX3_others.data.toList.drop 24 = dktX3_others_1 := dk_seg dksX3_others_0 24 rfl rfl
theorem dX3_others_0 : decode cX3_others 0 = .ok (.aload_n 0, 1) := dk_42 (dk_at dksX3_others_0 0 rfl rfl)
theorem dX3_others_1 : decode cX3_others 1 = .ok (.getfield 19, 3) := dk_180 0 19 (dk_at dksX3_others_0 1 rfl rfl)
theorem dX3_others_4 : decode cX3_others 4 = .ok (.iload_n 1, 1) := dk_27 (dk_at dksX3_others_0 4 rfl rfl)
theorem dX3_others_5 : decode cX3_others 5 = .ok (.aaload, 1) := dk_50 (dk_at dksX3_others_0 5 rfl rfl)
theorem dX3_others_6 : decode cX3_others 6 = .ok (.aload_n 0, 1) := dk_42 (dk_at dksX3_others_0 6 rfl rfl)
theorem dX3_others_7 : decode cX3_others 7 = .ok (.getfield 22, 3) := dk_180 0 22 (dk_at dksX3_others_0 7 rfl rfl)
theorem dX3_others_10 : decode cX3_others 10 = .ok (.iload_n 1, 1) := dk_27 (dk_at dksX3_others_0 10 rfl rfl)
theorem dX3_others_11 : decode cX3_others 11 = .ok (.iaload, 1) := dk_46 (dk_at dksX3_others_0 11 rfl rfl)
theorem dX3_others_12 : decode cX3_others 12 = .ok (.iload_n 2, 1) := dk_28 (dk_at dksX3_others_0 12 rfl rfl)
theorem dX3_others_13 : decode cX3_others 13 = .ok (.iastore, 1) := dk_79 (dk_at dksX3_others_0 13 rfl rfl)
theorem dX3_others_14 : decode cX3_others 14 = .ok (.aload_n 0, 1) := dk_42 (dk_at dksX3_others_0 14 rfl rfl)
theorem dX3_others_15 : decode cX3_others 15 = .ok (.getfield 22, 3) := dk_180 0 22 (dk_at dksX3_others_0 15 rfl rfl)
theorem dX3_others_18 : decode cX3_others 18 = .ok (.iload_n 1, 1) := dk_27 (dk_at dksX3_others_0 18 rfl rfl)
theorem dX3_others_19 : decode cX3_others 19 = .ok (.dup2, 1) := dk_92 (dk_at dksX3_others_0 19 rfl rfl)
theorem dX3_others_20 : decode cX3_others 20 = .ok (.iaload, 1) := dk_46 (dk_at dksX3_others_0 20 rfl rfl)
theorem dX3_others_21 : decode cX3_others 21 = .ok (.iconst 1, 1) := dk_4 (dk_at dksX3_others_0 21 rfl rfl)
theorem dX3_others_22 : decode cX3_others 22 = .ok (.iadd, 1) := dk_96 (dk_at dksX3_others_0 22 rfl rfl)
theorem dX3_others_23 : decode cX3_others 23 = .ok (.iastore, 1) := dk_79 (dk_at dksX3_others_0 23 rfl rfl)
theorem dX3_others_24 : decode cX3_others 24 = .ok (.return_, 1) := dk_177 (dk_at dksX3_others_1 0 rfl rfl)
abbrev cX3_first : ByteArray := prog_6_method_4_code
def yX3_first : MethodName := ⟨RX3, "first", "()LSevenTable$Game;"⟩
def dkwX3_first_1 : List UInt8 := [42, 3, 182, 0, 106, 42, 176]
abbrev dktX3_first_1 : List UInt8 := dkwX3_first_1 ++ []
def dkwX3_first_0 : List UInt8 := [3, 60, 27, 42, 180, 0, 50, 182, 0, 74, 162, 0, 14, 42, 27, 182, 0, 102, 132, 1, 1, 167, 255, 237]
abbrev dktX3_first_0 : List UInt8 := dkwX3_first_0 ++ dktX3_first_1
theorem dksX3_first_0 : cX3_first.data.toList.drop 0 = dktX3_first_0 := by decide +kernel
theorem dksX3_first_1 : cX3_first.data.toList.drop 24 = dktX3_first_1 := dk_seg dksX3_first_0 24 rfl rfl
theorem dX3_first_0 : decode cX3_first 0 = .ok (.iconst 0, 1) := dk_3 (dk_at dksX3_first_0 0 rfl rfl)
theorem dX3_first_1 : decode cX3_first 1 = .ok (.istore_n 1, 1) := dk_60 (dk_at dksX3_first_0 1 rfl rfl)
theorem dX3_first_2 : decode cX3_first 2 = .ok (.iload_n 1, 1) := dk_27 (dk_at dksX3_first_0 2 rfl rfl)
theorem dX3_first_3 : decode cX3_first 3 = .ok (.aload_n 0, 1) := dk_42 (dk_at dksX3_first_0 3 rfl rfl)
theorem dX3_first_4 : decode cX3_first 4 = .ok (.getfield 50, 3) := dk_180 0 50 (dk_at dksX3_first_0 4 rfl rfl)
theorem dX3_first_7 : decode cX3_first 7 = .ok (.invokevirtual 74, 3) := dk_182 0 74 (dk_at dksX3_first_0 7 rfl rfl)
theorem dX3_first_10 : decode cX3_first 10 = .ok (.if_icmp .ge 14, 3) := dk_162 0 14 (dk_at dksX3_first_0 10 rfl rfl)
theorem dX3_first_13 : decode cX3_first 13 = .ok (.aload_n 0, 1) := dk_42 (dk_at dksX3_first_0 13 rfl rfl)
theorem dX3_first_14 : decode cX3_first 14 = .ok (.iload_n 1, 1) := dk_27 (dk_at dksX3_first_0 14 rfl rfl)
theorem dX3_first_15 : decode cX3_first 15 = .ok (.invokevirtual 102, 3) := dk_182 0 102 (dk_at dksX3_first_0 15 rfl rfl)
theorem dX3_first_18 : decode cX3_first 18 = .ok (.iinc 1 1, 3) := dk_132 1 1 (dk_at dksX3_first_0 18 rfl rfl)
theorem dX3_first_21 : decode cX3_first 21 = .ok (.goto (-19), 3) := dk_167 255 237 (dk_at dksX3_first_0 21 rfl rfl)
theorem dX3_first_24 : decode cX3_first 24 = .ok (.aload_n 0, 1) := dk_42 (dk_at dksX3_first_1 0 rfl rfl)
theorem dX3_first_25 : decode cX3_first 25 = .ok (.iconst 0, 1) := dk_3 (dk_at dksX3_first_1 1 rfl rfl)
theorem dX3_first_26 : decode cX3_first 26 = .ok (.invokevirtual 106, 3) := dk_182 0 106 (dk_at dksX3_first_1 2 rfl rfl)
theorem dX3_first_29 : decode cX3_first 29 = .ok (.aload_n 0, 1) := dk_42 (dk_at dksX3_first_1 5 rfl rfl)
theorem dX3_first_30 : decode cX3_first 30 = .ok (.areturn, 1) := dk_176 (dk_at dksX3_first_1 6 rfl rfl)
abbrev cX3_books : ByteArray := prog_6_method_20_code
def yX3_books : MethodName := ⟨RX3, "books", "(I)V"⟩
def dkwX3_books_3 : List UInt8 := [162, 0, 10, 42, 180, 0, 47, 8, 28, 79, 132, 2, 1, 167, 255, 173, 177]
abbrev dktX3_books_3 : List UInt8 := dkwX3_books_3 ++ []
def dkwX3_books_2 : List UInt8 := [42, 180, 0, 38, 28, 27, 79, 42, 180, 0, 47, 8, 46, 2, 159, 0, 13, 28, 42, 180, 0, 47, 8, 46]
abbrev dktX3_books_2 : List UInt8 := dkwX3_books_2 ++ dktX3_books_3
def dkwX3_books_1 : List UInt8 := [27, 28, 7, 182, 0, 137, 42, 180, 0, 16, 27, 50, 28, 3, 79, 42, 180, 0, 11, 27, 50, 28, 3, 79]
abbrev dktX3_books_1 : List UInt8 := dkwX3_books_1 ++ dktX3_books_2
def dkwX3_books_0 : List UInt8 := [3, 61, 28, 16, 13, 162, 0, 83, 42, 180, 0, 11, 27, 50, 28, 46, 7, 162, 0, 6, 167, 0, 62, 42]
abbrev dktX3_books_0 : List UInt8 := dkwX3_books_0 ++ dktX3_books_1
theorem dksX3_books_0 : cX3_books.data.toList.drop 0 = dktX3_books_0 := by decide +kernel
theorem dksX3_books_1 : cX3_books.data.toList.drop 24 = dktX3_books_1 := dk_seg dksX3_books_0 24 rfl rfl
theorem dksX3_books_2 : cX3_books.data.toList.drop 48 = dktX3_books_2 := dk_seg dksX3_books_1 24 rfl rfl
theorem dksX3_books_3 : cX3_books.data.toList.drop 72 = dktX3_books_3 := dk_seg dksX3_books_2 24 rfl rfl
theorem dX3_books_0 : decode cX3_books 0 = .ok (.iconst 0, 1) := dk_3 (dk_at dksX3_books_0 0 rfl rfl)
theorem dX3_books_1 : decode cX3_books 1 = .ok (.istore_n 2, 1) := dk_61 (dk_at dksX3_books_0 1 rfl rfl)
theorem dX3_books_2 : decode cX3_books 2 = .ok (.iload_n 2, 1) := dk_28 (dk_at dksX3_books_0 2 rfl rfl)
theorem dX3_books_3 : decode cX3_books 3 = .ok (.bipush 13, 2) := dk_16 13 (dk_at dksX3_books_0 3 rfl rfl)
theorem dX3_books_5 : decode cX3_books 5 = .ok (.if_icmp .ge 83, 3) := dk_162 0 83 (dk_at dksX3_books_0 5 rfl rfl)
theorem dX3_books_8 : decode cX3_books 8 = .ok (.aload_n 0, 1) := dk_42 (dk_at dksX3_books_0 8 rfl rfl)
theorem dX3_books_9 : decode cX3_books 9 = .ok (.getfield 11, 3) := dk_180 0 11 (dk_at dksX3_books_0 9 rfl rfl)
theorem dX3_books_12 : decode cX3_books 12 = .ok (.iload_n 1, 1) := dk_27 (dk_at dksX3_books_0 12 rfl rfl)
theorem dX3_books_13 : decode cX3_books 13 = .ok (.aaload, 1) := dk_50 (dk_at dksX3_books_0 13 rfl rfl)
theorem dX3_books_14 : decode cX3_books 14 = .ok (.iload_n 2, 1) := dk_28 (dk_at dksX3_books_0 14 rfl rfl)
theorem dX3_books_15 : decode cX3_books 15 = .ok (.iaload, 1) := dk_46 (dk_at dksX3_books_0 15 rfl rfl)
theorem dX3_books_16 : decode cX3_books 16 = .ok (.iconst 4, 1) := dk_7 (dk_at dksX3_books_0 16 rfl rfl)
theorem dX3_books_17 : decode cX3_books 17 = .ok (.if_icmp .ge 6, 3) := dk_162 0 6 (dk_at dksX3_books_0 17 rfl rfl)
theorem dX3_books_20 : decode cX3_books 20 = .ok (.goto 62, 3) := dk_167 0 62 (dk_at dksX3_books_0 20 rfl rfl)
theorem dX3_books_23 : decode cX3_books 23 = .ok (.aload_n 0, 1) := dk_42 (dk_at dksX3_books_0 23 rfl rfl)
theorem dX3_books_24 : decode cX3_books 24 = .ok (.iload_n 1, 1) := dk_27 (dk_at dksX3_books_1 0 rfl rfl)
theorem dX3_books_25 : decode cX3_books 25 = .ok (.iload_n 2, 1) := dk_28 (dk_at dksX3_books_1 1 rfl rfl)
theorem dX3_books_26 : decode cX3_books 26 = .ok (.iconst 4, 1) := dk_7 (dk_at dksX3_books_1 2 rfl rfl)
theorem dX3_books_27 : decode cX3_books 27 = .ok (.invokevirtual 137, 3) := dk_182 0 137 (dk_at dksX3_books_1 3 rfl rfl)
theorem dX3_books_30 : decode cX3_books 30 = .ok (.aload_n 0, 1) := dk_42 (dk_at dksX3_books_1 6 rfl rfl)
theorem dX3_books_31 : decode cX3_books 31 = .ok (.getfield 16, 3) := dk_180 0 16 (dk_at dksX3_books_1 7 rfl rfl)
theorem dX3_books_34 : decode cX3_books 34 = .ok (.iload_n 1, 1) := dk_27 (dk_at dksX3_books_1 10 rfl rfl)
theorem dX3_books_35 : decode cX3_books 35 = .ok (.aaload, 1) := dk_50 (dk_at dksX3_books_1 11 rfl rfl)
theorem dX3_books_36 : decode cX3_books 36 = .ok (.iload_n 2, 1) := dk_28 (dk_at dksX3_books_1 12 rfl rfl)
theorem dX3_books_37 : decode cX3_books 37 = .ok (.iconst 0, 1) := dk_3 (dk_at dksX3_books_1 13 rfl rfl)
theorem dX3_books_38 : decode cX3_books 38 = .ok (.iastore, 1) := dk_79 (dk_at dksX3_books_1 14 rfl rfl)
theorem dX3_books_39 : decode cX3_books 39 = .ok (.aload_n 0, 1) := dk_42 (dk_at dksX3_books_1 15 rfl rfl)
theorem dX3_books_40 : decode cX3_books 40 = .ok (.getfield 11, 3) := dk_180 0 11 (dk_at dksX3_books_1 16 rfl rfl)
theorem dX3_books_43 : decode cX3_books 43 = .ok (.iload_n 1, 1) := dk_27 (dk_at dksX3_books_1 19 rfl rfl)
theorem dX3_books_44 : decode cX3_books 44 = .ok (.aaload, 1) := dk_50 (dk_at dksX3_books_1 20 rfl rfl)
theorem dX3_books_45 : decode cX3_books 45 = .ok (.iload_n 2, 1) := dk_28 (dk_at dksX3_books_1 21 rfl rfl)
theorem dX3_books_46 : decode cX3_books 46 = .ok (.iconst 0, 1) := dk_3 (dk_at dksX3_books_1 22 rfl rfl)
theorem dX3_books_47 : decode cX3_books 47 = .ok (.iastore, 1) := dk_79 (dk_at dksX3_books_1 23 rfl rfl)
theorem dX3_books_48 : decode cX3_books 48 = .ok (.aload_n 0, 1) := dk_42 (dk_at dksX3_books_2 0 rfl rfl)
theorem dX3_books_49 : decode cX3_books 49 = .ok (.getfield 38, 3) := dk_180 0 38 (dk_at dksX3_books_2 1 rfl rfl)
theorem dX3_books_52 : decode cX3_books 52 = .ok (.iload_n 2, 1) := dk_28 (dk_at dksX3_books_2 4 rfl rfl)
theorem dX3_books_53 : decode cX3_books 53 = .ok (.iload_n 1, 1) := dk_27 (dk_at dksX3_books_2 5 rfl rfl)
theorem dX3_books_54 : decode cX3_books 54 = .ok (.iastore, 1) := dk_79 (dk_at dksX3_books_2 6 rfl rfl)
theorem dX3_books_55 : decode cX3_books 55 = .ok (.aload_n 0, 1) := dk_42 (dk_at dksX3_books_2 7 rfl rfl)
theorem dX3_books_56 : decode cX3_books 56 = .ok (.getfield 47, 3) := dk_180 0 47 (dk_at dksX3_books_2 8 rfl rfl)
theorem dX3_books_59 : decode cX3_books 59 = .ok (.iconst 5, 1) := dk_8 (dk_at dksX3_books_2 11 rfl rfl)
theorem dX3_books_60 : decode cX3_books 60 = .ok (.iaload, 1) := dk_46 (dk_at dksX3_books_2 12 rfl rfl)
theorem dX3_books_61 : decode cX3_books 61 = .ok (.iconst (-1), 1) := dk_2 (dk_at dksX3_books_2 13 rfl rfl)
theorem dX3_books_62 : decode cX3_books 62 = .ok (.if_icmp .eq 13, 3) := dk_159 0 13 (dk_at dksX3_books_2 14 rfl rfl)
theorem dX3_books_65 : decode cX3_books 65 = .ok (.iload_n 2, 1) := dk_28 (dk_at dksX3_books_2 17 rfl rfl)
theorem dX3_books_66 : decode cX3_books 66 = .ok (.aload_n 0, 1) := dk_42 (dk_at dksX3_books_2 18 rfl rfl)
theorem dX3_books_67 : decode cX3_books 67 = .ok (.getfield 47, 3) := dk_180 0 47 (dk_at dksX3_books_2 19 rfl rfl)
theorem dX3_books_70 : decode cX3_books 70 = .ok (.iconst 5, 1) := dk_8 (dk_at dksX3_books_2 22 rfl rfl)
theorem dX3_books_71 : decode cX3_books 71 = .ok (.iaload, 1) := dk_46 (dk_at dksX3_books_2 23 rfl rfl)
theorem dX3_books_72 : decode cX3_books 72 = .ok (.if_icmp .ge 10, 3) := dk_162 0 10 (dk_at dksX3_books_3 0 rfl rfl)
theorem dX3_books_75 : decode cX3_books 75 = .ok (.aload_n 0, 1) := dk_42 (dk_at dksX3_books_3 3 rfl rfl)
theorem dX3_books_76 : decode cX3_books 76 = .ok (.getfield 47, 3) := dk_180 0 47 (dk_at dksX3_books_3 4 rfl rfl)
theorem dX3_books_79 : decode cX3_books 79 = .ok (.iconst 5, 1) := dk_8 (dk_at dksX3_books_3 7 rfl rfl)
theorem dX3_books_80 : decode cX3_books 80 = .ok (.iload_n 2, 1) := dk_28 (dk_at dksX3_books_3 8 rfl rfl)
theorem dX3_books_81 : decode cX3_books 81 = .ok (.iastore, 1) := dk_79 (dk_at dksX3_books_3 9 rfl rfl)
theorem dX3_books_82 : decode cX3_books 82 = .ok (.iinc 2 1, 3) := dk_132 2 1 (dk_at dksX3_books_3 10 rfl rfl)
theorem dX3_books_85 : decode cX3_books 85 = .ok (.goto (-83), 3) := dk_167 255 173 (dk_at dksX3_books_3 13 rfl rfl)
theorem dX3_books_88 : decode cX3_books 88 = .ok (.return_, 1) := dk_177 (dk_at dksX3_books_3 16 rfl rfl)
abbrev cX3_learnUpTo : ByteArray := prog_6_method_16_code
def yX3_learnUpTo : MethodName := ⟨RX3, "learnUpTo", "(III)V"⟩
def dkwX3_learnUpTo_1 : List UInt8 := [182, 0, 134, 167, 255, 229, 177]
abbrev dktX3_learnUpTo_1 : List UInt8 := dkwX3_learnUpTo_1 ++ []
def dkwX3_learnUpTo_0 : List UInt8 := [42, 180, 0, 16, 27, 50, 28, 46, 29, 162, 0, 21, 42, 180, 0, 22, 27, 46, 158, 0, 12, 42, 27, 28]
abbrev dktX3_learnUpTo_0 : List UInt8 := dkwX3_learnUpTo_0 ++ dktX3_learnUpTo_1
theorem dksX3_learnUpTo_0 : cX3_learnUpTo.data.toList.drop 0 = dktX3_learnUpTo_0 := by decide +kernel
theorem dksX3_learnUpTo_1 : cX3_learnUpTo.data.toList.drop 24 = dktX3_learnUpTo_1 := dk_seg dksX3_learnUpTo_0 24 rfl rfl
theorem dX3_learnUpTo_0 : decode cX3_learnUpTo 0 = .ok (.aload_n 0, 1) := dk_42 (dk_at dksX3_learnUpTo_0 0 rfl rfl)
theorem dX3_learnUpTo_1 : decode cX3_learnUpTo 1 = .ok (.getfield 16, 3) := dk_180 0 16 (dk_at dksX3_learnUpTo_0 1 rfl rfl)
theorem dX3_learnUpTo_4 : decode cX3_learnUpTo 4 = .ok (.iload_n 1, 1) := dk_27 (dk_at dksX3_learnUpTo_0 4 rfl rfl)
theorem dX3_learnUpTo_5 : decode cX3_learnUpTo 5 = .ok (.aaload, 1) := dk_50 (dk_at dksX3_learnUpTo_0 5 rfl rfl)
theorem dX3_learnUpTo_6 : decode cX3_learnUpTo 6 = .ok (.iload_n 2, 1) := dk_28 (dk_at dksX3_learnUpTo_0 6 rfl rfl)
theorem dX3_learnUpTo_7 : decode cX3_learnUpTo 7 = .ok (.iaload, 1) := dk_46 (dk_at dksX3_learnUpTo_0 7 rfl rfl)
theorem dX3_learnUpTo_8 : decode cX3_learnUpTo 8 = .ok (.iload_n 3, 1) := dk_29 (dk_at dksX3_learnUpTo_0 8 rfl rfl)
theorem dX3_learnUpTo_9 : decode cX3_learnUpTo 9 = .ok (.if_icmp .ge 21, 3) := dk_162 0 21 (dk_at dksX3_learnUpTo_0 9 rfl rfl)
theorem dX3_learnUpTo_12 : decode cX3_learnUpTo 12 = .ok (.aload_n 0, 1) := dk_42 (dk_at dksX3_learnUpTo_0 12 rfl rfl)
theorem dX3_learnUpTo_13 : decode cX3_learnUpTo 13 = .ok (.getfield 22, 3) := dk_180 0 22 (dk_at dksX3_learnUpTo_0 13 rfl rfl)
theorem dX3_learnUpTo_16 : decode cX3_learnUpTo 16 = .ok (.iload_n 1, 1) := dk_27 (dk_at dksX3_learnUpTo_0 16 rfl rfl)
theorem dX3_learnUpTo_17 : decode cX3_learnUpTo 17 = .ok (.iaload, 1) := dk_46 (dk_at dksX3_learnUpTo_0 17 rfl rfl)
theorem dX3_learnUpTo_18 : decode cX3_learnUpTo 18 = .ok (.ifCond .le 12, 3) := dk_158 0 12 (dk_at dksX3_learnUpTo_0 18 rfl rfl)
theorem dX3_learnUpTo_21 : decode cX3_learnUpTo 21 = .ok (.aload_n 0, 1) := dk_42 (dk_at dksX3_learnUpTo_0 21 rfl rfl)
theorem dX3_learnUpTo_22 : decode cX3_learnUpTo 22 = .ok (.iload_n 1, 1) := dk_27 (dk_at dksX3_learnUpTo_0 22 rfl rfl)
theorem dX3_learnUpTo_23 : decode cX3_learnUpTo 23 = .ok (.iload_n 2, 1) := dk_28 (dk_at dksX3_learnUpTo_0 23 rfl rfl)
theorem dX3_learnUpTo_24 : decode cX3_learnUpTo 24 = .ok (.invokevirtual 134, 3) := dk_182 0 134 (dk_at dksX3_learnUpTo_1 0 rfl rfl)
theorem dX3_learnUpTo_27 : decode cX3_learnUpTo 27 = .ok (.goto (-27), 3) := dk_167 255 229 (dk_at dksX3_learnUpTo_1 3 rfl rfl)
theorem dX3_learnUpTo_30 : decode cX3_learnUpTo 30 = .ok (.return_, 1) := dk_177 (dk_at dksX3_learnUpTo_1 6 rfl rfl)
abbrev cX3_learn : ByteArray := prog_6_method_15_code
def yX3_learn : MethodName := ⟨RX3, "learn", "(II)V"⟩
def dkwX3_learn_2 : List UInt8 := [50, 28, 92, 46, 4, 96, 79, 177]
abbrev dktX3_learn_2 : List UInt8 := dkwX3_learn_2 ++ []
def dkwX3_learn_1 : List UInt8 := [180, 0, 26, 27, 92, 46, 4, 96, 79, 42, 27, 3, 29, 184, 0, 126, 182, 0, 131, 42, 180, 0, 16, 27]
abbrev dktX3_learn_1 : List UInt8 := dkwX3_learn_1 ++ dktX3_learn_2
def dkwX3_learn_0 : List UInt8 := [42, 180, 0, 22, 27, 46, 154, 0, 4, 177, 42, 27, 28, 182, 0, 122, 62, 29, 2, 160, 0, 13, 42]
abbrev dktX3_learn_0 : List UInt8 := dkwX3_learn_0 ++ dktX3_learn_1
theorem dksX3_learn_0 : cX3_learn.data.toList.drop 0 = dktX3_learn_0 := by decide +kernel
theorem dksX3_learn_1 : cX3_learn.data.toList.drop 23 = dktX3_learn_1 := dk_seg dksX3_learn_0 23 rfl rfl
theorem dksX3_learn_2 : cX3_learn.data.toList.drop 47 = dktX3_learn_2 := dk_seg dksX3_learn_1 24 rfl rfl
theorem dX3_learn_0 : decode cX3_learn 0 = .ok (.aload_n 0, 1) := dk_42 (dk_at dksX3_learn_0 0 rfl rfl)
theorem dX3_learn_1 : decode cX3_learn 1 = .ok (.getfield 22, 3) := dk_180 0 22 (dk_at dksX3_learn_0 1 rfl rfl)
theorem dX3_learn_4 : decode cX3_learn 4 = .ok (.iload_n 1, 1) := dk_27 (dk_at dksX3_learn_0 4 rfl rfl)
theorem dX3_learn_5 : decode cX3_learn 5 = .ok (.iaload, 1) := dk_46 (dk_at dksX3_learn_0 5 rfl rfl)
theorem dX3_learn_6 : decode cX3_learn 6 = .ok (.ifCond .ne 4, 3) := dk_154 0 4 (dk_at dksX3_learn_0 6 rfl rfl)
theorem dX3_learn_9 : decode cX3_learn 9 = .ok (.return_, 1) := dk_177 (dk_at dksX3_learn_0 9 rfl rfl)
theorem dX3_learn_10 : decode cX3_learn 10 = .ok (.aload_n 0, 1) := dk_42 (dk_at dksX3_learn_0 10 rfl rfl)
theorem dX3_learn_11 : decode cX3_learn 11 = .ok (.iload_n 1, 1) := dk_27 (dk_at dksX3_learn_0 11 rfl rfl)
theorem dX3_learn_12 : decode cX3_learn 12 = .ok (.iload_n 2, 1) := dk_28 (dk_at dksX3_learn_0 12 rfl rfl)
theorem dX3_learn_13 : decode cX3_learn 13 = .ok (.invokevirtual 122, 3) := dk_182 0 122 (dk_at dksX3_learn_0 13 rfl rfl)
theorem dX3_learn_16 : decode cX3_learn 16 = .ok (.istore_n 3, 1) := dk_62 (dk_at dksX3_learn_0 16 rfl rfl)
theorem dX3_learn_17 : decode cX3_learn 17 = .ok (.iload_n 3, 1) := dk_29 (dk_at dksX3_learn_0 17 rfl rfl)
theorem dX3_learn_18 : decode cX3_learn 18 = .ok (.iconst (-1), 1) := dk_2 (dk_at dksX3_learn_0 18 rfl rfl)
theorem dX3_learn_19 : decode cX3_learn 19 = .ok (.if_icmp .ne 13, 3) := dk_160 0 13 (dk_at dksX3_learn_0 19 rfl rfl)
theorem dX3_learn_22 : decode cX3_learn 22 = .ok (.aload_n 0, 1) := dk_42 (dk_at dksX3_learn_0 22 rfl rfl)
theorem dX3_learn_23 : decode cX3_learn 23 = .ok (.getfield 26, 3) := dk_180 0 26 (dk_at dksX3_learn_1 0 rfl rfl)
theorem dX3_learn_26 : decode cX3_learn 26 = .ok (.iload_n 1, 1) := dk_27 (dk_at dksX3_learn_1 3 rfl rfl)
theorem dX3_learn_27 : decode cX3_learn 27 = .ok (.dup2, 1) := dk_92 (dk_at dksX3_learn_1 4 rfl rfl)
theorem dX3_learn_28 : decode cX3_learn 28 = .ok (.iaload, 1) := dk_46 (dk_at dksX3_learn_1 5 rfl rfl)
theorem dX3_learn_29 : decode cX3_learn 29 = .ok (.iconst 1, 1) := dk_4 (dk_at dksX3_learn_1 6 rfl rfl)
theorem dX3_learn_30 : decode cX3_learn 30 = .ok (.iadd, 1) := dk_96 (dk_at dksX3_learn_1 7 rfl rfl)
theorem dX3_learn_31 : decode cX3_learn 31 = .ok (.iastore, 1) := dk_79 (dk_at dksX3_learn_1 8 rfl rfl)
theorem dX3_learn_32 : decode cX3_learn 32 = .ok (.aload_n 0, 1) := dk_42 (dk_at dksX3_learn_1 9 rfl rfl)
theorem dX3_learn_33 : decode cX3_learn 33 = .ok (.iload_n 1, 1) := dk_27 (dk_at dksX3_learn_1 10 rfl rfl)
theorem dX3_learn_34 : decode cX3_learn 34 = .ok (.iconst 0, 1) := dk_3 (dk_at dksX3_learn_1 11 rfl rfl)
theorem dX3_learn_35 : decode cX3_learn 35 = .ok (.iload_n 3, 1) := dk_29 (dk_at dksX3_learn_1 12 rfl rfl)
theorem dX3_learn_36 : decode cX3_learn 36 = .ok (.invokestatic 126, 3) := dk_184 0 126 (dk_at dksX3_learn_1 13 rfl rfl)
theorem dX3_learn_39 : decode cX3_learn 39 = .ok (.invokevirtual 131, 3) := dk_182 0 131 (dk_at dksX3_learn_1 16 rfl rfl)
theorem dX3_learn_42 : decode cX3_learn 42 = .ok (.aload_n 0, 1) := dk_42 (dk_at dksX3_learn_1 19 rfl rfl)
theorem dX3_learn_43 : decode cX3_learn 43 = .ok (.getfield 16, 3) := dk_180 0 16 (dk_at dksX3_learn_1 20 rfl rfl)
theorem dX3_learn_46 : decode cX3_learn 46 = .ok (.iload_n 1, 1) := dk_27 (dk_at dksX3_learn_1 23 rfl rfl)
theorem dX3_learn_47 : decode cX3_learn 47 = .ok (.aaload, 1) := dk_50 (dk_at dksX3_learn_2 0 rfl rfl)
theorem dX3_learn_48 : decode cX3_learn 48 = .ok (.iload_n 2, 1) := dk_28 (dk_at dksX3_learn_2 1 rfl rfl)
theorem dX3_learn_49 : decode cX3_learn 49 = .ok (.dup2, 1) := dk_92 (dk_at dksX3_learn_2 2 rfl rfl)
theorem dX3_learn_50 : decode cX3_learn 50 = .ok (.iaload, 1) := dk_46 (dk_at dksX3_learn_2 3 rfl rfl)
theorem dX3_learn_51 : decode cX3_learn 51 = .ok (.iconst 1, 1) := dk_4 (dk_at dksX3_learn_2 4 rfl rfl)
theorem dX3_learn_52 : decode cX3_learn 52 = .ok (.iadd, 1) := dk_96 (dk_at dksX3_learn_2 5 rfl rfl)
theorem dX3_learn_53 : decode cX3_learn 53 = .ok (.iastore, 1) := dk_79 (dk_at dksX3_learn_2 6 rfl rfl)
theorem dX3_learn_54 : decode cX3_learn 54 = .ok (.return_, 1) := dk_177 (dk_at dksX3_learn_2 7 rfl rfl)
abbrev cX3_firstThatCan : ByteArray := prog_6_method_14_code
def yX3_firstThatCan : MethodName := ⟨RX3, "firstThatCan", "(II)I"⟩
def dkwX3_firstThatCan_1 : List UInt8 := [154, 0, 5, 29, 172, 132, 3, 1, 167, 255, 226, 2, 172]
abbrev dktX3_firstThatCan_1 : List UInt8 := dkwX3_firstThatCan_1 ++ []
def dkwX3_firstThatCan_0 : List UInt8 := [3, 62, 29, 42, 180, 0, 22, 27, 46, 162, 0, 26, 42, 180, 0, 19, 27, 50, 29, 46, 28, 184, 0, 118]
abbrev dktX3_firstThatCan_0 : List UInt8 := dkwX3_firstThatCan_0 ++ dktX3_firstThatCan_1
theorem dksX3_firstThatCan_0 : cX3_firstThatCan.data.toList.drop 0 = dktX3_firstThatCan_0 := by decide +kernel
theorem dksX3_firstThatCan_1 : cX3_firstThatCan.data.toList.drop 24 = dktX3_firstThatCan_1 := dk_seg dksX3_firstThatCan_0 24 rfl rfl
theorem dX3_firstThatCan_0 : decode cX3_firstThatCan 0 = .ok (.iconst 0, 1) := dk_3 (dk_at dksX3_firstThatCan_0 0 rfl rfl)
theorem dX3_firstThatCan_1 : decode cX3_firstThatCan 1 = .ok (.istore_n 3, 1) := dk_62 (dk_at dksX3_firstThatCan_0 1 rfl rfl)
theorem dX3_firstThatCan_2 : decode cX3_firstThatCan 2 = .ok (.iload_n 3, 1) := dk_29 (dk_at dksX3_firstThatCan_0 2 rfl rfl)
theorem dX3_firstThatCan_3 : decode cX3_firstThatCan 3 = .ok (.aload_n 0, 1) := dk_42 (dk_at dksX3_firstThatCan_0 3 rfl rfl)
theorem dX3_firstThatCan_4 : decode cX3_firstThatCan 4 = .ok (.getfield 22, 3) := dk_180 0 22 (dk_at dksX3_firstThatCan_0 4 rfl rfl)
theorem dX3_firstThatCan_7 : decode cX3_firstThatCan 7 = .ok (.iload_n 1, 1) := dk_27 (dk_at dksX3_firstThatCan_0 7 rfl rfl)
theorem dX3_firstThatCan_8 : decode cX3_firstThatCan 8 = .ok (.iaload, 1) := dk_46 (dk_at dksX3_firstThatCan_0 8 rfl rfl)
theorem dX3_firstThatCan_9 : decode cX3_firstThatCan 9 = .ok (.if_icmp .ge 26, 3) := dk_162 0 26 (dk_at dksX3_firstThatCan_0 9 rfl rfl)
theorem dX3_firstThatCan_12 : decode cX3_firstThatCan 12 = .ok (.aload_n 0, 1) := dk_42 (dk_at dksX3_firstThatCan_0 12 rfl rfl)
theorem dX3_firstThatCan_13 : decode cX3_firstThatCan 13 = .ok (.getfield 19, 3) := dk_180 0 19 (dk_at dksX3_firstThatCan_0 13 rfl rfl)
theorem dX3_firstThatCan_16 : decode cX3_firstThatCan 16 = .ok (.iload_n 1, 1) := dk_27 (dk_at dksX3_firstThatCan_0 16 rfl rfl)
theorem dX3_firstThatCan_17 : decode cX3_firstThatCan 17 = .ok (.aaload, 1) := dk_50 (dk_at dksX3_firstThatCan_0 17 rfl rfl)
theorem dX3_firstThatCan_18 : decode cX3_firstThatCan 18 = .ok (.iload_n 3, 1) := dk_29 (dk_at dksX3_firstThatCan_0 18 rfl rfl)
theorem dX3_firstThatCan_19 : decode cX3_firstThatCan 19 = .ok (.iaload, 1) := dk_46 (dk_at dksX3_firstThatCan_0 19 rfl rfl)
theorem dX3_firstThatCan_20 : decode cX3_firstThatCan 20 = .ok (.iload_n 2, 1) := dk_28 (dk_at dksX3_firstThatCan_0 20 rfl rfl)
theorem dX3_firstThatCan_21 : decode cX3_firstThatCan 21 = .ok (.invokestatic 118, 3) := dk_184 0 118 (dk_at dksX3_firstThatCan_0 21 rfl rfl)
theorem dX3_firstThatCan_24 : decode cX3_firstThatCan 24 = .ok (.ifCond .ne 5, 3) := dk_154 0 5 (dk_at dksX3_firstThatCan_1 0 rfl rfl)
theorem dX3_firstThatCan_27 : decode cX3_firstThatCan 27 = .ok (.iload_n 3, 1) := dk_29 (dk_at dksX3_firstThatCan_1 3 rfl rfl)
theorem dX3_firstThatCan_28 : decode cX3_firstThatCan 28 = .ok (.ireturn, 1) := dk_172 (dk_at dksX3_firstThatCan_1 4 rfl rfl)
theorem dX3_firstThatCan_29 : decode cX3_firstThatCan 29 = .ok (.iinc 3 1, 3) := dk_132 3 1 (dk_at dksX3_firstThatCan_1 5 rfl rfl)
theorem dX3_firstThatCan_32 : decode cX3_firstThatCan 32 = .ok (.goto (-30), 3) := dk_167 255 226 (dk_at dksX3_firstThatCan_1 8 rfl rfl)
theorem dX3_firstThatCan_35 : decode cX3_firstThatCan 35 = .ok (.iconst (-1), 1) := dk_2 (dk_at dksX3_firstThatCan_1 11 rfl rfl)
theorem dX3_firstThatCan_36 : decode cX3_firstThatCan 36 = .ok (.ireturn, 1) := dk_172 (dk_at dksX3_firstThatCan_1 12 rfl rfl)
abbrev cX3_dropOther : ByteArray := prog_6_method_13_code
def yX3_dropOther : MethodName := ⟨RX3, "dropOther", "(II)V"⟩
def dkwX3_dropOther_1 : List UInt8 := [180, 0, 19, 27, 50, 29, 42, 180, 0, 19, 27, 50, 29, 4, 96, 46, 79, 132, 3, 1, 167, 255, 225, 177]
abbrev dktX3_dropOther_1 : List UInt8 := dkwX3_dropOther_1 ++ []
def dkwX3_dropOther_0 : List UInt8 := [42, 180, 0, 22, 27, 92, 46, 4, 100, 79, 28, 62, 29, 42, 180, 0, 22, 27, 46, 162, 0, 27, 42]
abbrev dktX3_dropOther_0 : List UInt8 := dkwX3_dropOther_0 ++ dktX3_dropOther_1
theorem dksX3_dropOther_0 : cX3_dropOther.data.toList.drop 0 = dktX3_dropOther_0 := by decide +kernel
theorem dksX3_dropOther_1 : cX3_dropOther.data.toList.drop 23 = dktX3_dropOther_1 := dk_seg dksX3_dropOther_0 23 rfl rfl
theorem dX3_dropOther_0 : decode cX3_dropOther 0 = .ok (.aload_n 0, 1) := dk_42 (dk_at dksX3_dropOther_0 0 rfl rfl)
theorem dX3_dropOther_1 : decode cX3_dropOther 1 = .ok (.getfield 22, 3) := dk_180 0 22 (dk_at dksX3_dropOther_0 1 rfl rfl)
theorem dX3_dropOther_4 : decode cX3_dropOther 4 = .ok (.iload_n 1, 1) := dk_27 (dk_at dksX3_dropOther_0 4 rfl rfl)
theorem dX3_dropOther_5 : decode cX3_dropOther 5 = .ok (.dup2, 1) := dk_92 (dk_at dksX3_dropOther_0 5 rfl rfl)
theorem dX3_dropOther_6 : decode cX3_dropOther 6 = .ok (.iaload, 1) := dk_46 (dk_at dksX3_dropOther_0 6 rfl rfl)
theorem dX3_dropOther_7 : decode cX3_dropOther 7 = .ok (.iconst 1, 1) := dk_4 (dk_at dksX3_dropOther_0 7 rfl rfl)
theorem dX3_dropOther_8 : decode cX3_dropOther 8 = .ok (.isub, 1) := dk_100 (dk_at dksX3_dropOther_0 8 rfl rfl)
theorem dX3_dropOther_9 : decode cX3_dropOther 9 = .ok (.iastore, 1) := dk_79 (dk_at dksX3_dropOther_0 9 rfl rfl)
theorem dX3_dropOther_10 : decode cX3_dropOther 10 = .ok (.iload_n 2, 1) := dk_28 (dk_at dksX3_dropOther_0 10 rfl rfl)
theorem dX3_dropOther_11 : decode cX3_dropOther 11 = .ok (.istore_n 3, 1) := dk_62 (dk_at dksX3_dropOther_0 11 rfl rfl)
theorem dX3_dropOther_12 : decode cX3_dropOther 12 = .ok (.iload_n 3, 1) := dk_29 (dk_at dksX3_dropOther_0 12 rfl rfl)
theorem dX3_dropOther_13 : decode cX3_dropOther 13 = .ok (.aload_n 0, 1) := dk_42 (dk_at dksX3_dropOther_0 13 rfl rfl)
theorem dX3_dropOther_14 : decode cX3_dropOther 14 = .ok (.getfield 22, 3) := dk_180 0 22 (dk_at dksX3_dropOther_0 14 rfl rfl)
theorem dX3_dropOther_17 : decode cX3_dropOther 17 = .ok (.iload_n 1, 1) := dk_27 (dk_at dksX3_dropOther_0 17 rfl rfl)
theorem dX3_dropOther_18 : decode cX3_dropOther 18 = .ok (.iaload, 1) := dk_46 (dk_at dksX3_dropOther_0 18 rfl rfl)
theorem dX3_dropOther_19 : decode cX3_dropOther 19 = .ok (.if_icmp .ge 27, 3) := dk_162 0 27 (dk_at dksX3_dropOther_0 19 rfl rfl)
theorem dX3_dropOther_22 : decode cX3_dropOther 22 = .ok (.aload_n 0, 1) := dk_42 (dk_at dksX3_dropOther_0 22 rfl rfl)
theorem dX3_dropOther_23 : decode cX3_dropOther 23 = .ok (.getfield 19, 3) := dk_180 0 19 (dk_at dksX3_dropOther_1 0 rfl rfl)
theorem dX3_dropOther_26 : decode cX3_dropOther 26 = .ok (.iload_n 1, 1) := dk_27 (dk_at dksX3_dropOther_1 3 rfl rfl)
theorem dX3_dropOther_27 : decode cX3_dropOther 27 = .ok (.aaload, 1) := dk_50 (dk_at dksX3_dropOther_1 4 rfl rfl)
theorem dX3_dropOther_28 : decode cX3_dropOther 28 = .ok (.iload_n 3, 1) := dk_29 (dk_at dksX3_dropOther_1 5 rfl rfl)
theorem dX3_dropOther_29 : decode cX3_dropOther 29 = .ok (.aload_n 0, 1) := dk_42 (dk_at dksX3_dropOther_1 6 rfl rfl)
theorem dX3_dropOther_30 : decode cX3_dropOther 30 = .ok (.getfield 19, 3) := dk_180 0 19 (dk_at dksX3_dropOther_1 7 rfl rfl)
theorem dX3_dropOther_33 : decode cX3_dropOther 33 = .ok (.iload_n 1, 1) := dk_27 (dk_at dksX3_dropOther_1 10 rfl rfl)
theorem dX3_dropOther_34 : decode cX3_dropOther 34 = .ok (.aaload, 1) := dk_50 (dk_at dksX3_dropOther_1 11 rfl rfl)
theorem dX3_dropOther_35 : decode cX3_dropOther 35 = .ok (.iload_n 3, 1) := dk_29 (dk_at dksX3_dropOther_1 12 rfl rfl)
theorem dX3_dropOther_36 : decode cX3_dropOther 36 = .ok (.iconst 1, 1) := dk_4 (dk_at dksX3_dropOther_1 13 rfl rfl)
theorem dX3_dropOther_37 : decode cX3_dropOther 37 = .ok (.iadd, 1) := dk_96 (dk_at dksX3_dropOther_1 14 rfl rfl)
theorem dX3_dropOther_38 : decode cX3_dropOther 38 = .ok (.iaload, 1) := dk_46 (dk_at dksX3_dropOther_1 15 rfl rfl)
theorem dX3_dropOther_39 : decode cX3_dropOther 39 = .ok (.iastore, 1) := dk_79 (dk_at dksX3_dropOther_1 16 rfl rfl)
theorem dX3_dropOther_40 : decode cX3_dropOther 40 = .ok (.iinc 3 1, 3) := dk_132 3 1 (dk_at dksX3_dropOther_1 17 rfl rfl)
theorem dX3_dropOther_43 : decode cX3_dropOther 43 = .ok (.goto (-31), 3) := dk_167 255 225 (dk_at dksX3_dropOther_1 20 rfl rfl)
theorem dX3_dropOther_46 : decode cX3_dropOther 46 = .ok (.return_, 1) := dk_177 (dk_at dksX3_dropOther_1 23 rfl rfl)
abbrev cX3_settle : ByteArray := prog_6_method_21_code
def yX3_settle : MethodName := ⟨RX3, "settle", "(I)V"⟩
def dkwX3_settle_5 : List UInt8 := [167, 255, 144, 42, 2, 181, 0, 109, 177]
abbrev dktX3_settle_5 : List UInt8 := dkwX3_settle_5 ++ []
def dkwX3_settle_4 : List UInt8 := [158, 0, 9, 42, 28, 181, 0, 109, 177, 28, 4, 96, 42, 180, 0, 50, 182, 0, 74, 112, 61, 132, 3, 1]
abbrev dktX3_settle_4 : List UInt8 := dkwX3_settle_4 ++ dktX3_settle_5
def dkwX3_settle_3 : List UInt8 := [182, 0, 89, 132, 4, 255, 167, 255, 236, 42, 28, 182, 0, 102, 167, 255, 187, 42, 28, 182, 0, 85]
abbrev dktX3_settle_3 : List UInt8 := dkwX3_settle_3 ++ dktX3_settle_4
def dkwX3_settle_2 : List UInt8 := [182, 0, 144, 184, 0, 147, 54, 4, 21, 4, 158, 0, 21, 42, 28, 182, 0, 150, 87, 42, 28, 3]
abbrev dktX3_settle_2 : List UInt8 := dkwX3_settle_2 ++ dktX3_settle_3
def dkwX3_settle_1 : List UInt8 := [180, 0, 50, 180, 0, 141, 158, 0, 57, 42, 182, 0, 144, 158, 0, 50, 42, 180, 0, 50, 180, 0, 141, 42]
abbrev dktX3_settle_1 : List UInt8 := dkwX3_settle_1 ++ dktX3_settle_2
def dkwX3_settle_0 : List UInt8 := [27, 61, 3, 62, 29, 42, 180, 0, 50, 182, 0, 74, 162, 0, 107, 42, 28, 182, 0, 85, 154, 0, 67, 42]
abbrev dktX3_settle_0 : List UInt8 := dkwX3_settle_0 ++ dktX3_settle_1
theorem dksX3_settle_0 : cX3_settle.data.toList.drop 0 = dktX3_settle_0 := by decide +kernel
theorem dksX3_settle_1 : cX3_settle.data.toList.drop 24 = dktX3_settle_1 := dk_seg dksX3_settle_0 24 rfl rfl
theorem dksX3_settle_2 : cX3_settle.data.toList.drop 48 = dktX3_settle_2 := dk_seg dksX3_settle_1 24 rfl rfl
theorem dksX3_settle_3 : cX3_settle.data.toList.drop 70 = dktX3_settle_3 := dk_seg dksX3_settle_2 22 rfl rfl
theorem dksX3_settle_4 : cX3_settle.data.toList.drop 92 = dktX3_settle_4 := dk_seg dksX3_settle_3 22 rfl rfl
theorem dksX3_settle_5 : cX3_settle.data.toList.drop 116 = dktX3_settle_5 := dk_seg dksX3_settle_4 24 rfl rfl
theorem dX3_settle_0 : decode cX3_settle 0 = .ok (.iload_n 1, 1) := dk_27 (dk_at dksX3_settle_0 0 rfl rfl)
theorem dX3_settle_1 : decode cX3_settle 1 = .ok (.istore_n 2, 1) := dk_61 (dk_at dksX3_settle_0 1 rfl rfl)
theorem dX3_settle_2 : decode cX3_settle 2 = .ok (.iconst 0, 1) := dk_3 (dk_at dksX3_settle_0 2 rfl rfl)
theorem dX3_settle_3 : decode cX3_settle 3 = .ok (.istore_n 3, 1) := dk_62 (dk_at dksX3_settle_0 3 rfl rfl)
theorem dX3_settle_4 : decode cX3_settle 4 = .ok (.iload_n 3, 1) := dk_29 (dk_at dksX3_settle_0 4 rfl rfl)
theorem dX3_settle_5 : decode cX3_settle 5 = .ok (.aload_n 0, 1) := dk_42 (dk_at dksX3_settle_0 5 rfl rfl)
theorem dX3_settle_6 : decode cX3_settle 6 = .ok (.getfield 50, 3) := dk_180 0 50 (dk_at dksX3_settle_0 6 rfl rfl)
theorem dX3_settle_9 : decode cX3_settle 9 = .ok (.invokevirtual 74, 3) := dk_182 0 74 (dk_at dksX3_settle_0 9 rfl rfl)
theorem dX3_settle_12 : decode cX3_settle 12 = .ok (.if_icmp .ge 107, 3) := dk_162 0 107 (dk_at dksX3_settle_0 12 rfl rfl)
theorem dX3_settle_15 : decode cX3_settle 15 = .ok (.aload_n 0, 1) := dk_42 (dk_at dksX3_settle_0 15 rfl rfl)
theorem dX3_settle_16 : decode cX3_settle 16 = .ok (.iload_n 2, 1) := dk_28 (dk_at dksX3_settle_0 16 rfl rfl)
theorem dX3_settle_17 : decode cX3_settle 17 = .ok (.invokevirtual 85, 3) := dk_182 0 85 (dk_at dksX3_settle_0 17 rfl rfl)
theorem dX3_settle_20 : decode cX3_settle 20 = .ok (.ifCond .ne 67, 3) := dk_154 0 67 (dk_at dksX3_settle_0 20 rfl rfl)
theorem dX3_settle_23 : decode cX3_settle 23 = .ok (.aload_n 0, 1) := dk_42 (dk_at dksX3_settle_0 23 rfl rfl)
theorem dX3_settle_24 : decode cX3_settle 24 = .ok (.getfield 50, 3) := dk_180 0 50 (dk_at dksX3_settle_1 0 rfl rfl)
theorem dX3_settle_27 : decode cX3_settle 27 = .ok (.getfield 141, 3) := dk_180 0 141 (dk_at dksX3_settle_1 3 rfl rfl)
theorem dX3_settle_30 : decode cX3_settle 30 = .ok (.ifCond .le 57, 3) := dk_158 0 57 (dk_at dksX3_settle_1 6 rfl rfl)
theorem dX3_settle_33 : decode cX3_settle 33 = .ok (.aload_n 0, 1) := dk_42 (dk_at dksX3_settle_1 9 rfl rfl)
theorem dX3_settle_34 : decode cX3_settle 34 = .ok (.invokevirtual 144, 3) := dk_182 0 144 (dk_at dksX3_settle_1 10 rfl rfl)
theorem dX3_settle_37 : decode cX3_settle 37 = .ok (.ifCond .le 50, 3) := dk_158 0 50 (dk_at dksX3_settle_1 13 rfl rfl)
theorem dX3_settle_40 : decode cX3_settle 40 = .ok (.aload_n 0, 1) := dk_42 (dk_at dksX3_settle_1 16 rfl rfl)
theorem dX3_settle_41 : decode cX3_settle 41 = .ok (.getfield 50, 3) := dk_180 0 50 (dk_at dksX3_settle_1 17 rfl rfl)
theorem dX3_settle_44 : decode cX3_settle 44 = .ok (.getfield 141, 3) := dk_180 0 141 (dk_at dksX3_settle_1 20 rfl rfl)
theorem dX3_settle_47 : decode cX3_settle 47 = .ok (.aload_n 0, 1) := dk_42 (dk_at dksX3_settle_1 23 rfl rfl)
theorem dX3_settle_48 : decode cX3_settle 48 = .ok (.invokevirtual 144, 3) := dk_182 0 144 (dk_at dksX3_settle_2 0 rfl rfl)
theorem dX3_settle_51 : decode cX3_settle 51 = .ok (.invokestatic 147, 3) := dk_184 0 147 (dk_at dksX3_settle_2 3 rfl rfl)
theorem dX3_settle_54 : decode cX3_settle 54 = .ok (.istore 4, 2) := dk_54 4 (dk_at dksX3_settle_2 6 rfl rfl)
theorem dX3_settle_56 : decode cX3_settle 56 = .ok (.iload 4, 2) := dk_21 4 (dk_at dksX3_settle_2 8 rfl rfl)
theorem dX3_settle_58 : decode cX3_settle 58 = .ok (.ifCond .le 21, 3) := dk_158 0 21 (dk_at dksX3_settle_2 10 rfl rfl)
theorem dX3_settle_61 : decode cX3_settle 61 = .ok (.aload_n 0, 1) := dk_42 (dk_at dksX3_settle_2 13 rfl rfl)
theorem dX3_settle_62 : decode cX3_settle 62 = .ok (.iload_n 2, 1) := dk_28 (dk_at dksX3_settle_2 14 rfl rfl)
theorem dX3_settle_63 : decode cX3_settle 63 = .ok (.invokevirtual 150, 3) := dk_182 0 150 (dk_at dksX3_settle_2 15 rfl rfl)
theorem dX3_settle_66 : decode cX3_settle 66 = .ok (.pop, 1) := dk_87 (dk_at dksX3_settle_2 18 rfl rfl)
theorem dX3_settle_67 : decode cX3_settle 67 = .ok (.aload_n 0, 1) := dk_42 (dk_at dksX3_settle_2 19 rfl rfl)
theorem dX3_settle_68 : decode cX3_settle 68 = .ok (.iload_n 2, 1) := dk_28 (dk_at dksX3_settle_2 20 rfl rfl)
theorem dX3_settle_69 : decode cX3_settle 69 = .ok (.iconst 0, 1) := dk_3 (dk_at dksX3_settle_2 21 rfl rfl)
theorem dX3_settle_70 : decode cX3_settle 70 = .ok (.invokevirtual 89, 3) := dk_182 0 89 (dk_at dksX3_settle_3 0 rfl rfl)
theorem dX3_settle_73 : decode cX3_settle 73 = .ok (.iinc 4 (-1), 3) := dk_132 4 255 (dk_at dksX3_settle_3 3 rfl rfl)
theorem dX3_settle_76 : decode cX3_settle 76 = .ok (.goto (-20), 3) := dk_167 255 236 (dk_at dksX3_settle_3 6 rfl rfl)
theorem dX3_settle_79 : decode cX3_settle 79 = .ok (.aload_n 0, 1) := dk_42 (dk_at dksX3_settle_3 9 rfl rfl)
theorem dX3_settle_80 : decode cX3_settle 80 = .ok (.iload_n 2, 1) := dk_28 (dk_at dksX3_settle_3 10 rfl rfl)
theorem dX3_settle_81 : decode cX3_settle 81 = .ok (.invokevirtual 102, 3) := dk_182 0 102 (dk_at dksX3_settle_3 11 rfl rfl)
theorem dX3_settle_84 : decode cX3_settle 84 = .ok (.goto (-69), 3) := dk_167 255 187 (dk_at dksX3_settle_3 14 rfl rfl)
theorem dX3_settle_87 : decode cX3_settle 87 = .ok (.aload_n 0, 1) := dk_42 (dk_at dksX3_settle_3 17 rfl rfl)
theorem dX3_settle_88 : decode cX3_settle 88 = .ok (.iload_n 2, 1) := dk_28 (dk_at dksX3_settle_3 18 rfl rfl)
theorem dX3_settle_89 : decode cX3_settle 89 = .ok (.invokevirtual 85, 3) := dk_182 0 85 (dk_at dksX3_settle_3 19 rfl rfl)
theorem dX3_settle_92 : decode cX3_settle 92 = .ok (.ifCond .le 9, 3) := dk_158 0 9 (dk_at dksX3_settle_4 0 rfl rfl)
theorem dX3_settle_95 : decode cX3_settle 95 = .ok (.aload_n 0, 1) := dk_42 (dk_at dksX3_settle_4 3 rfl rfl)
theorem dX3_settle_96 : decode cX3_settle 96 = .ok (.iload_n 2, 1) := dk_28 (dk_at dksX3_settle_4 4 rfl rfl)
theorem dX3_settle_97 : decode cX3_settle 97 = .ok (.putfield 109, 3) := dk_181 0 109 (dk_at dksX3_settle_4 5 rfl rfl)
theorem dX3_settle_100 : decode cX3_settle 100 = .ok (.return_, 1) := dk_177 (dk_at dksX3_settle_4 8 rfl rfl)
theorem dX3_settle_101 : decode cX3_settle 101 = .ok (.iload_n 2, 1) := dk_28 (dk_at dksX3_settle_4 9 rfl rfl)
theorem dX3_settle_102 : decode cX3_settle 102 = .ok (.iconst 1, 1) := dk_4 (dk_at dksX3_settle_4 10 rfl rfl)
theorem dX3_settle_103 : decode cX3_settle 103 = .ok (.iadd, 1) := dk_96 (dk_at dksX3_settle_4 11 rfl rfl)
theorem dX3_settle_104 : decode cX3_settle 104 = .ok (.aload_n 0, 1) := dk_42 (dk_at dksX3_settle_4 12 rfl rfl)
theorem dX3_settle_105 : decode cX3_settle 105 = .ok (.getfield 50, 3) := dk_180 0 50 (dk_at dksX3_settle_4 13 rfl rfl)
theorem dX3_settle_108 : decode cX3_settle 108 = .ok (.invokevirtual 74, 3) := dk_182 0 74 (dk_at dksX3_settle_4 16 rfl rfl)
theorem dX3_settle_111 : decode cX3_settle 111 = .ok (.irem, 1) := dk_112 (dk_at dksX3_settle_4 19 rfl rfl)
theorem dX3_settle_112 : decode cX3_settle 112 = .ok (.istore_n 2, 1) := dk_61 (dk_at dksX3_settle_4 20 rfl rfl)
theorem dX3_settle_113 : decode cX3_settle 113 = .ok (.iinc 3 1, 3) := dk_132 3 1 (dk_at dksX3_settle_4 21 rfl rfl)
theorem dX3_settle_116 : decode cX3_settle 116 = .ok (.goto (-112), 3) := dk_167 255 144 (dk_at dksX3_settle_5 0 rfl rfl)
theorem dX3_settle_119 : decode cX3_settle 119 = .ok (.aload_n 0, 1) := dk_42 (dk_at dksX3_settle_5 3 rfl rfl)
theorem dX3_settle_120 : decode cX3_settle 120 = .ok (.iconst (-1), 1) := dk_2 (dk_at dksX3_settle_5 4 rfl rfl)
theorem dX3_settle_121 : decode cX3_settle 121 = .ok (.putfield 109, 3) := dk_181 0 109 (dk_at dksX3_settle_5 5 rfl rfl)
theorem dX3_settle_124 : decode cX3_settle 124 = .ok (.return_, 1) := dk_177 (dk_at dksX3_settle_5 8 rfl rfl)
abbrev cX3_left : ByteArray := prog_6_method_8_code
def yX3_left : MethodName := ⟨RX3, "left", "()I"⟩
def dkwX3_left_0 : List UInt8 := [42, 180, 0, 97, 42, 180, 0, 60, 100, 172]
abbrev dktX3_left_0 : List UInt8 := dkwX3_left_0 ++ []
theorem dksX3_left_0 : cX3_left.data.toList.drop 0 = dktX3_left_0 := by decide +kernel
theorem dX3_left_0 : decode cX3_left 0 = .ok (.aload_n 0, 1) := dk_42 (dk_at dksX3_left_0 0 rfl rfl)
theorem dX3_left_1 : decode cX3_left 1 = .ok (.getfield 97, 3) := dk_180 0 97 (dk_at dksX3_left_0 1 rfl rfl)
theorem dX3_left_4 : decode cX3_left 4 = .ok (.aload_n 0, 1) := dk_42 (dk_at dksX3_left_0 4 rfl rfl)
theorem dX3_left_5 : decode cX3_left 5 = .ok (.getfield 60, 3) := dk_180 0 60 (dk_at dksX3_left_0 5 rfl rfl)
theorem dX3_left_8 : decode cX3_left 8 = .ok (.isub, 1) := dk_100 (dk_at dksX3_left_0 8 rfl rfl)
theorem dX3_left_9 : decode cX3_left 9 = .ok (.ireturn, 1) := dk_172 (dk_at dksX3_left_0 9 rfl rfl)
abbrev cX3_draw : ByteArray := prog_6_method_19_code
def yX3_draw : MethodName := ⟨RX3, "draw", "(I)I"⟩
def dkwX3_draw_1 : List UInt8 := [27, 50, 28, 92, 46, 4, 96, 79, 42, 180, 0, 35, 27, 28, 79, 28, 172]
abbrev dktX3_draw_1 : List UInt8 := dkwX3_draw_1 ++ []
def dkwX3_draw_0 : List UInt8 := [42, 180, 0, 41, 42, 180, 0, 60, 46, 61, 42, 89, 180, 0, 60, 4, 96, 181, 0, 60, 42, 180, 0, 11]
abbrev dktX3_draw_0 : List UInt8 := dkwX3_draw_0 ++ dktX3_draw_1
theorem dksX3_draw_0 : cX3_draw.data.toList.drop 0 = dktX3_draw_0 := by decide +kernel
theorem dksX3_draw_1 : cX3_draw.data.toList.drop 24 = dktX3_draw_1 := dk_seg dksX3_draw_0 24 rfl rfl
theorem dX3_draw_0 : decode cX3_draw 0 = .ok (.aload_n 0, 1) := dk_42 (dk_at dksX3_draw_0 0 rfl rfl)
theorem dX3_draw_1 : decode cX3_draw 1 = .ok (.getfield 41, 3) := dk_180 0 41 (dk_at dksX3_draw_0 1 rfl rfl)
theorem dX3_draw_4 : decode cX3_draw 4 = .ok (.aload_n 0, 1) := dk_42 (dk_at dksX3_draw_0 4 rfl rfl)
theorem dX3_draw_5 : decode cX3_draw 5 = .ok (.getfield 60, 3) := dk_180 0 60 (dk_at dksX3_draw_0 5 rfl rfl)
theorem dX3_draw_8 : decode cX3_draw 8 = .ok (.iaload, 1) := dk_46 (dk_at dksX3_draw_0 8 rfl rfl)
theorem dX3_draw_9 : decode cX3_draw 9 = .ok (.istore_n 2, 1) := dk_61 (dk_at dksX3_draw_0 9 rfl rfl)
theorem dX3_draw_10 : decode cX3_draw 10 = .ok (.aload_n 0, 1) := dk_42 (dk_at dksX3_draw_0 10 rfl rfl)
theorem dX3_draw_11 : decode cX3_draw 11 = .ok (.dup, 1) := dk_89 (dk_at dksX3_draw_0 11 rfl rfl)
theorem dX3_draw_12 : decode cX3_draw 12 = .ok (.getfield 60, 3) := dk_180 0 60 (dk_at dksX3_draw_0 12 rfl rfl)
theorem dX3_draw_15 : decode cX3_draw 15 = .ok (.iconst 1, 1) := dk_4 (dk_at dksX3_draw_0 15 rfl rfl)
theorem dX3_draw_16 : decode cX3_draw 16 = .ok (.iadd, 1) := dk_96 (dk_at dksX3_draw_0 16 rfl rfl)
theorem dX3_draw_17 : decode cX3_draw 17 = .ok (.putfield 60, 3) := dk_181 0 60 (dk_at dksX3_draw_0 17 rfl rfl)
theorem dX3_draw_20 : decode cX3_draw 20 = .ok (.aload_n 0, 1) := dk_42 (dk_at dksX3_draw_0 20 rfl rfl)
theorem dX3_draw_21 : decode cX3_draw 21 = .ok (.getfield 11, 3) := dk_180 0 11 (dk_at dksX3_draw_0 21 rfl rfl)
theorem dX3_draw_24 : decode cX3_draw 24 = .ok (.iload_n 1, 1) := dk_27 (dk_at dksX3_draw_1 0 rfl rfl)
theorem dX3_draw_25 : decode cX3_draw 25 = .ok (.aaload, 1) := dk_50 (dk_at dksX3_draw_1 1 rfl rfl)
theorem dX3_draw_26 : decode cX3_draw 26 = .ok (.iload_n 2, 1) := dk_28 (dk_at dksX3_draw_1 2 rfl rfl)
theorem dX3_draw_27 : decode cX3_draw 27 = .ok (.dup2, 1) := dk_92 (dk_at dksX3_draw_1 3 rfl rfl)
theorem dX3_draw_28 : decode cX3_draw 28 = .ok (.iaload, 1) := dk_46 (dk_at dksX3_draw_1 4 rfl rfl)
theorem dX3_draw_29 : decode cX3_draw 29 = .ok (.iconst 1, 1) := dk_4 (dk_at dksX3_draw_1 5 rfl rfl)
theorem dX3_draw_30 : decode cX3_draw 30 = .ok (.iadd, 1) := dk_96 (dk_at dksX3_draw_1 6 rfl rfl)
theorem dX3_draw_31 : decode cX3_draw 31 = .ok (.iastore, 1) := dk_79 (dk_at dksX3_draw_1 7 rfl rfl)
theorem dX3_draw_32 : decode cX3_draw 32 = .ok (.aload_n 0, 1) := dk_42 (dk_at dksX3_draw_1 8 rfl rfl)
theorem dX3_draw_33 : decode cX3_draw 33 = .ok (.getfield 35, 3) := dk_180 0 35 (dk_at dksX3_draw_1 9 rfl rfl)
theorem dX3_draw_36 : decode cX3_draw 36 = .ok (.iload_n 1, 1) := dk_27 (dk_at dksX3_draw_1 12 rfl rfl)
theorem dX3_draw_37 : decode cX3_draw 37 = .ok (.iload_n 2, 1) := dk_28 (dk_at dksX3_draw_1 13 rfl rfl)
theorem dX3_draw_38 : decode cX3_draw 38 = .ok (.iastore, 1) := dk_79 (dk_at dksX3_draw_1 14 rfl rfl)
theorem dX3_draw_39 : decode cX3_draw 39 = .ok (.iload_n 2, 1) := dk_28 (dk_at dksX3_draw_1 15 rfl rfl)
theorem dX3_draw_40 : decode cX3_draw 40 = .ok (.ireturn, 1) := dk_172 (dk_at dksX3_draw_1 16 rfl rfl)
abbrev cX3_booksOf : ByteArray := prog_6_method_10_code
def yX3_booksOf : MethodName := ⟨RX3, "booksOf", "(I)I"⟩
def dkwX3_booksOf_1 : List UInt8 := [132, 3, 1, 167, 255, 234, 28, 172]
abbrev dktX3_booksOf_1 : List UInt8 := dkwX3_booksOf_1 ++ []
def dkwX3_booksOf_0 : List UInt8 := [3, 61, 3, 62, 29, 16, 13, 162, 0, 22, 42, 180, 0, 38, 29, 46, 27, 160, 0, 6, 132, 2, 1]
abbrev dktX3_booksOf_0 : List UInt8 := dkwX3_booksOf_0 ++ dktX3_booksOf_1
theorem dksX3_booksOf_0 : cX3_booksOf.data.toList.drop 0 = dktX3_booksOf_0 := by decide +kernel
theorem dksX3_booksOf_1 : cX3_booksOf.data.toList.drop 23 = dktX3_booksOf_1 := dk_seg dksX3_booksOf_0 23 rfl rfl
theorem dX3_booksOf_0 : decode cX3_booksOf 0 = .ok (.iconst 0, 1) := dk_3 (dk_at dksX3_booksOf_0 0 rfl rfl)
theorem dX3_booksOf_1 : decode cX3_booksOf 1 = .ok (.istore_n 2, 1) := dk_61 (dk_at dksX3_booksOf_0 1 rfl rfl)
theorem dX3_booksOf_2 : decode cX3_booksOf 2 = .ok (.iconst 0, 1) := dk_3 (dk_at dksX3_booksOf_0 2 rfl rfl)
theorem dX3_booksOf_3 : decode cX3_booksOf 3 = .ok (.istore_n 3, 1) := dk_62 (dk_at dksX3_booksOf_0 3 rfl rfl)
theorem dX3_booksOf_4 : decode cX3_booksOf 4 = .ok (.iload_n 3, 1) := dk_29 (dk_at dksX3_booksOf_0 4 rfl rfl)
theorem dX3_booksOf_5 : decode cX3_booksOf 5 = .ok (.bipush 13, 2) := dk_16 13 (dk_at dksX3_booksOf_0 5 rfl rfl)
theorem dX3_booksOf_7 : decode cX3_booksOf 7 = .ok (.if_icmp .ge 22, 3) := dk_162 0 22 (dk_at dksX3_booksOf_0 7 rfl rfl)
theorem dX3_booksOf_10 : decode cX3_booksOf 10 = .ok (.aload_n 0, 1) := dk_42 (dk_at dksX3_booksOf_0 10 rfl rfl)
theorem dX3_booksOf_11 : decode cX3_booksOf 11 = .ok (.getfield 38, 3) := dk_180 0 38 (dk_at dksX3_booksOf_0 11 rfl rfl)
theorem dX3_booksOf_14 : decode cX3_booksOf 14 = .ok (.iload_n 3, 1) := dk_29 (dk_at dksX3_booksOf_0 14 rfl rfl)
theorem dX3_booksOf_15 : decode cX3_booksOf 15 = .ok (.iaload, 1) := dk_46 (dk_at dksX3_booksOf_0 15 rfl rfl)
theorem dX3_booksOf_16 : decode cX3_booksOf 16 = .ok (.iload_n 1, 1) := dk_27 (dk_at dksX3_booksOf_0 16 rfl rfl)
theorem dX3_booksOf_17 : decode cX3_booksOf 17 = .ok (.if_icmp .ne 6, 3) := dk_160 0 6 (dk_at dksX3_booksOf_0 17 rfl rfl)
theorem dX3_booksOf_20 : decode cX3_booksOf 20 = .ok (.iinc 2 1, 3) := dk_132 2 1 (dk_at dksX3_booksOf_0 20 rfl rfl)
theorem dX3_booksOf_23 : decode cX3_booksOf 23 = .ok (.iinc 3 1, 3) := dk_132 3 1 (dk_at dksX3_booksOf_1 0 rfl rfl)
theorem dX3_booksOf_26 : decode cX3_booksOf 26 = .ok (.goto (-22), 3) := dk_167 255 234 (dk_at dksX3_booksOf_1 3 rfl rfl)
theorem dX3_booksOf_29 : decode cX3_booksOf 29 = .ok (.iload_n 2, 1) := dk_28 (dk_at dksX3_booksOf_1 6 rfl rfl)
theorem dX3_booksOf_30 : decode cX3_booksOf 30 = .ok (.ireturn, 1) := dk_172 (dk_at dksX3_booksOf_1 7 rfl rfl)
abbrev cX3_books_2 : ByteArray := prog_6_method_9_code
def yX3_books_2 : MethodName := ⟨RX3, "books", "()I"⟩
def dkwX3_books_2_1 : List UInt8 := [132, 2, 1, 167, 255, 234, 27, 172]
abbrev dktX3_books_2_1 : List UInt8 := dkwX3_books_2_1 ++ []
def dkwX3_books_2_0 : List UInt8 := [3, 60, 3, 61, 28, 16, 13, 162, 0, 22, 42, 180, 0, 38, 28, 46, 2, 159, 0, 6, 132, 1, 1]
abbrev dktX3_books_2_0 : List UInt8 := dkwX3_books_2_0 ++ dktX3_books_2_1
theorem dksX3_books_2_0 : cX3_books_2.data.toList.drop 0 = dktX3_books_2_0 := by decide +kernel
theorem dksX3_books_2_1 : cX3_books_2.data.toList.drop 23 = dktX3_books_2_1 := dk_seg dksX3_books_2_0 23 rfl rfl
theorem dX3_books_2_0 : decode cX3_books_2 0 = .ok (.iconst 0, 1) := dk_3 (dk_at dksX3_books_2_0 0 rfl rfl)
theorem dX3_books_2_1 : decode cX3_books_2 1 = .ok (.istore_n 1, 1) := dk_60 (dk_at dksX3_books_2_0 1 rfl rfl)
theorem dX3_books_2_2 : decode cX3_books_2 2 = .ok (.iconst 0, 1) := dk_3 (dk_at dksX3_books_2_0 2 rfl rfl)
theorem dX3_books_2_3 : decode cX3_books_2 3 = .ok (.istore_n 2, 1) := dk_61 (dk_at dksX3_books_2_0 3 rfl rfl)
theorem dX3_books_2_4 : decode cX3_books_2 4 = .ok (.iload_n 2, 1) := dk_28 (dk_at dksX3_books_2_0 4 rfl rfl)
theorem dX3_books_2_5 : decode cX3_books_2 5 = .ok (.bipush 13, 2) := dk_16 13 (dk_at dksX3_books_2_0 5 rfl rfl)
theorem dX3_books_2_7 : decode cX3_books_2 7 = .ok (.if_icmp .ge 22, 3) := dk_162 0 22 (dk_at dksX3_books_2_0 7 rfl rfl)
theorem dX3_books_2_10 : decode cX3_books_2 10 = .ok (.aload_n 0, 1) := dk_42 (dk_at dksX3_books_2_0 10 rfl rfl)
theorem dX3_books_2_11 : decode cX3_books_2 11 = .ok (.getfield 38, 3) := dk_180 0 38 (dk_at dksX3_books_2_0 11 rfl rfl)
theorem dX3_books_2_14 : decode cX3_books_2 14 = .ok (.iload_n 2, 1) := dk_28 (dk_at dksX3_books_2_0 14 rfl rfl)
theorem dX3_books_2_15 : decode cX3_books_2 15 = .ok (.iaload, 1) := dk_46 (dk_at dksX3_books_2_0 15 rfl rfl)
theorem dX3_books_2_16 : decode cX3_books_2 16 = .ok (.iconst (-1), 1) := dk_2 (dk_at dksX3_books_2_0 16 rfl rfl)
theorem dX3_books_2_17 : decode cX3_books_2 17 = .ok (.if_icmp .eq 6, 3) := dk_159 0 6 (dk_at dksX3_books_2_0 17 rfl rfl)
theorem dX3_books_2_20 : decode cX3_books_2 20 = .ok (.iinc 1 1, 3) := dk_132 1 1 (dk_at dksX3_books_2_0 20 rfl rfl)
theorem dX3_books_2_23 : decode cX3_books_2 23 = .ok (.iinc 2 1, 3) := dk_132 2 1 (dk_at dksX3_books_2_1 0 rfl rfl)
theorem dX3_books_2_26 : decode cX3_books_2 26 = .ok (.goto (-22), 3) := dk_167 255 234 (dk_at dksX3_books_2_1 3 rfl rfl)
theorem dX3_books_2_29 : decode cX3_books_2 29 = .ok (.iload_n 1, 1) := dk_27 (dk_at dksX3_books_2_1 6 rfl rfl)
theorem dX3_books_2_30 : decode cX3_books_2 30 = .ok (.ireturn, 1) := dk_172 (dk_at dksX3_books_2_1 7 rfl rfl)
abbrev cX3_whyNot : ByteArray := prog_6_method_22_code
def yX3_whyNot : MethodName := ⟨RX3, "whyNot", "(III)I"⟩
def dkwX3_whyNot_1 : List UInt8 := [50, 29, 46, 154, 0, 5, 6, 172, 27, 28, 160, 0, 7, 7, 167, 0, 4, 3, 172]
abbrev dktX3_whyNot_1 : List UInt8 := dkwX3_whyNot_1 ++ []
def dkwX3_whyNot_0 : List UInt8 := [42, 182, 0, 153, 153, 0, 5, 4, 172, 27, 42, 180, 0, 109, 159, 0, 5, 5, 172, 42, 180, 0, 11, 27]
abbrev dktX3_whyNot_0 : List UInt8 := dkwX3_whyNot_0 ++ dktX3_whyNot_1
theorem dksX3_whyNot_0 : cX3_whyNot.data.toList.drop 0 = dktX3_whyNot_0 := by decide +kernel
theorem dksX3_whyNot_1 : cX3_whyNot.data.toList.drop 24 = dktX3_whyNot_1 := dk_seg dksX3_whyNot_0 24 rfl rfl
theorem dX3_whyNot_0 : decode cX3_whyNot 0 = .ok (.aload_n 0, 1) := dk_42 (dk_at dksX3_whyNot_0 0 rfl rfl)
theorem dX3_whyNot_1 : decode cX3_whyNot 1 = .ok (.invokevirtual 153, 3) := dk_182 0 153 (dk_at dksX3_whyNot_0 1 rfl rfl)
theorem dX3_whyNot_4 : decode cX3_whyNot 4 = .ok (.ifCond .eq 5, 3) := dk_153 0 5 (dk_at dksX3_whyNot_0 4 rfl rfl)
theorem dX3_whyNot_7 : decode cX3_whyNot 7 = .ok (.iconst 1, 1) := dk_4 (dk_at dksX3_whyNot_0 7 rfl rfl)
theorem dX3_whyNot_8 : decode cX3_whyNot 8 = .ok (.ireturn, 1) := dk_172 (dk_at dksX3_whyNot_0 8 rfl rfl)
theorem dX3_whyNot_9 : decode cX3_whyNot 9 = .ok (.iload_n 1, 1) := dk_27 (dk_at dksX3_whyNot_0 9 rfl rfl)
theorem dX3_whyNot_10 : decode cX3_whyNot 10 = .ok (.aload_n 0, 1) := dk_42 (dk_at dksX3_whyNot_0 10 rfl rfl)
theorem dX3_whyNot_11 : decode cX3_whyNot 11 = .ok (.getfield 109, 3) := dk_180 0 109 (dk_at dksX3_whyNot_0 11 rfl rfl)
theorem dX3_whyNot_14 : decode cX3_whyNot 14 = .ok (.if_icmp .eq 5, 3) := dk_159 0 5 (dk_at dksX3_whyNot_0 14 rfl rfl)
theorem dX3_whyNot_17 : decode cX3_whyNot 17 = .ok (.iconst 2, 1) := dk_5 (dk_at dksX3_whyNot_0 17 rfl rfl)
theorem dX3_whyNot_18 : decode cX3_whyNot 18 = .ok (.ireturn, 1) := dk_172 (dk_at dksX3_whyNot_0 18 rfl rfl)
theorem dX3_whyNot_19 : decode cX3_whyNot 19 = .ok (.aload_n 0, 1) := dk_42 (dk_at dksX3_whyNot_0 19 rfl rfl)
theorem dX3_whyNot_20 : decode cX3_whyNot 20 = .ok (.getfield 11, 3) := dk_180 0 11 (dk_at dksX3_whyNot_0 20 rfl rfl)
theorem dX3_whyNot_23 : decode cX3_whyNot 23 = .ok (.iload_n 1, 1) := dk_27 (dk_at dksX3_whyNot_0 23 rfl rfl)
theorem dX3_whyNot_24 : decode cX3_whyNot 24 = .ok (.aaload, 1) := dk_50 (dk_at dksX3_whyNot_1 0 rfl rfl)
theorem dX3_whyNot_25 : decode cX3_whyNot 25 = .ok (.iload_n 3, 1) := dk_29 (dk_at dksX3_whyNot_1 1 rfl rfl)
theorem dX3_whyNot_26 : decode cX3_whyNot 26 = .ok (.iaload, 1) := dk_46 (dk_at dksX3_whyNot_1 2 rfl rfl)
theorem dX3_whyNot_27 : decode cX3_whyNot 27 = .ok (.ifCond .ne 5, 3) := dk_154 0 5 (dk_at dksX3_whyNot_1 3 rfl rfl)
theorem dX3_whyNot_30 : decode cX3_whyNot 30 = .ok (.iconst 3, 1) := dk_6 (dk_at dksX3_whyNot_1 6 rfl rfl)
theorem dX3_whyNot_31 : decode cX3_whyNot 31 = .ok (.ireturn, 1) := dk_172 (dk_at dksX3_whyNot_1 7 rfl rfl)
theorem dX3_whyNot_32 : decode cX3_whyNot 32 = .ok (.iload_n 1, 1) := dk_27 (dk_at dksX3_whyNot_1 8 rfl rfl)
theorem dX3_whyNot_33 : decode cX3_whyNot 33 = .ok (.iload_n 2, 1) := dk_28 (dk_at dksX3_whyNot_1 9 rfl rfl)
theorem dX3_whyNot_34 : decode cX3_whyNot 34 = .ok (.if_icmp .ne 7, 3) := dk_160 0 7 (dk_at dksX3_whyNot_1 10 rfl rfl)
theorem dX3_whyNot_37 : decode cX3_whyNot 37 = .ok (.iconst 4, 1) := dk_7 (dk_at dksX3_whyNot_1 13 rfl rfl)
theorem dX3_whyNot_38 : decode cX3_whyNot 38 = .ok (.goto 4, 3) := dk_167 0 4 (dk_at dksX3_whyNot_1 14 rfl rfl)
theorem dX3_whyNot_41 : decode cX3_whyNot 41 = .ok (.iconst 0, 1) := dk_3 (dk_at dksX3_whyNot_1 17 rfl rfl)
theorem dX3_whyNot_42 : decode cX3_whyNot 42 = .ok (.ireturn, 1) := dk_172 (dk_at dksX3_whyNot_1 18 rfl rfl)
abbrev cX3_isOver : ByteArray := prog_6_method_11_code
def yX3_isOver : MethodName := ⟨RX3, "isOver", "()Z"⟩
def dkwX3_isOver_0 : List UInt8 := [42, 180, 0, 109, 2, 160, 0, 7, 4, 167, 0, 4, 3, 172]
abbrev dktX3_isOver_0 : List UInt8 := dkwX3_isOver_0 ++ []
theorem dksX3_isOver_0 : cX3_isOver.data.toList.drop 0 = dktX3_isOver_0 := by decide +kernel
theorem dX3_isOver_0 : decode cX3_isOver 0 = .ok (.aload_n 0, 1) := dk_42 (dk_at dksX3_isOver_0 0 rfl rfl)
theorem dX3_isOver_1 : decode cX3_isOver 1 = .ok (.getfield 109, 3) := dk_180 0 109 (dk_at dksX3_isOver_0 1 rfl rfl)
theorem dX3_isOver_4 : decode cX3_isOver 4 = .ok (.iconst (-1), 1) := dk_2 (dk_at dksX3_isOver_0 4 rfl rfl)
theorem dX3_isOver_5 : decode cX3_isOver 5 = .ok (.if_icmp .ne 7, 3) := dk_160 0 7 (dk_at dksX3_isOver_0 5 rfl rfl)
theorem dX3_isOver_8 : decode cX3_isOver 8 = .ok (.iconst 1, 1) := dk_4 (dk_at dksX3_isOver_0 8 rfl rfl)
theorem dX3_isOver_9 : decode cX3_isOver 9 = .ok (.goto 4, 3) := dk_167 0 4 (dk_at dksX3_isOver_0 9 rfl rfl)
theorem dX3_isOver_12 : decode cX3_isOver 12 = .ok (.iconst 0, 1) := dk_3 (dk_at dksX3_isOver_0 12 rfl rfl)
theorem dX3_isOver_13 : decode cX3_isOver 13 = .ok (.ireturn, 1) := dk_172 (dk_at dksX3_isOver_0 13 rfl rfl)
abbrev cX3_as : ByteArray := prog_6_method_5_code
def yX3_as : MethodName := ⟨RX3, "as", "(LSevenTable$Game;)LSevenTable$Game;"⟩
def dkwX3_as_8 : List UInt8 := [180, 0, 109, 181, 0, 109, 42, 43, 180, 0, 64, 181, 0, 64, 42, 43, 180, 0, 67, 181, 0, 67, 42, 176]
abbrev dktX3_as_8 : List UInt8 := dkwX3_as_8 ++ []
def dkwX3_as_7 : List UInt8 := [180, 0, 47, 184, 0, 81, 42, 43, 180, 0, 60, 181, 0, 60, 42, 43, 180, 0, 97, 181, 0, 97, 42, 43]
abbrev dktX3_as_7 : List UInt8 := dkwX3_as_7 ++ dktX3_as_8
def dkwX3_as_6 : List UInt8 := [180, 0, 41, 184, 0, 81, 43, 180, 0, 44, 42, 180, 0, 44, 184, 0, 81, 43, 180, 0, 47, 42]
abbrev dktX3_as_6 : List UInt8 := dkwX3_as_6 ++ dktX3_as_7
def dkwX3_as_5 : List UInt8 := [180, 0, 35, 184, 0, 81, 43, 180, 0, 38, 42, 180, 0, 38, 184, 0, 81, 43, 180, 0, 41, 42]
abbrev dktX3_as_5 : List UInt8 := dkwX3_as_5 ++ dktX3_as_6
def dkwX3_as_4 : List UInt8 := [180, 0, 29, 184, 0, 81, 43, 180, 0, 32, 42, 180, 0, 32, 184, 0, 81, 43, 180, 0, 35, 42]
abbrev dktX3_as_4 : List UInt8 := dkwX3_as_4 ++ dktX3_as_5
def dkwX3_as_3 : List UInt8 := [42, 180, 0, 22, 184, 0, 81, 43, 180, 0, 26, 42, 180, 0, 26, 184, 0, 81, 43, 180, 0, 29, 42]
abbrev dktX3_as_3 : List UInt8 := dkwX3_as_3 ++ dktX3_as_4
def dkwX3_as_2 : List UInt8 := [180, 0, 19, 28, 50, 42, 180, 0, 19, 28, 50, 184, 0, 81, 132, 2, 1, 167, 255, 202, 43, 180, 0, 22]
abbrev dktX3_as_2 : List UInt8 := dkwX3_as_2 ++ dktX3_as_3
def dkwX3_as_1 : List UInt8 := [180, 0, 11, 28, 50, 184, 0, 81, 43, 180, 0, 16, 28, 50, 42, 180, 0, 16, 28, 50, 184, 0, 81, 43]
abbrev dktX3_as_1 : List UInt8 := dkwX3_as_1 ++ dktX3_as_2
def dkwX3_as_0 : List UInt8 := [42, 43, 180, 0, 50, 181, 0, 50, 3, 61, 28, 16, 6, 162, 0, 54, 43, 180, 0, 11, 28, 50, 42]
abbrev dktX3_as_0 : List UInt8 := dkwX3_as_0 ++ dktX3_as_1
theorem dksX3_as_0 : cX3_as.data.toList.drop 0 = dktX3_as_0 := by decide +kernel
theorem dksX3_as_1 : cX3_as.data.toList.drop 23 = dktX3_as_1 := dk_seg dksX3_as_0 23 rfl rfl
theorem dksX3_as_2 : cX3_as.data.toList.drop 47 = dktX3_as_2 := dk_seg dksX3_as_1 24 rfl rfl
theorem dksX3_as_3 : cX3_as.data.toList.drop 71 = dktX3_as_3 := dk_seg dksX3_as_2 24 rfl rfl
theorem dksX3_as_4 : cX3_as.data.toList.drop 94 = dktX3_as_4 := dk_seg dksX3_as_3 23 rfl rfl
theorem dksX3_as_5 : cX3_as.data.toList.drop 116 = dktX3_as_5 := dk_seg dksX3_as_4 22 rfl rfl
theorem dksX3_as_6 : cX3_as.data.toList.drop 138 = dktX3_as_6 := dk_seg dksX3_as_5 22 rfl rfl
theorem dksX3_as_7 : cX3_as.data.toList.drop 160 = dktX3_as_7 := dk_seg dksX3_as_6 22 rfl rfl
theorem dksX3_as_8 : cX3_as.data.toList.drop 184 = dktX3_as_8 := dk_seg dksX3_as_7 24 rfl rfl
theorem dX3_as_0 : decode cX3_as 0 = .ok (.aload_n 0, 1) := dk_42 (dk_at dksX3_as_0 0 rfl rfl)
theorem dX3_as_1 : decode cX3_as 1 = .ok (.aload_n 1, 1) := dk_43 (dk_at dksX3_as_0 1 rfl rfl)
theorem dX3_as_2 : decode cX3_as 2 = .ok (.getfield 50, 3) := dk_180 0 50 (dk_at dksX3_as_0 2 rfl rfl)
theorem dX3_as_5 : decode cX3_as 5 = .ok (.putfield 50, 3) := dk_181 0 50 (dk_at dksX3_as_0 5 rfl rfl)
theorem dX3_as_8 : decode cX3_as 8 = .ok (.iconst 0, 1) := dk_3 (dk_at dksX3_as_0 8 rfl rfl)
theorem dX3_as_9 : decode cX3_as 9 = .ok (.istore_n 2, 1) := dk_61 (dk_at dksX3_as_0 9 rfl rfl)
theorem dX3_as_10 : decode cX3_as 10 = .ok (.iload_n 2, 1) := dk_28 (dk_at dksX3_as_0 10 rfl rfl)
theorem dX3_as_11 : decode cX3_as 11 = .ok (.bipush 6, 2) := dk_16 6 (dk_at dksX3_as_0 11 rfl rfl)
theorem dX3_as_13 : decode cX3_as 13 = .ok (.if_icmp .ge 54, 3) := dk_162 0 54 (dk_at dksX3_as_0 13 rfl rfl)
theorem dX3_as_16 : decode cX3_as 16 = .ok (.aload_n 1, 1) := dk_43 (dk_at dksX3_as_0 16 rfl rfl)
theorem dX3_as_17 : decode cX3_as 17 = .ok (.getfield 11, 3) := dk_180 0 11 (dk_at dksX3_as_0 17 rfl rfl)
theorem dX3_as_20 : decode cX3_as 20 = .ok (.iload_n 2, 1) := dk_28 (dk_at dksX3_as_0 20 rfl rfl)
theorem dX3_as_21 : decode cX3_as 21 = .ok (.aaload, 1) := dk_50 (dk_at dksX3_as_0 21 rfl rfl)
theorem dX3_as_22 : decode cX3_as 22 = .ok (.aload_n 0, 1) := dk_42 (dk_at dksX3_as_0 22 rfl rfl)
theorem dX3_as_23 : decode cX3_as 23 = .ok (.getfield 11, 3) := dk_180 0 11 (dk_at dksX3_as_1 0 rfl rfl)
theorem dX3_as_26 : decode cX3_as 26 = .ok (.iload_n 2, 1) := dk_28 (dk_at dksX3_as_1 3 rfl rfl)
theorem dX3_as_27 : decode cX3_as 27 = .ok (.aaload, 1) := dk_50 (dk_at dksX3_as_1 4 rfl rfl)
theorem dX3_as_28 : decode cX3_as 28 = .ok (.invokestatic 81, 3) := dk_184 0 81 (dk_at dksX3_as_1 5 rfl rfl)
theorem dX3_as_31 : decode cX3_as 31 = .ok (.aload_n 1, 1) := dk_43 (dk_at dksX3_as_1 8 rfl rfl)
theorem dX3_as_32 : decode cX3_as 32 = .ok (.getfield 16, 3) := dk_180 0 16 (dk_at dksX3_as_1 9 rfl rfl)
theorem dX3_as_35 : decode cX3_as 35 = .ok (.iload_n 2, 1) := dk_28 (dk_at dksX3_as_1 12 rfl rfl)
theorem dX3_as_36 : decode cX3_as 36 = .ok (.aaload, 1) := dk_50 (dk_at dksX3_as_1 13 rfl rfl)
theorem dX3_as_37 : decode cX3_as 37 = .ok (.aload_n 0, 1) := dk_42 (dk_at dksX3_as_1 14 rfl rfl)
theorem dX3_as_38 : decode cX3_as 38 = .ok (.getfield 16, 3) := dk_180 0 16 (dk_at dksX3_as_1 15 rfl rfl)
theorem dX3_as_41 : decode cX3_as 41 = .ok (.iload_n 2, 1) := dk_28 (dk_at dksX3_as_1 18 rfl rfl)
theorem dX3_as_42 : decode cX3_as 42 = .ok (.aaload, 1) := dk_50 (dk_at dksX3_as_1 19 rfl rfl)
theorem dX3_as_43 : decode cX3_as 43 = .ok (.invokestatic 81, 3) := dk_184 0 81 (dk_at dksX3_as_1 20 rfl rfl)
theorem dX3_as_46 : decode cX3_as 46 = .ok (.aload_n 1, 1) := dk_43 (dk_at dksX3_as_1 23 rfl rfl)
theorem dX3_as_47 : decode cX3_as 47 = .ok (.getfield 19, 3) := dk_180 0 19 (dk_at dksX3_as_2 0 rfl rfl)
theorem dX3_as_50 : decode cX3_as 50 = .ok (.iload_n 2, 1) := dk_28 (dk_at dksX3_as_2 3 rfl rfl)
theorem dX3_as_51 : decode cX3_as 51 = .ok (.aaload, 1) := dk_50 (dk_at dksX3_as_2 4 rfl rfl)
theorem dX3_as_52 : decode cX3_as 52 = .ok (.aload_n 0, 1) := dk_42 (dk_at dksX3_as_2 5 rfl rfl)
theorem dX3_as_53 : decode cX3_as 53 = .ok (.getfield 19, 3) := dk_180 0 19 (dk_at dksX3_as_2 6 rfl rfl)
theorem dX3_as_56 : decode cX3_as 56 = .ok (.iload_n 2, 1) := dk_28 (dk_at dksX3_as_2 9 rfl rfl)
theorem dX3_as_57 : decode cX3_as 57 = .ok (.aaload, 1) := dk_50 (dk_at dksX3_as_2 10 rfl rfl)
theorem dX3_as_58 : decode cX3_as 58 = .ok (.invokestatic 81, 3) := dk_184 0 81 (dk_at dksX3_as_2 11 rfl rfl)
theorem dX3_as_61 : decode cX3_as 61 = .ok (.iinc 2 1, 3) := dk_132 2 1 (dk_at dksX3_as_2 14 rfl rfl)
theorem dX3_as_64 : decode cX3_as 64 = .ok (.goto (-54), 3) := dk_167 255 202 (dk_at dksX3_as_2 17 rfl rfl)
theorem dX3_as_67 : decode cX3_as 67 = .ok (.aload_n 1, 1) := dk_43 (dk_at dksX3_as_2 20 rfl rfl)
theorem dX3_as_68 : decode cX3_as 68 = .ok (.getfield 22, 3) := dk_180 0 22 (dk_at dksX3_as_2 21 rfl rfl)
theorem dX3_as_71 : decode cX3_as 71 = .ok (.aload_n 0, 1) := dk_42 (dk_at dksX3_as_3 0 rfl rfl)
theorem dX3_as_72 : decode cX3_as 72 = .ok (.getfield 22, 3) := dk_180 0 22 (dk_at dksX3_as_3 1 rfl rfl)
theorem dX3_as_75 : decode cX3_as 75 = .ok (.invokestatic 81, 3) := dk_184 0 81 (dk_at dksX3_as_3 4 rfl rfl)
theorem dX3_as_78 : decode cX3_as 78 = .ok (.aload_n 1, 1) := dk_43 (dk_at dksX3_as_3 7 rfl rfl)
theorem dX3_as_79 : decode cX3_as 79 = .ok (.getfield 26, 3) := dk_180 0 26 (dk_at dksX3_as_3 8 rfl rfl)
theorem dX3_as_82 : decode cX3_as 82 = .ok (.aload_n 0, 1) := dk_42 (dk_at dksX3_as_3 11 rfl rfl)
theorem dX3_as_83 : decode cX3_as 83 = .ok (.getfield 26, 3) := dk_180 0 26 (dk_at dksX3_as_3 12 rfl rfl)
theorem dX3_as_86 : decode cX3_as 86 = .ok (.invokestatic 81, 3) := dk_184 0 81 (dk_at dksX3_as_3 15 rfl rfl)
theorem dX3_as_89 : decode cX3_as 89 = .ok (.aload_n 1, 1) := dk_43 (dk_at dksX3_as_3 18 rfl rfl)
theorem dX3_as_90 : decode cX3_as 90 = .ok (.getfield 29, 3) := dk_180 0 29 (dk_at dksX3_as_3 19 rfl rfl)
theorem dX3_as_93 : decode cX3_as 93 = .ok (.aload_n 0, 1) := dk_42 (dk_at dksX3_as_3 22 rfl rfl)
theorem dX3_as_94 : decode cX3_as 94 = .ok (.getfield 29, 3) := dk_180 0 29 (dk_at dksX3_as_4 0 rfl rfl)
theorem dX3_as_97 : decode cX3_as 97 = .ok (.invokestatic 81, 3) := dk_184 0 81 (dk_at dksX3_as_4 3 rfl rfl)
theorem dX3_as_100 : decode cX3_as 100 = .ok (.aload_n 1, 1) := dk_43 (dk_at dksX3_as_4 6 rfl rfl)
theorem dX3_as_101 : decode cX3_as 101 = .ok (.getfield 32, 3) := dk_180 0 32 (dk_at dksX3_as_4 7 rfl rfl)
theorem dX3_as_104 : decode cX3_as 104 = .ok (.aload_n 0, 1) := dk_42 (dk_at dksX3_as_4 10 rfl rfl)
theorem dX3_as_105 : decode cX3_as 105 = .ok (.getfield 32, 3) := dk_180 0 32 (dk_at dksX3_as_4 11 rfl rfl)
theorem dX3_as_108 : decode cX3_as 108 = .ok (.invokestatic 81, 3) := dk_184 0 81 (dk_at dksX3_as_4 14 rfl rfl)
theorem dX3_as_111 : decode cX3_as 111 = .ok (.aload_n 1, 1) := dk_43 (dk_at dksX3_as_4 17 rfl rfl)
theorem dX3_as_112 : decode cX3_as 112 = .ok (.getfield 35, 3) := dk_180 0 35 (dk_at dksX3_as_4 18 rfl rfl)
theorem dX3_as_115 : decode cX3_as 115 = .ok (.aload_n 0, 1) := dk_42 (dk_at dksX3_as_4 21 rfl rfl)
theorem dX3_as_116 : decode cX3_as 116 = .ok (.getfield 35, 3) := dk_180 0 35 (dk_at dksX3_as_5 0 rfl rfl)
theorem dX3_as_119 : decode cX3_as 119 = .ok (.invokestatic 81, 3) := dk_184 0 81 (dk_at dksX3_as_5 3 rfl rfl)
theorem dX3_as_122 : decode cX3_as 122 = .ok (.aload_n 1, 1) := dk_43 (dk_at dksX3_as_5 6 rfl rfl)
theorem dX3_as_123 : decode cX3_as 123 = .ok (.getfield 38, 3) := dk_180 0 38 (dk_at dksX3_as_5 7 rfl rfl)
theorem dX3_as_126 : decode cX3_as 126 = .ok (.aload_n 0, 1) := dk_42 (dk_at dksX3_as_5 10 rfl rfl)
theorem dX3_as_127 : decode cX3_as 127 = .ok (.getfield 38, 3) := dk_180 0 38 (dk_at dksX3_as_5 11 rfl rfl)
theorem dX3_as_130 : decode cX3_as 130 = .ok (.invokestatic 81, 3) := dk_184 0 81 (dk_at dksX3_as_5 14 rfl rfl)
theorem dX3_as_133 : decode cX3_as 133 = .ok (.aload_n 1, 1) := dk_43 (dk_at dksX3_as_5 17 rfl rfl)
theorem dX3_as_134 : decode cX3_as 134 = .ok (.getfield 41, 3) := dk_180 0 41 (dk_at dksX3_as_5 18 rfl rfl)
theorem dX3_as_137 : decode cX3_as 137 = .ok (.aload_n 0, 1) := dk_42 (dk_at dksX3_as_5 21 rfl rfl)
theorem dX3_as_138 : decode cX3_as 138 = .ok (.getfield 41, 3) := dk_180 0 41 (dk_at dksX3_as_6 0 rfl rfl)
theorem dX3_as_141 : decode cX3_as 141 = .ok (.invokestatic 81, 3) := dk_184 0 81 (dk_at dksX3_as_6 3 rfl rfl)
theorem dX3_as_144 : decode cX3_as 144 = .ok (.aload_n 1, 1) := dk_43 (dk_at dksX3_as_6 6 rfl rfl)
theorem dX3_as_145 : decode cX3_as 145 = .ok (.getfield 44, 3) := dk_180 0 44 (dk_at dksX3_as_6 7 rfl rfl)
theorem dX3_as_148 : decode cX3_as 148 = .ok (.aload_n 0, 1) := dk_42 (dk_at dksX3_as_6 10 rfl rfl)
theorem dX3_as_149 : decode cX3_as 149 = .ok (.getfield 44, 3) := dk_180 0 44 (dk_at dksX3_as_6 11 rfl rfl)
theorem dX3_as_152 : decode cX3_as 152 = .ok (.invokestatic 81, 3) := dk_184 0 81 (dk_at dksX3_as_6 14 rfl rfl)
theorem dX3_as_155 : decode cX3_as 155 = .ok (.aload_n 1, 1) := dk_43 (dk_at dksX3_as_6 17 rfl rfl)
theorem dX3_as_156 : decode cX3_as 156 = .ok (.getfield 47, 3) := dk_180 0 47 (dk_at dksX3_as_6 18 rfl rfl)
theorem dX3_as_159 : decode cX3_as 159 = .ok (.aload_n 0, 1) := dk_42 (dk_at dksX3_as_6 21 rfl rfl)
theorem dX3_as_160 : decode cX3_as 160 = .ok (.getfield 47, 3) := dk_180 0 47 (dk_at dksX3_as_7 0 rfl rfl)
theorem dX3_as_163 : decode cX3_as 163 = .ok (.invokestatic 81, 3) := dk_184 0 81 (dk_at dksX3_as_7 3 rfl rfl)
theorem dX3_as_166 : decode cX3_as 166 = .ok (.aload_n 0, 1) := dk_42 (dk_at dksX3_as_7 6 rfl rfl)
theorem dX3_as_167 : decode cX3_as 167 = .ok (.aload_n 1, 1) := dk_43 (dk_at dksX3_as_7 7 rfl rfl)
theorem dX3_as_168 : decode cX3_as 168 = .ok (.getfield 60, 3) := dk_180 0 60 (dk_at dksX3_as_7 8 rfl rfl)
theorem dX3_as_171 : decode cX3_as 171 = .ok (.putfield 60, 3) := dk_181 0 60 (dk_at dksX3_as_7 11 rfl rfl)
theorem dX3_as_174 : decode cX3_as 174 = .ok (.aload_n 0, 1) := dk_42 (dk_at dksX3_as_7 14 rfl rfl)
theorem dX3_as_175 : decode cX3_as 175 = .ok (.aload_n 1, 1) := dk_43 (dk_at dksX3_as_7 15 rfl rfl)
theorem dX3_as_176 : decode cX3_as 176 = .ok (.getfield 97, 3) := dk_180 0 97 (dk_at dksX3_as_7 16 rfl rfl)
theorem dX3_as_179 : decode cX3_as 179 = .ok (.putfield 97, 3) := dk_181 0 97 (dk_at dksX3_as_7 19 rfl rfl)
theorem dX3_as_182 : decode cX3_as 182 = .ok (.aload_n 0, 1) := dk_42 (dk_at dksX3_as_7 22 rfl rfl)
theorem dX3_as_183 : decode cX3_as 183 = .ok (.aload_n 1, 1) := dk_43 (dk_at dksX3_as_7 23 rfl rfl)
theorem dX3_as_184 : decode cX3_as 184 = .ok (.getfield 109, 3) := dk_180 0 109 (dk_at dksX3_as_8 0 rfl rfl)
theorem dX3_as_187 : decode cX3_as 187 = .ok (.putfield 109, 3) := dk_181 0 109 (dk_at dksX3_as_8 3 rfl rfl)
theorem dX3_as_190 : decode cX3_as 190 = .ok (.aload_n 0, 1) := dk_42 (dk_at dksX3_as_8 6 rfl rfl)
theorem dX3_as_191 : decode cX3_as 191 = .ok (.aload_n 1, 1) := dk_43 (dk_at dksX3_as_8 7 rfl rfl)
theorem dX3_as_192 : decode cX3_as 192 = .ok (.getfield 64, 3) := dk_180 0 64 (dk_at dksX3_as_8 8 rfl rfl)
theorem dX3_as_195 : decode cX3_as 195 = .ok (.putfield 64, 3) := dk_181 0 64 (dk_at dksX3_as_8 11 rfl rfl)
theorem dX3_as_198 : decode cX3_as 198 = .ok (.aload_n 0, 1) := dk_42 (dk_at dksX3_as_8 14 rfl rfl)
theorem dX3_as_199 : decode cX3_as 199 = .ok (.aload_n 1, 1) := dk_43 (dk_at dksX3_as_8 15 rfl rfl)
theorem dX3_as_200 : decode cX3_as 200 = .ok (.getfield 67, 3) := dk_180 0 67 (dk_at dksX3_as_8 16 rfl rfl)
theorem dX3_as_203 : decode cX3_as 203 = .ok (.putfield 67, 3) := dk_181 0 67 (dk_at dksX3_as_8 19 rfl rfl)
theorem dX3_as_206 : decode cX3_as 206 = .ok (.aload_n 0, 1) := dk_42 (dk_at dksX3_as_8 22 rfl rfl)
theorem dX3_as_207 : decode cX3_as 207 = .ok (.areturn, 1) := dk_176 (dk_at dksX3_as_8 23 rfl rfl)
abbrev cX3_asks : ByteArray := prog_6_method_23_code
def yX3_asks : MethodName := ⟨RX3, "asks", "(IIIZ)I"⟩
def dkwX3_asks_11 : List UInt8 := [182, 0, 74, 160, 0, 8, 42, 2, 181, 0, 109, 21, 6, 172]
abbrev dktX3_asks_11 : List UInt8 := dkwX3_asks_11 ++ []
def dkwX3_asks_10 : List UInt8 := [182, 0, 74, 112, 182, 0, 106, 42, 180, 0, 47, 8, 21, 8, 79, 42, 180, 0, 67, 42, 180, 0, 50]
abbrev dktX3_asks_10 : List UInt8 := dkwX3_asks_10 ++ dktX3_asks_11
def dkwX3_asks_9 : List UInt8 := [180, 0, 47, 8, 46, 54, 8, 42, 21, 7, 153, 0, 7, 27, 167, 0, 14, 27, 4, 96, 42, 180, 0, 50]
abbrev dktX3_asks_9 : List UInt8 := dkwX3_asks_9 ++ dktX3_asks_10
def dkwX3_asks_8 : List UInt8 := [21, 6, 182, 0, 160, 167, 0, 12, 42, 27, 28, 29, 182, 0, 164, 54, 7, 42, 27, 182, 0, 102, 42]
abbrev dktX3_asks_8 : List UInt8 := dkwX3_asks_8 ++ dktX3_asks_9
def dkwX3_asks_7 : List UInt8 := [182, 0, 137, 21, 6, 158, 0, 7, 4, 167, 0, 4, 3, 54, 7, 21, 6, 158, 0, 15, 42, 28, 27, 29]
abbrev dktX3_asks_7 : List UInt8 := dkwX3_asks_7 ++ dktX3_asks_8
def dkwX3_asks_6 : List UInt8 := [180, 0, 64, 4, 96, 181, 0, 64, 42, 180, 0, 29, 27, 92, 46, 4, 96, 79, 42, 27, 29, 4]
abbrev dktX3_asks_6 : List UInt8 := dkwX3_asks_6 ++ dktX3_asks_7
def dkwX3_asks_5 : List UInt8 := [158, 0, 7, 5, 167, 0, 17, 42, 28, 29, 182, 0, 157, 158, 0, 7, 4, 167, 0, 4, 3, 79, 42, 89]
abbrev dktX3_asks_5 : List UInt8 := dkwX3_asks_5 ++ dktX3_asks_6
def dkwX3_asks_4 : List UInt8 := [153, 0, 7, 4, 167, 0, 4, 3, 79, 42, 180, 0, 47, 16, 7, 42, 180, 0, 16, 28, 50, 29, 46]
abbrev dktX3_asks_4 : List UInt8 := dkwX3_asks_4 ++ dktX3_asks_5
def dkwX3_asks_3 : List UInt8 := [42, 180, 0, 47, 7, 2, 79, 42, 180, 0, 47, 8, 2, 79, 42, 180, 0, 47, 16, 6, 21, 5]
abbrev dktX3_asks_3 : List UInt8 := dkwX3_asks_3 ++ dktX3_asks_4
def dkwX3_asks_2 : List UInt8 := [27, 79, 42, 180, 0, 47, 4, 28, 79, 42, 180, 0, 47, 5, 29, 79, 42, 180, 0, 47, 6, 21, 6, 79]
abbrev dktX3_asks_2 : List UInt8 := dkwX3_asks_2 ++ dktX3_asks_3
def dkwX3_asks_1 : List UInt8 := [21, 5, 153, 0, 7, 3, 167, 0, 11, 42, 180, 0, 11, 28, 50, 29, 46, 54, 6, 42, 180, 0, 47, 3]
abbrev dktX3_asks_1 : List UInt8 := dkwX3_asks_1 ++ dktX3_asks_2
def dkwX3_asks_0 : List UInt8 := [21, 4, 153, 0, 18, 42, 180, 0, 11, 28, 50, 29, 46, 158, 0, 7, 4, 167, 0, 4, 3, 54, 5]
abbrev dktX3_asks_0 : List UInt8 := dkwX3_asks_0 ++ dktX3_asks_1
theorem dksX3_asks_0 : cX3_asks.data.toList.drop 0 = dktX3_asks_0 := by decide +kernel
theorem dksX3_asks_1 : cX3_asks.data.toList.drop 23 = dktX3_asks_1 := dk_seg dksX3_asks_0 23 rfl rfl
theorem dksX3_asks_2 : cX3_asks.data.toList.drop 47 = dktX3_asks_2 := dk_seg dksX3_asks_1 24 rfl rfl
theorem dksX3_asks_3 : cX3_asks.data.toList.drop 71 = dktX3_asks_3 := dk_seg dksX3_asks_2 24 rfl rfl
theorem dksX3_asks_4 : cX3_asks.data.toList.drop 93 = dktX3_asks_4 := dk_seg dksX3_asks_3 22 rfl rfl
theorem dksX3_asks_5 : cX3_asks.data.toList.drop 116 = dktX3_asks_5 := dk_seg dksX3_asks_4 23 rfl rfl
theorem dksX3_asks_6 : cX3_asks.data.toList.drop 140 = dktX3_asks_6 := dk_seg dksX3_asks_5 24 rfl rfl
theorem dksX3_asks_7 : cX3_asks.data.toList.drop 162 = dktX3_asks_7 := dk_seg dksX3_asks_6 22 rfl rfl
theorem dksX3_asks_8 : cX3_asks.data.toList.drop 186 = dktX3_asks_8 := dk_seg dksX3_asks_7 24 rfl rfl
theorem dksX3_asks_9 : cX3_asks.data.toList.drop 209 = dktX3_asks_9 := dk_seg dksX3_asks_8 23 rfl rfl
theorem dksX3_asks_10 : cX3_asks.data.toList.drop 233 = dktX3_asks_10 := dk_seg dksX3_asks_9 24 rfl rfl
theorem dksX3_asks_11 : cX3_asks.data.toList.drop 256 = dktX3_asks_11 := dk_seg dksX3_asks_10 23 rfl rfl
theorem dX3_asks_0 : decode cX3_asks 0 = .ok (.iload 4, 2) := dk_21 4 (dk_at dksX3_asks_0 0 rfl rfl)
theorem dX3_asks_2 : decode cX3_asks 2 = .ok (.ifCond .eq 18, 3) := dk_153 0 18 (dk_at dksX3_asks_0 2 rfl rfl)
theorem dX3_asks_5 : decode cX3_asks 5 = .ok (.aload_n 0, 1) := dk_42 (dk_at dksX3_asks_0 5 rfl rfl)
theorem dX3_asks_6 : decode cX3_asks 6 = .ok (.getfield 11, 3) := dk_180 0 11 (dk_at dksX3_asks_0 6 rfl rfl)
theorem dX3_asks_9 : decode cX3_asks 9 = .ok (.iload_n 2, 1) := dk_28 (dk_at dksX3_asks_0 9 rfl rfl)
theorem dX3_asks_10 : decode cX3_asks 10 = .ok (.aaload, 1) := dk_50 (dk_at dksX3_asks_0 10 rfl rfl)
theorem dX3_asks_11 : decode cX3_asks 11 = .ok (.iload_n 3, 1) := dk_29 (dk_at dksX3_asks_0 11 rfl rfl)
theorem dX3_asks_12 : decode cX3_asks 12 = .ok (.iaload, 1) := dk_46 (dk_at dksX3_asks_0 12 rfl rfl)
theorem dX3_asks_13 : decode cX3_asks 13 = .ok (.ifCond .le 7, 3) := dk_158 0 7 (dk_at dksX3_asks_0 13 rfl rfl)
theorem dX3_asks_16 : decode cX3_asks 16 = .ok (.iconst 1, 1) := dk_4 (dk_at dksX3_asks_0 16 rfl rfl)
theorem dX3_asks_17 : decode cX3_asks 17 = .ok (.goto 4, 3) := dk_167 0 4 (dk_at dksX3_asks_0 17 rfl rfl)
theorem dX3_asks_20 : decode cX3_asks 20 = .ok (.iconst 0, 1) := dk_3 (dk_at dksX3_asks_0 20 rfl rfl)
theorem dX3_asks_21 : decode cX3_asks 21 = .ok (.istore 5, 2) := dk_54 5 (dk_at dksX3_asks_0 21 rfl rfl)
theorem dX3_asks_23 : decode cX3_asks 23 = .ok (.iload 5, 2) := dk_21 5 (dk_at dksX3_asks_1 0 rfl rfl)
theorem dX3_asks_25 : decode cX3_asks 25 = .ok (.ifCond .eq 7, 3) := dk_153 0 7 (dk_at dksX3_asks_1 2 rfl rfl)
theorem dX3_asks_28 : decode cX3_asks 28 = .ok (.iconst 0, 1) := dk_3 (dk_at dksX3_asks_1 5 rfl rfl)
theorem dX3_asks_29 : decode cX3_asks 29 = .ok (.goto 11, 3) := dk_167 0 11 (dk_at dksX3_asks_1 6 rfl rfl)
theorem dX3_asks_32 : decode cX3_asks 32 = .ok (.aload_n 0, 1) := dk_42 (dk_at dksX3_asks_1 9 rfl rfl)
theorem dX3_asks_33 : decode cX3_asks 33 = .ok (.getfield 11, 3) := dk_180 0 11 (dk_at dksX3_asks_1 10 rfl rfl)
theorem dX3_asks_36 : decode cX3_asks 36 = .ok (.iload_n 2, 1) := dk_28 (dk_at dksX3_asks_1 13 rfl rfl)
theorem dX3_asks_37 : decode cX3_asks 37 = .ok (.aaload, 1) := dk_50 (dk_at dksX3_asks_1 14 rfl rfl)
theorem dX3_asks_38 : decode cX3_asks 38 = .ok (.iload_n 3, 1) := dk_29 (dk_at dksX3_asks_1 15 rfl rfl)
theorem dX3_asks_39 : decode cX3_asks 39 = .ok (.iaload, 1) := dk_46 (dk_at dksX3_asks_1 16 rfl rfl)
theorem dX3_asks_40 : decode cX3_asks 40 = .ok (.istore 6, 2) := dk_54 6 (dk_at dksX3_asks_1 17 rfl rfl)
theorem dX3_asks_42 : decode cX3_asks 42 = .ok (.aload_n 0, 1) := dk_42 (dk_at dksX3_asks_1 19 rfl rfl)
theorem dX3_asks_43 : decode cX3_asks 43 = .ok (.getfield 47, 3) := dk_180 0 47 (dk_at dksX3_asks_1 20 rfl rfl)
theorem dX3_asks_46 : decode cX3_asks 46 = .ok (.iconst 0, 1) := dk_3 (dk_at dksX3_asks_1 23 rfl rfl)
theorem dX3_asks_47 : decode cX3_asks 47 = .ok (.iload_n 1, 1) := dk_27 (dk_at dksX3_asks_2 0 rfl rfl)
theorem dX3_asks_48 : decode cX3_asks 48 = .ok (.iastore, 1) := dk_79 (dk_at dksX3_asks_2 1 rfl rfl)
theorem dX3_asks_49 : decode cX3_asks 49 = .ok (.aload_n 0, 1) := dk_42 (dk_at dksX3_asks_2 2 rfl rfl)
theorem dX3_asks_50 : decode cX3_asks 50 = .ok (.getfield 47, 3) := dk_180 0 47 (dk_at dksX3_asks_2 3 rfl rfl)
theorem dX3_asks_53 : decode cX3_asks 53 = .ok (.iconst 1, 1) := dk_4 (dk_at dksX3_asks_2 6 rfl rfl)
theorem dX3_asks_54 : decode cX3_asks 54 = .ok (.iload_n 2, 1) := dk_28 (dk_at dksX3_asks_2 7 rfl rfl)
theorem dX3_asks_55 : decode cX3_asks 55 = .ok (.iastore, 1) := dk_79 (dk_at dksX3_asks_2 8 rfl rfl)
theorem dX3_asks_56 : decode cX3_asks 56 = .ok (.aload_n 0, 1) := dk_42 (dk_at dksX3_asks_2 9 rfl rfl)
theorem dX3_asks_57 : decode cX3_asks 57 = .ok (.getfield 47, 3) := dk_180 0 47 (dk_at dksX3_asks_2 10 rfl rfl)
theorem dX3_asks_60 : decode cX3_asks 60 = .ok (.iconst 2, 1) := dk_5 (dk_at dksX3_asks_2 13 rfl rfl)
theorem dX3_asks_61 : decode cX3_asks 61 = .ok (.iload_n 3, 1) := dk_29 (dk_at dksX3_asks_2 14 rfl rfl)
theorem dX3_asks_62 : decode cX3_asks 62 = .ok (.iastore, 1) := dk_79 (dk_at dksX3_asks_2 15 rfl rfl)
theorem dX3_asks_63 : decode cX3_asks 63 = .ok (.aload_n 0, 1) := dk_42 (dk_at dksX3_asks_2 16 rfl rfl)
theorem dX3_asks_64 : decode cX3_asks 64 = .ok (.getfield 47, 3) := dk_180 0 47 (dk_at dksX3_asks_2 17 rfl rfl)
theorem dX3_asks_67 : decode cX3_asks 67 = .ok (.iconst 3, 1) := dk_6 (dk_at dksX3_asks_2 20 rfl rfl)
theorem dX3_asks_68 : decode cX3_asks 68 = .ok (.iload 6, 2) := dk_21 6 (dk_at dksX3_asks_2 21 rfl rfl)
theorem dX3_asks_70 : decode cX3_asks 70 = .ok (.iastore, 1) := dk_79 (dk_at dksX3_asks_2 23 rfl rfl)
theorem dX3_asks_71 : decode cX3_asks 71 = .ok (.aload_n 0, 1) := dk_42 (dk_at dksX3_asks_3 0 rfl rfl)
theorem dX3_asks_72 : decode cX3_asks 72 = .ok (.getfield 47, 3) := dk_180 0 47 (dk_at dksX3_asks_3 1 rfl rfl)
theorem dX3_asks_75 : decode cX3_asks 75 = .ok (.iconst 4, 1) := dk_7 (dk_at dksX3_asks_3 4 rfl rfl)
theorem dX3_asks_76 : decode cX3_asks 76 = .ok (.iconst (-1), 1) := dk_2 (dk_at dksX3_asks_3 5 rfl rfl)
theorem dX3_asks_77 : decode cX3_asks 77 = .ok (.iastore, 1) := dk_79 (dk_at dksX3_asks_3 6 rfl rfl)
theorem dX3_asks_78 : decode cX3_asks 78 = .ok (.aload_n 0, 1) := dk_42 (dk_at dksX3_asks_3 7 rfl rfl)
theorem dX3_asks_79 : decode cX3_asks 79 = .ok (.getfield 47, 3) := dk_180 0 47 (dk_at dksX3_asks_3 8 rfl rfl)
theorem dX3_asks_82 : decode cX3_asks 82 = .ok (.iconst 5, 1) := dk_8 (dk_at dksX3_asks_3 11 rfl rfl)
theorem dX3_asks_83 : decode cX3_asks 83 = .ok (.iconst (-1), 1) := dk_2 (dk_at dksX3_asks_3 12 rfl rfl)
theorem dX3_asks_84 : decode cX3_asks 84 = .ok (.iastore, 1) := dk_79 (dk_at dksX3_asks_3 13 rfl rfl)
theorem dX3_asks_85 : decode cX3_asks 85 = .ok (.aload_n 0, 1) := dk_42 (dk_at dksX3_asks_3 14 rfl rfl)
theorem dX3_asks_86 : decode cX3_asks 86 = .ok (.getfield 47, 3) := dk_180 0 47 (dk_at dksX3_asks_3 15 rfl rfl)
theorem dX3_asks_89 : decode cX3_asks 89 = .ok (.bipush 6, 2) := dk_16 6 (dk_at dksX3_asks_3 18 rfl rfl)
theorem dX3_asks_91 : decode cX3_asks 91 = .ok (.iload 5, 2) := dk_21 5 (dk_at dksX3_asks_3 20 rfl rfl)
theorem dX3_asks_93 : decode cX3_asks 93 = .ok (.ifCond .eq 7, 3) := dk_153 0 7 (dk_at dksX3_asks_4 0 rfl rfl)
theorem dX3_asks_96 : decode cX3_asks 96 = .ok (.iconst 1, 1) := dk_4 (dk_at dksX3_asks_4 3 rfl rfl)
theorem dX3_asks_97 : decode cX3_asks 97 = .ok (.goto 4, 3) := dk_167 0 4 (dk_at dksX3_asks_4 4 rfl rfl)
theorem dX3_asks_100 : decode cX3_asks 100 = .ok (.iconst 0, 1) := dk_3 (dk_at dksX3_asks_4 7 rfl rfl)
theorem dX3_asks_101 : decode cX3_asks 101 = .ok (.iastore, 1) := dk_79 (dk_at dksX3_asks_4 8 rfl rfl)
theorem dX3_asks_102 : decode cX3_asks 102 = .ok (.aload_n 0, 1) := dk_42 (dk_at dksX3_asks_4 9 rfl rfl)
theorem dX3_asks_103 : decode cX3_asks 103 = .ok (.getfield 47, 3) := dk_180 0 47 (dk_at dksX3_asks_4 10 rfl rfl)
theorem dX3_asks_106 : decode cX3_asks 106 = .ok (.bipush 7, 2) := dk_16 7 (dk_at dksX3_asks_4 13 rfl rfl)
theorem dX3_asks_108 : decode cX3_asks 108 = .ok (.aload_n 0, 1) := dk_42 (dk_at dksX3_asks_4 15 rfl rfl)
theorem dX3_asks_109 : decode cX3_asks 109 = .ok (.getfield 16, 3) := dk_180 0 16 (dk_at dksX3_asks_4 16 rfl rfl)
theorem dX3_asks_112 : decode cX3_asks 112 = .ok (.iload_n 2, 1) := dk_28 (dk_at dksX3_asks_4 19 rfl rfl)
theorem dX3_asks_113 : decode cX3_asks 113 = .ok (.aaload, 1) := dk_50 (dk_at dksX3_asks_4 20 rfl rfl)
theorem dX3_asks_114 : decode cX3_asks 114 = .ok (.iload_n 3, 1) := dk_29 (dk_at dksX3_asks_4 21 rfl rfl)
theorem dX3_asks_115 : decode cX3_asks 115 = .ok (.iaload, 1) := dk_46 (dk_at dksX3_asks_4 22 rfl rfl)
theorem dX3_asks_116 : decode cX3_asks 116 = .ok (.ifCond .le 7, 3) := dk_158 0 7 (dk_at dksX3_asks_5 0 rfl rfl)
theorem dX3_asks_119 : decode cX3_asks 119 = .ok (.iconst 2, 1) := dk_5 (dk_at dksX3_asks_5 3 rfl rfl)
theorem dX3_asks_120 : decode cX3_asks 120 = .ok (.goto 17, 3) := dk_167 0 17 (dk_at dksX3_asks_5 4 rfl rfl)
theorem dX3_asks_123 : decode cX3_asks 123 = .ok (.aload_n 0, 1) := dk_42 (dk_at dksX3_asks_5 7 rfl rfl)
theorem dX3_asks_124 : decode cX3_asks 124 = .ok (.iload_n 2, 1) := dk_28 (dk_at dksX3_asks_5 8 rfl rfl)
theorem dX3_asks_125 : decode cX3_asks 125 = .ok (.iload_n 3, 1) := dk_29 (dk_at dksX3_asks_5 9 rfl rfl)
theorem dX3_asks_126 : decode cX3_asks 126 = .ok (.invokevirtual 157, 3) := dk_182 0 157 (dk_at dksX3_asks_5 10 rfl rfl)
theorem dX3_asks_129 : decode cX3_asks 129 = .ok (.ifCond .le 7, 3) := dk_158 0 7 (dk_at dksX3_asks_5 13 rfl rfl)
theorem dX3_asks_132 : decode cX3_asks 132 = .ok (.iconst 1, 1) := dk_4 (dk_at dksX3_asks_5 16 rfl rfl)
theorem dX3_asks_133 : decode cX3_asks 133 = .ok (.goto 4, 3) := dk_167 0 4 (dk_at dksX3_asks_5 17 rfl rfl)
theorem dX3_asks_136 : decode cX3_asks 136 = .ok (.iconst 0, 1) := dk_3 (dk_at dksX3_asks_5 20 rfl rfl)
theorem dX3_asks_137 : decode cX3_asks 137 = .ok (.iastore, 1) := dk_79 (dk_at dksX3_asks_5 21 rfl rfl)
theorem dX3_asks_138 : decode cX3_asks 138 = .ok (.aload_n 0, 1) := dk_42 (dk_at dksX3_asks_5 22 rfl rfl)
theorem dX3_asks_139 : decode cX3_asks 139 = .ok (.dup, 1) := dk_89 (dk_at dksX3_asks_5 23 rfl rfl)
theorem dX3_asks_140 : decode cX3_asks 140 = .ok (.getfield 64, 3) := dk_180 0 64 (dk_at dksX3_asks_6 0 rfl rfl)
theorem dX3_asks_143 : decode cX3_asks 143 = .ok (.iconst 1, 1) := dk_4 (dk_at dksX3_asks_6 3 rfl rfl)
theorem dX3_asks_144 : decode cX3_asks 144 = .ok (.iadd, 1) := dk_96 (dk_at dksX3_asks_6 4 rfl rfl)
theorem dX3_asks_145 : decode cX3_asks 145 = .ok (.putfield 64, 3) := dk_181 0 64 (dk_at dksX3_asks_6 5 rfl rfl)
theorem dX3_asks_148 : decode cX3_asks 148 = .ok (.aload_n 0, 1) := dk_42 (dk_at dksX3_asks_6 8 rfl rfl)
theorem dX3_asks_149 : decode cX3_asks 149 = .ok (.getfield 29, 3) := dk_180 0 29 (dk_at dksX3_asks_6 9 rfl rfl)
theorem dX3_asks_152 : decode cX3_asks 152 = .ok (.iload_n 1, 1) := dk_27 (dk_at dksX3_asks_6 12 rfl rfl)
theorem dX3_asks_153 : decode cX3_asks 153 = .ok (.dup2, 1) := dk_92 (dk_at dksX3_asks_6 13 rfl rfl)
theorem dX3_asks_154 : decode cX3_asks 154 = .ok (.iaload, 1) := dk_46 (dk_at dksX3_asks_6 14 rfl rfl)
theorem dX3_asks_155 : decode cX3_asks 155 = .ok (.iconst 1, 1) := dk_4 (dk_at dksX3_asks_6 15 rfl rfl)
theorem dX3_asks_156 : decode cX3_asks 156 = .ok (.iadd, 1) := dk_96 (dk_at dksX3_asks_6 16 rfl rfl)
theorem dX3_asks_157 : decode cX3_asks 157 = .ok (.iastore, 1) := dk_79 (dk_at dksX3_asks_6 17 rfl rfl)
theorem dX3_asks_158 : decode cX3_asks 158 = .ok (.aload_n 0, 1) := dk_42 (dk_at dksX3_asks_6 18 rfl rfl)
theorem dX3_asks_159 : decode cX3_asks 159 = .ok (.iload_n 1, 1) := dk_27 (dk_at dksX3_asks_6 19 rfl rfl)
theorem dX3_asks_160 : decode cX3_asks 160 = .ok (.iload_n 3, 1) := dk_29 (dk_at dksX3_asks_6 20 rfl rfl)
theorem dX3_asks_161 : decode cX3_asks 161 = .ok (.iconst 1, 1) := dk_4 (dk_at dksX3_asks_6 21 rfl rfl)
theorem dX3_asks_162 : decode cX3_asks 162 = .ok (.invokevirtual 137, 3) := dk_182 0 137 (dk_at dksX3_asks_7 0 rfl rfl)
theorem dX3_asks_165 : decode cX3_asks 165 = .ok (.iload 6, 2) := dk_21 6 (dk_at dksX3_asks_7 3 rfl rfl)
theorem dX3_asks_167 : decode cX3_asks 167 = .ok (.ifCond .le 7, 3) := dk_158 0 7 (dk_at dksX3_asks_7 5 rfl rfl)
theorem dX3_asks_170 : decode cX3_asks 170 = .ok (.iconst 1, 1) := dk_4 (dk_at dksX3_asks_7 8 rfl rfl)
theorem dX3_asks_171 : decode cX3_asks 171 = .ok (.goto 4, 3) := dk_167 0 4 (dk_at dksX3_asks_7 9 rfl rfl)
theorem dX3_asks_174 : decode cX3_asks 174 = .ok (.iconst 0, 1) := dk_3 (dk_at dksX3_asks_7 12 rfl rfl)
theorem dX3_asks_175 : decode cX3_asks 175 = .ok (.istore 7, 2) := dk_54 7 (dk_at dksX3_asks_7 13 rfl rfl)
theorem dX3_asks_177 : decode cX3_asks 177 = .ok (.iload 6, 2) := dk_21 6 (dk_at dksX3_asks_7 15 rfl rfl)
theorem dX3_asks_179 : decode cX3_asks 179 = .ok (.ifCond .le 15, 3) := dk_158 0 15 (dk_at dksX3_asks_7 17 rfl rfl)
theorem dX3_asks_182 : decode cX3_asks 182 = .ok (.aload_n 0, 1) := dk_42 (dk_at dksX3_asks_7 20 rfl rfl)
theorem dX3_asks_183 : decode cX3_asks 183 = .ok (.iload_n 2, 1) := dk_28 (dk_at dksX3_asks_7 21 rfl rfl)
theorem dX3_asks_184 : decode cX3_asks 184 = .ok (.iload_n 1, 1) := dk_27 (dk_at dksX3_asks_7 22 rfl rfl)
theorem dX3_asks_185 : decode cX3_asks 185 = .ok (.iload_n 3, 1) := dk_29 (dk_at dksX3_asks_7 23 rfl rfl)
theorem dX3_asks_186 : decode cX3_asks 186 = .ok (.iload 6, 2) := dk_21 6 (dk_at dksX3_asks_8 0 rfl rfl)
theorem dX3_asks_188 : decode cX3_asks 188 = .ok (.invokevirtual 160, 3) := dk_182 0 160 (dk_at dksX3_asks_8 2 rfl rfl)
theorem dX3_asks_191 : decode cX3_asks 191 = .ok (.goto 12, 3) := dk_167 0 12 (dk_at dksX3_asks_8 5 rfl rfl)
theorem dX3_asks_194 : decode cX3_asks 194 = .ok (.aload_n 0, 1) := dk_42 (dk_at dksX3_asks_8 8 rfl rfl)
theorem dX3_asks_195 : decode cX3_asks 195 = .ok (.iload_n 1, 1) := dk_27 (dk_at dksX3_asks_8 9 rfl rfl)
theorem dX3_asks_196 : decode cX3_asks 196 = .ok (.iload_n 2, 1) := dk_28 (dk_at dksX3_asks_8 10 rfl rfl)
theorem dX3_asks_197 : decode cX3_asks 197 = .ok (.iload_n 3, 1) := dk_29 (dk_at dksX3_asks_8 11 rfl rfl)
theorem dX3_asks_198 : decode cX3_asks 198 = .ok (.invokevirtual 164, 3) := dk_182 0 164 (dk_at dksX3_asks_8 12 rfl rfl)
theorem dX3_asks_201 : decode cX3_asks 201 = .ok (.istore 7, 2) := dk_54 7 (dk_at dksX3_asks_8 15 rfl rfl)
theorem dX3_asks_203 : decode cX3_asks 203 = .ok (.aload_n 0, 1) := dk_42 (dk_at dksX3_asks_8 17 rfl rfl)
theorem dX3_asks_204 : decode cX3_asks 204 = .ok (.iload_n 1, 1) := dk_27 (dk_at dksX3_asks_8 18 rfl rfl)
theorem dX3_asks_205 : decode cX3_asks 205 = .ok (.invokevirtual 102, 3) := dk_182 0 102 (dk_at dksX3_asks_8 19 rfl rfl)
theorem dX3_asks_208 : decode cX3_asks 208 = .ok (.aload_n 0, 1) := dk_42 (dk_at dksX3_asks_8 22 rfl rfl)
theorem dX3_asks_209 : decode cX3_asks 209 = .ok (.getfield 47, 3) := dk_180 0 47 (dk_at dksX3_asks_9 0 rfl rfl)
theorem dX3_asks_212 : decode cX3_asks 212 = .ok (.iconst 5, 1) := dk_8 (dk_at dksX3_asks_9 3 rfl rfl)
theorem dX3_asks_213 : decode cX3_asks 213 = .ok (.iaload, 1) := dk_46 (dk_at dksX3_asks_9 4 rfl rfl)
theorem dX3_asks_214 : decode cX3_asks 214 = .ok (.istore 8, 2) := dk_54 8 (dk_at dksX3_asks_9 5 rfl rfl)
theorem dX3_asks_216 : decode cX3_asks 216 = .ok (.aload_n 0, 1) := dk_42 (dk_at dksX3_asks_9 7 rfl rfl)
theorem dX3_asks_217 : decode cX3_asks 217 = .ok (.iload 7, 2) := dk_21 7 (dk_at dksX3_asks_9 8 rfl rfl)
theorem dX3_asks_219 : decode cX3_asks 219 = .ok (.ifCond .eq 7, 3) := dk_153 0 7 (dk_at dksX3_asks_9 10 rfl rfl)
theorem dX3_asks_222 : decode cX3_asks 222 = .ok (.iload_n 1, 1) := dk_27 (dk_at dksX3_asks_9 13 rfl rfl)
theorem dX3_asks_223 : decode cX3_asks 223 = .ok (.goto 14, 3) := dk_167 0 14 (dk_at dksX3_asks_9 14 rfl rfl)
theorem dX3_asks_226 : decode cX3_asks 226 = .ok (.iload_n 1, 1) := dk_27 (dk_at dksX3_asks_9 17 rfl rfl)
theorem dX3_asks_227 : decode cX3_asks 227 = .ok (.iconst 1, 1) := dk_4 (dk_at dksX3_asks_9 18 rfl rfl)
theorem dX3_asks_228 : decode cX3_asks 228 = .ok (.iadd, 1) := dk_96 (dk_at dksX3_asks_9 19 rfl rfl)
theorem dX3_asks_229 : decode cX3_asks 229 = .ok (.aload_n 0, 1) := dk_42 (dk_at dksX3_asks_9 20 rfl rfl)
theorem dX3_asks_230 : decode cX3_asks 230 = .ok (.getfield 50, 3) := dk_180 0 50 (dk_at dksX3_asks_9 21 rfl rfl)
theorem dX3_asks_233 : decode cX3_asks 233 = .ok (.invokevirtual 74, 3) := dk_182 0 74 (dk_at dksX3_asks_10 0 rfl rfl)
theorem dX3_asks_236 : decode cX3_asks 236 = .ok (.irem, 1) := dk_112 (dk_at dksX3_asks_10 3 rfl rfl)
theorem dX3_asks_237 : decode cX3_asks 237 = .ok (.invokevirtual 106, 3) := dk_182 0 106 (dk_at dksX3_asks_10 4 rfl rfl)
theorem dX3_asks_240 : decode cX3_asks 240 = .ok (.aload_n 0, 1) := dk_42 (dk_at dksX3_asks_10 7 rfl rfl)
theorem dX3_asks_241 : decode cX3_asks 241 = .ok (.getfield 47, 3) := dk_180 0 47 (dk_at dksX3_asks_10 8 rfl rfl)
theorem dX3_asks_244 : decode cX3_asks 244 = .ok (.iconst 5, 1) := dk_8 (dk_at dksX3_asks_10 11 rfl rfl)
theorem dX3_asks_245 : decode cX3_asks 245 = .ok (.iload 8, 2) := dk_21 8 (dk_at dksX3_asks_10 12 rfl rfl)
theorem dX3_asks_247 : decode cX3_asks 247 = .ok (.iastore, 1) := dk_79 (dk_at dksX3_asks_10 14 rfl rfl)
theorem dX3_asks_248 : decode cX3_asks 248 = .ok (.aload_n 0, 1) := dk_42 (dk_at dksX3_asks_10 15 rfl rfl)
theorem dX3_asks_249 : decode cX3_asks 249 = .ok (.getfield 67, 3) := dk_180 0 67 (dk_at dksX3_asks_10 16 rfl rfl)
theorem dX3_asks_252 : decode cX3_asks 252 = .ok (.aload_n 0, 1) := dk_42 (dk_at dksX3_asks_10 19 rfl rfl)
theorem dX3_asks_253 : decode cX3_asks 253 = .ok (.getfield 50, 3) := dk_180 0 50 (dk_at dksX3_asks_10 20 rfl rfl)
theorem dX3_asks_256 : decode cX3_asks 256 = .ok (.invokevirtual 74, 3) := dk_182 0 74 (dk_at dksX3_asks_11 0 rfl rfl)
theorem dX3_asks_259 : decode cX3_asks 259 = .ok (.if_icmp .ne 8, 3) := dk_160 0 8 (dk_at dksX3_asks_11 3 rfl rfl)
theorem dX3_asks_262 : decode cX3_asks 262 = .ok (.aload_n 0, 1) := dk_42 (dk_at dksX3_asks_11 6 rfl rfl)
theorem dX3_asks_263 : decode cX3_asks 263 = .ok (.iconst (-1), 1) := dk_2 (dk_at dksX3_asks_11 7 rfl rfl)
theorem dX3_asks_264 : decode cX3_asks 264 = .ok (.putfield 109, 3) := dk_181 0 109 (dk_at dksX3_asks_11 8 rfl rfl)
theorem dX3_asks_267 : decode cX3_asks 267 = .ok (.iload 6, 2) := dk_21 6 (dk_at dksX3_asks_11 11 rfl rfl)
theorem dX3_asks_269 : decode cX3_asks 269 = .ok (.ireturn, 1) := dk_172 (dk_at dksX3_asks_11 13 rfl rfl)
abbrev cX3_can : ByteArray := prog_6_method_18_code
def yX3_can : MethodName := ⟨RX3, "can", "(II)I"⟩
def dkwX3_can_1 : List UInt8 := [46, 28, 184, 0, 118, 154, 0, 6, 132, 3, 1, 132, 4, 1, 167, 255, 223, 29, 172]
abbrev dktX3_can_1 : List UInt8 := dkwX3_can_1 ++ []
def dkwX3_can_0 : List UInt8 := [3, 62, 3, 54, 4, 21, 4, 42, 180, 0, 22, 27, 46, 162, 0, 28, 42, 180, 0, 19, 27, 50, 21, 4]
abbrev dktX3_can_0 : List UInt8 := dkwX3_can_0 ++ dktX3_can_1
theorem dksX3_can_0 : cX3_can.data.toList.drop 0 = dktX3_can_0 := by decide +kernel
theorem dksX3_can_1 : cX3_can.data.toList.drop 24 = dktX3_can_1 := dk_seg dksX3_can_0 24 rfl rfl
theorem dX3_can_0 : decode cX3_can 0 = .ok (.iconst 0, 1) := dk_3 (dk_at dksX3_can_0 0 rfl rfl)
theorem dX3_can_1 : decode cX3_can 1 = .ok (.istore_n 3, 1) := dk_62 (dk_at dksX3_can_0 1 rfl rfl)
theorem dX3_can_2 : decode cX3_can 2 = .ok (.iconst 0, 1) := dk_3 (dk_at dksX3_can_0 2 rfl rfl)
theorem dX3_can_3 : decode cX3_can 3 = .ok (.istore 4, 2) := dk_54 4 (dk_at dksX3_can_0 3 rfl rfl)
theorem dX3_can_5 : decode cX3_can 5 = .ok (.iload 4, 2) := dk_21 4 (dk_at dksX3_can_0 5 rfl rfl)
theorem dX3_can_7 : decode cX3_can 7 = .ok (.aload_n 0, 1) := dk_42 (dk_at dksX3_can_0 7 rfl rfl)
theorem dX3_can_8 : decode cX3_can 8 = .ok (.getfield 22, 3) := dk_180 0 22 (dk_at dksX3_can_0 8 rfl rfl)
theorem dX3_can_11 : decode cX3_can 11 = .ok (.iload_n 1, 1) := dk_27 (dk_at dksX3_can_0 11 rfl rfl)
theorem dX3_can_12 : decode cX3_can 12 = .ok (.iaload, 1) := dk_46 (dk_at dksX3_can_0 12 rfl rfl)
theorem dX3_can_13 : decode cX3_can 13 = .ok (.if_icmp .ge 28, 3) := dk_162 0 28 (dk_at dksX3_can_0 13 rfl rfl)
theorem dX3_can_16 : decode cX3_can 16 = .ok (.aload_n 0, 1) := dk_42 (dk_at dksX3_can_0 16 rfl rfl)
theorem dX3_can_17 : decode cX3_can 17 = .ok (.getfield 19, 3) := dk_180 0 19 (dk_at dksX3_can_0 17 rfl rfl)
theorem dX3_can_20 : decode cX3_can 20 = .ok (.iload_n 1, 1) := dk_27 (dk_at dksX3_can_0 20 rfl rfl)
theorem dX3_can_21 : decode cX3_can 21 = .ok (.aaload, 1) := dk_50 (dk_at dksX3_can_0 21 rfl rfl)
theorem dX3_can_22 : decode cX3_can 22 = .ok (.iload 4, 2) := dk_21 4 (dk_at dksX3_can_0 22 rfl rfl)
theorem dX3_can_24 : decode cX3_can 24 = .ok (.iaload, 1) := dk_46 (dk_at dksX3_can_1 0 rfl rfl)
theorem dX3_can_25 : decode cX3_can 25 = .ok (.iload_n 2, 1) := dk_28 (dk_at dksX3_can_1 1 rfl rfl)
theorem dX3_can_26 : decode cX3_can 26 = .ok (.invokestatic 118, 3) := dk_184 0 118 (dk_at dksX3_can_1 2 rfl rfl)
theorem dX3_can_29 : decode cX3_can 29 = .ok (.ifCond .ne 6, 3) := dk_154 0 6 (dk_at dksX3_can_1 5 rfl rfl)
theorem dX3_can_32 : decode cX3_can 32 = .ok (.iinc 3 1, 3) := dk_132 3 1 (dk_at dksX3_can_1 8 rfl rfl)
theorem dX3_can_35 : decode cX3_can 35 = .ok (.iinc 4 1, 3) := dk_132 4 1 (dk_at dksX3_can_1 11 rfl rfl)
theorem dX3_can_38 : decode cX3_can 38 = .ok (.goto (-33), 3) := dk_167 255 223 (dk_at dksX3_can_1 14 rfl rfl)
theorem dX3_can_41 : decode cX3_can 41 = .ok (.iload_n 3, 1) := dk_29 (dk_at dksX3_can_1 17 rfl rfl)
theorem dX3_can_42 : decode cX3_can 42 = .ok (.ireturn, 1) := dk_172 (dk_at dksX3_can_1 18 rfl rfl)
abbrev cX3_gives : ByteArray := prog_6_method_24_code
def yX3_gives : MethodName := ⟨RX3, "gives", "(IIII)V"⟩
def dkwX3_gives_3 : List UInt8 := [3, 181, 0, 67, 177]
abbrev dktX3_gives_3 : List UInt8 := dkwX3_gives_3 ++ []
def dkwX3_gives_2 : List UInt8 := [180, 0, 11, 28, 50, 29, 92, 46, 21, 4, 96, 79, 42, 180, 0, 32, 28, 92, 46, 21, 4, 96, 79, 42]
abbrev dktX3_gives_2 : List UInt8 := dkwX3_gives_2 ++ dktX3_gives_3
def dkwX3_gives_1 : List UInt8 := [180, 0, 16, 28, 50, 29, 92, 46, 21, 4, 96, 79, 42, 180, 0, 11, 27, 50, 29, 3, 79, 42]
abbrev dktX3_gives_1 : List UInt8 := dkwX3_gives_1 ++ dktX3_gives_2
def dkwX3_gives_0 : List UInt8 := [42, 27, 29, 21, 4, 182, 0, 137, 42, 180, 0, 16, 27, 50, 29, 3, 79, 42, 27, 29, 182, 0, 168, 42]
abbrev dktX3_gives_0 : List UInt8 := dkwX3_gives_0 ++ dktX3_gives_1
theorem dksX3_gives_0 : cX3_gives.data.toList.drop 0 = dktX3_gives_0 := by decide +kernel
theorem dksX3_gives_1 : cX3_gives.data.toList.drop 24 = dktX3_gives_1 := dk_seg dksX3_gives_0 24 rfl rfl
theorem dksX3_gives_2 : cX3_gives.data.toList.drop 46 = dktX3_gives_2 := dk_seg dksX3_gives_1 22 rfl rfl
theorem dksX3_gives_3 : cX3_gives.data.toList.drop 70 = dktX3_gives_3 := dk_seg dksX3_gives_2 24 rfl rfl
theorem dX3_gives_0 : decode cX3_gives 0 = .ok (.aload_n 0, 1) := dk_42 (dk_at dksX3_gives_0 0 rfl rfl)
theorem dX3_gives_1 : decode cX3_gives 1 = .ok (.iload_n 1, 1) := dk_27 (dk_at dksX3_gives_0 1 rfl rfl)
theorem dX3_gives_2 : decode cX3_gives 2 = .ok (.iload_n 3, 1) := dk_29 (dk_at dksX3_gives_0 2 rfl rfl)
theorem dX3_gives_3 : decode cX3_gives 3 = .ok (.iload 4, 2) := dk_21 4 (dk_at dksX3_gives_0 3 rfl rfl)
theorem dX3_gives_5 : decode cX3_gives 5 = .ok (.invokevirtual 137, 3) := dk_182 0 137 (dk_at dksX3_gives_0 5 rfl rfl)
theorem dX3_gives_8 : decode cX3_gives 8 = .ok (.aload_n 0, 1) := dk_42 (dk_at dksX3_gives_0 8 rfl rfl)
theorem dX3_gives_9 : decode cX3_gives 9 = .ok (.getfield 16, 3) := dk_180 0 16 (dk_at dksX3_gives_0 9 rfl rfl)
theorem dX3_gives_12 : decode cX3_gives 12 = .ok (.iload_n 1, 1) := dk_27 (dk_at dksX3_gives_0 12 rfl rfl)
theorem dX3_gives_13 : decode cX3_gives 13 = .ok (.aaload, 1) := dk_50 (dk_at dksX3_gives_0 13 rfl rfl)
theorem dX3_gives_14 : decode cX3_gives 14 = .ok (.iload_n 3, 1) := dk_29 (dk_at dksX3_gives_0 14 rfl rfl)
theorem dX3_gives_15 : decode cX3_gives 15 = .ok (.iconst 0, 1) := dk_3 (dk_at dksX3_gives_0 15 rfl rfl)
theorem dX3_gives_16 : decode cX3_gives 16 = .ok (.iastore, 1) := dk_79 (dk_at dksX3_gives_0 16 rfl rfl)
theorem dX3_gives_17 : decode cX3_gives 17 = .ok (.aload_n 0, 1) := dk_42 (dk_at dksX3_gives_0 17 rfl rfl)
theorem dX3_gives_18 : decode cX3_gives 18 = .ok (.iload_n 1, 1) := dk_27 (dk_at dksX3_gives_0 18 rfl rfl)
theorem dX3_gives_19 : decode cX3_gives 19 = .ok (.iload_n 3, 1) := dk_29 (dk_at dksX3_gives_0 19 rfl rfl)
theorem dX3_gives_20 : decode cX3_gives 20 = .ok (.invokevirtual 168, 3) := dk_182 0 168 (dk_at dksX3_gives_0 20 rfl rfl)
theorem dX3_gives_23 : decode cX3_gives 23 = .ok (.aload_n 0, 1) := dk_42 (dk_at dksX3_gives_0 23 rfl rfl)
theorem dX3_gives_24 : decode cX3_gives 24 = .ok (.getfield 16, 3) := dk_180 0 16 (dk_at dksX3_gives_1 0 rfl rfl)
theorem dX3_gives_27 : decode cX3_gives 27 = .ok (.iload_n 2, 1) := dk_28 (dk_at dksX3_gives_1 3 rfl rfl)
theorem dX3_gives_28 : decode cX3_gives 28 = .ok (.aaload, 1) := dk_50 (dk_at dksX3_gives_1 4 rfl rfl)
theorem dX3_gives_29 : decode cX3_gives 29 = .ok (.iload_n 3, 1) := dk_29 (dk_at dksX3_gives_1 5 rfl rfl)
theorem dX3_gives_30 : decode cX3_gives 30 = .ok (.dup2, 1) := dk_92 (dk_at dksX3_gives_1 6 rfl rfl)
theorem dX3_gives_31 : decode cX3_gives 31 = .ok (.iaload, 1) := dk_46 (dk_at dksX3_gives_1 7 rfl rfl)
theorem dX3_gives_32 : decode cX3_gives 32 = .ok (.iload 4, 2) := dk_21 4 (dk_at dksX3_gives_1 8 rfl rfl)
theorem dX3_gives_34 : decode cX3_gives 34 = .ok (.iadd, 1) := dk_96 (dk_at dksX3_gives_1 10 rfl rfl)
theorem dX3_gives_35 : decode cX3_gives 35 = .ok (.iastore, 1) := dk_79 (dk_at dksX3_gives_1 11 rfl rfl)
theorem dX3_gives_36 : decode cX3_gives 36 = .ok (.aload_n 0, 1) := dk_42 (dk_at dksX3_gives_1 12 rfl rfl)
theorem dX3_gives_37 : decode cX3_gives 37 = .ok (.getfield 11, 3) := dk_180 0 11 (dk_at dksX3_gives_1 13 rfl rfl)
theorem dX3_gives_40 : decode cX3_gives 40 = .ok (.iload_n 1, 1) := dk_27 (dk_at dksX3_gives_1 16 rfl rfl)
theorem dX3_gives_41 : decode cX3_gives 41 = .ok (.aaload, 1) := dk_50 (dk_at dksX3_gives_1 17 rfl rfl)
theorem dX3_gives_42 : decode cX3_gives 42 = .ok (.iload_n 3, 1) := dk_29 (dk_at dksX3_gives_1 18 rfl rfl)
theorem dX3_gives_43 : decode cX3_gives 43 = .ok (.iconst 0, 1) := dk_3 (dk_at dksX3_gives_1 19 rfl rfl)
theorem dX3_gives_44 : decode cX3_gives 44 = .ok (.iastore, 1) := dk_79 (dk_at dksX3_gives_1 20 rfl rfl)
theorem dX3_gives_45 : decode cX3_gives 45 = .ok (.aload_n 0, 1) := dk_42 (dk_at dksX3_gives_1 21 rfl rfl)
theorem dX3_gives_46 : decode cX3_gives 46 = .ok (.getfield 11, 3) := dk_180 0 11 (dk_at dksX3_gives_2 0 rfl rfl)
theorem dX3_gives_49 : decode cX3_gives 49 = .ok (.iload_n 2, 1) := dk_28 (dk_at dksX3_gives_2 3 rfl rfl)
theorem dX3_gives_50 : decode cX3_gives 50 = .ok (.aaload, 1) := dk_50 (dk_at dksX3_gives_2 4 rfl rfl)
theorem dX3_gives_51 : decode cX3_gives 51 = .ok (.iload_n 3, 1) := dk_29 (dk_at dksX3_gives_2 5 rfl rfl)
theorem dX3_gives_52 : decode cX3_gives 52 = .ok (.dup2, 1) := dk_92 (dk_at dksX3_gives_2 6 rfl rfl)
theorem dX3_gives_53 : decode cX3_gives 53 = .ok (.iaload, 1) := dk_46 (dk_at dksX3_gives_2 7 rfl rfl)
theorem dX3_gives_54 : decode cX3_gives 54 = .ok (.iload 4, 2) := dk_21 4 (dk_at dksX3_gives_2 8 rfl rfl)
theorem dX3_gives_56 : decode cX3_gives 56 = .ok (.iadd, 1) := dk_96 (dk_at dksX3_gives_2 10 rfl rfl)
theorem dX3_gives_57 : decode cX3_gives 57 = .ok (.iastore, 1) := dk_79 (dk_at dksX3_gives_2 11 rfl rfl)
theorem dX3_gives_58 : decode cX3_gives 58 = .ok (.aload_n 0, 1) := dk_42 (dk_at dksX3_gives_2 12 rfl rfl)
theorem dX3_gives_59 : decode cX3_gives 59 = .ok (.getfield 32, 3) := dk_180 0 32 (dk_at dksX3_gives_2 13 rfl rfl)
theorem dX3_gives_62 : decode cX3_gives 62 = .ok (.iload_n 2, 1) := dk_28 (dk_at dksX3_gives_2 16 rfl rfl)
theorem dX3_gives_63 : decode cX3_gives 63 = .ok (.dup2, 1) := dk_92 (dk_at dksX3_gives_2 17 rfl rfl)
theorem dX3_gives_64 : decode cX3_gives 64 = .ok (.iaload, 1) := dk_46 (dk_at dksX3_gives_2 18 rfl rfl)
theorem dX3_gives_65 : decode cX3_gives 65 = .ok (.iload 4, 2) := dk_21 4 (dk_at dksX3_gives_2 19 rfl rfl)
theorem dX3_gives_67 : decode cX3_gives 67 = .ok (.iadd, 1) := dk_96 (dk_at dksX3_gives_2 21 rfl rfl)
theorem dX3_gives_68 : decode cX3_gives 68 = .ok (.iastore, 1) := dk_79 (dk_at dksX3_gives_2 22 rfl rfl)
theorem dX3_gives_69 : decode cX3_gives 69 = .ok (.aload_n 0, 1) := dk_42 (dk_at dksX3_gives_2 23 rfl rfl)
theorem dX3_gives_70 : decode cX3_gives 70 = .ok (.iconst 0, 1) := dk_3 (dk_at dksX3_gives_3 0 rfl rfl)
theorem dX3_gives_71 : decode cX3_gives 71 = .ok (.putfield 67, 3) := dk_181 0 67 (dk_at dksX3_gives_3 1 rfl rfl)
theorem dX3_gives_74 : decode cX3_gives 74 = .ok (.return_, 1) := dk_177 (dk_at dksX3_gives_3 4 rfl rfl)
abbrev cX3_cannot : ByteArray := prog_6_method_17_code
def yX3_cannot : MethodName := ⟨RX3, "cannot", "(II)V"⟩
def dkwX3_cannot_1 : List UInt8 := [128, 79, 132, 3, 1, 167, 255, 229, 177]
abbrev dktX3_cannot_1 : List UInt8 := dkwX3_cannot_1 ++ []
def dkwX3_cannot_0 : List UInt8 := [3, 62, 29, 42, 180, 0, 22, 27, 46, 162, 0, 23, 42, 180, 0, 19, 27, 50, 29, 92, 46, 4, 28, 120]
abbrev dktX3_cannot_0 : List UInt8 := dkwX3_cannot_0 ++ dktX3_cannot_1
theorem dksX3_cannot_0 : cX3_cannot.data.toList.drop 0 = dktX3_cannot_0 := by decide +kernel
theorem dksX3_cannot_1 : cX3_cannot.data.toList.drop 24 = dktX3_cannot_1 := dk_seg dksX3_cannot_0 24 rfl rfl
theorem dX3_cannot_0 : decode cX3_cannot 0 = .ok (.iconst 0, 1) := dk_3 (dk_at dksX3_cannot_0 0 rfl rfl)
theorem dX3_cannot_1 : decode cX3_cannot 1 = .ok (.istore_n 3, 1) := dk_62 (dk_at dksX3_cannot_0 1 rfl rfl)
theorem dX3_cannot_2 : decode cX3_cannot 2 = .ok (.iload_n 3, 1) := dk_29 (dk_at dksX3_cannot_0 2 rfl rfl)
theorem dX3_cannot_3 : decode cX3_cannot 3 = .ok (.aload_n 0, 1) := dk_42 (dk_at dksX3_cannot_0 3 rfl rfl)
theorem dX3_cannot_4 : decode cX3_cannot 4 = .ok (.getfield 22, 3) := dk_180 0 22 (dk_at dksX3_cannot_0 4 rfl rfl)
theorem dX3_cannot_7 : decode cX3_cannot 7 = .ok (.iload_n 1, 1) := dk_27 (dk_at dksX3_cannot_0 7 rfl rfl)
theorem dX3_cannot_8 : decode cX3_cannot 8 = .ok (.iaload, 1) := dk_46 (dk_at dksX3_cannot_0 8 rfl rfl)
theorem dX3_cannot_9 : decode cX3_cannot 9 = .ok (.if_icmp .ge 23, 3) := dk_162 0 23 (dk_at dksX3_cannot_0 9 rfl rfl)
theorem dX3_cannot_12 : decode cX3_cannot 12 = .ok (.aload_n 0, 1) := dk_42 (dk_at dksX3_cannot_0 12 rfl rfl)
theorem dX3_cannot_13 : decode cX3_cannot 13 = .ok (.getfield 19, 3) := dk_180 0 19 (dk_at dksX3_cannot_0 13 rfl rfl)
theorem dX3_cannot_16 : decode cX3_cannot 16 = .ok (.iload_n 1, 1) := dk_27 (dk_at dksX3_cannot_0 16 rfl rfl)
theorem dX3_cannot_17 : decode cX3_cannot 17 = .ok (.aaload, 1) := dk_50 (dk_at dksX3_cannot_0 17 rfl rfl)
theorem dX3_cannot_18 : decode cX3_cannot 18 = .ok (.iload_n 3, 1) := dk_29 (dk_at dksX3_cannot_0 18 rfl rfl)
theorem dX3_cannot_19 : decode cX3_cannot 19 = .ok (.dup2, 1) := dk_92 (dk_at dksX3_cannot_0 19 rfl rfl)
theorem dX3_cannot_20 : decode cX3_cannot 20 = .ok (.iaload, 1) := dk_46 (dk_at dksX3_cannot_0 20 rfl rfl)
theorem dX3_cannot_21 : decode cX3_cannot 21 = .ok (.iconst 1, 1) := dk_4 (dk_at dksX3_cannot_0 21 rfl rfl)
theorem dX3_cannot_22 : decode cX3_cannot 22 = .ok (.iload_n 2, 1) := dk_28 (dk_at dksX3_cannot_0 22 rfl rfl)
theorem dX3_cannot_23 : decode cX3_cannot 23 = .ok (.ishl, 1) := dk_120 (dk_at dksX3_cannot_0 23 rfl rfl)
theorem dX3_cannot_24 : decode cX3_cannot 24 = .ok (.ior, 1) := dk_128 (dk_at dksX3_cannot_1 0 rfl rfl)
theorem dX3_cannot_25 : decode cX3_cannot 25 = .ok (.iastore, 1) := dk_79 (dk_at dksX3_cannot_1 1 rfl rfl)
theorem dX3_cannot_26 : decode cX3_cannot 26 = .ok (.iinc 3 1, 3) := dk_132 3 1 (dk_at dksX3_cannot_1 2 rfl rfl)
theorem dX3_cannot_29 : decode cX3_cannot 29 = .ok (.goto (-27), 3) := dk_167 255 229 (dk_at dksX3_cannot_1 5 rfl rfl)
theorem dX3_cannot_32 : decode cX3_cannot 32 = .ok (.return_, 1) := dk_177 (dk_at dksX3_cannot_1 8 rfl rfl)
abbrev cX3_says : ByteArray := prog_6_method_25_code
def yX3_says : MethodName := ⟨RX3, "says", "(III)Z"⟩
def dkwX3_says_6 : List UInt8 := [167, 0, 9, 42, 27, 3, 182, 0, 89, 21, 5, 172]
abbrev dktX3_says_6 : List UInt8 := dkwX3_says_6 ++ []
def dkwX3_says_5 : List UInt8 := [167, 0, 4, 3, 54, 5, 21, 5, 153, 0, 19, 42, 180, 0, 16, 27, 50, 21, 4, 92, 46, 4, 96, 79]
abbrev dktX3_says_5 : List UInt8 := dkwX3_says_5 ++ dktX3_says_6
def dkwX3_says_4 : List UInt8 := [180, 0, 47, 7, 21, 4, 79, 42, 180, 0, 50, 180, 0, 171, 153, 0, 13, 21, 4, 29, 160, 0, 7, 4]
abbrev dktX3_says_4 : List UInt8 := dkwX3_says_4 ++ dktX3_says_5
def dkwX3_says_3 : List UInt8 := [180, 0, 67, 4, 96, 181, 0, 67, 3, 172, 42, 3, 181, 0, 67, 42, 27, 182, 0, 150, 54, 4, 42]
abbrev dktX3_says_3 : List UInt8 := dkwX3_says_3 ++ dktX3_says_4
def dkwX3_says_2 : List UInt8 := [46, 4, 100, 79, 167, 255, 227, 42, 28, 29, 182, 0, 168, 42, 182, 0, 144, 154, 0, 15, 42, 89]
abbrev dktX3_says_2 : List UInt8 := dkwX3_says_2 ++ dktX3_says_3
def dkwX3_says_1 : List UInt8 := [180, 0, 16, 28, 50, 29, 46, 158, 0, 24, 42, 28, 3, 182, 0, 89, 42, 180, 0, 16, 28, 50, 29, 92]
abbrev dktX3_says_1 : List UInt8 := dkwX3_says_1 ++ dktX3_says_2
def dkwX3_says_0 : List UInt8 := [42, 180, 0, 16, 28, 50, 29, 46, 158, 0, 13, 42, 180, 0, 26, 28, 92, 46, 4, 96, 79, 42]
abbrev dktX3_says_0 : List UInt8 := dkwX3_says_0 ++ dktX3_says_1
theorem dksX3_says_0 : cX3_says.data.toList.drop 0 = dktX3_says_0 := by decide +kernel
theorem dksX3_says_1 : cX3_says.data.toList.drop 22 = dktX3_says_1 := dk_seg dksX3_says_0 22 rfl rfl
theorem dksX3_says_2 : cX3_says.data.toList.drop 46 = dktX3_says_2 := dk_seg dksX3_says_1 24 rfl rfl
theorem dksX3_says_3 : cX3_says.data.toList.drop 68 = dktX3_says_3 := dk_seg dksX3_says_2 22 rfl rfl
theorem dksX3_says_4 : cX3_says.data.toList.drop 91 = dktX3_says_4 := dk_seg dksX3_says_3 23 rfl rfl
theorem dksX3_says_5 : cX3_says.data.toList.drop 115 = dktX3_says_5 := dk_seg dksX3_says_4 24 rfl rfl
theorem dksX3_says_6 : cX3_says.data.toList.drop 139 = dktX3_says_6 := dk_seg dksX3_says_5 24 rfl rfl
theorem dX3_says_0 : decode cX3_says 0 = .ok (.aload_n 0, 1) := dk_42 (dk_at dksX3_says_0 0 rfl rfl)
theorem dX3_says_1 : decode cX3_says 1 = .ok (.getfield 16, 3) := dk_180 0 16 (dk_at dksX3_says_0 1 rfl rfl)
theorem dX3_says_4 : decode cX3_says 4 = .ok (.iload_n 2, 1) := dk_28 (dk_at dksX3_says_0 4 rfl rfl)
theorem dX3_says_5 : decode cX3_says 5 = .ok (.aaload, 1) := dk_50 (dk_at dksX3_says_0 5 rfl rfl)
theorem dX3_says_6 : decode cX3_says 6 = .ok (.iload_n 3, 1) := dk_29 (dk_at dksX3_says_0 6 rfl rfl)
theorem dX3_says_7 : decode cX3_says 7 = .ok (.iaload, 1) := dk_46 (dk_at dksX3_says_0 7 rfl rfl)
theorem dX3_says_8 : decode cX3_says 8 = .ok (.ifCond .le 13, 3) := dk_158 0 13 (dk_at dksX3_says_0 8 rfl rfl)
theorem dX3_says_11 : decode cX3_says 11 = .ok (.aload_n 0, 1) := dk_42 (dk_at dksX3_says_0 11 rfl rfl)
theorem dX3_says_12 : decode cX3_says 12 = .ok (.getfield 26, 3) := dk_180 0 26 (dk_at dksX3_says_0 12 rfl rfl)
theorem dX3_says_15 : decode cX3_says 15 = .ok (.iload_n 2, 1) := dk_28 (dk_at dksX3_says_0 15 rfl rfl)
theorem dX3_says_16 : decode cX3_says 16 = .ok (.dup2, 1) := dk_92 (dk_at dksX3_says_0 16 rfl rfl)
theorem dX3_says_17 : decode cX3_says 17 = .ok (.iaload, 1) := dk_46 (dk_at dksX3_says_0 17 rfl rfl)
theorem dX3_says_18 : decode cX3_says 18 = .ok (.iconst 1, 1) := dk_4 (dk_at dksX3_says_0 18 rfl rfl)
theorem dX3_says_19 : decode cX3_says 19 = .ok (.iadd, 1) := dk_96 (dk_at dksX3_says_0 19 rfl rfl)
theorem dX3_says_20 : decode cX3_says 20 = .ok (.iastore, 1) := dk_79 (dk_at dksX3_says_0 20 rfl rfl)
theorem dX3_says_21 : decode cX3_says 21 = .ok (.aload_n 0, 1) := dk_42 (dk_at dksX3_says_0 21 rfl rfl)
theorem dX3_says_22 : decode cX3_says 22 = .ok (.getfield 16, 3) := dk_180 0 16 (dk_at dksX3_says_1 0 rfl rfl)
theorem dX3_says_25 : decode cX3_says 25 = .ok (.iload_n 2, 1) := dk_28 (dk_at dksX3_says_1 3 rfl rfl)
theorem dX3_says_26 : decode cX3_says 26 = .ok (.aaload, 1) := dk_50 (dk_at dksX3_says_1 4 rfl rfl)
theorem dX3_says_27 : decode cX3_says 27 = .ok (.iload_n 3, 1) := dk_29 (dk_at dksX3_says_1 5 rfl rfl)
theorem dX3_says_28 : decode cX3_says 28 = .ok (.iaload, 1) := dk_46 (dk_at dksX3_says_1 6 rfl rfl)
theorem dX3_says_29 : decode cX3_says 29 = .ok (.ifCond .le 24, 3) := dk_158 0 24 (dk_at dksX3_says_1 7 rfl rfl)
theorem dX3_says_32 : decode cX3_says 32 = .ok (.aload_n 0, 1) := dk_42 (dk_at dksX3_says_1 10 rfl rfl)
theorem dX3_says_33 : decode cX3_says 33 = .ok (.iload_n 2, 1) := dk_28 (dk_at dksX3_says_1 11 rfl rfl)
theorem dX3_says_34 : decode cX3_says 34 = .ok (.iconst 0, 1) := dk_3 (dk_at dksX3_says_1 12 rfl rfl)
theorem dX3_says_35 : decode cX3_says 35 = .ok (.invokevirtual 89, 3) := dk_182 0 89 (dk_at dksX3_says_1 13 rfl rfl)
theorem dX3_says_38 : decode cX3_says 38 = .ok (.aload_n 0, 1) := dk_42 (dk_at dksX3_says_1 16 rfl rfl)
theorem dX3_says_39 : decode cX3_says 39 = .ok (.getfield 16, 3) := dk_180 0 16 (dk_at dksX3_says_1 17 rfl rfl)
theorem dX3_says_42 : decode cX3_says 42 = .ok (.iload_n 2, 1) := dk_28 (dk_at dksX3_says_1 20 rfl rfl)
theorem dX3_says_43 : decode cX3_says 43 = .ok (.aaload, 1) := dk_50 (dk_at dksX3_says_1 21 rfl rfl)
theorem dX3_says_44 : decode cX3_says 44 = .ok (.iload_n 3, 1) := dk_29 (dk_at dksX3_says_1 22 rfl rfl)
theorem dX3_says_45 : decode cX3_says 45 = .ok (.dup2, 1) := dk_92 (dk_at dksX3_says_1 23 rfl rfl)
theorem dX3_says_46 : decode cX3_says 46 = .ok (.iaload, 1) := dk_46 (dk_at dksX3_says_2 0 rfl rfl)
theorem dX3_says_47 : decode cX3_says 47 = .ok (.iconst 1, 1) := dk_4 (dk_at dksX3_says_2 1 rfl rfl)
theorem dX3_says_48 : decode cX3_says 48 = .ok (.isub, 1) := dk_100 (dk_at dksX3_says_2 2 rfl rfl)
theorem dX3_says_49 : decode cX3_says 49 = .ok (.iastore, 1) := dk_79 (dk_at dksX3_says_2 3 rfl rfl)
theorem dX3_says_50 : decode cX3_says 50 = .ok (.goto (-29), 3) := dk_167 255 227 (dk_at dksX3_says_2 4 rfl rfl)
theorem dX3_says_53 : decode cX3_says 53 = .ok (.aload_n 0, 1) := dk_42 (dk_at dksX3_says_2 7 rfl rfl)
theorem dX3_says_54 : decode cX3_says 54 = .ok (.iload_n 2, 1) := dk_28 (dk_at dksX3_says_2 8 rfl rfl)
theorem dX3_says_55 : decode cX3_says 55 = .ok (.iload_n 3, 1) := dk_29 (dk_at dksX3_says_2 9 rfl rfl)
theorem dX3_says_56 : decode cX3_says 56 = .ok (.invokevirtual 168, 3) := dk_182 0 168 (dk_at dksX3_says_2 10 rfl rfl)
theorem dX3_says_59 : decode cX3_says 59 = .ok (.aload_n 0, 1) := dk_42 (dk_at dksX3_says_2 13 rfl rfl)
theorem dX3_says_60 : decode cX3_says 60 = .ok (.invokevirtual 144, 3) := dk_182 0 144 (dk_at dksX3_says_2 14 rfl rfl)
theorem dX3_says_63 : decode cX3_says 63 = .ok (.ifCond .ne 15, 3) := dk_154 0 15 (dk_at dksX3_says_2 17 rfl rfl)
theorem dX3_says_66 : decode cX3_says 66 = .ok (.aload_n 0, 1) := dk_42 (dk_at dksX3_says_2 20 rfl rfl)
theorem dX3_says_67 : decode cX3_says 67 = .ok (.dup, 1) := dk_89 (dk_at dksX3_says_2 21 rfl rfl)
theorem dX3_says_68 : decode cX3_says 68 = .ok (.getfield 67, 3) := dk_180 0 67 (dk_at dksX3_says_3 0 rfl rfl)
theorem dX3_says_71 : decode cX3_says 71 = .ok (.iconst 1, 1) := dk_4 (dk_at dksX3_says_3 3 rfl rfl)
theorem dX3_says_72 : decode cX3_says 72 = .ok (.iadd, 1) := dk_96 (dk_at dksX3_says_3 4 rfl rfl)
theorem dX3_says_73 : decode cX3_says 73 = .ok (.putfield 67, 3) := dk_181 0 67 (dk_at dksX3_says_3 5 rfl rfl)
theorem dX3_says_76 : decode cX3_says 76 = .ok (.iconst 0, 1) := dk_3 (dk_at dksX3_says_3 8 rfl rfl)
theorem dX3_says_77 : decode cX3_says 77 = .ok (.ireturn, 1) := dk_172 (dk_at dksX3_says_3 9 rfl rfl)
theorem dX3_says_78 : decode cX3_says 78 = .ok (.aload_n 0, 1) := dk_42 (dk_at dksX3_says_3 10 rfl rfl)
theorem dX3_says_79 : decode cX3_says 79 = .ok (.iconst 0, 1) := dk_3 (dk_at dksX3_says_3 11 rfl rfl)
theorem dX3_says_80 : decode cX3_says 80 = .ok (.putfield 67, 3) := dk_181 0 67 (dk_at dksX3_says_3 12 rfl rfl)
theorem dX3_says_83 : decode cX3_says 83 = .ok (.aload_n 0, 1) := dk_42 (dk_at dksX3_says_3 15 rfl rfl)
theorem dX3_says_84 : decode cX3_says 84 = .ok (.iload_n 1, 1) := dk_27 (dk_at dksX3_says_3 16 rfl rfl)
theorem dX3_says_85 : decode cX3_says 85 = .ok (.invokevirtual 150, 3) := dk_182 0 150 (dk_at dksX3_says_3 17 rfl rfl)
theorem dX3_says_88 : decode cX3_says 88 = .ok (.istore 4, 2) := dk_54 4 (dk_at dksX3_says_3 20 rfl rfl)
theorem dX3_says_90 : decode cX3_says 90 = .ok (.aload_n 0, 1) := dk_42 (dk_at dksX3_says_3 22 rfl rfl)
theorem dX3_says_91 : decode cX3_says 91 = .ok (.getfield 47, 3) := dk_180 0 47 (dk_at dksX3_says_4 0 rfl rfl)
theorem dX3_says_94 : decode cX3_says 94 = .ok (.iconst 4, 1) := dk_7 (dk_at dksX3_says_4 3 rfl rfl)
theorem dX3_says_95 : decode cX3_says 95 = .ok (.iload 4, 2) := dk_21 4 (dk_at dksX3_says_4 4 rfl rfl)
theorem dX3_says_97 : decode cX3_says 97 = .ok (.iastore, 1) := dk_79 (dk_at dksX3_says_4 6 rfl rfl)
theorem dX3_says_98 : decode cX3_says 98 = .ok (.aload_n 0, 1) := dk_42 (dk_at dksX3_says_4 7 rfl rfl)
theorem dX3_says_99 : decode cX3_says 99 = .ok (.getfield 50, 3) := dk_180 0 50 (dk_at dksX3_says_4 8 rfl rfl)
theorem dX3_says_102 : decode cX3_says 102 = .ok (.getfield 171, 3) := dk_180 0 171 (dk_at dksX3_says_4 11 rfl rfl)
theorem dX3_says_105 : decode cX3_says 105 = .ok (.ifCond .eq 13, 3) := dk_153 0 13 (dk_at dksX3_says_4 14 rfl rfl)
theorem dX3_says_108 : decode cX3_says 108 = .ok (.iload 4, 2) := dk_21 4 (dk_at dksX3_says_4 17 rfl rfl)
theorem dX3_says_110 : decode cX3_says 110 = .ok (.iload_n 3, 1) := dk_29 (dk_at dksX3_says_4 19 rfl rfl)
theorem dX3_says_111 : decode cX3_says 111 = .ok (.if_icmp .ne 7, 3) := dk_160 0 7 (dk_at dksX3_says_4 20 rfl rfl)
theorem dX3_says_114 : decode cX3_says 114 = .ok (.iconst 1, 1) := dk_4 (dk_at dksX3_says_4 23 rfl rfl)
theorem dX3_says_115 : decode cX3_says 115 = .ok (.goto 4, 3) := dk_167 0 4 (dk_at dksX3_says_5 0 rfl rfl)
theorem dX3_says_118 : decode cX3_says 118 = .ok (.iconst 0, 1) := dk_3 (dk_at dksX3_says_5 3 rfl rfl)
theorem dX3_says_119 : decode cX3_says 119 = .ok (.istore 5, 2) := dk_54 5 (dk_at dksX3_says_5 4 rfl rfl)
theorem dX3_says_121 : decode cX3_says 121 = .ok (.iload 5, 2) := dk_21 5 (dk_at dksX3_says_5 6 rfl rfl)
theorem dX3_says_123 : decode cX3_says 123 = .ok (.ifCond .eq 19, 3) := dk_153 0 19 (dk_at dksX3_says_5 8 rfl rfl)
theorem dX3_says_126 : decode cX3_says 126 = .ok (.aload_n 0, 1) := dk_42 (dk_at dksX3_says_5 11 rfl rfl)
theorem dX3_says_127 : decode cX3_says 127 = .ok (.getfield 16, 3) := dk_180 0 16 (dk_at dksX3_says_5 12 rfl rfl)
theorem dX3_says_130 : decode cX3_says 130 = .ok (.iload_n 1, 1) := dk_27 (dk_at dksX3_says_5 15 rfl rfl)
theorem dX3_says_131 : decode cX3_says 131 = .ok (.aaload, 1) := dk_50 (dk_at dksX3_says_5 16 rfl rfl)
theorem dX3_says_132 : decode cX3_says 132 = .ok (.iload 4, 2) := dk_21 4 (dk_at dksX3_says_5 17 rfl rfl)
theorem dX3_says_134 : decode cX3_says 134 = .ok (.dup2, 1) := dk_92 (dk_at dksX3_says_5 19 rfl rfl)
theorem dX3_says_135 : decode cX3_says 135 = .ok (.iaload, 1) := dk_46 (dk_at dksX3_says_5 20 rfl rfl)
theorem dX3_says_136 : decode cX3_says 136 = .ok (.iconst 1, 1) := dk_4 (dk_at dksX3_says_5 21 rfl rfl)
theorem dX3_says_137 : decode cX3_says 137 = .ok (.iadd, 1) := dk_96 (dk_at dksX3_says_5 22 rfl rfl)
theorem dX3_says_138 : decode cX3_says 138 = .ok (.iastore, 1) := dk_79 (dk_at dksX3_says_5 23 rfl rfl)
theorem dX3_says_139 : decode cX3_says 139 = .ok (.goto 9, 3) := dk_167 0 9 (dk_at dksX3_says_6 0 rfl rfl)
theorem dX3_says_142 : decode cX3_says 142 = .ok (.aload_n 0, 1) := dk_42 (dk_at dksX3_says_6 3 rfl rfl)
theorem dX3_says_143 : decode cX3_says 143 = .ok (.iload_n 1, 1) := dk_27 (dk_at dksX3_says_6 4 rfl rfl)
theorem dX3_says_144 : decode cX3_says 144 = .ok (.iconst 0, 1) := dk_3 (dk_at dksX3_says_6 5 rfl rfl)
theorem dX3_says_145 : decode cX3_says 145 = .ok (.invokevirtual 89, 3) := dk_182 0 89 (dk_at dksX3_says_6 6 rfl rfl)
theorem dX3_says_148 : decode cX3_says 148 = .ok (.iload 5, 2) := dk_21 5 (dk_at dksX3_says_6 9 rfl rfl)
theorem dX3_says_150 : decode cX3_says 150 = .ok (.ireturn, 1) := dk_172 (dk_at dksX3_says_6 11 rfl rfl)
abbrev cX3_next : ByteArray := prog_6_method_28_code
def yX3_next : MethodName := ⟨RX3, "next", "(I)I"⟩
def dkwX3_next_0 : List UInt8 := [27, 4, 96, 42, 180, 0, 50, 182, 0, 74, 112, 172]
abbrev dktX3_next_0 : List UInt8 := dkwX3_next_0 ++ []
theorem dksX3_next_0 : cX3_next.data.toList.drop 0 = dktX3_next_0 := by decide +kernel
theorem dX3_next_0 : decode cX3_next 0 = .ok (.iload_n 1, 1) := dk_27 (dk_at dksX3_next_0 0 rfl rfl)
theorem dX3_next_1 : decode cX3_next 1 = .ok (.iconst 1, 1) := dk_4 (dk_at dksX3_next_0 1 rfl rfl)
theorem dX3_next_2 : decode cX3_next 2 = .ok (.iadd, 1) := dk_96 (dk_at dksX3_next_0 2 rfl rfl)
theorem dX3_next_3 : decode cX3_next 3 = .ok (.aload_n 0, 1) := dk_42 (dk_at dksX3_next_0 3 rfl rfl)
theorem dX3_next_4 : decode cX3_next 4 = .ok (.getfield 50, 3) := dk_180 0 50 (dk_at dksX3_next_0 4 rfl rfl)
theorem dX3_next_7 : decode cX3_next 7 = .ok (.invokevirtual 74, 3) := dk_182 0 74 (dk_at dksX3_next_0 7 rfl rfl)
theorem dX3_next_10 : decode cX3_next 10 = .ok (.irem, 1) := dk_112 (dk_at dksX3_next_0 10 rfl rfl)
theorem dX3_next_11 : decode cX3_next 11 = .ok (.ireturn, 1) := dk_172 (dk_at dksX3_next_0 11 rfl rfl)
abbrev cX3_deal : ByteArray := prog_6_method_27_code
def yX3_deal : MethodName := ⟨RX3, "deal", "(LSevenTable$Table;II)LSevenTable$Game;"⟩
def dkwX3_deal_9 : List UInt8 := [182, 0, 89, 132, 5, 1, 167, 255, 209, 132, 4, 1, 167, 255, 188, 42, 182, 0, 98, 176]
abbrev dktX3_deal_9 : List UInt8 := dkwX3_deal_9 ++ []
def dkwX3_deal_8 : List UInt8 := [180, 0, 60, 46, 92, 46, 4, 96, 79, 42, 89, 180, 0, 60, 4, 96, 181, 0, 60, 42, 21, 4, 3]
abbrev dktX3_deal_8 : List UInt8 := dkwX3_deal_8 ++ dktX3_deal_9
def dkwX3_deal_7 : List UInt8 := [162, 0, 62, 3, 54, 5, 21, 5, 28, 162, 0, 47, 42, 180, 0, 11, 21, 4, 50, 42, 180, 0, 41, 42]
abbrev dktX3_deal_7 : List UInt8 := dkwX3_deal_7 ++ dktX3_deal_8
def dkwX3_deal_6 : List UInt8 := [21, 5, 21, 6, 79, 132, 4, 255, 167, 255, 206, 3, 54, 4, 21, 4, 42, 180, 0, 50, 182, 0, 74]
abbrev dktX3_deal_6 : List UInt8 := dkwX3_deal_6 ++ dktX3_deal_7
def dkwX3_deal_5 : List UInt8 := [21, 4, 46, 54, 6, 42, 180, 0, 41, 21, 4, 42, 180, 0, 41, 21, 5, 46, 79, 42, 180, 0, 41]
abbrev dktX3_deal_5 : List UInt8 := dkwX3_deal_5 ++ dktX3_deal_6
def dkwX3_deal_4 : List UInt8 := [4, 100, 54, 4, 21, 4, 158, 0, 51, 42, 21, 4, 4, 96, 182, 0, 182, 54, 5, 42, 180, 0, 41]
abbrev dktX3_deal_4 : List UInt8 := dkwX3_deal_4 ++ dktX3_deal_5
def dkwX3_deal_3 : List UInt8 := [180, 0, 179, 162, 0, 17, 42, 180, 0, 44, 21, 4, 7, 79, 132, 4, 1, 167, 255, 233, 42, 180, 0, 97]
abbrev dktX3_deal_3 : List UInt8 := dkwX3_deal_3 ++ dktX3_deal_4
def dkwX3_deal_2 : List UInt8 := [132, 4, 1, 167, 255, 233, 42, 180, 0, 44, 3, 184, 0, 54, 3, 54, 4, 21, 4, 42, 180, 0, 50]
abbrev dktX3_deal_2 : List UInt8 := dkwX3_deal_2 ++ dktX3_deal_3
def dkwX3_deal_1 : List UInt8 := [54, 4, 21, 4, 42, 180, 0, 97, 162, 0, 20, 42, 180, 0, 41, 21, 4, 21, 4, 7, 108, 79]
abbrev dktX3_deal_1 : List UInt8 := dkwX3_deal_1 ++ dktX3_deal_2
def dkwX3_deal_0 : List UInt8 := [42, 43, 182, 0, 70, 42, 29, 181, 0, 175, 42, 7, 42, 180, 0, 50, 180, 0, 179, 104, 181, 0, 97, 3]
abbrev dktX3_deal_0 : List UInt8 := dkwX3_deal_0 ++ dktX3_deal_1
theorem dksX3_deal_0 : cX3_deal.data.toList.drop 0 = dktX3_deal_0 := by decide +kernel
theorem dksX3_deal_1 : cX3_deal.data.toList.drop 24 = dktX3_deal_1 := dk_seg dksX3_deal_0 24 rfl rfl
theorem dksX3_deal_2 : cX3_deal.data.toList.drop 46 = dktX3_deal_2 := dk_seg dksX3_deal_1 22 rfl rfl
theorem dksX3_deal_3 : cX3_deal.data.toList.drop 69 = dktX3_deal_3 := dk_seg dksX3_deal_2 23 rfl rfl
theorem dksX3_deal_4 : cX3_deal.data.toList.drop 93 = dktX3_deal_4 := dk_seg dksX3_deal_3 24 rfl rfl
theorem dksX3_deal_5 : cX3_deal.data.toList.drop 116 = dktX3_deal_5 := dk_seg dksX3_deal_4 23 rfl rfl
theorem dksX3_deal_6 : cX3_deal.data.toList.drop 139 = dktX3_deal_6 := dk_seg dksX3_deal_5 23 rfl rfl
theorem dksX3_deal_7 : cX3_deal.data.toList.drop 162 = dktX3_deal_7 := dk_seg dksX3_deal_6 23 rfl rfl
theorem dksX3_deal_8 : cX3_deal.data.toList.drop 186 = dktX3_deal_8 := dk_seg dksX3_deal_7 24 rfl rfl
theorem dksX3_deal_9 : cX3_deal.data.toList.drop 209 = dktX3_deal_9 := dk_seg dksX3_deal_8 23 rfl rfl
theorem dX3_deal_0 : decode cX3_deal 0 = .ok (.aload_n 0, 1) := dk_42 (dk_at dksX3_deal_0 0 rfl rfl)
theorem dX3_deal_1 : decode cX3_deal 1 = .ok (.aload_n 1, 1) := dk_43 (dk_at dksX3_deal_0 1 rfl rfl)
theorem dX3_deal_2 : decode cX3_deal 2 = .ok (.invokevirtual 70, 3) := dk_182 0 70 (dk_at dksX3_deal_0 2 rfl rfl)
theorem dX3_deal_5 : decode cX3_deal 5 = .ok (.aload_n 0, 1) := dk_42 (dk_at dksX3_deal_0 5 rfl rfl)
theorem dX3_deal_6 : decode cX3_deal 6 = .ok (.iload_n 3, 1) := dk_29 (dk_at dksX3_deal_0 6 rfl rfl)
theorem dX3_deal_7 : decode cX3_deal 7 = .ok (.putfield 175, 3) := dk_181 0 175 (dk_at dksX3_deal_0 7 rfl rfl)
theorem dX3_deal_10 : decode cX3_deal 10 = .ok (.aload_n 0, 1) := dk_42 (dk_at dksX3_deal_0 10 rfl rfl)
theorem dX3_deal_11 : decode cX3_deal 11 = .ok (.iconst 4, 1) := dk_7 (dk_at dksX3_deal_0 11 rfl rfl)
theorem dX3_deal_12 : decode cX3_deal 12 = .ok (.aload_n 0, 1) := dk_42 (dk_at dksX3_deal_0 12 rfl rfl)
theorem dX3_deal_13 : decode cX3_deal 13 = .ok (.getfield 50, 3) := dk_180 0 50 (dk_at dksX3_deal_0 13 rfl rfl)
theorem dX3_deal_16 : decode cX3_deal 16 = .ok (.getfield 179, 3) := dk_180 0 179 (dk_at dksX3_deal_0 16 rfl rfl)
theorem dX3_deal_19 : decode cX3_deal 19 = .ok (.imul, 1) := dk_104 (dk_at dksX3_deal_0 19 rfl rfl)
theorem dX3_deal_20 : decode cX3_deal 20 = .ok (.putfield 97, 3) := dk_181 0 97 (dk_at dksX3_deal_0 20 rfl rfl)
theorem dX3_deal_23 : decode cX3_deal 23 = .ok (.iconst 0, 1) := dk_3 (dk_at dksX3_deal_0 23 rfl rfl)
theorem dX3_deal_24 : decode cX3_deal 24 = .ok (.istore 4, 2) := dk_54 4 (dk_at dksX3_deal_1 0 rfl rfl)
theorem dX3_deal_26 : decode cX3_deal 26 = .ok (.iload 4, 2) := dk_21 4 (dk_at dksX3_deal_1 2 rfl rfl)
theorem dX3_deal_28 : decode cX3_deal 28 = .ok (.aload_n 0, 1) := dk_42 (dk_at dksX3_deal_1 4 rfl rfl)
theorem dX3_deal_29 : decode cX3_deal 29 = .ok (.getfield 97, 3) := dk_180 0 97 (dk_at dksX3_deal_1 5 rfl rfl)
theorem dX3_deal_32 : decode cX3_deal 32 = .ok (.if_icmp .ge 20, 3) := dk_162 0 20 (dk_at dksX3_deal_1 8 rfl rfl)
theorem dX3_deal_35 : decode cX3_deal 35 = .ok (.aload_n 0, 1) := dk_42 (dk_at dksX3_deal_1 11 rfl rfl)
theorem dX3_deal_36 : decode cX3_deal 36 = .ok (.getfield 41, 3) := dk_180 0 41 (dk_at dksX3_deal_1 12 rfl rfl)
theorem dX3_deal_39 : decode cX3_deal 39 = .ok (.iload 4, 2) := dk_21 4 (dk_at dksX3_deal_1 15 rfl rfl)
theorem dX3_deal_41 : decode cX3_deal 41 = .ok (.iload 4, 2) := dk_21 4 (dk_at dksX3_deal_1 17 rfl rfl)
theorem dX3_deal_43 : decode cX3_deal 43 = .ok (.iconst 4, 1) := dk_7 (dk_at dksX3_deal_1 19 rfl rfl)
theorem dX3_deal_44 : decode cX3_deal 44 = .ok (.idiv, 1) := dk_108 (dk_at dksX3_deal_1 20 rfl rfl)
theorem dX3_deal_45 : decode cX3_deal 45 = .ok (.iastore, 1) := dk_79 (dk_at dksX3_deal_1 21 rfl rfl)
theorem dX3_deal_46 : decode cX3_deal 46 = .ok (.iinc 4 1, 3) := dk_132 4 1 (dk_at dksX3_deal_2 0 rfl rfl)
theorem dX3_deal_49 : decode cX3_deal 49 = .ok (.goto (-23), 3) := dk_167 255 233 (dk_at dksX3_deal_2 3 rfl rfl)
theorem dX3_deal_52 : decode cX3_deal 52 = .ok (.aload_n 0, 1) := dk_42 (dk_at dksX3_deal_2 6 rfl rfl)
theorem dX3_deal_53 : decode cX3_deal 53 = .ok (.getfield 44, 3) := dk_180 0 44 (dk_at dksX3_deal_2 7 rfl rfl)
theorem dX3_deal_56 : decode cX3_deal 56 = .ok (.iconst 0, 1) := dk_3 (dk_at dksX3_deal_2 10 rfl rfl)
theorem dX3_deal_57 : decode cX3_deal 57 = .ok (.invokestatic 54, 3) := dk_184 0 54 (dk_at dksX3_deal_2 11 rfl rfl)
theorem dX3_deal_60 : decode cX3_deal 60 = .ok (.iconst 0, 1) := dk_3 (dk_at dksX3_deal_2 14 rfl rfl)
theorem dX3_deal_61 : decode cX3_deal 61 = .ok (.istore 4, 2) := dk_54 4 (dk_at dksX3_deal_2 15 rfl rfl)
theorem dX3_deal_63 : decode cX3_deal 63 = .ok (.iload 4, 2) := dk_21 4 (dk_at dksX3_deal_2 17 rfl rfl)
theorem dX3_deal_65 : decode cX3_deal 65 = .ok (.aload_n 0, 1) := dk_42 (dk_at dksX3_deal_2 19 rfl rfl)
theorem dX3_deal_66 : decode cX3_deal 66 = .ok (.getfield 50, 3) := dk_180 0 50 (dk_at dksX3_deal_2 20 rfl rfl)
theorem dX3_deal_69 : decode cX3_deal 69 = .ok (.getfield 179, 3) := dk_180 0 179 (dk_at dksX3_deal_3 0 rfl rfl)
theorem dX3_deal_72 : decode cX3_deal 72 = .ok (.if_icmp .ge 17, 3) := dk_162 0 17 (dk_at dksX3_deal_3 3 rfl rfl)
theorem dX3_deal_75 : decode cX3_deal 75 = .ok (.aload_n 0, 1) := dk_42 (dk_at dksX3_deal_3 6 rfl rfl)
theorem dX3_deal_76 : decode cX3_deal 76 = .ok (.getfield 44, 3) := dk_180 0 44 (dk_at dksX3_deal_3 7 rfl rfl)
theorem dX3_deal_79 : decode cX3_deal 79 = .ok (.iload 4, 2) := dk_21 4 (dk_at dksX3_deal_3 10 rfl rfl)
theorem dX3_deal_81 : decode cX3_deal 81 = .ok (.iconst 4, 1) := dk_7 (dk_at dksX3_deal_3 12 rfl rfl)
theorem dX3_deal_82 : decode cX3_deal 82 = .ok (.iastore, 1) := dk_79 (dk_at dksX3_deal_3 13 rfl rfl)
theorem dX3_deal_83 : decode cX3_deal 83 = .ok (.iinc 4 1, 3) := dk_132 4 1 (dk_at dksX3_deal_3 14 rfl rfl)
theorem dX3_deal_86 : decode cX3_deal 86 = .ok (.goto (-23), 3) := dk_167 255 233 (dk_at dksX3_deal_3 17 rfl rfl)
theorem dX3_deal_89 : decode cX3_deal 89 = .ok (.aload_n 0, 1) := dk_42 (dk_at dksX3_deal_3 20 rfl rfl)
theorem dX3_deal_90 : decode cX3_deal 90 = .ok (.getfield 97, 3) := dk_180 0 97 (dk_at dksX3_deal_3 21 rfl rfl)
theorem dX3_deal_93 : decode cX3_deal 93 = .ok (.iconst 1, 1) := dk_4 (dk_at dksX3_deal_4 0 rfl rfl)
theorem dX3_deal_94 : decode cX3_deal 94 = .ok (.isub, 1) := dk_100 (dk_at dksX3_deal_4 1 rfl rfl)
theorem dX3_deal_95 : decode cX3_deal 95 = .ok (.istore 4, 2) := dk_54 4 (dk_at dksX3_deal_4 2 rfl rfl)
theorem dX3_deal_97 : decode cX3_deal 97 = .ok (.iload 4, 2) := dk_21 4 (dk_at dksX3_deal_4 4 rfl rfl)
theorem dX3_deal_99 : decode cX3_deal 99 = .ok (.ifCond .le 51, 3) := dk_158 0 51 (dk_at dksX3_deal_4 6 rfl rfl)
theorem dX3_deal_102 : decode cX3_deal 102 = .ok (.aload_n 0, 1) := dk_42 (dk_at dksX3_deal_4 9 rfl rfl)
theorem dX3_deal_103 : decode cX3_deal 103 = .ok (.iload 4, 2) := dk_21 4 (dk_at dksX3_deal_4 10 rfl rfl)
theorem dX3_deal_105 : decode cX3_deal 105 = .ok (.iconst 1, 1) := dk_4 (dk_at dksX3_deal_4 12 rfl rfl)
theorem dX3_deal_106 : decode cX3_deal 106 = .ok (.iadd, 1) := dk_96 (dk_at dksX3_deal_4 13 rfl rfl)
theorem dX3_deal_107 : decode cX3_deal 107 = .ok (.invokevirtual 182, 3) := dk_182 0 182 (dk_at dksX3_deal_4 14 rfl rfl)
theorem dX3_deal_110 : decode cX3_deal 110 = .ok (.istore 5, 2) := dk_54 5 (dk_at dksX3_deal_4 17 rfl rfl)
theorem dX3_deal_112 : decode cX3_deal 112 = .ok (.aload_n 0, 1) := dk_42 (dk_at dksX3_deal_4 19 rfl rfl)
theorem dX3_deal_113 : decode cX3_deal 113 = .ok (.getfield 41, 3) := dk_180 0 41 (dk_at dksX3_deal_4 20 rfl rfl)
theorem dX3_deal_116 : decode cX3_deal 116 = .ok (.iload 4, 2) := dk_21 4 (dk_at dksX3_deal_5 0 rfl rfl)
theorem dX3_deal_118 : decode cX3_deal 118 = .ok (.iaload, 1) := dk_46 (dk_at dksX3_deal_5 2 rfl rfl)
theorem dX3_deal_119 : decode cX3_deal 119 = .ok (.istore 6, 2) := dk_54 6 (dk_at dksX3_deal_5 3 rfl rfl)
theorem dX3_deal_121 : decode cX3_deal 121 = .ok (.aload_n 0, 1) := dk_42 (dk_at dksX3_deal_5 5 rfl rfl)
theorem dX3_deal_122 : decode cX3_deal 122 = .ok (.getfield 41, 3) := dk_180 0 41 (dk_at dksX3_deal_5 6 rfl rfl)
theorem dX3_deal_125 : decode cX3_deal 125 = .ok (.iload 4, 2) := dk_21 4 (dk_at dksX3_deal_5 9 rfl rfl)
theorem dX3_deal_127 : decode cX3_deal 127 = .ok (.aload_n 0, 1) := dk_42 (dk_at dksX3_deal_5 11 rfl rfl)
theorem dX3_deal_128 : decode cX3_deal 128 = .ok (.getfield 41, 3) := dk_180 0 41 (dk_at dksX3_deal_5 12 rfl rfl)
theorem dX3_deal_131 : decode cX3_deal 131 = .ok (.iload 5, 2) := dk_21 5 (dk_at dksX3_deal_5 15 rfl rfl)
theorem dX3_deal_133 : decode cX3_deal 133 = .ok (.iaload, 1) := dk_46 (dk_at dksX3_deal_5 17 rfl rfl)
theorem dX3_deal_134 : decode cX3_deal 134 = .ok (.iastore, 1) := dk_79 (dk_at dksX3_deal_5 18 rfl rfl)
theorem dX3_deal_135 : decode cX3_deal 135 = .ok (.aload_n 0, 1) := dk_42 (dk_at dksX3_deal_5 19 rfl rfl)
theorem dX3_deal_136 : decode cX3_deal 136 = .ok (.getfield 41, 3) := dk_180 0 41 (dk_at dksX3_deal_5 20 rfl rfl)
theorem dX3_deal_139 : decode cX3_deal 139 = .ok (.iload 5, 2) := dk_21 5 (dk_at dksX3_deal_6 0 rfl rfl)
theorem dX3_deal_141 : decode cX3_deal 141 = .ok (.iload 6, 2) := dk_21 6 (dk_at dksX3_deal_6 2 rfl rfl)
theorem dX3_deal_143 : decode cX3_deal 143 = .ok (.iastore, 1) := dk_79 (dk_at dksX3_deal_6 4 rfl rfl)
theorem dX3_deal_144 : decode cX3_deal 144 = .ok (.iinc 4 (-1), 3) := dk_132 4 255 (dk_at dksX3_deal_6 5 rfl rfl)
theorem dX3_deal_147 : decode cX3_deal 147 = .ok (.goto (-50), 3) := dk_167 255 206 (dk_at dksX3_deal_6 8 rfl rfl)
theorem dX3_deal_150 : decode cX3_deal 150 = .ok (.iconst 0, 1) := dk_3 (dk_at dksX3_deal_6 11 rfl rfl)
theorem dX3_deal_151 : decode cX3_deal 151 = .ok (.istore 4, 2) := dk_54 4 (dk_at dksX3_deal_6 12 rfl rfl)
theorem dX3_deal_153 : decode cX3_deal 153 = .ok (.iload 4, 2) := dk_21 4 (dk_at dksX3_deal_6 14 rfl rfl)
theorem dX3_deal_155 : decode cX3_deal 155 = .ok (.aload_n 0, 1) := dk_42 (dk_at dksX3_deal_6 16 rfl rfl)
theorem dX3_deal_156 : decode cX3_deal 156 = .ok (.getfield 50, 3) := dk_180 0 50 (dk_at dksX3_deal_6 17 rfl rfl)
theorem dX3_deal_159 : decode cX3_deal 159 = .ok (.invokevirtual 74, 3) := dk_182 0 74 (dk_at dksX3_deal_6 20 rfl rfl)
theorem dX3_deal_162 : decode cX3_deal 162 = .ok (.if_icmp .ge 62, 3) := dk_162 0 62 (dk_at dksX3_deal_7 0 rfl rfl)
theorem dX3_deal_165 : decode cX3_deal 165 = .ok (.iconst 0, 1) := dk_3 (dk_at dksX3_deal_7 3 rfl rfl)
theorem dX3_deal_166 : decode cX3_deal 166 = .ok (.istore 5, 2) := dk_54 5 (dk_at dksX3_deal_7 4 rfl rfl)
theorem dX3_deal_168 : decode cX3_deal 168 = .ok (.iload 5, 2) := dk_21 5 (dk_at dksX3_deal_7 6 rfl rfl)
theorem dX3_deal_170 : decode cX3_deal 170 = .ok (.iload_n 2, 1) := dk_28 (dk_at dksX3_deal_7 8 rfl rfl)
theorem dX3_deal_171 : decode cX3_deal 171 = .ok (.if_icmp .ge 47, 3) := dk_162 0 47 (dk_at dksX3_deal_7 9 rfl rfl)
theorem dX3_deal_174 : decode cX3_deal 174 = .ok (.aload_n 0, 1) := dk_42 (dk_at dksX3_deal_7 12 rfl rfl)
theorem dX3_deal_175 : decode cX3_deal 175 = .ok (.getfield 11, 3) := dk_180 0 11 (dk_at dksX3_deal_7 13 rfl rfl)
theorem dX3_deal_178 : decode cX3_deal 178 = .ok (.iload 4, 2) := dk_21 4 (dk_at dksX3_deal_7 16 rfl rfl)
theorem dX3_deal_180 : decode cX3_deal 180 = .ok (.aaload, 1) := dk_50 (dk_at dksX3_deal_7 18 rfl rfl)
theorem dX3_deal_181 : decode cX3_deal 181 = .ok (.aload_n 0, 1) := dk_42 (dk_at dksX3_deal_7 19 rfl rfl)
theorem dX3_deal_182 : decode cX3_deal 182 = .ok (.getfield 41, 3) := dk_180 0 41 (dk_at dksX3_deal_7 20 rfl rfl)
theorem dX3_deal_185 : decode cX3_deal 185 = .ok (.aload_n 0, 1) := dk_42 (dk_at dksX3_deal_7 23 rfl rfl)
theorem dX3_deal_186 : decode cX3_deal 186 = .ok (.getfield 60, 3) := dk_180 0 60 (dk_at dksX3_deal_8 0 rfl rfl)
theorem dX3_deal_189 : decode cX3_deal 189 = .ok (.iaload, 1) := dk_46 (dk_at dksX3_deal_8 3 rfl rfl)
theorem dX3_deal_190 : decode cX3_deal 190 = .ok (.dup2, 1) := dk_92 (dk_at dksX3_deal_8 4 rfl rfl)
theorem dX3_deal_191 : decode cX3_deal 191 = .ok (.iaload, 1) := dk_46 (dk_at dksX3_deal_8 5 rfl rfl)
theorem dX3_deal_192 : decode cX3_deal 192 = .ok (.iconst 1, 1) := dk_4 (dk_at dksX3_deal_8 6 rfl rfl)
theorem dX3_deal_193 : decode cX3_deal 193 = .ok (.iadd, 1) := dk_96 (dk_at dksX3_deal_8 7 rfl rfl)
theorem dX3_deal_194 : decode cX3_deal 194 = .ok (.iastore, 1) := dk_79 (dk_at dksX3_deal_8 8 rfl rfl)
theorem dX3_deal_195 : decode cX3_deal 195 = .ok (.aload_n 0, 1) := dk_42 (dk_at dksX3_deal_8 9 rfl rfl)
theorem dX3_deal_196 : decode cX3_deal 196 = .ok (.dup, 1) := dk_89 (dk_at dksX3_deal_8 10 rfl rfl)
theorem dX3_deal_197 : decode cX3_deal 197 = .ok (.getfield 60, 3) := dk_180 0 60 (dk_at dksX3_deal_8 11 rfl rfl)
theorem dX3_deal_200 : decode cX3_deal 200 = .ok (.iconst 1, 1) := dk_4 (dk_at dksX3_deal_8 14 rfl rfl)
theorem dX3_deal_201 : decode cX3_deal 201 = .ok (.iadd, 1) := dk_96 (dk_at dksX3_deal_8 15 rfl rfl)
theorem dX3_deal_202 : decode cX3_deal 202 = .ok (.putfield 60, 3) := dk_181 0 60 (dk_at dksX3_deal_8 16 rfl rfl)
theorem dX3_deal_205 : decode cX3_deal 205 = .ok (.aload_n 0, 1) := dk_42 (dk_at dksX3_deal_8 19 rfl rfl)
theorem dX3_deal_206 : decode cX3_deal 206 = .ok (.iload 4, 2) := dk_21 4 (dk_at dksX3_deal_8 20 rfl rfl)
theorem dX3_deal_208 : decode cX3_deal 208 = .ok (.iconst 0, 1) := dk_3 (dk_at dksX3_deal_8 22 rfl rfl)
theorem dX3_deal_209 : decode cX3_deal 209 = .ok (.invokevirtual 89, 3) := dk_182 0 89 (dk_at dksX3_deal_9 0 rfl rfl)
theorem dX3_deal_212 : decode cX3_deal 212 = .ok (.iinc 5 1, 3) := dk_132 5 1 (dk_at dksX3_deal_9 3 rfl rfl)
theorem dX3_deal_215 : decode cX3_deal 215 = .ok (.goto (-47), 3) := dk_167 255 209 (dk_at dksX3_deal_9 6 rfl rfl)
theorem dX3_deal_218 : decode cX3_deal 218 = .ok (.iinc 4 1, 3) := dk_132 4 1 (dk_at dksX3_deal_9 9 rfl rfl)
theorem dX3_deal_221 : decode cX3_deal 221 = .ok (.goto (-68), 3) := dk_167 255 188 (dk_at dksX3_deal_9 12 rfl rfl)
theorem dX3_deal_224 : decode cX3_deal 224 = .ok (.aload_n 0, 1) := dk_42 (dk_at dksX3_deal_9 15 rfl rfl)
theorem dX3_deal_225 : decode cX3_deal 225 = .ok (.invokevirtual 98, 3) := dk_182 0 98 (dk_at dksX3_deal_9 16 rfl rfl)
theorem dX3_deal_228 : decode cX3_deal 228 = .ok (.areturn, 1) := dk_176 (dk_at dksX3_deal_9 19 rfl rfl)
abbrev cX3_drawn : ByteArray := prog_6_method_26_code
def yX3_drawn : MethodName := ⟨RX3, "drawn", "(I)I"⟩
def dkwX3_drawn_1 : List UInt8 := [172]
abbrev dktX3_drawn_1 : List UInt8 := dkwX3_drawn_1 ++ []
def dkwX3_drawn_0 : List UInt8 := [42, 42, 180, 0, 175, 18, 178, 104, 17, 48, 57, 96, 181, 0, 175, 42, 180, 0, 175, 16, 8, 124, 27, 112]
abbrev dktX3_drawn_0 : List UInt8 := dkwX3_drawn_0 ++ dktX3_drawn_1
theorem dksX3_drawn_0 : cX3_drawn.data.toList.drop 0 = dktX3_drawn_0 := by decide +kernel
theorem dksX3_drawn_1 : cX3_drawn.data.toList.drop 24 = dktX3_drawn_1 := dk_seg dksX3_drawn_0 24 rfl rfl
theorem dX3_drawn_0 : decode cX3_drawn 0 = .ok (.aload_n 0, 1) := dk_42 (dk_at dksX3_drawn_0 0 rfl rfl)
theorem dX3_drawn_1 : decode cX3_drawn 1 = .ok (.aload_n 0, 1) := dk_42 (dk_at dksX3_drawn_0 1 rfl rfl)
theorem dX3_drawn_2 : decode cX3_drawn 2 = .ok (.getfield 175, 3) := dk_180 0 175 (dk_at dksX3_drawn_0 2 rfl rfl)
theorem dX3_drawn_5 : decode cX3_drawn 5 = .ok (.ldc 178, 2) := dk_18 178 (dk_at dksX3_drawn_0 5 rfl rfl)
theorem dX3_drawn_7 : decode cX3_drawn 7 = .ok (.imul, 1) := dk_104 (dk_at dksX3_drawn_0 7 rfl rfl)
theorem dX3_drawn_8 : decode cX3_drawn 8 = .ok (.sipush 12345, 3) := dk_17 48 57 (dk_at dksX3_drawn_0 8 rfl rfl)
theorem dX3_drawn_11 : decode cX3_drawn 11 = .ok (.iadd, 1) := dk_96 (dk_at dksX3_drawn_0 11 rfl rfl)
theorem dX3_drawn_12 : decode cX3_drawn 12 = .ok (.putfield 175, 3) := dk_181 0 175 (dk_at dksX3_drawn_0 12 rfl rfl)
theorem dX3_drawn_15 : decode cX3_drawn 15 = .ok (.aload_n 0, 1) := dk_42 (dk_at dksX3_drawn_0 15 rfl rfl)
theorem dX3_drawn_16 : decode cX3_drawn 16 = .ok (.getfield 175, 3) := dk_180 0 175 (dk_at dksX3_drawn_0 16 rfl rfl)
theorem dX3_drawn_19 : decode cX3_drawn 19 = .ok (.bipush 8, 2) := dk_16 8 (dk_at dksX3_drawn_0 19 rfl rfl)
theorem dX3_drawn_21 : decode cX3_drawn 21 = .ok (.iushr, 1) := dk_124 (dk_at dksX3_drawn_0 21 rfl rfl)
theorem dX3_drawn_22 : decode cX3_drawn 22 = .ok (.iload_n 1, 1) := dk_27 (dk_at dksX3_drawn_0 22 rfl rfl)
theorem dX3_drawn_23 : decode cX3_drawn 23 = .ok (.irem, 1) := dk_112 (dk_at dksX3_drawn_0 23 rfl rfl)
theorem dX3_drawn_24 : decode cX3_drawn 24 = .ok (.ireturn, 1) := dk_172 (dk_at dksX3_drawn_1 0 rfl rfl)
theorem q123 : (Jvm.Cond.initialized "SevenTable$Game") ∈ lw_all := lw_g (lw_at lw_m1 6 rfl) rfl
theorem q206 : (Jvm.Cond.fieldLinkNest "SevenTable$Game" (179 : Nat) "SevenTable$Table" "kinds" "I" "SevenTable") ∈ lw_tbl := lw_at lw_m1 89 rfl
theorem q209 : (Jvm.Cond.fieldLinkNest "SevenTable$Game" (141 : Nat) "SevenTable$Table" "refill" "I" "SevenTable") ∈ lw_tbl := lw_at lw_m1 92 rfl
theorem q213 : (Jvm.Cond.fieldLinkNest "SevenTable$Game" (94 : Nat) "SevenTable$Table" "heaped" "I" "SevenTable") ∈ lw_tbl := lw_at lw_m1 96 rfl
theorem q217 : (Jvm.Cond.fieldLinkNest "SevenTable$Game" (171 : Nat) "SevenTable$Table" "again" "Z" "SevenTable") ∈ lw_tbl := lw_at lw_m1 100 rfl
theorem q224 : (Jvm.Cond.fieldLinkNest "SevenTable$Game" (80 : Nat) "SevenTable$Table" "hand" "[[I" "SevenTable") ∈ lw_tbl := lw_at lw_m1 107 rfl
theorem q227 : (Jvm.Cond.fieldLinkNest "SevenTable$Game" (92 : Nat) "SevenTable$Table" "heap" "[I" "SevenTable") ∈ lw_tbl := lw_at lw_m1 110 rfl
theorem q230 : (Jvm.Cond.fieldLinkNest "SevenTable$Game" (93 : Nat) "SevenTable$Table" "cards" "[I" "SevenTable") ∈ lw_tbl := lw_at lw_m1 113 rfl
theorem q253 : (Jvm.Cond.instantiable "SevenTable$Game" (19 : Nat)) ∈ lw_all := lw_g (lw_at lw_m1 136 rfl) rfl
theorem q255 : (Jvm.Cond.instanceMethod ({ cls := "SevenTable$Game", name := "<init>", desc := "()V" } : Jvm.MethodName)) ∈ lw_all := lw_g (lw_at lw_m1 138 rfl) rfl
theorem q256 : (Jvm.Cond.code ({ cls := "SevenTable$Game", name := "<init>", desc := "()V" } : Jvm.MethodName) prog_6_method_1_code (1 : Nat) (Option.none : Option Jvm.ClassFile.FieldType)) ∈ lw_all := lw_g (lw_at lw_m1 139 rfl) rfl
theorem q257 : (Jvm.Cond.methodLink "SevenTable$Game" (3 : Nat) ({ cls := "java/lang/Object", name := "<init>", desc := "()V" } : Jvm.MethodName)) ∈ lw_all := lw_g (lw_at lw_m1 140 rfl) rfl
theorem q258 : (Jvm.Cond.classLink "SevenTable$Game" (9 : Nat) "[[I") ∈ lw_all := lw_g (lw_at lw_m1 141 rfl) rfl
theorem q259 : (Jvm.Cond.fieldLink "SevenTable$Game" (50 : Nat) "SevenTable$Game" "t" "LSevenTable$Table;") ∈ lw_all := lw_g (lw_at lw_m1 142 rfl) rfl
theorem q264 : (Jvm.Cond.fieldLink "SevenTable$Game" (11 : Nat) "SevenTable$Game" "hand" "[[I") ∈ lw_all := lw_g (lw_at lw_m1 147 rfl) rfl
theorem q274 : (Jvm.Cond.fieldLink "SevenTable$Game" (16 : Nat) "SevenTable$Game" "known" "[[I") ∈ lw_all := lw_g (lw_at lw_m1 157 rfl) rfl
theorem q278 : (Jvm.Cond.fieldLink "SevenTable$Game" (19 : Nat) "SevenTable$Game" "other" "[[I") ∈ lw_all := lw_g (lw_at lw_m1 161 rfl) rfl
theorem q280 : (Jvm.Cond.fieldLink "SevenTable$Game" (22 : Nat) "SevenTable$Game" "others" "[I") ∈ lw_all := lw_g (lw_at lw_m1 163 rfl) rfl
theorem q282 : (Jvm.Cond.fieldLink "SevenTable$Game" (26 : Nat) "SevenTable$Game" "caught" "[I") ∈ lw_all := lw_g (lw_at lw_m1 165 rfl) rfl
theorem q284 : (Jvm.Cond.fieldLink "SevenTable$Game" (29 : Nat) "SevenTable$Game" "asks" "[I") ∈ lw_all := lw_g (lw_at lw_m1 167 rfl) rfl
theorem q286 : (Jvm.Cond.fieldLink "SevenTable$Game" (32 : Nat) "SevenTable$Game" "given" "[I") ∈ lw_all := lw_g (lw_at lw_m1 169 rfl) rfl
theorem q288 : (Jvm.Cond.fieldLink "SevenTable$Game" (35 : Nat) "SevenTable$Game" "drew" "[I") ∈ lw_all := lw_g (lw_at lw_m1 171 rfl) rfl
theorem q291 : (Jvm.Cond.fieldLink "SevenTable$Game" (38 : Nat) "SevenTable$Game" "book" "[I") ∈ lw_all := lw_g (lw_at lw_m1 174 rfl) rfl
theorem q294 : (Jvm.Cond.fieldLink "SevenTable$Game" (41 : Nat) "SevenTable$Game" "heap" "[I") ∈ lw_all := lw_g (lw_at lw_m1 177 rfl) rfl
theorem q298 : (Jvm.Cond.fieldLink "SevenTable$Game" (44 : Nat) "SevenTable$Game" "cards" "[I") ∈ lw_all := lw_g (lw_at lw_m1 181 rfl) rfl
theorem q301 : (Jvm.Cond.fieldLink "SevenTable$Game" (60 : Nat) "SevenTable$Game" "heapAt" "I") ∈ lw_all := lw_g (lw_at lw_m1 184 rfl) rfl
theorem q304 : (Jvm.Cond.fieldLink "SevenTable$Game" (97 : Nat) "SevenTable$Game" "heaped" "I") ∈ lw_all := lw_g (lw_at lw_m1 187 rfl) rfl
theorem q307 : (Jvm.Cond.fieldLink "SevenTable$Game" (109 : Nat) "SevenTable$Game" "turn" "I") ∈ lw_all := lw_g (lw_at lw_m1 190 rfl) rfl
theorem q309 : (Jvm.Cond.fieldLink "SevenTable$Game" (64 : Nat) "SevenTable$Game" "askings" "I") ∈ lw_all := lw_g (lw_at lw_m1 192 rfl) rfl
theorem q312 : (Jvm.Cond.fieldLink "SevenTable$Game" (67 : Nat) "SevenTable$Game" "vain" "I") ∈ lw_all := lw_g (lw_at lw_m1 195 rfl) rfl
theorem q314 : (Jvm.Cond.fieldLink "SevenTable$Game" (47 : Nat) "SevenTable$Game" "latest" "[I") ∈ lw_all := lw_g (lw_at lw_m1 197 rfl) rfl
theorem q316 : (Jvm.Cond.fieldLink "SevenTable$Game" (175 : Nat) "SevenTable$Game" "seed" "I") ∈ lw_all := lw_g (lw_at lw_m1 199 rfl) rfl
theorem q317 : (Jvm.Cond.lays "SevenTable$Game" "SevenTable$Game" "t" "LSevenTable$Table;") ∈ lw_all := lw_g (lw_at lw_m1 200 rfl) rfl
theorem q318 : (Jvm.Cond.soleField "SevenTable$Game" "t") ∈ lw_all := lw_g (lw_at lw_m1 201 rfl) rfl
theorem q319 : (Jvm.Cond.laysFinal "SevenTable$Game" "SevenTable$Game" "hand" "[[I") ∈ lw_all := lw_g (lw_at lw_m1 202 rfl) rfl
theorem q320 : (Jvm.Cond.soleField "SevenTable$Game" "hand") ∈ lw_all := lw_g (lw_at lw_m1 203 rfl) rfl
theorem q321 : (Jvm.Cond.laysFinal "SevenTable$Game" "SevenTable$Game" "known" "[[I") ∈ lw_all := lw_g (lw_at lw_m1 204 rfl) rfl
theorem q322 : (Jvm.Cond.soleField "SevenTable$Game" "known") ∈ lw_all := lw_g (lw_at lw_m1 205 rfl) rfl
theorem q323 : (Jvm.Cond.laysFinal "SevenTable$Game" "SevenTable$Game" "other" "[[I") ∈ lw_all := lw_g (lw_at lw_m1 206 rfl) rfl
theorem q324 : (Jvm.Cond.soleField "SevenTable$Game" "other") ∈ lw_all := lw_g (lw_at lw_m1 207 rfl) rfl
theorem q325 : (Jvm.Cond.laysFinal "SevenTable$Game" "SevenTable$Game" "others" "[I") ∈ lw_all := lw_g (lw_at lw_m1 208 rfl) rfl
theorem q326 : (Jvm.Cond.soleField "SevenTable$Game" "others") ∈ lw_all := lw_g (lw_at lw_m1 209 rfl) rfl
theorem q327 : (Jvm.Cond.laysFinal "SevenTable$Game" "SevenTable$Game" "caught" "[I") ∈ lw_all := lw_g (lw_at lw_m1 210 rfl) rfl
theorem q328 : (Jvm.Cond.soleField "SevenTable$Game" "caught") ∈ lw_all := lw_g (lw_at lw_m1 211 rfl) rfl
theorem q329 : (Jvm.Cond.laysFinal "SevenTable$Game" "SevenTable$Game" "asks" "[I") ∈ lw_all := lw_g (lw_at lw_m1 212 rfl) rfl
theorem q330 : (Jvm.Cond.soleField "SevenTable$Game" "asks") ∈ lw_all := lw_g (lw_at lw_m1 213 rfl) rfl
theorem q331 : (Jvm.Cond.laysFinal "SevenTable$Game" "SevenTable$Game" "given" "[I") ∈ lw_all := lw_g (lw_at lw_m1 214 rfl) rfl
theorem q332 : (Jvm.Cond.soleField "SevenTable$Game" "given") ∈ lw_all := lw_g (lw_at lw_m1 215 rfl) rfl
theorem q333 : (Jvm.Cond.laysFinal "SevenTable$Game" "SevenTable$Game" "drew" "[I") ∈ lw_all := lw_g (lw_at lw_m1 216 rfl) rfl
theorem q334 : (Jvm.Cond.soleField "SevenTable$Game" "drew") ∈ lw_all := lw_g (lw_at lw_m1 217 rfl) rfl
theorem q335 : (Jvm.Cond.laysFinal "SevenTable$Game" "SevenTable$Game" "book" "[I") ∈ lw_all := lw_g (lw_at lw_m1 218 rfl) rfl
theorem q336 : (Jvm.Cond.soleField "SevenTable$Game" "book") ∈ lw_all := lw_g (lw_at lw_m1 219 rfl) rfl
theorem q337 : (Jvm.Cond.laysFinal "SevenTable$Game" "SevenTable$Game" "heap" "[I") ∈ lw_all := lw_g (lw_at lw_m1 220 rfl) rfl
theorem q338 : (Jvm.Cond.soleField "SevenTable$Game" "heap") ∈ lw_all := lw_g (lw_at lw_m1 221 rfl) rfl
theorem q339 : (Jvm.Cond.laysFinal "SevenTable$Game" "SevenTable$Game" "cards" "[I") ∈ lw_all := lw_g (lw_at lw_m1 222 rfl) rfl
theorem q340 : (Jvm.Cond.soleField "SevenTable$Game" "cards") ∈ lw_all := lw_g (lw_at lw_m1 223 rfl) rfl
theorem q341 : (Jvm.Cond.lays "SevenTable$Game" "SevenTable$Game" "heapAt" "I") ∈ lw_all := lw_g (lw_at lw_m1 224 rfl) rfl
theorem q342 : (Jvm.Cond.soleField "SevenTable$Game" "heapAt") ∈ lw_all := lw_g (lw_at lw_m1 225 rfl) rfl
theorem q343 : (Jvm.Cond.lays "SevenTable$Game" "SevenTable$Game" "heaped" "I") ∈ lw_all := lw_g (lw_at lw_m1 226 rfl) rfl
theorem q344 : (Jvm.Cond.soleField "SevenTable$Game" "heaped") ∈ lw_all := lw_g (lw_at lw_m1 227 rfl) rfl
theorem q345 : (Jvm.Cond.lays "SevenTable$Game" "SevenTable$Game" "turn" "I") ∈ lw_all := lw_g (lw_at lw_m1 228 rfl) rfl
theorem q346 : (Jvm.Cond.soleField "SevenTable$Game" "turn") ∈ lw_all := lw_g (lw_at lw_m1 229 rfl) rfl
theorem q347 : (Jvm.Cond.lays "SevenTable$Game" "SevenTable$Game" "askings" "I") ∈ lw_all := lw_g (lw_at lw_m1 230 rfl) rfl
theorem q348 : (Jvm.Cond.soleField "SevenTable$Game" "askings") ∈ lw_all := lw_g (lw_at lw_m1 231 rfl) rfl
theorem q349 : (Jvm.Cond.lays "SevenTable$Game" "SevenTable$Game" "vain" "I") ∈ lw_all := lw_g (lw_at lw_m1 232 rfl) rfl
theorem q350 : (Jvm.Cond.soleField "SevenTable$Game" "vain") ∈ lw_all := lw_g (lw_at lw_m1 233 rfl) rfl
theorem q351 : (Jvm.Cond.laysFinal "SevenTable$Game" "SevenTable$Game" "latest" "[I") ∈ lw_all := lw_g (lw_at lw_m1 234 rfl) rfl
theorem q352 : (Jvm.Cond.soleField "SevenTable$Game" "latest") ∈ lw_all := lw_g (lw_at lw_m1 235 rfl) rfl
theorem q353 : (Jvm.Cond.lays "SevenTable$Game" "SevenTable$Game" "seed" "I") ∈ lw_all := lw_g (lw_at lw_m1 236 rfl) rfl
theorem q354 : (Jvm.Cond.soleField "SevenTable$Game" "seed") ∈ lw_all := lw_g (lw_at lw_m1 237 rfl) rfl
theorem q355 : (Jvm.Cond.superclass "SevenTable$Game" "java/lang/Object") ∈ lw_all := lw_g (lw_at lw_m1 238 rfl) rfl
theorem q357 : (Jvm.Cond.instanceMethod ({ cls := "SevenTable$Game", name := "begin", desc := "(LSevenTable$Table;)LSevenTable$Game;" } : Jvm.MethodName)) ∈ lw_all := lw_g (lw_at lw_m2 0 rfl) rfl
theorem q358 : (Jvm.Cond.selects "SevenTable$Game" ({ cls := "SevenTable$Game", name := "begin", desc := "(LSevenTable$Table;)LSevenTable$Game;" } : Jvm.MethodName) ({ cls := "SevenTable$Game", name := "begin", desc := "(LSevenTable$Table;)LSevenTable$Game;" } : Jvm.MethodName)) ∈ lw_all := lw_g (lw_at lw_m2 1 rfl) rfl
theorem q359 : (Jvm.Cond.code ({ cls := "SevenTable$Game", name := "begin", desc := "(LSevenTable$Table;)LSevenTable$Game;" } : Jvm.MethodName) prog_6_method_3_code (4 : Nat) (Option.some (Jvm.ClassFile.FieldType.object "SevenTable$Game"))) ∈ lw_all := lw_g (lw_at lw_m2 2 rfl) rfl
theorem q360 : (Jvm.Cond.methodLink "SevenTable$Game" (70 : Nat) ({ cls := "SevenTable$Game", name := "clear", desc := "(LSevenTable$Table;)V" } : Jvm.MethodName)) ∈ lw_all := lw_g (lw_at lw_m2 3 rfl) rfl
theorem q361 : (Jvm.Cond.privateMethod ({ cls := "SevenTable$Game", name := "clear", desc := "(LSevenTable$Table;)V" } : Jvm.MethodName)) ∈ lw_tbl := lw_at lw_m2 4 rfl
theorem q362 : (Jvm.Cond.instanceMethod ({ cls := "SevenTable$Game", name := "clear", desc := "(LSevenTable$Table;)V" } : Jvm.MethodName)) ∈ lw_all := lw_g (lw_at lw_m2 5 rfl) rfl
theorem q363 : (Jvm.Cond.code ({ cls := "SevenTable$Game", name := "clear", desc := "(LSevenTable$Table;)V" } : Jvm.MethodName) prog_6_method_2_code (3 : Nat) (Option.none : Option Jvm.ClassFile.FieldType)) ∈ lw_all := lw_g (lw_at lw_m2 6 rfl) rfl
theorem q364 : (Jvm.Cond.methodLink "SevenTable$Game" (54 : Nat) ({ cls := "java/util/Arrays", name := "fill", desc := "([II)V" } : Jvm.MethodName)) ∈ lw_all := lw_g (lw_at lw_m2 7 rfl) rfl
theorem q367 : (Jvm.Cond.methodLink "SevenTable$Game" (74 : Nat) ({ cls := "SevenTable$Table", name := "many", desc := "()I" } : Jvm.MethodName)) ∈ lw_all := lw_g (lw_at lw_m2 10 rfl) rfl
theorem q375 : (Jvm.Cond.methodLink "SevenTable$Game" (81 : Nat) ({ cls := "SevenTable$Game", name := "copy", desc := "([I[I)V" } : Jvm.MethodName)) ∈ lw_all := lw_g (lw_at lw_m2 18 rfl) rfl
theorem q376 : (Jvm.Cond.static ({ cls := "SevenTable$Game", name := "copy", desc := "([I[I)V" } : Jvm.MethodName)) ∈ lw_all := lw_g (lw_at lw_m2 19 rfl) rfl
theorem q377 : (Jvm.Cond.code ({ cls := "SevenTable$Game", name := "copy", desc := "([I[I)V" } : Jvm.MethodName) prog_6_method_6_code (2 : Nat) (Option.none : Option Jvm.ClassFile.FieldType)) ∈ lw_all := lw_g (lw_at lw_m2 20 rfl) rfl
theorem q378 : (Jvm.Cond.methodLink "SevenTable$Game" (112 : Nat) ({ cls := "java/lang/System", name := "arraycopy", desc := "(Ljava/lang/Object;ILjava/lang/Object;II)V" } : Jvm.MethodName)) ∈ lw_all := lw_g (lw_at lw_m2 21 rfl) rfl
theorem q381 : (Jvm.Cond.methodLink "SevenTable$Game" (85 : Nat) ({ cls := "SevenTable$Game", name := "size", desc := "(I)I" } : Jvm.MethodName)) ∈ lw_all := lw_g (lw_at lw_m2 24 rfl) rfl
theorem q382 : (Jvm.Cond.instanceMethod ({ cls := "SevenTable$Game", name := "size", desc := "(I)I" } : Jvm.MethodName)) ∈ lw_all := lw_g (lw_at lw_m2 25 rfl) rfl
theorem q383 : (Jvm.Cond.selects "SevenTable$Game" ({ cls := "SevenTable$Game", name := "size", desc := "(I)I" } : Jvm.MethodName) ({ cls := "SevenTable$Game", name := "size", desc := "(I)I" } : Jvm.MethodName)) ∈ lw_all := lw_g (lw_at lw_m2 26 rfl) rfl
theorem q384 : (Jvm.Cond.code ({ cls := "SevenTable$Game", name := "size", desc := "(I)I" } : Jvm.MethodName) prog_6_method_7_code (4 : Nat) (Option.some Jvm.ClassFile.FieldType.int)) ∈ lw_all := lw_g (lw_at lw_m2 27 rfl) rfl
theorem q385 : (Jvm.Cond.methodLink "SevenTable$Game" (89 : Nat) ({ cls := "SevenTable$Game", name := "others", desc := "(II)V" } : Jvm.MethodName)) ∈ lw_all := lw_g (lw_at lw_m2 28 rfl) rfl
theorem q386 : (Jvm.Cond.privateMethod ({ cls := "SevenTable$Game", name := "others", desc := "(II)V" } : Jvm.MethodName)) ∈ lw_tbl := lw_at lw_m2 29 rfl
theorem q387 : (Jvm.Cond.instanceMethod ({ cls := "SevenTable$Game", name := "others", desc := "(II)V" } : Jvm.MethodName)) ∈ lw_all := lw_g (lw_at lw_m2 30 rfl) rfl
theorem q388 : (Jvm.Cond.code ({ cls := "SevenTable$Game", name := "others", desc := "(II)V" } : Jvm.MethodName) prog_6_method_12_code (3 : Nat) (Option.none : Option Jvm.ClassFile.FieldType)) ∈ lw_all := lw_g (lw_at lw_m2 31 rfl) rfl
theorem q389 : (Jvm.Cond.methodLink "SevenTable$Game" (98 : Nat) ({ cls := "SevenTable$Game", name := "first", desc := "()LSevenTable$Game;" } : Jvm.MethodName)) ∈ lw_all := lw_g (lw_at lw_m2 32 rfl) rfl
theorem q390 : (Jvm.Cond.privateMethod ({ cls := "SevenTable$Game", name := "first", desc := "()LSevenTable$Game;" } : Jvm.MethodName)) ∈ lw_tbl := lw_at lw_m2 33 rfl
theorem q391 : (Jvm.Cond.instanceMethod ({ cls := "SevenTable$Game", name := "first", desc := "()LSevenTable$Game;" } : Jvm.MethodName)) ∈ lw_all := lw_g (lw_at lw_m2 34 rfl) rfl
theorem q392 : (Jvm.Cond.code ({ cls := "SevenTable$Game", name := "first", desc := "()LSevenTable$Game;" } : Jvm.MethodName) prog_6_method_4_code (2 : Nat) (Option.some (Jvm.ClassFile.FieldType.object "SevenTable$Game"))) ∈ lw_all := lw_g (lw_at lw_m2 35 rfl) rfl
theorem q393 : (Jvm.Cond.methodLink "SevenTable$Game" (102 : Nat) ({ cls := "SevenTable$Game", name := "books", desc := "(I)V" } : Jvm.MethodName)) ∈ lw_all := lw_g (lw_at lw_m2 36 rfl) rfl
theorem q394 : (Jvm.Cond.privateMethod ({ cls := "SevenTable$Game", name := "books", desc := "(I)V" } : Jvm.MethodName)) ∈ lw_tbl := lw_at lw_m2 37 rfl
theorem q395 : (Jvm.Cond.instanceMethod ({ cls := "SevenTable$Game", name := "books", desc := "(I)V" } : Jvm.MethodName)) ∈ lw_all := lw_g (lw_at lw_m2 38 rfl) rfl
theorem q396 : (Jvm.Cond.code ({ cls := "SevenTable$Game", name := "books", desc := "(I)V" } : Jvm.MethodName) prog_6_method_20_code (3 : Nat) (Option.none : Option Jvm.ClassFile.FieldType)) ∈ lw_all := lw_g (lw_at lw_m2 39 rfl) rfl
theorem q397 : (Jvm.Cond.methodLink "SevenTable$Game" (137 : Nat) ({ cls := "SevenTable$Game", name := "learnUpTo", desc := "(III)V" } : Jvm.MethodName)) ∈ lw_all := lw_g (lw_at lw_m2 40 rfl) rfl
theorem q398 : (Jvm.Cond.privateMethod ({ cls := "SevenTable$Game", name := "learnUpTo", desc := "(III)V" } : Jvm.MethodName)) ∈ lw_tbl := lw_at lw_m2 41 rfl
theorem q399 : (Jvm.Cond.instanceMethod ({ cls := "SevenTable$Game", name := "learnUpTo", desc := "(III)V" } : Jvm.MethodName)) ∈ lw_all := lw_g (lw_at lw_m2 42 rfl) rfl
theorem q400 : (Jvm.Cond.code ({ cls := "SevenTable$Game", name := "learnUpTo", desc := "(III)V" } : Jvm.MethodName) prog_6_method_16_code (4 : Nat) (Option.none : Option Jvm.ClassFile.FieldType)) ∈ lw_all := lw_g (lw_at lw_m2 43 rfl) rfl
theorem q401 : (Jvm.Cond.methodLink "SevenTable$Game" (134 : Nat) ({ cls := "SevenTable$Game", name := "learn", desc := "(II)V" } : Jvm.MethodName)) ∈ lw_all := lw_g (lw_at lw_m2 44 rfl) rfl
theorem q402 : (Jvm.Cond.privateMethod ({ cls := "SevenTable$Game", name := "learn", desc := "(II)V" } : Jvm.MethodName)) ∈ lw_tbl := lw_at lw_m2 45 rfl
theorem q403 : (Jvm.Cond.instanceMethod ({ cls := "SevenTable$Game", name := "learn", desc := "(II)V" } : Jvm.MethodName)) ∈ lw_all := lw_g (lw_at lw_m2 46 rfl) rfl
theorem q404 : (Jvm.Cond.code ({ cls := "SevenTable$Game", name := "learn", desc := "(II)V" } : Jvm.MethodName) prog_6_method_15_code (4 : Nat) (Option.none : Option Jvm.ClassFile.FieldType)) ∈ lw_all := lw_g (lw_at lw_m2 47 rfl) rfl
theorem q405 : (Jvm.Cond.methodLink "SevenTable$Game" (122 : Nat) ({ cls := "SevenTable$Game", name := "firstThatCan", desc := "(II)I" } : Jvm.MethodName)) ∈ lw_all := lw_g (lw_at lw_m2 48 rfl) rfl
theorem q406 : (Jvm.Cond.privateMethod ({ cls := "SevenTable$Game", name := "firstThatCan", desc := "(II)I" } : Jvm.MethodName)) ∈ lw_tbl := lw_at lw_m2 49 rfl
theorem q407 : (Jvm.Cond.instanceMethod ({ cls := "SevenTable$Game", name := "firstThatCan", desc := "(II)I" } : Jvm.MethodName)) ∈ lw_all := lw_g (lw_at lw_m2 50 rfl) rfl
theorem q408 : (Jvm.Cond.code ({ cls := "SevenTable$Game", name := "firstThatCan", desc := "(II)I" } : Jvm.MethodName) prog_6_method_14_code (4 : Nat) (Option.some Jvm.ClassFile.FieldType.int)) ∈ lw_all := lw_g (lw_at lw_m2 51 rfl) rfl
theorem q409 : (Jvm.Cond.methodLinkNest "SevenTable$Game" (118 : Nat) ({ cls := "SevenTable", name := "isOf", desc := "(II)Z" } : Jvm.MethodName) "SevenTable") ∈ lw_tbl := lw_at lw_m2 52 rfl
theorem q412 : (Jvm.Cond.methodLink "SevenTable$Game" (126 : Nat) ({ cls := "java/lang/Math", name := "max", desc := "(II)I" } : Jvm.MethodName)) ∈ lw_all := lw_g (lw_at lw_m2 55 rfl) rfl
theorem q415 : (Jvm.Cond.methodLink "SevenTable$Game" (131 : Nat) ({ cls := "SevenTable$Game", name := "dropOther", desc := "(II)V" } : Jvm.MethodName)) ∈ lw_all := lw_g (lw_at lw_m2 58 rfl) rfl
theorem q416 : (Jvm.Cond.privateMethod ({ cls := "SevenTable$Game", name := "dropOther", desc := "(II)V" } : Jvm.MethodName)) ∈ lw_tbl := lw_at lw_m2 59 rfl
theorem q417 : (Jvm.Cond.instanceMethod ({ cls := "SevenTable$Game", name := "dropOther", desc := "(II)V" } : Jvm.MethodName)) ∈ lw_all := lw_g (lw_at lw_m2 60 rfl) rfl
theorem q418 : (Jvm.Cond.code ({ cls := "SevenTable$Game", name := "dropOther", desc := "(II)V" } : Jvm.MethodName) prog_6_method_13_code (4 : Nat) (Option.none : Option Jvm.ClassFile.FieldType)) ∈ lw_all := lw_g (lw_at lw_m2 61 rfl) rfl
theorem q419 : (Jvm.Cond.methodLink "SevenTable$Game" (106 : Nat) ({ cls := "SevenTable$Game", name := "settle", desc := "(I)V" } : Jvm.MethodName)) ∈ lw_all := lw_g (lw_at lw_m2 62 rfl) rfl
theorem q420 : (Jvm.Cond.privateMethod ({ cls := "SevenTable$Game", name := "settle", desc := "(I)V" } : Jvm.MethodName)) ∈ lw_tbl := lw_at lw_m2 63 rfl
theorem q421 : (Jvm.Cond.instanceMethod ({ cls := "SevenTable$Game", name := "settle", desc := "(I)V" } : Jvm.MethodName)) ∈ lw_all := lw_g (lw_at lw_m2 64 rfl) rfl
theorem q422 : (Jvm.Cond.code ({ cls := "SevenTable$Game", name := "settle", desc := "(I)V" } : Jvm.MethodName) prog_6_method_21_code (5 : Nat) (Option.none : Option Jvm.ClassFile.FieldType)) ∈ lw_all := lw_g (lw_at lw_m2 65 rfl) rfl
theorem q423 : (Jvm.Cond.methodLink "SevenTable$Game" (144 : Nat) ({ cls := "SevenTable$Game", name := "left", desc := "()I" } : Jvm.MethodName)) ∈ lw_all := lw_g (lw_at lw_m2 66 rfl) rfl
theorem q424 : (Jvm.Cond.instanceMethod ({ cls := "SevenTable$Game", name := "left", desc := "()I" } : Jvm.MethodName)) ∈ lw_all := lw_g (lw_at lw_m2 67 rfl) rfl
theorem q425 : (Jvm.Cond.selects "SevenTable$Game" ({ cls := "SevenTable$Game", name := "left", desc := "()I" } : Jvm.MethodName) ({ cls := "SevenTable$Game", name := "left", desc := "()I" } : Jvm.MethodName)) ∈ lw_all := lw_g (lw_at lw_m2 68 rfl) rfl
theorem q426 : (Jvm.Cond.code ({ cls := "SevenTable$Game", name := "left", desc := "()I" } : Jvm.MethodName) prog_6_method_8_code (1 : Nat) (Option.some Jvm.ClassFile.FieldType.int)) ∈ lw_all := lw_g (lw_at lw_m2 69 rfl) rfl
theorem q427 : (Jvm.Cond.methodLink "SevenTable$Game" (147 : Nat) ({ cls := "java/lang/Math", name := "min", desc := "(II)I" } : Jvm.MethodName)) ∈ lw_all := lw_g (lw_at lw_m2 70 rfl) rfl
theorem q430 : (Jvm.Cond.methodLink "SevenTable$Game" (150 : Nat) ({ cls := "SevenTable$Game", name := "draw", desc := "(I)I" } : Jvm.MethodName)) ∈ lw_all := lw_g (lw_at lw_m2 73 rfl) rfl
theorem q431 : (Jvm.Cond.privateMethod ({ cls := "SevenTable$Game", name := "draw", desc := "(I)I" } : Jvm.MethodName)) ∈ lw_tbl := lw_at lw_m2 74 rfl
theorem q432 : (Jvm.Cond.instanceMethod ({ cls := "SevenTable$Game", name := "draw", desc := "(I)I" } : Jvm.MethodName)) ∈ lw_all := lw_g (lw_at lw_m2 75 rfl) rfl
theorem q433 : (Jvm.Cond.code ({ cls := "SevenTable$Game", name := "draw", desc := "(I)I" } : Jvm.MethodName) prog_6_method_19_code (3 : Nat) (Option.some Jvm.ClassFile.FieldType.int)) ∈ lw_all := lw_g (lw_at lw_m2 76 rfl) rfl
theorem q1081 : (Jvm.Cond.selects "SevenTable$Game" ({ cls := "java/lang/Object", name := "equals", desc := "(Ljava/lang/Object;)Z" } : Jvm.MethodName) ({ cls := "java/lang/Object", name := "equals", desc := "(Ljava/lang/Object;)Z" } : Jvm.MethodName)) ∈ lw_all := lw_g (lw_at lw_m5 4 rfl) rfl
theorem q1126 : (Jvm.Cond.selects "SevenTable$Game" ({ cls := "java/lang/Object", name := "getClass", desc := "()Ljava/lang/Class;" } : Jvm.MethodName) ({ cls := "java/lang/Object", name := "getClass", desc := "()Ljava/lang/Class;" } : Jvm.MethodName)) ∈ lw_all := lw_g (lw_at lw_m5 49 rfl) rfl
theorem q1209 : (Jvm.Cond.instanceMethod ({ cls := "SevenTable$Game", name := "booksOf", desc := "(I)I" } : Jvm.MethodName)) ∈ lw_all := lw_g (lw_at lw_m5 132 rfl) rfl
theorem q1210 : (Jvm.Cond.selects "SevenTable$Game" ({ cls := "SevenTable$Game", name := "booksOf", desc := "(I)I" } : Jvm.MethodName) ({ cls := "SevenTable$Game", name := "booksOf", desc := "(I)I" } : Jvm.MethodName)) ∈ lw_all := lw_g (lw_at lw_m5 133 rfl) rfl
theorem q1211 : (Jvm.Cond.code ({ cls := "SevenTable$Game", name := "booksOf", desc := "(I)I" } : Jvm.MethodName) prog_6_method_10_code (4 : Nat) (Option.some Jvm.ClassFile.FieldType.int)) ∈ lw_all := lw_g (lw_at lw_m5 134 rfl) rfl
theorem q1234 : (Jvm.Cond.instanceMethod ({ cls := "SevenTable$Game", name := "books", desc := "()I" } : Jvm.MethodName)) ∈ lw_all := lw_g (lw_at lw_m5 157 rfl) rfl
theorem q1235 : (Jvm.Cond.selects "SevenTable$Game" ({ cls := "SevenTable$Game", name := "books", desc := "()I" } : Jvm.MethodName) ({ cls := "SevenTable$Game", name := "books", desc := "()I" } : Jvm.MethodName)) ∈ lw_all := lw_g (lw_at lw_m5 158 rfl) rfl
theorem q1236 : (Jvm.Cond.code ({ cls := "SevenTable$Game", name := "books", desc := "()I" } : Jvm.MethodName) prog_6_method_9_code (3 : Nat) (Option.some Jvm.ClassFile.FieldType.int)) ∈ lw_all := lw_g (lw_at lw_m5 159 rfl) rfl
theorem q1251 : (Jvm.Cond.instanceMethod ({ cls := "SevenTable$Game", name := "whyNot", desc := "(III)I" } : Jvm.MethodName)) ∈ lw_all := lw_g (lw_at lw_m5 174 rfl) rfl
theorem q1252 : (Jvm.Cond.selects "SevenTable$Game" ({ cls := "SevenTable$Game", name := "whyNot", desc := "(III)I" } : Jvm.MethodName) ({ cls := "SevenTable$Game", name := "whyNot", desc := "(III)I" } : Jvm.MethodName)) ∈ lw_all := lw_g (lw_at lw_m5 175 rfl) rfl
theorem q1253 : (Jvm.Cond.code ({ cls := "SevenTable$Game", name := "whyNot", desc := "(III)I" } : Jvm.MethodName) prog_6_method_22_code (4 : Nat) (Option.some Jvm.ClassFile.FieldType.int)) ∈ lw_all := lw_g (lw_at lw_m5 176 rfl) rfl
theorem q1254 : (Jvm.Cond.methodLink "SevenTable$Game" (153 : Nat) ({ cls := "SevenTable$Game", name := "isOver", desc := "()Z" } : Jvm.MethodName)) ∈ lw_all := lw_g (lw_at lw_m5 177 rfl) rfl
theorem q1255 : (Jvm.Cond.instanceMethod ({ cls := "SevenTable$Game", name := "isOver", desc := "()Z" } : Jvm.MethodName)) ∈ lw_all := lw_g (lw_at lw_m5 178 rfl) rfl
theorem q1256 : (Jvm.Cond.selects "SevenTable$Game" ({ cls := "SevenTable$Game", name := "isOver", desc := "()Z" } : Jvm.MethodName) ({ cls := "SevenTable$Game", name := "isOver", desc := "()Z" } : Jvm.MethodName)) ∈ lw_all := lw_g (lw_at lw_m5 179 rfl) rfl
theorem q1257 : (Jvm.Cond.code ({ cls := "SevenTable$Game", name := "isOver", desc := "()Z" } : Jvm.MethodName) prog_6_method_11_code (1 : Nat) (Option.some Jvm.ClassFile.FieldType.boolean)) ∈ lw_all := lw_g (lw_at lw_m5 180 rfl) rfl
theorem q1267 : (Jvm.Cond.instanceMethod ({ cls := "SevenTable$Game", name := "as", desc := "(LSevenTable$Game;)LSevenTable$Game;" } : Jvm.MethodName)) ∈ lw_all := lw_g (lw_at lw_m5 190 rfl) rfl
theorem q1268 : (Jvm.Cond.selects "SevenTable$Game" ({ cls := "SevenTable$Game", name := "as", desc := "(LSevenTable$Game;)LSevenTable$Game;" } : Jvm.MethodName) ({ cls := "SevenTable$Game", name := "as", desc := "(LSevenTable$Game;)LSevenTable$Game;" } : Jvm.MethodName)) ∈ lw_all := lw_g (lw_at lw_m5 191 rfl) rfl
theorem q1269 : (Jvm.Cond.code ({ cls := "SevenTable$Game", name := "as", desc := "(LSevenTable$Game;)LSevenTable$Game;" } : Jvm.MethodName) prog_6_method_5_code (3 : Nat) (Option.some (Jvm.ClassFile.FieldType.object "SevenTable$Game"))) ∈ lw_all := lw_g (lw_at lw_m5 192 rfl) rfl
theorem q1271 : (Jvm.Cond.instanceMethod ({ cls := "SevenTable$Game", name := "asks", desc := "(IIIZ)I" } : Jvm.MethodName)) ∈ lw_all := lw_g (lw_at lw_m5 194 rfl) rfl
theorem q1272 : (Jvm.Cond.selects "SevenTable$Game" ({ cls := "SevenTable$Game", name := "asks", desc := "(IIIZ)I" } : Jvm.MethodName) ({ cls := "SevenTable$Game", name := "asks", desc := "(IIIZ)I" } : Jvm.MethodName)) ∈ lw_all := lw_g (lw_at lw_m5 195 rfl) rfl
theorem q1273 : (Jvm.Cond.code ({ cls := "SevenTable$Game", name := "asks", desc := "(IIIZ)I" } : Jvm.MethodName) prog_6_method_23_code (9 : Nat) (Option.some Jvm.ClassFile.FieldType.int)) ∈ lw_all := lw_g (lw_at lw_m5 196 rfl) rfl
theorem q1274 : (Jvm.Cond.methodLink "SevenTable$Game" (157 : Nat) ({ cls := "SevenTable$Game", name := "can", desc := "(II)I" } : Jvm.MethodName)) ∈ lw_all := lw_g (lw_at lw_m5 197 rfl) rfl
theorem q1275 : (Jvm.Cond.instanceMethod ({ cls := "SevenTable$Game", name := "can", desc := "(II)I" } : Jvm.MethodName)) ∈ lw_all := lw_g (lw_at lw_m5 198 rfl) rfl
theorem q1276 : (Jvm.Cond.selects "SevenTable$Game" ({ cls := "SevenTable$Game", name := "can", desc := "(II)I" } : Jvm.MethodName) ({ cls := "SevenTable$Game", name := "can", desc := "(II)I" } : Jvm.MethodName)) ∈ lw_all := lw_g (lw_at lw_m5 199 rfl) rfl
theorem q1277 : (Jvm.Cond.code ({ cls := "SevenTable$Game", name := "can", desc := "(II)I" } : Jvm.MethodName) prog_6_method_18_code (5 : Nat) (Option.some Jvm.ClassFile.FieldType.int)) ∈ lw_all := lw_g (lw_at lw_m5 200 rfl) rfl
theorem q1278 : (Jvm.Cond.methodLink "SevenTable$Game" (160 : Nat) ({ cls := "SevenTable$Game", name := "gives", desc := "(IIII)V" } : Jvm.MethodName)) ∈ lw_all := lw_g (lw_at lw_m5 201 rfl) rfl
theorem q1279 : (Jvm.Cond.privateMethod ({ cls := "SevenTable$Game", name := "gives", desc := "(IIII)V" } : Jvm.MethodName)) ∈ lw_tbl := lw_at lw_m5 202 rfl
theorem q1280 : (Jvm.Cond.instanceMethod ({ cls := "SevenTable$Game", name := "gives", desc := "(IIII)V" } : Jvm.MethodName)) ∈ lw_all := lw_g (lw_at lw_m5 203 rfl) rfl
theorem q1281 : (Jvm.Cond.code ({ cls := "SevenTable$Game", name := "gives", desc := "(IIII)V" } : Jvm.MethodName) prog_6_method_24_code (5 : Nat) (Option.none : Option Jvm.ClassFile.FieldType)) ∈ lw_all := lw_g (lw_at lw_m5 204 rfl) rfl
theorem q1282 : (Jvm.Cond.methodLink "SevenTable$Game" (168 : Nat) ({ cls := "SevenTable$Game", name := "cannot", desc := "(II)V" } : Jvm.MethodName)) ∈ lw_all := lw_g (lw_at lw_m5 205 rfl) rfl
theorem q1283 : (Jvm.Cond.privateMethod ({ cls := "SevenTable$Game", name := "cannot", desc := "(II)V" } : Jvm.MethodName)) ∈ lw_tbl := lw_at lw_m5 206 rfl
theorem q1284 : (Jvm.Cond.instanceMethod ({ cls := "SevenTable$Game", name := "cannot", desc := "(II)V" } : Jvm.MethodName)) ∈ lw_all := lw_g (lw_at lw_m5 207 rfl) rfl
theorem q1285 : (Jvm.Cond.code ({ cls := "SevenTable$Game", name := "cannot", desc := "(II)V" } : Jvm.MethodName) prog_6_method_17_code (4 : Nat) (Option.none : Option Jvm.ClassFile.FieldType)) ∈ lw_all := lw_g (lw_at lw_m5 208 rfl) rfl
theorem q1286 : (Jvm.Cond.methodLink "SevenTable$Game" (164 : Nat) ({ cls := "SevenTable$Game", name := "says", desc := "(III)Z" } : Jvm.MethodName)) ∈ lw_all := lw_g (lw_at lw_m5 209 rfl) rfl
theorem q1287 : (Jvm.Cond.privateMethod ({ cls := "SevenTable$Game", name := "says", desc := "(III)Z" } : Jvm.MethodName)) ∈ lw_tbl := lw_at lw_m5 210 rfl
theorem q1288 : (Jvm.Cond.instanceMethod ({ cls := "SevenTable$Game", name := "says", desc := "(III)Z" } : Jvm.MethodName)) ∈ lw_all := lw_g (lw_at lw_m5 211 rfl) rfl
theorem q1289 : (Jvm.Cond.code ({ cls := "SevenTable$Game", name := "says", desc := "(III)Z" } : Jvm.MethodName) prog_6_method_25_code (6 : Nat) (Option.some Jvm.ClassFile.FieldType.boolean)) ∈ lw_all := lw_g (lw_at lw_m5 212 rfl) rfl
theorem q1430 : (Jvm.Cond.instanceMethod ({ cls := "SevenTable$Game", name := "next", desc := "(I)I" } : Jvm.MethodName)) ∈ lw_all := lw_g (lw_at lw_m6 113 rfl) rfl
theorem q1431 : (Jvm.Cond.selects "SevenTable$Game" ({ cls := "SevenTable$Game", name := "next", desc := "(I)I" } : Jvm.MethodName) ({ cls := "SevenTable$Game", name := "next", desc := "(I)I" } : Jvm.MethodName)) ∈ lw_all := lw_g (lw_at lw_m6 114 rfl) rfl
theorem q1432 : (Jvm.Cond.code ({ cls := "SevenTable$Game", name := "next", desc := "(I)I" } : Jvm.MethodName) prog_6_method_28_code (2 : Nat) (Option.some Jvm.ClassFile.FieldType.int)) ∈ lw_all := lw_g (lw_at lw_m6 115 rfl) rfl
theorem q1471 : (Jvm.Cond.instanceMethod ({ cls := "SevenTable$Game", name := "deal", desc := "(LSevenTable$Table;II)LSevenTable$Game;" } : Jvm.MethodName)) ∈ lw_all := lw_g (lw_at lw_m6 154 rfl) rfl
theorem q1472 : (Jvm.Cond.selects "SevenTable$Game" ({ cls := "SevenTable$Game", name := "deal", desc := "(LSevenTable$Table;II)LSevenTable$Game;" } : Jvm.MethodName) ({ cls := "SevenTable$Game", name := "deal", desc := "(LSevenTable$Table;II)LSevenTable$Game;" } : Jvm.MethodName)) ∈ lw_all := lw_g (lw_at lw_m6 155 rfl) rfl
theorem q1473 : (Jvm.Cond.code ({ cls := "SevenTable$Game", name := "deal", desc := "(LSevenTable$Table;II)LSevenTable$Game;" } : Jvm.MethodName) prog_6_method_27_code (7 : Nat) (Option.some (Jvm.ClassFile.FieldType.object "SevenTable$Game"))) ∈ lw_all := lw_g (lw_at lw_m6 156 rfl) rfl
theorem q1474 : (Jvm.Cond.methodLink "SevenTable$Game" (182 : Nat) ({ cls := "SevenTable$Game", name := "drawn", desc := "(I)I" } : Jvm.MethodName)) ∈ lw_all := lw_g (lw_at lw_m6 157 rfl) rfl
theorem q1475 : (Jvm.Cond.privateMethod ({ cls := "SevenTable$Game", name := "drawn", desc := "(I)I" } : Jvm.MethodName)) ∈ lw_tbl := lw_at lw_m6 158 rfl
theorem q1476 : (Jvm.Cond.instanceMethod ({ cls := "SevenTable$Game", name := "drawn", desc := "(I)I" } : Jvm.MethodName)) ∈ lw_all := lw_g (lw_at lw_m6 159 rfl) rfl
theorem q1477 : (Jvm.Cond.code ({ cls := "SevenTable$Game", name := "drawn", desc := "(I)I" } : Jvm.MethodName) prog_6_method_26_code (2 : Nat) (Option.some Jvm.ClassFile.FieldType.int)) ∈ lw_all := lw_g (lw_at lw_m6 160 rfl) rfl
theorem q1478 : (Jvm.Cond.constant "SevenTable$Game" (178 : Nat) (1103515245 : Int32)) ∈ lw_all := lw_g (lw_at lw_m6 161 rfl) rfl
theorem q2493 : (Jvm.Cond.castable "SevenTable$Game" "java/lang/Object") ∈ lw_tbl := lw_at lw_m10 216 rfl
theorem in_X3 : ∀ w ∈ wsX30, w ∈ lw_all := lw_in wsX30 [317, 319, 321, 323, 325, 327, 329, 331, 333, 335, 337, 339, 341, 343, 345, 347, 349, 351, 353] (by decide +kernel) (by decide +kernel)
/-! SevenTable$Open -/
set_option maxRecDepth 100000
def RX4 : String := "SevenTable$Open"
def TX4 : u_T := fun k => match k with
  | 0 => ("SevenTable$Open", "t", "LSevenTable$Table;", false)
  | 1 => ("SevenTable$Open", "g", "LSevenTable$Game;", false)
  | 2 => ("SevenTable$Open", "memo", "[I", true)
  | _ => ("SevenTable$Open", "firstKind", "I", false)
def tyX4 : Nat → FieldType := fun k => match k with
  | 0 => .object "SevenTable$Table"
  | 1 => .object "SevenTable$Game"
  | 2 => .array .int
  | _ => .int
abbrev wsX40 : List Cond := u_ws RX4 TX4 4
theorem nmX4 : ∀ a, a < 4 → ∀ b, b < 4 → a ≠ b → (TX4 a).2.1 ≠ (TX4 b).2.1 := by decide +kernel
theorem tyX4_ok : ∀ k, k < 4 → parseFieldDescriptor (TX4 k).2.2.1 = some (tyX4 k) := by decide +kernel
abbrev cX4_init : ByteArray := prog_15_method_1_code
def yX4_init : MethodName := ⟨RX4, "<init>", "()V"⟩
def dkwX4_init_0 : List UInt8 := [42, 183, 0, 3, 42, 18, 11, 188, 10, 181, 0, 12, 177]
abbrev dktX4_init_0 : List UInt8 := dkwX4_init_0 ++ []
theorem dksX4_init_0 : cX4_init.data.toList.drop 0 = dktX4_init_0 := by decide +kernel
theorem dX4_init_0 : decode cX4_init 0 = .ok (.aload_n 0, 1) := dk_42 (dk_at dksX4_init_0 0 rfl rfl)
theorem dX4_init_1 : decode cX4_init 1 = .ok (.invokespecial 3, 3) := dk_183 0 3 (dk_at dksX4_init_0 1 rfl rfl)
theorem dX4_init_4 : decode cX4_init 4 = .ok (.aload_n 0, 1) := dk_42 (dk_at dksX4_init_0 4 rfl rfl)
theorem dX4_init_5 : decode cX4_init 5 = .ok (.ldc 11, 2) := dk_18 11 (dk_at dksX4_init_0 5 rfl rfl)
theorem dX4_init_7 : decode cX4_init 7 = .ok (.newarray .int, 2) := dk_188_10 (dk_at dksX4_init_0 7 rfl rfl)
theorem dX4_init_9 : decode cX4_init 9 = .ok (.putfield 12, 3) := dk_181 0 12 (dk_at dksX4_init_0 9 rfl rfl)
theorem dX4_init_12 : decode cX4_init 12 = .ok (.return_, 1) := dk_177 (dk_at dksX4_init_0 12 rfl rfl)
abbrev cX4_value : ByteArray := prog_15_method_2_code
def yX4_value : MethodName := ⟨RX4, "value", "(LSevenTable$Game;)I"⟩
def dkwX4_value_2 : List UInt8 := [100, 182, 0, 37, 42, 180, 0, 16, 182, 0, 41, 42, 180, 0, 16, 180, 0, 45, 182, 0, 48, 172]
abbrev dktX4_value_2 : List UInt8 := dkwX4_value_2 ++ []
def dkwX4_value_1 : List UInt8 := [184, 0, 27, 42, 42, 42, 180, 0, 16, 180, 0, 33, 182, 0, 37, 42, 4, 42, 180, 0, 16, 180, 0, 33]
abbrev dktX4_value_1 : List UInt8 := dkwX4_value_1 ++ dktX4_value_2
def dkwX4_value_0 : List UInt8 := [42, 43, 181, 0, 16, 42, 42, 180, 0, 16, 180, 0, 20, 181, 0, 26, 42, 180, 0, 12, 16, 157]
abbrev dktX4_value_0 : List UInt8 := dkwX4_value_0 ++ dktX4_value_1
theorem dksX4_value_0 : cX4_value.data.toList.drop 0 = dktX4_value_0 := by decide +kernel
theorem dksX4_value_1 : cX4_value.data.toList.drop 22 = dktX4_value_1 := dk_seg dksX4_value_0 22 rfl rfl
theorem dksX4_value_2 : cX4_value.data.toList.drop 46 = dktX4_value_2 := dk_seg dksX4_value_1 24 rfl rfl
theorem dX4_value_0 : decode cX4_value 0 = .ok (.aload_n 0, 1) := dk_42 (dk_at dksX4_value_0 0 rfl rfl)
theorem dX4_value_1 : decode cX4_value 1 = .ok (.aload_n 1, 1) := dk_43 (dk_at dksX4_value_0 1 rfl rfl)
theorem dX4_value_2 : decode cX4_value 2 = .ok (.putfield 16, 3) := dk_181 0 16 (dk_at dksX4_value_0 2 rfl rfl)
theorem dX4_value_5 : decode cX4_value 5 = .ok (.aload_n 0, 1) := dk_42 (dk_at dksX4_value_0 5 rfl rfl)
theorem dX4_value_6 : decode cX4_value 6 = .ok (.aload_n 0, 1) := dk_42 (dk_at dksX4_value_0 6 rfl rfl)
theorem dX4_value_7 : decode cX4_value 7 = .ok (.getfield 16, 3) := dk_180 0 16 (dk_at dksX4_value_0 7 rfl rfl)
theorem dX4_value_10 : decode cX4_value 10 = .ok (.getfield 20, 3) := dk_180 0 20 (dk_at dksX4_value_0 10 rfl rfl)
theorem dX4_value_13 : decode cX4_value 13 = .ok (.putfield 26, 3) := dk_181 0 26 (dk_at dksX4_value_0 13 rfl rfl)
theorem dX4_value_16 : decode cX4_value 16 = .ok (.aload_n 0, 1) := dk_42 (dk_at dksX4_value_0 16 rfl rfl)
theorem dX4_value_17 : decode cX4_value 17 = .ok (.getfield 12, 3) := dk_180 0 12 (dk_at dksX4_value_0 17 rfl rfl)
theorem dX4_value_20 : decode cX4_value 20 = .ok (.bipush (-99), 2) := dk_16 157 (dk_at dksX4_value_0 20 rfl rfl)
theorem dX4_value_22 : decode cX4_value 22 = .ok (.invokestatic 27, 3) := dk_184 0 27 (dk_at dksX4_value_1 0 rfl rfl)
theorem dX4_value_25 : decode cX4_value 25 = .ok (.aload_n 0, 1) := dk_42 (dk_at dksX4_value_1 3 rfl rfl)
theorem dX4_value_26 : decode cX4_value 26 = .ok (.aload_n 0, 1) := dk_42 (dk_at dksX4_value_1 4 rfl rfl)
theorem dX4_value_27 : decode cX4_value 27 = .ok (.aload_n 0, 1) := dk_42 (dk_at dksX4_value_1 5 rfl rfl)
theorem dX4_value_28 : decode cX4_value 28 = .ok (.getfield 16, 3) := dk_180 0 16 (dk_at dksX4_value_1 6 rfl rfl)
theorem dX4_value_31 : decode cX4_value 31 = .ok (.getfield 33, 3) := dk_180 0 33 (dk_at dksX4_value_1 9 rfl rfl)
theorem dX4_value_34 : decode cX4_value 34 = .ok (.invokevirtual 37, 3) := dk_182 0 37 (dk_at dksX4_value_1 12 rfl rfl)
theorem dX4_value_37 : decode cX4_value 37 = .ok (.aload_n 0, 1) := dk_42 (dk_at dksX4_value_1 15 rfl rfl)
theorem dX4_value_38 : decode cX4_value 38 = .ok (.iconst 1, 1) := dk_4 (dk_at dksX4_value_1 16 rfl rfl)
theorem dX4_value_39 : decode cX4_value 39 = .ok (.aload_n 0, 1) := dk_42 (dk_at dksX4_value_1 17 rfl rfl)
theorem dX4_value_40 : decode cX4_value 40 = .ok (.getfield 16, 3) := dk_180 0 16 (dk_at dksX4_value_1 18 rfl rfl)
theorem dX4_value_43 : decode cX4_value 43 = .ok (.getfield 33, 3) := dk_180 0 33 (dk_at dksX4_value_1 21 rfl rfl)
theorem dX4_value_46 : decode cX4_value 46 = .ok (.isub, 1) := dk_100 (dk_at dksX4_value_2 0 rfl rfl)
theorem dX4_value_47 : decode cX4_value 47 = .ok (.invokevirtual 37, 3) := dk_182 0 37 (dk_at dksX4_value_2 1 rfl rfl)
theorem dX4_value_50 : decode cX4_value 50 = .ok (.aload_n 0, 1) := dk_42 (dk_at dksX4_value_2 4 rfl rfl)
theorem dX4_value_51 : decode cX4_value 51 = .ok (.getfield 16, 3) := dk_180 0 16 (dk_at dksX4_value_2 5 rfl rfl)
theorem dX4_value_54 : decode cX4_value 54 = .ok (.invokevirtual 41, 3) := dk_182 0 41 (dk_at dksX4_value_2 8 rfl rfl)
theorem dX4_value_57 : decode cX4_value 57 = .ok (.aload_n 0, 1) := dk_42 (dk_at dksX4_value_2 11 rfl rfl)
theorem dX4_value_58 : decode cX4_value 58 = .ok (.getfield 16, 3) := dk_180 0 16 (dk_at dksX4_value_2 12 rfl rfl)
theorem dX4_value_61 : decode cX4_value 61 = .ok (.getfield 45, 3) := dk_180 0 45 (dk_at dksX4_value_2 15 rfl rfl)
theorem dX4_value_64 : decode cX4_value 64 = .ok (.invokevirtual 48, 3) := dk_182 0 48 (dk_at dksX4_value_2 18 rfl rfl)
theorem dX4_value_67 : decode cX4_value 67 = .ok (.ireturn, 1) := dk_172 (dk_at dksX4_value_2 21 rfl rfl)
abbrev cX4_handOf : ByteArray := prog_15_method_5_code
def yX4_handOf : MethodName := ⟨RX4, "handOf", "(I)I"⟩
def dkwX4_handOf_1 : List UInt8 := [180, 0, 60, 27, 50, 29, 46, 104, 96, 61, 132, 3, 1, 167, 255, 223, 28, 172]
abbrev dktX4_handOf_1 : List UInt8 := dkwX4_handOf_1 ++ []
def dkwX4_handOf_0 : List UInt8 := [3, 61, 3, 62, 29, 42, 180, 0, 26, 180, 0, 52, 162, 0, 28, 28, 29, 184, 0, 57, 42, 180, 0, 16]
abbrev dktX4_handOf_0 : List UInt8 := dkwX4_handOf_0 ++ dktX4_handOf_1
theorem dksX4_handOf_0 : cX4_handOf.data.toList.drop 0 = dktX4_handOf_0 := by decide +kernel
theorem dksX4_handOf_1 : cX4_handOf.data.toList.drop 24 = dktX4_handOf_1 := dk_seg dksX4_handOf_0 24 rfl rfl
theorem dX4_handOf_0 : decode cX4_handOf 0 = .ok (.iconst 0, 1) := dk_3 (dk_at dksX4_handOf_0 0 rfl rfl)
theorem dX4_handOf_1 : decode cX4_handOf 1 = .ok (.istore_n 2, 1) := dk_61 (dk_at dksX4_handOf_0 1 rfl rfl)
theorem dX4_handOf_2 : decode cX4_handOf 2 = .ok (.iconst 0, 1) := dk_3 (dk_at dksX4_handOf_0 2 rfl rfl)
theorem dX4_handOf_3 : decode cX4_handOf 3 = .ok (.istore_n 3, 1) := dk_62 (dk_at dksX4_handOf_0 3 rfl rfl)
theorem dX4_handOf_4 : decode cX4_handOf 4 = .ok (.iload_n 3, 1) := dk_29 (dk_at dksX4_handOf_0 4 rfl rfl)
theorem dX4_handOf_5 : decode cX4_handOf 5 = .ok (.aload_n 0, 1) := dk_42 (dk_at dksX4_handOf_0 5 rfl rfl)
theorem dX4_handOf_6 : decode cX4_handOf 6 = .ok (.getfield 26, 3) := dk_180 0 26 (dk_at dksX4_handOf_0 6 rfl rfl)
theorem dX4_handOf_9 : decode cX4_handOf 9 = .ok (.getfield 52, 3) := dk_180 0 52 (dk_at dksX4_handOf_0 9 rfl rfl)
theorem dX4_handOf_12 : decode cX4_handOf 12 = .ok (.if_icmp .ge 28, 3) := dk_162 0 28 (dk_at dksX4_handOf_0 12 rfl rfl)
theorem dX4_handOf_15 : decode cX4_handOf 15 = .ok (.iload_n 2, 1) := dk_28 (dk_at dksX4_handOf_0 15 rfl rfl)
theorem dX4_handOf_16 : decode cX4_handOf 16 = .ok (.iload_n 3, 1) := dk_29 (dk_at dksX4_handOf_0 16 rfl rfl)
theorem dX4_handOf_17 : decode cX4_handOf 17 = .ok (.invokestatic 57, 3) := dk_184 0 57 (dk_at dksX4_handOf_0 17 rfl rfl)
theorem dX4_handOf_20 : decode cX4_handOf 20 = .ok (.aload_n 0, 1) := dk_42 (dk_at dksX4_handOf_0 20 rfl rfl)
theorem dX4_handOf_21 : decode cX4_handOf 21 = .ok (.getfield 16, 3) := dk_180 0 16 (dk_at dksX4_handOf_0 21 rfl rfl)
theorem dX4_handOf_24 : decode cX4_handOf 24 = .ok (.getfield 60, 3) := dk_180 0 60 (dk_at dksX4_handOf_1 0 rfl rfl)
theorem dX4_handOf_27 : decode cX4_handOf 27 = .ok (.iload_n 1, 1) := dk_27 (dk_at dksX4_handOf_1 3 rfl rfl)
theorem dX4_handOf_28 : decode cX4_handOf 28 = .ok (.aaload, 1) := dk_50 (dk_at dksX4_handOf_1 4 rfl rfl)
theorem dX4_handOf_29 : decode cX4_handOf 29 = .ok (.iload_n 3, 1) := dk_29 (dk_at dksX4_handOf_1 5 rfl rfl)
theorem dX4_handOf_30 : decode cX4_handOf 30 = .ok (.iaload, 1) := dk_46 (dk_at dksX4_handOf_1 6 rfl rfl)
theorem dX4_handOf_31 : decode cX4_handOf 31 = .ok (.imul, 1) := dk_104 (dk_at dksX4_handOf_1 7 rfl rfl)
theorem dX4_handOf_32 : decode cX4_handOf 32 = .ok (.iadd, 1) := dk_96 (dk_at dksX4_handOf_1 8 rfl rfl)
theorem dX4_handOf_33 : decode cX4_handOf 33 = .ok (.istore_n 2, 1) := dk_61 (dk_at dksX4_handOf_1 9 rfl rfl)
theorem dX4_handOf_34 : decode cX4_handOf 34 = .ok (.iinc 3 1, 3) := dk_132 3 1 (dk_at dksX4_handOf_1 10 rfl rfl)
theorem dX4_handOf_37 : decode cX4_handOf 37 = .ok (.goto (-33), 3) := dk_167 255 223 (dk_at dksX4_handOf_1 13 rfl rfl)
theorem dX4_handOf_40 : decode cX4_handOf 40 = .ok (.iload_n 2, 1) := dk_28 (dk_at dksX4_handOf_1 16 rfl rfl)
theorem dX4_handOf_41 : decode cX4_handOf 41 = .ok (.ireturn, 1) := dk_172 (dk_at dksX4_handOf_1 17 rfl rfl)
abbrev cX4_one : ByteArray := prog_15_method_4_code
def yX4_one : MethodName := ⟨RX4, "one", "(I)I"⟩
def dkwX4_one_0 : List UInt8 := [26, 154, 0, 7, 4, 167, 0, 14, 26, 4, 160, 0, 7, 8, 167, 0, 5, 16, 25, 172]
abbrev dktX4_one_0 : List UInt8 := dkwX4_one_0 ++ []
theorem dksX4_one_0 : cX4_one.data.toList.drop 0 = dktX4_one_0 := by decide +kernel
theorem dX4_one_0 : decode cX4_one 0 = .ok (.iload_n 0, 1) := dk_26 (dk_at dksX4_one_0 0 rfl rfl)
theorem dX4_one_1 : decode cX4_one 1 = .ok (.ifCond .ne 7, 3) := dk_154 0 7 (dk_at dksX4_one_0 1 rfl rfl)
theorem dX4_one_4 : decode cX4_one 4 = .ok (.iconst 1, 1) := dk_4 (dk_at dksX4_one_0 4 rfl rfl)
theorem dX4_one_5 : decode cX4_one 5 = .ok (.goto 14, 3) := dk_167 0 14 (dk_at dksX4_one_0 5 rfl rfl)
theorem dX4_one_8 : decode cX4_one 8 = .ok (.iload_n 0, 1) := dk_26 (dk_at dksX4_one_0 8 rfl rfl)
theorem dX4_one_9 : decode cX4_one 9 = .ok (.iconst 1, 1) := dk_4 (dk_at dksX4_one_0 9 rfl rfl)
theorem dX4_one_10 : decode cX4_one 10 = .ok (.if_icmp .ne 7, 3) := dk_160 0 7 (dk_at dksX4_one_0 10 rfl rfl)
theorem dX4_one_13 : decode cX4_one 13 = .ok (.iconst 5, 1) := dk_8 (dk_at dksX4_one_0 13 rfl rfl)
theorem dX4_one_14 : decode cX4_one 14 = .ok (.goto 5, 3) := dk_167 0 5 (dk_at dksX4_one_0 14 rfl rfl)
theorem dX4_one_17 : decode cX4_one 17 = .ok (.bipush 25, 2) := dk_16 25 (dk_at dksX4_one_0 17 rfl rfl)
theorem dX4_one_19 : decode cX4_one 19 = .ok (.ireturn, 1) := dk_172 (dk_at dksX4_one_0 19 rfl rfl)
abbrev cX4_best : ByteArray := prog_15_method_10_code
def yX4_best : MethodName := ⟨RX4, "best", "(IIII)I"⟩
def dkwX4_best_5 : List UInt8 := [21, 5, 21, 6, 79, 42, 21, 7, 181, 0, 95, 21, 6, 172]
abbrev dktX4_best_5 : List UInt8 := dkwX4_best_5 ++ []
def dkwX4_best_4 : List UInt8 := [163, 0, 6, 167, 0, 11, 21, 9, 54, 6, 21, 8, 54, 7, 132, 8, 1, 167, 255, 191, 42, 180, 0, 12]
abbrev dktX4_best_4 : List UInt8 := dkwX4_best_4 ++ dktX4_best_5
def dkwX4_best_3 : List UInt8 := [42, 27, 28, 29, 21, 4, 21, 8, 182, 0, 91, 54, 9, 21, 6, 16, 157, 159, 0, 13, 21, 9, 21, 6]
abbrev dktX4_best_3 : List UInt8 := dkwX4_best_3 ++ dktX4_best_4
def dkwX4_best_2 : List UInt8 := [21, 8, 42, 180, 0, 26, 180, 0, 52, 162, 0, 59, 27, 21, 8, 184, 0, 70, 154, 0, 6, 167, 0, 41]
abbrev dktX4_best_2 : List UInt8 := dkwX4_best_2 ++ dktX4_best_3
def dkwX4_best_1 : List UInt8 := [16, 157, 159, 0, 11, 42, 180, 0, 12, 21, 5, 46, 172, 16, 157, 54, 6, 2, 54, 7, 3, 54, 8]
abbrev dktX4_best_1 : List UInt8 := dkwX4_best_1 ++ dktX4_best_2
def dkwX4_best_0 : List UInt8 := [27, 16, 125, 104, 28, 96, 8, 104, 29, 96, 5, 104, 21, 4, 96, 54, 5, 42, 180, 0, 12, 21, 5, 46]
abbrev dktX4_best_0 : List UInt8 := dkwX4_best_0 ++ dktX4_best_1
theorem dksX4_best_0 : cX4_best.data.toList.drop 0 = dktX4_best_0 := by decide +kernel
theorem dksX4_best_1 : cX4_best.data.toList.drop 24 = dktX4_best_1 := dk_seg dksX4_best_0 24 rfl rfl
theorem dksX4_best_2 : cX4_best.data.toList.drop 47 = dktX4_best_2 := dk_seg dksX4_best_1 23 rfl rfl
theorem dksX4_best_3 : cX4_best.data.toList.drop 71 = dktX4_best_3 := dk_seg dksX4_best_2 24 rfl rfl
theorem dksX4_best_4 : cX4_best.data.toList.drop 95 = dktX4_best_4 := dk_seg dksX4_best_3 24 rfl rfl
theorem dksX4_best_5 : cX4_best.data.toList.drop 119 = dktX4_best_5 := dk_seg dksX4_best_4 24 rfl rfl
theorem dX4_best_0 : decode cX4_best 0 = .ok (.iload_n 1, 1) := dk_27 (dk_at dksX4_best_0 0 rfl rfl)
theorem dX4_best_1 : decode cX4_best 1 = .ok (.bipush 125, 2) := dk_16 125 (dk_at dksX4_best_0 1 rfl rfl)
theorem dX4_best_3 : decode cX4_best 3 = .ok (.imul, 1) := dk_104 (dk_at dksX4_best_0 3 rfl rfl)
theorem dX4_best_4 : decode cX4_best 4 = .ok (.iload_n 2, 1) := dk_28 (dk_at dksX4_best_0 4 rfl rfl)
theorem dX4_best_5 : decode cX4_best 5 = .ok (.iadd, 1) := dk_96 (dk_at dksX4_best_0 5 rfl rfl)
theorem dX4_best_6 : decode cX4_best 6 = .ok (.iconst 5, 1) := dk_8 (dk_at dksX4_best_0 6 rfl rfl)
theorem dX4_best_7 : decode cX4_best 7 = .ok (.imul, 1) := dk_104 (dk_at dksX4_best_0 7 rfl rfl)
theorem dX4_best_8 : decode cX4_best 8 = .ok (.iload_n 3, 1) := dk_29 (dk_at dksX4_best_0 8 rfl rfl)
theorem dX4_best_9 : decode cX4_best 9 = .ok (.iadd, 1) := dk_96 (dk_at dksX4_best_0 9 rfl rfl)
theorem dX4_best_10 : decode cX4_best 10 = .ok (.iconst 2, 1) := dk_5 (dk_at dksX4_best_0 10 rfl rfl)
theorem dX4_best_11 : decode cX4_best 11 = .ok (.imul, 1) := dk_104 (dk_at dksX4_best_0 11 rfl rfl)
theorem dX4_best_12 : decode cX4_best 12 = .ok (.iload 4, 2) := dk_21 4 (dk_at dksX4_best_0 12 rfl rfl)
theorem dX4_best_14 : decode cX4_best 14 = .ok (.iadd, 1) := dk_96 (dk_at dksX4_best_0 14 rfl rfl)
theorem dX4_best_15 : decode cX4_best 15 = .ok (.istore 5, 2) := dk_54 5 (dk_at dksX4_best_0 15 rfl rfl)
theorem dX4_best_17 : decode cX4_best 17 = .ok (.aload_n 0, 1) := dk_42 (dk_at dksX4_best_0 17 rfl rfl)
theorem dX4_best_18 : decode cX4_best 18 = .ok (.getfield 12, 3) := dk_180 0 12 (dk_at dksX4_best_0 18 rfl rfl)
theorem dX4_best_21 : decode cX4_best 21 = .ok (.iload 5, 2) := dk_21 5 (dk_at dksX4_best_0 21 rfl rfl)
theorem dX4_best_23 : decode cX4_best 23 = .ok (.iaload, 1) := dk_46 (dk_at dksX4_best_0 23 rfl rfl)
theorem dX4_best_24 : decode cX4_best 24 = .ok (.bipush (-99), 2) := dk_16 157 (dk_at dksX4_best_1 0 rfl rfl)
theorem dX4_best_26 : decode cX4_best 26 = .ok (.if_icmp .eq 11, 3) := dk_159 0 11 (dk_at dksX4_best_1 2 rfl rfl)
theorem dX4_best_29 : decode cX4_best 29 = .ok (.aload_n 0, 1) := dk_42 (dk_at dksX4_best_1 5 rfl rfl)
theorem dX4_best_30 : decode cX4_best 30 = .ok (.getfield 12, 3) := dk_180 0 12 (dk_at dksX4_best_1 6 rfl rfl)
theorem dX4_best_33 : decode cX4_best 33 = .ok (.iload 5, 2) := dk_21 5 (dk_at dksX4_best_1 9 rfl rfl)
theorem dX4_best_35 : decode cX4_best 35 = .ok (.iaload, 1) := dk_46 (dk_at dksX4_best_1 11 rfl rfl)
theorem dX4_best_36 : decode cX4_best 36 = .ok (.ireturn, 1) := dk_172 (dk_at dksX4_best_1 12 rfl rfl)
theorem dX4_best_37 : decode cX4_best 37 = .ok (.bipush (-99), 2) := dk_16 157 (dk_at dksX4_best_1 13 rfl rfl)
theorem dX4_best_39 : decode cX4_best 39 = .ok (.istore 6, 2) := dk_54 6 (dk_at dksX4_best_1 15 rfl rfl)
theorem dX4_best_41 : decode cX4_best 41 = .ok (.iconst (-1), 1) := dk_2 (dk_at dksX4_best_1 17 rfl rfl)
theorem dX4_best_42 : decode cX4_best 42 = .ok (.istore 7, 2) := dk_54 7 (dk_at dksX4_best_1 18 rfl rfl)
theorem dX4_best_44 : decode cX4_best 44 = .ok (.iconst 0, 1) := dk_3 (dk_at dksX4_best_1 20 rfl rfl)
theorem dX4_best_45 : decode cX4_best 45 = .ok (.istore 8, 2) := dk_54 8 (dk_at dksX4_best_1 21 rfl rfl)
theorem dX4_best_47 : decode cX4_best 47 = .ok (.iload 8, 2) := dk_21 8 (dk_at dksX4_best_2 0 rfl rfl)
theorem dX4_best_49 : decode cX4_best 49 = .ok (.aload_n 0, 1) := dk_42 (dk_at dksX4_best_2 2 rfl rfl)
theorem dX4_best_50 : decode cX4_best 50 = .ok (.getfield 26, 3) := dk_180 0 26 (dk_at dksX4_best_2 3 rfl rfl)
theorem dX4_best_53 : decode cX4_best 53 = .ok (.getfield 52, 3) := dk_180 0 52 (dk_at dksX4_best_2 6 rfl rfl)
theorem dX4_best_56 : decode cX4_best 56 = .ok (.if_icmp .ge 59, 3) := dk_162 0 59 (dk_at dksX4_best_2 9 rfl rfl)
theorem dX4_best_59 : decode cX4_best 59 = .ok (.iload_n 1, 1) := dk_27 (dk_at dksX4_best_2 12 rfl rfl)
theorem dX4_best_60 : decode cX4_best 60 = .ok (.iload 8, 2) := dk_21 8 (dk_at dksX4_best_2 13 rfl rfl)
theorem dX4_best_62 : decode cX4_best 62 = .ok (.invokestatic 70, 3) := dk_184 0 70 (dk_at dksX4_best_2 15 rfl rfl)
theorem dX4_best_65 : decode cX4_best 65 = .ok (.ifCond .ne 6, 3) := dk_154 0 6 (dk_at dksX4_best_2 18 rfl rfl)
theorem dX4_best_68 : decode cX4_best 68 = .ok (.goto 41, 3) := dk_167 0 41 (dk_at dksX4_best_2 21 rfl rfl)
theorem dX4_best_71 : decode cX4_best 71 = .ok (.aload_n 0, 1) := dk_42 (dk_at dksX4_best_3 0 rfl rfl)
theorem dX4_best_72 : decode cX4_best 72 = .ok (.iload_n 1, 1) := dk_27 (dk_at dksX4_best_3 1 rfl rfl)
theorem dX4_best_73 : decode cX4_best 73 = .ok (.iload_n 2, 1) := dk_28 (dk_at dksX4_best_3 2 rfl rfl)
theorem dX4_best_74 : decode cX4_best 74 = .ok (.iload_n 3, 1) := dk_29 (dk_at dksX4_best_3 3 rfl rfl)
theorem dX4_best_75 : decode cX4_best 75 = .ok (.iload 4, 2) := dk_21 4 (dk_at dksX4_best_3 4 rfl rfl)
theorem dX4_best_77 : decode cX4_best 77 = .ok (.iload 8, 2) := dk_21 8 (dk_at dksX4_best_3 6 rfl rfl)
theorem dX4_best_79 : decode cX4_best 79 = .ok (.invokevirtual 91, 3) := dk_182 0 91 (dk_at dksX4_best_3 8 rfl rfl)
theorem dX4_best_82 : decode cX4_best 82 = .ok (.istore 9, 2) := dk_54 9 (dk_at dksX4_best_3 11 rfl rfl)
theorem dX4_best_84 : decode cX4_best 84 = .ok (.iload 6, 2) := dk_21 6 (dk_at dksX4_best_3 13 rfl rfl)
theorem dX4_best_86 : decode cX4_best 86 = .ok (.bipush (-99), 2) := dk_16 157 (dk_at dksX4_best_3 15 rfl rfl)
theorem dX4_best_88 : decode cX4_best 88 = .ok (.if_icmp .eq 13, 3) := dk_159 0 13 (dk_at dksX4_best_3 17 rfl rfl)
theorem dX4_best_91 : decode cX4_best 91 = .ok (.iload 9, 2) := dk_21 9 (dk_at dksX4_best_3 20 rfl rfl)
theorem dX4_best_93 : decode cX4_best 93 = .ok (.iload 6, 2) := dk_21 6 (dk_at dksX4_best_3 22 rfl rfl)
theorem dX4_best_95 : decode cX4_best 95 = .ok (.if_icmp .gt 6, 3) := dk_163 0 6 (dk_at dksX4_best_4 0 rfl rfl)
theorem dX4_best_98 : decode cX4_best 98 = .ok (.goto 11, 3) := dk_167 0 11 (dk_at dksX4_best_4 3 rfl rfl)
theorem dX4_best_101 : decode cX4_best 101 = .ok (.iload 9, 2) := dk_21 9 (dk_at dksX4_best_4 6 rfl rfl)
theorem dX4_best_103 : decode cX4_best 103 = .ok (.istore 6, 2) := dk_54 6 (dk_at dksX4_best_4 8 rfl rfl)
theorem dX4_best_105 : decode cX4_best 105 = .ok (.iload 8, 2) := dk_21 8 (dk_at dksX4_best_4 10 rfl rfl)
theorem dX4_best_107 : decode cX4_best 107 = .ok (.istore 7, 2) := dk_54 7 (dk_at dksX4_best_4 12 rfl rfl)
theorem dX4_best_109 : decode cX4_best 109 = .ok (.iinc 8 1, 3) := dk_132 8 1 (dk_at dksX4_best_4 14 rfl rfl)
theorem dX4_best_112 : decode cX4_best 112 = .ok (.goto (-65), 3) := dk_167 255 191 (dk_at dksX4_best_4 17 rfl rfl)
theorem dX4_best_115 : decode cX4_best 115 = .ok (.aload_n 0, 1) := dk_42 (dk_at dksX4_best_4 20 rfl rfl)
theorem dX4_best_116 : decode cX4_best 116 = .ok (.getfield 12, 3) := dk_180 0 12 (dk_at dksX4_best_4 21 rfl rfl)
theorem dX4_best_119 : decode cX4_best 119 = .ok (.iload 5, 2) := dk_21 5 (dk_at dksX4_best_5 0 rfl rfl)
theorem dX4_best_121 : decode cX4_best 121 = .ok (.iload 6, 2) := dk_21 6 (dk_at dksX4_best_5 2 rfl rfl)
theorem dX4_best_123 : decode cX4_best 123 = .ok (.iastore, 1) := dk_79 (dk_at dksX4_best_5 4 rfl rfl)
theorem dX4_best_124 : decode cX4_best 124 = .ok (.aload_n 0, 1) := dk_42 (dk_at dksX4_best_5 5 rfl rfl)
theorem dX4_best_125 : decode cX4_best 125 = .ok (.iload 7, 2) := dk_21 7 (dk_at dksX4_best_5 6 rfl rfl)
theorem dX4_best_127 : decode cX4_best 127 = .ok (.putfield 95, 3) := dk_181 0 95 (dk_at dksX4_best_5 8 rfl rfl)
theorem dX4_best_130 : decode cX4_best 130 = .ok (.iload 6, 2) := dk_21 6 (dk_at dksX4_best_5 11 rfl rfl)
theorem dX4_best_132 : decode cX4_best 132 = .ok (.ireturn, 1) := dk_172 (dk_at dksX4_best_5 13 rfl rfl)
abbrev cX4_of : ByteArray := prog_15_method_3_code
def yX4_of : MethodName := ⟨RX4, "of", "(II)I"⟩
def dkwX4_of_1 : List UInt8 := [16, 25, 108, 172]
abbrev dktX4_of_1 : List UInt8 := dkwX4_of_1 ++ []
def dkwX4_of_0 : List UInt8 := [27, 154, 0, 9, 26, 8, 112, 167, 0, 20, 27, 4, 160, 0, 11, 26, 8, 108, 8, 112, 167, 0, 7, 26]
abbrev dktX4_of_0 : List UInt8 := dkwX4_of_0 ++ dktX4_of_1
theorem dksX4_of_0 : cX4_of.data.toList.drop 0 = dktX4_of_0 := by decide +kernel
theorem dksX4_of_1 : cX4_of.data.toList.drop 24 = dktX4_of_1 := dk_seg dksX4_of_0 24 rfl rfl
theorem dX4_of_0 : decode cX4_of 0 = .ok (.iload_n 1, 1) := dk_27 (dk_at dksX4_of_0 0 rfl rfl)
theorem dX4_of_1 : decode cX4_of 1 = .ok (.ifCond .ne 9, 3) := dk_154 0 9 (dk_at dksX4_of_0 1 rfl rfl)
theorem dX4_of_4 : decode cX4_of 4 = .ok (.iload_n 0, 1) := dk_26 (dk_at dksX4_of_0 4 rfl rfl)
theorem dX4_of_5 : decode cX4_of 5 = .ok (.iconst 5, 1) := dk_8 (dk_at dksX4_of_0 5 rfl rfl)
theorem dX4_of_6 : decode cX4_of 6 = .ok (.irem, 1) := dk_112 (dk_at dksX4_of_0 6 rfl rfl)
theorem dX4_of_7 : decode cX4_of 7 = .ok (.goto 20, 3) := dk_167 0 20 (dk_at dksX4_of_0 7 rfl rfl)
theorem dX4_of_10 : decode cX4_of 10 = .ok (.iload_n 1, 1) := dk_27 (dk_at dksX4_of_0 10 rfl rfl)
theorem dX4_of_11 : decode cX4_of 11 = .ok (.iconst 1, 1) := dk_4 (dk_at dksX4_of_0 11 rfl rfl)
theorem dX4_of_12 : decode cX4_of 12 = .ok (.if_icmp .ne 11, 3) := dk_160 0 11 (dk_at dksX4_of_0 12 rfl rfl)
theorem dX4_of_15 : decode cX4_of 15 = .ok (.iload_n 0, 1) := dk_26 (dk_at dksX4_of_0 15 rfl rfl)
theorem dX4_of_16 : decode cX4_of 16 = .ok (.iconst 5, 1) := dk_8 (dk_at dksX4_of_0 16 rfl rfl)
theorem dX4_of_17 : decode cX4_of 17 = .ok (.idiv, 1) := dk_108 (dk_at dksX4_of_0 17 rfl rfl)
theorem dX4_of_18 : decode cX4_of 18 = .ok (.iconst 5, 1) := dk_8 (dk_at dksX4_of_0 18 rfl rfl)
theorem dX4_of_19 : decode cX4_of 19 = .ok (.irem, 1) := dk_112 (dk_at dksX4_of_0 19 rfl rfl)
theorem dX4_of_20 : decode cX4_of 20 = .ok (.goto 7, 3) := dk_167 0 7 (dk_at dksX4_of_0 20 rfl rfl)
theorem dX4_of_23 : decode cX4_of 23 = .ok (.iload_n 0, 1) := dk_26 (dk_at dksX4_of_0 23 rfl rfl)
theorem dX4_of_24 : decode cX4_of 24 = .ok (.bipush 25, 2) := dk_16 25 (dk_at dksX4_of_1 0 rfl rfl)
theorem dX4_of_26 : decode cX4_of 26 = .ok (.idiv, 1) := dk_108 (dk_at dksX4_of_1 2 rfl rfl)
theorem dX4_of_27 : decode cX4_of 27 = .ok (.ireturn, 1) := dk_172 (dk_at dksX4_of_1 3 rfl rfl)
abbrev cX4_asks : ByteArray := prog_15_method_11_code
def yX4_asks : MethodName := ⟨RX4, "asks", "(IIIII)I"⟩
def dkwX4_asks_6 : List UInt8 := [167, 0, 17, 21, 9, 42, 28, 21, 8, 29, 4, 100, 3, 182, 0, 98, 100, 172]
abbrev dktX4_asks_6 : List UInt8 := dkwX4_asks_6 ++ []
def dkwX4_asks_5 : List UInt8 := [153, 0, 27, 21, 7, 21, 5, 160, 0, 20, 21, 9, 42, 21, 8, 28, 29, 4, 100, 3, 182, 0, 98, 96]
abbrev dktX4_asks_5 : List UInt8 := dkwX4_asks_5 ++ dktX4_asks_6
def dkwX4_asks_4 : List UInt8 := [42, 21, 8, 182, 0, 85, 54, 9, 42, 21, 8, 182, 0, 88, 54, 8, 42, 180, 0, 26, 180, 0, 101]
abbrev dktX4_asks_4 : List UInt8 := dkwX4_asks_4 ++ dktX4_asks_5
def dkwX4_asks_3 : List UInt8 := [27, 3, 4, 182, 0, 98, 116, 172, 42, 29, 182, 0, 82, 54, 7, 27, 21, 7, 184, 0, 57, 96, 54, 8]
abbrev dktX4_asks_3 : List UInt8 := dkwX4_asks_3 ++ dktX4_asks_4
def dkwX4_asks_2 : List UInt8 := [100, 29, 3, 182, 0, 98, 96, 172, 29, 154, 0, 23, 21, 4, 4, 160, 0, 7, 3, 167, 0, 12, 42, 28]
abbrev dktX4_asks_2 : List UInt8 := dkwX4_asks_2 ++ dktX4_asks_3
def dkwX4_asks_1 : List UInt8 := [54, 7, 42, 21, 7, 182, 0, 85, 42, 42, 21, 7, 182, 0, 88, 28, 21, 6, 21, 5, 184, 0, 57, 104]
abbrev dktX4_asks_1 : List UInt8 := dkwX4_asks_1 ++ dktX4_asks_2
def dkwX4_asks_0 : List UInt8 := [28, 21, 5, 184, 0, 70, 54, 6, 21, 6, 158, 0, 45, 27, 21, 6, 21, 5, 184, 0, 57, 104, 96]
abbrev dktX4_asks_0 : List UInt8 := dkwX4_asks_0 ++ dktX4_asks_1
theorem dksX4_asks_0 : cX4_asks.data.toList.drop 0 = dktX4_asks_0 := by decide +kernel
theorem dksX4_asks_1 : cX4_asks.data.toList.drop 23 = dktX4_asks_1 := dk_seg dksX4_asks_0 23 rfl rfl
theorem dksX4_asks_2 : cX4_asks.data.toList.drop 47 = dktX4_asks_2 := dk_seg dksX4_asks_1 24 rfl rfl
theorem dksX4_asks_3 : cX4_asks.data.toList.drop 71 = dktX4_asks_3 := dk_seg dksX4_asks_2 24 rfl rfl
theorem dksX4_asks_4 : cX4_asks.data.toList.drop 95 = dktX4_asks_4 := dk_seg dksX4_asks_3 24 rfl rfl
theorem dksX4_asks_5 : cX4_asks.data.toList.drop 118 = dktX4_asks_5 := dk_seg dksX4_asks_4 23 rfl rfl
theorem dksX4_asks_6 : cX4_asks.data.toList.drop 142 = dktX4_asks_6 := dk_seg dksX4_asks_5 24 rfl rfl
theorem dX4_asks_0 : decode cX4_asks 0 = .ok (.iload_n 2, 1) := dk_28 (dk_at dksX4_asks_0 0 rfl rfl)
theorem dX4_asks_1 : decode cX4_asks 1 = .ok (.iload 5, 2) := dk_21 5 (dk_at dksX4_asks_0 1 rfl rfl)
theorem dX4_asks_3 : decode cX4_asks 3 = .ok (.invokestatic 70, 3) := dk_184 0 70 (dk_at dksX4_asks_0 3 rfl rfl)
theorem dX4_asks_6 : decode cX4_asks 6 = .ok (.istore 6, 2) := dk_54 6 (dk_at dksX4_asks_0 6 rfl rfl)
theorem dX4_asks_8 : decode cX4_asks 8 = .ok (.iload 6, 2) := dk_21 6 (dk_at dksX4_asks_0 8 rfl rfl)
theorem dX4_asks_10 : decode cX4_asks 10 = .ok (.ifCond .le 45, 3) := dk_158 0 45 (dk_at dksX4_asks_0 10 rfl rfl)
theorem dX4_asks_13 : decode cX4_asks 13 = .ok (.iload_n 1, 1) := dk_27 (dk_at dksX4_asks_0 13 rfl rfl)
theorem dX4_asks_14 : decode cX4_asks 14 = .ok (.iload 6, 2) := dk_21 6 (dk_at dksX4_asks_0 14 rfl rfl)
theorem dX4_asks_16 : decode cX4_asks 16 = .ok (.iload 5, 2) := dk_21 5 (dk_at dksX4_asks_0 16 rfl rfl)
theorem dX4_asks_18 : decode cX4_asks 18 = .ok (.invokestatic 57, 3) := dk_184 0 57 (dk_at dksX4_asks_0 18 rfl rfl)
theorem dX4_asks_21 : decode cX4_asks 21 = .ok (.imul, 1) := dk_104 (dk_at dksX4_asks_0 21 rfl rfl)
theorem dX4_asks_22 : decode cX4_asks 22 = .ok (.iadd, 1) := dk_96 (dk_at dksX4_asks_0 22 rfl rfl)
theorem dX4_asks_23 : decode cX4_asks 23 = .ok (.istore 7, 2) := dk_54 7 (dk_at dksX4_asks_1 0 rfl rfl)
theorem dX4_asks_25 : decode cX4_asks 25 = .ok (.aload_n 0, 1) := dk_42 (dk_at dksX4_asks_1 2 rfl rfl)
theorem dX4_asks_26 : decode cX4_asks 26 = .ok (.iload 7, 2) := dk_21 7 (dk_at dksX4_asks_1 3 rfl rfl)
theorem dX4_asks_28 : decode cX4_asks 28 = .ok (.invokevirtual 85, 3) := dk_182 0 85 (dk_at dksX4_asks_1 5 rfl rfl)
theorem dX4_asks_31 : decode cX4_asks 31 = .ok (.aload_n 0, 1) := dk_42 (dk_at dksX4_asks_1 8 rfl rfl)
theorem dX4_asks_32 : decode cX4_asks 32 = .ok (.aload_n 0, 1) := dk_42 (dk_at dksX4_asks_1 9 rfl rfl)
theorem dX4_asks_33 : decode cX4_asks 33 = .ok (.iload 7, 2) := dk_21 7 (dk_at dksX4_asks_1 10 rfl rfl)
theorem dX4_asks_35 : decode cX4_asks 35 = .ok (.invokevirtual 88, 3) := dk_182 0 88 (dk_at dksX4_asks_1 12 rfl rfl)
theorem dX4_asks_38 : decode cX4_asks 38 = .ok (.iload_n 2, 1) := dk_28 (dk_at dksX4_asks_1 15 rfl rfl)
theorem dX4_asks_39 : decode cX4_asks 39 = .ok (.iload 6, 2) := dk_21 6 (dk_at dksX4_asks_1 16 rfl rfl)
theorem dX4_asks_41 : decode cX4_asks 41 = .ok (.iload 5, 2) := dk_21 5 (dk_at dksX4_asks_1 18 rfl rfl)
theorem dX4_asks_43 : decode cX4_asks 43 = .ok (.invokestatic 57, 3) := dk_184 0 57 (dk_at dksX4_asks_1 20 rfl rfl)
theorem dX4_asks_46 : decode cX4_asks 46 = .ok (.imul, 1) := dk_104 (dk_at dksX4_asks_1 23 rfl rfl)
theorem dX4_asks_47 : decode cX4_asks 47 = .ok (.isub, 1) := dk_100 (dk_at dksX4_asks_2 0 rfl rfl)
theorem dX4_asks_48 : decode cX4_asks 48 = .ok (.iload_n 3, 1) := dk_29 (dk_at dksX4_asks_2 1 rfl rfl)
theorem dX4_asks_49 : decode cX4_asks 49 = .ok (.iconst 0, 1) := dk_3 (dk_at dksX4_asks_2 2 rfl rfl)
theorem dX4_asks_50 : decode cX4_asks 50 = .ok (.invokevirtual 98, 3) := dk_182 0 98 (dk_at dksX4_asks_2 3 rfl rfl)
theorem dX4_asks_53 : decode cX4_asks 53 = .ok (.iadd, 1) := dk_96 (dk_at dksX4_asks_2 6 rfl rfl)
theorem dX4_asks_54 : decode cX4_asks 54 = .ok (.ireturn, 1) := dk_172 (dk_at dksX4_asks_2 7 rfl rfl)
theorem dX4_asks_55 : decode cX4_asks 55 = .ok (.iload_n 3, 1) := dk_29 (dk_at dksX4_asks_2 8 rfl rfl)
theorem dX4_asks_56 : decode cX4_asks 56 = .ok (.ifCond .ne 23, 3) := dk_154 0 23 (dk_at dksX4_asks_2 9 rfl rfl)
theorem dX4_asks_59 : decode cX4_asks 59 = .ok (.iload 4, 2) := dk_21 4 (dk_at dksX4_asks_2 12 rfl rfl)
theorem dX4_asks_61 : decode cX4_asks 61 = .ok (.iconst 1, 1) := dk_4 (dk_at dksX4_asks_2 14 rfl rfl)
theorem dX4_asks_62 : decode cX4_asks 62 = .ok (.if_icmp .ne 7, 3) := dk_160 0 7 (dk_at dksX4_asks_2 15 rfl rfl)
theorem dX4_asks_65 : decode cX4_asks 65 = .ok (.iconst 0, 1) := dk_3 (dk_at dksX4_asks_2 18 rfl rfl)
theorem dX4_asks_66 : decode cX4_asks 66 = .ok (.goto 12, 3) := dk_167 0 12 (dk_at dksX4_asks_2 19 rfl rfl)
theorem dX4_asks_69 : decode cX4_asks 69 = .ok (.aload_n 0, 1) := dk_42 (dk_at dksX4_asks_2 22 rfl rfl)
theorem dX4_asks_70 : decode cX4_asks 70 = .ok (.iload_n 2, 1) := dk_28 (dk_at dksX4_asks_2 23 rfl rfl)
theorem dX4_asks_71 : decode cX4_asks 71 = .ok (.iload_n 1, 1) := dk_27 (dk_at dksX4_asks_3 0 rfl rfl)
theorem dX4_asks_72 : decode cX4_asks 72 = .ok (.iconst 0, 1) := dk_3 (dk_at dksX4_asks_3 1 rfl rfl)
theorem dX4_asks_73 : decode cX4_asks 73 = .ok (.iconst 1, 1) := dk_4 (dk_at dksX4_asks_3 2 rfl rfl)
theorem dX4_asks_74 : decode cX4_asks 74 = .ok (.invokevirtual 98, 3) := dk_182 0 98 (dk_at dksX4_asks_3 3 rfl rfl)
theorem dX4_asks_77 : decode cX4_asks 77 = .ok (.ineg, 1) := dk_116 (dk_at dksX4_asks_3 6 rfl rfl)
theorem dX4_asks_78 : decode cX4_asks 78 = .ok (.ireturn, 1) := dk_172 (dk_at dksX4_asks_3 7 rfl rfl)
theorem dX4_asks_79 : decode cX4_asks 79 = .ok (.aload_n 0, 1) := dk_42 (dk_at dksX4_asks_3 8 rfl rfl)
theorem dX4_asks_80 : decode cX4_asks 80 = .ok (.iload_n 3, 1) := dk_29 (dk_at dksX4_asks_3 9 rfl rfl)
theorem dX4_asks_81 : decode cX4_asks 81 = .ok (.invokevirtual 82, 3) := dk_182 0 82 (dk_at dksX4_asks_3 10 rfl rfl)
theorem dX4_asks_84 : decode cX4_asks 84 = .ok (.istore 7, 2) := dk_54 7 (dk_at dksX4_asks_3 13 rfl rfl)
theorem dX4_asks_86 : decode cX4_asks 86 = .ok (.iload_n 1, 1) := dk_27 (dk_at dksX4_asks_3 15 rfl rfl)
theorem dX4_asks_87 : decode cX4_asks 87 = .ok (.iload 7, 2) := dk_21 7 (dk_at dksX4_asks_3 16 rfl rfl)
theorem dX4_asks_89 : decode cX4_asks 89 = .ok (.invokestatic 57, 3) := dk_184 0 57 (dk_at dksX4_asks_3 18 rfl rfl)
theorem dX4_asks_92 : decode cX4_asks 92 = .ok (.iadd, 1) := dk_96 (dk_at dksX4_asks_3 21 rfl rfl)
theorem dX4_asks_93 : decode cX4_asks 93 = .ok (.istore 8, 2) := dk_54 8 (dk_at dksX4_asks_3 22 rfl rfl)
theorem dX4_asks_95 : decode cX4_asks 95 = .ok (.aload_n 0, 1) := dk_42 (dk_at dksX4_asks_4 0 rfl rfl)
theorem dX4_asks_96 : decode cX4_asks 96 = .ok (.iload 8, 2) := dk_21 8 (dk_at dksX4_asks_4 1 rfl rfl)
theorem dX4_asks_98 : decode cX4_asks 98 = .ok (.invokevirtual 85, 3) := dk_182 0 85 (dk_at dksX4_asks_4 3 rfl rfl)
theorem dX4_asks_101 : decode cX4_asks 101 = .ok (.istore 9, 2) := dk_54 9 (dk_at dksX4_asks_4 6 rfl rfl)
theorem dX4_asks_103 : decode cX4_asks 103 = .ok (.aload_n 0, 1) := dk_42 (dk_at dksX4_asks_4 8 rfl rfl)
theorem dX4_asks_104 : decode cX4_asks 104 = .ok (.iload 8, 2) := dk_21 8 (dk_at dksX4_asks_4 9 rfl rfl)
theorem dX4_asks_106 : decode cX4_asks 106 = .ok (.invokevirtual 88, 3) := dk_182 0 88 (dk_at dksX4_asks_4 11 rfl rfl)
theorem dX4_asks_109 : decode cX4_asks 109 = .ok (.istore 8, 2) := dk_54 8 (dk_at dksX4_asks_4 14 rfl rfl)
theorem dX4_asks_111 : decode cX4_asks 111 = .ok (.aload_n 0, 1) := dk_42 (dk_at dksX4_asks_4 16 rfl rfl)
theorem dX4_asks_112 : decode cX4_asks 112 = .ok (.getfield 26, 3) := dk_180 0 26 (dk_at dksX4_asks_4 17 rfl rfl)
theorem dX4_asks_115 : decode cX4_asks 115 = .ok (.getfield 101, 3) := dk_180 0 101 (dk_at dksX4_asks_4 20 rfl rfl)
theorem dX4_asks_118 : decode cX4_asks 118 = .ok (.ifCond .eq 27, 3) := dk_153 0 27 (dk_at dksX4_asks_5 0 rfl rfl)
theorem dX4_asks_121 : decode cX4_asks 121 = .ok (.iload 7, 2) := dk_21 7 (dk_at dksX4_asks_5 3 rfl rfl)
theorem dX4_asks_123 : decode cX4_asks 123 = .ok (.iload 5, 2) := dk_21 5 (dk_at dksX4_asks_5 5 rfl rfl)
theorem dX4_asks_125 : decode cX4_asks 125 = .ok (.if_icmp .ne 20, 3) := dk_160 0 20 (dk_at dksX4_asks_5 7 rfl rfl)
theorem dX4_asks_128 : decode cX4_asks 128 = .ok (.iload 9, 2) := dk_21 9 (dk_at dksX4_asks_5 10 rfl rfl)
theorem dX4_asks_130 : decode cX4_asks 130 = .ok (.aload_n 0, 1) := dk_42 (dk_at dksX4_asks_5 12 rfl rfl)
theorem dX4_asks_131 : decode cX4_asks 131 = .ok (.iload 8, 2) := dk_21 8 (dk_at dksX4_asks_5 13 rfl rfl)
theorem dX4_asks_133 : decode cX4_asks 133 = .ok (.iload_n 2, 1) := dk_28 (dk_at dksX4_asks_5 15 rfl rfl)
theorem dX4_asks_134 : decode cX4_asks 134 = .ok (.iload_n 3, 1) := dk_29 (dk_at dksX4_asks_5 16 rfl rfl)
theorem dX4_asks_135 : decode cX4_asks 135 = .ok (.iconst 1, 1) := dk_4 (dk_at dksX4_asks_5 17 rfl rfl)
theorem dX4_asks_136 : decode cX4_asks 136 = .ok (.isub, 1) := dk_100 (dk_at dksX4_asks_5 18 rfl rfl)
theorem dX4_asks_137 : decode cX4_asks 137 = .ok (.iconst 0, 1) := dk_3 (dk_at dksX4_asks_5 19 rfl rfl)
theorem dX4_asks_138 : decode cX4_asks 138 = .ok (.invokevirtual 98, 3) := dk_182 0 98 (dk_at dksX4_asks_5 20 rfl rfl)
theorem dX4_asks_141 : decode cX4_asks 141 = .ok (.iadd, 1) := dk_96 (dk_at dksX4_asks_5 23 rfl rfl)
theorem dX4_asks_142 : decode cX4_asks 142 = .ok (.goto 17, 3) := dk_167 0 17 (dk_at dksX4_asks_6 0 rfl rfl)
theorem dX4_asks_145 : decode cX4_asks 145 = .ok (.iload 9, 2) := dk_21 9 (dk_at dksX4_asks_6 3 rfl rfl)
theorem dX4_asks_147 : decode cX4_asks 147 = .ok (.aload_n 0, 1) := dk_42 (dk_at dksX4_asks_6 5 rfl rfl)
theorem dX4_asks_148 : decode cX4_asks 148 = .ok (.iload_n 2, 1) := dk_28 (dk_at dksX4_asks_6 6 rfl rfl)
theorem dX4_asks_149 : decode cX4_asks 149 = .ok (.iload 8, 2) := dk_21 8 (dk_at dksX4_asks_6 7 rfl rfl)
theorem dX4_asks_151 : decode cX4_asks 151 = .ok (.iload_n 3, 1) := dk_29 (dk_at dksX4_asks_6 9 rfl rfl)
theorem dX4_asks_152 : decode cX4_asks 152 = .ok (.iconst 1, 1) := dk_4 (dk_at dksX4_asks_6 10 rfl rfl)
theorem dX4_asks_153 : decode cX4_asks 153 = .ok (.isub, 1) := dk_100 (dk_at dksX4_asks_6 11 rfl rfl)
theorem dX4_asks_154 : decode cX4_asks 154 = .ok (.iconst 0, 1) := dk_3 (dk_at dksX4_asks_6 12 rfl rfl)
theorem dX4_asks_155 : decode cX4_asks 155 = .ok (.invokevirtual 98, 3) := dk_182 0 98 (dk_at dksX4_asks_6 13 rfl rfl)
theorem dX4_asks_158 : decode cX4_asks 158 = .ok (.isub, 1) := dk_100 (dk_at dksX4_asks_6 16 rfl rfl)
theorem dX4_asks_159 : decode cX4_asks 159 = .ok (.ireturn, 1) := dk_172 (dk_at dksX4_asks_6 17 rfl rfl)
abbrev cX4_books : ByteArray := prog_15_method_7_code
def yX4_books : MethodName := ⟨RX4, "books", "(I)I"⟩
def dkwX4_books_1 : List UInt8 := [167, 255, 236, 28, 172]
abbrev dktX4_books_1 : List UInt8 := dkwX4_books_1 ++ []
def dkwX4_books_0 : List UInt8 := [3, 61, 3, 62, 29, 6, 162, 0, 21, 27, 29, 184, 0, 70, 7, 160, 0, 6, 132, 2, 1, 132, 3, 1]
abbrev dktX4_books_0 : List UInt8 := dkwX4_books_0 ++ dktX4_books_1
theorem dksX4_books_0 : cX4_books.data.toList.drop 0 = dktX4_books_0 := by decide +kernel
theorem dksX4_books_1 : cX4_books.data.toList.drop 24 = dktX4_books_1 := dk_seg dksX4_books_0 24 rfl rfl
theorem dX4_books_0 : decode cX4_books 0 = .ok (.iconst 0, 1) := dk_3 (dk_at dksX4_books_0 0 rfl rfl)
theorem dX4_books_1 : decode cX4_books 1 = .ok (.istore_n 2, 1) := dk_61 (dk_at dksX4_books_0 1 rfl rfl)
theorem dX4_books_2 : decode cX4_books 2 = .ok (.iconst 0, 1) := dk_3 (dk_at dksX4_books_0 2 rfl rfl)
theorem dX4_books_3 : decode cX4_books 3 = .ok (.istore_n 3, 1) := dk_62 (dk_at dksX4_books_0 3 rfl rfl)
theorem dX4_books_4 : decode cX4_books 4 = .ok (.iload_n 3, 1) := dk_29 (dk_at dksX4_books_0 4 rfl rfl)
theorem dX4_books_5 : decode cX4_books 5 = .ok (.iconst 3, 1) := dk_6 (dk_at dksX4_books_0 5 rfl rfl)
theorem dX4_books_6 : decode cX4_books 6 = .ok (.if_icmp .ge 21, 3) := dk_162 0 21 (dk_at dksX4_books_0 6 rfl rfl)
theorem dX4_books_9 : decode cX4_books 9 = .ok (.iload_n 1, 1) := dk_27 (dk_at dksX4_books_0 9 rfl rfl)
theorem dX4_books_10 : decode cX4_books 10 = .ok (.iload_n 3, 1) := dk_29 (dk_at dksX4_books_0 10 rfl rfl)
theorem dX4_books_11 : decode cX4_books 11 = .ok (.invokestatic 70, 3) := dk_184 0 70 (dk_at dksX4_books_0 11 rfl rfl)
theorem dX4_books_14 : decode cX4_books 14 = .ok (.iconst 4, 1) := dk_7 (dk_at dksX4_books_0 14 rfl rfl)
theorem dX4_books_15 : decode cX4_books 15 = .ok (.if_icmp .ne 6, 3) := dk_160 0 6 (dk_at dksX4_books_0 15 rfl rfl)
theorem dX4_books_18 : decode cX4_books 18 = .ok (.iinc 2 1, 3) := dk_132 2 1 (dk_at dksX4_books_0 18 rfl rfl)
theorem dX4_books_21 : decode cX4_books 21 = .ok (.iinc 3 1, 3) := dk_132 3 1 (dk_at dksX4_books_0 21 rfl rfl)
theorem dX4_books_24 : decode cX4_books 24 = .ok (.goto (-20), 3) := dk_167 255 236 (dk_at dksX4_books_1 0 rfl rfl)
theorem dX4_books_27 : decode cX4_books 27 = .ok (.iload_n 2, 1) := dk_28 (dk_at dksX4_books_1 3 rfl rfl)
theorem dX4_books_28 : decode cX4_books 28 = .ok (.ireturn, 1) := dk_172 (dk_at dksX4_books_1 4 rfl rfl)
abbrev cX4_without : ByteArray := prog_15_method_8_code
def yX4_without : MethodName := ⟨RX4, "without", "(I)I"⟩
def dkwX4_without_1 : List UInt8 := [104, 100, 61, 132, 3, 1, 167, 255, 230, 28, 172]
abbrev dktX4_without_1 : List UInt8 := dkwX4_without_1 ++ []
def dkwX4_without_0 : List UInt8 := [27, 61, 3, 62, 29, 6, 162, 0, 27, 27, 29, 184, 0, 70, 7, 160, 0, 12, 28, 7, 29, 184, 0, 57]
abbrev dktX4_without_0 : List UInt8 := dkwX4_without_0 ++ dktX4_without_1
theorem dksX4_without_0 : cX4_without.data.toList.drop 0 = dktX4_without_0 := by decide +kernel
theorem dksX4_without_1 : cX4_without.data.toList.drop 24 = dktX4_without_1 := dk_seg dksX4_without_0 24 rfl rfl
theorem dX4_without_0 : decode cX4_without 0 = .ok (.iload_n 1, 1) := dk_27 (dk_at dksX4_without_0 0 rfl rfl)
theorem dX4_without_1 : decode cX4_without 1 = .ok (.istore_n 2, 1) := dk_61 (dk_at dksX4_without_0 1 rfl rfl)
theorem dX4_without_2 : decode cX4_without 2 = .ok (.iconst 0, 1) := dk_3 (dk_at dksX4_without_0 2 rfl rfl)
theorem dX4_without_3 : decode cX4_without 3 = .ok (.istore_n 3, 1) := dk_62 (dk_at dksX4_without_0 3 rfl rfl)
theorem dX4_without_4 : decode cX4_without 4 = .ok (.iload_n 3, 1) := dk_29 (dk_at dksX4_without_0 4 rfl rfl)
theorem dX4_without_5 : decode cX4_without 5 = .ok (.iconst 3, 1) := dk_6 (dk_at dksX4_without_0 5 rfl rfl)
theorem dX4_without_6 : decode cX4_without 6 = .ok (.if_icmp .ge 27, 3) := dk_162 0 27 (dk_at dksX4_without_0 6 rfl rfl)
theorem dX4_without_9 : decode cX4_without 9 = .ok (.iload_n 1, 1) := dk_27 (dk_at dksX4_without_0 9 rfl rfl)
theorem dX4_without_10 : decode cX4_without 10 = .ok (.iload_n 3, 1) := dk_29 (dk_at dksX4_without_0 10 rfl rfl)
theorem dX4_without_11 : decode cX4_without 11 = .ok (.invokestatic 70, 3) := dk_184 0 70 (dk_at dksX4_without_0 11 rfl rfl)
theorem dX4_without_14 : decode cX4_without 14 = .ok (.iconst 4, 1) := dk_7 (dk_at dksX4_without_0 14 rfl rfl)
theorem dX4_without_15 : decode cX4_without 15 = .ok (.if_icmp .ne 12, 3) := dk_160 0 12 (dk_at dksX4_without_0 15 rfl rfl)
theorem dX4_without_18 : decode cX4_without 18 = .ok (.iload_n 2, 1) := dk_28 (dk_at dksX4_without_0 18 rfl rfl)
theorem dX4_without_19 : decode cX4_without 19 = .ok (.iconst 4, 1) := dk_7 (dk_at dksX4_without_0 19 rfl rfl)
theorem dX4_without_20 : decode cX4_without 20 = .ok (.iload_n 3, 1) := dk_29 (dk_at dksX4_without_0 20 rfl rfl)
theorem dX4_without_21 : decode cX4_without 21 = .ok (.invokestatic 57, 3) := dk_184 0 57 (dk_at dksX4_without_0 21 rfl rfl)
theorem dX4_without_24 : decode cX4_without 24 = .ok (.imul, 1) := dk_104 (dk_at dksX4_without_1 0 rfl rfl)
theorem dX4_without_25 : decode cX4_without 25 = .ok (.isub, 1) := dk_100 (dk_at dksX4_without_1 1 rfl rfl)
theorem dX4_without_26 : decode cX4_without 26 = .ok (.istore_n 2, 1) := dk_61 (dk_at dksX4_without_1 2 rfl rfl)
theorem dX4_without_27 : decode cX4_without 27 = .ok (.iinc 3 1, 3) := dk_132 3 1 (dk_at dksX4_without_1 3 rfl rfl)
theorem dX4_without_30 : decode cX4_without 30 = .ok (.goto (-26), 3) := dk_167 255 230 (dk_at dksX4_without_1 6 rfl rfl)
theorem dX4_without_33 : decode cX4_without 33 = .ok (.iload_n 2, 1) := dk_28 (dk_at dksX4_without_1 9 rfl rfl)
theorem dX4_without_34 : decode cX4_without 34 = .ok (.ireturn, 1) := dk_172 (dk_at dksX4_without_1 10 rfl rfl)
abbrev cX4_settle : ByteArray := prog_15_method_9_code
def yX4_settle : MethodName := ⟨RX4, "settle", "(IIII)I"⟩
def dkwX4_settle_9 : List UInt8 := [21, 8, 3, 21, 6, 21, 4, 182, 0, 48, 167, 0, 4, 3, 100, 172]
abbrev dktX4_settle_9 : List UInt8 := dkwX4_settle_9 ++ []
def dkwX4_settle_8 : List UInt8 := [54, 9, 42, 21, 8, 182, 0, 88, 54, 8, 167, 255, 175, 21, 7, 21, 9, 100, 21, 8, 158, 0, 17, 42]
abbrev dktX4_settle_8 : List UInt8 := dkwX4_settle_8 ++ dktX4_settle_9
def dkwX4_settle_7 : List UInt8 := [184, 0, 57, 96, 54, 8, 132, 6, 255, 132, 10, 255, 167, 255, 231, 21, 9, 42, 21, 8, 182, 0, 85, 96]
abbrev dktX4_settle_7 : List UInt8 := dkwX4_settle_7 ++ dktX4_settle_8
def dkwX4_settle_6 : List UInt8 := [180, 0, 74, 21, 6, 184, 0, 77, 54, 10, 21, 10, 158, 0, 26, 21, 8, 42, 21, 6, 182, 0, 82]
abbrev dktX4_settle_6 : List UInt8 := dkwX4_settle_6 ++ dktX4_settle_7
def dkwX4_settle_5 : List UInt8 := [21, 8, 154, 0, 82, 42, 180, 0, 26, 180, 0, 74, 158, 0, 72, 21, 6, 158, 0, 67, 42, 180, 0, 26]
abbrev dktX4_settle_5 : List UInt8 := dkwX4_settle_5 ++ dktX4_settle_6
def dkwX4_settle_4 : List UInt8 := [158, 0, 18, 21, 7, 42, 21, 5, 28, 21, 6, 21, 4, 182, 0, 48, 96, 172, 28, 54, 8, 3, 54, 9]
abbrev dktX4_settle_4 : List UInt8 := dkwX4_settle_4 ++ dktX4_settle_5
def dkwX4_settle_3 : List UInt8 := [21, 7, 42, 21, 5, 182, 0, 85, 96, 54, 7, 42, 21, 5, 182, 0, 88, 54, 5, 167, 255, 175, 21, 5]
abbrev dktX4_settle_3 : List UInt8 := dkwX4_settle_3 ++ dktX4_settle_4
def dkwX4_settle_2 : List UInt8 := [21, 5, 42, 21, 6, 182, 0, 82, 184, 0, 57, 96, 54, 5, 132, 6, 255, 132, 8, 255, 167, 255, 231]
abbrev dktX4_settle_2 : List UInt8 := dkwX4_settle_2 ++ dktX4_settle_3
def dkwX4_settle_1 : List UInt8 := [21, 6, 158, 0, 67, 42, 180, 0, 26, 180, 0, 74, 21, 6, 184, 0, 77, 54, 8, 21, 8, 158, 0, 26]
abbrev dktX4_settle_1 : List UInt8 := dkwX4_settle_1 ++ dktX4_settle_2
def dkwX4_settle_0 : List UInt8 := [27, 54, 5, 29, 54, 6, 3, 54, 7, 21, 5, 154, 0, 82, 42, 180, 0, 26, 180, 0, 74, 158, 0, 72]
abbrev dktX4_settle_0 : List UInt8 := dkwX4_settle_0 ++ dktX4_settle_1
theorem dksX4_settle_0 : cX4_settle.data.toList.drop 0 = dktX4_settle_0 := by decide +kernel
theorem dksX4_settle_1 : cX4_settle.data.toList.drop 24 = dktX4_settle_1 := dk_seg dksX4_settle_0 24 rfl rfl
theorem dksX4_settle_2 : cX4_settle.data.toList.drop 48 = dktX4_settle_2 := dk_seg dksX4_settle_1 24 rfl rfl
theorem dksX4_settle_3 : cX4_settle.data.toList.drop 71 = dktX4_settle_3 := dk_seg dksX4_settle_2 23 rfl rfl
theorem dksX4_settle_4 : cX4_settle.data.toList.drop 95 = dktX4_settle_4 := dk_seg dksX4_settle_3 24 rfl rfl
theorem dksX4_settle_5 : cX4_settle.data.toList.drop 119 = dktX4_settle_5 := dk_seg dksX4_settle_4 24 rfl rfl
theorem dksX4_settle_6 : cX4_settle.data.toList.drop 143 = dktX4_settle_6 := dk_seg dksX4_settle_5 24 rfl rfl
theorem dksX4_settle_7 : cX4_settle.data.toList.drop 166 = dktX4_settle_7 := dk_seg dksX4_settle_6 23 rfl rfl
theorem dksX4_settle_8 : cX4_settle.data.toList.drop 190 = dktX4_settle_8 := dk_seg dksX4_settle_7 24 rfl rfl
theorem dksX4_settle_9 : cX4_settle.data.toList.drop 214 = dktX4_settle_9 := dk_seg dksX4_settle_8 24 rfl rfl
theorem dX4_settle_0 : decode cX4_settle 0 = .ok (.iload_n 1, 1) := dk_27 (dk_at dksX4_settle_0 0 rfl rfl)
theorem dX4_settle_1 : decode cX4_settle 1 = .ok (.istore 5, 2) := dk_54 5 (dk_at dksX4_settle_0 1 rfl rfl)
theorem dX4_settle_3 : decode cX4_settle 3 = .ok (.iload_n 3, 1) := dk_29 (dk_at dksX4_settle_0 3 rfl rfl)
theorem dX4_settle_4 : decode cX4_settle 4 = .ok (.istore 6, 2) := dk_54 6 (dk_at dksX4_settle_0 4 rfl rfl)
theorem dX4_settle_6 : decode cX4_settle 6 = .ok (.iconst 0, 1) := dk_3 (dk_at dksX4_settle_0 6 rfl rfl)
theorem dX4_settle_7 : decode cX4_settle 7 = .ok (.istore 7, 2) := dk_54 7 (dk_at dksX4_settle_0 7 rfl rfl)
theorem dX4_settle_9 : decode cX4_settle 9 = .ok (.iload 5, 2) := dk_21 5 (dk_at dksX4_settle_0 9 rfl rfl)
theorem dX4_settle_11 : decode cX4_settle 11 = .ok (.ifCond .ne 82, 3) := dk_154 0 82 (dk_at dksX4_settle_0 11 rfl rfl)
theorem dX4_settle_14 : decode cX4_settle 14 = .ok (.aload_n 0, 1) := dk_42 (dk_at dksX4_settle_0 14 rfl rfl)
theorem dX4_settle_15 : decode cX4_settle 15 = .ok (.getfield 26, 3) := dk_180 0 26 (dk_at dksX4_settle_0 15 rfl rfl)
theorem dX4_settle_18 : decode cX4_settle 18 = .ok (.getfield 74, 3) := dk_180 0 74 (dk_at dksX4_settle_0 18 rfl rfl)
theorem dX4_settle_21 : decode cX4_settle 21 = .ok (.ifCond .le 72, 3) := dk_158 0 72 (dk_at dksX4_settle_0 21 rfl rfl)
theorem dX4_settle_24 : decode cX4_settle 24 = .ok (.iload 6, 2) := dk_21 6 (dk_at dksX4_settle_1 0 rfl rfl)
theorem dX4_settle_26 : decode cX4_settle 26 = .ok (.ifCond .le 67, 3) := dk_158 0 67 (dk_at dksX4_settle_1 2 rfl rfl)
theorem dX4_settle_29 : decode cX4_settle 29 = .ok (.aload_n 0, 1) := dk_42 (dk_at dksX4_settle_1 5 rfl rfl)
theorem dX4_settle_30 : decode cX4_settle 30 = .ok (.getfield 26, 3) := dk_180 0 26 (dk_at dksX4_settle_1 6 rfl rfl)
theorem dX4_settle_33 : decode cX4_settle 33 = .ok (.getfield 74, 3) := dk_180 0 74 (dk_at dksX4_settle_1 9 rfl rfl)
theorem dX4_settle_36 : decode cX4_settle 36 = .ok (.iload 6, 2) := dk_21 6 (dk_at dksX4_settle_1 12 rfl rfl)
theorem dX4_settle_38 : decode cX4_settle 38 = .ok (.invokestatic 77, 3) := dk_184 0 77 (dk_at dksX4_settle_1 14 rfl rfl)
theorem dX4_settle_41 : decode cX4_settle 41 = .ok (.istore 8, 2) := dk_54 8 (dk_at dksX4_settle_1 17 rfl rfl)
theorem dX4_settle_43 : decode cX4_settle 43 = .ok (.iload 8, 2) := dk_21 8 (dk_at dksX4_settle_1 19 rfl rfl)
theorem dX4_settle_45 : decode cX4_settle 45 = .ok (.ifCond .le 26, 3) := dk_158 0 26 (dk_at dksX4_settle_1 21 rfl rfl)
theorem dX4_settle_48 : decode cX4_settle 48 = .ok (.iload 5, 2) := dk_21 5 (dk_at dksX4_settle_2 0 rfl rfl)
theorem dX4_settle_50 : decode cX4_settle 50 = .ok (.aload_n 0, 1) := dk_42 (dk_at dksX4_settle_2 2 rfl rfl)
theorem dX4_settle_51 : decode cX4_settle 51 = .ok (.iload 6, 2) := dk_21 6 (dk_at dksX4_settle_2 3 rfl rfl)
theorem dX4_settle_53 : decode cX4_settle 53 = .ok (.invokevirtual 82, 3) := dk_182 0 82 (dk_at dksX4_settle_2 5 rfl rfl)
theorem dX4_settle_56 : decode cX4_settle 56 = .ok (.invokestatic 57, 3) := dk_184 0 57 (dk_at dksX4_settle_2 8 rfl rfl)
theorem dX4_settle_59 : decode cX4_settle 59 = .ok (.iadd, 1) := dk_96 (dk_at dksX4_settle_2 11 rfl rfl)
theorem dX4_settle_60 : decode cX4_settle 60 = .ok (.istore 5, 2) := dk_54 5 (dk_at dksX4_settle_2 12 rfl rfl)
theorem dX4_settle_62 : decode cX4_settle 62 = .ok (.iinc 6 (-1), 3) := dk_132 6 255 (dk_at dksX4_settle_2 14 rfl rfl)
theorem dX4_settle_65 : decode cX4_settle 65 = .ok (.iinc 8 (-1), 3) := dk_132 8 255 (dk_at dksX4_settle_2 17 rfl rfl)
theorem dX4_settle_68 : decode cX4_settle 68 = .ok (.goto (-25), 3) := dk_167 255 231 (dk_at dksX4_settle_2 20 rfl rfl)
theorem dX4_settle_71 : decode cX4_settle 71 = .ok (.iload 7, 2) := dk_21 7 (dk_at dksX4_settle_3 0 rfl rfl)
theorem dX4_settle_73 : decode cX4_settle 73 = .ok (.aload_n 0, 1) := dk_42 (dk_at dksX4_settle_3 2 rfl rfl)
theorem dX4_settle_74 : decode cX4_settle 74 = .ok (.iload 5, 2) := dk_21 5 (dk_at dksX4_settle_3 3 rfl rfl)
theorem dX4_settle_76 : decode cX4_settle 76 = .ok (.invokevirtual 85, 3) := dk_182 0 85 (dk_at dksX4_settle_3 5 rfl rfl)
theorem dX4_settle_79 : decode cX4_settle 79 = .ok (.iadd, 1) := dk_96 (dk_at dksX4_settle_3 8 rfl rfl)
theorem dX4_settle_80 : decode cX4_settle 80 = .ok (.istore 7, 2) := dk_54 7 (dk_at dksX4_settle_3 9 rfl rfl)
theorem dX4_settle_82 : decode cX4_settle 82 = .ok (.aload_n 0, 1) := dk_42 (dk_at dksX4_settle_3 11 rfl rfl)
theorem dX4_settle_83 : decode cX4_settle 83 = .ok (.iload 5, 2) := dk_21 5 (dk_at dksX4_settle_3 12 rfl rfl)
theorem dX4_settle_85 : decode cX4_settle 85 = .ok (.invokevirtual 88, 3) := dk_182 0 88 (dk_at dksX4_settle_3 14 rfl rfl)
theorem dX4_settle_88 : decode cX4_settle 88 = .ok (.istore 5, 2) := dk_54 5 (dk_at dksX4_settle_3 17 rfl rfl)
theorem dX4_settle_90 : decode cX4_settle 90 = .ok (.goto (-81), 3) := dk_167 255 175 (dk_at dksX4_settle_3 19 rfl rfl)
theorem dX4_settle_93 : decode cX4_settle 93 = .ok (.iload 5, 2) := dk_21 5 (dk_at dksX4_settle_3 22 rfl rfl)
theorem dX4_settle_95 : decode cX4_settle 95 = .ok (.ifCond .le 18, 3) := dk_158 0 18 (dk_at dksX4_settle_4 0 rfl rfl)
theorem dX4_settle_98 : decode cX4_settle 98 = .ok (.iload 7, 2) := dk_21 7 (dk_at dksX4_settle_4 3 rfl rfl)
theorem dX4_settle_100 : decode cX4_settle 100 = .ok (.aload_n 0, 1) := dk_42 (dk_at dksX4_settle_4 5 rfl rfl)
theorem dX4_settle_101 : decode cX4_settle 101 = .ok (.iload 5, 2) := dk_21 5 (dk_at dksX4_settle_4 6 rfl rfl)
theorem dX4_settle_103 : decode cX4_settle 103 = .ok (.iload_n 2, 1) := dk_28 (dk_at dksX4_settle_4 8 rfl rfl)
theorem dX4_settle_104 : decode cX4_settle 104 = .ok (.iload 6, 2) := dk_21 6 (dk_at dksX4_settle_4 9 rfl rfl)
theorem dX4_settle_106 : decode cX4_settle 106 = .ok (.iload 4, 2) := dk_21 4 (dk_at dksX4_settle_4 11 rfl rfl)
theorem dX4_settle_108 : decode cX4_settle 108 = .ok (.invokevirtual 48, 3) := dk_182 0 48 (dk_at dksX4_settle_4 13 rfl rfl)
theorem dX4_settle_111 : decode cX4_settle 111 = .ok (.iadd, 1) := dk_96 (dk_at dksX4_settle_4 16 rfl rfl)
theorem dX4_settle_112 : decode cX4_settle 112 = .ok (.ireturn, 1) := dk_172 (dk_at dksX4_settle_4 17 rfl rfl)
theorem dX4_settle_113 : decode cX4_settle 113 = .ok (.iload_n 2, 1) := dk_28 (dk_at dksX4_settle_4 18 rfl rfl)
theorem dX4_settle_114 : decode cX4_settle 114 = .ok (.istore 8, 2) := dk_54 8 (dk_at dksX4_settle_4 19 rfl rfl)
theorem dX4_settle_116 : decode cX4_settle 116 = .ok (.iconst 0, 1) := dk_3 (dk_at dksX4_settle_4 21 rfl rfl)
theorem dX4_settle_117 : decode cX4_settle 117 = .ok (.istore 9, 2) := dk_54 9 (dk_at dksX4_settle_4 22 rfl rfl)
theorem dX4_settle_119 : decode cX4_settle 119 = .ok (.iload 8, 2) := dk_21 8 (dk_at dksX4_settle_5 0 rfl rfl)
theorem dX4_settle_121 : decode cX4_settle 121 = .ok (.ifCond .ne 82, 3) := dk_154 0 82 (dk_at dksX4_settle_5 2 rfl rfl)
theorem dX4_settle_124 : decode cX4_settle 124 = .ok (.aload_n 0, 1) := dk_42 (dk_at dksX4_settle_5 5 rfl rfl)
theorem dX4_settle_125 : decode cX4_settle 125 = .ok (.getfield 26, 3) := dk_180 0 26 (dk_at dksX4_settle_5 6 rfl rfl)
theorem dX4_settle_128 : decode cX4_settle 128 = .ok (.getfield 74, 3) := dk_180 0 74 (dk_at dksX4_settle_5 9 rfl rfl)
theorem dX4_settle_131 : decode cX4_settle 131 = .ok (.ifCond .le 72, 3) := dk_158 0 72 (dk_at dksX4_settle_5 12 rfl rfl)
theorem dX4_settle_134 : decode cX4_settle 134 = .ok (.iload 6, 2) := dk_21 6 (dk_at dksX4_settle_5 15 rfl rfl)
theorem dX4_settle_136 : decode cX4_settle 136 = .ok (.ifCond .le 67, 3) := dk_158 0 67 (dk_at dksX4_settle_5 17 rfl rfl)
theorem dX4_settle_139 : decode cX4_settle 139 = .ok (.aload_n 0, 1) := dk_42 (dk_at dksX4_settle_5 20 rfl rfl)
theorem dX4_settle_140 : decode cX4_settle 140 = .ok (.getfield 26, 3) := dk_180 0 26 (dk_at dksX4_settle_5 21 rfl rfl)
theorem dX4_settle_143 : decode cX4_settle 143 = .ok (.getfield 74, 3) := dk_180 0 74 (dk_at dksX4_settle_6 0 rfl rfl)
theorem dX4_settle_146 : decode cX4_settle 146 = .ok (.iload 6, 2) := dk_21 6 (dk_at dksX4_settle_6 3 rfl rfl)
theorem dX4_settle_148 : decode cX4_settle 148 = .ok (.invokestatic 77, 3) := dk_184 0 77 (dk_at dksX4_settle_6 5 rfl rfl)
theorem dX4_settle_151 : decode cX4_settle 151 = .ok (.istore 10, 2) := dk_54 10 (dk_at dksX4_settle_6 8 rfl rfl)
theorem dX4_settle_153 : decode cX4_settle 153 = .ok (.iload 10, 2) := dk_21 10 (dk_at dksX4_settle_6 10 rfl rfl)
theorem dX4_settle_155 : decode cX4_settle 155 = .ok (.ifCond .le 26, 3) := dk_158 0 26 (dk_at dksX4_settle_6 12 rfl rfl)
theorem dX4_settle_158 : decode cX4_settle 158 = .ok (.iload 8, 2) := dk_21 8 (dk_at dksX4_settle_6 15 rfl rfl)
theorem dX4_settle_160 : decode cX4_settle 160 = .ok (.aload_n 0, 1) := dk_42 (dk_at dksX4_settle_6 17 rfl rfl)
theorem dX4_settle_161 : decode cX4_settle 161 = .ok (.iload 6, 2) := dk_21 6 (dk_at dksX4_settle_6 18 rfl rfl)
theorem dX4_settle_163 : decode cX4_settle 163 = .ok (.invokevirtual 82, 3) := dk_182 0 82 (dk_at dksX4_settle_6 20 rfl rfl)
theorem dX4_settle_166 : decode cX4_settle 166 = .ok (.invokestatic 57, 3) := dk_184 0 57 (dk_at dksX4_settle_7 0 rfl rfl)
theorem dX4_settle_169 : decode cX4_settle 169 = .ok (.iadd, 1) := dk_96 (dk_at dksX4_settle_7 3 rfl rfl)
theorem dX4_settle_170 : decode cX4_settle 170 = .ok (.istore 8, 2) := dk_54 8 (dk_at dksX4_settle_7 4 rfl rfl)
theorem dX4_settle_172 : decode cX4_settle 172 = .ok (.iinc 6 (-1), 3) := dk_132 6 255 (dk_at dksX4_settle_7 6 rfl rfl)
theorem dX4_settle_175 : decode cX4_settle 175 = .ok (.iinc 10 (-1), 3) := dk_132 10 255 (dk_at dksX4_settle_7 9 rfl rfl)
theorem dX4_settle_178 : decode cX4_settle 178 = .ok (.goto (-25), 3) := dk_167 255 231 (dk_at dksX4_settle_7 12 rfl rfl)
theorem dX4_settle_181 : decode cX4_settle 181 = .ok (.iload 9, 2) := dk_21 9 (dk_at dksX4_settle_7 15 rfl rfl)
theorem dX4_settle_183 : decode cX4_settle 183 = .ok (.aload_n 0, 1) := dk_42 (dk_at dksX4_settle_7 17 rfl rfl)
theorem dX4_settle_184 : decode cX4_settle 184 = .ok (.iload 8, 2) := dk_21 8 (dk_at dksX4_settle_7 18 rfl rfl)
theorem dX4_settle_186 : decode cX4_settle 186 = .ok (.invokevirtual 85, 3) := dk_182 0 85 (dk_at dksX4_settle_7 20 rfl rfl)
theorem dX4_settle_189 : decode cX4_settle 189 = .ok (.iadd, 1) := dk_96 (dk_at dksX4_settle_7 23 rfl rfl)
theorem dX4_settle_190 : decode cX4_settle 190 = .ok (.istore 9, 2) := dk_54 9 (dk_at dksX4_settle_8 0 rfl rfl)
theorem dX4_settle_192 : decode cX4_settle 192 = .ok (.aload_n 0, 1) := dk_42 (dk_at dksX4_settle_8 2 rfl rfl)
theorem dX4_settle_193 : decode cX4_settle 193 = .ok (.iload 8, 2) := dk_21 8 (dk_at dksX4_settle_8 3 rfl rfl)
theorem dX4_settle_195 : decode cX4_settle 195 = .ok (.invokevirtual 88, 3) := dk_182 0 88 (dk_at dksX4_settle_8 5 rfl rfl)
theorem dX4_settle_198 : decode cX4_settle 198 = .ok (.istore 8, 2) := dk_54 8 (dk_at dksX4_settle_8 8 rfl rfl)
theorem dX4_settle_200 : decode cX4_settle 200 = .ok (.goto (-81), 3) := dk_167 255 175 (dk_at dksX4_settle_8 10 rfl rfl)
theorem dX4_settle_203 : decode cX4_settle 203 = .ok (.iload 7, 2) := dk_21 7 (dk_at dksX4_settle_8 13 rfl rfl)
theorem dX4_settle_205 : decode cX4_settle 205 = .ok (.iload 9, 2) := dk_21 9 (dk_at dksX4_settle_8 15 rfl rfl)
theorem dX4_settle_207 : decode cX4_settle 207 = .ok (.isub, 1) := dk_100 (dk_at dksX4_settle_8 17 rfl rfl)
theorem dX4_settle_208 : decode cX4_settle 208 = .ok (.iload 8, 2) := dk_21 8 (dk_at dksX4_settle_8 18 rfl rfl)
theorem dX4_settle_210 : decode cX4_settle 210 = .ok (.ifCond .le 17, 3) := dk_158 0 17 (dk_at dksX4_settle_8 20 rfl rfl)
theorem dX4_settle_213 : decode cX4_settle 213 = .ok (.aload_n 0, 1) := dk_42 (dk_at dksX4_settle_8 23 rfl rfl)
theorem dX4_settle_214 : decode cX4_settle 214 = .ok (.iload 8, 2) := dk_21 8 (dk_at dksX4_settle_9 0 rfl rfl)
theorem dX4_settle_216 : decode cX4_settle 216 = .ok (.iconst 0, 1) := dk_3 (dk_at dksX4_settle_9 2 rfl rfl)
theorem dX4_settle_217 : decode cX4_settle 217 = .ok (.iload 6, 2) := dk_21 6 (dk_at dksX4_settle_9 3 rfl rfl)
theorem dX4_settle_219 : decode cX4_settle 219 = .ok (.iload 4, 2) := dk_21 4 (dk_at dksX4_settle_9 5 rfl rfl)
theorem dX4_settle_221 : decode cX4_settle 221 = .ok (.invokevirtual 48, 3) := dk_182 0 48 (dk_at dksX4_settle_9 7 rfl rfl)
theorem dX4_settle_224 : decode cX4_settle 224 = .ok (.goto 4, 3) := dk_167 0 4 (dk_at dksX4_settle_9 10 rfl rfl)
theorem dX4_settle_227 : decode cX4_settle 227 = .ok (.iconst 0, 1) := dk_3 (dk_at dksX4_settle_9 13 rfl rfl)
theorem dX4_settle_228 : decode cX4_settle 228 = .ok (.isub, 1) := dk_100 (dk_at dksX4_settle_9 14 rfl rfl)
theorem dX4_settle_229 : decode cX4_settle 229 = .ok (.ireturn, 1) := dk_172 (dk_at dksX4_settle_9 15 rfl rfl)
abbrev cX4_card : ByteArray := prog_15_method_6_code
def yX4_card : MethodName := ⟨RX4, "card", "(I)I"⟩
def dkwX4_card_0 : List UInt8 := [42, 180, 0, 16, 180, 0, 64, 42, 180, 0, 16, 180, 0, 67, 27, 100, 46, 172]
abbrev dktX4_card_0 : List UInt8 := dkwX4_card_0 ++ []
theorem dksX4_card_0 : cX4_card.data.toList.drop 0 = dktX4_card_0 := by decide +kernel
theorem dX4_card_0 : decode cX4_card 0 = .ok (.aload_n 0, 1) := dk_42 (dk_at dksX4_card_0 0 rfl rfl)
theorem dX4_card_1 : decode cX4_card 1 = .ok (.getfield 16, 3) := dk_180 0 16 (dk_at dksX4_card_0 1 rfl rfl)
theorem dX4_card_4 : decode cX4_card 4 = .ok (.getfield 64, 3) := dk_180 0 64 (dk_at dksX4_card_0 4 rfl rfl)
theorem dX4_card_7 : decode cX4_card 7 = .ok (.aload_n 0, 1) := dk_42 (dk_at dksX4_card_0 7 rfl rfl)
theorem dX4_card_8 : decode cX4_card 8 = .ok (.getfield 16, 3) := dk_180 0 16 (dk_at dksX4_card_0 8 rfl rfl)
theorem dX4_card_11 : decode cX4_card 11 = .ok (.getfield 67, 3) := dk_180 0 67 (dk_at dksX4_card_0 11 rfl rfl)
theorem dX4_card_14 : decode cX4_card 14 = .ok (.iload_n 1, 1) := dk_27 (dk_at dksX4_card_0 14 rfl rfl)
theorem dX4_card_15 : decode cX4_card 15 = .ok (.isub, 1) := dk_100 (dk_at dksX4_card_0 15 rfl rfl)
theorem dX4_card_16 : decode cX4_card 16 = .ok (.iaload, 1) := dk_46 (dk_at dksX4_card_0 16 rfl rfl)
theorem dX4_card_17 : decode cX4_card 17 = .ok (.ireturn, 1) := dk_172 (dk_at dksX4_card_0 17 rfl rfl)
theorem q127 : (Jvm.Cond.initialized "SevenTable$Open") ∈ lw_all := lw_g (lw_at lw_m1 10 rfl) rfl
theorem q203 : (Jvm.Cond.fieldLinkNest "SevenTable$Open" (52 : Nat) "SevenTable$Table" "kinds" "I" "SevenTable") ∈ lw_tbl := lw_at lw_m1 86 rfl
theorem q208 : (Jvm.Cond.fieldLinkNest "SevenTable$Open" (74 : Nat) "SevenTable$Table" "refill" "I" "SevenTable") ∈ lw_tbl := lw_at lw_m1 91 rfl
theorem q216 : (Jvm.Cond.fieldLinkNest "SevenTable$Open" (101 : Nat) "SevenTable$Table" "again" "Z" "SevenTable") ∈ lw_tbl := lw_at lw_m1 99 rfl
theorem q261 : (Jvm.Cond.fieldLinkNest "SevenTable$Open" (20 : Nat) "SevenTable$Game" "t" "LSevenTable$Table;" "SevenTable") ∈ lw_tbl := lw_at lw_m1 144 rfl
theorem q272 : (Jvm.Cond.fieldLinkNest "SevenTable$Open" (60 : Nat) "SevenTable$Game" "hand" "[[I" "SevenTable") ∈ lw_tbl := lw_at lw_m1 155 rfl
theorem q296 : (Jvm.Cond.fieldLinkNest "SevenTable$Open" (64 : Nat) "SevenTable$Game" "heap" "[I" "SevenTable") ∈ lw_tbl := lw_at lw_m1 179 rfl
theorem q305 : (Jvm.Cond.fieldLinkNest "SevenTable$Open" (67 : Nat) "SevenTable$Game" "heaped" "I" "SevenTable") ∈ lw_tbl := lw_at lw_m1 188 rfl
theorem q306 : (Jvm.Cond.fieldLinkNest "SevenTable$Open" (33 : Nat) "SevenTable$Game" "turn" "I" "SevenTable") ∈ lw_tbl := lw_at lw_m1 189 rfl
theorem q311 : (Jvm.Cond.fieldLinkNest "SevenTable$Open" (45 : Nat) "SevenTable$Game" "vain" "I" "SevenTable") ∈ lw_tbl := lw_at lw_m1 194 rfl
theorem q436 : (Jvm.Cond.instantiable "SevenTable$Open" (4 : Nat)) ∈ lw_all := lw_g (lw_at lw_m2 79 rfl) rfl
theorem q438 : (Jvm.Cond.instanceMethod ({ cls := "SevenTable$Open", name := "<init>", desc := "()V" } : Jvm.MethodName)) ∈ lw_all := lw_g (lw_at lw_m2 81 rfl) rfl
theorem q439 : (Jvm.Cond.code ({ cls := "SevenTable$Open", name := "<init>", desc := "()V" } : Jvm.MethodName) prog_15_method_1_code (1 : Nat) (Option.none : Option Jvm.ClassFile.FieldType)) ∈ lw_all := lw_g (lw_at lw_m2 82 rfl) rfl
theorem q440 : (Jvm.Cond.methodLink "SevenTable$Open" (3 : Nat) ({ cls := "java/lang/Object", name := "<init>", desc := "()V" } : Jvm.MethodName)) ∈ lw_all := lw_g (lw_at lw_m2 83 rfl) rfl
theorem q441 : (Jvm.Cond.constant "SevenTable$Open" (11 : Nat) (156250 : Int32)) ∈ lw_all := lw_g (lw_at lw_m2 84 rfl) rfl
theorem q442 : (Jvm.Cond.fieldLink "SevenTable$Open" (26 : Nat) "SevenTable$Open" "t" "LSevenTable$Table;") ∈ lw_all := lw_g (lw_at lw_m2 85 rfl) rfl
theorem q443 : (Jvm.Cond.fieldLink "SevenTable$Open" (16 : Nat) "SevenTable$Open" "g" "LSevenTable$Game;") ∈ lw_all := lw_g (lw_at lw_m2 86 rfl) rfl
theorem q444 : (Jvm.Cond.fieldLink "SevenTable$Open" (12 : Nat) "SevenTable$Open" "memo" "[I") ∈ lw_all := lw_g (lw_at lw_m2 87 rfl) rfl
theorem q445 : (Jvm.Cond.fieldLink "SevenTable$Open" (95 : Nat) "SevenTable$Open" "firstKind" "I") ∈ lw_all := lw_g (lw_at lw_m2 88 rfl) rfl
theorem q447 : (Jvm.Cond.lays "SevenTable$Open" "SevenTable$Open" "t" "LSevenTable$Table;") ∈ lw_all := lw_g (lw_at lw_m2 90 rfl) rfl
theorem q448 : (Jvm.Cond.soleField "SevenTable$Open" "t") ∈ lw_all := lw_g (lw_at lw_m2 91 rfl) rfl
theorem q449 : (Jvm.Cond.lays "SevenTable$Open" "SevenTable$Open" "g" "LSevenTable$Game;") ∈ lw_all := lw_g (lw_at lw_m2 92 rfl) rfl
theorem q450 : (Jvm.Cond.soleField "SevenTable$Open" "g") ∈ lw_all := lw_g (lw_at lw_m2 93 rfl) rfl
theorem q451 : (Jvm.Cond.laysFinal "SevenTable$Open" "SevenTable$Open" "memo" "[I") ∈ lw_all := lw_g (lw_at lw_m2 94 rfl) rfl
theorem q452 : (Jvm.Cond.soleField "SevenTable$Open" "memo") ∈ lw_all := lw_g (lw_at lw_m2 95 rfl) rfl
theorem q453 : (Jvm.Cond.lays "SevenTable$Open" "SevenTable$Open" "firstKind" "I") ∈ lw_all := lw_g (lw_at lw_m2 96 rfl) rfl
theorem q454 : (Jvm.Cond.soleField "SevenTable$Open" "firstKind") ∈ lw_all := lw_g (lw_at lw_m2 97 rfl) rfl
theorem q455 : (Jvm.Cond.superclass "SevenTable$Open" "java/lang/Object") ∈ lw_all := lw_g (lw_at lw_m2 98 rfl) rfl
theorem q1090 : (Jvm.Cond.selects "SevenTable$Open" ({ cls := "java/lang/Object", name := "equals", desc := "(Ljava/lang/Object;)Z" } : Jvm.MethodName) ({ cls := "java/lang/Object", name := "equals", desc := "(Ljava/lang/Object;)Z" } : Jvm.MethodName)) ∈ lw_all := lw_g (lw_at lw_m5 13 rfl) rfl
theorem q1135 : (Jvm.Cond.selects "SevenTable$Open" ({ cls := "java/lang/Object", name := "getClass", desc := "()Ljava/lang/Class;" } : Jvm.MethodName) ({ cls := "java/lang/Object", name := "getClass", desc := "()Ljava/lang/Class;" } : Jvm.MethodName)) ∈ lw_all := lw_g (lw_at lw_m5 58 rfl) rfl
theorem q1362 : (Jvm.Cond.instanceMethod ({ cls := "SevenTable$Open", name := "value", desc := "(LSevenTable$Game;)I" } : Jvm.MethodName)) ∈ lw_all := lw_g (lw_at lw_m6 45 rfl) rfl
theorem q1363 : (Jvm.Cond.selects "SevenTable$Open" ({ cls := "SevenTable$Open", name := "value", desc := "(LSevenTable$Game;)I" } : Jvm.MethodName) ({ cls := "SevenTable$Open", name := "value", desc := "(LSevenTable$Game;)I" } : Jvm.MethodName)) ∈ lw_all := lw_g (lw_at lw_m6 46 rfl) rfl
theorem q1364 : (Jvm.Cond.code ({ cls := "SevenTable$Open", name := "value", desc := "(LSevenTable$Game;)I" } : Jvm.MethodName) prog_15_method_2_code (2 : Nat) (Option.some Jvm.ClassFile.FieldType.int)) ∈ lw_all := lw_g (lw_at lw_m6 47 rfl) rfl
theorem q1365 : (Jvm.Cond.methodLink "SevenTable$Open" (27 : Nat) ({ cls := "java/util/Arrays", name := "fill", desc := "([II)V" } : Jvm.MethodName)) ∈ lw_all := lw_g (lw_at lw_m6 48 rfl) rfl
theorem q1366 : (Jvm.Cond.methodLink "SevenTable$Open" (37 : Nat) ({ cls := "SevenTable$Open", name := "handOf", desc := "(I)I" } : Jvm.MethodName)) ∈ lw_all := lw_g (lw_at lw_m6 49 rfl) rfl
theorem q1367 : (Jvm.Cond.privateMethod ({ cls := "SevenTable$Open", name := "handOf", desc := "(I)I" } : Jvm.MethodName)) ∈ lw_tbl := lw_at lw_m6 50 rfl
theorem q1368 : (Jvm.Cond.instanceMethod ({ cls := "SevenTable$Open", name := "handOf", desc := "(I)I" } : Jvm.MethodName)) ∈ lw_all := lw_g (lw_at lw_m6 51 rfl) rfl
theorem q1369 : (Jvm.Cond.code ({ cls := "SevenTable$Open", name := "handOf", desc := "(I)I" } : Jvm.MethodName) prog_15_method_5_code (4 : Nat) (Option.some Jvm.ClassFile.FieldType.int)) ∈ lw_all := lw_g (lw_at lw_m6 52 rfl) rfl
theorem q1370 : (Jvm.Cond.methodLink "SevenTable$Open" (57 : Nat) ({ cls := "SevenTable$Open", name := "one", desc := "(I)I" } : Jvm.MethodName)) ∈ lw_all := lw_g (lw_at lw_m6 53 rfl) rfl
theorem q1371 : (Jvm.Cond.static ({ cls := "SevenTable$Open", name := "one", desc := "(I)I" } : Jvm.MethodName)) ∈ lw_all := lw_g (lw_at lw_m6 54 rfl) rfl
theorem q1372 : (Jvm.Cond.code ({ cls := "SevenTable$Open", name := "one", desc := "(I)I" } : Jvm.MethodName) prog_15_method_4_code (1 : Nat) (Option.some Jvm.ClassFile.FieldType.int)) ∈ lw_all := lw_g (lw_at lw_m6 55 rfl) rfl
theorem q1373 : (Jvm.Cond.methodLink "SevenTable$Open" (41 : Nat) ({ cls := "SevenTable$Game", name := "left", desc := "()I" } : Jvm.MethodName)) ∈ lw_all := lw_g (lw_at lw_m6 56 rfl) rfl
theorem q1374 : (Jvm.Cond.methodLink "SevenTable$Open" (48 : Nat) ({ cls := "SevenTable$Open", name := "best", desc := "(IIII)I" } : Jvm.MethodName)) ∈ lw_all := lw_g (lw_at lw_m6 57 rfl) rfl
theorem q1375 : (Jvm.Cond.instanceMethod ({ cls := "SevenTable$Open", name := "best", desc := "(IIII)I" } : Jvm.MethodName)) ∈ lw_all := lw_g (lw_at lw_m6 58 rfl) rfl
theorem q1376 : (Jvm.Cond.selects "SevenTable$Open" ({ cls := "SevenTable$Open", name := "best", desc := "(IIII)I" } : Jvm.MethodName) ({ cls := "SevenTable$Open", name := "best", desc := "(IIII)I" } : Jvm.MethodName)) ∈ lw_all := lw_g (lw_at lw_m6 59 rfl) rfl
theorem q1377 : (Jvm.Cond.code ({ cls := "SevenTable$Open", name := "best", desc := "(IIII)I" } : Jvm.MethodName) prog_15_method_10_code (10 : Nat) (Option.some Jvm.ClassFile.FieldType.int)) ∈ lw_all := lw_g (lw_at lw_m6 60 rfl) rfl
theorem q1378 : (Jvm.Cond.methodLink "SevenTable$Open" (70 : Nat) ({ cls := "SevenTable$Open", name := "of", desc := "(II)I" } : Jvm.MethodName)) ∈ lw_all := lw_g (lw_at lw_m6 61 rfl) rfl
theorem q1379 : (Jvm.Cond.static ({ cls := "SevenTable$Open", name := "of", desc := "(II)I" } : Jvm.MethodName)) ∈ lw_all := lw_g (lw_at lw_m6 62 rfl) rfl
theorem q1380 : (Jvm.Cond.code ({ cls := "SevenTable$Open", name := "of", desc := "(II)I" } : Jvm.MethodName) prog_15_method_3_code (2 : Nat) (Option.some Jvm.ClassFile.FieldType.int)) ∈ lw_all := lw_g (lw_at lw_m6 63 rfl) rfl
theorem q1381 : (Jvm.Cond.methodLink "SevenTable$Open" (91 : Nat) ({ cls := "SevenTable$Open", name := "asks", desc := "(IIIII)I" } : Jvm.MethodName)) ∈ lw_all := lw_g (lw_at lw_m6 64 rfl) rfl
theorem q1382 : (Jvm.Cond.privateMethod ({ cls := "SevenTable$Open", name := "asks", desc := "(IIIII)I" } : Jvm.MethodName)) ∈ lw_tbl := lw_at lw_m6 65 rfl
theorem q1383 : (Jvm.Cond.instanceMethod ({ cls := "SevenTable$Open", name := "asks", desc := "(IIIII)I" } : Jvm.MethodName)) ∈ lw_all := lw_g (lw_at lw_m6 66 rfl) rfl
theorem q1384 : (Jvm.Cond.code ({ cls := "SevenTable$Open", name := "asks", desc := "(IIIII)I" } : Jvm.MethodName) prog_15_method_11_code (10 : Nat) (Option.some Jvm.ClassFile.FieldType.int)) ∈ lw_all := lw_g (lw_at lw_m6 67 rfl) rfl
theorem q1385 : (Jvm.Cond.methodLink "SevenTable$Open" (85 : Nat) ({ cls := "SevenTable$Open", name := "books", desc := "(I)I" } : Jvm.MethodName)) ∈ lw_all := lw_g (lw_at lw_m6 68 rfl) rfl
theorem q1386 : (Jvm.Cond.privateMethod ({ cls := "SevenTable$Open", name := "books", desc := "(I)I" } : Jvm.MethodName)) ∈ lw_tbl := lw_at lw_m6 69 rfl
theorem q1387 : (Jvm.Cond.instanceMethod ({ cls := "SevenTable$Open", name := "books", desc := "(I)I" } : Jvm.MethodName)) ∈ lw_all := lw_g (lw_at lw_m6 70 rfl) rfl
theorem q1388 : (Jvm.Cond.code ({ cls := "SevenTable$Open", name := "books", desc := "(I)I" } : Jvm.MethodName) prog_15_method_7_code (4 : Nat) (Option.some Jvm.ClassFile.FieldType.int)) ∈ lw_all := lw_g (lw_at lw_m6 71 rfl) rfl
theorem q1389 : (Jvm.Cond.methodLink "SevenTable$Open" (88 : Nat) ({ cls := "SevenTable$Open", name := "without", desc := "(I)I" } : Jvm.MethodName)) ∈ lw_all := lw_g (lw_at lw_m6 72 rfl) rfl
theorem q1390 : (Jvm.Cond.privateMethod ({ cls := "SevenTable$Open", name := "without", desc := "(I)I" } : Jvm.MethodName)) ∈ lw_tbl := lw_at lw_m6 73 rfl
theorem q1391 : (Jvm.Cond.instanceMethod ({ cls := "SevenTable$Open", name := "without", desc := "(I)I" } : Jvm.MethodName)) ∈ lw_all := lw_g (lw_at lw_m6 74 rfl) rfl
theorem q1392 : (Jvm.Cond.code ({ cls := "SevenTable$Open", name := "without", desc := "(I)I" } : Jvm.MethodName) prog_15_method_8_code (4 : Nat) (Option.some Jvm.ClassFile.FieldType.int)) ∈ lw_all := lw_g (lw_at lw_m6 75 rfl) rfl
theorem q1393 : (Jvm.Cond.methodLink "SevenTable$Open" (98 : Nat) ({ cls := "SevenTable$Open", name := "settle", desc := "(IIII)I" } : Jvm.MethodName)) ∈ lw_all := lw_g (lw_at lw_m6 76 rfl) rfl
theorem q1394 : (Jvm.Cond.privateMethod ({ cls := "SevenTable$Open", name := "settle", desc := "(IIII)I" } : Jvm.MethodName)) ∈ lw_tbl := lw_at lw_m6 77 rfl
theorem q1395 : (Jvm.Cond.instanceMethod ({ cls := "SevenTable$Open", name := "settle", desc := "(IIII)I" } : Jvm.MethodName)) ∈ lw_all := lw_g (lw_at lw_m6 78 rfl) rfl
theorem q1396 : (Jvm.Cond.code ({ cls := "SevenTable$Open", name := "settle", desc := "(IIII)I" } : Jvm.MethodName) prog_15_method_9_code (11 : Nat) (Option.some Jvm.ClassFile.FieldType.int)) ∈ lw_all := lw_g (lw_at lw_m6 79 rfl) rfl
theorem q1397 : (Jvm.Cond.methodLink "SevenTable$Open" (77 : Nat) ({ cls := "java/lang/Math", name := "min", desc := "(II)I" } : Jvm.MethodName)) ∈ lw_all := lw_g (lw_at lw_m6 80 rfl) rfl
theorem q1398 : (Jvm.Cond.methodLink "SevenTable$Open" (82 : Nat) ({ cls := "SevenTable$Open", name := "card", desc := "(I)I" } : Jvm.MethodName)) ∈ lw_all := lw_g (lw_at lw_m6 81 rfl) rfl
theorem q1399 : (Jvm.Cond.privateMethod ({ cls := "SevenTable$Open", name := "card", desc := "(I)I" } : Jvm.MethodName)) ∈ lw_tbl := lw_at lw_m6 82 rfl
theorem q1400 : (Jvm.Cond.instanceMethod ({ cls := "SevenTable$Open", name := "card", desc := "(I)I" } : Jvm.MethodName)) ∈ lw_all := lw_g (lw_at lw_m6 83 rfl) rfl
theorem q1401 : (Jvm.Cond.code ({ cls := "SevenTable$Open", name := "card", desc := "(I)I" } : Jvm.MethodName) prog_15_method_6_code (2 : Nat) (Option.some Jvm.ClassFile.FieldType.int)) ∈ lw_all := lw_g (lw_at lw_m6 84 rfl) rfl
theorem q2499 : (Jvm.Cond.castable "SevenTable$Open" "java/lang/Object") ∈ lw_tbl := lw_at lw_m10 222 rfl
theorem in_X4 : ∀ w ∈ wsX40, w ∈ lw_all := lw_in wsX40 [447, 449, 451, 453] (by decide +kernel) (by decide +kernel)
