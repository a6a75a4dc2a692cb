set_option maxRecDepth 100000
abbrev cX11_laid : ByteArray := prog_23_method_74_code
def yX11_laid : MethodName := ⟨RX11, "laid", "([II)I"⟩
def dkwX11_laid_0 : List UInt8 := [42, 27, 46, 7, 162, 0, 5, 3, 172, 42, 27, 3, 79, 4, 172]
abbrev dktX11_laid_0 : List UInt8 := dkwX11_laid_0 ++ []
theorem dksX11_laid_0 : cX11_laid.data.toList.drop 0 = dktX11_laid_0 := by decide +kernel
theorem dX11_laid_0 : decode cX11_laid 0 = .ok (.aload_n 0, 1) := dk_42 (dk_at dksX11_laid_0 0 rfl rfl)
theorem dX11_laid_1 : decode cX11_laid 1 = .ok (.iload_n 1, 1) := dk_27 (dk_at dksX11_laid_0 1 rfl rfl)
theorem dX11_laid_2 : decode cX11_laid 2 = .ok (.iaload, 1) := dk_46 (dk_at dksX11_laid_0 2 rfl rfl)
theorem dX11_laid_3 : decode cX11_laid 3 = .ok (.iconst 4, 1) := dk_7 (dk_at dksX11_laid_0 3 rfl rfl)
theorem dX11_laid_4 : decode cX11_laid 4 = .ok (.if_icmp .ge 5, 3) := dk_162 0 5 (dk_at dksX11_laid_0 4 rfl rfl)
theorem dX11_laid_7 : decode cX11_laid 7 = .ok (.iconst 0, 1) := dk_3 (dk_at dksX11_laid_0 7 rfl rfl)
theorem dX11_laid_8 : decode cX11_laid 8 = .ok (.ireturn, 1) := dk_172 (dk_at dksX11_laid_0 8 rfl rfl)
theorem dX11_laid_9 : decode cX11_laid 9 = .ok (.aload_n 0, 1) := dk_42 (dk_at dksX11_laid_0 9 rfl rfl)
theorem dX11_laid_10 : decode cX11_laid 10 = .ok (.iload_n 1, 1) := dk_27 (dk_at dksX11_laid_0 10 rfl rfl)
theorem dX11_laid_11 : decode cX11_laid 11 = .ok (.iconst 0, 1) := dk_3 (dk_at dksX11_laid_0 11 rfl rfl)
theorem dX11_laid_12 : decode cX11_laid 12 = .ok (.iastore, 1) := dk_79 (dk_at dksX11_laid_0 12 rfl rfl)
theorem dX11_laid_13 : decode cX11_laid 13 = .ok (.iconst 1, 1) := dk_4 (dk_at dksX11_laid_0 13 rfl rfl)
theorem dX11_laid_14 : decode cX11_laid 14 = .ok (.ireturn, 1) := dk_172 (dk_at dksX11_laid_0 14 rfl rfl)
abbrev cX11_filled : ByteArray := prog_23_method_75_code
def yX11_filled : MethodName := ⟨RX11, "filled", "([I)I"⟩
def dkwX11_filled_5 : List UInt8 := [21, 5, 184, 1, 109, 96, 61, 132, 4, 1, 167, 255, 206, 167, 255, 127, 28, 172]
abbrev dktX11_filled_5 : List UInt8 := dkwX11_filled_5 ++ []
def dkwX11_filled_4 : List UInt8 := [96, 46, 54, 5, 42, 89, 180, 1, 99, 4, 96, 181, 1, 99, 43, 21, 5, 92, 46, 4, 96, 79, 28, 43]
abbrev dktX11_filled_4 : List UInt8 := dkwX11_filled_4 ++ dktX11_filled_5
def dkwX11_filled_3 : List UInt8 := [180, 1, 99, 100, 62, 3, 54, 4, 21, 4, 29, 162, 0, 50, 42, 180, 0, 33, 16, 8, 42, 180, 1, 99]
abbrev dktX11_filled_3 : List UInt8 := dkwX11_filled_3 ++ dktX11_filled_4
def dkwX11_filled_2 : List UInt8 := [180, 1, 99, 100, 162, 0, 12, 42, 180, 0, 33, 6, 46, 167, 0, 15, 42, 180, 0, 33, 16, 7, 46, 42]
abbrev dktX11_filled_2 : List UInt8 := dkwX11_filled_2 ++ dktX11_filled_3
def dkwX11_filled_1 : List UInt8 := [180, 0, 33, 6, 46, 158, 0, 105, 42, 180, 0, 33, 6, 46, 42, 180, 0, 33, 16, 7, 46, 42]
abbrev dktX11_filled_1 : List UInt8 := dkwX11_filled_1 ++ dktX11_filled_2
def dkwX11_filled_0 : List UInt8 := [3, 61, 43, 184, 1, 105, 154, 0, 128, 42, 180, 1, 99, 42, 180, 0, 33, 16, 7, 46, 162, 0, 114, 42]
abbrev dktX11_filled_0 : List UInt8 := dkwX11_filled_0 ++ dktX11_filled_1
theorem dksX11_filled_0 : cX11_filled.data.toList.drop 0 = dktX11_filled_0 := by decide +kernel
theorem dksX11_filled_1 : cX11_filled.data.toList.drop 24 = dktX11_filled_1 := dk_seg dksX11_filled_0 24 rfl rfl
theorem dksX11_filled_2 : cX11_filled.data.toList.drop 46 = dktX11_filled_2 := dk_seg dksX11_filled_1 22 rfl rfl
theorem dksX11_filled_3 : cX11_filled.data.toList.drop 70 = dktX11_filled_3 := dk_seg dksX11_filled_2 24 rfl rfl
theorem dksX11_filled_4 : cX11_filled.data.toList.drop 94 = dktX11_filled_4 := dk_seg dksX11_filled_3 24 rfl rfl
theorem dksX11_filled_5 : cX11_filled.data.toList.drop 118 = dktX11_filled_5 := dk_seg dksX11_filled_4 24 rfl rfl
theorem dX11_filled_0 : decode cX11_filled 0 = .ok (.iconst 0, 1) := dk_3 (dk_at dksX11_filled_0 0 rfl rfl)
theorem dX11_filled_1 : decode cX11_filled 1 = .ok (.istore_n 2, 1) := dk_61 (dk_at dksX11_filled_0 1 rfl rfl)
theorem dX11_filled_2 : decode cX11_filled 2 = .ok (.aload_n 1, 1) := dk_43 (dk_at dksX11_filled_0 2 rfl rfl)
theorem dX11_filled_3 : decode cX11_filled 3 = .ok (.invokestatic 361, 3) := dk_184 1 105 (dk_at dksX11_filled_0 3 rfl rfl)
theorem dX11_filled_6 : decode cX11_filled 6 = .ok (.ifCond .ne 128, 3) := dk_154 0 128 (dk_at dksX11_filled_0 6 rfl rfl)
theorem dX11_filled_9 : decode cX11_filled 9 = .ok (.aload_n 0, 1) := dk_42 (dk_at dksX11_filled_0 9 rfl rfl)
theorem dX11_filled_10 : decode cX11_filled 10 = .ok (.getfield 355, 3) := dk_180 1 99 (dk_at dksX11_filled_0 10 rfl rfl)
theorem dX11_filled_13 : decode cX11_filled 13 = .ok (.aload_n 0, 1) := dk_42 (dk_at dksX11_filled_0 13 rfl rfl)
theorem dX11_filled_14 : decode cX11_filled 14 = .ok (.getfield 33, 3) := dk_180 0 33 (dk_at dksX11_filled_0 14 rfl rfl)
theorem dX11_filled_17 : decode cX11_filled 17 = .ok (.bipush 7, 2) := dk_16 7 (dk_at dksX11_filled_0 17 rfl rfl)
theorem dX11_filled_19 : decode cX11_filled 19 = .ok (.iaload, 1) := dk_46 (dk_at dksX11_filled_0 19 rfl rfl)
theorem dX11_filled_20 : decode cX11_filled 20 = .ok (.if_icmp .ge 114, 3) := dk_162 0 114 (dk_at dksX11_filled_0 20 rfl rfl)
theorem dX11_filled_23 : decode cX11_filled 23 = .ok (.aload_n 0, 1) := dk_42 (dk_at dksX11_filled_0 23 rfl rfl)
theorem dX11_filled_24 : decode cX11_filled 24 = .ok (.getfield 33, 3) := dk_180 0 33 (dk_at dksX11_filled_1 0 rfl rfl)
theorem dX11_filled_27 : decode cX11_filled 27 = .ok (.iconst 3, 1) := dk_6 (dk_at dksX11_filled_1 3 rfl rfl)
theorem dX11_filled_28 : decode cX11_filled 28 = .ok (.iaload, 1) := dk_46 (dk_at dksX11_filled_1 4 rfl rfl)
theorem dX11_filled_29 : decode cX11_filled 29 = .ok (.ifCond .le 105, 3) := dk_158 0 105 (dk_at dksX11_filled_1 5 rfl rfl)
theorem dX11_filled_32 : decode cX11_filled 32 = .ok (.aload_n 0, 1) := dk_42 (dk_at dksX11_filled_1 8 rfl rfl)
theorem dX11_filled_33 : decode cX11_filled 33 = .ok (.getfield 33, 3) := dk_180 0 33 (dk_at dksX11_filled_1 9 rfl rfl)
theorem dX11_filled_36 : decode cX11_filled 36 = .ok (.iconst 3, 1) := dk_6 (dk_at dksX11_filled_1 12 rfl rfl)
theorem dX11_filled_37 : decode cX11_filled 37 = .ok (.iaload, 1) := dk_46 (dk_at dksX11_filled_1 13 rfl rfl)
theorem dX11_filled_38 : decode cX11_filled 38 = .ok (.aload_n 0, 1) := dk_42 (dk_at dksX11_filled_1 14 rfl rfl)
theorem dX11_filled_39 : decode cX11_filled 39 = .ok (.getfield 33, 3) := dk_180 0 33 (dk_at dksX11_filled_1 15 rfl rfl)
theorem dX11_filled_42 : decode cX11_filled 42 = .ok (.bipush 7, 2) := dk_16 7 (dk_at dksX11_filled_1 18 rfl rfl)
theorem dX11_filled_44 : decode cX11_filled 44 = .ok (.iaload, 1) := dk_46 (dk_at dksX11_filled_1 20 rfl rfl)
theorem dX11_filled_45 : decode cX11_filled 45 = .ok (.aload_n 0, 1) := dk_42 (dk_at dksX11_filled_1 21 rfl rfl)
theorem dX11_filled_46 : decode cX11_filled 46 = .ok (.getfield 355, 3) := dk_180 1 99 (dk_at dksX11_filled_2 0 rfl rfl)
theorem dX11_filled_49 : decode cX11_filled 49 = .ok (.isub, 1) := dk_100 (dk_at dksX11_filled_2 3 rfl rfl)
theorem dX11_filled_50 : decode cX11_filled 50 = .ok (.if_icmp .ge 12, 3) := dk_162 0 12 (dk_at dksX11_filled_2 4 rfl rfl)
theorem dX11_filled_53 : decode cX11_filled 53 = .ok (.aload_n 0, 1) := dk_42 (dk_at dksX11_filled_2 7 rfl rfl)
theorem dX11_filled_54 : decode cX11_filled 54 = .ok (.getfield 33, 3) := dk_180 0 33 (dk_at dksX11_filled_2 8 rfl rfl)
theorem dX11_filled_57 : decode cX11_filled 57 = .ok (.iconst 3, 1) := dk_6 (dk_at dksX11_filled_2 11 rfl rfl)
theorem dX11_filled_58 : decode cX11_filled 58 = .ok (.iaload, 1) := dk_46 (dk_at dksX11_filled_2 12 rfl rfl)
theorem dX11_filled_59 : decode cX11_filled 59 = .ok (.goto 15, 3) := dk_167 0 15 (dk_at dksX11_filled_2 13 rfl rfl)
theorem dX11_filled_62 : decode cX11_filled 62 = .ok (.aload_n 0, 1) := dk_42 (dk_at dksX11_filled_2 16 rfl rfl)
theorem dX11_filled_63 : decode cX11_filled 63 = .ok (.getfield 33, 3) := dk_180 0 33 (dk_at dksX11_filled_2 17 rfl rfl)
theorem dX11_filled_66 : decode cX11_filled 66 = .ok (.bipush 7, 2) := dk_16 7 (dk_at dksX11_filled_2 20 rfl rfl)
theorem dX11_filled_68 : decode cX11_filled 68 = .ok (.iaload, 1) := dk_46 (dk_at dksX11_filled_2 22 rfl rfl)
theorem dX11_filled_69 : decode cX11_filled 69 = .ok (.aload_n 0, 1) := dk_42 (dk_at dksX11_filled_2 23 rfl rfl)
theorem dX11_filled_70 : decode cX11_filled 70 = .ok (.getfield 355, 3) := dk_180 1 99 (dk_at dksX11_filled_3 0 rfl rfl)
theorem dX11_filled_73 : decode cX11_filled 73 = .ok (.isub, 1) := dk_100 (dk_at dksX11_filled_3 3 rfl rfl)
theorem dX11_filled_74 : decode cX11_filled 74 = .ok (.istore_n 3, 1) := dk_62 (dk_at dksX11_filled_3 4 rfl rfl)
theorem dX11_filled_75 : decode cX11_filled 75 = .ok (.iconst 0, 1) := dk_3 (dk_at dksX11_filled_3 5 rfl rfl)
theorem dX11_filled_76 : decode cX11_filled 76 = .ok (.istore 4, 2) := dk_54 4 (dk_at dksX11_filled_3 6 rfl rfl)
theorem dX11_filled_78 : decode cX11_filled 78 = .ok (.iload 4, 2) := dk_21 4 (dk_at dksX11_filled_3 8 rfl rfl)
theorem dX11_filled_80 : decode cX11_filled 80 = .ok (.iload_n 3, 1) := dk_29 (dk_at dksX11_filled_3 10 rfl rfl)
theorem dX11_filled_81 : decode cX11_filled 81 = .ok (.if_icmp .ge 50, 3) := dk_162 0 50 (dk_at dksX11_filled_3 11 rfl rfl)
theorem dX11_filled_84 : decode cX11_filled 84 = .ok (.aload_n 0, 1) := dk_42 (dk_at dksX11_filled_3 14 rfl rfl)
theorem dX11_filled_85 : decode cX11_filled 85 = .ok (.getfield 33, 3) := dk_180 0 33 (dk_at dksX11_filled_3 15 rfl rfl)
theorem dX11_filled_88 : decode cX11_filled 88 = .ok (.bipush 8, 2) := dk_16 8 (dk_at dksX11_filled_3 18 rfl rfl)
theorem dX11_filled_90 : decode cX11_filled 90 = .ok (.aload_n 0, 1) := dk_42 (dk_at dksX11_filled_3 20 rfl rfl)
theorem dX11_filled_91 : decode cX11_filled 91 = .ok (.getfield 355, 3) := dk_180 1 99 (dk_at dksX11_filled_3 21 rfl rfl)
theorem dX11_filled_94 : decode cX11_filled 94 = .ok (.iadd, 1) := dk_96 (dk_at dksX11_filled_4 0 rfl rfl)
theorem dX11_filled_95 : decode cX11_filled 95 = .ok (.iaload, 1) := dk_46 (dk_at dksX11_filled_4 1 rfl rfl)
theorem dX11_filled_96 : decode cX11_filled 96 = .ok (.istore 5, 2) := dk_54 5 (dk_at dksX11_filled_4 2 rfl rfl)
theorem dX11_filled_98 : decode cX11_filled 98 = .ok (.aload_n 0, 1) := dk_42 (dk_at dksX11_filled_4 4 rfl rfl)
theorem dX11_filled_99 : decode cX11_filled 99 = .ok (.dup, 1) := dk_89 (dk_at dksX11_filled_4 5 rfl rfl)
theorem dX11_filled_100 : decode cX11_filled 100 = .ok (.getfield 355, 3) := dk_180 1 99 (dk_at dksX11_filled_4 6 rfl rfl)
theorem dX11_filled_103 : decode cX11_filled 103 = .ok (.iconst 1, 1) := dk_4 (dk_at dksX11_filled_4 9 rfl rfl)
theorem dX11_filled_104 : decode cX11_filled 104 = .ok (.iadd, 1) := dk_96 (dk_at dksX11_filled_4 10 rfl rfl)
theorem dX11_filled_105 : decode cX11_filled 105 = .ok (.putfield 355, 3) := dk_181 1 99 (dk_at dksX11_filled_4 11 rfl rfl)
theorem dX11_filled_108 : decode cX11_filled 108 = .ok (.aload_n 1, 1) := dk_43 (dk_at dksX11_filled_4 14 rfl rfl)
theorem dX11_filled_109 : decode cX11_filled 109 = .ok (.iload 5, 2) := dk_21 5 (dk_at dksX11_filled_4 15 rfl rfl)
theorem dX11_filled_111 : decode cX11_filled 111 = .ok (.dup2, 1) := dk_92 (dk_at dksX11_filled_4 17 rfl rfl)
theorem dX11_filled_112 : decode cX11_filled 112 = .ok (.iaload, 1) := dk_46 (dk_at dksX11_filled_4 18 rfl rfl)
theorem dX11_filled_113 : decode cX11_filled 113 = .ok (.iconst 1, 1) := dk_4 (dk_at dksX11_filled_4 19 rfl rfl)
theorem dX11_filled_114 : decode cX11_filled 114 = .ok (.iadd, 1) := dk_96 (dk_at dksX11_filled_4 20 rfl rfl)
theorem dX11_filled_115 : decode cX11_filled 115 = .ok (.iastore, 1) := dk_79 (dk_at dksX11_filled_4 21 rfl rfl)
theorem dX11_filled_116 : decode cX11_filled 116 = .ok (.iload_n 2, 1) := dk_28 (dk_at dksX11_filled_4 22 rfl rfl)
theorem dX11_filled_117 : decode cX11_filled 117 = .ok (.aload_n 1, 1) := dk_43 (dk_at dksX11_filled_4 23 rfl rfl)
theorem dX11_filled_118 : decode cX11_filled 118 = .ok (.iload 5, 2) := dk_21 5 (dk_at dksX11_filled_5 0 rfl rfl)
theorem dX11_filled_120 : decode cX11_filled 120 = .ok (.invokestatic 365, 3) := dk_184 1 109 (dk_at dksX11_filled_5 2 rfl rfl)
theorem dX11_filled_123 : decode cX11_filled 123 = .ok (.iadd, 1) := dk_96 (dk_at dksX11_filled_5 5 rfl rfl)
theorem dX11_filled_124 : decode cX11_filled 124 = .ok (.istore_n 2, 1) := dk_61 (dk_at dksX11_filled_5 6 rfl rfl)
theorem dX11_filled_125 : decode cX11_filled 125 = .ok (.iinc 4 1, 3) := dk_132 4 1 (dk_at dksX11_filled_5 7 rfl rfl)
theorem dX11_filled_128 : decode cX11_filled 128 = .ok (.goto (-50), 3) := dk_167 255 206 (dk_at dksX11_filled_5 10 rfl rfl)
theorem dX11_filled_131 : decode cX11_filled 131 = .ok (.goto (-129), 3) := dk_167 255 127 (dk_at dksX11_filled_5 13 rfl rfl)
theorem dX11_filled_134 : decode cX11_filled 134 = .ok (.iload_n 2, 1) := dk_28 (dk_at dksX11_filled_5 16 rfl rfl)
theorem dX11_filled_135 : decode cX11_filled 135 = .ok (.ireturn, 1) := dk_172 (dk_at dksX11_filled_5 17 rfl rfl)
abbrev cX11_sumOf : ByteArray := prog_23_method_73_code
def yX11_sumOf : MethodName := ⟨RX11, "sumOf", "([I)I"⟩
def dkwX11_sumOf_0 : List UInt8 := [42, 3, 46, 42, 4, 46, 96, 42, 5, 46, 96, 172]
abbrev dktX11_sumOf_0 : List UInt8 := dkwX11_sumOf_0 ++ []
theorem dksX11_sumOf_0 : cX11_sumOf.data.toList.drop 0 = dktX11_sumOf_0 := by decide +kernel
theorem dX11_sumOf_0 : decode cX11_sumOf 0 = .ok (.aload_n 0, 1) := dk_42 (dk_at dksX11_sumOf_0 0 rfl rfl)
theorem dX11_sumOf_1 : decode cX11_sumOf 1 = .ok (.iconst 0, 1) := dk_3 (dk_at dksX11_sumOf_0 1 rfl rfl)
theorem dX11_sumOf_2 : decode cX11_sumOf 2 = .ok (.iaload, 1) := dk_46 (dk_at dksX11_sumOf_0 2 rfl rfl)
theorem dX11_sumOf_3 : decode cX11_sumOf 3 = .ok (.aload_n 0, 1) := dk_42 (dk_at dksX11_sumOf_0 3 rfl rfl)
theorem dX11_sumOf_4 : decode cX11_sumOf 4 = .ok (.iconst 1, 1) := dk_4 (dk_at dksX11_sumOf_0 4 rfl rfl)
theorem dX11_sumOf_5 : decode cX11_sumOf 5 = .ok (.iaload, 1) := dk_46 (dk_at dksX11_sumOf_0 5 rfl rfl)
theorem dX11_sumOf_6 : decode cX11_sumOf 6 = .ok (.iadd, 1) := dk_96 (dk_at dksX11_sumOf_0 6 rfl rfl)
theorem dX11_sumOf_7 : decode cX11_sumOf 7 = .ok (.aload_n 0, 1) := dk_42 (dk_at dksX11_sumOf_0 7 rfl rfl)
theorem dX11_sumOf_8 : decode cX11_sumOf 8 = .ok (.iconst 2, 1) := dk_5 (dk_at dksX11_sumOf_0 8 rfl rfl)
theorem dX11_sumOf_9 : decode cX11_sumOf 9 = .ok (.iaload, 1) := dk_46 (dk_at dksX11_sumOf_0 9 rfl rfl)
theorem dX11_sumOf_10 : decode cX11_sumOf 10 = .ok (.iadd, 1) := dk_96 (dk_at dksX11_sumOf_0 10 rfl rfl)
theorem dX11_sumOf_11 : decode cX11_sumOf 11 = .ok (.ireturn, 1) := dk_172 (dk_at dksX11_sumOf_0 11 rfl rfl)
abbrev cX11_first : ByteArray := prog_23_method_80_code
def yX11_first : MethodName := ⟨RX11, "first", "()I"⟩
def dkwX11_first_0 : List UInt8 := [42, 3, 181, 0, 1, 42, 182, 1, 141, 16, 155, 160, 0, 7, 2, 167, 0, 7, 42, 180, 1, 135, 172]
abbrev dktX11_first_0 : List UInt8 := dkwX11_first_0 ++ []
theorem dksX11_first_0 : cX11_first.data.toList.drop 0 = dktX11_first_0 := by decide +kernel
theorem dX11_first_0 : decode cX11_first 0 = .ok (.aload_n 0, 1) := dk_42 (dk_at dksX11_first_0 0 rfl rfl)
theorem dX11_first_1 : decode cX11_first 1 = .ok (.iconst 0, 1) := dk_3 (dk_at dksX11_first_0 1 rfl rfl)
theorem dX11_first_2 : decode cX11_first 2 = .ok (.putfield 1, 3) := dk_181 0 1 (dk_at dksX11_first_0 2 rfl rfl)
theorem dX11_first_5 : decode cX11_first 5 = .ok (.aload_n 0, 1) := dk_42 (dk_at dksX11_first_0 5 rfl rfl)
theorem dX11_first_6 : decode cX11_first 6 = .ok (.invokevirtual 397, 3) := dk_182 1 141 (dk_at dksX11_first_0 6 rfl rfl)
theorem dX11_first_9 : decode cX11_first 9 = .ok (.bipush (-101), 2) := dk_16 155 (dk_at dksX11_first_0 9 rfl rfl)
theorem dX11_first_11 : decode cX11_first 11 = .ok (.if_icmp .ne 7, 3) := dk_160 0 7 (dk_at dksX11_first_0 11 rfl rfl)
theorem dX11_first_14 : decode cX11_first 14 = .ok (.iconst (-1), 1) := dk_2 (dk_at dksX11_first_0 14 rfl rfl)
theorem dX11_first_15 : decode cX11_first 15 = .ok (.goto 7, 3) := dk_167 0 7 (dk_at dksX11_first_0 15 rfl rfl)
theorem dX11_first_18 : decode cX11_first 18 = .ok (.aload_n 0, 1) := dk_42 (dk_at dksX11_first_0 18 rfl rfl)
theorem dX11_first_19 : decode cX11_first 19 = .ok (.getfield 391, 3) := dk_180 1 135 (dk_at dksX11_first_0 19 rfl rfl)
theorem dX11_first_22 : decode cX11_first 22 = .ok (.ireturn, 1) := dk_172 (dk_at dksX11_first_0 22 rfl rfl)
abbrev cX11_bent : ByteArray := prog_23_method_83_code
def yX11_bent : MethodName := ⟨RX11, "bent", "(II)I"⟩
def dkwX11_bent_1 : List UInt8 := [28, 182, 1, 147, 167, 0, 4, 2, 172]
abbrev dktX11_bent_1 : List UInt8 := dkwX11_bent_1 ++ []
def dkwX11_bent_0 : List UInt8 := [42, 3, 181, 0, 1, 42, 27, 182, 1, 26, 153, 0, 21, 28, 3, 6, 184, 0, 195, 153, 0, 12, 42, 27]
abbrev dktX11_bent_0 : List UInt8 := dkwX11_bent_0 ++ dktX11_bent_1
theorem dksX11_bent_0 : cX11_bent.data.toList.drop 0 = dktX11_bent_0 := by decide +kernel
theorem dksX11_bent_1 : cX11_bent.data.toList.drop 24 = dktX11_bent_1 := dk_seg dksX11_bent_0 24 rfl rfl
theorem dX11_bent_0 : decode cX11_bent 0 = .ok (.aload_n 0, 1) := dk_42 (dk_at dksX11_bent_0 0 rfl rfl)
theorem dX11_bent_1 : decode cX11_bent 1 = .ok (.iconst 0, 1) := dk_3 (dk_at dksX11_bent_0 1 rfl rfl)
theorem dX11_bent_2 : decode cX11_bent 2 = .ok (.putfield 1, 3) := dk_181 0 1 (dk_at dksX11_bent_0 2 rfl rfl)
theorem dX11_bent_5 : decode cX11_bent 5 = .ok (.aload_n 0, 1) := dk_42 (dk_at dksX11_bent_0 5 rfl rfl)
theorem dX11_bent_6 : decode cX11_bent 6 = .ok (.iload_n 1, 1) := dk_27 (dk_at dksX11_bent_0 6 rfl rfl)
theorem dX11_bent_7 : decode cX11_bent 7 = .ok (.invokevirtual 282, 3) := dk_182 1 26 (dk_at dksX11_bent_0 7 rfl rfl)
theorem dX11_bent_10 : decode cX11_bent 10 = .ok (.ifCond .eq 21, 3) := dk_153 0 21 (dk_at dksX11_bent_0 10 rfl rfl)
theorem dX11_bent_13 : decode cX11_bent 13 = .ok (.iload_n 2, 1) := dk_28 (dk_at dksX11_bent_0 13 rfl rfl)
theorem dX11_bent_14 : decode cX11_bent 14 = .ok (.iconst 0, 1) := dk_3 (dk_at dksX11_bent_0 14 rfl rfl)
theorem dX11_bent_15 : decode cX11_bent 15 = .ok (.iconst 3, 1) := dk_6 (dk_at dksX11_bent_0 15 rfl rfl)
theorem dX11_bent_16 : decode cX11_bent 16 = .ok (.invokestatic 195, 3) := dk_184 0 195 (dk_at dksX11_bent_0 16 rfl rfl)
theorem dX11_bent_19 : decode cX11_bent 19 = .ok (.ifCond .eq 12, 3) := dk_153 0 12 (dk_at dksX11_bent_0 19 rfl rfl)
theorem dX11_bent_22 : decode cX11_bent 22 = .ok (.aload_n 0, 1) := dk_42 (dk_at dksX11_bent_0 22 rfl rfl)
theorem dX11_bent_23 : decode cX11_bent 23 = .ok (.iload_n 1, 1) := dk_27 (dk_at dksX11_bent_0 23 rfl rfl)
theorem dX11_bent_24 : decode cX11_bent 24 = .ok (.iload_n 2, 1) := dk_28 (dk_at dksX11_bent_1 0 rfl rfl)
theorem dX11_bent_25 : decode cX11_bent 25 = .ok (.invokevirtual 403, 3) := dk_182 1 147 (dk_at dksX11_bent_1 1 rfl rfl)
theorem dX11_bent_28 : decode cX11_bent 28 = .ok (.goto 4, 3) := dk_167 0 4 (dk_at dksX11_bent_1 4 rfl rfl)
theorem dX11_bent_31 : decode cX11_bent 31 = .ok (.iconst (-1), 1) := dk_2 (dk_at dksX11_bent_1 7 rfl rfl)
theorem dX11_bent_32 : decode cX11_bent 32 = .ok (.ireturn, 1) := dk_172 (dk_at dksX11_bent_1 8 rfl rfl)
abbrev cX11_bentOf : ByteArray := prog_23_method_82_code
def yX11_bentOf : MethodName := ⟨RX11, "bentOf", "(II)I"⟩
def dkwX11_bentOf_12 : List UInt8 := [167, 0, 4, 29, 96, 172]
abbrev dktX11_bentOf_12 : List UInt8 := dkwX11_bentOf_12 ++ []
def dkwX11_bentOf_11 : List UInt8 := [28, 6, 160, 0, 24, 21, 4, 155, 0, 19, 42, 27, 21, 4, 3, 182, 0, 255, 158, 0, 8, 21, 4]
abbrev dktX11_bentOf_11 : List UInt8 := dkwX11_bentOf_11 ++ dktX11_bentOf_12
def dkwX11_bentOf_10 : List UInt8 := [96, 172, 42, 180, 0, 33, 17, 2, 53, 27, 96, 46, 4, 100, 54, 4, 16, 100, 42, 27, 182, 1, 144, 104]
abbrev dktX11_bentOf_10 : List UInt8 := dkwX11_bentOf_10 ++ dktX11_bentOf_11
def dkwX11_bentOf_9 : List UInt8 := [3, 182, 0, 255, 164, 0, 7, 21, 6, 54, 5, 132, 6, 1, 167, 255, 223, 16, 100, 21, 4, 104, 21, 5]
abbrev dktX11_bentOf_9 : List UInt8 := dkwX11_bentOf_9 ++ dktX11_bentOf_10
def dkwX11_bentOf_8 : List UInt8 := [54, 5, 29, 54, 6, 21, 6, 16, 13, 162, 0, 32, 42, 27, 21, 6, 3, 182, 0, 255, 42, 27, 21, 5]
abbrev dktX11_bentOf_8 : List UInt8 := dkwX11_bentOf_8 ++ dktX11_bentOf_9
def dkwX11_bentOf_7 : List UInt8 := [182, 1, 7, 42, 21, 4, 182, 1, 7, 164, 0, 7, 21, 5, 54, 4, 132, 5, 1, 167, 255, 212, 29]
abbrev dktX11_bentOf_7 : List UInt8 := dkwX11_bentOf_7 ++ dktX11_bentOf_8
def dkwX11_bentOf_6 : List UInt8 := [180, 0, 33, 4, 46, 162, 0, 39, 21, 5, 27, 159, 0, 27, 21, 4, 155, 0, 18, 42, 21, 5]
abbrev dktX11_bentOf_6 : List UInt8 := dkwX11_bentOf_6 ++ dktX11_bentOf_7
def dkwX11_bentOf_5 : List UInt8 := [167, 255, 200, 132, 4, 1, 167, 255, 180, 28, 5, 160, 0, 107, 2, 54, 4, 3, 54, 5, 21, 5, 42]
abbrev dktX11_bentOf_5 : List UInt8 := dkwX11_bentOf_5 ++ dktX11_bentOf_6
def dkwX11_bentOf_4 : List UInt8 := [27, 21, 5, 3, 182, 0, 255, 158, 0, 12, 16, 100, 21, 4, 104, 21, 5, 96, 172, 132, 5, 1]
abbrev dktX11_bentOf_4 : List UInt8 := dkwX11_bentOf_4 ++ dktX11_bentOf_5
def dkwX11_bentOf_3 : List UInt8 := [159, 0, 43, 42, 180, 0, 33, 17, 0, 151, 16, 13, 21, 4, 104, 96, 21, 5, 96, 46, 158, 0, 23, 42]
abbrev dktX11_bentOf_3 : List UInt8 := dkwX11_bentOf_3 ++ dktX11_bentOf_4
def dkwX11_bentOf_2 : List UInt8 := [42, 180, 0, 33, 4, 46, 162, 0, 71, 3, 54, 5, 21, 5, 16, 13, 162, 0, 55, 21, 4, 27]
abbrev dktX11_bentOf_2 : List UInt8 := dkwX11_bentOf_2 ++ dktX11_bentOf_3
def dkwX11_bentOf_1 : List UInt8 := [29, 3, 182, 0, 255, 154, 0, 9, 132, 3, 1, 167, 255, 243, 28, 4, 160, 0, 85, 3, 54, 4, 21, 4]
abbrev dktX11_bentOf_1 : List UInt8 := dkwX11_bentOf_1 ++ dktX11_bentOf_2
def dkwX11_bentOf_0 : List UInt8 := [42, 27, 182, 1, 7, 153, 0, 13, 42, 180, 0, 33, 4, 46, 5, 162, 0, 5, 2, 172, 3, 62, 42, 27]
abbrev dktX11_bentOf_0 : List UInt8 := dkwX11_bentOf_0 ++ dktX11_bentOf_1
theorem dksX11_bentOf_0 : cX11_bentOf.data.toList.drop 0 = dktX11_bentOf_0 := by decide +kernel
theorem dksX11_bentOf_1 : cX11_bentOf.data.toList.drop 24 = dktX11_bentOf_1 := dk_seg dksX11_bentOf_0 24 rfl rfl
theorem dksX11_bentOf_2 : cX11_bentOf.data.toList.drop 48 = dktX11_bentOf_2 := dk_seg dksX11_bentOf_1 24 rfl rfl
theorem dksX11_bentOf_3 : cX11_bentOf.data.toList.drop 70 = dktX11_bentOf_3 := dk_seg dksX11_bentOf_2 22 rfl rfl
theorem dksX11_bentOf_4 : cX11_bentOf.data.toList.drop 94 = dktX11_bentOf_4 := dk_seg dksX11_bentOf_3 24 rfl rfl
theorem dksX11_bentOf_5 : cX11_bentOf.data.toList.drop 116 = dktX11_bentOf_5 := dk_seg dksX11_bentOf_4 22 rfl rfl
theorem dksX11_bentOf_6 : cX11_bentOf.data.toList.drop 139 = dktX11_bentOf_6 := dk_seg dksX11_bentOf_5 23 rfl rfl
theorem dksX11_bentOf_7 : cX11_bentOf.data.toList.drop 161 = dktX11_bentOf_7 := dk_seg dksX11_bentOf_6 22 rfl rfl
theorem dksX11_bentOf_8 : cX11_bentOf.data.toList.drop 184 = dktX11_bentOf_8 := dk_seg dksX11_bentOf_7 23 rfl rfl
theorem dksX11_bentOf_9 : cX11_bentOf.data.toList.drop 208 = dktX11_bentOf_9 := dk_seg dksX11_bentOf_8 24 rfl rfl
theorem dksX11_bentOf_10 : cX11_bentOf.data.toList.drop 232 = dktX11_bentOf_10 := dk_seg dksX11_bentOf_9 24 rfl rfl
theorem dksX11_bentOf_11 : cX11_bentOf.data.toList.drop 256 = dktX11_bentOf_11 := dk_seg dksX11_bentOf_10 24 rfl rfl
theorem dksX11_bentOf_12 : cX11_bentOf.data.toList.drop 279 = dktX11_bentOf_12 := dk_seg dksX11_bentOf_11 23 rfl rfl
theorem dX11_bentOf_0 : decode cX11_bentOf 0 = .ok (.aload_n 0, 1) := dk_42 (dk_at dksX11_bentOf_0 0 rfl rfl)
theorem dX11_bentOf_1 : decode cX11_bentOf 1 = .ok (.iload_n 1, 1) := dk_27 (dk_at dksX11_bentOf_0 1 rfl rfl)
theorem dX11_bentOf_2 : decode cX11_bentOf 2 = .ok (.invokevirtual 263, 3) := dk_182 1 7 (dk_at dksX11_bentOf_0 2 rfl rfl)
theorem dX11_bentOf_5 : decode cX11_bentOf 5 = .ok (.ifCond .eq 13, 3) := dk_153 0 13 (dk_at dksX11_bentOf_0 5 rfl rfl)
theorem dX11_bentOf_8 : decode cX11_bentOf 8 = .ok (.aload_n 0, 1) := dk_42 (dk_at dksX11_bentOf_0 8 rfl rfl)
theorem dX11_bentOf_9 : decode cX11_bentOf 9 = .ok (.getfield 33, 3) := dk_180 0 33 (dk_at dksX11_bentOf_0 9 rfl rfl)
theorem dX11_bentOf_12 : decode cX11_bentOf 12 = .ok (.iconst 1, 1) := dk_4 (dk_at dksX11_bentOf_0 12 rfl rfl)
theorem dX11_bentOf_13 : decode cX11_bentOf 13 = .ok (.iaload, 1) := dk_46 (dk_at dksX11_bentOf_0 13 rfl rfl)
theorem dX11_bentOf_14 : decode cX11_bentOf 14 = .ok (.iconst 2, 1) := dk_5 (dk_at dksX11_bentOf_0 14 rfl rfl)
theorem dX11_bentOf_15 : decode cX11_bentOf 15 = .ok (.if_icmp .ge 5, 3) := dk_162 0 5 (dk_at dksX11_bentOf_0 15 rfl rfl)
theorem dX11_bentOf_18 : decode cX11_bentOf 18 = .ok (.iconst (-1), 1) := dk_2 (dk_at dksX11_bentOf_0 18 rfl rfl)
theorem dX11_bentOf_19 : decode cX11_bentOf 19 = .ok (.ireturn, 1) := dk_172 (dk_at dksX11_bentOf_0 19 rfl rfl)
theorem dX11_bentOf_20 : decode cX11_bentOf 20 = .ok (.iconst 0, 1) := dk_3 (dk_at dksX11_bentOf_0 20 rfl rfl)
theorem dX11_bentOf_21 : decode cX11_bentOf 21 = .ok (.istore_n 3, 1) := dk_62 (dk_at dksX11_bentOf_0 21 rfl rfl)
theorem dX11_bentOf_22 : decode cX11_bentOf 22 = .ok (.aload_n 0, 1) := dk_42 (dk_at dksX11_bentOf_0 22 rfl rfl)
theorem dX11_bentOf_23 : decode cX11_bentOf 23 = .ok (.iload_n 1, 1) := dk_27 (dk_at dksX11_bentOf_0 23 rfl rfl)
theorem dX11_bentOf_24 : decode cX11_bentOf 24 = .ok (.iload_n 3, 1) := dk_29 (dk_at dksX11_bentOf_1 0 rfl rfl)
theorem dX11_bentOf_25 : decode cX11_bentOf 25 = .ok (.iconst 0, 1) := dk_3 (dk_at dksX11_bentOf_1 1 rfl rfl)
theorem dX11_bentOf_26 : decode cX11_bentOf 26 = .ok (.invokevirtual 255, 3) := dk_182 0 255 (dk_at dksX11_bentOf_1 2 rfl rfl)
theorem dX11_bentOf_29 : decode cX11_bentOf 29 = .ok (.ifCond .ne 9, 3) := dk_154 0 9 (dk_at dksX11_bentOf_1 5 rfl rfl)
theorem dX11_bentOf_32 : decode cX11_bentOf 32 = .ok (.iinc 3 1, 3) := dk_132 3 1 (dk_at dksX11_bentOf_1 8 rfl rfl)
theorem dX11_bentOf_35 : decode cX11_bentOf 35 = .ok (.goto (-13), 3) := dk_167 255 243 (dk_at dksX11_bentOf_1 11 rfl rfl)
theorem dX11_bentOf_38 : decode cX11_bentOf 38 = .ok (.iload_n 2, 1) := dk_28 (dk_at dksX11_bentOf_1 14 rfl rfl)
theorem dX11_bentOf_39 : decode cX11_bentOf 39 = .ok (.iconst 1, 1) := dk_4 (dk_at dksX11_bentOf_1 15 rfl rfl)
theorem dX11_bentOf_40 : decode cX11_bentOf 40 = .ok (.if_icmp .ne 85, 3) := dk_160 0 85 (dk_at dksX11_bentOf_1 16 rfl rfl)
theorem dX11_bentOf_43 : decode cX11_bentOf 43 = .ok (.iconst 0, 1) := dk_3 (dk_at dksX11_bentOf_1 19 rfl rfl)
theorem dX11_bentOf_44 : decode cX11_bentOf 44 = .ok (.istore 4, 2) := dk_54 4 (dk_at dksX11_bentOf_1 20 rfl rfl)
theorem dX11_bentOf_46 : decode cX11_bentOf 46 = .ok (.iload 4, 2) := dk_21 4 (dk_at dksX11_bentOf_1 22 rfl rfl)
theorem dX11_bentOf_48 : decode cX11_bentOf 48 = .ok (.aload_n 0, 1) := dk_42 (dk_at dksX11_bentOf_2 0 rfl rfl)
theorem dX11_bentOf_49 : decode cX11_bentOf 49 = .ok (.getfield 33, 3) := dk_180 0 33 (dk_at dksX11_bentOf_2 1 rfl rfl)
theorem dX11_bentOf_52 : decode cX11_bentOf 52 = .ok (.iconst 1, 1) := dk_4 (dk_at dksX11_bentOf_2 4 rfl rfl)
theorem dX11_bentOf_53 : decode cX11_bentOf 53 = .ok (.iaload, 1) := dk_46 (dk_at dksX11_bentOf_2 5 rfl rfl)
theorem dX11_bentOf_54 : decode cX11_bentOf 54 = .ok (.if_icmp .ge 71, 3) := dk_162 0 71 (dk_at dksX11_bentOf_2 6 rfl rfl)
theorem dX11_bentOf_57 : decode cX11_bentOf 57 = .ok (.iconst 0, 1) := dk_3 (dk_at dksX11_bentOf_2 9 rfl rfl)
theorem dX11_bentOf_58 : decode cX11_bentOf 58 = .ok (.istore 5, 2) := dk_54 5 (dk_at dksX11_bentOf_2 10 rfl rfl)
theorem dX11_bentOf_60 : decode cX11_bentOf 60 = .ok (.iload 5, 2) := dk_21 5 (dk_at dksX11_bentOf_2 12 rfl rfl)
theorem dX11_bentOf_62 : decode cX11_bentOf 62 = .ok (.bipush 13, 2) := dk_16 13 (dk_at dksX11_bentOf_2 14 rfl rfl)
theorem dX11_bentOf_64 : decode cX11_bentOf 64 = .ok (.if_icmp .ge 55, 3) := dk_162 0 55 (dk_at dksX11_bentOf_2 16 rfl rfl)
theorem dX11_bentOf_67 : decode cX11_bentOf 67 = .ok (.iload 4, 2) := dk_21 4 (dk_at dksX11_bentOf_2 19 rfl rfl)
theorem dX11_bentOf_69 : decode cX11_bentOf 69 = .ok (.iload_n 1, 1) := dk_27 (dk_at dksX11_bentOf_2 21 rfl rfl)
theorem dX11_bentOf_70 : decode cX11_bentOf 70 = .ok (.if_icmp .eq 43, 3) := dk_159 0 43 (dk_at dksX11_bentOf_3 0 rfl rfl)
theorem dX11_bentOf_73 : decode cX11_bentOf 73 = .ok (.aload_n 0, 1) := dk_42 (dk_at dksX11_bentOf_3 3 rfl rfl)
theorem dX11_bentOf_74 : decode cX11_bentOf 74 = .ok (.getfield 33, 3) := dk_180 0 33 (dk_at dksX11_bentOf_3 4 rfl rfl)
theorem dX11_bentOf_77 : decode cX11_bentOf 77 = .ok (.sipush 151, 3) := dk_17 0 151 (dk_at dksX11_bentOf_3 7 rfl rfl)
theorem dX11_bentOf_80 : decode cX11_bentOf 80 = .ok (.bipush 13, 2) := dk_16 13 (dk_at dksX11_bentOf_3 10 rfl rfl)
theorem dX11_bentOf_82 : decode cX11_bentOf 82 = .ok (.iload 4, 2) := dk_21 4 (dk_at dksX11_bentOf_3 12 rfl rfl)
theorem dX11_bentOf_84 : decode cX11_bentOf 84 = .ok (.imul, 1) := dk_104 (dk_at dksX11_bentOf_3 14 rfl rfl)
theorem dX11_bentOf_85 : decode cX11_bentOf 85 = .ok (.iadd, 1) := dk_96 (dk_at dksX11_bentOf_3 15 rfl rfl)
theorem dX11_bentOf_86 : decode cX11_bentOf 86 = .ok (.iload 5, 2) := dk_21 5 (dk_at dksX11_bentOf_3 16 rfl rfl)
theorem dX11_bentOf_88 : decode cX11_bentOf 88 = .ok (.iadd, 1) := dk_96 (dk_at dksX11_bentOf_3 18 rfl rfl)
theorem dX11_bentOf_89 : decode cX11_bentOf 89 = .ok (.iaload, 1) := dk_46 (dk_at dksX11_bentOf_3 19 rfl rfl)
theorem dX11_bentOf_90 : decode cX11_bentOf 90 = .ok (.ifCond .le 23, 3) := dk_158 0 23 (dk_at dksX11_bentOf_3 20 rfl rfl)
theorem dX11_bentOf_93 : decode cX11_bentOf 93 = .ok (.aload_n 0, 1) := dk_42 (dk_at dksX11_bentOf_3 23 rfl rfl)
theorem dX11_bentOf_94 : decode cX11_bentOf 94 = .ok (.iload_n 1, 1) := dk_27 (dk_at dksX11_bentOf_4 0 rfl rfl)
theorem dX11_bentOf_95 : decode cX11_bentOf 95 = .ok (.iload 5, 2) := dk_21 5 (dk_at dksX11_bentOf_4 1 rfl rfl)
theorem dX11_bentOf_97 : decode cX11_bentOf 97 = .ok (.iconst 0, 1) := dk_3 (dk_at dksX11_bentOf_4 3 rfl rfl)
theorem dX11_bentOf_98 : decode cX11_bentOf 98 = .ok (.invokevirtual 255, 3) := dk_182 0 255 (dk_at dksX11_bentOf_4 4 rfl rfl)
theorem dX11_bentOf_101 : decode cX11_bentOf 101 = .ok (.ifCond .le 12, 3) := dk_158 0 12 (dk_at dksX11_bentOf_4 7 rfl rfl)
theorem dX11_bentOf_104 : decode cX11_bentOf 104 = .ok (.bipush 100, 2) := dk_16 100 (dk_at dksX11_bentOf_4 10 rfl rfl)
theorem dX11_bentOf_106 : decode cX11_bentOf 106 = .ok (.iload 4, 2) := dk_21 4 (dk_at dksX11_bentOf_4 12 rfl rfl)
theorem dX11_bentOf_108 : decode cX11_bentOf 108 = .ok (.imul, 1) := dk_104 (dk_at dksX11_bentOf_4 14 rfl rfl)
theorem dX11_bentOf_109 : decode cX11_bentOf 109 = .ok (.iload 5, 2) := dk_21 5 (dk_at dksX11_bentOf_4 15 rfl rfl)
theorem dX11_bentOf_111 : decode cX11_bentOf 111 = .ok (.iadd, 1) := dk_96 (dk_at dksX11_bentOf_4 17 rfl rfl)
theorem dX11_bentOf_112 : decode cX11_bentOf 112 = .ok (.ireturn, 1) := dk_172 (dk_at dksX11_bentOf_4 18 rfl rfl)
theorem dX11_bentOf_113 : decode cX11_bentOf 113 = .ok (.iinc 5 1, 3) := dk_132 5 1 (dk_at dksX11_bentOf_4 19 rfl rfl)
theorem dX11_bentOf_116 : decode cX11_bentOf 116 = .ok (.goto (-56), 3) := dk_167 255 200 (dk_at dksX11_bentOf_5 0 rfl rfl)
theorem dX11_bentOf_119 : decode cX11_bentOf 119 = .ok (.iinc 4 1, 3) := dk_132 4 1 (dk_at dksX11_bentOf_5 3 rfl rfl)
theorem dX11_bentOf_122 : decode cX11_bentOf 122 = .ok (.goto (-76), 3) := dk_167 255 180 (dk_at dksX11_bentOf_5 6 rfl rfl)
theorem dX11_bentOf_125 : decode cX11_bentOf 125 = .ok (.iload_n 2, 1) := dk_28 (dk_at dksX11_bentOf_5 9 rfl rfl)
theorem dX11_bentOf_126 : decode cX11_bentOf 126 = .ok (.iconst 2, 1) := dk_5 (dk_at dksX11_bentOf_5 10 rfl rfl)
theorem dX11_bentOf_127 : decode cX11_bentOf 127 = .ok (.if_icmp .ne 107, 3) := dk_160 0 107 (dk_at dksX11_bentOf_5 11 rfl rfl)
theorem dX11_bentOf_130 : decode cX11_bentOf 130 = .ok (.iconst (-1), 1) := dk_2 (dk_at dksX11_bentOf_5 14 rfl rfl)
theorem dX11_bentOf_131 : decode cX11_bentOf 131 = .ok (.istore 4, 2) := dk_54 4 (dk_at dksX11_bentOf_5 15 rfl rfl)
theorem dX11_bentOf_133 : decode cX11_bentOf 133 = .ok (.iconst 0, 1) := dk_3 (dk_at dksX11_bentOf_5 17 rfl rfl)
theorem dX11_bentOf_134 : decode cX11_bentOf 134 = .ok (.istore 5, 2) := dk_54 5 (dk_at dksX11_bentOf_5 18 rfl rfl)
theorem dX11_bentOf_136 : decode cX11_bentOf 136 = .ok (.iload 5, 2) := dk_21 5 (dk_at dksX11_bentOf_5 20 rfl rfl)
theorem dX11_bentOf_138 : decode cX11_bentOf 138 = .ok (.aload_n 0, 1) := dk_42 (dk_at dksX11_bentOf_5 22 rfl rfl)
theorem dX11_bentOf_139 : decode cX11_bentOf 139 = .ok (.getfield 33, 3) := dk_180 0 33 (dk_at dksX11_bentOf_6 0 rfl rfl)
theorem dX11_bentOf_142 : decode cX11_bentOf 142 = .ok (.iconst 1, 1) := dk_4 (dk_at dksX11_bentOf_6 3 rfl rfl)
theorem dX11_bentOf_143 : decode cX11_bentOf 143 = .ok (.iaload, 1) := dk_46 (dk_at dksX11_bentOf_6 4 rfl rfl)
theorem dX11_bentOf_144 : decode cX11_bentOf 144 = .ok (.if_icmp .ge 39, 3) := dk_162 0 39 (dk_at dksX11_bentOf_6 5 rfl rfl)
theorem dX11_bentOf_147 : decode cX11_bentOf 147 = .ok (.iload 5, 2) := dk_21 5 (dk_at dksX11_bentOf_6 8 rfl rfl)
theorem dX11_bentOf_149 : decode cX11_bentOf 149 = .ok (.iload_n 1, 1) := dk_27 (dk_at dksX11_bentOf_6 10 rfl rfl)
theorem dX11_bentOf_150 : decode cX11_bentOf 150 = .ok (.if_icmp .eq 27, 3) := dk_159 0 27 (dk_at dksX11_bentOf_6 11 rfl rfl)
theorem dX11_bentOf_153 : decode cX11_bentOf 153 = .ok (.iload 4, 2) := dk_21 4 (dk_at dksX11_bentOf_6 14 rfl rfl)
theorem dX11_bentOf_155 : decode cX11_bentOf 155 = .ok (.ifCond .lt 18, 3) := dk_155 0 18 (dk_at dksX11_bentOf_6 16 rfl rfl)
theorem dX11_bentOf_158 : decode cX11_bentOf 158 = .ok (.aload_n 0, 1) := dk_42 (dk_at dksX11_bentOf_6 19 rfl rfl)
theorem dX11_bentOf_159 : decode cX11_bentOf 159 = .ok (.iload 5, 2) := dk_21 5 (dk_at dksX11_bentOf_6 20 rfl rfl)
theorem dX11_bentOf_161 : decode cX11_bentOf 161 = .ok (.invokevirtual 263, 3) := dk_182 1 7 (dk_at dksX11_bentOf_7 0 rfl rfl)
theorem dX11_bentOf_164 : decode cX11_bentOf 164 = .ok (.aload_n 0, 1) := dk_42 (dk_at dksX11_bentOf_7 3 rfl rfl)
theorem dX11_bentOf_165 : decode cX11_bentOf 165 = .ok (.iload 4, 2) := dk_21 4 (dk_at dksX11_bentOf_7 4 rfl rfl)
theorem dX11_bentOf_167 : decode cX11_bentOf 167 = .ok (.invokevirtual 263, 3) := dk_182 1 7 (dk_at dksX11_bentOf_7 6 rfl rfl)
theorem dX11_bentOf_170 : decode cX11_bentOf 170 = .ok (.if_icmp .le 7, 3) := dk_164 0 7 (dk_at dksX11_bentOf_7 9 rfl rfl)
theorem dX11_bentOf_173 : decode cX11_bentOf 173 = .ok (.iload 5, 2) := dk_21 5 (dk_at dksX11_bentOf_7 12 rfl rfl)
theorem dX11_bentOf_175 : decode cX11_bentOf 175 = .ok (.istore 4, 2) := dk_54 4 (dk_at dksX11_bentOf_7 14 rfl rfl)
theorem dX11_bentOf_177 : decode cX11_bentOf 177 = .ok (.iinc 5 1, 3) := dk_132 5 1 (dk_at dksX11_bentOf_7 16 rfl rfl)
theorem dX11_bentOf_180 : decode cX11_bentOf 180 = .ok (.goto (-44), 3) := dk_167 255 212 (dk_at dksX11_bentOf_7 19 rfl rfl)
theorem dX11_bentOf_183 : decode cX11_bentOf 183 = .ok (.iload_n 3, 1) := dk_29 (dk_at dksX11_bentOf_7 22 rfl rfl)
theorem dX11_bentOf_184 : decode cX11_bentOf 184 = .ok (.istore 5, 2) := dk_54 5 (dk_at dksX11_bentOf_8 0 rfl rfl)
theorem dX11_bentOf_186 : decode cX11_bentOf 186 = .ok (.iload_n 3, 1) := dk_29 (dk_at dksX11_bentOf_8 2 rfl rfl)
theorem dX11_bentOf_187 : decode cX11_bentOf 187 = .ok (.istore 6, 2) := dk_54 6 (dk_at dksX11_bentOf_8 3 rfl rfl)
theorem dX11_bentOf_189 : decode cX11_bentOf 189 = .ok (.iload 6, 2) := dk_21 6 (dk_at dksX11_bentOf_8 5 rfl rfl)
theorem dX11_bentOf_191 : decode cX11_bentOf 191 = .ok (.bipush 13, 2) := dk_16 13 (dk_at dksX11_bentOf_8 7 rfl rfl)
theorem dX11_bentOf_193 : decode cX11_bentOf 193 = .ok (.if_icmp .ge 32, 3) := dk_162 0 32 (dk_at dksX11_bentOf_8 9 rfl rfl)
theorem dX11_bentOf_196 : decode cX11_bentOf 196 = .ok (.aload_n 0, 1) := dk_42 (dk_at dksX11_bentOf_8 12 rfl rfl)
theorem dX11_bentOf_197 : decode cX11_bentOf 197 = .ok (.iload_n 1, 1) := dk_27 (dk_at dksX11_bentOf_8 13 rfl rfl)
theorem dX11_bentOf_198 : decode cX11_bentOf 198 = .ok (.iload 6, 2) := dk_21 6 (dk_at dksX11_bentOf_8 14 rfl rfl)
theorem dX11_bentOf_200 : decode cX11_bentOf 200 = .ok (.iconst 0, 1) := dk_3 (dk_at dksX11_bentOf_8 16 rfl rfl)
theorem dX11_bentOf_201 : decode cX11_bentOf 201 = .ok (.invokevirtual 255, 3) := dk_182 0 255 (dk_at dksX11_bentOf_8 17 rfl rfl)
theorem dX11_bentOf_204 : decode cX11_bentOf 204 = .ok (.aload_n 0, 1) := dk_42 (dk_at dksX11_bentOf_8 20 rfl rfl)
theorem dX11_bentOf_205 : decode cX11_bentOf 205 = .ok (.iload_n 1, 1) := dk_27 (dk_at dksX11_bentOf_8 21 rfl rfl)
theorem dX11_bentOf_206 : decode cX11_bentOf 206 = .ok (.iload 5, 2) := dk_21 5 (dk_at dksX11_bentOf_8 22 rfl rfl)
theorem dX11_bentOf_208 : decode cX11_bentOf 208 = .ok (.iconst 0, 1) := dk_3 (dk_at dksX11_bentOf_9 0 rfl rfl)
theorem dX11_bentOf_209 : decode cX11_bentOf 209 = .ok (.invokevirtual 255, 3) := dk_182 0 255 (dk_at dksX11_bentOf_9 1 rfl rfl)
theorem dX11_bentOf_212 : decode cX11_bentOf 212 = .ok (.if_icmp .le 7, 3) := dk_164 0 7 (dk_at dksX11_bentOf_9 4 rfl rfl)
theorem dX11_bentOf_215 : decode cX11_bentOf 215 = .ok (.iload 6, 2) := dk_21 6 (dk_at dksX11_bentOf_9 7 rfl rfl)
theorem dX11_bentOf_217 : decode cX11_bentOf 217 = .ok (.istore 5, 2) := dk_54 5 (dk_at dksX11_bentOf_9 9 rfl rfl)
theorem dX11_bentOf_219 : decode cX11_bentOf 219 = .ok (.iinc 6 1, 3) := dk_132 6 1 (dk_at dksX11_bentOf_9 11 rfl rfl)
theorem dX11_bentOf_222 : decode cX11_bentOf 222 = .ok (.goto (-33), 3) := dk_167 255 223 (dk_at dksX11_bentOf_9 14 rfl rfl)
theorem dX11_bentOf_225 : decode cX11_bentOf 225 = .ok (.bipush 100, 2) := dk_16 100 (dk_at dksX11_bentOf_9 17 rfl rfl)
theorem dX11_bentOf_227 : decode cX11_bentOf 227 = .ok (.iload 4, 2) := dk_21 4 (dk_at dksX11_bentOf_9 19 rfl rfl)
theorem dX11_bentOf_229 : decode cX11_bentOf 229 = .ok (.imul, 1) := dk_104 (dk_at dksX11_bentOf_9 21 rfl rfl)
theorem dX11_bentOf_230 : decode cX11_bentOf 230 = .ok (.iload 5, 2) := dk_21 5 (dk_at dksX11_bentOf_9 22 rfl rfl)
theorem dX11_bentOf_232 : decode cX11_bentOf 232 = .ok (.iadd, 1) := dk_96 (dk_at dksX11_bentOf_10 0 rfl rfl)
theorem dX11_bentOf_233 : decode cX11_bentOf 233 = .ok (.ireturn, 1) := dk_172 (dk_at dksX11_bentOf_10 1 rfl rfl)
theorem dX11_bentOf_234 : decode cX11_bentOf 234 = .ok (.aload_n 0, 1) := dk_42 (dk_at dksX11_bentOf_10 2 rfl rfl)
theorem dX11_bentOf_235 : decode cX11_bentOf 235 = .ok (.getfield 33, 3) := dk_180 0 33 (dk_at dksX11_bentOf_10 3 rfl rfl)
theorem dX11_bentOf_238 : decode cX11_bentOf 238 = .ok (.sipush 565, 3) := dk_17 2 53 (dk_at dksX11_bentOf_10 6 rfl rfl)
theorem dX11_bentOf_241 : decode cX11_bentOf 241 = .ok (.iload_n 1, 1) := dk_27 (dk_at dksX11_bentOf_10 9 rfl rfl)
theorem dX11_bentOf_242 : decode cX11_bentOf 242 = .ok (.iadd, 1) := dk_96 (dk_at dksX11_bentOf_10 10 rfl rfl)
theorem dX11_bentOf_243 : decode cX11_bentOf 243 = .ok (.iaload, 1) := dk_46 (dk_at dksX11_bentOf_10 11 rfl rfl)
theorem dX11_bentOf_244 : decode cX11_bentOf 244 = .ok (.iconst 1, 1) := dk_4 (dk_at dksX11_bentOf_10 12 rfl rfl)
theorem dX11_bentOf_245 : decode cX11_bentOf 245 = .ok (.isub, 1) := dk_100 (dk_at dksX11_bentOf_10 13 rfl rfl)
theorem dX11_bentOf_246 : decode cX11_bentOf 246 = .ok (.istore 4, 2) := dk_54 4 (dk_at dksX11_bentOf_10 14 rfl rfl)
theorem dX11_bentOf_248 : decode cX11_bentOf 248 = .ok (.bipush 100, 2) := dk_16 100 (dk_at dksX11_bentOf_10 16 rfl rfl)
theorem dX11_bentOf_250 : decode cX11_bentOf 250 = .ok (.aload_n 0, 1) := dk_42 (dk_at dksX11_bentOf_10 18 rfl rfl)
theorem dX11_bentOf_251 : decode cX11_bentOf 251 = .ok (.iload_n 1, 1) := dk_27 (dk_at dksX11_bentOf_10 19 rfl rfl)
theorem dX11_bentOf_252 : decode cX11_bentOf 252 = .ok (.invokevirtual 400, 3) := dk_182 1 144 (dk_at dksX11_bentOf_10 20 rfl rfl)
theorem dX11_bentOf_255 : decode cX11_bentOf 255 = .ok (.imul, 1) := dk_104 (dk_at dksX11_bentOf_10 23 rfl rfl)
theorem dX11_bentOf_256 : decode cX11_bentOf 256 = .ok (.iload_n 2, 1) := dk_28 (dk_at dksX11_bentOf_11 0 rfl rfl)
theorem dX11_bentOf_257 : decode cX11_bentOf 257 = .ok (.iconst 3, 1) := dk_6 (dk_at dksX11_bentOf_11 1 rfl rfl)
theorem dX11_bentOf_258 : decode cX11_bentOf 258 = .ok (.if_icmp .ne 24, 3) := dk_160 0 24 (dk_at dksX11_bentOf_11 2 rfl rfl)
theorem dX11_bentOf_261 : decode cX11_bentOf 261 = .ok (.iload 4, 2) := dk_21 4 (dk_at dksX11_bentOf_11 5 rfl rfl)
theorem dX11_bentOf_263 : decode cX11_bentOf 263 = .ok (.ifCond .lt 19, 3) := dk_155 0 19 (dk_at dksX11_bentOf_11 7 rfl rfl)
theorem dX11_bentOf_266 : decode cX11_bentOf 266 = .ok (.aload_n 0, 1) := dk_42 (dk_at dksX11_bentOf_11 10 rfl rfl)
theorem dX11_bentOf_267 : decode cX11_bentOf 267 = .ok (.iload_n 1, 1) := dk_27 (dk_at dksX11_bentOf_11 11 rfl rfl)
theorem dX11_bentOf_268 : decode cX11_bentOf 268 = .ok (.iload 4, 2) := dk_21 4 (dk_at dksX11_bentOf_11 12 rfl rfl)
theorem dX11_bentOf_270 : decode cX11_bentOf 270 = .ok (.iconst 0, 1) := dk_3 (dk_at dksX11_bentOf_11 14 rfl rfl)
theorem dX11_bentOf_271 : decode cX11_bentOf 271 = .ok (.invokevirtual 255, 3) := dk_182 0 255 (dk_at dksX11_bentOf_11 15 rfl rfl)
theorem dX11_bentOf_274 : decode cX11_bentOf 274 = .ok (.ifCond .le 8, 3) := dk_158 0 8 (dk_at dksX11_bentOf_11 18 rfl rfl)
theorem dX11_bentOf_277 : decode cX11_bentOf 277 = .ok (.iload 4, 2) := dk_21 4 (dk_at dksX11_bentOf_11 21 rfl rfl)
theorem dX11_bentOf_279 : decode cX11_bentOf 279 = .ok (.goto 4, 3) := dk_167 0 4 (dk_at dksX11_bentOf_12 0 rfl rfl)
theorem dX11_bentOf_282 : decode cX11_bentOf 282 = .ok (.iload_n 3, 1) := dk_29 (dk_at dksX11_bentOf_12 3 rfl rfl)
theorem dX11_bentOf_283 : decode cX11_bentOf 283 = .ok (.iadd, 1) := dk_96 (dk_at dksX11_bentOf_12 4 rfl rfl)
theorem dX11_bentOf_284 : decode cX11_bentOf 284 = .ok (.ireturn, 1) := dk_172 (dk_at dksX11_bentOf_12 5 rfl rfl)
abbrev cX11_nextWithCards : ByteArray := prog_23_method_81_code
def yX11_nextWithCards : MethodName := ⟨RX11, "nextWithCards", "(I)I"⟩
def dkwX11_nextWithCards_2 : List UInt8 := [4, 96, 42, 180, 0, 33, 4, 46, 112, 172]
abbrev dktX11_nextWithCards_2 : List UInt8 := dkwX11_nextWithCards_2 ++ []
def dkwX11_nextWithCards_1 : List UInt8 := [182, 1, 7, 158, 0, 14, 27, 28, 96, 42, 180, 0, 33, 4, 46, 112, 172, 132, 2, 1, 167, 255, 215, 27]
abbrev dktX11_nextWithCards_1 : List UInt8 := dkwX11_nextWithCards_1 ++ dktX11_nextWithCards_2
def dkwX11_nextWithCards_0 : List UInt8 := [4, 61, 28, 42, 180, 0, 33, 4, 46, 162, 0, 37, 42, 27, 28, 96, 42, 180, 0, 33, 4, 46, 112]
abbrev dktX11_nextWithCards_0 : List UInt8 := dkwX11_nextWithCards_0 ++ dktX11_nextWithCards_1
theorem dksX11_nextWithCards_0 : cX11_nextWithCards.data.toList.drop 0 = dktX11_nextWithCards_0 := by decide +kernel
theorem dksX11_nextWithCards_1 : cX11_nextWithCards.data.toList.drop 23 = dktX11_nextWithCards_1 := dk_seg dksX11_nextWithCards_0 23 rfl rfl
theorem dksX11_nextWithCards_2 : cX11_nextWithCards.data.toList.drop 47 = dktX11_nextWithCards_2 := dk_seg dksX11_nextWithCards_1 24 rfl rfl
theorem dX11_nextWithCards_0 : decode cX11_nextWithCards 0 = .ok (.iconst 1, 1) := dk_4 (dk_at dksX11_nextWithCards_0 0 rfl rfl)
theorem dX11_nextWithCards_1 : decode cX11_nextWithCards 1 = .ok (.istore_n 2, 1) := dk_61 (dk_at dksX11_nextWithCards_0 1 rfl rfl)
theorem dX11_nextWithCards_2 : decode cX11_nextWithCards 2 = .ok (.iload_n 2, 1) := dk_28 (dk_at dksX11_nextWithCards_0 2 rfl rfl)
theorem dX11_nextWithCards_3 : decode cX11_nextWithCards 3 = .ok (.aload_n 0, 1) := dk_42 (dk_at dksX11_nextWithCards_0 3 rfl rfl)
theorem dX11_nextWithCards_4 : decode cX11_nextWithCards 4 = .ok (.getfield 33, 3) := dk_180 0 33 (dk_at dksX11_nextWithCards_0 4 rfl rfl)
theorem dX11_nextWithCards_7 : decode cX11_nextWithCards 7 = .ok (.iconst 1, 1) := dk_4 (dk_at dksX11_nextWithCards_0 7 rfl rfl)
theorem dX11_nextWithCards_8 : decode cX11_nextWithCards 8 = .ok (.iaload, 1) := dk_46 (dk_at dksX11_nextWithCards_0 8 rfl rfl)
theorem dX11_nextWithCards_9 : decode cX11_nextWithCards 9 = .ok (.if_icmp .ge 37, 3) := dk_162 0 37 (dk_at dksX11_nextWithCards_0 9 rfl rfl)
theorem dX11_nextWithCards_12 : decode cX11_nextWithCards 12 = .ok (.aload_n 0, 1) := dk_42 (dk_at dksX11_nextWithCards_0 12 rfl rfl)
theorem dX11_nextWithCards_13 : decode cX11_nextWithCards 13 = .ok (.iload_n 1, 1) := dk_27 (dk_at dksX11_nextWithCards_0 13 rfl rfl)
theorem dX11_nextWithCards_14 : decode cX11_nextWithCards 14 = .ok (.iload_n 2, 1) := dk_28 (dk_at dksX11_nextWithCards_0 14 rfl rfl)
theorem dX11_nextWithCards_15 : decode cX11_nextWithCards 15 = .ok (.iadd, 1) := dk_96 (dk_at dksX11_nextWithCards_0 15 rfl rfl)
theorem dX11_nextWithCards_16 : decode cX11_nextWithCards 16 = .ok (.aload_n 0, 1) := dk_42 (dk_at dksX11_nextWithCards_0 16 rfl rfl)
theorem dX11_nextWithCards_17 : decode cX11_nextWithCards 17 = .ok (.getfield 33, 3) := dk_180 0 33 (dk_at dksX11_nextWithCards_0 17 rfl rfl)
theorem dX11_nextWithCards_20 : decode cX11_nextWithCards 20 = .ok (.iconst 1, 1) := dk_4 (dk_at dksX11_nextWithCards_0 20 rfl rfl)
theorem dX11_nextWithCards_21 : decode cX11_nextWithCards 21 = .ok (.iaload, 1) := dk_46 (dk_at dksX11_nextWithCards_0 21 rfl rfl)
theorem dX11_nextWithCards_22 : decode cX11_nextWithCards 22 = .ok (.irem, 1) := dk_112 (dk_at dksX11_nextWithCards_0 22 rfl rfl)
theorem dX11_nextWithCards_23 : decode cX11_nextWithCards 23 = .ok (.invokevirtual 263, 3) := dk_182 1 7 (dk_at dksX11_nextWithCards_1 0 rfl rfl)
theorem dX11_nextWithCards_26 : decode cX11_nextWithCards 26 = .ok (.ifCond .le 14, 3) := dk_158 0 14 (dk_at dksX11_nextWithCards_1 3 rfl rfl)
theorem dX11_nextWithCards_29 : decode cX11_nextWithCards 29 = .ok (.iload_n 1, 1) := dk_27 (dk_at dksX11_nextWithCards_1 6 rfl rfl)
theorem dX11_nextWithCards_30 : decode cX11_nextWithCards 30 = .ok (.iload_n 2, 1) := dk_28 (dk_at dksX11_nextWithCards_1 7 rfl rfl)
theorem dX11_nextWithCards_31 : decode cX11_nextWithCards 31 = .ok (.iadd, 1) := dk_96 (dk_at dksX11_nextWithCards_1 8 rfl rfl)
theorem dX11_nextWithCards_32 : decode cX11_nextWithCards 32 = .ok (.aload_n 0, 1) := dk_42 (dk_at dksX11_nextWithCards_1 9 rfl rfl)
theorem dX11_nextWithCards_33 : decode cX11_nextWithCards 33 = .ok (.getfield 33, 3) := dk_180 0 33 (dk_at dksX11_nextWithCards_1 10 rfl rfl)
theorem dX11_nextWithCards_36 : decode cX11_nextWithCards 36 = .ok (.iconst 1, 1) := dk_4 (dk_at dksX11_nextWithCards_1 13 rfl rfl)
theorem dX11_nextWithCards_37 : decode cX11_nextWithCards 37 = .ok (.iaload, 1) := dk_46 (dk_at dksX11_nextWithCards_1 14 rfl rfl)
theorem dX11_nextWithCards_38 : decode cX11_nextWithCards 38 = .ok (.irem, 1) := dk_112 (dk_at dksX11_nextWithCards_1 15 rfl rfl)
theorem dX11_nextWithCards_39 : decode cX11_nextWithCards 39 = .ok (.ireturn, 1) := dk_172 (dk_at dksX11_nextWithCards_1 16 rfl rfl)
theorem dX11_nextWithCards_40 : decode cX11_nextWithCards 40 = .ok (.iinc 2 1, 3) := dk_132 2 1 (dk_at dksX11_nextWithCards_1 17 rfl rfl)
theorem dX11_nextWithCards_43 : decode cX11_nextWithCards 43 = .ok (.goto (-41), 3) := dk_167 255 215 (dk_at dksX11_nextWithCards_1 20 rfl rfl)
theorem dX11_nextWithCards_46 : decode cX11_nextWithCards 46 = .ok (.iload_n 1, 1) := dk_27 (dk_at dksX11_nextWithCards_1 23 rfl rfl)
theorem dX11_nextWithCards_47 : decode cX11_nextWithCards 47 = .ok (.iconst 1, 1) := dk_4 (dk_at dksX11_nextWithCards_2 0 rfl rfl)
theorem dX11_nextWithCards_48 : decode cX11_nextWithCards 48 = .ok (.iadd, 1) := dk_96 (dk_at dksX11_nextWithCards_2 1 rfl rfl)
theorem dX11_nextWithCards_49 : decode cX11_nextWithCards 49 = .ok (.aload_n 0, 1) := dk_42 (dk_at dksX11_nextWithCards_2 2 rfl rfl)
theorem dX11_nextWithCards_50 : decode cX11_nextWithCards 50 = .ok (.getfield 33, 3) := dk_180 0 33 (dk_at dksX11_nextWithCards_2 3 rfl rfl)
theorem dX11_nextWithCards_53 : decode cX11_nextWithCards 53 = .ok (.iconst 1, 1) := dk_4 (dk_at dksX11_nextWithCards_2 6 rfl rfl)
theorem dX11_nextWithCards_54 : decode cX11_nextWithCards 54 = .ok (.iaload, 1) := dk_46 (dk_at dksX11_nextWithCards_2 7 rfl rfl)
theorem dX11_nextWithCards_55 : decode cX11_nextWithCards 55 = .ok (.irem, 1) := dk_112 (dk_at dksX11_nextWithCards_2 8 rfl rfl)
theorem dX11_nextWithCards_56 : decode cX11_nextWithCards 56 = .ok (.ireturn, 1) := dk_172 (dk_at dksX11_nextWithCards_2 9 rfl rfl)
abbrev cX11_play : ByteArray := prog_23_method_85_code
def yX11_play : MethodName := ⟨RX11, "play", "(I)I"⟩
def dkwX11_play_4 : List UInt8 := [160, 0, 5, 3, 172, 42, 182, 1, 57, 42, 27, 4, 182, 1, 153, 172]
abbrev dktX11_play_4 : List UInt8 := dkwX11_play_4 ++ []
def dkwX11_play_3 : List UInt8 := [180, 0, 90, 28, 42, 28, 182, 1, 150, 79, 132, 2, 1, 167, 255, 223, 42, 180, 0, 33, 7, 46, 2]
abbrev dktX11_play_3 : List UInt8 := dkwX11_play_3 ++ dktX11_play_4
def dkwX11_play_2 : List UInt8 := [3, 61, 28, 42, 180, 0, 18, 162, 0, 31, 42, 28, 182, 1, 150, 6, 164, 0, 5, 2, 172, 42]
abbrev dktX11_play_2 : List UInt8 := dkwX11_play_2 ++ dktX11_play_3
def dkwX11_play_1 : List UInt8 := [180, 0, 33, 4, 46, 5, 161, 0, 16, 42, 180, 0, 18, 42, 180, 0, 33, 4, 46, 159, 0, 5, 2, 172]
abbrev dktX11_play_1 : List UInt8 := dkwX11_play_1 ++ dktX11_play_2
def dkwX11_play_0 : List UInt8 := [42, 3, 181, 0, 1, 42, 17, 3, 172, 182, 0, 234, 27, 4, 17, 1, 144, 184, 0, 195, 153, 0, 26, 42]
abbrev dktX11_play_0 : List UInt8 := dkwX11_play_0 ++ dktX11_play_1
theorem dksX11_play_0 : cX11_play.data.toList.drop 0 = dktX11_play_0 := by decide +kernel
theorem dksX11_play_1 : cX11_play.data.toList.drop 24 = dktX11_play_1 := dk_seg dksX11_play_0 24 rfl rfl
theorem dksX11_play_2 : cX11_play.data.toList.drop 48 = dktX11_play_2 := dk_seg dksX11_play_1 24 rfl rfl
theorem dksX11_play_3 : cX11_play.data.toList.drop 70 = dktX11_play_3 := dk_seg dksX11_play_2 22 rfl rfl
theorem dksX11_play_4 : cX11_play.data.toList.drop 93 = dktX11_play_4 := dk_seg dksX11_play_3 23 rfl rfl
theorem dX11_play_0 : decode cX11_play 0 = .ok (.aload_n 0, 1) := dk_42 (dk_at dksX11_play_0 0 rfl rfl)
theorem dX11_play_1 : decode cX11_play 1 = .ok (.iconst 0, 1) := dk_3 (dk_at dksX11_play_0 1 rfl rfl)
theorem dX11_play_2 : decode cX11_play 2 = .ok (.putfield 1, 3) := dk_181 0 1 (dk_at dksX11_play_0 2 rfl rfl)
theorem dX11_play_5 : decode cX11_play 5 = .ok (.aload_n 0, 1) := dk_42 (dk_at dksX11_play_0 5 rfl rfl)
theorem dX11_play_6 : decode cX11_play 6 = .ok (.sipush 940, 3) := dk_17 3 172 (dk_at dksX11_play_0 6 rfl rfl)
theorem dX11_play_9 : decode cX11_play 9 = .ok (.invokevirtual 234, 3) := dk_182 0 234 (dk_at dksX11_play_0 9 rfl rfl)
theorem dX11_play_12 : decode cX11_play 12 = .ok (.iload_n 1, 1) := dk_27 (dk_at dksX11_play_0 12 rfl rfl)
theorem dX11_play_13 : decode cX11_play 13 = .ok (.iconst 1, 1) := dk_4 (dk_at dksX11_play_0 13 rfl rfl)
theorem dX11_play_14 : decode cX11_play 14 = .ok (.sipush 400, 3) := dk_17 1 144 (dk_at dksX11_play_0 14 rfl rfl)
theorem dX11_play_17 : decode cX11_play 17 = .ok (.invokestatic 195, 3) := dk_184 0 195 (dk_at dksX11_play_0 17 rfl rfl)
theorem dX11_play_20 : decode cX11_play 20 = .ok (.ifCond .eq 26, 3) := dk_153 0 26 (dk_at dksX11_play_0 20 rfl rfl)
theorem dX11_play_23 : decode cX11_play 23 = .ok (.aload_n 0, 1) := dk_42 (dk_at dksX11_play_0 23 rfl rfl)
theorem dX11_play_24 : decode cX11_play 24 = .ok (.getfield 33, 3) := dk_180 0 33 (dk_at dksX11_play_1 0 rfl rfl)
theorem dX11_play_27 : decode cX11_play 27 = .ok (.iconst 1, 1) := dk_4 (dk_at dksX11_play_1 3 rfl rfl)
theorem dX11_play_28 : decode cX11_play 28 = .ok (.iaload, 1) := dk_46 (dk_at dksX11_play_1 4 rfl rfl)
theorem dX11_play_29 : decode cX11_play 29 = .ok (.iconst 2, 1) := dk_5 (dk_at dksX11_play_1 5 rfl rfl)
theorem dX11_play_30 : decode cX11_play 30 = .ok (.if_icmp .lt 16, 3) := dk_161 0 16 (dk_at dksX11_play_1 6 rfl rfl)
theorem dX11_play_33 : decode cX11_play 33 = .ok (.aload_n 0, 1) := dk_42 (dk_at dksX11_play_1 9 rfl rfl)
theorem dX11_play_34 : decode cX11_play 34 = .ok (.getfield 18, 3) := dk_180 0 18 (dk_at dksX11_play_1 10 rfl rfl)
theorem dX11_play_37 : decode cX11_play 37 = .ok (.aload_n 0, 1) := dk_42 (dk_at dksX11_play_1 13 rfl rfl)
theorem dX11_play_38 : decode cX11_play 38 = .ok (.getfield 33, 3) := dk_180 0 33 (dk_at dksX11_play_1 14 rfl rfl)
theorem dX11_play_41 : decode cX11_play 41 = .ok (.iconst 1, 1) := dk_4 (dk_at dksX11_play_1 17 rfl rfl)
theorem dX11_play_42 : decode cX11_play 42 = .ok (.iaload, 1) := dk_46 (dk_at dksX11_play_1 18 rfl rfl)
theorem dX11_play_43 : decode cX11_play 43 = .ok (.if_icmp .eq 5, 3) := dk_159 0 5 (dk_at dksX11_play_1 19 rfl rfl)
theorem dX11_play_46 : decode cX11_play 46 = .ok (.iconst (-1), 1) := dk_2 (dk_at dksX11_play_1 22 rfl rfl)
theorem dX11_play_47 : decode cX11_play 47 = .ok (.ireturn, 1) := dk_172 (dk_at dksX11_play_1 23 rfl rfl)
theorem dX11_play_48 : decode cX11_play 48 = .ok (.iconst 0, 1) := dk_3 (dk_at dksX11_play_2 0 rfl rfl)
theorem dX11_play_49 : decode cX11_play 49 = .ok (.istore_n 2, 1) := dk_61 (dk_at dksX11_play_2 1 rfl rfl)
theorem dX11_play_50 : decode cX11_play 50 = .ok (.iload_n 2, 1) := dk_28 (dk_at dksX11_play_2 2 rfl rfl)
theorem dX11_play_51 : decode cX11_play 51 = .ok (.aload_n 0, 1) := dk_42 (dk_at dksX11_play_2 3 rfl rfl)
theorem dX11_play_52 : decode cX11_play 52 = .ok (.getfield 18, 3) := dk_180 0 18 (dk_at dksX11_play_2 4 rfl rfl)
theorem dX11_play_55 : decode cX11_play 55 = .ok (.if_icmp .ge 31, 3) := dk_162 0 31 (dk_at dksX11_play_2 7 rfl rfl)
theorem dX11_play_58 : decode cX11_play 58 = .ok (.aload_n 0, 1) := dk_42 (dk_at dksX11_play_2 10 rfl rfl)
theorem dX11_play_59 : decode cX11_play 59 = .ok (.iload_n 2, 1) := dk_28 (dk_at dksX11_play_2 11 rfl rfl)
theorem dX11_play_60 : decode cX11_play 60 = .ok (.invokevirtual 406, 3) := dk_182 1 150 (dk_at dksX11_play_2 12 rfl rfl)
theorem dX11_play_63 : decode cX11_play 63 = .ok (.iconst 3, 1) := dk_6 (dk_at dksX11_play_2 15 rfl rfl)
theorem dX11_play_64 : decode cX11_play 64 = .ok (.if_icmp .le 5, 3) := dk_164 0 5 (dk_at dksX11_play_2 16 rfl rfl)
theorem dX11_play_67 : decode cX11_play 67 = .ok (.iconst (-1), 1) := dk_2 (dk_at dksX11_play_2 19 rfl rfl)
theorem dX11_play_68 : decode cX11_play 68 = .ok (.ireturn, 1) := dk_172 (dk_at dksX11_play_2 20 rfl rfl)
theorem dX11_play_69 : decode cX11_play 69 = .ok (.aload_n 0, 1) := dk_42 (dk_at dksX11_play_2 21 rfl rfl)
theorem dX11_play_70 : decode cX11_play 70 = .ok (.getfield 90, 3) := dk_180 0 90 (dk_at dksX11_play_3 0 rfl rfl)
theorem dX11_play_73 : decode cX11_play 73 = .ok (.iload_n 2, 1) := dk_28 (dk_at dksX11_play_3 3 rfl rfl)
theorem dX11_play_74 : decode cX11_play 74 = .ok (.aload_n 0, 1) := dk_42 (dk_at dksX11_play_3 4 rfl rfl)
theorem dX11_play_75 : decode cX11_play 75 = .ok (.iload_n 2, 1) := dk_28 (dk_at dksX11_play_3 5 rfl rfl)
theorem dX11_play_76 : decode cX11_play 76 = .ok (.invokevirtual 406, 3) := dk_182 1 150 (dk_at dksX11_play_3 6 rfl rfl)
theorem dX11_play_79 : decode cX11_play 79 = .ok (.iastore, 1) := dk_79 (dk_at dksX11_play_3 9 rfl rfl)
theorem dX11_play_80 : decode cX11_play 80 = .ok (.iinc 2 1, 3) := dk_132 2 1 (dk_at dksX11_play_3 10 rfl rfl)
theorem dX11_play_83 : decode cX11_play 83 = .ok (.goto (-33), 3) := dk_167 255 223 (dk_at dksX11_play_3 13 rfl rfl)
theorem dX11_play_86 : decode cX11_play 86 = .ok (.aload_n 0, 1) := dk_42 (dk_at dksX11_play_3 16 rfl rfl)
theorem dX11_play_87 : decode cX11_play 87 = .ok (.getfield 33, 3) := dk_180 0 33 (dk_at dksX11_play_3 17 rfl rfl)
theorem dX11_play_90 : decode cX11_play 90 = .ok (.iconst 4, 1) := dk_7 (dk_at dksX11_play_3 20 rfl rfl)
theorem dX11_play_91 : decode cX11_play 91 = .ok (.iaload, 1) := dk_46 (dk_at dksX11_play_3 21 rfl rfl)
theorem dX11_play_92 : decode cX11_play 92 = .ok (.iconst (-1), 1) := dk_2 (dk_at dksX11_play_3 22 rfl rfl)
theorem dX11_play_93 : decode cX11_play 93 = .ok (.if_icmp .ne 5, 3) := dk_160 0 5 (dk_at dksX11_play_4 0 rfl rfl)
theorem dX11_play_96 : decode cX11_play 96 = .ok (.iconst 0, 1) := dk_3 (dk_at dksX11_play_4 3 rfl rfl)
theorem dX11_play_97 : decode cX11_play 97 = .ok (.ireturn, 1) := dk_172 (dk_at dksX11_play_4 4 rfl rfl)
theorem dX11_play_98 : decode cX11_play 98 = .ok (.aload_n 0, 1) := dk_42 (dk_at dksX11_play_4 5 rfl rfl)
theorem dX11_play_99 : decode cX11_play 99 = .ok (.invokevirtual 313, 3) := dk_182 1 57 (dk_at dksX11_play_4 6 rfl rfl)
theorem dX11_play_102 : decode cX11_play 102 = .ok (.aload_n 0, 1) := dk_42 (dk_at dksX11_play_4 9 rfl rfl)
theorem dX11_play_103 : decode cX11_play 103 = .ok (.iload_n 1, 1) := dk_27 (dk_at dksX11_play_4 10 rfl rfl)
theorem dX11_play_104 : decode cX11_play 104 = .ok (.iconst 1, 1) := dk_4 (dk_at dksX11_play_4 11 rfl rfl)
theorem dX11_play_105 : decode cX11_play 105 = .ok (.invokevirtual 409, 3) := dk_182 1 153 (dk_at dksX11_play_4 12 rfl rfl)
theorem dX11_play_108 : decode cX11_play 108 = .ok (.ireturn, 1) := dk_172 (dk_at dksX11_play_4 15 rfl rfl)
abbrev cX11_octet : ByteArray := prog_23_method_9_code
def yX11_octet : MethodName := ⟨RX11, "octet", "(I)I"⟩
def dkwX11_octet_0 : List UInt8 := [42, 180, 0, 14, 27, 51, 17, 0, 255, 126, 172]
abbrev dktX11_octet_0 : List UInt8 := dkwX11_octet_0 ++ []
theorem dksX11_octet_0 : cX11_octet.data.toList.drop 0 = dktX11_octet_0 := by decide +kernel
theorem dX11_octet_0 : decode cX11_octet 0 = .ok (.aload_n 0, 1) := dk_42 (dk_at dksX11_octet_0 0 rfl rfl)
theorem dX11_octet_1 : decode cX11_octet 1 = .ok (.getfield 14, 3) := dk_180 0 14 (dk_at dksX11_octet_0 1 rfl rfl)
theorem dX11_octet_4 : decode cX11_octet 4 = .ok (.iload_n 1, 1) := dk_27 (dk_at dksX11_octet_0 4 rfl rfl)
theorem dX11_octet_5 : decode cX11_octet 5 = .ok (.baload, 1) := dk_51 (dk_at dksX11_octet_0 5 rfl rfl)
theorem dX11_octet_6 : decode cX11_octet 6 = .ok (.sipush 255, 3) := dk_17 0 255 (dk_at dksX11_octet_0 6 rfl rfl)
theorem dX11_octet_9 : decode cX11_octet 9 = .ok (.iand, 1) := dk_126 (dk_at dksX11_octet_0 9 rfl rfl)
theorem dX11_octet_10 : decode cX11_octet 10 = .ok (.ireturn, 1) := dk_172 (dk_at dksX11_octet_0 10 rfl rfl)
abbrev cX11_plays : ByteArray := prog_23_method_84_code
def yX11_plays : MethodName := ⟨RX11, "plays", "(IZ)I"⟩
def dkwX11_plays_2 : List UInt8 := [108, 21, 5, 16, 100, 112, 3, 28, 182, 1, 60, 87, 132, 3, 1, 167, 255, 196, 29, 172]
abbrev dktX11_plays_2 : List UInt8 := dkwX11_plays_2 ++ []
def dkwX11_plays_1 : List UInt8 := [54, 4, 42, 21, 4, 42, 180, 0, 90, 21, 4, 46, 182, 1, 147, 54, 5, 42, 21, 4, 21, 5, 16, 100]
abbrev dktX11_plays_1 : List UInt8 := dkwX11_plays_1 ++ dktX11_plays_2
def dkwX11_plays_0 : List UInt8 := [3, 62, 29, 27, 162, 0, 61, 42, 180, 0, 33, 7, 46, 2, 159, 0, 51, 42, 180, 0, 33, 7, 46]
abbrev dktX11_plays_0 : List UInt8 := dkwX11_plays_0 ++ dktX11_plays_1
theorem dksX11_plays_0 : cX11_plays.data.toList.drop 0 = dktX11_plays_0 := by decide +kernel
theorem dksX11_plays_1 : cX11_plays.data.toList.drop 23 = dktX11_plays_1 := dk_seg dksX11_plays_0 23 rfl rfl
theorem dksX11_plays_2 : cX11_plays.data.toList.drop 47 = dktX11_plays_2 := dk_seg dksX11_plays_1 24 rfl rfl
theorem dX11_plays_0 : decode cX11_plays 0 = .ok (.iconst 0, 1) := dk_3 (dk_at dksX11_plays_0 0 rfl rfl)
theorem dX11_plays_1 : decode cX11_plays 1 = .ok (.istore_n 3, 1) := dk_62 (dk_at dksX11_plays_0 1 rfl rfl)
theorem dX11_plays_2 : decode cX11_plays 2 = .ok (.iload_n 3, 1) := dk_29 (dk_at dksX11_plays_0 2 rfl rfl)
theorem dX11_plays_3 : decode cX11_plays 3 = .ok (.iload_n 1, 1) := dk_27 (dk_at dksX11_plays_0 3 rfl rfl)
theorem dX11_plays_4 : decode cX11_plays 4 = .ok (.if_icmp .ge 61, 3) := dk_162 0 61 (dk_at dksX11_plays_0 4 rfl rfl)
theorem dX11_plays_7 : decode cX11_plays 7 = .ok (.aload_n 0, 1) := dk_42 (dk_at dksX11_plays_0 7 rfl rfl)
theorem dX11_plays_8 : decode cX11_plays 8 = .ok (.getfield 33, 3) := dk_180 0 33 (dk_at dksX11_plays_0 8 rfl rfl)
theorem dX11_plays_11 : decode cX11_plays 11 = .ok (.iconst 4, 1) := dk_7 (dk_at dksX11_plays_0 11 rfl rfl)
theorem dX11_plays_12 : decode cX11_plays 12 = .ok (.iaload, 1) := dk_46 (dk_at dksX11_plays_0 12 rfl rfl)
theorem dX11_plays_13 : decode cX11_plays 13 = .ok (.iconst (-1), 1) := dk_2 (dk_at dksX11_plays_0 13 rfl rfl)
theorem dX11_plays_14 : decode cX11_plays 14 = .ok (.if_icmp .eq 51, 3) := dk_159 0 51 (dk_at dksX11_plays_0 14 rfl rfl)
theorem dX11_plays_17 : decode cX11_plays 17 = .ok (.aload_n 0, 1) := dk_42 (dk_at dksX11_plays_0 17 rfl rfl)
theorem dX11_plays_18 : decode cX11_plays 18 = .ok (.getfield 33, 3) := dk_180 0 33 (dk_at dksX11_plays_0 18 rfl rfl)
theorem dX11_plays_21 : decode cX11_plays 21 = .ok (.iconst 4, 1) := dk_7 (dk_at dksX11_plays_0 21 rfl rfl)
theorem dX11_plays_22 : decode cX11_plays 22 = .ok (.iaload, 1) := dk_46 (dk_at dksX11_plays_0 22 rfl rfl)
theorem dX11_plays_23 : decode cX11_plays 23 = .ok (.istore 4, 2) := dk_54 4 (dk_at dksX11_plays_1 0 rfl rfl)
theorem dX11_plays_25 : decode cX11_plays 25 = .ok (.aload_n 0, 1) := dk_42 (dk_at dksX11_plays_1 2 rfl rfl)
theorem dX11_plays_26 : decode cX11_plays 26 = .ok (.iload 4, 2) := dk_21 4 (dk_at dksX11_plays_1 3 rfl rfl)
theorem dX11_plays_28 : decode cX11_plays 28 = .ok (.aload_n 0, 1) := dk_42 (dk_at dksX11_plays_1 5 rfl rfl)
theorem dX11_plays_29 : decode cX11_plays 29 = .ok (.getfield 90, 3) := dk_180 0 90 (dk_at dksX11_plays_1 6 rfl rfl)
theorem dX11_plays_32 : decode cX11_plays 32 = .ok (.iload 4, 2) := dk_21 4 (dk_at dksX11_plays_1 9 rfl rfl)
theorem dX11_plays_34 : decode cX11_plays 34 = .ok (.iaload, 1) := dk_46 (dk_at dksX11_plays_1 11 rfl rfl)
theorem dX11_plays_35 : decode cX11_plays 35 = .ok (.invokevirtual 403, 3) := dk_182 1 147 (dk_at dksX11_plays_1 12 rfl rfl)
theorem dX11_plays_38 : decode cX11_plays 38 = .ok (.istore 5, 2) := dk_54 5 (dk_at dksX11_plays_1 15 rfl rfl)
theorem dX11_plays_40 : decode cX11_plays 40 = .ok (.aload_n 0, 1) := dk_42 (dk_at dksX11_plays_1 17 rfl rfl)
theorem dX11_plays_41 : decode cX11_plays 41 = .ok (.iload 4, 2) := dk_21 4 (dk_at dksX11_plays_1 18 rfl rfl)
theorem dX11_plays_43 : decode cX11_plays 43 = .ok (.iload 5, 2) := dk_21 5 (dk_at dksX11_plays_1 20 rfl rfl)
theorem dX11_plays_45 : decode cX11_plays 45 = .ok (.bipush 100, 2) := dk_16 100 (dk_at dksX11_plays_1 22 rfl rfl)
theorem dX11_plays_47 : decode cX11_plays 47 = .ok (.idiv, 1) := dk_108 (dk_at dksX11_plays_2 0 rfl rfl)
theorem dX11_plays_48 : decode cX11_plays 48 = .ok (.iload 5, 2) := dk_21 5 (dk_at dksX11_plays_2 1 rfl rfl)
theorem dX11_plays_50 : decode cX11_plays 50 = .ok (.bipush 100, 2) := dk_16 100 (dk_at dksX11_plays_2 3 rfl rfl)
theorem dX11_plays_52 : decode cX11_plays 52 = .ok (.irem, 1) := dk_112 (dk_at dksX11_plays_2 5 rfl rfl)
theorem dX11_plays_53 : decode cX11_plays 53 = .ok (.iconst 0, 1) := dk_3 (dk_at dksX11_plays_2 6 rfl rfl)
theorem dX11_plays_54 : decode cX11_plays 54 = .ok (.iload_n 2, 1) := dk_28 (dk_at dksX11_plays_2 7 rfl rfl)
theorem dX11_plays_55 : decode cX11_plays 55 = .ok (.invokevirtual 316, 3) := dk_182 1 60 (dk_at dksX11_plays_2 8 rfl rfl)
theorem dX11_plays_58 : decode cX11_plays 58 = .ok (.pop, 1) := dk_87 (dk_at dksX11_plays_2 11 rfl rfl)
theorem dX11_plays_59 : decode cX11_plays 59 = .ok (.iinc 3 1, 3) := dk_132 3 1 (dk_at dksX11_plays_2 12 rfl rfl)
theorem dX11_plays_62 : decode cX11_plays 62 = .ok (.goto (-60), 3) := dk_167 255 196 (dk_at dksX11_plays_2 15 rfl rfl)
theorem dX11_plays_65 : decode cX11_plays 65 = .ok (.iload_n 3, 1) := dk_29 (dk_at dksX11_plays_2 18 rfl rfl)
theorem dX11_plays_66 : decode cX11_plays 66 = .ok (.ireturn, 1) := dk_172 (dk_at dksX11_plays_2 19 rfl rfl)
abbrev cX11_deal : ByteArray := prog_23_method_88_code
def yX11_deal : MethodName := ⟨RX11, "deal", "(II)Z"⟩
def dkwX11_deal_2 : List UInt8 := [104, 164, 0, 5, 3, 172, 42, 182, 1, 57, 42, 27, 28, 182, 1, 164, 4, 172]
abbrev dktX11_deal_2 : List UInt8 := dkwX11_deal_2 ++ []
def dkwX11_deal_1 : List UInt8 := [42, 180, 0, 33, 3, 46, 153, 0, 22, 27, 42, 180, 0, 33, 4, 46, 104, 7, 42, 180, 0, 33, 3, 46]
abbrev dktX11_deal_1 : List UInt8 := dkwX11_deal_1 ++ dktX11_deal_2
def dkwX11_deal_0 : List UInt8 := [42, 3, 181, 0, 1, 27, 4, 16, 9, 184, 0, 195, 153, 0, 40, 42, 180, 0, 33, 4, 46, 153, 0, 31]
abbrev dktX11_deal_0 : List UInt8 := dkwX11_deal_0 ++ dktX11_deal_1
theorem dksX11_deal_0 : cX11_deal.data.toList.drop 0 = dktX11_deal_0 := by decide +kernel
theorem dksX11_deal_1 : cX11_deal.data.toList.drop 24 = dktX11_deal_1 := dk_seg dksX11_deal_0 24 rfl rfl
theorem dksX11_deal_2 : cX11_deal.data.toList.drop 48 = dktX11_deal_2 := dk_seg dksX11_deal_1 24 rfl rfl
theorem dX11_deal_0 : decode cX11_deal 0 = .ok (.aload_n 0, 1) := dk_42 (dk_at dksX11_deal_0 0 rfl rfl)
theorem dX11_deal_1 : decode cX11_deal 1 = .ok (.iconst 0, 1) := dk_3 (dk_at dksX11_deal_0 1 rfl rfl)
theorem dX11_deal_2 : decode cX11_deal 2 = .ok (.putfield 1, 3) := dk_181 0 1 (dk_at dksX11_deal_0 2 rfl rfl)
theorem dX11_deal_5 : decode cX11_deal 5 = .ok (.iload_n 1, 1) := dk_27 (dk_at dksX11_deal_0 5 rfl rfl)
theorem dX11_deal_6 : decode cX11_deal 6 = .ok (.iconst 1, 1) := dk_4 (dk_at dksX11_deal_0 6 rfl rfl)
theorem dX11_deal_7 : decode cX11_deal 7 = .ok (.bipush 9, 2) := dk_16 9 (dk_at dksX11_deal_0 7 rfl rfl)
theorem dX11_deal_9 : decode cX11_deal 9 = .ok (.invokestatic 195, 3) := dk_184 0 195 (dk_at dksX11_deal_0 9 rfl rfl)
theorem dX11_deal_12 : decode cX11_deal 12 = .ok (.ifCond .eq 40, 3) := dk_153 0 40 (dk_at dksX11_deal_0 12 rfl rfl)
theorem dX11_deal_15 : decode cX11_deal 15 = .ok (.aload_n 0, 1) := dk_42 (dk_at dksX11_deal_0 15 rfl rfl)
theorem dX11_deal_16 : decode cX11_deal 16 = .ok (.getfield 33, 3) := dk_180 0 33 (dk_at dksX11_deal_0 16 rfl rfl)
theorem dX11_deal_19 : decode cX11_deal 19 = .ok (.iconst 1, 1) := dk_4 (dk_at dksX11_deal_0 19 rfl rfl)
theorem dX11_deal_20 : decode cX11_deal 20 = .ok (.iaload, 1) := dk_46 (dk_at dksX11_deal_0 20 rfl rfl)
theorem dX11_deal_21 : decode cX11_deal 21 = .ok (.ifCond .eq 31, 3) := dk_153 0 31 (dk_at dksX11_deal_0 21 rfl rfl)
theorem dX11_deal_24 : decode cX11_deal 24 = .ok (.aload_n 0, 1) := dk_42 (dk_at dksX11_deal_1 0 rfl rfl)
theorem dX11_deal_25 : decode cX11_deal 25 = .ok (.getfield 33, 3) := dk_180 0 33 (dk_at dksX11_deal_1 1 rfl rfl)
theorem dX11_deal_28 : decode cX11_deal 28 = .ok (.iconst 0, 1) := dk_3 (dk_at dksX11_deal_1 4 rfl rfl)
theorem dX11_deal_29 : decode cX11_deal 29 = .ok (.iaload, 1) := dk_46 (dk_at dksX11_deal_1 5 rfl rfl)
theorem dX11_deal_30 : decode cX11_deal 30 = .ok (.ifCond .eq 22, 3) := dk_153 0 22 (dk_at dksX11_deal_1 6 rfl rfl)
theorem dX11_deal_33 : decode cX11_deal 33 = .ok (.iload_n 1, 1) := dk_27 (dk_at dksX11_deal_1 9 rfl rfl)
theorem dX11_deal_34 : decode cX11_deal 34 = .ok (.aload_n 0, 1) := dk_42 (dk_at dksX11_deal_1 10 rfl rfl)
theorem dX11_deal_35 : decode cX11_deal 35 = .ok (.getfield 33, 3) := dk_180 0 33 (dk_at dksX11_deal_1 11 rfl rfl)
theorem dX11_deal_38 : decode cX11_deal 38 = .ok (.iconst 1, 1) := dk_4 (dk_at dksX11_deal_1 14 rfl rfl)
theorem dX11_deal_39 : decode cX11_deal 39 = .ok (.iaload, 1) := dk_46 (dk_at dksX11_deal_1 15 rfl rfl)
theorem dX11_deal_40 : decode cX11_deal 40 = .ok (.imul, 1) := dk_104 (dk_at dksX11_deal_1 16 rfl rfl)
theorem dX11_deal_41 : decode cX11_deal 41 = .ok (.iconst 4, 1) := dk_7 (dk_at dksX11_deal_1 17 rfl rfl)
theorem dX11_deal_42 : decode cX11_deal 42 = .ok (.aload_n 0, 1) := dk_42 (dk_at dksX11_deal_1 18 rfl rfl)
theorem dX11_deal_43 : decode cX11_deal 43 = .ok (.getfield 33, 3) := dk_180 0 33 (dk_at dksX11_deal_1 19 rfl rfl)
theorem dX11_deal_46 : decode cX11_deal 46 = .ok (.iconst 0, 1) := dk_3 (dk_at dksX11_deal_1 22 rfl rfl)
theorem dX11_deal_47 : decode cX11_deal 47 = .ok (.iaload, 1) := dk_46 (dk_at dksX11_deal_1 23 rfl rfl)
theorem dX11_deal_48 : decode cX11_deal 48 = .ok (.imul, 1) := dk_104 (dk_at dksX11_deal_2 0 rfl rfl)
theorem dX11_deal_49 : decode cX11_deal 49 = .ok (.if_icmp .le 5, 3) := dk_164 0 5 (dk_at dksX11_deal_2 1 rfl rfl)
theorem dX11_deal_52 : decode cX11_deal 52 = .ok (.iconst 0, 1) := dk_3 (dk_at dksX11_deal_2 4 rfl rfl)
theorem dX11_deal_53 : decode cX11_deal 53 = .ok (.ireturn, 1) := dk_172 (dk_at dksX11_deal_2 5 rfl rfl)
theorem dX11_deal_54 : decode cX11_deal 54 = .ok (.aload_n 0, 1) := dk_42 (dk_at dksX11_deal_2 6 rfl rfl)
theorem dX11_deal_55 : decode cX11_deal 55 = .ok (.invokevirtual 313, 3) := dk_182 1 57 (dk_at dksX11_deal_2 7 rfl rfl)
theorem dX11_deal_58 : decode cX11_deal 58 = .ok (.aload_n 0, 1) := dk_42 (dk_at dksX11_deal_2 10 rfl rfl)
theorem dX11_deal_59 : decode cX11_deal 59 = .ok (.iload_n 1, 1) := dk_27 (dk_at dksX11_deal_2 11 rfl rfl)
theorem dX11_deal_60 : decode cX11_deal 60 = .ok (.iload_n 2, 1) := dk_28 (dk_at dksX11_deal_2 12 rfl rfl)
theorem dX11_deal_61 : decode cX11_deal 61 = .ok (.invokevirtual 420, 3) := dk_182 1 164 (dk_at dksX11_deal_2 13 rfl rfl)
theorem dX11_deal_64 : decode cX11_deal 64 = .ok (.iconst 1, 1) := dk_4 (dk_at dksX11_deal_2 16 rfl rfl)
theorem dX11_deal_65 : decode cX11_deal 65 = .ok (.ireturn, 1) := dk_172 (dk_at dksX11_deal_2 17 rfl rfl)
abbrev cX11_deals : ByteArray := prog_23_method_87_code
def yX11_deals : MethodName := ⟨RX11, "deals", "(II)V"⟩
def dkwX11_deals_10 : List UInt8 := [132, 4, 1, 167, 255, 181, 42, 182, 0, 249, 177]
abbrev dktX11_deals_10 : List UInt8 := dkwX11_deals_10 ++ []
def dkwX11_deals_9 : List UInt8 := [16, 7, 46, 96, 42, 180, 0, 93, 21, 4, 46, 79, 42, 180, 0, 33, 16, 7, 92, 46, 4, 96, 79]
abbrev dktX11_deals_9 : List UInt8 := dkwX11_deals_9 ++ dktX11_deals_10
def dkwX11_deals_8 : List UInt8 := [180, 0, 93, 21, 4, 46, 4, 182, 0, 255, 87, 167, 0, 36, 42, 180, 0, 33, 16, 8, 42, 180, 0, 33]
abbrev dktX11_deals_8 : List UInt8 := dkwX11_deals_8 ++ dktX11_deals_9
def dkwX11_deals_7 : List UInt8 := [162, 0, 75, 21, 4, 27, 42, 180, 0, 33, 4, 46, 104, 162, 0, 23, 42, 21, 4, 27, 108, 42]
abbrev dktX11_deals_7 : List UInt8 := dkwX11_deals_7 ++ dktX11_deals_8
def dkwX11_deals_6 : List UInt8 := [180, 0, 33, 17, 2, 59, 21, 4, 96, 7, 79, 132, 4, 1, 167, 255, 230, 3, 54, 4, 21, 4, 29]
abbrev dktX11_deals_6 : List UInt8 := dkwX11_deals_6 ++ dktX11_deals_7
def dkwX11_deals_5 : List UInt8 := [96, 3, 79, 132, 4, 1, 167, 255, 235, 3, 54, 4, 21, 4, 42, 180, 0, 33, 3, 46, 162, 0, 21, 42]
abbrev dktX11_deals_5 : List UInt8 := dkwX11_deals_5 ++ dktX11_deals_6
def dkwX11_deals_4 : List UInt8 := [132, 4, 255, 167, 255, 206, 3, 54, 4, 21, 4, 17, 2, 68, 162, 0, 19, 42, 180, 0, 33, 7, 21, 4]
abbrev dktX11_deals_4 : List UInt8 := dkwX11_deals_4 ++ dktX11_deals_5
def dkwX11_deals_3 : List UInt8 := [180, 0, 93, 21, 4, 42, 180, 0, 93, 21, 5, 46, 79, 42, 180, 0, 93, 21, 5, 21, 6, 79]
abbrev dktX11_deals_3 : List UInt8 := dkwX11_deals_3 ++ dktX11_deals_4
def dkwX11_deals_2 : List UInt8 := [158, 0, 51, 42, 21, 4, 4, 96, 182, 1, 161, 54, 5, 42, 180, 0, 93, 21, 4, 46, 54, 6, 42]
abbrev dktX11_deals_2 : List UInt8 := dkwX11_deals_2 ++ dktX11_deals_3
def dkwX11_deals_1 : List UInt8 := [180, 0, 93, 21, 4, 21, 4, 7, 108, 79, 132, 4, 1, 167, 255, 236, 29, 4, 100, 54, 4, 21, 4]
abbrev dktX11_deals_1 : List UInt8 := dkwX11_deals_1 ++ dktX11_deals_2
def dkwX11_deals_0 : List UInt8 := [7, 42, 180, 0, 33, 3, 46, 104, 62, 42, 28, 181, 1, 157, 3, 54, 4, 21, 4, 29, 162, 0, 20, 42]
abbrev dktX11_deals_0 : List UInt8 := dkwX11_deals_0 ++ dktX11_deals_1
theorem dksX11_deals_0 : cX11_deals.data.toList.drop 0 = dktX11_deals_0 := by decide +kernel
theorem dksX11_deals_1 : cX11_deals.data.toList.drop 24 = dktX11_deals_1 := dk_seg dksX11_deals_0 24 rfl rfl
theorem dksX11_deals_2 : cX11_deals.data.toList.drop 47 = dktX11_deals_2 := dk_seg dksX11_deals_1 23 rfl rfl
theorem dksX11_deals_3 : cX11_deals.data.toList.drop 70 = dktX11_deals_3 := dk_seg dksX11_deals_2 23 rfl rfl
theorem dksX11_deals_4 : cX11_deals.data.toList.drop 92 = dktX11_deals_4 := dk_seg dksX11_deals_3 22 rfl rfl
theorem dksX11_deals_5 : cX11_deals.data.toList.drop 116 = dktX11_deals_5 := dk_seg dksX11_deals_4 24 rfl rfl
theorem dksX11_deals_6 : cX11_deals.data.toList.drop 140 = dktX11_deals_6 := dk_seg dksX11_deals_5 24 rfl rfl
theorem dksX11_deals_7 : cX11_deals.data.toList.drop 163 = dktX11_deals_7 := dk_seg dksX11_deals_6 23 rfl rfl
theorem dksX11_deals_8 : cX11_deals.data.toList.drop 185 = dktX11_deals_8 := dk_seg dksX11_deals_7 22 rfl rfl
theorem dksX11_deals_9 : cX11_deals.data.toList.drop 209 = dktX11_deals_9 := dk_seg dksX11_deals_8 24 rfl rfl
theorem dksX11_deals_10 : cX11_deals.data.toList.drop 232 = dktX11_deals_10 := dk_seg dksX11_deals_9 23 rfl rfl
theorem dX11_deals_0 : decode cX11_deals 0 = .ok (.iconst 4, 1) := dk_7 (dk_at dksX11_deals_0 0 rfl rfl)
theorem dX11_deals_1 : decode cX11_deals 1 = .ok (.aload_n 0, 1) := dk_42 (dk_at dksX11_deals_0 1 rfl rfl)
theorem dX11_deals_2 : decode cX11_deals 2 = .ok (.getfield 33, 3) := dk_180 0 33 (dk_at dksX11_deals_0 2 rfl rfl)
theorem dX11_deals_5 : decode cX11_deals 5 = .ok (.iconst 0, 1) := dk_3 (dk_at dksX11_deals_0 5 rfl rfl)
theorem dX11_deals_6 : decode cX11_deals 6 = .ok (.iaload, 1) := dk_46 (dk_at dksX11_deals_0 6 rfl rfl)
theorem dX11_deals_7 : decode cX11_deals 7 = .ok (.imul, 1) := dk_104 (dk_at dksX11_deals_0 7 rfl rfl)
theorem dX11_deals_8 : decode cX11_deals 8 = .ok (.istore_n 3, 1) := dk_62 (dk_at dksX11_deals_0 8 rfl rfl)
theorem dX11_deals_9 : decode cX11_deals 9 = .ok (.aload_n 0, 1) := dk_42 (dk_at dksX11_deals_0 9 rfl rfl)
theorem dX11_deals_10 : decode cX11_deals 10 = .ok (.iload_n 2, 1) := dk_28 (dk_at dksX11_deals_0 10 rfl rfl)
theorem dX11_deals_11 : decode cX11_deals 11 = .ok (.putfield 413, 3) := dk_181 1 157 (dk_at dksX11_deals_0 11 rfl rfl)
theorem dX11_deals_14 : decode cX11_deals 14 = .ok (.iconst 0, 1) := dk_3 (dk_at dksX11_deals_0 14 rfl rfl)
theorem dX11_deals_15 : decode cX11_deals 15 = .ok (.istore 4, 2) := dk_54 4 (dk_at dksX11_deals_0 15 rfl rfl)
theorem dX11_deals_17 : decode cX11_deals 17 = .ok (.iload 4, 2) := dk_21 4 (dk_at dksX11_deals_0 17 rfl rfl)
theorem dX11_deals_19 : decode cX11_deals 19 = .ok (.iload_n 3, 1) := dk_29 (dk_at dksX11_deals_0 19 rfl rfl)
theorem dX11_deals_20 : decode cX11_deals 20 = .ok (.if_icmp .ge 20, 3) := dk_162 0 20 (dk_at dksX11_deals_0 20 rfl rfl)
theorem dX11_deals_23 : decode cX11_deals 23 = .ok (.aload_n 0, 1) := dk_42 (dk_at dksX11_deals_0 23 rfl rfl)
theorem dX11_deals_24 : decode cX11_deals 24 = .ok (.getfield 93, 3) := dk_180 0 93 (dk_at dksX11_deals_1 0 rfl rfl)
theorem dX11_deals_27 : decode cX11_deals 27 = .ok (.iload 4, 2) := dk_21 4 (dk_at dksX11_deals_1 3 rfl rfl)
theorem dX11_deals_29 : decode cX11_deals 29 = .ok (.iload 4, 2) := dk_21 4 (dk_at dksX11_deals_1 5 rfl rfl)
theorem dX11_deals_31 : decode cX11_deals 31 = .ok (.iconst 4, 1) := dk_7 (dk_at dksX11_deals_1 7 rfl rfl)
theorem dX11_deals_32 : decode cX11_deals 32 = .ok (.idiv, 1) := dk_108 (dk_at dksX11_deals_1 8 rfl rfl)
theorem dX11_deals_33 : decode cX11_deals 33 = .ok (.iastore, 1) := dk_79 (dk_at dksX11_deals_1 9 rfl rfl)
theorem dX11_deals_34 : decode cX11_deals 34 = .ok (.iinc 4 1, 3) := dk_132 4 1 (dk_at dksX11_deals_1 10 rfl rfl)
theorem dX11_deals_37 : decode cX11_deals 37 = .ok (.goto (-20), 3) := dk_167 255 236 (dk_at dksX11_deals_1 13 rfl rfl)
theorem dX11_deals_40 : decode cX11_deals 40 = .ok (.iload_n 3, 1) := dk_29 (dk_at dksX11_deals_1 16 rfl rfl)
theorem dX11_deals_41 : decode cX11_deals 41 = .ok (.iconst 1, 1) := dk_4 (dk_at dksX11_deals_1 17 rfl rfl)
theorem dX11_deals_42 : decode cX11_deals 42 = .ok (.isub, 1) := dk_100 (dk_at dksX11_deals_1 18 rfl rfl)
theorem dX11_deals_43 : decode cX11_deals 43 = .ok (.istore 4, 2) := dk_54 4 (dk_at dksX11_deals_1 19 rfl rfl)
theorem dX11_deals_45 : decode cX11_deals 45 = .ok (.iload 4, 2) := dk_21 4 (dk_at dksX11_deals_1 21 rfl rfl)
theorem dX11_deals_47 : decode cX11_deals 47 = .ok (.ifCond .le 51, 3) := dk_158 0 51 (dk_at dksX11_deals_2 0 rfl rfl)
theorem dX11_deals_50 : decode cX11_deals 50 = .ok (.aload_n 0, 1) := dk_42 (dk_at dksX11_deals_2 3 rfl rfl)
theorem dX11_deals_51 : decode cX11_deals 51 = .ok (.iload 4, 2) := dk_21 4 (dk_at dksX11_deals_2 4 rfl rfl)
theorem dX11_deals_53 : decode cX11_deals 53 = .ok (.iconst 1, 1) := dk_4 (dk_at dksX11_deals_2 6 rfl rfl)
theorem dX11_deals_54 : decode cX11_deals 54 = .ok (.iadd, 1) := dk_96 (dk_at dksX11_deals_2 7 rfl rfl)
theorem dX11_deals_55 : decode cX11_deals 55 = .ok (.invokevirtual 417, 3) := dk_182 1 161 (dk_at dksX11_deals_2 8 rfl rfl)
theorem dX11_deals_58 : decode cX11_deals 58 = .ok (.istore 5, 2) := dk_54 5 (dk_at dksX11_deals_2 11 rfl rfl)
theorem dX11_deals_60 : decode cX11_deals 60 = .ok (.aload_n 0, 1) := dk_42 (dk_at dksX11_deals_2 13 rfl rfl)
theorem dX11_deals_61 : decode cX11_deals 61 = .ok (.getfield 93, 3) := dk_180 0 93 (dk_at dksX11_deals_2 14 rfl rfl)
theorem dX11_deals_64 : decode cX11_deals 64 = .ok (.iload 4, 2) := dk_21 4 (dk_at dksX11_deals_2 17 rfl rfl)
theorem dX11_deals_66 : decode cX11_deals 66 = .ok (.iaload, 1) := dk_46 (dk_at dksX11_deals_2 19 rfl rfl)
theorem dX11_deals_67 : decode cX11_deals 67 = .ok (.istore 6, 2) := dk_54 6 (dk_at dksX11_deals_2 20 rfl rfl)
theorem dX11_deals_69 : decode cX11_deals 69 = .ok (.aload_n 0, 1) := dk_42 (dk_at dksX11_deals_2 22 rfl rfl)
theorem dX11_deals_70 : decode cX11_deals 70 = .ok (.getfield 93, 3) := dk_180 0 93 (dk_at dksX11_deals_3 0 rfl rfl)
theorem dX11_deals_73 : decode cX11_deals 73 = .ok (.iload 4, 2) := dk_21 4 (dk_at dksX11_deals_3 3 rfl rfl)
theorem dX11_deals_75 : decode cX11_deals 75 = .ok (.aload_n 0, 1) := dk_42 (dk_at dksX11_deals_3 5 rfl rfl)
theorem dX11_deals_76 : decode cX11_deals 76 = .ok (.getfield 93, 3) := dk_180 0 93 (dk_at dksX11_deals_3 6 rfl rfl)
theorem dX11_deals_79 : decode cX11_deals 79 = .ok (.iload 5, 2) := dk_21 5 (dk_at dksX11_deals_3 9 rfl rfl)
theorem dX11_deals_81 : decode cX11_deals 81 = .ok (.iaload, 1) := dk_46 (dk_at dksX11_deals_3 11 rfl rfl)
theorem dX11_deals_82 : decode cX11_deals 82 = .ok (.iastore, 1) := dk_79 (dk_at dksX11_deals_3 12 rfl rfl)
theorem dX11_deals_83 : decode cX11_deals 83 = .ok (.aload_n 0, 1) := dk_42 (dk_at dksX11_deals_3 13 rfl rfl)
theorem dX11_deals_84 : decode cX11_deals 84 = .ok (.getfield 93, 3) := dk_180 0 93 (dk_at dksX11_deals_3 14 rfl rfl)
theorem dX11_deals_87 : decode cX11_deals 87 = .ok (.iload 5, 2) := dk_21 5 (dk_at dksX11_deals_3 17 rfl rfl)
theorem dX11_deals_89 : decode cX11_deals 89 = .ok (.iload 6, 2) := dk_21 6 (dk_at dksX11_deals_3 19 rfl rfl)
theorem dX11_deals_91 : decode cX11_deals 91 = .ok (.iastore, 1) := dk_79 (dk_at dksX11_deals_3 21 rfl rfl)
theorem dX11_deals_92 : decode cX11_deals 92 = .ok (.iinc 4 (-1), 3) := dk_132 4 255 (dk_at dksX11_deals_4 0 rfl rfl)
theorem dX11_deals_95 : decode cX11_deals 95 = .ok (.goto (-50), 3) := dk_167 255 206 (dk_at dksX11_deals_4 3 rfl rfl)
theorem dX11_deals_98 : decode cX11_deals 98 = .ok (.iconst 0, 1) := dk_3 (dk_at dksX11_deals_4 6 rfl rfl)
theorem dX11_deals_99 : decode cX11_deals 99 = .ok (.istore 4, 2) := dk_54 4 (dk_at dksX11_deals_4 7 rfl rfl)
theorem dX11_deals_101 : decode cX11_deals 101 = .ok (.iload 4, 2) := dk_21 4 (dk_at dksX11_deals_4 9 rfl rfl)
theorem dX11_deals_103 : decode cX11_deals 103 = .ok (.sipush 580, 3) := dk_17 2 68 (dk_at dksX11_deals_4 11 rfl rfl)
theorem dX11_deals_106 : decode cX11_deals 106 = .ok (.if_icmp .ge 19, 3) := dk_162 0 19 (dk_at dksX11_deals_4 14 rfl rfl)
theorem dX11_deals_109 : decode cX11_deals 109 = .ok (.aload_n 0, 1) := dk_42 (dk_at dksX11_deals_4 17 rfl rfl)
theorem dX11_deals_110 : decode cX11_deals 110 = .ok (.getfield 33, 3) := dk_180 0 33 (dk_at dksX11_deals_4 18 rfl rfl)
theorem dX11_deals_113 : decode cX11_deals 113 = .ok (.iconst 4, 1) := dk_7 (dk_at dksX11_deals_4 21 rfl rfl)
theorem dX11_deals_114 : decode cX11_deals 114 = .ok (.iload 4, 2) := dk_21 4 (dk_at dksX11_deals_4 22 rfl rfl)
theorem dX11_deals_116 : decode cX11_deals 116 = .ok (.iadd, 1) := dk_96 (dk_at dksX11_deals_5 0 rfl rfl)
theorem dX11_deals_117 : decode cX11_deals 117 = .ok (.iconst 0, 1) := dk_3 (dk_at dksX11_deals_5 1 rfl rfl)
theorem dX11_deals_118 : decode cX11_deals 118 = .ok (.iastore, 1) := dk_79 (dk_at dksX11_deals_5 2 rfl rfl)
theorem dX11_deals_119 : decode cX11_deals 119 = .ok (.iinc 4 1, 3) := dk_132 4 1 (dk_at dksX11_deals_5 3 rfl rfl)
theorem dX11_deals_122 : decode cX11_deals 122 = .ok (.goto (-21), 3) := dk_167 255 235 (dk_at dksX11_deals_5 6 rfl rfl)
theorem dX11_deals_125 : decode cX11_deals 125 = .ok (.iconst 0, 1) := dk_3 (dk_at dksX11_deals_5 9 rfl rfl)
theorem dX11_deals_126 : decode cX11_deals 126 = .ok (.istore 4, 2) := dk_54 4 (dk_at dksX11_deals_5 10 rfl rfl)
theorem dX11_deals_128 : decode cX11_deals 128 = .ok (.iload 4, 2) := dk_21 4 (dk_at dksX11_deals_5 12 rfl rfl)
theorem dX11_deals_130 : decode cX11_deals 130 = .ok (.aload_n 0, 1) := dk_42 (dk_at dksX11_deals_5 14 rfl rfl)
theorem dX11_deals_131 : decode cX11_deals 131 = .ok (.getfield 33, 3) := dk_180 0 33 (dk_at dksX11_deals_5 15 rfl rfl)
theorem dX11_deals_134 : decode cX11_deals 134 = .ok (.iconst 0, 1) := dk_3 (dk_at dksX11_deals_5 18 rfl rfl)
theorem dX11_deals_135 : decode cX11_deals 135 = .ok (.iaload, 1) := dk_46 (dk_at dksX11_deals_5 19 rfl rfl)
theorem dX11_deals_136 : decode cX11_deals 136 = .ok (.if_icmp .ge 21, 3) := dk_162 0 21 (dk_at dksX11_deals_5 20 rfl rfl)
theorem dX11_deals_139 : decode cX11_deals 139 = .ok (.aload_n 0, 1) := dk_42 (dk_at dksX11_deals_5 23 rfl rfl)
theorem dX11_deals_140 : decode cX11_deals 140 = .ok (.getfield 33, 3) := dk_180 0 33 (dk_at dksX11_deals_6 0 rfl rfl)
theorem dX11_deals_143 : decode cX11_deals 143 = .ok (.sipush 571, 3) := dk_17 2 59 (dk_at dksX11_deals_6 3 rfl rfl)
theorem dX11_deals_146 : decode cX11_deals 146 = .ok (.iload 4, 2) := dk_21 4 (dk_at dksX11_deals_6 6 rfl rfl)
theorem dX11_deals_148 : decode cX11_deals 148 = .ok (.iadd, 1) := dk_96 (dk_at dksX11_deals_6 8 rfl rfl)
theorem dX11_deals_149 : decode cX11_deals 149 = .ok (.iconst 4, 1) := dk_7 (dk_at dksX11_deals_6 9 rfl rfl)
theorem dX11_deals_150 : decode cX11_deals 150 = .ok (.iastore, 1) := dk_79 (dk_at dksX11_deals_6 10 rfl rfl)
theorem dX11_deals_151 : decode cX11_deals 151 = .ok (.iinc 4 1, 3) := dk_132 4 1 (dk_at dksX11_deals_6 11 rfl rfl)
theorem dX11_deals_154 : decode cX11_deals 154 = .ok (.goto (-26), 3) := dk_167 255 230 (dk_at dksX11_deals_6 14 rfl rfl)
theorem dX11_deals_157 : decode cX11_deals 157 = .ok (.iconst 0, 1) := dk_3 (dk_at dksX11_deals_6 17 rfl rfl)
theorem dX11_deals_158 : decode cX11_deals 158 = .ok (.istore 4, 2) := dk_54 4 (dk_at dksX11_deals_6 18 rfl rfl)
theorem dX11_deals_160 : decode cX11_deals 160 = .ok (.iload 4, 2) := dk_21 4 (dk_at dksX11_deals_6 20 rfl rfl)
theorem dX11_deals_162 : decode cX11_deals 162 = .ok (.iload_n 3, 1) := dk_29 (dk_at dksX11_deals_6 22 rfl rfl)
theorem dX11_deals_163 : decode cX11_deals 163 = .ok (.if_icmp .ge 75, 3) := dk_162 0 75 (dk_at dksX11_deals_7 0 rfl rfl)
theorem dX11_deals_166 : decode cX11_deals 166 = .ok (.iload 4, 2) := dk_21 4 (dk_at dksX11_deals_7 3 rfl rfl)
theorem dX11_deals_168 : decode cX11_deals 168 = .ok (.iload_n 1, 1) := dk_27 (dk_at dksX11_deals_7 5 rfl rfl)
theorem dX11_deals_169 : decode cX11_deals 169 = .ok (.aload_n 0, 1) := dk_42 (dk_at dksX11_deals_7 6 rfl rfl)
theorem dX11_deals_170 : decode cX11_deals 170 = .ok (.getfield 33, 3) := dk_180 0 33 (dk_at dksX11_deals_7 7 rfl rfl)
theorem dX11_deals_173 : decode cX11_deals 173 = .ok (.iconst 1, 1) := dk_4 (dk_at dksX11_deals_7 10 rfl rfl)
theorem dX11_deals_174 : decode cX11_deals 174 = .ok (.iaload, 1) := dk_46 (dk_at dksX11_deals_7 11 rfl rfl)
theorem dX11_deals_175 : decode cX11_deals 175 = .ok (.imul, 1) := dk_104 (dk_at dksX11_deals_7 12 rfl rfl)
theorem dX11_deals_176 : decode cX11_deals 176 = .ok (.if_icmp .ge 23, 3) := dk_162 0 23 (dk_at dksX11_deals_7 13 rfl rfl)
theorem dX11_deals_179 : decode cX11_deals 179 = .ok (.aload_n 0, 1) := dk_42 (dk_at dksX11_deals_7 16 rfl rfl)
theorem dX11_deals_180 : decode cX11_deals 180 = .ok (.iload 4, 2) := dk_21 4 (dk_at dksX11_deals_7 17 rfl rfl)
theorem dX11_deals_182 : decode cX11_deals 182 = .ok (.iload_n 1, 1) := dk_27 (dk_at dksX11_deals_7 19 rfl rfl)
theorem dX11_deals_183 : decode cX11_deals 183 = .ok (.idiv, 1) := dk_108 (dk_at dksX11_deals_7 20 rfl rfl)
theorem dX11_deals_184 : decode cX11_deals 184 = .ok (.aload_n 0, 1) := dk_42 (dk_at dksX11_deals_7 21 rfl rfl)
theorem dX11_deals_185 : decode cX11_deals 185 = .ok (.getfield 93, 3) := dk_180 0 93 (dk_at dksX11_deals_8 0 rfl rfl)
theorem dX11_deals_188 : decode cX11_deals 188 = .ok (.iload 4, 2) := dk_21 4 (dk_at dksX11_deals_8 3 rfl rfl)
theorem dX11_deals_190 : decode cX11_deals 190 = .ok (.iaload, 1) := dk_46 (dk_at dksX11_deals_8 5 rfl rfl)
theorem dX11_deals_191 : decode cX11_deals 191 = .ok (.iconst 1, 1) := dk_4 (dk_at dksX11_deals_8 6 rfl rfl)
theorem dX11_deals_192 : decode cX11_deals 192 = .ok (.invokevirtual 255, 3) := dk_182 0 255 (dk_at dksX11_deals_8 7 rfl rfl)
theorem dX11_deals_195 : decode cX11_deals 195 = .ok (.pop, 1) := dk_87 (dk_at dksX11_deals_8 10 rfl rfl)
theorem dX11_deals_196 : decode cX11_deals 196 = .ok (.goto 36, 3) := dk_167 0 36 (dk_at dksX11_deals_8 11 rfl rfl)
theorem dX11_deals_199 : decode cX11_deals 199 = .ok (.aload_n 0, 1) := dk_42 (dk_at dksX11_deals_8 14 rfl rfl)
theorem dX11_deals_200 : decode cX11_deals 200 = .ok (.getfield 33, 3) := dk_180 0 33 (dk_at dksX11_deals_8 15 rfl rfl)
theorem dX11_deals_203 : decode cX11_deals 203 = .ok (.bipush 8, 2) := dk_16 8 (dk_at dksX11_deals_8 18 rfl rfl)
theorem dX11_deals_205 : decode cX11_deals 205 = .ok (.aload_n 0, 1) := dk_42 (dk_at dksX11_deals_8 20 rfl rfl)
theorem dX11_deals_206 : decode cX11_deals 206 = .ok (.getfield 33, 3) := dk_180 0 33 (dk_at dksX11_deals_8 21 rfl rfl)
theorem dX11_deals_209 : decode cX11_deals 209 = .ok (.bipush 7, 2) := dk_16 7 (dk_at dksX11_deals_9 0 rfl rfl)
theorem dX11_deals_211 : decode cX11_deals 211 = .ok (.iaload, 1) := dk_46 (dk_at dksX11_deals_9 2 rfl rfl)
theorem dX11_deals_212 : decode cX11_deals 212 = .ok (.iadd, 1) := dk_96 (dk_at dksX11_deals_9 3 rfl rfl)
theorem dX11_deals_213 : decode cX11_deals 213 = .ok (.aload_n 0, 1) := dk_42 (dk_at dksX11_deals_9 4 rfl rfl)
theorem dX11_deals_214 : decode cX11_deals 214 = .ok (.getfield 93, 3) := dk_180 0 93 (dk_at dksX11_deals_9 5 rfl rfl)
theorem dX11_deals_217 : decode cX11_deals 217 = .ok (.iload 4, 2) := dk_21 4 (dk_at dksX11_deals_9 8 rfl rfl)
theorem dX11_deals_219 : decode cX11_deals 219 = .ok (.iaload, 1) := dk_46 (dk_at dksX11_deals_9 10 rfl rfl)
theorem dX11_deals_220 : decode cX11_deals 220 = .ok (.iastore, 1) := dk_79 (dk_at dksX11_deals_9 11 rfl rfl)
theorem dX11_deals_221 : decode cX11_deals 221 = .ok (.aload_n 0, 1) := dk_42 (dk_at dksX11_deals_9 12 rfl rfl)
theorem dX11_deals_222 : decode cX11_deals 222 = .ok (.getfield 33, 3) := dk_180 0 33 (dk_at dksX11_deals_9 13 rfl rfl)
theorem dX11_deals_225 : decode cX11_deals 225 = .ok (.bipush 7, 2) := dk_16 7 (dk_at dksX11_deals_9 16 rfl rfl)
theorem dX11_deals_227 : decode cX11_deals 227 = .ok (.dup2, 1) := dk_92 (dk_at dksX11_deals_9 18 rfl rfl)
theorem dX11_deals_228 : decode cX11_deals 228 = .ok (.iaload, 1) := dk_46 (dk_at dksX11_deals_9 19 rfl rfl)
theorem dX11_deals_229 : decode cX11_deals 229 = .ok (.iconst 1, 1) := dk_4 (dk_at dksX11_deals_9 20 rfl rfl)
theorem dX11_deals_230 : decode cX11_deals 230 = .ok (.iadd, 1) := dk_96 (dk_at dksX11_deals_9 21 rfl rfl)
theorem dX11_deals_231 : decode cX11_deals 231 = .ok (.iastore, 1) := dk_79 (dk_at dksX11_deals_9 22 rfl rfl)
theorem dX11_deals_232 : decode cX11_deals 232 = .ok (.iinc 4 1, 3) := dk_132 4 1 (dk_at dksX11_deals_10 0 rfl rfl)
theorem dX11_deals_235 : decode cX11_deals 235 = .ok (.goto (-75), 3) := dk_167 255 181 (dk_at dksX11_deals_10 3 rfl rfl)
theorem dX11_deals_238 : decode cX11_deals 238 = .ok (.aload_n 0, 1) := dk_42 (dk_at dksX11_deals_10 6 rfl rfl)
theorem dX11_deals_239 : decode cX11_deals 239 = .ok (.invokevirtual 249, 3) := dk_182 0 249 (dk_at dksX11_deals_10 7 rfl rfl)
theorem dX11_deals_242 : decode cX11_deals 242 = .ok (.return_, 1) := dk_177 (dk_at dksX11_deals_10 10 rfl rfl)
abbrev cX11_draw : ByteArray := prog_23_method_86_code
def yX11_draw : MethodName := ⟨RX11, "draw", "(I)I"⟩
def dkwX11_draw_1 : List UInt8 := [112, 172]
abbrev dktX11_draw_1 : List UInt8 := dkwX11_draw_1 ++ []
def dkwX11_draw_0 : List UInt8 := [42, 42, 180, 1, 157, 19, 1, 160, 104, 17, 48, 57, 96, 181, 1, 157, 42, 180, 1, 157, 16, 8, 124, 27]
abbrev dktX11_draw_0 : List UInt8 := dkwX11_draw_0 ++ dktX11_draw_1
theorem dksX11_draw_0 : cX11_draw.data.toList.drop 0 = dktX11_draw_0 := by decide +kernel
theorem dksX11_draw_1 : cX11_draw.data.toList.drop 24 = dktX11_draw_1 := dk_seg dksX11_draw_0 24 rfl rfl
theorem dX11_draw_0 : decode cX11_draw 0 = .ok (.aload_n 0, 1) := dk_42 (dk_at dksX11_draw_0 0 rfl rfl)
theorem dX11_draw_1 : decode cX11_draw 1 = .ok (.aload_n 0, 1) := dk_42 (dk_at dksX11_draw_0 1 rfl rfl)
theorem dX11_draw_2 : decode cX11_draw 2 = .ok (.getfield 413, 3) := dk_180 1 157 (dk_at dksX11_draw_0 2 rfl rfl)
theorem dX11_draw_5 : decode cX11_draw 5 = .ok (.ldc_w 416, 3) := dk_19 1 160 (dk_at dksX11_draw_0 5 rfl rfl)
theorem dX11_draw_8 : decode cX11_draw 8 = .ok (.imul, 1) := dk_104 (dk_at dksX11_draw_0 8 rfl rfl)
theorem dX11_draw_9 : decode cX11_draw 9 = .ok (.sipush 12345, 3) := dk_17 48 57 (dk_at dksX11_draw_0 9 rfl rfl)
theorem dX11_draw_12 : decode cX11_draw 12 = .ok (.iadd, 1) := dk_96 (dk_at dksX11_draw_0 12 rfl rfl)
theorem dX11_draw_13 : decode cX11_draw 13 = .ok (.putfield 413, 3) := dk_181 1 157 (dk_at dksX11_draw_0 13 rfl rfl)
theorem dX11_draw_16 : decode cX11_draw 16 = .ok (.aload_n 0, 1) := dk_42 (dk_at dksX11_draw_0 16 rfl rfl)
theorem dX11_draw_17 : decode cX11_draw 17 = .ok (.getfield 413, 3) := dk_180 1 157 (dk_at dksX11_draw_0 17 rfl rfl)
theorem dX11_draw_20 : decode cX11_draw 20 = .ok (.bipush 8, 2) := dk_16 8 (dk_at dksX11_draw_0 20 rfl rfl)
theorem dX11_draw_22 : decode cX11_draw 22 = .ok (.iushr, 1) := dk_124 (dk_at dksX11_draw_0 22 rfl rfl)
theorem dX11_draw_23 : decode cX11_draw 23 = .ok (.iload_n 1, 1) := dk_27 (dk_at dksX11_draw_0 23 rfl rfl)
theorem dX11_draw_24 : decode cX11_draw 24 = .ok (.irem, 1) := dk_112 (dk_at dksX11_draw_1 0 rfl rfl)
theorem dX11_draw_25 : decode cX11_draw 25 = .ok (.ireturn, 1) := dk_172 (dk_at dksX11_draw_1 1 rfl rfl)
abbrev cX11_games : ByteArray := prog_23_method_91_code
def yX11_games : MethodName := ⟨RX11, "games", "(IIII)I"⟩
def dkwX11_games_1 : List UInt8 := [167, 0, 4, 2, 172]
abbrev dktX11_games_1 : List UInt8 := dkwX11_games_1 ++ []
def dkwX11_games_0 : List UInt8 := [42, 3, 181, 0, 1, 42, 27, 28, 29, 182, 1, 176, 153, 0, 15, 42, 27, 28, 29, 21, 4, 182, 1, 179]
abbrev dktX11_games_0 : List UInt8 := dkwX11_games_0 ++ dktX11_games_1
theorem dksX11_games_0 : cX11_games.data.toList.drop 0 = dktX11_games_0 := by decide +kernel
theorem dksX11_games_1 : cX11_games.data.toList.drop 24 = dktX11_games_1 := dk_seg dksX11_games_0 24 rfl rfl
theorem dX11_games_0 : decode cX11_games 0 = .ok (.aload_n 0, 1) := dk_42 (dk_at dksX11_games_0 0 rfl rfl)
theorem dX11_games_1 : decode cX11_games 1 = .ok (.iconst 0, 1) := dk_3 (dk_at dksX11_games_0 1 rfl rfl)
theorem dX11_games_2 : decode cX11_games 2 = .ok (.putfield 1, 3) := dk_181 0 1 (dk_at dksX11_games_0 2 rfl rfl)
theorem dX11_games_5 : decode cX11_games 5 = .ok (.aload_n 0, 1) := dk_42 (dk_at dksX11_games_0 5 rfl rfl)
theorem dX11_games_6 : decode cX11_games 6 = .ok (.iload_n 1, 1) := dk_27 (dk_at dksX11_games_0 6 rfl rfl)
theorem dX11_games_7 : decode cX11_games 7 = .ok (.iload_n 2, 1) := dk_28 (dk_at dksX11_games_0 7 rfl rfl)
theorem dX11_games_8 : decode cX11_games 8 = .ok (.iload_n 3, 1) := dk_29 (dk_at dksX11_games_0 8 rfl rfl)
theorem dX11_games_9 : decode cX11_games 9 = .ok (.invokevirtual 432, 3) := dk_182 1 176 (dk_at dksX11_games_0 9 rfl rfl)
theorem dX11_games_12 : decode cX11_games 12 = .ok (.ifCond .eq 15, 3) := dk_153 0 15 (dk_at dksX11_games_0 12 rfl rfl)
theorem dX11_games_15 : decode cX11_games 15 = .ok (.aload_n 0, 1) := dk_42 (dk_at dksX11_games_0 15 rfl rfl)
theorem dX11_games_16 : decode cX11_games 16 = .ok (.iload_n 1, 1) := dk_27 (dk_at dksX11_games_0 16 rfl rfl)
theorem dX11_games_17 : decode cX11_games 17 = .ok (.iload_n 2, 1) := dk_28 (dk_at dksX11_games_0 17 rfl rfl)
theorem dX11_games_18 : decode cX11_games 18 = .ok (.iload_n 3, 1) := dk_29 (dk_at dksX11_games_0 18 rfl rfl)
theorem dX11_games_19 : decode cX11_games 19 = .ok (.iload 4, 2) := dk_21 4 (dk_at dksX11_games_0 19 rfl rfl)
theorem dX11_games_21 : decode cX11_games 21 = .ok (.invokevirtual 435, 3) := dk_182 1 179 (dk_at dksX11_games_0 21 rfl rfl)
theorem dX11_games_24 : decode cX11_games 24 = .ok (.goto 4, 3) := dk_167 0 4 (dk_at dksX11_games_1 0 rfl rfl)
theorem dX11_games_27 : decode cX11_games 27 = .ok (.iconst (-1), 1) := dk_2 (dk_at dksX11_games_1 3 rfl rfl)
theorem dX11_games_28 : decode cX11_games 28 = .ok (.ireturn, 1) := dk_172 (dk_at dksX11_games_1 4 rfl rfl)
abbrev cX11_areGames : ByteArray := prog_23_method_90_code
def yX11_areGames : MethodName := ⟨RX11, "areGames", "(III)Z"⟩
def dkwX11_areGames_2 : List UInt8 := [7, 42, 180, 0, 33, 3, 46, 104, 163, 0, 7, 4, 167, 0, 4, 3, 172]
abbrev dktX11_areGames_2 : List UInt8 := dkwX11_areGames_2 ++ []
def dkwX11_areGames_1 : List UInt8 := [184, 0, 195, 153, 0, 36, 42, 180, 0, 33, 4, 46, 4, 164, 0, 26, 8, 42, 180, 0, 33, 4, 46, 104]
abbrev dktX11_areGames_1 : List UInt8 := dkwX11_areGames_1 ++ dktX11_areGames_2
def dkwX11_areGames_0 : List UInt8 := [27, 3, 6, 184, 0, 195, 153, 0, 55, 28, 3, 6, 184, 0, 195, 153, 0, 46, 29, 4, 16, 30]
abbrev dktX11_areGames_0 : List UInt8 := dkwX11_areGames_0 ++ dktX11_areGames_1
theorem dksX11_areGames_0 : cX11_areGames.data.toList.drop 0 = dktX11_areGames_0 := by decide +kernel
theorem dksX11_areGames_1 : cX11_areGames.data.toList.drop 22 = dktX11_areGames_1 := dk_seg dksX11_areGames_0 22 rfl rfl
theorem dksX11_areGames_2 : cX11_areGames.data.toList.drop 46 = dktX11_areGames_2 := dk_seg dksX11_areGames_1 24 rfl rfl
theorem dX11_areGames_0 : decode cX11_areGames 0 = .ok (.iload_n 1, 1) := dk_27 (dk_at dksX11_areGames_0 0 rfl rfl)
theorem dX11_areGames_1 : decode cX11_areGames 1 = .ok (.iconst 0, 1) := dk_3 (dk_at dksX11_areGames_0 1 rfl rfl)
theorem dX11_areGames_2 : decode cX11_areGames 2 = .ok (.iconst 3, 1) := dk_6 (dk_at dksX11_areGames_0 2 rfl rfl)
theorem dX11_areGames_3 : decode cX11_areGames 3 = .ok (.invokestatic 195, 3) := dk_184 0 195 (dk_at dksX11_areGames_0 3 rfl rfl)
theorem dX11_areGames_6 : decode cX11_areGames 6 = .ok (.ifCond .eq 55, 3) := dk_153 0 55 (dk_at dksX11_areGames_0 6 rfl rfl)
theorem dX11_areGames_9 : decode cX11_areGames 9 = .ok (.iload_n 2, 1) := dk_28 (dk_at dksX11_areGames_0 9 rfl rfl)
theorem dX11_areGames_10 : decode cX11_areGames 10 = .ok (.iconst 0, 1) := dk_3 (dk_at dksX11_areGames_0 10 rfl rfl)
theorem dX11_areGames_11 : decode cX11_areGames 11 = .ok (.iconst 3, 1) := dk_6 (dk_at dksX11_areGames_0 11 rfl rfl)
theorem dX11_areGames_12 : decode cX11_areGames 12 = .ok (.invokestatic 195, 3) := dk_184 0 195 (dk_at dksX11_areGames_0 12 rfl rfl)
theorem dX11_areGames_15 : decode cX11_areGames 15 = .ok (.ifCond .eq 46, 3) := dk_153 0 46 (dk_at dksX11_areGames_0 15 rfl rfl)
theorem dX11_areGames_18 : decode cX11_areGames 18 = .ok (.iload_n 3, 1) := dk_29 (dk_at dksX11_areGames_0 18 rfl rfl)
theorem dX11_areGames_19 : decode cX11_areGames 19 = .ok (.iconst 1, 1) := dk_4 (dk_at dksX11_areGames_0 19 rfl rfl)
theorem dX11_areGames_20 : decode cX11_areGames 20 = .ok (.bipush 30, 2) := dk_16 30 (dk_at dksX11_areGames_0 20 rfl rfl)
theorem dX11_areGames_22 : decode cX11_areGames 22 = .ok (.invokestatic 195, 3) := dk_184 0 195 (dk_at dksX11_areGames_1 0 rfl rfl)
theorem dX11_areGames_25 : decode cX11_areGames 25 = .ok (.ifCond .eq 36, 3) := dk_153 0 36 (dk_at dksX11_areGames_1 3 rfl rfl)
theorem dX11_areGames_28 : decode cX11_areGames 28 = .ok (.aload_n 0, 1) := dk_42 (dk_at dksX11_areGames_1 6 rfl rfl)
theorem dX11_areGames_29 : decode cX11_areGames 29 = .ok (.getfield 33, 3) := dk_180 0 33 (dk_at dksX11_areGames_1 7 rfl rfl)
theorem dX11_areGames_32 : decode cX11_areGames 32 = .ok (.iconst 1, 1) := dk_4 (dk_at dksX11_areGames_1 10 rfl rfl)
theorem dX11_areGames_33 : decode cX11_areGames 33 = .ok (.iaload, 1) := dk_46 (dk_at dksX11_areGames_1 11 rfl rfl)
theorem dX11_areGames_34 : decode cX11_areGames 34 = .ok (.iconst 1, 1) := dk_4 (dk_at dksX11_areGames_1 12 rfl rfl)
theorem dX11_areGames_35 : decode cX11_areGames 35 = .ok (.if_icmp .le 26, 3) := dk_164 0 26 (dk_at dksX11_areGames_1 13 rfl rfl)
theorem dX11_areGames_38 : decode cX11_areGames 38 = .ok (.iconst 5, 1) := dk_8 (dk_at dksX11_areGames_1 16 rfl rfl)
theorem dX11_areGames_39 : decode cX11_areGames 39 = .ok (.aload_n 0, 1) := dk_42 (dk_at dksX11_areGames_1 17 rfl rfl)
theorem dX11_areGames_40 : decode cX11_areGames 40 = .ok (.getfield 33, 3) := dk_180 0 33 (dk_at dksX11_areGames_1 18 rfl rfl)
theorem dX11_areGames_43 : decode cX11_areGames 43 = .ok (.iconst 1, 1) := dk_4 (dk_at dksX11_areGames_1 21 rfl rfl)
theorem dX11_areGames_44 : decode cX11_areGames 44 = .ok (.iaload, 1) := dk_46 (dk_at dksX11_areGames_1 22 rfl rfl)
theorem dX11_areGames_45 : decode cX11_areGames 45 = .ok (.imul, 1) := dk_104 (dk_at dksX11_areGames_1 23 rfl rfl)
theorem dX11_areGames_46 : decode cX11_areGames 46 = .ok (.iconst 4, 1) := dk_7 (dk_at dksX11_areGames_2 0 rfl rfl)
theorem dX11_areGames_47 : decode cX11_areGames 47 = .ok (.aload_n 0, 1) := dk_42 (dk_at dksX11_areGames_2 1 rfl rfl)
theorem dX11_areGames_48 : decode cX11_areGames 48 = .ok (.getfield 33, 3) := dk_180 0 33 (dk_at dksX11_areGames_2 2 rfl rfl)
theorem dX11_areGames_51 : decode cX11_areGames 51 = .ok (.iconst 0, 1) := dk_3 (dk_at dksX11_areGames_2 5 rfl rfl)
theorem dX11_areGames_52 : decode cX11_areGames 52 = .ok (.iaload, 1) := dk_46 (dk_at dksX11_areGames_2 6 rfl rfl)
theorem dX11_areGames_53 : decode cX11_areGames 53 = .ok (.imul, 1) := dk_104 (dk_at dksX11_areGames_2 7 rfl rfl)
theorem dX11_areGames_54 : decode cX11_areGames 54 = .ok (.if_icmp .gt 7, 3) := dk_163 0 7 (dk_at dksX11_areGames_2 8 rfl rfl)
theorem dX11_areGames_57 : decode cX11_areGames 57 = .ok (.iconst 1, 1) := dk_4 (dk_at dksX11_areGames_2 11 rfl rfl)
theorem dX11_areGames_58 : decode cX11_areGames 58 = .ok (.goto 4, 3) := dk_167 0 4 (dk_at dksX11_areGames_2 12 rfl rfl)
theorem dX11_areGames_61 : decode cX11_areGames 61 = .ok (.iconst 0, 1) := dk_3 (dk_at dksX11_areGames_2 15 rfl rfl)
theorem dX11_areGames_62 : decode cX11_areGames 62 = .ok (.ireturn, 1) := dk_172 (dk_at dksX11_areGames_2 16 rfl rfl)
abbrev cX11_gamesOf : ByteArray := prog_23_method_89_code
def yX11_gamesOf : MethodName := ⟨RX11, "gamesOf", "(IIII)I"⟩
def dkwX11_gamesOf_6 : List UInt8 := [167, 0, 4, 3, 96, 54, 5, 132, 6, 1, 167, 255, 119, 42, 182, 1, 173, 21, 5, 172]
abbrev dktX11_gamesOf_6 : List UInt8 := dkwX11_gamesOf_6 ++ []
def dkwX11_gamesOf_5 : List UInt8 := [164, 0, 7, 4, 167, 0, 4, 3, 54, 7, 132, 8, 1, 167, 255, 216, 21, 5, 21, 7, 153, 0, 7, 4]
abbrev dktX11_gamesOf_5 : List UInt8 := dkwX11_gamesOf_5 ++ dktX11_gamesOf_6
def dkwX11_gamesOf_4 : List UInt8 := [180, 0, 33, 4, 46, 162, 0, 35, 21, 7, 153, 0, 21, 42, 3, 182, 1, 36, 42, 21, 8, 182, 1, 36]
abbrev dktX11_gamesOf_4 : List UInt8 := dkwX11_gamesOf_4 ++ dktX11_gamesOf_5
def dkwX11_gamesOf_3 : List UInt8 := [180, 1, 170, 42, 17, 1, 44, 3, 182, 1, 153, 96, 181, 1, 170, 4, 54, 7, 4, 54, 8, 21, 8, 42]
abbrev dktX11_gamesOf_3 : List UInt8 := dkwX11_gamesOf_3 ++ dktX11_gamesOf_4
def dkwX11_gamesOf_2 : List UInt8 := [180, 0, 90, 21, 7, 21, 7, 154, 0, 7, 27, 167, 0, 4, 28, 79, 132, 7, 1, 167, 255, 225, 42, 89]
abbrev dktX11_gamesOf_2 : List UInt8 := dkwX11_gamesOf_2 ++ dktX11_gamesOf_3
def dkwX11_gamesOf_1 : List UInt8 := [21, 4, 21, 6, 96, 182, 1, 164, 3, 54, 7, 21, 7, 42, 180, 0, 33, 4, 46, 162, 0, 26, 42]
abbrev dktX11_gamesOf_1 : List UInt8 := dkwX11_gamesOf_1 ++ dktX11_gamesOf_2
def dkwX11_gamesOf_0 : List UInt8 := [42, 182, 1, 167, 3, 54, 5, 42, 3, 181, 1, 170, 3, 54, 6, 21, 6, 29, 162, 0, 137, 42, 8]
abbrev dktX11_gamesOf_0 : List UInt8 := dkwX11_gamesOf_0 ++ dktX11_gamesOf_1
theorem dksX11_gamesOf_0 : cX11_gamesOf.data.toList.drop 0 = dktX11_gamesOf_0 := by decide +kernel
theorem dksX11_gamesOf_1 : cX11_gamesOf.data.toList.drop 23 = dktX11_gamesOf_1 := dk_seg dksX11_gamesOf_0 23 rfl rfl
theorem dksX11_gamesOf_2 : cX11_gamesOf.data.toList.drop 46 = dktX11_gamesOf_2 := dk_seg dksX11_gamesOf_1 23 rfl rfl
theorem dksX11_gamesOf_3 : cX11_gamesOf.data.toList.drop 70 = dktX11_gamesOf_3 := dk_seg dksX11_gamesOf_2 24 rfl rfl
theorem dksX11_gamesOf_4 : cX11_gamesOf.data.toList.drop 94 = dktX11_gamesOf_4 := dk_seg dksX11_gamesOf_3 24 rfl rfl
theorem dksX11_gamesOf_5 : cX11_gamesOf.data.toList.drop 118 = dktX11_gamesOf_5 := dk_seg dksX11_gamesOf_4 24 rfl rfl
theorem dksX11_gamesOf_6 : cX11_gamesOf.data.toList.drop 142 = dktX11_gamesOf_6 := dk_seg dksX11_gamesOf_5 24 rfl rfl
theorem dX11_gamesOf_0 : decode cX11_gamesOf 0 = .ok (.aload_n 0, 1) := dk_42 (dk_at dksX11_gamesOf_0 0 rfl rfl)
theorem dX11_gamesOf_1 : decode cX11_gamesOf 1 = .ok (.invokevirtual 423, 3) := dk_182 1 167 (dk_at dksX11_gamesOf_0 1 rfl rfl)
theorem dX11_gamesOf_4 : decode cX11_gamesOf 4 = .ok (.iconst 0, 1) := dk_3 (dk_at dksX11_gamesOf_0 4 rfl rfl)
theorem dX11_gamesOf_5 : decode cX11_gamesOf 5 = .ok (.istore 5, 2) := dk_54 5 (dk_at dksX11_gamesOf_0 5 rfl rfl)
theorem dX11_gamesOf_7 : decode cX11_gamesOf 7 = .ok (.aload_n 0, 1) := dk_42 (dk_at dksX11_gamesOf_0 7 rfl rfl)
theorem dX11_gamesOf_8 : decode cX11_gamesOf 8 = .ok (.iconst 0, 1) := dk_3 (dk_at dksX11_gamesOf_0 8 rfl rfl)
theorem dX11_gamesOf_9 : decode cX11_gamesOf 9 = .ok (.putfield 426, 3) := dk_181 1 170 (dk_at dksX11_gamesOf_0 9 rfl rfl)
theorem dX11_gamesOf_12 : decode cX11_gamesOf 12 = .ok (.iconst 0, 1) := dk_3 (dk_at dksX11_gamesOf_0 12 rfl rfl)
theorem dX11_gamesOf_13 : decode cX11_gamesOf 13 = .ok (.istore 6, 2) := dk_54 6 (dk_at dksX11_gamesOf_0 13 rfl rfl)
theorem dX11_gamesOf_15 : decode cX11_gamesOf 15 = .ok (.iload 6, 2) := dk_21 6 (dk_at dksX11_gamesOf_0 15 rfl rfl)
theorem dX11_gamesOf_17 : decode cX11_gamesOf 17 = .ok (.iload_n 3, 1) := dk_29 (dk_at dksX11_gamesOf_0 17 rfl rfl)
theorem dX11_gamesOf_18 : decode cX11_gamesOf 18 = .ok (.if_icmp .ge 137, 3) := dk_162 0 137 (dk_at dksX11_gamesOf_0 18 rfl rfl)
theorem dX11_gamesOf_21 : decode cX11_gamesOf 21 = .ok (.aload_n 0, 1) := dk_42 (dk_at dksX11_gamesOf_0 21 rfl rfl)
theorem dX11_gamesOf_22 : decode cX11_gamesOf 22 = .ok (.iconst 5, 1) := dk_8 (dk_at dksX11_gamesOf_0 22 rfl rfl)
theorem dX11_gamesOf_23 : decode cX11_gamesOf 23 = .ok (.iload 4, 2) := dk_21 4 (dk_at dksX11_gamesOf_1 0 rfl rfl)
theorem dX11_gamesOf_25 : decode cX11_gamesOf 25 = .ok (.iload 6, 2) := dk_21 6 (dk_at dksX11_gamesOf_1 2 rfl rfl)
theorem dX11_gamesOf_27 : decode cX11_gamesOf 27 = .ok (.iadd, 1) := dk_96 (dk_at dksX11_gamesOf_1 4 rfl rfl)
theorem dX11_gamesOf_28 : decode cX11_gamesOf 28 = .ok (.invokevirtual 420, 3) := dk_182 1 164 (dk_at dksX11_gamesOf_1 5 rfl rfl)
theorem dX11_gamesOf_31 : decode cX11_gamesOf 31 = .ok (.iconst 0, 1) := dk_3 (dk_at dksX11_gamesOf_1 8 rfl rfl)
theorem dX11_gamesOf_32 : decode cX11_gamesOf 32 = .ok (.istore 7, 2) := dk_54 7 (dk_at dksX11_gamesOf_1 9 rfl rfl)
theorem dX11_gamesOf_34 : decode cX11_gamesOf 34 = .ok (.iload 7, 2) := dk_21 7 (dk_at dksX11_gamesOf_1 11 rfl rfl)
theorem dX11_gamesOf_36 : decode cX11_gamesOf 36 = .ok (.aload_n 0, 1) := dk_42 (dk_at dksX11_gamesOf_1 13 rfl rfl)
theorem dX11_gamesOf_37 : decode cX11_gamesOf 37 = .ok (.getfield 33, 3) := dk_180 0 33 (dk_at dksX11_gamesOf_1 14 rfl rfl)
theorem dX11_gamesOf_40 : decode cX11_gamesOf 40 = .ok (.iconst 1, 1) := dk_4 (dk_at dksX11_gamesOf_1 17 rfl rfl)
theorem dX11_gamesOf_41 : decode cX11_gamesOf 41 = .ok (.iaload, 1) := dk_46 (dk_at dksX11_gamesOf_1 18 rfl rfl)
theorem dX11_gamesOf_42 : decode cX11_gamesOf 42 = .ok (.if_icmp .ge 26, 3) := dk_162 0 26 (dk_at dksX11_gamesOf_1 19 rfl rfl)
theorem dX11_gamesOf_45 : decode cX11_gamesOf 45 = .ok (.aload_n 0, 1) := dk_42 (dk_at dksX11_gamesOf_1 22 rfl rfl)
theorem dX11_gamesOf_46 : decode cX11_gamesOf 46 = .ok (.getfield 90, 3) := dk_180 0 90 (dk_at dksX11_gamesOf_2 0 rfl rfl)
theorem dX11_gamesOf_49 : decode cX11_gamesOf 49 = .ok (.iload 7, 2) := dk_21 7 (dk_at dksX11_gamesOf_2 3 rfl rfl)
theorem dX11_gamesOf_51 : decode cX11_gamesOf 51 = .ok (.iload 7, 2) := dk_21 7 (dk_at dksX11_gamesOf_2 5 rfl rfl)
theorem dX11_gamesOf_53 : decode cX11_gamesOf 53 = .ok (.ifCond .ne 7, 3) := dk_154 0 7 (dk_at dksX11_gamesOf_2 7 rfl rfl)
theorem dX11_gamesOf_56 : decode cX11_gamesOf 56 = .ok (.iload_n 1, 1) := dk_27 (dk_at dksX11_gamesOf_2 10 rfl rfl)
theorem dX11_gamesOf_57 : decode cX11_gamesOf 57 = .ok (.goto 4, 3) := dk_167 0 4 (dk_at dksX11_gamesOf_2 11 rfl rfl)
theorem dX11_gamesOf_60 : decode cX11_gamesOf 60 = .ok (.iload_n 2, 1) := dk_28 (dk_at dksX11_gamesOf_2 14 rfl rfl)
theorem dX11_gamesOf_61 : decode cX11_gamesOf 61 = .ok (.iastore, 1) := dk_79 (dk_at dksX11_gamesOf_2 15 rfl rfl)
theorem dX11_gamesOf_62 : decode cX11_gamesOf 62 = .ok (.iinc 7 1, 3) := dk_132 7 1 (dk_at dksX11_gamesOf_2 16 rfl rfl)
theorem dX11_gamesOf_65 : decode cX11_gamesOf 65 = .ok (.goto (-31), 3) := dk_167 255 225 (dk_at dksX11_gamesOf_2 19 rfl rfl)
theorem dX11_gamesOf_68 : decode cX11_gamesOf 68 = .ok (.aload_n 0, 1) := dk_42 (dk_at dksX11_gamesOf_2 22 rfl rfl)
theorem dX11_gamesOf_69 : decode cX11_gamesOf 69 = .ok (.dup, 1) := dk_89 (dk_at dksX11_gamesOf_2 23 rfl rfl)
theorem dX11_gamesOf_70 : decode cX11_gamesOf 70 = .ok (.getfield 426, 3) := dk_180 1 170 (dk_at dksX11_gamesOf_3 0 rfl rfl)
theorem dX11_gamesOf_73 : decode cX11_gamesOf 73 = .ok (.aload_n 0, 1) := dk_42 (dk_at dksX11_gamesOf_3 3 rfl rfl)
theorem dX11_gamesOf_74 : decode cX11_gamesOf 74 = .ok (.sipush 300, 3) := dk_17 1 44 (dk_at dksX11_gamesOf_3 4 rfl rfl)
theorem dX11_gamesOf_77 : decode cX11_gamesOf 77 = .ok (.iconst 0, 1) := dk_3 (dk_at dksX11_gamesOf_3 7 rfl rfl)
theorem dX11_gamesOf_78 : decode cX11_gamesOf 78 = .ok (.invokevirtual 409, 3) := dk_182 1 153 (dk_at dksX11_gamesOf_3 8 rfl rfl)
theorem dX11_gamesOf_81 : decode cX11_gamesOf 81 = .ok (.iadd, 1) := dk_96 (dk_at dksX11_gamesOf_3 11 rfl rfl)
theorem dX11_gamesOf_82 : decode cX11_gamesOf 82 = .ok (.putfield 426, 3) := dk_181 1 170 (dk_at dksX11_gamesOf_3 12 rfl rfl)
theorem dX11_gamesOf_85 : decode cX11_gamesOf 85 = .ok (.iconst 1, 1) := dk_4 (dk_at dksX11_gamesOf_3 15 rfl rfl)
theorem dX11_gamesOf_86 : decode cX11_gamesOf 86 = .ok (.istore 7, 2) := dk_54 7 (dk_at dksX11_gamesOf_3 16 rfl rfl)
theorem dX11_gamesOf_88 : decode cX11_gamesOf 88 = .ok (.iconst 1, 1) := dk_4 (dk_at dksX11_gamesOf_3 18 rfl rfl)
theorem dX11_gamesOf_89 : decode cX11_gamesOf 89 = .ok (.istore 8, 2) := dk_54 8 (dk_at dksX11_gamesOf_3 19 rfl rfl)
theorem dX11_gamesOf_91 : decode cX11_gamesOf 91 = .ok (.iload 8, 2) := dk_21 8 (dk_at dksX11_gamesOf_3 21 rfl rfl)
theorem dX11_gamesOf_93 : decode cX11_gamesOf 93 = .ok (.aload_n 0, 1) := dk_42 (dk_at dksX11_gamesOf_3 23 rfl rfl)
theorem dX11_gamesOf_94 : decode cX11_gamesOf 94 = .ok (.getfield 33, 3) := dk_180 0 33 (dk_at dksX11_gamesOf_4 0 rfl rfl)
theorem dX11_gamesOf_97 : decode cX11_gamesOf 97 = .ok (.iconst 1, 1) := dk_4 (dk_at dksX11_gamesOf_4 3 rfl rfl)
theorem dX11_gamesOf_98 : decode cX11_gamesOf 98 = .ok (.iaload, 1) := dk_46 (dk_at dksX11_gamesOf_4 4 rfl rfl)
theorem dX11_gamesOf_99 : decode cX11_gamesOf 99 = .ok (.if_icmp .ge 35, 3) := dk_162 0 35 (dk_at dksX11_gamesOf_4 5 rfl rfl)
theorem dX11_gamesOf_102 : decode cX11_gamesOf 102 = .ok (.iload 7, 2) := dk_21 7 (dk_at dksX11_gamesOf_4 8 rfl rfl)
theorem dX11_gamesOf_104 : decode cX11_gamesOf 104 = .ok (.ifCond .eq 21, 3) := dk_153 0 21 (dk_at dksX11_gamesOf_4 10 rfl rfl)
theorem dX11_gamesOf_107 : decode cX11_gamesOf 107 = .ok (.aload_n 0, 1) := dk_42 (dk_at dksX11_gamesOf_4 13 rfl rfl)
theorem dX11_gamesOf_108 : decode cX11_gamesOf 108 = .ok (.iconst 0, 1) := dk_3 (dk_at dksX11_gamesOf_4 14 rfl rfl)
theorem dX11_gamesOf_109 : decode cX11_gamesOf 109 = .ok (.invokevirtual 292, 3) := dk_182 1 36 (dk_at dksX11_gamesOf_4 15 rfl rfl)
theorem dX11_gamesOf_112 : decode cX11_gamesOf 112 = .ok (.aload_n 0, 1) := dk_42 (dk_at dksX11_gamesOf_4 18 rfl rfl)
theorem dX11_gamesOf_113 : decode cX11_gamesOf 113 = .ok (.iload 8, 2) := dk_21 8 (dk_at dksX11_gamesOf_4 19 rfl rfl)
theorem dX11_gamesOf_115 : decode cX11_gamesOf 115 = .ok (.invokevirtual 292, 3) := dk_182 1 36 (dk_at dksX11_gamesOf_4 21 rfl rfl)
theorem dX11_gamesOf_118 : decode cX11_gamesOf 118 = .ok (.if_icmp .le 7, 3) := dk_164 0 7 (dk_at dksX11_gamesOf_5 0 rfl rfl)
theorem dX11_gamesOf_121 : decode cX11_gamesOf 121 = .ok (.iconst 1, 1) := dk_4 (dk_at dksX11_gamesOf_5 3 rfl rfl)
theorem dX11_gamesOf_122 : decode cX11_gamesOf 122 = .ok (.goto 4, 3) := dk_167 0 4 (dk_at dksX11_gamesOf_5 4 rfl rfl)
theorem dX11_gamesOf_125 : decode cX11_gamesOf 125 = .ok (.iconst 0, 1) := dk_3 (dk_at dksX11_gamesOf_5 7 rfl rfl)
theorem dX11_gamesOf_126 : decode cX11_gamesOf 126 = .ok (.istore 7, 2) := dk_54 7 (dk_at dksX11_gamesOf_5 8 rfl rfl)
theorem dX11_gamesOf_128 : decode cX11_gamesOf 128 = .ok (.iinc 8 1, 3) := dk_132 8 1 (dk_at dksX11_gamesOf_5 10 rfl rfl)
theorem dX11_gamesOf_131 : decode cX11_gamesOf 131 = .ok (.goto (-40), 3) := dk_167 255 216 (dk_at dksX11_gamesOf_5 13 rfl rfl)
theorem dX11_gamesOf_134 : decode cX11_gamesOf 134 = .ok (.iload 5, 2) := dk_21 5 (dk_at dksX11_gamesOf_5 16 rfl rfl)
theorem dX11_gamesOf_136 : decode cX11_gamesOf 136 = .ok (.iload 7, 2) := dk_21 7 (dk_at dksX11_gamesOf_5 18 rfl rfl)
theorem dX11_gamesOf_138 : decode cX11_gamesOf 138 = .ok (.ifCond .eq 7, 3) := dk_153 0 7 (dk_at dksX11_gamesOf_5 20 rfl rfl)
theorem dX11_gamesOf_141 : decode cX11_gamesOf 141 = .ok (.iconst 1, 1) := dk_4 (dk_at dksX11_gamesOf_5 23 rfl rfl)
theorem dX11_gamesOf_142 : decode cX11_gamesOf 142 = .ok (.goto 4, 3) := dk_167 0 4 (dk_at dksX11_gamesOf_6 0 rfl rfl)
theorem dX11_gamesOf_145 : decode cX11_gamesOf 145 = .ok (.iconst 0, 1) := dk_3 (dk_at dksX11_gamesOf_6 3 rfl rfl)
theorem dX11_gamesOf_146 : decode cX11_gamesOf 146 = .ok (.iadd, 1) := dk_96 (dk_at dksX11_gamesOf_6 4 rfl rfl)
theorem dX11_gamesOf_147 : decode cX11_gamesOf 147 = .ok (.istore 5, 2) := dk_54 5 (dk_at dksX11_gamesOf_6 5 rfl rfl)
theorem dX11_gamesOf_149 : decode cX11_gamesOf 149 = .ok (.iinc 6 1, 3) := dk_132 6 1 (dk_at dksX11_gamesOf_6 7 rfl rfl)
theorem dX11_gamesOf_152 : decode cX11_gamesOf 152 = .ok (.goto (-137), 3) := dk_167 255 119 (dk_at dksX11_gamesOf_6 10 rfl rfl)
theorem dX11_gamesOf_155 : decode cX11_gamesOf 155 = .ok (.aload_n 0, 1) := dk_42 (dk_at dksX11_gamesOf_6 13 rfl rfl)
theorem dX11_gamesOf_156 : decode cX11_gamesOf 156 = .ok (.invokevirtual 429, 3) := dk_182 1 173 (dk_at dksX11_gamesOf_6 14 rfl rfl)
theorem dX11_gamesOf_159 : decode cX11_gamesOf 159 = .ok (.iload 5, 2) := dk_21 5 (dk_at dksX11_gamesOf_6 17 rfl rfl)
theorem dX11_gamesOf_161 : decode cX11_gamesOf 161 = .ok (.ireturn, 1) := dk_172 (dk_at dksX11_gamesOf_6 19 rfl rfl)
abbrev cX11_tries : ByteArray := prog_23_method_55_code
def yX11_tries : MethodName := ⟨RX11, "tries", "()V"⟩
def dkwX11_tries_1 : List UInt8 := [132, 1, 1, 167, 255, 232, 177]
abbrev dktX11_tries_1 : List UInt8 := dkwX11_tries_1 ++ []
def dkwX11_tries_0 : List UInt8 := [3, 60, 27, 17, 2, 68, 162, 0, 23, 42, 180, 0, 56, 27, 42, 180, 0, 33, 7, 27, 96, 46, 79]
abbrev dktX11_tries_0 : List UInt8 := dkwX11_tries_0 ++ dktX11_tries_1
theorem dksX11_tries_0 : cX11_tries.data.toList.drop 0 = dktX11_tries_0 := by decide +kernel
theorem dksX11_tries_1 : cX11_tries.data.toList.drop 23 = dktX11_tries_1 := dk_seg dksX11_tries_0 23 rfl rfl
theorem dX11_tries_0 : decode cX11_tries 0 = .ok (.iconst 0, 1) := dk_3 (dk_at dksX11_tries_0 0 rfl rfl)
theorem dX11_tries_1 : decode cX11_tries 1 = .ok (.istore_n 1, 1) := dk_60 (dk_at dksX11_tries_0 1 rfl rfl)
theorem dX11_tries_2 : decode cX11_tries 2 = .ok (.iload_n 1, 1) := dk_27 (dk_at dksX11_tries_0 2 rfl rfl)
theorem dX11_tries_3 : decode cX11_tries 3 = .ok (.sipush 580, 3) := dk_17 2 68 (dk_at dksX11_tries_0 3 rfl rfl)
theorem dX11_tries_6 : decode cX11_tries 6 = .ok (.if_icmp .ge 23, 3) := dk_162 0 23 (dk_at dksX11_tries_0 6 rfl rfl)
theorem dX11_tries_9 : decode cX11_tries 9 = .ok (.aload_n 0, 1) := dk_42 (dk_at dksX11_tries_0 9 rfl rfl)
theorem dX11_tries_10 : decode cX11_tries 10 = .ok (.getfield 56, 3) := dk_180 0 56 (dk_at dksX11_tries_0 10 rfl rfl)
theorem dX11_tries_13 : decode cX11_tries 13 = .ok (.iload_n 1, 1) := dk_27 (dk_at dksX11_tries_0 13 rfl rfl)
theorem dX11_tries_14 : decode cX11_tries 14 = .ok (.aload_n 0, 1) := dk_42 (dk_at dksX11_tries_0 14 rfl rfl)
theorem dX11_tries_15 : decode cX11_tries 15 = .ok (.getfield 33, 3) := dk_180 0 33 (dk_at dksX11_tries_0 15 rfl rfl)
theorem dX11_tries_18 : decode cX11_tries 18 = .ok (.iconst 4, 1) := dk_7 (dk_at dksX11_tries_0 18 rfl rfl)
theorem dX11_tries_19 : decode cX11_tries 19 = .ok (.iload_n 1, 1) := dk_27 (dk_at dksX11_tries_0 19 rfl rfl)
theorem dX11_tries_20 : decode cX11_tries 20 = .ok (.iadd, 1) := dk_96 (dk_at dksX11_tries_0 20 rfl rfl)
theorem dX11_tries_21 : decode cX11_tries 21 = .ok (.iaload, 1) := dk_46 (dk_at dksX11_tries_0 21 rfl rfl)
theorem dX11_tries_22 : decode cX11_tries 22 = .ok (.iastore, 1) := dk_79 (dk_at dksX11_tries_0 22 rfl rfl)
theorem dX11_tries_23 : decode cX11_tries 23 = .ok (.iinc 1 1, 3) := dk_132 1 1 (dk_at dksX11_tries_1 0 rfl rfl)
theorem dX11_tries_26 : decode cX11_tries 26 = .ok (.goto (-24), 3) := dk_167 255 232 (dk_at dksX11_tries_1 3 rfl rfl)
theorem dX11_tries_29 : decode cX11_tries 29 = .ok (.return_, 1) := dk_177 (dk_at dksX11_tries_1 6 rfl rfl)
abbrev cX11_back : ByteArray := prog_23_method_56_code
def yX11_back : MethodName := ⟨RX11, "back", "()V"⟩
def dkwX11_back_1 : List UInt8 := [132, 1, 1, 167, 255, 232, 177]
abbrev dktX11_back_1 : List UInt8 := dkwX11_back_1 ++ []
def dkwX11_back_0 : List UInt8 := [3, 60, 27, 17, 2, 68, 162, 0, 23, 42, 180, 0, 33, 7, 27, 96, 42, 180, 0, 56, 27, 46, 79]
abbrev dktX11_back_0 : List UInt8 := dkwX11_back_0 ++ dktX11_back_1
theorem dksX11_back_0 : cX11_back.data.toList.drop 0 = dktX11_back_0 := by decide +kernel
theorem dksX11_back_1 : cX11_back.data.toList.drop 23 = dktX11_back_1 := dk_seg dksX11_back_0 23 rfl rfl
theorem dX11_back_0 : decode cX11_back 0 = .ok (.iconst 0, 1) := dk_3 (dk_at dksX11_back_0 0 rfl rfl)
theorem dX11_back_1 : decode cX11_back 1 = .ok (.istore_n 1, 1) := dk_60 (dk_at dksX11_back_0 1 rfl rfl)
theorem dX11_back_2 : decode cX11_back 2 = .ok (.iload_n 1, 1) := dk_27 (dk_at dksX11_back_0 2 rfl rfl)
theorem dX11_back_3 : decode cX11_back 3 = .ok (.sipush 580, 3) := dk_17 2 68 (dk_at dksX11_back_0 3 rfl rfl)
theorem dX11_back_6 : decode cX11_back 6 = .ok (.if_icmp .ge 23, 3) := dk_162 0 23 (dk_at dksX11_back_0 6 rfl rfl)
theorem dX11_back_9 : decode cX11_back 9 = .ok (.aload_n 0, 1) := dk_42 (dk_at dksX11_back_0 9 rfl rfl)
theorem dX11_back_10 : decode cX11_back 10 = .ok (.getfield 33, 3) := dk_180 0 33 (dk_at dksX11_back_0 10 rfl rfl)
theorem dX11_back_13 : decode cX11_back 13 = .ok (.iconst 4, 1) := dk_7 (dk_at dksX11_back_0 13 rfl rfl)
theorem dX11_back_14 : decode cX11_back 14 = .ok (.iload_n 1, 1) := dk_27 (dk_at dksX11_back_0 14 rfl rfl)
theorem dX11_back_15 : decode cX11_back 15 = .ok (.iadd, 1) := dk_96 (dk_at dksX11_back_0 15 rfl rfl)
theorem dX11_back_16 : decode cX11_back 16 = .ok (.aload_n 0, 1) := dk_42 (dk_at dksX11_back_0 16 rfl rfl)
theorem dX11_back_17 : decode cX11_back 17 = .ok (.getfield 56, 3) := dk_180 0 56 (dk_at dksX11_back_0 17 rfl rfl)
theorem dX11_back_20 : decode cX11_back 20 = .ok (.iload_n 1, 1) := dk_27 (dk_at dksX11_back_0 20 rfl rfl)
theorem dX11_back_21 : decode cX11_back 21 = .ok (.iaload, 1) := dk_46 (dk_at dksX11_back_0 21 rfl rfl)
theorem dX11_back_22 : decode cX11_back 22 = .ok (.iastore, 1) := dk_79 (dk_at dksX11_back_0 22 rfl rfl)
theorem dX11_back_23 : decode cX11_back 23 = .ok (.iinc 1 1, 3) := dk_132 1 1 (dk_at dksX11_back_1 0 rfl rfl)
theorem dX11_back_26 : decode cX11_back 26 = .ok (.goto (-24), 3) := dk_167 255 232 (dk_at dksX11_back_1 3 rfl rfl)
theorem dX11_back_29 : decode cX11_back 29 = .ok (.return_, 1) := dk_177 (dk_at dksX11_back_1 6 rfl rfl)
abbrev cX11_length : ByteArray := prog_23_method_92_code
def yX11_length : MethodName := ⟨RX11, "length", "(IIII)I"⟩
def dkwX11_length_1 : List UInt8 := [182, 1, 179, 87, 42, 180, 1, 170, 172]
abbrev dktX11_length_1 : List UInt8 := dkwX11_length_1 ++ []
def dkwX11_length_0 : List UInt8 := [42, 3, 181, 0, 1, 42, 27, 28, 29, 182, 1, 176, 154, 0, 5, 2, 172, 42, 27, 28, 29, 21, 4]
abbrev dktX11_length_0 : List UInt8 := dkwX11_length_0 ++ dktX11_length_1
theorem dksX11_length_0 : cX11_length.data.toList.drop 0 = dktX11_length_0 := by decide +kernel
theorem dksX11_length_1 : cX11_length.data.toList.drop 23 = dktX11_length_1 := dk_seg dksX11_length_0 23 rfl rfl
theorem dX11_length_0 : decode cX11_length 0 = .ok (.aload_n 0, 1) := dk_42 (dk_at dksX11_length_0 0 rfl rfl)
theorem dX11_length_1 : decode cX11_length 1 = .ok (.iconst 0, 1) := dk_3 (dk_at dksX11_length_0 1 rfl rfl)
theorem dX11_length_2 : decode cX11_length 2 = .ok (.putfield 1, 3) := dk_181 0 1 (dk_at dksX11_length_0 2 rfl rfl)
theorem dX11_length_5 : decode cX11_length 5 = .ok (.aload_n 0, 1) := dk_42 (dk_at dksX11_length_0 5 rfl rfl)
theorem dX11_length_6 : decode cX11_length 6 = .ok (.iload_n 1, 1) := dk_27 (dk_at dksX11_length_0 6 rfl rfl)
theorem dX11_length_7 : decode cX11_length 7 = .ok (.iload_n 2, 1) := dk_28 (dk_at dksX11_length_0 7 rfl rfl)
theorem dX11_length_8 : decode cX11_length 8 = .ok (.iload_n 3, 1) := dk_29 (dk_at dksX11_length_0 8 rfl rfl)
theorem dX11_length_9 : decode cX11_length 9 = .ok (.invokevirtual 432, 3) := dk_182 1 176 (dk_at dksX11_length_0 9 rfl rfl)
theorem dX11_length_12 : decode cX11_length 12 = .ok (.ifCond .ne 5, 3) := dk_154 0 5 (dk_at dksX11_length_0 12 rfl rfl)
theorem dX11_length_15 : decode cX11_length 15 = .ok (.iconst (-1), 1) := dk_2 (dk_at dksX11_length_0 15 rfl rfl)
theorem dX11_length_16 : decode cX11_length 16 = .ok (.ireturn, 1) := dk_172 (dk_at dksX11_length_0 16 rfl rfl)
theorem dX11_length_17 : decode cX11_length 17 = .ok (.aload_n 0, 1) := dk_42 (dk_at dksX11_length_0 17 rfl rfl)
theorem dX11_length_18 : decode cX11_length 18 = .ok (.iload_n 1, 1) := dk_27 (dk_at dksX11_length_0 18 rfl rfl)
theorem dX11_length_19 : decode cX11_length 19 = .ok (.iload_n 2, 1) := dk_28 (dk_at dksX11_length_0 19 rfl rfl)
theorem dX11_length_20 : decode cX11_length 20 = .ok (.iload_n 3, 1) := dk_29 (dk_at dksX11_length_0 20 rfl rfl)
theorem dX11_length_21 : decode cX11_length 21 = .ok (.iload 4, 2) := dk_21 4 (dk_at dksX11_length_0 21 rfl rfl)
theorem dX11_length_23 : decode cX11_length 23 = .ok (.invokevirtual 435, 3) := dk_182 1 179 (dk_at dksX11_length_1 0 rfl rfl)
theorem dX11_length_26 : decode cX11_length 26 = .ok (.pop, 1) := dk_87 (dk_at dksX11_length_1 3 rfl rfl)
theorem dX11_length_27 : decode cX11_length 27 = .ok (.aload_n 0, 1) := dk_42 (dk_at dksX11_length_1 4 rfl rfl)
theorem dX11_length_28 : decode cX11_length 28 = .ok (.getfield 426, 3) := dk_180 1 170 (dk_at dksX11_length_1 5 rfl rfl)
theorem dX11_length_31 : decode cX11_length 31 = .ok (.ireturn, 1) := dk_172 (dk_at dksX11_length_1 8 rfl rfl)
abbrev cX11_reply : ByteArray := prog_23_method_93_code
def yX11_reply : MethodName := ⟨RX11, "reply", "(III)I"⟩
def dkwX11_reply_2 : List UInt8 := [163, 0, 6, 167, 0, 11, 21, 7, 54, 5, 21, 6, 54, 4, 132, 6, 1, 167, 255, 218, 21, 4, 172]
abbrev dktX11_reply_2 : List UInt8 := dkwX11_reply_2 ++ []
def dkwX11_reply_1 : List UInt8 := [54, 6, 21, 6, 7, 162, 0, 38, 42, 21, 6, 27, 28, 29, 182, 1, 179, 54, 7, 21, 7, 21, 5]
abbrev dktX11_reply_1 : List UInt8 := dkwX11_reply_1 ++ dktX11_reply_2
def dkwX11_reply_0 : List UInt8 := [42, 3, 181, 0, 1, 42, 3, 27, 28, 182, 1, 176, 154, 0, 5, 2, 172, 2, 54, 4, 2, 54, 5, 3]
abbrev dktX11_reply_0 : List UInt8 := dkwX11_reply_0 ++ dktX11_reply_1
theorem dksX11_reply_0 : cX11_reply.data.toList.drop 0 = dktX11_reply_0 := by decide +kernel
theorem dksX11_reply_1 : cX11_reply.data.toList.drop 24 = dktX11_reply_1 := dk_seg dksX11_reply_0 24 rfl rfl
theorem dksX11_reply_2 : cX11_reply.data.toList.drop 47 = dktX11_reply_2 := dk_seg dksX11_reply_1 23 rfl rfl
theorem dX11_reply_0 : decode cX11_reply 0 = .ok (.aload_n 0, 1) := dk_42 (dk_at dksX11_reply_0 0 rfl rfl)
theorem dX11_reply_1 : decode cX11_reply 1 = .ok (.iconst 0, 1) := dk_3 (dk_at dksX11_reply_0 1 rfl rfl)
theorem dX11_reply_2 : decode cX11_reply 2 = .ok (.putfield 1, 3) := dk_181 0 1 (dk_at dksX11_reply_0 2 rfl rfl)
theorem dX11_reply_5 : decode cX11_reply 5 = .ok (.aload_n 0, 1) := dk_42 (dk_at dksX11_reply_0 5 rfl rfl)
theorem dX11_reply_6 : decode cX11_reply 6 = .ok (.iconst 0, 1) := dk_3 (dk_at dksX11_reply_0 6 rfl rfl)
theorem dX11_reply_7 : decode cX11_reply 7 = .ok (.iload_n 1, 1) := dk_27 (dk_at dksX11_reply_0 7 rfl rfl)
theorem dX11_reply_8 : decode cX11_reply 8 = .ok (.iload_n 2, 1) := dk_28 (dk_at dksX11_reply_0 8 rfl rfl)
theorem dX11_reply_9 : decode cX11_reply 9 = .ok (.invokevirtual 432, 3) := dk_182 1 176 (dk_at dksX11_reply_0 9 rfl rfl)
theorem dX11_reply_12 : decode cX11_reply 12 = .ok (.ifCond .ne 5, 3) := dk_154 0 5 (dk_at dksX11_reply_0 12 rfl rfl)
theorem dX11_reply_15 : decode cX11_reply 15 = .ok (.iconst (-1), 1) := dk_2 (dk_at dksX11_reply_0 15 rfl rfl)
theorem dX11_reply_16 : decode cX11_reply 16 = .ok (.ireturn, 1) := dk_172 (dk_at dksX11_reply_0 16 rfl rfl)
theorem dX11_reply_17 : decode cX11_reply 17 = .ok (.iconst (-1), 1) := dk_2 (dk_at dksX11_reply_0 17 rfl rfl)
theorem dX11_reply_18 : decode cX11_reply 18 = .ok (.istore 4, 2) := dk_54 4 (dk_at dksX11_reply_0 18 rfl rfl)
theorem dX11_reply_20 : decode cX11_reply 20 = .ok (.iconst (-1), 1) := dk_2 (dk_at dksX11_reply_0 20 rfl rfl)
theorem dX11_reply_21 : decode cX11_reply 21 = .ok (.istore 5, 2) := dk_54 5 (dk_at dksX11_reply_0 21 rfl rfl)
theorem dX11_reply_23 : decode cX11_reply 23 = .ok (.iconst 0, 1) := dk_3 (dk_at dksX11_reply_0 23 rfl rfl)
theorem dX11_reply_24 : decode cX11_reply 24 = .ok (.istore 6, 2) := dk_54 6 (dk_at dksX11_reply_1 0 rfl rfl)
theorem dX11_reply_26 : decode cX11_reply 26 = .ok (.iload 6, 2) := dk_21 6 (dk_at dksX11_reply_1 2 rfl rfl)
theorem dX11_reply_28 : decode cX11_reply 28 = .ok (.iconst 4, 1) := dk_7 (dk_at dksX11_reply_1 4 rfl rfl)
theorem dX11_reply_29 : decode cX11_reply 29 = .ok (.if_icmp .ge 38, 3) := dk_162 0 38 (dk_at dksX11_reply_1 5 rfl rfl)
theorem dX11_reply_32 : decode cX11_reply 32 = .ok (.aload_n 0, 1) := dk_42 (dk_at dksX11_reply_1 8 rfl rfl)
theorem dX11_reply_33 : decode cX11_reply 33 = .ok (.iload 6, 2) := dk_21 6 (dk_at dksX11_reply_1 9 rfl rfl)
theorem dX11_reply_35 : decode cX11_reply 35 = .ok (.iload_n 1, 1) := dk_27 (dk_at dksX11_reply_1 11 rfl rfl)
theorem dX11_reply_36 : decode cX11_reply 36 = .ok (.iload_n 2, 1) := dk_28 (dk_at dksX11_reply_1 12 rfl rfl)
theorem dX11_reply_37 : decode cX11_reply 37 = .ok (.iload_n 3, 1) := dk_29 (dk_at dksX11_reply_1 13 rfl rfl)
theorem dX11_reply_38 : decode cX11_reply 38 = .ok (.invokevirtual 435, 3) := dk_182 1 179 (dk_at dksX11_reply_1 14 rfl rfl)
theorem dX11_reply_41 : decode cX11_reply 41 = .ok (.istore 7, 2) := dk_54 7 (dk_at dksX11_reply_1 17 rfl rfl)
theorem dX11_reply_43 : decode cX11_reply 43 = .ok (.iload 7, 2) := dk_21 7 (dk_at dksX11_reply_1 19 rfl rfl)
theorem dX11_reply_45 : decode cX11_reply 45 = .ok (.iload 5, 2) := dk_21 5 (dk_at dksX11_reply_1 21 rfl rfl)
theorem dX11_reply_47 : decode cX11_reply 47 = .ok (.if_icmp .gt 6, 3) := dk_163 0 6 (dk_at dksX11_reply_2 0 rfl rfl)
theorem dX11_reply_50 : decode cX11_reply 50 = .ok (.goto 11, 3) := dk_167 0 11 (dk_at dksX11_reply_2 3 rfl rfl)
theorem dX11_reply_53 : decode cX11_reply 53 = .ok (.iload 7, 2) := dk_21 7 (dk_at dksX11_reply_2 6 rfl rfl)
theorem dX11_reply_55 : decode cX11_reply 55 = .ok (.istore 5, 2) := dk_54 5 (dk_at dksX11_reply_2 8 rfl rfl)
theorem dX11_reply_57 : decode cX11_reply 57 = .ok (.iload 6, 2) := dk_21 6 (dk_at dksX11_reply_2 10 rfl rfl)
theorem dX11_reply_59 : decode cX11_reply 59 = .ok (.istore 4, 2) := dk_54 4 (dk_at dksX11_reply_2 12 rfl rfl)
theorem dX11_reply_61 : decode cX11_reply 61 = .ok (.iinc 6 1, 3) := dk_132 6 1 (dk_at dksX11_reply_2 14 rfl rfl)
theorem dX11_reply_64 : decode cX11_reply 64 = .ok (.goto (-38), 3) := dk_167 255 218 (dk_at dksX11_reply_2 17 rfl rfl)
theorem dX11_reply_67 : decode cX11_reply 67 = .ok (.iload 4, 2) := dk_21 4 (dk_at dksX11_reply_2 20 rfl rfl)
theorem dX11_reply_69 : decode cX11_reply 69 = .ok (.ireturn, 1) := dk_172 (dk_at dksX11_reply_2 22 rfl rfl)
abbrev cX11_leader : ByteArray := prog_23_method_94_code
def yX11_leader : MethodName := ⟨RX11, "leader", "()I"⟩
def dkwX11_leader_1 : List UInt8 := [28, 182, 1, 36, 42, 27, 182, 1, 36, 164, 0, 5, 28, 60, 132, 2, 1, 167, 255, 224, 27, 172]
abbrev dktX11_leader_1 : List UInt8 := dkwX11_leader_1 ++ []
def dkwX11_leader_0 : List UInt8 := [42, 3, 181, 0, 1, 2, 60, 3, 61, 28, 42, 180, 0, 33, 4, 46, 162, 0, 28, 27, 155, 0, 16, 42]
abbrev dktX11_leader_0 : List UInt8 := dkwX11_leader_0 ++ dktX11_leader_1
theorem dksX11_leader_0 : cX11_leader.data.toList.drop 0 = dktX11_leader_0 := by decide +kernel
theorem dksX11_leader_1 : cX11_leader.data.toList.drop 24 = dktX11_leader_1 := dk_seg dksX11_leader_0 24 rfl rfl
theorem dX11_leader_0 : decode cX11_leader 0 = .ok (.aload_n 0, 1) := dk_42 (dk_at dksX11_leader_0 0 rfl rfl)
theorem dX11_leader_1 : decode cX11_leader 1 = .ok (.iconst 0, 1) := dk_3 (dk_at dksX11_leader_0 1 rfl rfl)
theorem dX11_leader_2 : decode cX11_leader 2 = .ok (.putfield 1, 3) := dk_181 0 1 (dk_at dksX11_leader_0 2 rfl rfl)
theorem dX11_leader_5 : decode cX11_leader 5 = .ok (.iconst (-1), 1) := dk_2 (dk_at dksX11_leader_0 5 rfl rfl)
theorem dX11_leader_6 : decode cX11_leader 6 = .ok (.istore_n 1, 1) := dk_60 (dk_at dksX11_leader_0 6 rfl rfl)
theorem dX11_leader_7 : decode cX11_leader 7 = .ok (.iconst 0, 1) := dk_3 (dk_at dksX11_leader_0 7 rfl rfl)
theorem dX11_leader_8 : decode cX11_leader 8 = .ok (.istore_n 2, 1) := dk_61 (dk_at dksX11_leader_0 8 rfl rfl)
theorem dX11_leader_9 : decode cX11_leader 9 = .ok (.iload_n 2, 1) := dk_28 (dk_at dksX11_leader_0 9 rfl rfl)
theorem dX11_leader_10 : decode cX11_leader 10 = .ok (.aload_n 0, 1) := dk_42 (dk_at dksX11_leader_0 10 rfl rfl)
theorem dX11_leader_11 : decode cX11_leader 11 = .ok (.getfield 33, 3) := dk_180 0 33 (dk_at dksX11_leader_0 11 rfl rfl)
theorem dX11_leader_14 : decode cX11_leader 14 = .ok (.iconst 1, 1) := dk_4 (dk_at dksX11_leader_0 14 rfl rfl)
theorem dX11_leader_15 : decode cX11_leader 15 = .ok (.iaload, 1) := dk_46 (dk_at dksX11_leader_0 15 rfl rfl)
theorem dX11_leader_16 : decode cX11_leader 16 = .ok (.if_icmp .ge 28, 3) := dk_162 0 28 (dk_at dksX11_leader_0 16 rfl rfl)
theorem dX11_leader_19 : decode cX11_leader 19 = .ok (.iload_n 1, 1) := dk_27 (dk_at dksX11_leader_0 19 rfl rfl)
theorem dX11_leader_20 : decode cX11_leader 20 = .ok (.ifCond .lt 16, 3) := dk_155 0 16 (dk_at dksX11_leader_0 20 rfl rfl)
theorem dX11_leader_23 : decode cX11_leader 23 = .ok (.aload_n 0, 1) := dk_42 (dk_at dksX11_leader_0 23 rfl rfl)
theorem dX11_leader_24 : decode cX11_leader 24 = .ok (.iload_n 2, 1) := dk_28 (dk_at dksX11_leader_1 0 rfl rfl)
theorem dX11_leader_25 : decode cX11_leader 25 = .ok (.invokevirtual 292, 3) := dk_182 1 36 (dk_at dksX11_leader_1 1 rfl rfl)
theorem dX11_leader_28 : decode cX11_leader 28 = .ok (.aload_n 0, 1) := dk_42 (dk_at dksX11_leader_1 4 rfl rfl)
theorem dX11_leader_29 : decode cX11_leader 29 = .ok (.iload_n 1, 1) := dk_27 (dk_at dksX11_leader_1 5 rfl rfl)
theorem dX11_leader_30 : decode cX11_leader 30 = .ok (.invokevirtual 292, 3) := dk_182 1 36 (dk_at dksX11_leader_1 6 rfl rfl)
theorem dX11_leader_33 : decode cX11_leader 33 = .ok (.if_icmp .le 5, 3) := dk_164 0 5 (dk_at dksX11_leader_1 9 rfl rfl)
theorem dX11_leader_36 : decode cX11_leader 36 = .ok (.iload_n 2, 1) := dk_28 (dk_at dksX11_leader_1 12 rfl rfl)
theorem dX11_leader_37 : decode cX11_leader 37 = .ok (.istore_n 1, 1) := dk_60 (dk_at dksX11_leader_1 13 rfl rfl)
theorem dX11_leader_38 : decode cX11_leader 38 = .ok (.iinc 2 1, 3) := dk_132 2 1 (dk_at dksX11_leader_1 14 rfl rfl)
theorem dX11_leader_41 : decode cX11_leader 41 = .ok (.goto (-32), 3) := dk_167 255 224 (dk_at dksX11_leader_1 17 rfl rfl)
theorem dX11_leader_44 : decode cX11_leader 44 = .ok (.iload_n 1, 1) := dk_27 (dk_at dksX11_leader_1 20 rfl rfl)
theorem dX11_leader_45 : decode cX11_leader 45 = .ok (.ireturn, 1) := dk_172 (dk_at dksX11_leader_1 21 rfl rfl)
abbrev cX11_evening : ByteArray := prog_23_method_96_code
def yX11_evening : MethodName := ⟨RX11, "evening", "(I)I"⟩
def dkwX11_evening_13 : List UInt8 := [180, 0, 33, 7, 46, 79, 42, 4, 181, 1, 189, 27, 154, 0, 7, 42, 182, 1, 173, 28, 172]
abbrev dktX11_evening_13 : List UInt8 := dkwX11_evening_13 ++ []
def dkwX11_evening_12 : List UInt8 := [79, 132, 3, 1, 167, 255, 80, 42, 180, 0, 96, 5, 42, 182, 1, 39, 79, 42, 180, 0, 96, 6, 42]
abbrev dktX11_evening_12 : List UInt8 := dkwX11_evening_12 ++ dktX11_evening_13
def dkwX11_evening_11 : List UInt8 := [3, 27, 4, 160, 0, 7, 4, 167, 0, 4, 3, 182, 1, 60, 87, 42, 180, 0, 96, 4, 92, 46, 4, 96]
abbrev dktX11_evening_11 : List UInt8 := dkwX11_evening_11 ++ dktX11_evening_12
def dkwX11_evening_10 : List UInt8 := [180, 0, 40, 21, 4, 46, 42, 180, 0, 40, 21, 4, 4, 96, 46, 42, 180, 0, 40, 21, 4, 5, 96, 46]
abbrev dktX11_evening_10 : List UInt8 := dkwX11_evening_10 ++ dktX11_evening_11
def dkwX11_evening_9 : List UInt8 := [21, 5, 79, 29, 61, 167, 0, 67, 27, 4, 160, 0, 11, 29, 154, 0, 7, 42, 182, 1, 57, 42, 42]
abbrev dktX11_evening_9 : List UInt8 := dkwX11_evening_9 ++ dktX11_evening_10
def dkwX11_evening_8 : List UInt8 := [180, 0, 40, 21, 4, 6, 96, 46, 159, 0, 6, 8, 54, 5, 21, 5, 158, 0, 16, 42, 180, 0, 96, 3]
abbrev dktX11_evening_8 : List UInt8 := dkwX11_evening_8 ++ dktX11_evening_9
def dkwX11_evening_7 : List UInt8 := [42, 42, 180, 0, 40, 21, 4, 4, 96, 46, 42, 180, 0, 40, 21, 4, 5, 96, 46, 3, 182, 0, 255, 42]
abbrev dktX11_evening_7 : List UInt8 := dkwX11_evening_7 ++ dktX11_evening_8
def dkwX11_evening_6 : List UInt8 := [21, 4, 4, 96, 46, 42, 180, 0, 40, 21, 4, 5, 96, 46, 182, 1, 45, 54, 5, 21, 5, 154, 0, 41]
abbrev dktX11_evening_6 : List UInt8 := dkwX11_evening_6 ++ dktX11_evening_7
def dkwX11_evening_5 : List UInt8 := [162, 0, 174, 28, 156, 0, 170, 7, 29, 104, 54, 4, 42, 42, 180, 0, 40, 21, 4, 46, 42, 180, 0, 40]
abbrev dktX11_evening_5 : List UInt8 := dkwX11_evening_5 ++ dktX11_evening_6
def dkwX11_evening_4 : List UInt8 := [42, 180, 0, 96, 28, 3, 79, 132, 2, 1, 167, 255, 241, 2, 61, 3, 62, 29, 42, 180, 1, 183]
abbrev dktX11_evening_4 : List UInt8 := dkwX11_evening_4 ++ dktX11_evening_5
def dkwX11_evening_3 : List UInt8 := [42, 89, 180, 1, 183, 4, 96, 181, 1, 183, 167, 255, 215, 42, 182, 1, 167, 3, 61, 28, 7, 162, 0, 16]
abbrev dktX11_evening_3 : List UInt8 := dkwX11_evening_3 ++ dktX11_evening_4
def dkwX11_evening_2 : List UInt8 := [42, 182, 1, 186, 153, 0, 12, 42, 16, 59, 182, 0, 243, 154, 0, 11, 16, 254, 42, 180, 0, 183, 100, 172]
abbrev dktX11_evening_2 : List UInt8 := dkwX11_evening_2 ++ dktX11_evening_3
def dkwX11_evening_1 : List UInt8 := [182, 0, 234, 42, 3, 181, 0, 180, 42, 3, 181, 1, 183, 42, 182, 0, 192, 42, 180, 0, 163, 153, 0, 40]
abbrev dktX11_evening_1 : List UInt8 := dkwX11_evening_1 ++ dktX11_evening_2
def dkwX11_evening_0 : List UInt8 := [42, 3, 181, 0, 1, 27, 3, 4, 184, 0, 195, 154, 0, 7, 17, 252, 24, 172, 42, 17, 1, 244]
abbrev dktX11_evening_0 : List UInt8 := dkwX11_evening_0 ++ dktX11_evening_1
theorem dksX11_evening_0 : cX11_evening.data.toList.drop 0 = dktX11_evening_0 := by decide +kernel
theorem dksX11_evening_1 : cX11_evening.data.toList.drop 22 = dktX11_evening_1 := dk_seg dksX11_evening_0 22 rfl rfl
theorem dksX11_evening_2 : cX11_evening.data.toList.drop 46 = dktX11_evening_2 := dk_seg dksX11_evening_1 24 rfl rfl
theorem dksX11_evening_3 : cX11_evening.data.toList.drop 70 = dktX11_evening_3 := dk_seg dksX11_evening_2 24 rfl rfl
theorem dksX11_evening_4 : cX11_evening.data.toList.drop 94 = dktX11_evening_4 := dk_seg dksX11_evening_3 24 rfl rfl
theorem dksX11_evening_5 : cX11_evening.data.toList.drop 116 = dktX11_evening_5 := dk_seg dksX11_evening_4 22 rfl rfl
theorem dksX11_evening_6 : cX11_evening.data.toList.drop 140 = dktX11_evening_6 := dk_seg dksX11_evening_5 24 rfl rfl
theorem dksX11_evening_7 : cX11_evening.data.toList.drop 164 = dktX11_evening_7 := dk_seg dksX11_evening_6 24 rfl rfl
theorem dksX11_evening_8 : cX11_evening.data.toList.drop 188 = dktX11_evening_8 := dk_seg dksX11_evening_7 24 rfl rfl
theorem dksX11_evening_9 : cX11_evening.data.toList.drop 212 = dktX11_evening_9 := dk_seg dksX11_evening_8 24 rfl rfl
theorem dksX11_evening_10 : cX11_evening.data.toList.drop 235 = dktX11_evening_10 := dk_seg dksX11_evening_9 23 rfl rfl
theorem dksX11_evening_11 : cX11_evening.data.toList.drop 259 = dktX11_evening_11 := dk_seg dksX11_evening_10 24 rfl rfl
theorem dksX11_evening_12 : cX11_evening.data.toList.drop 283 = dktX11_evening_12 := dk_seg dksX11_evening_11 24 rfl rfl
theorem dksX11_evening_13 : cX11_evening.data.toList.drop 306 = dktX11_evening_13 := dk_seg dksX11_evening_12 23 rfl rfl
theorem dX11_evening_0 : decode cX11_evening 0 = .ok (.aload_n 0, 1) := dk_42 (dk_at dksX11_evening_0 0 rfl rfl)
theorem dX11_evening_1 : decode cX11_evening 1 = .ok (.iconst 0, 1) := dk_3 (dk_at dksX11_evening_0 1 rfl rfl)
theorem dX11_evening_2 : decode cX11_evening 2 = .ok (.putfield 1, 3) := dk_181 0 1 (dk_at dksX11_evening_0 2 rfl rfl)
theorem dX11_evening_5 : decode cX11_evening 5 = .ok (.iload_n 1, 1) := dk_27 (dk_at dksX11_evening_0 5 rfl rfl)
theorem dX11_evening_6 : decode cX11_evening 6 = .ok (.iconst 0, 1) := dk_3 (dk_at dksX11_evening_0 6 rfl rfl)
theorem dX11_evening_7 : decode cX11_evening 7 = .ok (.iconst 1, 1) := dk_4 (dk_at dksX11_evening_0 7 rfl rfl)
theorem dX11_evening_8 : decode cX11_evening 8 = .ok (.invokestatic 195, 3) := dk_184 0 195 (dk_at dksX11_evening_0 8 rfl rfl)
theorem dX11_evening_11 : decode cX11_evening 11 = .ok (.ifCond .ne 7, 3) := dk_154 0 7 (dk_at dksX11_evening_0 11 rfl rfl)
theorem dX11_evening_14 : decode cX11_evening 14 = .ok (.sipush (-1000), 3) := dk_17 252 24 (dk_at dksX11_evening_0 14 rfl rfl)
theorem dX11_evening_17 : decode cX11_evening 17 = .ok (.ireturn, 1) := dk_172 (dk_at dksX11_evening_0 17 rfl rfl)
theorem dX11_evening_18 : decode cX11_evening 18 = .ok (.aload_n 0, 1) := dk_42 (dk_at dksX11_evening_0 18 rfl rfl)
theorem dX11_evening_19 : decode cX11_evening 19 = .ok (.sipush 500, 3) := dk_17 1 244 (dk_at dksX11_evening_0 19 rfl rfl)
theorem dX11_evening_22 : decode cX11_evening 22 = .ok (.invokevirtual 234, 3) := dk_182 0 234 (dk_at dksX11_evening_1 0 rfl rfl)
theorem dX11_evening_25 : decode cX11_evening 25 = .ok (.aload_n 0, 1) := dk_42 (dk_at dksX11_evening_1 3 rfl rfl)
theorem dX11_evening_26 : decode cX11_evening 26 = .ok (.iconst 0, 1) := dk_3 (dk_at dksX11_evening_1 4 rfl rfl)
theorem dX11_evening_27 : decode cX11_evening 27 = .ok (.putfield 180, 3) := dk_181 0 180 (dk_at dksX11_evening_1 5 rfl rfl)
theorem dX11_evening_30 : decode cX11_evening 30 = .ok (.aload_n 0, 1) := dk_42 (dk_at dksX11_evening_1 8 rfl rfl)
theorem dX11_evening_31 : decode cX11_evening 31 = .ok (.iconst 0, 1) := dk_3 (dk_at dksX11_evening_1 9 rfl rfl)
theorem dX11_evening_32 : decode cX11_evening 32 = .ok (.putfield 439, 3) := dk_181 1 183 (dk_at dksX11_evening_1 10 rfl rfl)
theorem dX11_evening_35 : decode cX11_evening 35 = .ok (.aload_n 0, 1) := dk_42 (dk_at dksX11_evening_1 13 rfl rfl)
theorem dX11_evening_36 : decode cX11_evening 36 = .ok (.invokevirtual 192, 3) := dk_182 0 192 (dk_at dksX11_evening_1 14 rfl rfl)
theorem dX11_evening_39 : decode cX11_evening 39 = .ok (.aload_n 0, 1) := dk_42 (dk_at dksX11_evening_1 17 rfl rfl)
theorem dX11_evening_40 : decode cX11_evening 40 = .ok (.getfield 163, 3) := dk_180 0 163 (dk_at dksX11_evening_1 18 rfl rfl)
theorem dX11_evening_43 : decode cX11_evening 43 = .ok (.ifCond .eq 40, 3) := dk_153 0 40 (dk_at dksX11_evening_1 21 rfl rfl)
theorem dX11_evening_46 : decode cX11_evening 46 = .ok (.aload_n 0, 1) := dk_42 (dk_at dksX11_evening_2 0 rfl rfl)
theorem dX11_evening_47 : decode cX11_evening 47 = .ok (.invokevirtual 442, 3) := dk_182 1 186 (dk_at dksX11_evening_2 1 rfl rfl)
theorem dX11_evening_50 : decode cX11_evening 50 = .ok (.ifCond .eq 12, 3) := dk_153 0 12 (dk_at dksX11_evening_2 4 rfl rfl)
theorem dX11_evening_53 : decode cX11_evening 53 = .ok (.aload_n 0, 1) := dk_42 (dk_at dksX11_evening_2 7 rfl rfl)
theorem dX11_evening_54 : decode cX11_evening 54 = .ok (.bipush 59, 2) := dk_16 59 (dk_at dksX11_evening_2 8 rfl rfl)
theorem dX11_evening_56 : decode cX11_evening 56 = .ok (.invokevirtual 243, 3) := dk_182 0 243 (dk_at dksX11_evening_2 10 rfl rfl)
theorem dX11_evening_59 : decode cX11_evening 59 = .ok (.ifCond .ne 11, 3) := dk_154 0 11 (dk_at dksX11_evening_2 13 rfl rfl)
theorem dX11_evening_62 : decode cX11_evening 62 = .ok (.bipush (-2), 2) := dk_16 254 (dk_at dksX11_evening_2 16 rfl rfl)
theorem dX11_evening_64 : decode cX11_evening 64 = .ok (.aload_n 0, 1) := dk_42 (dk_at dksX11_evening_2 18 rfl rfl)
theorem dX11_evening_65 : decode cX11_evening 65 = .ok (.getfield 183, 3) := dk_180 0 183 (dk_at dksX11_evening_2 19 rfl rfl)
theorem dX11_evening_68 : decode cX11_evening 68 = .ok (.isub, 1) := dk_100 (dk_at dksX11_evening_2 22 rfl rfl)
theorem dX11_evening_69 : decode cX11_evening 69 = .ok (.ireturn, 1) := dk_172 (dk_at dksX11_evening_2 23 rfl rfl)
theorem dX11_evening_70 : decode cX11_evening 70 = .ok (.aload_n 0, 1) := dk_42 (dk_at dksX11_evening_3 0 rfl rfl)
theorem dX11_evening_71 : decode cX11_evening 71 = .ok (.dup, 1) := dk_89 (dk_at dksX11_evening_3 1 rfl rfl)
theorem dX11_evening_72 : decode cX11_evening 72 = .ok (.getfield 439, 3) := dk_180 1 183 (dk_at dksX11_evening_3 2 rfl rfl)
theorem dX11_evening_75 : decode cX11_evening 75 = .ok (.iconst 1, 1) := dk_4 (dk_at dksX11_evening_3 5 rfl rfl)
theorem dX11_evening_76 : decode cX11_evening 76 = .ok (.iadd, 1) := dk_96 (dk_at dksX11_evening_3 6 rfl rfl)
theorem dX11_evening_77 : decode cX11_evening 77 = .ok (.putfield 439, 3) := dk_181 1 183 (dk_at dksX11_evening_3 7 rfl rfl)
theorem dX11_evening_80 : decode cX11_evening 80 = .ok (.goto (-41), 3) := dk_167 255 215 (dk_at dksX11_evening_3 10 rfl rfl)
theorem dX11_evening_83 : decode cX11_evening 83 = .ok (.aload_n 0, 1) := dk_42 (dk_at dksX11_evening_3 13 rfl rfl)
theorem dX11_evening_84 : decode cX11_evening 84 = .ok (.invokevirtual 423, 3) := dk_182 1 167 (dk_at dksX11_evening_3 14 rfl rfl)
theorem dX11_evening_87 : decode cX11_evening 87 = .ok (.iconst 0, 1) := dk_3 (dk_at dksX11_evening_3 17 rfl rfl)
theorem dX11_evening_88 : decode cX11_evening 88 = .ok (.istore_n 2, 1) := dk_61 (dk_at dksX11_evening_3 18 rfl rfl)
theorem dX11_evening_89 : decode cX11_evening 89 = .ok (.iload_n 2, 1) := dk_28 (dk_at dksX11_evening_3 19 rfl rfl)
theorem dX11_evening_90 : decode cX11_evening 90 = .ok (.iconst 4, 1) := dk_7 (dk_at dksX11_evening_3 20 rfl rfl)
theorem dX11_evening_91 : decode cX11_evening 91 = .ok (.if_icmp .ge 16, 3) := dk_162 0 16 (dk_at dksX11_evening_3 21 rfl rfl)
theorem dX11_evening_94 : decode cX11_evening 94 = .ok (.aload_n 0, 1) := dk_42 (dk_at dksX11_evening_4 0 rfl rfl)
theorem dX11_evening_95 : decode cX11_evening 95 = .ok (.getfield 96, 3) := dk_180 0 96 (dk_at dksX11_evening_4 1 rfl rfl)
theorem dX11_evening_98 : decode cX11_evening 98 = .ok (.iload_n 2, 1) := dk_28 (dk_at dksX11_evening_4 4 rfl rfl)
theorem dX11_evening_99 : decode cX11_evening 99 = .ok (.iconst 0, 1) := dk_3 (dk_at dksX11_evening_4 5 rfl rfl)
theorem dX11_evening_100 : decode cX11_evening 100 = .ok (.iastore, 1) := dk_79 (dk_at dksX11_evening_4 6 rfl rfl)
theorem dX11_evening_101 : decode cX11_evening 101 = .ok (.iinc 2 1, 3) := dk_132 2 1 (dk_at dksX11_evening_4 7 rfl rfl)
theorem dX11_evening_104 : decode cX11_evening 104 = .ok (.goto (-15), 3) := dk_167 255 241 (dk_at dksX11_evening_4 10 rfl rfl)
theorem dX11_evening_107 : decode cX11_evening 107 = .ok (.iconst (-1), 1) := dk_2 (dk_at dksX11_evening_4 13 rfl rfl)
theorem dX11_evening_108 : decode cX11_evening 108 = .ok (.istore_n 2, 1) := dk_61 (dk_at dksX11_evening_4 14 rfl rfl)
theorem dX11_evening_109 : decode cX11_evening 109 = .ok (.iconst 0, 1) := dk_3 (dk_at dksX11_evening_4 15 rfl rfl)
theorem dX11_evening_110 : decode cX11_evening 110 = .ok (.istore_n 3, 1) := dk_62 (dk_at dksX11_evening_4 16 rfl rfl)
theorem dX11_evening_111 : decode cX11_evening 111 = .ok (.iload_n 3, 1) := dk_29 (dk_at dksX11_evening_4 17 rfl rfl)
theorem dX11_evening_112 : decode cX11_evening 112 = .ok (.aload_n 0, 1) := dk_42 (dk_at dksX11_evening_4 18 rfl rfl)
theorem dX11_evening_113 : decode cX11_evening 113 = .ok (.getfield 439, 3) := dk_180 1 183 (dk_at dksX11_evening_4 19 rfl rfl)
theorem dX11_evening_116 : decode cX11_evening 116 = .ok (.if_icmp .ge 174, 3) := dk_162 0 174 (dk_at dksX11_evening_5 0 rfl rfl)
theorem dX11_evening_119 : decode cX11_evening 119 = .ok (.iload_n 2, 1) := dk_28 (dk_at dksX11_evening_5 3 rfl rfl)
theorem dX11_evening_120 : decode cX11_evening 120 = .ok (.ifCond .ge 170, 3) := dk_156 0 170 (dk_at dksX11_evening_5 4 rfl rfl)
theorem dX11_evening_123 : decode cX11_evening 123 = .ok (.iconst 4, 1) := dk_7 (dk_at dksX11_evening_5 7 rfl rfl)
theorem dX11_evening_124 : decode cX11_evening 124 = .ok (.iload_n 3, 1) := dk_29 (dk_at dksX11_evening_5 8 rfl rfl)
theorem dX11_evening_125 : decode cX11_evening 125 = .ok (.imul, 1) := dk_104 (dk_at dksX11_evening_5 9 rfl rfl)
theorem dX11_evening_126 : decode cX11_evening 126 = .ok (.istore 4, 2) := dk_54 4 (dk_at dksX11_evening_5 10 rfl rfl)
theorem dX11_evening_128 : decode cX11_evening 128 = .ok (.aload_n 0, 1) := dk_42 (dk_at dksX11_evening_5 12 rfl rfl)
theorem dX11_evening_129 : decode cX11_evening 129 = .ok (.aload_n 0, 1) := dk_42 (dk_at dksX11_evening_5 13 rfl rfl)
theorem dX11_evening_130 : decode cX11_evening 130 = .ok (.getfield 40, 3) := dk_180 0 40 (dk_at dksX11_evening_5 14 rfl rfl)
theorem dX11_evening_133 : decode cX11_evening 133 = .ok (.iload 4, 2) := dk_21 4 (dk_at dksX11_evening_5 17 rfl rfl)
theorem dX11_evening_135 : decode cX11_evening 135 = .ok (.iaload, 1) := dk_46 (dk_at dksX11_evening_5 19 rfl rfl)
theorem dX11_evening_136 : decode cX11_evening 136 = .ok (.aload_n 0, 1) := dk_42 (dk_at dksX11_evening_5 20 rfl rfl)
theorem dX11_evening_137 : decode cX11_evening 137 = .ok (.getfield 40, 3) := dk_180 0 40 (dk_at dksX11_evening_5 21 rfl rfl)
theorem dX11_evening_140 : decode cX11_evening 140 = .ok (.iload 4, 2) := dk_21 4 (dk_at dksX11_evening_6 0 rfl rfl)
theorem dX11_evening_142 : decode cX11_evening 142 = .ok (.iconst 1, 1) := dk_4 (dk_at dksX11_evening_6 2 rfl rfl)
theorem dX11_evening_143 : decode cX11_evening 143 = .ok (.iadd, 1) := dk_96 (dk_at dksX11_evening_6 3 rfl rfl)
theorem dX11_evening_144 : decode cX11_evening 144 = .ok (.iaload, 1) := dk_46 (dk_at dksX11_evening_6 4 rfl rfl)
theorem dX11_evening_145 : decode cX11_evening 145 = .ok (.aload_n 0, 1) := dk_42 (dk_at dksX11_evening_6 5 rfl rfl)
theorem dX11_evening_146 : decode cX11_evening 146 = .ok (.getfield 40, 3) := dk_180 0 40 (dk_at dksX11_evening_6 6 rfl rfl)
theorem dX11_evening_149 : decode cX11_evening 149 = .ok (.iload 4, 2) := dk_21 4 (dk_at dksX11_evening_6 9 rfl rfl)
theorem dX11_evening_151 : decode cX11_evening 151 = .ok (.iconst 2, 1) := dk_5 (dk_at dksX11_evening_6 11 rfl rfl)
theorem dX11_evening_152 : decode cX11_evening 152 = .ok (.iadd, 1) := dk_96 (dk_at dksX11_evening_6 12 rfl rfl)
theorem dX11_evening_153 : decode cX11_evening 153 = .ok (.iaload, 1) := dk_46 (dk_at dksX11_evening_6 13 rfl rfl)
theorem dX11_evening_154 : decode cX11_evening 154 = .ok (.invokevirtual 301, 3) := dk_182 1 45 (dk_at dksX11_evening_6 14 rfl rfl)
theorem dX11_evening_157 : decode cX11_evening 157 = .ok (.istore 5, 2) := dk_54 5 (dk_at dksX11_evening_6 17 rfl rfl)
theorem dX11_evening_159 : decode cX11_evening 159 = .ok (.iload 5, 2) := dk_21 5 (dk_at dksX11_evening_6 19 rfl rfl)
theorem dX11_evening_161 : decode cX11_evening 161 = .ok (.ifCond .ne 41, 3) := dk_154 0 41 (dk_at dksX11_evening_6 21 rfl rfl)
theorem dX11_evening_164 : decode cX11_evening 164 = .ok (.aload_n 0, 1) := dk_42 (dk_at dksX11_evening_7 0 rfl rfl)
theorem dX11_evening_165 : decode cX11_evening 165 = .ok (.aload_n 0, 1) := dk_42 (dk_at dksX11_evening_7 1 rfl rfl)
theorem dX11_evening_166 : decode cX11_evening 166 = .ok (.getfield 40, 3) := dk_180 0 40 (dk_at dksX11_evening_7 2 rfl rfl)
theorem dX11_evening_169 : decode cX11_evening 169 = .ok (.iload 4, 2) := dk_21 4 (dk_at dksX11_evening_7 5 rfl rfl)
theorem dX11_evening_171 : decode cX11_evening 171 = .ok (.iconst 1, 1) := dk_4 (dk_at dksX11_evening_7 7 rfl rfl)
theorem dX11_evening_172 : decode cX11_evening 172 = .ok (.iadd, 1) := dk_96 (dk_at dksX11_evening_7 8 rfl rfl)
theorem dX11_evening_173 : decode cX11_evening 173 = .ok (.iaload, 1) := dk_46 (dk_at dksX11_evening_7 9 rfl rfl)
theorem dX11_evening_174 : decode cX11_evening 174 = .ok (.aload_n 0, 1) := dk_42 (dk_at dksX11_evening_7 10 rfl rfl)
theorem dX11_evening_175 : decode cX11_evening 175 = .ok (.getfield 40, 3) := dk_180 0 40 (dk_at dksX11_evening_7 11 rfl rfl)
theorem dX11_evening_178 : decode cX11_evening 178 = .ok (.iload 4, 2) := dk_21 4 (dk_at dksX11_evening_7 14 rfl rfl)
theorem dX11_evening_180 : decode cX11_evening 180 = .ok (.iconst 2, 1) := dk_5 (dk_at dksX11_evening_7 16 rfl rfl)
theorem dX11_evening_181 : decode cX11_evening 181 = .ok (.iadd, 1) := dk_96 (dk_at dksX11_evening_7 17 rfl rfl)
theorem dX11_evening_182 : decode cX11_evening 182 = .ok (.iaload, 1) := dk_46 (dk_at dksX11_evening_7 18 rfl rfl)
theorem dX11_evening_183 : decode cX11_evening 183 = .ok (.iconst 0, 1) := dk_3 (dk_at dksX11_evening_7 19 rfl rfl)
theorem dX11_evening_184 : decode cX11_evening 184 = .ok (.invokevirtual 255, 3) := dk_182 0 255 (dk_at dksX11_evening_7 20 rfl rfl)
theorem dX11_evening_187 : decode cX11_evening 187 = .ok (.aload_n 0, 1) := dk_42 (dk_at dksX11_evening_7 23 rfl rfl)
theorem dX11_evening_188 : decode cX11_evening 188 = .ok (.getfield 40, 3) := dk_180 0 40 (dk_at dksX11_evening_8 0 rfl rfl)
theorem dX11_evening_191 : decode cX11_evening 191 = .ok (.iload 4, 2) := dk_21 4 (dk_at dksX11_evening_8 3 rfl rfl)
theorem dX11_evening_193 : decode cX11_evening 193 = .ok (.iconst 3, 1) := dk_6 (dk_at dksX11_evening_8 5 rfl rfl)
theorem dX11_evening_194 : decode cX11_evening 194 = .ok (.iadd, 1) := dk_96 (dk_at dksX11_evening_8 6 rfl rfl)
theorem dX11_evening_195 : decode cX11_evening 195 = .ok (.iaload, 1) := dk_46 (dk_at dksX11_evening_8 7 rfl rfl)
theorem dX11_evening_196 : decode cX11_evening 196 = .ok (.if_icmp .eq 6, 3) := dk_159 0 6 (dk_at dksX11_evening_8 8 rfl rfl)
theorem dX11_evening_199 : decode cX11_evening 199 = .ok (.iconst 5, 1) := dk_8 (dk_at dksX11_evening_8 11 rfl rfl)
theorem dX11_evening_200 : decode cX11_evening 200 = .ok (.istore 5, 2) := dk_54 5 (dk_at dksX11_evening_8 12 rfl rfl)
theorem dX11_evening_202 : decode cX11_evening 202 = .ok (.iload 5, 2) := dk_21 5 (dk_at dksX11_evening_8 14 rfl rfl)
theorem dX11_evening_204 : decode cX11_evening 204 = .ok (.ifCond .le 16, 3) := dk_158 0 16 (dk_at dksX11_evening_8 16 rfl rfl)
theorem dX11_evening_207 : decode cX11_evening 207 = .ok (.aload_n 0, 1) := dk_42 (dk_at dksX11_evening_8 19 rfl rfl)
theorem dX11_evening_208 : decode cX11_evening 208 = .ok (.getfield 96, 3) := dk_180 0 96 (dk_at dksX11_evening_8 20 rfl rfl)
theorem dX11_evening_211 : decode cX11_evening 211 = .ok (.iconst 0, 1) := dk_3 (dk_at dksX11_evening_8 23 rfl rfl)
theorem dX11_evening_212 : decode cX11_evening 212 = .ok (.iload 5, 2) := dk_21 5 (dk_at dksX11_evening_9 0 rfl rfl)
theorem dX11_evening_214 : decode cX11_evening 214 = .ok (.iastore, 1) := dk_79 (dk_at dksX11_evening_9 2 rfl rfl)
theorem dX11_evening_215 : decode cX11_evening 215 = .ok (.iload_n 3, 1) := dk_29 (dk_at dksX11_evening_9 3 rfl rfl)
theorem dX11_evening_216 : decode cX11_evening 216 = .ok (.istore_n 2, 1) := dk_61 (dk_at dksX11_evening_9 4 rfl rfl)
theorem dX11_evening_217 : decode cX11_evening 217 = .ok (.goto 67, 3) := dk_167 0 67 (dk_at dksX11_evening_9 5 rfl rfl)
theorem dX11_evening_220 : decode cX11_evening 220 = .ok (.iload_n 1, 1) := dk_27 (dk_at dksX11_evening_9 8 rfl rfl)
theorem dX11_evening_221 : decode cX11_evening 221 = .ok (.iconst 1, 1) := dk_4 (dk_at dksX11_evening_9 9 rfl rfl)
theorem dX11_evening_222 : decode cX11_evening 222 = .ok (.if_icmp .ne 11, 3) := dk_160 0 11 (dk_at dksX11_evening_9 10 rfl rfl)
theorem dX11_evening_225 : decode cX11_evening 225 = .ok (.iload_n 3, 1) := dk_29 (dk_at dksX11_evening_9 13 rfl rfl)
theorem dX11_evening_226 : decode cX11_evening 226 = .ok (.ifCond .ne 7, 3) := dk_154 0 7 (dk_at dksX11_evening_9 14 rfl rfl)
theorem dX11_evening_229 : decode cX11_evening 229 = .ok (.aload_n 0, 1) := dk_42 (dk_at dksX11_evening_9 17 rfl rfl)
theorem dX11_evening_230 : decode cX11_evening 230 = .ok (.invokevirtual 313, 3) := dk_182 1 57 (dk_at dksX11_evening_9 18 rfl rfl)
theorem dX11_evening_233 : decode cX11_evening 233 = .ok (.aload_n 0, 1) := dk_42 (dk_at dksX11_evening_9 21 rfl rfl)
theorem dX11_evening_234 : decode cX11_evening 234 = .ok (.aload_n 0, 1) := dk_42 (dk_at dksX11_evening_9 22 rfl rfl)
theorem dX11_evening_235 : decode cX11_evening 235 = .ok (.getfield 40, 3) := dk_180 0 40 (dk_at dksX11_evening_10 0 rfl rfl)
theorem dX11_evening_238 : decode cX11_evening 238 = .ok (.iload 4, 2) := dk_21 4 (dk_at dksX11_evening_10 3 rfl rfl)
theorem dX11_evening_240 : decode cX11_evening 240 = .ok (.iaload, 1) := dk_46 (dk_at dksX11_evening_10 5 rfl rfl)
theorem dX11_evening_241 : decode cX11_evening 241 = .ok (.aload_n 0, 1) := dk_42 (dk_at dksX11_evening_10 6 rfl rfl)
theorem dX11_evening_242 : decode cX11_evening 242 = .ok (.getfield 40, 3) := dk_180 0 40 (dk_at dksX11_evening_10 7 rfl rfl)
theorem dX11_evening_245 : decode cX11_evening 245 = .ok (.iload 4, 2) := dk_21 4 (dk_at dksX11_evening_10 10 rfl rfl)
theorem dX11_evening_247 : decode cX11_evening 247 = .ok (.iconst 1, 1) := dk_4 (dk_at dksX11_evening_10 12 rfl rfl)
theorem dX11_evening_248 : decode cX11_evening 248 = .ok (.iadd, 1) := dk_96 (dk_at dksX11_evening_10 13 rfl rfl)
theorem dX11_evening_249 : decode cX11_evening 249 = .ok (.iaload, 1) := dk_46 (dk_at dksX11_evening_10 14 rfl rfl)
theorem dX11_evening_250 : decode cX11_evening 250 = .ok (.aload_n 0, 1) := dk_42 (dk_at dksX11_evening_10 15 rfl rfl)
theorem dX11_evening_251 : decode cX11_evening 251 = .ok (.getfield 40, 3) := dk_180 0 40 (dk_at dksX11_evening_10 16 rfl rfl)
theorem dX11_evening_254 : decode cX11_evening 254 = .ok (.iload 4, 2) := dk_21 4 (dk_at dksX11_evening_10 19 rfl rfl)
theorem dX11_evening_256 : decode cX11_evening 256 = .ok (.iconst 2, 1) := dk_5 (dk_at dksX11_evening_10 21 rfl rfl)
theorem dX11_evening_257 : decode cX11_evening 257 = .ok (.iadd, 1) := dk_96 (dk_at dksX11_evening_10 22 rfl rfl)
theorem dX11_evening_258 : decode cX11_evening 258 = .ok (.iaload, 1) := dk_46 (dk_at dksX11_evening_10 23 rfl rfl)
theorem dX11_evening_259 : decode cX11_evening 259 = .ok (.iconst 0, 1) := dk_3 (dk_at dksX11_evening_11 0 rfl rfl)
theorem dX11_evening_260 : decode cX11_evening 260 = .ok (.iload_n 1, 1) := dk_27 (dk_at dksX11_evening_11 1 rfl rfl)
theorem dX11_evening_261 : decode cX11_evening 261 = .ok (.iconst 1, 1) := dk_4 (dk_at dksX11_evening_11 2 rfl rfl)
theorem dX11_evening_262 : decode cX11_evening 262 = .ok (.if_icmp .ne 7, 3) := dk_160 0 7 (dk_at dksX11_evening_11 3 rfl rfl)
theorem dX11_evening_265 : decode cX11_evening 265 = .ok (.iconst 1, 1) := dk_4 (dk_at dksX11_evening_11 6 rfl rfl)
theorem dX11_evening_266 : decode cX11_evening 266 = .ok (.goto 4, 3) := dk_167 0 4 (dk_at dksX11_evening_11 7 rfl rfl)
theorem dX11_evening_269 : decode cX11_evening 269 = .ok (.iconst 0, 1) := dk_3 (dk_at dksX11_evening_11 10 rfl rfl)
theorem dX11_evening_270 : decode cX11_evening 270 = .ok (.invokevirtual 316, 3) := dk_182 1 60 (dk_at dksX11_evening_11 11 rfl rfl)
theorem dX11_evening_273 : decode cX11_evening 273 = .ok (.pop, 1) := dk_87 (dk_at dksX11_evening_11 14 rfl rfl)
theorem dX11_evening_274 : decode cX11_evening 274 = .ok (.aload_n 0, 1) := dk_42 (dk_at dksX11_evening_11 15 rfl rfl)
theorem dX11_evening_275 : decode cX11_evening 275 = .ok (.getfield 96, 3) := dk_180 0 96 (dk_at dksX11_evening_11 16 rfl rfl)
theorem dX11_evening_278 : decode cX11_evening 278 = .ok (.iconst 1, 1) := dk_4 (dk_at dksX11_evening_11 19 rfl rfl)
theorem dX11_evening_279 : decode cX11_evening 279 = .ok (.dup2, 1) := dk_92 (dk_at dksX11_evening_11 20 rfl rfl)
theorem dX11_evening_280 : decode cX11_evening 280 = .ok (.iaload, 1) := dk_46 (dk_at dksX11_evening_11 21 rfl rfl)
theorem dX11_evening_281 : decode cX11_evening 281 = .ok (.iconst 1, 1) := dk_4 (dk_at dksX11_evening_11 22 rfl rfl)
theorem dX11_evening_282 : decode cX11_evening 282 = .ok (.iadd, 1) := dk_96 (dk_at dksX11_evening_11 23 rfl rfl)
theorem dX11_evening_283 : decode cX11_evening 283 = .ok (.iastore, 1) := dk_79 (dk_at dksX11_evening_12 0 rfl rfl)
theorem dX11_evening_284 : decode cX11_evening 284 = .ok (.iinc 3 1, 3) := dk_132 3 1 (dk_at dksX11_evening_12 1 rfl rfl)
theorem dX11_evening_287 : decode cX11_evening 287 = .ok (.goto (-176), 3) := dk_167 255 80 (dk_at dksX11_evening_12 4 rfl rfl)
theorem dX11_evening_290 : decode cX11_evening 290 = .ok (.aload_n 0, 1) := dk_42 (dk_at dksX11_evening_12 7 rfl rfl)
theorem dX11_evening_291 : decode cX11_evening 291 = .ok (.getfield 96, 3) := dk_180 0 96 (dk_at dksX11_evening_12 8 rfl rfl)
theorem dX11_evening_294 : decode cX11_evening 294 = .ok (.iconst 2, 1) := dk_5 (dk_at dksX11_evening_12 11 rfl rfl)
theorem dX11_evening_295 : decode cX11_evening 295 = .ok (.aload_n 0, 1) := dk_42 (dk_at dksX11_evening_12 12 rfl rfl)
theorem dX11_evening_296 : decode cX11_evening 296 = .ok (.invokevirtual 295, 3) := dk_182 1 39 (dk_at dksX11_evening_12 13 rfl rfl)
theorem dX11_evening_299 : decode cX11_evening 299 = .ok (.iastore, 1) := dk_79 (dk_at dksX11_evening_12 16 rfl rfl)
theorem dX11_evening_300 : decode cX11_evening 300 = .ok (.aload_n 0, 1) := dk_42 (dk_at dksX11_evening_12 17 rfl rfl)
theorem dX11_evening_301 : decode cX11_evening 301 = .ok (.getfield 96, 3) := dk_180 0 96 (dk_at dksX11_evening_12 18 rfl rfl)
theorem dX11_evening_304 : decode cX11_evening 304 = .ok (.iconst 3, 1) := dk_6 (dk_at dksX11_evening_12 21 rfl rfl)
theorem dX11_evening_305 : decode cX11_evening 305 = .ok (.aload_n 0, 1) := dk_42 (dk_at dksX11_evening_12 22 rfl rfl)
theorem dX11_evening_306 : decode cX11_evening 306 = .ok (.getfield 33, 3) := dk_180 0 33 (dk_at dksX11_evening_13 0 rfl rfl)
theorem dX11_evening_309 : decode cX11_evening 309 = .ok (.iconst 4, 1) := dk_7 (dk_at dksX11_evening_13 3 rfl rfl)
theorem dX11_evening_310 : decode cX11_evening 310 = .ok (.iaload, 1) := dk_46 (dk_at dksX11_evening_13 4 rfl rfl)
theorem dX11_evening_311 : decode cX11_evening 311 = .ok (.iastore, 1) := dk_79 (dk_at dksX11_evening_13 5 rfl rfl)
theorem dX11_evening_312 : decode cX11_evening 312 = .ok (.aload_n 0, 1) := dk_42 (dk_at dksX11_evening_13 6 rfl rfl)
theorem dX11_evening_313 : decode cX11_evening 313 = .ok (.iconst 1, 1) := dk_4 (dk_at dksX11_evening_13 7 rfl rfl)
theorem dX11_evening_314 : decode cX11_evening 314 = .ok (.putfield 445, 3) := dk_181 1 189 (dk_at dksX11_evening_13 8 rfl rfl)
theorem dX11_evening_317 : decode cX11_evening 317 = .ok (.iload_n 1, 1) := dk_27 (dk_at dksX11_evening_13 11 rfl rfl)
theorem dX11_evening_318 : decode cX11_evening 318 = .ok (.ifCond .ne 7, 3) := dk_154 0 7 (dk_at dksX11_evening_13 12 rfl rfl)
theorem dX11_evening_321 : decode cX11_evening 321 = .ok (.aload_n 0, 1) := dk_42 (dk_at dksX11_evening_13 15 rfl rfl)
theorem dX11_evening_322 : decode cX11_evening 322 = .ok (.invokevirtual 429, 3) := dk_182 1 173 (dk_at dksX11_evening_13 16 rfl rfl)
theorem dX11_evening_325 : decode cX11_evening 325 = .ok (.iload_n 2, 1) := dk_28 (dk_at dksX11_evening_13 19 rfl rfl)
theorem dX11_evening_326 : decode cX11_evening 326 = .ok (.ireturn, 1) := dk_172 (dk_at dksX11_evening_13 20 rfl rfl)
abbrev cX11_eveningLine : ByteArray := prog_23_method_95_code
def yX11_eveningLine : MethodName := ⟨RX11, "eveningLine", "()Z"⟩
def dkwX11_eveningLine_10 : List UInt8 := [180, 0, 199, 79, 4, 172]
abbrev dktX11_eveningLine_10 : List UInt8 := dkwX11_eveningLine_10 ++ []
def dkwX11_eveningLine_9 : List UInt8 := [172, 42, 182, 0, 192, 42, 4, 7, 182, 0, 210, 154, 0, 5, 3, 172, 42, 180, 0, 40, 27, 6, 96, 42]
abbrev dktX11_eveningLine_9 : List UInt8 := dkwX11_eveningLine_9 ++ dktX11_eveningLine_10
def dkwX11_eveningLine_8 : List UInt8 := [153, 0, 9, 42, 182, 0, 192, 4, 172, 42, 20, 0, 129, 182, 0, 202, 154, 0, 9, 42, 4, 182, 0, 189]
abbrev dktX11_eveningLine_8 : List UInt8 := dkwX11_eveningLine_8 ++ dktX11_eveningLine_9
def dkwX11_eveningLine_7 : List UInt8 := [96, 42, 180, 0, 199, 79, 42, 180, 0, 40, 27, 6, 96, 3, 79, 42, 20, 0, 131, 182, 0, 202]
abbrev dktX11_eveningLine_7 : List UInt8 := dkwX11_eveningLine_7 ++ dktX11_eveningLine_8
def dkwX11_eveningLine_6 : List UInt8 := [3, 172, 42, 180, 0, 40, 27, 28, 79, 42, 180, 0, 40, 27, 4, 96, 29, 79, 42, 180, 0, 40, 27, 5]
abbrev dktX11_eveningLine_6 : List UInt8 := dkwX11_eveningLine_6 ++ dktX11_eveningLine_7
def dkwX11_eveningLine_5 : List UInt8 := [182, 0, 189, 172, 42, 182, 0, 192, 42, 3, 42, 180, 0, 33, 3, 46, 4, 100, 182, 0, 210, 154, 0, 5]
abbrev dktX11_eveningLine_5 : List UInt8 := dkwX11_eveningLine_5 ++ dktX11_eveningLine_6
def dkwX11_eveningLine_4 : List UInt8 := [182, 0, 189, 172, 42, 3, 42, 180, 0, 33, 4, 46, 182, 0, 218, 62, 29, 156, 0, 9, 42, 6]
abbrev dktX11_eveningLine_4 : List UInt8 := dkwX11_eveningLine_4 ++ dktX11_eveningLine_5
def dkwX11_eveningLine_3 : List UInt8 := [154, 0, 9, 42, 4, 182, 0, 189, 172, 42, 182, 0, 192, 42, 182, 0, 214, 154, 0, 9, 42, 4]
abbrev dktX11_eveningLine_3 : List UInt8 := dkwX11_eveningLine_3 ++ dktX11_eveningLine_4
def dkwX11_eveningLine_2 : List UInt8 := [16, 30, 160, 0, 9, 42, 7, 182, 0, 189, 172, 42, 182, 0, 192, 42, 20, 0, 127, 182, 0, 202]
abbrev dktX11_eveningLine_2 : List UInt8 := dkwX11_eveningLine_2 ++ dktX11_eveningLine_3
def dkwX11_eveningLine_1 : List UInt8 := [180, 0, 33, 4, 46, 182, 0, 218, 61, 28, 156, 0, 9, 42, 6, 182, 0, 189, 172, 42, 180, 1, 183]
abbrev dktX11_eveningLine_1 : List UInt8 := dkwX11_eveningLine_1 ++ dktX11_eveningLine_2
def dkwX11_eveningLine_0 : List UInt8 := [7, 42, 180, 1, 183, 104, 60, 42, 182, 0, 214, 154, 0, 9, 42, 4, 182, 0, 189, 172, 42, 3, 42]
abbrev dktX11_eveningLine_0 : List UInt8 := dkwX11_eveningLine_0 ++ dktX11_eveningLine_1
theorem dksX11_eveningLine_0 : cX11_eveningLine.data.toList.drop 0 = dktX11_eveningLine_0 := by decide +kernel
theorem dksX11_eveningLine_1 : cX11_eveningLine.data.toList.drop 23 = dktX11_eveningLine_1 := dk_seg dksX11_eveningLine_0 23 rfl rfl
theorem dksX11_eveningLine_2 : cX11_eveningLine.data.toList.drop 46 = dktX11_eveningLine_2 := dk_seg dksX11_eveningLine_1 23 rfl rfl
theorem dksX11_eveningLine_3 : cX11_eveningLine.data.toList.drop 68 = dktX11_eveningLine_3 := dk_seg dksX11_eveningLine_2 22 rfl rfl
theorem dksX11_eveningLine_4 : cX11_eveningLine.data.toList.drop 90 = dktX11_eveningLine_4 := dk_seg dksX11_eveningLine_3 22 rfl rfl
theorem dksX11_eveningLine_5 : cX11_eveningLine.data.toList.drop 112 = dktX11_eveningLine_5 := dk_seg dksX11_eveningLine_4 22 rfl rfl
theorem dksX11_eveningLine_6 : cX11_eveningLine.data.toList.drop 136 = dktX11_eveningLine_6 := dk_seg dksX11_eveningLine_5 24 rfl rfl
theorem dksX11_eveningLine_7 : cX11_eveningLine.data.toList.drop 160 = dktX11_eveningLine_7 := dk_seg dksX11_eveningLine_6 24 rfl rfl
theorem dksX11_eveningLine_8 : cX11_eveningLine.data.toList.drop 182 = dktX11_eveningLine_8 := dk_seg dksX11_eveningLine_7 22 rfl rfl
theorem dksX11_eveningLine_9 : cX11_eveningLine.data.toList.drop 206 = dktX11_eveningLine_9 := dk_seg dksX11_eveningLine_8 24 rfl rfl
theorem dksX11_eveningLine_10 : cX11_eveningLine.data.toList.drop 230 = dktX11_eveningLine_10 := dk_seg dksX11_eveningLine_9 24 rfl rfl
theorem dX11_eveningLine_0 : decode cX11_eveningLine 0 = .ok (.iconst 4, 1) := dk_7 (dk_at dksX11_eveningLine_0 0 rfl rfl)
theorem dX11_eveningLine_1 : decode cX11_eveningLine 1 = .ok (.aload_n 0, 1) := dk_42 (dk_at dksX11_eveningLine_0 1 rfl rfl)
theorem dX11_eveningLine_2 : decode cX11_eveningLine 2 = .ok (.getfield 439, 3) := dk_180 1 183 (dk_at dksX11_eveningLine_0 2 rfl rfl)
theorem dX11_eveningLine_5 : decode cX11_eveningLine 5 = .ok (.imul, 1) := dk_104 (dk_at dksX11_eveningLine_0 5 rfl rfl)
theorem dX11_eveningLine_6 : decode cX11_eveningLine 6 = .ok (.istore_n 1, 1) := dk_60 (dk_at dksX11_eveningLine_0 6 rfl rfl)
theorem dX11_eveningLine_7 : decode cX11_eveningLine 7 = .ok (.aload_n 0, 1) := dk_42 (dk_at dksX11_eveningLine_0 7 rfl rfl)
theorem dX11_eveningLine_8 : decode cX11_eveningLine 8 = .ok (.invokevirtual 214, 3) := dk_182 0 214 (dk_at dksX11_eveningLine_0 8 rfl rfl)
theorem dX11_eveningLine_11 : decode cX11_eveningLine 11 = .ok (.ifCond .ne 9, 3) := dk_154 0 9 (dk_at dksX11_eveningLine_0 11 rfl rfl)
theorem dX11_eveningLine_14 : decode cX11_eveningLine 14 = .ok (.aload_n 0, 1) := dk_42 (dk_at dksX11_eveningLine_0 14 rfl rfl)
theorem dX11_eveningLine_15 : decode cX11_eveningLine 15 = .ok (.iconst 1, 1) := dk_4 (dk_at dksX11_eveningLine_0 15 rfl rfl)
theorem dX11_eveningLine_16 : decode cX11_eveningLine 16 = .ok (.invokevirtual 189, 3) := dk_182 0 189 (dk_at dksX11_eveningLine_0 16 rfl rfl)
theorem dX11_eveningLine_19 : decode cX11_eveningLine 19 = .ok (.ireturn, 1) := dk_172 (dk_at dksX11_eveningLine_0 19 rfl rfl)
theorem dX11_eveningLine_20 : decode cX11_eveningLine 20 = .ok (.aload_n 0, 1) := dk_42 (dk_at dksX11_eveningLine_0 20 rfl rfl)
theorem dX11_eveningLine_21 : decode cX11_eveningLine 21 = .ok (.iconst 0, 1) := dk_3 (dk_at dksX11_eveningLine_0 21 rfl rfl)
theorem dX11_eveningLine_22 : decode cX11_eveningLine 22 = .ok (.aload_n 0, 1) := dk_42 (dk_at dksX11_eveningLine_0 22 rfl rfl)
theorem dX11_eveningLine_23 : decode cX11_eveningLine 23 = .ok (.getfield 33, 3) := dk_180 0 33 (dk_at dksX11_eveningLine_1 0 rfl rfl)
theorem dX11_eveningLine_26 : decode cX11_eveningLine 26 = .ok (.iconst 1, 1) := dk_4 (dk_at dksX11_eveningLine_1 3 rfl rfl)
theorem dX11_eveningLine_27 : decode cX11_eveningLine 27 = .ok (.iaload, 1) := dk_46 (dk_at dksX11_eveningLine_1 4 rfl rfl)
theorem dX11_eveningLine_28 : decode cX11_eveningLine 28 = .ok (.invokevirtual 218, 3) := dk_182 0 218 (dk_at dksX11_eveningLine_1 5 rfl rfl)
theorem dX11_eveningLine_31 : decode cX11_eveningLine 31 = .ok (.istore_n 2, 1) := dk_61 (dk_at dksX11_eveningLine_1 8 rfl rfl)
theorem dX11_eveningLine_32 : decode cX11_eveningLine 32 = .ok (.iload_n 2, 1) := dk_28 (dk_at dksX11_eveningLine_1 9 rfl rfl)
theorem dX11_eveningLine_33 : decode cX11_eveningLine 33 = .ok (.ifCond .ge 9, 3) := dk_156 0 9 (dk_at dksX11_eveningLine_1 10 rfl rfl)
theorem dX11_eveningLine_36 : decode cX11_eveningLine 36 = .ok (.aload_n 0, 1) := dk_42 (dk_at dksX11_eveningLine_1 13 rfl rfl)
theorem dX11_eveningLine_37 : decode cX11_eveningLine 37 = .ok (.iconst 3, 1) := dk_6 (dk_at dksX11_eveningLine_1 14 rfl rfl)
theorem dX11_eveningLine_38 : decode cX11_eveningLine 38 = .ok (.invokevirtual 189, 3) := dk_182 0 189 (dk_at dksX11_eveningLine_1 15 rfl rfl)
theorem dX11_eveningLine_41 : decode cX11_eveningLine 41 = .ok (.ireturn, 1) := dk_172 (dk_at dksX11_eveningLine_1 18 rfl rfl)
theorem dX11_eveningLine_42 : decode cX11_eveningLine 42 = .ok (.aload_n 0, 1) := dk_42 (dk_at dksX11_eveningLine_1 19 rfl rfl)
theorem dX11_eveningLine_43 : decode cX11_eveningLine 43 = .ok (.getfield 439, 3) := dk_180 1 183 (dk_at dksX11_eveningLine_1 20 rfl rfl)
theorem dX11_eveningLine_46 : decode cX11_eveningLine 46 = .ok (.bipush 30, 2) := dk_16 30 (dk_at dksX11_eveningLine_2 0 rfl rfl)
theorem dX11_eveningLine_48 : decode cX11_eveningLine 48 = .ok (.if_icmp .ne 9, 3) := dk_160 0 9 (dk_at dksX11_eveningLine_2 2 rfl rfl)
theorem dX11_eveningLine_51 : decode cX11_eveningLine 51 = .ok (.aload_n 0, 1) := dk_42 (dk_at dksX11_eveningLine_2 5 rfl rfl)
theorem dX11_eveningLine_52 : decode cX11_eveningLine 52 = .ok (.iconst 4, 1) := dk_7 (dk_at dksX11_eveningLine_2 6 rfl rfl)
theorem dX11_eveningLine_53 : decode cX11_eveningLine 53 = .ok (.invokevirtual 189, 3) := dk_182 0 189 (dk_at dksX11_eveningLine_2 7 rfl rfl)
theorem dX11_eveningLine_56 : decode cX11_eveningLine 56 = .ok (.ireturn, 1) := dk_172 (dk_at dksX11_eveningLine_2 10 rfl rfl)
theorem dX11_eveningLine_57 : decode cX11_eveningLine 57 = .ok (.aload_n 0, 1) := dk_42 (dk_at dksX11_eveningLine_2 11 rfl rfl)
theorem dX11_eveningLine_58 : decode cX11_eveningLine 58 = .ok (.invokevirtual 192, 3) := dk_182 0 192 (dk_at dksX11_eveningLine_2 12 rfl rfl)
theorem dX11_eveningLine_61 : decode cX11_eveningLine 61 = .ok (.aload_n 0, 1) := dk_42 (dk_at dksX11_eveningLine_2 15 rfl rfl)
theorem dX11_eveningLine_62 : decode cX11_eveningLine 62 = .ok (.ldc2_w 127, 3) := dk_20 0 127 (dk_at dksX11_eveningLine_2 16 rfl rfl)
theorem dX11_eveningLine_65 : decode cX11_eveningLine 65 = .ok (.invokevirtual 202, 3) := dk_182 0 202 (dk_at dksX11_eveningLine_2 19 rfl rfl)
theorem dX11_eveningLine_68 : decode cX11_eveningLine 68 = .ok (.ifCond .ne 9, 3) := dk_154 0 9 (dk_at dksX11_eveningLine_3 0 rfl rfl)
theorem dX11_eveningLine_71 : decode cX11_eveningLine 71 = .ok (.aload_n 0, 1) := dk_42 (dk_at dksX11_eveningLine_3 3 rfl rfl)
theorem dX11_eveningLine_72 : decode cX11_eveningLine 72 = .ok (.iconst 1, 1) := dk_4 (dk_at dksX11_eveningLine_3 4 rfl rfl)
theorem dX11_eveningLine_73 : decode cX11_eveningLine 73 = .ok (.invokevirtual 189, 3) := dk_182 0 189 (dk_at dksX11_eveningLine_3 5 rfl rfl)
theorem dX11_eveningLine_76 : decode cX11_eveningLine 76 = .ok (.ireturn, 1) := dk_172 (dk_at dksX11_eveningLine_3 8 rfl rfl)
theorem dX11_eveningLine_77 : decode cX11_eveningLine 77 = .ok (.aload_n 0, 1) := dk_42 (dk_at dksX11_eveningLine_3 9 rfl rfl)
theorem dX11_eveningLine_78 : decode cX11_eveningLine 78 = .ok (.invokevirtual 192, 3) := dk_182 0 192 (dk_at dksX11_eveningLine_3 10 rfl rfl)
theorem dX11_eveningLine_81 : decode cX11_eveningLine 81 = .ok (.aload_n 0, 1) := dk_42 (dk_at dksX11_eveningLine_3 13 rfl rfl)
theorem dX11_eveningLine_82 : decode cX11_eveningLine 82 = .ok (.invokevirtual 214, 3) := dk_182 0 214 (dk_at dksX11_eveningLine_3 14 rfl rfl)
theorem dX11_eveningLine_85 : decode cX11_eveningLine 85 = .ok (.ifCond .ne 9, 3) := dk_154 0 9 (dk_at dksX11_eveningLine_3 17 rfl rfl)
theorem dX11_eveningLine_88 : decode cX11_eveningLine 88 = .ok (.aload_n 0, 1) := dk_42 (dk_at dksX11_eveningLine_3 20 rfl rfl)
theorem dX11_eveningLine_89 : decode cX11_eveningLine 89 = .ok (.iconst 1, 1) := dk_4 (dk_at dksX11_eveningLine_3 21 rfl rfl)
theorem dX11_eveningLine_90 : decode cX11_eveningLine 90 = .ok (.invokevirtual 189, 3) := dk_182 0 189 (dk_at dksX11_eveningLine_4 0 rfl rfl)
theorem dX11_eveningLine_93 : decode cX11_eveningLine 93 = .ok (.ireturn, 1) := dk_172 (dk_at dksX11_eveningLine_4 3 rfl rfl)
theorem dX11_eveningLine_94 : decode cX11_eveningLine 94 = .ok (.aload_n 0, 1) := dk_42 (dk_at dksX11_eveningLine_4 4 rfl rfl)
theorem dX11_eveningLine_95 : decode cX11_eveningLine 95 = .ok (.iconst 0, 1) := dk_3 (dk_at dksX11_eveningLine_4 5 rfl rfl)
theorem dX11_eveningLine_96 : decode cX11_eveningLine 96 = .ok (.aload_n 0, 1) := dk_42 (dk_at dksX11_eveningLine_4 6 rfl rfl)
theorem dX11_eveningLine_97 : decode cX11_eveningLine 97 = .ok (.getfield 33, 3) := dk_180 0 33 (dk_at dksX11_eveningLine_4 7 rfl rfl)
theorem dX11_eveningLine_100 : decode cX11_eveningLine 100 = .ok (.iconst 1, 1) := dk_4 (dk_at dksX11_eveningLine_4 10 rfl rfl)
theorem dX11_eveningLine_101 : decode cX11_eveningLine 101 = .ok (.iaload, 1) := dk_46 (dk_at dksX11_eveningLine_4 11 rfl rfl)
theorem dX11_eveningLine_102 : decode cX11_eveningLine 102 = .ok (.invokevirtual 218, 3) := dk_182 0 218 (dk_at dksX11_eveningLine_4 12 rfl rfl)
theorem dX11_eveningLine_105 : decode cX11_eveningLine 105 = .ok (.istore_n 3, 1) := dk_62 (dk_at dksX11_eveningLine_4 15 rfl rfl)
theorem dX11_eveningLine_106 : decode cX11_eveningLine 106 = .ok (.iload_n 3, 1) := dk_29 (dk_at dksX11_eveningLine_4 16 rfl rfl)
theorem dX11_eveningLine_107 : decode cX11_eveningLine 107 = .ok (.ifCond .ge 9, 3) := dk_156 0 9 (dk_at dksX11_eveningLine_4 17 rfl rfl)
theorem dX11_eveningLine_110 : decode cX11_eveningLine 110 = .ok (.aload_n 0, 1) := dk_42 (dk_at dksX11_eveningLine_4 20 rfl rfl)
theorem dX11_eveningLine_111 : decode cX11_eveningLine 111 = .ok (.iconst 3, 1) := dk_6 (dk_at dksX11_eveningLine_4 21 rfl rfl)
theorem dX11_eveningLine_112 : decode cX11_eveningLine 112 = .ok (.invokevirtual 189, 3) := dk_182 0 189 (dk_at dksX11_eveningLine_5 0 rfl rfl)
theorem dX11_eveningLine_115 : decode cX11_eveningLine 115 = .ok (.ireturn, 1) := dk_172 (dk_at dksX11_eveningLine_5 3 rfl rfl)
theorem dX11_eveningLine_116 : decode cX11_eveningLine 116 = .ok (.aload_n 0, 1) := dk_42 (dk_at dksX11_eveningLine_5 4 rfl rfl)
theorem dX11_eveningLine_117 : decode cX11_eveningLine 117 = .ok (.invokevirtual 192, 3) := dk_182 0 192 (dk_at dksX11_eveningLine_5 5 rfl rfl)
theorem dX11_eveningLine_120 : decode cX11_eveningLine 120 = .ok (.aload_n 0, 1) := dk_42 (dk_at dksX11_eveningLine_5 8 rfl rfl)
theorem dX11_eveningLine_121 : decode cX11_eveningLine 121 = .ok (.iconst 0, 1) := dk_3 (dk_at dksX11_eveningLine_5 9 rfl rfl)
theorem dX11_eveningLine_122 : decode cX11_eveningLine 122 = .ok (.aload_n 0, 1) := dk_42 (dk_at dksX11_eveningLine_5 10 rfl rfl)
theorem dX11_eveningLine_123 : decode cX11_eveningLine 123 = .ok (.getfield 33, 3) := dk_180 0 33 (dk_at dksX11_eveningLine_5 11 rfl rfl)
theorem dX11_eveningLine_126 : decode cX11_eveningLine 126 = .ok (.iconst 0, 1) := dk_3 (dk_at dksX11_eveningLine_5 14 rfl rfl)
theorem dX11_eveningLine_127 : decode cX11_eveningLine 127 = .ok (.iaload, 1) := dk_46 (dk_at dksX11_eveningLine_5 15 rfl rfl)
theorem dX11_eveningLine_128 : decode cX11_eveningLine 128 = .ok (.iconst 1, 1) := dk_4 (dk_at dksX11_eveningLine_5 16 rfl rfl)
theorem dX11_eveningLine_129 : decode cX11_eveningLine 129 = .ok (.isub, 1) := dk_100 (dk_at dksX11_eveningLine_5 17 rfl rfl)
theorem dX11_eveningLine_130 : decode cX11_eveningLine 130 = .ok (.invokevirtual 210, 3) := dk_182 0 210 (dk_at dksX11_eveningLine_5 18 rfl rfl)
theorem dX11_eveningLine_133 : decode cX11_eveningLine 133 = .ok (.ifCond .ne 5, 3) := dk_154 0 5 (dk_at dksX11_eveningLine_5 21 rfl rfl)
theorem dX11_eveningLine_136 : decode cX11_eveningLine 136 = .ok (.iconst 0, 1) := dk_3 (dk_at dksX11_eveningLine_6 0 rfl rfl)
theorem dX11_eveningLine_137 : decode cX11_eveningLine 137 = .ok (.ireturn, 1) := dk_172 (dk_at dksX11_eveningLine_6 1 rfl rfl)
theorem dX11_eveningLine_138 : decode cX11_eveningLine 138 = .ok (.aload_n 0, 1) := dk_42 (dk_at dksX11_eveningLine_6 2 rfl rfl)
theorem dX11_eveningLine_139 : decode cX11_eveningLine 139 = .ok (.getfield 40, 3) := dk_180 0 40 (dk_at dksX11_eveningLine_6 3 rfl rfl)
theorem dX11_eveningLine_142 : decode cX11_eveningLine 142 = .ok (.iload_n 1, 1) := dk_27 (dk_at dksX11_eveningLine_6 6 rfl rfl)
theorem dX11_eveningLine_143 : decode cX11_eveningLine 143 = .ok (.iload_n 2, 1) := dk_28 (dk_at dksX11_eveningLine_6 7 rfl rfl)
theorem dX11_eveningLine_144 : decode cX11_eveningLine 144 = .ok (.iastore, 1) := dk_79 (dk_at dksX11_eveningLine_6 8 rfl rfl)
theorem dX11_eveningLine_145 : decode cX11_eveningLine 145 = .ok (.aload_n 0, 1) := dk_42 (dk_at dksX11_eveningLine_6 9 rfl rfl)
theorem dX11_eveningLine_146 : decode cX11_eveningLine 146 = .ok (.getfield 40, 3) := dk_180 0 40 (dk_at dksX11_eveningLine_6 10 rfl rfl)
theorem dX11_eveningLine_149 : decode cX11_eveningLine 149 = .ok (.iload_n 1, 1) := dk_27 (dk_at dksX11_eveningLine_6 13 rfl rfl)
theorem dX11_eveningLine_150 : decode cX11_eveningLine 150 = .ok (.iconst 1, 1) := dk_4 (dk_at dksX11_eveningLine_6 14 rfl rfl)
theorem dX11_eveningLine_151 : decode cX11_eveningLine 151 = .ok (.iadd, 1) := dk_96 (dk_at dksX11_eveningLine_6 15 rfl rfl)
theorem dX11_eveningLine_152 : decode cX11_eveningLine 152 = .ok (.iload_n 3, 1) := dk_29 (dk_at dksX11_eveningLine_6 16 rfl rfl)
theorem dX11_eveningLine_153 : decode cX11_eveningLine 153 = .ok (.iastore, 1) := dk_79 (dk_at dksX11_eveningLine_6 17 rfl rfl)
theorem dX11_eveningLine_154 : decode cX11_eveningLine 154 = .ok (.aload_n 0, 1) := dk_42 (dk_at dksX11_eveningLine_6 18 rfl rfl)
theorem dX11_eveningLine_155 : decode cX11_eveningLine 155 = .ok (.getfield 40, 3) := dk_180 0 40 (dk_at dksX11_eveningLine_6 19 rfl rfl)
theorem dX11_eveningLine_158 : decode cX11_eveningLine 158 = .ok (.iload_n 1, 1) := dk_27 (dk_at dksX11_eveningLine_6 22 rfl rfl)
theorem dX11_eveningLine_159 : decode cX11_eveningLine 159 = .ok (.iconst 2, 1) := dk_5 (dk_at dksX11_eveningLine_6 23 rfl rfl)
theorem dX11_eveningLine_160 : decode cX11_eveningLine 160 = .ok (.iadd, 1) := dk_96 (dk_at dksX11_eveningLine_7 0 rfl rfl)
theorem dX11_eveningLine_161 : decode cX11_eveningLine 161 = .ok (.aload_n 0, 1) := dk_42 (dk_at dksX11_eveningLine_7 1 rfl rfl)
theorem dX11_eveningLine_162 : decode cX11_eveningLine 162 = .ok (.getfield 199, 3) := dk_180 0 199 (dk_at dksX11_eveningLine_7 2 rfl rfl)
theorem dX11_eveningLine_165 : decode cX11_eveningLine 165 = .ok (.iastore, 1) := dk_79 (dk_at dksX11_eveningLine_7 5 rfl rfl)
theorem dX11_eveningLine_166 : decode cX11_eveningLine 166 = .ok (.aload_n 0, 1) := dk_42 (dk_at dksX11_eveningLine_7 6 rfl rfl)
theorem dX11_eveningLine_167 : decode cX11_eveningLine 167 = .ok (.getfield 40, 3) := dk_180 0 40 (dk_at dksX11_eveningLine_7 7 rfl rfl)
theorem dX11_eveningLine_170 : decode cX11_eveningLine 170 = .ok (.iload_n 1, 1) := dk_27 (dk_at dksX11_eveningLine_7 10 rfl rfl)
theorem dX11_eveningLine_171 : decode cX11_eveningLine 171 = .ok (.iconst 3, 1) := dk_6 (dk_at dksX11_eveningLine_7 11 rfl rfl)
theorem dX11_eveningLine_172 : decode cX11_eveningLine 172 = .ok (.iadd, 1) := dk_96 (dk_at dksX11_eveningLine_7 12 rfl rfl)
theorem dX11_eveningLine_173 : decode cX11_eveningLine 173 = .ok (.iconst 0, 1) := dk_3 (dk_at dksX11_eveningLine_7 13 rfl rfl)
theorem dX11_eveningLine_174 : decode cX11_eveningLine 174 = .ok (.iastore, 1) := dk_79 (dk_at dksX11_eveningLine_7 14 rfl rfl)
theorem dX11_eveningLine_175 : decode cX11_eveningLine 175 = .ok (.aload_n 0, 1) := dk_42 (dk_at dksX11_eveningLine_7 15 rfl rfl)
theorem dX11_eveningLine_176 : decode cX11_eveningLine 176 = .ok (.ldc2_w 131, 3) := dk_20 0 131 (dk_at dksX11_eveningLine_7 16 rfl rfl)
theorem dX11_eveningLine_179 : decode cX11_eveningLine 179 = .ok (.invokevirtual 202, 3) := dk_182 0 202 (dk_at dksX11_eveningLine_7 19 rfl rfl)
theorem dX11_eveningLine_182 : decode cX11_eveningLine 182 = .ok (.ifCond .eq 9, 3) := dk_153 0 9 (dk_at dksX11_eveningLine_8 0 rfl rfl)
theorem dX11_eveningLine_185 : decode cX11_eveningLine 185 = .ok (.aload_n 0, 1) := dk_42 (dk_at dksX11_eveningLine_8 3 rfl rfl)
theorem dX11_eveningLine_186 : decode cX11_eveningLine 186 = .ok (.invokevirtual 192, 3) := dk_182 0 192 (dk_at dksX11_eveningLine_8 4 rfl rfl)
theorem dX11_eveningLine_189 : decode cX11_eveningLine 189 = .ok (.iconst 1, 1) := dk_4 (dk_at dksX11_eveningLine_8 7 rfl rfl)
theorem dX11_eveningLine_190 : decode cX11_eveningLine 190 = .ok (.ireturn, 1) := dk_172 (dk_at dksX11_eveningLine_8 8 rfl rfl)
theorem dX11_eveningLine_191 : decode cX11_eveningLine 191 = .ok (.aload_n 0, 1) := dk_42 (dk_at dksX11_eveningLine_8 9 rfl rfl)
theorem dX11_eveningLine_192 : decode cX11_eveningLine 192 = .ok (.ldc2_w 129, 3) := dk_20 0 129 (dk_at dksX11_eveningLine_8 10 rfl rfl)
theorem dX11_eveningLine_195 : decode cX11_eveningLine 195 = .ok (.invokevirtual 202, 3) := dk_182 0 202 (dk_at dksX11_eveningLine_8 13 rfl rfl)
theorem dX11_eveningLine_198 : decode cX11_eveningLine 198 = .ok (.ifCond .ne 9, 3) := dk_154 0 9 (dk_at dksX11_eveningLine_8 16 rfl rfl)
theorem dX11_eveningLine_201 : decode cX11_eveningLine 201 = .ok (.aload_n 0, 1) := dk_42 (dk_at dksX11_eveningLine_8 19 rfl rfl)
theorem dX11_eveningLine_202 : decode cX11_eveningLine 202 = .ok (.iconst 1, 1) := dk_4 (dk_at dksX11_eveningLine_8 20 rfl rfl)
theorem dX11_eveningLine_203 : decode cX11_eveningLine 203 = .ok (.invokevirtual 189, 3) := dk_182 0 189 (dk_at dksX11_eveningLine_8 21 rfl rfl)
theorem dX11_eveningLine_206 : decode cX11_eveningLine 206 = .ok (.ireturn, 1) := dk_172 (dk_at dksX11_eveningLine_9 0 rfl rfl)
theorem dX11_eveningLine_207 : decode cX11_eveningLine 207 = .ok (.aload_n 0, 1) := dk_42 (dk_at dksX11_eveningLine_9 1 rfl rfl)
theorem dX11_eveningLine_208 : decode cX11_eveningLine 208 = .ok (.invokevirtual 192, 3) := dk_182 0 192 (dk_at dksX11_eveningLine_9 2 rfl rfl)
theorem dX11_eveningLine_211 : decode cX11_eveningLine 211 = .ok (.aload_n 0, 1) := dk_42 (dk_at dksX11_eveningLine_9 5 rfl rfl)
theorem dX11_eveningLine_212 : decode cX11_eveningLine 212 = .ok (.iconst 1, 1) := dk_4 (dk_at dksX11_eveningLine_9 6 rfl rfl)
theorem dX11_eveningLine_213 : decode cX11_eveningLine 213 = .ok (.iconst 4, 1) := dk_7 (dk_at dksX11_eveningLine_9 7 rfl rfl)
theorem dX11_eveningLine_214 : decode cX11_eveningLine 214 = .ok (.invokevirtual 210, 3) := dk_182 0 210 (dk_at dksX11_eveningLine_9 8 rfl rfl)
theorem dX11_eveningLine_217 : decode cX11_eveningLine 217 = .ok (.ifCond .ne 5, 3) := dk_154 0 5 (dk_at dksX11_eveningLine_9 11 rfl rfl)
theorem dX11_eveningLine_220 : decode cX11_eveningLine 220 = .ok (.iconst 0, 1) := dk_3 (dk_at dksX11_eveningLine_9 14 rfl rfl)
theorem dX11_eveningLine_221 : decode cX11_eveningLine 221 = .ok (.ireturn, 1) := dk_172 (dk_at dksX11_eveningLine_9 15 rfl rfl)
theorem dX11_eveningLine_222 : decode cX11_eveningLine 222 = .ok (.aload_n 0, 1) := dk_42 (dk_at dksX11_eveningLine_9 16 rfl rfl)
theorem dX11_eveningLine_223 : decode cX11_eveningLine 223 = .ok (.getfield 40, 3) := dk_180 0 40 (dk_at dksX11_eveningLine_9 17 rfl rfl)
theorem dX11_eveningLine_226 : decode cX11_eveningLine 226 = .ok (.iload_n 1, 1) := dk_27 (dk_at dksX11_eveningLine_9 20 rfl rfl)
theorem dX11_eveningLine_227 : decode cX11_eveningLine 227 = .ok (.iconst 3, 1) := dk_6 (dk_at dksX11_eveningLine_9 21 rfl rfl)
theorem dX11_eveningLine_228 : decode cX11_eveningLine 228 = .ok (.iadd, 1) := dk_96 (dk_at dksX11_eveningLine_9 22 rfl rfl)
theorem dX11_eveningLine_229 : decode cX11_eveningLine 229 = .ok (.aload_n 0, 1) := dk_42 (dk_at dksX11_eveningLine_9 23 rfl rfl)
theorem dX11_eveningLine_230 : decode cX11_eveningLine 230 = .ok (.getfield 199, 3) := dk_180 0 199 (dk_at dksX11_eveningLine_10 0 rfl rfl)
theorem dX11_eveningLine_233 : decode cX11_eveningLine 233 = .ok (.iastore, 1) := dk_79 (dk_at dksX11_eveningLine_10 3 rfl rfl)
theorem dX11_eveningLine_234 : decode cX11_eveningLine 234 = .ok (.iconst 1, 1) := dk_4 (dk_at dksX11_eveningLine_10 4 rfl rfl)
theorem dX11_eveningLine_235 : decode cX11_eveningLine 235 = .ok (.ireturn, 1) := dk_172 (dk_at dksX11_eveningLine_10 5 rfl rfl)
abbrev cX11_heard : ByteArray := prog_23_method_97_code
def yX11_heard : MethodName := ⟨RX11, "heard", "(I)I"⟩
def dkwX11_heard_1 : List UInt8 := [180, 0, 96, 27, 46, 167, 0, 4, 2, 172]
abbrev dktX11_heard_1 : List UInt8 := dkwX11_heard_1 ++ []
def dkwX11_heard_0 : List UInt8 := [42, 3, 181, 0, 1, 42, 180, 1, 189, 153, 0, 21, 27, 3, 6, 184, 0, 195, 153, 0, 12, 42]
abbrev dktX11_heard_0 : List UInt8 := dkwX11_heard_0 ++ dktX11_heard_1
theorem dksX11_heard_0 : cX11_heard.data.toList.drop 0 = dktX11_heard_0 := by decide +kernel
theorem dksX11_heard_1 : cX11_heard.data.toList.drop 22 = dktX11_heard_1 := dk_seg dksX11_heard_0 22 rfl rfl
theorem dX11_heard_0 : decode cX11_heard 0 = .ok (.aload_n 0, 1) := dk_42 (dk_at dksX11_heard_0 0 rfl rfl)
theorem dX11_heard_1 : decode cX11_heard 1 = .ok (.iconst 0, 1) := dk_3 (dk_at dksX11_heard_0 1 rfl rfl)
theorem dX11_heard_2 : decode cX11_heard 2 = .ok (.putfield 1, 3) := dk_181 0 1 (dk_at dksX11_heard_0 2 rfl rfl)
theorem dX11_heard_5 : decode cX11_heard 5 = .ok (.aload_n 0, 1) := dk_42 (dk_at dksX11_heard_0 5 rfl rfl)
theorem dX11_heard_6 : decode cX11_heard 6 = .ok (.getfield 445, 3) := dk_180 1 189 (dk_at dksX11_heard_0 6 rfl rfl)
theorem dX11_heard_9 : decode cX11_heard 9 = .ok (.ifCond .eq 21, 3) := dk_153 0 21 (dk_at dksX11_heard_0 9 rfl rfl)
theorem dX11_heard_12 : decode cX11_heard 12 = .ok (.iload_n 1, 1) := dk_27 (dk_at dksX11_heard_0 12 rfl rfl)
theorem dX11_heard_13 : decode cX11_heard 13 = .ok (.iconst 0, 1) := dk_3 (dk_at dksX11_heard_0 13 rfl rfl)
theorem dX11_heard_14 : decode cX11_heard 14 = .ok (.iconst 3, 1) := dk_6 (dk_at dksX11_heard_0 14 rfl rfl)
theorem dX11_heard_15 : decode cX11_heard 15 = .ok (.invokestatic 195, 3) := dk_184 0 195 (dk_at dksX11_heard_0 15 rfl rfl)
theorem dX11_heard_18 : decode cX11_heard 18 = .ok (.ifCond .eq 12, 3) := dk_153 0 12 (dk_at dksX11_heard_0 18 rfl rfl)
theorem dX11_heard_21 : decode cX11_heard 21 = .ok (.aload_n 0, 1) := dk_42 (dk_at dksX11_heard_0 21 rfl rfl)
theorem dX11_heard_22 : decode cX11_heard 22 = .ok (.getfield 96, 3) := dk_180 0 96 (dk_at dksX11_heard_1 0 rfl rfl)
theorem dX11_heard_25 : decode cX11_heard 25 = .ok (.iload_n 1, 1) := dk_27 (dk_at dksX11_heard_1 3 rfl rfl)
theorem dX11_heard_26 : decode cX11_heard 26 = .ok (.iaload, 1) := dk_46 (dk_at dksX11_heard_1 4 rfl rfl)
theorem dX11_heard_27 : decode cX11_heard 27 = .ok (.goto 4, 3) := dk_167 0 4 (dk_at dksX11_heard_1 5 rfl rfl)
theorem dX11_heard_30 : decode cX11_heard 30 = .ok (.iconst (-1), 1) := dk_2 (dk_at dksX11_heard_1 8 rfl rfl)
theorem dX11_heard_31 : decode cX11_heard 31 = .ok (.ireturn, 1) := dk_172 (dk_at dksX11_heard_1 9 rfl rfl)
abbrev cX11_sentence : ByteArray := prog_23_method_104_code
def yX11_sentence : MethodName := ⟨RX11, "sentence", "()I"⟩
def dkwX11_sentence_7 : List UInt8 := [180, 0, 40, 28, 46, 79, 132, 2, 1, 167, 255, 227, 42, 180, 1, 208, 172]
abbrev dktX11_sentence_7 : List UInt8 := dkwX11_sentence_7 ++ []
def dkwX11_sentence_6 : List UInt8 := [79, 3, 61, 28, 6, 42, 180, 1, 192, 104, 162, 0, 25, 42, 180, 0, 33, 17, 2, 73, 28, 96, 42]
abbrev dktX11_sentence_6 : List UInt8 := dkwX11_sentence_6 ++ dktX11_sentence_7
def dkwX11_sentence_5 : List UInt8 := [182, 1, 223, 154, 255, 182, 2, 42, 180, 0, 183, 100, 172, 42, 180, 0, 33, 17, 2, 72, 42, 180, 1, 192]
abbrev dktX11_sentence_5 : List UInt8 := dkwX11_sentence_5 ++ dktX11_sentence_6
def dkwX11_sentence_4 : List UInt8 := [172, 3, 60, 167, 255, 206, 42, 180, 1, 211, 153, 0, 13, 42, 182, 1, 220, 154, 255, 192, 167, 0, 10, 42]
abbrev dktX11_sentence_4 : List UInt8 := dkwX11_sentence_4 ++ dktX11_sentence_5
def dkwX11_sentence_3 : List UInt8 := [16, 12, 182, 1, 217, 42, 180, 1, 195, 158, 0, 16, 42, 4, 182, 0, 189, 87, 2, 42, 180, 0, 183, 100]
abbrev dktX11_sentence_3 : List UInt8 := dkwX11_sentence_3 ++ dktX11_sentence_4
def dkwX11_sentence_2 : List UInt8 := [27, 153, 0, 83, 42, 180, 1, 211, 153, 0, 45, 42, 180, 0, 163, 154, 0, 38, 42, 182, 1, 214, 42]
abbrev dktX11_sentence_2 : List UInt8 := dkwX11_sentence_2 ++ dktX11_sentence_3
def dkwX11_sentence_1 : List UInt8 := [181, 1, 208, 42, 3, 181, 1, 195, 42, 4, 181, 1, 202, 42, 3, 181, 1, 211, 42, 182, 0, 192, 4, 60]
abbrev dktX11_sentence_1 : List UInt8 := dkwX11_sentence_1 ++ dktX11_sentence_2
def dkwX11_sentence_0 : List UInt8 := [42, 3, 181, 0, 1, 42, 17, 0, 200, 182, 0, 234, 42, 3, 181, 0, 180, 42, 3, 181, 1, 192, 42, 3]
abbrev dktX11_sentence_0 : List UInt8 := dkwX11_sentence_0 ++ dktX11_sentence_1
theorem dksX11_sentence_0 : cX11_sentence.data.toList.drop 0 = dktX11_sentence_0 := by decide +kernel
theorem dksX11_sentence_1 : cX11_sentence.data.toList.drop 24 = dktX11_sentence_1 := dk_seg dksX11_sentence_0 24 rfl rfl
theorem dksX11_sentence_2 : cX11_sentence.data.toList.drop 48 = dktX11_sentence_2 := dk_seg dksX11_sentence_1 24 rfl rfl
theorem dksX11_sentence_3 : cX11_sentence.data.toList.drop 71 = dktX11_sentence_3 := dk_seg dksX11_sentence_2 23 rfl rfl
theorem dksX11_sentence_4 : cX11_sentence.data.toList.drop 95 = dktX11_sentence_4 := dk_seg dksX11_sentence_3 24 rfl rfl
theorem dksX11_sentence_5 : cX11_sentence.data.toList.drop 119 = dktX11_sentence_5 := dk_seg dksX11_sentence_4 24 rfl rfl
theorem dksX11_sentence_6 : cX11_sentence.data.toList.drop 143 = dktX11_sentence_6 := dk_seg dksX11_sentence_5 24 rfl rfl
theorem dksX11_sentence_7 : cX11_sentence.data.toList.drop 166 = dktX11_sentence_7 := dk_seg dksX11_sentence_6 23 rfl rfl
theorem dX11_sentence_0 : decode cX11_sentence 0 = .ok (.aload_n 0, 1) := dk_42 (dk_at dksX11_sentence_0 0 rfl rfl)
theorem dX11_sentence_1 : decode cX11_sentence 1 = .ok (.iconst 0, 1) := dk_3 (dk_at dksX11_sentence_0 1 rfl rfl)
theorem dX11_sentence_2 : decode cX11_sentence 2 = .ok (.putfield 1, 3) := dk_181 0 1 (dk_at dksX11_sentence_0 2 rfl rfl)
theorem dX11_sentence_5 : decode cX11_sentence 5 = .ok (.aload_n 0, 1) := dk_42 (dk_at dksX11_sentence_0 5 rfl rfl)
theorem dX11_sentence_6 : decode cX11_sentence 6 = .ok (.sipush 200, 3) := dk_17 0 200 (dk_at dksX11_sentence_0 6 rfl rfl)
theorem dX11_sentence_9 : decode cX11_sentence 9 = .ok (.invokevirtual 234, 3) := dk_182 0 234 (dk_at dksX11_sentence_0 9 rfl rfl)
theorem dX11_sentence_12 : decode cX11_sentence 12 = .ok (.aload_n 0, 1) := dk_42 (dk_at dksX11_sentence_0 12 rfl rfl)
theorem dX11_sentence_13 : decode cX11_sentence 13 = .ok (.iconst 0, 1) := dk_3 (dk_at dksX11_sentence_0 13 rfl rfl)
theorem dX11_sentence_14 : decode cX11_sentence 14 = .ok (.putfield 180, 3) := dk_181 0 180 (dk_at dksX11_sentence_0 14 rfl rfl)
theorem dX11_sentence_17 : decode cX11_sentence 17 = .ok (.aload_n 0, 1) := dk_42 (dk_at dksX11_sentence_0 17 rfl rfl)
theorem dX11_sentence_18 : decode cX11_sentence 18 = .ok (.iconst 0, 1) := dk_3 (dk_at dksX11_sentence_0 18 rfl rfl)
theorem dX11_sentence_19 : decode cX11_sentence 19 = .ok (.putfield 448, 3) := dk_181 1 192 (dk_at dksX11_sentence_0 19 rfl rfl)
theorem dX11_sentence_22 : decode cX11_sentence 22 = .ok (.aload_n 0, 1) := dk_42 (dk_at dksX11_sentence_0 22 rfl rfl)
theorem dX11_sentence_23 : decode cX11_sentence 23 = .ok (.iconst 0, 1) := dk_3 (dk_at dksX11_sentence_0 23 rfl rfl)
theorem dX11_sentence_24 : decode cX11_sentence 24 = .ok (.putfield 464, 3) := dk_181 1 208 (dk_at dksX11_sentence_1 0 rfl rfl)
theorem dX11_sentence_27 : decode cX11_sentence 27 = .ok (.aload_n 0, 1) := dk_42 (dk_at dksX11_sentence_1 3 rfl rfl)
theorem dX11_sentence_28 : decode cX11_sentence 28 = .ok (.iconst 0, 1) := dk_3 (dk_at dksX11_sentence_1 4 rfl rfl)
theorem dX11_sentence_29 : decode cX11_sentence 29 = .ok (.putfield 451, 3) := dk_181 1 195 (dk_at dksX11_sentence_1 5 rfl rfl)
theorem dX11_sentence_32 : decode cX11_sentence 32 = .ok (.aload_n 0, 1) := dk_42 (dk_at dksX11_sentence_1 8 rfl rfl)
theorem dX11_sentence_33 : decode cX11_sentence 33 = .ok (.iconst 1, 1) := dk_4 (dk_at dksX11_sentence_1 9 rfl rfl)
theorem dX11_sentence_34 : decode cX11_sentence 34 = .ok (.putfield 458, 3) := dk_181 1 202 (dk_at dksX11_sentence_1 10 rfl rfl)
theorem dX11_sentence_37 : decode cX11_sentence 37 = .ok (.aload_n 0, 1) := dk_42 (dk_at dksX11_sentence_1 13 rfl rfl)
theorem dX11_sentence_38 : decode cX11_sentence 38 = .ok (.iconst 0, 1) := dk_3 (dk_at dksX11_sentence_1 14 rfl rfl)
theorem dX11_sentence_39 : decode cX11_sentence 39 = .ok (.putfield 467, 3) := dk_181 1 211 (dk_at dksX11_sentence_1 15 rfl rfl)
theorem dX11_sentence_42 : decode cX11_sentence 42 = .ok (.aload_n 0, 1) := dk_42 (dk_at dksX11_sentence_1 18 rfl rfl)
theorem dX11_sentence_43 : decode cX11_sentence 43 = .ok (.invokevirtual 192, 3) := dk_182 0 192 (dk_at dksX11_sentence_1 19 rfl rfl)
theorem dX11_sentence_46 : decode cX11_sentence 46 = .ok (.iconst 1, 1) := dk_4 (dk_at dksX11_sentence_1 22 rfl rfl)
theorem dX11_sentence_47 : decode cX11_sentence 47 = .ok (.istore_n 1, 1) := dk_60 (dk_at dksX11_sentence_1 23 rfl rfl)
theorem dX11_sentence_48 : decode cX11_sentence 48 = .ok (.iload_n 1, 1) := dk_27 (dk_at dksX11_sentence_2 0 rfl rfl)
theorem dX11_sentence_49 : decode cX11_sentence 49 = .ok (.ifCond .eq 83, 3) := dk_153 0 83 (dk_at dksX11_sentence_2 1 rfl rfl)
theorem dX11_sentence_52 : decode cX11_sentence 52 = .ok (.aload_n 0, 1) := dk_42 (dk_at dksX11_sentence_2 4 rfl rfl)
theorem dX11_sentence_53 : decode cX11_sentence 53 = .ok (.getfield 467, 3) := dk_180 1 211 (dk_at dksX11_sentence_2 5 rfl rfl)
theorem dX11_sentence_56 : decode cX11_sentence 56 = .ok (.ifCond .eq 45, 3) := dk_153 0 45 (dk_at dksX11_sentence_2 8 rfl rfl)
theorem dX11_sentence_59 : decode cX11_sentence 59 = .ok (.aload_n 0, 1) := dk_42 (dk_at dksX11_sentence_2 11 rfl rfl)
theorem dX11_sentence_60 : decode cX11_sentence 60 = .ok (.getfield 163, 3) := dk_180 0 163 (dk_at dksX11_sentence_2 12 rfl rfl)
theorem dX11_sentence_63 : decode cX11_sentence 63 = .ok (.ifCond .ne 38, 3) := dk_154 0 38 (dk_at dksX11_sentence_2 15 rfl rfl)
theorem dX11_sentence_66 : decode cX11_sentence 66 = .ok (.aload_n 0, 1) := dk_42 (dk_at dksX11_sentence_2 18 rfl rfl)
theorem dX11_sentence_67 : decode cX11_sentence 67 = .ok (.invokevirtual 470, 3) := dk_182 1 214 (dk_at dksX11_sentence_2 19 rfl rfl)
theorem dX11_sentence_70 : decode cX11_sentence 70 = .ok (.aload_n 0, 1) := dk_42 (dk_at dksX11_sentence_2 22 rfl rfl)
theorem dX11_sentence_71 : decode cX11_sentence 71 = .ok (.bipush 12, 2) := dk_16 12 (dk_at dksX11_sentence_3 0 rfl rfl)
theorem dX11_sentence_73 : decode cX11_sentence 73 = .ok (.invokevirtual 473, 3) := dk_182 1 217 (dk_at dksX11_sentence_3 2 rfl rfl)
theorem dX11_sentence_76 : decode cX11_sentence 76 = .ok (.aload_n 0, 1) := dk_42 (dk_at dksX11_sentence_3 5 rfl rfl)
theorem dX11_sentence_77 : decode cX11_sentence 77 = .ok (.getfield 451, 3) := dk_180 1 195 (dk_at dksX11_sentence_3 6 rfl rfl)
theorem dX11_sentence_80 : decode cX11_sentence 80 = .ok (.ifCond .le 16, 3) := dk_158 0 16 (dk_at dksX11_sentence_3 9 rfl rfl)
theorem dX11_sentence_83 : decode cX11_sentence 83 = .ok (.aload_n 0, 1) := dk_42 (dk_at dksX11_sentence_3 12 rfl rfl)
theorem dX11_sentence_84 : decode cX11_sentence 84 = .ok (.iconst 1, 1) := dk_4 (dk_at dksX11_sentence_3 13 rfl rfl)
theorem dX11_sentence_85 : decode cX11_sentence 85 = .ok (.invokevirtual 189, 3) := dk_182 0 189 (dk_at dksX11_sentence_3 14 rfl rfl)
theorem dX11_sentence_88 : decode cX11_sentence 88 = .ok (.pop, 1) := dk_87 (dk_at dksX11_sentence_3 17 rfl rfl)
theorem dX11_sentence_89 : decode cX11_sentence 89 = .ok (.iconst (-1), 1) := dk_2 (dk_at dksX11_sentence_3 18 rfl rfl)
theorem dX11_sentence_90 : decode cX11_sentence 90 = .ok (.aload_n 0, 1) := dk_42 (dk_at dksX11_sentence_3 19 rfl rfl)
theorem dX11_sentence_91 : decode cX11_sentence 91 = .ok (.getfield 183, 3) := dk_180 0 183 (dk_at dksX11_sentence_3 20 rfl rfl)
theorem dX11_sentence_94 : decode cX11_sentence 94 = .ok (.isub, 1) := dk_100 (dk_at dksX11_sentence_3 23 rfl rfl)
theorem dX11_sentence_95 : decode cX11_sentence 95 = .ok (.ireturn, 1) := dk_172 (dk_at dksX11_sentence_4 0 rfl rfl)
theorem dX11_sentence_96 : decode cX11_sentence 96 = .ok (.iconst 0, 1) := dk_3 (dk_at dksX11_sentence_4 1 rfl rfl)
theorem dX11_sentence_97 : decode cX11_sentence 97 = .ok (.istore_n 1, 1) := dk_60 (dk_at dksX11_sentence_4 2 rfl rfl)
theorem dX11_sentence_98 : decode cX11_sentence 98 = .ok (.goto (-50), 3) := dk_167 255 206 (dk_at dksX11_sentence_4 3 rfl rfl)
theorem dX11_sentence_101 : decode cX11_sentence 101 = .ok (.aload_n 0, 1) := dk_42 (dk_at dksX11_sentence_4 6 rfl rfl)
theorem dX11_sentence_102 : decode cX11_sentence 102 = .ok (.getfield 467, 3) := dk_180 1 211 (dk_at dksX11_sentence_4 7 rfl rfl)
theorem dX11_sentence_105 : decode cX11_sentence 105 = .ok (.ifCond .eq 13, 3) := dk_153 0 13 (dk_at dksX11_sentence_4 10 rfl rfl)
theorem dX11_sentence_108 : decode cX11_sentence 108 = .ok (.aload_n 0, 1) := dk_42 (dk_at dksX11_sentence_4 13 rfl rfl)
theorem dX11_sentence_109 : decode cX11_sentence 109 = .ok (.invokevirtual 476, 3) := dk_182 1 220 (dk_at dksX11_sentence_4 14 rfl rfl)
theorem dX11_sentence_112 : decode cX11_sentence 112 = .ok (.ifCond .ne (-64), 3) := dk_154 255 192 (dk_at dksX11_sentence_4 17 rfl rfl)
theorem dX11_sentence_115 : decode cX11_sentence 115 = .ok (.goto 10, 3) := dk_167 0 10 (dk_at dksX11_sentence_4 20 rfl rfl)
theorem dX11_sentence_118 : decode cX11_sentence 118 = .ok (.aload_n 0, 1) := dk_42 (dk_at dksX11_sentence_4 23 rfl rfl)
theorem dX11_sentence_119 : decode cX11_sentence 119 = .ok (.invokevirtual 479, 3) := dk_182 1 223 (dk_at dksX11_sentence_5 0 rfl rfl)
theorem dX11_sentence_122 : decode cX11_sentence 122 = .ok (.ifCond .ne (-74), 3) := dk_154 255 182 (dk_at dksX11_sentence_5 3 rfl rfl)
theorem dX11_sentence_125 : decode cX11_sentence 125 = .ok (.iconst (-1), 1) := dk_2 (dk_at dksX11_sentence_5 6 rfl rfl)
theorem dX11_sentence_126 : decode cX11_sentence 126 = .ok (.aload_n 0, 1) := dk_42 (dk_at dksX11_sentence_5 7 rfl rfl)
theorem dX11_sentence_127 : decode cX11_sentence 127 = .ok (.getfield 183, 3) := dk_180 0 183 (dk_at dksX11_sentence_5 8 rfl rfl)
theorem dX11_sentence_130 : decode cX11_sentence 130 = .ok (.isub, 1) := dk_100 (dk_at dksX11_sentence_5 11 rfl rfl)
theorem dX11_sentence_131 : decode cX11_sentence 131 = .ok (.ireturn, 1) := dk_172 (dk_at dksX11_sentence_5 12 rfl rfl)
theorem dX11_sentence_132 : decode cX11_sentence 132 = .ok (.aload_n 0, 1) := dk_42 (dk_at dksX11_sentence_5 13 rfl rfl)
theorem dX11_sentence_133 : decode cX11_sentence 133 = .ok (.getfield 33, 3) := dk_180 0 33 (dk_at dksX11_sentence_5 14 rfl rfl)
theorem dX11_sentence_136 : decode cX11_sentence 136 = .ok (.sipush 584, 3) := dk_17 2 72 (dk_at dksX11_sentence_5 17 rfl rfl)
theorem dX11_sentence_139 : decode cX11_sentence 139 = .ok (.aload_n 0, 1) := dk_42 (dk_at dksX11_sentence_5 20 rfl rfl)
theorem dX11_sentence_140 : decode cX11_sentence 140 = .ok (.getfield 448, 3) := dk_180 1 192 (dk_at dksX11_sentence_5 21 rfl rfl)
theorem dX11_sentence_143 : decode cX11_sentence 143 = .ok (.iastore, 1) := dk_79 (dk_at dksX11_sentence_6 0 rfl rfl)
theorem dX11_sentence_144 : decode cX11_sentence 144 = .ok (.iconst 0, 1) := dk_3 (dk_at dksX11_sentence_6 1 rfl rfl)
theorem dX11_sentence_145 : decode cX11_sentence 145 = .ok (.istore_n 2, 1) := dk_61 (dk_at dksX11_sentence_6 2 rfl rfl)
theorem dX11_sentence_146 : decode cX11_sentence 146 = .ok (.iload_n 2, 1) := dk_28 (dk_at dksX11_sentence_6 3 rfl rfl)
theorem dX11_sentence_147 : decode cX11_sentence 147 = .ok (.iconst 3, 1) := dk_6 (dk_at dksX11_sentence_6 4 rfl rfl)
theorem dX11_sentence_148 : decode cX11_sentence 148 = .ok (.aload_n 0, 1) := dk_42 (dk_at dksX11_sentence_6 5 rfl rfl)
theorem dX11_sentence_149 : decode cX11_sentence 149 = .ok (.getfield 448, 3) := dk_180 1 192 (dk_at dksX11_sentence_6 6 rfl rfl)
theorem dX11_sentence_152 : decode cX11_sentence 152 = .ok (.imul, 1) := dk_104 (dk_at dksX11_sentence_6 9 rfl rfl)
theorem dX11_sentence_153 : decode cX11_sentence 153 = .ok (.if_icmp .ge 25, 3) := dk_162 0 25 (dk_at dksX11_sentence_6 10 rfl rfl)
theorem dX11_sentence_156 : decode cX11_sentence 156 = .ok (.aload_n 0, 1) := dk_42 (dk_at dksX11_sentence_6 13 rfl rfl)
theorem dX11_sentence_157 : decode cX11_sentence 157 = .ok (.getfield 33, 3) := dk_180 0 33 (dk_at dksX11_sentence_6 14 rfl rfl)
theorem dX11_sentence_160 : decode cX11_sentence 160 = .ok (.sipush 585, 3) := dk_17 2 73 (dk_at dksX11_sentence_6 17 rfl rfl)
theorem dX11_sentence_163 : decode cX11_sentence 163 = .ok (.iload_n 2, 1) := dk_28 (dk_at dksX11_sentence_6 20 rfl rfl)
theorem dX11_sentence_164 : decode cX11_sentence 164 = .ok (.iadd, 1) := dk_96 (dk_at dksX11_sentence_6 21 rfl rfl)
theorem dX11_sentence_165 : decode cX11_sentence 165 = .ok (.aload_n 0, 1) := dk_42 (dk_at dksX11_sentence_6 22 rfl rfl)
theorem dX11_sentence_166 : decode cX11_sentence 166 = .ok (.getfield 40, 3) := dk_180 0 40 (dk_at dksX11_sentence_7 0 rfl rfl)
theorem dX11_sentence_169 : decode cX11_sentence 169 = .ok (.iload_n 2, 1) := dk_28 (dk_at dksX11_sentence_7 3 rfl rfl)
theorem dX11_sentence_170 : decode cX11_sentence 170 = .ok (.iaload, 1) := dk_46 (dk_at dksX11_sentence_7 4 rfl rfl)
theorem dX11_sentence_171 : decode cX11_sentence 171 = .ok (.iastore, 1) := dk_79 (dk_at dksX11_sentence_7 5 rfl rfl)
theorem dX11_sentence_172 : decode cX11_sentence 172 = .ok (.iinc 2 1, 3) := dk_132 2 1 (dk_at dksX11_sentence_7 6 rfl rfl)
theorem dX11_sentence_175 : decode cX11_sentence 175 = .ok (.goto (-29), 3) := dk_167 255 227 (dk_at dksX11_sentence_7 9 rfl rfl)
theorem dX11_sentence_178 : decode cX11_sentence 178 = .ok (.aload_n 0, 1) := dk_42 (dk_at dksX11_sentence_7 12 rfl rfl)
theorem dX11_sentence_179 : decode cX11_sentence 179 = .ok (.getfield 464, 3) := dk_180 1 208 (dk_at dksX11_sentence_7 13 rfl rfl)
theorem dX11_sentence_182 : decode cX11_sentence 182 = .ok (.ireturn, 1) := dk_172 (dk_at dksX11_sentence_7 16 rfl rfl)
abbrev cX11_nots : ByteArray := prog_23_method_100_code
def yX11_nots : MethodName := ⟨RX11, "nots", "()V"⟩
def dkwX11_nots_2 : List UInt8 := [182, 1, 198, 167, 255, 205, 177]
abbrev dktX11_nots_2 : List UInt8 := dkwX11_nots_2 ++ []
def dkwX11_nots_1 : List UInt8 := [89, 180, 1, 195, 4, 100, 181, 1, 195, 42, 89, 180, 1, 202, 4, 100, 181, 1, 202, 42, 16, 10, 3, 3]
abbrev dktX11_nots_1 : List UInt8 := dkwX11_nots_1 ++ dktX11_nots_2
def dkwX11_nots_0 : List UInt8 := [42, 180, 1, 195, 158, 0, 50, 42, 180, 0, 99, 42, 180, 1, 195, 4, 100, 46, 16, 10, 160, 0, 34, 42]
abbrev dktX11_nots_0 : List UInt8 := dkwX11_nots_0 ++ dktX11_nots_1
theorem dksX11_nots_0 : cX11_nots.data.toList.drop 0 = dktX11_nots_0 := by decide +kernel
theorem dksX11_nots_1 : cX11_nots.data.toList.drop 24 = dktX11_nots_1 := dk_seg dksX11_nots_0 24 rfl rfl
theorem dksX11_nots_2 : cX11_nots.data.toList.drop 48 = dktX11_nots_2 := dk_seg dksX11_nots_1 24 rfl rfl
theorem dX11_nots_0 : decode cX11_nots 0 = .ok (.aload_n 0, 1) := dk_42 (dk_at dksX11_nots_0 0 rfl rfl)
theorem dX11_nots_1 : decode cX11_nots 1 = .ok (.getfield 451, 3) := dk_180 1 195 (dk_at dksX11_nots_0 1 rfl rfl)
theorem dX11_nots_4 : decode cX11_nots 4 = .ok (.ifCond .le 50, 3) := dk_158 0 50 (dk_at dksX11_nots_0 4 rfl rfl)
theorem dX11_nots_7 : decode cX11_nots 7 = .ok (.aload_n 0, 1) := dk_42 (dk_at dksX11_nots_0 7 rfl rfl)
theorem dX11_nots_8 : decode cX11_nots 8 = .ok (.getfield 99, 3) := dk_180 0 99 (dk_at dksX11_nots_0 8 rfl rfl)
theorem dX11_nots_11 : decode cX11_nots 11 = .ok (.aload_n 0, 1) := dk_42 (dk_at dksX11_nots_0 11 rfl rfl)
theorem dX11_nots_12 : decode cX11_nots 12 = .ok (.getfield 451, 3) := dk_180 1 195 (dk_at dksX11_nots_0 12 rfl rfl)
theorem dX11_nots_15 : decode cX11_nots 15 = .ok (.iconst 1, 1) := dk_4 (dk_at dksX11_nots_0 15 rfl rfl)
theorem dX11_nots_16 : decode cX11_nots 16 = .ok (.isub, 1) := dk_100 (dk_at dksX11_nots_0 16 rfl rfl)
theorem dX11_nots_17 : decode cX11_nots 17 = .ok (.iaload, 1) := dk_46 (dk_at dksX11_nots_0 17 rfl rfl)
theorem dX11_nots_18 : decode cX11_nots 18 = .ok (.bipush 10, 2) := dk_16 10 (dk_at dksX11_nots_0 18 rfl rfl)
theorem dX11_nots_20 : decode cX11_nots 20 = .ok (.if_icmp .ne 34, 3) := dk_160 0 34 (dk_at dksX11_nots_0 20 rfl rfl)
theorem dX11_nots_23 : decode cX11_nots 23 = .ok (.aload_n 0, 1) := dk_42 (dk_at dksX11_nots_0 23 rfl rfl)
theorem dX11_nots_24 : decode cX11_nots 24 = .ok (.dup, 1) := dk_89 (dk_at dksX11_nots_1 0 rfl rfl)
theorem dX11_nots_25 : decode cX11_nots 25 = .ok (.getfield 451, 3) := dk_180 1 195 (dk_at dksX11_nots_1 1 rfl rfl)
theorem dX11_nots_28 : decode cX11_nots 28 = .ok (.iconst 1, 1) := dk_4 (dk_at dksX11_nots_1 4 rfl rfl)
theorem dX11_nots_29 : decode cX11_nots 29 = .ok (.isub, 1) := dk_100 (dk_at dksX11_nots_1 5 rfl rfl)
theorem dX11_nots_30 : decode cX11_nots 30 = .ok (.putfield 451, 3) := dk_181 1 195 (dk_at dksX11_nots_1 6 rfl rfl)
theorem dX11_nots_33 : decode cX11_nots 33 = .ok (.aload_n 0, 1) := dk_42 (dk_at dksX11_nots_1 9 rfl rfl)
theorem dX11_nots_34 : decode cX11_nots 34 = .ok (.dup, 1) := dk_89 (dk_at dksX11_nots_1 10 rfl rfl)
theorem dX11_nots_35 : decode cX11_nots 35 = .ok (.getfield 458, 3) := dk_180 1 202 (dk_at dksX11_nots_1 11 rfl rfl)
theorem dX11_nots_38 : decode cX11_nots 38 = .ok (.iconst 1, 1) := dk_4 (dk_at dksX11_nots_1 14 rfl rfl)
theorem dX11_nots_39 : decode cX11_nots 39 = .ok (.isub, 1) := dk_100 (dk_at dksX11_nots_1 15 rfl rfl)
theorem dX11_nots_40 : decode cX11_nots 40 = .ok (.putfield 458, 3) := dk_181 1 202 (dk_at dksX11_nots_1 16 rfl rfl)
theorem dX11_nots_43 : decode cX11_nots 43 = .ok (.aload_n 0, 1) := dk_42 (dk_at dksX11_nots_1 19 rfl rfl)
theorem dX11_nots_44 : decode cX11_nots 44 = .ok (.bipush 10, 2) := dk_16 10 (dk_at dksX11_nots_1 20 rfl rfl)
theorem dX11_nots_46 : decode cX11_nots 46 = .ok (.iconst 0, 1) := dk_3 (dk_at dksX11_nots_1 22 rfl rfl)
theorem dX11_nots_47 : decode cX11_nots 47 = .ok (.iconst 0, 1) := dk_3 (dk_at dksX11_nots_1 23 rfl rfl)
theorem dX11_nots_48 : decode cX11_nots 48 = .ok (.invokevirtual 454, 3) := dk_182 1 198 (dk_at dksX11_nots_2 0 rfl rfl)
theorem dX11_nots_51 : decode cX11_nots 51 = .ok (.goto (-51), 3) := dk_167 255 205 (dk_at dksX11_nots_2 3 rfl rfl)
theorem dX11_nots_54 : decode cX11_nots 54 = .ok (.return_, 1) := dk_177 (dk_at dksX11_nots_2 6 rfl rfl)
abbrev cX11_code : ByteArray := prog_23_method_98_code
def yX11_code : MethodName := ⟨RX11, "code", "(III)V"⟩
def dkwX11_code_2 : List UInt8 := [181, 1, 192, 177]
abbrev dktX11_code_2 : List UInt8 := dkwX11_code_2 ++ []
def dkwX11_code_1 : List UInt8 := [28, 79, 42, 180, 0, 40, 6, 42, 180, 1, 192, 104, 5, 96, 29, 79, 42, 89, 180, 1, 192, 4, 96]
abbrev dktX11_code_1 : List UInt8 := dkwX11_code_1 ++ dktX11_code_2
def dkwX11_code_0 : List UInt8 := [42, 180, 0, 40, 6, 42, 180, 1, 192, 104, 27, 79, 42, 180, 0, 40, 6, 42, 180, 1, 192, 104, 4, 96]
abbrev dktX11_code_0 : List UInt8 := dkwX11_code_0 ++ dktX11_code_1
theorem dksX11_code_0 : cX11_code.data.toList.drop 0 = dktX11_code_0 := by decide +kernel
theorem dksX11_code_1 : cX11_code.data.toList.drop 24 = dktX11_code_1 := dk_seg dksX11_code_0 24 rfl rfl
theorem dksX11_code_2 : cX11_code.data.toList.drop 47 = dktX11_code_2 := dk_seg dksX11_code_1 23 rfl rfl
theorem dX11_code_0 : decode cX11_code 0 = .ok (.aload_n 0, 1) := dk_42 (dk_at dksX11_code_0 0 rfl rfl)
theorem dX11_code_1 : decode cX11_code 1 = .ok (.getfield 40, 3) := dk_180 0 40 (dk_at dksX11_code_0 1 rfl rfl)
theorem dX11_code_4 : decode cX11_code 4 = .ok (.iconst 3, 1) := dk_6 (dk_at dksX11_code_0 4 rfl rfl)
theorem dX11_code_5 : decode cX11_code 5 = .ok (.aload_n 0, 1) := dk_42 (dk_at dksX11_code_0 5 rfl rfl)
theorem dX11_code_6 : decode cX11_code 6 = .ok (.getfield 448, 3) := dk_180 1 192 (dk_at dksX11_code_0 6 rfl rfl)
theorem dX11_code_9 : decode cX11_code 9 = .ok (.imul, 1) := dk_104 (dk_at dksX11_code_0 9 rfl rfl)
theorem dX11_code_10 : decode cX11_code 10 = .ok (.iload_n 1, 1) := dk_27 (dk_at dksX11_code_0 10 rfl rfl)
theorem dX11_code_11 : decode cX11_code 11 = .ok (.iastore, 1) := dk_79 (dk_at dksX11_code_0 11 rfl rfl)
theorem dX11_code_12 : decode cX11_code 12 = .ok (.aload_n 0, 1) := dk_42 (dk_at dksX11_code_0 12 rfl rfl)
theorem dX11_code_13 : decode cX11_code 13 = .ok (.getfield 40, 3) := dk_180 0 40 (dk_at dksX11_code_0 13 rfl rfl)
theorem dX11_code_16 : decode cX11_code 16 = .ok (.iconst 3, 1) := dk_6 (dk_at dksX11_code_0 16 rfl rfl)
theorem dX11_code_17 : decode cX11_code 17 = .ok (.aload_n 0, 1) := dk_42 (dk_at dksX11_code_0 17 rfl rfl)
theorem dX11_code_18 : decode cX11_code 18 = .ok (.getfield 448, 3) := dk_180 1 192 (dk_at dksX11_code_0 18 rfl rfl)
theorem dX11_code_21 : decode cX11_code 21 = .ok (.imul, 1) := dk_104 (dk_at dksX11_code_0 21 rfl rfl)
theorem dX11_code_22 : decode cX11_code 22 = .ok (.iconst 1, 1) := dk_4 (dk_at dksX11_code_0 22 rfl rfl)
theorem dX11_code_23 : decode cX11_code 23 = .ok (.iadd, 1) := dk_96 (dk_at dksX11_code_0 23 rfl rfl)
theorem dX11_code_24 : decode cX11_code 24 = .ok (.iload_n 2, 1) := dk_28 (dk_at dksX11_code_1 0 rfl rfl)
theorem dX11_code_25 : decode cX11_code 25 = .ok (.iastore, 1) := dk_79 (dk_at dksX11_code_1 1 rfl rfl)
theorem dX11_code_26 : decode cX11_code 26 = .ok (.aload_n 0, 1) := dk_42 (dk_at dksX11_code_1 2 rfl rfl)
theorem dX11_code_27 : decode cX11_code 27 = .ok (.getfield 40, 3) := dk_180 0 40 (dk_at dksX11_code_1 3 rfl rfl)
theorem dX11_code_30 : decode cX11_code 30 = .ok (.iconst 3, 1) := dk_6 (dk_at dksX11_code_1 6 rfl rfl)
theorem dX11_code_31 : decode cX11_code 31 = .ok (.aload_n 0, 1) := dk_42 (dk_at dksX11_code_1 7 rfl rfl)
theorem dX11_code_32 : decode cX11_code 32 = .ok (.getfield 448, 3) := dk_180 1 192 (dk_at dksX11_code_1 8 rfl rfl)
theorem dX11_code_35 : decode cX11_code 35 = .ok (.imul, 1) := dk_104 (dk_at dksX11_code_1 11 rfl rfl)
theorem dX11_code_36 : decode cX11_code 36 = .ok (.iconst 2, 1) := dk_5 (dk_at dksX11_code_1 12 rfl rfl)
theorem dX11_code_37 : decode cX11_code 37 = .ok (.iadd, 1) := dk_96 (dk_at dksX11_code_1 13 rfl rfl)
theorem dX11_code_38 : decode cX11_code 38 = .ok (.iload_n 3, 1) := dk_29 (dk_at dksX11_code_1 14 rfl rfl)
theorem dX11_code_39 : decode cX11_code 39 = .ok (.iastore, 1) := dk_79 (dk_at dksX11_code_1 15 rfl rfl)
theorem dX11_code_40 : decode cX11_code 40 = .ok (.aload_n 0, 1) := dk_42 (dk_at dksX11_code_1 16 rfl rfl)
theorem dX11_code_41 : decode cX11_code 41 = .ok (.dup, 1) := dk_89 (dk_at dksX11_code_1 17 rfl rfl)
theorem dX11_code_42 : decode cX11_code 42 = .ok (.getfield 448, 3) := dk_180 1 192 (dk_at dksX11_code_1 18 rfl rfl)
theorem dX11_code_45 : decode cX11_code 45 = .ok (.iconst 1, 1) := dk_4 (dk_at dksX11_code_1 21 rfl rfl)
theorem dX11_code_46 : decode cX11_code 46 = .ok (.iadd, 1) := dk_96 (dk_at dksX11_code_1 22 rfl rfl)
theorem dX11_code_47 : decode cX11_code 47 = .ok (.putfield 448, 3) := dk_181 1 192 (dk_at dksX11_code_2 0 rfl rfl)
theorem dX11_code_50 : decode cX11_code 50 = .ok (.return_, 1) := dk_177 (dk_at dksX11_code_2 3 rfl rfl)
abbrev cX11_joins : ByteArray := prog_23_method_99_code
def yX11_joins : MethodName := ⟨RX11, "joins", "(I)V"⟩
def dkwX11_joins_3 : List UInt8 := [167, 255, 186, 177]
abbrev dktX11_joins_3 : List UInt8 := dkwX11_joins_3 ++ []
def dkwX11_joins_2 : List UInt8 := [180, 1, 195, 4, 100, 181, 1, 195, 42, 42, 180, 0, 99, 42, 180, 1, 195, 46, 3, 3, 182, 1, 198]
abbrev dktX11_joins_2 : List UInt8 := dkwX11_joins_2 ++ dktX11_joins_3
def dkwX11_joins_1 : List UInt8 := [180, 0, 99, 42, 180, 1, 195, 4, 100, 46, 16, 12, 160, 0, 37, 27, 16, 12, 160, 0, 31, 42, 89]
abbrev dktX11_joins_1 : List UInt8 := dkwX11_joins_1 ++ dktX11_joins_2
def dkwX11_joins_0 : List UInt8 := [42, 180, 1, 195, 158, 0, 69, 42, 180, 0, 99, 42, 180, 1, 195, 4, 100, 46, 16, 11, 159, 0, 25, 42]
abbrev dktX11_joins_0 : List UInt8 := dkwX11_joins_0 ++ dktX11_joins_1
theorem dksX11_joins_0 : cX11_joins.data.toList.drop 0 = dktX11_joins_0 := by decide +kernel
theorem dksX11_joins_1 : cX11_joins.data.toList.drop 24 = dktX11_joins_1 := dk_seg dksX11_joins_0 24 rfl rfl
theorem dksX11_joins_2 : cX11_joins.data.toList.drop 47 = dktX11_joins_2 := dk_seg dksX11_joins_1 23 rfl rfl
theorem dksX11_joins_3 : cX11_joins.data.toList.drop 70 = dktX11_joins_3 := dk_seg dksX11_joins_2 23 rfl rfl
theorem dX11_joins_0 : decode cX11_joins 0 = .ok (.aload_n 0, 1) := dk_42 (dk_at dksX11_joins_0 0 rfl rfl)
theorem dX11_joins_1 : decode cX11_joins 1 = .ok (.getfield 451, 3) := dk_180 1 195 (dk_at dksX11_joins_0 1 rfl rfl)
theorem dX11_joins_4 : decode cX11_joins 4 = .ok (.ifCond .le 69, 3) := dk_158 0 69 (dk_at dksX11_joins_0 4 rfl rfl)
theorem dX11_joins_7 : decode cX11_joins 7 = .ok (.aload_n 0, 1) := dk_42 (dk_at dksX11_joins_0 7 rfl rfl)
theorem dX11_joins_8 : decode cX11_joins 8 = .ok (.getfield 99, 3) := dk_180 0 99 (dk_at dksX11_joins_0 8 rfl rfl)
theorem dX11_joins_11 : decode cX11_joins 11 = .ok (.aload_n 0, 1) := dk_42 (dk_at dksX11_joins_0 11 rfl rfl)
theorem dX11_joins_12 : decode cX11_joins 12 = .ok (.getfield 451, 3) := dk_180 1 195 (dk_at dksX11_joins_0 12 rfl rfl)
theorem dX11_joins_15 : decode cX11_joins 15 = .ok (.iconst 1, 1) := dk_4 (dk_at dksX11_joins_0 15 rfl rfl)
theorem dX11_joins_16 : decode cX11_joins 16 = .ok (.isub, 1) := dk_100 (dk_at dksX11_joins_0 16 rfl rfl)
theorem dX11_joins_17 : decode cX11_joins 17 = .ok (.iaload, 1) := dk_46 (dk_at dksX11_joins_0 17 rfl rfl)
theorem dX11_joins_18 : decode cX11_joins 18 = .ok (.bipush 11, 2) := dk_16 11 (dk_at dksX11_joins_0 18 rfl rfl)
theorem dX11_joins_20 : decode cX11_joins 20 = .ok (.if_icmp .eq 25, 3) := dk_159 0 25 (dk_at dksX11_joins_0 20 rfl rfl)
theorem dX11_joins_23 : decode cX11_joins 23 = .ok (.aload_n 0, 1) := dk_42 (dk_at dksX11_joins_0 23 rfl rfl)
theorem dX11_joins_24 : decode cX11_joins 24 = .ok (.getfield 99, 3) := dk_180 0 99 (dk_at dksX11_joins_1 0 rfl rfl)
theorem dX11_joins_27 : decode cX11_joins 27 = .ok (.aload_n 0, 1) := dk_42 (dk_at dksX11_joins_1 3 rfl rfl)
theorem dX11_joins_28 : decode cX11_joins 28 = .ok (.getfield 451, 3) := dk_180 1 195 (dk_at dksX11_joins_1 4 rfl rfl)
theorem dX11_joins_31 : decode cX11_joins 31 = .ok (.iconst 1, 1) := dk_4 (dk_at dksX11_joins_1 7 rfl rfl)
theorem dX11_joins_32 : decode cX11_joins 32 = .ok (.isub, 1) := dk_100 (dk_at dksX11_joins_1 8 rfl rfl)
theorem dX11_joins_33 : decode cX11_joins 33 = .ok (.iaload, 1) := dk_46 (dk_at dksX11_joins_1 9 rfl rfl)
theorem dX11_joins_34 : decode cX11_joins 34 = .ok (.bipush 12, 2) := dk_16 12 (dk_at dksX11_joins_1 10 rfl rfl)
theorem dX11_joins_36 : decode cX11_joins 36 = .ok (.if_icmp .ne 37, 3) := dk_160 0 37 (dk_at dksX11_joins_1 12 rfl rfl)
theorem dX11_joins_39 : decode cX11_joins 39 = .ok (.iload_n 1, 1) := dk_27 (dk_at dksX11_joins_1 15 rfl rfl)
theorem dX11_joins_40 : decode cX11_joins 40 = .ok (.bipush 12, 2) := dk_16 12 (dk_at dksX11_joins_1 16 rfl rfl)
theorem dX11_joins_42 : decode cX11_joins 42 = .ok (.if_icmp .ne 31, 3) := dk_160 0 31 (dk_at dksX11_joins_1 18 rfl rfl)
theorem dX11_joins_45 : decode cX11_joins 45 = .ok (.aload_n 0, 1) := dk_42 (dk_at dksX11_joins_1 21 rfl rfl)
theorem dX11_joins_46 : decode cX11_joins 46 = .ok (.dup, 1) := dk_89 (dk_at dksX11_joins_1 22 rfl rfl)
theorem dX11_joins_47 : decode cX11_joins 47 = .ok (.getfield 451, 3) := dk_180 1 195 (dk_at dksX11_joins_2 0 rfl rfl)
theorem dX11_joins_50 : decode cX11_joins 50 = .ok (.iconst 1, 1) := dk_4 (dk_at dksX11_joins_2 3 rfl rfl)
theorem dX11_joins_51 : decode cX11_joins 51 = .ok (.isub, 1) := dk_100 (dk_at dksX11_joins_2 4 rfl rfl)
theorem dX11_joins_52 : decode cX11_joins 52 = .ok (.putfield 451, 3) := dk_181 1 195 (dk_at dksX11_joins_2 5 rfl rfl)
theorem dX11_joins_55 : decode cX11_joins 55 = .ok (.aload_n 0, 1) := dk_42 (dk_at dksX11_joins_2 8 rfl rfl)
theorem dX11_joins_56 : decode cX11_joins 56 = .ok (.aload_n 0, 1) := dk_42 (dk_at dksX11_joins_2 9 rfl rfl)
theorem dX11_joins_57 : decode cX11_joins 57 = .ok (.getfield 99, 3) := dk_180 0 99 (dk_at dksX11_joins_2 10 rfl rfl)
theorem dX11_joins_60 : decode cX11_joins 60 = .ok (.aload_n 0, 1) := dk_42 (dk_at dksX11_joins_2 13 rfl rfl)
theorem dX11_joins_61 : decode cX11_joins 61 = .ok (.getfield 451, 3) := dk_180 1 195 (dk_at dksX11_joins_2 14 rfl rfl)
theorem dX11_joins_64 : decode cX11_joins 64 = .ok (.iaload, 1) := dk_46 (dk_at dksX11_joins_2 17 rfl rfl)
theorem dX11_joins_65 : decode cX11_joins 65 = .ok (.iconst 0, 1) := dk_3 (dk_at dksX11_joins_2 18 rfl rfl)
theorem dX11_joins_66 : decode cX11_joins 66 = .ok (.iconst 0, 1) := dk_3 (dk_at dksX11_joins_2 19 rfl rfl)
theorem dX11_joins_67 : decode cX11_joins 67 = .ok (.invokevirtual 454, 3) := dk_182 1 198 (dk_at dksX11_joins_2 20 rfl rfl)
theorem dX11_joins_70 : decode cX11_joins 70 = .ok (.goto (-70), 3) := dk_167 255 186 (dk_at dksX11_joins_3 0 rfl rfl)
theorem dX11_joins_73 : decode cX11_joins 73 = .ok (.return_, 1) := dk_177 (dk_at dksX11_joins_3 3 rfl rfl)
abbrev cX11_behind : ByteArray := prog_23_method_103_code
def yX11_behind : MethodName := ⟨RX11, "behind", "()Z"⟩
def dkwX11_behind_6 : List UInt8 := [42, 182, 0, 192, 4, 172]
abbrev dktX11_behind_6 : List UInt8 := dkwX11_behind_6 ++ []
def dkwX11_behind_5 : List UInt8 := [182, 0, 189, 172, 42, 89, 180, 1, 195, 4, 100, 181, 1, 195, 42, 89, 180, 1, 202, 4, 100, 181, 1, 202]
abbrev dktX11_behind_5 : List UInt8 := dkwX11_behind_5 ++ dktX11_behind_6
def dkwX11_behind_4 : List UInt8 := [16, 12, 182, 1, 217, 42, 16, 41, 182, 0, 186, 153, 0, 10, 42, 180, 1, 195, 154, 0, 9, 42, 4]
abbrev dktX11_behind_4 : List UInt8 := dkwX11_behind_4 ++ dktX11_behind_5
def dkwX11_behind_3 : List UInt8 := [79, 42, 89, 180, 1, 195, 4, 96, 181, 1, 195, 42, 3, 181, 1, 211, 42, 182, 0, 192, 4, 172, 42]
abbrev dktX11_behind_3 : List UInt8 := dkwX11_behind_3 ++ dktX11_behind_4
def dkwX11_behind_2 : List UInt8 := [180, 0, 99, 42, 180, 1, 195, 42, 20, 0, 135, 182, 0, 202, 153, 0, 8, 16, 11, 167, 0, 5, 16, 12]
abbrev dktX11_behind_2 : List UInt8 := dkwX11_behind_2 ++ dktX11_behind_3
def dkwX11_behind_1 : List UInt8 := [42, 42, 20, 0, 135, 182, 0, 202, 153, 0, 8, 16, 11, 167, 0, 5, 16, 12, 182, 1, 217, 42]
abbrev dktX11_behind_1 : List UInt8 := dkwX11_behind_1 ++ dktX11_behind_2
def dkwX11_behind_0 : List UInt8 := [42, 182, 1, 214, 42, 20, 0, 135, 182, 0, 202, 154, 0, 13, 42, 20, 0, 133, 182, 0, 202, 153, 0, 71]
abbrev dktX11_behind_0 : List UInt8 := dkwX11_behind_0 ++ dktX11_behind_1
theorem dksX11_behind_0 : cX11_behind.data.toList.drop 0 = dktX11_behind_0 := by decide +kernel
theorem dksX11_behind_1 : cX11_behind.data.toList.drop 24 = dktX11_behind_1 := dk_seg dksX11_behind_0 24 rfl rfl
theorem dksX11_behind_2 : cX11_behind.data.toList.drop 46 = dktX11_behind_2 := dk_seg dksX11_behind_1 22 rfl rfl
theorem dksX11_behind_3 : cX11_behind.data.toList.drop 70 = dktX11_behind_3 := dk_seg dksX11_behind_2 24 rfl rfl
theorem dksX11_behind_4 : cX11_behind.data.toList.drop 93 = dktX11_behind_4 := dk_seg dksX11_behind_3 23 rfl rfl
theorem dksX11_behind_5 : cX11_behind.data.toList.drop 116 = dktX11_behind_5 := dk_seg dksX11_behind_4 23 rfl rfl
theorem dksX11_behind_6 : cX11_behind.data.toList.drop 140 = dktX11_behind_6 := dk_seg dksX11_behind_5 24 rfl rfl
theorem dX11_behind_0 : decode cX11_behind 0 = .ok (.aload_n 0, 1) := dk_42 (dk_at dksX11_behind_0 0 rfl rfl)
theorem dX11_behind_1 : decode cX11_behind 1 = .ok (.invokevirtual 470, 3) := dk_182 1 214 (dk_at dksX11_behind_0 1 rfl rfl)
theorem dX11_behind_4 : decode cX11_behind 4 = .ok (.aload_n 0, 1) := dk_42 (dk_at dksX11_behind_0 4 rfl rfl)
theorem dX11_behind_5 : decode cX11_behind 5 = .ok (.ldc2_w 135, 3) := dk_20 0 135 (dk_at dksX11_behind_0 5 rfl rfl)
theorem dX11_behind_8 : decode cX11_behind 8 = .ok (.invokevirtual 202, 3) := dk_182 0 202 (dk_at dksX11_behind_0 8 rfl rfl)
theorem dX11_behind_11 : decode cX11_behind 11 = .ok (.ifCond .ne 13, 3) := dk_154 0 13 (dk_at dksX11_behind_0 11 rfl rfl)
theorem dX11_behind_14 : decode cX11_behind 14 = .ok (.aload_n 0, 1) := dk_42 (dk_at dksX11_behind_0 14 rfl rfl)
theorem dX11_behind_15 : decode cX11_behind 15 = .ok (.ldc2_w 133, 3) := dk_20 0 133 (dk_at dksX11_behind_0 15 rfl rfl)
theorem dX11_behind_18 : decode cX11_behind 18 = .ok (.invokevirtual 202, 3) := dk_182 0 202 (dk_at dksX11_behind_0 18 rfl rfl)
theorem dX11_behind_21 : decode cX11_behind 21 = .ok (.ifCond .eq 71, 3) := dk_153 0 71 (dk_at dksX11_behind_0 21 rfl rfl)
theorem dX11_behind_24 : decode cX11_behind 24 = .ok (.aload_n 0, 1) := dk_42 (dk_at dksX11_behind_1 0 rfl rfl)
theorem dX11_behind_25 : decode cX11_behind 25 = .ok (.aload_n 0, 1) := dk_42 (dk_at dksX11_behind_1 1 rfl rfl)
theorem dX11_behind_26 : decode cX11_behind 26 = .ok (.ldc2_w 135, 3) := dk_20 0 135 (dk_at dksX11_behind_1 2 rfl rfl)
theorem dX11_behind_29 : decode cX11_behind 29 = .ok (.invokevirtual 202, 3) := dk_182 0 202 (dk_at dksX11_behind_1 5 rfl rfl)
theorem dX11_behind_32 : decode cX11_behind 32 = .ok (.ifCond .eq 8, 3) := dk_153 0 8 (dk_at dksX11_behind_1 8 rfl rfl)
theorem dX11_behind_35 : decode cX11_behind 35 = .ok (.bipush 11, 2) := dk_16 11 (dk_at dksX11_behind_1 11 rfl rfl)
theorem dX11_behind_37 : decode cX11_behind 37 = .ok (.goto 5, 3) := dk_167 0 5 (dk_at dksX11_behind_1 13 rfl rfl)
theorem dX11_behind_40 : decode cX11_behind 40 = .ok (.bipush 12, 2) := dk_16 12 (dk_at dksX11_behind_1 16 rfl rfl)
theorem dX11_behind_42 : decode cX11_behind 42 = .ok (.invokevirtual 473, 3) := dk_182 1 217 (dk_at dksX11_behind_1 18 rfl rfl)
theorem dX11_behind_45 : decode cX11_behind 45 = .ok (.aload_n 0, 1) := dk_42 (dk_at dksX11_behind_1 21 rfl rfl)
theorem dX11_behind_46 : decode cX11_behind 46 = .ok (.getfield 99, 3) := dk_180 0 99 (dk_at dksX11_behind_2 0 rfl rfl)
theorem dX11_behind_49 : decode cX11_behind 49 = .ok (.aload_n 0, 1) := dk_42 (dk_at dksX11_behind_2 3 rfl rfl)
theorem dX11_behind_50 : decode cX11_behind 50 = .ok (.getfield 451, 3) := dk_180 1 195 (dk_at dksX11_behind_2 4 rfl rfl)
theorem dX11_behind_53 : decode cX11_behind 53 = .ok (.aload_n 0, 1) := dk_42 (dk_at dksX11_behind_2 7 rfl rfl)
theorem dX11_behind_54 : decode cX11_behind 54 = .ok (.ldc2_w 135, 3) := dk_20 0 135 (dk_at dksX11_behind_2 8 rfl rfl)
theorem dX11_behind_57 : decode cX11_behind 57 = .ok (.invokevirtual 202, 3) := dk_182 0 202 (dk_at dksX11_behind_2 11 rfl rfl)
theorem dX11_behind_60 : decode cX11_behind 60 = .ok (.ifCond .eq 8, 3) := dk_153 0 8 (dk_at dksX11_behind_2 14 rfl rfl)
theorem dX11_behind_63 : decode cX11_behind 63 = .ok (.bipush 11, 2) := dk_16 11 (dk_at dksX11_behind_2 17 rfl rfl)
theorem dX11_behind_65 : decode cX11_behind 65 = .ok (.goto 5, 3) := dk_167 0 5 (dk_at dksX11_behind_2 19 rfl rfl)
theorem dX11_behind_68 : decode cX11_behind 68 = .ok (.bipush 12, 2) := dk_16 12 (dk_at dksX11_behind_2 22 rfl rfl)
theorem dX11_behind_70 : decode cX11_behind 70 = .ok (.iastore, 1) := dk_79 (dk_at dksX11_behind_3 0 rfl rfl)
theorem dX11_behind_71 : decode cX11_behind 71 = .ok (.aload_n 0, 1) := dk_42 (dk_at dksX11_behind_3 1 rfl rfl)
theorem dX11_behind_72 : decode cX11_behind 72 = .ok (.dup, 1) := dk_89 (dk_at dksX11_behind_3 2 rfl rfl)
theorem dX11_behind_73 : decode cX11_behind 73 = .ok (.getfield 451, 3) := dk_180 1 195 (dk_at dksX11_behind_3 3 rfl rfl)
theorem dX11_behind_76 : decode cX11_behind 76 = .ok (.iconst 1, 1) := dk_4 (dk_at dksX11_behind_3 6 rfl rfl)
theorem dX11_behind_77 : decode cX11_behind 77 = .ok (.iadd, 1) := dk_96 (dk_at dksX11_behind_3 7 rfl rfl)
theorem dX11_behind_78 : decode cX11_behind 78 = .ok (.putfield 451, 3) := dk_181 1 195 (dk_at dksX11_behind_3 8 rfl rfl)
theorem dX11_behind_81 : decode cX11_behind 81 = .ok (.aload_n 0, 1) := dk_42 (dk_at dksX11_behind_3 11 rfl rfl)
theorem dX11_behind_82 : decode cX11_behind 82 = .ok (.iconst 0, 1) := dk_3 (dk_at dksX11_behind_3 12 rfl rfl)
theorem dX11_behind_83 : decode cX11_behind 83 = .ok (.putfield 467, 3) := dk_181 1 211 (dk_at dksX11_behind_3 13 rfl rfl)
theorem dX11_behind_86 : decode cX11_behind 86 = .ok (.aload_n 0, 1) := dk_42 (dk_at dksX11_behind_3 16 rfl rfl)
theorem dX11_behind_87 : decode cX11_behind 87 = .ok (.invokevirtual 192, 3) := dk_182 0 192 (dk_at dksX11_behind_3 17 rfl rfl)
theorem dX11_behind_90 : decode cX11_behind 90 = .ok (.iconst 1, 1) := dk_4 (dk_at dksX11_behind_3 20 rfl rfl)
theorem dX11_behind_91 : decode cX11_behind 91 = .ok (.ireturn, 1) := dk_172 (dk_at dksX11_behind_3 21 rfl rfl)
theorem dX11_behind_92 : decode cX11_behind 92 = .ok (.aload_n 0, 1) := dk_42 (dk_at dksX11_behind_3 22 rfl rfl)
theorem dX11_behind_93 : decode cX11_behind 93 = .ok (.bipush 12, 2) := dk_16 12 (dk_at dksX11_behind_4 0 rfl rfl)
theorem dX11_behind_95 : decode cX11_behind 95 = .ok (.invokevirtual 473, 3) := dk_182 1 217 (dk_at dksX11_behind_4 2 rfl rfl)
theorem dX11_behind_98 : decode cX11_behind 98 = .ok (.aload_n 0, 1) := dk_42 (dk_at dksX11_behind_4 5 rfl rfl)
theorem dX11_behind_99 : decode cX11_behind 99 = .ok (.bipush 41, 2) := dk_16 41 (dk_at dksX11_behind_4 6 rfl rfl)
theorem dX11_behind_101 : decode cX11_behind 101 = .ok (.invokevirtual 186, 3) := dk_182 0 186 (dk_at dksX11_behind_4 8 rfl rfl)
theorem dX11_behind_104 : decode cX11_behind 104 = .ok (.ifCond .eq 10, 3) := dk_153 0 10 (dk_at dksX11_behind_4 11 rfl rfl)
theorem dX11_behind_107 : decode cX11_behind 107 = .ok (.aload_n 0, 1) := dk_42 (dk_at dksX11_behind_4 14 rfl rfl)
theorem dX11_behind_108 : decode cX11_behind 108 = .ok (.getfield 451, 3) := dk_180 1 195 (dk_at dksX11_behind_4 15 rfl rfl)
theorem dX11_behind_111 : decode cX11_behind 111 = .ok (.ifCond .ne 9, 3) := dk_154 0 9 (dk_at dksX11_behind_4 18 rfl rfl)
theorem dX11_behind_114 : decode cX11_behind 114 = .ok (.aload_n 0, 1) := dk_42 (dk_at dksX11_behind_4 21 rfl rfl)
theorem dX11_behind_115 : decode cX11_behind 115 = .ok (.iconst 1, 1) := dk_4 (dk_at dksX11_behind_4 22 rfl rfl)
theorem dX11_behind_116 : decode cX11_behind 116 = .ok (.invokevirtual 189, 3) := dk_182 0 189 (dk_at dksX11_behind_5 0 rfl rfl)
theorem dX11_behind_119 : decode cX11_behind 119 = .ok (.ireturn, 1) := dk_172 (dk_at dksX11_behind_5 3 rfl rfl)
theorem dX11_behind_120 : decode cX11_behind 120 = .ok (.aload_n 0, 1) := dk_42 (dk_at dksX11_behind_5 4 rfl rfl)
theorem dX11_behind_121 : decode cX11_behind 121 = .ok (.dup, 1) := dk_89 (dk_at dksX11_behind_5 5 rfl rfl)
theorem dX11_behind_122 : decode cX11_behind 122 = .ok (.getfield 451, 3) := dk_180 1 195 (dk_at dksX11_behind_5 6 rfl rfl)
theorem dX11_behind_125 : decode cX11_behind 125 = .ok (.iconst 1, 1) := dk_4 (dk_at dksX11_behind_5 9 rfl rfl)
theorem dX11_behind_126 : decode cX11_behind 126 = .ok (.isub, 1) := dk_100 (dk_at dksX11_behind_5 10 rfl rfl)
theorem dX11_behind_127 : decode cX11_behind 127 = .ok (.putfield 451, 3) := dk_181 1 195 (dk_at dksX11_behind_5 11 rfl rfl)
theorem dX11_behind_130 : decode cX11_behind 130 = .ok (.aload_n 0, 1) := dk_42 (dk_at dksX11_behind_5 14 rfl rfl)
theorem dX11_behind_131 : decode cX11_behind 131 = .ok (.dup, 1) := dk_89 (dk_at dksX11_behind_5 15 rfl rfl)
theorem dX11_behind_132 : decode cX11_behind 132 = .ok (.getfield 458, 3) := dk_180 1 202 (dk_at dksX11_behind_5 16 rfl rfl)
theorem dX11_behind_135 : decode cX11_behind 135 = .ok (.iconst 1, 1) := dk_4 (dk_at dksX11_behind_5 19 rfl rfl)
theorem dX11_behind_136 : decode cX11_behind 136 = .ok (.isub, 1) := dk_100 (dk_at dksX11_behind_5 20 rfl rfl)
theorem dX11_behind_137 : decode cX11_behind 137 = .ok (.putfield 458, 3) := dk_181 1 202 (dk_at dksX11_behind_5 21 rfl rfl)
theorem dX11_behind_140 : decode cX11_behind 140 = .ok (.aload_n 0, 1) := dk_42 (dk_at dksX11_behind_6 0 rfl rfl)
theorem dX11_behind_141 : decode cX11_behind 141 = .ok (.invokevirtual 192, 3) := dk_182 0 192 (dk_at dksX11_behind_6 1 rfl rfl)
theorem dX11_behind_144 : decode cX11_behind 144 = .ok (.iconst 1, 1) := dk_4 (dk_at dksX11_behind_6 4 rfl rfl)
theorem dX11_behind_145 : decode cX11_behind 145 = .ok (.ireturn, 1) := dk_172 (dk_at dksX11_behind_6 5 rfl rfl)
abbrev cX11_operand : ByteArray := prog_23_method_102_code
def yX11_operand : MethodName := ⟨RX11, "operand", "()Z"⟩
def dkwX11_operand_11 : List UInt8 := [180, 0, 173, 182, 1, 198, 42, 182, 0, 192, 4, 172]
abbrev dktX11_operand_11 : List UInt8 := dkwX11_operand_11 ++ []
def dkwX11_operand_10 : List UInt8 := [42, 182, 0, 192, 42, 180, 0, 163, 5, 159, 0, 9, 42, 4, 182, 0, 189, 172, 42, 29, 21, 4, 42]
abbrev dktX11_operand_10 : List UInt8 := dkwX11_operand_10 ++ dktX11_operand_11
def dkwX11_operand_9 : List UInt8 := [161, 0, 12, 42, 180, 0, 173, 16, 62, 164, 0, 9, 42, 4, 182, 0, 189, 172, 42, 180, 0, 173, 54, 4]
abbrev dktX11_operand_9 : List UInt8 := dkwX11_operand_9 ++ dktX11_operand_10
def dkwX11_operand_8 : List UInt8 := [182, 1, 198, 42, 182, 0, 192, 4, 172, 42, 180, 0, 163, 6, 160, 0, 21, 42, 180, 0, 173, 16, 60]
abbrev dktX11_operand_8 : List UInt8 := dkwX11_operand_8 ++ dktX11_operand_9
def dkwX11_operand_7 : List UInt8 := [4, 46, 182, 0, 218, 54, 4, 21, 4, 156, 0, 9, 42, 6, 182, 0, 189, 172, 42, 29, 3, 21, 4]
abbrev dktX11_operand_7 : List UInt8 := dkwX11_operand_7 ++ dktX11_operand_8
def dkwX11_operand_6 : List UInt8 := [29, 6, 162, 0, 54, 42, 182, 0, 214, 154, 0, 9, 42, 4, 182, 0, 189, 172, 42, 3, 42, 180, 0, 33]
abbrev dktX11_operand_6 : List UInt8 := dkwX11_operand_6 ++ dktX11_operand_7
def dkwX11_operand_5 : List UInt8 := [96, 181, 1, 202, 4, 172, 42, 4, 181, 1, 211, 29, 154, 0, 12, 42, 29, 3, 3, 182, 1, 198, 4, 172]
abbrev dktX11_operand_5 : List UInt8 := dkwX11_operand_5 ++ dktX11_operand_6
def dkwX11_operand_4 : List UInt8 := [16, 10, 167, 0, 5, 16, 13, 79, 42, 89, 180, 1, 195, 4, 96, 181, 1, 195, 42, 89, 180, 1, 202, 4]
abbrev dktX11_operand_4 : List UInt8 := dkwX11_operand_4 ++ dktX11_operand_5
def dkwX11_operand_3 : List UInt8 := [42, 182, 0, 192, 27, 154, 0, 7, 28, 153, 0, 45, 42, 180, 0, 99, 42, 180, 1, 195, 27, 153, 0, 8]
abbrev dktX11_operand_3 : List UInt8 := dkwX11_operand_3 ++ dktX11_operand_4
def dkwX11_operand_2 : List UInt8 := [180, 1, 202, 16, 8, 164, 0, 9, 42, 7, 182, 0, 189, 172, 42, 89, 180, 1, 208, 4, 96, 181, 1, 208]
abbrev dktX11_operand_2 : List UInt8 := dkwX11_operand_2 ++ dktX11_operand_3
def dkwX11_operand_1 : List UInt8 := [28, 154, 0, 13, 29, 156, 0, 9, 42, 4, 182, 0, 189, 172, 42, 180, 1, 208, 16, 20, 159, 0, 12, 42]
abbrev dktX11_operand_1 : List UInt8 := dkwX11_operand_1 ++ dktX11_operand_2
def dkwX11_operand_0 : List UInt8 := [42, 20, 0, 137, 182, 0, 202, 60, 42, 16, 40, 182, 0, 186, 61, 42, 182, 1, 205, 62, 27, 154, 0, 17]
abbrev dktX11_operand_0 : List UInt8 := dkwX11_operand_0 ++ dktX11_operand_1
theorem dksX11_operand_0 : cX11_operand.data.toList.drop 0 = dktX11_operand_0 := by decide +kernel
theorem dksX11_operand_1 : cX11_operand.data.toList.drop 24 = dktX11_operand_1 := dk_seg dksX11_operand_0 24 rfl rfl
theorem dksX11_operand_2 : cX11_operand.data.toList.drop 48 = dktX11_operand_2 := dk_seg dksX11_operand_1 24 rfl rfl
theorem dksX11_operand_3 : cX11_operand.data.toList.drop 72 = dktX11_operand_3 := dk_seg dksX11_operand_2 24 rfl rfl
theorem dksX11_operand_4 : cX11_operand.data.toList.drop 96 = dktX11_operand_4 := dk_seg dksX11_operand_3 24 rfl rfl
theorem dksX11_operand_5 : cX11_operand.data.toList.drop 120 = dktX11_operand_5 := dk_seg dksX11_operand_4 24 rfl rfl
theorem dksX11_operand_6 : cX11_operand.data.toList.drop 144 = dktX11_operand_6 := dk_seg dksX11_operand_5 24 rfl rfl
theorem dksX11_operand_7 : cX11_operand.data.toList.drop 168 = dktX11_operand_7 := dk_seg dksX11_operand_6 24 rfl rfl
theorem dksX11_operand_8 : cX11_operand.data.toList.drop 191 = dktX11_operand_8 := dk_seg dksX11_operand_7 23 rfl rfl
theorem dksX11_operand_9 : cX11_operand.data.toList.drop 214 = dktX11_operand_9 := dk_seg dksX11_operand_8 23 rfl rfl
theorem dksX11_operand_10 : cX11_operand.data.toList.drop 238 = dktX11_operand_10 := dk_seg dksX11_operand_9 24 rfl rfl
theorem dksX11_operand_11 : cX11_operand.data.toList.drop 261 = dktX11_operand_11 := dk_seg dksX11_operand_10 23 rfl rfl
theorem dX11_operand_0 : decode cX11_operand 0 = .ok (.aload_n 0, 1) := dk_42 (dk_at dksX11_operand_0 0 rfl rfl)
theorem dX11_operand_1 : decode cX11_operand 1 = .ok (.ldc2_w 137, 3) := dk_20 0 137 (dk_at dksX11_operand_0 1 rfl rfl)
theorem dX11_operand_4 : decode cX11_operand 4 = .ok (.invokevirtual 202, 3) := dk_182 0 202 (dk_at dksX11_operand_0 4 rfl rfl)
theorem dX11_operand_7 : decode cX11_operand 7 = .ok (.istore_n 1, 1) := dk_60 (dk_at dksX11_operand_0 7 rfl rfl)
theorem dX11_operand_8 : decode cX11_operand 8 = .ok (.aload_n 0, 1) := dk_42 (dk_at dksX11_operand_0 8 rfl rfl)
theorem dX11_operand_9 : decode cX11_operand 9 = .ok (.bipush 40, 2) := dk_16 40 (dk_at dksX11_operand_0 9 rfl rfl)
theorem dX11_operand_11 : decode cX11_operand 11 = .ok (.invokevirtual 186, 3) := dk_182 0 186 (dk_at dksX11_operand_0 11 rfl rfl)
theorem dX11_operand_14 : decode cX11_operand 14 = .ok (.istore_n 2, 1) := dk_61 (dk_at dksX11_operand_0 14 rfl rfl)
theorem dX11_operand_15 : decode cX11_operand 15 = .ok (.aload_n 0, 1) := dk_42 (dk_at dksX11_operand_0 15 rfl rfl)
theorem dX11_operand_16 : decode cX11_operand 16 = .ok (.invokevirtual 461, 3) := dk_182 1 205 (dk_at dksX11_operand_0 16 rfl rfl)
theorem dX11_operand_19 : decode cX11_operand 19 = .ok (.istore_n 3, 1) := dk_62 (dk_at dksX11_operand_0 19 rfl rfl)
theorem dX11_operand_20 : decode cX11_operand 20 = .ok (.iload_n 1, 1) := dk_27 (dk_at dksX11_operand_0 20 rfl rfl)
theorem dX11_operand_21 : decode cX11_operand 21 = .ok (.ifCond .ne 17, 3) := dk_154 0 17 (dk_at dksX11_operand_0 21 rfl rfl)
theorem dX11_operand_24 : decode cX11_operand 24 = .ok (.iload_n 2, 1) := dk_28 (dk_at dksX11_operand_1 0 rfl rfl)
theorem dX11_operand_25 : decode cX11_operand 25 = .ok (.ifCond .ne 13, 3) := dk_154 0 13 (dk_at dksX11_operand_1 1 rfl rfl)
theorem dX11_operand_28 : decode cX11_operand 28 = .ok (.iload_n 3, 1) := dk_29 (dk_at dksX11_operand_1 4 rfl rfl)
theorem dX11_operand_29 : decode cX11_operand 29 = .ok (.ifCond .ge 9, 3) := dk_156 0 9 (dk_at dksX11_operand_1 5 rfl rfl)
theorem dX11_operand_32 : decode cX11_operand 32 = .ok (.aload_n 0, 1) := dk_42 (dk_at dksX11_operand_1 8 rfl rfl)
theorem dX11_operand_33 : decode cX11_operand 33 = .ok (.iconst 1, 1) := dk_4 (dk_at dksX11_operand_1 9 rfl rfl)
theorem dX11_operand_34 : decode cX11_operand 34 = .ok (.invokevirtual 189, 3) := dk_182 0 189 (dk_at dksX11_operand_1 10 rfl rfl)
theorem dX11_operand_37 : decode cX11_operand 37 = .ok (.ireturn, 1) := dk_172 (dk_at dksX11_operand_1 13 rfl rfl)
theorem dX11_operand_38 : decode cX11_operand 38 = .ok (.aload_n 0, 1) := dk_42 (dk_at dksX11_operand_1 14 rfl rfl)
theorem dX11_operand_39 : decode cX11_operand 39 = .ok (.getfield 464, 3) := dk_180 1 208 (dk_at dksX11_operand_1 15 rfl rfl)
theorem dX11_operand_42 : decode cX11_operand 42 = .ok (.bipush 20, 2) := dk_16 20 (dk_at dksX11_operand_1 18 rfl rfl)
theorem dX11_operand_44 : decode cX11_operand 44 = .ok (.if_icmp .eq 12, 3) := dk_159 0 12 (dk_at dksX11_operand_1 20 rfl rfl)
theorem dX11_operand_47 : decode cX11_operand 47 = .ok (.aload_n 0, 1) := dk_42 (dk_at dksX11_operand_1 23 rfl rfl)
theorem dX11_operand_48 : decode cX11_operand 48 = .ok (.getfield 458, 3) := dk_180 1 202 (dk_at dksX11_operand_2 0 rfl rfl)
theorem dX11_operand_51 : decode cX11_operand 51 = .ok (.bipush 8, 2) := dk_16 8 (dk_at dksX11_operand_2 3 rfl rfl)
theorem dX11_operand_53 : decode cX11_operand 53 = .ok (.if_icmp .le 9, 3) := dk_164 0 9 (dk_at dksX11_operand_2 5 rfl rfl)
theorem dX11_operand_56 : decode cX11_operand 56 = .ok (.aload_n 0, 1) := dk_42 (dk_at dksX11_operand_2 8 rfl rfl)
theorem dX11_operand_57 : decode cX11_operand 57 = .ok (.iconst 4, 1) := dk_7 (dk_at dksX11_operand_2 9 rfl rfl)
theorem dX11_operand_58 : decode cX11_operand 58 = .ok (.invokevirtual 189, 3) := dk_182 0 189 (dk_at dksX11_operand_2 10 rfl rfl)
theorem dX11_operand_61 : decode cX11_operand 61 = .ok (.ireturn, 1) := dk_172 (dk_at dksX11_operand_2 13 rfl rfl)
theorem dX11_operand_62 : decode cX11_operand 62 = .ok (.aload_n 0, 1) := dk_42 (dk_at dksX11_operand_2 14 rfl rfl)
theorem dX11_operand_63 : decode cX11_operand 63 = .ok (.dup, 1) := dk_89 (dk_at dksX11_operand_2 15 rfl rfl)
theorem dX11_operand_64 : decode cX11_operand 64 = .ok (.getfield 464, 3) := dk_180 1 208 (dk_at dksX11_operand_2 16 rfl rfl)
theorem dX11_operand_67 : decode cX11_operand 67 = .ok (.iconst 1, 1) := dk_4 (dk_at dksX11_operand_2 19 rfl rfl)
theorem dX11_operand_68 : decode cX11_operand 68 = .ok (.iadd, 1) := dk_96 (dk_at dksX11_operand_2 20 rfl rfl)
theorem dX11_operand_69 : decode cX11_operand 69 = .ok (.putfield 464, 3) := dk_181 1 208 (dk_at dksX11_operand_2 21 rfl rfl)
theorem dX11_operand_72 : decode cX11_operand 72 = .ok (.aload_n 0, 1) := dk_42 (dk_at dksX11_operand_3 0 rfl rfl)
theorem dX11_operand_73 : decode cX11_operand 73 = .ok (.invokevirtual 192, 3) := dk_182 0 192 (dk_at dksX11_operand_3 1 rfl rfl)
theorem dX11_operand_76 : decode cX11_operand 76 = .ok (.iload_n 1, 1) := dk_27 (dk_at dksX11_operand_3 4 rfl rfl)
theorem dX11_operand_77 : decode cX11_operand 77 = .ok (.ifCond .ne 7, 3) := dk_154 0 7 (dk_at dksX11_operand_3 5 rfl rfl)
theorem dX11_operand_80 : decode cX11_operand 80 = .ok (.iload_n 2, 1) := dk_28 (dk_at dksX11_operand_3 8 rfl rfl)
theorem dX11_operand_81 : decode cX11_operand 81 = .ok (.ifCond .eq 45, 3) := dk_153 0 45 (dk_at dksX11_operand_3 9 rfl rfl)
theorem dX11_operand_84 : decode cX11_operand 84 = .ok (.aload_n 0, 1) := dk_42 (dk_at dksX11_operand_3 12 rfl rfl)
theorem dX11_operand_85 : decode cX11_operand 85 = .ok (.getfield 99, 3) := dk_180 0 99 (dk_at dksX11_operand_3 13 rfl rfl)
theorem dX11_operand_88 : decode cX11_operand 88 = .ok (.aload_n 0, 1) := dk_42 (dk_at dksX11_operand_3 16 rfl rfl)
theorem dX11_operand_89 : decode cX11_operand 89 = .ok (.getfield 451, 3) := dk_180 1 195 (dk_at dksX11_operand_3 17 rfl rfl)
theorem dX11_operand_92 : decode cX11_operand 92 = .ok (.iload_n 1, 1) := dk_27 (dk_at dksX11_operand_3 20 rfl rfl)
theorem dX11_operand_93 : decode cX11_operand 93 = .ok (.ifCond .eq 8, 3) := dk_153 0 8 (dk_at dksX11_operand_3 21 rfl rfl)
theorem dX11_operand_96 : decode cX11_operand 96 = .ok (.bipush 10, 2) := dk_16 10 (dk_at dksX11_operand_4 0 rfl rfl)
theorem dX11_operand_98 : decode cX11_operand 98 = .ok (.goto 5, 3) := dk_167 0 5 (dk_at dksX11_operand_4 2 rfl rfl)
theorem dX11_operand_101 : decode cX11_operand 101 = .ok (.bipush 13, 2) := dk_16 13 (dk_at dksX11_operand_4 5 rfl rfl)
theorem dX11_operand_103 : decode cX11_operand 103 = .ok (.iastore, 1) := dk_79 (dk_at dksX11_operand_4 7 rfl rfl)
theorem dX11_operand_104 : decode cX11_operand 104 = .ok (.aload_n 0, 1) := dk_42 (dk_at dksX11_operand_4 8 rfl rfl)
theorem dX11_operand_105 : decode cX11_operand 105 = .ok (.dup, 1) := dk_89 (dk_at dksX11_operand_4 9 rfl rfl)
theorem dX11_operand_106 : decode cX11_operand 106 = .ok (.getfield 451, 3) := dk_180 1 195 (dk_at dksX11_operand_4 10 rfl rfl)
theorem dX11_operand_109 : decode cX11_operand 109 = .ok (.iconst 1, 1) := dk_4 (dk_at dksX11_operand_4 13 rfl rfl)
theorem dX11_operand_110 : decode cX11_operand 110 = .ok (.iadd, 1) := dk_96 (dk_at dksX11_operand_4 14 rfl rfl)
theorem dX11_operand_111 : decode cX11_operand 111 = .ok (.putfield 451, 3) := dk_181 1 195 (dk_at dksX11_operand_4 15 rfl rfl)
theorem dX11_operand_114 : decode cX11_operand 114 = .ok (.aload_n 0, 1) := dk_42 (dk_at dksX11_operand_4 18 rfl rfl)
theorem dX11_operand_115 : decode cX11_operand 115 = .ok (.dup, 1) := dk_89 (dk_at dksX11_operand_4 19 rfl rfl)
theorem dX11_operand_116 : decode cX11_operand 116 = .ok (.getfield 458, 3) := dk_180 1 202 (dk_at dksX11_operand_4 20 rfl rfl)
theorem dX11_operand_119 : decode cX11_operand 119 = .ok (.iconst 1, 1) := dk_4 (dk_at dksX11_operand_4 23 rfl rfl)
theorem dX11_operand_120 : decode cX11_operand 120 = .ok (.iadd, 1) := dk_96 (dk_at dksX11_operand_5 0 rfl rfl)
theorem dX11_operand_121 : decode cX11_operand 121 = .ok (.putfield 458, 3) := dk_181 1 202 (dk_at dksX11_operand_5 1 rfl rfl)
theorem dX11_operand_124 : decode cX11_operand 124 = .ok (.iconst 1, 1) := dk_4 (dk_at dksX11_operand_5 4 rfl rfl)
theorem dX11_operand_125 : decode cX11_operand 125 = .ok (.ireturn, 1) := dk_172 (dk_at dksX11_operand_5 5 rfl rfl)
theorem dX11_operand_126 : decode cX11_operand 126 = .ok (.aload_n 0, 1) := dk_42 (dk_at dksX11_operand_5 6 rfl rfl)
theorem dX11_operand_127 : decode cX11_operand 127 = .ok (.iconst 1, 1) := dk_4 (dk_at dksX11_operand_5 7 rfl rfl)
theorem dX11_operand_128 : decode cX11_operand 128 = .ok (.putfield 467, 3) := dk_181 1 211 (dk_at dksX11_operand_5 8 rfl rfl)
theorem dX11_operand_131 : decode cX11_operand 131 = .ok (.iload_n 3, 1) := dk_29 (dk_at dksX11_operand_5 11 rfl rfl)
theorem dX11_operand_132 : decode cX11_operand 132 = .ok (.ifCond .ne 12, 3) := dk_154 0 12 (dk_at dksX11_operand_5 12 rfl rfl)
theorem dX11_operand_135 : decode cX11_operand 135 = .ok (.aload_n 0, 1) := dk_42 (dk_at dksX11_operand_5 15 rfl rfl)
theorem dX11_operand_136 : decode cX11_operand 136 = .ok (.iload_n 3, 1) := dk_29 (dk_at dksX11_operand_5 16 rfl rfl)
theorem dX11_operand_137 : decode cX11_operand 137 = .ok (.iconst 0, 1) := dk_3 (dk_at dksX11_operand_5 17 rfl rfl)
theorem dX11_operand_138 : decode cX11_operand 138 = .ok (.iconst 0, 1) := dk_3 (dk_at dksX11_operand_5 18 rfl rfl)
theorem dX11_operand_139 : decode cX11_operand 139 = .ok (.invokevirtual 454, 3) := dk_182 1 198 (dk_at dksX11_operand_5 19 rfl rfl)
theorem dX11_operand_142 : decode cX11_operand 142 = .ok (.iconst 1, 1) := dk_4 (dk_at dksX11_operand_5 22 rfl rfl)
theorem dX11_operand_143 : decode cX11_operand 143 = .ok (.ireturn, 1) := dk_172 (dk_at dksX11_operand_5 23 rfl rfl)
theorem dX11_operand_144 : decode cX11_operand 144 = .ok (.iload_n 3, 1) := dk_29 (dk_at dksX11_operand_6 0 rfl rfl)
theorem dX11_operand_145 : decode cX11_operand 145 = .ok (.iconst 3, 1) := dk_6 (dk_at dksX11_operand_6 1 rfl rfl)
theorem dX11_operand_146 : decode cX11_operand 146 = .ok (.if_icmp .ge 54, 3) := dk_162 0 54 (dk_at dksX11_operand_6 2 rfl rfl)
theorem dX11_operand_149 : decode cX11_operand 149 = .ok (.aload_n 0, 1) := dk_42 (dk_at dksX11_operand_6 5 rfl rfl)
theorem dX11_operand_150 : decode cX11_operand 150 = .ok (.invokevirtual 214, 3) := dk_182 0 214 (dk_at dksX11_operand_6 6 rfl rfl)
theorem dX11_operand_153 : decode cX11_operand 153 = .ok (.ifCond .ne 9, 3) := dk_154 0 9 (dk_at dksX11_operand_6 9 rfl rfl)
theorem dX11_operand_156 : decode cX11_operand 156 = .ok (.aload_n 0, 1) := dk_42 (dk_at dksX11_operand_6 12 rfl rfl)
theorem dX11_operand_157 : decode cX11_operand 157 = .ok (.iconst 1, 1) := dk_4 (dk_at dksX11_operand_6 13 rfl rfl)
theorem dX11_operand_158 : decode cX11_operand 158 = .ok (.invokevirtual 189, 3) := dk_182 0 189 (dk_at dksX11_operand_6 14 rfl rfl)
theorem dX11_operand_161 : decode cX11_operand 161 = .ok (.ireturn, 1) := dk_172 (dk_at dksX11_operand_6 17 rfl rfl)
theorem dX11_operand_162 : decode cX11_operand 162 = .ok (.aload_n 0, 1) := dk_42 (dk_at dksX11_operand_6 18 rfl rfl)
theorem dX11_operand_163 : decode cX11_operand 163 = .ok (.iconst 0, 1) := dk_3 (dk_at dksX11_operand_6 19 rfl rfl)
theorem dX11_operand_164 : decode cX11_operand 164 = .ok (.aload_n 0, 1) := dk_42 (dk_at dksX11_operand_6 20 rfl rfl)
theorem dX11_operand_165 : decode cX11_operand 165 = .ok (.getfield 33, 3) := dk_180 0 33 (dk_at dksX11_operand_6 21 rfl rfl)
theorem dX11_operand_168 : decode cX11_operand 168 = .ok (.iconst 1, 1) := dk_4 (dk_at dksX11_operand_7 0 rfl rfl)
theorem dX11_operand_169 : decode cX11_operand 169 = .ok (.iaload, 1) := dk_46 (dk_at dksX11_operand_7 1 rfl rfl)
theorem dX11_operand_170 : decode cX11_operand 170 = .ok (.invokevirtual 218, 3) := dk_182 0 218 (dk_at dksX11_operand_7 2 rfl rfl)
theorem dX11_operand_173 : decode cX11_operand 173 = .ok (.istore 4, 2) := dk_54 4 (dk_at dksX11_operand_7 5 rfl rfl)
theorem dX11_operand_175 : decode cX11_operand 175 = .ok (.iload 4, 2) := dk_21 4 (dk_at dksX11_operand_7 7 rfl rfl)
theorem dX11_operand_177 : decode cX11_operand 177 = .ok (.ifCond .ge 9, 3) := dk_156 0 9 (dk_at dksX11_operand_7 9 rfl rfl)
theorem dX11_operand_180 : decode cX11_operand 180 = .ok (.aload_n 0, 1) := dk_42 (dk_at dksX11_operand_7 12 rfl rfl)
theorem dX11_operand_181 : decode cX11_operand 181 = .ok (.iconst 3, 1) := dk_6 (dk_at dksX11_operand_7 13 rfl rfl)
theorem dX11_operand_182 : decode cX11_operand 182 = .ok (.invokevirtual 189, 3) := dk_182 0 189 (dk_at dksX11_operand_7 14 rfl rfl)
theorem dX11_operand_185 : decode cX11_operand 185 = .ok (.ireturn, 1) := dk_172 (dk_at dksX11_operand_7 17 rfl rfl)
theorem dX11_operand_186 : decode cX11_operand 186 = .ok (.aload_n 0, 1) := dk_42 (dk_at dksX11_operand_7 18 rfl rfl)
theorem dX11_operand_187 : decode cX11_operand 187 = .ok (.iload_n 3, 1) := dk_29 (dk_at dksX11_operand_7 19 rfl rfl)
theorem dX11_operand_188 : decode cX11_operand 188 = .ok (.iconst 0, 1) := dk_3 (dk_at dksX11_operand_7 20 rfl rfl)
theorem dX11_operand_189 : decode cX11_operand 189 = .ok (.iload 4, 2) := dk_21 4 (dk_at dksX11_operand_7 21 rfl rfl)
theorem dX11_operand_191 : decode cX11_operand 191 = .ok (.invokevirtual 454, 3) := dk_182 1 198 (dk_at dksX11_operand_8 0 rfl rfl)
theorem dX11_operand_194 : decode cX11_operand 194 = .ok (.aload_n 0, 1) := dk_42 (dk_at dksX11_operand_8 3 rfl rfl)
theorem dX11_operand_195 : decode cX11_operand 195 = .ok (.invokevirtual 192, 3) := dk_182 0 192 (dk_at dksX11_operand_8 4 rfl rfl)
theorem dX11_operand_198 : decode cX11_operand 198 = .ok (.iconst 1, 1) := dk_4 (dk_at dksX11_operand_8 7 rfl rfl)
theorem dX11_operand_199 : decode cX11_operand 199 = .ok (.ireturn, 1) := dk_172 (dk_at dksX11_operand_8 8 rfl rfl)
theorem dX11_operand_200 : decode cX11_operand 200 = .ok (.aload_n 0, 1) := dk_42 (dk_at dksX11_operand_8 9 rfl rfl)
theorem dX11_operand_201 : decode cX11_operand 201 = .ok (.getfield 163, 3) := dk_180 0 163 (dk_at dksX11_operand_8 10 rfl rfl)
theorem dX11_operand_204 : decode cX11_operand 204 = .ok (.iconst 3, 1) := dk_6 (dk_at dksX11_operand_8 13 rfl rfl)
theorem dX11_operand_205 : decode cX11_operand 205 = .ok (.if_icmp .ne 21, 3) := dk_160 0 21 (dk_at dksX11_operand_8 14 rfl rfl)
theorem dX11_operand_208 : decode cX11_operand 208 = .ok (.aload_n 0, 1) := dk_42 (dk_at dksX11_operand_8 17 rfl rfl)
theorem dX11_operand_209 : decode cX11_operand 209 = .ok (.getfield 173, 3) := dk_180 0 173 (dk_at dksX11_operand_8 18 rfl rfl)
theorem dX11_operand_212 : decode cX11_operand 212 = .ok (.bipush 60, 2) := dk_16 60 (dk_at dksX11_operand_8 21 rfl rfl)
theorem dX11_operand_214 : decode cX11_operand 214 = .ok (.if_icmp .lt 12, 3) := dk_161 0 12 (dk_at dksX11_operand_9 0 rfl rfl)
theorem dX11_operand_217 : decode cX11_operand 217 = .ok (.aload_n 0, 1) := dk_42 (dk_at dksX11_operand_9 3 rfl rfl)
theorem dX11_operand_218 : decode cX11_operand 218 = .ok (.getfield 173, 3) := dk_180 0 173 (dk_at dksX11_operand_9 4 rfl rfl)
theorem dX11_operand_221 : decode cX11_operand 221 = .ok (.bipush 62, 2) := dk_16 62 (dk_at dksX11_operand_9 7 rfl rfl)
theorem dX11_operand_223 : decode cX11_operand 223 = .ok (.if_icmp .le 9, 3) := dk_164 0 9 (dk_at dksX11_operand_9 9 rfl rfl)
theorem dX11_operand_226 : decode cX11_operand 226 = .ok (.aload_n 0, 1) := dk_42 (dk_at dksX11_operand_9 12 rfl rfl)
theorem dX11_operand_227 : decode cX11_operand 227 = .ok (.iconst 1, 1) := dk_4 (dk_at dksX11_operand_9 13 rfl rfl)
theorem dX11_operand_228 : decode cX11_operand 228 = .ok (.invokevirtual 189, 3) := dk_182 0 189 (dk_at dksX11_operand_9 14 rfl rfl)
theorem dX11_operand_231 : decode cX11_operand 231 = .ok (.ireturn, 1) := dk_172 (dk_at dksX11_operand_9 17 rfl rfl)
theorem dX11_operand_232 : decode cX11_operand 232 = .ok (.aload_n 0, 1) := dk_42 (dk_at dksX11_operand_9 18 rfl rfl)
theorem dX11_operand_233 : decode cX11_operand 233 = .ok (.getfield 173, 3) := dk_180 0 173 (dk_at dksX11_operand_9 19 rfl rfl)
theorem dX11_operand_236 : decode cX11_operand 236 = .ok (.istore 4, 2) := dk_54 4 (dk_at dksX11_operand_9 22 rfl rfl)
theorem dX11_operand_238 : decode cX11_operand 238 = .ok (.aload_n 0, 1) := dk_42 (dk_at dksX11_operand_10 0 rfl rfl)
theorem dX11_operand_239 : decode cX11_operand 239 = .ok (.invokevirtual 192, 3) := dk_182 0 192 (dk_at dksX11_operand_10 1 rfl rfl)
theorem dX11_operand_242 : decode cX11_operand 242 = .ok (.aload_n 0, 1) := dk_42 (dk_at dksX11_operand_10 4 rfl rfl)
theorem dX11_operand_243 : decode cX11_operand 243 = .ok (.getfield 163, 3) := dk_180 0 163 (dk_at dksX11_operand_10 5 rfl rfl)
theorem dX11_operand_246 : decode cX11_operand 246 = .ok (.iconst 2, 1) := dk_5 (dk_at dksX11_operand_10 8 rfl rfl)
theorem dX11_operand_247 : decode cX11_operand 247 = .ok (.if_icmp .eq 9, 3) := dk_159 0 9 (dk_at dksX11_operand_10 9 rfl rfl)
theorem dX11_operand_250 : decode cX11_operand 250 = .ok (.aload_n 0, 1) := dk_42 (dk_at dksX11_operand_10 12 rfl rfl)
theorem dX11_operand_251 : decode cX11_operand 251 = .ok (.iconst 1, 1) := dk_4 (dk_at dksX11_operand_10 13 rfl rfl)
theorem dX11_operand_252 : decode cX11_operand 252 = .ok (.invokevirtual 189, 3) := dk_182 0 189 (dk_at dksX11_operand_10 14 rfl rfl)
theorem dX11_operand_255 : decode cX11_operand 255 = .ok (.ireturn, 1) := dk_172 (dk_at dksX11_operand_10 17 rfl rfl)
theorem dX11_operand_256 : decode cX11_operand 256 = .ok (.aload_n 0, 1) := dk_42 (dk_at dksX11_operand_10 18 rfl rfl)
theorem dX11_operand_257 : decode cX11_operand 257 = .ok (.iload_n 3, 1) := dk_29 (dk_at dksX11_operand_10 19 rfl rfl)
theorem dX11_operand_258 : decode cX11_operand 258 = .ok (.iload 4, 2) := dk_21 4 (dk_at dksX11_operand_10 20 rfl rfl)
theorem dX11_operand_260 : decode cX11_operand 260 = .ok (.aload_n 0, 1) := dk_42 (dk_at dksX11_operand_10 22 rfl rfl)
theorem dX11_operand_261 : decode cX11_operand 261 = .ok (.getfield 173, 3) := dk_180 0 173 (dk_at dksX11_operand_11 0 rfl rfl)
theorem dX11_operand_264 : decode cX11_operand 264 = .ok (.invokevirtual 454, 3) := dk_182 1 198 (dk_at dksX11_operand_11 3 rfl rfl)
theorem dX11_operand_267 : decode cX11_operand 267 = .ok (.aload_n 0, 1) := dk_42 (dk_at dksX11_operand_11 6 rfl rfl)
theorem dX11_operand_268 : decode cX11_operand 268 = .ok (.invokevirtual 192, 3) := dk_182 0 192 (dk_at dksX11_operand_11 7 rfl rfl)
theorem dX11_operand_271 : decode cX11_operand 271 = .ok (.iconst 1, 1) := dk_4 (dk_at dksX11_operand_11 10 rfl rfl)
theorem dX11_operand_272 : decode cX11_operand 272 = .ok (.ireturn, 1) := dk_172 (dk_at dksX11_operand_11 11 rfl rfl)
abbrev cX11_leafOf : ByteArray := prog_23_method_101_code
def yX11_leafOf : MethodName := ⟨RX11, "leafOf", "()I"⟩
def dkwX11_leafOf_4 : List UInt8 := [16, 6, 167, 0, 4, 2, 172]
abbrev dktX11_leafOf_4 : List UInt8 := dkwX11_leafOf_4 ++ []
def dkwX11_leafOf_3 : List UInt8 := [42, 20, 0, 149, 182, 0, 202, 153, 0, 7, 8, 167, 0, 19, 42, 20, 0, 151, 182, 0, 202, 153, 0, 8]
abbrev dktX11_leafOf_3 : List UInt8 := dkwX11_leafOf_3 ++ dktX11_leafOf_4
def dkwX11_leafOf_2 : List UInt8 := [182, 0, 202, 153, 0, 7, 6, 167, 0, 47, 42, 20, 0, 147, 182, 0, 202, 153, 0, 7, 7, 167, 0, 33]
abbrev dktX11_leafOf_2 : List UInt8 := dkwX11_leafOf_2 ++ dktX11_leafOf_3
def dkwX11_leafOf_1 : List UInt8 := [4, 167, 0, 75, 42, 20, 0, 143, 182, 0, 202, 153, 0, 7, 5, 167, 0, 61, 42, 20, 0, 145]
abbrev dktX11_leafOf_1 : List UInt8 := dkwX11_leafOf_1 ++ dktX11_leafOf_2
def dkwX11_leafOf_0 : List UInt8 := [42, 20, 0, 139, 182, 0, 202, 153, 0, 7, 3, 167, 0, 89, 42, 20, 0, 141, 182, 0, 202, 153, 0, 7]
abbrev dktX11_leafOf_0 : List UInt8 := dkwX11_leafOf_0 ++ dktX11_leafOf_1
theorem dksX11_leafOf_0 : cX11_leafOf.data.toList.drop 0 = dktX11_leafOf_0 := by decide +kernel
theorem dksX11_leafOf_1 : cX11_leafOf.data.toList.drop 24 = dktX11_leafOf_1 := dk_seg dksX11_leafOf_0 24 rfl rfl
theorem dksX11_leafOf_2 : cX11_leafOf.data.toList.drop 46 = dktX11_leafOf_2 := dk_seg dksX11_leafOf_1 22 rfl rfl
theorem dksX11_leafOf_3 : cX11_leafOf.data.toList.drop 70 = dktX11_leafOf_3 := dk_seg dksX11_leafOf_2 24 rfl rfl
theorem dksX11_leafOf_4 : cX11_leafOf.data.toList.drop 94 = dktX11_leafOf_4 := dk_seg dksX11_leafOf_3 24 rfl rfl
theorem dX11_leafOf_0 : decode cX11_leafOf 0 = .ok (.aload_n 0, 1) := dk_42 (dk_at dksX11_leafOf_0 0 rfl rfl)
theorem dX11_leafOf_1 : decode cX11_leafOf 1 = .ok (.ldc2_w 139, 3) := dk_20 0 139 (dk_at dksX11_leafOf_0 1 rfl rfl)
theorem dX11_leafOf_4 : decode cX11_leafOf 4 = .ok (.invokevirtual 202, 3) := dk_182 0 202 (dk_at dksX11_leafOf_0 4 rfl rfl)
theorem dX11_leafOf_7 : decode cX11_leafOf 7 = .ok (.ifCond .eq 7, 3) := dk_153 0 7 (dk_at dksX11_leafOf_0 7 rfl rfl)
theorem dX11_leafOf_10 : decode cX11_leafOf 10 = .ok (.iconst 0, 1) := dk_3 (dk_at dksX11_leafOf_0 10 rfl rfl)
theorem dX11_leafOf_11 : decode cX11_leafOf 11 = .ok (.goto 89, 3) := dk_167 0 89 (dk_at dksX11_leafOf_0 11 rfl rfl)
theorem dX11_leafOf_14 : decode cX11_leafOf 14 = .ok (.aload_n 0, 1) := dk_42 (dk_at dksX11_leafOf_0 14 rfl rfl)
theorem dX11_leafOf_15 : decode cX11_leafOf 15 = .ok (.ldc2_w 141, 3) := dk_20 0 141 (dk_at dksX11_leafOf_0 15 rfl rfl)
theorem dX11_leafOf_18 : decode cX11_leafOf 18 = .ok (.invokevirtual 202, 3) := dk_182 0 202 (dk_at dksX11_leafOf_0 18 rfl rfl)
theorem dX11_leafOf_21 : decode cX11_leafOf 21 = .ok (.ifCond .eq 7, 3) := dk_153 0 7 (dk_at dksX11_leafOf_0 21 rfl rfl)
theorem dX11_leafOf_24 : decode cX11_leafOf 24 = .ok (.iconst 1, 1) := dk_4 (dk_at dksX11_leafOf_1 0 rfl rfl)
theorem dX11_leafOf_25 : decode cX11_leafOf 25 = .ok (.goto 75, 3) := dk_167 0 75 (dk_at dksX11_leafOf_1 1 rfl rfl)
theorem dX11_leafOf_28 : decode cX11_leafOf 28 = .ok (.aload_n 0, 1) := dk_42 (dk_at dksX11_leafOf_1 4 rfl rfl)
theorem dX11_leafOf_29 : decode cX11_leafOf 29 = .ok (.ldc2_w 143, 3) := dk_20 0 143 (dk_at dksX11_leafOf_1 5 rfl rfl)
theorem dX11_leafOf_32 : decode cX11_leafOf 32 = .ok (.invokevirtual 202, 3) := dk_182 0 202 (dk_at dksX11_leafOf_1 8 rfl rfl)
theorem dX11_leafOf_35 : decode cX11_leafOf 35 = .ok (.ifCond .eq 7, 3) := dk_153 0 7 (dk_at dksX11_leafOf_1 11 rfl rfl)
theorem dX11_leafOf_38 : decode cX11_leafOf 38 = .ok (.iconst 2, 1) := dk_5 (dk_at dksX11_leafOf_1 14 rfl rfl)
theorem dX11_leafOf_39 : decode cX11_leafOf 39 = .ok (.goto 61, 3) := dk_167 0 61 (dk_at dksX11_leafOf_1 15 rfl rfl)
theorem dX11_leafOf_42 : decode cX11_leafOf 42 = .ok (.aload_n 0, 1) := dk_42 (dk_at dksX11_leafOf_1 18 rfl rfl)
theorem dX11_leafOf_43 : decode cX11_leafOf 43 = .ok (.ldc2_w 145, 3) := dk_20 0 145 (dk_at dksX11_leafOf_1 19 rfl rfl)
theorem dX11_leafOf_46 : decode cX11_leafOf 46 = .ok (.invokevirtual 202, 3) := dk_182 0 202 (dk_at dksX11_leafOf_2 0 rfl rfl)
theorem dX11_leafOf_49 : decode cX11_leafOf 49 = .ok (.ifCond .eq 7, 3) := dk_153 0 7 (dk_at dksX11_leafOf_2 3 rfl rfl)
theorem dX11_leafOf_52 : decode cX11_leafOf 52 = .ok (.iconst 3, 1) := dk_6 (dk_at dksX11_leafOf_2 6 rfl rfl)
theorem dX11_leafOf_53 : decode cX11_leafOf 53 = .ok (.goto 47, 3) := dk_167 0 47 (dk_at dksX11_leafOf_2 7 rfl rfl)
theorem dX11_leafOf_56 : decode cX11_leafOf 56 = .ok (.aload_n 0, 1) := dk_42 (dk_at dksX11_leafOf_2 10 rfl rfl)
theorem dX11_leafOf_57 : decode cX11_leafOf 57 = .ok (.ldc2_w 147, 3) := dk_20 0 147 (dk_at dksX11_leafOf_2 11 rfl rfl)
theorem dX11_leafOf_60 : decode cX11_leafOf 60 = .ok (.invokevirtual 202, 3) := dk_182 0 202 (dk_at dksX11_leafOf_2 14 rfl rfl)
theorem dX11_leafOf_63 : decode cX11_leafOf 63 = .ok (.ifCond .eq 7, 3) := dk_153 0 7 (dk_at dksX11_leafOf_2 17 rfl rfl)
theorem dX11_leafOf_66 : decode cX11_leafOf 66 = .ok (.iconst 4, 1) := dk_7 (dk_at dksX11_leafOf_2 20 rfl rfl)
theorem dX11_leafOf_67 : decode cX11_leafOf 67 = .ok (.goto 33, 3) := dk_167 0 33 (dk_at dksX11_leafOf_2 21 rfl rfl)
theorem dX11_leafOf_70 : decode cX11_leafOf 70 = .ok (.aload_n 0, 1) := dk_42 (dk_at dksX11_leafOf_3 0 rfl rfl)
theorem dX11_leafOf_71 : decode cX11_leafOf 71 = .ok (.ldc2_w 149, 3) := dk_20 0 149 (dk_at dksX11_leafOf_3 1 rfl rfl)
theorem dX11_leafOf_74 : decode cX11_leafOf 74 = .ok (.invokevirtual 202, 3) := dk_182 0 202 (dk_at dksX11_leafOf_3 4 rfl rfl)
theorem dX11_leafOf_77 : decode cX11_leafOf 77 = .ok (.ifCond .eq 7, 3) := dk_153 0 7 (dk_at dksX11_leafOf_3 7 rfl rfl)
theorem dX11_leafOf_80 : decode cX11_leafOf 80 = .ok (.iconst 5, 1) := dk_8 (dk_at dksX11_leafOf_3 10 rfl rfl)
theorem dX11_leafOf_81 : decode cX11_leafOf 81 = .ok (.goto 19, 3) := dk_167 0 19 (dk_at dksX11_leafOf_3 11 rfl rfl)
theorem dX11_leafOf_84 : decode cX11_leafOf 84 = .ok (.aload_n 0, 1) := dk_42 (dk_at dksX11_leafOf_3 14 rfl rfl)
theorem dX11_leafOf_85 : decode cX11_leafOf 85 = .ok (.ldc2_w 151, 3) := dk_20 0 151 (dk_at dksX11_leafOf_3 15 rfl rfl)
theorem dX11_leafOf_88 : decode cX11_leafOf 88 = .ok (.invokevirtual 202, 3) := dk_182 0 202 (dk_at dksX11_leafOf_3 18 rfl rfl)
theorem dX11_leafOf_91 : decode cX11_leafOf 91 = .ok (.ifCond .eq 8, 3) := dk_153 0 8 (dk_at dksX11_leafOf_3 21 rfl rfl)
theorem dX11_leafOf_94 : decode cX11_leafOf 94 = .ok (.bipush 6, 2) := dk_16 6 (dk_at dksX11_leafOf_4 0 rfl rfl)
theorem dX11_leafOf_96 : decode cX11_leafOf 96 = .ok (.goto 4, 3) := dk_167 0 4 (dk_at dksX11_leafOf_4 2 rfl rfl)
theorem dX11_leafOf_99 : decode cX11_leafOf 99 = .ok (.iconst (-1), 1) := dk_2 (dk_at dksX11_leafOf_4 5 rfl rfl)
theorem dX11_leafOf_100 : decode cX11_leafOf 100 = .ok (.ireturn, 1) := dk_172 (dk_at dksX11_leafOf_4 6 rfl rfl)
abbrev cX11_said : ByteArray := prog_23_method_107_code
def yX11_said : MethodName := ⟨RX11, "said", "(I)I"⟩
def dkwX11_said_3 : List UInt8 := [167, 0, 4, 2, 172]
abbrev dktX11_said_3 : List UInt8 := dkwX11_said_3 ++ []
def dkwX11_said_2 : List UInt8 := [28, 27, 160, 0, 5, 29, 172, 132, 2, 1, 132, 3, 1, 167, 255, 222, 27, 2, 160, 0, 7, 28]
abbrev dktX11_said_2 : List UInt8 := dkwX11_said_2 ++ dktX11_said_3
def dkwX11_said_1 : List UInt8 := [61, 3, 62, 29, 42, 180, 0, 33, 3, 46, 162, 0, 30, 42, 29, 182, 1, 230, 154, 0, 6, 167, 0, 13]
abbrev dktX11_said_1 : List UInt8 := dkwX11_said_1 ++ dktX11_said_2
def dkwX11_said_0 : List UInt8 := [42, 3, 181, 0, 1, 42, 180, 0, 33, 17, 2, 72, 46, 153, 0, 8, 27, 2, 162, 0, 5, 2, 172, 3]
abbrev dktX11_said_0 : List UInt8 := dkwX11_said_0 ++ dktX11_said_1
theorem dksX11_said_0 : cX11_said.data.toList.drop 0 = dktX11_said_0 := by decide +kernel
theorem dksX11_said_1 : cX11_said.data.toList.drop 24 = dktX11_said_1 := dk_seg dksX11_said_0 24 rfl rfl
theorem dksX11_said_2 : cX11_said.data.toList.drop 48 = dktX11_said_2 := dk_seg dksX11_said_1 24 rfl rfl
theorem dksX11_said_3 : cX11_said.data.toList.drop 70 = dktX11_said_3 := dk_seg dksX11_said_2 22 rfl rfl
theorem dX11_said_0 : decode cX11_said 0 = .ok (.aload_n 0, 1) := dk_42 (dk_at dksX11_said_0 0 rfl rfl)
theorem dX11_said_1 : decode cX11_said 1 = .ok (.iconst 0, 1) := dk_3 (dk_at dksX11_said_0 1 rfl rfl)
theorem dX11_said_2 : decode cX11_said 2 = .ok (.putfield 1, 3) := dk_181 0 1 (dk_at dksX11_said_0 2 rfl rfl)
theorem dX11_said_5 : decode cX11_said 5 = .ok (.aload_n 0, 1) := dk_42 (dk_at dksX11_said_0 5 rfl rfl)
theorem dX11_said_6 : decode cX11_said 6 = .ok (.getfield 33, 3) := dk_180 0 33 (dk_at dksX11_said_0 6 rfl rfl)
theorem dX11_said_9 : decode cX11_said 9 = .ok (.sipush 584, 3) := dk_17 2 72 (dk_at dksX11_said_0 9 rfl rfl)
theorem dX11_said_12 : decode cX11_said 12 = .ok (.iaload, 1) := dk_46 (dk_at dksX11_said_0 12 rfl rfl)
theorem dX11_said_13 : decode cX11_said 13 = .ok (.ifCond .eq 8, 3) := dk_153 0 8 (dk_at dksX11_said_0 13 rfl rfl)
theorem dX11_said_16 : decode cX11_said 16 = .ok (.iload_n 1, 1) := dk_27 (dk_at dksX11_said_0 16 rfl rfl)
theorem dX11_said_17 : decode cX11_said 17 = .ok (.iconst (-1), 1) := dk_2 (dk_at dksX11_said_0 17 rfl rfl)
theorem dX11_said_18 : decode cX11_said 18 = .ok (.if_icmp .ge 5, 3) := dk_162 0 5 (dk_at dksX11_said_0 18 rfl rfl)
theorem dX11_said_21 : decode cX11_said 21 = .ok (.iconst (-1), 1) := dk_2 (dk_at dksX11_said_0 21 rfl rfl)
theorem dX11_said_22 : decode cX11_said 22 = .ok (.ireturn, 1) := dk_172 (dk_at dksX11_said_0 22 rfl rfl)
theorem dX11_said_23 : decode cX11_said 23 = .ok (.iconst 0, 1) := dk_3 (dk_at dksX11_said_0 23 rfl rfl)
theorem dX11_said_24 : decode cX11_said 24 = .ok (.istore_n 2, 1) := dk_61 (dk_at dksX11_said_1 0 rfl rfl)
theorem dX11_said_25 : decode cX11_said 25 = .ok (.iconst 0, 1) := dk_3 (dk_at dksX11_said_1 1 rfl rfl)
theorem dX11_said_26 : decode cX11_said 26 = .ok (.istore_n 3, 1) := dk_62 (dk_at dksX11_said_1 2 rfl rfl)
theorem dX11_said_27 : decode cX11_said 27 = .ok (.iload_n 3, 1) := dk_29 (dk_at dksX11_said_1 3 rfl rfl)
theorem dX11_said_28 : decode cX11_said 28 = .ok (.aload_n 0, 1) := dk_42 (dk_at dksX11_said_1 4 rfl rfl)
theorem dX11_said_29 : decode cX11_said 29 = .ok (.getfield 33, 3) := dk_180 0 33 (dk_at dksX11_said_1 5 rfl rfl)
theorem dX11_said_32 : decode cX11_said 32 = .ok (.iconst 0, 1) := dk_3 (dk_at dksX11_said_1 8 rfl rfl)
theorem dX11_said_33 : decode cX11_said 33 = .ok (.iaload, 1) := dk_46 (dk_at dksX11_said_1 9 rfl rfl)
theorem dX11_said_34 : decode cX11_said 34 = .ok (.if_icmp .ge 30, 3) := dk_162 0 30 (dk_at dksX11_said_1 10 rfl rfl)
theorem dX11_said_37 : decode cX11_said 37 = .ok (.aload_n 0, 1) := dk_42 (dk_at dksX11_said_1 13 rfl rfl)
theorem dX11_said_38 : decode cX11_said 38 = .ok (.iload_n 3, 1) := dk_29 (dk_at dksX11_said_1 14 rfl rfl)
theorem dX11_said_39 : decode cX11_said 39 = .ok (.invokevirtual 486, 3) := dk_182 1 230 (dk_at dksX11_said_1 15 rfl rfl)
theorem dX11_said_42 : decode cX11_said 42 = .ok (.ifCond .ne 6, 3) := dk_154 0 6 (dk_at dksX11_said_1 18 rfl rfl)
theorem dX11_said_45 : decode cX11_said 45 = .ok (.goto 13, 3) := dk_167 0 13 (dk_at dksX11_said_1 21 rfl rfl)
theorem dX11_said_48 : decode cX11_said 48 = .ok (.iload_n 2, 1) := dk_28 (dk_at dksX11_said_2 0 rfl rfl)
theorem dX11_said_49 : decode cX11_said 49 = .ok (.iload_n 1, 1) := dk_27 (dk_at dksX11_said_2 1 rfl rfl)
theorem dX11_said_50 : decode cX11_said 50 = .ok (.if_icmp .ne 5, 3) := dk_160 0 5 (dk_at dksX11_said_2 2 rfl rfl)
theorem dX11_said_53 : decode cX11_said 53 = .ok (.iload_n 3, 1) := dk_29 (dk_at dksX11_said_2 5 rfl rfl)
theorem dX11_said_54 : decode cX11_said 54 = .ok (.ireturn, 1) := dk_172 (dk_at dksX11_said_2 6 rfl rfl)
theorem dX11_said_55 : decode cX11_said 55 = .ok (.iinc 2 1, 3) := dk_132 2 1 (dk_at dksX11_said_2 7 rfl rfl)
theorem dX11_said_58 : decode cX11_said 58 = .ok (.iinc 3 1, 3) := dk_132 3 1 (dk_at dksX11_said_2 10 rfl rfl)
theorem dX11_said_61 : decode cX11_said 61 = .ok (.goto (-34), 3) := dk_167 255 222 (dk_at dksX11_said_2 13 rfl rfl)
theorem dX11_said_64 : decode cX11_said 64 = .ok (.iload_n 1, 1) := dk_27 (dk_at dksX11_said_2 16 rfl rfl)
theorem dX11_said_65 : decode cX11_said 65 = .ok (.iconst (-1), 1) := dk_2 (dk_at dksX11_said_2 17 rfl rfl)
theorem dX11_said_66 : decode cX11_said 66 = .ok (.if_icmp .ne 7, 3) := dk_160 0 7 (dk_at dksX11_said_2 18 rfl rfl)
theorem dX11_said_69 : decode cX11_said 69 = .ok (.iload_n 2, 1) := dk_28 (dk_at dksX11_said_2 21 rfl rfl)
theorem dX11_said_70 : decode cX11_said 70 = .ok (.goto 4, 3) := dk_167 0 4 (dk_at dksX11_said_3 0 rfl rfl)
theorem dX11_said_73 : decode cX11_said 73 = .ok (.iconst (-1), 1) := dk_2 (dk_at dksX11_said_3 3 rfl rfl)
theorem dX11_said_74 : decode cX11_said 74 = .ok (.ireturn, 1) := dk_172 (dk_at dksX11_said_3 4 rfl rfl)
abbrev cX11_isSaid : ByteArray := prog_23_method_106_code
def yX11_isSaid : MethodName := ⟨RX11, "isSaid", "(I)Z"⟩
def dkwX11_isSaid_9 : List UInt8 := [167, 255, 51, 42, 180, 0, 102, 3, 51, 172]
abbrev dktX11_isSaid_9 : List UInt8 := dkwX11_isSaid_9 ++ []
def dkwX11_isSaid_8 : List UInt8 := [4, 96, 46, 42, 180, 0, 33, 21, 4, 5, 96, 46, 182, 1, 226, 84, 132, 2, 1, 132, 3, 1]
abbrev dktX11_isSaid_8 : List UInt8 := dkwX11_isSaid_8 ++ dktX11_isSaid_9
def dkwX11_isSaid_7 : List UInt8 := [84, 167, 0, 42, 42, 180, 0, 102, 28, 42, 27, 42, 180, 0, 33, 21, 4, 46, 42, 180, 0, 33, 21, 4]
abbrev dktX11_isSaid_7 : List UInt8 := dkwX11_isSaid_7 ++ dktX11_isSaid_8
def dkwX11_isSaid_6 : List UInt8 := [180, 0, 102, 28, 4, 100, 51, 154, 0, 12, 42, 180, 0, 102, 28, 51, 153, 0, 7, 4, 167, 0, 4, 3]
abbrev dktX11_isSaid_6 : List UInt8 := dkwX11_isSaid_6 ++ dktX11_isSaid_7
def dkwX11_isSaid_5 : List UInt8 := [100, 51, 153, 0, 16, 42, 180, 0, 102, 28, 51, 153, 0, 7, 4, 167, 0, 32, 3, 167, 0, 28, 42]
abbrev dktX11_isSaid_5 : List UInt8 := dkwX11_isSaid_5 ++ dktX11_isSaid_6
def dkwX11_isSaid_4 : List UInt8 := [180, 0, 102, 28, 4, 100, 42, 180, 0, 33, 21, 4, 46, 16, 11, 160, 0, 31, 42, 180, 0, 102, 28, 4]
abbrev dktX11_isSaid_4 : List UInt8 := dkwX11_isSaid_4 ++ dktX11_isSaid_5
def dkwX11_isSaid_3 : List UInt8 := [21, 4, 46, 16, 11, 159, 0, 15, 42, 180, 0, 33, 21, 4, 46, 16, 12, 160, 0, 82, 132, 2, 255, 42]
abbrev dktX11_isSaid_3 : List UInt8 := dkwX11_isSaid_3 ++ dktX11_isSaid_4
def dkwX11_isSaid_2 : List UInt8 := [180, 0, 102, 28, 4, 100, 51, 154, 0, 7, 4, 167, 0, 4, 3, 84, 167, 0, 145, 42, 180, 0, 33]
abbrev dktX11_isSaid_2 : List UInt8 := dkwX11_isSaid_2 ++ dktX11_isSaid_3
def dkwX11_isSaid_1 : List UInt8 := [54, 4, 42, 180, 0, 33, 21, 4, 46, 16, 10, 160, 0, 30, 42, 180, 0, 102, 28, 4, 100, 42]
abbrev dktX11_isSaid_1 : List UInt8 := dkwX11_isSaid_1 ++ dktX11_isSaid_2
def dkwX11_isSaid_0 : List UInt8 := [3, 61, 3, 62, 29, 42, 180, 0, 33, 17, 2, 72, 46, 162, 0, 199, 17, 2, 73, 6, 29, 104, 96]
abbrev dktX11_isSaid_0 : List UInt8 := dkwX11_isSaid_0 ++ dktX11_isSaid_1
theorem dksX11_isSaid_0 : cX11_isSaid.data.toList.drop 0 = dktX11_isSaid_0 := by decide +kernel
theorem dksX11_isSaid_1 : cX11_isSaid.data.toList.drop 23 = dktX11_isSaid_1 := dk_seg dksX11_isSaid_0 23 rfl rfl
theorem dksX11_isSaid_2 : cX11_isSaid.data.toList.drop 45 = dktX11_isSaid_2 := dk_seg dksX11_isSaid_1 22 rfl rfl
theorem dksX11_isSaid_3 : cX11_isSaid.data.toList.drop 68 = dktX11_isSaid_3 := dk_seg dksX11_isSaid_2 23 rfl rfl
theorem dksX11_isSaid_4 : cX11_isSaid.data.toList.drop 92 = dktX11_isSaid_4 := dk_seg dksX11_isSaid_3 24 rfl rfl
theorem dksX11_isSaid_5 : cX11_isSaid.data.toList.drop 116 = dktX11_isSaid_5 := dk_seg dksX11_isSaid_4 24 rfl rfl
theorem dksX11_isSaid_6 : cX11_isSaid.data.toList.drop 139 = dktX11_isSaid_6 := dk_seg dksX11_isSaid_5 23 rfl rfl
theorem dksX11_isSaid_7 : cX11_isSaid.data.toList.drop 163 = dktX11_isSaid_7 := dk_seg dksX11_isSaid_6 24 rfl rfl
theorem dksX11_isSaid_8 : cX11_isSaid.data.toList.drop 187 = dktX11_isSaid_8 := dk_seg dksX11_isSaid_7 24 rfl rfl
theorem dksX11_isSaid_9 : cX11_isSaid.data.toList.drop 209 = dktX11_isSaid_9 := dk_seg dksX11_isSaid_8 22 rfl rfl
theorem dX11_isSaid_0 : decode cX11_isSaid 0 = .ok (.iconst 0, 1) := dk_3 (dk_at dksX11_isSaid_0 0 rfl rfl)
theorem dX11_isSaid_1 : decode cX11_isSaid 1 = .ok (.istore_n 2, 1) := dk_61 (dk_at dksX11_isSaid_0 1 rfl rfl)
theorem dX11_isSaid_2 : decode cX11_isSaid 2 = .ok (.iconst 0, 1) := dk_3 (dk_at dksX11_isSaid_0 2 rfl rfl)
theorem dX11_isSaid_3 : decode cX11_isSaid 3 = .ok (.istore_n 3, 1) := dk_62 (dk_at dksX11_isSaid_0 3 rfl rfl)
theorem dX11_isSaid_4 : decode cX11_isSaid 4 = .ok (.iload_n 3, 1) := dk_29 (dk_at dksX11_isSaid_0 4 rfl rfl)
theorem dX11_isSaid_5 : decode cX11_isSaid 5 = .ok (.aload_n 0, 1) := dk_42 (dk_at dksX11_isSaid_0 5 rfl rfl)
theorem dX11_isSaid_6 : decode cX11_isSaid 6 = .ok (.getfield 33, 3) := dk_180 0 33 (dk_at dksX11_isSaid_0 6 rfl rfl)
theorem dX11_isSaid_9 : decode cX11_isSaid 9 = .ok (.sipush 584, 3) := dk_17 2 72 (dk_at dksX11_isSaid_0 9 rfl rfl)
theorem dX11_isSaid_12 : decode cX11_isSaid 12 = .ok (.iaload, 1) := dk_46 (dk_at dksX11_isSaid_0 12 rfl rfl)
theorem dX11_isSaid_13 : decode cX11_isSaid 13 = .ok (.if_icmp .ge 199, 3) := dk_162 0 199 (dk_at dksX11_isSaid_0 13 rfl rfl)
theorem dX11_isSaid_16 : decode cX11_isSaid 16 = .ok (.sipush 585, 3) := dk_17 2 73 (dk_at dksX11_isSaid_0 16 rfl rfl)
theorem dX11_isSaid_19 : decode cX11_isSaid 19 = .ok (.iconst 3, 1) := dk_6 (dk_at dksX11_isSaid_0 19 rfl rfl)
theorem dX11_isSaid_20 : decode cX11_isSaid 20 = .ok (.iload_n 3, 1) := dk_29 (dk_at dksX11_isSaid_0 20 rfl rfl)
theorem dX11_isSaid_21 : decode cX11_isSaid 21 = .ok (.imul, 1) := dk_104 (dk_at dksX11_isSaid_0 21 rfl rfl)
theorem dX11_isSaid_22 : decode cX11_isSaid 22 = .ok (.iadd, 1) := dk_96 (dk_at dksX11_isSaid_0 22 rfl rfl)
theorem dX11_isSaid_23 : decode cX11_isSaid 23 = .ok (.istore 4, 2) := dk_54 4 (dk_at dksX11_isSaid_1 0 rfl rfl)
theorem dX11_isSaid_25 : decode cX11_isSaid 25 = .ok (.aload_n 0, 1) := dk_42 (dk_at dksX11_isSaid_1 2 rfl rfl)
theorem dX11_isSaid_26 : decode cX11_isSaid 26 = .ok (.getfield 33, 3) := dk_180 0 33 (dk_at dksX11_isSaid_1 3 rfl rfl)
theorem dX11_isSaid_29 : decode cX11_isSaid 29 = .ok (.iload 4, 2) := dk_21 4 (dk_at dksX11_isSaid_1 6 rfl rfl)
theorem dX11_isSaid_31 : decode cX11_isSaid 31 = .ok (.iaload, 1) := dk_46 (dk_at dksX11_isSaid_1 8 rfl rfl)
theorem dX11_isSaid_32 : decode cX11_isSaid 32 = .ok (.bipush 10, 2) := dk_16 10 (dk_at dksX11_isSaid_1 9 rfl rfl)
theorem dX11_isSaid_34 : decode cX11_isSaid 34 = .ok (.if_icmp .ne 30, 3) := dk_160 0 30 (dk_at dksX11_isSaid_1 11 rfl rfl)
theorem dX11_isSaid_37 : decode cX11_isSaid 37 = .ok (.aload_n 0, 1) := dk_42 (dk_at dksX11_isSaid_1 14 rfl rfl)
theorem dX11_isSaid_38 : decode cX11_isSaid 38 = .ok (.getfield 102, 3) := dk_180 0 102 (dk_at dksX11_isSaid_1 15 rfl rfl)
theorem dX11_isSaid_41 : decode cX11_isSaid 41 = .ok (.iload_n 2, 1) := dk_28 (dk_at dksX11_isSaid_1 18 rfl rfl)
theorem dX11_isSaid_42 : decode cX11_isSaid 42 = .ok (.iconst 1, 1) := dk_4 (dk_at dksX11_isSaid_1 19 rfl rfl)
theorem dX11_isSaid_43 : decode cX11_isSaid 43 = .ok (.isub, 1) := dk_100 (dk_at dksX11_isSaid_1 20 rfl rfl)
theorem dX11_isSaid_44 : decode cX11_isSaid 44 = .ok (.aload_n 0, 1) := dk_42 (dk_at dksX11_isSaid_1 21 rfl rfl)
theorem dX11_isSaid_45 : decode cX11_isSaid 45 = .ok (.getfield 102, 3) := dk_180 0 102 (dk_at dksX11_isSaid_2 0 rfl rfl)
theorem dX11_isSaid_48 : decode cX11_isSaid 48 = .ok (.iload_n 2, 1) := dk_28 (dk_at dksX11_isSaid_2 3 rfl rfl)
theorem dX11_isSaid_49 : decode cX11_isSaid 49 = .ok (.iconst 1, 1) := dk_4 (dk_at dksX11_isSaid_2 4 rfl rfl)
theorem dX11_isSaid_50 : decode cX11_isSaid 50 = .ok (.isub, 1) := dk_100 (dk_at dksX11_isSaid_2 5 rfl rfl)
theorem dX11_isSaid_51 : decode cX11_isSaid 51 = .ok (.baload, 1) := dk_51 (dk_at dksX11_isSaid_2 6 rfl rfl)
theorem dX11_isSaid_52 : decode cX11_isSaid 52 = .ok (.ifCond .ne 7, 3) := dk_154 0 7 (dk_at dksX11_isSaid_2 7 rfl rfl)
theorem dX11_isSaid_55 : decode cX11_isSaid 55 = .ok (.iconst 1, 1) := dk_4 (dk_at dksX11_isSaid_2 10 rfl rfl)
theorem dX11_isSaid_56 : decode cX11_isSaid 56 = .ok (.goto 4, 3) := dk_167 0 4 (dk_at dksX11_isSaid_2 11 rfl rfl)
theorem dX11_isSaid_59 : decode cX11_isSaid 59 = .ok (.iconst 0, 1) := dk_3 (dk_at dksX11_isSaid_2 14 rfl rfl)
theorem dX11_isSaid_60 : decode cX11_isSaid 60 = .ok (.bastore, 1) := dk_84 (dk_at dksX11_isSaid_2 15 rfl rfl)
theorem dX11_isSaid_61 : decode cX11_isSaid 61 = .ok (.goto 145, 3) := dk_167 0 145 (dk_at dksX11_isSaid_2 16 rfl rfl)
theorem dX11_isSaid_64 : decode cX11_isSaid 64 = .ok (.aload_n 0, 1) := dk_42 (dk_at dksX11_isSaid_2 19 rfl rfl)
theorem dX11_isSaid_65 : decode cX11_isSaid 65 = .ok (.getfield 33, 3) := dk_180 0 33 (dk_at dksX11_isSaid_2 20 rfl rfl)
theorem dX11_isSaid_68 : decode cX11_isSaid 68 = .ok (.iload 4, 2) := dk_21 4 (dk_at dksX11_isSaid_3 0 rfl rfl)
theorem dX11_isSaid_70 : decode cX11_isSaid 70 = .ok (.iaload, 1) := dk_46 (dk_at dksX11_isSaid_3 2 rfl rfl)
theorem dX11_isSaid_71 : decode cX11_isSaid 71 = .ok (.bipush 11, 2) := dk_16 11 (dk_at dksX11_isSaid_3 3 rfl rfl)
theorem dX11_isSaid_73 : decode cX11_isSaid 73 = .ok (.if_icmp .eq 15, 3) := dk_159 0 15 (dk_at dksX11_isSaid_3 5 rfl rfl)
theorem dX11_isSaid_76 : decode cX11_isSaid 76 = .ok (.aload_n 0, 1) := dk_42 (dk_at dksX11_isSaid_3 8 rfl rfl)
theorem dX11_isSaid_77 : decode cX11_isSaid 77 = .ok (.getfield 33, 3) := dk_180 0 33 (dk_at dksX11_isSaid_3 9 rfl rfl)
theorem dX11_isSaid_80 : decode cX11_isSaid 80 = .ok (.iload 4, 2) := dk_21 4 (dk_at dksX11_isSaid_3 12 rfl rfl)
theorem dX11_isSaid_82 : decode cX11_isSaid 82 = .ok (.iaload, 1) := dk_46 (dk_at dksX11_isSaid_3 14 rfl rfl)
theorem dX11_isSaid_83 : decode cX11_isSaid 83 = .ok (.bipush 12, 2) := dk_16 12 (dk_at dksX11_isSaid_3 15 rfl rfl)
theorem dX11_isSaid_85 : decode cX11_isSaid 85 = .ok (.if_icmp .ne 82, 3) := dk_160 0 82 (dk_at dksX11_isSaid_3 17 rfl rfl)
theorem dX11_isSaid_88 : decode cX11_isSaid 88 = .ok (.iinc 2 (-1), 3) := dk_132 2 255 (dk_at dksX11_isSaid_3 20 rfl rfl)
theorem dX11_isSaid_91 : decode cX11_isSaid 91 = .ok (.aload_n 0, 1) := dk_42 (dk_at dksX11_isSaid_3 23 rfl rfl)
theorem dX11_isSaid_92 : decode cX11_isSaid 92 = .ok (.getfield 102, 3) := dk_180 0 102 (dk_at dksX11_isSaid_4 0 rfl rfl)
theorem dX11_isSaid_95 : decode cX11_isSaid 95 = .ok (.iload_n 2, 1) := dk_28 (dk_at dksX11_isSaid_4 3 rfl rfl)
theorem dX11_isSaid_96 : decode cX11_isSaid 96 = .ok (.iconst 1, 1) := dk_4 (dk_at dksX11_isSaid_4 4 rfl rfl)
theorem dX11_isSaid_97 : decode cX11_isSaid 97 = .ok (.isub, 1) := dk_100 (dk_at dksX11_isSaid_4 5 rfl rfl)
theorem dX11_isSaid_98 : decode cX11_isSaid 98 = .ok (.aload_n 0, 1) := dk_42 (dk_at dksX11_isSaid_4 6 rfl rfl)
theorem dX11_isSaid_99 : decode cX11_isSaid 99 = .ok (.getfield 33, 3) := dk_180 0 33 (dk_at dksX11_isSaid_4 7 rfl rfl)
theorem dX11_isSaid_102 : decode cX11_isSaid 102 = .ok (.iload 4, 2) := dk_21 4 (dk_at dksX11_isSaid_4 10 rfl rfl)
theorem dX11_isSaid_104 : decode cX11_isSaid 104 = .ok (.iaload, 1) := dk_46 (dk_at dksX11_isSaid_4 12 rfl rfl)
theorem dX11_isSaid_105 : decode cX11_isSaid 105 = .ok (.bipush 11, 2) := dk_16 11 (dk_at dksX11_isSaid_4 13 rfl rfl)
theorem dX11_isSaid_107 : decode cX11_isSaid 107 = .ok (.if_icmp .ne 31, 3) := dk_160 0 31 (dk_at dksX11_isSaid_4 15 rfl rfl)
theorem dX11_isSaid_110 : decode cX11_isSaid 110 = .ok (.aload_n 0, 1) := dk_42 (dk_at dksX11_isSaid_4 18 rfl rfl)
theorem dX11_isSaid_111 : decode cX11_isSaid 111 = .ok (.getfield 102, 3) := dk_180 0 102 (dk_at dksX11_isSaid_4 19 rfl rfl)
theorem dX11_isSaid_114 : decode cX11_isSaid 114 = .ok (.iload_n 2, 1) := dk_28 (dk_at dksX11_isSaid_4 22 rfl rfl)
theorem dX11_isSaid_115 : decode cX11_isSaid 115 = .ok (.iconst 1, 1) := dk_4 (dk_at dksX11_isSaid_4 23 rfl rfl)
theorem dX11_isSaid_116 : decode cX11_isSaid 116 = .ok (.isub, 1) := dk_100 (dk_at dksX11_isSaid_5 0 rfl rfl)
theorem dX11_isSaid_117 : decode cX11_isSaid 117 = .ok (.baload, 1) := dk_51 (dk_at dksX11_isSaid_5 1 rfl rfl)
theorem dX11_isSaid_118 : decode cX11_isSaid 118 = .ok (.ifCond .eq 16, 3) := dk_153 0 16 (dk_at dksX11_isSaid_5 2 rfl rfl)
theorem dX11_isSaid_121 : decode cX11_isSaid 121 = .ok (.aload_n 0, 1) := dk_42 (dk_at dksX11_isSaid_5 5 rfl rfl)
theorem dX11_isSaid_122 : decode cX11_isSaid 122 = .ok (.getfield 102, 3) := dk_180 0 102 (dk_at dksX11_isSaid_5 6 rfl rfl)
theorem dX11_isSaid_125 : decode cX11_isSaid 125 = .ok (.iload_n 2, 1) := dk_28 (dk_at dksX11_isSaid_5 9 rfl rfl)
theorem dX11_isSaid_126 : decode cX11_isSaid 126 = .ok (.baload, 1) := dk_51 (dk_at dksX11_isSaid_5 10 rfl rfl)
theorem dX11_isSaid_127 : decode cX11_isSaid 127 = .ok (.ifCond .eq 7, 3) := dk_153 0 7 (dk_at dksX11_isSaid_5 11 rfl rfl)
theorem dX11_isSaid_130 : decode cX11_isSaid 130 = .ok (.iconst 1, 1) := dk_4 (dk_at dksX11_isSaid_5 14 rfl rfl)
theorem dX11_isSaid_131 : decode cX11_isSaid 131 = .ok (.goto 32, 3) := dk_167 0 32 (dk_at dksX11_isSaid_5 15 rfl rfl)
theorem dX11_isSaid_134 : decode cX11_isSaid 134 = .ok (.iconst 0, 1) := dk_3 (dk_at dksX11_isSaid_5 18 rfl rfl)
theorem dX11_isSaid_135 : decode cX11_isSaid 135 = .ok (.goto 28, 3) := dk_167 0 28 (dk_at dksX11_isSaid_5 19 rfl rfl)
theorem dX11_isSaid_138 : decode cX11_isSaid 138 = .ok (.aload_n 0, 1) := dk_42 (dk_at dksX11_isSaid_5 22 rfl rfl)
theorem dX11_isSaid_139 : decode cX11_isSaid 139 = .ok (.getfield 102, 3) := dk_180 0 102 (dk_at dksX11_isSaid_6 0 rfl rfl)
theorem dX11_isSaid_142 : decode cX11_isSaid 142 = .ok (.iload_n 2, 1) := dk_28 (dk_at dksX11_isSaid_6 3 rfl rfl)
theorem dX11_isSaid_143 : decode cX11_isSaid 143 = .ok (.iconst 1, 1) := dk_4 (dk_at dksX11_isSaid_6 4 rfl rfl)
theorem dX11_isSaid_144 : decode cX11_isSaid 144 = .ok (.isub, 1) := dk_100 (dk_at dksX11_isSaid_6 5 rfl rfl)
theorem dX11_isSaid_145 : decode cX11_isSaid 145 = .ok (.baload, 1) := dk_51 (dk_at dksX11_isSaid_6 6 rfl rfl)
theorem dX11_isSaid_146 : decode cX11_isSaid 146 = .ok (.ifCond .ne 12, 3) := dk_154 0 12 (dk_at dksX11_isSaid_6 7 rfl rfl)
theorem dX11_isSaid_149 : decode cX11_isSaid 149 = .ok (.aload_n 0, 1) := dk_42 (dk_at dksX11_isSaid_6 10 rfl rfl)
theorem dX11_isSaid_150 : decode cX11_isSaid 150 = .ok (.getfield 102, 3) := dk_180 0 102 (dk_at dksX11_isSaid_6 11 rfl rfl)
theorem dX11_isSaid_153 : decode cX11_isSaid 153 = .ok (.iload_n 2, 1) := dk_28 (dk_at dksX11_isSaid_6 14 rfl rfl)
theorem dX11_isSaid_154 : decode cX11_isSaid 154 = .ok (.baload, 1) := dk_51 (dk_at dksX11_isSaid_6 15 rfl rfl)
theorem dX11_isSaid_155 : decode cX11_isSaid 155 = .ok (.ifCond .eq 7, 3) := dk_153 0 7 (dk_at dksX11_isSaid_6 16 rfl rfl)
theorem dX11_isSaid_158 : decode cX11_isSaid 158 = .ok (.iconst 1, 1) := dk_4 (dk_at dksX11_isSaid_6 19 rfl rfl)
theorem dX11_isSaid_159 : decode cX11_isSaid 159 = .ok (.goto 4, 3) := dk_167 0 4 (dk_at dksX11_isSaid_6 20 rfl rfl)
theorem dX11_isSaid_162 : decode cX11_isSaid 162 = .ok (.iconst 0, 1) := dk_3 (dk_at dksX11_isSaid_6 23 rfl rfl)
theorem dX11_isSaid_163 : decode cX11_isSaid 163 = .ok (.bastore, 1) := dk_84 (dk_at dksX11_isSaid_7 0 rfl rfl)
theorem dX11_isSaid_164 : decode cX11_isSaid 164 = .ok (.goto 42, 3) := dk_167 0 42 (dk_at dksX11_isSaid_7 1 rfl rfl)
theorem dX11_isSaid_167 : decode cX11_isSaid 167 = .ok (.aload_n 0, 1) := dk_42 (dk_at dksX11_isSaid_7 4 rfl rfl)
theorem dX11_isSaid_168 : decode cX11_isSaid 168 = .ok (.getfield 102, 3) := dk_180 0 102 (dk_at dksX11_isSaid_7 5 rfl rfl)
theorem dX11_isSaid_171 : decode cX11_isSaid 171 = .ok (.iload_n 2, 1) := dk_28 (dk_at dksX11_isSaid_7 8 rfl rfl)
theorem dX11_isSaid_172 : decode cX11_isSaid 172 = .ok (.aload_n 0, 1) := dk_42 (dk_at dksX11_isSaid_7 9 rfl rfl)
theorem dX11_isSaid_173 : decode cX11_isSaid 173 = .ok (.iload_n 1, 1) := dk_27 (dk_at dksX11_isSaid_7 10 rfl rfl)
theorem dX11_isSaid_174 : decode cX11_isSaid 174 = .ok (.aload_n 0, 1) := dk_42 (dk_at dksX11_isSaid_7 11 rfl rfl)
theorem dX11_isSaid_175 : decode cX11_isSaid 175 = .ok (.getfield 33, 3) := dk_180 0 33 (dk_at dksX11_isSaid_7 12 rfl rfl)
theorem dX11_isSaid_178 : decode cX11_isSaid 178 = .ok (.iload 4, 2) := dk_21 4 (dk_at dksX11_isSaid_7 15 rfl rfl)
theorem dX11_isSaid_180 : decode cX11_isSaid 180 = .ok (.iaload, 1) := dk_46 (dk_at dksX11_isSaid_7 17 rfl rfl)
theorem dX11_isSaid_181 : decode cX11_isSaid 181 = .ok (.aload_n 0, 1) := dk_42 (dk_at dksX11_isSaid_7 18 rfl rfl)
theorem dX11_isSaid_182 : decode cX11_isSaid 182 = .ok (.getfield 33, 3) := dk_180 0 33 (dk_at dksX11_isSaid_7 19 rfl rfl)
theorem dX11_isSaid_185 : decode cX11_isSaid 185 = .ok (.iload 4, 2) := dk_21 4 (dk_at dksX11_isSaid_7 22 rfl rfl)
theorem dX11_isSaid_187 : decode cX11_isSaid 187 = .ok (.iconst 1, 1) := dk_4 (dk_at dksX11_isSaid_8 0 rfl rfl)
theorem dX11_isSaid_188 : decode cX11_isSaid 188 = .ok (.iadd, 1) := dk_96 (dk_at dksX11_isSaid_8 1 rfl rfl)
theorem dX11_isSaid_189 : decode cX11_isSaid 189 = .ok (.iaload, 1) := dk_46 (dk_at dksX11_isSaid_8 2 rfl rfl)
theorem dX11_isSaid_190 : decode cX11_isSaid 190 = .ok (.aload_n 0, 1) := dk_42 (dk_at dksX11_isSaid_8 3 rfl rfl)
theorem dX11_isSaid_191 : decode cX11_isSaid 191 = .ok (.getfield 33, 3) := dk_180 0 33 (dk_at dksX11_isSaid_8 4 rfl rfl)
theorem dX11_isSaid_194 : decode cX11_isSaid 194 = .ok (.iload 4, 2) := dk_21 4 (dk_at dksX11_isSaid_8 7 rfl rfl)
theorem dX11_isSaid_196 : decode cX11_isSaid 196 = .ok (.iconst 2, 1) := dk_5 (dk_at dksX11_isSaid_8 9 rfl rfl)
theorem dX11_isSaid_197 : decode cX11_isSaid 197 = .ok (.iadd, 1) := dk_96 (dk_at dksX11_isSaid_8 10 rfl rfl)
theorem dX11_isSaid_198 : decode cX11_isSaid 198 = .ok (.iaload, 1) := dk_46 (dk_at dksX11_isSaid_8 11 rfl rfl)
theorem dX11_isSaid_199 : decode cX11_isSaid 199 = .ok (.invokevirtual 482, 3) := dk_182 1 226 (dk_at dksX11_isSaid_8 12 rfl rfl)
theorem dX11_isSaid_202 : decode cX11_isSaid 202 = .ok (.bastore, 1) := dk_84 (dk_at dksX11_isSaid_8 15 rfl rfl)
theorem dX11_isSaid_203 : decode cX11_isSaid 203 = .ok (.iinc 2 1, 3) := dk_132 2 1 (dk_at dksX11_isSaid_8 16 rfl rfl)
theorem dX11_isSaid_206 : decode cX11_isSaid 206 = .ok (.iinc 3 1, 3) := dk_132 3 1 (dk_at dksX11_isSaid_8 19 rfl rfl)
theorem dX11_isSaid_209 : decode cX11_isSaid 209 = .ok (.goto (-205), 3) := dk_167 255 51 (dk_at dksX11_isSaid_9 0 rfl rfl)
theorem dX11_isSaid_212 : decode cX11_isSaid 212 = .ok (.aload_n 0, 1) := dk_42 (dk_at dksX11_isSaid_9 3 rfl rfl)
theorem dX11_isSaid_213 : decode cX11_isSaid 213 = .ok (.getfield 102, 3) := dk_180 0 102 (dk_at dksX11_isSaid_9 4 rfl rfl)
theorem dX11_isSaid_216 : decode cX11_isSaid 216 = .ok (.iconst 0, 1) := dk_3 (dk_at dksX11_isSaid_9 7 rfl rfl)
theorem dX11_isSaid_217 : decode cX11_isSaid 217 = .ok (.baload, 1) := dk_51 (dk_at dksX11_isSaid_9 8 rfl rfl)
theorem dX11_isSaid_218 : decode cX11_isSaid 218 = .ok (.ireturn, 1) := dk_172 (dk_at dksX11_isSaid_9 9 rfl rfl)
abbrev cX11_isLeaf : ByteArray := prog_23_method_105_code
def yX11_isLeaf : MethodName := ⟨RX11, "isLeaf", "(IIII)Z"⟩
def dkwX11_isLeaf_11 : List UInt8 := [164, 0, 7, 4, 167, 0, 4, 3, 172]
abbrev dktX11_isLeaf_11 : List UInt8 := dkwX11_isLeaf_11 ++ []
def dkwX11_isLeaf_10 : List UInt8 := [160, 0, 18, 21, 7, 21, 4, 160, 0, 7, 4, 167, 0, 19, 3, 167, 0, 15, 21, 7, 21, 4]
abbrev dktX11_isLeaf_10 : List UInt8 := dkwX11_isLeaf_10 ++ dktX11_isLeaf_11
def dkwX11_isLeaf_9 : List UInt8 := [16, 60, 160, 0, 18, 21, 7, 21, 4, 162, 0, 7, 4, 167, 0, 40, 3, 167, 0, 36, 29, 16, 61]
abbrev dktX11_isLeaf_9 : List UInt8 := dkwX11_isLeaf_9 ++ dktX11_isLeaf_10
def dkwX11_isLeaf_8 : List UInt8 := [7, 160, 0, 8, 21, 5, 167, 0, 14, 28, 8, 160, 0, 8, 21, 6, 167, 0, 4, 27, 54, 7, 29]
abbrev dktX11_isLeaf_8 : List UInt8 := dkwX11_isLeaf_8 ++ dktX11_isLeaf_9
def dkwX11_isLeaf_7 : List UInt8 := [21, 6, 54, 6, 132, 7, 1, 167, 255, 214, 28, 6, 160, 0, 11, 42, 27, 182, 1, 96, 167, 0, 24, 28]
abbrev dktX11_isLeaf_7 : List UInt8 := dkwX11_isLeaf_7 ++ dktX11_isLeaf_8
def dkwX11_isLeaf_6 : List UInt8 := [21, 7, 27, 3, 182, 0, 255, 21, 6, 164, 0, 14, 42, 21, 7, 27, 3, 182, 0, 255, 167, 0, 5]
abbrev dktX11_isLeaf_6 : List UInt8 := dkwX11_isLeaf_6 ++ dktX11_isLeaf_7
def dkwX11_isLeaf_5 : List UInt8 := [132, 6, 1, 167, 255, 217, 3, 54, 6, 3, 54, 7, 21, 7, 42, 180, 0, 33, 4, 46, 162, 0, 37, 42]
abbrev dktX11_isLeaf_5 : List UInt8 := dkwX11_isLeaf_5 ++ dktX11_isLeaf_6
def dkwX11_isLeaf_4 : List UInt8 := [21, 5, 42, 180, 0, 33, 16, 8, 21, 6, 96, 46, 27, 160, 0, 7, 4, 167, 0, 4, 3, 96, 54, 5]
abbrev dktX11_isLeaf_4 : List UInt8 := dkwX11_isLeaf_4 ++ dktX11_isLeaf_5
def dkwX11_isLeaf_3 : List UInt8 := [167, 0, 4, 3, 172, 3, 54, 5, 3, 54, 6, 21, 6, 42, 180, 0, 33, 16, 7, 46, 162, 0, 33]
abbrev dktX11_isLeaf_3 : List UInt8 := dkwX11_isLeaf_3 ++ dktX11_isLeaf_4
def dkwX11_isLeaf_2 : List UInt8 := [167, 0, 4, 3, 172, 28, 5, 160, 0, 20, 42, 21, 4, 27, 3, 182, 0, 255, 158, 0, 7, 4]
abbrev dktX11_isLeaf_2 : List UInt8 := dkwX11_isLeaf_2 ++ dktX11_isLeaf_3
def dkwX11_isLeaf_1 : List UInt8 := [4, 160, 0, 28, 42, 180, 0, 33, 17, 0, 151, 16, 13, 21, 4, 104, 96, 27, 96, 46, 158, 0, 7, 4]
abbrev dktX11_isLeaf_1 : List UInt8 := dkwX11_isLeaf_1 ++ dktX11_isLeaf_2
def dkwX11_isLeaf_0 : List UInt8 := [28, 154, 0, 22, 42, 180, 0, 33, 17, 0, 138, 27, 96, 46, 158, 0, 7, 4, 167, 0, 4, 3, 172, 28]
abbrev dktX11_isLeaf_0 : List UInt8 := dkwX11_isLeaf_0 ++ dktX11_isLeaf_1
theorem dksX11_isLeaf_0 : cX11_isLeaf.data.toList.drop 0 = dktX11_isLeaf_0 := by decide +kernel
theorem dksX11_isLeaf_1 : cX11_isLeaf.data.toList.drop 24 = dktX11_isLeaf_1 := dk_seg dksX11_isLeaf_0 24 rfl rfl
theorem dksX11_isLeaf_2 : cX11_isLeaf.data.toList.drop 48 = dktX11_isLeaf_2 := dk_seg dksX11_isLeaf_1 24 rfl rfl
theorem dksX11_isLeaf_3 : cX11_isLeaf.data.toList.drop 70 = dktX11_isLeaf_3 := dk_seg dksX11_isLeaf_2 22 rfl rfl
theorem dksX11_isLeaf_4 : cX11_isLeaf.data.toList.drop 93 = dktX11_isLeaf_4 := dk_seg dksX11_isLeaf_3 23 rfl rfl
theorem dksX11_isLeaf_5 : cX11_isLeaf.data.toList.drop 117 = dktX11_isLeaf_5 := dk_seg dksX11_isLeaf_4 24 rfl rfl
theorem dksX11_isLeaf_6 : cX11_isLeaf.data.toList.drop 141 = dktX11_isLeaf_6 := dk_seg dksX11_isLeaf_5 24 rfl rfl
theorem dksX11_isLeaf_7 : cX11_isLeaf.data.toList.drop 164 = dktX11_isLeaf_7 := dk_seg dksX11_isLeaf_6 23 rfl rfl
theorem dksX11_isLeaf_8 : cX11_isLeaf.data.toList.drop 188 = dktX11_isLeaf_8 := dk_seg dksX11_isLeaf_7 24 rfl rfl
theorem dksX11_isLeaf_9 : cX11_isLeaf.data.toList.drop 211 = dktX11_isLeaf_9 := dk_seg dksX11_isLeaf_8 23 rfl rfl
theorem dksX11_isLeaf_10 : cX11_isLeaf.data.toList.drop 234 = dktX11_isLeaf_10 := dk_seg dksX11_isLeaf_9 23 rfl rfl
theorem dksX11_isLeaf_11 : cX11_isLeaf.data.toList.drop 256 = dktX11_isLeaf_11 := dk_seg dksX11_isLeaf_10 22 rfl rfl
theorem dX11_isLeaf_0 : decode cX11_isLeaf 0 = .ok (.iload_n 2, 1) := dk_28 (dk_at dksX11_isLeaf_0 0 rfl rfl)
theorem dX11_isLeaf_1 : decode cX11_isLeaf 1 = .ok (.ifCond .ne 22, 3) := dk_154 0 22 (dk_at dksX11_isLeaf_0 1 rfl rfl)
theorem dX11_isLeaf_4 : decode cX11_isLeaf 4 = .ok (.aload_n 0, 1) := dk_42 (dk_at dksX11_isLeaf_0 4 rfl rfl)
theorem dX11_isLeaf_5 : decode cX11_isLeaf 5 = .ok (.getfield 33, 3) := dk_180 0 33 (dk_at dksX11_isLeaf_0 5 rfl rfl)
theorem dX11_isLeaf_8 : decode cX11_isLeaf 8 = .ok (.sipush 138, 3) := dk_17 0 138 (dk_at dksX11_isLeaf_0 8 rfl rfl)
theorem dX11_isLeaf_11 : decode cX11_isLeaf 11 = .ok (.iload_n 1, 1) := dk_27 (dk_at dksX11_isLeaf_0 11 rfl rfl)
theorem dX11_isLeaf_12 : decode cX11_isLeaf 12 = .ok (.iadd, 1) := dk_96 (dk_at dksX11_isLeaf_0 12 rfl rfl)
theorem dX11_isLeaf_13 : decode cX11_isLeaf 13 = .ok (.iaload, 1) := dk_46 (dk_at dksX11_isLeaf_0 13 rfl rfl)
theorem dX11_isLeaf_14 : decode cX11_isLeaf 14 = .ok (.ifCond .le 7, 3) := dk_158 0 7 (dk_at dksX11_isLeaf_0 14 rfl rfl)
theorem dX11_isLeaf_17 : decode cX11_isLeaf 17 = .ok (.iconst 1, 1) := dk_4 (dk_at dksX11_isLeaf_0 17 rfl rfl)
theorem dX11_isLeaf_18 : decode cX11_isLeaf 18 = .ok (.goto 4, 3) := dk_167 0 4 (dk_at dksX11_isLeaf_0 18 rfl rfl)
theorem dX11_isLeaf_21 : decode cX11_isLeaf 21 = .ok (.iconst 0, 1) := dk_3 (dk_at dksX11_isLeaf_0 21 rfl rfl)
theorem dX11_isLeaf_22 : decode cX11_isLeaf 22 = .ok (.ireturn, 1) := dk_172 (dk_at dksX11_isLeaf_0 22 rfl rfl)
theorem dX11_isLeaf_23 : decode cX11_isLeaf 23 = .ok (.iload_n 2, 1) := dk_28 (dk_at dksX11_isLeaf_0 23 rfl rfl)
theorem dX11_isLeaf_24 : decode cX11_isLeaf 24 = .ok (.iconst 1, 1) := dk_4 (dk_at dksX11_isLeaf_1 0 rfl rfl)
theorem dX11_isLeaf_25 : decode cX11_isLeaf 25 = .ok (.if_icmp .ne 28, 3) := dk_160 0 28 (dk_at dksX11_isLeaf_1 1 rfl rfl)
theorem dX11_isLeaf_28 : decode cX11_isLeaf 28 = .ok (.aload_n 0, 1) := dk_42 (dk_at dksX11_isLeaf_1 4 rfl rfl)
theorem dX11_isLeaf_29 : decode cX11_isLeaf 29 = .ok (.getfield 33, 3) := dk_180 0 33 (dk_at dksX11_isLeaf_1 5 rfl rfl)
theorem dX11_isLeaf_32 : decode cX11_isLeaf 32 = .ok (.sipush 151, 3) := dk_17 0 151 (dk_at dksX11_isLeaf_1 8 rfl rfl)
theorem dX11_isLeaf_35 : decode cX11_isLeaf 35 = .ok (.bipush 13, 2) := dk_16 13 (dk_at dksX11_isLeaf_1 11 rfl rfl)
theorem dX11_isLeaf_37 : decode cX11_isLeaf 37 = .ok (.iload 4, 2) := dk_21 4 (dk_at dksX11_isLeaf_1 13 rfl rfl)
theorem dX11_isLeaf_39 : decode cX11_isLeaf 39 = .ok (.imul, 1) := dk_104 (dk_at dksX11_isLeaf_1 15 rfl rfl)
theorem dX11_isLeaf_40 : decode cX11_isLeaf 40 = .ok (.iadd, 1) := dk_96 (dk_at dksX11_isLeaf_1 16 rfl rfl)
theorem dX11_isLeaf_41 : decode cX11_isLeaf 41 = .ok (.iload_n 1, 1) := dk_27 (dk_at dksX11_isLeaf_1 17 rfl rfl)
theorem dX11_isLeaf_42 : decode cX11_isLeaf 42 = .ok (.iadd, 1) := dk_96 (dk_at dksX11_isLeaf_1 18 rfl rfl)
theorem dX11_isLeaf_43 : decode cX11_isLeaf 43 = .ok (.iaload, 1) := dk_46 (dk_at dksX11_isLeaf_1 19 rfl rfl)
theorem dX11_isLeaf_44 : decode cX11_isLeaf 44 = .ok (.ifCond .le 7, 3) := dk_158 0 7 (dk_at dksX11_isLeaf_1 20 rfl rfl)
theorem dX11_isLeaf_47 : decode cX11_isLeaf 47 = .ok (.iconst 1, 1) := dk_4 (dk_at dksX11_isLeaf_1 23 rfl rfl)
theorem dX11_isLeaf_48 : decode cX11_isLeaf 48 = .ok (.goto 4, 3) := dk_167 0 4 (dk_at dksX11_isLeaf_2 0 rfl rfl)
theorem dX11_isLeaf_51 : decode cX11_isLeaf 51 = .ok (.iconst 0, 1) := dk_3 (dk_at dksX11_isLeaf_2 3 rfl rfl)
theorem dX11_isLeaf_52 : decode cX11_isLeaf 52 = .ok (.ireturn, 1) := dk_172 (dk_at dksX11_isLeaf_2 4 rfl rfl)
theorem dX11_isLeaf_53 : decode cX11_isLeaf 53 = .ok (.iload_n 2, 1) := dk_28 (dk_at dksX11_isLeaf_2 5 rfl rfl)
theorem dX11_isLeaf_54 : decode cX11_isLeaf 54 = .ok (.iconst 2, 1) := dk_5 (dk_at dksX11_isLeaf_2 6 rfl rfl)
theorem dX11_isLeaf_55 : decode cX11_isLeaf 55 = .ok (.if_icmp .ne 20, 3) := dk_160 0 20 (dk_at dksX11_isLeaf_2 7 rfl rfl)
theorem dX11_isLeaf_58 : decode cX11_isLeaf 58 = .ok (.aload_n 0, 1) := dk_42 (dk_at dksX11_isLeaf_2 10 rfl rfl)
theorem dX11_isLeaf_59 : decode cX11_isLeaf 59 = .ok (.iload 4, 2) := dk_21 4 (dk_at dksX11_isLeaf_2 11 rfl rfl)
theorem dX11_isLeaf_61 : decode cX11_isLeaf 61 = .ok (.iload_n 1, 1) := dk_27 (dk_at dksX11_isLeaf_2 13 rfl rfl)
theorem dX11_isLeaf_62 : decode cX11_isLeaf 62 = .ok (.iconst 0, 1) := dk_3 (dk_at dksX11_isLeaf_2 14 rfl rfl)
theorem dX11_isLeaf_63 : decode cX11_isLeaf 63 = .ok (.invokevirtual 255, 3) := dk_182 0 255 (dk_at dksX11_isLeaf_2 15 rfl rfl)
theorem dX11_isLeaf_66 : decode cX11_isLeaf 66 = .ok (.ifCond .le 7, 3) := dk_158 0 7 (dk_at dksX11_isLeaf_2 18 rfl rfl)
theorem dX11_isLeaf_69 : decode cX11_isLeaf 69 = .ok (.iconst 1, 1) := dk_4 (dk_at dksX11_isLeaf_2 21 rfl rfl)
theorem dX11_isLeaf_70 : decode cX11_isLeaf 70 = .ok (.goto 4, 3) := dk_167 0 4 (dk_at dksX11_isLeaf_3 0 rfl rfl)
theorem dX11_isLeaf_73 : decode cX11_isLeaf 73 = .ok (.iconst 0, 1) := dk_3 (dk_at dksX11_isLeaf_3 3 rfl rfl)
theorem dX11_isLeaf_74 : decode cX11_isLeaf 74 = .ok (.ireturn, 1) := dk_172 (dk_at dksX11_isLeaf_3 4 rfl rfl)
theorem dX11_isLeaf_75 : decode cX11_isLeaf 75 = .ok (.iconst 0, 1) := dk_3 (dk_at dksX11_isLeaf_3 5 rfl rfl)
theorem dX11_isLeaf_76 : decode cX11_isLeaf 76 = .ok (.istore 5, 2) := dk_54 5 (dk_at dksX11_isLeaf_3 6 rfl rfl)
theorem dX11_isLeaf_78 : decode cX11_isLeaf 78 = .ok (.iconst 0, 1) := dk_3 (dk_at dksX11_isLeaf_3 8 rfl rfl)
theorem dX11_isLeaf_79 : decode cX11_isLeaf 79 = .ok (.istore 6, 2) := dk_54 6 (dk_at dksX11_isLeaf_3 9 rfl rfl)
theorem dX11_isLeaf_81 : decode cX11_isLeaf 81 = .ok (.iload 6, 2) := dk_21 6 (dk_at dksX11_isLeaf_3 11 rfl rfl)
theorem dX11_isLeaf_83 : decode cX11_isLeaf 83 = .ok (.aload_n 0, 1) := dk_42 (dk_at dksX11_isLeaf_3 13 rfl rfl)
theorem dX11_isLeaf_84 : decode cX11_isLeaf 84 = .ok (.getfield 33, 3) := dk_180 0 33 (dk_at dksX11_isLeaf_3 14 rfl rfl)
theorem dX11_isLeaf_87 : decode cX11_isLeaf 87 = .ok (.bipush 7, 2) := dk_16 7 (dk_at dksX11_isLeaf_3 17 rfl rfl)
theorem dX11_isLeaf_89 : decode cX11_isLeaf 89 = .ok (.iaload, 1) := dk_46 (dk_at dksX11_isLeaf_3 19 rfl rfl)
theorem dX11_isLeaf_90 : decode cX11_isLeaf 90 = .ok (.if_icmp .ge 33, 3) := dk_162 0 33 (dk_at dksX11_isLeaf_3 20 rfl rfl)
theorem dX11_isLeaf_93 : decode cX11_isLeaf 93 = .ok (.iload 5, 2) := dk_21 5 (dk_at dksX11_isLeaf_4 0 rfl rfl)
theorem dX11_isLeaf_95 : decode cX11_isLeaf 95 = .ok (.aload_n 0, 1) := dk_42 (dk_at dksX11_isLeaf_4 2 rfl rfl)
theorem dX11_isLeaf_96 : decode cX11_isLeaf 96 = .ok (.getfield 33, 3) := dk_180 0 33 (dk_at dksX11_isLeaf_4 3 rfl rfl)
theorem dX11_isLeaf_99 : decode cX11_isLeaf 99 = .ok (.bipush 8, 2) := dk_16 8 (dk_at dksX11_isLeaf_4 6 rfl rfl)
theorem dX11_isLeaf_101 : decode cX11_isLeaf 101 = .ok (.iload 6, 2) := dk_21 6 (dk_at dksX11_isLeaf_4 8 rfl rfl)
theorem dX11_isLeaf_103 : decode cX11_isLeaf 103 = .ok (.iadd, 1) := dk_96 (dk_at dksX11_isLeaf_4 10 rfl rfl)
theorem dX11_isLeaf_104 : decode cX11_isLeaf 104 = .ok (.iaload, 1) := dk_46 (dk_at dksX11_isLeaf_4 11 rfl rfl)
theorem dX11_isLeaf_105 : decode cX11_isLeaf 105 = .ok (.iload_n 1, 1) := dk_27 (dk_at dksX11_isLeaf_4 12 rfl rfl)
theorem dX11_isLeaf_106 : decode cX11_isLeaf 106 = .ok (.if_icmp .ne 7, 3) := dk_160 0 7 (dk_at dksX11_isLeaf_4 13 rfl rfl)
theorem dX11_isLeaf_109 : decode cX11_isLeaf 109 = .ok (.iconst 1, 1) := dk_4 (dk_at dksX11_isLeaf_4 16 rfl rfl)
theorem dX11_isLeaf_110 : decode cX11_isLeaf 110 = .ok (.goto 4, 3) := dk_167 0 4 (dk_at dksX11_isLeaf_4 17 rfl rfl)
theorem dX11_isLeaf_113 : decode cX11_isLeaf 113 = .ok (.iconst 0, 1) := dk_3 (dk_at dksX11_isLeaf_4 20 rfl rfl)
theorem dX11_isLeaf_114 : decode cX11_isLeaf 114 = .ok (.iadd, 1) := dk_96 (dk_at dksX11_isLeaf_4 21 rfl rfl)
theorem dX11_isLeaf_115 : decode cX11_isLeaf 115 = .ok (.istore 5, 2) := dk_54 5 (dk_at dksX11_isLeaf_4 22 rfl rfl)
theorem dX11_isLeaf_117 : decode cX11_isLeaf 117 = .ok (.iinc 6 1, 3) := dk_132 6 1 (dk_at dksX11_isLeaf_5 0 rfl rfl)
theorem dX11_isLeaf_120 : decode cX11_isLeaf 120 = .ok (.goto (-39), 3) := dk_167 255 217 (dk_at dksX11_isLeaf_5 3 rfl rfl)
theorem dX11_isLeaf_123 : decode cX11_isLeaf 123 = .ok (.iconst 0, 1) := dk_3 (dk_at dksX11_isLeaf_5 6 rfl rfl)
theorem dX11_isLeaf_124 : decode cX11_isLeaf 124 = .ok (.istore 6, 2) := dk_54 6 (dk_at dksX11_isLeaf_5 7 rfl rfl)
theorem dX11_isLeaf_126 : decode cX11_isLeaf 126 = .ok (.iconst 0, 1) := dk_3 (dk_at dksX11_isLeaf_5 9 rfl rfl)
theorem dX11_isLeaf_127 : decode cX11_isLeaf 127 = .ok (.istore 7, 2) := dk_54 7 (dk_at dksX11_isLeaf_5 10 rfl rfl)
theorem dX11_isLeaf_129 : decode cX11_isLeaf 129 = .ok (.iload 7, 2) := dk_21 7 (dk_at dksX11_isLeaf_5 12 rfl rfl)
theorem dX11_isLeaf_131 : decode cX11_isLeaf 131 = .ok (.aload_n 0, 1) := dk_42 (dk_at dksX11_isLeaf_5 14 rfl rfl)
theorem dX11_isLeaf_132 : decode cX11_isLeaf 132 = .ok (.getfield 33, 3) := dk_180 0 33 (dk_at dksX11_isLeaf_5 15 rfl rfl)
theorem dX11_isLeaf_135 : decode cX11_isLeaf 135 = .ok (.iconst 1, 1) := dk_4 (dk_at dksX11_isLeaf_5 18 rfl rfl)
theorem dX11_isLeaf_136 : decode cX11_isLeaf 136 = .ok (.iaload, 1) := dk_46 (dk_at dksX11_isLeaf_5 19 rfl rfl)
theorem dX11_isLeaf_137 : decode cX11_isLeaf 137 = .ok (.if_icmp .ge 37, 3) := dk_162 0 37 (dk_at dksX11_isLeaf_5 20 rfl rfl)
theorem dX11_isLeaf_140 : decode cX11_isLeaf 140 = .ok (.aload_n 0, 1) := dk_42 (dk_at dksX11_isLeaf_5 23 rfl rfl)
theorem dX11_isLeaf_141 : decode cX11_isLeaf 141 = .ok (.iload 7, 2) := dk_21 7 (dk_at dksX11_isLeaf_6 0 rfl rfl)
theorem dX11_isLeaf_143 : decode cX11_isLeaf 143 = .ok (.iload_n 1, 1) := dk_27 (dk_at dksX11_isLeaf_6 2 rfl rfl)
theorem dX11_isLeaf_144 : decode cX11_isLeaf 144 = .ok (.iconst 0, 1) := dk_3 (dk_at dksX11_isLeaf_6 3 rfl rfl)
theorem dX11_isLeaf_145 : decode cX11_isLeaf 145 = .ok (.invokevirtual 255, 3) := dk_182 0 255 (dk_at dksX11_isLeaf_6 4 rfl rfl)
theorem dX11_isLeaf_148 : decode cX11_isLeaf 148 = .ok (.iload 6, 2) := dk_21 6 (dk_at dksX11_isLeaf_6 7 rfl rfl)
theorem dX11_isLeaf_150 : decode cX11_isLeaf 150 = .ok (.if_icmp .le 14, 3) := dk_164 0 14 (dk_at dksX11_isLeaf_6 9 rfl rfl)
theorem dX11_isLeaf_153 : decode cX11_isLeaf 153 = .ok (.aload_n 0, 1) := dk_42 (dk_at dksX11_isLeaf_6 12 rfl rfl)
theorem dX11_isLeaf_154 : decode cX11_isLeaf 154 = .ok (.iload 7, 2) := dk_21 7 (dk_at dksX11_isLeaf_6 13 rfl rfl)
theorem dX11_isLeaf_156 : decode cX11_isLeaf 156 = .ok (.iload_n 1, 1) := dk_27 (dk_at dksX11_isLeaf_6 15 rfl rfl)
theorem dX11_isLeaf_157 : decode cX11_isLeaf 157 = .ok (.iconst 0, 1) := dk_3 (dk_at dksX11_isLeaf_6 16 rfl rfl)
theorem dX11_isLeaf_158 : decode cX11_isLeaf 158 = .ok (.invokevirtual 255, 3) := dk_182 0 255 (dk_at dksX11_isLeaf_6 17 rfl rfl)
theorem dX11_isLeaf_161 : decode cX11_isLeaf 161 = .ok (.goto 5, 3) := dk_167 0 5 (dk_at dksX11_isLeaf_6 20 rfl rfl)
theorem dX11_isLeaf_164 : decode cX11_isLeaf 164 = .ok (.iload 6, 2) := dk_21 6 (dk_at dksX11_isLeaf_7 0 rfl rfl)
theorem dX11_isLeaf_166 : decode cX11_isLeaf 166 = .ok (.istore 6, 2) := dk_54 6 (dk_at dksX11_isLeaf_7 2 rfl rfl)
theorem dX11_isLeaf_168 : decode cX11_isLeaf 168 = .ok (.iinc 7 1, 3) := dk_132 7 1 (dk_at dksX11_isLeaf_7 4 rfl rfl)
theorem dX11_isLeaf_171 : decode cX11_isLeaf 171 = .ok (.goto (-42), 3) := dk_167 255 214 (dk_at dksX11_isLeaf_7 7 rfl rfl)
theorem dX11_isLeaf_174 : decode cX11_isLeaf 174 = .ok (.iload_n 2, 1) := dk_28 (dk_at dksX11_isLeaf_7 10 rfl rfl)
theorem dX11_isLeaf_175 : decode cX11_isLeaf 175 = .ok (.iconst 3, 1) := dk_6 (dk_at dksX11_isLeaf_7 11 rfl rfl)
theorem dX11_isLeaf_176 : decode cX11_isLeaf 176 = .ok (.if_icmp .ne 11, 3) := dk_160 0 11 (dk_at dksX11_isLeaf_7 12 rfl rfl)
theorem dX11_isLeaf_179 : decode cX11_isLeaf 179 = .ok (.aload_n 0, 1) := dk_42 (dk_at dksX11_isLeaf_7 15 rfl rfl)
theorem dX11_isLeaf_180 : decode cX11_isLeaf 180 = .ok (.iload_n 1, 1) := dk_27 (dk_at dksX11_isLeaf_7 16 rfl rfl)
theorem dX11_isLeaf_181 : decode cX11_isLeaf 181 = .ok (.invokevirtual 352, 3) := dk_182 1 96 (dk_at dksX11_isLeaf_7 17 rfl rfl)
theorem dX11_isLeaf_184 : decode cX11_isLeaf 184 = .ok (.goto 24, 3) := dk_167 0 24 (dk_at dksX11_isLeaf_7 20 rfl rfl)
theorem dX11_isLeaf_187 : decode cX11_isLeaf 187 = .ok (.iload_n 2, 1) := dk_28 (dk_at dksX11_isLeaf_7 23 rfl rfl)
theorem dX11_isLeaf_188 : decode cX11_isLeaf 188 = .ok (.iconst 4, 1) := dk_7 (dk_at dksX11_isLeaf_8 0 rfl rfl)
theorem dX11_isLeaf_189 : decode cX11_isLeaf 189 = .ok (.if_icmp .ne 8, 3) := dk_160 0 8 (dk_at dksX11_isLeaf_8 1 rfl rfl)
theorem dX11_isLeaf_192 : decode cX11_isLeaf 192 = .ok (.iload 5, 2) := dk_21 5 (dk_at dksX11_isLeaf_8 4 rfl rfl)
theorem dX11_isLeaf_194 : decode cX11_isLeaf 194 = .ok (.goto 14, 3) := dk_167 0 14 (dk_at dksX11_isLeaf_8 6 rfl rfl)
theorem dX11_isLeaf_197 : decode cX11_isLeaf 197 = .ok (.iload_n 2, 1) := dk_28 (dk_at dksX11_isLeaf_8 9 rfl rfl)
theorem dX11_isLeaf_198 : decode cX11_isLeaf 198 = .ok (.iconst 5, 1) := dk_8 (dk_at dksX11_isLeaf_8 10 rfl rfl)
theorem dX11_isLeaf_199 : decode cX11_isLeaf 199 = .ok (.if_icmp .ne 8, 3) := dk_160 0 8 (dk_at dksX11_isLeaf_8 11 rfl rfl)
theorem dX11_isLeaf_202 : decode cX11_isLeaf 202 = .ok (.iload 6, 2) := dk_21 6 (dk_at dksX11_isLeaf_8 14 rfl rfl)
theorem dX11_isLeaf_204 : decode cX11_isLeaf 204 = .ok (.goto 4, 3) := dk_167 0 4 (dk_at dksX11_isLeaf_8 16 rfl rfl)
theorem dX11_isLeaf_207 : decode cX11_isLeaf 207 = .ok (.iload_n 1, 1) := dk_27 (dk_at dksX11_isLeaf_8 19 rfl rfl)
theorem dX11_isLeaf_208 : decode cX11_isLeaf 208 = .ok (.istore 7, 2) := dk_54 7 (dk_at dksX11_isLeaf_8 20 rfl rfl)
theorem dX11_isLeaf_210 : decode cX11_isLeaf 210 = .ok (.iload_n 3, 1) := dk_29 (dk_at dksX11_isLeaf_8 22 rfl rfl)
theorem dX11_isLeaf_211 : decode cX11_isLeaf 211 = .ok (.bipush 60, 2) := dk_16 60 (dk_at dksX11_isLeaf_9 0 rfl rfl)
theorem dX11_isLeaf_213 : decode cX11_isLeaf 213 = .ok (.if_icmp .ne 18, 3) := dk_160 0 18 (dk_at dksX11_isLeaf_9 2 rfl rfl)
theorem dX11_isLeaf_216 : decode cX11_isLeaf 216 = .ok (.iload 7, 2) := dk_21 7 (dk_at dksX11_isLeaf_9 5 rfl rfl)
theorem dX11_isLeaf_218 : decode cX11_isLeaf 218 = .ok (.iload 4, 2) := dk_21 4 (dk_at dksX11_isLeaf_9 7 rfl rfl)
theorem dX11_isLeaf_220 : decode cX11_isLeaf 220 = .ok (.if_icmp .ge 7, 3) := dk_162 0 7 (dk_at dksX11_isLeaf_9 9 rfl rfl)
theorem dX11_isLeaf_223 : decode cX11_isLeaf 223 = .ok (.iconst 1, 1) := dk_4 (dk_at dksX11_isLeaf_9 12 rfl rfl)
theorem dX11_isLeaf_224 : decode cX11_isLeaf 224 = .ok (.goto 40, 3) := dk_167 0 40 (dk_at dksX11_isLeaf_9 13 rfl rfl)
theorem dX11_isLeaf_227 : decode cX11_isLeaf 227 = .ok (.iconst 0, 1) := dk_3 (dk_at dksX11_isLeaf_9 16 rfl rfl)
theorem dX11_isLeaf_228 : decode cX11_isLeaf 228 = .ok (.goto 36, 3) := dk_167 0 36 (dk_at dksX11_isLeaf_9 17 rfl rfl)
theorem dX11_isLeaf_231 : decode cX11_isLeaf 231 = .ok (.iload_n 3, 1) := dk_29 (dk_at dksX11_isLeaf_9 20 rfl rfl)
theorem dX11_isLeaf_232 : decode cX11_isLeaf 232 = .ok (.bipush 61, 2) := dk_16 61 (dk_at dksX11_isLeaf_9 21 rfl rfl)
theorem dX11_isLeaf_234 : decode cX11_isLeaf 234 = .ok (.if_icmp .ne 18, 3) := dk_160 0 18 (dk_at dksX11_isLeaf_10 0 rfl rfl)
theorem dX11_isLeaf_237 : decode cX11_isLeaf 237 = .ok (.iload 7, 2) := dk_21 7 (dk_at dksX11_isLeaf_10 3 rfl rfl)
theorem dX11_isLeaf_239 : decode cX11_isLeaf 239 = .ok (.iload 4, 2) := dk_21 4 (dk_at dksX11_isLeaf_10 5 rfl rfl)
theorem dX11_isLeaf_241 : decode cX11_isLeaf 241 = .ok (.if_icmp .ne 7, 3) := dk_160 0 7 (dk_at dksX11_isLeaf_10 7 rfl rfl)
theorem dX11_isLeaf_244 : decode cX11_isLeaf 244 = .ok (.iconst 1, 1) := dk_4 (dk_at dksX11_isLeaf_10 10 rfl rfl)
theorem dX11_isLeaf_245 : decode cX11_isLeaf 245 = .ok (.goto 19, 3) := dk_167 0 19 (dk_at dksX11_isLeaf_10 11 rfl rfl)
theorem dX11_isLeaf_248 : decode cX11_isLeaf 248 = .ok (.iconst 0, 1) := dk_3 (dk_at dksX11_isLeaf_10 14 rfl rfl)
theorem dX11_isLeaf_249 : decode cX11_isLeaf 249 = .ok (.goto 15, 3) := dk_167 0 15 (dk_at dksX11_isLeaf_10 15 rfl rfl)
theorem dX11_isLeaf_252 : decode cX11_isLeaf 252 = .ok (.iload 7, 2) := dk_21 7 (dk_at dksX11_isLeaf_10 18 rfl rfl)
theorem dX11_isLeaf_254 : decode cX11_isLeaf 254 = .ok (.iload 4, 2) := dk_21 4 (dk_at dksX11_isLeaf_10 20 rfl rfl)
theorem dX11_isLeaf_256 : decode cX11_isLeaf 256 = .ok (.if_icmp .le 7, 3) := dk_164 0 7 (dk_at dksX11_isLeaf_11 0 rfl rfl)
theorem dX11_isLeaf_259 : decode cX11_isLeaf 259 = .ok (.iconst 1, 1) := dk_4 (dk_at dksX11_isLeaf_11 3 rfl rfl)
theorem dX11_isLeaf_260 : decode cX11_isLeaf 260 = .ok (.goto 4, 3) := dk_167 0 4 (dk_at dksX11_isLeaf_11 4 rfl rfl)
theorem dX11_isLeaf_263 : decode cX11_isLeaf 263 = .ok (.iconst 0, 1) := dk_3 (dk_at dksX11_isLeaf_11 7 rfl rfl)
theorem dX11_isLeaf_264 : decode cX11_isLeaf 264 = .ok (.ireturn, 1) := dk_172 (dk_at dksX11_isLeaf_11 8 rfl rfl)
abbrev cX11_image : ByteArray := prog_23_method_108_code
def yX11_image : MethodName := ⟨RX11, "image", "(I)Z"⟩
def dkwX11_image_3 : List UInt8 := [180, 0, 43, 28, 47, 80, 132, 2, 1, 167, 255, 230, 42, 180, 0, 112, 27, 4, 84, 4, 172]
abbrev dktX11_image_3 : List UInt8 := dkwX11_image_3 ++ []
def dkwX11_image_2 : List UInt8 := [167, 255, 228, 3, 61, 28, 16, 6, 162, 0, 26, 42, 180, 0, 109, 16, 6, 27, 104, 28, 96, 42]
abbrev dktX11_image_2 : List UInt8 := dkwX11_image_2 ++ dktX11_image_3
def dkwX11_image_1 : List UInt8 := [162, 0, 27, 42, 180, 0, 106, 17, 2, 253, 27, 104, 28, 96, 42, 180, 0, 33, 28, 46, 79, 132, 2, 1]
abbrev dktX11_image_1 : List UInt8 := dkwX11_image_1 ++ dktX11_image_2
def dkwX11_image_0 : List UInt8 := [42, 3, 181, 0, 1, 27, 3, 4, 184, 0, 195, 154, 0, 5, 3, 172, 3, 61, 28, 17, 2, 253]
abbrev dktX11_image_0 : List UInt8 := dkwX11_image_0 ++ dktX11_image_1
theorem dksX11_image_0 : cX11_image.data.toList.drop 0 = dktX11_image_0 := by decide +kernel
theorem dksX11_image_1 : cX11_image.data.toList.drop 22 = dktX11_image_1 := dk_seg dksX11_image_0 22 rfl rfl
theorem dksX11_image_2 : cX11_image.data.toList.drop 46 = dktX11_image_2 := dk_seg dksX11_image_1 24 rfl rfl
theorem dksX11_image_3 : cX11_image.data.toList.drop 68 = dktX11_image_3 := dk_seg dksX11_image_2 22 rfl rfl
theorem dX11_image_0 : decode cX11_image 0 = .ok (.aload_n 0, 1) := dk_42 (dk_at dksX11_image_0 0 rfl rfl)
theorem dX11_image_1 : decode cX11_image 1 = .ok (.iconst 0, 1) := dk_3 (dk_at dksX11_image_0 1 rfl rfl)
theorem dX11_image_2 : decode cX11_image 2 = .ok (.putfield 1, 3) := dk_181 0 1 (dk_at dksX11_image_0 2 rfl rfl)
theorem dX11_image_5 : decode cX11_image 5 = .ok (.iload_n 1, 1) := dk_27 (dk_at dksX11_image_0 5 rfl rfl)
theorem dX11_image_6 : decode cX11_image 6 = .ok (.iconst 0, 1) := dk_3 (dk_at dksX11_image_0 6 rfl rfl)
theorem dX11_image_7 : decode cX11_image 7 = .ok (.iconst 1, 1) := dk_4 (dk_at dksX11_image_0 7 rfl rfl)
theorem dX11_image_8 : decode cX11_image 8 = .ok (.invokestatic 195, 3) := dk_184 0 195 (dk_at dksX11_image_0 8 rfl rfl)
theorem dX11_image_11 : decode cX11_image 11 = .ok (.ifCond .ne 5, 3) := dk_154 0 5 (dk_at dksX11_image_0 11 rfl rfl)
theorem dX11_image_14 : decode cX11_image 14 = .ok (.iconst 0, 1) := dk_3 (dk_at dksX11_image_0 14 rfl rfl)
theorem dX11_image_15 : decode cX11_image 15 = .ok (.ireturn, 1) := dk_172 (dk_at dksX11_image_0 15 rfl rfl)
theorem dX11_image_16 : decode cX11_image 16 = .ok (.iconst 0, 1) := dk_3 (dk_at dksX11_image_0 16 rfl rfl)
theorem dX11_image_17 : decode cX11_image 17 = .ok (.istore_n 2, 1) := dk_61 (dk_at dksX11_image_0 17 rfl rfl)
theorem dX11_image_18 : decode cX11_image 18 = .ok (.iload_n 2, 1) := dk_28 (dk_at dksX11_image_0 18 rfl rfl)
theorem dX11_image_19 : decode cX11_image 19 = .ok (.sipush 765, 3) := dk_17 2 253 (dk_at dksX11_image_0 19 rfl rfl)
theorem dX11_image_22 : decode cX11_image 22 = .ok (.if_icmp .ge 27, 3) := dk_162 0 27 (dk_at dksX11_image_1 0 rfl rfl)
theorem dX11_image_25 : decode cX11_image 25 = .ok (.aload_n 0, 1) := dk_42 (dk_at dksX11_image_1 3 rfl rfl)
theorem dX11_image_26 : decode cX11_image 26 = .ok (.getfield 106, 3) := dk_180 0 106 (dk_at dksX11_image_1 4 rfl rfl)
theorem dX11_image_29 : decode cX11_image 29 = .ok (.sipush 765, 3) := dk_17 2 253 (dk_at dksX11_image_1 7 rfl rfl)
theorem dX11_image_32 : decode cX11_image 32 = .ok (.iload_n 1, 1) := dk_27 (dk_at dksX11_image_1 10 rfl rfl)
theorem dX11_image_33 : decode cX11_image 33 = .ok (.imul, 1) := dk_104 (dk_at dksX11_image_1 11 rfl rfl)
theorem dX11_image_34 : decode cX11_image 34 = .ok (.iload_n 2, 1) := dk_28 (dk_at dksX11_image_1 12 rfl rfl)
theorem dX11_image_35 : decode cX11_image 35 = .ok (.iadd, 1) := dk_96 (dk_at dksX11_image_1 13 rfl rfl)
theorem dX11_image_36 : decode cX11_image 36 = .ok (.aload_n 0, 1) := dk_42 (dk_at dksX11_image_1 14 rfl rfl)
theorem dX11_image_37 : decode cX11_image 37 = .ok (.getfield 33, 3) := dk_180 0 33 (dk_at dksX11_image_1 15 rfl rfl)
theorem dX11_image_40 : decode cX11_image 40 = .ok (.iload_n 2, 1) := dk_28 (dk_at dksX11_image_1 18 rfl rfl)
theorem dX11_image_41 : decode cX11_image 41 = .ok (.iaload, 1) := dk_46 (dk_at dksX11_image_1 19 rfl rfl)
theorem dX11_image_42 : decode cX11_image 42 = .ok (.iastore, 1) := dk_79 (dk_at dksX11_image_1 20 rfl rfl)
theorem dX11_image_43 : decode cX11_image 43 = .ok (.iinc 2 1, 3) := dk_132 2 1 (dk_at dksX11_image_1 21 rfl rfl)
theorem dX11_image_46 : decode cX11_image 46 = .ok (.goto (-28), 3) := dk_167 255 228 (dk_at dksX11_image_2 0 rfl rfl)
theorem dX11_image_49 : decode cX11_image 49 = .ok (.iconst 0, 1) := dk_3 (dk_at dksX11_image_2 3 rfl rfl)
theorem dX11_image_50 : decode cX11_image 50 = .ok (.istore_n 2, 1) := dk_61 (dk_at dksX11_image_2 4 rfl rfl)
theorem dX11_image_51 : decode cX11_image 51 = .ok (.iload_n 2, 1) := dk_28 (dk_at dksX11_image_2 5 rfl rfl)
theorem dX11_image_52 : decode cX11_image 52 = .ok (.bipush 6, 2) := dk_16 6 (dk_at dksX11_image_2 6 rfl rfl)
theorem dX11_image_54 : decode cX11_image 54 = .ok (.if_icmp .ge 26, 3) := dk_162 0 26 (dk_at dksX11_image_2 8 rfl rfl)
theorem dX11_image_57 : decode cX11_image 57 = .ok (.aload_n 0, 1) := dk_42 (dk_at dksX11_image_2 11 rfl rfl)
theorem dX11_image_58 : decode cX11_image 58 = .ok (.getfield 109, 3) := dk_180 0 109 (dk_at dksX11_image_2 12 rfl rfl)
theorem dX11_image_61 : decode cX11_image 61 = .ok (.bipush 6, 2) := dk_16 6 (dk_at dksX11_image_2 15 rfl rfl)
theorem dX11_image_63 : decode cX11_image 63 = .ok (.iload_n 1, 1) := dk_27 (dk_at dksX11_image_2 17 rfl rfl)
theorem dX11_image_64 : decode cX11_image 64 = .ok (.imul, 1) := dk_104 (dk_at dksX11_image_2 18 rfl rfl)
theorem dX11_image_65 : decode cX11_image 65 = .ok (.iload_n 2, 1) := dk_28 (dk_at dksX11_image_2 19 rfl rfl)
theorem dX11_image_66 : decode cX11_image 66 = .ok (.iadd, 1) := dk_96 (dk_at dksX11_image_2 20 rfl rfl)
theorem dX11_image_67 : decode cX11_image 67 = .ok (.aload_n 0, 1) := dk_42 (dk_at dksX11_image_2 21 rfl rfl)
theorem dX11_image_68 : decode cX11_image 68 = .ok (.getfield 43, 3) := dk_180 0 43 (dk_at dksX11_image_3 0 rfl rfl)
theorem dX11_image_71 : decode cX11_image 71 = .ok (.iload_n 2, 1) := dk_28 (dk_at dksX11_image_3 3 rfl rfl)
theorem dX11_image_72 : decode cX11_image 72 = .ok (.laload, 1) := dk_47 (dk_at dksX11_image_3 4 rfl rfl)
theorem dX11_image_73 : decode cX11_image 73 = .ok (.lastore, 1) := dk_80 (dk_at dksX11_image_3 5 rfl rfl)
theorem dX11_image_74 : decode cX11_image 74 = .ok (.iinc 2 1, 3) := dk_132 2 1 (dk_at dksX11_image_3 6 rfl rfl)
theorem dX11_image_77 : decode cX11_image 77 = .ok (.goto (-26), 3) := dk_167 255 230 (dk_at dksX11_image_3 9 rfl rfl)
theorem dX11_image_80 : decode cX11_image 80 = .ok (.aload_n 0, 1) := dk_42 (dk_at dksX11_image_3 12 rfl rfl)
theorem dX11_image_81 : decode cX11_image 81 = .ok (.getfield 112, 3) := dk_180 0 112 (dk_at dksX11_image_3 13 rfl rfl)
theorem dX11_image_84 : decode cX11_image 84 = .ok (.iload_n 1, 1) := dk_27 (dk_at dksX11_image_3 16 rfl rfl)
theorem dX11_image_85 : decode cX11_image 85 = .ok (.iconst 1, 1) := dk_4 (dk_at dksX11_image_3 17 rfl rfl)
theorem dX11_image_86 : decode cX11_image 86 = .ok (.bastore, 1) := dk_84 (dk_at dksX11_image_3 18 rfl rfl)
theorem dX11_image_87 : decode cX11_image 87 = .ok (.iconst 1, 1) := dk_4 (dk_at dksX11_image_3 19 rfl rfl)
theorem dX11_image_88 : decode cX11_image 88 = .ok (.ireturn, 1) := dk_172 (dk_at dksX11_image_3 20 rfl rfl)
abbrev cX11_restore : ByteArray := prog_23_method_109_code
def yX11_restore : MethodName := ⟨RX11, "restore", "(I)Z"⟩
def dkwX11_restore_3 : List UInt8 := [180, 0, 109, 16, 6, 27, 104, 28, 96, 47, 80, 132, 2, 1, 167, 255, 230, 42, 3, 181, 0, 246, 4, 172]
abbrev dktX11_restore_3 : List UInt8 := dkwX11_restore_3 ++ []
def dkwX11_restore_2 : List UInt8 := [28, 96, 46, 79, 132, 2, 1, 167, 255, 228, 3, 61, 28, 16, 6, 162, 0, 26, 42, 180, 0, 43, 28, 42]
abbrev dktX11_restore_2 : List UInt8 := dkwX11_restore_2 ++ dktX11_restore_3
def dkwX11_restore_1 : List UInt8 := [172, 3, 61, 28, 17, 2, 253, 162, 0, 27, 42, 180, 0, 33, 28, 42, 180, 0, 106, 17, 2, 253, 27, 104]
abbrev dktX11_restore_1 : List UInt8 := dkwX11_restore_1 ++ dktX11_restore_2
def dkwX11_restore_0 : List UInt8 := [42, 3, 181, 0, 1, 27, 3, 4, 184, 0, 195, 153, 0, 12, 42, 180, 0, 112, 27, 51, 154, 0, 5, 3]
abbrev dktX11_restore_0 : List UInt8 := dkwX11_restore_0 ++ dktX11_restore_1
theorem dksX11_restore_0 : cX11_restore.data.toList.drop 0 = dktX11_restore_0 := by decide +kernel
theorem dksX11_restore_1 : cX11_restore.data.toList.drop 24 = dktX11_restore_1 := dk_seg dksX11_restore_0 24 rfl rfl
theorem dksX11_restore_2 : cX11_restore.data.toList.drop 48 = dktX11_restore_2 := dk_seg dksX11_restore_1 24 rfl rfl
theorem dksX11_restore_3 : cX11_restore.data.toList.drop 72 = dktX11_restore_3 := dk_seg dksX11_restore_2 24 rfl rfl
theorem dX11_restore_0 : decode cX11_restore 0 = .ok (.aload_n 0, 1) := dk_42 (dk_at dksX11_restore_0 0 rfl rfl)
theorem dX11_restore_1 : decode cX11_restore 1 = .ok (.iconst 0, 1) := dk_3 (dk_at dksX11_restore_0 1 rfl rfl)
theorem dX11_restore_2 : decode cX11_restore 2 = .ok (.putfield 1, 3) := dk_181 0 1 (dk_at dksX11_restore_0 2 rfl rfl)
theorem dX11_restore_5 : decode cX11_restore 5 = .ok (.iload_n 1, 1) := dk_27 (dk_at dksX11_restore_0 5 rfl rfl)
theorem dX11_restore_6 : decode cX11_restore 6 = .ok (.iconst 0, 1) := dk_3 (dk_at dksX11_restore_0 6 rfl rfl)
theorem dX11_restore_7 : decode cX11_restore 7 = .ok (.iconst 1, 1) := dk_4 (dk_at dksX11_restore_0 7 rfl rfl)
theorem dX11_restore_8 : decode cX11_restore 8 = .ok (.invokestatic 195, 3) := dk_184 0 195 (dk_at dksX11_restore_0 8 rfl rfl)
theorem dX11_restore_11 : decode cX11_restore 11 = .ok (.ifCond .eq 12, 3) := dk_153 0 12 (dk_at dksX11_restore_0 11 rfl rfl)
theorem dX11_restore_14 : decode cX11_restore 14 = .ok (.aload_n 0, 1) := dk_42 (dk_at dksX11_restore_0 14 rfl rfl)
theorem dX11_restore_15 : decode cX11_restore 15 = .ok (.getfield 112, 3) := dk_180 0 112 (dk_at dksX11_restore_0 15 rfl rfl)
theorem dX11_restore_18 : decode cX11_restore 18 = .ok (.iload_n 1, 1) := dk_27 (dk_at dksX11_restore_0 18 rfl rfl)
theorem dX11_restore_19 : decode cX11_restore 19 = .ok (.baload, 1) := dk_51 (dk_at dksX11_restore_0 19 rfl rfl)
theorem dX11_restore_20 : decode cX11_restore 20 = .ok (.ifCond .ne 5, 3) := dk_154 0 5 (dk_at dksX11_restore_0 20 rfl rfl)
theorem dX11_restore_23 : decode cX11_restore 23 = .ok (.iconst 0, 1) := dk_3 (dk_at dksX11_restore_0 23 rfl rfl)
theorem dX11_restore_24 : decode cX11_restore 24 = .ok (.ireturn, 1) := dk_172 (dk_at dksX11_restore_1 0 rfl rfl)
theorem dX11_restore_25 : decode cX11_restore 25 = .ok (.iconst 0, 1) := dk_3 (dk_at dksX11_restore_1 1 rfl rfl)
theorem dX11_restore_26 : decode cX11_restore 26 = .ok (.istore_n 2, 1) := dk_61 (dk_at dksX11_restore_1 2 rfl rfl)
theorem dX11_restore_27 : decode cX11_restore 27 = .ok (.iload_n 2, 1) := dk_28 (dk_at dksX11_restore_1 3 rfl rfl)
theorem dX11_restore_28 : decode cX11_restore 28 = .ok (.sipush 765, 3) := dk_17 2 253 (dk_at dksX11_restore_1 4 rfl rfl)
theorem dX11_restore_31 : decode cX11_restore 31 = .ok (.if_icmp .ge 27, 3) := dk_162 0 27 (dk_at dksX11_restore_1 7 rfl rfl)
theorem dX11_restore_34 : decode cX11_restore 34 = .ok (.aload_n 0, 1) := dk_42 (dk_at dksX11_restore_1 10 rfl rfl)
theorem dX11_restore_35 : decode cX11_restore 35 = .ok (.getfield 33, 3) := dk_180 0 33 (dk_at dksX11_restore_1 11 rfl rfl)
theorem dX11_restore_38 : decode cX11_restore 38 = .ok (.iload_n 2, 1) := dk_28 (dk_at dksX11_restore_1 14 rfl rfl)
theorem dX11_restore_39 : decode cX11_restore 39 = .ok (.aload_n 0, 1) := dk_42 (dk_at dksX11_restore_1 15 rfl rfl)
theorem dX11_restore_40 : decode cX11_restore 40 = .ok (.getfield 106, 3) := dk_180 0 106 (dk_at dksX11_restore_1 16 rfl rfl)
theorem dX11_restore_43 : decode cX11_restore 43 = .ok (.sipush 765, 3) := dk_17 2 253 (dk_at dksX11_restore_1 19 rfl rfl)
theorem dX11_restore_46 : decode cX11_restore 46 = .ok (.iload_n 1, 1) := dk_27 (dk_at dksX11_restore_1 22 rfl rfl)
theorem dX11_restore_47 : decode cX11_restore 47 = .ok (.imul, 1) := dk_104 (dk_at dksX11_restore_1 23 rfl rfl)
theorem dX11_restore_48 : decode cX11_restore 48 = .ok (.iload_n 2, 1) := dk_28 (dk_at dksX11_restore_2 0 rfl rfl)
theorem dX11_restore_49 : decode cX11_restore 49 = .ok (.iadd, 1) := dk_96 (dk_at dksX11_restore_2 1 rfl rfl)
theorem dX11_restore_50 : decode cX11_restore 50 = .ok (.iaload, 1) := dk_46 (dk_at dksX11_restore_2 2 rfl rfl)
theorem dX11_restore_51 : decode cX11_restore 51 = .ok (.iastore, 1) := dk_79 (dk_at dksX11_restore_2 3 rfl rfl)
theorem dX11_restore_52 : decode cX11_restore 52 = .ok (.iinc 2 1, 3) := dk_132 2 1 (dk_at dksX11_restore_2 4 rfl rfl)
theorem dX11_restore_55 : decode cX11_restore 55 = .ok (.goto (-28), 3) := dk_167 255 228 (dk_at dksX11_restore_2 7 rfl rfl)
theorem dX11_restore_58 : decode cX11_restore 58 = .ok (.iconst 0, 1) := dk_3 (dk_at dksX11_restore_2 10 rfl rfl)
theorem dX11_restore_59 : decode cX11_restore 59 = .ok (.istore_n 2, 1) := dk_61 (dk_at dksX11_restore_2 11 rfl rfl)
theorem dX11_restore_60 : decode cX11_restore 60 = .ok (.iload_n 2, 1) := dk_28 (dk_at dksX11_restore_2 12 rfl rfl)
theorem dX11_restore_61 : decode cX11_restore 61 = .ok (.bipush 6, 2) := dk_16 6 (dk_at dksX11_restore_2 13 rfl rfl)
theorem dX11_restore_63 : decode cX11_restore 63 = .ok (.if_icmp .ge 26, 3) := dk_162 0 26 (dk_at dksX11_restore_2 15 rfl rfl)
theorem dX11_restore_66 : decode cX11_restore 66 = .ok (.aload_n 0, 1) := dk_42 (dk_at dksX11_restore_2 18 rfl rfl)
theorem dX11_restore_67 : decode cX11_restore 67 = .ok (.getfield 43, 3) := dk_180 0 43 (dk_at dksX11_restore_2 19 rfl rfl)
theorem dX11_restore_70 : decode cX11_restore 70 = .ok (.iload_n 2, 1) := dk_28 (dk_at dksX11_restore_2 22 rfl rfl)
theorem dX11_restore_71 : decode cX11_restore 71 = .ok (.aload_n 0, 1) := dk_42 (dk_at dksX11_restore_2 23 rfl rfl)
theorem dX11_restore_72 : decode cX11_restore 72 = .ok (.getfield 109, 3) := dk_180 0 109 (dk_at dksX11_restore_3 0 rfl rfl)
theorem dX11_restore_75 : decode cX11_restore 75 = .ok (.bipush 6, 2) := dk_16 6 (dk_at dksX11_restore_3 3 rfl rfl)
theorem dX11_restore_77 : decode cX11_restore 77 = .ok (.iload_n 1, 1) := dk_27 (dk_at dksX11_restore_3 5 rfl rfl)
theorem dX11_restore_78 : decode cX11_restore 78 = .ok (.imul, 1) := dk_104 (dk_at dksX11_restore_3 6 rfl rfl)
theorem dX11_restore_79 : decode cX11_restore 79 = .ok (.iload_n 2, 1) := dk_28 (dk_at dksX11_restore_3 7 rfl rfl)
theorem dX11_restore_80 : decode cX11_restore 80 = .ok (.iadd, 1) := dk_96 (dk_at dksX11_restore_3 8 rfl rfl)
theorem dX11_restore_81 : decode cX11_restore 81 = .ok (.laload, 1) := dk_47 (dk_at dksX11_restore_3 9 rfl rfl)
theorem dX11_restore_82 : decode cX11_restore 82 = .ok (.lastore, 1) := dk_80 (dk_at dksX11_restore_3 10 rfl rfl)
theorem dX11_restore_83 : decode cX11_restore 83 = .ok (.iinc 2 1, 3) := dk_132 2 1 (dk_at dksX11_restore_3 11 rfl rfl)
theorem dX11_restore_86 : decode cX11_restore 86 = .ok (.goto (-26), 3) := dk_167 255 230 (dk_at dksX11_restore_3 14 rfl rfl)
theorem dX11_restore_89 : decode cX11_restore 89 = .ok (.aload_n 0, 1) := dk_42 (dk_at dksX11_restore_3 17 rfl rfl)
theorem dX11_restore_90 : decode cX11_restore 90 = .ok (.iconst 0, 1) := dk_3 (dk_at dksX11_restore_3 18 rfl rfl)
theorem dX11_restore_91 : decode cX11_restore 91 = .ok (.putfield 246, 3) := dk_181 0 246 (dk_at dksX11_restore_3 19 rfl rfl)
theorem dX11_restore_94 : decode cX11_restore 94 = .ok (.iconst 1, 1) := dk_4 (dk_at dksX11_restore_3 22 rfl rfl)
theorem dX11_restore_95 : decode cX11_restore 95 = .ok (.ireturn, 1) := dk_172 (dk_at dksX11_restore_3 23 rfl rfl)
abbrev cX11_count : ByteArray := prog_23_method_110_code
def yX11_count : MethodName := ⟨RX11, "count", "(I)I"⟩
def dkwX11_count_1 : List UInt8 := [153, 0, 12, 42, 180, 0, 33, 27, 46, 167, 0, 4, 2, 172]
abbrev dktX11_count_1 : List UInt8 := dkwX11_count_1 ++ []
def dkwX11_count_0 : List UInt8 := [42, 3, 181, 0, 1, 27, 7, 160, 0, 10, 42, 180, 0, 7, 167, 0, 22, 27, 3, 6, 184, 0, 195]
abbrev dktX11_count_0 : List UInt8 := dkwX11_count_0 ++ dktX11_count_1
theorem dksX11_count_0 : cX11_count.data.toList.drop 0 = dktX11_count_0 := by decide +kernel
theorem dksX11_count_1 : cX11_count.data.toList.drop 23 = dktX11_count_1 := dk_seg dksX11_count_0 23 rfl rfl
theorem dX11_count_0 : decode cX11_count 0 = .ok (.aload_n 0, 1) := dk_42 (dk_at dksX11_count_0 0 rfl rfl)
theorem dX11_count_1 : decode cX11_count 1 = .ok (.iconst 0, 1) := dk_3 (dk_at dksX11_count_0 1 rfl rfl)
theorem dX11_count_2 : decode cX11_count 2 = .ok (.putfield 1, 3) := dk_181 0 1 (dk_at dksX11_count_0 2 rfl rfl)
theorem dX11_count_5 : decode cX11_count 5 = .ok (.iload_n 1, 1) := dk_27 (dk_at dksX11_count_0 5 rfl rfl)
theorem dX11_count_6 : decode cX11_count 6 = .ok (.iconst 4, 1) := dk_7 (dk_at dksX11_count_0 6 rfl rfl)
theorem dX11_count_7 : decode cX11_count 7 = .ok (.if_icmp .ne 10, 3) := dk_160 0 10 (dk_at dksX11_count_0 7 rfl rfl)
theorem dX11_count_10 : decode cX11_count 10 = .ok (.aload_n 0, 1) := dk_42 (dk_at dksX11_count_0 10 rfl rfl)
theorem dX11_count_11 : decode cX11_count 11 = .ok (.getfield 7, 3) := dk_180 0 7 (dk_at dksX11_count_0 11 rfl rfl)
theorem dX11_count_14 : decode cX11_count 14 = .ok (.goto 22, 3) := dk_167 0 22 (dk_at dksX11_count_0 14 rfl rfl)
theorem dX11_count_17 : decode cX11_count 17 = .ok (.iload_n 1, 1) := dk_27 (dk_at dksX11_count_0 17 rfl rfl)
theorem dX11_count_18 : decode cX11_count 18 = .ok (.iconst 0, 1) := dk_3 (dk_at dksX11_count_0 18 rfl rfl)
theorem dX11_count_19 : decode cX11_count 19 = .ok (.iconst 3, 1) := dk_6 (dk_at dksX11_count_0 19 rfl rfl)
theorem dX11_count_20 : decode cX11_count 20 = .ok (.invokestatic 195, 3) := dk_184 0 195 (dk_at dksX11_count_0 20 rfl rfl)
theorem dX11_count_23 : decode cX11_count 23 = .ok (.ifCond .eq 12, 3) := dk_153 0 12 (dk_at dksX11_count_1 0 rfl rfl)
theorem dX11_count_26 : decode cX11_count 26 = .ok (.aload_n 0, 1) := dk_42 (dk_at dksX11_count_1 3 rfl rfl)
theorem dX11_count_27 : decode cX11_count 27 = .ok (.getfield 33, 3) := dk_180 0 33 (dk_at dksX11_count_1 4 rfl rfl)
theorem dX11_count_30 : decode cX11_count 30 = .ok (.iload_n 1, 1) := dk_27 (dk_at dksX11_count_1 7 rfl rfl)
theorem dX11_count_31 : decode cX11_count 31 = .ok (.iaload, 1) := dk_46 (dk_at dksX11_count_1 8 rfl rfl)
theorem dX11_count_32 : decode cX11_count 32 = .ok (.goto 4, 3) := dk_167 0 4 (dk_at dksX11_count_1 9 rfl rfl)
theorem dX11_count_35 : decode cX11_count 35 = .ok (.iconst (-1), 1) := dk_2 (dk_at dksX11_count_1 12 rfl rfl)
theorem dX11_count_36 : decode cX11_count 36 = .ok (.ireturn, 1) := dk_172 (dk_at dksX11_count_1 13 rfl rfl)
theorem q134 : (Jvm.Cond.initialized "SevenTableModel") ∈ lw_all := lw_g (lw_at lw_m1 17 rfl) rfl
theorem q1096 : (Jvm.Cond.selects "SevenTableModel" ({ cls := "java/lang/Object", name := "equals", desc := "(Ljava/lang/Object;)Z" } : Jvm.MethodName) ({ cls := "java/lang/Object", name := "equals", desc := "(Ljava/lang/Object;)Z" } : Jvm.MethodName)) ∈ lw_all := lw_g (lw_at lw_m5 19 rfl) rfl
theorem q1141 : (Jvm.Cond.selects "SevenTableModel" ({ cls := "java/lang/Object", name := "getClass", desc := "()Ljava/lang/Class;" } : Jvm.MethodName) ({ cls := "java/lang/Object", name := "getClass", desc := "()Ljava/lang/Class;" } : Jvm.MethodName)) ∈ lw_all := lw_g (lw_at lw_m5 64 rfl) rfl
theorem q1819 : (Jvm.Cond.instanceMethod ({ cls := "SevenTableModel", name := "thrown", desc := "()I" } : Jvm.MethodName)) ∈ lw_all := lw_g (lw_at lw_m8 22 rfl) rfl
theorem q1820 : (Jvm.Cond.selects "SevenTableModel" ({ cls := "SevenTableModel", name := "thrown", desc := "()I" } : Jvm.MethodName) ({ cls := "SevenTableModel", name := "thrown", desc := "()I" } : Jvm.MethodName)) ∈ lw_all := lw_g (lw_at lw_m8 23 rfl) rfl
theorem q1821 : (Jvm.Cond.code ({ cls := "SevenTableModel", name := "thrown", desc := "()I" } : Jvm.MethodName) prog_23_method_1_code (1 : Nat) (Option.some Jvm.ClassFile.FieldType.int)) ∈ lw_all := lw_g (lw_at lw_m8 24 rfl) rfl
theorem q1823 : (Jvm.Cond.instanceMethod ({ cls := "SevenTableModel", name := "feed", desc := "(IIIII)I" } : Jvm.MethodName)) ∈ lw_all := lw_g (lw_at lw_m8 26 rfl) rfl
theorem q1824 : (Jvm.Cond.selects "SevenTableModel" ({ cls := "SevenTableModel", name := "feed", desc := "(IIIII)I" } : Jvm.MethodName) ({ cls := "SevenTableModel", name := "feed", desc := "(IIIII)I" } : Jvm.MethodName)) ∈ lw_all := lw_g (lw_at lw_m8 27 rfl) rfl
theorem q1825 : (Jvm.Cond.code ({ cls := "SevenTableModel", name := "feed", desc := "(IIIII)I" } : Jvm.MethodName) prog_23_method_3_code (6 : Nat) (Option.some Jvm.ClassFile.FieldType.int)) ∈ lw_all := lw_g (lw_at lw_m8 28 rfl) rfl
theorem q1826 : (Jvm.Cond.methodLink "SevenTableModel" (10 : Nat) ({ cls := "SevenTableModel", name := "four", desc := "(I)V" } : Jvm.MethodName)) ∈ lw_all := lw_g (lw_at lw_m8 29 rfl) rfl
theorem q1827 : (Jvm.Cond.privateMethod ({ cls := "SevenTableModel", name := "four", desc := "(I)V" } : Jvm.MethodName)) ∈ lw_tbl := lw_at lw_m8 30 rfl
theorem q1828 : (Jvm.Cond.instanceMethod ({ cls := "SevenTableModel", name := "four", desc := "(I)V" } : Jvm.MethodName)) ∈ lw_all := lw_g (lw_at lw_m8 31 rfl) rfl
theorem q1829 : (Jvm.Cond.instantiable "SevenTableModel" (65 : Nat)) ∈ lw_all := lw_g (lw_at lw_m8 32 rfl) rfl
theorem q1830 : (Jvm.Cond.code ({ cls := "SevenTableModel", name := "four", desc := "(I)V" } : Jvm.MethodName) prog_23_method_4_code (3 : Nat) (Option.none : Option Jvm.ClassFile.FieldType)) ∈ lw_all := lw_g (lw_at lw_m8 33 rfl) rfl
theorem q1832 : (Jvm.Cond.instanceMethod ({ cls := "SevenTableModel", name := "end", desc := "(I)Z" } : Jvm.MethodName)) ∈ lw_all := lw_g (lw_at lw_m8 35 rfl) rfl
theorem q1833 : (Jvm.Cond.selects "SevenTableModel" ({ cls := "SevenTableModel", name := "end", desc := "(I)Z" } : Jvm.MethodName) ({ cls := "SevenTableModel", name := "end", desc := "(I)Z" } : Jvm.MethodName)) ∈ lw_all := lw_g (lw_at lw_m8 36 rfl) rfl
theorem q1834 : (Jvm.Cond.code ({ cls := "SevenTableModel", name := "end", desc := "(I)Z" } : Jvm.MethodName) prog_23_method_5_code (2 : Nat) (Option.some Jvm.ClassFile.FieldType.boolean)) ∈ lw_all := lw_g (lw_at lw_m8 37 rfl) rfl
theorem q1837 : (Jvm.Cond.instanceMethod ({ cls := "SevenTableModel", name := "<init>", desc := "()V" } : Jvm.MethodName)) ∈ lw_all := lw_g (lw_at lw_m8 40 rfl) rfl
theorem q1838 : (Jvm.Cond.code ({ cls := "SevenTableModel", name := "<init>", desc := "()V" } : Jvm.MethodName) prog_23_method_10_code (1 : Nat) (Option.none : Option Jvm.ClassFile.FieldType)) ∈ lw_all := lw_g (lw_at lw_m8 41 rfl) rfl
theorem q1839 : (Jvm.Cond.methodLink "SevenTableModel" (27 : Nat) ({ cls := "java/lang/Object", name := "<init>", desc := "()V" } : Jvm.MethodName)) ∈ lw_all := lw_g (lw_at lw_m8 42 rfl) rfl
theorem q1840 : (Jvm.Cond.constant "SevenTableModel" (77 : Nat) (156250 : Int32)) ∈ lw_all := lw_g (lw_at lw_m8 43 rfl) rfl
theorem q1841 : (Jvm.Cond.constantLong "SevenTableModel" (115 : Nat) (461330343027 : Int64)) ∈ lw_all := lw_g (lw_at lw_m8 44 rfl) rfl
theorem q1842 : (Jvm.Cond.constantLong "SevenTableModel" (117 : Nat) (123581014175598 : Int64)) ∈ lw_all := lw_g (lw_at lw_m8 45 rfl) rfl
theorem q1843 : (Jvm.Cond.constantLong "SevenTableModel" (119 : Nat) (1751215716 : Int64)) ∈ lw_all := lw_g (lw_at lw_m8 46 rfl) rfl
theorem q1844 : (Jvm.Cond.constantLong "SevenTableModel" (121 : Nat) (1751474544 : Int64)) ∈ lw_all := lw_g (lw_at lw_m8 47 rfl) rfl
theorem q1845 : (Jvm.Cond.constantLong "SevenTableModel" (123 : Nat) (418346264942 : Int64)) ∈ lw_all := lw_g (lw_at lw_m8 48 rfl) rfl
theorem q1846 : (Jvm.Cond.constantLong "SevenTableModel" (125 : Nat) (125779835448428 : Int64)) ∈ lw_all := lw_g (lw_at lw_m8 49 rfl) rfl
theorem q1847 : (Jvm.Cond.constantLong "SevenTableModel" (127 : Nat) (1634954099 : Int64)) ∈ lw_all := lw_g (lw_at lw_m8 50 rfl) rfl
theorem q1848 : (Jvm.Cond.constantLong "SevenTableModel" (129 : Nat) (444150998387 : Int64)) ∈ lw_all := lw_g (lw_at lw_m8 51 rfl) rfl
theorem q1849 : (Jvm.Cond.constantLong "SevenTableModel" (131 : Nat) (28271 : Int64)) ∈ lw_all := lw_g (lw_at lw_m8 52 rfl) rfl
theorem q1850 : (Jvm.Cond.constantLong "SevenTableModel" (133 : Nat) (28530 : Int64)) ∈ lw_all := lw_g (lw_at lw_m8 53 rfl) rfl
theorem q1851 : (Jvm.Cond.constantLong "SevenTableModel" (135 : Nat) (6385252 : Int64)) ∈ lw_all := lw_g (lw_at lw_m8 54 rfl) rfl
theorem q1852 : (Jvm.Cond.constantLong "SevenTableModel" (137 : Nat) (7237492 : Int64)) ∈ lw_all := lw_g (lw_at lw_m8 55 rfl) rfl
theorem q1853 : (Jvm.Cond.constantLong "SevenTableModel" (139 : Nat) (1651470187 : Int64)) ∈ lw_all := lw_g (lw_at lw_m8 56 rfl) rfl
theorem q1854 : (Jvm.Cond.constantLong "SevenTableModel" (141 : Nat) (461414299502 : Int64)) ∈ lw_all := lw_g (lw_at lw_m8 57 rfl) rfl
theorem q1855 : (Jvm.Cond.constantLong "SevenTableModel" (143 : Nat) (1751477348 : Int64)) ∈ lw_all := lw_g (lw_at lw_m8 58 rfl) rfl
theorem q1856 : (Jvm.Cond.constantLong "SevenTableModel" (145 : Nat) (448311223411 : Int64)) ∈ lw_all := lw_g (lw_at lw_m8 59 rfl) rfl
theorem q1857 : (Jvm.Cond.constantLong "SevenTableModel" (147 : Nat) (114784635741540 : Int64)) ∈ lw_all := lw_g (lw_at lw_m8 60 rfl) rfl
theorem q1858 : (Jvm.Cond.constantLong "SevenTableModel" (149 : Nat) (1836020596 : Int64)) ∈ lw_all := lw_g (lw_at lw_m8 61 rfl) rfl
theorem q1859 : (Jvm.Cond.constantLong "SevenTableModel" (151 : Nat) (482854658917 : Int64)) ∈ lw_all := lw_g (lw_at lw_m8 62 rfl) rfl
theorem q1860 : (Jvm.Cond.fieldLink "SevenTableModel" (1 : Nat) "SevenTableModel" "thrown" "I") ∈ lw_all := lw_g (lw_at lw_m8 63 rfl) rfl
theorem q1861 : (Jvm.Cond.fieldLink "SevenTableModel" (14 : Nat) "SevenTableModel" "tape" "[B") ∈ lw_all := lw_g (lw_at lw_m8 64 rfl) rfl
theorem q1862 : (Jvm.Cond.fieldLink "SevenTableModel" (7 : Nat) "SevenTableModel" "length" "I") ∈ lw_all := lw_g (lw_at lw_m8 65 rfl) rfl
theorem q1863 : (Jvm.Cond.fieldLink "SevenTableModel" (18 : Nat) "SevenTableModel" "size" "I") ∈ lw_all := lw_g (lw_at lw_m8 66 rfl) rfl
theorem q1864 : (Jvm.Cond.fieldLink "SevenTableModel" (21 : Nat) "SevenTableModel" "p" "I") ∈ lw_all := lw_g (lw_at lw_m8 67 rfl) rfl
theorem q1865 : (Jvm.Cond.fieldLink "SevenTableModel" (24 : Nat) "SevenTableModel" "limit" "I") ∈ lw_all := lw_g (lw_at lw_m8 68 rfl) rfl
theorem q1866 : (Jvm.Cond.fieldLink "SevenTableModel" (33 : Nat) "SevenTableModel" "s" "[I") ∈ lw_all := lw_g (lw_at lw_m8 69 rfl) rfl
theorem q1867 : (Jvm.Cond.fieldLink "SevenTableModel" (37 : Nat) "SevenTableModel" "h" "[I") ∈ lw_all := lw_g (lw_at lw_m8 70 rfl) rfl
theorem q1868 : (Jvm.Cond.fieldLink "SevenTableModel" (40 : Nat) "SevenTableModel" "read" "[I") ∈ lw_all := lw_g (lw_at lw_m8 71 rfl) rfl
theorem q1869 : (Jvm.Cond.fieldLink "SevenTableModel" (43 : Nat) "SevenTableModel" "names" "[J") ∈ lw_all := lw_g (lw_at lw_m8 72 rfl) rfl
theorem q1870 : (Jvm.Cond.fieldLink "SevenTableModel" (47 : Nat) "SevenTableModel" "reserved" "[J") ∈ lw_all := lw_g (lw_at lw_m8 73 rfl) rfl
theorem q1871 : (Jvm.Cond.fieldLink "SevenTableModel" (163 : Nat) "SevenTableModel" "token" "I") ∈ lw_all := lw_g (lw_at lw_m8 74 rfl) rfl
theorem q1872 : (Jvm.Cond.fieldLink "SevenTableModel" (157 : Nat) "SevenTableModel" "at" "I") ∈ lw_all := lw_g (lw_at lw_m8 75 rfl) rfl
theorem q1873 : (Jvm.Cond.fieldLink "SevenTableModel" (160 : Nat) "SevenTableModel" "span" "I") ∈ lw_all := lw_g (lw_at lw_m8 76 rfl) rfl
theorem q1874 : (Jvm.Cond.fieldLink "SevenTableModel" (173 : Nat) "SevenTableModel" "number" "I") ∈ lw_all := lw_g (lw_at lw_m8 77 rfl) rfl
theorem q1875 : (Jvm.Cond.fieldLink "SevenTableModel" (180 : Nat) "SevenTableModel" "fault" "I") ∈ lw_all := lw_g (lw_at lw_m8 78 rfl) rfl
theorem q1876 : (Jvm.Cond.fieldLink "SevenTableModel" (183 : Nat) "SevenTableModel" "faultAt" "I") ∈ lw_all := lw_g (lw_at lw_m8 79 rfl) rfl
theorem q1877 : (Jvm.Cond.fieldLink "SevenTableModel" (176 : Nat) "SevenTableModel" "word" "J") ∈ lw_all := lw_g (lw_at lw_m8 80 rfl) rfl
theorem q1878 : (Jvm.Cond.fieldLink "SevenTableModel" (199 : Nat) "SevenTableModel" "got" "I") ∈ lw_all := lw_g (lw_at lw_m8 81 rfl) rfl
theorem q1879 : (Jvm.Cond.fieldLink "SevenTableModel" (237 : Nat) "SevenTableModel" "lines" "I") ∈ lw_all := lw_g (lw_at lw_m8 82 rfl) rfl
theorem q1880 : (Jvm.Cond.fieldLink "SevenTableModel" (206 : Nat) "SevenTableModel" "hasKinds" "Z") ∈ lw_all := lw_g (lw_at lw_m8 83 rfl) rfl
theorem q1881 : (Jvm.Cond.fieldLink "SevenTableModel" (228 : Nat) "SevenTableModel" "hasAgain" "Z") ∈ lw_all := lw_g (lw_at lw_m8 84 rfl) rfl
theorem q1882 : (Jvm.Cond.fieldLink "SevenTableModel" (231 : Nat) "SevenTableModel" "hasRefill" "Z") ∈ lw_all := lw_g (lw_at lw_m8 85 rfl) rfl
theorem q1883 : (Jvm.Cond.fieldLink "SevenTableModel" (50 : Nat) "SevenTableModel" "askedAt" "[I") ∈ lw_all := lw_g (lw_at lw_m8 86 rfl) rfl
theorem q1884 : (Jvm.Cond.fieldLink "SevenTableModel" (310 : Nat) "SevenTableModel" "hasAsked" "Z") ∈ lw_all := lw_g (lw_at lw_m8 87 rfl) rfl
theorem q1885 : (Jvm.Cond.fieldLink "SevenTableModel" (53 : Nat) "SevenTableModel" "undone" "[I") ∈ lw_all := lw_g (lw_at lw_m8 88 rfl) rfl
theorem q1886 : (Jvm.Cond.fieldLink "SevenTableModel" (56 : Nat) "SevenTableModel" "before" "[I") ∈ lw_all := lw_g (lw_at lw_m8 89 rfl) rfl
theorem q1887 : (Jvm.Cond.fieldLink "SevenTableModel" (246 : Nat) "SevenTableModel" "undoMany" "I") ∈ lw_all := lw_g (lw_at lw_m8 90 rfl) rfl
theorem q1888 : (Jvm.Cond.fieldLink "SevenTableModel" (59 : Nat) "SevenTableModel" "left" "[I") ∈ lw_all := lw_g (lw_at lw_m8 91 rfl) rfl
theorem q1889 : (Jvm.Cond.fieldLink "SevenTableModel" (62 : Nat) "SevenTableModel" "kindAt" "[I") ∈ lw_all := lw_g (lw_at lw_m8 92 rfl) rfl
theorem q1890 : (Jvm.Cond.fieldLink "SevenTableModel" (65 : Nat) "SevenTableModel" "step" "[I") ∈ lw_all := lw_g (lw_at lw_m8 93 rfl) rfl
theorem q1891 : (Jvm.Cond.fieldLink "SevenTableModel" (68 : Nat) "SevenTableModel" "ways" "[J") ∈ lw_all := lw_g (lw_at lw_m8 94 rfl) rfl
theorem q1892 : (Jvm.Cond.fieldLink "SevenTableModel" (71 : Nat) "SevenTableModel" "waysOn" "[J") ∈ lw_all := lw_g (lw_at lw_m8 95 rfl) rfl
theorem q1893 : (Jvm.Cond.fieldLink "SevenTableModel" (320 : Nat) "SevenTableModel" "leftKinds" "I") ∈ lw_all := lw_g (lw_at lw_m8 96 rfl) rfl
theorem q1894 : (Jvm.Cond.fieldLink "SevenTableModel" (323 : Nat) "SevenTableModel" "leftCards" "I") ∈ lw_all := lw_g (lw_at lw_m8 97 rfl) rfl
theorem q1895 : (Jvm.Cond.fieldLink "SevenTableModel" (326 : Nat) "SevenTableModel" "slots" "I") ∈ lw_all := lw_g (lw_at lw_m8 98 rfl) rfl
theorem q1896 : (Jvm.Cond.fieldLink "SevenTableModel" (74 : Nat) "SevenTableModel" "sweepRow" "[I") ∈ lw_all := lw_g (lw_at lw_m8 99 rfl) rfl
theorem q1897 : (Jvm.Cond.fieldLink "SevenTableModel" (349 : Nat) "SevenTableModel" "sweepMany" "I") ∈ lw_all := lw_g (lw_at lw_m8 100 rfl) rfl
theorem q1898 : (Jvm.Cond.fieldLink "SevenTableModel" (78 : Nat) "SevenTableModel" "values" "[I") ∈ lw_all := lw_g (lw_at lw_m8 101 rfl) rfl
theorem q1899 : (Jvm.Cond.fieldLink "SevenTableModel" (81 : Nat) "SevenTableModel" "path" "[I") ∈ lw_all := lw_g (lw_at lw_m8 102 rfl) rfl
theorem q1900 : (Jvm.Cond.fieldLink "SevenTableModel" (84 : Nat) "SevenTableModel" "mine" "[I") ∈ lw_all := lw_g (lw_at lw_m8 103 rfl) rfl
theorem q1901 : (Jvm.Cond.fieldLink "SevenTableModel" (87 : Nat) "SevenTableModel" "hers" "[I") ∈ lw_all := lw_g (lw_at lw_m8 104 rfl) rfl
theorem q1902 : (Jvm.Cond.fieldLink "SevenTableModel" (355 : Nat) "SevenTableModel" "pos" "I") ∈ lw_all := lw_g (lw_at lw_m8 105 rfl) rfl
theorem q1903 : (Jvm.Cond.fieldLink "SevenTableModel" (358 : Nat) "SevenTableModel" "vain" "I") ∈ lw_all := lw_g (lw_at lw_m8 106 rfl) rfl
theorem q1904 : (Jvm.Cond.fieldLink "SevenTableModel" (375 : Nat) "SevenTableModel" "toCode" "I") ∈ lw_all := lw_g (lw_at lw_m8 107 rfl) rfl
theorem q1905 : (Jvm.Cond.fieldLink "SevenTableModel" (372 : Nat) "SevenTableModel" "toGain" "I") ∈ lw_all := lw_g (lw_at lw_m8 108 rfl) rfl
theorem q1906 : (Jvm.Cond.fieldLink "SevenTableModel" (378 : Nat) "SevenTableModel" "toSign" "I") ∈ lw_all := lw_g (lw_at lw_m8 109 rfl) rfl
theorem q1907 : (Jvm.Cond.fieldLink "SevenTableModel" (391 : Nat) "SevenTableModel" "openFirst" "I") ∈ lw_all := lw_g (lw_at lw_m8 110 rfl) rfl
theorem q1908 : (Jvm.Cond.fieldLink "SevenTableModel" (90 : Nat) "SevenTableModel" "rules" "[I") ∈ lw_all := lw_g (lw_at lw_m8 111 rfl) rfl
theorem q1909 : (Jvm.Cond.fieldLink "SevenTableModel" (413 : Nat) "SevenTableModel" "seed" "I") ∈ lw_all := lw_g (lw_at lw_m8 112 rfl) rfl
theorem q1910 : (Jvm.Cond.fieldLink "SevenTableModel" (93 : Nat) "SevenTableModel" "pack" "[I") ∈ lw_all := lw_g (lw_at lw_m8 113 rfl) rfl
theorem q1911 : (Jvm.Cond.fieldLink "SevenTableModel" (426 : Nat) "SevenTableModel" "askedSum" "I") ∈ lw_all := lw_g (lw_at lw_m8 114 rfl) rfl
theorem q1912 : (Jvm.Cond.fieldLink "SevenTableModel" (439 : Nat) "SevenTableModel" "told" "I") ∈ lw_all := lw_g (lw_at lw_m8 115 rfl) rfl
theorem q1913 : (Jvm.Cond.fieldLink "SevenTableModel" (96 : Nat) "SevenTableModel" "heardAt" "[I") ∈ lw_all := lw_g (lw_at lw_m8 116 rfl) rfl
theorem q1914 : (Jvm.Cond.fieldLink "SevenTableModel" (445 : Nat) "SevenTableModel" "hasHeard" "Z") ∈ lw_all := lw_g (lw_at lw_m8 117 rfl) rfl
theorem q1915 : (Jvm.Cond.fieldLink "SevenTableModel" (99 : Nat) "SevenTableModel" "stack" "[I") ∈ lw_all := lw_g (lw_at lw_m8 118 rfl) rfl
theorem q1916 : (Jvm.Cond.fieldLink "SevenTableModel" (448 : Nat) "SevenTableModel" "codes" "I") ∈ lw_all := lw_g (lw_at lw_m8 119 rfl) rfl
theorem q1917 : (Jvm.Cond.fieldLink "SevenTableModel" (464 : Nat) "SevenTableModel" "ones" "I") ∈ lw_all := lw_g (lw_at lw_m8 120 rfl) rfl
theorem q1918 : (Jvm.Cond.fieldLink "SevenTableModel" (451 : Nat) "SevenTableModel" "top" "I") ∈ lw_all := lw_g (lw_at lw_m8 121 rfl) rfl
theorem q1919 : (Jvm.Cond.fieldLink "SevenTableModel" (458 : Nat) "SevenTableModel" "deep" "I") ∈ lw_all := lw_g (lw_at lw_m8 122 rfl) rfl
theorem q1920 : (Jvm.Cond.fieldLink "SevenTableModel" (467 : Nat) "SevenTableModel" "isWhole" "Z") ∈ lw_all := lw_g (lw_at lw_m8 123 rfl) rfl
theorem q1921 : (Jvm.Cond.fieldLink "SevenTableModel" (102 : Nat) "SevenTableModel" "truths" "[Z") ∈ lw_all := lw_g (lw_at lw_m8 124 rfl) rfl
theorem q1922 : (Jvm.Cond.fieldLink "SevenTableModel" (106 : Nat) "SevenTableModel" "kept" "[I") ∈ lw_all := lw_g (lw_at lw_m8 125 rfl) rfl
theorem q1923 : (Jvm.Cond.fieldLink "SevenTableModel" (109 : Nat) "SevenTableModel" "namesKept" "[J") ∈ lw_all := lw_g (lw_at lw_m8 126 rfl) rfl
theorem q1924 : (Jvm.Cond.fieldLink "SevenTableModel" (112 : Nat) "SevenTableModel" "isKept" "[Z") ∈ lw_all := lw_g (lw_at lw_m8 127 rfl) rfl
theorem q1925 : (Jvm.Cond.lays "SevenTableModel" "SevenTableModel" "thrown" "I") ∈ lw_all := lw_g (lw_at lw_m8 128 rfl) rfl
theorem q1926 : (Jvm.Cond.soleField "SevenTableModel" "thrown") ∈ lw_all := lw_g (lw_at lw_m8 129 rfl) rfl
theorem q1927 : (Jvm.Cond.laysFinal "SevenTableModel" "SevenTableModel" "tape" "[B") ∈ lw_all := lw_g (lw_at lw_m8 130 rfl) rfl
theorem q1928 : (Jvm.Cond.soleField "SevenTableModel" "tape") ∈ lw_all := lw_g (lw_at lw_m8 131 rfl) rfl
theorem q1929 : (Jvm.Cond.lays "SevenTableModel" "SevenTableModel" "length" "I") ∈ lw_all := lw_g (lw_at lw_m8 132 rfl) rfl
theorem q1930 : (Jvm.Cond.soleField "SevenTableModel" "length") ∈ lw_all := lw_g (lw_at lw_m8 133 rfl) rfl
theorem q1931 : (Jvm.Cond.lays "SevenTableModel" "SevenTableModel" "size" "I") ∈ lw_all := lw_g (lw_at lw_m8 134 rfl) rfl
theorem q1932 : (Jvm.Cond.soleField "SevenTableModel" "size") ∈ lw_all := lw_g (lw_at lw_m8 135 rfl) rfl
theorem q1933 : (Jvm.Cond.lays "SevenTableModel" "SevenTableModel" "p" "I") ∈ lw_all := lw_g (lw_at lw_m8 136 rfl) rfl
theorem q1934 : (Jvm.Cond.soleField "SevenTableModel" "p") ∈ lw_all := lw_g (lw_at lw_m8 137 rfl) rfl
theorem q1935 : (Jvm.Cond.lays "SevenTableModel" "SevenTableModel" "limit" "I") ∈ lw_all := lw_g (lw_at lw_m8 138 rfl) rfl
theorem q1936 : (Jvm.Cond.soleField "SevenTableModel" "limit") ∈ lw_all := lw_g (lw_at lw_m8 139 rfl) rfl
theorem q1937 : (Jvm.Cond.laysFinal "SevenTableModel" "SevenTableModel" "s" "[I") ∈ lw_all := lw_g (lw_at lw_m8 140 rfl) rfl
theorem q1938 : (Jvm.Cond.soleField "SevenTableModel" "s") ∈ lw_all := lw_g (lw_at lw_m8 141 rfl) rfl
theorem q1939 : (Jvm.Cond.laysFinal "SevenTableModel" "SevenTableModel" "h" "[I") ∈ lw_all := lw_g (lw_at lw_m8 142 rfl) rfl
theorem q1940 : (Jvm.Cond.soleField "SevenTableModel" "h") ∈ lw_all := lw_g (lw_at lw_m8 143 rfl) rfl
theorem q1941 : (Jvm.Cond.laysFinal "SevenTableModel" "SevenTableModel" "read" "[I") ∈ lw_all := lw_g (lw_at lw_m8 144 rfl) rfl
theorem q1942 : (Jvm.Cond.soleField "SevenTableModel" "read") ∈ lw_all := lw_g (lw_at lw_m8 145 rfl) rfl
theorem q1943 : (Jvm.Cond.laysFinal "SevenTableModel" "SevenTableModel" "names" "[J") ∈ lw_all := lw_g (lw_at lw_m8 146 rfl) rfl
theorem q1944 : (Jvm.Cond.soleField "SevenTableModel" "names") ∈ lw_all := lw_g (lw_at lw_m8 147 rfl) rfl
theorem q1945 : (Jvm.Cond.laysFinal "SevenTableModel" "SevenTableModel" "reserved" "[J") ∈ lw_all := lw_g (lw_at lw_m8 148 rfl) rfl
theorem q1946 : (Jvm.Cond.soleField "SevenTableModel" "reserved") ∈ lw_all := lw_g (lw_at lw_m8 149 rfl) rfl
theorem q1947 : (Jvm.Cond.lays "SevenTableModel" "SevenTableModel" "token" "I") ∈ lw_all := lw_g (lw_at lw_m8 150 rfl) rfl
theorem q1948 : (Jvm.Cond.soleField "SevenTableModel" "token") ∈ lw_all := lw_g (lw_at lw_m8 151 rfl) rfl
theorem q1949 : (Jvm.Cond.lays "SevenTableModel" "SevenTableModel" "at" "I") ∈ lw_all := lw_g (lw_at lw_m8 152 rfl) rfl
theorem q1950 : (Jvm.Cond.soleField "SevenTableModel" "at") ∈ lw_all := lw_g (lw_at lw_m8 153 rfl) rfl
theorem q1951 : (Jvm.Cond.lays "SevenTableModel" "SevenTableModel" "span" "I") ∈ lw_all := lw_g (lw_at lw_m8 154 rfl) rfl
theorem q1952 : (Jvm.Cond.soleField "SevenTableModel" "span") ∈ lw_all := lw_g (lw_at lw_m8 155 rfl) rfl
theorem q1953 : (Jvm.Cond.lays "SevenTableModel" "SevenTableModel" "number" "I") ∈ lw_all := lw_g (lw_at lw_m8 156 rfl) rfl
theorem q1954 : (Jvm.Cond.soleField "SevenTableModel" "number") ∈ lw_all := lw_g (lw_at lw_m8 157 rfl) rfl
theorem q1955 : (Jvm.Cond.lays "SevenTableModel" "SevenTableModel" "fault" "I") ∈ lw_all := lw_g (lw_at lw_m8 158 rfl) rfl
theorem q1956 : (Jvm.Cond.soleField "SevenTableModel" "fault") ∈ lw_all := lw_g (lw_at lw_m8 159 rfl) rfl
theorem q1957 : (Jvm.Cond.lays "SevenTableModel" "SevenTableModel" "faultAt" "I") ∈ lw_all := lw_g (lw_at lw_m8 160 rfl) rfl
theorem q1958 : (Jvm.Cond.soleField "SevenTableModel" "faultAt") ∈ lw_all := lw_g (lw_at lw_m8 161 rfl) rfl
theorem q1959 : (Jvm.Cond.lays "SevenTableModel" "SevenTableModel" "word" "J") ∈ lw_all := lw_g (lw_at lw_m8 162 rfl) rfl
theorem q1960 : (Jvm.Cond.soleField "SevenTableModel" "word") ∈ lw_all := lw_g (lw_at lw_m8 163 rfl) rfl
theorem q1961 : (Jvm.Cond.lays "SevenTableModel" "SevenTableModel" "got" "I") ∈ lw_all := lw_g (lw_at lw_m8 164 rfl) rfl
theorem q1962 : (Jvm.Cond.soleField "SevenTableModel" "got") ∈ lw_all := lw_g (lw_at lw_m8 165 rfl) rfl
theorem q1963 : (Jvm.Cond.lays "SevenTableModel" "SevenTableModel" "lines" "I") ∈ lw_all := lw_g (lw_at lw_m8 166 rfl) rfl
theorem q1964 : (Jvm.Cond.soleField "SevenTableModel" "lines") ∈ lw_all := lw_g (lw_at lw_m8 167 rfl) rfl
theorem q1965 : (Jvm.Cond.lays "SevenTableModel" "SevenTableModel" "hasKinds" "Z") ∈ lw_all := lw_g (lw_at lw_m8 168 rfl) rfl
theorem q1966 : (Jvm.Cond.soleField "SevenTableModel" "hasKinds") ∈ lw_all := lw_g (lw_at lw_m8 169 rfl) rfl
theorem q1967 : (Jvm.Cond.lays "SevenTableModel" "SevenTableModel" "hasAgain" "Z") ∈ lw_all := lw_g (lw_at lw_m8 170 rfl) rfl
theorem q1968 : (Jvm.Cond.soleField "SevenTableModel" "hasAgain") ∈ lw_all := lw_g (lw_at lw_m8 171 rfl) rfl
theorem q1969 : (Jvm.Cond.lays "SevenTableModel" "SevenTableModel" "hasRefill" "Z") ∈ lw_all := lw_g (lw_at lw_m8 172 rfl) rfl
theorem q1970 : (Jvm.Cond.soleField "SevenTableModel" "hasRefill") ∈ lw_all := lw_g (lw_at lw_m8 173 rfl) rfl
theorem q1971 : (Jvm.Cond.laysFinal "SevenTableModel" "SevenTableModel" "askedAt" "[I") ∈ lw_all := lw_g (lw_at lw_m8 174 rfl) rfl
theorem q1972 : (Jvm.Cond.soleField "SevenTableModel" "askedAt") ∈ lw_all := lw_g (lw_at lw_m8 175 rfl) rfl
theorem q1973 : (Jvm.Cond.lays "SevenTableModel" "SevenTableModel" "hasAsked" "Z") ∈ lw_all := lw_g (lw_at lw_m8 176 rfl) rfl
theorem q1974 : (Jvm.Cond.soleField "SevenTableModel" "hasAsked") ∈ lw_all := lw_g (lw_at lw_m8 177 rfl) rfl
theorem q1975 : (Jvm.Cond.laysFinal "SevenTableModel" "SevenTableModel" "undone" "[I") ∈ lw_all := lw_g (lw_at lw_m8 178 rfl) rfl
theorem q1976 : (Jvm.Cond.soleField "SevenTableModel" "undone") ∈ lw_all := lw_g (lw_at lw_m8 179 rfl) rfl
theorem q1977 : (Jvm.Cond.laysFinal "SevenTableModel" "SevenTableModel" "before" "[I") ∈ lw_all := lw_g (lw_at lw_m8 180 rfl) rfl
theorem q1978 : (Jvm.Cond.soleField "SevenTableModel" "before") ∈ lw_all := lw_g (lw_at lw_m8 181 rfl) rfl
theorem q1979 : (Jvm.Cond.lays "SevenTableModel" "SevenTableModel" "undoMany" "I") ∈ lw_all := lw_g (lw_at lw_m8 182 rfl) rfl
theorem q1980 : (Jvm.Cond.soleField "SevenTableModel" "undoMany") ∈ lw_all := lw_g (lw_at lw_m8 183 rfl) rfl
theorem q1981 : (Jvm.Cond.laysFinal "SevenTableModel" "SevenTableModel" "left" "[I") ∈ lw_all := lw_g (lw_at lw_m8 184 rfl) rfl
theorem q1982 : (Jvm.Cond.soleField "SevenTableModel" "left") ∈ lw_all := lw_g (lw_at lw_m8 185 rfl) rfl
theorem q1983 : (Jvm.Cond.laysFinal "SevenTableModel" "SevenTableModel" "kindAt" "[I") ∈ lw_all := lw_g (lw_at lw_m8 186 rfl) rfl
theorem q1984 : (Jvm.Cond.soleField "SevenTableModel" "kindAt") ∈ lw_all := lw_g (lw_at lw_m8 187 rfl) rfl
theorem q1985 : (Jvm.Cond.laysFinal "SevenTableModel" "SevenTableModel" "step" "[I") ∈ lw_all := lw_g (lw_at lw_m8 188 rfl) rfl
theorem q1986 : (Jvm.Cond.soleField "SevenTableModel" "step") ∈ lw_all := lw_g (lw_at lw_m8 189 rfl) rfl
theorem q1987 : (Jvm.Cond.laysFinal "SevenTableModel" "SevenTableModel" "ways" "[J") ∈ lw_all := lw_g (lw_at lw_m8 190 rfl) rfl
theorem q1988 : (Jvm.Cond.soleField "SevenTableModel" "ways") ∈ lw_all := lw_g (lw_at lw_m8 191 rfl) rfl
theorem q1989 : (Jvm.Cond.laysFinal "SevenTableModel" "SevenTableModel" "waysOn" "[J") ∈ lw_all := lw_g (lw_at lw_m8 192 rfl) rfl
theorem q1990 : (Jvm.Cond.soleField "SevenTableModel" "waysOn") ∈ lw_all := lw_g (lw_at lw_m8 193 rfl) rfl
theorem q1991 : (Jvm.Cond.lays "SevenTableModel" "SevenTableModel" "leftKinds" "I") ∈ lw_all := lw_g (lw_at lw_m8 194 rfl) rfl
theorem q1992 : (Jvm.Cond.soleField "SevenTableModel" "leftKinds") ∈ lw_all := lw_g (lw_at lw_m8 195 rfl) rfl
theorem q1993 : (Jvm.Cond.lays "SevenTableModel" "SevenTableModel" "leftCards" "I") ∈ lw_all := lw_g (lw_at lw_m8 196 rfl) rfl
theorem q1994 : (Jvm.Cond.soleField "SevenTableModel" "leftCards") ∈ lw_all := lw_g (lw_at lw_m8 197 rfl) rfl
theorem q1995 : (Jvm.Cond.lays "SevenTableModel" "SevenTableModel" "slots" "I") ∈ lw_all := lw_g (lw_at lw_m8 198 rfl) rfl
theorem q1996 : (Jvm.Cond.soleField "SevenTableModel" "slots") ∈ lw_all := lw_g (lw_at lw_m8 199 rfl) rfl
theorem q1997 : (Jvm.Cond.laysFinal "SevenTableModel" "SevenTableModel" "sweepRow" "[I") ∈ lw_all := lw_g (lw_at lw_m8 200 rfl) rfl
theorem q1998 : (Jvm.Cond.soleField "SevenTableModel" "sweepRow") ∈ lw_all := lw_g (lw_at lw_m8 201 rfl) rfl
theorem q1999 : (Jvm.Cond.lays "SevenTableModel" "SevenTableModel" "sweepMany" "I") ∈ lw_all := lw_g (lw_at lw_m8 202 rfl) rfl
theorem q2000 : (Jvm.Cond.soleField "SevenTableModel" "sweepMany") ∈ lw_all := lw_g (lw_at lw_m8 203 rfl) rfl
theorem q2001 : (Jvm.Cond.laysFinal "SevenTableModel" "SevenTableModel" "values" "[I") ∈ lw_all := lw_g (lw_at lw_m8 204 rfl) rfl
theorem q2002 : (Jvm.Cond.soleField "SevenTableModel" "values") ∈ lw_all := lw_g (lw_at lw_m8 205 rfl) rfl
theorem q2003 : (Jvm.Cond.laysFinal "SevenTableModel" "SevenTableModel" "path" "[I") ∈ lw_all := lw_g (lw_at lw_m8 206 rfl) rfl
theorem q2004 : (Jvm.Cond.soleField "SevenTableModel" "path") ∈ lw_all := lw_g (lw_at lw_m8 207 rfl) rfl
theorem q2005 : (Jvm.Cond.laysFinal "SevenTableModel" "SevenTableModel" "mine" "[I") ∈ lw_all := lw_g (lw_at lw_m8 208 rfl) rfl
theorem q2006 : (Jvm.Cond.soleField "SevenTableModel" "mine") ∈ lw_all := lw_g (lw_at lw_m8 209 rfl) rfl
theorem q2007 : (Jvm.Cond.laysFinal "SevenTableModel" "SevenTableModel" "hers" "[I") ∈ lw_all := lw_g (lw_at lw_m8 210 rfl) rfl
theorem q2008 : (Jvm.Cond.soleField "SevenTableModel" "hers") ∈ lw_all := lw_g (lw_at lw_m8 211 rfl) rfl
theorem q2009 : (Jvm.Cond.lays "SevenTableModel" "SevenTableModel" "pos" "I") ∈ lw_all := lw_g (lw_at lw_m8 212 rfl) rfl
theorem q2010 : (Jvm.Cond.soleField "SevenTableModel" "pos") ∈ lw_all := lw_g (lw_at lw_m8 213 rfl) rfl
theorem q2011 : (Jvm.Cond.lays "SevenTableModel" "SevenTableModel" "vain" "I") ∈ lw_all := lw_g (lw_at lw_m8 214 rfl) rfl
theorem q2012 : (Jvm.Cond.soleField "SevenTableModel" "vain") ∈ lw_all := lw_g (lw_at lw_m8 215 rfl) rfl
theorem q2013 : (Jvm.Cond.lays "SevenTableModel" "SevenTableModel" "toCode" "I") ∈ lw_all := lw_g (lw_at lw_m8 216 rfl) rfl
theorem q2014 : (Jvm.Cond.soleField "SevenTableModel" "toCode") ∈ lw_all := lw_g (lw_at lw_m8 217 rfl) rfl
theorem q2015 : (Jvm.Cond.lays "SevenTableModel" "SevenTableModel" "toGain" "I") ∈ lw_all := lw_g (lw_at lw_m8 218 rfl) rfl
theorem q2016 : (Jvm.Cond.soleField "SevenTableModel" "toGain") ∈ lw_all := lw_g (lw_at lw_m8 219 rfl) rfl
theorem q2017 : (Jvm.Cond.lays "SevenTableModel" "SevenTableModel" "toSign" "I") ∈ lw_all := lw_g (lw_at lw_m8 220 rfl) rfl
theorem q2018 : (Jvm.Cond.soleField "SevenTableModel" "toSign") ∈ lw_all := lw_g (lw_at lw_m8 221 rfl) rfl
theorem q2019 : (Jvm.Cond.lays "SevenTableModel" "SevenTableModel" "openFirst" "I") ∈ lw_all := lw_g (lw_at lw_m8 222 rfl) rfl
theorem q2020 : (Jvm.Cond.soleField "SevenTableModel" "openFirst") ∈ lw_all := lw_g (lw_at lw_m8 223 rfl) rfl
theorem q2021 : (Jvm.Cond.laysFinal "SevenTableModel" "SevenTableModel" "rules" "[I") ∈ lw_all := lw_g (lw_at lw_m8 224 rfl) rfl
theorem q2022 : (Jvm.Cond.soleField "SevenTableModel" "rules") ∈ lw_all := lw_g (lw_at lw_m8 225 rfl) rfl
theorem q2023 : (Jvm.Cond.lays "SevenTableModel" "SevenTableModel" "seed" "I") ∈ lw_all := lw_g (lw_at lw_m8 226 rfl) rfl
theorem q2024 : (Jvm.Cond.soleField "SevenTableModel" "seed") ∈ lw_all := lw_g (lw_at lw_m8 227 rfl) rfl
theorem q2025 : (Jvm.Cond.laysFinal "SevenTableModel" "SevenTableModel" "pack" "[I") ∈ lw_all := lw_g (lw_at lw_m8 228 rfl) rfl
theorem q2026 : (Jvm.Cond.soleField "SevenTableModel" "pack") ∈ lw_all := lw_g (lw_at lw_m8 229 rfl) rfl
theorem q2027 : (Jvm.Cond.lays "SevenTableModel" "SevenTableModel" "askedSum" "I") ∈ lw_all := lw_g (lw_at lw_m8 230 rfl) rfl
theorem q2028 : (Jvm.Cond.soleField "SevenTableModel" "askedSum") ∈ lw_all := lw_g (lw_at lw_m8 231 rfl) rfl
theorem q2029 : (Jvm.Cond.lays "SevenTableModel" "SevenTableModel" "told" "I") ∈ lw_all := lw_g (lw_at lw_m8 232 rfl) rfl
theorem q2030 : (Jvm.Cond.soleField "SevenTableModel" "told") ∈ lw_all := lw_g (lw_at lw_m8 233 rfl) rfl
theorem q2031 : (Jvm.Cond.laysFinal "SevenTableModel" "SevenTableModel" "heardAt" "[I") ∈ lw_all := lw_g (lw_at lw_m8 234 rfl) rfl
theorem q2032 : (Jvm.Cond.soleField "SevenTableModel" "heardAt") ∈ lw_all := lw_g (lw_at lw_m8 235 rfl) rfl
theorem q2033 : (Jvm.Cond.lays "SevenTableModel" "SevenTableModel" "hasHeard" "Z") ∈ lw_all := lw_g (lw_at lw_m8 236 rfl) rfl
theorem q2034 : (Jvm.Cond.soleField "SevenTableModel" "hasHeard") ∈ lw_all := lw_g (lw_at lw_m8 237 rfl) rfl
theorem q2035 : (Jvm.Cond.laysFinal "SevenTableModel" "SevenTableModel" "stack" "[I") ∈ lw_all := lw_g (lw_at lw_m8 238 rfl) rfl
theorem q2036 : (Jvm.Cond.soleField "SevenTableModel" "stack") ∈ lw_all := lw_g (lw_at lw_m8 239 rfl) rfl
theorem q2037 : (Jvm.Cond.lays "SevenTableModel" "SevenTableModel" "codes" "I") ∈ lw_all := lw_g (lw_at lw_m9 0 rfl) rfl
theorem q2038 : (Jvm.Cond.soleField "SevenTableModel" "codes") ∈ lw_all := lw_g (lw_at lw_m9 1 rfl) rfl
theorem q2039 : (Jvm.Cond.lays "SevenTableModel" "SevenTableModel" "ones" "I") ∈ lw_all := lw_g (lw_at lw_m9 2 rfl) rfl
theorem q2040 : (Jvm.Cond.soleField "SevenTableModel" "ones") ∈ lw_all := lw_g (lw_at lw_m9 3 rfl) rfl
theorem q2041 : (Jvm.Cond.lays "SevenTableModel" "SevenTableModel" "top" "I") ∈ lw_all := lw_g (lw_at lw_m9 4 rfl) rfl
theorem q2042 : (Jvm.Cond.soleField "SevenTableModel" "top") ∈ lw_all := lw_g (lw_at lw_m9 5 rfl) rfl
theorem q2043 : (Jvm.Cond.lays "SevenTableModel" "SevenTableModel" "deep" "I") ∈ lw_all := lw_g (lw_at lw_m9 6 rfl) rfl
theorem q2044 : (Jvm.Cond.soleField "SevenTableModel" "deep") ∈ lw_all := lw_g (lw_at lw_m9 7 rfl) rfl
theorem q2045 : (Jvm.Cond.lays "SevenTableModel" "SevenTableModel" "isWhole" "Z") ∈ lw_all := lw_g (lw_at lw_m9 8 rfl) rfl
theorem q2046 : (Jvm.Cond.soleField "SevenTableModel" "isWhole") ∈ lw_all := lw_g (lw_at lw_m9 9 rfl) rfl
theorem q2047 : (Jvm.Cond.laysFinal "SevenTableModel" "SevenTableModel" "truths" "[Z") ∈ lw_all := lw_g (lw_at lw_m9 10 rfl) rfl
theorem q2048 : (Jvm.Cond.soleField "SevenTableModel" "truths") ∈ lw_all := lw_g (lw_at lw_m9 11 rfl) rfl
theorem q2049 : (Jvm.Cond.laysFinal "SevenTableModel" "SevenTableModel" "kept" "[I") ∈ lw_all := lw_g (lw_at lw_m9 12 rfl) rfl
theorem q2050 : (Jvm.Cond.soleField "SevenTableModel" "kept") ∈ lw_all := lw_g (lw_at lw_m9 13 rfl) rfl
theorem q2051 : (Jvm.Cond.laysFinal "SevenTableModel" "SevenTableModel" "namesKept" "[J") ∈ lw_all := lw_g (lw_at lw_m9 14 rfl) rfl
theorem q2052 : (Jvm.Cond.soleField "SevenTableModel" "namesKept") ∈ lw_all := lw_g (lw_at lw_m9 15 rfl) rfl
theorem q2053 : (Jvm.Cond.laysFinal "SevenTableModel" "SevenTableModel" "isKept" "[Z") ∈ lw_all := lw_g (lw_at lw_m9 16 rfl) rfl
theorem q2054 : (Jvm.Cond.soleField "SevenTableModel" "isKept") ∈ lw_all := lw_g (lw_at lw_m9 17 rfl) rfl
theorem q2055 : (Jvm.Cond.superclass "SevenTableModel" "java/lang/Object") ∈ lw_all := lw_g (lw_at lw_m9 18 rfl) rfl
theorem q2058 : (Jvm.Cond.instanceMethod ({ cls := "SevenTableModel", name := "table", desc := "()I" } : Jvm.MethodName)) ∈ lw_all := lw_g (lw_at lw_m9 21 rfl) rfl
theorem q2059 : (Jvm.Cond.selects "SevenTableModel" ({ cls := "SevenTableModel", name := "table", desc := "()I" } : Jvm.MethodName) ({ cls := "SevenTableModel", name := "table", desc := "()I" } : Jvm.MethodName)) ∈ lw_all := lw_g (lw_at lw_m9 22 rfl) rfl
theorem q2060 : (Jvm.Cond.code ({ cls := "SevenTableModel", name := "table", desc := "()I" } : Jvm.MethodName) prog_23_method_25_code (2 : Nat) (Option.some Jvm.ClassFile.FieldType.int)) ∈ lw_all := lw_g (lw_at lw_m9 23 rfl) rfl
theorem q2061 : (Jvm.Cond.methodLink "SevenTableModel" (234 : Nat) ({ cls := "SevenTableModel", name := "taken", desc := "(I)V" } : Jvm.MethodName)) ∈ lw_all := lw_g (lw_at lw_m9 24 rfl) rfl
theorem q2062 : (Jvm.Cond.privateMethod ({ cls := "SevenTableModel", name := "taken", desc := "(I)V" } : Jvm.MethodName)) ∈ lw_tbl := lw_at lw_m9 25 rfl
theorem q2063 : (Jvm.Cond.instanceMethod ({ cls := "SevenTableModel", name := "taken", desc := "(I)V" } : Jvm.MethodName)) ∈ lw_all := lw_g (lw_at lw_m9 26 rfl) rfl
theorem q2064 : (Jvm.Cond.code ({ cls := "SevenTableModel", name := "taken", desc := "(I)V" } : Jvm.MethodName) prog_23_method_6_code (2 : Nat) (Option.none : Option Jvm.ClassFile.FieldType)) ∈ lw_all := lw_g (lw_at lw_m9 27 rfl) rfl
theorem q2065 : (Jvm.Cond.methodLink "SevenTableModel" (192 : Nat) ({ cls := "SevenTableModel", name := "next", desc := "()V" } : Jvm.MethodName)) ∈ lw_all := lw_g (lw_at lw_m9 28 rfl) rfl
theorem q2066 : (Jvm.Cond.privateMethod ({ cls := "SevenTableModel", name := "next", desc := "()V" } : Jvm.MethodName)) ∈ lw_tbl := lw_at lw_m9 29 rfl
theorem q2067 : (Jvm.Cond.instanceMethod ({ cls := "SevenTableModel", name := "next", desc := "()V" } : Jvm.MethodName)) ∈ lw_all := lw_g (lw_at lw_m9 30 rfl) rfl
theorem q2068 : (Jvm.Cond.code ({ cls := "SevenTableModel", name := "next", desc := "()V" } : Jvm.MethodName) prog_23_method_14_code (4 : Nat) (Option.none : Option Jvm.ClassFile.FieldType)) ∈ lw_all := lw_g (lw_at lw_m9 31 rfl) rfl
theorem q2069 : (Jvm.Cond.methodLink "SevenTableModel" (153 : Nat) ({ cls := "SevenTableModel", name := "peek", desc := "()I" } : Jvm.MethodName)) ∈ lw_all := lw_g (lw_at lw_m9 32 rfl) rfl
theorem q2070 : (Jvm.Cond.privateMethod ({ cls := "SevenTableModel", name := "peek", desc := "()I" } : Jvm.MethodName)) ∈ lw_tbl := lw_at lw_m9 33 rfl
theorem q2071 : (Jvm.Cond.instanceMethod ({ cls := "SevenTableModel", name := "peek", desc := "()I" } : Jvm.MethodName)) ∈ lw_all := lw_g (lw_at lw_m9 34 rfl) rfl
theorem q2072 : (Jvm.Cond.code ({ cls := "SevenTableModel", name := "peek", desc := "()I" } : Jvm.MethodName) prog_23_method_11_code (1 : Nat) (Option.some Jvm.ClassFile.FieldType.int)) ∈ lw_all := lw_g (lw_at lw_m9 35 rfl) rfl
theorem q2073 : (Jvm.Cond.methodLink "SevenTableModel" (166 : Nat) ({ cls := "SevenTableModel", name := "isSmall", desc := "(I)Z" } : Jvm.MethodName)) ∈ lw_all := lw_g (lw_at lw_m9 36 rfl) rfl
theorem q2074 : (Jvm.Cond.static ({ cls := "SevenTableModel", name := "isSmall", desc := "(I)Z" } : Jvm.MethodName)) ∈ lw_all := lw_g (lw_at lw_m9 37 rfl) rfl
theorem q2075 : (Jvm.Cond.code ({ cls := "SevenTableModel", name := "isSmall", desc := "(I)Z" } : Jvm.MethodName) prog_23_method_12_code (1 : Nat) (Option.some Jvm.ClassFile.FieldType.boolean)) ∈ lw_all := lw_g (lw_at lw_m9 38 rfl) rfl
theorem q2076 : (Jvm.Cond.methodLink "SevenTableModel" (170 : Nat) ({ cls := "SevenTableModel", name := "isDigit", desc := "(I)Z" } : Jvm.MethodName)) ∈ lw_all := lw_g (lw_at lw_m9 39 rfl) rfl
theorem q2077 : (Jvm.Cond.static ({ cls := "SevenTableModel", name := "isDigit", desc := "(I)Z" } : Jvm.MethodName)) ∈ lw_all := lw_g (lw_at lw_m9 40 rfl) rfl
theorem q2078 : (Jvm.Cond.code ({ cls := "SevenTableModel", name := "isDigit", desc := "(I)Z" } : Jvm.MethodName) prog_23_method_13_code (1 : Nat) (Option.some Jvm.ClassFile.FieldType.boolean)) ∈ lw_all := lw_g (lw_at lw_m9 41 rfl) rfl
theorem q2079 : (Jvm.Cond.methodLink "SevenTableModel" (240 : Nat) ({ cls := "SevenTableModel", name := "line", desc := "()Z" } : Jvm.MethodName)) ∈ lw_all := lw_g (lw_at lw_m9 42 rfl) rfl
theorem q2080 : (Jvm.Cond.privateMethod ({ cls := "SevenTableModel", name := "line", desc := "()Z" } : Jvm.MethodName)) ∈ lw_tbl := lw_at lw_m9 43 rfl
theorem q2081 : (Jvm.Cond.instanceMethod ({ cls := "SevenTableModel", name := "line", desc := "()Z" } : Jvm.MethodName)) ∈ lw_all := lw_g (lw_at lw_m9 44 rfl) rfl
theorem q2082 : (Jvm.Cond.code ({ cls := "SevenTableModel", name := "line", desc := "()Z" } : Jvm.MethodName) prog_23_method_22_code (1 : Nat) (Option.some Jvm.ClassFile.FieldType.boolean)) ∈ lw_all := lw_g (lw_at lw_m9 45 rfl) rfl
theorem q2083 : (Jvm.Cond.methodLink "SevenTableModel" (202 : Nat) ({ cls := "SevenTableModel", name := "isWord", desc := "(J)Z" } : Jvm.MethodName)) ∈ lw_all := lw_g (lw_at lw_m9 46 rfl) rfl
theorem q2084 : (Jvm.Cond.privateMethod ({ cls := "SevenTableModel", name := "isWord", desc := "(J)Z" } : Jvm.MethodName)) ∈ lw_tbl := lw_at lw_m9 47 rfl
theorem q2085 : (Jvm.Cond.instanceMethod ({ cls := "SevenTableModel", name := "isWord", desc := "(J)Z" } : Jvm.MethodName)) ∈ lw_all := lw_g (lw_at lw_m9 48 rfl) rfl
theorem q2086 : (Jvm.Cond.code ({ cls := "SevenTableModel", name := "isWord", desc := "(J)Z" } : Jvm.MethodName) prog_23_method_16_code (3 : Nat) (Option.some Jvm.ClassFile.FieldType.boolean)) ∈ lw_all := lw_g (lw_at lw_m9 49 rfl) rfl
theorem q2087 : (Jvm.Cond.methodLink "SevenTableModel" (189 : Nat) ({ cls := "SevenTableModel", name := "bad", desc := "(I)Z" } : Jvm.MethodName)) ∈ lw_all := lw_g (lw_at lw_m9 50 rfl) rfl
theorem q2088 : (Jvm.Cond.privateMethod ({ cls := "SevenTableModel", name := "bad", desc := "(I)Z" } : Jvm.MethodName)) ∈ lw_tbl := lw_at lw_m9 51 rfl
theorem q2089 : (Jvm.Cond.instanceMethod ({ cls := "SevenTableModel", name := "bad", desc := "(I)Z" } : Jvm.MethodName)) ∈ lw_all := lw_g (lw_at lw_m9 52 rfl) rfl
theorem q2090 : (Jvm.Cond.code ({ cls := "SevenTableModel", name := "bad", desc := "(I)Z" } : Jvm.MethodName) prog_23_method_15_code (2 : Nat) (Option.some Jvm.ClassFile.FieldType.boolean)) ∈ lw_all := lw_g (lw_at lw_m9 53 rfl) rfl
theorem q2091 : (Jvm.Cond.methodLink "SevenTableModel" (210 : Nat) ({ cls := "SevenTableModel", name := "takes", desc := "(II)Z" } : Jvm.MethodName)) ∈ lw_all := lw_g (lw_at lw_m9 54 rfl) rfl
theorem q2092 : (Jvm.Cond.privateMethod ({ cls := "SevenTableModel", name := "takes", desc := "(II)Z" } : Jvm.MethodName)) ∈ lw_tbl := lw_at lw_m9 55 rfl
theorem q2093 : (Jvm.Cond.instanceMethod ({ cls := "SevenTableModel", name := "takes", desc := "(II)Z" } : Jvm.MethodName)) ∈ lw_all := lw_g (lw_at lw_m9 56 rfl) rfl
theorem q2094 : (Jvm.Cond.code ({ cls := "SevenTableModel", name := "takes", desc := "(II)Z" } : Jvm.MethodName) prog_23_method_20_code (3 : Nat) (Option.some Jvm.ClassFile.FieldType.boolean)) ∈ lw_all := lw_g (lw_at lw_m9 57 rfl) rfl
theorem q2095 : (Jvm.Cond.methodLink "SevenTableModel" (195 : Nat) ({ cls := "SevenTableModel", name := "isIn", desc := "(III)Z" } : Jvm.MethodName)) ∈ lw_all := lw_g (lw_at lw_m9 58 rfl) rfl
theorem q2096 : (Jvm.Cond.static ({ cls := "SevenTableModel", name := "isIn", desc := "(III)Z" } : Jvm.MethodName)) ∈ lw_all := lw_g (lw_at lw_m9 59 rfl) rfl
theorem q2097 : (Jvm.Cond.code ({ cls := "SevenTableModel", name := "isIn", desc := "(III)Z" } : Jvm.MethodName) prog_23_method_7_code (3 : Nat) (Option.some Jvm.ClassFile.FieldType.boolean)) ∈ lw_all := lw_g (lw_at lw_m9 60 rfl) rfl
theorem q2098 : (Jvm.Cond.methodLink "SevenTableModel" (214 : Nat) ({ cls := "SevenTableModel", name := "isName", desc := "()Z" } : Jvm.MethodName)) ∈ lw_all := lw_g (lw_at lw_m9 61 rfl) rfl
theorem q2099 : (Jvm.Cond.privateMethod ({ cls := "SevenTableModel", name := "isName", desc := "()Z" } : Jvm.MethodName)) ∈ lw_tbl := lw_at lw_m9 62 rfl
theorem q2100 : (Jvm.Cond.instanceMethod ({ cls := "SevenTableModel", name := "isName", desc := "()Z" } : Jvm.MethodName)) ∈ lw_all := lw_g (lw_at lw_m9 63 rfl) rfl
theorem q2101 : (Jvm.Cond.code ({ cls := "SevenTableModel", name := "isName", desc := "()Z" } : Jvm.MethodName) prog_23_method_19_code (3 : Nat) (Option.some Jvm.ClassFile.FieldType.boolean)) ∈ lw_all := lw_g (lw_at lw_m9 64 rfl) rfl
theorem q2102 : (Jvm.Cond.methodLink "SevenTableModel" (218 : Nat) ({ cls := "SevenTableModel", name := "find", desc := "(II)I" } : Jvm.MethodName)) ∈ lw_all := lw_g (lw_at lw_m9 65 rfl) rfl
theorem q2103 : (Jvm.Cond.privateMethod ({ cls := "SevenTableModel", name := "find", desc := "(II)I" } : Jvm.MethodName)) ∈ lw_tbl := lw_at lw_m9 66 rfl
theorem q2104 : (Jvm.Cond.instanceMethod ({ cls := "SevenTableModel", name := "find", desc := "(II)I" } : Jvm.MethodName)) ∈ lw_all := lw_g (lw_at lw_m9 67 rfl) rfl
theorem q2105 : (Jvm.Cond.code ({ cls := "SevenTableModel", name := "find", desc := "(II)I" } : Jvm.MethodName) prog_23_method_21_code (4 : Nat) (Option.some Jvm.ClassFile.FieldType.int)) ∈ lw_all := lw_g (lw_at lw_m9 68 rfl) rfl
theorem q2106 : (Jvm.Cond.methodLink "SevenTableModel" (222 : Nat) ({ cls := "SevenTableModel", name := "readHand", desc := "()Z" } : Jvm.MethodName)) ∈ lw_all := lw_g (lw_at lw_m9 69 rfl) rfl
theorem q2107 : (Jvm.Cond.privateMethod ({ cls := "SevenTableModel", name := "readHand", desc := "()Z" } : Jvm.MethodName)) ∈ lw_tbl := lw_at lw_m9 70 rfl
theorem q2108 : (Jvm.Cond.instanceMethod ({ cls := "SevenTableModel", name := "readHand", desc := "()Z" } : Jvm.MethodName)) ∈ lw_all := lw_g (lw_at lw_m9 71 rfl) rfl
theorem q2109 : (Jvm.Cond.code ({ cls := "SevenTableModel", name := "readHand", desc := "()Z" } : Jvm.MethodName) prog_23_method_23_code (3 : Nat) (Option.some Jvm.ClassFile.FieldType.boolean)) ∈ lw_all := lw_g (lw_at lw_m9 72 rfl) rfl
theorem q2110 : (Jvm.Cond.methodLink "SevenTableModel" (225 : Nat) ({ cls := "SevenTableModel", name := "readHeap", desc := "()Z" } : Jvm.MethodName)) ∈ lw_all := lw_g (lw_at lw_m9 73 rfl) rfl
theorem q2111 : (Jvm.Cond.privateMethod ({ cls := "SevenTableModel", name := "readHeap", desc := "()Z" } : Jvm.MethodName)) ∈ lw_tbl := lw_at lw_m9 74 rfl
theorem q2112 : (Jvm.Cond.instanceMethod ({ cls := "SevenTableModel", name := "readHeap", desc := "()Z" } : Jvm.MethodName)) ∈ lw_all := lw_g (lw_at lw_m9 75 rfl) rfl
theorem q2113 : (Jvm.Cond.code ({ cls := "SevenTableModel", name := "readHeap", desc := "()Z" } : Jvm.MethodName) prog_23_method_24_code (2 : Nat) (Option.some Jvm.ClassFile.FieldType.boolean)) ∈ lw_all := lw_g (lw_at lw_m9 76 rfl) rfl
theorem q2114 : (Jvm.Cond.methodLink "SevenTableModel" (186 : Nat) ({ cls := "SevenTableModel", name := "isSign", desc := "(I)Z" } : Jvm.MethodName)) ∈ lw_all := lw_g (lw_at lw_m9 77 rfl) rfl
theorem q2115 : (Jvm.Cond.privateMethod ({ cls := "SevenTableModel", name := "isSign", desc := "(I)Z" } : Jvm.MethodName)) ∈ lw_tbl := lw_at lw_m9 78 rfl
theorem q2116 : (Jvm.Cond.instanceMethod ({ cls := "SevenTableModel", name := "isSign", desc := "(I)Z" } : Jvm.MethodName)) ∈ lw_all := lw_g (lw_at lw_m9 79 rfl) rfl
theorem q2117 : (Jvm.Cond.code ({ cls := "SevenTableModel", name := "isSign", desc := "(I)Z" } : Jvm.MethodName) prog_23_method_17_code (2 : Nat) (Option.some Jvm.ClassFile.FieldType.boolean)) ∈ lw_all := lw_g (lw_at lw_m9 80 rfl) rfl
theorem q2118 : (Jvm.Cond.methodLink "SevenTableModel" (243 : Nat) ({ cls := "SevenTableModel", name := "sign", desc := "(I)Z" } : Jvm.MethodName)) ∈ lw_all := lw_g (lw_at lw_m9 81 rfl) rfl
theorem q2119 : (Jvm.Cond.privateMethod ({ cls := "SevenTableModel", name := "sign", desc := "(I)Z" } : Jvm.MethodName)) ∈ lw_tbl := lw_at lw_m9 82 rfl
theorem q2120 : (Jvm.Cond.instanceMethod ({ cls := "SevenTableModel", name := "sign", desc := "(I)Z" } : Jvm.MethodName)) ∈ lw_all := lw_g (lw_at lw_m9 83 rfl) rfl
theorem q2121 : (Jvm.Cond.code ({ cls := "SevenTableModel", name := "sign", desc := "(I)Z" } : Jvm.MethodName) prog_23_method_18_code (2 : Nat) (Option.some Jvm.ClassFile.FieldType.boolean)) ∈ lw_all := lw_g (lw_at lw_m9 84 rfl) rfl
theorem q2122 : (Jvm.Cond.methodLink "SevenTableModel" (249 : Nat) ({ cls := "SevenTableModel", name := "begins", desc := "()V" } : Jvm.MethodName)) ∈ lw_all := lw_g (lw_at lw_m9 85 rfl) rfl
theorem q2123 : (Jvm.Cond.privateMethod ({ cls := "SevenTableModel", name := "begins", desc := "()V" } : Jvm.MethodName)) ∈ lw_tbl := lw_at lw_m9 86 rfl
theorem q2124 : (Jvm.Cond.instanceMethod ({ cls := "SevenTableModel", name := "begins", desc := "()V" } : Jvm.MethodName)) ∈ lw_all := lw_g (lw_at lw_m9 87 rfl) rfl
theorem q2125 : (Jvm.Cond.code ({ cls := "SevenTableModel", name := "begins", desc := "()V" } : Jvm.MethodName) prog_23_method_36_code (4 : Nat) (Option.none : Option Jvm.ClassFile.FieldType)) ∈ lw_all := lw_g (lw_at lw_m9 88 rfl) rfl
theorem q2126 : (Jvm.Cond.methodLink "SevenTableModel" (263 : Nat) ({ cls := "SevenTableModel", name := "cards", desc := "(I)I" } : Jvm.MethodName)) ∈ lw_all := lw_g (lw_at lw_m9 89 rfl) rfl
theorem q2127 : (Jvm.Cond.privateMethod ({ cls := "SevenTableModel", name := "cards", desc := "(I)I" } : Jvm.MethodName)) ∈ lw_tbl := lw_at lw_m9 90 rfl
theorem q2128 : (Jvm.Cond.instanceMethod ({ cls := "SevenTableModel", name := "cards", desc := "(I)I" } : Jvm.MethodName)) ∈ lw_all := lw_g (lw_at lw_m9 91 rfl) rfl
theorem q2129 : (Jvm.Cond.code ({ cls := "SevenTableModel", name := "cards", desc := "(I)I" } : Jvm.MethodName) prog_23_method_28_code (4 : Nat) (Option.some Jvm.ClassFile.FieldType.int)) ∈ lw_all := lw_g (lw_at lw_m9 92 rfl) rfl
theorem q2130 : (Jvm.Cond.methodLink "SevenTableModel" (270 : Nat) ({ cls := "SevenTableModel", name := "adds", desc := "(II)V" } : Jvm.MethodName)) ∈ lw_all := lw_g (lw_at lw_m9 93 rfl) rfl
theorem q2131 : (Jvm.Cond.privateMethod ({ cls := "SevenTableModel", name := "adds", desc := "(II)V" } : Jvm.MethodName)) ∈ lw_tbl := lw_at lw_m9 94 rfl
theorem q2132 : (Jvm.Cond.instanceMethod ({ cls := "SevenTableModel", name := "adds", desc := "(II)V" } : Jvm.MethodName)) ∈ lw_all := lw_g (lw_at lw_m9 95 rfl) rfl
theorem q2133 : (Jvm.Cond.code ({ cls := "SevenTableModel", name := "adds", desc := "(II)V" } : Jvm.MethodName) prog_23_method_29_code (3 : Nat) (Option.none : Option Jvm.ClassFile.FieldType)) ∈ lw_all := lw_g (lw_at lw_m9 96 rfl) rfl
theorem q2134 : (Jvm.Cond.methodLink "SevenTableModel" (273 : Nat) ({ cls := "SevenTableModel", name := "books", desc := "(II)Z" } : Jvm.MethodName)) ∈ lw_all := lw_g (lw_at lw_m9 97 rfl) rfl
theorem q2135 : (Jvm.Cond.privateMethod ({ cls := "SevenTableModel", name := "books", desc := "(II)Z" } : Jvm.MethodName)) ∈ lw_tbl := lw_at lw_m9 98 rfl
theorem q2136 : (Jvm.Cond.instanceMethod ({ cls := "SevenTableModel", name := "books", desc := "(II)Z" } : Jvm.MethodName)) ∈ lw_all := lw_g (lw_at lw_m9 99 rfl) rfl
theorem q2137 : (Jvm.Cond.code ({ cls := "SevenTableModel", name := "books", desc := "(II)Z" } : Jvm.MethodName) prog_23_method_32_code (4 : Nat) (Option.some Jvm.ClassFile.FieldType.boolean)) ∈ lw_all := lw_g (lw_at lw_m9 100 rfl) rfl
theorem q2138 : (Jvm.Cond.methodLink "SevenTableModel" (255 : Nat) ({ cls := "SevenTableModel", name := "handOf", desc := "(III)I" } : Jvm.MethodName)) ∈ lw_all := lw_g (lw_at lw_m9 101 rfl) rfl
theorem q2139 : (Jvm.Cond.privateMethod ({ cls := "SevenTableModel", name := "handOf", desc := "(III)I" } : Jvm.MethodName)) ∈ lw_tbl := lw_at lw_m9 102 rfl
theorem q2140 : (Jvm.Cond.instanceMethod ({ cls := "SevenTableModel", name := "handOf", desc := "(III)I" } : Jvm.MethodName)) ∈ lw_all := lw_g (lw_at lw_m9 103 rfl) rfl
theorem q2141 : (Jvm.Cond.code ({ cls := "SevenTableModel", name := "handOf", desc := "(III)I" } : Jvm.MethodName) prog_23_method_27_code (4 : Nat) (Option.some Jvm.ClassFile.FieldType.int)) ∈ lw_all := lw_g (lw_at lw_m9 104 rfl) rfl
theorem q2142 : (Jvm.Cond.methodLink "SevenTableModel" (259 : Nat) ({ cls := "SevenTableModel", name := "learns", desc := "(II)V" } : Jvm.MethodName)) ∈ lw_all := lw_g (lw_at lw_m9 105 rfl) rfl
theorem q2143 : (Jvm.Cond.privateMethod ({ cls := "SevenTableModel", name := "learns", desc := "(II)V" } : Jvm.MethodName)) ∈ lw_tbl := lw_at lw_m9 106 rfl
theorem q2144 : (Jvm.Cond.instanceMethod ({ cls := "SevenTableModel", name := "learns", desc := "(II)V" } : Jvm.MethodName)) ∈ lw_all := lw_g (lw_at lw_m9 107 rfl) rfl
theorem q2145 : (Jvm.Cond.code ({ cls := "SevenTableModel", name := "learns", desc := "(II)V" } : Jvm.MethodName) prog_23_method_30_code (5 : Nat) (Option.none : Option Jvm.ClassFile.FieldType)) ∈ lw_all := lw_g (lw_at lw_m9 108 rfl) rfl
theorem q2146 : (Jvm.Cond.methodLink "SevenTableModel" (252 : Nat) ({ cls := "SevenTableModel", name := "bitOf", desc := "(II)Z" } : Jvm.MethodName)) ∈ lw_all := lw_g (lw_at lw_m9 109 rfl) rfl
theorem q2147 : (Jvm.Cond.static ({ cls := "SevenTableModel", name := "bitOf", desc := "(II)Z" } : Jvm.MethodName)) ∈ lw_all := lw_g (lw_at lw_m9 110 rfl) rfl
theorem q2148 : (Jvm.Cond.code ({ cls := "SevenTableModel", name := "bitOf", desc := "(II)Z" } : Jvm.MethodName) prog_23_method_8_code (2 : Nat) (Option.some Jvm.ClassFile.FieldType.boolean)) ∈ lw_all := lw_g (lw_at lw_m9 111 rfl) rfl
theorem q2149 : (Jvm.Cond.methodLink "SevenTableModel" (279 : Nat) ({ cls := "SevenTableModel", name := "settles", desc := "(I)V" } : Jvm.MethodName)) ∈ lw_all := lw_g (lw_at lw_m9 112 rfl) rfl
theorem q2150 : (Jvm.Cond.privateMethod ({ cls := "SevenTableModel", name := "settles", desc := "(I)V" } : Jvm.MethodName)) ∈ lw_tbl := lw_at lw_m9 113 rfl
theorem q2151 : (Jvm.Cond.instanceMethod ({ cls := "SevenTableModel", name := "settles", desc := "(I)V" } : Jvm.MethodName)) ∈ lw_all := lw_g (lw_at lw_m9 114 rfl) rfl
theorem q2152 : (Jvm.Cond.code ({ cls := "SevenTableModel", name := "settles", desc := "(I)V" } : Jvm.MethodName) prog_23_method_35_code (4 : Nat) (Option.none : Option Jvm.ClassFile.FieldType)) ∈ lw_all := lw_g (lw_at lw_m9 115 rfl) rfl
theorem q2153 : (Jvm.Cond.methodLink "SevenTableModel" (276 : Nat) ({ cls := "SevenTableModel", name := "refills", desc := "(I)V" } : Jvm.MethodName)) ∈ lw_all := lw_g (lw_at lw_m9 116 rfl) rfl
theorem q2154 : (Jvm.Cond.privateMethod ({ cls := "SevenTableModel", name := "refills", desc := "(I)V" } : Jvm.MethodName)) ∈ lw_tbl := lw_at lw_m9 117 rfl
theorem q2155 : (Jvm.Cond.instanceMethod ({ cls := "SevenTableModel", name := "refills", desc := "(I)V" } : Jvm.MethodName)) ∈ lw_all := lw_g (lw_at lw_m9 118 rfl) rfl
theorem q2156 : (Jvm.Cond.code ({ cls := "SevenTableModel", name := "refills", desc := "(I)V" } : Jvm.MethodName) prog_23_method_34_code (5 : Nat) (Option.none : Option Jvm.ClassFile.FieldType)) ∈ lw_all := lw_g (lw_at lw_m9 119 rfl) rfl
theorem q2157 : (Jvm.Cond.methodLink "SevenTableModel" (267 : Nat) ({ cls := "SevenTableModel", name := "draws", desc := "(I)I" } : Jvm.MethodName)) ∈ lw_all := lw_g (lw_at lw_m9 120 rfl) rfl
theorem q2158 : (Jvm.Cond.privateMethod ({ cls := "SevenTableModel", name := "draws", desc := "(I)I" } : Jvm.MethodName)) ∈ lw_tbl := lw_at lw_m9 121 rfl
theorem q2159 : (Jvm.Cond.instanceMethod ({ cls := "SevenTableModel", name := "draws", desc := "(I)I" } : Jvm.MethodName)) ∈ lw_all := lw_g (lw_at lw_m9 122 rfl) rfl
theorem q2160 : (Jvm.Cond.code ({ cls := "SevenTableModel", name := "draws", desc := "(I)I" } : Jvm.MethodName) prog_23_method_33_code (4 : Nat) (Option.some Jvm.ClassFile.FieldType.int)) ∈ lw_all := lw_g (lw_at lw_m9 123 rfl) rfl
theorem q2162 : (Jvm.Cond.instanceMethod ({ cls := "SevenTableModel", name := "fault", desc := "()I" } : Jvm.MethodName)) ∈ lw_all := lw_g (lw_at lw_m9 125 rfl) rfl
theorem q2163 : (Jvm.Cond.selects "SevenTableModel" ({ cls := "SevenTableModel", name := "fault", desc := "()I" } : Jvm.MethodName) ({ cls := "SevenTableModel", name := "fault", desc := "()I" } : Jvm.MethodName)) ∈ lw_all := lw_g (lw_at lw_m9 126 rfl) rfl
theorem q2164 : (Jvm.Cond.code ({ cls := "SevenTableModel", name := "fault", desc := "()I" } : Jvm.MethodName) prog_23_method_26_code (1 : Nat) (Option.some Jvm.ClassFile.FieldType.int)) ∈ lw_all := lw_g (lw_at lw_m9 127 rfl) rfl
theorem q2166 : (Jvm.Cond.instanceMethod ({ cls := "SevenTableModel", name := "hand", desc := "(II)I" } : Jvm.MethodName)) ∈ lw_all := lw_g (lw_at lw_m9 129 rfl) rfl
theorem q2167 : (Jvm.Cond.selects "SevenTableModel" ({ cls := "SevenTableModel", name := "hand", desc := "(II)I" } : Jvm.MethodName) ({ cls := "SevenTableModel", name := "hand", desc := "(II)I" } : Jvm.MethodName)) ∈ lw_all := lw_g (lw_at lw_m9 130 rfl) rfl
theorem q2168 : (Jvm.Cond.code ({ cls := "SevenTableModel", name := "hand", desc := "(II)I" } : Jvm.MethodName) prog_23_method_39_code (3 : Nat) (Option.some Jvm.ClassFile.FieldType.int)) ∈ lw_all := lw_g (lw_at lw_m9 131 rfl) rfl
theorem q2169 : (Jvm.Cond.methodLink "SevenTableModel" (282 : Nat) ({ cls := "SevenTableModel", name := "isPerson", desc := "(I)Z" } : Jvm.MethodName)) ∈ lw_all := lw_g (lw_at lw_m9 132 rfl) rfl
theorem q2170 : (Jvm.Cond.privateMethod ({ cls := "SevenTableModel", name := "isPerson", desc := "(I)Z" } : Jvm.MethodName)) ∈ lw_tbl := lw_at lw_m9 133 rfl
theorem q2171 : (Jvm.Cond.instanceMethod ({ cls := "SevenTableModel", name := "isPerson", desc := "(I)Z" } : Jvm.MethodName)) ∈ lw_all := lw_g (lw_at lw_m9 134 rfl) rfl
theorem q2172 : (Jvm.Cond.code ({ cls := "SevenTableModel", name := "isPerson", desc := "(I)Z" } : Jvm.MethodName) prog_23_method_37_code (2 : Nat) (Option.some Jvm.ClassFile.FieldType.boolean)) ∈ lw_all := lw_g (lw_at lw_m9 135 rfl) rfl
theorem q2173 : (Jvm.Cond.methodLink "SevenTableModel" (285 : Nat) ({ cls := "SevenTableModel", name := "isKind", desc := "(I)Z" } : Jvm.MethodName)) ∈ lw_all := lw_g (lw_at lw_m9 136 rfl) rfl
theorem q2174 : (Jvm.Cond.privateMethod ({ cls := "SevenTableModel", name := "isKind", desc := "(I)Z" } : Jvm.MethodName)) ∈ lw_tbl := lw_at lw_m9 137 rfl
theorem q2175 : (Jvm.Cond.instanceMethod ({ cls := "SevenTableModel", name := "isKind", desc := "(I)Z" } : Jvm.MethodName)) ∈ lw_all := lw_g (lw_at lw_m9 138 rfl) rfl
theorem q2176 : (Jvm.Cond.code ({ cls := "SevenTableModel", name := "isKind", desc := "(I)Z" } : Jvm.MethodName) prog_23_method_38_code (2 : Nat) (Option.some Jvm.ClassFile.FieldType.boolean)) ∈ lw_all := lw_g (lw_at lw_m9 139 rfl) rfl
theorem q2177 : (Jvm.Cond.methodLink "SevenTableModel" (288 : Nat) ({ cls := "SevenTableModel", name := "throwsIf", desc := "(Z)Z" } : Jvm.MethodName)) ∈ lw_all := lw_g (lw_at lw_m9 140 rfl) rfl
theorem q2178 : (Jvm.Cond.privateMethod ({ cls := "SevenTableModel", name := "throwsIf", desc := "(Z)Z" } : Jvm.MethodName)) ∈ lw_tbl := lw_at lw_m9 141 rfl
theorem q2179 : (Jvm.Cond.instanceMethod ({ cls := "SevenTableModel", name := "throwsIf", desc := "(Z)Z" } : Jvm.MethodName)) ∈ lw_all := lw_g (lw_at lw_m9 142 rfl) rfl
theorem q2180 : (Jvm.Cond.code ({ cls := "SevenTableModel", name := "throwsIf", desc := "(Z)Z" } : Jvm.MethodName) prog_23_method_2_code (2 : Nat) (Option.some Jvm.ClassFile.FieldType.boolean)) ∈ lw_all := lw_g (lw_at lw_m9 143 rfl) rfl
theorem q2182 : (Jvm.Cond.instanceMethod ({ cls := "SevenTableModel", name := "person", desc := "(II)I" } : Jvm.MethodName)) ∈ lw_all := lw_g (lw_at lw_m9 145 rfl) rfl
theorem q2183 : (Jvm.Cond.selects "SevenTableModel" ({ cls := "SevenTableModel", name := "person", desc := "(II)I" } : Jvm.MethodName) ({ cls := "SevenTableModel", name := "person", desc := "(II)I" } : Jvm.MethodName)) ∈ lw_all := lw_g (lw_at lw_m9 146 rfl) rfl
theorem q2184 : (Jvm.Cond.code ({ cls := "SevenTableModel", name := "person", desc := "(II)I" } : Jvm.MethodName) prog_23_method_42_code (5 : Nat) (Option.some Jvm.ClassFile.FieldType.int)) ∈ lw_all := lw_g (lw_at lw_m9 147 rfl) rfl
theorem q2185 : (Jvm.Cond.methodLink "SevenTableModel" (292 : Nat) ({ cls := "SevenTableModel", name := "booksOf", desc := "(I)I" } : Jvm.MethodName)) ∈ lw_all := lw_g (lw_at lw_m9 148 rfl) rfl
theorem q2186 : (Jvm.Cond.privateMethod ({ cls := "SevenTableModel", name := "booksOf", desc := "(I)I" } : Jvm.MethodName)) ∈ lw_tbl := lw_at lw_m9 149 rfl
theorem q2187 : (Jvm.Cond.instanceMethod ({ cls := "SevenTableModel", name := "booksOf", desc := "(I)I" } : Jvm.MethodName)) ∈ lw_all := lw_g (lw_at lw_m9 150 rfl) rfl
theorem q2188 : (Jvm.Cond.code ({ cls := "SevenTableModel", name := "booksOf", desc := "(I)I" } : Jvm.MethodName) prog_23_method_40_code (4 : Nat) (Option.some Jvm.ClassFile.FieldType.int)) ∈ lw_all := lw_g (lw_at lw_m9 151 rfl) rfl
theorem q2190 : (Jvm.Cond.instanceMethod ({ cls := "SevenTableModel", name := "book", desc := "(I)I" } : Jvm.MethodName)) ∈ lw_all := lw_g (lw_at lw_m9 153 rfl) rfl
theorem q2191 : (Jvm.Cond.selects "SevenTableModel" ({ cls := "SevenTableModel", name := "book", desc := "(I)I" } : Jvm.MethodName) ({ cls := "SevenTableModel", name := "book", desc := "(I)I" } : Jvm.MethodName)) ∈ lw_all := lw_g (lw_at lw_m9 154 rfl) rfl
theorem q2192 : (Jvm.Cond.code ({ cls := "SevenTableModel", name := "book", desc := "(I)I" } : Jvm.MethodName) prog_23_method_43_code (2 : Nat) (Option.some Jvm.ClassFile.FieldType.int)) ∈ lw_all := lw_g (lw_at lw_m9 155 rfl) rfl
theorem q2194 : (Jvm.Cond.instanceMethod ({ cls := "SevenTableModel", name := "heap", desc := "(I)I" } : Jvm.MethodName)) ∈ lw_all := lw_g (lw_at lw_m9 157 rfl) rfl
theorem q2195 : (Jvm.Cond.selects "SevenTableModel" ({ cls := "SevenTableModel", name := "heap", desc := "(I)I" } : Jvm.MethodName) ({ cls := "SevenTableModel", name := "heap", desc := "(I)I" } : Jvm.MethodName)) ∈ lw_all := lw_g (lw_at lw_m9 158 rfl) rfl
theorem q2196 : (Jvm.Cond.code ({ cls := "SevenTableModel", name := "heap", desc := "(I)I" } : Jvm.MethodName) prog_23_method_44_code (2 : Nat) (Option.some Jvm.ClassFile.FieldType.int)) ∈ lw_all := lw_g (lw_at lw_m9 159 rfl) rfl
theorem q2198 : (Jvm.Cond.instanceMethod ({ cls := "SevenTableModel", name := "now", desc := "(I)I" } : Jvm.MethodName)) ∈ lw_all := lw_g (lw_at lw_m9 161 rfl) rfl
theorem q2199 : (Jvm.Cond.selects "SevenTableModel" ({ cls := "SevenTableModel", name := "now", desc := "(I)I" } : Jvm.MethodName) ({ cls := "SevenTableModel", name := "now", desc := "(I)I" } : Jvm.MethodName)) ∈ lw_all := lw_g (lw_at lw_m9 162 rfl) rfl
theorem q2200 : (Jvm.Cond.code ({ cls := "SevenTableModel", name := "now", desc := "(I)I" } : Jvm.MethodName) prog_23_method_45_code (4 : Nat) (Option.some Jvm.ClassFile.FieldType.int)) ∈ lw_all := lw_g (lw_at lw_m9 163 rfl) rfl
theorem q2201 : (Jvm.Cond.methodLink "SevenTableModel" (295 : Nat) ({ cls := "SevenTableModel", name := "allBooks", desc := "()I" } : Jvm.MethodName)) ∈ lw_all := lw_g (lw_at lw_m9 164 rfl) rfl
theorem q2202 : (Jvm.Cond.privateMethod ({ cls := "SevenTableModel", name := "allBooks", desc := "()I" } : Jvm.MethodName)) ∈ lw_tbl := lw_at lw_m9 165 rfl
theorem q2203 : (Jvm.Cond.instanceMethod ({ cls := "SevenTableModel", name := "allBooks", desc := "()I" } : Jvm.MethodName)) ∈ lw_all := lw_g (lw_at lw_m9 166 rfl) rfl
theorem q2204 : (Jvm.Cond.code ({ cls := "SevenTableModel", name := "allBooks", desc := "()I" } : Jvm.MethodName) prog_23_method_41_code (3 : Nat) (Option.some Jvm.ClassFile.FieldType.int)) ∈ lw_all := lw_g (lw_at lw_m9 167 rfl) rfl
theorem q2206 : (Jvm.Cond.instanceMethod ({ cls := "SevenTableModel", name := "why", desc := "(III)I" } : Jvm.MethodName)) ∈ lw_all := lw_g (lw_at lw_m9 169 rfl) rfl
theorem q2207 : (Jvm.Cond.selects "SevenTableModel" ({ cls := "SevenTableModel", name := "why", desc := "(III)I" } : Jvm.MethodName) ({ cls := "SevenTableModel", name := "why", desc := "(III)I" } : Jvm.MethodName)) ∈ lw_all := lw_g (lw_at lw_m9 170 rfl) rfl
theorem q2208 : (Jvm.Cond.code ({ cls := "SevenTableModel", name := "why", desc := "(III)I" } : Jvm.MethodName) prog_23_method_48_code (4 : Nat) (Option.some Jvm.ClassFile.FieldType.int)) ∈ lw_all := lw_g (lw_at lw_m9 171 rfl) rfl
theorem q2209 : (Jvm.Cond.methodLink "SevenTableModel" (298 : Nat) ({ cls := "SevenTableModel", name := "areAsked", desc := "(III)Z" } : Jvm.MethodName)) ∈ lw_all := lw_g (lw_at lw_m9 172 rfl) rfl
theorem q2210 : (Jvm.Cond.privateMethod ({ cls := "SevenTableModel", name := "areAsked", desc := "(III)Z" } : Jvm.MethodName)) ∈ lw_tbl := lw_at lw_m9 173 rfl
theorem q2211 : (Jvm.Cond.instanceMethod ({ cls := "SevenTableModel", name := "areAsked", desc := "(III)Z" } : Jvm.MethodName)) ∈ lw_all := lw_g (lw_at lw_m9 174 rfl) rfl
theorem q2212 : (Jvm.Cond.code ({ cls := "SevenTableModel", name := "areAsked", desc := "(III)Z" } : Jvm.MethodName) prog_23_method_47_code (4 : Nat) (Option.some Jvm.ClassFile.FieldType.boolean)) ∈ lw_all := lw_g (lw_at lw_m9 175 rfl) rfl
theorem q2213 : (Jvm.Cond.methodLink "SevenTableModel" (301 : Nat) ({ cls := "SevenTableModel", name := "whyOf", desc := "(III)I" } : Jvm.MethodName)) ∈ lw_all := lw_g (lw_at lw_m9 176 rfl) rfl
theorem q2214 : (Jvm.Cond.privateMethod ({ cls := "SevenTableModel", name := "whyOf", desc := "(III)I" } : Jvm.MethodName)) ∈ lw_tbl := lw_at lw_m9 177 rfl
theorem q2215 : (Jvm.Cond.instanceMethod ({ cls := "SevenTableModel", name := "whyOf", desc := "(III)I" } : Jvm.MethodName)) ∈ lw_all := lw_g (lw_at lw_m9 178 rfl) rfl
theorem q2216 : (Jvm.Cond.code ({ cls := "SevenTableModel", name := "whyOf", desc := "(III)I" } : Jvm.MethodName) prog_23_method_46_code (4 : Nat) (Option.some Jvm.ClassFile.FieldType.int)) ∈ lw_all := lw_g (lw_at lw_m9 179 rfl) rfl
theorem q2218 : (Jvm.Cond.instanceMethod ({ cls := "SevenTableModel", name := "ask", desc := "(IIII)I" } : Jvm.MethodName)) ∈ lw_all := lw_g (lw_at lw_m9 181 rfl) rfl
theorem q2219 : (Jvm.Cond.selects "SevenTableModel" ({ cls := "SevenTableModel", name := "ask", desc := "(IIII)I" } : Jvm.MethodName) ({ cls := "SevenTableModel", name := "ask", desc := "(IIII)I" } : Jvm.MethodName)) ∈ lw_all := lw_g (lw_at lw_m9 182 rfl) rfl
theorem q2220 : (Jvm.Cond.code ({ cls := "SevenTableModel", name := "ask", desc := "(IIII)I" } : Jvm.MethodName) prog_23_method_51_code (6 : Nat) (Option.some Jvm.ClassFile.FieldType.int)) ∈ lw_all := lw_g (lw_at lw_m9 183 rfl) rfl
theorem q2221 : (Jvm.Cond.methodLink "SevenTableModel" (313 : Nat) ({ cls := "SevenTableModel", name := "keep", desc := "()V" } : Jvm.MethodName)) ∈ lw_all := lw_g (lw_at lw_m9 184 rfl) rfl
theorem q2222 : (Jvm.Cond.privateMethod ({ cls := "SevenTableModel", name := "keep", desc := "()V" } : Jvm.MethodName)) ∈ lw_tbl := lw_at lw_m9 185 rfl
theorem q2223 : (Jvm.Cond.instanceMethod ({ cls := "SevenTableModel", name := "keep", desc := "()V" } : Jvm.MethodName)) ∈ lw_all := lw_g (lw_at lw_m9 186 rfl) rfl
theorem q2224 : (Jvm.Cond.code ({ cls := "SevenTableModel", name := "keep", desc := "()V" } : Jvm.MethodName) prog_23_method_53_code (2 : Nat) (Option.none : Option Jvm.ClassFile.FieldType)) ∈ lw_all := lw_g (lw_at lw_m9 187 rfl) rfl
theorem q2225 : (Jvm.Cond.methodLink "SevenTableModel" (316 : Nat) ({ cls := "SevenTableModel", name := "asks", desc := "(IIIIZ)I" } : Jvm.MethodName)) ∈ lw_all := lw_g (lw_at lw_m9 188 rfl) rfl
theorem q2226 : (Jvm.Cond.privateMethod ({ cls := "SevenTableModel", name := "asks", desc := "(IIIIZ)I" } : Jvm.MethodName)) ∈ lw_tbl := lw_at lw_m9 189 rfl
theorem q2227 : (Jvm.Cond.instanceMethod ({ cls := "SevenTableModel", name := "asks", desc := "(IIIIZ)I" } : Jvm.MethodName)) ∈ lw_all := lw_g (lw_at lw_m9 190 rfl) rfl
theorem q2228 : (Jvm.Cond.code ({ cls := "SevenTableModel", name := "asks", desc := "(IIIIZ)I" } : Jvm.MethodName) prog_23_method_50_code (14 : Nat) (Option.some Jvm.ClassFile.FieldType.int)) ∈ lw_all := lw_g (lw_at lw_m9 191 rfl) rfl
theorem q2229 : (Jvm.Cond.methodLink "SevenTableModel" (304 : Nat) ({ cls := "SevenTableModel", name := "sureOf", desc := "(II)I" } : Jvm.MethodName)) ∈ lw_all := lw_g (lw_at lw_m9 192 rfl) rfl
theorem q2230 : (Jvm.Cond.privateMethod ({ cls := "SevenTableModel", name := "sureOf", desc := "(II)I" } : Jvm.MethodName)) ∈ lw_tbl := lw_at lw_m9 193 rfl
theorem q2231 : (Jvm.Cond.instanceMethod ({ cls := "SevenTableModel", name := "sureOf", desc := "(II)I" } : Jvm.MethodName)) ∈ lw_all := lw_g (lw_at lw_m9 194 rfl) rfl
theorem q2232 : (Jvm.Cond.code ({ cls := "SevenTableModel", name := "sureOf", desc := "(II)I" } : Jvm.MethodName) prog_23_method_49_code (4 : Nat) (Option.some Jvm.ClassFile.FieldType.int)) ∈ lw_all := lw_g (lw_at lw_m9 195 rfl) rfl
theorem q2233 : (Jvm.Cond.methodLink "SevenTableModel" (307 : Nat) ({ cls := "SevenTableModel", name := "cannot", desc := "(II)V" } : Jvm.MethodName)) ∈ lw_all := lw_g (lw_at lw_m9 196 rfl) rfl
theorem q2234 : (Jvm.Cond.privateMethod ({ cls := "SevenTableModel", name := "cannot", desc := "(II)V" } : Jvm.MethodName)) ∈ lw_tbl := lw_at lw_m9 197 rfl
theorem q2235 : (Jvm.Cond.instanceMethod ({ cls := "SevenTableModel", name := "cannot", desc := "(II)V" } : Jvm.MethodName)) ∈ lw_all := lw_g (lw_at lw_m9 198 rfl) rfl
theorem q2236 : (Jvm.Cond.code ({ cls := "SevenTableModel", name := "cannot", desc := "(II)V" } : Jvm.MethodName) prog_23_method_31_code (4 : Nat) (Option.none : Option Jvm.ClassFile.FieldType)) ∈ lw_all := lw_g (lw_at lw_m9 199 rfl) rfl
theorem q2238 : (Jvm.Cond.instanceMethod ({ cls := "SevenTableModel", name := "asked", desc := "(I)I" } : Jvm.MethodName)) ∈ lw_all := lw_g (lw_at lw_m9 201 rfl) rfl
theorem q2239 : (Jvm.Cond.selects "SevenTableModel" ({ cls := "SevenTableModel", name := "asked", desc := "(I)I" } : Jvm.MethodName) ({ cls := "SevenTableModel", name := "asked", desc := "(I)I" } : Jvm.MethodName)) ∈ lw_all := lw_g (lw_at lw_m9 202 rfl) rfl
theorem q2240 : (Jvm.Cond.code ({ cls := "SevenTableModel", name := "asked", desc := "(I)I" } : Jvm.MethodName) prog_23_method_52_code (2 : Nat) (Option.some Jvm.ClassFile.FieldType.int)) ∈ lw_all := lw_g (lw_at lw_m9 203 rfl) rfl
theorem q2242 : (Jvm.Cond.instanceMethod ({ cls := "SevenTableModel", name := "undo", desc := "()I" } : Jvm.MethodName)) ∈ lw_all := lw_g (lw_at lw_m9 205 rfl) rfl
theorem q2243 : (Jvm.Cond.selects "SevenTableModel" ({ cls := "SevenTableModel", name := "undo", desc := "()I" } : Jvm.MethodName) ({ cls := "SevenTableModel", name := "undo", desc := "()I" } : Jvm.MethodName)) ∈ lw_all := lw_g (lw_at lw_m9 206 rfl) rfl
theorem q2244 : (Jvm.Cond.code ({ cls := "SevenTableModel", name := "undo", desc := "()I" } : Jvm.MethodName) prog_23_method_54_code (2 : Nat) (Option.some Jvm.ClassFile.FieldType.int)) ∈ lw_all := lw_g (lw_at lw_m9 207 rfl) rfl
theorem q2246 : (Jvm.Cond.instanceMethod ({ cls := "SevenTableModel", name := "known", desc := "(II)I" } : Jvm.MethodName)) ∈ lw_all := lw_g (lw_at lw_m9 209 rfl) rfl
theorem q2247 : (Jvm.Cond.selects "SevenTableModel" ({ cls := "SevenTableModel", name := "known", desc := "(II)I" } : Jvm.MethodName) ({ cls := "SevenTableModel", name := "known", desc := "(II)I" } : Jvm.MethodName)) ∈ lw_all := lw_g (lw_at lw_m9 210 rfl) rfl
theorem q2248 : (Jvm.Cond.code ({ cls := "SevenTableModel", name := "known", desc := "(II)I" } : Jvm.MethodName) prog_23_method_57_code (3 : Nat) (Option.some Jvm.ClassFile.FieldType.int)) ∈ lw_all := lw_g (lw_at lw_m9 211 rfl) rfl
theorem q2250 : (Jvm.Cond.instanceMethod ({ cls := "SevenTableModel", name := "can", desc := "(II)I" } : Jvm.MethodName)) ∈ lw_all := lw_g (lw_at lw_m9 213 rfl) rfl
theorem q2251 : (Jvm.Cond.selects "SevenTableModel" ({ cls := "SevenTableModel", name := "can", desc := "(II)I" } : Jvm.MethodName) ({ cls := "SevenTableModel", name := "can", desc := "(II)I" } : Jvm.MethodName)) ∈ lw_all := lw_g (lw_at lw_m9 214 rfl) rfl
theorem q2252 : (Jvm.Cond.code ({ cls := "SevenTableModel", name := "can", desc := "(II)I" } : Jvm.MethodName) prog_23_method_58_code (5 : Nat) (Option.some Jvm.ClassFile.FieldType.int)) ∈ lw_all := lw_g (lw_at lw_m9 215 rfl) rfl
theorem q2254 : (Jvm.Cond.instanceMethod ({ cls := "SevenTableModel", name := "odds", desc := "(IIII)J" } : Jvm.MethodName)) ∈ lw_all := lw_g (lw_at lw_m9 217 rfl) rfl
theorem q2255 : (Jvm.Cond.selects "SevenTableModel" ({ cls := "SevenTableModel", name := "odds", desc := "(IIII)J" } : Jvm.MethodName) ({ cls := "SevenTableModel", name := "odds", desc := "(IIII)J" } : Jvm.MethodName)) ∈ lw_all := lw_g (lw_at lw_m9 218 rfl) rfl
theorem q2256 : (Jvm.Cond.code ({ cls := "SevenTableModel", name := "odds", desc := "(IIII)J" } : Jvm.MethodName) prog_23_method_64_code (7 : Nat) (Option.some Jvm.ClassFile.FieldType.long)) ∈ lw_all := lw_g (lw_at lw_m9 219 rfl) rfl
theorem q2257 : (Jvm.Cond.methodLink "SevenTableModel" (336 : Nat) ({ cls := "SevenTableModel", name := "looks", desc := "(I)Z" } : Jvm.MethodName)) ∈ lw_all := lw_g (lw_at lw_m9 220 rfl) rfl
theorem q2258 : (Jvm.Cond.privateMethod ({ cls := "SevenTableModel", name := "looks", desc := "(I)Z" } : Jvm.MethodName)) ∈ lw_tbl := lw_at lw_m9 221 rfl
theorem q2259 : (Jvm.Cond.instanceMethod ({ cls := "SevenTableModel", name := "looks", desc := "(I)Z" } : Jvm.MethodName)) ∈ lw_all := lw_g (lw_at lw_m9 222 rfl) rfl
theorem q2260 : (Jvm.Cond.code ({ cls := "SevenTableModel", name := "looks", desc := "(I)Z" } : Jvm.MethodName) prog_23_method_59_code (4 : Nat) (Option.some Jvm.ClassFile.FieldType.boolean)) ∈ lw_all := lw_g (lw_at lw_m9 223 rfl) rfl
theorem q2261 : (Jvm.Cond.methodLink "SevenTableModel" (339 : Nat) ({ cls := "SevenTableModel", name := "waysOf", desc := "(III)J" } : Jvm.MethodName)) ∈ lw_all := lw_g (lw_at lw_m9 224 rfl) rfl
theorem q2262 : (Jvm.Cond.privateMethod ({ cls := "SevenTableModel", name := "waysOf", desc := "(III)J" } : Jvm.MethodName)) ∈ lw_tbl := lw_at lw_m9 225 rfl
theorem q2263 : (Jvm.Cond.instanceMethod ({ cls := "SevenTableModel", name := "waysOf", desc := "(III)J" } : Jvm.MethodName)) ∈ lw_all := lw_g (lw_at lw_m9 226 rfl) rfl
theorem q2264 : (Jvm.Cond.code ({ cls := "SevenTableModel", name := "waysOf", desc := "(III)J" } : Jvm.MethodName) prog_23_method_61_code (11 : Nat) (Option.some Jvm.ClassFile.FieldType.long)) ∈ lw_all := lw_g (lw_at lw_m9 227 rfl) rfl
theorem q2265 : (Jvm.Cond.methodLink "SevenTableModel" (329 : Nat) ({ cls := "SevenTableModel", name := "digit", desc := "(II)I" } : Jvm.MethodName)) ∈ lw_all := lw_g (lw_at lw_m9 228 rfl) rfl
theorem q2266 : (Jvm.Cond.static ({ cls := "SevenTableModel", name := "digit", desc := "(II)I" } : Jvm.MethodName)) ∈ lw_all := lw_g (lw_at lw_m9 229 rfl) rfl
theorem q2267 : (Jvm.Cond.code ({ cls := "SevenTableModel", name := "digit", desc := "(II)I" } : Jvm.MethodName) prog_23_method_60_code (2 : Nat) (Option.some Jvm.ClassFile.FieldType.int)) ∈ lw_all := lw_g (lw_at lw_m9 230 rfl) rfl
theorem q2268 : (Jvm.Cond.methodLink "SevenTableModel" (343 : Nat) ({ cls := "SevenTableModel", name := "part", desc := "(JJI)J" } : Jvm.MethodName)) ∈ lw_all := lw_g (lw_at lw_m9 231 rfl) rfl
theorem q2269 : (Jvm.Cond.static ({ cls := "SevenTableModel", name := "part", desc := "(JJI)J" } : Jvm.MethodName)) ∈ lw_all := lw_g (lw_at lw_m9 232 rfl) rfl
theorem q2270 : (Jvm.Cond.code ({ cls := "SevenTableModel", name := "part", desc := "(JJI)J" } : Jvm.MethodName) prog_23_method_63_code (5 : Nat) (Option.some Jvm.ClassFile.FieldType.long)) ∈ lw_all := lw_g (lw_at lw_m9 233 rfl) rfl
theorem q2271 : (Jvm.Cond.methodLink "SevenTableModel" (332 : Nat) ({ cls := "SevenTableModel", name := "common", desc := "(JJ)J" } : Jvm.MethodName)) ∈ lw_all := lw_g (lw_at lw_m9 234 rfl) rfl
theorem q2272 : (Jvm.Cond.static ({ cls := "SevenTableModel", name := "common", desc := "(JJ)J" } : Jvm.MethodName)) ∈ lw_all := lw_g (lw_at lw_m9 235 rfl) rfl
theorem q2273 : (Jvm.Cond.code ({ cls := "SevenTableModel", name := "common", desc := "(JJ)J" } : Jvm.MethodName) prog_23_method_62_code (10 : Nat) (Option.some Jvm.ClassFile.FieldType.long)) ∈ lw_all := lw_g (lw_at lw_m9 236 rfl) rfl
theorem q2275 : (Jvm.Cond.instanceMethod ({ cls := "SevenTableModel", name := "next", desc := "(III)J" } : Jvm.MethodName)) ∈ lw_all := lw_g (lw_at lw_m9 238 rfl) rfl
theorem q2276 : (Jvm.Cond.selects "SevenTableModel" ({ cls := "SevenTableModel", name := "next", desc := "(III)J" } : Jvm.MethodName) ({ cls := "SevenTableModel", name := "next", desc := "(III)J" } : Jvm.MethodName)) ∈ lw_all := lw_g (lw_at lw_m9 239 rfl) rfl
theorem q2277 : (Jvm.Cond.code ({ cls := "SevenTableModel", name := "next", desc := "(III)J" } : Jvm.MethodName) prog_23_method_65_code (11 : Nat) (Option.some Jvm.ClassFile.FieldType.long)) ∈ lw_all := lw_g (lw_at lw_m10 0 rfl) rfl
theorem q2279 : (Jvm.Cond.instanceMethod ({ cls := "SevenTableModel", name := "whom", desc := "(I)I" } : Jvm.MethodName)) ∈ lw_all := lw_g (lw_at lw_m10 2 rfl) rfl
theorem q2280 : (Jvm.Cond.selects "SevenTableModel" ({ cls := "SevenTableModel", name := "whom", desc := "(I)I" } : Jvm.MethodName) ({ cls := "SevenTableModel", name := "whom", desc := "(I)I" } : Jvm.MethodName)) ∈ lw_all := lw_g (lw_at lw_m10 3 rfl) rfl
theorem q2281 : (Jvm.Cond.code ({ cls := "SevenTableModel", name := "whom", desc := "(I)I" } : Jvm.MethodName) prog_23_method_66_code (11 : Nat) (Option.some Jvm.ClassFile.FieldType.int)) ∈ lw_all := lw_g (lw_at lw_m10 4 rfl) rfl
theorem q2282 : (Jvm.Cond.constantLong "SevenTableModel" (347 : Nat) (-1 : Int64)) ∈ lw_all := lw_g (lw_at lw_m10 5 rfl) rfl
theorem q2284 : (Jvm.Cond.instanceMethod ({ cls := "SevenTableModel", name := "sweep", desc := "(I)I" } : Jvm.MethodName)) ∈ lw_all := lw_g (lw_at lw_m10 7 rfl) rfl
theorem q2285 : (Jvm.Cond.selects "SevenTableModel" ({ cls := "SevenTableModel", name := "sweep", desc := "(I)I" } : Jvm.MethodName) ({ cls := "SevenTableModel", name := "sweep", desc := "(I)I" } : Jvm.MethodName)) ∈ lw_all := lw_g (lw_at lw_m10 8 rfl) rfl
theorem q2286 : (Jvm.Cond.code ({ cls := "SevenTableModel", name := "sweep", desc := "(I)I" } : Jvm.MethodName) prog_23_method_67_code (4 : Nat) (Option.some Jvm.ClassFile.FieldType.int)) ∈ lw_all := lw_g (lw_at lw_m10 9 rfl) rfl
theorem q2288 : (Jvm.Cond.instanceMethod ({ cls := "SevenTableModel", name := "swept", desc := "(I)I" } : Jvm.MethodName)) ∈ lw_all := lw_g (lw_at lw_m10 11 rfl) rfl
theorem q2289 : (Jvm.Cond.selects "SevenTableModel" ({ cls := "SevenTableModel", name := "swept", desc := "(I)I" } : Jvm.MethodName) ({ cls := "SevenTableModel", name := "swept", desc := "(I)I" } : Jvm.MethodName)) ∈ lw_all := lw_g (lw_at lw_m10 12 rfl) rfl
theorem q2290 : (Jvm.Cond.code ({ cls := "SevenTableModel", name := "swept", desc := "(I)I" } : Jvm.MethodName) prog_23_method_68_code (2 : Nat) (Option.some Jvm.ClassFile.FieldType.int)) ∈ lw_all := lw_g (lw_at lw_m10 13 rfl) rfl
theorem q2292 : (Jvm.Cond.instanceMethod ({ cls := "SevenTableModel", name := "gains", desc := "(I)I" } : Jvm.MethodName)) ∈ lw_all := lw_g (lw_at lw_m10 15 rfl) rfl
theorem q2293 : (Jvm.Cond.selects "SevenTableModel" ({ cls := "SevenTableModel", name := "gains", desc := "(I)I" } : Jvm.MethodName) ({ cls := "SevenTableModel", name := "gains", desc := "(I)I" } : Jvm.MethodName)) ∈ lw_all := lw_g (lw_at lw_m10 16 rfl) rfl
theorem q2294 : (Jvm.Cond.code ({ cls := "SevenTableModel", name := "gains", desc := "(I)I" } : Jvm.MethodName) prog_23_method_70_code (4 : Nat) (Option.some Jvm.ClassFile.FieldType.int)) ∈ lw_all := lw_g (lw_at lw_m10 17 rfl) rfl
theorem q2295 : (Jvm.Cond.methodLink "SevenTableModel" (352 : Nat) ({ cls := "SevenTableModel", name := "inHands", desc := "(I)I" } : Jvm.MethodName)) ∈ lw_all := lw_g (lw_at lw_m10 18 rfl) rfl
theorem q2296 : (Jvm.Cond.privateMethod ({ cls := "SevenTableModel", name := "inHands", desc := "(I)I" } : Jvm.MethodName)) ∈ lw_tbl := lw_at lw_m10 19 rfl
theorem q2297 : (Jvm.Cond.instanceMethod ({ cls := "SevenTableModel", name := "inHands", desc := "(I)I" } : Jvm.MethodName)) ∈ lw_all := lw_g (lw_at lw_m10 20 rfl) rfl
theorem q2298 : (Jvm.Cond.code ({ cls := "SevenTableModel", name := "inHands", desc := "(I)I" } : Jvm.MethodName) prog_23_method_69_code (4 : Nat) (Option.some Jvm.ClassFile.FieldType.int)) ∈ lw_all := lw_g (lw_at lw_m10 21 rfl) rfl
theorem q2300 : (Jvm.Cond.instanceMethod ({ cls := "SevenTableModel", name := "open", desc := "()I" } : Jvm.MethodName)) ∈ lw_all := lw_g (lw_at lw_m10 23 rfl) rfl
theorem q2301 : (Jvm.Cond.selects "SevenTableModel" ({ cls := "SevenTableModel", name := "open", desc := "()I" } : Jvm.MethodName) ({ cls := "SevenTableModel", name := "open", desc := "()I" } : Jvm.MethodName)) ∈ lw_all := lw_g (lw_at lw_m10 24 rfl) rfl
theorem q2302 : (Jvm.Cond.code ({ cls := "SevenTableModel", name := "open", desc := "()I" } : Jvm.MethodName) prog_23_method_79_code (1 : Nat) (Option.some Jvm.ClassFile.FieldType.int)) ∈ lw_all := lw_g (lw_at lw_m10 25 rfl) rfl
theorem q2303 : (Jvm.Cond.methodLink "SevenTableModel" (397 : Nat) ({ cls := "SevenTableModel", name := "openOf", desc := "()I" } : Jvm.MethodName)) ∈ lw_all := lw_g (lw_at lw_m10 26 rfl) rfl
theorem q2304 : (Jvm.Cond.privateMethod ({ cls := "SevenTableModel", name := "openOf", desc := "()I" } : Jvm.MethodName)) ∈ lw_tbl := lw_at lw_m10 27 rfl
theorem q2305 : (Jvm.Cond.instanceMethod ({ cls := "SevenTableModel", name := "openOf", desc := "()I" } : Jvm.MethodName)) ∈ lw_all := lw_g (lw_at lw_m10 28 rfl) rfl
theorem q2306 : (Jvm.Cond.code ({ cls := "SevenTableModel", name := "openOf", desc := "()I" } : Jvm.MethodName) prog_23_method_78_code (5 : Nat) (Option.some Jvm.ClassFile.FieldType.int)) ∈ lw_all := lw_g (lw_at lw_m10 29 rfl) rfl
theorem q2307 : (Jvm.Cond.methodLink "SevenTableModel" (384 : Nat) ({ cls := "SevenTableModel", name := "codeOf", desc := "(Z)I" } : Jvm.MethodName)) ∈ lw_all := lw_g (lw_at lw_m10 30 rfl) rfl
theorem q2308 : (Jvm.Cond.privateMethod ({ cls := "SevenTableModel", name := "codeOf", desc := "(Z)I" } : Jvm.MethodName)) ∈ lw_tbl := lw_at lw_m10 31 rfl
theorem q2309 : (Jvm.Cond.instanceMethod ({ cls := "SevenTableModel", name := "codeOf", desc := "(Z)I" } : Jvm.MethodName)) ∈ lw_all := lw_g (lw_at lw_m10 32 rfl) rfl
theorem q2310 : (Jvm.Cond.code ({ cls := "SevenTableModel", name := "codeOf", desc := "(Z)I" } : Jvm.MethodName) prog_23_method_71_code (4 : Nat) (Option.some Jvm.ClassFile.FieldType.int)) ∈ lw_all := lw_g (lw_at lw_m10 33 rfl) rfl
theorem q2311 : (Jvm.Cond.methodLink "SevenTableModel" (394 : Nat) ({ cls := "SevenTableModel", name := "lacks", desc := "(I)I" } : Jvm.MethodName)) ∈ lw_all := lw_g (lw_at lw_m10 34 rfl) rfl
theorem q2312 : (Jvm.Cond.privateMethod ({ cls := "SevenTableModel", name := "lacks", desc := "(I)I" } : Jvm.MethodName)) ∈ lw_tbl := lw_at lw_m10 35 rfl
theorem q2313 : (Jvm.Cond.instanceMethod ({ cls := "SevenTableModel", name := "lacks", desc := "(I)I" } : Jvm.MethodName)) ∈ lw_all := lw_g (lw_at lw_m10 36 rfl) rfl
theorem q2314 : (Jvm.Cond.code ({ cls := "SevenTableModel", name := "lacks", desc := "(I)I" } : Jvm.MethodName) prog_23_method_77_code (5 : Nat) (Option.some Jvm.ClassFile.FieldType.int)) ∈ lw_all := lw_g (lw_at lw_m10 37 rfl) rfl
theorem q2315 : (Jvm.Cond.methodLink "SevenTableModel" (369 : Nat) ({ cls := "SevenTableModel", name := "decode", desc := "(I)V" } : Jvm.MethodName)) ∈ lw_all := lw_g (lw_at lw_m10 38 rfl) rfl
theorem q2316 : (Jvm.Cond.privateMethod ({ cls := "SevenTableModel", name := "decode", desc := "(I)V" } : Jvm.MethodName)) ∈ lw_tbl := lw_at lw_m10 39 rfl
theorem q2317 : (Jvm.Cond.instanceMethod ({ cls := "SevenTableModel", name := "decode", desc := "(I)V" } : Jvm.MethodName)) ∈ lw_all := lw_g (lw_at lw_m10 40 rfl) rfl
theorem q2318 : (Jvm.Cond.code ({ cls := "SevenTableModel", name := "decode", desc := "(I)V" } : Jvm.MethodName) prog_23_method_72_code (4 : Nat) (Option.none : Option Jvm.ClassFile.FieldType)) ∈ lw_all := lw_g (lw_at lw_m10 41 rfl) rfl
theorem q2319 : (Jvm.Cond.methodLink "SevenTableModel" (388 : Nat) ({ cls := "SevenTableModel", name := "goes", desc := "(II)V" } : Jvm.MethodName)) ∈ lw_all := lw_g (lw_at lw_m10 42 rfl) rfl
theorem q2320 : (Jvm.Cond.privateMethod ({ cls := "SevenTableModel", name := "goes", desc := "(II)V" } : Jvm.MethodName)) ∈ lw_tbl := lw_at lw_m10 43 rfl
theorem q2321 : (Jvm.Cond.instanceMethod ({ cls := "SevenTableModel", name := "goes", desc := "(II)V" } : Jvm.MethodName)) ∈ lw_all := lw_g (lw_at lw_m10 44 rfl) rfl
theorem q2322 : (Jvm.Cond.code ({ cls := "SevenTableModel", name := "goes", desc := "(II)V" } : Jvm.MethodName) prog_23_method_76_code (5 : Nat) (Option.none : Option Jvm.ClassFile.FieldType)) ∈ lw_all := lw_g (lw_at lw_m10 45 rfl) rfl
theorem q2323 : (Jvm.Cond.methodLink "SevenTableModel" (365 : Nat) ({ cls := "SevenTableModel", name := "laid", desc := "([II)I" } : Jvm.MethodName)) ∈ lw_all := lw_g (lw_at lw_m10 46 rfl) rfl
theorem q2324 : (Jvm.Cond.static ({ cls := "SevenTableModel", name := "laid", desc := "([II)I" } : Jvm.MethodName)) ∈ lw_all := lw_g (lw_at lw_m10 47 rfl) rfl
theorem q2325 : (Jvm.Cond.code ({ cls := "SevenTableModel", name := "laid", desc := "([II)I" } : Jvm.MethodName) prog_23_method_74_code (2 : Nat) (Option.some Jvm.ClassFile.FieldType.int)) ∈ lw_all := lw_g (lw_at lw_m10 48 rfl) rfl
theorem q2326 : (Jvm.Cond.methodLink "SevenTableModel" (381 : Nat) ({ cls := "SevenTableModel", name := "filled", desc := "([I)I" } : Jvm.MethodName)) ∈ lw_all := lw_g (lw_at lw_m10 49 rfl) rfl
theorem q2327 : (Jvm.Cond.privateMethod ({ cls := "SevenTableModel", name := "filled", desc := "([I)I" } : Jvm.MethodName)) ∈ lw_tbl := lw_at lw_m10 50 rfl
theorem q2328 : (Jvm.Cond.instanceMethod ({ cls := "SevenTableModel", name := "filled", desc := "([I)I" } : Jvm.MethodName)) ∈ lw_all := lw_g (lw_at lw_m10 51 rfl) rfl
theorem q2329 : (Jvm.Cond.code ({ cls := "SevenTableModel", name := "filled", desc := "([I)I" } : Jvm.MethodName) prog_23_method_75_code (6 : Nat) (Option.some Jvm.ClassFile.FieldType.int)) ∈ lw_all := lw_g (lw_at lw_m10 52 rfl) rfl
theorem q2330 : (Jvm.Cond.methodLink "SevenTableModel" (361 : Nat) ({ cls := "SevenTableModel", name := "sumOf", desc := "([I)I" } : Jvm.MethodName)) ∈ lw_all := lw_g (lw_at lw_m10 53 rfl) rfl
theorem q2331 : (Jvm.Cond.static ({ cls := "SevenTableModel", name := "sumOf", desc := "([I)I" } : Jvm.MethodName)) ∈ lw_all := lw_g (lw_at lw_m10 54 rfl) rfl
theorem q2332 : (Jvm.Cond.code ({ cls := "SevenTableModel", name := "sumOf", desc := "([I)I" } : Jvm.MethodName) prog_23_method_73_code (1 : Nat) (Option.some Jvm.ClassFile.FieldType.int)) ∈ lw_all := lw_g (lw_at lw_m10 55 rfl) rfl
theorem q2334 : (Jvm.Cond.instanceMethod ({ cls := "SevenTableModel", name := "first", desc := "()I" } : Jvm.MethodName)) ∈ lw_all := lw_g (lw_at lw_m10 57 rfl) rfl
theorem q2335 : (Jvm.Cond.selects "SevenTableModel" ({ cls := "SevenTableModel", name := "first", desc := "()I" } : Jvm.MethodName) ({ cls := "SevenTableModel", name := "first", desc := "()I" } : Jvm.MethodName)) ∈ lw_all := lw_g (lw_at lw_m10 58 rfl) rfl
theorem q2336 : (Jvm.Cond.code ({ cls := "SevenTableModel", name := "first", desc := "()I" } : Jvm.MethodName) prog_23_method_80_code (1 : Nat) (Option.some Jvm.ClassFile.FieldType.int)) ∈ lw_all := lw_g (lw_at lw_m10 59 rfl) rfl
theorem q2338 : (Jvm.Cond.instanceMethod ({ cls := "SevenTableModel", name := "bent", desc := "(II)I" } : Jvm.MethodName)) ∈ lw_all := lw_g (lw_at lw_m10 61 rfl) rfl
theorem q2339 : (Jvm.Cond.selects "SevenTableModel" ({ cls := "SevenTableModel", name := "bent", desc := "(II)I" } : Jvm.MethodName) ({ cls := "SevenTableModel", name := "bent", desc := "(II)I" } : Jvm.MethodName)) ∈ lw_all := lw_g (lw_at lw_m10 62 rfl) rfl
theorem q2340 : (Jvm.Cond.code ({ cls := "SevenTableModel", name := "bent", desc := "(II)I" } : Jvm.MethodName) prog_23_method_83_code (3 : Nat) (Option.some Jvm.ClassFile.FieldType.int)) ∈ lw_all := lw_g (lw_at lw_m10 63 rfl) rfl
theorem q2341 : (Jvm.Cond.methodLink "SevenTableModel" (403 : Nat) ({ cls := "SevenTableModel", name := "bentOf", desc := "(II)I" } : Jvm.MethodName)) ∈ lw_all := lw_g (lw_at lw_m10 64 rfl) rfl
theorem q2342 : (Jvm.Cond.privateMethod ({ cls := "SevenTableModel", name := "bentOf", desc := "(II)I" } : Jvm.MethodName)) ∈ lw_tbl := lw_at lw_m10 65 rfl
theorem q2343 : (Jvm.Cond.instanceMethod ({ cls := "SevenTableModel", name := "bentOf", desc := "(II)I" } : Jvm.MethodName)) ∈ lw_all := lw_g (lw_at lw_m10 66 rfl) rfl
theorem q2344 : (Jvm.Cond.code ({ cls := "SevenTableModel", name := "bentOf", desc := "(II)I" } : Jvm.MethodName) prog_23_method_82_code (7 : Nat) (Option.some Jvm.ClassFile.FieldType.int)) ∈ lw_all := lw_g (lw_at lw_m10 67 rfl) rfl
theorem q2345 : (Jvm.Cond.methodLink "SevenTableModel" (400 : Nat) ({ cls := "SevenTableModel", name := "nextWithCards", desc := "(I)I" } : Jvm.MethodName)) ∈ lw_all := lw_g (lw_at lw_m10 68 rfl) rfl
theorem q2346 : (Jvm.Cond.privateMethod ({ cls := "SevenTableModel", name := "nextWithCards", desc := "(I)I" } : Jvm.MethodName)) ∈ lw_tbl := lw_at lw_m10 69 rfl
theorem q2347 : (Jvm.Cond.instanceMethod ({ cls := "SevenTableModel", name := "nextWithCards", desc := "(I)I" } : Jvm.MethodName)) ∈ lw_all := lw_g (lw_at lw_m10 70 rfl) rfl
theorem q2348 : (Jvm.Cond.code ({ cls := "SevenTableModel", name := "nextWithCards", desc := "(I)I" } : Jvm.MethodName) prog_23_method_81_code (3 : Nat) (Option.some Jvm.ClassFile.FieldType.int)) ∈ lw_all := lw_g (lw_at lw_m10 71 rfl) rfl
theorem q2350 : (Jvm.Cond.instanceMethod ({ cls := "SevenTableModel", name := "play", desc := "(I)I" } : Jvm.MethodName)) ∈ lw_all := lw_g (lw_at lw_m10 73 rfl) rfl
theorem q2351 : (Jvm.Cond.selects "SevenTableModel" ({ cls := "SevenTableModel", name := "play", desc := "(I)I" } : Jvm.MethodName) ({ cls := "SevenTableModel", name := "play", desc := "(I)I" } : Jvm.MethodName)) ∈ lw_all := lw_g (lw_at lw_m10 74 rfl) rfl
theorem q2352 : (Jvm.Cond.code ({ cls := "SevenTableModel", name := "play", desc := "(I)I" } : Jvm.MethodName) prog_23_method_85_code (3 : Nat) (Option.some Jvm.ClassFile.FieldType.int)) ∈ lw_all := lw_g (lw_at lw_m10 75 rfl) rfl
theorem q2353 : (Jvm.Cond.methodLink "SevenTableModel" (406 : Nat) ({ cls := "SevenTableModel", name := "octet", desc := "(I)I" } : Jvm.MethodName)) ∈ lw_all := lw_g (lw_at lw_m10 76 rfl) rfl
theorem q2354 : (Jvm.Cond.privateMethod ({ cls := "SevenTableModel", name := "octet", desc := "(I)I" } : Jvm.MethodName)) ∈ lw_tbl := lw_at lw_m10 77 rfl
theorem q2355 : (Jvm.Cond.instanceMethod ({ cls := "SevenTableModel", name := "octet", desc := "(I)I" } : Jvm.MethodName)) ∈ lw_all := lw_g (lw_at lw_m10 78 rfl) rfl
theorem q2356 : (Jvm.Cond.code ({ cls := "SevenTableModel", name := "octet", desc := "(I)I" } : Jvm.MethodName) prog_23_method_9_code (2 : Nat) (Option.some Jvm.ClassFile.FieldType.int)) ∈ lw_all := lw_g (lw_at lw_m10 79 rfl) rfl
theorem q2357 : (Jvm.Cond.methodLink "SevenTableModel" (409 : Nat) ({ cls := "SevenTableModel", name := "plays", desc := "(IZ)I" } : Jvm.MethodName)) ∈ lw_all := lw_g (lw_at lw_m10 80 rfl) rfl
theorem q2358 : (Jvm.Cond.privateMethod ({ cls := "SevenTableModel", name := "plays", desc := "(IZ)I" } : Jvm.MethodName)) ∈ lw_tbl := lw_at lw_m10 81 rfl
theorem q2359 : (Jvm.Cond.instanceMethod ({ cls := "SevenTableModel", name := "plays", desc := "(IZ)I" } : Jvm.MethodName)) ∈ lw_all := lw_g (lw_at lw_m10 82 rfl) rfl
theorem q2360 : (Jvm.Cond.code ({ cls := "SevenTableModel", name := "plays", desc := "(IZ)I" } : Jvm.MethodName) prog_23_method_84_code (6 : Nat) (Option.some Jvm.ClassFile.FieldType.int)) ∈ lw_all := lw_g (lw_at lw_m10 83 rfl) rfl
theorem q2362 : (Jvm.Cond.instanceMethod ({ cls := "SevenTableModel", name := "deal", desc := "(II)Z" } : Jvm.MethodName)) ∈ lw_all := lw_g (lw_at lw_m10 85 rfl) rfl
theorem q2363 : (Jvm.Cond.selects "SevenTableModel" ({ cls := "SevenTableModel", name := "deal", desc := "(II)Z" } : Jvm.MethodName) ({ cls := "SevenTableModel", name := "deal", desc := "(II)Z" } : Jvm.MethodName)) ∈ lw_all := lw_g (lw_at lw_m10 86 rfl) rfl
theorem q2364 : (Jvm.Cond.code ({ cls := "SevenTableModel", name := "deal", desc := "(II)Z" } : Jvm.MethodName) prog_23_method_88_code (3 : Nat) (Option.some Jvm.ClassFile.FieldType.boolean)) ∈ lw_all := lw_g (lw_at lw_m10 87 rfl) rfl
theorem q2365 : (Jvm.Cond.methodLink "SevenTableModel" (420 : Nat) ({ cls := "SevenTableModel", name := "deals", desc := "(II)V" } : Jvm.MethodName)) ∈ lw_all := lw_g (lw_at lw_m10 88 rfl) rfl
theorem q2366 : (Jvm.Cond.privateMethod ({ cls := "SevenTableModel", name := "deals", desc := "(II)V" } : Jvm.MethodName)) ∈ lw_tbl := lw_at lw_m10 89 rfl
theorem q2367 : (Jvm.Cond.instanceMethod ({ cls := "SevenTableModel", name := "deals", desc := "(II)V" } : Jvm.MethodName)) ∈ lw_all := lw_g (lw_at lw_m10 90 rfl) rfl
theorem q2368 : (Jvm.Cond.code ({ cls := "SevenTableModel", name := "deals", desc := "(II)V" } : Jvm.MethodName) prog_23_method_87_code (7 : Nat) (Option.none : Option Jvm.ClassFile.FieldType)) ∈ lw_all := lw_g (lw_at lw_m10 91 rfl) rfl
theorem q2369 : (Jvm.Cond.methodLink "SevenTableModel" (417 : Nat) ({ cls := "SevenTableModel", name := "draw", desc := "(I)I" } : Jvm.MethodName)) ∈ lw_all := lw_g (lw_at lw_m10 92 rfl) rfl
theorem q2370 : (Jvm.Cond.privateMethod ({ cls := "SevenTableModel", name := "draw", desc := "(I)I" } : Jvm.MethodName)) ∈ lw_tbl := lw_at lw_m10 93 rfl
theorem q2371 : (Jvm.Cond.instanceMethod ({ cls := "SevenTableModel", name := "draw", desc := "(I)I" } : Jvm.MethodName)) ∈ lw_all := lw_g (lw_at lw_m10 94 rfl) rfl
theorem q2372 : (Jvm.Cond.code ({ cls := "SevenTableModel", name := "draw", desc := "(I)I" } : Jvm.MethodName) prog_23_method_86_code (2 : Nat) (Option.some Jvm.ClassFile.FieldType.int)) ∈ lw_all := lw_g (lw_at lw_m10 95 rfl) rfl
theorem q2373 : (Jvm.Cond.constant "SevenTableModel" (416 : Nat) (1103515245 : Int32)) ∈ lw_all := lw_g (lw_at lw_m10 96 rfl) rfl
theorem q2375 : (Jvm.Cond.instanceMethod ({ cls := "SevenTableModel", name := "games", desc := "(IIII)I" } : Jvm.MethodName)) ∈ lw_all := lw_g (lw_at lw_m10 98 rfl) rfl
theorem q2376 : (Jvm.Cond.selects "SevenTableModel" ({ cls := "SevenTableModel", name := "games", desc := "(IIII)I" } : Jvm.MethodName) ({ cls := "SevenTableModel", name := "games", desc := "(IIII)I" } : Jvm.MethodName)) ∈ lw_all := lw_g (lw_at lw_m10 99 rfl) rfl
theorem q2377 : (Jvm.Cond.code ({ cls := "SevenTableModel", name := "games", desc := "(IIII)I" } : Jvm.MethodName) prog_23_method_91_code (5 : Nat) (Option.some Jvm.ClassFile.FieldType.int)) ∈ lw_all := lw_g (lw_at lw_m10 100 rfl) rfl
theorem q2378 : (Jvm.Cond.methodLink "SevenTableModel" (432 : Nat) ({ cls := "SevenTableModel", name := "areGames", desc := "(III)Z" } : Jvm.MethodName)) ∈ lw_all := lw_g (lw_at lw_m10 101 rfl) rfl
theorem q2379 : (Jvm.Cond.privateMethod ({ cls := "SevenTableModel", name := "areGames", desc := "(III)Z" } : Jvm.MethodName)) ∈ lw_tbl := lw_at lw_m10 102 rfl
theorem q2380 : (Jvm.Cond.instanceMethod ({ cls := "SevenTableModel", name := "areGames", desc := "(III)Z" } : Jvm.MethodName)) ∈ lw_all := lw_g (lw_at lw_m10 103 rfl) rfl
theorem q2381 : (Jvm.Cond.code ({ cls := "SevenTableModel", name := "areGames", desc := "(III)Z" } : Jvm.MethodName) prog_23_method_90_code (4 : Nat) (Option.some Jvm.ClassFile.FieldType.boolean)) ∈ lw_all := lw_g (lw_at lw_m10 104 rfl) rfl
theorem q2382 : (Jvm.Cond.methodLink "SevenTableModel" (435 : Nat) ({ cls := "SevenTableModel", name := "gamesOf", desc := "(IIII)I" } : Jvm.MethodName)) ∈ lw_all := lw_g (lw_at lw_m10 105 rfl) rfl
theorem q2383 : (Jvm.Cond.privateMethod ({ cls := "SevenTableModel", name := "gamesOf", desc := "(IIII)I" } : Jvm.MethodName)) ∈ lw_tbl := lw_at lw_m10 106 rfl
theorem q2384 : (Jvm.Cond.instanceMethod ({ cls := "SevenTableModel", name := "gamesOf", desc := "(IIII)I" } : Jvm.MethodName)) ∈ lw_all := lw_g (lw_at lw_m10 107 rfl) rfl
theorem q2385 : (Jvm.Cond.code ({ cls := "SevenTableModel", name := "gamesOf", desc := "(IIII)I" } : Jvm.MethodName) prog_23_method_89_code (9 : Nat) (Option.some Jvm.ClassFile.FieldType.int)) ∈ lw_all := lw_g (lw_at lw_m10 108 rfl) rfl
theorem q2386 : (Jvm.Cond.methodLink "SevenTableModel" (423 : Nat) ({ cls := "SevenTableModel", name := "tries", desc := "()V" } : Jvm.MethodName)) ∈ lw_all := lw_g (lw_at lw_m10 109 rfl) rfl
theorem q2387 : (Jvm.Cond.privateMethod ({ cls := "SevenTableModel", name := "tries", desc := "()V" } : Jvm.MethodName)) ∈ lw_tbl := lw_at lw_m10 110 rfl
theorem q2388 : (Jvm.Cond.instanceMethod ({ cls := "SevenTableModel", name := "tries", desc := "()V" } : Jvm.MethodName)) ∈ lw_all := lw_g (lw_at lw_m10 111 rfl) rfl
theorem q2389 : (Jvm.Cond.code ({ cls := "SevenTableModel", name := "tries", desc := "()V" } : Jvm.MethodName) prog_23_method_55_code (2 : Nat) (Option.none : Option Jvm.ClassFile.FieldType)) ∈ lw_all := lw_g (lw_at lw_m10 112 rfl) rfl
theorem q2390 : (Jvm.Cond.methodLink "SevenTableModel" (429 : Nat) ({ cls := "SevenTableModel", name := "back", desc := "()V" } : Jvm.MethodName)) ∈ lw_all := lw_g (lw_at lw_m10 113 rfl) rfl
theorem q2391 : (Jvm.Cond.privateMethod ({ cls := "SevenTableModel", name := "back", desc := "()V" } : Jvm.MethodName)) ∈ lw_tbl := lw_at lw_m10 114 rfl
theorem q2392 : (Jvm.Cond.instanceMethod ({ cls := "SevenTableModel", name := "back", desc := "()V" } : Jvm.MethodName)) ∈ lw_all := lw_g (lw_at lw_m10 115 rfl) rfl
theorem q2393 : (Jvm.Cond.code ({ cls := "SevenTableModel", name := "back", desc := "()V" } : Jvm.MethodName) prog_23_method_56_code (2 : Nat) (Option.none : Option Jvm.ClassFile.FieldType)) ∈ lw_all := lw_g (lw_at lw_m10 116 rfl) rfl
theorem q2395 : (Jvm.Cond.instanceMethod ({ cls := "SevenTableModel", name := "length", desc := "(IIII)I" } : Jvm.MethodName)) ∈ lw_all := lw_g (lw_at lw_m10 118 rfl) rfl
theorem q2396 : (Jvm.Cond.selects "SevenTableModel" ({ cls := "SevenTableModel", name := "length", desc := "(IIII)I" } : Jvm.MethodName) ({ cls := "SevenTableModel", name := "length", desc := "(IIII)I" } : Jvm.MethodName)) ∈ lw_all := lw_g (lw_at lw_m10 119 rfl) rfl
theorem q2397 : (Jvm.Cond.code ({ cls := "SevenTableModel", name := "length", desc := "(IIII)I" } : Jvm.MethodName) prog_23_method_92_code (5 : Nat) (Option.some Jvm.ClassFile.FieldType.int)) ∈ lw_all := lw_g (lw_at lw_m10 120 rfl) rfl
theorem q2399 : (Jvm.Cond.instanceMethod ({ cls := "SevenTableModel", name := "reply", desc := "(III)I" } : Jvm.MethodName)) ∈ lw_all := lw_g (lw_at lw_m10 122 rfl) rfl
theorem q2400 : (Jvm.Cond.selects "SevenTableModel" ({ cls := "SevenTableModel", name := "reply", desc := "(III)I" } : Jvm.MethodName) ({ cls := "SevenTableModel", name := "reply", desc := "(III)I" } : Jvm.MethodName)) ∈ lw_all := lw_g (lw_at lw_m10 123 rfl) rfl
theorem q2401 : (Jvm.Cond.code ({ cls := "SevenTableModel", name := "reply", desc := "(III)I" } : Jvm.MethodName) prog_23_method_93_code (8 : Nat) (Option.some Jvm.ClassFile.FieldType.int)) ∈ lw_all := lw_g (lw_at lw_m10 124 rfl) rfl
theorem q2403 : (Jvm.Cond.instanceMethod ({ cls := "SevenTableModel", name := "leader", desc := "()I" } : Jvm.MethodName)) ∈ lw_all := lw_g (lw_at lw_m10 126 rfl) rfl
theorem q2404 : (Jvm.Cond.selects "SevenTableModel" ({ cls := "SevenTableModel", name := "leader", desc := "()I" } : Jvm.MethodName) ({ cls := "SevenTableModel", name := "leader", desc := "()I" } : Jvm.MethodName)) ∈ lw_all := lw_g (lw_at lw_m10 127 rfl) rfl
theorem q2405 : (Jvm.Cond.code ({ cls := "SevenTableModel", name := "leader", desc := "()I" } : Jvm.MethodName) prog_23_method_94_code (3 : Nat) (Option.some Jvm.ClassFile.FieldType.int)) ∈ lw_all := lw_g (lw_at lw_m10 128 rfl) rfl
theorem q2407 : (Jvm.Cond.instanceMethod ({ cls := "SevenTableModel", name := "evening", desc := "(I)I" } : Jvm.MethodName)) ∈ lw_all := lw_g (lw_at lw_m10 130 rfl) rfl
theorem q2408 : (Jvm.Cond.selects "SevenTableModel" ({ cls := "SevenTableModel", name := "evening", desc := "(I)I" } : Jvm.MethodName) ({ cls := "SevenTableModel", name := "evening", desc := "(I)I" } : Jvm.MethodName)) ∈ lw_all := lw_g (lw_at lw_m10 131 rfl) rfl
theorem q2409 : (Jvm.Cond.code ({ cls := "SevenTableModel", name := "evening", desc := "(I)I" } : Jvm.MethodName) prog_23_method_96_code (6 : Nat) (Option.some Jvm.ClassFile.FieldType.int)) ∈ lw_all := lw_g (lw_at lw_m10 132 rfl) rfl
theorem q2410 : (Jvm.Cond.methodLink "SevenTableModel" (442 : Nat) ({ cls := "SevenTableModel", name := "eveningLine", desc := "()Z" } : Jvm.MethodName)) ∈ lw_all := lw_g (lw_at lw_m10 133 rfl) rfl
theorem q2411 : (Jvm.Cond.privateMethod ({ cls := "SevenTableModel", name := "eveningLine", desc := "()Z" } : Jvm.MethodName)) ∈ lw_tbl := lw_at lw_m10 134 rfl
theorem q2412 : (Jvm.Cond.instanceMethod ({ cls := "SevenTableModel", name := "eveningLine", desc := "()Z" } : Jvm.MethodName)) ∈ lw_all := lw_g (lw_at lw_m10 135 rfl) rfl
theorem q2413 : (Jvm.Cond.code ({ cls := "SevenTableModel", name := "eveningLine", desc := "()Z" } : Jvm.MethodName) prog_23_method_95_code (4 : Nat) (Option.some Jvm.ClassFile.FieldType.boolean)) ∈ lw_all := lw_g (lw_at lw_m10 136 rfl) rfl
theorem q2415 : (Jvm.Cond.instanceMethod ({ cls := "SevenTableModel", name := "heard", desc := "(I)I" } : Jvm.MethodName)) ∈ lw_all := lw_g (lw_at lw_m10 138 rfl) rfl
theorem q2416 : (Jvm.Cond.selects "SevenTableModel" ({ cls := "SevenTableModel", name := "heard", desc := "(I)I" } : Jvm.MethodName) ({ cls := "SevenTableModel", name := "heard", desc := "(I)I" } : Jvm.MethodName)) ∈ lw_all := lw_g (lw_at lw_m10 139 rfl) rfl
theorem q2417 : (Jvm.Cond.code ({ cls := "SevenTableModel", name := "heard", desc := "(I)I" } : Jvm.MethodName) prog_23_method_97_code (2 : Nat) (Option.some Jvm.ClassFile.FieldType.int)) ∈ lw_all := lw_g (lw_at lw_m10 140 rfl) rfl
theorem q2419 : (Jvm.Cond.instanceMethod ({ cls := "SevenTableModel", name := "sentence", desc := "()I" } : Jvm.MethodName)) ∈ lw_all := lw_g (lw_at lw_m10 142 rfl) rfl
theorem q2420 : (Jvm.Cond.selects "SevenTableModel" ({ cls := "SevenTableModel", name := "sentence", desc := "()I" } : Jvm.MethodName) ({ cls := "SevenTableModel", name := "sentence", desc := "()I" } : Jvm.MethodName)) ∈ lw_all := lw_g (lw_at lw_m10 143 rfl) rfl
theorem q2421 : (Jvm.Cond.code ({ cls := "SevenTableModel", name := "sentence", desc := "()I" } : Jvm.MethodName) prog_23_method_104_code (3 : Nat) (Option.some Jvm.ClassFile.FieldType.int)) ∈ lw_all := lw_g (lw_at lw_m10 144 rfl) rfl
theorem q2422 : (Jvm.Cond.methodLink "SevenTableModel" (470 : Nat) ({ cls := "SevenTableModel", name := "nots", desc := "()V" } : Jvm.MethodName)) ∈ lw_all := lw_g (lw_at lw_m10 145 rfl) rfl
theorem q2423 : (Jvm.Cond.privateMethod ({ cls := "SevenTableModel", name := "nots", desc := "()V" } : Jvm.MethodName)) ∈ lw_tbl := lw_at lw_m10 146 rfl
theorem q2424 : (Jvm.Cond.instanceMethod ({ cls := "SevenTableModel", name := "nots", desc := "()V" } : Jvm.MethodName)) ∈ lw_all := lw_g (lw_at lw_m10 147 rfl) rfl
theorem q2425 : (Jvm.Cond.code ({ cls := "SevenTableModel", name := "nots", desc := "()V" } : Jvm.MethodName) prog_23_method_100_code (1 : Nat) (Option.none : Option Jvm.ClassFile.FieldType)) ∈ lw_all := lw_g (lw_at lw_m10 148 rfl) rfl
theorem q2426 : (Jvm.Cond.methodLink "SevenTableModel" (454 : Nat) ({ cls := "SevenTableModel", name := "code", desc := "(III)V" } : Jvm.MethodName)) ∈ lw_all := lw_g (lw_at lw_m10 149 rfl) rfl
theorem q2427 : (Jvm.Cond.privateMethod ({ cls := "SevenTableModel", name := "code", desc := "(III)V" } : Jvm.MethodName)) ∈ lw_tbl := lw_at lw_m10 150 rfl
theorem q2428 : (Jvm.Cond.instanceMethod ({ cls := "SevenTableModel", name := "code", desc := "(III)V" } : Jvm.MethodName)) ∈ lw_all := lw_g (lw_at lw_m10 151 rfl) rfl
theorem q2429 : (Jvm.Cond.code ({ cls := "SevenTableModel", name := "code", desc := "(III)V" } : Jvm.MethodName) prog_23_method_98_code (4 : Nat) (Option.none : Option Jvm.ClassFile.FieldType)) ∈ lw_all := lw_g (lw_at lw_m10 152 rfl) rfl
theorem q2430 : (Jvm.Cond.methodLink "SevenTableModel" (473 : Nat) ({ cls := "SevenTableModel", name := "joins", desc := "(I)V" } : Jvm.MethodName)) ∈ lw_all := lw_g (lw_at lw_m10 153 rfl) rfl
theorem q2431 : (Jvm.Cond.privateMethod ({ cls := "SevenTableModel", name := "joins", desc := "(I)V" } : Jvm.MethodName)) ∈ lw_tbl := lw_at lw_m10 154 rfl
theorem q2432 : (Jvm.Cond.instanceMethod ({ cls := "SevenTableModel", name := "joins", desc := "(I)V" } : Jvm.MethodName)) ∈ lw_all := lw_g (lw_at lw_m10 155 rfl) rfl
theorem q2433 : (Jvm.Cond.code ({ cls := "SevenTableModel", name := "joins", desc := "(I)V" } : Jvm.MethodName) prog_23_method_99_code (2 : Nat) (Option.none : Option Jvm.ClassFile.FieldType)) ∈ lw_all := lw_g (lw_at lw_m10 156 rfl) rfl
theorem q2434 : (Jvm.Cond.methodLink "SevenTableModel" (476 : Nat) ({ cls := "SevenTableModel", name := "behind", desc := "()Z" } : Jvm.MethodName)) ∈ lw_all := lw_g (lw_at lw_m10 157 rfl) rfl
theorem q2435 : (Jvm.Cond.privateMethod ({ cls := "SevenTableModel", name := "behind", desc := "()Z" } : Jvm.MethodName)) ∈ lw_tbl := lw_at lw_m10 158 rfl
theorem q2436 : (Jvm.Cond.instanceMethod ({ cls := "SevenTableModel", name := "behind", desc := "()Z" } : Jvm.MethodName)) ∈ lw_all := lw_g (lw_at lw_m10 159 rfl) rfl
theorem q2437 : (Jvm.Cond.code ({ cls := "SevenTableModel", name := "behind", desc := "()Z" } : Jvm.MethodName) prog_23_method_103_code (1 : Nat) (Option.some Jvm.ClassFile.FieldType.boolean)) ∈ lw_all := lw_g (lw_at lw_m10 160 rfl) rfl
theorem q2438 : (Jvm.Cond.methodLink "SevenTableModel" (479 : Nat) ({ cls := "SevenTableModel", name := "operand", desc := "()Z" } : Jvm.MethodName)) ∈ lw_all := lw_g (lw_at lw_m10 161 rfl) rfl
theorem q2439 : (Jvm.Cond.privateMethod ({ cls := "SevenTableModel", name := "operand", desc := "()Z" } : Jvm.MethodName)) ∈ lw_tbl := lw_at lw_m10 162 rfl
theorem q2440 : (Jvm.Cond.instanceMethod ({ cls := "SevenTableModel", name := "operand", desc := "()Z" } : Jvm.MethodName)) ∈ lw_all := lw_g (lw_at lw_m10 163 rfl) rfl
theorem q2441 : (Jvm.Cond.code ({ cls := "SevenTableModel", name := "operand", desc := "()Z" } : Jvm.MethodName) prog_23_method_102_code (5 : Nat) (Option.some Jvm.ClassFile.FieldType.boolean)) ∈ lw_all := lw_g (lw_at lw_m10 164 rfl) rfl
theorem q2442 : (Jvm.Cond.methodLink "SevenTableModel" (461 : Nat) ({ cls := "SevenTableModel", name := "leafOf", desc := "()I" } : Jvm.MethodName)) ∈ lw_all := lw_g (lw_at lw_m10 165 rfl) rfl
theorem q2443 : (Jvm.Cond.privateMethod ({ cls := "SevenTableModel", name := "leafOf", desc := "()I" } : Jvm.MethodName)) ∈ lw_tbl := lw_at lw_m10 166 rfl
theorem q2444 : (Jvm.Cond.instanceMethod ({ cls := "SevenTableModel", name := "leafOf", desc := "()I" } : Jvm.MethodName)) ∈ lw_all := lw_g (lw_at lw_m10 167 rfl) rfl
theorem q2445 : (Jvm.Cond.code ({ cls := "SevenTableModel", name := "leafOf", desc := "()I" } : Jvm.MethodName) prog_23_method_101_code (1 : Nat) (Option.some Jvm.ClassFile.FieldType.int)) ∈ lw_all := lw_g (lw_at lw_m10 168 rfl) rfl
theorem q2447 : (Jvm.Cond.instanceMethod ({ cls := "SevenTableModel", name := "said", desc := "(I)I" } : Jvm.MethodName)) ∈ lw_all := lw_g (lw_at lw_m10 170 rfl) rfl
theorem q2448 : (Jvm.Cond.selects "SevenTableModel" ({ cls := "SevenTableModel", name := "said", desc := "(I)I" } : Jvm.MethodName) ({ cls := "SevenTableModel", name := "said", desc := "(I)I" } : Jvm.MethodName)) ∈ lw_all := lw_g (lw_at lw_m10 171 rfl) rfl
theorem q2449 : (Jvm.Cond.code ({ cls := "SevenTableModel", name := "said", desc := "(I)I" } : Jvm.MethodName) prog_23_method_107_code (4 : Nat) (Option.some Jvm.ClassFile.FieldType.int)) ∈ lw_all := lw_g (lw_at lw_m10 172 rfl) rfl
theorem q2450 : (Jvm.Cond.methodLink "SevenTableModel" (486 : Nat) ({ cls := "SevenTableModel", name := "isSaid", desc := "(I)Z" } : Jvm.MethodName)) ∈ lw_all := lw_g (lw_at lw_m10 173 rfl) rfl
theorem q2451 : (Jvm.Cond.privateMethod ({ cls := "SevenTableModel", name := "isSaid", desc := "(I)Z" } : Jvm.MethodName)) ∈ lw_tbl := lw_at lw_m10 174 rfl
theorem q2452 : (Jvm.Cond.instanceMethod ({ cls := "SevenTableModel", name := "isSaid", desc := "(I)Z" } : Jvm.MethodName)) ∈ lw_all := lw_g (lw_at lw_m10 175 rfl) rfl
theorem q2453 : (Jvm.Cond.code ({ cls := "SevenTableModel", name := "isSaid", desc := "(I)Z" } : Jvm.MethodName) prog_23_method_106_code (5 : Nat) (Option.some Jvm.ClassFile.FieldType.boolean)) ∈ lw_all := lw_g (lw_at lw_m10 176 rfl) rfl
theorem q2454 : (Jvm.Cond.methodLink "SevenTableModel" (482 : Nat) ({ cls := "SevenTableModel", name := "isLeaf", desc := "(IIII)Z" } : Jvm.MethodName)) ∈ lw_all := lw_g (lw_at lw_m10 177 rfl) rfl
theorem q2455 : (Jvm.Cond.privateMethod ({ cls := "SevenTableModel", name := "isLeaf", desc := "(IIII)Z" } : Jvm.MethodName)) ∈ lw_tbl := lw_at lw_m10 178 rfl
theorem q2456 : (Jvm.Cond.instanceMethod ({ cls := "SevenTableModel", name := "isLeaf", desc := "(IIII)Z" } : Jvm.MethodName)) ∈ lw_all := lw_g (lw_at lw_m10 179 rfl) rfl
theorem q2457 : (Jvm.Cond.code ({ cls := "SevenTableModel", name := "isLeaf", desc := "(IIII)Z" } : Jvm.MethodName) prog_23_method_105_code (8 : Nat) (Option.some Jvm.ClassFile.FieldType.boolean)) ∈ lw_all := lw_g (lw_at lw_m10 180 rfl) rfl
theorem q2459 : (Jvm.Cond.instanceMethod ({ cls := "SevenTableModel", name := "image", desc := "(I)Z" } : Jvm.MethodName)) ∈ lw_all := lw_g (lw_at lw_m10 182 rfl) rfl
theorem q2460 : (Jvm.Cond.selects "SevenTableModel" ({ cls := "SevenTableModel", name := "image", desc := "(I)Z" } : Jvm.MethodName) ({ cls := "SevenTableModel", name := "image", desc := "(I)Z" } : Jvm.MethodName)) ∈ lw_all := lw_g (lw_at lw_m10 183 rfl) rfl
theorem q2461 : (Jvm.Cond.code ({ cls := "SevenTableModel", name := "image", desc := "(I)Z" } : Jvm.MethodName) prog_23_method_108_code (3 : Nat) (Option.some Jvm.ClassFile.FieldType.boolean)) ∈ lw_all := lw_g (lw_at lw_m10 184 rfl) rfl
theorem q2463 : (Jvm.Cond.instanceMethod ({ cls := "SevenTableModel", name := "restore", desc := "(I)Z" } : Jvm.MethodName)) ∈ lw_all := lw_g (lw_at lw_m10 186 rfl) rfl
theorem q2464 : (Jvm.Cond.selects "SevenTableModel" ({ cls := "SevenTableModel", name := "restore", desc := "(I)Z" } : Jvm.MethodName) ({ cls := "SevenTableModel", name := "restore", desc := "(I)Z" } : Jvm.MethodName)) ∈ lw_all := lw_g (lw_at lw_m10 187 rfl) rfl
theorem q2465 : (Jvm.Cond.code ({ cls := "SevenTableModel", name := "restore", desc := "(I)Z" } : Jvm.MethodName) prog_23_method_109_code (3 : Nat) (Option.some Jvm.ClassFile.FieldType.boolean)) ∈ lw_all := lw_g (lw_at lw_m10 188 rfl) rfl
theorem q2467 : (Jvm.Cond.instanceMethod ({ cls := "SevenTableModel", name := "count", desc := "(I)I" } : Jvm.MethodName)) ∈ lw_all := lw_g (lw_at lw_m10 190 rfl) rfl
theorem q2468 : (Jvm.Cond.selects "SevenTableModel" ({ cls := "SevenTableModel", name := "count", desc := "(I)I" } : Jvm.MethodName) ({ cls := "SevenTableModel", name := "count", desc := "(I)I" } : Jvm.MethodName)) ∈ lw_all := lw_g (lw_at lw_m10 191 rfl) rfl
theorem q2469 : (Jvm.Cond.code ({ cls := "SevenTableModel", name := "count", desc := "(I)I" } : Jvm.MethodName) prog_23_method_110_code (2 : Nat) (Option.some Jvm.ClassFile.FieldType.int)) ∈ lw_all := lw_g (lw_at lw_m10 192 rfl) rfl
theorem q2504 : (Jvm.Cond.castable "SevenTableModel" "java/lang/Object") ∈ lw_tbl := lw_at lw_m10 227 rfl
theorem in_X11 : ∀ w ∈ wsX110, w ∈ lw_all := lw_in wsX110 [1925, 1927, 1929, 1931, 1933, 1935, 1937, 1939, 1941, 1943, 1945, 1947, 1949, 1951, 1953, 1955, 1957, 1959, 1961, 1963, 1965, 1967, 1969, 1971, 1973, 1975, 1977, 1979, 1981, 1983, 1985, 1987, 1989, 1991, 1993, 1995, 1997, 1999, 2001, 2003, 2005, 2007, 2009, 2011, 2013, 2015, 2017, 2019, 2021, 2023, 2025, 2027, 2029, 2031, 2033, 2035, 2037, 2039, 2041, 2043, 2045, 2047, 2049, 2051, 2053] (by decide +kernel) (by decide +kernel)
