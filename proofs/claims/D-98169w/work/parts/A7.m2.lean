set_option maxRecDepth 100000
abbrev cX11_throwsIf : ByteArray := prog_23_method_2_code
def yX11_throwsIf : MethodName := ⟨RX11, "throwsIf", "(Z)Z"⟩
def dkwX11_throwsIf_0 : List UInt8 := [42, 27, 153, 0, 7, 4, 167, 0, 4, 3, 181, 0, 1, 27, 172]
abbrev dktX11_throwsIf_0 : List UInt8 := dkwX11_throwsIf_0 ++ []
theorem dksX11_throwsIf_0 : cX11_throwsIf.data.toList.drop 0 = dktX11_throwsIf_0 := by decide +kernel
theorem dX11_throwsIf_0 : decode cX11_throwsIf 0 = .ok (.aload_n 0, 1) := dk_42 (dk_at dksX11_throwsIf_0 0 rfl rfl)
theorem dX11_throwsIf_1 : decode cX11_throwsIf 1 = .ok (.iload_n 1, 1) := dk_27 (dk_at dksX11_throwsIf_0 1 rfl rfl)
theorem dX11_throwsIf_2 : decode cX11_throwsIf 2 = .ok (.ifCond .eq 7, 3) := dk_153 0 7 (dk_at dksX11_throwsIf_0 2 rfl rfl)
theorem dX11_throwsIf_5 : decode cX11_throwsIf 5 = .ok (.iconst 1, 1) := dk_4 (dk_at dksX11_throwsIf_0 5 rfl rfl)
theorem dX11_throwsIf_6 : decode cX11_throwsIf 6 = .ok (.goto 4, 3) := dk_167 0 4 (dk_at dksX11_throwsIf_0 6 rfl rfl)
theorem dX11_throwsIf_9 : decode cX11_throwsIf 9 = .ok (.iconst 0, 1) := dk_3 (dk_at dksX11_throwsIf_0 9 rfl rfl)
theorem dX11_throwsIf_10 : decode cX11_throwsIf 10 = .ok (.putfield 1, 3) := dk_181 0 1 (dk_at dksX11_throwsIf_0 10 rfl rfl)
theorem dX11_throwsIf_13 : decode cX11_throwsIf 13 = .ok (.iload_n 1, 1) := dk_27 (dk_at dksX11_throwsIf_0 13 rfl rfl)
theorem dX11_throwsIf_14 : decode cX11_throwsIf 14 = .ok (.ireturn, 1) := dk_172 (dk_at dksX11_throwsIf_0 14 rfl rfl)
abbrev cX11_person : ByteArray := prog_23_method_42_code
def yX11_person : MethodName := ⟨RX11, "person", "(II)I"⟩
def dkwX11_person_7 : List UInt8 := [172]
abbrev dktX11_person_7 : List UInt8 := dkwX11_person_7 ++ []
def dkwX11_person_6 : List UInt8 := [180, 0, 33, 17, 2, 47, 27, 96, 46, 172, 42, 180, 0, 33, 17, 2, 53, 27, 96, 46, 4, 100, 172, 2]
abbrev dktX11_person_6 : List UInt8 := dkwX11_person_6 ++ dktX11_person_7
def dkwX11_person_5 : List UInt8 := [172, 42, 180, 0, 33, 17, 2, 35, 27, 96, 46, 172, 42, 180, 0, 33, 17, 2, 41, 27, 96, 46, 172, 42]
abbrev dktX11_person_5 : List UInt8 := dkwX11_person_5 ++ dktX11_person_6
def dkwX11_person_4 : List UInt8 := [42, 27, 182, 1, 7, 172, 42, 27, 182, 1, 36, 172, 29, 172, 42, 180, 0, 33, 17, 0, 229, 27, 96, 46]
abbrev dktX11_person_4 : List UInt8 := dkwX11_person_4 ++ dktX11_person_5
def dkwX11_person_3 : List UInt8 := [170, 0, 0, 0, 0, 0, 0, 119, 0, 0, 0, 0, 0, 0, 0, 7, 0, 0, 0, 48, 0, 0, 0, 54, 0, 0, 0, 60, 0, 0, 0, 62, 0, 0, 0, 73, 0, 0, 0, 84, 0, 0, 0, 95, 0, 0, 0, 106]
abbrev dktX11_person_3 : List UInt8 := dkwX11_person_3 ++ dktX11_person_4
def dkwX11_person_2 : List UInt8 := [62, 132, 4, 1, 167, 255, 224, 28]
abbrev dktX11_person_2 : List UInt8 := dkwX11_person_2 ++ dktX11_person_3
def dkwX11_person_1 : List UInt8 := [162, 0, 31, 29, 42, 27, 21, 4, 3, 182, 0, 255, 158, 0, 10, 4, 21, 4, 120, 167, 0, 4, 3, 128]
abbrev dktX11_person_1 : List UInt8 := dkwX11_person_1 ++ dktX11_person_2
def dkwX11_person_0 : List UInt8 := [42, 3, 181, 0, 1, 42, 27, 182, 1, 26, 154, 0, 5, 2, 172, 3, 62, 3, 54, 4, 21, 4, 16, 13]
abbrev dktX11_person_0 : List UInt8 := dkwX11_person_0 ++ dktX11_person_1
theorem dksX11_person_0 : cX11_person.data.toList.drop 0 = dktX11_person_0 := by decide +kernel
theorem dksX11_person_1 : cX11_person.data.toList.drop 24 = dktX11_person_1 := dk_seg dksX11_person_0 24 rfl rfl
theorem dksX11_person_2 : cX11_person.data.toList.drop 48 = dktX11_person_2 := dk_seg dksX11_person_1 24 rfl rfl
theorem dksX11_person_3 : cX11_person.data.toList.drop 56 = dktX11_person_3 := dk_seg dksX11_person_2 8 rfl rfl
theorem dksX11_person_4 : cX11_person.data.toList.drop 104 = dktX11_person_4 := dk_seg dksX11_person_3 48 rfl rfl
theorem dksX11_person_5 : cX11_person.data.toList.drop 128 = dktX11_person_5 := dk_seg dksX11_person_4 24 rfl rfl
theorem dksX11_person_6 : cX11_person.data.toList.drop 152 = dktX11_person_6 := dk_seg dksX11_person_5 24 rfl rfl
theorem dksX11_person_7 : cX11_person.data.toList.drop 176 = dktX11_person_7 := dk_seg dksX11_person_6 24 rfl rfl
theorem dX11_person_0 : decode cX11_person 0 = .ok (.aload_n 0, 1) := dk_42 (dk_at dksX11_person_0 0 rfl rfl)
theorem dX11_person_1 : decode cX11_person 1 = .ok (.iconst 0, 1) := dk_3 (dk_at dksX11_person_0 1 rfl rfl)
theorem dX11_person_2 : decode cX11_person 2 = .ok (.putfield 1, 3) := dk_181 0 1 (dk_at dksX11_person_0 2 rfl rfl)
theorem dX11_person_5 : decode cX11_person 5 = .ok (.aload_n 0, 1) := dk_42 (dk_at dksX11_person_0 5 rfl rfl)
theorem dX11_person_6 : decode cX11_person 6 = .ok (.iload_n 1, 1) := dk_27 (dk_at dksX11_person_0 6 rfl rfl)
theorem dX11_person_7 : decode cX11_person 7 = .ok (.invokevirtual 282, 3) := dk_182 1 26 (dk_at dksX11_person_0 7 rfl rfl)
theorem dX11_person_10 : decode cX11_person 10 = .ok (.ifCond .ne 5, 3) := dk_154 0 5 (dk_at dksX11_person_0 10 rfl rfl)
theorem dX11_person_13 : decode cX11_person 13 = .ok (.iconst (-1), 1) := dk_2 (dk_at dksX11_person_0 13 rfl rfl)
theorem dX11_person_14 : decode cX11_person 14 = .ok (.ireturn, 1) := dk_172 (dk_at dksX11_person_0 14 rfl rfl)
theorem dX11_person_15 : decode cX11_person 15 = .ok (.iconst 0, 1) := dk_3 (dk_at dksX11_person_0 15 rfl rfl)
theorem dX11_person_16 : decode cX11_person 16 = .ok (.istore_n 3, 1) := dk_62 (dk_at dksX11_person_0 16 rfl rfl)
theorem dX11_person_17 : decode cX11_person 17 = .ok (.iconst 0, 1) := dk_3 (dk_at dksX11_person_0 17 rfl rfl)
theorem dX11_person_18 : decode cX11_person 18 = .ok (.istore 4, 2) := dk_54 4 (dk_at dksX11_person_0 18 rfl rfl)
theorem dX11_person_20 : decode cX11_person 20 = .ok (.iload 4, 2) := dk_21 4 (dk_at dksX11_person_0 20 rfl rfl)
theorem dX11_person_22 : decode cX11_person 22 = .ok (.bipush 13, 2) := dk_16 13 (dk_at dksX11_person_0 22 rfl rfl)
theorem dX11_person_24 : decode cX11_person 24 = .ok (.if_icmp .ge 31, 3) := dk_162 0 31 (dk_at dksX11_person_1 0 rfl rfl)
theorem dX11_person_27 : decode cX11_person 27 = .ok (.iload_n 3, 1) := dk_29 (dk_at dksX11_person_1 3 rfl rfl)
theorem dX11_person_28 : decode cX11_person 28 = .ok (.aload_n 0, 1) := dk_42 (dk_at dksX11_person_1 4 rfl rfl)
theorem dX11_person_29 : decode cX11_person 29 = .ok (.iload_n 1, 1) := dk_27 (dk_at dksX11_person_1 5 rfl rfl)
theorem dX11_person_30 : decode cX11_person 30 = .ok (.iload 4, 2) := dk_21 4 (dk_at dksX11_person_1 6 rfl rfl)
theorem dX11_person_32 : decode cX11_person 32 = .ok (.iconst 0, 1) := dk_3 (dk_at dksX11_person_1 8 rfl rfl)
theorem dX11_person_33 : decode cX11_person 33 = .ok (.invokevirtual 255, 3) := dk_182 0 255 (dk_at dksX11_person_1 9 rfl rfl)
theorem dX11_person_36 : decode cX11_person 36 = .ok (.ifCond .le 10, 3) := dk_158 0 10 (dk_at dksX11_person_1 12 rfl rfl)
theorem dX11_person_39 : decode cX11_person 39 = .ok (.iconst 1, 1) := dk_4 (dk_at dksX11_person_1 15 rfl rfl)
theorem dX11_person_40 : decode cX11_person 40 = .ok (.iload 4, 2) := dk_21 4 (dk_at dksX11_person_1 16 rfl rfl)
theorem dX11_person_42 : decode cX11_person 42 = .ok (.ishl, 1) := dk_120 (dk_at dksX11_person_1 18 rfl rfl)
theorem dX11_person_43 : decode cX11_person 43 = .ok (.goto 4, 3) := dk_167 0 4 (dk_at dksX11_person_1 19 rfl rfl)
theorem dX11_person_46 : decode cX11_person 46 = .ok (.iconst 0, 1) := dk_3 (dk_at dksX11_person_1 22 rfl rfl)
theorem dX11_person_47 : decode cX11_person 47 = .ok (.ior, 1) := dk_128 (dk_at dksX11_person_1 23 rfl rfl)
theorem dX11_person_48 : decode cX11_person 48 = .ok (.istore_n 3, 1) := dk_62 (dk_at dksX11_person_2 0 rfl rfl)
theorem dX11_person_49 : decode cX11_person 49 = .ok (.iinc 4 1, 3) := dk_132 4 1 (dk_at dksX11_person_2 1 rfl rfl)
theorem dX11_person_52 : decode cX11_person 52 = .ok (.goto (-32), 3) := dk_167 255 224 (dk_at dksX11_person_2 4 rfl rfl)
theorem dX11_person_55 : decode cX11_person 55 = .ok (.iload_n 2, 1) := dk_28 (dk_at dksX11_person_2 7 rfl rfl)
theorem dX11_person_56 : decode cX11_person 56 = .ok (.tableswitch 119 0 7 #[48, 54, 60, 62, 73, 84, 95, 106], 48) := by decide +kernel
theorem dX11_person_104 : decode cX11_person 104 = .ok (.aload_n 0, 1) := dk_42 (dk_at dksX11_person_4 0 rfl rfl)
theorem dX11_person_105 : decode cX11_person 105 = .ok (.iload_n 1, 1) := dk_27 (dk_at dksX11_person_4 1 rfl rfl)
theorem dX11_person_106 : decode cX11_person 106 = .ok (.invokevirtual 263, 3) := dk_182 1 7 (dk_at dksX11_person_4 2 rfl rfl)
theorem dX11_person_109 : decode cX11_person 109 = .ok (.ireturn, 1) := dk_172 (dk_at dksX11_person_4 5 rfl rfl)
theorem dX11_person_110 : decode cX11_person 110 = .ok (.aload_n 0, 1) := dk_42 (dk_at dksX11_person_4 6 rfl rfl)
theorem dX11_person_111 : decode cX11_person 111 = .ok (.iload_n 1, 1) := dk_27 (dk_at dksX11_person_4 7 rfl rfl)
theorem dX11_person_112 : decode cX11_person 112 = .ok (.invokevirtual 292, 3) := dk_182 1 36 (dk_at dksX11_person_4 8 rfl rfl)
theorem dX11_person_115 : decode cX11_person 115 = .ok (.ireturn, 1) := dk_172 (dk_at dksX11_person_4 11 rfl rfl)
theorem dX11_person_116 : decode cX11_person 116 = .ok (.iload_n 3, 1) := dk_29 (dk_at dksX11_person_4 12 rfl rfl)
theorem dX11_person_117 : decode cX11_person 117 = .ok (.ireturn, 1) := dk_172 (dk_at dksX11_person_4 13 rfl rfl)
theorem dX11_person_118 : decode cX11_person 118 = .ok (.aload_n 0, 1) := dk_42 (dk_at dksX11_person_4 14 rfl rfl)
theorem dX11_person_119 : decode cX11_person 119 = .ok (.getfield 33, 3) := dk_180 0 33 (dk_at dksX11_person_4 15 rfl rfl)
theorem dX11_person_122 : decode cX11_person 122 = .ok (.sipush 229, 3) := dk_17 0 229 (dk_at dksX11_person_4 18 rfl rfl)
theorem dX11_person_125 : decode cX11_person 125 = .ok (.iload_n 1, 1) := dk_27 (dk_at dksX11_person_4 21 rfl rfl)
theorem dX11_person_126 : decode cX11_person 126 = .ok (.iadd, 1) := dk_96 (dk_at dksX11_person_4 22 rfl rfl)
theorem dX11_person_127 : decode cX11_person 127 = .ok (.iaload, 1) := dk_46 (dk_at dksX11_person_4 23 rfl rfl)
theorem dX11_person_128 : decode cX11_person 128 = .ok (.ireturn, 1) := dk_172 (dk_at dksX11_person_5 0 rfl rfl)
theorem dX11_person_129 : decode cX11_person 129 = .ok (.aload_n 0, 1) := dk_42 (dk_at dksX11_person_5 1 rfl rfl)
theorem dX11_person_130 : decode cX11_person 130 = .ok (.getfield 33, 3) := dk_180 0 33 (dk_at dksX11_person_5 2 rfl rfl)
theorem dX11_person_133 : decode cX11_person 133 = .ok (.sipush 547, 3) := dk_17 2 35 (dk_at dksX11_person_5 5 rfl rfl)
theorem dX11_person_136 : decode cX11_person 136 = .ok (.iload_n 1, 1) := dk_27 (dk_at dksX11_person_5 8 rfl rfl)
theorem dX11_person_137 : decode cX11_person 137 = .ok (.iadd, 1) := dk_96 (dk_at dksX11_person_5 9 rfl rfl)
theorem dX11_person_138 : decode cX11_person 138 = .ok (.iaload, 1) := dk_46 (dk_at dksX11_person_5 10 rfl rfl)
theorem dX11_person_139 : decode cX11_person 139 = .ok (.ireturn, 1) := dk_172 (dk_at dksX11_person_5 11 rfl rfl)
theorem dX11_person_140 : decode cX11_person 140 = .ok (.aload_n 0, 1) := dk_42 (dk_at dksX11_person_5 12 rfl rfl)
theorem dX11_person_141 : decode cX11_person 141 = .ok (.getfield 33, 3) := dk_180 0 33 (dk_at dksX11_person_5 13 rfl rfl)
theorem dX11_person_144 : decode cX11_person 144 = .ok (.sipush 553, 3) := dk_17 2 41 (dk_at dksX11_person_5 16 rfl rfl)
theorem dX11_person_147 : decode cX11_person 147 = .ok (.iload_n 1, 1) := dk_27 (dk_at dksX11_person_5 19 rfl rfl)
theorem dX11_person_148 : decode cX11_person 148 = .ok (.iadd, 1) := dk_96 (dk_at dksX11_person_5 20 rfl rfl)
theorem dX11_person_149 : decode cX11_person 149 = .ok (.iaload, 1) := dk_46 (dk_at dksX11_person_5 21 rfl rfl)
theorem dX11_person_150 : decode cX11_person 150 = .ok (.ireturn, 1) := dk_172 (dk_at dksX11_person_5 22 rfl rfl)
theorem dX11_person_151 : decode cX11_person 151 = .ok (.aload_n 0, 1) := dk_42 (dk_at dksX11_person_5 23 rfl rfl)
theorem dX11_person_152 : decode cX11_person 152 = .ok (.getfield 33, 3) := dk_180 0 33 (dk_at dksX11_person_6 0 rfl rfl)
theorem dX11_person_155 : decode cX11_person 155 = .ok (.sipush 559, 3) := dk_17 2 47 (dk_at dksX11_person_6 3 rfl rfl)
theorem dX11_person_158 : decode cX11_person 158 = .ok (.iload_n 1, 1) := dk_27 (dk_at dksX11_person_6 6 rfl rfl)
theorem dX11_person_159 : decode cX11_person 159 = .ok (.iadd, 1) := dk_96 (dk_at dksX11_person_6 7 rfl rfl)
theorem dX11_person_160 : decode cX11_person 160 = .ok (.iaload, 1) := dk_46 (dk_at dksX11_person_6 8 rfl rfl)
theorem dX11_person_161 : decode cX11_person 161 = .ok (.ireturn, 1) := dk_172 (dk_at dksX11_person_6 9 rfl rfl)
theorem dX11_person_162 : decode cX11_person 162 = .ok (.aload_n 0, 1) := dk_42 (dk_at dksX11_person_6 10 rfl rfl)
theorem dX11_person_163 : decode cX11_person 163 = .ok (.getfield 33, 3) := dk_180 0 33 (dk_at dksX11_person_6 11 rfl rfl)
theorem dX11_person_166 : decode cX11_person 166 = .ok (.sipush 565, 3) := dk_17 2 53 (dk_at dksX11_person_6 14 rfl rfl)
theorem dX11_person_169 : decode cX11_person 169 = .ok (.iload_n 1, 1) := dk_27 (dk_at dksX11_person_6 17 rfl rfl)
theorem dX11_person_170 : decode cX11_person 170 = .ok (.iadd, 1) := dk_96 (dk_at dksX11_person_6 18 rfl rfl)
theorem dX11_person_171 : decode cX11_person 171 = .ok (.iaload, 1) := dk_46 (dk_at dksX11_person_6 19 rfl rfl)
theorem dX11_person_172 : decode cX11_person 172 = .ok (.iconst 1, 1) := dk_4 (dk_at dksX11_person_6 20 rfl rfl)
theorem dX11_person_173 : decode cX11_person 173 = .ok (.isub, 1) := dk_100 (dk_at dksX11_person_6 21 rfl rfl)
theorem dX11_person_174 : decode cX11_person 174 = .ok (.ireturn, 1) := dk_172 (dk_at dksX11_person_6 22 rfl rfl)
theorem dX11_person_175 : decode cX11_person 175 = .ok (.iconst (-1), 1) := dk_2 (dk_at dksX11_person_6 23 rfl rfl)
theorem dX11_person_176 : decode cX11_person 176 = .ok (.ireturn, 1) := dk_172 (dk_at dksX11_person_7 0 rfl rfl)
abbrev cX11_booksOf : ByteArray := prog_23_method_40_code
def yX11_booksOf : MethodName := ⟨RX11, "booksOf", "(I)I"⟩
def dkwX11_booksOf_1 : List UInt8 := [160, 0, 7, 4, 167, 0, 4, 3, 96, 61, 132, 3, 1, 167, 255, 223, 28, 172]
abbrev dktX11_booksOf_1 : List UInt8 := dkwX11_booksOf_1 ++ []
def dkwX11_booksOf_0 : List UInt8 := [3, 61, 3, 62, 29, 16, 13, 162, 0, 33, 28, 42, 180, 0, 33, 17, 0, 138, 29, 96, 46, 27, 4, 96]
abbrev dktX11_booksOf_0 : List UInt8 := dkwX11_booksOf_0 ++ dktX11_booksOf_1
theorem dksX11_booksOf_0 : cX11_booksOf.data.toList.drop 0 = dktX11_booksOf_0 := by decide +kernel
theorem dksX11_booksOf_1 : cX11_booksOf.data.toList.drop 24 = dktX11_booksOf_1 := dk_seg dksX11_booksOf_0 24 rfl rfl
theorem dX11_booksOf_0 : decode cX11_booksOf 0 = .ok (.iconst 0, 1) := dk_3 (dk_at dksX11_booksOf_0 0 rfl rfl)
theorem dX11_booksOf_1 : decode cX11_booksOf 1 = .ok (.istore_n 2, 1) := dk_61 (dk_at dksX11_booksOf_0 1 rfl rfl)
theorem dX11_booksOf_2 : decode cX11_booksOf 2 = .ok (.iconst 0, 1) := dk_3 (dk_at dksX11_booksOf_0 2 rfl rfl)
theorem dX11_booksOf_3 : decode cX11_booksOf 3 = .ok (.istore_n 3, 1) := dk_62 (dk_at dksX11_booksOf_0 3 rfl rfl)
theorem dX11_booksOf_4 : decode cX11_booksOf 4 = .ok (.iload_n 3, 1) := dk_29 (dk_at dksX11_booksOf_0 4 rfl rfl)
theorem dX11_booksOf_5 : decode cX11_booksOf 5 = .ok (.bipush 13, 2) := dk_16 13 (dk_at dksX11_booksOf_0 5 rfl rfl)
theorem dX11_booksOf_7 : decode cX11_booksOf 7 = .ok (.if_icmp .ge 33, 3) := dk_162 0 33 (dk_at dksX11_booksOf_0 7 rfl rfl)
theorem dX11_booksOf_10 : decode cX11_booksOf 10 = .ok (.iload_n 2, 1) := dk_28 (dk_at dksX11_booksOf_0 10 rfl rfl)
theorem dX11_booksOf_11 : decode cX11_booksOf 11 = .ok (.aload_n 0, 1) := dk_42 (dk_at dksX11_booksOf_0 11 rfl rfl)
theorem dX11_booksOf_12 : decode cX11_booksOf 12 = .ok (.getfield 33, 3) := dk_180 0 33 (dk_at dksX11_booksOf_0 12 rfl rfl)
theorem dX11_booksOf_15 : decode cX11_booksOf 15 = .ok (.sipush 138, 3) := dk_17 0 138 (dk_at dksX11_booksOf_0 15 rfl rfl)
theorem dX11_booksOf_18 : decode cX11_booksOf 18 = .ok (.iload_n 3, 1) := dk_29 (dk_at dksX11_booksOf_0 18 rfl rfl)
theorem dX11_booksOf_19 : decode cX11_booksOf 19 = .ok (.iadd, 1) := dk_96 (dk_at dksX11_booksOf_0 19 rfl rfl)
theorem dX11_booksOf_20 : decode cX11_booksOf 20 = .ok (.iaload, 1) := dk_46 (dk_at dksX11_booksOf_0 20 rfl rfl)
theorem dX11_booksOf_21 : decode cX11_booksOf 21 = .ok (.iload_n 1, 1) := dk_27 (dk_at dksX11_booksOf_0 21 rfl rfl)
theorem dX11_booksOf_22 : decode cX11_booksOf 22 = .ok (.iconst 1, 1) := dk_4 (dk_at dksX11_booksOf_0 22 rfl rfl)
theorem dX11_booksOf_23 : decode cX11_booksOf 23 = .ok (.iadd, 1) := dk_96 (dk_at dksX11_booksOf_0 23 rfl rfl)
theorem dX11_booksOf_24 : decode cX11_booksOf 24 = .ok (.if_icmp .ne 7, 3) := dk_160 0 7 (dk_at dksX11_booksOf_1 0 rfl rfl)
theorem dX11_booksOf_27 : decode cX11_booksOf 27 = .ok (.iconst 1, 1) := dk_4 (dk_at dksX11_booksOf_1 3 rfl rfl)
theorem dX11_booksOf_28 : decode cX11_booksOf 28 = .ok (.goto 4, 3) := dk_167 0 4 (dk_at dksX11_booksOf_1 4 rfl rfl)
theorem dX11_booksOf_31 : decode cX11_booksOf 31 = .ok (.iconst 0, 1) := dk_3 (dk_at dksX11_booksOf_1 7 rfl rfl)
theorem dX11_booksOf_32 : decode cX11_booksOf 32 = .ok (.iadd, 1) := dk_96 (dk_at dksX11_booksOf_1 8 rfl rfl)
theorem dX11_booksOf_33 : decode cX11_booksOf 33 = .ok (.istore_n 2, 1) := dk_61 (dk_at dksX11_booksOf_1 9 rfl rfl)
theorem dX11_booksOf_34 : decode cX11_booksOf 34 = .ok (.iinc 3 1, 3) := dk_132 3 1 (dk_at dksX11_booksOf_1 10 rfl rfl)
theorem dX11_booksOf_37 : decode cX11_booksOf 37 = .ok (.goto (-33), 3) := dk_167 255 223 (dk_at dksX11_booksOf_1 13 rfl rfl)
theorem dX11_booksOf_40 : decode cX11_booksOf 40 = .ok (.iload_n 2, 1) := dk_28 (dk_at dksX11_booksOf_1 16 rfl rfl)
theorem dX11_booksOf_41 : decode cX11_booksOf 41 = .ok (.ireturn, 1) := dk_172 (dk_at dksX11_booksOf_1 17 rfl rfl)
abbrev cX11_book : ByteArray := prog_23_method_43_code
def yX11_book : MethodName := ⟨RX11, "book", "(I)I"⟩
def dkwX11_book_1 : List UInt8 := [100, 167, 0, 4, 2, 172]
abbrev dktX11_book_1 : List UInt8 := dkwX11_book_1 ++ []
def dkwX11_book_0 : List UInt8 := [42, 3, 181, 0, 1, 42, 27, 182, 1, 29, 153, 0, 18, 42, 180, 0, 33, 17, 0, 138, 27, 96, 46, 4]
abbrev dktX11_book_0 : List UInt8 := dkwX11_book_0 ++ dktX11_book_1
theorem dksX11_book_0 : cX11_book.data.toList.drop 0 = dktX11_book_0 := by decide +kernel
theorem dksX11_book_1 : cX11_book.data.toList.drop 24 = dktX11_book_1 := dk_seg dksX11_book_0 24 rfl rfl
theorem dX11_book_0 : decode cX11_book 0 = .ok (.aload_n 0, 1) := dk_42 (dk_at dksX11_book_0 0 rfl rfl)
theorem dX11_book_1 : decode cX11_book 1 = .ok (.iconst 0, 1) := dk_3 (dk_at dksX11_book_0 1 rfl rfl)
theorem dX11_book_2 : decode cX11_book 2 = .ok (.putfield 1, 3) := dk_181 0 1 (dk_at dksX11_book_0 2 rfl rfl)
theorem dX11_book_5 : decode cX11_book 5 = .ok (.aload_n 0, 1) := dk_42 (dk_at dksX11_book_0 5 rfl rfl)
theorem dX11_book_6 : decode cX11_book 6 = .ok (.iload_n 1, 1) := dk_27 (dk_at dksX11_book_0 6 rfl rfl)
theorem dX11_book_7 : decode cX11_book 7 = .ok (.invokevirtual 285, 3) := dk_182 1 29 (dk_at dksX11_book_0 7 rfl rfl)
theorem dX11_book_10 : decode cX11_book 10 = .ok (.ifCond .eq 18, 3) := dk_153 0 18 (dk_at dksX11_book_0 10 rfl rfl)
theorem dX11_book_13 : decode cX11_book 13 = .ok (.aload_n 0, 1) := dk_42 (dk_at dksX11_book_0 13 rfl rfl)
theorem dX11_book_14 : decode cX11_book 14 = .ok (.getfield 33, 3) := dk_180 0 33 (dk_at dksX11_book_0 14 rfl rfl)
theorem dX11_book_17 : decode cX11_book 17 = .ok (.sipush 138, 3) := dk_17 0 138 (dk_at dksX11_book_0 17 rfl rfl)
theorem dX11_book_20 : decode cX11_book 20 = .ok (.iload_n 1, 1) := dk_27 (dk_at dksX11_book_0 20 rfl rfl)
theorem dX11_book_21 : decode cX11_book 21 = .ok (.iadd, 1) := dk_96 (dk_at dksX11_book_0 21 rfl rfl)
theorem dX11_book_22 : decode cX11_book 22 = .ok (.iaload, 1) := dk_46 (dk_at dksX11_book_0 22 rfl rfl)
theorem dX11_book_23 : decode cX11_book 23 = .ok (.iconst 1, 1) := dk_4 (dk_at dksX11_book_0 23 rfl rfl)
theorem dX11_book_24 : decode cX11_book 24 = .ok (.isub, 1) := dk_100 (dk_at dksX11_book_1 0 rfl rfl)
theorem dX11_book_25 : decode cX11_book 25 = .ok (.goto 4, 3) := dk_167 0 4 (dk_at dksX11_book_1 1 rfl rfl)
theorem dX11_book_28 : decode cX11_book 28 = .ok (.iconst (-1), 1) := dk_2 (dk_at dksX11_book_1 4 rfl rfl)
theorem dX11_book_29 : decode cX11_book 29 = .ok (.ireturn, 1) := dk_172 (dk_at dksX11_book_1 5 rfl rfl)
abbrev cX11_heap : ByteArray := prog_23_method_44_code
def yX11_heap : MethodName := ⟨RX11, "heap", "(I)I"⟩
def dkwX11_heap_1 : List UInt8 := [180, 0, 33, 16, 8, 27, 96, 46, 167, 0, 4, 2, 172]
abbrev dktX11_heap_1 : List UInt8 := dkwX11_heap_1 ++ []
def dkwX11_heap_0 : List UInt8 := [42, 3, 181, 0, 1, 27, 3, 42, 180, 0, 33, 16, 7, 46, 4, 100, 184, 0, 195, 153, 0, 15, 42]
abbrev dktX11_heap_0 : List UInt8 := dkwX11_heap_0 ++ dktX11_heap_1
theorem dksX11_heap_0 : cX11_heap.data.toList.drop 0 = dktX11_heap_0 := by decide +kernel
theorem dksX11_heap_1 : cX11_heap.data.toList.drop 23 = dktX11_heap_1 := dk_seg dksX11_heap_0 23 rfl rfl
theorem dX11_heap_0 : decode cX11_heap 0 = .ok (.aload_n 0, 1) := dk_42 (dk_at dksX11_heap_0 0 rfl rfl)
theorem dX11_heap_1 : decode cX11_heap 1 = .ok (.iconst 0, 1) := dk_3 (dk_at dksX11_heap_0 1 rfl rfl)
theorem dX11_heap_2 : decode cX11_heap 2 = .ok (.putfield 1, 3) := dk_181 0 1 (dk_at dksX11_heap_0 2 rfl rfl)
theorem dX11_heap_5 : decode cX11_heap 5 = .ok (.iload_n 1, 1) := dk_27 (dk_at dksX11_heap_0 5 rfl rfl)
theorem dX11_heap_6 : decode cX11_heap 6 = .ok (.iconst 0, 1) := dk_3 (dk_at dksX11_heap_0 6 rfl rfl)
theorem dX11_heap_7 : decode cX11_heap 7 = .ok (.aload_n 0, 1) := dk_42 (dk_at dksX11_heap_0 7 rfl rfl)
theorem dX11_heap_8 : decode cX11_heap 8 = .ok (.getfield 33, 3) := dk_180 0 33 (dk_at dksX11_heap_0 8 rfl rfl)
theorem dX11_heap_11 : decode cX11_heap 11 = .ok (.bipush 7, 2) := dk_16 7 (dk_at dksX11_heap_0 11 rfl rfl)
theorem dX11_heap_13 : decode cX11_heap 13 = .ok (.iaload, 1) := dk_46 (dk_at dksX11_heap_0 13 rfl rfl)
theorem dX11_heap_14 : decode cX11_heap 14 = .ok (.iconst 1, 1) := dk_4 (dk_at dksX11_heap_0 14 rfl rfl)
theorem dX11_heap_15 : decode cX11_heap 15 = .ok (.isub, 1) := dk_100 (dk_at dksX11_heap_0 15 rfl rfl)
theorem dX11_heap_16 : decode cX11_heap 16 = .ok (.invokestatic 195, 3) := dk_184 0 195 (dk_at dksX11_heap_0 16 rfl rfl)
theorem dX11_heap_19 : decode cX11_heap 19 = .ok (.ifCond .eq 15, 3) := dk_153 0 15 (dk_at dksX11_heap_0 19 rfl rfl)
theorem dX11_heap_22 : decode cX11_heap 22 = .ok (.aload_n 0, 1) := dk_42 (dk_at dksX11_heap_0 22 rfl rfl)
theorem dX11_heap_23 : decode cX11_heap 23 = .ok (.getfield 33, 3) := dk_180 0 33 (dk_at dksX11_heap_1 0 rfl rfl)
theorem dX11_heap_26 : decode cX11_heap 26 = .ok (.bipush 8, 2) := dk_16 8 (dk_at dksX11_heap_1 3 rfl rfl)
theorem dX11_heap_28 : decode cX11_heap 28 = .ok (.iload_n 1, 1) := dk_27 (dk_at dksX11_heap_1 5 rfl rfl)
theorem dX11_heap_29 : decode cX11_heap 29 = .ok (.iadd, 1) := dk_96 (dk_at dksX11_heap_1 6 rfl rfl)
theorem dX11_heap_30 : decode cX11_heap 30 = .ok (.iaload, 1) := dk_46 (dk_at dksX11_heap_1 7 rfl rfl)
theorem dX11_heap_31 : decode cX11_heap 31 = .ok (.goto 4, 3) := dk_167 0 4 (dk_at dksX11_heap_1 8 rfl rfl)
theorem dX11_heap_34 : decode cX11_heap 34 = .ok (.iconst (-1), 1) := dk_2 (dk_at dksX11_heap_1 11 rfl rfl)
theorem dX11_heap_35 : decode cX11_heap 35 = .ok (.ireturn, 1) := dk_172 (dk_at dksX11_heap_1 12 rfl rfl)
abbrev cX11_now : ByteArray := prog_23_method_45_code
def yX11_now : MethodName := ⟨RX11, "now", "(I)I"⟩
def dkwX11_now_4 : List UInt8 := [182, 1, 39, 172, 42, 180, 0, 33, 16, 6, 46, 172, 28, 172, 2, 172]
abbrev dktX11_now_4 : List UInt8 := dkwX11_now_4 ++ []
def dkwX11_now_3 : List UInt8 := [42, 180, 0, 33, 7, 46, 172, 42, 180, 0, 33, 16, 7, 46, 172, 42, 180, 0, 33, 8, 46, 172, 42]
abbrev dktX11_now_3 : List UInt8 := dkwX11_now_3 ++ dktX11_now_4
def dkwX11_now_2 : List UInt8 := [170, 0, 0, 0, 0, 0, 0, 77, 0, 0, 0, 0, 0, 0, 0, 5, 0, 0, 0, 40, 0, 0, 0, 47, 0, 0, 0, 55, 0, 0, 0, 62, 0, 0, 0, 67, 0, 0, 0, 75]
abbrev dktX11_now_2 : List UInt8 := dkwX11_now_2 ++ dktX11_now_3
def dkwX11_now_1 : List UInt8 := [162, 0, 17, 28, 42, 29, 182, 1, 7, 96, 61, 132, 3, 1, 167, 255, 235, 27]
abbrev dktX11_now_1 : List UInt8 := dkwX11_now_1 ++ dktX11_now_2
def dkwX11_now_0 : List UInt8 := [42, 3, 181, 0, 1, 42, 180, 0, 33, 16, 7, 46, 61, 3, 62, 29, 42, 180, 0, 33, 4, 46]
abbrev dktX11_now_0 : List UInt8 := dkwX11_now_0 ++ dktX11_now_1
theorem dksX11_now_0 : cX11_now.data.toList.drop 0 = dktX11_now_0 := by decide +kernel
theorem dksX11_now_1 : cX11_now.data.toList.drop 22 = dktX11_now_1 := dk_seg dksX11_now_0 22 rfl rfl
theorem dksX11_now_2 : cX11_now.data.toList.drop 40 = dktX11_now_2 := dk_seg dksX11_now_1 18 rfl rfl
theorem dksX11_now_3 : cX11_now.data.toList.drop 80 = dktX11_now_3 := dk_seg dksX11_now_2 40 rfl rfl
theorem dksX11_now_4 : cX11_now.data.toList.drop 103 = dktX11_now_4 := dk_seg dksX11_now_3 23 rfl rfl
theorem dX11_now_0 : decode cX11_now 0 = .ok (.aload_n 0, 1) := dk_42 (dk_at dksX11_now_0 0 rfl rfl)
theorem dX11_now_1 : decode cX11_now 1 = .ok (.iconst 0, 1) := dk_3 (dk_at dksX11_now_0 1 rfl rfl)
theorem dX11_now_2 : decode cX11_now 2 = .ok (.putfield 1, 3) := dk_181 0 1 (dk_at dksX11_now_0 2 rfl rfl)
theorem dX11_now_5 : decode cX11_now 5 = .ok (.aload_n 0, 1) := dk_42 (dk_at dksX11_now_0 5 rfl rfl)
theorem dX11_now_6 : decode cX11_now 6 = .ok (.getfield 33, 3) := dk_180 0 33 (dk_at dksX11_now_0 6 rfl rfl)
theorem dX11_now_9 : decode cX11_now 9 = .ok (.bipush 7, 2) := dk_16 7 (dk_at dksX11_now_0 9 rfl rfl)
theorem dX11_now_11 : decode cX11_now 11 = .ok (.iaload, 1) := dk_46 (dk_at dksX11_now_0 11 rfl rfl)
theorem dX11_now_12 : decode cX11_now 12 = .ok (.istore_n 2, 1) := dk_61 (dk_at dksX11_now_0 12 rfl rfl)
theorem dX11_now_13 : decode cX11_now 13 = .ok (.iconst 0, 1) := dk_3 (dk_at dksX11_now_0 13 rfl rfl)
theorem dX11_now_14 : decode cX11_now 14 = .ok (.istore_n 3, 1) := dk_62 (dk_at dksX11_now_0 14 rfl rfl)
theorem dX11_now_15 : decode cX11_now 15 = .ok (.iload_n 3, 1) := dk_29 (dk_at dksX11_now_0 15 rfl rfl)
theorem dX11_now_16 : decode cX11_now 16 = .ok (.aload_n 0, 1) := dk_42 (dk_at dksX11_now_0 16 rfl rfl)
theorem dX11_now_17 : decode cX11_now 17 = .ok (.getfield 33, 3) := dk_180 0 33 (dk_at dksX11_now_0 17 rfl rfl)
theorem dX11_now_20 : decode cX11_now 20 = .ok (.iconst 1, 1) := dk_4 (dk_at dksX11_now_0 20 rfl rfl)
theorem dX11_now_21 : decode cX11_now 21 = .ok (.iaload, 1) := dk_46 (dk_at dksX11_now_0 21 rfl rfl)
theorem dX11_now_22 : decode cX11_now 22 = .ok (.if_icmp .ge 17, 3) := dk_162 0 17 (dk_at dksX11_now_1 0 rfl rfl)
theorem dX11_now_25 : decode cX11_now 25 = .ok (.iload_n 2, 1) := dk_28 (dk_at dksX11_now_1 3 rfl rfl)
theorem dX11_now_26 : decode cX11_now 26 = .ok (.aload_n 0, 1) := dk_42 (dk_at dksX11_now_1 4 rfl rfl)
theorem dX11_now_27 : decode cX11_now 27 = .ok (.iload_n 3, 1) := dk_29 (dk_at dksX11_now_1 5 rfl rfl)
theorem dX11_now_28 : decode cX11_now 28 = .ok (.invokevirtual 263, 3) := dk_182 1 7 (dk_at dksX11_now_1 6 rfl rfl)
theorem dX11_now_31 : decode cX11_now 31 = .ok (.iadd, 1) := dk_96 (dk_at dksX11_now_1 9 rfl rfl)
theorem dX11_now_32 : decode cX11_now 32 = .ok (.istore_n 2, 1) := dk_61 (dk_at dksX11_now_1 10 rfl rfl)
theorem dX11_now_33 : decode cX11_now 33 = .ok (.iinc 3 1, 3) := dk_132 3 1 (dk_at dksX11_now_1 11 rfl rfl)
theorem dX11_now_36 : decode cX11_now 36 = .ok (.goto (-21), 3) := dk_167 255 235 (dk_at dksX11_now_1 14 rfl rfl)
theorem dX11_now_39 : decode cX11_now 39 = .ok (.iload_n 1, 1) := dk_27 (dk_at dksX11_now_1 17 rfl rfl)
theorem dX11_now_40 : decode cX11_now 40 = .ok (.tableswitch 77 0 5 #[40, 47, 55, 62, 67, 75], 40) := by decide +kernel
theorem dX11_now_80 : decode cX11_now 80 = .ok (.aload_n 0, 1) := dk_42 (dk_at dksX11_now_3 0 rfl rfl)
theorem dX11_now_81 : decode cX11_now 81 = .ok (.getfield 33, 3) := dk_180 0 33 (dk_at dksX11_now_3 1 rfl rfl)
theorem dX11_now_84 : decode cX11_now 84 = .ok (.iconst 4, 1) := dk_7 (dk_at dksX11_now_3 4 rfl rfl)
theorem dX11_now_85 : decode cX11_now 85 = .ok (.iaload, 1) := dk_46 (dk_at dksX11_now_3 5 rfl rfl)
theorem dX11_now_86 : decode cX11_now 86 = .ok (.ireturn, 1) := dk_172 (dk_at dksX11_now_3 6 rfl rfl)
theorem dX11_now_87 : decode cX11_now 87 = .ok (.aload_n 0, 1) := dk_42 (dk_at dksX11_now_3 7 rfl rfl)
theorem dX11_now_88 : decode cX11_now 88 = .ok (.getfield 33, 3) := dk_180 0 33 (dk_at dksX11_now_3 8 rfl rfl)
theorem dX11_now_91 : decode cX11_now 91 = .ok (.bipush 7, 2) := dk_16 7 (dk_at dksX11_now_3 11 rfl rfl)
theorem dX11_now_93 : decode cX11_now 93 = .ok (.iaload, 1) := dk_46 (dk_at dksX11_now_3 13 rfl rfl)
theorem dX11_now_94 : decode cX11_now 94 = .ok (.ireturn, 1) := dk_172 (dk_at dksX11_now_3 14 rfl rfl)
theorem dX11_now_95 : decode cX11_now 95 = .ok (.aload_n 0, 1) := dk_42 (dk_at dksX11_now_3 15 rfl rfl)
theorem dX11_now_96 : decode cX11_now 96 = .ok (.getfield 33, 3) := dk_180 0 33 (dk_at dksX11_now_3 16 rfl rfl)
theorem dX11_now_99 : decode cX11_now 99 = .ok (.iconst 5, 1) := dk_8 (dk_at dksX11_now_3 19 rfl rfl)
theorem dX11_now_100 : decode cX11_now 100 = .ok (.iaload, 1) := dk_46 (dk_at dksX11_now_3 20 rfl rfl)
theorem dX11_now_101 : decode cX11_now 101 = .ok (.ireturn, 1) := dk_172 (dk_at dksX11_now_3 21 rfl rfl)
theorem dX11_now_102 : decode cX11_now 102 = .ok (.aload_n 0, 1) := dk_42 (dk_at dksX11_now_3 22 rfl rfl)
theorem dX11_now_103 : decode cX11_now 103 = .ok (.invokevirtual 295, 3) := dk_182 1 39 (dk_at dksX11_now_4 0 rfl rfl)
theorem dX11_now_106 : decode cX11_now 106 = .ok (.ireturn, 1) := dk_172 (dk_at dksX11_now_4 3 rfl rfl)
theorem dX11_now_107 : decode cX11_now 107 = .ok (.aload_n 0, 1) := dk_42 (dk_at dksX11_now_4 4 rfl rfl)
theorem dX11_now_108 : decode cX11_now 108 = .ok (.getfield 33, 3) := dk_180 0 33 (dk_at dksX11_now_4 5 rfl rfl)
theorem dX11_now_111 : decode cX11_now 111 = .ok (.bipush 6, 2) := dk_16 6 (dk_at dksX11_now_4 8 rfl rfl)
theorem dX11_now_113 : decode cX11_now 113 = .ok (.iaload, 1) := dk_46 (dk_at dksX11_now_4 10 rfl rfl)
theorem dX11_now_114 : decode cX11_now 114 = .ok (.ireturn, 1) := dk_172 (dk_at dksX11_now_4 11 rfl rfl)
theorem dX11_now_115 : decode cX11_now 115 = .ok (.iload_n 2, 1) := dk_28 (dk_at dksX11_now_4 12 rfl rfl)
theorem dX11_now_116 : decode cX11_now 116 = .ok (.ireturn, 1) := dk_172 (dk_at dksX11_now_4 13 rfl rfl)
theorem dX11_now_117 : decode cX11_now 117 = .ok (.iconst (-1), 1) := dk_2 (dk_at dksX11_now_4 14 rfl rfl)
theorem dX11_now_118 : decode cX11_now 118 = .ok (.ireturn, 1) := dk_172 (dk_at dksX11_now_4 15 rfl rfl)
abbrev cX11_allBooks : ByteArray := prog_23_method_41_code
def yX11_allBooks : MethodName := ⟨RX11, "allBooks", "()I"⟩
def dkwX11_allBooks_1 : List UInt8 := [4, 167, 0, 4, 3, 96, 60, 132, 2, 1, 167, 255, 226, 27, 172]
abbrev dktX11_allBooks_1 : List UInt8 := dkwX11_allBooks_1 ++ []
def dkwX11_allBooks_0 : List UInt8 := [3, 60, 3, 61, 28, 16, 13, 162, 0, 30, 27, 42, 180, 0, 33, 17, 0, 138, 28, 96, 46, 158, 0, 7]
abbrev dktX11_allBooks_0 : List UInt8 := dkwX11_allBooks_0 ++ dktX11_allBooks_1
theorem dksX11_allBooks_0 : cX11_allBooks.data.toList.drop 0 = dktX11_allBooks_0 := by decide +kernel
theorem dksX11_allBooks_1 : cX11_allBooks.data.toList.drop 24 = dktX11_allBooks_1 := dk_seg dksX11_allBooks_0 24 rfl rfl
theorem dX11_allBooks_0 : decode cX11_allBooks 0 = .ok (.iconst 0, 1) := dk_3 (dk_at dksX11_allBooks_0 0 rfl rfl)
theorem dX11_allBooks_1 : decode cX11_allBooks 1 = .ok (.istore_n 1, 1) := dk_60 (dk_at dksX11_allBooks_0 1 rfl rfl)
theorem dX11_allBooks_2 : decode cX11_allBooks 2 = .ok (.iconst 0, 1) := dk_3 (dk_at dksX11_allBooks_0 2 rfl rfl)
theorem dX11_allBooks_3 : decode cX11_allBooks 3 = .ok (.istore_n 2, 1) := dk_61 (dk_at dksX11_allBooks_0 3 rfl rfl)
theorem dX11_allBooks_4 : decode cX11_allBooks 4 = .ok (.iload_n 2, 1) := dk_28 (dk_at dksX11_allBooks_0 4 rfl rfl)
theorem dX11_allBooks_5 : decode cX11_allBooks 5 = .ok (.bipush 13, 2) := dk_16 13 (dk_at dksX11_allBooks_0 5 rfl rfl)
theorem dX11_allBooks_7 : decode cX11_allBooks 7 = .ok (.if_icmp .ge 30, 3) := dk_162 0 30 (dk_at dksX11_allBooks_0 7 rfl rfl)
theorem dX11_allBooks_10 : decode cX11_allBooks 10 = .ok (.iload_n 1, 1) := dk_27 (dk_at dksX11_allBooks_0 10 rfl rfl)
theorem dX11_allBooks_11 : decode cX11_allBooks 11 = .ok (.aload_n 0, 1) := dk_42 (dk_at dksX11_allBooks_0 11 rfl rfl)
theorem dX11_allBooks_12 : decode cX11_allBooks 12 = .ok (.getfield 33, 3) := dk_180 0 33 (dk_at dksX11_allBooks_0 12 rfl rfl)
theorem dX11_allBooks_15 : decode cX11_allBooks 15 = .ok (.sipush 138, 3) := dk_17 0 138 (dk_at dksX11_allBooks_0 15 rfl rfl)
theorem dX11_allBooks_18 : decode cX11_allBooks 18 = .ok (.iload_n 2, 1) := dk_28 (dk_at dksX11_allBooks_0 18 rfl rfl)
theorem dX11_allBooks_19 : decode cX11_allBooks 19 = .ok (.iadd, 1) := dk_96 (dk_at dksX11_allBooks_0 19 rfl rfl)
theorem dX11_allBooks_20 : decode cX11_allBooks 20 = .ok (.iaload, 1) := dk_46 (dk_at dksX11_allBooks_0 20 rfl rfl)
theorem dX11_allBooks_21 : decode cX11_allBooks 21 = .ok (.ifCond .le 7, 3) := dk_158 0 7 (dk_at dksX11_allBooks_0 21 rfl rfl)
theorem dX11_allBooks_24 : decode cX11_allBooks 24 = .ok (.iconst 1, 1) := dk_4 (dk_at dksX11_allBooks_1 0 rfl rfl)
theorem dX11_allBooks_25 : decode cX11_allBooks 25 = .ok (.goto 4, 3) := dk_167 0 4 (dk_at dksX11_allBooks_1 1 rfl rfl)
theorem dX11_allBooks_28 : decode cX11_allBooks 28 = .ok (.iconst 0, 1) := dk_3 (dk_at dksX11_allBooks_1 4 rfl rfl)
theorem dX11_allBooks_29 : decode cX11_allBooks 29 = .ok (.iadd, 1) := dk_96 (dk_at dksX11_allBooks_1 5 rfl rfl)
theorem dX11_allBooks_30 : decode cX11_allBooks 30 = .ok (.istore_n 1, 1) := dk_60 (dk_at dksX11_allBooks_1 6 rfl rfl)
theorem dX11_allBooks_31 : decode cX11_allBooks 31 = .ok (.iinc 2 1, 3) := dk_132 2 1 (dk_at dksX11_allBooks_1 7 rfl rfl)
theorem dX11_allBooks_34 : decode cX11_allBooks 34 = .ok (.goto (-30), 3) := dk_167 255 226 (dk_at dksX11_allBooks_1 10 rfl rfl)
theorem dX11_allBooks_37 : decode cX11_allBooks 37 = .ok (.iload_n 1, 1) := dk_27 (dk_at dksX11_allBooks_1 13 rfl rfl)
theorem dX11_allBooks_38 : decode cX11_allBooks 38 = .ok (.ireturn, 1) := dk_172 (dk_at dksX11_allBooks_1 14 rfl rfl)
abbrev cX11_why : ByteArray := prog_23_method_48_code
def yX11_why : MethodName := ⟨RX11, "why", "(III)I"⟩
def dkwX11_why_1 : List UInt8 := [167, 0, 4, 2, 172]
abbrev dktX11_why_1 : List UInt8 := dkwX11_why_1 ++ []
def dkwX11_why_0 : List UInt8 := [42, 3, 181, 0, 1, 42, 27, 28, 29, 182, 1, 42, 153, 0, 13, 42, 27, 28, 29, 182, 1, 45]
abbrev dktX11_why_0 : List UInt8 := dkwX11_why_0 ++ dktX11_why_1
theorem dksX11_why_0 : cX11_why.data.toList.drop 0 = dktX11_why_0 := by decide +kernel
theorem dksX11_why_1 : cX11_why.data.toList.drop 22 = dktX11_why_1 := dk_seg dksX11_why_0 22 rfl rfl
theorem dX11_why_0 : decode cX11_why 0 = .ok (.aload_n 0, 1) := dk_42 (dk_at dksX11_why_0 0 rfl rfl)
theorem dX11_why_1 : decode cX11_why 1 = .ok (.iconst 0, 1) := dk_3 (dk_at dksX11_why_0 1 rfl rfl)
theorem dX11_why_2 : decode cX11_why 2 = .ok (.putfield 1, 3) := dk_181 0 1 (dk_at dksX11_why_0 2 rfl rfl)
theorem dX11_why_5 : decode cX11_why 5 = .ok (.aload_n 0, 1) := dk_42 (dk_at dksX11_why_0 5 rfl rfl)
theorem dX11_why_6 : decode cX11_why 6 = .ok (.iload_n 1, 1) := dk_27 (dk_at dksX11_why_0 6 rfl rfl)
theorem dX11_why_7 : decode cX11_why 7 = .ok (.iload_n 2, 1) := dk_28 (dk_at dksX11_why_0 7 rfl rfl)
theorem dX11_why_8 : decode cX11_why 8 = .ok (.iload_n 3, 1) := dk_29 (dk_at dksX11_why_0 8 rfl rfl)
theorem dX11_why_9 : decode cX11_why 9 = .ok (.invokevirtual 298, 3) := dk_182 1 42 (dk_at dksX11_why_0 9 rfl rfl)
theorem dX11_why_12 : decode cX11_why 12 = .ok (.ifCond .eq 13, 3) := dk_153 0 13 (dk_at dksX11_why_0 12 rfl rfl)
theorem dX11_why_15 : decode cX11_why 15 = .ok (.aload_n 0, 1) := dk_42 (dk_at dksX11_why_0 15 rfl rfl)
theorem dX11_why_16 : decode cX11_why 16 = .ok (.iload_n 1, 1) := dk_27 (dk_at dksX11_why_0 16 rfl rfl)
theorem dX11_why_17 : decode cX11_why 17 = .ok (.iload_n 2, 1) := dk_28 (dk_at dksX11_why_0 17 rfl rfl)
theorem dX11_why_18 : decode cX11_why 18 = .ok (.iload_n 3, 1) := dk_29 (dk_at dksX11_why_0 18 rfl rfl)
theorem dX11_why_19 : decode cX11_why 19 = .ok (.invokevirtual 301, 3) := dk_182 1 45 (dk_at dksX11_why_0 19 rfl rfl)
theorem dX11_why_22 : decode cX11_why 22 = .ok (.goto 4, 3) := dk_167 0 4 (dk_at dksX11_why_1 0 rfl rfl)
theorem dX11_why_25 : decode cX11_why 25 = .ok (.iconst (-1), 1) := dk_2 (dk_at dksX11_why_1 3 rfl rfl)
theorem dX11_why_26 : decode cX11_why 26 = .ok (.ireturn, 1) := dk_172 (dk_at dksX11_why_1 4 rfl rfl)
abbrev cX11_areAsked : ByteArray := prog_23_method_47_code
def yX11_areAsked : MethodName := ⟨RX11, "areAsked", "(III)Z"⟩
def dkwX11_areAsked_1 : List UInt8 := [4, 167, 0, 4, 3, 172]
abbrev dktX11_areAsked_1 : List UInt8 := dkwX11_areAsked_1 ++ []
def dkwX11_areAsked_0 : List UInt8 := [42, 27, 182, 1, 26, 153, 0, 23, 42, 28, 182, 1, 26, 153, 0, 15, 42, 29, 182, 1, 29, 153, 0, 7]
abbrev dktX11_areAsked_0 : List UInt8 := dkwX11_areAsked_0 ++ dktX11_areAsked_1
theorem dksX11_areAsked_0 : cX11_areAsked.data.toList.drop 0 = dktX11_areAsked_0 := by decide +kernel
theorem dksX11_areAsked_1 : cX11_areAsked.data.toList.drop 24 = dktX11_areAsked_1 := dk_seg dksX11_areAsked_0 24 rfl rfl
theorem dX11_areAsked_0 : decode cX11_areAsked 0 = .ok (.aload_n 0, 1) := dk_42 (dk_at dksX11_areAsked_0 0 rfl rfl)
theorem dX11_areAsked_1 : decode cX11_areAsked 1 = .ok (.iload_n 1, 1) := dk_27 (dk_at dksX11_areAsked_0 1 rfl rfl)
theorem dX11_areAsked_2 : decode cX11_areAsked 2 = .ok (.invokevirtual 282, 3) := dk_182 1 26 (dk_at dksX11_areAsked_0 2 rfl rfl)
theorem dX11_areAsked_5 : decode cX11_areAsked 5 = .ok (.ifCond .eq 23, 3) := dk_153 0 23 (dk_at dksX11_areAsked_0 5 rfl rfl)
theorem dX11_areAsked_8 : decode cX11_areAsked 8 = .ok (.aload_n 0, 1) := dk_42 (dk_at dksX11_areAsked_0 8 rfl rfl)
theorem dX11_areAsked_9 : decode cX11_areAsked 9 = .ok (.iload_n 2, 1) := dk_28 (dk_at dksX11_areAsked_0 9 rfl rfl)
theorem dX11_areAsked_10 : decode cX11_areAsked 10 = .ok (.invokevirtual 282, 3) := dk_182 1 26 (dk_at dksX11_areAsked_0 10 rfl rfl)
theorem dX11_areAsked_13 : decode cX11_areAsked 13 = .ok (.ifCond .eq 15, 3) := dk_153 0 15 (dk_at dksX11_areAsked_0 13 rfl rfl)
theorem dX11_areAsked_16 : decode cX11_areAsked 16 = .ok (.aload_n 0, 1) := dk_42 (dk_at dksX11_areAsked_0 16 rfl rfl)
theorem dX11_areAsked_17 : decode cX11_areAsked 17 = .ok (.iload_n 3, 1) := dk_29 (dk_at dksX11_areAsked_0 17 rfl rfl)
theorem dX11_areAsked_18 : decode cX11_areAsked 18 = .ok (.invokevirtual 285, 3) := dk_182 1 29 (dk_at dksX11_areAsked_0 18 rfl rfl)
theorem dX11_areAsked_21 : decode cX11_areAsked 21 = .ok (.ifCond .eq 7, 3) := dk_153 0 7 (dk_at dksX11_areAsked_0 21 rfl rfl)
theorem dX11_areAsked_24 : decode cX11_areAsked 24 = .ok (.iconst 1, 1) := dk_4 (dk_at dksX11_areAsked_1 0 rfl rfl)
theorem dX11_areAsked_25 : decode cX11_areAsked 25 = .ok (.goto 4, 3) := dk_167 0 4 (dk_at dksX11_areAsked_1 1 rfl rfl)
theorem dX11_areAsked_28 : decode cX11_areAsked 28 = .ok (.iconst 0, 1) := dk_3 (dk_at dksX11_areAsked_1 4 rfl rfl)
theorem dX11_areAsked_29 : decode cX11_areAsked 29 = .ok (.ireturn, 1) := dk_172 (dk_at dksX11_areAsked_1 5 rfl rfl)
abbrev cX11_whyOf : ByteArray := prog_23_method_46_code
def yX11_whyOf : MethodName := ⟨RX11, "whyOf", "(III)I"⟩
def dkwX11_whyOf_2 : List UInt8 := [167, 0, 4, 3, 172]
abbrev dktX11_whyOf_2 : List UInt8 := dkwX11_whyOf_2 ++ []
def dkwX11_whyOf_1 : List UInt8 := [5, 167, 0, 27, 42, 27, 29, 3, 182, 0, 255, 154, 0, 7, 6, 167, 0, 13, 27, 28, 160, 0, 7, 7]
abbrev dktX11_whyOf_1 : List UInt8 := dkwX11_whyOf_1 ++ dktX11_whyOf_2
def dkwX11_whyOf_0 : List UInt8 := [42, 180, 0, 33, 7, 46, 2, 160, 0, 7, 4, 167, 0, 41, 42, 180, 0, 33, 7, 46, 27, 159, 0, 7]
abbrev dktX11_whyOf_0 : List UInt8 := dkwX11_whyOf_0 ++ dktX11_whyOf_1
theorem dksX11_whyOf_0 : cX11_whyOf.data.toList.drop 0 = dktX11_whyOf_0 := by decide +kernel
theorem dksX11_whyOf_1 : cX11_whyOf.data.toList.drop 24 = dktX11_whyOf_1 := dk_seg dksX11_whyOf_0 24 rfl rfl
theorem dksX11_whyOf_2 : cX11_whyOf.data.toList.drop 48 = dktX11_whyOf_2 := dk_seg dksX11_whyOf_1 24 rfl rfl
theorem dX11_whyOf_0 : decode cX11_whyOf 0 = .ok (.aload_n 0, 1) := dk_42 (dk_at dksX11_whyOf_0 0 rfl rfl)
theorem dX11_whyOf_1 : decode cX11_whyOf 1 = .ok (.getfield 33, 3) := dk_180 0 33 (dk_at dksX11_whyOf_0 1 rfl rfl)
theorem dX11_whyOf_4 : decode cX11_whyOf 4 = .ok (.iconst 4, 1) := dk_7 (dk_at dksX11_whyOf_0 4 rfl rfl)
theorem dX11_whyOf_5 : decode cX11_whyOf 5 = .ok (.iaload, 1) := dk_46 (dk_at dksX11_whyOf_0 5 rfl rfl)
theorem dX11_whyOf_6 : decode cX11_whyOf 6 = .ok (.iconst (-1), 1) := dk_2 (dk_at dksX11_whyOf_0 6 rfl rfl)
theorem dX11_whyOf_7 : decode cX11_whyOf 7 = .ok (.if_icmp .ne 7, 3) := dk_160 0 7 (dk_at dksX11_whyOf_0 7 rfl rfl)
theorem dX11_whyOf_10 : decode cX11_whyOf 10 = .ok (.iconst 1, 1) := dk_4 (dk_at dksX11_whyOf_0 10 rfl rfl)
theorem dX11_whyOf_11 : decode cX11_whyOf 11 = .ok (.goto 41, 3) := dk_167 0 41 (dk_at dksX11_whyOf_0 11 rfl rfl)
theorem dX11_whyOf_14 : decode cX11_whyOf 14 = .ok (.aload_n 0, 1) := dk_42 (dk_at dksX11_whyOf_0 14 rfl rfl)
theorem dX11_whyOf_15 : decode cX11_whyOf 15 = .ok (.getfield 33, 3) := dk_180 0 33 (dk_at dksX11_whyOf_0 15 rfl rfl)
theorem dX11_whyOf_18 : decode cX11_whyOf 18 = .ok (.iconst 4, 1) := dk_7 (dk_at dksX11_whyOf_0 18 rfl rfl)
theorem dX11_whyOf_19 : decode cX11_whyOf 19 = .ok (.iaload, 1) := dk_46 (dk_at dksX11_whyOf_0 19 rfl rfl)
theorem dX11_whyOf_20 : decode cX11_whyOf 20 = .ok (.iload_n 1, 1) := dk_27 (dk_at dksX11_whyOf_0 20 rfl rfl)
theorem dX11_whyOf_21 : decode cX11_whyOf 21 = .ok (.if_icmp .eq 7, 3) := dk_159 0 7 (dk_at dksX11_whyOf_0 21 rfl rfl)
theorem dX11_whyOf_24 : decode cX11_whyOf 24 = .ok (.iconst 2, 1) := dk_5 (dk_at dksX11_whyOf_1 0 rfl rfl)
theorem dX11_whyOf_25 : decode cX11_whyOf 25 = .ok (.goto 27, 3) := dk_167 0 27 (dk_at dksX11_whyOf_1 1 rfl rfl)
theorem dX11_whyOf_28 : decode cX11_whyOf 28 = .ok (.aload_n 0, 1) := dk_42 (dk_at dksX11_whyOf_1 4 rfl rfl)
theorem dX11_whyOf_29 : decode cX11_whyOf 29 = .ok (.iload_n 1, 1) := dk_27 (dk_at dksX11_whyOf_1 5 rfl rfl)
theorem dX11_whyOf_30 : decode cX11_whyOf 30 = .ok (.iload_n 3, 1) := dk_29 (dk_at dksX11_whyOf_1 6 rfl rfl)
theorem dX11_whyOf_31 : decode cX11_whyOf 31 = .ok (.iconst 0, 1) := dk_3 (dk_at dksX11_whyOf_1 7 rfl rfl)
theorem dX11_whyOf_32 : decode cX11_whyOf 32 = .ok (.invokevirtual 255, 3) := dk_182 0 255 (dk_at dksX11_whyOf_1 8 rfl rfl)
theorem dX11_whyOf_35 : decode cX11_whyOf 35 = .ok (.ifCond .ne 7, 3) := dk_154 0 7 (dk_at dksX11_whyOf_1 11 rfl rfl)
theorem dX11_whyOf_38 : decode cX11_whyOf 38 = .ok (.iconst 3, 1) := dk_6 (dk_at dksX11_whyOf_1 14 rfl rfl)
theorem dX11_whyOf_39 : decode cX11_whyOf 39 = .ok (.goto 13, 3) := dk_167 0 13 (dk_at dksX11_whyOf_1 15 rfl rfl)
theorem dX11_whyOf_42 : decode cX11_whyOf 42 = .ok (.iload_n 1, 1) := dk_27 (dk_at dksX11_whyOf_1 18 rfl rfl)
theorem dX11_whyOf_43 : decode cX11_whyOf 43 = .ok (.iload_n 2, 1) := dk_28 (dk_at dksX11_whyOf_1 19 rfl rfl)
theorem dX11_whyOf_44 : decode cX11_whyOf 44 = .ok (.if_icmp .ne 7, 3) := dk_160 0 7 (dk_at dksX11_whyOf_1 20 rfl rfl)
theorem dX11_whyOf_47 : decode cX11_whyOf 47 = .ok (.iconst 4, 1) := dk_7 (dk_at dksX11_whyOf_1 23 rfl rfl)
theorem dX11_whyOf_48 : decode cX11_whyOf 48 = .ok (.goto 4, 3) := dk_167 0 4 (dk_at dksX11_whyOf_2 0 rfl rfl)
theorem dX11_whyOf_51 : decode cX11_whyOf 51 = .ok (.iconst 0, 1) := dk_3 (dk_at dksX11_whyOf_2 3 rfl rfl)
theorem dX11_whyOf_52 : decode cX11_whyOf 52 = .ok (.ireturn, 1) := dk_172 (dk_at dksX11_whyOf_2 4 rfl rfl)
abbrev cX11_ask : ByteArray := prog_23_method_51_code
def yX11_ask : MethodName := ⟨RX11, "ask", "(IIII)I"⟩
def dkwX11_ask_2 : List UInt8 := [172, 42, 182, 1, 57, 42, 27, 28, 29, 21, 4, 4, 182, 1, 60, 172]
abbrev dktX11_ask_2 : List UInt8 := dkwX11_ask_2 ++ []
def dkwX11_ask_1 : List UInt8 := [154, 0, 5, 2, 172, 42, 27, 28, 29, 182, 1, 45, 54, 5, 21, 5, 158, 0, 9, 16, 254, 21, 5, 100]
abbrev dktX11_ask_1 : List UInt8 := dkwX11_ask_1 ++ dktX11_ask_2
def dkwX11_ask_0 : List UInt8 := [42, 3, 181, 0, 1, 42, 27, 28, 29, 182, 1, 42, 153, 0, 13, 21, 4, 3, 4, 184, 0, 195]
abbrev dktX11_ask_0 : List UInt8 := dkwX11_ask_0 ++ dktX11_ask_1
theorem dksX11_ask_0 : cX11_ask.data.toList.drop 0 = dktX11_ask_0 := by decide +kernel
theorem dksX11_ask_1 : cX11_ask.data.toList.drop 22 = dktX11_ask_1 := dk_seg dksX11_ask_0 22 rfl rfl
theorem dksX11_ask_2 : cX11_ask.data.toList.drop 46 = dktX11_ask_2 := dk_seg dksX11_ask_1 24 rfl rfl
theorem dX11_ask_0 : decode cX11_ask 0 = .ok (.aload_n 0, 1) := dk_42 (dk_at dksX11_ask_0 0 rfl rfl)
theorem dX11_ask_1 : decode cX11_ask 1 = .ok (.iconst 0, 1) := dk_3 (dk_at dksX11_ask_0 1 rfl rfl)
theorem dX11_ask_2 : decode cX11_ask 2 = .ok (.putfield 1, 3) := dk_181 0 1 (dk_at dksX11_ask_0 2 rfl rfl)
theorem dX11_ask_5 : decode cX11_ask 5 = .ok (.aload_n 0, 1) := dk_42 (dk_at dksX11_ask_0 5 rfl rfl)
theorem dX11_ask_6 : decode cX11_ask 6 = .ok (.iload_n 1, 1) := dk_27 (dk_at dksX11_ask_0 6 rfl rfl)
theorem dX11_ask_7 : decode cX11_ask 7 = .ok (.iload_n 2, 1) := dk_28 (dk_at dksX11_ask_0 7 rfl rfl)
theorem dX11_ask_8 : decode cX11_ask 8 = .ok (.iload_n 3, 1) := dk_29 (dk_at dksX11_ask_0 8 rfl rfl)
theorem dX11_ask_9 : decode cX11_ask 9 = .ok (.invokevirtual 298, 3) := dk_182 1 42 (dk_at dksX11_ask_0 9 rfl rfl)
theorem dX11_ask_12 : decode cX11_ask 12 = .ok (.ifCond .eq 13, 3) := dk_153 0 13 (dk_at dksX11_ask_0 12 rfl rfl)
theorem dX11_ask_15 : decode cX11_ask 15 = .ok (.iload 4, 2) := dk_21 4 (dk_at dksX11_ask_0 15 rfl rfl)
theorem dX11_ask_17 : decode cX11_ask 17 = .ok (.iconst 0, 1) := dk_3 (dk_at dksX11_ask_0 17 rfl rfl)
theorem dX11_ask_18 : decode cX11_ask 18 = .ok (.iconst 1, 1) := dk_4 (dk_at dksX11_ask_0 18 rfl rfl)
theorem dX11_ask_19 : decode cX11_ask 19 = .ok (.invokestatic 195, 3) := dk_184 0 195 (dk_at dksX11_ask_0 19 rfl rfl)
theorem dX11_ask_22 : decode cX11_ask 22 = .ok (.ifCond .ne 5, 3) := dk_154 0 5 (dk_at dksX11_ask_1 0 rfl rfl)
theorem dX11_ask_25 : decode cX11_ask 25 = .ok (.iconst (-1), 1) := dk_2 (dk_at dksX11_ask_1 3 rfl rfl)
theorem dX11_ask_26 : decode cX11_ask 26 = .ok (.ireturn, 1) := dk_172 (dk_at dksX11_ask_1 4 rfl rfl)
theorem dX11_ask_27 : decode cX11_ask 27 = .ok (.aload_n 0, 1) := dk_42 (dk_at dksX11_ask_1 5 rfl rfl)
theorem dX11_ask_28 : decode cX11_ask 28 = .ok (.iload_n 1, 1) := dk_27 (dk_at dksX11_ask_1 6 rfl rfl)
theorem dX11_ask_29 : decode cX11_ask 29 = .ok (.iload_n 2, 1) := dk_28 (dk_at dksX11_ask_1 7 rfl rfl)
theorem dX11_ask_30 : decode cX11_ask 30 = .ok (.iload_n 3, 1) := dk_29 (dk_at dksX11_ask_1 8 rfl rfl)
theorem dX11_ask_31 : decode cX11_ask 31 = .ok (.invokevirtual 301, 3) := dk_182 1 45 (dk_at dksX11_ask_1 9 rfl rfl)
theorem dX11_ask_34 : decode cX11_ask 34 = .ok (.istore 5, 2) := dk_54 5 (dk_at dksX11_ask_1 12 rfl rfl)
theorem dX11_ask_36 : decode cX11_ask 36 = .ok (.iload 5, 2) := dk_21 5 (dk_at dksX11_ask_1 14 rfl rfl)
theorem dX11_ask_38 : decode cX11_ask 38 = .ok (.ifCond .le 9, 3) := dk_158 0 9 (dk_at dksX11_ask_1 16 rfl rfl)
theorem dX11_ask_41 : decode cX11_ask 41 = .ok (.bipush (-2), 2) := dk_16 254 (dk_at dksX11_ask_1 19 rfl rfl)
theorem dX11_ask_43 : decode cX11_ask 43 = .ok (.iload 5, 2) := dk_21 5 (dk_at dksX11_ask_1 21 rfl rfl)
theorem dX11_ask_45 : decode cX11_ask 45 = .ok (.isub, 1) := dk_100 (dk_at dksX11_ask_1 23 rfl rfl)
theorem dX11_ask_46 : decode cX11_ask 46 = .ok (.ireturn, 1) := dk_172 (dk_at dksX11_ask_2 0 rfl rfl)
theorem dX11_ask_47 : decode cX11_ask 47 = .ok (.aload_n 0, 1) := dk_42 (dk_at dksX11_ask_2 1 rfl rfl)
theorem dX11_ask_48 : decode cX11_ask 48 = .ok (.invokevirtual 313, 3) := dk_182 1 57 (dk_at dksX11_ask_2 2 rfl rfl)
theorem dX11_ask_51 : decode cX11_ask 51 = .ok (.aload_n 0, 1) := dk_42 (dk_at dksX11_ask_2 5 rfl rfl)
theorem dX11_ask_52 : decode cX11_ask 52 = .ok (.iload_n 1, 1) := dk_27 (dk_at dksX11_ask_2 6 rfl rfl)
theorem dX11_ask_53 : decode cX11_ask 53 = .ok (.iload_n 2, 1) := dk_28 (dk_at dksX11_ask_2 7 rfl rfl)
theorem dX11_ask_54 : decode cX11_ask 54 = .ok (.iload_n 3, 1) := dk_29 (dk_at dksX11_ask_2 8 rfl rfl)
theorem dX11_ask_55 : decode cX11_ask 55 = .ok (.iload 4, 2) := dk_21 4 (dk_at dksX11_ask_2 9 rfl rfl)
theorem dX11_ask_57 : decode cX11_ask 57 = .ok (.iconst 1, 1) := dk_4 (dk_at dksX11_ask_2 11 rfl rfl)
theorem dX11_ask_58 : decode cX11_ask 58 = .ok (.invokevirtual 316, 3) := dk_182 1 60 (dk_at dksX11_ask_2 12 rfl rfl)
theorem dX11_ask_61 : decode cX11_ask 61 = .ok (.ireturn, 1) := dk_172 (dk_at dksX11_ask_2 15 rfl rfl)
abbrev cX11_keep : ByteArray := prog_23_method_53_code
def yX11_keep : MethodName := ⟨RX11, "keep", "()V"⟩
def dkwX11_keep_4 : List UInt8 := [177]
abbrev dktX11_keep_4 : List UInt8 := dkwX11_keep_4 ++ []
def dkwX11_keep_3 : List UInt8 := [180, 0, 33, 7, 27, 96, 46, 79, 132, 1, 1, 167, 255, 223, 42, 89, 180, 0, 246, 4, 96, 181, 0, 246]
abbrev dktX11_keep_3 : List UInt8 := dkwX11_keep_3 ++ dktX11_keep_4
def dkwX11_keep_2 : List UInt8 := [27, 17, 2, 68, 162, 0, 32, 42, 180, 0, 53, 17, 2, 68, 42, 180, 0, 246, 104, 27, 96, 42]
abbrev dktX11_keep_2 : List UInt8 := dkwX11_keep_2 ++ dktX11_keep_3
def dkwX11_keep_1 : List UInt8 := [180, 0, 53, 27, 17, 2, 68, 96, 46, 79, 132, 1, 1, 167, 255, 230, 42, 16, 7, 181, 0, 246, 3, 60]
abbrev dktX11_keep_1 : List UInt8 := dkwX11_keep_1 ++ dktX11_keep_2
def dkwX11_keep_0 : List UInt8 := [42, 180, 0, 246, 16, 8, 160, 0, 40, 3, 60, 27, 17, 15, 220, 162, 0, 25, 42, 180, 0, 53, 27, 42]
abbrev dktX11_keep_0 : List UInt8 := dkwX11_keep_0 ++ dktX11_keep_1
theorem dksX11_keep_0 : cX11_keep.data.toList.drop 0 = dktX11_keep_0 := by decide +kernel
theorem dksX11_keep_1 : cX11_keep.data.toList.drop 24 = dktX11_keep_1 := dk_seg dksX11_keep_0 24 rfl rfl
theorem dksX11_keep_2 : cX11_keep.data.toList.drop 48 = dktX11_keep_2 := dk_seg dksX11_keep_1 24 rfl rfl
theorem dksX11_keep_3 : cX11_keep.data.toList.drop 70 = dktX11_keep_3 := dk_seg dksX11_keep_2 22 rfl rfl
theorem dksX11_keep_4 : cX11_keep.data.toList.drop 94 = dktX11_keep_4 := dk_seg dksX11_keep_3 24 rfl rfl
theorem dX11_keep_0 : decode cX11_keep 0 = .ok (.aload_n 0, 1) := dk_42 (dk_at dksX11_keep_0 0 rfl rfl)
theorem dX11_keep_1 : decode cX11_keep 1 = .ok (.getfield 246, 3) := dk_180 0 246 (dk_at dksX11_keep_0 1 rfl rfl)
theorem dX11_keep_4 : decode cX11_keep 4 = .ok (.bipush 8, 2) := dk_16 8 (dk_at dksX11_keep_0 4 rfl rfl)
theorem dX11_keep_6 : decode cX11_keep 6 = .ok (.if_icmp .ne 40, 3) := dk_160 0 40 (dk_at dksX11_keep_0 6 rfl rfl)
theorem dX11_keep_9 : decode cX11_keep 9 = .ok (.iconst 0, 1) := dk_3 (dk_at dksX11_keep_0 9 rfl rfl)
theorem dX11_keep_10 : decode cX11_keep 10 = .ok (.istore_n 1, 1) := dk_60 (dk_at dksX11_keep_0 10 rfl rfl)
theorem dX11_keep_11 : decode cX11_keep 11 = .ok (.iload_n 1, 1) := dk_27 (dk_at dksX11_keep_0 11 rfl rfl)
theorem dX11_keep_12 : decode cX11_keep 12 = .ok (.sipush 4060, 3) := dk_17 15 220 (dk_at dksX11_keep_0 12 rfl rfl)
theorem dX11_keep_15 : decode cX11_keep 15 = .ok (.if_icmp .ge 25, 3) := dk_162 0 25 (dk_at dksX11_keep_0 15 rfl rfl)
theorem dX11_keep_18 : decode cX11_keep 18 = .ok (.aload_n 0, 1) := dk_42 (dk_at dksX11_keep_0 18 rfl rfl)
theorem dX11_keep_19 : decode cX11_keep 19 = .ok (.getfield 53, 3) := dk_180 0 53 (dk_at dksX11_keep_0 19 rfl rfl)
theorem dX11_keep_22 : decode cX11_keep 22 = .ok (.iload_n 1, 1) := dk_27 (dk_at dksX11_keep_0 22 rfl rfl)
theorem dX11_keep_23 : decode cX11_keep 23 = .ok (.aload_n 0, 1) := dk_42 (dk_at dksX11_keep_0 23 rfl rfl)
theorem dX11_keep_24 : decode cX11_keep 24 = .ok (.getfield 53, 3) := dk_180 0 53 (dk_at dksX11_keep_1 0 rfl rfl)
theorem dX11_keep_27 : decode cX11_keep 27 = .ok (.iload_n 1, 1) := dk_27 (dk_at dksX11_keep_1 3 rfl rfl)
theorem dX11_keep_28 : decode cX11_keep 28 = .ok (.sipush 580, 3) := dk_17 2 68 (dk_at dksX11_keep_1 4 rfl rfl)
theorem dX11_keep_31 : decode cX11_keep 31 = .ok (.iadd, 1) := dk_96 (dk_at dksX11_keep_1 7 rfl rfl)
theorem dX11_keep_32 : decode cX11_keep 32 = .ok (.iaload, 1) := dk_46 (dk_at dksX11_keep_1 8 rfl rfl)
theorem dX11_keep_33 : decode cX11_keep 33 = .ok (.iastore, 1) := dk_79 (dk_at dksX11_keep_1 9 rfl rfl)
theorem dX11_keep_34 : decode cX11_keep 34 = .ok (.iinc 1 1, 3) := dk_132 1 1 (dk_at dksX11_keep_1 10 rfl rfl)
theorem dX11_keep_37 : decode cX11_keep 37 = .ok (.goto (-26), 3) := dk_167 255 230 (dk_at dksX11_keep_1 13 rfl rfl)
theorem dX11_keep_40 : decode cX11_keep 40 = .ok (.aload_n 0, 1) := dk_42 (dk_at dksX11_keep_1 16 rfl rfl)
theorem dX11_keep_41 : decode cX11_keep 41 = .ok (.bipush 7, 2) := dk_16 7 (dk_at dksX11_keep_1 17 rfl rfl)
theorem dX11_keep_43 : decode cX11_keep 43 = .ok (.putfield 246, 3) := dk_181 0 246 (dk_at dksX11_keep_1 19 rfl rfl)
theorem dX11_keep_46 : decode cX11_keep 46 = .ok (.iconst 0, 1) := dk_3 (dk_at dksX11_keep_1 22 rfl rfl)
theorem dX11_keep_47 : decode cX11_keep 47 = .ok (.istore_n 1, 1) := dk_60 (dk_at dksX11_keep_1 23 rfl rfl)
theorem dX11_keep_48 : decode cX11_keep 48 = .ok (.iload_n 1, 1) := dk_27 (dk_at dksX11_keep_2 0 rfl rfl)
theorem dX11_keep_49 : decode cX11_keep 49 = .ok (.sipush 580, 3) := dk_17 2 68 (dk_at dksX11_keep_2 1 rfl rfl)
theorem dX11_keep_52 : decode cX11_keep 52 = .ok (.if_icmp .ge 32, 3) := dk_162 0 32 (dk_at dksX11_keep_2 4 rfl rfl)
theorem dX11_keep_55 : decode cX11_keep 55 = .ok (.aload_n 0, 1) := dk_42 (dk_at dksX11_keep_2 7 rfl rfl)
theorem dX11_keep_56 : decode cX11_keep 56 = .ok (.getfield 53, 3) := dk_180 0 53 (dk_at dksX11_keep_2 8 rfl rfl)
theorem dX11_keep_59 : decode cX11_keep 59 = .ok (.sipush 580, 3) := dk_17 2 68 (dk_at dksX11_keep_2 11 rfl rfl)
theorem dX11_keep_62 : decode cX11_keep 62 = .ok (.aload_n 0, 1) := dk_42 (dk_at dksX11_keep_2 14 rfl rfl)
theorem dX11_keep_63 : decode cX11_keep 63 = .ok (.getfield 246, 3) := dk_180 0 246 (dk_at dksX11_keep_2 15 rfl rfl)
theorem dX11_keep_66 : decode cX11_keep 66 = .ok (.imul, 1) := dk_104 (dk_at dksX11_keep_2 18 rfl rfl)
theorem dX11_keep_67 : decode cX11_keep 67 = .ok (.iload_n 1, 1) := dk_27 (dk_at dksX11_keep_2 19 rfl rfl)
theorem dX11_keep_68 : decode cX11_keep 68 = .ok (.iadd, 1) := dk_96 (dk_at dksX11_keep_2 20 rfl rfl)
theorem dX11_keep_69 : decode cX11_keep 69 = .ok (.aload_n 0, 1) := dk_42 (dk_at dksX11_keep_2 21 rfl rfl)
theorem dX11_keep_70 : decode cX11_keep 70 = .ok (.getfield 33, 3) := dk_180 0 33 (dk_at dksX11_keep_3 0 rfl rfl)
theorem dX11_keep_73 : decode cX11_keep 73 = .ok (.iconst 4, 1) := dk_7 (dk_at dksX11_keep_3 3 rfl rfl)
theorem dX11_keep_74 : decode cX11_keep 74 = .ok (.iload_n 1, 1) := dk_27 (dk_at dksX11_keep_3 4 rfl rfl)
theorem dX11_keep_75 : decode cX11_keep 75 = .ok (.iadd, 1) := dk_96 (dk_at dksX11_keep_3 5 rfl rfl)
theorem dX11_keep_76 : decode cX11_keep 76 = .ok (.iaload, 1) := dk_46 (dk_at dksX11_keep_3 6 rfl rfl)
theorem dX11_keep_77 : decode cX11_keep 77 = .ok (.iastore, 1) := dk_79 (dk_at dksX11_keep_3 7 rfl rfl)
theorem dX11_keep_78 : decode cX11_keep 78 = .ok (.iinc 1 1, 3) := dk_132 1 1 (dk_at dksX11_keep_3 8 rfl rfl)
theorem dX11_keep_81 : decode cX11_keep 81 = .ok (.goto (-33), 3) := dk_167 255 223 (dk_at dksX11_keep_3 11 rfl rfl)
theorem dX11_keep_84 : decode cX11_keep 84 = .ok (.aload_n 0, 1) := dk_42 (dk_at dksX11_keep_3 14 rfl rfl)
theorem dX11_keep_85 : decode cX11_keep 85 = .ok (.dup, 1) := dk_89 (dk_at dksX11_keep_3 15 rfl rfl)
theorem dX11_keep_86 : decode cX11_keep 86 = .ok (.getfield 246, 3) := dk_180 0 246 (dk_at dksX11_keep_3 16 rfl rfl)
theorem dX11_keep_89 : decode cX11_keep 89 = .ok (.iconst 1, 1) := dk_4 (dk_at dksX11_keep_3 19 rfl rfl)
theorem dX11_keep_90 : decode cX11_keep 90 = .ok (.iadd, 1) := dk_96 (dk_at dksX11_keep_3 20 rfl rfl)
theorem dX11_keep_91 : decode cX11_keep 91 = .ok (.putfield 246, 3) := dk_181 0 246 (dk_at dksX11_keep_3 21 rfl rfl)
theorem dX11_keep_94 : decode cX11_keep 94 = .ok (.return_, 1) := dk_177 (dk_at dksX11_keep_4 0 rfl rfl)
abbrev cX11_asks : ByteArray := prog_23_method_50_code
def yX11_asks : MethodName := ⟨RX11, "asks", "(IIIIZ)I"⟩
def dkwX11_asks_23 : List UInt8 := [42, 180, 0, 50, 16, 7, 21, 6, 79, 21, 9, 172]
abbrev dktX11_asks_23 : List UInt8 := dkwX11_asks_23 ++ []
def dkwX11_asks_22 : List UInt8 := [180, 0, 50, 7, 21, 10, 79, 42, 180, 0, 50, 8, 21, 11, 79, 42, 180, 0, 50, 16, 6, 21, 8, 79]
abbrev dktX11_asks_22 : List UInt8 := dkwX11_asks_22 ++ dktX11_asks_23
def dkwX11_asks_21 : List UInt8 := [180, 0, 50, 4, 28, 79, 42, 180, 0, 50, 5, 29, 79, 42, 180, 0, 50, 6, 21, 9, 79, 42]
abbrev dktX11_asks_21 : List UInt8 := dkwX11_asks_21 ++ dktX11_asks_22
def dkwX11_asks_20 : List UInt8 := [182, 1, 23, 21, 5, 154, 0, 6, 21, 9, 172, 42, 4, 181, 1, 54, 42, 180, 0, 50, 3, 27, 79, 42]
abbrev dktX11_asks_20 : List UInt8 := dkwX11_asks_20 ++ dktX11_asks_21
def dkwX11_asks_19 : List UInt8 := [42, 180, 0, 33, 4, 46, 160, 0, 13, 42, 180, 0, 33, 7, 2, 79, 167, 0, 9, 42, 21, 12]
abbrev dktX11_asks_19 : List UInt8 := dkwX11_asks_19 ++ dktX11_asks_20
def dkwX11_asks_18 : List UInt8 := [182, 1, 14, 42, 27, 21, 10, 182, 1, 17, 153, 0, 7, 21, 10, 54, 11, 42, 180, 0, 33, 16, 6, 46]
abbrev dktX11_asks_18 : List UInt8 := dkwX11_asks_18 ++ dktX11_asks_19
def dkwX11_asks_17 : List UInt8 := [17, 0, 151, 16, 13, 27, 104, 96, 29, 96, 92, 46, 4, 96, 79, 27, 54, 12, 167, 0, 9, 42, 27, 3]
abbrev dktX11_asks_17 : List UInt8 := dkwX11_asks_17 ++ dktX11_asks_18
def dkwX11_asks_16 : List UInt8 := [54, 10, 42, 180, 0, 33, 5, 46, 4, 160, 0, 34, 21, 10, 29, 160, 0, 28, 42, 180, 0, 33]
abbrev dktX11_asks_16 : List UInt8 := dkwX11_asks_16 ++ dktX11_asks_17
def dkwX11_asks_15 : List UInt8 := [42, 180, 0, 33, 16, 7, 46, 158, 0, 79, 42, 180, 0, 33, 16, 6, 3, 79, 42, 27, 182, 1, 11]
abbrev dktX11_asks_15 : List UInt8 := dkwX11_asks_15 ++ dktX11_asks_16
def dkwX11_asks_14 : List UInt8 := [46, 4, 100, 79, 167, 255, 213, 42, 28, 29, 182, 1, 51, 42, 180, 0, 33, 16, 6, 92, 46, 4, 96, 79]
abbrev dktX11_asks_14 : List UInt8 := dkwX11_asks_14 ++ dktX11_asks_15
def dkwX11_asks_13 : List UInt8 := [158, 0, 31, 42, 28, 3, 182, 1, 14, 42, 180, 0, 33, 17, 0, 151, 16, 13, 28, 104, 96, 29, 96, 92]
abbrev dktX11_asks_13 : List UInt8 := dkwX11_asks_13 ++ dktX11_asks_14
def dkwX11_asks_12 : List UInt8 := [28, 96, 92, 46, 4, 96, 79, 42, 180, 0, 33, 17, 0, 151, 16, 13, 28, 104, 96, 29, 96, 46]
abbrev dktX11_asks_12 : List UInt8 := dkwX11_asks_12 ++ dktX11_asks_13
def dkwX11_asks_11 : List UInt8 := [180, 0, 33, 17, 0, 151, 16, 13, 28, 104, 96, 29, 96, 46, 158, 0, 17, 42, 180, 0, 33, 17, 2, 35]
abbrev dktX11_asks_11 : List UInt8 := dkwX11_asks_11 ++ dktX11_asks_12
def dkwX11_asks_10 : List UInt8 := [16, 6, 3, 79, 27, 54, 12, 42, 27, 29, 182, 1, 17, 153, 0, 190, 29, 54, 11, 167, 0, 184, 42]
abbrev dktX11_asks_10 : List UInt8 := dkwX11_asks_10 ++ dktX11_asks_11
def dkwX11_asks_9 : List UInt8 := [21, 9, 96, 79, 42, 180, 0, 33, 17, 2, 47, 27, 96, 92, 46, 21, 9, 96, 79, 42, 180, 0, 33]
abbrev dktX11_asks_9 : List UInt8 := dkwX11_asks_9 ++ dktX11_asks_10
def dkwX11_asks_8 : List UInt8 := [27, 29, 21, 9, 182, 0, 255, 87, 42, 180, 0, 33, 17, 0, 151, 16, 13, 27, 104, 96, 29, 96, 92, 46]
abbrev dktX11_asks_8 : List UInt8 := dkwX11_asks_8 ++ dktX11_asks_9
def dkwX11_asks_7 : List UInt8 := [28, 104, 96, 29, 96, 3, 79, 42, 28, 29, 182, 1, 51, 42, 28, 29, 21, 9, 116, 182, 0, 255, 87, 42]
abbrev dktX11_asks_7 : List UInt8 := dkwX11_asks_7 ++ dktX11_asks_8
def dkwX11_asks_6 : List UInt8 := [162, 0, 15, 42, 28, 29, 182, 1, 3, 132, 13, 1, 167, 255, 240, 42, 180, 0, 33, 17, 0, 151, 16, 13]
abbrev dktX11_asks_6 : List UInt8 := dkwX11_asks_6 ++ dktX11_asks_7
def dkwX11_asks_5 : List UInt8 := [158, 0, 141, 42, 180, 0, 33, 17, 0, 151, 16, 13, 28, 104, 96, 29, 96, 46, 54, 13, 21, 13, 21, 9]
abbrev dktX11_asks_5 : List UInt8 := dkwX11_asks_5 ++ dktX11_asks_6
def dkwX11_asks_4 : List UInt8 := [17, 0, 151, 16, 13, 27, 104, 96, 29, 96, 46, 154, 0, 9, 42, 27, 29, 182, 1, 3, 21, 9]
abbrev dktX11_asks_4 : List UInt8 := dkwX11_asks_4 ++ dktX11_asks_5
def dkwX11_asks_3 : List UInt8 := [8, 92, 46, 4, 96, 79, 42, 180, 0, 33, 17, 2, 41, 27, 96, 92, 46, 4, 96, 79, 42, 180, 0, 33]
abbrev dktX11_asks_3 : List UInt8 := dkwX11_asks_3 ++ dktX11_asks_4
def dkwX11_asks_2 : List UInt8 := [54, 9, 2, 54, 10, 2, 54, 11, 27, 4, 96, 42, 180, 0, 33, 4, 46, 112, 54, 12, 42, 180, 0, 33]
abbrev dktX11_asks_2 : List UInt8 := dkwX11_asks_2 ++ dktX11_asks_3
def dkwX11_asks_1 : List UInt8 := [4, 160, 0, 7, 4, 167, 0, 4, 3, 54, 8, 21, 8, 4, 160, 0, 7, 3, 167, 0, 5, 21, 7]
abbrev dktX11_asks_1 : List UInt8 := dkwX11_asks_1 ++ dktX11_asks_2
def dkwX11_asks_0 : List UInt8 := [42, 28, 29, 182, 1, 48, 54, 6, 42, 28, 29, 3, 182, 0, 255, 54, 7, 21, 7, 158, 0, 13, 21, 4]
abbrev dktX11_asks_0 : List UInt8 := dkwX11_asks_0 ++ dktX11_asks_1
theorem dksX11_asks_0 : cX11_asks.data.toList.drop 0 = dktX11_asks_0 := by decide +kernel
theorem dksX11_asks_1 : cX11_asks.data.toList.drop 24 = dktX11_asks_1 := dk_seg dksX11_asks_0 24 rfl rfl
theorem dksX11_asks_2 : cX11_asks.data.toList.drop 47 = dktX11_asks_2 := dk_seg dksX11_asks_1 23 rfl rfl
theorem dksX11_asks_3 : cX11_asks.data.toList.drop 71 = dktX11_asks_3 := dk_seg dksX11_asks_2 24 rfl rfl
theorem dksX11_asks_4 : cX11_asks.data.toList.drop 95 = dktX11_asks_4 := dk_seg dksX11_asks_3 24 rfl rfl
theorem dksX11_asks_5 : cX11_asks.data.toList.drop 117 = dktX11_asks_5 := dk_seg dksX11_asks_4 22 rfl rfl
theorem dksX11_asks_6 : cX11_asks.data.toList.drop 141 = dktX11_asks_6 := dk_seg dksX11_asks_5 24 rfl rfl
theorem dksX11_asks_7 : cX11_asks.data.toList.drop 165 = dktX11_asks_7 := dk_seg dksX11_asks_6 24 rfl rfl
theorem dksX11_asks_8 : cX11_asks.data.toList.drop 189 = dktX11_asks_8 := dk_seg dksX11_asks_7 24 rfl rfl
theorem dksX11_asks_9 : cX11_asks.data.toList.drop 213 = dktX11_asks_9 := dk_seg dksX11_asks_8 24 rfl rfl
theorem dksX11_asks_10 : cX11_asks.data.toList.drop 236 = dktX11_asks_10 := dk_seg dksX11_asks_9 23 rfl rfl
theorem dksX11_asks_11 : cX11_asks.data.toList.drop 259 = dktX11_asks_11 := dk_seg dksX11_asks_10 23 rfl rfl
theorem dksX11_asks_12 : cX11_asks.data.toList.drop 283 = dktX11_asks_12 := dk_seg dksX11_asks_11 24 rfl rfl
theorem dksX11_asks_13 : cX11_asks.data.toList.drop 305 = dktX11_asks_13 := dk_seg dksX11_asks_12 22 rfl rfl
theorem dksX11_asks_14 : cX11_asks.data.toList.drop 329 = dktX11_asks_14 := dk_seg dksX11_asks_13 24 rfl rfl
theorem dksX11_asks_15 : cX11_asks.data.toList.drop 353 = dktX11_asks_15 := dk_seg dksX11_asks_14 24 rfl rfl
theorem dksX11_asks_16 : cX11_asks.data.toList.drop 376 = dktX11_asks_16 := dk_seg dksX11_asks_15 23 rfl rfl
theorem dksX11_asks_17 : cX11_asks.data.toList.drop 398 = dktX11_asks_17 := dk_seg dksX11_asks_16 22 rfl rfl
theorem dksX11_asks_18 : cX11_asks.data.toList.drop 422 = dktX11_asks_18 := dk_seg dksX11_asks_17 24 rfl rfl
theorem dksX11_asks_19 : cX11_asks.data.toList.drop 446 = dktX11_asks_19 := dk_seg dksX11_asks_18 24 rfl rfl
theorem dksX11_asks_20 : cX11_asks.data.toList.drop 468 = dktX11_asks_20 := dk_seg dksX11_asks_19 22 rfl rfl
theorem dksX11_asks_21 : cX11_asks.data.toList.drop 492 = dktX11_asks_21 := dk_seg dksX11_asks_20 24 rfl rfl
theorem dksX11_asks_22 : cX11_asks.data.toList.drop 514 = dktX11_asks_22 := dk_seg dksX11_asks_21 22 rfl rfl
theorem dksX11_asks_23 : cX11_asks.data.toList.drop 538 = dktX11_asks_23 := dk_seg dksX11_asks_22 24 rfl rfl
theorem dX11_asks_0 : decode cX11_asks 0 = .ok (.aload_n 0, 1) := dk_42 (dk_at dksX11_asks_0 0 rfl rfl)
theorem dX11_asks_1 : decode cX11_asks 1 = .ok (.iload_n 2, 1) := dk_28 (dk_at dksX11_asks_0 1 rfl rfl)
theorem dX11_asks_2 : decode cX11_asks 2 = .ok (.iload_n 3, 1) := dk_29 (dk_at dksX11_asks_0 2 rfl rfl)
theorem dX11_asks_3 : decode cX11_asks 3 = .ok (.invokevirtual 304, 3) := dk_182 1 48 (dk_at dksX11_asks_0 3 rfl rfl)
theorem dX11_asks_6 : decode cX11_asks 6 = .ok (.istore 6, 2) := dk_54 6 (dk_at dksX11_asks_0 6 rfl rfl)
theorem dX11_asks_8 : decode cX11_asks 8 = .ok (.aload_n 0, 1) := dk_42 (dk_at dksX11_asks_0 8 rfl rfl)
theorem dX11_asks_9 : decode cX11_asks 9 = .ok (.iload_n 2, 1) := dk_28 (dk_at dksX11_asks_0 9 rfl rfl)
theorem dX11_asks_10 : decode cX11_asks 10 = .ok (.iload_n 3, 1) := dk_29 (dk_at dksX11_asks_0 10 rfl rfl)
theorem dX11_asks_11 : decode cX11_asks 11 = .ok (.iconst 0, 1) := dk_3 (dk_at dksX11_asks_0 11 rfl rfl)
theorem dX11_asks_12 : decode cX11_asks 12 = .ok (.invokevirtual 255, 3) := dk_182 0 255 (dk_at dksX11_asks_0 12 rfl rfl)
theorem dX11_asks_15 : decode cX11_asks 15 = .ok (.istore 7, 2) := dk_54 7 (dk_at dksX11_asks_0 15 rfl rfl)
theorem dX11_asks_17 : decode cX11_asks 17 = .ok (.iload 7, 2) := dk_21 7 (dk_at dksX11_asks_0 17 rfl rfl)
theorem dX11_asks_19 : decode cX11_asks 19 = .ok (.ifCond .le 13, 3) := dk_158 0 13 (dk_at dksX11_asks_0 19 rfl rfl)
theorem dX11_asks_22 : decode cX11_asks 22 = .ok (.iload 4, 2) := dk_21 4 (dk_at dksX11_asks_0 22 rfl rfl)
theorem dX11_asks_24 : decode cX11_asks 24 = .ok (.iconst 1, 1) := dk_4 (dk_at dksX11_asks_1 0 rfl rfl)
theorem dX11_asks_25 : decode cX11_asks 25 = .ok (.if_icmp .ne 7, 3) := dk_160 0 7 (dk_at dksX11_asks_1 1 rfl rfl)
theorem dX11_asks_28 : decode cX11_asks 28 = .ok (.iconst 1, 1) := dk_4 (dk_at dksX11_asks_1 4 rfl rfl)
theorem dX11_asks_29 : decode cX11_asks 29 = .ok (.goto 4, 3) := dk_167 0 4 (dk_at dksX11_asks_1 5 rfl rfl)
theorem dX11_asks_32 : decode cX11_asks 32 = .ok (.iconst 0, 1) := dk_3 (dk_at dksX11_asks_1 8 rfl rfl)
theorem dX11_asks_33 : decode cX11_asks 33 = .ok (.istore 8, 2) := dk_54 8 (dk_at dksX11_asks_1 9 rfl rfl)
theorem dX11_asks_35 : decode cX11_asks 35 = .ok (.iload 8, 2) := dk_21 8 (dk_at dksX11_asks_1 11 rfl rfl)
theorem dX11_asks_37 : decode cX11_asks 37 = .ok (.iconst 1, 1) := dk_4 (dk_at dksX11_asks_1 13 rfl rfl)
theorem dX11_asks_38 : decode cX11_asks 38 = .ok (.if_icmp .ne 7, 3) := dk_160 0 7 (dk_at dksX11_asks_1 14 rfl rfl)
theorem dX11_asks_41 : decode cX11_asks 41 = .ok (.iconst 0, 1) := dk_3 (dk_at dksX11_asks_1 17 rfl rfl)
theorem dX11_asks_42 : decode cX11_asks 42 = .ok (.goto 5, 3) := dk_167 0 5 (dk_at dksX11_asks_1 18 rfl rfl)
theorem dX11_asks_45 : decode cX11_asks 45 = .ok (.iload 7, 2) := dk_21 7 (dk_at dksX11_asks_1 21 rfl rfl)
theorem dX11_asks_47 : decode cX11_asks 47 = .ok (.istore 9, 2) := dk_54 9 (dk_at dksX11_asks_2 0 rfl rfl)
theorem dX11_asks_49 : decode cX11_asks 49 = .ok (.iconst (-1), 1) := dk_2 (dk_at dksX11_asks_2 2 rfl rfl)
theorem dX11_asks_50 : decode cX11_asks 50 = .ok (.istore 10, 2) := dk_54 10 (dk_at dksX11_asks_2 3 rfl rfl)
theorem dX11_asks_52 : decode cX11_asks 52 = .ok (.iconst (-1), 1) := dk_2 (dk_at dksX11_asks_2 5 rfl rfl)
theorem dX11_asks_53 : decode cX11_asks 53 = .ok (.istore 11, 2) := dk_54 11 (dk_at dksX11_asks_2 6 rfl rfl)
theorem dX11_asks_55 : decode cX11_asks 55 = .ok (.iload_n 1, 1) := dk_27 (dk_at dksX11_asks_2 8 rfl rfl)
theorem dX11_asks_56 : decode cX11_asks 56 = .ok (.iconst 1, 1) := dk_4 (dk_at dksX11_asks_2 9 rfl rfl)
theorem dX11_asks_57 : decode cX11_asks 57 = .ok (.iadd, 1) := dk_96 (dk_at dksX11_asks_2 10 rfl rfl)
theorem dX11_asks_58 : decode cX11_asks 58 = .ok (.aload_n 0, 1) := dk_42 (dk_at dksX11_asks_2 11 rfl rfl)
theorem dX11_asks_59 : decode cX11_asks 59 = .ok (.getfield 33, 3) := dk_180 0 33 (dk_at dksX11_asks_2 12 rfl rfl)
theorem dX11_asks_62 : decode cX11_asks 62 = .ok (.iconst 1, 1) := dk_4 (dk_at dksX11_asks_2 15 rfl rfl)
theorem dX11_asks_63 : decode cX11_asks 63 = .ok (.iaload, 1) := dk_46 (dk_at dksX11_asks_2 16 rfl rfl)
theorem dX11_asks_64 : decode cX11_asks 64 = .ok (.irem, 1) := dk_112 (dk_at dksX11_asks_2 17 rfl rfl)
theorem dX11_asks_65 : decode cX11_asks 65 = .ok (.istore 12, 2) := dk_54 12 (dk_at dksX11_asks_2 18 rfl rfl)
theorem dX11_asks_67 : decode cX11_asks 67 = .ok (.aload_n 0, 1) := dk_42 (dk_at dksX11_asks_2 20 rfl rfl)
theorem dX11_asks_68 : decode cX11_asks 68 = .ok (.getfield 33, 3) := dk_180 0 33 (dk_at dksX11_asks_2 21 rfl rfl)
theorem dX11_asks_71 : decode cX11_asks 71 = .ok (.iconst 5, 1) := dk_8 (dk_at dksX11_asks_3 0 rfl rfl)
theorem dX11_asks_72 : decode cX11_asks 72 = .ok (.dup2, 1) := dk_92 (dk_at dksX11_asks_3 1 rfl rfl)
theorem dX11_asks_73 : decode cX11_asks 73 = .ok (.iaload, 1) := dk_46 (dk_at dksX11_asks_3 2 rfl rfl)
theorem dX11_asks_74 : decode cX11_asks 74 = .ok (.iconst 1, 1) := dk_4 (dk_at dksX11_asks_3 3 rfl rfl)
theorem dX11_asks_75 : decode cX11_asks 75 = .ok (.iadd, 1) := dk_96 (dk_at dksX11_asks_3 4 rfl rfl)
theorem dX11_asks_76 : decode cX11_asks 76 = .ok (.iastore, 1) := dk_79 (dk_at dksX11_asks_3 5 rfl rfl)
theorem dX11_asks_77 : decode cX11_asks 77 = .ok (.aload_n 0, 1) := dk_42 (dk_at dksX11_asks_3 6 rfl rfl)
theorem dX11_asks_78 : decode cX11_asks 78 = .ok (.getfield 33, 3) := dk_180 0 33 (dk_at dksX11_asks_3 7 rfl rfl)
theorem dX11_asks_81 : decode cX11_asks 81 = .ok (.sipush 553, 3) := dk_17 2 41 (dk_at dksX11_asks_3 10 rfl rfl)
theorem dX11_asks_84 : decode cX11_asks 84 = .ok (.iload_n 1, 1) := dk_27 (dk_at dksX11_asks_3 13 rfl rfl)
theorem dX11_asks_85 : decode cX11_asks 85 = .ok (.iadd, 1) := dk_96 (dk_at dksX11_asks_3 14 rfl rfl)
theorem dX11_asks_86 : decode cX11_asks 86 = .ok (.dup2, 1) := dk_92 (dk_at dksX11_asks_3 15 rfl rfl)
theorem dX11_asks_87 : decode cX11_asks 87 = .ok (.iaload, 1) := dk_46 (dk_at dksX11_asks_3 16 rfl rfl)
theorem dX11_asks_88 : decode cX11_asks 88 = .ok (.iconst 1, 1) := dk_4 (dk_at dksX11_asks_3 17 rfl rfl)
theorem dX11_asks_89 : decode cX11_asks 89 = .ok (.iadd, 1) := dk_96 (dk_at dksX11_asks_3 18 rfl rfl)
theorem dX11_asks_90 : decode cX11_asks 90 = .ok (.iastore, 1) := dk_79 (dk_at dksX11_asks_3 19 rfl rfl)
theorem dX11_asks_91 : decode cX11_asks 91 = .ok (.aload_n 0, 1) := dk_42 (dk_at dksX11_asks_3 20 rfl rfl)
theorem dX11_asks_92 : decode cX11_asks 92 = .ok (.getfield 33, 3) := dk_180 0 33 (dk_at dksX11_asks_3 21 rfl rfl)
theorem dX11_asks_95 : decode cX11_asks 95 = .ok (.sipush 151, 3) := dk_17 0 151 (dk_at dksX11_asks_4 0 rfl rfl)
theorem dX11_asks_98 : decode cX11_asks 98 = .ok (.bipush 13, 2) := dk_16 13 (dk_at dksX11_asks_4 3 rfl rfl)
theorem dX11_asks_100 : decode cX11_asks 100 = .ok (.iload_n 1, 1) := dk_27 (dk_at dksX11_asks_4 5 rfl rfl)
theorem dX11_asks_101 : decode cX11_asks 101 = .ok (.imul, 1) := dk_104 (dk_at dksX11_asks_4 6 rfl rfl)
theorem dX11_asks_102 : decode cX11_asks 102 = .ok (.iadd, 1) := dk_96 (dk_at dksX11_asks_4 7 rfl rfl)
theorem dX11_asks_103 : decode cX11_asks 103 = .ok (.iload_n 3, 1) := dk_29 (dk_at dksX11_asks_4 8 rfl rfl)
theorem dX11_asks_104 : decode cX11_asks 104 = .ok (.iadd, 1) := dk_96 (dk_at dksX11_asks_4 9 rfl rfl)
theorem dX11_asks_105 : decode cX11_asks 105 = .ok (.iaload, 1) := dk_46 (dk_at dksX11_asks_4 10 rfl rfl)
theorem dX11_asks_106 : decode cX11_asks 106 = .ok (.ifCond .ne 9, 3) := dk_154 0 9 (dk_at dksX11_asks_4 11 rfl rfl)
theorem dX11_asks_109 : decode cX11_asks 109 = .ok (.aload_n 0, 1) := dk_42 (dk_at dksX11_asks_4 14 rfl rfl)
theorem dX11_asks_110 : decode cX11_asks 110 = .ok (.iload_n 1, 1) := dk_27 (dk_at dksX11_asks_4 15 rfl rfl)
theorem dX11_asks_111 : decode cX11_asks 111 = .ok (.iload_n 3, 1) := dk_29 (dk_at dksX11_asks_4 16 rfl rfl)
theorem dX11_asks_112 : decode cX11_asks 112 = .ok (.invokevirtual 259, 3) := dk_182 1 3 (dk_at dksX11_asks_4 17 rfl rfl)
theorem dX11_asks_115 : decode cX11_asks 115 = .ok (.iload 9, 2) := dk_21 9 (dk_at dksX11_asks_4 20 rfl rfl)
theorem dX11_asks_117 : decode cX11_asks 117 = .ok (.ifCond .le 141, 3) := dk_158 0 141 (dk_at dksX11_asks_5 0 rfl rfl)
theorem dX11_asks_120 : decode cX11_asks 120 = .ok (.aload_n 0, 1) := dk_42 (dk_at dksX11_asks_5 3 rfl rfl)
theorem dX11_asks_121 : decode cX11_asks 121 = .ok (.getfield 33, 3) := dk_180 0 33 (dk_at dksX11_asks_5 4 rfl rfl)
theorem dX11_asks_124 : decode cX11_asks 124 = .ok (.sipush 151, 3) := dk_17 0 151 (dk_at dksX11_asks_5 7 rfl rfl)
theorem dX11_asks_127 : decode cX11_asks 127 = .ok (.bipush 13, 2) := dk_16 13 (dk_at dksX11_asks_5 10 rfl rfl)
theorem dX11_asks_129 : decode cX11_asks 129 = .ok (.iload_n 2, 1) := dk_28 (dk_at dksX11_asks_5 12 rfl rfl)
theorem dX11_asks_130 : decode cX11_asks 130 = .ok (.imul, 1) := dk_104 (dk_at dksX11_asks_5 13 rfl rfl)
theorem dX11_asks_131 : decode cX11_asks 131 = .ok (.iadd, 1) := dk_96 (dk_at dksX11_asks_5 14 rfl rfl)
theorem dX11_asks_132 : decode cX11_asks 132 = .ok (.iload_n 3, 1) := dk_29 (dk_at dksX11_asks_5 15 rfl rfl)
theorem dX11_asks_133 : decode cX11_asks 133 = .ok (.iadd, 1) := dk_96 (dk_at dksX11_asks_5 16 rfl rfl)
theorem dX11_asks_134 : decode cX11_asks 134 = .ok (.iaload, 1) := dk_46 (dk_at dksX11_asks_5 17 rfl rfl)
theorem dX11_asks_135 : decode cX11_asks 135 = .ok (.istore 13, 2) := dk_54 13 (dk_at dksX11_asks_5 18 rfl rfl)
theorem dX11_asks_137 : decode cX11_asks 137 = .ok (.iload 13, 2) := dk_21 13 (dk_at dksX11_asks_5 20 rfl rfl)
theorem dX11_asks_139 : decode cX11_asks 139 = .ok (.iload 9, 2) := dk_21 9 (dk_at dksX11_asks_5 22 rfl rfl)
theorem dX11_asks_141 : decode cX11_asks 141 = .ok (.if_icmp .ge 15, 3) := dk_162 0 15 (dk_at dksX11_asks_6 0 rfl rfl)
theorem dX11_asks_144 : decode cX11_asks 144 = .ok (.aload_n 0, 1) := dk_42 (dk_at dksX11_asks_6 3 rfl rfl)
theorem dX11_asks_145 : decode cX11_asks 145 = .ok (.iload_n 2, 1) := dk_28 (dk_at dksX11_asks_6 4 rfl rfl)
theorem dX11_asks_146 : decode cX11_asks 146 = .ok (.iload_n 3, 1) := dk_29 (dk_at dksX11_asks_6 5 rfl rfl)
theorem dX11_asks_147 : decode cX11_asks 147 = .ok (.invokevirtual 259, 3) := dk_182 1 3 (dk_at dksX11_asks_6 6 rfl rfl)
theorem dX11_asks_150 : decode cX11_asks 150 = .ok (.iinc 13 1, 3) := dk_132 13 1 (dk_at dksX11_asks_6 9 rfl rfl)
theorem dX11_asks_153 : decode cX11_asks 153 = .ok (.goto (-16), 3) := dk_167 255 240 (dk_at dksX11_asks_6 12 rfl rfl)
theorem dX11_asks_156 : decode cX11_asks 156 = .ok (.aload_n 0, 1) := dk_42 (dk_at dksX11_asks_6 15 rfl rfl)
theorem dX11_asks_157 : decode cX11_asks 157 = .ok (.getfield 33, 3) := dk_180 0 33 (dk_at dksX11_asks_6 16 rfl rfl)
theorem dX11_asks_160 : decode cX11_asks 160 = .ok (.sipush 151, 3) := dk_17 0 151 (dk_at dksX11_asks_6 19 rfl rfl)
theorem dX11_asks_163 : decode cX11_asks 163 = .ok (.bipush 13, 2) := dk_16 13 (dk_at dksX11_asks_6 22 rfl rfl)
theorem dX11_asks_165 : decode cX11_asks 165 = .ok (.iload_n 2, 1) := dk_28 (dk_at dksX11_asks_7 0 rfl rfl)
theorem dX11_asks_166 : decode cX11_asks 166 = .ok (.imul, 1) := dk_104 (dk_at dksX11_asks_7 1 rfl rfl)
theorem dX11_asks_167 : decode cX11_asks 167 = .ok (.iadd, 1) := dk_96 (dk_at dksX11_asks_7 2 rfl rfl)
theorem dX11_asks_168 : decode cX11_asks 168 = .ok (.iload_n 3, 1) := dk_29 (dk_at dksX11_asks_7 3 rfl rfl)
theorem dX11_asks_169 : decode cX11_asks 169 = .ok (.iadd, 1) := dk_96 (dk_at dksX11_asks_7 4 rfl rfl)
theorem dX11_asks_170 : decode cX11_asks 170 = .ok (.iconst 0, 1) := dk_3 (dk_at dksX11_asks_7 5 rfl rfl)
theorem dX11_asks_171 : decode cX11_asks 171 = .ok (.iastore, 1) := dk_79 (dk_at dksX11_asks_7 6 rfl rfl)
theorem dX11_asks_172 : decode cX11_asks 172 = .ok (.aload_n 0, 1) := dk_42 (dk_at dksX11_asks_7 7 rfl rfl)
theorem dX11_asks_173 : decode cX11_asks 173 = .ok (.iload_n 2, 1) := dk_28 (dk_at dksX11_asks_7 8 rfl rfl)
theorem dX11_asks_174 : decode cX11_asks 174 = .ok (.iload_n 3, 1) := dk_29 (dk_at dksX11_asks_7 9 rfl rfl)
theorem dX11_asks_175 : decode cX11_asks 175 = .ok (.invokevirtual 307, 3) := dk_182 1 51 (dk_at dksX11_asks_7 10 rfl rfl)
theorem dX11_asks_178 : decode cX11_asks 178 = .ok (.aload_n 0, 1) := dk_42 (dk_at dksX11_asks_7 13 rfl rfl)
theorem dX11_asks_179 : decode cX11_asks 179 = .ok (.iload_n 2, 1) := dk_28 (dk_at dksX11_asks_7 14 rfl rfl)
theorem dX11_asks_180 : decode cX11_asks 180 = .ok (.iload_n 3, 1) := dk_29 (dk_at dksX11_asks_7 15 rfl rfl)
theorem dX11_asks_181 : decode cX11_asks 181 = .ok (.iload 9, 2) := dk_21 9 (dk_at dksX11_asks_7 16 rfl rfl)
theorem dX11_asks_183 : decode cX11_asks 183 = .ok (.ineg, 1) := dk_116 (dk_at dksX11_asks_7 18 rfl rfl)
theorem dX11_asks_184 : decode cX11_asks 184 = .ok (.invokevirtual 255, 3) := dk_182 0 255 (dk_at dksX11_asks_7 19 rfl rfl)
theorem dX11_asks_187 : decode cX11_asks 187 = .ok (.pop, 1) := dk_87 (dk_at dksX11_asks_7 22 rfl rfl)
theorem dX11_asks_188 : decode cX11_asks 188 = .ok (.aload_n 0, 1) := dk_42 (dk_at dksX11_asks_7 23 rfl rfl)
theorem dX11_asks_189 : decode cX11_asks 189 = .ok (.iload_n 1, 1) := dk_27 (dk_at dksX11_asks_8 0 rfl rfl)
theorem dX11_asks_190 : decode cX11_asks 190 = .ok (.iload_n 3, 1) := dk_29 (dk_at dksX11_asks_8 1 rfl rfl)
theorem dX11_asks_191 : decode cX11_asks 191 = .ok (.iload 9, 2) := dk_21 9 (dk_at dksX11_asks_8 2 rfl rfl)
theorem dX11_asks_193 : decode cX11_asks 193 = .ok (.invokevirtual 255, 3) := dk_182 0 255 (dk_at dksX11_asks_8 4 rfl rfl)
theorem dX11_asks_196 : decode cX11_asks 196 = .ok (.pop, 1) := dk_87 (dk_at dksX11_asks_8 7 rfl rfl)
theorem dX11_asks_197 : decode cX11_asks 197 = .ok (.aload_n 0, 1) := dk_42 (dk_at dksX11_asks_8 8 rfl rfl)
theorem dX11_asks_198 : decode cX11_asks 198 = .ok (.getfield 33, 3) := dk_180 0 33 (dk_at dksX11_asks_8 9 rfl rfl)
theorem dX11_asks_201 : decode cX11_asks 201 = .ok (.sipush 151, 3) := dk_17 0 151 (dk_at dksX11_asks_8 12 rfl rfl)
theorem dX11_asks_204 : decode cX11_asks 204 = .ok (.bipush 13, 2) := dk_16 13 (dk_at dksX11_asks_8 15 rfl rfl)
theorem dX11_asks_206 : decode cX11_asks 206 = .ok (.iload_n 1, 1) := dk_27 (dk_at dksX11_asks_8 17 rfl rfl)
theorem dX11_asks_207 : decode cX11_asks 207 = .ok (.imul, 1) := dk_104 (dk_at dksX11_asks_8 18 rfl rfl)
theorem dX11_asks_208 : decode cX11_asks 208 = .ok (.iadd, 1) := dk_96 (dk_at dksX11_asks_8 19 rfl rfl)
theorem dX11_asks_209 : decode cX11_asks 209 = .ok (.iload_n 3, 1) := dk_29 (dk_at dksX11_asks_8 20 rfl rfl)
theorem dX11_asks_210 : decode cX11_asks 210 = .ok (.iadd, 1) := dk_96 (dk_at dksX11_asks_8 21 rfl rfl)
theorem dX11_asks_211 : decode cX11_asks 211 = .ok (.dup2, 1) := dk_92 (dk_at dksX11_asks_8 22 rfl rfl)
theorem dX11_asks_212 : decode cX11_asks 212 = .ok (.iaload, 1) := dk_46 (dk_at dksX11_asks_8 23 rfl rfl)
theorem dX11_asks_213 : decode cX11_asks 213 = .ok (.iload 9, 2) := dk_21 9 (dk_at dksX11_asks_9 0 rfl rfl)
theorem dX11_asks_215 : decode cX11_asks 215 = .ok (.iadd, 1) := dk_96 (dk_at dksX11_asks_9 2 rfl rfl)
theorem dX11_asks_216 : decode cX11_asks 216 = .ok (.iastore, 1) := dk_79 (dk_at dksX11_asks_9 3 rfl rfl)
theorem dX11_asks_217 : decode cX11_asks 217 = .ok (.aload_n 0, 1) := dk_42 (dk_at dksX11_asks_9 4 rfl rfl)
theorem dX11_asks_218 : decode cX11_asks 218 = .ok (.getfield 33, 3) := dk_180 0 33 (dk_at dksX11_asks_9 5 rfl rfl)
theorem dX11_asks_221 : decode cX11_asks 221 = .ok (.sipush 559, 3) := dk_17 2 47 (dk_at dksX11_asks_9 8 rfl rfl)
theorem dX11_asks_224 : decode cX11_asks 224 = .ok (.iload_n 1, 1) := dk_27 (dk_at dksX11_asks_9 11 rfl rfl)
theorem dX11_asks_225 : decode cX11_asks 225 = .ok (.iadd, 1) := dk_96 (dk_at dksX11_asks_9 12 rfl rfl)
theorem dX11_asks_226 : decode cX11_asks 226 = .ok (.dup2, 1) := dk_92 (dk_at dksX11_asks_9 13 rfl rfl)
theorem dX11_asks_227 : decode cX11_asks 227 = .ok (.iaload, 1) := dk_46 (dk_at dksX11_asks_9 14 rfl rfl)
theorem dX11_asks_228 : decode cX11_asks 228 = .ok (.iload 9, 2) := dk_21 9 (dk_at dksX11_asks_9 15 rfl rfl)
theorem dX11_asks_230 : decode cX11_asks 230 = .ok (.iadd, 1) := dk_96 (dk_at dksX11_asks_9 17 rfl rfl)
theorem dX11_asks_231 : decode cX11_asks 231 = .ok (.iastore, 1) := dk_79 (dk_at dksX11_asks_9 18 rfl rfl)
theorem dX11_asks_232 : decode cX11_asks 232 = .ok (.aload_n 0, 1) := dk_42 (dk_at dksX11_asks_9 19 rfl rfl)
theorem dX11_asks_233 : decode cX11_asks 233 = .ok (.getfield 33, 3) := dk_180 0 33 (dk_at dksX11_asks_9 20 rfl rfl)
theorem dX11_asks_236 : decode cX11_asks 236 = .ok (.bipush 6, 2) := dk_16 6 (dk_at dksX11_asks_10 0 rfl rfl)
theorem dX11_asks_238 : decode cX11_asks 238 = .ok (.iconst 0, 1) := dk_3 (dk_at dksX11_asks_10 2 rfl rfl)
theorem dX11_asks_239 : decode cX11_asks 239 = .ok (.iastore, 1) := dk_79 (dk_at dksX11_asks_10 3 rfl rfl)
theorem dX11_asks_240 : decode cX11_asks 240 = .ok (.iload_n 1, 1) := dk_27 (dk_at dksX11_asks_10 4 rfl rfl)
theorem dX11_asks_241 : decode cX11_asks 241 = .ok (.istore 12, 2) := dk_54 12 (dk_at dksX11_asks_10 5 rfl rfl)
theorem dX11_asks_243 : decode cX11_asks 243 = .ok (.aload_n 0, 1) := dk_42 (dk_at dksX11_asks_10 7 rfl rfl)
theorem dX11_asks_244 : decode cX11_asks 244 = .ok (.iload_n 1, 1) := dk_27 (dk_at dksX11_asks_10 8 rfl rfl)
theorem dX11_asks_245 : decode cX11_asks 245 = .ok (.iload_n 3, 1) := dk_29 (dk_at dksX11_asks_10 9 rfl rfl)
theorem dX11_asks_246 : decode cX11_asks 246 = .ok (.invokevirtual 273, 3) := dk_182 1 17 (dk_at dksX11_asks_10 10 rfl rfl)
theorem dX11_asks_249 : decode cX11_asks 249 = .ok (.ifCond .eq 190, 3) := dk_153 0 190 (dk_at dksX11_asks_10 13 rfl rfl)
theorem dX11_asks_252 : decode cX11_asks 252 = .ok (.iload_n 3, 1) := dk_29 (dk_at dksX11_asks_10 16 rfl rfl)
theorem dX11_asks_253 : decode cX11_asks 253 = .ok (.istore 11, 2) := dk_54 11 (dk_at dksX11_asks_10 17 rfl rfl)
theorem dX11_asks_255 : decode cX11_asks 255 = .ok (.goto 184, 3) := dk_167 0 184 (dk_at dksX11_asks_10 19 rfl rfl)
theorem dX11_asks_258 : decode cX11_asks 258 = .ok (.aload_n 0, 1) := dk_42 (dk_at dksX11_asks_10 22 rfl rfl)
theorem dX11_asks_259 : decode cX11_asks 259 = .ok (.getfield 33, 3) := dk_180 0 33 (dk_at dksX11_asks_11 0 rfl rfl)
theorem dX11_asks_262 : decode cX11_asks 262 = .ok (.sipush 151, 3) := dk_17 0 151 (dk_at dksX11_asks_11 3 rfl rfl)
theorem dX11_asks_265 : decode cX11_asks 265 = .ok (.bipush 13, 2) := dk_16 13 (dk_at dksX11_asks_11 6 rfl rfl)
theorem dX11_asks_267 : decode cX11_asks 267 = .ok (.iload_n 2, 1) := dk_28 (dk_at dksX11_asks_11 8 rfl rfl)
theorem dX11_asks_268 : decode cX11_asks 268 = .ok (.imul, 1) := dk_104 (dk_at dksX11_asks_11 9 rfl rfl)
theorem dX11_asks_269 : decode cX11_asks 269 = .ok (.iadd, 1) := dk_96 (dk_at dksX11_asks_11 10 rfl rfl)
theorem dX11_asks_270 : decode cX11_asks 270 = .ok (.iload_n 3, 1) := dk_29 (dk_at dksX11_asks_11 11 rfl rfl)
theorem dX11_asks_271 : decode cX11_asks 271 = .ok (.iadd, 1) := dk_96 (dk_at dksX11_asks_11 12 rfl rfl)
theorem dX11_asks_272 : decode cX11_asks 272 = .ok (.iaload, 1) := dk_46 (dk_at dksX11_asks_11 13 rfl rfl)
theorem dX11_asks_273 : decode cX11_asks 273 = .ok (.ifCond .le 17, 3) := dk_158 0 17 (dk_at dksX11_asks_11 14 rfl rfl)
theorem dX11_asks_276 : decode cX11_asks 276 = .ok (.aload_n 0, 1) := dk_42 (dk_at dksX11_asks_11 17 rfl rfl)
theorem dX11_asks_277 : decode cX11_asks 277 = .ok (.getfield 33, 3) := dk_180 0 33 (dk_at dksX11_asks_11 18 rfl rfl)
theorem dX11_asks_280 : decode cX11_asks 280 = .ok (.sipush 547, 3) := dk_17 2 35 (dk_at dksX11_asks_11 21 rfl rfl)
theorem dX11_asks_283 : decode cX11_asks 283 = .ok (.iload_n 2, 1) := dk_28 (dk_at dksX11_asks_12 0 rfl rfl)
theorem dX11_asks_284 : decode cX11_asks 284 = .ok (.iadd, 1) := dk_96 (dk_at dksX11_asks_12 1 rfl rfl)
theorem dX11_asks_285 : decode cX11_asks 285 = .ok (.dup2, 1) := dk_92 (dk_at dksX11_asks_12 2 rfl rfl)
theorem dX11_asks_286 : decode cX11_asks 286 = .ok (.iaload, 1) := dk_46 (dk_at dksX11_asks_12 3 rfl rfl)
theorem dX11_asks_287 : decode cX11_asks 287 = .ok (.iconst 1, 1) := dk_4 (dk_at dksX11_asks_12 4 rfl rfl)
theorem dX11_asks_288 : decode cX11_asks 288 = .ok (.iadd, 1) := dk_96 (dk_at dksX11_asks_12 5 rfl rfl)
theorem dX11_asks_289 : decode cX11_asks 289 = .ok (.iastore, 1) := dk_79 (dk_at dksX11_asks_12 6 rfl rfl)
theorem dX11_asks_290 : decode cX11_asks 290 = .ok (.aload_n 0, 1) := dk_42 (dk_at dksX11_asks_12 7 rfl rfl)
theorem dX11_asks_291 : decode cX11_asks 291 = .ok (.getfield 33, 3) := dk_180 0 33 (dk_at dksX11_asks_12 8 rfl rfl)
theorem dX11_asks_294 : decode cX11_asks 294 = .ok (.sipush 151, 3) := dk_17 0 151 (dk_at dksX11_asks_12 11 rfl rfl)
theorem dX11_asks_297 : decode cX11_asks 297 = .ok (.bipush 13, 2) := dk_16 13 (dk_at dksX11_asks_12 14 rfl rfl)
theorem dX11_asks_299 : decode cX11_asks 299 = .ok (.iload_n 2, 1) := dk_28 (dk_at dksX11_asks_12 16 rfl rfl)
theorem dX11_asks_300 : decode cX11_asks 300 = .ok (.imul, 1) := dk_104 (dk_at dksX11_asks_12 17 rfl rfl)
theorem dX11_asks_301 : decode cX11_asks 301 = .ok (.iadd, 1) := dk_96 (dk_at dksX11_asks_12 18 rfl rfl)
theorem dX11_asks_302 : decode cX11_asks 302 = .ok (.iload_n 3, 1) := dk_29 (dk_at dksX11_asks_12 19 rfl rfl)
theorem dX11_asks_303 : decode cX11_asks 303 = .ok (.iadd, 1) := dk_96 (dk_at dksX11_asks_12 20 rfl rfl)
theorem dX11_asks_304 : decode cX11_asks 304 = .ok (.iaload, 1) := dk_46 (dk_at dksX11_asks_12 21 rfl rfl)
theorem dX11_asks_305 : decode cX11_asks 305 = .ok (.ifCond .le 31, 3) := dk_158 0 31 (dk_at dksX11_asks_13 0 rfl rfl)
theorem dX11_asks_308 : decode cX11_asks 308 = .ok (.aload_n 0, 1) := dk_42 (dk_at dksX11_asks_13 3 rfl rfl)
theorem dX11_asks_309 : decode cX11_asks 309 = .ok (.iload_n 2, 1) := dk_28 (dk_at dksX11_asks_13 4 rfl rfl)
theorem dX11_asks_310 : decode cX11_asks 310 = .ok (.iconst 0, 1) := dk_3 (dk_at dksX11_asks_13 5 rfl rfl)
theorem dX11_asks_311 : decode cX11_asks 311 = .ok (.invokevirtual 270, 3) := dk_182 1 14 (dk_at dksX11_asks_13 6 rfl rfl)
theorem dX11_asks_314 : decode cX11_asks 314 = .ok (.aload_n 0, 1) := dk_42 (dk_at dksX11_asks_13 9 rfl rfl)
theorem dX11_asks_315 : decode cX11_asks 315 = .ok (.getfield 33, 3) := dk_180 0 33 (dk_at dksX11_asks_13 10 rfl rfl)
theorem dX11_asks_318 : decode cX11_asks 318 = .ok (.sipush 151, 3) := dk_17 0 151 (dk_at dksX11_asks_13 13 rfl rfl)
theorem dX11_asks_321 : decode cX11_asks 321 = .ok (.bipush 13, 2) := dk_16 13 (dk_at dksX11_asks_13 16 rfl rfl)
theorem dX11_asks_323 : decode cX11_asks 323 = .ok (.iload_n 2, 1) := dk_28 (dk_at dksX11_asks_13 18 rfl rfl)
theorem dX11_asks_324 : decode cX11_asks 324 = .ok (.imul, 1) := dk_104 (dk_at dksX11_asks_13 19 rfl rfl)
theorem dX11_asks_325 : decode cX11_asks 325 = .ok (.iadd, 1) := dk_96 (dk_at dksX11_asks_13 20 rfl rfl)
theorem dX11_asks_326 : decode cX11_asks 326 = .ok (.iload_n 3, 1) := dk_29 (dk_at dksX11_asks_13 21 rfl rfl)
theorem dX11_asks_327 : decode cX11_asks 327 = .ok (.iadd, 1) := dk_96 (dk_at dksX11_asks_13 22 rfl rfl)
theorem dX11_asks_328 : decode cX11_asks 328 = .ok (.dup2, 1) := dk_92 (dk_at dksX11_asks_13 23 rfl rfl)
theorem dX11_asks_329 : decode cX11_asks 329 = .ok (.iaload, 1) := dk_46 (dk_at dksX11_asks_14 0 rfl rfl)
theorem dX11_asks_330 : decode cX11_asks 330 = .ok (.iconst 1, 1) := dk_4 (dk_at dksX11_asks_14 1 rfl rfl)
theorem dX11_asks_331 : decode cX11_asks 331 = .ok (.isub, 1) := dk_100 (dk_at dksX11_asks_14 2 rfl rfl)
theorem dX11_asks_332 : decode cX11_asks 332 = .ok (.iastore, 1) := dk_79 (dk_at dksX11_asks_14 3 rfl rfl)
theorem dX11_asks_333 : decode cX11_asks 333 = .ok (.goto (-43), 3) := dk_167 255 213 (dk_at dksX11_asks_14 4 rfl rfl)
theorem dX11_asks_336 : decode cX11_asks 336 = .ok (.aload_n 0, 1) := dk_42 (dk_at dksX11_asks_14 7 rfl rfl)
theorem dX11_asks_337 : decode cX11_asks 337 = .ok (.iload_n 2, 1) := dk_28 (dk_at dksX11_asks_14 8 rfl rfl)
theorem dX11_asks_338 : decode cX11_asks 338 = .ok (.iload_n 3, 1) := dk_29 (dk_at dksX11_asks_14 9 rfl rfl)
theorem dX11_asks_339 : decode cX11_asks 339 = .ok (.invokevirtual 307, 3) := dk_182 1 51 (dk_at dksX11_asks_14 10 rfl rfl)
theorem dX11_asks_342 : decode cX11_asks 342 = .ok (.aload_n 0, 1) := dk_42 (dk_at dksX11_asks_14 13 rfl rfl)
theorem dX11_asks_343 : decode cX11_asks 343 = .ok (.getfield 33, 3) := dk_180 0 33 (dk_at dksX11_asks_14 14 rfl rfl)
theorem dX11_asks_346 : decode cX11_asks 346 = .ok (.bipush 6, 2) := dk_16 6 (dk_at dksX11_asks_14 17 rfl rfl)
theorem dX11_asks_348 : decode cX11_asks 348 = .ok (.dup2, 1) := dk_92 (dk_at dksX11_asks_14 19 rfl rfl)
theorem dX11_asks_349 : decode cX11_asks 349 = .ok (.iaload, 1) := dk_46 (dk_at dksX11_asks_14 20 rfl rfl)
theorem dX11_asks_350 : decode cX11_asks 350 = .ok (.iconst 1, 1) := dk_4 (dk_at dksX11_asks_14 21 rfl rfl)
theorem dX11_asks_351 : decode cX11_asks 351 = .ok (.iadd, 1) := dk_96 (dk_at dksX11_asks_14 22 rfl rfl)
theorem dX11_asks_352 : decode cX11_asks 352 = .ok (.iastore, 1) := dk_79 (dk_at dksX11_asks_14 23 rfl rfl)
theorem dX11_asks_353 : decode cX11_asks 353 = .ok (.aload_n 0, 1) := dk_42 (dk_at dksX11_asks_15 0 rfl rfl)
theorem dX11_asks_354 : decode cX11_asks 354 = .ok (.getfield 33, 3) := dk_180 0 33 (dk_at dksX11_asks_15 1 rfl rfl)
theorem dX11_asks_357 : decode cX11_asks 357 = .ok (.bipush 7, 2) := dk_16 7 (dk_at dksX11_asks_15 4 rfl rfl)
theorem dX11_asks_359 : decode cX11_asks 359 = .ok (.iaload, 1) := dk_46 (dk_at dksX11_asks_15 6 rfl rfl)
theorem dX11_asks_360 : decode cX11_asks 360 = .ok (.ifCond .le 79, 3) := dk_158 0 79 (dk_at dksX11_asks_15 7 rfl rfl)
theorem dX11_asks_363 : decode cX11_asks 363 = .ok (.aload_n 0, 1) := dk_42 (dk_at dksX11_asks_15 10 rfl rfl)
theorem dX11_asks_364 : decode cX11_asks 364 = .ok (.getfield 33, 3) := dk_180 0 33 (dk_at dksX11_asks_15 11 rfl rfl)
theorem dX11_asks_367 : decode cX11_asks 367 = .ok (.bipush 6, 2) := dk_16 6 (dk_at dksX11_asks_15 14 rfl rfl)
theorem dX11_asks_369 : decode cX11_asks 369 = .ok (.iconst 0, 1) := dk_3 (dk_at dksX11_asks_15 16 rfl rfl)
theorem dX11_asks_370 : decode cX11_asks 370 = .ok (.iastore, 1) := dk_79 (dk_at dksX11_asks_15 17 rfl rfl)
theorem dX11_asks_371 : decode cX11_asks 371 = .ok (.aload_n 0, 1) := dk_42 (dk_at dksX11_asks_15 18 rfl rfl)
theorem dX11_asks_372 : decode cX11_asks 372 = .ok (.iload_n 1, 1) := dk_27 (dk_at dksX11_asks_15 19 rfl rfl)
theorem dX11_asks_373 : decode cX11_asks 373 = .ok (.invokevirtual 267, 3) := dk_182 1 11 (dk_at dksX11_asks_15 20 rfl rfl)
theorem dX11_asks_376 : decode cX11_asks 376 = .ok (.istore 10, 2) := dk_54 10 (dk_at dksX11_asks_16 0 rfl rfl)
theorem dX11_asks_378 : decode cX11_asks 378 = .ok (.aload_n 0, 1) := dk_42 (dk_at dksX11_asks_16 2 rfl rfl)
theorem dX11_asks_379 : decode cX11_asks 379 = .ok (.getfield 33, 3) := dk_180 0 33 (dk_at dksX11_asks_16 3 rfl rfl)
theorem dX11_asks_382 : decode cX11_asks 382 = .ok (.iconst 2, 1) := dk_5 (dk_at dksX11_asks_16 6 rfl rfl)
theorem dX11_asks_383 : decode cX11_asks 383 = .ok (.iaload, 1) := dk_46 (dk_at dksX11_asks_16 7 rfl rfl)
theorem dX11_asks_384 : decode cX11_asks 384 = .ok (.iconst 1, 1) := dk_4 (dk_at dksX11_asks_16 8 rfl rfl)
theorem dX11_asks_385 : decode cX11_asks 385 = .ok (.if_icmp .ne 34, 3) := dk_160 0 34 (dk_at dksX11_asks_16 9 rfl rfl)
theorem dX11_asks_388 : decode cX11_asks 388 = .ok (.iload 10, 2) := dk_21 10 (dk_at dksX11_asks_16 12 rfl rfl)
theorem dX11_asks_390 : decode cX11_asks 390 = .ok (.iload_n 3, 1) := dk_29 (dk_at dksX11_asks_16 14 rfl rfl)
theorem dX11_asks_391 : decode cX11_asks 391 = .ok (.if_icmp .ne 28, 3) := dk_160 0 28 (dk_at dksX11_asks_16 15 rfl rfl)
theorem dX11_asks_394 : decode cX11_asks 394 = .ok (.aload_n 0, 1) := dk_42 (dk_at dksX11_asks_16 18 rfl rfl)
theorem dX11_asks_395 : decode cX11_asks 395 = .ok (.getfield 33, 3) := dk_180 0 33 (dk_at dksX11_asks_16 19 rfl rfl)
theorem dX11_asks_398 : decode cX11_asks 398 = .ok (.sipush 151, 3) := dk_17 0 151 (dk_at dksX11_asks_17 0 rfl rfl)
theorem dX11_asks_401 : decode cX11_asks 401 = .ok (.bipush 13, 2) := dk_16 13 (dk_at dksX11_asks_17 3 rfl rfl)
theorem dX11_asks_403 : decode cX11_asks 403 = .ok (.iload_n 1, 1) := dk_27 (dk_at dksX11_asks_17 5 rfl rfl)
theorem dX11_asks_404 : decode cX11_asks 404 = .ok (.imul, 1) := dk_104 (dk_at dksX11_asks_17 6 rfl rfl)
theorem dX11_asks_405 : decode cX11_asks 405 = .ok (.iadd, 1) := dk_96 (dk_at dksX11_asks_17 7 rfl rfl)
theorem dX11_asks_406 : decode cX11_asks 406 = .ok (.iload_n 3, 1) := dk_29 (dk_at dksX11_asks_17 8 rfl rfl)
theorem dX11_asks_407 : decode cX11_asks 407 = .ok (.iadd, 1) := dk_96 (dk_at dksX11_asks_17 9 rfl rfl)
theorem dX11_asks_408 : decode cX11_asks 408 = .ok (.dup2, 1) := dk_92 (dk_at dksX11_asks_17 10 rfl rfl)
theorem dX11_asks_409 : decode cX11_asks 409 = .ok (.iaload, 1) := dk_46 (dk_at dksX11_asks_17 11 rfl rfl)
theorem dX11_asks_410 : decode cX11_asks 410 = .ok (.iconst 1, 1) := dk_4 (dk_at dksX11_asks_17 12 rfl rfl)
theorem dX11_asks_411 : decode cX11_asks 411 = .ok (.iadd, 1) := dk_96 (dk_at dksX11_asks_17 13 rfl rfl)
theorem dX11_asks_412 : decode cX11_asks 412 = .ok (.iastore, 1) := dk_79 (dk_at dksX11_asks_17 14 rfl rfl)
theorem dX11_asks_413 : decode cX11_asks 413 = .ok (.iload_n 1, 1) := dk_27 (dk_at dksX11_asks_17 15 rfl rfl)
theorem dX11_asks_414 : decode cX11_asks 414 = .ok (.istore 12, 2) := dk_54 12 (dk_at dksX11_asks_17 16 rfl rfl)
theorem dX11_asks_416 : decode cX11_asks 416 = .ok (.goto 9, 3) := dk_167 0 9 (dk_at dksX11_asks_17 18 rfl rfl)
theorem dX11_asks_419 : decode cX11_asks 419 = .ok (.aload_n 0, 1) := dk_42 (dk_at dksX11_asks_17 21 rfl rfl)
theorem dX11_asks_420 : decode cX11_asks 420 = .ok (.iload_n 1, 1) := dk_27 (dk_at dksX11_asks_17 22 rfl rfl)
theorem dX11_asks_421 : decode cX11_asks 421 = .ok (.iconst 0, 1) := dk_3 (dk_at dksX11_asks_17 23 rfl rfl)
theorem dX11_asks_422 : decode cX11_asks 422 = .ok (.invokevirtual 270, 3) := dk_182 1 14 (dk_at dksX11_asks_18 0 rfl rfl)
theorem dX11_asks_425 : decode cX11_asks 425 = .ok (.aload_n 0, 1) := dk_42 (dk_at dksX11_asks_18 3 rfl rfl)
theorem dX11_asks_426 : decode cX11_asks 426 = .ok (.iload_n 1, 1) := dk_27 (dk_at dksX11_asks_18 4 rfl rfl)
theorem dX11_asks_427 : decode cX11_asks 427 = .ok (.iload 10, 2) := dk_21 10 (dk_at dksX11_asks_18 5 rfl rfl)
theorem dX11_asks_429 : decode cX11_asks 429 = .ok (.invokevirtual 273, 3) := dk_182 1 17 (dk_at dksX11_asks_18 7 rfl rfl)
theorem dX11_asks_432 : decode cX11_asks 432 = .ok (.ifCond .eq 7, 3) := dk_153 0 7 (dk_at dksX11_asks_18 10 rfl rfl)
theorem dX11_asks_435 : decode cX11_asks 435 = .ok (.iload 10, 2) := dk_21 10 (dk_at dksX11_asks_18 13 rfl rfl)
theorem dX11_asks_437 : decode cX11_asks 437 = .ok (.istore 11, 2) := dk_54 11 (dk_at dksX11_asks_18 15 rfl rfl)
theorem dX11_asks_439 : decode cX11_asks 439 = .ok (.aload_n 0, 1) := dk_42 (dk_at dksX11_asks_18 17 rfl rfl)
theorem dX11_asks_440 : decode cX11_asks 440 = .ok (.getfield 33, 3) := dk_180 0 33 (dk_at dksX11_asks_18 18 rfl rfl)
theorem dX11_asks_443 : decode cX11_asks 443 = .ok (.bipush 6, 2) := dk_16 6 (dk_at dksX11_asks_18 21 rfl rfl)
theorem dX11_asks_445 : decode cX11_asks 445 = .ok (.iaload, 1) := dk_46 (dk_at dksX11_asks_18 23 rfl rfl)
theorem dX11_asks_446 : decode cX11_asks 446 = .ok (.aload_n 0, 1) := dk_42 (dk_at dksX11_asks_19 0 rfl rfl)
theorem dX11_asks_447 : decode cX11_asks 447 = .ok (.getfield 33, 3) := dk_180 0 33 (dk_at dksX11_asks_19 1 rfl rfl)
theorem dX11_asks_450 : decode cX11_asks 450 = .ok (.iconst 1, 1) := dk_4 (dk_at dksX11_asks_19 4 rfl rfl)
theorem dX11_asks_451 : decode cX11_asks 451 = .ok (.iaload, 1) := dk_46 (dk_at dksX11_asks_19 5 rfl rfl)
theorem dX11_asks_452 : decode cX11_asks 452 = .ok (.if_icmp .ne 13, 3) := dk_160 0 13 (dk_at dksX11_asks_19 6 rfl rfl)
theorem dX11_asks_455 : decode cX11_asks 455 = .ok (.aload_n 0, 1) := dk_42 (dk_at dksX11_asks_19 9 rfl rfl)
theorem dX11_asks_456 : decode cX11_asks 456 = .ok (.getfield 33, 3) := dk_180 0 33 (dk_at dksX11_asks_19 10 rfl rfl)
theorem dX11_asks_459 : decode cX11_asks 459 = .ok (.iconst 4, 1) := dk_7 (dk_at dksX11_asks_19 13 rfl rfl)
theorem dX11_asks_460 : decode cX11_asks 460 = .ok (.iconst (-1), 1) := dk_2 (dk_at dksX11_asks_19 14 rfl rfl)
theorem dX11_asks_461 : decode cX11_asks 461 = .ok (.iastore, 1) := dk_79 (dk_at dksX11_asks_19 15 rfl rfl)
theorem dX11_asks_462 : decode cX11_asks 462 = .ok (.goto 9, 3) := dk_167 0 9 (dk_at dksX11_asks_19 16 rfl rfl)
theorem dX11_asks_465 : decode cX11_asks 465 = .ok (.aload_n 0, 1) := dk_42 (dk_at dksX11_asks_19 19 rfl rfl)
theorem dX11_asks_466 : decode cX11_asks 466 = .ok (.iload 12, 2) := dk_21 12 (dk_at dksX11_asks_19 20 rfl rfl)
theorem dX11_asks_468 : decode cX11_asks 468 = .ok (.invokevirtual 279, 3) := dk_182 1 23 (dk_at dksX11_asks_20 0 rfl rfl)
theorem dX11_asks_471 : decode cX11_asks 471 = .ok (.iload 5, 2) := dk_21 5 (dk_at dksX11_asks_20 3 rfl rfl)
theorem dX11_asks_473 : decode cX11_asks 473 = .ok (.ifCond .ne 6, 3) := dk_154 0 6 (dk_at dksX11_asks_20 5 rfl rfl)
theorem dX11_asks_476 : decode cX11_asks 476 = .ok (.iload 9, 2) := dk_21 9 (dk_at dksX11_asks_20 8 rfl rfl)
theorem dX11_asks_478 : decode cX11_asks 478 = .ok (.ireturn, 1) := dk_172 (dk_at dksX11_asks_20 10 rfl rfl)
theorem dX11_asks_479 : decode cX11_asks 479 = .ok (.aload_n 0, 1) := dk_42 (dk_at dksX11_asks_20 11 rfl rfl)
theorem dX11_asks_480 : decode cX11_asks 480 = .ok (.iconst 1, 1) := dk_4 (dk_at dksX11_asks_20 12 rfl rfl)
theorem dX11_asks_481 : decode cX11_asks 481 = .ok (.putfield 310, 3) := dk_181 1 54 (dk_at dksX11_asks_20 13 rfl rfl)
theorem dX11_asks_484 : decode cX11_asks 484 = .ok (.aload_n 0, 1) := dk_42 (dk_at dksX11_asks_20 16 rfl rfl)
theorem dX11_asks_485 : decode cX11_asks 485 = .ok (.getfield 50, 3) := dk_180 0 50 (dk_at dksX11_asks_20 17 rfl rfl)
theorem dX11_asks_488 : decode cX11_asks 488 = .ok (.iconst 0, 1) := dk_3 (dk_at dksX11_asks_20 20 rfl rfl)
theorem dX11_asks_489 : decode cX11_asks 489 = .ok (.iload_n 1, 1) := dk_27 (dk_at dksX11_asks_20 21 rfl rfl)
theorem dX11_asks_490 : decode cX11_asks 490 = .ok (.iastore, 1) := dk_79 (dk_at dksX11_asks_20 22 rfl rfl)
theorem dX11_asks_491 : decode cX11_asks 491 = .ok (.aload_n 0, 1) := dk_42 (dk_at dksX11_asks_20 23 rfl rfl)
theorem dX11_asks_492 : decode cX11_asks 492 = .ok (.getfield 50, 3) := dk_180 0 50 (dk_at dksX11_asks_21 0 rfl rfl)
theorem dX11_asks_495 : decode cX11_asks 495 = .ok (.iconst 1, 1) := dk_4 (dk_at dksX11_asks_21 3 rfl rfl)
theorem dX11_asks_496 : decode cX11_asks 496 = .ok (.iload_n 2, 1) := dk_28 (dk_at dksX11_asks_21 4 rfl rfl)
theorem dX11_asks_497 : decode cX11_asks 497 = .ok (.iastore, 1) := dk_79 (dk_at dksX11_asks_21 5 rfl rfl)
theorem dX11_asks_498 : decode cX11_asks 498 = .ok (.aload_n 0, 1) := dk_42 (dk_at dksX11_asks_21 6 rfl rfl)
theorem dX11_asks_499 : decode cX11_asks 499 = .ok (.getfield 50, 3) := dk_180 0 50 (dk_at dksX11_asks_21 7 rfl rfl)
theorem dX11_asks_502 : decode cX11_asks 502 = .ok (.iconst 2, 1) := dk_5 (dk_at dksX11_asks_21 10 rfl rfl)
theorem dX11_asks_503 : decode cX11_asks 503 = .ok (.iload_n 3, 1) := dk_29 (dk_at dksX11_asks_21 11 rfl rfl)
theorem dX11_asks_504 : decode cX11_asks 504 = .ok (.iastore, 1) := dk_79 (dk_at dksX11_asks_21 12 rfl rfl)
theorem dX11_asks_505 : decode cX11_asks 505 = .ok (.aload_n 0, 1) := dk_42 (dk_at dksX11_asks_21 13 rfl rfl)
theorem dX11_asks_506 : decode cX11_asks 506 = .ok (.getfield 50, 3) := dk_180 0 50 (dk_at dksX11_asks_21 14 rfl rfl)
theorem dX11_asks_509 : decode cX11_asks 509 = .ok (.iconst 3, 1) := dk_6 (dk_at dksX11_asks_21 17 rfl rfl)
theorem dX11_asks_510 : decode cX11_asks 510 = .ok (.iload 9, 2) := dk_21 9 (dk_at dksX11_asks_21 18 rfl rfl)
theorem dX11_asks_512 : decode cX11_asks 512 = .ok (.iastore, 1) := dk_79 (dk_at dksX11_asks_21 20 rfl rfl)
theorem dX11_asks_513 : decode cX11_asks 513 = .ok (.aload_n 0, 1) := dk_42 (dk_at dksX11_asks_21 21 rfl rfl)
theorem dX11_asks_514 : decode cX11_asks 514 = .ok (.getfield 50, 3) := dk_180 0 50 (dk_at dksX11_asks_22 0 rfl rfl)
theorem dX11_asks_517 : decode cX11_asks 517 = .ok (.iconst 4, 1) := dk_7 (dk_at dksX11_asks_22 3 rfl rfl)
theorem dX11_asks_518 : decode cX11_asks 518 = .ok (.iload 10, 2) := dk_21 10 (dk_at dksX11_asks_22 4 rfl rfl)
theorem dX11_asks_520 : decode cX11_asks 520 = .ok (.iastore, 1) := dk_79 (dk_at dksX11_asks_22 6 rfl rfl)
theorem dX11_asks_521 : decode cX11_asks 521 = .ok (.aload_n 0, 1) := dk_42 (dk_at dksX11_asks_22 7 rfl rfl)
theorem dX11_asks_522 : decode cX11_asks 522 = .ok (.getfield 50, 3) := dk_180 0 50 (dk_at dksX11_asks_22 8 rfl rfl)
theorem dX11_asks_525 : decode cX11_asks 525 = .ok (.iconst 5, 1) := dk_8 (dk_at dksX11_asks_22 11 rfl rfl)
theorem dX11_asks_526 : decode cX11_asks 526 = .ok (.iload 11, 2) := dk_21 11 (dk_at dksX11_asks_22 12 rfl rfl)
theorem dX11_asks_528 : decode cX11_asks 528 = .ok (.iastore, 1) := dk_79 (dk_at dksX11_asks_22 14 rfl rfl)
theorem dX11_asks_529 : decode cX11_asks 529 = .ok (.aload_n 0, 1) := dk_42 (dk_at dksX11_asks_22 15 rfl rfl)
theorem dX11_asks_530 : decode cX11_asks 530 = .ok (.getfield 50, 3) := dk_180 0 50 (dk_at dksX11_asks_22 16 rfl rfl)
theorem dX11_asks_533 : decode cX11_asks 533 = .ok (.bipush 6, 2) := dk_16 6 (dk_at dksX11_asks_22 19 rfl rfl)
theorem dX11_asks_535 : decode cX11_asks 535 = .ok (.iload 8, 2) := dk_21 8 (dk_at dksX11_asks_22 21 rfl rfl)
theorem dX11_asks_537 : decode cX11_asks 537 = .ok (.iastore, 1) := dk_79 (dk_at dksX11_asks_22 23 rfl rfl)
theorem dX11_asks_538 : decode cX11_asks 538 = .ok (.aload_n 0, 1) := dk_42 (dk_at dksX11_asks_23 0 rfl rfl)
theorem dX11_asks_539 : decode cX11_asks 539 = .ok (.getfield 50, 3) := dk_180 0 50 (dk_at dksX11_asks_23 1 rfl rfl)
theorem dX11_asks_542 : decode cX11_asks 542 = .ok (.bipush 7, 2) := dk_16 7 (dk_at dksX11_asks_23 4 rfl rfl)
theorem dX11_asks_544 : decode cX11_asks 544 = .ok (.iload 6, 2) := dk_21 6 (dk_at dksX11_asks_23 6 rfl rfl)
theorem dX11_asks_546 : decode cX11_asks 546 = .ok (.iastore, 1) := dk_79 (dk_at dksX11_asks_23 8 rfl rfl)
theorem dX11_asks_547 : decode cX11_asks 547 = .ok (.iload 9, 2) := dk_21 9 (dk_at dksX11_asks_23 9 rfl rfl)
theorem dX11_asks_549 : decode cX11_asks 549 = .ok (.ireturn, 1) := dk_172 (dk_at dksX11_asks_23 11 rfl rfl)
abbrev cX11_sureOf : ByteArray := prog_23_method_49_code
def yX11_sureOf : MethodName := ⟨RX11, "sureOf", "(II)I"⟩
def dkwX11_sureOf_2 : List UInt8 := [29, 96, 46, 28, 184, 0, 252, 154, 0, 5, 4, 172, 132, 3, 1, 167, 255, 215, 3, 172]
abbrev dktX11_sureOf_2 : List UInt8 := dkwX11_sureOf_2 ++ []
def dkwX11_sureOf_1 : List UInt8 := [180, 0, 33, 17, 0, 229, 27, 96, 46, 162, 0, 33, 42, 180, 0, 33, 17, 0, 235, 16, 52, 27, 104, 96]
abbrev dktX11_sureOf_1 : List UInt8 := dkwX11_sureOf_1 ++ dktX11_sureOf_2
def dkwX11_sureOf_0 : List UInt8 := [42, 180, 0, 33, 17, 0, 151, 16, 13, 27, 104, 96, 28, 96, 46, 158, 0, 5, 5, 172, 3, 62, 29, 42]
abbrev dktX11_sureOf_0 : List UInt8 := dkwX11_sureOf_0 ++ dktX11_sureOf_1
theorem dksX11_sureOf_0 : cX11_sureOf.data.toList.drop 0 = dktX11_sureOf_0 := by decide +kernel
theorem dksX11_sureOf_1 : cX11_sureOf.data.toList.drop 24 = dktX11_sureOf_1 := dk_seg dksX11_sureOf_0 24 rfl rfl
theorem dksX11_sureOf_2 : cX11_sureOf.data.toList.drop 48 = dktX11_sureOf_2 := dk_seg dksX11_sureOf_1 24 rfl rfl
theorem dX11_sureOf_0 : decode cX11_sureOf 0 = .ok (.aload_n 0, 1) := dk_42 (dk_at dksX11_sureOf_0 0 rfl rfl)
theorem dX11_sureOf_1 : decode cX11_sureOf 1 = .ok (.getfield 33, 3) := dk_180 0 33 (dk_at dksX11_sureOf_0 1 rfl rfl)
theorem dX11_sureOf_4 : decode cX11_sureOf 4 = .ok (.sipush 151, 3) := dk_17 0 151 (dk_at dksX11_sureOf_0 4 rfl rfl)
theorem dX11_sureOf_7 : decode cX11_sureOf 7 = .ok (.bipush 13, 2) := dk_16 13 (dk_at dksX11_sureOf_0 7 rfl rfl)
theorem dX11_sureOf_9 : decode cX11_sureOf 9 = .ok (.iload_n 1, 1) := dk_27 (dk_at dksX11_sureOf_0 9 rfl rfl)
theorem dX11_sureOf_10 : decode cX11_sureOf 10 = .ok (.imul, 1) := dk_104 (dk_at dksX11_sureOf_0 10 rfl rfl)
theorem dX11_sureOf_11 : decode cX11_sureOf 11 = .ok (.iadd, 1) := dk_96 (dk_at dksX11_sureOf_0 11 rfl rfl)
theorem dX11_sureOf_12 : decode cX11_sureOf 12 = .ok (.iload_n 2, 1) := dk_28 (dk_at dksX11_sureOf_0 12 rfl rfl)
theorem dX11_sureOf_13 : decode cX11_sureOf 13 = .ok (.iadd, 1) := dk_96 (dk_at dksX11_sureOf_0 13 rfl rfl)
theorem dX11_sureOf_14 : decode cX11_sureOf 14 = .ok (.iaload, 1) := dk_46 (dk_at dksX11_sureOf_0 14 rfl rfl)
theorem dX11_sureOf_15 : decode cX11_sureOf 15 = .ok (.ifCond .le 5, 3) := dk_158 0 5 (dk_at dksX11_sureOf_0 15 rfl rfl)
theorem dX11_sureOf_18 : decode cX11_sureOf 18 = .ok (.iconst 2, 1) := dk_5 (dk_at dksX11_sureOf_0 18 rfl rfl)
theorem dX11_sureOf_19 : decode cX11_sureOf 19 = .ok (.ireturn, 1) := dk_172 (dk_at dksX11_sureOf_0 19 rfl rfl)
theorem dX11_sureOf_20 : decode cX11_sureOf 20 = .ok (.iconst 0, 1) := dk_3 (dk_at dksX11_sureOf_0 20 rfl rfl)
theorem dX11_sureOf_21 : decode cX11_sureOf 21 = .ok (.istore_n 3, 1) := dk_62 (dk_at dksX11_sureOf_0 21 rfl rfl)
theorem dX11_sureOf_22 : decode cX11_sureOf 22 = .ok (.iload_n 3, 1) := dk_29 (dk_at dksX11_sureOf_0 22 rfl rfl)
theorem dX11_sureOf_23 : decode cX11_sureOf 23 = .ok (.aload_n 0, 1) := dk_42 (dk_at dksX11_sureOf_0 23 rfl rfl)
theorem dX11_sureOf_24 : decode cX11_sureOf 24 = .ok (.getfield 33, 3) := dk_180 0 33 (dk_at dksX11_sureOf_1 0 rfl rfl)
theorem dX11_sureOf_27 : decode cX11_sureOf 27 = .ok (.sipush 229, 3) := dk_17 0 229 (dk_at dksX11_sureOf_1 3 rfl rfl)
theorem dX11_sureOf_30 : decode cX11_sureOf 30 = .ok (.iload_n 1, 1) := dk_27 (dk_at dksX11_sureOf_1 6 rfl rfl)
theorem dX11_sureOf_31 : decode cX11_sureOf 31 = .ok (.iadd, 1) := dk_96 (dk_at dksX11_sureOf_1 7 rfl rfl)
theorem dX11_sureOf_32 : decode cX11_sureOf 32 = .ok (.iaload, 1) := dk_46 (dk_at dksX11_sureOf_1 8 rfl rfl)
theorem dX11_sureOf_33 : decode cX11_sureOf 33 = .ok (.if_icmp .ge 33, 3) := dk_162 0 33 (dk_at dksX11_sureOf_1 9 rfl rfl)
theorem dX11_sureOf_36 : decode cX11_sureOf 36 = .ok (.aload_n 0, 1) := dk_42 (dk_at dksX11_sureOf_1 12 rfl rfl)
theorem dX11_sureOf_37 : decode cX11_sureOf 37 = .ok (.getfield 33, 3) := dk_180 0 33 (dk_at dksX11_sureOf_1 13 rfl rfl)
theorem dX11_sureOf_40 : decode cX11_sureOf 40 = .ok (.sipush 235, 3) := dk_17 0 235 (dk_at dksX11_sureOf_1 16 rfl rfl)
theorem dX11_sureOf_43 : decode cX11_sureOf 43 = .ok (.bipush 52, 2) := dk_16 52 (dk_at dksX11_sureOf_1 19 rfl rfl)
theorem dX11_sureOf_45 : decode cX11_sureOf 45 = .ok (.iload_n 1, 1) := dk_27 (dk_at dksX11_sureOf_1 21 rfl rfl)
theorem dX11_sureOf_46 : decode cX11_sureOf 46 = .ok (.imul, 1) := dk_104 (dk_at dksX11_sureOf_1 22 rfl rfl)
theorem dX11_sureOf_47 : decode cX11_sureOf 47 = .ok (.iadd, 1) := dk_96 (dk_at dksX11_sureOf_1 23 rfl rfl)
theorem dX11_sureOf_48 : decode cX11_sureOf 48 = .ok (.iload_n 3, 1) := dk_29 (dk_at dksX11_sureOf_2 0 rfl rfl)
theorem dX11_sureOf_49 : decode cX11_sureOf 49 = .ok (.iadd, 1) := dk_96 (dk_at dksX11_sureOf_2 1 rfl rfl)
theorem dX11_sureOf_50 : decode cX11_sureOf 50 = .ok (.iaload, 1) := dk_46 (dk_at dksX11_sureOf_2 2 rfl rfl)
theorem dX11_sureOf_51 : decode cX11_sureOf 51 = .ok (.iload_n 2, 1) := dk_28 (dk_at dksX11_sureOf_2 3 rfl rfl)
theorem dX11_sureOf_52 : decode cX11_sureOf 52 = .ok (.invokestatic 252, 3) := dk_184 0 252 (dk_at dksX11_sureOf_2 4 rfl rfl)
theorem dX11_sureOf_55 : decode cX11_sureOf 55 = .ok (.ifCond .ne 5, 3) := dk_154 0 5 (dk_at dksX11_sureOf_2 7 rfl rfl)
theorem dX11_sureOf_58 : decode cX11_sureOf 58 = .ok (.iconst 1, 1) := dk_4 (dk_at dksX11_sureOf_2 10 rfl rfl)
theorem dX11_sureOf_59 : decode cX11_sureOf 59 = .ok (.ireturn, 1) := dk_172 (dk_at dksX11_sureOf_2 11 rfl rfl)
theorem dX11_sureOf_60 : decode cX11_sureOf 60 = .ok (.iinc 3 1, 3) := dk_132 3 1 (dk_at dksX11_sureOf_2 12 rfl rfl)
theorem dX11_sureOf_63 : decode cX11_sureOf 63 = .ok (.goto (-41), 3) := dk_167 255 215 (dk_at dksX11_sureOf_2 15 rfl rfl)
theorem dX11_sureOf_66 : decode cX11_sureOf 66 = .ok (.iconst 0, 1) := dk_3 (dk_at dksX11_sureOf_2 18 rfl rfl)
theorem dX11_sureOf_67 : decode cX11_sureOf 67 = .ok (.ireturn, 1) := dk_172 (dk_at dksX11_sureOf_2 19 rfl rfl)
abbrev cX11_cannot : ByteArray := prog_23_method_31_code
def yX11_cannot : MethodName := ⟨RX11, "cannot", "(II)V"⟩
def dkwX11_cannot_1 : List UInt8 := [16, 52, 27, 104, 96, 29, 96, 92, 46, 4, 28, 120, 128, 79, 132, 3, 1, 167, 255, 218, 177]
abbrev dktX11_cannot_1 : List UInt8 := dkwX11_cannot_1 ++ []
def dkwX11_cannot_0 : List UInt8 := [3, 62, 29, 42, 180, 0, 33, 17, 0, 229, 27, 96, 46, 162, 0, 30, 42, 180, 0, 33, 17, 0, 235]
abbrev dktX11_cannot_0 : List UInt8 := dkwX11_cannot_0 ++ dktX11_cannot_1
theorem dksX11_cannot_0 : cX11_cannot.data.toList.drop 0 = dktX11_cannot_0 := by decide +kernel
theorem dksX11_cannot_1 : cX11_cannot.data.toList.drop 23 = dktX11_cannot_1 := dk_seg dksX11_cannot_0 23 rfl rfl
theorem dX11_cannot_0 : decode cX11_cannot 0 = .ok (.iconst 0, 1) := dk_3 (dk_at dksX11_cannot_0 0 rfl rfl)
theorem dX11_cannot_1 : decode cX11_cannot 1 = .ok (.istore_n 3, 1) := dk_62 (dk_at dksX11_cannot_0 1 rfl rfl)
theorem dX11_cannot_2 : decode cX11_cannot 2 = .ok (.iload_n 3, 1) := dk_29 (dk_at dksX11_cannot_0 2 rfl rfl)
theorem dX11_cannot_3 : decode cX11_cannot 3 = .ok (.aload_n 0, 1) := dk_42 (dk_at dksX11_cannot_0 3 rfl rfl)
theorem dX11_cannot_4 : decode cX11_cannot 4 = .ok (.getfield 33, 3) := dk_180 0 33 (dk_at dksX11_cannot_0 4 rfl rfl)
theorem dX11_cannot_7 : decode cX11_cannot 7 = .ok (.sipush 229, 3) := dk_17 0 229 (dk_at dksX11_cannot_0 7 rfl rfl)
theorem dX11_cannot_10 : decode cX11_cannot 10 = .ok (.iload_n 1, 1) := dk_27 (dk_at dksX11_cannot_0 10 rfl rfl)
theorem dX11_cannot_11 : decode cX11_cannot 11 = .ok (.iadd, 1) := dk_96 (dk_at dksX11_cannot_0 11 rfl rfl)
theorem dX11_cannot_12 : decode cX11_cannot 12 = .ok (.iaload, 1) := dk_46 (dk_at dksX11_cannot_0 12 rfl rfl)
theorem dX11_cannot_13 : decode cX11_cannot 13 = .ok (.if_icmp .ge 30, 3) := dk_162 0 30 (dk_at dksX11_cannot_0 13 rfl rfl)
theorem dX11_cannot_16 : decode cX11_cannot 16 = .ok (.aload_n 0, 1) := dk_42 (dk_at dksX11_cannot_0 16 rfl rfl)
theorem dX11_cannot_17 : decode cX11_cannot 17 = .ok (.getfield 33, 3) := dk_180 0 33 (dk_at dksX11_cannot_0 17 rfl rfl)
theorem dX11_cannot_20 : decode cX11_cannot 20 = .ok (.sipush 235, 3) := dk_17 0 235 (dk_at dksX11_cannot_0 20 rfl rfl)
theorem dX11_cannot_23 : decode cX11_cannot 23 = .ok (.bipush 52, 2) := dk_16 52 (dk_at dksX11_cannot_1 0 rfl rfl)
theorem dX11_cannot_25 : decode cX11_cannot 25 = .ok (.iload_n 1, 1) := dk_27 (dk_at dksX11_cannot_1 2 rfl rfl)
theorem dX11_cannot_26 : decode cX11_cannot 26 = .ok (.imul, 1) := dk_104 (dk_at dksX11_cannot_1 3 rfl rfl)
theorem dX11_cannot_27 : decode cX11_cannot 27 = .ok (.iadd, 1) := dk_96 (dk_at dksX11_cannot_1 4 rfl rfl)
theorem dX11_cannot_28 : decode cX11_cannot 28 = .ok (.iload_n 3, 1) := dk_29 (dk_at dksX11_cannot_1 5 rfl rfl)
theorem dX11_cannot_29 : decode cX11_cannot 29 = .ok (.iadd, 1) := dk_96 (dk_at dksX11_cannot_1 6 rfl rfl)
theorem dX11_cannot_30 : decode cX11_cannot 30 = .ok (.dup2, 1) := dk_92 (dk_at dksX11_cannot_1 7 rfl rfl)
theorem dX11_cannot_31 : decode cX11_cannot 31 = .ok (.iaload, 1) := dk_46 (dk_at dksX11_cannot_1 8 rfl rfl)
theorem dX11_cannot_32 : decode cX11_cannot 32 = .ok (.iconst 1, 1) := dk_4 (dk_at dksX11_cannot_1 9 rfl rfl)
theorem dX11_cannot_33 : decode cX11_cannot 33 = .ok (.iload_n 2, 1) := dk_28 (dk_at dksX11_cannot_1 10 rfl rfl)
theorem dX11_cannot_34 : decode cX11_cannot 34 = .ok (.ishl, 1) := dk_120 (dk_at dksX11_cannot_1 11 rfl rfl)
theorem dX11_cannot_35 : decode cX11_cannot 35 = .ok (.ior, 1) := dk_128 (dk_at dksX11_cannot_1 12 rfl rfl)
theorem dX11_cannot_36 : decode cX11_cannot 36 = .ok (.iastore, 1) := dk_79 (dk_at dksX11_cannot_1 13 rfl rfl)
theorem dX11_cannot_37 : decode cX11_cannot 37 = .ok (.iinc 3 1, 3) := dk_132 3 1 (dk_at dksX11_cannot_1 14 rfl rfl)
theorem dX11_cannot_40 : decode cX11_cannot 40 = .ok (.goto (-38), 3) := dk_167 255 218 (dk_at dksX11_cannot_1 17 rfl rfl)
theorem dX11_cannot_43 : decode cX11_cannot 43 = .ok (.return_, 1) := dk_177 (dk_at dksX11_cannot_1 20 rfl rfl)
abbrev cX11_asked : ByteArray := prog_23_method_52_code
def yX11_asked : MethodName := ⟨RX11, "asked", "(I)I"⟩
def dkwX11_asked_1 : List UInt8 := [180, 0, 50, 27, 46, 167, 0, 4, 2, 172]
abbrev dktX11_asked_1 : List UInt8 := dkwX11_asked_1 ++ []
def dkwX11_asked_0 : List UInt8 := [42, 3, 181, 0, 1, 42, 180, 1, 54, 153, 0, 22, 27, 3, 16, 7, 184, 0, 195, 153, 0, 12, 42]
abbrev dktX11_asked_0 : List UInt8 := dkwX11_asked_0 ++ dktX11_asked_1
theorem dksX11_asked_0 : cX11_asked.data.toList.drop 0 = dktX11_asked_0 := by decide +kernel
theorem dksX11_asked_1 : cX11_asked.data.toList.drop 23 = dktX11_asked_1 := dk_seg dksX11_asked_0 23 rfl rfl
theorem dX11_asked_0 : decode cX11_asked 0 = .ok (.aload_n 0, 1) := dk_42 (dk_at dksX11_asked_0 0 rfl rfl)
theorem dX11_asked_1 : decode cX11_asked 1 = .ok (.iconst 0, 1) := dk_3 (dk_at dksX11_asked_0 1 rfl rfl)
theorem dX11_asked_2 : decode cX11_asked 2 = .ok (.putfield 1, 3) := dk_181 0 1 (dk_at dksX11_asked_0 2 rfl rfl)
theorem dX11_asked_5 : decode cX11_asked 5 = .ok (.aload_n 0, 1) := dk_42 (dk_at dksX11_asked_0 5 rfl rfl)
theorem dX11_asked_6 : decode cX11_asked 6 = .ok (.getfield 310, 3) := dk_180 1 54 (dk_at dksX11_asked_0 6 rfl rfl)
theorem dX11_asked_9 : decode cX11_asked 9 = .ok (.ifCond .eq 22, 3) := dk_153 0 22 (dk_at dksX11_asked_0 9 rfl rfl)
theorem dX11_asked_12 : decode cX11_asked 12 = .ok (.iload_n 1, 1) := dk_27 (dk_at dksX11_asked_0 12 rfl rfl)
theorem dX11_asked_13 : decode cX11_asked 13 = .ok (.iconst 0, 1) := dk_3 (dk_at dksX11_asked_0 13 rfl rfl)
theorem dX11_asked_14 : decode cX11_asked 14 = .ok (.bipush 7, 2) := dk_16 7 (dk_at dksX11_asked_0 14 rfl rfl)
theorem dX11_asked_16 : decode cX11_asked 16 = .ok (.invokestatic 195, 3) := dk_184 0 195 (dk_at dksX11_asked_0 16 rfl rfl)
theorem dX11_asked_19 : decode cX11_asked 19 = .ok (.ifCond .eq 12, 3) := dk_153 0 12 (dk_at dksX11_asked_0 19 rfl rfl)
theorem dX11_asked_22 : decode cX11_asked 22 = .ok (.aload_n 0, 1) := dk_42 (dk_at dksX11_asked_0 22 rfl rfl)
theorem dX11_asked_23 : decode cX11_asked 23 = .ok (.getfield 50, 3) := dk_180 0 50 (dk_at dksX11_asked_1 0 rfl rfl)
theorem dX11_asked_26 : decode cX11_asked 26 = .ok (.iload_n 1, 1) := dk_27 (dk_at dksX11_asked_1 3 rfl rfl)
theorem dX11_asked_27 : decode cX11_asked 27 = .ok (.iaload, 1) := dk_46 (dk_at dksX11_asked_1 4 rfl rfl)
theorem dX11_asked_28 : decode cX11_asked 28 = .ok (.goto 4, 3) := dk_167 0 4 (dk_at dksX11_asked_1 5 rfl rfl)
theorem dX11_asked_31 : decode cX11_asked 31 = .ok (.iconst (-1), 1) := dk_2 (dk_at dksX11_asked_1 8 rfl rfl)
theorem dX11_asked_32 : decode cX11_asked 32 = .ok (.ireturn, 1) := dk_172 (dk_at dksX11_asked_1 9 rfl rfl)
abbrev cX11_undo : ByteArray := prog_23_method_54_code
def yX11_undo : MethodName := ⟨RX11, "undo", "()I"⟩
def dkwX11_undo_2 : List UInt8 := [180, 0, 246, 104, 27, 96, 46, 79, 132, 1, 1, 167, 255, 223, 42, 180, 0, 246, 172]
abbrev dktX11_undo_2 : List UInt8 := dkwX11_undo_2 ++ []
def dkwX11_undo_1 : List UInt8 := [3, 60, 27, 17, 2, 68, 162, 0, 32, 42, 180, 0, 33, 7, 27, 96, 42, 180, 0, 53, 17, 2, 68, 42]
abbrev dktX11_undo_1 : List UInt8 := dkwX11_undo_1 ++ dktX11_undo_2
def dkwX11_undo_0 : List UInt8 := [42, 3, 181, 0, 1, 42, 180, 0, 246, 154, 0, 5, 2, 172, 42, 89, 180, 0, 246, 4, 100, 181, 0, 246]
abbrev dktX11_undo_0 : List UInt8 := dkwX11_undo_0 ++ dktX11_undo_1
theorem dksX11_undo_0 : cX11_undo.data.toList.drop 0 = dktX11_undo_0 := by decide +kernel
theorem dksX11_undo_1 : cX11_undo.data.toList.drop 24 = dktX11_undo_1 := dk_seg dksX11_undo_0 24 rfl rfl
theorem dksX11_undo_2 : cX11_undo.data.toList.drop 48 = dktX11_undo_2 := dk_seg dksX11_undo_1 24 rfl rfl
theorem dX11_undo_0 : decode cX11_undo 0 = .ok (.aload_n 0, 1) := dk_42 (dk_at dksX11_undo_0 0 rfl rfl)
theorem dX11_undo_1 : decode cX11_undo 1 = .ok (.iconst 0, 1) := dk_3 (dk_at dksX11_undo_0 1 rfl rfl)
theorem dX11_undo_2 : decode cX11_undo 2 = .ok (.putfield 1, 3) := dk_181 0 1 (dk_at dksX11_undo_0 2 rfl rfl)
theorem dX11_undo_5 : decode cX11_undo 5 = .ok (.aload_n 0, 1) := dk_42 (dk_at dksX11_undo_0 5 rfl rfl)
theorem dX11_undo_6 : decode cX11_undo 6 = .ok (.getfield 246, 3) := dk_180 0 246 (dk_at dksX11_undo_0 6 rfl rfl)
theorem dX11_undo_9 : decode cX11_undo 9 = .ok (.ifCond .ne 5, 3) := dk_154 0 5 (dk_at dksX11_undo_0 9 rfl rfl)
theorem dX11_undo_12 : decode cX11_undo 12 = .ok (.iconst (-1), 1) := dk_2 (dk_at dksX11_undo_0 12 rfl rfl)
theorem dX11_undo_13 : decode cX11_undo 13 = .ok (.ireturn, 1) := dk_172 (dk_at dksX11_undo_0 13 rfl rfl)
theorem dX11_undo_14 : decode cX11_undo 14 = .ok (.aload_n 0, 1) := dk_42 (dk_at dksX11_undo_0 14 rfl rfl)
theorem dX11_undo_15 : decode cX11_undo 15 = .ok (.dup, 1) := dk_89 (dk_at dksX11_undo_0 15 rfl rfl)
theorem dX11_undo_16 : decode cX11_undo 16 = .ok (.getfield 246, 3) := dk_180 0 246 (dk_at dksX11_undo_0 16 rfl rfl)
theorem dX11_undo_19 : decode cX11_undo 19 = .ok (.iconst 1, 1) := dk_4 (dk_at dksX11_undo_0 19 rfl rfl)
theorem dX11_undo_20 : decode cX11_undo 20 = .ok (.isub, 1) := dk_100 (dk_at dksX11_undo_0 20 rfl rfl)
theorem dX11_undo_21 : decode cX11_undo 21 = .ok (.putfield 246, 3) := dk_181 0 246 (dk_at dksX11_undo_0 21 rfl rfl)
theorem dX11_undo_24 : decode cX11_undo 24 = .ok (.iconst 0, 1) := dk_3 (dk_at dksX11_undo_1 0 rfl rfl)
theorem dX11_undo_25 : decode cX11_undo 25 = .ok (.istore_n 1, 1) := dk_60 (dk_at dksX11_undo_1 1 rfl rfl)
theorem dX11_undo_26 : decode cX11_undo 26 = .ok (.iload_n 1, 1) := dk_27 (dk_at dksX11_undo_1 2 rfl rfl)
theorem dX11_undo_27 : decode cX11_undo 27 = .ok (.sipush 580, 3) := dk_17 2 68 (dk_at dksX11_undo_1 3 rfl rfl)
theorem dX11_undo_30 : decode cX11_undo 30 = .ok (.if_icmp .ge 32, 3) := dk_162 0 32 (dk_at dksX11_undo_1 6 rfl rfl)
theorem dX11_undo_33 : decode cX11_undo 33 = .ok (.aload_n 0, 1) := dk_42 (dk_at dksX11_undo_1 9 rfl rfl)
theorem dX11_undo_34 : decode cX11_undo 34 = .ok (.getfield 33, 3) := dk_180 0 33 (dk_at dksX11_undo_1 10 rfl rfl)
theorem dX11_undo_37 : decode cX11_undo 37 = .ok (.iconst 4, 1) := dk_7 (dk_at dksX11_undo_1 13 rfl rfl)
theorem dX11_undo_38 : decode cX11_undo 38 = .ok (.iload_n 1, 1) := dk_27 (dk_at dksX11_undo_1 14 rfl rfl)
theorem dX11_undo_39 : decode cX11_undo 39 = .ok (.iadd, 1) := dk_96 (dk_at dksX11_undo_1 15 rfl rfl)
theorem dX11_undo_40 : decode cX11_undo 40 = .ok (.aload_n 0, 1) := dk_42 (dk_at dksX11_undo_1 16 rfl rfl)
theorem dX11_undo_41 : decode cX11_undo 41 = .ok (.getfield 53, 3) := dk_180 0 53 (dk_at dksX11_undo_1 17 rfl rfl)
theorem dX11_undo_44 : decode cX11_undo 44 = .ok (.sipush 580, 3) := dk_17 2 68 (dk_at dksX11_undo_1 20 rfl rfl)
theorem dX11_undo_47 : decode cX11_undo 47 = .ok (.aload_n 0, 1) := dk_42 (dk_at dksX11_undo_1 23 rfl rfl)
theorem dX11_undo_48 : decode cX11_undo 48 = .ok (.getfield 246, 3) := dk_180 0 246 (dk_at dksX11_undo_2 0 rfl rfl)
theorem dX11_undo_51 : decode cX11_undo 51 = .ok (.imul, 1) := dk_104 (dk_at dksX11_undo_2 3 rfl rfl)
theorem dX11_undo_52 : decode cX11_undo 52 = .ok (.iload_n 1, 1) := dk_27 (dk_at dksX11_undo_2 4 rfl rfl)
theorem dX11_undo_53 : decode cX11_undo 53 = .ok (.iadd, 1) := dk_96 (dk_at dksX11_undo_2 5 rfl rfl)
theorem dX11_undo_54 : decode cX11_undo 54 = .ok (.iaload, 1) := dk_46 (dk_at dksX11_undo_2 6 rfl rfl)
theorem dX11_undo_55 : decode cX11_undo 55 = .ok (.iastore, 1) := dk_79 (dk_at dksX11_undo_2 7 rfl rfl)
theorem dX11_undo_56 : decode cX11_undo 56 = .ok (.iinc 1 1, 3) := dk_132 1 1 (dk_at dksX11_undo_2 8 rfl rfl)
theorem dX11_undo_59 : decode cX11_undo 59 = .ok (.goto (-33), 3) := dk_167 255 223 (dk_at dksX11_undo_2 11 rfl rfl)
theorem dX11_undo_62 : decode cX11_undo 62 = .ok (.aload_n 0, 1) := dk_42 (dk_at dksX11_undo_2 14 rfl rfl)
theorem dX11_undo_63 : decode cX11_undo 63 = .ok (.getfield 246, 3) := dk_180 0 246 (dk_at dksX11_undo_2 15 rfl rfl)
theorem dX11_undo_66 : decode cX11_undo 66 = .ok (.ireturn, 1) := dk_172 (dk_at dksX11_undo_2 18 rfl rfl)
abbrev cX11_known : ByteArray := prog_23_method_57_code
def yX11_known : MethodName := ⟨RX11, "known", "(II)I"⟩
def dkwX11_known_1 : List UInt8 := [180, 0, 33, 17, 0, 151, 16, 13, 27, 104, 96, 28, 96, 46, 167, 0, 4, 2, 172]
abbrev dktX11_known_1 : List UInt8 := dkwX11_known_1 ++ []
def dkwX11_known_0 : List UInt8 := [42, 3, 181, 0, 1, 42, 27, 182, 1, 26, 153, 0, 29, 42, 28, 182, 1, 29, 153, 0, 21, 42]
abbrev dktX11_known_0 : List UInt8 := dkwX11_known_0 ++ dktX11_known_1
theorem dksX11_known_0 : cX11_known.data.toList.drop 0 = dktX11_known_0 := by decide +kernel
theorem dksX11_known_1 : cX11_known.data.toList.drop 22 = dktX11_known_1 := dk_seg dksX11_known_0 22 rfl rfl
theorem dX11_known_0 : decode cX11_known 0 = .ok (.aload_n 0, 1) := dk_42 (dk_at dksX11_known_0 0 rfl rfl)
theorem dX11_known_1 : decode cX11_known 1 = .ok (.iconst 0, 1) := dk_3 (dk_at dksX11_known_0 1 rfl rfl)
theorem dX11_known_2 : decode cX11_known 2 = .ok (.putfield 1, 3) := dk_181 0 1 (dk_at dksX11_known_0 2 rfl rfl)
theorem dX11_known_5 : decode cX11_known 5 = .ok (.aload_n 0, 1) := dk_42 (dk_at dksX11_known_0 5 rfl rfl)
theorem dX11_known_6 : decode cX11_known 6 = .ok (.iload_n 1, 1) := dk_27 (dk_at dksX11_known_0 6 rfl rfl)
theorem dX11_known_7 : decode cX11_known 7 = .ok (.invokevirtual 282, 3) := dk_182 1 26 (dk_at dksX11_known_0 7 rfl rfl)
theorem dX11_known_10 : decode cX11_known 10 = .ok (.ifCond .eq 29, 3) := dk_153 0 29 (dk_at dksX11_known_0 10 rfl rfl)
theorem dX11_known_13 : decode cX11_known 13 = .ok (.aload_n 0, 1) := dk_42 (dk_at dksX11_known_0 13 rfl rfl)
theorem dX11_known_14 : decode cX11_known 14 = .ok (.iload_n 2, 1) := dk_28 (dk_at dksX11_known_0 14 rfl rfl)
theorem dX11_known_15 : decode cX11_known 15 = .ok (.invokevirtual 285, 3) := dk_182 1 29 (dk_at dksX11_known_0 15 rfl rfl)
theorem dX11_known_18 : decode cX11_known 18 = .ok (.ifCond .eq 21, 3) := dk_153 0 21 (dk_at dksX11_known_0 18 rfl rfl)
theorem dX11_known_21 : decode cX11_known 21 = .ok (.aload_n 0, 1) := dk_42 (dk_at dksX11_known_0 21 rfl rfl)
theorem dX11_known_22 : decode cX11_known 22 = .ok (.getfield 33, 3) := dk_180 0 33 (dk_at dksX11_known_1 0 rfl rfl)
theorem dX11_known_25 : decode cX11_known 25 = .ok (.sipush 151, 3) := dk_17 0 151 (dk_at dksX11_known_1 3 rfl rfl)
theorem dX11_known_28 : decode cX11_known 28 = .ok (.bipush 13, 2) := dk_16 13 (dk_at dksX11_known_1 6 rfl rfl)
theorem dX11_known_30 : decode cX11_known 30 = .ok (.iload_n 1, 1) := dk_27 (dk_at dksX11_known_1 8 rfl rfl)
theorem dX11_known_31 : decode cX11_known 31 = .ok (.imul, 1) := dk_104 (dk_at dksX11_known_1 9 rfl rfl)
theorem dX11_known_32 : decode cX11_known 32 = .ok (.iadd, 1) := dk_96 (dk_at dksX11_known_1 10 rfl rfl)
theorem dX11_known_33 : decode cX11_known 33 = .ok (.iload_n 2, 1) := dk_28 (dk_at dksX11_known_1 11 rfl rfl)
theorem dX11_known_34 : decode cX11_known 34 = .ok (.iadd, 1) := dk_96 (dk_at dksX11_known_1 12 rfl rfl)
theorem dX11_known_35 : decode cX11_known 35 = .ok (.iaload, 1) := dk_46 (dk_at dksX11_known_1 13 rfl rfl)
theorem dX11_known_36 : decode cX11_known 36 = .ok (.goto 4, 3) := dk_167 0 4 (dk_at dksX11_known_1 14 rfl rfl)
theorem dX11_known_39 : decode cX11_known 39 = .ok (.iconst (-1), 1) := dk_2 (dk_at dksX11_known_1 17 rfl rfl)
theorem dX11_known_40 : decode cX11_known 40 = .ok (.ireturn, 1) := dk_172 (dk_at dksX11_known_1 18 rfl rfl)
abbrev cX11_can : ByteArray := prog_23_method_58_code
def yX11_can : MethodName := ⟨RX11, "can", "(II)I"⟩
def dkwX11_can_3 : List UInt8 := [96, 62, 132, 4, 1, 167, 255, 207, 29, 172]
abbrev dktX11_can_3 : List UInt8 := dkwX11_can_3 ++ []
def dkwX11_can_2 : List UInt8 := [17, 0, 235, 16, 52, 27, 104, 96, 21, 4, 96, 46, 28, 184, 0, 252, 153, 0, 7, 3, 167, 0, 4, 4]
abbrev dktX11_can_2 : List UInt8 := dkwX11_can_2 ++ dktX11_can_3
def dkwX11_can_1 : List UInt8 := [62, 3, 54, 4, 21, 4, 42, 180, 0, 33, 17, 0, 229, 27, 96, 46, 162, 0, 40, 29, 42, 180, 0, 33]
abbrev dktX11_can_1 : List UInt8 := dkwX11_can_1 ++ dktX11_can_2
def dkwX11_can_0 : List UInt8 := [42, 3, 181, 0, 1, 42, 27, 182, 1, 26, 153, 0, 11, 42, 28, 182, 1, 29, 154, 0, 5, 2, 172, 3]
abbrev dktX11_can_0 : List UInt8 := dkwX11_can_0 ++ dktX11_can_1
theorem dksX11_can_0 : cX11_can.data.toList.drop 0 = dktX11_can_0 := by decide +kernel
theorem dksX11_can_1 : cX11_can.data.toList.drop 24 = dktX11_can_1 := dk_seg dksX11_can_0 24 rfl rfl
theorem dksX11_can_2 : cX11_can.data.toList.drop 48 = dktX11_can_2 := dk_seg dksX11_can_1 24 rfl rfl
theorem dksX11_can_3 : cX11_can.data.toList.drop 72 = dktX11_can_3 := dk_seg dksX11_can_2 24 rfl rfl
theorem dX11_can_0 : decode cX11_can 0 = .ok (.aload_n 0, 1) := dk_42 (dk_at dksX11_can_0 0 rfl rfl)
theorem dX11_can_1 : decode cX11_can 1 = .ok (.iconst 0, 1) := dk_3 (dk_at dksX11_can_0 1 rfl rfl)
theorem dX11_can_2 : decode cX11_can 2 = .ok (.putfield 1, 3) := dk_181 0 1 (dk_at dksX11_can_0 2 rfl rfl)
theorem dX11_can_5 : decode cX11_can 5 = .ok (.aload_n 0, 1) := dk_42 (dk_at dksX11_can_0 5 rfl rfl)
theorem dX11_can_6 : decode cX11_can 6 = .ok (.iload_n 1, 1) := dk_27 (dk_at dksX11_can_0 6 rfl rfl)
theorem dX11_can_7 : decode cX11_can 7 = .ok (.invokevirtual 282, 3) := dk_182 1 26 (dk_at dksX11_can_0 7 rfl rfl)
theorem dX11_can_10 : decode cX11_can 10 = .ok (.ifCond .eq 11, 3) := dk_153 0 11 (dk_at dksX11_can_0 10 rfl rfl)
theorem dX11_can_13 : decode cX11_can 13 = .ok (.aload_n 0, 1) := dk_42 (dk_at dksX11_can_0 13 rfl rfl)
theorem dX11_can_14 : decode cX11_can 14 = .ok (.iload_n 2, 1) := dk_28 (dk_at dksX11_can_0 14 rfl rfl)
theorem dX11_can_15 : decode cX11_can 15 = .ok (.invokevirtual 285, 3) := dk_182 1 29 (dk_at dksX11_can_0 15 rfl rfl)
theorem dX11_can_18 : decode cX11_can 18 = .ok (.ifCond .ne 5, 3) := dk_154 0 5 (dk_at dksX11_can_0 18 rfl rfl)
theorem dX11_can_21 : decode cX11_can 21 = .ok (.iconst (-1), 1) := dk_2 (dk_at dksX11_can_0 21 rfl rfl)
theorem dX11_can_22 : decode cX11_can 22 = .ok (.ireturn, 1) := dk_172 (dk_at dksX11_can_0 22 rfl rfl)
theorem dX11_can_23 : decode cX11_can 23 = .ok (.iconst 0, 1) := dk_3 (dk_at dksX11_can_0 23 rfl rfl)
theorem dX11_can_24 : decode cX11_can 24 = .ok (.istore_n 3, 1) := dk_62 (dk_at dksX11_can_1 0 rfl rfl)
theorem dX11_can_25 : decode cX11_can 25 = .ok (.iconst 0, 1) := dk_3 (dk_at dksX11_can_1 1 rfl rfl)
theorem dX11_can_26 : decode cX11_can 26 = .ok (.istore 4, 2) := dk_54 4 (dk_at dksX11_can_1 2 rfl rfl)
theorem dX11_can_28 : decode cX11_can 28 = .ok (.iload 4, 2) := dk_21 4 (dk_at dksX11_can_1 4 rfl rfl)
theorem dX11_can_30 : decode cX11_can 30 = .ok (.aload_n 0, 1) := dk_42 (dk_at dksX11_can_1 6 rfl rfl)
theorem dX11_can_31 : decode cX11_can 31 = .ok (.getfield 33, 3) := dk_180 0 33 (dk_at dksX11_can_1 7 rfl rfl)
theorem dX11_can_34 : decode cX11_can 34 = .ok (.sipush 229, 3) := dk_17 0 229 (dk_at dksX11_can_1 10 rfl rfl)
theorem dX11_can_37 : decode cX11_can 37 = .ok (.iload_n 1, 1) := dk_27 (dk_at dksX11_can_1 13 rfl rfl)
theorem dX11_can_38 : decode cX11_can 38 = .ok (.iadd, 1) := dk_96 (dk_at dksX11_can_1 14 rfl rfl)
theorem dX11_can_39 : decode cX11_can 39 = .ok (.iaload, 1) := dk_46 (dk_at dksX11_can_1 15 rfl rfl)
theorem dX11_can_40 : decode cX11_can 40 = .ok (.if_icmp .ge 40, 3) := dk_162 0 40 (dk_at dksX11_can_1 16 rfl rfl)
theorem dX11_can_43 : decode cX11_can 43 = .ok (.iload_n 3, 1) := dk_29 (dk_at dksX11_can_1 19 rfl rfl)
theorem dX11_can_44 : decode cX11_can 44 = .ok (.aload_n 0, 1) := dk_42 (dk_at dksX11_can_1 20 rfl rfl)
theorem dX11_can_45 : decode cX11_can 45 = .ok (.getfield 33, 3) := dk_180 0 33 (dk_at dksX11_can_1 21 rfl rfl)
theorem dX11_can_48 : decode cX11_can 48 = .ok (.sipush 235, 3) := dk_17 0 235 (dk_at dksX11_can_2 0 rfl rfl)
theorem dX11_can_51 : decode cX11_can 51 = .ok (.bipush 52, 2) := dk_16 52 (dk_at dksX11_can_2 3 rfl rfl)
theorem dX11_can_53 : decode cX11_can 53 = .ok (.iload_n 1, 1) := dk_27 (dk_at dksX11_can_2 5 rfl rfl)
theorem dX11_can_54 : decode cX11_can 54 = .ok (.imul, 1) := dk_104 (dk_at dksX11_can_2 6 rfl rfl)
theorem dX11_can_55 : decode cX11_can 55 = .ok (.iadd, 1) := dk_96 (dk_at dksX11_can_2 7 rfl rfl)
theorem dX11_can_56 : decode cX11_can 56 = .ok (.iload 4, 2) := dk_21 4 (dk_at dksX11_can_2 8 rfl rfl)
theorem dX11_can_58 : decode cX11_can 58 = .ok (.iadd, 1) := dk_96 (dk_at dksX11_can_2 10 rfl rfl)
theorem dX11_can_59 : decode cX11_can 59 = .ok (.iaload, 1) := dk_46 (dk_at dksX11_can_2 11 rfl rfl)
theorem dX11_can_60 : decode cX11_can 60 = .ok (.iload_n 2, 1) := dk_28 (dk_at dksX11_can_2 12 rfl rfl)
theorem dX11_can_61 : decode cX11_can 61 = .ok (.invokestatic 252, 3) := dk_184 0 252 (dk_at dksX11_can_2 13 rfl rfl)
theorem dX11_can_64 : decode cX11_can 64 = .ok (.ifCond .eq 7, 3) := dk_153 0 7 (dk_at dksX11_can_2 16 rfl rfl)
theorem dX11_can_67 : decode cX11_can 67 = .ok (.iconst 0, 1) := dk_3 (dk_at dksX11_can_2 19 rfl rfl)
theorem dX11_can_68 : decode cX11_can 68 = .ok (.goto 4, 3) := dk_167 0 4 (dk_at dksX11_can_2 20 rfl rfl)
theorem dX11_can_71 : decode cX11_can 71 = .ok (.iconst 1, 1) := dk_4 (dk_at dksX11_can_2 23 rfl rfl)
theorem dX11_can_72 : decode cX11_can 72 = .ok (.iadd, 1) := dk_96 (dk_at dksX11_can_3 0 rfl rfl)
theorem dX11_can_73 : decode cX11_can 73 = .ok (.istore_n 3, 1) := dk_62 (dk_at dksX11_can_3 1 rfl rfl)
theorem dX11_can_74 : decode cX11_can 74 = .ok (.iinc 4 1, 3) := dk_132 4 1 (dk_at dksX11_can_3 2 rfl rfl)
theorem dX11_can_77 : decode cX11_can 77 = .ok (.goto (-49), 3) := dk_167 255 207 (dk_at dksX11_can_3 5 rfl rfl)
theorem dX11_can_80 : decode cX11_can 80 = .ok (.iload_n 3, 1) := dk_29 (dk_at dksX11_can_3 8 rfl rfl)
theorem dX11_can_81 : decode cX11_can 81 = .ok (.ireturn, 1) := dk_172 (dk_at dksX11_can_3 9 rfl rfl)
abbrev cX11_odds : ByteArray := prog_23_method_64_code
def yX11_odds : MethodName := ⟨RX11, "odds", "(IIII)J"⟩
def dkwX11_odds_5 : List UInt8 := [182, 1, 83, 101, 22, 5, 21, 4, 184, 1, 87, 173]
abbrev dktX11_odds_5 : List UInt8 := dkwX11_odds_5 ++ []
def dkwX11_odds_4 : List UInt8 := [17, 0, 151, 16, 13, 28, 104, 96, 29, 96, 46, 158, 0, 7, 10, 167, 0, 20, 22, 5, 42, 27, 28, 29]
abbrev dktX11_odds_4 : List UInt8 := dkwX11_odds_4 ++ dktX11_odds_5
def dkwX11_odds_3 : List UInt8 := [22, 5, 9, 148, 154, 0, 7, 4, 167, 0, 4, 3, 182, 1, 32, 153, 0, 5, 9, 173, 42, 180, 0, 33]
abbrev dktX11_odds_3 : List UInt8 := dkwX11_odds_3 ++ dktX11_odds_4
def dkwX11_odds_2 : List UInt8 := [4, 167, 0, 4, 3, 182, 1, 32, 153, 0, 5, 9, 173, 42, 27, 2, 3, 182, 1, 83, 55, 5, 42]
abbrev dktX11_odds_2 : List UInt8 := dkwX11_odds_2 ++ dktX11_odds_3
def dkwX11_odds_1 : List UInt8 := [182, 1, 29, 153, 0, 21, 21, 4, 3, 4, 184, 0, 195, 153, 0, 11, 42, 27, 182, 1, 80, 154, 0, 7]
abbrev dktX11_odds_1 : List UInt8 := dkwX11_odds_1 ++ dktX11_odds_2
def dkwX11_odds_0 : List UInt8 := [42, 42, 27, 182, 1, 26, 153, 0, 42, 42, 28, 182, 1, 26, 153, 0, 34, 27, 28, 159, 0, 29, 42, 29]
abbrev dktX11_odds_0 : List UInt8 := dkwX11_odds_0 ++ dktX11_odds_1
theorem dksX11_odds_0 : cX11_odds.data.toList.drop 0 = dktX11_odds_0 := by decide +kernel
theorem dksX11_odds_1 : cX11_odds.data.toList.drop 24 = dktX11_odds_1 := dk_seg dksX11_odds_0 24 rfl rfl
theorem dksX11_odds_2 : cX11_odds.data.toList.drop 48 = dktX11_odds_2 := dk_seg dksX11_odds_1 24 rfl rfl
theorem dksX11_odds_3 : cX11_odds.data.toList.drop 71 = dktX11_odds_3 := dk_seg dksX11_odds_2 23 rfl rfl
theorem dksX11_odds_4 : cX11_odds.data.toList.drop 95 = dktX11_odds_4 := dk_seg dksX11_odds_3 24 rfl rfl
theorem dksX11_odds_5 : cX11_odds.data.toList.drop 119 = dktX11_odds_5 := dk_seg dksX11_odds_4 24 rfl rfl
theorem dX11_odds_0 : decode cX11_odds 0 = .ok (.aload_n 0, 1) := dk_42 (dk_at dksX11_odds_0 0 rfl rfl)
theorem dX11_odds_1 : decode cX11_odds 1 = .ok (.aload_n 0, 1) := dk_42 (dk_at dksX11_odds_0 1 rfl rfl)
theorem dX11_odds_2 : decode cX11_odds 2 = .ok (.iload_n 1, 1) := dk_27 (dk_at dksX11_odds_0 2 rfl rfl)
theorem dX11_odds_3 : decode cX11_odds 3 = .ok (.invokevirtual 282, 3) := dk_182 1 26 (dk_at dksX11_odds_0 3 rfl rfl)
theorem dX11_odds_6 : decode cX11_odds 6 = .ok (.ifCond .eq 42, 3) := dk_153 0 42 (dk_at dksX11_odds_0 6 rfl rfl)
theorem dX11_odds_9 : decode cX11_odds 9 = .ok (.aload_n 0, 1) := dk_42 (dk_at dksX11_odds_0 9 rfl rfl)
theorem dX11_odds_10 : decode cX11_odds 10 = .ok (.iload_n 2, 1) := dk_28 (dk_at dksX11_odds_0 10 rfl rfl)
theorem dX11_odds_11 : decode cX11_odds 11 = .ok (.invokevirtual 282, 3) := dk_182 1 26 (dk_at dksX11_odds_0 11 rfl rfl)
theorem dX11_odds_14 : decode cX11_odds 14 = .ok (.ifCond .eq 34, 3) := dk_153 0 34 (dk_at dksX11_odds_0 14 rfl rfl)
theorem dX11_odds_17 : decode cX11_odds 17 = .ok (.iload_n 1, 1) := dk_27 (dk_at dksX11_odds_0 17 rfl rfl)
theorem dX11_odds_18 : decode cX11_odds 18 = .ok (.iload_n 2, 1) := dk_28 (dk_at dksX11_odds_0 18 rfl rfl)
theorem dX11_odds_19 : decode cX11_odds 19 = .ok (.if_icmp .eq 29, 3) := dk_159 0 29 (dk_at dksX11_odds_0 19 rfl rfl)
theorem dX11_odds_22 : decode cX11_odds 22 = .ok (.aload_n 0, 1) := dk_42 (dk_at dksX11_odds_0 22 rfl rfl)
theorem dX11_odds_23 : decode cX11_odds 23 = .ok (.iload_n 3, 1) := dk_29 (dk_at dksX11_odds_0 23 rfl rfl)
theorem dX11_odds_24 : decode cX11_odds 24 = .ok (.invokevirtual 285, 3) := dk_182 1 29 (dk_at dksX11_odds_1 0 rfl rfl)
theorem dX11_odds_27 : decode cX11_odds 27 = .ok (.ifCond .eq 21, 3) := dk_153 0 21 (dk_at dksX11_odds_1 3 rfl rfl)
theorem dX11_odds_30 : decode cX11_odds 30 = .ok (.iload 4, 2) := dk_21 4 (dk_at dksX11_odds_1 6 rfl rfl)
theorem dX11_odds_32 : decode cX11_odds 32 = .ok (.iconst 0, 1) := dk_3 (dk_at dksX11_odds_1 8 rfl rfl)
theorem dX11_odds_33 : decode cX11_odds 33 = .ok (.iconst 1, 1) := dk_4 (dk_at dksX11_odds_1 9 rfl rfl)
theorem dX11_odds_34 : decode cX11_odds 34 = .ok (.invokestatic 195, 3) := dk_184 0 195 (dk_at dksX11_odds_1 10 rfl rfl)
theorem dX11_odds_37 : decode cX11_odds 37 = .ok (.ifCond .eq 11, 3) := dk_153 0 11 (dk_at dksX11_odds_1 13 rfl rfl)
theorem dX11_odds_40 : decode cX11_odds 40 = .ok (.aload_n 0, 1) := dk_42 (dk_at dksX11_odds_1 16 rfl rfl)
theorem dX11_odds_41 : decode cX11_odds 41 = .ok (.iload_n 1, 1) := dk_27 (dk_at dksX11_odds_1 17 rfl rfl)
theorem dX11_odds_42 : decode cX11_odds 42 = .ok (.invokevirtual 336, 3) := dk_182 1 80 (dk_at dksX11_odds_1 18 rfl rfl)
theorem dX11_odds_45 : decode cX11_odds 45 = .ok (.ifCond .ne 7, 3) := dk_154 0 7 (dk_at dksX11_odds_1 21 rfl rfl)
theorem dX11_odds_48 : decode cX11_odds 48 = .ok (.iconst 1, 1) := dk_4 (dk_at dksX11_odds_2 0 rfl rfl)
theorem dX11_odds_49 : decode cX11_odds 49 = .ok (.goto 4, 3) := dk_167 0 4 (dk_at dksX11_odds_2 1 rfl rfl)
theorem dX11_odds_52 : decode cX11_odds 52 = .ok (.iconst 0, 1) := dk_3 (dk_at dksX11_odds_2 4 rfl rfl)
theorem dX11_odds_53 : decode cX11_odds 53 = .ok (.invokevirtual 288, 3) := dk_182 1 32 (dk_at dksX11_odds_2 5 rfl rfl)
theorem dX11_odds_56 : decode cX11_odds 56 = .ok (.ifCond .eq 5, 3) := dk_153 0 5 (dk_at dksX11_odds_2 8 rfl rfl)
theorem dX11_odds_59 : decode cX11_odds 59 = .ok (.lconst 0, 1) := dk_9 (dk_at dksX11_odds_2 11 rfl rfl)
theorem dX11_odds_60 : decode cX11_odds 60 = .ok (.lreturn, 1) := dk_173 (dk_at dksX11_odds_2 12 rfl rfl)
theorem dX11_odds_61 : decode cX11_odds 61 = .ok (.aload_n 0, 1) := dk_42 (dk_at dksX11_odds_2 13 rfl rfl)
theorem dX11_odds_62 : decode cX11_odds 62 = .ok (.iload_n 1, 1) := dk_27 (dk_at dksX11_odds_2 14 rfl rfl)
theorem dX11_odds_63 : decode cX11_odds 63 = .ok (.iconst (-1), 1) := dk_2 (dk_at dksX11_odds_2 15 rfl rfl)
theorem dX11_odds_64 : decode cX11_odds 64 = .ok (.iconst 0, 1) := dk_3 (dk_at dksX11_odds_2 16 rfl rfl)
theorem dX11_odds_65 : decode cX11_odds 65 = .ok (.invokevirtual 339, 3) := dk_182 1 83 (dk_at dksX11_odds_2 17 rfl rfl)
theorem dX11_odds_68 : decode cX11_odds 68 = .ok (.lstore 5, 2) := dk_55 5 (dk_at dksX11_odds_2 20 rfl rfl)
theorem dX11_odds_70 : decode cX11_odds 70 = .ok (.aload_n 0, 1) := dk_42 (dk_at dksX11_odds_2 22 rfl rfl)
theorem dX11_odds_71 : decode cX11_odds 71 = .ok (.lload 5, 2) := dk_22 5 (dk_at dksX11_odds_3 0 rfl rfl)
theorem dX11_odds_73 : decode cX11_odds 73 = .ok (.lconst 0, 1) := dk_9 (dk_at dksX11_odds_3 2 rfl rfl)
theorem dX11_odds_74 : decode cX11_odds 74 = .ok (.lcmp, 1) := dk_148 (dk_at dksX11_odds_3 3 rfl rfl)
theorem dX11_odds_75 : decode cX11_odds 75 = .ok (.ifCond .ne 7, 3) := dk_154 0 7 (dk_at dksX11_odds_3 4 rfl rfl)
theorem dX11_odds_78 : decode cX11_odds 78 = .ok (.iconst 1, 1) := dk_4 (dk_at dksX11_odds_3 7 rfl rfl)
theorem dX11_odds_79 : decode cX11_odds 79 = .ok (.goto 4, 3) := dk_167 0 4 (dk_at dksX11_odds_3 8 rfl rfl)
theorem dX11_odds_82 : decode cX11_odds 82 = .ok (.iconst 0, 1) := dk_3 (dk_at dksX11_odds_3 11 rfl rfl)
theorem dX11_odds_83 : decode cX11_odds 83 = .ok (.invokevirtual 288, 3) := dk_182 1 32 (dk_at dksX11_odds_3 12 rfl rfl)
theorem dX11_odds_86 : decode cX11_odds 86 = .ok (.ifCond .eq 5, 3) := dk_153 0 5 (dk_at dksX11_odds_3 15 rfl rfl)
theorem dX11_odds_89 : decode cX11_odds 89 = .ok (.lconst 0, 1) := dk_9 (dk_at dksX11_odds_3 18 rfl rfl)
theorem dX11_odds_90 : decode cX11_odds 90 = .ok (.lreturn, 1) := dk_173 (dk_at dksX11_odds_3 19 rfl rfl)
theorem dX11_odds_91 : decode cX11_odds 91 = .ok (.aload_n 0, 1) := dk_42 (dk_at dksX11_odds_3 20 rfl rfl)
theorem dX11_odds_92 : decode cX11_odds 92 = .ok (.getfield 33, 3) := dk_180 0 33 (dk_at dksX11_odds_3 21 rfl rfl)
theorem dX11_odds_95 : decode cX11_odds 95 = .ok (.sipush 151, 3) := dk_17 0 151 (dk_at dksX11_odds_4 0 rfl rfl)
theorem dX11_odds_98 : decode cX11_odds 98 = .ok (.bipush 13, 2) := dk_16 13 (dk_at dksX11_odds_4 3 rfl rfl)
theorem dX11_odds_100 : decode cX11_odds 100 = .ok (.iload_n 2, 1) := dk_28 (dk_at dksX11_odds_4 5 rfl rfl)
theorem dX11_odds_101 : decode cX11_odds 101 = .ok (.imul, 1) := dk_104 (dk_at dksX11_odds_4 6 rfl rfl)
theorem dX11_odds_102 : decode cX11_odds 102 = .ok (.iadd, 1) := dk_96 (dk_at dksX11_odds_4 7 rfl rfl)
theorem dX11_odds_103 : decode cX11_odds 103 = .ok (.iload_n 3, 1) := dk_29 (dk_at dksX11_odds_4 8 rfl rfl)
theorem dX11_odds_104 : decode cX11_odds 104 = .ok (.iadd, 1) := dk_96 (dk_at dksX11_odds_4 9 rfl rfl)
theorem dX11_odds_105 : decode cX11_odds 105 = .ok (.iaload, 1) := dk_46 (dk_at dksX11_odds_4 10 rfl rfl)
theorem dX11_odds_106 : decode cX11_odds 106 = .ok (.ifCond .le 7, 3) := dk_158 0 7 (dk_at dksX11_odds_4 11 rfl rfl)
theorem dX11_odds_109 : decode cX11_odds 109 = .ok (.lconst 1, 1) := dk_10 (dk_at dksX11_odds_4 14 rfl rfl)
theorem dX11_odds_110 : decode cX11_odds 110 = .ok (.goto 20, 3) := dk_167 0 20 (dk_at dksX11_odds_4 15 rfl rfl)
theorem dX11_odds_113 : decode cX11_odds 113 = .ok (.lload 5, 2) := dk_22 5 (dk_at dksX11_odds_4 18 rfl rfl)
theorem dX11_odds_115 : decode cX11_odds 115 = .ok (.aload_n 0, 1) := dk_42 (dk_at dksX11_odds_4 20 rfl rfl)
theorem dX11_odds_116 : decode cX11_odds 116 = .ok (.iload_n 1, 1) := dk_27 (dk_at dksX11_odds_4 21 rfl rfl)
theorem dX11_odds_117 : decode cX11_odds 117 = .ok (.iload_n 2, 1) := dk_28 (dk_at dksX11_odds_4 22 rfl rfl)
theorem dX11_odds_118 : decode cX11_odds 118 = .ok (.iload_n 3, 1) := dk_29 (dk_at dksX11_odds_4 23 rfl rfl)
theorem dX11_odds_119 : decode cX11_odds 119 = .ok (.invokevirtual 339, 3) := dk_182 1 83 (dk_at dksX11_odds_5 0 rfl rfl)
theorem dX11_odds_122 : decode cX11_odds 122 = .ok (.lsub, 1) := dk_101 (dk_at dksX11_odds_5 3 rfl rfl)
theorem dX11_odds_123 : decode cX11_odds 123 = .ok (.lload 5, 2) := dk_22 5 (dk_at dksX11_odds_5 4 rfl rfl)
theorem dX11_odds_125 : decode cX11_odds 125 = .ok (.iload 4, 2) := dk_21 4 (dk_at dksX11_odds_5 6 rfl rfl)
theorem dX11_odds_127 : decode cX11_odds 127 = .ok (.invokestatic 343, 3) := dk_184 1 87 (dk_at dksX11_odds_5 8 rfl rfl)
theorem dX11_odds_130 : decode cX11_odds 130 = .ok (.lreturn, 1) := dk_173 (dk_at dksX11_odds_5 11 rfl rfl)
abbrev cX11_looks : ByteArray := prog_23_method_59_code
def yX11_looks : MethodName := ⟨RX11, "looks", "(I)Z"⟩
def dkwX11_looks_10 : List UInt8 := [163, 0, 7, 4, 167, 0, 4, 3, 172]
abbrev dktX11_looks_10 : List UInt8 := dkwX11_looks_10 ++ []
def dkwX11_looks_9 : List UInt8 := [42, 180, 0, 59, 28, 46, 96, 181, 1, 67, 132, 2, 1, 167, 255, 95, 42, 180, 1, 70, 16, 12]
abbrev dktX11_looks_9 : List UInt8 := dkwX11_looks_9 ++ dktX11_looks_10
def dkwX11_looks_8 : List UInt8 := [180, 0, 62, 42, 180, 1, 64, 28, 79, 42, 89, 180, 1, 64, 4, 96, 181, 1, 64, 42, 89, 180, 1, 67]
abbrev dktX11_looks_8 : List UInt8 := dkwX11_looks_8 ++ dktX11_looks_9
def dkwX11_looks_7 : List UInt8 := [180, 0, 59, 28, 46, 157, 0, 6, 167, 0, 49, 42, 180, 1, 64, 16, 6, 160, 0, 5, 3, 172, 42]
abbrev dktX11_looks_7 : List UInt8 := dkwX11_looks_7 ++ dktX11_looks_8
def dkwX11_looks_6 : List UInt8 := [42, 180, 0, 33, 17, 0, 151, 16, 13, 29, 104, 96, 28, 96, 46, 100, 79, 132, 3, 1, 167, 255, 210, 42]
abbrev dktX11_looks_6 : List UInt8 := dkwX11_looks_6 ++ dktX11_looks_7
def dkwX11_looks_5 : List UInt8 := [180, 0, 33, 4, 46, 162, 0, 42, 42, 180, 0, 59, 28, 92, 46, 29, 27, 160, 0, 7, 3, 167, 0, 18]
abbrev dktX11_looks_5 : List UInt8 := dkwX11_looks_5 ++ dktX11_looks_6
def dkwX11_looks_4 : List UInt8 := [158, 0, 7, 7, 167, 0, 4, 3, 100, 42, 27, 28, 3, 182, 0, 255, 100, 79, 3, 62, 29, 42]
abbrev dktX11_looks_4 : List UInt8 := dkwX11_looks_4 ++ dktX11_looks_5
def dkwX11_looks_3 : List UInt8 := [180, 0, 59, 28, 42, 180, 0, 33, 17, 2, 59, 28, 96, 46, 42, 180, 0, 33, 17, 0, 138, 28, 96, 46]
abbrev dktX11_looks_3 : List UInt8 := dkwX11_looks_3 ++ dktX11_looks_4
def dkwX11_looks_2 : List UInt8 := [28, 96, 46, 96, 181, 1, 70, 132, 2, 1, 167, 255, 215, 3, 61, 28, 16, 13, 162, 0, 161, 42]
abbrev dktX11_looks_2 : List UInt8 := dkwX11_looks_2 ++ dktX11_looks_3
def dkwX11_looks_1 : List UInt8 := [162, 0, 37, 42, 89, 180, 1, 70, 28, 27, 160, 0, 7, 3, 167, 0, 13, 42, 180, 0, 33, 17, 0, 229]
abbrev dktX11_looks_1 : List UInt8 := dkwX11_looks_1 ++ dktX11_looks_2
def dkwX11_looks_0 : List UInt8 := [42, 3, 181, 1, 64, 42, 3, 181, 1, 67, 42, 3, 181, 1, 70, 3, 61, 28, 42, 180, 0, 33, 4, 46]
abbrev dktX11_looks_0 : List UInt8 := dkwX11_looks_0 ++ dktX11_looks_1
theorem dksX11_looks_0 : cX11_looks.data.toList.drop 0 = dktX11_looks_0 := by decide +kernel
theorem dksX11_looks_1 : cX11_looks.data.toList.drop 24 = dktX11_looks_1 := dk_seg dksX11_looks_0 24 rfl rfl
theorem dksX11_looks_2 : cX11_looks.data.toList.drop 48 = dktX11_looks_2 := dk_seg dksX11_looks_1 24 rfl rfl
theorem dksX11_looks_3 : cX11_looks.data.toList.drop 70 = dktX11_looks_3 := dk_seg dksX11_looks_2 22 rfl rfl
theorem dksX11_looks_4 : cX11_looks.data.toList.drop 94 = dktX11_looks_4 := dk_seg dksX11_looks_3 24 rfl rfl
theorem dksX11_looks_5 : cX11_looks.data.toList.drop 116 = dktX11_looks_5 := dk_seg dksX11_looks_4 22 rfl rfl
theorem dksX11_looks_6 : cX11_looks.data.toList.drop 140 = dktX11_looks_6 := dk_seg dksX11_looks_5 24 rfl rfl
theorem dksX11_looks_7 : cX11_looks.data.toList.drop 164 = dktX11_looks_7 := dk_seg dksX11_looks_6 24 rfl rfl
theorem dksX11_looks_8 : cX11_looks.data.toList.drop 187 = dktX11_looks_8 := dk_seg dksX11_looks_7 23 rfl rfl
theorem dksX11_looks_9 : cX11_looks.data.toList.drop 211 = dktX11_looks_9 := dk_seg dksX11_looks_8 24 rfl rfl
theorem dksX11_looks_10 : cX11_looks.data.toList.drop 233 = dktX11_looks_10 := dk_seg dksX11_looks_9 22 rfl rfl
theorem dX11_looks_0 : decode cX11_looks 0 = .ok (.aload_n 0, 1) := dk_42 (dk_at dksX11_looks_0 0 rfl rfl)
theorem dX11_looks_1 : decode cX11_looks 1 = .ok (.iconst 0, 1) := dk_3 (dk_at dksX11_looks_0 1 rfl rfl)
theorem dX11_looks_2 : decode cX11_looks 2 = .ok (.putfield 320, 3) := dk_181 1 64 (dk_at dksX11_looks_0 2 rfl rfl)
theorem dX11_looks_5 : decode cX11_looks 5 = .ok (.aload_n 0, 1) := dk_42 (dk_at dksX11_looks_0 5 rfl rfl)
theorem dX11_looks_6 : decode cX11_looks 6 = .ok (.iconst 0, 1) := dk_3 (dk_at dksX11_looks_0 6 rfl rfl)
theorem dX11_looks_7 : decode cX11_looks 7 = .ok (.putfield 323, 3) := dk_181 1 67 (dk_at dksX11_looks_0 7 rfl rfl)
theorem dX11_looks_10 : decode cX11_looks 10 = .ok (.aload_n 0, 1) := dk_42 (dk_at dksX11_looks_0 10 rfl rfl)
theorem dX11_looks_11 : decode cX11_looks 11 = .ok (.iconst 0, 1) := dk_3 (dk_at dksX11_looks_0 11 rfl rfl)
theorem dX11_looks_12 : decode cX11_looks 12 = .ok (.putfield 326, 3) := dk_181 1 70 (dk_at dksX11_looks_0 12 rfl rfl)
theorem dX11_looks_15 : decode cX11_looks 15 = .ok (.iconst 0, 1) := dk_3 (dk_at dksX11_looks_0 15 rfl rfl)
theorem dX11_looks_16 : decode cX11_looks 16 = .ok (.istore_n 2, 1) := dk_61 (dk_at dksX11_looks_0 16 rfl rfl)
theorem dX11_looks_17 : decode cX11_looks 17 = .ok (.iload_n 2, 1) := dk_28 (dk_at dksX11_looks_0 17 rfl rfl)
theorem dX11_looks_18 : decode cX11_looks 18 = .ok (.aload_n 0, 1) := dk_42 (dk_at dksX11_looks_0 18 rfl rfl)
theorem dX11_looks_19 : decode cX11_looks 19 = .ok (.getfield 33, 3) := dk_180 0 33 (dk_at dksX11_looks_0 19 rfl rfl)
theorem dX11_looks_22 : decode cX11_looks 22 = .ok (.iconst 1, 1) := dk_4 (dk_at dksX11_looks_0 22 rfl rfl)
theorem dX11_looks_23 : decode cX11_looks 23 = .ok (.iaload, 1) := dk_46 (dk_at dksX11_looks_0 23 rfl rfl)
theorem dX11_looks_24 : decode cX11_looks 24 = .ok (.if_icmp .ge 37, 3) := dk_162 0 37 (dk_at dksX11_looks_1 0 rfl rfl)
theorem dX11_looks_27 : decode cX11_looks 27 = .ok (.aload_n 0, 1) := dk_42 (dk_at dksX11_looks_1 3 rfl rfl)
theorem dX11_looks_28 : decode cX11_looks 28 = .ok (.dup, 1) := dk_89 (dk_at dksX11_looks_1 4 rfl rfl)
theorem dX11_looks_29 : decode cX11_looks 29 = .ok (.getfield 326, 3) := dk_180 1 70 (dk_at dksX11_looks_1 5 rfl rfl)
theorem dX11_looks_32 : decode cX11_looks 32 = .ok (.iload_n 2, 1) := dk_28 (dk_at dksX11_looks_1 8 rfl rfl)
theorem dX11_looks_33 : decode cX11_looks 33 = .ok (.iload_n 1, 1) := dk_27 (dk_at dksX11_looks_1 9 rfl rfl)
theorem dX11_looks_34 : decode cX11_looks 34 = .ok (.if_icmp .ne 7, 3) := dk_160 0 7 (dk_at dksX11_looks_1 10 rfl rfl)
theorem dX11_looks_37 : decode cX11_looks 37 = .ok (.iconst 0, 1) := dk_3 (dk_at dksX11_looks_1 13 rfl rfl)
theorem dX11_looks_38 : decode cX11_looks 38 = .ok (.goto 13, 3) := dk_167 0 13 (dk_at dksX11_looks_1 14 rfl rfl)
theorem dX11_looks_41 : decode cX11_looks 41 = .ok (.aload_n 0, 1) := dk_42 (dk_at dksX11_looks_1 17 rfl rfl)
theorem dX11_looks_42 : decode cX11_looks 42 = .ok (.getfield 33, 3) := dk_180 0 33 (dk_at dksX11_looks_1 18 rfl rfl)
theorem dX11_looks_45 : decode cX11_looks 45 = .ok (.sipush 229, 3) := dk_17 0 229 (dk_at dksX11_looks_1 21 rfl rfl)
theorem dX11_looks_48 : decode cX11_looks 48 = .ok (.iload_n 2, 1) := dk_28 (dk_at dksX11_looks_2 0 rfl rfl)
theorem dX11_looks_49 : decode cX11_looks 49 = .ok (.iadd, 1) := dk_96 (dk_at dksX11_looks_2 1 rfl rfl)
theorem dX11_looks_50 : decode cX11_looks 50 = .ok (.iaload, 1) := dk_46 (dk_at dksX11_looks_2 2 rfl rfl)
theorem dX11_looks_51 : decode cX11_looks 51 = .ok (.iadd, 1) := dk_96 (dk_at dksX11_looks_2 3 rfl rfl)
theorem dX11_looks_52 : decode cX11_looks 52 = .ok (.putfield 326, 3) := dk_181 1 70 (dk_at dksX11_looks_2 4 rfl rfl)
theorem dX11_looks_55 : decode cX11_looks 55 = .ok (.iinc 2 1, 3) := dk_132 2 1 (dk_at dksX11_looks_2 7 rfl rfl)
theorem dX11_looks_58 : decode cX11_looks 58 = .ok (.goto (-41), 3) := dk_167 255 215 (dk_at dksX11_looks_2 10 rfl rfl)
theorem dX11_looks_61 : decode cX11_looks 61 = .ok (.iconst 0, 1) := dk_3 (dk_at dksX11_looks_2 13 rfl rfl)
theorem dX11_looks_62 : decode cX11_looks 62 = .ok (.istore_n 2, 1) := dk_61 (dk_at dksX11_looks_2 14 rfl rfl)
theorem dX11_looks_63 : decode cX11_looks 63 = .ok (.iload_n 2, 1) := dk_28 (dk_at dksX11_looks_2 15 rfl rfl)
theorem dX11_looks_64 : decode cX11_looks 64 = .ok (.bipush 13, 2) := dk_16 13 (dk_at dksX11_looks_2 16 rfl rfl)
theorem dX11_looks_66 : decode cX11_looks 66 = .ok (.if_icmp .ge 161, 3) := dk_162 0 161 (dk_at dksX11_looks_2 18 rfl rfl)
theorem dX11_looks_69 : decode cX11_looks 69 = .ok (.aload_n 0, 1) := dk_42 (dk_at dksX11_looks_2 21 rfl rfl)
theorem dX11_looks_70 : decode cX11_looks 70 = .ok (.getfield 59, 3) := dk_180 0 59 (dk_at dksX11_looks_3 0 rfl rfl)
theorem dX11_looks_73 : decode cX11_looks 73 = .ok (.iload_n 2, 1) := dk_28 (dk_at dksX11_looks_3 3 rfl rfl)
theorem dX11_looks_74 : decode cX11_looks 74 = .ok (.aload_n 0, 1) := dk_42 (dk_at dksX11_looks_3 4 rfl rfl)
theorem dX11_looks_75 : decode cX11_looks 75 = .ok (.getfield 33, 3) := dk_180 0 33 (dk_at dksX11_looks_3 5 rfl rfl)
theorem dX11_looks_78 : decode cX11_looks 78 = .ok (.sipush 571, 3) := dk_17 2 59 (dk_at dksX11_looks_3 8 rfl rfl)
theorem dX11_looks_81 : decode cX11_looks 81 = .ok (.iload_n 2, 1) := dk_28 (dk_at dksX11_looks_3 11 rfl rfl)
theorem dX11_looks_82 : decode cX11_looks 82 = .ok (.iadd, 1) := dk_96 (dk_at dksX11_looks_3 12 rfl rfl)
theorem dX11_looks_83 : decode cX11_looks 83 = .ok (.iaload, 1) := dk_46 (dk_at dksX11_looks_3 13 rfl rfl)
theorem dX11_looks_84 : decode cX11_looks 84 = .ok (.aload_n 0, 1) := dk_42 (dk_at dksX11_looks_3 14 rfl rfl)
theorem dX11_looks_85 : decode cX11_looks 85 = .ok (.getfield 33, 3) := dk_180 0 33 (dk_at dksX11_looks_3 15 rfl rfl)
theorem dX11_looks_88 : decode cX11_looks 88 = .ok (.sipush 138, 3) := dk_17 0 138 (dk_at dksX11_looks_3 18 rfl rfl)
theorem dX11_looks_91 : decode cX11_looks 91 = .ok (.iload_n 2, 1) := dk_28 (dk_at dksX11_looks_3 21 rfl rfl)
theorem dX11_looks_92 : decode cX11_looks 92 = .ok (.iadd, 1) := dk_96 (dk_at dksX11_looks_3 22 rfl rfl)
theorem dX11_looks_93 : decode cX11_looks 93 = .ok (.iaload, 1) := dk_46 (dk_at dksX11_looks_3 23 rfl rfl)
theorem dX11_looks_94 : decode cX11_looks 94 = .ok (.ifCond .le 7, 3) := dk_158 0 7 (dk_at dksX11_looks_4 0 rfl rfl)
theorem dX11_looks_97 : decode cX11_looks 97 = .ok (.iconst 4, 1) := dk_7 (dk_at dksX11_looks_4 3 rfl rfl)
theorem dX11_looks_98 : decode cX11_looks 98 = .ok (.goto 4, 3) := dk_167 0 4 (dk_at dksX11_looks_4 4 rfl rfl)
theorem dX11_looks_101 : decode cX11_looks 101 = .ok (.iconst 0, 1) := dk_3 (dk_at dksX11_looks_4 7 rfl rfl)
theorem dX11_looks_102 : decode cX11_looks 102 = .ok (.isub, 1) := dk_100 (dk_at dksX11_looks_4 8 rfl rfl)
theorem dX11_looks_103 : decode cX11_looks 103 = .ok (.aload_n 0, 1) := dk_42 (dk_at dksX11_looks_4 9 rfl rfl)
theorem dX11_looks_104 : decode cX11_looks 104 = .ok (.iload_n 1, 1) := dk_27 (dk_at dksX11_looks_4 10 rfl rfl)
theorem dX11_looks_105 : decode cX11_looks 105 = .ok (.iload_n 2, 1) := dk_28 (dk_at dksX11_looks_4 11 rfl rfl)
theorem dX11_looks_106 : decode cX11_looks 106 = .ok (.iconst 0, 1) := dk_3 (dk_at dksX11_looks_4 12 rfl rfl)
theorem dX11_looks_107 : decode cX11_looks 107 = .ok (.invokevirtual 255, 3) := dk_182 0 255 (dk_at dksX11_looks_4 13 rfl rfl)
theorem dX11_looks_110 : decode cX11_looks 110 = .ok (.isub, 1) := dk_100 (dk_at dksX11_looks_4 16 rfl rfl)
theorem dX11_looks_111 : decode cX11_looks 111 = .ok (.iastore, 1) := dk_79 (dk_at dksX11_looks_4 17 rfl rfl)
theorem dX11_looks_112 : decode cX11_looks 112 = .ok (.iconst 0, 1) := dk_3 (dk_at dksX11_looks_4 18 rfl rfl)
theorem dX11_looks_113 : decode cX11_looks 113 = .ok (.istore_n 3, 1) := dk_62 (dk_at dksX11_looks_4 19 rfl rfl)
theorem dX11_looks_114 : decode cX11_looks 114 = .ok (.iload_n 3, 1) := dk_29 (dk_at dksX11_looks_4 20 rfl rfl)
theorem dX11_looks_115 : decode cX11_looks 115 = .ok (.aload_n 0, 1) := dk_42 (dk_at dksX11_looks_4 21 rfl rfl)
theorem dX11_looks_116 : decode cX11_looks 116 = .ok (.getfield 33, 3) := dk_180 0 33 (dk_at dksX11_looks_5 0 rfl rfl)
theorem dX11_looks_119 : decode cX11_looks 119 = .ok (.iconst 1, 1) := dk_4 (dk_at dksX11_looks_5 3 rfl rfl)
theorem dX11_looks_120 : decode cX11_looks 120 = .ok (.iaload, 1) := dk_46 (dk_at dksX11_looks_5 4 rfl rfl)
theorem dX11_looks_121 : decode cX11_looks 121 = .ok (.if_icmp .ge 42, 3) := dk_162 0 42 (dk_at dksX11_looks_5 5 rfl rfl)
theorem dX11_looks_124 : decode cX11_looks 124 = .ok (.aload_n 0, 1) := dk_42 (dk_at dksX11_looks_5 8 rfl rfl)
theorem dX11_looks_125 : decode cX11_looks 125 = .ok (.getfield 59, 3) := dk_180 0 59 (dk_at dksX11_looks_5 9 rfl rfl)
theorem dX11_looks_128 : decode cX11_looks 128 = .ok (.iload_n 2, 1) := dk_28 (dk_at dksX11_looks_5 12 rfl rfl)
theorem dX11_looks_129 : decode cX11_looks 129 = .ok (.dup2, 1) := dk_92 (dk_at dksX11_looks_5 13 rfl rfl)
theorem dX11_looks_130 : decode cX11_looks 130 = .ok (.iaload, 1) := dk_46 (dk_at dksX11_looks_5 14 rfl rfl)
theorem dX11_looks_131 : decode cX11_looks 131 = .ok (.iload_n 3, 1) := dk_29 (dk_at dksX11_looks_5 15 rfl rfl)
theorem dX11_looks_132 : decode cX11_looks 132 = .ok (.iload_n 1, 1) := dk_27 (dk_at dksX11_looks_5 16 rfl rfl)
theorem dX11_looks_133 : decode cX11_looks 133 = .ok (.if_icmp .ne 7, 3) := dk_160 0 7 (dk_at dksX11_looks_5 17 rfl rfl)
theorem dX11_looks_136 : decode cX11_looks 136 = .ok (.iconst 0, 1) := dk_3 (dk_at dksX11_looks_5 20 rfl rfl)
theorem dX11_looks_137 : decode cX11_looks 137 = .ok (.goto 18, 3) := dk_167 0 18 (dk_at dksX11_looks_5 21 rfl rfl)
theorem dX11_looks_140 : decode cX11_looks 140 = .ok (.aload_n 0, 1) := dk_42 (dk_at dksX11_looks_6 0 rfl rfl)
theorem dX11_looks_141 : decode cX11_looks 141 = .ok (.getfield 33, 3) := dk_180 0 33 (dk_at dksX11_looks_6 1 rfl rfl)
theorem dX11_looks_144 : decode cX11_looks 144 = .ok (.sipush 151, 3) := dk_17 0 151 (dk_at dksX11_looks_6 4 rfl rfl)
theorem dX11_looks_147 : decode cX11_looks 147 = .ok (.bipush 13, 2) := dk_16 13 (dk_at dksX11_looks_6 7 rfl rfl)
theorem dX11_looks_149 : decode cX11_looks 149 = .ok (.iload_n 3, 1) := dk_29 (dk_at dksX11_looks_6 9 rfl rfl)
theorem dX11_looks_150 : decode cX11_looks 150 = .ok (.imul, 1) := dk_104 (dk_at dksX11_looks_6 10 rfl rfl)
theorem dX11_looks_151 : decode cX11_looks 151 = .ok (.iadd, 1) := dk_96 (dk_at dksX11_looks_6 11 rfl rfl)
theorem dX11_looks_152 : decode cX11_looks 152 = .ok (.iload_n 2, 1) := dk_28 (dk_at dksX11_looks_6 12 rfl rfl)
theorem dX11_looks_153 : decode cX11_looks 153 = .ok (.iadd, 1) := dk_96 (dk_at dksX11_looks_6 13 rfl rfl)
theorem dX11_looks_154 : decode cX11_looks 154 = .ok (.iaload, 1) := dk_46 (dk_at dksX11_looks_6 14 rfl rfl)
theorem dX11_looks_155 : decode cX11_looks 155 = .ok (.isub, 1) := dk_100 (dk_at dksX11_looks_6 15 rfl rfl)
theorem dX11_looks_156 : decode cX11_looks 156 = .ok (.iastore, 1) := dk_79 (dk_at dksX11_looks_6 16 rfl rfl)
theorem dX11_looks_157 : decode cX11_looks 157 = .ok (.iinc 3 1, 3) := dk_132 3 1 (dk_at dksX11_looks_6 17 rfl rfl)
theorem dX11_looks_160 : decode cX11_looks 160 = .ok (.goto (-46), 3) := dk_167 255 210 (dk_at dksX11_looks_6 20 rfl rfl)
theorem dX11_looks_163 : decode cX11_looks 163 = .ok (.aload_n 0, 1) := dk_42 (dk_at dksX11_looks_6 23 rfl rfl)
theorem dX11_looks_164 : decode cX11_looks 164 = .ok (.getfield 59, 3) := dk_180 0 59 (dk_at dksX11_looks_7 0 rfl rfl)
theorem dX11_looks_167 : decode cX11_looks 167 = .ok (.iload_n 2, 1) := dk_28 (dk_at dksX11_looks_7 3 rfl rfl)
theorem dX11_looks_168 : decode cX11_looks 168 = .ok (.iaload, 1) := dk_46 (dk_at dksX11_looks_7 4 rfl rfl)
theorem dX11_looks_169 : decode cX11_looks 169 = .ok (.ifCond .gt 6, 3) := dk_157 0 6 (dk_at dksX11_looks_7 5 rfl rfl)
theorem dX11_looks_172 : decode cX11_looks 172 = .ok (.goto 49, 3) := dk_167 0 49 (dk_at dksX11_looks_7 8 rfl rfl)
theorem dX11_looks_175 : decode cX11_looks 175 = .ok (.aload_n 0, 1) := dk_42 (dk_at dksX11_looks_7 11 rfl rfl)
theorem dX11_looks_176 : decode cX11_looks 176 = .ok (.getfield 320, 3) := dk_180 1 64 (dk_at dksX11_looks_7 12 rfl rfl)
theorem dX11_looks_179 : decode cX11_looks 179 = .ok (.bipush 6, 2) := dk_16 6 (dk_at dksX11_looks_7 15 rfl rfl)
theorem dX11_looks_181 : decode cX11_looks 181 = .ok (.if_icmp .ne 5, 3) := dk_160 0 5 (dk_at dksX11_looks_7 17 rfl rfl)
theorem dX11_looks_184 : decode cX11_looks 184 = .ok (.iconst 0, 1) := dk_3 (dk_at dksX11_looks_7 20 rfl rfl)
theorem dX11_looks_185 : decode cX11_looks 185 = .ok (.ireturn, 1) := dk_172 (dk_at dksX11_looks_7 21 rfl rfl)
theorem dX11_looks_186 : decode cX11_looks 186 = .ok (.aload_n 0, 1) := dk_42 (dk_at dksX11_looks_7 22 rfl rfl)
theorem dX11_looks_187 : decode cX11_looks 187 = .ok (.getfield 62, 3) := dk_180 0 62 (dk_at dksX11_looks_8 0 rfl rfl)
theorem dX11_looks_190 : decode cX11_looks 190 = .ok (.aload_n 0, 1) := dk_42 (dk_at dksX11_looks_8 3 rfl rfl)
theorem dX11_looks_191 : decode cX11_looks 191 = .ok (.getfield 320, 3) := dk_180 1 64 (dk_at dksX11_looks_8 4 rfl rfl)
theorem dX11_looks_194 : decode cX11_looks 194 = .ok (.iload_n 2, 1) := dk_28 (dk_at dksX11_looks_8 7 rfl rfl)
theorem dX11_looks_195 : decode cX11_looks 195 = .ok (.iastore, 1) := dk_79 (dk_at dksX11_looks_8 8 rfl rfl)
theorem dX11_looks_196 : decode cX11_looks 196 = .ok (.aload_n 0, 1) := dk_42 (dk_at dksX11_looks_8 9 rfl rfl)
theorem dX11_looks_197 : decode cX11_looks 197 = .ok (.dup, 1) := dk_89 (dk_at dksX11_looks_8 10 rfl rfl)
theorem dX11_looks_198 : decode cX11_looks 198 = .ok (.getfield 320, 3) := dk_180 1 64 (dk_at dksX11_looks_8 11 rfl rfl)
theorem dX11_looks_201 : decode cX11_looks 201 = .ok (.iconst 1, 1) := dk_4 (dk_at dksX11_looks_8 14 rfl rfl)
theorem dX11_looks_202 : decode cX11_looks 202 = .ok (.iadd, 1) := dk_96 (dk_at dksX11_looks_8 15 rfl rfl)
theorem dX11_looks_203 : decode cX11_looks 203 = .ok (.putfield 320, 3) := dk_181 1 64 (dk_at dksX11_looks_8 16 rfl rfl)
theorem dX11_looks_206 : decode cX11_looks 206 = .ok (.aload_n 0, 1) := dk_42 (dk_at dksX11_looks_8 19 rfl rfl)
theorem dX11_looks_207 : decode cX11_looks 207 = .ok (.dup, 1) := dk_89 (dk_at dksX11_looks_8 20 rfl rfl)
theorem dX11_looks_208 : decode cX11_looks 208 = .ok (.getfield 323, 3) := dk_180 1 67 (dk_at dksX11_looks_8 21 rfl rfl)
theorem dX11_looks_211 : decode cX11_looks 211 = .ok (.aload_n 0, 1) := dk_42 (dk_at dksX11_looks_9 0 rfl rfl)
theorem dX11_looks_212 : decode cX11_looks 212 = .ok (.getfield 59, 3) := dk_180 0 59 (dk_at dksX11_looks_9 1 rfl rfl)
theorem dX11_looks_215 : decode cX11_looks 215 = .ok (.iload_n 2, 1) := dk_28 (dk_at dksX11_looks_9 4 rfl rfl)
theorem dX11_looks_216 : decode cX11_looks 216 = .ok (.iaload, 1) := dk_46 (dk_at dksX11_looks_9 5 rfl rfl)
theorem dX11_looks_217 : decode cX11_looks 217 = .ok (.iadd, 1) := dk_96 (dk_at dksX11_looks_9 6 rfl rfl)
theorem dX11_looks_218 : decode cX11_looks 218 = .ok (.putfield 323, 3) := dk_181 1 67 (dk_at dksX11_looks_9 7 rfl rfl)
theorem dX11_looks_221 : decode cX11_looks 221 = .ok (.iinc 2 1, 3) := dk_132 2 1 (dk_at dksX11_looks_9 10 rfl rfl)
theorem dX11_looks_224 : decode cX11_looks 224 = .ok (.goto (-161), 3) := dk_167 255 95 (dk_at dksX11_looks_9 13 rfl rfl)
theorem dX11_looks_227 : decode cX11_looks 227 = .ok (.aload_n 0, 1) := dk_42 (dk_at dksX11_looks_9 16 rfl rfl)
theorem dX11_looks_228 : decode cX11_looks 228 = .ok (.getfield 326, 3) := dk_180 1 70 (dk_at dksX11_looks_9 17 rfl rfl)
theorem dX11_looks_231 : decode cX11_looks 231 = .ok (.bipush 12, 2) := dk_16 12 (dk_at dksX11_looks_9 20 rfl rfl)
theorem dX11_looks_233 : decode cX11_looks 233 = .ok (.if_icmp .gt 7, 3) := dk_163 0 7 (dk_at dksX11_looks_10 0 rfl rfl)
theorem dX11_looks_236 : decode cX11_looks 236 = .ok (.iconst 1, 1) := dk_4 (dk_at dksX11_looks_10 3 rfl rfl)
theorem dX11_looks_237 : decode cX11_looks 237 = .ok (.goto 4, 3) := dk_167 0 4 (dk_at dksX11_looks_10 4 rfl rfl)
theorem dX11_looks_240 : decode cX11_looks 240 = .ok (.iconst 0, 1) := dk_3 (dk_at dksX11_looks_10 7 rfl rfl)
theorem dX11_looks_241 : decode cX11_looks 241 = .ok (.ireturn, 1) := dk_172 (dk_at dksX11_looks_10 8 rfl rfl)
abbrev cX11_waysOf : ByteArray := prog_23_method_61_code
def yX11_waysOf : MethodName := ⟨RX11, "waysOf", "(III)J"⟩
def dkwX11_waysOf_15 : List UInt8 := [42, 180, 0, 68, 21, 7, 47, 97, 55, 5, 132, 7, 1, 167, 255, 234, 22, 5, 173]
abbrev dktX11_waysOf_15 : List UInt8 := dkwX11_waysOf_15 ++ []
def dkwX11_waysOf_14 : List UInt8 := [167, 255, 25, 132, 5, 1, 167, 254, 252, 9, 55, 5, 3, 54, 7, 21, 7, 21, 4, 162, 0, 21, 22, 5]
abbrev dktX11_waysOf_14 : List UInt8 := dkwX11_waysOf_14 ++ dktX11_waysOf_15
def dkwX11_waysOf_13 : List UInt8 := [180, 0, 68, 21, 8, 42, 180, 0, 71, 21, 8, 47, 80, 132, 8, 1, 167, 255, 232, 132, 6, 1]
abbrev dktX11_waysOf_13 : List UInt8 := dkwX11_waysOf_13 ++ dktX11_waysOf_14
def dkwX11_waysOf_12 : List UInt8 := [80, 132, 9, 1, 167, 255, 168, 132, 8, 1, 167, 255, 137, 3, 54, 8, 21, 8, 21, 4, 162, 0, 23, 42]
abbrev dktX11_waysOf_12 : List UInt8 := dkwX11_waysOf_12 ++ dktX11_waysOf_13
def dkwX11_waysOf_11 : List UInt8 := [21, 8, 42, 180, 0, 65, 21, 9, 46, 96, 92, 47, 42, 180, 0, 68, 21, 8, 47, 21, 10, 133, 105, 97]
abbrev dktX11_waysOf_11 : List UInt8 := dkwX11_waysOf_11 ++ dktX11_waysOf_12
def dkwX11_waysOf_10 : List UInt8 := [21, 10, 158, 0, 47, 21, 7, 42, 180, 0, 62, 21, 9, 46, 184, 0, 252, 154, 0, 32, 42, 180, 0, 71]
abbrev dktX11_waysOf_10 : List UInt8 := dkwX11_waysOf_10 ++ dktX11_waysOf_11
def dkwX11_waysOf_9 : List UInt8 := [42, 180, 0, 62, 21, 9, 46, 46, 21, 8, 42, 180, 0, 65, 21, 9, 46, 184, 1, 73, 100, 54, 10]
abbrev dktX11_waysOf_9 : List UInt8 := dkwX11_waysOf_9 ++ dktX11_waysOf_10
def dkwX11_waysOf_8 : List UInt8 := [9, 148, 154, 0, 6, 167, 0, 97, 3, 54, 9, 21, 9, 42, 180, 1, 64, 162, 0, 85, 42, 180, 0, 59]
abbrev dktX11_waysOf_8 : List UInt8 := dkwX11_waysOf_8 ++ dktX11_waysOf_9
def dkwX11_waysOf_7 : List UInt8 := [80, 132, 8, 1, 167, 255, 238, 3, 54, 8, 21, 8, 21, 4, 162, 0, 118, 42, 180, 0, 68, 21, 8, 47]
abbrev dktX11_waysOf_7 : List UInt8 := dkwX11_waysOf_7 ++ dktX11_waysOf_8
def dkwX11_waysOf_6 : List UInt8 := [167, 0, 4, 3, 128, 54, 7, 3, 54, 8, 21, 8, 21, 4, 162, 0, 17, 42, 180, 0, 71, 21, 8, 9]
abbrev dktX11_waysOf_6 : List UInt8 := dkwX11_waysOf_6 ++ dktX11_waysOf_7
def dkwX11_waysOf_5 : List UInt8 := [17, 0, 235, 16, 52, 21, 5, 104, 96, 21, 6, 96, 46, 21, 5, 28, 160, 0, 9, 4, 29, 120]
abbrev dktX11_waysOf_5 : List UInt8 := dkwX11_waysOf_5 ++ dktX11_waysOf_6
def dkwX11_waysOf_4 : List UInt8 := [54, 6, 21, 6, 42, 180, 0, 33, 17, 0, 229, 21, 5, 96, 46, 162, 0, 221, 42, 180, 0, 33]
abbrev dktX11_waysOf_4 : List UInt8 := dkwX11_waysOf_4 ++ dktX11_waysOf_5
def dkwX11_waysOf_3 : List UInt8 := [54, 5, 21, 5, 42, 180, 0, 33, 4, 46, 162, 0, 255, 21, 5, 27, 160, 0, 6, 167, 0, 240, 3]
abbrev dktX11_waysOf_3 : List UInt8 := dkwX11_waysOf_3 ++ dktX11_waysOf_4
def dkwX11_waysOf_2 : List UInt8 := [180, 0, 68, 21, 5, 21, 5, 154, 0, 7, 10, 167, 0, 4, 9, 80, 132, 5, 1, 167, 255, 229, 3]
abbrev dktX11_waysOf_2 : List UInt8 := dkwX11_waysOf_2 ++ dktX11_waysOf_3
def dkwX11_waysOf_1 : List UInt8 := [21, 4, 8, 104, 54, 4, 132, 5, 1, 167, 255, 229, 3, 54, 5, 21, 5, 21, 4, 162, 0, 26, 42]
abbrev dktX11_waysOf_1 : List UInt8 := dkwX11_waysOf_1 ++ dktX11_waysOf_2
def dkwX11_waysOf_0 : List UInt8 := [4, 54, 4, 3, 54, 5, 21, 5, 42, 180, 1, 64, 162, 0, 24, 42, 180, 0, 65, 21, 5, 21, 4, 79]
abbrev dktX11_waysOf_0 : List UInt8 := dkwX11_waysOf_0 ++ dktX11_waysOf_1
theorem dksX11_waysOf_0 : cX11_waysOf.data.toList.drop 0 = dktX11_waysOf_0 := by decide +kernel
theorem dksX11_waysOf_1 : cX11_waysOf.data.toList.drop 24 = dktX11_waysOf_1 := dk_seg dksX11_waysOf_0 24 rfl rfl
theorem dksX11_waysOf_2 : cX11_waysOf.data.toList.drop 47 = dktX11_waysOf_2 := dk_seg dksX11_waysOf_1 23 rfl rfl
theorem dksX11_waysOf_3 : cX11_waysOf.data.toList.drop 70 = dktX11_waysOf_3 := dk_seg dksX11_waysOf_2 23 rfl rfl
theorem dksX11_waysOf_4 : cX11_waysOf.data.toList.drop 93 = dktX11_waysOf_4 := dk_seg dksX11_waysOf_3 23 rfl rfl
theorem dksX11_waysOf_5 : cX11_waysOf.data.toList.drop 115 = dktX11_waysOf_5 := dk_seg dksX11_waysOf_4 22 rfl rfl
theorem dksX11_waysOf_6 : cX11_waysOf.data.toList.drop 137 = dktX11_waysOf_6 := dk_seg dksX11_waysOf_5 22 rfl rfl
theorem dksX11_waysOf_7 : cX11_waysOf.data.toList.drop 161 = dktX11_waysOf_7 := dk_seg dksX11_waysOf_6 24 rfl rfl
theorem dksX11_waysOf_8 : cX11_waysOf.data.toList.drop 185 = dktX11_waysOf_8 := dk_seg dksX11_waysOf_7 24 rfl rfl
theorem dksX11_waysOf_9 : cX11_waysOf.data.toList.drop 209 = dktX11_waysOf_9 := dk_seg dksX11_waysOf_8 24 rfl rfl
theorem dksX11_waysOf_10 : cX11_waysOf.data.toList.drop 232 = dktX11_waysOf_10 := dk_seg dksX11_waysOf_9 23 rfl rfl
theorem dksX11_waysOf_11 : cX11_waysOf.data.toList.drop 256 = dktX11_waysOf_11 := dk_seg dksX11_waysOf_10 24 rfl rfl
theorem dksX11_waysOf_12 : cX11_waysOf.data.toList.drop 280 = dktX11_waysOf_12 := dk_seg dksX11_waysOf_11 24 rfl rfl
theorem dksX11_waysOf_13 : cX11_waysOf.data.toList.drop 304 = dktX11_waysOf_13 := dk_seg dksX11_waysOf_12 24 rfl rfl
theorem dksX11_waysOf_14 : cX11_waysOf.data.toList.drop 326 = dktX11_waysOf_14 := dk_seg dksX11_waysOf_13 22 rfl rfl
theorem dksX11_waysOf_15 : cX11_waysOf.data.toList.drop 350 = dktX11_waysOf_15 := dk_seg dksX11_waysOf_14 24 rfl rfl
theorem dX11_waysOf_0 : decode cX11_waysOf 0 = .ok (.iconst 1, 1) := dk_4 (dk_at dksX11_waysOf_0 0 rfl rfl)
theorem dX11_waysOf_1 : decode cX11_waysOf 1 = .ok (.istore 4, 2) := dk_54 4 (dk_at dksX11_waysOf_0 1 rfl rfl)
theorem dX11_waysOf_3 : decode cX11_waysOf 3 = .ok (.iconst 0, 1) := dk_3 (dk_at dksX11_waysOf_0 3 rfl rfl)
theorem dX11_waysOf_4 : decode cX11_waysOf 4 = .ok (.istore 5, 2) := dk_54 5 (dk_at dksX11_waysOf_0 4 rfl rfl)
theorem dX11_waysOf_6 : decode cX11_waysOf 6 = .ok (.iload 5, 2) := dk_21 5 (dk_at dksX11_waysOf_0 6 rfl rfl)
theorem dX11_waysOf_8 : decode cX11_waysOf 8 = .ok (.aload_n 0, 1) := dk_42 (dk_at dksX11_waysOf_0 8 rfl rfl)
theorem dX11_waysOf_9 : decode cX11_waysOf 9 = .ok (.getfield 320, 3) := dk_180 1 64 (dk_at dksX11_waysOf_0 9 rfl rfl)
theorem dX11_waysOf_12 : decode cX11_waysOf 12 = .ok (.if_icmp .ge 24, 3) := dk_162 0 24 (dk_at dksX11_waysOf_0 12 rfl rfl)
theorem dX11_waysOf_15 : decode cX11_waysOf 15 = .ok (.aload_n 0, 1) := dk_42 (dk_at dksX11_waysOf_0 15 rfl rfl)
theorem dX11_waysOf_16 : decode cX11_waysOf 16 = .ok (.getfield 65, 3) := dk_180 0 65 (dk_at dksX11_waysOf_0 16 rfl rfl)
theorem dX11_waysOf_19 : decode cX11_waysOf 19 = .ok (.iload 5, 2) := dk_21 5 (dk_at dksX11_waysOf_0 19 rfl rfl)
theorem dX11_waysOf_21 : decode cX11_waysOf 21 = .ok (.iload 4, 2) := dk_21 4 (dk_at dksX11_waysOf_0 21 rfl rfl)
theorem dX11_waysOf_23 : decode cX11_waysOf 23 = .ok (.iastore, 1) := dk_79 (dk_at dksX11_waysOf_0 23 rfl rfl)
theorem dX11_waysOf_24 : decode cX11_waysOf 24 = .ok (.iload 4, 2) := dk_21 4 (dk_at dksX11_waysOf_1 0 rfl rfl)
theorem dX11_waysOf_26 : decode cX11_waysOf 26 = .ok (.iconst 5, 1) := dk_8 (dk_at dksX11_waysOf_1 2 rfl rfl)
theorem dX11_waysOf_27 : decode cX11_waysOf 27 = .ok (.imul, 1) := dk_104 (dk_at dksX11_waysOf_1 3 rfl rfl)
theorem dX11_waysOf_28 : decode cX11_waysOf 28 = .ok (.istore 4, 2) := dk_54 4 (dk_at dksX11_waysOf_1 4 rfl rfl)
theorem dX11_waysOf_30 : decode cX11_waysOf 30 = .ok (.iinc 5 1, 3) := dk_132 5 1 (dk_at dksX11_waysOf_1 6 rfl rfl)
theorem dX11_waysOf_33 : decode cX11_waysOf 33 = .ok (.goto (-27), 3) := dk_167 255 229 (dk_at dksX11_waysOf_1 9 rfl rfl)
theorem dX11_waysOf_36 : decode cX11_waysOf 36 = .ok (.iconst 0, 1) := dk_3 (dk_at dksX11_waysOf_1 12 rfl rfl)
theorem dX11_waysOf_37 : decode cX11_waysOf 37 = .ok (.istore 5, 2) := dk_54 5 (dk_at dksX11_waysOf_1 13 rfl rfl)
theorem dX11_waysOf_39 : decode cX11_waysOf 39 = .ok (.iload 5, 2) := dk_21 5 (dk_at dksX11_waysOf_1 15 rfl rfl)
theorem dX11_waysOf_41 : decode cX11_waysOf 41 = .ok (.iload 4, 2) := dk_21 4 (dk_at dksX11_waysOf_1 17 rfl rfl)
theorem dX11_waysOf_43 : decode cX11_waysOf 43 = .ok (.if_icmp .ge 26, 3) := dk_162 0 26 (dk_at dksX11_waysOf_1 19 rfl rfl)
theorem dX11_waysOf_46 : decode cX11_waysOf 46 = .ok (.aload_n 0, 1) := dk_42 (dk_at dksX11_waysOf_1 22 rfl rfl)
theorem dX11_waysOf_47 : decode cX11_waysOf 47 = .ok (.getfield 68, 3) := dk_180 0 68 (dk_at dksX11_waysOf_2 0 rfl rfl)
theorem dX11_waysOf_50 : decode cX11_waysOf 50 = .ok (.iload 5, 2) := dk_21 5 (dk_at dksX11_waysOf_2 3 rfl rfl)
theorem dX11_waysOf_52 : decode cX11_waysOf 52 = .ok (.iload 5, 2) := dk_21 5 (dk_at dksX11_waysOf_2 5 rfl rfl)
theorem dX11_waysOf_54 : decode cX11_waysOf 54 = .ok (.ifCond .ne 7, 3) := dk_154 0 7 (dk_at dksX11_waysOf_2 7 rfl rfl)
theorem dX11_waysOf_57 : decode cX11_waysOf 57 = .ok (.lconst 1, 1) := dk_10 (dk_at dksX11_waysOf_2 10 rfl rfl)
theorem dX11_waysOf_58 : decode cX11_waysOf 58 = .ok (.goto 4, 3) := dk_167 0 4 (dk_at dksX11_waysOf_2 11 rfl rfl)
theorem dX11_waysOf_61 : decode cX11_waysOf 61 = .ok (.lconst 0, 1) := dk_9 (dk_at dksX11_waysOf_2 14 rfl rfl)
theorem dX11_waysOf_62 : decode cX11_waysOf 62 = .ok (.lastore, 1) := dk_80 (dk_at dksX11_waysOf_2 15 rfl rfl)
theorem dX11_waysOf_63 : decode cX11_waysOf 63 = .ok (.iinc 5 1, 3) := dk_132 5 1 (dk_at dksX11_waysOf_2 16 rfl rfl)
theorem dX11_waysOf_66 : decode cX11_waysOf 66 = .ok (.goto (-27), 3) := dk_167 255 229 (dk_at dksX11_waysOf_2 19 rfl rfl)
theorem dX11_waysOf_69 : decode cX11_waysOf 69 = .ok (.iconst 0, 1) := dk_3 (dk_at dksX11_waysOf_2 22 rfl rfl)
theorem dX11_waysOf_70 : decode cX11_waysOf 70 = .ok (.istore 5, 2) := dk_54 5 (dk_at dksX11_waysOf_3 0 rfl rfl)
theorem dX11_waysOf_72 : decode cX11_waysOf 72 = .ok (.iload 5, 2) := dk_21 5 (dk_at dksX11_waysOf_3 2 rfl rfl)
theorem dX11_waysOf_74 : decode cX11_waysOf 74 = .ok (.aload_n 0, 1) := dk_42 (dk_at dksX11_waysOf_3 4 rfl rfl)
theorem dX11_waysOf_75 : decode cX11_waysOf 75 = .ok (.getfield 33, 3) := dk_180 0 33 (dk_at dksX11_waysOf_3 5 rfl rfl)
theorem dX11_waysOf_78 : decode cX11_waysOf 78 = .ok (.iconst 1, 1) := dk_4 (dk_at dksX11_waysOf_3 8 rfl rfl)
theorem dX11_waysOf_79 : decode cX11_waysOf 79 = .ok (.iaload, 1) := dk_46 (dk_at dksX11_waysOf_3 9 rfl rfl)
theorem dX11_waysOf_80 : decode cX11_waysOf 80 = .ok (.if_icmp .ge 255, 3) := dk_162 0 255 (dk_at dksX11_waysOf_3 10 rfl rfl)
theorem dX11_waysOf_83 : decode cX11_waysOf 83 = .ok (.iload 5, 2) := dk_21 5 (dk_at dksX11_waysOf_3 13 rfl rfl)
theorem dX11_waysOf_85 : decode cX11_waysOf 85 = .ok (.iload_n 1, 1) := dk_27 (dk_at dksX11_waysOf_3 15 rfl rfl)
theorem dX11_waysOf_86 : decode cX11_waysOf 86 = .ok (.if_icmp .ne 6, 3) := dk_160 0 6 (dk_at dksX11_waysOf_3 16 rfl rfl)
theorem dX11_waysOf_89 : decode cX11_waysOf 89 = .ok (.goto 240, 3) := dk_167 0 240 (dk_at dksX11_waysOf_3 19 rfl rfl)
theorem dX11_waysOf_92 : decode cX11_waysOf 92 = .ok (.iconst 0, 1) := dk_3 (dk_at dksX11_waysOf_3 22 rfl rfl)
theorem dX11_waysOf_93 : decode cX11_waysOf 93 = .ok (.istore 6, 2) := dk_54 6 (dk_at dksX11_waysOf_4 0 rfl rfl)
theorem dX11_waysOf_95 : decode cX11_waysOf 95 = .ok (.iload 6, 2) := dk_21 6 (dk_at dksX11_waysOf_4 2 rfl rfl)
theorem dX11_waysOf_97 : decode cX11_waysOf 97 = .ok (.aload_n 0, 1) := dk_42 (dk_at dksX11_waysOf_4 4 rfl rfl)
theorem dX11_waysOf_98 : decode cX11_waysOf 98 = .ok (.getfield 33, 3) := dk_180 0 33 (dk_at dksX11_waysOf_4 5 rfl rfl)
theorem dX11_waysOf_101 : decode cX11_waysOf 101 = .ok (.sipush 229, 3) := dk_17 0 229 (dk_at dksX11_waysOf_4 8 rfl rfl)
theorem dX11_waysOf_104 : decode cX11_waysOf 104 = .ok (.iload 5, 2) := dk_21 5 (dk_at dksX11_waysOf_4 11 rfl rfl)
theorem dX11_waysOf_106 : decode cX11_waysOf 106 = .ok (.iadd, 1) := dk_96 (dk_at dksX11_waysOf_4 13 rfl rfl)
theorem dX11_waysOf_107 : decode cX11_waysOf 107 = .ok (.iaload, 1) := dk_46 (dk_at dksX11_waysOf_4 14 rfl rfl)
theorem dX11_waysOf_108 : decode cX11_waysOf 108 = .ok (.if_icmp .ge 221, 3) := dk_162 0 221 (dk_at dksX11_waysOf_4 15 rfl rfl)
theorem dX11_waysOf_111 : decode cX11_waysOf 111 = .ok (.aload_n 0, 1) := dk_42 (dk_at dksX11_waysOf_4 18 rfl rfl)
theorem dX11_waysOf_112 : decode cX11_waysOf 112 = .ok (.getfield 33, 3) := dk_180 0 33 (dk_at dksX11_waysOf_4 19 rfl rfl)
theorem dX11_waysOf_115 : decode cX11_waysOf 115 = .ok (.sipush 235, 3) := dk_17 0 235 (dk_at dksX11_waysOf_5 0 rfl rfl)
theorem dX11_waysOf_118 : decode cX11_waysOf 118 = .ok (.bipush 52, 2) := dk_16 52 (dk_at dksX11_waysOf_5 3 rfl rfl)
theorem dX11_waysOf_120 : decode cX11_waysOf 120 = .ok (.iload 5, 2) := dk_21 5 (dk_at dksX11_waysOf_5 5 rfl rfl)
theorem dX11_waysOf_122 : decode cX11_waysOf 122 = .ok (.imul, 1) := dk_104 (dk_at dksX11_waysOf_5 7 rfl rfl)
theorem dX11_waysOf_123 : decode cX11_waysOf 123 = .ok (.iadd, 1) := dk_96 (dk_at dksX11_waysOf_5 8 rfl rfl)
theorem dX11_waysOf_124 : decode cX11_waysOf 124 = .ok (.iload 6, 2) := dk_21 6 (dk_at dksX11_waysOf_5 9 rfl rfl)
theorem dX11_waysOf_126 : decode cX11_waysOf 126 = .ok (.iadd, 1) := dk_96 (dk_at dksX11_waysOf_5 11 rfl rfl)
theorem dX11_waysOf_127 : decode cX11_waysOf 127 = .ok (.iaload, 1) := dk_46 (dk_at dksX11_waysOf_5 12 rfl rfl)
theorem dX11_waysOf_128 : decode cX11_waysOf 128 = .ok (.iload 5, 2) := dk_21 5 (dk_at dksX11_waysOf_5 13 rfl rfl)
theorem dX11_waysOf_130 : decode cX11_waysOf 130 = .ok (.iload_n 2, 1) := dk_28 (dk_at dksX11_waysOf_5 15 rfl rfl)
theorem dX11_waysOf_131 : decode cX11_waysOf 131 = .ok (.if_icmp .ne 9, 3) := dk_160 0 9 (dk_at dksX11_waysOf_5 16 rfl rfl)
theorem dX11_waysOf_134 : decode cX11_waysOf 134 = .ok (.iconst 1, 1) := dk_4 (dk_at dksX11_waysOf_5 19 rfl rfl)
theorem dX11_waysOf_135 : decode cX11_waysOf 135 = .ok (.iload_n 3, 1) := dk_29 (dk_at dksX11_waysOf_5 20 rfl rfl)
theorem dX11_waysOf_136 : decode cX11_waysOf 136 = .ok (.ishl, 1) := dk_120 (dk_at dksX11_waysOf_5 21 rfl rfl)
theorem dX11_waysOf_137 : decode cX11_waysOf 137 = .ok (.goto 4, 3) := dk_167 0 4 (dk_at dksX11_waysOf_6 0 rfl rfl)
theorem dX11_waysOf_140 : decode cX11_waysOf 140 = .ok (.iconst 0, 1) := dk_3 (dk_at dksX11_waysOf_6 3 rfl rfl)
theorem dX11_waysOf_141 : decode cX11_waysOf 141 = .ok (.ior, 1) := dk_128 (dk_at dksX11_waysOf_6 4 rfl rfl)
theorem dX11_waysOf_142 : decode cX11_waysOf 142 = .ok (.istore 7, 2) := dk_54 7 (dk_at dksX11_waysOf_6 5 rfl rfl)
theorem dX11_waysOf_144 : decode cX11_waysOf 144 = .ok (.iconst 0, 1) := dk_3 (dk_at dksX11_waysOf_6 7 rfl rfl)
theorem dX11_waysOf_145 : decode cX11_waysOf 145 = .ok (.istore 8, 2) := dk_54 8 (dk_at dksX11_waysOf_6 8 rfl rfl)
theorem dX11_waysOf_147 : decode cX11_waysOf 147 = .ok (.iload 8, 2) := dk_21 8 (dk_at dksX11_waysOf_6 10 rfl rfl)
theorem dX11_waysOf_149 : decode cX11_waysOf 149 = .ok (.iload 4, 2) := dk_21 4 (dk_at dksX11_waysOf_6 12 rfl rfl)
theorem dX11_waysOf_151 : decode cX11_waysOf 151 = .ok (.if_icmp .ge 17, 3) := dk_162 0 17 (dk_at dksX11_waysOf_6 14 rfl rfl)
theorem dX11_waysOf_154 : decode cX11_waysOf 154 = .ok (.aload_n 0, 1) := dk_42 (dk_at dksX11_waysOf_6 17 rfl rfl)
theorem dX11_waysOf_155 : decode cX11_waysOf 155 = .ok (.getfield 71, 3) := dk_180 0 71 (dk_at dksX11_waysOf_6 18 rfl rfl)
theorem dX11_waysOf_158 : decode cX11_waysOf 158 = .ok (.iload 8, 2) := dk_21 8 (dk_at dksX11_waysOf_6 21 rfl rfl)
theorem dX11_waysOf_160 : decode cX11_waysOf 160 = .ok (.lconst 0, 1) := dk_9 (dk_at dksX11_waysOf_6 23 rfl rfl)
theorem dX11_waysOf_161 : decode cX11_waysOf 161 = .ok (.lastore, 1) := dk_80 (dk_at dksX11_waysOf_7 0 rfl rfl)
theorem dX11_waysOf_162 : decode cX11_waysOf 162 = .ok (.iinc 8 1, 3) := dk_132 8 1 (dk_at dksX11_waysOf_7 1 rfl rfl)
theorem dX11_waysOf_165 : decode cX11_waysOf 165 = .ok (.goto (-18), 3) := dk_167 255 238 (dk_at dksX11_waysOf_7 4 rfl rfl)
theorem dX11_waysOf_168 : decode cX11_waysOf 168 = .ok (.iconst 0, 1) := dk_3 (dk_at dksX11_waysOf_7 7 rfl rfl)
theorem dX11_waysOf_169 : decode cX11_waysOf 169 = .ok (.istore 8, 2) := dk_54 8 (dk_at dksX11_waysOf_7 8 rfl rfl)
theorem dX11_waysOf_171 : decode cX11_waysOf 171 = .ok (.iload 8, 2) := dk_21 8 (dk_at dksX11_waysOf_7 10 rfl rfl)
theorem dX11_waysOf_173 : decode cX11_waysOf 173 = .ok (.iload 4, 2) := dk_21 4 (dk_at dksX11_waysOf_7 12 rfl rfl)
theorem dX11_waysOf_175 : decode cX11_waysOf 175 = .ok (.if_icmp .ge 118, 3) := dk_162 0 118 (dk_at dksX11_waysOf_7 14 rfl rfl)
theorem dX11_waysOf_178 : decode cX11_waysOf 178 = .ok (.aload_n 0, 1) := dk_42 (dk_at dksX11_waysOf_7 17 rfl rfl)
theorem dX11_waysOf_179 : decode cX11_waysOf 179 = .ok (.getfield 68, 3) := dk_180 0 68 (dk_at dksX11_waysOf_7 18 rfl rfl)
theorem dX11_waysOf_182 : decode cX11_waysOf 182 = .ok (.iload 8, 2) := dk_21 8 (dk_at dksX11_waysOf_7 21 rfl rfl)
theorem dX11_waysOf_184 : decode cX11_waysOf 184 = .ok (.laload, 1) := dk_47 (dk_at dksX11_waysOf_7 23 rfl rfl)
theorem dX11_waysOf_185 : decode cX11_waysOf 185 = .ok (.lconst 0, 1) := dk_9 (dk_at dksX11_waysOf_8 0 rfl rfl)
theorem dX11_waysOf_186 : decode cX11_waysOf 186 = .ok (.lcmp, 1) := dk_148 (dk_at dksX11_waysOf_8 1 rfl rfl)
theorem dX11_waysOf_187 : decode cX11_waysOf 187 = .ok (.ifCond .ne 6, 3) := dk_154 0 6 (dk_at dksX11_waysOf_8 2 rfl rfl)
theorem dX11_waysOf_190 : decode cX11_waysOf 190 = .ok (.goto 97, 3) := dk_167 0 97 (dk_at dksX11_waysOf_8 5 rfl rfl)
theorem dX11_waysOf_193 : decode cX11_waysOf 193 = .ok (.iconst 0, 1) := dk_3 (dk_at dksX11_waysOf_8 8 rfl rfl)
theorem dX11_waysOf_194 : decode cX11_waysOf 194 = .ok (.istore 9, 2) := dk_54 9 (dk_at dksX11_waysOf_8 9 rfl rfl)
theorem dX11_waysOf_196 : decode cX11_waysOf 196 = .ok (.iload 9, 2) := dk_21 9 (dk_at dksX11_waysOf_8 11 rfl rfl)
theorem dX11_waysOf_198 : decode cX11_waysOf 198 = .ok (.aload_n 0, 1) := dk_42 (dk_at dksX11_waysOf_8 13 rfl rfl)
theorem dX11_waysOf_199 : decode cX11_waysOf 199 = .ok (.getfield 320, 3) := dk_180 1 64 (dk_at dksX11_waysOf_8 14 rfl rfl)
theorem dX11_waysOf_202 : decode cX11_waysOf 202 = .ok (.if_icmp .ge 85, 3) := dk_162 0 85 (dk_at dksX11_waysOf_8 17 rfl rfl)
theorem dX11_waysOf_205 : decode cX11_waysOf 205 = .ok (.aload_n 0, 1) := dk_42 (dk_at dksX11_waysOf_8 20 rfl rfl)
theorem dX11_waysOf_206 : decode cX11_waysOf 206 = .ok (.getfield 59, 3) := dk_180 0 59 (dk_at dksX11_waysOf_8 21 rfl rfl)
theorem dX11_waysOf_209 : decode cX11_waysOf 209 = .ok (.aload_n 0, 1) := dk_42 (dk_at dksX11_waysOf_9 0 rfl rfl)
theorem dX11_waysOf_210 : decode cX11_waysOf 210 = .ok (.getfield 62, 3) := dk_180 0 62 (dk_at dksX11_waysOf_9 1 rfl rfl)
theorem dX11_waysOf_213 : decode cX11_waysOf 213 = .ok (.iload 9, 2) := dk_21 9 (dk_at dksX11_waysOf_9 4 rfl rfl)
theorem dX11_waysOf_215 : decode cX11_waysOf 215 = .ok (.iaload, 1) := dk_46 (dk_at dksX11_waysOf_9 6 rfl rfl)
theorem dX11_waysOf_216 : decode cX11_waysOf 216 = .ok (.iaload, 1) := dk_46 (dk_at dksX11_waysOf_9 7 rfl rfl)
theorem dX11_waysOf_217 : decode cX11_waysOf 217 = .ok (.iload 8, 2) := dk_21 8 (dk_at dksX11_waysOf_9 8 rfl rfl)
theorem dX11_waysOf_219 : decode cX11_waysOf 219 = .ok (.aload_n 0, 1) := dk_42 (dk_at dksX11_waysOf_9 10 rfl rfl)
theorem dX11_waysOf_220 : decode cX11_waysOf 220 = .ok (.getfield 65, 3) := dk_180 0 65 (dk_at dksX11_waysOf_9 11 rfl rfl)
theorem dX11_waysOf_223 : decode cX11_waysOf 223 = .ok (.iload 9, 2) := dk_21 9 (dk_at dksX11_waysOf_9 14 rfl rfl)
theorem dX11_waysOf_225 : decode cX11_waysOf 225 = .ok (.iaload, 1) := dk_46 (dk_at dksX11_waysOf_9 16 rfl rfl)
theorem dX11_waysOf_226 : decode cX11_waysOf 226 = .ok (.invokestatic 329, 3) := dk_184 1 73 (dk_at dksX11_waysOf_9 17 rfl rfl)
theorem dX11_waysOf_229 : decode cX11_waysOf 229 = .ok (.isub, 1) := dk_100 (dk_at dksX11_waysOf_9 20 rfl rfl)
theorem dX11_waysOf_230 : decode cX11_waysOf 230 = .ok (.istore 10, 2) := dk_54 10 (dk_at dksX11_waysOf_9 21 rfl rfl)
theorem dX11_waysOf_232 : decode cX11_waysOf 232 = .ok (.iload 10, 2) := dk_21 10 (dk_at dksX11_waysOf_10 0 rfl rfl)
theorem dX11_waysOf_234 : decode cX11_waysOf 234 = .ok (.ifCond .le 47, 3) := dk_158 0 47 (dk_at dksX11_waysOf_10 2 rfl rfl)
theorem dX11_waysOf_237 : decode cX11_waysOf 237 = .ok (.iload 7, 2) := dk_21 7 (dk_at dksX11_waysOf_10 5 rfl rfl)
theorem dX11_waysOf_239 : decode cX11_waysOf 239 = .ok (.aload_n 0, 1) := dk_42 (dk_at dksX11_waysOf_10 7 rfl rfl)
theorem dX11_waysOf_240 : decode cX11_waysOf 240 = .ok (.getfield 62, 3) := dk_180 0 62 (dk_at dksX11_waysOf_10 8 rfl rfl)
theorem dX11_waysOf_243 : decode cX11_waysOf 243 = .ok (.iload 9, 2) := dk_21 9 (dk_at dksX11_waysOf_10 11 rfl rfl)
theorem dX11_waysOf_245 : decode cX11_waysOf 245 = .ok (.iaload, 1) := dk_46 (dk_at dksX11_waysOf_10 13 rfl rfl)
theorem dX11_waysOf_246 : decode cX11_waysOf 246 = .ok (.invokestatic 252, 3) := dk_184 0 252 (dk_at dksX11_waysOf_10 14 rfl rfl)
theorem dX11_waysOf_249 : decode cX11_waysOf 249 = .ok (.ifCond .ne 32, 3) := dk_154 0 32 (dk_at dksX11_waysOf_10 17 rfl rfl)
theorem dX11_waysOf_252 : decode cX11_waysOf 252 = .ok (.aload_n 0, 1) := dk_42 (dk_at dksX11_waysOf_10 20 rfl rfl)
theorem dX11_waysOf_253 : decode cX11_waysOf 253 = .ok (.getfield 71, 3) := dk_180 0 71 (dk_at dksX11_waysOf_10 21 rfl rfl)
theorem dX11_waysOf_256 : decode cX11_waysOf 256 = .ok (.iload 8, 2) := dk_21 8 (dk_at dksX11_waysOf_11 0 rfl rfl)
theorem dX11_waysOf_258 : decode cX11_waysOf 258 = .ok (.aload_n 0, 1) := dk_42 (dk_at dksX11_waysOf_11 2 rfl rfl)
theorem dX11_waysOf_259 : decode cX11_waysOf 259 = .ok (.getfield 65, 3) := dk_180 0 65 (dk_at dksX11_waysOf_11 3 rfl rfl)
theorem dX11_waysOf_262 : decode cX11_waysOf 262 = .ok (.iload 9, 2) := dk_21 9 (dk_at dksX11_waysOf_11 6 rfl rfl)
theorem dX11_waysOf_264 : decode cX11_waysOf 264 = .ok (.iaload, 1) := dk_46 (dk_at dksX11_waysOf_11 8 rfl rfl)
theorem dX11_waysOf_265 : decode cX11_waysOf 265 = .ok (.iadd, 1) := dk_96 (dk_at dksX11_waysOf_11 9 rfl rfl)
theorem dX11_waysOf_266 : decode cX11_waysOf 266 = .ok (.dup2, 1) := dk_92 (dk_at dksX11_waysOf_11 10 rfl rfl)
theorem dX11_waysOf_267 : decode cX11_waysOf 267 = .ok (.laload, 1) := dk_47 (dk_at dksX11_waysOf_11 11 rfl rfl)
theorem dX11_waysOf_268 : decode cX11_waysOf 268 = .ok (.aload_n 0, 1) := dk_42 (dk_at dksX11_waysOf_11 12 rfl rfl)
theorem dX11_waysOf_269 : decode cX11_waysOf 269 = .ok (.getfield 68, 3) := dk_180 0 68 (dk_at dksX11_waysOf_11 13 rfl rfl)
theorem dX11_waysOf_272 : decode cX11_waysOf 272 = .ok (.iload 8, 2) := dk_21 8 (dk_at dksX11_waysOf_11 16 rfl rfl)
theorem dX11_waysOf_274 : decode cX11_waysOf 274 = .ok (.laload, 1) := dk_47 (dk_at dksX11_waysOf_11 18 rfl rfl)
theorem dX11_waysOf_275 : decode cX11_waysOf 275 = .ok (.iload 10, 2) := dk_21 10 (dk_at dksX11_waysOf_11 19 rfl rfl)
theorem dX11_waysOf_277 : decode cX11_waysOf 277 = .ok (.i2l, 1) := dk_133 (dk_at dksX11_waysOf_11 21 rfl rfl)
theorem dX11_waysOf_278 : decode cX11_waysOf 278 = .ok (.lmul, 1) := dk_105 (dk_at dksX11_waysOf_11 22 rfl rfl)
theorem dX11_waysOf_279 : decode cX11_waysOf 279 = .ok (.ladd, 1) := dk_97 (dk_at dksX11_waysOf_11 23 rfl rfl)
theorem dX11_waysOf_280 : decode cX11_waysOf 280 = .ok (.lastore, 1) := dk_80 (dk_at dksX11_waysOf_12 0 rfl rfl)
theorem dX11_waysOf_281 : decode cX11_waysOf 281 = .ok (.iinc 9 1, 3) := dk_132 9 1 (dk_at dksX11_waysOf_12 1 rfl rfl)
theorem dX11_waysOf_284 : decode cX11_waysOf 284 = .ok (.goto (-88), 3) := dk_167 255 168 (dk_at dksX11_waysOf_12 4 rfl rfl)
theorem dX11_waysOf_287 : decode cX11_waysOf 287 = .ok (.iinc 8 1, 3) := dk_132 8 1 (dk_at dksX11_waysOf_12 7 rfl rfl)
theorem dX11_waysOf_290 : decode cX11_waysOf 290 = .ok (.goto (-119), 3) := dk_167 255 137 (dk_at dksX11_waysOf_12 10 rfl rfl)
theorem dX11_waysOf_293 : decode cX11_waysOf 293 = .ok (.iconst 0, 1) := dk_3 (dk_at dksX11_waysOf_12 13 rfl rfl)
theorem dX11_waysOf_294 : decode cX11_waysOf 294 = .ok (.istore 8, 2) := dk_54 8 (dk_at dksX11_waysOf_12 14 rfl rfl)
theorem dX11_waysOf_296 : decode cX11_waysOf 296 = .ok (.iload 8, 2) := dk_21 8 (dk_at dksX11_waysOf_12 16 rfl rfl)
theorem dX11_waysOf_298 : decode cX11_waysOf 298 = .ok (.iload 4, 2) := dk_21 4 (dk_at dksX11_waysOf_12 18 rfl rfl)
theorem dX11_waysOf_300 : decode cX11_waysOf 300 = .ok (.if_icmp .ge 23, 3) := dk_162 0 23 (dk_at dksX11_waysOf_12 20 rfl rfl)
theorem dX11_waysOf_303 : decode cX11_waysOf 303 = .ok (.aload_n 0, 1) := dk_42 (dk_at dksX11_waysOf_12 23 rfl rfl)
theorem dX11_waysOf_304 : decode cX11_waysOf 304 = .ok (.getfield 68, 3) := dk_180 0 68 (dk_at dksX11_waysOf_13 0 rfl rfl)
theorem dX11_waysOf_307 : decode cX11_waysOf 307 = .ok (.iload 8, 2) := dk_21 8 (dk_at dksX11_waysOf_13 3 rfl rfl)
theorem dX11_waysOf_309 : decode cX11_waysOf 309 = .ok (.aload_n 0, 1) := dk_42 (dk_at dksX11_waysOf_13 5 rfl rfl)
theorem dX11_waysOf_310 : decode cX11_waysOf 310 = .ok (.getfield 71, 3) := dk_180 0 71 (dk_at dksX11_waysOf_13 6 rfl rfl)
theorem dX11_waysOf_313 : decode cX11_waysOf 313 = .ok (.iload 8, 2) := dk_21 8 (dk_at dksX11_waysOf_13 9 rfl rfl)
theorem dX11_waysOf_315 : decode cX11_waysOf 315 = .ok (.laload, 1) := dk_47 (dk_at dksX11_waysOf_13 11 rfl rfl)
theorem dX11_waysOf_316 : decode cX11_waysOf 316 = .ok (.lastore, 1) := dk_80 (dk_at dksX11_waysOf_13 12 rfl rfl)
theorem dX11_waysOf_317 : decode cX11_waysOf 317 = .ok (.iinc 8 1, 3) := dk_132 8 1 (dk_at dksX11_waysOf_13 13 rfl rfl)
theorem dX11_waysOf_320 : decode cX11_waysOf 320 = .ok (.goto (-24), 3) := dk_167 255 232 (dk_at dksX11_waysOf_13 16 rfl rfl)
theorem dX11_waysOf_323 : decode cX11_waysOf 323 = .ok (.iinc 6 1, 3) := dk_132 6 1 (dk_at dksX11_waysOf_13 19 rfl rfl)
theorem dX11_waysOf_326 : decode cX11_waysOf 326 = .ok (.goto (-231), 3) := dk_167 255 25 (dk_at dksX11_waysOf_14 0 rfl rfl)
theorem dX11_waysOf_329 : decode cX11_waysOf 329 = .ok (.iinc 5 1, 3) := dk_132 5 1 (dk_at dksX11_waysOf_14 3 rfl rfl)
theorem dX11_waysOf_332 : decode cX11_waysOf 332 = .ok (.goto (-260), 3) := dk_167 254 252 (dk_at dksX11_waysOf_14 6 rfl rfl)
theorem dX11_waysOf_335 : decode cX11_waysOf 335 = .ok (.lconst 0, 1) := dk_9 (dk_at dksX11_waysOf_14 9 rfl rfl)
theorem dX11_waysOf_336 : decode cX11_waysOf 336 = .ok (.lstore 5, 2) := dk_55 5 (dk_at dksX11_waysOf_14 10 rfl rfl)
theorem dX11_waysOf_338 : decode cX11_waysOf 338 = .ok (.iconst 0, 1) := dk_3 (dk_at dksX11_waysOf_14 12 rfl rfl)
theorem dX11_waysOf_339 : decode cX11_waysOf 339 = .ok (.istore 7, 2) := dk_54 7 (dk_at dksX11_waysOf_14 13 rfl rfl)
theorem dX11_waysOf_341 : decode cX11_waysOf 341 = .ok (.iload 7, 2) := dk_21 7 (dk_at dksX11_waysOf_14 15 rfl rfl)
theorem dX11_waysOf_343 : decode cX11_waysOf 343 = .ok (.iload 4, 2) := dk_21 4 (dk_at dksX11_waysOf_14 17 rfl rfl)
theorem dX11_waysOf_345 : decode cX11_waysOf 345 = .ok (.if_icmp .ge 21, 3) := dk_162 0 21 (dk_at dksX11_waysOf_14 19 rfl rfl)
theorem dX11_waysOf_348 : decode cX11_waysOf 348 = .ok (.lload 5, 2) := dk_22 5 (dk_at dksX11_waysOf_14 22 rfl rfl)
theorem dX11_waysOf_350 : decode cX11_waysOf 350 = .ok (.aload_n 0, 1) := dk_42 (dk_at dksX11_waysOf_15 0 rfl rfl)
theorem dX11_waysOf_351 : decode cX11_waysOf 351 = .ok (.getfield 68, 3) := dk_180 0 68 (dk_at dksX11_waysOf_15 1 rfl rfl)
theorem dX11_waysOf_354 : decode cX11_waysOf 354 = .ok (.iload 7, 2) := dk_21 7 (dk_at dksX11_waysOf_15 4 rfl rfl)
theorem dX11_waysOf_356 : decode cX11_waysOf 356 = .ok (.laload, 1) := dk_47 (dk_at dksX11_waysOf_15 6 rfl rfl)
theorem dX11_waysOf_357 : decode cX11_waysOf 357 = .ok (.ladd, 1) := dk_97 (dk_at dksX11_waysOf_15 7 rfl rfl)
theorem dX11_waysOf_358 : decode cX11_waysOf 358 = .ok (.lstore 5, 2) := dk_55 5 (dk_at dksX11_waysOf_15 8 rfl rfl)
theorem dX11_waysOf_360 : decode cX11_waysOf 360 = .ok (.iinc 7 1, 3) := dk_132 7 1 (dk_at dksX11_waysOf_15 10 rfl rfl)
theorem dX11_waysOf_363 : decode cX11_waysOf 363 = .ok (.goto (-22), 3) := dk_167 255 234 (dk_at dksX11_waysOf_15 13 rfl rfl)
theorem dX11_waysOf_366 : decode cX11_waysOf 366 = .ok (.lload 5, 2) := dk_22 5 (dk_at dksX11_waysOf_15 16 rfl rfl)
theorem dX11_waysOf_368 : decode cX11_waysOf 368 = .ok (.lreturn, 1) := dk_173 (dk_at dksX11_waysOf_15 18 rfl rfl)
abbrev cX11_digit : ByteArray := prog_23_method_60_code
def yX11_digit : MethodName := ⟨RX11, "digit", "(II)I"⟩
def dkwX11_digit_0 : List UInt8 := [26, 27, 108, 8, 112, 172]
abbrev dktX11_digit_0 : List UInt8 := dkwX11_digit_0 ++ []
theorem dksX11_digit_0 : cX11_digit.data.toList.drop 0 = dktX11_digit_0 := by decide +kernel
theorem dX11_digit_0 : decode cX11_digit 0 = .ok (.iload_n 0, 1) := dk_26 (dk_at dksX11_digit_0 0 rfl rfl)
theorem dX11_digit_1 : decode cX11_digit 1 = .ok (.iload_n 1, 1) := dk_27 (dk_at dksX11_digit_0 1 rfl rfl)
theorem dX11_digit_2 : decode cX11_digit 2 = .ok (.idiv, 1) := dk_108 (dk_at dksX11_digit_0 2 rfl rfl)
theorem dX11_digit_3 : decode cX11_digit 3 = .ok (.iconst 5, 1) := dk_8 (dk_at dksX11_digit_0 3 rfl rfl)
theorem dX11_digit_4 : decode cX11_digit 4 = .ok (.irem, 1) := dk_112 (dk_at dksX11_digit_0 4 rfl rfl)
theorem dX11_digit_5 : decode cX11_digit 5 = .ok (.ireturn, 1) := dk_172 (dk_at dksX11_digit_0 5 rfl rfl)
abbrev cX11_part : ByteArray := prog_23_method_63_code
def yX11_part : MethodName := ⟨RX11, "part", "(JJI)J"⟩
def dkwX11_part_0 : List UInt8 := [21, 4, 154, 0, 7, 30, 167, 0, 4, 32, 30, 32, 184, 1, 76, 109, 173]
abbrev dktX11_part_0 : List UInt8 := dkwX11_part_0 ++ []
theorem dksX11_part_0 : cX11_part.data.toList.drop 0 = dktX11_part_0 := by decide +kernel
theorem dX11_part_0 : decode cX11_part 0 = .ok (.iload 4, 2) := dk_21 4 (dk_at dksX11_part_0 0 rfl rfl)
theorem dX11_part_2 : decode cX11_part 2 = .ok (.ifCond .ne 7, 3) := dk_154 0 7 (dk_at dksX11_part_0 2 rfl rfl)
theorem dX11_part_5 : decode cX11_part 5 = .ok (.lload_n 0, 1) := dk_30 (dk_at dksX11_part_0 5 rfl rfl)
theorem dX11_part_6 : decode cX11_part 6 = .ok (.goto 4, 3) := dk_167 0 4 (dk_at dksX11_part_0 6 rfl rfl)
theorem dX11_part_9 : decode cX11_part 9 = .ok (.lload_n 2, 1) := dk_32 (dk_at dksX11_part_0 9 rfl rfl)
theorem dX11_part_10 : decode cX11_part 10 = .ok (.lload_n 0, 1) := dk_30 (dk_at dksX11_part_0 10 rfl rfl)
theorem dX11_part_11 : decode cX11_part 11 = .ok (.lload_n 2, 1) := dk_32 (dk_at dksX11_part_0 11 rfl rfl)
theorem dX11_part_12 : decode cX11_part 12 = .ok (.invokestatic 332, 3) := dk_184 1 76 (dk_at dksX11_part_0 12 rfl rfl)
theorem dX11_part_15 : decode cX11_part 15 = .ok (.ldiv, 1) := dk_109 (dk_at dksX11_part_0 15 rfl rfl)
theorem dX11_part_16 : decode cX11_part 16 = .ok (.lreturn, 1) := dk_173 (dk_at dksX11_part_0 16 rfl rfl)
abbrev cX11_common : ByteArray := prog_23_method_62_code
def yX11_common : MethodName := ⟨RX11, "common", "(JJ)J"⟩
def dkwX11_common_1 : List UInt8 := [22, 8, 55, 6, 167, 255, 234, 22, 4, 173]
abbrev dktX11_common_1 : List UInt8 := dkwX11_common_1 ++ []
def dkwX11_common_0 : List UInt8 := [30, 55, 4, 32, 55, 6, 22, 6, 9, 148, 153, 0, 21, 22, 4, 22, 6, 113, 55, 8, 22, 6, 55, 4]
abbrev dktX11_common_0 : List UInt8 := dkwX11_common_0 ++ dktX11_common_1
theorem dksX11_common_0 : cX11_common.data.toList.drop 0 = dktX11_common_0 := by decide +kernel
theorem dksX11_common_1 : cX11_common.data.toList.drop 24 = dktX11_common_1 := dk_seg dksX11_common_0 24 rfl rfl
theorem dX11_common_0 : decode cX11_common 0 = .ok (.lload_n 0, 1) := dk_30 (dk_at dksX11_common_0 0 rfl rfl)
theorem dX11_common_1 : decode cX11_common 1 = .ok (.lstore 4, 2) := dk_55 4 (dk_at dksX11_common_0 1 rfl rfl)
theorem dX11_common_3 : decode cX11_common 3 = .ok (.lload_n 2, 1) := dk_32 (dk_at dksX11_common_0 3 rfl rfl)
theorem dX11_common_4 : decode cX11_common 4 = .ok (.lstore 6, 2) := dk_55 6 (dk_at dksX11_common_0 4 rfl rfl)
theorem dX11_common_6 : decode cX11_common 6 = .ok (.lload 6, 2) := dk_22 6 (dk_at dksX11_common_0 6 rfl rfl)
theorem dX11_common_8 : decode cX11_common 8 = .ok (.lconst 0, 1) := dk_9 (dk_at dksX11_common_0 8 rfl rfl)
theorem dX11_common_9 : decode cX11_common 9 = .ok (.lcmp, 1) := dk_148 (dk_at dksX11_common_0 9 rfl rfl)
theorem dX11_common_10 : decode cX11_common 10 = .ok (.ifCond .eq 21, 3) := dk_153 0 21 (dk_at dksX11_common_0 10 rfl rfl)
theorem dX11_common_13 : decode cX11_common 13 = .ok (.lload 4, 2) := dk_22 4 (dk_at dksX11_common_0 13 rfl rfl)
theorem dX11_common_15 : decode cX11_common 15 = .ok (.lload 6, 2) := dk_22 6 (dk_at dksX11_common_0 15 rfl rfl)
theorem dX11_common_17 : decode cX11_common 17 = .ok (.lrem, 1) := dk_113 (dk_at dksX11_common_0 17 rfl rfl)
theorem dX11_common_18 : decode cX11_common 18 = .ok (.lstore 8, 2) := dk_55 8 (dk_at dksX11_common_0 18 rfl rfl)
theorem dX11_common_20 : decode cX11_common 20 = .ok (.lload 6, 2) := dk_22 6 (dk_at dksX11_common_0 20 rfl rfl)
theorem dX11_common_22 : decode cX11_common 22 = .ok (.lstore 4, 2) := dk_55 4 (dk_at dksX11_common_0 22 rfl rfl)
theorem dX11_common_24 : decode cX11_common 24 = .ok (.lload 8, 2) := dk_22 8 (dk_at dksX11_common_1 0 rfl rfl)
theorem dX11_common_26 : decode cX11_common 26 = .ok (.lstore 6, 2) := dk_55 6 (dk_at dksX11_common_1 2 rfl rfl)
theorem dX11_common_28 : decode cX11_common 28 = .ok (.goto (-22), 3) := dk_167 255 234 (dk_at dksX11_common_1 4 rfl rfl)
theorem dX11_common_31 : decode cX11_common 31 = .ok (.lload 4, 2) := dk_22 4 (dk_at dksX11_common_1 7 rfl rfl)
theorem dX11_common_33 : decode cX11_common 33 = .ok (.lreturn, 1) := dk_173 (dk_at dksX11_common_1 9 rfl rfl)
abbrev cX11_next_2 : ByteArray := prog_23_method_65_code
def yX11_next_2 : MethodName := ⟨RX11, "next", "(III)J"⟩
def dkwX11_next_2_9 : List UInt8 := [22, 4, 42, 180, 1, 67, 42, 180, 1, 70, 100, 133, 105, 29, 184, 1, 87, 173]
abbrev dktX11_next_2_9 : List UInt8 := dkwX11_next_2_9 ++ []
def dkwX11_next_2_8 : List UInt8 := [184, 1, 73, 100, 133, 105, 97, 55, 7, 132, 10, 1, 167, 255, 213, 132, 9, 1, 167, 255, 181, 22, 7]
abbrev dktX11_next_2_8 : List UInt8 := dkwX11_next_2_8 ++ dktX11_next_2_9
def dkwX11_next_2_7 : List UInt8 := [22, 7, 42, 180, 0, 68, 21, 10, 47, 42, 180, 0, 59, 28, 46, 21, 10, 42, 180, 0, 65, 21, 9, 46]
abbrev dktX11_next_2_7 : List UInt8 := dkwX11_next_2_7 ++ dktX11_next_2_8
def dkwX11_next_2_6 : List UInt8 := [180, 0, 62, 21, 9, 46, 28, 159, 0, 6, 167, 0, 52, 3, 54, 10, 21, 10, 21, 6, 162, 0, 42]
abbrev dktX11_next_2_6 : List UInt8 := dkwX11_next_2_6 ++ dktX11_next_2_7
def dkwX11_next_2_5 : List UInt8 := [54, 6, 132, 7, 1, 167, 255, 238, 9, 55, 7, 3, 54, 9, 21, 9, 42, 180, 1, 64, 162, 0, 72, 42]
abbrev dktX11_next_2_5 : List UInt8 := dkwX11_next_2_5 ++ dktX11_next_2_6
def dkwX11_next_2_4 : List UInt8 := [153, 0, 5, 9, 173, 4, 54, 6, 3, 54, 7, 21, 7, 42, 180, 1, 64, 162, 0, 15, 21, 6, 8, 104]
abbrev dktX11_next_2_4 : List UInt8 := dkwX11_next_2_4 ++ dktX11_next_2_5
def dkwX11_next_2_3 : List UInt8 := [9, 148, 153, 0, 14, 42, 180, 1, 67, 42, 180, 1, 70, 163, 0, 7, 4, 167, 0, 4, 3, 182, 1, 32]
abbrev dktX11_next_2_3 : List UInt8 := dkwX11_next_2_3 ++ dktX11_next_2_4
def dkwX11_next_2_2 : List UInt8 := [167, 0, 4, 3, 182, 1, 32, 153, 0, 5, 9, 173, 42, 27, 2, 3, 182, 1, 83, 55, 4, 42, 22, 4]
abbrev dktX11_next_2_2 : List UInt8 := dkwX11_next_2_2 ++ dktX11_next_2_3
def dkwX11_next_2_1 : List UInt8 := [153, 0, 21, 42, 180, 0, 33, 16, 7, 46, 153, 0, 11, 42, 27, 182, 1, 80, 154, 0, 7, 4]
abbrev dktX11_next_2_1 : List UInt8 := dkwX11_next_2_1 ++ dktX11_next_2_2
def dkwX11_next_2_0 : List UInt8 := [42, 42, 27, 182, 1, 26, 153, 0, 38, 42, 28, 182, 1, 29, 153, 0, 30, 29, 3, 4, 184, 0, 195]
abbrev dktX11_next_2_0 : List UInt8 := dkwX11_next_2_0 ++ dktX11_next_2_1
theorem dksX11_next_2_0 : cX11_next_2.data.toList.drop 0 = dktX11_next_2_0 := by decide +kernel
theorem dksX11_next_2_1 : cX11_next_2.data.toList.drop 23 = dktX11_next_2_1 := dk_seg dksX11_next_2_0 23 rfl rfl
theorem dksX11_next_2_2 : cX11_next_2.data.toList.drop 45 = dktX11_next_2_2 := dk_seg dksX11_next_2_1 22 rfl rfl
theorem dksX11_next_2_3 : cX11_next_2.data.toList.drop 69 = dktX11_next_2_3 := dk_seg dksX11_next_2_2 24 rfl rfl
theorem dksX11_next_2_4 : cX11_next_2.data.toList.drop 93 = dktX11_next_2_4 := dk_seg dksX11_next_2_3 24 rfl rfl
theorem dksX11_next_2_5 : cX11_next_2.data.toList.drop 117 = dktX11_next_2_5 := dk_seg dksX11_next_2_4 24 rfl rfl
theorem dksX11_next_2_6 : cX11_next_2.data.toList.drop 141 = dktX11_next_2_6 := dk_seg dksX11_next_2_5 24 rfl rfl
theorem dksX11_next_2_7 : cX11_next_2.data.toList.drop 164 = dktX11_next_2_7 := dk_seg dksX11_next_2_6 23 rfl rfl
theorem dksX11_next_2_8 : cX11_next_2.data.toList.drop 188 = dktX11_next_2_8 := dk_seg dksX11_next_2_7 24 rfl rfl
theorem dksX11_next_2_9 : cX11_next_2.data.toList.drop 211 = dktX11_next_2_9 := dk_seg dksX11_next_2_8 23 rfl rfl
theorem dX11_next_2_0 : decode cX11_next_2 0 = .ok (.aload_n 0, 1) := dk_42 (dk_at dksX11_next_2_0 0 rfl rfl)
theorem dX11_next_2_1 : decode cX11_next_2 1 = .ok (.aload_n 0, 1) := dk_42 (dk_at dksX11_next_2_0 1 rfl rfl)
theorem dX11_next_2_2 : decode cX11_next_2 2 = .ok (.iload_n 1, 1) := dk_27 (dk_at dksX11_next_2_0 2 rfl rfl)
theorem dX11_next_2_3 : decode cX11_next_2 3 = .ok (.invokevirtual 282, 3) := dk_182 1 26 (dk_at dksX11_next_2_0 3 rfl rfl)
theorem dX11_next_2_6 : decode cX11_next_2 6 = .ok (.ifCond .eq 38, 3) := dk_153 0 38 (dk_at dksX11_next_2_0 6 rfl rfl)
theorem dX11_next_2_9 : decode cX11_next_2 9 = .ok (.aload_n 0, 1) := dk_42 (dk_at dksX11_next_2_0 9 rfl rfl)
theorem dX11_next_2_10 : decode cX11_next_2 10 = .ok (.iload_n 2, 1) := dk_28 (dk_at dksX11_next_2_0 10 rfl rfl)
theorem dX11_next_2_11 : decode cX11_next_2 11 = .ok (.invokevirtual 285, 3) := dk_182 1 29 (dk_at dksX11_next_2_0 11 rfl rfl)
theorem dX11_next_2_14 : decode cX11_next_2 14 = .ok (.ifCond .eq 30, 3) := dk_153 0 30 (dk_at dksX11_next_2_0 14 rfl rfl)
theorem dX11_next_2_17 : decode cX11_next_2 17 = .ok (.iload_n 3, 1) := dk_29 (dk_at dksX11_next_2_0 17 rfl rfl)
theorem dX11_next_2_18 : decode cX11_next_2 18 = .ok (.iconst 0, 1) := dk_3 (dk_at dksX11_next_2_0 18 rfl rfl)
theorem dX11_next_2_19 : decode cX11_next_2 19 = .ok (.iconst 1, 1) := dk_4 (dk_at dksX11_next_2_0 19 rfl rfl)
theorem dX11_next_2_20 : decode cX11_next_2 20 = .ok (.invokestatic 195, 3) := dk_184 0 195 (dk_at dksX11_next_2_0 20 rfl rfl)
theorem dX11_next_2_23 : decode cX11_next_2 23 = .ok (.ifCond .eq 21, 3) := dk_153 0 21 (dk_at dksX11_next_2_1 0 rfl rfl)
theorem dX11_next_2_26 : decode cX11_next_2 26 = .ok (.aload_n 0, 1) := dk_42 (dk_at dksX11_next_2_1 3 rfl rfl)
theorem dX11_next_2_27 : decode cX11_next_2 27 = .ok (.getfield 33, 3) := dk_180 0 33 (dk_at dksX11_next_2_1 4 rfl rfl)
theorem dX11_next_2_30 : decode cX11_next_2 30 = .ok (.bipush 7, 2) := dk_16 7 (dk_at dksX11_next_2_1 7 rfl rfl)
theorem dX11_next_2_32 : decode cX11_next_2 32 = .ok (.iaload, 1) := dk_46 (dk_at dksX11_next_2_1 9 rfl rfl)
theorem dX11_next_2_33 : decode cX11_next_2 33 = .ok (.ifCond .eq 11, 3) := dk_153 0 11 (dk_at dksX11_next_2_1 10 rfl rfl)
theorem dX11_next_2_36 : decode cX11_next_2 36 = .ok (.aload_n 0, 1) := dk_42 (dk_at dksX11_next_2_1 13 rfl rfl)
theorem dX11_next_2_37 : decode cX11_next_2 37 = .ok (.iload_n 1, 1) := dk_27 (dk_at dksX11_next_2_1 14 rfl rfl)
theorem dX11_next_2_38 : decode cX11_next_2 38 = .ok (.invokevirtual 336, 3) := dk_182 1 80 (dk_at dksX11_next_2_1 15 rfl rfl)
theorem dX11_next_2_41 : decode cX11_next_2 41 = .ok (.ifCond .ne 7, 3) := dk_154 0 7 (dk_at dksX11_next_2_1 18 rfl rfl)
theorem dX11_next_2_44 : decode cX11_next_2 44 = .ok (.iconst 1, 1) := dk_4 (dk_at dksX11_next_2_1 21 rfl rfl)
theorem dX11_next_2_45 : decode cX11_next_2 45 = .ok (.goto 4, 3) := dk_167 0 4 (dk_at dksX11_next_2_2 0 rfl rfl)
theorem dX11_next_2_48 : decode cX11_next_2 48 = .ok (.iconst 0, 1) := dk_3 (dk_at dksX11_next_2_2 3 rfl rfl)
theorem dX11_next_2_49 : decode cX11_next_2 49 = .ok (.invokevirtual 288, 3) := dk_182 1 32 (dk_at dksX11_next_2_2 4 rfl rfl)
theorem dX11_next_2_52 : decode cX11_next_2 52 = .ok (.ifCond .eq 5, 3) := dk_153 0 5 (dk_at dksX11_next_2_2 7 rfl rfl)
theorem dX11_next_2_55 : decode cX11_next_2 55 = .ok (.lconst 0, 1) := dk_9 (dk_at dksX11_next_2_2 10 rfl rfl)
theorem dX11_next_2_56 : decode cX11_next_2 56 = .ok (.lreturn, 1) := dk_173 (dk_at dksX11_next_2_2 11 rfl rfl)
theorem dX11_next_2_57 : decode cX11_next_2 57 = .ok (.aload_n 0, 1) := dk_42 (dk_at dksX11_next_2_2 12 rfl rfl)
theorem dX11_next_2_58 : decode cX11_next_2 58 = .ok (.iload_n 1, 1) := dk_27 (dk_at dksX11_next_2_2 13 rfl rfl)
theorem dX11_next_2_59 : decode cX11_next_2 59 = .ok (.iconst (-1), 1) := dk_2 (dk_at dksX11_next_2_2 14 rfl rfl)
theorem dX11_next_2_60 : decode cX11_next_2 60 = .ok (.iconst 0, 1) := dk_3 (dk_at dksX11_next_2_2 15 rfl rfl)
theorem dX11_next_2_61 : decode cX11_next_2 61 = .ok (.invokevirtual 339, 3) := dk_182 1 83 (dk_at dksX11_next_2_2 16 rfl rfl)
theorem dX11_next_2_64 : decode cX11_next_2 64 = .ok (.lstore 4, 2) := dk_55 4 (dk_at dksX11_next_2_2 19 rfl rfl)
theorem dX11_next_2_66 : decode cX11_next_2 66 = .ok (.aload_n 0, 1) := dk_42 (dk_at dksX11_next_2_2 21 rfl rfl)
theorem dX11_next_2_67 : decode cX11_next_2 67 = .ok (.lload 4, 2) := dk_22 4 (dk_at dksX11_next_2_2 22 rfl rfl)
theorem dX11_next_2_69 : decode cX11_next_2 69 = .ok (.lconst 0, 1) := dk_9 (dk_at dksX11_next_2_3 0 rfl rfl)
theorem dX11_next_2_70 : decode cX11_next_2 70 = .ok (.lcmp, 1) := dk_148 (dk_at dksX11_next_2_3 1 rfl rfl)
theorem dX11_next_2_71 : decode cX11_next_2 71 = .ok (.ifCond .eq 14, 3) := dk_153 0 14 (dk_at dksX11_next_2_3 2 rfl rfl)
theorem dX11_next_2_74 : decode cX11_next_2 74 = .ok (.aload_n 0, 1) := dk_42 (dk_at dksX11_next_2_3 5 rfl rfl)
theorem dX11_next_2_75 : decode cX11_next_2 75 = .ok (.getfield 323, 3) := dk_180 1 67 (dk_at dksX11_next_2_3 6 rfl rfl)
theorem dX11_next_2_78 : decode cX11_next_2 78 = .ok (.aload_n 0, 1) := dk_42 (dk_at dksX11_next_2_3 9 rfl rfl)
theorem dX11_next_2_79 : decode cX11_next_2 79 = .ok (.getfield 326, 3) := dk_180 1 70 (dk_at dksX11_next_2_3 10 rfl rfl)
theorem dX11_next_2_82 : decode cX11_next_2 82 = .ok (.if_icmp .gt 7, 3) := dk_163 0 7 (dk_at dksX11_next_2_3 13 rfl rfl)
theorem dX11_next_2_85 : decode cX11_next_2 85 = .ok (.iconst 1, 1) := dk_4 (dk_at dksX11_next_2_3 16 rfl rfl)
theorem dX11_next_2_86 : decode cX11_next_2 86 = .ok (.goto 4, 3) := dk_167 0 4 (dk_at dksX11_next_2_3 17 rfl rfl)
theorem dX11_next_2_89 : decode cX11_next_2 89 = .ok (.iconst 0, 1) := dk_3 (dk_at dksX11_next_2_3 20 rfl rfl)
theorem dX11_next_2_90 : decode cX11_next_2 90 = .ok (.invokevirtual 288, 3) := dk_182 1 32 (dk_at dksX11_next_2_3 21 rfl rfl)
theorem dX11_next_2_93 : decode cX11_next_2 93 = .ok (.ifCond .eq 5, 3) := dk_153 0 5 (dk_at dksX11_next_2_4 0 rfl rfl)
theorem dX11_next_2_96 : decode cX11_next_2 96 = .ok (.lconst 0, 1) := dk_9 (dk_at dksX11_next_2_4 3 rfl rfl)
theorem dX11_next_2_97 : decode cX11_next_2 97 = .ok (.lreturn, 1) := dk_173 (dk_at dksX11_next_2_4 4 rfl rfl)
theorem dX11_next_2_98 : decode cX11_next_2 98 = .ok (.iconst 1, 1) := dk_4 (dk_at dksX11_next_2_4 5 rfl rfl)
theorem dX11_next_2_99 : decode cX11_next_2 99 = .ok (.istore 6, 2) := dk_54 6 (dk_at dksX11_next_2_4 6 rfl rfl)
theorem dX11_next_2_101 : decode cX11_next_2 101 = .ok (.iconst 0, 1) := dk_3 (dk_at dksX11_next_2_4 8 rfl rfl)
theorem dX11_next_2_102 : decode cX11_next_2 102 = .ok (.istore 7, 2) := dk_54 7 (dk_at dksX11_next_2_4 9 rfl rfl)
theorem dX11_next_2_104 : decode cX11_next_2 104 = .ok (.iload 7, 2) := dk_21 7 (dk_at dksX11_next_2_4 11 rfl rfl)
theorem dX11_next_2_106 : decode cX11_next_2 106 = .ok (.aload_n 0, 1) := dk_42 (dk_at dksX11_next_2_4 13 rfl rfl)
theorem dX11_next_2_107 : decode cX11_next_2 107 = .ok (.getfield 320, 3) := dk_180 1 64 (dk_at dksX11_next_2_4 14 rfl rfl)
theorem dX11_next_2_110 : decode cX11_next_2 110 = .ok (.if_icmp .ge 15, 3) := dk_162 0 15 (dk_at dksX11_next_2_4 17 rfl rfl)
theorem dX11_next_2_113 : decode cX11_next_2 113 = .ok (.iload 6, 2) := dk_21 6 (dk_at dksX11_next_2_4 20 rfl rfl)
theorem dX11_next_2_115 : decode cX11_next_2 115 = .ok (.iconst 5, 1) := dk_8 (dk_at dksX11_next_2_4 22 rfl rfl)
theorem dX11_next_2_116 : decode cX11_next_2 116 = .ok (.imul, 1) := dk_104 (dk_at dksX11_next_2_4 23 rfl rfl)
theorem dX11_next_2_117 : decode cX11_next_2 117 = .ok (.istore 6, 2) := dk_54 6 (dk_at dksX11_next_2_5 0 rfl rfl)
theorem dX11_next_2_119 : decode cX11_next_2 119 = .ok (.iinc 7 1, 3) := dk_132 7 1 (dk_at dksX11_next_2_5 2 rfl rfl)
theorem dX11_next_2_122 : decode cX11_next_2 122 = .ok (.goto (-18), 3) := dk_167 255 238 (dk_at dksX11_next_2_5 5 rfl rfl)
theorem dX11_next_2_125 : decode cX11_next_2 125 = .ok (.lconst 0, 1) := dk_9 (dk_at dksX11_next_2_5 8 rfl rfl)
theorem dX11_next_2_126 : decode cX11_next_2 126 = .ok (.lstore 7, 2) := dk_55 7 (dk_at dksX11_next_2_5 9 rfl rfl)
theorem dX11_next_2_128 : decode cX11_next_2 128 = .ok (.iconst 0, 1) := dk_3 (dk_at dksX11_next_2_5 11 rfl rfl)
theorem dX11_next_2_129 : decode cX11_next_2 129 = .ok (.istore 9, 2) := dk_54 9 (dk_at dksX11_next_2_5 12 rfl rfl)
theorem dX11_next_2_131 : decode cX11_next_2 131 = .ok (.iload 9, 2) := dk_21 9 (dk_at dksX11_next_2_5 14 rfl rfl)
theorem dX11_next_2_133 : decode cX11_next_2 133 = .ok (.aload_n 0, 1) := dk_42 (dk_at dksX11_next_2_5 16 rfl rfl)
theorem dX11_next_2_134 : decode cX11_next_2 134 = .ok (.getfield 320, 3) := dk_180 1 64 (dk_at dksX11_next_2_5 17 rfl rfl)
theorem dX11_next_2_137 : decode cX11_next_2 137 = .ok (.if_icmp .ge 72, 3) := dk_162 0 72 (dk_at dksX11_next_2_5 20 rfl rfl)
theorem dX11_next_2_140 : decode cX11_next_2 140 = .ok (.aload_n 0, 1) := dk_42 (dk_at dksX11_next_2_5 23 rfl rfl)
theorem dX11_next_2_141 : decode cX11_next_2 141 = .ok (.getfield 62, 3) := dk_180 0 62 (dk_at dksX11_next_2_6 0 rfl rfl)
theorem dX11_next_2_144 : decode cX11_next_2 144 = .ok (.iload 9, 2) := dk_21 9 (dk_at dksX11_next_2_6 3 rfl rfl)
theorem dX11_next_2_146 : decode cX11_next_2 146 = .ok (.iaload, 1) := dk_46 (dk_at dksX11_next_2_6 5 rfl rfl)
theorem dX11_next_2_147 : decode cX11_next_2 147 = .ok (.iload_n 2, 1) := dk_28 (dk_at dksX11_next_2_6 6 rfl rfl)
theorem dX11_next_2_148 : decode cX11_next_2 148 = .ok (.if_icmp .eq 6, 3) := dk_159 0 6 (dk_at dksX11_next_2_6 7 rfl rfl)
theorem dX11_next_2_151 : decode cX11_next_2 151 = .ok (.goto 52, 3) := dk_167 0 52 (dk_at dksX11_next_2_6 10 rfl rfl)
theorem dX11_next_2_154 : decode cX11_next_2 154 = .ok (.iconst 0, 1) := dk_3 (dk_at dksX11_next_2_6 13 rfl rfl)
theorem dX11_next_2_155 : decode cX11_next_2 155 = .ok (.istore 10, 2) := dk_54 10 (dk_at dksX11_next_2_6 14 rfl rfl)
theorem dX11_next_2_157 : decode cX11_next_2 157 = .ok (.iload 10, 2) := dk_21 10 (dk_at dksX11_next_2_6 16 rfl rfl)
theorem dX11_next_2_159 : decode cX11_next_2 159 = .ok (.iload 6, 2) := dk_21 6 (dk_at dksX11_next_2_6 18 rfl rfl)
theorem dX11_next_2_161 : decode cX11_next_2 161 = .ok (.if_icmp .ge 42, 3) := dk_162 0 42 (dk_at dksX11_next_2_6 20 rfl rfl)
theorem dX11_next_2_164 : decode cX11_next_2 164 = .ok (.lload 7, 2) := dk_22 7 (dk_at dksX11_next_2_7 0 rfl rfl)
theorem dX11_next_2_166 : decode cX11_next_2 166 = .ok (.aload_n 0, 1) := dk_42 (dk_at dksX11_next_2_7 2 rfl rfl)
theorem dX11_next_2_167 : decode cX11_next_2 167 = .ok (.getfield 68, 3) := dk_180 0 68 (dk_at dksX11_next_2_7 3 rfl rfl)
theorem dX11_next_2_170 : decode cX11_next_2 170 = .ok (.iload 10, 2) := dk_21 10 (dk_at dksX11_next_2_7 6 rfl rfl)
theorem dX11_next_2_172 : decode cX11_next_2 172 = .ok (.laload, 1) := dk_47 (dk_at dksX11_next_2_7 8 rfl rfl)
theorem dX11_next_2_173 : decode cX11_next_2 173 = .ok (.aload_n 0, 1) := dk_42 (dk_at dksX11_next_2_7 9 rfl rfl)
theorem dX11_next_2_174 : decode cX11_next_2 174 = .ok (.getfield 59, 3) := dk_180 0 59 (dk_at dksX11_next_2_7 10 rfl rfl)
theorem dX11_next_2_177 : decode cX11_next_2 177 = .ok (.iload_n 2, 1) := dk_28 (dk_at dksX11_next_2_7 13 rfl rfl)
theorem dX11_next_2_178 : decode cX11_next_2 178 = .ok (.iaload, 1) := dk_46 (dk_at dksX11_next_2_7 14 rfl rfl)
theorem dX11_next_2_179 : decode cX11_next_2 179 = .ok (.iload 10, 2) := dk_21 10 (dk_at dksX11_next_2_7 15 rfl rfl)
theorem dX11_next_2_181 : decode cX11_next_2 181 = .ok (.aload_n 0, 1) := dk_42 (dk_at dksX11_next_2_7 17 rfl rfl)
theorem dX11_next_2_182 : decode cX11_next_2 182 = .ok (.getfield 65, 3) := dk_180 0 65 (dk_at dksX11_next_2_7 18 rfl rfl)
theorem dX11_next_2_185 : decode cX11_next_2 185 = .ok (.iload 9, 2) := dk_21 9 (dk_at dksX11_next_2_7 21 rfl rfl)
theorem dX11_next_2_187 : decode cX11_next_2 187 = .ok (.iaload, 1) := dk_46 (dk_at dksX11_next_2_7 23 rfl rfl)
theorem dX11_next_2_188 : decode cX11_next_2 188 = .ok (.invokestatic 329, 3) := dk_184 1 73 (dk_at dksX11_next_2_8 0 rfl rfl)
theorem dX11_next_2_191 : decode cX11_next_2 191 = .ok (.isub, 1) := dk_100 (dk_at dksX11_next_2_8 3 rfl rfl)
theorem dX11_next_2_192 : decode cX11_next_2 192 = .ok (.i2l, 1) := dk_133 (dk_at dksX11_next_2_8 4 rfl rfl)
theorem dX11_next_2_193 : decode cX11_next_2 193 = .ok (.lmul, 1) := dk_105 (dk_at dksX11_next_2_8 5 rfl rfl)
theorem dX11_next_2_194 : decode cX11_next_2 194 = .ok (.ladd, 1) := dk_97 (dk_at dksX11_next_2_8 6 rfl rfl)
theorem dX11_next_2_195 : decode cX11_next_2 195 = .ok (.lstore 7, 2) := dk_55 7 (dk_at dksX11_next_2_8 7 rfl rfl)
theorem dX11_next_2_197 : decode cX11_next_2 197 = .ok (.iinc 10 1, 3) := dk_132 10 1 (dk_at dksX11_next_2_8 9 rfl rfl)
theorem dX11_next_2_200 : decode cX11_next_2 200 = .ok (.goto (-43), 3) := dk_167 255 213 (dk_at dksX11_next_2_8 12 rfl rfl)
theorem dX11_next_2_203 : decode cX11_next_2 203 = .ok (.iinc 9 1, 3) := dk_132 9 1 (dk_at dksX11_next_2_8 15 rfl rfl)
theorem dX11_next_2_206 : decode cX11_next_2 206 = .ok (.goto (-75), 3) := dk_167 255 181 (dk_at dksX11_next_2_8 18 rfl rfl)
theorem dX11_next_2_209 : decode cX11_next_2 209 = .ok (.lload 7, 2) := dk_22 7 (dk_at dksX11_next_2_8 21 rfl rfl)
theorem dX11_next_2_211 : decode cX11_next_2 211 = .ok (.lload 4, 2) := dk_22 4 (dk_at dksX11_next_2_9 0 rfl rfl)
theorem dX11_next_2_213 : decode cX11_next_2 213 = .ok (.aload_n 0, 1) := dk_42 (dk_at dksX11_next_2_9 2 rfl rfl)
theorem dX11_next_2_214 : decode cX11_next_2 214 = .ok (.getfield 323, 3) := dk_180 1 67 (dk_at dksX11_next_2_9 3 rfl rfl)
theorem dX11_next_2_217 : decode cX11_next_2 217 = .ok (.aload_n 0, 1) := dk_42 (dk_at dksX11_next_2_9 6 rfl rfl)
theorem dX11_next_2_218 : decode cX11_next_2 218 = .ok (.getfield 326, 3) := dk_180 1 70 (dk_at dksX11_next_2_9 7 rfl rfl)
theorem dX11_next_2_221 : decode cX11_next_2 221 = .ok (.isub, 1) := dk_100 (dk_at dksX11_next_2_9 10 rfl rfl)
theorem dX11_next_2_222 : decode cX11_next_2 222 = .ok (.i2l, 1) := dk_133 (dk_at dksX11_next_2_9 11 rfl rfl)
theorem dX11_next_2_223 : decode cX11_next_2 223 = .ok (.lmul, 1) := dk_105 (dk_at dksX11_next_2_9 12 rfl rfl)
theorem dX11_next_2_224 : decode cX11_next_2 224 = .ok (.iload_n 3, 1) := dk_29 (dk_at dksX11_next_2_9 13 rfl rfl)
theorem dX11_next_2_225 : decode cX11_next_2 225 = .ok (.invokestatic 343, 3) := dk_184 1 87 (dk_at dksX11_next_2_9 14 rfl rfl)
theorem dX11_next_2_228 : decode cX11_next_2 228 = .ok (.lreturn, 1) := dk_173 (dk_at dksX11_next_2_9 17 rfl rfl)
abbrev cX11_whom : ByteArray := prog_23_method_66_code
def yX11_whom : MethodName := ⟨RX11, "whom", "(I)I"⟩
def dkwX11_whom_7 : List UInt8 := [132, 8, 1, 167, 255, 160, 132, 7, 1, 167, 255, 140, 21, 6, 172]
abbrev dktX11_whom_7 : List UInt8 := dkwX11_whom_7 ++ []
def dkwX11_whom_6 : List UInt8 := [22, 4, 148, 157, 0, 6, 167, 0, 17, 22, 9, 55, 4, 16, 100, 21, 7, 104, 21, 8, 96, 54, 6]
abbrev dktX11_whom_6 : List UInt8 := dkwX11_whom_6 ++ dktX11_whom_7
def dkwX11_whom_5 : List UInt8 := [96, 46, 158, 0, 7, 32, 167, 0, 14, 32, 42, 27, 21, 7, 21, 8, 182, 1, 83, 101, 55, 9, 22, 9]
abbrev dktX11_whom_5 : List UInt8 := dkwX11_whom_5 ++ dktX11_whom_6
def dkwX11_whom_4 : List UInt8 := [182, 0, 255, 154, 0, 6, 167, 0, 65, 42, 180, 0, 33, 17, 0, 151, 16, 13, 21, 7, 104, 96, 21, 8]
abbrev dktX11_whom_4 : List UInt8 := dkwX11_whom_4 ++ dktX11_whom_5
def dkwX11_whom_3 : List UInt8 := [54, 8, 21, 8, 42, 180, 0, 33, 3, 46, 162, 0, 91, 21, 7, 27, 159, 0, 79, 42, 27, 21, 8, 3]
abbrev dktX11_whom_3 : List UInt8 := dkwX11_whom_3 ++ dktX11_whom_4
def dkwX11_whom_2 : List UInt8 := [20, 1, 91, 55, 4, 2, 54, 6, 3, 54, 7, 21, 7, 42, 180, 0, 33, 4, 46, 162, 0, 111, 3]
abbrev dktX11_whom_2 : List UInt8 := dkwX11_whom_2 ++ dktX11_whom_3
def dkwX11_whom_1 : List UInt8 := [182, 1, 80, 154, 0, 5, 2, 172, 42, 27, 2, 3, 182, 1, 83, 65, 32, 9, 148, 154, 0, 5, 2, 172]
abbrev dktX11_whom_1 : List UInt8 := dkwX11_whom_1 ++ dktX11_whom_2
def dkwX11_whom_0 : List UInt8 := [42, 3, 181, 0, 1, 42, 27, 182, 1, 26, 153, 0, 19, 42, 27, 182, 1, 7, 153, 0, 11, 42, 27]
abbrev dktX11_whom_0 : List UInt8 := dkwX11_whom_0 ++ dktX11_whom_1
theorem dksX11_whom_0 : cX11_whom.data.toList.drop 0 = dktX11_whom_0 := by decide +kernel
theorem dksX11_whom_1 : cX11_whom.data.toList.drop 23 = dktX11_whom_1 := dk_seg dksX11_whom_0 23 rfl rfl
theorem dksX11_whom_2 : cX11_whom.data.toList.drop 47 = dktX11_whom_2 := dk_seg dksX11_whom_1 24 rfl rfl
theorem dksX11_whom_3 : cX11_whom.data.toList.drop 70 = dktX11_whom_3 := dk_seg dksX11_whom_2 23 rfl rfl
theorem dksX11_whom_4 : cX11_whom.data.toList.drop 94 = dktX11_whom_4 := dk_seg dksX11_whom_3 24 rfl rfl
theorem dksX11_whom_5 : cX11_whom.data.toList.drop 118 = dktX11_whom_5 := dk_seg dksX11_whom_4 24 rfl rfl
theorem dksX11_whom_6 : cX11_whom.data.toList.drop 142 = dktX11_whom_6 := dk_seg dksX11_whom_5 24 rfl rfl
theorem dksX11_whom_7 : cX11_whom.data.toList.drop 165 = dktX11_whom_7 := dk_seg dksX11_whom_6 23 rfl rfl
theorem dX11_whom_0 : decode cX11_whom 0 = .ok (.aload_n 0, 1) := dk_42 (dk_at dksX11_whom_0 0 rfl rfl)
theorem dX11_whom_1 : decode cX11_whom 1 = .ok (.iconst 0, 1) := dk_3 (dk_at dksX11_whom_0 1 rfl rfl)
theorem dX11_whom_2 : decode cX11_whom 2 = .ok (.putfield 1, 3) := dk_181 0 1 (dk_at dksX11_whom_0 2 rfl rfl)
theorem dX11_whom_5 : decode cX11_whom 5 = .ok (.aload_n 0, 1) := dk_42 (dk_at dksX11_whom_0 5 rfl rfl)
theorem dX11_whom_6 : decode cX11_whom 6 = .ok (.iload_n 1, 1) := dk_27 (dk_at dksX11_whom_0 6 rfl rfl)
theorem dX11_whom_7 : decode cX11_whom 7 = .ok (.invokevirtual 282, 3) := dk_182 1 26 (dk_at dksX11_whom_0 7 rfl rfl)
theorem dX11_whom_10 : decode cX11_whom 10 = .ok (.ifCond .eq 19, 3) := dk_153 0 19 (dk_at dksX11_whom_0 10 rfl rfl)
theorem dX11_whom_13 : decode cX11_whom 13 = .ok (.aload_n 0, 1) := dk_42 (dk_at dksX11_whom_0 13 rfl rfl)
theorem dX11_whom_14 : decode cX11_whom 14 = .ok (.iload_n 1, 1) := dk_27 (dk_at dksX11_whom_0 14 rfl rfl)
theorem dX11_whom_15 : decode cX11_whom 15 = .ok (.invokevirtual 263, 3) := dk_182 1 7 (dk_at dksX11_whom_0 15 rfl rfl)
theorem dX11_whom_18 : decode cX11_whom 18 = .ok (.ifCond .eq 11, 3) := dk_153 0 11 (dk_at dksX11_whom_0 18 rfl rfl)
theorem dX11_whom_21 : decode cX11_whom 21 = .ok (.aload_n 0, 1) := dk_42 (dk_at dksX11_whom_0 21 rfl rfl)
theorem dX11_whom_22 : decode cX11_whom 22 = .ok (.iload_n 1, 1) := dk_27 (dk_at dksX11_whom_0 22 rfl rfl)
theorem dX11_whom_23 : decode cX11_whom 23 = .ok (.invokevirtual 336, 3) := dk_182 1 80 (dk_at dksX11_whom_1 0 rfl rfl)
theorem dX11_whom_26 : decode cX11_whom 26 = .ok (.ifCond .ne 5, 3) := dk_154 0 5 (dk_at dksX11_whom_1 3 rfl rfl)
theorem dX11_whom_29 : decode cX11_whom 29 = .ok (.iconst (-1), 1) := dk_2 (dk_at dksX11_whom_1 6 rfl rfl)
theorem dX11_whom_30 : decode cX11_whom 30 = .ok (.ireturn, 1) := dk_172 (dk_at dksX11_whom_1 7 rfl rfl)
theorem dX11_whom_31 : decode cX11_whom 31 = .ok (.aload_n 0, 1) := dk_42 (dk_at dksX11_whom_1 8 rfl rfl)
theorem dX11_whom_32 : decode cX11_whom 32 = .ok (.iload_n 1, 1) := dk_27 (dk_at dksX11_whom_1 9 rfl rfl)
theorem dX11_whom_33 : decode cX11_whom 33 = .ok (.iconst (-1), 1) := dk_2 (dk_at dksX11_whom_1 10 rfl rfl)
theorem dX11_whom_34 : decode cX11_whom 34 = .ok (.iconst 0, 1) := dk_3 (dk_at dksX11_whom_1 11 rfl rfl)
theorem dX11_whom_35 : decode cX11_whom 35 = .ok (.invokevirtual 339, 3) := dk_182 1 83 (dk_at dksX11_whom_1 12 rfl rfl)
theorem dX11_whom_38 : decode cX11_whom 38 = .ok (.lstore_n 2, 1) := dk_65 (dk_at dksX11_whom_1 15 rfl rfl)
theorem dX11_whom_39 : decode cX11_whom 39 = .ok (.lload_n 2, 1) := dk_32 (dk_at dksX11_whom_1 16 rfl rfl)
theorem dX11_whom_40 : decode cX11_whom 40 = .ok (.lconst 0, 1) := dk_9 (dk_at dksX11_whom_1 17 rfl rfl)
theorem dX11_whom_41 : decode cX11_whom 41 = .ok (.lcmp, 1) := dk_148 (dk_at dksX11_whom_1 18 rfl rfl)
theorem dX11_whom_42 : decode cX11_whom 42 = .ok (.ifCond .ne 5, 3) := dk_154 0 5 (dk_at dksX11_whom_1 19 rfl rfl)
theorem dX11_whom_45 : decode cX11_whom 45 = .ok (.iconst (-1), 1) := dk_2 (dk_at dksX11_whom_1 22 rfl rfl)
theorem dX11_whom_46 : decode cX11_whom 46 = .ok (.ireturn, 1) := dk_172 (dk_at dksX11_whom_1 23 rfl rfl)
theorem dX11_whom_47 : decode cX11_whom 47 = .ok (.ldc2_w 347, 3) := dk_20 1 91 (dk_at dksX11_whom_2 0 rfl rfl)
theorem dX11_whom_50 : decode cX11_whom 50 = .ok (.lstore 4, 2) := dk_55 4 (dk_at dksX11_whom_2 3 rfl rfl)
theorem dX11_whom_52 : decode cX11_whom 52 = .ok (.iconst (-1), 1) := dk_2 (dk_at dksX11_whom_2 5 rfl rfl)
theorem dX11_whom_53 : decode cX11_whom 53 = .ok (.istore 6, 2) := dk_54 6 (dk_at dksX11_whom_2 6 rfl rfl)
theorem dX11_whom_55 : decode cX11_whom 55 = .ok (.iconst 0, 1) := dk_3 (dk_at dksX11_whom_2 8 rfl rfl)
theorem dX11_whom_56 : decode cX11_whom 56 = .ok (.istore 7, 2) := dk_54 7 (dk_at dksX11_whom_2 9 rfl rfl)
theorem dX11_whom_58 : decode cX11_whom 58 = .ok (.iload 7, 2) := dk_21 7 (dk_at dksX11_whom_2 11 rfl rfl)
theorem dX11_whom_60 : decode cX11_whom 60 = .ok (.aload_n 0, 1) := dk_42 (dk_at dksX11_whom_2 13 rfl rfl)
theorem dX11_whom_61 : decode cX11_whom 61 = .ok (.getfield 33, 3) := dk_180 0 33 (dk_at dksX11_whom_2 14 rfl rfl)
theorem dX11_whom_64 : decode cX11_whom 64 = .ok (.iconst 1, 1) := dk_4 (dk_at dksX11_whom_2 17 rfl rfl)
theorem dX11_whom_65 : decode cX11_whom 65 = .ok (.iaload, 1) := dk_46 (dk_at dksX11_whom_2 18 rfl rfl)
theorem dX11_whom_66 : decode cX11_whom 66 = .ok (.if_icmp .ge 111, 3) := dk_162 0 111 (dk_at dksX11_whom_2 19 rfl rfl)
theorem dX11_whom_69 : decode cX11_whom 69 = .ok (.iconst 0, 1) := dk_3 (dk_at dksX11_whom_2 22 rfl rfl)
theorem dX11_whom_70 : decode cX11_whom 70 = .ok (.istore 8, 2) := dk_54 8 (dk_at dksX11_whom_3 0 rfl rfl)
theorem dX11_whom_72 : decode cX11_whom 72 = .ok (.iload 8, 2) := dk_21 8 (dk_at dksX11_whom_3 2 rfl rfl)
theorem dX11_whom_74 : decode cX11_whom 74 = .ok (.aload_n 0, 1) := dk_42 (dk_at dksX11_whom_3 4 rfl rfl)
theorem dX11_whom_75 : decode cX11_whom 75 = .ok (.getfield 33, 3) := dk_180 0 33 (dk_at dksX11_whom_3 5 rfl rfl)
theorem dX11_whom_78 : decode cX11_whom 78 = .ok (.iconst 0, 1) := dk_3 (dk_at dksX11_whom_3 8 rfl rfl)
theorem dX11_whom_79 : decode cX11_whom 79 = .ok (.iaload, 1) := dk_46 (dk_at dksX11_whom_3 9 rfl rfl)
theorem dX11_whom_80 : decode cX11_whom 80 = .ok (.if_icmp .ge 91, 3) := dk_162 0 91 (dk_at dksX11_whom_3 10 rfl rfl)
theorem dX11_whom_83 : decode cX11_whom 83 = .ok (.iload 7, 2) := dk_21 7 (dk_at dksX11_whom_3 13 rfl rfl)
theorem dX11_whom_85 : decode cX11_whom 85 = .ok (.iload_n 1, 1) := dk_27 (dk_at dksX11_whom_3 15 rfl rfl)
theorem dX11_whom_86 : decode cX11_whom 86 = .ok (.if_icmp .eq 79, 3) := dk_159 0 79 (dk_at dksX11_whom_3 16 rfl rfl)
theorem dX11_whom_89 : decode cX11_whom 89 = .ok (.aload_n 0, 1) := dk_42 (dk_at dksX11_whom_3 19 rfl rfl)
theorem dX11_whom_90 : decode cX11_whom 90 = .ok (.iload_n 1, 1) := dk_27 (dk_at dksX11_whom_3 20 rfl rfl)
theorem dX11_whom_91 : decode cX11_whom 91 = .ok (.iload 8, 2) := dk_21 8 (dk_at dksX11_whom_3 21 rfl rfl)
theorem dX11_whom_93 : decode cX11_whom 93 = .ok (.iconst 0, 1) := dk_3 (dk_at dksX11_whom_3 23 rfl rfl)
theorem dX11_whom_94 : decode cX11_whom 94 = .ok (.invokevirtual 255, 3) := dk_182 0 255 (dk_at dksX11_whom_4 0 rfl rfl)
theorem dX11_whom_97 : decode cX11_whom 97 = .ok (.ifCond .ne 6, 3) := dk_154 0 6 (dk_at dksX11_whom_4 3 rfl rfl)
theorem dX11_whom_100 : decode cX11_whom 100 = .ok (.goto 65, 3) := dk_167 0 65 (dk_at dksX11_whom_4 6 rfl rfl)
theorem dX11_whom_103 : decode cX11_whom 103 = .ok (.aload_n 0, 1) := dk_42 (dk_at dksX11_whom_4 9 rfl rfl)
theorem dX11_whom_104 : decode cX11_whom 104 = .ok (.getfield 33, 3) := dk_180 0 33 (dk_at dksX11_whom_4 10 rfl rfl)
theorem dX11_whom_107 : decode cX11_whom 107 = .ok (.sipush 151, 3) := dk_17 0 151 (dk_at dksX11_whom_4 13 rfl rfl)
theorem dX11_whom_110 : decode cX11_whom 110 = .ok (.bipush 13, 2) := dk_16 13 (dk_at dksX11_whom_4 16 rfl rfl)
theorem dX11_whom_112 : decode cX11_whom 112 = .ok (.iload 7, 2) := dk_21 7 (dk_at dksX11_whom_4 18 rfl rfl)
theorem dX11_whom_114 : decode cX11_whom 114 = .ok (.imul, 1) := dk_104 (dk_at dksX11_whom_4 20 rfl rfl)
theorem dX11_whom_115 : decode cX11_whom 115 = .ok (.iadd, 1) := dk_96 (dk_at dksX11_whom_4 21 rfl rfl)
theorem dX11_whom_116 : decode cX11_whom 116 = .ok (.iload 8, 2) := dk_21 8 (dk_at dksX11_whom_4 22 rfl rfl)
theorem dX11_whom_118 : decode cX11_whom 118 = .ok (.iadd, 1) := dk_96 (dk_at dksX11_whom_5 0 rfl rfl)
theorem dX11_whom_119 : decode cX11_whom 119 = .ok (.iaload, 1) := dk_46 (dk_at dksX11_whom_5 1 rfl rfl)
theorem dX11_whom_120 : decode cX11_whom 120 = .ok (.ifCond .le 7, 3) := dk_158 0 7 (dk_at dksX11_whom_5 2 rfl rfl)
theorem dX11_whom_123 : decode cX11_whom 123 = .ok (.lload_n 2, 1) := dk_32 (dk_at dksX11_whom_5 5 rfl rfl)
theorem dX11_whom_124 : decode cX11_whom 124 = .ok (.goto 14, 3) := dk_167 0 14 (dk_at dksX11_whom_5 6 rfl rfl)
theorem dX11_whom_127 : decode cX11_whom 127 = .ok (.lload_n 2, 1) := dk_32 (dk_at dksX11_whom_5 9 rfl rfl)
theorem dX11_whom_128 : decode cX11_whom 128 = .ok (.aload_n 0, 1) := dk_42 (dk_at dksX11_whom_5 10 rfl rfl)
theorem dX11_whom_129 : decode cX11_whom 129 = .ok (.iload_n 1, 1) := dk_27 (dk_at dksX11_whom_5 11 rfl rfl)
theorem dX11_whom_130 : decode cX11_whom 130 = .ok (.iload 7, 2) := dk_21 7 (dk_at dksX11_whom_5 12 rfl rfl)
theorem dX11_whom_132 : decode cX11_whom 132 = .ok (.iload 8, 2) := dk_21 8 (dk_at dksX11_whom_5 14 rfl rfl)
theorem dX11_whom_134 : decode cX11_whom 134 = .ok (.invokevirtual 339, 3) := dk_182 1 83 (dk_at dksX11_whom_5 16 rfl rfl)
theorem dX11_whom_137 : decode cX11_whom 137 = .ok (.lsub, 1) := dk_101 (dk_at dksX11_whom_5 19 rfl rfl)
theorem dX11_whom_138 : decode cX11_whom 138 = .ok (.lstore 9, 2) := dk_55 9 (dk_at dksX11_whom_5 20 rfl rfl)
theorem dX11_whom_140 : decode cX11_whom 140 = .ok (.lload 9, 2) := dk_22 9 (dk_at dksX11_whom_5 22 rfl rfl)
theorem dX11_whom_142 : decode cX11_whom 142 = .ok (.lload 4, 2) := dk_22 4 (dk_at dksX11_whom_6 0 rfl rfl)
theorem dX11_whom_144 : decode cX11_whom 144 = .ok (.lcmp, 1) := dk_148 (dk_at dksX11_whom_6 2 rfl rfl)
theorem dX11_whom_145 : decode cX11_whom 145 = .ok (.ifCond .gt 6, 3) := dk_157 0 6 (dk_at dksX11_whom_6 3 rfl rfl)
theorem dX11_whom_148 : decode cX11_whom 148 = .ok (.goto 17, 3) := dk_167 0 17 (dk_at dksX11_whom_6 6 rfl rfl)
theorem dX11_whom_151 : decode cX11_whom 151 = .ok (.lload 9, 2) := dk_22 9 (dk_at dksX11_whom_6 9 rfl rfl)
theorem dX11_whom_153 : decode cX11_whom 153 = .ok (.lstore 4, 2) := dk_55 4 (dk_at dksX11_whom_6 11 rfl rfl)
theorem dX11_whom_155 : decode cX11_whom 155 = .ok (.bipush 100, 2) := dk_16 100 (dk_at dksX11_whom_6 13 rfl rfl)
theorem dX11_whom_157 : decode cX11_whom 157 = .ok (.iload 7, 2) := dk_21 7 (dk_at dksX11_whom_6 15 rfl rfl)
theorem dX11_whom_159 : decode cX11_whom 159 = .ok (.imul, 1) := dk_104 (dk_at dksX11_whom_6 17 rfl rfl)
theorem dX11_whom_160 : decode cX11_whom 160 = .ok (.iload 8, 2) := dk_21 8 (dk_at dksX11_whom_6 18 rfl rfl)
theorem dX11_whom_162 : decode cX11_whom 162 = .ok (.iadd, 1) := dk_96 (dk_at dksX11_whom_6 20 rfl rfl)
theorem dX11_whom_163 : decode cX11_whom 163 = .ok (.istore 6, 2) := dk_54 6 (dk_at dksX11_whom_6 21 rfl rfl)
theorem dX11_whom_165 : decode cX11_whom 165 = .ok (.iinc 8 1, 3) := dk_132 8 1 (dk_at dksX11_whom_7 0 rfl rfl)
theorem dX11_whom_168 : decode cX11_whom 168 = .ok (.goto (-96), 3) := dk_167 255 160 (dk_at dksX11_whom_7 3 rfl rfl)
theorem dX11_whom_171 : decode cX11_whom 171 = .ok (.iinc 7 1, 3) := dk_132 7 1 (dk_at dksX11_whom_7 6 rfl rfl)
theorem dX11_whom_174 : decode cX11_whom 174 = .ok (.goto (-116), 3) := dk_167 255 140 (dk_at dksX11_whom_7 9 rfl rfl)
theorem dX11_whom_177 : decode cX11_whom 177 = .ok (.iload 6, 2) := dk_21 6 (dk_at dksX11_whom_7 12 rfl rfl)
theorem dX11_whom_179 : decode cX11_whom 179 = .ok (.ireturn, 1) := dk_172 (dk_at dksX11_whom_7 14 rfl rfl)
abbrev cX11_sweep : ByteArray := prog_23_method_67_code
def yX11_sweep : MethodName := ⟨RX11, "sweep", "(I)I"⟩
def dkwX11_sweep_4 : List UInt8 := [132, 3, 1, 167, 255, 190, 132, 2, 1, 167, 255, 176, 42, 180, 1, 93, 172]
abbrev dktX11_sweep_4 : List UInt8 := dkwX11_sweep_4 ++ []
def dkwX11_sweep_3 : List UInt8 := [180, 0, 74, 42, 180, 1, 93, 16, 100, 29, 104, 28, 96, 79, 42, 89, 180, 1, 93, 4, 96, 181, 1, 93]
abbrev dktX11_sweep_3 : List UInt8 := dkwX11_sweep_3 ++ dktX11_sweep_4
def dkwX11_sweep_2 : List UInt8 := [28, 3, 182, 0, 255, 153, 0, 41, 42, 29, 28, 3, 182, 0, 255, 154, 0, 6, 167, 0, 28, 42]
abbrev dktX11_sweep_2 : List UInt8 := dkwX11_sweep_2 ++ dktX11_sweep_3
def dkwX11_sweep_1 : List UInt8 := [16, 13, 162, 0, 80, 3, 62, 29, 42, 180, 0, 33, 4, 46, 162, 0, 62, 29, 27, 159, 0, 51, 42, 27]
abbrev dktX11_sweep_1 : List UInt8 := dkwX11_sweep_1 ++ dktX11_sweep_2
def dkwX11_sweep_0 : List UInt8 := [42, 3, 181, 0, 1, 42, 27, 182, 1, 26, 154, 0, 5, 2, 172, 42, 3, 181, 1, 93, 3, 61, 28]
abbrev dktX11_sweep_0 : List UInt8 := dkwX11_sweep_0 ++ dktX11_sweep_1
theorem dksX11_sweep_0 : cX11_sweep.data.toList.drop 0 = dktX11_sweep_0 := by decide +kernel
theorem dksX11_sweep_1 : cX11_sweep.data.toList.drop 23 = dktX11_sweep_1 := dk_seg dksX11_sweep_0 23 rfl rfl
theorem dksX11_sweep_2 : cX11_sweep.data.toList.drop 47 = dktX11_sweep_2 := dk_seg dksX11_sweep_1 24 rfl rfl
theorem dksX11_sweep_3 : cX11_sweep.data.toList.drop 69 = dktX11_sweep_3 := dk_seg dksX11_sweep_2 22 rfl rfl
theorem dksX11_sweep_4 : cX11_sweep.data.toList.drop 93 = dktX11_sweep_4 := dk_seg dksX11_sweep_3 24 rfl rfl
theorem dX11_sweep_0 : decode cX11_sweep 0 = .ok (.aload_n 0, 1) := dk_42 (dk_at dksX11_sweep_0 0 rfl rfl)
theorem dX11_sweep_1 : decode cX11_sweep 1 = .ok (.iconst 0, 1) := dk_3 (dk_at dksX11_sweep_0 1 rfl rfl)
theorem dX11_sweep_2 : decode cX11_sweep 2 = .ok (.putfield 1, 3) := dk_181 0 1 (dk_at dksX11_sweep_0 2 rfl rfl)
theorem dX11_sweep_5 : decode cX11_sweep 5 = .ok (.aload_n 0, 1) := dk_42 (dk_at dksX11_sweep_0 5 rfl rfl)
theorem dX11_sweep_6 : decode cX11_sweep 6 = .ok (.iload_n 1, 1) := dk_27 (dk_at dksX11_sweep_0 6 rfl rfl)
theorem dX11_sweep_7 : decode cX11_sweep 7 = .ok (.invokevirtual 282, 3) := dk_182 1 26 (dk_at dksX11_sweep_0 7 rfl rfl)
theorem dX11_sweep_10 : decode cX11_sweep 10 = .ok (.ifCond .ne 5, 3) := dk_154 0 5 (dk_at dksX11_sweep_0 10 rfl rfl)
theorem dX11_sweep_13 : decode cX11_sweep 13 = .ok (.iconst (-1), 1) := dk_2 (dk_at dksX11_sweep_0 13 rfl rfl)
theorem dX11_sweep_14 : decode cX11_sweep 14 = .ok (.ireturn, 1) := dk_172 (dk_at dksX11_sweep_0 14 rfl rfl)
theorem dX11_sweep_15 : decode cX11_sweep 15 = .ok (.aload_n 0, 1) := dk_42 (dk_at dksX11_sweep_0 15 rfl rfl)
theorem dX11_sweep_16 : decode cX11_sweep 16 = .ok (.iconst 0, 1) := dk_3 (dk_at dksX11_sweep_0 16 rfl rfl)
theorem dX11_sweep_17 : decode cX11_sweep 17 = .ok (.putfield 349, 3) := dk_181 1 93 (dk_at dksX11_sweep_0 17 rfl rfl)
theorem dX11_sweep_20 : decode cX11_sweep 20 = .ok (.iconst 0, 1) := dk_3 (dk_at dksX11_sweep_0 20 rfl rfl)
theorem dX11_sweep_21 : decode cX11_sweep 21 = .ok (.istore_n 2, 1) := dk_61 (dk_at dksX11_sweep_0 21 rfl rfl)
theorem dX11_sweep_22 : decode cX11_sweep 22 = .ok (.iload_n 2, 1) := dk_28 (dk_at dksX11_sweep_0 22 rfl rfl)
theorem dX11_sweep_23 : decode cX11_sweep 23 = .ok (.bipush 13, 2) := dk_16 13 (dk_at dksX11_sweep_1 0 rfl rfl)
theorem dX11_sweep_25 : decode cX11_sweep 25 = .ok (.if_icmp .ge 80, 3) := dk_162 0 80 (dk_at dksX11_sweep_1 2 rfl rfl)
theorem dX11_sweep_28 : decode cX11_sweep 28 = .ok (.iconst 0, 1) := dk_3 (dk_at dksX11_sweep_1 5 rfl rfl)
theorem dX11_sweep_29 : decode cX11_sweep 29 = .ok (.istore_n 3, 1) := dk_62 (dk_at dksX11_sweep_1 6 rfl rfl)
theorem dX11_sweep_30 : decode cX11_sweep 30 = .ok (.iload_n 3, 1) := dk_29 (dk_at dksX11_sweep_1 7 rfl rfl)
theorem dX11_sweep_31 : decode cX11_sweep 31 = .ok (.aload_n 0, 1) := dk_42 (dk_at dksX11_sweep_1 8 rfl rfl)
theorem dX11_sweep_32 : decode cX11_sweep 32 = .ok (.getfield 33, 3) := dk_180 0 33 (dk_at dksX11_sweep_1 9 rfl rfl)
theorem dX11_sweep_35 : decode cX11_sweep 35 = .ok (.iconst 1, 1) := dk_4 (dk_at dksX11_sweep_1 12 rfl rfl)
theorem dX11_sweep_36 : decode cX11_sweep 36 = .ok (.iaload, 1) := dk_46 (dk_at dksX11_sweep_1 13 rfl rfl)
theorem dX11_sweep_37 : decode cX11_sweep 37 = .ok (.if_icmp .ge 62, 3) := dk_162 0 62 (dk_at dksX11_sweep_1 14 rfl rfl)
theorem dX11_sweep_40 : decode cX11_sweep 40 = .ok (.iload_n 3, 1) := dk_29 (dk_at dksX11_sweep_1 17 rfl rfl)
theorem dX11_sweep_41 : decode cX11_sweep 41 = .ok (.iload_n 1, 1) := dk_27 (dk_at dksX11_sweep_1 18 rfl rfl)
theorem dX11_sweep_42 : decode cX11_sweep 42 = .ok (.if_icmp .eq 51, 3) := dk_159 0 51 (dk_at dksX11_sweep_1 19 rfl rfl)
theorem dX11_sweep_45 : decode cX11_sweep 45 = .ok (.aload_n 0, 1) := dk_42 (dk_at dksX11_sweep_1 22 rfl rfl)
theorem dX11_sweep_46 : decode cX11_sweep 46 = .ok (.iload_n 1, 1) := dk_27 (dk_at dksX11_sweep_1 23 rfl rfl)
theorem dX11_sweep_47 : decode cX11_sweep 47 = .ok (.iload_n 2, 1) := dk_28 (dk_at dksX11_sweep_2 0 rfl rfl)
theorem dX11_sweep_48 : decode cX11_sweep 48 = .ok (.iconst 0, 1) := dk_3 (dk_at dksX11_sweep_2 1 rfl rfl)
theorem dX11_sweep_49 : decode cX11_sweep 49 = .ok (.invokevirtual 255, 3) := dk_182 0 255 (dk_at dksX11_sweep_2 2 rfl rfl)
theorem dX11_sweep_52 : decode cX11_sweep 52 = .ok (.ifCond .eq 41, 3) := dk_153 0 41 (dk_at dksX11_sweep_2 5 rfl rfl)
theorem dX11_sweep_55 : decode cX11_sweep 55 = .ok (.aload_n 0, 1) := dk_42 (dk_at dksX11_sweep_2 8 rfl rfl)
theorem dX11_sweep_56 : decode cX11_sweep 56 = .ok (.iload_n 3, 1) := dk_29 (dk_at dksX11_sweep_2 9 rfl rfl)
theorem dX11_sweep_57 : decode cX11_sweep 57 = .ok (.iload_n 2, 1) := dk_28 (dk_at dksX11_sweep_2 10 rfl rfl)
theorem dX11_sweep_58 : decode cX11_sweep 58 = .ok (.iconst 0, 1) := dk_3 (dk_at dksX11_sweep_2 11 rfl rfl)
theorem dX11_sweep_59 : decode cX11_sweep 59 = .ok (.invokevirtual 255, 3) := dk_182 0 255 (dk_at dksX11_sweep_2 12 rfl rfl)
theorem dX11_sweep_62 : decode cX11_sweep 62 = .ok (.ifCond .ne 6, 3) := dk_154 0 6 (dk_at dksX11_sweep_2 15 rfl rfl)
theorem dX11_sweep_65 : decode cX11_sweep 65 = .ok (.goto 28, 3) := dk_167 0 28 (dk_at dksX11_sweep_2 18 rfl rfl)
theorem dX11_sweep_68 : decode cX11_sweep 68 = .ok (.aload_n 0, 1) := dk_42 (dk_at dksX11_sweep_2 21 rfl rfl)
theorem dX11_sweep_69 : decode cX11_sweep 69 = .ok (.getfield 74, 3) := dk_180 0 74 (dk_at dksX11_sweep_3 0 rfl rfl)
theorem dX11_sweep_72 : decode cX11_sweep 72 = .ok (.aload_n 0, 1) := dk_42 (dk_at dksX11_sweep_3 3 rfl rfl)
theorem dX11_sweep_73 : decode cX11_sweep 73 = .ok (.getfield 349, 3) := dk_180 1 93 (dk_at dksX11_sweep_3 4 rfl rfl)
theorem dX11_sweep_76 : decode cX11_sweep 76 = .ok (.bipush 100, 2) := dk_16 100 (dk_at dksX11_sweep_3 7 rfl rfl)
theorem dX11_sweep_78 : decode cX11_sweep 78 = .ok (.iload_n 3, 1) := dk_29 (dk_at dksX11_sweep_3 9 rfl rfl)
theorem dX11_sweep_79 : decode cX11_sweep 79 = .ok (.imul, 1) := dk_104 (dk_at dksX11_sweep_3 10 rfl rfl)
theorem dX11_sweep_80 : decode cX11_sweep 80 = .ok (.iload_n 2, 1) := dk_28 (dk_at dksX11_sweep_3 11 rfl rfl)
theorem dX11_sweep_81 : decode cX11_sweep 81 = .ok (.iadd, 1) := dk_96 (dk_at dksX11_sweep_3 12 rfl rfl)
theorem dX11_sweep_82 : decode cX11_sweep 82 = .ok (.iastore, 1) := dk_79 (dk_at dksX11_sweep_3 13 rfl rfl)
theorem dX11_sweep_83 : decode cX11_sweep 83 = .ok (.aload_n 0, 1) := dk_42 (dk_at dksX11_sweep_3 14 rfl rfl)
theorem dX11_sweep_84 : decode cX11_sweep 84 = .ok (.dup, 1) := dk_89 (dk_at dksX11_sweep_3 15 rfl rfl)
theorem dX11_sweep_85 : decode cX11_sweep 85 = .ok (.getfield 349, 3) := dk_180 1 93 (dk_at dksX11_sweep_3 16 rfl rfl)
theorem dX11_sweep_88 : decode cX11_sweep 88 = .ok (.iconst 1, 1) := dk_4 (dk_at dksX11_sweep_3 19 rfl rfl)
theorem dX11_sweep_89 : decode cX11_sweep 89 = .ok (.iadd, 1) := dk_96 (dk_at dksX11_sweep_3 20 rfl rfl)
theorem dX11_sweep_90 : decode cX11_sweep 90 = .ok (.putfield 349, 3) := dk_181 1 93 (dk_at dksX11_sweep_3 21 rfl rfl)
theorem dX11_sweep_93 : decode cX11_sweep 93 = .ok (.iinc 3 1, 3) := dk_132 3 1 (dk_at dksX11_sweep_4 0 rfl rfl)
theorem dX11_sweep_96 : decode cX11_sweep 96 = .ok (.goto (-66), 3) := dk_167 255 190 (dk_at dksX11_sweep_4 3 rfl rfl)
theorem dX11_sweep_99 : decode cX11_sweep 99 = .ok (.iinc 2 1, 3) := dk_132 2 1 (dk_at dksX11_sweep_4 6 rfl rfl)
theorem dX11_sweep_102 : decode cX11_sweep 102 = .ok (.goto (-80), 3) := dk_167 255 176 (dk_at dksX11_sweep_4 9 rfl rfl)
theorem dX11_sweep_105 : decode cX11_sweep 105 = .ok (.aload_n 0, 1) := dk_42 (dk_at dksX11_sweep_4 12 rfl rfl)
theorem dX11_sweep_106 : decode cX11_sweep 106 = .ok (.getfield 349, 3) := dk_180 1 93 (dk_at dksX11_sweep_4 13 rfl rfl)
theorem dX11_sweep_109 : decode cX11_sweep 109 = .ok (.ireturn, 1) := dk_172 (dk_at dksX11_sweep_4 16 rfl rfl)
abbrev cX11_swept : ByteArray := prog_23_method_68_code
def yX11_swept : MethodName := ⟨RX11, "swept", "(I)I"⟩
def dkwX11_swept_1 : List UInt8 := [46, 167, 0, 4, 2, 172]
abbrev dktX11_swept_1 : List UInt8 := dkwX11_swept_1 ++ []
def dkwX11_swept_0 : List UInt8 := [42, 3, 181, 0, 1, 27, 3, 42, 180, 1, 93, 4, 100, 184, 0, 195, 153, 0, 12, 42, 180, 0, 74, 27]
abbrev dktX11_swept_0 : List UInt8 := dkwX11_swept_0 ++ dktX11_swept_1
theorem dksX11_swept_0 : cX11_swept.data.toList.drop 0 = dktX11_swept_0 := by decide +kernel
theorem dksX11_swept_1 : cX11_swept.data.toList.drop 24 = dktX11_swept_1 := dk_seg dksX11_swept_0 24 rfl rfl
theorem dX11_swept_0 : decode cX11_swept 0 = .ok (.aload_n 0, 1) := dk_42 (dk_at dksX11_swept_0 0 rfl rfl)
theorem dX11_swept_1 : decode cX11_swept 1 = .ok (.iconst 0, 1) := dk_3 (dk_at dksX11_swept_0 1 rfl rfl)
theorem dX11_swept_2 : decode cX11_swept 2 = .ok (.putfield 1, 3) := dk_181 0 1 (dk_at dksX11_swept_0 2 rfl rfl)
theorem dX11_swept_5 : decode cX11_swept 5 = .ok (.iload_n 1, 1) := dk_27 (dk_at dksX11_swept_0 5 rfl rfl)
theorem dX11_swept_6 : decode cX11_swept 6 = .ok (.iconst 0, 1) := dk_3 (dk_at dksX11_swept_0 6 rfl rfl)
theorem dX11_swept_7 : decode cX11_swept 7 = .ok (.aload_n 0, 1) := dk_42 (dk_at dksX11_swept_0 7 rfl rfl)
theorem dX11_swept_8 : decode cX11_swept 8 = .ok (.getfield 349, 3) := dk_180 1 93 (dk_at dksX11_swept_0 8 rfl rfl)
theorem dX11_swept_11 : decode cX11_swept 11 = .ok (.iconst 1, 1) := dk_4 (dk_at dksX11_swept_0 11 rfl rfl)
theorem dX11_swept_12 : decode cX11_swept 12 = .ok (.isub, 1) := dk_100 (dk_at dksX11_swept_0 12 rfl rfl)
theorem dX11_swept_13 : decode cX11_swept 13 = .ok (.invokestatic 195, 3) := dk_184 0 195 (dk_at dksX11_swept_0 13 rfl rfl)
theorem dX11_swept_16 : decode cX11_swept 16 = .ok (.ifCond .eq 12, 3) := dk_153 0 12 (dk_at dksX11_swept_0 16 rfl rfl)
theorem dX11_swept_19 : decode cX11_swept 19 = .ok (.aload_n 0, 1) := dk_42 (dk_at dksX11_swept_0 19 rfl rfl)
theorem dX11_swept_20 : decode cX11_swept 20 = .ok (.getfield 74, 3) := dk_180 0 74 (dk_at dksX11_swept_0 20 rfl rfl)
theorem dX11_swept_23 : decode cX11_swept 23 = .ok (.iload_n 1, 1) := dk_27 (dk_at dksX11_swept_0 23 rfl rfl)
theorem dX11_swept_24 : decode cX11_swept 24 = .ok (.iaload, 1) := dk_46 (dk_at dksX11_swept_1 0 rfl rfl)
theorem dX11_swept_25 : decode cX11_swept 25 = .ok (.goto 4, 3) := dk_167 0 4 (dk_at dksX11_swept_1 1 rfl rfl)
theorem dX11_swept_28 : decode cX11_swept 28 = .ok (.iconst (-1), 1) := dk_2 (dk_at dksX11_swept_1 4 rfl rfl)
theorem dX11_swept_29 : decode cX11_swept 29 = .ok (.ireturn, 1) := dk_172 (dk_at dksX11_swept_1 5 rfl rfl)
abbrev cX11_gains : ByteArray := prog_23_method_70_code
def yX11_gains : MethodName := ⟨RX11, "gains", "(I)I"⟩
def dkwX11_gains_2 : List UInt8 := [160, 0, 7, 4, 167, 0, 4, 3, 96, 61, 132, 3, 1, 167, 255, 220, 28, 172]
abbrev dktX11_gains_2 : List UInt8 := dkwX11_gains_2 ++ []
def dkwX11_gains_1 : List UInt8 := [16, 13, 162, 0, 36, 28, 42, 27, 29, 3, 182, 0, 255, 158, 0, 16, 42, 29, 182, 1, 96, 7]
abbrev dktX11_gains_1 : List UInt8 := dkwX11_gains_1 ++ dktX11_gains_2
def dkwX11_gains_0 : List UInt8 := [42, 3, 181, 0, 1, 42, 27, 182, 1, 26, 154, 0, 5, 2, 172, 42, 27, 182, 1, 36, 61, 3, 62, 29]
abbrev dktX11_gains_0 : List UInt8 := dkwX11_gains_0 ++ dktX11_gains_1
theorem dksX11_gains_0 : cX11_gains.data.toList.drop 0 = dktX11_gains_0 := by decide +kernel
theorem dksX11_gains_1 : cX11_gains.data.toList.drop 24 = dktX11_gains_1 := dk_seg dksX11_gains_0 24 rfl rfl
theorem dksX11_gains_2 : cX11_gains.data.toList.drop 46 = dktX11_gains_2 := dk_seg dksX11_gains_1 22 rfl rfl
theorem dX11_gains_0 : decode cX11_gains 0 = .ok (.aload_n 0, 1) := dk_42 (dk_at dksX11_gains_0 0 rfl rfl)
theorem dX11_gains_1 : decode cX11_gains 1 = .ok (.iconst 0, 1) := dk_3 (dk_at dksX11_gains_0 1 rfl rfl)
theorem dX11_gains_2 : decode cX11_gains 2 = .ok (.putfield 1, 3) := dk_181 0 1 (dk_at dksX11_gains_0 2 rfl rfl)
theorem dX11_gains_5 : decode cX11_gains 5 = .ok (.aload_n 0, 1) := dk_42 (dk_at dksX11_gains_0 5 rfl rfl)
theorem dX11_gains_6 : decode cX11_gains 6 = .ok (.iload_n 1, 1) := dk_27 (dk_at dksX11_gains_0 6 rfl rfl)
theorem dX11_gains_7 : decode cX11_gains 7 = .ok (.invokevirtual 282, 3) := dk_182 1 26 (dk_at dksX11_gains_0 7 rfl rfl)
theorem dX11_gains_10 : decode cX11_gains 10 = .ok (.ifCond .ne 5, 3) := dk_154 0 5 (dk_at dksX11_gains_0 10 rfl rfl)
theorem dX11_gains_13 : decode cX11_gains 13 = .ok (.iconst (-1), 1) := dk_2 (dk_at dksX11_gains_0 13 rfl rfl)
theorem dX11_gains_14 : decode cX11_gains 14 = .ok (.ireturn, 1) := dk_172 (dk_at dksX11_gains_0 14 rfl rfl)
theorem dX11_gains_15 : decode cX11_gains 15 = .ok (.aload_n 0, 1) := dk_42 (dk_at dksX11_gains_0 15 rfl rfl)
theorem dX11_gains_16 : decode cX11_gains 16 = .ok (.iload_n 1, 1) := dk_27 (dk_at dksX11_gains_0 16 rfl rfl)
theorem dX11_gains_17 : decode cX11_gains 17 = .ok (.invokevirtual 292, 3) := dk_182 1 36 (dk_at dksX11_gains_0 17 rfl rfl)
theorem dX11_gains_20 : decode cX11_gains 20 = .ok (.istore_n 2, 1) := dk_61 (dk_at dksX11_gains_0 20 rfl rfl)
theorem dX11_gains_21 : decode cX11_gains 21 = .ok (.iconst 0, 1) := dk_3 (dk_at dksX11_gains_0 21 rfl rfl)
theorem dX11_gains_22 : decode cX11_gains 22 = .ok (.istore_n 3, 1) := dk_62 (dk_at dksX11_gains_0 22 rfl rfl)
theorem dX11_gains_23 : decode cX11_gains 23 = .ok (.iload_n 3, 1) := dk_29 (dk_at dksX11_gains_0 23 rfl rfl)
theorem dX11_gains_24 : decode cX11_gains 24 = .ok (.bipush 13, 2) := dk_16 13 (dk_at dksX11_gains_1 0 rfl rfl)
theorem dX11_gains_26 : decode cX11_gains 26 = .ok (.if_icmp .ge 36, 3) := dk_162 0 36 (dk_at dksX11_gains_1 2 rfl rfl)
theorem dX11_gains_29 : decode cX11_gains 29 = .ok (.iload_n 2, 1) := dk_28 (dk_at dksX11_gains_1 5 rfl rfl)
theorem dX11_gains_30 : decode cX11_gains 30 = .ok (.aload_n 0, 1) := dk_42 (dk_at dksX11_gains_1 6 rfl rfl)
theorem dX11_gains_31 : decode cX11_gains 31 = .ok (.iload_n 1, 1) := dk_27 (dk_at dksX11_gains_1 7 rfl rfl)
theorem dX11_gains_32 : decode cX11_gains 32 = .ok (.iload_n 3, 1) := dk_29 (dk_at dksX11_gains_1 8 rfl rfl)
theorem dX11_gains_33 : decode cX11_gains 33 = .ok (.iconst 0, 1) := dk_3 (dk_at dksX11_gains_1 9 rfl rfl)
theorem dX11_gains_34 : decode cX11_gains 34 = .ok (.invokevirtual 255, 3) := dk_182 0 255 (dk_at dksX11_gains_1 10 rfl rfl)
theorem dX11_gains_37 : decode cX11_gains 37 = .ok (.ifCond .le 16, 3) := dk_158 0 16 (dk_at dksX11_gains_1 13 rfl rfl)
theorem dX11_gains_40 : decode cX11_gains 40 = .ok (.aload_n 0, 1) := dk_42 (dk_at dksX11_gains_1 16 rfl rfl)
theorem dX11_gains_41 : decode cX11_gains 41 = .ok (.iload_n 3, 1) := dk_29 (dk_at dksX11_gains_1 17 rfl rfl)
theorem dX11_gains_42 : decode cX11_gains 42 = .ok (.invokevirtual 352, 3) := dk_182 1 96 (dk_at dksX11_gains_1 18 rfl rfl)
theorem dX11_gains_45 : decode cX11_gains 45 = .ok (.iconst 4, 1) := dk_7 (dk_at dksX11_gains_1 21 rfl rfl)
theorem dX11_gains_46 : decode cX11_gains 46 = .ok (.if_icmp .ne 7, 3) := dk_160 0 7 (dk_at dksX11_gains_2 0 rfl rfl)
theorem dX11_gains_49 : decode cX11_gains 49 = .ok (.iconst 1, 1) := dk_4 (dk_at dksX11_gains_2 3 rfl rfl)
theorem dX11_gains_50 : decode cX11_gains 50 = .ok (.goto 4, 3) := dk_167 0 4 (dk_at dksX11_gains_2 4 rfl rfl)
theorem dX11_gains_53 : decode cX11_gains 53 = .ok (.iconst 0, 1) := dk_3 (dk_at dksX11_gains_2 7 rfl rfl)
theorem dX11_gains_54 : decode cX11_gains 54 = .ok (.iadd, 1) := dk_96 (dk_at dksX11_gains_2 8 rfl rfl)
theorem dX11_gains_55 : decode cX11_gains 55 = .ok (.istore_n 2, 1) := dk_61 (dk_at dksX11_gains_2 9 rfl rfl)
theorem dX11_gains_56 : decode cX11_gains 56 = .ok (.iinc 3 1, 3) := dk_132 3 1 (dk_at dksX11_gains_2 10 rfl rfl)
theorem dX11_gains_59 : decode cX11_gains 59 = .ok (.goto (-36), 3) := dk_167 255 220 (dk_at dksX11_gains_2 13 rfl rfl)
theorem dX11_gains_62 : decode cX11_gains 62 = .ok (.iload_n 2, 1) := dk_28 (dk_at dksX11_gains_2 16 rfl rfl)
theorem dX11_gains_63 : decode cX11_gains 63 = .ok (.ireturn, 1) := dk_172 (dk_at dksX11_gains_2 17 rfl rfl)
abbrev cX11_inHands : ByteArray := prog_23_method_69_code
def yX11_inHands : MethodName := ⟨RX11, "inHands", "(I)I"⟩
def dkwX11_inHands_1 : List UInt8 := [132, 3, 1, 167, 255, 233, 28, 172]
abbrev dktX11_inHands_1 : List UInt8 := dkwX11_inHands_1 ++ []
def dkwX11_inHands_0 : List UInt8 := [3, 61, 3, 62, 29, 42, 180, 0, 33, 4, 46, 162, 0, 19, 28, 42, 29, 27, 3, 182, 0, 255, 96, 61]
abbrev dktX11_inHands_0 : List UInt8 := dkwX11_inHands_0 ++ dktX11_inHands_1
theorem dksX11_inHands_0 : cX11_inHands.data.toList.drop 0 = dktX11_inHands_0 := by decide +kernel
theorem dksX11_inHands_1 : cX11_inHands.data.toList.drop 24 = dktX11_inHands_1 := dk_seg dksX11_inHands_0 24 rfl rfl
theorem dX11_inHands_0 : decode cX11_inHands 0 = .ok (.iconst 0, 1) := dk_3 (dk_at dksX11_inHands_0 0 rfl rfl)
theorem dX11_inHands_1 : decode cX11_inHands 1 = .ok (.istore_n 2, 1) := dk_61 (dk_at dksX11_inHands_0 1 rfl rfl)
theorem dX11_inHands_2 : decode cX11_inHands 2 = .ok (.iconst 0, 1) := dk_3 (dk_at dksX11_inHands_0 2 rfl rfl)
theorem dX11_inHands_3 : decode cX11_inHands 3 = .ok (.istore_n 3, 1) := dk_62 (dk_at dksX11_inHands_0 3 rfl rfl)
theorem dX11_inHands_4 : decode cX11_inHands 4 = .ok (.iload_n 3, 1) := dk_29 (dk_at dksX11_inHands_0 4 rfl rfl)
theorem dX11_inHands_5 : decode cX11_inHands 5 = .ok (.aload_n 0, 1) := dk_42 (dk_at dksX11_inHands_0 5 rfl rfl)
theorem dX11_inHands_6 : decode cX11_inHands 6 = .ok (.getfield 33, 3) := dk_180 0 33 (dk_at dksX11_inHands_0 6 rfl rfl)
theorem dX11_inHands_9 : decode cX11_inHands 9 = .ok (.iconst 1, 1) := dk_4 (dk_at dksX11_inHands_0 9 rfl rfl)
theorem dX11_inHands_10 : decode cX11_inHands 10 = .ok (.iaload, 1) := dk_46 (dk_at dksX11_inHands_0 10 rfl rfl)
theorem dX11_inHands_11 : decode cX11_inHands 11 = .ok (.if_icmp .ge 19, 3) := dk_162 0 19 (dk_at dksX11_inHands_0 11 rfl rfl)
theorem dX11_inHands_14 : decode cX11_inHands 14 = .ok (.iload_n 2, 1) := dk_28 (dk_at dksX11_inHands_0 14 rfl rfl)
theorem dX11_inHands_15 : decode cX11_inHands 15 = .ok (.aload_n 0, 1) := dk_42 (dk_at dksX11_inHands_0 15 rfl rfl)
theorem dX11_inHands_16 : decode cX11_inHands 16 = .ok (.iload_n 3, 1) := dk_29 (dk_at dksX11_inHands_0 16 rfl rfl)
theorem dX11_inHands_17 : decode cX11_inHands 17 = .ok (.iload_n 1, 1) := dk_27 (dk_at dksX11_inHands_0 17 rfl rfl)
theorem dX11_inHands_18 : decode cX11_inHands 18 = .ok (.iconst 0, 1) := dk_3 (dk_at dksX11_inHands_0 18 rfl rfl)
theorem dX11_inHands_19 : decode cX11_inHands 19 = .ok (.invokevirtual 255, 3) := dk_182 0 255 (dk_at dksX11_inHands_0 19 rfl rfl)
theorem dX11_inHands_22 : decode cX11_inHands 22 = .ok (.iadd, 1) := dk_96 (dk_at dksX11_inHands_0 22 rfl rfl)
theorem dX11_inHands_23 : decode cX11_inHands 23 = .ok (.istore_n 2, 1) := dk_61 (dk_at dksX11_inHands_0 23 rfl rfl)
theorem dX11_inHands_24 : decode cX11_inHands 24 = .ok (.iinc 3 1, 3) := dk_132 3 1 (dk_at dksX11_inHands_1 0 rfl rfl)
theorem dX11_inHands_27 : decode cX11_inHands 27 = .ok (.goto (-23), 3) := dk_167 255 233 (dk_at dksX11_inHands_1 3 rfl rfl)
theorem dX11_inHands_30 : decode cX11_inHands 30 = .ok (.iload_n 2, 1) := dk_28 (dk_at dksX11_inHands_1 6 rfl rfl)
theorem dX11_inHands_31 : decode cX11_inHands 31 = .ok (.ireturn, 1) := dk_172 (dk_at dksX11_inHands_1 7 rfl rfl)
abbrev cX11_open : ByteArray := prog_23_method_79_code
def yX11_open : MethodName := ⟨RX11, "open", "()I"⟩
def dkwX11_open_0 : List UInt8 := [42, 3, 181, 0, 1, 42, 182, 1, 141, 172]
abbrev dktX11_open_0 : List UInt8 := dkwX11_open_0 ++ []
theorem dksX11_open_0 : cX11_open.data.toList.drop 0 = dktX11_open_0 := by decide +kernel
theorem dX11_open_0 : decode cX11_open 0 = .ok (.aload_n 0, 1) := dk_42 (dk_at dksX11_open_0 0 rfl rfl)
theorem dX11_open_1 : decode cX11_open 1 = .ok (.iconst 0, 1) := dk_3 (dk_at dksX11_open_0 1 rfl rfl)
theorem dX11_open_2 : decode cX11_open 2 = .ok (.putfield 1, 3) := dk_181 0 1 (dk_at dksX11_open_0 2 rfl rfl)
theorem dX11_open_5 : decode cX11_open 5 = .ok (.aload_n 0, 1) := dk_42 (dk_at dksX11_open_0 5 rfl rfl)
theorem dX11_open_6 : decode cX11_open 6 = .ok (.invokevirtual 397, 3) := dk_182 1 141 (dk_at dksX11_open_0 6 rfl rfl)
theorem dX11_open_9 : decode cX11_open 9 = .ok (.ireturn, 1) := dk_172 (dk_at dksX11_open_0 9 rfl rfl)
abbrev cX11_openOf : ByteArray := prog_23_method_78_code
def yX11_openOf : MethodName := ⟨RX11, "openOf", "()I"⟩
def dkwX11_openOf_9 : List UInt8 := [4, 27, 100, 182, 1, 36, 100, 172]
abbrev dktX11_openOf_9 : List UInt8 := dkwX11_openOf_9 ++ []
def dkwX11_openOf_8 : List UInt8 := [79, 132, 3, 1, 167, 255, 215, 42, 180, 0, 78, 28, 46, 17, 3, 232, 100, 42, 27, 182, 1, 36, 96, 42]
abbrev dktX11_openOf_8 : List UInt8 := dkwX11_openOf_8 ++ dktX11_openOf_9
def dkwX11_openOf_7 : List UInt8 := [182, 1, 138, 54, 4, 21, 4, 2, 160, 0, 9, 132, 3, 255, 167, 0, 14, 42, 180, 0, 81, 29, 21, 4]
abbrev dktX11_openOf_7 : List UInt8 := dkwX11_openOf_7 ++ dktX11_openOf_8
def dkwX11_openOf_6 : List UInt8 := [61, 4, 62, 42, 180, 0, 81, 3, 28, 79, 29, 158, 0, 43, 42, 42, 180, 0, 81, 29, 4, 100, 46]
abbrev dktX11_openOf_6 : List UInt8 := dkwX11_openOf_6 ++ dktX11_openOf_7
def dkwX11_openOf_5 : List UInt8 := [167, 255, 220, 42, 3, 181, 1, 99, 42, 42, 180, 0, 33, 16, 6, 46, 181, 1, 102, 42, 3, 182, 1, 128]
abbrev dktX11_openOf_5 : List UInt8 := dkwX11_openOf_5 ++ dktX11_openOf_6
def dkwX11_openOf_4 : List UInt8 := [182, 0, 255, 79, 42, 180, 0, 87, 28, 42, 4, 27, 100, 28, 3, 182, 0, 255, 79, 132, 2, 1]
abbrev dktX11_openOf_4 : List UInt8 := dkwX11_openOf_4 ++ dktX11_openOf_5
def dkwX11_openOf_3 : List UInt8 := [42, 180, 0, 33, 7, 46, 60, 3, 61, 28, 6, 162, 0, 37, 42, 180, 0, 84, 28, 42, 27, 28, 3]
abbrev dktX11_openOf_3 : List UInt8 := dkwX11_openOf_3 ++ dktX11_openOf_4
def dkwX11_openOf_2 : List UInt8 := [16, 155, 172, 3, 60, 27, 18, 77, 162, 0, 16, 42, 180, 0, 78, 27, 3, 79, 132, 1, 1, 167, 255, 240]
abbrev dktX11_openOf_2 : List UInt8 := dkwX11_openOf_2 ++ dktX11_openOf_3
def dkwX11_openOf_1 : List UInt8 := [163, 0, 24, 42, 180, 0, 33, 16, 7, 46, 7, 163, 0, 13, 42, 180, 0, 33, 7, 46, 2, 160, 0, 6]
abbrev dktX11_openOf_1 : List UInt8 := dkwX11_openOf_1 ++ dktX11_openOf_2
def dkwX11_openOf_0 : List UInt8 := [42, 2, 181, 1, 135, 42, 180, 0, 33, 4, 46, 5, 160, 0, 34, 42, 180, 0, 33, 3, 46, 6]
abbrev dktX11_openOf_0 : List UInt8 := dkwX11_openOf_0 ++ dktX11_openOf_1
theorem dksX11_openOf_0 : cX11_openOf.data.toList.drop 0 = dktX11_openOf_0 := by decide +kernel
theorem dksX11_openOf_1 : cX11_openOf.data.toList.drop 22 = dktX11_openOf_1 := dk_seg dksX11_openOf_0 22 rfl rfl
theorem dksX11_openOf_2 : cX11_openOf.data.toList.drop 46 = dktX11_openOf_2 := dk_seg dksX11_openOf_1 24 rfl rfl
theorem dksX11_openOf_3 : cX11_openOf.data.toList.drop 70 = dktX11_openOf_3 := dk_seg dksX11_openOf_2 24 rfl rfl
theorem dksX11_openOf_4 : cX11_openOf.data.toList.drop 93 = dktX11_openOf_4 := dk_seg dksX11_openOf_3 23 rfl rfl
theorem dksX11_openOf_5 : cX11_openOf.data.toList.drop 115 = dktX11_openOf_5 := dk_seg dksX11_openOf_4 22 rfl rfl
theorem dksX11_openOf_6 : cX11_openOf.data.toList.drop 139 = dktX11_openOf_6 := dk_seg dksX11_openOf_5 24 rfl rfl
theorem dksX11_openOf_7 : cX11_openOf.data.toList.drop 162 = dktX11_openOf_7 := dk_seg dksX11_openOf_6 23 rfl rfl
theorem dksX11_openOf_8 : cX11_openOf.data.toList.drop 186 = dktX11_openOf_8 := dk_seg dksX11_openOf_7 24 rfl rfl
theorem dksX11_openOf_9 : cX11_openOf.data.toList.drop 210 = dktX11_openOf_9 := dk_seg dksX11_openOf_8 24 rfl rfl
theorem dX11_openOf_0 : decode cX11_openOf 0 = .ok (.aload_n 0, 1) := dk_42 (dk_at dksX11_openOf_0 0 rfl rfl)
theorem dX11_openOf_1 : decode cX11_openOf 1 = .ok (.iconst (-1), 1) := dk_2 (dk_at dksX11_openOf_0 1 rfl rfl)
theorem dX11_openOf_2 : decode cX11_openOf 2 = .ok (.putfield 391, 3) := dk_181 1 135 (dk_at dksX11_openOf_0 2 rfl rfl)
theorem dX11_openOf_5 : decode cX11_openOf 5 = .ok (.aload_n 0, 1) := dk_42 (dk_at dksX11_openOf_0 5 rfl rfl)
theorem dX11_openOf_6 : decode cX11_openOf 6 = .ok (.getfield 33, 3) := dk_180 0 33 (dk_at dksX11_openOf_0 6 rfl rfl)
theorem dX11_openOf_9 : decode cX11_openOf 9 = .ok (.iconst 1, 1) := dk_4 (dk_at dksX11_openOf_0 9 rfl rfl)
theorem dX11_openOf_10 : decode cX11_openOf 10 = .ok (.iaload, 1) := dk_46 (dk_at dksX11_openOf_0 10 rfl rfl)
theorem dX11_openOf_11 : decode cX11_openOf 11 = .ok (.iconst 2, 1) := dk_5 (dk_at dksX11_openOf_0 11 rfl rfl)
theorem dX11_openOf_12 : decode cX11_openOf 12 = .ok (.if_icmp .ne 34, 3) := dk_160 0 34 (dk_at dksX11_openOf_0 12 rfl rfl)
theorem dX11_openOf_15 : decode cX11_openOf 15 = .ok (.aload_n 0, 1) := dk_42 (dk_at dksX11_openOf_0 15 rfl rfl)
theorem dX11_openOf_16 : decode cX11_openOf 16 = .ok (.getfield 33, 3) := dk_180 0 33 (dk_at dksX11_openOf_0 16 rfl rfl)
theorem dX11_openOf_19 : decode cX11_openOf 19 = .ok (.iconst 0, 1) := dk_3 (dk_at dksX11_openOf_0 19 rfl rfl)
theorem dX11_openOf_20 : decode cX11_openOf 20 = .ok (.iaload, 1) := dk_46 (dk_at dksX11_openOf_0 20 rfl rfl)
theorem dX11_openOf_21 : decode cX11_openOf 21 = .ok (.iconst 3, 1) := dk_6 (dk_at dksX11_openOf_0 21 rfl rfl)
theorem dX11_openOf_22 : decode cX11_openOf 22 = .ok (.if_icmp .gt 24, 3) := dk_163 0 24 (dk_at dksX11_openOf_1 0 rfl rfl)
theorem dX11_openOf_25 : decode cX11_openOf 25 = .ok (.aload_n 0, 1) := dk_42 (dk_at dksX11_openOf_1 3 rfl rfl)
theorem dX11_openOf_26 : decode cX11_openOf 26 = .ok (.getfield 33, 3) := dk_180 0 33 (dk_at dksX11_openOf_1 4 rfl rfl)
theorem dX11_openOf_29 : decode cX11_openOf 29 = .ok (.bipush 7, 2) := dk_16 7 (dk_at dksX11_openOf_1 7 rfl rfl)
theorem dX11_openOf_31 : decode cX11_openOf 31 = .ok (.iaload, 1) := dk_46 (dk_at dksX11_openOf_1 9 rfl rfl)
theorem dX11_openOf_32 : decode cX11_openOf 32 = .ok (.iconst 4, 1) := dk_7 (dk_at dksX11_openOf_1 10 rfl rfl)
theorem dX11_openOf_33 : decode cX11_openOf 33 = .ok (.if_icmp .gt 13, 3) := dk_163 0 13 (dk_at dksX11_openOf_1 11 rfl rfl)
theorem dX11_openOf_36 : decode cX11_openOf 36 = .ok (.aload_n 0, 1) := dk_42 (dk_at dksX11_openOf_1 14 rfl rfl)
theorem dX11_openOf_37 : decode cX11_openOf 37 = .ok (.getfield 33, 3) := dk_180 0 33 (dk_at dksX11_openOf_1 15 rfl rfl)
theorem dX11_openOf_40 : decode cX11_openOf 40 = .ok (.iconst 4, 1) := dk_7 (dk_at dksX11_openOf_1 18 rfl rfl)
theorem dX11_openOf_41 : decode cX11_openOf 41 = .ok (.iaload, 1) := dk_46 (dk_at dksX11_openOf_1 19 rfl rfl)
theorem dX11_openOf_42 : decode cX11_openOf 42 = .ok (.iconst (-1), 1) := dk_2 (dk_at dksX11_openOf_1 20 rfl rfl)
theorem dX11_openOf_43 : decode cX11_openOf 43 = .ok (.if_icmp .ne 6, 3) := dk_160 0 6 (dk_at dksX11_openOf_1 21 rfl rfl)
theorem dX11_openOf_46 : decode cX11_openOf 46 = .ok (.bipush (-101), 2) := dk_16 155 (dk_at dksX11_openOf_2 0 rfl rfl)
theorem dX11_openOf_48 : decode cX11_openOf 48 = .ok (.ireturn, 1) := dk_172 (dk_at dksX11_openOf_2 2 rfl rfl)
theorem dX11_openOf_49 : decode cX11_openOf 49 = .ok (.iconst 0, 1) := dk_3 (dk_at dksX11_openOf_2 3 rfl rfl)
theorem dX11_openOf_50 : decode cX11_openOf 50 = .ok (.istore_n 1, 1) := dk_60 (dk_at dksX11_openOf_2 4 rfl rfl)
theorem dX11_openOf_51 : decode cX11_openOf 51 = .ok (.iload_n 1, 1) := dk_27 (dk_at dksX11_openOf_2 5 rfl rfl)
theorem dX11_openOf_52 : decode cX11_openOf 52 = .ok (.ldc 77, 2) := dk_18 77 (dk_at dksX11_openOf_2 6 rfl rfl)
theorem dX11_openOf_54 : decode cX11_openOf 54 = .ok (.if_icmp .ge 16, 3) := dk_162 0 16 (dk_at dksX11_openOf_2 8 rfl rfl)
theorem dX11_openOf_57 : decode cX11_openOf 57 = .ok (.aload_n 0, 1) := dk_42 (dk_at dksX11_openOf_2 11 rfl rfl)
theorem dX11_openOf_58 : decode cX11_openOf 58 = .ok (.getfield 78, 3) := dk_180 0 78 (dk_at dksX11_openOf_2 12 rfl rfl)
theorem dX11_openOf_61 : decode cX11_openOf 61 = .ok (.iload_n 1, 1) := dk_27 (dk_at dksX11_openOf_2 15 rfl rfl)
theorem dX11_openOf_62 : decode cX11_openOf 62 = .ok (.iconst 0, 1) := dk_3 (dk_at dksX11_openOf_2 16 rfl rfl)
theorem dX11_openOf_63 : decode cX11_openOf 63 = .ok (.iastore, 1) := dk_79 (dk_at dksX11_openOf_2 17 rfl rfl)
theorem dX11_openOf_64 : decode cX11_openOf 64 = .ok (.iinc 1 1, 3) := dk_132 1 1 (dk_at dksX11_openOf_2 18 rfl rfl)
theorem dX11_openOf_67 : decode cX11_openOf 67 = .ok (.goto (-16), 3) := dk_167 255 240 (dk_at dksX11_openOf_2 21 rfl rfl)
theorem dX11_openOf_70 : decode cX11_openOf 70 = .ok (.aload_n 0, 1) := dk_42 (dk_at dksX11_openOf_3 0 rfl rfl)
theorem dX11_openOf_71 : decode cX11_openOf 71 = .ok (.getfield 33, 3) := dk_180 0 33 (dk_at dksX11_openOf_3 1 rfl rfl)
theorem dX11_openOf_74 : decode cX11_openOf 74 = .ok (.iconst 4, 1) := dk_7 (dk_at dksX11_openOf_3 4 rfl rfl)
theorem dX11_openOf_75 : decode cX11_openOf 75 = .ok (.iaload, 1) := dk_46 (dk_at dksX11_openOf_3 5 rfl rfl)
theorem dX11_openOf_76 : decode cX11_openOf 76 = .ok (.istore_n 1, 1) := dk_60 (dk_at dksX11_openOf_3 6 rfl rfl)
theorem dX11_openOf_77 : decode cX11_openOf 77 = .ok (.iconst 0, 1) := dk_3 (dk_at dksX11_openOf_3 7 rfl rfl)
theorem dX11_openOf_78 : decode cX11_openOf 78 = .ok (.istore_n 2, 1) := dk_61 (dk_at dksX11_openOf_3 8 rfl rfl)
theorem dX11_openOf_79 : decode cX11_openOf 79 = .ok (.iload_n 2, 1) := dk_28 (dk_at dksX11_openOf_3 9 rfl rfl)
theorem dX11_openOf_80 : decode cX11_openOf 80 = .ok (.iconst 3, 1) := dk_6 (dk_at dksX11_openOf_3 10 rfl rfl)
theorem dX11_openOf_81 : decode cX11_openOf 81 = .ok (.if_icmp .ge 37, 3) := dk_162 0 37 (dk_at dksX11_openOf_3 11 rfl rfl)
theorem dX11_openOf_84 : decode cX11_openOf 84 = .ok (.aload_n 0, 1) := dk_42 (dk_at dksX11_openOf_3 14 rfl rfl)
theorem dX11_openOf_85 : decode cX11_openOf 85 = .ok (.getfield 84, 3) := dk_180 0 84 (dk_at dksX11_openOf_3 15 rfl rfl)
theorem dX11_openOf_88 : decode cX11_openOf 88 = .ok (.iload_n 2, 1) := dk_28 (dk_at dksX11_openOf_3 18 rfl rfl)
theorem dX11_openOf_89 : decode cX11_openOf 89 = .ok (.aload_n 0, 1) := dk_42 (dk_at dksX11_openOf_3 19 rfl rfl)
theorem dX11_openOf_90 : decode cX11_openOf 90 = .ok (.iload_n 1, 1) := dk_27 (dk_at dksX11_openOf_3 20 rfl rfl)
theorem dX11_openOf_91 : decode cX11_openOf 91 = .ok (.iload_n 2, 1) := dk_28 (dk_at dksX11_openOf_3 21 rfl rfl)
theorem dX11_openOf_92 : decode cX11_openOf 92 = .ok (.iconst 0, 1) := dk_3 (dk_at dksX11_openOf_3 22 rfl rfl)
theorem dX11_openOf_93 : decode cX11_openOf 93 = .ok (.invokevirtual 255, 3) := dk_182 0 255 (dk_at dksX11_openOf_4 0 rfl rfl)
theorem dX11_openOf_96 : decode cX11_openOf 96 = .ok (.iastore, 1) := dk_79 (dk_at dksX11_openOf_4 3 rfl rfl)
theorem dX11_openOf_97 : decode cX11_openOf 97 = .ok (.aload_n 0, 1) := dk_42 (dk_at dksX11_openOf_4 4 rfl rfl)
theorem dX11_openOf_98 : decode cX11_openOf 98 = .ok (.getfield 87, 3) := dk_180 0 87 (dk_at dksX11_openOf_4 5 rfl rfl)
theorem dX11_openOf_101 : decode cX11_openOf 101 = .ok (.iload_n 2, 1) := dk_28 (dk_at dksX11_openOf_4 8 rfl rfl)
theorem dX11_openOf_102 : decode cX11_openOf 102 = .ok (.aload_n 0, 1) := dk_42 (dk_at dksX11_openOf_4 9 rfl rfl)
theorem dX11_openOf_103 : decode cX11_openOf 103 = .ok (.iconst 1, 1) := dk_4 (dk_at dksX11_openOf_4 10 rfl rfl)
theorem dX11_openOf_104 : decode cX11_openOf 104 = .ok (.iload_n 1, 1) := dk_27 (dk_at dksX11_openOf_4 11 rfl rfl)
theorem dX11_openOf_105 : decode cX11_openOf 105 = .ok (.isub, 1) := dk_100 (dk_at dksX11_openOf_4 12 rfl rfl)
theorem dX11_openOf_106 : decode cX11_openOf 106 = .ok (.iload_n 2, 1) := dk_28 (dk_at dksX11_openOf_4 13 rfl rfl)
theorem dX11_openOf_107 : decode cX11_openOf 107 = .ok (.iconst 0, 1) := dk_3 (dk_at dksX11_openOf_4 14 rfl rfl)
theorem dX11_openOf_108 : decode cX11_openOf 108 = .ok (.invokevirtual 255, 3) := dk_182 0 255 (dk_at dksX11_openOf_4 15 rfl rfl)
theorem dX11_openOf_111 : decode cX11_openOf 111 = .ok (.iastore, 1) := dk_79 (dk_at dksX11_openOf_4 18 rfl rfl)
theorem dX11_openOf_112 : decode cX11_openOf 112 = .ok (.iinc 2 1, 3) := dk_132 2 1 (dk_at dksX11_openOf_4 19 rfl rfl)
theorem dX11_openOf_115 : decode cX11_openOf 115 = .ok (.goto (-36), 3) := dk_167 255 220 (dk_at dksX11_openOf_5 0 rfl rfl)
theorem dX11_openOf_118 : decode cX11_openOf 118 = .ok (.aload_n 0, 1) := dk_42 (dk_at dksX11_openOf_5 3 rfl rfl)
theorem dX11_openOf_119 : decode cX11_openOf 119 = .ok (.iconst 0, 1) := dk_3 (dk_at dksX11_openOf_5 4 rfl rfl)
theorem dX11_openOf_120 : decode cX11_openOf 120 = .ok (.putfield 355, 3) := dk_181 1 99 (dk_at dksX11_openOf_5 5 rfl rfl)
theorem dX11_openOf_123 : decode cX11_openOf 123 = .ok (.aload_n 0, 1) := dk_42 (dk_at dksX11_openOf_5 8 rfl rfl)
theorem dX11_openOf_124 : decode cX11_openOf 124 = .ok (.aload_n 0, 1) := dk_42 (dk_at dksX11_openOf_5 9 rfl rfl)
theorem dX11_openOf_125 : decode cX11_openOf 125 = .ok (.getfield 33, 3) := dk_180 0 33 (dk_at dksX11_openOf_5 10 rfl rfl)
theorem dX11_openOf_128 : decode cX11_openOf 128 = .ok (.bipush 6, 2) := dk_16 6 (dk_at dksX11_openOf_5 13 rfl rfl)
theorem dX11_openOf_130 : decode cX11_openOf 130 = .ok (.iaload, 1) := dk_46 (dk_at dksX11_openOf_5 15 rfl rfl)
theorem dX11_openOf_131 : decode cX11_openOf 131 = .ok (.putfield 358, 3) := dk_181 1 102 (dk_at dksX11_openOf_5 16 rfl rfl)
theorem dX11_openOf_134 : decode cX11_openOf 134 = .ok (.aload_n 0, 1) := dk_42 (dk_at dksX11_openOf_5 19 rfl rfl)
theorem dX11_openOf_135 : decode cX11_openOf 135 = .ok (.iconst 0, 1) := dk_3 (dk_at dksX11_openOf_5 20 rfl rfl)
theorem dX11_openOf_136 : decode cX11_openOf 136 = .ok (.invokevirtual 384, 3) := dk_182 1 128 (dk_at dksX11_openOf_5 21 rfl rfl)
theorem dX11_openOf_139 : decode cX11_openOf 139 = .ok (.istore_n 2, 1) := dk_61 (dk_at dksX11_openOf_6 0 rfl rfl)
theorem dX11_openOf_140 : decode cX11_openOf 140 = .ok (.iconst 1, 1) := dk_4 (dk_at dksX11_openOf_6 1 rfl rfl)
theorem dX11_openOf_141 : decode cX11_openOf 141 = .ok (.istore_n 3, 1) := dk_62 (dk_at dksX11_openOf_6 2 rfl rfl)
theorem dX11_openOf_142 : decode cX11_openOf 142 = .ok (.aload_n 0, 1) := dk_42 (dk_at dksX11_openOf_6 3 rfl rfl)
theorem dX11_openOf_143 : decode cX11_openOf 143 = .ok (.getfield 81, 3) := dk_180 0 81 (dk_at dksX11_openOf_6 4 rfl rfl)
theorem dX11_openOf_146 : decode cX11_openOf 146 = .ok (.iconst 0, 1) := dk_3 (dk_at dksX11_openOf_6 7 rfl rfl)
theorem dX11_openOf_147 : decode cX11_openOf 147 = .ok (.iload_n 2, 1) := dk_28 (dk_at dksX11_openOf_6 8 rfl rfl)
theorem dX11_openOf_148 : decode cX11_openOf 148 = .ok (.iastore, 1) := dk_79 (dk_at dksX11_openOf_6 9 rfl rfl)
theorem dX11_openOf_149 : decode cX11_openOf 149 = .ok (.iload_n 3, 1) := dk_29 (dk_at dksX11_openOf_6 10 rfl rfl)
theorem dX11_openOf_150 : decode cX11_openOf 150 = .ok (.ifCond .le 43, 3) := dk_158 0 43 (dk_at dksX11_openOf_6 11 rfl rfl)
theorem dX11_openOf_153 : decode cX11_openOf 153 = .ok (.aload_n 0, 1) := dk_42 (dk_at dksX11_openOf_6 14 rfl rfl)
theorem dX11_openOf_154 : decode cX11_openOf 154 = .ok (.aload_n 0, 1) := dk_42 (dk_at dksX11_openOf_6 15 rfl rfl)
theorem dX11_openOf_155 : decode cX11_openOf 155 = .ok (.getfield 81, 3) := dk_180 0 81 (dk_at dksX11_openOf_6 16 rfl rfl)
theorem dX11_openOf_158 : decode cX11_openOf 158 = .ok (.iload_n 3, 1) := dk_29 (dk_at dksX11_openOf_6 19 rfl rfl)
theorem dX11_openOf_159 : decode cX11_openOf 159 = .ok (.iconst 1, 1) := dk_4 (dk_at dksX11_openOf_6 20 rfl rfl)
theorem dX11_openOf_160 : decode cX11_openOf 160 = .ok (.isub, 1) := dk_100 (dk_at dksX11_openOf_6 21 rfl rfl)
theorem dX11_openOf_161 : decode cX11_openOf 161 = .ok (.iaload, 1) := dk_46 (dk_at dksX11_openOf_6 22 rfl rfl)
theorem dX11_openOf_162 : decode cX11_openOf 162 = .ok (.invokevirtual 394, 3) := dk_182 1 138 (dk_at dksX11_openOf_7 0 rfl rfl)
theorem dX11_openOf_165 : decode cX11_openOf 165 = .ok (.istore 4, 2) := dk_54 4 (dk_at dksX11_openOf_7 3 rfl rfl)
theorem dX11_openOf_167 : decode cX11_openOf 167 = .ok (.iload 4, 2) := dk_21 4 (dk_at dksX11_openOf_7 5 rfl rfl)
theorem dX11_openOf_169 : decode cX11_openOf 169 = .ok (.iconst (-1), 1) := dk_2 (dk_at dksX11_openOf_7 7 rfl rfl)
theorem dX11_openOf_170 : decode cX11_openOf 170 = .ok (.if_icmp .ne 9, 3) := dk_160 0 9 (dk_at dksX11_openOf_7 8 rfl rfl)
theorem dX11_openOf_173 : decode cX11_openOf 173 = .ok (.iinc 3 (-1), 3) := dk_132 3 255 (dk_at dksX11_openOf_7 11 rfl rfl)
theorem dX11_openOf_176 : decode cX11_openOf 176 = .ok (.goto 14, 3) := dk_167 0 14 (dk_at dksX11_openOf_7 14 rfl rfl)
theorem dX11_openOf_179 : decode cX11_openOf 179 = .ok (.aload_n 0, 1) := dk_42 (dk_at dksX11_openOf_7 17 rfl rfl)
theorem dX11_openOf_180 : decode cX11_openOf 180 = .ok (.getfield 81, 3) := dk_180 0 81 (dk_at dksX11_openOf_7 18 rfl rfl)
theorem dX11_openOf_183 : decode cX11_openOf 183 = .ok (.iload_n 3, 1) := dk_29 (dk_at dksX11_openOf_7 21 rfl rfl)
theorem dX11_openOf_184 : decode cX11_openOf 184 = .ok (.iload 4, 2) := dk_21 4 (dk_at dksX11_openOf_7 22 rfl rfl)
theorem dX11_openOf_186 : decode cX11_openOf 186 = .ok (.iastore, 1) := dk_79 (dk_at dksX11_openOf_8 0 rfl rfl)
theorem dX11_openOf_187 : decode cX11_openOf 187 = .ok (.iinc 3 1, 3) := dk_132 3 1 (dk_at dksX11_openOf_8 1 rfl rfl)
theorem dX11_openOf_190 : decode cX11_openOf 190 = .ok (.goto (-41), 3) := dk_167 255 215 (dk_at dksX11_openOf_8 4 rfl rfl)
theorem dX11_openOf_193 : decode cX11_openOf 193 = .ok (.aload_n 0, 1) := dk_42 (dk_at dksX11_openOf_8 7 rfl rfl)
theorem dX11_openOf_194 : decode cX11_openOf 194 = .ok (.getfield 78, 3) := dk_180 0 78 (dk_at dksX11_openOf_8 8 rfl rfl)
theorem dX11_openOf_197 : decode cX11_openOf 197 = .ok (.iload_n 2, 1) := dk_28 (dk_at dksX11_openOf_8 11 rfl rfl)
theorem dX11_openOf_198 : decode cX11_openOf 198 = .ok (.iaload, 1) := dk_46 (dk_at dksX11_openOf_8 12 rfl rfl)
theorem dX11_openOf_199 : decode cX11_openOf 199 = .ok (.sipush 1000, 3) := dk_17 3 232 (dk_at dksX11_openOf_8 13 rfl rfl)
theorem dX11_openOf_202 : decode cX11_openOf 202 = .ok (.isub, 1) := dk_100 (dk_at dksX11_openOf_8 16 rfl rfl)
theorem dX11_openOf_203 : decode cX11_openOf 203 = .ok (.aload_n 0, 1) := dk_42 (dk_at dksX11_openOf_8 17 rfl rfl)
theorem dX11_openOf_204 : decode cX11_openOf 204 = .ok (.iload_n 1, 1) := dk_27 (dk_at dksX11_openOf_8 18 rfl rfl)
theorem dX11_openOf_205 : decode cX11_openOf 205 = .ok (.invokevirtual 292, 3) := dk_182 1 36 (dk_at dksX11_openOf_8 19 rfl rfl)
theorem dX11_openOf_208 : decode cX11_openOf 208 = .ok (.iadd, 1) := dk_96 (dk_at dksX11_openOf_8 22 rfl rfl)
theorem dX11_openOf_209 : decode cX11_openOf 209 = .ok (.aload_n 0, 1) := dk_42 (dk_at dksX11_openOf_8 23 rfl rfl)
theorem dX11_openOf_210 : decode cX11_openOf 210 = .ok (.iconst 1, 1) := dk_4 (dk_at dksX11_openOf_9 0 rfl rfl)
theorem dX11_openOf_211 : decode cX11_openOf 211 = .ok (.iload_n 1, 1) := dk_27 (dk_at dksX11_openOf_9 1 rfl rfl)
theorem dX11_openOf_212 : decode cX11_openOf 212 = .ok (.isub, 1) := dk_100 (dk_at dksX11_openOf_9 2 rfl rfl)
theorem dX11_openOf_213 : decode cX11_openOf 213 = .ok (.invokevirtual 292, 3) := dk_182 1 36 (dk_at dksX11_openOf_9 3 rfl rfl)
theorem dX11_openOf_216 : decode cX11_openOf 216 = .ok (.isub, 1) := dk_100 (dk_at dksX11_openOf_9 6 rfl rfl)
theorem dX11_openOf_217 : decode cX11_openOf 217 = .ok (.ireturn, 1) := dk_172 (dk_at dksX11_openOf_9 7 rfl rfl)
abbrev cX11_codeOf : ByteArray := prog_23_method_71_code
def yX11_codeOf : MethodName := ⟨RX11, "codeOf", "(Z)I"⟩
def dkwX11_codeOf_3 : List UInt8 := [42, 180, 1, 102, 96, 172]
abbrev dktX11_codeOf_3 : List UInt8 := dkwX11_codeOf_3 ++ []
def dkwX11_codeOf_2 : List UInt8 := [42, 180, 0, 84, 29, 46, 96, 61, 132, 3, 255, 167, 255, 202, 8, 28, 104, 42, 180, 1, 99, 96, 5, 104]
abbrev dktX11_codeOf_2 : List UInt8 := dkwX11_codeOf_2 ++ dktX11_codeOf_3
def dkwX11_codeOf_1 : List UInt8 := [167, 0, 9, 42, 180, 0, 87, 29, 46, 104, 96, 27, 153, 0, 12, 42, 180, 0, 87, 29, 46, 167, 0, 9]
abbrev dktX11_codeOf_1 : List UInt8 := dkwX11_codeOf_1 ++ dktX11_codeOf_2
def dkwX11_codeOf_0 : List UInt8 := [3, 61, 5, 62, 29, 155, 0, 56, 16, 25, 28, 104, 8, 27, 153, 0, 12, 42, 180, 0, 84, 29, 46]
abbrev dktX11_codeOf_0 : List UInt8 := dkwX11_codeOf_0 ++ dktX11_codeOf_1
theorem dksX11_codeOf_0 : cX11_codeOf.data.toList.drop 0 = dktX11_codeOf_0 := by decide +kernel
theorem dksX11_codeOf_1 : cX11_codeOf.data.toList.drop 23 = dktX11_codeOf_1 := dk_seg dksX11_codeOf_0 23 rfl rfl
theorem dksX11_codeOf_2 : cX11_codeOf.data.toList.drop 47 = dktX11_codeOf_2 := dk_seg dksX11_codeOf_1 24 rfl rfl
theorem dksX11_codeOf_3 : cX11_codeOf.data.toList.drop 71 = dktX11_codeOf_3 := dk_seg dksX11_codeOf_2 24 rfl rfl
theorem dX11_codeOf_0 : decode cX11_codeOf 0 = .ok (.iconst 0, 1) := dk_3 (dk_at dksX11_codeOf_0 0 rfl rfl)
theorem dX11_codeOf_1 : decode cX11_codeOf 1 = .ok (.istore_n 2, 1) := dk_61 (dk_at dksX11_codeOf_0 1 rfl rfl)
theorem dX11_codeOf_2 : decode cX11_codeOf 2 = .ok (.iconst 2, 1) := dk_5 (dk_at dksX11_codeOf_0 2 rfl rfl)
theorem dX11_codeOf_3 : decode cX11_codeOf 3 = .ok (.istore_n 3, 1) := dk_62 (dk_at dksX11_codeOf_0 3 rfl rfl)
theorem dX11_codeOf_4 : decode cX11_codeOf 4 = .ok (.iload_n 3, 1) := dk_29 (dk_at dksX11_codeOf_0 4 rfl rfl)
theorem dX11_codeOf_5 : decode cX11_codeOf 5 = .ok (.ifCond .lt 56, 3) := dk_155 0 56 (dk_at dksX11_codeOf_0 5 rfl rfl)
theorem dX11_codeOf_8 : decode cX11_codeOf 8 = .ok (.bipush 25, 2) := dk_16 25 (dk_at dksX11_codeOf_0 8 rfl rfl)
theorem dX11_codeOf_10 : decode cX11_codeOf 10 = .ok (.iload_n 2, 1) := dk_28 (dk_at dksX11_codeOf_0 10 rfl rfl)
theorem dX11_codeOf_11 : decode cX11_codeOf 11 = .ok (.imul, 1) := dk_104 (dk_at dksX11_codeOf_0 11 rfl rfl)
theorem dX11_codeOf_12 : decode cX11_codeOf 12 = .ok (.iconst 5, 1) := dk_8 (dk_at dksX11_codeOf_0 12 rfl rfl)
theorem dX11_codeOf_13 : decode cX11_codeOf 13 = .ok (.iload_n 1, 1) := dk_27 (dk_at dksX11_codeOf_0 13 rfl rfl)
theorem dX11_codeOf_14 : decode cX11_codeOf 14 = .ok (.ifCond .eq 12, 3) := dk_153 0 12 (dk_at dksX11_codeOf_0 14 rfl rfl)
theorem dX11_codeOf_17 : decode cX11_codeOf 17 = .ok (.aload_n 0, 1) := dk_42 (dk_at dksX11_codeOf_0 17 rfl rfl)
theorem dX11_codeOf_18 : decode cX11_codeOf 18 = .ok (.getfield 84, 3) := dk_180 0 84 (dk_at dksX11_codeOf_0 18 rfl rfl)
theorem dX11_codeOf_21 : decode cX11_codeOf 21 = .ok (.iload_n 3, 1) := dk_29 (dk_at dksX11_codeOf_0 21 rfl rfl)
theorem dX11_codeOf_22 : decode cX11_codeOf 22 = .ok (.iaload, 1) := dk_46 (dk_at dksX11_codeOf_0 22 rfl rfl)
theorem dX11_codeOf_23 : decode cX11_codeOf 23 = .ok (.goto 9, 3) := dk_167 0 9 (dk_at dksX11_codeOf_1 0 rfl rfl)
theorem dX11_codeOf_26 : decode cX11_codeOf 26 = .ok (.aload_n 0, 1) := dk_42 (dk_at dksX11_codeOf_1 3 rfl rfl)
theorem dX11_codeOf_27 : decode cX11_codeOf 27 = .ok (.getfield 87, 3) := dk_180 0 87 (dk_at dksX11_codeOf_1 4 rfl rfl)
theorem dX11_codeOf_30 : decode cX11_codeOf 30 = .ok (.iload_n 3, 1) := dk_29 (dk_at dksX11_codeOf_1 7 rfl rfl)
theorem dX11_codeOf_31 : decode cX11_codeOf 31 = .ok (.iaload, 1) := dk_46 (dk_at dksX11_codeOf_1 8 rfl rfl)
theorem dX11_codeOf_32 : decode cX11_codeOf 32 = .ok (.imul, 1) := dk_104 (dk_at dksX11_codeOf_1 9 rfl rfl)
theorem dX11_codeOf_33 : decode cX11_codeOf 33 = .ok (.iadd, 1) := dk_96 (dk_at dksX11_codeOf_1 10 rfl rfl)
theorem dX11_codeOf_34 : decode cX11_codeOf 34 = .ok (.iload_n 1, 1) := dk_27 (dk_at dksX11_codeOf_1 11 rfl rfl)
theorem dX11_codeOf_35 : decode cX11_codeOf 35 = .ok (.ifCond .eq 12, 3) := dk_153 0 12 (dk_at dksX11_codeOf_1 12 rfl rfl)
theorem dX11_codeOf_38 : decode cX11_codeOf 38 = .ok (.aload_n 0, 1) := dk_42 (dk_at dksX11_codeOf_1 15 rfl rfl)
theorem dX11_codeOf_39 : decode cX11_codeOf 39 = .ok (.getfield 87, 3) := dk_180 0 87 (dk_at dksX11_codeOf_1 16 rfl rfl)
theorem dX11_codeOf_42 : decode cX11_codeOf 42 = .ok (.iload_n 3, 1) := dk_29 (dk_at dksX11_codeOf_1 19 rfl rfl)
theorem dX11_codeOf_43 : decode cX11_codeOf 43 = .ok (.iaload, 1) := dk_46 (dk_at dksX11_codeOf_1 20 rfl rfl)
theorem dX11_codeOf_44 : decode cX11_codeOf 44 = .ok (.goto 9, 3) := dk_167 0 9 (dk_at dksX11_codeOf_1 21 rfl rfl)
theorem dX11_codeOf_47 : decode cX11_codeOf 47 = .ok (.aload_n 0, 1) := dk_42 (dk_at dksX11_codeOf_2 0 rfl rfl)
theorem dX11_codeOf_48 : decode cX11_codeOf 48 = .ok (.getfield 84, 3) := dk_180 0 84 (dk_at dksX11_codeOf_2 1 rfl rfl)
theorem dX11_codeOf_51 : decode cX11_codeOf 51 = .ok (.iload_n 3, 1) := dk_29 (dk_at dksX11_codeOf_2 4 rfl rfl)
theorem dX11_codeOf_52 : decode cX11_codeOf 52 = .ok (.iaload, 1) := dk_46 (dk_at dksX11_codeOf_2 5 rfl rfl)
theorem dX11_codeOf_53 : decode cX11_codeOf 53 = .ok (.iadd, 1) := dk_96 (dk_at dksX11_codeOf_2 6 rfl rfl)
theorem dX11_codeOf_54 : decode cX11_codeOf 54 = .ok (.istore_n 2, 1) := dk_61 (dk_at dksX11_codeOf_2 7 rfl rfl)
theorem dX11_codeOf_55 : decode cX11_codeOf 55 = .ok (.iinc 3 (-1), 3) := dk_132 3 255 (dk_at dksX11_codeOf_2 8 rfl rfl)
theorem dX11_codeOf_58 : decode cX11_codeOf 58 = .ok (.goto (-54), 3) := dk_167 255 202 (dk_at dksX11_codeOf_2 11 rfl rfl)
theorem dX11_codeOf_61 : decode cX11_codeOf 61 = .ok (.iconst 5, 1) := dk_8 (dk_at dksX11_codeOf_2 14 rfl rfl)
theorem dX11_codeOf_62 : decode cX11_codeOf 62 = .ok (.iload_n 2, 1) := dk_28 (dk_at dksX11_codeOf_2 15 rfl rfl)
theorem dX11_codeOf_63 : decode cX11_codeOf 63 = .ok (.imul, 1) := dk_104 (dk_at dksX11_codeOf_2 16 rfl rfl)
theorem dX11_codeOf_64 : decode cX11_codeOf 64 = .ok (.aload_n 0, 1) := dk_42 (dk_at dksX11_codeOf_2 17 rfl rfl)
theorem dX11_codeOf_65 : decode cX11_codeOf 65 = .ok (.getfield 355, 3) := dk_180 1 99 (dk_at dksX11_codeOf_2 18 rfl rfl)
theorem dX11_codeOf_68 : decode cX11_codeOf 68 = .ok (.iadd, 1) := dk_96 (dk_at dksX11_codeOf_2 21 rfl rfl)
theorem dX11_codeOf_69 : decode cX11_codeOf 69 = .ok (.iconst 2, 1) := dk_5 (dk_at dksX11_codeOf_2 22 rfl rfl)
theorem dX11_codeOf_70 : decode cX11_codeOf 70 = .ok (.imul, 1) := dk_104 (dk_at dksX11_codeOf_2 23 rfl rfl)
theorem dX11_codeOf_71 : decode cX11_codeOf 71 = .ok (.aload_n 0, 1) := dk_42 (dk_at dksX11_codeOf_3 0 rfl rfl)
theorem dX11_codeOf_72 : decode cX11_codeOf 72 = .ok (.getfield 358, 3) := dk_180 1 102 (dk_at dksX11_codeOf_3 1 rfl rfl)
theorem dX11_codeOf_75 : decode cX11_codeOf 75 = .ok (.iadd, 1) := dk_96 (dk_at dksX11_codeOf_3 4 rfl rfl)
theorem dX11_codeOf_76 : decode cX11_codeOf 76 = .ok (.ireturn, 1) := dk_172 (dk_at dksX11_codeOf_3 5 rfl rfl)
abbrev cX11_lacks : ByteArray := prog_23_method_77_code
def yX11_lacks : MethodName := ⟨RX11, "lacks", "(I)I"⟩
def dkwX11_lacks_5 : List UInt8 := [181, 1, 135, 132, 3, 1, 167, 255, 141, 42, 180, 0, 78, 27, 28, 17, 3, 232, 96, 79, 2, 172]
abbrev dktX11_lacks_5 : List UInt8 := dkwX11_lacks_5 ++ []
def dkwX11_lacks_4 : List UInt8 := [46, 17, 3, 232, 100, 104, 96, 54, 4, 21, 4, 28, 163, 0, 6, 167, 0, 11, 21, 4, 61, 42, 29]
abbrev dktX11_lacks_4 : List UInt8 := dkwX11_lacks_4 ++ dktX11_lacks_5
def dkwX11_lacks_3 : List UInt8 := [42, 180, 1, 119, 2, 160, 0, 7, 3, 167, 0, 21, 42, 180, 1, 122, 42, 180, 0, 78, 42, 180, 1, 119]
abbrev dktX11_lacks_3 : List UInt8 := dkwX11_lacks_3 ++ dktX11_lacks_4
def dkwX11_lacks_2 : List UInt8 := [159, 0, 20, 42, 180, 0, 78, 42, 180, 1, 119, 46, 154, 0, 8, 42, 180, 1, 119, 172, 42, 180, 1, 116]
abbrev dktX11_lacks_2 : List UInt8 := dkwX11_lacks_2 ++ dktX11_lacks_3
def dkwX11_lacks_1 : List UInt8 := [180, 0, 84, 29, 46, 154, 0, 6, 167, 0, 88, 42, 27, 29, 182, 1, 132, 42, 180, 1, 119, 2]
abbrev dktX11_lacks_1 : List UInt8 := dkwX11_lacks_1 ++ dktX11_lacks_2
def dkwX11_lacks_0 : List UInt8 := [17, 252, 24, 61, 3, 62, 29, 42, 180, 0, 33, 3, 46, 162, 0, 111, 42, 27, 182, 1, 113, 42]
abbrev dktX11_lacks_0 : List UInt8 := dkwX11_lacks_0 ++ dktX11_lacks_1
theorem dksX11_lacks_0 : cX11_lacks.data.toList.drop 0 = dktX11_lacks_0 := by decide +kernel
theorem dksX11_lacks_1 : cX11_lacks.data.toList.drop 22 = dktX11_lacks_1 := dk_seg dksX11_lacks_0 22 rfl rfl
theorem dksX11_lacks_2 : cX11_lacks.data.toList.drop 44 = dktX11_lacks_2 := dk_seg dksX11_lacks_1 22 rfl rfl
theorem dksX11_lacks_3 : cX11_lacks.data.toList.drop 68 = dktX11_lacks_3 := dk_seg dksX11_lacks_2 24 rfl rfl
theorem dksX11_lacks_4 : cX11_lacks.data.toList.drop 92 = dktX11_lacks_4 := dk_seg dksX11_lacks_3 24 rfl rfl
theorem dksX11_lacks_5 : cX11_lacks.data.toList.drop 115 = dktX11_lacks_5 := dk_seg dksX11_lacks_4 23 rfl rfl
theorem dX11_lacks_0 : decode cX11_lacks 0 = .ok (.sipush (-1000), 3) := dk_17 252 24 (dk_at dksX11_lacks_0 0 rfl rfl)
theorem dX11_lacks_3 : decode cX11_lacks 3 = .ok (.istore_n 2, 1) := dk_61 (dk_at dksX11_lacks_0 3 rfl rfl)
theorem dX11_lacks_4 : decode cX11_lacks 4 = .ok (.iconst 0, 1) := dk_3 (dk_at dksX11_lacks_0 4 rfl rfl)
theorem dX11_lacks_5 : decode cX11_lacks 5 = .ok (.istore_n 3, 1) := dk_62 (dk_at dksX11_lacks_0 5 rfl rfl)
theorem dX11_lacks_6 : decode cX11_lacks 6 = .ok (.iload_n 3, 1) := dk_29 (dk_at dksX11_lacks_0 6 rfl rfl)
theorem dX11_lacks_7 : decode cX11_lacks 7 = .ok (.aload_n 0, 1) := dk_42 (dk_at dksX11_lacks_0 7 rfl rfl)
theorem dX11_lacks_8 : decode cX11_lacks 8 = .ok (.getfield 33, 3) := dk_180 0 33 (dk_at dksX11_lacks_0 8 rfl rfl)
theorem dX11_lacks_11 : decode cX11_lacks 11 = .ok (.iconst 0, 1) := dk_3 (dk_at dksX11_lacks_0 11 rfl rfl)
theorem dX11_lacks_12 : decode cX11_lacks 12 = .ok (.iaload, 1) := dk_46 (dk_at dksX11_lacks_0 12 rfl rfl)
theorem dX11_lacks_13 : decode cX11_lacks 13 = .ok (.if_icmp .ge 111, 3) := dk_162 0 111 (dk_at dksX11_lacks_0 13 rfl rfl)
theorem dX11_lacks_16 : decode cX11_lacks 16 = .ok (.aload_n 0, 1) := dk_42 (dk_at dksX11_lacks_0 16 rfl rfl)
theorem dX11_lacks_17 : decode cX11_lacks 17 = .ok (.iload_n 1, 1) := dk_27 (dk_at dksX11_lacks_0 17 rfl rfl)
theorem dX11_lacks_18 : decode cX11_lacks 18 = .ok (.invokevirtual 369, 3) := dk_182 1 113 (dk_at dksX11_lacks_0 18 rfl rfl)
theorem dX11_lacks_21 : decode cX11_lacks 21 = .ok (.aload_n 0, 1) := dk_42 (dk_at dksX11_lacks_0 21 rfl rfl)
theorem dX11_lacks_22 : decode cX11_lacks 22 = .ok (.getfield 84, 3) := dk_180 0 84 (dk_at dksX11_lacks_1 0 rfl rfl)
theorem dX11_lacks_25 : decode cX11_lacks 25 = .ok (.iload_n 3, 1) := dk_29 (dk_at dksX11_lacks_1 3 rfl rfl)
theorem dX11_lacks_26 : decode cX11_lacks 26 = .ok (.iaload, 1) := dk_46 (dk_at dksX11_lacks_1 4 rfl rfl)
theorem dX11_lacks_27 : decode cX11_lacks 27 = .ok (.ifCond .ne 6, 3) := dk_154 0 6 (dk_at dksX11_lacks_1 5 rfl rfl)
theorem dX11_lacks_30 : decode cX11_lacks 30 = .ok (.goto 88, 3) := dk_167 0 88 (dk_at dksX11_lacks_1 8 rfl rfl)
theorem dX11_lacks_33 : decode cX11_lacks 33 = .ok (.aload_n 0, 1) := dk_42 (dk_at dksX11_lacks_1 11 rfl rfl)
theorem dX11_lacks_34 : decode cX11_lacks 34 = .ok (.iload_n 1, 1) := dk_27 (dk_at dksX11_lacks_1 12 rfl rfl)
theorem dX11_lacks_35 : decode cX11_lacks 35 = .ok (.iload_n 3, 1) := dk_29 (dk_at dksX11_lacks_1 13 rfl rfl)
theorem dX11_lacks_36 : decode cX11_lacks 36 = .ok (.invokevirtual 388, 3) := dk_182 1 132 (dk_at dksX11_lacks_1 14 rfl rfl)
theorem dX11_lacks_39 : decode cX11_lacks 39 = .ok (.aload_n 0, 1) := dk_42 (dk_at dksX11_lacks_1 17 rfl rfl)
theorem dX11_lacks_40 : decode cX11_lacks 40 = .ok (.getfield 375, 3) := dk_180 1 119 (dk_at dksX11_lacks_1 18 rfl rfl)
theorem dX11_lacks_43 : decode cX11_lacks 43 = .ok (.iconst (-1), 1) := dk_2 (dk_at dksX11_lacks_1 21 rfl rfl)
theorem dX11_lacks_44 : decode cX11_lacks 44 = .ok (.if_icmp .eq 20, 3) := dk_159 0 20 (dk_at dksX11_lacks_2 0 rfl rfl)
theorem dX11_lacks_47 : decode cX11_lacks 47 = .ok (.aload_n 0, 1) := dk_42 (dk_at dksX11_lacks_2 3 rfl rfl)
theorem dX11_lacks_48 : decode cX11_lacks 48 = .ok (.getfield 78, 3) := dk_180 0 78 (dk_at dksX11_lacks_2 4 rfl rfl)
theorem dX11_lacks_51 : decode cX11_lacks 51 = .ok (.aload_n 0, 1) := dk_42 (dk_at dksX11_lacks_2 7 rfl rfl)
theorem dX11_lacks_52 : decode cX11_lacks 52 = .ok (.getfield 375, 3) := dk_180 1 119 (dk_at dksX11_lacks_2 8 rfl rfl)
theorem dX11_lacks_55 : decode cX11_lacks 55 = .ok (.iaload, 1) := dk_46 (dk_at dksX11_lacks_2 11 rfl rfl)
theorem dX11_lacks_56 : decode cX11_lacks 56 = .ok (.ifCond .ne 8, 3) := dk_154 0 8 (dk_at dksX11_lacks_2 12 rfl rfl)
theorem dX11_lacks_59 : decode cX11_lacks 59 = .ok (.aload_n 0, 1) := dk_42 (dk_at dksX11_lacks_2 15 rfl rfl)
theorem dX11_lacks_60 : decode cX11_lacks 60 = .ok (.getfield 375, 3) := dk_180 1 119 (dk_at dksX11_lacks_2 16 rfl rfl)
theorem dX11_lacks_63 : decode cX11_lacks 63 = .ok (.ireturn, 1) := dk_172 (dk_at dksX11_lacks_2 19 rfl rfl)
theorem dX11_lacks_64 : decode cX11_lacks 64 = .ok (.aload_n 0, 1) := dk_42 (dk_at dksX11_lacks_2 20 rfl rfl)
theorem dX11_lacks_65 : decode cX11_lacks 65 = .ok (.getfield 372, 3) := dk_180 1 116 (dk_at dksX11_lacks_2 21 rfl rfl)
theorem dX11_lacks_68 : decode cX11_lacks 68 = .ok (.aload_n 0, 1) := dk_42 (dk_at dksX11_lacks_3 0 rfl rfl)
theorem dX11_lacks_69 : decode cX11_lacks 69 = .ok (.getfield 375, 3) := dk_180 1 119 (dk_at dksX11_lacks_3 1 rfl rfl)
theorem dX11_lacks_72 : decode cX11_lacks 72 = .ok (.iconst (-1), 1) := dk_2 (dk_at dksX11_lacks_3 4 rfl rfl)
theorem dX11_lacks_73 : decode cX11_lacks 73 = .ok (.if_icmp .ne 7, 3) := dk_160 0 7 (dk_at dksX11_lacks_3 5 rfl rfl)
theorem dX11_lacks_76 : decode cX11_lacks 76 = .ok (.iconst 0, 1) := dk_3 (dk_at dksX11_lacks_3 8 rfl rfl)
theorem dX11_lacks_77 : decode cX11_lacks 77 = .ok (.goto 21, 3) := dk_167 0 21 (dk_at dksX11_lacks_3 9 rfl rfl)
theorem dX11_lacks_80 : decode cX11_lacks 80 = .ok (.aload_n 0, 1) := dk_42 (dk_at dksX11_lacks_3 12 rfl rfl)
theorem dX11_lacks_81 : decode cX11_lacks 81 = .ok (.getfield 378, 3) := dk_180 1 122 (dk_at dksX11_lacks_3 13 rfl rfl)
theorem dX11_lacks_84 : decode cX11_lacks 84 = .ok (.aload_n 0, 1) := dk_42 (dk_at dksX11_lacks_3 16 rfl rfl)
theorem dX11_lacks_85 : decode cX11_lacks 85 = .ok (.getfield 78, 3) := dk_180 0 78 (dk_at dksX11_lacks_3 17 rfl rfl)
theorem dX11_lacks_88 : decode cX11_lacks 88 = .ok (.aload_n 0, 1) := dk_42 (dk_at dksX11_lacks_3 20 rfl rfl)
theorem dX11_lacks_89 : decode cX11_lacks 89 = .ok (.getfield 375, 3) := dk_180 1 119 (dk_at dksX11_lacks_3 21 rfl rfl)
theorem dX11_lacks_92 : decode cX11_lacks 92 = .ok (.iaload, 1) := dk_46 (dk_at dksX11_lacks_4 0 rfl rfl)
theorem dX11_lacks_93 : decode cX11_lacks 93 = .ok (.sipush 1000, 3) := dk_17 3 232 (dk_at dksX11_lacks_4 1 rfl rfl)
theorem dX11_lacks_96 : decode cX11_lacks 96 = .ok (.isub, 1) := dk_100 (dk_at dksX11_lacks_4 4 rfl rfl)
theorem dX11_lacks_97 : decode cX11_lacks 97 = .ok (.imul, 1) := dk_104 (dk_at dksX11_lacks_4 5 rfl rfl)
theorem dX11_lacks_98 : decode cX11_lacks 98 = .ok (.iadd, 1) := dk_96 (dk_at dksX11_lacks_4 6 rfl rfl)
theorem dX11_lacks_99 : decode cX11_lacks 99 = .ok (.istore 4, 2) := dk_54 4 (dk_at dksX11_lacks_4 7 rfl rfl)
theorem dX11_lacks_101 : decode cX11_lacks 101 = .ok (.iload 4, 2) := dk_21 4 (dk_at dksX11_lacks_4 9 rfl rfl)
theorem dX11_lacks_103 : decode cX11_lacks 103 = .ok (.iload_n 2, 1) := dk_28 (dk_at dksX11_lacks_4 11 rfl rfl)
theorem dX11_lacks_104 : decode cX11_lacks 104 = .ok (.if_icmp .gt 6, 3) := dk_163 0 6 (dk_at dksX11_lacks_4 12 rfl rfl)
theorem dX11_lacks_107 : decode cX11_lacks 107 = .ok (.goto 11, 3) := dk_167 0 11 (dk_at dksX11_lacks_4 15 rfl rfl)
theorem dX11_lacks_110 : decode cX11_lacks 110 = .ok (.iload 4, 2) := dk_21 4 (dk_at dksX11_lacks_4 18 rfl rfl)
theorem dX11_lacks_112 : decode cX11_lacks 112 = .ok (.istore_n 2, 1) := dk_61 (dk_at dksX11_lacks_4 20 rfl rfl)
theorem dX11_lacks_113 : decode cX11_lacks 113 = .ok (.aload_n 0, 1) := dk_42 (dk_at dksX11_lacks_4 21 rfl rfl)
theorem dX11_lacks_114 : decode cX11_lacks 114 = .ok (.iload_n 3, 1) := dk_29 (dk_at dksX11_lacks_4 22 rfl rfl)
theorem dX11_lacks_115 : decode cX11_lacks 115 = .ok (.putfield 391, 3) := dk_181 1 135 (dk_at dksX11_lacks_5 0 rfl rfl)
theorem dX11_lacks_118 : decode cX11_lacks 118 = .ok (.iinc 3 1, 3) := dk_132 3 1 (dk_at dksX11_lacks_5 3 rfl rfl)
theorem dX11_lacks_121 : decode cX11_lacks 121 = .ok (.goto (-115), 3) := dk_167 255 141 (dk_at dksX11_lacks_5 6 rfl rfl)
theorem dX11_lacks_124 : decode cX11_lacks 124 = .ok (.aload_n 0, 1) := dk_42 (dk_at dksX11_lacks_5 9 rfl rfl)
theorem dX11_lacks_125 : decode cX11_lacks 125 = .ok (.getfield 78, 3) := dk_180 0 78 (dk_at dksX11_lacks_5 10 rfl rfl)
theorem dX11_lacks_128 : decode cX11_lacks 128 = .ok (.iload_n 1, 1) := dk_27 (dk_at dksX11_lacks_5 13 rfl rfl)
theorem dX11_lacks_129 : decode cX11_lacks 129 = .ok (.iload_n 2, 1) := dk_28 (dk_at dksX11_lacks_5 14 rfl rfl)
theorem dX11_lacks_130 : decode cX11_lacks 130 = .ok (.sipush 1000, 3) := dk_17 3 232 (dk_at dksX11_lacks_5 15 rfl rfl)
theorem dX11_lacks_133 : decode cX11_lacks 133 = .ok (.iadd, 1) := dk_96 (dk_at dksX11_lacks_5 18 rfl rfl)
theorem dX11_lacks_134 : decode cX11_lacks 134 = .ok (.iastore, 1) := dk_79 (dk_at dksX11_lacks_5 19 rfl rfl)
theorem dX11_lacks_135 : decode cX11_lacks 135 = .ok (.iconst (-1), 1) := dk_2 (dk_at dksX11_lacks_5 20 rfl rfl)
theorem dX11_lacks_136 : decode cX11_lacks 136 = .ok (.ireturn, 1) := dk_172 (dk_at dksX11_lacks_5 21 rfl rfl)
abbrev cX11_decode : ByteArray := prog_23_method_72_code
def yX11_decode : MethodName := ⟨RX11, "decode", "(I)V"⟩
def dkwX11_decode_2 : List UInt8 := [28, 16, 25, 108, 61, 132, 3, 1, 167, 255, 223, 177]
abbrev dktX11_decode_2 : List UInt8 := dkwX11_decode_2 ++ []
def dkwX11_decode_1 : List UInt8 := [6, 162, 0, 34, 42, 180, 0, 84, 29, 28, 8, 112, 79, 42, 180, 0, 87, 29, 28, 8, 108, 8, 112, 79]
abbrev dktX11_decode_1 : List UInt8 := dkwX11_decode_1 ++ dktX11_decode_2
def dkwX11_decode_0 : List UInt8 := [42, 27, 5, 112, 181, 1, 102, 42, 27, 5, 108, 8, 112, 181, 1, 99, 27, 16, 10, 108, 61, 3, 62, 29]
abbrev dktX11_decode_0 : List UInt8 := dkwX11_decode_0 ++ dktX11_decode_1
theorem dksX11_decode_0 : cX11_decode.data.toList.drop 0 = dktX11_decode_0 := by decide +kernel
theorem dksX11_decode_1 : cX11_decode.data.toList.drop 24 = dktX11_decode_1 := dk_seg dksX11_decode_0 24 rfl rfl
theorem dksX11_decode_2 : cX11_decode.data.toList.drop 48 = dktX11_decode_2 := dk_seg dksX11_decode_1 24 rfl rfl
theorem dX11_decode_0 : decode cX11_decode 0 = .ok (.aload_n 0, 1) := dk_42 (dk_at dksX11_decode_0 0 rfl rfl)
theorem dX11_decode_1 : decode cX11_decode 1 = .ok (.iload_n 1, 1) := dk_27 (dk_at dksX11_decode_0 1 rfl rfl)
theorem dX11_decode_2 : decode cX11_decode 2 = .ok (.iconst 2, 1) := dk_5 (dk_at dksX11_decode_0 2 rfl rfl)
theorem dX11_decode_3 : decode cX11_decode 3 = .ok (.irem, 1) := dk_112 (dk_at dksX11_decode_0 3 rfl rfl)
theorem dX11_decode_4 : decode cX11_decode 4 = .ok (.putfield 358, 3) := dk_181 1 102 (dk_at dksX11_decode_0 4 rfl rfl)
theorem dX11_decode_7 : decode cX11_decode 7 = .ok (.aload_n 0, 1) := dk_42 (dk_at dksX11_decode_0 7 rfl rfl)
theorem dX11_decode_8 : decode cX11_decode 8 = .ok (.iload_n 1, 1) := dk_27 (dk_at dksX11_decode_0 8 rfl rfl)
theorem dX11_decode_9 : decode cX11_decode 9 = .ok (.iconst 2, 1) := dk_5 (dk_at dksX11_decode_0 9 rfl rfl)
theorem dX11_decode_10 : decode cX11_decode 10 = .ok (.idiv, 1) := dk_108 (dk_at dksX11_decode_0 10 rfl rfl)
theorem dX11_decode_11 : decode cX11_decode 11 = .ok (.iconst 5, 1) := dk_8 (dk_at dksX11_decode_0 11 rfl rfl)
theorem dX11_decode_12 : decode cX11_decode 12 = .ok (.irem, 1) := dk_112 (dk_at dksX11_decode_0 12 rfl rfl)
theorem dX11_decode_13 : decode cX11_decode 13 = .ok (.putfield 355, 3) := dk_181 1 99 (dk_at dksX11_decode_0 13 rfl rfl)
theorem dX11_decode_16 : decode cX11_decode 16 = .ok (.iload_n 1, 1) := dk_27 (dk_at dksX11_decode_0 16 rfl rfl)
theorem dX11_decode_17 : decode cX11_decode 17 = .ok (.bipush 10, 2) := dk_16 10 (dk_at dksX11_decode_0 17 rfl rfl)
theorem dX11_decode_19 : decode cX11_decode 19 = .ok (.idiv, 1) := dk_108 (dk_at dksX11_decode_0 19 rfl rfl)
theorem dX11_decode_20 : decode cX11_decode 20 = .ok (.istore_n 2, 1) := dk_61 (dk_at dksX11_decode_0 20 rfl rfl)
theorem dX11_decode_21 : decode cX11_decode 21 = .ok (.iconst 0, 1) := dk_3 (dk_at dksX11_decode_0 21 rfl rfl)
theorem dX11_decode_22 : decode cX11_decode 22 = .ok (.istore_n 3, 1) := dk_62 (dk_at dksX11_decode_0 22 rfl rfl)
theorem dX11_decode_23 : decode cX11_decode 23 = .ok (.iload_n 3, 1) := dk_29 (dk_at dksX11_decode_0 23 rfl rfl)
theorem dX11_decode_24 : decode cX11_decode 24 = .ok (.iconst 3, 1) := dk_6 (dk_at dksX11_decode_1 0 rfl rfl)
theorem dX11_decode_25 : decode cX11_decode 25 = .ok (.if_icmp .ge 34, 3) := dk_162 0 34 (dk_at dksX11_decode_1 1 rfl rfl)
theorem dX11_decode_28 : decode cX11_decode 28 = .ok (.aload_n 0, 1) := dk_42 (dk_at dksX11_decode_1 4 rfl rfl)
theorem dX11_decode_29 : decode cX11_decode 29 = .ok (.getfield 84, 3) := dk_180 0 84 (dk_at dksX11_decode_1 5 rfl rfl)
theorem dX11_decode_32 : decode cX11_decode 32 = .ok (.iload_n 3, 1) := dk_29 (dk_at dksX11_decode_1 8 rfl rfl)
theorem dX11_decode_33 : decode cX11_decode 33 = .ok (.iload_n 2, 1) := dk_28 (dk_at dksX11_decode_1 9 rfl rfl)
theorem dX11_decode_34 : decode cX11_decode 34 = .ok (.iconst 5, 1) := dk_8 (dk_at dksX11_decode_1 10 rfl rfl)
theorem dX11_decode_35 : decode cX11_decode 35 = .ok (.irem, 1) := dk_112 (dk_at dksX11_decode_1 11 rfl rfl)
theorem dX11_decode_36 : decode cX11_decode 36 = .ok (.iastore, 1) := dk_79 (dk_at dksX11_decode_1 12 rfl rfl)
theorem dX11_decode_37 : decode cX11_decode 37 = .ok (.aload_n 0, 1) := dk_42 (dk_at dksX11_decode_1 13 rfl rfl)
theorem dX11_decode_38 : decode cX11_decode 38 = .ok (.getfield 87, 3) := dk_180 0 87 (dk_at dksX11_decode_1 14 rfl rfl)
theorem dX11_decode_41 : decode cX11_decode 41 = .ok (.iload_n 3, 1) := dk_29 (dk_at dksX11_decode_1 17 rfl rfl)
theorem dX11_decode_42 : decode cX11_decode 42 = .ok (.iload_n 2, 1) := dk_28 (dk_at dksX11_decode_1 18 rfl rfl)
theorem dX11_decode_43 : decode cX11_decode 43 = .ok (.iconst 5, 1) := dk_8 (dk_at dksX11_decode_1 19 rfl rfl)
theorem dX11_decode_44 : decode cX11_decode 44 = .ok (.idiv, 1) := dk_108 (dk_at dksX11_decode_1 20 rfl rfl)
theorem dX11_decode_45 : decode cX11_decode 45 = .ok (.iconst 5, 1) := dk_8 (dk_at dksX11_decode_1 21 rfl rfl)
theorem dX11_decode_46 : decode cX11_decode 46 = .ok (.irem, 1) := dk_112 (dk_at dksX11_decode_1 22 rfl rfl)
theorem dX11_decode_47 : decode cX11_decode 47 = .ok (.iastore, 1) := dk_79 (dk_at dksX11_decode_1 23 rfl rfl)
theorem dX11_decode_48 : decode cX11_decode 48 = .ok (.iload_n 2, 1) := dk_28 (dk_at dksX11_decode_2 0 rfl rfl)
theorem dX11_decode_49 : decode cX11_decode 49 = .ok (.bipush 25, 2) := dk_16 25 (dk_at dksX11_decode_2 1 rfl rfl)
theorem dX11_decode_51 : decode cX11_decode 51 = .ok (.idiv, 1) := dk_108 (dk_at dksX11_decode_2 3 rfl rfl)
theorem dX11_decode_52 : decode cX11_decode 52 = .ok (.istore_n 2, 1) := dk_61 (dk_at dksX11_decode_2 4 rfl rfl)
theorem dX11_decode_53 : decode cX11_decode 53 = .ok (.iinc 3 1, 3) := dk_132 3 1 (dk_at dksX11_decode_2 5 rfl rfl)
theorem dX11_decode_56 : decode cX11_decode 56 = .ok (.goto (-33), 3) := dk_167 255 223 (dk_at dksX11_decode_2 8 rfl rfl)
theorem dX11_decode_59 : decode cX11_decode 59 = .ok (.return_, 1) := dk_177 (dk_at dksX11_decode_2 11 rfl rfl)
abbrev cX11_goes : ByteArray := prog_23_method_76_code
def yX11_goes : MethodName := ⟨RX11, "goes", "(II)V"⟩
def dkwX11_goes_15 : List UInt8 := [182, 1, 128, 181, 1, 119, 177]
abbrev dktX11_goes_15 : List UInt8 := dkwX11_goes_15 ++ []
def dkwX11_goes_14 : List UInt8 := [153, 0, 7, 4, 167, 0, 4, 2, 181, 1, 122, 42, 42, 29, 154, 0, 7, 4, 167, 0, 4, 3]
abbrev dktX11_goes_14 : List UInt8 := dkwX11_goes_14 ++ dktX11_goes_15
def dkwX11_goes_13 : List UInt8 := [182, 1, 125, 96, 181, 1, 116, 4, 62, 42, 180, 0, 84, 184, 1, 105, 154, 0, 4, 177, 42, 29]
abbrev dktX11_goes_13 : List UInt8 := dkwX11_goes_13 ++ dktX11_goes_14
def dkwX11_goes_12 : List UInt8 := [181, 1, 116, 42, 180, 0, 87, 184, 1, 105, 154, 0, 33, 42, 89, 180, 1, 116, 42, 42, 180, 0, 84]
abbrev dktX11_goes_12 : List UInt8 := dkwX11_goes_12 ++ dktX11_goes_13
def dkwX11_goes_11 : List UInt8 := [180, 0, 87, 184, 1, 105, 154, 0, 61, 177, 42, 89, 180, 1, 116, 42, 42, 180, 0, 87, 182, 1, 125, 100]
abbrev dktX11_goes_11 : List UInt8 := dkwX11_goes_11 ++ dktX11_goes_12
def dkwX11_goes_10 : List UInt8 := [154, 0, 90, 42, 89, 180, 1, 116, 42, 42, 180, 0, 87, 182, 1, 125, 100, 181, 1, 116, 3, 62, 42]
abbrev dktX11_goes_10 : List UInt8 := dkwX11_goes_10 ++ dktX11_goes_11
def dkwX11_goes_9 : List UInt8 := [180, 1, 116, 42, 42, 180, 0, 84, 182, 1, 125, 96, 181, 1, 116, 42, 180, 0, 84, 184, 1, 105]
abbrev dktX11_goes_9 : List UInt8 := dkwX11_goes_9 ++ dktX11_goes_10
def dkwX11_goes_8 : List UInt8 := [181, 1, 119, 42, 4, 181, 1, 122, 42, 180, 1, 102, 5, 160, 0, 4, 177, 29, 153, 0, 60, 42, 89]
abbrev dktX11_goes_8 : List UInt8 := dkwX11_goes_8 ++ dktX11_goes_9
def dkwX11_goes_7 : List UInt8 := [184, 1, 109, 96, 181, 1, 116, 167, 0, 13, 42, 89, 180, 1, 102, 4, 96, 181, 1, 102, 42, 2]
abbrev dktX11_goes_7 : List UInt8 := dkwX11_goes_7 ++ dktX11_goes_8
def dkwX11_goes_6 : List UInt8 := [62, 42, 180, 0, 84, 21, 4, 92, 46, 4, 96, 79, 42, 89, 180, 1, 116, 42, 180, 0, 84, 21, 4]
abbrev dktX11_goes_6 : List UInt8 := dkwX11_goes_6 ++ dktX11_goes_7
def dkwX11_goes_5 : List UInt8 := [181, 1, 102, 42, 180, 0, 33, 5, 46, 4, 160, 0, 13, 21, 4, 28, 160, 0, 7, 4, 167, 0, 4, 3]
abbrev dktX11_goes_5 : List UInt8 := dkwX11_goes_5 ++ dktX11_goes_6
def dkwX11_goes_4 : List UInt8 := [16, 8, 42, 180, 1, 99, 96, 46, 54, 4, 42, 89, 180, 1, 99, 4, 96, 181, 1, 99, 42, 3]
abbrev dktX11_goes_4 : List UInt8 := dkwX11_goes_4 ++ dktX11_goes_5
def dkwX11_goes_3 : List UInt8 := [181, 1, 116, 167, 0, 110, 42, 180, 1, 99, 42, 180, 0, 33, 16, 7, 46, 162, 0, 86, 42, 180, 0, 33]
abbrev dktX11_goes_3 : List UInt8 := dkwX11_goes_3 ++ dktX11_goes_4
def dkwX11_goes_2 : List UInt8 := [28, 3, 79, 42, 3, 181, 1, 102, 42, 89, 180, 1, 116, 42, 180, 0, 84, 28, 184, 1, 109, 96]
abbrev dktX11_goes_2 : List UInt8 := dkwX11_goes_2 ++ dktX11_goes_3
def dkwX11_goes_1 : List UInt8 := [62, 29, 153, 0, 50, 42, 180, 0, 84, 28, 92, 46, 42, 180, 0, 87, 28, 46, 96, 79, 42, 180, 0, 87]
abbrev dktX11_goes_1 : List UInt8 := dkwX11_goes_1 ++ dktX11_goes_2
def dkwX11_goes_0 : List UInt8 := [42, 27, 182, 1, 113, 42, 3, 181, 1, 116, 42, 180, 0, 87, 28, 46, 158, 0, 7, 4, 167, 0, 4, 3]
abbrev dktX11_goes_0 : List UInt8 := dkwX11_goes_0 ++ dktX11_goes_1
theorem dksX11_goes_0 : cX11_goes.data.toList.drop 0 = dktX11_goes_0 := by decide +kernel
theorem dksX11_goes_1 : cX11_goes.data.toList.drop 24 = dktX11_goes_1 := dk_seg dksX11_goes_0 24 rfl rfl
theorem dksX11_goes_2 : cX11_goes.data.toList.drop 48 = dktX11_goes_2 := dk_seg dksX11_goes_1 24 rfl rfl
theorem dksX11_goes_3 : cX11_goes.data.toList.drop 70 = dktX11_goes_3 := dk_seg dksX11_goes_2 22 rfl rfl
theorem dksX11_goes_4 : cX11_goes.data.toList.drop 94 = dktX11_goes_4 := dk_seg dksX11_goes_3 24 rfl rfl
theorem dksX11_goes_5 : cX11_goes.data.toList.drop 116 = dktX11_goes_5 := dk_seg dksX11_goes_4 22 rfl rfl
theorem dksX11_goes_6 : cX11_goes.data.toList.drop 140 = dktX11_goes_6 := dk_seg dksX11_goes_5 24 rfl rfl
theorem dksX11_goes_7 : cX11_goes.data.toList.drop 163 = dktX11_goes_7 := dk_seg dksX11_goes_6 23 rfl rfl
theorem dksX11_goes_8 : cX11_goes.data.toList.drop 185 = dktX11_goes_8 := dk_seg dksX11_goes_7 22 rfl rfl
theorem dksX11_goes_9 : cX11_goes.data.toList.drop 208 = dktX11_goes_9 := dk_seg dksX11_goes_8 23 rfl rfl
theorem dksX11_goes_10 : cX11_goes.data.toList.drop 230 = dktX11_goes_10 := dk_seg dksX11_goes_9 22 rfl rfl
theorem dksX11_goes_11 : cX11_goes.data.toList.drop 253 = dktX11_goes_11 := dk_seg dksX11_goes_10 23 rfl rfl
theorem dksX11_goes_12 : cX11_goes.data.toList.drop 277 = dktX11_goes_12 := dk_seg dksX11_goes_11 24 rfl rfl
theorem dksX11_goes_13 : cX11_goes.data.toList.drop 300 = dktX11_goes_13 := dk_seg dksX11_goes_12 23 rfl rfl
theorem dksX11_goes_14 : cX11_goes.data.toList.drop 322 = dktX11_goes_14 := dk_seg dksX11_goes_13 22 rfl rfl
theorem dksX11_goes_15 : cX11_goes.data.toList.drop 344 = dktX11_goes_15 := dk_seg dksX11_goes_14 22 rfl rfl
theorem dX11_goes_0 : decode cX11_goes 0 = .ok (.aload_n 0, 1) := dk_42 (dk_at dksX11_goes_0 0 rfl rfl)
theorem dX11_goes_1 : decode cX11_goes 1 = .ok (.iload_n 1, 1) := dk_27 (dk_at dksX11_goes_0 1 rfl rfl)
theorem dX11_goes_2 : decode cX11_goes 2 = .ok (.invokevirtual 369, 3) := dk_182 1 113 (dk_at dksX11_goes_0 2 rfl rfl)
theorem dX11_goes_5 : decode cX11_goes 5 = .ok (.aload_n 0, 1) := dk_42 (dk_at dksX11_goes_0 5 rfl rfl)
theorem dX11_goes_6 : decode cX11_goes 6 = .ok (.iconst 0, 1) := dk_3 (dk_at dksX11_goes_0 6 rfl rfl)
theorem dX11_goes_7 : decode cX11_goes 7 = .ok (.putfield 372, 3) := dk_181 1 116 (dk_at dksX11_goes_0 7 rfl rfl)
theorem dX11_goes_10 : decode cX11_goes 10 = .ok (.aload_n 0, 1) := dk_42 (dk_at dksX11_goes_0 10 rfl rfl)
theorem dX11_goes_11 : decode cX11_goes 11 = .ok (.getfield 87, 3) := dk_180 0 87 (dk_at dksX11_goes_0 11 rfl rfl)
theorem dX11_goes_14 : decode cX11_goes 14 = .ok (.iload_n 2, 1) := dk_28 (dk_at dksX11_goes_0 14 rfl rfl)
theorem dX11_goes_15 : decode cX11_goes 15 = .ok (.iaload, 1) := dk_46 (dk_at dksX11_goes_0 15 rfl rfl)
theorem dX11_goes_16 : decode cX11_goes 16 = .ok (.ifCond .le 7, 3) := dk_158 0 7 (dk_at dksX11_goes_0 16 rfl rfl)
theorem dX11_goes_19 : decode cX11_goes 19 = .ok (.iconst 1, 1) := dk_4 (dk_at dksX11_goes_0 19 rfl rfl)
theorem dX11_goes_20 : decode cX11_goes 20 = .ok (.goto 4, 3) := dk_167 0 4 (dk_at dksX11_goes_0 20 rfl rfl)
theorem dX11_goes_23 : decode cX11_goes 23 = .ok (.iconst 0, 1) := dk_3 (dk_at dksX11_goes_0 23 rfl rfl)
theorem dX11_goes_24 : decode cX11_goes 24 = .ok (.istore_n 3, 1) := dk_62 (dk_at dksX11_goes_1 0 rfl rfl)
theorem dX11_goes_25 : decode cX11_goes 25 = .ok (.iload_n 3, 1) := dk_29 (dk_at dksX11_goes_1 1 rfl rfl)
theorem dX11_goes_26 : decode cX11_goes 26 = .ok (.ifCond .eq 50, 3) := dk_153 0 50 (dk_at dksX11_goes_1 2 rfl rfl)
theorem dX11_goes_29 : decode cX11_goes 29 = .ok (.aload_n 0, 1) := dk_42 (dk_at dksX11_goes_1 5 rfl rfl)
theorem dX11_goes_30 : decode cX11_goes 30 = .ok (.getfield 84, 3) := dk_180 0 84 (dk_at dksX11_goes_1 6 rfl rfl)
theorem dX11_goes_33 : decode cX11_goes 33 = .ok (.iload_n 2, 1) := dk_28 (dk_at dksX11_goes_1 9 rfl rfl)
theorem dX11_goes_34 : decode cX11_goes 34 = .ok (.dup2, 1) := dk_92 (dk_at dksX11_goes_1 10 rfl rfl)
theorem dX11_goes_35 : decode cX11_goes 35 = .ok (.iaload, 1) := dk_46 (dk_at dksX11_goes_1 11 rfl rfl)
theorem dX11_goes_36 : decode cX11_goes 36 = .ok (.aload_n 0, 1) := dk_42 (dk_at dksX11_goes_1 12 rfl rfl)
theorem dX11_goes_37 : decode cX11_goes 37 = .ok (.getfield 87, 3) := dk_180 0 87 (dk_at dksX11_goes_1 13 rfl rfl)
theorem dX11_goes_40 : decode cX11_goes 40 = .ok (.iload_n 2, 1) := dk_28 (dk_at dksX11_goes_1 16 rfl rfl)
theorem dX11_goes_41 : decode cX11_goes 41 = .ok (.iaload, 1) := dk_46 (dk_at dksX11_goes_1 17 rfl rfl)
theorem dX11_goes_42 : decode cX11_goes 42 = .ok (.iadd, 1) := dk_96 (dk_at dksX11_goes_1 18 rfl rfl)
theorem dX11_goes_43 : decode cX11_goes 43 = .ok (.iastore, 1) := dk_79 (dk_at dksX11_goes_1 19 rfl rfl)
theorem dX11_goes_44 : decode cX11_goes 44 = .ok (.aload_n 0, 1) := dk_42 (dk_at dksX11_goes_1 20 rfl rfl)
theorem dX11_goes_45 : decode cX11_goes 45 = .ok (.getfield 87, 3) := dk_180 0 87 (dk_at dksX11_goes_1 21 rfl rfl)
theorem dX11_goes_48 : decode cX11_goes 48 = .ok (.iload_n 2, 1) := dk_28 (dk_at dksX11_goes_2 0 rfl rfl)
theorem dX11_goes_49 : decode cX11_goes 49 = .ok (.iconst 0, 1) := dk_3 (dk_at dksX11_goes_2 1 rfl rfl)
theorem dX11_goes_50 : decode cX11_goes 50 = .ok (.iastore, 1) := dk_79 (dk_at dksX11_goes_2 2 rfl rfl)
theorem dX11_goes_51 : decode cX11_goes 51 = .ok (.aload_n 0, 1) := dk_42 (dk_at dksX11_goes_2 3 rfl rfl)
theorem dX11_goes_52 : decode cX11_goes 52 = .ok (.iconst 0, 1) := dk_3 (dk_at dksX11_goes_2 4 rfl rfl)
theorem dX11_goes_53 : decode cX11_goes 53 = .ok (.putfield 358, 3) := dk_181 1 102 (dk_at dksX11_goes_2 5 rfl rfl)
theorem dX11_goes_56 : decode cX11_goes 56 = .ok (.aload_n 0, 1) := dk_42 (dk_at dksX11_goes_2 8 rfl rfl)
theorem dX11_goes_57 : decode cX11_goes 57 = .ok (.dup, 1) := dk_89 (dk_at dksX11_goes_2 9 rfl rfl)
theorem dX11_goes_58 : decode cX11_goes 58 = .ok (.getfield 372, 3) := dk_180 1 116 (dk_at dksX11_goes_2 10 rfl rfl)
theorem dX11_goes_61 : decode cX11_goes 61 = .ok (.aload_n 0, 1) := dk_42 (dk_at dksX11_goes_2 13 rfl rfl)
theorem dX11_goes_62 : decode cX11_goes 62 = .ok (.getfield 84, 3) := dk_180 0 84 (dk_at dksX11_goes_2 14 rfl rfl)
theorem dX11_goes_65 : decode cX11_goes 65 = .ok (.iload_n 2, 1) := dk_28 (dk_at dksX11_goes_2 17 rfl rfl)
theorem dX11_goes_66 : decode cX11_goes 66 = .ok (.invokestatic 365, 3) := dk_184 1 109 (dk_at dksX11_goes_2 18 rfl rfl)
theorem dX11_goes_69 : decode cX11_goes 69 = .ok (.iadd, 1) := dk_96 (dk_at dksX11_goes_2 21 rfl rfl)
theorem dX11_goes_70 : decode cX11_goes 70 = .ok (.putfield 372, 3) := dk_181 1 116 (dk_at dksX11_goes_3 0 rfl rfl)
theorem dX11_goes_73 : decode cX11_goes 73 = .ok (.goto 110, 3) := dk_167 0 110 (dk_at dksX11_goes_3 3 rfl rfl)
theorem dX11_goes_76 : decode cX11_goes 76 = .ok (.aload_n 0, 1) := dk_42 (dk_at dksX11_goes_3 6 rfl rfl)
theorem dX11_goes_77 : decode cX11_goes 77 = .ok (.getfield 355, 3) := dk_180 1 99 (dk_at dksX11_goes_3 7 rfl rfl)
theorem dX11_goes_80 : decode cX11_goes 80 = .ok (.aload_n 0, 1) := dk_42 (dk_at dksX11_goes_3 10 rfl rfl)
theorem dX11_goes_81 : decode cX11_goes 81 = .ok (.getfield 33, 3) := dk_180 0 33 (dk_at dksX11_goes_3 11 rfl rfl)
theorem dX11_goes_84 : decode cX11_goes 84 = .ok (.bipush 7, 2) := dk_16 7 (dk_at dksX11_goes_3 14 rfl rfl)
theorem dX11_goes_86 : decode cX11_goes 86 = .ok (.iaload, 1) := dk_46 (dk_at dksX11_goes_3 16 rfl rfl)
theorem dX11_goes_87 : decode cX11_goes 87 = .ok (.if_icmp .ge 86, 3) := dk_162 0 86 (dk_at dksX11_goes_3 17 rfl rfl)
theorem dX11_goes_90 : decode cX11_goes 90 = .ok (.aload_n 0, 1) := dk_42 (dk_at dksX11_goes_3 20 rfl rfl)
theorem dX11_goes_91 : decode cX11_goes 91 = .ok (.getfield 33, 3) := dk_180 0 33 (dk_at dksX11_goes_3 21 rfl rfl)
theorem dX11_goes_94 : decode cX11_goes 94 = .ok (.bipush 8, 2) := dk_16 8 (dk_at dksX11_goes_4 0 rfl rfl)
theorem dX11_goes_96 : decode cX11_goes 96 = .ok (.aload_n 0, 1) := dk_42 (dk_at dksX11_goes_4 2 rfl rfl)
theorem dX11_goes_97 : decode cX11_goes 97 = .ok (.getfield 355, 3) := dk_180 1 99 (dk_at dksX11_goes_4 3 rfl rfl)
theorem dX11_goes_100 : decode cX11_goes 100 = .ok (.iadd, 1) := dk_96 (dk_at dksX11_goes_4 6 rfl rfl)
theorem dX11_goes_101 : decode cX11_goes 101 = .ok (.iaload, 1) := dk_46 (dk_at dksX11_goes_4 7 rfl rfl)
theorem dX11_goes_102 : decode cX11_goes 102 = .ok (.istore 4, 2) := dk_54 4 (dk_at dksX11_goes_4 8 rfl rfl)
theorem dX11_goes_104 : decode cX11_goes 104 = .ok (.aload_n 0, 1) := dk_42 (dk_at dksX11_goes_4 10 rfl rfl)
theorem dX11_goes_105 : decode cX11_goes 105 = .ok (.dup, 1) := dk_89 (dk_at dksX11_goes_4 11 rfl rfl)
theorem dX11_goes_106 : decode cX11_goes 106 = .ok (.getfield 355, 3) := dk_180 1 99 (dk_at dksX11_goes_4 12 rfl rfl)
theorem dX11_goes_109 : decode cX11_goes 109 = .ok (.iconst 1, 1) := dk_4 (dk_at dksX11_goes_4 15 rfl rfl)
theorem dX11_goes_110 : decode cX11_goes 110 = .ok (.iadd, 1) := dk_96 (dk_at dksX11_goes_4 16 rfl rfl)
theorem dX11_goes_111 : decode cX11_goes 111 = .ok (.putfield 355, 3) := dk_181 1 99 (dk_at dksX11_goes_4 17 rfl rfl)
theorem dX11_goes_114 : decode cX11_goes 114 = .ok (.aload_n 0, 1) := dk_42 (dk_at dksX11_goes_4 20 rfl rfl)
theorem dX11_goes_115 : decode cX11_goes 115 = .ok (.iconst 0, 1) := dk_3 (dk_at dksX11_goes_4 21 rfl rfl)
theorem dX11_goes_116 : decode cX11_goes 116 = .ok (.putfield 358, 3) := dk_181 1 102 (dk_at dksX11_goes_5 0 rfl rfl)
theorem dX11_goes_119 : decode cX11_goes 119 = .ok (.aload_n 0, 1) := dk_42 (dk_at dksX11_goes_5 3 rfl rfl)
theorem dX11_goes_120 : decode cX11_goes 120 = .ok (.getfield 33, 3) := dk_180 0 33 (dk_at dksX11_goes_5 4 rfl rfl)
theorem dX11_goes_123 : decode cX11_goes 123 = .ok (.iconst 2, 1) := dk_5 (dk_at dksX11_goes_5 7 rfl rfl)
theorem dX11_goes_124 : decode cX11_goes 124 = .ok (.iaload, 1) := dk_46 (dk_at dksX11_goes_5 8 rfl rfl)
theorem dX11_goes_125 : decode cX11_goes 125 = .ok (.iconst 1, 1) := dk_4 (dk_at dksX11_goes_5 9 rfl rfl)
theorem dX11_goes_126 : decode cX11_goes 126 = .ok (.if_icmp .ne 13, 3) := dk_160 0 13 (dk_at dksX11_goes_5 10 rfl rfl)
theorem dX11_goes_129 : decode cX11_goes 129 = .ok (.iload 4, 2) := dk_21 4 (dk_at dksX11_goes_5 13 rfl rfl)
theorem dX11_goes_131 : decode cX11_goes 131 = .ok (.iload_n 2, 1) := dk_28 (dk_at dksX11_goes_5 15 rfl rfl)
theorem dX11_goes_132 : decode cX11_goes 132 = .ok (.if_icmp .ne 7, 3) := dk_160 0 7 (dk_at dksX11_goes_5 16 rfl rfl)
theorem dX11_goes_135 : decode cX11_goes 135 = .ok (.iconst 1, 1) := dk_4 (dk_at dksX11_goes_5 19 rfl rfl)
theorem dX11_goes_136 : decode cX11_goes 136 = .ok (.goto 4, 3) := dk_167 0 4 (dk_at dksX11_goes_5 20 rfl rfl)
theorem dX11_goes_139 : decode cX11_goes 139 = .ok (.iconst 0, 1) := dk_3 (dk_at dksX11_goes_5 23 rfl rfl)
theorem dX11_goes_140 : decode cX11_goes 140 = .ok (.istore_n 3, 1) := dk_62 (dk_at dksX11_goes_6 0 rfl rfl)
theorem dX11_goes_141 : decode cX11_goes 141 = .ok (.aload_n 0, 1) := dk_42 (dk_at dksX11_goes_6 1 rfl rfl)
theorem dX11_goes_142 : decode cX11_goes 142 = .ok (.getfield 84, 3) := dk_180 0 84 (dk_at dksX11_goes_6 2 rfl rfl)
theorem dX11_goes_145 : decode cX11_goes 145 = .ok (.iload 4, 2) := dk_21 4 (dk_at dksX11_goes_6 5 rfl rfl)
theorem dX11_goes_147 : decode cX11_goes 147 = .ok (.dup2, 1) := dk_92 (dk_at dksX11_goes_6 7 rfl rfl)
theorem dX11_goes_148 : decode cX11_goes 148 = .ok (.iaload, 1) := dk_46 (dk_at dksX11_goes_6 8 rfl rfl)
theorem dX11_goes_149 : decode cX11_goes 149 = .ok (.iconst 1, 1) := dk_4 (dk_at dksX11_goes_6 9 rfl rfl)
theorem dX11_goes_150 : decode cX11_goes 150 = .ok (.iadd, 1) := dk_96 (dk_at dksX11_goes_6 10 rfl rfl)
theorem dX11_goes_151 : decode cX11_goes 151 = .ok (.iastore, 1) := dk_79 (dk_at dksX11_goes_6 11 rfl rfl)
theorem dX11_goes_152 : decode cX11_goes 152 = .ok (.aload_n 0, 1) := dk_42 (dk_at dksX11_goes_6 12 rfl rfl)
theorem dX11_goes_153 : decode cX11_goes 153 = .ok (.dup, 1) := dk_89 (dk_at dksX11_goes_6 13 rfl rfl)
theorem dX11_goes_154 : decode cX11_goes 154 = .ok (.getfield 372, 3) := dk_180 1 116 (dk_at dksX11_goes_6 14 rfl rfl)
theorem dX11_goes_157 : decode cX11_goes 157 = .ok (.aload_n 0, 1) := dk_42 (dk_at dksX11_goes_6 17 rfl rfl)
theorem dX11_goes_158 : decode cX11_goes 158 = .ok (.getfield 84, 3) := dk_180 0 84 (dk_at dksX11_goes_6 18 rfl rfl)
theorem dX11_goes_161 : decode cX11_goes 161 = .ok (.iload 4, 2) := dk_21 4 (dk_at dksX11_goes_6 21 rfl rfl)
theorem dX11_goes_163 : decode cX11_goes 163 = .ok (.invokestatic 365, 3) := dk_184 1 109 (dk_at dksX11_goes_7 0 rfl rfl)
theorem dX11_goes_166 : decode cX11_goes 166 = .ok (.iadd, 1) := dk_96 (dk_at dksX11_goes_7 3 rfl rfl)
theorem dX11_goes_167 : decode cX11_goes 167 = .ok (.putfield 372, 3) := dk_181 1 116 (dk_at dksX11_goes_7 4 rfl rfl)
theorem dX11_goes_170 : decode cX11_goes 170 = .ok (.goto 13, 3) := dk_167 0 13 (dk_at dksX11_goes_7 7 rfl rfl)
theorem dX11_goes_173 : decode cX11_goes 173 = .ok (.aload_n 0, 1) := dk_42 (dk_at dksX11_goes_7 10 rfl rfl)
theorem dX11_goes_174 : decode cX11_goes 174 = .ok (.dup, 1) := dk_89 (dk_at dksX11_goes_7 11 rfl rfl)
theorem dX11_goes_175 : decode cX11_goes 175 = .ok (.getfield 358, 3) := dk_180 1 102 (dk_at dksX11_goes_7 12 rfl rfl)
theorem dX11_goes_178 : decode cX11_goes 178 = .ok (.iconst 1, 1) := dk_4 (dk_at dksX11_goes_7 15 rfl rfl)
theorem dX11_goes_179 : decode cX11_goes 179 = .ok (.iadd, 1) := dk_96 (dk_at dksX11_goes_7 16 rfl rfl)
theorem dX11_goes_180 : decode cX11_goes 180 = .ok (.putfield 358, 3) := dk_181 1 102 (dk_at dksX11_goes_7 17 rfl rfl)
theorem dX11_goes_183 : decode cX11_goes 183 = .ok (.aload_n 0, 1) := dk_42 (dk_at dksX11_goes_7 20 rfl rfl)
theorem dX11_goes_184 : decode cX11_goes 184 = .ok (.iconst (-1), 1) := dk_2 (dk_at dksX11_goes_7 21 rfl rfl)
theorem dX11_goes_185 : decode cX11_goes 185 = .ok (.putfield 375, 3) := dk_181 1 119 (dk_at dksX11_goes_8 0 rfl rfl)
theorem dX11_goes_188 : decode cX11_goes 188 = .ok (.aload_n 0, 1) := dk_42 (dk_at dksX11_goes_8 3 rfl rfl)
theorem dX11_goes_189 : decode cX11_goes 189 = .ok (.iconst 1, 1) := dk_4 (dk_at dksX11_goes_8 4 rfl rfl)
theorem dX11_goes_190 : decode cX11_goes 190 = .ok (.putfield 378, 3) := dk_181 1 122 (dk_at dksX11_goes_8 5 rfl rfl)
theorem dX11_goes_193 : decode cX11_goes 193 = .ok (.aload_n 0, 1) := dk_42 (dk_at dksX11_goes_8 8 rfl rfl)
theorem dX11_goes_194 : decode cX11_goes 194 = .ok (.getfield 358, 3) := dk_180 1 102 (dk_at dksX11_goes_8 9 rfl rfl)
theorem dX11_goes_197 : decode cX11_goes 197 = .ok (.iconst 2, 1) := dk_5 (dk_at dksX11_goes_8 12 rfl rfl)
theorem dX11_goes_198 : decode cX11_goes 198 = .ok (.if_icmp .ne 4, 3) := dk_160 0 4 (dk_at dksX11_goes_8 13 rfl rfl)
theorem dX11_goes_201 : decode cX11_goes 201 = .ok (.return_, 1) := dk_177 (dk_at dksX11_goes_8 16 rfl rfl)
theorem dX11_goes_202 : decode cX11_goes 202 = .ok (.iload_n 3, 1) := dk_29 (dk_at dksX11_goes_8 17 rfl rfl)
theorem dX11_goes_203 : decode cX11_goes 203 = .ok (.ifCond .eq 60, 3) := dk_153 0 60 (dk_at dksX11_goes_8 18 rfl rfl)
theorem dX11_goes_206 : decode cX11_goes 206 = .ok (.aload_n 0, 1) := dk_42 (dk_at dksX11_goes_8 21 rfl rfl)
theorem dX11_goes_207 : decode cX11_goes 207 = .ok (.dup, 1) := dk_89 (dk_at dksX11_goes_8 22 rfl rfl)
theorem dX11_goes_208 : decode cX11_goes 208 = .ok (.getfield 372, 3) := dk_180 1 116 (dk_at dksX11_goes_9 0 rfl rfl)
theorem dX11_goes_211 : decode cX11_goes 211 = .ok (.aload_n 0, 1) := dk_42 (dk_at dksX11_goes_9 3 rfl rfl)
theorem dX11_goes_212 : decode cX11_goes 212 = .ok (.aload_n 0, 1) := dk_42 (dk_at dksX11_goes_9 4 rfl rfl)
theorem dX11_goes_213 : decode cX11_goes 213 = .ok (.getfield 84, 3) := dk_180 0 84 (dk_at dksX11_goes_9 5 rfl rfl)
theorem dX11_goes_216 : decode cX11_goes 216 = .ok (.invokevirtual 381, 3) := dk_182 1 125 (dk_at dksX11_goes_9 8 rfl rfl)
theorem dX11_goes_219 : decode cX11_goes 219 = .ok (.iadd, 1) := dk_96 (dk_at dksX11_goes_9 11 rfl rfl)
theorem dX11_goes_220 : decode cX11_goes 220 = .ok (.putfield 372, 3) := dk_181 1 116 (dk_at dksX11_goes_9 12 rfl rfl)
theorem dX11_goes_223 : decode cX11_goes 223 = .ok (.aload_n 0, 1) := dk_42 (dk_at dksX11_goes_9 15 rfl rfl)
theorem dX11_goes_224 : decode cX11_goes 224 = .ok (.getfield 84, 3) := dk_180 0 84 (dk_at dksX11_goes_9 16 rfl rfl)
theorem dX11_goes_227 : decode cX11_goes 227 = .ok (.invokestatic 361, 3) := dk_184 1 105 (dk_at dksX11_goes_9 19 rfl rfl)
theorem dX11_goes_230 : decode cX11_goes 230 = .ok (.ifCond .ne 90, 3) := dk_154 0 90 (dk_at dksX11_goes_10 0 rfl rfl)
theorem dX11_goes_233 : decode cX11_goes 233 = .ok (.aload_n 0, 1) := dk_42 (dk_at dksX11_goes_10 3 rfl rfl)
theorem dX11_goes_234 : decode cX11_goes 234 = .ok (.dup, 1) := dk_89 (dk_at dksX11_goes_10 4 rfl rfl)
theorem dX11_goes_235 : decode cX11_goes 235 = .ok (.getfield 372, 3) := dk_180 1 116 (dk_at dksX11_goes_10 5 rfl rfl)
theorem dX11_goes_238 : decode cX11_goes 238 = .ok (.aload_n 0, 1) := dk_42 (dk_at dksX11_goes_10 8 rfl rfl)
theorem dX11_goes_239 : decode cX11_goes 239 = .ok (.aload_n 0, 1) := dk_42 (dk_at dksX11_goes_10 9 rfl rfl)
theorem dX11_goes_240 : decode cX11_goes 240 = .ok (.getfield 87, 3) := dk_180 0 87 (dk_at dksX11_goes_10 10 rfl rfl)
theorem dX11_goes_243 : decode cX11_goes 243 = .ok (.invokevirtual 381, 3) := dk_182 1 125 (dk_at dksX11_goes_10 13 rfl rfl)
theorem dX11_goes_246 : decode cX11_goes 246 = .ok (.isub, 1) := dk_100 (dk_at dksX11_goes_10 16 rfl rfl)
theorem dX11_goes_247 : decode cX11_goes 247 = .ok (.putfield 372, 3) := dk_181 1 116 (dk_at dksX11_goes_10 17 rfl rfl)
theorem dX11_goes_250 : decode cX11_goes 250 = .ok (.iconst 0, 1) := dk_3 (dk_at dksX11_goes_10 20 rfl rfl)
theorem dX11_goes_251 : decode cX11_goes 251 = .ok (.istore_n 3, 1) := dk_62 (dk_at dksX11_goes_10 21 rfl rfl)
theorem dX11_goes_252 : decode cX11_goes 252 = .ok (.aload_n 0, 1) := dk_42 (dk_at dksX11_goes_10 22 rfl rfl)
theorem dX11_goes_253 : decode cX11_goes 253 = .ok (.getfield 87, 3) := dk_180 0 87 (dk_at dksX11_goes_11 0 rfl rfl)
theorem dX11_goes_256 : decode cX11_goes 256 = .ok (.invokestatic 361, 3) := dk_184 1 105 (dk_at dksX11_goes_11 3 rfl rfl)
theorem dX11_goes_259 : decode cX11_goes 259 = .ok (.ifCond .ne 61, 3) := dk_154 0 61 (dk_at dksX11_goes_11 6 rfl rfl)
theorem dX11_goes_262 : decode cX11_goes 262 = .ok (.return_, 1) := dk_177 (dk_at dksX11_goes_11 9 rfl rfl)
theorem dX11_goes_263 : decode cX11_goes 263 = .ok (.aload_n 0, 1) := dk_42 (dk_at dksX11_goes_11 10 rfl rfl)
theorem dX11_goes_264 : decode cX11_goes 264 = .ok (.dup, 1) := dk_89 (dk_at dksX11_goes_11 11 rfl rfl)
theorem dX11_goes_265 : decode cX11_goes 265 = .ok (.getfield 372, 3) := dk_180 1 116 (dk_at dksX11_goes_11 12 rfl rfl)
theorem dX11_goes_268 : decode cX11_goes 268 = .ok (.aload_n 0, 1) := dk_42 (dk_at dksX11_goes_11 15 rfl rfl)
theorem dX11_goes_269 : decode cX11_goes 269 = .ok (.aload_n 0, 1) := dk_42 (dk_at dksX11_goes_11 16 rfl rfl)
theorem dX11_goes_270 : decode cX11_goes 270 = .ok (.getfield 87, 3) := dk_180 0 87 (dk_at dksX11_goes_11 17 rfl rfl)
theorem dX11_goes_273 : decode cX11_goes 273 = .ok (.invokevirtual 381, 3) := dk_182 1 125 (dk_at dksX11_goes_11 20 rfl rfl)
theorem dX11_goes_276 : decode cX11_goes 276 = .ok (.isub, 1) := dk_100 (dk_at dksX11_goes_11 23 rfl rfl)
theorem dX11_goes_277 : decode cX11_goes 277 = .ok (.putfield 372, 3) := dk_181 1 116 (dk_at dksX11_goes_12 0 rfl rfl)
theorem dX11_goes_280 : decode cX11_goes 280 = .ok (.aload_n 0, 1) := dk_42 (dk_at dksX11_goes_12 3 rfl rfl)
theorem dX11_goes_281 : decode cX11_goes 281 = .ok (.getfield 87, 3) := dk_180 0 87 (dk_at dksX11_goes_12 4 rfl rfl)
theorem dX11_goes_284 : decode cX11_goes 284 = .ok (.invokestatic 361, 3) := dk_184 1 105 (dk_at dksX11_goes_12 7 rfl rfl)
theorem dX11_goes_287 : decode cX11_goes 287 = .ok (.ifCond .ne 33, 3) := dk_154 0 33 (dk_at dksX11_goes_12 10 rfl rfl)
theorem dX11_goes_290 : decode cX11_goes 290 = .ok (.aload_n 0, 1) := dk_42 (dk_at dksX11_goes_12 13 rfl rfl)
theorem dX11_goes_291 : decode cX11_goes 291 = .ok (.dup, 1) := dk_89 (dk_at dksX11_goes_12 14 rfl rfl)
theorem dX11_goes_292 : decode cX11_goes 292 = .ok (.getfield 372, 3) := dk_180 1 116 (dk_at dksX11_goes_12 15 rfl rfl)
theorem dX11_goes_295 : decode cX11_goes 295 = .ok (.aload_n 0, 1) := dk_42 (dk_at dksX11_goes_12 18 rfl rfl)
theorem dX11_goes_296 : decode cX11_goes 296 = .ok (.aload_n 0, 1) := dk_42 (dk_at dksX11_goes_12 19 rfl rfl)
theorem dX11_goes_297 : decode cX11_goes 297 = .ok (.getfield 84, 3) := dk_180 0 84 (dk_at dksX11_goes_12 20 rfl rfl)
theorem dX11_goes_300 : decode cX11_goes 300 = .ok (.invokevirtual 381, 3) := dk_182 1 125 (dk_at dksX11_goes_13 0 rfl rfl)
theorem dX11_goes_303 : decode cX11_goes 303 = .ok (.iadd, 1) := dk_96 (dk_at dksX11_goes_13 3 rfl rfl)
theorem dX11_goes_304 : decode cX11_goes 304 = .ok (.putfield 372, 3) := dk_181 1 116 (dk_at dksX11_goes_13 4 rfl rfl)
theorem dX11_goes_307 : decode cX11_goes 307 = .ok (.iconst 1, 1) := dk_4 (dk_at dksX11_goes_13 7 rfl rfl)
theorem dX11_goes_308 : decode cX11_goes 308 = .ok (.istore_n 3, 1) := dk_62 (dk_at dksX11_goes_13 8 rfl rfl)
theorem dX11_goes_309 : decode cX11_goes 309 = .ok (.aload_n 0, 1) := dk_42 (dk_at dksX11_goes_13 9 rfl rfl)
theorem dX11_goes_310 : decode cX11_goes 310 = .ok (.getfield 84, 3) := dk_180 0 84 (dk_at dksX11_goes_13 10 rfl rfl)
theorem dX11_goes_313 : decode cX11_goes 313 = .ok (.invokestatic 361, 3) := dk_184 1 105 (dk_at dksX11_goes_13 13 rfl rfl)
theorem dX11_goes_316 : decode cX11_goes 316 = .ok (.ifCond .ne 4, 3) := dk_154 0 4 (dk_at dksX11_goes_13 16 rfl rfl)
theorem dX11_goes_319 : decode cX11_goes 319 = .ok (.return_, 1) := dk_177 (dk_at dksX11_goes_13 19 rfl rfl)
theorem dX11_goes_320 : decode cX11_goes 320 = .ok (.aload_n 0, 1) := dk_42 (dk_at dksX11_goes_13 20 rfl rfl)
theorem dX11_goes_321 : decode cX11_goes 321 = .ok (.iload_n 3, 1) := dk_29 (dk_at dksX11_goes_13 21 rfl rfl)
theorem dX11_goes_322 : decode cX11_goes 322 = .ok (.ifCond .eq 7, 3) := dk_153 0 7 (dk_at dksX11_goes_14 0 rfl rfl)
theorem dX11_goes_325 : decode cX11_goes 325 = .ok (.iconst 1, 1) := dk_4 (dk_at dksX11_goes_14 3 rfl rfl)
theorem dX11_goes_326 : decode cX11_goes 326 = .ok (.goto 4, 3) := dk_167 0 4 (dk_at dksX11_goes_14 4 rfl rfl)
theorem dX11_goes_329 : decode cX11_goes 329 = .ok (.iconst (-1), 1) := dk_2 (dk_at dksX11_goes_14 7 rfl rfl)
theorem dX11_goes_330 : decode cX11_goes 330 = .ok (.putfield 378, 3) := dk_181 1 122 (dk_at dksX11_goes_14 8 rfl rfl)
theorem dX11_goes_333 : decode cX11_goes 333 = .ok (.aload_n 0, 1) := dk_42 (dk_at dksX11_goes_14 11 rfl rfl)
theorem dX11_goes_334 : decode cX11_goes 334 = .ok (.aload_n 0, 1) := dk_42 (dk_at dksX11_goes_14 12 rfl rfl)
theorem dX11_goes_335 : decode cX11_goes 335 = .ok (.iload_n 3, 1) := dk_29 (dk_at dksX11_goes_14 13 rfl rfl)
theorem dX11_goes_336 : decode cX11_goes 336 = .ok (.ifCond .ne 7, 3) := dk_154 0 7 (dk_at dksX11_goes_14 14 rfl rfl)
theorem dX11_goes_339 : decode cX11_goes 339 = .ok (.iconst 1, 1) := dk_4 (dk_at dksX11_goes_14 17 rfl rfl)
theorem dX11_goes_340 : decode cX11_goes 340 = .ok (.goto 4, 3) := dk_167 0 4 (dk_at dksX11_goes_14 18 rfl rfl)
theorem dX11_goes_343 : decode cX11_goes 343 = .ok (.iconst 0, 1) := dk_3 (dk_at dksX11_goes_14 21 rfl rfl)
theorem dX11_goes_344 : decode cX11_goes 344 = .ok (.invokevirtual 384, 3) := dk_182 1 128 (dk_at dksX11_goes_15 0 rfl rfl)
theorem dX11_goes_347 : decode cX11_goes 347 = .ok (.putfield 375, 3) := dk_181 1 119 (dk_at dksX11_goes_15 3 rfl rfl)
theorem dX11_goes_350 : decode cX11_goes 350 = .ok (.return_, 1) := dk_177 (dk_at dksX11_goes_15 6 rfl rfl)
