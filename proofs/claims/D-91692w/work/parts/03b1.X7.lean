set_option maxRecDepth 100000
abbrev cX7_readText : ByteArray := prog_33_method_44_code
def yX7_readText : MethodName := ⟨RX7, "readText", "()Z"⟩
def dkwX7_readText_8 : List UInt8 := [154, 0, 7, 4, 167, 0, 4, 3, 172]
abbrev dktX7_readText_8 : List UInt8 := dkwX7_readText_8 ++ []
def dkwX7_readText_7 : List UInt8 := [42, 180, 1, 19, 158, 0, 10, 42, 180, 1, 22, 167, 0, 4, 2, 79, 42, 180, 0, 17, 3, 46]
abbrev dktX7_readText_7 : List UInt8 := dkwX7_readText_7 ++ dktX7_readText_8
def dkwX7_readText_6 : List UInt8 := [167, 0, 7, 42, 180, 1, 19, 79, 42, 180, 0, 20, 3, 27, 154, 0, 10, 42, 180, 1, 16, 167, 0, 18]
abbrev dktX7_readText_6 : List UInt8 := dkwX7_readText_6 ++ dktX7_readText_7
def dkwX7_readText_5 : List UInt8 := [153, 0, 13, 42, 42, 180, 0, 211, 181, 1, 16, 3, 60, 42, 180, 0, 17, 3, 27, 154, 0, 7, 4]
abbrev dktX7_readText_5 : List UInt8 := dkwX7_readText_5 ++ dktX7_readText_6
def dkwX7_readText_4 : List UInt8 := [42, 180, 0, 96, 42, 180, 1, 42, 46, 182, 1, 73, 60, 167, 255, 221, 27, 153, 0, 20, 42, 180, 0, 221]
abbrev dktX7_readText_4 : List UInt8 := dkwX7_readText_4 ++ dktX7_readText_5
def dkwX7_readText_3 : List UInt8 := [4, 60, 27, 153, 0, 37, 42, 180, 1, 42, 158, 0, 30, 42, 89, 180, 1, 42, 4, 100, 181, 1, 42, 42]
abbrev dktX7_readText_3 : List UInt8 := dkwX7_readText_3 ++ dktX7_readText_4
def dkwX7_readText_2 : List UInt8 := [181, 1, 22, 42, 3, 181, 1, 42, 42, 3, 181, 1, 57, 42, 17, 0, 255, 182, 1, 48, 42, 182, 1, 39]
abbrev dktX7_readText_2 : List UInt8 := dkwX7_readText_2 ++ dktX7_readText_3
def dkwX7_readText_1 : List UInt8 := [42, 180, 0, 20, 3, 2, 79, 42, 3, 181, 0, 202, 42, 2, 181, 1, 16, 42, 3, 181, 1, 19, 42, 3]
abbrev dktX7_readText_1 : List UInt8 := dkwX7_readText_1 ++ dktX7_readText_2
def dkwX7_readText_0 : List UInt8 := [42, 42, 180, 0, 13, 3, 46, 181, 0, 205, 42, 180, 0, 13, 3, 3, 79, 42, 180, 0, 17, 3, 3, 79]
abbrev dktX7_readText_0 : List UInt8 := dkwX7_readText_0 ++ dktX7_readText_1
theorem dksX7_readText_0 : cX7_readText.data.toList.drop 0 = dktX7_readText_0 := by decide +kernel
theorem dksX7_readText_1 : cX7_readText.data.toList.drop 24 = dktX7_readText_1 := dk_seg dksX7_readText_0 24 rfl rfl
theorem dksX7_readText_2 : cX7_readText.data.toList.drop 48 = dktX7_readText_2 := dk_seg dksX7_readText_1 24 rfl rfl
theorem dksX7_readText_3 : cX7_readText.data.toList.drop 72 = dktX7_readText_3 := dk_seg dksX7_readText_2 24 rfl rfl
theorem dksX7_readText_4 : cX7_readText.data.toList.drop 96 = dktX7_readText_4 := dk_seg dksX7_readText_3 24 rfl rfl
theorem dksX7_readText_5 : cX7_readText.data.toList.drop 120 = dktX7_readText_5 := dk_seg dksX7_readText_4 24 rfl rfl
theorem dksX7_readText_6 : cX7_readText.data.toList.drop 143 = dktX7_readText_6 := dk_seg dksX7_readText_5 23 rfl rfl
theorem dksX7_readText_7 : cX7_readText.data.toList.drop 167 = dktX7_readText_7 := dk_seg dksX7_readText_6 24 rfl rfl
theorem dksX7_readText_8 : cX7_readText.data.toList.drop 189 = dktX7_readText_8 := dk_seg dksX7_readText_7 22 rfl rfl
theorem dX7_readText_0 : decode cX7_readText 0 = .ok (.aload_n 0, 1) := dk_42 (dk_at dksX7_readText_0 0 rfl rfl)
theorem dX7_readText_1 : decode cX7_readText 1 = .ok (.aload_n 0, 1) := dk_42 (dk_at dksX7_readText_0 1 rfl rfl)
theorem dX7_readText_2 : decode cX7_readText 2 = .ok (.getfield 13, 3) := dk_180 0 13 (dk_at dksX7_readText_0 2 rfl rfl)
theorem dX7_readText_5 : decode cX7_readText 5 = .ok (.iconst 0, 1) := dk_3 (dk_at dksX7_readText_0 5 rfl rfl)
theorem dX7_readText_6 : decode cX7_readText 6 = .ok (.iaload, 1) := dk_46 (dk_at dksX7_readText_0 6 rfl rfl)
theorem dX7_readText_7 : decode cX7_readText 7 = .ok (.putfield 205, 3) := dk_181 0 205 (dk_at dksX7_readText_0 7 rfl rfl)
theorem dX7_readText_10 : decode cX7_readText 10 = .ok (.aload_n 0, 1) := dk_42 (dk_at dksX7_readText_0 10 rfl rfl)
theorem dX7_readText_11 : decode cX7_readText 11 = .ok (.getfield 13, 3) := dk_180 0 13 (dk_at dksX7_readText_0 11 rfl rfl)
theorem dX7_readText_14 : decode cX7_readText 14 = .ok (.iconst 0, 1) := dk_3 (dk_at dksX7_readText_0 14 rfl rfl)
theorem dX7_readText_15 : decode cX7_readText 15 = .ok (.iconst 0, 1) := dk_3 (dk_at dksX7_readText_0 15 rfl rfl)
theorem dX7_readText_16 : decode cX7_readText 16 = .ok (.iastore, 1) := dk_79 (dk_at dksX7_readText_0 16 rfl rfl)
theorem dX7_readText_17 : decode cX7_readText 17 = .ok (.aload_n 0, 1) := dk_42 (dk_at dksX7_readText_0 17 rfl rfl)
theorem dX7_readText_18 : decode cX7_readText 18 = .ok (.getfield 17, 3) := dk_180 0 17 (dk_at dksX7_readText_0 18 rfl rfl)
theorem dX7_readText_21 : decode cX7_readText 21 = .ok (.iconst 0, 1) := dk_3 (dk_at dksX7_readText_0 21 rfl rfl)
theorem dX7_readText_22 : decode cX7_readText 22 = .ok (.iconst 0, 1) := dk_3 (dk_at dksX7_readText_0 22 rfl rfl)
theorem dX7_readText_23 : decode cX7_readText 23 = .ok (.iastore, 1) := dk_79 (dk_at dksX7_readText_0 23 rfl rfl)
theorem dX7_readText_24 : decode cX7_readText 24 = .ok (.aload_n 0, 1) := dk_42 (dk_at dksX7_readText_1 0 rfl rfl)
theorem dX7_readText_25 : decode cX7_readText 25 = .ok (.getfield 20, 3) := dk_180 0 20 (dk_at dksX7_readText_1 1 rfl rfl)
theorem dX7_readText_28 : decode cX7_readText 28 = .ok (.iconst 0, 1) := dk_3 (dk_at dksX7_readText_1 4 rfl rfl)
theorem dX7_readText_29 : decode cX7_readText 29 = .ok (.iconst (-1), 1) := dk_2 (dk_at dksX7_readText_1 5 rfl rfl)
theorem dX7_readText_30 : decode cX7_readText 30 = .ok (.iastore, 1) := dk_79 (dk_at dksX7_readText_1 6 rfl rfl)
theorem dX7_readText_31 : decode cX7_readText 31 = .ok (.aload_n 0, 1) := dk_42 (dk_at dksX7_readText_1 7 rfl rfl)
theorem dX7_readText_32 : decode cX7_readText 32 = .ok (.iconst 0, 1) := dk_3 (dk_at dksX7_readText_1 8 rfl rfl)
theorem dX7_readText_33 : decode cX7_readText 33 = .ok (.putfield 202, 3) := dk_181 0 202 (dk_at dksX7_readText_1 9 rfl rfl)
theorem dX7_readText_36 : decode cX7_readText 36 = .ok (.aload_n 0, 1) := dk_42 (dk_at dksX7_readText_1 12 rfl rfl)
theorem dX7_readText_37 : decode cX7_readText 37 = .ok (.iconst (-1), 1) := dk_2 (dk_at dksX7_readText_1 13 rfl rfl)
theorem dX7_readText_38 : decode cX7_readText 38 = .ok (.putfield 272, 3) := dk_181 1 16 (dk_at dksX7_readText_1 14 rfl rfl)
theorem dX7_readText_41 : decode cX7_readText 41 = .ok (.aload_n 0, 1) := dk_42 (dk_at dksX7_readText_1 17 rfl rfl)
theorem dX7_readText_42 : decode cX7_readText 42 = .ok (.iconst 0, 1) := dk_3 (dk_at dksX7_readText_1 18 rfl rfl)
theorem dX7_readText_43 : decode cX7_readText 43 = .ok (.putfield 275, 3) := dk_181 1 19 (dk_at dksX7_readText_1 19 rfl rfl)
theorem dX7_readText_46 : decode cX7_readText 46 = .ok (.aload_n 0, 1) := dk_42 (dk_at dksX7_readText_1 22 rfl rfl)
theorem dX7_readText_47 : decode cX7_readText 47 = .ok (.iconst 0, 1) := dk_3 (dk_at dksX7_readText_1 23 rfl rfl)
theorem dX7_readText_48 : decode cX7_readText 48 = .ok (.putfield 278, 3) := dk_181 1 22 (dk_at dksX7_readText_2 0 rfl rfl)
theorem dX7_readText_51 : decode cX7_readText 51 = .ok (.aload_n 0, 1) := dk_42 (dk_at dksX7_readText_2 3 rfl rfl)
theorem dX7_readText_52 : decode cX7_readText 52 = .ok (.iconst 0, 1) := dk_3 (dk_at dksX7_readText_2 4 rfl rfl)
theorem dX7_readText_53 : decode cX7_readText 53 = .ok (.putfield 298, 3) := dk_181 1 42 (dk_at dksX7_readText_2 5 rfl rfl)
theorem dX7_readText_56 : decode cX7_readText 56 = .ok (.aload_n 0, 1) := dk_42 (dk_at dksX7_readText_2 8 rfl rfl)
theorem dX7_readText_57 : decode cX7_readText 57 = .ok (.iconst 0, 1) := dk_3 (dk_at dksX7_readText_2 9 rfl rfl)
theorem dX7_readText_58 : decode cX7_readText 58 = .ok (.putfield 313, 3) := dk_181 1 57 (dk_at dksX7_readText_2 10 rfl rfl)
theorem dX7_readText_61 : decode cX7_readText 61 = .ok (.aload_n 0, 1) := dk_42 (dk_at dksX7_readText_2 13 rfl rfl)
theorem dX7_readText_62 : decode cX7_readText 62 = .ok (.sipush 255, 3) := dk_17 0 255 (dk_at dksX7_readText_2 14 rfl rfl)
theorem dX7_readText_65 : decode cX7_readText 65 = .ok (.invokevirtual 304, 3) := dk_182 1 48 (dk_at dksX7_readText_2 17 rfl rfl)
theorem dX7_readText_68 : decode cX7_readText 68 = .ok (.aload_n 0, 1) := dk_42 (dk_at dksX7_readText_2 20 rfl rfl)
theorem dX7_readText_69 : decode cX7_readText 69 = .ok (.invokevirtual 295, 3) := dk_182 1 39 (dk_at dksX7_readText_2 21 rfl rfl)
theorem dX7_readText_72 : decode cX7_readText 72 = .ok (.iconst 1, 1) := dk_4 (dk_at dksX7_readText_3 0 rfl rfl)
theorem dX7_readText_73 : decode cX7_readText 73 = .ok (.istore_n 1, 1) := dk_60 (dk_at dksX7_readText_3 1 rfl rfl)
theorem dX7_readText_74 : decode cX7_readText 74 = .ok (.iload_n 1, 1) := dk_27 (dk_at dksX7_readText_3 2 rfl rfl)
theorem dX7_readText_75 : decode cX7_readText 75 = .ok (.ifCond .eq 37, 3) := dk_153 0 37 (dk_at dksX7_readText_3 3 rfl rfl)
theorem dX7_readText_78 : decode cX7_readText 78 = .ok (.aload_n 0, 1) := dk_42 (dk_at dksX7_readText_3 6 rfl rfl)
theorem dX7_readText_79 : decode cX7_readText 79 = .ok (.getfield 298, 3) := dk_180 1 42 (dk_at dksX7_readText_3 7 rfl rfl)
theorem dX7_readText_82 : decode cX7_readText 82 = .ok (.ifCond .le 30, 3) := dk_158 0 30 (dk_at dksX7_readText_3 10 rfl rfl)
theorem dX7_readText_85 : decode cX7_readText 85 = .ok (.aload_n 0, 1) := dk_42 (dk_at dksX7_readText_3 13 rfl rfl)
theorem dX7_readText_86 : decode cX7_readText 86 = .ok (.dup, 1) := dk_89 (dk_at dksX7_readText_3 14 rfl rfl)
theorem dX7_readText_87 : decode cX7_readText 87 = .ok (.getfield 298, 3) := dk_180 1 42 (dk_at dksX7_readText_3 15 rfl rfl)
theorem dX7_readText_90 : decode cX7_readText 90 = .ok (.iconst 1, 1) := dk_4 (dk_at dksX7_readText_3 18 rfl rfl)
theorem dX7_readText_91 : decode cX7_readText 91 = .ok (.isub, 1) := dk_100 (dk_at dksX7_readText_3 19 rfl rfl)
theorem dX7_readText_92 : decode cX7_readText 92 = .ok (.putfield 298, 3) := dk_181 1 42 (dk_at dksX7_readText_3 20 rfl rfl)
theorem dX7_readText_95 : decode cX7_readText 95 = .ok (.aload_n 0, 1) := dk_42 (dk_at dksX7_readText_3 23 rfl rfl)
theorem dX7_readText_96 : decode cX7_readText 96 = .ok (.aload_n 0, 1) := dk_42 (dk_at dksX7_readText_4 0 rfl rfl)
theorem dX7_readText_97 : decode cX7_readText 97 = .ok (.getfield 96, 3) := dk_180 0 96 (dk_at dksX7_readText_4 1 rfl rfl)
theorem dX7_readText_100 : decode cX7_readText 100 = .ok (.aload_n 0, 1) := dk_42 (dk_at dksX7_readText_4 4 rfl rfl)
theorem dX7_readText_101 : decode cX7_readText 101 = .ok (.getfield 298, 3) := dk_180 1 42 (dk_at dksX7_readText_4 5 rfl rfl)
theorem dX7_readText_104 : decode cX7_readText 104 = .ok (.iaload, 1) := dk_46 (dk_at dksX7_readText_4 8 rfl rfl)
theorem dX7_readText_105 : decode cX7_readText 105 = .ok (.invokevirtual 329, 3) := dk_182 1 73 (dk_at dksX7_readText_4 9 rfl rfl)
theorem dX7_readText_108 : decode cX7_readText 108 = .ok (.istore_n 1, 1) := dk_60 (dk_at dksX7_readText_4 12 rfl rfl)
theorem dX7_readText_109 : decode cX7_readText 109 = .ok (.goto (-35), 3) := dk_167 255 221 (dk_at dksX7_readText_4 13 rfl rfl)
theorem dX7_readText_112 : decode cX7_readText 112 = .ok (.iload_n 1, 1) := dk_27 (dk_at dksX7_readText_4 16 rfl rfl)
theorem dX7_readText_113 : decode cX7_readText 113 = .ok (.ifCond .eq 20, 3) := dk_153 0 20 (dk_at dksX7_readText_4 17 rfl rfl)
theorem dX7_readText_116 : decode cX7_readText 116 = .ok (.aload_n 0, 1) := dk_42 (dk_at dksX7_readText_4 20 rfl rfl)
theorem dX7_readText_117 : decode cX7_readText 117 = .ok (.getfield 221, 3) := dk_180 0 221 (dk_at dksX7_readText_4 21 rfl rfl)
theorem dX7_readText_120 : decode cX7_readText 120 = .ok (.ifCond .eq 13, 3) := dk_153 0 13 (dk_at dksX7_readText_5 0 rfl rfl)
theorem dX7_readText_123 : decode cX7_readText 123 = .ok (.aload_n 0, 1) := dk_42 (dk_at dksX7_readText_5 3 rfl rfl)
theorem dX7_readText_124 : decode cX7_readText 124 = .ok (.aload_n 0, 1) := dk_42 (dk_at dksX7_readText_5 4 rfl rfl)
theorem dX7_readText_125 : decode cX7_readText 125 = .ok (.getfield 211, 3) := dk_180 0 211 (dk_at dksX7_readText_5 5 rfl rfl)
theorem dX7_readText_128 : decode cX7_readText 128 = .ok (.putfield 272, 3) := dk_181 1 16 (dk_at dksX7_readText_5 8 rfl rfl)
theorem dX7_readText_131 : decode cX7_readText 131 = .ok (.iconst 0, 1) := dk_3 (dk_at dksX7_readText_5 11 rfl rfl)
theorem dX7_readText_132 : decode cX7_readText 132 = .ok (.istore_n 1, 1) := dk_60 (dk_at dksX7_readText_5 12 rfl rfl)
theorem dX7_readText_133 : decode cX7_readText 133 = .ok (.aload_n 0, 1) := dk_42 (dk_at dksX7_readText_5 13 rfl rfl)
theorem dX7_readText_134 : decode cX7_readText 134 = .ok (.getfield 17, 3) := dk_180 0 17 (dk_at dksX7_readText_5 14 rfl rfl)
theorem dX7_readText_137 : decode cX7_readText 137 = .ok (.iconst 0, 1) := dk_3 (dk_at dksX7_readText_5 17 rfl rfl)
theorem dX7_readText_138 : decode cX7_readText 138 = .ok (.iload_n 1, 1) := dk_27 (dk_at dksX7_readText_5 18 rfl rfl)
theorem dX7_readText_139 : decode cX7_readText 139 = .ok (.ifCond .ne 7, 3) := dk_154 0 7 (dk_at dksX7_readText_5 19 rfl rfl)
theorem dX7_readText_142 : decode cX7_readText 142 = .ok (.iconst 1, 1) := dk_4 (dk_at dksX7_readText_5 22 rfl rfl)
theorem dX7_readText_143 : decode cX7_readText 143 = .ok (.goto 7, 3) := dk_167 0 7 (dk_at dksX7_readText_6 0 rfl rfl)
theorem dX7_readText_146 : decode cX7_readText 146 = .ok (.aload_n 0, 1) := dk_42 (dk_at dksX7_readText_6 3 rfl rfl)
theorem dX7_readText_147 : decode cX7_readText 147 = .ok (.getfield 275, 3) := dk_180 1 19 (dk_at dksX7_readText_6 4 rfl rfl)
theorem dX7_readText_150 : decode cX7_readText 150 = .ok (.iastore, 1) := dk_79 (dk_at dksX7_readText_6 7 rfl rfl)
theorem dX7_readText_151 : decode cX7_readText 151 = .ok (.aload_n 0, 1) := dk_42 (dk_at dksX7_readText_6 8 rfl rfl)
theorem dX7_readText_152 : decode cX7_readText 152 = .ok (.getfield 20, 3) := dk_180 0 20 (dk_at dksX7_readText_6 9 rfl rfl)
theorem dX7_readText_155 : decode cX7_readText 155 = .ok (.iconst 0, 1) := dk_3 (dk_at dksX7_readText_6 12 rfl rfl)
theorem dX7_readText_156 : decode cX7_readText 156 = .ok (.iload_n 1, 1) := dk_27 (dk_at dksX7_readText_6 13 rfl rfl)
theorem dX7_readText_157 : decode cX7_readText 157 = .ok (.ifCond .ne 10, 3) := dk_154 0 10 (dk_at dksX7_readText_6 14 rfl rfl)
theorem dX7_readText_160 : decode cX7_readText 160 = .ok (.aload_n 0, 1) := dk_42 (dk_at dksX7_readText_6 17 rfl rfl)
theorem dX7_readText_161 : decode cX7_readText 161 = .ok (.getfield 272, 3) := dk_180 1 16 (dk_at dksX7_readText_6 18 rfl rfl)
theorem dX7_readText_164 : decode cX7_readText 164 = .ok (.goto 18, 3) := dk_167 0 18 (dk_at dksX7_readText_6 21 rfl rfl)
theorem dX7_readText_167 : decode cX7_readText 167 = .ok (.aload_n 0, 1) := dk_42 (dk_at dksX7_readText_7 0 rfl rfl)
theorem dX7_readText_168 : decode cX7_readText 168 = .ok (.getfield 275, 3) := dk_180 1 19 (dk_at dksX7_readText_7 1 rfl rfl)
theorem dX7_readText_171 : decode cX7_readText 171 = .ok (.ifCond .le 10, 3) := dk_158 0 10 (dk_at dksX7_readText_7 4 rfl rfl)
theorem dX7_readText_174 : decode cX7_readText 174 = .ok (.aload_n 0, 1) := dk_42 (dk_at dksX7_readText_7 7 rfl rfl)
theorem dX7_readText_175 : decode cX7_readText 175 = .ok (.getfield 278, 3) := dk_180 1 22 (dk_at dksX7_readText_7 8 rfl rfl)
theorem dX7_readText_178 : decode cX7_readText 178 = .ok (.goto 4, 3) := dk_167 0 4 (dk_at dksX7_readText_7 11 rfl rfl)
theorem dX7_readText_181 : decode cX7_readText 181 = .ok (.iconst (-1), 1) := dk_2 (dk_at dksX7_readText_7 14 rfl rfl)
theorem dX7_readText_182 : decode cX7_readText 182 = .ok (.iastore, 1) := dk_79 (dk_at dksX7_readText_7 15 rfl rfl)
theorem dX7_readText_183 : decode cX7_readText 183 = .ok (.aload_n 0, 1) := dk_42 (dk_at dksX7_readText_7 16 rfl rfl)
theorem dX7_readText_184 : decode cX7_readText 184 = .ok (.getfield 17, 3) := dk_180 0 17 (dk_at dksX7_readText_7 17 rfl rfl)
theorem dX7_readText_187 : decode cX7_readText 187 = .ok (.iconst 0, 1) := dk_3 (dk_at dksX7_readText_7 20 rfl rfl)
theorem dX7_readText_188 : decode cX7_readText 188 = .ok (.iaload, 1) := dk_46 (dk_at dksX7_readText_7 21 rfl rfl)
theorem dX7_readText_189 : decode cX7_readText 189 = .ok (.ifCond .ne 7, 3) := dk_154 0 7 (dk_at dksX7_readText_8 0 rfl rfl)
theorem dX7_readText_192 : decode cX7_readText 192 = .ok (.iconst 1, 1) := dk_4 (dk_at dksX7_readText_8 3 rfl rfl)
theorem dX7_readText_193 : decode cX7_readText 193 = .ok (.goto 4, 3) := dk_167 0 4 (dk_at dksX7_readText_8 4 rfl rfl)
theorem dX7_readText_196 : decode cX7_readText 196 = .ok (.iconst 0, 1) := dk_3 (dk_at dksX7_readText_8 7 rfl rfl)
theorem dX7_readText_197 : decode cX7_readText 197 = .ok (.ireturn, 1) := dk_172 (dk_at dksX7_readText_8 8 rfl rfl)
abbrev cX7_wait : ByteArray := prog_33_method_39_code
def yX7_wait : MethodName := ⟨RX7, "wait", "(I)V"⟩
def dkwX7_wait_0 : List UInt8 := [42, 180, 0, 96, 42, 180, 1, 42, 27, 79, 42, 89, 180, 1, 42, 4, 96, 181, 1, 42, 177]
abbrev dktX7_wait_0 : List UInt8 := dkwX7_wait_0 ++ []
theorem dksX7_wait_0 : cX7_wait.data.toList.drop 0 = dktX7_wait_0 := by decide +kernel
theorem dX7_wait_0 : decode cX7_wait 0 = .ok (.aload_n 0, 1) := dk_42 (dk_at dksX7_wait_0 0 rfl rfl)
theorem dX7_wait_1 : decode cX7_wait 1 = .ok (.getfield 96, 3) := dk_180 0 96 (dk_at dksX7_wait_0 1 rfl rfl)
theorem dX7_wait_4 : decode cX7_wait 4 = .ok (.aload_n 0, 1) := dk_42 (dk_at dksX7_wait_0 4 rfl rfl)
theorem dX7_wait_5 : decode cX7_wait 5 = .ok (.getfield 298, 3) := dk_180 1 42 (dk_at dksX7_wait_0 5 rfl rfl)
theorem dX7_wait_8 : decode cX7_wait 8 = .ok (.iload_n 1, 1) := dk_27 (dk_at dksX7_wait_0 8 rfl rfl)
theorem dX7_wait_9 : decode cX7_wait 9 = .ok (.iastore, 1) := dk_79 (dk_at dksX7_wait_0 9 rfl rfl)
theorem dX7_wait_10 : decode cX7_wait 10 = .ok (.aload_n 0, 1) := dk_42 (dk_at dksX7_wait_0 10 rfl rfl)
theorem dX7_wait_11 : decode cX7_wait 11 = .ok (.dup, 1) := dk_89 (dk_at dksX7_wait_0 11 rfl rfl)
theorem dX7_wait_12 : decode cX7_wait 12 = .ok (.getfield 298, 3) := dk_180 1 42 (dk_at dksX7_wait_0 12 rfl rfl)
theorem dX7_wait_15 : decode cX7_wait 15 = .ok (.iconst 1, 1) := dk_4 (dk_at dksX7_wait_0 15 rfl rfl)
theorem dX7_wait_16 : decode cX7_wait 16 = .ok (.iadd, 1) := dk_96 (dk_at dksX7_wait_0 16 rfl rfl)
theorem dX7_wait_17 : decode cX7_wait 17 = .ok (.putfield 298, 3) := dk_181 1 42 (dk_at dksX7_wait_0 17 rfl rfl)
theorem dX7_wait_20 : decode cX7_wait 20 = .ok (.return_, 1) := dk_177 (dk_at dksX7_wait_0 20 rfl rfl)
abbrev cX7_token : ByteArray := prog_33_method_29_code
def yX7_token : MethodName := ⟨RX7, "token", "()V"⟩
def dkwX7_token_10 : List UInt8 := [6, 181, 0, 221, 167, 0, 18, 42, 89, 180, 0, 202, 4, 96, 181, 0, 202, 42, 4, 181, 0, 221, 177]
abbrev dktX7_token_10 : List UInt8 := dkwX7_token_10 ++ []
def dkwX7_token_9 : List UInt8 := [180, 0, 202, 4, 96, 181, 0, 202, 132, 2, 1, 167, 255, 198, 42, 28, 7, 164, 0, 7, 4, 167, 0, 4]
abbrev dktX7_token_9 : List UInt8 := dkwX7_token_9 ++ dktX7_token_10
def dkwX7_token_8 : List UInt8 := [180, 0, 214, 104, 42, 182, 0, 208, 96, 16, 48, 100, 167, 0, 7, 42, 180, 0, 214, 181, 0, 214, 42, 89]
abbrev dktX7_token_8 : List UInt8 := dkwX7_token_8 ++ dktX7_token_9
def dkwX7_token_7 : List UInt8 := [182, 0, 208, 16, 48, 16, 57, 184, 0, 160, 153, 0, 50, 42, 28, 7, 162, 0, 21, 16, 10, 42]
abbrev dktX7_token_7 : List UInt8 := dkwX7_token_7 ++ dktX7_token_8
def dkwX7_token_6 : List UInt8 := [181, 0, 217, 42, 5, 181, 0, 221, 167, 0, 107, 27, 16, 48, 16, 57, 184, 0, 160, 153, 0, 81, 42]
abbrev dktX7_token_6 : List UInt8 := dkwX7_token_6 ++ dktX7_token_7
def dkwX7_token_5 : List UInt8 := [181, 0, 202, 132, 2, 1, 167, 255, 212, 42, 28, 16, 8, 164, 0, 7, 9, 167, 0, 7, 42, 180, 0, 217]
abbrev dktX7_token_5 : List UInt8 := dkwX7_token_5 ++ dktX7_token_6
def dkwX7_token_4 : List UInt8 := [42, 42, 180, 0, 217, 16, 8, 121, 42, 182, 0, 208, 133, 129, 181, 0, 217, 42, 89, 180, 0, 202, 4, 96]
abbrev dktX7_token_4 : List UInt8 := dkwX7_token_4 ++ dktX7_token_5
def dkwX7_token_3 : List UInt8 := [16, 97, 16, 122, 184, 0, 160, 153, 0, 76, 42, 182, 0, 208, 16, 97, 16, 122, 184, 0, 160, 153, 0, 36]
abbrev dktX7_token_3 : List UInt8 := dkwX7_token_3 ++ dktX7_token_4
def dkwX7_token_2 : List UInt8 := [181, 0, 214, 42, 9, 181, 0, 217, 3, 61, 27, 156, 0, 11, 42, 3, 181, 0, 221, 167, 0, 191, 27]
abbrev dktX7_token_2 : List UInt8 := dkwX7_token_2 ++ dktX7_token_3
def dkwX7_token_1 : List UInt8 := [96, 181, 0, 202, 167, 255, 228, 42, 42, 180, 0, 202, 181, 0, 211, 42, 182, 0, 208, 60, 42, 3]
abbrev dktX7_token_1 : List UInt8 := dkwX7_token_1 ++ dktX7_token_2
def dkwX7_token_0 : List UInt8 := [42, 182, 0, 208, 16, 10, 159, 0, 12, 42, 182, 0, 208, 16, 32, 160, 0, 16, 42, 89, 180, 0, 202, 4]
abbrev dktX7_token_0 : List UInt8 := dkwX7_token_0 ++ dktX7_token_1
theorem dksX7_token_0 : cX7_token.data.toList.drop 0 = dktX7_token_0 := by decide +kernel
theorem dksX7_token_1 : cX7_token.data.toList.drop 24 = dktX7_token_1 := dk_seg dksX7_token_0 24 rfl rfl
theorem dksX7_token_2 : cX7_token.data.toList.drop 46 = dktX7_token_2 := dk_seg dksX7_token_1 22 rfl rfl
theorem dksX7_token_3 : cX7_token.data.toList.drop 69 = dktX7_token_3 := dk_seg dksX7_token_2 23 rfl rfl
theorem dksX7_token_4 : cX7_token.data.toList.drop 93 = dktX7_token_4 := dk_seg dksX7_token_3 24 rfl rfl
theorem dksX7_token_5 : cX7_token.data.toList.drop 117 = dktX7_token_5 := dk_seg dksX7_token_4 24 rfl rfl
theorem dksX7_token_6 : cX7_token.data.toList.drop 141 = dktX7_token_6 := dk_seg dksX7_token_5 24 rfl rfl
theorem dksX7_token_7 : cX7_token.data.toList.drop 164 = dktX7_token_7 := dk_seg dksX7_token_6 23 rfl rfl
theorem dksX7_token_8 : cX7_token.data.toList.drop 186 = dktX7_token_8 := dk_seg dksX7_token_7 22 rfl rfl
theorem dksX7_token_9 : cX7_token.data.toList.drop 210 = dktX7_token_9 := dk_seg dksX7_token_8 24 rfl rfl
theorem dksX7_token_10 : cX7_token.data.toList.drop 234 = dktX7_token_10 := dk_seg dksX7_token_9 24 rfl rfl
theorem dX7_token_0 : decode cX7_token 0 = .ok (.aload_n 0, 1) := dk_42 (dk_at dksX7_token_0 0 rfl rfl)
theorem dX7_token_1 : decode cX7_token 1 = .ok (.invokevirtual 208, 3) := dk_182 0 208 (dk_at dksX7_token_0 1 rfl rfl)
theorem dX7_token_4 : decode cX7_token 4 = .ok (.bipush 10, 2) := dk_16 10 (dk_at dksX7_token_0 4 rfl rfl)
theorem dX7_token_6 : decode cX7_token 6 = .ok (.if_icmp .eq 12, 3) := dk_159 0 12 (dk_at dksX7_token_0 6 rfl rfl)
theorem dX7_token_9 : decode cX7_token 9 = .ok (.aload_n 0, 1) := dk_42 (dk_at dksX7_token_0 9 rfl rfl)
theorem dX7_token_10 : decode cX7_token 10 = .ok (.invokevirtual 208, 3) := dk_182 0 208 (dk_at dksX7_token_0 10 rfl rfl)
theorem dX7_token_13 : decode cX7_token 13 = .ok (.bipush 32, 2) := dk_16 32 (dk_at dksX7_token_0 13 rfl rfl)
theorem dX7_token_15 : decode cX7_token 15 = .ok (.if_icmp .ne 16, 3) := dk_160 0 16 (dk_at dksX7_token_0 15 rfl rfl)
theorem dX7_token_18 : decode cX7_token 18 = .ok (.aload_n 0, 1) := dk_42 (dk_at dksX7_token_0 18 rfl rfl)
theorem dX7_token_19 : decode cX7_token 19 = .ok (.dup, 1) := dk_89 (dk_at dksX7_token_0 19 rfl rfl)
theorem dX7_token_20 : decode cX7_token 20 = .ok (.getfield 202, 3) := dk_180 0 202 (dk_at dksX7_token_0 20 rfl rfl)
theorem dX7_token_23 : decode cX7_token 23 = .ok (.iconst 1, 1) := dk_4 (dk_at dksX7_token_0 23 rfl rfl)
theorem dX7_token_24 : decode cX7_token 24 = .ok (.iadd, 1) := dk_96 (dk_at dksX7_token_1 0 rfl rfl)
theorem dX7_token_25 : decode cX7_token 25 = .ok (.putfield 202, 3) := dk_181 0 202 (dk_at dksX7_token_1 1 rfl rfl)
theorem dX7_token_28 : decode cX7_token 28 = .ok (.goto (-28), 3) := dk_167 255 228 (dk_at dksX7_token_1 4 rfl rfl)
theorem dX7_token_31 : decode cX7_token 31 = .ok (.aload_n 0, 1) := dk_42 (dk_at dksX7_token_1 7 rfl rfl)
theorem dX7_token_32 : decode cX7_token 32 = .ok (.aload_n 0, 1) := dk_42 (dk_at dksX7_token_1 8 rfl rfl)
theorem dX7_token_33 : decode cX7_token 33 = .ok (.getfield 202, 3) := dk_180 0 202 (dk_at dksX7_token_1 9 rfl rfl)
theorem dX7_token_36 : decode cX7_token 36 = .ok (.putfield 211, 3) := dk_181 0 211 (dk_at dksX7_token_1 12 rfl rfl)
theorem dX7_token_39 : decode cX7_token 39 = .ok (.aload_n 0, 1) := dk_42 (dk_at dksX7_token_1 15 rfl rfl)
theorem dX7_token_40 : decode cX7_token 40 = .ok (.invokevirtual 208, 3) := dk_182 0 208 (dk_at dksX7_token_1 16 rfl rfl)
theorem dX7_token_43 : decode cX7_token 43 = .ok (.istore_n 1, 1) := dk_60 (dk_at dksX7_token_1 19 rfl rfl)
theorem dX7_token_44 : decode cX7_token 44 = .ok (.aload_n 0, 1) := dk_42 (dk_at dksX7_token_1 20 rfl rfl)
theorem dX7_token_45 : decode cX7_token 45 = .ok (.iconst 0, 1) := dk_3 (dk_at dksX7_token_1 21 rfl rfl)
theorem dX7_token_46 : decode cX7_token 46 = .ok (.putfield 214, 3) := dk_181 0 214 (dk_at dksX7_token_2 0 rfl rfl)
theorem dX7_token_49 : decode cX7_token 49 = .ok (.aload_n 0, 1) := dk_42 (dk_at dksX7_token_2 3 rfl rfl)
theorem dX7_token_50 : decode cX7_token 50 = .ok (.lconst 0, 1) := dk_9 (dk_at dksX7_token_2 4 rfl rfl)
theorem dX7_token_51 : decode cX7_token 51 = .ok (.putfield 217, 3) := dk_181 0 217 (dk_at dksX7_token_2 5 rfl rfl)
theorem dX7_token_54 : decode cX7_token 54 = .ok (.iconst 0, 1) := dk_3 (dk_at dksX7_token_2 8 rfl rfl)
theorem dX7_token_55 : decode cX7_token 55 = .ok (.istore_n 2, 1) := dk_61 (dk_at dksX7_token_2 9 rfl rfl)
theorem dX7_token_56 : decode cX7_token 56 = .ok (.iload_n 1, 1) := dk_27 (dk_at dksX7_token_2 10 rfl rfl)
theorem dX7_token_57 : decode cX7_token 57 = .ok (.ifCond .ge 11, 3) := dk_156 0 11 (dk_at dksX7_token_2 11 rfl rfl)
theorem dX7_token_60 : decode cX7_token 60 = .ok (.aload_n 0, 1) := dk_42 (dk_at dksX7_token_2 14 rfl rfl)
theorem dX7_token_61 : decode cX7_token 61 = .ok (.iconst 0, 1) := dk_3 (dk_at dksX7_token_2 15 rfl rfl)
theorem dX7_token_62 : decode cX7_token 62 = .ok (.putfield 221, 3) := dk_181 0 221 (dk_at dksX7_token_2 16 rfl rfl)
theorem dX7_token_65 : decode cX7_token 65 = .ok (.goto 191, 3) := dk_167 0 191 (dk_at dksX7_token_2 19 rfl rfl)
theorem dX7_token_68 : decode cX7_token 68 = .ok (.iload_n 1, 1) := dk_27 (dk_at dksX7_token_2 22 rfl rfl)
theorem dX7_token_69 : decode cX7_token 69 = .ok (.bipush 97, 2) := dk_16 97 (dk_at dksX7_token_3 0 rfl rfl)
theorem dX7_token_71 : decode cX7_token 71 = .ok (.bipush 122, 2) := dk_16 122 (dk_at dksX7_token_3 2 rfl rfl)
theorem dX7_token_73 : decode cX7_token 73 = .ok (.invokestatic 160, 3) := dk_184 0 160 (dk_at dksX7_token_3 4 rfl rfl)
theorem dX7_token_76 : decode cX7_token 76 = .ok (.ifCond .eq 76, 3) := dk_153 0 76 (dk_at dksX7_token_3 7 rfl rfl)
theorem dX7_token_79 : decode cX7_token 79 = .ok (.aload_n 0, 1) := dk_42 (dk_at dksX7_token_3 10 rfl rfl)
theorem dX7_token_80 : decode cX7_token 80 = .ok (.invokevirtual 208, 3) := dk_182 0 208 (dk_at dksX7_token_3 11 rfl rfl)
theorem dX7_token_83 : decode cX7_token 83 = .ok (.bipush 97, 2) := dk_16 97 (dk_at dksX7_token_3 14 rfl rfl)
theorem dX7_token_85 : decode cX7_token 85 = .ok (.bipush 122, 2) := dk_16 122 (dk_at dksX7_token_3 16 rfl rfl)
theorem dX7_token_87 : decode cX7_token 87 = .ok (.invokestatic 160, 3) := dk_184 0 160 (dk_at dksX7_token_3 18 rfl rfl)
theorem dX7_token_90 : decode cX7_token 90 = .ok (.ifCond .eq 36, 3) := dk_153 0 36 (dk_at dksX7_token_3 21 rfl rfl)
theorem dX7_token_93 : decode cX7_token 93 = .ok (.aload_n 0, 1) := dk_42 (dk_at dksX7_token_4 0 rfl rfl)
theorem dX7_token_94 : decode cX7_token 94 = .ok (.aload_n 0, 1) := dk_42 (dk_at dksX7_token_4 1 rfl rfl)
theorem dX7_token_95 : decode cX7_token 95 = .ok (.getfield 217, 3) := dk_180 0 217 (dk_at dksX7_token_4 2 rfl rfl)
theorem dX7_token_98 : decode cX7_token 98 = .ok (.bipush 8, 2) := dk_16 8 (dk_at dksX7_token_4 5 rfl rfl)
theorem dX7_token_100 : decode cX7_token 100 = .ok (.lshl, 1) := dk_121 (dk_at dksX7_token_4 7 rfl rfl)
theorem dX7_token_101 : decode cX7_token 101 = .ok (.aload_n 0, 1) := dk_42 (dk_at dksX7_token_4 8 rfl rfl)
theorem dX7_token_102 : decode cX7_token 102 = .ok (.invokevirtual 208, 3) := dk_182 0 208 (dk_at dksX7_token_4 9 rfl rfl)
theorem dX7_token_105 : decode cX7_token 105 = .ok (.i2l, 1) := dk_133 (dk_at dksX7_token_4 12 rfl rfl)
theorem dX7_token_106 : decode cX7_token 106 = .ok (.lor, 1) := dk_129 (dk_at dksX7_token_4 13 rfl rfl)
theorem dX7_token_107 : decode cX7_token 107 = .ok (.putfield 217, 3) := dk_181 0 217 (dk_at dksX7_token_4 14 rfl rfl)
theorem dX7_token_110 : decode cX7_token 110 = .ok (.aload_n 0, 1) := dk_42 (dk_at dksX7_token_4 17 rfl rfl)
theorem dX7_token_111 : decode cX7_token 111 = .ok (.dup, 1) := dk_89 (dk_at dksX7_token_4 18 rfl rfl)
theorem dX7_token_112 : decode cX7_token 112 = .ok (.getfield 202, 3) := dk_180 0 202 (dk_at dksX7_token_4 19 rfl rfl)
theorem dX7_token_115 : decode cX7_token 115 = .ok (.iconst 1, 1) := dk_4 (dk_at dksX7_token_4 22 rfl rfl)
theorem dX7_token_116 : decode cX7_token 116 = .ok (.iadd, 1) := dk_96 (dk_at dksX7_token_4 23 rfl rfl)
theorem dX7_token_117 : decode cX7_token 117 = .ok (.putfield 202, 3) := dk_181 0 202 (dk_at dksX7_token_5 0 rfl rfl)
theorem dX7_token_120 : decode cX7_token 120 = .ok (.iinc 2 1, 3) := dk_132 2 1 (dk_at dksX7_token_5 3 rfl rfl)
theorem dX7_token_123 : decode cX7_token 123 = .ok (.goto (-44), 3) := dk_167 255 212 (dk_at dksX7_token_5 6 rfl rfl)
theorem dX7_token_126 : decode cX7_token 126 = .ok (.aload_n 0, 1) := dk_42 (dk_at dksX7_token_5 9 rfl rfl)
theorem dX7_token_127 : decode cX7_token 127 = .ok (.iload_n 2, 1) := dk_28 (dk_at dksX7_token_5 10 rfl rfl)
theorem dX7_token_128 : decode cX7_token 128 = .ok (.bipush 8, 2) := dk_16 8 (dk_at dksX7_token_5 11 rfl rfl)
theorem dX7_token_130 : decode cX7_token 130 = .ok (.if_icmp .le 7, 3) := dk_164 0 7 (dk_at dksX7_token_5 13 rfl rfl)
theorem dX7_token_133 : decode cX7_token 133 = .ok (.lconst 0, 1) := dk_9 (dk_at dksX7_token_5 16 rfl rfl)
theorem dX7_token_134 : decode cX7_token 134 = .ok (.goto 7, 3) := dk_167 0 7 (dk_at dksX7_token_5 17 rfl rfl)
theorem dX7_token_137 : decode cX7_token 137 = .ok (.aload_n 0, 1) := dk_42 (dk_at dksX7_token_5 20 rfl rfl)
theorem dX7_token_138 : decode cX7_token 138 = .ok (.getfield 217, 3) := dk_180 0 217 (dk_at dksX7_token_5 21 rfl rfl)
theorem dX7_token_141 : decode cX7_token 141 = .ok (.putfield 217, 3) := dk_181 0 217 (dk_at dksX7_token_6 0 rfl rfl)
theorem dX7_token_144 : decode cX7_token 144 = .ok (.aload_n 0, 1) := dk_42 (dk_at dksX7_token_6 3 rfl rfl)
theorem dX7_token_145 : decode cX7_token 145 = .ok (.iconst 2, 1) := dk_5 (dk_at dksX7_token_6 4 rfl rfl)
theorem dX7_token_146 : decode cX7_token 146 = .ok (.putfield 221, 3) := dk_181 0 221 (dk_at dksX7_token_6 5 rfl rfl)
theorem dX7_token_149 : decode cX7_token 149 = .ok (.goto 107, 3) := dk_167 0 107 (dk_at dksX7_token_6 8 rfl rfl)
theorem dX7_token_152 : decode cX7_token 152 = .ok (.iload_n 1, 1) := dk_27 (dk_at dksX7_token_6 11 rfl rfl)
theorem dX7_token_153 : decode cX7_token 153 = .ok (.bipush 48, 2) := dk_16 48 (dk_at dksX7_token_6 12 rfl rfl)
theorem dX7_token_155 : decode cX7_token 155 = .ok (.bipush 57, 2) := dk_16 57 (dk_at dksX7_token_6 14 rfl rfl)
theorem dX7_token_157 : decode cX7_token 157 = .ok (.invokestatic 160, 3) := dk_184 0 160 (dk_at dksX7_token_6 16 rfl rfl)
theorem dX7_token_160 : decode cX7_token 160 = .ok (.ifCond .eq 81, 3) := dk_153 0 81 (dk_at dksX7_token_6 19 rfl rfl)
theorem dX7_token_163 : decode cX7_token 163 = .ok (.aload_n 0, 1) := dk_42 (dk_at dksX7_token_6 22 rfl rfl)
theorem dX7_token_164 : decode cX7_token 164 = .ok (.invokevirtual 208, 3) := dk_182 0 208 (dk_at dksX7_token_7 0 rfl rfl)
theorem dX7_token_167 : decode cX7_token 167 = .ok (.bipush 48, 2) := dk_16 48 (dk_at dksX7_token_7 3 rfl rfl)
theorem dX7_token_169 : decode cX7_token 169 = .ok (.bipush 57, 2) := dk_16 57 (dk_at dksX7_token_7 5 rfl rfl)
theorem dX7_token_171 : decode cX7_token 171 = .ok (.invokestatic 160, 3) := dk_184 0 160 (dk_at dksX7_token_7 7 rfl rfl)
theorem dX7_token_174 : decode cX7_token 174 = .ok (.ifCond .eq 50, 3) := dk_153 0 50 (dk_at dksX7_token_7 10 rfl rfl)
theorem dX7_token_177 : decode cX7_token 177 = .ok (.aload_n 0, 1) := dk_42 (dk_at dksX7_token_7 13 rfl rfl)
theorem dX7_token_178 : decode cX7_token 178 = .ok (.iload_n 2, 1) := dk_28 (dk_at dksX7_token_7 14 rfl rfl)
theorem dX7_token_179 : decode cX7_token 179 = .ok (.iconst 4, 1) := dk_7 (dk_at dksX7_token_7 15 rfl rfl)
theorem dX7_token_180 : decode cX7_token 180 = .ok (.if_icmp .ge 21, 3) := dk_162 0 21 (dk_at dksX7_token_7 16 rfl rfl)
theorem dX7_token_183 : decode cX7_token 183 = .ok (.bipush 10, 2) := dk_16 10 (dk_at dksX7_token_7 19 rfl rfl)
theorem dX7_token_185 : decode cX7_token 185 = .ok (.aload_n 0, 1) := dk_42 (dk_at dksX7_token_7 21 rfl rfl)
theorem dX7_token_186 : decode cX7_token 186 = .ok (.getfield 214, 3) := dk_180 0 214 (dk_at dksX7_token_8 0 rfl rfl)
theorem dX7_token_189 : decode cX7_token 189 = .ok (.imul, 1) := dk_104 (dk_at dksX7_token_8 3 rfl rfl)
theorem dX7_token_190 : decode cX7_token 190 = .ok (.aload_n 0, 1) := dk_42 (dk_at dksX7_token_8 4 rfl rfl)
theorem dX7_token_191 : decode cX7_token 191 = .ok (.invokevirtual 208, 3) := dk_182 0 208 (dk_at dksX7_token_8 5 rfl rfl)
theorem dX7_token_194 : decode cX7_token 194 = .ok (.iadd, 1) := dk_96 (dk_at dksX7_token_8 8 rfl rfl)
theorem dX7_token_195 : decode cX7_token 195 = .ok (.bipush 48, 2) := dk_16 48 (dk_at dksX7_token_8 9 rfl rfl)
theorem dX7_token_197 : decode cX7_token 197 = .ok (.isub, 1) := dk_100 (dk_at dksX7_token_8 11 rfl rfl)
theorem dX7_token_198 : decode cX7_token 198 = .ok (.goto 7, 3) := dk_167 0 7 (dk_at dksX7_token_8 12 rfl rfl)
theorem dX7_token_201 : decode cX7_token 201 = .ok (.aload_n 0, 1) := dk_42 (dk_at dksX7_token_8 15 rfl rfl)
theorem dX7_token_202 : decode cX7_token 202 = .ok (.getfield 214, 3) := dk_180 0 214 (dk_at dksX7_token_8 16 rfl rfl)
theorem dX7_token_205 : decode cX7_token 205 = .ok (.putfield 214, 3) := dk_181 0 214 (dk_at dksX7_token_8 19 rfl rfl)
theorem dX7_token_208 : decode cX7_token 208 = .ok (.aload_n 0, 1) := dk_42 (dk_at dksX7_token_8 22 rfl rfl)
theorem dX7_token_209 : decode cX7_token 209 = .ok (.dup, 1) := dk_89 (dk_at dksX7_token_8 23 rfl rfl)
theorem dX7_token_210 : decode cX7_token 210 = .ok (.getfield 202, 3) := dk_180 0 202 (dk_at dksX7_token_9 0 rfl rfl)
theorem dX7_token_213 : decode cX7_token 213 = .ok (.iconst 1, 1) := dk_4 (dk_at dksX7_token_9 3 rfl rfl)
theorem dX7_token_214 : decode cX7_token 214 = .ok (.iadd, 1) := dk_96 (dk_at dksX7_token_9 4 rfl rfl)
theorem dX7_token_215 : decode cX7_token 215 = .ok (.putfield 202, 3) := dk_181 0 202 (dk_at dksX7_token_9 5 rfl rfl)
theorem dX7_token_218 : decode cX7_token 218 = .ok (.iinc 2 1, 3) := dk_132 2 1 (dk_at dksX7_token_9 8 rfl rfl)
theorem dX7_token_221 : decode cX7_token 221 = .ok (.goto (-58), 3) := dk_167 255 198 (dk_at dksX7_token_9 11 rfl rfl)
theorem dX7_token_224 : decode cX7_token 224 = .ok (.aload_n 0, 1) := dk_42 (dk_at dksX7_token_9 14 rfl rfl)
theorem dX7_token_225 : decode cX7_token 225 = .ok (.iload_n 2, 1) := dk_28 (dk_at dksX7_token_9 15 rfl rfl)
theorem dX7_token_226 : decode cX7_token 226 = .ok (.iconst 4, 1) := dk_7 (dk_at dksX7_token_9 16 rfl rfl)
theorem dX7_token_227 : decode cX7_token 227 = .ok (.if_icmp .le 7, 3) := dk_164 0 7 (dk_at dksX7_token_9 17 rfl rfl)
theorem dX7_token_230 : decode cX7_token 230 = .ok (.iconst 1, 1) := dk_4 (dk_at dksX7_token_9 20 rfl rfl)
theorem dX7_token_231 : decode cX7_token 231 = .ok (.goto 4, 3) := dk_167 0 4 (dk_at dksX7_token_9 21 rfl rfl)
theorem dX7_token_234 : decode cX7_token 234 = .ok (.iconst 3, 1) := dk_6 (dk_at dksX7_token_10 0 rfl rfl)
theorem dX7_token_235 : decode cX7_token 235 = .ok (.putfield 221, 3) := dk_181 0 221 (dk_at dksX7_token_10 1 rfl rfl)
theorem dX7_token_238 : decode cX7_token 238 = .ok (.goto 18, 3) := dk_167 0 18 (dk_at dksX7_token_10 4 rfl rfl)
theorem dX7_token_241 : decode cX7_token 241 = .ok (.aload_n 0, 1) := dk_42 (dk_at dksX7_token_10 7 rfl rfl)
theorem dX7_token_242 : decode cX7_token 242 = .ok (.dup, 1) := dk_89 (dk_at dksX7_token_10 8 rfl rfl)
theorem dX7_token_243 : decode cX7_token 243 = .ok (.getfield 202, 3) := dk_180 0 202 (dk_at dksX7_token_10 9 rfl rfl)
theorem dX7_token_246 : decode cX7_token 246 = .ok (.iconst 1, 1) := dk_4 (dk_at dksX7_token_10 12 rfl rfl)
theorem dX7_token_247 : decode cX7_token 247 = .ok (.iadd, 1) := dk_96 (dk_at dksX7_token_10 13 rfl rfl)
theorem dX7_token_248 : decode cX7_token 248 = .ok (.putfield 202, 3) := dk_181 0 202 (dk_at dksX7_token_10 14 rfl rfl)
theorem dX7_token_251 : decode cX7_token 251 = .ok (.aload_n 0, 1) := dk_42 (dk_at dksX7_token_10 17 rfl rfl)
theorem dX7_token_252 : decode cX7_token 252 = .ok (.iconst 1, 1) := dk_4 (dk_at dksX7_token_10 18 rfl rfl)
theorem dX7_token_253 : decode cX7_token 253 = .ok (.putfield 221, 3) := dk_181 0 221 (dk_at dksX7_token_10 19 rfl rfl)
theorem dX7_token_256 : decode cX7_token 256 = .ok (.return_, 1) := dk_177 (dk_at dksX7_token_10 22 rfl rfl)
abbrev cX7_see : ByteArray := prog_33_method_28_code
def yX7_see : MethodName := ⟨RX7, "see", "()I"⟩
def dkwX7_see_1 : List UInt8 := [167, 0, 4, 2, 172]
abbrev dktX7_see_1 : List UInt8 := dkwX7_see_1 ++ []
def dkwX7_see_0 : List UInt8 := [42, 180, 0, 202, 42, 180, 0, 205, 162, 0, 19, 42, 180, 0, 7, 42, 180, 0, 202, 51, 17, 0, 255, 126]
abbrev dktX7_see_0 : List UInt8 := dkwX7_see_0 ++ dktX7_see_1
theorem dksX7_see_0 : cX7_see.data.toList.drop 0 = dktX7_see_0 := by decide +kernel
theorem dksX7_see_1 : cX7_see.data.toList.drop 24 = dktX7_see_1 := dk_seg dksX7_see_0 24 rfl rfl
theorem dX7_see_0 : decode cX7_see 0 = .ok (.aload_n 0, 1) := dk_42 (dk_at dksX7_see_0 0 rfl rfl)
theorem dX7_see_1 : decode cX7_see 1 = .ok (.getfield 202, 3) := dk_180 0 202 (dk_at dksX7_see_0 1 rfl rfl)
theorem dX7_see_4 : decode cX7_see 4 = .ok (.aload_n 0, 1) := dk_42 (dk_at dksX7_see_0 4 rfl rfl)
theorem dX7_see_5 : decode cX7_see 5 = .ok (.getfield 205, 3) := dk_180 0 205 (dk_at dksX7_see_0 5 rfl rfl)
theorem dX7_see_8 : decode cX7_see 8 = .ok (.if_icmp .ge 19, 3) := dk_162 0 19 (dk_at dksX7_see_0 8 rfl rfl)
theorem dX7_see_11 : decode cX7_see 11 = .ok (.aload_n 0, 1) := dk_42 (dk_at dksX7_see_0 11 rfl rfl)
theorem dX7_see_12 : decode cX7_see 12 = .ok (.getfield 7, 3) := dk_180 0 7 (dk_at dksX7_see_0 12 rfl rfl)
theorem dX7_see_15 : decode cX7_see 15 = .ok (.aload_n 0, 1) := dk_42 (dk_at dksX7_see_0 15 rfl rfl)
theorem dX7_see_16 : decode cX7_see 16 = .ok (.getfield 202, 3) := dk_180 0 202 (dk_at dksX7_see_0 16 rfl rfl)
theorem dX7_see_19 : decode cX7_see 19 = .ok (.baload, 1) := dk_51 (dk_at dksX7_see_0 19 rfl rfl)
theorem dX7_see_20 : decode cX7_see 20 = .ok (.sipush 255, 3) := dk_17 0 255 (dk_at dksX7_see_0 20 rfl rfl)
theorem dX7_see_23 : decode cX7_see 23 = .ok (.iand, 1) := dk_126 (dk_at dksX7_see_0 23 rfl rfl)
theorem dX7_see_24 : decode cX7_see 24 = .ok (.goto 4, 3) := dk_167 0 4 (dk_at dksX7_see_1 0 rfl rfl)
theorem dX7_see_27 : decode cX7_see 27 = .ok (.iconst (-1), 1) := dk_2 (dk_at dksX7_see_1 3 rfl rfl)
theorem dX7_see_28 : decode cX7_see 28 = .ok (.ireturn, 1) := dk_172 (dk_at dksX7_see_1 4 rfl rfl)
abbrev cX7_readPart : ByteArray := prog_33_method_43_code
def yX7_readPart : MethodName := ⟨RX7, "readPart", "(I)Z"⟩
def dkwX7_readPart_7 : List UInt8 := [180, 0, 99, 28, 46, 7, 159, 0, 8, 42, 27, 182, 1, 48, 4, 172]
abbrev dktX7_readPart_7 : List UInt8 := dkwX7_readPart_7 ++ []
def dkwX7_readPart_6 : List UInt8 := [180, 0, 99, 28, 46, 16, 9, 161, 0, 10, 42, 28, 27, 182, 1, 63, 172, 42, 27, 182, 1, 48, 42]
abbrev dktX7_readPart_6 : List UInt8 := dkwX7_readPart_6 ++ dktX7_readPart_7
def dkwX7_readPart_5 : List UInt8 := [27, 182, 1, 67, 172, 42, 180, 0, 99, 28, 46, 16, 8, 160, 0, 10, 42, 28, 27, 182, 1, 70, 172, 42]
abbrev dktX7_readPart_5 : List UInt8 := dkwX7_readPart_5 ++ dktX7_readPart_6
def dkwX7_readPart_4 : List UInt8 := [8, 42, 180, 0, 211, 182, 1, 35, 42, 182, 1, 39, 42, 180, 0, 99, 28, 46, 6, 163, 0, 10, 42, 28]
abbrev dktX7_readPart_4 : List UInt8 := dkwX7_readPart_4 ++ dktX7_readPart_5
def dkwX7_readPart_3 : List UInt8 := [182, 1, 63, 172, 42, 180, 0, 99, 28, 46, 6, 163, 0, 21, 27, 17, 1, 0, 108, 7, 161, 0, 12, 42]
abbrev dktX7_readPart_3 : List UInt8 := dkwX7_readPart_3 ++ dktX7_readPart_4
def dkwX7_readPart_2 : List UInt8 := [180, 0, 99, 28, 42, 182, 1, 60, 79, 42, 180, 0, 99, 28, 46, 2, 160, 0, 10, 42, 28, 27]
abbrev dktX7_readPart_2 : List UInt8 := dkwX7_readPart_2 ++ dktX7_readPart_3
def dkwX7_readPart_1 : List UInt8 := [162, 0, 10, 42, 180, 1, 57, 167, 0, 5, 16, 40, 61, 42, 89, 180, 1, 57, 4, 96, 181, 1, 57, 42]
abbrev dktX7_readPart_1 : List UInt8 := dkwX7_readPart_1 ++ dktX7_readPart_2
def dkwX7_readPart_0 : List UInt8 := [42, 180, 1, 57, 16, 40, 160, 0, 12, 42, 7, 42, 180, 0, 211, 182, 1, 35, 42, 180, 1, 57, 16, 40]
abbrev dktX7_readPart_0 : List UInt8 := dkwX7_readPart_0 ++ dktX7_readPart_1
theorem dksX7_readPart_0 : cX7_readPart.data.toList.drop 0 = dktX7_readPart_0 := by decide +kernel
theorem dksX7_readPart_1 : cX7_readPart.data.toList.drop 24 = dktX7_readPart_1 := dk_seg dksX7_readPart_0 24 rfl rfl
theorem dksX7_readPart_2 : cX7_readPart.data.toList.drop 48 = dktX7_readPart_2 := dk_seg dksX7_readPart_1 24 rfl rfl
theorem dksX7_readPart_3 : cX7_readPart.data.toList.drop 70 = dktX7_readPart_3 := dk_seg dksX7_readPart_2 22 rfl rfl
theorem dksX7_readPart_4 : cX7_readPart.data.toList.drop 94 = dktX7_readPart_4 := dk_seg dksX7_readPart_3 24 rfl rfl
theorem dksX7_readPart_5 : cX7_readPart.data.toList.drop 118 = dktX7_readPart_5 := dk_seg dksX7_readPart_4 24 rfl rfl
theorem dksX7_readPart_6 : cX7_readPart.data.toList.drop 142 = dktX7_readPart_6 := dk_seg dksX7_readPart_5 24 rfl rfl
theorem dksX7_readPart_7 : cX7_readPart.data.toList.drop 165 = dktX7_readPart_7 := dk_seg dksX7_readPart_6 23 rfl rfl
theorem dX7_readPart_0 : decode cX7_readPart 0 = .ok (.aload_n 0, 1) := dk_42 (dk_at dksX7_readPart_0 0 rfl rfl)
theorem dX7_readPart_1 : decode cX7_readPart 1 = .ok (.getfield 313, 3) := dk_180 1 57 (dk_at dksX7_readPart_0 1 rfl rfl)
theorem dX7_readPart_4 : decode cX7_readPart 4 = .ok (.bipush 40, 2) := dk_16 40 (dk_at dksX7_readPart_0 4 rfl rfl)
theorem dX7_readPart_6 : decode cX7_readPart 6 = .ok (.if_icmp .ne 12, 3) := dk_160 0 12 (dk_at dksX7_readPart_0 6 rfl rfl)
theorem dX7_readPart_9 : decode cX7_readPart 9 = .ok (.aload_n 0, 1) := dk_42 (dk_at dksX7_readPart_0 9 rfl rfl)
theorem dX7_readPart_10 : decode cX7_readPart 10 = .ok (.iconst 4, 1) := dk_7 (dk_at dksX7_readPart_0 10 rfl rfl)
theorem dX7_readPart_11 : decode cX7_readPart 11 = .ok (.aload_n 0, 1) := dk_42 (dk_at dksX7_readPart_0 11 rfl rfl)
theorem dX7_readPart_12 : decode cX7_readPart 12 = .ok (.getfield 211, 3) := dk_180 0 211 (dk_at dksX7_readPart_0 12 rfl rfl)
theorem dX7_readPart_15 : decode cX7_readPart 15 = .ok (.invokevirtual 291, 3) := dk_182 1 35 (dk_at dksX7_readPart_0 15 rfl rfl)
theorem dX7_readPart_18 : decode cX7_readPart 18 = .ok (.aload_n 0, 1) := dk_42 (dk_at dksX7_readPart_0 18 rfl rfl)
theorem dX7_readPart_19 : decode cX7_readPart 19 = .ok (.getfield 313, 3) := dk_180 1 57 (dk_at dksX7_readPart_0 19 rfl rfl)
theorem dX7_readPart_22 : decode cX7_readPart 22 = .ok (.bipush 40, 2) := dk_16 40 (dk_at dksX7_readPart_0 22 rfl rfl)
theorem dX7_readPart_24 : decode cX7_readPart 24 = .ok (.if_icmp .ge 10, 3) := dk_162 0 10 (dk_at dksX7_readPart_1 0 rfl rfl)
theorem dX7_readPart_27 : decode cX7_readPart 27 = .ok (.aload_n 0, 1) := dk_42 (dk_at dksX7_readPart_1 3 rfl rfl)
theorem dX7_readPart_28 : decode cX7_readPart 28 = .ok (.getfield 313, 3) := dk_180 1 57 (dk_at dksX7_readPart_1 4 rfl rfl)
theorem dX7_readPart_31 : decode cX7_readPart 31 = .ok (.goto 5, 3) := dk_167 0 5 (dk_at dksX7_readPart_1 7 rfl rfl)
theorem dX7_readPart_34 : decode cX7_readPart 34 = .ok (.bipush 40, 2) := dk_16 40 (dk_at dksX7_readPart_1 10 rfl rfl)
theorem dX7_readPart_36 : decode cX7_readPart 36 = .ok (.istore_n 2, 1) := dk_61 (dk_at dksX7_readPart_1 12 rfl rfl)
theorem dX7_readPart_37 : decode cX7_readPart 37 = .ok (.aload_n 0, 1) := dk_42 (dk_at dksX7_readPart_1 13 rfl rfl)
theorem dX7_readPart_38 : decode cX7_readPart 38 = .ok (.dup, 1) := dk_89 (dk_at dksX7_readPart_1 14 rfl rfl)
theorem dX7_readPart_39 : decode cX7_readPart 39 = .ok (.getfield 313, 3) := dk_180 1 57 (dk_at dksX7_readPart_1 15 rfl rfl)
theorem dX7_readPart_42 : decode cX7_readPart 42 = .ok (.iconst 1, 1) := dk_4 (dk_at dksX7_readPart_1 18 rfl rfl)
theorem dX7_readPart_43 : decode cX7_readPart 43 = .ok (.iadd, 1) := dk_96 (dk_at dksX7_readPart_1 19 rfl rfl)
theorem dX7_readPart_44 : decode cX7_readPart 44 = .ok (.putfield 313, 3) := dk_181 1 57 (dk_at dksX7_readPart_1 20 rfl rfl)
theorem dX7_readPart_47 : decode cX7_readPart 47 = .ok (.aload_n 0, 1) := dk_42 (dk_at dksX7_readPart_1 23 rfl rfl)
theorem dX7_readPart_48 : decode cX7_readPart 48 = .ok (.getfield 99, 3) := dk_180 0 99 (dk_at dksX7_readPart_2 0 rfl rfl)
theorem dX7_readPart_51 : decode cX7_readPart 51 = .ok (.iload_n 2, 1) := dk_28 (dk_at dksX7_readPart_2 3 rfl rfl)
theorem dX7_readPart_52 : decode cX7_readPart 52 = .ok (.aload_n 0, 1) := dk_42 (dk_at dksX7_readPart_2 4 rfl rfl)
theorem dX7_readPart_53 : decode cX7_readPart 53 = .ok (.invokevirtual 316, 3) := dk_182 1 60 (dk_at dksX7_readPart_2 5 rfl rfl)
theorem dX7_readPart_56 : decode cX7_readPart 56 = .ok (.iastore, 1) := dk_79 (dk_at dksX7_readPart_2 8 rfl rfl)
theorem dX7_readPart_57 : decode cX7_readPart 57 = .ok (.aload_n 0, 1) := dk_42 (dk_at dksX7_readPart_2 9 rfl rfl)
theorem dX7_readPart_58 : decode cX7_readPart 58 = .ok (.getfield 99, 3) := dk_180 0 99 (dk_at dksX7_readPart_2 10 rfl rfl)
theorem dX7_readPart_61 : decode cX7_readPart 61 = .ok (.iload_n 2, 1) := dk_28 (dk_at dksX7_readPart_2 13 rfl rfl)
theorem dX7_readPart_62 : decode cX7_readPart 62 = .ok (.iaload, 1) := dk_46 (dk_at dksX7_readPart_2 14 rfl rfl)
theorem dX7_readPart_63 : decode cX7_readPart 63 = .ok (.iconst (-1), 1) := dk_2 (dk_at dksX7_readPart_2 15 rfl rfl)
theorem dX7_readPart_64 : decode cX7_readPart 64 = .ok (.if_icmp .ne 10, 3) := dk_160 0 10 (dk_at dksX7_readPart_2 16 rfl rfl)
theorem dX7_readPart_67 : decode cX7_readPart 67 = .ok (.aload_n 0, 1) := dk_42 (dk_at dksX7_readPart_2 19 rfl rfl)
theorem dX7_readPart_68 : decode cX7_readPart 68 = .ok (.iload_n 2, 1) := dk_28 (dk_at dksX7_readPart_2 20 rfl rfl)
theorem dX7_readPart_69 : decode cX7_readPart 69 = .ok (.iload_n 1, 1) := dk_27 (dk_at dksX7_readPart_2 21 rfl rfl)
theorem dX7_readPart_70 : decode cX7_readPart 70 = .ok (.invokevirtual 319, 3) := dk_182 1 63 (dk_at dksX7_readPart_3 0 rfl rfl)
theorem dX7_readPart_73 : decode cX7_readPart 73 = .ok (.ireturn, 1) := dk_172 (dk_at dksX7_readPart_3 3 rfl rfl)
theorem dX7_readPart_74 : decode cX7_readPart 74 = .ok (.aload_n 0, 1) := dk_42 (dk_at dksX7_readPart_3 4 rfl rfl)
theorem dX7_readPart_75 : decode cX7_readPart 75 = .ok (.getfield 99, 3) := dk_180 0 99 (dk_at dksX7_readPart_3 5 rfl rfl)
theorem dX7_readPart_78 : decode cX7_readPart 78 = .ok (.iload_n 2, 1) := dk_28 (dk_at dksX7_readPart_3 8 rfl rfl)
theorem dX7_readPart_79 : decode cX7_readPart 79 = .ok (.iaload, 1) := dk_46 (dk_at dksX7_readPart_3 9 rfl rfl)
theorem dX7_readPart_80 : decode cX7_readPart 80 = .ok (.iconst 3, 1) := dk_6 (dk_at dksX7_readPart_3 10 rfl rfl)
theorem dX7_readPart_81 : decode cX7_readPart 81 = .ok (.if_icmp .gt 21, 3) := dk_163 0 21 (dk_at dksX7_readPart_3 11 rfl rfl)
theorem dX7_readPart_84 : decode cX7_readPart 84 = .ok (.iload_n 1, 1) := dk_27 (dk_at dksX7_readPart_3 14 rfl rfl)
theorem dX7_readPart_85 : decode cX7_readPart 85 = .ok (.sipush 256, 3) := dk_17 1 0 (dk_at dksX7_readPart_3 15 rfl rfl)
theorem dX7_readPart_88 : decode cX7_readPart 88 = .ok (.idiv, 1) := dk_108 (dk_at dksX7_readPart_3 18 rfl rfl)
theorem dX7_readPart_89 : decode cX7_readPart 89 = .ok (.iconst 4, 1) := dk_7 (dk_at dksX7_readPart_3 19 rfl rfl)
theorem dX7_readPart_90 : decode cX7_readPart 90 = .ok (.if_icmp .lt 12, 3) := dk_161 0 12 (dk_at dksX7_readPart_3 20 rfl rfl)
theorem dX7_readPart_93 : decode cX7_readPart 93 = .ok (.aload_n 0, 1) := dk_42 (dk_at dksX7_readPart_3 23 rfl rfl)
theorem dX7_readPart_94 : decode cX7_readPart 94 = .ok (.iconst 5, 1) := dk_8 (dk_at dksX7_readPart_4 0 rfl rfl)
theorem dX7_readPart_95 : decode cX7_readPart 95 = .ok (.aload_n 0, 1) := dk_42 (dk_at dksX7_readPart_4 1 rfl rfl)
theorem dX7_readPart_96 : decode cX7_readPart 96 = .ok (.getfield 211, 3) := dk_180 0 211 (dk_at dksX7_readPart_4 2 rfl rfl)
theorem dX7_readPart_99 : decode cX7_readPart 99 = .ok (.invokevirtual 291, 3) := dk_182 1 35 (dk_at dksX7_readPart_4 5 rfl rfl)
theorem dX7_readPart_102 : decode cX7_readPart 102 = .ok (.aload_n 0, 1) := dk_42 (dk_at dksX7_readPart_4 8 rfl rfl)
theorem dX7_readPart_103 : decode cX7_readPart 103 = .ok (.invokevirtual 295, 3) := dk_182 1 39 (dk_at dksX7_readPart_4 9 rfl rfl)
theorem dX7_readPart_106 : decode cX7_readPart 106 = .ok (.aload_n 0, 1) := dk_42 (dk_at dksX7_readPart_4 12 rfl rfl)
theorem dX7_readPart_107 : decode cX7_readPart 107 = .ok (.getfield 99, 3) := dk_180 0 99 (dk_at dksX7_readPart_4 13 rfl rfl)
theorem dX7_readPart_110 : decode cX7_readPart 110 = .ok (.iload_n 2, 1) := dk_28 (dk_at dksX7_readPart_4 16 rfl rfl)
theorem dX7_readPart_111 : decode cX7_readPart 111 = .ok (.iaload, 1) := dk_46 (dk_at dksX7_readPart_4 17 rfl rfl)
theorem dX7_readPart_112 : decode cX7_readPart 112 = .ok (.iconst 3, 1) := dk_6 (dk_at dksX7_readPart_4 18 rfl rfl)
theorem dX7_readPart_113 : decode cX7_readPart 113 = .ok (.if_icmp .gt 10, 3) := dk_163 0 10 (dk_at dksX7_readPart_4 19 rfl rfl)
theorem dX7_readPart_116 : decode cX7_readPart 116 = .ok (.aload_n 0, 1) := dk_42 (dk_at dksX7_readPart_4 22 rfl rfl)
theorem dX7_readPart_117 : decode cX7_readPart 117 = .ok (.iload_n 2, 1) := dk_28 (dk_at dksX7_readPart_4 23 rfl rfl)
theorem dX7_readPart_118 : decode cX7_readPart 118 = .ok (.iload_n 1, 1) := dk_27 (dk_at dksX7_readPart_5 0 rfl rfl)
theorem dX7_readPart_119 : decode cX7_readPart 119 = .ok (.invokevirtual 323, 3) := dk_182 1 67 (dk_at dksX7_readPart_5 1 rfl rfl)
theorem dX7_readPart_122 : decode cX7_readPart 122 = .ok (.ireturn, 1) := dk_172 (dk_at dksX7_readPart_5 4 rfl rfl)
theorem dX7_readPart_123 : decode cX7_readPart 123 = .ok (.aload_n 0, 1) := dk_42 (dk_at dksX7_readPart_5 5 rfl rfl)
theorem dX7_readPart_124 : decode cX7_readPart 124 = .ok (.getfield 99, 3) := dk_180 0 99 (dk_at dksX7_readPart_5 6 rfl rfl)
theorem dX7_readPart_127 : decode cX7_readPart 127 = .ok (.iload_n 2, 1) := dk_28 (dk_at dksX7_readPart_5 9 rfl rfl)
theorem dX7_readPart_128 : decode cX7_readPart 128 = .ok (.iaload, 1) := dk_46 (dk_at dksX7_readPart_5 10 rfl rfl)
theorem dX7_readPart_129 : decode cX7_readPart 129 = .ok (.bipush 8, 2) := dk_16 8 (dk_at dksX7_readPart_5 11 rfl rfl)
theorem dX7_readPart_131 : decode cX7_readPart 131 = .ok (.if_icmp .ne 10, 3) := dk_160 0 10 (dk_at dksX7_readPart_5 13 rfl rfl)
theorem dX7_readPart_134 : decode cX7_readPart 134 = .ok (.aload_n 0, 1) := dk_42 (dk_at dksX7_readPart_5 16 rfl rfl)
theorem dX7_readPart_135 : decode cX7_readPart 135 = .ok (.iload_n 2, 1) := dk_28 (dk_at dksX7_readPart_5 17 rfl rfl)
theorem dX7_readPart_136 : decode cX7_readPart 136 = .ok (.iload_n 1, 1) := dk_27 (dk_at dksX7_readPart_5 18 rfl rfl)
theorem dX7_readPart_137 : decode cX7_readPart 137 = .ok (.invokevirtual 326, 3) := dk_182 1 70 (dk_at dksX7_readPart_5 19 rfl rfl)
theorem dX7_readPart_140 : decode cX7_readPart 140 = .ok (.ireturn, 1) := dk_172 (dk_at dksX7_readPart_5 22 rfl rfl)
theorem dX7_readPart_141 : decode cX7_readPart 141 = .ok (.aload_n 0, 1) := dk_42 (dk_at dksX7_readPart_5 23 rfl rfl)
theorem dX7_readPart_142 : decode cX7_readPart 142 = .ok (.getfield 99, 3) := dk_180 0 99 (dk_at dksX7_readPart_6 0 rfl rfl)
theorem dX7_readPart_145 : decode cX7_readPart 145 = .ok (.iload_n 2, 1) := dk_28 (dk_at dksX7_readPart_6 3 rfl rfl)
theorem dX7_readPart_146 : decode cX7_readPart 146 = .ok (.iaload, 1) := dk_46 (dk_at dksX7_readPart_6 4 rfl rfl)
theorem dX7_readPart_147 : decode cX7_readPart 147 = .ok (.bipush 9, 2) := dk_16 9 (dk_at dksX7_readPart_6 5 rfl rfl)
theorem dX7_readPart_149 : decode cX7_readPart 149 = .ok (.if_icmp .lt 10, 3) := dk_161 0 10 (dk_at dksX7_readPart_6 7 rfl rfl)
theorem dX7_readPart_152 : decode cX7_readPart 152 = .ok (.aload_n 0, 1) := dk_42 (dk_at dksX7_readPart_6 10 rfl rfl)
theorem dX7_readPart_153 : decode cX7_readPart 153 = .ok (.iload_n 2, 1) := dk_28 (dk_at dksX7_readPart_6 11 rfl rfl)
theorem dX7_readPart_154 : decode cX7_readPart 154 = .ok (.iload_n 1, 1) := dk_27 (dk_at dksX7_readPart_6 12 rfl rfl)
theorem dX7_readPart_155 : decode cX7_readPart 155 = .ok (.invokevirtual 319, 3) := dk_182 1 63 (dk_at dksX7_readPart_6 13 rfl rfl)
theorem dX7_readPart_158 : decode cX7_readPart 158 = .ok (.ireturn, 1) := dk_172 (dk_at dksX7_readPart_6 16 rfl rfl)
theorem dX7_readPart_159 : decode cX7_readPart 159 = .ok (.aload_n 0, 1) := dk_42 (dk_at dksX7_readPart_6 17 rfl rfl)
theorem dX7_readPart_160 : decode cX7_readPart 160 = .ok (.iload_n 1, 1) := dk_27 (dk_at dksX7_readPart_6 18 rfl rfl)
theorem dX7_readPart_161 : decode cX7_readPart 161 = .ok (.invokevirtual 304, 3) := dk_182 1 48 (dk_at dksX7_readPart_6 19 rfl rfl)
theorem dX7_readPart_164 : decode cX7_readPart 164 = .ok (.aload_n 0, 1) := dk_42 (dk_at dksX7_readPart_6 22 rfl rfl)
theorem dX7_readPart_165 : decode cX7_readPart 165 = .ok (.getfield 99, 3) := dk_180 0 99 (dk_at dksX7_readPart_7 0 rfl rfl)
theorem dX7_readPart_168 : decode cX7_readPart 168 = .ok (.iload_n 2, 1) := dk_28 (dk_at dksX7_readPart_7 3 rfl rfl)
theorem dX7_readPart_169 : decode cX7_readPart 169 = .ok (.iaload, 1) := dk_46 (dk_at dksX7_readPart_7 4 rfl rfl)
theorem dX7_readPart_170 : decode cX7_readPart 170 = .ok (.iconst 4, 1) := dk_7 (dk_at dksX7_readPart_7 5 rfl rfl)
theorem dX7_readPart_171 : decode cX7_readPart 171 = .ok (.if_icmp .eq 8, 3) := dk_159 0 8 (dk_at dksX7_readPart_7 6 rfl rfl)
theorem dX7_readPart_174 : decode cX7_readPart 174 = .ok (.aload_n 0, 1) := dk_42 (dk_at dksX7_readPart_7 9 rfl rfl)
theorem dX7_readPart_175 : decode cX7_readPart 175 = .ok (.iload_n 1, 1) := dk_27 (dk_at dksX7_readPart_7 10 rfl rfl)
theorem dX7_readPart_176 : decode cX7_readPart 176 = .ok (.invokevirtual 304, 3) := dk_182 1 48 (dk_at dksX7_readPart_7 11 rfl rfl)
theorem dX7_readPart_179 : decode cX7_readPart 179 = .ok (.iconst 1, 1) := dk_4 (dk_at dksX7_readPart_7 14 rfl rfl)
theorem dX7_readPart_180 : decode cX7_readPart 180 = .ok (.ireturn, 1) := dk_172 (dk_at dksX7_readPart_7 15 rfl rfl)
abbrev cX7_later : ByteArray := prog_33_method_36_code
def yX7_later : MethodName := ⟨RX7, "later", "(II)V"⟩
def dkwX7_later_1 : List UInt8 := [42, 180, 1, 19, 162, 0, 13, 42, 27, 181, 1, 19, 42, 28, 181, 1, 22, 177]
abbrev dktX7_later_1 : List UInt8 := dkwX7_later_1 ++ []
def dkwX7_later_0 : List UInt8 := [42, 180, 1, 19, 153, 0, 27, 28, 42, 180, 1, 22, 161, 0, 19, 28, 42, 180, 1, 22, 160, 0, 21, 27]
abbrev dktX7_later_0 : List UInt8 := dkwX7_later_0 ++ dktX7_later_1
theorem dksX7_later_0 : cX7_later.data.toList.drop 0 = dktX7_later_0 := by decide +kernel
theorem dksX7_later_1 : cX7_later.data.toList.drop 24 = dktX7_later_1 := dk_seg dksX7_later_0 24 rfl rfl
theorem dX7_later_0 : decode cX7_later 0 = .ok (.aload_n 0, 1) := dk_42 (dk_at dksX7_later_0 0 rfl rfl)
theorem dX7_later_1 : decode cX7_later 1 = .ok (.getfield 275, 3) := dk_180 1 19 (dk_at dksX7_later_0 1 rfl rfl)
theorem dX7_later_4 : decode cX7_later 4 = .ok (.ifCond .eq 27, 3) := dk_153 0 27 (dk_at dksX7_later_0 4 rfl rfl)
theorem dX7_later_7 : decode cX7_later 7 = .ok (.iload_n 2, 1) := dk_28 (dk_at dksX7_later_0 7 rfl rfl)
theorem dX7_later_8 : decode cX7_later 8 = .ok (.aload_n 0, 1) := dk_42 (dk_at dksX7_later_0 8 rfl rfl)
theorem dX7_later_9 : decode cX7_later 9 = .ok (.getfield 278, 3) := dk_180 1 22 (dk_at dksX7_later_0 9 rfl rfl)
theorem dX7_later_12 : decode cX7_later 12 = .ok (.if_icmp .lt 19, 3) := dk_161 0 19 (dk_at dksX7_later_0 12 rfl rfl)
theorem dX7_later_15 : decode cX7_later 15 = .ok (.iload_n 2, 1) := dk_28 (dk_at dksX7_later_0 15 rfl rfl)
theorem dX7_later_16 : decode cX7_later 16 = .ok (.aload_n 0, 1) := dk_42 (dk_at dksX7_later_0 16 rfl rfl)
theorem dX7_later_17 : decode cX7_later 17 = .ok (.getfield 278, 3) := dk_180 1 22 (dk_at dksX7_later_0 17 rfl rfl)
theorem dX7_later_20 : decode cX7_later 20 = .ok (.if_icmp .ne 21, 3) := dk_160 0 21 (dk_at dksX7_later_0 20 rfl rfl)
theorem dX7_later_23 : decode cX7_later 23 = .ok (.iload_n 1, 1) := dk_27 (dk_at dksX7_later_0 23 rfl rfl)
theorem dX7_later_24 : decode cX7_later 24 = .ok (.aload_n 0, 1) := dk_42 (dk_at dksX7_later_1 0 rfl rfl)
theorem dX7_later_25 : decode cX7_later 25 = .ok (.getfield 275, 3) := dk_180 1 19 (dk_at dksX7_later_1 1 rfl rfl)
theorem dX7_later_28 : decode cX7_later 28 = .ok (.if_icmp .ge 13, 3) := dk_162 0 13 (dk_at dksX7_later_1 4 rfl rfl)
theorem dX7_later_31 : decode cX7_later 31 = .ok (.aload_n 0, 1) := dk_42 (dk_at dksX7_later_1 7 rfl rfl)
theorem dX7_later_32 : decode cX7_later 32 = .ok (.iload_n 1, 1) := dk_27 (dk_at dksX7_later_1 8 rfl rfl)
theorem dX7_later_33 : decode cX7_later 33 = .ok (.putfield 275, 3) := dk_181 1 19 (dk_at dksX7_later_1 9 rfl rfl)
theorem dX7_later_36 : decode cX7_later 36 = .ok (.aload_n 0, 1) := dk_42 (dk_at dksX7_later_1 12 rfl rfl)
theorem dX7_later_37 : decode cX7_later 37 = .ok (.iload_n 2, 1) := dk_28 (dk_at dksX7_later_1 13 rfl rfl)
theorem dX7_later_38 : decode cX7_later 38 = .ok (.putfield 278, 3) := dk_181 1 22 (dk_at dksX7_later_1 14 rfl rfl)
theorem dX7_later_41 : decode cX7_later 41 = .ok (.return_, 1) := dk_177 (dk_at dksX7_later_1 17 rfl rfl)
abbrev cX7_actOf : ByteArray := prog_33_method_31_code
def yX7_actOf : MethodName := ⟨RX7, "actOf", "()I"⟩
def dkwX7_actOf_6 : List UInt8 := [167, 0, 19, 42, 20, 0, 248, 182, 0, 226, 153, 0, 8, 16, 10, 167, 0, 4, 2, 172]
abbrev dktX7_actOf_6 : List UInt8 := dkwX7_actOf_6 ++ []
def dkwX7_actOf_5 : List UInt8 := [182, 0, 226, 153, 0, 8, 16, 8, 167, 0, 34, 42, 20, 0, 246, 182, 0, 226, 153, 0, 8, 16, 9]
abbrev dktX7_actOf_5 : List UInt8 := dkwX7_actOf_5 ++ dktX7_actOf_6
def dkwX7_actOf_4 : List UInt8 := [16, 6, 167, 0, 64, 42, 20, 0, 242, 182, 0, 226, 153, 0, 8, 16, 7, 167, 0, 49, 42, 20, 0, 244]
abbrev dktX7_actOf_4 : List UInt8 := dkwX7_actOf_4 ++ dktX7_actOf_5
def dkwX7_actOf_3 : List UInt8 := [42, 20, 0, 238, 182, 0, 226, 153, 0, 7, 8, 167, 0, 79, 42, 20, 0, 240, 182, 0, 226, 153, 0, 8]
abbrev dktX7_actOf_3 : List UInt8 := dkwX7_actOf_3 ++ dktX7_actOf_4
def dkwX7_actOf_2 : List UInt8 := [182, 0, 226, 153, 0, 7, 6, 167, 0, 107, 42, 20, 0, 236, 182, 0, 226, 153, 0, 7, 7, 167, 0, 93]
abbrev dktX7_actOf_2 : List UInt8 := dkwX7_actOf_2 ++ dktX7_actOf_3
def dkwX7_actOf_1 : List UInt8 := [4, 167, 0, 135, 42, 20, 0, 232, 182, 0, 226, 153, 0, 7, 5, 167, 0, 121, 42, 20, 0, 234]
abbrev dktX7_actOf_1 : List UInt8 := dkwX7_actOf_1 ++ dktX7_actOf_2
def dkwX7_actOf_0 : List UInt8 := [42, 20, 0, 224, 182, 0, 226, 153, 0, 7, 3, 167, 0, 149, 42, 20, 0, 230, 182, 0, 226, 153, 0, 7]
abbrev dktX7_actOf_0 : List UInt8 := dkwX7_actOf_0 ++ dktX7_actOf_1
theorem dksX7_actOf_0 : cX7_actOf.data.toList.drop 0 = dktX7_actOf_0 := by decide +kernel
theorem dksX7_actOf_1 : cX7_actOf.data.toList.drop 24 = dktX7_actOf_1 := dk_seg dksX7_actOf_0 24 rfl rfl
theorem dksX7_actOf_2 : cX7_actOf.data.toList.drop 46 = dktX7_actOf_2 := dk_seg dksX7_actOf_1 22 rfl rfl
theorem dksX7_actOf_3 : cX7_actOf.data.toList.drop 70 = dktX7_actOf_3 := dk_seg dksX7_actOf_2 24 rfl rfl
theorem dksX7_actOf_4 : cX7_actOf.data.toList.drop 94 = dktX7_actOf_4 := dk_seg dksX7_actOf_3 24 rfl rfl
theorem dksX7_actOf_5 : cX7_actOf.data.toList.drop 118 = dktX7_actOf_5 := dk_seg dksX7_actOf_4 24 rfl rfl
theorem dksX7_actOf_6 : cX7_actOf.data.toList.drop 141 = dktX7_actOf_6 := dk_seg dksX7_actOf_5 23 rfl rfl
theorem dX7_actOf_0 : decode cX7_actOf 0 = .ok (.aload_n 0, 1) := dk_42 (dk_at dksX7_actOf_0 0 rfl rfl)
theorem dX7_actOf_1 : decode cX7_actOf 1 = .ok (.ldc2_w 224, 3) := dk_20 0 224 (dk_at dksX7_actOf_0 1 rfl rfl)
theorem dX7_actOf_4 : decode cX7_actOf 4 = .ok (.invokevirtual 226, 3) := dk_182 0 226 (dk_at dksX7_actOf_0 4 rfl rfl)
theorem dX7_actOf_7 : decode cX7_actOf 7 = .ok (.ifCond .eq 7, 3) := dk_153 0 7 (dk_at dksX7_actOf_0 7 rfl rfl)
theorem dX7_actOf_10 : decode cX7_actOf 10 = .ok (.iconst 0, 1) := dk_3 (dk_at dksX7_actOf_0 10 rfl rfl)
theorem dX7_actOf_11 : decode cX7_actOf 11 = .ok (.goto 149, 3) := dk_167 0 149 (dk_at dksX7_actOf_0 11 rfl rfl)
theorem dX7_actOf_14 : decode cX7_actOf 14 = .ok (.aload_n 0, 1) := dk_42 (dk_at dksX7_actOf_0 14 rfl rfl)
theorem dX7_actOf_15 : decode cX7_actOf 15 = .ok (.ldc2_w 230, 3) := dk_20 0 230 (dk_at dksX7_actOf_0 15 rfl rfl)
theorem dX7_actOf_18 : decode cX7_actOf 18 = .ok (.invokevirtual 226, 3) := dk_182 0 226 (dk_at dksX7_actOf_0 18 rfl rfl)
theorem dX7_actOf_21 : decode cX7_actOf 21 = .ok (.ifCond .eq 7, 3) := dk_153 0 7 (dk_at dksX7_actOf_0 21 rfl rfl)
theorem dX7_actOf_24 : decode cX7_actOf 24 = .ok (.iconst 1, 1) := dk_4 (dk_at dksX7_actOf_1 0 rfl rfl)
theorem dX7_actOf_25 : decode cX7_actOf 25 = .ok (.goto 135, 3) := dk_167 0 135 (dk_at dksX7_actOf_1 1 rfl rfl)
theorem dX7_actOf_28 : decode cX7_actOf 28 = .ok (.aload_n 0, 1) := dk_42 (dk_at dksX7_actOf_1 4 rfl rfl)
theorem dX7_actOf_29 : decode cX7_actOf 29 = .ok (.ldc2_w 232, 3) := dk_20 0 232 (dk_at dksX7_actOf_1 5 rfl rfl)
theorem dX7_actOf_32 : decode cX7_actOf 32 = .ok (.invokevirtual 226, 3) := dk_182 0 226 (dk_at dksX7_actOf_1 8 rfl rfl)
theorem dX7_actOf_35 : decode cX7_actOf 35 = .ok (.ifCond .eq 7, 3) := dk_153 0 7 (dk_at dksX7_actOf_1 11 rfl rfl)
theorem dX7_actOf_38 : decode cX7_actOf 38 = .ok (.iconst 2, 1) := dk_5 (dk_at dksX7_actOf_1 14 rfl rfl)
theorem dX7_actOf_39 : decode cX7_actOf 39 = .ok (.goto 121, 3) := dk_167 0 121 (dk_at dksX7_actOf_1 15 rfl rfl)
theorem dX7_actOf_42 : decode cX7_actOf 42 = .ok (.aload_n 0, 1) := dk_42 (dk_at dksX7_actOf_1 18 rfl rfl)
theorem dX7_actOf_43 : decode cX7_actOf 43 = .ok (.ldc2_w 234, 3) := dk_20 0 234 (dk_at dksX7_actOf_1 19 rfl rfl)
theorem dX7_actOf_46 : decode cX7_actOf 46 = .ok (.invokevirtual 226, 3) := dk_182 0 226 (dk_at dksX7_actOf_2 0 rfl rfl)
theorem dX7_actOf_49 : decode cX7_actOf 49 = .ok (.ifCond .eq 7, 3) := dk_153 0 7 (dk_at dksX7_actOf_2 3 rfl rfl)
theorem dX7_actOf_52 : decode cX7_actOf 52 = .ok (.iconst 3, 1) := dk_6 (dk_at dksX7_actOf_2 6 rfl rfl)
theorem dX7_actOf_53 : decode cX7_actOf 53 = .ok (.goto 107, 3) := dk_167 0 107 (dk_at dksX7_actOf_2 7 rfl rfl)
theorem dX7_actOf_56 : decode cX7_actOf 56 = .ok (.aload_n 0, 1) := dk_42 (dk_at dksX7_actOf_2 10 rfl rfl)
theorem dX7_actOf_57 : decode cX7_actOf 57 = .ok (.ldc2_w 236, 3) := dk_20 0 236 (dk_at dksX7_actOf_2 11 rfl rfl)
theorem dX7_actOf_60 : decode cX7_actOf 60 = .ok (.invokevirtual 226, 3) := dk_182 0 226 (dk_at dksX7_actOf_2 14 rfl rfl)
theorem dX7_actOf_63 : decode cX7_actOf 63 = .ok (.ifCond .eq 7, 3) := dk_153 0 7 (dk_at dksX7_actOf_2 17 rfl rfl)
theorem dX7_actOf_66 : decode cX7_actOf 66 = .ok (.iconst 4, 1) := dk_7 (dk_at dksX7_actOf_2 20 rfl rfl)
theorem dX7_actOf_67 : decode cX7_actOf 67 = .ok (.goto 93, 3) := dk_167 0 93 (dk_at dksX7_actOf_2 21 rfl rfl)
theorem dX7_actOf_70 : decode cX7_actOf 70 = .ok (.aload_n 0, 1) := dk_42 (dk_at dksX7_actOf_3 0 rfl rfl)
theorem dX7_actOf_71 : decode cX7_actOf 71 = .ok (.ldc2_w 238, 3) := dk_20 0 238 (dk_at dksX7_actOf_3 1 rfl rfl)
theorem dX7_actOf_74 : decode cX7_actOf 74 = .ok (.invokevirtual 226, 3) := dk_182 0 226 (dk_at dksX7_actOf_3 4 rfl rfl)
theorem dX7_actOf_77 : decode cX7_actOf 77 = .ok (.ifCond .eq 7, 3) := dk_153 0 7 (dk_at dksX7_actOf_3 7 rfl rfl)
theorem dX7_actOf_80 : decode cX7_actOf 80 = .ok (.iconst 5, 1) := dk_8 (dk_at dksX7_actOf_3 10 rfl rfl)
theorem dX7_actOf_81 : decode cX7_actOf 81 = .ok (.goto 79, 3) := dk_167 0 79 (dk_at dksX7_actOf_3 11 rfl rfl)
theorem dX7_actOf_84 : decode cX7_actOf 84 = .ok (.aload_n 0, 1) := dk_42 (dk_at dksX7_actOf_3 14 rfl rfl)
theorem dX7_actOf_85 : decode cX7_actOf 85 = .ok (.ldc2_w 240, 3) := dk_20 0 240 (dk_at dksX7_actOf_3 15 rfl rfl)
theorem dX7_actOf_88 : decode cX7_actOf 88 = .ok (.invokevirtual 226, 3) := dk_182 0 226 (dk_at dksX7_actOf_3 18 rfl rfl)
theorem dX7_actOf_91 : decode cX7_actOf 91 = .ok (.ifCond .eq 8, 3) := dk_153 0 8 (dk_at dksX7_actOf_3 21 rfl rfl)
theorem dX7_actOf_94 : decode cX7_actOf 94 = .ok (.bipush 6, 2) := dk_16 6 (dk_at dksX7_actOf_4 0 rfl rfl)
theorem dX7_actOf_96 : decode cX7_actOf 96 = .ok (.goto 64, 3) := dk_167 0 64 (dk_at dksX7_actOf_4 2 rfl rfl)
theorem dX7_actOf_99 : decode cX7_actOf 99 = .ok (.aload_n 0, 1) := dk_42 (dk_at dksX7_actOf_4 5 rfl rfl)
theorem dX7_actOf_100 : decode cX7_actOf 100 = .ok (.ldc2_w 242, 3) := dk_20 0 242 (dk_at dksX7_actOf_4 6 rfl rfl)
theorem dX7_actOf_103 : decode cX7_actOf 103 = .ok (.invokevirtual 226, 3) := dk_182 0 226 (dk_at dksX7_actOf_4 9 rfl rfl)
theorem dX7_actOf_106 : decode cX7_actOf 106 = .ok (.ifCond .eq 8, 3) := dk_153 0 8 (dk_at dksX7_actOf_4 12 rfl rfl)
theorem dX7_actOf_109 : decode cX7_actOf 109 = .ok (.bipush 7, 2) := dk_16 7 (dk_at dksX7_actOf_4 15 rfl rfl)
theorem dX7_actOf_111 : decode cX7_actOf 111 = .ok (.goto 49, 3) := dk_167 0 49 (dk_at dksX7_actOf_4 17 rfl rfl)
theorem dX7_actOf_114 : decode cX7_actOf 114 = .ok (.aload_n 0, 1) := dk_42 (dk_at dksX7_actOf_4 20 rfl rfl)
theorem dX7_actOf_115 : decode cX7_actOf 115 = .ok (.ldc2_w 244, 3) := dk_20 0 244 (dk_at dksX7_actOf_4 21 rfl rfl)
theorem dX7_actOf_118 : decode cX7_actOf 118 = .ok (.invokevirtual 226, 3) := dk_182 0 226 (dk_at dksX7_actOf_5 0 rfl rfl)
theorem dX7_actOf_121 : decode cX7_actOf 121 = .ok (.ifCond .eq 8, 3) := dk_153 0 8 (dk_at dksX7_actOf_5 3 rfl rfl)
theorem dX7_actOf_124 : decode cX7_actOf 124 = .ok (.bipush 8, 2) := dk_16 8 (dk_at dksX7_actOf_5 6 rfl rfl)
theorem dX7_actOf_126 : decode cX7_actOf 126 = .ok (.goto 34, 3) := dk_167 0 34 (dk_at dksX7_actOf_5 8 rfl rfl)
theorem dX7_actOf_129 : decode cX7_actOf 129 = .ok (.aload_n 0, 1) := dk_42 (dk_at dksX7_actOf_5 11 rfl rfl)
theorem dX7_actOf_130 : decode cX7_actOf 130 = .ok (.ldc2_w 246, 3) := dk_20 0 246 (dk_at dksX7_actOf_5 12 rfl rfl)
theorem dX7_actOf_133 : decode cX7_actOf 133 = .ok (.invokevirtual 226, 3) := dk_182 0 226 (dk_at dksX7_actOf_5 15 rfl rfl)
theorem dX7_actOf_136 : decode cX7_actOf 136 = .ok (.ifCond .eq 8, 3) := dk_153 0 8 (dk_at dksX7_actOf_5 18 rfl rfl)
theorem dX7_actOf_139 : decode cX7_actOf 139 = .ok (.bipush 9, 2) := dk_16 9 (dk_at dksX7_actOf_5 21 rfl rfl)
theorem dX7_actOf_141 : decode cX7_actOf 141 = .ok (.goto 19, 3) := dk_167 0 19 (dk_at dksX7_actOf_6 0 rfl rfl)
theorem dX7_actOf_144 : decode cX7_actOf 144 = .ok (.aload_n 0, 1) := dk_42 (dk_at dksX7_actOf_6 3 rfl rfl)
theorem dX7_actOf_145 : decode cX7_actOf 145 = .ok (.ldc2_w 248, 3) := dk_20 0 248 (dk_at dksX7_actOf_6 4 rfl rfl)
theorem dX7_actOf_148 : decode cX7_actOf 148 = .ok (.invokevirtual 226, 3) := dk_182 0 226 (dk_at dksX7_actOf_6 7 rfl rfl)
theorem dX7_actOf_151 : decode cX7_actOf 151 = .ok (.ifCond .eq 8, 3) := dk_153 0 8 (dk_at dksX7_actOf_6 10 rfl rfl)
theorem dX7_actOf_154 : decode cX7_actOf 154 = .ok (.bipush 10, 2) := dk_16 10 (dk_at dksX7_actOf_6 13 rfl rfl)
theorem dX7_actOf_156 : decode cX7_actOf 156 = .ok (.goto 4, 3) := dk_167 0 4 (dk_at dksX7_actOf_6 15 rfl rfl)
theorem dX7_actOf_159 : decode cX7_actOf 159 = .ok (.iconst (-1), 1) := dk_2 (dk_at dksX7_actOf_6 18 rfl rfl)
theorem dX7_actOf_160 : decode cX7_actOf 160 = .ok (.ireturn, 1) := dk_172 (dk_at dksX7_actOf_6 19 rfl rfl)
abbrev cX7_isWord : ByteArray := prog_33_method_30_code
def yX7_isWord : MethodName := ⟨RX7, "isWord", "(J)Z"⟩
def dkwX7_isWord_0 : List UInt8 := [42, 180, 0, 221, 5, 160, 0, 16, 42, 180, 0, 217, 31, 148, 154, 0, 7, 4, 167, 0, 4, 3, 172]
abbrev dktX7_isWord_0 : List UInt8 := dkwX7_isWord_0 ++ []
theorem dksX7_isWord_0 : cX7_isWord.data.toList.drop 0 = dktX7_isWord_0 := by decide +kernel
theorem dX7_isWord_0 : decode cX7_isWord 0 = .ok (.aload_n 0, 1) := dk_42 (dk_at dksX7_isWord_0 0 rfl rfl)
theorem dX7_isWord_1 : decode cX7_isWord 1 = .ok (.getfield 221, 3) := dk_180 0 221 (dk_at dksX7_isWord_0 1 rfl rfl)
theorem dX7_isWord_4 : decode cX7_isWord 4 = .ok (.iconst 2, 1) := dk_5 (dk_at dksX7_isWord_0 4 rfl rfl)
theorem dX7_isWord_5 : decode cX7_isWord 5 = .ok (.if_icmp .ne 16, 3) := dk_160 0 16 (dk_at dksX7_isWord_0 5 rfl rfl)
theorem dX7_isWord_8 : decode cX7_isWord 8 = .ok (.aload_n 0, 1) := dk_42 (dk_at dksX7_isWord_0 8 rfl rfl)
theorem dX7_isWord_9 : decode cX7_isWord 9 = .ok (.getfield 217, 3) := dk_180 0 217 (dk_at dksX7_isWord_0 9 rfl rfl)
theorem dX7_isWord_12 : decode cX7_isWord 12 = .ok (.lload_n 1, 1) := dk_31 (dk_at dksX7_isWord_0 12 rfl rfl)
theorem dX7_isWord_13 : decode cX7_isWord 13 = .ok (.lcmp, 1) := dk_148 (dk_at dksX7_isWord_0 13 rfl rfl)
theorem dX7_isWord_14 : decode cX7_isWord 14 = .ok (.ifCond .ne 7, 3) := dk_154 0 7 (dk_at dksX7_isWord_0 14 rfl rfl)
theorem dX7_isWord_17 : decode cX7_isWord 17 = .ok (.iconst 1, 1) := dk_4 (dk_at dksX7_isWord_0 17 rfl rfl)
theorem dX7_isWord_18 : decode cX7_isWord 18 = .ok (.goto 4, 3) := dk_167 0 4 (dk_at dksX7_isWord_0 18 rfl rfl)
theorem dX7_isWord_21 : decode cX7_isWord 21 = .ok (.iconst 0, 1) := dk_3 (dk_at dksX7_isWord_0 21 rfl rfl)
theorem dX7_isWord_22 : decode cX7_isWord 22 = .ok (.ireturn, 1) := dk_172 (dk_at dksX7_isWord_0 22 rfl rfl)
abbrev cX7_readRelation : ByteArray := prog_33_method_42_code
def yX7_readRelation : MethodName := ⟨RX7, "readRelation", "(II)Z"⟩
def dkwX7_readRelation_10 : List UInt8 := [167, 0, 4, 2, 182, 1, 51, 79, 42, 180, 0, 108, 27, 46, 2, 159, 0, 7, 4, 167, 0, 4, 3, 172]
abbrev dktX7_readRelation_10 : List UInt8 := dkwX7_readRelation_10 ++ []
def dkwX7_readRelation_9 : List UInt8 := [167, 0, 4, 3, 172, 42, 180, 0, 108, 27, 42, 28, 21, 5, 153, 0, 12, 42, 180, 0, 38, 29, 46]
abbrev dktX7_readRelation_9 : List UInt8 := dkwX7_readRelation_9 ++ dktX7_readRelation_10
def dkwX7_readRelation_8 : List UInt8 := [42, 180, 0, 99, 27, 46, 16, 11, 160, 0, 19, 42, 180, 0, 105, 27, 46, 2, 159, 0, 7, 4]
abbrev dktX7_readRelation_8 : List UInt8 := dkwX7_readRelation_8 ++ dktX7_readRelation_9
def dkwX7_readRelation_7 : List UInt8 := [42, 180, 0, 35, 29, 46, 167, 0, 4, 2, 182, 1, 51, 79, 42, 180, 0, 105, 27, 46, 2, 159, 0, 14]
abbrev dktX7_readRelation_7 : List UInt8 := dkwX7_readRelation_7 ++ dktX7_readRelation_8
def dkwX7_readRelation_6 : List UInt8 := [180, 0, 99, 27, 46, 16, 10, 160, 0, 5, 4, 172, 42, 180, 0, 105, 27, 42, 28, 21, 5, 153, 0, 12]
abbrev dktX7_readRelation_6 : List UInt8 := dkwX7_readRelation_6 ++ dktX7_readRelation_7
def dkwX7_readRelation_5 : List UInt8 := [160, 0, 8, 16, 11, 167, 0, 5, 16, 12, 79, 42, 180, 0, 102, 27, 29, 79, 42, 182, 1, 39, 42]
abbrev dktX7_readRelation_5 : List UInt8 := dkwX7_readRelation_5 ++ dktX7_readRelation_6
def dkwX7_readRelation_4 : List UInt8 := [27, 21, 4, 153, 0, 12, 42, 180, 0, 99, 27, 46, 167, 0, 20, 42, 180, 0, 38, 29, 46, 2]
abbrev dktX7_readRelation_4 : List UInt8 := dkwX7_readRelation_4 ++ dktX7_readRelation_5
def dkwX7_readRelation_3 : List UInt8 := [167, 0, 4, 3, 54, 5, 21, 5, 154, 0, 12, 42, 6, 42, 180, 0, 211, 182, 1, 35, 42, 180, 0, 99]
abbrev dktX7_readRelation_3 : List UInt8 := dkwX7_readRelation_3 ++ dktX7_readRelation_4
def dkwX7_readRelation_2 : List UInt8 := [54, 4, 21, 4, 153, 0, 18, 42, 180, 0, 38, 29, 46, 42, 180, 0, 35, 29, 46, 160, 0, 7, 4]
abbrev dktX7_readRelation_2 : List UInt8 := dkwX7_readRelation_2 ++ dktX7_readRelation_3
def dkwX7_readRelation_1 : List UInt8 := [27, 46, 16, 9, 159, 0, 14, 42, 180, 0, 99, 27, 46, 16, 10, 160, 0, 7, 4, 167, 0, 4, 3]
abbrev dktX7_readRelation_1 : List UInt8 := dkwX7_readRelation_1 ++ dktX7_readRelation_2
def dkwX7_readRelation_0 : List UInt8 := [42, 182, 1, 54, 62, 29, 2, 160, 0, 13, 42, 42, 180, 0, 211, 181, 1, 16, 3, 172, 42, 180, 0, 99]
abbrev dktX7_readRelation_0 : List UInt8 := dkwX7_readRelation_0 ++ dktX7_readRelation_1
theorem dksX7_readRelation_0 : cX7_readRelation.data.toList.drop 0 = dktX7_readRelation_0 := by decide +kernel
theorem dksX7_readRelation_1 : cX7_readRelation.data.toList.drop 24 = dktX7_readRelation_1 := dk_seg dksX7_readRelation_0 24 rfl rfl
theorem dksX7_readRelation_2 : cX7_readRelation.data.toList.drop 47 = dktX7_readRelation_2 := dk_seg dksX7_readRelation_1 23 rfl rfl
theorem dksX7_readRelation_3 : cX7_readRelation.data.toList.drop 70 = dktX7_readRelation_3 := dk_seg dksX7_readRelation_2 23 rfl rfl
theorem dksX7_readRelation_4 : cX7_readRelation.data.toList.drop 94 = dktX7_readRelation_4 := dk_seg dksX7_readRelation_3 24 rfl rfl
theorem dksX7_readRelation_5 : cX7_readRelation.data.toList.drop 116 = dktX7_readRelation_5 := dk_seg dksX7_readRelation_4 22 rfl rfl
theorem dksX7_readRelation_6 : cX7_readRelation.data.toList.drop 139 = dktX7_readRelation_6 := dk_seg dksX7_readRelation_5 23 rfl rfl
theorem dksX7_readRelation_7 : cX7_readRelation.data.toList.drop 163 = dktX7_readRelation_7 := dk_seg dksX7_readRelation_6 24 rfl rfl
theorem dksX7_readRelation_8 : cX7_readRelation.data.toList.drop 187 = dktX7_readRelation_8 := dk_seg dksX7_readRelation_7 24 rfl rfl
theorem dksX7_readRelation_9 : cX7_readRelation.data.toList.drop 209 = dktX7_readRelation_9 := dk_seg dksX7_readRelation_8 22 rfl rfl
theorem dksX7_readRelation_10 : cX7_readRelation.data.toList.drop 232 = dktX7_readRelation_10 := dk_seg dksX7_readRelation_9 23 rfl rfl
theorem dX7_readRelation_0 : decode cX7_readRelation 0 = .ok (.aload_n 0, 1) := dk_42 (dk_at dksX7_readRelation_0 0 rfl rfl)
theorem dX7_readRelation_1 : decode cX7_readRelation 1 = .ok (.invokevirtual 310, 3) := dk_182 1 54 (dk_at dksX7_readRelation_0 1 rfl rfl)
theorem dX7_readRelation_4 : decode cX7_readRelation 4 = .ok (.istore_n 3, 1) := dk_62 (dk_at dksX7_readRelation_0 4 rfl rfl)
theorem dX7_readRelation_5 : decode cX7_readRelation 5 = .ok (.iload_n 3, 1) := dk_29 (dk_at dksX7_readRelation_0 5 rfl rfl)
theorem dX7_readRelation_6 : decode cX7_readRelation 6 = .ok (.iconst (-1), 1) := dk_2 (dk_at dksX7_readRelation_0 6 rfl rfl)
theorem dX7_readRelation_7 : decode cX7_readRelation 7 = .ok (.if_icmp .ne 13, 3) := dk_160 0 13 (dk_at dksX7_readRelation_0 7 rfl rfl)
theorem dX7_readRelation_10 : decode cX7_readRelation 10 = .ok (.aload_n 0, 1) := dk_42 (dk_at dksX7_readRelation_0 10 rfl rfl)
theorem dX7_readRelation_11 : decode cX7_readRelation 11 = .ok (.aload_n 0, 1) := dk_42 (dk_at dksX7_readRelation_0 11 rfl rfl)
theorem dX7_readRelation_12 : decode cX7_readRelation 12 = .ok (.getfield 211, 3) := dk_180 0 211 (dk_at dksX7_readRelation_0 12 rfl rfl)
theorem dX7_readRelation_15 : decode cX7_readRelation 15 = .ok (.putfield 272, 3) := dk_181 1 16 (dk_at dksX7_readRelation_0 15 rfl rfl)
theorem dX7_readRelation_18 : decode cX7_readRelation 18 = .ok (.iconst 0, 1) := dk_3 (dk_at dksX7_readRelation_0 18 rfl rfl)
theorem dX7_readRelation_19 : decode cX7_readRelation 19 = .ok (.ireturn, 1) := dk_172 (dk_at dksX7_readRelation_0 19 rfl rfl)
theorem dX7_readRelation_20 : decode cX7_readRelation 20 = .ok (.aload_n 0, 1) := dk_42 (dk_at dksX7_readRelation_0 20 rfl rfl)
theorem dX7_readRelation_21 : decode cX7_readRelation 21 = .ok (.getfield 99, 3) := dk_180 0 99 (dk_at dksX7_readRelation_0 21 rfl rfl)
theorem dX7_readRelation_24 : decode cX7_readRelation 24 = .ok (.iload_n 1, 1) := dk_27 (dk_at dksX7_readRelation_1 0 rfl rfl)
theorem dX7_readRelation_25 : decode cX7_readRelation 25 = .ok (.iaload, 1) := dk_46 (dk_at dksX7_readRelation_1 1 rfl rfl)
theorem dX7_readRelation_26 : decode cX7_readRelation 26 = .ok (.bipush 9, 2) := dk_16 9 (dk_at dksX7_readRelation_1 2 rfl rfl)
theorem dX7_readRelation_28 : decode cX7_readRelation 28 = .ok (.if_icmp .eq 14, 3) := dk_159 0 14 (dk_at dksX7_readRelation_1 4 rfl rfl)
theorem dX7_readRelation_31 : decode cX7_readRelation 31 = .ok (.aload_n 0, 1) := dk_42 (dk_at dksX7_readRelation_1 7 rfl rfl)
theorem dX7_readRelation_32 : decode cX7_readRelation 32 = .ok (.getfield 99, 3) := dk_180 0 99 (dk_at dksX7_readRelation_1 8 rfl rfl)
theorem dX7_readRelation_35 : decode cX7_readRelation 35 = .ok (.iload_n 1, 1) := dk_27 (dk_at dksX7_readRelation_1 11 rfl rfl)
theorem dX7_readRelation_36 : decode cX7_readRelation 36 = .ok (.iaload, 1) := dk_46 (dk_at dksX7_readRelation_1 12 rfl rfl)
theorem dX7_readRelation_37 : decode cX7_readRelation 37 = .ok (.bipush 10, 2) := dk_16 10 (dk_at dksX7_readRelation_1 13 rfl rfl)
theorem dX7_readRelation_39 : decode cX7_readRelation 39 = .ok (.if_icmp .ne 7, 3) := dk_160 0 7 (dk_at dksX7_readRelation_1 15 rfl rfl)
theorem dX7_readRelation_42 : decode cX7_readRelation 42 = .ok (.iconst 1, 1) := dk_4 (dk_at dksX7_readRelation_1 18 rfl rfl)
theorem dX7_readRelation_43 : decode cX7_readRelation 43 = .ok (.goto 4, 3) := dk_167 0 4 (dk_at dksX7_readRelation_1 19 rfl rfl)
theorem dX7_readRelation_46 : decode cX7_readRelation 46 = .ok (.iconst 0, 1) := dk_3 (dk_at dksX7_readRelation_1 22 rfl rfl)
theorem dX7_readRelation_47 : decode cX7_readRelation 47 = .ok (.istore 4, 2) := dk_54 4 (dk_at dksX7_readRelation_2 0 rfl rfl)
theorem dX7_readRelation_49 : decode cX7_readRelation 49 = .ok (.iload 4, 2) := dk_21 4 (dk_at dksX7_readRelation_2 2 rfl rfl)
theorem dX7_readRelation_51 : decode cX7_readRelation 51 = .ok (.ifCond .eq 18, 3) := dk_153 0 18 (dk_at dksX7_readRelation_2 4 rfl rfl)
theorem dX7_readRelation_54 : decode cX7_readRelation 54 = .ok (.aload_n 0, 1) := dk_42 (dk_at dksX7_readRelation_2 7 rfl rfl)
theorem dX7_readRelation_55 : decode cX7_readRelation 55 = .ok (.getfield 38, 3) := dk_180 0 38 (dk_at dksX7_readRelation_2 8 rfl rfl)
theorem dX7_readRelation_58 : decode cX7_readRelation 58 = .ok (.iload_n 3, 1) := dk_29 (dk_at dksX7_readRelation_2 11 rfl rfl)
theorem dX7_readRelation_59 : decode cX7_readRelation 59 = .ok (.iaload, 1) := dk_46 (dk_at dksX7_readRelation_2 12 rfl rfl)
theorem dX7_readRelation_60 : decode cX7_readRelation 60 = .ok (.aload_n 0, 1) := dk_42 (dk_at dksX7_readRelation_2 13 rfl rfl)
theorem dX7_readRelation_61 : decode cX7_readRelation 61 = .ok (.getfield 35, 3) := dk_180 0 35 (dk_at dksX7_readRelation_2 14 rfl rfl)
theorem dX7_readRelation_64 : decode cX7_readRelation 64 = .ok (.iload_n 3, 1) := dk_29 (dk_at dksX7_readRelation_2 17 rfl rfl)
theorem dX7_readRelation_65 : decode cX7_readRelation 65 = .ok (.iaload, 1) := dk_46 (dk_at dksX7_readRelation_2 18 rfl rfl)
theorem dX7_readRelation_66 : decode cX7_readRelation 66 = .ok (.if_icmp .ne 7, 3) := dk_160 0 7 (dk_at dksX7_readRelation_2 19 rfl rfl)
theorem dX7_readRelation_69 : decode cX7_readRelation 69 = .ok (.iconst 1, 1) := dk_4 (dk_at dksX7_readRelation_2 22 rfl rfl)
theorem dX7_readRelation_70 : decode cX7_readRelation 70 = .ok (.goto 4, 3) := dk_167 0 4 (dk_at dksX7_readRelation_3 0 rfl rfl)
theorem dX7_readRelation_73 : decode cX7_readRelation 73 = .ok (.iconst 0, 1) := dk_3 (dk_at dksX7_readRelation_3 3 rfl rfl)
theorem dX7_readRelation_74 : decode cX7_readRelation 74 = .ok (.istore 5, 2) := dk_54 5 (dk_at dksX7_readRelation_3 4 rfl rfl)
theorem dX7_readRelation_76 : decode cX7_readRelation 76 = .ok (.iload 5, 2) := dk_21 5 (dk_at dksX7_readRelation_3 6 rfl rfl)
theorem dX7_readRelation_78 : decode cX7_readRelation 78 = .ok (.ifCond .ne 12, 3) := dk_154 0 12 (dk_at dksX7_readRelation_3 8 rfl rfl)
theorem dX7_readRelation_81 : decode cX7_readRelation 81 = .ok (.aload_n 0, 1) := dk_42 (dk_at dksX7_readRelation_3 11 rfl rfl)
theorem dX7_readRelation_82 : decode cX7_readRelation 82 = .ok (.iconst 3, 1) := dk_6 (dk_at dksX7_readRelation_3 12 rfl rfl)
theorem dX7_readRelation_83 : decode cX7_readRelation 83 = .ok (.aload_n 0, 1) := dk_42 (dk_at dksX7_readRelation_3 13 rfl rfl)
theorem dX7_readRelation_84 : decode cX7_readRelation 84 = .ok (.getfield 211, 3) := dk_180 0 211 (dk_at dksX7_readRelation_3 14 rfl rfl)
theorem dX7_readRelation_87 : decode cX7_readRelation 87 = .ok (.invokevirtual 291, 3) := dk_182 1 35 (dk_at dksX7_readRelation_3 17 rfl rfl)
theorem dX7_readRelation_90 : decode cX7_readRelation 90 = .ok (.aload_n 0, 1) := dk_42 (dk_at dksX7_readRelation_3 20 rfl rfl)
theorem dX7_readRelation_91 : decode cX7_readRelation 91 = .ok (.getfield 99, 3) := dk_180 0 99 (dk_at dksX7_readRelation_3 21 rfl rfl)
theorem dX7_readRelation_94 : decode cX7_readRelation 94 = .ok (.iload_n 1, 1) := dk_27 (dk_at dksX7_readRelation_4 0 rfl rfl)
theorem dX7_readRelation_95 : decode cX7_readRelation 95 = .ok (.iload 4, 2) := dk_21 4 (dk_at dksX7_readRelation_4 1 rfl rfl)
theorem dX7_readRelation_97 : decode cX7_readRelation 97 = .ok (.ifCond .eq 12, 3) := dk_153 0 12 (dk_at dksX7_readRelation_4 3 rfl rfl)
theorem dX7_readRelation_100 : decode cX7_readRelation 100 = .ok (.aload_n 0, 1) := dk_42 (dk_at dksX7_readRelation_4 6 rfl rfl)
theorem dX7_readRelation_101 : decode cX7_readRelation 101 = .ok (.getfield 99, 3) := dk_180 0 99 (dk_at dksX7_readRelation_4 7 rfl rfl)
theorem dX7_readRelation_104 : decode cX7_readRelation 104 = .ok (.iload_n 1, 1) := dk_27 (dk_at dksX7_readRelation_4 10 rfl rfl)
theorem dX7_readRelation_105 : decode cX7_readRelation 105 = .ok (.iaload, 1) := dk_46 (dk_at dksX7_readRelation_4 11 rfl rfl)
theorem dX7_readRelation_106 : decode cX7_readRelation 106 = .ok (.goto 20, 3) := dk_167 0 20 (dk_at dksX7_readRelation_4 12 rfl rfl)
theorem dX7_readRelation_109 : decode cX7_readRelation 109 = .ok (.aload_n 0, 1) := dk_42 (dk_at dksX7_readRelation_4 15 rfl rfl)
theorem dX7_readRelation_110 : decode cX7_readRelation 110 = .ok (.getfield 38, 3) := dk_180 0 38 (dk_at dksX7_readRelation_4 16 rfl rfl)
theorem dX7_readRelation_113 : decode cX7_readRelation 113 = .ok (.iload_n 3, 1) := dk_29 (dk_at dksX7_readRelation_4 19 rfl rfl)
theorem dX7_readRelation_114 : decode cX7_readRelation 114 = .ok (.iaload, 1) := dk_46 (dk_at dksX7_readRelation_4 20 rfl rfl)
theorem dX7_readRelation_115 : decode cX7_readRelation 115 = .ok (.iconst (-1), 1) := dk_2 (dk_at dksX7_readRelation_4 21 rfl rfl)
theorem dX7_readRelation_116 : decode cX7_readRelation 116 = .ok (.if_icmp .ne 8, 3) := dk_160 0 8 (dk_at dksX7_readRelation_5 0 rfl rfl)
theorem dX7_readRelation_119 : decode cX7_readRelation 119 = .ok (.bipush 11, 2) := dk_16 11 (dk_at dksX7_readRelation_5 3 rfl rfl)
theorem dX7_readRelation_121 : decode cX7_readRelation 121 = .ok (.goto 5, 3) := dk_167 0 5 (dk_at dksX7_readRelation_5 5 rfl rfl)
theorem dX7_readRelation_124 : decode cX7_readRelation 124 = .ok (.bipush 12, 2) := dk_16 12 (dk_at dksX7_readRelation_5 8 rfl rfl)
theorem dX7_readRelation_126 : decode cX7_readRelation 126 = .ok (.iastore, 1) := dk_79 (dk_at dksX7_readRelation_5 10 rfl rfl)
theorem dX7_readRelation_127 : decode cX7_readRelation 127 = .ok (.aload_n 0, 1) := dk_42 (dk_at dksX7_readRelation_5 11 rfl rfl)
theorem dX7_readRelation_128 : decode cX7_readRelation 128 = .ok (.getfield 102, 3) := dk_180 0 102 (dk_at dksX7_readRelation_5 12 rfl rfl)
theorem dX7_readRelation_131 : decode cX7_readRelation 131 = .ok (.iload_n 1, 1) := dk_27 (dk_at dksX7_readRelation_5 15 rfl rfl)
theorem dX7_readRelation_132 : decode cX7_readRelation 132 = .ok (.iload_n 3, 1) := dk_29 (dk_at dksX7_readRelation_5 16 rfl rfl)
theorem dX7_readRelation_133 : decode cX7_readRelation 133 = .ok (.iastore, 1) := dk_79 (dk_at dksX7_readRelation_5 17 rfl rfl)
theorem dX7_readRelation_134 : decode cX7_readRelation 134 = .ok (.aload_n 0, 1) := dk_42 (dk_at dksX7_readRelation_5 18 rfl rfl)
theorem dX7_readRelation_135 : decode cX7_readRelation 135 = .ok (.invokevirtual 295, 3) := dk_182 1 39 (dk_at dksX7_readRelation_5 19 rfl rfl)
theorem dX7_readRelation_138 : decode cX7_readRelation 138 = .ok (.aload_n 0, 1) := dk_42 (dk_at dksX7_readRelation_5 22 rfl rfl)
theorem dX7_readRelation_139 : decode cX7_readRelation 139 = .ok (.getfield 99, 3) := dk_180 0 99 (dk_at dksX7_readRelation_6 0 rfl rfl)
theorem dX7_readRelation_142 : decode cX7_readRelation 142 = .ok (.iload_n 1, 1) := dk_27 (dk_at dksX7_readRelation_6 3 rfl rfl)
theorem dX7_readRelation_143 : decode cX7_readRelation 143 = .ok (.iaload, 1) := dk_46 (dk_at dksX7_readRelation_6 4 rfl rfl)
theorem dX7_readRelation_144 : decode cX7_readRelation 144 = .ok (.bipush 10, 2) := dk_16 10 (dk_at dksX7_readRelation_6 5 rfl rfl)
theorem dX7_readRelation_146 : decode cX7_readRelation 146 = .ok (.if_icmp .ne 5, 3) := dk_160 0 5 (dk_at dksX7_readRelation_6 7 rfl rfl)
theorem dX7_readRelation_149 : decode cX7_readRelation 149 = .ok (.iconst 1, 1) := dk_4 (dk_at dksX7_readRelation_6 10 rfl rfl)
theorem dX7_readRelation_150 : decode cX7_readRelation 150 = .ok (.ireturn, 1) := dk_172 (dk_at dksX7_readRelation_6 11 rfl rfl)
theorem dX7_readRelation_151 : decode cX7_readRelation 151 = .ok (.aload_n 0, 1) := dk_42 (dk_at dksX7_readRelation_6 12 rfl rfl)
theorem dX7_readRelation_152 : decode cX7_readRelation 152 = .ok (.getfield 105, 3) := dk_180 0 105 (dk_at dksX7_readRelation_6 13 rfl rfl)
theorem dX7_readRelation_155 : decode cX7_readRelation 155 = .ok (.iload_n 1, 1) := dk_27 (dk_at dksX7_readRelation_6 16 rfl rfl)
theorem dX7_readRelation_156 : decode cX7_readRelation 156 = .ok (.aload_n 0, 1) := dk_42 (dk_at dksX7_readRelation_6 17 rfl rfl)
theorem dX7_readRelation_157 : decode cX7_readRelation 157 = .ok (.iload_n 2, 1) := dk_28 (dk_at dksX7_readRelation_6 18 rfl rfl)
theorem dX7_readRelation_158 : decode cX7_readRelation 158 = .ok (.iload 5, 2) := dk_21 5 (dk_at dksX7_readRelation_6 19 rfl rfl)
theorem dX7_readRelation_160 : decode cX7_readRelation 160 = .ok (.ifCond .eq 12, 3) := dk_153 0 12 (dk_at dksX7_readRelation_6 21 rfl rfl)
theorem dX7_readRelation_163 : decode cX7_readRelation 163 = .ok (.aload_n 0, 1) := dk_42 (dk_at dksX7_readRelation_7 0 rfl rfl)
theorem dX7_readRelation_164 : decode cX7_readRelation 164 = .ok (.getfield 35, 3) := dk_180 0 35 (dk_at dksX7_readRelation_7 1 rfl rfl)
theorem dX7_readRelation_167 : decode cX7_readRelation 167 = .ok (.iload_n 3, 1) := dk_29 (dk_at dksX7_readRelation_7 4 rfl rfl)
theorem dX7_readRelation_168 : decode cX7_readRelation 168 = .ok (.iaload, 1) := dk_46 (dk_at dksX7_readRelation_7 5 rfl rfl)
theorem dX7_readRelation_169 : decode cX7_readRelation 169 = .ok (.goto 4, 3) := dk_167 0 4 (dk_at dksX7_readRelation_7 6 rfl rfl)
theorem dX7_readRelation_172 : decode cX7_readRelation 172 = .ok (.iconst (-1), 1) := dk_2 (dk_at dksX7_readRelation_7 9 rfl rfl)
theorem dX7_readRelation_173 : decode cX7_readRelation 173 = .ok (.invokevirtual 307, 3) := dk_182 1 51 (dk_at dksX7_readRelation_7 10 rfl rfl)
theorem dX7_readRelation_176 : decode cX7_readRelation 176 = .ok (.iastore, 1) := dk_79 (dk_at dksX7_readRelation_7 13 rfl rfl)
theorem dX7_readRelation_177 : decode cX7_readRelation 177 = .ok (.aload_n 0, 1) := dk_42 (dk_at dksX7_readRelation_7 14 rfl rfl)
theorem dX7_readRelation_178 : decode cX7_readRelation 178 = .ok (.getfield 105, 3) := dk_180 0 105 (dk_at dksX7_readRelation_7 15 rfl rfl)
theorem dX7_readRelation_181 : decode cX7_readRelation 181 = .ok (.iload_n 1, 1) := dk_27 (dk_at dksX7_readRelation_7 18 rfl rfl)
theorem dX7_readRelation_182 : decode cX7_readRelation 182 = .ok (.iaload, 1) := dk_46 (dk_at dksX7_readRelation_7 19 rfl rfl)
theorem dX7_readRelation_183 : decode cX7_readRelation 183 = .ok (.iconst (-1), 1) := dk_2 (dk_at dksX7_readRelation_7 20 rfl rfl)
theorem dX7_readRelation_184 : decode cX7_readRelation 184 = .ok (.if_icmp .eq 14, 3) := dk_159 0 14 (dk_at dksX7_readRelation_7 21 rfl rfl)
theorem dX7_readRelation_187 : decode cX7_readRelation 187 = .ok (.aload_n 0, 1) := dk_42 (dk_at dksX7_readRelation_8 0 rfl rfl)
theorem dX7_readRelation_188 : decode cX7_readRelation 188 = .ok (.getfield 99, 3) := dk_180 0 99 (dk_at dksX7_readRelation_8 1 rfl rfl)
theorem dX7_readRelation_191 : decode cX7_readRelation 191 = .ok (.iload_n 1, 1) := dk_27 (dk_at dksX7_readRelation_8 4 rfl rfl)
theorem dX7_readRelation_192 : decode cX7_readRelation 192 = .ok (.iaload, 1) := dk_46 (dk_at dksX7_readRelation_8 5 rfl rfl)
theorem dX7_readRelation_193 : decode cX7_readRelation 193 = .ok (.bipush 11, 2) := dk_16 11 (dk_at dksX7_readRelation_8 6 rfl rfl)
theorem dX7_readRelation_195 : decode cX7_readRelation 195 = .ok (.if_icmp .ne 19, 3) := dk_160 0 19 (dk_at dksX7_readRelation_8 8 rfl rfl)
theorem dX7_readRelation_198 : decode cX7_readRelation 198 = .ok (.aload_n 0, 1) := dk_42 (dk_at dksX7_readRelation_8 11 rfl rfl)
theorem dX7_readRelation_199 : decode cX7_readRelation 199 = .ok (.getfield 105, 3) := dk_180 0 105 (dk_at dksX7_readRelation_8 12 rfl rfl)
theorem dX7_readRelation_202 : decode cX7_readRelation 202 = .ok (.iload_n 1, 1) := dk_27 (dk_at dksX7_readRelation_8 15 rfl rfl)
theorem dX7_readRelation_203 : decode cX7_readRelation 203 = .ok (.iaload, 1) := dk_46 (dk_at dksX7_readRelation_8 16 rfl rfl)
theorem dX7_readRelation_204 : decode cX7_readRelation 204 = .ok (.iconst (-1), 1) := dk_2 (dk_at dksX7_readRelation_8 17 rfl rfl)
theorem dX7_readRelation_205 : decode cX7_readRelation 205 = .ok (.if_icmp .eq 7, 3) := dk_159 0 7 (dk_at dksX7_readRelation_8 18 rfl rfl)
theorem dX7_readRelation_208 : decode cX7_readRelation 208 = .ok (.iconst 1, 1) := dk_4 (dk_at dksX7_readRelation_8 21 rfl rfl)
theorem dX7_readRelation_209 : decode cX7_readRelation 209 = .ok (.goto 4, 3) := dk_167 0 4 (dk_at dksX7_readRelation_9 0 rfl rfl)
theorem dX7_readRelation_212 : decode cX7_readRelation 212 = .ok (.iconst 0, 1) := dk_3 (dk_at dksX7_readRelation_9 3 rfl rfl)
theorem dX7_readRelation_213 : decode cX7_readRelation 213 = .ok (.ireturn, 1) := dk_172 (dk_at dksX7_readRelation_9 4 rfl rfl)
theorem dX7_readRelation_214 : decode cX7_readRelation 214 = .ok (.aload_n 0, 1) := dk_42 (dk_at dksX7_readRelation_9 5 rfl rfl)
theorem dX7_readRelation_215 : decode cX7_readRelation 215 = .ok (.getfield 108, 3) := dk_180 0 108 (dk_at dksX7_readRelation_9 6 rfl rfl)
theorem dX7_readRelation_218 : decode cX7_readRelation 218 = .ok (.iload_n 1, 1) := dk_27 (dk_at dksX7_readRelation_9 9 rfl rfl)
theorem dX7_readRelation_219 : decode cX7_readRelation 219 = .ok (.aload_n 0, 1) := dk_42 (dk_at dksX7_readRelation_9 10 rfl rfl)
theorem dX7_readRelation_220 : decode cX7_readRelation 220 = .ok (.iload_n 2, 1) := dk_28 (dk_at dksX7_readRelation_9 11 rfl rfl)
theorem dX7_readRelation_221 : decode cX7_readRelation 221 = .ok (.iload 5, 2) := dk_21 5 (dk_at dksX7_readRelation_9 12 rfl rfl)
theorem dX7_readRelation_223 : decode cX7_readRelation 223 = .ok (.ifCond .eq 12, 3) := dk_153 0 12 (dk_at dksX7_readRelation_9 14 rfl rfl)
theorem dX7_readRelation_226 : decode cX7_readRelation 226 = .ok (.aload_n 0, 1) := dk_42 (dk_at dksX7_readRelation_9 17 rfl rfl)
theorem dX7_readRelation_227 : decode cX7_readRelation 227 = .ok (.getfield 38, 3) := dk_180 0 38 (dk_at dksX7_readRelation_9 18 rfl rfl)
theorem dX7_readRelation_230 : decode cX7_readRelation 230 = .ok (.iload_n 3, 1) := dk_29 (dk_at dksX7_readRelation_9 21 rfl rfl)
theorem dX7_readRelation_231 : decode cX7_readRelation 231 = .ok (.iaload, 1) := dk_46 (dk_at dksX7_readRelation_9 22 rfl rfl)
theorem dX7_readRelation_232 : decode cX7_readRelation 232 = .ok (.goto 4, 3) := dk_167 0 4 (dk_at dksX7_readRelation_10 0 rfl rfl)
theorem dX7_readRelation_235 : decode cX7_readRelation 235 = .ok (.iconst (-1), 1) := dk_2 (dk_at dksX7_readRelation_10 3 rfl rfl)
theorem dX7_readRelation_236 : decode cX7_readRelation 236 = .ok (.invokevirtual 307, 3) := dk_182 1 51 (dk_at dksX7_readRelation_10 4 rfl rfl)
theorem dX7_readRelation_239 : decode cX7_readRelation 239 = .ok (.iastore, 1) := dk_79 (dk_at dksX7_readRelation_10 7 rfl rfl)
theorem dX7_readRelation_240 : decode cX7_readRelation 240 = .ok (.aload_n 0, 1) := dk_42 (dk_at dksX7_readRelation_10 8 rfl rfl)
theorem dX7_readRelation_241 : decode cX7_readRelation 241 = .ok (.getfield 108, 3) := dk_180 0 108 (dk_at dksX7_readRelation_10 9 rfl rfl)
theorem dX7_readRelation_244 : decode cX7_readRelation 244 = .ok (.iload_n 1, 1) := dk_27 (dk_at dksX7_readRelation_10 12 rfl rfl)
theorem dX7_readRelation_245 : decode cX7_readRelation 245 = .ok (.iaload, 1) := dk_46 (dk_at dksX7_readRelation_10 13 rfl rfl)
theorem dX7_readRelation_246 : decode cX7_readRelation 246 = .ok (.iconst (-1), 1) := dk_2 (dk_at dksX7_readRelation_10 14 rfl rfl)
theorem dX7_readRelation_247 : decode cX7_readRelation 247 = .ok (.if_icmp .eq 7, 3) := dk_159 0 7 (dk_at dksX7_readRelation_10 15 rfl rfl)
theorem dX7_readRelation_250 : decode cX7_readRelation 250 = .ok (.iconst 1, 1) := dk_4 (dk_at dksX7_readRelation_10 18 rfl rfl)
theorem dX7_readRelation_251 : decode cX7_readRelation 251 = .ok (.goto 4, 3) := dk_167 0 4 (dk_at dksX7_readRelation_10 19 rfl rfl)
theorem dX7_readRelation_254 : decode cX7_readRelation 254 = .ok (.iconst 0, 1) := dk_3 (dk_at dksX7_readRelation_10 22 rfl rfl)
theorem dX7_readRelation_255 : decode cX7_readRelation 255 = .ok (.ireturn, 1) := dk_172 (dk_at dksX7_readRelation_10 23 rfl rfl)
abbrev cX7_relOf : ByteArray := prog_33_method_34_code
def yX7_relOf : MethodName := ⟨RX7, "relOf", "()I"⟩
def dkwX7_relOf_3 : List UInt8 := [167, 0, 4, 2, 172]
abbrev dktX7_relOf_3 : List UInt8 := dkwX7_relOf_3 ++ []
def dkwX7_relOf_2 : List UInt8 := [182, 0, 226, 153, 0, 7, 6, 167, 0, 4, 2, 60, 27, 42, 180, 0, 32, 3, 46, 162, 0, 7, 27]
abbrev dktX7_relOf_2 : List UInt8 := dkwX7_relOf_2 ++ dktX7_relOf_3
def dkwX7_relOf_1 : List UInt8 := [4, 167, 0, 32, 42, 20, 1, 12, 182, 0, 226, 153, 0, 7, 5, 167, 0, 18, 42, 20, 1, 14]
abbrev dktX7_relOf_1 : List UInt8 := dkwX7_relOf_1 ++ dktX7_relOf_2
def dkwX7_relOf_0 : List UInt8 := [42, 20, 1, 8, 182, 0, 226, 153, 0, 7, 3, 167, 0, 46, 42, 20, 1, 10, 182, 0, 226, 153, 0, 7]
abbrev dktX7_relOf_0 : List UInt8 := dkwX7_relOf_0 ++ dktX7_relOf_1
theorem dksX7_relOf_0 : cX7_relOf.data.toList.drop 0 = dktX7_relOf_0 := by decide +kernel
theorem dksX7_relOf_1 : cX7_relOf.data.toList.drop 24 = dktX7_relOf_1 := dk_seg dksX7_relOf_0 24 rfl rfl
theorem dksX7_relOf_2 : cX7_relOf.data.toList.drop 46 = dktX7_relOf_2 := dk_seg dksX7_relOf_1 22 rfl rfl
theorem dksX7_relOf_3 : cX7_relOf.data.toList.drop 69 = dktX7_relOf_3 := dk_seg dksX7_relOf_2 23 rfl rfl
theorem dX7_relOf_0 : decode cX7_relOf 0 = .ok (.aload_n 0, 1) := dk_42 (dk_at dksX7_relOf_0 0 rfl rfl)
theorem dX7_relOf_1 : decode cX7_relOf 1 = .ok (.ldc2_w 264, 3) := dk_20 1 8 (dk_at dksX7_relOf_0 1 rfl rfl)
theorem dX7_relOf_4 : decode cX7_relOf 4 = .ok (.invokevirtual 226, 3) := dk_182 0 226 (dk_at dksX7_relOf_0 4 rfl rfl)
theorem dX7_relOf_7 : decode cX7_relOf 7 = .ok (.ifCond .eq 7, 3) := dk_153 0 7 (dk_at dksX7_relOf_0 7 rfl rfl)
theorem dX7_relOf_10 : decode cX7_relOf 10 = .ok (.iconst 0, 1) := dk_3 (dk_at dksX7_relOf_0 10 rfl rfl)
theorem dX7_relOf_11 : decode cX7_relOf 11 = .ok (.goto 46, 3) := dk_167 0 46 (dk_at dksX7_relOf_0 11 rfl rfl)
theorem dX7_relOf_14 : decode cX7_relOf 14 = .ok (.aload_n 0, 1) := dk_42 (dk_at dksX7_relOf_0 14 rfl rfl)
theorem dX7_relOf_15 : decode cX7_relOf 15 = .ok (.ldc2_w 266, 3) := dk_20 1 10 (dk_at dksX7_relOf_0 15 rfl rfl)
theorem dX7_relOf_18 : decode cX7_relOf 18 = .ok (.invokevirtual 226, 3) := dk_182 0 226 (dk_at dksX7_relOf_0 18 rfl rfl)
theorem dX7_relOf_21 : decode cX7_relOf 21 = .ok (.ifCond .eq 7, 3) := dk_153 0 7 (dk_at dksX7_relOf_0 21 rfl rfl)
theorem dX7_relOf_24 : decode cX7_relOf 24 = .ok (.iconst 1, 1) := dk_4 (dk_at dksX7_relOf_1 0 rfl rfl)
theorem dX7_relOf_25 : decode cX7_relOf 25 = .ok (.goto 32, 3) := dk_167 0 32 (dk_at dksX7_relOf_1 1 rfl rfl)
theorem dX7_relOf_28 : decode cX7_relOf 28 = .ok (.aload_n 0, 1) := dk_42 (dk_at dksX7_relOf_1 4 rfl rfl)
theorem dX7_relOf_29 : decode cX7_relOf 29 = .ok (.ldc2_w 268, 3) := dk_20 1 12 (dk_at dksX7_relOf_1 5 rfl rfl)
theorem dX7_relOf_32 : decode cX7_relOf 32 = .ok (.invokevirtual 226, 3) := dk_182 0 226 (dk_at dksX7_relOf_1 8 rfl rfl)
theorem dX7_relOf_35 : decode cX7_relOf 35 = .ok (.ifCond .eq 7, 3) := dk_153 0 7 (dk_at dksX7_relOf_1 11 rfl rfl)
theorem dX7_relOf_38 : decode cX7_relOf 38 = .ok (.iconst 2, 1) := dk_5 (dk_at dksX7_relOf_1 14 rfl rfl)
theorem dX7_relOf_39 : decode cX7_relOf 39 = .ok (.goto 18, 3) := dk_167 0 18 (dk_at dksX7_relOf_1 15 rfl rfl)
theorem dX7_relOf_42 : decode cX7_relOf 42 = .ok (.aload_n 0, 1) := dk_42 (dk_at dksX7_relOf_1 18 rfl rfl)
theorem dX7_relOf_43 : decode cX7_relOf 43 = .ok (.ldc2_w 270, 3) := dk_20 1 14 (dk_at dksX7_relOf_1 19 rfl rfl)
theorem dX7_relOf_46 : decode cX7_relOf 46 = .ok (.invokevirtual 226, 3) := dk_182 0 226 (dk_at dksX7_relOf_2 0 rfl rfl)
theorem dX7_relOf_49 : decode cX7_relOf 49 = .ok (.ifCond .eq 7, 3) := dk_153 0 7 (dk_at dksX7_relOf_2 3 rfl rfl)
theorem dX7_relOf_52 : decode cX7_relOf 52 = .ok (.iconst 3, 1) := dk_6 (dk_at dksX7_relOf_2 6 rfl rfl)
theorem dX7_relOf_53 : decode cX7_relOf 53 = .ok (.goto 4, 3) := dk_167 0 4 (dk_at dksX7_relOf_2 7 rfl rfl)
theorem dX7_relOf_56 : decode cX7_relOf 56 = .ok (.iconst (-1), 1) := dk_2 (dk_at dksX7_relOf_2 10 rfl rfl)
theorem dX7_relOf_57 : decode cX7_relOf 57 = .ok (.istore_n 1, 1) := dk_60 (dk_at dksX7_relOf_2 11 rfl rfl)
theorem dX7_relOf_58 : decode cX7_relOf 58 = .ok (.iload_n 1, 1) := dk_27 (dk_at dksX7_relOf_2 12 rfl rfl)
theorem dX7_relOf_59 : decode cX7_relOf 59 = .ok (.aload_n 0, 1) := dk_42 (dk_at dksX7_relOf_2 13 rfl rfl)
theorem dX7_relOf_60 : decode cX7_relOf 60 = .ok (.getfield 32, 3) := dk_180 0 32 (dk_at dksX7_relOf_2 14 rfl rfl)
theorem dX7_relOf_63 : decode cX7_relOf 63 = .ok (.iconst 0, 1) := dk_3 (dk_at dksX7_relOf_2 17 rfl rfl)
theorem dX7_relOf_64 : decode cX7_relOf 64 = .ok (.iaload, 1) := dk_46 (dk_at dksX7_relOf_2 18 rfl rfl)
theorem dX7_relOf_65 : decode cX7_relOf 65 = .ok (.if_icmp .ge 7, 3) := dk_162 0 7 (dk_at dksX7_relOf_2 19 rfl rfl)
theorem dX7_relOf_68 : decode cX7_relOf 68 = .ok (.iload_n 1, 1) := dk_27 (dk_at dksX7_relOf_2 22 rfl rfl)
theorem dX7_relOf_69 : decode cX7_relOf 69 = .ok (.goto 4, 3) := dk_167 0 4 (dk_at dksX7_relOf_3 0 rfl rfl)
theorem dX7_relOf_72 : decode cX7_relOf 72 = .ok (.iconst (-1), 1) := dk_2 (dk_at dksX7_relOf_3 3 rfl rfl)
theorem dX7_relOf_73 : decode cX7_relOf 73 = .ok (.ireturn, 1) := dk_172 (dk_at dksX7_relOf_3 4 rfl rfl)
abbrev cX7_readVar : ByteArray := prog_33_method_38_code
def yX7_readVar : MethodName := ⟨RX7, "readVar", "(II)I"⟩
def dkwX7_readVar_2 : List UInt8 := [159, 0, 12, 42, 6, 42, 180, 0, 211, 182, 1, 35, 42, 182, 1, 39, 29, 172]
abbrev dktX7_readVar_2 : List UInt8 := dkwX7_readVar_2 ++ []
def dkwX7_readVar_1 : List UInt8 := [42, 5, 42, 180, 0, 211, 182, 1, 35, 167, 0, 26, 28, 2, 159, 0, 21, 27, 29, 184, 1, 31, 28]
abbrev dktX7_readVar_1 : List UInt8 := dkwX7_readVar_1 ++ dktX7_readVar_2
def dkwX7_readVar_0 : List UInt8 := [42, 182, 1, 25, 62, 29, 2, 160, 0, 8, 42, 182, 1, 28, 172, 27, 29, 184, 1, 31, 2, 160, 0, 15]
abbrev dktX7_readVar_0 : List UInt8 := dkwX7_readVar_0 ++ dktX7_readVar_1
theorem dksX7_readVar_0 : cX7_readVar.data.toList.drop 0 = dktX7_readVar_0 := by decide +kernel
theorem dksX7_readVar_1 : cX7_readVar.data.toList.drop 24 = dktX7_readVar_1 := dk_seg dksX7_readVar_0 24 rfl rfl
theorem dksX7_readVar_2 : cX7_readVar.data.toList.drop 47 = dktX7_readVar_2 := dk_seg dksX7_readVar_1 23 rfl rfl
theorem dX7_readVar_0 : decode cX7_readVar 0 = .ok (.aload_n 0, 1) := dk_42 (dk_at dksX7_readVar_0 0 rfl rfl)
theorem dX7_readVar_1 : decode cX7_readVar 1 = .ok (.invokevirtual 281, 3) := dk_182 1 25 (dk_at dksX7_readVar_0 1 rfl rfl)
theorem dX7_readVar_4 : decode cX7_readVar 4 = .ok (.istore_n 3, 1) := dk_62 (dk_at dksX7_readVar_0 4 rfl rfl)
theorem dX7_readVar_5 : decode cX7_readVar 5 = .ok (.iload_n 3, 1) := dk_29 (dk_at dksX7_readVar_0 5 rfl rfl)
theorem dX7_readVar_6 : decode cX7_readVar 6 = .ok (.iconst (-1), 1) := dk_2 (dk_at dksX7_readVar_0 6 rfl rfl)
theorem dX7_readVar_7 : decode cX7_readVar 7 = .ok (.if_icmp .ne 8, 3) := dk_160 0 8 (dk_at dksX7_readVar_0 7 rfl rfl)
theorem dX7_readVar_10 : decode cX7_readVar 10 = .ok (.aload_n 0, 1) := dk_42 (dk_at dksX7_readVar_0 10 rfl rfl)
theorem dX7_readVar_11 : decode cX7_readVar 11 = .ok (.invokevirtual 284, 3) := dk_182 1 28 (dk_at dksX7_readVar_0 11 rfl rfl)
theorem dX7_readVar_14 : decode cX7_readVar 14 = .ok (.ireturn, 1) := dk_172 (dk_at dksX7_readVar_0 14 rfl rfl)
theorem dX7_readVar_15 : decode cX7_readVar 15 = .ok (.iload_n 1, 1) := dk_27 (dk_at dksX7_readVar_0 15 rfl rfl)
theorem dX7_readVar_16 : decode cX7_readVar 16 = .ok (.iload_n 3, 1) := dk_29 (dk_at dksX7_readVar_0 16 rfl rfl)
theorem dX7_readVar_17 : decode cX7_readVar 17 = .ok (.invokestatic 287, 3) := dk_184 1 31 (dk_at dksX7_readVar_0 17 rfl rfl)
theorem dX7_readVar_20 : decode cX7_readVar 20 = .ok (.iconst (-1), 1) := dk_2 (dk_at dksX7_readVar_0 20 rfl rfl)
theorem dX7_readVar_21 : decode cX7_readVar 21 = .ok (.if_icmp .ne 15, 3) := dk_160 0 15 (dk_at dksX7_readVar_0 21 rfl rfl)
theorem dX7_readVar_24 : decode cX7_readVar 24 = .ok (.aload_n 0, 1) := dk_42 (dk_at dksX7_readVar_1 0 rfl rfl)
theorem dX7_readVar_25 : decode cX7_readVar 25 = .ok (.iconst 2, 1) := dk_5 (dk_at dksX7_readVar_1 1 rfl rfl)
theorem dX7_readVar_26 : decode cX7_readVar 26 = .ok (.aload_n 0, 1) := dk_42 (dk_at dksX7_readVar_1 2 rfl rfl)
theorem dX7_readVar_27 : decode cX7_readVar 27 = .ok (.getfield 211, 3) := dk_180 0 211 (dk_at dksX7_readVar_1 3 rfl rfl)
theorem dX7_readVar_30 : decode cX7_readVar 30 = .ok (.invokevirtual 291, 3) := dk_182 1 35 (dk_at dksX7_readVar_1 6 rfl rfl)
theorem dX7_readVar_33 : decode cX7_readVar 33 = .ok (.goto 26, 3) := dk_167 0 26 (dk_at dksX7_readVar_1 9 rfl rfl)
theorem dX7_readVar_36 : decode cX7_readVar 36 = .ok (.iload_n 2, 1) := dk_28 (dk_at dksX7_readVar_1 12 rfl rfl)
theorem dX7_readVar_37 : decode cX7_readVar 37 = .ok (.iconst (-1), 1) := dk_2 (dk_at dksX7_readVar_1 13 rfl rfl)
theorem dX7_readVar_38 : decode cX7_readVar 38 = .ok (.if_icmp .eq 21, 3) := dk_159 0 21 (dk_at dksX7_readVar_1 14 rfl rfl)
theorem dX7_readVar_41 : decode cX7_readVar 41 = .ok (.iload_n 1, 1) := dk_27 (dk_at dksX7_readVar_1 17 rfl rfl)
theorem dX7_readVar_42 : decode cX7_readVar 42 = .ok (.iload_n 3, 1) := dk_29 (dk_at dksX7_readVar_1 18 rfl rfl)
theorem dX7_readVar_43 : decode cX7_readVar 43 = .ok (.invokestatic 287, 3) := dk_184 1 31 (dk_at dksX7_readVar_1 19 rfl rfl)
theorem dX7_readVar_46 : decode cX7_readVar 46 = .ok (.iload_n 2, 1) := dk_28 (dk_at dksX7_readVar_1 22 rfl rfl)
theorem dX7_readVar_47 : decode cX7_readVar 47 = .ok (.if_icmp .eq 12, 3) := dk_159 0 12 (dk_at dksX7_readVar_2 0 rfl rfl)
theorem dX7_readVar_50 : decode cX7_readVar 50 = .ok (.aload_n 0, 1) := dk_42 (dk_at dksX7_readVar_2 3 rfl rfl)
theorem dX7_readVar_51 : decode cX7_readVar 51 = .ok (.iconst 3, 1) := dk_6 (dk_at dksX7_readVar_2 4 rfl rfl)
theorem dX7_readVar_52 : decode cX7_readVar 52 = .ok (.aload_n 0, 1) := dk_42 (dk_at dksX7_readVar_2 5 rfl rfl)
theorem dX7_readVar_53 : decode cX7_readVar 53 = .ok (.getfield 211, 3) := dk_180 0 211 (dk_at dksX7_readVar_2 6 rfl rfl)
theorem dX7_readVar_56 : decode cX7_readVar 56 = .ok (.invokevirtual 291, 3) := dk_182 1 35 (dk_at dksX7_readVar_2 9 rfl rfl)
theorem dX7_readVar_59 : decode cX7_readVar 59 = .ok (.aload_n 0, 1) := dk_42 (dk_at dksX7_readVar_2 12 rfl rfl)
theorem dX7_readVar_60 : decode cX7_readVar 60 = .ok (.invokevirtual 295, 3) := dk_182 1 39 (dk_at dksX7_readVar_2 13 rfl rfl)
theorem dX7_readVar_63 : decode cX7_readVar 63 = .ok (.iload_n 3, 1) := dk_29 (dk_at dksX7_readVar_2 16 rfl rfl)
theorem dX7_readVar_64 : decode cX7_readVar 64 = .ok (.ireturn, 1) := dk_172 (dk_at dksX7_readVar_2 17 rfl rfl)
abbrev cX7_varOf : ByteArray := prog_33_method_32_code
def yX7_varOf : MethodName := ⟨RX7, "varOf", "()I"⟩
def dkwX7_varOf_2 : List UInt8 := [182, 0, 226, 153, 0, 7, 6, 167, 0, 4, 2, 172]
abbrev dktX7_varOf_2 : List UInt8 := dkwX7_varOf_2 ++ []
def dkwX7_varOf_1 : List UInt8 := [4, 167, 0, 32, 42, 20, 0, 254, 182, 0, 226, 153, 0, 7, 5, 167, 0, 18, 42, 20, 1, 0]
abbrev dktX7_varOf_1 : List UInt8 := dkwX7_varOf_1 ++ dktX7_varOf_2
def dkwX7_varOf_0 : List UInt8 := [42, 20, 0, 250, 182, 0, 226, 153, 0, 7, 3, 167, 0, 46, 42, 20, 0, 252, 182, 0, 226, 153, 0, 7]
abbrev dktX7_varOf_0 : List UInt8 := dkwX7_varOf_0 ++ dktX7_varOf_1
theorem dksX7_varOf_0 : cX7_varOf.data.toList.drop 0 = dktX7_varOf_0 := by decide +kernel
theorem dksX7_varOf_1 : cX7_varOf.data.toList.drop 24 = dktX7_varOf_1 := dk_seg dksX7_varOf_0 24 rfl rfl
theorem dksX7_varOf_2 : cX7_varOf.data.toList.drop 46 = dktX7_varOf_2 := dk_seg dksX7_varOf_1 22 rfl rfl
theorem dX7_varOf_0 : decode cX7_varOf 0 = .ok (.aload_n 0, 1) := dk_42 (dk_at dksX7_varOf_0 0 rfl rfl)
theorem dX7_varOf_1 : decode cX7_varOf 1 = .ok (.ldc2_w 250, 3) := dk_20 0 250 (dk_at dksX7_varOf_0 1 rfl rfl)
theorem dX7_varOf_4 : decode cX7_varOf 4 = .ok (.invokevirtual 226, 3) := dk_182 0 226 (dk_at dksX7_varOf_0 4 rfl rfl)
theorem dX7_varOf_7 : decode cX7_varOf 7 = .ok (.ifCond .eq 7, 3) := dk_153 0 7 (dk_at dksX7_varOf_0 7 rfl rfl)
theorem dX7_varOf_10 : decode cX7_varOf 10 = .ok (.iconst 0, 1) := dk_3 (dk_at dksX7_varOf_0 10 rfl rfl)
theorem dX7_varOf_11 : decode cX7_varOf 11 = .ok (.goto 46, 3) := dk_167 0 46 (dk_at dksX7_varOf_0 11 rfl rfl)
theorem dX7_varOf_14 : decode cX7_varOf 14 = .ok (.aload_n 0, 1) := dk_42 (dk_at dksX7_varOf_0 14 rfl rfl)
theorem dX7_varOf_15 : decode cX7_varOf 15 = .ok (.ldc2_w 252, 3) := dk_20 0 252 (dk_at dksX7_varOf_0 15 rfl rfl)
theorem dX7_varOf_18 : decode cX7_varOf 18 = .ok (.invokevirtual 226, 3) := dk_182 0 226 (dk_at dksX7_varOf_0 18 rfl rfl)
theorem dX7_varOf_21 : decode cX7_varOf 21 = .ok (.ifCond .eq 7, 3) := dk_153 0 7 (dk_at dksX7_varOf_0 21 rfl rfl)
theorem dX7_varOf_24 : decode cX7_varOf 24 = .ok (.iconst 1, 1) := dk_4 (dk_at dksX7_varOf_1 0 rfl rfl)
theorem dX7_varOf_25 : decode cX7_varOf 25 = .ok (.goto 32, 3) := dk_167 0 32 (dk_at dksX7_varOf_1 1 rfl rfl)
theorem dX7_varOf_28 : decode cX7_varOf 28 = .ok (.aload_n 0, 1) := dk_42 (dk_at dksX7_varOf_1 4 rfl rfl)
theorem dX7_varOf_29 : decode cX7_varOf 29 = .ok (.ldc2_w 254, 3) := dk_20 0 254 (dk_at dksX7_varOf_1 5 rfl rfl)
theorem dX7_varOf_32 : decode cX7_varOf 32 = .ok (.invokevirtual 226, 3) := dk_182 0 226 (dk_at dksX7_varOf_1 8 rfl rfl)
theorem dX7_varOf_35 : decode cX7_varOf 35 = .ok (.ifCond .eq 7, 3) := dk_153 0 7 (dk_at dksX7_varOf_1 11 rfl rfl)
theorem dX7_varOf_38 : decode cX7_varOf 38 = .ok (.iconst 2, 1) := dk_5 (dk_at dksX7_varOf_1 14 rfl rfl)
theorem dX7_varOf_39 : decode cX7_varOf 39 = .ok (.goto 18, 3) := dk_167 0 18 (dk_at dksX7_varOf_1 15 rfl rfl)
theorem dX7_varOf_42 : decode cX7_varOf 42 = .ok (.aload_n 0, 1) := dk_42 (dk_at dksX7_varOf_1 18 rfl rfl)
theorem dX7_varOf_43 : decode cX7_varOf 43 = .ok (.ldc2_w 256, 3) := dk_20 1 0 (dk_at dksX7_varOf_1 19 rfl rfl)
theorem dX7_varOf_46 : decode cX7_varOf 46 = .ok (.invokevirtual 226, 3) := dk_182 0 226 (dk_at dksX7_varOf_2 0 rfl rfl)
theorem dX7_varOf_49 : decode cX7_varOf 49 = .ok (.ifCond .eq 7, 3) := dk_153 0 7 (dk_at dksX7_varOf_2 3 rfl rfl)
theorem dX7_varOf_52 : decode cX7_varOf 52 = .ok (.iconst 3, 1) := dk_6 (dk_at dksX7_varOf_2 6 rfl rfl)
theorem dX7_varOf_53 : decode cX7_varOf 53 = .ok (.goto 4, 3) := dk_167 0 4 (dk_at dksX7_varOf_2 7 rfl rfl)
theorem dX7_varOf_56 : decode cX7_varOf 56 = .ok (.iconst (-1), 1) := dk_2 (dk_at dksX7_varOf_2 10 rfl rfl)
theorem dX7_varOf_57 : decode cX7_varOf 57 = .ok (.ireturn, 1) := dk_172 (dk_at dksX7_varOf_2 11 rfl rfl)
abbrev cX7_wrong : ByteArray := prog_33_method_35_code
def yX7_wrong : MethodName := ⟨RX7, "wrong", "()I"⟩
def dkwX7_wrong_0 : List UInt8 := [42, 42, 180, 0, 211, 181, 1, 16, 2, 172]
abbrev dktX7_wrong_0 : List UInt8 := dkwX7_wrong_0 ++ []
theorem dksX7_wrong_0 : cX7_wrong.data.toList.drop 0 = dktX7_wrong_0 := by decide +kernel
theorem dX7_wrong_0 : decode cX7_wrong 0 = .ok (.aload_n 0, 1) := dk_42 (dk_at dksX7_wrong_0 0 rfl rfl)
theorem dX7_wrong_1 : decode cX7_wrong 1 = .ok (.aload_n 0, 1) := dk_42 (dk_at dksX7_wrong_0 1 rfl rfl)
theorem dX7_wrong_2 : decode cX7_wrong 2 = .ok (.getfield 211, 3) := dk_180 0 211 (dk_at dksX7_wrong_0 2 rfl rfl)
theorem dX7_wrong_5 : decode cX7_wrong 5 = .ok (.putfield 272, 3) := dk_181 1 16 (dk_at dksX7_wrong_0 5 rfl rfl)
theorem dX7_wrong_8 : decode cX7_wrong 8 = .ok (.iconst (-1), 1) := dk_2 (dk_at dksX7_wrong_0 8 rfl rfl)
theorem dX7_wrong_9 : decode cX7_wrong 9 = .ok (.ireturn, 1) := dk_172 (dk_at dksX7_wrong_0 9 rfl rfl)
abbrev cX7_bound : ByteArray := prog_33_method_37_code
def yX7_bound : MethodName := ⟨RX7, "bound", "(II)I"⟩
def dkwX7_bound_0 : List UInt8 := [26, 5, 27, 104, 122, 6, 126, 61, 28, 6, 160, 0, 7, 2, 167, 0, 4, 28, 172]
abbrev dktX7_bound_0 : List UInt8 := dkwX7_bound_0 ++ []
theorem dksX7_bound_0 : cX7_bound.data.toList.drop 0 = dktX7_bound_0 := by decide +kernel
theorem dX7_bound_0 : decode cX7_bound 0 = .ok (.iload_n 0, 1) := dk_26 (dk_at dksX7_bound_0 0 rfl rfl)
theorem dX7_bound_1 : decode cX7_bound 1 = .ok (.iconst 2, 1) := dk_5 (dk_at dksX7_bound_0 1 rfl rfl)
theorem dX7_bound_2 : decode cX7_bound 2 = .ok (.iload_n 1, 1) := dk_27 (dk_at dksX7_bound_0 2 rfl rfl)
theorem dX7_bound_3 : decode cX7_bound 3 = .ok (.imul, 1) := dk_104 (dk_at dksX7_bound_0 3 rfl rfl)
theorem dX7_bound_4 : decode cX7_bound 4 = .ok (.ishr, 1) := dk_122 (dk_at dksX7_bound_0 4 rfl rfl)
theorem dX7_bound_5 : decode cX7_bound 5 = .ok (.iconst 3, 1) := dk_6 (dk_at dksX7_bound_0 5 rfl rfl)
theorem dX7_bound_6 : decode cX7_bound 6 = .ok (.iand, 1) := dk_126 (dk_at dksX7_bound_0 6 rfl rfl)
theorem dX7_bound_7 : decode cX7_bound 7 = .ok (.istore_n 2, 1) := dk_61 (dk_at dksX7_bound_0 7 rfl rfl)
theorem dX7_bound_8 : decode cX7_bound 8 = .ok (.iload_n 2, 1) := dk_28 (dk_at dksX7_bound_0 8 rfl rfl)
theorem dX7_bound_9 : decode cX7_bound 9 = .ok (.iconst 3, 1) := dk_6 (dk_at dksX7_bound_0 9 rfl rfl)
theorem dX7_bound_10 : decode cX7_bound 10 = .ok (.if_icmp .ne 7, 3) := dk_160 0 7 (dk_at dksX7_bound_0 10 rfl rfl)
theorem dX7_bound_13 : decode cX7_bound 13 = .ok (.iconst (-1), 1) := dk_2 (dk_at dksX7_bound_0 13 rfl rfl)
theorem dX7_bound_14 : decode cX7_bound 14 = .ok (.goto 4, 3) := dk_167 0 4 (dk_at dksX7_bound_0 14 rfl rfl)
theorem dX7_bound_17 : decode cX7_bound 17 = .ok (.iload_n 2, 1) := dk_28 (dk_at dksX7_bound_0 17 rfl rfl)
theorem dX7_bound_18 : decode cX7_bound 18 = .ok (.ireturn, 1) := dk_172 (dk_at dksX7_bound_0 18 rfl rfl)
abbrev cX7_readBinder : ByteArray := prog_33_method_40_code
def yX7_readBinder : MethodName := ⟨RX7, "readBinder", "(II)Z"⟩
def dkwX7_readBinder_5 : List UInt8 := [29, 104, 120, 2, 130, 126, 21, 4, 5, 29, 104, 120, 128, 17, 1, 0, 96, 182, 1, 48, 4, 172]
abbrev dktX7_readBinder_5 : List UInt8 := dkwX7_readBinder_5 ++ []
def dkwX7_readBinder_4 : List UInt8 := [172, 42, 182, 1, 39, 42, 180, 0, 102, 27, 29, 79, 42, 180, 0, 105, 27, 21, 4, 79, 42, 28, 6, 5]
abbrev dktX7_readBinder_4 : List UInt8 := dkwX7_readBinder_4 ++ dktX7_readBinder_5
def dkwX7_readBinder_3 : List UInt8 := [182, 1, 39, 42, 182, 1, 45, 54, 4, 21, 4, 2, 160, 0, 13, 42, 42, 180, 0, 211, 181, 1, 16, 3]
abbrev dktX7_readBinder_3 : List UInt8 := dkwX7_readBinder_3 ++ dktX7_readBinder_4
def dkwX7_readBinder_2 : List UInt8 := [182, 1, 39, 42, 182, 1, 25, 62, 29, 2, 160, 0, 13, 42, 42, 180, 0, 211, 181, 1, 16, 3, 172, 42]
abbrev dktX7_readBinder_2 : List UInt8 := dkwX7_readBinder_2 ++ dktX7_readBinder_3
def dkwX7_readBinder_1 : List UInt8 := [159, 0, 13, 42, 42, 180, 0, 211, 181, 1, 16, 3, 172, 42, 180, 0, 108, 27, 42, 180, 0, 214, 79, 42]
abbrev dktX7_readBinder_1 : List UInt8 := dkwX7_readBinder_1 ++ dktX7_readBinder_2
def dkwX7_readBinder_0 : List UInt8 := [42, 180, 0, 108, 27, 3, 79, 42, 180, 0, 99, 27, 46, 5, 161, 0, 35, 42, 180, 0, 221, 6]
abbrev dktX7_readBinder_0 : List UInt8 := dkwX7_readBinder_0 ++ dktX7_readBinder_1
theorem dksX7_readBinder_0 : cX7_readBinder.data.toList.drop 0 = dktX7_readBinder_0 := by decide +kernel
theorem dksX7_readBinder_1 : cX7_readBinder.data.toList.drop 22 = dktX7_readBinder_1 := dk_seg dksX7_readBinder_0 22 rfl rfl
theorem dksX7_readBinder_2 : cX7_readBinder.data.toList.drop 46 = dktX7_readBinder_2 := dk_seg dksX7_readBinder_1 24 rfl rfl
theorem dksX7_readBinder_3 : cX7_readBinder.data.toList.drop 70 = dktX7_readBinder_3 := dk_seg dksX7_readBinder_2 24 rfl rfl
theorem dksX7_readBinder_4 : cX7_readBinder.data.toList.drop 94 = dktX7_readBinder_4 := dk_seg dksX7_readBinder_3 24 rfl rfl
theorem dksX7_readBinder_5 : cX7_readBinder.data.toList.drop 118 = dktX7_readBinder_5 := dk_seg dksX7_readBinder_4 24 rfl rfl
theorem dX7_readBinder_0 : decode cX7_readBinder 0 = .ok (.aload_n 0, 1) := dk_42 (dk_at dksX7_readBinder_0 0 rfl rfl)
theorem dX7_readBinder_1 : decode cX7_readBinder 1 = .ok (.getfield 108, 3) := dk_180 0 108 (dk_at dksX7_readBinder_0 1 rfl rfl)
theorem dX7_readBinder_4 : decode cX7_readBinder 4 = .ok (.iload_n 1, 1) := dk_27 (dk_at dksX7_readBinder_0 4 rfl rfl)
theorem dX7_readBinder_5 : decode cX7_readBinder 5 = .ok (.iconst 0, 1) := dk_3 (dk_at dksX7_readBinder_0 5 rfl rfl)
theorem dX7_readBinder_6 : decode cX7_readBinder 6 = .ok (.iastore, 1) := dk_79 (dk_at dksX7_readBinder_0 6 rfl rfl)
theorem dX7_readBinder_7 : decode cX7_readBinder 7 = .ok (.aload_n 0, 1) := dk_42 (dk_at dksX7_readBinder_0 7 rfl rfl)
theorem dX7_readBinder_8 : decode cX7_readBinder 8 = .ok (.getfield 99, 3) := dk_180 0 99 (dk_at dksX7_readBinder_0 8 rfl rfl)
theorem dX7_readBinder_11 : decode cX7_readBinder 11 = .ok (.iload_n 1, 1) := dk_27 (dk_at dksX7_readBinder_0 11 rfl rfl)
theorem dX7_readBinder_12 : decode cX7_readBinder 12 = .ok (.iaload, 1) := dk_46 (dk_at dksX7_readBinder_0 12 rfl rfl)
theorem dX7_readBinder_13 : decode cX7_readBinder 13 = .ok (.iconst 2, 1) := dk_5 (dk_at dksX7_readBinder_0 13 rfl rfl)
theorem dX7_readBinder_14 : decode cX7_readBinder 14 = .ok (.if_icmp .lt 35, 3) := dk_161 0 35 (dk_at dksX7_readBinder_0 14 rfl rfl)
theorem dX7_readBinder_17 : decode cX7_readBinder 17 = .ok (.aload_n 0, 1) := dk_42 (dk_at dksX7_readBinder_0 17 rfl rfl)
theorem dX7_readBinder_18 : decode cX7_readBinder 18 = .ok (.getfield 221, 3) := dk_180 0 221 (dk_at dksX7_readBinder_0 18 rfl rfl)
theorem dX7_readBinder_21 : decode cX7_readBinder 21 = .ok (.iconst 3, 1) := dk_6 (dk_at dksX7_readBinder_0 21 rfl rfl)
theorem dX7_readBinder_22 : decode cX7_readBinder 22 = .ok (.if_icmp .eq 13, 3) := dk_159 0 13 (dk_at dksX7_readBinder_1 0 rfl rfl)
theorem dX7_readBinder_25 : decode cX7_readBinder 25 = .ok (.aload_n 0, 1) := dk_42 (dk_at dksX7_readBinder_1 3 rfl rfl)
theorem dX7_readBinder_26 : decode cX7_readBinder 26 = .ok (.aload_n 0, 1) := dk_42 (dk_at dksX7_readBinder_1 4 rfl rfl)
theorem dX7_readBinder_27 : decode cX7_readBinder 27 = .ok (.getfield 211, 3) := dk_180 0 211 (dk_at dksX7_readBinder_1 5 rfl rfl)
theorem dX7_readBinder_30 : decode cX7_readBinder 30 = .ok (.putfield 272, 3) := dk_181 1 16 (dk_at dksX7_readBinder_1 8 rfl rfl)
theorem dX7_readBinder_33 : decode cX7_readBinder 33 = .ok (.iconst 0, 1) := dk_3 (dk_at dksX7_readBinder_1 11 rfl rfl)
theorem dX7_readBinder_34 : decode cX7_readBinder 34 = .ok (.ireturn, 1) := dk_172 (dk_at dksX7_readBinder_1 12 rfl rfl)
theorem dX7_readBinder_35 : decode cX7_readBinder 35 = .ok (.aload_n 0, 1) := dk_42 (dk_at dksX7_readBinder_1 13 rfl rfl)
theorem dX7_readBinder_36 : decode cX7_readBinder 36 = .ok (.getfield 108, 3) := dk_180 0 108 (dk_at dksX7_readBinder_1 14 rfl rfl)
theorem dX7_readBinder_39 : decode cX7_readBinder 39 = .ok (.iload_n 1, 1) := dk_27 (dk_at dksX7_readBinder_1 17 rfl rfl)
theorem dX7_readBinder_40 : decode cX7_readBinder 40 = .ok (.aload_n 0, 1) := dk_42 (dk_at dksX7_readBinder_1 18 rfl rfl)
theorem dX7_readBinder_41 : decode cX7_readBinder 41 = .ok (.getfield 214, 3) := dk_180 0 214 (dk_at dksX7_readBinder_1 19 rfl rfl)
theorem dX7_readBinder_44 : decode cX7_readBinder 44 = .ok (.iastore, 1) := dk_79 (dk_at dksX7_readBinder_1 22 rfl rfl)
theorem dX7_readBinder_45 : decode cX7_readBinder 45 = .ok (.aload_n 0, 1) := dk_42 (dk_at dksX7_readBinder_1 23 rfl rfl)
theorem dX7_readBinder_46 : decode cX7_readBinder 46 = .ok (.invokevirtual 295, 3) := dk_182 1 39 (dk_at dksX7_readBinder_2 0 rfl rfl)
theorem dX7_readBinder_49 : decode cX7_readBinder 49 = .ok (.aload_n 0, 1) := dk_42 (dk_at dksX7_readBinder_2 3 rfl rfl)
theorem dX7_readBinder_50 : decode cX7_readBinder 50 = .ok (.invokevirtual 281, 3) := dk_182 1 25 (dk_at dksX7_readBinder_2 4 rfl rfl)
theorem dX7_readBinder_53 : decode cX7_readBinder 53 = .ok (.istore_n 3, 1) := dk_62 (dk_at dksX7_readBinder_2 7 rfl rfl)
theorem dX7_readBinder_54 : decode cX7_readBinder 54 = .ok (.iload_n 3, 1) := dk_29 (dk_at dksX7_readBinder_2 8 rfl rfl)
theorem dX7_readBinder_55 : decode cX7_readBinder 55 = .ok (.iconst (-1), 1) := dk_2 (dk_at dksX7_readBinder_2 9 rfl rfl)
theorem dX7_readBinder_56 : decode cX7_readBinder 56 = .ok (.if_icmp .ne 13, 3) := dk_160 0 13 (dk_at dksX7_readBinder_2 10 rfl rfl)
theorem dX7_readBinder_59 : decode cX7_readBinder 59 = .ok (.aload_n 0, 1) := dk_42 (dk_at dksX7_readBinder_2 13 rfl rfl)
theorem dX7_readBinder_60 : decode cX7_readBinder 60 = .ok (.aload_n 0, 1) := dk_42 (dk_at dksX7_readBinder_2 14 rfl rfl)
theorem dX7_readBinder_61 : decode cX7_readBinder 61 = .ok (.getfield 211, 3) := dk_180 0 211 (dk_at dksX7_readBinder_2 15 rfl rfl)
theorem dX7_readBinder_64 : decode cX7_readBinder 64 = .ok (.putfield 272, 3) := dk_181 1 16 (dk_at dksX7_readBinder_2 18 rfl rfl)
theorem dX7_readBinder_67 : decode cX7_readBinder 67 = .ok (.iconst 0, 1) := dk_3 (dk_at dksX7_readBinder_2 21 rfl rfl)
theorem dX7_readBinder_68 : decode cX7_readBinder 68 = .ok (.ireturn, 1) := dk_172 (dk_at dksX7_readBinder_2 22 rfl rfl)
theorem dX7_readBinder_69 : decode cX7_readBinder 69 = .ok (.aload_n 0, 1) := dk_42 (dk_at dksX7_readBinder_2 23 rfl rfl)
theorem dX7_readBinder_70 : decode cX7_readBinder 70 = .ok (.invokevirtual 295, 3) := dk_182 1 39 (dk_at dksX7_readBinder_3 0 rfl rfl)
theorem dX7_readBinder_73 : decode cX7_readBinder 73 = .ok (.aload_n 0, 1) := dk_42 (dk_at dksX7_readBinder_3 3 rfl rfl)
theorem dX7_readBinder_74 : decode cX7_readBinder 74 = .ok (.invokevirtual 301, 3) := dk_182 1 45 (dk_at dksX7_readBinder_3 4 rfl rfl)
theorem dX7_readBinder_77 : decode cX7_readBinder 77 = .ok (.istore 4, 2) := dk_54 4 (dk_at dksX7_readBinder_3 7 rfl rfl)
theorem dX7_readBinder_79 : decode cX7_readBinder 79 = .ok (.iload 4, 2) := dk_21 4 (dk_at dksX7_readBinder_3 9 rfl rfl)
theorem dX7_readBinder_81 : decode cX7_readBinder 81 = .ok (.iconst (-1), 1) := dk_2 (dk_at dksX7_readBinder_3 11 rfl rfl)
theorem dX7_readBinder_82 : decode cX7_readBinder 82 = .ok (.if_icmp .ne 13, 3) := dk_160 0 13 (dk_at dksX7_readBinder_3 12 rfl rfl)
theorem dX7_readBinder_85 : decode cX7_readBinder 85 = .ok (.aload_n 0, 1) := dk_42 (dk_at dksX7_readBinder_3 15 rfl rfl)
theorem dX7_readBinder_86 : decode cX7_readBinder 86 = .ok (.aload_n 0, 1) := dk_42 (dk_at dksX7_readBinder_3 16 rfl rfl)
theorem dX7_readBinder_87 : decode cX7_readBinder 87 = .ok (.getfield 211, 3) := dk_180 0 211 (dk_at dksX7_readBinder_3 17 rfl rfl)
theorem dX7_readBinder_90 : decode cX7_readBinder 90 = .ok (.putfield 272, 3) := dk_181 1 16 (dk_at dksX7_readBinder_3 20 rfl rfl)
theorem dX7_readBinder_93 : decode cX7_readBinder 93 = .ok (.iconst 0, 1) := dk_3 (dk_at dksX7_readBinder_3 23 rfl rfl)
theorem dX7_readBinder_94 : decode cX7_readBinder 94 = .ok (.ireturn, 1) := dk_172 (dk_at dksX7_readBinder_4 0 rfl rfl)
theorem dX7_readBinder_95 : decode cX7_readBinder 95 = .ok (.aload_n 0, 1) := dk_42 (dk_at dksX7_readBinder_4 1 rfl rfl)
theorem dX7_readBinder_96 : decode cX7_readBinder 96 = .ok (.invokevirtual 295, 3) := dk_182 1 39 (dk_at dksX7_readBinder_4 2 rfl rfl)
theorem dX7_readBinder_99 : decode cX7_readBinder 99 = .ok (.aload_n 0, 1) := dk_42 (dk_at dksX7_readBinder_4 5 rfl rfl)
theorem dX7_readBinder_100 : decode cX7_readBinder 100 = .ok (.getfield 102, 3) := dk_180 0 102 (dk_at dksX7_readBinder_4 6 rfl rfl)
theorem dX7_readBinder_103 : decode cX7_readBinder 103 = .ok (.iload_n 1, 1) := dk_27 (dk_at dksX7_readBinder_4 9 rfl rfl)
theorem dX7_readBinder_104 : decode cX7_readBinder 104 = .ok (.iload_n 3, 1) := dk_29 (dk_at dksX7_readBinder_4 10 rfl rfl)
theorem dX7_readBinder_105 : decode cX7_readBinder 105 = .ok (.iastore, 1) := dk_79 (dk_at dksX7_readBinder_4 11 rfl rfl)
theorem dX7_readBinder_106 : decode cX7_readBinder 106 = .ok (.aload_n 0, 1) := dk_42 (dk_at dksX7_readBinder_4 12 rfl rfl)
theorem dX7_readBinder_107 : decode cX7_readBinder 107 = .ok (.getfield 105, 3) := dk_180 0 105 (dk_at dksX7_readBinder_4 13 rfl rfl)
theorem dX7_readBinder_110 : decode cX7_readBinder 110 = .ok (.iload_n 1, 1) := dk_27 (dk_at dksX7_readBinder_4 16 rfl rfl)
theorem dX7_readBinder_111 : decode cX7_readBinder 111 = .ok (.iload 4, 2) := dk_21 4 (dk_at dksX7_readBinder_4 17 rfl rfl)
theorem dX7_readBinder_113 : decode cX7_readBinder 113 = .ok (.iastore, 1) := dk_79 (dk_at dksX7_readBinder_4 19 rfl rfl)
theorem dX7_readBinder_114 : decode cX7_readBinder 114 = .ok (.aload_n 0, 1) := dk_42 (dk_at dksX7_readBinder_4 20 rfl rfl)
theorem dX7_readBinder_115 : decode cX7_readBinder 115 = .ok (.iload_n 2, 1) := dk_28 (dk_at dksX7_readBinder_4 21 rfl rfl)
theorem dX7_readBinder_116 : decode cX7_readBinder 116 = .ok (.iconst 3, 1) := dk_6 (dk_at dksX7_readBinder_4 22 rfl rfl)
theorem dX7_readBinder_117 : decode cX7_readBinder 117 = .ok (.iconst 2, 1) := dk_5 (dk_at dksX7_readBinder_4 23 rfl rfl)
theorem dX7_readBinder_118 : decode cX7_readBinder 118 = .ok (.iload_n 3, 1) := dk_29 (dk_at dksX7_readBinder_5 0 rfl rfl)
theorem dX7_readBinder_119 : decode cX7_readBinder 119 = .ok (.imul, 1) := dk_104 (dk_at dksX7_readBinder_5 1 rfl rfl)
theorem dX7_readBinder_120 : decode cX7_readBinder 120 = .ok (.ishl, 1) := dk_120 (dk_at dksX7_readBinder_5 2 rfl rfl)
theorem dX7_readBinder_121 : decode cX7_readBinder 121 = .ok (.iconst (-1), 1) := dk_2 (dk_at dksX7_readBinder_5 3 rfl rfl)
theorem dX7_readBinder_122 : decode cX7_readBinder 122 = .ok (.ixor, 1) := dk_130 (dk_at dksX7_readBinder_5 4 rfl rfl)
theorem dX7_readBinder_123 : decode cX7_readBinder 123 = .ok (.iand, 1) := dk_126 (dk_at dksX7_readBinder_5 5 rfl rfl)
theorem dX7_readBinder_124 : decode cX7_readBinder 124 = .ok (.iload 4, 2) := dk_21 4 (dk_at dksX7_readBinder_5 6 rfl rfl)
theorem dX7_readBinder_126 : decode cX7_readBinder 126 = .ok (.iconst 2, 1) := dk_5 (dk_at dksX7_readBinder_5 8 rfl rfl)
theorem dX7_readBinder_127 : decode cX7_readBinder 127 = .ok (.iload_n 3, 1) := dk_29 (dk_at dksX7_readBinder_5 9 rfl rfl)
theorem dX7_readBinder_128 : decode cX7_readBinder 128 = .ok (.imul, 1) := dk_104 (dk_at dksX7_readBinder_5 10 rfl rfl)
theorem dX7_readBinder_129 : decode cX7_readBinder 129 = .ok (.ishl, 1) := dk_120 (dk_at dksX7_readBinder_5 11 rfl rfl)
theorem dX7_readBinder_130 : decode cX7_readBinder 130 = .ok (.ior, 1) := dk_128 (dk_at dksX7_readBinder_5 12 rfl rfl)
theorem dX7_readBinder_131 : decode cX7_readBinder 131 = .ok (.sipush 256, 3) := dk_17 1 0 (dk_at dksX7_readBinder_5 13 rfl rfl)
theorem dX7_readBinder_134 : decode cX7_readBinder 134 = .ok (.iadd, 1) := dk_96 (dk_at dksX7_readBinder_5 16 rfl rfl)
theorem dX7_readBinder_135 : decode cX7_readBinder 135 = .ok (.invokevirtual 304, 3) := dk_182 1 48 (dk_at dksX7_readBinder_5 17 rfl rfl)
theorem dX7_readBinder_138 : decode cX7_readBinder 138 = .ok (.iconst 1, 1) := dk_4 (dk_at dksX7_readBinder_5 20 rfl rfl)
theorem dX7_readBinder_139 : decode cX7_readBinder 139 = .ok (.ireturn, 1) := dk_172 (dk_at dksX7_readBinder_5 21 rfl rfl)
abbrev cX7_kindOf : ByteArray := prog_33_method_33_code
def yX7_kindOf : MethodName := ⟨RX7, "kindOf", "()I"⟩
def dkwX7_kindOf_1 : List UInt8 := [4, 167, 0, 18, 42, 20, 1, 6, 182, 0, 226, 153, 0, 7, 5, 167, 0, 4, 2, 172]
abbrev dktX7_kindOf_1 : List UInt8 := dkwX7_kindOf_1 ++ []
def dkwX7_kindOf_0 : List UInt8 := [42, 20, 1, 2, 182, 0, 226, 153, 0, 7, 3, 167, 0, 32, 42, 20, 1, 4, 182, 0, 226, 153, 0, 7]
abbrev dktX7_kindOf_0 : List UInt8 := dkwX7_kindOf_0 ++ dktX7_kindOf_1
theorem dksX7_kindOf_0 : cX7_kindOf.data.toList.drop 0 = dktX7_kindOf_0 := by decide +kernel
theorem dksX7_kindOf_1 : cX7_kindOf.data.toList.drop 24 = dktX7_kindOf_1 := dk_seg dksX7_kindOf_0 24 rfl rfl
theorem dX7_kindOf_0 : decode cX7_kindOf 0 = .ok (.aload_n 0, 1) := dk_42 (dk_at dksX7_kindOf_0 0 rfl rfl)
theorem dX7_kindOf_1 : decode cX7_kindOf 1 = .ok (.ldc2_w 258, 3) := dk_20 1 2 (dk_at dksX7_kindOf_0 1 rfl rfl)
theorem dX7_kindOf_4 : decode cX7_kindOf 4 = .ok (.invokevirtual 226, 3) := dk_182 0 226 (dk_at dksX7_kindOf_0 4 rfl rfl)
theorem dX7_kindOf_7 : decode cX7_kindOf 7 = .ok (.ifCond .eq 7, 3) := dk_153 0 7 (dk_at dksX7_kindOf_0 7 rfl rfl)
theorem dX7_kindOf_10 : decode cX7_kindOf 10 = .ok (.iconst 0, 1) := dk_3 (dk_at dksX7_kindOf_0 10 rfl rfl)
theorem dX7_kindOf_11 : decode cX7_kindOf 11 = .ok (.goto 32, 3) := dk_167 0 32 (dk_at dksX7_kindOf_0 11 rfl rfl)
theorem dX7_kindOf_14 : decode cX7_kindOf 14 = .ok (.aload_n 0, 1) := dk_42 (dk_at dksX7_kindOf_0 14 rfl rfl)
theorem dX7_kindOf_15 : decode cX7_kindOf 15 = .ok (.ldc2_w 260, 3) := dk_20 1 4 (dk_at dksX7_kindOf_0 15 rfl rfl)
theorem dX7_kindOf_18 : decode cX7_kindOf 18 = .ok (.invokevirtual 226, 3) := dk_182 0 226 (dk_at dksX7_kindOf_0 18 rfl rfl)
theorem dX7_kindOf_21 : decode cX7_kindOf 21 = .ok (.ifCond .eq 7, 3) := dk_153 0 7 (dk_at dksX7_kindOf_0 21 rfl rfl)
theorem dX7_kindOf_24 : decode cX7_kindOf 24 = .ok (.iconst 1, 1) := dk_4 (dk_at dksX7_kindOf_1 0 rfl rfl)
theorem dX7_kindOf_25 : decode cX7_kindOf 25 = .ok (.goto 18, 3) := dk_167 0 18 (dk_at dksX7_kindOf_1 1 rfl rfl)
theorem dX7_kindOf_28 : decode cX7_kindOf 28 = .ok (.aload_n 0, 1) := dk_42 (dk_at dksX7_kindOf_1 4 rfl rfl)
theorem dX7_kindOf_29 : decode cX7_kindOf 29 = .ok (.ldc2_w 262, 3) := dk_20 1 6 (dk_at dksX7_kindOf_1 5 rfl rfl)
theorem dX7_kindOf_32 : decode cX7_kindOf 32 = .ok (.invokevirtual 226, 3) := dk_182 0 226 (dk_at dksX7_kindOf_1 8 rfl rfl)
theorem dX7_kindOf_35 : decode cX7_kindOf 35 = .ok (.ifCond .eq 7, 3) := dk_153 0 7 (dk_at dksX7_kindOf_1 11 rfl rfl)
theorem dX7_kindOf_38 : decode cX7_kindOf 38 = .ok (.iconst 2, 1) := dk_5 (dk_at dksX7_kindOf_1 14 rfl rfl)
theorem dX7_kindOf_39 : decode cX7_kindOf 39 = .ok (.goto 4, 3) := dk_167 0 4 (dk_at dksX7_kindOf_1 15 rfl rfl)
theorem dX7_kindOf_42 : decode cX7_kindOf 42 = .ok (.iconst (-1), 1) := dk_2 (dk_at dksX7_kindOf_1 18 rfl rfl)
theorem dX7_kindOf_43 : decode cX7_kindOf 43 = .ok (.ireturn, 1) := dk_172 (dk_at dksX7_kindOf_1 19 rfl rfl)
abbrev cX7_readSame : ByteArray := prog_33_method_41_code
def yX7_readSame : MethodName := ⟨RX7, "readSame", "(II)Z"⟩
def dkwX7_readSame_2 : List UInt8 := [180, 0, 105, 27, 46, 2, 159, 0, 7, 4, 167, 0, 4, 3, 172]
abbrev dktX7_readSame_2 : List UInt8 := dkwX7_readSame_2 ++ []
def dkwX7_readSame_1 : List UInt8 := [42, 180, 0, 105, 27, 42, 28, 28, 42, 180, 0, 102, 27, 46, 184, 1, 31, 182, 1, 51, 79, 42]
abbrev dktX7_readSame_1 : List UInt8 := dkwX7_readSame_1 ++ dktX7_readSame_2
def dkwX7_readSame_0 : List UInt8 := [42, 180, 0, 102, 27, 42, 28, 2, 182, 1, 51, 79, 42, 180, 0, 102, 27, 46, 2, 160, 0, 5, 3, 172]
abbrev dktX7_readSame_0 : List UInt8 := dkwX7_readSame_0 ++ dktX7_readSame_1
theorem dksX7_readSame_0 : cX7_readSame.data.toList.drop 0 = dktX7_readSame_0 := by decide +kernel
theorem dksX7_readSame_1 : cX7_readSame.data.toList.drop 24 = dktX7_readSame_1 := dk_seg dksX7_readSame_0 24 rfl rfl
theorem dksX7_readSame_2 : cX7_readSame.data.toList.drop 46 = dktX7_readSame_2 := dk_seg dksX7_readSame_1 22 rfl rfl
theorem dX7_readSame_0 : decode cX7_readSame 0 = .ok (.aload_n 0, 1) := dk_42 (dk_at dksX7_readSame_0 0 rfl rfl)
theorem dX7_readSame_1 : decode cX7_readSame 1 = .ok (.getfield 102, 3) := dk_180 0 102 (dk_at dksX7_readSame_0 1 rfl rfl)
theorem dX7_readSame_4 : decode cX7_readSame 4 = .ok (.iload_n 1, 1) := dk_27 (dk_at dksX7_readSame_0 4 rfl rfl)
theorem dX7_readSame_5 : decode cX7_readSame 5 = .ok (.aload_n 0, 1) := dk_42 (dk_at dksX7_readSame_0 5 rfl rfl)
theorem dX7_readSame_6 : decode cX7_readSame 6 = .ok (.iload_n 2, 1) := dk_28 (dk_at dksX7_readSame_0 6 rfl rfl)
theorem dX7_readSame_7 : decode cX7_readSame 7 = .ok (.iconst (-1), 1) := dk_2 (dk_at dksX7_readSame_0 7 rfl rfl)
theorem dX7_readSame_8 : decode cX7_readSame 8 = .ok (.invokevirtual 307, 3) := dk_182 1 51 (dk_at dksX7_readSame_0 8 rfl rfl)
theorem dX7_readSame_11 : decode cX7_readSame 11 = .ok (.iastore, 1) := dk_79 (dk_at dksX7_readSame_0 11 rfl rfl)
theorem dX7_readSame_12 : decode cX7_readSame 12 = .ok (.aload_n 0, 1) := dk_42 (dk_at dksX7_readSame_0 12 rfl rfl)
theorem dX7_readSame_13 : decode cX7_readSame 13 = .ok (.getfield 102, 3) := dk_180 0 102 (dk_at dksX7_readSame_0 13 rfl rfl)
theorem dX7_readSame_16 : decode cX7_readSame 16 = .ok (.iload_n 1, 1) := dk_27 (dk_at dksX7_readSame_0 16 rfl rfl)
theorem dX7_readSame_17 : decode cX7_readSame 17 = .ok (.iaload, 1) := dk_46 (dk_at dksX7_readSame_0 17 rfl rfl)
theorem dX7_readSame_18 : decode cX7_readSame 18 = .ok (.iconst (-1), 1) := dk_2 (dk_at dksX7_readSame_0 18 rfl rfl)
theorem dX7_readSame_19 : decode cX7_readSame 19 = .ok (.if_icmp .ne 5, 3) := dk_160 0 5 (dk_at dksX7_readSame_0 19 rfl rfl)
theorem dX7_readSame_22 : decode cX7_readSame 22 = .ok (.iconst 0, 1) := dk_3 (dk_at dksX7_readSame_0 22 rfl rfl)
theorem dX7_readSame_23 : decode cX7_readSame 23 = .ok (.ireturn, 1) := dk_172 (dk_at dksX7_readSame_0 23 rfl rfl)
theorem dX7_readSame_24 : decode cX7_readSame 24 = .ok (.aload_n 0, 1) := dk_42 (dk_at dksX7_readSame_1 0 rfl rfl)
theorem dX7_readSame_25 : decode cX7_readSame 25 = .ok (.getfield 105, 3) := dk_180 0 105 (dk_at dksX7_readSame_1 1 rfl rfl)
theorem dX7_readSame_28 : decode cX7_readSame 28 = .ok (.iload_n 1, 1) := dk_27 (dk_at dksX7_readSame_1 4 rfl rfl)
theorem dX7_readSame_29 : decode cX7_readSame 29 = .ok (.aload_n 0, 1) := dk_42 (dk_at dksX7_readSame_1 5 rfl rfl)
theorem dX7_readSame_30 : decode cX7_readSame 30 = .ok (.iload_n 2, 1) := dk_28 (dk_at dksX7_readSame_1 6 rfl rfl)
theorem dX7_readSame_31 : decode cX7_readSame 31 = .ok (.iload_n 2, 1) := dk_28 (dk_at dksX7_readSame_1 7 rfl rfl)
theorem dX7_readSame_32 : decode cX7_readSame 32 = .ok (.aload_n 0, 1) := dk_42 (dk_at dksX7_readSame_1 8 rfl rfl)
theorem dX7_readSame_33 : decode cX7_readSame 33 = .ok (.getfield 102, 3) := dk_180 0 102 (dk_at dksX7_readSame_1 9 rfl rfl)
theorem dX7_readSame_36 : decode cX7_readSame 36 = .ok (.iload_n 1, 1) := dk_27 (dk_at dksX7_readSame_1 12 rfl rfl)
theorem dX7_readSame_37 : decode cX7_readSame 37 = .ok (.iaload, 1) := dk_46 (dk_at dksX7_readSame_1 13 rfl rfl)
theorem dX7_readSame_38 : decode cX7_readSame 38 = .ok (.invokestatic 287, 3) := dk_184 1 31 (dk_at dksX7_readSame_1 14 rfl rfl)
theorem dX7_readSame_41 : decode cX7_readSame 41 = .ok (.invokevirtual 307, 3) := dk_182 1 51 (dk_at dksX7_readSame_1 17 rfl rfl)
theorem dX7_readSame_44 : decode cX7_readSame 44 = .ok (.iastore, 1) := dk_79 (dk_at dksX7_readSame_1 20 rfl rfl)
theorem dX7_readSame_45 : decode cX7_readSame 45 = .ok (.aload_n 0, 1) := dk_42 (dk_at dksX7_readSame_1 21 rfl rfl)
theorem dX7_readSame_46 : decode cX7_readSame 46 = .ok (.getfield 105, 3) := dk_180 0 105 (dk_at dksX7_readSame_2 0 rfl rfl)
theorem dX7_readSame_49 : decode cX7_readSame 49 = .ok (.iload_n 1, 1) := dk_27 (dk_at dksX7_readSame_2 3 rfl rfl)
theorem dX7_readSame_50 : decode cX7_readSame 50 = .ok (.iaload, 1) := dk_46 (dk_at dksX7_readSame_2 4 rfl rfl)
theorem dX7_readSame_51 : decode cX7_readSame 51 = .ok (.iconst (-1), 1) := dk_2 (dk_at dksX7_readSame_2 5 rfl rfl)
theorem dX7_readSame_52 : decode cX7_readSame 52 = .ok (.if_icmp .eq 7, 3) := dk_159 0 7 (dk_at dksX7_readSame_2 6 rfl rfl)
theorem dX7_readSame_55 : decode cX7_readSame 55 = .ok (.iconst 1, 1) := dk_4 (dk_at dksX7_readSame_2 9 rfl rfl)
theorem dX7_readSame_56 : decode cX7_readSame 56 = .ok (.goto 4, 3) := dk_167 0 4 (dk_at dksX7_readSame_2 10 rfl rfl)
theorem dX7_readSame_59 : decode cX7_readSame 59 = .ok (.iconst 0, 1) := dk_3 (dk_at dksX7_readSame_2 13 rfl rfl)
theorem dX7_readSame_60 : decode cX7_readSame 60 = .ok (.ireturn, 1) := dk_172 (dk_at dksX7_readSame_2 14 rfl rfl)
abbrev cX7_keepText : ByteArray := prog_33_method_45_code
def yX7_keepText : MethodName := ⟨RX7, "keepText", "(I)V"⟩
def dkwX7_keepText_3 : List UInt8 := [180, 0, 66, 16, 40, 27, 104, 28, 96, 42, 180, 0, 108, 28, 46, 79, 132, 2, 1, 167, 255, 177, 177]
abbrev dktX7_keepText_3 : List UInt8 := dkwX7_keepText_3 ++ []
def dkwX7_keepText_2 : List UInt8 := [180, 0, 102, 28, 46, 79, 42, 180, 0, 63, 16, 40, 27, 104, 28, 96, 42, 180, 0, 105, 28, 46, 79, 42]
abbrev dktX7_keepText_2 : List UInt8 := dkwX7_keepText_2 ++ dktX7_keepText_3
def dkwX7_keepText_1 : List UInt8 := [16, 40, 27, 104, 28, 96, 42, 180, 0, 99, 28, 46, 79, 42, 180, 0, 60, 16, 40, 27, 104, 28, 96, 42]
abbrev dktX7_keepText_1 : List UInt8 := dkwX7_keepText_1 ++ dktX7_keepText_2
def dkwX7_keepText_0 : List UInt8 := [42, 180, 0, 54, 27, 42, 180, 1, 57, 79, 3, 61, 28, 42, 180, 1, 57, 162, 0, 77, 42, 180, 0, 57]
abbrev dktX7_keepText_0 : List UInt8 := dkwX7_keepText_0 ++ dktX7_keepText_1
theorem dksX7_keepText_0 : cX7_keepText.data.toList.drop 0 = dktX7_keepText_0 := by decide +kernel
theorem dksX7_keepText_1 : cX7_keepText.data.toList.drop 24 = dktX7_keepText_1 := dk_seg dksX7_keepText_0 24 rfl rfl
theorem dksX7_keepText_2 : cX7_keepText.data.toList.drop 48 = dktX7_keepText_2 := dk_seg dksX7_keepText_1 24 rfl rfl
theorem dksX7_keepText_3 : cX7_keepText.data.toList.drop 72 = dktX7_keepText_3 := dk_seg dksX7_keepText_2 24 rfl rfl
theorem dX7_keepText_0 : decode cX7_keepText 0 = .ok (.aload_n 0, 1) := dk_42 (dk_at dksX7_keepText_0 0 rfl rfl)
theorem dX7_keepText_1 : decode cX7_keepText 1 = .ok (.getfield 54, 3) := dk_180 0 54 (dk_at dksX7_keepText_0 1 rfl rfl)
theorem dX7_keepText_4 : decode cX7_keepText 4 = .ok (.iload_n 1, 1) := dk_27 (dk_at dksX7_keepText_0 4 rfl rfl)
theorem dX7_keepText_5 : decode cX7_keepText 5 = .ok (.aload_n 0, 1) := dk_42 (dk_at dksX7_keepText_0 5 rfl rfl)
theorem dX7_keepText_6 : decode cX7_keepText 6 = .ok (.getfield 313, 3) := dk_180 1 57 (dk_at dksX7_keepText_0 6 rfl rfl)
theorem dX7_keepText_9 : decode cX7_keepText 9 = .ok (.iastore, 1) := dk_79 (dk_at dksX7_keepText_0 9 rfl rfl)
theorem dX7_keepText_10 : decode cX7_keepText 10 = .ok (.iconst 0, 1) := dk_3 (dk_at dksX7_keepText_0 10 rfl rfl)
theorem dX7_keepText_11 : decode cX7_keepText 11 = .ok (.istore_n 2, 1) := dk_61 (dk_at dksX7_keepText_0 11 rfl rfl)
theorem dX7_keepText_12 : decode cX7_keepText 12 = .ok (.iload_n 2, 1) := dk_28 (dk_at dksX7_keepText_0 12 rfl rfl)
theorem dX7_keepText_13 : decode cX7_keepText 13 = .ok (.aload_n 0, 1) := dk_42 (dk_at dksX7_keepText_0 13 rfl rfl)
theorem dX7_keepText_14 : decode cX7_keepText 14 = .ok (.getfield 313, 3) := dk_180 1 57 (dk_at dksX7_keepText_0 14 rfl rfl)
theorem dX7_keepText_17 : decode cX7_keepText 17 = .ok (.if_icmp .ge 77, 3) := dk_162 0 77 (dk_at dksX7_keepText_0 17 rfl rfl)
theorem dX7_keepText_20 : decode cX7_keepText 20 = .ok (.aload_n 0, 1) := dk_42 (dk_at dksX7_keepText_0 20 rfl rfl)
theorem dX7_keepText_21 : decode cX7_keepText 21 = .ok (.getfield 57, 3) := dk_180 0 57 (dk_at dksX7_keepText_0 21 rfl rfl)
theorem dX7_keepText_24 : decode cX7_keepText 24 = .ok (.bipush 40, 2) := dk_16 40 (dk_at dksX7_keepText_1 0 rfl rfl)
theorem dX7_keepText_26 : decode cX7_keepText 26 = .ok (.iload_n 1, 1) := dk_27 (dk_at dksX7_keepText_1 2 rfl rfl)
theorem dX7_keepText_27 : decode cX7_keepText 27 = .ok (.imul, 1) := dk_104 (dk_at dksX7_keepText_1 3 rfl rfl)
theorem dX7_keepText_28 : decode cX7_keepText 28 = .ok (.iload_n 2, 1) := dk_28 (dk_at dksX7_keepText_1 4 rfl rfl)
theorem dX7_keepText_29 : decode cX7_keepText 29 = .ok (.iadd, 1) := dk_96 (dk_at dksX7_keepText_1 5 rfl rfl)
theorem dX7_keepText_30 : decode cX7_keepText 30 = .ok (.aload_n 0, 1) := dk_42 (dk_at dksX7_keepText_1 6 rfl rfl)
theorem dX7_keepText_31 : decode cX7_keepText 31 = .ok (.getfield 99, 3) := dk_180 0 99 (dk_at dksX7_keepText_1 7 rfl rfl)
theorem dX7_keepText_34 : decode cX7_keepText 34 = .ok (.iload_n 2, 1) := dk_28 (dk_at dksX7_keepText_1 10 rfl rfl)
theorem dX7_keepText_35 : decode cX7_keepText 35 = .ok (.iaload, 1) := dk_46 (dk_at dksX7_keepText_1 11 rfl rfl)
theorem dX7_keepText_36 : decode cX7_keepText 36 = .ok (.iastore, 1) := dk_79 (dk_at dksX7_keepText_1 12 rfl rfl)
theorem dX7_keepText_37 : decode cX7_keepText 37 = .ok (.aload_n 0, 1) := dk_42 (dk_at dksX7_keepText_1 13 rfl rfl)
theorem dX7_keepText_38 : decode cX7_keepText 38 = .ok (.getfield 60, 3) := dk_180 0 60 (dk_at dksX7_keepText_1 14 rfl rfl)
theorem dX7_keepText_41 : decode cX7_keepText 41 = .ok (.bipush 40, 2) := dk_16 40 (dk_at dksX7_keepText_1 17 rfl rfl)
theorem dX7_keepText_43 : decode cX7_keepText 43 = .ok (.iload_n 1, 1) := dk_27 (dk_at dksX7_keepText_1 19 rfl rfl)
theorem dX7_keepText_44 : decode cX7_keepText 44 = .ok (.imul, 1) := dk_104 (dk_at dksX7_keepText_1 20 rfl rfl)
theorem dX7_keepText_45 : decode cX7_keepText 45 = .ok (.iload_n 2, 1) := dk_28 (dk_at dksX7_keepText_1 21 rfl rfl)
theorem dX7_keepText_46 : decode cX7_keepText 46 = .ok (.iadd, 1) := dk_96 (dk_at dksX7_keepText_1 22 rfl rfl)
theorem dX7_keepText_47 : decode cX7_keepText 47 = .ok (.aload_n 0, 1) := dk_42 (dk_at dksX7_keepText_1 23 rfl rfl)
theorem dX7_keepText_48 : decode cX7_keepText 48 = .ok (.getfield 102, 3) := dk_180 0 102 (dk_at dksX7_keepText_2 0 rfl rfl)
theorem dX7_keepText_51 : decode cX7_keepText 51 = .ok (.iload_n 2, 1) := dk_28 (dk_at dksX7_keepText_2 3 rfl rfl)
theorem dX7_keepText_52 : decode cX7_keepText 52 = .ok (.iaload, 1) := dk_46 (dk_at dksX7_keepText_2 4 rfl rfl)
theorem dX7_keepText_53 : decode cX7_keepText 53 = .ok (.iastore, 1) := dk_79 (dk_at dksX7_keepText_2 5 rfl rfl)
theorem dX7_keepText_54 : decode cX7_keepText 54 = .ok (.aload_n 0, 1) := dk_42 (dk_at dksX7_keepText_2 6 rfl rfl)
theorem dX7_keepText_55 : decode cX7_keepText 55 = .ok (.getfield 63, 3) := dk_180 0 63 (dk_at dksX7_keepText_2 7 rfl rfl)
theorem dX7_keepText_58 : decode cX7_keepText 58 = .ok (.bipush 40, 2) := dk_16 40 (dk_at dksX7_keepText_2 10 rfl rfl)
theorem dX7_keepText_60 : decode cX7_keepText 60 = .ok (.iload_n 1, 1) := dk_27 (dk_at dksX7_keepText_2 12 rfl rfl)
theorem dX7_keepText_61 : decode cX7_keepText 61 = .ok (.imul, 1) := dk_104 (dk_at dksX7_keepText_2 13 rfl rfl)
theorem dX7_keepText_62 : decode cX7_keepText 62 = .ok (.iload_n 2, 1) := dk_28 (dk_at dksX7_keepText_2 14 rfl rfl)
theorem dX7_keepText_63 : decode cX7_keepText 63 = .ok (.iadd, 1) := dk_96 (dk_at dksX7_keepText_2 15 rfl rfl)
theorem dX7_keepText_64 : decode cX7_keepText 64 = .ok (.aload_n 0, 1) := dk_42 (dk_at dksX7_keepText_2 16 rfl rfl)
theorem dX7_keepText_65 : decode cX7_keepText 65 = .ok (.getfield 105, 3) := dk_180 0 105 (dk_at dksX7_keepText_2 17 rfl rfl)
theorem dX7_keepText_68 : decode cX7_keepText 68 = .ok (.iload_n 2, 1) := dk_28 (dk_at dksX7_keepText_2 20 rfl rfl)
theorem dX7_keepText_69 : decode cX7_keepText 69 = .ok (.iaload, 1) := dk_46 (dk_at dksX7_keepText_2 21 rfl rfl)
theorem dX7_keepText_70 : decode cX7_keepText 70 = .ok (.iastore, 1) := dk_79 (dk_at dksX7_keepText_2 22 rfl rfl)
theorem dX7_keepText_71 : decode cX7_keepText 71 = .ok (.aload_n 0, 1) := dk_42 (dk_at dksX7_keepText_2 23 rfl rfl)
theorem dX7_keepText_72 : decode cX7_keepText 72 = .ok (.getfield 66, 3) := dk_180 0 66 (dk_at dksX7_keepText_3 0 rfl rfl)
theorem dX7_keepText_75 : decode cX7_keepText 75 = .ok (.bipush 40, 2) := dk_16 40 (dk_at dksX7_keepText_3 3 rfl rfl)
theorem dX7_keepText_77 : decode cX7_keepText 77 = .ok (.iload_n 1, 1) := dk_27 (dk_at dksX7_keepText_3 5 rfl rfl)
theorem dX7_keepText_78 : decode cX7_keepText 78 = .ok (.imul, 1) := dk_104 (dk_at dksX7_keepText_3 6 rfl rfl)
theorem dX7_keepText_79 : decode cX7_keepText 79 = .ok (.iload_n 2, 1) := dk_28 (dk_at dksX7_keepText_3 7 rfl rfl)
theorem dX7_keepText_80 : decode cX7_keepText 80 = .ok (.iadd, 1) := dk_96 (dk_at dksX7_keepText_3 8 rfl rfl)
theorem dX7_keepText_81 : decode cX7_keepText 81 = .ok (.aload_n 0, 1) := dk_42 (dk_at dksX7_keepText_3 9 rfl rfl)
theorem dX7_keepText_82 : decode cX7_keepText 82 = .ok (.getfield 108, 3) := dk_180 0 108 (dk_at dksX7_keepText_3 10 rfl rfl)
theorem dX7_keepText_85 : decode cX7_keepText 85 = .ok (.iload_n 2, 1) := dk_28 (dk_at dksX7_keepText_3 13 rfl rfl)
theorem dX7_keepText_86 : decode cX7_keepText 86 = .ok (.iaload, 1) := dk_46 (dk_at dksX7_keepText_3 14 rfl rfl)
theorem dX7_keepText_87 : decode cX7_keepText 87 = .ok (.iastore, 1) := dk_79 (dk_at dksX7_keepText_3 15 rfl rfl)
theorem dX7_keepText_88 : decode cX7_keepText 88 = .ok (.iinc 2 1, 3) := dk_132 2 1 (dk_at dksX7_keepText_3 16 rfl rfl)
theorem dX7_keepText_91 : decode cX7_keepText 91 = .ok (.goto (-79), 3) := dk_167 255 177 (dk_at dksX7_keepText_3 19 rfl rfl)
theorem dX7_keepText_94 : decode cX7_keepText 94 = .ok (.return_, 1) := dk_177 (dk_at dksX7_keepText_3 22 rfl rfl)
abbrev cX7_guess : ByteArray := prog_33_method_47_code
def yX7_guess : MethodName := ⟨RX7, "guess", "()I"⟩
def dkwX7_guess_1 : List UInt8 := [172]
abbrev dktX7_guess_1 : List UInt8 := dkwX7_guess_1 ++ []
def dkwX7_guess_0 : List UInt8 := [42, 3, 181, 0, 142, 42, 182, 1, 76, 154, 0, 5, 2, 172, 42, 16, 8, 182, 1, 79, 42, 180, 1, 57]
abbrev dktX7_guess_0 : List UInt8 := dkwX7_guess_0 ++ dktX7_guess_1
theorem dksX7_guess_0 : cX7_guess.data.toList.drop 0 = dktX7_guess_0 := by decide +kernel
theorem dksX7_guess_1 : cX7_guess.data.toList.drop 24 = dktX7_guess_1 := dk_seg dksX7_guess_0 24 rfl rfl
theorem dX7_guess_0 : decode cX7_guess 0 = .ok (.aload_n 0, 1) := dk_42 (dk_at dksX7_guess_0 0 rfl rfl)
theorem dX7_guess_1 : decode cX7_guess 1 = .ok (.iconst 0, 1) := dk_3 (dk_at dksX7_guess_0 1 rfl rfl)
theorem dX7_guess_2 : decode cX7_guess 2 = .ok (.putfield 142, 3) := dk_181 0 142 (dk_at dksX7_guess_0 2 rfl rfl)
theorem dX7_guess_5 : decode cX7_guess 5 = .ok (.aload_n 0, 1) := dk_42 (dk_at dksX7_guess_0 5 rfl rfl)
theorem dX7_guess_6 : decode cX7_guess 6 = .ok (.invokevirtual 332, 3) := dk_182 1 76 (dk_at dksX7_guess_0 6 rfl rfl)
theorem dX7_guess_9 : decode cX7_guess 9 = .ok (.ifCond .ne 5, 3) := dk_154 0 5 (dk_at dksX7_guess_0 9 rfl rfl)
theorem dX7_guess_12 : decode cX7_guess 12 = .ok (.iconst (-1), 1) := dk_2 (dk_at dksX7_guess_0 12 rfl rfl)
theorem dX7_guess_13 : decode cX7_guess 13 = .ok (.ireturn, 1) := dk_172 (dk_at dksX7_guess_0 13 rfl rfl)
theorem dX7_guess_14 : decode cX7_guess 14 = .ok (.aload_n 0, 1) := dk_42 (dk_at dksX7_guess_0 14 rfl rfl)
theorem dX7_guess_15 : decode cX7_guess 15 = .ok (.bipush 8, 2) := dk_16 8 (dk_at dksX7_guess_0 15 rfl rfl)
theorem dX7_guess_17 : decode cX7_guess 17 = .ok (.invokevirtual 335, 3) := dk_182 1 79 (dk_at dksX7_guess_0 17 rfl rfl)
theorem dX7_guess_20 : decode cX7_guess 20 = .ok (.aload_n 0, 1) := dk_42 (dk_at dksX7_guess_0 20 rfl rfl)
theorem dX7_guess_21 : decode cX7_guess 21 = .ok (.getfield 313, 3) := dk_180 1 57 (dk_at dksX7_guess_0 21 rfl rfl)
theorem dX7_guess_24 : decode cX7_guess 24 = .ok (.ireturn, 1) := dk_172 (dk_at dksX7_guess_1 0 rfl rfl)
abbrev cX7_fault : ByteArray := prog_33_method_48_code
def yX7_fault : MethodName := ⟨RX7, "fault", "(I)I"⟩
def dkwX7_fault_1 : List UInt8 := [180, 0, 20, 3, 46, 167, 0, 4, 2, 172]
abbrev dktX7_fault_1 : List UInt8 := dkwX7_fault_1 ++ []
def dkwX7_fault_0 : List UInt8 := [42, 3, 181, 0, 142, 27, 154, 0, 12, 42, 180, 0, 17, 3, 46, 167, 0, 18, 27, 4, 160, 0, 12, 42]
abbrev dktX7_fault_0 : List UInt8 := dkwX7_fault_0 ++ dktX7_fault_1
theorem dksX7_fault_0 : cX7_fault.data.toList.drop 0 = dktX7_fault_0 := by decide +kernel
theorem dksX7_fault_1 : cX7_fault.data.toList.drop 24 = dktX7_fault_1 := dk_seg dksX7_fault_0 24 rfl rfl
theorem dX7_fault_0 : decode cX7_fault 0 = .ok (.aload_n 0, 1) := dk_42 (dk_at dksX7_fault_0 0 rfl rfl)
theorem dX7_fault_1 : decode cX7_fault 1 = .ok (.iconst 0, 1) := dk_3 (dk_at dksX7_fault_0 1 rfl rfl)
theorem dX7_fault_2 : decode cX7_fault 2 = .ok (.putfield 142, 3) := dk_181 0 142 (dk_at dksX7_fault_0 2 rfl rfl)
theorem dX7_fault_5 : decode cX7_fault 5 = .ok (.iload_n 1, 1) := dk_27 (dk_at dksX7_fault_0 5 rfl rfl)
theorem dX7_fault_6 : decode cX7_fault 6 = .ok (.ifCond .ne 12, 3) := dk_154 0 12 (dk_at dksX7_fault_0 6 rfl rfl)
theorem dX7_fault_9 : decode cX7_fault 9 = .ok (.aload_n 0, 1) := dk_42 (dk_at dksX7_fault_0 9 rfl rfl)
theorem dX7_fault_10 : decode cX7_fault 10 = .ok (.getfield 17, 3) := dk_180 0 17 (dk_at dksX7_fault_0 10 rfl rfl)
theorem dX7_fault_13 : decode cX7_fault 13 = .ok (.iconst 0, 1) := dk_3 (dk_at dksX7_fault_0 13 rfl rfl)
theorem dX7_fault_14 : decode cX7_fault 14 = .ok (.iaload, 1) := dk_46 (dk_at dksX7_fault_0 14 rfl rfl)
theorem dX7_fault_15 : decode cX7_fault 15 = .ok (.goto 18, 3) := dk_167 0 18 (dk_at dksX7_fault_0 15 rfl rfl)
theorem dX7_fault_18 : decode cX7_fault 18 = .ok (.iload_n 1, 1) := dk_27 (dk_at dksX7_fault_0 18 rfl rfl)
theorem dX7_fault_19 : decode cX7_fault 19 = .ok (.iconst 1, 1) := dk_4 (dk_at dksX7_fault_0 19 rfl rfl)
theorem dX7_fault_20 : decode cX7_fault 20 = .ok (.if_icmp .ne 12, 3) := dk_160 0 12 (dk_at dksX7_fault_0 20 rfl rfl)
theorem dX7_fault_23 : decode cX7_fault 23 = .ok (.aload_n 0, 1) := dk_42 (dk_at dksX7_fault_0 23 rfl rfl)
theorem dX7_fault_24 : decode cX7_fault 24 = .ok (.getfield 20, 3) := dk_180 0 20 (dk_at dksX7_fault_1 0 rfl rfl)
theorem dX7_fault_27 : decode cX7_fault 27 = .ok (.iconst 0, 1) := dk_3 (dk_at dksX7_fault_1 3 rfl rfl)
theorem dX7_fault_28 : decode cX7_fault 28 = .ok (.iaload, 1) := dk_46 (dk_at dksX7_fault_1 4 rfl rfl)
theorem dX7_fault_29 : decode cX7_fault 29 = .ok (.goto 4, 3) := dk_167 0 4 (dk_at dksX7_fault_1 5 rfl rfl)
theorem dX7_fault_32 : decode cX7_fault 32 = .ok (.iconst (-1), 1) := dk_2 (dk_at dksX7_fault_1 8 rfl rfl)
theorem dX7_fault_33 : decode cX7_fault 33 = .ok (.ireturn, 1) := dk_172 (dk_at dksX7_fault_1 9 rfl rfl)
abbrev cX7_strike : ByteArray := prog_33_method_49_code
def yX7_strike : MethodName := ⟨RX7, "strike", "(I)Z"⟩
def dkwX7_strike_2 : List UInt8 := [172]
abbrev dktX7_strike_2 : List UInt8 := dkwX7_strike_2 ++ []
def dkwX7_strike_1 : List UInt8 := [180, 0, 51, 27, 46, 2, 159, 0, 5, 3, 172, 42, 180, 0, 51, 27, 42, 180, 0, 23, 3, 46, 79, 4]
abbrev dktX7_strike_1 : List UInt8 := dkwX7_strike_1 ++ dktX7_strike_2
def dkwX7_strike_0 : List UInt8 := [42, 3, 181, 0, 142, 27, 3, 42, 180, 0, 45, 3, 46, 4, 100, 184, 0, 160, 153, 0, 13, 42]
abbrev dktX7_strike_0 : List UInt8 := dkwX7_strike_0 ++ dktX7_strike_1
theorem dksX7_strike_0 : cX7_strike.data.toList.drop 0 = dktX7_strike_0 := by decide +kernel
theorem dksX7_strike_1 : cX7_strike.data.toList.drop 22 = dktX7_strike_1 := dk_seg dksX7_strike_0 22 rfl rfl
theorem dksX7_strike_2 : cX7_strike.data.toList.drop 46 = dktX7_strike_2 := dk_seg dksX7_strike_1 24 rfl rfl
theorem dX7_strike_0 : decode cX7_strike 0 = .ok (.aload_n 0, 1) := dk_42 (dk_at dksX7_strike_0 0 rfl rfl)
theorem dX7_strike_1 : decode cX7_strike 1 = .ok (.iconst 0, 1) := dk_3 (dk_at dksX7_strike_0 1 rfl rfl)
theorem dX7_strike_2 : decode cX7_strike 2 = .ok (.putfield 142, 3) := dk_181 0 142 (dk_at dksX7_strike_0 2 rfl rfl)
theorem dX7_strike_5 : decode cX7_strike 5 = .ok (.iload_n 1, 1) := dk_27 (dk_at dksX7_strike_0 5 rfl rfl)
theorem dX7_strike_6 : decode cX7_strike 6 = .ok (.iconst 0, 1) := dk_3 (dk_at dksX7_strike_0 6 rfl rfl)
theorem dX7_strike_7 : decode cX7_strike 7 = .ok (.aload_n 0, 1) := dk_42 (dk_at dksX7_strike_0 7 rfl rfl)
theorem dX7_strike_8 : decode cX7_strike 8 = .ok (.getfield 45, 3) := dk_180 0 45 (dk_at dksX7_strike_0 8 rfl rfl)
theorem dX7_strike_11 : decode cX7_strike 11 = .ok (.iconst 0, 1) := dk_3 (dk_at dksX7_strike_0 11 rfl rfl)
theorem dX7_strike_12 : decode cX7_strike 12 = .ok (.iaload, 1) := dk_46 (dk_at dksX7_strike_0 12 rfl rfl)
theorem dX7_strike_13 : decode cX7_strike 13 = .ok (.iconst 1, 1) := dk_4 (dk_at dksX7_strike_0 13 rfl rfl)
theorem dX7_strike_14 : decode cX7_strike 14 = .ok (.isub, 1) := dk_100 (dk_at dksX7_strike_0 14 rfl rfl)
theorem dX7_strike_15 : decode cX7_strike 15 = .ok (.invokestatic 160, 3) := dk_184 0 160 (dk_at dksX7_strike_0 15 rfl rfl)
theorem dX7_strike_18 : decode cX7_strike 18 = .ok (.ifCond .eq 13, 3) := dk_153 0 13 (dk_at dksX7_strike_0 18 rfl rfl)
theorem dX7_strike_21 : decode cX7_strike 21 = .ok (.aload_n 0, 1) := dk_42 (dk_at dksX7_strike_0 21 rfl rfl)
theorem dX7_strike_22 : decode cX7_strike 22 = .ok (.getfield 51, 3) := dk_180 0 51 (dk_at dksX7_strike_1 0 rfl rfl)
theorem dX7_strike_25 : decode cX7_strike 25 = .ok (.iload_n 1, 1) := dk_27 (dk_at dksX7_strike_1 3 rfl rfl)
theorem dX7_strike_26 : decode cX7_strike 26 = .ok (.iaload, 1) := dk_46 (dk_at dksX7_strike_1 4 rfl rfl)
theorem dX7_strike_27 : decode cX7_strike 27 = .ok (.iconst (-1), 1) := dk_2 (dk_at dksX7_strike_1 5 rfl rfl)
theorem dX7_strike_28 : decode cX7_strike 28 = .ok (.if_icmp .eq 5, 3) := dk_159 0 5 (dk_at dksX7_strike_1 6 rfl rfl)
theorem dX7_strike_31 : decode cX7_strike 31 = .ok (.iconst 0, 1) := dk_3 (dk_at dksX7_strike_1 9 rfl rfl)
theorem dX7_strike_32 : decode cX7_strike 32 = .ok (.ireturn, 1) := dk_172 (dk_at dksX7_strike_1 10 rfl rfl)
theorem dX7_strike_33 : decode cX7_strike 33 = .ok (.aload_n 0, 1) := dk_42 (dk_at dksX7_strike_1 11 rfl rfl)
theorem dX7_strike_34 : decode cX7_strike 34 = .ok (.getfield 51, 3) := dk_180 0 51 (dk_at dksX7_strike_1 12 rfl rfl)
theorem dX7_strike_37 : decode cX7_strike 37 = .ok (.iload_n 1, 1) := dk_27 (dk_at dksX7_strike_1 15 rfl rfl)
theorem dX7_strike_38 : decode cX7_strike 38 = .ok (.aload_n 0, 1) := dk_42 (dk_at dksX7_strike_1 16 rfl rfl)
theorem dX7_strike_39 : decode cX7_strike 39 = .ok (.getfield 23, 3) := dk_180 0 23 (dk_at dksX7_strike_1 17 rfl rfl)
theorem dX7_strike_42 : decode cX7_strike 42 = .ok (.iconst 0, 1) := dk_3 (dk_at dksX7_strike_1 20 rfl rfl)
theorem dX7_strike_43 : decode cX7_strike 43 = .ok (.iaload, 1) := dk_46 (dk_at dksX7_strike_1 21 rfl rfl)
theorem dX7_strike_44 : decode cX7_strike 44 = .ok (.iastore, 1) := dk_79 (dk_at dksX7_strike_1 22 rfl rfl)
theorem dX7_strike_45 : decode cX7_strike 45 = .ok (.iconst 1, 1) := dk_4 (dk_at dksX7_strike_1 23 rfl rfl)
theorem dX7_strike_46 : decode cX7_strike 46 = .ok (.ireturn, 1) := dk_172 (dk_at dksX7_strike_2 0 rfl rfl)
abbrev cX7_day : ByteArray := prog_33_method_50_code
def yX7_day : MethodName := ⟨RX7, "day", "(I)Z"⟩
def dkwX7_day_1 : List UInt8 := [180, 0, 23, 3, 27, 79, 4, 172]
abbrev dktX7_day_1 : List UInt8 := dkwX7_day_1 ++ []
def dkwX7_day_0 : List UInt8 := [42, 3, 181, 0, 142, 27, 42, 180, 0, 23, 3, 46, 17, 3, 231, 184, 0, 160, 154, 0, 5, 3, 172, 42]
abbrev dktX7_day_0 : List UInt8 := dkwX7_day_0 ++ dktX7_day_1
theorem dksX7_day_0 : cX7_day.data.toList.drop 0 = dktX7_day_0 := by decide +kernel
theorem dksX7_day_1 : cX7_day.data.toList.drop 24 = dktX7_day_1 := dk_seg dksX7_day_0 24 rfl rfl
theorem dX7_day_0 : decode cX7_day 0 = .ok (.aload_n 0, 1) := dk_42 (dk_at dksX7_day_0 0 rfl rfl)
theorem dX7_day_1 : decode cX7_day 1 = .ok (.iconst 0, 1) := dk_3 (dk_at dksX7_day_0 1 rfl rfl)
theorem dX7_day_2 : decode cX7_day 2 = .ok (.putfield 142, 3) := dk_181 0 142 (dk_at dksX7_day_0 2 rfl rfl)
theorem dX7_day_5 : decode cX7_day 5 = .ok (.iload_n 1, 1) := dk_27 (dk_at dksX7_day_0 5 rfl rfl)
theorem dX7_day_6 : decode cX7_day 6 = .ok (.aload_n 0, 1) := dk_42 (dk_at dksX7_day_0 6 rfl rfl)
theorem dX7_day_7 : decode cX7_day 7 = .ok (.getfield 23, 3) := dk_180 0 23 (dk_at dksX7_day_0 7 rfl rfl)
theorem dX7_day_10 : decode cX7_day 10 = .ok (.iconst 0, 1) := dk_3 (dk_at dksX7_day_0 10 rfl rfl)
theorem dX7_day_11 : decode cX7_day 11 = .ok (.iaload, 1) := dk_46 (dk_at dksX7_day_0 11 rfl rfl)
theorem dX7_day_12 : decode cX7_day 12 = .ok (.sipush 999, 3) := dk_17 3 231 (dk_at dksX7_day_0 12 rfl rfl)
theorem dX7_day_15 : decode cX7_day 15 = .ok (.invokestatic 160, 3) := dk_184 0 160 (dk_at dksX7_day_0 15 rfl rfl)
theorem dX7_day_18 : decode cX7_day 18 = .ok (.ifCond .ne 5, 3) := dk_154 0 5 (dk_at dksX7_day_0 18 rfl rfl)
theorem dX7_day_21 : decode cX7_day 21 = .ok (.iconst 0, 1) := dk_3 (dk_at dksX7_day_0 21 rfl rfl)
theorem dX7_day_22 : decode cX7_day 22 = .ok (.ireturn, 1) := dk_172 (dk_at dksX7_day_0 22 rfl rfl)
theorem dX7_day_23 : decode cX7_day 23 = .ok (.aload_n 0, 1) := dk_42 (dk_at dksX7_day_0 23 rfl rfl)
theorem dX7_day_24 : decode cX7_day 24 = .ok (.getfield 23, 3) := dk_180 0 23 (dk_at dksX7_day_1 0 rfl rfl)
theorem dX7_day_27 : decode cX7_day 27 = .ok (.iconst 0, 1) := dk_3 (dk_at dksX7_day_1 3 rfl rfl)
theorem dX7_day_28 : decode cX7_day 28 = .ok (.iload_n 1, 1) := dk_27 (dk_at dksX7_day_1 4 rfl rfl)
theorem dX7_day_29 : decode cX7_day 29 = .ok (.iastore, 1) := dk_79 (dk_at dksX7_day_1 5 rfl rfl)
theorem dX7_day_30 : decode cX7_day 30 = .ok (.iconst 1, 1) := dk_4 (dk_at dksX7_day_1 6 rfl rfl)
theorem dX7_day_31 : decode cX7_day 31 = .ok (.ireturn, 1) := dk_172 (dk_at dksX7_day_1 7 rfl rfl)
abbrev cX7_view : ByteArray := prog_33_method_51_code
def yX7_view : MethodName := ⟨RX7, "view", "(I)Z"⟩
def dkwX7_view_1 : List UInt8 := [180, 0, 26, 3, 27, 79, 4, 172]
abbrev dktX7_view_1 : List UInt8 := dkwX7_view_1 ++ []
def dkwX7_view_0 : List UInt8 := [42, 3, 181, 0, 142, 27, 2, 42, 180, 0, 23, 3, 46, 184, 0, 160, 154, 0, 5, 3, 172, 42]
abbrev dktX7_view_0 : List UInt8 := dkwX7_view_0 ++ dktX7_view_1
theorem dksX7_view_0 : cX7_view.data.toList.drop 0 = dktX7_view_0 := by decide +kernel
theorem dksX7_view_1 : cX7_view.data.toList.drop 22 = dktX7_view_1 := dk_seg dksX7_view_0 22 rfl rfl
theorem dX7_view_0 : decode cX7_view 0 = .ok (.aload_n 0, 1) := dk_42 (dk_at dksX7_view_0 0 rfl rfl)
theorem dX7_view_1 : decode cX7_view 1 = .ok (.iconst 0, 1) := dk_3 (dk_at dksX7_view_0 1 rfl rfl)
theorem dX7_view_2 : decode cX7_view 2 = .ok (.putfield 142, 3) := dk_181 0 142 (dk_at dksX7_view_0 2 rfl rfl)
theorem dX7_view_5 : decode cX7_view 5 = .ok (.iload_n 1, 1) := dk_27 (dk_at dksX7_view_0 5 rfl rfl)
theorem dX7_view_6 : decode cX7_view 6 = .ok (.iconst (-1), 1) := dk_2 (dk_at dksX7_view_0 6 rfl rfl)
theorem dX7_view_7 : decode cX7_view 7 = .ok (.aload_n 0, 1) := dk_42 (dk_at dksX7_view_0 7 rfl rfl)
theorem dX7_view_8 : decode cX7_view 8 = .ok (.getfield 23, 3) := dk_180 0 23 (dk_at dksX7_view_0 8 rfl rfl)
theorem dX7_view_11 : decode cX7_view 11 = .ok (.iconst 0, 1) := dk_3 (dk_at dksX7_view_0 11 rfl rfl)
theorem dX7_view_12 : decode cX7_view 12 = .ok (.iaload, 1) := dk_46 (dk_at dksX7_view_0 12 rfl rfl)
theorem dX7_view_13 : decode cX7_view 13 = .ok (.invokestatic 160, 3) := dk_184 0 160 (dk_at dksX7_view_0 13 rfl rfl)
theorem dX7_view_16 : decode cX7_view 16 = .ok (.ifCond .ne 5, 3) := dk_154 0 5 (dk_at dksX7_view_0 16 rfl rfl)
theorem dX7_view_19 : decode cX7_view 19 = .ok (.iconst 0, 1) := dk_3 (dk_at dksX7_view_0 19 rfl rfl)
theorem dX7_view_20 : decode cX7_view 20 = .ok (.ireturn, 1) := dk_172 (dk_at dksX7_view_0 20 rfl rfl)
theorem dX7_view_21 : decode cX7_view 21 = .ok (.aload_n 0, 1) := dk_42 (dk_at dksX7_view_0 21 rfl rfl)
theorem dX7_view_22 : decode cX7_view 22 = .ok (.getfield 26, 3) := dk_180 0 26 (dk_at dksX7_view_1 0 rfl rfl)
theorem dX7_view_25 : decode cX7_view 25 = .ok (.iconst 0, 1) := dk_3 (dk_at dksX7_view_1 3 rfl rfl)
theorem dX7_view_26 : decode cX7_view 26 = .ok (.iload_n 1, 1) := dk_27 (dk_at dksX7_view_1 4 rfl rfl)
theorem dX7_view_27 : decode cX7_view 27 = .ok (.iastore, 1) := dk_79 (dk_at dksX7_view_1 5 rfl rfl)
theorem dX7_view_28 : decode cX7_view 28 = .ok (.iconst 1, 1) := dk_4 (dk_at dksX7_view_1 6 rfl rfl)
theorem dX7_view_29 : decode cX7_view 29 = .ok (.ireturn, 1) := dk_172 (dk_at dksX7_view_1 7 rfl rfl)
abbrev cX7_so : ByteArray := prog_33_method_62_code
def yX7_so : MethodName := ⟨RX7, "so", "(I)I"⟩
def dkwX7_so_3 : List UInt8 := [3, 172]
abbrev dktX7_so_3 : List UInt8 := dkwX7_so_3 ++ []
def dkwX7_so_2 : List UInt8 := [184, 0, 160, 154, 0, 5, 2, 172, 42, 182, 1, 112, 42, 28, 182, 1, 115, 153, 0, 7, 4, 167, 0, 4]
abbrev dktX7_so_2 : List UInt8 := dkwX7_so_2 ++ dktX7_so_3
def dkwX7_so_1 : List UInt8 := [180, 0, 54, 16, 8, 46, 154, 0, 24, 167, 0, 19, 27, 3, 42, 180, 0, 45, 3, 46, 4, 100]
abbrev dktX7_so_1 : List UInt8 := dkwX7_so_1 ++ dktX7_so_2
def dkwX7_so_0 : List UInt8 := [42, 3, 181, 0, 142, 27, 2, 160, 0, 8, 16, 8, 167, 0, 4, 27, 61, 27, 2, 160, 0, 16, 42]
abbrev dktX7_so_0 : List UInt8 := dkwX7_so_0 ++ dktX7_so_1
theorem dksX7_so_0 : cX7_so.data.toList.drop 0 = dktX7_so_0 := by decide +kernel
theorem dksX7_so_1 : cX7_so.data.toList.drop 23 = dktX7_so_1 := dk_seg dksX7_so_0 23 rfl rfl
theorem dksX7_so_2 : cX7_so.data.toList.drop 45 = dktX7_so_2 := dk_seg dksX7_so_1 22 rfl rfl
theorem dksX7_so_3 : cX7_so.data.toList.drop 69 = dktX7_so_3 := dk_seg dksX7_so_2 24 rfl rfl
theorem dX7_so_0 : decode cX7_so 0 = .ok (.aload_n 0, 1) := dk_42 (dk_at dksX7_so_0 0 rfl rfl)
theorem dX7_so_1 : decode cX7_so 1 = .ok (.iconst 0, 1) := dk_3 (dk_at dksX7_so_0 1 rfl rfl)
theorem dX7_so_2 : decode cX7_so 2 = .ok (.putfield 142, 3) := dk_181 0 142 (dk_at dksX7_so_0 2 rfl rfl)
theorem dX7_so_5 : decode cX7_so 5 = .ok (.iload_n 1, 1) := dk_27 (dk_at dksX7_so_0 5 rfl rfl)
theorem dX7_so_6 : decode cX7_so 6 = .ok (.iconst (-1), 1) := dk_2 (dk_at dksX7_so_0 6 rfl rfl)
theorem dX7_so_7 : decode cX7_so 7 = .ok (.if_icmp .ne 8, 3) := dk_160 0 8 (dk_at dksX7_so_0 7 rfl rfl)
theorem dX7_so_10 : decode cX7_so 10 = .ok (.bipush 8, 2) := dk_16 8 (dk_at dksX7_so_0 10 rfl rfl)
theorem dX7_so_12 : decode cX7_so 12 = .ok (.goto 4, 3) := dk_167 0 4 (dk_at dksX7_so_0 12 rfl rfl)
theorem dX7_so_15 : decode cX7_so 15 = .ok (.iload_n 1, 1) := dk_27 (dk_at dksX7_so_0 15 rfl rfl)
theorem dX7_so_16 : decode cX7_so 16 = .ok (.istore_n 2, 1) := dk_61 (dk_at dksX7_so_0 16 rfl rfl)
theorem dX7_so_17 : decode cX7_so 17 = .ok (.iload_n 1, 1) := dk_27 (dk_at dksX7_so_0 17 rfl rfl)
theorem dX7_so_18 : decode cX7_so 18 = .ok (.iconst (-1), 1) := dk_2 (dk_at dksX7_so_0 18 rfl rfl)
theorem dX7_so_19 : decode cX7_so 19 = .ok (.if_icmp .ne 16, 3) := dk_160 0 16 (dk_at dksX7_so_0 19 rfl rfl)
theorem dX7_so_22 : decode cX7_so 22 = .ok (.aload_n 0, 1) := dk_42 (dk_at dksX7_so_0 22 rfl rfl)
theorem dX7_so_23 : decode cX7_so 23 = .ok (.getfield 54, 3) := dk_180 0 54 (dk_at dksX7_so_1 0 rfl rfl)
theorem dX7_so_26 : decode cX7_so 26 = .ok (.bipush 8, 2) := dk_16 8 (dk_at dksX7_so_1 3 rfl rfl)
theorem dX7_so_28 : decode cX7_so 28 = .ok (.iaload, 1) := dk_46 (dk_at dksX7_so_1 5 rfl rfl)
theorem dX7_so_29 : decode cX7_so 29 = .ok (.ifCond .ne 24, 3) := dk_154 0 24 (dk_at dksX7_so_1 6 rfl rfl)
theorem dX7_so_32 : decode cX7_so 32 = .ok (.goto 19, 3) := dk_167 0 19 (dk_at dksX7_so_1 9 rfl rfl)
theorem dX7_so_35 : decode cX7_so 35 = .ok (.iload_n 1, 1) := dk_27 (dk_at dksX7_so_1 12 rfl rfl)
theorem dX7_so_36 : decode cX7_so 36 = .ok (.iconst 0, 1) := dk_3 (dk_at dksX7_so_1 13 rfl rfl)
theorem dX7_so_37 : decode cX7_so 37 = .ok (.aload_n 0, 1) := dk_42 (dk_at dksX7_so_1 14 rfl rfl)
theorem dX7_so_38 : decode cX7_so 38 = .ok (.getfield 45, 3) := dk_180 0 45 (dk_at dksX7_so_1 15 rfl rfl)
theorem dX7_so_41 : decode cX7_so 41 = .ok (.iconst 0, 1) := dk_3 (dk_at dksX7_so_1 18 rfl rfl)
theorem dX7_so_42 : decode cX7_so 42 = .ok (.iaload, 1) := dk_46 (dk_at dksX7_so_1 19 rfl rfl)
theorem dX7_so_43 : decode cX7_so 43 = .ok (.iconst 1, 1) := dk_4 (dk_at dksX7_so_1 20 rfl rfl)
theorem dX7_so_44 : decode cX7_so 44 = .ok (.isub, 1) := dk_100 (dk_at dksX7_so_1 21 rfl rfl)
theorem dX7_so_45 : decode cX7_so 45 = .ok (.invokestatic 160, 3) := dk_184 0 160 (dk_at dksX7_so_2 0 rfl rfl)
theorem dX7_so_48 : decode cX7_so 48 = .ok (.ifCond .ne 5, 3) := dk_154 0 5 (dk_at dksX7_so_2 3 rfl rfl)
theorem dX7_so_51 : decode cX7_so 51 = .ok (.iconst (-1), 1) := dk_2 (dk_at dksX7_so_2 6 rfl rfl)
theorem dX7_so_52 : decode cX7_so 52 = .ok (.ireturn, 1) := dk_172 (dk_at dksX7_so_2 7 rfl rfl)
theorem dX7_so_53 : decode cX7_so 53 = .ok (.aload_n 0, 1) := dk_42 (dk_at dksX7_so_2 8 rfl rfl)
theorem dX7_so_54 : decode cX7_so 54 = .ok (.invokevirtual 368, 3) := dk_182 1 112 (dk_at dksX7_so_2 9 rfl rfl)
theorem dX7_so_57 : decode cX7_so 57 = .ok (.aload_n 0, 1) := dk_42 (dk_at dksX7_so_2 12 rfl rfl)
theorem dX7_so_58 : decode cX7_so 58 = .ok (.iload_n 2, 1) := dk_28 (dk_at dksX7_so_2 13 rfl rfl)
theorem dX7_so_59 : decode cX7_so 59 = .ok (.invokevirtual 371, 3) := dk_182 1 115 (dk_at dksX7_so_2 14 rfl rfl)
theorem dX7_so_62 : decode cX7_so 62 = .ok (.ifCond .eq 7, 3) := dk_153 0 7 (dk_at dksX7_so_2 17 rfl rfl)
theorem dX7_so_65 : decode cX7_so 65 = .ok (.iconst 1, 1) := dk_4 (dk_at dksX7_so_2 20 rfl rfl)
theorem dX7_so_66 : decode cX7_so 66 = .ok (.goto 4, 3) := dk_167 0 4 (dk_at dksX7_so_2 21 rfl rfl)
theorem dX7_so_69 : decode cX7_so 69 = .ok (.iconst 0, 1) := dk_3 (dk_at dksX7_so_3 0 rfl rfl)
theorem dX7_so_70 : decode cX7_so 70 = .ok (.ireturn, 1) := dk_172 (dk_at dksX7_so_3 1 rfl rfl)
abbrev cX7_bringWorld : ByteArray := prog_33_method_9_code
def yX7_bringWorld : MethodName := ⟨RX7, "bringWorld", "()V"⟩
def dkwX7_bringWorld_1 : List UInt8 := [132, 1, 1, 167, 255, 235, 177]
abbrev dktX7_bringWorld_1 : List UInt8 := dkwX7_bringWorld_1 ++ []
def dkwX7_bringWorld_0 : List UInt8 := [42, 182, 0, 157, 3, 60, 27, 16, 36, 162, 0, 21, 42, 180, 0, 93, 27, 42, 180, 0, 41, 27, 51, 84]
abbrev dktX7_bringWorld_0 : List UInt8 := dkwX7_bringWorld_0 ++ dktX7_bringWorld_1
theorem dksX7_bringWorld_0 : cX7_bringWorld.data.toList.drop 0 = dktX7_bringWorld_0 := by decide +kernel
theorem dksX7_bringWorld_1 : cX7_bringWorld.data.toList.drop 24 = dktX7_bringWorld_1 := dk_seg dksX7_bringWorld_0 24 rfl rfl
theorem dX7_bringWorld_0 : decode cX7_bringWorld 0 = .ok (.aload_n 0, 1) := dk_42 (dk_at dksX7_bringWorld_0 0 rfl rfl)
theorem dX7_bringWorld_1 : decode cX7_bringWorld 1 = .ok (.invokevirtual 157, 3) := dk_182 0 157 (dk_at dksX7_bringWorld_0 1 rfl rfl)
theorem dX7_bringWorld_4 : decode cX7_bringWorld 4 = .ok (.iconst 0, 1) := dk_3 (dk_at dksX7_bringWorld_0 4 rfl rfl)
theorem dX7_bringWorld_5 : decode cX7_bringWorld 5 = .ok (.istore_n 1, 1) := dk_60 (dk_at dksX7_bringWorld_0 5 rfl rfl)
theorem dX7_bringWorld_6 : decode cX7_bringWorld 6 = .ok (.iload_n 1, 1) := dk_27 (dk_at dksX7_bringWorld_0 6 rfl rfl)
theorem dX7_bringWorld_7 : decode cX7_bringWorld 7 = .ok (.bipush 36, 2) := dk_16 36 (dk_at dksX7_bringWorld_0 7 rfl rfl)
theorem dX7_bringWorld_9 : decode cX7_bringWorld 9 = .ok (.if_icmp .ge 21, 3) := dk_162 0 21 (dk_at dksX7_bringWorld_0 9 rfl rfl)
theorem dX7_bringWorld_12 : decode cX7_bringWorld 12 = .ok (.aload_n 0, 1) := dk_42 (dk_at dksX7_bringWorld_0 12 rfl rfl)
theorem dX7_bringWorld_13 : decode cX7_bringWorld 13 = .ok (.getfield 93, 3) := dk_180 0 93 (dk_at dksX7_bringWorld_0 13 rfl rfl)
theorem dX7_bringWorld_16 : decode cX7_bringWorld 16 = .ok (.iload_n 1, 1) := dk_27 (dk_at dksX7_bringWorld_0 16 rfl rfl)
theorem dX7_bringWorld_17 : decode cX7_bringWorld 17 = .ok (.aload_n 0, 1) := dk_42 (dk_at dksX7_bringWorld_0 17 rfl rfl)
theorem dX7_bringWorld_18 : decode cX7_bringWorld 18 = .ok (.getfield 41, 3) := dk_180 0 41 (dk_at dksX7_bringWorld_0 18 rfl rfl)
theorem dX7_bringWorld_21 : decode cX7_bringWorld 21 = .ok (.iload_n 1, 1) := dk_27 (dk_at dksX7_bringWorld_0 21 rfl rfl)
theorem dX7_bringWorld_22 : decode cX7_bringWorld 22 = .ok (.baload, 1) := dk_51 (dk_at dksX7_bringWorld_0 22 rfl rfl)
theorem dX7_bringWorld_23 : decode cX7_bringWorld 23 = .ok (.bastore, 1) := dk_84 (dk_at dksX7_bringWorld_0 23 rfl rfl)
theorem dX7_bringWorld_24 : decode cX7_bringWorld 24 = .ok (.iinc 1 1, 3) := dk_132 1 1 (dk_at dksX7_bringWorld_1 0 rfl rfl)
theorem dX7_bringWorld_27 : decode cX7_bringWorld 27 = .ok (.goto (-21), 3) := dk_167 255 235 (dk_at dksX7_bringWorld_1 3 rfl rfl)
theorem dX7_bringWorld_30 : decode cX7_bringWorld 30 = .ok (.return_, 1) := dk_177 (dk_at dksX7_bringWorld_1 6 rfl rfl)
abbrev cX7_means : ByteArray := prog_33_method_61_code
def yX7_means : MethodName := ⟨RX7, "means", "(I)Z"⟩
def dkwX7_means_0 : List UInt8 := [42, 27, 3, 182, 1, 109, 42, 180, 0, 111, 3, 51, 172]
abbrev dktX7_means_0 : List UInt8 := dkwX7_means_0 ++ []
theorem dksX7_means_0 : cX7_means.data.toList.drop 0 = dktX7_means_0 := by decide +kernel
theorem dX7_means_0 : decode cX7_means 0 = .ok (.aload_n 0, 1) := dk_42 (dk_at dksX7_means_0 0 rfl rfl)
theorem dX7_means_1 : decode cX7_means 1 = .ok (.iload_n 1, 1) := dk_27 (dk_at dksX7_means_0 1 rfl rfl)
theorem dX7_means_2 : decode cX7_means 2 = .ok (.iconst 0, 1) := dk_3 (dk_at dksX7_means_0 2 rfl rfl)
theorem dX7_means_3 : decode cX7_means 3 = .ok (.invokevirtual 365, 3) := dk_182 1 109 (dk_at dksX7_means_0 3 rfl rfl)
theorem dX7_means_6 : decode cX7_means 6 = .ok (.aload_n 0, 1) := dk_42 (dk_at dksX7_means_0 6 rfl rfl)
theorem dX7_means_7 : decode cX7_means 7 = .ok (.getfield 111, 3) := dk_180 0 111 (dk_at dksX7_means_0 7 rfl rfl)
theorem dX7_means_10 : decode cX7_means 10 = .ok (.iconst 0, 1) := dk_3 (dk_at dksX7_means_0 10 rfl rfl)
theorem dX7_means_11 : decode cX7_means 11 = .ok (.baload, 1) := dk_51 (dk_at dksX7_means_0 11 rfl rfl)
theorem dX7_means_12 : decode cX7_means 12 = .ok (.ireturn, 1) := dk_172 (dk_at dksX7_means_0 12 rfl rfl)
abbrev cX7_work : ByteArray := prog_33_method_60_code
def yX7_work : MethodName := ⟨RX7, "work", "(II)V"⟩
def dkwX7_work_3 : List UInt8 := [182, 1, 106, 132, 3, 255, 167, 255, 193, 177]
abbrev dktX7_work_3 : List UInt8 := dkwX7_work_3 ++ []
def dkwX7_work_2 : List UInt8 := [42, 180, 0, 57, 21, 4, 46, 6, 163, 0, 12, 42, 21, 4, 182, 1, 103, 167, 0, 9, 42, 21, 4]
abbrev dktX7_work_2 : List UInt8 := dkwX7_work_2 ++ dktX7_work_3
def dkwX7_work_1 : List UInt8 := [96, 54, 4, 42, 180, 0, 57, 21, 4, 46, 16, 8, 161, 0, 12, 42, 21, 4, 182, 1, 100, 167, 0, 29]
abbrev dktX7_work_1 : List UInt8 := dkwX7_work_1 ++ dktX7_work_2
def dkwX7_work_0 : List UInt8 := [42, 3, 181, 1, 97, 42, 180, 0, 54, 27, 46, 4, 100, 62, 29, 28, 161, 0, 64, 16, 40, 27, 104, 29]
abbrev dktX7_work_0 : List UInt8 := dkwX7_work_0 ++ dktX7_work_1
theorem dksX7_work_0 : cX7_work.data.toList.drop 0 = dktX7_work_0 := by decide +kernel
theorem dksX7_work_1 : cX7_work.data.toList.drop 24 = dktX7_work_1 := dk_seg dksX7_work_0 24 rfl rfl
theorem dksX7_work_2 : cX7_work.data.toList.drop 48 = dktX7_work_2 := dk_seg dksX7_work_1 24 rfl rfl
theorem dksX7_work_3 : cX7_work.data.toList.drop 71 = dktX7_work_3 := dk_seg dksX7_work_2 23 rfl rfl
theorem dX7_work_0 : decode cX7_work 0 = .ok (.aload_n 0, 1) := dk_42 (dk_at dksX7_work_0 0 rfl rfl)
theorem dX7_work_1 : decode cX7_work 1 = .ok (.iconst 0, 1) := dk_3 (dk_at dksX7_work_0 1 rfl rfl)
theorem dX7_work_2 : decode cX7_work 2 = .ok (.putfield 353, 3) := dk_181 1 97 (dk_at dksX7_work_0 2 rfl rfl)
theorem dX7_work_5 : decode cX7_work 5 = .ok (.aload_n 0, 1) := dk_42 (dk_at dksX7_work_0 5 rfl rfl)
theorem dX7_work_6 : decode cX7_work 6 = .ok (.getfield 54, 3) := dk_180 0 54 (dk_at dksX7_work_0 6 rfl rfl)
theorem dX7_work_9 : decode cX7_work 9 = .ok (.iload_n 1, 1) := dk_27 (dk_at dksX7_work_0 9 rfl rfl)
theorem dX7_work_10 : decode cX7_work 10 = .ok (.iaload, 1) := dk_46 (dk_at dksX7_work_0 10 rfl rfl)
theorem dX7_work_11 : decode cX7_work 11 = .ok (.iconst 1, 1) := dk_4 (dk_at dksX7_work_0 11 rfl rfl)
theorem dX7_work_12 : decode cX7_work 12 = .ok (.isub, 1) := dk_100 (dk_at dksX7_work_0 12 rfl rfl)
theorem dX7_work_13 : decode cX7_work 13 = .ok (.istore_n 3, 1) := dk_62 (dk_at dksX7_work_0 13 rfl rfl)
theorem dX7_work_14 : decode cX7_work 14 = .ok (.iload_n 3, 1) := dk_29 (dk_at dksX7_work_0 14 rfl rfl)
theorem dX7_work_15 : decode cX7_work 15 = .ok (.iload_n 2, 1) := dk_28 (dk_at dksX7_work_0 15 rfl rfl)
theorem dX7_work_16 : decode cX7_work 16 = .ok (.if_icmp .lt 64, 3) := dk_161 0 64 (dk_at dksX7_work_0 16 rfl rfl)
theorem dX7_work_19 : decode cX7_work 19 = .ok (.bipush 40, 2) := dk_16 40 (dk_at dksX7_work_0 19 rfl rfl)
theorem dX7_work_21 : decode cX7_work 21 = .ok (.iload_n 1, 1) := dk_27 (dk_at dksX7_work_0 21 rfl rfl)
theorem dX7_work_22 : decode cX7_work 22 = .ok (.imul, 1) := dk_104 (dk_at dksX7_work_0 22 rfl rfl)
theorem dX7_work_23 : decode cX7_work 23 = .ok (.iload_n 3, 1) := dk_29 (dk_at dksX7_work_0 23 rfl rfl)
theorem dX7_work_24 : decode cX7_work 24 = .ok (.iadd, 1) := dk_96 (dk_at dksX7_work_1 0 rfl rfl)
theorem dX7_work_25 : decode cX7_work 25 = .ok (.istore 4, 2) := dk_54 4 (dk_at dksX7_work_1 1 rfl rfl)
theorem dX7_work_27 : decode cX7_work 27 = .ok (.aload_n 0, 1) := dk_42 (dk_at dksX7_work_1 3 rfl rfl)
theorem dX7_work_28 : decode cX7_work 28 = .ok (.getfield 57, 3) := dk_180 0 57 (dk_at dksX7_work_1 4 rfl rfl)
theorem dX7_work_31 : decode cX7_work 31 = .ok (.iload 4, 2) := dk_21 4 (dk_at dksX7_work_1 7 rfl rfl)
theorem dX7_work_33 : decode cX7_work 33 = .ok (.iaload, 1) := dk_46 (dk_at dksX7_work_1 9 rfl rfl)
theorem dX7_work_34 : decode cX7_work 34 = .ok (.bipush 8, 2) := dk_16 8 (dk_at dksX7_work_1 10 rfl rfl)
theorem dX7_work_36 : decode cX7_work 36 = .ok (.if_icmp .lt 12, 3) := dk_161 0 12 (dk_at dksX7_work_1 12 rfl rfl)
theorem dX7_work_39 : decode cX7_work 39 = .ok (.aload_n 0, 1) := dk_42 (dk_at dksX7_work_1 15 rfl rfl)
theorem dX7_work_40 : decode cX7_work 40 = .ok (.iload 4, 2) := dk_21 4 (dk_at dksX7_work_1 16 rfl rfl)
theorem dX7_work_42 : decode cX7_work 42 = .ok (.invokevirtual 356, 3) := dk_182 1 100 (dk_at dksX7_work_1 18 rfl rfl)
theorem dX7_work_45 : decode cX7_work 45 = .ok (.goto 29, 3) := dk_167 0 29 (dk_at dksX7_work_1 21 rfl rfl)
theorem dX7_work_48 : decode cX7_work 48 = .ok (.aload_n 0, 1) := dk_42 (dk_at dksX7_work_2 0 rfl rfl)
theorem dX7_work_49 : decode cX7_work 49 = .ok (.getfield 57, 3) := dk_180 0 57 (dk_at dksX7_work_2 1 rfl rfl)
theorem dX7_work_52 : decode cX7_work 52 = .ok (.iload 4, 2) := dk_21 4 (dk_at dksX7_work_2 4 rfl rfl)
theorem dX7_work_54 : decode cX7_work 54 = .ok (.iaload, 1) := dk_46 (dk_at dksX7_work_2 6 rfl rfl)
theorem dX7_work_55 : decode cX7_work 55 = .ok (.iconst 3, 1) := dk_6 (dk_at dksX7_work_2 7 rfl rfl)
theorem dX7_work_56 : decode cX7_work 56 = .ok (.if_icmp .gt 12, 3) := dk_163 0 12 (dk_at dksX7_work_2 8 rfl rfl)
theorem dX7_work_59 : decode cX7_work 59 = .ok (.aload_n 0, 1) := dk_42 (dk_at dksX7_work_2 11 rfl rfl)
theorem dX7_work_60 : decode cX7_work 60 = .ok (.iload 4, 2) := dk_21 4 (dk_at dksX7_work_2 12 rfl rfl)
theorem dX7_work_62 : decode cX7_work 62 = .ok (.invokevirtual 359, 3) := dk_182 1 103 (dk_at dksX7_work_2 14 rfl rfl)
theorem dX7_work_65 : decode cX7_work 65 = .ok (.goto 9, 3) := dk_167 0 9 (dk_at dksX7_work_2 17 rfl rfl)
theorem dX7_work_68 : decode cX7_work 68 = .ok (.aload_n 0, 1) := dk_42 (dk_at dksX7_work_2 20 rfl rfl)
theorem dX7_work_69 : decode cX7_work 69 = .ok (.iload 4, 2) := dk_21 4 (dk_at dksX7_work_2 21 rfl rfl)
theorem dX7_work_71 : decode cX7_work 71 = .ok (.invokevirtual 362, 3) := dk_182 1 106 (dk_at dksX7_work_3 0 rfl rfl)
theorem dX7_work_74 : decode cX7_work 74 = .ok (.iinc 3 (-1), 3) := dk_132 3 255 (dk_at dksX7_work_3 3 rfl rfl)
theorem dX7_work_77 : decode cX7_work 77 = .ok (.goto (-63), 3) := dk_167 255 193 (dk_at dksX7_work_3 6 rfl rfl)
theorem dX7_work_80 : decode cX7_work 80 = .ok (.return_, 1) := dk_177 (dk_at dksX7_work_3 9 rfl rfl)
