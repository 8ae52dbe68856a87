set_option maxRecDepth 100000
abbrev cX7_init : ByteArray := prog_33_method_1_code
def yX7_init : MethodName := ⟨RX7, "<init>", "()V"⟩
def dkwX7_init_16 : List UInt8 := [167, 255, 241, 177]
abbrev dktX7_init_16 : List UInt8 := dkwX7_init_16 ++ []
def dkwX7_init_15 : List UInt8 := [180, 0, 26, 3, 2, 79, 3, 60, 27, 6, 162, 0, 16, 42, 180, 0, 29, 27, 5, 79, 132, 1, 1]
abbrev dktX7_init_15 : List UInt8 := dkwX7_init_15 ++ dktX7_init_16
def dkwX7_init_14 : List UInt8 := [42, 16, 12, 188, 10, 181, 0, 136, 42, 6, 188, 4, 181, 0, 139, 42, 180, 0, 20, 3, 2, 79, 42]
abbrev dktX7_init_14 : List UInt8 := dkwX7_init_14 ++ dktX7_init_15
def dkwX7_init_13 : List UInt8 := [42, 16, 16, 188, 10, 181, 0, 126, 42, 18, 129, 188, 4, 181, 0, 130, 42, 18, 129, 188, 4, 181, 0, 133]
abbrev dktX7_init_13 : List UInt8 := dkwX7_init_13 ++ dktX7_init_14
def dkwX7_init_12 : List UInt8 := [42, 6, 188, 10, 181, 0, 117, 42, 17, 1, 0, 188, 4, 181, 0, 120, 42, 16, 12, 188, 10, 181, 0, 123]
abbrev dktX7_init_12 : List UInt8 := dkwX7_init_12 ++ dktX7_init_13
def dkwX7_init_11 : List UInt8 := [16, 41, 188, 10, 181, 0, 108, 42, 17, 12, 249, 188, 4, 181, 0, 111, 42, 16, 9, 188, 4, 181, 0, 114]
abbrev dktX7_init_11 : List UInt8 := dkwX7_init_11 ++ dktX7_init_12
def dkwX7_init_10 : List UInt8 := [16, 41, 188, 10, 181, 0, 99, 42, 16, 41, 188, 10, 181, 0, 102, 42, 16, 41, 188, 10, 181, 0, 105, 42]
abbrev dktX7_init_10 : List UInt8 := dkwX7_init_10 ++ dktX7_init_11
def dkwX7_init_9 : List UInt8 := [8, 188, 10, 181, 0, 90, 42, 16, 36, 188, 4, 181, 0, 93, 42, 17, 1, 164, 188, 10, 181, 0, 96, 42]
abbrev dktX7_init_9 : List UInt8 := dkwX7_init_9 ++ dktX7_init_10
def dkwX7_init_8 : List UInt8 := [17, 2, 64, 188, 4, 181, 0, 81, 42, 16, 16, 188, 4, 181, 0, 84, 42, 6, 188, 10, 181, 0, 87, 42]
abbrev dktX7_init_8 : List UInt8 := dkwX7_init_8 ++ dktX7_init_9
def dkwX7_init_7 : List UInt8 := [188, 10, 181, 0, 72, 42, 17, 0, 160, 188, 10, 181, 0, 75, 42, 17, 0, 160, 188, 10, 181, 0, 78, 42]
abbrev dktX7_init_7 : List UInt8 := dkwX7_init_7 ++ dktX7_init_8
def dkwX7_init_6 : List UInt8 := [181, 0, 63, 42, 17, 5, 160, 188, 10, 181, 0, 66, 42, 7, 188, 10, 181, 0, 69, 42, 17, 0, 160]
abbrev dktX7_init_6 : List UInt8 := dkwX7_init_6 ++ dktX7_init_7
def dkwX7_init_5 : List UInt8 := [17, 5, 160, 188, 10, 181, 0, 57, 42, 17, 5, 160, 188, 10, 181, 0, 60, 42, 17, 5, 160, 188, 10]
abbrev dktX7_init_5 : List UInt8 := dkwX7_init_5 ++ dktX7_init_6
def dkwX7_init_4 : List UInt8 := [16, 32, 188, 10, 181, 0, 48, 42, 16, 32, 188, 10, 181, 0, 51, 42, 16, 36, 188, 10, 181, 0, 54, 42]
abbrev dktX7_init_4 : List UInt8 := dkwX7_init_4 ++ dktX7_init_5
def dkwX7_init_3 : List UInt8 := [16, 16, 188, 10, 181, 0, 38, 42, 17, 0, 144, 188, 4, 181, 0, 41, 42, 7, 188, 10, 181, 0, 45, 42]
abbrev dktX7_init_3 : List UInt8 := dkwX7_init_3 ++ dktX7_init_4
def dkwX7_init_2 : List UInt8 := [42, 16, 12, 188, 10, 181, 0, 29, 42, 7, 188, 10, 181, 0, 32, 42, 16, 16, 188, 10, 181, 0, 35, 42]
abbrev dktX7_init_2 : List UInt8 := dkwX7_init_2 ++ dktX7_init_3
def dkwX7_init_1 : List UInt8 := [181, 0, 17, 42, 7, 188, 10, 181, 0, 20, 42, 7, 188, 10, 181, 0, 23, 42, 7, 188, 10, 181, 0, 26]
abbrev dktX7_init_1 : List UInt8 := dkwX7_init_1 ++ dktX7_init_2
def dkwX7_init_0 : List UInt8 := [42, 183, 0, 1, 42, 17, 6, 64, 188, 8, 181, 0, 7, 42, 7, 188, 10, 181, 0, 13, 42, 7, 188, 10]
abbrev dktX7_init_0 : List UInt8 := dkwX7_init_0 ++ dktX7_init_1
theorem dksX7_init_0 : cX7_init.data.toList.drop 0 = dktX7_init_0 := by decide +kernel
theorem dksX7_init_1 : cX7_init.data.toList.drop 24 = dktX7_init_1 := dk_seg dksX7_init_0 24 rfl rfl
theorem dksX7_init_2 : cX7_init.data.toList.drop 48 = dktX7_init_2 := dk_seg dksX7_init_1 24 rfl rfl
theorem dksX7_init_3 : cX7_init.data.toList.drop 72 = dktX7_init_3 := dk_seg dksX7_init_2 24 rfl rfl
theorem dksX7_init_4 : cX7_init.data.toList.drop 96 = dktX7_init_4 := dk_seg dksX7_init_3 24 rfl rfl
theorem dksX7_init_5 : cX7_init.data.toList.drop 120 = dktX7_init_5 := dk_seg dksX7_init_4 24 rfl rfl
theorem dksX7_init_6 : cX7_init.data.toList.drop 143 = dktX7_init_6 := dk_seg dksX7_init_5 23 rfl rfl
theorem dksX7_init_7 : cX7_init.data.toList.drop 166 = dktX7_init_7 := dk_seg dksX7_init_6 23 rfl rfl
theorem dksX7_init_8 : cX7_init.data.toList.drop 190 = dktX7_init_8 := dk_seg dksX7_init_7 24 rfl rfl
theorem dksX7_init_9 : cX7_init.data.toList.drop 214 = dktX7_init_9 := dk_seg dksX7_init_8 24 rfl rfl
theorem dksX7_init_10 : cX7_init.data.toList.drop 238 = dktX7_init_10 := dk_seg dksX7_init_9 24 rfl rfl
theorem dksX7_init_11 : cX7_init.data.toList.drop 262 = dktX7_init_11 := dk_seg dksX7_init_10 24 rfl rfl
theorem dksX7_init_12 : cX7_init.data.toList.drop 286 = dktX7_init_12 := dk_seg dksX7_init_11 24 rfl rfl
theorem dksX7_init_13 : cX7_init.data.toList.drop 310 = dktX7_init_13 := dk_seg dksX7_init_12 24 rfl rfl
theorem dksX7_init_14 : cX7_init.data.toList.drop 334 = dktX7_init_14 := dk_seg dksX7_init_13 24 rfl rfl
theorem dksX7_init_15 : cX7_init.data.toList.drop 357 = dktX7_init_15 := dk_seg dksX7_init_14 23 rfl rfl
theorem dksX7_init_16 : cX7_init.data.toList.drop 380 = dktX7_init_16 := dk_seg dksX7_init_15 23 rfl rfl
theorem dX7_init_0 : decode cX7_init 0 = .ok (.aload_n 0, 1) := dk_42 (dk_at dksX7_init_0 0 rfl rfl)
theorem dX7_init_1 : decode cX7_init 1 = .ok (.invokespecial 1, 3) := dk_183 0 1 (dk_at dksX7_init_0 1 rfl rfl)
theorem dX7_init_4 : decode cX7_init 4 = .ok (.aload_n 0, 1) := dk_42 (dk_at dksX7_init_0 4 rfl rfl)
theorem dX7_init_5 : decode cX7_init 5 = .ok (.sipush 1600, 3) := dk_17 6 64 (dk_at dksX7_init_0 5 rfl rfl)
theorem dX7_init_8 : decode cX7_init 8 = .ok (.newarray .byte, 2) := dk_188_8 (dk_at dksX7_init_0 8 rfl rfl)
theorem dX7_init_10 : decode cX7_init 10 = .ok (.putfield 7, 3) := dk_181 0 7 (dk_at dksX7_init_0 10 rfl rfl)
theorem dX7_init_13 : decode cX7_init 13 = .ok (.aload_n 0, 1) := dk_42 (dk_at dksX7_init_0 13 rfl rfl)
theorem dX7_init_14 : decode cX7_init 14 = .ok (.iconst 4, 1) := dk_7 (dk_at dksX7_init_0 14 rfl rfl)
theorem dX7_init_15 : decode cX7_init 15 = .ok (.newarray .int, 2) := dk_188_10 (dk_at dksX7_init_0 15 rfl rfl)
theorem dX7_init_17 : decode cX7_init 17 = .ok (.putfield 13, 3) := dk_181 0 13 (dk_at dksX7_init_0 17 rfl rfl)
theorem dX7_init_20 : decode cX7_init 20 = .ok (.aload_n 0, 1) := dk_42 (dk_at dksX7_init_0 20 rfl rfl)
theorem dX7_init_21 : decode cX7_init 21 = .ok (.iconst 4, 1) := dk_7 (dk_at dksX7_init_0 21 rfl rfl)
theorem dX7_init_22 : decode cX7_init 22 = .ok (.newarray .int, 2) := dk_188_10 (dk_at dksX7_init_0 22 rfl rfl)
theorem dX7_init_24 : decode cX7_init 24 = .ok (.putfield 17, 3) := dk_181 0 17 (dk_at dksX7_init_1 0 rfl rfl)
theorem dX7_init_27 : decode cX7_init 27 = .ok (.aload_n 0, 1) := dk_42 (dk_at dksX7_init_1 3 rfl rfl)
theorem dX7_init_28 : decode cX7_init 28 = .ok (.iconst 4, 1) := dk_7 (dk_at dksX7_init_1 4 rfl rfl)
theorem dX7_init_29 : decode cX7_init 29 = .ok (.newarray .int, 2) := dk_188_10 (dk_at dksX7_init_1 5 rfl rfl)
theorem dX7_init_31 : decode cX7_init 31 = .ok (.putfield 20, 3) := dk_181 0 20 (dk_at dksX7_init_1 7 rfl rfl)
theorem dX7_init_34 : decode cX7_init 34 = .ok (.aload_n 0, 1) := dk_42 (dk_at dksX7_init_1 10 rfl rfl)
theorem dX7_init_35 : decode cX7_init 35 = .ok (.iconst 4, 1) := dk_7 (dk_at dksX7_init_1 11 rfl rfl)
theorem dX7_init_36 : decode cX7_init 36 = .ok (.newarray .int, 2) := dk_188_10 (dk_at dksX7_init_1 12 rfl rfl)
theorem dX7_init_38 : decode cX7_init 38 = .ok (.putfield 23, 3) := dk_181 0 23 (dk_at dksX7_init_1 14 rfl rfl)
theorem dX7_init_41 : decode cX7_init 41 = .ok (.aload_n 0, 1) := dk_42 (dk_at dksX7_init_1 17 rfl rfl)
theorem dX7_init_42 : decode cX7_init 42 = .ok (.iconst 4, 1) := dk_7 (dk_at dksX7_init_1 18 rfl rfl)
theorem dX7_init_43 : decode cX7_init 43 = .ok (.newarray .int, 2) := dk_188_10 (dk_at dksX7_init_1 19 rfl rfl)
theorem dX7_init_45 : decode cX7_init 45 = .ok (.putfield 26, 3) := dk_181 0 26 (dk_at dksX7_init_1 21 rfl rfl)
theorem dX7_init_48 : decode cX7_init 48 = .ok (.aload_n 0, 1) := dk_42 (dk_at dksX7_init_2 0 rfl rfl)
theorem dX7_init_49 : decode cX7_init 49 = .ok (.bipush 12, 2) := dk_16 12 (dk_at dksX7_init_2 1 rfl rfl)
theorem dX7_init_51 : decode cX7_init 51 = .ok (.newarray .int, 2) := dk_188_10 (dk_at dksX7_init_2 3 rfl rfl)
theorem dX7_init_53 : decode cX7_init 53 = .ok (.putfield 29, 3) := dk_181 0 29 (dk_at dksX7_init_2 5 rfl rfl)
theorem dX7_init_56 : decode cX7_init 56 = .ok (.aload_n 0, 1) := dk_42 (dk_at dksX7_init_2 8 rfl rfl)
theorem dX7_init_57 : decode cX7_init 57 = .ok (.iconst 4, 1) := dk_7 (dk_at dksX7_init_2 9 rfl rfl)
theorem dX7_init_58 : decode cX7_init 58 = .ok (.newarray .int, 2) := dk_188_10 (dk_at dksX7_init_2 10 rfl rfl)
theorem dX7_init_60 : decode cX7_init 60 = .ok (.putfield 32, 3) := dk_181 0 32 (dk_at dksX7_init_2 12 rfl rfl)
theorem dX7_init_63 : decode cX7_init 63 = .ok (.aload_n 0, 1) := dk_42 (dk_at dksX7_init_2 15 rfl rfl)
theorem dX7_init_64 : decode cX7_init 64 = .ok (.bipush 16, 2) := dk_16 16 (dk_at dksX7_init_2 16 rfl rfl)
theorem dX7_init_66 : decode cX7_init 66 = .ok (.newarray .int, 2) := dk_188_10 (dk_at dksX7_init_2 18 rfl rfl)
theorem dX7_init_68 : decode cX7_init 68 = .ok (.putfield 35, 3) := dk_181 0 35 (dk_at dksX7_init_2 20 rfl rfl)
theorem dX7_init_71 : decode cX7_init 71 = .ok (.aload_n 0, 1) := dk_42 (dk_at dksX7_init_2 23 rfl rfl)
theorem dX7_init_72 : decode cX7_init 72 = .ok (.bipush 16, 2) := dk_16 16 (dk_at dksX7_init_3 0 rfl rfl)
theorem dX7_init_74 : decode cX7_init 74 = .ok (.newarray .int, 2) := dk_188_10 (dk_at dksX7_init_3 2 rfl rfl)
theorem dX7_init_76 : decode cX7_init 76 = .ok (.putfield 38, 3) := dk_181 0 38 (dk_at dksX7_init_3 4 rfl rfl)
theorem dX7_init_79 : decode cX7_init 79 = .ok (.aload_n 0, 1) := dk_42 (dk_at dksX7_init_3 7 rfl rfl)
theorem dX7_init_80 : decode cX7_init 80 = .ok (.sipush 144, 3) := dk_17 0 144 (dk_at dksX7_init_3 8 rfl rfl)
theorem dX7_init_83 : decode cX7_init 83 = .ok (.newarray .boolean, 2) := dk_188_4 (dk_at dksX7_init_3 11 rfl rfl)
theorem dX7_init_85 : decode cX7_init 85 = .ok (.putfield 41, 3) := dk_181 0 41 (dk_at dksX7_init_3 13 rfl rfl)
theorem dX7_init_88 : decode cX7_init 88 = .ok (.aload_n 0, 1) := dk_42 (dk_at dksX7_init_3 16 rfl rfl)
theorem dX7_init_89 : decode cX7_init 89 = .ok (.iconst 4, 1) := dk_7 (dk_at dksX7_init_3 17 rfl rfl)
theorem dX7_init_90 : decode cX7_init 90 = .ok (.newarray .int, 2) := dk_188_10 (dk_at dksX7_init_3 18 rfl rfl)
theorem dX7_init_92 : decode cX7_init 92 = .ok (.putfield 45, 3) := dk_181 0 45 (dk_at dksX7_init_3 20 rfl rfl)
theorem dX7_init_95 : decode cX7_init 95 = .ok (.aload_n 0, 1) := dk_42 (dk_at dksX7_init_3 23 rfl rfl)
theorem dX7_init_96 : decode cX7_init 96 = .ok (.bipush 32, 2) := dk_16 32 (dk_at dksX7_init_4 0 rfl rfl)
theorem dX7_init_98 : decode cX7_init 98 = .ok (.newarray .int, 2) := dk_188_10 (dk_at dksX7_init_4 2 rfl rfl)
theorem dX7_init_100 : decode cX7_init 100 = .ok (.putfield 48, 3) := dk_181 0 48 (dk_at dksX7_init_4 4 rfl rfl)
theorem dX7_init_103 : decode cX7_init 103 = .ok (.aload_n 0, 1) := dk_42 (dk_at dksX7_init_4 7 rfl rfl)
theorem dX7_init_104 : decode cX7_init 104 = .ok (.bipush 32, 2) := dk_16 32 (dk_at dksX7_init_4 8 rfl rfl)
theorem dX7_init_106 : decode cX7_init 106 = .ok (.newarray .int, 2) := dk_188_10 (dk_at dksX7_init_4 10 rfl rfl)
theorem dX7_init_108 : decode cX7_init 108 = .ok (.putfield 51, 3) := dk_181 0 51 (dk_at dksX7_init_4 12 rfl rfl)
theorem dX7_init_111 : decode cX7_init 111 = .ok (.aload_n 0, 1) := dk_42 (dk_at dksX7_init_4 15 rfl rfl)
theorem dX7_init_112 : decode cX7_init 112 = .ok (.bipush 36, 2) := dk_16 36 (dk_at dksX7_init_4 16 rfl rfl)
theorem dX7_init_114 : decode cX7_init 114 = .ok (.newarray .int, 2) := dk_188_10 (dk_at dksX7_init_4 18 rfl rfl)
theorem dX7_init_116 : decode cX7_init 116 = .ok (.putfield 54, 3) := dk_181 0 54 (dk_at dksX7_init_4 20 rfl rfl)
theorem dX7_init_119 : decode cX7_init 119 = .ok (.aload_n 0, 1) := dk_42 (dk_at dksX7_init_4 23 rfl rfl)
theorem dX7_init_120 : decode cX7_init 120 = .ok (.sipush 1440, 3) := dk_17 5 160 (dk_at dksX7_init_5 0 rfl rfl)
theorem dX7_init_123 : decode cX7_init 123 = .ok (.newarray .int, 2) := dk_188_10 (dk_at dksX7_init_5 3 rfl rfl)
theorem dX7_init_125 : decode cX7_init 125 = .ok (.putfield 57, 3) := dk_181 0 57 (dk_at dksX7_init_5 5 rfl rfl)
theorem dX7_init_128 : decode cX7_init 128 = .ok (.aload_n 0, 1) := dk_42 (dk_at dksX7_init_5 8 rfl rfl)
theorem dX7_init_129 : decode cX7_init 129 = .ok (.sipush 1440, 3) := dk_17 5 160 (dk_at dksX7_init_5 9 rfl rfl)
theorem dX7_init_132 : decode cX7_init 132 = .ok (.newarray .int, 2) := dk_188_10 (dk_at dksX7_init_5 12 rfl rfl)
theorem dX7_init_134 : decode cX7_init 134 = .ok (.putfield 60, 3) := dk_181 0 60 (dk_at dksX7_init_5 14 rfl rfl)
theorem dX7_init_137 : decode cX7_init 137 = .ok (.aload_n 0, 1) := dk_42 (dk_at dksX7_init_5 17 rfl rfl)
theorem dX7_init_138 : decode cX7_init 138 = .ok (.sipush 1440, 3) := dk_17 5 160 (dk_at dksX7_init_5 18 rfl rfl)
theorem dX7_init_141 : decode cX7_init 141 = .ok (.newarray .int, 2) := dk_188_10 (dk_at dksX7_init_5 21 rfl rfl)
theorem dX7_init_143 : decode cX7_init 143 = .ok (.putfield 63, 3) := dk_181 0 63 (dk_at dksX7_init_6 0 rfl rfl)
theorem dX7_init_146 : decode cX7_init 146 = .ok (.aload_n 0, 1) := dk_42 (dk_at dksX7_init_6 3 rfl rfl)
theorem dX7_init_147 : decode cX7_init 147 = .ok (.sipush 1440, 3) := dk_17 5 160 (dk_at dksX7_init_6 4 rfl rfl)
theorem dX7_init_150 : decode cX7_init 150 = .ok (.newarray .int, 2) := dk_188_10 (dk_at dksX7_init_6 7 rfl rfl)
theorem dX7_init_152 : decode cX7_init 152 = .ok (.putfield 66, 3) := dk_181 0 66 (dk_at dksX7_init_6 9 rfl rfl)
theorem dX7_init_155 : decode cX7_init 155 = .ok (.aload_n 0, 1) := dk_42 (dk_at dksX7_init_6 12 rfl rfl)
theorem dX7_init_156 : decode cX7_init 156 = .ok (.iconst 4, 1) := dk_7 (dk_at dksX7_init_6 13 rfl rfl)
theorem dX7_init_157 : decode cX7_init 157 = .ok (.newarray .int, 2) := dk_188_10 (dk_at dksX7_init_6 14 rfl rfl)
theorem dX7_init_159 : decode cX7_init 159 = .ok (.putfield 69, 3) := dk_181 0 69 (dk_at dksX7_init_6 16 rfl rfl)
theorem dX7_init_162 : decode cX7_init 162 = .ok (.aload_n 0, 1) := dk_42 (dk_at dksX7_init_6 19 rfl rfl)
theorem dX7_init_163 : decode cX7_init 163 = .ok (.sipush 160, 3) := dk_17 0 160 (dk_at dksX7_init_6 20 rfl rfl)
theorem dX7_init_166 : decode cX7_init 166 = .ok (.newarray .int, 2) := dk_188_10 (dk_at dksX7_init_7 0 rfl rfl)
theorem dX7_init_168 : decode cX7_init 168 = .ok (.putfield 72, 3) := dk_181 0 72 (dk_at dksX7_init_7 2 rfl rfl)
theorem dX7_init_171 : decode cX7_init 171 = .ok (.aload_n 0, 1) := dk_42 (dk_at dksX7_init_7 5 rfl rfl)
theorem dX7_init_172 : decode cX7_init 172 = .ok (.sipush 160, 3) := dk_17 0 160 (dk_at dksX7_init_7 6 rfl rfl)
theorem dX7_init_175 : decode cX7_init 175 = .ok (.newarray .int, 2) := dk_188_10 (dk_at dksX7_init_7 9 rfl rfl)
theorem dX7_init_177 : decode cX7_init 177 = .ok (.putfield 75, 3) := dk_181 0 75 (dk_at dksX7_init_7 11 rfl rfl)
theorem dX7_init_180 : decode cX7_init 180 = .ok (.aload_n 0, 1) := dk_42 (dk_at dksX7_init_7 14 rfl rfl)
theorem dX7_init_181 : decode cX7_init 181 = .ok (.sipush 160, 3) := dk_17 0 160 (dk_at dksX7_init_7 15 rfl rfl)
theorem dX7_init_184 : decode cX7_init 184 = .ok (.newarray .int, 2) := dk_188_10 (dk_at dksX7_init_7 18 rfl rfl)
theorem dX7_init_186 : decode cX7_init 186 = .ok (.putfield 78, 3) := dk_181 0 78 (dk_at dksX7_init_7 20 rfl rfl)
theorem dX7_init_189 : decode cX7_init 189 = .ok (.aload_n 0, 1) := dk_42 (dk_at dksX7_init_7 23 rfl rfl)
theorem dX7_init_190 : decode cX7_init 190 = .ok (.sipush 576, 3) := dk_17 2 64 (dk_at dksX7_init_8 0 rfl rfl)
theorem dX7_init_193 : decode cX7_init 193 = .ok (.newarray .boolean, 2) := dk_188_4 (dk_at dksX7_init_8 3 rfl rfl)
theorem dX7_init_195 : decode cX7_init 195 = .ok (.putfield 81, 3) := dk_181 0 81 (dk_at dksX7_init_8 5 rfl rfl)
theorem dX7_init_198 : decode cX7_init 198 = .ok (.aload_n 0, 1) := dk_42 (dk_at dksX7_init_8 8 rfl rfl)
theorem dX7_init_199 : decode cX7_init 199 = .ok (.bipush 16, 2) := dk_16 16 (dk_at dksX7_init_8 9 rfl rfl)
theorem dX7_init_201 : decode cX7_init 201 = .ok (.newarray .boolean, 2) := dk_188_4 (dk_at dksX7_init_8 11 rfl rfl)
theorem dX7_init_203 : decode cX7_init 203 = .ok (.putfield 84, 3) := dk_181 0 84 (dk_at dksX7_init_8 13 rfl rfl)
theorem dX7_init_206 : decode cX7_init 206 = .ok (.aload_n 0, 1) := dk_42 (dk_at dksX7_init_8 16 rfl rfl)
theorem dX7_init_207 : decode cX7_init 207 = .ok (.iconst 3, 1) := dk_6 (dk_at dksX7_init_8 17 rfl rfl)
theorem dX7_init_208 : decode cX7_init 208 = .ok (.newarray .int, 2) := dk_188_10 (dk_at dksX7_init_8 18 rfl rfl)
theorem dX7_init_210 : decode cX7_init 210 = .ok (.putfield 87, 3) := dk_181 0 87 (dk_at dksX7_init_8 20 rfl rfl)
theorem dX7_init_213 : decode cX7_init 213 = .ok (.aload_n 0, 1) := dk_42 (dk_at dksX7_init_8 23 rfl rfl)
theorem dX7_init_214 : decode cX7_init 214 = .ok (.iconst 5, 1) := dk_8 (dk_at dksX7_init_9 0 rfl rfl)
theorem dX7_init_215 : decode cX7_init 215 = .ok (.newarray .int, 2) := dk_188_10 (dk_at dksX7_init_9 1 rfl rfl)
theorem dX7_init_217 : decode cX7_init 217 = .ok (.putfield 90, 3) := dk_181 0 90 (dk_at dksX7_init_9 3 rfl rfl)
theorem dX7_init_220 : decode cX7_init 220 = .ok (.aload_n 0, 1) := dk_42 (dk_at dksX7_init_9 6 rfl rfl)
theorem dX7_init_221 : decode cX7_init 221 = .ok (.bipush 36, 2) := dk_16 36 (dk_at dksX7_init_9 7 rfl rfl)
theorem dX7_init_223 : decode cX7_init 223 = .ok (.newarray .boolean, 2) := dk_188_4 (dk_at dksX7_init_9 9 rfl rfl)
theorem dX7_init_225 : decode cX7_init 225 = .ok (.putfield 93, 3) := dk_181 0 93 (dk_at dksX7_init_9 11 rfl rfl)
theorem dX7_init_228 : decode cX7_init 228 = .ok (.aload_n 0, 1) := dk_42 (dk_at dksX7_init_9 14 rfl rfl)
theorem dX7_init_229 : decode cX7_init 229 = .ok (.sipush 420, 3) := dk_17 1 164 (dk_at dksX7_init_9 15 rfl rfl)
theorem dX7_init_232 : decode cX7_init 232 = .ok (.newarray .int, 2) := dk_188_10 (dk_at dksX7_init_9 18 rfl rfl)
theorem dX7_init_234 : decode cX7_init 234 = .ok (.putfield 96, 3) := dk_181 0 96 (dk_at dksX7_init_9 20 rfl rfl)
theorem dX7_init_237 : decode cX7_init 237 = .ok (.aload_n 0, 1) := dk_42 (dk_at dksX7_init_9 23 rfl rfl)
theorem dX7_init_238 : decode cX7_init 238 = .ok (.bipush 41, 2) := dk_16 41 (dk_at dksX7_init_10 0 rfl rfl)
theorem dX7_init_240 : decode cX7_init 240 = .ok (.newarray .int, 2) := dk_188_10 (dk_at dksX7_init_10 2 rfl rfl)
theorem dX7_init_242 : decode cX7_init 242 = .ok (.putfield 99, 3) := dk_181 0 99 (dk_at dksX7_init_10 4 rfl rfl)
theorem dX7_init_245 : decode cX7_init 245 = .ok (.aload_n 0, 1) := dk_42 (dk_at dksX7_init_10 7 rfl rfl)
theorem dX7_init_246 : decode cX7_init 246 = .ok (.bipush 41, 2) := dk_16 41 (dk_at dksX7_init_10 8 rfl rfl)
theorem dX7_init_248 : decode cX7_init 248 = .ok (.newarray .int, 2) := dk_188_10 (dk_at dksX7_init_10 10 rfl rfl)
theorem dX7_init_250 : decode cX7_init 250 = .ok (.putfield 102, 3) := dk_181 0 102 (dk_at dksX7_init_10 12 rfl rfl)
theorem dX7_init_253 : decode cX7_init 253 = .ok (.aload_n 0, 1) := dk_42 (dk_at dksX7_init_10 15 rfl rfl)
theorem dX7_init_254 : decode cX7_init 254 = .ok (.bipush 41, 2) := dk_16 41 (dk_at dksX7_init_10 16 rfl rfl)
theorem dX7_init_256 : decode cX7_init 256 = .ok (.newarray .int, 2) := dk_188_10 (dk_at dksX7_init_10 18 rfl rfl)
theorem dX7_init_258 : decode cX7_init 258 = .ok (.putfield 105, 3) := dk_181 0 105 (dk_at dksX7_init_10 20 rfl rfl)
theorem dX7_init_261 : decode cX7_init 261 = .ok (.aload_n 0, 1) := dk_42 (dk_at dksX7_init_10 23 rfl rfl)
theorem dX7_init_262 : decode cX7_init 262 = .ok (.bipush 41, 2) := dk_16 41 (dk_at dksX7_init_11 0 rfl rfl)
theorem dX7_init_264 : decode cX7_init 264 = .ok (.newarray .int, 2) := dk_188_10 (dk_at dksX7_init_11 2 rfl rfl)
theorem dX7_init_266 : decode cX7_init 266 = .ok (.putfield 108, 3) := dk_181 0 108 (dk_at dksX7_init_11 4 rfl rfl)
theorem dX7_init_269 : decode cX7_init 269 = .ok (.aload_n 0, 1) := dk_42 (dk_at dksX7_init_11 7 rfl rfl)
theorem dX7_init_270 : decode cX7_init 270 = .ok (.sipush 3321, 3) := dk_17 12 249 (dk_at dksX7_init_11 8 rfl rfl)
theorem dX7_init_273 : decode cX7_init 273 = .ok (.newarray .boolean, 2) := dk_188_4 (dk_at dksX7_init_11 11 rfl rfl)
theorem dX7_init_275 : decode cX7_init 275 = .ok (.putfield 111, 3) := dk_181 0 111 (dk_at dksX7_init_11 13 rfl rfl)
theorem dX7_init_278 : decode cX7_init 278 = .ok (.aload_n 0, 1) := dk_42 (dk_at dksX7_init_11 16 rfl rfl)
theorem dX7_init_279 : decode cX7_init 279 = .ok (.bipush 9, 2) := dk_16 9 (dk_at dksX7_init_11 17 rfl rfl)
theorem dX7_init_281 : decode cX7_init 281 = .ok (.newarray .boolean, 2) := dk_188_4 (dk_at dksX7_init_11 19 rfl rfl)
theorem dX7_init_283 : decode cX7_init 283 = .ok (.putfield 114, 3) := dk_181 0 114 (dk_at dksX7_init_11 21 rfl rfl)
theorem dX7_init_286 : decode cX7_init 286 = .ok (.aload_n 0, 1) := dk_42 (dk_at dksX7_init_12 0 rfl rfl)
theorem dX7_init_287 : decode cX7_init 287 = .ok (.iconst 3, 1) := dk_6 (dk_at dksX7_init_12 1 rfl rfl)
theorem dX7_init_288 : decode cX7_init 288 = .ok (.newarray .int, 2) := dk_188_10 (dk_at dksX7_init_12 2 rfl rfl)
theorem dX7_init_290 : decode cX7_init 290 = .ok (.putfield 117, 3) := dk_181 0 117 (dk_at dksX7_init_12 4 rfl rfl)
theorem dX7_init_293 : decode cX7_init 293 = .ok (.aload_n 0, 1) := dk_42 (dk_at dksX7_init_12 7 rfl rfl)
theorem dX7_init_294 : decode cX7_init 294 = .ok (.sipush 256, 3) := dk_17 1 0 (dk_at dksX7_init_12 8 rfl rfl)
theorem dX7_init_297 : decode cX7_init 297 = .ok (.newarray .boolean, 2) := dk_188_4 (dk_at dksX7_init_12 11 rfl rfl)
theorem dX7_init_299 : decode cX7_init 299 = .ok (.putfield 120, 3) := dk_181 0 120 (dk_at dksX7_init_12 13 rfl rfl)
theorem dX7_init_302 : decode cX7_init 302 = .ok (.aload_n 0, 1) := dk_42 (dk_at dksX7_init_12 16 rfl rfl)
theorem dX7_init_303 : decode cX7_init 303 = .ok (.bipush 12, 2) := dk_16 12 (dk_at dksX7_init_12 17 rfl rfl)
theorem dX7_init_305 : decode cX7_init 305 = .ok (.newarray .int, 2) := dk_188_10 (dk_at dksX7_init_12 19 rfl rfl)
theorem dX7_init_307 : decode cX7_init 307 = .ok (.putfield 123, 3) := dk_181 0 123 (dk_at dksX7_init_12 21 rfl rfl)
theorem dX7_init_310 : decode cX7_init 310 = .ok (.aload_n 0, 1) := dk_42 (dk_at dksX7_init_13 0 rfl rfl)
theorem dX7_init_311 : decode cX7_init 311 = .ok (.bipush 16, 2) := dk_16 16 (dk_at dksX7_init_13 1 rfl rfl)
theorem dX7_init_313 : decode cX7_init 313 = .ok (.newarray .int, 2) := dk_188_10 (dk_at dksX7_init_13 3 rfl rfl)
theorem dX7_init_315 : decode cX7_init 315 = .ok (.putfield 126, 3) := dk_181 0 126 (dk_at dksX7_init_13 5 rfl rfl)
theorem dX7_init_318 : decode cX7_init 318 = .ok (.aload_n 0, 1) := dk_42 (dk_at dksX7_init_13 8 rfl rfl)
theorem dX7_init_319 : decode cX7_init 319 = .ok (.ldc 129, 2) := dk_18 129 (dk_at dksX7_init_13 9 rfl rfl)
theorem dX7_init_321 : decode cX7_init 321 = .ok (.newarray .boolean, 2) := dk_188_4 (dk_at dksX7_init_13 11 rfl rfl)
theorem dX7_init_323 : decode cX7_init 323 = .ok (.putfield 130, 3) := dk_181 0 130 (dk_at dksX7_init_13 13 rfl rfl)
theorem dX7_init_326 : decode cX7_init 326 = .ok (.aload_n 0, 1) := dk_42 (dk_at dksX7_init_13 16 rfl rfl)
theorem dX7_init_327 : decode cX7_init 327 = .ok (.ldc 129, 2) := dk_18 129 (dk_at dksX7_init_13 17 rfl rfl)
theorem dX7_init_329 : decode cX7_init 329 = .ok (.newarray .boolean, 2) := dk_188_4 (dk_at dksX7_init_13 19 rfl rfl)
theorem dX7_init_331 : decode cX7_init 331 = .ok (.putfield 133, 3) := dk_181 0 133 (dk_at dksX7_init_13 21 rfl rfl)
theorem dX7_init_334 : decode cX7_init 334 = .ok (.aload_n 0, 1) := dk_42 (dk_at dksX7_init_14 0 rfl rfl)
theorem dX7_init_335 : decode cX7_init 335 = .ok (.bipush 12, 2) := dk_16 12 (dk_at dksX7_init_14 1 rfl rfl)
theorem dX7_init_337 : decode cX7_init 337 = .ok (.newarray .int, 2) := dk_188_10 (dk_at dksX7_init_14 3 rfl rfl)
theorem dX7_init_339 : decode cX7_init 339 = .ok (.putfield 136, 3) := dk_181 0 136 (dk_at dksX7_init_14 5 rfl rfl)
theorem dX7_init_342 : decode cX7_init 342 = .ok (.aload_n 0, 1) := dk_42 (dk_at dksX7_init_14 8 rfl rfl)
theorem dX7_init_343 : decode cX7_init 343 = .ok (.iconst 3, 1) := dk_6 (dk_at dksX7_init_14 9 rfl rfl)
theorem dX7_init_344 : decode cX7_init 344 = .ok (.newarray .boolean, 2) := dk_188_4 (dk_at dksX7_init_14 10 rfl rfl)
theorem dX7_init_346 : decode cX7_init 346 = .ok (.putfield 139, 3) := dk_181 0 139 (dk_at dksX7_init_14 12 rfl rfl)
theorem dX7_init_349 : decode cX7_init 349 = .ok (.aload_n 0, 1) := dk_42 (dk_at dksX7_init_14 15 rfl rfl)
theorem dX7_init_350 : decode cX7_init 350 = .ok (.getfield 20, 3) := dk_180 0 20 (dk_at dksX7_init_14 16 rfl rfl)
theorem dX7_init_353 : decode cX7_init 353 = .ok (.iconst 0, 1) := dk_3 (dk_at dksX7_init_14 19 rfl rfl)
theorem dX7_init_354 : decode cX7_init 354 = .ok (.iconst (-1), 1) := dk_2 (dk_at dksX7_init_14 20 rfl rfl)
theorem dX7_init_355 : decode cX7_init 355 = .ok (.iastore, 1) := dk_79 (dk_at dksX7_init_14 21 rfl rfl)
theorem dX7_init_356 : decode cX7_init 356 = .ok (.aload_n 0, 1) := dk_42 (dk_at dksX7_init_14 22 rfl rfl)
theorem dX7_init_357 : decode cX7_init 357 = .ok (.getfield 26, 3) := dk_180 0 26 (dk_at dksX7_init_15 0 rfl rfl)
theorem dX7_init_360 : decode cX7_init 360 = .ok (.iconst 0, 1) := dk_3 (dk_at dksX7_init_15 3 rfl rfl)
theorem dX7_init_361 : decode cX7_init 361 = .ok (.iconst (-1), 1) := dk_2 (dk_at dksX7_init_15 4 rfl rfl)
theorem dX7_init_362 : decode cX7_init 362 = .ok (.iastore, 1) := dk_79 (dk_at dksX7_init_15 5 rfl rfl)
theorem dX7_init_363 : decode cX7_init 363 = .ok (.iconst 0, 1) := dk_3 (dk_at dksX7_init_15 6 rfl rfl)
theorem dX7_init_364 : decode cX7_init 364 = .ok (.istore_n 1, 1) := dk_60 (dk_at dksX7_init_15 7 rfl rfl)
theorem dX7_init_365 : decode cX7_init 365 = .ok (.iload_n 1, 1) := dk_27 (dk_at dksX7_init_15 8 rfl rfl)
theorem dX7_init_366 : decode cX7_init 366 = .ok (.iconst 3, 1) := dk_6 (dk_at dksX7_init_15 9 rfl rfl)
theorem dX7_init_367 : decode cX7_init 367 = .ok (.if_icmp .ge 16, 3) := dk_162 0 16 (dk_at dksX7_init_15 10 rfl rfl)
theorem dX7_init_370 : decode cX7_init 370 = .ok (.aload_n 0, 1) := dk_42 (dk_at dksX7_init_15 13 rfl rfl)
theorem dX7_init_371 : decode cX7_init 371 = .ok (.getfield 29, 3) := dk_180 0 29 (dk_at dksX7_init_15 14 rfl rfl)
theorem dX7_init_374 : decode cX7_init 374 = .ok (.iload_n 1, 1) := dk_27 (dk_at dksX7_init_15 17 rfl rfl)
theorem dX7_init_375 : decode cX7_init 375 = .ok (.iconst 2, 1) := dk_5 (dk_at dksX7_init_15 18 rfl rfl)
theorem dX7_init_376 : decode cX7_init 376 = .ok (.iastore, 1) := dk_79 (dk_at dksX7_init_15 19 rfl rfl)
theorem dX7_init_377 : decode cX7_init 377 = .ok (.iinc 1 1, 3) := dk_132 1 1 (dk_at dksX7_init_15 20 rfl rfl)
theorem dX7_init_380 : decode cX7_init 380 = .ok (.goto (-15), 3) := dk_167 255 241 (dk_at dksX7_init_16 0 rfl rfl)
theorem dX7_init_383 : decode cX7_init 383 = .ok (.return_, 1) := dk_177 (dk_at dksX7_init_16 3 rfl rfl)
abbrev cX7_size : ByteArray := prog_33_method_14_code
def yX7_size : MethodName := ⟨RX7, "size", "(II)Z"⟩
def dkwX7_size_1 : List UInt8 := [180, 0, 29, 27, 46, 28, 160, 0, 5, 3, 172, 42, 180, 0, 29, 27, 28, 79, 42, 182, 0, 168, 4, 172]
abbrev dktX7_size_1 : List UInt8 := dkwX7_size_1 ++ []
def dkwX7_size_0 : List UInt8 := [42, 3, 181, 0, 142, 27, 3, 5, 184, 0, 160, 153, 0, 22, 28, 4, 6, 184, 0, 160, 153, 0, 13, 42]
abbrev dktX7_size_0 : List UInt8 := dkwX7_size_0 ++ dktX7_size_1
theorem dksX7_size_0 : cX7_size.data.toList.drop 0 = dktX7_size_0 := by decide +kernel
theorem dksX7_size_1 : cX7_size.data.toList.drop 24 = dktX7_size_1 := dk_seg dksX7_size_0 24 rfl rfl
theorem dX7_size_0 : decode cX7_size 0 = .ok (.aload_n 0, 1) := dk_42 (dk_at dksX7_size_0 0 rfl rfl)
theorem dX7_size_1 : decode cX7_size 1 = .ok (.iconst 0, 1) := dk_3 (dk_at dksX7_size_0 1 rfl rfl)
theorem dX7_size_2 : decode cX7_size 2 = .ok (.putfield 142, 3) := dk_181 0 142 (dk_at dksX7_size_0 2 rfl rfl)
theorem dX7_size_5 : decode cX7_size 5 = .ok (.iload_n 1, 1) := dk_27 (dk_at dksX7_size_0 5 rfl rfl)
theorem dX7_size_6 : decode cX7_size 6 = .ok (.iconst 0, 1) := dk_3 (dk_at dksX7_size_0 6 rfl rfl)
theorem dX7_size_7 : decode cX7_size 7 = .ok (.iconst 2, 1) := dk_5 (dk_at dksX7_size_0 7 rfl rfl)
theorem dX7_size_8 : decode cX7_size 8 = .ok (.invokestatic 160, 3) := dk_184 0 160 (dk_at dksX7_size_0 8 rfl rfl)
theorem dX7_size_11 : decode cX7_size 11 = .ok (.ifCond .eq 22, 3) := dk_153 0 22 (dk_at dksX7_size_0 11 rfl rfl)
theorem dX7_size_14 : decode cX7_size 14 = .ok (.iload_n 2, 1) := dk_28 (dk_at dksX7_size_0 14 rfl rfl)
theorem dX7_size_15 : decode cX7_size 15 = .ok (.iconst 1, 1) := dk_4 (dk_at dksX7_size_0 15 rfl rfl)
theorem dX7_size_16 : decode cX7_size 16 = .ok (.iconst 3, 1) := dk_6 (dk_at dksX7_size_0 16 rfl rfl)
theorem dX7_size_17 : decode cX7_size 17 = .ok (.invokestatic 160, 3) := dk_184 0 160 (dk_at dksX7_size_0 17 rfl rfl)
theorem dX7_size_20 : decode cX7_size 20 = .ok (.ifCond .eq 13, 3) := dk_153 0 13 (dk_at dksX7_size_0 20 rfl rfl)
theorem dX7_size_23 : decode cX7_size 23 = .ok (.aload_n 0, 1) := dk_42 (dk_at dksX7_size_0 23 rfl rfl)
theorem dX7_size_24 : decode cX7_size 24 = .ok (.getfield 29, 3) := dk_180 0 29 (dk_at dksX7_size_1 0 rfl rfl)
theorem dX7_size_27 : decode cX7_size 27 = .ok (.iload_n 1, 1) := dk_27 (dk_at dksX7_size_1 3 rfl rfl)
theorem dX7_size_28 : decode cX7_size 28 = .ok (.iaload, 1) := dk_46 (dk_at dksX7_size_1 4 rfl rfl)
theorem dX7_size_29 : decode cX7_size 29 = .ok (.iload_n 2, 1) := dk_28 (dk_at dksX7_size_1 5 rfl rfl)
theorem dX7_size_30 : decode cX7_size 30 = .ok (.if_icmp .ne 5, 3) := dk_160 0 5 (dk_at dksX7_size_1 6 rfl rfl)
theorem dX7_size_33 : decode cX7_size 33 = .ok (.iconst 0, 1) := dk_3 (dk_at dksX7_size_1 9 rfl rfl)
theorem dX7_size_34 : decode cX7_size 34 = .ok (.ireturn, 1) := dk_172 (dk_at dksX7_size_1 10 rfl rfl)
theorem dX7_size_35 : decode cX7_size 35 = .ok (.aload_n 0, 1) := dk_42 (dk_at dksX7_size_1 11 rfl rfl)
theorem dX7_size_36 : decode cX7_size 36 = .ok (.getfield 29, 3) := dk_180 0 29 (dk_at dksX7_size_1 12 rfl rfl)
theorem dX7_size_39 : decode cX7_size 39 = .ok (.iload_n 1, 1) := dk_27 (dk_at dksX7_size_1 15 rfl rfl)
theorem dX7_size_40 : decode cX7_size 40 = .ok (.iload_n 2, 1) := dk_28 (dk_at dksX7_size_1 16 rfl rfl)
theorem dX7_size_41 : decode cX7_size 41 = .ok (.iastore, 1) := dk_79 (dk_at dksX7_size_1 17 rfl rfl)
theorem dX7_size_42 : decode cX7_size 42 = .ok (.aload_n 0, 1) := dk_42 (dk_at dksX7_size_1 18 rfl rfl)
theorem dX7_size_43 : decode cX7_size 43 = .ok (.invokevirtual 168, 3) := dk_182 0 168 (dk_at dksX7_size_1 19 rfl rfl)
theorem dX7_size_46 : decode cX7_size 46 = .ok (.iconst 1, 1) := dk_4 (dk_at dksX7_size_1 22 rfl rfl)
theorem dX7_size_47 : decode cX7_size 47 = .ok (.ireturn, 1) := dk_172 (dk_at dksX7_size_1 23 rfl rfl)
abbrev cX7_in : ByteArray := prog_33_method_3_code
def yX7_in : MethodName := ⟨RX7, "in", "(III)Z"⟩
def dkwX7_in_0 : List UInt8 := [26, 27, 161, 0, 12, 26, 28, 163, 0, 7, 4, 167, 0, 4, 3, 172]
abbrev dktX7_in_0 : List UInt8 := dkwX7_in_0 ++ []
theorem dksX7_in_0 : cX7_in.data.toList.drop 0 = dktX7_in_0 := by decide +kernel
theorem dX7_in_0 : decode cX7_in 0 = .ok (.iload_n 0, 1) := dk_26 (dk_at dksX7_in_0 0 rfl rfl)
theorem dX7_in_1 : decode cX7_in 1 = .ok (.iload_n 1, 1) := dk_27 (dk_at dksX7_in_0 1 rfl rfl)
theorem dX7_in_2 : decode cX7_in 2 = .ok (.if_icmp .lt 12, 3) := dk_161 0 12 (dk_at dksX7_in_0 2 rfl rfl)
theorem dX7_in_5 : decode cX7_in 5 = .ok (.iload_n 0, 1) := dk_26 (dk_at dksX7_in_0 5 rfl rfl)
theorem dX7_in_6 : decode cX7_in 6 = .ok (.iload_n 2, 1) := dk_28 (dk_at dksX7_in_0 6 rfl rfl)
theorem dX7_in_7 : decode cX7_in 7 = .ok (.if_icmp .gt 7, 3) := dk_163 0 7 (dk_at dksX7_in_0 7 rfl rfl)
theorem dX7_in_10 : decode cX7_in 10 = .ok (.iconst 1, 1) := dk_4 (dk_at dksX7_in_0 10 rfl rfl)
theorem dX7_in_11 : decode cX7_in 11 = .ok (.goto 4, 3) := dk_167 0 4 (dk_at dksX7_in_0 11 rfl rfl)
theorem dX7_in_14 : decode cX7_in 14 = .ok (.iconst 0, 1) := dk_3 (dk_at dksX7_in_0 14 rfl rfl)
theorem dX7_in_15 : decode cX7_in 15 = .ok (.ireturn, 1) := dk_172 (dk_at dksX7_in_0 15 rfl rfl)
abbrev cX7_clearWorld : ByteArray := prog_33_method_13_code
def yX7_clearWorld : MethodName := ⟨RX7, "clearWorld", "()V"⟩
def dkwX7_clearWorld_1 : List UInt8 := [7, 162, 0, 16, 42, 180, 0, 84, 27, 3, 84, 132, 1, 1, 167, 255, 241, 177]
abbrev dktX7_clearWorld_1 : List UInt8 := dkwX7_clearWorld_1 ++ []
def dkwX7_clearWorld_0 : List UInt8 := [3, 60, 27, 16, 36, 162, 0, 16, 42, 180, 0, 41, 27, 3, 84, 132, 1, 1, 167, 255, 240, 3, 60, 27]
abbrev dktX7_clearWorld_0 : List UInt8 := dkwX7_clearWorld_0 ++ dktX7_clearWorld_1
theorem dksX7_clearWorld_0 : cX7_clearWorld.data.toList.drop 0 = dktX7_clearWorld_0 := by decide +kernel
theorem dksX7_clearWorld_1 : cX7_clearWorld.data.toList.drop 24 = dktX7_clearWorld_1 := dk_seg dksX7_clearWorld_0 24 rfl rfl
theorem dX7_clearWorld_0 : decode cX7_clearWorld 0 = .ok (.iconst 0, 1) := dk_3 (dk_at dksX7_clearWorld_0 0 rfl rfl)
theorem dX7_clearWorld_1 : decode cX7_clearWorld 1 = .ok (.istore_n 1, 1) := dk_60 (dk_at dksX7_clearWorld_0 1 rfl rfl)
theorem dX7_clearWorld_2 : decode cX7_clearWorld 2 = .ok (.iload_n 1, 1) := dk_27 (dk_at dksX7_clearWorld_0 2 rfl rfl)
theorem dX7_clearWorld_3 : decode cX7_clearWorld 3 = .ok (.bipush 36, 2) := dk_16 36 (dk_at dksX7_clearWorld_0 3 rfl rfl)
theorem dX7_clearWorld_5 : decode cX7_clearWorld 5 = .ok (.if_icmp .ge 16, 3) := dk_162 0 16 (dk_at dksX7_clearWorld_0 5 rfl rfl)
theorem dX7_clearWorld_8 : decode cX7_clearWorld 8 = .ok (.aload_n 0, 1) := dk_42 (dk_at dksX7_clearWorld_0 8 rfl rfl)
theorem dX7_clearWorld_9 : decode cX7_clearWorld 9 = .ok (.getfield 41, 3) := dk_180 0 41 (dk_at dksX7_clearWorld_0 9 rfl rfl)
theorem dX7_clearWorld_12 : decode cX7_clearWorld 12 = .ok (.iload_n 1, 1) := dk_27 (dk_at dksX7_clearWorld_0 12 rfl rfl)
theorem dX7_clearWorld_13 : decode cX7_clearWorld 13 = .ok (.iconst 0, 1) := dk_3 (dk_at dksX7_clearWorld_0 13 rfl rfl)
theorem dX7_clearWorld_14 : decode cX7_clearWorld 14 = .ok (.bastore, 1) := dk_84 (dk_at dksX7_clearWorld_0 14 rfl rfl)
theorem dX7_clearWorld_15 : decode cX7_clearWorld 15 = .ok (.iinc 1 1, 3) := dk_132 1 1 (dk_at dksX7_clearWorld_0 15 rfl rfl)
theorem dX7_clearWorld_18 : decode cX7_clearWorld 18 = .ok (.goto (-16), 3) := dk_167 255 240 (dk_at dksX7_clearWorld_0 18 rfl rfl)
theorem dX7_clearWorld_21 : decode cX7_clearWorld 21 = .ok (.iconst 0, 1) := dk_3 (dk_at dksX7_clearWorld_0 21 rfl rfl)
theorem dX7_clearWorld_22 : decode cX7_clearWorld 22 = .ok (.istore_n 1, 1) := dk_60 (dk_at dksX7_clearWorld_0 22 rfl rfl)
theorem dX7_clearWorld_23 : decode cX7_clearWorld 23 = .ok (.iload_n 1, 1) := dk_27 (dk_at dksX7_clearWorld_0 23 rfl rfl)
theorem dX7_clearWorld_24 : decode cX7_clearWorld 24 = .ok (.iconst 4, 1) := dk_7 (dk_at dksX7_clearWorld_1 0 rfl rfl)
theorem dX7_clearWorld_25 : decode cX7_clearWorld 25 = .ok (.if_icmp .ge 16, 3) := dk_162 0 16 (dk_at dksX7_clearWorld_1 1 rfl rfl)
theorem dX7_clearWorld_28 : decode cX7_clearWorld 28 = .ok (.aload_n 0, 1) := dk_42 (dk_at dksX7_clearWorld_1 4 rfl rfl)
theorem dX7_clearWorld_29 : decode cX7_clearWorld 29 = .ok (.getfield 84, 3) := dk_180 0 84 (dk_at dksX7_clearWorld_1 5 rfl rfl)
theorem dX7_clearWorld_32 : decode cX7_clearWorld 32 = .ok (.iload_n 1, 1) := dk_27 (dk_at dksX7_clearWorld_1 8 rfl rfl)
theorem dX7_clearWorld_33 : decode cX7_clearWorld 33 = .ok (.iconst 0, 1) := dk_3 (dk_at dksX7_clearWorld_1 9 rfl rfl)
theorem dX7_clearWorld_34 : decode cX7_clearWorld 34 = .ok (.bastore, 1) := dk_84 (dk_at dksX7_clearWorld_1 10 rfl rfl)
theorem dX7_clearWorld_35 : decode cX7_clearWorld 35 = .ok (.iinc 1 1, 3) := dk_132 1 1 (dk_at dksX7_clearWorld_1 11 rfl rfl)
theorem dX7_clearWorld_38 : decode cX7_clearWorld 38 = .ok (.goto (-15), 3) := dk_167 255 241 (dk_at dksX7_clearWorld_1 14 rfl rfl)
theorem dX7_clearWorld_41 : decode cX7_clearWorld 41 = .ok (.return_, 1) := dk_177 (dk_at dksX7_clearWorld_1 17 rfl rfl)
abbrev cX7_relation : ByteArray := prog_33_method_15_code
def yX7_relation : MethodName := ⟨RX7, "relation", "(II)I"⟩
def dkwX7_relation_2 : List UInt8 := [46, 4, 96, 79, 42, 180, 0, 35, 29, 27, 79, 42, 180, 0, 38, 29, 28, 79, 42, 182, 0, 168, 29, 172]
abbrev dktX7_relation_2 : List UInt8 := dkwX7_relation_2 ++ []
def dkwX7_relation_1 : List UInt8 := [28, 2, 5, 184, 0, 160, 154, 0, 5, 2, 172, 42, 180, 0, 32, 3, 46, 62, 42, 180, 0, 32, 3, 92]
abbrev dktX7_relation_1 : List UInt8 := dkwX7_relation_1 ++ dktX7_relation_2
def dkwX7_relation_0 : List UInt8 := [42, 3, 181, 0, 142, 42, 180, 0, 32, 3, 46, 7, 159, 0, 21, 27, 3, 5, 184, 0, 160, 153, 0, 12]
abbrev dktX7_relation_0 : List UInt8 := dkwX7_relation_0 ++ dktX7_relation_1
theorem dksX7_relation_0 : cX7_relation.data.toList.drop 0 = dktX7_relation_0 := by decide +kernel
theorem dksX7_relation_1 : cX7_relation.data.toList.drop 24 = dktX7_relation_1 := dk_seg dksX7_relation_0 24 rfl rfl
theorem dksX7_relation_2 : cX7_relation.data.toList.drop 48 = dktX7_relation_2 := dk_seg dksX7_relation_1 24 rfl rfl
theorem dX7_relation_0 : decode cX7_relation 0 = .ok (.aload_n 0, 1) := dk_42 (dk_at dksX7_relation_0 0 rfl rfl)
theorem dX7_relation_1 : decode cX7_relation 1 = .ok (.iconst 0, 1) := dk_3 (dk_at dksX7_relation_0 1 rfl rfl)
theorem dX7_relation_2 : decode cX7_relation 2 = .ok (.putfield 142, 3) := dk_181 0 142 (dk_at dksX7_relation_0 2 rfl rfl)
theorem dX7_relation_5 : decode cX7_relation 5 = .ok (.aload_n 0, 1) := dk_42 (dk_at dksX7_relation_0 5 rfl rfl)
theorem dX7_relation_6 : decode cX7_relation 6 = .ok (.getfield 32, 3) := dk_180 0 32 (dk_at dksX7_relation_0 6 rfl rfl)
theorem dX7_relation_9 : decode cX7_relation 9 = .ok (.iconst 0, 1) := dk_3 (dk_at dksX7_relation_0 9 rfl rfl)
theorem dX7_relation_10 : decode cX7_relation 10 = .ok (.iaload, 1) := dk_46 (dk_at dksX7_relation_0 10 rfl rfl)
theorem dX7_relation_11 : decode cX7_relation 11 = .ok (.iconst 4, 1) := dk_7 (dk_at dksX7_relation_0 11 rfl rfl)
theorem dX7_relation_12 : decode cX7_relation 12 = .ok (.if_icmp .eq 21, 3) := dk_159 0 21 (dk_at dksX7_relation_0 12 rfl rfl)
theorem dX7_relation_15 : decode cX7_relation 15 = .ok (.iload_n 1, 1) := dk_27 (dk_at dksX7_relation_0 15 rfl rfl)
theorem dX7_relation_16 : decode cX7_relation 16 = .ok (.iconst 0, 1) := dk_3 (dk_at dksX7_relation_0 16 rfl rfl)
theorem dX7_relation_17 : decode cX7_relation 17 = .ok (.iconst 2, 1) := dk_5 (dk_at dksX7_relation_0 17 rfl rfl)
theorem dX7_relation_18 : decode cX7_relation 18 = .ok (.invokestatic 160, 3) := dk_184 0 160 (dk_at dksX7_relation_0 18 rfl rfl)
theorem dX7_relation_21 : decode cX7_relation 21 = .ok (.ifCond .eq 12, 3) := dk_153 0 12 (dk_at dksX7_relation_0 21 rfl rfl)
theorem dX7_relation_24 : decode cX7_relation 24 = .ok (.iload_n 2, 1) := dk_28 (dk_at dksX7_relation_1 0 rfl rfl)
theorem dX7_relation_25 : decode cX7_relation 25 = .ok (.iconst (-1), 1) := dk_2 (dk_at dksX7_relation_1 1 rfl rfl)
theorem dX7_relation_26 : decode cX7_relation 26 = .ok (.iconst 2, 1) := dk_5 (dk_at dksX7_relation_1 2 rfl rfl)
theorem dX7_relation_27 : decode cX7_relation 27 = .ok (.invokestatic 160, 3) := dk_184 0 160 (dk_at dksX7_relation_1 3 rfl rfl)
theorem dX7_relation_30 : decode cX7_relation 30 = .ok (.ifCond .ne 5, 3) := dk_154 0 5 (dk_at dksX7_relation_1 6 rfl rfl)
theorem dX7_relation_33 : decode cX7_relation 33 = .ok (.iconst (-1), 1) := dk_2 (dk_at dksX7_relation_1 9 rfl rfl)
theorem dX7_relation_34 : decode cX7_relation 34 = .ok (.ireturn, 1) := dk_172 (dk_at dksX7_relation_1 10 rfl rfl)
theorem dX7_relation_35 : decode cX7_relation 35 = .ok (.aload_n 0, 1) := dk_42 (dk_at dksX7_relation_1 11 rfl rfl)
theorem dX7_relation_36 : decode cX7_relation 36 = .ok (.getfield 32, 3) := dk_180 0 32 (dk_at dksX7_relation_1 12 rfl rfl)
theorem dX7_relation_39 : decode cX7_relation 39 = .ok (.iconst 0, 1) := dk_3 (dk_at dksX7_relation_1 15 rfl rfl)
theorem dX7_relation_40 : decode cX7_relation 40 = .ok (.iaload, 1) := dk_46 (dk_at dksX7_relation_1 16 rfl rfl)
theorem dX7_relation_41 : decode cX7_relation 41 = .ok (.istore_n 3, 1) := dk_62 (dk_at dksX7_relation_1 17 rfl rfl)
theorem dX7_relation_42 : decode cX7_relation 42 = .ok (.aload_n 0, 1) := dk_42 (dk_at dksX7_relation_1 18 rfl rfl)
theorem dX7_relation_43 : decode cX7_relation 43 = .ok (.getfield 32, 3) := dk_180 0 32 (dk_at dksX7_relation_1 19 rfl rfl)
theorem dX7_relation_46 : decode cX7_relation 46 = .ok (.iconst 0, 1) := dk_3 (dk_at dksX7_relation_1 22 rfl rfl)
theorem dX7_relation_47 : decode cX7_relation 47 = .ok (.dup2, 1) := dk_92 (dk_at dksX7_relation_1 23 rfl rfl)
theorem dX7_relation_48 : decode cX7_relation 48 = .ok (.iaload, 1) := dk_46 (dk_at dksX7_relation_2 0 rfl rfl)
theorem dX7_relation_49 : decode cX7_relation 49 = .ok (.iconst 1, 1) := dk_4 (dk_at dksX7_relation_2 1 rfl rfl)
theorem dX7_relation_50 : decode cX7_relation 50 = .ok (.iadd, 1) := dk_96 (dk_at dksX7_relation_2 2 rfl rfl)
theorem dX7_relation_51 : decode cX7_relation 51 = .ok (.iastore, 1) := dk_79 (dk_at dksX7_relation_2 3 rfl rfl)
theorem dX7_relation_52 : decode cX7_relation 52 = .ok (.aload_n 0, 1) := dk_42 (dk_at dksX7_relation_2 4 rfl rfl)
theorem dX7_relation_53 : decode cX7_relation 53 = .ok (.getfield 35, 3) := dk_180 0 35 (dk_at dksX7_relation_2 5 rfl rfl)
theorem dX7_relation_56 : decode cX7_relation 56 = .ok (.iload_n 3, 1) := dk_29 (dk_at dksX7_relation_2 8 rfl rfl)
theorem dX7_relation_57 : decode cX7_relation 57 = .ok (.iload_n 1, 1) := dk_27 (dk_at dksX7_relation_2 9 rfl rfl)
theorem dX7_relation_58 : decode cX7_relation 58 = .ok (.iastore, 1) := dk_79 (dk_at dksX7_relation_2 10 rfl rfl)
theorem dX7_relation_59 : decode cX7_relation 59 = .ok (.aload_n 0, 1) := dk_42 (dk_at dksX7_relation_2 11 rfl rfl)
theorem dX7_relation_60 : decode cX7_relation 60 = .ok (.getfield 38, 3) := dk_180 0 38 (dk_at dksX7_relation_2 12 rfl rfl)
theorem dX7_relation_63 : decode cX7_relation 63 = .ok (.iload_n 3, 1) := dk_29 (dk_at dksX7_relation_2 15 rfl rfl)
theorem dX7_relation_64 : decode cX7_relation 64 = .ok (.iload_n 2, 1) := dk_28 (dk_at dksX7_relation_2 16 rfl rfl)
theorem dX7_relation_65 : decode cX7_relation 65 = .ok (.iastore, 1) := dk_79 (dk_at dksX7_relation_2 17 rfl rfl)
theorem dX7_relation_66 : decode cX7_relation 66 = .ok (.aload_n 0, 1) := dk_42 (dk_at dksX7_relation_2 18 rfl rfl)
theorem dX7_relation_67 : decode cX7_relation 67 = .ok (.invokevirtual 168, 3) := dk_182 0 168 (dk_at dksX7_relation_2 19 rfl rfl)
theorem dX7_relation_70 : decode cX7_relation 70 = .ok (.iload_n 3, 1) := dk_29 (dk_at dksX7_relation_2 22 rfl rfl)
theorem dX7_relation_71 : decode cX7_relation 71 = .ok (.ireturn, 1) := dk_172 (dk_at dksX7_relation_2 23 rfl rfl)
abbrev cX7_facts : ByteArray := prog_33_method_16_code
def yX7_facts : MethodName := ⟨RX7, "facts", "()I"⟩
def dkwX7_facts_0 : List UInt8 := [42, 3, 181, 0, 142, 42, 182, 0, 157, 42, 182, 0, 171, 172]
abbrev dktX7_facts_0 : List UInt8 := dkwX7_facts_0 ++ []
theorem dksX7_facts_0 : cX7_facts.data.toList.drop 0 = dktX7_facts_0 := by decide +kernel
theorem dX7_facts_0 : decode cX7_facts 0 = .ok (.aload_n 0, 1) := dk_42 (dk_at dksX7_facts_0 0 rfl rfl)
theorem dX7_facts_1 : decode cX7_facts 1 = .ok (.iconst 0, 1) := dk_3 (dk_at dksX7_facts_0 1 rfl rfl)
theorem dX7_facts_2 : decode cX7_facts 2 = .ok (.putfield 142, 3) := dk_181 0 142 (dk_at dksX7_facts_0 2 rfl rfl)
theorem dX7_facts_5 : decode cX7_facts 5 = .ok (.aload_n 0, 1) := dk_42 (dk_at dksX7_facts_0 5 rfl rfl)
theorem dX7_facts_6 : decode cX7_facts 6 = .ok (.invokevirtual 157, 3) := dk_182 0 157 (dk_at dksX7_facts_0 6 rfl rfl)
theorem dX7_facts_9 : decode cX7_facts 9 = .ok (.aload_n 0, 1) := dk_42 (dk_at dksX7_facts_0 9 rfl rfl)
theorem dX7_facts_10 : decode cX7_facts 10 = .ok (.invokevirtual 171, 3) := dk_182 0 171 (dk_at dksX7_facts_0 10 rfl rfl)
theorem dX7_facts_13 : decode cX7_facts 13 = .ok (.ireturn, 1) := dk_172 (dk_at dksX7_facts_0 13 rfl rfl)
abbrev cX7_bringSizes : ByteArray := prog_33_method_8_code
def yX7_bringSizes : MethodName := ⟨RX7, "bringSizes", "()V"⟩
def dkwX7_bringSizes_1 : List UInt8 := [167, 255, 236, 42, 182, 0, 154, 177]
abbrev dktX7_bringSizes_1 : List UInt8 := dkwX7_bringSizes_1 ++ []
def dkwX7_bringSizes_0 : List UInt8 := [3, 60, 27, 6, 162, 0, 21, 42, 180, 0, 87, 27, 42, 180, 0, 29, 27, 46, 79, 132, 1, 1]
abbrev dktX7_bringSizes_0 : List UInt8 := dkwX7_bringSizes_0 ++ dktX7_bringSizes_1
theorem dksX7_bringSizes_0 : cX7_bringSizes.data.toList.drop 0 = dktX7_bringSizes_0 := by decide +kernel
theorem dksX7_bringSizes_1 : cX7_bringSizes.data.toList.drop 22 = dktX7_bringSizes_1 := dk_seg dksX7_bringSizes_0 22 rfl rfl
theorem dX7_bringSizes_0 : decode cX7_bringSizes 0 = .ok (.iconst 0, 1) := dk_3 (dk_at dksX7_bringSizes_0 0 rfl rfl)
theorem dX7_bringSizes_1 : decode cX7_bringSizes 1 = .ok (.istore_n 1, 1) := dk_60 (dk_at dksX7_bringSizes_0 1 rfl rfl)
theorem dX7_bringSizes_2 : decode cX7_bringSizes 2 = .ok (.iload_n 1, 1) := dk_27 (dk_at dksX7_bringSizes_0 2 rfl rfl)
theorem dX7_bringSizes_3 : decode cX7_bringSizes 3 = .ok (.iconst 3, 1) := dk_6 (dk_at dksX7_bringSizes_0 3 rfl rfl)
theorem dX7_bringSizes_4 : decode cX7_bringSizes 4 = .ok (.if_icmp .ge 21, 3) := dk_162 0 21 (dk_at dksX7_bringSizes_0 4 rfl rfl)
theorem dX7_bringSizes_7 : decode cX7_bringSizes 7 = .ok (.aload_n 0, 1) := dk_42 (dk_at dksX7_bringSizes_0 7 rfl rfl)
theorem dX7_bringSizes_8 : decode cX7_bringSizes 8 = .ok (.getfield 87, 3) := dk_180 0 87 (dk_at dksX7_bringSizes_0 8 rfl rfl)
theorem dX7_bringSizes_11 : decode cX7_bringSizes 11 = .ok (.iload_n 1, 1) := dk_27 (dk_at dksX7_bringSizes_0 11 rfl rfl)
theorem dX7_bringSizes_12 : decode cX7_bringSizes 12 = .ok (.aload_n 0, 1) := dk_42 (dk_at dksX7_bringSizes_0 12 rfl rfl)
theorem dX7_bringSizes_13 : decode cX7_bringSizes 13 = .ok (.getfield 29, 3) := dk_180 0 29 (dk_at dksX7_bringSizes_0 13 rfl rfl)
theorem dX7_bringSizes_16 : decode cX7_bringSizes 16 = .ok (.iload_n 1, 1) := dk_27 (dk_at dksX7_bringSizes_0 16 rfl rfl)
theorem dX7_bringSizes_17 : decode cX7_bringSizes 17 = .ok (.iaload, 1) := dk_46 (dk_at dksX7_bringSizes_0 17 rfl rfl)
theorem dX7_bringSizes_18 : decode cX7_bringSizes 18 = .ok (.iastore, 1) := dk_79 (dk_at dksX7_bringSizes_0 18 rfl rfl)
theorem dX7_bringSizes_19 : decode cX7_bringSizes 19 = .ok (.iinc 1 1, 3) := dk_132 1 1 (dk_at dksX7_bringSizes_0 19 rfl rfl)
theorem dX7_bringSizes_22 : decode cX7_bringSizes 22 = .ok (.goto (-20), 3) := dk_167 255 236 (dk_at dksX7_bringSizes_1 0 rfl rfl)
theorem dX7_bringSizes_25 : decode cX7_bringSizes 25 = .ok (.aload_n 0, 1) := dk_42 (dk_at dksX7_bringSizes_1 3 rfl rfl)
theorem dX7_bringSizes_26 : decode cX7_bringSizes 26 = .ok (.invokevirtual 154, 3) := dk_182 0 154 (dk_at dksX7_bringSizes_1 4 rfl rfl)
theorem dX7_bringSizes_29 : decode cX7_bringSizes 29 = .ok (.return_, 1) := dk_177 (dk_at dksX7_bringSizes_1 7 rfl rfl)
abbrev cX7_findStarts : ByteArray := prog_33_method_7_code
def yX7_findStarts : MethodName := ⟨RX7, "findStarts", "()V"⟩
def dkwX7_findStarts_2 : List UInt8 := [46, 182, 0, 150, 104, 96, 79, 132, 1, 1, 167, 255, 207, 177]
abbrev dktX7_findStarts_2 : List UInt8 := dkwX7_findStarts_2 ++ []
def dkwX7_findStarts_1 : List UInt8 := [4, 96, 42, 180, 0, 90, 27, 46, 42, 42, 180, 0, 35, 27, 46, 182, 0, 150, 42, 42, 180, 0, 38, 27]
abbrev dktX7_findStarts_1 : List UInt8 := dkwX7_findStarts_1 ++ dktX7_findStarts_2
def dkwX7_findStarts_0 : List UInt8 := [42, 180, 0, 90, 3, 3, 79, 3, 60, 27, 42, 180, 0, 32, 3, 46, 162, 0, 45, 42, 180, 0, 90, 27]
abbrev dktX7_findStarts_0 : List UInt8 := dkwX7_findStarts_0 ++ dktX7_findStarts_1
theorem dksX7_findStarts_0 : cX7_findStarts.data.toList.drop 0 = dktX7_findStarts_0 := by decide +kernel
theorem dksX7_findStarts_1 : cX7_findStarts.data.toList.drop 24 = dktX7_findStarts_1 := dk_seg dksX7_findStarts_0 24 rfl rfl
theorem dksX7_findStarts_2 : cX7_findStarts.data.toList.drop 48 = dktX7_findStarts_2 := dk_seg dksX7_findStarts_1 24 rfl rfl
theorem dX7_findStarts_0 : decode cX7_findStarts 0 = .ok (.aload_n 0, 1) := dk_42 (dk_at dksX7_findStarts_0 0 rfl rfl)
theorem dX7_findStarts_1 : decode cX7_findStarts 1 = .ok (.getfield 90, 3) := dk_180 0 90 (dk_at dksX7_findStarts_0 1 rfl rfl)
theorem dX7_findStarts_4 : decode cX7_findStarts 4 = .ok (.iconst 0, 1) := dk_3 (dk_at dksX7_findStarts_0 4 rfl rfl)
theorem dX7_findStarts_5 : decode cX7_findStarts 5 = .ok (.iconst 0, 1) := dk_3 (dk_at dksX7_findStarts_0 5 rfl rfl)
theorem dX7_findStarts_6 : decode cX7_findStarts 6 = .ok (.iastore, 1) := dk_79 (dk_at dksX7_findStarts_0 6 rfl rfl)
theorem dX7_findStarts_7 : decode cX7_findStarts 7 = .ok (.iconst 0, 1) := dk_3 (dk_at dksX7_findStarts_0 7 rfl rfl)
theorem dX7_findStarts_8 : decode cX7_findStarts 8 = .ok (.istore_n 1, 1) := dk_60 (dk_at dksX7_findStarts_0 8 rfl rfl)
theorem dX7_findStarts_9 : decode cX7_findStarts 9 = .ok (.iload_n 1, 1) := dk_27 (dk_at dksX7_findStarts_0 9 rfl rfl)
theorem dX7_findStarts_10 : decode cX7_findStarts 10 = .ok (.aload_n 0, 1) := dk_42 (dk_at dksX7_findStarts_0 10 rfl rfl)
theorem dX7_findStarts_11 : decode cX7_findStarts 11 = .ok (.getfield 32, 3) := dk_180 0 32 (dk_at dksX7_findStarts_0 11 rfl rfl)
theorem dX7_findStarts_14 : decode cX7_findStarts 14 = .ok (.iconst 0, 1) := dk_3 (dk_at dksX7_findStarts_0 14 rfl rfl)
theorem dX7_findStarts_15 : decode cX7_findStarts 15 = .ok (.iaload, 1) := dk_46 (dk_at dksX7_findStarts_0 15 rfl rfl)
theorem dX7_findStarts_16 : decode cX7_findStarts 16 = .ok (.if_icmp .ge 45, 3) := dk_162 0 45 (dk_at dksX7_findStarts_0 16 rfl rfl)
theorem dX7_findStarts_19 : decode cX7_findStarts 19 = .ok (.aload_n 0, 1) := dk_42 (dk_at dksX7_findStarts_0 19 rfl rfl)
theorem dX7_findStarts_20 : decode cX7_findStarts 20 = .ok (.getfield 90, 3) := dk_180 0 90 (dk_at dksX7_findStarts_0 20 rfl rfl)
theorem dX7_findStarts_23 : decode cX7_findStarts 23 = .ok (.iload_n 1, 1) := dk_27 (dk_at dksX7_findStarts_0 23 rfl rfl)
theorem dX7_findStarts_24 : decode cX7_findStarts 24 = .ok (.iconst 1, 1) := dk_4 (dk_at dksX7_findStarts_1 0 rfl rfl)
theorem dX7_findStarts_25 : decode cX7_findStarts 25 = .ok (.iadd, 1) := dk_96 (dk_at dksX7_findStarts_1 1 rfl rfl)
theorem dX7_findStarts_26 : decode cX7_findStarts 26 = .ok (.aload_n 0, 1) := dk_42 (dk_at dksX7_findStarts_1 2 rfl rfl)
theorem dX7_findStarts_27 : decode cX7_findStarts 27 = .ok (.getfield 90, 3) := dk_180 0 90 (dk_at dksX7_findStarts_1 3 rfl rfl)
theorem dX7_findStarts_30 : decode cX7_findStarts 30 = .ok (.iload_n 1, 1) := dk_27 (dk_at dksX7_findStarts_1 6 rfl rfl)
theorem dX7_findStarts_31 : decode cX7_findStarts 31 = .ok (.iaload, 1) := dk_46 (dk_at dksX7_findStarts_1 7 rfl rfl)
theorem dX7_findStarts_32 : decode cX7_findStarts 32 = .ok (.aload_n 0, 1) := dk_42 (dk_at dksX7_findStarts_1 8 rfl rfl)
theorem dX7_findStarts_33 : decode cX7_findStarts 33 = .ok (.aload_n 0, 1) := dk_42 (dk_at dksX7_findStarts_1 9 rfl rfl)
theorem dX7_findStarts_34 : decode cX7_findStarts 34 = .ok (.getfield 35, 3) := dk_180 0 35 (dk_at dksX7_findStarts_1 10 rfl rfl)
theorem dX7_findStarts_37 : decode cX7_findStarts 37 = .ok (.iload_n 1, 1) := dk_27 (dk_at dksX7_findStarts_1 13 rfl rfl)
theorem dX7_findStarts_38 : decode cX7_findStarts 38 = .ok (.iaload, 1) := dk_46 (dk_at dksX7_findStarts_1 14 rfl rfl)
theorem dX7_findStarts_39 : decode cX7_findStarts 39 = .ok (.invokevirtual 150, 3) := dk_182 0 150 (dk_at dksX7_findStarts_1 15 rfl rfl)
theorem dX7_findStarts_42 : decode cX7_findStarts 42 = .ok (.aload_n 0, 1) := dk_42 (dk_at dksX7_findStarts_1 18 rfl rfl)
theorem dX7_findStarts_43 : decode cX7_findStarts 43 = .ok (.aload_n 0, 1) := dk_42 (dk_at dksX7_findStarts_1 19 rfl rfl)
theorem dX7_findStarts_44 : decode cX7_findStarts 44 = .ok (.getfield 38, 3) := dk_180 0 38 (dk_at dksX7_findStarts_1 20 rfl rfl)
theorem dX7_findStarts_47 : decode cX7_findStarts 47 = .ok (.iload_n 1, 1) := dk_27 (dk_at dksX7_findStarts_1 23 rfl rfl)
theorem dX7_findStarts_48 : decode cX7_findStarts 48 = .ok (.iaload, 1) := dk_46 (dk_at dksX7_findStarts_2 0 rfl rfl)
theorem dX7_findStarts_49 : decode cX7_findStarts 49 = .ok (.invokevirtual 150, 3) := dk_182 0 150 (dk_at dksX7_findStarts_2 1 rfl rfl)
theorem dX7_findStarts_52 : decode cX7_findStarts 52 = .ok (.imul, 1) := dk_104 (dk_at dksX7_findStarts_2 4 rfl rfl)
theorem dX7_findStarts_53 : decode cX7_findStarts 53 = .ok (.iadd, 1) := dk_96 (dk_at dksX7_findStarts_2 5 rfl rfl)
theorem dX7_findStarts_54 : decode cX7_findStarts 54 = .ok (.iastore, 1) := dk_79 (dk_at dksX7_findStarts_2 6 rfl rfl)
theorem dX7_findStarts_55 : decode cX7_findStarts 55 = .ok (.iinc 1 1, 3) := dk_132 1 1 (dk_at dksX7_findStarts_2 7 rfl rfl)
theorem dX7_findStarts_58 : decode cX7_findStarts 58 = .ok (.goto (-49), 3) := dk_167 255 207 (dk_at dksX7_findStarts_2 10 rfl rfl)
theorem dX7_findStarts_61 : decode cX7_findStarts 61 = .ok (.return_, 1) := dk_177 (dk_at dksX7_findStarts_2 13 rfl rfl)
abbrev cX7_sizeOf : ByteArray := prog_33_method_6_code
def yX7_sizeOf : MethodName := ⟨RX7, "sizeOf", "(I)I"⟩
def dkwX7_sizeOf_0 : List UInt8 := [27, 2, 160, 0, 7, 4, 167, 0, 9, 42, 180, 0, 87, 27, 46, 172]
abbrev dktX7_sizeOf_0 : List UInt8 := dkwX7_sizeOf_0 ++ []
theorem dksX7_sizeOf_0 : cX7_sizeOf.data.toList.drop 0 = dktX7_sizeOf_0 := by decide +kernel
theorem dX7_sizeOf_0 : decode cX7_sizeOf 0 = .ok (.iload_n 1, 1) := dk_27 (dk_at dksX7_sizeOf_0 0 rfl rfl)
theorem dX7_sizeOf_1 : decode cX7_sizeOf 1 = .ok (.iconst (-1), 1) := dk_2 (dk_at dksX7_sizeOf_0 1 rfl rfl)
theorem dX7_sizeOf_2 : decode cX7_sizeOf 2 = .ok (.if_icmp .ne 7, 3) := dk_160 0 7 (dk_at dksX7_sizeOf_0 2 rfl rfl)
theorem dX7_sizeOf_5 : decode cX7_sizeOf 5 = .ok (.iconst 1, 1) := dk_4 (dk_at dksX7_sizeOf_0 5 rfl rfl)
theorem dX7_sizeOf_6 : decode cX7_sizeOf 6 = .ok (.goto 9, 3) := dk_167 0 9 (dk_at dksX7_sizeOf_0 6 rfl rfl)
theorem dX7_sizeOf_9 : decode cX7_sizeOf 9 = .ok (.aload_n 0, 1) := dk_42 (dk_at dksX7_sizeOf_0 9 rfl rfl)
theorem dX7_sizeOf_10 : decode cX7_sizeOf 10 = .ok (.getfield 87, 3) := dk_180 0 87 (dk_at dksX7_sizeOf_0 10 rfl rfl)
theorem dX7_sizeOf_13 : decode cX7_sizeOf 13 = .ok (.iload_n 1, 1) := dk_27 (dk_at dksX7_sizeOf_0 13 rfl rfl)
theorem dX7_sizeOf_14 : decode cX7_sizeOf 14 = .ok (.iaload, 1) := dk_46 (dk_at dksX7_sizeOf_0 14 rfl rfl)
theorem dX7_sizeOf_15 : decode cX7_sizeOf 15 = .ok (.ireturn, 1) := dk_172 (dk_at dksX7_sizeOf_0 15 rfl rfl)
abbrev cX7_manyFacts : ByteArray := prog_33_method_10_code
def yX7_manyFacts : MethodName := ⟨RX7, "manyFacts", "()I"⟩
def dkwX7_manyFacts_0 : List UInt8 := [42, 180, 0, 90, 42, 180, 0, 32, 3, 46, 46, 172]
abbrev dktX7_manyFacts_0 : List UInt8 := dkwX7_manyFacts_0 ++ []
theorem dksX7_manyFacts_0 : cX7_manyFacts.data.toList.drop 0 = dktX7_manyFacts_0 := by decide +kernel
theorem dX7_manyFacts_0 : decode cX7_manyFacts 0 = .ok (.aload_n 0, 1) := dk_42 (dk_at dksX7_manyFacts_0 0 rfl rfl)
theorem dX7_manyFacts_1 : decode cX7_manyFacts 1 = .ok (.getfield 90, 3) := dk_180 0 90 (dk_at dksX7_manyFacts_0 1 rfl rfl)
theorem dX7_manyFacts_4 : decode cX7_manyFacts 4 = .ok (.aload_n 0, 1) := dk_42 (dk_at dksX7_manyFacts_0 4 rfl rfl)
theorem dX7_manyFacts_5 : decode cX7_manyFacts 5 = .ok (.getfield 32, 3) := dk_180 0 32 (dk_at dksX7_manyFacts_0 5 rfl rfl)
theorem dX7_manyFacts_8 : decode cX7_manyFacts 8 = .ok (.iconst 0, 1) := dk_3 (dk_at dksX7_manyFacts_0 8 rfl rfl)
theorem dX7_manyFacts_9 : decode cX7_manyFacts 9 = .ok (.iaload, 1) := dk_46 (dk_at dksX7_manyFacts_0 9 rfl rfl)
theorem dX7_manyFacts_10 : decode cX7_manyFacts 10 = .ok (.iaload, 1) := dk_46 (dk_at dksX7_manyFacts_0 10 rfl rfl)
theorem dX7_manyFacts_11 : decode cX7_manyFacts 11 = .ok (.ireturn, 1) := dk_172 (dk_at dksX7_manyFacts_0 11 rfl rfl)
abbrev cX7_tell : ByteArray := prog_33_method_19_code
def yX7_tell : MethodName := ⟨RX7, "tell", "(IIIZ)Z"⟩
def dkwX7_tell_1 : List UInt8 := [21, 5, 51, 21, 4, 160, 0, 5, 3, 172, 42, 180, 0, 41, 21, 5, 21, 4, 84, 4, 172]
abbrev dktX7_tell_1 : List UInt8 := dkwX7_tell_1 ++ []
def dkwX7_tell_0 : List UInt8 := [42, 3, 181, 0, 142, 42, 27, 28, 29, 182, 0, 179, 54, 5, 21, 5, 2, 159, 0, 15, 42, 180, 0, 41]
abbrev dktX7_tell_0 : List UInt8 := dkwX7_tell_0 ++ dktX7_tell_1
theorem dksX7_tell_0 : cX7_tell.data.toList.drop 0 = dktX7_tell_0 := by decide +kernel
theorem dksX7_tell_1 : cX7_tell.data.toList.drop 24 = dktX7_tell_1 := dk_seg dksX7_tell_0 24 rfl rfl
theorem dX7_tell_0 : decode cX7_tell 0 = .ok (.aload_n 0, 1) := dk_42 (dk_at dksX7_tell_0 0 rfl rfl)
theorem dX7_tell_1 : decode cX7_tell 1 = .ok (.iconst 0, 1) := dk_3 (dk_at dksX7_tell_0 1 rfl rfl)
theorem dX7_tell_2 : decode cX7_tell 2 = .ok (.putfield 142, 3) := dk_181 0 142 (dk_at dksX7_tell_0 2 rfl rfl)
theorem dX7_tell_5 : decode cX7_tell 5 = .ok (.aload_n 0, 1) := dk_42 (dk_at dksX7_tell_0 5 rfl rfl)
theorem dX7_tell_6 : decode cX7_tell 6 = .ok (.iload_n 1, 1) := dk_27 (dk_at dksX7_tell_0 6 rfl rfl)
theorem dX7_tell_7 : decode cX7_tell 7 = .ok (.iload_n 2, 1) := dk_28 (dk_at dksX7_tell_0 7 rfl rfl)
theorem dX7_tell_8 : decode cX7_tell 8 = .ok (.iload_n 3, 1) := dk_29 (dk_at dksX7_tell_0 8 rfl rfl)
theorem dX7_tell_9 : decode cX7_tell 9 = .ok (.invokevirtual 179, 3) := dk_182 0 179 (dk_at dksX7_tell_0 9 rfl rfl)
theorem dX7_tell_12 : decode cX7_tell 12 = .ok (.istore 5, 2) := dk_54 5 (dk_at dksX7_tell_0 12 rfl rfl)
theorem dX7_tell_14 : decode cX7_tell 14 = .ok (.iload 5, 2) := dk_21 5 (dk_at dksX7_tell_0 14 rfl rfl)
theorem dX7_tell_16 : decode cX7_tell 16 = .ok (.iconst (-1), 1) := dk_2 (dk_at dksX7_tell_0 16 rfl rfl)
theorem dX7_tell_17 : decode cX7_tell 17 = .ok (.if_icmp .eq 15, 3) := dk_159 0 15 (dk_at dksX7_tell_0 17 rfl rfl)
theorem dX7_tell_20 : decode cX7_tell 20 = .ok (.aload_n 0, 1) := dk_42 (dk_at dksX7_tell_0 20 rfl rfl)
theorem dX7_tell_21 : decode cX7_tell 21 = .ok (.getfield 41, 3) := dk_180 0 41 (dk_at dksX7_tell_0 21 rfl rfl)
theorem dX7_tell_24 : decode cX7_tell 24 = .ok (.iload 5, 2) := dk_21 5 (dk_at dksX7_tell_1 0 rfl rfl)
theorem dX7_tell_26 : decode cX7_tell 26 = .ok (.baload, 1) := dk_51 (dk_at dksX7_tell_1 2 rfl rfl)
theorem dX7_tell_27 : decode cX7_tell 27 = .ok (.iload 4, 2) := dk_21 4 (dk_at dksX7_tell_1 3 rfl rfl)
theorem dX7_tell_29 : decode cX7_tell 29 = .ok (.if_icmp .ne 5, 3) := dk_160 0 5 (dk_at dksX7_tell_1 5 rfl rfl)
theorem dX7_tell_32 : decode cX7_tell 32 = .ok (.iconst 0, 1) := dk_3 (dk_at dksX7_tell_1 8 rfl rfl)
theorem dX7_tell_33 : decode cX7_tell 33 = .ok (.ireturn, 1) := dk_172 (dk_at dksX7_tell_1 9 rfl rfl)
theorem dX7_tell_34 : decode cX7_tell 34 = .ok (.aload_n 0, 1) := dk_42 (dk_at dksX7_tell_1 10 rfl rfl)
theorem dX7_tell_35 : decode cX7_tell 35 = .ok (.getfield 41, 3) := dk_180 0 41 (dk_at dksX7_tell_1 11 rfl rfl)
theorem dX7_tell_38 : decode cX7_tell 38 = .ok (.iload 5, 2) := dk_21 5 (dk_at dksX7_tell_1 14 rfl rfl)
theorem dX7_tell_40 : decode cX7_tell 40 = .ok (.iload 4, 2) := dk_21 4 (dk_at dksX7_tell_1 16 rfl rfl)
theorem dX7_tell_42 : decode cX7_tell 42 = .ok (.bastore, 1) := dk_84 (dk_at dksX7_tell_1 18 rfl rfl)
theorem dX7_tell_43 : decode cX7_tell 43 = .ok (.iconst 1, 1) := dk_4 (dk_at dksX7_tell_1 19 rfl rfl)
theorem dX7_tell_44 : decode cX7_tell 44 = .ok (.ireturn, 1) := dk_172 (dk_at dksX7_tell_1 20 rfl rfl)
abbrev cX7_toldFact : ByteArray := prog_33_method_18_code
def yX7_toldFact : MethodName := ⟨RX7, "toldFact", "(III)I"⟩
def dkwX7_toldFact_0 : List UInt8 := [42, 182, 0, 157, 42, 27, 182, 0, 175, 153, 0, 13, 42, 27, 28, 29, 182, 0, 164, 167, 0, 4, 2, 172]
abbrev dktX7_toldFact_0 : List UInt8 := dkwX7_toldFact_0 ++ []
theorem dksX7_toldFact_0 : cX7_toldFact.data.toList.drop 0 = dktX7_toldFact_0 := by decide +kernel
theorem dX7_toldFact_0 : decode cX7_toldFact 0 = .ok (.aload_n 0, 1) := dk_42 (dk_at dksX7_toldFact_0 0 rfl rfl)
theorem dX7_toldFact_1 : decode cX7_toldFact 1 = .ok (.invokevirtual 157, 3) := dk_182 0 157 (dk_at dksX7_toldFact_0 1 rfl rfl)
theorem dX7_toldFact_4 : decode cX7_toldFact 4 = .ok (.aload_n 0, 1) := dk_42 (dk_at dksX7_toldFact_0 4 rfl rfl)
theorem dX7_toldFact_5 : decode cX7_toldFact 5 = .ok (.iload_n 1, 1) := dk_27 (dk_at dksX7_toldFact_0 5 rfl rfl)
theorem dX7_toldFact_6 : decode cX7_toldFact 6 = .ok (.invokevirtual 175, 3) := dk_182 0 175 (dk_at dksX7_toldFact_0 6 rfl rfl)
theorem dX7_toldFact_9 : decode cX7_toldFact 9 = .ok (.ifCond .eq 13, 3) := dk_153 0 13 (dk_at dksX7_toldFact_0 9 rfl rfl)
theorem dX7_toldFact_12 : decode cX7_toldFact 12 = .ok (.aload_n 0, 1) := dk_42 (dk_at dksX7_toldFact_0 12 rfl rfl)
theorem dX7_toldFact_13 : decode cX7_toldFact 13 = .ok (.iload_n 1, 1) := dk_27 (dk_at dksX7_toldFact_0 13 rfl rfl)
theorem dX7_toldFact_14 : decode cX7_toldFact 14 = .ok (.iload_n 2, 1) := dk_28 (dk_at dksX7_toldFact_0 14 rfl rfl)
theorem dX7_toldFact_15 : decode cX7_toldFact 15 = .ok (.iload_n 3, 1) := dk_29 (dk_at dksX7_toldFact_0 15 rfl rfl)
theorem dX7_toldFact_16 : decode cX7_toldFact 16 = .ok (.invokevirtual 164, 3) := dk_182 0 164 (dk_at dksX7_toldFact_0 16 rfl rfl)
theorem dX7_toldFact_19 : decode cX7_toldFact 19 = .ok (.goto 4, 3) := dk_167 0 4 (dk_at dksX7_toldFact_0 19 rfl rfl)
theorem dX7_toldFact_22 : decode cX7_toldFact 22 = .ok (.iconst (-1), 1) := dk_2 (dk_at dksX7_toldFact_0 22 rfl rfl)
theorem dX7_toldFact_23 : decode cX7_toldFact 23 = .ok (.ireturn, 1) := dk_172 (dk_at dksX7_toldFact_0 23 rfl rfl)
abbrev cX7_isRelation : ByteArray := prog_33_method_17_code
def yX7_isRelation : MethodName := ⟨RX7, "isRelation", "(I)Z"⟩
def dkwX7_isRelation_0 : List UInt8 := [27, 3, 42, 180, 0, 32, 3, 46, 4, 100, 184, 0, 160, 172]
abbrev dktX7_isRelation_0 : List UInt8 := dkwX7_isRelation_0 ++ []
theorem dksX7_isRelation_0 : cX7_isRelation.data.toList.drop 0 = dktX7_isRelation_0 := by decide +kernel
theorem dX7_isRelation_0 : decode cX7_isRelation 0 = .ok (.iload_n 1, 1) := dk_27 (dk_at dksX7_isRelation_0 0 rfl rfl)
theorem dX7_isRelation_1 : decode cX7_isRelation 1 = .ok (.iconst 0, 1) := dk_3 (dk_at dksX7_isRelation_0 1 rfl rfl)
theorem dX7_isRelation_2 : decode cX7_isRelation 2 = .ok (.aload_n 0, 1) := dk_42 (dk_at dksX7_isRelation_0 2 rfl rfl)
theorem dX7_isRelation_3 : decode cX7_isRelation 3 = .ok (.getfield 32, 3) := dk_180 0 32 (dk_at dksX7_isRelation_0 3 rfl rfl)
theorem dX7_isRelation_6 : decode cX7_isRelation 6 = .ok (.iconst 0, 1) := dk_3 (dk_at dksX7_isRelation_0 6 rfl rfl)
theorem dX7_isRelation_7 : decode cX7_isRelation 7 = .ok (.iaload, 1) := dk_46 (dk_at dksX7_isRelation_0 7 rfl rfl)
theorem dX7_isRelation_8 : decode cX7_isRelation 8 = .ok (.iconst 1, 1) := dk_4 (dk_at dksX7_isRelation_0 8 rfl rfl)
theorem dX7_isRelation_9 : decode cX7_isRelation 9 = .ok (.isub, 1) := dk_100 (dk_at dksX7_isRelation_0 9 rfl rfl)
theorem dX7_isRelation_10 : decode cX7_isRelation 10 = .ok (.invokestatic 160, 3) := dk_184 0 160 (dk_at dksX7_isRelation_0 10 rfl rfl)
theorem dX7_isRelation_13 : decode cX7_isRelation 13 = .ok (.ireturn, 1) := dk_172 (dk_at dksX7_isRelation_0 13 rfl rfl)
abbrev cX7_factAt : ByteArray := prog_33_method_11_code
def yX7_factAt : MethodName := ⟨RX7, "factAt", "(III)I"⟩
def dkwX7_factAt_3 : List UInt8 := [182, 0, 150, 28, 104, 96, 21, 4, 96, 167, 0, 4, 2, 172]
abbrev dktX7_factAt_3 : List UInt8 := dkwX7_factAt_3 ++ []
def dkwX7_factAt_2 : List UInt8 := [182, 0, 150, 4, 100, 184, 0, 160, 153, 0, 28, 42, 180, 0, 90, 27, 46, 42, 42, 180, 0, 38, 27, 46]
abbrev dktX7_factAt_2 : List UInt8 := dkwX7_factAt_2 ++ dktX7_factAt_3
def dkwX7_factAt_1 : List UInt8 := [27, 46, 182, 0, 150, 4, 100, 184, 0, 160, 153, 0, 49, 21, 4, 3, 42, 42, 180, 0, 38, 27, 46]
abbrev dktX7_factAt_1 : List UInt8 := dkwX7_factAt_1 ++ dktX7_factAt_2
def dkwX7_factAt_0 : List UInt8 := [42, 180, 0, 38, 27, 46, 2, 160, 0, 7, 3, 167, 0, 4, 29, 54, 4, 28, 3, 42, 42, 180, 0, 35]
abbrev dktX7_factAt_0 : List UInt8 := dkwX7_factAt_0 ++ dktX7_factAt_1
theorem dksX7_factAt_0 : cX7_factAt.data.toList.drop 0 = dktX7_factAt_0 := by decide +kernel
theorem dksX7_factAt_1 : cX7_factAt.data.toList.drop 24 = dktX7_factAt_1 := dk_seg dksX7_factAt_0 24 rfl rfl
theorem dksX7_factAt_2 : cX7_factAt.data.toList.drop 47 = dktX7_factAt_2 := dk_seg dksX7_factAt_1 23 rfl rfl
theorem dksX7_factAt_3 : cX7_factAt.data.toList.drop 71 = dktX7_factAt_3 := dk_seg dksX7_factAt_2 24 rfl rfl
theorem dX7_factAt_0 : decode cX7_factAt 0 = .ok (.aload_n 0, 1) := dk_42 (dk_at dksX7_factAt_0 0 rfl rfl)
theorem dX7_factAt_1 : decode cX7_factAt 1 = .ok (.getfield 38, 3) := dk_180 0 38 (dk_at dksX7_factAt_0 1 rfl rfl)
theorem dX7_factAt_4 : decode cX7_factAt 4 = .ok (.iload_n 1, 1) := dk_27 (dk_at dksX7_factAt_0 4 rfl rfl)
theorem dX7_factAt_5 : decode cX7_factAt 5 = .ok (.iaload, 1) := dk_46 (dk_at dksX7_factAt_0 5 rfl rfl)
theorem dX7_factAt_6 : decode cX7_factAt 6 = .ok (.iconst (-1), 1) := dk_2 (dk_at dksX7_factAt_0 6 rfl rfl)
theorem dX7_factAt_7 : decode cX7_factAt 7 = .ok (.if_icmp .ne 7, 3) := dk_160 0 7 (dk_at dksX7_factAt_0 7 rfl rfl)
theorem dX7_factAt_10 : decode cX7_factAt 10 = .ok (.iconst 0, 1) := dk_3 (dk_at dksX7_factAt_0 10 rfl rfl)
theorem dX7_factAt_11 : decode cX7_factAt 11 = .ok (.goto 4, 3) := dk_167 0 4 (dk_at dksX7_factAt_0 11 rfl rfl)
theorem dX7_factAt_14 : decode cX7_factAt 14 = .ok (.iload_n 3, 1) := dk_29 (dk_at dksX7_factAt_0 14 rfl rfl)
theorem dX7_factAt_15 : decode cX7_factAt 15 = .ok (.istore 4, 2) := dk_54 4 (dk_at dksX7_factAt_0 15 rfl rfl)
theorem dX7_factAt_17 : decode cX7_factAt 17 = .ok (.iload_n 2, 1) := dk_28 (dk_at dksX7_factAt_0 17 rfl rfl)
theorem dX7_factAt_18 : decode cX7_factAt 18 = .ok (.iconst 0, 1) := dk_3 (dk_at dksX7_factAt_0 18 rfl rfl)
theorem dX7_factAt_19 : decode cX7_factAt 19 = .ok (.aload_n 0, 1) := dk_42 (dk_at dksX7_factAt_0 19 rfl rfl)
theorem dX7_factAt_20 : decode cX7_factAt 20 = .ok (.aload_n 0, 1) := dk_42 (dk_at dksX7_factAt_0 20 rfl rfl)
theorem dX7_factAt_21 : decode cX7_factAt 21 = .ok (.getfield 35, 3) := dk_180 0 35 (dk_at dksX7_factAt_0 21 rfl rfl)
theorem dX7_factAt_24 : decode cX7_factAt 24 = .ok (.iload_n 1, 1) := dk_27 (dk_at dksX7_factAt_1 0 rfl rfl)
theorem dX7_factAt_25 : decode cX7_factAt 25 = .ok (.iaload, 1) := dk_46 (dk_at dksX7_factAt_1 1 rfl rfl)
theorem dX7_factAt_26 : decode cX7_factAt 26 = .ok (.invokevirtual 150, 3) := dk_182 0 150 (dk_at dksX7_factAt_1 2 rfl rfl)
theorem dX7_factAt_29 : decode cX7_factAt 29 = .ok (.iconst 1, 1) := dk_4 (dk_at dksX7_factAt_1 5 rfl rfl)
theorem dX7_factAt_30 : decode cX7_factAt 30 = .ok (.isub, 1) := dk_100 (dk_at dksX7_factAt_1 6 rfl rfl)
theorem dX7_factAt_31 : decode cX7_factAt 31 = .ok (.invokestatic 160, 3) := dk_184 0 160 (dk_at dksX7_factAt_1 7 rfl rfl)
theorem dX7_factAt_34 : decode cX7_factAt 34 = .ok (.ifCond .eq 49, 3) := dk_153 0 49 (dk_at dksX7_factAt_1 10 rfl rfl)
theorem dX7_factAt_37 : decode cX7_factAt 37 = .ok (.iload 4, 2) := dk_21 4 (dk_at dksX7_factAt_1 13 rfl rfl)
theorem dX7_factAt_39 : decode cX7_factAt 39 = .ok (.iconst 0, 1) := dk_3 (dk_at dksX7_factAt_1 15 rfl rfl)
theorem dX7_factAt_40 : decode cX7_factAt 40 = .ok (.aload_n 0, 1) := dk_42 (dk_at dksX7_factAt_1 16 rfl rfl)
theorem dX7_factAt_41 : decode cX7_factAt 41 = .ok (.aload_n 0, 1) := dk_42 (dk_at dksX7_factAt_1 17 rfl rfl)
theorem dX7_factAt_42 : decode cX7_factAt 42 = .ok (.getfield 38, 3) := dk_180 0 38 (dk_at dksX7_factAt_1 18 rfl rfl)
theorem dX7_factAt_45 : decode cX7_factAt 45 = .ok (.iload_n 1, 1) := dk_27 (dk_at dksX7_factAt_1 21 rfl rfl)
theorem dX7_factAt_46 : decode cX7_factAt 46 = .ok (.iaload, 1) := dk_46 (dk_at dksX7_factAt_1 22 rfl rfl)
theorem dX7_factAt_47 : decode cX7_factAt 47 = .ok (.invokevirtual 150, 3) := dk_182 0 150 (dk_at dksX7_factAt_2 0 rfl rfl)
theorem dX7_factAt_50 : decode cX7_factAt 50 = .ok (.iconst 1, 1) := dk_4 (dk_at dksX7_factAt_2 3 rfl rfl)
theorem dX7_factAt_51 : decode cX7_factAt 51 = .ok (.isub, 1) := dk_100 (dk_at dksX7_factAt_2 4 rfl rfl)
theorem dX7_factAt_52 : decode cX7_factAt 52 = .ok (.invokestatic 160, 3) := dk_184 0 160 (dk_at dksX7_factAt_2 5 rfl rfl)
theorem dX7_factAt_55 : decode cX7_factAt 55 = .ok (.ifCond .eq 28, 3) := dk_153 0 28 (dk_at dksX7_factAt_2 8 rfl rfl)
theorem dX7_factAt_58 : decode cX7_factAt 58 = .ok (.aload_n 0, 1) := dk_42 (dk_at dksX7_factAt_2 11 rfl rfl)
theorem dX7_factAt_59 : decode cX7_factAt 59 = .ok (.getfield 90, 3) := dk_180 0 90 (dk_at dksX7_factAt_2 12 rfl rfl)
theorem dX7_factAt_62 : decode cX7_factAt 62 = .ok (.iload_n 1, 1) := dk_27 (dk_at dksX7_factAt_2 15 rfl rfl)
theorem dX7_factAt_63 : decode cX7_factAt 63 = .ok (.iaload, 1) := dk_46 (dk_at dksX7_factAt_2 16 rfl rfl)
theorem dX7_factAt_64 : decode cX7_factAt 64 = .ok (.aload_n 0, 1) := dk_42 (dk_at dksX7_factAt_2 17 rfl rfl)
theorem dX7_factAt_65 : decode cX7_factAt 65 = .ok (.aload_n 0, 1) := dk_42 (dk_at dksX7_factAt_2 18 rfl rfl)
theorem dX7_factAt_66 : decode cX7_factAt 66 = .ok (.getfield 38, 3) := dk_180 0 38 (dk_at dksX7_factAt_2 19 rfl rfl)
theorem dX7_factAt_69 : decode cX7_factAt 69 = .ok (.iload_n 1, 1) := dk_27 (dk_at dksX7_factAt_2 22 rfl rfl)
theorem dX7_factAt_70 : decode cX7_factAt 70 = .ok (.iaload, 1) := dk_46 (dk_at dksX7_factAt_2 23 rfl rfl)
theorem dX7_factAt_71 : decode cX7_factAt 71 = .ok (.invokevirtual 150, 3) := dk_182 0 150 (dk_at dksX7_factAt_3 0 rfl rfl)
theorem dX7_factAt_74 : decode cX7_factAt 74 = .ok (.iload_n 2, 1) := dk_28 (dk_at dksX7_factAt_3 3 rfl rfl)
theorem dX7_factAt_75 : decode cX7_factAt 75 = .ok (.imul, 1) := dk_104 (dk_at dksX7_factAt_3 4 rfl rfl)
theorem dX7_factAt_76 : decode cX7_factAt 76 = .ok (.iadd, 1) := dk_96 (dk_at dksX7_factAt_3 5 rfl rfl)
theorem dX7_factAt_77 : decode cX7_factAt 77 = .ok (.iload 4, 2) := dk_21 4 (dk_at dksX7_factAt_3 6 rfl rfl)
theorem dX7_factAt_79 : decode cX7_factAt 79 = .ok (.iadd, 1) := dk_96 (dk_at dksX7_factAt_3 8 rfl rfl)
theorem dX7_factAt_80 : decode cX7_factAt 80 = .ok (.goto 4, 3) := dk_167 0 4 (dk_at dksX7_factAt_3 9 rfl rfl)
theorem dX7_factAt_83 : decode cX7_factAt 83 = .ok (.iconst (-1), 1) := dk_2 (dk_at dksX7_factAt_3 12 rfl rfl)
theorem dX7_factAt_84 : decode cX7_factAt 84 = .ok (.ireturn, 1) := dk_172 (dk_at dksX7_factAt_3 13 rfl rfl)
abbrev cX7_fact : ByteArray := prog_33_method_20_code
def yX7_fact : MethodName := ⟨RX7, "fact", "(III)I"⟩
def dkwX7_fact_1 : List UInt8 := [42, 180, 0, 41, 21, 4, 51, 153, 0, 7, 4, 167, 0, 4, 3, 172]
abbrev dktX7_fact_1 : List UInt8 := dkwX7_fact_1 ++ []
def dkwX7_fact_0 : List UInt8 := [42, 3, 181, 0, 142, 42, 27, 28, 29, 182, 0, 179, 54, 4, 21, 4, 2, 160, 0, 7, 2, 167, 0, 18]
abbrev dktX7_fact_0 : List UInt8 := dkwX7_fact_0 ++ dktX7_fact_1
theorem dksX7_fact_0 : cX7_fact.data.toList.drop 0 = dktX7_fact_0 := by decide +kernel
theorem dksX7_fact_1 : cX7_fact.data.toList.drop 24 = dktX7_fact_1 := dk_seg dksX7_fact_0 24 rfl rfl
theorem dX7_fact_0 : decode cX7_fact 0 = .ok (.aload_n 0, 1) := dk_42 (dk_at dksX7_fact_0 0 rfl rfl)
theorem dX7_fact_1 : decode cX7_fact 1 = .ok (.iconst 0, 1) := dk_3 (dk_at dksX7_fact_0 1 rfl rfl)
theorem dX7_fact_2 : decode cX7_fact 2 = .ok (.putfield 142, 3) := dk_181 0 142 (dk_at dksX7_fact_0 2 rfl rfl)
theorem dX7_fact_5 : decode cX7_fact 5 = .ok (.aload_n 0, 1) := dk_42 (dk_at dksX7_fact_0 5 rfl rfl)
theorem dX7_fact_6 : decode cX7_fact 6 = .ok (.iload_n 1, 1) := dk_27 (dk_at dksX7_fact_0 6 rfl rfl)
theorem dX7_fact_7 : decode cX7_fact 7 = .ok (.iload_n 2, 1) := dk_28 (dk_at dksX7_fact_0 7 rfl rfl)
theorem dX7_fact_8 : decode cX7_fact 8 = .ok (.iload_n 3, 1) := dk_29 (dk_at dksX7_fact_0 8 rfl rfl)
theorem dX7_fact_9 : decode cX7_fact 9 = .ok (.invokevirtual 179, 3) := dk_182 0 179 (dk_at dksX7_fact_0 9 rfl rfl)
theorem dX7_fact_12 : decode cX7_fact 12 = .ok (.istore 4, 2) := dk_54 4 (dk_at dksX7_fact_0 12 rfl rfl)
theorem dX7_fact_14 : decode cX7_fact 14 = .ok (.iload 4, 2) := dk_21 4 (dk_at dksX7_fact_0 14 rfl rfl)
theorem dX7_fact_16 : decode cX7_fact 16 = .ok (.iconst (-1), 1) := dk_2 (dk_at dksX7_fact_0 16 rfl rfl)
theorem dX7_fact_17 : decode cX7_fact 17 = .ok (.if_icmp .ne 7, 3) := dk_160 0 7 (dk_at dksX7_fact_0 17 rfl rfl)
theorem dX7_fact_20 : decode cX7_fact 20 = .ok (.iconst (-1), 1) := dk_2 (dk_at dksX7_fact_0 20 rfl rfl)
theorem dX7_fact_21 : decode cX7_fact 21 = .ok (.goto 18, 3) := dk_167 0 18 (dk_at dksX7_fact_0 21 rfl rfl)
theorem dX7_fact_24 : decode cX7_fact 24 = .ok (.aload_n 0, 1) := dk_42 (dk_at dksX7_fact_1 0 rfl rfl)
theorem dX7_fact_25 : decode cX7_fact 25 = .ok (.getfield 41, 3) := dk_180 0 41 (dk_at dksX7_fact_1 1 rfl rfl)
theorem dX7_fact_28 : decode cX7_fact 28 = .ok (.iload 4, 2) := dk_21 4 (dk_at dksX7_fact_1 4 rfl rfl)
theorem dX7_fact_30 : decode cX7_fact 30 = .ok (.baload, 1) := dk_51 (dk_at dksX7_fact_1 6 rfl rfl)
theorem dX7_fact_31 : decode cX7_fact 31 = .ok (.ifCond .eq 7, 3) := dk_153 0 7 (dk_at dksX7_fact_1 7 rfl rfl)
theorem dX7_fact_34 : decode cX7_fact 34 = .ok (.iconst 1, 1) := dk_4 (dk_at dksX7_fact_1 10 rfl rfl)
theorem dX7_fact_35 : decode cX7_fact 35 = .ok (.goto 4, 3) := dk_167 0 4 (dk_at dksX7_fact_1 11 rfl rfl)
theorem dX7_fact_38 : decode cX7_fact 38 = .ok (.iconst 0, 1) := dk_3 (dk_at dksX7_fact_1 14 rfl rfl)
theorem dX7_fact_39 : decode cX7_fact 39 = .ok (.ireturn, 1) := dk_172 (dk_at dksX7_fact_1 15 rfl rfl)
abbrev cX7_known : ByteArray := prog_33_method_21_code
def yX7_known : MethodName := ⟨RX7, "known", "(IIIZ)Z"⟩
def dkwX7_known_5 : List UInt8 := [167, 0, 4, 3, 79, 42, 180, 0, 78, 21, 5, 42, 180, 0, 23, 3, 46, 79, 4, 172]
abbrev dktX7_known_5 : List UInt8 := dkwX7_known_5 ++ []
def dkwX7_known_4 : List UInt8 := [160, 0, 7, 3, 167, 0, 4, 29, 96, 79, 42, 180, 0, 75, 21, 5, 21, 4, 153, 0, 7, 4]
abbrev dktX7_known_4 : List UInt8 := dkwX7_known_4 ++ dktX7_known_5
def dkwX7_known_3 : List UInt8 := [96, 79, 42, 180, 0, 72, 21, 5, 16, 9, 27, 104, 6, 28, 104, 96, 42, 180, 0, 38, 27, 46, 2]
abbrev dktX7_known_3 : List UInt8 := dkwX7_known_3 ++ dktX7_known_4
def dkwX7_known_2 : List UInt8 := [184, 0, 160, 154, 0, 5, 3, 172, 42, 180, 0, 69, 3, 46, 54, 5, 42, 180, 0, 69, 3, 92, 46, 4]
abbrev dktX7_known_2 : List UInt8 := dkwX7_known_2 ++ dktX7_known_3
def dkwX7_known_1 : List UInt8 := [28, 3, 5, 184, 0, 160, 153, 0, 22, 42, 180, 0, 38, 27, 46, 2, 159, 0, 14, 29, 3, 5]
abbrev dktX7_known_1 : List UInt8 := dkwX7_known_1 ++ dktX7_known_2
def dkwX7_known_0 : List UInt8 := [42, 3, 181, 0, 142, 42, 180, 0, 69, 3, 46, 16, 40, 159, 0, 39, 42, 27, 182, 0, 175, 153, 0, 31]
abbrev dktX7_known_0 : List UInt8 := dkwX7_known_0 ++ dktX7_known_1
theorem dksX7_known_0 : cX7_known.data.toList.drop 0 = dktX7_known_0 := by decide +kernel
theorem dksX7_known_1 : cX7_known.data.toList.drop 24 = dktX7_known_1 := dk_seg dksX7_known_0 24 rfl rfl
theorem dksX7_known_2 : cX7_known.data.toList.drop 46 = dktX7_known_2 := dk_seg dksX7_known_1 22 rfl rfl
theorem dksX7_known_3 : cX7_known.data.toList.drop 70 = dktX7_known_3 := dk_seg dksX7_known_2 24 rfl rfl
theorem dksX7_known_4 : cX7_known.data.toList.drop 93 = dktX7_known_4 := dk_seg dksX7_known_3 23 rfl rfl
theorem dksX7_known_5 : cX7_known.data.toList.drop 115 = dktX7_known_5 := dk_seg dksX7_known_4 22 rfl rfl
theorem dX7_known_0 : decode cX7_known 0 = .ok (.aload_n 0, 1) := dk_42 (dk_at dksX7_known_0 0 rfl rfl)
theorem dX7_known_1 : decode cX7_known 1 = .ok (.iconst 0, 1) := dk_3 (dk_at dksX7_known_0 1 rfl rfl)
theorem dX7_known_2 : decode cX7_known 2 = .ok (.putfield 142, 3) := dk_181 0 142 (dk_at dksX7_known_0 2 rfl rfl)
theorem dX7_known_5 : decode cX7_known 5 = .ok (.aload_n 0, 1) := dk_42 (dk_at dksX7_known_0 5 rfl rfl)
theorem dX7_known_6 : decode cX7_known 6 = .ok (.getfield 69, 3) := dk_180 0 69 (dk_at dksX7_known_0 6 rfl rfl)
theorem dX7_known_9 : decode cX7_known 9 = .ok (.iconst 0, 1) := dk_3 (dk_at dksX7_known_0 9 rfl rfl)
theorem dX7_known_10 : decode cX7_known 10 = .ok (.iaload, 1) := dk_46 (dk_at dksX7_known_0 10 rfl rfl)
theorem dX7_known_11 : decode cX7_known 11 = .ok (.bipush 40, 2) := dk_16 40 (dk_at dksX7_known_0 11 rfl rfl)
theorem dX7_known_13 : decode cX7_known 13 = .ok (.if_icmp .eq 39, 3) := dk_159 0 39 (dk_at dksX7_known_0 13 rfl rfl)
theorem dX7_known_16 : decode cX7_known 16 = .ok (.aload_n 0, 1) := dk_42 (dk_at dksX7_known_0 16 rfl rfl)
theorem dX7_known_17 : decode cX7_known 17 = .ok (.iload_n 1, 1) := dk_27 (dk_at dksX7_known_0 17 rfl rfl)
theorem dX7_known_18 : decode cX7_known 18 = .ok (.invokevirtual 175, 3) := dk_182 0 175 (dk_at dksX7_known_0 18 rfl rfl)
theorem dX7_known_21 : decode cX7_known 21 = .ok (.ifCond .eq 31, 3) := dk_153 0 31 (dk_at dksX7_known_0 21 rfl rfl)
theorem dX7_known_24 : decode cX7_known 24 = .ok (.iload_n 2, 1) := dk_28 (dk_at dksX7_known_1 0 rfl rfl)
theorem dX7_known_25 : decode cX7_known 25 = .ok (.iconst 0, 1) := dk_3 (dk_at dksX7_known_1 1 rfl rfl)
theorem dX7_known_26 : decode cX7_known 26 = .ok (.iconst 2, 1) := dk_5 (dk_at dksX7_known_1 2 rfl rfl)
theorem dX7_known_27 : decode cX7_known 27 = .ok (.invokestatic 160, 3) := dk_184 0 160 (dk_at dksX7_known_1 3 rfl rfl)
theorem dX7_known_30 : decode cX7_known 30 = .ok (.ifCond .eq 22, 3) := dk_153 0 22 (dk_at dksX7_known_1 6 rfl rfl)
theorem dX7_known_33 : decode cX7_known 33 = .ok (.aload_n 0, 1) := dk_42 (dk_at dksX7_known_1 9 rfl rfl)
theorem dX7_known_34 : decode cX7_known 34 = .ok (.getfield 38, 3) := dk_180 0 38 (dk_at dksX7_known_1 10 rfl rfl)
theorem dX7_known_37 : decode cX7_known 37 = .ok (.iload_n 1, 1) := dk_27 (dk_at dksX7_known_1 13 rfl rfl)
theorem dX7_known_38 : decode cX7_known 38 = .ok (.iaload, 1) := dk_46 (dk_at dksX7_known_1 14 rfl rfl)
theorem dX7_known_39 : decode cX7_known 39 = .ok (.iconst (-1), 1) := dk_2 (dk_at dksX7_known_1 15 rfl rfl)
theorem dX7_known_40 : decode cX7_known 40 = .ok (.if_icmp .eq 14, 3) := dk_159 0 14 (dk_at dksX7_known_1 16 rfl rfl)
theorem dX7_known_43 : decode cX7_known 43 = .ok (.iload_n 3, 1) := dk_29 (dk_at dksX7_known_1 19 rfl rfl)
theorem dX7_known_44 : decode cX7_known 44 = .ok (.iconst 0, 1) := dk_3 (dk_at dksX7_known_1 20 rfl rfl)
theorem dX7_known_45 : decode cX7_known 45 = .ok (.iconst 2, 1) := dk_5 (dk_at dksX7_known_1 21 rfl rfl)
theorem dX7_known_46 : decode cX7_known 46 = .ok (.invokestatic 160, 3) := dk_184 0 160 (dk_at dksX7_known_2 0 rfl rfl)
theorem dX7_known_49 : decode cX7_known 49 = .ok (.ifCond .ne 5, 3) := dk_154 0 5 (dk_at dksX7_known_2 3 rfl rfl)
theorem dX7_known_52 : decode cX7_known 52 = .ok (.iconst 0, 1) := dk_3 (dk_at dksX7_known_2 6 rfl rfl)
theorem dX7_known_53 : decode cX7_known 53 = .ok (.ireturn, 1) := dk_172 (dk_at dksX7_known_2 7 rfl rfl)
theorem dX7_known_54 : decode cX7_known 54 = .ok (.aload_n 0, 1) := dk_42 (dk_at dksX7_known_2 8 rfl rfl)
theorem dX7_known_55 : decode cX7_known 55 = .ok (.getfield 69, 3) := dk_180 0 69 (dk_at dksX7_known_2 9 rfl rfl)
theorem dX7_known_58 : decode cX7_known 58 = .ok (.iconst 0, 1) := dk_3 (dk_at dksX7_known_2 12 rfl rfl)
theorem dX7_known_59 : decode cX7_known 59 = .ok (.iaload, 1) := dk_46 (dk_at dksX7_known_2 13 rfl rfl)
theorem dX7_known_60 : decode cX7_known 60 = .ok (.istore 5, 2) := dk_54 5 (dk_at dksX7_known_2 14 rfl rfl)
theorem dX7_known_62 : decode cX7_known 62 = .ok (.aload_n 0, 1) := dk_42 (dk_at dksX7_known_2 16 rfl rfl)
theorem dX7_known_63 : decode cX7_known 63 = .ok (.getfield 69, 3) := dk_180 0 69 (dk_at dksX7_known_2 17 rfl rfl)
theorem dX7_known_66 : decode cX7_known 66 = .ok (.iconst 0, 1) := dk_3 (dk_at dksX7_known_2 20 rfl rfl)
theorem dX7_known_67 : decode cX7_known 67 = .ok (.dup2, 1) := dk_92 (dk_at dksX7_known_2 21 rfl rfl)
theorem dX7_known_68 : decode cX7_known 68 = .ok (.iaload, 1) := dk_46 (dk_at dksX7_known_2 22 rfl rfl)
theorem dX7_known_69 : decode cX7_known 69 = .ok (.iconst 1, 1) := dk_4 (dk_at dksX7_known_2 23 rfl rfl)
theorem dX7_known_70 : decode cX7_known 70 = .ok (.iadd, 1) := dk_96 (dk_at dksX7_known_3 0 rfl rfl)
theorem dX7_known_71 : decode cX7_known 71 = .ok (.iastore, 1) := dk_79 (dk_at dksX7_known_3 1 rfl rfl)
theorem dX7_known_72 : decode cX7_known 72 = .ok (.aload_n 0, 1) := dk_42 (dk_at dksX7_known_3 2 rfl rfl)
theorem dX7_known_73 : decode cX7_known 73 = .ok (.getfield 72, 3) := dk_180 0 72 (dk_at dksX7_known_3 3 rfl rfl)
theorem dX7_known_76 : decode cX7_known 76 = .ok (.iload 5, 2) := dk_21 5 (dk_at dksX7_known_3 6 rfl rfl)
theorem dX7_known_78 : decode cX7_known 78 = .ok (.bipush 9, 2) := dk_16 9 (dk_at dksX7_known_3 8 rfl rfl)
theorem dX7_known_80 : decode cX7_known 80 = .ok (.iload_n 1, 1) := dk_27 (dk_at dksX7_known_3 10 rfl rfl)
theorem dX7_known_81 : decode cX7_known 81 = .ok (.imul, 1) := dk_104 (dk_at dksX7_known_3 11 rfl rfl)
theorem dX7_known_82 : decode cX7_known 82 = .ok (.iconst 3, 1) := dk_6 (dk_at dksX7_known_3 12 rfl rfl)
theorem dX7_known_83 : decode cX7_known 83 = .ok (.iload_n 2, 1) := dk_28 (dk_at dksX7_known_3 13 rfl rfl)
theorem dX7_known_84 : decode cX7_known 84 = .ok (.imul, 1) := dk_104 (dk_at dksX7_known_3 14 rfl rfl)
theorem dX7_known_85 : decode cX7_known 85 = .ok (.iadd, 1) := dk_96 (dk_at dksX7_known_3 15 rfl rfl)
theorem dX7_known_86 : decode cX7_known 86 = .ok (.aload_n 0, 1) := dk_42 (dk_at dksX7_known_3 16 rfl rfl)
theorem dX7_known_87 : decode cX7_known 87 = .ok (.getfield 38, 3) := dk_180 0 38 (dk_at dksX7_known_3 17 rfl rfl)
theorem dX7_known_90 : decode cX7_known 90 = .ok (.iload_n 1, 1) := dk_27 (dk_at dksX7_known_3 20 rfl rfl)
theorem dX7_known_91 : decode cX7_known 91 = .ok (.iaload, 1) := dk_46 (dk_at dksX7_known_3 21 rfl rfl)
theorem dX7_known_92 : decode cX7_known 92 = .ok (.iconst (-1), 1) := dk_2 (dk_at dksX7_known_3 22 rfl rfl)
theorem dX7_known_93 : decode cX7_known 93 = .ok (.if_icmp .ne 7, 3) := dk_160 0 7 (dk_at dksX7_known_4 0 rfl rfl)
theorem dX7_known_96 : decode cX7_known 96 = .ok (.iconst 0, 1) := dk_3 (dk_at dksX7_known_4 3 rfl rfl)
theorem dX7_known_97 : decode cX7_known 97 = .ok (.goto 4, 3) := dk_167 0 4 (dk_at dksX7_known_4 4 rfl rfl)
theorem dX7_known_100 : decode cX7_known 100 = .ok (.iload_n 3, 1) := dk_29 (dk_at dksX7_known_4 7 rfl rfl)
theorem dX7_known_101 : decode cX7_known 101 = .ok (.iadd, 1) := dk_96 (dk_at dksX7_known_4 8 rfl rfl)
theorem dX7_known_102 : decode cX7_known 102 = .ok (.iastore, 1) := dk_79 (dk_at dksX7_known_4 9 rfl rfl)
theorem dX7_known_103 : decode cX7_known 103 = .ok (.aload_n 0, 1) := dk_42 (dk_at dksX7_known_4 10 rfl rfl)
theorem dX7_known_104 : decode cX7_known 104 = .ok (.getfield 75, 3) := dk_180 0 75 (dk_at dksX7_known_4 11 rfl rfl)
theorem dX7_known_107 : decode cX7_known 107 = .ok (.iload 5, 2) := dk_21 5 (dk_at dksX7_known_4 14 rfl rfl)
theorem dX7_known_109 : decode cX7_known 109 = .ok (.iload 4, 2) := dk_21 4 (dk_at dksX7_known_4 16 rfl rfl)
theorem dX7_known_111 : decode cX7_known 111 = .ok (.ifCond .eq 7, 3) := dk_153 0 7 (dk_at dksX7_known_4 18 rfl rfl)
theorem dX7_known_114 : decode cX7_known 114 = .ok (.iconst 1, 1) := dk_4 (dk_at dksX7_known_4 21 rfl rfl)
theorem dX7_known_115 : decode cX7_known 115 = .ok (.goto 4, 3) := dk_167 0 4 (dk_at dksX7_known_5 0 rfl rfl)
theorem dX7_known_118 : decode cX7_known 118 = .ok (.iconst 0, 1) := dk_3 (dk_at dksX7_known_5 3 rfl rfl)
theorem dX7_known_119 : decode cX7_known 119 = .ok (.iastore, 1) := dk_79 (dk_at dksX7_known_5 4 rfl rfl)
theorem dX7_known_120 : decode cX7_known 120 = .ok (.aload_n 0, 1) := dk_42 (dk_at dksX7_known_5 5 rfl rfl)
theorem dX7_known_121 : decode cX7_known 121 = .ok (.getfield 78, 3) := dk_180 0 78 (dk_at dksX7_known_5 6 rfl rfl)
theorem dX7_known_124 : decode cX7_known 124 = .ok (.iload 5, 2) := dk_21 5 (dk_at dksX7_known_5 9 rfl rfl)
theorem dX7_known_126 : decode cX7_known 126 = .ok (.aload_n 0, 1) := dk_42 (dk_at dksX7_known_5 11 rfl rfl)
theorem dX7_known_127 : decode cX7_known 127 = .ok (.getfield 23, 3) := dk_180 0 23 (dk_at dksX7_known_5 12 rfl rfl)
theorem dX7_known_130 : decode cX7_known 130 = .ok (.iconst 0, 1) := dk_3 (dk_at dksX7_known_5 15 rfl rfl)
theorem dX7_known_131 : decode cX7_known 131 = .ok (.iaload, 1) := dk_46 (dk_at dksX7_known_5 16 rfl rfl)
theorem dX7_known_132 : decode cX7_known 132 = .ok (.iastore, 1) := dk_79 (dk_at dksX7_known_5 17 rfl rfl)
theorem dX7_known_133 : decode cX7_known 133 = .ok (.iconst 1, 1) := dk_4 (dk_at dksX7_known_5 18 rfl rfl)
theorem dX7_known_134 : decode cX7_known 134 = .ok (.ireturn, 1) := dk_172 (dk_at dksX7_known_5 19 rfl rfl)
abbrev cX7_keep : ByteArray := prog_33_method_22_code
def yX7_keep : MethodName := ⟨RX7, "keep", "(I)Z"⟩
def dkwX7_keep_2 : List UInt8 := [132, 2, 1, 167, 255, 230, 4, 172]
abbrev dktX7_keep_2 : List UInt8 := dkwX7_keep_2 ++ []
def dkwX7_keep_1 : List UInt8 := [61, 28, 16, 36, 162, 0, 26, 42, 180, 0, 81, 16, 36, 27, 104, 28, 96, 42, 180, 0, 41, 28, 51, 84]
abbrev dktX7_keep_1 : List UInt8 := dkwX7_keep_1 ++ dktX7_keep_2
def dkwX7_keep_0 : List UInt8 := [42, 3, 181, 0, 142, 27, 3, 6, 184, 0, 160, 154, 0, 5, 3, 172, 42, 180, 0, 84, 27, 4, 84, 3]
abbrev dktX7_keep_0 : List UInt8 := dkwX7_keep_0 ++ dktX7_keep_1
theorem dksX7_keep_0 : cX7_keep.data.toList.drop 0 = dktX7_keep_0 := by decide +kernel
theorem dksX7_keep_1 : cX7_keep.data.toList.drop 24 = dktX7_keep_1 := dk_seg dksX7_keep_0 24 rfl rfl
theorem dksX7_keep_2 : cX7_keep.data.toList.drop 48 = dktX7_keep_2 := dk_seg dksX7_keep_1 24 rfl rfl
theorem dX7_keep_0 : decode cX7_keep 0 = .ok (.aload_n 0, 1) := dk_42 (dk_at dksX7_keep_0 0 rfl rfl)
theorem dX7_keep_1 : decode cX7_keep 1 = .ok (.iconst 0, 1) := dk_3 (dk_at dksX7_keep_0 1 rfl rfl)
theorem dX7_keep_2 : decode cX7_keep 2 = .ok (.putfield 142, 3) := dk_181 0 142 (dk_at dksX7_keep_0 2 rfl rfl)
theorem dX7_keep_5 : decode cX7_keep 5 = .ok (.iload_n 1, 1) := dk_27 (dk_at dksX7_keep_0 5 rfl rfl)
theorem dX7_keep_6 : decode cX7_keep 6 = .ok (.iconst 0, 1) := dk_3 (dk_at dksX7_keep_0 6 rfl rfl)
theorem dX7_keep_7 : decode cX7_keep 7 = .ok (.iconst 3, 1) := dk_6 (dk_at dksX7_keep_0 7 rfl rfl)
theorem dX7_keep_8 : decode cX7_keep 8 = .ok (.invokestatic 160, 3) := dk_184 0 160 (dk_at dksX7_keep_0 8 rfl rfl)
theorem dX7_keep_11 : decode cX7_keep 11 = .ok (.ifCond .ne 5, 3) := dk_154 0 5 (dk_at dksX7_keep_0 11 rfl rfl)
theorem dX7_keep_14 : decode cX7_keep 14 = .ok (.iconst 0, 1) := dk_3 (dk_at dksX7_keep_0 14 rfl rfl)
theorem dX7_keep_15 : decode cX7_keep 15 = .ok (.ireturn, 1) := dk_172 (dk_at dksX7_keep_0 15 rfl rfl)
theorem dX7_keep_16 : decode cX7_keep 16 = .ok (.aload_n 0, 1) := dk_42 (dk_at dksX7_keep_0 16 rfl rfl)
theorem dX7_keep_17 : decode cX7_keep 17 = .ok (.getfield 84, 3) := dk_180 0 84 (dk_at dksX7_keep_0 17 rfl rfl)
theorem dX7_keep_20 : decode cX7_keep 20 = .ok (.iload_n 1, 1) := dk_27 (dk_at dksX7_keep_0 20 rfl rfl)
theorem dX7_keep_21 : decode cX7_keep 21 = .ok (.iconst 1, 1) := dk_4 (dk_at dksX7_keep_0 21 rfl rfl)
theorem dX7_keep_22 : decode cX7_keep 22 = .ok (.bastore, 1) := dk_84 (dk_at dksX7_keep_0 22 rfl rfl)
theorem dX7_keep_23 : decode cX7_keep 23 = .ok (.iconst 0, 1) := dk_3 (dk_at dksX7_keep_0 23 rfl rfl)
theorem dX7_keep_24 : decode cX7_keep 24 = .ok (.istore_n 2, 1) := dk_61 (dk_at dksX7_keep_1 0 rfl rfl)
theorem dX7_keep_25 : decode cX7_keep 25 = .ok (.iload_n 2, 1) := dk_28 (dk_at dksX7_keep_1 1 rfl rfl)
theorem dX7_keep_26 : decode cX7_keep 26 = .ok (.bipush 36, 2) := dk_16 36 (dk_at dksX7_keep_1 2 rfl rfl)
theorem dX7_keep_28 : decode cX7_keep 28 = .ok (.if_icmp .ge 26, 3) := dk_162 0 26 (dk_at dksX7_keep_1 4 rfl rfl)
theorem dX7_keep_31 : decode cX7_keep 31 = .ok (.aload_n 0, 1) := dk_42 (dk_at dksX7_keep_1 7 rfl rfl)
theorem dX7_keep_32 : decode cX7_keep 32 = .ok (.getfield 81, 3) := dk_180 0 81 (dk_at dksX7_keep_1 8 rfl rfl)
theorem dX7_keep_35 : decode cX7_keep 35 = .ok (.bipush 36, 2) := dk_16 36 (dk_at dksX7_keep_1 11 rfl rfl)
theorem dX7_keep_37 : decode cX7_keep 37 = .ok (.iload_n 1, 1) := dk_27 (dk_at dksX7_keep_1 13 rfl rfl)
theorem dX7_keep_38 : decode cX7_keep 38 = .ok (.imul, 1) := dk_104 (dk_at dksX7_keep_1 14 rfl rfl)
theorem dX7_keep_39 : decode cX7_keep 39 = .ok (.iload_n 2, 1) := dk_28 (dk_at dksX7_keep_1 15 rfl rfl)
theorem dX7_keep_40 : decode cX7_keep 40 = .ok (.iadd, 1) := dk_96 (dk_at dksX7_keep_1 16 rfl rfl)
theorem dX7_keep_41 : decode cX7_keep 41 = .ok (.aload_n 0, 1) := dk_42 (dk_at dksX7_keep_1 17 rfl rfl)
theorem dX7_keep_42 : decode cX7_keep 42 = .ok (.getfield 41, 3) := dk_180 0 41 (dk_at dksX7_keep_1 18 rfl rfl)
theorem dX7_keep_45 : decode cX7_keep 45 = .ok (.iload_n 2, 1) := dk_28 (dk_at dksX7_keep_1 21 rfl rfl)
theorem dX7_keep_46 : decode cX7_keep 46 = .ok (.baload, 1) := dk_51 (dk_at dksX7_keep_1 22 rfl rfl)
theorem dX7_keep_47 : decode cX7_keep 47 = .ok (.bastore, 1) := dk_84 (dk_at dksX7_keep_1 23 rfl rfl)
theorem dX7_keep_48 : decode cX7_keep 48 = .ok (.iinc 2 1, 3) := dk_132 2 1 (dk_at dksX7_keep_2 0 rfl rfl)
theorem dX7_keep_51 : decode cX7_keep 51 = .ok (.goto (-26), 3) := dk_167 255 230 (dk_at dksX7_keep_2 3 rfl rfl)
theorem dX7_keep_54 : decode cX7_keep 54 = .ok (.iconst 1, 1) := dk_4 (dk_at dksX7_keep_2 6 rfl rfl)
theorem dX7_keep_55 : decode cX7_keep 55 = .ok (.ireturn, 1) := dk_172 (dk_at dksX7_keep_2 7 rfl rfl)
abbrev cX7_apart : ByteArray := prog_33_method_23_code
def yX7_apart : MethodName := ⟨RX7, "apart", "(I)I"⟩
def dkwX7_apart_5 : List UInt8 := [21, 4, 54, 4, 132, 5, 1, 167, 255, 209, 21, 4, 172]
abbrev dktX7_apart_5 : List UInt8 := dkwX7_apart_5 ++ []
def dkwX7_apart_4 : List UInt8 := [42, 182, 0, 192, 29, 130, 184, 0, 195, 54, 6, 21, 6, 21, 4, 162, 0, 8, 21, 6, 167, 0, 5]
abbrev dktX7_apart_4 : List UInt8 := dkwX7_apart_4 ++ dktX7_apart_5
def dkwX7_apart_3 : List UInt8 := [16, 36, 54, 4, 3, 54, 5, 21, 5, 17, 0, 216, 162, 0, 45, 42, 21, 5, 182, 0, 189, 153, 0, 30]
abbrev dktX7_apart_3 : List UInt8 := dkwX7_apart_3 ++ dktX7_apart_4
def dkwX7_apart_2 : List UInt8 := [29, 42, 180, 0, 81, 16, 36, 27, 104, 29, 96, 51, 84, 132, 3, 1, 167, 255, 231, 42, 182, 0, 186, 62]
abbrev dktX7_apart_2 : List UInt8 := dkwX7_apart_2 ++ dktX7_apart_3
def dkwX7_apart_1 : List UInt8 := [182, 0, 182, 154, 0, 5, 2, 172, 42, 182, 0, 171, 61, 3, 62, 29, 28, 162, 0, 26, 42, 180, 0, 93]
abbrev dktX7_apart_1 : List UInt8 := dkwX7_apart_1 ++ dktX7_apart_2
def dkwX7_apart_0 : List UInt8 := [42, 3, 181, 0, 142, 27, 3, 6, 184, 0, 160, 153, 0, 19, 42, 180, 0, 84, 27, 51, 153, 0, 10, 42]
abbrev dktX7_apart_0 : List UInt8 := dkwX7_apart_0 ++ dktX7_apart_1
theorem dksX7_apart_0 : cX7_apart.data.toList.drop 0 = dktX7_apart_0 := by decide +kernel
theorem dksX7_apart_1 : cX7_apart.data.toList.drop 24 = dktX7_apart_1 := dk_seg dksX7_apart_0 24 rfl rfl
theorem dksX7_apart_2 : cX7_apart.data.toList.drop 48 = dktX7_apart_2 := dk_seg dksX7_apart_1 24 rfl rfl
theorem dksX7_apart_3 : cX7_apart.data.toList.drop 72 = dktX7_apart_3 := dk_seg dksX7_apart_2 24 rfl rfl
theorem dksX7_apart_4 : cX7_apart.data.toList.drop 96 = dktX7_apart_4 := dk_seg dksX7_apart_3 24 rfl rfl
theorem dksX7_apart_5 : cX7_apart.data.toList.drop 119 = dktX7_apart_5 := dk_seg dksX7_apart_4 23 rfl rfl
theorem dX7_apart_0 : decode cX7_apart 0 = .ok (.aload_n 0, 1) := dk_42 (dk_at dksX7_apart_0 0 rfl rfl)
theorem dX7_apart_1 : decode cX7_apart 1 = .ok (.iconst 0, 1) := dk_3 (dk_at dksX7_apart_0 1 rfl rfl)
theorem dX7_apart_2 : decode cX7_apart 2 = .ok (.putfield 142, 3) := dk_181 0 142 (dk_at dksX7_apart_0 2 rfl rfl)
theorem dX7_apart_5 : decode cX7_apart 5 = .ok (.iload_n 1, 1) := dk_27 (dk_at dksX7_apart_0 5 rfl rfl)
theorem dX7_apart_6 : decode cX7_apart 6 = .ok (.iconst 0, 1) := dk_3 (dk_at dksX7_apart_0 6 rfl rfl)
theorem dX7_apart_7 : decode cX7_apart 7 = .ok (.iconst 3, 1) := dk_6 (dk_at dksX7_apart_0 7 rfl rfl)
theorem dX7_apart_8 : decode cX7_apart 8 = .ok (.invokestatic 160, 3) := dk_184 0 160 (dk_at dksX7_apart_0 8 rfl rfl)
theorem dX7_apart_11 : decode cX7_apart 11 = .ok (.ifCond .eq 19, 3) := dk_153 0 19 (dk_at dksX7_apart_0 11 rfl rfl)
theorem dX7_apart_14 : decode cX7_apart 14 = .ok (.aload_n 0, 1) := dk_42 (dk_at dksX7_apart_0 14 rfl rfl)
theorem dX7_apart_15 : decode cX7_apart 15 = .ok (.getfield 84, 3) := dk_180 0 84 (dk_at dksX7_apart_0 15 rfl rfl)
theorem dX7_apart_18 : decode cX7_apart 18 = .ok (.iload_n 1, 1) := dk_27 (dk_at dksX7_apart_0 18 rfl rfl)
theorem dX7_apart_19 : decode cX7_apart 19 = .ok (.baload, 1) := dk_51 (dk_at dksX7_apart_0 19 rfl rfl)
theorem dX7_apart_20 : decode cX7_apart 20 = .ok (.ifCond .eq 10, 3) := dk_153 0 10 (dk_at dksX7_apart_0 20 rfl rfl)
theorem dX7_apart_23 : decode cX7_apart 23 = .ok (.aload_n 0, 1) := dk_42 (dk_at dksX7_apart_0 23 rfl rfl)
theorem dX7_apart_24 : decode cX7_apart 24 = .ok (.invokevirtual 182, 3) := dk_182 0 182 (dk_at dksX7_apart_1 0 rfl rfl)
theorem dX7_apart_27 : decode cX7_apart 27 = .ok (.ifCond .ne 5, 3) := dk_154 0 5 (dk_at dksX7_apart_1 3 rfl rfl)
theorem dX7_apart_30 : decode cX7_apart 30 = .ok (.iconst (-1), 1) := dk_2 (dk_at dksX7_apart_1 6 rfl rfl)
theorem dX7_apart_31 : decode cX7_apart 31 = .ok (.ireturn, 1) := dk_172 (dk_at dksX7_apart_1 7 rfl rfl)
theorem dX7_apart_32 : decode cX7_apart 32 = .ok (.aload_n 0, 1) := dk_42 (dk_at dksX7_apart_1 8 rfl rfl)
theorem dX7_apart_33 : decode cX7_apart 33 = .ok (.invokevirtual 171, 3) := dk_182 0 171 (dk_at dksX7_apart_1 9 rfl rfl)
theorem dX7_apart_36 : decode cX7_apart 36 = .ok (.istore_n 2, 1) := dk_61 (dk_at dksX7_apart_1 12 rfl rfl)
theorem dX7_apart_37 : decode cX7_apart 37 = .ok (.iconst 0, 1) := dk_3 (dk_at dksX7_apart_1 13 rfl rfl)
theorem dX7_apart_38 : decode cX7_apart 38 = .ok (.istore_n 3, 1) := dk_62 (dk_at dksX7_apart_1 14 rfl rfl)
theorem dX7_apart_39 : decode cX7_apart 39 = .ok (.iload_n 3, 1) := dk_29 (dk_at dksX7_apart_1 15 rfl rfl)
theorem dX7_apart_40 : decode cX7_apart 40 = .ok (.iload_n 2, 1) := dk_28 (dk_at dksX7_apart_1 16 rfl rfl)
theorem dX7_apart_41 : decode cX7_apart 41 = .ok (.if_icmp .ge 26, 3) := dk_162 0 26 (dk_at dksX7_apart_1 17 rfl rfl)
theorem dX7_apart_44 : decode cX7_apart 44 = .ok (.aload_n 0, 1) := dk_42 (dk_at dksX7_apart_1 20 rfl rfl)
theorem dX7_apart_45 : decode cX7_apart 45 = .ok (.getfield 93, 3) := dk_180 0 93 (dk_at dksX7_apart_1 21 rfl rfl)
theorem dX7_apart_48 : decode cX7_apart 48 = .ok (.iload_n 3, 1) := dk_29 (dk_at dksX7_apart_2 0 rfl rfl)
theorem dX7_apart_49 : decode cX7_apart 49 = .ok (.aload_n 0, 1) := dk_42 (dk_at dksX7_apart_2 1 rfl rfl)
theorem dX7_apart_50 : decode cX7_apart 50 = .ok (.getfield 81, 3) := dk_180 0 81 (dk_at dksX7_apart_2 2 rfl rfl)
theorem dX7_apart_53 : decode cX7_apart 53 = .ok (.bipush 36, 2) := dk_16 36 (dk_at dksX7_apart_2 5 rfl rfl)
theorem dX7_apart_55 : decode cX7_apart 55 = .ok (.iload_n 1, 1) := dk_27 (dk_at dksX7_apart_2 7 rfl rfl)
theorem dX7_apart_56 : decode cX7_apart 56 = .ok (.imul, 1) := dk_104 (dk_at dksX7_apart_2 8 rfl rfl)
theorem dX7_apart_57 : decode cX7_apart 57 = .ok (.iload_n 3, 1) := dk_29 (dk_at dksX7_apart_2 9 rfl rfl)
theorem dX7_apart_58 : decode cX7_apart 58 = .ok (.iadd, 1) := dk_96 (dk_at dksX7_apart_2 10 rfl rfl)
theorem dX7_apart_59 : decode cX7_apart 59 = .ok (.baload, 1) := dk_51 (dk_at dksX7_apart_2 11 rfl rfl)
theorem dX7_apart_60 : decode cX7_apart 60 = .ok (.bastore, 1) := dk_84 (dk_at dksX7_apart_2 12 rfl rfl)
theorem dX7_apart_61 : decode cX7_apart 61 = .ok (.iinc 3 1, 3) := dk_132 3 1 (dk_at dksX7_apart_2 13 rfl rfl)
theorem dX7_apart_64 : decode cX7_apart 64 = .ok (.goto (-25), 3) := dk_167 255 231 (dk_at dksX7_apart_2 16 rfl rfl)
theorem dX7_apart_67 : decode cX7_apart 67 = .ok (.aload_n 0, 1) := dk_42 (dk_at dksX7_apart_2 19 rfl rfl)
theorem dX7_apart_68 : decode cX7_apart 68 = .ok (.invokevirtual 186, 3) := dk_182 0 186 (dk_at dksX7_apart_2 20 rfl rfl)
theorem dX7_apart_71 : decode cX7_apart 71 = .ok (.istore_n 3, 1) := dk_62 (dk_at dksX7_apart_2 23 rfl rfl)
theorem dX7_apart_72 : decode cX7_apart 72 = .ok (.bipush 36, 2) := dk_16 36 (dk_at dksX7_apart_3 0 rfl rfl)
theorem dX7_apart_74 : decode cX7_apart 74 = .ok (.istore 4, 2) := dk_54 4 (dk_at dksX7_apart_3 2 rfl rfl)
theorem dX7_apart_76 : decode cX7_apart 76 = .ok (.iconst 0, 1) := dk_3 (dk_at dksX7_apart_3 4 rfl rfl)
theorem dX7_apart_77 : decode cX7_apart 77 = .ok (.istore 5, 2) := dk_54 5 (dk_at dksX7_apart_3 5 rfl rfl)
theorem dX7_apart_79 : decode cX7_apart 79 = .ok (.iload 5, 2) := dk_21 5 (dk_at dksX7_apart_3 7 rfl rfl)
theorem dX7_apart_81 : decode cX7_apart 81 = .ok (.sipush 216, 3) := dk_17 0 216 (dk_at dksX7_apart_3 9 rfl rfl)
theorem dX7_apart_84 : decode cX7_apart 84 = .ok (.if_icmp .ge 45, 3) := dk_162 0 45 (dk_at dksX7_apart_3 12 rfl rfl)
theorem dX7_apart_87 : decode cX7_apart 87 = .ok (.aload_n 0, 1) := dk_42 (dk_at dksX7_apart_3 15 rfl rfl)
theorem dX7_apart_88 : decode cX7_apart 88 = .ok (.iload 5, 2) := dk_21 5 (dk_at dksX7_apart_3 16 rfl rfl)
theorem dX7_apart_90 : decode cX7_apart 90 = .ok (.invokevirtual 189, 3) := dk_182 0 189 (dk_at dksX7_apart_3 18 rfl rfl)
theorem dX7_apart_93 : decode cX7_apart 93 = .ok (.ifCond .eq 30, 3) := dk_153 0 30 (dk_at dksX7_apart_3 21 rfl rfl)
theorem dX7_apart_96 : decode cX7_apart 96 = .ok (.aload_n 0, 1) := dk_42 (dk_at dksX7_apart_4 0 rfl rfl)
theorem dX7_apart_97 : decode cX7_apart 97 = .ok (.invokevirtual 192, 3) := dk_182 0 192 (dk_at dksX7_apart_4 1 rfl rfl)
theorem dX7_apart_100 : decode cX7_apart 100 = .ok (.iload_n 3, 1) := dk_29 (dk_at dksX7_apart_4 4 rfl rfl)
theorem dX7_apart_101 : decode cX7_apart 101 = .ok (.ixor, 1) := dk_130 (dk_at dksX7_apart_4 5 rfl rfl)
theorem dX7_apart_102 : decode cX7_apart 102 = .ok (.invokestatic 195, 3) := dk_184 0 195 (dk_at dksX7_apart_4 6 rfl rfl)
theorem dX7_apart_105 : decode cX7_apart 105 = .ok (.istore 6, 2) := dk_54 6 (dk_at dksX7_apart_4 9 rfl rfl)
theorem dX7_apart_107 : decode cX7_apart 107 = .ok (.iload 6, 2) := dk_21 6 (dk_at dksX7_apart_4 11 rfl rfl)
theorem dX7_apart_109 : decode cX7_apart 109 = .ok (.iload 4, 2) := dk_21 4 (dk_at dksX7_apart_4 13 rfl rfl)
theorem dX7_apart_111 : decode cX7_apart 111 = .ok (.if_icmp .ge 8, 3) := dk_162 0 8 (dk_at dksX7_apart_4 15 rfl rfl)
theorem dX7_apart_114 : decode cX7_apart 114 = .ok (.iload 6, 2) := dk_21 6 (dk_at dksX7_apart_4 18 rfl rfl)
theorem dX7_apart_116 : decode cX7_apart 116 = .ok (.goto 5, 3) := dk_167 0 5 (dk_at dksX7_apart_4 20 rfl rfl)
theorem dX7_apart_119 : decode cX7_apart 119 = .ok (.iload 4, 2) := dk_21 4 (dk_at dksX7_apart_5 0 rfl rfl)
theorem dX7_apart_121 : decode cX7_apart 121 = .ok (.istore 4, 2) := dk_54 4 (dk_at dksX7_apart_5 2 rfl rfl)
theorem dX7_apart_123 : decode cX7_apart 123 = .ok (.iinc 5 1, 3) := dk_132 5 1 (dk_at dksX7_apart_5 4 rfl rfl)
theorem dX7_apart_126 : decode cX7_apart 126 = .ok (.goto (-47), 3) := dk_167 255 209 (dk_at dksX7_apart_5 7 rfl rfl)
theorem dX7_apart_129 : decode cX7_apart 129 = .ok (.iload 4, 2) := dk_21 4 (dk_at dksX7_apart_5 10 rfl rfl)
theorem dX7_apart_131 : decode cX7_apart 131 = .ok (.ireturn, 1) := dk_172 (dk_at dksX7_apart_5 12 rfl rfl)
abbrev cX7_canTell : ByteArray := prog_33_method_67_code
def yX7_canTell : MethodName := ⟨RX7, "canTell", "()Z"⟩
def dkwX7_canTell_0 : List UInt8 := [42, 182, 0, 157, 42, 182, 0, 171, 16, 12, 163, 0, 7, 4, 167, 0, 4, 3, 172]
abbrev dktX7_canTell_0 : List UInt8 := dkwX7_canTell_0 ++ []
theorem dksX7_canTell_0 : cX7_canTell.data.toList.drop 0 = dktX7_canTell_0 := by decide +kernel
theorem dX7_canTell_0 : decode cX7_canTell 0 = .ok (.aload_n 0, 1) := dk_42 (dk_at dksX7_canTell_0 0 rfl rfl)
theorem dX7_canTell_1 : decode cX7_canTell 1 = .ok (.invokevirtual 157, 3) := dk_182 0 157 (dk_at dksX7_canTell_0 1 rfl rfl)
theorem dX7_canTell_4 : decode cX7_canTell 4 = .ok (.aload_n 0, 1) := dk_42 (dk_at dksX7_canTell_0 4 rfl rfl)
theorem dX7_canTell_5 : decode cX7_canTell 5 = .ok (.invokevirtual 171, 3) := dk_182 0 171 (dk_at dksX7_canTell_0 5 rfl rfl)
theorem dX7_canTell_8 : decode cX7_canTell 8 = .ok (.bipush 12, 2) := dk_16 12 (dk_at dksX7_canTell_0 8 rfl rfl)
theorem dX7_canTell_10 : decode cX7_canTell 10 = .ok (.if_icmp .gt 7, 3) := dk_163 0 7 (dk_at dksX7_canTell_0 10 rfl rfl)
theorem dX7_canTell_13 : decode cX7_canTell 13 = .ok (.iconst 1, 1) := dk_4 (dk_at dksX7_canTell_0 13 rfl rfl)
theorem dX7_canTell_14 : decode cX7_canTell 14 = .ok (.goto 4, 3) := dk_167 0 4 (dk_at dksX7_canTell_0 14 rfl rfl)
theorem dX7_canTell_17 : decode cX7_canTell 17 = .ok (.iconst 0, 1) := dk_3 (dk_at dksX7_canTell_0 17 rfl rfl)
theorem dX7_canTell_18 : decode cX7_canTell 18 = .ok (.ireturn, 1) := dk_172 (dk_at dksX7_canTell_0 18 rfl rfl)
abbrev cX7_numberOfWorld : ByteArray := prog_33_method_65_code
def yX7_numberOfWorld : MethodName := ⟨RX7, "numberOfWorld", "()I"⟩
def dkwX7_numberOfWorld_1 : List UInt8 := [153, 0, 7, 4, 167, 0, 4, 3, 96, 61, 132, 3, 1, 167, 255, 229, 28, 172]
abbrev dktX7_numberOfWorld_1 : List UInt8 := dkwX7_numberOfWorld_1 ++ []
def dkwX7_numberOfWorld_0 : List UInt8 := [42, 182, 0, 171, 60, 3, 61, 3, 62, 29, 27, 162, 0, 28, 5, 28, 104, 42, 180, 0, 41, 29, 51]
abbrev dktX7_numberOfWorld_0 : List UInt8 := dkwX7_numberOfWorld_0 ++ dktX7_numberOfWorld_1
theorem dksX7_numberOfWorld_0 : cX7_numberOfWorld.data.toList.drop 0 = dktX7_numberOfWorld_0 := by decide +kernel
theorem dksX7_numberOfWorld_1 : cX7_numberOfWorld.data.toList.drop 23 = dktX7_numberOfWorld_1 := dk_seg dksX7_numberOfWorld_0 23 rfl rfl
theorem dX7_numberOfWorld_0 : decode cX7_numberOfWorld 0 = .ok (.aload_n 0, 1) := dk_42 (dk_at dksX7_numberOfWorld_0 0 rfl rfl)
theorem dX7_numberOfWorld_1 : decode cX7_numberOfWorld 1 = .ok (.invokevirtual 171, 3) := dk_182 0 171 (dk_at dksX7_numberOfWorld_0 1 rfl rfl)
theorem dX7_numberOfWorld_4 : decode cX7_numberOfWorld 4 = .ok (.istore_n 1, 1) := dk_60 (dk_at dksX7_numberOfWorld_0 4 rfl rfl)
theorem dX7_numberOfWorld_5 : decode cX7_numberOfWorld 5 = .ok (.iconst 0, 1) := dk_3 (dk_at dksX7_numberOfWorld_0 5 rfl rfl)
theorem dX7_numberOfWorld_6 : decode cX7_numberOfWorld 6 = .ok (.istore_n 2, 1) := dk_61 (dk_at dksX7_numberOfWorld_0 6 rfl rfl)
theorem dX7_numberOfWorld_7 : decode cX7_numberOfWorld 7 = .ok (.iconst 0, 1) := dk_3 (dk_at dksX7_numberOfWorld_0 7 rfl rfl)
theorem dX7_numberOfWorld_8 : decode cX7_numberOfWorld 8 = .ok (.istore_n 3, 1) := dk_62 (dk_at dksX7_numberOfWorld_0 8 rfl rfl)
theorem dX7_numberOfWorld_9 : decode cX7_numberOfWorld 9 = .ok (.iload_n 3, 1) := dk_29 (dk_at dksX7_numberOfWorld_0 9 rfl rfl)
theorem dX7_numberOfWorld_10 : decode cX7_numberOfWorld 10 = .ok (.iload_n 1, 1) := dk_27 (dk_at dksX7_numberOfWorld_0 10 rfl rfl)
theorem dX7_numberOfWorld_11 : decode cX7_numberOfWorld 11 = .ok (.if_icmp .ge 28, 3) := dk_162 0 28 (dk_at dksX7_numberOfWorld_0 11 rfl rfl)
theorem dX7_numberOfWorld_14 : decode cX7_numberOfWorld 14 = .ok (.iconst 2, 1) := dk_5 (dk_at dksX7_numberOfWorld_0 14 rfl rfl)
theorem dX7_numberOfWorld_15 : decode cX7_numberOfWorld 15 = .ok (.iload_n 2, 1) := dk_28 (dk_at dksX7_numberOfWorld_0 15 rfl rfl)
theorem dX7_numberOfWorld_16 : decode cX7_numberOfWorld 16 = .ok (.imul, 1) := dk_104 (dk_at dksX7_numberOfWorld_0 16 rfl rfl)
theorem dX7_numberOfWorld_17 : decode cX7_numberOfWorld 17 = .ok (.aload_n 0, 1) := dk_42 (dk_at dksX7_numberOfWorld_0 17 rfl rfl)
theorem dX7_numberOfWorld_18 : decode cX7_numberOfWorld 18 = .ok (.getfield 41, 3) := dk_180 0 41 (dk_at dksX7_numberOfWorld_0 18 rfl rfl)
theorem dX7_numberOfWorld_21 : decode cX7_numberOfWorld 21 = .ok (.iload_n 3, 1) := dk_29 (dk_at dksX7_numberOfWorld_0 21 rfl rfl)
theorem dX7_numberOfWorld_22 : decode cX7_numberOfWorld 22 = .ok (.baload, 1) := dk_51 (dk_at dksX7_numberOfWorld_0 22 rfl rfl)
theorem dX7_numberOfWorld_23 : decode cX7_numberOfWorld 23 = .ok (.ifCond .eq 7, 3) := dk_153 0 7 (dk_at dksX7_numberOfWorld_1 0 rfl rfl)
theorem dX7_numberOfWorld_26 : decode cX7_numberOfWorld 26 = .ok (.iconst 1, 1) := dk_4 (dk_at dksX7_numberOfWorld_1 3 rfl rfl)
theorem dX7_numberOfWorld_27 : decode cX7_numberOfWorld 27 = .ok (.goto 4, 3) := dk_167 0 4 (dk_at dksX7_numberOfWorld_1 4 rfl rfl)
theorem dX7_numberOfWorld_30 : decode cX7_numberOfWorld 30 = .ok (.iconst 0, 1) := dk_3 (dk_at dksX7_numberOfWorld_1 7 rfl rfl)
theorem dX7_numberOfWorld_31 : decode cX7_numberOfWorld 31 = .ok (.iadd, 1) := dk_96 (dk_at dksX7_numberOfWorld_1 8 rfl rfl)
theorem dX7_numberOfWorld_32 : decode cX7_numberOfWorld 32 = .ok (.istore_n 2, 1) := dk_61 (dk_at dksX7_numberOfWorld_1 9 rfl rfl)
theorem dX7_numberOfWorld_33 : decode cX7_numberOfWorld 33 = .ok (.iinc 3 1, 3) := dk_132 3 1 (dk_at dksX7_numberOfWorld_1 10 rfl rfl)
theorem dX7_numberOfWorld_36 : decode cX7_numberOfWorld 36 = .ok (.goto (-27), 3) := dk_167 255 229 (dk_at dksX7_numberOfWorld_1 13 rfl rfl)
theorem dX7_numberOfWorld_39 : decode cX7_numberOfWorld 39 = .ok (.iload_n 2, 1) := dk_28 (dk_at dksX7_numberOfWorld_1 16 rfl rfl)
theorem dX7_numberOfWorld_40 : decode cX7_numberOfWorld 40 = .ok (.ireturn, 1) := dk_172 (dk_at dksX7_numberOfWorld_1 17 rfl rfl)
abbrev cX7_takeOrders : ByteArray := prog_33_method_76_code
def yX7_takeOrders : MethodName := ⟨RX7, "takeOrders", "(I)Z"⟩
def dkwX7_takeOrders_3 : List UInt8 := [180, 0, 117, 5, 46, 42, 180, 0, 87, 5, 46, 184, 1, 145, 153, 0, 7, 4, 167, 0, 4, 3, 172]
abbrev dktX7_takeOrders_3 : List UInt8 := dkwX7_takeOrders_3 ++ []
def dkwX7_takeOrders_2 : List UInt8 := [153, 0, 43, 42, 180, 0, 117, 4, 46, 42, 180, 0, 87, 4, 46, 184, 1, 145, 153, 0, 25, 42]
abbrev dktX7_takeOrders_2 : List UInt8 := dkwX7_takeOrders_2 ++ dktX7_takeOrders_3
def dkwX7_takeOrders_1 : List UInt8 := [180, 0, 117, 5, 27, 16, 6, 112, 79, 42, 180, 0, 117, 3, 46, 42, 180, 0, 87, 3, 46, 184, 1, 145]
abbrev dktX7_takeOrders_1 : List UInt8 := dkwX7_takeOrders_1 ++ dktX7_takeOrders_2
def dkwX7_takeOrders_0 : List UInt8 := [42, 180, 0, 117, 3, 27, 16, 36, 108, 79, 42, 180, 0, 117, 4, 27, 16, 6, 108, 16, 6, 112, 79, 42]
abbrev dktX7_takeOrders_0 : List UInt8 := dkwX7_takeOrders_0 ++ dktX7_takeOrders_1
theorem dksX7_takeOrders_0 : cX7_takeOrders.data.toList.drop 0 = dktX7_takeOrders_0 := by decide +kernel
theorem dksX7_takeOrders_1 : cX7_takeOrders.data.toList.drop 24 = dktX7_takeOrders_1 := dk_seg dksX7_takeOrders_0 24 rfl rfl
theorem dksX7_takeOrders_2 : cX7_takeOrders.data.toList.drop 48 = dktX7_takeOrders_2 := dk_seg dksX7_takeOrders_1 24 rfl rfl
theorem dksX7_takeOrders_3 : cX7_takeOrders.data.toList.drop 70 = dktX7_takeOrders_3 := dk_seg dksX7_takeOrders_2 22 rfl rfl
theorem dX7_takeOrders_0 : decode cX7_takeOrders 0 = .ok (.aload_n 0, 1) := dk_42 (dk_at dksX7_takeOrders_0 0 rfl rfl)
theorem dX7_takeOrders_1 : decode cX7_takeOrders 1 = .ok (.getfield 117, 3) := dk_180 0 117 (dk_at dksX7_takeOrders_0 1 rfl rfl)
theorem dX7_takeOrders_4 : decode cX7_takeOrders 4 = .ok (.iconst 0, 1) := dk_3 (dk_at dksX7_takeOrders_0 4 rfl rfl)
theorem dX7_takeOrders_5 : decode cX7_takeOrders 5 = .ok (.iload_n 1, 1) := dk_27 (dk_at dksX7_takeOrders_0 5 rfl rfl)
theorem dX7_takeOrders_6 : decode cX7_takeOrders 6 = .ok (.bipush 36, 2) := dk_16 36 (dk_at dksX7_takeOrders_0 6 rfl rfl)
theorem dX7_takeOrders_8 : decode cX7_takeOrders 8 = .ok (.idiv, 1) := dk_108 (dk_at dksX7_takeOrders_0 8 rfl rfl)
theorem dX7_takeOrders_9 : decode cX7_takeOrders 9 = .ok (.iastore, 1) := dk_79 (dk_at dksX7_takeOrders_0 9 rfl rfl)
theorem dX7_takeOrders_10 : decode cX7_takeOrders 10 = .ok (.aload_n 0, 1) := dk_42 (dk_at dksX7_takeOrders_0 10 rfl rfl)
theorem dX7_takeOrders_11 : decode cX7_takeOrders 11 = .ok (.getfield 117, 3) := dk_180 0 117 (dk_at dksX7_takeOrders_0 11 rfl rfl)
theorem dX7_takeOrders_14 : decode cX7_takeOrders 14 = .ok (.iconst 1, 1) := dk_4 (dk_at dksX7_takeOrders_0 14 rfl rfl)
theorem dX7_takeOrders_15 : decode cX7_takeOrders 15 = .ok (.iload_n 1, 1) := dk_27 (dk_at dksX7_takeOrders_0 15 rfl rfl)
theorem dX7_takeOrders_16 : decode cX7_takeOrders 16 = .ok (.bipush 6, 2) := dk_16 6 (dk_at dksX7_takeOrders_0 16 rfl rfl)
theorem dX7_takeOrders_18 : decode cX7_takeOrders 18 = .ok (.idiv, 1) := dk_108 (dk_at dksX7_takeOrders_0 18 rfl rfl)
theorem dX7_takeOrders_19 : decode cX7_takeOrders 19 = .ok (.bipush 6, 2) := dk_16 6 (dk_at dksX7_takeOrders_0 19 rfl rfl)
theorem dX7_takeOrders_21 : decode cX7_takeOrders 21 = .ok (.irem, 1) := dk_112 (dk_at dksX7_takeOrders_0 21 rfl rfl)
theorem dX7_takeOrders_22 : decode cX7_takeOrders 22 = .ok (.iastore, 1) := dk_79 (dk_at dksX7_takeOrders_0 22 rfl rfl)
theorem dX7_takeOrders_23 : decode cX7_takeOrders 23 = .ok (.aload_n 0, 1) := dk_42 (dk_at dksX7_takeOrders_0 23 rfl rfl)
theorem dX7_takeOrders_24 : decode cX7_takeOrders 24 = .ok (.getfield 117, 3) := dk_180 0 117 (dk_at dksX7_takeOrders_1 0 rfl rfl)
theorem dX7_takeOrders_27 : decode cX7_takeOrders 27 = .ok (.iconst 2, 1) := dk_5 (dk_at dksX7_takeOrders_1 3 rfl rfl)
theorem dX7_takeOrders_28 : decode cX7_takeOrders 28 = .ok (.iload_n 1, 1) := dk_27 (dk_at dksX7_takeOrders_1 4 rfl rfl)
theorem dX7_takeOrders_29 : decode cX7_takeOrders 29 = .ok (.bipush 6, 2) := dk_16 6 (dk_at dksX7_takeOrders_1 5 rfl rfl)
theorem dX7_takeOrders_31 : decode cX7_takeOrders 31 = .ok (.irem, 1) := dk_112 (dk_at dksX7_takeOrders_1 7 rfl rfl)
theorem dX7_takeOrders_32 : decode cX7_takeOrders 32 = .ok (.iastore, 1) := dk_79 (dk_at dksX7_takeOrders_1 8 rfl rfl)
theorem dX7_takeOrders_33 : decode cX7_takeOrders 33 = .ok (.aload_n 0, 1) := dk_42 (dk_at dksX7_takeOrders_1 9 rfl rfl)
theorem dX7_takeOrders_34 : decode cX7_takeOrders 34 = .ok (.getfield 117, 3) := dk_180 0 117 (dk_at dksX7_takeOrders_1 10 rfl rfl)
theorem dX7_takeOrders_37 : decode cX7_takeOrders 37 = .ok (.iconst 0, 1) := dk_3 (dk_at dksX7_takeOrders_1 13 rfl rfl)
theorem dX7_takeOrders_38 : decode cX7_takeOrders 38 = .ok (.iaload, 1) := dk_46 (dk_at dksX7_takeOrders_1 14 rfl rfl)
theorem dX7_takeOrders_39 : decode cX7_takeOrders 39 = .ok (.aload_n 0, 1) := dk_42 (dk_at dksX7_takeOrders_1 15 rfl rfl)
theorem dX7_takeOrders_40 : decode cX7_takeOrders 40 = .ok (.getfield 87, 3) := dk_180 0 87 (dk_at dksX7_takeOrders_1 16 rfl rfl)
theorem dX7_takeOrders_43 : decode cX7_takeOrders 43 = .ok (.iconst 0, 1) := dk_3 (dk_at dksX7_takeOrders_1 19 rfl rfl)
theorem dX7_takeOrders_44 : decode cX7_takeOrders 44 = .ok (.iaload, 1) := dk_46 (dk_at dksX7_takeOrders_1 20 rfl rfl)
theorem dX7_takeOrders_45 : decode cX7_takeOrders 45 = .ok (.invokestatic 401, 3) := dk_184 1 145 (dk_at dksX7_takeOrders_1 21 rfl rfl)
theorem dX7_takeOrders_48 : decode cX7_takeOrders 48 = .ok (.ifCond .eq 43, 3) := dk_153 0 43 (dk_at dksX7_takeOrders_2 0 rfl rfl)
theorem dX7_takeOrders_51 : decode cX7_takeOrders 51 = .ok (.aload_n 0, 1) := dk_42 (dk_at dksX7_takeOrders_2 3 rfl rfl)
theorem dX7_takeOrders_52 : decode cX7_takeOrders 52 = .ok (.getfield 117, 3) := dk_180 0 117 (dk_at dksX7_takeOrders_2 4 rfl rfl)
theorem dX7_takeOrders_55 : decode cX7_takeOrders 55 = .ok (.iconst 1, 1) := dk_4 (dk_at dksX7_takeOrders_2 7 rfl rfl)
theorem dX7_takeOrders_56 : decode cX7_takeOrders 56 = .ok (.iaload, 1) := dk_46 (dk_at dksX7_takeOrders_2 8 rfl rfl)
theorem dX7_takeOrders_57 : decode cX7_takeOrders 57 = .ok (.aload_n 0, 1) := dk_42 (dk_at dksX7_takeOrders_2 9 rfl rfl)
theorem dX7_takeOrders_58 : decode cX7_takeOrders 58 = .ok (.getfield 87, 3) := dk_180 0 87 (dk_at dksX7_takeOrders_2 10 rfl rfl)
theorem dX7_takeOrders_61 : decode cX7_takeOrders 61 = .ok (.iconst 1, 1) := dk_4 (dk_at dksX7_takeOrders_2 13 rfl rfl)
theorem dX7_takeOrders_62 : decode cX7_takeOrders 62 = .ok (.iaload, 1) := dk_46 (dk_at dksX7_takeOrders_2 14 rfl rfl)
theorem dX7_takeOrders_63 : decode cX7_takeOrders 63 = .ok (.invokestatic 401, 3) := dk_184 1 145 (dk_at dksX7_takeOrders_2 15 rfl rfl)
theorem dX7_takeOrders_66 : decode cX7_takeOrders 66 = .ok (.ifCond .eq 25, 3) := dk_153 0 25 (dk_at dksX7_takeOrders_2 18 rfl rfl)
theorem dX7_takeOrders_69 : decode cX7_takeOrders 69 = .ok (.aload_n 0, 1) := dk_42 (dk_at dksX7_takeOrders_2 21 rfl rfl)
theorem dX7_takeOrders_70 : decode cX7_takeOrders 70 = .ok (.getfield 117, 3) := dk_180 0 117 (dk_at dksX7_takeOrders_3 0 rfl rfl)
theorem dX7_takeOrders_73 : decode cX7_takeOrders 73 = .ok (.iconst 2, 1) := dk_5 (dk_at dksX7_takeOrders_3 3 rfl rfl)
theorem dX7_takeOrders_74 : decode cX7_takeOrders 74 = .ok (.iaload, 1) := dk_46 (dk_at dksX7_takeOrders_3 4 rfl rfl)
theorem dX7_takeOrders_75 : decode cX7_takeOrders 75 = .ok (.aload_n 0, 1) := dk_42 (dk_at dksX7_takeOrders_3 5 rfl rfl)
theorem dX7_takeOrders_76 : decode cX7_takeOrders 76 = .ok (.getfield 87, 3) := dk_180 0 87 (dk_at dksX7_takeOrders_3 6 rfl rfl)
theorem dX7_takeOrders_79 : decode cX7_takeOrders 79 = .ok (.iconst 2, 1) := dk_5 (dk_at dksX7_takeOrders_3 9 rfl rfl)
theorem dX7_takeOrders_80 : decode cX7_takeOrders 80 = .ok (.iaload, 1) := dk_46 (dk_at dksX7_takeOrders_3 10 rfl rfl)
theorem dX7_takeOrders_81 : decode cX7_takeOrders 81 = .ok (.invokestatic 401, 3) := dk_184 1 145 (dk_at dksX7_takeOrders_3 11 rfl rfl)
theorem dX7_takeOrders_84 : decode cX7_takeOrders 84 = .ok (.ifCond .eq 7, 3) := dk_153 0 7 (dk_at dksX7_takeOrders_3 14 rfl rfl)
theorem dX7_takeOrders_87 : decode cX7_takeOrders 87 = .ok (.iconst 1, 1) := dk_4 (dk_at dksX7_takeOrders_3 17 rfl rfl)
theorem dX7_takeOrders_88 : decode cX7_takeOrders 88 = .ok (.goto 4, 3) := dk_167 0 4 (dk_at dksX7_takeOrders_3 18 rfl rfl)
theorem dX7_takeOrders_91 : decode cX7_takeOrders 91 = .ok (.iconst 0, 1) := dk_3 (dk_at dksX7_takeOrders_3 21 rfl rfl)
theorem dX7_takeOrders_92 : decode cX7_takeOrders 92 = .ok (.ireturn, 1) := dk_172 (dk_at dksX7_takeOrders_3 22 rfl rfl)
abbrev cX7_isOrder : ByteArray := prog_33_method_73_code
def yX7_isOrder : MethodName := ⟨RX7, "isOrder", "(II)Z"⟩
def dkwX7_isOrder_1 : List UInt8 := [26, 28, 184, 1, 139, 28, 159, 0, 5, 3, 172, 132, 2, 1, 167, 255, 220, 4, 172]
abbrev dktX7_isOrder_1 : List UInt8 := dkwX7_isOrder_1 ++ []
def dkwX7_isOrder_0 : List UInt8 := [3, 61, 28, 6, 162, 0, 37, 28, 27, 162, 0, 15, 26, 28, 184, 1, 139, 27, 161, 0, 17, 167, 0, 12]
abbrev dktX7_isOrder_0 : List UInt8 := dkwX7_isOrder_0 ++ dktX7_isOrder_1
theorem dksX7_isOrder_0 : cX7_isOrder.data.toList.drop 0 = dktX7_isOrder_0 := by decide +kernel
theorem dksX7_isOrder_1 : cX7_isOrder.data.toList.drop 24 = dktX7_isOrder_1 := dk_seg dksX7_isOrder_0 24 rfl rfl
theorem dX7_isOrder_0 : decode cX7_isOrder 0 = .ok (.iconst 0, 1) := dk_3 (dk_at dksX7_isOrder_0 0 rfl rfl)
theorem dX7_isOrder_1 : decode cX7_isOrder 1 = .ok (.istore_n 2, 1) := dk_61 (dk_at dksX7_isOrder_0 1 rfl rfl)
theorem dX7_isOrder_2 : decode cX7_isOrder 2 = .ok (.iload_n 2, 1) := dk_28 (dk_at dksX7_isOrder_0 2 rfl rfl)
theorem dX7_isOrder_3 : decode cX7_isOrder 3 = .ok (.iconst 3, 1) := dk_6 (dk_at dksX7_isOrder_0 3 rfl rfl)
theorem dX7_isOrder_4 : decode cX7_isOrder 4 = .ok (.if_icmp .ge 37, 3) := dk_162 0 37 (dk_at dksX7_isOrder_0 4 rfl rfl)
theorem dX7_isOrder_7 : decode cX7_isOrder 7 = .ok (.iload_n 2, 1) := dk_28 (dk_at dksX7_isOrder_0 7 rfl rfl)
theorem dX7_isOrder_8 : decode cX7_isOrder 8 = .ok (.iload_n 1, 1) := dk_27 (dk_at dksX7_isOrder_0 8 rfl rfl)
theorem dX7_isOrder_9 : decode cX7_isOrder 9 = .ok (.if_icmp .ge 15, 3) := dk_162 0 15 (dk_at dksX7_isOrder_0 9 rfl rfl)
theorem dX7_isOrder_12 : decode cX7_isOrder 12 = .ok (.iload_n 0, 1) := dk_26 (dk_at dksX7_isOrder_0 12 rfl rfl)
theorem dX7_isOrder_13 : decode cX7_isOrder 13 = .ok (.iload_n 2, 1) := dk_28 (dk_at dksX7_isOrder_0 13 rfl rfl)
theorem dX7_isOrder_14 : decode cX7_isOrder 14 = .ok (.invokestatic 395, 3) := dk_184 1 139 (dk_at dksX7_isOrder_0 14 rfl rfl)
theorem dX7_isOrder_17 : decode cX7_isOrder 17 = .ok (.iload_n 1, 1) := dk_27 (dk_at dksX7_isOrder_0 17 rfl rfl)
theorem dX7_isOrder_18 : decode cX7_isOrder 18 = .ok (.if_icmp .lt 17, 3) := dk_161 0 17 (dk_at dksX7_isOrder_0 18 rfl rfl)
theorem dX7_isOrder_21 : decode cX7_isOrder 21 = .ok (.goto 12, 3) := dk_167 0 12 (dk_at dksX7_isOrder_0 21 rfl rfl)
theorem dX7_isOrder_24 : decode cX7_isOrder 24 = .ok (.iload_n 0, 1) := dk_26 (dk_at dksX7_isOrder_1 0 rfl rfl)
theorem dX7_isOrder_25 : decode cX7_isOrder 25 = .ok (.iload_n 2, 1) := dk_28 (dk_at dksX7_isOrder_1 1 rfl rfl)
theorem dX7_isOrder_26 : decode cX7_isOrder 26 = .ok (.invokestatic 395, 3) := dk_184 1 139 (dk_at dksX7_isOrder_1 2 rfl rfl)
theorem dX7_isOrder_29 : decode cX7_isOrder 29 = .ok (.iload_n 2, 1) := dk_28 (dk_at dksX7_isOrder_1 5 rfl rfl)
theorem dX7_isOrder_30 : decode cX7_isOrder 30 = .ok (.if_icmp .eq 5, 3) := dk_159 0 5 (dk_at dksX7_isOrder_1 6 rfl rfl)
theorem dX7_isOrder_33 : decode cX7_isOrder 33 = .ok (.iconst 0, 1) := dk_3 (dk_at dksX7_isOrder_1 9 rfl rfl)
theorem dX7_isOrder_34 : decode cX7_isOrder 34 = .ok (.ireturn, 1) := dk_172 (dk_at dksX7_isOrder_1 10 rfl rfl)
theorem dX7_isOrder_35 : decode cX7_isOrder 35 = .ok (.iinc 2 1, 3) := dk_132 2 1 (dk_at dksX7_isOrder_1 11 rfl rfl)
theorem dX7_isOrder_38 : decode cX7_isOrder 38 = .ok (.goto (-36), 3) := dk_167 255 220 (dk_at dksX7_isOrder_1 14 rfl rfl)
theorem dX7_isOrder_41 : decode cX7_isOrder 41 = .ok (.iconst 1, 1) := dk_4 (dk_at dksX7_isOrder_1 17 rfl rfl)
theorem dX7_isOrder_42 : decode cX7_isOrder 42 = .ok (.ireturn, 1) := dk_172 (dk_at dksX7_isOrder_1 18 rfl rfl)
abbrev cX7_inOrder : ByteArray := prog_33_method_72_code
def yX7_inOrder : MethodName := ⟨RX7, "inOrder", "(II)I"⟩
def dkwX7_inOrder_2 : List UInt8 := [167, 0, 8, 6, 28, 100, 29, 100, 172]
abbrev dktX7_inOrder_2 : List UInt8 := dkwX7_inOrder_2 ++ []
def dkwX7_inOrder_1 : List UInt8 := [160, 0, 7, 4, 167, 0, 4, 5, 62, 27, 154, 0, 7, 28, 167, 0, 17, 27, 4, 160, 0, 7, 29]
abbrev dktX7_inOrder_1 : List UInt8 := dkwX7_inOrder_1 ++ dktX7_inOrder_2
def dkwX7_inOrder_0 : List UInt8 := [26, 5, 108, 61, 26, 5, 112, 154, 0, 15, 28, 154, 0, 7, 4, 167, 0, 17, 3, 167, 0, 13, 28, 5]
abbrev dktX7_inOrder_0 : List UInt8 := dkwX7_inOrder_0 ++ dktX7_inOrder_1
theorem dksX7_inOrder_0 : cX7_inOrder.data.toList.drop 0 = dktX7_inOrder_0 := by decide +kernel
theorem dksX7_inOrder_1 : cX7_inOrder.data.toList.drop 24 = dktX7_inOrder_1 := dk_seg dksX7_inOrder_0 24 rfl rfl
theorem dksX7_inOrder_2 : cX7_inOrder.data.toList.drop 47 = dktX7_inOrder_2 := dk_seg dksX7_inOrder_1 23 rfl rfl
theorem dX7_inOrder_0 : decode cX7_inOrder 0 = .ok (.iload_n 0, 1) := dk_26 (dk_at dksX7_inOrder_0 0 rfl rfl)
theorem dX7_inOrder_1 : decode cX7_inOrder 1 = .ok (.iconst 2, 1) := dk_5 (dk_at dksX7_inOrder_0 1 rfl rfl)
theorem dX7_inOrder_2 : decode cX7_inOrder 2 = .ok (.idiv, 1) := dk_108 (dk_at dksX7_inOrder_0 2 rfl rfl)
theorem dX7_inOrder_3 : decode cX7_inOrder 3 = .ok (.istore_n 2, 1) := dk_61 (dk_at dksX7_inOrder_0 3 rfl rfl)
theorem dX7_inOrder_4 : decode cX7_inOrder 4 = .ok (.iload_n 0, 1) := dk_26 (dk_at dksX7_inOrder_0 4 rfl rfl)
theorem dX7_inOrder_5 : decode cX7_inOrder 5 = .ok (.iconst 2, 1) := dk_5 (dk_at dksX7_inOrder_0 5 rfl rfl)
theorem dX7_inOrder_6 : decode cX7_inOrder 6 = .ok (.irem, 1) := dk_112 (dk_at dksX7_inOrder_0 6 rfl rfl)
theorem dX7_inOrder_7 : decode cX7_inOrder 7 = .ok (.ifCond .ne 15, 3) := dk_154 0 15 (dk_at dksX7_inOrder_0 7 rfl rfl)
theorem dX7_inOrder_10 : decode cX7_inOrder 10 = .ok (.iload_n 2, 1) := dk_28 (dk_at dksX7_inOrder_0 10 rfl rfl)
theorem dX7_inOrder_11 : decode cX7_inOrder 11 = .ok (.ifCond .ne 7, 3) := dk_154 0 7 (dk_at dksX7_inOrder_0 11 rfl rfl)
theorem dX7_inOrder_14 : decode cX7_inOrder 14 = .ok (.iconst 1, 1) := dk_4 (dk_at dksX7_inOrder_0 14 rfl rfl)
theorem dX7_inOrder_15 : decode cX7_inOrder 15 = .ok (.goto 17, 3) := dk_167 0 17 (dk_at dksX7_inOrder_0 15 rfl rfl)
theorem dX7_inOrder_18 : decode cX7_inOrder 18 = .ok (.iconst 0, 1) := dk_3 (dk_at dksX7_inOrder_0 18 rfl rfl)
theorem dX7_inOrder_19 : decode cX7_inOrder 19 = .ok (.goto 13, 3) := dk_167 0 13 (dk_at dksX7_inOrder_0 19 rfl rfl)
theorem dX7_inOrder_22 : decode cX7_inOrder 22 = .ok (.iload_n 2, 1) := dk_28 (dk_at dksX7_inOrder_0 22 rfl rfl)
theorem dX7_inOrder_23 : decode cX7_inOrder 23 = .ok (.iconst 2, 1) := dk_5 (dk_at dksX7_inOrder_0 23 rfl rfl)
theorem dX7_inOrder_24 : decode cX7_inOrder 24 = .ok (.if_icmp .ne 7, 3) := dk_160 0 7 (dk_at dksX7_inOrder_1 0 rfl rfl)
theorem dX7_inOrder_27 : decode cX7_inOrder 27 = .ok (.iconst 1, 1) := dk_4 (dk_at dksX7_inOrder_1 3 rfl rfl)
theorem dX7_inOrder_28 : decode cX7_inOrder 28 = .ok (.goto 4, 3) := dk_167 0 4 (dk_at dksX7_inOrder_1 4 rfl rfl)
theorem dX7_inOrder_31 : decode cX7_inOrder 31 = .ok (.iconst 2, 1) := dk_5 (dk_at dksX7_inOrder_1 7 rfl rfl)
theorem dX7_inOrder_32 : decode cX7_inOrder 32 = .ok (.istore_n 3, 1) := dk_62 (dk_at dksX7_inOrder_1 8 rfl rfl)
theorem dX7_inOrder_33 : decode cX7_inOrder 33 = .ok (.iload_n 1, 1) := dk_27 (dk_at dksX7_inOrder_1 9 rfl rfl)
theorem dX7_inOrder_34 : decode cX7_inOrder 34 = .ok (.ifCond .ne 7, 3) := dk_154 0 7 (dk_at dksX7_inOrder_1 10 rfl rfl)
theorem dX7_inOrder_37 : decode cX7_inOrder 37 = .ok (.iload_n 2, 1) := dk_28 (dk_at dksX7_inOrder_1 13 rfl rfl)
theorem dX7_inOrder_38 : decode cX7_inOrder 38 = .ok (.goto 17, 3) := dk_167 0 17 (dk_at dksX7_inOrder_1 14 rfl rfl)
theorem dX7_inOrder_41 : decode cX7_inOrder 41 = .ok (.iload_n 1, 1) := dk_27 (dk_at dksX7_inOrder_1 17 rfl rfl)
theorem dX7_inOrder_42 : decode cX7_inOrder 42 = .ok (.iconst 1, 1) := dk_4 (dk_at dksX7_inOrder_1 18 rfl rfl)
theorem dX7_inOrder_43 : decode cX7_inOrder 43 = .ok (.if_icmp .ne 7, 3) := dk_160 0 7 (dk_at dksX7_inOrder_1 19 rfl rfl)
theorem dX7_inOrder_46 : decode cX7_inOrder 46 = .ok (.iload_n 3, 1) := dk_29 (dk_at dksX7_inOrder_1 22 rfl rfl)
theorem dX7_inOrder_47 : decode cX7_inOrder 47 = .ok (.goto 8, 3) := dk_167 0 8 (dk_at dksX7_inOrder_2 0 rfl rfl)
theorem dX7_inOrder_50 : decode cX7_inOrder 50 = .ok (.iconst 3, 1) := dk_6 (dk_at dksX7_inOrder_2 3 rfl rfl)
theorem dX7_inOrder_51 : decode cX7_inOrder 51 = .ok (.iload_n 2, 1) := dk_28 (dk_at dksX7_inOrder_2 4 rfl rfl)
theorem dX7_inOrder_52 : decode cX7_inOrder 52 = .ok (.isub, 1) := dk_100 (dk_at dksX7_inOrder_2 5 rfl rfl)
theorem dX7_inOrder_53 : decode cX7_inOrder 53 = .ok (.iload_n 3, 1) := dk_29 (dk_at dksX7_inOrder_2 6 rfl rfl)
theorem dX7_inOrder_54 : decode cX7_inOrder 54 = .ok (.isub, 1) := dk_100 (dk_at dksX7_inOrder_2 7 rfl rfl)
theorem dX7_inOrder_55 : decode cX7_inOrder 55 = .ok (.ireturn, 1) := dk_172 (dk_at dksX7_inOrder_2 8 rfl rfl)
abbrev cX7_imageOf : ByteArray := prog_33_method_75_code
def yX7_imageOf : MethodName := ⟨RX7, "imageOf", "()I"⟩
def dkwX7_imageOf_5 : List UInt8 := [21, 6, 100, 120, 167, 0, 4, 3, 128, 61, 132, 5, 1, 167, 255, 158, 132, 3, 1, 167, 255, 127, 28, 172]
abbrev dktX7_imageOf_5 : List UInt8 := dkwX7_imageOf_5 ++ []
def dkwX7_imageOf_4 : List UInt8 := [54, 6, 28, 42, 180, 0, 93, 42, 180, 0, 90, 29, 46, 21, 5, 96, 51, 153, 0, 14, 4, 27, 4, 100]
abbrev dktX7_imageOf_4 : List UInt8 := dkwX7_imageOf_4 ++ dktX7_imageOf_5
def dkwX7_imageOf_3 : List UInt8 := [21, 4, 108, 182, 1, 142, 104, 96, 42, 42, 180, 0, 38, 29, 46, 21, 5, 21, 4, 112, 182, 1, 142, 96]
abbrev dktX7_imageOf_3 : List UInt8 := dkwX7_imageOf_3 ++ dktX7_imageOf_4
def dkwX7_imageOf_2 : List UInt8 := [29, 46, 100, 162, 0, 84, 42, 180, 0, 90, 29, 46, 21, 4, 42, 42, 180, 0, 35, 29, 46, 21, 5]
abbrev dktX7_imageOf_2 : List UInt8 := dkwX7_imageOf_2 ++ dktX7_imageOf_3
def dkwX7_imageOf_1 : List UInt8 := [29, 46, 182, 0, 150, 54, 4, 3, 54, 5, 21, 5, 42, 180, 0, 90, 29, 4, 96, 46, 42, 180, 0, 90]
abbrev dktX7_imageOf_1 : List UInt8 := dkwX7_imageOf_1 ++ dktX7_imageOf_2
def dkwX7_imageOf_0 : List UInt8 := [42, 182, 0, 171, 60, 3, 61, 3, 62, 29, 42, 180, 0, 32, 3, 46, 162, 0, 125, 42, 42, 180, 0, 38]
abbrev dktX7_imageOf_0 : List UInt8 := dkwX7_imageOf_0 ++ dktX7_imageOf_1
theorem dksX7_imageOf_0 : cX7_imageOf.data.toList.drop 0 = dktX7_imageOf_0 := by decide +kernel
theorem dksX7_imageOf_1 : cX7_imageOf.data.toList.drop 24 = dktX7_imageOf_1 := dk_seg dksX7_imageOf_0 24 rfl rfl
theorem dksX7_imageOf_2 : cX7_imageOf.data.toList.drop 48 = dktX7_imageOf_2 := dk_seg dksX7_imageOf_1 24 rfl rfl
theorem dksX7_imageOf_3 : cX7_imageOf.data.toList.drop 71 = dktX7_imageOf_3 := dk_seg dksX7_imageOf_2 23 rfl rfl
theorem dksX7_imageOf_4 : cX7_imageOf.data.toList.drop 95 = dktX7_imageOf_4 := dk_seg dksX7_imageOf_3 24 rfl rfl
theorem dksX7_imageOf_5 : cX7_imageOf.data.toList.drop 119 = dktX7_imageOf_5 := dk_seg dksX7_imageOf_4 24 rfl rfl
theorem dX7_imageOf_0 : decode cX7_imageOf 0 = .ok (.aload_n 0, 1) := dk_42 (dk_at dksX7_imageOf_0 0 rfl rfl)
theorem dX7_imageOf_1 : decode cX7_imageOf 1 = .ok (.invokevirtual 171, 3) := dk_182 0 171 (dk_at dksX7_imageOf_0 1 rfl rfl)
theorem dX7_imageOf_4 : decode cX7_imageOf 4 = .ok (.istore_n 1, 1) := dk_60 (dk_at dksX7_imageOf_0 4 rfl rfl)
theorem dX7_imageOf_5 : decode cX7_imageOf 5 = .ok (.iconst 0, 1) := dk_3 (dk_at dksX7_imageOf_0 5 rfl rfl)
theorem dX7_imageOf_6 : decode cX7_imageOf 6 = .ok (.istore_n 2, 1) := dk_61 (dk_at dksX7_imageOf_0 6 rfl rfl)
theorem dX7_imageOf_7 : decode cX7_imageOf 7 = .ok (.iconst 0, 1) := dk_3 (dk_at dksX7_imageOf_0 7 rfl rfl)
theorem dX7_imageOf_8 : decode cX7_imageOf 8 = .ok (.istore_n 3, 1) := dk_62 (dk_at dksX7_imageOf_0 8 rfl rfl)
theorem dX7_imageOf_9 : decode cX7_imageOf 9 = .ok (.iload_n 3, 1) := dk_29 (dk_at dksX7_imageOf_0 9 rfl rfl)
theorem dX7_imageOf_10 : decode cX7_imageOf 10 = .ok (.aload_n 0, 1) := dk_42 (dk_at dksX7_imageOf_0 10 rfl rfl)
theorem dX7_imageOf_11 : decode cX7_imageOf 11 = .ok (.getfield 32, 3) := dk_180 0 32 (dk_at dksX7_imageOf_0 11 rfl rfl)
theorem dX7_imageOf_14 : decode cX7_imageOf 14 = .ok (.iconst 0, 1) := dk_3 (dk_at dksX7_imageOf_0 14 rfl rfl)
theorem dX7_imageOf_15 : decode cX7_imageOf 15 = .ok (.iaload, 1) := dk_46 (dk_at dksX7_imageOf_0 15 rfl rfl)
theorem dX7_imageOf_16 : decode cX7_imageOf 16 = .ok (.if_icmp .ge 125, 3) := dk_162 0 125 (dk_at dksX7_imageOf_0 16 rfl rfl)
theorem dX7_imageOf_19 : decode cX7_imageOf 19 = .ok (.aload_n 0, 1) := dk_42 (dk_at dksX7_imageOf_0 19 rfl rfl)
theorem dX7_imageOf_20 : decode cX7_imageOf 20 = .ok (.aload_n 0, 1) := dk_42 (dk_at dksX7_imageOf_0 20 rfl rfl)
theorem dX7_imageOf_21 : decode cX7_imageOf 21 = .ok (.getfield 38, 3) := dk_180 0 38 (dk_at dksX7_imageOf_0 21 rfl rfl)
theorem dX7_imageOf_24 : decode cX7_imageOf 24 = .ok (.iload_n 3, 1) := dk_29 (dk_at dksX7_imageOf_1 0 rfl rfl)
theorem dX7_imageOf_25 : decode cX7_imageOf 25 = .ok (.iaload, 1) := dk_46 (dk_at dksX7_imageOf_1 1 rfl rfl)
theorem dX7_imageOf_26 : decode cX7_imageOf 26 = .ok (.invokevirtual 150, 3) := dk_182 0 150 (dk_at dksX7_imageOf_1 2 rfl rfl)
theorem dX7_imageOf_29 : decode cX7_imageOf 29 = .ok (.istore 4, 2) := dk_54 4 (dk_at dksX7_imageOf_1 5 rfl rfl)
theorem dX7_imageOf_31 : decode cX7_imageOf 31 = .ok (.iconst 0, 1) := dk_3 (dk_at dksX7_imageOf_1 7 rfl rfl)
theorem dX7_imageOf_32 : decode cX7_imageOf 32 = .ok (.istore 5, 2) := dk_54 5 (dk_at dksX7_imageOf_1 8 rfl rfl)
theorem dX7_imageOf_34 : decode cX7_imageOf 34 = .ok (.iload 5, 2) := dk_21 5 (dk_at dksX7_imageOf_1 10 rfl rfl)
theorem dX7_imageOf_36 : decode cX7_imageOf 36 = .ok (.aload_n 0, 1) := dk_42 (dk_at dksX7_imageOf_1 12 rfl rfl)
theorem dX7_imageOf_37 : decode cX7_imageOf 37 = .ok (.getfield 90, 3) := dk_180 0 90 (dk_at dksX7_imageOf_1 13 rfl rfl)
theorem dX7_imageOf_40 : decode cX7_imageOf 40 = .ok (.iload_n 3, 1) := dk_29 (dk_at dksX7_imageOf_1 16 rfl rfl)
theorem dX7_imageOf_41 : decode cX7_imageOf 41 = .ok (.iconst 1, 1) := dk_4 (dk_at dksX7_imageOf_1 17 rfl rfl)
theorem dX7_imageOf_42 : decode cX7_imageOf 42 = .ok (.iadd, 1) := dk_96 (dk_at dksX7_imageOf_1 18 rfl rfl)
theorem dX7_imageOf_43 : decode cX7_imageOf 43 = .ok (.iaload, 1) := dk_46 (dk_at dksX7_imageOf_1 19 rfl rfl)
theorem dX7_imageOf_44 : decode cX7_imageOf 44 = .ok (.aload_n 0, 1) := dk_42 (dk_at dksX7_imageOf_1 20 rfl rfl)
theorem dX7_imageOf_45 : decode cX7_imageOf 45 = .ok (.getfield 90, 3) := dk_180 0 90 (dk_at dksX7_imageOf_1 21 rfl rfl)
theorem dX7_imageOf_48 : decode cX7_imageOf 48 = .ok (.iload_n 3, 1) := dk_29 (dk_at dksX7_imageOf_2 0 rfl rfl)
theorem dX7_imageOf_49 : decode cX7_imageOf 49 = .ok (.iaload, 1) := dk_46 (dk_at dksX7_imageOf_2 1 rfl rfl)
theorem dX7_imageOf_50 : decode cX7_imageOf 50 = .ok (.isub, 1) := dk_100 (dk_at dksX7_imageOf_2 2 rfl rfl)
theorem dX7_imageOf_51 : decode cX7_imageOf 51 = .ok (.if_icmp .ge 84, 3) := dk_162 0 84 (dk_at dksX7_imageOf_2 3 rfl rfl)
theorem dX7_imageOf_54 : decode cX7_imageOf 54 = .ok (.aload_n 0, 1) := dk_42 (dk_at dksX7_imageOf_2 6 rfl rfl)
theorem dX7_imageOf_55 : decode cX7_imageOf 55 = .ok (.getfield 90, 3) := dk_180 0 90 (dk_at dksX7_imageOf_2 7 rfl rfl)
theorem dX7_imageOf_58 : decode cX7_imageOf 58 = .ok (.iload_n 3, 1) := dk_29 (dk_at dksX7_imageOf_2 10 rfl rfl)
theorem dX7_imageOf_59 : decode cX7_imageOf 59 = .ok (.iaload, 1) := dk_46 (dk_at dksX7_imageOf_2 11 rfl rfl)
theorem dX7_imageOf_60 : decode cX7_imageOf 60 = .ok (.iload 4, 2) := dk_21 4 (dk_at dksX7_imageOf_2 12 rfl rfl)
theorem dX7_imageOf_62 : decode cX7_imageOf 62 = .ok (.aload_n 0, 1) := dk_42 (dk_at dksX7_imageOf_2 14 rfl rfl)
theorem dX7_imageOf_63 : decode cX7_imageOf 63 = .ok (.aload_n 0, 1) := dk_42 (dk_at dksX7_imageOf_2 15 rfl rfl)
theorem dX7_imageOf_64 : decode cX7_imageOf 64 = .ok (.getfield 35, 3) := dk_180 0 35 (dk_at dksX7_imageOf_2 16 rfl rfl)
theorem dX7_imageOf_67 : decode cX7_imageOf 67 = .ok (.iload_n 3, 1) := dk_29 (dk_at dksX7_imageOf_2 19 rfl rfl)
theorem dX7_imageOf_68 : decode cX7_imageOf 68 = .ok (.iaload, 1) := dk_46 (dk_at dksX7_imageOf_2 20 rfl rfl)
theorem dX7_imageOf_69 : decode cX7_imageOf 69 = .ok (.iload 5, 2) := dk_21 5 (dk_at dksX7_imageOf_2 21 rfl rfl)
theorem dX7_imageOf_71 : decode cX7_imageOf 71 = .ok (.iload 4, 2) := dk_21 4 (dk_at dksX7_imageOf_3 0 rfl rfl)
theorem dX7_imageOf_73 : decode cX7_imageOf 73 = .ok (.idiv, 1) := dk_108 (dk_at dksX7_imageOf_3 2 rfl rfl)
theorem dX7_imageOf_74 : decode cX7_imageOf 74 = .ok (.invokevirtual 398, 3) := dk_182 1 142 (dk_at dksX7_imageOf_3 3 rfl rfl)
theorem dX7_imageOf_77 : decode cX7_imageOf 77 = .ok (.imul, 1) := dk_104 (dk_at dksX7_imageOf_3 6 rfl rfl)
theorem dX7_imageOf_78 : decode cX7_imageOf 78 = .ok (.iadd, 1) := dk_96 (dk_at dksX7_imageOf_3 7 rfl rfl)
theorem dX7_imageOf_79 : decode cX7_imageOf 79 = .ok (.aload_n 0, 1) := dk_42 (dk_at dksX7_imageOf_3 8 rfl rfl)
theorem dX7_imageOf_80 : decode cX7_imageOf 80 = .ok (.aload_n 0, 1) := dk_42 (dk_at dksX7_imageOf_3 9 rfl rfl)
theorem dX7_imageOf_81 : decode cX7_imageOf 81 = .ok (.getfield 38, 3) := dk_180 0 38 (dk_at dksX7_imageOf_3 10 rfl rfl)
theorem dX7_imageOf_84 : decode cX7_imageOf 84 = .ok (.iload_n 3, 1) := dk_29 (dk_at dksX7_imageOf_3 13 rfl rfl)
theorem dX7_imageOf_85 : decode cX7_imageOf 85 = .ok (.iaload, 1) := dk_46 (dk_at dksX7_imageOf_3 14 rfl rfl)
theorem dX7_imageOf_86 : decode cX7_imageOf 86 = .ok (.iload 5, 2) := dk_21 5 (dk_at dksX7_imageOf_3 15 rfl rfl)
theorem dX7_imageOf_88 : decode cX7_imageOf 88 = .ok (.iload 4, 2) := dk_21 4 (dk_at dksX7_imageOf_3 17 rfl rfl)
theorem dX7_imageOf_90 : decode cX7_imageOf 90 = .ok (.irem, 1) := dk_112 (dk_at dksX7_imageOf_3 19 rfl rfl)
theorem dX7_imageOf_91 : decode cX7_imageOf 91 = .ok (.invokevirtual 398, 3) := dk_182 1 142 (dk_at dksX7_imageOf_3 20 rfl rfl)
theorem dX7_imageOf_94 : decode cX7_imageOf 94 = .ok (.iadd, 1) := dk_96 (dk_at dksX7_imageOf_3 23 rfl rfl)
theorem dX7_imageOf_95 : decode cX7_imageOf 95 = .ok (.istore 6, 2) := dk_54 6 (dk_at dksX7_imageOf_4 0 rfl rfl)
theorem dX7_imageOf_97 : decode cX7_imageOf 97 = .ok (.iload_n 2, 1) := dk_28 (dk_at dksX7_imageOf_4 2 rfl rfl)
theorem dX7_imageOf_98 : decode cX7_imageOf 98 = .ok (.aload_n 0, 1) := dk_42 (dk_at dksX7_imageOf_4 3 rfl rfl)
theorem dX7_imageOf_99 : decode cX7_imageOf 99 = .ok (.getfield 93, 3) := dk_180 0 93 (dk_at dksX7_imageOf_4 4 rfl rfl)
theorem dX7_imageOf_102 : decode cX7_imageOf 102 = .ok (.aload_n 0, 1) := dk_42 (dk_at dksX7_imageOf_4 7 rfl rfl)
theorem dX7_imageOf_103 : decode cX7_imageOf 103 = .ok (.getfield 90, 3) := dk_180 0 90 (dk_at dksX7_imageOf_4 8 rfl rfl)
theorem dX7_imageOf_106 : decode cX7_imageOf 106 = .ok (.iload_n 3, 1) := dk_29 (dk_at dksX7_imageOf_4 11 rfl rfl)
theorem dX7_imageOf_107 : decode cX7_imageOf 107 = .ok (.iaload, 1) := dk_46 (dk_at dksX7_imageOf_4 12 rfl rfl)
theorem dX7_imageOf_108 : decode cX7_imageOf 108 = .ok (.iload 5, 2) := dk_21 5 (dk_at dksX7_imageOf_4 13 rfl rfl)
theorem dX7_imageOf_110 : decode cX7_imageOf 110 = .ok (.iadd, 1) := dk_96 (dk_at dksX7_imageOf_4 15 rfl rfl)
theorem dX7_imageOf_111 : decode cX7_imageOf 111 = .ok (.baload, 1) := dk_51 (dk_at dksX7_imageOf_4 16 rfl rfl)
theorem dX7_imageOf_112 : decode cX7_imageOf 112 = .ok (.ifCond .eq 14, 3) := dk_153 0 14 (dk_at dksX7_imageOf_4 17 rfl rfl)
theorem dX7_imageOf_115 : decode cX7_imageOf 115 = .ok (.iconst 1, 1) := dk_4 (dk_at dksX7_imageOf_4 20 rfl rfl)
theorem dX7_imageOf_116 : decode cX7_imageOf 116 = .ok (.iload_n 1, 1) := dk_27 (dk_at dksX7_imageOf_4 21 rfl rfl)
theorem dX7_imageOf_117 : decode cX7_imageOf 117 = .ok (.iconst 1, 1) := dk_4 (dk_at dksX7_imageOf_4 22 rfl rfl)
theorem dX7_imageOf_118 : decode cX7_imageOf 118 = .ok (.isub, 1) := dk_100 (dk_at dksX7_imageOf_4 23 rfl rfl)
theorem dX7_imageOf_119 : decode cX7_imageOf 119 = .ok (.iload 6, 2) := dk_21 6 (dk_at dksX7_imageOf_5 0 rfl rfl)
theorem dX7_imageOf_121 : decode cX7_imageOf 121 = .ok (.isub, 1) := dk_100 (dk_at dksX7_imageOf_5 2 rfl rfl)
theorem dX7_imageOf_122 : decode cX7_imageOf 122 = .ok (.ishl, 1) := dk_120 (dk_at dksX7_imageOf_5 3 rfl rfl)
theorem dX7_imageOf_123 : decode cX7_imageOf 123 = .ok (.goto 4, 3) := dk_167 0 4 (dk_at dksX7_imageOf_5 4 rfl rfl)
theorem dX7_imageOf_126 : decode cX7_imageOf 126 = .ok (.iconst 0, 1) := dk_3 (dk_at dksX7_imageOf_5 7 rfl rfl)
theorem dX7_imageOf_127 : decode cX7_imageOf 127 = .ok (.ior, 1) := dk_128 (dk_at dksX7_imageOf_5 8 rfl rfl)
theorem dX7_imageOf_128 : decode cX7_imageOf 128 = .ok (.istore_n 2, 1) := dk_61 (dk_at dksX7_imageOf_5 9 rfl rfl)
theorem dX7_imageOf_129 : decode cX7_imageOf 129 = .ok (.iinc 5 1, 3) := dk_132 5 1 (dk_at dksX7_imageOf_5 10 rfl rfl)
theorem dX7_imageOf_132 : decode cX7_imageOf 132 = .ok (.goto (-98), 3) := dk_167 255 158 (dk_at dksX7_imageOf_5 13 rfl rfl)
theorem dX7_imageOf_135 : decode cX7_imageOf 135 = .ok (.iinc 3 1, 3) := dk_132 3 1 (dk_at dksX7_imageOf_5 16 rfl rfl)
theorem dX7_imageOf_138 : decode cX7_imageOf 138 = .ok (.goto (-129), 3) := dk_167 255 127 (dk_at dksX7_imageOf_5 19 rfl rfl)
theorem dX7_imageOf_141 : decode cX7_imageOf 141 = .ok (.iload_n 2, 1) := dk_28 (dk_at dksX7_imageOf_5 22 rfl rfl)
theorem dX7_imageOf_142 : decode cX7_imageOf 142 = .ok (.ireturn, 1) := dk_172 (dk_at dksX7_imageOf_5 23 rfl rfl)
abbrev cX7_renamed : ByteArray := prog_33_method_74_code
def yX7_renamed : MethodName := ⟨RX7, "renamed", "(II)I"⟩
def dkwX7_renamed_0 : List UInt8 := [27, 2, 160, 0, 7, 3, 167, 0, 13, 42, 180, 0, 117, 27, 46, 28, 184, 1, 139, 172]
abbrev dktX7_renamed_0 : List UInt8 := dkwX7_renamed_0 ++ []
theorem dksX7_renamed_0 : cX7_renamed.data.toList.drop 0 = dktX7_renamed_0 := by decide +kernel
theorem dX7_renamed_0 : decode cX7_renamed 0 = .ok (.iload_n 1, 1) := dk_27 (dk_at dksX7_renamed_0 0 rfl rfl)
theorem dX7_renamed_1 : decode cX7_renamed 1 = .ok (.iconst (-1), 1) := dk_2 (dk_at dksX7_renamed_0 1 rfl rfl)
theorem dX7_renamed_2 : decode cX7_renamed 2 = .ok (.if_icmp .ne 7, 3) := dk_160 0 7 (dk_at dksX7_renamed_0 2 rfl rfl)
theorem dX7_renamed_5 : decode cX7_renamed 5 = .ok (.iconst 0, 1) := dk_3 (dk_at dksX7_renamed_0 5 rfl rfl)
theorem dX7_renamed_6 : decode cX7_renamed 6 = .ok (.goto 13, 3) := dk_167 0 13 (dk_at dksX7_renamed_0 6 rfl rfl)
theorem dX7_renamed_9 : decode cX7_renamed 9 = .ok (.aload_n 0, 1) := dk_42 (dk_at dksX7_renamed_0 9 rfl rfl)
theorem dX7_renamed_10 : decode cX7_renamed 10 = .ok (.getfield 117, 3) := dk_180 0 117 (dk_at dksX7_renamed_0 10 rfl rfl)
theorem dX7_renamed_13 : decode cX7_renamed 13 = .ok (.iload_n 1, 1) := dk_27 (dk_at dksX7_renamed_0 13 rfl rfl)
theorem dX7_renamed_14 : decode cX7_renamed 14 = .ok (.iaload, 1) := dk_46 (dk_at dksX7_renamed_0 14 rfl rfl)
theorem dX7_renamed_15 : decode cX7_renamed 15 = .ok (.iload_n 2, 1) := dk_28 (dk_at dksX7_renamed_0 15 rfl rfl)
theorem dX7_renamed_16 : decode cX7_renamed 16 = .ok (.invokestatic 395, 3) := dk_184 1 139 (dk_at dksX7_renamed_0 16 rfl rfl)
theorem dX7_renamed_19 : decode cX7_renamed 19 = .ok (.ireturn, 1) := dk_172 (dk_at dksX7_renamed_0 19 rfl rfl)
abbrev cX7_ones : ByteArray := prog_33_method_24_code
def yX7_ones : MethodName := ⟨RX7, "ones", "(I)I"⟩
def dkwX7_ones_1 : List UInt8 := [27, 172]
abbrev dktX7_ones_1 : List UInt8 := dkwX7_ones_1 ++ []
def dkwX7_ones_0 : List UInt8 := [3, 60, 3, 61, 28, 16, 16, 162, 0, 17, 27, 26, 28, 122, 4, 126, 96, 60, 132, 2, 1, 167, 255, 239]
abbrev dktX7_ones_0 : List UInt8 := dkwX7_ones_0 ++ dktX7_ones_1
theorem dksX7_ones_0 : cX7_ones.data.toList.drop 0 = dktX7_ones_0 := by decide +kernel
theorem dksX7_ones_1 : cX7_ones.data.toList.drop 24 = dktX7_ones_1 := dk_seg dksX7_ones_0 24 rfl rfl
theorem dX7_ones_0 : decode cX7_ones 0 = .ok (.iconst 0, 1) := dk_3 (dk_at dksX7_ones_0 0 rfl rfl)
theorem dX7_ones_1 : decode cX7_ones 1 = .ok (.istore_n 1, 1) := dk_60 (dk_at dksX7_ones_0 1 rfl rfl)
theorem dX7_ones_2 : decode cX7_ones 2 = .ok (.iconst 0, 1) := dk_3 (dk_at dksX7_ones_0 2 rfl rfl)
theorem dX7_ones_3 : decode cX7_ones 3 = .ok (.istore_n 2, 1) := dk_61 (dk_at dksX7_ones_0 3 rfl rfl)
theorem dX7_ones_4 : decode cX7_ones 4 = .ok (.iload_n 2, 1) := dk_28 (dk_at dksX7_ones_0 4 rfl rfl)
theorem dX7_ones_5 : decode cX7_ones 5 = .ok (.bipush 16, 2) := dk_16 16 (dk_at dksX7_ones_0 5 rfl rfl)
theorem dX7_ones_7 : decode cX7_ones 7 = .ok (.if_icmp .ge 17, 3) := dk_162 0 17 (dk_at dksX7_ones_0 7 rfl rfl)
theorem dX7_ones_10 : decode cX7_ones 10 = .ok (.iload_n 1, 1) := dk_27 (dk_at dksX7_ones_0 10 rfl rfl)
theorem dX7_ones_11 : decode cX7_ones 11 = .ok (.iload_n 0, 1) := dk_26 (dk_at dksX7_ones_0 11 rfl rfl)
theorem dX7_ones_12 : decode cX7_ones 12 = .ok (.iload_n 2, 1) := dk_28 (dk_at dksX7_ones_0 12 rfl rfl)
theorem dX7_ones_13 : decode cX7_ones 13 = .ok (.ishr, 1) := dk_122 (dk_at dksX7_ones_0 13 rfl rfl)
theorem dX7_ones_14 : decode cX7_ones 14 = .ok (.iconst 1, 1) := dk_4 (dk_at dksX7_ones_0 14 rfl rfl)
theorem dX7_ones_15 : decode cX7_ones 15 = .ok (.iand, 1) := dk_126 (dk_at dksX7_ones_0 15 rfl rfl)
theorem dX7_ones_16 : decode cX7_ones 16 = .ok (.iadd, 1) := dk_96 (dk_at dksX7_ones_0 16 rfl rfl)
theorem dX7_ones_17 : decode cX7_ones 17 = .ok (.istore_n 1, 1) := dk_60 (dk_at dksX7_ones_0 17 rfl rfl)
theorem dX7_ones_18 : decode cX7_ones 18 = .ok (.iinc 2 1, 3) := dk_132 2 1 (dk_at dksX7_ones_0 18 rfl rfl)
theorem dX7_ones_21 : decode cX7_ones 21 = .ok (.goto (-17), 3) := dk_167 255 239 (dk_at dksX7_ones_0 21 rfl rfl)
theorem dX7_ones_24 : decode cX7_ones 24 = .ok (.iload_n 1, 1) := dk_27 (dk_at dksX7_ones_1 0 rfl rfl)
theorem dX7_ones_25 : decode cX7_ones 25 = .ok (.ireturn, 1) := dk_172 (dk_at dksX7_ones_1 1 rfl rfl)
abbrev cX7_feed : ByteArray := prog_33_method_25_code
def yX7_feed : MethodName := ⟨RX7, "feed", "(IIIII)I"⟩
def dkwX7_feed_2 : List UInt8 := [182, 0, 198, 42, 180, 0, 13, 3, 46, 172]
abbrev dktX7_feed_2 : List UInt8 := dkwX7_feed_2 ++ []
def dkwX7_feed_1 : List UInt8 := [182, 0, 198, 42, 28, 182, 0, 198, 42, 29, 182, 0, 198, 42, 21, 4, 182, 0, 198, 42, 21, 5]
abbrev dktX7_feed_1 : List UInt8 := dkwX7_feed_1 ++ dktX7_feed_2
def dkwX7_feed_0 : List UInt8 := [42, 3, 181, 0, 142, 42, 180, 0, 13, 3, 46, 16, 20, 96, 17, 1, 144, 164, 0, 5, 2, 172, 42, 27]
abbrev dktX7_feed_0 : List UInt8 := dkwX7_feed_0 ++ dktX7_feed_1
theorem dksX7_feed_0 : cX7_feed.data.toList.drop 0 = dktX7_feed_0 := by decide +kernel
theorem dksX7_feed_1 : cX7_feed.data.toList.drop 24 = dktX7_feed_1 := dk_seg dksX7_feed_0 24 rfl rfl
theorem dksX7_feed_2 : cX7_feed.data.toList.drop 46 = dktX7_feed_2 := dk_seg dksX7_feed_1 22 rfl rfl
theorem dX7_feed_0 : decode cX7_feed 0 = .ok (.aload_n 0, 1) := dk_42 (dk_at dksX7_feed_0 0 rfl rfl)
theorem dX7_feed_1 : decode cX7_feed 1 = .ok (.iconst 0, 1) := dk_3 (dk_at dksX7_feed_0 1 rfl rfl)
theorem dX7_feed_2 : decode cX7_feed 2 = .ok (.putfield 142, 3) := dk_181 0 142 (dk_at dksX7_feed_0 2 rfl rfl)
theorem dX7_feed_5 : decode cX7_feed 5 = .ok (.aload_n 0, 1) := dk_42 (dk_at dksX7_feed_0 5 rfl rfl)
theorem dX7_feed_6 : decode cX7_feed 6 = .ok (.getfield 13, 3) := dk_180 0 13 (dk_at dksX7_feed_0 6 rfl rfl)
theorem dX7_feed_9 : decode cX7_feed 9 = .ok (.iconst 0, 1) := dk_3 (dk_at dksX7_feed_0 9 rfl rfl)
theorem dX7_feed_10 : decode cX7_feed 10 = .ok (.iaload, 1) := dk_46 (dk_at dksX7_feed_0 10 rfl rfl)
theorem dX7_feed_11 : decode cX7_feed 11 = .ok (.bipush 20, 2) := dk_16 20 (dk_at dksX7_feed_0 11 rfl rfl)
theorem dX7_feed_13 : decode cX7_feed 13 = .ok (.iadd, 1) := dk_96 (dk_at dksX7_feed_0 13 rfl rfl)
theorem dX7_feed_14 : decode cX7_feed 14 = .ok (.sipush 400, 3) := dk_17 1 144 (dk_at dksX7_feed_0 14 rfl rfl)
theorem dX7_feed_17 : decode cX7_feed 17 = .ok (.if_icmp .le 5, 3) := dk_164 0 5 (dk_at dksX7_feed_0 17 rfl rfl)
theorem dX7_feed_20 : decode cX7_feed 20 = .ok (.iconst (-1), 1) := dk_2 (dk_at dksX7_feed_0 20 rfl rfl)
theorem dX7_feed_21 : decode cX7_feed 21 = .ok (.ireturn, 1) := dk_172 (dk_at dksX7_feed_0 21 rfl rfl)
theorem dX7_feed_22 : decode cX7_feed 22 = .ok (.aload_n 0, 1) := dk_42 (dk_at dksX7_feed_0 22 rfl rfl)
theorem dX7_feed_23 : decode cX7_feed 23 = .ok (.iload_n 1, 1) := dk_27 (dk_at dksX7_feed_0 23 rfl rfl)
theorem dX7_feed_24 : decode cX7_feed 24 = .ok (.invokevirtual 198, 3) := dk_182 0 198 (dk_at dksX7_feed_1 0 rfl rfl)
theorem dX7_feed_27 : decode cX7_feed 27 = .ok (.aload_n 0, 1) := dk_42 (dk_at dksX7_feed_1 3 rfl rfl)
theorem dX7_feed_28 : decode cX7_feed 28 = .ok (.iload_n 2, 1) := dk_28 (dk_at dksX7_feed_1 4 rfl rfl)
theorem dX7_feed_29 : decode cX7_feed 29 = .ok (.invokevirtual 198, 3) := dk_182 0 198 (dk_at dksX7_feed_1 5 rfl rfl)
theorem dX7_feed_32 : decode cX7_feed 32 = .ok (.aload_n 0, 1) := dk_42 (dk_at dksX7_feed_1 8 rfl rfl)
theorem dX7_feed_33 : decode cX7_feed 33 = .ok (.iload_n 3, 1) := dk_29 (dk_at dksX7_feed_1 9 rfl rfl)
theorem dX7_feed_34 : decode cX7_feed 34 = .ok (.invokevirtual 198, 3) := dk_182 0 198 (dk_at dksX7_feed_1 10 rfl rfl)
theorem dX7_feed_37 : decode cX7_feed 37 = .ok (.aload_n 0, 1) := dk_42 (dk_at dksX7_feed_1 13 rfl rfl)
theorem dX7_feed_38 : decode cX7_feed 38 = .ok (.iload 4, 2) := dk_21 4 (dk_at dksX7_feed_1 14 rfl rfl)
theorem dX7_feed_40 : decode cX7_feed 40 = .ok (.invokevirtual 198, 3) := dk_182 0 198 (dk_at dksX7_feed_1 16 rfl rfl)
theorem dX7_feed_43 : decode cX7_feed 43 = .ok (.aload_n 0, 1) := dk_42 (dk_at dksX7_feed_1 19 rfl rfl)
theorem dX7_feed_44 : decode cX7_feed 44 = .ok (.iload 5, 2) := dk_21 5 (dk_at dksX7_feed_1 20 rfl rfl)
theorem dX7_feed_46 : decode cX7_feed 46 = .ok (.invokevirtual 198, 3) := dk_182 0 198 (dk_at dksX7_feed_2 0 rfl rfl)
theorem dX7_feed_49 : decode cX7_feed 49 = .ok (.aload_n 0, 1) := dk_42 (dk_at dksX7_feed_2 3 rfl rfl)
theorem dX7_feed_50 : decode cX7_feed 50 = .ok (.getfield 13, 3) := dk_180 0 13 (dk_at dksX7_feed_2 4 rfl rfl)
theorem dX7_feed_53 : decode cX7_feed 53 = .ok (.iconst 0, 1) := dk_3 (dk_at dksX7_feed_2 7 rfl rfl)
theorem dX7_feed_54 : decode cX7_feed 54 = .ok (.iaload, 1) := dk_46 (dk_at dksX7_feed_2 8 rfl rfl)
theorem dX7_feed_55 : decode cX7_feed 55 = .ok (.ireturn, 1) := dk_172 (dk_at dksX7_feed_2 9 rfl rfl)
abbrev cX7_four : ByteArray := prog_33_method_26_code
def yX7_four : MethodName := ⟨RX7, "four", "(I)V"⟩
def dkwX7_four_1 : List UInt8 := [180, 0, 13, 3, 92, 46, 4, 96, 79, 132, 2, 248, 167, 255, 224, 177]
abbrev dktX7_four_1 : List UInt8 := dkwX7_four_1 ++ []
def dkwX7_four_0 : List UInt8 := [16, 24, 61, 28, 155, 0, 34, 42, 180, 0, 7, 42, 180, 0, 13, 3, 46, 27, 28, 122, 145, 84, 42]
abbrev dktX7_four_0 : List UInt8 := dkwX7_four_0 ++ dktX7_four_1
theorem dksX7_four_0 : cX7_four.data.toList.drop 0 = dktX7_four_0 := by decide +kernel
theorem dksX7_four_1 : cX7_four.data.toList.drop 23 = dktX7_four_1 := dk_seg dksX7_four_0 23 rfl rfl
theorem dX7_four_0 : decode cX7_four 0 = .ok (.bipush 24, 2) := dk_16 24 (dk_at dksX7_four_0 0 rfl rfl)
theorem dX7_four_2 : decode cX7_four 2 = .ok (.istore_n 2, 1) := dk_61 (dk_at dksX7_four_0 2 rfl rfl)
theorem dX7_four_3 : decode cX7_four 3 = .ok (.iload_n 2, 1) := dk_28 (dk_at dksX7_four_0 3 rfl rfl)
theorem dX7_four_4 : decode cX7_four 4 = .ok (.ifCond .lt 34, 3) := dk_155 0 34 (dk_at dksX7_four_0 4 rfl rfl)
theorem dX7_four_7 : decode cX7_four 7 = .ok (.aload_n 0, 1) := dk_42 (dk_at dksX7_four_0 7 rfl rfl)
theorem dX7_four_8 : decode cX7_four 8 = .ok (.getfield 7, 3) := dk_180 0 7 (dk_at dksX7_four_0 8 rfl rfl)
theorem dX7_four_11 : decode cX7_four 11 = .ok (.aload_n 0, 1) := dk_42 (dk_at dksX7_four_0 11 rfl rfl)
theorem dX7_four_12 : decode cX7_four 12 = .ok (.getfield 13, 3) := dk_180 0 13 (dk_at dksX7_four_0 12 rfl rfl)
theorem dX7_four_15 : decode cX7_four 15 = .ok (.iconst 0, 1) := dk_3 (dk_at dksX7_four_0 15 rfl rfl)
theorem dX7_four_16 : decode cX7_four 16 = .ok (.iaload, 1) := dk_46 (dk_at dksX7_four_0 16 rfl rfl)
theorem dX7_four_17 : decode cX7_four 17 = .ok (.iload_n 1, 1) := dk_27 (dk_at dksX7_four_0 17 rfl rfl)
theorem dX7_four_18 : decode cX7_four 18 = .ok (.iload_n 2, 1) := dk_28 (dk_at dksX7_four_0 18 rfl rfl)
theorem dX7_four_19 : decode cX7_four 19 = .ok (.ishr, 1) := dk_122 (dk_at dksX7_four_0 19 rfl rfl)
theorem dX7_four_20 : decode cX7_four 20 = .ok (.i2b, 1) := dk_145 (dk_at dksX7_four_0 20 rfl rfl)
theorem dX7_four_21 : decode cX7_four 21 = .ok (.bastore, 1) := dk_84 (dk_at dksX7_four_0 21 rfl rfl)
theorem dX7_four_22 : decode cX7_four 22 = .ok (.aload_n 0, 1) := dk_42 (dk_at dksX7_four_0 22 rfl rfl)
theorem dX7_four_23 : decode cX7_four 23 = .ok (.getfield 13, 3) := dk_180 0 13 (dk_at dksX7_four_1 0 rfl rfl)
theorem dX7_four_26 : decode cX7_four 26 = .ok (.iconst 0, 1) := dk_3 (dk_at dksX7_four_1 3 rfl rfl)
theorem dX7_four_27 : decode cX7_four 27 = .ok (.dup2, 1) := dk_92 (dk_at dksX7_four_1 4 rfl rfl)
theorem dX7_four_28 : decode cX7_four 28 = .ok (.iaload, 1) := dk_46 (dk_at dksX7_four_1 5 rfl rfl)
theorem dX7_four_29 : decode cX7_four 29 = .ok (.iconst 1, 1) := dk_4 (dk_at dksX7_four_1 6 rfl rfl)
theorem dX7_four_30 : decode cX7_four 30 = .ok (.iadd, 1) := dk_96 (dk_at dksX7_four_1 7 rfl rfl)
theorem dX7_four_31 : decode cX7_four 31 = .ok (.iastore, 1) := dk_79 (dk_at dksX7_four_1 8 rfl rfl)
theorem dX7_four_32 : decode cX7_four 32 = .ok (.iinc 2 (-8), 3) := dk_132 2 248 (dk_at dksX7_four_1 9 rfl rfl)
theorem dX7_four_35 : decode cX7_four 35 = .ok (.goto (-32), 3) := dk_167 255 224 (dk_at dksX7_four_1 12 rfl rfl)
theorem dX7_four_38 : decode cX7_four 38 = .ok (.return_, 1) := dk_177 (dk_at dksX7_four_1 15 rfl rfl)
abbrev cX7_end : ByteArray := prog_33_method_27_code
def yX7_end : MethodName := ⟨RX7, "end", "(I)I"⟩
def dkwX7_end_1 : List UInt8 := [180, 0, 13, 3, 27, 79, 27, 172]
abbrev dktX7_end_1 : List UInt8 := dkwX7_end_1 ++ []
def dkwX7_end_0 : List UInt8 := [42, 3, 181, 0, 142, 27, 3, 42, 180, 0, 13, 3, 46, 184, 0, 160, 154, 0, 5, 2, 172, 42]
abbrev dktX7_end_0 : List UInt8 := dkwX7_end_0 ++ dktX7_end_1
theorem dksX7_end_0 : cX7_end.data.toList.drop 0 = dktX7_end_0 := by decide +kernel
theorem dksX7_end_1 : cX7_end.data.toList.drop 22 = dktX7_end_1 := dk_seg dksX7_end_0 22 rfl rfl
theorem dX7_end_0 : decode cX7_end 0 = .ok (.aload_n 0, 1) := dk_42 (dk_at dksX7_end_0 0 rfl rfl)
theorem dX7_end_1 : decode cX7_end 1 = .ok (.iconst 0, 1) := dk_3 (dk_at dksX7_end_0 1 rfl rfl)
theorem dX7_end_2 : decode cX7_end 2 = .ok (.putfield 142, 3) := dk_181 0 142 (dk_at dksX7_end_0 2 rfl rfl)
theorem dX7_end_5 : decode cX7_end 5 = .ok (.iload_n 1, 1) := dk_27 (dk_at dksX7_end_0 5 rfl rfl)
theorem dX7_end_6 : decode cX7_end 6 = .ok (.iconst 0, 1) := dk_3 (dk_at dksX7_end_0 6 rfl rfl)
theorem dX7_end_7 : decode cX7_end 7 = .ok (.aload_n 0, 1) := dk_42 (dk_at dksX7_end_0 7 rfl rfl)
theorem dX7_end_8 : decode cX7_end 8 = .ok (.getfield 13, 3) := dk_180 0 13 (dk_at dksX7_end_0 8 rfl rfl)
theorem dX7_end_11 : decode cX7_end 11 = .ok (.iconst 0, 1) := dk_3 (dk_at dksX7_end_0 11 rfl rfl)
theorem dX7_end_12 : decode cX7_end 12 = .ok (.iaload, 1) := dk_46 (dk_at dksX7_end_0 12 rfl rfl)
theorem dX7_end_13 : decode cX7_end 13 = .ok (.invokestatic 160, 3) := dk_184 0 160 (dk_at dksX7_end_0 13 rfl rfl)
theorem dX7_end_16 : decode cX7_end 16 = .ok (.ifCond .ne 5, 3) := dk_154 0 5 (dk_at dksX7_end_0 16 rfl rfl)
theorem dX7_end_19 : decode cX7_end 19 = .ok (.iconst (-1), 1) := dk_2 (dk_at dksX7_end_0 19 rfl rfl)
theorem dX7_end_20 : decode cX7_end 20 = .ok (.ireturn, 1) := dk_172 (dk_at dksX7_end_0 20 rfl rfl)
theorem dX7_end_21 : decode cX7_end 21 = .ok (.aload_n 0, 1) := dk_42 (dk_at dksX7_end_0 21 rfl rfl)
theorem dX7_end_22 : decode cX7_end 22 = .ok (.getfield 13, 3) := dk_180 0 13 (dk_at dksX7_end_1 0 rfl rfl)
theorem dX7_end_25 : decode cX7_end 25 = .ok (.iconst 0, 1) := dk_3 (dk_at dksX7_end_1 3 rfl rfl)
theorem dX7_end_26 : decode cX7_end 26 = .ok (.iload_n 1, 1) := dk_27 (dk_at dksX7_end_1 4 rfl rfl)
theorem dX7_end_27 : decode cX7_end 27 = .ok (.iastore, 1) := dk_79 (dk_at dksX7_end_1 5 rfl rfl)
theorem dX7_end_28 : decode cX7_end 28 = .ok (.iload_n 1, 1) := dk_27 (dk_at dksX7_end_1 6 rfl rfl)
theorem dX7_end_29 : decode cX7_end 29 = .ok (.ireturn, 1) := dk_172 (dk_at dksX7_end_1 7 rfl rfl)
abbrev cX7_story : ByteArray := prog_33_method_46_code
def yX7_story : MethodName := ⟨RX7, "story", "()I"⟩
def dkwX7_story_3 : List UInt8 := [180, 0, 48, 27, 42, 180, 0, 23, 3, 46, 79, 42, 180, 0, 51, 27, 2, 79, 27, 172]
abbrev dktX7_story_3 : List UInt8 := dkwX7_story_3 ++ []
def dkwX7_story_2 : List UInt8 := [172, 42, 180, 0, 45, 3, 46, 60, 42, 180, 0, 45, 3, 92, 46, 4, 96, 79, 42, 27, 182, 1, 79, 42]
abbrev dktX7_story_2 : List UInt8 := dkwX7_story_2 ++ dktX7_story_3
def dkwX7_story_1 : List UInt8 := [180, 0, 17, 3, 3, 79, 42, 180, 0, 20, 3, 2, 79, 16, 254, 172, 42, 182, 1, 76, 154, 0, 5, 2]
abbrev dktX7_story_1 : List UInt8 := dkwX7_story_1 ++ dktX7_story_2
def dkwX7_story_0 : List UInt8 := [42, 3, 181, 0, 142, 42, 180, 0, 45, 3, 46, 16, 8, 160, 0, 27, 42, 180, 0, 13, 3, 3, 79, 42]
abbrev dktX7_story_0 : List UInt8 := dkwX7_story_0 ++ dktX7_story_1
theorem dksX7_story_0 : cX7_story.data.toList.drop 0 = dktX7_story_0 := by decide +kernel
theorem dksX7_story_1 : cX7_story.data.toList.drop 24 = dktX7_story_1 := dk_seg dksX7_story_0 24 rfl rfl
theorem dksX7_story_2 : cX7_story.data.toList.drop 48 = dktX7_story_2 := dk_seg dksX7_story_1 24 rfl rfl
theorem dksX7_story_3 : cX7_story.data.toList.drop 72 = dktX7_story_3 := dk_seg dksX7_story_2 24 rfl rfl
theorem dX7_story_0 : decode cX7_story 0 = .ok (.aload_n 0, 1) := dk_42 (dk_at dksX7_story_0 0 rfl rfl)
theorem dX7_story_1 : decode cX7_story 1 = .ok (.iconst 0, 1) := dk_3 (dk_at dksX7_story_0 1 rfl rfl)
theorem dX7_story_2 : decode cX7_story 2 = .ok (.putfield 142, 3) := dk_181 0 142 (dk_at dksX7_story_0 2 rfl rfl)
theorem dX7_story_5 : decode cX7_story 5 = .ok (.aload_n 0, 1) := dk_42 (dk_at dksX7_story_0 5 rfl rfl)
theorem dX7_story_6 : decode cX7_story 6 = .ok (.getfield 45, 3) := dk_180 0 45 (dk_at dksX7_story_0 6 rfl rfl)
theorem dX7_story_9 : decode cX7_story 9 = .ok (.iconst 0, 1) := dk_3 (dk_at dksX7_story_0 9 rfl rfl)
theorem dX7_story_10 : decode cX7_story 10 = .ok (.iaload, 1) := dk_46 (dk_at dksX7_story_0 10 rfl rfl)
theorem dX7_story_11 : decode cX7_story 11 = .ok (.bipush 8, 2) := dk_16 8 (dk_at dksX7_story_0 11 rfl rfl)
theorem dX7_story_13 : decode cX7_story 13 = .ok (.if_icmp .ne 27, 3) := dk_160 0 27 (dk_at dksX7_story_0 13 rfl rfl)
theorem dX7_story_16 : decode cX7_story 16 = .ok (.aload_n 0, 1) := dk_42 (dk_at dksX7_story_0 16 rfl rfl)
theorem dX7_story_17 : decode cX7_story 17 = .ok (.getfield 13, 3) := dk_180 0 13 (dk_at dksX7_story_0 17 rfl rfl)
theorem dX7_story_20 : decode cX7_story 20 = .ok (.iconst 0, 1) := dk_3 (dk_at dksX7_story_0 20 rfl rfl)
theorem dX7_story_21 : decode cX7_story 21 = .ok (.iconst 0, 1) := dk_3 (dk_at dksX7_story_0 21 rfl rfl)
theorem dX7_story_22 : decode cX7_story 22 = .ok (.iastore, 1) := dk_79 (dk_at dksX7_story_0 22 rfl rfl)
theorem dX7_story_23 : decode cX7_story 23 = .ok (.aload_n 0, 1) := dk_42 (dk_at dksX7_story_0 23 rfl rfl)
theorem dX7_story_24 : decode cX7_story 24 = .ok (.getfield 17, 3) := dk_180 0 17 (dk_at dksX7_story_1 0 rfl rfl)
theorem dX7_story_27 : decode cX7_story 27 = .ok (.iconst 0, 1) := dk_3 (dk_at dksX7_story_1 3 rfl rfl)
theorem dX7_story_28 : decode cX7_story 28 = .ok (.iconst 0, 1) := dk_3 (dk_at dksX7_story_1 4 rfl rfl)
theorem dX7_story_29 : decode cX7_story 29 = .ok (.iastore, 1) := dk_79 (dk_at dksX7_story_1 5 rfl rfl)
theorem dX7_story_30 : decode cX7_story 30 = .ok (.aload_n 0, 1) := dk_42 (dk_at dksX7_story_1 6 rfl rfl)
theorem dX7_story_31 : decode cX7_story 31 = .ok (.getfield 20, 3) := dk_180 0 20 (dk_at dksX7_story_1 7 rfl rfl)
theorem dX7_story_34 : decode cX7_story 34 = .ok (.iconst 0, 1) := dk_3 (dk_at dksX7_story_1 10 rfl rfl)
theorem dX7_story_35 : decode cX7_story 35 = .ok (.iconst (-1), 1) := dk_2 (dk_at dksX7_story_1 11 rfl rfl)
theorem dX7_story_36 : decode cX7_story 36 = .ok (.iastore, 1) := dk_79 (dk_at dksX7_story_1 12 rfl rfl)
theorem dX7_story_37 : decode cX7_story 37 = .ok (.bipush (-2), 2) := dk_16 254 (dk_at dksX7_story_1 13 rfl rfl)
theorem dX7_story_39 : decode cX7_story 39 = .ok (.ireturn, 1) := dk_172 (dk_at dksX7_story_1 15 rfl rfl)
theorem dX7_story_40 : decode cX7_story 40 = .ok (.aload_n 0, 1) := dk_42 (dk_at dksX7_story_1 16 rfl rfl)
theorem dX7_story_41 : decode cX7_story 41 = .ok (.invokevirtual 332, 3) := dk_182 1 76 (dk_at dksX7_story_1 17 rfl rfl)
theorem dX7_story_44 : decode cX7_story 44 = .ok (.ifCond .ne 5, 3) := dk_154 0 5 (dk_at dksX7_story_1 20 rfl rfl)
theorem dX7_story_47 : decode cX7_story 47 = .ok (.iconst (-1), 1) := dk_2 (dk_at dksX7_story_1 23 rfl rfl)
theorem dX7_story_48 : decode cX7_story 48 = .ok (.ireturn, 1) := dk_172 (dk_at dksX7_story_2 0 rfl rfl)
theorem dX7_story_49 : decode cX7_story 49 = .ok (.aload_n 0, 1) := dk_42 (dk_at dksX7_story_2 1 rfl rfl)
theorem dX7_story_50 : decode cX7_story 50 = .ok (.getfield 45, 3) := dk_180 0 45 (dk_at dksX7_story_2 2 rfl rfl)
theorem dX7_story_53 : decode cX7_story 53 = .ok (.iconst 0, 1) := dk_3 (dk_at dksX7_story_2 5 rfl rfl)
theorem dX7_story_54 : decode cX7_story 54 = .ok (.iaload, 1) := dk_46 (dk_at dksX7_story_2 6 rfl rfl)
theorem dX7_story_55 : decode cX7_story 55 = .ok (.istore_n 1, 1) := dk_60 (dk_at dksX7_story_2 7 rfl rfl)
theorem dX7_story_56 : decode cX7_story 56 = .ok (.aload_n 0, 1) := dk_42 (dk_at dksX7_story_2 8 rfl rfl)
theorem dX7_story_57 : decode cX7_story 57 = .ok (.getfield 45, 3) := dk_180 0 45 (dk_at dksX7_story_2 9 rfl rfl)
theorem dX7_story_60 : decode cX7_story 60 = .ok (.iconst 0, 1) := dk_3 (dk_at dksX7_story_2 12 rfl rfl)
theorem dX7_story_61 : decode cX7_story 61 = .ok (.dup2, 1) := dk_92 (dk_at dksX7_story_2 13 rfl rfl)
theorem dX7_story_62 : decode cX7_story 62 = .ok (.iaload, 1) := dk_46 (dk_at dksX7_story_2 14 rfl rfl)
theorem dX7_story_63 : decode cX7_story 63 = .ok (.iconst 1, 1) := dk_4 (dk_at dksX7_story_2 15 rfl rfl)
theorem dX7_story_64 : decode cX7_story 64 = .ok (.iadd, 1) := dk_96 (dk_at dksX7_story_2 16 rfl rfl)
theorem dX7_story_65 : decode cX7_story 65 = .ok (.iastore, 1) := dk_79 (dk_at dksX7_story_2 17 rfl rfl)
theorem dX7_story_66 : decode cX7_story 66 = .ok (.aload_n 0, 1) := dk_42 (dk_at dksX7_story_2 18 rfl rfl)
theorem dX7_story_67 : decode cX7_story 67 = .ok (.iload_n 1, 1) := dk_27 (dk_at dksX7_story_2 19 rfl rfl)
theorem dX7_story_68 : decode cX7_story 68 = .ok (.invokevirtual 335, 3) := dk_182 1 79 (dk_at dksX7_story_2 20 rfl rfl)
theorem dX7_story_71 : decode cX7_story 71 = .ok (.aload_n 0, 1) := dk_42 (dk_at dksX7_story_2 23 rfl rfl)
theorem dX7_story_72 : decode cX7_story 72 = .ok (.getfield 48, 3) := dk_180 0 48 (dk_at dksX7_story_3 0 rfl rfl)
theorem dX7_story_75 : decode cX7_story 75 = .ok (.iload_n 1, 1) := dk_27 (dk_at dksX7_story_3 3 rfl rfl)
theorem dX7_story_76 : decode cX7_story 76 = .ok (.aload_n 0, 1) := dk_42 (dk_at dksX7_story_3 4 rfl rfl)
theorem dX7_story_77 : decode cX7_story 77 = .ok (.getfield 23, 3) := dk_180 0 23 (dk_at dksX7_story_3 5 rfl rfl)
theorem dX7_story_80 : decode cX7_story 80 = .ok (.iconst 0, 1) := dk_3 (dk_at dksX7_story_3 8 rfl rfl)
theorem dX7_story_81 : decode cX7_story 81 = .ok (.iaload, 1) := dk_46 (dk_at dksX7_story_3 9 rfl rfl)
theorem dX7_story_82 : decode cX7_story 82 = .ok (.iastore, 1) := dk_79 (dk_at dksX7_story_3 10 rfl rfl)
theorem dX7_story_83 : decode cX7_story 83 = .ok (.aload_n 0, 1) := dk_42 (dk_at dksX7_story_3 11 rfl rfl)
theorem dX7_story_84 : decode cX7_story 84 = .ok (.getfield 51, 3) := dk_180 0 51 (dk_at dksX7_story_3 12 rfl rfl)
theorem dX7_story_87 : decode cX7_story 87 = .ok (.iload_n 1, 1) := dk_27 (dk_at dksX7_story_3 15 rfl rfl)
theorem dX7_story_88 : decode cX7_story 88 = .ok (.iconst (-1), 1) := dk_2 (dk_at dksX7_story_3 16 rfl rfl)
theorem dX7_story_89 : decode cX7_story 89 = .ok (.iastore, 1) := dk_79 (dk_at dksX7_story_3 17 rfl rfl)
theorem dX7_story_90 : decode cX7_story 90 = .ok (.iload_n 1, 1) := dk_27 (dk_at dksX7_story_3 18 rfl rfl)
theorem dX7_story_91 : decode cX7_story 91 = .ok (.ireturn, 1) := dk_172 (dk_at dksX7_story_3 19 rfl rfl)
