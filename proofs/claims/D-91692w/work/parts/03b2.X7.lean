set_option maxRecDepth 100000
abbrev cX7_leaf : ByteArray := prog_33_method_57_code
def yX7_leaf : MethodName := ⟨RX7, "leaf", "(I)V"⟩
def dkwX7_leaf_10 : List UInt8 := [132, 4, 1, 167, 255, 71, 42, 89, 180, 1, 97, 4, 96, 181, 1, 97, 177]
abbrev dktX7_leaf_10 : List UInt8 := dkwX7_leaf_10 ++ []
def dkwX7_leaf_9 : List UInt8 := [182, 1, 85, 54, 5, 42, 180, 0, 111, 16, 81, 42, 180, 1, 97, 104, 21, 4, 96, 21, 5, 84]
abbrev dktX7_leaf_9 : List UInt8 := dkwX7_leaf_9 ++ dktX7_leaf_10
def dkwX7_leaf_8 : List UInt8 := [46, 21, 4, 42, 180, 0, 63, 27, 46, 184, 1, 94, 21, 4, 42, 180, 0, 66, 27, 46, 184, 1, 94]
abbrev dktX7_leaf_8 : List UInt8 := dkwX7_leaf_8 ++ dktX7_leaf_9
def dkwX7_leaf_7 : List UInt8 := [184, 1, 94, 3, 182, 1, 85, 54, 5, 167, 0, 43, 28, 16, 12, 160, 0, 37, 42, 42, 180, 0, 60, 27]
abbrev dktX7_leaf_7 : List UInt8 := dkwX7_leaf_7 ++ dktX7_leaf_8
def dkwX7_leaf_6 : List UInt8 := [167, 0, 76, 28, 16, 11, 160, 0, 30, 42, 42, 180, 0, 60, 27, 46, 21, 4, 42, 180, 0, 63, 27, 46]
abbrev dktX7_leaf_6 : List UInt8 := dkwX7_leaf_6 ++ dktX7_leaf_7
def dkwX7_leaf_5 : List UInt8 := [180, 0, 63, 27, 46, 184, 1, 94, 104, 21, 4, 42, 180, 0, 66, 27, 46, 184, 1, 94, 96, 51, 54, 5]
abbrev dktX7_leaf_5 : List UInt8 := dkwX7_leaf_5 ++ dktX7_leaf_6
def dkwX7_leaf_4 : List UInt8 := [167, 0, 4, 3, 54, 5, 167, 0, 117, 28, 16, 9, 160, 0, 38, 42, 180, 0, 114, 6, 21, 4, 42]
abbrev dktX7_leaf_4 : List UInt8 := dkwX7_leaf_4 ++ dktX7_leaf_5
def dkwX7_leaf_3 : List UInt8 := [42, 180, 0, 60, 27, 46, 184, 1, 94, 21, 4, 42, 180, 0, 63, 27, 46, 184, 1, 94, 160, 0, 7, 4]
abbrev dktX7_leaf_3 : List UInt8 := dkwX7_leaf_3 ++ dktX7_leaf_4
def dkwX7_leaf_2 : List UInt8 := [182, 1, 88, 3, 54, 4, 21, 4, 16, 81, 162, 0, 184, 29, 54, 5, 28, 16, 8, 160, 0, 38, 21, 4]
abbrev dktX7_leaf_2 : List UInt8 := dkwX7_leaf_2 ++ dktX7_leaf_3
def dkwX7_leaf_1 : List UInt8 := [153, 0, 7, 4, 167, 0, 4, 3, 62, 28, 16, 9, 160, 0, 13, 42, 42, 180, 0, 60, 27, 46]
abbrev dktX7_leaf_1 : List UInt8 := dkwX7_leaf_1 ++ dktX7_leaf_2
def dkwX7_leaf_0 : List UInt8 := [42, 180, 0, 57, 27, 46, 61, 28, 16, 10, 160, 0, 20, 42, 42, 180, 0, 60, 27, 46, 182, 1, 91]
abbrev dktX7_leaf_0 : List UInt8 := dkwX7_leaf_0 ++ dktX7_leaf_1
theorem dksX7_leaf_0 : cX7_leaf.data.toList.drop 0 = dktX7_leaf_0 := by decide +kernel
theorem dksX7_leaf_1 : cX7_leaf.data.toList.drop 23 = dktX7_leaf_1 := dk_seg dksX7_leaf_0 23 rfl rfl
theorem dksX7_leaf_2 : cX7_leaf.data.toList.drop 45 = dktX7_leaf_2 := dk_seg dksX7_leaf_1 22 rfl rfl
theorem dksX7_leaf_3 : cX7_leaf.data.toList.drop 69 = dktX7_leaf_3 := dk_seg dksX7_leaf_2 24 rfl rfl
theorem dksX7_leaf_4 : cX7_leaf.data.toList.drop 93 = dktX7_leaf_4 := dk_seg dksX7_leaf_3 24 rfl rfl
theorem dksX7_leaf_5 : cX7_leaf.data.toList.drop 116 = dktX7_leaf_5 := dk_seg dksX7_leaf_4 23 rfl rfl
theorem dksX7_leaf_6 : cX7_leaf.data.toList.drop 140 = dktX7_leaf_6 := dk_seg dksX7_leaf_5 24 rfl rfl
theorem dksX7_leaf_7 : cX7_leaf.data.toList.drop 164 = dktX7_leaf_7 := dk_seg dksX7_leaf_6 24 rfl rfl
theorem dksX7_leaf_8 : cX7_leaf.data.toList.drop 188 = dktX7_leaf_8 := dk_seg dksX7_leaf_7 24 rfl rfl
theorem dksX7_leaf_9 : cX7_leaf.data.toList.drop 211 = dktX7_leaf_9 := dk_seg dksX7_leaf_8 23 rfl rfl
theorem dksX7_leaf_10 : cX7_leaf.data.toList.drop 233 = dktX7_leaf_10 := dk_seg dksX7_leaf_9 22 rfl rfl
theorem dX7_leaf_0 : decode cX7_leaf 0 = .ok (.aload_n 0, 1) := dk_42 (dk_at dksX7_leaf_0 0 rfl rfl)
theorem dX7_leaf_1 : decode cX7_leaf 1 = .ok (.getfield 57, 3) := dk_180 0 57 (dk_at dksX7_leaf_0 1 rfl rfl)
theorem dX7_leaf_4 : decode cX7_leaf 4 = .ok (.iload_n 1, 1) := dk_27 (dk_at dksX7_leaf_0 4 rfl rfl)
theorem dX7_leaf_5 : decode cX7_leaf 5 = .ok (.iaload, 1) := dk_46 (dk_at dksX7_leaf_0 5 rfl rfl)
theorem dX7_leaf_6 : decode cX7_leaf 6 = .ok (.istore_n 2, 1) := dk_61 (dk_at dksX7_leaf_0 6 rfl rfl)
theorem dX7_leaf_7 : decode cX7_leaf 7 = .ok (.iload_n 2, 1) := dk_28 (dk_at dksX7_leaf_0 7 rfl rfl)
theorem dX7_leaf_8 : decode cX7_leaf 8 = .ok (.bipush 10, 2) := dk_16 10 (dk_at dksX7_leaf_0 8 rfl rfl)
theorem dX7_leaf_10 : decode cX7_leaf 10 = .ok (.if_icmp .ne 20, 3) := dk_160 0 20 (dk_at dksX7_leaf_0 10 rfl rfl)
theorem dX7_leaf_13 : decode cX7_leaf 13 = .ok (.aload_n 0, 1) := dk_42 (dk_at dksX7_leaf_0 13 rfl rfl)
theorem dX7_leaf_14 : decode cX7_leaf 14 = .ok (.aload_n 0, 1) := dk_42 (dk_at dksX7_leaf_0 14 rfl rfl)
theorem dX7_leaf_15 : decode cX7_leaf 15 = .ok (.getfield 60, 3) := dk_180 0 60 (dk_at dksX7_leaf_0 15 rfl rfl)
theorem dX7_leaf_18 : decode cX7_leaf 18 = .ok (.iload_n 1, 1) := dk_27 (dk_at dksX7_leaf_0 18 rfl rfl)
theorem dX7_leaf_19 : decode cX7_leaf 19 = .ok (.iaload, 1) := dk_46 (dk_at dksX7_leaf_0 19 rfl rfl)
theorem dX7_leaf_20 : decode cX7_leaf 20 = .ok (.invokevirtual 347, 3) := dk_182 1 91 (dk_at dksX7_leaf_0 20 rfl rfl)
theorem dX7_leaf_23 : decode cX7_leaf 23 = .ok (.ifCond .eq 7, 3) := dk_153 0 7 (dk_at dksX7_leaf_1 0 rfl rfl)
theorem dX7_leaf_26 : decode cX7_leaf 26 = .ok (.iconst 1, 1) := dk_4 (dk_at dksX7_leaf_1 3 rfl rfl)
theorem dX7_leaf_27 : decode cX7_leaf 27 = .ok (.goto 4, 3) := dk_167 0 4 (dk_at dksX7_leaf_1 4 rfl rfl)
theorem dX7_leaf_30 : decode cX7_leaf 30 = .ok (.iconst 0, 1) := dk_3 (dk_at dksX7_leaf_1 7 rfl rfl)
theorem dX7_leaf_31 : decode cX7_leaf 31 = .ok (.istore_n 3, 1) := dk_62 (dk_at dksX7_leaf_1 8 rfl rfl)
theorem dX7_leaf_32 : decode cX7_leaf 32 = .ok (.iload_n 2, 1) := dk_28 (dk_at dksX7_leaf_1 9 rfl rfl)
theorem dX7_leaf_33 : decode cX7_leaf 33 = .ok (.bipush 9, 2) := dk_16 9 (dk_at dksX7_leaf_1 10 rfl rfl)
theorem dX7_leaf_35 : decode cX7_leaf 35 = .ok (.if_icmp .ne 13, 3) := dk_160 0 13 (dk_at dksX7_leaf_1 12 rfl rfl)
theorem dX7_leaf_38 : decode cX7_leaf 38 = .ok (.aload_n 0, 1) := dk_42 (dk_at dksX7_leaf_1 15 rfl rfl)
theorem dX7_leaf_39 : decode cX7_leaf 39 = .ok (.aload_n 0, 1) := dk_42 (dk_at dksX7_leaf_1 16 rfl rfl)
theorem dX7_leaf_40 : decode cX7_leaf 40 = .ok (.getfield 60, 3) := dk_180 0 60 (dk_at dksX7_leaf_1 17 rfl rfl)
theorem dX7_leaf_43 : decode cX7_leaf 43 = .ok (.iload_n 1, 1) := dk_27 (dk_at dksX7_leaf_1 20 rfl rfl)
theorem dX7_leaf_44 : decode cX7_leaf 44 = .ok (.iaload, 1) := dk_46 (dk_at dksX7_leaf_1 21 rfl rfl)
theorem dX7_leaf_45 : decode cX7_leaf 45 = .ok (.invokevirtual 344, 3) := dk_182 1 88 (dk_at dksX7_leaf_2 0 rfl rfl)
theorem dX7_leaf_48 : decode cX7_leaf 48 = .ok (.iconst 0, 1) := dk_3 (dk_at dksX7_leaf_2 3 rfl rfl)
theorem dX7_leaf_49 : decode cX7_leaf 49 = .ok (.istore 4, 2) := dk_54 4 (dk_at dksX7_leaf_2 4 rfl rfl)
theorem dX7_leaf_51 : decode cX7_leaf 51 = .ok (.iload 4, 2) := dk_21 4 (dk_at dksX7_leaf_2 6 rfl rfl)
theorem dX7_leaf_53 : decode cX7_leaf 53 = .ok (.bipush 81, 2) := dk_16 81 (dk_at dksX7_leaf_2 8 rfl rfl)
theorem dX7_leaf_55 : decode cX7_leaf 55 = .ok (.if_icmp .ge 184, 3) := dk_162 0 184 (dk_at dksX7_leaf_2 10 rfl rfl)
theorem dX7_leaf_58 : decode cX7_leaf 58 = .ok (.iload_n 3, 1) := dk_29 (dk_at dksX7_leaf_2 13 rfl rfl)
theorem dX7_leaf_59 : decode cX7_leaf 59 = .ok (.istore 5, 2) := dk_54 5 (dk_at dksX7_leaf_2 14 rfl rfl)
theorem dX7_leaf_61 : decode cX7_leaf 61 = .ok (.iload_n 2, 1) := dk_28 (dk_at dksX7_leaf_2 16 rfl rfl)
theorem dX7_leaf_62 : decode cX7_leaf 62 = .ok (.bipush 8, 2) := dk_16 8 (dk_at dksX7_leaf_2 17 rfl rfl)
theorem dX7_leaf_64 : decode cX7_leaf 64 = .ok (.if_icmp .ne 38, 3) := dk_160 0 38 (dk_at dksX7_leaf_2 19 rfl rfl)
theorem dX7_leaf_67 : decode cX7_leaf 67 = .ok (.iload 4, 2) := dk_21 4 (dk_at dksX7_leaf_2 22 rfl rfl)
theorem dX7_leaf_69 : decode cX7_leaf 69 = .ok (.aload_n 0, 1) := dk_42 (dk_at dksX7_leaf_3 0 rfl rfl)
theorem dX7_leaf_70 : decode cX7_leaf 70 = .ok (.getfield 60, 3) := dk_180 0 60 (dk_at dksX7_leaf_3 1 rfl rfl)
theorem dX7_leaf_73 : decode cX7_leaf 73 = .ok (.iload_n 1, 1) := dk_27 (dk_at dksX7_leaf_3 4 rfl rfl)
theorem dX7_leaf_74 : decode cX7_leaf 74 = .ok (.iaload, 1) := dk_46 (dk_at dksX7_leaf_3 5 rfl rfl)
theorem dX7_leaf_75 : decode cX7_leaf 75 = .ok (.invokestatic 350, 3) := dk_184 1 94 (dk_at dksX7_leaf_3 6 rfl rfl)
theorem dX7_leaf_78 : decode cX7_leaf 78 = .ok (.iload 4, 2) := dk_21 4 (dk_at dksX7_leaf_3 9 rfl rfl)
theorem dX7_leaf_80 : decode cX7_leaf 80 = .ok (.aload_n 0, 1) := dk_42 (dk_at dksX7_leaf_3 11 rfl rfl)
theorem dX7_leaf_81 : decode cX7_leaf 81 = .ok (.getfield 63, 3) := dk_180 0 63 (dk_at dksX7_leaf_3 12 rfl rfl)
theorem dX7_leaf_84 : decode cX7_leaf 84 = .ok (.iload_n 1, 1) := dk_27 (dk_at dksX7_leaf_3 15 rfl rfl)
theorem dX7_leaf_85 : decode cX7_leaf 85 = .ok (.iaload, 1) := dk_46 (dk_at dksX7_leaf_3 16 rfl rfl)
theorem dX7_leaf_86 : decode cX7_leaf 86 = .ok (.invokestatic 350, 3) := dk_184 1 94 (dk_at dksX7_leaf_3 17 rfl rfl)
theorem dX7_leaf_89 : decode cX7_leaf 89 = .ok (.if_icmp .ne 7, 3) := dk_160 0 7 (dk_at dksX7_leaf_3 20 rfl rfl)
theorem dX7_leaf_92 : decode cX7_leaf 92 = .ok (.iconst 1, 1) := dk_4 (dk_at dksX7_leaf_3 23 rfl rfl)
theorem dX7_leaf_93 : decode cX7_leaf 93 = .ok (.goto 4, 3) := dk_167 0 4 (dk_at dksX7_leaf_4 0 rfl rfl)
theorem dX7_leaf_96 : decode cX7_leaf 96 = .ok (.iconst 0, 1) := dk_3 (dk_at dksX7_leaf_4 3 rfl rfl)
theorem dX7_leaf_97 : decode cX7_leaf 97 = .ok (.istore 5, 2) := dk_54 5 (dk_at dksX7_leaf_4 4 rfl rfl)
theorem dX7_leaf_99 : decode cX7_leaf 99 = .ok (.goto 117, 3) := dk_167 0 117 (dk_at dksX7_leaf_4 6 rfl rfl)
theorem dX7_leaf_102 : decode cX7_leaf 102 = .ok (.iload_n 2, 1) := dk_28 (dk_at dksX7_leaf_4 9 rfl rfl)
theorem dX7_leaf_103 : decode cX7_leaf 103 = .ok (.bipush 9, 2) := dk_16 9 (dk_at dksX7_leaf_4 10 rfl rfl)
theorem dX7_leaf_105 : decode cX7_leaf 105 = .ok (.if_icmp .ne 38, 3) := dk_160 0 38 (dk_at dksX7_leaf_4 12 rfl rfl)
theorem dX7_leaf_108 : decode cX7_leaf 108 = .ok (.aload_n 0, 1) := dk_42 (dk_at dksX7_leaf_4 15 rfl rfl)
theorem dX7_leaf_109 : decode cX7_leaf 109 = .ok (.getfield 114, 3) := dk_180 0 114 (dk_at dksX7_leaf_4 16 rfl rfl)
theorem dX7_leaf_112 : decode cX7_leaf 112 = .ok (.iconst 3, 1) := dk_6 (dk_at dksX7_leaf_4 19 rfl rfl)
theorem dX7_leaf_113 : decode cX7_leaf 113 = .ok (.iload 4, 2) := dk_21 4 (dk_at dksX7_leaf_4 20 rfl rfl)
theorem dX7_leaf_115 : decode cX7_leaf 115 = .ok (.aload_n 0, 1) := dk_42 (dk_at dksX7_leaf_4 22 rfl rfl)
theorem dX7_leaf_116 : decode cX7_leaf 116 = .ok (.getfield 63, 3) := dk_180 0 63 (dk_at dksX7_leaf_5 0 rfl rfl)
theorem dX7_leaf_119 : decode cX7_leaf 119 = .ok (.iload_n 1, 1) := dk_27 (dk_at dksX7_leaf_5 3 rfl rfl)
theorem dX7_leaf_120 : decode cX7_leaf 120 = .ok (.iaload, 1) := dk_46 (dk_at dksX7_leaf_5 4 rfl rfl)
theorem dX7_leaf_121 : decode cX7_leaf 121 = .ok (.invokestatic 350, 3) := dk_184 1 94 (dk_at dksX7_leaf_5 5 rfl rfl)
theorem dX7_leaf_124 : decode cX7_leaf 124 = .ok (.imul, 1) := dk_104 (dk_at dksX7_leaf_5 8 rfl rfl)
theorem dX7_leaf_125 : decode cX7_leaf 125 = .ok (.iload 4, 2) := dk_21 4 (dk_at dksX7_leaf_5 9 rfl rfl)
theorem dX7_leaf_127 : decode cX7_leaf 127 = .ok (.aload_n 0, 1) := dk_42 (dk_at dksX7_leaf_5 11 rfl rfl)
theorem dX7_leaf_128 : decode cX7_leaf 128 = .ok (.getfield 66, 3) := dk_180 0 66 (dk_at dksX7_leaf_5 12 rfl rfl)
theorem dX7_leaf_131 : decode cX7_leaf 131 = .ok (.iload_n 1, 1) := dk_27 (dk_at dksX7_leaf_5 15 rfl rfl)
theorem dX7_leaf_132 : decode cX7_leaf 132 = .ok (.iaload, 1) := dk_46 (dk_at dksX7_leaf_5 16 rfl rfl)
theorem dX7_leaf_133 : decode cX7_leaf 133 = .ok (.invokestatic 350, 3) := dk_184 1 94 (dk_at dksX7_leaf_5 17 rfl rfl)
theorem dX7_leaf_136 : decode cX7_leaf 136 = .ok (.iadd, 1) := dk_96 (dk_at dksX7_leaf_5 20 rfl rfl)
theorem dX7_leaf_137 : decode cX7_leaf 137 = .ok (.baload, 1) := dk_51 (dk_at dksX7_leaf_5 21 rfl rfl)
theorem dX7_leaf_138 : decode cX7_leaf 138 = .ok (.istore 5, 2) := dk_54 5 (dk_at dksX7_leaf_5 22 rfl rfl)
theorem dX7_leaf_140 : decode cX7_leaf 140 = .ok (.goto 76, 3) := dk_167 0 76 (dk_at dksX7_leaf_6 0 rfl rfl)
theorem dX7_leaf_143 : decode cX7_leaf 143 = .ok (.iload_n 2, 1) := dk_28 (dk_at dksX7_leaf_6 3 rfl rfl)
theorem dX7_leaf_144 : decode cX7_leaf 144 = .ok (.bipush 11, 2) := dk_16 11 (dk_at dksX7_leaf_6 4 rfl rfl)
theorem dX7_leaf_146 : decode cX7_leaf 146 = .ok (.if_icmp .ne 30, 3) := dk_160 0 30 (dk_at dksX7_leaf_6 6 rfl rfl)
theorem dX7_leaf_149 : decode cX7_leaf 149 = .ok (.aload_n 0, 1) := dk_42 (dk_at dksX7_leaf_6 9 rfl rfl)
theorem dX7_leaf_150 : decode cX7_leaf 150 = .ok (.aload_n 0, 1) := dk_42 (dk_at dksX7_leaf_6 10 rfl rfl)
theorem dX7_leaf_151 : decode cX7_leaf 151 = .ok (.getfield 60, 3) := dk_180 0 60 (dk_at dksX7_leaf_6 11 rfl rfl)
theorem dX7_leaf_154 : decode cX7_leaf 154 = .ok (.iload_n 1, 1) := dk_27 (dk_at dksX7_leaf_6 14 rfl rfl)
theorem dX7_leaf_155 : decode cX7_leaf 155 = .ok (.iaload, 1) := dk_46 (dk_at dksX7_leaf_6 15 rfl rfl)
theorem dX7_leaf_156 : decode cX7_leaf 156 = .ok (.iload 4, 2) := dk_21 4 (dk_at dksX7_leaf_6 16 rfl rfl)
theorem dX7_leaf_158 : decode cX7_leaf 158 = .ok (.aload_n 0, 1) := dk_42 (dk_at dksX7_leaf_6 18 rfl rfl)
theorem dX7_leaf_159 : decode cX7_leaf 159 = .ok (.getfield 63, 3) := dk_180 0 63 (dk_at dksX7_leaf_6 19 rfl rfl)
theorem dX7_leaf_162 : decode cX7_leaf 162 = .ok (.iload_n 1, 1) := dk_27 (dk_at dksX7_leaf_6 22 rfl rfl)
theorem dX7_leaf_163 : decode cX7_leaf 163 = .ok (.iaload, 1) := dk_46 (dk_at dksX7_leaf_6 23 rfl rfl)
theorem dX7_leaf_164 : decode cX7_leaf 164 = .ok (.invokestatic 350, 3) := dk_184 1 94 (dk_at dksX7_leaf_7 0 rfl rfl)
theorem dX7_leaf_167 : decode cX7_leaf 167 = .ok (.iconst 0, 1) := dk_3 (dk_at dksX7_leaf_7 3 rfl rfl)
theorem dX7_leaf_168 : decode cX7_leaf 168 = .ok (.invokevirtual 341, 3) := dk_182 1 85 (dk_at dksX7_leaf_7 4 rfl rfl)
theorem dX7_leaf_171 : decode cX7_leaf 171 = .ok (.istore 5, 2) := dk_54 5 (dk_at dksX7_leaf_7 7 rfl rfl)
theorem dX7_leaf_173 : decode cX7_leaf 173 = .ok (.goto 43, 3) := dk_167 0 43 (dk_at dksX7_leaf_7 9 rfl rfl)
theorem dX7_leaf_176 : decode cX7_leaf 176 = .ok (.iload_n 2, 1) := dk_28 (dk_at dksX7_leaf_7 12 rfl rfl)
theorem dX7_leaf_177 : decode cX7_leaf 177 = .ok (.bipush 12, 2) := dk_16 12 (dk_at dksX7_leaf_7 13 rfl rfl)
theorem dX7_leaf_179 : decode cX7_leaf 179 = .ok (.if_icmp .ne 37, 3) := dk_160 0 37 (dk_at dksX7_leaf_7 15 rfl rfl)
theorem dX7_leaf_182 : decode cX7_leaf 182 = .ok (.aload_n 0, 1) := dk_42 (dk_at dksX7_leaf_7 18 rfl rfl)
theorem dX7_leaf_183 : decode cX7_leaf 183 = .ok (.aload_n 0, 1) := dk_42 (dk_at dksX7_leaf_7 19 rfl rfl)
theorem dX7_leaf_184 : decode cX7_leaf 184 = .ok (.getfield 60, 3) := dk_180 0 60 (dk_at dksX7_leaf_7 20 rfl rfl)
theorem dX7_leaf_187 : decode cX7_leaf 187 = .ok (.iload_n 1, 1) := dk_27 (dk_at dksX7_leaf_7 23 rfl rfl)
theorem dX7_leaf_188 : decode cX7_leaf 188 = .ok (.iaload, 1) := dk_46 (dk_at dksX7_leaf_8 0 rfl rfl)
theorem dX7_leaf_189 : decode cX7_leaf 189 = .ok (.iload 4, 2) := dk_21 4 (dk_at dksX7_leaf_8 1 rfl rfl)
theorem dX7_leaf_191 : decode cX7_leaf 191 = .ok (.aload_n 0, 1) := dk_42 (dk_at dksX7_leaf_8 3 rfl rfl)
theorem dX7_leaf_192 : decode cX7_leaf 192 = .ok (.getfield 63, 3) := dk_180 0 63 (dk_at dksX7_leaf_8 4 rfl rfl)
theorem dX7_leaf_195 : decode cX7_leaf 195 = .ok (.iload_n 1, 1) := dk_27 (dk_at dksX7_leaf_8 7 rfl rfl)
theorem dX7_leaf_196 : decode cX7_leaf 196 = .ok (.iaload, 1) := dk_46 (dk_at dksX7_leaf_8 8 rfl rfl)
theorem dX7_leaf_197 : decode cX7_leaf 197 = .ok (.invokestatic 350, 3) := dk_184 1 94 (dk_at dksX7_leaf_8 9 rfl rfl)
theorem dX7_leaf_200 : decode cX7_leaf 200 = .ok (.iload 4, 2) := dk_21 4 (dk_at dksX7_leaf_8 12 rfl rfl)
theorem dX7_leaf_202 : decode cX7_leaf 202 = .ok (.aload_n 0, 1) := dk_42 (dk_at dksX7_leaf_8 14 rfl rfl)
theorem dX7_leaf_203 : decode cX7_leaf 203 = .ok (.getfield 66, 3) := dk_180 0 66 (dk_at dksX7_leaf_8 15 rfl rfl)
theorem dX7_leaf_206 : decode cX7_leaf 206 = .ok (.iload_n 1, 1) := dk_27 (dk_at dksX7_leaf_8 18 rfl rfl)
theorem dX7_leaf_207 : decode cX7_leaf 207 = .ok (.iaload, 1) := dk_46 (dk_at dksX7_leaf_8 19 rfl rfl)
theorem dX7_leaf_208 : decode cX7_leaf 208 = .ok (.invokestatic 350, 3) := dk_184 1 94 (dk_at dksX7_leaf_8 20 rfl rfl)
theorem dX7_leaf_211 : decode cX7_leaf 211 = .ok (.invokevirtual 341, 3) := dk_182 1 85 (dk_at dksX7_leaf_9 0 rfl rfl)
theorem dX7_leaf_214 : decode cX7_leaf 214 = .ok (.istore 5, 2) := dk_54 5 (dk_at dksX7_leaf_9 3 rfl rfl)
theorem dX7_leaf_216 : decode cX7_leaf 216 = .ok (.aload_n 0, 1) := dk_42 (dk_at dksX7_leaf_9 5 rfl rfl)
theorem dX7_leaf_217 : decode cX7_leaf 217 = .ok (.getfield 111, 3) := dk_180 0 111 (dk_at dksX7_leaf_9 6 rfl rfl)
theorem dX7_leaf_220 : decode cX7_leaf 220 = .ok (.bipush 81, 2) := dk_16 81 (dk_at dksX7_leaf_9 9 rfl rfl)
theorem dX7_leaf_222 : decode cX7_leaf 222 = .ok (.aload_n 0, 1) := dk_42 (dk_at dksX7_leaf_9 11 rfl rfl)
theorem dX7_leaf_223 : decode cX7_leaf 223 = .ok (.getfield 353, 3) := dk_180 1 97 (dk_at dksX7_leaf_9 12 rfl rfl)
theorem dX7_leaf_226 : decode cX7_leaf 226 = .ok (.imul, 1) := dk_104 (dk_at dksX7_leaf_9 15 rfl rfl)
theorem dX7_leaf_227 : decode cX7_leaf 227 = .ok (.iload 4, 2) := dk_21 4 (dk_at dksX7_leaf_9 16 rfl rfl)
theorem dX7_leaf_229 : decode cX7_leaf 229 = .ok (.iadd, 1) := dk_96 (dk_at dksX7_leaf_9 18 rfl rfl)
theorem dX7_leaf_230 : decode cX7_leaf 230 = .ok (.iload 5, 2) := dk_21 5 (dk_at dksX7_leaf_9 19 rfl rfl)
theorem dX7_leaf_232 : decode cX7_leaf 232 = .ok (.bastore, 1) := dk_84 (dk_at dksX7_leaf_9 21 rfl rfl)
theorem dX7_leaf_233 : decode cX7_leaf 233 = .ok (.iinc 4 1, 3) := dk_132 4 1 (dk_at dksX7_leaf_10 0 rfl rfl)
theorem dX7_leaf_236 : decode cX7_leaf 236 = .ok (.goto (-185), 3) := dk_167 255 71 (dk_at dksX7_leaf_10 3 rfl rfl)
theorem dX7_leaf_239 : decode cX7_leaf 239 = .ok (.aload_n 0, 1) := dk_42 (dk_at dksX7_leaf_10 6 rfl rfl)
theorem dX7_leaf_240 : decode cX7_leaf 240 = .ok (.dup, 1) := dk_89 (dk_at dksX7_leaf_10 7 rfl rfl)
theorem dX7_leaf_241 : decode cX7_leaf 241 = .ok (.getfield 353, 3) := dk_180 1 97 (dk_at dksX7_leaf_10 8 rfl rfl)
theorem dX7_leaf_244 : decode cX7_leaf 244 = .ok (.iconst 1, 1) := dk_4 (dk_at dksX7_leaf_10 11 rfl rfl)
theorem dX7_leaf_245 : decode cX7_leaf 245 = .ok (.iadd, 1) := dk_96 (dk_at dksX7_leaf_10 12 rfl rfl)
theorem dX7_leaf_246 : decode cX7_leaf 246 = .ok (.putfield 353, 3) := dk_181 1 97 (dk_at dksX7_leaf_10 13 rfl rfl)
theorem dX7_leaf_249 : decode cX7_leaf 249 = .ok (.return_, 1) := dk_177 (dk_at dksX7_leaf_10 16 rfl rfl)
abbrev cX7_isTree : ByteArray := prog_33_method_56_code
def yX7_isTree : MethodName := ⟨RX7, "isTree", "(I)Z"⟩
def dkwX7_isTree_3 : List UInt8 := [154, 0, 7, 4, 167, 0, 4, 3, 61, 132, 3, 1, 167, 255, 182, 28, 172]
abbrev dktX7_isTree_3 : List UInt8 := dkwX7_isTree_3 ++ []
def dkwX7_isTree_2 : List UInt8 := [132, 5, 1, 167, 255, 226, 28, 153, 0, 24, 21, 4, 4, 163, 0, 18, 42, 180, 0, 114, 7, 29, 104, 51]
abbrev dktX7_isTree_2 : List UInt8 := dkwX7_isTree_2 ++ dktX7_isTree_3
def dkwX7_isTree_1 : List UInt8 := [162, 0, 30, 21, 4, 42, 27, 29, 21, 5, 182, 1, 85, 153, 0, 7, 4, 167, 0, 4, 3, 96, 54, 4]
abbrev dktX7_isTree_1 : List UInt8 := dkwX7_isTree_1 ++ dktX7_isTree_2
def dkwX7_isTree_0 : List UInt8 := [42, 27, 182, 1, 88, 4, 61, 3, 62, 29, 6, 162, 0, 75, 3, 54, 4, 3, 54, 5, 21, 5, 6]
abbrev dktX7_isTree_0 : List UInt8 := dkwX7_isTree_0 ++ dktX7_isTree_1
theorem dksX7_isTree_0 : cX7_isTree.data.toList.drop 0 = dktX7_isTree_0 := by decide +kernel
theorem dksX7_isTree_1 : cX7_isTree.data.toList.drop 23 = dktX7_isTree_1 := dk_seg dksX7_isTree_0 23 rfl rfl
theorem dksX7_isTree_2 : cX7_isTree.data.toList.drop 47 = dktX7_isTree_2 := dk_seg dksX7_isTree_1 24 rfl rfl
theorem dksX7_isTree_3 : cX7_isTree.data.toList.drop 71 = dktX7_isTree_3 := dk_seg dksX7_isTree_2 24 rfl rfl
theorem dX7_isTree_0 : decode cX7_isTree 0 = .ok (.aload_n 0, 1) := dk_42 (dk_at dksX7_isTree_0 0 rfl rfl)
theorem dX7_isTree_1 : decode cX7_isTree 1 = .ok (.iload_n 1, 1) := dk_27 (dk_at dksX7_isTree_0 1 rfl rfl)
theorem dX7_isTree_2 : decode cX7_isTree 2 = .ok (.invokevirtual 344, 3) := dk_182 1 88 (dk_at dksX7_isTree_0 2 rfl rfl)
theorem dX7_isTree_5 : decode cX7_isTree 5 = .ok (.iconst 1, 1) := dk_4 (dk_at dksX7_isTree_0 5 rfl rfl)
theorem dX7_isTree_6 : decode cX7_isTree 6 = .ok (.istore_n 2, 1) := dk_61 (dk_at dksX7_isTree_0 6 rfl rfl)
theorem dX7_isTree_7 : decode cX7_isTree 7 = .ok (.iconst 0, 1) := dk_3 (dk_at dksX7_isTree_0 7 rfl rfl)
theorem dX7_isTree_8 : decode cX7_isTree 8 = .ok (.istore_n 3, 1) := dk_62 (dk_at dksX7_isTree_0 8 rfl rfl)
theorem dX7_isTree_9 : decode cX7_isTree 9 = .ok (.iload_n 3, 1) := dk_29 (dk_at dksX7_isTree_0 9 rfl rfl)
theorem dX7_isTree_10 : decode cX7_isTree 10 = .ok (.iconst 3, 1) := dk_6 (dk_at dksX7_isTree_0 10 rfl rfl)
theorem dX7_isTree_11 : decode cX7_isTree 11 = .ok (.if_icmp .ge 75, 3) := dk_162 0 75 (dk_at dksX7_isTree_0 11 rfl rfl)
theorem dX7_isTree_14 : decode cX7_isTree 14 = .ok (.iconst 0, 1) := dk_3 (dk_at dksX7_isTree_0 14 rfl rfl)
theorem dX7_isTree_15 : decode cX7_isTree 15 = .ok (.istore 4, 2) := dk_54 4 (dk_at dksX7_isTree_0 15 rfl rfl)
theorem dX7_isTree_17 : decode cX7_isTree 17 = .ok (.iconst 0, 1) := dk_3 (dk_at dksX7_isTree_0 17 rfl rfl)
theorem dX7_isTree_18 : decode cX7_isTree 18 = .ok (.istore 5, 2) := dk_54 5 (dk_at dksX7_isTree_0 18 rfl rfl)
theorem dX7_isTree_20 : decode cX7_isTree 20 = .ok (.iload 5, 2) := dk_21 5 (dk_at dksX7_isTree_0 20 rfl rfl)
theorem dX7_isTree_22 : decode cX7_isTree 22 = .ok (.iconst 3, 1) := dk_6 (dk_at dksX7_isTree_0 22 rfl rfl)
theorem dX7_isTree_23 : decode cX7_isTree 23 = .ok (.if_icmp .ge 30, 3) := dk_162 0 30 (dk_at dksX7_isTree_1 0 rfl rfl)
theorem dX7_isTree_26 : decode cX7_isTree 26 = .ok (.iload 4, 2) := dk_21 4 (dk_at dksX7_isTree_1 3 rfl rfl)
theorem dX7_isTree_28 : decode cX7_isTree 28 = .ok (.aload_n 0, 1) := dk_42 (dk_at dksX7_isTree_1 5 rfl rfl)
theorem dX7_isTree_29 : decode cX7_isTree 29 = .ok (.iload_n 1, 1) := dk_27 (dk_at dksX7_isTree_1 6 rfl rfl)
theorem dX7_isTree_30 : decode cX7_isTree 30 = .ok (.iload_n 3, 1) := dk_29 (dk_at dksX7_isTree_1 7 rfl rfl)
theorem dX7_isTree_31 : decode cX7_isTree 31 = .ok (.iload 5, 2) := dk_21 5 (dk_at dksX7_isTree_1 8 rfl rfl)
theorem dX7_isTree_33 : decode cX7_isTree 33 = .ok (.invokevirtual 341, 3) := dk_182 1 85 (dk_at dksX7_isTree_1 10 rfl rfl)
theorem dX7_isTree_36 : decode cX7_isTree 36 = .ok (.ifCond .eq 7, 3) := dk_153 0 7 (dk_at dksX7_isTree_1 13 rfl rfl)
theorem dX7_isTree_39 : decode cX7_isTree 39 = .ok (.iconst 1, 1) := dk_4 (dk_at dksX7_isTree_1 16 rfl rfl)
theorem dX7_isTree_40 : decode cX7_isTree 40 = .ok (.goto 4, 3) := dk_167 0 4 (dk_at dksX7_isTree_1 17 rfl rfl)
theorem dX7_isTree_43 : decode cX7_isTree 43 = .ok (.iconst 0, 1) := dk_3 (dk_at dksX7_isTree_1 20 rfl rfl)
theorem dX7_isTree_44 : decode cX7_isTree 44 = .ok (.iadd, 1) := dk_96 (dk_at dksX7_isTree_1 21 rfl rfl)
theorem dX7_isTree_45 : decode cX7_isTree 45 = .ok (.istore 4, 2) := dk_54 4 (dk_at dksX7_isTree_1 22 rfl rfl)
theorem dX7_isTree_47 : decode cX7_isTree 47 = .ok (.iinc 5 1, 3) := dk_132 5 1 (dk_at dksX7_isTree_2 0 rfl rfl)
theorem dX7_isTree_50 : decode cX7_isTree 50 = .ok (.goto (-30), 3) := dk_167 255 226 (dk_at dksX7_isTree_2 3 rfl rfl)
theorem dX7_isTree_53 : decode cX7_isTree 53 = .ok (.iload_n 2, 1) := dk_28 (dk_at dksX7_isTree_2 6 rfl rfl)
theorem dX7_isTree_54 : decode cX7_isTree 54 = .ok (.ifCond .eq 24, 3) := dk_153 0 24 (dk_at dksX7_isTree_2 7 rfl rfl)
theorem dX7_isTree_57 : decode cX7_isTree 57 = .ok (.iload 4, 2) := dk_21 4 (dk_at dksX7_isTree_2 10 rfl rfl)
theorem dX7_isTree_59 : decode cX7_isTree 59 = .ok (.iconst 1, 1) := dk_4 (dk_at dksX7_isTree_2 12 rfl rfl)
theorem dX7_isTree_60 : decode cX7_isTree 60 = .ok (.if_icmp .gt 18, 3) := dk_163 0 18 (dk_at dksX7_isTree_2 13 rfl rfl)
theorem dX7_isTree_63 : decode cX7_isTree 63 = .ok (.aload_n 0, 1) := dk_42 (dk_at dksX7_isTree_2 16 rfl rfl)
theorem dX7_isTree_64 : decode cX7_isTree 64 = .ok (.getfield 114, 3) := dk_180 0 114 (dk_at dksX7_isTree_2 17 rfl rfl)
theorem dX7_isTree_67 : decode cX7_isTree 67 = .ok (.iconst 4, 1) := dk_7 (dk_at dksX7_isTree_2 20 rfl rfl)
theorem dX7_isTree_68 : decode cX7_isTree 68 = .ok (.iload_n 3, 1) := dk_29 (dk_at dksX7_isTree_2 21 rfl rfl)
theorem dX7_isTree_69 : decode cX7_isTree 69 = .ok (.imul, 1) := dk_104 (dk_at dksX7_isTree_2 22 rfl rfl)
theorem dX7_isTree_70 : decode cX7_isTree 70 = .ok (.baload, 1) := dk_51 (dk_at dksX7_isTree_2 23 rfl rfl)
theorem dX7_isTree_71 : decode cX7_isTree 71 = .ok (.ifCond .ne 7, 3) := dk_154 0 7 (dk_at dksX7_isTree_3 0 rfl rfl)
theorem dX7_isTree_74 : decode cX7_isTree 74 = .ok (.iconst 1, 1) := dk_4 (dk_at dksX7_isTree_3 3 rfl rfl)
theorem dX7_isTree_75 : decode cX7_isTree 75 = .ok (.goto 4, 3) := dk_167 0 4 (dk_at dksX7_isTree_3 4 rfl rfl)
theorem dX7_isTree_78 : decode cX7_isTree 78 = .ok (.iconst 0, 1) := dk_3 (dk_at dksX7_isTree_3 7 rfl rfl)
theorem dX7_isTree_79 : decode cX7_isTree 79 = .ok (.istore_n 2, 1) := dk_61 (dk_at dksX7_isTree_3 8 rfl rfl)
theorem dX7_isTree_80 : decode cX7_isTree 80 = .ok (.iinc 3 1, 3) := dk_132 3 1 (dk_at dksX7_isTree_3 9 rfl rfl)
theorem dX7_isTree_83 : decode cX7_isTree 83 = .ok (.goto (-74), 3) := dk_167 255 182 (dk_at dksX7_isTree_3 12 rfl rfl)
theorem dX7_isTree_86 : decode cX7_isTree 86 = .ok (.iload_n 2, 1) := dk_28 (dk_at dksX7_isTree_3 15 rfl rfl)
theorem dX7_isTree_87 : decode cX7_isTree 87 = .ok (.ireturn, 1) := dk_172 (dk_at dksX7_isTree_3 16 rfl rfl)
abbrev cX7_findJoined : ByteArray := prog_33_method_55_code
def yX7_findJoined : MethodName := ⟨RX7, "findJoined", "(I)V"⟩
def dkwX7_findJoined_4 : List UInt8 := [84, 132, 3, 1, 167, 255, 197, 132, 2, 1, 167, 255, 184, 177]
abbrev dktX7_findJoined_4 : List UInt8 := dkwX7_findJoined_4 ++ []
def dkwX7_findJoined_3 : List UInt8 := [51, 153, 0, 22, 42, 180, 0, 114, 6, 28, 104, 29, 6, 112, 96, 51, 153, 0, 7, 4, 167, 0, 4, 3]
abbrev dktX7_findJoined_3 : List UInt8 := dkwX7_findJoined_3 ++ dktX7_findJoined_4
def dkwX7_findJoined_2 : List UInt8 := [180, 0, 114, 29, 42, 180, 0, 114, 29, 51, 154, 0, 33, 42, 180, 0, 114, 29, 29, 6, 112, 100, 28, 96]
abbrev dktX7_findJoined_2 : List UInt8 := dkwX7_findJoined_2 ++ dktX7_findJoined_3
def dkwX7_findJoined_1 : List UInt8 := [84, 132, 2, 1, 167, 255, 230, 3, 61, 28, 6, 162, 0, 73, 3, 62, 29, 16, 9, 162, 0, 59, 42]
abbrev dktX7_findJoined_1 : List UInt8 := dkwX7_findJoined_1 ++ dktX7_findJoined_2
def dkwX7_findJoined_0 : List UInt8 := [3, 61, 28, 16, 9, 162, 0, 26, 42, 180, 0, 114, 28, 42, 27, 28, 6, 108, 28, 6, 112, 182, 1, 85]
abbrev dktX7_findJoined_0 : List UInt8 := dkwX7_findJoined_0 ++ dktX7_findJoined_1
theorem dksX7_findJoined_0 : cX7_findJoined.data.toList.drop 0 = dktX7_findJoined_0 := by decide +kernel
theorem dksX7_findJoined_1 : cX7_findJoined.data.toList.drop 24 = dktX7_findJoined_1 := dk_seg dksX7_findJoined_0 24 rfl rfl
theorem dksX7_findJoined_2 : cX7_findJoined.data.toList.drop 47 = dktX7_findJoined_2 := dk_seg dksX7_findJoined_1 23 rfl rfl
theorem dksX7_findJoined_3 : cX7_findJoined.data.toList.drop 71 = dktX7_findJoined_3 := dk_seg dksX7_findJoined_2 24 rfl rfl
theorem dksX7_findJoined_4 : cX7_findJoined.data.toList.drop 95 = dktX7_findJoined_4 := dk_seg dksX7_findJoined_3 24 rfl rfl
theorem dX7_findJoined_0 : decode cX7_findJoined 0 = .ok (.iconst 0, 1) := dk_3 (dk_at dksX7_findJoined_0 0 rfl rfl)
theorem dX7_findJoined_1 : decode cX7_findJoined 1 = .ok (.istore_n 2, 1) := dk_61 (dk_at dksX7_findJoined_0 1 rfl rfl)
theorem dX7_findJoined_2 : decode cX7_findJoined 2 = .ok (.iload_n 2, 1) := dk_28 (dk_at dksX7_findJoined_0 2 rfl rfl)
theorem dX7_findJoined_3 : decode cX7_findJoined 3 = .ok (.bipush 9, 2) := dk_16 9 (dk_at dksX7_findJoined_0 3 rfl rfl)
theorem dX7_findJoined_5 : decode cX7_findJoined 5 = .ok (.if_icmp .ge 26, 3) := dk_162 0 26 (dk_at dksX7_findJoined_0 5 rfl rfl)
theorem dX7_findJoined_8 : decode cX7_findJoined 8 = .ok (.aload_n 0, 1) := dk_42 (dk_at dksX7_findJoined_0 8 rfl rfl)
theorem dX7_findJoined_9 : decode cX7_findJoined 9 = .ok (.getfield 114, 3) := dk_180 0 114 (dk_at dksX7_findJoined_0 9 rfl rfl)
theorem dX7_findJoined_12 : decode cX7_findJoined 12 = .ok (.iload_n 2, 1) := dk_28 (dk_at dksX7_findJoined_0 12 rfl rfl)
theorem dX7_findJoined_13 : decode cX7_findJoined 13 = .ok (.aload_n 0, 1) := dk_42 (dk_at dksX7_findJoined_0 13 rfl rfl)
theorem dX7_findJoined_14 : decode cX7_findJoined 14 = .ok (.iload_n 1, 1) := dk_27 (dk_at dksX7_findJoined_0 14 rfl rfl)
theorem dX7_findJoined_15 : decode cX7_findJoined 15 = .ok (.iload_n 2, 1) := dk_28 (dk_at dksX7_findJoined_0 15 rfl rfl)
theorem dX7_findJoined_16 : decode cX7_findJoined 16 = .ok (.iconst 3, 1) := dk_6 (dk_at dksX7_findJoined_0 16 rfl rfl)
theorem dX7_findJoined_17 : decode cX7_findJoined 17 = .ok (.idiv, 1) := dk_108 (dk_at dksX7_findJoined_0 17 rfl rfl)
theorem dX7_findJoined_18 : decode cX7_findJoined 18 = .ok (.iload_n 2, 1) := dk_28 (dk_at dksX7_findJoined_0 18 rfl rfl)
theorem dX7_findJoined_19 : decode cX7_findJoined 19 = .ok (.iconst 3, 1) := dk_6 (dk_at dksX7_findJoined_0 19 rfl rfl)
theorem dX7_findJoined_20 : decode cX7_findJoined 20 = .ok (.irem, 1) := dk_112 (dk_at dksX7_findJoined_0 20 rfl rfl)
theorem dX7_findJoined_21 : decode cX7_findJoined 21 = .ok (.invokevirtual 341, 3) := dk_182 1 85 (dk_at dksX7_findJoined_0 21 rfl rfl)
theorem dX7_findJoined_24 : decode cX7_findJoined 24 = .ok (.bastore, 1) := dk_84 (dk_at dksX7_findJoined_1 0 rfl rfl)
theorem dX7_findJoined_25 : decode cX7_findJoined 25 = .ok (.iinc 2 1, 3) := dk_132 2 1 (dk_at dksX7_findJoined_1 1 rfl rfl)
theorem dX7_findJoined_28 : decode cX7_findJoined 28 = .ok (.goto (-26), 3) := dk_167 255 230 (dk_at dksX7_findJoined_1 4 rfl rfl)
theorem dX7_findJoined_31 : decode cX7_findJoined 31 = .ok (.iconst 0, 1) := dk_3 (dk_at dksX7_findJoined_1 7 rfl rfl)
theorem dX7_findJoined_32 : decode cX7_findJoined 32 = .ok (.istore_n 2, 1) := dk_61 (dk_at dksX7_findJoined_1 8 rfl rfl)
theorem dX7_findJoined_33 : decode cX7_findJoined 33 = .ok (.iload_n 2, 1) := dk_28 (dk_at dksX7_findJoined_1 9 rfl rfl)
theorem dX7_findJoined_34 : decode cX7_findJoined 34 = .ok (.iconst 3, 1) := dk_6 (dk_at dksX7_findJoined_1 10 rfl rfl)
theorem dX7_findJoined_35 : decode cX7_findJoined 35 = .ok (.if_icmp .ge 73, 3) := dk_162 0 73 (dk_at dksX7_findJoined_1 11 rfl rfl)
theorem dX7_findJoined_38 : decode cX7_findJoined 38 = .ok (.iconst 0, 1) := dk_3 (dk_at dksX7_findJoined_1 14 rfl rfl)
theorem dX7_findJoined_39 : decode cX7_findJoined 39 = .ok (.istore_n 3, 1) := dk_62 (dk_at dksX7_findJoined_1 15 rfl rfl)
theorem dX7_findJoined_40 : decode cX7_findJoined 40 = .ok (.iload_n 3, 1) := dk_29 (dk_at dksX7_findJoined_1 16 rfl rfl)
theorem dX7_findJoined_41 : decode cX7_findJoined 41 = .ok (.bipush 9, 2) := dk_16 9 (dk_at dksX7_findJoined_1 17 rfl rfl)
theorem dX7_findJoined_43 : decode cX7_findJoined 43 = .ok (.if_icmp .ge 59, 3) := dk_162 0 59 (dk_at dksX7_findJoined_1 19 rfl rfl)
theorem dX7_findJoined_46 : decode cX7_findJoined 46 = .ok (.aload_n 0, 1) := dk_42 (dk_at dksX7_findJoined_1 22 rfl rfl)
theorem dX7_findJoined_47 : decode cX7_findJoined 47 = .ok (.getfield 114, 3) := dk_180 0 114 (dk_at dksX7_findJoined_2 0 rfl rfl)
theorem dX7_findJoined_50 : decode cX7_findJoined 50 = .ok (.iload_n 3, 1) := dk_29 (dk_at dksX7_findJoined_2 3 rfl rfl)
theorem dX7_findJoined_51 : decode cX7_findJoined 51 = .ok (.aload_n 0, 1) := dk_42 (dk_at dksX7_findJoined_2 4 rfl rfl)
theorem dX7_findJoined_52 : decode cX7_findJoined 52 = .ok (.getfield 114, 3) := dk_180 0 114 (dk_at dksX7_findJoined_2 5 rfl rfl)
theorem dX7_findJoined_55 : decode cX7_findJoined 55 = .ok (.iload_n 3, 1) := dk_29 (dk_at dksX7_findJoined_2 8 rfl rfl)
theorem dX7_findJoined_56 : decode cX7_findJoined 56 = .ok (.baload, 1) := dk_51 (dk_at dksX7_findJoined_2 9 rfl rfl)
theorem dX7_findJoined_57 : decode cX7_findJoined 57 = .ok (.ifCond .ne 33, 3) := dk_154 0 33 (dk_at dksX7_findJoined_2 10 rfl rfl)
theorem dX7_findJoined_60 : decode cX7_findJoined 60 = .ok (.aload_n 0, 1) := dk_42 (dk_at dksX7_findJoined_2 13 rfl rfl)
theorem dX7_findJoined_61 : decode cX7_findJoined 61 = .ok (.getfield 114, 3) := dk_180 0 114 (dk_at dksX7_findJoined_2 14 rfl rfl)
theorem dX7_findJoined_64 : decode cX7_findJoined 64 = .ok (.iload_n 3, 1) := dk_29 (dk_at dksX7_findJoined_2 17 rfl rfl)
theorem dX7_findJoined_65 : decode cX7_findJoined 65 = .ok (.iload_n 3, 1) := dk_29 (dk_at dksX7_findJoined_2 18 rfl rfl)
theorem dX7_findJoined_66 : decode cX7_findJoined 66 = .ok (.iconst 3, 1) := dk_6 (dk_at dksX7_findJoined_2 19 rfl rfl)
theorem dX7_findJoined_67 : decode cX7_findJoined 67 = .ok (.irem, 1) := dk_112 (dk_at dksX7_findJoined_2 20 rfl rfl)
theorem dX7_findJoined_68 : decode cX7_findJoined 68 = .ok (.isub, 1) := dk_100 (dk_at dksX7_findJoined_2 21 rfl rfl)
theorem dX7_findJoined_69 : decode cX7_findJoined 69 = .ok (.iload_n 2, 1) := dk_28 (dk_at dksX7_findJoined_2 22 rfl rfl)
theorem dX7_findJoined_70 : decode cX7_findJoined 70 = .ok (.iadd, 1) := dk_96 (dk_at dksX7_findJoined_2 23 rfl rfl)
theorem dX7_findJoined_71 : decode cX7_findJoined 71 = .ok (.baload, 1) := dk_51 (dk_at dksX7_findJoined_3 0 rfl rfl)
theorem dX7_findJoined_72 : decode cX7_findJoined 72 = .ok (.ifCond .eq 22, 3) := dk_153 0 22 (dk_at dksX7_findJoined_3 1 rfl rfl)
theorem dX7_findJoined_75 : decode cX7_findJoined 75 = .ok (.aload_n 0, 1) := dk_42 (dk_at dksX7_findJoined_3 4 rfl rfl)
theorem dX7_findJoined_76 : decode cX7_findJoined 76 = .ok (.getfield 114, 3) := dk_180 0 114 (dk_at dksX7_findJoined_3 5 rfl rfl)
theorem dX7_findJoined_79 : decode cX7_findJoined 79 = .ok (.iconst 3, 1) := dk_6 (dk_at dksX7_findJoined_3 8 rfl rfl)
theorem dX7_findJoined_80 : decode cX7_findJoined 80 = .ok (.iload_n 2, 1) := dk_28 (dk_at dksX7_findJoined_3 9 rfl rfl)
theorem dX7_findJoined_81 : decode cX7_findJoined 81 = .ok (.imul, 1) := dk_104 (dk_at dksX7_findJoined_3 10 rfl rfl)
theorem dX7_findJoined_82 : decode cX7_findJoined 82 = .ok (.iload_n 3, 1) := dk_29 (dk_at dksX7_findJoined_3 11 rfl rfl)
theorem dX7_findJoined_83 : decode cX7_findJoined 83 = .ok (.iconst 3, 1) := dk_6 (dk_at dksX7_findJoined_3 12 rfl rfl)
theorem dX7_findJoined_84 : decode cX7_findJoined 84 = .ok (.irem, 1) := dk_112 (dk_at dksX7_findJoined_3 13 rfl rfl)
theorem dX7_findJoined_85 : decode cX7_findJoined 85 = .ok (.iadd, 1) := dk_96 (dk_at dksX7_findJoined_3 14 rfl rfl)
theorem dX7_findJoined_86 : decode cX7_findJoined 86 = .ok (.baload, 1) := dk_51 (dk_at dksX7_findJoined_3 15 rfl rfl)
theorem dX7_findJoined_87 : decode cX7_findJoined 87 = .ok (.ifCond .eq 7, 3) := dk_153 0 7 (dk_at dksX7_findJoined_3 16 rfl rfl)
theorem dX7_findJoined_90 : decode cX7_findJoined 90 = .ok (.iconst 1, 1) := dk_4 (dk_at dksX7_findJoined_3 19 rfl rfl)
theorem dX7_findJoined_91 : decode cX7_findJoined 91 = .ok (.goto 4, 3) := dk_167 0 4 (dk_at dksX7_findJoined_3 20 rfl rfl)
theorem dX7_findJoined_94 : decode cX7_findJoined 94 = .ok (.iconst 0, 1) := dk_3 (dk_at dksX7_findJoined_3 23 rfl rfl)
theorem dX7_findJoined_95 : decode cX7_findJoined 95 = .ok (.bastore, 1) := dk_84 (dk_at dksX7_findJoined_4 0 rfl rfl)
theorem dX7_findJoined_96 : decode cX7_findJoined 96 = .ok (.iinc 3 1, 3) := dk_132 3 1 (dk_at dksX7_findJoined_4 1 rfl rfl)
theorem dX7_findJoined_99 : decode cX7_findJoined 99 = .ok (.goto (-59), 3) := dk_167 255 197 (dk_at dksX7_findJoined_4 4 rfl rfl)
theorem dX7_findJoined_102 : decode cX7_findJoined 102 = .ok (.iinc 2 1, 3) := dk_132 2 1 (dk_at dksX7_findJoined_4 7 rfl rfl)
theorem dX7_findJoined_105 : decode cX7_findJoined 105 = .ok (.goto (-72), 3) := dk_167 255 184 (dk_at dksX7_findJoined_4 10 rfl rfl)
theorem dX7_findJoined_108 : decode cX7_findJoined 108 = .ok (.return_, 1) := dk_177 (dk_at dksX7_findJoined_4 13 rfl rfl)
abbrev cX7_isSo : ByteArray := prog_33_method_12_code
def yX7_isSo : MethodName := ⟨RX7, "isSo", "(III)Z"⟩
def dkwX7_isSo_1 : List UInt8 := [153, 0, 7, 4, 167, 0, 4, 3, 172]
abbrev dktX7_isSo_1 : List UInt8 := dkwX7_isSo_1 ++ []
def dkwX7_isSo_0 : List UInt8 := [42, 27, 28, 29, 182, 0, 164, 54, 4, 21, 4, 2, 159, 0, 17, 42, 180, 0, 93, 21, 4, 51]
abbrev dktX7_isSo_0 : List UInt8 := dkwX7_isSo_0 ++ dktX7_isSo_1
theorem dksX7_isSo_0 : cX7_isSo.data.toList.drop 0 = dktX7_isSo_0 := by decide +kernel
theorem dksX7_isSo_1 : cX7_isSo.data.toList.drop 22 = dktX7_isSo_1 := dk_seg dksX7_isSo_0 22 rfl rfl
theorem dX7_isSo_0 : decode cX7_isSo 0 = .ok (.aload_n 0, 1) := dk_42 (dk_at dksX7_isSo_0 0 rfl rfl)
theorem dX7_isSo_1 : decode cX7_isSo 1 = .ok (.iload_n 1, 1) := dk_27 (dk_at dksX7_isSo_0 1 rfl rfl)
theorem dX7_isSo_2 : decode cX7_isSo 2 = .ok (.iload_n 2, 1) := dk_28 (dk_at dksX7_isSo_0 2 rfl rfl)
theorem dX7_isSo_3 : decode cX7_isSo 3 = .ok (.iload_n 3, 1) := dk_29 (dk_at dksX7_isSo_0 3 rfl rfl)
theorem dX7_isSo_4 : decode cX7_isSo 4 = .ok (.invokevirtual 164, 3) := dk_182 0 164 (dk_at dksX7_isSo_0 4 rfl rfl)
theorem dX7_isSo_7 : decode cX7_isSo 7 = .ok (.istore 4, 2) := dk_54 4 (dk_at dksX7_isSo_0 7 rfl rfl)
theorem dX7_isSo_9 : decode cX7_isSo 9 = .ok (.iload 4, 2) := dk_21 4 (dk_at dksX7_isSo_0 9 rfl rfl)
theorem dX7_isSo_11 : decode cX7_isSo 11 = .ok (.iconst (-1), 1) := dk_2 (dk_at dksX7_isSo_0 11 rfl rfl)
theorem dX7_isSo_12 : decode cX7_isSo 12 = .ok (.if_icmp .eq 17, 3) := dk_159 0 17 (dk_at dksX7_isSo_0 12 rfl rfl)
theorem dX7_isSo_15 : decode cX7_isSo 15 = .ok (.aload_n 0, 1) := dk_42 (dk_at dksX7_isSo_0 15 rfl rfl)
theorem dX7_isSo_16 : decode cX7_isSo 16 = .ok (.getfield 93, 3) := dk_180 0 93 (dk_at dksX7_isSo_0 16 rfl rfl)
theorem dX7_isSo_19 : decode cX7_isSo 19 = .ok (.iload 4, 2) := dk_21 4 (dk_at dksX7_isSo_0 19 rfl rfl)
theorem dX7_isSo_21 : decode cX7_isSo 21 = .ok (.baload, 1) := dk_51 (dk_at dksX7_isSo_0 21 rfl rfl)
theorem dX7_isSo_22 : decode cX7_isSo 22 = .ok (.ifCond .eq 7, 3) := dk_153 0 7 (dk_at dksX7_isSo_1 0 rfl rfl)
theorem dX7_isSo_25 : decode cX7_isSo 25 = .ok (.iconst 1, 1) := dk_4 (dk_at dksX7_isSo_1 3 rfl rfl)
theorem dX7_isSo_26 : decode cX7_isSo 26 = .ok (.goto 4, 3) := dk_167 0 4 (dk_at dksX7_isSo_1 4 rfl rfl)
theorem dX7_isSo_29 : decode cX7_isSo 29 = .ok (.iconst 0, 1) := dk_3 (dk_at dksX7_isSo_1 7 rfl rfl)
theorem dX7_isSo_30 : decode cX7_isSo 30 = .ok (.ireturn, 1) := dk_172 (dk_at dksX7_isSo_1 8 rfl rfl)
abbrev cX7_valueIn : ByteArray := prog_33_method_54_code
def yX7_valueIn : MethodName := ⟨RX7, "valueIn", "(II)I"⟩
def dkwX7_valueIn_0 : List UInt8 := [26, 27, 184, 1, 82, 108, 6, 112, 172]
abbrev dktX7_valueIn_0 : List UInt8 := dkwX7_valueIn_0 ++ []
theorem dksX7_valueIn_0 : cX7_valueIn.data.toList.drop 0 = dktX7_valueIn_0 := by decide +kernel
theorem dX7_valueIn_0 : decode cX7_valueIn 0 = .ok (.iload_n 0, 1) := dk_26 (dk_at dksX7_valueIn_0 0 rfl rfl)
theorem dX7_valueIn_1 : decode cX7_valueIn 1 = .ok (.iload_n 1, 1) := dk_27 (dk_at dksX7_valueIn_0 1 rfl rfl)
theorem dX7_valueIn_2 : decode cX7_valueIn 2 = .ok (.invokestatic 338, 3) := dk_184 1 82 (dk_at dksX7_valueIn_0 2 rfl rfl)
theorem dX7_valueIn_5 : decode cX7_valueIn 5 = .ok (.idiv, 1) := dk_108 (dk_at dksX7_valueIn_0 5 rfl rfl)
theorem dX7_valueIn_6 : decode cX7_valueIn 6 = .ok (.iconst 3, 1) := dk_6 (dk_at dksX7_valueIn_0 6 rfl rfl)
theorem dX7_valueIn_7 : decode cX7_valueIn 7 = .ok (.irem, 1) := dk_112 (dk_at dksX7_valueIn_0 7 rfl rfl)
theorem dX7_valueIn_8 : decode cX7_valueIn 8 = .ok (.ireturn, 1) := dk_172 (dk_at dksX7_valueIn_0 8 rfl rfl)
abbrev cX7_unit : ByteArray := prog_33_method_53_code
def yX7_unit : MethodName := ⟨RX7, "unit", "(I)I"⟩
def dkwX7_unit_1 : List UInt8 := [167, 0, 5, 16, 27, 172]
abbrev dktX7_unit_1 : List UInt8 := dkwX7_unit_1 ++ []
def dkwX7_unit_0 : List UInt8 := [26, 154, 0, 7, 4, 167, 0, 24, 26, 4, 160, 0, 7, 6, 167, 0, 15, 26, 5, 160, 0, 8, 16, 9]
abbrev dktX7_unit_0 : List UInt8 := dkwX7_unit_0 ++ dktX7_unit_1
theorem dksX7_unit_0 : cX7_unit.data.toList.drop 0 = dktX7_unit_0 := by decide +kernel
theorem dksX7_unit_1 : cX7_unit.data.toList.drop 24 = dktX7_unit_1 := dk_seg dksX7_unit_0 24 rfl rfl
theorem dX7_unit_0 : decode cX7_unit 0 = .ok (.iload_n 0, 1) := dk_26 (dk_at dksX7_unit_0 0 rfl rfl)
theorem dX7_unit_1 : decode cX7_unit 1 = .ok (.ifCond .ne 7, 3) := dk_154 0 7 (dk_at dksX7_unit_0 1 rfl rfl)
theorem dX7_unit_4 : decode cX7_unit 4 = .ok (.iconst 1, 1) := dk_4 (dk_at dksX7_unit_0 4 rfl rfl)
theorem dX7_unit_5 : decode cX7_unit 5 = .ok (.goto 24, 3) := dk_167 0 24 (dk_at dksX7_unit_0 5 rfl rfl)
theorem dX7_unit_8 : decode cX7_unit 8 = .ok (.iload_n 0, 1) := dk_26 (dk_at dksX7_unit_0 8 rfl rfl)
theorem dX7_unit_9 : decode cX7_unit 9 = .ok (.iconst 1, 1) := dk_4 (dk_at dksX7_unit_0 9 rfl rfl)
theorem dX7_unit_10 : decode cX7_unit 10 = .ok (.if_icmp .ne 7, 3) := dk_160 0 7 (dk_at dksX7_unit_0 10 rfl rfl)
theorem dX7_unit_13 : decode cX7_unit 13 = .ok (.iconst 3, 1) := dk_6 (dk_at dksX7_unit_0 13 rfl rfl)
theorem dX7_unit_14 : decode cX7_unit 14 = .ok (.goto 15, 3) := dk_167 0 15 (dk_at dksX7_unit_0 14 rfl rfl)
theorem dX7_unit_17 : decode cX7_unit 17 = .ok (.iload_n 0, 1) := dk_26 (dk_at dksX7_unit_0 17 rfl rfl)
theorem dX7_unit_18 : decode cX7_unit 18 = .ok (.iconst 2, 1) := dk_5 (dk_at dksX7_unit_0 18 rfl rfl)
theorem dX7_unit_19 : decode cX7_unit 19 = .ok (.if_icmp .ne 8, 3) := dk_160 0 8 (dk_at dksX7_unit_0 19 rfl rfl)
theorem dX7_unit_22 : decode cX7_unit 22 = .ok (.bipush 9, 2) := dk_16 9 (dk_at dksX7_unit_0 22 rfl rfl)
theorem dX7_unit_24 : decode cX7_unit 24 = .ok (.goto 5, 3) := dk_167 0 5 (dk_at dksX7_unit_1 0 rfl rfl)
theorem dX7_unit_27 : decode cX7_unit 27 = .ok (.bipush 27, 2) := dk_16 27 (dk_at dksX7_unit_1 3 rfl rfl)
theorem dX7_unit_29 : decode cX7_unit 29 = .ok (.ireturn, 1) := dk_172 (dk_at dksX7_unit_1 5 rfl rfl)
abbrev cX7_bind : ByteArray := prog_33_method_58_code
def yX7_bind : MethodName := ⟨RX7, "bind", "(I)V"⟩
def dkwX7_bind_9 : List UInt8 := [21, 8, 28, 104, 96, 21, 7, 84, 132, 8, 1, 167, 255, 230, 132, 5, 1, 167, 255, 63, 177]
abbrev dktX7_bind_9 : List UInt8 := dkwX7_bind_9 ++ []
def dkwX7_bind_8 : List UInt8 := [167, 0, 4, 3, 54, 7, 3, 54, 8, 21, 8, 6, 162, 0, 26, 42, 180, 0, 111, 21, 4, 21, 5, 96]
abbrev dktX7_bind_8 : List UInt8 := dkwX7_bind_8 ++ dktX7_bind_9
def dkwX7_bind_7 : List UInt8 := [46, 161, 0, 7, 4, 167, 0, 23, 3, 167, 0, 19, 21, 6, 42, 180, 0, 66, 27, 46, 163, 0, 7, 4]
abbrev dktX7_bind_7 : List UInt8 := dkwX7_bind_7 ++ dktX7_bind_8
def dkwX7_bind_6 : List UInt8 := [167, 0, 52, 3, 167, 0, 48, 42, 180, 0, 57, 27, 46, 5, 160, 0, 22, 21, 6, 42, 180, 0, 66, 27]
abbrev dktX7_bind_6 : List UInt8 := dkwX7_bind_6 ++ dktX7_bind_7
def dkwX7_bind_5 : List UInt8 := [167, 0, 75, 3, 167, 0, 71, 42, 180, 0, 57, 27, 46, 4, 160, 0, 16, 21, 6, 158, 0, 7, 4]
abbrev dktX7_bind_5 : List UInt8 := dkwX7_bind_5 ++ dktX7_bind_6
def dkwX7_bind_4 : List UInt8 := [54, 6, 132, 7, 1, 167, 255, 219, 42, 180, 0, 57, 27, 46, 154, 0, 17, 21, 6, 29, 160, 0, 7, 4]
abbrev dktX7_bind_4 : List UInt8 := dkwX7_bind_4 ++ dktX7_bind_5
def dkwX7_bind_3 : List UInt8 := [180, 0, 111, 21, 4, 21, 5, 96, 21, 7, 28, 104, 96, 51, 153, 0, 7, 4, 167, 0, 4, 3, 96]
abbrev dktX7_bind_3 : List UInt8 := dkwX7_bind_3 ++ dktX7_bind_4
def dkwX7_bind_2 : List UInt8 := [112, 158, 0, 6, 167, 0, 174, 3, 54, 6, 3, 54, 7, 21, 7, 29, 162, 0, 37, 21, 6, 42]
abbrev dktX7_bind_2 : List UInt8 := dkwX7_bind_2 ++ dktX7_bind_3
def dkwX7_bind_1 : List UInt8 := [42, 180, 1, 97, 4, 100, 104, 54, 4, 3, 54, 5, 21, 5, 16, 81, 162, 0, 192, 21, 5, 28, 108, 6]
abbrev dktX7_bind_1 : List UInt8 := dkwX7_bind_1 ++ dktX7_bind_2
def dkwX7_bind_0 : List UInt8 := [42, 180, 0, 60, 27, 46, 184, 1, 82, 61, 42, 180, 0, 87, 42, 180, 0, 63, 27, 46, 46, 62, 16, 81]
abbrev dktX7_bind_0 : List UInt8 := dkwX7_bind_0 ++ dktX7_bind_1
theorem dksX7_bind_0 : cX7_bind.data.toList.drop 0 = dktX7_bind_0 := by decide +kernel
theorem dksX7_bind_1 : cX7_bind.data.toList.drop 24 = dktX7_bind_1 := dk_seg dksX7_bind_0 24 rfl rfl
theorem dksX7_bind_2 : cX7_bind.data.toList.drop 48 = dktX7_bind_2 := dk_seg dksX7_bind_1 24 rfl rfl
theorem dksX7_bind_3 : cX7_bind.data.toList.drop 70 = dktX7_bind_3 := dk_seg dksX7_bind_2 22 rfl rfl
theorem dksX7_bind_4 : cX7_bind.data.toList.drop 93 = dktX7_bind_4 := dk_seg dksX7_bind_3 23 rfl rfl
theorem dksX7_bind_5 : cX7_bind.data.toList.drop 117 = dktX7_bind_5 := dk_seg dksX7_bind_4 24 rfl rfl
theorem dksX7_bind_6 : cX7_bind.data.toList.drop 140 = dktX7_bind_6 := dk_seg dksX7_bind_5 23 rfl rfl
theorem dksX7_bind_7 : cX7_bind.data.toList.drop 164 = dktX7_bind_7 := dk_seg dksX7_bind_6 24 rfl rfl
theorem dksX7_bind_8 : cX7_bind.data.toList.drop 188 = dktX7_bind_8 := dk_seg dksX7_bind_7 24 rfl rfl
theorem dksX7_bind_9 : cX7_bind.data.toList.drop 212 = dktX7_bind_9 := dk_seg dksX7_bind_8 24 rfl rfl
theorem dX7_bind_0 : decode cX7_bind 0 = .ok (.aload_n 0, 1) := dk_42 (dk_at dksX7_bind_0 0 rfl rfl)
theorem dX7_bind_1 : decode cX7_bind 1 = .ok (.getfield 60, 3) := dk_180 0 60 (dk_at dksX7_bind_0 1 rfl rfl)
theorem dX7_bind_4 : decode cX7_bind 4 = .ok (.iload_n 1, 1) := dk_27 (dk_at dksX7_bind_0 4 rfl rfl)
theorem dX7_bind_5 : decode cX7_bind 5 = .ok (.iaload, 1) := dk_46 (dk_at dksX7_bind_0 5 rfl rfl)
theorem dX7_bind_6 : decode cX7_bind 6 = .ok (.invokestatic 338, 3) := dk_184 1 82 (dk_at dksX7_bind_0 6 rfl rfl)
theorem dX7_bind_9 : decode cX7_bind 9 = .ok (.istore_n 2, 1) := dk_61 (dk_at dksX7_bind_0 9 rfl rfl)
theorem dX7_bind_10 : decode cX7_bind 10 = .ok (.aload_n 0, 1) := dk_42 (dk_at dksX7_bind_0 10 rfl rfl)
theorem dX7_bind_11 : decode cX7_bind 11 = .ok (.getfield 87, 3) := dk_180 0 87 (dk_at dksX7_bind_0 11 rfl rfl)
theorem dX7_bind_14 : decode cX7_bind 14 = .ok (.aload_n 0, 1) := dk_42 (dk_at dksX7_bind_0 14 rfl rfl)
theorem dX7_bind_15 : decode cX7_bind 15 = .ok (.getfield 63, 3) := dk_180 0 63 (dk_at dksX7_bind_0 15 rfl rfl)
theorem dX7_bind_18 : decode cX7_bind 18 = .ok (.iload_n 1, 1) := dk_27 (dk_at dksX7_bind_0 18 rfl rfl)
theorem dX7_bind_19 : decode cX7_bind 19 = .ok (.iaload, 1) := dk_46 (dk_at dksX7_bind_0 19 rfl rfl)
theorem dX7_bind_20 : decode cX7_bind 20 = .ok (.iaload, 1) := dk_46 (dk_at dksX7_bind_0 20 rfl rfl)
theorem dX7_bind_21 : decode cX7_bind 21 = .ok (.istore_n 3, 1) := dk_62 (dk_at dksX7_bind_0 21 rfl rfl)
theorem dX7_bind_22 : decode cX7_bind 22 = .ok (.bipush 81, 2) := dk_16 81 (dk_at dksX7_bind_0 22 rfl rfl)
theorem dX7_bind_24 : decode cX7_bind 24 = .ok (.aload_n 0, 1) := dk_42 (dk_at dksX7_bind_1 0 rfl rfl)
theorem dX7_bind_25 : decode cX7_bind 25 = .ok (.getfield 353, 3) := dk_180 1 97 (dk_at dksX7_bind_1 1 rfl rfl)
theorem dX7_bind_28 : decode cX7_bind 28 = .ok (.iconst 1, 1) := dk_4 (dk_at dksX7_bind_1 4 rfl rfl)
theorem dX7_bind_29 : decode cX7_bind 29 = .ok (.isub, 1) := dk_100 (dk_at dksX7_bind_1 5 rfl rfl)
theorem dX7_bind_30 : decode cX7_bind 30 = .ok (.imul, 1) := dk_104 (dk_at dksX7_bind_1 6 rfl rfl)
theorem dX7_bind_31 : decode cX7_bind 31 = .ok (.istore 4, 2) := dk_54 4 (dk_at dksX7_bind_1 7 rfl rfl)
theorem dX7_bind_33 : decode cX7_bind 33 = .ok (.iconst 0, 1) := dk_3 (dk_at dksX7_bind_1 9 rfl rfl)
theorem dX7_bind_34 : decode cX7_bind 34 = .ok (.istore 5, 2) := dk_54 5 (dk_at dksX7_bind_1 10 rfl rfl)
theorem dX7_bind_36 : decode cX7_bind 36 = .ok (.iload 5, 2) := dk_21 5 (dk_at dksX7_bind_1 12 rfl rfl)
theorem dX7_bind_38 : decode cX7_bind 38 = .ok (.bipush 81, 2) := dk_16 81 (dk_at dksX7_bind_1 14 rfl rfl)
theorem dX7_bind_40 : decode cX7_bind 40 = .ok (.if_icmp .ge 192, 3) := dk_162 0 192 (dk_at dksX7_bind_1 16 rfl rfl)
theorem dX7_bind_43 : decode cX7_bind 43 = .ok (.iload 5, 2) := dk_21 5 (dk_at dksX7_bind_1 19 rfl rfl)
theorem dX7_bind_45 : decode cX7_bind 45 = .ok (.iload_n 2, 1) := dk_28 (dk_at dksX7_bind_1 21 rfl rfl)
theorem dX7_bind_46 : decode cX7_bind 46 = .ok (.idiv, 1) := dk_108 (dk_at dksX7_bind_1 22 rfl rfl)
theorem dX7_bind_47 : decode cX7_bind 47 = .ok (.iconst 3, 1) := dk_6 (dk_at dksX7_bind_1 23 rfl rfl)
theorem dX7_bind_48 : decode cX7_bind 48 = .ok (.irem, 1) := dk_112 (dk_at dksX7_bind_2 0 rfl rfl)
theorem dX7_bind_49 : decode cX7_bind 49 = .ok (.ifCond .le 6, 3) := dk_158 0 6 (dk_at dksX7_bind_2 1 rfl rfl)
theorem dX7_bind_52 : decode cX7_bind 52 = .ok (.goto 174, 3) := dk_167 0 174 (dk_at dksX7_bind_2 4 rfl rfl)
theorem dX7_bind_55 : decode cX7_bind 55 = .ok (.iconst 0, 1) := dk_3 (dk_at dksX7_bind_2 7 rfl rfl)
theorem dX7_bind_56 : decode cX7_bind 56 = .ok (.istore 6, 2) := dk_54 6 (dk_at dksX7_bind_2 8 rfl rfl)
theorem dX7_bind_58 : decode cX7_bind 58 = .ok (.iconst 0, 1) := dk_3 (dk_at dksX7_bind_2 10 rfl rfl)
theorem dX7_bind_59 : decode cX7_bind 59 = .ok (.istore 7, 2) := dk_54 7 (dk_at dksX7_bind_2 11 rfl rfl)
theorem dX7_bind_61 : decode cX7_bind 61 = .ok (.iload 7, 2) := dk_21 7 (dk_at dksX7_bind_2 13 rfl rfl)
theorem dX7_bind_63 : decode cX7_bind 63 = .ok (.iload_n 3, 1) := dk_29 (dk_at dksX7_bind_2 15 rfl rfl)
theorem dX7_bind_64 : decode cX7_bind 64 = .ok (.if_icmp .ge 37, 3) := dk_162 0 37 (dk_at dksX7_bind_2 16 rfl rfl)
theorem dX7_bind_67 : decode cX7_bind 67 = .ok (.iload 6, 2) := dk_21 6 (dk_at dksX7_bind_2 19 rfl rfl)
theorem dX7_bind_69 : decode cX7_bind 69 = .ok (.aload_n 0, 1) := dk_42 (dk_at dksX7_bind_2 21 rfl rfl)
theorem dX7_bind_70 : decode cX7_bind 70 = .ok (.getfield 111, 3) := dk_180 0 111 (dk_at dksX7_bind_3 0 rfl rfl)
theorem dX7_bind_73 : decode cX7_bind 73 = .ok (.iload 4, 2) := dk_21 4 (dk_at dksX7_bind_3 3 rfl rfl)
theorem dX7_bind_75 : decode cX7_bind 75 = .ok (.iload 5, 2) := dk_21 5 (dk_at dksX7_bind_3 5 rfl rfl)
theorem dX7_bind_77 : decode cX7_bind 77 = .ok (.iadd, 1) := dk_96 (dk_at dksX7_bind_3 7 rfl rfl)
theorem dX7_bind_78 : decode cX7_bind 78 = .ok (.iload 7, 2) := dk_21 7 (dk_at dksX7_bind_3 8 rfl rfl)
theorem dX7_bind_80 : decode cX7_bind 80 = .ok (.iload_n 2, 1) := dk_28 (dk_at dksX7_bind_3 10 rfl rfl)
theorem dX7_bind_81 : decode cX7_bind 81 = .ok (.imul, 1) := dk_104 (dk_at dksX7_bind_3 11 rfl rfl)
theorem dX7_bind_82 : decode cX7_bind 82 = .ok (.iadd, 1) := dk_96 (dk_at dksX7_bind_3 12 rfl rfl)
theorem dX7_bind_83 : decode cX7_bind 83 = .ok (.baload, 1) := dk_51 (dk_at dksX7_bind_3 13 rfl rfl)
theorem dX7_bind_84 : decode cX7_bind 84 = .ok (.ifCond .eq 7, 3) := dk_153 0 7 (dk_at dksX7_bind_3 14 rfl rfl)
theorem dX7_bind_87 : decode cX7_bind 87 = .ok (.iconst 1, 1) := dk_4 (dk_at dksX7_bind_3 17 rfl rfl)
theorem dX7_bind_88 : decode cX7_bind 88 = .ok (.goto 4, 3) := dk_167 0 4 (dk_at dksX7_bind_3 18 rfl rfl)
theorem dX7_bind_91 : decode cX7_bind 91 = .ok (.iconst 0, 1) := dk_3 (dk_at dksX7_bind_3 21 rfl rfl)
theorem dX7_bind_92 : decode cX7_bind 92 = .ok (.iadd, 1) := dk_96 (dk_at dksX7_bind_3 22 rfl rfl)
theorem dX7_bind_93 : decode cX7_bind 93 = .ok (.istore 6, 2) := dk_54 6 (dk_at dksX7_bind_4 0 rfl rfl)
theorem dX7_bind_95 : decode cX7_bind 95 = .ok (.iinc 7 1, 3) := dk_132 7 1 (dk_at dksX7_bind_4 2 rfl rfl)
theorem dX7_bind_98 : decode cX7_bind 98 = .ok (.goto (-37), 3) := dk_167 255 219 (dk_at dksX7_bind_4 5 rfl rfl)
theorem dX7_bind_101 : decode cX7_bind 101 = .ok (.aload_n 0, 1) := dk_42 (dk_at dksX7_bind_4 8 rfl rfl)
theorem dX7_bind_102 : decode cX7_bind 102 = .ok (.getfield 57, 3) := dk_180 0 57 (dk_at dksX7_bind_4 9 rfl rfl)
theorem dX7_bind_105 : decode cX7_bind 105 = .ok (.iload_n 1, 1) := dk_27 (dk_at dksX7_bind_4 12 rfl rfl)
theorem dX7_bind_106 : decode cX7_bind 106 = .ok (.iaload, 1) := dk_46 (dk_at dksX7_bind_4 13 rfl rfl)
theorem dX7_bind_107 : decode cX7_bind 107 = .ok (.ifCond .ne 17, 3) := dk_154 0 17 (dk_at dksX7_bind_4 14 rfl rfl)
theorem dX7_bind_110 : decode cX7_bind 110 = .ok (.iload 6, 2) := dk_21 6 (dk_at dksX7_bind_4 17 rfl rfl)
theorem dX7_bind_112 : decode cX7_bind 112 = .ok (.iload_n 3, 1) := dk_29 (dk_at dksX7_bind_4 19 rfl rfl)
theorem dX7_bind_113 : decode cX7_bind 113 = .ok (.if_icmp .ne 7, 3) := dk_160 0 7 (dk_at dksX7_bind_4 20 rfl rfl)
theorem dX7_bind_116 : decode cX7_bind 116 = .ok (.iconst 1, 1) := dk_4 (dk_at dksX7_bind_4 23 rfl rfl)
theorem dX7_bind_117 : decode cX7_bind 117 = .ok (.goto 75, 3) := dk_167 0 75 (dk_at dksX7_bind_5 0 rfl rfl)
theorem dX7_bind_120 : decode cX7_bind 120 = .ok (.iconst 0, 1) := dk_3 (dk_at dksX7_bind_5 3 rfl rfl)
theorem dX7_bind_121 : decode cX7_bind 121 = .ok (.goto 71, 3) := dk_167 0 71 (dk_at dksX7_bind_5 4 rfl rfl)
theorem dX7_bind_124 : decode cX7_bind 124 = .ok (.aload_n 0, 1) := dk_42 (dk_at dksX7_bind_5 7 rfl rfl)
theorem dX7_bind_125 : decode cX7_bind 125 = .ok (.getfield 57, 3) := dk_180 0 57 (dk_at dksX7_bind_5 8 rfl rfl)
theorem dX7_bind_128 : decode cX7_bind 128 = .ok (.iload_n 1, 1) := dk_27 (dk_at dksX7_bind_5 11 rfl rfl)
theorem dX7_bind_129 : decode cX7_bind 129 = .ok (.iaload, 1) := dk_46 (dk_at dksX7_bind_5 12 rfl rfl)
theorem dX7_bind_130 : decode cX7_bind 130 = .ok (.iconst 1, 1) := dk_4 (dk_at dksX7_bind_5 13 rfl rfl)
theorem dX7_bind_131 : decode cX7_bind 131 = .ok (.if_icmp .ne 16, 3) := dk_160 0 16 (dk_at dksX7_bind_5 14 rfl rfl)
theorem dX7_bind_134 : decode cX7_bind 134 = .ok (.iload 6, 2) := dk_21 6 (dk_at dksX7_bind_5 17 rfl rfl)
theorem dX7_bind_136 : decode cX7_bind 136 = .ok (.ifCond .le 7, 3) := dk_158 0 7 (dk_at dksX7_bind_5 19 rfl rfl)
theorem dX7_bind_139 : decode cX7_bind 139 = .ok (.iconst 1, 1) := dk_4 (dk_at dksX7_bind_5 22 rfl rfl)
theorem dX7_bind_140 : decode cX7_bind 140 = .ok (.goto 52, 3) := dk_167 0 52 (dk_at dksX7_bind_6 0 rfl rfl)
theorem dX7_bind_143 : decode cX7_bind 143 = .ok (.iconst 0, 1) := dk_3 (dk_at dksX7_bind_6 3 rfl rfl)
theorem dX7_bind_144 : decode cX7_bind 144 = .ok (.goto 48, 3) := dk_167 0 48 (dk_at dksX7_bind_6 4 rfl rfl)
theorem dX7_bind_147 : decode cX7_bind 147 = .ok (.aload_n 0, 1) := dk_42 (dk_at dksX7_bind_6 7 rfl rfl)
theorem dX7_bind_148 : decode cX7_bind 148 = .ok (.getfield 57, 3) := dk_180 0 57 (dk_at dksX7_bind_6 8 rfl rfl)
theorem dX7_bind_151 : decode cX7_bind 151 = .ok (.iload_n 1, 1) := dk_27 (dk_at dksX7_bind_6 11 rfl rfl)
theorem dX7_bind_152 : decode cX7_bind 152 = .ok (.iaload, 1) := dk_46 (dk_at dksX7_bind_6 12 rfl rfl)
theorem dX7_bind_153 : decode cX7_bind 153 = .ok (.iconst 2, 1) := dk_5 (dk_at dksX7_bind_6 13 rfl rfl)
theorem dX7_bind_154 : decode cX7_bind 154 = .ok (.if_icmp .ne 22, 3) := dk_160 0 22 (dk_at dksX7_bind_6 14 rfl rfl)
theorem dX7_bind_157 : decode cX7_bind 157 = .ok (.iload 6, 2) := dk_21 6 (dk_at dksX7_bind_6 17 rfl rfl)
theorem dX7_bind_159 : decode cX7_bind 159 = .ok (.aload_n 0, 1) := dk_42 (dk_at dksX7_bind_6 19 rfl rfl)
theorem dX7_bind_160 : decode cX7_bind 160 = .ok (.getfield 66, 3) := dk_180 0 66 (dk_at dksX7_bind_6 20 rfl rfl)
theorem dX7_bind_163 : decode cX7_bind 163 = .ok (.iload_n 1, 1) := dk_27 (dk_at dksX7_bind_6 23 rfl rfl)
theorem dX7_bind_164 : decode cX7_bind 164 = .ok (.iaload, 1) := dk_46 (dk_at dksX7_bind_7 0 rfl rfl)
theorem dX7_bind_165 : decode cX7_bind 165 = .ok (.if_icmp .lt 7, 3) := dk_161 0 7 (dk_at dksX7_bind_7 1 rfl rfl)
theorem dX7_bind_168 : decode cX7_bind 168 = .ok (.iconst 1, 1) := dk_4 (dk_at dksX7_bind_7 4 rfl rfl)
theorem dX7_bind_169 : decode cX7_bind 169 = .ok (.goto 23, 3) := dk_167 0 23 (dk_at dksX7_bind_7 5 rfl rfl)
theorem dX7_bind_172 : decode cX7_bind 172 = .ok (.iconst 0, 1) := dk_3 (dk_at dksX7_bind_7 8 rfl rfl)
theorem dX7_bind_173 : decode cX7_bind 173 = .ok (.goto 19, 3) := dk_167 0 19 (dk_at dksX7_bind_7 9 rfl rfl)
theorem dX7_bind_176 : decode cX7_bind 176 = .ok (.iload 6, 2) := dk_21 6 (dk_at dksX7_bind_7 12 rfl rfl)
theorem dX7_bind_178 : decode cX7_bind 178 = .ok (.aload_n 0, 1) := dk_42 (dk_at dksX7_bind_7 14 rfl rfl)
theorem dX7_bind_179 : decode cX7_bind 179 = .ok (.getfield 66, 3) := dk_180 0 66 (dk_at dksX7_bind_7 15 rfl rfl)
theorem dX7_bind_182 : decode cX7_bind 182 = .ok (.iload_n 1, 1) := dk_27 (dk_at dksX7_bind_7 18 rfl rfl)
theorem dX7_bind_183 : decode cX7_bind 183 = .ok (.iaload, 1) := dk_46 (dk_at dksX7_bind_7 19 rfl rfl)
theorem dX7_bind_184 : decode cX7_bind 184 = .ok (.if_icmp .gt 7, 3) := dk_163 0 7 (dk_at dksX7_bind_7 20 rfl rfl)
theorem dX7_bind_187 : decode cX7_bind 187 = .ok (.iconst 1, 1) := dk_4 (dk_at dksX7_bind_7 23 rfl rfl)
theorem dX7_bind_188 : decode cX7_bind 188 = .ok (.goto 4, 3) := dk_167 0 4 (dk_at dksX7_bind_8 0 rfl rfl)
theorem dX7_bind_191 : decode cX7_bind 191 = .ok (.iconst 0, 1) := dk_3 (dk_at dksX7_bind_8 3 rfl rfl)
theorem dX7_bind_192 : decode cX7_bind 192 = .ok (.istore 7, 2) := dk_54 7 (dk_at dksX7_bind_8 4 rfl rfl)
theorem dX7_bind_194 : decode cX7_bind 194 = .ok (.iconst 0, 1) := dk_3 (dk_at dksX7_bind_8 6 rfl rfl)
theorem dX7_bind_195 : decode cX7_bind 195 = .ok (.istore 8, 2) := dk_54 8 (dk_at dksX7_bind_8 7 rfl rfl)
theorem dX7_bind_197 : decode cX7_bind 197 = .ok (.iload 8, 2) := dk_21 8 (dk_at dksX7_bind_8 9 rfl rfl)
theorem dX7_bind_199 : decode cX7_bind 199 = .ok (.iconst 3, 1) := dk_6 (dk_at dksX7_bind_8 11 rfl rfl)
theorem dX7_bind_200 : decode cX7_bind 200 = .ok (.if_icmp .ge 26, 3) := dk_162 0 26 (dk_at dksX7_bind_8 12 rfl rfl)
theorem dX7_bind_203 : decode cX7_bind 203 = .ok (.aload_n 0, 1) := dk_42 (dk_at dksX7_bind_8 15 rfl rfl)
theorem dX7_bind_204 : decode cX7_bind 204 = .ok (.getfield 111, 3) := dk_180 0 111 (dk_at dksX7_bind_8 16 rfl rfl)
theorem dX7_bind_207 : decode cX7_bind 207 = .ok (.iload 4, 2) := dk_21 4 (dk_at dksX7_bind_8 19 rfl rfl)
theorem dX7_bind_209 : decode cX7_bind 209 = .ok (.iload 5, 2) := dk_21 5 (dk_at dksX7_bind_8 21 rfl rfl)
theorem dX7_bind_211 : decode cX7_bind 211 = .ok (.iadd, 1) := dk_96 (dk_at dksX7_bind_8 23 rfl rfl)
theorem dX7_bind_212 : decode cX7_bind 212 = .ok (.iload 8, 2) := dk_21 8 (dk_at dksX7_bind_9 0 rfl rfl)
theorem dX7_bind_214 : decode cX7_bind 214 = .ok (.iload_n 2, 1) := dk_28 (dk_at dksX7_bind_9 2 rfl rfl)
theorem dX7_bind_215 : decode cX7_bind 215 = .ok (.imul, 1) := dk_104 (dk_at dksX7_bind_9 3 rfl rfl)
theorem dX7_bind_216 : decode cX7_bind 216 = .ok (.iadd, 1) := dk_96 (dk_at dksX7_bind_9 4 rfl rfl)
theorem dX7_bind_217 : decode cX7_bind 217 = .ok (.iload 7, 2) := dk_21 7 (dk_at dksX7_bind_9 5 rfl rfl)
theorem dX7_bind_219 : decode cX7_bind 219 = .ok (.bastore, 1) := dk_84 (dk_at dksX7_bind_9 7 rfl rfl)
theorem dX7_bind_220 : decode cX7_bind 220 = .ok (.iinc 8 1, 3) := dk_132 8 1 (dk_at dksX7_bind_9 8 rfl rfl)
theorem dX7_bind_223 : decode cX7_bind 223 = .ok (.goto (-26), 3) := dk_167 255 230 (dk_at dksX7_bind_9 11 rfl rfl)
theorem dX7_bind_226 : decode cX7_bind 226 = .ok (.iinc 5 1, 3) := dk_132 5 1 (dk_at dksX7_bind_9 14 rfl rfl)
theorem dX7_bind_229 : decode cX7_bind 229 = .ok (.goto (-193), 3) := dk_167 255 63 (dk_at dksX7_bind_9 17 rfl rfl)
theorem dX7_bind_232 : decode cX7_bind 232 = .ok (.return_, 1) := dk_177 (dk_at dksX7_bind_9 20 rfl rfl)
abbrev cX7_join : ByteArray := prog_33_method_59_code
def yX7_join : MethodName := ⟨RX7, "join", "(I)V"⟩
def dkwX7_join_8 : List UInt8 := [167, 255, 147, 177]
abbrev dktX7_join_8 : List UInt8 := dkwX7_join_8 ++ []
def dkwX7_join_7 : List UInt8 := [167, 0, 18, 21, 5, 153, 0, 8, 21, 6, 153, 0, 7, 4, 167, 0, 4, 3, 84, 132, 4, 1]
abbrev dktX7_join_7 : List UInt8 := dkwX7_join_7 ++ dktX7_join_8
def dkwX7_join_6 : List UInt8 := [167, 0, 42, 28, 16, 6, 160, 0, 21, 21, 5, 154, 0, 8, 21, 6, 153, 0, 7, 4, 167, 0, 22, 3]
abbrev dktX7_join_6 : List UInt8 := dkwX7_join_6 ++ dktX7_join_7
def dkwX7_join_5 : List UInt8 := [21, 4, 96, 28, 8, 160, 0, 21, 21, 5, 153, 0, 12, 21, 6, 153, 0, 7, 4, 167, 0, 46, 3]
abbrev dktX7_join_5 : List UInt8 := dkwX7_join_5 ++ dktX7_join_6
def dkwX7_join_4 : List UInt8 := [54, 5, 42, 180, 0, 111, 29, 16, 81, 100, 21, 4, 96, 51, 54, 6, 42, 180, 0, 111, 29, 16, 81, 100]
abbrev dktX7_join_4 : List UInt8 := dkwX7_join_4 ++ dktX7_join_5
def dkwX7_join_3 : List UInt8 := [100, 181, 1, 97, 3, 54, 4, 21, 4, 16, 81, 162, 0, 108, 42, 180, 0, 111, 29, 21, 4, 96, 51]
abbrev dktX7_join_3 : List UInt8 := dkwX7_join_3 ++ dktX7_join_4
def dkwX7_join_2 : List UInt8 := [96, 51, 154, 0, 7, 4, 167, 0, 4, 3, 84, 132, 4, 1, 167, 255, 220, 177, 42, 89, 180, 1, 97, 4]
abbrev dktX7_join_2 : List UInt8 := dkwX7_join_2 ++ dktX7_join_3
def dkwX7_join_1 : List UInt8 := [54, 4, 21, 4, 16, 81, 162, 0, 35, 42, 180, 0, 111, 29, 21, 4, 96, 42, 180, 0, 111, 29, 21, 4]
abbrev dktX7_join_1 : List UInt8 := dkwX7_join_1 ++ dktX7_join_2
def dkwX7_join_0 : List UInt8 := [42, 180, 0, 57, 27, 46, 61, 16, 81, 42, 180, 1, 97, 4, 100, 104, 62, 28, 7, 160, 0, 46, 3]
abbrev dktX7_join_0 : List UInt8 := dkwX7_join_0 ++ dktX7_join_1
theorem dksX7_join_0 : cX7_join.data.toList.drop 0 = dktX7_join_0 := by decide +kernel
theorem dksX7_join_1 : cX7_join.data.toList.drop 23 = dktX7_join_1 := dk_seg dksX7_join_0 23 rfl rfl
theorem dksX7_join_2 : cX7_join.data.toList.drop 47 = dktX7_join_2 := dk_seg dksX7_join_1 24 rfl rfl
theorem dksX7_join_3 : cX7_join.data.toList.drop 71 = dktX7_join_3 := dk_seg dksX7_join_2 24 rfl rfl
theorem dksX7_join_4 : cX7_join.data.toList.drop 94 = dktX7_join_4 := dk_seg dksX7_join_3 23 rfl rfl
theorem dksX7_join_5 : cX7_join.data.toList.drop 118 = dktX7_join_5 := dk_seg dksX7_join_4 24 rfl rfl
theorem dksX7_join_6 : cX7_join.data.toList.drop 141 = dktX7_join_6 := dk_seg dksX7_join_5 23 rfl rfl
theorem dksX7_join_7 : cX7_join.data.toList.drop 165 = dktX7_join_7 := dk_seg dksX7_join_6 24 rfl rfl
theorem dksX7_join_8 : cX7_join.data.toList.drop 187 = dktX7_join_8 := dk_seg dksX7_join_7 22 rfl rfl
theorem dX7_join_0 : decode cX7_join 0 = .ok (.aload_n 0, 1) := dk_42 (dk_at dksX7_join_0 0 rfl rfl)
theorem dX7_join_1 : decode cX7_join 1 = .ok (.getfield 57, 3) := dk_180 0 57 (dk_at dksX7_join_0 1 rfl rfl)
theorem dX7_join_4 : decode cX7_join 4 = .ok (.iload_n 1, 1) := dk_27 (dk_at dksX7_join_0 4 rfl rfl)
theorem dX7_join_5 : decode cX7_join 5 = .ok (.iaload, 1) := dk_46 (dk_at dksX7_join_0 5 rfl rfl)
theorem dX7_join_6 : decode cX7_join 6 = .ok (.istore_n 2, 1) := dk_61 (dk_at dksX7_join_0 6 rfl rfl)
theorem dX7_join_7 : decode cX7_join 7 = .ok (.bipush 81, 2) := dk_16 81 (dk_at dksX7_join_0 7 rfl rfl)
theorem dX7_join_9 : decode cX7_join 9 = .ok (.aload_n 0, 1) := dk_42 (dk_at dksX7_join_0 9 rfl rfl)
theorem dX7_join_10 : decode cX7_join 10 = .ok (.getfield 353, 3) := dk_180 1 97 (dk_at dksX7_join_0 10 rfl rfl)
theorem dX7_join_13 : decode cX7_join 13 = .ok (.iconst 1, 1) := dk_4 (dk_at dksX7_join_0 13 rfl rfl)
theorem dX7_join_14 : decode cX7_join 14 = .ok (.isub, 1) := dk_100 (dk_at dksX7_join_0 14 rfl rfl)
theorem dX7_join_15 : decode cX7_join 15 = .ok (.imul, 1) := dk_104 (dk_at dksX7_join_0 15 rfl rfl)
theorem dX7_join_16 : decode cX7_join 16 = .ok (.istore_n 3, 1) := dk_62 (dk_at dksX7_join_0 16 rfl rfl)
theorem dX7_join_17 : decode cX7_join 17 = .ok (.iload_n 2, 1) := dk_28 (dk_at dksX7_join_0 17 rfl rfl)
theorem dX7_join_18 : decode cX7_join 18 = .ok (.iconst 4, 1) := dk_7 (dk_at dksX7_join_0 18 rfl rfl)
theorem dX7_join_19 : decode cX7_join 19 = .ok (.if_icmp .ne 46, 3) := dk_160 0 46 (dk_at dksX7_join_0 19 rfl rfl)
theorem dX7_join_22 : decode cX7_join 22 = .ok (.iconst 0, 1) := dk_3 (dk_at dksX7_join_0 22 rfl rfl)
theorem dX7_join_23 : decode cX7_join 23 = .ok (.istore 4, 2) := dk_54 4 (dk_at dksX7_join_1 0 rfl rfl)
theorem dX7_join_25 : decode cX7_join 25 = .ok (.iload 4, 2) := dk_21 4 (dk_at dksX7_join_1 2 rfl rfl)
theorem dX7_join_27 : decode cX7_join 27 = .ok (.bipush 81, 2) := dk_16 81 (dk_at dksX7_join_1 4 rfl rfl)
theorem dX7_join_29 : decode cX7_join 29 = .ok (.if_icmp .ge 35, 3) := dk_162 0 35 (dk_at dksX7_join_1 6 rfl rfl)
theorem dX7_join_32 : decode cX7_join 32 = .ok (.aload_n 0, 1) := dk_42 (dk_at dksX7_join_1 9 rfl rfl)
theorem dX7_join_33 : decode cX7_join 33 = .ok (.getfield 111, 3) := dk_180 0 111 (dk_at dksX7_join_1 10 rfl rfl)
theorem dX7_join_36 : decode cX7_join 36 = .ok (.iload_n 3, 1) := dk_29 (dk_at dksX7_join_1 13 rfl rfl)
theorem dX7_join_37 : decode cX7_join 37 = .ok (.iload 4, 2) := dk_21 4 (dk_at dksX7_join_1 14 rfl rfl)
theorem dX7_join_39 : decode cX7_join 39 = .ok (.iadd, 1) := dk_96 (dk_at dksX7_join_1 16 rfl rfl)
theorem dX7_join_40 : decode cX7_join 40 = .ok (.aload_n 0, 1) := dk_42 (dk_at dksX7_join_1 17 rfl rfl)
theorem dX7_join_41 : decode cX7_join 41 = .ok (.getfield 111, 3) := dk_180 0 111 (dk_at dksX7_join_1 18 rfl rfl)
theorem dX7_join_44 : decode cX7_join 44 = .ok (.iload_n 3, 1) := dk_29 (dk_at dksX7_join_1 21 rfl rfl)
theorem dX7_join_45 : decode cX7_join 45 = .ok (.iload 4, 2) := dk_21 4 (dk_at dksX7_join_1 22 rfl rfl)
theorem dX7_join_47 : decode cX7_join 47 = .ok (.iadd, 1) := dk_96 (dk_at dksX7_join_2 0 rfl rfl)
theorem dX7_join_48 : decode cX7_join 48 = .ok (.baload, 1) := dk_51 (dk_at dksX7_join_2 1 rfl rfl)
theorem dX7_join_49 : decode cX7_join 49 = .ok (.ifCond .ne 7, 3) := dk_154 0 7 (dk_at dksX7_join_2 2 rfl rfl)
theorem dX7_join_52 : decode cX7_join 52 = .ok (.iconst 1, 1) := dk_4 (dk_at dksX7_join_2 5 rfl rfl)
theorem dX7_join_53 : decode cX7_join 53 = .ok (.goto 4, 3) := dk_167 0 4 (dk_at dksX7_join_2 6 rfl rfl)
theorem dX7_join_56 : decode cX7_join 56 = .ok (.iconst 0, 1) := dk_3 (dk_at dksX7_join_2 9 rfl rfl)
theorem dX7_join_57 : decode cX7_join 57 = .ok (.bastore, 1) := dk_84 (dk_at dksX7_join_2 10 rfl rfl)
theorem dX7_join_58 : decode cX7_join 58 = .ok (.iinc 4 1, 3) := dk_132 4 1 (dk_at dksX7_join_2 11 rfl rfl)
theorem dX7_join_61 : decode cX7_join 61 = .ok (.goto (-36), 3) := dk_167 255 220 (dk_at dksX7_join_2 14 rfl rfl)
theorem dX7_join_64 : decode cX7_join 64 = .ok (.return_, 1) := dk_177 (dk_at dksX7_join_2 17 rfl rfl)
theorem dX7_join_65 : decode cX7_join 65 = .ok (.aload_n 0, 1) := dk_42 (dk_at dksX7_join_2 18 rfl rfl)
theorem dX7_join_66 : decode cX7_join 66 = .ok (.dup, 1) := dk_89 (dk_at dksX7_join_2 19 rfl rfl)
theorem dX7_join_67 : decode cX7_join 67 = .ok (.getfield 353, 3) := dk_180 1 97 (dk_at dksX7_join_2 20 rfl rfl)
theorem dX7_join_70 : decode cX7_join 70 = .ok (.iconst 1, 1) := dk_4 (dk_at dksX7_join_2 23 rfl rfl)
theorem dX7_join_71 : decode cX7_join 71 = .ok (.isub, 1) := dk_100 (dk_at dksX7_join_3 0 rfl rfl)
theorem dX7_join_72 : decode cX7_join 72 = .ok (.putfield 353, 3) := dk_181 1 97 (dk_at dksX7_join_3 1 rfl rfl)
theorem dX7_join_75 : decode cX7_join 75 = .ok (.iconst 0, 1) := dk_3 (dk_at dksX7_join_3 4 rfl rfl)
theorem dX7_join_76 : decode cX7_join 76 = .ok (.istore 4, 2) := dk_54 4 (dk_at dksX7_join_3 5 rfl rfl)
theorem dX7_join_78 : decode cX7_join 78 = .ok (.iload 4, 2) := dk_21 4 (dk_at dksX7_join_3 7 rfl rfl)
theorem dX7_join_80 : decode cX7_join 80 = .ok (.bipush 81, 2) := dk_16 81 (dk_at dksX7_join_3 9 rfl rfl)
theorem dX7_join_82 : decode cX7_join 82 = .ok (.if_icmp .ge 108, 3) := dk_162 0 108 (dk_at dksX7_join_3 11 rfl rfl)
theorem dX7_join_85 : decode cX7_join 85 = .ok (.aload_n 0, 1) := dk_42 (dk_at dksX7_join_3 14 rfl rfl)
theorem dX7_join_86 : decode cX7_join 86 = .ok (.getfield 111, 3) := dk_180 0 111 (dk_at dksX7_join_3 15 rfl rfl)
theorem dX7_join_89 : decode cX7_join 89 = .ok (.iload_n 3, 1) := dk_29 (dk_at dksX7_join_3 18 rfl rfl)
theorem dX7_join_90 : decode cX7_join 90 = .ok (.iload 4, 2) := dk_21 4 (dk_at dksX7_join_3 19 rfl rfl)
theorem dX7_join_92 : decode cX7_join 92 = .ok (.iadd, 1) := dk_96 (dk_at dksX7_join_3 21 rfl rfl)
theorem dX7_join_93 : decode cX7_join 93 = .ok (.baload, 1) := dk_51 (dk_at dksX7_join_3 22 rfl rfl)
theorem dX7_join_94 : decode cX7_join 94 = .ok (.istore 5, 2) := dk_54 5 (dk_at dksX7_join_4 0 rfl rfl)
theorem dX7_join_96 : decode cX7_join 96 = .ok (.aload_n 0, 1) := dk_42 (dk_at dksX7_join_4 2 rfl rfl)
theorem dX7_join_97 : decode cX7_join 97 = .ok (.getfield 111, 3) := dk_180 0 111 (dk_at dksX7_join_4 3 rfl rfl)
theorem dX7_join_100 : decode cX7_join 100 = .ok (.iload_n 3, 1) := dk_29 (dk_at dksX7_join_4 6 rfl rfl)
theorem dX7_join_101 : decode cX7_join 101 = .ok (.bipush 81, 2) := dk_16 81 (dk_at dksX7_join_4 7 rfl rfl)
theorem dX7_join_103 : decode cX7_join 103 = .ok (.isub, 1) := dk_100 (dk_at dksX7_join_4 9 rfl rfl)
theorem dX7_join_104 : decode cX7_join 104 = .ok (.iload 4, 2) := dk_21 4 (dk_at dksX7_join_4 10 rfl rfl)
theorem dX7_join_106 : decode cX7_join 106 = .ok (.iadd, 1) := dk_96 (dk_at dksX7_join_4 12 rfl rfl)
theorem dX7_join_107 : decode cX7_join 107 = .ok (.baload, 1) := dk_51 (dk_at dksX7_join_4 13 rfl rfl)
theorem dX7_join_108 : decode cX7_join 108 = .ok (.istore 6, 2) := dk_54 6 (dk_at dksX7_join_4 14 rfl rfl)
theorem dX7_join_110 : decode cX7_join 110 = .ok (.aload_n 0, 1) := dk_42 (dk_at dksX7_join_4 16 rfl rfl)
theorem dX7_join_111 : decode cX7_join 111 = .ok (.getfield 111, 3) := dk_180 0 111 (dk_at dksX7_join_4 17 rfl rfl)
theorem dX7_join_114 : decode cX7_join 114 = .ok (.iload_n 3, 1) := dk_29 (dk_at dksX7_join_4 20 rfl rfl)
theorem dX7_join_115 : decode cX7_join 115 = .ok (.bipush 81, 2) := dk_16 81 (dk_at dksX7_join_4 21 rfl rfl)
theorem dX7_join_117 : decode cX7_join 117 = .ok (.isub, 1) := dk_100 (dk_at dksX7_join_4 23 rfl rfl)
theorem dX7_join_118 : decode cX7_join 118 = .ok (.iload 4, 2) := dk_21 4 (dk_at dksX7_join_5 0 rfl rfl)
theorem dX7_join_120 : decode cX7_join 120 = .ok (.iadd, 1) := dk_96 (dk_at dksX7_join_5 2 rfl rfl)
theorem dX7_join_121 : decode cX7_join 121 = .ok (.iload_n 2, 1) := dk_28 (dk_at dksX7_join_5 3 rfl rfl)
theorem dX7_join_122 : decode cX7_join 122 = .ok (.iconst 5, 1) := dk_8 (dk_at dksX7_join_5 4 rfl rfl)
theorem dX7_join_123 : decode cX7_join 123 = .ok (.if_icmp .ne 21, 3) := dk_160 0 21 (dk_at dksX7_join_5 5 rfl rfl)
theorem dX7_join_126 : decode cX7_join 126 = .ok (.iload 5, 2) := dk_21 5 (dk_at dksX7_join_5 8 rfl rfl)
theorem dX7_join_128 : decode cX7_join 128 = .ok (.ifCond .eq 12, 3) := dk_153 0 12 (dk_at dksX7_join_5 10 rfl rfl)
theorem dX7_join_131 : decode cX7_join 131 = .ok (.iload 6, 2) := dk_21 6 (dk_at dksX7_join_5 13 rfl rfl)
theorem dX7_join_133 : decode cX7_join 133 = .ok (.ifCond .eq 7, 3) := dk_153 0 7 (dk_at dksX7_join_5 15 rfl rfl)
theorem dX7_join_136 : decode cX7_join 136 = .ok (.iconst 1, 1) := dk_4 (dk_at dksX7_join_5 18 rfl rfl)
theorem dX7_join_137 : decode cX7_join 137 = .ok (.goto 46, 3) := dk_167 0 46 (dk_at dksX7_join_5 19 rfl rfl)
theorem dX7_join_140 : decode cX7_join 140 = .ok (.iconst 0, 1) := dk_3 (dk_at dksX7_join_5 22 rfl rfl)
theorem dX7_join_141 : decode cX7_join 141 = .ok (.goto 42, 3) := dk_167 0 42 (dk_at dksX7_join_6 0 rfl rfl)
theorem dX7_join_144 : decode cX7_join 144 = .ok (.iload_n 2, 1) := dk_28 (dk_at dksX7_join_6 3 rfl rfl)
theorem dX7_join_145 : decode cX7_join 145 = .ok (.bipush 6, 2) := dk_16 6 (dk_at dksX7_join_6 4 rfl rfl)
theorem dX7_join_147 : decode cX7_join 147 = .ok (.if_icmp .ne 21, 3) := dk_160 0 21 (dk_at dksX7_join_6 6 rfl rfl)
theorem dX7_join_150 : decode cX7_join 150 = .ok (.iload 5, 2) := dk_21 5 (dk_at dksX7_join_6 9 rfl rfl)
theorem dX7_join_152 : decode cX7_join 152 = .ok (.ifCond .ne 8, 3) := dk_154 0 8 (dk_at dksX7_join_6 11 rfl rfl)
theorem dX7_join_155 : decode cX7_join 155 = .ok (.iload 6, 2) := dk_21 6 (dk_at dksX7_join_6 14 rfl rfl)
theorem dX7_join_157 : decode cX7_join 157 = .ok (.ifCond .eq 7, 3) := dk_153 0 7 (dk_at dksX7_join_6 16 rfl rfl)
theorem dX7_join_160 : decode cX7_join 160 = .ok (.iconst 1, 1) := dk_4 (dk_at dksX7_join_6 19 rfl rfl)
theorem dX7_join_161 : decode cX7_join 161 = .ok (.goto 22, 3) := dk_167 0 22 (dk_at dksX7_join_6 20 rfl rfl)
theorem dX7_join_164 : decode cX7_join 164 = .ok (.iconst 0, 1) := dk_3 (dk_at dksX7_join_6 23 rfl rfl)
theorem dX7_join_165 : decode cX7_join 165 = .ok (.goto 18, 3) := dk_167 0 18 (dk_at dksX7_join_7 0 rfl rfl)
theorem dX7_join_168 : decode cX7_join 168 = .ok (.iload 5, 2) := dk_21 5 (dk_at dksX7_join_7 3 rfl rfl)
theorem dX7_join_170 : decode cX7_join 170 = .ok (.ifCond .eq 8, 3) := dk_153 0 8 (dk_at dksX7_join_7 5 rfl rfl)
theorem dX7_join_173 : decode cX7_join 173 = .ok (.iload 6, 2) := dk_21 6 (dk_at dksX7_join_7 8 rfl rfl)
theorem dX7_join_175 : decode cX7_join 175 = .ok (.ifCond .eq 7, 3) := dk_153 0 7 (dk_at dksX7_join_7 10 rfl rfl)
theorem dX7_join_178 : decode cX7_join 178 = .ok (.iconst 1, 1) := dk_4 (dk_at dksX7_join_7 13 rfl rfl)
theorem dX7_join_179 : decode cX7_join 179 = .ok (.goto 4, 3) := dk_167 0 4 (dk_at dksX7_join_7 14 rfl rfl)
theorem dX7_join_182 : decode cX7_join 182 = .ok (.iconst 0, 1) := dk_3 (dk_at dksX7_join_7 17 rfl rfl)
theorem dX7_join_183 : decode cX7_join 183 = .ok (.bastore, 1) := dk_84 (dk_at dksX7_join_7 18 rfl rfl)
theorem dX7_join_184 : decode cX7_join 184 = .ok (.iinc 4 1, 3) := dk_132 4 1 (dk_at dksX7_join_7 19 rfl rfl)
theorem dX7_join_187 : decode cX7_join 187 = .ok (.goto (-109), 3) := dk_167 255 147 (dk_at dksX7_join_8 0 rfl rfl)
theorem dX7_join_190 : decode cX7_join 190 = .ok (.return_, 1) := dk_177 (dk_at dksX7_join_8 3 rfl rfl)
abbrev cX7_breaks : ByteArray := prog_33_method_63_code
def yX7_breaks : MethodName := ⟨RX7, "breaks", "(II)I"⟩
def dkwX7_breaks_11 : List UInt8 := [167, 255, 101, 2, 172]
abbrev dktX7_breaks_11 : List UInt8 := dkwX7_breaks_11 ++ []
def dkwX7_breaks_10 : List UInt8 := [54, 8, 132, 10, 255, 167, 255, 145, 42, 180, 0, 111, 21, 7, 51, 154, 0, 6, 21, 8, 172, 132, 5, 1]
abbrev dktX7_breaks_10 : List UInt8 := dkwX7_breaks_10 ++ dktX7_breaks_11
def dkwX7_breaks_9 : List UInt8 := [180, 0, 60, 21, 11, 46, 120, 128, 54, 9, 21, 10, 28, 160, 0, 8, 21, 13, 167, 0, 5, 21, 8]
abbrev dktX7_breaks_9 : List UInt8 := dkwX7_breaks_9 ++ dktX7_breaks_10
def dkwX7_breaks_8 : List UInt8 := [42, 180, 0, 60, 21, 11, 46, 184, 1, 82, 104, 167, 0, 4, 3, 96, 54, 7, 21, 9, 4, 42]
abbrev dktX7_breaks_8 : List UInt8 := dkwX7_breaks_8 ++ dktX7_breaks_9
def dkwX7_breaks_7 : List UInt8 := [21, 12, 108, 54, 6, 21, 7, 21, 9, 42, 180, 0, 60, 21, 11, 46, 122, 4, 126, 154, 0, 19, 21, 13]
abbrev dktX7_breaks_7 : List UInt8 := dkwX7_breaks_7 ++ dktX7_breaks_8
def dkwX7_breaks_6 : List UInt8 := [42, 180, 0, 87, 42, 180, 0, 63, 21, 11, 46, 46, 54, 12, 21, 6, 21, 12, 112, 54, 13, 21, 6]
abbrev dktX7_breaks_6 : List UInt8 := dkwX7_breaks_6 ++ dktX7_breaks_7
def dkwX7_breaks_5 : List UInt8 := [54, 8, 3, 54, 9, 29, 4, 100, 54, 10, 21, 10, 155, 0, 112, 16, 40, 27, 104, 21, 10, 96, 54, 11]
abbrev dktX7_breaks_5 : List UInt8 := dkwX7_breaks_5 ++ dktX7_breaks_6
def dkwX7_breaks_4 : List UInt8 := [42, 27, 29, 182, 1, 109, 3, 54, 5, 21, 5, 21, 4, 162, 0, 154, 21, 5, 54, 6, 3, 54, 7, 3]
abbrev dktX7_breaks_4 : List UInt8 := dkwX7_breaks_4 ++ dktX7_breaks_5
def dkwX7_breaks_3 : List UInt8 := [167, 255, 218, 28, 3, 29, 4, 100, 184, 0, 160, 153, 0, 11, 42, 27, 182, 1, 115, 153, 0, 5, 2, 172]
abbrev dktX7_breaks_3 : List UInt8 := dkwX7_breaks_3 ++ dktX7_breaks_4
def dkwX7_breaks_2 : List UInt8 := [42, 180, 0, 87, 42, 180, 0, 63, 16, 40, 27, 104, 29, 96, 46, 46, 104, 54, 4, 132, 3, 1]
abbrev dktX7_breaks_2 : List UInt8 := dkwX7_breaks_2 ++ dktX7_breaks_3
def dkwX7_breaks_1 : List UInt8 := [182, 1, 112, 3, 62, 4, 54, 4, 42, 180, 0, 57, 16, 40, 27, 104, 29, 96, 46, 154, 0, 30, 21, 4]
abbrev dktX7_breaks_1 : List UInt8 := dkwX7_breaks_1 ++ dktX7_breaks_2
def dkwX7_breaks_0 : List UInt8 := [42, 3, 181, 0, 142, 27, 3, 42, 180, 0, 45, 3, 46, 4, 100, 184, 0, 160, 154, 0, 5, 2, 172, 42]
abbrev dktX7_breaks_0 : List UInt8 := dkwX7_breaks_0 ++ dktX7_breaks_1
theorem dksX7_breaks_0 : cX7_breaks.data.toList.drop 0 = dktX7_breaks_0 := by decide +kernel
theorem dksX7_breaks_1 : cX7_breaks.data.toList.drop 24 = dktX7_breaks_1 := dk_seg dksX7_breaks_0 24 rfl rfl
theorem dksX7_breaks_2 : cX7_breaks.data.toList.drop 48 = dktX7_breaks_2 := dk_seg dksX7_breaks_1 24 rfl rfl
theorem dksX7_breaks_3 : cX7_breaks.data.toList.drop 70 = dktX7_breaks_3 := dk_seg dksX7_breaks_2 22 rfl rfl
theorem dksX7_breaks_4 : cX7_breaks.data.toList.drop 94 = dktX7_breaks_4 := dk_seg dksX7_breaks_3 24 rfl rfl
theorem dksX7_breaks_5 : cX7_breaks.data.toList.drop 118 = dktX7_breaks_5 := dk_seg dksX7_breaks_4 24 rfl rfl
theorem dksX7_breaks_6 : cX7_breaks.data.toList.drop 142 = dktX7_breaks_6 := dk_seg dksX7_breaks_5 24 rfl rfl
theorem dksX7_breaks_7 : cX7_breaks.data.toList.drop 165 = dktX7_breaks_7 := dk_seg dksX7_breaks_6 23 rfl rfl
theorem dksX7_breaks_8 : cX7_breaks.data.toList.drop 189 = dktX7_breaks_8 := dk_seg dksX7_breaks_7 24 rfl rfl
theorem dksX7_breaks_9 : cX7_breaks.data.toList.drop 211 = dktX7_breaks_9 := dk_seg dksX7_breaks_8 22 rfl rfl
theorem dksX7_breaks_10 : cX7_breaks.data.toList.drop 234 = dktX7_breaks_10 := dk_seg dksX7_breaks_9 23 rfl rfl
theorem dksX7_breaks_11 : cX7_breaks.data.toList.drop 258 = dktX7_breaks_11 := dk_seg dksX7_breaks_10 24 rfl rfl
theorem dX7_breaks_0 : decode cX7_breaks 0 = .ok (.aload_n 0, 1) := dk_42 (dk_at dksX7_breaks_0 0 rfl rfl)
theorem dX7_breaks_1 : decode cX7_breaks 1 = .ok (.iconst 0, 1) := dk_3 (dk_at dksX7_breaks_0 1 rfl rfl)
theorem dX7_breaks_2 : decode cX7_breaks 2 = .ok (.putfield 142, 3) := dk_181 0 142 (dk_at dksX7_breaks_0 2 rfl rfl)
theorem dX7_breaks_5 : decode cX7_breaks 5 = .ok (.iload_n 1, 1) := dk_27 (dk_at dksX7_breaks_0 5 rfl rfl)
theorem dX7_breaks_6 : decode cX7_breaks 6 = .ok (.iconst 0, 1) := dk_3 (dk_at dksX7_breaks_0 6 rfl rfl)
theorem dX7_breaks_7 : decode cX7_breaks 7 = .ok (.aload_n 0, 1) := dk_42 (dk_at dksX7_breaks_0 7 rfl rfl)
theorem dX7_breaks_8 : decode cX7_breaks 8 = .ok (.getfield 45, 3) := dk_180 0 45 (dk_at dksX7_breaks_0 8 rfl rfl)
theorem dX7_breaks_11 : decode cX7_breaks 11 = .ok (.iconst 0, 1) := dk_3 (dk_at dksX7_breaks_0 11 rfl rfl)
theorem dX7_breaks_12 : decode cX7_breaks 12 = .ok (.iaload, 1) := dk_46 (dk_at dksX7_breaks_0 12 rfl rfl)
theorem dX7_breaks_13 : decode cX7_breaks 13 = .ok (.iconst 1, 1) := dk_4 (dk_at dksX7_breaks_0 13 rfl rfl)
theorem dX7_breaks_14 : decode cX7_breaks 14 = .ok (.isub, 1) := dk_100 (dk_at dksX7_breaks_0 14 rfl rfl)
theorem dX7_breaks_15 : decode cX7_breaks 15 = .ok (.invokestatic 160, 3) := dk_184 0 160 (dk_at dksX7_breaks_0 15 rfl rfl)
theorem dX7_breaks_18 : decode cX7_breaks 18 = .ok (.ifCond .ne 5, 3) := dk_154 0 5 (dk_at dksX7_breaks_0 18 rfl rfl)
theorem dX7_breaks_21 : decode cX7_breaks 21 = .ok (.iconst (-1), 1) := dk_2 (dk_at dksX7_breaks_0 21 rfl rfl)
theorem dX7_breaks_22 : decode cX7_breaks 22 = .ok (.ireturn, 1) := dk_172 (dk_at dksX7_breaks_0 22 rfl rfl)
theorem dX7_breaks_23 : decode cX7_breaks 23 = .ok (.aload_n 0, 1) := dk_42 (dk_at dksX7_breaks_0 23 rfl rfl)
theorem dX7_breaks_24 : decode cX7_breaks 24 = .ok (.invokevirtual 368, 3) := dk_182 1 112 (dk_at dksX7_breaks_1 0 rfl rfl)
theorem dX7_breaks_27 : decode cX7_breaks 27 = .ok (.iconst 0, 1) := dk_3 (dk_at dksX7_breaks_1 3 rfl rfl)
theorem dX7_breaks_28 : decode cX7_breaks 28 = .ok (.istore_n 3, 1) := dk_62 (dk_at dksX7_breaks_1 4 rfl rfl)
theorem dX7_breaks_29 : decode cX7_breaks 29 = .ok (.iconst 1, 1) := dk_4 (dk_at dksX7_breaks_1 5 rfl rfl)
theorem dX7_breaks_30 : decode cX7_breaks 30 = .ok (.istore 4, 2) := dk_54 4 (dk_at dksX7_breaks_1 6 rfl rfl)
theorem dX7_breaks_32 : decode cX7_breaks 32 = .ok (.aload_n 0, 1) := dk_42 (dk_at dksX7_breaks_1 8 rfl rfl)
theorem dX7_breaks_33 : decode cX7_breaks 33 = .ok (.getfield 57, 3) := dk_180 0 57 (dk_at dksX7_breaks_1 9 rfl rfl)
theorem dX7_breaks_36 : decode cX7_breaks 36 = .ok (.bipush 40, 2) := dk_16 40 (dk_at dksX7_breaks_1 12 rfl rfl)
theorem dX7_breaks_38 : decode cX7_breaks 38 = .ok (.iload_n 1, 1) := dk_27 (dk_at dksX7_breaks_1 14 rfl rfl)
theorem dX7_breaks_39 : decode cX7_breaks 39 = .ok (.imul, 1) := dk_104 (dk_at dksX7_breaks_1 15 rfl rfl)
theorem dX7_breaks_40 : decode cX7_breaks 40 = .ok (.iload_n 3, 1) := dk_29 (dk_at dksX7_breaks_1 16 rfl rfl)
theorem dX7_breaks_41 : decode cX7_breaks 41 = .ok (.iadd, 1) := dk_96 (dk_at dksX7_breaks_1 17 rfl rfl)
theorem dX7_breaks_42 : decode cX7_breaks 42 = .ok (.iaload, 1) := dk_46 (dk_at dksX7_breaks_1 18 rfl rfl)
theorem dX7_breaks_43 : decode cX7_breaks 43 = .ok (.ifCond .ne 30, 3) := dk_154 0 30 (dk_at dksX7_breaks_1 19 rfl rfl)
theorem dX7_breaks_46 : decode cX7_breaks 46 = .ok (.iload 4, 2) := dk_21 4 (dk_at dksX7_breaks_1 22 rfl rfl)
theorem dX7_breaks_48 : decode cX7_breaks 48 = .ok (.aload_n 0, 1) := dk_42 (dk_at dksX7_breaks_2 0 rfl rfl)
theorem dX7_breaks_49 : decode cX7_breaks 49 = .ok (.getfield 87, 3) := dk_180 0 87 (dk_at dksX7_breaks_2 1 rfl rfl)
theorem dX7_breaks_52 : decode cX7_breaks 52 = .ok (.aload_n 0, 1) := dk_42 (dk_at dksX7_breaks_2 4 rfl rfl)
theorem dX7_breaks_53 : decode cX7_breaks 53 = .ok (.getfield 63, 3) := dk_180 0 63 (dk_at dksX7_breaks_2 5 rfl rfl)
theorem dX7_breaks_56 : decode cX7_breaks 56 = .ok (.bipush 40, 2) := dk_16 40 (dk_at dksX7_breaks_2 8 rfl rfl)
theorem dX7_breaks_58 : decode cX7_breaks 58 = .ok (.iload_n 1, 1) := dk_27 (dk_at dksX7_breaks_2 10 rfl rfl)
theorem dX7_breaks_59 : decode cX7_breaks 59 = .ok (.imul, 1) := dk_104 (dk_at dksX7_breaks_2 11 rfl rfl)
theorem dX7_breaks_60 : decode cX7_breaks 60 = .ok (.iload_n 3, 1) := dk_29 (dk_at dksX7_breaks_2 12 rfl rfl)
theorem dX7_breaks_61 : decode cX7_breaks 61 = .ok (.iadd, 1) := dk_96 (dk_at dksX7_breaks_2 13 rfl rfl)
theorem dX7_breaks_62 : decode cX7_breaks 62 = .ok (.iaload, 1) := dk_46 (dk_at dksX7_breaks_2 14 rfl rfl)
theorem dX7_breaks_63 : decode cX7_breaks 63 = .ok (.iaload, 1) := dk_46 (dk_at dksX7_breaks_2 15 rfl rfl)
theorem dX7_breaks_64 : decode cX7_breaks 64 = .ok (.imul, 1) := dk_104 (dk_at dksX7_breaks_2 16 rfl rfl)
theorem dX7_breaks_65 : decode cX7_breaks 65 = .ok (.istore 4, 2) := dk_54 4 (dk_at dksX7_breaks_2 17 rfl rfl)
theorem dX7_breaks_67 : decode cX7_breaks 67 = .ok (.iinc 3 1, 3) := dk_132 3 1 (dk_at dksX7_breaks_2 19 rfl rfl)
theorem dX7_breaks_70 : decode cX7_breaks 70 = .ok (.goto (-38), 3) := dk_167 255 218 (dk_at dksX7_breaks_3 0 rfl rfl)
theorem dX7_breaks_73 : decode cX7_breaks 73 = .ok (.iload_n 2, 1) := dk_28 (dk_at dksX7_breaks_3 3 rfl rfl)
theorem dX7_breaks_74 : decode cX7_breaks 74 = .ok (.iconst 0, 1) := dk_3 (dk_at dksX7_breaks_3 4 rfl rfl)
theorem dX7_breaks_75 : decode cX7_breaks 75 = .ok (.iload_n 3, 1) := dk_29 (dk_at dksX7_breaks_3 5 rfl rfl)
theorem dX7_breaks_76 : decode cX7_breaks 76 = .ok (.iconst 1, 1) := dk_4 (dk_at dksX7_breaks_3 6 rfl rfl)
theorem dX7_breaks_77 : decode cX7_breaks 77 = .ok (.isub, 1) := dk_100 (dk_at dksX7_breaks_3 7 rfl rfl)
theorem dX7_breaks_78 : decode cX7_breaks 78 = .ok (.invokestatic 160, 3) := dk_184 0 160 (dk_at dksX7_breaks_3 8 rfl rfl)
theorem dX7_breaks_81 : decode cX7_breaks 81 = .ok (.ifCond .eq 11, 3) := dk_153 0 11 (dk_at dksX7_breaks_3 11 rfl rfl)
theorem dX7_breaks_84 : decode cX7_breaks 84 = .ok (.aload_n 0, 1) := dk_42 (dk_at dksX7_breaks_3 14 rfl rfl)
theorem dX7_breaks_85 : decode cX7_breaks 85 = .ok (.iload_n 1, 1) := dk_27 (dk_at dksX7_breaks_3 15 rfl rfl)
theorem dX7_breaks_86 : decode cX7_breaks 86 = .ok (.invokevirtual 371, 3) := dk_182 1 115 (dk_at dksX7_breaks_3 16 rfl rfl)
theorem dX7_breaks_89 : decode cX7_breaks 89 = .ok (.ifCond .eq 5, 3) := dk_153 0 5 (dk_at dksX7_breaks_3 19 rfl rfl)
theorem dX7_breaks_92 : decode cX7_breaks 92 = .ok (.iconst (-1), 1) := dk_2 (dk_at dksX7_breaks_3 22 rfl rfl)
theorem dX7_breaks_93 : decode cX7_breaks 93 = .ok (.ireturn, 1) := dk_172 (dk_at dksX7_breaks_3 23 rfl rfl)
theorem dX7_breaks_94 : decode cX7_breaks 94 = .ok (.aload_n 0, 1) := dk_42 (dk_at dksX7_breaks_4 0 rfl rfl)
theorem dX7_breaks_95 : decode cX7_breaks 95 = .ok (.iload_n 1, 1) := dk_27 (dk_at dksX7_breaks_4 1 rfl rfl)
theorem dX7_breaks_96 : decode cX7_breaks 96 = .ok (.iload_n 3, 1) := dk_29 (dk_at dksX7_breaks_4 2 rfl rfl)
theorem dX7_breaks_97 : decode cX7_breaks 97 = .ok (.invokevirtual 365, 3) := dk_182 1 109 (dk_at dksX7_breaks_4 3 rfl rfl)
theorem dX7_breaks_100 : decode cX7_breaks 100 = .ok (.iconst 0, 1) := dk_3 (dk_at dksX7_breaks_4 6 rfl rfl)
theorem dX7_breaks_101 : decode cX7_breaks 101 = .ok (.istore 5, 2) := dk_54 5 (dk_at dksX7_breaks_4 7 rfl rfl)
theorem dX7_breaks_103 : decode cX7_breaks 103 = .ok (.iload 5, 2) := dk_21 5 (dk_at dksX7_breaks_4 9 rfl rfl)
theorem dX7_breaks_105 : decode cX7_breaks 105 = .ok (.iload 4, 2) := dk_21 4 (dk_at dksX7_breaks_4 11 rfl rfl)
theorem dX7_breaks_107 : decode cX7_breaks 107 = .ok (.if_icmp .ge 154, 3) := dk_162 0 154 (dk_at dksX7_breaks_4 13 rfl rfl)
theorem dX7_breaks_110 : decode cX7_breaks 110 = .ok (.iload 5, 2) := dk_21 5 (dk_at dksX7_breaks_4 16 rfl rfl)
theorem dX7_breaks_112 : decode cX7_breaks 112 = .ok (.istore 6, 2) := dk_54 6 (dk_at dksX7_breaks_4 18 rfl rfl)
theorem dX7_breaks_114 : decode cX7_breaks 114 = .ok (.iconst 0, 1) := dk_3 (dk_at dksX7_breaks_4 20 rfl rfl)
theorem dX7_breaks_115 : decode cX7_breaks 115 = .ok (.istore 7, 2) := dk_54 7 (dk_at dksX7_breaks_4 21 rfl rfl)
theorem dX7_breaks_117 : decode cX7_breaks 117 = .ok (.iconst 0, 1) := dk_3 (dk_at dksX7_breaks_4 23 rfl rfl)
theorem dX7_breaks_118 : decode cX7_breaks 118 = .ok (.istore 8, 2) := dk_54 8 (dk_at dksX7_breaks_5 0 rfl rfl)
theorem dX7_breaks_120 : decode cX7_breaks 120 = .ok (.iconst 0, 1) := dk_3 (dk_at dksX7_breaks_5 2 rfl rfl)
theorem dX7_breaks_121 : decode cX7_breaks 121 = .ok (.istore 9, 2) := dk_54 9 (dk_at dksX7_breaks_5 3 rfl rfl)
theorem dX7_breaks_123 : decode cX7_breaks 123 = .ok (.iload_n 3, 1) := dk_29 (dk_at dksX7_breaks_5 5 rfl rfl)
theorem dX7_breaks_124 : decode cX7_breaks 124 = .ok (.iconst 1, 1) := dk_4 (dk_at dksX7_breaks_5 6 rfl rfl)
theorem dX7_breaks_125 : decode cX7_breaks 125 = .ok (.isub, 1) := dk_100 (dk_at dksX7_breaks_5 7 rfl rfl)
theorem dX7_breaks_126 : decode cX7_breaks 126 = .ok (.istore 10, 2) := dk_54 10 (dk_at dksX7_breaks_5 8 rfl rfl)
theorem dX7_breaks_128 : decode cX7_breaks 128 = .ok (.iload 10, 2) := dk_21 10 (dk_at dksX7_breaks_5 10 rfl rfl)
theorem dX7_breaks_130 : decode cX7_breaks 130 = .ok (.ifCond .lt 112, 3) := dk_155 0 112 (dk_at dksX7_breaks_5 12 rfl rfl)
theorem dX7_breaks_133 : decode cX7_breaks 133 = .ok (.bipush 40, 2) := dk_16 40 (dk_at dksX7_breaks_5 15 rfl rfl)
theorem dX7_breaks_135 : decode cX7_breaks 135 = .ok (.iload_n 1, 1) := dk_27 (dk_at dksX7_breaks_5 17 rfl rfl)
theorem dX7_breaks_136 : decode cX7_breaks 136 = .ok (.imul, 1) := dk_104 (dk_at dksX7_breaks_5 18 rfl rfl)
theorem dX7_breaks_137 : decode cX7_breaks 137 = .ok (.iload 10, 2) := dk_21 10 (dk_at dksX7_breaks_5 19 rfl rfl)
theorem dX7_breaks_139 : decode cX7_breaks 139 = .ok (.iadd, 1) := dk_96 (dk_at dksX7_breaks_5 21 rfl rfl)
theorem dX7_breaks_140 : decode cX7_breaks 140 = .ok (.istore 11, 2) := dk_54 11 (dk_at dksX7_breaks_5 22 rfl rfl)
theorem dX7_breaks_142 : decode cX7_breaks 142 = .ok (.aload_n 0, 1) := dk_42 (dk_at dksX7_breaks_6 0 rfl rfl)
theorem dX7_breaks_143 : decode cX7_breaks 143 = .ok (.getfield 87, 3) := dk_180 0 87 (dk_at dksX7_breaks_6 1 rfl rfl)
theorem dX7_breaks_146 : decode cX7_breaks 146 = .ok (.aload_n 0, 1) := dk_42 (dk_at dksX7_breaks_6 4 rfl rfl)
theorem dX7_breaks_147 : decode cX7_breaks 147 = .ok (.getfield 63, 3) := dk_180 0 63 (dk_at dksX7_breaks_6 5 rfl rfl)
theorem dX7_breaks_150 : decode cX7_breaks 150 = .ok (.iload 11, 2) := dk_21 11 (dk_at dksX7_breaks_6 8 rfl rfl)
theorem dX7_breaks_152 : decode cX7_breaks 152 = .ok (.iaload, 1) := dk_46 (dk_at dksX7_breaks_6 10 rfl rfl)
theorem dX7_breaks_153 : decode cX7_breaks 153 = .ok (.iaload, 1) := dk_46 (dk_at dksX7_breaks_6 11 rfl rfl)
theorem dX7_breaks_154 : decode cX7_breaks 154 = .ok (.istore 12, 2) := dk_54 12 (dk_at dksX7_breaks_6 12 rfl rfl)
theorem dX7_breaks_156 : decode cX7_breaks 156 = .ok (.iload 6, 2) := dk_21 6 (dk_at dksX7_breaks_6 14 rfl rfl)
theorem dX7_breaks_158 : decode cX7_breaks 158 = .ok (.iload 12, 2) := dk_21 12 (dk_at dksX7_breaks_6 16 rfl rfl)
theorem dX7_breaks_160 : decode cX7_breaks 160 = .ok (.irem, 1) := dk_112 (dk_at dksX7_breaks_6 18 rfl rfl)
theorem dX7_breaks_161 : decode cX7_breaks 161 = .ok (.istore 13, 2) := dk_54 13 (dk_at dksX7_breaks_6 19 rfl rfl)
theorem dX7_breaks_163 : decode cX7_breaks 163 = .ok (.iload 6, 2) := dk_21 6 (dk_at dksX7_breaks_6 21 rfl rfl)
theorem dX7_breaks_165 : decode cX7_breaks 165 = .ok (.iload 12, 2) := dk_21 12 (dk_at dksX7_breaks_7 0 rfl rfl)
theorem dX7_breaks_167 : decode cX7_breaks 167 = .ok (.idiv, 1) := dk_108 (dk_at dksX7_breaks_7 2 rfl rfl)
theorem dX7_breaks_168 : decode cX7_breaks 168 = .ok (.istore 6, 2) := dk_54 6 (dk_at dksX7_breaks_7 3 rfl rfl)
theorem dX7_breaks_170 : decode cX7_breaks 170 = .ok (.iload 7, 2) := dk_21 7 (dk_at dksX7_breaks_7 5 rfl rfl)
theorem dX7_breaks_172 : decode cX7_breaks 172 = .ok (.iload 9, 2) := dk_21 9 (dk_at dksX7_breaks_7 7 rfl rfl)
theorem dX7_breaks_174 : decode cX7_breaks 174 = .ok (.aload_n 0, 1) := dk_42 (dk_at dksX7_breaks_7 9 rfl rfl)
theorem dX7_breaks_175 : decode cX7_breaks 175 = .ok (.getfield 60, 3) := dk_180 0 60 (dk_at dksX7_breaks_7 10 rfl rfl)
theorem dX7_breaks_178 : decode cX7_breaks 178 = .ok (.iload 11, 2) := dk_21 11 (dk_at dksX7_breaks_7 13 rfl rfl)
theorem dX7_breaks_180 : decode cX7_breaks 180 = .ok (.iaload, 1) := dk_46 (dk_at dksX7_breaks_7 15 rfl rfl)
theorem dX7_breaks_181 : decode cX7_breaks 181 = .ok (.ishr, 1) := dk_122 (dk_at dksX7_breaks_7 16 rfl rfl)
theorem dX7_breaks_182 : decode cX7_breaks 182 = .ok (.iconst 1, 1) := dk_4 (dk_at dksX7_breaks_7 17 rfl rfl)
theorem dX7_breaks_183 : decode cX7_breaks 183 = .ok (.iand, 1) := dk_126 (dk_at dksX7_breaks_7 18 rfl rfl)
theorem dX7_breaks_184 : decode cX7_breaks 184 = .ok (.ifCond .ne 19, 3) := dk_154 0 19 (dk_at dksX7_breaks_7 19 rfl rfl)
theorem dX7_breaks_187 : decode cX7_breaks 187 = .ok (.iload 13, 2) := dk_21 13 (dk_at dksX7_breaks_7 22 rfl rfl)
theorem dX7_breaks_189 : decode cX7_breaks 189 = .ok (.aload_n 0, 1) := dk_42 (dk_at dksX7_breaks_8 0 rfl rfl)
theorem dX7_breaks_190 : decode cX7_breaks 190 = .ok (.getfield 60, 3) := dk_180 0 60 (dk_at dksX7_breaks_8 1 rfl rfl)
theorem dX7_breaks_193 : decode cX7_breaks 193 = .ok (.iload 11, 2) := dk_21 11 (dk_at dksX7_breaks_8 4 rfl rfl)
theorem dX7_breaks_195 : decode cX7_breaks 195 = .ok (.iaload, 1) := dk_46 (dk_at dksX7_breaks_8 6 rfl rfl)
theorem dX7_breaks_196 : decode cX7_breaks 196 = .ok (.invokestatic 338, 3) := dk_184 1 82 (dk_at dksX7_breaks_8 7 rfl rfl)
theorem dX7_breaks_199 : decode cX7_breaks 199 = .ok (.imul, 1) := dk_104 (dk_at dksX7_breaks_8 10 rfl rfl)
theorem dX7_breaks_200 : decode cX7_breaks 200 = .ok (.goto 4, 3) := dk_167 0 4 (dk_at dksX7_breaks_8 11 rfl rfl)
theorem dX7_breaks_203 : decode cX7_breaks 203 = .ok (.iconst 0, 1) := dk_3 (dk_at dksX7_breaks_8 14 rfl rfl)
theorem dX7_breaks_204 : decode cX7_breaks 204 = .ok (.iadd, 1) := dk_96 (dk_at dksX7_breaks_8 15 rfl rfl)
theorem dX7_breaks_205 : decode cX7_breaks 205 = .ok (.istore 7, 2) := dk_54 7 (dk_at dksX7_breaks_8 16 rfl rfl)
theorem dX7_breaks_207 : decode cX7_breaks 207 = .ok (.iload 9, 2) := dk_21 9 (dk_at dksX7_breaks_8 18 rfl rfl)
theorem dX7_breaks_209 : decode cX7_breaks 209 = .ok (.iconst 1, 1) := dk_4 (dk_at dksX7_breaks_8 20 rfl rfl)
theorem dX7_breaks_210 : decode cX7_breaks 210 = .ok (.aload_n 0, 1) := dk_42 (dk_at dksX7_breaks_8 21 rfl rfl)
theorem dX7_breaks_211 : decode cX7_breaks 211 = .ok (.getfield 60, 3) := dk_180 0 60 (dk_at dksX7_breaks_9 0 rfl rfl)
theorem dX7_breaks_214 : decode cX7_breaks 214 = .ok (.iload 11, 2) := dk_21 11 (dk_at dksX7_breaks_9 3 rfl rfl)
theorem dX7_breaks_216 : decode cX7_breaks 216 = .ok (.iaload, 1) := dk_46 (dk_at dksX7_breaks_9 5 rfl rfl)
theorem dX7_breaks_217 : decode cX7_breaks 217 = .ok (.ishl, 1) := dk_120 (dk_at dksX7_breaks_9 6 rfl rfl)
theorem dX7_breaks_218 : decode cX7_breaks 218 = .ok (.ior, 1) := dk_128 (dk_at dksX7_breaks_9 7 rfl rfl)
theorem dX7_breaks_219 : decode cX7_breaks 219 = .ok (.istore 9, 2) := dk_54 9 (dk_at dksX7_breaks_9 8 rfl rfl)
theorem dX7_breaks_221 : decode cX7_breaks 221 = .ok (.iload 10, 2) := dk_21 10 (dk_at dksX7_breaks_9 10 rfl rfl)
theorem dX7_breaks_223 : decode cX7_breaks 223 = .ok (.iload_n 2, 1) := dk_28 (dk_at dksX7_breaks_9 12 rfl rfl)
theorem dX7_breaks_224 : decode cX7_breaks 224 = .ok (.if_icmp .ne 8, 3) := dk_160 0 8 (dk_at dksX7_breaks_9 13 rfl rfl)
theorem dX7_breaks_227 : decode cX7_breaks 227 = .ok (.iload 13, 2) := dk_21 13 (dk_at dksX7_breaks_9 16 rfl rfl)
theorem dX7_breaks_229 : decode cX7_breaks 229 = .ok (.goto 5, 3) := dk_167 0 5 (dk_at dksX7_breaks_9 18 rfl rfl)
theorem dX7_breaks_232 : decode cX7_breaks 232 = .ok (.iload 8, 2) := dk_21 8 (dk_at dksX7_breaks_9 21 rfl rfl)
theorem dX7_breaks_234 : decode cX7_breaks 234 = .ok (.istore 8, 2) := dk_54 8 (dk_at dksX7_breaks_10 0 rfl rfl)
theorem dX7_breaks_236 : decode cX7_breaks 236 = .ok (.iinc 10 (-1), 3) := dk_132 10 255 (dk_at dksX7_breaks_10 2 rfl rfl)
theorem dX7_breaks_239 : decode cX7_breaks 239 = .ok (.goto (-111), 3) := dk_167 255 145 (dk_at dksX7_breaks_10 5 rfl rfl)
theorem dX7_breaks_242 : decode cX7_breaks 242 = .ok (.aload_n 0, 1) := dk_42 (dk_at dksX7_breaks_10 8 rfl rfl)
theorem dX7_breaks_243 : decode cX7_breaks 243 = .ok (.getfield 111, 3) := dk_180 0 111 (dk_at dksX7_breaks_10 9 rfl rfl)
theorem dX7_breaks_246 : decode cX7_breaks 246 = .ok (.iload 7, 2) := dk_21 7 (dk_at dksX7_breaks_10 12 rfl rfl)
theorem dX7_breaks_248 : decode cX7_breaks 248 = .ok (.baload, 1) := dk_51 (dk_at dksX7_breaks_10 14 rfl rfl)
theorem dX7_breaks_249 : decode cX7_breaks 249 = .ok (.ifCond .ne 6, 3) := dk_154 0 6 (dk_at dksX7_breaks_10 15 rfl rfl)
theorem dX7_breaks_252 : decode cX7_breaks 252 = .ok (.iload 8, 2) := dk_21 8 (dk_at dksX7_breaks_10 18 rfl rfl)
theorem dX7_breaks_254 : decode cX7_breaks 254 = .ok (.ireturn, 1) := dk_172 (dk_at dksX7_breaks_10 20 rfl rfl)
theorem dX7_breaks_255 : decode cX7_breaks 255 = .ok (.iinc 5 1, 3) := dk_132 5 1 (dk_at dksX7_breaks_10 21 rfl rfl)
theorem dX7_breaks_258 : decode cX7_breaks 258 = .ok (.goto (-155), 3) := dk_167 255 101 (dk_at dksX7_breaks_11 0 rfl rfl)
theorem dX7_breaks_261 : decode cX7_breaks 261 = .ok (.iconst (-1), 1) := dk_2 (dk_at dksX7_breaks_11 3 rfl rfl)
theorem dX7_breaks_262 : decode cX7_breaks 262 = .ok (.ireturn, 1) := dk_172 (dk_at dksX7_breaks_11 4 rfl rfl)
abbrev cX7_worlds : ByteArray := prog_33_method_79_code
def yX7_worlds : MethodName := ⟨RX7, "worlds", "()I"⟩
def dkwX7_worlds_2 : List UInt8 := [132, 2, 1, 167, 255, 227, 27, 172]
abbrev dktX7_worlds_2 : List UInt8 := dkwX7_worlds_2 ++ []
def dkwX7_worlds_1 : List UInt8 := [42, 182, 0, 171, 120, 162, 0, 25, 27, 42, 28, 182, 1, 148, 153, 0, 7, 4, 167, 0, 4, 3, 96, 60]
abbrev dktX7_worlds_1 : List UInt8 := dkwX7_worlds_1 ++ dktX7_worlds_2
def dkwX7_worlds_0 : List UInt8 := [42, 3, 181, 0, 142, 42, 182, 0, 182, 154, 0, 5, 2, 172, 42, 182, 1, 154, 3, 60, 3, 61, 28, 4]
abbrev dktX7_worlds_0 : List UInt8 := dkwX7_worlds_0 ++ dktX7_worlds_1
theorem dksX7_worlds_0 : cX7_worlds.data.toList.drop 0 = dktX7_worlds_0 := by decide +kernel
theorem dksX7_worlds_1 : cX7_worlds.data.toList.drop 24 = dktX7_worlds_1 := dk_seg dksX7_worlds_0 24 rfl rfl
theorem dksX7_worlds_2 : cX7_worlds.data.toList.drop 48 = dktX7_worlds_2 := dk_seg dksX7_worlds_1 24 rfl rfl
theorem dX7_worlds_0 : decode cX7_worlds 0 = .ok (.aload_n 0, 1) := dk_42 (dk_at dksX7_worlds_0 0 rfl rfl)
theorem dX7_worlds_1 : decode cX7_worlds 1 = .ok (.iconst 0, 1) := dk_3 (dk_at dksX7_worlds_0 1 rfl rfl)
theorem dX7_worlds_2 : decode cX7_worlds 2 = .ok (.putfield 142, 3) := dk_181 0 142 (dk_at dksX7_worlds_0 2 rfl rfl)
theorem dX7_worlds_5 : decode cX7_worlds 5 = .ok (.aload_n 0, 1) := dk_42 (dk_at dksX7_worlds_0 5 rfl rfl)
theorem dX7_worlds_6 : decode cX7_worlds 6 = .ok (.invokevirtual 182, 3) := dk_182 0 182 (dk_at dksX7_worlds_0 6 rfl rfl)
theorem dX7_worlds_9 : decode cX7_worlds 9 = .ok (.ifCond .ne 5, 3) := dk_154 0 5 (dk_at dksX7_worlds_0 9 rfl rfl)
theorem dX7_worlds_12 : decode cX7_worlds 12 = .ok (.iconst (-1), 1) := dk_2 (dk_at dksX7_worlds_0 12 rfl rfl)
theorem dX7_worlds_13 : decode cX7_worlds 13 = .ok (.ireturn, 1) := dk_172 (dk_at dksX7_worlds_0 13 rfl rfl)
theorem dX7_worlds_14 : decode cX7_worlds 14 = .ok (.aload_n 0, 1) := dk_42 (dk_at dksX7_worlds_0 14 rfl rfl)
theorem dX7_worlds_15 : decode cX7_worlds 15 = .ok (.invokevirtual 410, 3) := dk_182 1 154 (dk_at dksX7_worlds_0 15 rfl rfl)
theorem dX7_worlds_18 : decode cX7_worlds 18 = .ok (.iconst 0, 1) := dk_3 (dk_at dksX7_worlds_0 18 rfl rfl)
theorem dX7_worlds_19 : decode cX7_worlds 19 = .ok (.istore_n 1, 1) := dk_60 (dk_at dksX7_worlds_0 19 rfl rfl)
theorem dX7_worlds_20 : decode cX7_worlds 20 = .ok (.iconst 0, 1) := dk_3 (dk_at dksX7_worlds_0 20 rfl rfl)
theorem dX7_worlds_21 : decode cX7_worlds 21 = .ok (.istore_n 2, 1) := dk_61 (dk_at dksX7_worlds_0 21 rfl rfl)
theorem dX7_worlds_22 : decode cX7_worlds 22 = .ok (.iload_n 2, 1) := dk_28 (dk_at dksX7_worlds_0 22 rfl rfl)
theorem dX7_worlds_23 : decode cX7_worlds 23 = .ok (.iconst 1, 1) := dk_4 (dk_at dksX7_worlds_0 23 rfl rfl)
theorem dX7_worlds_24 : decode cX7_worlds 24 = .ok (.aload_n 0, 1) := dk_42 (dk_at dksX7_worlds_1 0 rfl rfl)
theorem dX7_worlds_25 : decode cX7_worlds 25 = .ok (.invokevirtual 171, 3) := dk_182 0 171 (dk_at dksX7_worlds_1 1 rfl rfl)
theorem dX7_worlds_28 : decode cX7_worlds 28 = .ok (.ishl, 1) := dk_120 (dk_at dksX7_worlds_1 4 rfl rfl)
theorem dX7_worlds_29 : decode cX7_worlds 29 = .ok (.if_icmp .ge 25, 3) := dk_162 0 25 (dk_at dksX7_worlds_1 5 rfl rfl)
theorem dX7_worlds_32 : decode cX7_worlds 32 = .ok (.iload_n 1, 1) := dk_27 (dk_at dksX7_worlds_1 8 rfl rfl)
theorem dX7_worlds_33 : decode cX7_worlds 33 = .ok (.aload_n 0, 1) := dk_42 (dk_at dksX7_worlds_1 9 rfl rfl)
theorem dX7_worlds_34 : decode cX7_worlds 34 = .ok (.iload_n 2, 1) := dk_28 (dk_at dksX7_worlds_1 10 rfl rfl)
theorem dX7_worlds_35 : decode cX7_worlds 35 = .ok (.invokevirtual 404, 3) := dk_182 1 148 (dk_at dksX7_worlds_1 11 rfl rfl)
theorem dX7_worlds_38 : decode cX7_worlds 38 = .ok (.ifCond .eq 7, 3) := dk_153 0 7 (dk_at dksX7_worlds_1 14 rfl rfl)
theorem dX7_worlds_41 : decode cX7_worlds 41 = .ok (.iconst 1, 1) := dk_4 (dk_at dksX7_worlds_1 17 rfl rfl)
theorem dX7_worlds_42 : decode cX7_worlds 42 = .ok (.goto 4, 3) := dk_167 0 4 (dk_at dksX7_worlds_1 18 rfl rfl)
theorem dX7_worlds_45 : decode cX7_worlds 45 = .ok (.iconst 0, 1) := dk_3 (dk_at dksX7_worlds_1 21 rfl rfl)
theorem dX7_worlds_46 : decode cX7_worlds 46 = .ok (.iadd, 1) := dk_96 (dk_at dksX7_worlds_1 22 rfl rfl)
theorem dX7_worlds_47 : decode cX7_worlds 47 = .ok (.istore_n 1, 1) := dk_60 (dk_at dksX7_worlds_1 23 rfl rfl)
theorem dX7_worlds_48 : decode cX7_worlds 48 = .ok (.iinc 2 1, 3) := dk_132 2 1 (dk_at dksX7_worlds_2 0 rfl rfl)
theorem dX7_worlds_51 : decode cX7_worlds 51 = .ok (.goto (-29), 3) := dk_167 255 227 (dk_at dksX7_worlds_2 3 rfl rfl)
theorem dX7_worlds_54 : decode cX7_worlds 54 = .ok (.iload_n 1, 1) := dk_27 (dk_at dksX7_worlds_2 6 rfl rfl)
theorem dX7_worlds_55 : decode cX7_worlds 55 = .ok (.ireturn, 1) := dk_172 (dk_at dksX7_worlds_2 7 rfl rfl)
abbrev cX7_prepare : ByteArray := prog_33_method_69_code
def yX7_prepare : MethodName := ⟨RX7, "prepare", "()V"⟩
def dkwX7_prepare_0 : List UInt8 := [42, 42, 182, 1, 124, 181, 1, 127, 42, 182, 1, 130, 177]
abbrev dktX7_prepare_0 : List UInt8 := dkwX7_prepare_0 ++ []
theorem dksX7_prepare_0 : cX7_prepare.data.toList.drop 0 = dktX7_prepare_0 := by decide +kernel
theorem dX7_prepare_0 : decode cX7_prepare 0 = .ok (.aload_n 0, 1) := dk_42 (dk_at dksX7_prepare_0 0 rfl rfl)
theorem dX7_prepare_1 : decode cX7_prepare 1 = .ok (.aload_n 0, 1) := dk_42 (dk_at dksX7_prepare_0 1 rfl rfl)
theorem dX7_prepare_2 : decode cX7_prepare 2 = .ok (.invokevirtual 380, 3) := dk_182 1 124 (dk_at dksX7_prepare_0 2 rfl rfl)
theorem dX7_prepare_5 : decode cX7_prepare 5 = .ok (.putfield 383, 3) := dk_181 1 127 (dk_at dksX7_prepare_0 5 rfl rfl)
theorem dX7_prepare_8 : decode cX7_prepare 8 = .ok (.aload_n 0, 1) := dk_42 (dk_at dksX7_prepare_0 8 rfl rfl)
theorem dX7_prepare_9 : decode cX7_prepare 9 = .ok (.invokevirtual 386, 3) := dk_182 1 130 (dk_at dksX7_prepare_0 9 rfl rfl)
theorem dX7_prepare_12 : decode cX7_prepare 12 = .ok (.return_, 1) := dk_177 (dk_at dksX7_prepare_0 12 rfl rfl)
abbrev cX7_told : ByteArray := prog_33_method_52_code
def yX7_told : MethodName := ⟨RX7, "told", "()I"⟩
def dkwX7_told_3 : List UInt8 := [29, 120, 167, 0, 4, 3, 128, 61, 132, 3, 1, 167, 255, 203, 28, 172]
abbrev dktX7_told_3 : List UInt8 := dkwX7_told_3 ++ []
def dkwX7_told_2 : List UInt8 := [163, 0, 29, 42, 180, 0, 51, 29, 46, 2, 159, 0, 13, 42, 180, 0, 51, 29, 46, 27, 164, 0, 9, 4]
abbrev dktX7_told_2 : List UInt8 := dkwX7_told_2 ++ dktX7_told_3
def dkwX7_told_1 : List UInt8 := [46, 60, 3, 61, 3, 62, 29, 42, 180, 0, 45, 3, 46, 162, 0, 49, 28, 42, 180, 0, 48, 29, 46, 27]
abbrev dktX7_told_1 : List UInt8 := dkwX7_told_1 ++ dktX7_told_2
def dkwX7_told_0 : List UInt8 := [42, 180, 0, 26, 3, 46, 2, 160, 0, 12, 42, 180, 0, 23, 3, 46, 167, 0, 9, 42, 180, 0, 26, 3]
abbrev dktX7_told_0 : List UInt8 := dkwX7_told_0 ++ dktX7_told_1
theorem dksX7_told_0 : cX7_told.data.toList.drop 0 = dktX7_told_0 := by decide +kernel
theorem dksX7_told_1 : cX7_told.data.toList.drop 24 = dktX7_told_1 := dk_seg dksX7_told_0 24 rfl rfl
theorem dksX7_told_2 : cX7_told.data.toList.drop 48 = dktX7_told_2 := dk_seg dksX7_told_1 24 rfl rfl
theorem dksX7_told_3 : cX7_told.data.toList.drop 72 = dktX7_told_3 := dk_seg dksX7_told_2 24 rfl rfl
theorem dX7_told_0 : decode cX7_told 0 = .ok (.aload_n 0, 1) := dk_42 (dk_at dksX7_told_0 0 rfl rfl)
theorem dX7_told_1 : decode cX7_told 1 = .ok (.getfield 26, 3) := dk_180 0 26 (dk_at dksX7_told_0 1 rfl rfl)
theorem dX7_told_4 : decode cX7_told 4 = .ok (.iconst 0, 1) := dk_3 (dk_at dksX7_told_0 4 rfl rfl)
theorem dX7_told_5 : decode cX7_told 5 = .ok (.iaload, 1) := dk_46 (dk_at dksX7_told_0 5 rfl rfl)
theorem dX7_told_6 : decode cX7_told 6 = .ok (.iconst (-1), 1) := dk_2 (dk_at dksX7_told_0 6 rfl rfl)
theorem dX7_told_7 : decode cX7_told 7 = .ok (.if_icmp .ne 12, 3) := dk_160 0 12 (dk_at dksX7_told_0 7 rfl rfl)
theorem dX7_told_10 : decode cX7_told 10 = .ok (.aload_n 0, 1) := dk_42 (dk_at dksX7_told_0 10 rfl rfl)
theorem dX7_told_11 : decode cX7_told 11 = .ok (.getfield 23, 3) := dk_180 0 23 (dk_at dksX7_told_0 11 rfl rfl)
theorem dX7_told_14 : decode cX7_told 14 = .ok (.iconst 0, 1) := dk_3 (dk_at dksX7_told_0 14 rfl rfl)
theorem dX7_told_15 : decode cX7_told 15 = .ok (.iaload, 1) := dk_46 (dk_at dksX7_told_0 15 rfl rfl)
theorem dX7_told_16 : decode cX7_told 16 = .ok (.goto 9, 3) := dk_167 0 9 (dk_at dksX7_told_0 16 rfl rfl)
theorem dX7_told_19 : decode cX7_told 19 = .ok (.aload_n 0, 1) := dk_42 (dk_at dksX7_told_0 19 rfl rfl)
theorem dX7_told_20 : decode cX7_told 20 = .ok (.getfield 26, 3) := dk_180 0 26 (dk_at dksX7_told_0 20 rfl rfl)
theorem dX7_told_23 : decode cX7_told 23 = .ok (.iconst 0, 1) := dk_3 (dk_at dksX7_told_0 23 rfl rfl)
theorem dX7_told_24 : decode cX7_told 24 = .ok (.iaload, 1) := dk_46 (dk_at dksX7_told_1 0 rfl rfl)
theorem dX7_told_25 : decode cX7_told 25 = .ok (.istore_n 1, 1) := dk_60 (dk_at dksX7_told_1 1 rfl rfl)
theorem dX7_told_26 : decode cX7_told 26 = .ok (.iconst 0, 1) := dk_3 (dk_at dksX7_told_1 2 rfl rfl)
theorem dX7_told_27 : decode cX7_told 27 = .ok (.istore_n 2, 1) := dk_61 (dk_at dksX7_told_1 3 rfl rfl)
theorem dX7_told_28 : decode cX7_told 28 = .ok (.iconst 0, 1) := dk_3 (dk_at dksX7_told_1 4 rfl rfl)
theorem dX7_told_29 : decode cX7_told 29 = .ok (.istore_n 3, 1) := dk_62 (dk_at dksX7_told_1 5 rfl rfl)
theorem dX7_told_30 : decode cX7_told 30 = .ok (.iload_n 3, 1) := dk_29 (dk_at dksX7_told_1 6 rfl rfl)
theorem dX7_told_31 : decode cX7_told 31 = .ok (.aload_n 0, 1) := dk_42 (dk_at dksX7_told_1 7 rfl rfl)
theorem dX7_told_32 : decode cX7_told 32 = .ok (.getfield 45, 3) := dk_180 0 45 (dk_at dksX7_told_1 8 rfl rfl)
theorem dX7_told_35 : decode cX7_told 35 = .ok (.iconst 0, 1) := dk_3 (dk_at dksX7_told_1 11 rfl rfl)
theorem dX7_told_36 : decode cX7_told 36 = .ok (.iaload, 1) := dk_46 (dk_at dksX7_told_1 12 rfl rfl)
theorem dX7_told_37 : decode cX7_told 37 = .ok (.if_icmp .ge 49, 3) := dk_162 0 49 (dk_at dksX7_told_1 13 rfl rfl)
theorem dX7_told_40 : decode cX7_told 40 = .ok (.iload_n 2, 1) := dk_28 (dk_at dksX7_told_1 16 rfl rfl)
theorem dX7_told_41 : decode cX7_told 41 = .ok (.aload_n 0, 1) := dk_42 (dk_at dksX7_told_1 17 rfl rfl)
theorem dX7_told_42 : decode cX7_told 42 = .ok (.getfield 48, 3) := dk_180 0 48 (dk_at dksX7_told_1 18 rfl rfl)
theorem dX7_told_45 : decode cX7_told 45 = .ok (.iload_n 3, 1) := dk_29 (dk_at dksX7_told_1 21 rfl rfl)
theorem dX7_told_46 : decode cX7_told 46 = .ok (.iaload, 1) := dk_46 (dk_at dksX7_told_1 22 rfl rfl)
theorem dX7_told_47 : decode cX7_told 47 = .ok (.iload_n 1, 1) := dk_27 (dk_at dksX7_told_1 23 rfl rfl)
theorem dX7_told_48 : decode cX7_told 48 = .ok (.if_icmp .gt 29, 3) := dk_163 0 29 (dk_at dksX7_told_2 0 rfl rfl)
theorem dX7_told_51 : decode cX7_told 51 = .ok (.aload_n 0, 1) := dk_42 (dk_at dksX7_told_2 3 rfl rfl)
theorem dX7_told_52 : decode cX7_told 52 = .ok (.getfield 51, 3) := dk_180 0 51 (dk_at dksX7_told_2 4 rfl rfl)
theorem dX7_told_55 : decode cX7_told 55 = .ok (.iload_n 3, 1) := dk_29 (dk_at dksX7_told_2 7 rfl rfl)
theorem dX7_told_56 : decode cX7_told 56 = .ok (.iaload, 1) := dk_46 (dk_at dksX7_told_2 8 rfl rfl)
theorem dX7_told_57 : decode cX7_told 57 = .ok (.iconst (-1), 1) := dk_2 (dk_at dksX7_told_2 9 rfl rfl)
theorem dX7_told_58 : decode cX7_told 58 = .ok (.if_icmp .eq 13, 3) := dk_159 0 13 (dk_at dksX7_told_2 10 rfl rfl)
theorem dX7_told_61 : decode cX7_told 61 = .ok (.aload_n 0, 1) := dk_42 (dk_at dksX7_told_2 13 rfl rfl)
theorem dX7_told_62 : decode cX7_told 62 = .ok (.getfield 51, 3) := dk_180 0 51 (dk_at dksX7_told_2 14 rfl rfl)
theorem dX7_told_65 : decode cX7_told 65 = .ok (.iload_n 3, 1) := dk_29 (dk_at dksX7_told_2 17 rfl rfl)
theorem dX7_told_66 : decode cX7_told 66 = .ok (.iaload, 1) := dk_46 (dk_at dksX7_told_2 18 rfl rfl)
theorem dX7_told_67 : decode cX7_told 67 = .ok (.iload_n 1, 1) := dk_27 (dk_at dksX7_told_2 19 rfl rfl)
theorem dX7_told_68 : decode cX7_told 68 = .ok (.if_icmp .le 9, 3) := dk_164 0 9 (dk_at dksX7_told_2 20 rfl rfl)
theorem dX7_told_71 : decode cX7_told 71 = .ok (.iconst 1, 1) := dk_4 (dk_at dksX7_told_2 23 rfl rfl)
theorem dX7_told_72 : decode cX7_told 72 = .ok (.iload_n 3, 1) := dk_29 (dk_at dksX7_told_3 0 rfl rfl)
theorem dX7_told_73 : decode cX7_told 73 = .ok (.ishl, 1) := dk_120 (dk_at dksX7_told_3 1 rfl rfl)
theorem dX7_told_74 : decode cX7_told 74 = .ok (.goto 4, 3) := dk_167 0 4 (dk_at dksX7_told_3 2 rfl rfl)
theorem dX7_told_77 : decode cX7_told 77 = .ok (.iconst 0, 1) := dk_3 (dk_at dksX7_told_3 5 rfl rfl)
theorem dX7_told_78 : decode cX7_told 78 = .ok (.ior, 1) := dk_128 (dk_at dksX7_told_3 6 rfl rfl)
theorem dX7_told_79 : decode cX7_told 79 = .ok (.istore_n 2, 1) := dk_61 (dk_at dksX7_told_3 7 rfl rfl)
theorem dX7_told_80 : decode cX7_told 80 = .ok (.iinc 3 1, 3) := dk_132 3 1 (dk_at dksX7_told_3 8 rfl rfl)
theorem dX7_told_83 : decode cX7_told 83 = .ok (.goto (-53), 3) := dk_167 255 203 (dk_at dksX7_told_3 11 rfl rfl)
theorem dX7_told_86 : decode cX7_told 86 = .ok (.iload_n 2, 1) := dk_28 (dk_at dksX7_told_3 14 rfl rfl)
theorem dX7_told_87 : decode cX7_told 87 = .ok (.ireturn, 1) := dk_172 (dk_at dksX7_told_3 15 rfl rfl)
abbrev cX7_findKnown : ByteArray := prog_33_method_68_code
def yX7_findKnown : MethodName := ⟨RX7, "findKnown", "()V"⟩
def dkwX7_findKnown_7 : List UInt8 := [167, 255, 133, 177]
abbrev dktX7_findKnown_7 : List UInt8 := dkwX7_findKnown_7 ++ []
def dkwX7_findKnown_6 : List UInt8 := [180, 1, 121, 21, 6, 128, 167, 0, 12, 42, 180, 1, 121, 21, 6, 2, 130, 126, 181, 1, 121, 132, 3, 1]
abbrev dktX7_findKnown_6 : List UInt8 := dkwX7_findKnown_6 ++ dktX7_findKnown_7
def dkwX7_findKnown_5 : List UInt8 := [89, 180, 1, 118, 21, 6, 128, 181, 1, 118, 42, 42, 180, 0, 75, 29, 46, 4, 160, 0, 13, 42]
abbrev dktX7_findKnown_5 : List UInt8 := dkwX7_findKnown_5 ++ dktX7_findKnown_6
def dkwX7_findKnown_4 : List UInt8 := [42, 180, 0, 78, 29, 46, 27, 164, 0, 6, 167, 0, 57, 4, 28, 4, 100, 21, 5, 100, 120, 54, 6, 42]
abbrev dktX7_findKnown_4 : List UInt8 := dkwX7_findKnown_4 ++ dktX7_findKnown_5
def dkwX7_findKnown_3 : List UInt8 := [46, 6, 108, 6, 112, 42, 180, 0, 72, 29, 46, 6, 112, 182, 0, 164, 54, 5, 21, 5, 2, 159, 0, 70]
abbrev dktX7_findKnown_3 : List UInt8 := dkwX7_findKnown_3 ++ dktX7_findKnown_4
def dkwX7_findKnown_2 : List UInt8 := [3, 46, 162, 0, 119, 42, 180, 0, 72, 29, 46, 16, 9, 108, 54, 4, 42, 21, 4, 42, 180, 0, 72, 29]
abbrev dktX7_findKnown_2 : List UInt8 := dkwX7_findKnown_2 ++ dktX7_findKnown_3
def dkwX7_findKnown_1 : List UInt8 := [46, 60, 42, 182, 0, 171, 61, 42, 3, 181, 1, 118, 42, 3, 181, 1, 121, 3, 62, 29, 42, 180, 0, 69]
abbrev dktX7_findKnown_1 : List UInt8 := dkwX7_findKnown_1 ++ dktX7_findKnown_2
def dkwX7_findKnown_0 : List UInt8 := [42, 180, 0, 26, 3, 46, 2, 160, 0, 12, 42, 180, 0, 23, 3, 46, 167, 0, 9, 42, 180, 0, 26, 3]
abbrev dktX7_findKnown_0 : List UInt8 := dkwX7_findKnown_0 ++ dktX7_findKnown_1
theorem dksX7_findKnown_0 : cX7_findKnown.data.toList.drop 0 = dktX7_findKnown_0 := by decide +kernel
theorem dksX7_findKnown_1 : cX7_findKnown.data.toList.drop 24 = dktX7_findKnown_1 := dk_seg dksX7_findKnown_0 24 rfl rfl
theorem dksX7_findKnown_2 : cX7_findKnown.data.toList.drop 48 = dktX7_findKnown_2 := dk_seg dksX7_findKnown_1 24 rfl rfl
theorem dksX7_findKnown_3 : cX7_findKnown.data.toList.drop 72 = dktX7_findKnown_3 := dk_seg dksX7_findKnown_2 24 rfl rfl
theorem dksX7_findKnown_4 : cX7_findKnown.data.toList.drop 96 = dktX7_findKnown_4 := dk_seg dksX7_findKnown_3 24 rfl rfl
theorem dksX7_findKnown_5 : cX7_findKnown.data.toList.drop 120 = dktX7_findKnown_5 := dk_seg dksX7_findKnown_4 24 rfl rfl
theorem dksX7_findKnown_6 : cX7_findKnown.data.toList.drop 142 = dktX7_findKnown_6 := dk_seg dksX7_findKnown_5 22 rfl rfl
theorem dksX7_findKnown_7 : cX7_findKnown.data.toList.drop 166 = dktX7_findKnown_7 := dk_seg dksX7_findKnown_6 24 rfl rfl
theorem dX7_findKnown_0 : decode cX7_findKnown 0 = .ok (.aload_n 0, 1) := dk_42 (dk_at dksX7_findKnown_0 0 rfl rfl)
theorem dX7_findKnown_1 : decode cX7_findKnown 1 = .ok (.getfield 26, 3) := dk_180 0 26 (dk_at dksX7_findKnown_0 1 rfl rfl)
theorem dX7_findKnown_4 : decode cX7_findKnown 4 = .ok (.iconst 0, 1) := dk_3 (dk_at dksX7_findKnown_0 4 rfl rfl)
theorem dX7_findKnown_5 : decode cX7_findKnown 5 = .ok (.iaload, 1) := dk_46 (dk_at dksX7_findKnown_0 5 rfl rfl)
theorem dX7_findKnown_6 : decode cX7_findKnown 6 = .ok (.iconst (-1), 1) := dk_2 (dk_at dksX7_findKnown_0 6 rfl rfl)
theorem dX7_findKnown_7 : decode cX7_findKnown 7 = .ok (.if_icmp .ne 12, 3) := dk_160 0 12 (dk_at dksX7_findKnown_0 7 rfl rfl)
theorem dX7_findKnown_10 : decode cX7_findKnown 10 = .ok (.aload_n 0, 1) := dk_42 (dk_at dksX7_findKnown_0 10 rfl rfl)
theorem dX7_findKnown_11 : decode cX7_findKnown 11 = .ok (.getfield 23, 3) := dk_180 0 23 (dk_at dksX7_findKnown_0 11 rfl rfl)
theorem dX7_findKnown_14 : decode cX7_findKnown 14 = .ok (.iconst 0, 1) := dk_3 (dk_at dksX7_findKnown_0 14 rfl rfl)
theorem dX7_findKnown_15 : decode cX7_findKnown 15 = .ok (.iaload, 1) := dk_46 (dk_at dksX7_findKnown_0 15 rfl rfl)
theorem dX7_findKnown_16 : decode cX7_findKnown 16 = .ok (.goto 9, 3) := dk_167 0 9 (dk_at dksX7_findKnown_0 16 rfl rfl)
theorem dX7_findKnown_19 : decode cX7_findKnown 19 = .ok (.aload_n 0, 1) := dk_42 (dk_at dksX7_findKnown_0 19 rfl rfl)
theorem dX7_findKnown_20 : decode cX7_findKnown 20 = .ok (.getfield 26, 3) := dk_180 0 26 (dk_at dksX7_findKnown_0 20 rfl rfl)
theorem dX7_findKnown_23 : decode cX7_findKnown 23 = .ok (.iconst 0, 1) := dk_3 (dk_at dksX7_findKnown_0 23 rfl rfl)
theorem dX7_findKnown_24 : decode cX7_findKnown 24 = .ok (.iaload, 1) := dk_46 (dk_at dksX7_findKnown_1 0 rfl rfl)
theorem dX7_findKnown_25 : decode cX7_findKnown 25 = .ok (.istore_n 1, 1) := dk_60 (dk_at dksX7_findKnown_1 1 rfl rfl)
theorem dX7_findKnown_26 : decode cX7_findKnown 26 = .ok (.aload_n 0, 1) := dk_42 (dk_at dksX7_findKnown_1 2 rfl rfl)
theorem dX7_findKnown_27 : decode cX7_findKnown 27 = .ok (.invokevirtual 171, 3) := dk_182 0 171 (dk_at dksX7_findKnown_1 3 rfl rfl)
theorem dX7_findKnown_30 : decode cX7_findKnown 30 = .ok (.istore_n 2, 1) := dk_61 (dk_at dksX7_findKnown_1 6 rfl rfl)
theorem dX7_findKnown_31 : decode cX7_findKnown 31 = .ok (.aload_n 0, 1) := dk_42 (dk_at dksX7_findKnown_1 7 rfl rfl)
theorem dX7_findKnown_32 : decode cX7_findKnown 32 = .ok (.iconst 0, 1) := dk_3 (dk_at dksX7_findKnown_1 8 rfl rfl)
theorem dX7_findKnown_33 : decode cX7_findKnown 33 = .ok (.putfield 374, 3) := dk_181 1 118 (dk_at dksX7_findKnown_1 9 rfl rfl)
theorem dX7_findKnown_36 : decode cX7_findKnown 36 = .ok (.aload_n 0, 1) := dk_42 (dk_at dksX7_findKnown_1 12 rfl rfl)
theorem dX7_findKnown_37 : decode cX7_findKnown 37 = .ok (.iconst 0, 1) := dk_3 (dk_at dksX7_findKnown_1 13 rfl rfl)
theorem dX7_findKnown_38 : decode cX7_findKnown 38 = .ok (.putfield 377, 3) := dk_181 1 121 (dk_at dksX7_findKnown_1 14 rfl rfl)
theorem dX7_findKnown_41 : decode cX7_findKnown 41 = .ok (.iconst 0, 1) := dk_3 (dk_at dksX7_findKnown_1 17 rfl rfl)
theorem dX7_findKnown_42 : decode cX7_findKnown 42 = .ok (.istore_n 3, 1) := dk_62 (dk_at dksX7_findKnown_1 18 rfl rfl)
theorem dX7_findKnown_43 : decode cX7_findKnown 43 = .ok (.iload_n 3, 1) := dk_29 (dk_at dksX7_findKnown_1 19 rfl rfl)
theorem dX7_findKnown_44 : decode cX7_findKnown 44 = .ok (.aload_n 0, 1) := dk_42 (dk_at dksX7_findKnown_1 20 rfl rfl)
theorem dX7_findKnown_45 : decode cX7_findKnown 45 = .ok (.getfield 69, 3) := dk_180 0 69 (dk_at dksX7_findKnown_1 21 rfl rfl)
theorem dX7_findKnown_48 : decode cX7_findKnown 48 = .ok (.iconst 0, 1) := dk_3 (dk_at dksX7_findKnown_2 0 rfl rfl)
theorem dX7_findKnown_49 : decode cX7_findKnown 49 = .ok (.iaload, 1) := dk_46 (dk_at dksX7_findKnown_2 1 rfl rfl)
theorem dX7_findKnown_50 : decode cX7_findKnown 50 = .ok (.if_icmp .ge 119, 3) := dk_162 0 119 (dk_at dksX7_findKnown_2 2 rfl rfl)
theorem dX7_findKnown_53 : decode cX7_findKnown 53 = .ok (.aload_n 0, 1) := dk_42 (dk_at dksX7_findKnown_2 5 rfl rfl)
theorem dX7_findKnown_54 : decode cX7_findKnown 54 = .ok (.getfield 72, 3) := dk_180 0 72 (dk_at dksX7_findKnown_2 6 rfl rfl)
theorem dX7_findKnown_57 : decode cX7_findKnown 57 = .ok (.iload_n 3, 1) := dk_29 (dk_at dksX7_findKnown_2 9 rfl rfl)
theorem dX7_findKnown_58 : decode cX7_findKnown 58 = .ok (.iaload, 1) := dk_46 (dk_at dksX7_findKnown_2 10 rfl rfl)
theorem dX7_findKnown_59 : decode cX7_findKnown 59 = .ok (.bipush 9, 2) := dk_16 9 (dk_at dksX7_findKnown_2 11 rfl rfl)
theorem dX7_findKnown_61 : decode cX7_findKnown 61 = .ok (.idiv, 1) := dk_108 (dk_at dksX7_findKnown_2 13 rfl rfl)
theorem dX7_findKnown_62 : decode cX7_findKnown 62 = .ok (.istore 4, 2) := dk_54 4 (dk_at dksX7_findKnown_2 14 rfl rfl)
theorem dX7_findKnown_64 : decode cX7_findKnown 64 = .ok (.aload_n 0, 1) := dk_42 (dk_at dksX7_findKnown_2 16 rfl rfl)
theorem dX7_findKnown_65 : decode cX7_findKnown 65 = .ok (.iload 4, 2) := dk_21 4 (dk_at dksX7_findKnown_2 17 rfl rfl)
theorem dX7_findKnown_67 : decode cX7_findKnown 67 = .ok (.aload_n 0, 1) := dk_42 (dk_at dksX7_findKnown_2 19 rfl rfl)
theorem dX7_findKnown_68 : decode cX7_findKnown 68 = .ok (.getfield 72, 3) := dk_180 0 72 (dk_at dksX7_findKnown_2 20 rfl rfl)
theorem dX7_findKnown_71 : decode cX7_findKnown 71 = .ok (.iload_n 3, 1) := dk_29 (dk_at dksX7_findKnown_2 23 rfl rfl)
theorem dX7_findKnown_72 : decode cX7_findKnown 72 = .ok (.iaload, 1) := dk_46 (dk_at dksX7_findKnown_3 0 rfl rfl)
theorem dX7_findKnown_73 : decode cX7_findKnown 73 = .ok (.iconst 3, 1) := dk_6 (dk_at dksX7_findKnown_3 1 rfl rfl)
theorem dX7_findKnown_74 : decode cX7_findKnown 74 = .ok (.idiv, 1) := dk_108 (dk_at dksX7_findKnown_3 2 rfl rfl)
theorem dX7_findKnown_75 : decode cX7_findKnown 75 = .ok (.iconst 3, 1) := dk_6 (dk_at dksX7_findKnown_3 3 rfl rfl)
theorem dX7_findKnown_76 : decode cX7_findKnown 76 = .ok (.irem, 1) := dk_112 (dk_at dksX7_findKnown_3 4 rfl rfl)
theorem dX7_findKnown_77 : decode cX7_findKnown 77 = .ok (.aload_n 0, 1) := dk_42 (dk_at dksX7_findKnown_3 5 rfl rfl)
theorem dX7_findKnown_78 : decode cX7_findKnown 78 = .ok (.getfield 72, 3) := dk_180 0 72 (dk_at dksX7_findKnown_3 6 rfl rfl)
theorem dX7_findKnown_81 : decode cX7_findKnown 81 = .ok (.iload_n 3, 1) := dk_29 (dk_at dksX7_findKnown_3 9 rfl rfl)
theorem dX7_findKnown_82 : decode cX7_findKnown 82 = .ok (.iaload, 1) := dk_46 (dk_at dksX7_findKnown_3 10 rfl rfl)
theorem dX7_findKnown_83 : decode cX7_findKnown 83 = .ok (.iconst 3, 1) := dk_6 (dk_at dksX7_findKnown_3 11 rfl rfl)
theorem dX7_findKnown_84 : decode cX7_findKnown 84 = .ok (.irem, 1) := dk_112 (dk_at dksX7_findKnown_3 12 rfl rfl)
theorem dX7_findKnown_85 : decode cX7_findKnown 85 = .ok (.invokevirtual 164, 3) := dk_182 0 164 (dk_at dksX7_findKnown_3 13 rfl rfl)
theorem dX7_findKnown_88 : decode cX7_findKnown 88 = .ok (.istore 5, 2) := dk_54 5 (dk_at dksX7_findKnown_3 16 rfl rfl)
theorem dX7_findKnown_90 : decode cX7_findKnown 90 = .ok (.iload 5, 2) := dk_21 5 (dk_at dksX7_findKnown_3 18 rfl rfl)
theorem dX7_findKnown_92 : decode cX7_findKnown 92 = .ok (.iconst (-1), 1) := dk_2 (dk_at dksX7_findKnown_3 20 rfl rfl)
theorem dX7_findKnown_93 : decode cX7_findKnown 93 = .ok (.if_icmp .eq 70, 3) := dk_159 0 70 (dk_at dksX7_findKnown_3 21 rfl rfl)
theorem dX7_findKnown_96 : decode cX7_findKnown 96 = .ok (.aload_n 0, 1) := dk_42 (dk_at dksX7_findKnown_4 0 rfl rfl)
theorem dX7_findKnown_97 : decode cX7_findKnown 97 = .ok (.getfield 78, 3) := dk_180 0 78 (dk_at dksX7_findKnown_4 1 rfl rfl)
theorem dX7_findKnown_100 : decode cX7_findKnown 100 = .ok (.iload_n 3, 1) := dk_29 (dk_at dksX7_findKnown_4 4 rfl rfl)
theorem dX7_findKnown_101 : decode cX7_findKnown 101 = .ok (.iaload, 1) := dk_46 (dk_at dksX7_findKnown_4 5 rfl rfl)
theorem dX7_findKnown_102 : decode cX7_findKnown 102 = .ok (.iload_n 1, 1) := dk_27 (dk_at dksX7_findKnown_4 6 rfl rfl)
theorem dX7_findKnown_103 : decode cX7_findKnown 103 = .ok (.if_icmp .le 6, 3) := dk_164 0 6 (dk_at dksX7_findKnown_4 7 rfl rfl)
theorem dX7_findKnown_106 : decode cX7_findKnown 106 = .ok (.goto 57, 3) := dk_167 0 57 (dk_at dksX7_findKnown_4 10 rfl rfl)
theorem dX7_findKnown_109 : decode cX7_findKnown 109 = .ok (.iconst 1, 1) := dk_4 (dk_at dksX7_findKnown_4 13 rfl rfl)
theorem dX7_findKnown_110 : decode cX7_findKnown 110 = .ok (.iload_n 2, 1) := dk_28 (dk_at dksX7_findKnown_4 14 rfl rfl)
theorem dX7_findKnown_111 : decode cX7_findKnown 111 = .ok (.iconst 1, 1) := dk_4 (dk_at dksX7_findKnown_4 15 rfl rfl)
theorem dX7_findKnown_112 : decode cX7_findKnown 112 = .ok (.isub, 1) := dk_100 (dk_at dksX7_findKnown_4 16 rfl rfl)
theorem dX7_findKnown_113 : decode cX7_findKnown 113 = .ok (.iload 5, 2) := dk_21 5 (dk_at dksX7_findKnown_4 17 rfl rfl)
theorem dX7_findKnown_115 : decode cX7_findKnown 115 = .ok (.isub, 1) := dk_100 (dk_at dksX7_findKnown_4 19 rfl rfl)
theorem dX7_findKnown_116 : decode cX7_findKnown 116 = .ok (.ishl, 1) := dk_120 (dk_at dksX7_findKnown_4 20 rfl rfl)
theorem dX7_findKnown_117 : decode cX7_findKnown 117 = .ok (.istore 6, 2) := dk_54 6 (dk_at dksX7_findKnown_4 21 rfl rfl)
theorem dX7_findKnown_119 : decode cX7_findKnown 119 = .ok (.aload_n 0, 1) := dk_42 (dk_at dksX7_findKnown_4 23 rfl rfl)
theorem dX7_findKnown_120 : decode cX7_findKnown 120 = .ok (.dup, 1) := dk_89 (dk_at dksX7_findKnown_5 0 rfl rfl)
theorem dX7_findKnown_121 : decode cX7_findKnown 121 = .ok (.getfield 374, 3) := dk_180 1 118 (dk_at dksX7_findKnown_5 1 rfl rfl)
theorem dX7_findKnown_124 : decode cX7_findKnown 124 = .ok (.iload 6, 2) := dk_21 6 (dk_at dksX7_findKnown_5 4 rfl rfl)
theorem dX7_findKnown_126 : decode cX7_findKnown 126 = .ok (.ior, 1) := dk_128 (dk_at dksX7_findKnown_5 6 rfl rfl)
theorem dX7_findKnown_127 : decode cX7_findKnown 127 = .ok (.putfield 374, 3) := dk_181 1 118 (dk_at dksX7_findKnown_5 7 rfl rfl)
theorem dX7_findKnown_130 : decode cX7_findKnown 130 = .ok (.aload_n 0, 1) := dk_42 (dk_at dksX7_findKnown_5 10 rfl rfl)
theorem dX7_findKnown_131 : decode cX7_findKnown 131 = .ok (.aload_n 0, 1) := dk_42 (dk_at dksX7_findKnown_5 11 rfl rfl)
theorem dX7_findKnown_132 : decode cX7_findKnown 132 = .ok (.getfield 75, 3) := dk_180 0 75 (dk_at dksX7_findKnown_5 12 rfl rfl)
theorem dX7_findKnown_135 : decode cX7_findKnown 135 = .ok (.iload_n 3, 1) := dk_29 (dk_at dksX7_findKnown_5 15 rfl rfl)
theorem dX7_findKnown_136 : decode cX7_findKnown 136 = .ok (.iaload, 1) := dk_46 (dk_at dksX7_findKnown_5 16 rfl rfl)
theorem dX7_findKnown_137 : decode cX7_findKnown 137 = .ok (.iconst 1, 1) := dk_4 (dk_at dksX7_findKnown_5 17 rfl rfl)
theorem dX7_findKnown_138 : decode cX7_findKnown 138 = .ok (.if_icmp .ne 13, 3) := dk_160 0 13 (dk_at dksX7_findKnown_5 18 rfl rfl)
theorem dX7_findKnown_141 : decode cX7_findKnown 141 = .ok (.aload_n 0, 1) := dk_42 (dk_at dksX7_findKnown_5 21 rfl rfl)
theorem dX7_findKnown_142 : decode cX7_findKnown 142 = .ok (.getfield 377, 3) := dk_180 1 121 (dk_at dksX7_findKnown_6 0 rfl rfl)
theorem dX7_findKnown_145 : decode cX7_findKnown 145 = .ok (.iload 6, 2) := dk_21 6 (dk_at dksX7_findKnown_6 3 rfl rfl)
theorem dX7_findKnown_147 : decode cX7_findKnown 147 = .ok (.ior, 1) := dk_128 (dk_at dksX7_findKnown_6 5 rfl rfl)
theorem dX7_findKnown_148 : decode cX7_findKnown 148 = .ok (.goto 12, 3) := dk_167 0 12 (dk_at dksX7_findKnown_6 6 rfl rfl)
theorem dX7_findKnown_151 : decode cX7_findKnown 151 = .ok (.aload_n 0, 1) := dk_42 (dk_at dksX7_findKnown_6 9 rfl rfl)
theorem dX7_findKnown_152 : decode cX7_findKnown 152 = .ok (.getfield 377, 3) := dk_180 1 121 (dk_at dksX7_findKnown_6 10 rfl rfl)
theorem dX7_findKnown_155 : decode cX7_findKnown 155 = .ok (.iload 6, 2) := dk_21 6 (dk_at dksX7_findKnown_6 13 rfl rfl)
theorem dX7_findKnown_157 : decode cX7_findKnown 157 = .ok (.iconst (-1), 1) := dk_2 (dk_at dksX7_findKnown_6 15 rfl rfl)
theorem dX7_findKnown_158 : decode cX7_findKnown 158 = .ok (.ixor, 1) := dk_130 (dk_at dksX7_findKnown_6 16 rfl rfl)
theorem dX7_findKnown_159 : decode cX7_findKnown 159 = .ok (.iand, 1) := dk_126 (dk_at dksX7_findKnown_6 17 rfl rfl)
theorem dX7_findKnown_160 : decode cX7_findKnown 160 = .ok (.putfield 377, 3) := dk_181 1 121 (dk_at dksX7_findKnown_6 18 rfl rfl)
theorem dX7_findKnown_163 : decode cX7_findKnown 163 = .ok (.iinc 3 1, 3) := dk_132 3 1 (dk_at dksX7_findKnown_6 21 rfl rfl)
theorem dX7_findKnown_166 : decode cX7_findKnown 166 = .ok (.goto (-123), 3) := dk_167 255 133 (dk_at dksX7_findKnown_7 0 rfl rfl)
theorem dX7_findKnown_169 : decode cX7_findKnown 169 = .ok (.return_, 1) := dk_177 (dk_at dksX7_findKnown_7 3 rfl rfl)
abbrev cX7_isWorld : ByteArray := prog_33_method_71_code
def yX7_isWorld : MethodName := ⟨RX7, "isWorld", "(I)Z"⟩
def dkwX7_isWorld_2 : List UInt8 := [132, 2, 1, 167, 255, 222, 4, 172]
abbrev dktX7_isWorld_2 : List UInt8 := dkwX7_isWorld_2 ++ []
def dkwX7_isWorld_1 : List UInt8 := [162, 0, 30, 42, 180, 1, 127, 28, 122, 4, 126, 153, 0, 13, 42, 28, 182, 1, 115, 154, 0, 5, 3, 172]
abbrev dktX7_isWorld_1 : List UInt8 := dkwX7_isWorld_1 ++ dktX7_isWorld_2
def dkwX7_isWorld_0 : List UInt8 := [42, 27, 182, 1, 133, 154, 0, 5, 3, 172, 42, 27, 182, 1, 136, 3, 61, 28, 42, 180, 0, 45, 3, 46]
abbrev dktX7_isWorld_0 : List UInt8 := dkwX7_isWorld_0 ++ dktX7_isWorld_1
theorem dksX7_isWorld_0 : cX7_isWorld.data.toList.drop 0 = dktX7_isWorld_0 := by decide +kernel
theorem dksX7_isWorld_1 : cX7_isWorld.data.toList.drop 24 = dktX7_isWorld_1 := dk_seg dksX7_isWorld_0 24 rfl rfl
theorem dksX7_isWorld_2 : cX7_isWorld.data.toList.drop 48 = dktX7_isWorld_2 := dk_seg dksX7_isWorld_1 24 rfl rfl
theorem dX7_isWorld_0 : decode cX7_isWorld 0 = .ok (.aload_n 0, 1) := dk_42 (dk_at dksX7_isWorld_0 0 rfl rfl)
theorem dX7_isWorld_1 : decode cX7_isWorld 1 = .ok (.iload_n 1, 1) := dk_27 (dk_at dksX7_isWorld_0 1 rfl rfl)
theorem dX7_isWorld_2 : decode cX7_isWorld 2 = .ok (.invokevirtual 389, 3) := dk_182 1 133 (dk_at dksX7_isWorld_0 2 rfl rfl)
theorem dX7_isWorld_5 : decode cX7_isWorld 5 = .ok (.ifCond .ne 5, 3) := dk_154 0 5 (dk_at dksX7_isWorld_0 5 rfl rfl)
theorem dX7_isWorld_8 : decode cX7_isWorld 8 = .ok (.iconst 0, 1) := dk_3 (dk_at dksX7_isWorld_0 8 rfl rfl)
theorem dX7_isWorld_9 : decode cX7_isWorld 9 = .ok (.ireturn, 1) := dk_172 (dk_at dksX7_isWorld_0 9 rfl rfl)
theorem dX7_isWorld_10 : decode cX7_isWorld 10 = .ok (.aload_n 0, 1) := dk_42 (dk_at dksX7_isWorld_0 10 rfl rfl)
theorem dX7_isWorld_11 : decode cX7_isWorld 11 = .ok (.iload_n 1, 1) := dk_27 (dk_at dksX7_isWorld_0 11 rfl rfl)
theorem dX7_isWorld_12 : decode cX7_isWorld 12 = .ok (.invokevirtual 392, 3) := dk_182 1 136 (dk_at dksX7_isWorld_0 12 rfl rfl)
theorem dX7_isWorld_15 : decode cX7_isWorld 15 = .ok (.iconst 0, 1) := dk_3 (dk_at dksX7_isWorld_0 15 rfl rfl)
theorem dX7_isWorld_16 : decode cX7_isWorld 16 = .ok (.istore_n 2, 1) := dk_61 (dk_at dksX7_isWorld_0 16 rfl rfl)
theorem dX7_isWorld_17 : decode cX7_isWorld 17 = .ok (.iload_n 2, 1) := dk_28 (dk_at dksX7_isWorld_0 17 rfl rfl)
theorem dX7_isWorld_18 : decode cX7_isWorld 18 = .ok (.aload_n 0, 1) := dk_42 (dk_at dksX7_isWorld_0 18 rfl rfl)
theorem dX7_isWorld_19 : decode cX7_isWorld 19 = .ok (.getfield 45, 3) := dk_180 0 45 (dk_at dksX7_isWorld_0 19 rfl rfl)
theorem dX7_isWorld_22 : decode cX7_isWorld 22 = .ok (.iconst 0, 1) := dk_3 (dk_at dksX7_isWorld_0 22 rfl rfl)
theorem dX7_isWorld_23 : decode cX7_isWorld 23 = .ok (.iaload, 1) := dk_46 (dk_at dksX7_isWorld_0 23 rfl rfl)
theorem dX7_isWorld_24 : decode cX7_isWorld 24 = .ok (.if_icmp .ge 30, 3) := dk_162 0 30 (dk_at dksX7_isWorld_1 0 rfl rfl)
theorem dX7_isWorld_27 : decode cX7_isWorld 27 = .ok (.aload_n 0, 1) := dk_42 (dk_at dksX7_isWorld_1 3 rfl rfl)
theorem dX7_isWorld_28 : decode cX7_isWorld 28 = .ok (.getfield 383, 3) := dk_180 1 127 (dk_at dksX7_isWorld_1 4 rfl rfl)
theorem dX7_isWorld_31 : decode cX7_isWorld 31 = .ok (.iload_n 2, 1) := dk_28 (dk_at dksX7_isWorld_1 7 rfl rfl)
theorem dX7_isWorld_32 : decode cX7_isWorld 32 = .ok (.ishr, 1) := dk_122 (dk_at dksX7_isWorld_1 8 rfl rfl)
theorem dX7_isWorld_33 : decode cX7_isWorld 33 = .ok (.iconst 1, 1) := dk_4 (dk_at dksX7_isWorld_1 9 rfl rfl)
theorem dX7_isWorld_34 : decode cX7_isWorld 34 = .ok (.iand, 1) := dk_126 (dk_at dksX7_isWorld_1 10 rfl rfl)
theorem dX7_isWorld_35 : decode cX7_isWorld 35 = .ok (.ifCond .eq 13, 3) := dk_153 0 13 (dk_at dksX7_isWorld_1 11 rfl rfl)
theorem dX7_isWorld_38 : decode cX7_isWorld 38 = .ok (.aload_n 0, 1) := dk_42 (dk_at dksX7_isWorld_1 14 rfl rfl)
theorem dX7_isWorld_39 : decode cX7_isWorld 39 = .ok (.iload_n 2, 1) := dk_28 (dk_at dksX7_isWorld_1 15 rfl rfl)
theorem dX7_isWorld_40 : decode cX7_isWorld 40 = .ok (.invokevirtual 371, 3) := dk_182 1 115 (dk_at dksX7_isWorld_1 16 rfl rfl)
theorem dX7_isWorld_43 : decode cX7_isWorld 43 = .ok (.ifCond .ne 5, 3) := dk_154 0 5 (dk_at dksX7_isWorld_1 19 rfl rfl)
theorem dX7_isWorld_46 : decode cX7_isWorld 46 = .ok (.iconst 0, 1) := dk_3 (dk_at dksX7_isWorld_1 22 rfl rfl)
theorem dX7_isWorld_47 : decode cX7_isWorld 47 = .ok (.ireturn, 1) := dk_172 (dk_at dksX7_isWorld_1 23 rfl rfl)
theorem dX7_isWorld_48 : decode cX7_isWorld 48 = .ok (.iinc 2 1, 3) := dk_132 2 1 (dk_at dksX7_isWorld_2 0 rfl rfl)
theorem dX7_isWorld_51 : decode cX7_isWorld 51 = .ok (.goto (-34), 3) := dk_167 255 222 (dk_at dksX7_isWorld_2 3 rfl rfl)
theorem dX7_isWorld_54 : decode cX7_isWorld 54 = .ok (.iconst 1, 1) := dk_4 (dk_at dksX7_isWorld_2 6 rfl rfl)
theorem dX7_isWorld_55 : decode cX7_isWorld 55 = .ok (.ireturn, 1) := dk_172 (dk_at dksX7_isWorld_2 7 rfl rfl)
abbrev cX7_isAsKnown : ByteArray := prog_33_method_70_code
def yX7_isAsKnown : MethodName := ⟨RX7, "isAsKnown", "(I)Z"⟩
def dkwX7_isAsKnown_0 : List UInt8 := [27, 42, 180, 1, 118, 126, 42, 180, 1, 121, 160, 0, 7, 4, 167, 0, 4, 3, 172]
abbrev dktX7_isAsKnown_0 : List UInt8 := dkwX7_isAsKnown_0 ++ []
theorem dksX7_isAsKnown_0 : cX7_isAsKnown.data.toList.drop 0 = dktX7_isAsKnown_0 := by decide +kernel
theorem dX7_isAsKnown_0 : decode cX7_isAsKnown 0 = .ok (.iload_n 1, 1) := dk_27 (dk_at dksX7_isAsKnown_0 0 rfl rfl)
theorem dX7_isAsKnown_1 : decode cX7_isAsKnown 1 = .ok (.aload_n 0, 1) := dk_42 (dk_at dksX7_isAsKnown_0 1 rfl rfl)
theorem dX7_isAsKnown_2 : decode cX7_isAsKnown 2 = .ok (.getfield 374, 3) := dk_180 1 118 (dk_at dksX7_isAsKnown_0 2 rfl rfl)
theorem dX7_isAsKnown_5 : decode cX7_isAsKnown 5 = .ok (.iand, 1) := dk_126 (dk_at dksX7_isAsKnown_0 5 rfl rfl)
theorem dX7_isAsKnown_6 : decode cX7_isAsKnown 6 = .ok (.aload_n 0, 1) := dk_42 (dk_at dksX7_isAsKnown_0 6 rfl rfl)
theorem dX7_isAsKnown_7 : decode cX7_isAsKnown 7 = .ok (.getfield 377, 3) := dk_180 1 121 (dk_at dksX7_isAsKnown_0 7 rfl rfl)
theorem dX7_isAsKnown_10 : decode cX7_isAsKnown 10 = .ok (.if_icmp .ne 7, 3) := dk_160 0 7 (dk_at dksX7_isAsKnown_0 10 rfl rfl)
theorem dX7_isAsKnown_13 : decode cX7_isAsKnown 13 = .ok (.iconst 1, 1) := dk_4 (dk_at dksX7_isAsKnown_0 13 rfl rfl)
theorem dX7_isAsKnown_14 : decode cX7_isAsKnown 14 = .ok (.goto 4, 3) := dk_167 0 4 (dk_at dksX7_isAsKnown_0 14 rfl rfl)
theorem dX7_isAsKnown_17 : decode cX7_isAsKnown 17 = .ok (.iconst 0, 1) := dk_3 (dk_at dksX7_isAsKnown_0 17 rfl rfl)
theorem dX7_isAsKnown_18 : decode cX7_isAsKnown 18 = .ok (.ireturn, 1) := dk_172 (dk_at dksX7_isAsKnown_0 18 rfl rfl)
abbrev cX7_layWorld : ByteArray := prog_33_method_64_code
def yX7_layWorld : MethodName := ⟨RX7, "layWorld", "(I)V"⟩
def dkwX7_layWorld_1 : List UInt8 := [4, 126, 153, 0, 7, 4, 167, 0, 4, 3, 84, 132, 3, 1, 167, 255, 225, 177]
abbrev dktX7_layWorld_1 : List UInt8 := dkwX7_layWorld_1 ++ []
def dkwX7_layWorld_0 : List UInt8 := [42, 182, 0, 171, 61, 3, 62, 29, 28, 162, 0, 32, 42, 180, 0, 93, 29, 27, 28, 4, 100, 29, 100, 122]
abbrev dktX7_layWorld_0 : List UInt8 := dkwX7_layWorld_0 ++ dktX7_layWorld_1
theorem dksX7_layWorld_0 : cX7_layWorld.data.toList.drop 0 = dktX7_layWorld_0 := by decide +kernel
theorem dksX7_layWorld_1 : cX7_layWorld.data.toList.drop 24 = dktX7_layWorld_1 := dk_seg dksX7_layWorld_0 24 rfl rfl
theorem dX7_layWorld_0 : decode cX7_layWorld 0 = .ok (.aload_n 0, 1) := dk_42 (dk_at dksX7_layWorld_0 0 rfl rfl)
theorem dX7_layWorld_1 : decode cX7_layWorld 1 = .ok (.invokevirtual 171, 3) := dk_182 0 171 (dk_at dksX7_layWorld_0 1 rfl rfl)
theorem dX7_layWorld_4 : decode cX7_layWorld 4 = .ok (.istore_n 2, 1) := dk_61 (dk_at dksX7_layWorld_0 4 rfl rfl)
theorem dX7_layWorld_5 : decode cX7_layWorld 5 = .ok (.iconst 0, 1) := dk_3 (dk_at dksX7_layWorld_0 5 rfl rfl)
theorem dX7_layWorld_6 : decode cX7_layWorld 6 = .ok (.istore_n 3, 1) := dk_62 (dk_at dksX7_layWorld_0 6 rfl rfl)
theorem dX7_layWorld_7 : decode cX7_layWorld 7 = .ok (.iload_n 3, 1) := dk_29 (dk_at dksX7_layWorld_0 7 rfl rfl)
theorem dX7_layWorld_8 : decode cX7_layWorld 8 = .ok (.iload_n 2, 1) := dk_28 (dk_at dksX7_layWorld_0 8 rfl rfl)
theorem dX7_layWorld_9 : decode cX7_layWorld 9 = .ok (.if_icmp .ge 32, 3) := dk_162 0 32 (dk_at dksX7_layWorld_0 9 rfl rfl)
theorem dX7_layWorld_12 : decode cX7_layWorld 12 = .ok (.aload_n 0, 1) := dk_42 (dk_at dksX7_layWorld_0 12 rfl rfl)
theorem dX7_layWorld_13 : decode cX7_layWorld 13 = .ok (.getfield 93, 3) := dk_180 0 93 (dk_at dksX7_layWorld_0 13 rfl rfl)
theorem dX7_layWorld_16 : decode cX7_layWorld 16 = .ok (.iload_n 3, 1) := dk_29 (dk_at dksX7_layWorld_0 16 rfl rfl)
theorem dX7_layWorld_17 : decode cX7_layWorld 17 = .ok (.iload_n 1, 1) := dk_27 (dk_at dksX7_layWorld_0 17 rfl rfl)
theorem dX7_layWorld_18 : decode cX7_layWorld 18 = .ok (.iload_n 2, 1) := dk_28 (dk_at dksX7_layWorld_0 18 rfl rfl)
theorem dX7_layWorld_19 : decode cX7_layWorld 19 = .ok (.iconst 1, 1) := dk_4 (dk_at dksX7_layWorld_0 19 rfl rfl)
theorem dX7_layWorld_20 : decode cX7_layWorld 20 = .ok (.isub, 1) := dk_100 (dk_at dksX7_layWorld_0 20 rfl rfl)
theorem dX7_layWorld_21 : decode cX7_layWorld 21 = .ok (.iload_n 3, 1) := dk_29 (dk_at dksX7_layWorld_0 21 rfl rfl)
theorem dX7_layWorld_22 : decode cX7_layWorld 22 = .ok (.isub, 1) := dk_100 (dk_at dksX7_layWorld_0 22 rfl rfl)
theorem dX7_layWorld_23 : decode cX7_layWorld 23 = .ok (.ishr, 1) := dk_122 (dk_at dksX7_layWorld_0 23 rfl rfl)
theorem dX7_layWorld_24 : decode cX7_layWorld 24 = .ok (.iconst 1, 1) := dk_4 (dk_at dksX7_layWorld_1 0 rfl rfl)
theorem dX7_layWorld_25 : decode cX7_layWorld 25 = .ok (.iand, 1) := dk_126 (dk_at dksX7_layWorld_1 1 rfl rfl)
theorem dX7_layWorld_26 : decode cX7_layWorld 26 = .ok (.ifCond .eq 7, 3) := dk_153 0 7 (dk_at dksX7_layWorld_1 2 rfl rfl)
theorem dX7_layWorld_29 : decode cX7_layWorld 29 = .ok (.iconst 1, 1) := dk_4 (dk_at dksX7_layWorld_1 5 rfl rfl)
theorem dX7_layWorld_30 : decode cX7_layWorld 30 = .ok (.goto 4, 3) := dk_167 0 4 (dk_at dksX7_layWorld_1 6 rfl rfl)
theorem dX7_layWorld_33 : decode cX7_layWorld 33 = .ok (.iconst 0, 1) := dk_3 (dk_at dksX7_layWorld_1 9 rfl rfl)
theorem dX7_layWorld_34 : decode cX7_layWorld 34 = .ok (.bastore, 1) := dk_84 (dk_at dksX7_layWorld_1 10 rfl rfl)
theorem dX7_layWorld_35 : decode cX7_layWorld 35 = .ok (.iinc 3 1, 3) := dk_132 3 1 (dk_at dksX7_layWorld_1 11 rfl rfl)
theorem dX7_layWorld_38 : decode cX7_layWorld 38 = .ok (.goto (-31), 3) := dk_167 255 225 (dk_at dksX7_layWorld_1 14 rfl rfl)
theorem dX7_layWorld_41 : decode cX7_layWorld 41 = .ok (.return_, 1) := dk_177 (dk_at dksX7_layWorld_1 17 rfl rfl)
abbrev cX7_forms : ByteArray := prog_33_method_80_code
def yX7_forms : MethodName := ⟨RX7, "forms", "()I"⟩
def dkwX7_forms_2 : List UInt8 := [132, 2, 1, 167, 255, 227, 27, 172]
abbrev dktX7_forms_2 : List UInt8 := dkwX7_forms_2 ++ []
def dkwX7_forms_1 : List UInt8 := [42, 182, 0, 171, 120, 162, 0, 25, 27, 42, 28, 182, 1, 157, 153, 0, 7, 4, 167, 0, 4, 3, 96, 60]
abbrev dktX7_forms_1 : List UInt8 := dkwX7_forms_1 ++ dktX7_forms_2
def dkwX7_forms_0 : List UInt8 := [42, 3, 181, 0, 142, 42, 182, 0, 182, 154, 0, 5, 2, 172, 42, 182, 1, 154, 3, 60, 3, 61, 28, 4]
abbrev dktX7_forms_0 : List UInt8 := dkwX7_forms_0 ++ dktX7_forms_1
theorem dksX7_forms_0 : cX7_forms.data.toList.drop 0 = dktX7_forms_0 := by decide +kernel
theorem dksX7_forms_1 : cX7_forms.data.toList.drop 24 = dktX7_forms_1 := dk_seg dksX7_forms_0 24 rfl rfl
theorem dksX7_forms_2 : cX7_forms.data.toList.drop 48 = dktX7_forms_2 := dk_seg dksX7_forms_1 24 rfl rfl
theorem dX7_forms_0 : decode cX7_forms 0 = .ok (.aload_n 0, 1) := dk_42 (dk_at dksX7_forms_0 0 rfl rfl)
theorem dX7_forms_1 : decode cX7_forms 1 = .ok (.iconst 0, 1) := dk_3 (dk_at dksX7_forms_0 1 rfl rfl)
theorem dX7_forms_2 : decode cX7_forms 2 = .ok (.putfield 142, 3) := dk_181 0 142 (dk_at dksX7_forms_0 2 rfl rfl)
theorem dX7_forms_5 : decode cX7_forms 5 = .ok (.aload_n 0, 1) := dk_42 (dk_at dksX7_forms_0 5 rfl rfl)
theorem dX7_forms_6 : decode cX7_forms 6 = .ok (.invokevirtual 182, 3) := dk_182 0 182 (dk_at dksX7_forms_0 6 rfl rfl)
theorem dX7_forms_9 : decode cX7_forms 9 = .ok (.ifCond .ne 5, 3) := dk_154 0 5 (dk_at dksX7_forms_0 9 rfl rfl)
theorem dX7_forms_12 : decode cX7_forms 12 = .ok (.iconst (-1), 1) := dk_2 (dk_at dksX7_forms_0 12 rfl rfl)
theorem dX7_forms_13 : decode cX7_forms 13 = .ok (.ireturn, 1) := dk_172 (dk_at dksX7_forms_0 13 rfl rfl)
theorem dX7_forms_14 : decode cX7_forms 14 = .ok (.aload_n 0, 1) := dk_42 (dk_at dksX7_forms_0 14 rfl rfl)
theorem dX7_forms_15 : decode cX7_forms 15 = .ok (.invokevirtual 410, 3) := dk_182 1 154 (dk_at dksX7_forms_0 15 rfl rfl)
theorem dX7_forms_18 : decode cX7_forms 18 = .ok (.iconst 0, 1) := dk_3 (dk_at dksX7_forms_0 18 rfl rfl)
theorem dX7_forms_19 : decode cX7_forms 19 = .ok (.istore_n 1, 1) := dk_60 (dk_at dksX7_forms_0 19 rfl rfl)
theorem dX7_forms_20 : decode cX7_forms 20 = .ok (.iconst 0, 1) := dk_3 (dk_at dksX7_forms_0 20 rfl rfl)
theorem dX7_forms_21 : decode cX7_forms 21 = .ok (.istore_n 2, 1) := dk_61 (dk_at dksX7_forms_0 21 rfl rfl)
theorem dX7_forms_22 : decode cX7_forms 22 = .ok (.iload_n 2, 1) := dk_28 (dk_at dksX7_forms_0 22 rfl rfl)
theorem dX7_forms_23 : decode cX7_forms 23 = .ok (.iconst 1, 1) := dk_4 (dk_at dksX7_forms_0 23 rfl rfl)
theorem dX7_forms_24 : decode cX7_forms 24 = .ok (.aload_n 0, 1) := dk_42 (dk_at dksX7_forms_1 0 rfl rfl)
theorem dX7_forms_25 : decode cX7_forms 25 = .ok (.invokevirtual 171, 3) := dk_182 0 171 (dk_at dksX7_forms_1 1 rfl rfl)
theorem dX7_forms_28 : decode cX7_forms 28 = .ok (.ishl, 1) := dk_120 (dk_at dksX7_forms_1 4 rfl rfl)
theorem dX7_forms_29 : decode cX7_forms 29 = .ok (.if_icmp .ge 25, 3) := dk_162 0 25 (dk_at dksX7_forms_1 5 rfl rfl)
theorem dX7_forms_32 : decode cX7_forms 32 = .ok (.iload_n 1, 1) := dk_27 (dk_at dksX7_forms_1 8 rfl rfl)
theorem dX7_forms_33 : decode cX7_forms 33 = .ok (.aload_n 0, 1) := dk_42 (dk_at dksX7_forms_1 9 rfl rfl)
theorem dX7_forms_34 : decode cX7_forms 34 = .ok (.iload_n 2, 1) := dk_28 (dk_at dksX7_forms_1 10 rfl rfl)
theorem dX7_forms_35 : decode cX7_forms 35 = .ok (.invokevirtual 413, 3) := dk_182 1 157 (dk_at dksX7_forms_1 11 rfl rfl)
theorem dX7_forms_38 : decode cX7_forms 38 = .ok (.ifCond .eq 7, 3) := dk_153 0 7 (dk_at dksX7_forms_1 14 rfl rfl)
theorem dX7_forms_41 : decode cX7_forms 41 = .ok (.iconst 1, 1) := dk_4 (dk_at dksX7_forms_1 17 rfl rfl)
theorem dX7_forms_42 : decode cX7_forms 42 = .ok (.goto 4, 3) := dk_167 0 4 (dk_at dksX7_forms_1 18 rfl rfl)
theorem dX7_forms_45 : decode cX7_forms 45 = .ok (.iconst 0, 1) := dk_3 (dk_at dksX7_forms_1 21 rfl rfl)
theorem dX7_forms_46 : decode cX7_forms 46 = .ok (.iadd, 1) := dk_96 (dk_at dksX7_forms_1 22 rfl rfl)
theorem dX7_forms_47 : decode cX7_forms 47 = .ok (.istore_n 1, 1) := dk_60 (dk_at dksX7_forms_1 23 rfl rfl)
theorem dX7_forms_48 : decode cX7_forms 48 = .ok (.iinc 2 1, 3) := dk_132 2 1 (dk_at dksX7_forms_2 0 rfl rfl)
theorem dX7_forms_51 : decode cX7_forms 51 = .ok (.goto (-29), 3) := dk_167 255 227 (dk_at dksX7_forms_2 3 rfl rfl)
theorem dX7_forms_54 : decode cX7_forms 54 = .ok (.iload_n 1, 1) := dk_27 (dk_at dksX7_forms_2 6 rfl rfl)
theorem dX7_forms_55 : decode cX7_forms 55 = .ok (.ireturn, 1) := dk_172 (dk_at dksX7_forms_2 7 rfl rfl)
abbrev cX7_isForm : ByteArray := prog_33_method_78_code
def yX7_isForm : MethodName := ⟨RX7, "isForm", "(I)Z"⟩
def dkwX7_isForm_0 : List UInt8 := [42, 27, 182, 1, 148, 153, 0, 15, 42, 182, 1, 151, 27, 160, 0, 7, 4, 167, 0, 4, 3, 172]
abbrev dktX7_isForm_0 : List UInt8 := dkwX7_isForm_0 ++ []
theorem dksX7_isForm_0 : cX7_isForm.data.toList.drop 0 = dktX7_isForm_0 := by decide +kernel
theorem dX7_isForm_0 : decode cX7_isForm 0 = .ok (.aload_n 0, 1) := dk_42 (dk_at dksX7_isForm_0 0 rfl rfl)
theorem dX7_isForm_1 : decode cX7_isForm 1 = .ok (.iload_n 1, 1) := dk_27 (dk_at dksX7_isForm_0 1 rfl rfl)
theorem dX7_isForm_2 : decode cX7_isForm 2 = .ok (.invokevirtual 404, 3) := dk_182 1 148 (dk_at dksX7_isForm_0 2 rfl rfl)
theorem dX7_isForm_5 : decode cX7_isForm 5 = .ok (.ifCond .eq 15, 3) := dk_153 0 15 (dk_at dksX7_isForm_0 5 rfl rfl)
theorem dX7_isForm_8 : decode cX7_isForm 8 = .ok (.aload_n 0, 1) := dk_42 (dk_at dksX7_isForm_0 8 rfl rfl)
theorem dX7_isForm_9 : decode cX7_isForm 9 = .ok (.invokevirtual 407, 3) := dk_182 1 151 (dk_at dksX7_isForm_0 9 rfl rfl)
theorem dX7_isForm_12 : decode cX7_isForm 12 = .ok (.iload_n 1, 1) := dk_27 (dk_at dksX7_isForm_0 12 rfl rfl)
theorem dX7_isForm_13 : decode cX7_isForm 13 = .ok (.if_icmp .ne 7, 3) := dk_160 0 7 (dk_at dksX7_isForm_0 13 rfl rfl)
theorem dX7_isForm_16 : decode cX7_isForm 16 = .ok (.iconst 1, 1) := dk_4 (dk_at dksX7_isForm_0 16 rfl rfl)
theorem dX7_isForm_17 : decode cX7_isForm 17 = .ok (.goto 4, 3) := dk_167 0 4 (dk_at dksX7_isForm_0 17 rfl rfl)
theorem dX7_isForm_20 : decode cX7_isForm 20 = .ok (.iconst 0, 1) := dk_3 (dk_at dksX7_isForm_0 20 rfl rfl)
theorem dX7_isForm_21 : decode cX7_isForm 21 = .ok (.ireturn, 1) := dk_172 (dk_at dksX7_isForm_0 21 rfl rfl)
abbrev cX7_leastImage : ByteArray := prog_33_method_77_code
def yX7_leastImage : MethodName := ⟨RX7, "leastImage", "()I"⟩
def dkwX7_leastImage_1 : List UInt8 := [27, 2, 159, 0, 8, 29, 27, 162, 0, 7, 29, 167, 0, 4, 27, 60, 132, 2, 1, 167, 255, 217, 27, 172]
abbrev dktX7_leastImage_1 : List UInt8 := dkwX7_leastImage_1 ++ []
def dkwX7_leastImage_0 : List UInt8 := [2, 60, 3, 61, 28, 17, 0, 216, 162, 0, 38, 42, 28, 182, 0, 189, 153, 0, 24, 42, 182, 0, 192, 62]
abbrev dktX7_leastImage_0 : List UInt8 := dkwX7_leastImage_0 ++ dktX7_leastImage_1
theorem dksX7_leastImage_0 : cX7_leastImage.data.toList.drop 0 = dktX7_leastImage_0 := by decide +kernel
theorem dksX7_leastImage_1 : cX7_leastImage.data.toList.drop 24 = dktX7_leastImage_1 := dk_seg dksX7_leastImage_0 24 rfl rfl
theorem dX7_leastImage_0 : decode cX7_leastImage 0 = .ok (.iconst (-1), 1) := dk_2 (dk_at dksX7_leastImage_0 0 rfl rfl)
theorem dX7_leastImage_1 : decode cX7_leastImage 1 = .ok (.istore_n 1, 1) := dk_60 (dk_at dksX7_leastImage_0 1 rfl rfl)
theorem dX7_leastImage_2 : decode cX7_leastImage 2 = .ok (.iconst 0, 1) := dk_3 (dk_at dksX7_leastImage_0 2 rfl rfl)
theorem dX7_leastImage_3 : decode cX7_leastImage 3 = .ok (.istore_n 2, 1) := dk_61 (dk_at dksX7_leastImage_0 3 rfl rfl)
theorem dX7_leastImage_4 : decode cX7_leastImage 4 = .ok (.iload_n 2, 1) := dk_28 (dk_at dksX7_leastImage_0 4 rfl rfl)
theorem dX7_leastImage_5 : decode cX7_leastImage 5 = .ok (.sipush 216, 3) := dk_17 0 216 (dk_at dksX7_leastImage_0 5 rfl rfl)
theorem dX7_leastImage_8 : decode cX7_leastImage 8 = .ok (.if_icmp .ge 38, 3) := dk_162 0 38 (dk_at dksX7_leastImage_0 8 rfl rfl)
theorem dX7_leastImage_11 : decode cX7_leastImage 11 = .ok (.aload_n 0, 1) := dk_42 (dk_at dksX7_leastImage_0 11 rfl rfl)
theorem dX7_leastImage_12 : decode cX7_leastImage 12 = .ok (.iload_n 2, 1) := dk_28 (dk_at dksX7_leastImage_0 12 rfl rfl)
theorem dX7_leastImage_13 : decode cX7_leastImage 13 = .ok (.invokevirtual 189, 3) := dk_182 0 189 (dk_at dksX7_leastImage_0 13 rfl rfl)
theorem dX7_leastImage_16 : decode cX7_leastImage 16 = .ok (.ifCond .eq 24, 3) := dk_153 0 24 (dk_at dksX7_leastImage_0 16 rfl rfl)
theorem dX7_leastImage_19 : decode cX7_leastImage 19 = .ok (.aload_n 0, 1) := dk_42 (dk_at dksX7_leastImage_0 19 rfl rfl)
theorem dX7_leastImage_20 : decode cX7_leastImage 20 = .ok (.invokevirtual 192, 3) := dk_182 0 192 (dk_at dksX7_leastImage_0 20 rfl rfl)
theorem dX7_leastImage_23 : decode cX7_leastImage 23 = .ok (.istore_n 3, 1) := dk_62 (dk_at dksX7_leastImage_0 23 rfl rfl)
theorem dX7_leastImage_24 : decode cX7_leastImage 24 = .ok (.iload_n 1, 1) := dk_27 (dk_at dksX7_leastImage_1 0 rfl rfl)
theorem dX7_leastImage_25 : decode cX7_leastImage 25 = .ok (.iconst (-1), 1) := dk_2 (dk_at dksX7_leastImage_1 1 rfl rfl)
theorem dX7_leastImage_26 : decode cX7_leastImage 26 = .ok (.if_icmp .eq 8, 3) := dk_159 0 8 (dk_at dksX7_leastImage_1 2 rfl rfl)
theorem dX7_leastImage_29 : decode cX7_leastImage 29 = .ok (.iload_n 3, 1) := dk_29 (dk_at dksX7_leastImage_1 5 rfl rfl)
theorem dX7_leastImage_30 : decode cX7_leastImage 30 = .ok (.iload_n 1, 1) := dk_27 (dk_at dksX7_leastImage_1 6 rfl rfl)
theorem dX7_leastImage_31 : decode cX7_leastImage 31 = .ok (.if_icmp .ge 7, 3) := dk_162 0 7 (dk_at dksX7_leastImage_1 7 rfl rfl)
theorem dX7_leastImage_34 : decode cX7_leastImage 34 = .ok (.iload_n 3, 1) := dk_29 (dk_at dksX7_leastImage_1 10 rfl rfl)
theorem dX7_leastImage_35 : decode cX7_leastImage 35 = .ok (.goto 4, 3) := dk_167 0 4 (dk_at dksX7_leastImage_1 11 rfl rfl)
theorem dX7_leastImage_38 : decode cX7_leastImage 38 = .ok (.iload_n 1, 1) := dk_27 (dk_at dksX7_leastImage_1 14 rfl rfl)
theorem dX7_leastImage_39 : decode cX7_leastImage 39 = .ok (.istore_n 1, 1) := dk_60 (dk_at dksX7_leastImage_1 15 rfl rfl)
theorem dX7_leastImage_40 : decode cX7_leastImage 40 = .ok (.iinc 2 1, 3) := dk_132 2 1 (dk_at dksX7_leastImage_1 16 rfl rfl)
theorem dX7_leastImage_43 : decode cX7_leastImage 43 = .ok (.goto (-39), 3) := dk_167 255 217 (dk_at dksX7_leastImage_1 19 rfl rfl)
theorem dX7_leastImage_46 : decode cX7_leastImage 46 = .ok (.iload_n 1, 1) := dk_27 (dk_at dksX7_leastImage_1 22 rfl rfl)
theorem dX7_leastImage_47 : decode cX7_leastImage 47 = .ok (.ireturn, 1) := dk_172 (dk_at dksX7_leastImage_1 23 rfl rfl)
abbrev cX7_form : ByteArray := prog_33_method_81_code
def yX7_form : MethodName := ⟨RX7, "form", "(I)Z"⟩
def dkwX7_form_2 : List UInt8 := [182, 1, 160, 4, 172, 132, 2, 1, 132, 3, 1, 167, 255, 220, 3, 172]
abbrev dktX7_form_2 : List UInt8 := dkwX7_form_2 ++ []
def dkwX7_form_1 : List UInt8 := [42, 182, 0, 171, 120, 162, 0, 32, 42, 29, 182, 1, 157, 153, 0, 18, 28, 27, 160, 0, 10, 42, 29]
abbrev dktX7_form_1 : List UInt8 := dkwX7_form_1 ++ dktX7_form_2
def dkwX7_form_0 : List UInt8 := [42, 3, 181, 0, 142, 42, 182, 0, 182, 154, 0, 5, 3, 172, 42, 182, 1, 154, 3, 61, 3, 62, 29, 4]
abbrev dktX7_form_0 : List UInt8 := dkwX7_form_0 ++ dktX7_form_1
theorem dksX7_form_0 : cX7_form.data.toList.drop 0 = dktX7_form_0 := by decide +kernel
theorem dksX7_form_1 : cX7_form.data.toList.drop 24 = dktX7_form_1 := dk_seg dksX7_form_0 24 rfl rfl
theorem dksX7_form_2 : cX7_form.data.toList.drop 47 = dktX7_form_2 := dk_seg dksX7_form_1 23 rfl rfl
theorem dX7_form_0 : decode cX7_form 0 = .ok (.aload_n 0, 1) := dk_42 (dk_at dksX7_form_0 0 rfl rfl)
theorem dX7_form_1 : decode cX7_form 1 = .ok (.iconst 0, 1) := dk_3 (dk_at dksX7_form_0 1 rfl rfl)
theorem dX7_form_2 : decode cX7_form 2 = .ok (.putfield 142, 3) := dk_181 0 142 (dk_at dksX7_form_0 2 rfl rfl)
theorem dX7_form_5 : decode cX7_form 5 = .ok (.aload_n 0, 1) := dk_42 (dk_at dksX7_form_0 5 rfl rfl)
theorem dX7_form_6 : decode cX7_form 6 = .ok (.invokevirtual 182, 3) := dk_182 0 182 (dk_at dksX7_form_0 6 rfl rfl)
theorem dX7_form_9 : decode cX7_form 9 = .ok (.ifCond .ne 5, 3) := dk_154 0 5 (dk_at dksX7_form_0 9 rfl rfl)
theorem dX7_form_12 : decode cX7_form 12 = .ok (.iconst 0, 1) := dk_3 (dk_at dksX7_form_0 12 rfl rfl)
theorem dX7_form_13 : decode cX7_form 13 = .ok (.ireturn, 1) := dk_172 (dk_at dksX7_form_0 13 rfl rfl)
theorem dX7_form_14 : decode cX7_form 14 = .ok (.aload_n 0, 1) := dk_42 (dk_at dksX7_form_0 14 rfl rfl)
theorem dX7_form_15 : decode cX7_form 15 = .ok (.invokevirtual 410, 3) := dk_182 1 154 (dk_at dksX7_form_0 15 rfl rfl)
theorem dX7_form_18 : decode cX7_form 18 = .ok (.iconst 0, 1) := dk_3 (dk_at dksX7_form_0 18 rfl rfl)
theorem dX7_form_19 : decode cX7_form 19 = .ok (.istore_n 2, 1) := dk_61 (dk_at dksX7_form_0 19 rfl rfl)
theorem dX7_form_20 : decode cX7_form 20 = .ok (.iconst 0, 1) := dk_3 (dk_at dksX7_form_0 20 rfl rfl)
theorem dX7_form_21 : decode cX7_form 21 = .ok (.istore_n 3, 1) := dk_62 (dk_at dksX7_form_0 21 rfl rfl)
theorem dX7_form_22 : decode cX7_form 22 = .ok (.iload_n 3, 1) := dk_29 (dk_at dksX7_form_0 22 rfl rfl)
theorem dX7_form_23 : decode cX7_form 23 = .ok (.iconst 1, 1) := dk_4 (dk_at dksX7_form_0 23 rfl rfl)
theorem dX7_form_24 : decode cX7_form 24 = .ok (.aload_n 0, 1) := dk_42 (dk_at dksX7_form_1 0 rfl rfl)
theorem dX7_form_25 : decode cX7_form 25 = .ok (.invokevirtual 171, 3) := dk_182 0 171 (dk_at dksX7_form_1 1 rfl rfl)
theorem dX7_form_28 : decode cX7_form 28 = .ok (.ishl, 1) := dk_120 (dk_at dksX7_form_1 4 rfl rfl)
theorem dX7_form_29 : decode cX7_form 29 = .ok (.if_icmp .ge 32, 3) := dk_162 0 32 (dk_at dksX7_form_1 5 rfl rfl)
theorem dX7_form_32 : decode cX7_form 32 = .ok (.aload_n 0, 1) := dk_42 (dk_at dksX7_form_1 8 rfl rfl)
theorem dX7_form_33 : decode cX7_form 33 = .ok (.iload_n 3, 1) := dk_29 (dk_at dksX7_form_1 9 rfl rfl)
theorem dX7_form_34 : decode cX7_form 34 = .ok (.invokevirtual 413, 3) := dk_182 1 157 (dk_at dksX7_form_1 10 rfl rfl)
theorem dX7_form_37 : decode cX7_form 37 = .ok (.ifCond .eq 18, 3) := dk_153 0 18 (dk_at dksX7_form_1 13 rfl rfl)
theorem dX7_form_40 : decode cX7_form 40 = .ok (.iload_n 2, 1) := dk_28 (dk_at dksX7_form_1 16 rfl rfl)
theorem dX7_form_41 : decode cX7_form 41 = .ok (.iload_n 1, 1) := dk_27 (dk_at dksX7_form_1 17 rfl rfl)
theorem dX7_form_42 : decode cX7_form 42 = .ok (.if_icmp .ne 10, 3) := dk_160 0 10 (dk_at dksX7_form_1 18 rfl rfl)
theorem dX7_form_45 : decode cX7_form 45 = .ok (.aload_n 0, 1) := dk_42 (dk_at dksX7_form_1 21 rfl rfl)
theorem dX7_form_46 : decode cX7_form 46 = .ok (.iload_n 3, 1) := dk_29 (dk_at dksX7_form_1 22 rfl rfl)
theorem dX7_form_47 : decode cX7_form 47 = .ok (.invokevirtual 416, 3) := dk_182 1 160 (dk_at dksX7_form_2 0 rfl rfl)
theorem dX7_form_50 : decode cX7_form 50 = .ok (.iconst 1, 1) := dk_4 (dk_at dksX7_form_2 3 rfl rfl)
theorem dX7_form_51 : decode cX7_form 51 = .ok (.ireturn, 1) := dk_172 (dk_at dksX7_form_2 4 rfl rfl)
theorem dX7_form_52 : decode cX7_form 52 = .ok (.iinc 2 1, 3) := dk_132 2 1 (dk_at dksX7_form_2 5 rfl rfl)
theorem dX7_form_55 : decode cX7_form 55 = .ok (.iinc 3 1, 3) := dk_132 3 1 (dk_at dksX7_form_2 8 rfl rfl)
theorem dX7_form_58 : decode cX7_form 58 = .ok (.goto (-36), 3) := dk_167 255 220 (dk_at dksX7_form_2 11 rfl rfl)
theorem dX7_form_61 : decode cX7_form 61 = .ok (.iconst 0, 1) := dk_3 (dk_at dksX7_form_2 14 rfl rfl)
theorem dX7_form_62 : decode cX7_form 62 = .ok (.ireturn, 1) := dk_172 (dk_at dksX7_form_2 15 rfl rfl)
abbrev cX7_takeWorld : ByteArray := prog_33_method_66_code
def yX7_takeWorld : MethodName := ⟨RX7, "takeWorld", "(I)V"⟩
def dkwX7_takeWorld_1 : List UInt8 := [4, 126, 153, 0, 7, 4, 167, 0, 4, 3, 84, 132, 3, 1, 167, 255, 225, 177]
abbrev dktX7_takeWorld_1 : List UInt8 := dkwX7_takeWorld_1 ++ []
def dkwX7_takeWorld_0 : List UInt8 := [42, 182, 0, 171, 61, 3, 62, 29, 28, 162, 0, 32, 42, 180, 0, 41, 29, 27, 28, 4, 100, 29, 100, 122]
abbrev dktX7_takeWorld_0 : List UInt8 := dkwX7_takeWorld_0 ++ dktX7_takeWorld_1
theorem dksX7_takeWorld_0 : cX7_takeWorld.data.toList.drop 0 = dktX7_takeWorld_0 := by decide +kernel
theorem dksX7_takeWorld_1 : cX7_takeWorld.data.toList.drop 24 = dktX7_takeWorld_1 := dk_seg dksX7_takeWorld_0 24 rfl rfl
theorem dX7_takeWorld_0 : decode cX7_takeWorld 0 = .ok (.aload_n 0, 1) := dk_42 (dk_at dksX7_takeWorld_0 0 rfl rfl)
theorem dX7_takeWorld_1 : decode cX7_takeWorld 1 = .ok (.invokevirtual 171, 3) := dk_182 0 171 (dk_at dksX7_takeWorld_0 1 rfl rfl)
theorem dX7_takeWorld_4 : decode cX7_takeWorld 4 = .ok (.istore_n 2, 1) := dk_61 (dk_at dksX7_takeWorld_0 4 rfl rfl)
theorem dX7_takeWorld_5 : decode cX7_takeWorld 5 = .ok (.iconst 0, 1) := dk_3 (dk_at dksX7_takeWorld_0 5 rfl rfl)
theorem dX7_takeWorld_6 : decode cX7_takeWorld 6 = .ok (.istore_n 3, 1) := dk_62 (dk_at dksX7_takeWorld_0 6 rfl rfl)
theorem dX7_takeWorld_7 : decode cX7_takeWorld 7 = .ok (.iload_n 3, 1) := dk_29 (dk_at dksX7_takeWorld_0 7 rfl rfl)
theorem dX7_takeWorld_8 : decode cX7_takeWorld 8 = .ok (.iload_n 2, 1) := dk_28 (dk_at dksX7_takeWorld_0 8 rfl rfl)
theorem dX7_takeWorld_9 : decode cX7_takeWorld 9 = .ok (.if_icmp .ge 32, 3) := dk_162 0 32 (dk_at dksX7_takeWorld_0 9 rfl rfl)
theorem dX7_takeWorld_12 : decode cX7_takeWorld 12 = .ok (.aload_n 0, 1) := dk_42 (dk_at dksX7_takeWorld_0 12 rfl rfl)
theorem dX7_takeWorld_13 : decode cX7_takeWorld 13 = .ok (.getfield 41, 3) := dk_180 0 41 (dk_at dksX7_takeWorld_0 13 rfl rfl)
theorem dX7_takeWorld_16 : decode cX7_takeWorld 16 = .ok (.iload_n 3, 1) := dk_29 (dk_at dksX7_takeWorld_0 16 rfl rfl)
theorem dX7_takeWorld_17 : decode cX7_takeWorld 17 = .ok (.iload_n 1, 1) := dk_27 (dk_at dksX7_takeWorld_0 17 rfl rfl)
theorem dX7_takeWorld_18 : decode cX7_takeWorld 18 = .ok (.iload_n 2, 1) := dk_28 (dk_at dksX7_takeWorld_0 18 rfl rfl)
theorem dX7_takeWorld_19 : decode cX7_takeWorld 19 = .ok (.iconst 1, 1) := dk_4 (dk_at dksX7_takeWorld_0 19 rfl rfl)
theorem dX7_takeWorld_20 : decode cX7_takeWorld 20 = .ok (.isub, 1) := dk_100 (dk_at dksX7_takeWorld_0 20 rfl rfl)
theorem dX7_takeWorld_21 : decode cX7_takeWorld 21 = .ok (.iload_n 3, 1) := dk_29 (dk_at dksX7_takeWorld_0 21 rfl rfl)
theorem dX7_takeWorld_22 : decode cX7_takeWorld 22 = .ok (.isub, 1) := dk_100 (dk_at dksX7_takeWorld_0 22 rfl rfl)
theorem dX7_takeWorld_23 : decode cX7_takeWorld 23 = .ok (.ishr, 1) := dk_122 (dk_at dksX7_takeWorld_0 23 rfl rfl)
theorem dX7_takeWorld_24 : decode cX7_takeWorld 24 = .ok (.iconst 1, 1) := dk_4 (dk_at dksX7_takeWorld_1 0 rfl rfl)
theorem dX7_takeWorld_25 : decode cX7_takeWorld 25 = .ok (.iand, 1) := dk_126 (dk_at dksX7_takeWorld_1 1 rfl rfl)
theorem dX7_takeWorld_26 : decode cX7_takeWorld 26 = .ok (.ifCond .eq 7, 3) := dk_153 0 7 (dk_at dksX7_takeWorld_1 2 rfl rfl)
theorem dX7_takeWorld_29 : decode cX7_takeWorld 29 = .ok (.iconst 1, 1) := dk_4 (dk_at dksX7_takeWorld_1 5 rfl rfl)
theorem dX7_takeWorld_30 : decode cX7_takeWorld 30 = .ok (.goto 4, 3) := dk_167 0 4 (dk_at dksX7_takeWorld_1 6 rfl rfl)
theorem dX7_takeWorld_33 : decode cX7_takeWorld 33 = .ok (.iconst 0, 1) := dk_3 (dk_at dksX7_takeWorld_1 9 rfl rfl)
theorem dX7_takeWorld_34 : decode cX7_takeWorld 34 = .ok (.bastore, 1) := dk_84 (dk_at dksX7_takeWorld_1 10 rfl rfl)
theorem dX7_takeWorld_35 : decode cX7_takeWorld 35 = .ok (.iinc 3 1, 3) := dk_132 3 1 (dk_at dksX7_takeWorld_1 11 rfl rfl)
theorem dX7_takeWorld_38 : decode cX7_takeWorld 38 = .ok (.goto (-31), 3) := dk_167 255 225 (dk_at dksX7_takeWorld_1 14 rfl rfl)
theorem dX7_takeWorld_41 : decode cX7_takeWorld 41 = .ok (.return_, 1) := dk_177 (dk_at dksX7_takeWorld_1 17 rfl rfl)
abbrev cX7_name : ByteArray := prog_33_method_82_code
def yX7_name : MethodName := ⟨RX7, "name", "()Z"⟩
def dkwX7_name_1 : List UInt8 := [42, 182, 1, 151, 61, 42, 28, 182, 1, 160, 28, 27, 159, 0, 7, 4, 167, 0, 4, 3, 172]
abbrev dktX7_name_1 : List UInt8 := dkwX7_name_1 ++ []
def dkwX7_name_0 : List UInt8 := [42, 3, 181, 0, 142, 42, 182, 0, 182, 154, 0, 5, 3, 172, 42, 182, 0, 186, 60, 42, 27, 182, 1, 136]
abbrev dktX7_name_0 : List UInt8 := dkwX7_name_0 ++ dktX7_name_1
theorem dksX7_name_0 : cX7_name.data.toList.drop 0 = dktX7_name_0 := by decide +kernel
theorem dksX7_name_1 : cX7_name.data.toList.drop 24 = dktX7_name_1 := dk_seg dksX7_name_0 24 rfl rfl
theorem dX7_name_0 : decode cX7_name 0 = .ok (.aload_n 0, 1) := dk_42 (dk_at dksX7_name_0 0 rfl rfl)
theorem dX7_name_1 : decode cX7_name 1 = .ok (.iconst 0, 1) := dk_3 (dk_at dksX7_name_0 1 rfl rfl)
theorem dX7_name_2 : decode cX7_name 2 = .ok (.putfield 142, 3) := dk_181 0 142 (dk_at dksX7_name_0 2 rfl rfl)
theorem dX7_name_5 : decode cX7_name 5 = .ok (.aload_n 0, 1) := dk_42 (dk_at dksX7_name_0 5 rfl rfl)
theorem dX7_name_6 : decode cX7_name 6 = .ok (.invokevirtual 182, 3) := dk_182 0 182 (dk_at dksX7_name_0 6 rfl rfl)
theorem dX7_name_9 : decode cX7_name 9 = .ok (.ifCond .ne 5, 3) := dk_154 0 5 (dk_at dksX7_name_0 9 rfl rfl)
theorem dX7_name_12 : decode cX7_name 12 = .ok (.iconst 0, 1) := dk_3 (dk_at dksX7_name_0 12 rfl rfl)
theorem dX7_name_13 : decode cX7_name 13 = .ok (.ireturn, 1) := dk_172 (dk_at dksX7_name_0 13 rfl rfl)
theorem dX7_name_14 : decode cX7_name 14 = .ok (.aload_n 0, 1) := dk_42 (dk_at dksX7_name_0 14 rfl rfl)
theorem dX7_name_15 : decode cX7_name 15 = .ok (.invokevirtual 186, 3) := dk_182 0 186 (dk_at dksX7_name_0 15 rfl rfl)
theorem dX7_name_18 : decode cX7_name 18 = .ok (.istore_n 1, 1) := dk_60 (dk_at dksX7_name_0 18 rfl rfl)
theorem dX7_name_19 : decode cX7_name 19 = .ok (.aload_n 0, 1) := dk_42 (dk_at dksX7_name_0 19 rfl rfl)
theorem dX7_name_20 : decode cX7_name 20 = .ok (.iload_n 1, 1) := dk_27 (dk_at dksX7_name_0 20 rfl rfl)
theorem dX7_name_21 : decode cX7_name 21 = .ok (.invokevirtual 392, 3) := dk_182 1 136 (dk_at dksX7_name_0 21 rfl rfl)
theorem dX7_name_24 : decode cX7_name 24 = .ok (.aload_n 0, 1) := dk_42 (dk_at dksX7_name_1 0 rfl rfl)
theorem dX7_name_25 : decode cX7_name 25 = .ok (.invokevirtual 407, 3) := dk_182 1 151 (dk_at dksX7_name_1 1 rfl rfl)
theorem dX7_name_28 : decode cX7_name 28 = .ok (.istore_n 2, 1) := dk_61 (dk_at dksX7_name_1 4 rfl rfl)
theorem dX7_name_29 : decode cX7_name 29 = .ok (.aload_n 0, 1) := dk_42 (dk_at dksX7_name_1 5 rfl rfl)
theorem dX7_name_30 : decode cX7_name 30 = .ok (.iload_n 2, 1) := dk_28 (dk_at dksX7_name_1 6 rfl rfl)
theorem dX7_name_31 : decode cX7_name 31 = .ok (.invokevirtual 416, 3) := dk_182 1 160 (dk_at dksX7_name_1 7 rfl rfl)
theorem dX7_name_34 : decode cX7_name 34 = .ok (.iload_n 2, 1) := dk_28 (dk_at dksX7_name_1 10 rfl rfl)
theorem dX7_name_35 : decode cX7_name 35 = .ok (.iload_n 1, 1) := dk_27 (dk_at dksX7_name_1 11 rfl rfl)
theorem dX7_name_36 : decode cX7_name 36 = .ok (.if_icmp .eq 7, 3) := dk_159 0 7 (dk_at dksX7_name_1 12 rfl rfl)
theorem dX7_name_39 : decode cX7_name 39 = .ok (.iconst 1, 1) := dk_4 (dk_at dksX7_name_1 15 rfl rfl)
theorem dX7_name_40 : decode cX7_name 40 = .ok (.goto 4, 3) := dk_167 0 4 (dk_at dksX7_name_1 16 rfl rfl)
theorem dX7_name_43 : decode cX7_name 43 = .ok (.iconst 0, 1) := dk_3 (dk_at dksX7_name_1 19 rfl rfl)
theorem dX7_name_44 : decode cX7_name 44 = .ok (.ireturn, 1) := dk_172 (dk_at dksX7_name_1 20 rfl rfl)
abbrev cX7_least : ByteArray := prog_33_method_84_code
def yX7_least : MethodName := ⟨RX7, "least", "(I)I"⟩
def dkwX7_least_2 : List UInt8 := [180, 1, 169, 172]
abbrev dktX7_least_2 : List UInt8 := dkwX7_least_2 ++ []
def dkwX7_least_1 : List UInt8 := [154, 0, 10, 42, 180, 1, 163, 167, 0, 19, 27, 4, 160, 0, 10, 42, 180, 1, 166, 167, 0, 7, 42]
abbrev dktX7_least_1 : List UInt8 := dkwX7_least_1 ++ dktX7_least_2
def dkwX7_least_0 : List UInt8 := [42, 3, 181, 0, 142, 27, 3, 5, 184, 0, 160, 153, 0, 10, 42, 182, 1, 172, 154, 0, 5, 2, 172, 27]
abbrev dktX7_least_0 : List UInt8 := dkwX7_least_0 ++ dktX7_least_1
theorem dksX7_least_0 : cX7_least.data.toList.drop 0 = dktX7_least_0 := by decide +kernel
theorem dksX7_least_1 : cX7_least.data.toList.drop 24 = dktX7_least_1 := dk_seg dksX7_least_0 24 rfl rfl
theorem dksX7_least_2 : cX7_least.data.toList.drop 47 = dktX7_least_2 := dk_seg dksX7_least_1 23 rfl rfl
theorem dX7_least_0 : decode cX7_least 0 = .ok (.aload_n 0, 1) := dk_42 (dk_at dksX7_least_0 0 rfl rfl)
theorem dX7_least_1 : decode cX7_least 1 = .ok (.iconst 0, 1) := dk_3 (dk_at dksX7_least_0 1 rfl rfl)
theorem dX7_least_2 : decode cX7_least 2 = .ok (.putfield 142, 3) := dk_181 0 142 (dk_at dksX7_least_0 2 rfl rfl)
theorem dX7_least_5 : decode cX7_least 5 = .ok (.iload_n 1, 1) := dk_27 (dk_at dksX7_least_0 5 rfl rfl)
theorem dX7_least_6 : decode cX7_least 6 = .ok (.iconst 0, 1) := dk_3 (dk_at dksX7_least_0 6 rfl rfl)
theorem dX7_least_7 : decode cX7_least 7 = .ok (.iconst 2, 1) := dk_5 (dk_at dksX7_least_0 7 rfl rfl)
theorem dX7_least_8 : decode cX7_least 8 = .ok (.invokestatic 160, 3) := dk_184 0 160 (dk_at dksX7_least_0 8 rfl rfl)
theorem dX7_least_11 : decode cX7_least 11 = .ok (.ifCond .eq 10, 3) := dk_153 0 10 (dk_at dksX7_least_0 11 rfl rfl)
theorem dX7_least_14 : decode cX7_least 14 = .ok (.aload_n 0, 1) := dk_42 (dk_at dksX7_least_0 14 rfl rfl)
theorem dX7_least_15 : decode cX7_least 15 = .ok (.invokevirtual 428, 3) := dk_182 1 172 (dk_at dksX7_least_0 15 rfl rfl)
theorem dX7_least_18 : decode cX7_least 18 = .ok (.ifCond .ne 5, 3) := dk_154 0 5 (dk_at dksX7_least_0 18 rfl rfl)
theorem dX7_least_21 : decode cX7_least 21 = .ok (.iconst (-1), 1) := dk_2 (dk_at dksX7_least_0 21 rfl rfl)
theorem dX7_least_22 : decode cX7_least 22 = .ok (.ireturn, 1) := dk_172 (dk_at dksX7_least_0 22 rfl rfl)
theorem dX7_least_23 : decode cX7_least 23 = .ok (.iload_n 1, 1) := dk_27 (dk_at dksX7_least_0 23 rfl rfl)
theorem dX7_least_24 : decode cX7_least 24 = .ok (.ifCond .ne 10, 3) := dk_154 0 10 (dk_at dksX7_least_1 0 rfl rfl)
theorem dX7_least_27 : decode cX7_least 27 = .ok (.aload_n 0, 1) := dk_42 (dk_at dksX7_least_1 3 rfl rfl)
theorem dX7_least_28 : decode cX7_least 28 = .ok (.getfield 419, 3) := dk_180 1 163 (dk_at dksX7_least_1 4 rfl rfl)
theorem dX7_least_31 : decode cX7_least 31 = .ok (.goto 19, 3) := dk_167 0 19 (dk_at dksX7_least_1 7 rfl rfl)
theorem dX7_least_34 : decode cX7_least 34 = .ok (.iload_n 1, 1) := dk_27 (dk_at dksX7_least_1 10 rfl rfl)
theorem dX7_least_35 : decode cX7_least 35 = .ok (.iconst 1, 1) := dk_4 (dk_at dksX7_least_1 11 rfl rfl)
theorem dX7_least_36 : decode cX7_least 36 = .ok (.if_icmp .ne 10, 3) := dk_160 0 10 (dk_at dksX7_least_1 12 rfl rfl)
theorem dX7_least_39 : decode cX7_least 39 = .ok (.aload_n 0, 1) := dk_42 (dk_at dksX7_least_1 15 rfl rfl)
theorem dX7_least_40 : decode cX7_least 40 = .ok (.getfield 422, 3) := dk_180 1 166 (dk_at dksX7_least_1 16 rfl rfl)
theorem dX7_least_43 : decode cX7_least 43 = .ok (.goto 7, 3) := dk_167 0 7 (dk_at dksX7_least_1 19 rfl rfl)
theorem dX7_least_46 : decode cX7_least 46 = .ok (.aload_n 0, 1) := dk_42 (dk_at dksX7_least_1 22 rfl rfl)
theorem dX7_least_47 : decode cX7_least 47 = .ok (.getfield 425, 3) := dk_180 1 169 (dk_at dksX7_least_2 0 rfl rfl)
theorem dX7_least_50 : decode cX7_least 50 = .ok (.ireturn, 1) := dk_172 (dk_at dksX7_least_2 3 rfl rfl)
