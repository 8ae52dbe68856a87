set_option maxRecDepth 100000
abbrev cX7_copy : ByteArray := prog_33_method_5_code
def yX7_copy : MethodName := ⟨RX7, "copy", "(II)V"⟩
def dkwX7_copy_15 : List UInt8 := [17, 1, 104, 27, 28, 184, 0, 146, 42, 180, 0, 66, 17, 1, 104, 27, 28, 184, 0, 146, 177]
abbrev dktX7_copy_15 : List UInt8 := dkwX7_copy_15 ++ []
def dkwX7_copy_14 : List UInt8 := [17, 1, 104, 27, 28, 184, 0, 146, 42, 180, 0, 60, 17, 1, 104, 27, 28, 184, 0, 146, 42, 180, 0, 63]
abbrev dktX7_copy_14 : List UInt8 := dkwX7_copy_14 ++ dktX7_copy_15
def dkwX7_copy_13 : List UInt8 := [16, 8, 27, 28, 184, 0, 146, 42, 180, 0, 54, 16, 9, 27, 28, 184, 0, 146, 42, 180, 0, 57]
abbrev dktX7_copy_13 : List UInt8 := dkwX7_copy_13 ++ dktX7_copy_14
def dkwX7_copy_12 : List UInt8 := [180, 0, 45, 4, 27, 28, 184, 0, 146, 42, 180, 0, 48, 16, 8, 27, 28, 184, 0, 146, 42, 180, 0, 51]
abbrev dktX7_copy_12 : List UInt8 := dkwX7_copy_12 ++ dktX7_copy_13
def dkwX7_copy_11 : List UInt8 := [184, 0, 146, 42, 180, 0, 35, 7, 27, 28, 184, 0, 146, 42, 180, 0, 38, 7, 27, 28, 184, 0, 146, 42]
abbrev dktX7_copy_11 : List UInt8 := dkwX7_copy_11 ++ dktX7_copy_12
def dkwX7_copy_10 : List UInt8 := [27, 28, 184, 0, 146, 42, 180, 0, 29, 6, 27, 28, 184, 0, 146, 42, 180, 0, 32, 4, 27, 28]
abbrev dktX7_copy_10 : List UInt8 := dkwX7_copy_10 ++ dktX7_copy_11
def dkwX7_copy_9 : List UInt8 := [180, 0, 20, 4, 27, 28, 184, 0, 146, 42, 180, 0, 23, 4, 27, 28, 184, 0, 146, 42, 180, 0, 26, 4]
abbrev dktX7_copy_9 : List UInt8 := dkwX7_copy_9 ++ dktX7_copy_10
def dkwX7_copy_8 : List UInt8 := [184, 0, 146, 42, 180, 0, 13, 4, 27, 28, 184, 0, 146, 42, 180, 0, 17, 4, 27, 28, 184, 0, 146, 42]
abbrev dktX7_copy_8 : List UInt8 := dkwX7_copy_8 ++ dktX7_copy_9
def dkwX7_copy_7 : List UInt8 := [184, 0, 146, 42, 180, 0, 75, 16, 40, 27, 28, 184, 0, 146, 42, 180, 0, 78, 16, 40, 27, 28]
abbrev dktX7_copy_7 : List UInt8 := dkwX7_copy_7 ++ dktX7_copy_8
def dkwX7_copy_6 : List UInt8 := [132, 3, 1, 167, 255, 228, 42, 180, 0, 69, 4, 27, 28, 184, 0, 146, 42, 180, 0, 72, 16, 40, 27, 28]
abbrev dktX7_copy_6 : List UInt8 := dkwX7_copy_6 ++ dktX7_copy_7
def dkwX7_copy_5 : List UInt8 := [162, 0, 29, 42, 180, 0, 84, 7, 28, 104, 29, 96, 42, 180, 0, 84, 7, 27, 104, 29, 96, 51, 84]
abbrev dktX7_copy_5 : List UInt8 := dkwX7_copy_5 ++ dktX7_copy_6
def dkwX7_copy_4 : List UInt8 := [180, 0, 81, 17, 0, 144, 27, 104, 29, 96, 51, 84, 132, 3, 1, 167, 255, 222, 3, 62, 29, 7]
abbrev dktX7_copy_4 : List UInt8 := dkwX7_copy_4 ++ dktX7_copy_5
def dkwX7_copy_3 : List UInt8 := [167, 255, 225, 3, 62, 29, 17, 0, 144, 162, 0, 33, 42, 180, 0, 81, 17, 0, 144, 28, 104, 29, 96, 42]
abbrev dktX7_copy_3 : List UInt8 := dkwX7_copy_3 ++ dktX7_copy_4
def dkwX7_copy_2 : List UInt8 := [180, 0, 41, 16, 36, 28, 104, 29, 96, 42, 180, 0, 41, 16, 36, 27, 104, 29, 96, 51, 84, 132, 3, 1]
abbrev dktX7_copy_2 : List UInt8 := dkwX7_copy_2 ++ dktX7_copy_3
def dkwX7_copy_1 : List UInt8 := [17, 1, 144, 27, 104, 29, 96, 51, 84, 132, 3, 1, 167, 255, 222, 3, 62, 29, 16, 36, 162, 0, 31, 42]
abbrev dktX7_copy_1 : List UInt8 := dkwX7_copy_1 ++ dktX7_copy_2
def dkwX7_copy_0 : List UInt8 := [3, 62, 29, 17, 1, 144, 162, 0, 33, 42, 180, 0, 7, 17, 1, 144, 28, 104, 29, 96, 42, 180, 0, 7]
abbrev dktX7_copy_0 : List UInt8 := dkwX7_copy_0 ++ dktX7_copy_1
theorem dksX7_copy_0 : cX7_copy.data.toList.drop 0 = dktX7_copy_0 := by decide +kernel
theorem dksX7_copy_1 : cX7_copy.data.toList.drop 24 = dktX7_copy_1 := dk_seg dksX7_copy_0 24 rfl rfl
theorem dksX7_copy_2 : cX7_copy.data.toList.drop 48 = dktX7_copy_2 := dk_seg dksX7_copy_1 24 rfl rfl
theorem dksX7_copy_3 : cX7_copy.data.toList.drop 72 = dktX7_copy_3 := dk_seg dksX7_copy_2 24 rfl rfl
theorem dksX7_copy_4 : cX7_copy.data.toList.drop 96 = dktX7_copy_4 := dk_seg dksX7_copy_3 24 rfl rfl
theorem dksX7_copy_5 : cX7_copy.data.toList.drop 118 = dktX7_copy_5 := dk_seg dksX7_copy_4 22 rfl rfl
theorem dksX7_copy_6 : cX7_copy.data.toList.drop 141 = dktX7_copy_6 := dk_seg dksX7_copy_5 23 rfl rfl
theorem dksX7_copy_7 : cX7_copy.data.toList.drop 165 = dktX7_copy_7 := dk_seg dksX7_copy_6 24 rfl rfl
theorem dksX7_copy_8 : cX7_copy.data.toList.drop 187 = dktX7_copy_8 := dk_seg dksX7_copy_7 22 rfl rfl
theorem dksX7_copy_9 : cX7_copy.data.toList.drop 211 = dktX7_copy_9 := dk_seg dksX7_copy_8 24 rfl rfl
theorem dksX7_copy_10 : cX7_copy.data.toList.drop 235 = dktX7_copy_10 := dk_seg dksX7_copy_9 24 rfl rfl
theorem dksX7_copy_11 : cX7_copy.data.toList.drop 257 = dktX7_copy_11 := dk_seg dksX7_copy_10 22 rfl rfl
theorem dksX7_copy_12 : cX7_copy.data.toList.drop 281 = dktX7_copy_12 := dk_seg dksX7_copy_11 24 rfl rfl
theorem dksX7_copy_13 : cX7_copy.data.toList.drop 305 = dktX7_copy_13 := dk_seg dksX7_copy_12 24 rfl rfl
theorem dksX7_copy_14 : cX7_copy.data.toList.drop 327 = dktX7_copy_14 := dk_seg dksX7_copy_13 22 rfl rfl
theorem dksX7_copy_15 : cX7_copy.data.toList.drop 351 = dktX7_copy_15 := dk_seg dksX7_copy_14 24 rfl rfl
theorem dX7_copy_0 : decode cX7_copy 0 = .ok (.iconst 0, 1) := dk_3 (dk_at dksX7_copy_0 0 rfl rfl)
theorem dX7_copy_1 : decode cX7_copy 1 = .ok (.istore_n 3, 1) := dk_62 (dk_at dksX7_copy_0 1 rfl rfl)
theorem dX7_copy_2 : decode cX7_copy 2 = .ok (.iload_n 3, 1) := dk_29 (dk_at dksX7_copy_0 2 rfl rfl)
theorem dX7_copy_3 : decode cX7_copy 3 = .ok (.sipush 400, 3) := dk_17 1 144 (dk_at dksX7_copy_0 3 rfl rfl)
theorem dX7_copy_6 : decode cX7_copy 6 = .ok (.if_icmp .ge 33, 3) := dk_162 0 33 (dk_at dksX7_copy_0 6 rfl rfl)
theorem dX7_copy_9 : decode cX7_copy 9 = .ok (.aload_n 0, 1) := dk_42 (dk_at dksX7_copy_0 9 rfl rfl)
theorem dX7_copy_10 : decode cX7_copy 10 = .ok (.getfield 7, 3) := dk_180 0 7 (dk_at dksX7_copy_0 10 rfl rfl)
theorem dX7_copy_13 : decode cX7_copy 13 = .ok (.sipush 400, 3) := dk_17 1 144 (dk_at dksX7_copy_0 13 rfl rfl)
theorem dX7_copy_16 : decode cX7_copy 16 = .ok (.iload_n 2, 1) := dk_28 (dk_at dksX7_copy_0 16 rfl rfl)
theorem dX7_copy_17 : decode cX7_copy 17 = .ok (.imul, 1) := dk_104 (dk_at dksX7_copy_0 17 rfl rfl)
theorem dX7_copy_18 : decode cX7_copy 18 = .ok (.iload_n 3, 1) := dk_29 (dk_at dksX7_copy_0 18 rfl rfl)
theorem dX7_copy_19 : decode cX7_copy 19 = .ok (.iadd, 1) := dk_96 (dk_at dksX7_copy_0 19 rfl rfl)
theorem dX7_copy_20 : decode cX7_copy 20 = .ok (.aload_n 0, 1) := dk_42 (dk_at dksX7_copy_0 20 rfl rfl)
theorem dX7_copy_21 : decode cX7_copy 21 = .ok (.getfield 7, 3) := dk_180 0 7 (dk_at dksX7_copy_0 21 rfl rfl)
theorem dX7_copy_24 : decode cX7_copy 24 = .ok (.sipush 400, 3) := dk_17 1 144 (dk_at dksX7_copy_1 0 rfl rfl)
theorem dX7_copy_27 : decode cX7_copy 27 = .ok (.iload_n 1, 1) := dk_27 (dk_at dksX7_copy_1 3 rfl rfl)
theorem dX7_copy_28 : decode cX7_copy 28 = .ok (.imul, 1) := dk_104 (dk_at dksX7_copy_1 4 rfl rfl)
theorem dX7_copy_29 : decode cX7_copy 29 = .ok (.iload_n 3, 1) := dk_29 (dk_at dksX7_copy_1 5 rfl rfl)
theorem dX7_copy_30 : decode cX7_copy 30 = .ok (.iadd, 1) := dk_96 (dk_at dksX7_copy_1 6 rfl rfl)
theorem dX7_copy_31 : decode cX7_copy 31 = .ok (.baload, 1) := dk_51 (dk_at dksX7_copy_1 7 rfl rfl)
theorem dX7_copy_32 : decode cX7_copy 32 = .ok (.bastore, 1) := dk_84 (dk_at dksX7_copy_1 8 rfl rfl)
theorem dX7_copy_33 : decode cX7_copy 33 = .ok (.iinc 3 1, 3) := dk_132 3 1 (dk_at dksX7_copy_1 9 rfl rfl)
theorem dX7_copy_36 : decode cX7_copy 36 = .ok (.goto (-34), 3) := dk_167 255 222 (dk_at dksX7_copy_1 12 rfl rfl)
theorem dX7_copy_39 : decode cX7_copy 39 = .ok (.iconst 0, 1) := dk_3 (dk_at dksX7_copy_1 15 rfl rfl)
theorem dX7_copy_40 : decode cX7_copy 40 = .ok (.istore_n 3, 1) := dk_62 (dk_at dksX7_copy_1 16 rfl rfl)
theorem dX7_copy_41 : decode cX7_copy 41 = .ok (.iload_n 3, 1) := dk_29 (dk_at dksX7_copy_1 17 rfl rfl)
theorem dX7_copy_42 : decode cX7_copy 42 = .ok (.bipush 36, 2) := dk_16 36 (dk_at dksX7_copy_1 18 rfl rfl)
theorem dX7_copy_44 : decode cX7_copy 44 = .ok (.if_icmp .ge 31, 3) := dk_162 0 31 (dk_at dksX7_copy_1 20 rfl rfl)
theorem dX7_copy_47 : decode cX7_copy 47 = .ok (.aload_n 0, 1) := dk_42 (dk_at dksX7_copy_1 23 rfl rfl)
theorem dX7_copy_48 : decode cX7_copy 48 = .ok (.getfield 41, 3) := dk_180 0 41 (dk_at dksX7_copy_2 0 rfl rfl)
theorem dX7_copy_51 : decode cX7_copy 51 = .ok (.bipush 36, 2) := dk_16 36 (dk_at dksX7_copy_2 3 rfl rfl)
theorem dX7_copy_53 : decode cX7_copy 53 = .ok (.iload_n 2, 1) := dk_28 (dk_at dksX7_copy_2 5 rfl rfl)
theorem dX7_copy_54 : decode cX7_copy 54 = .ok (.imul, 1) := dk_104 (dk_at dksX7_copy_2 6 rfl rfl)
theorem dX7_copy_55 : decode cX7_copy 55 = .ok (.iload_n 3, 1) := dk_29 (dk_at dksX7_copy_2 7 rfl rfl)
theorem dX7_copy_56 : decode cX7_copy 56 = .ok (.iadd, 1) := dk_96 (dk_at dksX7_copy_2 8 rfl rfl)
theorem dX7_copy_57 : decode cX7_copy 57 = .ok (.aload_n 0, 1) := dk_42 (dk_at dksX7_copy_2 9 rfl rfl)
theorem dX7_copy_58 : decode cX7_copy 58 = .ok (.getfield 41, 3) := dk_180 0 41 (dk_at dksX7_copy_2 10 rfl rfl)
theorem dX7_copy_61 : decode cX7_copy 61 = .ok (.bipush 36, 2) := dk_16 36 (dk_at dksX7_copy_2 13 rfl rfl)
theorem dX7_copy_63 : decode cX7_copy 63 = .ok (.iload_n 1, 1) := dk_27 (dk_at dksX7_copy_2 15 rfl rfl)
theorem dX7_copy_64 : decode cX7_copy 64 = .ok (.imul, 1) := dk_104 (dk_at dksX7_copy_2 16 rfl rfl)
theorem dX7_copy_65 : decode cX7_copy 65 = .ok (.iload_n 3, 1) := dk_29 (dk_at dksX7_copy_2 17 rfl rfl)
theorem dX7_copy_66 : decode cX7_copy 66 = .ok (.iadd, 1) := dk_96 (dk_at dksX7_copy_2 18 rfl rfl)
theorem dX7_copy_67 : decode cX7_copy 67 = .ok (.baload, 1) := dk_51 (dk_at dksX7_copy_2 19 rfl rfl)
theorem dX7_copy_68 : decode cX7_copy 68 = .ok (.bastore, 1) := dk_84 (dk_at dksX7_copy_2 20 rfl rfl)
theorem dX7_copy_69 : decode cX7_copy 69 = .ok (.iinc 3 1, 3) := dk_132 3 1 (dk_at dksX7_copy_2 21 rfl rfl)
theorem dX7_copy_72 : decode cX7_copy 72 = .ok (.goto (-31), 3) := dk_167 255 225 (dk_at dksX7_copy_3 0 rfl rfl)
theorem dX7_copy_75 : decode cX7_copy 75 = .ok (.iconst 0, 1) := dk_3 (dk_at dksX7_copy_3 3 rfl rfl)
theorem dX7_copy_76 : decode cX7_copy 76 = .ok (.istore_n 3, 1) := dk_62 (dk_at dksX7_copy_3 4 rfl rfl)
theorem dX7_copy_77 : decode cX7_copy 77 = .ok (.iload_n 3, 1) := dk_29 (dk_at dksX7_copy_3 5 rfl rfl)
theorem dX7_copy_78 : decode cX7_copy 78 = .ok (.sipush 144, 3) := dk_17 0 144 (dk_at dksX7_copy_3 6 rfl rfl)
theorem dX7_copy_81 : decode cX7_copy 81 = .ok (.if_icmp .ge 33, 3) := dk_162 0 33 (dk_at dksX7_copy_3 9 rfl rfl)
theorem dX7_copy_84 : decode cX7_copy 84 = .ok (.aload_n 0, 1) := dk_42 (dk_at dksX7_copy_3 12 rfl rfl)
theorem dX7_copy_85 : decode cX7_copy 85 = .ok (.getfield 81, 3) := dk_180 0 81 (dk_at dksX7_copy_3 13 rfl rfl)
theorem dX7_copy_88 : decode cX7_copy 88 = .ok (.sipush 144, 3) := dk_17 0 144 (dk_at dksX7_copy_3 16 rfl rfl)
theorem dX7_copy_91 : decode cX7_copy 91 = .ok (.iload_n 2, 1) := dk_28 (dk_at dksX7_copy_3 19 rfl rfl)
theorem dX7_copy_92 : decode cX7_copy 92 = .ok (.imul, 1) := dk_104 (dk_at dksX7_copy_3 20 rfl rfl)
theorem dX7_copy_93 : decode cX7_copy 93 = .ok (.iload_n 3, 1) := dk_29 (dk_at dksX7_copy_3 21 rfl rfl)
theorem dX7_copy_94 : decode cX7_copy 94 = .ok (.iadd, 1) := dk_96 (dk_at dksX7_copy_3 22 rfl rfl)
theorem dX7_copy_95 : decode cX7_copy 95 = .ok (.aload_n 0, 1) := dk_42 (dk_at dksX7_copy_3 23 rfl rfl)
theorem dX7_copy_96 : decode cX7_copy 96 = .ok (.getfield 81, 3) := dk_180 0 81 (dk_at dksX7_copy_4 0 rfl rfl)
theorem dX7_copy_99 : decode cX7_copy 99 = .ok (.sipush 144, 3) := dk_17 0 144 (dk_at dksX7_copy_4 3 rfl rfl)
theorem dX7_copy_102 : decode cX7_copy 102 = .ok (.iload_n 1, 1) := dk_27 (dk_at dksX7_copy_4 6 rfl rfl)
theorem dX7_copy_103 : decode cX7_copy 103 = .ok (.imul, 1) := dk_104 (dk_at dksX7_copy_4 7 rfl rfl)
theorem dX7_copy_104 : decode cX7_copy 104 = .ok (.iload_n 3, 1) := dk_29 (dk_at dksX7_copy_4 8 rfl rfl)
theorem dX7_copy_105 : decode cX7_copy 105 = .ok (.iadd, 1) := dk_96 (dk_at dksX7_copy_4 9 rfl rfl)
theorem dX7_copy_106 : decode cX7_copy 106 = .ok (.baload, 1) := dk_51 (dk_at dksX7_copy_4 10 rfl rfl)
theorem dX7_copy_107 : decode cX7_copy 107 = .ok (.bastore, 1) := dk_84 (dk_at dksX7_copy_4 11 rfl rfl)
theorem dX7_copy_108 : decode cX7_copy 108 = .ok (.iinc 3 1, 3) := dk_132 3 1 (dk_at dksX7_copy_4 12 rfl rfl)
theorem dX7_copy_111 : decode cX7_copy 111 = .ok (.goto (-34), 3) := dk_167 255 222 (dk_at dksX7_copy_4 15 rfl rfl)
theorem dX7_copy_114 : decode cX7_copy 114 = .ok (.iconst 0, 1) := dk_3 (dk_at dksX7_copy_4 18 rfl rfl)
theorem dX7_copy_115 : decode cX7_copy 115 = .ok (.istore_n 3, 1) := dk_62 (dk_at dksX7_copy_4 19 rfl rfl)
theorem dX7_copy_116 : decode cX7_copy 116 = .ok (.iload_n 3, 1) := dk_29 (dk_at dksX7_copy_4 20 rfl rfl)
theorem dX7_copy_117 : decode cX7_copy 117 = .ok (.iconst 4, 1) := dk_7 (dk_at dksX7_copy_4 21 rfl rfl)
theorem dX7_copy_118 : decode cX7_copy 118 = .ok (.if_icmp .ge 29, 3) := dk_162 0 29 (dk_at dksX7_copy_5 0 rfl rfl)
theorem dX7_copy_121 : decode cX7_copy 121 = .ok (.aload_n 0, 1) := dk_42 (dk_at dksX7_copy_5 3 rfl rfl)
theorem dX7_copy_122 : decode cX7_copy 122 = .ok (.getfield 84, 3) := dk_180 0 84 (dk_at dksX7_copy_5 4 rfl rfl)
theorem dX7_copy_125 : decode cX7_copy 125 = .ok (.iconst 4, 1) := dk_7 (dk_at dksX7_copy_5 7 rfl rfl)
theorem dX7_copy_126 : decode cX7_copy 126 = .ok (.iload_n 2, 1) := dk_28 (dk_at dksX7_copy_5 8 rfl rfl)
theorem dX7_copy_127 : decode cX7_copy 127 = .ok (.imul, 1) := dk_104 (dk_at dksX7_copy_5 9 rfl rfl)
theorem dX7_copy_128 : decode cX7_copy 128 = .ok (.iload_n 3, 1) := dk_29 (dk_at dksX7_copy_5 10 rfl rfl)
theorem dX7_copy_129 : decode cX7_copy 129 = .ok (.iadd, 1) := dk_96 (dk_at dksX7_copy_5 11 rfl rfl)
theorem dX7_copy_130 : decode cX7_copy 130 = .ok (.aload_n 0, 1) := dk_42 (dk_at dksX7_copy_5 12 rfl rfl)
theorem dX7_copy_131 : decode cX7_copy 131 = .ok (.getfield 84, 3) := dk_180 0 84 (dk_at dksX7_copy_5 13 rfl rfl)
theorem dX7_copy_134 : decode cX7_copy 134 = .ok (.iconst 4, 1) := dk_7 (dk_at dksX7_copy_5 16 rfl rfl)
theorem dX7_copy_135 : decode cX7_copy 135 = .ok (.iload_n 1, 1) := dk_27 (dk_at dksX7_copy_5 17 rfl rfl)
theorem dX7_copy_136 : decode cX7_copy 136 = .ok (.imul, 1) := dk_104 (dk_at dksX7_copy_5 18 rfl rfl)
theorem dX7_copy_137 : decode cX7_copy 137 = .ok (.iload_n 3, 1) := dk_29 (dk_at dksX7_copy_5 19 rfl rfl)
theorem dX7_copy_138 : decode cX7_copy 138 = .ok (.iadd, 1) := dk_96 (dk_at dksX7_copy_5 20 rfl rfl)
theorem dX7_copy_139 : decode cX7_copy 139 = .ok (.baload, 1) := dk_51 (dk_at dksX7_copy_5 21 rfl rfl)
theorem dX7_copy_140 : decode cX7_copy 140 = .ok (.bastore, 1) := dk_84 (dk_at dksX7_copy_5 22 rfl rfl)
theorem dX7_copy_141 : decode cX7_copy 141 = .ok (.iinc 3 1, 3) := dk_132 3 1 (dk_at dksX7_copy_6 0 rfl rfl)
theorem dX7_copy_144 : decode cX7_copy 144 = .ok (.goto (-28), 3) := dk_167 255 228 (dk_at dksX7_copy_6 3 rfl rfl)
theorem dX7_copy_147 : decode cX7_copy 147 = .ok (.aload_n 0, 1) := dk_42 (dk_at dksX7_copy_6 6 rfl rfl)
theorem dX7_copy_148 : decode cX7_copy 148 = .ok (.getfield 69, 3) := dk_180 0 69 (dk_at dksX7_copy_6 7 rfl rfl)
theorem dX7_copy_151 : decode cX7_copy 151 = .ok (.iconst 1, 1) := dk_4 (dk_at dksX7_copy_6 10 rfl rfl)
theorem dX7_copy_152 : decode cX7_copy 152 = .ok (.iload_n 1, 1) := dk_27 (dk_at dksX7_copy_6 11 rfl rfl)
theorem dX7_copy_153 : decode cX7_copy 153 = .ok (.iload_n 2, 1) := dk_28 (dk_at dksX7_copy_6 12 rfl rfl)
theorem dX7_copy_154 : decode cX7_copy 154 = .ok (.invokestatic 146, 3) := dk_184 0 146 (dk_at dksX7_copy_6 13 rfl rfl)
theorem dX7_copy_157 : decode cX7_copy 157 = .ok (.aload_n 0, 1) := dk_42 (dk_at dksX7_copy_6 16 rfl rfl)
theorem dX7_copy_158 : decode cX7_copy 158 = .ok (.getfield 72, 3) := dk_180 0 72 (dk_at dksX7_copy_6 17 rfl rfl)
theorem dX7_copy_161 : decode cX7_copy 161 = .ok (.bipush 40, 2) := dk_16 40 (dk_at dksX7_copy_6 20 rfl rfl)
theorem dX7_copy_163 : decode cX7_copy 163 = .ok (.iload_n 1, 1) := dk_27 (dk_at dksX7_copy_6 22 rfl rfl)
theorem dX7_copy_164 : decode cX7_copy 164 = .ok (.iload_n 2, 1) := dk_28 (dk_at dksX7_copy_6 23 rfl rfl)
theorem dX7_copy_165 : decode cX7_copy 165 = .ok (.invokestatic 146, 3) := dk_184 0 146 (dk_at dksX7_copy_7 0 rfl rfl)
theorem dX7_copy_168 : decode cX7_copy 168 = .ok (.aload_n 0, 1) := dk_42 (dk_at dksX7_copy_7 3 rfl rfl)
theorem dX7_copy_169 : decode cX7_copy 169 = .ok (.getfield 75, 3) := dk_180 0 75 (dk_at dksX7_copy_7 4 rfl rfl)
theorem dX7_copy_172 : decode cX7_copy 172 = .ok (.bipush 40, 2) := dk_16 40 (dk_at dksX7_copy_7 7 rfl rfl)
theorem dX7_copy_174 : decode cX7_copy 174 = .ok (.iload_n 1, 1) := dk_27 (dk_at dksX7_copy_7 9 rfl rfl)
theorem dX7_copy_175 : decode cX7_copy 175 = .ok (.iload_n 2, 1) := dk_28 (dk_at dksX7_copy_7 10 rfl rfl)
theorem dX7_copy_176 : decode cX7_copy 176 = .ok (.invokestatic 146, 3) := dk_184 0 146 (dk_at dksX7_copy_7 11 rfl rfl)
theorem dX7_copy_179 : decode cX7_copy 179 = .ok (.aload_n 0, 1) := dk_42 (dk_at dksX7_copy_7 14 rfl rfl)
theorem dX7_copy_180 : decode cX7_copy 180 = .ok (.getfield 78, 3) := dk_180 0 78 (dk_at dksX7_copy_7 15 rfl rfl)
theorem dX7_copy_183 : decode cX7_copy 183 = .ok (.bipush 40, 2) := dk_16 40 (dk_at dksX7_copy_7 18 rfl rfl)
theorem dX7_copy_185 : decode cX7_copy 185 = .ok (.iload_n 1, 1) := dk_27 (dk_at dksX7_copy_7 20 rfl rfl)
theorem dX7_copy_186 : decode cX7_copy 186 = .ok (.iload_n 2, 1) := dk_28 (dk_at dksX7_copy_7 21 rfl rfl)
theorem dX7_copy_187 : decode cX7_copy 187 = .ok (.invokestatic 146, 3) := dk_184 0 146 (dk_at dksX7_copy_8 0 rfl rfl)
theorem dX7_copy_190 : decode cX7_copy 190 = .ok (.aload_n 0, 1) := dk_42 (dk_at dksX7_copy_8 3 rfl rfl)
theorem dX7_copy_191 : decode cX7_copy 191 = .ok (.getfield 13, 3) := dk_180 0 13 (dk_at dksX7_copy_8 4 rfl rfl)
theorem dX7_copy_194 : decode cX7_copy 194 = .ok (.iconst 1, 1) := dk_4 (dk_at dksX7_copy_8 7 rfl rfl)
theorem dX7_copy_195 : decode cX7_copy 195 = .ok (.iload_n 1, 1) := dk_27 (dk_at dksX7_copy_8 8 rfl rfl)
theorem dX7_copy_196 : decode cX7_copy 196 = .ok (.iload_n 2, 1) := dk_28 (dk_at dksX7_copy_8 9 rfl rfl)
theorem dX7_copy_197 : decode cX7_copy 197 = .ok (.invokestatic 146, 3) := dk_184 0 146 (dk_at dksX7_copy_8 10 rfl rfl)
theorem dX7_copy_200 : decode cX7_copy 200 = .ok (.aload_n 0, 1) := dk_42 (dk_at dksX7_copy_8 13 rfl rfl)
theorem dX7_copy_201 : decode cX7_copy 201 = .ok (.getfield 17, 3) := dk_180 0 17 (dk_at dksX7_copy_8 14 rfl rfl)
theorem dX7_copy_204 : decode cX7_copy 204 = .ok (.iconst 1, 1) := dk_4 (dk_at dksX7_copy_8 17 rfl rfl)
theorem dX7_copy_205 : decode cX7_copy 205 = .ok (.iload_n 1, 1) := dk_27 (dk_at dksX7_copy_8 18 rfl rfl)
theorem dX7_copy_206 : decode cX7_copy 206 = .ok (.iload_n 2, 1) := dk_28 (dk_at dksX7_copy_8 19 rfl rfl)
theorem dX7_copy_207 : decode cX7_copy 207 = .ok (.invokestatic 146, 3) := dk_184 0 146 (dk_at dksX7_copy_8 20 rfl rfl)
theorem dX7_copy_210 : decode cX7_copy 210 = .ok (.aload_n 0, 1) := dk_42 (dk_at dksX7_copy_8 23 rfl rfl)
theorem dX7_copy_211 : decode cX7_copy 211 = .ok (.getfield 20, 3) := dk_180 0 20 (dk_at dksX7_copy_9 0 rfl rfl)
theorem dX7_copy_214 : decode cX7_copy 214 = .ok (.iconst 1, 1) := dk_4 (dk_at dksX7_copy_9 3 rfl rfl)
theorem dX7_copy_215 : decode cX7_copy 215 = .ok (.iload_n 1, 1) := dk_27 (dk_at dksX7_copy_9 4 rfl rfl)
theorem dX7_copy_216 : decode cX7_copy 216 = .ok (.iload_n 2, 1) := dk_28 (dk_at dksX7_copy_9 5 rfl rfl)
theorem dX7_copy_217 : decode cX7_copy 217 = .ok (.invokestatic 146, 3) := dk_184 0 146 (dk_at dksX7_copy_9 6 rfl rfl)
theorem dX7_copy_220 : decode cX7_copy 220 = .ok (.aload_n 0, 1) := dk_42 (dk_at dksX7_copy_9 9 rfl rfl)
theorem dX7_copy_221 : decode cX7_copy 221 = .ok (.getfield 23, 3) := dk_180 0 23 (dk_at dksX7_copy_9 10 rfl rfl)
theorem dX7_copy_224 : decode cX7_copy 224 = .ok (.iconst 1, 1) := dk_4 (dk_at dksX7_copy_9 13 rfl rfl)
theorem dX7_copy_225 : decode cX7_copy 225 = .ok (.iload_n 1, 1) := dk_27 (dk_at dksX7_copy_9 14 rfl rfl)
theorem dX7_copy_226 : decode cX7_copy 226 = .ok (.iload_n 2, 1) := dk_28 (dk_at dksX7_copy_9 15 rfl rfl)
theorem dX7_copy_227 : decode cX7_copy 227 = .ok (.invokestatic 146, 3) := dk_184 0 146 (dk_at dksX7_copy_9 16 rfl rfl)
theorem dX7_copy_230 : decode cX7_copy 230 = .ok (.aload_n 0, 1) := dk_42 (dk_at dksX7_copy_9 19 rfl rfl)
theorem dX7_copy_231 : decode cX7_copy 231 = .ok (.getfield 26, 3) := dk_180 0 26 (dk_at dksX7_copy_9 20 rfl rfl)
theorem dX7_copy_234 : decode cX7_copy 234 = .ok (.iconst 1, 1) := dk_4 (dk_at dksX7_copy_9 23 rfl rfl)
theorem dX7_copy_235 : decode cX7_copy 235 = .ok (.iload_n 1, 1) := dk_27 (dk_at dksX7_copy_10 0 rfl rfl)
theorem dX7_copy_236 : decode cX7_copy 236 = .ok (.iload_n 2, 1) := dk_28 (dk_at dksX7_copy_10 1 rfl rfl)
theorem dX7_copy_237 : decode cX7_copy 237 = .ok (.invokestatic 146, 3) := dk_184 0 146 (dk_at dksX7_copy_10 2 rfl rfl)
theorem dX7_copy_240 : decode cX7_copy 240 = .ok (.aload_n 0, 1) := dk_42 (dk_at dksX7_copy_10 5 rfl rfl)
theorem dX7_copy_241 : decode cX7_copy 241 = .ok (.getfield 29, 3) := dk_180 0 29 (dk_at dksX7_copy_10 6 rfl rfl)
theorem dX7_copy_244 : decode cX7_copy 244 = .ok (.iconst 3, 1) := dk_6 (dk_at dksX7_copy_10 9 rfl rfl)
theorem dX7_copy_245 : decode cX7_copy 245 = .ok (.iload_n 1, 1) := dk_27 (dk_at dksX7_copy_10 10 rfl rfl)
theorem dX7_copy_246 : decode cX7_copy 246 = .ok (.iload_n 2, 1) := dk_28 (dk_at dksX7_copy_10 11 rfl rfl)
theorem dX7_copy_247 : decode cX7_copy 247 = .ok (.invokestatic 146, 3) := dk_184 0 146 (dk_at dksX7_copy_10 12 rfl rfl)
theorem dX7_copy_250 : decode cX7_copy 250 = .ok (.aload_n 0, 1) := dk_42 (dk_at dksX7_copy_10 15 rfl rfl)
theorem dX7_copy_251 : decode cX7_copy 251 = .ok (.getfield 32, 3) := dk_180 0 32 (dk_at dksX7_copy_10 16 rfl rfl)
theorem dX7_copy_254 : decode cX7_copy 254 = .ok (.iconst 1, 1) := dk_4 (dk_at dksX7_copy_10 19 rfl rfl)
theorem dX7_copy_255 : decode cX7_copy 255 = .ok (.iload_n 1, 1) := dk_27 (dk_at dksX7_copy_10 20 rfl rfl)
theorem dX7_copy_256 : decode cX7_copy 256 = .ok (.iload_n 2, 1) := dk_28 (dk_at dksX7_copy_10 21 rfl rfl)
theorem dX7_copy_257 : decode cX7_copy 257 = .ok (.invokestatic 146, 3) := dk_184 0 146 (dk_at dksX7_copy_11 0 rfl rfl)
theorem dX7_copy_260 : decode cX7_copy 260 = .ok (.aload_n 0, 1) := dk_42 (dk_at dksX7_copy_11 3 rfl rfl)
theorem dX7_copy_261 : decode cX7_copy 261 = .ok (.getfield 35, 3) := dk_180 0 35 (dk_at dksX7_copy_11 4 rfl rfl)
theorem dX7_copy_264 : decode cX7_copy 264 = .ok (.iconst 4, 1) := dk_7 (dk_at dksX7_copy_11 7 rfl rfl)
theorem dX7_copy_265 : decode cX7_copy 265 = .ok (.iload_n 1, 1) := dk_27 (dk_at dksX7_copy_11 8 rfl rfl)
theorem dX7_copy_266 : decode cX7_copy 266 = .ok (.iload_n 2, 1) := dk_28 (dk_at dksX7_copy_11 9 rfl rfl)
theorem dX7_copy_267 : decode cX7_copy 267 = .ok (.invokestatic 146, 3) := dk_184 0 146 (dk_at dksX7_copy_11 10 rfl rfl)
theorem dX7_copy_270 : decode cX7_copy 270 = .ok (.aload_n 0, 1) := dk_42 (dk_at dksX7_copy_11 13 rfl rfl)
theorem dX7_copy_271 : decode cX7_copy 271 = .ok (.getfield 38, 3) := dk_180 0 38 (dk_at dksX7_copy_11 14 rfl rfl)
theorem dX7_copy_274 : decode cX7_copy 274 = .ok (.iconst 4, 1) := dk_7 (dk_at dksX7_copy_11 17 rfl rfl)
theorem dX7_copy_275 : decode cX7_copy 275 = .ok (.iload_n 1, 1) := dk_27 (dk_at dksX7_copy_11 18 rfl rfl)
theorem dX7_copy_276 : decode cX7_copy 276 = .ok (.iload_n 2, 1) := dk_28 (dk_at dksX7_copy_11 19 rfl rfl)
theorem dX7_copy_277 : decode cX7_copy 277 = .ok (.invokestatic 146, 3) := dk_184 0 146 (dk_at dksX7_copy_11 20 rfl rfl)
theorem dX7_copy_280 : decode cX7_copy 280 = .ok (.aload_n 0, 1) := dk_42 (dk_at dksX7_copy_11 23 rfl rfl)
theorem dX7_copy_281 : decode cX7_copy 281 = .ok (.getfield 45, 3) := dk_180 0 45 (dk_at dksX7_copy_12 0 rfl rfl)
theorem dX7_copy_284 : decode cX7_copy 284 = .ok (.iconst 1, 1) := dk_4 (dk_at dksX7_copy_12 3 rfl rfl)
theorem dX7_copy_285 : decode cX7_copy 285 = .ok (.iload_n 1, 1) := dk_27 (dk_at dksX7_copy_12 4 rfl rfl)
theorem dX7_copy_286 : decode cX7_copy 286 = .ok (.iload_n 2, 1) := dk_28 (dk_at dksX7_copy_12 5 rfl rfl)
theorem dX7_copy_287 : decode cX7_copy 287 = .ok (.invokestatic 146, 3) := dk_184 0 146 (dk_at dksX7_copy_12 6 rfl rfl)
theorem dX7_copy_290 : decode cX7_copy 290 = .ok (.aload_n 0, 1) := dk_42 (dk_at dksX7_copy_12 9 rfl rfl)
theorem dX7_copy_291 : decode cX7_copy 291 = .ok (.getfield 48, 3) := dk_180 0 48 (dk_at dksX7_copy_12 10 rfl rfl)
theorem dX7_copy_294 : decode cX7_copy 294 = .ok (.bipush 8, 2) := dk_16 8 (dk_at dksX7_copy_12 13 rfl rfl)
theorem dX7_copy_296 : decode cX7_copy 296 = .ok (.iload_n 1, 1) := dk_27 (dk_at dksX7_copy_12 15 rfl rfl)
theorem dX7_copy_297 : decode cX7_copy 297 = .ok (.iload_n 2, 1) := dk_28 (dk_at dksX7_copy_12 16 rfl rfl)
theorem dX7_copy_298 : decode cX7_copy 298 = .ok (.invokestatic 146, 3) := dk_184 0 146 (dk_at dksX7_copy_12 17 rfl rfl)
theorem dX7_copy_301 : decode cX7_copy 301 = .ok (.aload_n 0, 1) := dk_42 (dk_at dksX7_copy_12 20 rfl rfl)
theorem dX7_copy_302 : decode cX7_copy 302 = .ok (.getfield 51, 3) := dk_180 0 51 (dk_at dksX7_copy_12 21 rfl rfl)
theorem dX7_copy_305 : decode cX7_copy 305 = .ok (.bipush 8, 2) := dk_16 8 (dk_at dksX7_copy_13 0 rfl rfl)
theorem dX7_copy_307 : decode cX7_copy 307 = .ok (.iload_n 1, 1) := dk_27 (dk_at dksX7_copy_13 2 rfl rfl)
theorem dX7_copy_308 : decode cX7_copy 308 = .ok (.iload_n 2, 1) := dk_28 (dk_at dksX7_copy_13 3 rfl rfl)
theorem dX7_copy_309 : decode cX7_copy 309 = .ok (.invokestatic 146, 3) := dk_184 0 146 (dk_at dksX7_copy_13 4 rfl rfl)
theorem dX7_copy_312 : decode cX7_copy 312 = .ok (.aload_n 0, 1) := dk_42 (dk_at dksX7_copy_13 7 rfl rfl)
theorem dX7_copy_313 : decode cX7_copy 313 = .ok (.getfield 54, 3) := dk_180 0 54 (dk_at dksX7_copy_13 8 rfl rfl)
theorem dX7_copy_316 : decode cX7_copy 316 = .ok (.bipush 9, 2) := dk_16 9 (dk_at dksX7_copy_13 11 rfl rfl)
theorem dX7_copy_318 : decode cX7_copy 318 = .ok (.iload_n 1, 1) := dk_27 (dk_at dksX7_copy_13 13 rfl rfl)
theorem dX7_copy_319 : decode cX7_copy 319 = .ok (.iload_n 2, 1) := dk_28 (dk_at dksX7_copy_13 14 rfl rfl)
theorem dX7_copy_320 : decode cX7_copy 320 = .ok (.invokestatic 146, 3) := dk_184 0 146 (dk_at dksX7_copy_13 15 rfl rfl)
theorem dX7_copy_323 : decode cX7_copy 323 = .ok (.aload_n 0, 1) := dk_42 (dk_at dksX7_copy_13 18 rfl rfl)
theorem dX7_copy_324 : decode cX7_copy 324 = .ok (.getfield 57, 3) := dk_180 0 57 (dk_at dksX7_copy_13 19 rfl rfl)
theorem dX7_copy_327 : decode cX7_copy 327 = .ok (.sipush 360, 3) := dk_17 1 104 (dk_at dksX7_copy_14 0 rfl rfl)
theorem dX7_copy_330 : decode cX7_copy 330 = .ok (.iload_n 1, 1) := dk_27 (dk_at dksX7_copy_14 3 rfl rfl)
theorem dX7_copy_331 : decode cX7_copy 331 = .ok (.iload_n 2, 1) := dk_28 (dk_at dksX7_copy_14 4 rfl rfl)
theorem dX7_copy_332 : decode cX7_copy 332 = .ok (.invokestatic 146, 3) := dk_184 0 146 (dk_at dksX7_copy_14 5 rfl rfl)
theorem dX7_copy_335 : decode cX7_copy 335 = .ok (.aload_n 0, 1) := dk_42 (dk_at dksX7_copy_14 8 rfl rfl)
theorem dX7_copy_336 : decode cX7_copy 336 = .ok (.getfield 60, 3) := dk_180 0 60 (dk_at dksX7_copy_14 9 rfl rfl)
theorem dX7_copy_339 : decode cX7_copy 339 = .ok (.sipush 360, 3) := dk_17 1 104 (dk_at dksX7_copy_14 12 rfl rfl)
theorem dX7_copy_342 : decode cX7_copy 342 = .ok (.iload_n 1, 1) := dk_27 (dk_at dksX7_copy_14 15 rfl rfl)
theorem dX7_copy_343 : decode cX7_copy 343 = .ok (.iload_n 2, 1) := dk_28 (dk_at dksX7_copy_14 16 rfl rfl)
theorem dX7_copy_344 : decode cX7_copy 344 = .ok (.invokestatic 146, 3) := dk_184 0 146 (dk_at dksX7_copy_14 17 rfl rfl)
theorem dX7_copy_347 : decode cX7_copy 347 = .ok (.aload_n 0, 1) := dk_42 (dk_at dksX7_copy_14 20 rfl rfl)
theorem dX7_copy_348 : decode cX7_copy 348 = .ok (.getfield 63, 3) := dk_180 0 63 (dk_at dksX7_copy_14 21 rfl rfl)
theorem dX7_copy_351 : decode cX7_copy 351 = .ok (.sipush 360, 3) := dk_17 1 104 (dk_at dksX7_copy_15 0 rfl rfl)
theorem dX7_copy_354 : decode cX7_copy 354 = .ok (.iload_n 1, 1) := dk_27 (dk_at dksX7_copy_15 3 rfl rfl)
theorem dX7_copy_355 : decode cX7_copy 355 = .ok (.iload_n 2, 1) := dk_28 (dk_at dksX7_copy_15 4 rfl rfl)
theorem dX7_copy_356 : decode cX7_copy 356 = .ok (.invokestatic 146, 3) := dk_184 0 146 (dk_at dksX7_copy_15 5 rfl rfl)
theorem dX7_copy_359 : decode cX7_copy 359 = .ok (.aload_n 0, 1) := dk_42 (dk_at dksX7_copy_15 8 rfl rfl)
theorem dX7_copy_360 : decode cX7_copy 360 = .ok (.getfield 66, 3) := dk_180 0 66 (dk_at dksX7_copy_15 9 rfl rfl)
theorem dX7_copy_363 : decode cX7_copy 363 = .ok (.sipush 360, 3) := dk_17 1 104 (dk_at dksX7_copy_15 12 rfl rfl)
theorem dX7_copy_366 : decode cX7_copy 366 = .ok (.iload_n 1, 1) := dk_27 (dk_at dksX7_copy_15 15 rfl rfl)
theorem dX7_copy_367 : decode cX7_copy 367 = .ok (.iload_n 2, 1) := dk_28 (dk_at dksX7_copy_15 16 rfl rfl)
theorem dX7_copy_368 : decode cX7_copy 368 = .ok (.invokestatic 146, 3) := dk_184 0 146 (dk_at dksX7_copy_15 17 rfl rfl)
theorem dX7_copy_371 : decode cX7_copy 371 = .ok (.return_, 1) := dk_177 (dk_at dksX7_copy_15 20 rfl rfl)
abbrev cX7_move : ByteArray := prog_33_method_4_code
def yX7_move : MethodName := ⟨RX7, "move", "([IIII)V"⟩
def dkwX7_move_1 : List UInt8 := [79, 132, 4, 1, 167, 255, 231, 177]
abbrev dktX7_move_1 : List UInt8 := dkwX7_move_1 ++ []
def dkwX7_move_0 : List UInt8 := [3, 54, 4, 21, 4, 27, 162, 0, 25, 42, 27, 29, 104, 21, 4, 96, 42, 27, 28, 104, 21, 4, 96, 46]
abbrev dktX7_move_0 : List UInt8 := dkwX7_move_0 ++ dktX7_move_1
theorem dksX7_move_0 : cX7_move.data.toList.drop 0 = dktX7_move_0 := by decide +kernel
theorem dksX7_move_1 : cX7_move.data.toList.drop 24 = dktX7_move_1 := dk_seg dksX7_move_0 24 rfl rfl
theorem dX7_move_0 : decode cX7_move 0 = .ok (.iconst 0, 1) := dk_3 (dk_at dksX7_move_0 0 rfl rfl)
theorem dX7_move_1 : decode cX7_move 1 = .ok (.istore 4, 2) := dk_54 4 (dk_at dksX7_move_0 1 rfl rfl)
theorem dX7_move_3 : decode cX7_move 3 = .ok (.iload 4, 2) := dk_21 4 (dk_at dksX7_move_0 3 rfl rfl)
theorem dX7_move_5 : decode cX7_move 5 = .ok (.iload_n 1, 1) := dk_27 (dk_at dksX7_move_0 5 rfl rfl)
theorem dX7_move_6 : decode cX7_move 6 = .ok (.if_icmp .ge 25, 3) := dk_162 0 25 (dk_at dksX7_move_0 6 rfl rfl)
theorem dX7_move_9 : decode cX7_move 9 = .ok (.aload_n 0, 1) := dk_42 (dk_at dksX7_move_0 9 rfl rfl)
theorem dX7_move_10 : decode cX7_move 10 = .ok (.iload_n 1, 1) := dk_27 (dk_at dksX7_move_0 10 rfl rfl)
theorem dX7_move_11 : decode cX7_move 11 = .ok (.iload_n 3, 1) := dk_29 (dk_at dksX7_move_0 11 rfl rfl)
theorem dX7_move_12 : decode cX7_move 12 = .ok (.imul, 1) := dk_104 (dk_at dksX7_move_0 12 rfl rfl)
theorem dX7_move_13 : decode cX7_move 13 = .ok (.iload 4, 2) := dk_21 4 (dk_at dksX7_move_0 13 rfl rfl)
theorem dX7_move_15 : decode cX7_move 15 = .ok (.iadd, 1) := dk_96 (dk_at dksX7_move_0 15 rfl rfl)
theorem dX7_move_16 : decode cX7_move 16 = .ok (.aload_n 0, 1) := dk_42 (dk_at dksX7_move_0 16 rfl rfl)
theorem dX7_move_17 : decode cX7_move 17 = .ok (.iload_n 1, 1) := dk_27 (dk_at dksX7_move_0 17 rfl rfl)
theorem dX7_move_18 : decode cX7_move 18 = .ok (.iload_n 2, 1) := dk_28 (dk_at dksX7_move_0 18 rfl rfl)
theorem dX7_move_19 : decode cX7_move 19 = .ok (.imul, 1) := dk_104 (dk_at dksX7_move_0 19 rfl rfl)
theorem dX7_move_20 : decode cX7_move 20 = .ok (.iload 4, 2) := dk_21 4 (dk_at dksX7_move_0 20 rfl rfl)
theorem dX7_move_22 : decode cX7_move 22 = .ok (.iadd, 1) := dk_96 (dk_at dksX7_move_0 22 rfl rfl)
theorem dX7_move_23 : decode cX7_move 23 = .ok (.iaload, 1) := dk_46 (dk_at dksX7_move_0 23 rfl rfl)
theorem dX7_move_24 : decode cX7_move 24 = .ok (.iastore, 1) := dk_79 (dk_at dksX7_move_1 0 rfl rfl)
theorem dX7_move_25 : decode cX7_move 25 = .ok (.iinc 4 1, 3) := dk_132 4 1 (dk_at dksX7_move_1 1 rfl rfl)
theorem dX7_move_28 : decode cX7_move 28 = .ok (.goto (-25), 3) := dk_167 255 231 (dk_at dksX7_move_1 4 rfl rfl)
theorem dX7_move_31 : decode cX7_move 31 = .ok (.return_, 1) := dk_177 (dk_at dksX7_move_1 7 rfl rfl)
abbrev cX7_again : ByteArray := prog_33_method_104_code
def yX7_again : MethodName := ⟨RX7, "again", "(I)Z"⟩
def dkwX7_again_1 : List UInt8 := [172, 42, 27, 4, 96, 3, 182, 1, 203, 4, 172]
abbrev dktX7_again_1 : List UInt8 := dkwX7_again_1 ++ []
def dkwX7_again_0 : List UInt8 := [42, 3, 181, 0, 142, 27, 3, 5, 184, 0, 160, 153, 0, 12, 42, 180, 0, 139, 27, 51, 154, 0, 5, 3]
abbrev dktX7_again_0 : List UInt8 := dkwX7_again_0 ++ dktX7_again_1
theorem dksX7_again_0 : cX7_again.data.toList.drop 0 = dktX7_again_0 := by decide +kernel
theorem dksX7_again_1 : cX7_again.data.toList.drop 24 = dktX7_again_1 := dk_seg dksX7_again_0 24 rfl rfl
theorem dX7_again_0 : decode cX7_again 0 = .ok (.aload_n 0, 1) := dk_42 (dk_at dksX7_again_0 0 rfl rfl)
theorem dX7_again_1 : decode cX7_again 1 = .ok (.iconst 0, 1) := dk_3 (dk_at dksX7_again_0 1 rfl rfl)
theorem dX7_again_2 : decode cX7_again 2 = .ok (.putfield 142, 3) := dk_181 0 142 (dk_at dksX7_again_0 2 rfl rfl)
theorem dX7_again_5 : decode cX7_again 5 = .ok (.iload_n 1, 1) := dk_27 (dk_at dksX7_again_0 5 rfl rfl)
theorem dX7_again_6 : decode cX7_again 6 = .ok (.iconst 0, 1) := dk_3 (dk_at dksX7_again_0 6 rfl rfl)
theorem dX7_again_7 : decode cX7_again 7 = .ok (.iconst 2, 1) := dk_5 (dk_at dksX7_again_0 7 rfl rfl)
theorem dX7_again_8 : decode cX7_again 8 = .ok (.invokestatic 160, 3) := dk_184 0 160 (dk_at dksX7_again_0 8 rfl rfl)
theorem dX7_again_11 : decode cX7_again 11 = .ok (.ifCond .eq 12, 3) := dk_153 0 12 (dk_at dksX7_again_0 11 rfl rfl)
theorem dX7_again_14 : decode cX7_again 14 = .ok (.aload_n 0, 1) := dk_42 (dk_at dksX7_again_0 14 rfl rfl)
theorem dX7_again_15 : decode cX7_again 15 = .ok (.getfield 139, 3) := dk_180 0 139 (dk_at dksX7_again_0 15 rfl rfl)
theorem dX7_again_18 : decode cX7_again 18 = .ok (.iload_n 1, 1) := dk_27 (dk_at dksX7_again_0 18 rfl rfl)
theorem dX7_again_19 : decode cX7_again 19 = .ok (.baload, 1) := dk_51 (dk_at dksX7_again_0 19 rfl rfl)
theorem dX7_again_20 : decode cX7_again 20 = .ok (.ifCond .ne 5, 3) := dk_154 0 5 (dk_at dksX7_again_0 20 rfl rfl)
theorem dX7_again_23 : decode cX7_again 23 = .ok (.iconst 0, 1) := dk_3 (dk_at dksX7_again_0 23 rfl rfl)
theorem dX7_again_24 : decode cX7_again 24 = .ok (.ireturn, 1) := dk_172 (dk_at dksX7_again_1 0 rfl rfl)
theorem dX7_again_25 : decode cX7_again 25 = .ok (.aload_n 0, 1) := dk_42 (dk_at dksX7_again_1 1 rfl rfl)
theorem dX7_again_26 : decode cX7_again 26 = .ok (.iload_n 1, 1) := dk_27 (dk_at dksX7_again_1 2 rfl rfl)
theorem dX7_again_27 : decode cX7_again 27 = .ok (.iconst 1, 1) := dk_4 (dk_at dksX7_again_1 3 rfl rfl)
theorem dX7_again_28 : decode cX7_again 28 = .ok (.iadd, 1) := dk_96 (dk_at dksX7_again_1 4 rfl rfl)
theorem dX7_again_29 : decode cX7_again 29 = .ok (.iconst 0, 1) := dk_3 (dk_at dksX7_again_1 5 rfl rfl)
theorem dX7_again_30 : decode cX7_again 30 = .ok (.invokevirtual 459, 3) := dk_182 1 203 (dk_at dksX7_again_1 6 rfl rfl)
theorem dX7_again_33 : decode cX7_again 33 = .ok (.iconst 1, 1) := dk_4 (dk_at dksX7_again_1 9 rfl rfl)
theorem dX7_again_34 : decode cX7_again 34 = .ok (.ireturn, 1) := dk_172 (dk_at dksX7_again_1 10 rfl rfl)

