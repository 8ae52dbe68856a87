set_option maxRecDepth 100000
abbrev cX7_findLeast : ByteArray := prog_33_method_83_code
def yX7_findLeast : MethodName := ⟨RX7, "findLeast", "()Z"⟩
def dkwX7_findLeast_6 : List UInt8 := [167, 255, 203, 132, 3, 1, 167, 255, 143, 132, 2, 1, 167, 255, 130, 132, 1, 1, 167, 255, 116, 3, 172]
abbrev dktX7_findLeast_6 : List UInt8 := dkwX7_findLeast_6 ++ []
def dkwX7_findLeast_5 : List UInt8 := [28, 181, 1, 163, 42, 29, 181, 1, 166, 42, 27, 28, 100, 29, 100, 181, 1, 169, 4, 172, 132, 4, 1]
abbrev dktX7_findLeast_5 : List UInt8 := dkwX7_findLeast_5 ++ dktX7_findLeast_6
def dkwX7_findLeast_4 : List UInt8 := [163, 0, 50, 21, 4, 4, 42, 182, 0, 171, 120, 162, 0, 39, 42, 21, 4, 182, 1, 148, 153, 0, 24, 42]
abbrev dktX7_findLeast_4 : List UInt8 := dkwX7_findLeast_4 ++ dktX7_findLeast_5
def dkwX7_findLeast_3 : List UInt8 := [4, 6, 184, 0, 160, 154, 0, 6, 167, 0, 66, 42, 182, 0, 154, 3, 54, 4, 42, 182, 0, 171, 16, 12]
abbrev dktX7_findLeast_3 : List UInt8 := dkwX7_findLeast_3 ++ dktX7_findLeast_4
def dkwX7_findLeast_2 : List UInt8 := [42, 180, 0, 87, 4, 29, 79, 42, 180, 0, 87, 5, 27, 28, 100, 29, 100, 79, 42, 180, 0, 87, 5, 46]
abbrev dktX7_findLeast_2 : List UInt8 := dkwX7_findLeast_2 ++ dktX7_findLeast_3
def dkwX7_findLeast_1 : List UInt8 := [163, 0, 140, 4, 61, 28, 6, 163, 0, 127, 4, 62, 29, 6, 163, 0, 114, 42, 180, 0, 87, 3, 28, 79]
abbrev dktX7_findLeast_1 : List UInt8 := dkwX7_findLeast_1 ++ dktX7_findLeast_2
def dkwX7_findLeast_0 : List UInt8 := [42, 42, 182, 1, 124, 181, 1, 127, 42, 3, 181, 1, 118, 42, 3, 181, 1, 121, 6, 60, 27, 16, 9]
abbrev dktX7_findLeast_0 : List UInt8 := dkwX7_findLeast_0 ++ dktX7_findLeast_1
theorem dksX7_findLeast_0 : cX7_findLeast.data.toList.drop 0 = dktX7_findLeast_0 := by decide +kernel
theorem dksX7_findLeast_1 : cX7_findLeast.data.toList.drop 23 = dktX7_findLeast_1 := dk_seg dksX7_findLeast_0 23 rfl rfl
theorem dksX7_findLeast_2 : cX7_findLeast.data.toList.drop 47 = dktX7_findLeast_2 := dk_seg dksX7_findLeast_1 24 rfl rfl
theorem dksX7_findLeast_3 : cX7_findLeast.data.toList.drop 71 = dktX7_findLeast_3 := dk_seg dksX7_findLeast_2 24 rfl rfl
theorem dksX7_findLeast_4 : cX7_findLeast.data.toList.drop 95 = dktX7_findLeast_4 := dk_seg dksX7_findLeast_3 24 rfl rfl
theorem dksX7_findLeast_5 : cX7_findLeast.data.toList.drop 119 = dktX7_findLeast_5 := dk_seg dksX7_findLeast_4 24 rfl rfl
theorem dksX7_findLeast_6 : cX7_findLeast.data.toList.drop 142 = dktX7_findLeast_6 := dk_seg dksX7_findLeast_5 23 rfl rfl
theorem dX7_findLeast_0 : decode cX7_findLeast 0 = .ok (.aload_n 0, 1) := dk_42 (dk_at dksX7_findLeast_0 0 rfl rfl)
theorem dX7_findLeast_1 : decode cX7_findLeast 1 = .ok (.aload_n 0, 1) := dk_42 (dk_at dksX7_findLeast_0 1 rfl rfl)
theorem dX7_findLeast_2 : decode cX7_findLeast 2 = .ok (.invokevirtual 380, 3) := dk_182 1 124 (dk_at dksX7_findLeast_0 2 rfl rfl)
theorem dX7_findLeast_5 : decode cX7_findLeast 5 = .ok (.putfield 383, 3) := dk_181 1 127 (dk_at dksX7_findLeast_0 5 rfl rfl)
theorem dX7_findLeast_8 : decode cX7_findLeast 8 = .ok (.aload_n 0, 1) := dk_42 (dk_at dksX7_findLeast_0 8 rfl rfl)
theorem dX7_findLeast_9 : decode cX7_findLeast 9 = .ok (.iconst 0, 1) := dk_3 (dk_at dksX7_findLeast_0 9 rfl rfl)
theorem dX7_findLeast_10 : decode cX7_findLeast 10 = .ok (.putfield 374, 3) := dk_181 1 118 (dk_at dksX7_findLeast_0 10 rfl rfl)
theorem dX7_findLeast_13 : decode cX7_findLeast 13 = .ok (.aload_n 0, 1) := dk_42 (dk_at dksX7_findLeast_0 13 rfl rfl)
theorem dX7_findLeast_14 : decode cX7_findLeast 14 = .ok (.iconst 0, 1) := dk_3 (dk_at dksX7_findLeast_0 14 rfl rfl)
theorem dX7_findLeast_15 : decode cX7_findLeast 15 = .ok (.putfield 377, 3) := dk_181 1 121 (dk_at dksX7_findLeast_0 15 rfl rfl)
theorem dX7_findLeast_18 : decode cX7_findLeast 18 = .ok (.iconst 3, 1) := dk_6 (dk_at dksX7_findLeast_0 18 rfl rfl)
theorem dX7_findLeast_19 : decode cX7_findLeast 19 = .ok (.istore_n 1, 1) := dk_60 (dk_at dksX7_findLeast_0 19 rfl rfl)
theorem dX7_findLeast_20 : decode cX7_findLeast 20 = .ok (.iload_n 1, 1) := dk_27 (dk_at dksX7_findLeast_0 20 rfl rfl)
theorem dX7_findLeast_21 : decode cX7_findLeast 21 = .ok (.bipush 9, 2) := dk_16 9 (dk_at dksX7_findLeast_0 21 rfl rfl)
theorem dX7_findLeast_23 : decode cX7_findLeast 23 = .ok (.if_icmp .gt 140, 3) := dk_163 0 140 (dk_at dksX7_findLeast_1 0 rfl rfl)
theorem dX7_findLeast_26 : decode cX7_findLeast 26 = .ok (.iconst 1, 1) := dk_4 (dk_at dksX7_findLeast_1 3 rfl rfl)
theorem dX7_findLeast_27 : decode cX7_findLeast 27 = .ok (.istore_n 2, 1) := dk_61 (dk_at dksX7_findLeast_1 4 rfl rfl)
theorem dX7_findLeast_28 : decode cX7_findLeast 28 = .ok (.iload_n 2, 1) := dk_28 (dk_at dksX7_findLeast_1 5 rfl rfl)
theorem dX7_findLeast_29 : decode cX7_findLeast 29 = .ok (.iconst 3, 1) := dk_6 (dk_at dksX7_findLeast_1 6 rfl rfl)
theorem dX7_findLeast_30 : decode cX7_findLeast 30 = .ok (.if_icmp .gt 127, 3) := dk_163 0 127 (dk_at dksX7_findLeast_1 7 rfl rfl)
theorem dX7_findLeast_33 : decode cX7_findLeast 33 = .ok (.iconst 1, 1) := dk_4 (dk_at dksX7_findLeast_1 10 rfl rfl)
theorem dX7_findLeast_34 : decode cX7_findLeast 34 = .ok (.istore_n 3, 1) := dk_62 (dk_at dksX7_findLeast_1 11 rfl rfl)
theorem dX7_findLeast_35 : decode cX7_findLeast 35 = .ok (.iload_n 3, 1) := dk_29 (dk_at dksX7_findLeast_1 12 rfl rfl)
theorem dX7_findLeast_36 : decode cX7_findLeast 36 = .ok (.iconst 3, 1) := dk_6 (dk_at dksX7_findLeast_1 13 rfl rfl)
theorem dX7_findLeast_37 : decode cX7_findLeast 37 = .ok (.if_icmp .gt 114, 3) := dk_163 0 114 (dk_at dksX7_findLeast_1 14 rfl rfl)
theorem dX7_findLeast_40 : decode cX7_findLeast 40 = .ok (.aload_n 0, 1) := dk_42 (dk_at dksX7_findLeast_1 17 rfl rfl)
theorem dX7_findLeast_41 : decode cX7_findLeast 41 = .ok (.getfield 87, 3) := dk_180 0 87 (dk_at dksX7_findLeast_1 18 rfl rfl)
theorem dX7_findLeast_44 : decode cX7_findLeast 44 = .ok (.iconst 0, 1) := dk_3 (dk_at dksX7_findLeast_1 21 rfl rfl)
theorem dX7_findLeast_45 : decode cX7_findLeast 45 = .ok (.iload_n 2, 1) := dk_28 (dk_at dksX7_findLeast_1 22 rfl rfl)
theorem dX7_findLeast_46 : decode cX7_findLeast 46 = .ok (.iastore, 1) := dk_79 (dk_at dksX7_findLeast_1 23 rfl rfl)
theorem dX7_findLeast_47 : decode cX7_findLeast 47 = .ok (.aload_n 0, 1) := dk_42 (dk_at dksX7_findLeast_2 0 rfl rfl)
theorem dX7_findLeast_48 : decode cX7_findLeast 48 = .ok (.getfield 87, 3) := dk_180 0 87 (dk_at dksX7_findLeast_2 1 rfl rfl)
theorem dX7_findLeast_51 : decode cX7_findLeast 51 = .ok (.iconst 1, 1) := dk_4 (dk_at dksX7_findLeast_2 4 rfl rfl)
theorem dX7_findLeast_52 : decode cX7_findLeast 52 = .ok (.iload_n 3, 1) := dk_29 (dk_at dksX7_findLeast_2 5 rfl rfl)
theorem dX7_findLeast_53 : decode cX7_findLeast 53 = .ok (.iastore, 1) := dk_79 (dk_at dksX7_findLeast_2 6 rfl rfl)
theorem dX7_findLeast_54 : decode cX7_findLeast 54 = .ok (.aload_n 0, 1) := dk_42 (dk_at dksX7_findLeast_2 7 rfl rfl)
theorem dX7_findLeast_55 : decode cX7_findLeast 55 = .ok (.getfield 87, 3) := dk_180 0 87 (dk_at dksX7_findLeast_2 8 rfl rfl)
theorem dX7_findLeast_58 : decode cX7_findLeast 58 = .ok (.iconst 2, 1) := dk_5 (dk_at dksX7_findLeast_2 11 rfl rfl)
theorem dX7_findLeast_59 : decode cX7_findLeast 59 = .ok (.iload_n 1, 1) := dk_27 (dk_at dksX7_findLeast_2 12 rfl rfl)
theorem dX7_findLeast_60 : decode cX7_findLeast 60 = .ok (.iload_n 2, 1) := dk_28 (dk_at dksX7_findLeast_2 13 rfl rfl)
theorem dX7_findLeast_61 : decode cX7_findLeast 61 = .ok (.isub, 1) := dk_100 (dk_at dksX7_findLeast_2 14 rfl rfl)
theorem dX7_findLeast_62 : decode cX7_findLeast 62 = .ok (.iload_n 3, 1) := dk_29 (dk_at dksX7_findLeast_2 15 rfl rfl)
theorem dX7_findLeast_63 : decode cX7_findLeast 63 = .ok (.isub, 1) := dk_100 (dk_at dksX7_findLeast_2 16 rfl rfl)
theorem dX7_findLeast_64 : decode cX7_findLeast 64 = .ok (.iastore, 1) := dk_79 (dk_at dksX7_findLeast_2 17 rfl rfl)
theorem dX7_findLeast_65 : decode cX7_findLeast 65 = .ok (.aload_n 0, 1) := dk_42 (dk_at dksX7_findLeast_2 18 rfl rfl)
theorem dX7_findLeast_66 : decode cX7_findLeast 66 = .ok (.getfield 87, 3) := dk_180 0 87 (dk_at dksX7_findLeast_2 19 rfl rfl)
theorem dX7_findLeast_69 : decode cX7_findLeast 69 = .ok (.iconst 2, 1) := dk_5 (dk_at dksX7_findLeast_2 22 rfl rfl)
theorem dX7_findLeast_70 : decode cX7_findLeast 70 = .ok (.iaload, 1) := dk_46 (dk_at dksX7_findLeast_2 23 rfl rfl)
theorem dX7_findLeast_71 : decode cX7_findLeast 71 = .ok (.iconst 1, 1) := dk_4 (dk_at dksX7_findLeast_3 0 rfl rfl)
theorem dX7_findLeast_72 : decode cX7_findLeast 72 = .ok (.iconst 3, 1) := dk_6 (dk_at dksX7_findLeast_3 1 rfl rfl)
theorem dX7_findLeast_73 : decode cX7_findLeast 73 = .ok (.invokestatic 160, 3) := dk_184 0 160 (dk_at dksX7_findLeast_3 2 rfl rfl)
theorem dX7_findLeast_76 : decode cX7_findLeast 76 = .ok (.ifCond .ne 6, 3) := dk_154 0 6 (dk_at dksX7_findLeast_3 5 rfl rfl)
theorem dX7_findLeast_79 : decode cX7_findLeast 79 = .ok (.goto 66, 3) := dk_167 0 66 (dk_at dksX7_findLeast_3 8 rfl rfl)
theorem dX7_findLeast_82 : decode cX7_findLeast 82 = .ok (.aload_n 0, 1) := dk_42 (dk_at dksX7_findLeast_3 11 rfl rfl)
theorem dX7_findLeast_83 : decode cX7_findLeast 83 = .ok (.invokevirtual 154, 3) := dk_182 0 154 (dk_at dksX7_findLeast_3 12 rfl rfl)
theorem dX7_findLeast_86 : decode cX7_findLeast 86 = .ok (.iconst 0, 1) := dk_3 (dk_at dksX7_findLeast_3 15 rfl rfl)
theorem dX7_findLeast_87 : decode cX7_findLeast 87 = .ok (.istore 4, 2) := dk_54 4 (dk_at dksX7_findLeast_3 16 rfl rfl)
theorem dX7_findLeast_89 : decode cX7_findLeast 89 = .ok (.aload_n 0, 1) := dk_42 (dk_at dksX7_findLeast_3 18 rfl rfl)
theorem dX7_findLeast_90 : decode cX7_findLeast 90 = .ok (.invokevirtual 171, 3) := dk_182 0 171 (dk_at dksX7_findLeast_3 19 rfl rfl)
theorem dX7_findLeast_93 : decode cX7_findLeast 93 = .ok (.bipush 12, 2) := dk_16 12 (dk_at dksX7_findLeast_3 22 rfl rfl)
theorem dX7_findLeast_95 : decode cX7_findLeast 95 = .ok (.if_icmp .gt 50, 3) := dk_163 0 50 (dk_at dksX7_findLeast_4 0 rfl rfl)
theorem dX7_findLeast_98 : decode cX7_findLeast 98 = .ok (.iload 4, 2) := dk_21 4 (dk_at dksX7_findLeast_4 3 rfl rfl)
theorem dX7_findLeast_100 : decode cX7_findLeast 100 = .ok (.iconst 1, 1) := dk_4 (dk_at dksX7_findLeast_4 5 rfl rfl)
theorem dX7_findLeast_101 : decode cX7_findLeast 101 = .ok (.aload_n 0, 1) := dk_42 (dk_at dksX7_findLeast_4 6 rfl rfl)
theorem dX7_findLeast_102 : decode cX7_findLeast 102 = .ok (.invokevirtual 171, 3) := dk_182 0 171 (dk_at dksX7_findLeast_4 7 rfl rfl)
theorem dX7_findLeast_105 : decode cX7_findLeast 105 = .ok (.ishl, 1) := dk_120 (dk_at dksX7_findLeast_4 10 rfl rfl)
theorem dX7_findLeast_106 : decode cX7_findLeast 106 = .ok (.if_icmp .ge 39, 3) := dk_162 0 39 (dk_at dksX7_findLeast_4 11 rfl rfl)
theorem dX7_findLeast_109 : decode cX7_findLeast 109 = .ok (.aload_n 0, 1) := dk_42 (dk_at dksX7_findLeast_4 14 rfl rfl)
theorem dX7_findLeast_110 : decode cX7_findLeast 110 = .ok (.iload 4, 2) := dk_21 4 (dk_at dksX7_findLeast_4 15 rfl rfl)
theorem dX7_findLeast_112 : decode cX7_findLeast 112 = .ok (.invokevirtual 404, 3) := dk_182 1 148 (dk_at dksX7_findLeast_4 17 rfl rfl)
theorem dX7_findLeast_115 : decode cX7_findLeast 115 = .ok (.ifCond .eq 24, 3) := dk_153 0 24 (dk_at dksX7_findLeast_4 20 rfl rfl)
theorem dX7_findLeast_118 : decode cX7_findLeast 118 = .ok (.aload_n 0, 1) := dk_42 (dk_at dksX7_findLeast_4 23 rfl rfl)
theorem dX7_findLeast_119 : decode cX7_findLeast 119 = .ok (.iload_n 2, 1) := dk_28 (dk_at dksX7_findLeast_5 0 rfl rfl)
theorem dX7_findLeast_120 : decode cX7_findLeast 120 = .ok (.putfield 419, 3) := dk_181 1 163 (dk_at dksX7_findLeast_5 1 rfl rfl)
theorem dX7_findLeast_123 : decode cX7_findLeast 123 = .ok (.aload_n 0, 1) := dk_42 (dk_at dksX7_findLeast_5 4 rfl rfl)
theorem dX7_findLeast_124 : decode cX7_findLeast 124 = .ok (.iload_n 3, 1) := dk_29 (dk_at dksX7_findLeast_5 5 rfl rfl)
theorem dX7_findLeast_125 : decode cX7_findLeast 125 = .ok (.putfield 422, 3) := dk_181 1 166 (dk_at dksX7_findLeast_5 6 rfl rfl)
theorem dX7_findLeast_128 : decode cX7_findLeast 128 = .ok (.aload_n 0, 1) := dk_42 (dk_at dksX7_findLeast_5 9 rfl rfl)
theorem dX7_findLeast_129 : decode cX7_findLeast 129 = .ok (.iload_n 1, 1) := dk_27 (dk_at dksX7_findLeast_5 10 rfl rfl)
theorem dX7_findLeast_130 : decode cX7_findLeast 130 = .ok (.iload_n 2, 1) := dk_28 (dk_at dksX7_findLeast_5 11 rfl rfl)
theorem dX7_findLeast_131 : decode cX7_findLeast 131 = .ok (.isub, 1) := dk_100 (dk_at dksX7_findLeast_5 12 rfl rfl)
theorem dX7_findLeast_132 : decode cX7_findLeast 132 = .ok (.iload_n 3, 1) := dk_29 (dk_at dksX7_findLeast_5 13 rfl rfl)
theorem dX7_findLeast_133 : decode cX7_findLeast 133 = .ok (.isub, 1) := dk_100 (dk_at dksX7_findLeast_5 14 rfl rfl)
theorem dX7_findLeast_134 : decode cX7_findLeast 134 = .ok (.putfield 425, 3) := dk_181 1 169 (dk_at dksX7_findLeast_5 15 rfl rfl)
theorem dX7_findLeast_137 : decode cX7_findLeast 137 = .ok (.iconst 1, 1) := dk_4 (dk_at dksX7_findLeast_5 18 rfl rfl)
theorem dX7_findLeast_138 : decode cX7_findLeast 138 = .ok (.ireturn, 1) := dk_172 (dk_at dksX7_findLeast_5 19 rfl rfl)
theorem dX7_findLeast_139 : decode cX7_findLeast 139 = .ok (.iinc 4 1, 3) := dk_132 4 1 (dk_at dksX7_findLeast_5 20 rfl rfl)
theorem dX7_findLeast_142 : decode cX7_findLeast 142 = .ok (.goto (-53), 3) := dk_167 255 203 (dk_at dksX7_findLeast_6 0 rfl rfl)
theorem dX7_findLeast_145 : decode cX7_findLeast 145 = .ok (.iinc 3 1, 3) := dk_132 3 1 (dk_at dksX7_findLeast_6 3 rfl rfl)
theorem dX7_findLeast_148 : decode cX7_findLeast 148 = .ok (.goto (-113), 3) := dk_167 255 143 (dk_at dksX7_findLeast_6 6 rfl rfl)
theorem dX7_findLeast_151 : decode cX7_findLeast 151 = .ok (.iinc 2 1, 3) := dk_132 2 1 (dk_at dksX7_findLeast_6 9 rfl rfl)
theorem dX7_findLeast_154 : decode cX7_findLeast 154 = .ok (.goto (-126), 3) := dk_167 255 130 (dk_at dksX7_findLeast_6 12 rfl rfl)
theorem dX7_findLeast_157 : decode cX7_findLeast 157 = .ok (.iinc 1 1, 3) := dk_132 1 1 (dk_at dksX7_findLeast_6 15 rfl rfl)
theorem dX7_findLeast_160 : decode cX7_findLeast 160 = .ok (.goto (-140), 3) := dk_167 255 116 (dk_at dksX7_findLeast_6 18 rfl rfl)
theorem dX7_findLeast_163 : decode cX7_findLeast 163 = .ok (.iconst 0, 1) := dk_3 (dk_at dksX7_findLeast_6 21 rfl rfl)
theorem dX7_findLeast_164 : decode cX7_findLeast 164 = .ok (.ireturn, 1) := dk_172 (dk_at dksX7_findLeast_6 22 rfl rfl)
abbrev cX7_core : ByteArray := prog_33_method_89_code
def yX7_core : MethodName := ⟨RX7, "core", "(I)I"⟩
def dkwX7_core_1 : List UInt8 := [61, 28, 27, 184, 1, 188, 172]
abbrev dktX7_core_1 : List UInt8 := dkwX7_core_1 ++ []
def dkwX7_core_0 : List UInt8 := [42, 3, 181, 0, 142, 42, 182, 0, 182, 154, 0, 5, 2, 172, 42, 2, 3, 182, 1, 181, 42, 182, 1, 185]
abbrev dktX7_core_0 : List UInt8 := dkwX7_core_0 ++ dktX7_core_1
theorem dksX7_core_0 : cX7_core.data.toList.drop 0 = dktX7_core_0 := by decide +kernel
theorem dksX7_core_1 : cX7_core.data.toList.drop 24 = dktX7_core_1 := dk_seg dksX7_core_0 24 rfl rfl
theorem dX7_core_0 : decode cX7_core 0 = .ok (.aload_n 0, 1) := dk_42 (dk_at dksX7_core_0 0 rfl rfl)
theorem dX7_core_1 : decode cX7_core 1 = .ok (.iconst 0, 1) := dk_3 (dk_at dksX7_core_0 1 rfl rfl)
theorem dX7_core_2 : decode cX7_core 2 = .ok (.putfield 142, 3) := dk_181 0 142 (dk_at dksX7_core_0 2 rfl rfl)
theorem dX7_core_5 : decode cX7_core 5 = .ok (.aload_n 0, 1) := dk_42 (dk_at dksX7_core_0 5 rfl rfl)
theorem dX7_core_6 : decode cX7_core 6 = .ok (.invokevirtual 182, 3) := dk_182 0 182 (dk_at dksX7_core_0 6 rfl rfl)
theorem dX7_core_9 : decode cX7_core 9 = .ok (.ifCond .ne 5, 3) := dk_154 0 5 (dk_at dksX7_core_0 9 rfl rfl)
theorem dX7_core_12 : decode cX7_core 12 = .ok (.iconst (-1), 1) := dk_2 (dk_at dksX7_core_0 12 rfl rfl)
theorem dX7_core_13 : decode cX7_core 13 = .ok (.ireturn, 1) := dk_172 (dk_at dksX7_core_0 13 rfl rfl)
theorem dX7_core_14 : decode cX7_core 14 = .ok (.aload_n 0, 1) := dk_42 (dk_at dksX7_core_0 14 rfl rfl)
theorem dX7_core_15 : decode cX7_core 15 = .ok (.iconst (-1), 1) := dk_2 (dk_at dksX7_core_0 15 rfl rfl)
theorem dX7_core_16 : decode cX7_core 16 = .ok (.iconst 0, 1) := dk_3 (dk_at dksX7_core_0 16 rfl rfl)
theorem dX7_core_17 : decode cX7_core 17 = .ok (.invokevirtual 437, 3) := dk_182 1 181 (dk_at dksX7_core_0 17 rfl rfl)
theorem dX7_core_20 : decode cX7_core 20 = .ok (.aload_n 0, 1) := dk_42 (dk_at dksX7_core_0 20 rfl rfl)
theorem dX7_core_21 : decode cX7_core 21 = .ok (.invokevirtual 441, 3) := dk_182 1 185 (dk_at dksX7_core_0 21 rfl rfl)
theorem dX7_core_24 : decode cX7_core 24 = .ok (.istore_n 2, 1) := dk_61 (dk_at dksX7_core_1 0 rfl rfl)
theorem dX7_core_25 : decode cX7_core 25 = .ok (.iload_n 2, 1) := dk_28 (dk_at dksX7_core_1 1 rfl rfl)
theorem dX7_core_26 : decode cX7_core 26 = .ok (.iload_n 1, 1) := dk_27 (dk_at dksX7_core_1 2 rfl rfl)
theorem dX7_core_27 : decode cX7_core 27 = .ok (.invokestatic 444, 3) := dk_184 1 188 (dk_at dksX7_core_1 3 rfl rfl)
theorem dX7_core_30 : decode cX7_core 30 = .ok (.ireturn, 1) := dk_172 (dk_at dksX7_core_1 6 rfl rfl)
abbrev cX7_findTogether : ByteArray := prog_33_method_85_code
def yX7_findTogether : MethodName := ⟨RX7, "findTogether", "(IZ)V"⟩
def dkwX7_findTogether_6 : List UInt8 := [132, 4, 1, 167, 255, 147, 177]
abbrev dktX7_findTogether_6 : List UInt8 := dkwX7_findTogether_6 ++ []
def dkwX7_findTogether_5 : List UInt8 := [21, 6, 120, 167, 0, 4, 3, 128, 54, 5, 132, 6, 1, 167, 255, 211, 42, 180, 0, 120, 21, 5, 4, 84]
abbrev dktX7_findTogether_5 : List UInt8 := dkwX7_findTogether_5 ++ dktX7_findTogether_6
def dkwX7_findTogether_4 : List UInt8 := [162, 0, 40, 21, 5, 29, 21, 6, 122, 4, 126, 153, 0, 19, 42, 21, 6, 182, 1, 115, 153, 0, 10, 4]
abbrev dktX7_findTogether_4 : List UInt8 := dkwX7_findTogether_4 ++ dktX7_findTogether_5
def dkwX7_findTogether_3 : List UInt8 := [27, 51, 28, 160, 0, 6, 167, 0, 65, 3, 54, 5, 3, 54, 6, 21, 6, 42, 180, 0, 45, 3, 46]
abbrev dktX7_findTogether_3 : List UInt8 := dkwX7_findTogether_3 ++ dktX7_findTogether_4
def dkwX7_findTogether_2 : List UInt8 := [42, 21, 4, 182, 1, 136, 42, 21, 4, 182, 1, 133, 153, 0, 83, 27, 2, 159, 0, 16, 42, 180, 0, 93]
abbrev dktX7_findTogether_2 : List UInt8 := dkwX7_findTogether_2 ++ dktX7_findTogether_3
def dkwX7_findTogether_1 : List UInt8 := [132, 4, 1, 167, 255, 237, 42, 182, 1, 130, 3, 54, 4, 21, 4, 4, 42, 182, 0, 171, 120, 162, 0, 104]
abbrev dktX7_findTogether_1 : List UInt8 := dkwX7_findTogether_1 ++ dktX7_findTogether_2
def dkwX7_findTogether_0 : List UInt8 := [42, 182, 1, 124, 62, 3, 54, 4, 21, 4, 17, 1, 0, 162, 0, 17, 42, 180, 0, 120, 21, 4, 3, 84]
abbrev dktX7_findTogether_0 : List UInt8 := dkwX7_findTogether_0 ++ dktX7_findTogether_1
theorem dksX7_findTogether_0 : cX7_findTogether.data.toList.drop 0 = dktX7_findTogether_0 := by decide +kernel
theorem dksX7_findTogether_1 : cX7_findTogether.data.toList.drop 24 = dktX7_findTogether_1 := dk_seg dksX7_findTogether_0 24 rfl rfl
theorem dksX7_findTogether_2 : cX7_findTogether.data.toList.drop 48 = dktX7_findTogether_2 := dk_seg dksX7_findTogether_1 24 rfl rfl
theorem dksX7_findTogether_3 : cX7_findTogether.data.toList.drop 72 = dktX7_findTogether_3 := dk_seg dksX7_findTogether_2 24 rfl rfl
theorem dksX7_findTogether_4 : cX7_findTogether.data.toList.drop 95 = dktX7_findTogether_4 := dk_seg dksX7_findTogether_3 23 rfl rfl
theorem dksX7_findTogether_5 : cX7_findTogether.data.toList.drop 119 = dktX7_findTogether_5 := dk_seg dksX7_findTogether_4 24 rfl rfl
theorem dksX7_findTogether_6 : cX7_findTogether.data.toList.drop 143 = dktX7_findTogether_6 := dk_seg dksX7_findTogether_5 24 rfl rfl
theorem dX7_findTogether_0 : decode cX7_findTogether 0 = .ok (.aload_n 0, 1) := dk_42 (dk_at dksX7_findTogether_0 0 rfl rfl)
theorem dX7_findTogether_1 : decode cX7_findTogether 1 = .ok (.invokevirtual 380, 3) := dk_182 1 124 (dk_at dksX7_findTogether_0 1 rfl rfl)
theorem dX7_findTogether_4 : decode cX7_findTogether 4 = .ok (.istore_n 3, 1) := dk_62 (dk_at dksX7_findTogether_0 4 rfl rfl)
theorem dX7_findTogether_5 : decode cX7_findTogether 5 = .ok (.iconst 0, 1) := dk_3 (dk_at dksX7_findTogether_0 5 rfl rfl)
theorem dX7_findTogether_6 : decode cX7_findTogether 6 = .ok (.istore 4, 2) := dk_54 4 (dk_at dksX7_findTogether_0 6 rfl rfl)
theorem dX7_findTogether_8 : decode cX7_findTogether 8 = .ok (.iload 4, 2) := dk_21 4 (dk_at dksX7_findTogether_0 8 rfl rfl)
theorem dX7_findTogether_10 : decode cX7_findTogether 10 = .ok (.sipush 256, 3) := dk_17 1 0 (dk_at dksX7_findTogether_0 10 rfl rfl)
theorem dX7_findTogether_13 : decode cX7_findTogether 13 = .ok (.if_icmp .ge 17, 3) := dk_162 0 17 (dk_at dksX7_findTogether_0 13 rfl rfl)
theorem dX7_findTogether_16 : decode cX7_findTogether 16 = .ok (.aload_n 0, 1) := dk_42 (dk_at dksX7_findTogether_0 16 rfl rfl)
theorem dX7_findTogether_17 : decode cX7_findTogether 17 = .ok (.getfield 120, 3) := dk_180 0 120 (dk_at dksX7_findTogether_0 17 rfl rfl)
theorem dX7_findTogether_20 : decode cX7_findTogether 20 = .ok (.iload 4, 2) := dk_21 4 (dk_at dksX7_findTogether_0 20 rfl rfl)
theorem dX7_findTogether_22 : decode cX7_findTogether 22 = .ok (.iconst 0, 1) := dk_3 (dk_at dksX7_findTogether_0 22 rfl rfl)
theorem dX7_findTogether_23 : decode cX7_findTogether 23 = .ok (.bastore, 1) := dk_84 (dk_at dksX7_findTogether_0 23 rfl rfl)
theorem dX7_findTogether_24 : decode cX7_findTogether 24 = .ok (.iinc 4 1, 3) := dk_132 4 1 (dk_at dksX7_findTogether_1 0 rfl rfl)
theorem dX7_findTogether_27 : decode cX7_findTogether 27 = .ok (.goto (-19), 3) := dk_167 255 237 (dk_at dksX7_findTogether_1 3 rfl rfl)
theorem dX7_findTogether_30 : decode cX7_findTogether 30 = .ok (.aload_n 0, 1) := dk_42 (dk_at dksX7_findTogether_1 6 rfl rfl)
theorem dX7_findTogether_31 : decode cX7_findTogether 31 = .ok (.invokevirtual 386, 3) := dk_182 1 130 (dk_at dksX7_findTogether_1 7 rfl rfl)
theorem dX7_findTogether_34 : decode cX7_findTogether 34 = .ok (.iconst 0, 1) := dk_3 (dk_at dksX7_findTogether_1 10 rfl rfl)
theorem dX7_findTogether_35 : decode cX7_findTogether 35 = .ok (.istore 4, 2) := dk_54 4 (dk_at dksX7_findTogether_1 11 rfl rfl)
theorem dX7_findTogether_37 : decode cX7_findTogether 37 = .ok (.iload 4, 2) := dk_21 4 (dk_at dksX7_findTogether_1 13 rfl rfl)
theorem dX7_findTogether_39 : decode cX7_findTogether 39 = .ok (.iconst 1, 1) := dk_4 (dk_at dksX7_findTogether_1 15 rfl rfl)
theorem dX7_findTogether_40 : decode cX7_findTogether 40 = .ok (.aload_n 0, 1) := dk_42 (dk_at dksX7_findTogether_1 16 rfl rfl)
theorem dX7_findTogether_41 : decode cX7_findTogether 41 = .ok (.invokevirtual 171, 3) := dk_182 0 171 (dk_at dksX7_findTogether_1 17 rfl rfl)
theorem dX7_findTogether_44 : decode cX7_findTogether 44 = .ok (.ishl, 1) := dk_120 (dk_at dksX7_findTogether_1 20 rfl rfl)
theorem dX7_findTogether_45 : decode cX7_findTogether 45 = .ok (.if_icmp .ge 104, 3) := dk_162 0 104 (dk_at dksX7_findTogether_1 21 rfl rfl)
theorem dX7_findTogether_48 : decode cX7_findTogether 48 = .ok (.aload_n 0, 1) := dk_42 (dk_at dksX7_findTogether_2 0 rfl rfl)
theorem dX7_findTogether_49 : decode cX7_findTogether 49 = .ok (.iload 4, 2) := dk_21 4 (dk_at dksX7_findTogether_2 1 rfl rfl)
theorem dX7_findTogether_51 : decode cX7_findTogether 51 = .ok (.invokevirtual 392, 3) := dk_182 1 136 (dk_at dksX7_findTogether_2 3 rfl rfl)
theorem dX7_findTogether_54 : decode cX7_findTogether 54 = .ok (.aload_n 0, 1) := dk_42 (dk_at dksX7_findTogether_2 6 rfl rfl)
theorem dX7_findTogether_55 : decode cX7_findTogether 55 = .ok (.iload 4, 2) := dk_21 4 (dk_at dksX7_findTogether_2 7 rfl rfl)
theorem dX7_findTogether_57 : decode cX7_findTogether 57 = .ok (.invokevirtual 389, 3) := dk_182 1 133 (dk_at dksX7_findTogether_2 9 rfl rfl)
theorem dX7_findTogether_60 : decode cX7_findTogether 60 = .ok (.ifCond .eq 83, 3) := dk_153 0 83 (dk_at dksX7_findTogether_2 12 rfl rfl)
theorem dX7_findTogether_63 : decode cX7_findTogether 63 = .ok (.iload_n 1, 1) := dk_27 (dk_at dksX7_findTogether_2 15 rfl rfl)
theorem dX7_findTogether_64 : decode cX7_findTogether 64 = .ok (.iconst (-1), 1) := dk_2 (dk_at dksX7_findTogether_2 16 rfl rfl)
theorem dX7_findTogether_65 : decode cX7_findTogether 65 = .ok (.if_icmp .eq 16, 3) := dk_159 0 16 (dk_at dksX7_findTogether_2 17 rfl rfl)
theorem dX7_findTogether_68 : decode cX7_findTogether 68 = .ok (.aload_n 0, 1) := dk_42 (dk_at dksX7_findTogether_2 20 rfl rfl)
theorem dX7_findTogether_69 : decode cX7_findTogether 69 = .ok (.getfield 93, 3) := dk_180 0 93 (dk_at dksX7_findTogether_2 21 rfl rfl)
theorem dX7_findTogether_72 : decode cX7_findTogether 72 = .ok (.iload_n 1, 1) := dk_27 (dk_at dksX7_findTogether_3 0 rfl rfl)
theorem dX7_findTogether_73 : decode cX7_findTogether 73 = .ok (.baload, 1) := dk_51 (dk_at dksX7_findTogether_3 1 rfl rfl)
theorem dX7_findTogether_74 : decode cX7_findTogether 74 = .ok (.iload_n 2, 1) := dk_28 (dk_at dksX7_findTogether_3 2 rfl rfl)
theorem dX7_findTogether_75 : decode cX7_findTogether 75 = .ok (.if_icmp .ne 6, 3) := dk_160 0 6 (dk_at dksX7_findTogether_3 3 rfl rfl)
theorem dX7_findTogether_78 : decode cX7_findTogether 78 = .ok (.goto 65, 3) := dk_167 0 65 (dk_at dksX7_findTogether_3 6 rfl rfl)
theorem dX7_findTogether_81 : decode cX7_findTogether 81 = .ok (.iconst 0, 1) := dk_3 (dk_at dksX7_findTogether_3 9 rfl rfl)
theorem dX7_findTogether_82 : decode cX7_findTogether 82 = .ok (.istore 5, 2) := dk_54 5 (dk_at dksX7_findTogether_3 10 rfl rfl)
theorem dX7_findTogether_84 : decode cX7_findTogether 84 = .ok (.iconst 0, 1) := dk_3 (dk_at dksX7_findTogether_3 12 rfl rfl)
theorem dX7_findTogether_85 : decode cX7_findTogether 85 = .ok (.istore 6, 2) := dk_54 6 (dk_at dksX7_findTogether_3 13 rfl rfl)
theorem dX7_findTogether_87 : decode cX7_findTogether 87 = .ok (.iload 6, 2) := dk_21 6 (dk_at dksX7_findTogether_3 15 rfl rfl)
theorem dX7_findTogether_89 : decode cX7_findTogether 89 = .ok (.aload_n 0, 1) := dk_42 (dk_at dksX7_findTogether_3 17 rfl rfl)
theorem dX7_findTogether_90 : decode cX7_findTogether 90 = .ok (.getfield 45, 3) := dk_180 0 45 (dk_at dksX7_findTogether_3 18 rfl rfl)
theorem dX7_findTogether_93 : decode cX7_findTogether 93 = .ok (.iconst 0, 1) := dk_3 (dk_at dksX7_findTogether_3 21 rfl rfl)
theorem dX7_findTogether_94 : decode cX7_findTogether 94 = .ok (.iaload, 1) := dk_46 (dk_at dksX7_findTogether_3 22 rfl rfl)
theorem dX7_findTogether_95 : decode cX7_findTogether 95 = .ok (.if_icmp .ge 40, 3) := dk_162 0 40 (dk_at dksX7_findTogether_4 0 rfl rfl)
theorem dX7_findTogether_98 : decode cX7_findTogether 98 = .ok (.iload 5, 2) := dk_21 5 (dk_at dksX7_findTogether_4 3 rfl rfl)
theorem dX7_findTogether_100 : decode cX7_findTogether 100 = .ok (.iload_n 3, 1) := dk_29 (dk_at dksX7_findTogether_4 5 rfl rfl)
theorem dX7_findTogether_101 : decode cX7_findTogether 101 = .ok (.iload 6, 2) := dk_21 6 (dk_at dksX7_findTogether_4 6 rfl rfl)
theorem dX7_findTogether_103 : decode cX7_findTogether 103 = .ok (.ishr, 1) := dk_122 (dk_at dksX7_findTogether_4 8 rfl rfl)
theorem dX7_findTogether_104 : decode cX7_findTogether 104 = .ok (.iconst 1, 1) := dk_4 (dk_at dksX7_findTogether_4 9 rfl rfl)
theorem dX7_findTogether_105 : decode cX7_findTogether 105 = .ok (.iand, 1) := dk_126 (dk_at dksX7_findTogether_4 10 rfl rfl)
theorem dX7_findTogether_106 : decode cX7_findTogether 106 = .ok (.ifCond .eq 19, 3) := dk_153 0 19 (dk_at dksX7_findTogether_4 11 rfl rfl)
theorem dX7_findTogether_109 : decode cX7_findTogether 109 = .ok (.aload_n 0, 1) := dk_42 (dk_at dksX7_findTogether_4 14 rfl rfl)
theorem dX7_findTogether_110 : decode cX7_findTogether 110 = .ok (.iload 6, 2) := dk_21 6 (dk_at dksX7_findTogether_4 15 rfl rfl)
theorem dX7_findTogether_112 : decode cX7_findTogether 112 = .ok (.invokevirtual 371, 3) := dk_182 1 115 (dk_at dksX7_findTogether_4 17 rfl rfl)
theorem dX7_findTogether_115 : decode cX7_findTogether 115 = .ok (.ifCond .eq 10, 3) := dk_153 0 10 (dk_at dksX7_findTogether_4 20 rfl rfl)
theorem dX7_findTogether_118 : decode cX7_findTogether 118 = .ok (.iconst 1, 1) := dk_4 (dk_at dksX7_findTogether_4 23 rfl rfl)
theorem dX7_findTogether_119 : decode cX7_findTogether 119 = .ok (.iload 6, 2) := dk_21 6 (dk_at dksX7_findTogether_5 0 rfl rfl)
theorem dX7_findTogether_121 : decode cX7_findTogether 121 = .ok (.ishl, 1) := dk_120 (dk_at dksX7_findTogether_5 2 rfl rfl)
theorem dX7_findTogether_122 : decode cX7_findTogether 122 = .ok (.goto 4, 3) := dk_167 0 4 (dk_at dksX7_findTogether_5 3 rfl rfl)
theorem dX7_findTogether_125 : decode cX7_findTogether 125 = .ok (.iconst 0, 1) := dk_3 (dk_at dksX7_findTogether_5 6 rfl rfl)
theorem dX7_findTogether_126 : decode cX7_findTogether 126 = .ok (.ior, 1) := dk_128 (dk_at dksX7_findTogether_5 7 rfl rfl)
theorem dX7_findTogether_127 : decode cX7_findTogether 127 = .ok (.istore 5, 2) := dk_54 5 (dk_at dksX7_findTogether_5 8 rfl rfl)
theorem dX7_findTogether_129 : decode cX7_findTogether 129 = .ok (.iinc 6 1, 3) := dk_132 6 1 (dk_at dksX7_findTogether_5 10 rfl rfl)
theorem dX7_findTogether_132 : decode cX7_findTogether 132 = .ok (.goto (-45), 3) := dk_167 255 211 (dk_at dksX7_findTogether_5 13 rfl rfl)
theorem dX7_findTogether_135 : decode cX7_findTogether 135 = .ok (.aload_n 0, 1) := dk_42 (dk_at dksX7_findTogether_5 16 rfl rfl)
theorem dX7_findTogether_136 : decode cX7_findTogether 136 = .ok (.getfield 120, 3) := dk_180 0 120 (dk_at dksX7_findTogether_5 17 rfl rfl)
theorem dX7_findTogether_139 : decode cX7_findTogether 139 = .ok (.iload 5, 2) := dk_21 5 (dk_at dksX7_findTogether_5 20 rfl rfl)
theorem dX7_findTogether_141 : decode cX7_findTogether 141 = .ok (.iconst 1, 1) := dk_4 (dk_at dksX7_findTogether_5 22 rfl rfl)
theorem dX7_findTogether_142 : decode cX7_findTogether 142 = .ok (.bastore, 1) := dk_84 (dk_at dksX7_findTogether_5 23 rfl rfl)
theorem dX7_findTogether_143 : decode cX7_findTogether 143 = .ok (.iinc 4 1, 3) := dk_132 4 1 (dk_at dksX7_findTogether_6 0 rfl rfl)
theorem dX7_findTogether_146 : decode cX7_findTogether 146 = .ok (.goto (-109), 3) := dk_167 255 147 (dk_at dksX7_findTogether_6 3 rfl rfl)
theorem dX7_findTogether_149 : decode cX7_findTogether 149 = .ok (.return_, 1) := dk_177 (dk_at dksX7_findTogether_6 6 rfl rfl)
abbrev cX7_fewestApart : ByteArray := prog_33_method_86_code
def yX7_fewestApart : MethodName := ⟨RX7, "fewestApart", "()I"⟩
def dkwX7_fewestApart_4 : List UInt8 := [21, 5, 62, 132, 4, 1, 167, 255, 169, 28, 172]
abbrev dktX7_fewestApart_4 : List UInt8 := dkwX7_fewestApart_4 ++ []
def dkwX7_fewestApart_3 : List UInt8 := [182, 1, 175, 154, 0, 24, 21, 5, 29, 161, 0, 12, 21, 4, 28, 184, 1, 178, 153, 0, 9, 21, 4, 61]
abbrev dktX7_fewestApart_3 : List UInt8 := dkwX7_fewestApart_3 ++ dktX7_fewestApart_4
def dkwX7_fewestApart_2 : List UInt8 := [132, 6, 1, 167, 255, 234, 21, 4, 27, 2, 130, 126, 154, 0, 39, 21, 5, 29, 163, 0, 33, 42, 21, 4]
abbrev dktX7_fewestApart_2 : List UInt8 := dkwX7_fewestApart_2 ++ dktX7_fewestApart_3
def dkwX7_fewestApart_1 : List UInt8 := [3, 54, 6, 21, 6, 16, 8, 162, 0, 21, 21, 5, 21, 4, 21, 6, 122, 4, 126, 96, 54, 5]
abbrev dktX7_fewestApart_1 : List UInt8 := dkwX7_fewestApart_1 ++ dktX7_fewestApart_2
def dkwX7_fewestApart_0 : List UInt8 := [42, 182, 1, 124, 60, 2, 61, 16, 9, 62, 3, 54, 4, 21, 4, 17, 1, 0, 162, 0, 85, 3, 54, 5]
abbrev dktX7_fewestApart_0 : List UInt8 := dkwX7_fewestApart_0 ++ dktX7_fewestApart_1
theorem dksX7_fewestApart_0 : cX7_fewestApart.data.toList.drop 0 = dktX7_fewestApart_0 := by decide +kernel
theorem dksX7_fewestApart_1 : cX7_fewestApart.data.toList.drop 24 = dktX7_fewestApart_1 := dk_seg dksX7_fewestApart_0 24 rfl rfl
theorem dksX7_fewestApart_2 : cX7_fewestApart.data.toList.drop 46 = dktX7_fewestApart_2 := dk_seg dksX7_fewestApart_1 22 rfl rfl
theorem dksX7_fewestApart_3 : cX7_fewestApart.data.toList.drop 70 = dktX7_fewestApart_3 := dk_seg dksX7_fewestApart_2 24 rfl rfl
theorem dksX7_fewestApart_4 : cX7_fewestApart.data.toList.drop 94 = dktX7_fewestApart_4 := dk_seg dksX7_fewestApart_3 24 rfl rfl
theorem dX7_fewestApart_0 : decode cX7_fewestApart 0 = .ok (.aload_n 0, 1) := dk_42 (dk_at dksX7_fewestApart_0 0 rfl rfl)
theorem dX7_fewestApart_1 : decode cX7_fewestApart 1 = .ok (.invokevirtual 380, 3) := dk_182 1 124 (dk_at dksX7_fewestApart_0 1 rfl rfl)
theorem dX7_fewestApart_4 : decode cX7_fewestApart 4 = .ok (.istore_n 1, 1) := dk_60 (dk_at dksX7_fewestApart_0 4 rfl rfl)
theorem dX7_fewestApart_5 : decode cX7_fewestApart 5 = .ok (.iconst (-1), 1) := dk_2 (dk_at dksX7_fewestApart_0 5 rfl rfl)
theorem dX7_fewestApart_6 : decode cX7_fewestApart 6 = .ok (.istore_n 2, 1) := dk_61 (dk_at dksX7_fewestApart_0 6 rfl rfl)
theorem dX7_fewestApart_7 : decode cX7_fewestApart 7 = .ok (.bipush 9, 2) := dk_16 9 (dk_at dksX7_fewestApart_0 7 rfl rfl)
theorem dX7_fewestApart_9 : decode cX7_fewestApart 9 = .ok (.istore_n 3, 1) := dk_62 (dk_at dksX7_fewestApart_0 9 rfl rfl)
theorem dX7_fewestApart_10 : decode cX7_fewestApart 10 = .ok (.iconst 0, 1) := dk_3 (dk_at dksX7_fewestApart_0 10 rfl rfl)
theorem dX7_fewestApart_11 : decode cX7_fewestApart 11 = .ok (.istore 4, 2) := dk_54 4 (dk_at dksX7_fewestApart_0 11 rfl rfl)
theorem dX7_fewestApart_13 : decode cX7_fewestApart 13 = .ok (.iload 4, 2) := dk_21 4 (dk_at dksX7_fewestApart_0 13 rfl rfl)
theorem dX7_fewestApart_15 : decode cX7_fewestApart 15 = .ok (.sipush 256, 3) := dk_17 1 0 (dk_at dksX7_fewestApart_0 15 rfl rfl)
theorem dX7_fewestApart_18 : decode cX7_fewestApart 18 = .ok (.if_icmp .ge 85, 3) := dk_162 0 85 (dk_at dksX7_fewestApart_0 18 rfl rfl)
theorem dX7_fewestApart_21 : decode cX7_fewestApart 21 = .ok (.iconst 0, 1) := dk_3 (dk_at dksX7_fewestApart_0 21 rfl rfl)
theorem dX7_fewestApart_22 : decode cX7_fewestApart 22 = .ok (.istore 5, 2) := dk_54 5 (dk_at dksX7_fewestApart_0 22 rfl rfl)
theorem dX7_fewestApart_24 : decode cX7_fewestApart 24 = .ok (.iconst 0, 1) := dk_3 (dk_at dksX7_fewestApart_1 0 rfl rfl)
theorem dX7_fewestApart_25 : decode cX7_fewestApart 25 = .ok (.istore 6, 2) := dk_54 6 (dk_at dksX7_fewestApart_1 1 rfl rfl)
theorem dX7_fewestApart_27 : decode cX7_fewestApart 27 = .ok (.iload 6, 2) := dk_21 6 (dk_at dksX7_fewestApart_1 3 rfl rfl)
theorem dX7_fewestApart_29 : decode cX7_fewestApart 29 = .ok (.bipush 8, 2) := dk_16 8 (dk_at dksX7_fewestApart_1 5 rfl rfl)
theorem dX7_fewestApart_31 : decode cX7_fewestApart 31 = .ok (.if_icmp .ge 21, 3) := dk_162 0 21 (dk_at dksX7_fewestApart_1 7 rfl rfl)
theorem dX7_fewestApart_34 : decode cX7_fewestApart 34 = .ok (.iload 5, 2) := dk_21 5 (dk_at dksX7_fewestApart_1 10 rfl rfl)
theorem dX7_fewestApart_36 : decode cX7_fewestApart 36 = .ok (.iload 4, 2) := dk_21 4 (dk_at dksX7_fewestApart_1 12 rfl rfl)
theorem dX7_fewestApart_38 : decode cX7_fewestApart 38 = .ok (.iload 6, 2) := dk_21 6 (dk_at dksX7_fewestApart_1 14 rfl rfl)
theorem dX7_fewestApart_40 : decode cX7_fewestApart 40 = .ok (.ishr, 1) := dk_122 (dk_at dksX7_fewestApart_1 16 rfl rfl)
theorem dX7_fewestApart_41 : decode cX7_fewestApart 41 = .ok (.iconst 1, 1) := dk_4 (dk_at dksX7_fewestApart_1 17 rfl rfl)
theorem dX7_fewestApart_42 : decode cX7_fewestApart 42 = .ok (.iand, 1) := dk_126 (dk_at dksX7_fewestApart_1 18 rfl rfl)
theorem dX7_fewestApart_43 : decode cX7_fewestApart 43 = .ok (.iadd, 1) := dk_96 (dk_at dksX7_fewestApart_1 19 rfl rfl)
theorem dX7_fewestApart_44 : decode cX7_fewestApart 44 = .ok (.istore 5, 2) := dk_54 5 (dk_at dksX7_fewestApart_1 20 rfl rfl)
theorem dX7_fewestApart_46 : decode cX7_fewestApart 46 = .ok (.iinc 6 1, 3) := dk_132 6 1 (dk_at dksX7_fewestApart_2 0 rfl rfl)
theorem dX7_fewestApart_49 : decode cX7_fewestApart 49 = .ok (.goto (-22), 3) := dk_167 255 234 (dk_at dksX7_fewestApart_2 3 rfl rfl)
theorem dX7_fewestApart_52 : decode cX7_fewestApart 52 = .ok (.iload 4, 2) := dk_21 4 (dk_at dksX7_fewestApart_2 6 rfl rfl)
theorem dX7_fewestApart_54 : decode cX7_fewestApart 54 = .ok (.iload_n 1, 1) := dk_27 (dk_at dksX7_fewestApart_2 8 rfl rfl)
theorem dX7_fewestApart_55 : decode cX7_fewestApart 55 = .ok (.iconst (-1), 1) := dk_2 (dk_at dksX7_fewestApart_2 9 rfl rfl)
theorem dX7_fewestApart_56 : decode cX7_fewestApart 56 = .ok (.ixor, 1) := dk_130 (dk_at dksX7_fewestApart_2 10 rfl rfl)
theorem dX7_fewestApart_57 : decode cX7_fewestApart 57 = .ok (.iand, 1) := dk_126 (dk_at dksX7_fewestApart_2 11 rfl rfl)
theorem dX7_fewestApart_58 : decode cX7_fewestApart 58 = .ok (.ifCond .ne 39, 3) := dk_154 0 39 (dk_at dksX7_fewestApart_2 12 rfl rfl)
theorem dX7_fewestApart_61 : decode cX7_fewestApart 61 = .ok (.iload 5, 2) := dk_21 5 (dk_at dksX7_fewestApart_2 15 rfl rfl)
theorem dX7_fewestApart_63 : decode cX7_fewestApart 63 = .ok (.iload_n 3, 1) := dk_29 (dk_at dksX7_fewestApart_2 17 rfl rfl)
theorem dX7_fewestApart_64 : decode cX7_fewestApart 64 = .ok (.if_icmp .gt 33, 3) := dk_163 0 33 (dk_at dksX7_fewestApart_2 18 rfl rfl)
theorem dX7_fewestApart_67 : decode cX7_fewestApart 67 = .ok (.aload_n 0, 1) := dk_42 (dk_at dksX7_fewestApart_2 21 rfl rfl)
theorem dX7_fewestApart_68 : decode cX7_fewestApart 68 = .ok (.iload 4, 2) := dk_21 4 (dk_at dksX7_fewestApart_2 22 rfl rfl)
theorem dX7_fewestApart_70 : decode cX7_fewestApart 70 = .ok (.invokevirtual 431, 3) := dk_182 1 175 (dk_at dksX7_fewestApart_3 0 rfl rfl)
theorem dX7_fewestApart_73 : decode cX7_fewestApart 73 = .ok (.ifCond .ne 24, 3) := dk_154 0 24 (dk_at dksX7_fewestApart_3 3 rfl rfl)
theorem dX7_fewestApart_76 : decode cX7_fewestApart 76 = .ok (.iload 5, 2) := dk_21 5 (dk_at dksX7_fewestApart_3 6 rfl rfl)
theorem dX7_fewestApart_78 : decode cX7_fewestApart 78 = .ok (.iload_n 3, 1) := dk_29 (dk_at dksX7_fewestApart_3 8 rfl rfl)
theorem dX7_fewestApart_79 : decode cX7_fewestApart 79 = .ok (.if_icmp .lt 12, 3) := dk_161 0 12 (dk_at dksX7_fewestApart_3 9 rfl rfl)
theorem dX7_fewestApart_82 : decode cX7_fewestApart 82 = .ok (.iload 4, 2) := dk_21 4 (dk_at dksX7_fewestApart_3 12 rfl rfl)
theorem dX7_fewestApart_84 : decode cX7_fewestApart 84 = .ok (.iload_n 2, 1) := dk_28 (dk_at dksX7_fewestApart_3 14 rfl rfl)
theorem dX7_fewestApart_85 : decode cX7_fewestApart 85 = .ok (.invokestatic 434, 3) := dk_184 1 178 (dk_at dksX7_fewestApart_3 15 rfl rfl)
theorem dX7_fewestApart_88 : decode cX7_fewestApart 88 = .ok (.ifCond .eq 9, 3) := dk_153 0 9 (dk_at dksX7_fewestApart_3 18 rfl rfl)
theorem dX7_fewestApart_91 : decode cX7_fewestApart 91 = .ok (.iload 4, 2) := dk_21 4 (dk_at dksX7_fewestApart_3 21 rfl rfl)
theorem dX7_fewestApart_93 : decode cX7_fewestApart 93 = .ok (.istore_n 2, 1) := dk_61 (dk_at dksX7_fewestApart_3 23 rfl rfl)
theorem dX7_fewestApart_94 : decode cX7_fewestApart 94 = .ok (.iload 5, 2) := dk_21 5 (dk_at dksX7_fewestApart_4 0 rfl rfl)
theorem dX7_fewestApart_96 : decode cX7_fewestApart 96 = .ok (.istore_n 3, 1) := dk_62 (dk_at dksX7_fewestApart_4 2 rfl rfl)
theorem dX7_fewestApart_97 : decode cX7_fewestApart 97 = .ok (.iinc 4 1, 3) := dk_132 4 1 (dk_at dksX7_fewestApart_4 3 rfl rfl)
theorem dX7_fewestApart_100 : decode cX7_fewestApart 100 = .ok (.goto (-87), 3) := dk_167 255 169 (dk_at dksX7_fewestApart_4 6 rfl rfl)
theorem dX7_fewestApart_103 : decode cX7_fewestApart 103 = .ok (.iload_n 2, 1) := dk_28 (dk_at dksX7_fewestApart_4 9 rfl rfl)
theorem dX7_fewestApart_104 : decode cX7_fewestApart 104 = .ok (.ireturn, 1) := dk_172 (dk_at dksX7_fewestApart_4 10 rfl rfl)
abbrev cX7_isTogether : ByteArray := prog_33_method_87_code
def yX7_isTogether : MethodName := ⟨RX7, "isTogether", "(I)Z"⟩
def dkwX7_isTogether_1 : List UInt8 := [154, 0, 5, 4, 172, 132, 2, 1, 167, 255, 227, 3, 172]
abbrev dktX7_isTogether_1 : List UInt8 := dkwX7_isTogether_1 ++ []
def dkwX7_isTogether_0 : List UInt8 := [3, 61, 28, 17, 1, 0, 162, 0, 28, 42, 180, 0, 120, 28, 51, 153, 0, 13, 27, 28, 2, 130, 126]
abbrev dktX7_isTogether_0 : List UInt8 := dkwX7_isTogether_0 ++ dktX7_isTogether_1
theorem dksX7_isTogether_0 : cX7_isTogether.data.toList.drop 0 = dktX7_isTogether_0 := by decide +kernel
theorem dksX7_isTogether_1 : cX7_isTogether.data.toList.drop 23 = dktX7_isTogether_1 := dk_seg dksX7_isTogether_0 23 rfl rfl
theorem dX7_isTogether_0 : decode cX7_isTogether 0 = .ok (.iconst 0, 1) := dk_3 (dk_at dksX7_isTogether_0 0 rfl rfl)
theorem dX7_isTogether_1 : decode cX7_isTogether 1 = .ok (.istore_n 2, 1) := dk_61 (dk_at dksX7_isTogether_0 1 rfl rfl)
theorem dX7_isTogether_2 : decode cX7_isTogether 2 = .ok (.iload_n 2, 1) := dk_28 (dk_at dksX7_isTogether_0 2 rfl rfl)
theorem dX7_isTogether_3 : decode cX7_isTogether 3 = .ok (.sipush 256, 3) := dk_17 1 0 (dk_at dksX7_isTogether_0 3 rfl rfl)
theorem dX7_isTogether_6 : decode cX7_isTogether 6 = .ok (.if_icmp .ge 28, 3) := dk_162 0 28 (dk_at dksX7_isTogether_0 6 rfl rfl)
theorem dX7_isTogether_9 : decode cX7_isTogether 9 = .ok (.aload_n 0, 1) := dk_42 (dk_at dksX7_isTogether_0 9 rfl rfl)
theorem dX7_isTogether_10 : decode cX7_isTogether 10 = .ok (.getfield 120, 3) := dk_180 0 120 (dk_at dksX7_isTogether_0 10 rfl rfl)
theorem dX7_isTogether_13 : decode cX7_isTogether 13 = .ok (.iload_n 2, 1) := dk_28 (dk_at dksX7_isTogether_0 13 rfl rfl)
theorem dX7_isTogether_14 : decode cX7_isTogether 14 = .ok (.baload, 1) := dk_51 (dk_at dksX7_isTogether_0 14 rfl rfl)
theorem dX7_isTogether_15 : decode cX7_isTogether 15 = .ok (.ifCond .eq 13, 3) := dk_153 0 13 (dk_at dksX7_isTogether_0 15 rfl rfl)
theorem dX7_isTogether_18 : decode cX7_isTogether 18 = .ok (.iload_n 1, 1) := dk_27 (dk_at dksX7_isTogether_0 18 rfl rfl)
theorem dX7_isTogether_19 : decode cX7_isTogether 19 = .ok (.iload_n 2, 1) := dk_28 (dk_at dksX7_isTogether_0 19 rfl rfl)
theorem dX7_isTogether_20 : decode cX7_isTogether 20 = .ok (.iconst (-1), 1) := dk_2 (dk_at dksX7_isTogether_0 20 rfl rfl)
theorem dX7_isTogether_21 : decode cX7_isTogether 21 = .ok (.ixor, 1) := dk_130 (dk_at dksX7_isTogether_0 21 rfl rfl)
theorem dX7_isTogether_22 : decode cX7_isTogether 22 = .ok (.iand, 1) := dk_126 (dk_at dksX7_isTogether_0 22 rfl rfl)
theorem dX7_isTogether_23 : decode cX7_isTogether 23 = .ok (.ifCond .ne 5, 3) := dk_154 0 5 (dk_at dksX7_isTogether_1 0 rfl rfl)
theorem dX7_isTogether_26 : decode cX7_isTogether 26 = .ok (.iconst 1, 1) := dk_4 (dk_at dksX7_isTogether_1 3 rfl rfl)
theorem dX7_isTogether_27 : decode cX7_isTogether 27 = .ok (.ireturn, 1) := dk_172 (dk_at dksX7_isTogether_1 4 rfl rfl)
theorem dX7_isTogether_28 : decode cX7_isTogether 28 = .ok (.iinc 2 1, 3) := dk_132 2 1 (dk_at dksX7_isTogether_1 5 rfl rfl)
theorem dX7_isTogether_31 : decode cX7_isTogether 31 = .ok (.goto (-29), 3) := dk_167 255 227 (dk_at dksX7_isTogether_1 8 rfl rfl)
theorem dX7_isTogether_34 : decode cX7_isTogether 34 = .ok (.iconst 0, 1) := dk_3 (dk_at dksX7_isTogether_1 11 rfl rfl)
theorem dX7_isTogether_35 : decode cX7_isTogether 35 = .ok (.ireturn, 1) := dk_172 (dk_at dksX7_isTogether_1 12 rfl rfl)
abbrev cX7_isLessRow : ByteArray := prog_33_method_88_code
def yX7_isLessRow : MethodName := ⟨RX7, "isLessRow", "(II)Z"⟩
def dkwX7_isLessRow_0 : List UInt8 := [26, 27, 130, 61, 26, 28, 126, 28, 116, 126, 153, 0, 7, 4, 167, 0, 4, 3, 172]
abbrev dktX7_isLessRow_0 : List UInt8 := dkwX7_isLessRow_0 ++ []
theorem dksX7_isLessRow_0 : cX7_isLessRow.data.toList.drop 0 = dktX7_isLessRow_0 := by decide +kernel
theorem dX7_isLessRow_0 : decode cX7_isLessRow 0 = .ok (.iload_n 0, 1) := dk_26 (dk_at dksX7_isLessRow_0 0 rfl rfl)
theorem dX7_isLessRow_1 : decode cX7_isLessRow 1 = .ok (.iload_n 1, 1) := dk_27 (dk_at dksX7_isLessRow_0 1 rfl rfl)
theorem dX7_isLessRow_2 : decode cX7_isLessRow 2 = .ok (.ixor, 1) := dk_130 (dk_at dksX7_isLessRow_0 2 rfl rfl)
theorem dX7_isLessRow_3 : decode cX7_isLessRow 3 = .ok (.istore_n 2, 1) := dk_61 (dk_at dksX7_isLessRow_0 3 rfl rfl)
theorem dX7_isLessRow_4 : decode cX7_isLessRow 4 = .ok (.iload_n 0, 1) := dk_26 (dk_at dksX7_isLessRow_0 4 rfl rfl)
theorem dX7_isLessRow_5 : decode cX7_isLessRow 5 = .ok (.iload_n 2, 1) := dk_28 (dk_at dksX7_isLessRow_0 5 rfl rfl)
theorem dX7_isLessRow_6 : decode cX7_isLessRow 6 = .ok (.iand, 1) := dk_126 (dk_at dksX7_isLessRow_0 6 rfl rfl)
theorem dX7_isLessRow_7 : decode cX7_isLessRow 7 = .ok (.iload_n 2, 1) := dk_28 (dk_at dksX7_isLessRow_0 7 rfl rfl)
theorem dX7_isLessRow_8 : decode cX7_isLessRow 8 = .ok (.ineg, 1) := dk_116 (dk_at dksX7_isLessRow_0 8 rfl rfl)
theorem dX7_isLessRow_9 : decode cX7_isLessRow 9 = .ok (.iand, 1) := dk_126 (dk_at dksX7_isLessRow_0 9 rfl rfl)
theorem dX7_isLessRow_10 : decode cX7_isLessRow 10 = .ok (.ifCond .eq 7, 3) := dk_153 0 7 (dk_at dksX7_isLessRow_0 10 rfl rfl)
theorem dX7_isLessRow_13 : decode cX7_isLessRow 13 = .ok (.iconst 1, 1) := dk_4 (dk_at dksX7_isLessRow_0 13 rfl rfl)
theorem dX7_isLessRow_14 : decode cX7_isLessRow 14 = .ok (.goto 4, 3) := dk_167 0 4 (dk_at dksX7_isLessRow_0 14 rfl rfl)
theorem dX7_isLessRow_17 : decode cX7_isLessRow 17 = .ok (.iconst 0, 1) := dk_3 (dk_at dksX7_isLessRow_0 17 rfl rfl)
theorem dX7_isLessRow_18 : decode cX7_isLessRow 18 = .ok (.ireturn, 1) := dk_172 (dk_at dksX7_isLessRow_0 18 rfl rfl)
abbrev cX7_numberIn : ByteArray := prog_33_method_90_code
def yX7_numberIn : MethodName := ⟨RX7, "numberIn", "(II)I"⟩
def dkwX7_numberIn_1 : List UInt8 := [27, 160, 0, 5, 29, 172, 132, 2, 1, 132, 3, 1, 167, 255, 224, 2, 172]
abbrev dktX7_numberIn_1 : List UInt8 := dkwX7_numberIn_1 ++ []
def dkwX7_numberIn_0 : List UInt8 := [3, 61, 3, 62, 29, 16, 8, 162, 0, 32, 26, 2, 159, 0, 27, 26, 29, 122, 4, 126, 153, 0, 13, 28]
abbrev dktX7_numberIn_0 : List UInt8 := dkwX7_numberIn_0 ++ dktX7_numberIn_1
theorem dksX7_numberIn_0 : cX7_numberIn.data.toList.drop 0 = dktX7_numberIn_0 := by decide +kernel
theorem dksX7_numberIn_1 : cX7_numberIn.data.toList.drop 24 = dktX7_numberIn_1 := dk_seg dksX7_numberIn_0 24 rfl rfl
theorem dX7_numberIn_0 : decode cX7_numberIn 0 = .ok (.iconst 0, 1) := dk_3 (dk_at dksX7_numberIn_0 0 rfl rfl)
theorem dX7_numberIn_1 : decode cX7_numberIn 1 = .ok (.istore_n 2, 1) := dk_61 (dk_at dksX7_numberIn_0 1 rfl rfl)
theorem dX7_numberIn_2 : decode cX7_numberIn 2 = .ok (.iconst 0, 1) := dk_3 (dk_at dksX7_numberIn_0 2 rfl rfl)
theorem dX7_numberIn_3 : decode cX7_numberIn 3 = .ok (.istore_n 3, 1) := dk_62 (dk_at dksX7_numberIn_0 3 rfl rfl)
theorem dX7_numberIn_4 : decode cX7_numberIn 4 = .ok (.iload_n 3, 1) := dk_29 (dk_at dksX7_numberIn_0 4 rfl rfl)
theorem dX7_numberIn_5 : decode cX7_numberIn 5 = .ok (.bipush 8, 2) := dk_16 8 (dk_at dksX7_numberIn_0 5 rfl rfl)
theorem dX7_numberIn_7 : decode cX7_numberIn 7 = .ok (.if_icmp .ge 32, 3) := dk_162 0 32 (dk_at dksX7_numberIn_0 7 rfl rfl)
theorem dX7_numberIn_10 : decode cX7_numberIn 10 = .ok (.iload_n 0, 1) := dk_26 (dk_at dksX7_numberIn_0 10 rfl rfl)
theorem dX7_numberIn_11 : decode cX7_numberIn 11 = .ok (.iconst (-1), 1) := dk_2 (dk_at dksX7_numberIn_0 11 rfl rfl)
theorem dX7_numberIn_12 : decode cX7_numberIn 12 = .ok (.if_icmp .eq 27, 3) := dk_159 0 27 (dk_at dksX7_numberIn_0 12 rfl rfl)
theorem dX7_numberIn_15 : decode cX7_numberIn 15 = .ok (.iload_n 0, 1) := dk_26 (dk_at dksX7_numberIn_0 15 rfl rfl)
theorem dX7_numberIn_16 : decode cX7_numberIn 16 = .ok (.iload_n 3, 1) := dk_29 (dk_at dksX7_numberIn_0 16 rfl rfl)
theorem dX7_numberIn_17 : decode cX7_numberIn 17 = .ok (.ishr, 1) := dk_122 (dk_at dksX7_numberIn_0 17 rfl rfl)
theorem dX7_numberIn_18 : decode cX7_numberIn 18 = .ok (.iconst 1, 1) := dk_4 (dk_at dksX7_numberIn_0 18 rfl rfl)
theorem dX7_numberIn_19 : decode cX7_numberIn 19 = .ok (.iand, 1) := dk_126 (dk_at dksX7_numberIn_0 19 rfl rfl)
theorem dX7_numberIn_20 : decode cX7_numberIn 20 = .ok (.ifCond .eq 13, 3) := dk_153 0 13 (dk_at dksX7_numberIn_0 20 rfl rfl)
theorem dX7_numberIn_23 : decode cX7_numberIn 23 = .ok (.iload_n 2, 1) := dk_28 (dk_at dksX7_numberIn_0 23 rfl rfl)
theorem dX7_numberIn_24 : decode cX7_numberIn 24 = .ok (.iload_n 1, 1) := dk_27 (dk_at dksX7_numberIn_1 0 rfl rfl)
theorem dX7_numberIn_25 : decode cX7_numberIn 25 = .ok (.if_icmp .ne 5, 3) := dk_160 0 5 (dk_at dksX7_numberIn_1 1 rfl rfl)
theorem dX7_numberIn_28 : decode cX7_numberIn 28 = .ok (.iload_n 3, 1) := dk_29 (dk_at dksX7_numberIn_1 4 rfl rfl)
theorem dX7_numberIn_29 : decode cX7_numberIn 29 = .ok (.ireturn, 1) := dk_172 (dk_at dksX7_numberIn_1 5 rfl rfl)
theorem dX7_numberIn_30 : decode cX7_numberIn 30 = .ok (.iinc 2 1, 3) := dk_132 2 1 (dk_at dksX7_numberIn_1 6 rfl rfl)
theorem dX7_numberIn_33 : decode cX7_numberIn 33 = .ok (.iinc 3 1, 3) := dk_132 3 1 (dk_at dksX7_numberIn_1 9 rfl rfl)
theorem dX7_numberIn_36 : decode cX7_numberIn 36 = .ok (.goto (-32), 3) := dk_167 255 224 (dk_at dksX7_numberIn_1 12 rfl rfl)
theorem dX7_numberIn_39 : decode cX7_numberIn 39 = .ok (.iconst (-1), 1) := dk_2 (dk_at dksX7_numberIn_1 15 rfl rfl)
theorem dX7_numberIn_40 : decode cX7_numberIn 40 = .ok (.ireturn, 1) := dk_172 (dk_at dksX7_numberIn_1 16 rfl rfl)
abbrev cX7_sure : ByteArray := prog_33_method_92_code
def yX7_sure : MethodName := ⟨RX7, "sure", "(III)I"⟩
def dkwX7_sure_3 : List UInt8 := [3, 167, 0, 4, 2, 172]
abbrev dktX7_sure_3 : List UInt8 := dkwX7_sure_3 ++ []
def dkwX7_sure_2 : List UInt8 := [21, 4, 46, 42, 180, 1, 191, 160, 0, 7, 4, 167, 0, 18, 42, 180, 0, 123, 21, 4, 46, 154, 0, 7]
abbrev dktX7_sure_2 : List UInt8 := dkwX7_sure_2 ++ dktX7_sure_3
def dkwX7_sure_1 : List UInt8 := [154, 0, 5, 2, 172, 42, 182, 1, 194, 42, 180, 1, 191, 154, 0, 7, 2, 167, 0, 36, 42, 180, 0, 123]
abbrev dktX7_sure_1 : List UInt8 := dkwX7_sure_1 ++ dktX7_sure_2
def dkwX7_sure_0 : List UInt8 := [42, 3, 181, 0, 142, 42, 27, 28, 29, 182, 0, 179, 54, 4, 21, 4, 2, 159, 0, 10, 42, 182, 0, 182]
abbrev dktX7_sure_0 : List UInt8 := dkwX7_sure_0 ++ dktX7_sure_1
theorem dksX7_sure_0 : cX7_sure.data.toList.drop 0 = dktX7_sure_0 := by decide +kernel
theorem dksX7_sure_1 : cX7_sure.data.toList.drop 24 = dktX7_sure_1 := dk_seg dksX7_sure_0 24 rfl rfl
theorem dksX7_sure_2 : cX7_sure.data.toList.drop 48 = dktX7_sure_2 := dk_seg dksX7_sure_1 24 rfl rfl
theorem dksX7_sure_3 : cX7_sure.data.toList.drop 72 = dktX7_sure_3 := dk_seg dksX7_sure_2 24 rfl rfl
theorem dX7_sure_0 : decode cX7_sure 0 = .ok (.aload_n 0, 1) := dk_42 (dk_at dksX7_sure_0 0 rfl rfl)
theorem dX7_sure_1 : decode cX7_sure 1 = .ok (.iconst 0, 1) := dk_3 (dk_at dksX7_sure_0 1 rfl rfl)
theorem dX7_sure_2 : decode cX7_sure 2 = .ok (.putfield 142, 3) := dk_181 0 142 (dk_at dksX7_sure_0 2 rfl rfl)
theorem dX7_sure_5 : decode cX7_sure 5 = .ok (.aload_n 0, 1) := dk_42 (dk_at dksX7_sure_0 5 rfl rfl)
theorem dX7_sure_6 : decode cX7_sure 6 = .ok (.iload_n 1, 1) := dk_27 (dk_at dksX7_sure_0 6 rfl rfl)
theorem dX7_sure_7 : decode cX7_sure 7 = .ok (.iload_n 2, 1) := dk_28 (dk_at dksX7_sure_0 7 rfl rfl)
theorem dX7_sure_8 : decode cX7_sure 8 = .ok (.iload_n 3, 1) := dk_29 (dk_at dksX7_sure_0 8 rfl rfl)
theorem dX7_sure_9 : decode cX7_sure 9 = .ok (.invokevirtual 179, 3) := dk_182 0 179 (dk_at dksX7_sure_0 9 rfl rfl)
theorem dX7_sure_12 : decode cX7_sure 12 = .ok (.istore 4, 2) := dk_54 4 (dk_at dksX7_sure_0 12 rfl rfl)
theorem dX7_sure_14 : decode cX7_sure 14 = .ok (.iload 4, 2) := dk_21 4 (dk_at dksX7_sure_0 14 rfl rfl)
theorem dX7_sure_16 : decode cX7_sure 16 = .ok (.iconst (-1), 1) := dk_2 (dk_at dksX7_sure_0 16 rfl rfl)
theorem dX7_sure_17 : decode cX7_sure 17 = .ok (.if_icmp .eq 10, 3) := dk_159 0 10 (dk_at dksX7_sure_0 17 rfl rfl)
theorem dX7_sure_20 : decode cX7_sure 20 = .ok (.aload_n 0, 1) := dk_42 (dk_at dksX7_sure_0 20 rfl rfl)
theorem dX7_sure_21 : decode cX7_sure 21 = .ok (.invokevirtual 182, 3) := dk_182 0 182 (dk_at dksX7_sure_0 21 rfl rfl)
theorem dX7_sure_24 : decode cX7_sure 24 = .ok (.ifCond .ne 5, 3) := dk_154 0 5 (dk_at dksX7_sure_1 0 rfl rfl)
theorem dX7_sure_27 : decode cX7_sure 27 = .ok (.iconst (-1), 1) := dk_2 (dk_at dksX7_sure_1 3 rfl rfl)
theorem dX7_sure_28 : decode cX7_sure 28 = .ok (.ireturn, 1) := dk_172 (dk_at dksX7_sure_1 4 rfl rfl)
theorem dX7_sure_29 : decode cX7_sure 29 = .ok (.aload_n 0, 1) := dk_42 (dk_at dksX7_sure_1 5 rfl rfl)
theorem dX7_sure_30 : decode cX7_sure 30 = .ok (.invokevirtual 450, 3) := dk_182 1 194 (dk_at dksX7_sure_1 6 rfl rfl)
theorem dX7_sure_33 : decode cX7_sure 33 = .ok (.aload_n 0, 1) := dk_42 (dk_at dksX7_sure_1 9 rfl rfl)
theorem dX7_sure_34 : decode cX7_sure 34 = .ok (.getfield 447, 3) := dk_180 1 191 (dk_at dksX7_sure_1 10 rfl rfl)
theorem dX7_sure_37 : decode cX7_sure 37 = .ok (.ifCond .ne 7, 3) := dk_154 0 7 (dk_at dksX7_sure_1 13 rfl rfl)
theorem dX7_sure_40 : decode cX7_sure 40 = .ok (.iconst (-1), 1) := dk_2 (dk_at dksX7_sure_1 16 rfl rfl)
theorem dX7_sure_41 : decode cX7_sure 41 = .ok (.goto 36, 3) := dk_167 0 36 (dk_at dksX7_sure_1 17 rfl rfl)
theorem dX7_sure_44 : decode cX7_sure 44 = .ok (.aload_n 0, 1) := dk_42 (dk_at dksX7_sure_1 20 rfl rfl)
theorem dX7_sure_45 : decode cX7_sure 45 = .ok (.getfield 123, 3) := dk_180 0 123 (dk_at dksX7_sure_1 21 rfl rfl)
theorem dX7_sure_48 : decode cX7_sure 48 = .ok (.iload 4, 2) := dk_21 4 (dk_at dksX7_sure_2 0 rfl rfl)
theorem dX7_sure_50 : decode cX7_sure 50 = .ok (.iaload, 1) := dk_46 (dk_at dksX7_sure_2 2 rfl rfl)
theorem dX7_sure_51 : decode cX7_sure 51 = .ok (.aload_n 0, 1) := dk_42 (dk_at dksX7_sure_2 3 rfl rfl)
theorem dX7_sure_52 : decode cX7_sure 52 = .ok (.getfield 447, 3) := dk_180 1 191 (dk_at dksX7_sure_2 4 rfl rfl)
theorem dX7_sure_55 : decode cX7_sure 55 = .ok (.if_icmp .ne 7, 3) := dk_160 0 7 (dk_at dksX7_sure_2 7 rfl rfl)
theorem dX7_sure_58 : decode cX7_sure 58 = .ok (.iconst 1, 1) := dk_4 (dk_at dksX7_sure_2 10 rfl rfl)
theorem dX7_sure_59 : decode cX7_sure 59 = .ok (.goto 18, 3) := dk_167 0 18 (dk_at dksX7_sure_2 11 rfl rfl)
theorem dX7_sure_62 : decode cX7_sure 62 = .ok (.aload_n 0, 1) := dk_42 (dk_at dksX7_sure_2 14 rfl rfl)
theorem dX7_sure_63 : decode cX7_sure 63 = .ok (.getfield 123, 3) := dk_180 0 123 (dk_at dksX7_sure_2 15 rfl rfl)
theorem dX7_sure_66 : decode cX7_sure 66 = .ok (.iload 4, 2) := dk_21 4 (dk_at dksX7_sure_2 18 rfl rfl)
theorem dX7_sure_68 : decode cX7_sure 68 = .ok (.iaload, 1) := dk_46 (dk_at dksX7_sure_2 20 rfl rfl)
theorem dX7_sure_69 : decode cX7_sure 69 = .ok (.ifCond .ne 7, 3) := dk_154 0 7 (dk_at dksX7_sure_2 21 rfl rfl)
theorem dX7_sure_72 : decode cX7_sure 72 = .ok (.iconst 0, 1) := dk_3 (dk_at dksX7_sure_3 0 rfl rfl)
theorem dX7_sure_73 : decode cX7_sure 73 = .ok (.goto 4, 3) := dk_167 0 4 (dk_at dksX7_sure_3 1 rfl rfl)
theorem dX7_sure_76 : decode cX7_sure 76 = .ok (.iconst (-1), 1) := dk_2 (dk_at dksX7_sure_3 4 rfl rfl)
theorem dX7_sure_77 : decode cX7_sure 77 = .ok (.ireturn, 1) := dk_172 (dk_at dksX7_sure_3 5 rfl rfl)
abbrev cX7_countFacts : ByteArray := prog_33_method_91_code
def yX7_countFacts : MethodName := ⟨RX7, "countFacts", "()V"⟩
def dkwX7_countFacts_4 : List UInt8 := [132, 2, 1, 167, 255, 222, 132, 1, 1, 167, 255, 186, 177]
abbrev dktX7_countFacts_4 : List UInt8 := dkwX7_countFacts_4 ++ []
def dkwX7_countFacts_3 : List UInt8 := [180, 0, 123, 28, 92, 46, 42, 180, 0, 93, 28, 51, 153, 0, 7, 4, 167, 0, 4, 3, 96, 79]
abbrev dktX7_countFacts_3 : List UInt8 := dkwX7_countFacts_3 ++ dktX7_countFacts_4
def dkwX7_countFacts_2 : List UInt8 := [153, 0, 52, 42, 89, 180, 1, 191, 4, 96, 181, 1, 191, 3, 61, 28, 42, 182, 0, 171, 162, 0, 32, 42]
abbrev dktX7_countFacts_2 : List UInt8 := dkwX7_countFacts_2 ++ dktX7_countFacts_3
def dkwX7_countFacts_1 : List UInt8 := [132, 1, 1, 167, 255, 240, 3, 60, 27, 4, 42, 182, 0, 171, 120, 162, 0, 66, 42, 27, 182, 1, 148]
abbrev dktX7_countFacts_1 : List UInt8 := dkwX7_countFacts_1 ++ dktX7_countFacts_2
def dkwX7_countFacts_0 : List UInt8 := [42, 182, 1, 154, 42, 3, 181, 1, 191, 3, 60, 27, 16, 12, 162, 0, 16, 42, 180, 0, 123, 27, 3, 79]
abbrev dktX7_countFacts_0 : List UInt8 := dkwX7_countFacts_0 ++ dktX7_countFacts_1
theorem dksX7_countFacts_0 : cX7_countFacts.data.toList.drop 0 = dktX7_countFacts_0 := by decide +kernel
theorem dksX7_countFacts_1 : cX7_countFacts.data.toList.drop 24 = dktX7_countFacts_1 := dk_seg dksX7_countFacts_0 24 rfl rfl
theorem dksX7_countFacts_2 : cX7_countFacts.data.toList.drop 47 = dktX7_countFacts_2 := dk_seg dksX7_countFacts_1 23 rfl rfl
theorem dksX7_countFacts_3 : cX7_countFacts.data.toList.drop 71 = dktX7_countFacts_3 := dk_seg dksX7_countFacts_2 24 rfl rfl
theorem dksX7_countFacts_4 : cX7_countFacts.data.toList.drop 93 = dktX7_countFacts_4 := dk_seg dksX7_countFacts_3 22 rfl rfl
theorem dX7_countFacts_0 : decode cX7_countFacts 0 = .ok (.aload_n 0, 1) := dk_42 (dk_at dksX7_countFacts_0 0 rfl rfl)
theorem dX7_countFacts_1 : decode cX7_countFacts 1 = .ok (.invokevirtual 410, 3) := dk_182 1 154 (dk_at dksX7_countFacts_0 1 rfl rfl)
theorem dX7_countFacts_4 : decode cX7_countFacts 4 = .ok (.aload_n 0, 1) := dk_42 (dk_at dksX7_countFacts_0 4 rfl rfl)
theorem dX7_countFacts_5 : decode cX7_countFacts 5 = .ok (.iconst 0, 1) := dk_3 (dk_at dksX7_countFacts_0 5 rfl rfl)
theorem dX7_countFacts_6 : decode cX7_countFacts 6 = .ok (.putfield 447, 3) := dk_181 1 191 (dk_at dksX7_countFacts_0 6 rfl rfl)
theorem dX7_countFacts_9 : decode cX7_countFacts 9 = .ok (.iconst 0, 1) := dk_3 (dk_at dksX7_countFacts_0 9 rfl rfl)
theorem dX7_countFacts_10 : decode cX7_countFacts 10 = .ok (.istore_n 1, 1) := dk_60 (dk_at dksX7_countFacts_0 10 rfl rfl)
theorem dX7_countFacts_11 : decode cX7_countFacts 11 = .ok (.iload_n 1, 1) := dk_27 (dk_at dksX7_countFacts_0 11 rfl rfl)
theorem dX7_countFacts_12 : decode cX7_countFacts 12 = .ok (.bipush 12, 2) := dk_16 12 (dk_at dksX7_countFacts_0 12 rfl rfl)
theorem dX7_countFacts_14 : decode cX7_countFacts 14 = .ok (.if_icmp .ge 16, 3) := dk_162 0 16 (dk_at dksX7_countFacts_0 14 rfl rfl)
theorem dX7_countFacts_17 : decode cX7_countFacts 17 = .ok (.aload_n 0, 1) := dk_42 (dk_at dksX7_countFacts_0 17 rfl rfl)
theorem dX7_countFacts_18 : decode cX7_countFacts 18 = .ok (.getfield 123, 3) := dk_180 0 123 (dk_at dksX7_countFacts_0 18 rfl rfl)
theorem dX7_countFacts_21 : decode cX7_countFacts 21 = .ok (.iload_n 1, 1) := dk_27 (dk_at dksX7_countFacts_0 21 rfl rfl)
theorem dX7_countFacts_22 : decode cX7_countFacts 22 = .ok (.iconst 0, 1) := dk_3 (dk_at dksX7_countFacts_0 22 rfl rfl)
theorem dX7_countFacts_23 : decode cX7_countFacts 23 = .ok (.iastore, 1) := dk_79 (dk_at dksX7_countFacts_0 23 rfl rfl)
theorem dX7_countFacts_24 : decode cX7_countFacts 24 = .ok (.iinc 1 1, 3) := dk_132 1 1 (dk_at dksX7_countFacts_1 0 rfl rfl)
theorem dX7_countFacts_27 : decode cX7_countFacts 27 = .ok (.goto (-16), 3) := dk_167 255 240 (dk_at dksX7_countFacts_1 3 rfl rfl)
theorem dX7_countFacts_30 : decode cX7_countFacts 30 = .ok (.iconst 0, 1) := dk_3 (dk_at dksX7_countFacts_1 6 rfl rfl)
theorem dX7_countFacts_31 : decode cX7_countFacts 31 = .ok (.istore_n 1, 1) := dk_60 (dk_at dksX7_countFacts_1 7 rfl rfl)
theorem dX7_countFacts_32 : decode cX7_countFacts 32 = .ok (.iload_n 1, 1) := dk_27 (dk_at dksX7_countFacts_1 8 rfl rfl)
theorem dX7_countFacts_33 : decode cX7_countFacts 33 = .ok (.iconst 1, 1) := dk_4 (dk_at dksX7_countFacts_1 9 rfl rfl)
theorem dX7_countFacts_34 : decode cX7_countFacts 34 = .ok (.aload_n 0, 1) := dk_42 (dk_at dksX7_countFacts_1 10 rfl rfl)
theorem dX7_countFacts_35 : decode cX7_countFacts 35 = .ok (.invokevirtual 171, 3) := dk_182 0 171 (dk_at dksX7_countFacts_1 11 rfl rfl)
theorem dX7_countFacts_38 : decode cX7_countFacts 38 = .ok (.ishl, 1) := dk_120 (dk_at dksX7_countFacts_1 14 rfl rfl)
theorem dX7_countFacts_39 : decode cX7_countFacts 39 = .ok (.if_icmp .ge 66, 3) := dk_162 0 66 (dk_at dksX7_countFacts_1 15 rfl rfl)
theorem dX7_countFacts_42 : decode cX7_countFacts 42 = .ok (.aload_n 0, 1) := dk_42 (dk_at dksX7_countFacts_1 18 rfl rfl)
theorem dX7_countFacts_43 : decode cX7_countFacts 43 = .ok (.iload_n 1, 1) := dk_27 (dk_at dksX7_countFacts_1 19 rfl rfl)
theorem dX7_countFacts_44 : decode cX7_countFacts 44 = .ok (.invokevirtual 404, 3) := dk_182 1 148 (dk_at dksX7_countFacts_1 20 rfl rfl)
theorem dX7_countFacts_47 : decode cX7_countFacts 47 = .ok (.ifCond .eq 52, 3) := dk_153 0 52 (dk_at dksX7_countFacts_2 0 rfl rfl)
theorem dX7_countFacts_50 : decode cX7_countFacts 50 = .ok (.aload_n 0, 1) := dk_42 (dk_at dksX7_countFacts_2 3 rfl rfl)
theorem dX7_countFacts_51 : decode cX7_countFacts 51 = .ok (.dup, 1) := dk_89 (dk_at dksX7_countFacts_2 4 rfl rfl)
theorem dX7_countFacts_52 : decode cX7_countFacts 52 = .ok (.getfield 447, 3) := dk_180 1 191 (dk_at dksX7_countFacts_2 5 rfl rfl)
theorem dX7_countFacts_55 : decode cX7_countFacts 55 = .ok (.iconst 1, 1) := dk_4 (dk_at dksX7_countFacts_2 8 rfl rfl)
theorem dX7_countFacts_56 : decode cX7_countFacts 56 = .ok (.iadd, 1) := dk_96 (dk_at dksX7_countFacts_2 9 rfl rfl)
theorem dX7_countFacts_57 : decode cX7_countFacts 57 = .ok (.putfield 447, 3) := dk_181 1 191 (dk_at dksX7_countFacts_2 10 rfl rfl)
theorem dX7_countFacts_60 : decode cX7_countFacts 60 = .ok (.iconst 0, 1) := dk_3 (dk_at dksX7_countFacts_2 13 rfl rfl)
theorem dX7_countFacts_61 : decode cX7_countFacts 61 = .ok (.istore_n 2, 1) := dk_61 (dk_at dksX7_countFacts_2 14 rfl rfl)
theorem dX7_countFacts_62 : decode cX7_countFacts 62 = .ok (.iload_n 2, 1) := dk_28 (dk_at dksX7_countFacts_2 15 rfl rfl)
theorem dX7_countFacts_63 : decode cX7_countFacts 63 = .ok (.aload_n 0, 1) := dk_42 (dk_at dksX7_countFacts_2 16 rfl rfl)
theorem dX7_countFacts_64 : decode cX7_countFacts 64 = .ok (.invokevirtual 171, 3) := dk_182 0 171 (dk_at dksX7_countFacts_2 17 rfl rfl)
theorem dX7_countFacts_67 : decode cX7_countFacts 67 = .ok (.if_icmp .ge 32, 3) := dk_162 0 32 (dk_at dksX7_countFacts_2 20 rfl rfl)
theorem dX7_countFacts_70 : decode cX7_countFacts 70 = .ok (.aload_n 0, 1) := dk_42 (dk_at dksX7_countFacts_2 23 rfl rfl)
theorem dX7_countFacts_71 : decode cX7_countFacts 71 = .ok (.getfield 123, 3) := dk_180 0 123 (dk_at dksX7_countFacts_3 0 rfl rfl)
theorem dX7_countFacts_74 : decode cX7_countFacts 74 = .ok (.iload_n 2, 1) := dk_28 (dk_at dksX7_countFacts_3 3 rfl rfl)
theorem dX7_countFacts_75 : decode cX7_countFacts 75 = .ok (.dup2, 1) := dk_92 (dk_at dksX7_countFacts_3 4 rfl rfl)
theorem dX7_countFacts_76 : decode cX7_countFacts 76 = .ok (.iaload, 1) := dk_46 (dk_at dksX7_countFacts_3 5 rfl rfl)
theorem dX7_countFacts_77 : decode cX7_countFacts 77 = .ok (.aload_n 0, 1) := dk_42 (dk_at dksX7_countFacts_3 6 rfl rfl)
theorem dX7_countFacts_78 : decode cX7_countFacts 78 = .ok (.getfield 93, 3) := dk_180 0 93 (dk_at dksX7_countFacts_3 7 rfl rfl)
theorem dX7_countFacts_81 : decode cX7_countFacts 81 = .ok (.iload_n 2, 1) := dk_28 (dk_at dksX7_countFacts_3 10 rfl rfl)
theorem dX7_countFacts_82 : decode cX7_countFacts 82 = .ok (.baload, 1) := dk_51 (dk_at dksX7_countFacts_3 11 rfl rfl)
theorem dX7_countFacts_83 : decode cX7_countFacts 83 = .ok (.ifCond .eq 7, 3) := dk_153 0 7 (dk_at dksX7_countFacts_3 12 rfl rfl)
theorem dX7_countFacts_86 : decode cX7_countFacts 86 = .ok (.iconst 1, 1) := dk_4 (dk_at dksX7_countFacts_3 15 rfl rfl)
theorem dX7_countFacts_87 : decode cX7_countFacts 87 = .ok (.goto 4, 3) := dk_167 0 4 (dk_at dksX7_countFacts_3 16 rfl rfl)
theorem dX7_countFacts_90 : decode cX7_countFacts 90 = .ok (.iconst 0, 1) := dk_3 (dk_at dksX7_countFacts_3 19 rfl rfl)
theorem dX7_countFacts_91 : decode cX7_countFacts 91 = .ok (.iadd, 1) := dk_96 (dk_at dksX7_countFacts_3 20 rfl rfl)
theorem dX7_countFacts_92 : decode cX7_countFacts 92 = .ok (.iastore, 1) := dk_79 (dk_at dksX7_countFacts_3 21 rfl rfl)
theorem dX7_countFacts_93 : decode cX7_countFacts 93 = .ok (.iinc 2 1, 3) := dk_132 2 1 (dk_at dksX7_countFacts_4 0 rfl rfl)
theorem dX7_countFacts_96 : decode cX7_countFacts 96 = .ok (.goto (-34), 3) := dk_167 255 222 (dk_at dksX7_countFacts_4 3 rfl rfl)
theorem dX7_countFacts_99 : decode cX7_countFacts 99 = .ok (.iinc 1 1, 3) := dk_132 1 1 (dk_at dksX7_countFacts_4 6 rfl rfl)
theorem dX7_countFacts_102 : decode cX7_countFacts 102 = .ok (.goto (-70), 3) := dk_167 255 186 (dk_at dksX7_countFacts_4 9 rfl rfl)
theorem dX7_countFacts_105 : decode cX7_countFacts 105 = .ok (.return_, 1) := dk_177 (dk_at dksX7_countFacts_4 12 rfl rfl)
abbrev cX7_cause : ByteArray := prog_33_method_93_code
def yX7_cause : MethodName := ⟨RX7, "cause", "(IIII)I"⟩
def dkwX7_cause_4 : List UInt8 := [184, 1, 188, 172]
abbrev dktX7_cause_4 : List UInt8 := dkwX7_cause_4 ++ []
def dkwX7_cause_3 : List UInt8 := [180, 0, 123, 21, 5, 46, 158, 0, 7, 4, 167, 0, 4, 3, 182, 1, 181, 42, 182, 1, 185, 21, 4]
abbrev dktX7_cause_3 : List UInt8 := dkwX7_cause_3 ++ dktX7_cause_4
def dkwX7_cause_2 : List UInt8 := [153, 0, 19, 42, 180, 0, 123, 21, 5, 46, 42, 180, 1, 191, 159, 0, 5, 2, 172, 42, 21, 5, 42]
abbrev dktX7_cause_2 : List UInt8 := dkwX7_cause_2 ++ dktX7_cause_3
def dkwX7_cause_1 : List UInt8 := [154, 0, 5, 2, 172, 42, 182, 1, 194, 42, 180, 1, 191, 153, 0, 27, 42, 180, 0, 123, 21, 5, 46]
abbrev dktX7_cause_1 : List UInt8 := dkwX7_cause_1 ++ dktX7_cause_2
def dkwX7_cause_0 : List UInt8 := [42, 3, 181, 0, 142, 42, 27, 28, 29, 182, 0, 179, 54, 5, 21, 5, 2, 159, 0, 10, 42, 182, 0, 182]
abbrev dktX7_cause_0 : List UInt8 := dkwX7_cause_0 ++ dktX7_cause_1
theorem dksX7_cause_0 : cX7_cause.data.toList.drop 0 = dktX7_cause_0 := by decide +kernel
theorem dksX7_cause_1 : cX7_cause.data.toList.drop 24 = dktX7_cause_1 := dk_seg dksX7_cause_0 24 rfl rfl
theorem dksX7_cause_2 : cX7_cause.data.toList.drop 47 = dktX7_cause_2 := dk_seg dksX7_cause_1 23 rfl rfl
theorem dksX7_cause_3 : cX7_cause.data.toList.drop 70 = dktX7_cause_3 := dk_seg dksX7_cause_2 23 rfl rfl
theorem dksX7_cause_4 : cX7_cause.data.toList.drop 93 = dktX7_cause_4 := dk_seg dksX7_cause_3 23 rfl rfl
theorem dX7_cause_0 : decode cX7_cause 0 = .ok (.aload_n 0, 1) := dk_42 (dk_at dksX7_cause_0 0 rfl rfl)
theorem dX7_cause_1 : decode cX7_cause 1 = .ok (.iconst 0, 1) := dk_3 (dk_at dksX7_cause_0 1 rfl rfl)
theorem dX7_cause_2 : decode cX7_cause 2 = .ok (.putfield 142, 3) := dk_181 0 142 (dk_at dksX7_cause_0 2 rfl rfl)
theorem dX7_cause_5 : decode cX7_cause 5 = .ok (.aload_n 0, 1) := dk_42 (dk_at dksX7_cause_0 5 rfl rfl)
theorem dX7_cause_6 : decode cX7_cause 6 = .ok (.iload_n 1, 1) := dk_27 (dk_at dksX7_cause_0 6 rfl rfl)
theorem dX7_cause_7 : decode cX7_cause 7 = .ok (.iload_n 2, 1) := dk_28 (dk_at dksX7_cause_0 7 rfl rfl)
theorem dX7_cause_8 : decode cX7_cause 8 = .ok (.iload_n 3, 1) := dk_29 (dk_at dksX7_cause_0 8 rfl rfl)
theorem dX7_cause_9 : decode cX7_cause 9 = .ok (.invokevirtual 179, 3) := dk_182 0 179 (dk_at dksX7_cause_0 9 rfl rfl)
theorem dX7_cause_12 : decode cX7_cause 12 = .ok (.istore 5, 2) := dk_54 5 (dk_at dksX7_cause_0 12 rfl rfl)
theorem dX7_cause_14 : decode cX7_cause 14 = .ok (.iload 5, 2) := dk_21 5 (dk_at dksX7_cause_0 14 rfl rfl)
theorem dX7_cause_16 : decode cX7_cause 16 = .ok (.iconst (-1), 1) := dk_2 (dk_at dksX7_cause_0 16 rfl rfl)
theorem dX7_cause_17 : decode cX7_cause 17 = .ok (.if_icmp .eq 10, 3) := dk_159 0 10 (dk_at dksX7_cause_0 17 rfl rfl)
theorem dX7_cause_20 : decode cX7_cause 20 = .ok (.aload_n 0, 1) := dk_42 (dk_at dksX7_cause_0 20 rfl rfl)
theorem dX7_cause_21 : decode cX7_cause 21 = .ok (.invokevirtual 182, 3) := dk_182 0 182 (dk_at dksX7_cause_0 21 rfl rfl)
theorem dX7_cause_24 : decode cX7_cause 24 = .ok (.ifCond .ne 5, 3) := dk_154 0 5 (dk_at dksX7_cause_1 0 rfl rfl)
theorem dX7_cause_27 : decode cX7_cause 27 = .ok (.iconst (-1), 1) := dk_2 (dk_at dksX7_cause_1 3 rfl rfl)
theorem dX7_cause_28 : decode cX7_cause 28 = .ok (.ireturn, 1) := dk_172 (dk_at dksX7_cause_1 4 rfl rfl)
theorem dX7_cause_29 : decode cX7_cause 29 = .ok (.aload_n 0, 1) := dk_42 (dk_at dksX7_cause_1 5 rfl rfl)
theorem dX7_cause_30 : decode cX7_cause 30 = .ok (.invokevirtual 450, 3) := dk_182 1 194 (dk_at dksX7_cause_1 6 rfl rfl)
theorem dX7_cause_33 : decode cX7_cause 33 = .ok (.aload_n 0, 1) := dk_42 (dk_at dksX7_cause_1 9 rfl rfl)
theorem dX7_cause_34 : decode cX7_cause 34 = .ok (.getfield 447, 3) := dk_180 1 191 (dk_at dksX7_cause_1 10 rfl rfl)
theorem dX7_cause_37 : decode cX7_cause 37 = .ok (.ifCond .eq 27, 3) := dk_153 0 27 (dk_at dksX7_cause_1 13 rfl rfl)
theorem dX7_cause_40 : decode cX7_cause 40 = .ok (.aload_n 0, 1) := dk_42 (dk_at dksX7_cause_1 16 rfl rfl)
theorem dX7_cause_41 : decode cX7_cause 41 = .ok (.getfield 123, 3) := dk_180 0 123 (dk_at dksX7_cause_1 17 rfl rfl)
theorem dX7_cause_44 : decode cX7_cause 44 = .ok (.iload 5, 2) := dk_21 5 (dk_at dksX7_cause_1 20 rfl rfl)
theorem dX7_cause_46 : decode cX7_cause 46 = .ok (.iaload, 1) := dk_46 (dk_at dksX7_cause_1 22 rfl rfl)
theorem dX7_cause_47 : decode cX7_cause 47 = .ok (.ifCond .eq 19, 3) := dk_153 0 19 (dk_at dksX7_cause_2 0 rfl rfl)
theorem dX7_cause_50 : decode cX7_cause 50 = .ok (.aload_n 0, 1) := dk_42 (dk_at dksX7_cause_2 3 rfl rfl)
theorem dX7_cause_51 : decode cX7_cause 51 = .ok (.getfield 123, 3) := dk_180 0 123 (dk_at dksX7_cause_2 4 rfl rfl)
theorem dX7_cause_54 : decode cX7_cause 54 = .ok (.iload 5, 2) := dk_21 5 (dk_at dksX7_cause_2 7 rfl rfl)
theorem dX7_cause_56 : decode cX7_cause 56 = .ok (.iaload, 1) := dk_46 (dk_at dksX7_cause_2 9 rfl rfl)
theorem dX7_cause_57 : decode cX7_cause 57 = .ok (.aload_n 0, 1) := dk_42 (dk_at dksX7_cause_2 10 rfl rfl)
theorem dX7_cause_58 : decode cX7_cause 58 = .ok (.getfield 447, 3) := dk_180 1 191 (dk_at dksX7_cause_2 11 rfl rfl)
theorem dX7_cause_61 : decode cX7_cause 61 = .ok (.if_icmp .eq 5, 3) := dk_159 0 5 (dk_at dksX7_cause_2 14 rfl rfl)
theorem dX7_cause_64 : decode cX7_cause 64 = .ok (.iconst (-1), 1) := dk_2 (dk_at dksX7_cause_2 17 rfl rfl)
theorem dX7_cause_65 : decode cX7_cause 65 = .ok (.ireturn, 1) := dk_172 (dk_at dksX7_cause_2 18 rfl rfl)
theorem dX7_cause_66 : decode cX7_cause 66 = .ok (.aload_n 0, 1) := dk_42 (dk_at dksX7_cause_2 19 rfl rfl)
theorem dX7_cause_67 : decode cX7_cause 67 = .ok (.iload 5, 2) := dk_21 5 (dk_at dksX7_cause_2 20 rfl rfl)
theorem dX7_cause_69 : decode cX7_cause 69 = .ok (.aload_n 0, 1) := dk_42 (dk_at dksX7_cause_2 22 rfl rfl)
theorem dX7_cause_70 : decode cX7_cause 70 = .ok (.getfield 123, 3) := dk_180 0 123 (dk_at dksX7_cause_3 0 rfl rfl)
theorem dX7_cause_73 : decode cX7_cause 73 = .ok (.iload 5, 2) := dk_21 5 (dk_at dksX7_cause_3 3 rfl rfl)
theorem dX7_cause_75 : decode cX7_cause 75 = .ok (.iaload, 1) := dk_46 (dk_at dksX7_cause_3 5 rfl rfl)
theorem dX7_cause_76 : decode cX7_cause 76 = .ok (.ifCond .le 7, 3) := dk_158 0 7 (dk_at dksX7_cause_3 6 rfl rfl)
theorem dX7_cause_79 : decode cX7_cause 79 = .ok (.iconst 1, 1) := dk_4 (dk_at dksX7_cause_3 9 rfl rfl)
theorem dX7_cause_80 : decode cX7_cause 80 = .ok (.goto 4, 3) := dk_167 0 4 (dk_at dksX7_cause_3 10 rfl rfl)
theorem dX7_cause_83 : decode cX7_cause 83 = .ok (.iconst 0, 1) := dk_3 (dk_at dksX7_cause_3 13 rfl rfl)
theorem dX7_cause_84 : decode cX7_cause 84 = .ok (.invokevirtual 437, 3) := dk_182 1 181 (dk_at dksX7_cause_3 14 rfl rfl)
theorem dX7_cause_87 : decode cX7_cause 87 = .ok (.aload_n 0, 1) := dk_42 (dk_at dksX7_cause_3 17 rfl rfl)
theorem dX7_cause_88 : decode cX7_cause 88 = .ok (.invokevirtual 441, 3) := dk_182 1 185 (dk_at dksX7_cause_3 18 rfl rfl)
theorem dX7_cause_91 : decode cX7_cause 91 = .ok (.iload 4, 2) := dk_21 4 (dk_at dksX7_cause_3 21 rfl rfl)
theorem dX7_cause_93 : decode cX7_cause 93 = .ok (.invokestatic 444, 3) := dk_184 1 188 (dk_at dksX7_cause_4 0 rfl rfl)
theorem dX7_cause_96 : decode cX7_cause 96 = .ok (.ireturn, 1) := dk_172 (dk_at dksX7_cause_4 3 rfl rfl)
abbrev cX7_without : ByteArray := prog_33_method_94_code
def yX7_without : MethodName := ⟨RX7, "without", "(I)I"⟩
def dkwX7_without_4 : List UInt8 := [167, 255, 227, 28, 172]
abbrev dktX7_without_4 : List UInt8 := dkwX7_without_4 ++ []
def dkwX7_without_3 : List UInt8 := [162, 0, 25, 28, 42, 29, 182, 1, 148, 153, 0, 7, 4, 167, 0, 4, 3, 96, 61, 132, 3, 1]
abbrev dktX7_without_3 : List UInt8 := dkwX7_without_3 ++ dktX7_without_4
def dkwX7_without_2 : List UInt8 := [172, 42, 89, 180, 1, 127, 4, 27, 120, 130, 181, 1, 127, 3, 61, 3, 62, 29, 4, 42, 182, 0, 171, 120]
abbrev dktX7_without_2 : List UInt8 := dkwX7_without_2 ++ dktX7_without_3
def dkwX7_without_1 : List UInt8 := [182, 0, 182, 154, 0, 5, 2, 172, 42, 182, 1, 154, 42, 180, 1, 127, 27, 122, 4, 126, 154, 0, 5, 2]
abbrev dktX7_without_1 : List UInt8 := dkwX7_without_1 ++ dktX7_without_2
def dkwX7_without_0 : List UInt8 := [42, 3, 181, 0, 142, 27, 3, 42, 180, 0, 45, 3, 46, 4, 100, 184, 0, 160, 153, 0, 10, 42]
abbrev dktX7_without_0 : List UInt8 := dkwX7_without_0 ++ dktX7_without_1
theorem dksX7_without_0 : cX7_without.data.toList.drop 0 = dktX7_without_0 := by decide +kernel
theorem dksX7_without_1 : cX7_without.data.toList.drop 22 = dktX7_without_1 := dk_seg dksX7_without_0 22 rfl rfl
theorem dksX7_without_2 : cX7_without.data.toList.drop 46 = dktX7_without_2 := dk_seg dksX7_without_1 24 rfl rfl
theorem dksX7_without_3 : cX7_without.data.toList.drop 70 = dktX7_without_3 := dk_seg dksX7_without_2 24 rfl rfl
theorem dksX7_without_4 : cX7_without.data.toList.drop 92 = dktX7_without_4 := dk_seg dksX7_without_3 22 rfl rfl
theorem dX7_without_0 : decode cX7_without 0 = .ok (.aload_n 0, 1) := dk_42 (dk_at dksX7_without_0 0 rfl rfl)
theorem dX7_without_1 : decode cX7_without 1 = .ok (.iconst 0, 1) := dk_3 (dk_at dksX7_without_0 1 rfl rfl)
theorem dX7_without_2 : decode cX7_without 2 = .ok (.putfield 142, 3) := dk_181 0 142 (dk_at dksX7_without_0 2 rfl rfl)
theorem dX7_without_5 : decode cX7_without 5 = .ok (.iload_n 1, 1) := dk_27 (dk_at dksX7_without_0 5 rfl rfl)
theorem dX7_without_6 : decode cX7_without 6 = .ok (.iconst 0, 1) := dk_3 (dk_at dksX7_without_0 6 rfl rfl)
theorem dX7_without_7 : decode cX7_without 7 = .ok (.aload_n 0, 1) := dk_42 (dk_at dksX7_without_0 7 rfl rfl)
theorem dX7_without_8 : decode cX7_without 8 = .ok (.getfield 45, 3) := dk_180 0 45 (dk_at dksX7_without_0 8 rfl rfl)
theorem dX7_without_11 : decode cX7_without 11 = .ok (.iconst 0, 1) := dk_3 (dk_at dksX7_without_0 11 rfl rfl)
theorem dX7_without_12 : decode cX7_without 12 = .ok (.iaload, 1) := dk_46 (dk_at dksX7_without_0 12 rfl rfl)
theorem dX7_without_13 : decode cX7_without 13 = .ok (.iconst 1, 1) := dk_4 (dk_at dksX7_without_0 13 rfl rfl)
theorem dX7_without_14 : decode cX7_without 14 = .ok (.isub, 1) := dk_100 (dk_at dksX7_without_0 14 rfl rfl)
theorem dX7_without_15 : decode cX7_without 15 = .ok (.invokestatic 160, 3) := dk_184 0 160 (dk_at dksX7_without_0 15 rfl rfl)
theorem dX7_without_18 : decode cX7_without 18 = .ok (.ifCond .eq 10, 3) := dk_153 0 10 (dk_at dksX7_without_0 18 rfl rfl)
theorem dX7_without_21 : decode cX7_without 21 = .ok (.aload_n 0, 1) := dk_42 (dk_at dksX7_without_0 21 rfl rfl)
theorem dX7_without_22 : decode cX7_without 22 = .ok (.invokevirtual 182, 3) := dk_182 0 182 (dk_at dksX7_without_1 0 rfl rfl)
theorem dX7_without_25 : decode cX7_without 25 = .ok (.ifCond .ne 5, 3) := dk_154 0 5 (dk_at dksX7_without_1 3 rfl rfl)
theorem dX7_without_28 : decode cX7_without 28 = .ok (.iconst (-1), 1) := dk_2 (dk_at dksX7_without_1 6 rfl rfl)
theorem dX7_without_29 : decode cX7_without 29 = .ok (.ireturn, 1) := dk_172 (dk_at dksX7_without_1 7 rfl rfl)
theorem dX7_without_30 : decode cX7_without 30 = .ok (.aload_n 0, 1) := dk_42 (dk_at dksX7_without_1 8 rfl rfl)
theorem dX7_without_31 : decode cX7_without 31 = .ok (.invokevirtual 410, 3) := dk_182 1 154 (dk_at dksX7_without_1 9 rfl rfl)
theorem dX7_without_34 : decode cX7_without 34 = .ok (.aload_n 0, 1) := dk_42 (dk_at dksX7_without_1 12 rfl rfl)
theorem dX7_without_35 : decode cX7_without 35 = .ok (.getfield 383, 3) := dk_180 1 127 (dk_at dksX7_without_1 13 rfl rfl)
theorem dX7_without_38 : decode cX7_without 38 = .ok (.iload_n 1, 1) := dk_27 (dk_at dksX7_without_1 16 rfl rfl)
theorem dX7_without_39 : decode cX7_without 39 = .ok (.ishr, 1) := dk_122 (dk_at dksX7_without_1 17 rfl rfl)
theorem dX7_without_40 : decode cX7_without 40 = .ok (.iconst 1, 1) := dk_4 (dk_at dksX7_without_1 18 rfl rfl)
theorem dX7_without_41 : decode cX7_without 41 = .ok (.iand, 1) := dk_126 (dk_at dksX7_without_1 19 rfl rfl)
theorem dX7_without_42 : decode cX7_without 42 = .ok (.ifCond .ne 5, 3) := dk_154 0 5 (dk_at dksX7_without_1 20 rfl rfl)
theorem dX7_without_45 : decode cX7_without 45 = .ok (.iconst (-1), 1) := dk_2 (dk_at dksX7_without_1 23 rfl rfl)
theorem dX7_without_46 : decode cX7_without 46 = .ok (.ireturn, 1) := dk_172 (dk_at dksX7_without_2 0 rfl rfl)
theorem dX7_without_47 : decode cX7_without 47 = .ok (.aload_n 0, 1) := dk_42 (dk_at dksX7_without_2 1 rfl rfl)
theorem dX7_without_48 : decode cX7_without 48 = .ok (.dup, 1) := dk_89 (dk_at dksX7_without_2 2 rfl rfl)
theorem dX7_without_49 : decode cX7_without 49 = .ok (.getfield 383, 3) := dk_180 1 127 (dk_at dksX7_without_2 3 rfl rfl)
theorem dX7_without_52 : decode cX7_without 52 = .ok (.iconst 1, 1) := dk_4 (dk_at dksX7_without_2 6 rfl rfl)
theorem dX7_without_53 : decode cX7_without 53 = .ok (.iload_n 1, 1) := dk_27 (dk_at dksX7_without_2 7 rfl rfl)
theorem dX7_without_54 : decode cX7_without 54 = .ok (.ishl, 1) := dk_120 (dk_at dksX7_without_2 8 rfl rfl)
theorem dX7_without_55 : decode cX7_without 55 = .ok (.ixor, 1) := dk_130 (dk_at dksX7_without_2 9 rfl rfl)
theorem dX7_without_56 : decode cX7_without 56 = .ok (.putfield 383, 3) := dk_181 1 127 (dk_at dksX7_without_2 10 rfl rfl)
theorem dX7_without_59 : decode cX7_without 59 = .ok (.iconst 0, 1) := dk_3 (dk_at dksX7_without_2 13 rfl rfl)
theorem dX7_without_60 : decode cX7_without 60 = .ok (.istore_n 2, 1) := dk_61 (dk_at dksX7_without_2 14 rfl rfl)
theorem dX7_without_61 : decode cX7_without 61 = .ok (.iconst 0, 1) := dk_3 (dk_at dksX7_without_2 15 rfl rfl)
theorem dX7_without_62 : decode cX7_without 62 = .ok (.istore_n 3, 1) := dk_62 (dk_at dksX7_without_2 16 rfl rfl)
theorem dX7_without_63 : decode cX7_without 63 = .ok (.iload_n 3, 1) := dk_29 (dk_at dksX7_without_2 17 rfl rfl)
theorem dX7_without_64 : decode cX7_without 64 = .ok (.iconst 1, 1) := dk_4 (dk_at dksX7_without_2 18 rfl rfl)
theorem dX7_without_65 : decode cX7_without 65 = .ok (.aload_n 0, 1) := dk_42 (dk_at dksX7_without_2 19 rfl rfl)
theorem dX7_without_66 : decode cX7_without 66 = .ok (.invokevirtual 171, 3) := dk_182 0 171 (dk_at dksX7_without_2 20 rfl rfl)
theorem dX7_without_69 : decode cX7_without 69 = .ok (.ishl, 1) := dk_120 (dk_at dksX7_without_2 23 rfl rfl)
theorem dX7_without_70 : decode cX7_without 70 = .ok (.if_icmp .ge 25, 3) := dk_162 0 25 (dk_at dksX7_without_3 0 rfl rfl)
theorem dX7_without_73 : decode cX7_without 73 = .ok (.iload_n 2, 1) := dk_28 (dk_at dksX7_without_3 3 rfl rfl)
theorem dX7_without_74 : decode cX7_without 74 = .ok (.aload_n 0, 1) := dk_42 (dk_at dksX7_without_3 4 rfl rfl)
theorem dX7_without_75 : decode cX7_without 75 = .ok (.iload_n 3, 1) := dk_29 (dk_at dksX7_without_3 5 rfl rfl)
theorem dX7_without_76 : decode cX7_without 76 = .ok (.invokevirtual 404, 3) := dk_182 1 148 (dk_at dksX7_without_3 6 rfl rfl)
theorem dX7_without_79 : decode cX7_without 79 = .ok (.ifCond .eq 7, 3) := dk_153 0 7 (dk_at dksX7_without_3 9 rfl rfl)
theorem dX7_without_82 : decode cX7_without 82 = .ok (.iconst 1, 1) := dk_4 (dk_at dksX7_without_3 12 rfl rfl)
theorem dX7_without_83 : decode cX7_without 83 = .ok (.goto 4, 3) := dk_167 0 4 (dk_at dksX7_without_3 13 rfl rfl)
theorem dX7_without_86 : decode cX7_without 86 = .ok (.iconst 0, 1) := dk_3 (dk_at dksX7_without_3 16 rfl rfl)
theorem dX7_without_87 : decode cX7_without 87 = .ok (.iadd, 1) := dk_96 (dk_at dksX7_without_3 17 rfl rfl)
theorem dX7_without_88 : decode cX7_without 88 = .ok (.istore_n 2, 1) := dk_61 (dk_at dksX7_without_3 18 rfl rfl)
theorem dX7_without_89 : decode cX7_without 89 = .ok (.iinc 3 1, 3) := dk_132 3 1 (dk_at dksX7_without_3 19 rfl rfl)
theorem dX7_without_92 : decode cX7_without 92 = .ok (.goto (-29), 3) := dk_167 255 227 (dk_at dksX7_without_4 0 rfl rfl)
theorem dX7_without_95 : decode cX7_without 95 = .ok (.iload_n 2, 1) := dk_28 (dk_at dksX7_without_4 3 rfl rfl)
theorem dX7_without_96 : decode cX7_without 96 = .ok (.ireturn, 1) := dk_172 (dk_at dksX7_without_4 4 rfl rfl)
abbrev cX7_questions : ByteArray := prog_33_method_97_code
def yX7_questions : MethodName := ⟨RX7, "questions", "()I"⟩
def dkwX7_questions_8 : List UInt8 := [29, 42, 180, 0, 133, 29, 51, 84, 132, 3, 1, 167, 255, 234, 132, 2, 1, 167, 255, 163, 2, 172]
abbrev dktX7_questions_8 : List UInt8 := dkwX7_questions_8 ++ []
def dkwX7_questions_7 : List UInt8 := [167, 0, 4, 3, 84, 132, 3, 1, 167, 255, 218, 3, 62, 29, 4, 27, 120, 162, 0, 21, 42, 180, 0, 130]
abbrev dktX7_questions_7 : List UInt8 := dkwX7_questions_7 ++ dktX7_questions_8
def dkwX7_questions_6 : List UInt8 := [180, 0, 133, 29, 42, 180, 0, 130, 29, 51, 154, 0, 11, 42, 29, 182, 1, 200, 153, 0, 7, 4]
abbrev dktX7_questions_6 : List UInt8 := dkwX7_questions_6 ++ dktX7_questions_7
def dkwX7_questions_5 : List UInt8 := [180, 0, 130, 4, 27, 120, 4, 100, 51, 153, 0, 5, 28, 172, 3, 62, 29, 4, 27, 120, 162, 0, 37, 42]
abbrev dktX7_questions_5 : List UInt8 := dkwX7_questions_5 ++ dktX7_questions_6
def dkwX7_questions_4 : List UInt8 := [154, 0, 7, 4, 167, 0, 4, 3, 84, 132, 2, 1, 167, 255, 227, 3, 61, 28, 7, 163, 0, 94, 42]
abbrev dktX7_questions_4 : List UInt8 := dkwX7_questions_4 ++ dktX7_questions_5
def dkwX7_questions_3 : List UInt8 := [182, 1, 197, 3, 61, 28, 4, 27, 120, 162, 0, 28, 42, 180, 0, 130, 28, 28, 28, 4, 100, 126]
abbrev dktX7_questions_3 : List UInt8 := dkwX7_questions_3 ++ dktX7_questions_4
def dkwX7_questions_2 : List UInt8 := [42, 180, 0, 126, 27, 28, 79, 132, 1, 1, 132, 2, 1, 167, 255, 217, 27, 154, 0, 5, 2, 172, 42, 27]
abbrev dktX7_questions_2 : List UInt8 := dkwX7_questions_2 ++ dktX7_questions_3
def dkwX7_questions_1 : List UInt8 := [42, 182, 0, 171, 120, 162, 0, 35, 42, 28, 182, 1, 148, 153, 0, 21, 27, 16, 16, 160, 0, 5, 2, 172]
abbrev dktX7_questions_1 : List UInt8 := dkwX7_questions_1 ++ dktX7_questions_2
def dkwX7_questions_0 : List UInt8 := [42, 3, 181, 0, 142, 42, 182, 0, 182, 154, 0, 5, 2, 172, 42, 182, 1, 154, 3, 60, 3, 61, 28, 4]
abbrev dktX7_questions_0 : List UInt8 := dkwX7_questions_0 ++ dktX7_questions_1
theorem dksX7_questions_0 : cX7_questions.data.toList.drop 0 = dktX7_questions_0 := by decide +kernel
theorem dksX7_questions_1 : cX7_questions.data.toList.drop 24 = dktX7_questions_1 := dk_seg dksX7_questions_0 24 rfl rfl
theorem dksX7_questions_2 : cX7_questions.data.toList.drop 48 = dktX7_questions_2 := dk_seg dksX7_questions_1 24 rfl rfl
theorem dksX7_questions_3 : cX7_questions.data.toList.drop 72 = dktX7_questions_3 := dk_seg dksX7_questions_2 24 rfl rfl
theorem dksX7_questions_4 : cX7_questions.data.toList.drop 94 = dktX7_questions_4 := dk_seg dksX7_questions_3 22 rfl rfl
theorem dksX7_questions_5 : cX7_questions.data.toList.drop 117 = dktX7_questions_5 := dk_seg dksX7_questions_4 23 rfl rfl
theorem dksX7_questions_6 : cX7_questions.data.toList.drop 141 = dktX7_questions_6 := dk_seg dksX7_questions_5 24 rfl rfl
theorem dksX7_questions_7 : cX7_questions.data.toList.drop 163 = dktX7_questions_7 := dk_seg dksX7_questions_6 22 rfl rfl
theorem dksX7_questions_8 : cX7_questions.data.toList.drop 187 = dktX7_questions_8 := dk_seg dksX7_questions_7 24 rfl rfl
theorem dX7_questions_0 : decode cX7_questions 0 = .ok (.aload_n 0, 1) := dk_42 (dk_at dksX7_questions_0 0 rfl rfl)
theorem dX7_questions_1 : decode cX7_questions 1 = .ok (.iconst 0, 1) := dk_3 (dk_at dksX7_questions_0 1 rfl rfl)
theorem dX7_questions_2 : decode cX7_questions 2 = .ok (.putfield 142, 3) := dk_181 0 142 (dk_at dksX7_questions_0 2 rfl rfl)
theorem dX7_questions_5 : decode cX7_questions 5 = .ok (.aload_n 0, 1) := dk_42 (dk_at dksX7_questions_0 5 rfl rfl)
theorem dX7_questions_6 : decode cX7_questions 6 = .ok (.invokevirtual 182, 3) := dk_182 0 182 (dk_at dksX7_questions_0 6 rfl rfl)
theorem dX7_questions_9 : decode cX7_questions 9 = .ok (.ifCond .ne 5, 3) := dk_154 0 5 (dk_at dksX7_questions_0 9 rfl rfl)
theorem dX7_questions_12 : decode cX7_questions 12 = .ok (.iconst (-1), 1) := dk_2 (dk_at dksX7_questions_0 12 rfl rfl)
theorem dX7_questions_13 : decode cX7_questions 13 = .ok (.ireturn, 1) := dk_172 (dk_at dksX7_questions_0 13 rfl rfl)
theorem dX7_questions_14 : decode cX7_questions 14 = .ok (.aload_n 0, 1) := dk_42 (dk_at dksX7_questions_0 14 rfl rfl)
theorem dX7_questions_15 : decode cX7_questions 15 = .ok (.invokevirtual 410, 3) := dk_182 1 154 (dk_at dksX7_questions_0 15 rfl rfl)
theorem dX7_questions_18 : decode cX7_questions 18 = .ok (.iconst 0, 1) := dk_3 (dk_at dksX7_questions_0 18 rfl rfl)
theorem dX7_questions_19 : decode cX7_questions 19 = .ok (.istore_n 1, 1) := dk_60 (dk_at dksX7_questions_0 19 rfl rfl)
theorem dX7_questions_20 : decode cX7_questions 20 = .ok (.iconst 0, 1) := dk_3 (dk_at dksX7_questions_0 20 rfl rfl)
theorem dX7_questions_21 : decode cX7_questions 21 = .ok (.istore_n 2, 1) := dk_61 (dk_at dksX7_questions_0 21 rfl rfl)
theorem dX7_questions_22 : decode cX7_questions 22 = .ok (.iload_n 2, 1) := dk_28 (dk_at dksX7_questions_0 22 rfl rfl)
theorem dX7_questions_23 : decode cX7_questions 23 = .ok (.iconst 1, 1) := dk_4 (dk_at dksX7_questions_0 23 rfl rfl)
theorem dX7_questions_24 : decode cX7_questions 24 = .ok (.aload_n 0, 1) := dk_42 (dk_at dksX7_questions_1 0 rfl rfl)
theorem dX7_questions_25 : decode cX7_questions 25 = .ok (.invokevirtual 171, 3) := dk_182 0 171 (dk_at dksX7_questions_1 1 rfl rfl)
theorem dX7_questions_28 : decode cX7_questions 28 = .ok (.ishl, 1) := dk_120 (dk_at dksX7_questions_1 4 rfl rfl)
theorem dX7_questions_29 : decode cX7_questions 29 = .ok (.if_icmp .ge 35, 3) := dk_162 0 35 (dk_at dksX7_questions_1 5 rfl rfl)
theorem dX7_questions_32 : decode cX7_questions 32 = .ok (.aload_n 0, 1) := dk_42 (dk_at dksX7_questions_1 8 rfl rfl)
theorem dX7_questions_33 : decode cX7_questions 33 = .ok (.iload_n 2, 1) := dk_28 (dk_at dksX7_questions_1 9 rfl rfl)
theorem dX7_questions_34 : decode cX7_questions 34 = .ok (.invokevirtual 404, 3) := dk_182 1 148 (dk_at dksX7_questions_1 10 rfl rfl)
theorem dX7_questions_37 : decode cX7_questions 37 = .ok (.ifCond .eq 21, 3) := dk_153 0 21 (dk_at dksX7_questions_1 13 rfl rfl)
theorem dX7_questions_40 : decode cX7_questions 40 = .ok (.iload_n 1, 1) := dk_27 (dk_at dksX7_questions_1 16 rfl rfl)
theorem dX7_questions_41 : decode cX7_questions 41 = .ok (.bipush 16, 2) := dk_16 16 (dk_at dksX7_questions_1 17 rfl rfl)
theorem dX7_questions_43 : decode cX7_questions 43 = .ok (.if_icmp .ne 5, 3) := dk_160 0 5 (dk_at dksX7_questions_1 19 rfl rfl)
theorem dX7_questions_46 : decode cX7_questions 46 = .ok (.iconst (-1), 1) := dk_2 (dk_at dksX7_questions_1 22 rfl rfl)
theorem dX7_questions_47 : decode cX7_questions 47 = .ok (.ireturn, 1) := dk_172 (dk_at dksX7_questions_1 23 rfl rfl)
theorem dX7_questions_48 : decode cX7_questions 48 = .ok (.aload_n 0, 1) := dk_42 (dk_at dksX7_questions_2 0 rfl rfl)
theorem dX7_questions_49 : decode cX7_questions 49 = .ok (.getfield 126, 3) := dk_180 0 126 (dk_at dksX7_questions_2 1 rfl rfl)
theorem dX7_questions_52 : decode cX7_questions 52 = .ok (.iload_n 1, 1) := dk_27 (dk_at dksX7_questions_2 4 rfl rfl)
theorem dX7_questions_53 : decode cX7_questions 53 = .ok (.iload_n 2, 1) := dk_28 (dk_at dksX7_questions_2 5 rfl rfl)
theorem dX7_questions_54 : decode cX7_questions 54 = .ok (.iastore, 1) := dk_79 (dk_at dksX7_questions_2 6 rfl rfl)
theorem dX7_questions_55 : decode cX7_questions 55 = .ok (.iinc 1 1, 3) := dk_132 1 1 (dk_at dksX7_questions_2 7 rfl rfl)
theorem dX7_questions_58 : decode cX7_questions 58 = .ok (.iinc 2 1, 3) := dk_132 2 1 (dk_at dksX7_questions_2 10 rfl rfl)
theorem dX7_questions_61 : decode cX7_questions 61 = .ok (.goto (-39), 3) := dk_167 255 217 (dk_at dksX7_questions_2 13 rfl rfl)
theorem dX7_questions_64 : decode cX7_questions 64 = .ok (.iload_n 1, 1) := dk_27 (dk_at dksX7_questions_2 16 rfl rfl)
theorem dX7_questions_65 : decode cX7_questions 65 = .ok (.ifCond .ne 5, 3) := dk_154 0 5 (dk_at dksX7_questions_2 17 rfl rfl)
theorem dX7_questions_68 : decode cX7_questions 68 = .ok (.iconst (-1), 1) := dk_2 (dk_at dksX7_questions_2 20 rfl rfl)
theorem dX7_questions_69 : decode cX7_questions 69 = .ok (.ireturn, 1) := dk_172 (dk_at dksX7_questions_2 21 rfl rfl)
theorem dX7_questions_70 : decode cX7_questions 70 = .ok (.aload_n 0, 1) := dk_42 (dk_at dksX7_questions_2 22 rfl rfl)
theorem dX7_questions_71 : decode cX7_questions 71 = .ok (.iload_n 1, 1) := dk_27 (dk_at dksX7_questions_2 23 rfl rfl)
theorem dX7_questions_72 : decode cX7_questions 72 = .ok (.invokevirtual 453, 3) := dk_182 1 197 (dk_at dksX7_questions_3 0 rfl rfl)
theorem dX7_questions_75 : decode cX7_questions 75 = .ok (.iconst 0, 1) := dk_3 (dk_at dksX7_questions_3 3 rfl rfl)
theorem dX7_questions_76 : decode cX7_questions 76 = .ok (.istore_n 2, 1) := dk_61 (dk_at dksX7_questions_3 4 rfl rfl)
theorem dX7_questions_77 : decode cX7_questions 77 = .ok (.iload_n 2, 1) := dk_28 (dk_at dksX7_questions_3 5 rfl rfl)
theorem dX7_questions_78 : decode cX7_questions 78 = .ok (.iconst 1, 1) := dk_4 (dk_at dksX7_questions_3 6 rfl rfl)
theorem dX7_questions_79 : decode cX7_questions 79 = .ok (.iload_n 1, 1) := dk_27 (dk_at dksX7_questions_3 7 rfl rfl)
theorem dX7_questions_80 : decode cX7_questions 80 = .ok (.ishl, 1) := dk_120 (dk_at dksX7_questions_3 8 rfl rfl)
theorem dX7_questions_81 : decode cX7_questions 81 = .ok (.if_icmp .ge 28, 3) := dk_162 0 28 (dk_at dksX7_questions_3 9 rfl rfl)
theorem dX7_questions_84 : decode cX7_questions 84 = .ok (.aload_n 0, 1) := dk_42 (dk_at dksX7_questions_3 12 rfl rfl)
theorem dX7_questions_85 : decode cX7_questions 85 = .ok (.getfield 130, 3) := dk_180 0 130 (dk_at dksX7_questions_3 13 rfl rfl)
theorem dX7_questions_88 : decode cX7_questions 88 = .ok (.iload_n 2, 1) := dk_28 (dk_at dksX7_questions_3 16 rfl rfl)
theorem dX7_questions_89 : decode cX7_questions 89 = .ok (.iload_n 2, 1) := dk_28 (dk_at dksX7_questions_3 17 rfl rfl)
theorem dX7_questions_90 : decode cX7_questions 90 = .ok (.iload_n 2, 1) := dk_28 (dk_at dksX7_questions_3 18 rfl rfl)
theorem dX7_questions_91 : decode cX7_questions 91 = .ok (.iconst 1, 1) := dk_4 (dk_at dksX7_questions_3 19 rfl rfl)
theorem dX7_questions_92 : decode cX7_questions 92 = .ok (.isub, 1) := dk_100 (dk_at dksX7_questions_3 20 rfl rfl)
theorem dX7_questions_93 : decode cX7_questions 93 = .ok (.iand, 1) := dk_126 (dk_at dksX7_questions_3 21 rfl rfl)
theorem dX7_questions_94 : decode cX7_questions 94 = .ok (.ifCond .ne 7, 3) := dk_154 0 7 (dk_at dksX7_questions_4 0 rfl rfl)
theorem dX7_questions_97 : decode cX7_questions 97 = .ok (.iconst 1, 1) := dk_4 (dk_at dksX7_questions_4 3 rfl rfl)
theorem dX7_questions_98 : decode cX7_questions 98 = .ok (.goto 4, 3) := dk_167 0 4 (dk_at dksX7_questions_4 4 rfl rfl)
theorem dX7_questions_101 : decode cX7_questions 101 = .ok (.iconst 0, 1) := dk_3 (dk_at dksX7_questions_4 7 rfl rfl)
theorem dX7_questions_102 : decode cX7_questions 102 = .ok (.bastore, 1) := dk_84 (dk_at dksX7_questions_4 8 rfl rfl)
theorem dX7_questions_103 : decode cX7_questions 103 = .ok (.iinc 2 1, 3) := dk_132 2 1 (dk_at dksX7_questions_4 9 rfl rfl)
theorem dX7_questions_106 : decode cX7_questions 106 = .ok (.goto (-29), 3) := dk_167 255 227 (dk_at dksX7_questions_4 12 rfl rfl)
theorem dX7_questions_109 : decode cX7_questions 109 = .ok (.iconst 0, 1) := dk_3 (dk_at dksX7_questions_4 15 rfl rfl)
theorem dX7_questions_110 : decode cX7_questions 110 = .ok (.istore_n 2, 1) := dk_61 (dk_at dksX7_questions_4 16 rfl rfl)
theorem dX7_questions_111 : decode cX7_questions 111 = .ok (.iload_n 2, 1) := dk_28 (dk_at dksX7_questions_4 17 rfl rfl)
theorem dX7_questions_112 : decode cX7_questions 112 = .ok (.iconst 4, 1) := dk_7 (dk_at dksX7_questions_4 18 rfl rfl)
theorem dX7_questions_113 : decode cX7_questions 113 = .ok (.if_icmp .gt 94, 3) := dk_163 0 94 (dk_at dksX7_questions_4 19 rfl rfl)
theorem dX7_questions_116 : decode cX7_questions 116 = .ok (.aload_n 0, 1) := dk_42 (dk_at dksX7_questions_4 22 rfl rfl)
theorem dX7_questions_117 : decode cX7_questions 117 = .ok (.getfield 130, 3) := dk_180 0 130 (dk_at dksX7_questions_5 0 rfl rfl)
theorem dX7_questions_120 : decode cX7_questions 120 = .ok (.iconst 1, 1) := dk_4 (dk_at dksX7_questions_5 3 rfl rfl)
theorem dX7_questions_121 : decode cX7_questions 121 = .ok (.iload_n 1, 1) := dk_27 (dk_at dksX7_questions_5 4 rfl rfl)
theorem dX7_questions_122 : decode cX7_questions 122 = .ok (.ishl, 1) := dk_120 (dk_at dksX7_questions_5 5 rfl rfl)
theorem dX7_questions_123 : decode cX7_questions 123 = .ok (.iconst 1, 1) := dk_4 (dk_at dksX7_questions_5 6 rfl rfl)
theorem dX7_questions_124 : decode cX7_questions 124 = .ok (.isub, 1) := dk_100 (dk_at dksX7_questions_5 7 rfl rfl)
theorem dX7_questions_125 : decode cX7_questions 125 = .ok (.baload, 1) := dk_51 (dk_at dksX7_questions_5 8 rfl rfl)
theorem dX7_questions_126 : decode cX7_questions 126 = .ok (.ifCond .eq 5, 3) := dk_153 0 5 (dk_at dksX7_questions_5 9 rfl rfl)
theorem dX7_questions_129 : decode cX7_questions 129 = .ok (.iload_n 2, 1) := dk_28 (dk_at dksX7_questions_5 12 rfl rfl)
theorem dX7_questions_130 : decode cX7_questions 130 = .ok (.ireturn, 1) := dk_172 (dk_at dksX7_questions_5 13 rfl rfl)
theorem dX7_questions_131 : decode cX7_questions 131 = .ok (.iconst 0, 1) := dk_3 (dk_at dksX7_questions_5 14 rfl rfl)
theorem dX7_questions_132 : decode cX7_questions 132 = .ok (.istore_n 3, 1) := dk_62 (dk_at dksX7_questions_5 15 rfl rfl)
theorem dX7_questions_133 : decode cX7_questions 133 = .ok (.iload_n 3, 1) := dk_29 (dk_at dksX7_questions_5 16 rfl rfl)
theorem dX7_questions_134 : decode cX7_questions 134 = .ok (.iconst 1, 1) := dk_4 (dk_at dksX7_questions_5 17 rfl rfl)
theorem dX7_questions_135 : decode cX7_questions 135 = .ok (.iload_n 1, 1) := dk_27 (dk_at dksX7_questions_5 18 rfl rfl)
theorem dX7_questions_136 : decode cX7_questions 136 = .ok (.ishl, 1) := dk_120 (dk_at dksX7_questions_5 19 rfl rfl)
theorem dX7_questions_137 : decode cX7_questions 137 = .ok (.if_icmp .ge 37, 3) := dk_162 0 37 (dk_at dksX7_questions_5 20 rfl rfl)
theorem dX7_questions_140 : decode cX7_questions 140 = .ok (.aload_n 0, 1) := dk_42 (dk_at dksX7_questions_5 23 rfl rfl)
theorem dX7_questions_141 : decode cX7_questions 141 = .ok (.getfield 133, 3) := dk_180 0 133 (dk_at dksX7_questions_6 0 rfl rfl)
theorem dX7_questions_144 : decode cX7_questions 144 = .ok (.iload_n 3, 1) := dk_29 (dk_at dksX7_questions_6 3 rfl rfl)
theorem dX7_questions_145 : decode cX7_questions 145 = .ok (.aload_n 0, 1) := dk_42 (dk_at dksX7_questions_6 4 rfl rfl)
theorem dX7_questions_146 : decode cX7_questions 146 = .ok (.getfield 130, 3) := dk_180 0 130 (dk_at dksX7_questions_6 5 rfl rfl)
theorem dX7_questions_149 : decode cX7_questions 149 = .ok (.iload_n 3, 1) := dk_29 (dk_at dksX7_questions_6 8 rfl rfl)
theorem dX7_questions_150 : decode cX7_questions 150 = .ok (.baload, 1) := dk_51 (dk_at dksX7_questions_6 9 rfl rfl)
theorem dX7_questions_151 : decode cX7_questions 151 = .ok (.ifCond .ne 11, 3) := dk_154 0 11 (dk_at dksX7_questions_6 10 rfl rfl)
theorem dX7_questions_154 : decode cX7_questions 154 = .ok (.aload_n 0, 1) := dk_42 (dk_at dksX7_questions_6 13 rfl rfl)
theorem dX7_questions_155 : decode cX7_questions 155 = .ok (.iload_n 3, 1) := dk_29 (dk_at dksX7_questions_6 14 rfl rfl)
theorem dX7_questions_156 : decode cX7_questions 156 = .ok (.invokevirtual 456, 3) := dk_182 1 200 (dk_at dksX7_questions_6 15 rfl rfl)
theorem dX7_questions_159 : decode cX7_questions 159 = .ok (.ifCond .eq 7, 3) := dk_153 0 7 (dk_at dksX7_questions_6 18 rfl rfl)
theorem dX7_questions_162 : decode cX7_questions 162 = .ok (.iconst 1, 1) := dk_4 (dk_at dksX7_questions_6 21 rfl rfl)
theorem dX7_questions_163 : decode cX7_questions 163 = .ok (.goto 4, 3) := dk_167 0 4 (dk_at dksX7_questions_7 0 rfl rfl)
theorem dX7_questions_166 : decode cX7_questions 166 = .ok (.iconst 0, 1) := dk_3 (dk_at dksX7_questions_7 3 rfl rfl)
theorem dX7_questions_167 : decode cX7_questions 167 = .ok (.bastore, 1) := dk_84 (dk_at dksX7_questions_7 4 rfl rfl)
theorem dX7_questions_168 : decode cX7_questions 168 = .ok (.iinc 3 1, 3) := dk_132 3 1 (dk_at dksX7_questions_7 5 rfl rfl)
theorem dX7_questions_171 : decode cX7_questions 171 = .ok (.goto (-38), 3) := dk_167 255 218 (dk_at dksX7_questions_7 8 rfl rfl)
theorem dX7_questions_174 : decode cX7_questions 174 = .ok (.iconst 0, 1) := dk_3 (dk_at dksX7_questions_7 11 rfl rfl)
theorem dX7_questions_175 : decode cX7_questions 175 = .ok (.istore_n 3, 1) := dk_62 (dk_at dksX7_questions_7 12 rfl rfl)
theorem dX7_questions_176 : decode cX7_questions 176 = .ok (.iload_n 3, 1) := dk_29 (dk_at dksX7_questions_7 13 rfl rfl)
theorem dX7_questions_177 : decode cX7_questions 177 = .ok (.iconst 1, 1) := dk_4 (dk_at dksX7_questions_7 14 rfl rfl)
theorem dX7_questions_178 : decode cX7_questions 178 = .ok (.iload_n 1, 1) := dk_27 (dk_at dksX7_questions_7 15 rfl rfl)
theorem dX7_questions_179 : decode cX7_questions 179 = .ok (.ishl, 1) := dk_120 (dk_at dksX7_questions_7 16 rfl rfl)
theorem dX7_questions_180 : decode cX7_questions 180 = .ok (.if_icmp .ge 21, 3) := dk_162 0 21 (dk_at dksX7_questions_7 17 rfl rfl)
theorem dX7_questions_183 : decode cX7_questions 183 = .ok (.aload_n 0, 1) := dk_42 (dk_at dksX7_questions_7 20 rfl rfl)
theorem dX7_questions_184 : decode cX7_questions 184 = .ok (.getfield 130, 3) := dk_180 0 130 (dk_at dksX7_questions_7 21 rfl rfl)
theorem dX7_questions_187 : decode cX7_questions 187 = .ok (.iload_n 3, 1) := dk_29 (dk_at dksX7_questions_8 0 rfl rfl)
theorem dX7_questions_188 : decode cX7_questions 188 = .ok (.aload_n 0, 1) := dk_42 (dk_at dksX7_questions_8 1 rfl rfl)
theorem dX7_questions_189 : decode cX7_questions 189 = .ok (.getfield 133, 3) := dk_180 0 133 (dk_at dksX7_questions_8 2 rfl rfl)
theorem dX7_questions_192 : decode cX7_questions 192 = .ok (.iload_n 3, 1) := dk_29 (dk_at dksX7_questions_8 5 rfl rfl)
theorem dX7_questions_193 : decode cX7_questions 193 = .ok (.baload, 1) := dk_51 (dk_at dksX7_questions_8 6 rfl rfl)
theorem dX7_questions_194 : decode cX7_questions 194 = .ok (.bastore, 1) := dk_84 (dk_at dksX7_questions_8 7 rfl rfl)
theorem dX7_questions_195 : decode cX7_questions 195 = .ok (.iinc 3 1, 3) := dk_132 3 1 (dk_at dksX7_questions_8 8 rfl rfl)
theorem dX7_questions_198 : decode cX7_questions 198 = .ok (.goto (-22), 3) := dk_167 255 234 (dk_at dksX7_questions_8 11 rfl rfl)
theorem dX7_questions_201 : decode cX7_questions 201 = .ok (.iinc 2 1, 3) := dk_132 2 1 (dk_at dksX7_questions_8 14 rfl rfl)
theorem dX7_questions_204 : decode cX7_questions 204 = .ok (.goto (-93), 3) := dk_167 255 163 (dk_at dksX7_questions_8 17 rfl rfl)
theorem dX7_questions_207 : decode cX7_questions 207 = .ok (.iconst (-1), 1) := dk_2 (dk_at dksX7_questions_8 20 rfl rfl)
theorem dX7_questions_208 : decode cX7_questions 208 = .ok (.ireturn, 1) := dk_172 (dk_at dksX7_questions_8 21 rfl rfl)
abbrev cX7_findYes : ByteArray := prog_33_method_95_code
def yX7_findYes : MethodName := ⟨RX7, "findYes", "(I)V"⟩
def dkwX7_findYes_2 : List UInt8 := [167, 0, 4, 3, 128, 79, 132, 3, 1, 167, 255, 219, 132, 2, 1, 167, 255, 196, 177]
abbrev dktX7_findYes_2 : List UInt8 := dkwX7_findYes_2 ++ []
def dkwX7_findYes_1 : List UInt8 := [42, 180, 0, 136, 28, 92, 46, 42, 180, 0, 126, 29, 46, 28, 122, 4, 126, 153, 0, 9, 4, 29, 120]
abbrev dktX7_findYes_1 : List UInt8 := dkwX7_findYes_1 ++ dktX7_findYes_2
def dkwX7_findYes_0 : List UInt8 := [3, 61, 28, 42, 182, 0, 171, 162, 0, 58, 42, 180, 0, 136, 28, 3, 79, 3, 62, 29, 27, 162, 0, 38]
abbrev dktX7_findYes_0 : List UInt8 := dkwX7_findYes_0 ++ dktX7_findYes_1
theorem dksX7_findYes_0 : cX7_findYes.data.toList.drop 0 = dktX7_findYes_0 := by decide +kernel
theorem dksX7_findYes_1 : cX7_findYes.data.toList.drop 24 = dktX7_findYes_1 := dk_seg dksX7_findYes_0 24 rfl rfl
theorem dksX7_findYes_2 : cX7_findYes.data.toList.drop 47 = dktX7_findYes_2 := dk_seg dksX7_findYes_1 23 rfl rfl
theorem dX7_findYes_0 : decode cX7_findYes 0 = .ok (.iconst 0, 1) := dk_3 (dk_at dksX7_findYes_0 0 rfl rfl)
theorem dX7_findYes_1 : decode cX7_findYes 1 = .ok (.istore_n 2, 1) := dk_61 (dk_at dksX7_findYes_0 1 rfl rfl)
theorem dX7_findYes_2 : decode cX7_findYes 2 = .ok (.iload_n 2, 1) := dk_28 (dk_at dksX7_findYes_0 2 rfl rfl)
theorem dX7_findYes_3 : decode cX7_findYes 3 = .ok (.aload_n 0, 1) := dk_42 (dk_at dksX7_findYes_0 3 rfl rfl)
theorem dX7_findYes_4 : decode cX7_findYes 4 = .ok (.invokevirtual 171, 3) := dk_182 0 171 (dk_at dksX7_findYes_0 4 rfl rfl)
theorem dX7_findYes_7 : decode cX7_findYes 7 = .ok (.if_icmp .ge 58, 3) := dk_162 0 58 (dk_at dksX7_findYes_0 7 rfl rfl)
theorem dX7_findYes_10 : decode cX7_findYes 10 = .ok (.aload_n 0, 1) := dk_42 (dk_at dksX7_findYes_0 10 rfl rfl)
theorem dX7_findYes_11 : decode cX7_findYes 11 = .ok (.getfield 136, 3) := dk_180 0 136 (dk_at dksX7_findYes_0 11 rfl rfl)
theorem dX7_findYes_14 : decode cX7_findYes 14 = .ok (.iload_n 2, 1) := dk_28 (dk_at dksX7_findYes_0 14 rfl rfl)
theorem dX7_findYes_15 : decode cX7_findYes 15 = .ok (.iconst 0, 1) := dk_3 (dk_at dksX7_findYes_0 15 rfl rfl)
theorem dX7_findYes_16 : decode cX7_findYes 16 = .ok (.iastore, 1) := dk_79 (dk_at dksX7_findYes_0 16 rfl rfl)
theorem dX7_findYes_17 : decode cX7_findYes 17 = .ok (.iconst 0, 1) := dk_3 (dk_at dksX7_findYes_0 17 rfl rfl)
theorem dX7_findYes_18 : decode cX7_findYes 18 = .ok (.istore_n 3, 1) := dk_62 (dk_at dksX7_findYes_0 18 rfl rfl)
theorem dX7_findYes_19 : decode cX7_findYes 19 = .ok (.iload_n 3, 1) := dk_29 (dk_at dksX7_findYes_0 19 rfl rfl)
theorem dX7_findYes_20 : decode cX7_findYes 20 = .ok (.iload_n 1, 1) := dk_27 (dk_at dksX7_findYes_0 20 rfl rfl)
theorem dX7_findYes_21 : decode cX7_findYes 21 = .ok (.if_icmp .ge 38, 3) := dk_162 0 38 (dk_at dksX7_findYes_0 21 rfl rfl)
theorem dX7_findYes_24 : decode cX7_findYes 24 = .ok (.aload_n 0, 1) := dk_42 (dk_at dksX7_findYes_1 0 rfl rfl)
theorem dX7_findYes_25 : decode cX7_findYes 25 = .ok (.getfield 136, 3) := dk_180 0 136 (dk_at dksX7_findYes_1 1 rfl rfl)
theorem dX7_findYes_28 : decode cX7_findYes 28 = .ok (.iload_n 2, 1) := dk_28 (dk_at dksX7_findYes_1 4 rfl rfl)
theorem dX7_findYes_29 : decode cX7_findYes 29 = .ok (.dup2, 1) := dk_92 (dk_at dksX7_findYes_1 5 rfl rfl)
theorem dX7_findYes_30 : decode cX7_findYes 30 = .ok (.iaload, 1) := dk_46 (dk_at dksX7_findYes_1 6 rfl rfl)
theorem dX7_findYes_31 : decode cX7_findYes 31 = .ok (.aload_n 0, 1) := dk_42 (dk_at dksX7_findYes_1 7 rfl rfl)
theorem dX7_findYes_32 : decode cX7_findYes 32 = .ok (.getfield 126, 3) := dk_180 0 126 (dk_at dksX7_findYes_1 8 rfl rfl)
theorem dX7_findYes_35 : decode cX7_findYes 35 = .ok (.iload_n 3, 1) := dk_29 (dk_at dksX7_findYes_1 11 rfl rfl)
theorem dX7_findYes_36 : decode cX7_findYes 36 = .ok (.iaload, 1) := dk_46 (dk_at dksX7_findYes_1 12 rfl rfl)
theorem dX7_findYes_37 : decode cX7_findYes 37 = .ok (.iload_n 2, 1) := dk_28 (dk_at dksX7_findYes_1 13 rfl rfl)
theorem dX7_findYes_38 : decode cX7_findYes 38 = .ok (.ishr, 1) := dk_122 (dk_at dksX7_findYes_1 14 rfl rfl)
theorem dX7_findYes_39 : decode cX7_findYes 39 = .ok (.iconst 1, 1) := dk_4 (dk_at dksX7_findYes_1 15 rfl rfl)
theorem dX7_findYes_40 : decode cX7_findYes 40 = .ok (.iand, 1) := dk_126 (dk_at dksX7_findYes_1 16 rfl rfl)
theorem dX7_findYes_41 : decode cX7_findYes 41 = .ok (.ifCond .eq 9, 3) := dk_153 0 9 (dk_at dksX7_findYes_1 17 rfl rfl)
theorem dX7_findYes_44 : decode cX7_findYes 44 = .ok (.iconst 1, 1) := dk_4 (dk_at dksX7_findYes_1 20 rfl rfl)
theorem dX7_findYes_45 : decode cX7_findYes 45 = .ok (.iload_n 3, 1) := dk_29 (dk_at dksX7_findYes_1 21 rfl rfl)
theorem dX7_findYes_46 : decode cX7_findYes 46 = .ok (.ishl, 1) := dk_120 (dk_at dksX7_findYes_1 22 rfl rfl)
theorem dX7_findYes_47 : decode cX7_findYes 47 = .ok (.goto 4, 3) := dk_167 0 4 (dk_at dksX7_findYes_2 0 rfl rfl)
theorem dX7_findYes_50 : decode cX7_findYes 50 = .ok (.iconst 0, 1) := dk_3 (dk_at dksX7_findYes_2 3 rfl rfl)
theorem dX7_findYes_51 : decode cX7_findYes 51 = .ok (.ior, 1) := dk_128 (dk_at dksX7_findYes_2 4 rfl rfl)
theorem dX7_findYes_52 : decode cX7_findYes 52 = .ok (.iastore, 1) := dk_79 (dk_at dksX7_findYes_2 5 rfl rfl)
theorem dX7_findYes_53 : decode cX7_findYes 53 = .ok (.iinc 3 1, 3) := dk_132 3 1 (dk_at dksX7_findYes_2 6 rfl rfl)
theorem dX7_findYes_56 : decode cX7_findYes 56 = .ok (.goto (-37), 3) := dk_167 255 219 (dk_at dksX7_findYes_2 9 rfl rfl)
theorem dX7_findYes_59 : decode cX7_findYes 59 = .ok (.iinc 2 1, 3) := dk_132 2 1 (dk_at dksX7_findYes_2 12 rfl rfl)
theorem dX7_findYes_62 : decode cX7_findYes 62 = .ok (.goto (-60), 3) := dk_167 255 196 (dk_at dksX7_findYes_2 15 rfl rfl)
theorem dX7_findYes_65 : decode cX7_findYes 65 = .ok (.return_, 1) := dk_177 (dk_at dksX7_findYes_2 18 rfl rfl)
abbrev cX7_asks : ByteArray := prog_33_method_96_code
def yX7_asks : MethodName := ⟨RX7, "asks", "(I)Z"⟩
def dkwX7_asks_2 : List UInt8 := [132, 2, 1, 167, 255, 209, 3, 172]
abbrev dktX7_asks_2 : List UInt8 := dkwX7_asks_2 ++ []
def dkwX7_asks_1 : List UInt8 := [153, 0, 23, 42, 180, 0, 130, 27, 42, 180, 0, 136, 28, 46, 2, 130, 126, 51, 153, 0, 5, 4, 172]
abbrev dktX7_asks_1 : List UInt8 := dkwX7_asks_1 ++ dktX7_asks_2
def dkwX7_asks_0 : List UInt8 := [3, 61, 28, 42, 182, 0, 171, 162, 0, 45, 42, 180, 0, 130, 27, 42, 180, 0, 136, 28, 46, 126, 51]
abbrev dktX7_asks_0 : List UInt8 := dkwX7_asks_0 ++ dktX7_asks_1
theorem dksX7_asks_0 : cX7_asks.data.toList.drop 0 = dktX7_asks_0 := by decide +kernel
theorem dksX7_asks_1 : cX7_asks.data.toList.drop 23 = dktX7_asks_1 := dk_seg dksX7_asks_0 23 rfl rfl
theorem dksX7_asks_2 : cX7_asks.data.toList.drop 46 = dktX7_asks_2 := dk_seg dksX7_asks_1 23 rfl rfl
theorem dX7_asks_0 : decode cX7_asks 0 = .ok (.iconst 0, 1) := dk_3 (dk_at dksX7_asks_0 0 rfl rfl)
theorem dX7_asks_1 : decode cX7_asks 1 = .ok (.istore_n 2, 1) := dk_61 (dk_at dksX7_asks_0 1 rfl rfl)
theorem dX7_asks_2 : decode cX7_asks 2 = .ok (.iload_n 2, 1) := dk_28 (dk_at dksX7_asks_0 2 rfl rfl)
theorem dX7_asks_3 : decode cX7_asks 3 = .ok (.aload_n 0, 1) := dk_42 (dk_at dksX7_asks_0 3 rfl rfl)
theorem dX7_asks_4 : decode cX7_asks 4 = .ok (.invokevirtual 171, 3) := dk_182 0 171 (dk_at dksX7_asks_0 4 rfl rfl)
theorem dX7_asks_7 : decode cX7_asks 7 = .ok (.if_icmp .ge 45, 3) := dk_162 0 45 (dk_at dksX7_asks_0 7 rfl rfl)
theorem dX7_asks_10 : decode cX7_asks 10 = .ok (.aload_n 0, 1) := dk_42 (dk_at dksX7_asks_0 10 rfl rfl)
theorem dX7_asks_11 : decode cX7_asks 11 = .ok (.getfield 130, 3) := dk_180 0 130 (dk_at dksX7_asks_0 11 rfl rfl)
theorem dX7_asks_14 : decode cX7_asks 14 = .ok (.iload_n 1, 1) := dk_27 (dk_at dksX7_asks_0 14 rfl rfl)
theorem dX7_asks_15 : decode cX7_asks 15 = .ok (.aload_n 0, 1) := dk_42 (dk_at dksX7_asks_0 15 rfl rfl)
theorem dX7_asks_16 : decode cX7_asks 16 = .ok (.getfield 136, 3) := dk_180 0 136 (dk_at dksX7_asks_0 16 rfl rfl)
theorem dX7_asks_19 : decode cX7_asks 19 = .ok (.iload_n 2, 1) := dk_28 (dk_at dksX7_asks_0 19 rfl rfl)
theorem dX7_asks_20 : decode cX7_asks 20 = .ok (.iaload, 1) := dk_46 (dk_at dksX7_asks_0 20 rfl rfl)
theorem dX7_asks_21 : decode cX7_asks 21 = .ok (.iand, 1) := dk_126 (dk_at dksX7_asks_0 21 rfl rfl)
theorem dX7_asks_22 : decode cX7_asks 22 = .ok (.baload, 1) := dk_51 (dk_at dksX7_asks_0 22 rfl rfl)
theorem dX7_asks_23 : decode cX7_asks 23 = .ok (.ifCond .eq 23, 3) := dk_153 0 23 (dk_at dksX7_asks_1 0 rfl rfl)
theorem dX7_asks_26 : decode cX7_asks 26 = .ok (.aload_n 0, 1) := dk_42 (dk_at dksX7_asks_1 3 rfl rfl)
theorem dX7_asks_27 : decode cX7_asks 27 = .ok (.getfield 130, 3) := dk_180 0 130 (dk_at dksX7_asks_1 4 rfl rfl)
theorem dX7_asks_30 : decode cX7_asks 30 = .ok (.iload_n 1, 1) := dk_27 (dk_at dksX7_asks_1 7 rfl rfl)
theorem dX7_asks_31 : decode cX7_asks 31 = .ok (.aload_n 0, 1) := dk_42 (dk_at dksX7_asks_1 8 rfl rfl)
theorem dX7_asks_32 : decode cX7_asks 32 = .ok (.getfield 136, 3) := dk_180 0 136 (dk_at dksX7_asks_1 9 rfl rfl)
theorem dX7_asks_35 : decode cX7_asks 35 = .ok (.iload_n 2, 1) := dk_28 (dk_at dksX7_asks_1 12 rfl rfl)
theorem dX7_asks_36 : decode cX7_asks 36 = .ok (.iaload, 1) := dk_46 (dk_at dksX7_asks_1 13 rfl rfl)
theorem dX7_asks_37 : decode cX7_asks 37 = .ok (.iconst (-1), 1) := dk_2 (dk_at dksX7_asks_1 14 rfl rfl)
theorem dX7_asks_38 : decode cX7_asks 38 = .ok (.ixor, 1) := dk_130 (dk_at dksX7_asks_1 15 rfl rfl)
theorem dX7_asks_39 : decode cX7_asks 39 = .ok (.iand, 1) := dk_126 (dk_at dksX7_asks_1 16 rfl rfl)
theorem dX7_asks_40 : decode cX7_asks 40 = .ok (.baload, 1) := dk_51 (dk_at dksX7_asks_1 17 rfl rfl)
theorem dX7_asks_41 : decode cX7_asks 41 = .ok (.ifCond .eq 5, 3) := dk_153 0 5 (dk_at dksX7_asks_1 18 rfl rfl)
theorem dX7_asks_44 : decode cX7_asks 44 = .ok (.iconst 1, 1) := dk_4 (dk_at dksX7_asks_1 21 rfl rfl)
theorem dX7_asks_45 : decode cX7_asks 45 = .ok (.ireturn, 1) := dk_172 (dk_at dksX7_asks_1 22 rfl rfl)
theorem dX7_asks_46 : decode cX7_asks 46 = .ok (.iinc 2 1, 3) := dk_132 2 1 (dk_at dksX7_asks_2 0 rfl rfl)
theorem dX7_asks_49 : decode cX7_asks 49 = .ok (.goto (-47), 3) := dk_167 255 209 (dk_at dksX7_asks_2 3 rfl rfl)
theorem dX7_asks_52 : decode cX7_asks 52 = .ok (.iconst 0, 1) := dk_3 (dk_at dksX7_asks_2 6 rfl rfl)
theorem dX7_asks_53 : decode cX7_asks 53 = .ok (.ireturn, 1) := dk_172 (dk_at dksX7_asks_2 7 rfl rfl)
abbrev cX7_settle : ByteArray := prog_33_method_98_code
def yX7_settle : MethodName := ⟨RX7, "settle", "(I)I"⟩
def dkwX7_settle_9 : List UInt8 := [167, 0, 15, 28, 42, 180, 0, 90, 21, 4, 46, 100, 21, 5, 112, 172]
abbrev dktX7_settle_9 : List UInt8 := dkwX7_settle_9 ++ []
def dkwX7_settle_8 : List UInt8 := [167, 0, 39, 27, 6, 160, 0, 7, 29, 167, 0, 30, 42, 180, 0, 38, 21, 4, 46, 2, 160, 0, 7, 2]
abbrev dktX7_settle_8 : List UInt8 := dkwX7_settle_8 ++ dktX7_settle_9
def dkwX7_settle_7 : List UInt8 := [21, 4, 167, 0, 59, 27, 4, 160, 0, 18, 28, 42, 180, 0, 90, 21, 4, 46, 100, 21, 5, 108]
abbrev dktX7_settle_7 : List UInt8 := dkwX7_settle_7 ++ dktX7_settle_8
def dkwX7_settle_6 : List UInt8 := [132, 4, 1, 167, 255, 240, 42, 42, 180, 0, 38, 21, 4, 46, 182, 0, 150, 54, 5, 27, 154, 0, 8]
abbrev dktX7_settle_6 : List UInt8 := dkwX7_settle_6 ++ dktX7_settle_7
def dkwX7_settle_5 : List UInt8 := [132, 4, 1, 167, 255, 187, 3, 54, 4, 42, 180, 0, 90, 21, 4, 4, 96, 46, 28, 163, 0, 9]
abbrev dktX7_settle_5 : List UInt8 := dkwX7_settle_5 ++ dktX7_settle_6
def dkwX7_settle_4 : List UInt8 := [21, 4, 46, 100, 54, 5, 28, 2, 159, 0, 9, 21, 5, 29, 162, 0, 9, 21, 4, 61, 21, 5, 62]
abbrev dktX7_settle_4 : List UInt8 := dkwX7_settle_4 ++ dktX7_settle_5
def dkwX7_settle_3 : List UInt8 := [180, 1, 191, 164, 0, 13, 42, 180, 0, 123, 21, 4, 46, 167, 0, 15, 42, 180, 1, 191, 42, 180, 0, 123]
abbrev dktX7_settle_3 : List UInt8 := dkwX7_settle_3 ++ dktX7_settle_4
def dkwX7_settle_2 : List UInt8 := [62, 3, 54, 4, 21, 4, 42, 182, 0, 171, 162, 0, 66, 5, 42, 180, 0, 123, 21, 4, 46, 104, 42]
abbrev dktX7_settle_2 : List UInt8 := dkwX7_settle_2 ++ dktX7_settle_3
def dkwX7_settle_1 : List UInt8 := [184, 0, 160, 154, 0, 5, 2, 172, 42, 182, 1, 194, 42, 180, 1, 191, 154, 0, 5, 2, 172, 2, 61, 3]
abbrev dktX7_settle_1 : List UInt8 := dkwX7_settle_1 ++ dktX7_settle_2
def dkwX7_settle_0 : List UInt8 := [42, 3, 181, 0, 142, 42, 182, 0, 182, 153, 0, 19, 42, 182, 0, 171, 153, 0, 12, 27, 3, 6]
abbrev dktX7_settle_0 : List UInt8 := dkwX7_settle_0 ++ dktX7_settle_1
theorem dksX7_settle_0 : cX7_settle.data.toList.drop 0 = dktX7_settle_0 := by decide +kernel
theorem dksX7_settle_1 : cX7_settle.data.toList.drop 22 = dktX7_settle_1 := dk_seg dksX7_settle_0 22 rfl rfl
theorem dksX7_settle_2 : cX7_settle.data.toList.drop 46 = dktX7_settle_2 := dk_seg dksX7_settle_1 24 rfl rfl
theorem dksX7_settle_3 : cX7_settle.data.toList.drop 69 = dktX7_settle_3 := dk_seg dksX7_settle_2 23 rfl rfl
theorem dksX7_settle_4 : cX7_settle.data.toList.drop 93 = dktX7_settle_4 := dk_seg dksX7_settle_3 24 rfl rfl
theorem dksX7_settle_5 : cX7_settle.data.toList.drop 116 = dktX7_settle_5 := dk_seg dksX7_settle_4 23 rfl rfl
theorem dksX7_settle_6 : cX7_settle.data.toList.drop 138 = dktX7_settle_6 := dk_seg dksX7_settle_5 22 rfl rfl
theorem dksX7_settle_7 : cX7_settle.data.toList.drop 161 = dktX7_settle_7 := dk_seg dksX7_settle_6 23 rfl rfl
theorem dksX7_settle_8 : cX7_settle.data.toList.drop 183 = dktX7_settle_8 := dk_seg dksX7_settle_7 22 rfl rfl
theorem dksX7_settle_9 : cX7_settle.data.toList.drop 207 = dktX7_settle_9 := dk_seg dksX7_settle_8 24 rfl rfl
theorem dX7_settle_0 : decode cX7_settle 0 = .ok (.aload_n 0, 1) := dk_42 (dk_at dksX7_settle_0 0 rfl rfl)
theorem dX7_settle_1 : decode cX7_settle 1 = .ok (.iconst 0, 1) := dk_3 (dk_at dksX7_settle_0 1 rfl rfl)
theorem dX7_settle_2 : decode cX7_settle 2 = .ok (.putfield 142, 3) := dk_181 0 142 (dk_at dksX7_settle_0 2 rfl rfl)
theorem dX7_settle_5 : decode cX7_settle 5 = .ok (.aload_n 0, 1) := dk_42 (dk_at dksX7_settle_0 5 rfl rfl)
theorem dX7_settle_6 : decode cX7_settle 6 = .ok (.invokevirtual 182, 3) := dk_182 0 182 (dk_at dksX7_settle_0 6 rfl rfl)
theorem dX7_settle_9 : decode cX7_settle 9 = .ok (.ifCond .eq 19, 3) := dk_153 0 19 (dk_at dksX7_settle_0 9 rfl rfl)
theorem dX7_settle_12 : decode cX7_settle 12 = .ok (.aload_n 0, 1) := dk_42 (dk_at dksX7_settle_0 12 rfl rfl)
theorem dX7_settle_13 : decode cX7_settle 13 = .ok (.invokevirtual 171, 3) := dk_182 0 171 (dk_at dksX7_settle_0 13 rfl rfl)
theorem dX7_settle_16 : decode cX7_settle 16 = .ok (.ifCond .eq 12, 3) := dk_153 0 12 (dk_at dksX7_settle_0 16 rfl rfl)
theorem dX7_settle_19 : decode cX7_settle 19 = .ok (.iload_n 1, 1) := dk_27 (dk_at dksX7_settle_0 19 rfl rfl)
theorem dX7_settle_20 : decode cX7_settle 20 = .ok (.iconst 0, 1) := dk_3 (dk_at dksX7_settle_0 20 rfl rfl)
theorem dX7_settle_21 : decode cX7_settle 21 = .ok (.iconst 3, 1) := dk_6 (dk_at dksX7_settle_0 21 rfl rfl)
theorem dX7_settle_22 : decode cX7_settle 22 = .ok (.invokestatic 160, 3) := dk_184 0 160 (dk_at dksX7_settle_1 0 rfl rfl)
theorem dX7_settle_25 : decode cX7_settle 25 = .ok (.ifCond .ne 5, 3) := dk_154 0 5 (dk_at dksX7_settle_1 3 rfl rfl)
theorem dX7_settle_28 : decode cX7_settle 28 = .ok (.iconst (-1), 1) := dk_2 (dk_at dksX7_settle_1 6 rfl rfl)
theorem dX7_settle_29 : decode cX7_settle 29 = .ok (.ireturn, 1) := dk_172 (dk_at dksX7_settle_1 7 rfl rfl)
theorem dX7_settle_30 : decode cX7_settle 30 = .ok (.aload_n 0, 1) := dk_42 (dk_at dksX7_settle_1 8 rfl rfl)
theorem dX7_settle_31 : decode cX7_settle 31 = .ok (.invokevirtual 450, 3) := dk_182 1 194 (dk_at dksX7_settle_1 9 rfl rfl)
theorem dX7_settle_34 : decode cX7_settle 34 = .ok (.aload_n 0, 1) := dk_42 (dk_at dksX7_settle_1 12 rfl rfl)
theorem dX7_settle_35 : decode cX7_settle 35 = .ok (.getfield 447, 3) := dk_180 1 191 (dk_at dksX7_settle_1 13 rfl rfl)
theorem dX7_settle_38 : decode cX7_settle 38 = .ok (.ifCond .ne 5, 3) := dk_154 0 5 (dk_at dksX7_settle_1 16 rfl rfl)
theorem dX7_settle_41 : decode cX7_settle 41 = .ok (.iconst (-1), 1) := dk_2 (dk_at dksX7_settle_1 19 rfl rfl)
theorem dX7_settle_42 : decode cX7_settle 42 = .ok (.ireturn, 1) := dk_172 (dk_at dksX7_settle_1 20 rfl rfl)
theorem dX7_settle_43 : decode cX7_settle 43 = .ok (.iconst (-1), 1) := dk_2 (dk_at dksX7_settle_1 21 rfl rfl)
theorem dX7_settle_44 : decode cX7_settle 44 = .ok (.istore_n 2, 1) := dk_61 (dk_at dksX7_settle_1 22 rfl rfl)
theorem dX7_settle_45 : decode cX7_settle 45 = .ok (.iconst 0, 1) := dk_3 (dk_at dksX7_settle_1 23 rfl rfl)
theorem dX7_settle_46 : decode cX7_settle 46 = .ok (.istore_n 3, 1) := dk_62 (dk_at dksX7_settle_2 0 rfl rfl)
theorem dX7_settle_47 : decode cX7_settle 47 = .ok (.iconst 0, 1) := dk_3 (dk_at dksX7_settle_2 1 rfl rfl)
theorem dX7_settle_48 : decode cX7_settle 48 = .ok (.istore 4, 2) := dk_54 4 (dk_at dksX7_settle_2 2 rfl rfl)
theorem dX7_settle_50 : decode cX7_settle 50 = .ok (.iload 4, 2) := dk_21 4 (dk_at dksX7_settle_2 4 rfl rfl)
theorem dX7_settle_52 : decode cX7_settle 52 = .ok (.aload_n 0, 1) := dk_42 (dk_at dksX7_settle_2 6 rfl rfl)
theorem dX7_settle_53 : decode cX7_settle 53 = .ok (.invokevirtual 171, 3) := dk_182 0 171 (dk_at dksX7_settle_2 7 rfl rfl)
theorem dX7_settle_56 : decode cX7_settle 56 = .ok (.if_icmp .ge 66, 3) := dk_162 0 66 (dk_at dksX7_settle_2 10 rfl rfl)
theorem dX7_settle_59 : decode cX7_settle 59 = .ok (.iconst 2, 1) := dk_5 (dk_at dksX7_settle_2 13 rfl rfl)
theorem dX7_settle_60 : decode cX7_settle 60 = .ok (.aload_n 0, 1) := dk_42 (dk_at dksX7_settle_2 14 rfl rfl)
theorem dX7_settle_61 : decode cX7_settle 61 = .ok (.getfield 123, 3) := dk_180 0 123 (dk_at dksX7_settle_2 15 rfl rfl)
theorem dX7_settle_64 : decode cX7_settle 64 = .ok (.iload 4, 2) := dk_21 4 (dk_at dksX7_settle_2 18 rfl rfl)
theorem dX7_settle_66 : decode cX7_settle 66 = .ok (.iaload, 1) := dk_46 (dk_at dksX7_settle_2 20 rfl rfl)
theorem dX7_settle_67 : decode cX7_settle 67 = .ok (.imul, 1) := dk_104 (dk_at dksX7_settle_2 21 rfl rfl)
theorem dX7_settle_68 : decode cX7_settle 68 = .ok (.aload_n 0, 1) := dk_42 (dk_at dksX7_settle_2 22 rfl rfl)
theorem dX7_settle_69 : decode cX7_settle 69 = .ok (.getfield 447, 3) := dk_180 1 191 (dk_at dksX7_settle_3 0 rfl rfl)
theorem dX7_settle_72 : decode cX7_settle 72 = .ok (.if_icmp .le 13, 3) := dk_164 0 13 (dk_at dksX7_settle_3 3 rfl rfl)
theorem dX7_settle_75 : decode cX7_settle 75 = .ok (.aload_n 0, 1) := dk_42 (dk_at dksX7_settle_3 6 rfl rfl)
theorem dX7_settle_76 : decode cX7_settle 76 = .ok (.getfield 123, 3) := dk_180 0 123 (dk_at dksX7_settle_3 7 rfl rfl)
theorem dX7_settle_79 : decode cX7_settle 79 = .ok (.iload 4, 2) := dk_21 4 (dk_at dksX7_settle_3 10 rfl rfl)
theorem dX7_settle_81 : decode cX7_settle 81 = .ok (.iaload, 1) := dk_46 (dk_at dksX7_settle_3 12 rfl rfl)
theorem dX7_settle_82 : decode cX7_settle 82 = .ok (.goto 15, 3) := dk_167 0 15 (dk_at dksX7_settle_3 13 rfl rfl)
theorem dX7_settle_85 : decode cX7_settle 85 = .ok (.aload_n 0, 1) := dk_42 (dk_at dksX7_settle_3 16 rfl rfl)
theorem dX7_settle_86 : decode cX7_settle 86 = .ok (.getfield 447, 3) := dk_180 1 191 (dk_at dksX7_settle_3 17 rfl rfl)
theorem dX7_settle_89 : decode cX7_settle 89 = .ok (.aload_n 0, 1) := dk_42 (dk_at dksX7_settle_3 20 rfl rfl)
theorem dX7_settle_90 : decode cX7_settle 90 = .ok (.getfield 123, 3) := dk_180 0 123 (dk_at dksX7_settle_3 21 rfl rfl)
theorem dX7_settle_93 : decode cX7_settle 93 = .ok (.iload 4, 2) := dk_21 4 (dk_at dksX7_settle_4 0 rfl rfl)
theorem dX7_settle_95 : decode cX7_settle 95 = .ok (.iaload, 1) := dk_46 (dk_at dksX7_settle_4 2 rfl rfl)
theorem dX7_settle_96 : decode cX7_settle 96 = .ok (.isub, 1) := dk_100 (dk_at dksX7_settle_4 3 rfl rfl)
theorem dX7_settle_97 : decode cX7_settle 97 = .ok (.istore 5, 2) := dk_54 5 (dk_at dksX7_settle_4 4 rfl rfl)
theorem dX7_settle_99 : decode cX7_settle 99 = .ok (.iload_n 2, 1) := dk_28 (dk_at dksX7_settle_4 6 rfl rfl)
theorem dX7_settle_100 : decode cX7_settle 100 = .ok (.iconst (-1), 1) := dk_2 (dk_at dksX7_settle_4 7 rfl rfl)
theorem dX7_settle_101 : decode cX7_settle 101 = .ok (.if_icmp .eq 9, 3) := dk_159 0 9 (dk_at dksX7_settle_4 8 rfl rfl)
theorem dX7_settle_104 : decode cX7_settle 104 = .ok (.iload 5, 2) := dk_21 5 (dk_at dksX7_settle_4 11 rfl rfl)
theorem dX7_settle_106 : decode cX7_settle 106 = .ok (.iload_n 3, 1) := dk_29 (dk_at dksX7_settle_4 13 rfl rfl)
theorem dX7_settle_107 : decode cX7_settle 107 = .ok (.if_icmp .ge 9, 3) := dk_162 0 9 (dk_at dksX7_settle_4 14 rfl rfl)
theorem dX7_settle_110 : decode cX7_settle 110 = .ok (.iload 4, 2) := dk_21 4 (dk_at dksX7_settle_4 17 rfl rfl)
theorem dX7_settle_112 : decode cX7_settle 112 = .ok (.istore_n 2, 1) := dk_61 (dk_at dksX7_settle_4 19 rfl rfl)
theorem dX7_settle_113 : decode cX7_settle 113 = .ok (.iload 5, 2) := dk_21 5 (dk_at dksX7_settle_4 20 rfl rfl)
theorem dX7_settle_115 : decode cX7_settle 115 = .ok (.istore_n 3, 1) := dk_62 (dk_at dksX7_settle_4 22 rfl rfl)
theorem dX7_settle_116 : decode cX7_settle 116 = .ok (.iinc 4 1, 3) := dk_132 4 1 (dk_at dksX7_settle_5 0 rfl rfl)
theorem dX7_settle_119 : decode cX7_settle 119 = .ok (.goto (-69), 3) := dk_167 255 187 (dk_at dksX7_settle_5 3 rfl rfl)
theorem dX7_settle_122 : decode cX7_settle 122 = .ok (.iconst 0, 1) := dk_3 (dk_at dksX7_settle_5 6 rfl rfl)
theorem dX7_settle_123 : decode cX7_settle 123 = .ok (.istore 4, 2) := dk_54 4 (dk_at dksX7_settle_5 7 rfl rfl)
theorem dX7_settle_125 : decode cX7_settle 125 = .ok (.aload_n 0, 1) := dk_42 (dk_at dksX7_settle_5 9 rfl rfl)
theorem dX7_settle_126 : decode cX7_settle 126 = .ok (.getfield 90, 3) := dk_180 0 90 (dk_at dksX7_settle_5 10 rfl rfl)
theorem dX7_settle_129 : decode cX7_settle 129 = .ok (.iload 4, 2) := dk_21 4 (dk_at dksX7_settle_5 13 rfl rfl)
theorem dX7_settle_131 : decode cX7_settle 131 = .ok (.iconst 1, 1) := dk_4 (dk_at dksX7_settle_5 15 rfl rfl)
theorem dX7_settle_132 : decode cX7_settle 132 = .ok (.iadd, 1) := dk_96 (dk_at dksX7_settle_5 16 rfl rfl)
theorem dX7_settle_133 : decode cX7_settle 133 = .ok (.iaload, 1) := dk_46 (dk_at dksX7_settle_5 17 rfl rfl)
theorem dX7_settle_134 : decode cX7_settle 134 = .ok (.iload_n 2, 1) := dk_28 (dk_at dksX7_settle_5 18 rfl rfl)
theorem dX7_settle_135 : decode cX7_settle 135 = .ok (.if_icmp .gt 9, 3) := dk_163 0 9 (dk_at dksX7_settle_5 19 rfl rfl)
theorem dX7_settle_138 : decode cX7_settle 138 = .ok (.iinc 4 1, 3) := dk_132 4 1 (dk_at dksX7_settle_6 0 rfl rfl)
theorem dX7_settle_141 : decode cX7_settle 141 = .ok (.goto (-16), 3) := dk_167 255 240 (dk_at dksX7_settle_6 3 rfl rfl)
theorem dX7_settle_144 : decode cX7_settle 144 = .ok (.aload_n 0, 1) := dk_42 (dk_at dksX7_settle_6 6 rfl rfl)
theorem dX7_settle_145 : decode cX7_settle 145 = .ok (.aload_n 0, 1) := dk_42 (dk_at dksX7_settle_6 7 rfl rfl)
theorem dX7_settle_146 : decode cX7_settle 146 = .ok (.getfield 38, 3) := dk_180 0 38 (dk_at dksX7_settle_6 8 rfl rfl)
theorem dX7_settle_149 : decode cX7_settle 149 = .ok (.iload 4, 2) := dk_21 4 (dk_at dksX7_settle_6 11 rfl rfl)
theorem dX7_settle_151 : decode cX7_settle 151 = .ok (.iaload, 1) := dk_46 (dk_at dksX7_settle_6 13 rfl rfl)
theorem dX7_settle_152 : decode cX7_settle 152 = .ok (.invokevirtual 150, 3) := dk_182 0 150 (dk_at dksX7_settle_6 14 rfl rfl)
theorem dX7_settle_155 : decode cX7_settle 155 = .ok (.istore 5, 2) := dk_54 5 (dk_at dksX7_settle_6 17 rfl rfl)
theorem dX7_settle_157 : decode cX7_settle 157 = .ok (.iload_n 1, 1) := dk_27 (dk_at dksX7_settle_6 19 rfl rfl)
theorem dX7_settle_158 : decode cX7_settle 158 = .ok (.ifCond .ne 8, 3) := dk_154 0 8 (dk_at dksX7_settle_6 20 rfl rfl)
theorem dX7_settle_161 : decode cX7_settle 161 = .ok (.iload 4, 2) := dk_21 4 (dk_at dksX7_settle_7 0 rfl rfl)
theorem dX7_settle_163 : decode cX7_settle 163 = .ok (.goto 59, 3) := dk_167 0 59 (dk_at dksX7_settle_7 2 rfl rfl)
theorem dX7_settle_166 : decode cX7_settle 166 = .ok (.iload_n 1, 1) := dk_27 (dk_at dksX7_settle_7 5 rfl rfl)
theorem dX7_settle_167 : decode cX7_settle 167 = .ok (.iconst 1, 1) := dk_4 (dk_at dksX7_settle_7 6 rfl rfl)
theorem dX7_settle_168 : decode cX7_settle 168 = .ok (.if_icmp .ne 18, 3) := dk_160 0 18 (dk_at dksX7_settle_7 7 rfl rfl)
theorem dX7_settle_171 : decode cX7_settle 171 = .ok (.iload_n 2, 1) := dk_28 (dk_at dksX7_settle_7 10 rfl rfl)
theorem dX7_settle_172 : decode cX7_settle 172 = .ok (.aload_n 0, 1) := dk_42 (dk_at dksX7_settle_7 11 rfl rfl)
theorem dX7_settle_173 : decode cX7_settle 173 = .ok (.getfield 90, 3) := dk_180 0 90 (dk_at dksX7_settle_7 12 rfl rfl)
theorem dX7_settle_176 : decode cX7_settle 176 = .ok (.iload 4, 2) := dk_21 4 (dk_at dksX7_settle_7 15 rfl rfl)
theorem dX7_settle_178 : decode cX7_settle 178 = .ok (.iaload, 1) := dk_46 (dk_at dksX7_settle_7 17 rfl rfl)
theorem dX7_settle_179 : decode cX7_settle 179 = .ok (.isub, 1) := dk_100 (dk_at dksX7_settle_7 18 rfl rfl)
theorem dX7_settle_180 : decode cX7_settle 180 = .ok (.iload 5, 2) := dk_21 5 (dk_at dksX7_settle_7 19 rfl rfl)
theorem dX7_settle_182 : decode cX7_settle 182 = .ok (.idiv, 1) := dk_108 (dk_at dksX7_settle_7 21 rfl rfl)
theorem dX7_settle_183 : decode cX7_settle 183 = .ok (.goto 39, 3) := dk_167 0 39 (dk_at dksX7_settle_8 0 rfl rfl)
theorem dX7_settle_186 : decode cX7_settle 186 = .ok (.iload_n 1, 1) := dk_27 (dk_at dksX7_settle_8 3 rfl rfl)
theorem dX7_settle_187 : decode cX7_settle 187 = .ok (.iconst 3, 1) := dk_6 (dk_at dksX7_settle_8 4 rfl rfl)
theorem dX7_settle_188 : decode cX7_settle 188 = .ok (.if_icmp .ne 7, 3) := dk_160 0 7 (dk_at dksX7_settle_8 5 rfl rfl)
theorem dX7_settle_191 : decode cX7_settle 191 = .ok (.iload_n 3, 1) := dk_29 (dk_at dksX7_settle_8 8 rfl rfl)
theorem dX7_settle_192 : decode cX7_settle 192 = .ok (.goto 30, 3) := dk_167 0 30 (dk_at dksX7_settle_8 9 rfl rfl)
theorem dX7_settle_195 : decode cX7_settle 195 = .ok (.aload_n 0, 1) := dk_42 (dk_at dksX7_settle_8 12 rfl rfl)
theorem dX7_settle_196 : decode cX7_settle 196 = .ok (.getfield 38, 3) := dk_180 0 38 (dk_at dksX7_settle_8 13 rfl rfl)
theorem dX7_settle_199 : decode cX7_settle 199 = .ok (.iload 4, 2) := dk_21 4 (dk_at dksX7_settle_8 16 rfl rfl)
theorem dX7_settle_201 : decode cX7_settle 201 = .ok (.iaload, 1) := dk_46 (dk_at dksX7_settle_8 18 rfl rfl)
theorem dX7_settle_202 : decode cX7_settle 202 = .ok (.iconst (-1), 1) := dk_2 (dk_at dksX7_settle_8 19 rfl rfl)
theorem dX7_settle_203 : decode cX7_settle 203 = .ok (.if_icmp .ne 7, 3) := dk_160 0 7 (dk_at dksX7_settle_8 20 rfl rfl)
theorem dX7_settle_206 : decode cX7_settle 206 = .ok (.iconst (-1), 1) := dk_2 (dk_at dksX7_settle_8 23 rfl rfl)
theorem dX7_settle_207 : decode cX7_settle 207 = .ok (.goto 15, 3) := dk_167 0 15 (dk_at dksX7_settle_9 0 rfl rfl)
theorem dX7_settle_210 : decode cX7_settle 210 = .ok (.iload_n 2, 1) := dk_28 (dk_at dksX7_settle_9 3 rfl rfl)
theorem dX7_settle_211 : decode cX7_settle 211 = .ok (.aload_n 0, 1) := dk_42 (dk_at dksX7_settle_9 4 rfl rfl)
theorem dX7_settle_212 : decode cX7_settle 212 = .ok (.getfield 90, 3) := dk_180 0 90 (dk_at dksX7_settle_9 5 rfl rfl)
theorem dX7_settle_215 : decode cX7_settle 215 = .ok (.iload 4, 2) := dk_21 4 (dk_at dksX7_settle_9 8 rfl rfl)
theorem dX7_settle_217 : decode cX7_settle 217 = .ok (.iaload, 1) := dk_46 (dk_at dksX7_settle_9 10 rfl rfl)
theorem dX7_settle_218 : decode cX7_settle 218 = .ok (.isub, 1) := dk_100 (dk_at dksX7_settle_9 11 rfl rfl)
theorem dX7_settle_219 : decode cX7_settle 219 = .ok (.iload 5, 2) := dk_21 5 (dk_at dksX7_settle_9 12 rfl rfl)
theorem dX7_settle_221 : decode cX7_settle 221 = .ok (.irem, 1) := dk_112 (dk_at dksX7_settle_9 14 rfl rfl)
theorem dX7_settle_222 : decode cX7_settle 222 = .ok (.ireturn, 1) := dk_172 (dk_at dksX7_settle_9 15 rfl rfl)
abbrev cX7_near : ByteArray := prog_33_method_99_code
def yX7_near : MethodName := ⟨RX7, "near", "()I"⟩
def dkwX7_near_5 : List UInt8 := [160, 0, 5, 2, 172, 42, 27, 182, 1, 160, 28, 172]
abbrev dktX7_near_5 : List UInt8 := dkwX7_near_5 ++ []
def dkwX7_near_4 : List UInt8 := [2, 159, 0, 9, 21, 4, 28, 162, 0, 8, 29, 60, 21, 4, 61, 132, 3, 1, 167, 255, 168, 27, 2]
abbrev dktX7_near_4 : List UInt8 := dkwX7_near_4 ++ dktX7_near_5
def dkwX7_near_3 : List UInt8 := [180, 0, 41, 21, 5, 51, 159, 0, 7, 4, 167, 0, 4, 3, 96, 54, 4, 132, 5, 1, 167, 255, 217, 27]
abbrev dktX7_near_3 : List UInt8 := dkwX7_near_3 ++ dktX7_near_4
def dkwX7_near_2 : List UInt8 := [3, 54, 5, 21, 5, 42, 182, 0, 171, 162, 0, 36, 21, 4, 42, 180, 0, 93, 21, 5, 51, 42]
abbrev dktX7_near_2 : List UInt8 := dkwX7_near_2 ++ dktX7_near_3
def dkwX7_near_1 : List UInt8 := [29, 4, 42, 182, 0, 171, 120, 162, 0, 84, 42, 29, 182, 1, 148, 154, 0, 6, 167, 0, 67, 3, 54, 4]
abbrev dktX7_near_1 : List UInt8 := dkwX7_near_1 ++ dktX7_near_2
def dkwX7_near_0 : List UInt8 := [42, 3, 181, 0, 142, 42, 182, 0, 182, 154, 0, 5, 2, 172, 42, 182, 1, 154, 2, 60, 3, 61, 3, 62]
abbrev dktX7_near_0 : List UInt8 := dkwX7_near_0 ++ dktX7_near_1
theorem dksX7_near_0 : cX7_near.data.toList.drop 0 = dktX7_near_0 := by decide +kernel
theorem dksX7_near_1 : cX7_near.data.toList.drop 24 = dktX7_near_1 := dk_seg dksX7_near_0 24 rfl rfl
theorem dksX7_near_2 : cX7_near.data.toList.drop 48 = dktX7_near_2 := dk_seg dksX7_near_1 24 rfl rfl
theorem dksX7_near_3 : cX7_near.data.toList.drop 70 = dktX7_near_3 := dk_seg dksX7_near_2 22 rfl rfl
theorem dksX7_near_4 : cX7_near.data.toList.drop 94 = dktX7_near_4 := dk_seg dksX7_near_3 24 rfl rfl
theorem dksX7_near_5 : cX7_near.data.toList.drop 117 = dktX7_near_5 := dk_seg dksX7_near_4 23 rfl rfl
theorem dX7_near_0 : decode cX7_near 0 = .ok (.aload_n 0, 1) := dk_42 (dk_at dksX7_near_0 0 rfl rfl)
theorem dX7_near_1 : decode cX7_near 1 = .ok (.iconst 0, 1) := dk_3 (dk_at dksX7_near_0 1 rfl rfl)
theorem dX7_near_2 : decode cX7_near 2 = .ok (.putfield 142, 3) := dk_181 0 142 (dk_at dksX7_near_0 2 rfl rfl)
theorem dX7_near_5 : decode cX7_near 5 = .ok (.aload_n 0, 1) := dk_42 (dk_at dksX7_near_0 5 rfl rfl)
theorem dX7_near_6 : decode cX7_near 6 = .ok (.invokevirtual 182, 3) := dk_182 0 182 (dk_at dksX7_near_0 6 rfl rfl)
theorem dX7_near_9 : decode cX7_near 9 = .ok (.ifCond .ne 5, 3) := dk_154 0 5 (dk_at dksX7_near_0 9 rfl rfl)
theorem dX7_near_12 : decode cX7_near 12 = .ok (.iconst (-1), 1) := dk_2 (dk_at dksX7_near_0 12 rfl rfl)
theorem dX7_near_13 : decode cX7_near 13 = .ok (.ireturn, 1) := dk_172 (dk_at dksX7_near_0 13 rfl rfl)
theorem dX7_near_14 : decode cX7_near 14 = .ok (.aload_n 0, 1) := dk_42 (dk_at dksX7_near_0 14 rfl rfl)
theorem dX7_near_15 : decode cX7_near 15 = .ok (.invokevirtual 410, 3) := dk_182 1 154 (dk_at dksX7_near_0 15 rfl rfl)
theorem dX7_near_18 : decode cX7_near 18 = .ok (.iconst (-1), 1) := dk_2 (dk_at dksX7_near_0 18 rfl rfl)
theorem dX7_near_19 : decode cX7_near 19 = .ok (.istore_n 1, 1) := dk_60 (dk_at dksX7_near_0 19 rfl rfl)
theorem dX7_near_20 : decode cX7_near 20 = .ok (.iconst 0, 1) := dk_3 (dk_at dksX7_near_0 20 rfl rfl)
theorem dX7_near_21 : decode cX7_near 21 = .ok (.istore_n 2, 1) := dk_61 (dk_at dksX7_near_0 21 rfl rfl)
theorem dX7_near_22 : decode cX7_near 22 = .ok (.iconst 0, 1) := dk_3 (dk_at dksX7_near_0 22 rfl rfl)
theorem dX7_near_23 : decode cX7_near 23 = .ok (.istore_n 3, 1) := dk_62 (dk_at dksX7_near_0 23 rfl rfl)
theorem dX7_near_24 : decode cX7_near 24 = .ok (.iload_n 3, 1) := dk_29 (dk_at dksX7_near_1 0 rfl rfl)
theorem dX7_near_25 : decode cX7_near 25 = .ok (.iconst 1, 1) := dk_4 (dk_at dksX7_near_1 1 rfl rfl)
theorem dX7_near_26 : decode cX7_near 26 = .ok (.aload_n 0, 1) := dk_42 (dk_at dksX7_near_1 2 rfl rfl)
theorem dX7_near_27 : decode cX7_near 27 = .ok (.invokevirtual 171, 3) := dk_182 0 171 (dk_at dksX7_near_1 3 rfl rfl)
theorem dX7_near_30 : decode cX7_near 30 = .ok (.ishl, 1) := dk_120 (dk_at dksX7_near_1 6 rfl rfl)
theorem dX7_near_31 : decode cX7_near 31 = .ok (.if_icmp .ge 84, 3) := dk_162 0 84 (dk_at dksX7_near_1 7 rfl rfl)
theorem dX7_near_34 : decode cX7_near 34 = .ok (.aload_n 0, 1) := dk_42 (dk_at dksX7_near_1 10 rfl rfl)
theorem dX7_near_35 : decode cX7_near 35 = .ok (.iload_n 3, 1) := dk_29 (dk_at dksX7_near_1 11 rfl rfl)
theorem dX7_near_36 : decode cX7_near 36 = .ok (.invokevirtual 404, 3) := dk_182 1 148 (dk_at dksX7_near_1 12 rfl rfl)
theorem dX7_near_39 : decode cX7_near 39 = .ok (.ifCond .ne 6, 3) := dk_154 0 6 (dk_at dksX7_near_1 15 rfl rfl)
theorem dX7_near_42 : decode cX7_near 42 = .ok (.goto 67, 3) := dk_167 0 67 (dk_at dksX7_near_1 18 rfl rfl)
theorem dX7_near_45 : decode cX7_near 45 = .ok (.iconst 0, 1) := dk_3 (dk_at dksX7_near_1 21 rfl rfl)
theorem dX7_near_46 : decode cX7_near 46 = .ok (.istore 4, 2) := dk_54 4 (dk_at dksX7_near_1 22 rfl rfl)
theorem dX7_near_48 : decode cX7_near 48 = .ok (.iconst 0, 1) := dk_3 (dk_at dksX7_near_2 0 rfl rfl)
theorem dX7_near_49 : decode cX7_near 49 = .ok (.istore 5, 2) := dk_54 5 (dk_at dksX7_near_2 1 rfl rfl)
theorem dX7_near_51 : decode cX7_near 51 = .ok (.iload 5, 2) := dk_21 5 (dk_at dksX7_near_2 3 rfl rfl)
theorem dX7_near_53 : decode cX7_near 53 = .ok (.aload_n 0, 1) := dk_42 (dk_at dksX7_near_2 5 rfl rfl)
theorem dX7_near_54 : decode cX7_near 54 = .ok (.invokevirtual 171, 3) := dk_182 0 171 (dk_at dksX7_near_2 6 rfl rfl)
theorem dX7_near_57 : decode cX7_near 57 = .ok (.if_icmp .ge 36, 3) := dk_162 0 36 (dk_at dksX7_near_2 9 rfl rfl)
theorem dX7_near_60 : decode cX7_near 60 = .ok (.iload 4, 2) := dk_21 4 (dk_at dksX7_near_2 12 rfl rfl)
theorem dX7_near_62 : decode cX7_near 62 = .ok (.aload_n 0, 1) := dk_42 (dk_at dksX7_near_2 14 rfl rfl)
theorem dX7_near_63 : decode cX7_near 63 = .ok (.getfield 93, 3) := dk_180 0 93 (dk_at dksX7_near_2 15 rfl rfl)
theorem dX7_near_66 : decode cX7_near 66 = .ok (.iload 5, 2) := dk_21 5 (dk_at dksX7_near_2 18 rfl rfl)
theorem dX7_near_68 : decode cX7_near 68 = .ok (.baload, 1) := dk_51 (dk_at dksX7_near_2 20 rfl rfl)
theorem dX7_near_69 : decode cX7_near 69 = .ok (.aload_n 0, 1) := dk_42 (dk_at dksX7_near_2 21 rfl rfl)
theorem dX7_near_70 : decode cX7_near 70 = .ok (.getfield 41, 3) := dk_180 0 41 (dk_at dksX7_near_3 0 rfl rfl)
theorem dX7_near_73 : decode cX7_near 73 = .ok (.iload 5, 2) := dk_21 5 (dk_at dksX7_near_3 3 rfl rfl)
theorem dX7_near_75 : decode cX7_near 75 = .ok (.baload, 1) := dk_51 (dk_at dksX7_near_3 5 rfl rfl)
theorem dX7_near_76 : decode cX7_near 76 = .ok (.if_icmp .eq 7, 3) := dk_159 0 7 (dk_at dksX7_near_3 6 rfl rfl)
theorem dX7_near_79 : decode cX7_near 79 = .ok (.iconst 1, 1) := dk_4 (dk_at dksX7_near_3 9 rfl rfl)
theorem dX7_near_80 : decode cX7_near 80 = .ok (.goto 4, 3) := dk_167 0 4 (dk_at dksX7_near_3 10 rfl rfl)
theorem dX7_near_83 : decode cX7_near 83 = .ok (.iconst 0, 1) := dk_3 (dk_at dksX7_near_3 13 rfl rfl)
theorem dX7_near_84 : decode cX7_near 84 = .ok (.iadd, 1) := dk_96 (dk_at dksX7_near_3 14 rfl rfl)
theorem dX7_near_85 : decode cX7_near 85 = .ok (.istore 4, 2) := dk_54 4 (dk_at dksX7_near_3 15 rfl rfl)
theorem dX7_near_87 : decode cX7_near 87 = .ok (.iinc 5 1, 3) := dk_132 5 1 (dk_at dksX7_near_3 17 rfl rfl)
theorem dX7_near_90 : decode cX7_near 90 = .ok (.goto (-39), 3) := dk_167 255 217 (dk_at dksX7_near_3 20 rfl rfl)
theorem dX7_near_93 : decode cX7_near 93 = .ok (.iload_n 1, 1) := dk_27 (dk_at dksX7_near_3 23 rfl rfl)
theorem dX7_near_94 : decode cX7_near 94 = .ok (.iconst (-1), 1) := dk_2 (dk_at dksX7_near_4 0 rfl rfl)
theorem dX7_near_95 : decode cX7_near 95 = .ok (.if_icmp .eq 9, 3) := dk_159 0 9 (dk_at dksX7_near_4 1 rfl rfl)
theorem dX7_near_98 : decode cX7_near 98 = .ok (.iload 4, 2) := dk_21 4 (dk_at dksX7_near_4 4 rfl rfl)
theorem dX7_near_100 : decode cX7_near 100 = .ok (.iload_n 2, 1) := dk_28 (dk_at dksX7_near_4 6 rfl rfl)
theorem dX7_near_101 : decode cX7_near 101 = .ok (.if_icmp .ge 8, 3) := dk_162 0 8 (dk_at dksX7_near_4 7 rfl rfl)
theorem dX7_near_104 : decode cX7_near 104 = .ok (.iload_n 3, 1) := dk_29 (dk_at dksX7_near_4 10 rfl rfl)
theorem dX7_near_105 : decode cX7_near 105 = .ok (.istore_n 1, 1) := dk_60 (dk_at dksX7_near_4 11 rfl rfl)
theorem dX7_near_106 : decode cX7_near 106 = .ok (.iload 4, 2) := dk_21 4 (dk_at dksX7_near_4 12 rfl rfl)
theorem dX7_near_108 : decode cX7_near 108 = .ok (.istore_n 2, 1) := dk_61 (dk_at dksX7_near_4 14 rfl rfl)
theorem dX7_near_109 : decode cX7_near 109 = .ok (.iinc 3 1, 3) := dk_132 3 1 (dk_at dksX7_near_4 15 rfl rfl)
theorem dX7_near_112 : decode cX7_near 112 = .ok (.goto (-88), 3) := dk_167 255 168 (dk_at dksX7_near_4 18 rfl rfl)
theorem dX7_near_115 : decode cX7_near 115 = .ok (.iload_n 1, 1) := dk_27 (dk_at dksX7_near_4 21 rfl rfl)
theorem dX7_near_116 : decode cX7_near 116 = .ok (.iconst (-1), 1) := dk_2 (dk_at dksX7_near_4 22 rfl rfl)
theorem dX7_near_117 : decode cX7_near 117 = .ok (.if_icmp .ne 5, 3) := dk_160 0 5 (dk_at dksX7_near_5 0 rfl rfl)
theorem dX7_near_120 : decode cX7_near 120 = .ok (.iconst (-1), 1) := dk_2 (dk_at dksX7_near_5 3 rfl rfl)
theorem dX7_near_121 : decode cX7_near 121 = .ok (.ireturn, 1) := dk_172 (dk_at dksX7_near_5 4 rfl rfl)
theorem dX7_near_122 : decode cX7_near 122 = .ok (.aload_n 0, 1) := dk_42 (dk_at dksX7_near_5 5 rfl rfl)
theorem dX7_near_123 : decode cX7_near 123 = .ok (.iload_n 1, 1) := dk_27 (dk_at dksX7_near_5 6 rfl rfl)
theorem dX7_near_124 : decode cX7_near 124 = .ok (.invokevirtual 416, 3) := dk_182 1 160 (dk_at dksX7_near_5 7 rfl rfl)
theorem dX7_near_127 : decode cX7_near 127 = .ok (.iload_n 2, 1) := dk_28 (dk_at dksX7_near_5 10 rfl rfl)
theorem dX7_near_128 : decode cX7_near 128 = .ok (.ireturn, 1) := dk_172 (dk_at dksX7_near_5 11 rfl rfl)
abbrev cX7_holds : ByteArray := prog_33_method_100_code
def yX7_holds : MethodName := ⟨RX7, "holds", "(I)I"⟩
def dkwX7_holds_4 : List UInt8 := [167, 255, 203, 28, 172]
abbrev dktX7_holds_4 : List UInt8 := dkwX7_holds_4 ++ []
def dkwX7_holds_3 : List UInt8 := [153, 0, 16, 42, 16, 8, 182, 1, 115, 153, 0, 7, 4, 167, 0, 4, 3, 96, 61, 132, 3, 1]
abbrev dktX7_holds_3 : List UInt8 := dkwX7_holds_3 ++ dktX7_holds_4
def dkwX7_holds_2 : List UInt8 := [162, 0, 49, 28, 27, 154, 0, 14, 42, 29, 182, 1, 148, 153, 0, 27, 167, 0, 11, 42, 29, 182, 1, 157]
abbrev dktX7_holds_2 : List UInt8 := dkwX7_holds_2 ++ dktX7_holds_3
def dkwX7_holds_1 : List UInt8 := [4, 184, 0, 160, 154, 0, 5, 2, 172, 42, 182, 1, 154, 3, 61, 3, 62, 29, 4, 42, 182, 0, 171, 120]
abbrev dktX7_holds_1 : List UInt8 := dkwX7_holds_1 ++ dktX7_holds_2
def dkwX7_holds_0 : List UInt8 := [42, 3, 181, 0, 142, 42, 180, 0, 54, 16, 8, 46, 153, 0, 19, 42, 182, 0, 182, 153, 0, 12, 27, 3]
abbrev dktX7_holds_0 : List UInt8 := dkwX7_holds_0 ++ dktX7_holds_1
theorem dksX7_holds_0 : cX7_holds.data.toList.drop 0 = dktX7_holds_0 := by decide +kernel
theorem dksX7_holds_1 : cX7_holds.data.toList.drop 24 = dktX7_holds_1 := dk_seg dksX7_holds_0 24 rfl rfl
theorem dksX7_holds_2 : cX7_holds.data.toList.drop 48 = dktX7_holds_2 := dk_seg dksX7_holds_1 24 rfl rfl
theorem dksX7_holds_3 : cX7_holds.data.toList.drop 72 = dktX7_holds_3 := dk_seg dksX7_holds_2 24 rfl rfl
theorem dksX7_holds_4 : cX7_holds.data.toList.drop 94 = dktX7_holds_4 := dk_seg dksX7_holds_3 22 rfl rfl
theorem dX7_holds_0 : decode cX7_holds 0 = .ok (.aload_n 0, 1) := dk_42 (dk_at dksX7_holds_0 0 rfl rfl)
theorem dX7_holds_1 : decode cX7_holds 1 = .ok (.iconst 0, 1) := dk_3 (dk_at dksX7_holds_0 1 rfl rfl)
theorem dX7_holds_2 : decode cX7_holds 2 = .ok (.putfield 142, 3) := dk_181 0 142 (dk_at dksX7_holds_0 2 rfl rfl)
theorem dX7_holds_5 : decode cX7_holds 5 = .ok (.aload_n 0, 1) := dk_42 (dk_at dksX7_holds_0 5 rfl rfl)
theorem dX7_holds_6 : decode cX7_holds 6 = .ok (.getfield 54, 3) := dk_180 0 54 (dk_at dksX7_holds_0 6 rfl rfl)
theorem dX7_holds_9 : decode cX7_holds 9 = .ok (.bipush 8, 2) := dk_16 8 (dk_at dksX7_holds_0 9 rfl rfl)
theorem dX7_holds_11 : decode cX7_holds 11 = .ok (.iaload, 1) := dk_46 (dk_at dksX7_holds_0 11 rfl rfl)
theorem dX7_holds_12 : decode cX7_holds 12 = .ok (.ifCond .eq 19, 3) := dk_153 0 19 (dk_at dksX7_holds_0 12 rfl rfl)
theorem dX7_holds_15 : decode cX7_holds 15 = .ok (.aload_n 0, 1) := dk_42 (dk_at dksX7_holds_0 15 rfl rfl)
theorem dX7_holds_16 : decode cX7_holds 16 = .ok (.invokevirtual 182, 3) := dk_182 0 182 (dk_at dksX7_holds_0 16 rfl rfl)
theorem dX7_holds_19 : decode cX7_holds 19 = .ok (.ifCond .eq 12, 3) := dk_153 0 12 (dk_at dksX7_holds_0 19 rfl rfl)
theorem dX7_holds_22 : decode cX7_holds 22 = .ok (.iload_n 1, 1) := dk_27 (dk_at dksX7_holds_0 22 rfl rfl)
theorem dX7_holds_23 : decode cX7_holds 23 = .ok (.iconst 0, 1) := dk_3 (dk_at dksX7_holds_0 23 rfl rfl)
theorem dX7_holds_24 : decode cX7_holds 24 = .ok (.iconst 1, 1) := dk_4 (dk_at dksX7_holds_1 0 rfl rfl)
theorem dX7_holds_25 : decode cX7_holds 25 = .ok (.invokestatic 160, 3) := dk_184 0 160 (dk_at dksX7_holds_1 1 rfl rfl)
theorem dX7_holds_28 : decode cX7_holds 28 = .ok (.ifCond .ne 5, 3) := dk_154 0 5 (dk_at dksX7_holds_1 4 rfl rfl)
theorem dX7_holds_31 : decode cX7_holds 31 = .ok (.iconst (-1), 1) := dk_2 (dk_at dksX7_holds_1 7 rfl rfl)
theorem dX7_holds_32 : decode cX7_holds 32 = .ok (.ireturn, 1) := dk_172 (dk_at dksX7_holds_1 8 rfl rfl)
theorem dX7_holds_33 : decode cX7_holds 33 = .ok (.aload_n 0, 1) := dk_42 (dk_at dksX7_holds_1 9 rfl rfl)
theorem dX7_holds_34 : decode cX7_holds 34 = .ok (.invokevirtual 410, 3) := dk_182 1 154 (dk_at dksX7_holds_1 10 rfl rfl)
theorem dX7_holds_37 : decode cX7_holds 37 = .ok (.iconst 0, 1) := dk_3 (dk_at dksX7_holds_1 13 rfl rfl)
theorem dX7_holds_38 : decode cX7_holds 38 = .ok (.istore_n 2, 1) := dk_61 (dk_at dksX7_holds_1 14 rfl rfl)
theorem dX7_holds_39 : decode cX7_holds 39 = .ok (.iconst 0, 1) := dk_3 (dk_at dksX7_holds_1 15 rfl rfl)
theorem dX7_holds_40 : decode cX7_holds 40 = .ok (.istore_n 3, 1) := dk_62 (dk_at dksX7_holds_1 16 rfl rfl)
theorem dX7_holds_41 : decode cX7_holds 41 = .ok (.iload_n 3, 1) := dk_29 (dk_at dksX7_holds_1 17 rfl rfl)
theorem dX7_holds_42 : decode cX7_holds 42 = .ok (.iconst 1, 1) := dk_4 (dk_at dksX7_holds_1 18 rfl rfl)
theorem dX7_holds_43 : decode cX7_holds 43 = .ok (.aload_n 0, 1) := dk_42 (dk_at dksX7_holds_1 19 rfl rfl)
theorem dX7_holds_44 : decode cX7_holds 44 = .ok (.invokevirtual 171, 3) := dk_182 0 171 (dk_at dksX7_holds_1 20 rfl rfl)
theorem dX7_holds_47 : decode cX7_holds 47 = .ok (.ishl, 1) := dk_120 (dk_at dksX7_holds_1 23 rfl rfl)
theorem dX7_holds_48 : decode cX7_holds 48 = .ok (.if_icmp .ge 49, 3) := dk_162 0 49 (dk_at dksX7_holds_2 0 rfl rfl)
theorem dX7_holds_51 : decode cX7_holds 51 = .ok (.iload_n 2, 1) := dk_28 (dk_at dksX7_holds_2 3 rfl rfl)
theorem dX7_holds_52 : decode cX7_holds 52 = .ok (.iload_n 1, 1) := dk_27 (dk_at dksX7_holds_2 4 rfl rfl)
theorem dX7_holds_53 : decode cX7_holds 53 = .ok (.ifCond .ne 14, 3) := dk_154 0 14 (dk_at dksX7_holds_2 5 rfl rfl)
theorem dX7_holds_56 : decode cX7_holds 56 = .ok (.aload_n 0, 1) := dk_42 (dk_at dksX7_holds_2 8 rfl rfl)
theorem dX7_holds_57 : decode cX7_holds 57 = .ok (.iload_n 3, 1) := dk_29 (dk_at dksX7_holds_2 9 rfl rfl)
theorem dX7_holds_58 : decode cX7_holds 58 = .ok (.invokevirtual 404, 3) := dk_182 1 148 (dk_at dksX7_holds_2 10 rfl rfl)
theorem dX7_holds_61 : decode cX7_holds 61 = .ok (.ifCond .eq 27, 3) := dk_153 0 27 (dk_at dksX7_holds_2 13 rfl rfl)
theorem dX7_holds_64 : decode cX7_holds 64 = .ok (.goto 11, 3) := dk_167 0 11 (dk_at dksX7_holds_2 16 rfl rfl)
theorem dX7_holds_67 : decode cX7_holds 67 = .ok (.aload_n 0, 1) := dk_42 (dk_at dksX7_holds_2 19 rfl rfl)
theorem dX7_holds_68 : decode cX7_holds 68 = .ok (.iload_n 3, 1) := dk_29 (dk_at dksX7_holds_2 20 rfl rfl)
theorem dX7_holds_69 : decode cX7_holds 69 = .ok (.invokevirtual 413, 3) := dk_182 1 157 (dk_at dksX7_holds_2 21 rfl rfl)
theorem dX7_holds_72 : decode cX7_holds 72 = .ok (.ifCond .eq 16, 3) := dk_153 0 16 (dk_at dksX7_holds_3 0 rfl rfl)
theorem dX7_holds_75 : decode cX7_holds 75 = .ok (.aload_n 0, 1) := dk_42 (dk_at dksX7_holds_3 3 rfl rfl)
theorem dX7_holds_76 : decode cX7_holds 76 = .ok (.bipush 8, 2) := dk_16 8 (dk_at dksX7_holds_3 4 rfl rfl)
theorem dX7_holds_78 : decode cX7_holds 78 = .ok (.invokevirtual 371, 3) := dk_182 1 115 (dk_at dksX7_holds_3 6 rfl rfl)
theorem dX7_holds_81 : decode cX7_holds 81 = .ok (.ifCond .eq 7, 3) := dk_153 0 7 (dk_at dksX7_holds_3 9 rfl rfl)
theorem dX7_holds_84 : decode cX7_holds 84 = .ok (.iconst 1, 1) := dk_4 (dk_at dksX7_holds_3 12 rfl rfl)
theorem dX7_holds_85 : decode cX7_holds 85 = .ok (.goto 4, 3) := dk_167 0 4 (dk_at dksX7_holds_3 13 rfl rfl)
theorem dX7_holds_88 : decode cX7_holds 88 = .ok (.iconst 0, 1) := dk_3 (dk_at dksX7_holds_3 16 rfl rfl)
theorem dX7_holds_89 : decode cX7_holds 89 = .ok (.iadd, 1) := dk_96 (dk_at dksX7_holds_3 17 rfl rfl)
theorem dX7_holds_90 : decode cX7_holds 90 = .ok (.istore_n 2, 1) := dk_61 (dk_at dksX7_holds_3 18 rfl rfl)
theorem dX7_holds_91 : decode cX7_holds 91 = .ok (.iinc 3 1, 3) := dk_132 3 1 (dk_at dksX7_holds_3 19 rfl rfl)
theorem dX7_holds_94 : decode cX7_holds 94 = .ok (.goto (-53), 3) := dk_167 255 203 (dk_at dksX7_holds_4 0 rfl rfl)
theorem dX7_holds_97 : decode cX7_holds 97 = .ok (.iload_n 2, 1) := dk_28 (dk_at dksX7_holds_4 3 rfl rfl)
theorem dX7_holds_98 : decode cX7_holds 98 = .ok (.ireturn, 1) := dk_172 (dk_at dksX7_holds_4 4 rfl rfl)
abbrev cX7_against : ByteArray := prog_33_method_101_code
def yX7_against : MethodName := ⟨RX7, "against", "()Z"⟩
def dkwX7_against_2 : List UInt8 := [42, 16, 8, 182, 1, 115, 154, 0, 10, 42, 27, 182, 1, 160, 4, 172, 132, 1, 1, 167, 255, 219, 3, 172]
abbrev dktX7_against_2 : List UInt8 := dkwX7_against_2 ++ []
def dkwX7_against_1 : List UInt8 := [42, 182, 1, 154, 3, 60, 27, 4, 42, 182, 0, 171, 120, 162, 0, 33, 42, 27, 182, 1, 157, 153, 0, 19]
abbrev dktX7_against_1 : List UInt8 := dkwX7_against_1 ++ dktX7_against_2
def dkwX7_against_0 : List UInt8 := [42, 3, 181, 0, 142, 42, 180, 0, 54, 16, 8, 46, 153, 0, 10, 42, 182, 0, 182, 154, 0, 5, 3, 172]
abbrev dktX7_against_0 : List UInt8 := dkwX7_against_0 ++ dktX7_against_1
theorem dksX7_against_0 : cX7_against.data.toList.drop 0 = dktX7_against_0 := by decide +kernel
theorem dksX7_against_1 : cX7_against.data.toList.drop 24 = dktX7_against_1 := dk_seg dksX7_against_0 24 rfl rfl
theorem dksX7_against_2 : cX7_against.data.toList.drop 48 = dktX7_against_2 := dk_seg dksX7_against_1 24 rfl rfl
theorem dX7_against_0 : decode cX7_against 0 = .ok (.aload_n 0, 1) := dk_42 (dk_at dksX7_against_0 0 rfl rfl)
theorem dX7_against_1 : decode cX7_against 1 = .ok (.iconst 0, 1) := dk_3 (dk_at dksX7_against_0 1 rfl rfl)
theorem dX7_against_2 : decode cX7_against 2 = .ok (.putfield 142, 3) := dk_181 0 142 (dk_at dksX7_against_0 2 rfl rfl)
theorem dX7_against_5 : decode cX7_against 5 = .ok (.aload_n 0, 1) := dk_42 (dk_at dksX7_against_0 5 rfl rfl)
theorem dX7_against_6 : decode cX7_against 6 = .ok (.getfield 54, 3) := dk_180 0 54 (dk_at dksX7_against_0 6 rfl rfl)
theorem dX7_against_9 : decode cX7_against 9 = .ok (.bipush 8, 2) := dk_16 8 (dk_at dksX7_against_0 9 rfl rfl)
theorem dX7_against_11 : decode cX7_against 11 = .ok (.iaload, 1) := dk_46 (dk_at dksX7_against_0 11 rfl rfl)
theorem dX7_against_12 : decode cX7_against 12 = .ok (.ifCond .eq 10, 3) := dk_153 0 10 (dk_at dksX7_against_0 12 rfl rfl)
theorem dX7_against_15 : decode cX7_against 15 = .ok (.aload_n 0, 1) := dk_42 (dk_at dksX7_against_0 15 rfl rfl)
theorem dX7_against_16 : decode cX7_against 16 = .ok (.invokevirtual 182, 3) := dk_182 0 182 (dk_at dksX7_against_0 16 rfl rfl)
theorem dX7_against_19 : decode cX7_against 19 = .ok (.ifCond .ne 5, 3) := dk_154 0 5 (dk_at dksX7_against_0 19 rfl rfl)
theorem dX7_against_22 : decode cX7_against 22 = .ok (.iconst 0, 1) := dk_3 (dk_at dksX7_against_0 22 rfl rfl)
theorem dX7_against_23 : decode cX7_against 23 = .ok (.ireturn, 1) := dk_172 (dk_at dksX7_against_0 23 rfl rfl)
theorem dX7_against_24 : decode cX7_against 24 = .ok (.aload_n 0, 1) := dk_42 (dk_at dksX7_against_1 0 rfl rfl)
theorem dX7_against_25 : decode cX7_against 25 = .ok (.invokevirtual 410, 3) := dk_182 1 154 (dk_at dksX7_against_1 1 rfl rfl)
theorem dX7_against_28 : decode cX7_against 28 = .ok (.iconst 0, 1) := dk_3 (dk_at dksX7_against_1 4 rfl rfl)
theorem dX7_against_29 : decode cX7_against 29 = .ok (.istore_n 1, 1) := dk_60 (dk_at dksX7_against_1 5 rfl rfl)
theorem dX7_against_30 : decode cX7_against 30 = .ok (.iload_n 1, 1) := dk_27 (dk_at dksX7_against_1 6 rfl rfl)
theorem dX7_against_31 : decode cX7_against 31 = .ok (.iconst 1, 1) := dk_4 (dk_at dksX7_against_1 7 rfl rfl)
theorem dX7_against_32 : decode cX7_against 32 = .ok (.aload_n 0, 1) := dk_42 (dk_at dksX7_against_1 8 rfl rfl)
theorem dX7_against_33 : decode cX7_against 33 = .ok (.invokevirtual 171, 3) := dk_182 0 171 (dk_at dksX7_against_1 9 rfl rfl)
theorem dX7_against_36 : decode cX7_against 36 = .ok (.ishl, 1) := dk_120 (dk_at dksX7_against_1 12 rfl rfl)
theorem dX7_against_37 : decode cX7_against 37 = .ok (.if_icmp .ge 33, 3) := dk_162 0 33 (dk_at dksX7_against_1 13 rfl rfl)
theorem dX7_against_40 : decode cX7_against 40 = .ok (.aload_n 0, 1) := dk_42 (dk_at dksX7_against_1 16 rfl rfl)
theorem dX7_against_41 : decode cX7_against 41 = .ok (.iload_n 1, 1) := dk_27 (dk_at dksX7_against_1 17 rfl rfl)
theorem dX7_against_42 : decode cX7_against 42 = .ok (.invokevirtual 413, 3) := dk_182 1 157 (dk_at dksX7_against_1 18 rfl rfl)
theorem dX7_against_45 : decode cX7_against 45 = .ok (.ifCond .eq 19, 3) := dk_153 0 19 (dk_at dksX7_against_1 21 rfl rfl)
theorem dX7_against_48 : decode cX7_against 48 = .ok (.aload_n 0, 1) := dk_42 (dk_at dksX7_against_2 0 rfl rfl)
theorem dX7_against_49 : decode cX7_against 49 = .ok (.bipush 8, 2) := dk_16 8 (dk_at dksX7_against_2 1 rfl rfl)
theorem dX7_against_51 : decode cX7_against 51 = .ok (.invokevirtual 371, 3) := dk_182 1 115 (dk_at dksX7_against_2 3 rfl rfl)
theorem dX7_against_54 : decode cX7_against 54 = .ok (.ifCond .ne 10, 3) := dk_154 0 10 (dk_at dksX7_against_2 6 rfl rfl)
theorem dX7_against_57 : decode cX7_against 57 = .ok (.aload_n 0, 1) := dk_42 (dk_at dksX7_against_2 9 rfl rfl)
theorem dX7_against_58 : decode cX7_against 58 = .ok (.iload_n 1, 1) := dk_27 (dk_at dksX7_against_2 10 rfl rfl)
theorem dX7_against_59 : decode cX7_against 59 = .ok (.invokevirtual 416, 3) := dk_182 1 160 (dk_at dksX7_against_2 11 rfl rfl)
theorem dX7_against_62 : decode cX7_against 62 = .ok (.iconst 1, 1) := dk_4 (dk_at dksX7_against_2 14 rfl rfl)
theorem dX7_against_63 : decode cX7_against 63 = .ok (.ireturn, 1) := dk_172 (dk_at dksX7_against_2 15 rfl rfl)
theorem dX7_against_64 : decode cX7_against 64 = .ok (.iinc 1 1, 3) := dk_132 1 1 (dk_at dksX7_against_2 16 rfl rfl)
theorem dX7_against_67 : decode cX7_against 67 = .ok (.goto (-37), 3) := dk_167 255 219 (dk_at dksX7_against_2 19 rfl rfl)
theorem dX7_against_70 : decode cX7_against 70 = .ok (.iconst 0, 1) := dk_3 (dk_at dksX7_against_2 22 rfl rfl)
theorem dX7_against_71 : decode cX7_against 71 = .ok (.ireturn, 1) := dk_172 (dk_at dksX7_against_2 23 rfl rfl)
abbrev cX7_many : ByteArray := prog_33_method_102_code
def yX7_many : MethodName := ⟨RX7, "many", "(I)I"⟩
def dkwX7_many_5 : List UInt8 := [167, 255, 230, 28, 172, 42, 180, 0, 54, 16, 8, 46, 172, 42, 180, 0, 69, 3, 46, 172, 16, 254, 172]
abbrev dktX7_many_5 : List UInt8 := dkwX7_many_5 ++ []
def dkwX7_many_4 : List UInt8 := [162, 0, 26, 28, 42, 180, 0, 41, 29, 51, 153, 0, 7, 4, 167, 0, 4, 3, 96, 61, 132, 3, 1]
abbrev dktX7_many_4 : List UInt8 := dkwX7_many_4 ++ dktX7_many_5
def dkwX7_many_3 : List UInt8 := [180, 0, 23, 3, 46, 172, 42, 180, 0, 26, 3, 46, 172, 42, 182, 1, 124, 172, 3, 62, 29, 16, 36]
abbrev dktX7_many_3 : List UInt8 := dkwX7_many_3 ++ dktX7_many_4
def dkwX7_many_2 : List UInt8 := [42, 180, 0, 29, 27, 46, 172, 42, 180, 0, 32, 3, 46, 172, 42, 180, 0, 45, 3, 46, 172, 42]
abbrev dktX7_many_2 : List UInt8 := dkwX7_many_2 ++ dktX7_many_3
def dkwX7_many_1 : List UInt8 := [170, 0, 0, 0, 0, 0, 0, 148, 0, 0, 0, 0, 0, 0, 0, 10, 0, 0, 0, 60, 0, 0, 0, 60, 0, 0, 0, 60, 0, 0, 0, 67, 0, 0, 0, 74, 0, 0, 0, 81, 0, 0, 0, 88, 0, 0, 0, 95, 0, 0, 0, 100, 0, 0, 0, 133, 0, 0, 0, 141]
abbrev dktX7_many_1 : List UInt8 := dkwX7_many_1 ++ dktX7_many_2
def dkwX7_many_0 : List UInt8 := [42, 3, 181, 0, 142, 3, 61, 27]
abbrev dktX7_many_0 : List UInt8 := dkwX7_many_0 ++ dktX7_many_1
theorem dksX7_many_0 : cX7_many.data.toList.drop 0 = dktX7_many_0 := by decide +kernel
theorem dksX7_many_1 : cX7_many.data.toList.drop 8 = dktX7_many_1 := dk_seg dksX7_many_0 8 rfl rfl
theorem dksX7_many_2 : cX7_many.data.toList.drop 68 = dktX7_many_2 := dk_seg dksX7_many_1 60 rfl rfl
theorem dksX7_many_3 : cX7_many.data.toList.drop 90 = dktX7_many_3 := dk_seg dksX7_many_2 22 rfl rfl
theorem dksX7_many_4 : cX7_many.data.toList.drop 113 = dktX7_many_4 := dk_seg dksX7_many_3 23 rfl rfl
theorem dksX7_many_5 : cX7_many.data.toList.drop 136 = dktX7_many_5 := dk_seg dksX7_many_4 23 rfl rfl
theorem dX7_many_0 : decode cX7_many 0 = .ok (.aload_n 0, 1) := dk_42 (dk_at dksX7_many_0 0 rfl rfl)
theorem dX7_many_1 : decode cX7_many 1 = .ok (.iconst 0, 1) := dk_3 (dk_at dksX7_many_0 1 rfl rfl)
theorem dX7_many_2 : decode cX7_many 2 = .ok (.putfield 142, 3) := dk_181 0 142 (dk_at dksX7_many_0 2 rfl rfl)
theorem dX7_many_5 : decode cX7_many 5 = .ok (.iconst 0, 1) := dk_3 (dk_at dksX7_many_0 5 rfl rfl)
theorem dX7_many_6 : decode cX7_many 6 = .ok (.istore_n 2, 1) := dk_61 (dk_at dksX7_many_0 6 rfl rfl)
theorem dX7_many_7 : decode cX7_many 7 = .ok (.iload_n 1, 1) := dk_27 (dk_at dksX7_many_0 7 rfl rfl)
theorem dX7_many_8 : decode cX7_many 8 = .ok (.tableswitch 148 0 10 #[60, 60, 60, 67, 74, 81, 88, 95, 100, 133, 141], 60) := by decide +kernel
theorem dX7_many_68 : decode cX7_many 68 = .ok (.aload_n 0, 1) := dk_42 (dk_at dksX7_many_2 0 rfl rfl)
theorem dX7_many_69 : decode cX7_many 69 = .ok (.getfield 29, 3) := dk_180 0 29 (dk_at dksX7_many_2 1 rfl rfl)
theorem dX7_many_72 : decode cX7_many 72 = .ok (.iload_n 1, 1) := dk_27 (dk_at dksX7_many_2 4 rfl rfl)
theorem dX7_many_73 : decode cX7_many 73 = .ok (.iaload, 1) := dk_46 (dk_at dksX7_many_2 5 rfl rfl)
theorem dX7_many_74 : decode cX7_many 74 = .ok (.ireturn, 1) := dk_172 (dk_at dksX7_many_2 6 rfl rfl)
theorem dX7_many_75 : decode cX7_many 75 = .ok (.aload_n 0, 1) := dk_42 (dk_at dksX7_many_2 7 rfl rfl)
theorem dX7_many_76 : decode cX7_many 76 = .ok (.getfield 32, 3) := dk_180 0 32 (dk_at dksX7_many_2 8 rfl rfl)
theorem dX7_many_79 : decode cX7_many 79 = .ok (.iconst 0, 1) := dk_3 (dk_at dksX7_many_2 11 rfl rfl)
theorem dX7_many_80 : decode cX7_many 80 = .ok (.iaload, 1) := dk_46 (dk_at dksX7_many_2 12 rfl rfl)
theorem dX7_many_81 : decode cX7_many 81 = .ok (.ireturn, 1) := dk_172 (dk_at dksX7_many_2 13 rfl rfl)
theorem dX7_many_82 : decode cX7_many 82 = .ok (.aload_n 0, 1) := dk_42 (dk_at dksX7_many_2 14 rfl rfl)
theorem dX7_many_83 : decode cX7_many 83 = .ok (.getfield 45, 3) := dk_180 0 45 (dk_at dksX7_many_2 15 rfl rfl)
theorem dX7_many_86 : decode cX7_many 86 = .ok (.iconst 0, 1) := dk_3 (dk_at dksX7_many_2 18 rfl rfl)
theorem dX7_many_87 : decode cX7_many 87 = .ok (.iaload, 1) := dk_46 (dk_at dksX7_many_2 19 rfl rfl)
theorem dX7_many_88 : decode cX7_many 88 = .ok (.ireturn, 1) := dk_172 (dk_at dksX7_many_2 20 rfl rfl)
theorem dX7_many_89 : decode cX7_many 89 = .ok (.aload_n 0, 1) := dk_42 (dk_at dksX7_many_2 21 rfl rfl)
theorem dX7_many_90 : decode cX7_many 90 = .ok (.getfield 23, 3) := dk_180 0 23 (dk_at dksX7_many_3 0 rfl rfl)
theorem dX7_many_93 : decode cX7_many 93 = .ok (.iconst 0, 1) := dk_3 (dk_at dksX7_many_3 3 rfl rfl)
theorem dX7_many_94 : decode cX7_many 94 = .ok (.iaload, 1) := dk_46 (dk_at dksX7_many_3 4 rfl rfl)
theorem dX7_many_95 : decode cX7_many 95 = .ok (.ireturn, 1) := dk_172 (dk_at dksX7_many_3 5 rfl rfl)
theorem dX7_many_96 : decode cX7_many 96 = .ok (.aload_n 0, 1) := dk_42 (dk_at dksX7_many_3 6 rfl rfl)
theorem dX7_many_97 : decode cX7_many 97 = .ok (.getfield 26, 3) := dk_180 0 26 (dk_at dksX7_many_3 7 rfl rfl)
theorem dX7_many_100 : decode cX7_many 100 = .ok (.iconst 0, 1) := dk_3 (dk_at dksX7_many_3 10 rfl rfl)
theorem dX7_many_101 : decode cX7_many 101 = .ok (.iaload, 1) := dk_46 (dk_at dksX7_many_3 11 rfl rfl)
theorem dX7_many_102 : decode cX7_many 102 = .ok (.ireturn, 1) := dk_172 (dk_at dksX7_many_3 12 rfl rfl)
theorem dX7_many_103 : decode cX7_many 103 = .ok (.aload_n 0, 1) := dk_42 (dk_at dksX7_many_3 13 rfl rfl)
theorem dX7_many_104 : decode cX7_many 104 = .ok (.invokevirtual 380, 3) := dk_182 1 124 (dk_at dksX7_many_3 14 rfl rfl)
theorem dX7_many_107 : decode cX7_many 107 = .ok (.ireturn, 1) := dk_172 (dk_at dksX7_many_3 17 rfl rfl)
theorem dX7_many_108 : decode cX7_many 108 = .ok (.iconst 0, 1) := dk_3 (dk_at dksX7_many_3 18 rfl rfl)
theorem dX7_many_109 : decode cX7_many 109 = .ok (.istore_n 3, 1) := dk_62 (dk_at dksX7_many_3 19 rfl rfl)
theorem dX7_many_110 : decode cX7_many 110 = .ok (.iload_n 3, 1) := dk_29 (dk_at dksX7_many_3 20 rfl rfl)
theorem dX7_many_111 : decode cX7_many 111 = .ok (.bipush 36, 2) := dk_16 36 (dk_at dksX7_many_3 21 rfl rfl)
theorem dX7_many_113 : decode cX7_many 113 = .ok (.if_icmp .ge 26, 3) := dk_162 0 26 (dk_at dksX7_many_4 0 rfl rfl)
theorem dX7_many_116 : decode cX7_many 116 = .ok (.iload_n 2, 1) := dk_28 (dk_at dksX7_many_4 3 rfl rfl)
theorem dX7_many_117 : decode cX7_many 117 = .ok (.aload_n 0, 1) := dk_42 (dk_at dksX7_many_4 4 rfl rfl)
theorem dX7_many_118 : decode cX7_many 118 = .ok (.getfield 41, 3) := dk_180 0 41 (dk_at dksX7_many_4 5 rfl rfl)
theorem dX7_many_121 : decode cX7_many 121 = .ok (.iload_n 3, 1) := dk_29 (dk_at dksX7_many_4 8 rfl rfl)
theorem dX7_many_122 : decode cX7_many 122 = .ok (.baload, 1) := dk_51 (dk_at dksX7_many_4 9 rfl rfl)
theorem dX7_many_123 : decode cX7_many 123 = .ok (.ifCond .eq 7, 3) := dk_153 0 7 (dk_at dksX7_many_4 10 rfl rfl)
theorem dX7_many_126 : decode cX7_many 126 = .ok (.iconst 1, 1) := dk_4 (dk_at dksX7_many_4 13 rfl rfl)
theorem dX7_many_127 : decode cX7_many 127 = .ok (.goto 4, 3) := dk_167 0 4 (dk_at dksX7_many_4 14 rfl rfl)
theorem dX7_many_130 : decode cX7_many 130 = .ok (.iconst 0, 1) := dk_3 (dk_at dksX7_many_4 17 rfl rfl)
theorem dX7_many_131 : decode cX7_many 131 = .ok (.iadd, 1) := dk_96 (dk_at dksX7_many_4 18 rfl rfl)
theorem dX7_many_132 : decode cX7_many 132 = .ok (.istore_n 2, 1) := dk_61 (dk_at dksX7_many_4 19 rfl rfl)
theorem dX7_many_133 : decode cX7_many 133 = .ok (.iinc 3 1, 3) := dk_132 3 1 (dk_at dksX7_many_4 20 rfl rfl)
theorem dX7_many_136 : decode cX7_many 136 = .ok (.goto (-26), 3) := dk_167 255 230 (dk_at dksX7_many_5 0 rfl rfl)
theorem dX7_many_139 : decode cX7_many 139 = .ok (.iload_n 2, 1) := dk_28 (dk_at dksX7_many_5 3 rfl rfl)
theorem dX7_many_140 : decode cX7_many 140 = .ok (.ireturn, 1) := dk_172 (dk_at dksX7_many_5 4 rfl rfl)
theorem dX7_many_141 : decode cX7_many 141 = .ok (.aload_n 0, 1) := dk_42 (dk_at dksX7_many_5 5 rfl rfl)
theorem dX7_many_142 : decode cX7_many 142 = .ok (.getfield 54, 3) := dk_180 0 54 (dk_at dksX7_many_5 6 rfl rfl)
theorem dX7_many_145 : decode cX7_many 145 = .ok (.bipush 8, 2) := dk_16 8 (dk_at dksX7_many_5 9 rfl rfl)
theorem dX7_many_147 : decode cX7_many 147 = .ok (.iaload, 1) := dk_46 (dk_at dksX7_many_5 11 rfl rfl)
theorem dX7_many_148 : decode cX7_many 148 = .ok (.ireturn, 1) := dk_172 (dk_at dksX7_many_5 12 rfl rfl)
theorem dX7_many_149 : decode cX7_many 149 = .ok (.aload_n 0, 1) := dk_42 (dk_at dksX7_many_5 13 rfl rfl)
theorem dX7_many_150 : decode cX7_many 150 = .ok (.getfield 69, 3) := dk_180 0 69 (dk_at dksX7_many_5 14 rfl rfl)
theorem dX7_many_153 : decode cX7_many 153 = .ok (.iconst 0, 1) := dk_3 (dk_at dksX7_many_5 17 rfl rfl)
theorem dX7_many_154 : decode cX7_many 154 = .ok (.iaload, 1) := dk_46 (dk_at dksX7_many_5 18 rfl rfl)
theorem dX7_many_155 : decode cX7_many 155 = .ok (.ireturn, 1) := dk_172 (dk_at dksX7_many_5 19 rfl rfl)
theorem dX7_many_156 : decode cX7_many 156 = .ok (.bipush (-2), 2) := dk_16 254 (dk_at dksX7_many_5 20 rfl rfl)
theorem dX7_many_158 : decode cX7_many 158 = .ok (.ireturn, 1) := dk_172 (dk_at dksX7_many_5 22 rfl rfl)
abbrev cX7_image : ByteArray := prog_33_method_103_code
def yX7_image : MethodName := ⟨RX7, "image", "(I)Z"⟩
def dkwX7_image_1 : List UInt8 := [42, 180, 0, 139, 27, 4, 84, 4, 172]
abbrev dktX7_image_1 : List UInt8 := dkwX7_image_1 ++ []
def dkwX7_image_0 : List UInt8 := [42, 3, 181, 0, 142, 27, 3, 5, 184, 0, 160, 154, 0, 5, 3, 172, 42, 3, 27, 4, 96, 182, 1, 203]
abbrev dktX7_image_0 : List UInt8 := dkwX7_image_0 ++ dktX7_image_1
theorem dksX7_image_0 : cX7_image.data.toList.drop 0 = dktX7_image_0 := by decide +kernel
theorem dksX7_image_1 : cX7_image.data.toList.drop 24 = dktX7_image_1 := dk_seg dksX7_image_0 24 rfl rfl
theorem dX7_image_0 : decode cX7_image 0 = .ok (.aload_n 0, 1) := dk_42 (dk_at dksX7_image_0 0 rfl rfl)
theorem dX7_image_1 : decode cX7_image 1 = .ok (.iconst 0, 1) := dk_3 (dk_at dksX7_image_0 1 rfl rfl)
theorem dX7_image_2 : decode cX7_image 2 = .ok (.putfield 142, 3) := dk_181 0 142 (dk_at dksX7_image_0 2 rfl rfl)
theorem dX7_image_5 : decode cX7_image 5 = .ok (.iload_n 1, 1) := dk_27 (dk_at dksX7_image_0 5 rfl rfl)
theorem dX7_image_6 : decode cX7_image 6 = .ok (.iconst 0, 1) := dk_3 (dk_at dksX7_image_0 6 rfl rfl)
theorem dX7_image_7 : decode cX7_image 7 = .ok (.iconst 2, 1) := dk_5 (dk_at dksX7_image_0 7 rfl rfl)
theorem dX7_image_8 : decode cX7_image 8 = .ok (.invokestatic 160, 3) := dk_184 0 160 (dk_at dksX7_image_0 8 rfl rfl)
theorem dX7_image_11 : decode cX7_image 11 = .ok (.ifCond .ne 5, 3) := dk_154 0 5 (dk_at dksX7_image_0 11 rfl rfl)
theorem dX7_image_14 : decode cX7_image 14 = .ok (.iconst 0, 1) := dk_3 (dk_at dksX7_image_0 14 rfl rfl)
theorem dX7_image_15 : decode cX7_image 15 = .ok (.ireturn, 1) := dk_172 (dk_at dksX7_image_0 15 rfl rfl)
theorem dX7_image_16 : decode cX7_image 16 = .ok (.aload_n 0, 1) := dk_42 (dk_at dksX7_image_0 16 rfl rfl)
theorem dX7_image_17 : decode cX7_image 17 = .ok (.iconst 0, 1) := dk_3 (dk_at dksX7_image_0 17 rfl rfl)
theorem dX7_image_18 : decode cX7_image 18 = .ok (.iload_n 1, 1) := dk_27 (dk_at dksX7_image_0 18 rfl rfl)
theorem dX7_image_19 : decode cX7_image 19 = .ok (.iconst 1, 1) := dk_4 (dk_at dksX7_image_0 19 rfl rfl)
theorem dX7_image_20 : decode cX7_image 20 = .ok (.iadd, 1) := dk_96 (dk_at dksX7_image_0 20 rfl rfl)
theorem dX7_image_21 : decode cX7_image 21 = .ok (.invokevirtual 459, 3) := dk_182 1 203 (dk_at dksX7_image_0 21 rfl rfl)
theorem dX7_image_24 : decode cX7_image 24 = .ok (.aload_n 0, 1) := dk_42 (dk_at dksX7_image_1 0 rfl rfl)
theorem dX7_image_25 : decode cX7_image 25 = .ok (.getfield 139, 3) := dk_180 0 139 (dk_at dksX7_image_1 1 rfl rfl)
theorem dX7_image_28 : decode cX7_image 28 = .ok (.iload_n 1, 1) := dk_27 (dk_at dksX7_image_1 4 rfl rfl)
theorem dX7_image_29 : decode cX7_image 29 = .ok (.iconst 1, 1) := dk_4 (dk_at dksX7_image_1 5 rfl rfl)
theorem dX7_image_30 : decode cX7_image 30 = .ok (.bastore, 1) := dk_84 (dk_at dksX7_image_1 6 rfl rfl)
theorem dX7_image_31 : decode cX7_image 31 = .ok (.iconst 1, 1) := dk_4 (dk_at dksX7_image_1 7 rfl rfl)
theorem dX7_image_32 : decode cX7_image 32 = .ok (.ireturn, 1) := dk_172 (dk_at dksX7_image_1 8 rfl rfl)
