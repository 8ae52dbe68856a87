set_option maxRecDepth 100000
abbrev cX0_questions : ByteArray := prog_1_method_61_code
def yX0_questions : MethodName := ⟨RX0, "questions", "()I"⟩
def dkwX0_questions_4 : List UInt8 := [182, 1, 147, 153, 0, 5, 29, 172, 132, 3, 1, 167, 255, 233, 2, 172]
abbrev dktX0_questions_4 : List UInt8 := dkwX0_questions_4 ++ []
def dkwX0_questions_3 : List UInt8 := [42, 180, 0, 69, 190, 164, 0, 5, 2, 172, 3, 62, 29, 7, 163, 0, 24, 42, 4, 28, 120, 4, 100, 29]
abbrev dktX0_questions_3 : List UInt8 := dkwX0_questions_3 ++ dktX0_questions_4
def dkwX0_questions_2 : List UInt8 := [162, 0, 10, 42, 180, 0, 69, 28, 29, 79, 132, 2, 1, 132, 3, 1, 167, 255, 214, 28, 153, 0, 12, 28]
abbrev dktX0_questions_2 : List UInt8 := dkwX0_questions_2 ++ dktX0_questions_3
def dkwX0_questions_1 : List UInt8 := [182, 1, 63, 162, 0, 40, 42, 29, 27, 182, 1, 79, 154, 0, 6, 167, 0, 22, 28, 42, 180, 0, 69, 190]
abbrev dktX0_questions_1 : List UInt8 := dkwX0_questions_1 ++ dktX0_questions_2
def dkwX0_questions_0 : List UInt8 := [42, 182, 1, 91, 154, 0, 5, 2, 172, 42, 182, 1, 94, 42, 182, 1, 97, 60, 3, 61, 3, 62, 29, 42]
abbrev dktX0_questions_0 : List UInt8 := dkwX0_questions_0 ++ dktX0_questions_1
theorem dksX0_questions_0 : cX0_questions.data.toList.drop 0 = dktX0_questions_0 := by decide +kernel
theorem dksX0_questions_1 : cX0_questions.data.toList.drop 24 = dktX0_questions_1 := dk_seg dksX0_questions_0 24 rfl rfl
theorem dksX0_questions_2 : cX0_questions.data.toList.drop 48 = dktX0_questions_2 := dk_seg dksX0_questions_1 24 rfl rfl
theorem dksX0_questions_3 : cX0_questions.data.toList.drop 72 = dktX0_questions_3 := dk_seg dksX0_questions_2 24 rfl rfl
theorem dksX0_questions_4 : cX0_questions.data.toList.drop 96 = dktX0_questions_4 := dk_seg dksX0_questions_3 24 rfl rfl
theorem dX0_questions_0 : decode cX0_questions 0 = .ok (.aload_n 0, 1) := dk_42 (dk_at dksX0_questions_0 0 rfl rfl)
theorem dX0_questions_1 : decode cX0_questions 1 = .ok (.invokevirtual 347, 3) := dk_182 1 91 (dk_at dksX0_questions_0 1 rfl rfl)
theorem dX0_questions_4 : decode cX0_questions 4 = .ok (.ifCond .ne 5, 3) := dk_154 0 5 (dk_at dksX0_questions_0 4 rfl rfl)
theorem dX0_questions_7 : decode cX0_questions 7 = .ok (.iconst (-1), 1) := dk_2 (dk_at dksX0_questions_0 7 rfl rfl)
theorem dX0_questions_8 : decode cX0_questions 8 = .ok (.ireturn, 1) := dk_172 (dk_at dksX0_questions_0 8 rfl rfl)
theorem dX0_questions_9 : decode cX0_questions 9 = .ok (.aload_n 0, 1) := dk_42 (dk_at dksX0_questions_0 9 rfl rfl)
theorem dX0_questions_10 : decode cX0_questions 10 = .ok (.invokevirtual 350, 3) := dk_182 1 94 (dk_at dksX0_questions_0 10 rfl rfl)
theorem dX0_questions_13 : decode cX0_questions 13 = .ok (.aload_n 0, 1) := dk_42 (dk_at dksX0_questions_0 13 rfl rfl)
theorem dX0_questions_14 : decode cX0_questions 14 = .ok (.invokevirtual 353, 3) := dk_182 1 97 (dk_at dksX0_questions_0 14 rfl rfl)
theorem dX0_questions_17 : decode cX0_questions 17 = .ok (.istore_n 1, 1) := dk_60 (dk_at dksX0_questions_0 17 rfl rfl)
theorem dX0_questions_18 : decode cX0_questions 18 = .ok (.iconst 0, 1) := dk_3 (dk_at dksX0_questions_0 18 rfl rfl)
theorem dX0_questions_19 : decode cX0_questions 19 = .ok (.istore_n 2, 1) := dk_61 (dk_at dksX0_questions_0 19 rfl rfl)
theorem dX0_questions_20 : decode cX0_questions 20 = .ok (.iconst 0, 1) := dk_3 (dk_at dksX0_questions_0 20 rfl rfl)
theorem dX0_questions_21 : decode cX0_questions 21 = .ok (.istore_n 3, 1) := dk_62 (dk_at dksX0_questions_0 21 rfl rfl)
theorem dX0_questions_22 : decode cX0_questions 22 = .ok (.iload_n 3, 1) := dk_29 (dk_at dksX0_questions_0 22 rfl rfl)
theorem dX0_questions_23 : decode cX0_questions 23 = .ok (.aload_n 0, 1) := dk_42 (dk_at dksX0_questions_0 23 rfl rfl)
theorem dX0_questions_24 : decode cX0_questions 24 = .ok (.invokevirtual 319, 3) := dk_182 1 63 (dk_at dksX0_questions_1 0 rfl rfl)
theorem dX0_questions_27 : decode cX0_questions 27 = .ok (.if_icmp .ge 40, 3) := dk_162 0 40 (dk_at dksX0_questions_1 3 rfl rfl)
theorem dX0_questions_30 : decode cX0_questions 30 = .ok (.aload_n 0, 1) := dk_42 (dk_at dksX0_questions_1 6 rfl rfl)
theorem dX0_questions_31 : decode cX0_questions 31 = .ok (.iload_n 3, 1) := dk_29 (dk_at dksX0_questions_1 7 rfl rfl)
theorem dX0_questions_32 : decode cX0_questions 32 = .ok (.iload_n 1, 1) := dk_27 (dk_at dksX0_questions_1 8 rfl rfl)
theorem dX0_questions_33 : decode cX0_questions 33 = .ok (.invokevirtual 335, 3) := dk_182 1 79 (dk_at dksX0_questions_1 9 rfl rfl)
theorem dX0_questions_36 : decode cX0_questions 36 = .ok (.ifCond .ne 6, 3) := dk_154 0 6 (dk_at dksX0_questions_1 12 rfl rfl)
theorem dX0_questions_39 : decode cX0_questions 39 = .ok (.goto 22, 3) := dk_167 0 22 (dk_at dksX0_questions_1 15 rfl rfl)
theorem dX0_questions_42 : decode cX0_questions 42 = .ok (.iload_n 2, 1) := dk_28 (dk_at dksX0_questions_1 18 rfl rfl)
theorem dX0_questions_43 : decode cX0_questions 43 = .ok (.aload_n 0, 1) := dk_42 (dk_at dksX0_questions_1 19 rfl rfl)
theorem dX0_questions_44 : decode cX0_questions 44 = .ok (.getfield 69, 3) := dk_180 0 69 (dk_at dksX0_questions_1 20 rfl rfl)
theorem dX0_questions_47 : decode cX0_questions 47 = .ok (.arraylength, 1) := dk_190 (dk_at dksX0_questions_1 23 rfl rfl)
theorem dX0_questions_48 : decode cX0_questions 48 = .ok (.if_icmp .ge 10, 3) := dk_162 0 10 (dk_at dksX0_questions_2 0 rfl rfl)
theorem dX0_questions_51 : decode cX0_questions 51 = .ok (.aload_n 0, 1) := dk_42 (dk_at dksX0_questions_2 3 rfl rfl)
theorem dX0_questions_52 : decode cX0_questions 52 = .ok (.getfield 69, 3) := dk_180 0 69 (dk_at dksX0_questions_2 4 rfl rfl)
theorem dX0_questions_55 : decode cX0_questions 55 = .ok (.iload_n 2, 1) := dk_28 (dk_at dksX0_questions_2 7 rfl rfl)
theorem dX0_questions_56 : decode cX0_questions 56 = .ok (.iload_n 3, 1) := dk_29 (dk_at dksX0_questions_2 8 rfl rfl)
theorem dX0_questions_57 : decode cX0_questions 57 = .ok (.iastore, 1) := dk_79 (dk_at dksX0_questions_2 9 rfl rfl)
theorem dX0_questions_58 : decode cX0_questions 58 = .ok (.iinc 2 1, 3) := dk_132 2 1 (dk_at dksX0_questions_2 10 rfl rfl)
theorem dX0_questions_61 : decode cX0_questions 61 = .ok (.iinc 3 1, 3) := dk_132 3 1 (dk_at dksX0_questions_2 13 rfl rfl)
theorem dX0_questions_64 : decode cX0_questions 64 = .ok (.goto (-42), 3) := dk_167 255 214 (dk_at dksX0_questions_2 16 rfl rfl)
theorem dX0_questions_67 : decode cX0_questions 67 = .ok (.iload_n 2, 1) := dk_28 (dk_at dksX0_questions_2 19 rfl rfl)
theorem dX0_questions_68 : decode cX0_questions 68 = .ok (.ifCond .eq 12, 3) := dk_153 0 12 (dk_at dksX0_questions_2 20 rfl rfl)
theorem dX0_questions_71 : decode cX0_questions 71 = .ok (.iload_n 2, 1) := dk_28 (dk_at dksX0_questions_2 23 rfl rfl)
theorem dX0_questions_72 : decode cX0_questions 72 = .ok (.aload_n 0, 1) := dk_42 (dk_at dksX0_questions_3 0 rfl rfl)
theorem dX0_questions_73 : decode cX0_questions 73 = .ok (.getfield 69, 3) := dk_180 0 69 (dk_at dksX0_questions_3 1 rfl rfl)
theorem dX0_questions_76 : decode cX0_questions 76 = .ok (.arraylength, 1) := dk_190 (dk_at dksX0_questions_3 4 rfl rfl)
theorem dX0_questions_77 : decode cX0_questions 77 = .ok (.if_icmp .le 5, 3) := dk_164 0 5 (dk_at dksX0_questions_3 5 rfl rfl)
theorem dX0_questions_80 : decode cX0_questions 80 = .ok (.iconst (-1), 1) := dk_2 (dk_at dksX0_questions_3 8 rfl rfl)
theorem dX0_questions_81 : decode cX0_questions 81 = .ok (.ireturn, 1) := dk_172 (dk_at dksX0_questions_3 9 rfl rfl)
theorem dX0_questions_82 : decode cX0_questions 82 = .ok (.iconst 0, 1) := dk_3 (dk_at dksX0_questions_3 10 rfl rfl)
theorem dX0_questions_83 : decode cX0_questions 83 = .ok (.istore_n 3, 1) := dk_62 (dk_at dksX0_questions_3 11 rfl rfl)
theorem dX0_questions_84 : decode cX0_questions 84 = .ok (.iload_n 3, 1) := dk_29 (dk_at dksX0_questions_3 12 rfl rfl)
theorem dX0_questions_85 : decode cX0_questions 85 = .ok (.iconst 4, 1) := dk_7 (dk_at dksX0_questions_3 13 rfl rfl)
theorem dX0_questions_86 : decode cX0_questions 86 = .ok (.if_icmp .gt 24, 3) := dk_163 0 24 (dk_at dksX0_questions_3 14 rfl rfl)
theorem dX0_questions_89 : decode cX0_questions 89 = .ok (.aload_n 0, 1) := dk_42 (dk_at dksX0_questions_3 17 rfl rfl)
theorem dX0_questions_90 : decode cX0_questions 90 = .ok (.iconst 1, 1) := dk_4 (dk_at dksX0_questions_3 18 rfl rfl)
theorem dX0_questions_91 : decode cX0_questions 91 = .ok (.iload_n 2, 1) := dk_28 (dk_at dksX0_questions_3 19 rfl rfl)
theorem dX0_questions_92 : decode cX0_questions 92 = .ok (.ishl, 1) := dk_120 (dk_at dksX0_questions_3 20 rfl rfl)
theorem dX0_questions_93 : decode cX0_questions 93 = .ok (.iconst 1, 1) := dk_4 (dk_at dksX0_questions_3 21 rfl rfl)
theorem dX0_questions_94 : decode cX0_questions 94 = .ok (.isub, 1) := dk_100 (dk_at dksX0_questions_3 22 rfl rfl)
theorem dX0_questions_95 : decode cX0_questions 95 = .ok (.iload_n 3, 1) := dk_29 (dk_at dksX0_questions_3 23 rfl rfl)
theorem dX0_questions_96 : decode cX0_questions 96 = .ok (.invokevirtual 403, 3) := dk_182 1 147 (dk_at dksX0_questions_4 0 rfl rfl)
theorem dX0_questions_99 : decode cX0_questions 99 = .ok (.ifCond .eq 5, 3) := dk_153 0 5 (dk_at dksX0_questions_4 3 rfl rfl)
theorem dX0_questions_102 : decode cX0_questions 102 = .ok (.iload_n 3, 1) := dk_29 (dk_at dksX0_questions_4 6 rfl rfl)
theorem dX0_questions_103 : decode cX0_questions 103 = .ok (.ireturn, 1) := dk_172 (dk_at dksX0_questions_4 7 rfl rfl)
theorem dX0_questions_104 : decode cX0_questions 104 = .ok (.iinc 3 1, 3) := dk_132 3 1 (dk_at dksX0_questions_4 8 rfl rfl)
theorem dX0_questions_107 : decode cX0_questions 107 = .ok (.goto (-23), 3) := dk_167 255 233 (dk_at dksX0_questions_4 11 rfl rfl)
theorem dX0_questions_110 : decode cX0_questions 110 = .ok (.iconst (-1), 1) := dk_2 (dk_at dksX0_questions_4 14 rfl rfl)
theorem dX0_questions_111 : decode cX0_questions 111 = .ok (.ireturn, 1) := dk_172 (dk_at dksX0_questions_4 15 rfl rfl)
abbrev cX0_singles : ByteArray := prog_1_method_60_code
def yX0_singles : MethodName := ⟨RX0, "singles", "(II)Z"⟩
def dkwX0_singles_6 : List UInt8 := [172]
abbrev dktX0_singles_6 : List UInt8 := dkwX0_singles_6 ++ []
def dkwX0_singles_5 : List UInt8 := [27, 21, 5, 2, 130, 126, 28, 4, 100, 182, 1, 147, 153, 0, 5, 4, 172, 132, 4, 1, 167, 255, 143, 3]
abbrev dktX0_singles_5 : List UInt8 := dkwX0_singles_5 ++ dktX0_singles_6
def dkwX0_singles_4 : List UInt8 := [21, 5, 153, 0, 39, 21, 5, 27, 159, 0, 33, 42, 21, 5, 28, 4, 100, 182, 1, 147, 153, 0, 21, 42]
abbrev dktX0_singles_4 : List UInt8 := dkwX0_singles_4 ++ dktX0_singles_5
def dkwX0_singles_3 : List UInt8 := [182, 0, 127, 127, 9, 148, 153, 0, 12, 21, 5, 4, 21, 6, 120, 128, 54, 5, 132, 6, 1, 167, 255, 205]
abbrev dktX0_singles_3 : List UInt8 := dkwX0_singles_3 ++ dktX0_singles_4
def dkwX0_singles_2 : List UInt8 := [162, 0, 47, 27, 21, 6, 184, 1, 88, 153, 0, 32, 42, 180, 0, 69, 21, 6, 46, 133, 42, 21, 4]
abbrev dktX0_singles_2 : List UInt8 := dkwX0_singles_2 ++ dktX0_singles_3
def dkwX0_singles_1 : List UInt8 := [21, 4, 42, 182, 0, 126, 162, 0, 110, 3, 54, 5, 3, 54, 6, 21, 6, 42, 180, 0, 69, 190]
abbrev dktX0_singles_1 : List UInt8 := dkwX0_singles_1 ++ dktX0_singles_2
def dkwX0_singles_0 : List UInt8 := [27, 184, 1, 113, 62, 29, 4, 163, 0, 5, 4, 172, 29, 4, 28, 120, 164, 0, 5, 3, 172, 3, 54, 4]
abbrev dktX0_singles_0 : List UInt8 := dkwX0_singles_0 ++ dktX0_singles_1
theorem dksX0_singles_0 : cX0_singles.data.toList.drop 0 = dktX0_singles_0 := by decide +kernel
theorem dksX0_singles_1 : cX0_singles.data.toList.drop 24 = dktX0_singles_1 := dk_seg dksX0_singles_0 24 rfl rfl
theorem dksX0_singles_2 : cX0_singles.data.toList.drop 46 = dktX0_singles_2 := dk_seg dksX0_singles_1 22 rfl rfl
theorem dksX0_singles_3 : cX0_singles.data.toList.drop 69 = dktX0_singles_3 := dk_seg dksX0_singles_2 23 rfl rfl
theorem dksX0_singles_4 : cX0_singles.data.toList.drop 93 = dktX0_singles_4 := dk_seg dksX0_singles_3 24 rfl rfl
theorem dksX0_singles_5 : cX0_singles.data.toList.drop 117 = dktX0_singles_5 := dk_seg dksX0_singles_4 24 rfl rfl
theorem dksX0_singles_6 : cX0_singles.data.toList.drop 141 = dktX0_singles_6 := dk_seg dksX0_singles_5 24 rfl rfl
theorem dX0_singles_0 : decode cX0_singles 0 = .ok (.iload_n 1, 1) := dk_27 (dk_at dksX0_singles_0 0 rfl rfl)
theorem dX0_singles_1 : decode cX0_singles 1 = .ok (.invokestatic 369, 3) := dk_184 1 113 (dk_at dksX0_singles_0 1 rfl rfl)
theorem dX0_singles_4 : decode cX0_singles 4 = .ok (.istore_n 3, 1) := dk_62 (dk_at dksX0_singles_0 4 rfl rfl)
theorem dX0_singles_5 : decode cX0_singles 5 = .ok (.iload_n 3, 1) := dk_29 (dk_at dksX0_singles_0 5 rfl rfl)
theorem dX0_singles_6 : decode cX0_singles 6 = .ok (.iconst 1, 1) := dk_4 (dk_at dksX0_singles_0 6 rfl rfl)
theorem dX0_singles_7 : decode cX0_singles 7 = .ok (.if_icmp .gt 5, 3) := dk_163 0 5 (dk_at dksX0_singles_0 7 rfl rfl)
theorem dX0_singles_10 : decode cX0_singles 10 = .ok (.iconst 1, 1) := dk_4 (dk_at dksX0_singles_0 10 rfl rfl)
theorem dX0_singles_11 : decode cX0_singles 11 = .ok (.ireturn, 1) := dk_172 (dk_at dksX0_singles_0 11 rfl rfl)
theorem dX0_singles_12 : decode cX0_singles 12 = .ok (.iload_n 3, 1) := dk_29 (dk_at dksX0_singles_0 12 rfl rfl)
theorem dX0_singles_13 : decode cX0_singles 13 = .ok (.iconst 1, 1) := dk_4 (dk_at dksX0_singles_0 13 rfl rfl)
theorem dX0_singles_14 : decode cX0_singles 14 = .ok (.iload_n 2, 1) := dk_28 (dk_at dksX0_singles_0 14 rfl rfl)
theorem dX0_singles_15 : decode cX0_singles 15 = .ok (.ishl, 1) := dk_120 (dk_at dksX0_singles_0 15 rfl rfl)
theorem dX0_singles_16 : decode cX0_singles 16 = .ok (.if_icmp .le 5, 3) := dk_164 0 5 (dk_at dksX0_singles_0 16 rfl rfl)
theorem dX0_singles_19 : decode cX0_singles 19 = .ok (.iconst 0, 1) := dk_3 (dk_at dksX0_singles_0 19 rfl rfl)
theorem dX0_singles_20 : decode cX0_singles 20 = .ok (.ireturn, 1) := dk_172 (dk_at dksX0_singles_0 20 rfl rfl)
theorem dX0_singles_21 : decode cX0_singles 21 = .ok (.iconst 0, 1) := dk_3 (dk_at dksX0_singles_0 21 rfl rfl)
theorem dX0_singles_22 : decode cX0_singles 22 = .ok (.istore 4, 2) := dk_54 4 (dk_at dksX0_singles_0 22 rfl rfl)
theorem dX0_singles_24 : decode cX0_singles 24 = .ok (.iload 4, 2) := dk_21 4 (dk_at dksX0_singles_1 0 rfl rfl)
theorem dX0_singles_26 : decode cX0_singles 26 = .ok (.aload_n 0, 1) := dk_42 (dk_at dksX0_singles_1 2 rfl rfl)
theorem dX0_singles_27 : decode cX0_singles 27 = .ok (.invokevirtual 126, 3) := dk_182 0 126 (dk_at dksX0_singles_1 3 rfl rfl)
theorem dX0_singles_30 : decode cX0_singles 30 = .ok (.if_icmp .ge 110, 3) := dk_162 0 110 (dk_at dksX0_singles_1 6 rfl rfl)
theorem dX0_singles_33 : decode cX0_singles 33 = .ok (.iconst 0, 1) := dk_3 (dk_at dksX0_singles_1 9 rfl rfl)
theorem dX0_singles_34 : decode cX0_singles 34 = .ok (.istore 5, 2) := dk_54 5 (dk_at dksX0_singles_1 10 rfl rfl)
theorem dX0_singles_36 : decode cX0_singles 36 = .ok (.iconst 0, 1) := dk_3 (dk_at dksX0_singles_1 12 rfl rfl)
theorem dX0_singles_37 : decode cX0_singles 37 = .ok (.istore 6, 2) := dk_54 6 (dk_at dksX0_singles_1 13 rfl rfl)
theorem dX0_singles_39 : decode cX0_singles 39 = .ok (.iload 6, 2) := dk_21 6 (dk_at dksX0_singles_1 15 rfl rfl)
theorem dX0_singles_41 : decode cX0_singles 41 = .ok (.aload_n 0, 1) := dk_42 (dk_at dksX0_singles_1 17 rfl rfl)
theorem dX0_singles_42 : decode cX0_singles 42 = .ok (.getfield 69, 3) := dk_180 0 69 (dk_at dksX0_singles_1 18 rfl rfl)
theorem dX0_singles_45 : decode cX0_singles 45 = .ok (.arraylength, 1) := dk_190 (dk_at dksX0_singles_1 21 rfl rfl)
theorem dX0_singles_46 : decode cX0_singles 46 = .ok (.if_icmp .ge 47, 3) := dk_162 0 47 (dk_at dksX0_singles_2 0 rfl rfl)
theorem dX0_singles_49 : decode cX0_singles 49 = .ok (.iload_n 1, 1) := dk_27 (dk_at dksX0_singles_2 3 rfl rfl)
theorem dX0_singles_50 : decode cX0_singles 50 = .ok (.iload 6, 2) := dk_21 6 (dk_at dksX0_singles_2 4 rfl rfl)
theorem dX0_singles_52 : decode cX0_singles 52 = .ok (.invokestatic 344, 3) := dk_184 1 88 (dk_at dksX0_singles_2 6 rfl rfl)
theorem dX0_singles_55 : decode cX0_singles 55 = .ok (.ifCond .eq 32, 3) := dk_153 0 32 (dk_at dksX0_singles_2 9 rfl rfl)
theorem dX0_singles_58 : decode cX0_singles 58 = .ok (.aload_n 0, 1) := dk_42 (dk_at dksX0_singles_2 12 rfl rfl)
theorem dX0_singles_59 : decode cX0_singles 59 = .ok (.getfield 69, 3) := dk_180 0 69 (dk_at dksX0_singles_2 13 rfl rfl)
theorem dX0_singles_62 : decode cX0_singles 62 = .ok (.iload 6, 2) := dk_21 6 (dk_at dksX0_singles_2 16 rfl rfl)
theorem dX0_singles_64 : decode cX0_singles 64 = .ok (.iaload, 1) := dk_46 (dk_at dksX0_singles_2 18 rfl rfl)
theorem dX0_singles_65 : decode cX0_singles 65 = .ok (.i2l, 1) := dk_133 (dk_at dksX0_singles_2 19 rfl rfl)
theorem dX0_singles_66 : decode cX0_singles 66 = .ok (.aload_n 0, 1) := dk_42 (dk_at dksX0_singles_2 20 rfl rfl)
theorem dX0_singles_67 : decode cX0_singles 67 = .ok (.iload 4, 2) := dk_21 4 (dk_at dksX0_singles_2 21 rfl rfl)
theorem dX0_singles_69 : decode cX0_singles 69 = .ok (.invokevirtual 127, 3) := dk_182 0 127 (dk_at dksX0_singles_3 0 rfl rfl)
theorem dX0_singles_72 : decode cX0_singles 72 = .ok (.land, 1) := dk_127 (dk_at dksX0_singles_3 3 rfl rfl)
theorem dX0_singles_73 : decode cX0_singles 73 = .ok (.lconst 0, 1) := dk_9 (dk_at dksX0_singles_3 4 rfl rfl)
theorem dX0_singles_74 : decode cX0_singles 74 = .ok (.lcmp, 1) := dk_148 (dk_at dksX0_singles_3 5 rfl rfl)
theorem dX0_singles_75 : decode cX0_singles 75 = .ok (.ifCond .eq 12, 3) := dk_153 0 12 (dk_at dksX0_singles_3 6 rfl rfl)
theorem dX0_singles_78 : decode cX0_singles 78 = .ok (.iload 5, 2) := dk_21 5 (dk_at dksX0_singles_3 9 rfl rfl)
theorem dX0_singles_80 : decode cX0_singles 80 = .ok (.iconst 1, 1) := dk_4 (dk_at dksX0_singles_3 11 rfl rfl)
theorem dX0_singles_81 : decode cX0_singles 81 = .ok (.iload 6, 2) := dk_21 6 (dk_at dksX0_singles_3 12 rfl rfl)
theorem dX0_singles_83 : decode cX0_singles 83 = .ok (.ishl, 1) := dk_120 (dk_at dksX0_singles_3 14 rfl rfl)
theorem dX0_singles_84 : decode cX0_singles 84 = .ok (.ior, 1) := dk_128 (dk_at dksX0_singles_3 15 rfl rfl)
theorem dX0_singles_85 : decode cX0_singles 85 = .ok (.istore 5, 2) := dk_54 5 (dk_at dksX0_singles_3 16 rfl rfl)
theorem dX0_singles_87 : decode cX0_singles 87 = .ok (.iinc 6 1, 3) := dk_132 6 1 (dk_at dksX0_singles_3 18 rfl rfl)
theorem dX0_singles_90 : decode cX0_singles 90 = .ok (.goto (-51), 3) := dk_167 255 205 (dk_at dksX0_singles_3 21 rfl rfl)
theorem dX0_singles_93 : decode cX0_singles 93 = .ok (.iload 5, 2) := dk_21 5 (dk_at dksX0_singles_4 0 rfl rfl)
theorem dX0_singles_95 : decode cX0_singles 95 = .ok (.ifCond .eq 39, 3) := dk_153 0 39 (dk_at dksX0_singles_4 2 rfl rfl)
theorem dX0_singles_98 : decode cX0_singles 98 = .ok (.iload 5, 2) := dk_21 5 (dk_at dksX0_singles_4 5 rfl rfl)
theorem dX0_singles_100 : decode cX0_singles 100 = .ok (.iload_n 1, 1) := dk_27 (dk_at dksX0_singles_4 7 rfl rfl)
theorem dX0_singles_101 : decode cX0_singles 101 = .ok (.if_icmp .eq 33, 3) := dk_159 0 33 (dk_at dksX0_singles_4 8 rfl rfl)
theorem dX0_singles_104 : decode cX0_singles 104 = .ok (.aload_n 0, 1) := dk_42 (dk_at dksX0_singles_4 11 rfl rfl)
theorem dX0_singles_105 : decode cX0_singles 105 = .ok (.iload 5, 2) := dk_21 5 (dk_at dksX0_singles_4 12 rfl rfl)
theorem dX0_singles_107 : decode cX0_singles 107 = .ok (.iload_n 2, 1) := dk_28 (dk_at dksX0_singles_4 14 rfl rfl)
theorem dX0_singles_108 : decode cX0_singles 108 = .ok (.iconst 1, 1) := dk_4 (dk_at dksX0_singles_4 15 rfl rfl)
theorem dX0_singles_109 : decode cX0_singles 109 = .ok (.isub, 1) := dk_100 (dk_at dksX0_singles_4 16 rfl rfl)
theorem dX0_singles_110 : decode cX0_singles 110 = .ok (.invokevirtual 403, 3) := dk_182 1 147 (dk_at dksX0_singles_4 17 rfl rfl)
theorem dX0_singles_113 : decode cX0_singles 113 = .ok (.ifCond .eq 21, 3) := dk_153 0 21 (dk_at dksX0_singles_4 20 rfl rfl)
theorem dX0_singles_116 : decode cX0_singles 116 = .ok (.aload_n 0, 1) := dk_42 (dk_at dksX0_singles_4 23 rfl rfl)
theorem dX0_singles_117 : decode cX0_singles 117 = .ok (.iload_n 1, 1) := dk_27 (dk_at dksX0_singles_5 0 rfl rfl)
theorem dX0_singles_118 : decode cX0_singles 118 = .ok (.iload 5, 2) := dk_21 5 (dk_at dksX0_singles_5 1 rfl rfl)
theorem dX0_singles_120 : decode cX0_singles 120 = .ok (.iconst (-1), 1) := dk_2 (dk_at dksX0_singles_5 3 rfl rfl)
theorem dX0_singles_121 : decode cX0_singles 121 = .ok (.ixor, 1) := dk_130 (dk_at dksX0_singles_5 4 rfl rfl)
theorem dX0_singles_122 : decode cX0_singles 122 = .ok (.iand, 1) := dk_126 (dk_at dksX0_singles_5 5 rfl rfl)
theorem dX0_singles_123 : decode cX0_singles 123 = .ok (.iload_n 2, 1) := dk_28 (dk_at dksX0_singles_5 6 rfl rfl)
theorem dX0_singles_124 : decode cX0_singles 124 = .ok (.iconst 1, 1) := dk_4 (dk_at dksX0_singles_5 7 rfl rfl)
theorem dX0_singles_125 : decode cX0_singles 125 = .ok (.isub, 1) := dk_100 (dk_at dksX0_singles_5 8 rfl rfl)
theorem dX0_singles_126 : decode cX0_singles 126 = .ok (.invokevirtual 403, 3) := dk_182 1 147 (dk_at dksX0_singles_5 9 rfl rfl)
theorem dX0_singles_129 : decode cX0_singles 129 = .ok (.ifCond .eq 5, 3) := dk_153 0 5 (dk_at dksX0_singles_5 12 rfl rfl)
theorem dX0_singles_132 : decode cX0_singles 132 = .ok (.iconst 1, 1) := dk_4 (dk_at dksX0_singles_5 15 rfl rfl)
theorem dX0_singles_133 : decode cX0_singles 133 = .ok (.ireturn, 1) := dk_172 (dk_at dksX0_singles_5 16 rfl rfl)
theorem dX0_singles_134 : decode cX0_singles 134 = .ok (.iinc 4 1, 3) := dk_132 4 1 (dk_at dksX0_singles_5 17 rfl rfl)
theorem dX0_singles_137 : decode cX0_singles 137 = .ok (.goto (-113), 3) := dk_167 255 143 (dk_at dksX0_singles_5 20 rfl rfl)
theorem dX0_singles_140 : decode cX0_singles 140 = .ok (.iconst 0, 1) := dk_3 (dk_at dksX0_singles_5 23 rfl rfl)
theorem dX0_singles_141 : decode cX0_singles 141 = .ok (.ireturn, 1) := dk_172 (dk_at dksX0_singles_6 0 rfl rfl)
abbrev cX0_settle : ByteArray := prog_1_method_62_code
def yX0_settle : MethodName := ⟨RX0, "settle", "(I)I"⟩
def dkwX0_settle_10 : List UInt8 := [25, 7, 180, 1, 73, 182, 0, 98, 112, 172]
abbrev dktX0_settle_10 : List UInt8 := dkwX0_settle_10 ++ []
def dkwX0_settle_9 : List UInt8 := [21, 4, 42, 182, 0, 95, 25, 7, 180, 1, 73, 182, 0, 98, 108, 167, 0, 18, 21, 4, 42, 182, 0, 95]
abbrev dktX0_settle_9 : List UInt8 := dkwX0_settle_9 ++ dktX0_settle_10
def dkwX0_settle_8 : List UInt8 := [182, 0, 148, 153, 0, 15, 27, 4, 160, 0, 8, 21, 4, 167, 0, 4, 2, 172, 27, 4, 160, 0, 21]
abbrev dktX0_settle_8 : List UInt8 := dkwX0_settle_8 ++ dktX0_settle_9
def dkwX0_settle_7 : List UInt8 := [180, 0, 108, 21, 6, 182, 0, 144, 192, 0, 114, 58, 7, 27, 154, 0, 6, 21, 6, 172, 25, 7]
abbrev dktX0_settle_7 : List UInt8 := dkwX0_settle_7 ++ dktX0_settle_8
def dkwX0_settle_6 : List UInt8 := [21, 4, 42, 182, 0, 95, 21, 6, 182, 1, 155, 100, 54, 4, 132, 6, 1, 167, 255, 225, 42, 182, 0, 95]
abbrev dktX0_settle_6 : List UInt8 := dkwX0_settle_6 ++ dktX0_settle_7
def dkwX0_settle_5 : List UInt8 := [160, 0, 6, 21, 5, 172, 3, 54, 6, 21, 4, 42, 182, 0, 95, 21, 6, 182, 1, 155, 161, 0, 23]
abbrev dktX0_settle_5 : List UInt8 := dkwX0_settle_5 ++ dktX0_settle_6
def dkwX0_settle_4 : List UInt8 := [161, 0, 6, 167, 0, 11, 21, 6, 54, 4, 21, 8, 54, 5, 132, 6, 1, 167, 255, 200, 27, 6]
abbrev dktX0_settle_4 : List UInt8 := dkwX0_settle_4 ++ dktX0_settle_5
def dkwX0_settle_3 : List UInt8 := [54, 7, 21, 7, 29, 21, 7, 100, 184, 1, 150, 54, 8, 21, 4, 2, 159, 0, 13, 21, 8, 21, 5]
abbrev dktX0_settle_3 : List UInt8 := dkwX0_settle_3 ++ dktX0_settle_4
def dkwX0_settle_2 : List UInt8 := [54, 4, 3, 54, 5, 3, 54, 6, 21, 6, 42, 182, 0, 126, 162, 0, 53, 42, 21, 6, 28, 182, 1, 138]
abbrev dktX0_settle_2 : List UInt8 := dkwX0_settle_2 ++ dktX0_settle_3
def dkwX0_settle_1 : List UInt8 := [172, 42, 182, 1, 94, 42, 182, 1, 97, 61, 42, 28, 182, 1, 100, 62, 29, 154, 0, 5, 2, 172, 2]
abbrev dktX0_settle_1 : List UInt8 := dkwX0_settle_1 ++ dktX0_settle_2
def dkwX0_settle_0 : List UInt8 := [42, 182, 1, 91, 153, 0, 19, 42, 182, 0, 126, 153, 0, 12, 27, 3, 6, 184, 0, 75, 154, 0, 5, 2]
abbrev dktX0_settle_0 : List UInt8 := dkwX0_settle_0 ++ dktX0_settle_1
theorem dksX0_settle_0 : cX0_settle.data.toList.drop 0 = dktX0_settle_0 := by decide +kernel
theorem dksX0_settle_1 : cX0_settle.data.toList.drop 24 = dktX0_settle_1 := dk_seg dksX0_settle_0 24 rfl rfl
theorem dksX0_settle_2 : cX0_settle.data.toList.drop 47 = dktX0_settle_2 := dk_seg dksX0_settle_1 23 rfl rfl
theorem dksX0_settle_3 : cX0_settle.data.toList.drop 71 = dktX0_settle_3 := dk_seg dksX0_settle_2 24 rfl rfl
theorem dksX0_settle_4 : cX0_settle.data.toList.drop 94 = dktX0_settle_4 := dk_seg dksX0_settle_3 23 rfl rfl
theorem dksX0_settle_5 : cX0_settle.data.toList.drop 116 = dktX0_settle_5 := dk_seg dksX0_settle_4 22 rfl rfl
theorem dksX0_settle_6 : cX0_settle.data.toList.drop 139 = dktX0_settle_6 := dk_seg dksX0_settle_5 23 rfl rfl
theorem dksX0_settle_7 : cX0_settle.data.toList.drop 163 = dktX0_settle_7 := dk_seg dksX0_settle_6 24 rfl rfl
theorem dksX0_settle_8 : cX0_settle.data.toList.drop 185 = dktX0_settle_8 := dk_seg dksX0_settle_7 22 rfl rfl
theorem dksX0_settle_9 : cX0_settle.data.toList.drop 208 = dktX0_settle_9 := dk_seg dksX0_settle_8 23 rfl rfl
theorem dksX0_settle_10 : cX0_settle.data.toList.drop 232 = dktX0_settle_10 := dk_seg dksX0_settle_9 24 rfl rfl
theorem dX0_settle_0 : decode cX0_settle 0 = .ok (.aload_n 0, 1) := dk_42 (dk_at dksX0_settle_0 0 rfl rfl)
theorem dX0_settle_1 : decode cX0_settle 1 = .ok (.invokevirtual 347, 3) := dk_182 1 91 (dk_at dksX0_settle_0 1 rfl rfl)
theorem dX0_settle_4 : decode cX0_settle 4 = .ok (.ifCond .eq 19, 3) := dk_153 0 19 (dk_at dksX0_settle_0 4 rfl rfl)
theorem dX0_settle_7 : decode cX0_settle 7 = .ok (.aload_n 0, 1) := dk_42 (dk_at dksX0_settle_0 7 rfl rfl)
theorem dX0_settle_8 : decode cX0_settle 8 = .ok (.invokevirtual 126, 3) := dk_182 0 126 (dk_at dksX0_settle_0 8 rfl rfl)
theorem dX0_settle_11 : decode cX0_settle 11 = .ok (.ifCond .eq 12, 3) := dk_153 0 12 (dk_at dksX0_settle_0 11 rfl rfl)
theorem dX0_settle_14 : decode cX0_settle 14 = .ok (.iload_n 1, 1) := dk_27 (dk_at dksX0_settle_0 14 rfl rfl)
theorem dX0_settle_15 : decode cX0_settle 15 = .ok (.iconst 0, 1) := dk_3 (dk_at dksX0_settle_0 15 rfl rfl)
theorem dX0_settle_16 : decode cX0_settle 16 = .ok (.iconst 3, 1) := dk_6 (dk_at dksX0_settle_0 16 rfl rfl)
theorem dX0_settle_17 : decode cX0_settle 17 = .ok (.invokestatic 75, 3) := dk_184 0 75 (dk_at dksX0_settle_0 17 rfl rfl)
theorem dX0_settle_20 : decode cX0_settle 20 = .ok (.ifCond .ne 5, 3) := dk_154 0 5 (dk_at dksX0_settle_0 20 rfl rfl)
theorem dX0_settle_23 : decode cX0_settle 23 = .ok (.iconst (-1), 1) := dk_2 (dk_at dksX0_settle_0 23 rfl rfl)
theorem dX0_settle_24 : decode cX0_settle 24 = .ok (.ireturn, 1) := dk_172 (dk_at dksX0_settle_1 0 rfl rfl)
theorem dX0_settle_25 : decode cX0_settle 25 = .ok (.aload_n 0, 1) := dk_42 (dk_at dksX0_settle_1 1 rfl rfl)
theorem dX0_settle_26 : decode cX0_settle 26 = .ok (.invokevirtual 350, 3) := dk_182 1 94 (dk_at dksX0_settle_1 2 rfl rfl)
theorem dX0_settle_29 : decode cX0_settle 29 = .ok (.aload_n 0, 1) := dk_42 (dk_at dksX0_settle_1 5 rfl rfl)
theorem dX0_settle_30 : decode cX0_settle 30 = .ok (.invokevirtual 353, 3) := dk_182 1 97 (dk_at dksX0_settle_1 6 rfl rfl)
theorem dX0_settle_33 : decode cX0_settle 33 = .ok (.istore_n 2, 1) := dk_61 (dk_at dksX0_settle_1 9 rfl rfl)
theorem dX0_settle_34 : decode cX0_settle 34 = .ok (.aload_n 0, 1) := dk_42 (dk_at dksX0_settle_1 10 rfl rfl)
theorem dX0_settle_35 : decode cX0_settle 35 = .ok (.iload_n 2, 1) := dk_28 (dk_at dksX0_settle_1 11 rfl rfl)
theorem dX0_settle_36 : decode cX0_settle 36 = .ok (.invokevirtual 356, 3) := dk_182 1 100 (dk_at dksX0_settle_1 12 rfl rfl)
theorem dX0_settle_39 : decode cX0_settle 39 = .ok (.istore_n 3, 1) := dk_62 (dk_at dksX0_settle_1 15 rfl rfl)
theorem dX0_settle_40 : decode cX0_settle 40 = .ok (.iload_n 3, 1) := dk_29 (dk_at dksX0_settle_1 16 rfl rfl)
theorem dX0_settle_41 : decode cX0_settle 41 = .ok (.ifCond .ne 5, 3) := dk_154 0 5 (dk_at dksX0_settle_1 17 rfl rfl)
theorem dX0_settle_44 : decode cX0_settle 44 = .ok (.iconst (-1), 1) := dk_2 (dk_at dksX0_settle_1 20 rfl rfl)
theorem dX0_settle_45 : decode cX0_settle 45 = .ok (.ireturn, 1) := dk_172 (dk_at dksX0_settle_1 21 rfl rfl)
theorem dX0_settle_46 : decode cX0_settle 46 = .ok (.iconst (-1), 1) := dk_2 (dk_at dksX0_settle_1 22 rfl rfl)
theorem dX0_settle_47 : decode cX0_settle 47 = .ok (.istore 4, 2) := dk_54 4 (dk_at dksX0_settle_2 0 rfl rfl)
theorem dX0_settle_49 : decode cX0_settle 49 = .ok (.iconst 0, 1) := dk_3 (dk_at dksX0_settle_2 2 rfl rfl)
theorem dX0_settle_50 : decode cX0_settle 50 = .ok (.istore 5, 2) := dk_54 5 (dk_at dksX0_settle_2 3 rfl rfl)
theorem dX0_settle_52 : decode cX0_settle 52 = .ok (.iconst 0, 1) := dk_3 (dk_at dksX0_settle_2 5 rfl rfl)
theorem dX0_settle_53 : decode cX0_settle 53 = .ok (.istore 6, 2) := dk_54 6 (dk_at dksX0_settle_2 6 rfl rfl)
theorem dX0_settle_55 : decode cX0_settle 55 = .ok (.iload 6, 2) := dk_21 6 (dk_at dksX0_settle_2 8 rfl rfl)
theorem dX0_settle_57 : decode cX0_settle 57 = .ok (.aload_n 0, 1) := dk_42 (dk_at dksX0_settle_2 10 rfl rfl)
theorem dX0_settle_58 : decode cX0_settle 58 = .ok (.invokevirtual 126, 3) := dk_182 0 126 (dk_at dksX0_settle_2 11 rfl rfl)
theorem dX0_settle_61 : decode cX0_settle 61 = .ok (.if_icmp .ge 53, 3) := dk_162 0 53 (dk_at dksX0_settle_2 14 rfl rfl)
theorem dX0_settle_64 : decode cX0_settle 64 = .ok (.aload_n 0, 1) := dk_42 (dk_at dksX0_settle_2 17 rfl rfl)
theorem dX0_settle_65 : decode cX0_settle 65 = .ok (.iload 6, 2) := dk_21 6 (dk_at dksX0_settle_2 18 rfl rfl)
theorem dX0_settle_67 : decode cX0_settle 67 = .ok (.iload_n 2, 1) := dk_28 (dk_at dksX0_settle_2 20 rfl rfl)
theorem dX0_settle_68 : decode cX0_settle 68 = .ok (.invokevirtual 394, 3) := dk_182 1 138 (dk_at dksX0_settle_2 21 rfl rfl)
theorem dX0_settle_71 : decode cX0_settle 71 = .ok (.istore 7, 2) := dk_54 7 (dk_at dksX0_settle_3 0 rfl rfl)
theorem dX0_settle_73 : decode cX0_settle 73 = .ok (.iload 7, 2) := dk_21 7 (dk_at dksX0_settle_3 2 rfl rfl)
theorem dX0_settle_75 : decode cX0_settle 75 = .ok (.iload_n 3, 1) := dk_29 (dk_at dksX0_settle_3 4 rfl rfl)
theorem dX0_settle_76 : decode cX0_settle 76 = .ok (.iload 7, 2) := dk_21 7 (dk_at dksX0_settle_3 5 rfl rfl)
theorem dX0_settle_78 : decode cX0_settle 78 = .ok (.isub, 1) := dk_100 (dk_at dksX0_settle_3 7 rfl rfl)
theorem dX0_settle_79 : decode cX0_settle 79 = .ok (.invokestatic 406, 3) := dk_184 1 150 (dk_at dksX0_settle_3 8 rfl rfl)
theorem dX0_settle_82 : decode cX0_settle 82 = .ok (.istore 8, 2) := dk_54 8 (dk_at dksX0_settle_3 11 rfl rfl)
theorem dX0_settle_84 : decode cX0_settle 84 = .ok (.iload 4, 2) := dk_21 4 (dk_at dksX0_settle_3 13 rfl rfl)
theorem dX0_settle_86 : decode cX0_settle 86 = .ok (.iconst (-1), 1) := dk_2 (dk_at dksX0_settle_3 15 rfl rfl)
theorem dX0_settle_87 : decode cX0_settle 87 = .ok (.if_icmp .eq 13, 3) := dk_159 0 13 (dk_at dksX0_settle_3 16 rfl rfl)
theorem dX0_settle_90 : decode cX0_settle 90 = .ok (.iload 8, 2) := dk_21 8 (dk_at dksX0_settle_3 19 rfl rfl)
theorem dX0_settle_92 : decode cX0_settle 92 = .ok (.iload 5, 2) := dk_21 5 (dk_at dksX0_settle_3 21 rfl rfl)
theorem dX0_settle_94 : decode cX0_settle 94 = .ok (.if_icmp .lt 6, 3) := dk_161 0 6 (dk_at dksX0_settle_4 0 rfl rfl)
theorem dX0_settle_97 : decode cX0_settle 97 = .ok (.goto 11, 3) := dk_167 0 11 (dk_at dksX0_settle_4 3 rfl rfl)
theorem dX0_settle_100 : decode cX0_settle 100 = .ok (.iload 6, 2) := dk_21 6 (dk_at dksX0_settle_4 6 rfl rfl)
theorem dX0_settle_102 : decode cX0_settle 102 = .ok (.istore 4, 2) := dk_54 4 (dk_at dksX0_settle_4 8 rfl rfl)
theorem dX0_settle_104 : decode cX0_settle 104 = .ok (.iload 8, 2) := dk_21 8 (dk_at dksX0_settle_4 10 rfl rfl)
theorem dX0_settle_106 : decode cX0_settle 106 = .ok (.istore 5, 2) := dk_54 5 (dk_at dksX0_settle_4 12 rfl rfl)
theorem dX0_settle_108 : decode cX0_settle 108 = .ok (.iinc 6 1, 3) := dk_132 6 1 (dk_at dksX0_settle_4 14 rfl rfl)
theorem dX0_settle_111 : decode cX0_settle 111 = .ok (.goto (-56), 3) := dk_167 255 200 (dk_at dksX0_settle_4 17 rfl rfl)
theorem dX0_settle_114 : decode cX0_settle 114 = .ok (.iload_n 1, 1) := dk_27 (dk_at dksX0_settle_4 20 rfl rfl)
theorem dX0_settle_115 : decode cX0_settle 115 = .ok (.iconst 3, 1) := dk_6 (dk_at dksX0_settle_4 21 rfl rfl)
theorem dX0_settle_116 : decode cX0_settle 116 = .ok (.if_icmp .ne 6, 3) := dk_160 0 6 (dk_at dksX0_settle_5 0 rfl rfl)
theorem dX0_settle_119 : decode cX0_settle 119 = .ok (.iload 5, 2) := dk_21 5 (dk_at dksX0_settle_5 3 rfl rfl)
theorem dX0_settle_121 : decode cX0_settle 121 = .ok (.ireturn, 1) := dk_172 (dk_at dksX0_settle_5 5 rfl rfl)
theorem dX0_settle_122 : decode cX0_settle 122 = .ok (.iconst 0, 1) := dk_3 (dk_at dksX0_settle_5 6 rfl rfl)
theorem dX0_settle_123 : decode cX0_settle 123 = .ok (.istore 6, 2) := dk_54 6 (dk_at dksX0_settle_5 7 rfl rfl)
theorem dX0_settle_125 : decode cX0_settle 125 = .ok (.iload 4, 2) := dk_21 4 (dk_at dksX0_settle_5 9 rfl rfl)
theorem dX0_settle_127 : decode cX0_settle 127 = .ok (.aload_n 0, 1) := dk_42 (dk_at dksX0_settle_5 11 rfl rfl)
theorem dX0_settle_128 : decode cX0_settle 128 = .ok (.invokevirtual 95, 3) := dk_182 0 95 (dk_at dksX0_settle_5 12 rfl rfl)
theorem dX0_settle_131 : decode cX0_settle 131 = .ok (.iload 6, 2) := dk_21 6 (dk_at dksX0_settle_5 15 rfl rfl)
theorem dX0_settle_133 : decode cX0_settle 133 = .ok (.invokevirtual 411, 3) := dk_182 1 155 (dk_at dksX0_settle_5 17 rfl rfl)
theorem dX0_settle_136 : decode cX0_settle 136 = .ok (.if_icmp .lt 23, 3) := dk_161 0 23 (dk_at dksX0_settle_5 20 rfl rfl)
theorem dX0_settle_139 : decode cX0_settle 139 = .ok (.iload 4, 2) := dk_21 4 (dk_at dksX0_settle_6 0 rfl rfl)
theorem dX0_settle_141 : decode cX0_settle 141 = .ok (.aload_n 0, 1) := dk_42 (dk_at dksX0_settle_6 2 rfl rfl)
theorem dX0_settle_142 : decode cX0_settle 142 = .ok (.invokevirtual 95, 3) := dk_182 0 95 (dk_at dksX0_settle_6 3 rfl rfl)
theorem dX0_settle_145 : decode cX0_settle 145 = .ok (.iload 6, 2) := dk_21 6 (dk_at dksX0_settle_6 6 rfl rfl)
theorem dX0_settle_147 : decode cX0_settle 147 = .ok (.invokevirtual 411, 3) := dk_182 1 155 (dk_at dksX0_settle_6 8 rfl rfl)
theorem dX0_settle_150 : decode cX0_settle 150 = .ok (.isub, 1) := dk_100 (dk_at dksX0_settle_6 11 rfl rfl)
theorem dX0_settle_151 : decode cX0_settle 151 = .ok (.istore 4, 2) := dk_54 4 (dk_at dksX0_settle_6 12 rfl rfl)
theorem dX0_settle_153 : decode cX0_settle 153 = .ok (.iinc 6 1, 3) := dk_132 6 1 (dk_at dksX0_settle_6 14 rfl rfl)
theorem dX0_settle_156 : decode cX0_settle 156 = .ok (.goto (-31), 3) := dk_167 255 225 (dk_at dksX0_settle_6 17 rfl rfl)
theorem dX0_settle_159 : decode cX0_settle 159 = .ok (.aload_n 0, 1) := dk_42 (dk_at dksX0_settle_6 20 rfl rfl)
theorem dX0_settle_160 : decode cX0_settle 160 = .ok (.invokevirtual 95, 3) := dk_182 0 95 (dk_at dksX0_settle_6 21 rfl rfl)
theorem dX0_settle_163 : decode cX0_settle 163 = .ok (.getfield 108, 3) := dk_180 0 108 (dk_at dksX0_settle_7 0 rfl rfl)
theorem dX0_settle_166 : decode cX0_settle 166 = .ok (.iload 6, 2) := dk_21 6 (dk_at dksX0_settle_7 3 rfl rfl)
theorem dX0_settle_168 : decode cX0_settle 168 = .ok (.invokevirtual 144, 3) := dk_182 0 144 (dk_at dksX0_settle_7 5 rfl rfl)
theorem dX0_settle_171 : decode cX0_settle 171 = .ok (.checkcast 114, 3) := dk_192 0 114 (dk_at dksX0_settle_7 8 rfl rfl)
theorem dX0_settle_174 : decode cX0_settle 174 = .ok (.astore 7, 2) := dk_58 7 (dk_at dksX0_settle_7 11 rfl rfl)
theorem dX0_settle_176 : decode cX0_settle 176 = .ok (.iload_n 1, 1) := dk_27 (dk_at dksX0_settle_7 13 rfl rfl)
theorem dX0_settle_177 : decode cX0_settle 177 = .ok (.ifCond .ne 6, 3) := dk_154 0 6 (dk_at dksX0_settle_7 14 rfl rfl)
theorem dX0_settle_180 : decode cX0_settle 180 = .ok (.iload 6, 2) := dk_21 6 (dk_at dksX0_settle_7 17 rfl rfl)
theorem dX0_settle_182 : decode cX0_settle 182 = .ok (.ireturn, 1) := dk_172 (dk_at dksX0_settle_7 19 rfl rfl)
theorem dX0_settle_183 : decode cX0_settle 183 = .ok (.aload 7, 2) := dk_25 7 (dk_at dksX0_settle_7 20 rfl rfl)
theorem dX0_settle_185 : decode cX0_settle 185 = .ok (.invokevirtual 148, 3) := dk_182 0 148 (dk_at dksX0_settle_8 0 rfl rfl)
theorem dX0_settle_188 : decode cX0_settle 188 = .ok (.ifCond .eq 15, 3) := dk_153 0 15 (dk_at dksX0_settle_8 3 rfl rfl)
theorem dX0_settle_191 : decode cX0_settle 191 = .ok (.iload_n 1, 1) := dk_27 (dk_at dksX0_settle_8 6 rfl rfl)
theorem dX0_settle_192 : decode cX0_settle 192 = .ok (.iconst 1, 1) := dk_4 (dk_at dksX0_settle_8 7 rfl rfl)
theorem dX0_settle_193 : decode cX0_settle 193 = .ok (.if_icmp .ne 8, 3) := dk_160 0 8 (dk_at dksX0_settle_8 8 rfl rfl)
theorem dX0_settle_196 : decode cX0_settle 196 = .ok (.iload 4, 2) := dk_21 4 (dk_at dksX0_settle_8 11 rfl rfl)
theorem dX0_settle_198 : decode cX0_settle 198 = .ok (.goto 4, 3) := dk_167 0 4 (dk_at dksX0_settle_8 13 rfl rfl)
theorem dX0_settle_201 : decode cX0_settle 201 = .ok (.iconst (-1), 1) := dk_2 (dk_at dksX0_settle_8 16 rfl rfl)
theorem dX0_settle_202 : decode cX0_settle 202 = .ok (.ireturn, 1) := dk_172 (dk_at dksX0_settle_8 17 rfl rfl)
theorem dX0_settle_203 : decode cX0_settle 203 = .ok (.iload_n 1, 1) := dk_27 (dk_at dksX0_settle_8 18 rfl rfl)
theorem dX0_settle_204 : decode cX0_settle 204 = .ok (.iconst 1, 1) := dk_4 (dk_at dksX0_settle_8 19 rfl rfl)
theorem dX0_settle_205 : decode cX0_settle 205 = .ok (.if_icmp .ne 21, 3) := dk_160 0 21 (dk_at dksX0_settle_8 20 rfl rfl)
theorem dX0_settle_208 : decode cX0_settle 208 = .ok (.iload 4, 2) := dk_21 4 (dk_at dksX0_settle_9 0 rfl rfl)
theorem dX0_settle_210 : decode cX0_settle 210 = .ok (.aload_n 0, 1) := dk_42 (dk_at dksX0_settle_9 2 rfl rfl)
theorem dX0_settle_211 : decode cX0_settle 211 = .ok (.invokevirtual 95, 3) := dk_182 0 95 (dk_at dksX0_settle_9 3 rfl rfl)
theorem dX0_settle_214 : decode cX0_settle 214 = .ok (.aload 7, 2) := dk_25 7 (dk_at dksX0_settle_9 6 rfl rfl)
theorem dX0_settle_216 : decode cX0_settle 216 = .ok (.getfield 329, 3) := dk_180 1 73 (dk_at dksX0_settle_9 8 rfl rfl)
theorem dX0_settle_219 : decode cX0_settle 219 = .ok (.invokevirtual 98, 3) := dk_182 0 98 (dk_at dksX0_settle_9 11 rfl rfl)
theorem dX0_settle_222 : decode cX0_settle 222 = .ok (.idiv, 1) := dk_108 (dk_at dksX0_settle_9 14 rfl rfl)
theorem dX0_settle_223 : decode cX0_settle 223 = .ok (.goto 18, 3) := dk_167 0 18 (dk_at dksX0_settle_9 15 rfl rfl)
theorem dX0_settle_226 : decode cX0_settle 226 = .ok (.iload 4, 2) := dk_21 4 (dk_at dksX0_settle_9 18 rfl rfl)
theorem dX0_settle_228 : decode cX0_settle 228 = .ok (.aload_n 0, 1) := dk_42 (dk_at dksX0_settle_9 20 rfl rfl)
theorem dX0_settle_229 : decode cX0_settle 229 = .ok (.invokevirtual 95, 3) := dk_182 0 95 (dk_at dksX0_settle_9 21 rfl rfl)
theorem dX0_settle_232 : decode cX0_settle 232 = .ok (.aload 7, 2) := dk_25 7 (dk_at dksX0_settle_10 0 rfl rfl)
theorem dX0_settle_234 : decode cX0_settle 234 = .ok (.getfield 329, 3) := dk_180 1 73 (dk_at dksX0_settle_10 2 rfl rfl)
theorem dX0_settle_237 : decode cX0_settle 237 = .ok (.invokevirtual 98, 3) := dk_182 0 98 (dk_at dksX0_settle_10 5 rfl rfl)
theorem dX0_settle_240 : decode cX0_settle 240 = .ok (.irem, 1) := dk_112 (dk_at dksX0_settle_10 8 rfl rfl)
theorem dX0_settle_241 : decode cX0_settle 241 = .ok (.ireturn, 1) := dk_172 (dk_at dksX0_settle_10 9 rfl rfl)
abbrev cX0_near : ByteArray := prog_1_method_63_code
def yX0_near : MethodName := ⟨RX0, "near", "()I"⟩
def dkwX0_near_4 : List UInt8 := [172, 42, 180, 0, 12, 28, 133, 181, 0, 79, 29, 172]
abbrev dktX0_near_4 : List UInt8 := dkwX0_near_4 ++ []
def dkwX0_near_3 : List UInt8 := [161, 0, 6, 167, 0, 9, 21, 4, 61, 21, 5, 62, 132, 4, 1, 167, 255, 195, 28, 2, 160, 0, 5, 2]
abbrev dktX0_near_3 : List UInt8 := dkwX0_near_3 ++ dktX0_near_4
def dkwX0_near_2 : List UInt8 := [21, 4, 133, 42, 180, 0, 12, 180, 0, 79, 131, 184, 1, 158, 54, 5, 28, 2, 159, 0, 12, 21, 5, 29]
abbrev dktX0_near_2 : List UInt8 := dkwX0_near_2 ++ dktX0_near_3
def dkwX0_near_1 : List UInt8 := [54, 4, 21, 4, 42, 182, 1, 63, 162, 0, 58, 42, 21, 4, 27, 182, 1, 79, 154, 0, 6, 167, 0, 39]
abbrev dktX0_near_1 : List UInt8 := dkwX0_near_1 ++ dktX0_near_2
def dkwX0_near_0 : List UInt8 := [42, 182, 1, 91, 154, 0, 5, 2, 172, 42, 182, 1, 94, 42, 182, 1, 97, 60, 2, 61, 3, 62, 3]
abbrev dktX0_near_0 : List UInt8 := dkwX0_near_0 ++ dktX0_near_1
theorem dksX0_near_0 : cX0_near.data.toList.drop 0 = dktX0_near_0 := by decide +kernel
theorem dksX0_near_1 : cX0_near.data.toList.drop 23 = dktX0_near_1 := dk_seg dksX0_near_0 23 rfl rfl
theorem dksX0_near_2 : cX0_near.data.toList.drop 47 = dktX0_near_2 := dk_seg dksX0_near_1 24 rfl rfl
theorem dksX0_near_3 : cX0_near.data.toList.drop 71 = dktX0_near_3 := dk_seg dksX0_near_2 24 rfl rfl
theorem dksX0_near_4 : cX0_near.data.toList.drop 95 = dktX0_near_4 := dk_seg dksX0_near_3 24 rfl rfl
theorem dX0_near_0 : decode cX0_near 0 = .ok (.aload_n 0, 1) := dk_42 (dk_at dksX0_near_0 0 rfl rfl)
theorem dX0_near_1 : decode cX0_near 1 = .ok (.invokevirtual 347, 3) := dk_182 1 91 (dk_at dksX0_near_0 1 rfl rfl)
theorem dX0_near_4 : decode cX0_near 4 = .ok (.ifCond .ne 5, 3) := dk_154 0 5 (dk_at dksX0_near_0 4 rfl rfl)
theorem dX0_near_7 : decode cX0_near 7 = .ok (.iconst (-1), 1) := dk_2 (dk_at dksX0_near_0 7 rfl rfl)
theorem dX0_near_8 : decode cX0_near 8 = .ok (.ireturn, 1) := dk_172 (dk_at dksX0_near_0 8 rfl rfl)
theorem dX0_near_9 : decode cX0_near 9 = .ok (.aload_n 0, 1) := dk_42 (dk_at dksX0_near_0 9 rfl rfl)
theorem dX0_near_10 : decode cX0_near 10 = .ok (.invokevirtual 350, 3) := dk_182 1 94 (dk_at dksX0_near_0 10 rfl rfl)
theorem dX0_near_13 : decode cX0_near 13 = .ok (.aload_n 0, 1) := dk_42 (dk_at dksX0_near_0 13 rfl rfl)
theorem dX0_near_14 : decode cX0_near 14 = .ok (.invokevirtual 353, 3) := dk_182 1 97 (dk_at dksX0_near_0 14 rfl rfl)
theorem dX0_near_17 : decode cX0_near 17 = .ok (.istore_n 1, 1) := dk_60 (dk_at dksX0_near_0 17 rfl rfl)
theorem dX0_near_18 : decode cX0_near 18 = .ok (.iconst (-1), 1) := dk_2 (dk_at dksX0_near_0 18 rfl rfl)
theorem dX0_near_19 : decode cX0_near 19 = .ok (.istore_n 2, 1) := dk_61 (dk_at dksX0_near_0 19 rfl rfl)
theorem dX0_near_20 : decode cX0_near 20 = .ok (.iconst 0, 1) := dk_3 (dk_at dksX0_near_0 20 rfl rfl)
theorem dX0_near_21 : decode cX0_near 21 = .ok (.istore_n 3, 1) := dk_62 (dk_at dksX0_near_0 21 rfl rfl)
theorem dX0_near_22 : decode cX0_near 22 = .ok (.iconst 0, 1) := dk_3 (dk_at dksX0_near_0 22 rfl rfl)
theorem dX0_near_23 : decode cX0_near 23 = .ok (.istore 4, 2) := dk_54 4 (dk_at dksX0_near_1 0 rfl rfl)
theorem dX0_near_25 : decode cX0_near 25 = .ok (.iload 4, 2) := dk_21 4 (dk_at dksX0_near_1 2 rfl rfl)
theorem dX0_near_27 : decode cX0_near 27 = .ok (.aload_n 0, 1) := dk_42 (dk_at dksX0_near_1 4 rfl rfl)
theorem dX0_near_28 : decode cX0_near 28 = .ok (.invokevirtual 319, 3) := dk_182 1 63 (dk_at dksX0_near_1 5 rfl rfl)
theorem dX0_near_31 : decode cX0_near 31 = .ok (.if_icmp .ge 58, 3) := dk_162 0 58 (dk_at dksX0_near_1 8 rfl rfl)
theorem dX0_near_34 : decode cX0_near 34 = .ok (.aload_n 0, 1) := dk_42 (dk_at dksX0_near_1 11 rfl rfl)
theorem dX0_near_35 : decode cX0_near 35 = .ok (.iload 4, 2) := dk_21 4 (dk_at dksX0_near_1 12 rfl rfl)
theorem dX0_near_37 : decode cX0_near 37 = .ok (.iload_n 1, 1) := dk_27 (dk_at dksX0_near_1 14 rfl rfl)
theorem dX0_near_38 : decode cX0_near 38 = .ok (.invokevirtual 335, 3) := dk_182 1 79 (dk_at dksX0_near_1 15 rfl rfl)
theorem dX0_near_41 : decode cX0_near 41 = .ok (.ifCond .ne 6, 3) := dk_154 0 6 (dk_at dksX0_near_1 18 rfl rfl)
theorem dX0_near_44 : decode cX0_near 44 = .ok (.goto 39, 3) := dk_167 0 39 (dk_at dksX0_near_1 21 rfl rfl)
theorem dX0_near_47 : decode cX0_near 47 = .ok (.iload 4, 2) := dk_21 4 (dk_at dksX0_near_2 0 rfl rfl)
theorem dX0_near_49 : decode cX0_near 49 = .ok (.i2l, 1) := dk_133 (dk_at dksX0_near_2 2 rfl rfl)
theorem dX0_near_50 : decode cX0_near 50 = .ok (.aload_n 0, 1) := dk_42 (dk_at dksX0_near_2 3 rfl rfl)
theorem dX0_near_51 : decode cX0_near 51 = .ok (.getfield 12, 3) := dk_180 0 12 (dk_at dksX0_near_2 4 rfl rfl)
theorem dX0_near_54 : decode cX0_near 54 = .ok (.getfield 79, 3) := dk_180 0 79 (dk_at dksX0_near_2 7 rfl rfl)
theorem dX0_near_57 : decode cX0_near 57 = .ok (.lxor, 1) := dk_131 (dk_at dksX0_near_2 10 rfl rfl)
theorem dX0_near_58 : decode cX0_near 58 = .ok (.invokestatic 414, 3) := dk_184 1 158 (dk_at dksX0_near_2 11 rfl rfl)
theorem dX0_near_61 : decode cX0_near 61 = .ok (.istore 5, 2) := dk_54 5 (dk_at dksX0_near_2 14 rfl rfl)
theorem dX0_near_63 : decode cX0_near 63 = .ok (.iload_n 2, 1) := dk_28 (dk_at dksX0_near_2 16 rfl rfl)
theorem dX0_near_64 : decode cX0_near 64 = .ok (.iconst (-1), 1) := dk_2 (dk_at dksX0_near_2 17 rfl rfl)
theorem dX0_near_65 : decode cX0_near 65 = .ok (.if_icmp .eq 12, 3) := dk_159 0 12 (dk_at dksX0_near_2 18 rfl rfl)
theorem dX0_near_68 : decode cX0_near 68 = .ok (.iload 5, 2) := dk_21 5 (dk_at dksX0_near_2 21 rfl rfl)
theorem dX0_near_70 : decode cX0_near 70 = .ok (.iload_n 3, 1) := dk_29 (dk_at dksX0_near_2 23 rfl rfl)
theorem dX0_near_71 : decode cX0_near 71 = .ok (.if_icmp .lt 6, 3) := dk_161 0 6 (dk_at dksX0_near_3 0 rfl rfl)
theorem dX0_near_74 : decode cX0_near 74 = .ok (.goto 9, 3) := dk_167 0 9 (dk_at dksX0_near_3 3 rfl rfl)
theorem dX0_near_77 : decode cX0_near 77 = .ok (.iload 4, 2) := dk_21 4 (dk_at dksX0_near_3 6 rfl rfl)
theorem dX0_near_79 : decode cX0_near 79 = .ok (.istore_n 2, 1) := dk_61 (dk_at dksX0_near_3 8 rfl rfl)
theorem dX0_near_80 : decode cX0_near 80 = .ok (.iload 5, 2) := dk_21 5 (dk_at dksX0_near_3 9 rfl rfl)
theorem dX0_near_82 : decode cX0_near 82 = .ok (.istore_n 3, 1) := dk_62 (dk_at dksX0_near_3 11 rfl rfl)
theorem dX0_near_83 : decode cX0_near 83 = .ok (.iinc 4 1, 3) := dk_132 4 1 (dk_at dksX0_near_3 12 rfl rfl)
theorem dX0_near_86 : decode cX0_near 86 = .ok (.goto (-61), 3) := dk_167 255 195 (dk_at dksX0_near_3 15 rfl rfl)
theorem dX0_near_89 : decode cX0_near 89 = .ok (.iload_n 2, 1) := dk_28 (dk_at dksX0_near_3 18 rfl rfl)
theorem dX0_near_90 : decode cX0_near 90 = .ok (.iconst (-1), 1) := dk_2 (dk_at dksX0_near_3 19 rfl rfl)
theorem dX0_near_91 : decode cX0_near 91 = .ok (.if_icmp .ne 5, 3) := dk_160 0 5 (dk_at dksX0_near_3 20 rfl rfl)
theorem dX0_near_94 : decode cX0_near 94 = .ok (.iconst (-1), 1) := dk_2 (dk_at dksX0_near_3 23 rfl rfl)
theorem dX0_near_95 : decode cX0_near 95 = .ok (.ireturn, 1) := dk_172 (dk_at dksX0_near_4 0 rfl rfl)
theorem dX0_near_96 : decode cX0_near 96 = .ok (.aload_n 0, 1) := dk_42 (dk_at dksX0_near_4 1 rfl rfl)
theorem dX0_near_97 : decode cX0_near 97 = .ok (.getfield 12, 3) := dk_180 0 12 (dk_at dksX0_near_4 2 rfl rfl)
theorem dX0_near_100 : decode cX0_near 100 = .ok (.iload_n 2, 1) := dk_28 (dk_at dksX0_near_4 5 rfl rfl)
theorem dX0_near_101 : decode cX0_near 101 = .ok (.i2l, 1) := dk_133 (dk_at dksX0_near_4 6 rfl rfl)
theorem dX0_near_102 : decode cX0_near 102 = .ok (.putfield 79, 3) := dk_181 0 79 (dk_at dksX0_near_4 7 rfl rfl)
theorem dX0_near_105 : decode cX0_near 105 = .ok (.iload_n 3, 1) := dk_29 (dk_at dksX0_near_4 10 rfl rfl)
theorem dX0_near_106 : decode cX0_near 106 = .ok (.ireturn, 1) := dk_172 (dk_at dksX0_near_4 11 rfl rfl)
abbrev cX0_holds : ByteArray := prog_1_method_64_code
def yX0_holds : MethodName := ⟨RX0, "holds", "(I)I"⟩
def dkwX0_holds_4 : List UInt8 := [133, 182, 0, 244, 153, 0, 7, 4, 167, 0, 4, 3, 96, 62, 132, 4, 1, 167, 255, 188, 29, 172]
abbrev dktX0_holds_4 : List UInt8 := dkwX0_holds_4 ++ []
def dkwX0_holds_3 : List UInt8 := [42, 21, 4, 28, 182, 1, 103, 153, 0, 28, 42, 42, 180, 0, 12, 180, 0, 204, 42, 182, 0, 95, 21, 4]
abbrev dktX0_holds_3 : List UInt8 := dkwX0_holds_3 ++ dktX0_holds_4
def dkwX0_holds_2 : List UInt8 := [182, 1, 63, 162, 0, 65, 29, 27, 154, 0, 16, 42, 21, 4, 28, 182, 1, 79, 153, 0, 41, 167, 0, 13]
abbrev dktX0_holds_2 : List UInt8 := dkwX0_holds_2 ++ dktX0_holds_3
def dkwX0_holds_1 : List UInt8 := [154, 0, 5, 2, 172, 42, 182, 1, 94, 42, 182, 1, 97, 61, 3, 62, 3, 54, 4, 21, 4, 42]
abbrev dktX0_holds_1 : List UInt8 := dkwX0_holds_1 ++ dktX0_holds_2
def dkwX0_holds_0 : List UInt8 := [42, 180, 0, 12, 180, 0, 204, 198, 0, 19, 42, 182, 1, 91, 153, 0, 12, 27, 3, 4, 184, 0, 75]
abbrev dktX0_holds_0 : List UInt8 := dkwX0_holds_0 ++ dktX0_holds_1
theorem dksX0_holds_0 : cX0_holds.data.toList.drop 0 = dktX0_holds_0 := by decide +kernel
theorem dksX0_holds_1 : cX0_holds.data.toList.drop 23 = dktX0_holds_1 := dk_seg dksX0_holds_0 23 rfl rfl
theorem dksX0_holds_2 : cX0_holds.data.toList.drop 45 = dktX0_holds_2 := dk_seg dksX0_holds_1 22 rfl rfl
theorem dksX0_holds_3 : cX0_holds.data.toList.drop 69 = dktX0_holds_3 := dk_seg dksX0_holds_2 24 rfl rfl
theorem dksX0_holds_4 : cX0_holds.data.toList.drop 93 = dktX0_holds_4 := dk_seg dksX0_holds_3 24 rfl rfl
theorem dX0_holds_0 : decode cX0_holds 0 = .ok (.aload_n 0, 1) := dk_42 (dk_at dksX0_holds_0 0 rfl rfl)
theorem dX0_holds_1 : decode cX0_holds 1 = .ok (.getfield 12, 3) := dk_180 0 12 (dk_at dksX0_holds_0 1 rfl rfl)
theorem dX0_holds_4 : decode cX0_holds 4 = .ok (.getfield 204, 3) := dk_180 0 204 (dk_at dksX0_holds_0 4 rfl rfl)
theorem dX0_holds_7 : decode cX0_holds 7 = .ok (.ifnull 19, 3) := dk_198 0 19 (dk_at dksX0_holds_0 7 rfl rfl)
theorem dX0_holds_10 : decode cX0_holds 10 = .ok (.aload_n 0, 1) := dk_42 (dk_at dksX0_holds_0 10 rfl rfl)
theorem dX0_holds_11 : decode cX0_holds 11 = .ok (.invokevirtual 347, 3) := dk_182 1 91 (dk_at dksX0_holds_0 11 rfl rfl)
theorem dX0_holds_14 : decode cX0_holds 14 = .ok (.ifCond .eq 12, 3) := dk_153 0 12 (dk_at dksX0_holds_0 14 rfl rfl)
theorem dX0_holds_17 : decode cX0_holds 17 = .ok (.iload_n 1, 1) := dk_27 (dk_at dksX0_holds_0 17 rfl rfl)
theorem dX0_holds_18 : decode cX0_holds 18 = .ok (.iconst 0, 1) := dk_3 (dk_at dksX0_holds_0 18 rfl rfl)
theorem dX0_holds_19 : decode cX0_holds 19 = .ok (.iconst 1, 1) := dk_4 (dk_at dksX0_holds_0 19 rfl rfl)
theorem dX0_holds_20 : decode cX0_holds 20 = .ok (.invokestatic 75, 3) := dk_184 0 75 (dk_at dksX0_holds_0 20 rfl rfl)
theorem dX0_holds_23 : decode cX0_holds 23 = .ok (.ifCond .ne 5, 3) := dk_154 0 5 (dk_at dksX0_holds_1 0 rfl rfl)
theorem dX0_holds_26 : decode cX0_holds 26 = .ok (.iconst (-1), 1) := dk_2 (dk_at dksX0_holds_1 3 rfl rfl)
theorem dX0_holds_27 : decode cX0_holds 27 = .ok (.ireturn, 1) := dk_172 (dk_at dksX0_holds_1 4 rfl rfl)
theorem dX0_holds_28 : decode cX0_holds 28 = .ok (.aload_n 0, 1) := dk_42 (dk_at dksX0_holds_1 5 rfl rfl)
theorem dX0_holds_29 : decode cX0_holds 29 = .ok (.invokevirtual 350, 3) := dk_182 1 94 (dk_at dksX0_holds_1 6 rfl rfl)
theorem dX0_holds_32 : decode cX0_holds 32 = .ok (.aload_n 0, 1) := dk_42 (dk_at dksX0_holds_1 9 rfl rfl)
theorem dX0_holds_33 : decode cX0_holds 33 = .ok (.invokevirtual 353, 3) := dk_182 1 97 (dk_at dksX0_holds_1 10 rfl rfl)
theorem dX0_holds_36 : decode cX0_holds 36 = .ok (.istore_n 2, 1) := dk_61 (dk_at dksX0_holds_1 13 rfl rfl)
theorem dX0_holds_37 : decode cX0_holds 37 = .ok (.iconst 0, 1) := dk_3 (dk_at dksX0_holds_1 14 rfl rfl)
theorem dX0_holds_38 : decode cX0_holds 38 = .ok (.istore_n 3, 1) := dk_62 (dk_at dksX0_holds_1 15 rfl rfl)
theorem dX0_holds_39 : decode cX0_holds 39 = .ok (.iconst 0, 1) := dk_3 (dk_at dksX0_holds_1 16 rfl rfl)
theorem dX0_holds_40 : decode cX0_holds 40 = .ok (.istore 4, 2) := dk_54 4 (dk_at dksX0_holds_1 17 rfl rfl)
theorem dX0_holds_42 : decode cX0_holds 42 = .ok (.iload 4, 2) := dk_21 4 (dk_at dksX0_holds_1 19 rfl rfl)
theorem dX0_holds_44 : decode cX0_holds 44 = .ok (.aload_n 0, 1) := dk_42 (dk_at dksX0_holds_1 21 rfl rfl)
theorem dX0_holds_45 : decode cX0_holds 45 = .ok (.invokevirtual 319, 3) := dk_182 1 63 (dk_at dksX0_holds_2 0 rfl rfl)
theorem dX0_holds_48 : decode cX0_holds 48 = .ok (.if_icmp .ge 65, 3) := dk_162 0 65 (dk_at dksX0_holds_2 3 rfl rfl)
theorem dX0_holds_51 : decode cX0_holds 51 = .ok (.iload_n 3, 1) := dk_29 (dk_at dksX0_holds_2 6 rfl rfl)
theorem dX0_holds_52 : decode cX0_holds 52 = .ok (.iload_n 1, 1) := dk_27 (dk_at dksX0_holds_2 7 rfl rfl)
theorem dX0_holds_53 : decode cX0_holds 53 = .ok (.ifCond .ne 16, 3) := dk_154 0 16 (dk_at dksX0_holds_2 8 rfl rfl)
theorem dX0_holds_56 : decode cX0_holds 56 = .ok (.aload_n 0, 1) := dk_42 (dk_at dksX0_holds_2 11 rfl rfl)
theorem dX0_holds_57 : decode cX0_holds 57 = .ok (.iload 4, 2) := dk_21 4 (dk_at dksX0_holds_2 12 rfl rfl)
theorem dX0_holds_59 : decode cX0_holds 59 = .ok (.iload_n 2, 1) := dk_28 (dk_at dksX0_holds_2 14 rfl rfl)
theorem dX0_holds_60 : decode cX0_holds 60 = .ok (.invokevirtual 335, 3) := dk_182 1 79 (dk_at dksX0_holds_2 15 rfl rfl)
theorem dX0_holds_63 : decode cX0_holds 63 = .ok (.ifCond .eq 41, 3) := dk_153 0 41 (dk_at dksX0_holds_2 18 rfl rfl)
theorem dX0_holds_66 : decode cX0_holds 66 = .ok (.goto 13, 3) := dk_167 0 13 (dk_at dksX0_holds_2 21 rfl rfl)
theorem dX0_holds_69 : decode cX0_holds 69 = .ok (.aload_n 0, 1) := dk_42 (dk_at dksX0_holds_3 0 rfl rfl)
theorem dX0_holds_70 : decode cX0_holds 70 = .ok (.iload 4, 2) := dk_21 4 (dk_at dksX0_holds_3 1 rfl rfl)
theorem dX0_holds_72 : decode cX0_holds 72 = .ok (.iload_n 2, 1) := dk_28 (dk_at dksX0_holds_3 3 rfl rfl)
theorem dX0_holds_73 : decode cX0_holds 73 = .ok (.invokevirtual 359, 3) := dk_182 1 103 (dk_at dksX0_holds_3 4 rfl rfl)
theorem dX0_holds_76 : decode cX0_holds 76 = .ok (.ifCond .eq 28, 3) := dk_153 0 28 (dk_at dksX0_holds_3 7 rfl rfl)
theorem dX0_holds_79 : decode cX0_holds 79 = .ok (.aload_n 0, 1) := dk_42 (dk_at dksX0_holds_3 10 rfl rfl)
theorem dX0_holds_80 : decode cX0_holds 80 = .ok (.aload_n 0, 1) := dk_42 (dk_at dksX0_holds_3 11 rfl rfl)
theorem dX0_holds_81 : decode cX0_holds 81 = .ok (.getfield 12, 3) := dk_180 0 12 (dk_at dksX0_holds_3 12 rfl rfl)
theorem dX0_holds_84 : decode cX0_holds 84 = .ok (.getfield 204, 3) := dk_180 0 204 (dk_at dksX0_holds_3 15 rfl rfl)
theorem dX0_holds_87 : decode cX0_holds 87 = .ok (.aload_n 0, 1) := dk_42 (dk_at dksX0_holds_3 18 rfl rfl)
theorem dX0_holds_88 : decode cX0_holds 88 = .ok (.invokevirtual 95, 3) := dk_182 0 95 (dk_at dksX0_holds_3 19 rfl rfl)
theorem dX0_holds_91 : decode cX0_holds 91 = .ok (.iload 4, 2) := dk_21 4 (dk_at dksX0_holds_3 22 rfl rfl)
theorem dX0_holds_93 : decode cX0_holds 93 = .ok (.i2l, 1) := dk_133 (dk_at dksX0_holds_4 0 rfl rfl)
theorem dX0_holds_94 : decode cX0_holds 94 = .ok (.invokevirtual 244, 3) := dk_182 0 244 (dk_at dksX0_holds_4 1 rfl rfl)
theorem dX0_holds_97 : decode cX0_holds 97 = .ok (.ifCond .eq 7, 3) := dk_153 0 7 (dk_at dksX0_holds_4 4 rfl rfl)
theorem dX0_holds_100 : decode cX0_holds 100 = .ok (.iconst 1, 1) := dk_4 (dk_at dksX0_holds_4 7 rfl rfl)
theorem dX0_holds_101 : decode cX0_holds 101 = .ok (.goto 4, 3) := dk_167 0 4 (dk_at dksX0_holds_4 8 rfl rfl)
theorem dX0_holds_104 : decode cX0_holds 104 = .ok (.iconst 0, 1) := dk_3 (dk_at dksX0_holds_4 11 rfl rfl)
theorem dX0_holds_105 : decode cX0_holds 105 = .ok (.iadd, 1) := dk_96 (dk_at dksX0_holds_4 12 rfl rfl)
theorem dX0_holds_106 : decode cX0_holds 106 = .ok (.istore_n 3, 1) := dk_62 (dk_at dksX0_holds_4 13 rfl rfl)
theorem dX0_holds_107 : decode cX0_holds 107 = .ok (.iinc 4 1, 3) := dk_132 4 1 (dk_at dksX0_holds_4 14 rfl rfl)
theorem dX0_holds_110 : decode cX0_holds 110 = .ok (.goto (-68), 3) := dk_167 255 188 (dk_at dksX0_holds_4 17 rfl rfl)
theorem dX0_holds_113 : decode cX0_holds 113 = .ok (.iload_n 3, 1) := dk_29 (dk_at dksX0_holds_4 20 rfl rfl)
theorem dX0_holds_114 : decode cX0_holds 114 = .ok (.ireturn, 1) := dk_172 (dk_at dksX0_holds_4 21 rfl rfl)
abbrev cX0_against : ByteArray := prog_1_method_65_code
def yX0_against : MethodName := ⟨RX0, "against", "()Z"⟩
def dkwX0_against_3 : List UInt8 := [180, 0, 12, 28, 133, 181, 0, 79, 4, 172, 132, 2, 1, 167, 255, 202, 3, 172]
abbrev dktX0_against_3 : List UInt8 := dkwX0_against_3 ++ []
def dkwX0_against_2 : List UInt8 := [42, 180, 0, 12, 180, 0, 204, 42, 182, 0, 95, 28, 133, 182, 0, 244, 153, 0, 6, 167, 0, 14, 42]
abbrev dktX0_against_2 : List UInt8 := dkwX0_against_2 ++ dktX0_against_3
def dkwX0_against_1 : List UInt8 := [182, 1, 97, 60, 3, 61, 28, 42, 182, 1, 63, 162, 0, 52, 42, 28, 27, 182, 1, 103, 153, 0, 37, 42]
abbrev dktX0_against_1 : List UInt8 := dkwX0_against_1 ++ dktX0_against_2
def dkwX0_against_0 : List UInt8 := [42, 180, 0, 12, 180, 0, 204, 198, 0, 10, 42, 182, 1, 91, 154, 0, 5, 3, 172, 42, 182, 1, 94, 42]
abbrev dktX0_against_0 : List UInt8 := dkwX0_against_0 ++ dktX0_against_1
theorem dksX0_against_0 : cX0_against.data.toList.drop 0 = dktX0_against_0 := by decide +kernel
theorem dksX0_against_1 : cX0_against.data.toList.drop 24 = dktX0_against_1 := dk_seg dksX0_against_0 24 rfl rfl
theorem dksX0_against_2 : cX0_against.data.toList.drop 48 = dktX0_against_2 := dk_seg dksX0_against_1 24 rfl rfl
theorem dksX0_against_3 : cX0_against.data.toList.drop 71 = dktX0_against_3 := dk_seg dksX0_against_2 23 rfl rfl
theorem dX0_against_0 : decode cX0_against 0 = .ok (.aload_n 0, 1) := dk_42 (dk_at dksX0_against_0 0 rfl rfl)
theorem dX0_against_1 : decode cX0_against 1 = .ok (.getfield 12, 3) := dk_180 0 12 (dk_at dksX0_against_0 1 rfl rfl)
theorem dX0_against_4 : decode cX0_against 4 = .ok (.getfield 204, 3) := dk_180 0 204 (dk_at dksX0_against_0 4 rfl rfl)
theorem dX0_against_7 : decode cX0_against 7 = .ok (.ifnull 10, 3) := dk_198 0 10 (dk_at dksX0_against_0 7 rfl rfl)
theorem dX0_against_10 : decode cX0_against 10 = .ok (.aload_n 0, 1) := dk_42 (dk_at dksX0_against_0 10 rfl rfl)
theorem dX0_against_11 : decode cX0_against 11 = .ok (.invokevirtual 347, 3) := dk_182 1 91 (dk_at dksX0_against_0 11 rfl rfl)
theorem dX0_against_14 : decode cX0_against 14 = .ok (.ifCond .ne 5, 3) := dk_154 0 5 (dk_at dksX0_against_0 14 rfl rfl)
theorem dX0_against_17 : decode cX0_against 17 = .ok (.iconst 0, 1) := dk_3 (dk_at dksX0_against_0 17 rfl rfl)
theorem dX0_against_18 : decode cX0_against 18 = .ok (.ireturn, 1) := dk_172 (dk_at dksX0_against_0 18 rfl rfl)
theorem dX0_against_19 : decode cX0_against 19 = .ok (.aload_n 0, 1) := dk_42 (dk_at dksX0_against_0 19 rfl rfl)
theorem dX0_against_20 : decode cX0_against 20 = .ok (.invokevirtual 350, 3) := dk_182 1 94 (dk_at dksX0_against_0 20 rfl rfl)
theorem dX0_against_23 : decode cX0_against 23 = .ok (.aload_n 0, 1) := dk_42 (dk_at dksX0_against_0 23 rfl rfl)
theorem dX0_against_24 : decode cX0_against 24 = .ok (.invokevirtual 353, 3) := dk_182 1 97 (dk_at dksX0_against_1 0 rfl rfl)
theorem dX0_against_27 : decode cX0_against 27 = .ok (.istore_n 1, 1) := dk_60 (dk_at dksX0_against_1 3 rfl rfl)
theorem dX0_against_28 : decode cX0_against 28 = .ok (.iconst 0, 1) := dk_3 (dk_at dksX0_against_1 4 rfl rfl)
theorem dX0_against_29 : decode cX0_against 29 = .ok (.istore_n 2, 1) := dk_61 (dk_at dksX0_against_1 5 rfl rfl)
theorem dX0_against_30 : decode cX0_against 30 = .ok (.iload_n 2, 1) := dk_28 (dk_at dksX0_against_1 6 rfl rfl)
theorem dX0_against_31 : decode cX0_against 31 = .ok (.aload_n 0, 1) := dk_42 (dk_at dksX0_against_1 7 rfl rfl)
theorem dX0_against_32 : decode cX0_against 32 = .ok (.invokevirtual 319, 3) := dk_182 1 63 (dk_at dksX0_against_1 8 rfl rfl)
theorem dX0_against_35 : decode cX0_against 35 = .ok (.if_icmp .ge 52, 3) := dk_162 0 52 (dk_at dksX0_against_1 11 rfl rfl)
theorem dX0_against_38 : decode cX0_against 38 = .ok (.aload_n 0, 1) := dk_42 (dk_at dksX0_against_1 14 rfl rfl)
theorem dX0_against_39 : decode cX0_against 39 = .ok (.iload_n 2, 1) := dk_28 (dk_at dksX0_against_1 15 rfl rfl)
theorem dX0_against_40 : decode cX0_against 40 = .ok (.iload_n 1, 1) := dk_27 (dk_at dksX0_against_1 16 rfl rfl)
theorem dX0_against_41 : decode cX0_against 41 = .ok (.invokevirtual 359, 3) := dk_182 1 103 (dk_at dksX0_against_1 17 rfl rfl)
theorem dX0_against_44 : decode cX0_against 44 = .ok (.ifCond .eq 37, 3) := dk_153 0 37 (dk_at dksX0_against_1 20 rfl rfl)
theorem dX0_against_47 : decode cX0_against 47 = .ok (.aload_n 0, 1) := dk_42 (dk_at dksX0_against_1 23 rfl rfl)
theorem dX0_against_48 : decode cX0_against 48 = .ok (.aload_n 0, 1) := dk_42 (dk_at dksX0_against_2 0 rfl rfl)
theorem dX0_against_49 : decode cX0_against 49 = .ok (.getfield 12, 3) := dk_180 0 12 (dk_at dksX0_against_2 1 rfl rfl)
theorem dX0_against_52 : decode cX0_against 52 = .ok (.getfield 204, 3) := dk_180 0 204 (dk_at dksX0_against_2 4 rfl rfl)
theorem dX0_against_55 : decode cX0_against 55 = .ok (.aload_n 0, 1) := dk_42 (dk_at dksX0_against_2 7 rfl rfl)
theorem dX0_against_56 : decode cX0_against 56 = .ok (.invokevirtual 95, 3) := dk_182 0 95 (dk_at dksX0_against_2 8 rfl rfl)
theorem dX0_against_59 : decode cX0_against 59 = .ok (.iload_n 2, 1) := dk_28 (dk_at dksX0_against_2 11 rfl rfl)
theorem dX0_against_60 : decode cX0_against 60 = .ok (.i2l, 1) := dk_133 (dk_at dksX0_against_2 12 rfl rfl)
theorem dX0_against_61 : decode cX0_against 61 = .ok (.invokevirtual 244, 3) := dk_182 0 244 (dk_at dksX0_against_2 13 rfl rfl)
theorem dX0_against_64 : decode cX0_against 64 = .ok (.ifCond .eq 6, 3) := dk_153 0 6 (dk_at dksX0_against_2 16 rfl rfl)
theorem dX0_against_67 : decode cX0_against 67 = .ok (.goto 14, 3) := dk_167 0 14 (dk_at dksX0_against_2 19 rfl rfl)
theorem dX0_against_70 : decode cX0_against 70 = .ok (.aload_n 0, 1) := dk_42 (dk_at dksX0_against_2 22 rfl rfl)
theorem dX0_against_71 : decode cX0_against 71 = .ok (.getfield 12, 3) := dk_180 0 12 (dk_at dksX0_against_3 0 rfl rfl)
theorem dX0_against_74 : decode cX0_against 74 = .ok (.iload_n 2, 1) := dk_28 (dk_at dksX0_against_3 3 rfl rfl)
theorem dX0_against_75 : decode cX0_against 75 = .ok (.i2l, 1) := dk_133 (dk_at dksX0_against_3 4 rfl rfl)
theorem dX0_against_76 : decode cX0_against 76 = .ok (.putfield 79, 3) := dk_181 0 79 (dk_at dksX0_against_3 5 rfl rfl)
theorem dX0_against_79 : decode cX0_against 79 = .ok (.iconst 1, 1) := dk_4 (dk_at dksX0_against_3 8 rfl rfl)
theorem dX0_against_80 : decode cX0_against 80 = .ok (.ireturn, 1) := dk_172 (dk_at dksX0_against_3 9 rfl rfl)
theorem dX0_against_81 : decode cX0_against 81 = .ok (.iinc 2 1, 3) := dk_132 2 1 (dk_at dksX0_against_3 10 rfl rfl)
theorem dX0_against_84 : decode cX0_against 84 = .ok (.goto (-54), 3) := dk_167 255 202 (dk_at dksX0_against_3 13 rfl rfl)
theorem dX0_against_87 : decode cX0_against 87 = .ok (.iconst 0, 1) := dk_3 (dk_at dksX0_against_3 16 rfl rfl)
theorem dX0_against_88 : decode cX0_against 88 = .ok (.ireturn, 1) := dk_172 (dk_at dksX0_against_3 17 rfl rfl)
abbrev cX0_many : ByteArray := prog_1_method_66_code
def yX0_many : MethodName := ⟨RX0, "many", "(I)I"⟩
def dkwX0_many_5 : List UInt8 := [180, 0, 12, 180, 0, 138, 182, 0, 111, 172, 16, 254, 172]
abbrev dktX0_many_5 : List UInt8 := dkwX0_many_5 ++ []
def dkwX0_many_4 : List UInt8 := [182, 1, 97, 172, 42, 180, 0, 12, 180, 0, 79, 184, 1, 158, 172, 42, 180, 0, 12, 180, 0, 211, 172, 42]
abbrev dktX0_many_4 : List UInt8 := dkwX0_many_4 ++ dktX0_many_5
def dkwX0_many_3 : List UInt8 := [180, 0, 183, 182, 0, 111, 172, 42, 180, 0, 12, 180, 0, 154, 172, 42, 180, 0, 12, 180, 0, 224, 172, 42]
abbrev dktX0_many_3 : List UInt8 := dkwX0_many_3 ++ dktX0_many_4
def dkwX0_many_2 : List UInt8 := [42, 182, 0, 95, 27, 182, 0, 98, 172, 42, 182, 0, 95, 180, 0, 108, 182, 0, 111, 172, 42, 180, 0, 12]
abbrev dktX0_many_2 : List UInt8 := dkwX0_many_2 ++ dktX0_many_3
def dkwX0_many_1 : List UInt8 := [170, 0, 0, 0, 0, 0, 141, 0, 0, 0, 0, 0, 0, 0, 10, 0, 0, 0, 59, 0, 0, 0, 59, 0, 0, 0, 59, 0, 0, 0, 68, 0, 0, 0, 79, 0, 0, 0, 90, 0, 0, 0, 98, 0, 0, 0, 106, 0, 0, 0, 111, 0, 0, 0, 122, 0, 0, 0, 130]
abbrev dktX0_many_1 : List UInt8 := dkwX0_many_1 ++ dktX0_many_2
def dkwX0_many_0 : List UInt8 := [27]
abbrev dktX0_many_0 : List UInt8 := dkwX0_many_0 ++ dktX0_many_1
theorem dksX0_many_0 : cX0_many.data.toList.drop 0 = dktX0_many_0 := by decide +kernel
theorem dksX0_many_1 : cX0_many.data.toList.drop 1 = dktX0_many_1 := dk_seg dksX0_many_0 1 rfl rfl
theorem dksX0_many_2 : cX0_many.data.toList.drop 60 = dktX0_many_2 := dk_seg dksX0_many_1 59 rfl rfl
theorem dksX0_many_3 : cX0_many.data.toList.drop 84 = dktX0_many_3 := dk_seg dksX0_many_2 24 rfl rfl
theorem dksX0_many_4 : cX0_many.data.toList.drop 108 = dktX0_many_4 := dk_seg dksX0_many_3 24 rfl rfl
theorem dksX0_many_5 : cX0_many.data.toList.drop 132 = dktX0_many_5 := dk_seg dksX0_many_4 24 rfl rfl
theorem dX0_many_0 : decode cX0_many 0 = .ok (.iload_n 1, 1) := dk_27 (dk_at dksX0_many_0 0 rfl rfl)
theorem dX0_many_1 : decode cX0_many 1 = .ok (.tableswitch 141 0 10 #[59, 59, 59, 68, 79, 90, 98, 106, 111, 122, 130], 59) := by decide +kernel
theorem dX0_many_60 : decode cX0_many 60 = .ok (.aload_n 0, 1) := dk_42 (dk_at dksX0_many_2 0 rfl rfl)
theorem dX0_many_61 : decode cX0_many 61 = .ok (.invokevirtual 95, 3) := dk_182 0 95 (dk_at dksX0_many_2 1 rfl rfl)
theorem dX0_many_64 : decode cX0_many 64 = .ok (.iload_n 1, 1) := dk_27 (dk_at dksX0_many_2 4 rfl rfl)
theorem dX0_many_65 : decode cX0_many 65 = .ok (.invokevirtual 98, 3) := dk_182 0 98 (dk_at dksX0_many_2 5 rfl rfl)
theorem dX0_many_68 : decode cX0_many 68 = .ok (.ireturn, 1) := dk_172 (dk_at dksX0_many_2 8 rfl rfl)
theorem dX0_many_69 : decode cX0_many 69 = .ok (.aload_n 0, 1) := dk_42 (dk_at dksX0_many_2 9 rfl rfl)
theorem dX0_many_70 : decode cX0_many 70 = .ok (.invokevirtual 95, 3) := dk_182 0 95 (dk_at dksX0_many_2 10 rfl rfl)
theorem dX0_many_73 : decode cX0_many 73 = .ok (.getfield 108, 3) := dk_180 0 108 (dk_at dksX0_many_2 13 rfl rfl)
theorem dX0_many_76 : decode cX0_many 76 = .ok (.invokevirtual 111, 3) := dk_182 0 111 (dk_at dksX0_many_2 16 rfl rfl)
theorem dX0_many_79 : decode cX0_many 79 = .ok (.ireturn, 1) := dk_172 (dk_at dksX0_many_2 19 rfl rfl)
theorem dX0_many_80 : decode cX0_many 80 = .ok (.aload_n 0, 1) := dk_42 (dk_at dksX0_many_2 20 rfl rfl)
theorem dX0_many_81 : decode cX0_many 81 = .ok (.getfield 12, 3) := dk_180 0 12 (dk_at dksX0_many_2 21 rfl rfl)
theorem dX0_many_84 : decode cX0_many 84 = .ok (.getfield 183, 3) := dk_180 0 183 (dk_at dksX0_many_3 0 rfl rfl)
theorem dX0_many_87 : decode cX0_many 87 = .ok (.invokevirtual 111, 3) := dk_182 0 111 (dk_at dksX0_many_3 3 rfl rfl)
theorem dX0_many_90 : decode cX0_many 90 = .ok (.ireturn, 1) := dk_172 (dk_at dksX0_many_3 6 rfl rfl)
theorem dX0_many_91 : decode cX0_many 91 = .ok (.aload_n 0, 1) := dk_42 (dk_at dksX0_many_3 7 rfl rfl)
theorem dX0_many_92 : decode cX0_many 92 = .ok (.getfield 12, 3) := dk_180 0 12 (dk_at dksX0_many_3 8 rfl rfl)
theorem dX0_many_95 : decode cX0_many 95 = .ok (.getfield 154, 3) := dk_180 0 154 (dk_at dksX0_many_3 11 rfl rfl)
theorem dX0_many_98 : decode cX0_many 98 = .ok (.ireturn, 1) := dk_172 (dk_at dksX0_many_3 14 rfl rfl)
theorem dX0_many_99 : decode cX0_many 99 = .ok (.aload_n 0, 1) := dk_42 (dk_at dksX0_many_3 15 rfl rfl)
theorem dX0_many_100 : decode cX0_many 100 = .ok (.getfield 12, 3) := dk_180 0 12 (dk_at dksX0_many_3 16 rfl rfl)
theorem dX0_many_103 : decode cX0_many 103 = .ok (.getfield 224, 3) := dk_180 0 224 (dk_at dksX0_many_3 19 rfl rfl)
theorem dX0_many_106 : decode cX0_many 106 = .ok (.ireturn, 1) := dk_172 (dk_at dksX0_many_3 22 rfl rfl)
theorem dX0_many_107 : decode cX0_many 107 = .ok (.aload_n 0, 1) := dk_42 (dk_at dksX0_many_3 23 rfl rfl)
theorem dX0_many_108 : decode cX0_many 108 = .ok (.invokevirtual 353, 3) := dk_182 1 97 (dk_at dksX0_many_4 0 rfl rfl)
theorem dX0_many_111 : decode cX0_many 111 = .ok (.ireturn, 1) := dk_172 (dk_at dksX0_many_4 3 rfl rfl)
theorem dX0_many_112 : decode cX0_many 112 = .ok (.aload_n 0, 1) := dk_42 (dk_at dksX0_many_4 4 rfl rfl)
theorem dX0_many_113 : decode cX0_many 113 = .ok (.getfield 12, 3) := dk_180 0 12 (dk_at dksX0_many_4 5 rfl rfl)
theorem dX0_many_116 : decode cX0_many 116 = .ok (.getfield 79, 3) := dk_180 0 79 (dk_at dksX0_many_4 8 rfl rfl)
theorem dX0_many_119 : decode cX0_many 119 = .ok (.invokestatic 414, 3) := dk_184 1 158 (dk_at dksX0_many_4 11 rfl rfl)
theorem dX0_many_122 : decode cX0_many 122 = .ok (.ireturn, 1) := dk_172 (dk_at dksX0_many_4 14 rfl rfl)
theorem dX0_many_123 : decode cX0_many 123 = .ok (.aload_n 0, 1) := dk_42 (dk_at dksX0_many_4 15 rfl rfl)
theorem dX0_many_124 : decode cX0_many 124 = .ok (.getfield 12, 3) := dk_180 0 12 (dk_at dksX0_many_4 16 rfl rfl)
theorem dX0_many_127 : decode cX0_many 127 = .ok (.getfield 211, 3) := dk_180 0 211 (dk_at dksX0_many_4 19 rfl rfl)
theorem dX0_many_130 : decode cX0_many 130 = .ok (.ireturn, 1) := dk_172 (dk_at dksX0_many_4 22 rfl rfl)
theorem dX0_many_131 : decode cX0_many 131 = .ok (.aload_n 0, 1) := dk_42 (dk_at dksX0_many_4 23 rfl rfl)
theorem dX0_many_132 : decode cX0_many 132 = .ok (.getfield 12, 3) := dk_180 0 12 (dk_at dksX0_many_5 0 rfl rfl)
theorem dX0_many_135 : decode cX0_many 135 = .ok (.getfield 138, 3) := dk_180 0 138 (dk_at dksX0_many_5 3 rfl rfl)
theorem dX0_many_138 : decode cX0_many 138 = .ok (.invokevirtual 111, 3) := dk_182 0 111 (dk_at dksX0_many_5 6 rfl rfl)
theorem dX0_many_141 : decode cX0_many 141 = .ok (.ireturn, 1) := dk_172 (dk_at dksX0_many_5 9 rfl rfl)
theorem dX0_many_142 : decode cX0_many 142 = .ok (.bipush (-2), 2) := dk_16 254 (dk_at dksX0_many_5 10 rfl rfl)
theorem dX0_many_144 : decode cX0_many 144 = .ok (.ireturn, 1) := dk_172 (dk_at dksX0_many_5 12 rfl rfl)
abbrev cX0_image : ByteArray := prog_1_method_67_code
def yX0_image : MethodName := ⟨RX0, "image", "(I)Z"⟩
def dkwX0_image_1 : List UInt8 := [27, 187, 0, 9, 89, 183, 0, 11, 83, 42, 180, 0, 16, 27, 50, 42, 180, 0, 12, 182, 1, 163, 4, 172]
abbrev dktX0_image_1 : List UInt8 := dkwX0_image_1 ++ []
def dkwX0_image_0 : List UInt8 := [27, 3, 5, 184, 0, 75, 154, 0, 5, 3, 172, 42, 180, 0, 16, 27, 50, 199, 0, 16, 42, 180, 0, 16]
abbrev dktX0_image_0 : List UInt8 := dkwX0_image_0 ++ dktX0_image_1
theorem dksX0_image_0 : cX0_image.data.toList.drop 0 = dktX0_image_0 := by decide +kernel
theorem dksX0_image_1 : cX0_image.data.toList.drop 24 = dktX0_image_1 := dk_seg dksX0_image_0 24 rfl rfl
theorem dX0_image_0 : decode cX0_image 0 = .ok (.iload_n 1, 1) := dk_27 (dk_at dksX0_image_0 0 rfl rfl)
theorem dX0_image_1 : decode cX0_image 1 = .ok (.iconst 0, 1) := dk_3 (dk_at dksX0_image_0 1 rfl rfl)
theorem dX0_image_2 : decode cX0_image 2 = .ok (.iconst 2, 1) := dk_5 (dk_at dksX0_image_0 2 rfl rfl)
theorem dX0_image_3 : decode cX0_image 3 = .ok (.invokestatic 75, 3) := dk_184 0 75 (dk_at dksX0_image_0 3 rfl rfl)
theorem dX0_image_6 : decode cX0_image 6 = .ok (.ifCond .ne 5, 3) := dk_154 0 5 (dk_at dksX0_image_0 6 rfl rfl)
theorem dX0_image_9 : decode cX0_image 9 = .ok (.iconst 0, 1) := dk_3 (dk_at dksX0_image_0 9 rfl rfl)
theorem dX0_image_10 : decode cX0_image 10 = .ok (.ireturn, 1) := dk_172 (dk_at dksX0_image_0 10 rfl rfl)
theorem dX0_image_11 : decode cX0_image 11 = .ok (.aload_n 0, 1) := dk_42 (dk_at dksX0_image_0 11 rfl rfl)
theorem dX0_image_12 : decode cX0_image 12 = .ok (.getfield 16, 3) := dk_180 0 16 (dk_at dksX0_image_0 12 rfl rfl)
theorem dX0_image_15 : decode cX0_image 15 = .ok (.iload_n 1, 1) := dk_27 (dk_at dksX0_image_0 15 rfl rfl)
theorem dX0_image_16 : decode cX0_image 16 = .ok (.aaload, 1) := dk_50 (dk_at dksX0_image_0 16 rfl rfl)
theorem dX0_image_17 : decode cX0_image 17 = .ok (.ifnonnull 16, 3) := dk_199 0 16 (dk_at dksX0_image_0 17 rfl rfl)
theorem dX0_image_20 : decode cX0_image 20 = .ok (.aload_n 0, 1) := dk_42 (dk_at dksX0_image_0 20 rfl rfl)
theorem dX0_image_21 : decode cX0_image 21 = .ok (.getfield 16, 3) := dk_180 0 16 (dk_at dksX0_image_0 21 rfl rfl)
theorem dX0_image_24 : decode cX0_image 24 = .ok (.iload_n 1, 1) := dk_27 (dk_at dksX0_image_1 0 rfl rfl)
theorem dX0_image_25 : decode cX0_image 25 = .ok (.new 9, 3) := dk_187 0 9 (dk_at dksX0_image_1 1 rfl rfl)
theorem dX0_image_28 : decode cX0_image 28 = .ok (.dup, 1) := dk_89 (dk_at dksX0_image_1 4 rfl rfl)
theorem dX0_image_29 : decode cX0_image 29 = .ok (.invokespecial 11, 3) := dk_183 0 11 (dk_at dksX0_image_1 5 rfl rfl)
theorem dX0_image_32 : decode cX0_image 32 = .ok (.aastore, 1) := dk_83 (dk_at dksX0_image_1 8 rfl rfl)
theorem dX0_image_33 : decode cX0_image 33 = .ok (.aload_n 0, 1) := dk_42 (dk_at dksX0_image_1 9 rfl rfl)
theorem dX0_image_34 : decode cX0_image 34 = .ok (.getfield 16, 3) := dk_180 0 16 (dk_at dksX0_image_1 10 rfl rfl)
theorem dX0_image_37 : decode cX0_image 37 = .ok (.iload_n 1, 1) := dk_27 (dk_at dksX0_image_1 13 rfl rfl)
theorem dX0_image_38 : decode cX0_image 38 = .ok (.aaload, 1) := dk_50 (dk_at dksX0_image_1 14 rfl rfl)
theorem dX0_image_39 : decode cX0_image 39 = .ok (.aload_n 0, 1) := dk_42 (dk_at dksX0_image_1 15 rfl rfl)
theorem dX0_image_40 : decode cX0_image 40 = .ok (.getfield 12, 3) := dk_180 0 12 (dk_at dksX0_image_1 16 rfl rfl)
theorem dX0_image_43 : decode cX0_image 43 = .ok (.invokevirtual 419, 3) := dk_182 1 163 (dk_at dksX0_image_1 19 rfl rfl)
theorem dX0_image_46 : decode cX0_image 46 = .ok (.iconst 1, 1) := dk_4 (dk_at dksX0_image_1 22 rfl rfl)
theorem dX0_image_47 : decode cX0_image 47 = .ok (.ireturn, 1) := dk_172 (dk_at dksX0_image_1 23 rfl rfl)
abbrev cX0_again : ByteArray := prog_1_method_68_code
def yX0_again : MethodName := ⟨RX0, "again", "(I)Z"⟩
def dkwX0_again_1 : List UInt8 := [42, 180, 0, 16, 27, 50, 182, 1, 163, 42, 3, 181, 0, 87, 4, 172]
abbrev dktX0_again_1 : List UInt8 := dkwX0_again_1 ++ []
def dkwX0_again_0 : List UInt8 := [27, 3, 5, 184, 0, 75, 153, 0, 12, 42, 180, 0, 16, 27, 50, 199, 0, 5, 3, 172, 42, 180, 0, 12]
abbrev dktX0_again_0 : List UInt8 := dkwX0_again_0 ++ dktX0_again_1
theorem dksX0_again_0 : cX0_again.data.toList.drop 0 = dktX0_again_0 := by decide +kernel
theorem dksX0_again_1 : cX0_again.data.toList.drop 24 = dktX0_again_1 := dk_seg dksX0_again_0 24 rfl rfl
theorem dX0_again_0 : decode cX0_again 0 = .ok (.iload_n 1, 1) := dk_27 (dk_at dksX0_again_0 0 rfl rfl)
theorem dX0_again_1 : decode cX0_again 1 = .ok (.iconst 0, 1) := dk_3 (dk_at dksX0_again_0 1 rfl rfl)
theorem dX0_again_2 : decode cX0_again 2 = .ok (.iconst 2, 1) := dk_5 (dk_at dksX0_again_0 2 rfl rfl)
theorem dX0_again_3 : decode cX0_again 3 = .ok (.invokestatic 75, 3) := dk_184 0 75 (dk_at dksX0_again_0 3 rfl rfl)
theorem dX0_again_6 : decode cX0_again 6 = .ok (.ifCond .eq 12, 3) := dk_153 0 12 (dk_at dksX0_again_0 6 rfl rfl)
theorem dX0_again_9 : decode cX0_again 9 = .ok (.aload_n 0, 1) := dk_42 (dk_at dksX0_again_0 9 rfl rfl)
theorem dX0_again_10 : decode cX0_again 10 = .ok (.getfield 16, 3) := dk_180 0 16 (dk_at dksX0_again_0 10 rfl rfl)
theorem dX0_again_13 : decode cX0_again 13 = .ok (.iload_n 1, 1) := dk_27 (dk_at dksX0_again_0 13 rfl rfl)
theorem dX0_again_14 : decode cX0_again 14 = .ok (.aaload, 1) := dk_50 (dk_at dksX0_again_0 14 rfl rfl)
theorem dX0_again_15 : decode cX0_again 15 = .ok (.ifnonnull 5, 3) := dk_199 0 5 (dk_at dksX0_again_0 15 rfl rfl)
theorem dX0_again_18 : decode cX0_again 18 = .ok (.iconst 0, 1) := dk_3 (dk_at dksX0_again_0 18 rfl rfl)
theorem dX0_again_19 : decode cX0_again 19 = .ok (.ireturn, 1) := dk_172 (dk_at dksX0_again_0 19 rfl rfl)
theorem dX0_again_20 : decode cX0_again 20 = .ok (.aload_n 0, 1) := dk_42 (dk_at dksX0_again_0 20 rfl rfl)
theorem dX0_again_21 : decode cX0_again 21 = .ok (.getfield 12, 3) := dk_180 0 12 (dk_at dksX0_again_0 21 rfl rfl)
theorem dX0_again_24 : decode cX0_again 24 = .ok (.aload_n 0, 1) := dk_42 (dk_at dksX0_again_1 0 rfl rfl)
theorem dX0_again_25 : decode cX0_again 25 = .ok (.getfield 16, 3) := dk_180 0 16 (dk_at dksX0_again_1 1 rfl rfl)
theorem dX0_again_28 : decode cX0_again 28 = .ok (.iload_n 1, 1) := dk_27 (dk_at dksX0_again_1 4 rfl rfl)
theorem dX0_again_29 : decode cX0_again 29 = .ok (.aaload, 1) := dk_50 (dk_at dksX0_again_1 5 rfl rfl)
theorem dX0_again_30 : decode cX0_again 30 = .ok (.invokevirtual 419, 3) := dk_182 1 163 (dk_at dksX0_again_1 6 rfl rfl)
theorem dX0_again_33 : decode cX0_again 33 = .ok (.aload_n 0, 1) := dk_42 (dk_at dksX0_again_1 9 rfl rfl)
theorem dX0_again_34 : decode cX0_again 34 = .ok (.iconst 0, 1) := dk_3 (dk_at dksX0_again_1 10 rfl rfl)
theorem dX0_again_35 : decode cX0_again 35 = .ok (.putfield 87, 3) := dk_181 0 87 (dk_at dksX0_again_1 11 rfl rfl)
theorem dX0_again_38 : decode cX0_again 38 = .ok (.iconst 1, 1) := dk_4 (dk_at dksX0_again_1 14 rfl rfl)
theorem dX0_again_39 : decode cX0_again 39 = .ok (.ireturn, 1) := dk_172 (dk_at dksX0_again_1 15 rfl rfl)

abbrev cX1_init : ByteArray := prog_27_method_1_code
def yX1_init : MethodName := ⟨RX1, "<init>", "()V"⟩
def dkwX1_init_2 : List UInt8 := [183, 0, 35, 181, 0, 38, 42, 187, 0, 33, 89, 183, 0, 42, 181, 0, 43, 177]
abbrev dktX1_init_2 : List UInt8 := dkwX1_init_2 ++ []
def dkwX1_init_1 : List UInt8 := [7, 188, 11, 181, 0, 22, 42, 187, 0, 26, 89, 183, 0, 28, 181, 0, 29, 42, 187, 0, 33, 89, 16, 8]
abbrev dktX1_init_1 : List UInt8 := dkwX1_init_1 ++ dktX1_init_2
def dkwX1_init_0 : List UInt8 := [42, 183, 0, 3, 42, 17, 1, 144, 188, 8, 181, 0, 9, 42, 2, 181, 0, 15, 42, 2, 181, 0, 19, 42]
abbrev dktX1_init_0 : List UInt8 := dkwX1_init_0 ++ dktX1_init_1
theorem dksX1_init_0 : cX1_init.data.toList.drop 0 = dktX1_init_0 := by decide +kernel
theorem dksX1_init_1 : cX1_init.data.toList.drop 24 = dktX1_init_1 := dk_seg dksX1_init_0 24 rfl rfl
theorem dksX1_init_2 : cX1_init.data.toList.drop 48 = dktX1_init_2 := dk_seg dksX1_init_1 24 rfl rfl
theorem dX1_init_0 : decode cX1_init 0 = .ok (.aload_n 0, 1) := dk_42 (dk_at dksX1_init_0 0 rfl rfl)
theorem dX1_init_1 : decode cX1_init 1 = .ok (.invokespecial 3, 3) := dk_183 0 3 (dk_at dksX1_init_0 1 rfl rfl)
theorem dX1_init_4 : decode cX1_init 4 = .ok (.aload_n 0, 1) := dk_42 (dk_at dksX1_init_0 4 rfl rfl)
theorem dX1_init_5 : decode cX1_init 5 = .ok (.sipush 400, 3) := dk_17 1 144 (dk_at dksX1_init_0 5 rfl rfl)
theorem dX1_init_8 : decode cX1_init 8 = .ok (.newarray .byte, 2) := dk_188_8 (dk_at dksX1_init_0 8 rfl rfl)
theorem dX1_init_10 : decode cX1_init 10 = .ok (.putfield 9, 3) := dk_181 0 9 (dk_at dksX1_init_0 10 rfl rfl)
theorem dX1_init_13 : decode cX1_init 13 = .ok (.aload_n 0, 1) := dk_42 (dk_at dksX1_init_0 13 rfl rfl)
theorem dX1_init_14 : decode cX1_init 14 = .ok (.iconst (-1), 1) := dk_2 (dk_at dksX1_init_0 14 rfl rfl)
theorem dX1_init_15 : decode cX1_init 15 = .ok (.putfield 15, 3) := dk_181 0 15 (dk_at dksX1_init_0 15 rfl rfl)
theorem dX1_init_18 : decode cX1_init 18 = .ok (.aload_n 0, 1) := dk_42 (dk_at dksX1_init_0 18 rfl rfl)
theorem dX1_init_19 : decode cX1_init 19 = .ok (.iconst (-1), 1) := dk_2 (dk_at dksX1_init_0 19 rfl rfl)
theorem dX1_init_20 : decode cX1_init 20 = .ok (.putfield 19, 3) := dk_181 0 19 (dk_at dksX1_init_0 20 rfl rfl)
theorem dX1_init_23 : decode cX1_init 23 = .ok (.aload_n 0, 1) := dk_42 (dk_at dksX1_init_0 23 rfl rfl)
theorem dX1_init_24 : decode cX1_init 24 = .ok (.iconst 4, 1) := dk_7 (dk_at dksX1_init_1 0 rfl rfl)
theorem dX1_init_25 : decode cX1_init 25 = .ok (.newarray .long, 2) := dk_188_11 (dk_at dksX1_init_1 1 rfl rfl)
theorem dX1_init_27 : decode cX1_init 27 = .ok (.putfield 22, 3) := dk_181 0 22 (dk_at dksX1_init_1 3 rfl rfl)
theorem dX1_init_30 : decode cX1_init 30 = .ok (.aload_n 0, 1) := dk_42 (dk_at dksX1_init_1 6 rfl rfl)
theorem dX1_init_31 : decode cX1_init 31 = .ok (.new 26, 3) := dk_187 0 26 (dk_at dksX1_init_1 7 rfl rfl)
theorem dX1_init_34 : decode cX1_init 34 = .ok (.dup, 1) := dk_89 (dk_at dksX1_init_1 10 rfl rfl)
theorem dX1_init_35 : decode cX1_init 35 = .ok (.invokespecial 28, 3) := dk_183 0 28 (dk_at dksX1_init_1 11 rfl rfl)
theorem dX1_init_38 : decode cX1_init 38 = .ok (.putfield 29, 3) := dk_181 0 29 (dk_at dksX1_init_1 14 rfl rfl)
theorem dX1_init_41 : decode cX1_init 41 = .ok (.aload_n 0, 1) := dk_42 (dk_at dksX1_init_1 17 rfl rfl)
theorem dX1_init_42 : decode cX1_init 42 = .ok (.new 33, 3) := dk_187 0 33 (dk_at dksX1_init_1 18 rfl rfl)
theorem dX1_init_45 : decode cX1_init 45 = .ok (.dup, 1) := dk_89 (dk_at dksX1_init_1 21 rfl rfl)
theorem dX1_init_46 : decode cX1_init 46 = .ok (.bipush 8, 2) := dk_16 8 (dk_at dksX1_init_1 22 rfl rfl)
theorem dX1_init_48 : decode cX1_init 48 = .ok (.invokespecial 35, 3) := dk_183 0 35 (dk_at dksX1_init_2 0 rfl rfl)
theorem dX1_init_51 : decode cX1_init 51 = .ok (.putfield 38, 3) := dk_181 0 38 (dk_at dksX1_init_2 3 rfl rfl)
theorem dX1_init_54 : decode cX1_init 54 = .ok (.aload_n 0, 1) := dk_42 (dk_at dksX1_init_2 6 rfl rfl)
theorem dX1_init_55 : decode cX1_init 55 = .ok (.new 33, 3) := dk_187 0 33 (dk_at dksX1_init_2 7 rfl rfl)
theorem dX1_init_58 : decode cX1_init 58 = .ok (.dup, 1) := dk_89 (dk_at dksX1_init_2 10 rfl rfl)
theorem dX1_init_59 : decode cX1_init 59 = .ok (.invokespecial 42, 3) := dk_183 0 42 (dk_at dksX1_init_2 11 rfl rfl)
theorem dX1_init_62 : decode cX1_init 62 = .ok (.putfield 43, 3) := dk_181 0 43 (dk_at dksX1_init_2 14 rfl rfl)
theorem dX1_init_65 : decode cX1_init 65 = .ok (.return_, 1) := dk_177 (dk_at dksX1_init_2 17 rfl rfl)
abbrev cX1_isSeen : ByteArray := prog_27_method_3_code
def yX1_isSeen : MethodName := ⟨RX1, "isSeen", "(I)Z"⟩
def dkwX1_isSeen_1 : List UInt8 := [167, 0, 4, 3, 172]
abbrev dktX1_isSeen_1 : List UInt8 := dkwX1_isSeen_1 ++ []
def dkwX1_isSeen_0 : List UInt8 := [27, 2, 159, 0, 23, 42, 180, 0, 19, 2, 159, 0, 11, 27, 42, 180, 0, 19, 163, 0, 7, 4]
abbrev dktX1_isSeen_0 : List UInt8 := dkwX1_isSeen_0 ++ dktX1_isSeen_1
theorem dksX1_isSeen_0 : cX1_isSeen.data.toList.drop 0 = dktX1_isSeen_0 := by decide +kernel
theorem dksX1_isSeen_1 : cX1_isSeen.data.toList.drop 22 = dktX1_isSeen_1 := dk_seg dksX1_isSeen_0 22 rfl rfl
theorem dX1_isSeen_0 : decode cX1_isSeen 0 = .ok (.iload_n 1, 1) := dk_27 (dk_at dksX1_isSeen_0 0 rfl rfl)
theorem dX1_isSeen_1 : decode cX1_isSeen 1 = .ok (.iconst (-1), 1) := dk_2 (dk_at dksX1_isSeen_0 1 rfl rfl)
theorem dX1_isSeen_2 : decode cX1_isSeen 2 = .ok (.if_icmp .eq 23, 3) := dk_159 0 23 (dk_at dksX1_isSeen_0 2 rfl rfl)
theorem dX1_isSeen_5 : decode cX1_isSeen 5 = .ok (.aload_n 0, 1) := dk_42 (dk_at dksX1_isSeen_0 5 rfl rfl)
theorem dX1_isSeen_6 : decode cX1_isSeen 6 = .ok (.getfield 19, 3) := dk_180 0 19 (dk_at dksX1_isSeen_0 6 rfl rfl)
theorem dX1_isSeen_9 : decode cX1_isSeen 9 = .ok (.iconst (-1), 1) := dk_2 (dk_at dksX1_isSeen_0 9 rfl rfl)
theorem dX1_isSeen_10 : decode cX1_isSeen 10 = .ok (.if_icmp .eq 11, 3) := dk_159 0 11 (dk_at dksX1_isSeen_0 10 rfl rfl)
theorem dX1_isSeen_13 : decode cX1_isSeen 13 = .ok (.iload_n 1, 1) := dk_27 (dk_at dksX1_isSeen_0 13 rfl rfl)
theorem dX1_isSeen_14 : decode cX1_isSeen 14 = .ok (.aload_n 0, 1) := dk_42 (dk_at dksX1_isSeen_0 14 rfl rfl)
theorem dX1_isSeen_15 : decode cX1_isSeen 15 = .ok (.getfield 19, 3) := dk_180 0 19 (dk_at dksX1_isSeen_0 15 rfl rfl)
theorem dX1_isSeen_18 : decode cX1_isSeen 18 = .ok (.if_icmp .gt 7, 3) := dk_163 0 7 (dk_at dksX1_isSeen_0 18 rfl rfl)
theorem dX1_isSeen_21 : decode cX1_isSeen 21 = .ok (.iconst 1, 1) := dk_4 (dk_at dksX1_isSeen_0 21 rfl rfl)
theorem dX1_isSeen_22 : decode cX1_isSeen 22 = .ok (.goto 4, 3) := dk_167 0 4 (dk_at dksX1_isSeen_1 0 rfl rfl)
theorem dX1_isSeen_25 : decode cX1_isSeen 25 = .ok (.iconst 0, 1) := dk_3 (dk_at dksX1_isSeen_1 3 rfl rfl)
theorem dX1_isSeen_26 : decode cX1_isSeen 26 = .ok (.ireturn, 1) := dk_172 (dk_at dksX1_isSeen_1 4 rfl rfl)
abbrev cX1_be : ByteArray := prog_27_method_2_code
def yX1_be : MethodName := ⟨RX1, "be", "(LVillageStories$State;)V"⟩
def dkwX1_be_7 : List UInt8 := [180, 0, 43, 182, 0, 96, 87, 42, 43, 180, 0, 100, 181, 0, 100, 177]
abbrev dktX1_be_7 : List UInt8 := dkwX1_be_7 ++ []
def dkwX1_be_6 : List UInt8 := [182, 0, 92, 87, 132, 2, 1, 167, 255, 220, 42, 180, 0, 43, 182, 0, 75, 42, 180, 0, 43, 43]
abbrev dktX1_be_6 : List UInt8 := dkwX1_be_6 ++ dktX1_be_7
def dkwX1_be_5 : List UInt8 := [182, 0, 78, 162, 0, 31, 42, 180, 0, 38, 43, 180, 0, 38, 28, 182, 0, 82, 192, 0, 86, 182, 0, 88]
abbrev dktX1_be_5 : List UInt8 := dkwX1_be_5 ++ dktX1_be_6
def dkwX1_be_4 : List UInt8 := [180, 0, 29, 43, 180, 0, 29, 182, 0, 71, 42, 180, 0, 38, 182, 0, 75, 3, 61, 28, 43, 180, 0, 38]
abbrev dktX1_be_4 : List UInt8 := dkwX1_be_4 ++ dktX1_be_5
def dkwX1_be_3 : List UInt8 := [43, 180, 0, 22, 3, 42, 180, 0, 22, 3, 7, 184, 0, 46, 42, 43, 180, 0, 68, 181, 0, 68, 42]
abbrev dktX1_be_3 : List UInt8 := dkwX1_be_3 ++ dktX1_be_4
def dkwX1_be_2 : List UInt8 := [42, 43, 180, 0, 19, 181, 0, 19, 42, 43, 180, 0, 61, 181, 0, 61, 42, 43, 180, 0, 64, 181, 0, 64]
abbrev dktX1_be_2 : List UInt8 := dkwX1_be_2 ++ dktX1_be_3
def dkwX1_be_1 : List UInt8 := [42, 43, 180, 0, 55, 181, 0, 55, 42, 43, 180, 0, 15, 181, 0, 15, 42, 43, 180, 0, 58, 181, 0, 58]
abbrev dktX1_be_1 : List UInt8 := dkwX1_be_1 ++ dktX1_be_2
def dkwX1_be_0 : List UInt8 := [43, 180, 0, 9, 3, 42, 180, 0, 9, 3, 17, 1, 144, 184, 0, 46, 42, 43, 180, 0, 52, 181, 0, 52]
abbrev dktX1_be_0 : List UInt8 := dkwX1_be_0 ++ dktX1_be_1
theorem dksX1_be_0 : cX1_be.data.toList.drop 0 = dktX1_be_0 := by decide +kernel
theorem dksX1_be_1 : cX1_be.data.toList.drop 24 = dktX1_be_1 := dk_seg dksX1_be_0 24 rfl rfl
theorem dksX1_be_2 : cX1_be.data.toList.drop 48 = dktX1_be_2 := dk_seg dksX1_be_1 24 rfl rfl
theorem dksX1_be_3 : cX1_be.data.toList.drop 72 = dktX1_be_3 := dk_seg dksX1_be_2 24 rfl rfl
theorem dksX1_be_4 : cX1_be.data.toList.drop 95 = dktX1_be_4 := dk_seg dksX1_be_3 23 rfl rfl
theorem dksX1_be_5 : cX1_be.data.toList.drop 119 = dktX1_be_5 := dk_seg dksX1_be_4 24 rfl rfl
theorem dksX1_be_6 : cX1_be.data.toList.drop 143 = dktX1_be_6 := dk_seg dksX1_be_5 24 rfl rfl
theorem dksX1_be_7 : cX1_be.data.toList.drop 165 = dktX1_be_7 := dk_seg dksX1_be_6 22 rfl rfl
theorem dX1_be_0 : decode cX1_be 0 = .ok (.aload_n 1, 1) := dk_43 (dk_at dksX1_be_0 0 rfl rfl)
theorem dX1_be_1 : decode cX1_be 1 = .ok (.getfield 9, 3) := dk_180 0 9 (dk_at dksX1_be_0 1 rfl rfl)
theorem dX1_be_4 : decode cX1_be 4 = .ok (.iconst 0, 1) := dk_3 (dk_at dksX1_be_0 4 rfl rfl)
theorem dX1_be_5 : decode cX1_be 5 = .ok (.aload_n 0, 1) := dk_42 (dk_at dksX1_be_0 5 rfl rfl)
theorem dX1_be_6 : decode cX1_be 6 = .ok (.getfield 9, 3) := dk_180 0 9 (dk_at dksX1_be_0 6 rfl rfl)
theorem dX1_be_9 : decode cX1_be 9 = .ok (.iconst 0, 1) := dk_3 (dk_at dksX1_be_0 9 rfl rfl)
theorem dX1_be_10 : decode cX1_be 10 = .ok (.sipush 400, 3) := dk_17 1 144 (dk_at dksX1_be_0 10 rfl rfl)
theorem dX1_be_13 : decode cX1_be 13 = .ok (.invokestatic 46, 3) := dk_184 0 46 (dk_at dksX1_be_0 13 rfl rfl)
theorem dX1_be_16 : decode cX1_be 16 = .ok (.aload_n 0, 1) := dk_42 (dk_at dksX1_be_0 16 rfl rfl)
theorem dX1_be_17 : decode cX1_be 17 = .ok (.aload_n 1, 1) := dk_43 (dk_at dksX1_be_0 17 rfl rfl)
theorem dX1_be_18 : decode cX1_be 18 = .ok (.getfield 52, 3) := dk_180 0 52 (dk_at dksX1_be_0 18 rfl rfl)
theorem dX1_be_21 : decode cX1_be 21 = .ok (.putfield 52, 3) := dk_181 0 52 (dk_at dksX1_be_0 21 rfl rfl)
theorem dX1_be_24 : decode cX1_be 24 = .ok (.aload_n 0, 1) := dk_42 (dk_at dksX1_be_1 0 rfl rfl)
theorem dX1_be_25 : decode cX1_be 25 = .ok (.aload_n 1, 1) := dk_43 (dk_at dksX1_be_1 1 rfl rfl)
theorem dX1_be_26 : decode cX1_be 26 = .ok (.getfield 55, 3) := dk_180 0 55 (dk_at dksX1_be_1 2 rfl rfl)
theorem dX1_be_29 : decode cX1_be 29 = .ok (.putfield 55, 3) := dk_181 0 55 (dk_at dksX1_be_1 5 rfl rfl)
theorem dX1_be_32 : decode cX1_be 32 = .ok (.aload_n 0, 1) := dk_42 (dk_at dksX1_be_1 8 rfl rfl)
theorem dX1_be_33 : decode cX1_be 33 = .ok (.aload_n 1, 1) := dk_43 (dk_at dksX1_be_1 9 rfl rfl)
theorem dX1_be_34 : decode cX1_be 34 = .ok (.getfield 15, 3) := dk_180 0 15 (dk_at dksX1_be_1 10 rfl rfl)
theorem dX1_be_37 : decode cX1_be 37 = .ok (.putfield 15, 3) := dk_181 0 15 (dk_at dksX1_be_1 13 rfl rfl)
theorem dX1_be_40 : decode cX1_be 40 = .ok (.aload_n 0, 1) := dk_42 (dk_at dksX1_be_1 16 rfl rfl)
theorem dX1_be_41 : decode cX1_be 41 = .ok (.aload_n 1, 1) := dk_43 (dk_at dksX1_be_1 17 rfl rfl)
theorem dX1_be_42 : decode cX1_be 42 = .ok (.getfield 58, 3) := dk_180 0 58 (dk_at dksX1_be_1 18 rfl rfl)
theorem dX1_be_45 : decode cX1_be 45 = .ok (.putfield 58, 3) := dk_181 0 58 (dk_at dksX1_be_1 21 rfl rfl)
theorem dX1_be_48 : decode cX1_be 48 = .ok (.aload_n 0, 1) := dk_42 (dk_at dksX1_be_2 0 rfl rfl)
theorem dX1_be_49 : decode cX1_be 49 = .ok (.aload_n 1, 1) := dk_43 (dk_at dksX1_be_2 1 rfl rfl)
theorem dX1_be_50 : decode cX1_be 50 = .ok (.getfield 19, 3) := dk_180 0 19 (dk_at dksX1_be_2 2 rfl rfl)
theorem dX1_be_53 : decode cX1_be 53 = .ok (.putfield 19, 3) := dk_181 0 19 (dk_at dksX1_be_2 5 rfl rfl)
theorem dX1_be_56 : decode cX1_be 56 = .ok (.aload_n 0, 1) := dk_42 (dk_at dksX1_be_2 8 rfl rfl)
theorem dX1_be_57 : decode cX1_be 57 = .ok (.aload_n 1, 1) := dk_43 (dk_at dksX1_be_2 9 rfl rfl)
theorem dX1_be_58 : decode cX1_be 58 = .ok (.getfield 61, 3) := dk_180 0 61 (dk_at dksX1_be_2 10 rfl rfl)
theorem dX1_be_61 : decode cX1_be 61 = .ok (.putfield 61, 3) := dk_181 0 61 (dk_at dksX1_be_2 13 rfl rfl)
theorem dX1_be_64 : decode cX1_be 64 = .ok (.aload_n 0, 1) := dk_42 (dk_at dksX1_be_2 16 rfl rfl)
theorem dX1_be_65 : decode cX1_be 65 = .ok (.aload_n 1, 1) := dk_43 (dk_at dksX1_be_2 17 rfl rfl)
theorem dX1_be_66 : decode cX1_be 66 = .ok (.getfield 64, 3) := dk_180 0 64 (dk_at dksX1_be_2 18 rfl rfl)
theorem dX1_be_69 : decode cX1_be 69 = .ok (.putfield 64, 3) := dk_181 0 64 (dk_at dksX1_be_2 21 rfl rfl)
theorem dX1_be_72 : decode cX1_be 72 = .ok (.aload_n 1, 1) := dk_43 (dk_at dksX1_be_3 0 rfl rfl)
theorem dX1_be_73 : decode cX1_be 73 = .ok (.getfield 22, 3) := dk_180 0 22 (dk_at dksX1_be_3 1 rfl rfl)
theorem dX1_be_76 : decode cX1_be 76 = .ok (.iconst 0, 1) := dk_3 (dk_at dksX1_be_3 4 rfl rfl)
theorem dX1_be_77 : decode cX1_be 77 = .ok (.aload_n 0, 1) := dk_42 (dk_at dksX1_be_3 5 rfl rfl)
theorem dX1_be_78 : decode cX1_be 78 = .ok (.getfield 22, 3) := dk_180 0 22 (dk_at dksX1_be_3 6 rfl rfl)
theorem dX1_be_81 : decode cX1_be 81 = .ok (.iconst 0, 1) := dk_3 (dk_at dksX1_be_3 9 rfl rfl)
theorem dX1_be_82 : decode cX1_be 82 = .ok (.iconst 4, 1) := dk_7 (dk_at dksX1_be_3 10 rfl rfl)
theorem dX1_be_83 : decode cX1_be 83 = .ok (.invokestatic 46, 3) := dk_184 0 46 (dk_at dksX1_be_3 11 rfl rfl)
theorem dX1_be_86 : decode cX1_be 86 = .ok (.aload_n 0, 1) := dk_42 (dk_at dksX1_be_3 14 rfl rfl)
theorem dX1_be_87 : decode cX1_be 87 = .ok (.aload_n 1, 1) := dk_43 (dk_at dksX1_be_3 15 rfl rfl)
theorem dX1_be_88 : decode cX1_be 88 = .ok (.getfield 68, 3) := dk_180 0 68 (dk_at dksX1_be_3 16 rfl rfl)
theorem dX1_be_91 : decode cX1_be 91 = .ok (.putfield 68, 3) := dk_181 0 68 (dk_at dksX1_be_3 19 rfl rfl)
theorem dX1_be_94 : decode cX1_be 94 = .ok (.aload_n 0, 1) := dk_42 (dk_at dksX1_be_3 22 rfl rfl)
theorem dX1_be_95 : decode cX1_be 95 = .ok (.getfield 29, 3) := dk_180 0 29 (dk_at dksX1_be_4 0 rfl rfl)
theorem dX1_be_98 : decode cX1_be 98 = .ok (.aload_n 1, 1) := dk_43 (dk_at dksX1_be_4 3 rfl rfl)
theorem dX1_be_99 : decode cX1_be 99 = .ok (.getfield 29, 3) := dk_180 0 29 (dk_at dksX1_be_4 4 rfl rfl)
theorem dX1_be_102 : decode cX1_be 102 = .ok (.invokevirtual 71, 3) := dk_182 0 71 (dk_at dksX1_be_4 7 rfl rfl)
theorem dX1_be_105 : decode cX1_be 105 = .ok (.aload_n 0, 1) := dk_42 (dk_at dksX1_be_4 10 rfl rfl)
theorem dX1_be_106 : decode cX1_be 106 = .ok (.getfield 38, 3) := dk_180 0 38 (dk_at dksX1_be_4 11 rfl rfl)
theorem dX1_be_109 : decode cX1_be 109 = .ok (.invokevirtual 75, 3) := dk_182 0 75 (dk_at dksX1_be_4 14 rfl rfl)
theorem dX1_be_112 : decode cX1_be 112 = .ok (.iconst 0, 1) := dk_3 (dk_at dksX1_be_4 17 rfl rfl)
theorem dX1_be_113 : decode cX1_be 113 = .ok (.istore_n 2, 1) := dk_61 (dk_at dksX1_be_4 18 rfl rfl)
theorem dX1_be_114 : decode cX1_be 114 = .ok (.iload_n 2, 1) := dk_28 (dk_at dksX1_be_4 19 rfl rfl)
theorem dX1_be_115 : decode cX1_be 115 = .ok (.aload_n 1, 1) := dk_43 (dk_at dksX1_be_4 20 rfl rfl)
theorem dX1_be_116 : decode cX1_be 116 = .ok (.getfield 38, 3) := dk_180 0 38 (dk_at dksX1_be_4 21 rfl rfl)
theorem dX1_be_119 : decode cX1_be 119 = .ok (.invokevirtual 78, 3) := dk_182 0 78 (dk_at dksX1_be_5 0 rfl rfl)
theorem dX1_be_122 : decode cX1_be 122 = .ok (.if_icmp .ge 31, 3) := dk_162 0 31 (dk_at dksX1_be_5 3 rfl rfl)
theorem dX1_be_125 : decode cX1_be 125 = .ok (.aload_n 0, 1) := dk_42 (dk_at dksX1_be_5 6 rfl rfl)
theorem dX1_be_126 : decode cX1_be 126 = .ok (.getfield 38, 3) := dk_180 0 38 (dk_at dksX1_be_5 7 rfl rfl)
theorem dX1_be_129 : decode cX1_be 129 = .ok (.aload_n 1, 1) := dk_43 (dk_at dksX1_be_5 10 rfl rfl)
theorem dX1_be_130 : decode cX1_be 130 = .ok (.getfield 38, 3) := dk_180 0 38 (dk_at dksX1_be_5 11 rfl rfl)
theorem dX1_be_133 : decode cX1_be 133 = .ok (.iload_n 2, 1) := dk_28 (dk_at dksX1_be_5 14 rfl rfl)
theorem dX1_be_134 : decode cX1_be 134 = .ok (.invokevirtual 82, 3) := dk_182 0 82 (dk_at dksX1_be_5 15 rfl rfl)
theorem dX1_be_137 : decode cX1_be 137 = .ok (.checkcast 86, 3) := dk_192 0 86 (dk_at dksX1_be_5 18 rfl rfl)
theorem dX1_be_140 : decode cX1_be 140 = .ok (.invokevirtual 88, 3) := dk_182 0 88 (dk_at dksX1_be_5 21 rfl rfl)
theorem dX1_be_143 : decode cX1_be 143 = .ok (.invokevirtual 92, 3) := dk_182 0 92 (dk_at dksX1_be_6 0 rfl rfl)
theorem dX1_be_146 : decode cX1_be 146 = .ok (.pop, 1) := dk_87 (dk_at dksX1_be_6 3 rfl rfl)
theorem dX1_be_147 : decode cX1_be 147 = .ok (.iinc 2 1, 3) := dk_132 2 1 (dk_at dksX1_be_6 4 rfl rfl)
theorem dX1_be_150 : decode cX1_be 150 = .ok (.goto (-36), 3) := dk_167 255 220 (dk_at dksX1_be_6 7 rfl rfl)
theorem dX1_be_153 : decode cX1_be 153 = .ok (.aload_n 0, 1) := dk_42 (dk_at dksX1_be_6 10 rfl rfl)
theorem dX1_be_154 : decode cX1_be 154 = .ok (.getfield 43, 3) := dk_180 0 43 (dk_at dksX1_be_6 11 rfl rfl)
theorem dX1_be_157 : decode cX1_be 157 = .ok (.invokevirtual 75, 3) := dk_182 0 75 (dk_at dksX1_be_6 14 rfl rfl)
theorem dX1_be_160 : decode cX1_be 160 = .ok (.aload_n 0, 1) := dk_42 (dk_at dksX1_be_6 17 rfl rfl)
theorem dX1_be_161 : decode cX1_be 161 = .ok (.getfield 43, 3) := dk_180 0 43 (dk_at dksX1_be_6 18 rfl rfl)
theorem dX1_be_164 : decode cX1_be 164 = .ok (.aload_n 1, 1) := dk_43 (dk_at dksX1_be_6 21 rfl rfl)
theorem dX1_be_165 : decode cX1_be 165 = .ok (.getfield 43, 3) := dk_180 0 43 (dk_at dksX1_be_7 0 rfl rfl)
theorem dX1_be_168 : decode cX1_be 168 = .ok (.invokevirtual 96, 3) := dk_182 0 96 (dk_at dksX1_be_7 3 rfl rfl)
theorem dX1_be_171 : decode cX1_be 171 = .ok (.pop, 1) := dk_87 (dk_at dksX1_be_7 6 rfl rfl)
theorem dX1_be_172 : decode cX1_be 172 = .ok (.aload_n 0, 1) := dk_42 (dk_at dksX1_be_7 7 rfl rfl)
theorem dX1_be_173 : decode cX1_be 173 = .ok (.aload_n 1, 1) := dk_43 (dk_at dksX1_be_7 8 rfl rfl)
theorem dX1_be_174 : decode cX1_be 174 = .ok (.getfield 100, 3) := dk_180 0 100 (dk_at dksX1_be_7 9 rfl rfl)
theorem dX1_be_177 : decode cX1_be 177 = .ok (.putfield 100, 3) := dk_181 0 100 (dk_at dksX1_be_7 12 rfl rfl)
theorem dX1_be_180 : decode cX1_be 180 = .ok (.return_, 1) := dk_177 (dk_at dksX1_be_7 15 rfl rfl)

abbrev cX10_init : ByteArray := prog_28_method_1_code
def yX10_init : MethodName := ⟨RX10, "<init>", "(LVillageStories$Part;I)V"⟩
def dkwX10_init_0 : List UInt8 := [42, 183, 0, 3, 42, 2, 181, 0, 9, 42, 43, 181, 0, 15, 42, 28, 181, 0, 19, 177]
abbrev dktX10_init_0 : List UInt8 := dkwX10_init_0 ++ []
theorem dksX10_init_0 : cX10_init.data.toList.drop 0 = dktX10_init_0 := by decide +kernel
theorem dX10_init_0 : decode cX10_init 0 = .ok (.aload_n 0, 1) := dk_42 (dk_at dksX10_init_0 0 rfl rfl)
theorem dX10_init_1 : decode cX10_init 1 = .ok (.invokespecial 3, 3) := dk_183 0 3 (dk_at dksX10_init_0 1 rfl rfl)
theorem dX10_init_4 : decode cX10_init 4 = .ok (.aload_n 0, 1) := dk_42 (dk_at dksX10_init_0 4 rfl rfl)
theorem dX10_init_5 : decode cX10_init 5 = .ok (.iconst (-1), 1) := dk_2 (dk_at dksX10_init_0 5 rfl rfl)
theorem dX10_init_6 : decode cX10_init 6 = .ok (.putfield 9, 3) := dk_181 0 9 (dk_at dksX10_init_0 6 rfl rfl)
theorem dX10_init_9 : decode cX10_init 9 = .ok (.aload_n 0, 1) := dk_42 (dk_at dksX10_init_0 9 rfl rfl)
theorem dX10_init_10 : decode cX10_init 10 = .ok (.aload_n 1, 1) := dk_43 (dk_at dksX10_init_0 10 rfl rfl)
theorem dX10_init_11 : decode cX10_init 11 = .ok (.putfield 15, 3) := dk_181 0 15 (dk_at dksX10_init_0 11 rfl rfl)
theorem dX10_init_14 : decode cX10_init 14 = .ok (.aload_n 0, 1) := dk_42 (dk_at dksX10_init_0 14 rfl rfl)
theorem dX10_init_15 : decode cX10_init 15 = .ok (.iload_n 2, 1) := dk_28 (dk_at dksX10_init_0 15 rfl rfl)
theorem dX10_init_16 : decode cX10_init 16 = .ok (.putfield 19, 3) := dk_181 0 19 (dk_at dksX10_init_0 16 rfl rfl)
theorem dX10_init_19 : decode cX10_init 19 = .ok (.return_, 1) := dk_177 (dk_at dksX10_init_0 19 rfl rfl)
abbrev cX10_copy : ByteArray := prog_28_method_2_code
def yX10_copy : MethodName := ⟨RX10, "copy", "()LVillageStories$Story;"⟩
def dkwX10_copy_1 : List UInt8 := [43, 176]
abbrev dktX10_copy_1 : List UInt8 := dkwX10_copy_1 ++ []
def dkwX10_copy_0 : List UInt8 := [187, 0, 10, 89, 42, 180, 0, 15, 42, 180, 0, 19, 183, 0, 22, 76, 43, 42, 180, 0, 9, 181, 0, 9]
abbrev dktX10_copy_0 : List UInt8 := dkwX10_copy_0 ++ dktX10_copy_1
theorem dksX10_copy_0 : cX10_copy.data.toList.drop 0 = dktX10_copy_0 := by decide +kernel
theorem dksX10_copy_1 : cX10_copy.data.toList.drop 24 = dktX10_copy_1 := dk_seg dksX10_copy_0 24 rfl rfl
theorem dX10_copy_0 : decode cX10_copy 0 = .ok (.new 10, 3) := dk_187 0 10 (dk_at dksX10_copy_0 0 rfl rfl)
theorem dX10_copy_3 : decode cX10_copy 3 = .ok (.dup, 1) := dk_89 (dk_at dksX10_copy_0 3 rfl rfl)
theorem dX10_copy_4 : decode cX10_copy 4 = .ok (.aload_n 0, 1) := dk_42 (dk_at dksX10_copy_0 4 rfl rfl)
theorem dX10_copy_5 : decode cX10_copy 5 = .ok (.getfield 15, 3) := dk_180 0 15 (dk_at dksX10_copy_0 5 rfl rfl)
theorem dX10_copy_8 : decode cX10_copy 8 = .ok (.aload_n 0, 1) := dk_42 (dk_at dksX10_copy_0 8 rfl rfl)
theorem dX10_copy_9 : decode cX10_copy 9 = .ok (.getfield 19, 3) := dk_180 0 19 (dk_at dksX10_copy_0 9 rfl rfl)
theorem dX10_copy_12 : decode cX10_copy 12 = .ok (.invokespecial 22, 3) := dk_183 0 22 (dk_at dksX10_copy_0 12 rfl rfl)
theorem dX10_copy_15 : decode cX10_copy 15 = .ok (.astore_n 1, 1) := dk_76 (dk_at dksX10_copy_0 15 rfl rfl)
theorem dX10_copy_16 : decode cX10_copy 16 = .ok (.aload_n 1, 1) := dk_43 (dk_at dksX10_copy_0 16 rfl rfl)
theorem dX10_copy_17 : decode cX10_copy 17 = .ok (.aload_n 0, 1) := dk_42 (dk_at dksX10_copy_0 17 rfl rfl)
theorem dX10_copy_18 : decode cX10_copy 18 = .ok (.getfield 9, 3) := dk_180 0 9 (dk_at dksX10_copy_0 18 rfl rfl)
theorem dX10_copy_21 : decode cX10_copy 21 = .ok (.putfield 9, 3) := dk_181 0 9 (dk_at dksX10_copy_0 21 rfl rfl)
theorem dX10_copy_24 : decode cX10_copy 24 = .ok (.aload_n 1, 1) := dk_43 (dk_at dksX10_copy_1 0 rfl rfl)
theorem dX10_copy_25 : decode cX10_copy 25 = .ok (.areturn, 1) := dk_176 (dk_at dksX10_copy_1 1 rfl rfl)

abbrev cX11_init : ByteArray := prog_23_method_1_code
def yX11_init : MethodName := ⟨RX11, "<init>", "([BILjava/util/ArrayList;)V"⟩
def dkwX11_init_1 : List UInt8 := [181, 0, 9, 42, 43, 181, 0, 15, 42, 28, 181, 0, 19, 42, 45, 181, 0, 23, 42, 182, 0, 27, 177]
abbrev dktX11_init_1 : List UInt8 := dkwX11_init_1 ++ []
def dkwX11_init_0 : List UInt8 := [42, 183, 0, 3, 42, 7, 188, 10, 89, 3, 2, 79, 89, 4, 2, 79, 89, 5, 2, 79, 89, 6, 2, 79]
abbrev dktX11_init_0 : List UInt8 := dkwX11_init_0 ++ dktX11_init_1
theorem dksX11_init_0 : cX11_init.data.toList.drop 0 = dktX11_init_0 := by decide +kernel
theorem dksX11_init_1 : cX11_init.data.toList.drop 24 = dktX11_init_1 := dk_seg dksX11_init_0 24 rfl rfl
theorem dX11_init_0 : decode cX11_init 0 = .ok (.aload_n 0, 1) := dk_42 (dk_at dksX11_init_0 0 rfl rfl)
theorem dX11_init_1 : decode cX11_init 1 = .ok (.invokespecial 3, 3) := dk_183 0 3 (dk_at dksX11_init_0 1 rfl rfl)
theorem dX11_init_4 : decode cX11_init 4 = .ok (.aload_n 0, 1) := dk_42 (dk_at dksX11_init_0 4 rfl rfl)
theorem dX11_init_5 : decode cX11_init 5 = .ok (.iconst 4, 1) := dk_7 (dk_at dksX11_init_0 5 rfl rfl)
theorem dX11_init_6 : decode cX11_init 6 = .ok (.newarray .int, 2) := dk_188_10 (dk_at dksX11_init_0 6 rfl rfl)
theorem dX11_init_8 : decode cX11_init 8 = .ok (.dup, 1) := dk_89 (dk_at dksX11_init_0 8 rfl rfl)
theorem dX11_init_9 : decode cX11_init 9 = .ok (.iconst 0, 1) := dk_3 (dk_at dksX11_init_0 9 rfl rfl)
theorem dX11_init_10 : decode cX11_init 10 = .ok (.iconst (-1), 1) := dk_2 (dk_at dksX11_init_0 10 rfl rfl)
theorem dX11_init_11 : decode cX11_init 11 = .ok (.iastore, 1) := dk_79 (dk_at dksX11_init_0 11 rfl rfl)
theorem dX11_init_12 : decode cX11_init 12 = .ok (.dup, 1) := dk_89 (dk_at dksX11_init_0 12 rfl rfl)
theorem dX11_init_13 : decode cX11_init 13 = .ok (.iconst 1, 1) := dk_4 (dk_at dksX11_init_0 13 rfl rfl)
theorem dX11_init_14 : decode cX11_init 14 = .ok (.iconst (-1), 1) := dk_2 (dk_at dksX11_init_0 14 rfl rfl)
theorem dX11_init_15 : decode cX11_init 15 = .ok (.iastore, 1) := dk_79 (dk_at dksX11_init_0 15 rfl rfl)
theorem dX11_init_16 : decode cX11_init 16 = .ok (.dup, 1) := dk_89 (dk_at dksX11_init_0 16 rfl rfl)
theorem dX11_init_17 : decode cX11_init 17 = .ok (.iconst 2, 1) := dk_5 (dk_at dksX11_init_0 17 rfl rfl)
theorem dX11_init_18 : decode cX11_init 18 = .ok (.iconst (-1), 1) := dk_2 (dk_at dksX11_init_0 18 rfl rfl)
theorem dX11_init_19 : decode cX11_init 19 = .ok (.iastore, 1) := dk_79 (dk_at dksX11_init_0 19 rfl rfl)
theorem dX11_init_20 : decode cX11_init 20 = .ok (.dup, 1) := dk_89 (dk_at dksX11_init_0 20 rfl rfl)
theorem dX11_init_21 : decode cX11_init 21 = .ok (.iconst 3, 1) := dk_6 (dk_at dksX11_init_0 21 rfl rfl)
theorem dX11_init_22 : decode cX11_init 22 = .ok (.iconst (-1), 1) := dk_2 (dk_at dksX11_init_0 22 rfl rfl)
theorem dX11_init_23 : decode cX11_init 23 = .ok (.iastore, 1) := dk_79 (dk_at dksX11_init_0 23 rfl rfl)
theorem dX11_init_24 : decode cX11_init 24 = .ok (.putfield 9, 3) := dk_181 0 9 (dk_at dksX11_init_1 0 rfl rfl)
theorem dX11_init_27 : decode cX11_init 27 = .ok (.aload_n 0, 1) := dk_42 (dk_at dksX11_init_1 3 rfl rfl)
theorem dX11_init_28 : decode cX11_init 28 = .ok (.aload_n 1, 1) := dk_43 (dk_at dksX11_init_1 4 rfl rfl)
theorem dX11_init_29 : decode cX11_init 29 = .ok (.putfield 15, 3) := dk_181 0 15 (dk_at dksX11_init_1 5 rfl rfl)
theorem dX11_init_32 : decode cX11_init 32 = .ok (.aload_n 0, 1) := dk_42 (dk_at dksX11_init_1 8 rfl rfl)
theorem dX11_init_33 : decode cX11_init 33 = .ok (.iload_n 2, 1) := dk_28 (dk_at dksX11_init_1 9 rfl rfl)
theorem dX11_init_34 : decode cX11_init 34 = .ok (.putfield 19, 3) := dk_181 0 19 (dk_at dksX11_init_1 10 rfl rfl)
theorem dX11_init_37 : decode cX11_init 37 = .ok (.aload_n 0, 1) := dk_42 (dk_at dksX11_init_1 13 rfl rfl)
theorem dX11_init_38 : decode cX11_init 38 = .ok (.aload_n 3, 1) := dk_45 (dk_at dksX11_init_1 14 rfl rfl)
theorem dX11_init_39 : decode cX11_init 39 = .ok (.putfield 23, 3) := dk_181 0 23 (dk_at dksX11_init_1 15 rfl rfl)
theorem dX11_init_42 : decode cX11_init 42 = .ok (.aload_n 0, 1) := dk_42 (dk_at dksX11_init_1 18 rfl rfl)
theorem dX11_init_43 : decode cX11_init 43 = .ok (.invokevirtual 27, 3) := dk_182 0 27 (dk_at dksX11_init_1 19 rfl rfl)
theorem dX11_init_46 : decode cX11_init 46 = .ok (.return_, 1) := dk_177 (dk_at dksX11_init_1 22 rfl rfl)
abbrev cX11_step : ByteArray := prog_23_method_5_code
def yX11_step : MethodName := ⟨RX11, "step", "()V"⟩
def dkwX11_step_11 : List UInt8 := [167, 0, 20, 42, 89, 180, 0, 30, 4, 96, 181, 0, 30, 42, 178, 0, 83, 181, 0, 46, 177]
abbrev dktX11_step_11 : List UInt8 := dkwX11_step_11 ++ []
def dkwX11_step_10 : List UInt8 := [180, 0, 30, 42, 180, 0, 37, 100, 7, 164, 0, 9, 178, 0, 83, 167, 0, 6, 178, 0, 86, 181, 0, 46]
abbrev dktX11_step_10 : List UInt8 := dkwX11_step_10 ++ dktX11_step_11
def dkwX11_step_9 : List UInt8 := [96, 16, 48, 100, 181, 0, 80, 42, 89, 180, 0, 30, 4, 96, 181, 0, 30, 167, 255, 196, 42, 42]
abbrev dktX11_step_9 : List UInt8 := dkwX11_step_9 ++ dktX11_step_10
def dkwX11_step_8 : List UInt8 := [180, 0, 37, 100, 7, 162, 0, 26, 42, 16, 10, 42, 180, 0, 80, 104, 42, 42, 180, 0, 30, 182, 0, 33]
abbrev dktX11_step_8 : List UInt8 := dkwX11_step_8 ++ dktX11_step_9
def dkwX11_step_7 : List UInt8 := [3, 181, 0, 80, 42, 42, 180, 0, 30, 182, 0, 33, 184, 0, 77, 153, 0, 52, 42, 180, 0, 30, 42]
abbrev dktX11_step_7 : List UInt8 := dkwX11_step_7 ++ dktX11_step_8
def dkwX11_step_6 : List UInt8 := [182, 0, 66, 181, 0, 70, 42, 178, 0, 74, 181, 0, 46, 167, 0, 124, 27, 184, 0, 77, 153, 0, 100, 42]
abbrev dktX11_step_6 : List UInt8 := dkwX11_step_6 ++ dktX11_step_7
def dkwX11_step_5 : List UInt8 := [182, 0, 33, 146, 182, 0, 62, 87, 42, 89, 180, 0, 30, 4, 96, 181, 0, 30, 167, 255, 209, 42, 44]
abbrev dktX11_step_5 : List UInt8 := dkwX11_step_5 ++ dktX11_step_6
def dkwX11_step_4 : List UInt8 := [182, 0, 33, 184, 0, 49, 153, 0, 39, 44, 182, 0, 58, 16, 7, 162, 0, 17, 44, 42, 42, 180, 0, 30]
abbrev dktX11_step_4 : List UInt8 := dkwX11_step_4 ++ dktX11_step_5
def dkwX11_step_3 : List UInt8 := [27, 184, 0, 49, 153, 0, 81, 187, 0, 53, 89, 16, 7, 183, 0, 55, 77, 42, 42, 180, 0, 30]
abbrev dktX11_step_3 : List UInt8 := dkwX11_step_3 ++ dktX11_step_4
def dkwX11_step_2 : List UInt8 := [42, 42, 180, 0, 30, 182, 0, 33, 60, 27, 2, 160, 0, 13, 42, 178, 0, 40, 181, 0, 46, 167, 0, 209]
abbrev dktX11_step_2 : List UInt8 := dkwX11_step_2 ++ dktX11_step_3
def dkwX11_step_1 : List UInt8 := [160, 0, 16, 42, 89, 180, 0, 30, 4, 96, 181, 0, 30, 167, 255, 220, 42, 42, 180, 0, 30, 181, 0, 37]
abbrev dktX11_step_1 : List UInt8 := dkwX11_step_1 ++ dktX11_step_2
def dkwX11_step_0 : List UInt8 := [42, 42, 180, 0, 30, 182, 0, 33, 16, 10, 159, 0, 16, 42, 42, 180, 0, 30, 182, 0, 33, 16, 32]
abbrev dktX11_step_0 : List UInt8 := dkwX11_step_0 ++ dktX11_step_1
theorem dksX11_step_0 : cX11_step.data.toList.drop 0 = dktX11_step_0 := by decide +kernel
theorem dksX11_step_1 : cX11_step.data.toList.drop 23 = dktX11_step_1 := dk_seg dksX11_step_0 23 rfl rfl
theorem dksX11_step_2 : cX11_step.data.toList.drop 47 = dktX11_step_2 := dk_seg dksX11_step_1 24 rfl rfl
theorem dksX11_step_3 : cX11_step.data.toList.drop 71 = dktX11_step_3 := dk_seg dksX11_step_2 24 rfl rfl
theorem dksX11_step_4 : cX11_step.data.toList.drop 93 = dktX11_step_4 := dk_seg dksX11_step_3 22 rfl rfl
theorem dksX11_step_5 : cX11_step.data.toList.drop 117 = dktX11_step_5 := dk_seg dksX11_step_4 24 rfl rfl
theorem dksX11_step_6 : cX11_step.data.toList.drop 140 = dktX11_step_6 := dk_seg dksX11_step_5 23 rfl rfl
theorem dksX11_step_7 : cX11_step.data.toList.drop 164 = dktX11_step_7 := dk_seg dksX11_step_6 24 rfl rfl
theorem dksX11_step_8 : cX11_step.data.toList.drop 187 = dktX11_step_8 := dk_seg dksX11_step_7 23 rfl rfl
theorem dksX11_step_9 : cX11_step.data.toList.drop 211 = dktX11_step_9 := dk_seg dksX11_step_8 24 rfl rfl
theorem dksX11_step_10 : cX11_step.data.toList.drop 233 = dktX11_step_10 := dk_seg dksX11_step_9 22 rfl rfl
theorem dksX11_step_11 : cX11_step.data.toList.drop 257 = dktX11_step_11 := dk_seg dksX11_step_10 24 rfl rfl
theorem dX11_step_0 : decode cX11_step 0 = .ok (.aload_n 0, 1) := dk_42 (dk_at dksX11_step_0 0 rfl rfl)
theorem dX11_step_1 : decode cX11_step 1 = .ok (.aload_n 0, 1) := dk_42 (dk_at dksX11_step_0 1 rfl rfl)
theorem dX11_step_2 : decode cX11_step 2 = .ok (.getfield 30, 3) := dk_180 0 30 (dk_at dksX11_step_0 2 rfl rfl)
theorem dX11_step_5 : decode cX11_step 5 = .ok (.invokevirtual 33, 3) := dk_182 0 33 (dk_at dksX11_step_0 5 rfl rfl)
theorem dX11_step_8 : decode cX11_step 8 = .ok (.bipush 10, 2) := dk_16 10 (dk_at dksX11_step_0 8 rfl rfl)
theorem dX11_step_10 : decode cX11_step 10 = .ok (.if_icmp .eq 16, 3) := dk_159 0 16 (dk_at dksX11_step_0 10 rfl rfl)
theorem dX11_step_13 : decode cX11_step 13 = .ok (.aload_n 0, 1) := dk_42 (dk_at dksX11_step_0 13 rfl rfl)
theorem dX11_step_14 : decode cX11_step 14 = .ok (.aload_n 0, 1) := dk_42 (dk_at dksX11_step_0 14 rfl rfl)
theorem dX11_step_15 : decode cX11_step 15 = .ok (.getfield 30, 3) := dk_180 0 30 (dk_at dksX11_step_0 15 rfl rfl)
theorem dX11_step_18 : decode cX11_step 18 = .ok (.invokevirtual 33, 3) := dk_182 0 33 (dk_at dksX11_step_0 18 rfl rfl)
theorem dX11_step_21 : decode cX11_step 21 = .ok (.bipush 32, 2) := dk_16 32 (dk_at dksX11_step_0 21 rfl rfl)
theorem dX11_step_23 : decode cX11_step 23 = .ok (.if_icmp .ne 16, 3) := dk_160 0 16 (dk_at dksX11_step_1 0 rfl rfl)
theorem dX11_step_26 : decode cX11_step 26 = .ok (.aload_n 0, 1) := dk_42 (dk_at dksX11_step_1 3 rfl rfl)
theorem dX11_step_27 : decode cX11_step 27 = .ok (.dup, 1) := dk_89 (dk_at dksX11_step_1 4 rfl rfl)
theorem dX11_step_28 : decode cX11_step 28 = .ok (.getfield 30, 3) := dk_180 0 30 (dk_at dksX11_step_1 5 rfl rfl)
theorem dX11_step_31 : decode cX11_step 31 = .ok (.iconst 1, 1) := dk_4 (dk_at dksX11_step_1 8 rfl rfl)
theorem dX11_step_32 : decode cX11_step 32 = .ok (.iadd, 1) := dk_96 (dk_at dksX11_step_1 9 rfl rfl)
theorem dX11_step_33 : decode cX11_step 33 = .ok (.putfield 30, 3) := dk_181 0 30 (dk_at dksX11_step_1 10 rfl rfl)
theorem dX11_step_36 : decode cX11_step 36 = .ok (.goto (-36), 3) := dk_167 255 220 (dk_at dksX11_step_1 13 rfl rfl)
theorem dX11_step_39 : decode cX11_step 39 = .ok (.aload_n 0, 1) := dk_42 (dk_at dksX11_step_1 16 rfl rfl)
theorem dX11_step_40 : decode cX11_step 40 = .ok (.aload_n 0, 1) := dk_42 (dk_at dksX11_step_1 17 rfl rfl)
theorem dX11_step_41 : decode cX11_step 41 = .ok (.getfield 30, 3) := dk_180 0 30 (dk_at dksX11_step_1 18 rfl rfl)
theorem dX11_step_44 : decode cX11_step 44 = .ok (.putfield 37, 3) := dk_181 0 37 (dk_at dksX11_step_1 21 rfl rfl)
theorem dX11_step_47 : decode cX11_step 47 = .ok (.aload_n 0, 1) := dk_42 (dk_at dksX11_step_2 0 rfl rfl)
theorem dX11_step_48 : decode cX11_step 48 = .ok (.aload_n 0, 1) := dk_42 (dk_at dksX11_step_2 1 rfl rfl)
theorem dX11_step_49 : decode cX11_step 49 = .ok (.getfield 30, 3) := dk_180 0 30 (dk_at dksX11_step_2 2 rfl rfl)
theorem dX11_step_52 : decode cX11_step 52 = .ok (.invokevirtual 33, 3) := dk_182 0 33 (dk_at dksX11_step_2 5 rfl rfl)
theorem dX11_step_55 : decode cX11_step 55 = .ok (.istore_n 1, 1) := dk_60 (dk_at dksX11_step_2 8 rfl rfl)
theorem dX11_step_56 : decode cX11_step 56 = .ok (.iload_n 1, 1) := dk_27 (dk_at dksX11_step_2 9 rfl rfl)
theorem dX11_step_57 : decode cX11_step 57 = .ok (.iconst (-1), 1) := dk_2 (dk_at dksX11_step_2 10 rfl rfl)
theorem dX11_step_58 : decode cX11_step 58 = .ok (.if_icmp .ne 13, 3) := dk_160 0 13 (dk_at dksX11_step_2 11 rfl rfl)
theorem dX11_step_61 : decode cX11_step 61 = .ok (.aload_n 0, 1) := dk_42 (dk_at dksX11_step_2 14 rfl rfl)
theorem dX11_step_62 : decode cX11_step 62 = .ok (.getstatic 40, 3) := dk_178 0 40 (dk_at dksX11_step_2 15 rfl rfl)
theorem dX11_step_65 : decode cX11_step 65 = .ok (.putfield 46, 3) := dk_181 0 46 (dk_at dksX11_step_2 18 rfl rfl)
theorem dX11_step_68 : decode cX11_step 68 = .ok (.goto 209, 3) := dk_167 0 209 (dk_at dksX11_step_2 21 rfl rfl)
theorem dX11_step_71 : decode cX11_step 71 = .ok (.iload_n 1, 1) := dk_27 (dk_at dksX11_step_3 0 rfl rfl)
theorem dX11_step_72 : decode cX11_step 72 = .ok (.invokestatic 49, 3) := dk_184 0 49 (dk_at dksX11_step_3 1 rfl rfl)
theorem dX11_step_75 : decode cX11_step 75 = .ok (.ifCond .eq 81, 3) := dk_153 0 81 (dk_at dksX11_step_3 4 rfl rfl)
theorem dX11_step_78 : decode cX11_step 78 = .ok (.new 53, 3) := dk_187 0 53 (dk_at dksX11_step_3 7 rfl rfl)
theorem dX11_step_81 : decode cX11_step 81 = .ok (.dup, 1) := dk_89 (dk_at dksX11_step_3 10 rfl rfl)
theorem dX11_step_82 : decode cX11_step 82 = .ok (.bipush 7, 2) := dk_16 7 (dk_at dksX11_step_3 11 rfl rfl)
theorem dX11_step_84 : decode cX11_step 84 = .ok (.invokespecial 55, 3) := dk_183 0 55 (dk_at dksX11_step_3 13 rfl rfl)
theorem dX11_step_87 : decode cX11_step 87 = .ok (.astore_n 2, 1) := dk_77 (dk_at dksX11_step_3 16 rfl rfl)
theorem dX11_step_88 : decode cX11_step 88 = .ok (.aload_n 0, 1) := dk_42 (dk_at dksX11_step_3 17 rfl rfl)
theorem dX11_step_89 : decode cX11_step 89 = .ok (.aload_n 0, 1) := dk_42 (dk_at dksX11_step_3 18 rfl rfl)
theorem dX11_step_90 : decode cX11_step 90 = .ok (.getfield 30, 3) := dk_180 0 30 (dk_at dksX11_step_3 19 rfl rfl)
theorem dX11_step_93 : decode cX11_step 93 = .ok (.invokevirtual 33, 3) := dk_182 0 33 (dk_at dksX11_step_4 0 rfl rfl)
theorem dX11_step_96 : decode cX11_step 96 = .ok (.invokestatic 49, 3) := dk_184 0 49 (dk_at dksX11_step_4 3 rfl rfl)
theorem dX11_step_99 : decode cX11_step 99 = .ok (.ifCond .eq 39, 3) := dk_153 0 39 (dk_at dksX11_step_4 6 rfl rfl)
theorem dX11_step_102 : decode cX11_step 102 = .ok (.aload_n 2, 1) := dk_44 (dk_at dksX11_step_4 9 rfl rfl)
theorem dX11_step_103 : decode cX11_step 103 = .ok (.invokevirtual 58, 3) := dk_182 0 58 (dk_at dksX11_step_4 10 rfl rfl)
theorem dX11_step_106 : decode cX11_step 106 = .ok (.bipush 7, 2) := dk_16 7 (dk_at dksX11_step_4 13 rfl rfl)
theorem dX11_step_108 : decode cX11_step 108 = .ok (.if_icmp .ge 17, 3) := dk_162 0 17 (dk_at dksX11_step_4 15 rfl rfl)
theorem dX11_step_111 : decode cX11_step 111 = .ok (.aload_n 2, 1) := dk_44 (dk_at dksX11_step_4 18 rfl rfl)
theorem dX11_step_112 : decode cX11_step 112 = .ok (.aload_n 0, 1) := dk_42 (dk_at dksX11_step_4 19 rfl rfl)
theorem dX11_step_113 : decode cX11_step 113 = .ok (.aload_n 0, 1) := dk_42 (dk_at dksX11_step_4 20 rfl rfl)
theorem dX11_step_114 : decode cX11_step 114 = .ok (.getfield 30, 3) := dk_180 0 30 (dk_at dksX11_step_4 21 rfl rfl)
theorem dX11_step_117 : decode cX11_step 117 = .ok (.invokevirtual 33, 3) := dk_182 0 33 (dk_at dksX11_step_5 0 rfl rfl)
theorem dX11_step_120 : decode cX11_step 120 = .ok (.i2c, 1) := dk_146 (dk_at dksX11_step_5 3 rfl rfl)
theorem dX11_step_121 : decode cX11_step 121 = .ok (.invokevirtual 62, 3) := dk_182 0 62 (dk_at dksX11_step_5 4 rfl rfl)
theorem dX11_step_124 : decode cX11_step 124 = .ok (.pop, 1) := dk_87 (dk_at dksX11_step_5 7 rfl rfl)
theorem dX11_step_125 : decode cX11_step 125 = .ok (.aload_n 0, 1) := dk_42 (dk_at dksX11_step_5 8 rfl rfl)
theorem dX11_step_126 : decode cX11_step 126 = .ok (.dup, 1) := dk_89 (dk_at dksX11_step_5 9 rfl rfl)
theorem dX11_step_127 : decode cX11_step 127 = .ok (.getfield 30, 3) := dk_180 0 30 (dk_at dksX11_step_5 10 rfl rfl)
theorem dX11_step_130 : decode cX11_step 130 = .ok (.iconst 1, 1) := dk_4 (dk_at dksX11_step_5 13 rfl rfl)
theorem dX11_step_131 : decode cX11_step 131 = .ok (.iadd, 1) := dk_96 (dk_at dksX11_step_5 14 rfl rfl)
theorem dX11_step_132 : decode cX11_step 132 = .ok (.putfield 30, 3) := dk_181 0 30 (dk_at dksX11_step_5 15 rfl rfl)
theorem dX11_step_135 : decode cX11_step 135 = .ok (.goto (-47), 3) := dk_167 255 209 (dk_at dksX11_step_5 18 rfl rfl)
theorem dX11_step_138 : decode cX11_step 138 = .ok (.aload_n 0, 1) := dk_42 (dk_at dksX11_step_5 21 rfl rfl)
theorem dX11_step_139 : decode cX11_step 139 = .ok (.aload_n 2, 1) := dk_44 (dk_at dksX11_step_5 22 rfl rfl)
theorem dX11_step_140 : decode cX11_step 140 = .ok (.invokevirtual 66, 3) := dk_182 0 66 (dk_at dksX11_step_6 0 rfl rfl)
theorem dX11_step_143 : decode cX11_step 143 = .ok (.putfield 70, 3) := dk_181 0 70 (dk_at dksX11_step_6 3 rfl rfl)
theorem dX11_step_146 : decode cX11_step 146 = .ok (.aload_n 0, 1) := dk_42 (dk_at dksX11_step_6 6 rfl rfl)
theorem dX11_step_147 : decode cX11_step 147 = .ok (.getstatic 74, 3) := dk_178 0 74 (dk_at dksX11_step_6 7 rfl rfl)
theorem dX11_step_150 : decode cX11_step 150 = .ok (.putfield 46, 3) := dk_181 0 46 (dk_at dksX11_step_6 10 rfl rfl)
theorem dX11_step_153 : decode cX11_step 153 = .ok (.goto 124, 3) := dk_167 0 124 (dk_at dksX11_step_6 13 rfl rfl)
theorem dX11_step_156 : decode cX11_step 156 = .ok (.iload_n 1, 1) := dk_27 (dk_at dksX11_step_6 16 rfl rfl)
theorem dX11_step_157 : decode cX11_step 157 = .ok (.invokestatic 77, 3) := dk_184 0 77 (dk_at dksX11_step_6 17 rfl rfl)
theorem dX11_step_160 : decode cX11_step 160 = .ok (.ifCond .eq 100, 3) := dk_153 0 100 (dk_at dksX11_step_6 20 rfl rfl)
theorem dX11_step_163 : decode cX11_step 163 = .ok (.aload_n 0, 1) := dk_42 (dk_at dksX11_step_6 23 rfl rfl)
theorem dX11_step_164 : decode cX11_step 164 = .ok (.iconst 0, 1) := dk_3 (dk_at dksX11_step_7 0 rfl rfl)
theorem dX11_step_165 : decode cX11_step 165 = .ok (.putfield 80, 3) := dk_181 0 80 (dk_at dksX11_step_7 1 rfl rfl)
theorem dX11_step_168 : decode cX11_step 168 = .ok (.aload_n 0, 1) := dk_42 (dk_at dksX11_step_7 4 rfl rfl)
theorem dX11_step_169 : decode cX11_step 169 = .ok (.aload_n 0, 1) := dk_42 (dk_at dksX11_step_7 5 rfl rfl)
theorem dX11_step_170 : decode cX11_step 170 = .ok (.getfield 30, 3) := dk_180 0 30 (dk_at dksX11_step_7 6 rfl rfl)
theorem dX11_step_173 : decode cX11_step 173 = .ok (.invokevirtual 33, 3) := dk_182 0 33 (dk_at dksX11_step_7 9 rfl rfl)
theorem dX11_step_176 : decode cX11_step 176 = .ok (.invokestatic 77, 3) := dk_184 0 77 (dk_at dksX11_step_7 12 rfl rfl)
theorem dX11_step_179 : decode cX11_step 179 = .ok (.ifCond .eq 52, 3) := dk_153 0 52 (dk_at dksX11_step_7 15 rfl rfl)
theorem dX11_step_182 : decode cX11_step 182 = .ok (.aload_n 0, 1) := dk_42 (dk_at dksX11_step_7 18 rfl rfl)
theorem dX11_step_183 : decode cX11_step 183 = .ok (.getfield 30, 3) := dk_180 0 30 (dk_at dksX11_step_7 19 rfl rfl)
theorem dX11_step_186 : decode cX11_step 186 = .ok (.aload_n 0, 1) := dk_42 (dk_at dksX11_step_7 22 rfl rfl)
theorem dX11_step_187 : decode cX11_step 187 = .ok (.getfield 37, 3) := dk_180 0 37 (dk_at dksX11_step_8 0 rfl rfl)
theorem dX11_step_190 : decode cX11_step 190 = .ok (.isub, 1) := dk_100 (dk_at dksX11_step_8 3 rfl rfl)
theorem dX11_step_191 : decode cX11_step 191 = .ok (.iconst 4, 1) := dk_7 (dk_at dksX11_step_8 4 rfl rfl)
theorem dX11_step_192 : decode cX11_step 192 = .ok (.if_icmp .ge 26, 3) := dk_162 0 26 (dk_at dksX11_step_8 5 rfl rfl)
theorem dX11_step_195 : decode cX11_step 195 = .ok (.aload_n 0, 1) := dk_42 (dk_at dksX11_step_8 8 rfl rfl)
theorem dX11_step_196 : decode cX11_step 196 = .ok (.bipush 10, 2) := dk_16 10 (dk_at dksX11_step_8 9 rfl rfl)
theorem dX11_step_198 : decode cX11_step 198 = .ok (.aload_n 0, 1) := dk_42 (dk_at dksX11_step_8 11 rfl rfl)
theorem dX11_step_199 : decode cX11_step 199 = .ok (.getfield 80, 3) := dk_180 0 80 (dk_at dksX11_step_8 12 rfl rfl)
theorem dX11_step_202 : decode cX11_step 202 = .ok (.imul, 1) := dk_104 (dk_at dksX11_step_8 15 rfl rfl)
theorem dX11_step_203 : decode cX11_step 203 = .ok (.aload_n 0, 1) := dk_42 (dk_at dksX11_step_8 16 rfl rfl)
theorem dX11_step_204 : decode cX11_step 204 = .ok (.aload_n 0, 1) := dk_42 (dk_at dksX11_step_8 17 rfl rfl)
theorem dX11_step_205 : decode cX11_step 205 = .ok (.getfield 30, 3) := dk_180 0 30 (dk_at dksX11_step_8 18 rfl rfl)
theorem dX11_step_208 : decode cX11_step 208 = .ok (.invokevirtual 33, 3) := dk_182 0 33 (dk_at dksX11_step_8 21 rfl rfl)
theorem dX11_step_211 : decode cX11_step 211 = .ok (.iadd, 1) := dk_96 (dk_at dksX11_step_9 0 rfl rfl)
theorem dX11_step_212 : decode cX11_step 212 = .ok (.bipush 48, 2) := dk_16 48 (dk_at dksX11_step_9 1 rfl rfl)
theorem dX11_step_214 : decode cX11_step 214 = .ok (.isub, 1) := dk_100 (dk_at dksX11_step_9 3 rfl rfl)
theorem dX11_step_215 : decode cX11_step 215 = .ok (.putfield 80, 3) := dk_181 0 80 (dk_at dksX11_step_9 4 rfl rfl)
theorem dX11_step_218 : decode cX11_step 218 = .ok (.aload_n 0, 1) := dk_42 (dk_at dksX11_step_9 7 rfl rfl)
theorem dX11_step_219 : decode cX11_step 219 = .ok (.dup, 1) := dk_89 (dk_at dksX11_step_9 8 rfl rfl)
theorem dX11_step_220 : decode cX11_step 220 = .ok (.getfield 30, 3) := dk_180 0 30 (dk_at dksX11_step_9 9 rfl rfl)
theorem dX11_step_223 : decode cX11_step 223 = .ok (.iconst 1, 1) := dk_4 (dk_at dksX11_step_9 12 rfl rfl)
theorem dX11_step_224 : decode cX11_step 224 = .ok (.iadd, 1) := dk_96 (dk_at dksX11_step_9 13 rfl rfl)
theorem dX11_step_225 : decode cX11_step 225 = .ok (.putfield 30, 3) := dk_181 0 30 (dk_at dksX11_step_9 14 rfl rfl)
theorem dX11_step_228 : decode cX11_step 228 = .ok (.goto (-60), 3) := dk_167 255 196 (dk_at dksX11_step_9 17 rfl rfl)
theorem dX11_step_231 : decode cX11_step 231 = .ok (.aload_n 0, 1) := dk_42 (dk_at dksX11_step_9 20 rfl rfl)
theorem dX11_step_232 : decode cX11_step 232 = .ok (.aload_n 0, 1) := dk_42 (dk_at dksX11_step_9 21 rfl rfl)
theorem dX11_step_233 : decode cX11_step 233 = .ok (.getfield 30, 3) := dk_180 0 30 (dk_at dksX11_step_10 0 rfl rfl)
theorem dX11_step_236 : decode cX11_step 236 = .ok (.aload_n 0, 1) := dk_42 (dk_at dksX11_step_10 3 rfl rfl)
theorem dX11_step_237 : decode cX11_step 237 = .ok (.getfield 37, 3) := dk_180 0 37 (dk_at dksX11_step_10 4 rfl rfl)
theorem dX11_step_240 : decode cX11_step 240 = .ok (.isub, 1) := dk_100 (dk_at dksX11_step_10 7 rfl rfl)
theorem dX11_step_241 : decode cX11_step 241 = .ok (.iconst 4, 1) := dk_7 (dk_at dksX11_step_10 8 rfl rfl)
theorem dX11_step_242 : decode cX11_step 242 = .ok (.if_icmp .le 9, 3) := dk_164 0 9 (dk_at dksX11_step_10 9 rfl rfl)
theorem dX11_step_245 : decode cX11_step 245 = .ok (.getstatic 83, 3) := dk_178 0 83 (dk_at dksX11_step_10 12 rfl rfl)
theorem dX11_step_248 : decode cX11_step 248 = .ok (.goto 6, 3) := dk_167 0 6 (dk_at dksX11_step_10 15 rfl rfl)
theorem dX11_step_251 : decode cX11_step 251 = .ok (.getstatic 86, 3) := dk_178 0 86 (dk_at dksX11_step_10 18 rfl rfl)
theorem dX11_step_254 : decode cX11_step 254 = .ok (.putfield 46, 3) := dk_181 0 46 (dk_at dksX11_step_10 21 rfl rfl)
theorem dX11_step_257 : decode cX11_step 257 = .ok (.goto 20, 3) := dk_167 0 20 (dk_at dksX11_step_11 0 rfl rfl)
theorem dX11_step_260 : decode cX11_step 260 = .ok (.aload_n 0, 1) := dk_42 (dk_at dksX11_step_11 3 rfl rfl)
theorem dX11_step_261 : decode cX11_step 261 = .ok (.dup, 1) := dk_89 (dk_at dksX11_step_11 4 rfl rfl)
theorem dX11_step_262 : decode cX11_step 262 = .ok (.getfield 30, 3) := dk_180 0 30 (dk_at dksX11_step_11 5 rfl rfl)
theorem dX11_step_265 : decode cX11_step 265 = .ok (.iconst 1, 1) := dk_4 (dk_at dksX11_step_11 8 rfl rfl)
theorem dX11_step_266 : decode cX11_step 266 = .ok (.iadd, 1) := dk_96 (dk_at dksX11_step_11 9 rfl rfl)
theorem dX11_step_267 : decode cX11_step 267 = .ok (.putfield 30, 3) := dk_181 0 30 (dk_at dksX11_step_11 10 rfl rfl)
theorem dX11_step_270 : decode cX11_step 270 = .ok (.aload_n 0, 1) := dk_42 (dk_at dksX11_step_11 13 rfl rfl)
theorem dX11_step_271 : decode cX11_step 271 = .ok (.getstatic 83, 3) := dk_178 0 83 (dk_at dksX11_step_11 14 rfl rfl)
theorem dX11_step_274 : decode cX11_step 274 = .ok (.putfield 46, 3) := dk_181 0 46 (dk_at dksX11_step_11 17 rfl rfl)
theorem dX11_step_277 : decode cX11_step 277 = .ok (.return_, 1) := dk_177 (dk_at dksX11_step_11 20 rfl rfl)
abbrev cX11_at : ByteArray := prog_23_method_2_code
def yX11_at : MethodName := ⟨RX11, "at", "(I)I"⟩
def dkwX11_at_0 : List UInt8 := [27, 42, 180, 0, 19, 162, 0, 16, 42, 180, 0, 15, 27, 51, 17, 0, 255, 126, 167, 0, 4, 2, 172]
abbrev dktX11_at_0 : List UInt8 := dkwX11_at_0 ++ []
theorem dksX11_at_0 : cX11_at.data.toList.drop 0 = dktX11_at_0 := by decide +kernel
theorem dX11_at_0 : decode cX11_at 0 = .ok (.iload_n 1, 1) := dk_27 (dk_at dksX11_at_0 0 rfl rfl)
theorem dX11_at_1 : decode cX11_at 1 = .ok (.aload_n 0, 1) := dk_42 (dk_at dksX11_at_0 1 rfl rfl)
theorem dX11_at_2 : decode cX11_at 2 = .ok (.getfield 19, 3) := dk_180 0 19 (dk_at dksX11_at_0 2 rfl rfl)
theorem dX11_at_5 : decode cX11_at 5 = .ok (.if_icmp .ge 16, 3) := dk_162 0 16 (dk_at dksX11_at_0 5 rfl rfl)
theorem dX11_at_8 : decode cX11_at 8 = .ok (.aload_n 0, 1) := dk_42 (dk_at dksX11_at_0 8 rfl rfl)
theorem dX11_at_9 : decode cX11_at 9 = .ok (.getfield 15, 3) := dk_180 0 15 (dk_at dksX11_at_0 9 rfl rfl)
theorem dX11_at_12 : decode cX11_at 12 = .ok (.iload_n 1, 1) := dk_27 (dk_at dksX11_at_0 12 rfl rfl)
theorem dX11_at_13 : decode cX11_at 13 = .ok (.baload, 1) := dk_51 (dk_at dksX11_at_0 13 rfl rfl)
theorem dX11_at_14 : decode cX11_at 14 = .ok (.sipush 255, 3) := dk_17 0 255 (dk_at dksX11_at_0 14 rfl rfl)
theorem dX11_at_17 : decode cX11_at 17 = .ok (.iand, 1) := dk_126 (dk_at dksX11_at_0 17 rfl rfl)
theorem dX11_at_18 : decode cX11_at 18 = .ok (.goto 4, 3) := dk_167 0 4 (dk_at dksX11_at_0 18 rfl rfl)
theorem dX11_at_21 : decode cX11_at 21 = .ok (.iconst (-1), 1) := dk_2 (dk_at dksX11_at_0 21 rfl rfl)
theorem dX11_at_22 : decode cX11_at 22 = .ok (.ireturn, 1) := dk_172 (dk_at dksX11_at_0 22 rfl rfl)
abbrev cX11_isLetter : ByteArray := prog_23_method_3_code
def yX11_isLetter : MethodName := ⟨RX11, "isLetter", "(I)Z"⟩
def dkwX11_isLetter_0 : List UInt8 := [26, 16, 97, 161, 0, 13, 26, 16, 122, 163, 0, 7, 4, 167, 0, 4, 3, 172]
abbrev dktX11_isLetter_0 : List UInt8 := dkwX11_isLetter_0 ++ []
theorem dksX11_isLetter_0 : cX11_isLetter.data.toList.drop 0 = dktX11_isLetter_0 := by decide +kernel
theorem dX11_isLetter_0 : decode cX11_isLetter 0 = .ok (.iload_n 0, 1) := dk_26 (dk_at dksX11_isLetter_0 0 rfl rfl)
theorem dX11_isLetter_1 : decode cX11_isLetter 1 = .ok (.bipush 97, 2) := dk_16 97 (dk_at dksX11_isLetter_0 1 rfl rfl)
theorem dX11_isLetter_3 : decode cX11_isLetter 3 = .ok (.if_icmp .lt 13, 3) := dk_161 0 13 (dk_at dksX11_isLetter_0 3 rfl rfl)
theorem dX11_isLetter_6 : decode cX11_isLetter 6 = .ok (.iload_n 0, 1) := dk_26 (dk_at dksX11_isLetter_0 6 rfl rfl)
theorem dX11_isLetter_7 : decode cX11_isLetter 7 = .ok (.bipush 122, 2) := dk_16 122 (dk_at dksX11_isLetter_0 7 rfl rfl)
theorem dX11_isLetter_9 : decode cX11_isLetter 9 = .ok (.if_icmp .gt 7, 3) := dk_163 0 7 (dk_at dksX11_isLetter_0 9 rfl rfl)
theorem dX11_isLetter_12 : decode cX11_isLetter 12 = .ok (.iconst 1, 1) := dk_4 (dk_at dksX11_isLetter_0 12 rfl rfl)
theorem dX11_isLetter_13 : decode cX11_isLetter 13 = .ok (.goto 4, 3) := dk_167 0 4 (dk_at dksX11_isLetter_0 13 rfl rfl)
theorem dX11_isLetter_16 : decode cX11_isLetter 16 = .ok (.iconst 0, 1) := dk_3 (dk_at dksX11_isLetter_0 16 rfl rfl)
theorem dX11_isLetter_17 : decode cX11_isLetter 17 = .ok (.ireturn, 1) := dk_172 (dk_at dksX11_isLetter_0 17 rfl rfl)
abbrev cX11_isDigit : ByteArray := prog_23_method_4_code
def yX11_isDigit : MethodName := ⟨RX11, "isDigit", "(I)Z"⟩
def dkwX11_isDigit_0 : List UInt8 := [26, 16, 48, 161, 0, 13, 26, 16, 57, 163, 0, 7, 4, 167, 0, 4, 3, 172]
abbrev dktX11_isDigit_0 : List UInt8 := dkwX11_isDigit_0 ++ []
theorem dksX11_isDigit_0 : cX11_isDigit.data.toList.drop 0 = dktX11_isDigit_0 := by decide +kernel
theorem dX11_isDigit_0 : decode cX11_isDigit 0 = .ok (.iload_n 0, 1) := dk_26 (dk_at dksX11_isDigit_0 0 rfl rfl)
theorem dX11_isDigit_1 : decode cX11_isDigit 1 = .ok (.bipush 48, 2) := dk_16 48 (dk_at dksX11_isDigit_0 1 rfl rfl)
theorem dX11_isDigit_3 : decode cX11_isDigit 3 = .ok (.if_icmp .lt 13, 3) := dk_161 0 13 (dk_at dksX11_isDigit_0 3 rfl rfl)
theorem dX11_isDigit_6 : decode cX11_isDigit 6 = .ok (.iload_n 0, 1) := dk_26 (dk_at dksX11_isDigit_0 6 rfl rfl)
theorem dX11_isDigit_7 : decode cX11_isDigit 7 = .ok (.bipush 57, 2) := dk_16 57 (dk_at dksX11_isDigit_0 7 rfl rfl)
theorem dX11_isDigit_9 : decode cX11_isDigit 9 = .ok (.if_icmp .gt 7, 3) := dk_163 0 7 (dk_at dksX11_isDigit_0 9 rfl rfl)
theorem dX11_isDigit_12 : decode cX11_isDigit 12 = .ok (.iconst 1, 1) := dk_4 (dk_at dksX11_isDigit_0 12 rfl rfl)
theorem dX11_isDigit_13 : decode cX11_isDigit 13 = .ok (.goto 4, 3) := dk_167 0 4 (dk_at dksX11_isDigit_0 13 rfl rfl)
theorem dX11_isDigit_16 : decode cX11_isDigit 16 = .ok (.iconst 0, 1) := dk_3 (dk_at dksX11_isDigit_0 16 rfl rfl)
theorem dX11_isDigit_17 : decode cX11_isDigit 17 = .ok (.ireturn, 1) := dk_172 (dk_at dksX11_isDigit_0 17 rfl rfl)
abbrev cX11_whole : ByteArray := prog_23_method_16_code
def yX11_whole : MethodName := ⟨RX11, "whole", "()LVillageStories$Part;"⟩
def dkwX11_whole_1 : List UInt8 := [198, 0, 8, 42, 180, 0, 104, 191, 43, 176]
abbrev dktX11_whole_1 : List UInt8 := dkwX11_whole_1 ++ []
def dkwX11_whole_0 : List UInt8 := [42, 182, 0, 158, 76, 42, 180, 0, 46, 178, 0, 40, 165, 0, 8, 42, 182, 0, 100, 191, 42, 180, 0, 104]
abbrev dktX11_whole_0 : List UInt8 := dkwX11_whole_0 ++ dktX11_whole_1
theorem dksX11_whole_0 : cX11_whole.data.toList.drop 0 = dktX11_whole_0 := by decide +kernel
theorem dksX11_whole_1 : cX11_whole.data.toList.drop 24 = dktX11_whole_1 := dk_seg dksX11_whole_0 24 rfl rfl
theorem dX11_whole_0 : decode cX11_whole 0 = .ok (.aload_n 0, 1) := dk_42 (dk_at dksX11_whole_0 0 rfl rfl)
theorem dX11_whole_1 : decode cX11_whole 1 = .ok (.invokevirtual 158, 3) := dk_182 0 158 (dk_at dksX11_whole_0 1 rfl rfl)
theorem dX11_whole_4 : decode cX11_whole 4 = .ok (.astore_n 1, 1) := dk_76 (dk_at dksX11_whole_0 4 rfl rfl)
theorem dX11_whole_5 : decode cX11_whole 5 = .ok (.aload_n 0, 1) := dk_42 (dk_at dksX11_whole_0 5 rfl rfl)
theorem dX11_whole_6 : decode cX11_whole 6 = .ok (.getfield 46, 3) := dk_180 0 46 (dk_at dksX11_whole_0 6 rfl rfl)
theorem dX11_whole_9 : decode cX11_whole 9 = .ok (.getstatic 40, 3) := dk_178 0 40 (dk_at dksX11_whole_0 9 rfl rfl)
theorem dX11_whole_12 : decode cX11_whole 12 = .ok (.if_acmp .eq 8, 3) := dk_165 0 8 (dk_at dksX11_whole_0 12 rfl rfl)
theorem dX11_whole_15 : decode cX11_whole 15 = .ok (.aload_n 0, 1) := dk_42 (dk_at dksX11_whole_0 15 rfl rfl)
theorem dX11_whole_16 : decode cX11_whole 16 = .ok (.invokevirtual 100, 3) := dk_182 0 100 (dk_at dksX11_whole_0 16 rfl rfl)
theorem dX11_whole_19 : decode cX11_whole 19 = .ok (.athrow, 1) := dk_191 (dk_at dksX11_whole_0 19 rfl rfl)
theorem dX11_whole_20 : decode cX11_whole 20 = .ok (.aload_n 0, 1) := dk_42 (dk_at dksX11_whole_0 20 rfl rfl)
theorem dX11_whole_21 : decode cX11_whole 21 = .ok (.getfield 104, 3) := dk_180 0 104 (dk_at dksX11_whole_0 21 rfl rfl)
theorem dX11_whole_24 : decode cX11_whole 24 = .ok (.ifnull 8, 3) := dk_198 0 8 (dk_at dksX11_whole_1 0 rfl rfl)
theorem dX11_whole_27 : decode cX11_whole 27 = .ok (.aload_n 0, 1) := dk_42 (dk_at dksX11_whole_1 3 rfl rfl)
theorem dX11_whole_28 : decode cX11_whole 28 = .ok (.getfield 104, 3) := dk_180 0 104 (dk_at dksX11_whole_1 4 rfl rfl)
theorem dX11_whole_31 : decode cX11_whole 31 = .ok (.athrow, 1) := dk_191 (dk_at dksX11_whole_1 7 rfl rfl)
theorem dX11_whole_32 : decode cX11_whole 32 = .ok (.aload_n 1, 1) := dk_43 (dk_at dksX11_whole_1 8 rfl rfl)
theorem dX11_whole_33 : decode cX11_whole 33 = .ok (.areturn, 1) := dk_176 (dk_at dksX11_whole_1 9 rfl rfl)
abbrev cX11_part : ByteArray := prog_23_method_17_code
def yX11_part : MethodName := ⟨RX11, "part", "()LVillageStories$Part;"⟩
def dkwX11_part_15 : List UInt8 := [176]
abbrev dktX11_part_15 : List UInt8 := dkwX11_part_15 ++ []
def dkwX11_part_14 : List UInt8 := [167, 0, 21, 42, 42, 180, 0, 23, 28, 182, 0, 145, 192, 0, 149, 180, 0, 229, 182, 0, 199, 183, 0, 232]
abbrev dktX11_part_14 : List UInt8 := dkwX11_part_14 ++ dktX11_part_15
def dkwX11_part_13 : List UInt8 := [187, 0, 224, 89, 28, 29, 42, 180, 0, 23, 28, 182, 0, 145, 192, 0, 149, 182, 0, 226, 153, 0, 7, 2]
abbrev dktX11_part_13 : List UInt8 := dkwX11_part_13 ++ dktX11_part_14
def dkwX11_part_12 : List UInt8 := [182, 0, 207, 61, 42, 42, 180, 0, 23, 28, 182, 0, 145, 192, 0, 149, 180, 0, 155, 182, 0, 199, 62]
abbrev dktX11_part_12 : List UInt8 := dkwX11_part_12 ++ dktX11_part_13
def dkwX11_part_11 : List UInt8 := [182, 0, 207, 62, 42, 29, 28, 182, 0, 210, 54, 4, 187, 0, 221, 89, 29, 183, 0, 223, 176, 42]
abbrev dktX11_part_11 : List UInt8 := dkwX11_part_11 ++ dktX11_part_12
def dkwX11_part_10 : List UInt8 := [182, 0, 199, 183, 0, 216, 176, 42, 18, 219, 182, 0, 135, 153, 0, 30, 42, 180, 0, 37, 61, 42]
abbrev dktX11_part_10 : List UInt8 := dkwX11_part_10 ++ dktX11_part_11
def dkwX11_part_9 : List UInt8 := [182, 0, 210, 54, 4, 42, 21, 4, 182, 0, 199, 54, 5, 187, 0, 214, 89, 29, 21, 5, 42, 21, 4]
abbrev dktX11_part_9 : List UInt8 := dkwX11_part_9 ++ dktX11_part_10
def dkwX11_part_8 : List UInt8 := [176, 42, 18, 205, 182, 0, 135, 153, 0, 46, 42, 180, 0, 37, 61, 42, 182, 0, 207, 62, 42, 29, 28]
abbrev dktX11_part_8 : List UInt8 := dkwX11_part_8 ++ dktX11_part_9
def dkwX11_part_7 : List UInt8 := [42, 2, 182, 0, 199, 61, 187, 0, 202, 89, 28, 42, 42, 180, 0, 9, 28, 46, 182, 0, 199, 183, 0, 204]
abbrev dktX11_part_7 : List UInt8 := dkwX11_part_7 ++ dktX11_part_8
def dkwX11_part_6 : List UInt8 := [153, 0, 15, 187, 0, 192, 89, 42, 182, 0, 158, 183, 0, 194, 176, 42, 18, 197, 182, 0, 135, 153, 0, 28]
abbrev dktX11_part_6 : List UInt8 := dkwX11_part_6 ++ dktX11_part_7
def dkwX11_part_5 : List UInt8 := [28, 50, 45, 42, 182, 0, 158, 183, 0, 187, 176, 132, 2, 1, 167, 255, 204, 42, 18, 190, 182, 0, 135]
abbrev dktX11_part_5 : List UInt8 := dkwX11_part_5 ++ dktX11_part_6
def dkwX11_part_4 : List UInt8 := [180, 0, 182, 182, 0, 135, 154, 0, 6, 167, 0, 26, 42, 182, 0, 158, 78, 187, 0, 185, 89, 178, 0, 178]
abbrev dktX11_part_4 : List UInt8 := dkwX11_part_4 ++ dktX11_part_5
def dkwX11_part_3 : List UInt8 := [176, 132, 2, 1, 167, 255, 219, 3, 61, 28, 178, 0, 178, 190, 162, 0, 50, 42, 178, 0, 178, 28, 50]
abbrev dktX11_part_3 : List UInt8 := dkwX11_part_3 ++ dktX11_part_4
def dkwX11_part_2 : List UInt8 := [178, 0, 165, 28, 50, 180, 0, 169, 182, 0, 135, 153, 0, 14, 42, 178, 0, 165, 28, 50, 27, 182, 0, 174]
abbrev dktX11_part_2 : List UInt8 := dkwX11_part_2 ++ dktX11_part_3
def dkwX11_part_1 : List UInt8 := [180, 0, 37, 182, 0, 129, 42, 180, 0, 37, 60, 3, 61, 28, 178, 0, 165, 190, 162, 0, 35, 42]
abbrev dktX11_part_1 : List UInt8 := dkwX11_part_1 ++ dktX11_part_2
def dkwX11_part_0 : List UInt8 := [42, 89, 180, 0, 162, 4, 96, 181, 0, 162, 42, 180, 0, 162, 16, 41, 160, 0, 12, 42, 7, 42]
abbrev dktX11_part_0 : List UInt8 := dkwX11_part_0 ++ dktX11_part_1
theorem dksX11_part_0 : cX11_part.data.toList.drop 0 = dktX11_part_0 := by decide +kernel
theorem dksX11_part_1 : cX11_part.data.toList.drop 22 = dktX11_part_1 := dk_seg dksX11_part_0 22 rfl rfl
theorem dksX11_part_2 : cX11_part.data.toList.drop 44 = dktX11_part_2 := dk_seg dksX11_part_1 22 rfl rfl
theorem dksX11_part_3 : cX11_part.data.toList.drop 68 = dktX11_part_3 := dk_seg dksX11_part_2 24 rfl rfl
theorem dksX11_part_4 : cX11_part.data.toList.drop 91 = dktX11_part_4 := dk_seg dksX11_part_3 23 rfl rfl
theorem dksX11_part_5 : cX11_part.data.toList.drop 115 = dktX11_part_5 := dk_seg dksX11_part_4 24 rfl rfl
theorem dksX11_part_6 : cX11_part.data.toList.drop 138 = dktX11_part_6 := dk_seg dksX11_part_5 23 rfl rfl
theorem dksX11_part_7 : cX11_part.data.toList.drop 162 = dktX11_part_7 := dk_seg dksX11_part_6 24 rfl rfl
theorem dksX11_part_8 : cX11_part.data.toList.drop 186 = dktX11_part_8 := dk_seg dksX11_part_7 24 rfl rfl
theorem dksX11_part_9 : cX11_part.data.toList.drop 209 = dktX11_part_9 := dk_seg dksX11_part_8 23 rfl rfl
theorem dksX11_part_10 : cX11_part.data.toList.drop 232 = dktX11_part_10 := dk_seg dksX11_part_9 23 rfl rfl
theorem dksX11_part_11 : cX11_part.data.toList.drop 254 = dktX11_part_11 := dk_seg dksX11_part_10 22 rfl rfl
theorem dksX11_part_12 : cX11_part.data.toList.drop 276 = dktX11_part_12 := dk_seg dksX11_part_11 22 rfl rfl
theorem dksX11_part_13 : cX11_part.data.toList.drop 299 = dktX11_part_13 := dk_seg dksX11_part_12 23 rfl rfl
theorem dksX11_part_14 : cX11_part.data.toList.drop 323 = dktX11_part_14 := dk_seg dksX11_part_13 24 rfl rfl
theorem dksX11_part_15 : cX11_part.data.toList.drop 347 = dktX11_part_15 := dk_seg dksX11_part_14 24 rfl rfl
theorem dX11_part_0 : decode cX11_part 0 = .ok (.aload_n 0, 1) := dk_42 (dk_at dksX11_part_0 0 rfl rfl)
theorem dX11_part_1 : decode cX11_part 1 = .ok (.dup, 1) := dk_89 (dk_at dksX11_part_0 1 rfl rfl)
theorem dX11_part_2 : decode cX11_part 2 = .ok (.getfield 162, 3) := dk_180 0 162 (dk_at dksX11_part_0 2 rfl rfl)
theorem dX11_part_5 : decode cX11_part 5 = .ok (.iconst 1, 1) := dk_4 (dk_at dksX11_part_0 5 rfl rfl)
theorem dX11_part_6 : decode cX11_part 6 = .ok (.iadd, 1) := dk_96 (dk_at dksX11_part_0 6 rfl rfl)
theorem dX11_part_7 : decode cX11_part 7 = .ok (.putfield 162, 3) := dk_181 0 162 (dk_at dksX11_part_0 7 rfl rfl)
theorem dX11_part_10 : decode cX11_part 10 = .ok (.aload_n 0, 1) := dk_42 (dk_at dksX11_part_0 10 rfl rfl)
theorem dX11_part_11 : decode cX11_part 11 = .ok (.getfield 162, 3) := dk_180 0 162 (dk_at dksX11_part_0 11 rfl rfl)
theorem dX11_part_14 : decode cX11_part 14 = .ok (.bipush 41, 2) := dk_16 41 (dk_at dksX11_part_0 14 rfl rfl)
theorem dX11_part_16 : decode cX11_part 16 = .ok (.if_icmp .ne 12, 3) := dk_160 0 12 (dk_at dksX11_part_0 16 rfl rfl)
theorem dX11_part_19 : decode cX11_part 19 = .ok (.aload_n 0, 1) := dk_42 (dk_at dksX11_part_0 19 rfl rfl)
theorem dX11_part_20 : decode cX11_part 20 = .ok (.iconst 4, 1) := dk_7 (dk_at dksX11_part_0 20 rfl rfl)
theorem dX11_part_21 : decode cX11_part 21 = .ok (.aload_n 0, 1) := dk_42 (dk_at dksX11_part_0 21 rfl rfl)
theorem dX11_part_22 : decode cX11_part 22 = .ok (.getfield 37, 3) := dk_180 0 37 (dk_at dksX11_part_1 0 rfl rfl)
theorem dX11_part_25 : decode cX11_part 25 = .ok (.invokevirtual 129, 3) := dk_182 0 129 (dk_at dksX11_part_1 3 rfl rfl)
theorem dX11_part_28 : decode cX11_part 28 = .ok (.aload_n 0, 1) := dk_42 (dk_at dksX11_part_1 6 rfl rfl)
theorem dX11_part_29 : decode cX11_part 29 = .ok (.getfield 37, 3) := dk_180 0 37 (dk_at dksX11_part_1 7 rfl rfl)
theorem dX11_part_32 : decode cX11_part 32 = .ok (.istore_n 1, 1) := dk_60 (dk_at dksX11_part_1 10 rfl rfl)
theorem dX11_part_33 : decode cX11_part 33 = .ok (.iconst 0, 1) := dk_3 (dk_at dksX11_part_1 11 rfl rfl)
theorem dX11_part_34 : decode cX11_part 34 = .ok (.istore_n 2, 1) := dk_61 (dk_at dksX11_part_1 12 rfl rfl)
theorem dX11_part_35 : decode cX11_part 35 = .ok (.iload_n 2, 1) := dk_28 (dk_at dksX11_part_1 13 rfl rfl)
theorem dX11_part_36 : decode cX11_part 36 = .ok (.getstatic 165, 3) := dk_178 0 165 (dk_at dksX11_part_1 14 rfl rfl)
theorem dX11_part_39 : decode cX11_part 39 = .ok (.arraylength, 1) := dk_190 (dk_at dksX11_part_1 17 rfl rfl)
theorem dX11_part_40 : decode cX11_part 40 = .ok (.if_icmp .ge 35, 3) := dk_162 0 35 (dk_at dksX11_part_1 18 rfl rfl)
theorem dX11_part_43 : decode cX11_part 43 = .ok (.aload_n 0, 1) := dk_42 (dk_at dksX11_part_1 21 rfl rfl)
theorem dX11_part_44 : decode cX11_part 44 = .ok (.getstatic 165, 3) := dk_178 0 165 (dk_at dksX11_part_2 0 rfl rfl)
theorem dX11_part_47 : decode cX11_part 47 = .ok (.iload_n 2, 1) := dk_28 (dk_at dksX11_part_2 3 rfl rfl)
theorem dX11_part_48 : decode cX11_part 48 = .ok (.aaload, 1) := dk_50 (dk_at dksX11_part_2 4 rfl rfl)
theorem dX11_part_49 : decode cX11_part 49 = .ok (.getfield 169, 3) := dk_180 0 169 (dk_at dksX11_part_2 5 rfl rfl)
theorem dX11_part_52 : decode cX11_part 52 = .ok (.invokevirtual 135, 3) := dk_182 0 135 (dk_at dksX11_part_2 8 rfl rfl)
theorem dX11_part_55 : decode cX11_part 55 = .ok (.ifCond .eq 14, 3) := dk_153 0 14 (dk_at dksX11_part_2 11 rfl rfl)
theorem dX11_part_58 : decode cX11_part 58 = .ok (.aload_n 0, 1) := dk_42 (dk_at dksX11_part_2 14 rfl rfl)
theorem dX11_part_59 : decode cX11_part 59 = .ok (.getstatic 165, 3) := dk_178 0 165 (dk_at dksX11_part_2 15 rfl rfl)
theorem dX11_part_62 : decode cX11_part 62 = .ok (.iload_n 2, 1) := dk_28 (dk_at dksX11_part_2 18 rfl rfl)
theorem dX11_part_63 : decode cX11_part 63 = .ok (.aaload, 1) := dk_50 (dk_at dksX11_part_2 19 rfl rfl)
theorem dX11_part_64 : decode cX11_part 64 = .ok (.iload_n 1, 1) := dk_27 (dk_at dksX11_part_2 20 rfl rfl)
theorem dX11_part_65 : decode cX11_part 65 = .ok (.invokevirtual 174, 3) := dk_182 0 174 (dk_at dksX11_part_2 21 rfl rfl)
theorem dX11_part_68 : decode cX11_part 68 = .ok (.areturn, 1) := dk_176 (dk_at dksX11_part_3 0 rfl rfl)
theorem dX11_part_69 : decode cX11_part 69 = .ok (.iinc 2 1, 3) := dk_132 2 1 (dk_at dksX11_part_3 1 rfl rfl)
theorem dX11_part_72 : decode cX11_part 72 = .ok (.goto (-37), 3) := dk_167 255 219 (dk_at dksX11_part_3 4 rfl rfl)
theorem dX11_part_75 : decode cX11_part 75 = .ok (.iconst 0, 1) := dk_3 (dk_at dksX11_part_3 7 rfl rfl)
theorem dX11_part_76 : decode cX11_part 76 = .ok (.istore_n 2, 1) := dk_61 (dk_at dksX11_part_3 8 rfl rfl)
theorem dX11_part_77 : decode cX11_part 77 = .ok (.iload_n 2, 1) := dk_28 (dk_at dksX11_part_3 9 rfl rfl)
theorem dX11_part_78 : decode cX11_part 78 = .ok (.getstatic 178, 3) := dk_178 0 178 (dk_at dksX11_part_3 10 rfl rfl)
theorem dX11_part_81 : decode cX11_part 81 = .ok (.arraylength, 1) := dk_190 (dk_at dksX11_part_3 13 rfl rfl)
theorem dX11_part_82 : decode cX11_part 82 = .ok (.if_icmp .ge 50, 3) := dk_162 0 50 (dk_at dksX11_part_3 14 rfl rfl)
theorem dX11_part_85 : decode cX11_part 85 = .ok (.aload_n 0, 1) := dk_42 (dk_at dksX11_part_3 17 rfl rfl)
theorem dX11_part_86 : decode cX11_part 86 = .ok (.getstatic 178, 3) := dk_178 0 178 (dk_at dksX11_part_3 18 rfl rfl)
theorem dX11_part_89 : decode cX11_part 89 = .ok (.iload_n 2, 1) := dk_28 (dk_at dksX11_part_3 21 rfl rfl)
theorem dX11_part_90 : decode cX11_part 90 = .ok (.aaload, 1) := dk_50 (dk_at dksX11_part_3 22 rfl rfl)
theorem dX11_part_91 : decode cX11_part 91 = .ok (.getfield 182, 3) := dk_180 0 182 (dk_at dksX11_part_4 0 rfl rfl)
theorem dX11_part_94 : decode cX11_part 94 = .ok (.invokevirtual 135, 3) := dk_182 0 135 (dk_at dksX11_part_4 3 rfl rfl)
theorem dX11_part_97 : decode cX11_part 97 = .ok (.ifCond .ne 6, 3) := dk_154 0 6 (dk_at dksX11_part_4 6 rfl rfl)
theorem dX11_part_100 : decode cX11_part 100 = .ok (.goto 26, 3) := dk_167 0 26 (dk_at dksX11_part_4 9 rfl rfl)
theorem dX11_part_103 : decode cX11_part 103 = .ok (.aload_n 0, 1) := dk_42 (dk_at dksX11_part_4 12 rfl rfl)
theorem dX11_part_104 : decode cX11_part 104 = .ok (.invokevirtual 158, 3) := dk_182 0 158 (dk_at dksX11_part_4 13 rfl rfl)
theorem dX11_part_107 : decode cX11_part 107 = .ok (.astore_n 3, 1) := dk_78 (dk_at dksX11_part_4 16 rfl rfl)
theorem dX11_part_108 : decode cX11_part 108 = .ok (.new 185, 3) := dk_187 0 185 (dk_at dksX11_part_4 17 rfl rfl)
theorem dX11_part_111 : decode cX11_part 111 = .ok (.dup, 1) := dk_89 (dk_at dksX11_part_4 20 rfl rfl)
theorem dX11_part_112 : decode cX11_part 112 = .ok (.getstatic 178, 3) := dk_178 0 178 (dk_at dksX11_part_4 21 rfl rfl)
theorem dX11_part_115 : decode cX11_part 115 = .ok (.iload_n 2, 1) := dk_28 (dk_at dksX11_part_5 0 rfl rfl)
theorem dX11_part_116 : decode cX11_part 116 = .ok (.aaload, 1) := dk_50 (dk_at dksX11_part_5 1 rfl rfl)
theorem dX11_part_117 : decode cX11_part 117 = .ok (.aload_n 3, 1) := dk_45 (dk_at dksX11_part_5 2 rfl rfl)
theorem dX11_part_118 : decode cX11_part 118 = .ok (.aload_n 0, 1) := dk_42 (dk_at dksX11_part_5 3 rfl rfl)
theorem dX11_part_119 : decode cX11_part 119 = .ok (.invokevirtual 158, 3) := dk_182 0 158 (dk_at dksX11_part_5 4 rfl rfl)
theorem dX11_part_122 : decode cX11_part 122 = .ok (.invokespecial 187, 3) := dk_183 0 187 (dk_at dksX11_part_5 7 rfl rfl)
theorem dX11_part_125 : decode cX11_part 125 = .ok (.areturn, 1) := dk_176 (dk_at dksX11_part_5 10 rfl rfl)
theorem dX11_part_126 : decode cX11_part 126 = .ok (.iinc 2 1, 3) := dk_132 2 1 (dk_at dksX11_part_5 11 rfl rfl)
theorem dX11_part_129 : decode cX11_part 129 = .ok (.goto (-52), 3) := dk_167 255 204 (dk_at dksX11_part_5 14 rfl rfl)
theorem dX11_part_132 : decode cX11_part 132 = .ok (.aload_n 0, 1) := dk_42 (dk_at dksX11_part_5 17 rfl rfl)
theorem dX11_part_133 : decode cX11_part 133 = .ok (.ldc 190, 2) := dk_18 190 (dk_at dksX11_part_5 18 rfl rfl)
theorem dX11_part_135 : decode cX11_part 135 = .ok (.invokevirtual 135, 3) := dk_182 0 135 (dk_at dksX11_part_5 20 rfl rfl)
theorem dX11_part_138 : decode cX11_part 138 = .ok (.ifCond .eq 15, 3) := dk_153 0 15 (dk_at dksX11_part_6 0 rfl rfl)
theorem dX11_part_141 : decode cX11_part 141 = .ok (.new 192, 3) := dk_187 0 192 (dk_at dksX11_part_6 3 rfl rfl)
theorem dX11_part_144 : decode cX11_part 144 = .ok (.dup, 1) := dk_89 (dk_at dksX11_part_6 6 rfl rfl)
theorem dX11_part_145 : decode cX11_part 145 = .ok (.aload_n 0, 1) := dk_42 (dk_at dksX11_part_6 7 rfl rfl)
theorem dX11_part_146 : decode cX11_part 146 = .ok (.invokevirtual 158, 3) := dk_182 0 158 (dk_at dksX11_part_6 8 rfl rfl)
theorem dX11_part_149 : decode cX11_part 149 = .ok (.invokespecial 194, 3) := dk_183 0 194 (dk_at dksX11_part_6 11 rfl rfl)
theorem dX11_part_152 : decode cX11_part 152 = .ok (.areturn, 1) := dk_176 (dk_at dksX11_part_6 14 rfl rfl)
theorem dX11_part_153 : decode cX11_part 153 = .ok (.aload_n 0, 1) := dk_42 (dk_at dksX11_part_6 15 rfl rfl)
theorem dX11_part_154 : decode cX11_part 154 = .ok (.ldc 197, 2) := dk_18 197 (dk_at dksX11_part_6 16 rfl rfl)
theorem dX11_part_156 : decode cX11_part 156 = .ok (.invokevirtual 135, 3) := dk_182 0 135 (dk_at dksX11_part_6 18 rfl rfl)
theorem dX11_part_159 : decode cX11_part 159 = .ok (.ifCond .eq 28, 3) := dk_153 0 28 (dk_at dksX11_part_6 21 rfl rfl)
theorem dX11_part_162 : decode cX11_part 162 = .ok (.aload_n 0, 1) := dk_42 (dk_at dksX11_part_7 0 rfl rfl)
theorem dX11_part_163 : decode cX11_part 163 = .ok (.iconst (-1), 1) := dk_2 (dk_at dksX11_part_7 1 rfl rfl)
theorem dX11_part_164 : decode cX11_part 164 = .ok (.invokevirtual 199, 3) := dk_182 0 199 (dk_at dksX11_part_7 2 rfl rfl)
theorem dX11_part_167 : decode cX11_part 167 = .ok (.istore_n 2, 1) := dk_61 (dk_at dksX11_part_7 5 rfl rfl)
theorem dX11_part_168 : decode cX11_part 168 = .ok (.new 202, 3) := dk_187 0 202 (dk_at dksX11_part_7 6 rfl rfl)
theorem dX11_part_171 : decode cX11_part 171 = .ok (.dup, 1) := dk_89 (dk_at dksX11_part_7 9 rfl rfl)
theorem dX11_part_172 : decode cX11_part 172 = .ok (.iload_n 2, 1) := dk_28 (dk_at dksX11_part_7 10 rfl rfl)
theorem dX11_part_173 : decode cX11_part 173 = .ok (.aload_n 0, 1) := dk_42 (dk_at dksX11_part_7 11 rfl rfl)
theorem dX11_part_174 : decode cX11_part 174 = .ok (.aload_n 0, 1) := dk_42 (dk_at dksX11_part_7 12 rfl rfl)
theorem dX11_part_175 : decode cX11_part 175 = .ok (.getfield 9, 3) := dk_180 0 9 (dk_at dksX11_part_7 13 rfl rfl)
theorem dX11_part_178 : decode cX11_part 178 = .ok (.iload_n 2, 1) := dk_28 (dk_at dksX11_part_7 16 rfl rfl)
theorem dX11_part_179 : decode cX11_part 179 = .ok (.iaload, 1) := dk_46 (dk_at dksX11_part_7 17 rfl rfl)
theorem dX11_part_180 : decode cX11_part 180 = .ok (.invokevirtual 199, 3) := dk_182 0 199 (dk_at dksX11_part_7 18 rfl rfl)
theorem dX11_part_183 : decode cX11_part 183 = .ok (.invokespecial 204, 3) := dk_183 0 204 (dk_at dksX11_part_7 21 rfl rfl)
theorem dX11_part_186 : decode cX11_part 186 = .ok (.areturn, 1) := dk_176 (dk_at dksX11_part_8 0 rfl rfl)
theorem dX11_part_187 : decode cX11_part 187 = .ok (.aload_n 0, 1) := dk_42 (dk_at dksX11_part_8 1 rfl rfl)
theorem dX11_part_188 : decode cX11_part 188 = .ok (.ldc 205, 2) := dk_18 205 (dk_at dksX11_part_8 2 rfl rfl)
theorem dX11_part_190 : decode cX11_part 190 = .ok (.invokevirtual 135, 3) := dk_182 0 135 (dk_at dksX11_part_8 4 rfl rfl)
theorem dX11_part_193 : decode cX11_part 193 = .ok (.ifCond .eq 46, 3) := dk_153 0 46 (dk_at dksX11_part_8 7 rfl rfl)
theorem dX11_part_196 : decode cX11_part 196 = .ok (.aload_n 0, 1) := dk_42 (dk_at dksX11_part_8 10 rfl rfl)
theorem dX11_part_197 : decode cX11_part 197 = .ok (.getfield 37, 3) := dk_180 0 37 (dk_at dksX11_part_8 11 rfl rfl)
theorem dX11_part_200 : decode cX11_part 200 = .ok (.istore_n 2, 1) := dk_61 (dk_at dksX11_part_8 14 rfl rfl)
theorem dX11_part_201 : decode cX11_part 201 = .ok (.aload_n 0, 1) := dk_42 (dk_at dksX11_part_8 15 rfl rfl)
theorem dX11_part_202 : decode cX11_part 202 = .ok (.invokevirtual 207, 3) := dk_182 0 207 (dk_at dksX11_part_8 16 rfl rfl)
theorem dX11_part_205 : decode cX11_part 205 = .ok (.istore_n 3, 1) := dk_62 (dk_at dksX11_part_8 19 rfl rfl)
theorem dX11_part_206 : decode cX11_part 206 = .ok (.aload_n 0, 1) := dk_42 (dk_at dksX11_part_8 20 rfl rfl)
theorem dX11_part_207 : decode cX11_part 207 = .ok (.iload_n 3, 1) := dk_29 (dk_at dksX11_part_8 21 rfl rfl)
theorem dX11_part_208 : decode cX11_part 208 = .ok (.iload_n 2, 1) := dk_28 (dk_at dksX11_part_8 22 rfl rfl)
theorem dX11_part_209 : decode cX11_part 209 = .ok (.invokevirtual 210, 3) := dk_182 0 210 (dk_at dksX11_part_9 0 rfl rfl)
theorem dX11_part_212 : decode cX11_part 212 = .ok (.istore 4, 2) := dk_54 4 (dk_at dksX11_part_9 3 rfl rfl)
theorem dX11_part_214 : decode cX11_part 214 = .ok (.aload_n 0, 1) := dk_42 (dk_at dksX11_part_9 5 rfl rfl)
theorem dX11_part_215 : decode cX11_part 215 = .ok (.iload 4, 2) := dk_21 4 (dk_at dksX11_part_9 6 rfl rfl)
theorem dX11_part_217 : decode cX11_part 217 = .ok (.invokevirtual 199, 3) := dk_182 0 199 (dk_at dksX11_part_9 8 rfl rfl)
theorem dX11_part_220 : decode cX11_part 220 = .ok (.istore 5, 2) := dk_54 5 (dk_at dksX11_part_9 11 rfl rfl)
theorem dX11_part_222 : decode cX11_part 222 = .ok (.new 214, 3) := dk_187 0 214 (dk_at dksX11_part_9 13 rfl rfl)
theorem dX11_part_225 : decode cX11_part 225 = .ok (.dup, 1) := dk_89 (dk_at dksX11_part_9 16 rfl rfl)
theorem dX11_part_226 : decode cX11_part 226 = .ok (.iload_n 3, 1) := dk_29 (dk_at dksX11_part_9 17 rfl rfl)
theorem dX11_part_227 : decode cX11_part 227 = .ok (.iload 5, 2) := dk_21 5 (dk_at dksX11_part_9 18 rfl rfl)
theorem dX11_part_229 : decode cX11_part 229 = .ok (.aload_n 0, 1) := dk_42 (dk_at dksX11_part_9 20 rfl rfl)
theorem dX11_part_230 : decode cX11_part 230 = .ok (.iload 4, 2) := dk_21 4 (dk_at dksX11_part_9 21 rfl rfl)
theorem dX11_part_232 : decode cX11_part 232 = .ok (.invokevirtual 199, 3) := dk_182 0 199 (dk_at dksX11_part_10 0 rfl rfl)
theorem dX11_part_235 : decode cX11_part 235 = .ok (.invokespecial 216, 3) := dk_183 0 216 (dk_at dksX11_part_10 3 rfl rfl)
theorem dX11_part_238 : decode cX11_part 238 = .ok (.areturn, 1) := dk_176 (dk_at dksX11_part_10 6 rfl rfl)
theorem dX11_part_239 : decode cX11_part 239 = .ok (.aload_n 0, 1) := dk_42 (dk_at dksX11_part_10 7 rfl rfl)
theorem dX11_part_240 : decode cX11_part 240 = .ok (.ldc 219, 2) := dk_18 219 (dk_at dksX11_part_10 8 rfl rfl)
theorem dX11_part_242 : decode cX11_part 242 = .ok (.invokevirtual 135, 3) := dk_182 0 135 (dk_at dksX11_part_10 10 rfl rfl)
theorem dX11_part_245 : decode cX11_part 245 = .ok (.ifCond .eq 30, 3) := dk_153 0 30 (dk_at dksX11_part_10 13 rfl rfl)
theorem dX11_part_248 : decode cX11_part 248 = .ok (.aload_n 0, 1) := dk_42 (dk_at dksX11_part_10 16 rfl rfl)
theorem dX11_part_249 : decode cX11_part 249 = .ok (.getfield 37, 3) := dk_180 0 37 (dk_at dksX11_part_10 17 rfl rfl)
theorem dX11_part_252 : decode cX11_part 252 = .ok (.istore_n 2, 1) := dk_61 (dk_at dksX11_part_10 20 rfl rfl)
theorem dX11_part_253 : decode cX11_part 253 = .ok (.aload_n 0, 1) := dk_42 (dk_at dksX11_part_10 21 rfl rfl)
theorem dX11_part_254 : decode cX11_part 254 = .ok (.invokevirtual 207, 3) := dk_182 0 207 (dk_at dksX11_part_11 0 rfl rfl)
theorem dX11_part_257 : decode cX11_part 257 = .ok (.istore_n 3, 1) := dk_62 (dk_at dksX11_part_11 3 rfl rfl)
theorem dX11_part_258 : decode cX11_part 258 = .ok (.aload_n 0, 1) := dk_42 (dk_at dksX11_part_11 4 rfl rfl)
theorem dX11_part_259 : decode cX11_part 259 = .ok (.iload_n 3, 1) := dk_29 (dk_at dksX11_part_11 5 rfl rfl)
theorem dX11_part_260 : decode cX11_part 260 = .ok (.iload_n 2, 1) := dk_28 (dk_at dksX11_part_11 6 rfl rfl)
theorem dX11_part_261 : decode cX11_part 261 = .ok (.invokevirtual 210, 3) := dk_182 0 210 (dk_at dksX11_part_11 7 rfl rfl)
theorem dX11_part_264 : decode cX11_part 264 = .ok (.istore 4, 2) := dk_54 4 (dk_at dksX11_part_11 10 rfl rfl)
theorem dX11_part_266 : decode cX11_part 266 = .ok (.new 221, 3) := dk_187 0 221 (dk_at dksX11_part_11 12 rfl rfl)
theorem dX11_part_269 : decode cX11_part 269 = .ok (.dup, 1) := dk_89 (dk_at dksX11_part_11 15 rfl rfl)
theorem dX11_part_270 : decode cX11_part 270 = .ok (.iload_n 3, 1) := dk_29 (dk_at dksX11_part_11 16 rfl rfl)
theorem dX11_part_271 : decode cX11_part 271 = .ok (.invokespecial 223, 3) := dk_183 0 223 (dk_at dksX11_part_11 17 rfl rfl)
theorem dX11_part_274 : decode cX11_part 274 = .ok (.areturn, 1) := dk_176 (dk_at dksX11_part_11 20 rfl rfl)
theorem dX11_part_275 : decode cX11_part 275 = .ok (.aload_n 0, 1) := dk_42 (dk_at dksX11_part_11 21 rfl rfl)
theorem dX11_part_276 : decode cX11_part 276 = .ok (.invokevirtual 207, 3) := dk_182 0 207 (dk_at dksX11_part_12 0 rfl rfl)
theorem dX11_part_279 : decode cX11_part 279 = .ok (.istore_n 2, 1) := dk_61 (dk_at dksX11_part_12 3 rfl rfl)
theorem dX11_part_280 : decode cX11_part 280 = .ok (.aload_n 0, 1) := dk_42 (dk_at dksX11_part_12 4 rfl rfl)
theorem dX11_part_281 : decode cX11_part 281 = .ok (.aload_n 0, 1) := dk_42 (dk_at dksX11_part_12 5 rfl rfl)
theorem dX11_part_282 : decode cX11_part 282 = .ok (.getfield 23, 3) := dk_180 0 23 (dk_at dksX11_part_12 6 rfl rfl)
theorem dX11_part_285 : decode cX11_part 285 = .ok (.iload_n 2, 1) := dk_28 (dk_at dksX11_part_12 9 rfl rfl)
theorem dX11_part_286 : decode cX11_part 286 = .ok (.invokevirtual 145, 3) := dk_182 0 145 (dk_at dksX11_part_12 10 rfl rfl)
theorem dX11_part_289 : decode cX11_part 289 = .ok (.checkcast 149, 3) := dk_192 0 149 (dk_at dksX11_part_12 13 rfl rfl)
theorem dX11_part_292 : decode cX11_part 292 = .ok (.getfield 155, 3) := dk_180 0 155 (dk_at dksX11_part_12 16 rfl rfl)
theorem dX11_part_295 : decode cX11_part 295 = .ok (.invokevirtual 199, 3) := dk_182 0 199 (dk_at dksX11_part_12 19 rfl rfl)
theorem dX11_part_298 : decode cX11_part 298 = .ok (.istore_n 3, 1) := dk_62 (dk_at dksX11_part_12 22 rfl rfl)
theorem dX11_part_299 : decode cX11_part 299 = .ok (.new 224, 3) := dk_187 0 224 (dk_at dksX11_part_13 0 rfl rfl)
theorem dX11_part_302 : decode cX11_part 302 = .ok (.dup, 1) := dk_89 (dk_at dksX11_part_13 3 rfl rfl)
theorem dX11_part_303 : decode cX11_part 303 = .ok (.iload_n 2, 1) := dk_28 (dk_at dksX11_part_13 4 rfl rfl)
theorem dX11_part_304 : decode cX11_part 304 = .ok (.iload_n 3, 1) := dk_29 (dk_at dksX11_part_13 5 rfl rfl)
theorem dX11_part_305 : decode cX11_part 305 = .ok (.aload_n 0, 1) := dk_42 (dk_at dksX11_part_13 6 rfl rfl)
theorem dX11_part_306 : decode cX11_part 306 = .ok (.getfield 23, 3) := dk_180 0 23 (dk_at dksX11_part_13 7 rfl rfl)
theorem dX11_part_309 : decode cX11_part 309 = .ok (.iload_n 2, 1) := dk_28 (dk_at dksX11_part_13 10 rfl rfl)
theorem dX11_part_310 : decode cX11_part 310 = .ok (.invokevirtual 145, 3) := dk_182 0 145 (dk_at dksX11_part_13 11 rfl rfl)
theorem dX11_part_313 : decode cX11_part 313 = .ok (.checkcast 149, 3) := dk_192 0 149 (dk_at dksX11_part_13 14 rfl rfl)
theorem dX11_part_316 : decode cX11_part 316 = .ok (.invokevirtual 226, 3) := dk_182 0 226 (dk_at dksX11_part_13 17 rfl rfl)
theorem dX11_part_319 : decode cX11_part 319 = .ok (.ifCond .eq 7, 3) := dk_153 0 7 (dk_at dksX11_part_13 20 rfl rfl)
theorem dX11_part_322 : decode cX11_part 322 = .ok (.iconst (-1), 1) := dk_2 (dk_at dksX11_part_13 23 rfl rfl)
theorem dX11_part_323 : decode cX11_part 323 = .ok (.goto 21, 3) := dk_167 0 21 (dk_at dksX11_part_14 0 rfl rfl)
theorem dX11_part_326 : decode cX11_part 326 = .ok (.aload_n 0, 1) := dk_42 (dk_at dksX11_part_14 3 rfl rfl)
theorem dX11_part_327 : decode cX11_part 327 = .ok (.aload_n 0, 1) := dk_42 (dk_at dksX11_part_14 4 rfl rfl)
theorem dX11_part_328 : decode cX11_part 328 = .ok (.getfield 23, 3) := dk_180 0 23 (dk_at dksX11_part_14 5 rfl rfl)
theorem dX11_part_331 : decode cX11_part 331 = .ok (.iload_n 2, 1) := dk_28 (dk_at dksX11_part_14 8 rfl rfl)
theorem dX11_part_332 : decode cX11_part 332 = .ok (.invokevirtual 145, 3) := dk_182 0 145 (dk_at dksX11_part_14 9 rfl rfl)
theorem dX11_part_335 : decode cX11_part 335 = .ok (.checkcast 149, 3) := dk_192 0 149 (dk_at dksX11_part_14 12 rfl rfl)
theorem dX11_part_338 : decode cX11_part 338 = .ok (.getfield 229, 3) := dk_180 0 229 (dk_at dksX11_part_14 15 rfl rfl)
theorem dX11_part_341 : decode cX11_part 341 = .ok (.invokevirtual 199, 3) := dk_182 0 199 (dk_at dksX11_part_14 18 rfl rfl)
theorem dX11_part_344 : decode cX11_part 344 = .ok (.invokespecial 232, 3) := dk_183 0 232 (dk_at dksX11_part_14 21 rfl rfl)
theorem dX11_part_347 : decode cX11_part 347 = .ok (.areturn, 1) := dk_176 (dk_at dksX11_part_15 0 rfl rfl)
abbrev cX11_also : ByteArray := prog_23_method_9_code
def yX11_also : MethodName := ⟨RX11, "also", "(II)V"⟩
def dkwX11_also_2 : List UInt8 := [183, 0, 91, 181, 0, 104, 177]
abbrev dktX11_also_2 : List UInt8 := dkwX11_also_2 ++ []
def dkwX11_also_1 : List UInt8 := [180, 0, 108, 160, 0, 27, 27, 42, 180, 0, 104, 180, 0, 109, 162, 0, 16, 42, 187, 0, 89, 89, 27, 28]
abbrev dktX11_also_1 : List UInt8 := dkwX11_also_1 ++ dktX11_also_2
def dkwX11_also_0 : List UInt8 := [42, 180, 0, 104, 198, 0, 36, 28, 42, 180, 0, 104, 180, 0, 108, 161, 0, 25, 28, 42, 180, 0, 104]
abbrev dktX11_also_0 : List UInt8 := dkwX11_also_0 ++ dktX11_also_1
theorem dksX11_also_0 : cX11_also.data.toList.drop 0 = dktX11_also_0 := by decide +kernel
theorem dksX11_also_1 : cX11_also.data.toList.drop 23 = dktX11_also_1 := dk_seg dksX11_also_0 23 rfl rfl
theorem dksX11_also_2 : cX11_also.data.toList.drop 47 = dktX11_also_2 := dk_seg dksX11_also_1 24 rfl rfl
theorem dX11_also_0 : decode cX11_also 0 = .ok (.aload_n 0, 1) := dk_42 (dk_at dksX11_also_0 0 rfl rfl)
theorem dX11_also_1 : decode cX11_also 1 = .ok (.getfield 104, 3) := dk_180 0 104 (dk_at dksX11_also_0 1 rfl rfl)
theorem dX11_also_4 : decode cX11_also 4 = .ok (.ifnull 36, 3) := dk_198 0 36 (dk_at dksX11_also_0 4 rfl rfl)
theorem dX11_also_7 : decode cX11_also 7 = .ok (.iload_n 2, 1) := dk_28 (dk_at dksX11_also_0 7 rfl rfl)
theorem dX11_also_8 : decode cX11_also 8 = .ok (.aload_n 0, 1) := dk_42 (dk_at dksX11_also_0 8 rfl rfl)
theorem dX11_also_9 : decode cX11_also 9 = .ok (.getfield 104, 3) := dk_180 0 104 (dk_at dksX11_also_0 9 rfl rfl)
theorem dX11_also_12 : decode cX11_also 12 = .ok (.getfield 108, 3) := dk_180 0 108 (dk_at dksX11_also_0 12 rfl rfl)
theorem dX11_also_15 : decode cX11_also 15 = .ok (.if_icmp .lt 25, 3) := dk_161 0 25 (dk_at dksX11_also_0 15 rfl rfl)
theorem dX11_also_18 : decode cX11_also 18 = .ok (.iload_n 2, 1) := dk_28 (dk_at dksX11_also_0 18 rfl rfl)
theorem dX11_also_19 : decode cX11_also 19 = .ok (.aload_n 0, 1) := dk_42 (dk_at dksX11_also_0 19 rfl rfl)
theorem dX11_also_20 : decode cX11_also 20 = .ok (.getfield 104, 3) := dk_180 0 104 (dk_at dksX11_also_0 20 rfl rfl)
theorem dX11_also_23 : decode cX11_also 23 = .ok (.getfield 108, 3) := dk_180 0 108 (dk_at dksX11_also_1 0 rfl rfl)
theorem dX11_also_26 : decode cX11_also 26 = .ok (.if_icmp .ne 27, 3) := dk_160 0 27 (dk_at dksX11_also_1 3 rfl rfl)
theorem dX11_also_29 : decode cX11_also 29 = .ok (.iload_n 1, 1) := dk_27 (dk_at dksX11_also_1 6 rfl rfl)
theorem dX11_also_30 : decode cX11_also 30 = .ok (.aload_n 0, 1) := dk_42 (dk_at dksX11_also_1 7 rfl rfl)
theorem dX11_also_31 : decode cX11_also 31 = .ok (.getfield 104, 3) := dk_180 0 104 (dk_at dksX11_also_1 8 rfl rfl)
theorem dX11_also_34 : decode cX11_also 34 = .ok (.getfield 109, 3) := dk_180 0 109 (dk_at dksX11_also_1 11 rfl rfl)
theorem dX11_also_37 : decode cX11_also 37 = .ok (.if_icmp .ge 16, 3) := dk_162 0 16 (dk_at dksX11_also_1 14 rfl rfl)
theorem dX11_also_40 : decode cX11_also 40 = .ok (.aload_n 0, 1) := dk_42 (dk_at dksX11_also_1 17 rfl rfl)
theorem dX11_also_41 : decode cX11_also 41 = .ok (.new 89, 3) := dk_187 0 89 (dk_at dksX11_also_1 18 rfl rfl)
theorem dX11_also_44 : decode cX11_also 44 = .ok (.dup, 1) := dk_89 (dk_at dksX11_also_1 21 rfl rfl)
theorem dX11_also_45 : decode cX11_also 45 = .ok (.iload_n 1, 1) := dk_27 (dk_at dksX11_also_1 22 rfl rfl)
theorem dX11_also_46 : decode cX11_also 46 = .ok (.iload_n 2, 1) := dk_28 (dk_at dksX11_also_1 23 rfl rfl)
theorem dX11_also_47 : decode cX11_also 47 = .ok (.invokespecial 91, 3) := dk_183 0 91 (dk_at dksX11_also_2 0 rfl rfl)
theorem dX11_also_50 : decode cX11_also 50 = .ok (.putfield 104, 3) := dk_181 0 104 (dk_at dksX11_also_2 3 rfl rfl)
theorem dX11_also_53 : decode cX11_also 53 = .ok (.return_, 1) := dk_177 (dk_at dksX11_also_2 6 rfl rfl)
abbrev cX11_takes : ByteArray := prog_23_method_7_code
def yX11_takes : MethodName := ⟨RX11, "takes", "(Ljava/lang/String;)Z"⟩
def dkwX11_takes_1 : List UInt8 := [182, 0, 27, 4, 172]
abbrev dktX11_takes_1 : List UInt8 := dkwX11_takes_1 ++ []
def dkwX11_takes_0 : List UInt8 := [42, 180, 0, 46, 178, 0, 74, 166, 0, 14, 42, 180, 0, 70, 43, 182, 0, 94, 154, 0, 5, 3, 172, 42]
abbrev dktX11_takes_0 : List UInt8 := dkwX11_takes_0 ++ dktX11_takes_1
theorem dksX11_takes_0 : cX11_takes.data.toList.drop 0 = dktX11_takes_0 := by decide +kernel
theorem dksX11_takes_1 : cX11_takes.data.toList.drop 24 = dktX11_takes_1 := dk_seg dksX11_takes_0 24 rfl rfl
theorem dX11_takes_0 : decode cX11_takes 0 = .ok (.aload_n 0, 1) := dk_42 (dk_at dksX11_takes_0 0 rfl rfl)
theorem dX11_takes_1 : decode cX11_takes 1 = .ok (.getfield 46, 3) := dk_180 0 46 (dk_at dksX11_takes_0 1 rfl rfl)
theorem dX11_takes_4 : decode cX11_takes 4 = .ok (.getstatic 74, 3) := dk_178 0 74 (dk_at dksX11_takes_0 4 rfl rfl)
theorem dX11_takes_7 : decode cX11_takes 7 = .ok (.if_acmp .ne 14, 3) := dk_166 0 14 (dk_at dksX11_takes_0 7 rfl rfl)
theorem dX11_takes_10 : decode cX11_takes 10 = .ok (.aload_n 0, 1) := dk_42 (dk_at dksX11_takes_0 10 rfl rfl)
theorem dX11_takes_11 : decode cX11_takes 11 = .ok (.getfield 70, 3) := dk_180 0 70 (dk_at dksX11_takes_0 11 rfl rfl)
theorem dX11_takes_14 : decode cX11_takes 14 = .ok (.aload_n 1, 1) := dk_43 (dk_at dksX11_takes_0 14 rfl rfl)
theorem dX11_takes_15 : decode cX11_takes 15 = .ok (.invokevirtual 94, 3) := dk_182 0 94 (dk_at dksX11_takes_0 15 rfl rfl)
theorem dX11_takes_18 : decode cX11_takes 18 = .ok (.ifCond .ne 5, 3) := dk_154 0 5 (dk_at dksX11_takes_0 18 rfl rfl)
theorem dX11_takes_21 : decode cX11_takes 21 = .ok (.iconst 0, 1) := dk_3 (dk_at dksX11_takes_0 21 rfl rfl)
theorem dX11_takes_22 : decode cX11_takes 22 = .ok (.ireturn, 1) := dk_172 (dk_at dksX11_takes_0 22 rfl rfl)
theorem dX11_takes_23 : decode cX11_takes 23 = .ok (.aload_n 0, 1) := dk_42 (dk_at dksX11_takes_0 23 rfl rfl)
theorem dX11_takes_24 : decode cX11_takes 24 = .ok (.invokevirtual 27, 3) := dk_182 0 27 (dk_at dksX11_takes_1 0 rfl rfl)
theorem dX11_takes_27 : decode cX11_takes 27 = .ok (.iconst 1, 1) := dk_4 (dk_at dksX11_takes_1 3 rfl rfl)
theorem dX11_takes_28 : decode cX11_takes 28 = .ok (.ireturn, 1) := dk_172 (dk_at dksX11_takes_1 4 rfl rfl)
abbrev cX11_each : ByteArray := prog_23_method_18_code
def yX11_each : MethodName := ⟨RX11, "each", "(LVillageStories$Often;I)LVillageStories$Part;"⟩
def dkwX11_each_4 : List UInt8 := [79, 187, 0, 244, 89, 43, 29, 21, 4, 21, 5, 25, 7, 183, 0, 246, 176]
abbrev dktX11_each_4 : List UInt8 := dkwX11_each_4 ++ []
def dkwX11_each_3 : List UInt8 := [42, 182, 0, 158, 58, 7, 42, 89, 180, 0, 233, 4, 100, 181, 0, 233, 42, 180, 0, 9, 21, 4, 21, 6]
abbrev dktX11_each_3 : List UInt8 := dkwX11_each_3 ++ dktX11_each_4
def dkwX11_each_2 : List UInt8 := [21, 4, 46, 54, 6, 42, 180, 0, 9, 21, 4, 21, 5, 79, 42, 89, 180, 0, 233, 4, 96, 181, 0, 233]
abbrev dktX11_each_2 : List UInt8 := dkwX11_each_2 ++ dktX11_each_3
def dkwX11_each_1 : List UInt8 := [182, 0, 239, 167, 0, 4, 3, 62, 42, 182, 0, 126, 54, 4, 42, 182, 0, 242, 54, 5, 42, 180, 0, 9]
abbrev dktX11_each_1 : List UInt8 := dkwX11_each_1 ++ dktX11_each_2
def dkwX11_each_0 : List UInt8 := [42, 180, 0, 233, 7, 161, 0, 9, 42, 8, 28, 182, 0, 129, 43, 182, 0, 236, 153, 0, 10, 42]
abbrev dktX11_each_0 : List UInt8 := dkwX11_each_0 ++ dktX11_each_1
theorem dksX11_each_0 : cX11_each.data.toList.drop 0 = dktX11_each_0 := by decide +kernel
theorem dksX11_each_1 : cX11_each.data.toList.drop 22 = dktX11_each_1 := dk_seg dksX11_each_0 22 rfl rfl
theorem dksX11_each_2 : cX11_each.data.toList.drop 46 = dktX11_each_2 := dk_seg dksX11_each_1 24 rfl rfl
theorem dksX11_each_3 : cX11_each.data.toList.drop 70 = dktX11_each_3 := dk_seg dksX11_each_2 24 rfl rfl
theorem dksX11_each_4 : cX11_each.data.toList.drop 94 = dktX11_each_4 := dk_seg dksX11_each_3 24 rfl rfl
theorem dX11_each_0 : decode cX11_each 0 = .ok (.aload_n 0, 1) := dk_42 (dk_at dksX11_each_0 0 rfl rfl)
theorem dX11_each_1 : decode cX11_each 1 = .ok (.getfield 233, 3) := dk_180 0 233 (dk_at dksX11_each_0 1 rfl rfl)
theorem dX11_each_4 : decode cX11_each 4 = .ok (.iconst 4, 1) := dk_7 (dk_at dksX11_each_0 4 rfl rfl)
theorem dX11_each_5 : decode cX11_each 5 = .ok (.if_icmp .lt 9, 3) := dk_161 0 9 (dk_at dksX11_each_0 5 rfl rfl)
theorem dX11_each_8 : decode cX11_each 8 = .ok (.aload_n 0, 1) := dk_42 (dk_at dksX11_each_0 8 rfl rfl)
theorem dX11_each_9 : decode cX11_each 9 = .ok (.iconst 5, 1) := dk_8 (dk_at dksX11_each_0 9 rfl rfl)
theorem dX11_each_10 : decode cX11_each 10 = .ok (.iload_n 2, 1) := dk_28 (dk_at dksX11_each_0 10 rfl rfl)
theorem dX11_each_11 : decode cX11_each 11 = .ok (.invokevirtual 129, 3) := dk_182 0 129 (dk_at dksX11_each_0 11 rfl rfl)
theorem dX11_each_14 : decode cX11_each 14 = .ok (.aload_n 1, 1) := dk_43 (dk_at dksX11_each_0 14 rfl rfl)
theorem dX11_each_15 : decode cX11_each 15 = .ok (.invokevirtual 236, 3) := dk_182 0 236 (dk_at dksX11_each_0 15 rfl rfl)
theorem dX11_each_18 : decode cX11_each 18 = .ok (.ifCond .eq 10, 3) := dk_153 0 10 (dk_at dksX11_each_0 18 rfl rfl)
theorem dX11_each_21 : decode cX11_each 21 = .ok (.aload_n 0, 1) := dk_42 (dk_at dksX11_each_0 21 rfl rfl)
theorem dX11_each_22 : decode cX11_each 22 = .ok (.invokevirtual 239, 3) := dk_182 0 239 (dk_at dksX11_each_1 0 rfl rfl)
theorem dX11_each_25 : decode cX11_each 25 = .ok (.goto 4, 3) := dk_167 0 4 (dk_at dksX11_each_1 3 rfl rfl)
theorem dX11_each_28 : decode cX11_each 28 = .ok (.iconst 0, 1) := dk_3 (dk_at dksX11_each_1 6 rfl rfl)
theorem dX11_each_29 : decode cX11_each 29 = .ok (.istore_n 3, 1) := dk_62 (dk_at dksX11_each_1 7 rfl rfl)
theorem dX11_each_30 : decode cX11_each 30 = .ok (.aload_n 0, 1) := dk_42 (dk_at dksX11_each_1 8 rfl rfl)
theorem dX11_each_31 : decode cX11_each 31 = .ok (.invokevirtual 126, 3) := dk_182 0 126 (dk_at dksX11_each_1 9 rfl rfl)
theorem dX11_each_34 : decode cX11_each 34 = .ok (.istore 4, 2) := dk_54 4 (dk_at dksX11_each_1 12 rfl rfl)
theorem dX11_each_36 : decode cX11_each 36 = .ok (.aload_n 0, 1) := dk_42 (dk_at dksX11_each_1 14 rfl rfl)
theorem dX11_each_37 : decode cX11_each 37 = .ok (.invokevirtual 242, 3) := dk_182 0 242 (dk_at dksX11_each_1 15 rfl rfl)
theorem dX11_each_40 : decode cX11_each 40 = .ok (.istore 5, 2) := dk_54 5 (dk_at dksX11_each_1 18 rfl rfl)
theorem dX11_each_42 : decode cX11_each 42 = .ok (.aload_n 0, 1) := dk_42 (dk_at dksX11_each_1 20 rfl rfl)
theorem dX11_each_43 : decode cX11_each 43 = .ok (.getfield 9, 3) := dk_180 0 9 (dk_at dksX11_each_1 21 rfl rfl)
theorem dX11_each_46 : decode cX11_each 46 = .ok (.iload 4, 2) := dk_21 4 (dk_at dksX11_each_2 0 rfl rfl)
theorem dX11_each_48 : decode cX11_each 48 = .ok (.iaload, 1) := dk_46 (dk_at dksX11_each_2 2 rfl rfl)
theorem dX11_each_49 : decode cX11_each 49 = .ok (.istore 6, 2) := dk_54 6 (dk_at dksX11_each_2 3 rfl rfl)
theorem dX11_each_51 : decode cX11_each 51 = .ok (.aload_n 0, 1) := dk_42 (dk_at dksX11_each_2 5 rfl rfl)
theorem dX11_each_52 : decode cX11_each 52 = .ok (.getfield 9, 3) := dk_180 0 9 (dk_at dksX11_each_2 6 rfl rfl)
theorem dX11_each_55 : decode cX11_each 55 = .ok (.iload 4, 2) := dk_21 4 (dk_at dksX11_each_2 9 rfl rfl)
theorem dX11_each_57 : decode cX11_each 57 = .ok (.iload 5, 2) := dk_21 5 (dk_at dksX11_each_2 11 rfl rfl)
theorem dX11_each_59 : decode cX11_each 59 = .ok (.iastore, 1) := dk_79 (dk_at dksX11_each_2 13 rfl rfl)
theorem dX11_each_60 : decode cX11_each 60 = .ok (.aload_n 0, 1) := dk_42 (dk_at dksX11_each_2 14 rfl rfl)
theorem dX11_each_61 : decode cX11_each 61 = .ok (.dup, 1) := dk_89 (dk_at dksX11_each_2 15 rfl rfl)
theorem dX11_each_62 : decode cX11_each 62 = .ok (.getfield 233, 3) := dk_180 0 233 (dk_at dksX11_each_2 16 rfl rfl)
theorem dX11_each_65 : decode cX11_each 65 = .ok (.iconst 1, 1) := dk_4 (dk_at dksX11_each_2 19 rfl rfl)
theorem dX11_each_66 : decode cX11_each 66 = .ok (.iadd, 1) := dk_96 (dk_at dksX11_each_2 20 rfl rfl)
theorem dX11_each_67 : decode cX11_each 67 = .ok (.putfield 233, 3) := dk_181 0 233 (dk_at dksX11_each_2 21 rfl rfl)
theorem dX11_each_70 : decode cX11_each 70 = .ok (.aload_n 0, 1) := dk_42 (dk_at dksX11_each_3 0 rfl rfl)
theorem dX11_each_71 : decode cX11_each 71 = .ok (.invokevirtual 158, 3) := dk_182 0 158 (dk_at dksX11_each_3 1 rfl rfl)
theorem dX11_each_74 : decode cX11_each 74 = .ok (.astore 7, 2) := dk_58 7 (dk_at dksX11_each_3 4 rfl rfl)
theorem dX11_each_76 : decode cX11_each 76 = .ok (.aload_n 0, 1) := dk_42 (dk_at dksX11_each_3 6 rfl rfl)
theorem dX11_each_77 : decode cX11_each 77 = .ok (.dup, 1) := dk_89 (dk_at dksX11_each_3 7 rfl rfl)
theorem dX11_each_78 : decode cX11_each 78 = .ok (.getfield 233, 3) := dk_180 0 233 (dk_at dksX11_each_3 8 rfl rfl)
theorem dX11_each_81 : decode cX11_each 81 = .ok (.iconst 1, 1) := dk_4 (dk_at dksX11_each_3 11 rfl rfl)
theorem dX11_each_82 : decode cX11_each 82 = .ok (.isub, 1) := dk_100 (dk_at dksX11_each_3 12 rfl rfl)
theorem dX11_each_83 : decode cX11_each 83 = .ok (.putfield 233, 3) := dk_181 0 233 (dk_at dksX11_each_3 13 rfl rfl)
theorem dX11_each_86 : decode cX11_each 86 = .ok (.aload_n 0, 1) := dk_42 (dk_at dksX11_each_3 16 rfl rfl)
theorem dX11_each_87 : decode cX11_each 87 = .ok (.getfield 9, 3) := dk_180 0 9 (dk_at dksX11_each_3 17 rfl rfl)
theorem dX11_each_90 : decode cX11_each 90 = .ok (.iload 4, 2) := dk_21 4 (dk_at dksX11_each_3 20 rfl rfl)
theorem dX11_each_92 : decode cX11_each 92 = .ok (.iload 6, 2) := dk_21 6 (dk_at dksX11_each_3 22 rfl rfl)
theorem dX11_each_94 : decode cX11_each 94 = .ok (.iastore, 1) := dk_79 (dk_at dksX11_each_4 0 rfl rfl)
theorem dX11_each_95 : decode cX11_each 95 = .ok (.new 244, 3) := dk_187 0 244 (dk_at dksX11_each_4 1 rfl rfl)
theorem dX11_each_98 : decode cX11_each 98 = .ok (.dup, 1) := dk_89 (dk_at dksX11_each_4 4 rfl rfl)
theorem dX11_each_99 : decode cX11_each 99 = .ok (.aload_n 1, 1) := dk_43 (dk_at dksX11_each_4 5 rfl rfl)
theorem dX11_each_100 : decode cX11_each 100 = .ok (.iload_n 3, 1) := dk_29 (dk_at dksX11_each_4 6 rfl rfl)
theorem dX11_each_101 : decode cX11_each 101 = .ok (.iload 4, 2) := dk_21 4 (dk_at dksX11_each_4 7 rfl rfl)
theorem dX11_each_103 : decode cX11_each 103 = .ok (.iload 5, 2) := dk_21 5 (dk_at dksX11_each_4 9 rfl rfl)
theorem dX11_each_105 : decode cX11_each 105 = .ok (.aload 7, 2) := dk_25 7 (dk_at dksX11_each_4 11 rfl rfl)
theorem dX11_each_107 : decode cX11_each 107 = .ok (.invokespecial 246, 3) := dk_183 0 246 (dk_at dksX11_each_4 13 rfl rfl)
theorem dX11_each_110 : decode cX11_each 110 = .ok (.areturn, 1) := dk_176 (dk_at dksX11_each_4 16 rfl rfl)
abbrev cX11_number : ByteArray := prog_23_method_8_code
def yX11_number : MethodName := ⟨RX11, "number", "()I"⟩
def dkwX11_number_1 : List UInt8 := [27, 172]
abbrev dktX11_number_1 : List UInt8 := dkwX11_number_1 ++ []
def dkwX11_number_0 : List UInt8 := [42, 180, 0, 46, 178, 0, 86, 165, 0, 8, 42, 182, 0, 100, 191, 42, 180, 0, 80, 60, 42, 182, 0, 27]
abbrev dktX11_number_0 : List UInt8 := dkwX11_number_0 ++ dktX11_number_1
theorem dksX11_number_0 : cX11_number.data.toList.drop 0 = dktX11_number_0 := by decide +kernel
theorem dksX11_number_1 : cX11_number.data.toList.drop 24 = dktX11_number_1 := dk_seg dksX11_number_0 24 rfl rfl
theorem dX11_number_0 : decode cX11_number 0 = .ok (.aload_n 0, 1) := dk_42 (dk_at dksX11_number_0 0 rfl rfl)
theorem dX11_number_1 : decode cX11_number 1 = .ok (.getfield 46, 3) := dk_180 0 46 (dk_at dksX11_number_0 1 rfl rfl)
theorem dX11_number_4 : decode cX11_number 4 = .ok (.getstatic 86, 3) := dk_178 0 86 (dk_at dksX11_number_0 4 rfl rfl)
theorem dX11_number_7 : decode cX11_number 7 = .ok (.if_acmp .eq 8, 3) := dk_165 0 8 (dk_at dksX11_number_0 7 rfl rfl)
theorem dX11_number_10 : decode cX11_number 10 = .ok (.aload_n 0, 1) := dk_42 (dk_at dksX11_number_0 10 rfl rfl)
theorem dX11_number_11 : decode cX11_number 11 = .ok (.invokevirtual 100, 3) := dk_182 0 100 (dk_at dksX11_number_0 11 rfl rfl)
theorem dX11_number_14 : decode cX11_number 14 = .ok (.athrow, 1) := dk_191 (dk_at dksX11_number_0 14 rfl rfl)
theorem dX11_number_15 : decode cX11_number 15 = .ok (.aload_n 0, 1) := dk_42 (dk_at dksX11_number_0 15 rfl rfl)
theorem dX11_number_16 : decode cX11_number 16 = .ok (.getfield 80, 3) := dk_180 0 80 (dk_at dksX11_number_0 16 rfl rfl)
theorem dX11_number_19 : decode cX11_number 19 = .ok (.istore_n 1, 1) := dk_60 (dk_at dksX11_number_0 19 rfl rfl)
theorem dX11_number_20 : decode cX11_number 20 = .ok (.aload_n 0, 1) := dk_42 (dk_at dksX11_number_0 20 rfl rfl)
theorem dX11_number_21 : decode cX11_number 21 = .ok (.invokevirtual 27, 3) := dk_182 0 27 (dk_at dksX11_number_0 21 rfl rfl)
theorem dX11_number_24 : decode cX11_number 24 = .ok (.iload_n 1, 1) := dk_27 (dk_at dksX11_number_1 0 rfl rfl)
theorem dX11_number_25 : decode cX11_number 25 = .ok (.ireturn, 1) := dk_172 (dk_at dksX11_number_1 1 rfl rfl)
abbrev cX11_wrong : ByteArray := prog_23_method_6_code
def yX11_wrong : MethodName := ⟨RX11, "wrong", "()LVillageStories$Fault;"⟩
def dkwX11_wrong_0 : List UInt8 := [187, 0, 89, 89, 4, 42, 180, 0, 37, 183, 0, 91, 176]
abbrev dktX11_wrong_0 : List UInt8 := dkwX11_wrong_0 ++ []
theorem dksX11_wrong_0 : cX11_wrong.data.toList.drop 0 = dktX11_wrong_0 := by decide +kernel
theorem dX11_wrong_0 : decode cX11_wrong 0 = .ok (.new 89, 3) := dk_187 0 89 (dk_at dksX11_wrong_0 0 rfl rfl)
theorem dX11_wrong_3 : decode cX11_wrong 3 = .ok (.dup, 1) := dk_89 (dk_at dksX11_wrong_0 3 rfl rfl)
theorem dX11_wrong_4 : decode cX11_wrong 4 = .ok (.iconst 1, 1) := dk_4 (dk_at dksX11_wrong_0 4 rfl rfl)
theorem dX11_wrong_5 : decode cX11_wrong 5 = .ok (.aload_n 0, 1) := dk_42 (dk_at dksX11_wrong_0 5 rfl rfl)
theorem dX11_wrong_6 : decode cX11_wrong 6 = .ok (.getfield 37, 3) := dk_180 0 37 (dk_at dksX11_wrong_0 6 rfl rfl)
theorem dX11_wrong_9 : decode cX11_wrong 9 = .ok (.invokespecial 91, 3) := dk_183 0 91 (dk_at dksX11_wrong_0 9 rfl rfl)
theorem dX11_wrong_12 : decode cX11_wrong 12 = .ok (.areturn, 1) := dk_176 (dk_at dksX11_wrong_0 12 rfl rfl)
abbrev cX11_var : ByteArray := prog_23_method_11_code
def yX11_var : MethodName := ⟨RX11, "var", "()I"⟩
def dkwX11_var_0 : List UInt8 := [42, 18, 120, 7, 182, 0, 122, 60, 27, 2, 160, 0, 8, 42, 182, 0, 100, 191, 42, 182, 0, 27, 27, 172]
abbrev dktX11_var_0 : List UInt8 := dkwX11_var_0 ++ []
theorem dksX11_var_0 : cX11_var.data.toList.drop 0 = dktX11_var_0 := by decide +kernel
theorem dX11_var_0 : decode cX11_var 0 = .ok (.aload_n 0, 1) := dk_42 (dk_at dksX11_var_0 0 rfl rfl)
theorem dX11_var_1 : decode cX11_var 1 = .ok (.ldc 120, 2) := dk_18 120 (dk_at dksX11_var_0 1 rfl rfl)
theorem dX11_var_3 : decode cX11_var 3 = .ok (.iconst 4, 1) := dk_7 (dk_at dksX11_var_0 3 rfl rfl)
theorem dX11_var_4 : decode cX11_var 4 = .ok (.invokevirtual 122, 3) := dk_182 0 122 (dk_at dksX11_var_0 4 rfl rfl)
theorem dX11_var_7 : decode cX11_var 7 = .ok (.istore_n 1, 1) := dk_60 (dk_at dksX11_var_0 7 rfl rfl)
theorem dX11_var_8 : decode cX11_var 8 = .ok (.iload_n 1, 1) := dk_27 (dk_at dksX11_var_0 8 rfl rfl)
theorem dX11_var_9 : decode cX11_var 9 = .ok (.iconst (-1), 1) := dk_2 (dk_at dksX11_var_0 9 rfl rfl)
theorem dX11_var_10 : decode cX11_var 10 = .ok (.if_icmp .ne 8, 3) := dk_160 0 8 (dk_at dksX11_var_0 10 rfl rfl)
theorem dX11_var_13 : decode cX11_var 13 = .ok (.aload_n 0, 1) := dk_42 (dk_at dksX11_var_0 13 rfl rfl)
theorem dX11_var_14 : decode cX11_var 14 = .ok (.invokevirtual 100, 3) := dk_182 0 100 (dk_at dksX11_var_0 14 rfl rfl)
theorem dX11_var_17 : decode cX11_var 17 = .ok (.athrow, 1) := dk_191 (dk_at dksX11_var_0 17 rfl rfl)
theorem dX11_var_18 : decode cX11_var 18 = .ok (.aload_n 0, 1) := dk_42 (dk_at dksX11_var_0 18 rfl rfl)
theorem dX11_var_19 : decode cX11_var 19 = .ok (.invokevirtual 27, 3) := dk_182 0 27 (dk_at dksX11_var_0 19 rfl rfl)
theorem dX11_var_22 : decode cX11_var 22 = .ok (.iload_n 1, 1) := dk_27 (dk_at dksX11_var_0 22 rfl rfl)
theorem dX11_var_23 : decode cX11_var 23 = .ok (.ireturn, 1) := dk_172 (dk_at dksX11_var_0 23 rfl rfl)
abbrev cX11_letter : ByteArray := prog_23_method_10_code
def yX11_letter : MethodName := ⟨RX11, "letter", "(Ljava/lang/String;I)I"⟩
def dkwX11_letter_2 : List UInt8 := [2, 172]
abbrev dktX11_letter_2 : List UInt8 := dkwX11_letter_2 ++ []
def dkwX11_letter_1 : List UInt8 := [180, 0, 70, 3, 182, 0, 113, 182, 0, 117, 167, 0, 4, 2, 62, 29, 28, 162, 0, 7, 29, 167, 0, 4]
abbrev dktX11_letter_1 : List UInt8 := dkwX11_letter_1 ++ dktX11_letter_2
def dkwX11_letter_0 : List UInt8 := [42, 180, 0, 46, 178, 0, 74, 166, 0, 29, 42, 180, 0, 70, 182, 0, 112, 4, 160, 0, 18, 43, 42]
abbrev dktX11_letter_0 : List UInt8 := dkwX11_letter_0 ++ dktX11_letter_1
theorem dksX11_letter_0 : cX11_letter.data.toList.drop 0 = dktX11_letter_0 := by decide +kernel
theorem dksX11_letter_1 : cX11_letter.data.toList.drop 23 = dktX11_letter_1 := dk_seg dksX11_letter_0 23 rfl rfl
theorem dksX11_letter_2 : cX11_letter.data.toList.drop 47 = dktX11_letter_2 := dk_seg dksX11_letter_1 24 rfl rfl
theorem dX11_letter_0 : decode cX11_letter 0 = .ok (.aload_n 0, 1) := dk_42 (dk_at dksX11_letter_0 0 rfl rfl)
theorem dX11_letter_1 : decode cX11_letter 1 = .ok (.getfield 46, 3) := dk_180 0 46 (dk_at dksX11_letter_0 1 rfl rfl)
theorem dX11_letter_4 : decode cX11_letter 4 = .ok (.getstatic 74, 3) := dk_178 0 74 (dk_at dksX11_letter_0 4 rfl rfl)
theorem dX11_letter_7 : decode cX11_letter 7 = .ok (.if_acmp .ne 29, 3) := dk_166 0 29 (dk_at dksX11_letter_0 7 rfl rfl)
theorem dX11_letter_10 : decode cX11_letter 10 = .ok (.aload_n 0, 1) := dk_42 (dk_at dksX11_letter_0 10 rfl rfl)
theorem dX11_letter_11 : decode cX11_letter 11 = .ok (.getfield 70, 3) := dk_180 0 70 (dk_at dksX11_letter_0 11 rfl rfl)
theorem dX11_letter_14 : decode cX11_letter 14 = .ok (.invokevirtual 112, 3) := dk_182 0 112 (dk_at dksX11_letter_0 14 rfl rfl)
theorem dX11_letter_17 : decode cX11_letter 17 = .ok (.iconst 1, 1) := dk_4 (dk_at dksX11_letter_0 17 rfl rfl)
theorem dX11_letter_18 : decode cX11_letter 18 = .ok (.if_icmp .ne 18, 3) := dk_160 0 18 (dk_at dksX11_letter_0 18 rfl rfl)
theorem dX11_letter_21 : decode cX11_letter 21 = .ok (.aload_n 1, 1) := dk_43 (dk_at dksX11_letter_0 21 rfl rfl)
theorem dX11_letter_22 : decode cX11_letter 22 = .ok (.aload_n 0, 1) := dk_42 (dk_at dksX11_letter_0 22 rfl rfl)
theorem dX11_letter_23 : decode cX11_letter 23 = .ok (.getfield 70, 3) := dk_180 0 70 (dk_at dksX11_letter_1 0 rfl rfl)
theorem dX11_letter_26 : decode cX11_letter 26 = .ok (.iconst 0, 1) := dk_3 (dk_at dksX11_letter_1 3 rfl rfl)
theorem dX11_letter_27 : decode cX11_letter 27 = .ok (.invokevirtual 113, 3) := dk_182 0 113 (dk_at dksX11_letter_1 4 rfl rfl)
theorem dX11_letter_30 : decode cX11_letter 30 = .ok (.invokevirtual 117, 3) := dk_182 0 117 (dk_at dksX11_letter_1 7 rfl rfl)
theorem dX11_letter_33 : decode cX11_letter 33 = .ok (.goto 4, 3) := dk_167 0 4 (dk_at dksX11_letter_1 10 rfl rfl)
theorem dX11_letter_36 : decode cX11_letter 36 = .ok (.iconst (-1), 1) := dk_2 (dk_at dksX11_letter_1 13 rfl rfl)
theorem dX11_letter_37 : decode cX11_letter 37 = .ok (.istore_n 3, 1) := dk_62 (dk_at dksX11_letter_1 14 rfl rfl)
theorem dX11_letter_38 : decode cX11_letter 38 = .ok (.iload_n 3, 1) := dk_29 (dk_at dksX11_letter_1 15 rfl rfl)
theorem dX11_letter_39 : decode cX11_letter 39 = .ok (.iload_n 2, 1) := dk_28 (dk_at dksX11_letter_1 16 rfl rfl)
theorem dX11_letter_40 : decode cX11_letter 40 = .ok (.if_icmp .ge 7, 3) := dk_162 0 7 (dk_at dksX11_letter_1 17 rfl rfl)
theorem dX11_letter_43 : decode cX11_letter 43 = .ok (.iload_n 3, 1) := dk_29 (dk_at dksX11_letter_1 20 rfl rfl)
theorem dX11_letter_44 : decode cX11_letter 44 = .ok (.goto 4, 3) := dk_167 0 4 (dk_at dksX11_letter_1 21 rfl rfl)
theorem dX11_letter_47 : decode cX11_letter 47 = .ok (.iconst (-1), 1) := dk_2 (dk_at dksX11_letter_2 0 rfl rfl)
theorem dX11_letter_48 : decode cX11_letter 48 = .ok (.ireturn, 1) := dk_172 (dk_at dksX11_letter_2 1 rfl rfl)
abbrev cX11_kind : ByteArray := prog_23_method_13_code
def yX11_kind : MethodName := ⟨RX11, "kind", "()I"⟩
def dkwX11_kind_1 : List UInt8 := [167, 255, 234, 42, 182, 0, 100, 191]
abbrev dktX11_kind_1 : List UInt8 := dkwX11_kind_1 ++ []
def dkwX11_kind_0 : List UInt8 := [3, 60, 27, 6, 162, 0, 23, 42, 178, 0, 131, 27, 50, 182, 0, 135, 153, 0, 5, 27, 172, 132, 1, 1]
abbrev dktX11_kind_0 : List UInt8 := dkwX11_kind_0 ++ dktX11_kind_1
theorem dksX11_kind_0 : cX11_kind.data.toList.drop 0 = dktX11_kind_0 := by decide +kernel
theorem dksX11_kind_1 : cX11_kind.data.toList.drop 24 = dktX11_kind_1 := dk_seg dksX11_kind_0 24 rfl rfl
theorem dX11_kind_0 : decode cX11_kind 0 = .ok (.iconst 0, 1) := dk_3 (dk_at dksX11_kind_0 0 rfl rfl)
theorem dX11_kind_1 : decode cX11_kind 1 = .ok (.istore_n 1, 1) := dk_60 (dk_at dksX11_kind_0 1 rfl rfl)
theorem dX11_kind_2 : decode cX11_kind 2 = .ok (.iload_n 1, 1) := dk_27 (dk_at dksX11_kind_0 2 rfl rfl)
theorem dX11_kind_3 : decode cX11_kind 3 = .ok (.iconst 3, 1) := dk_6 (dk_at dksX11_kind_0 3 rfl rfl)
theorem dX11_kind_4 : decode cX11_kind 4 = .ok (.if_icmp .ge 23, 3) := dk_162 0 23 (dk_at dksX11_kind_0 4 rfl rfl)
theorem dX11_kind_7 : decode cX11_kind 7 = .ok (.aload_n 0, 1) := dk_42 (dk_at dksX11_kind_0 7 rfl rfl)
theorem dX11_kind_8 : decode cX11_kind 8 = .ok (.getstatic 131, 3) := dk_178 0 131 (dk_at dksX11_kind_0 8 rfl rfl)
theorem dX11_kind_11 : decode cX11_kind 11 = .ok (.iload_n 1, 1) := dk_27 (dk_at dksX11_kind_0 11 rfl rfl)
theorem dX11_kind_12 : decode cX11_kind 12 = .ok (.aaload, 1) := dk_50 (dk_at dksX11_kind_0 12 rfl rfl)
theorem dX11_kind_13 : decode cX11_kind 13 = .ok (.invokevirtual 135, 3) := dk_182 0 135 (dk_at dksX11_kind_0 13 rfl rfl)
theorem dX11_kind_16 : decode cX11_kind 16 = .ok (.ifCond .eq 5, 3) := dk_153 0 5 (dk_at dksX11_kind_0 16 rfl rfl)
theorem dX11_kind_19 : decode cX11_kind 19 = .ok (.iload_n 1, 1) := dk_27 (dk_at dksX11_kind_0 19 rfl rfl)
theorem dX11_kind_20 : decode cX11_kind 20 = .ok (.ireturn, 1) := dk_172 (dk_at dksX11_kind_0 20 rfl rfl)
theorem dX11_kind_21 : decode cX11_kind 21 = .ok (.iinc 1 1, 3) := dk_132 1 1 (dk_at dksX11_kind_0 21 rfl rfl)
theorem dX11_kind_24 : decode cX11_kind 24 = .ok (.goto (-22), 3) := dk_167 255 234 (dk_at dksX11_kind_1 0 rfl rfl)
theorem dX11_kind_27 : decode cX11_kind 27 = .ok (.aload_n 0, 1) := dk_42 (dk_at dksX11_kind_1 3 rfl rfl)
theorem dX11_kind_28 : decode cX11_kind 28 = .ok (.invokevirtual 100, 3) := dk_182 0 100 (dk_at dksX11_kind_1 4 rfl rfl)
theorem dX11_kind_31 : decode cX11_kind 31 = .ok (.athrow, 1) := dk_191 (dk_at dksX11_kind_1 7 rfl rfl)
abbrev cX11_bound : ByteArray := prog_23_method_12_code
def yX11_bound : MethodName := ⟨RX11, "bound", "(I)I"⟩
def dkwX11_bound_2 : List UInt8 := [182, 0, 129, 29, 172]
abbrev dktX11_bound_2 : List UInt8 := dkwX11_bound_2 ++ []
def dkwX11_bound_1 : List UInt8 := [182, 0, 129, 167, 0, 24, 27, 2, 159, 0, 19, 42, 180, 0, 9, 29, 46, 27, 159, 0, 9, 42, 6, 28]
abbrev dktX11_bound_1 : List UInt8 := dkwX11_bound_1 ++ dktX11_bound_2
def dkwX11_bound_0 : List UInt8 := [42, 180, 0, 37, 61, 42, 182, 0, 126, 62, 42, 180, 0, 9, 29, 46, 2, 160, 0, 12, 42, 5, 28]
abbrev dktX11_bound_0 : List UInt8 := dkwX11_bound_0 ++ dktX11_bound_1
theorem dksX11_bound_0 : cX11_bound.data.toList.drop 0 = dktX11_bound_0 := by decide +kernel
theorem dksX11_bound_1 : cX11_bound.data.toList.drop 23 = dktX11_bound_1 := dk_seg dksX11_bound_0 23 rfl rfl
theorem dksX11_bound_2 : cX11_bound.data.toList.drop 47 = dktX11_bound_2 := dk_seg dksX11_bound_1 24 rfl rfl
theorem dX11_bound_0 : decode cX11_bound 0 = .ok (.aload_n 0, 1) := dk_42 (dk_at dksX11_bound_0 0 rfl rfl)
theorem dX11_bound_1 : decode cX11_bound 1 = .ok (.getfield 37, 3) := dk_180 0 37 (dk_at dksX11_bound_0 1 rfl rfl)
theorem dX11_bound_4 : decode cX11_bound 4 = .ok (.istore_n 2, 1) := dk_61 (dk_at dksX11_bound_0 4 rfl rfl)
theorem dX11_bound_5 : decode cX11_bound 5 = .ok (.aload_n 0, 1) := dk_42 (dk_at dksX11_bound_0 5 rfl rfl)
theorem dX11_bound_6 : decode cX11_bound 6 = .ok (.invokevirtual 126, 3) := dk_182 0 126 (dk_at dksX11_bound_0 6 rfl rfl)
theorem dX11_bound_9 : decode cX11_bound 9 = .ok (.istore_n 3, 1) := dk_62 (dk_at dksX11_bound_0 9 rfl rfl)
theorem dX11_bound_10 : decode cX11_bound 10 = .ok (.aload_n 0, 1) := dk_42 (dk_at dksX11_bound_0 10 rfl rfl)
theorem dX11_bound_11 : decode cX11_bound 11 = .ok (.getfield 9, 3) := dk_180 0 9 (dk_at dksX11_bound_0 11 rfl rfl)
theorem dX11_bound_14 : decode cX11_bound 14 = .ok (.iload_n 3, 1) := dk_29 (dk_at dksX11_bound_0 14 rfl rfl)
theorem dX11_bound_15 : decode cX11_bound 15 = .ok (.iaload, 1) := dk_46 (dk_at dksX11_bound_0 15 rfl rfl)
theorem dX11_bound_16 : decode cX11_bound 16 = .ok (.iconst (-1), 1) := dk_2 (dk_at dksX11_bound_0 16 rfl rfl)
theorem dX11_bound_17 : decode cX11_bound 17 = .ok (.if_icmp .ne 12, 3) := dk_160 0 12 (dk_at dksX11_bound_0 17 rfl rfl)
theorem dX11_bound_20 : decode cX11_bound 20 = .ok (.aload_n 0, 1) := dk_42 (dk_at dksX11_bound_0 20 rfl rfl)
theorem dX11_bound_21 : decode cX11_bound 21 = .ok (.iconst 2, 1) := dk_5 (dk_at dksX11_bound_0 21 rfl rfl)
theorem dX11_bound_22 : decode cX11_bound 22 = .ok (.iload_n 2, 1) := dk_28 (dk_at dksX11_bound_0 22 rfl rfl)
theorem dX11_bound_23 : decode cX11_bound 23 = .ok (.invokevirtual 129, 3) := dk_182 0 129 (dk_at dksX11_bound_1 0 rfl rfl)
theorem dX11_bound_26 : decode cX11_bound 26 = .ok (.goto 24, 3) := dk_167 0 24 (dk_at dksX11_bound_1 3 rfl rfl)
theorem dX11_bound_29 : decode cX11_bound 29 = .ok (.iload_n 1, 1) := dk_27 (dk_at dksX11_bound_1 6 rfl rfl)
theorem dX11_bound_30 : decode cX11_bound 30 = .ok (.iconst (-1), 1) := dk_2 (dk_at dksX11_bound_1 7 rfl rfl)
theorem dX11_bound_31 : decode cX11_bound 31 = .ok (.if_icmp .eq 19, 3) := dk_159 0 19 (dk_at dksX11_bound_1 8 rfl rfl)
theorem dX11_bound_34 : decode cX11_bound 34 = .ok (.aload_n 0, 1) := dk_42 (dk_at dksX11_bound_1 11 rfl rfl)
theorem dX11_bound_35 : decode cX11_bound 35 = .ok (.getfield 9, 3) := dk_180 0 9 (dk_at dksX11_bound_1 12 rfl rfl)
theorem dX11_bound_38 : decode cX11_bound 38 = .ok (.iload_n 3, 1) := dk_29 (dk_at dksX11_bound_1 15 rfl rfl)
theorem dX11_bound_39 : decode cX11_bound 39 = .ok (.iaload, 1) := dk_46 (dk_at dksX11_bound_1 16 rfl rfl)
theorem dX11_bound_40 : decode cX11_bound 40 = .ok (.iload_n 1, 1) := dk_27 (dk_at dksX11_bound_1 17 rfl rfl)
theorem dX11_bound_41 : decode cX11_bound 41 = .ok (.if_icmp .eq 9, 3) := dk_159 0 9 (dk_at dksX11_bound_1 18 rfl rfl)
theorem dX11_bound_44 : decode cX11_bound 44 = .ok (.aload_n 0, 1) := dk_42 (dk_at dksX11_bound_1 21 rfl rfl)
theorem dX11_bound_45 : decode cX11_bound 45 = .ok (.iconst 3, 1) := dk_6 (dk_at dksX11_bound_1 22 rfl rfl)
theorem dX11_bound_46 : decode cX11_bound 46 = .ok (.iload_n 2, 1) := dk_28 (dk_at dksX11_bound_1 23 rfl rfl)
theorem dX11_bound_47 : decode cX11_bound 47 = .ok (.invokevirtual 129, 3) := dk_182 0 129 (dk_at dksX11_bound_2 0 rfl rfl)
theorem dX11_bound_50 : decode cX11_bound 50 = .ok (.iload_n 3, 1) := dk_29 (dk_at dksX11_bound_2 3 rfl rfl)
theorem dX11_bound_51 : decode cX11_bound 51 = .ok (.ireturn, 1) := dk_172 (dk_at dksX11_bound_2 4 rfl rfl)
abbrev cX11_relation : ByteArray := prog_23_method_14_code
def yX11_relation : MethodName := ⟨RX11, "relation", "()I"⟩
def dkwX11_relation_1 : List UInt8 := [42, 182, 0, 27, 27, 172]
abbrev dktX11_relation_1 : List UInt8 := dkwX11_relation_1 ++ []
def dkwX11_relation_0 : List UInt8 := [42, 18, 139, 42, 180, 0, 23, 182, 0, 141, 182, 0, 122, 60, 27, 2, 160, 0, 8, 42, 182, 0, 100, 191]
abbrev dktX11_relation_0 : List UInt8 := dkwX11_relation_0 ++ dktX11_relation_1
theorem dksX11_relation_0 : cX11_relation.data.toList.drop 0 = dktX11_relation_0 := by decide +kernel
theorem dksX11_relation_1 : cX11_relation.data.toList.drop 24 = dktX11_relation_1 := dk_seg dksX11_relation_0 24 rfl rfl
theorem dX11_relation_0 : decode cX11_relation 0 = .ok (.aload_n 0, 1) := dk_42 (dk_at dksX11_relation_0 0 rfl rfl)
theorem dX11_relation_1 : decode cX11_relation 1 = .ok (.ldc 139, 2) := dk_18 139 (dk_at dksX11_relation_0 1 rfl rfl)
theorem dX11_relation_3 : decode cX11_relation 3 = .ok (.aload_n 0, 1) := dk_42 (dk_at dksX11_relation_0 3 rfl rfl)
theorem dX11_relation_4 : decode cX11_relation 4 = .ok (.getfield 23, 3) := dk_180 0 23 (dk_at dksX11_relation_0 4 rfl rfl)
theorem dX11_relation_7 : decode cX11_relation 7 = .ok (.invokevirtual 141, 3) := dk_182 0 141 (dk_at dksX11_relation_0 7 rfl rfl)
theorem dX11_relation_10 : decode cX11_relation 10 = .ok (.invokevirtual 122, 3) := dk_182 0 122 (dk_at dksX11_relation_0 10 rfl rfl)
theorem dX11_relation_13 : decode cX11_relation 13 = .ok (.istore_n 1, 1) := dk_60 (dk_at dksX11_relation_0 13 rfl rfl)
theorem dX11_relation_14 : decode cX11_relation 14 = .ok (.iload_n 1, 1) := dk_27 (dk_at dksX11_relation_0 14 rfl rfl)
theorem dX11_relation_15 : decode cX11_relation 15 = .ok (.iconst (-1), 1) := dk_2 (dk_at dksX11_relation_0 15 rfl rfl)
theorem dX11_relation_16 : decode cX11_relation 16 = .ok (.if_icmp .ne 8, 3) := dk_160 0 8 (dk_at dksX11_relation_0 16 rfl rfl)
theorem dX11_relation_19 : decode cX11_relation 19 = .ok (.aload_n 0, 1) := dk_42 (dk_at dksX11_relation_0 19 rfl rfl)
theorem dX11_relation_20 : decode cX11_relation 20 = .ok (.invokevirtual 100, 3) := dk_182 0 100 (dk_at dksX11_relation_0 20 rfl rfl)
theorem dX11_relation_23 : decode cX11_relation 23 = .ok (.athrow, 1) := dk_191 (dk_at dksX11_relation_0 23 rfl rfl)
theorem dX11_relation_24 : decode cX11_relation 24 = .ok (.aload_n 0, 1) := dk_42 (dk_at dksX11_relation_1 0 rfl rfl)
theorem dX11_relation_25 : decode cX11_relation 25 = .ok (.invokevirtual 27, 3) := dk_182 0 27 (dk_at dksX11_relation_1 1 rfl rfl)
theorem dX11_relation_28 : decode cX11_relation 28 = .ok (.iload_n 1, 1) := dk_27 (dk_at dksX11_relation_1 4 rfl rfl)
theorem dX11_relation_29 : decode cX11_relation 29 = .ok (.ireturn, 1) := dk_172 (dk_at dksX11_relation_1 5 rfl rfl)
abbrev cX11_leads : ByteArray := prog_23_method_15_code
def yX11_leads : MethodName := ⟨RX11, "leads", "(II)I"⟩
def dkwX11_leads_1 : List UInt8 := [42, 6, 28, 182, 0, 129, 2, 172]
abbrev dktX11_leads_1 : List UInt8 := dkwX11_leads_1 ++ []
def dkwX11_leads_0 : List UInt8 := [42, 180, 0, 23, 27, 182, 0, 145, 192, 0, 149, 78, 45, 182, 0, 151, 153, 0, 8, 45, 180, 0, 155, 172]
abbrev dktX11_leads_0 : List UInt8 := dkwX11_leads_0 ++ dktX11_leads_1
theorem dksX11_leads_0 : cX11_leads.data.toList.drop 0 = dktX11_leads_0 := by decide +kernel
theorem dksX11_leads_1 : cX11_leads.data.toList.drop 24 = dktX11_leads_1 := dk_seg dksX11_leads_0 24 rfl rfl
theorem dX11_leads_0 : decode cX11_leads 0 = .ok (.aload_n 0, 1) := dk_42 (dk_at dksX11_leads_0 0 rfl rfl)
theorem dX11_leads_1 : decode cX11_leads 1 = .ok (.getfield 23, 3) := dk_180 0 23 (dk_at dksX11_leads_0 1 rfl rfl)
theorem dX11_leads_4 : decode cX11_leads 4 = .ok (.iload_n 1, 1) := dk_27 (dk_at dksX11_leads_0 4 rfl rfl)
theorem dX11_leads_5 : decode cX11_leads 5 = .ok (.invokevirtual 145, 3) := dk_182 0 145 (dk_at dksX11_leads_0 5 rfl rfl)
theorem dX11_leads_8 : decode cX11_leads 8 = .ok (.checkcast 149, 3) := dk_192 0 149 (dk_at dksX11_leads_0 8 rfl rfl)
theorem dX11_leads_11 : decode cX11_leads 11 = .ok (.astore_n 3, 1) := dk_78 (dk_at dksX11_leads_0 11 rfl rfl)
theorem dX11_leads_12 : decode cX11_leads 12 = .ok (.aload_n 3, 1) := dk_45 (dk_at dksX11_leads_0 12 rfl rfl)
theorem dX11_leads_13 : decode cX11_leads 13 = .ok (.invokevirtual 151, 3) := dk_182 0 151 (dk_at dksX11_leads_0 13 rfl rfl)
theorem dX11_leads_16 : decode cX11_leads 16 = .ok (.ifCond .eq 8, 3) := dk_153 0 8 (dk_at dksX11_leads_0 16 rfl rfl)
theorem dX11_leads_19 : decode cX11_leads 19 = .ok (.aload_n 3, 1) := dk_45 (dk_at dksX11_leads_0 19 rfl rfl)
theorem dX11_leads_20 : decode cX11_leads 20 = .ok (.getfield 155, 3) := dk_180 0 155 (dk_at dksX11_leads_0 20 rfl rfl)
theorem dX11_leads_23 : decode cX11_leads 23 = .ok (.ireturn, 1) := dk_172 (dk_at dksX11_leads_0 23 rfl rfl)
theorem dX11_leads_24 : decode cX11_leads 24 = .ok (.aload_n 0, 1) := dk_42 (dk_at dksX11_leads_1 0 rfl rfl)
theorem dX11_leads_25 : decode cX11_leads 25 = .ok (.iconst 3, 1) := dk_6 (dk_at dksX11_leads_1 1 rfl rfl)
theorem dX11_leads_26 : decode cX11_leads 26 = .ok (.iload_n 2, 1) := dk_28 (dk_at dksX11_leads_1 2 rfl rfl)
theorem dX11_leads_27 : decode cX11_leads 27 = .ok (.invokevirtual 129, 3) := dk_182 0 129 (dk_at dksX11_leads_1 3 rfl rfl)
theorem dX11_leads_30 : decode cX11_leads 30 = .ok (.iconst (-1), 1) := dk_2 (dk_at dksX11_leads_1 6 rfl rfl)
theorem dX11_leads_31 : decode cX11_leads 31 = .ok (.ireturn, 1) := dk_172 (dk_at dksX11_leads_1 7 rfl rfl)

abbrev cX12_init : ByteArray := prog_8_method_1_code
def yX12_init : MethodName := ⟨RX12, "<init>", "(II)V"⟩
def dkwX12_init_0 : List UInt8 := [42, 183, 0, 1, 42, 27, 181, 0, 7, 42, 28, 181, 0, 13, 177]
abbrev dktX12_init_0 : List UInt8 := dkwX12_init_0 ++ []
theorem dksX12_init_0 : cX12_init.data.toList.drop 0 = dktX12_init_0 := by decide +kernel
theorem dX12_init_0 : decode cX12_init 0 = .ok (.aload_n 0, 1) := dk_42 (dk_at dksX12_init_0 0 rfl rfl)
theorem dX12_init_1 : decode cX12_init 1 = .ok (.invokespecial 1, 3) := dk_183 0 1 (dk_at dksX12_init_0 1 rfl rfl)
theorem dX12_init_4 : decode cX12_init 4 = .ok (.aload_n 0, 1) := dk_42 (dk_at dksX12_init_0 4 rfl rfl)
theorem dX12_init_5 : decode cX12_init 5 = .ok (.iload_n 1, 1) := dk_27 (dk_at dksX12_init_0 5 rfl rfl)
theorem dX12_init_6 : decode cX12_init 6 = .ok (.putfield 7, 3) := dk_181 0 7 (dk_at dksX12_init_0 6 rfl rfl)
theorem dX12_init_9 : decode cX12_init 9 = .ok (.aload_n 0, 1) := dk_42 (dk_at dksX12_init_0 9 rfl rfl)
theorem dX12_init_10 : decode cX12_init 10 = .ok (.iload_n 2, 1) := dk_28 (dk_at dksX12_init_0 10 rfl rfl)
theorem dX12_init_11 : decode cX12_init 11 = .ok (.putfield 13, 3) := dk_181 0 13 (dk_at dksX12_init_0 11 rfl rfl)
theorem dX12_init_14 : decode cX12_init 14 = .ok (.return_, 1) := dk_177 (dk_at dksX12_init_0 14 rfl rfl)

abbrev cX13_hasNumber : ByteArray := prog_16_method_4_code
def yX13_hasNumber : MethodName := ⟨RX13, "hasNumber", "()Z"⟩
def dkwX13_hasNumber_0 : List UInt8 := [42, 178, 0, 10, 165, 0, 10, 42, 178, 0, 13, 166, 0, 7, 4, 167, 0, 4, 3, 172]
abbrev dktX13_hasNumber_0 : List UInt8 := dkwX13_hasNumber_0 ++ []
theorem dksX13_hasNumber_0 : cX13_hasNumber.data.toList.drop 0 = dktX13_hasNumber_0 := by decide +kernel
theorem dX13_hasNumber_0 : decode cX13_hasNumber 0 = .ok (.aload_n 0, 1) := dk_42 (dk_at dksX13_hasNumber_0 0 rfl rfl)
theorem dX13_hasNumber_1 : decode cX13_hasNumber 1 = .ok (.getstatic 10, 3) := dk_178 0 10 (dk_at dksX13_hasNumber_0 1 rfl rfl)
theorem dX13_hasNumber_4 : decode cX13_hasNumber 4 = .ok (.if_acmp .eq 10, 3) := dk_165 0 10 (dk_at dksX13_hasNumber_0 4 rfl rfl)
theorem dX13_hasNumber_7 : decode cX13_hasNumber 7 = .ok (.aload_n 0, 1) := dk_42 (dk_at dksX13_hasNumber_0 7 rfl rfl)
theorem dX13_hasNumber_8 : decode cX13_hasNumber 8 = .ok (.getstatic 13, 3) := dk_178 0 13 (dk_at dksX13_hasNumber_0 8 rfl rfl)
theorem dX13_hasNumber_11 : decode cX13_hasNumber 11 = .ok (.if_acmp .ne 7, 3) := dk_166 0 7 (dk_at dksX13_hasNumber_0 11 rfl rfl)
theorem dX13_hasNumber_14 : decode cX13_hasNumber 14 = .ok (.iconst 1, 1) := dk_4 (dk_at dksX13_hasNumber_0 14 rfl rfl)
theorem dX13_hasNumber_15 : decode cX13_hasNumber 15 = .ok (.goto 4, 3) := dk_167 0 4 (dk_at dksX13_hasNumber_0 15 rfl rfl)
theorem dX13_hasNumber_18 : decode cX13_hasNumber 18 = .ok (.iconst 0, 1) := dk_3 (dk_at dksX13_hasNumber_0 18 rfl rfl)
theorem dX13_hasNumber_19 : decode cX13_hasNumber 19 = .ok (.ireturn, 1) := dk_172 (dk_at dksX13_hasNumber_0 19 rfl rfl)

abbrev cX14_init : ByteArray := prog_21_method_1_code
def yX14_init : MethodName := ⟨RX14, "<init>", "()V"⟩
theorem dX14_init_0 : decode cX14_init 0 = .ok (.aload_n 0, 1) := by decide +kernel
theorem dX14_init_1 : decode cX14_init 1 = .ok (.invokespecial 1, 3) := by decide +kernel
theorem dX14_init_4 : decode cX14_init 4 = .ok (.return_, 1) := by decide +kernel

abbrev cX15_init : ByteArray := prog_6_method_1_code
def yX15_init : MethodName := ⟨RX15, "<init>", "(LVillageStories$Often;IIILVillageStories$Part;)V"⟩
def dkwX15_init_1 : List UInt8 := [181, 0, 20, 42, 25, 5, 181, 0, 23, 177]
abbrev dktX15_init_1 : List UInt8 := dkwX15_init_1 ++ []
def dkwX15_init_0 : List UInt8 := [42, 183, 0, 1, 42, 43, 181, 0, 7, 42, 28, 181, 0, 13, 42, 29, 181, 0, 17, 42, 21, 4]
abbrev dktX15_init_0 : List UInt8 := dkwX15_init_0 ++ dktX15_init_1
theorem dksX15_init_0 : cX15_init.data.toList.drop 0 = dktX15_init_0 := by decide +kernel
theorem dksX15_init_1 : cX15_init.data.toList.drop 22 = dktX15_init_1 := dk_seg dksX15_init_0 22 rfl rfl
theorem dX15_init_0 : decode cX15_init 0 = .ok (.aload_n 0, 1) := dk_42 (dk_at dksX15_init_0 0 rfl rfl)
theorem dX15_init_1 : decode cX15_init 1 = .ok (.invokespecial 1, 3) := dk_183 0 1 (dk_at dksX15_init_0 1 rfl rfl)
theorem dX15_init_4 : decode cX15_init 4 = .ok (.aload_n 0, 1) := dk_42 (dk_at dksX15_init_0 4 rfl rfl)
theorem dX15_init_5 : decode cX15_init 5 = .ok (.aload_n 1, 1) := dk_43 (dk_at dksX15_init_0 5 rfl rfl)
theorem dX15_init_6 : decode cX15_init 6 = .ok (.putfield 7, 3) := dk_181 0 7 (dk_at dksX15_init_0 6 rfl rfl)
theorem dX15_init_9 : decode cX15_init 9 = .ok (.aload_n 0, 1) := dk_42 (dk_at dksX15_init_0 9 rfl rfl)
theorem dX15_init_10 : decode cX15_init 10 = .ok (.iload_n 2, 1) := dk_28 (dk_at dksX15_init_0 10 rfl rfl)
theorem dX15_init_11 : decode cX15_init 11 = .ok (.putfield 13, 3) := dk_181 0 13 (dk_at dksX15_init_0 11 rfl rfl)
theorem dX15_init_14 : decode cX15_init 14 = .ok (.aload_n 0, 1) := dk_42 (dk_at dksX15_init_0 14 rfl rfl)
theorem dX15_init_15 : decode cX15_init 15 = .ok (.iload_n 3, 1) := dk_29 (dk_at dksX15_init_0 15 rfl rfl)
theorem dX15_init_16 : decode cX15_init 16 = .ok (.putfield 17, 3) := dk_181 0 17 (dk_at dksX15_init_0 16 rfl rfl)
theorem dX15_init_19 : decode cX15_init 19 = .ok (.aload_n 0, 1) := dk_42 (dk_at dksX15_init_0 19 rfl rfl)
theorem dX15_init_20 : decode cX15_init 20 = .ok (.iload 4, 2) := dk_21 4 (dk_at dksX15_init_0 20 rfl rfl)
theorem dX15_init_22 : decode cX15_init 22 = .ok (.putfield 20, 3) := dk_181 0 20 (dk_at dksX15_init_1 0 rfl rfl)
theorem dX15_init_25 : decode cX15_init 25 = .ok (.aload_n 0, 1) := dk_42 (dk_at dksX15_init_1 3 rfl rfl)
theorem dX15_init_26 : decode cX15_init 26 = .ok (.aload 5, 2) := dk_25 5 (dk_at dksX15_init_1 4 rfl rfl)
theorem dX15_init_28 : decode cX15_init 28 = .ok (.putfield 23, 3) := dk_181 0 23 (dk_at dksX15_init_1 6 rfl rfl)
theorem dX15_init_31 : decode cX15_init 31 = .ok (.return_, 1) := dk_177 (dk_at dksX15_init_1 9 rfl rfl)
abbrev cX15_isSo : ByteArray := prog_6_method_2_code
def yX15_isSo : MethodName := ⟨RX15, "isSo", "(LVillageStories$World;)Z"⟩
def dkwX15_isSo_4 : List UInt8 := [182, 0, 37, 42, 180, 0, 13, 182, 0, 47, 172]
abbrev dktX15_isSo_4 : List UInt8 := dkwX15_isSo_4 ++ []
def dkwX15_isSo_3 : List UInt8 := [180, 0, 27, 42, 180, 0, 17, 28, 79, 42, 180, 0, 7, 29, 43, 180, 0, 33, 42, 180, 0, 20]
abbrev dktX15_isSo_3 : List UInt8 := dkwX15_isSo_3 ++ dktX15_isSo_4
def dkwX15_isSo_2 : List UInt8 := [180, 0, 23, 43, 182, 0, 43, 153, 0, 7, 4, 167, 0, 4, 3, 96, 62, 132, 4, 1, 167, 255, 207, 43]
abbrev dktX15_isSo_2 : List UInt8 := dkwX15_isSo_2 ++ dktX15_isSo_3
def dkwX15_isSo_1 : List UInt8 := [180, 0, 20, 182, 0, 37, 162, 0, 39, 43, 180, 0, 27, 42, 180, 0, 17, 21, 4, 79, 29, 42]
abbrev dktX15_isSo_1 : List UInt8 := dkwX15_isSo_1 ++ dktX15_isSo_2
def dkwX15_isSo_0 : List UInt8 := [43, 180, 0, 27, 42, 180, 0, 17, 46, 61, 3, 62, 3, 54, 4, 21, 4, 43, 180, 0, 33, 42]
abbrev dktX15_isSo_0 : List UInt8 := dkwX15_isSo_0 ++ dktX15_isSo_1
theorem dksX15_isSo_0 : cX15_isSo.data.toList.drop 0 = dktX15_isSo_0 := by decide +kernel
theorem dksX15_isSo_1 : cX15_isSo.data.toList.drop 22 = dktX15_isSo_1 := dk_seg dksX15_isSo_0 22 rfl rfl
theorem dksX15_isSo_2 : cX15_isSo.data.toList.drop 44 = dktX15_isSo_2 := dk_seg dksX15_isSo_1 22 rfl rfl
theorem dksX15_isSo_3 : cX15_isSo.data.toList.drop 68 = dktX15_isSo_3 := dk_seg dksX15_isSo_2 24 rfl rfl
theorem dksX15_isSo_4 : cX15_isSo.data.toList.drop 90 = dktX15_isSo_4 := dk_seg dksX15_isSo_3 22 rfl rfl
theorem dX15_isSo_0 : decode cX15_isSo 0 = .ok (.aload_n 1, 1) := dk_43 (dk_at dksX15_isSo_0 0 rfl rfl)
theorem dX15_isSo_1 : decode cX15_isSo 1 = .ok (.getfield 27, 3) := dk_180 0 27 (dk_at dksX15_isSo_0 1 rfl rfl)
theorem dX15_isSo_4 : decode cX15_isSo 4 = .ok (.aload_n 0, 1) := dk_42 (dk_at dksX15_isSo_0 4 rfl rfl)
theorem dX15_isSo_5 : decode cX15_isSo 5 = .ok (.getfield 17, 3) := dk_180 0 17 (dk_at dksX15_isSo_0 5 rfl rfl)
theorem dX15_isSo_8 : decode cX15_isSo 8 = .ok (.iaload, 1) := dk_46 (dk_at dksX15_isSo_0 8 rfl rfl)
theorem dX15_isSo_9 : decode cX15_isSo 9 = .ok (.istore_n 2, 1) := dk_61 (dk_at dksX15_isSo_0 9 rfl rfl)
theorem dX15_isSo_10 : decode cX15_isSo 10 = .ok (.iconst 0, 1) := dk_3 (dk_at dksX15_isSo_0 10 rfl rfl)
theorem dX15_isSo_11 : decode cX15_isSo 11 = .ok (.istore_n 3, 1) := dk_62 (dk_at dksX15_isSo_0 11 rfl rfl)
theorem dX15_isSo_12 : decode cX15_isSo 12 = .ok (.iconst 0, 1) := dk_3 (dk_at dksX15_isSo_0 12 rfl rfl)
theorem dX15_isSo_13 : decode cX15_isSo 13 = .ok (.istore 4, 2) := dk_54 4 (dk_at dksX15_isSo_0 13 rfl rfl)
theorem dX15_isSo_15 : decode cX15_isSo 15 = .ok (.iload 4, 2) := dk_21 4 (dk_at dksX15_isSo_0 15 rfl rfl)
theorem dX15_isSo_17 : decode cX15_isSo 17 = .ok (.aload_n 1, 1) := dk_43 (dk_at dksX15_isSo_0 17 rfl rfl)
theorem dX15_isSo_18 : decode cX15_isSo 18 = .ok (.getfield 33, 3) := dk_180 0 33 (dk_at dksX15_isSo_0 18 rfl rfl)
theorem dX15_isSo_21 : decode cX15_isSo 21 = .ok (.aload_n 0, 1) := dk_42 (dk_at dksX15_isSo_0 21 rfl rfl)
theorem dX15_isSo_22 : decode cX15_isSo 22 = .ok (.getfield 20, 3) := dk_180 0 20 (dk_at dksX15_isSo_1 0 rfl rfl)
theorem dX15_isSo_25 : decode cX15_isSo 25 = .ok (.invokevirtual 37, 3) := dk_182 0 37 (dk_at dksX15_isSo_1 3 rfl rfl)
theorem dX15_isSo_28 : decode cX15_isSo 28 = .ok (.if_icmp .ge 39, 3) := dk_162 0 39 (dk_at dksX15_isSo_1 6 rfl rfl)
theorem dX15_isSo_31 : decode cX15_isSo 31 = .ok (.aload_n 1, 1) := dk_43 (dk_at dksX15_isSo_1 9 rfl rfl)
theorem dX15_isSo_32 : decode cX15_isSo 32 = .ok (.getfield 27, 3) := dk_180 0 27 (dk_at dksX15_isSo_1 10 rfl rfl)
theorem dX15_isSo_35 : decode cX15_isSo 35 = .ok (.aload_n 0, 1) := dk_42 (dk_at dksX15_isSo_1 13 rfl rfl)
theorem dX15_isSo_36 : decode cX15_isSo 36 = .ok (.getfield 17, 3) := dk_180 0 17 (dk_at dksX15_isSo_1 14 rfl rfl)
theorem dX15_isSo_39 : decode cX15_isSo 39 = .ok (.iload 4, 2) := dk_21 4 (dk_at dksX15_isSo_1 17 rfl rfl)
theorem dX15_isSo_41 : decode cX15_isSo 41 = .ok (.iastore, 1) := dk_79 (dk_at dksX15_isSo_1 19 rfl rfl)
theorem dX15_isSo_42 : decode cX15_isSo 42 = .ok (.iload_n 3, 1) := dk_29 (dk_at dksX15_isSo_1 20 rfl rfl)
theorem dX15_isSo_43 : decode cX15_isSo 43 = .ok (.aload_n 0, 1) := dk_42 (dk_at dksX15_isSo_1 21 rfl rfl)
theorem dX15_isSo_44 : decode cX15_isSo 44 = .ok (.getfield 23, 3) := dk_180 0 23 (dk_at dksX15_isSo_2 0 rfl rfl)
theorem dX15_isSo_47 : decode cX15_isSo 47 = .ok (.aload_n 1, 1) := dk_43 (dk_at dksX15_isSo_2 3 rfl rfl)
theorem dX15_isSo_48 : decode cX15_isSo 48 = .ok (.invokevirtual 43, 3) := dk_182 0 43 (dk_at dksX15_isSo_2 4 rfl rfl)
theorem dX15_isSo_51 : decode cX15_isSo 51 = .ok (.ifCond .eq 7, 3) := dk_153 0 7 (dk_at dksX15_isSo_2 7 rfl rfl)
theorem dX15_isSo_54 : decode cX15_isSo 54 = .ok (.iconst 1, 1) := dk_4 (dk_at dksX15_isSo_2 10 rfl rfl)
theorem dX15_isSo_55 : decode cX15_isSo 55 = .ok (.goto 4, 3) := dk_167 0 4 (dk_at dksX15_isSo_2 11 rfl rfl)
theorem dX15_isSo_58 : decode cX15_isSo 58 = .ok (.iconst 0, 1) := dk_3 (dk_at dksX15_isSo_2 14 rfl rfl)
theorem dX15_isSo_59 : decode cX15_isSo 59 = .ok (.iadd, 1) := dk_96 (dk_at dksX15_isSo_2 15 rfl rfl)
theorem dX15_isSo_60 : decode cX15_isSo 60 = .ok (.istore_n 3, 1) := dk_62 (dk_at dksX15_isSo_2 16 rfl rfl)
theorem dX15_isSo_61 : decode cX15_isSo 61 = .ok (.iinc 4 1, 3) := dk_132 4 1 (dk_at dksX15_isSo_2 17 rfl rfl)
theorem dX15_isSo_64 : decode cX15_isSo 64 = .ok (.goto (-49), 3) := dk_167 255 207 (dk_at dksX15_isSo_2 20 rfl rfl)
theorem dX15_isSo_67 : decode cX15_isSo 67 = .ok (.aload_n 1, 1) := dk_43 (dk_at dksX15_isSo_2 23 rfl rfl)
theorem dX15_isSo_68 : decode cX15_isSo 68 = .ok (.getfield 27, 3) := dk_180 0 27 (dk_at dksX15_isSo_3 0 rfl rfl)
theorem dX15_isSo_71 : decode cX15_isSo 71 = .ok (.aload_n 0, 1) := dk_42 (dk_at dksX15_isSo_3 3 rfl rfl)
theorem dX15_isSo_72 : decode cX15_isSo 72 = .ok (.getfield 17, 3) := dk_180 0 17 (dk_at dksX15_isSo_3 4 rfl rfl)
theorem dX15_isSo_75 : decode cX15_isSo 75 = .ok (.iload_n 2, 1) := dk_28 (dk_at dksX15_isSo_3 7 rfl rfl)
theorem dX15_isSo_76 : decode cX15_isSo 76 = .ok (.iastore, 1) := dk_79 (dk_at dksX15_isSo_3 8 rfl rfl)
theorem dX15_isSo_77 : decode cX15_isSo 77 = .ok (.aload_n 0, 1) := dk_42 (dk_at dksX15_isSo_3 9 rfl rfl)
theorem dX15_isSo_78 : decode cX15_isSo 78 = .ok (.getfield 7, 3) := dk_180 0 7 (dk_at dksX15_isSo_3 10 rfl rfl)
theorem dX15_isSo_81 : decode cX15_isSo 81 = .ok (.iload_n 3, 1) := dk_29 (dk_at dksX15_isSo_3 13 rfl rfl)
theorem dX15_isSo_82 : decode cX15_isSo 82 = .ok (.aload_n 1, 1) := dk_43 (dk_at dksX15_isSo_3 14 rfl rfl)
theorem dX15_isSo_83 : decode cX15_isSo 83 = .ok (.getfield 33, 3) := dk_180 0 33 (dk_at dksX15_isSo_3 15 rfl rfl)
theorem dX15_isSo_86 : decode cX15_isSo 86 = .ok (.aload_n 0, 1) := dk_42 (dk_at dksX15_isSo_3 18 rfl rfl)
theorem dX15_isSo_87 : decode cX15_isSo 87 = .ok (.getfield 20, 3) := dk_180 0 20 (dk_at dksX15_isSo_3 19 rfl rfl)
theorem dX15_isSo_90 : decode cX15_isSo 90 = .ok (.invokevirtual 37, 3) := dk_182 0 37 (dk_at dksX15_isSo_4 0 rfl rfl)
theorem dX15_isSo_93 : decode cX15_isSo 93 = .ok (.aload_n 0, 1) := dk_42 (dk_at dksX15_isSo_4 3 rfl rfl)
theorem dX15_isSo_94 : decode cX15_isSo 94 = .ok (.getfield 13, 3) := dk_180 0 13 (dk_at dksX15_isSo_4 4 rfl rfl)
theorem dX15_isSo_97 : decode cX15_isSo 97 = .ok (.invokevirtual 47, 3) := dk_182 0 47 (dk_at dksX15_isSo_4 7 rfl rfl)
theorem dX15_isSo_100 : decode cX15_isSo 100 = .ok (.ireturn, 1) := dk_172 (dk_at dksX15_isSo_4 10 rfl rfl)

abbrev cX16_init : ByteArray := prog_4_method_1_code
def yX16_init : MethodName := ⟨RX16, "<init>", "(LVillageStories$Join;LVillageStories$Part;LVillageStories$Part;)V"⟩
def dkwX16_init_0 : List UInt8 := [42, 183, 0, 1, 42, 43, 181, 0, 7, 42, 44, 181, 0, 13, 42, 45, 181, 0, 17, 177]
abbrev dktX16_init_0 : List UInt8 := dkwX16_init_0 ++ []
theorem dksX16_init_0 : cX16_init.data.toList.drop 0 = dktX16_init_0 := by decide +kernel
theorem dX16_init_0 : decode cX16_init 0 = .ok (.aload_n 0, 1) := dk_42 (dk_at dksX16_init_0 0 rfl rfl)
theorem dX16_init_1 : decode cX16_init 1 = .ok (.invokespecial 1, 3) := dk_183 0 1 (dk_at dksX16_init_0 1 rfl rfl)
theorem dX16_init_4 : decode cX16_init 4 = .ok (.aload_n 0, 1) := dk_42 (dk_at dksX16_init_0 4 rfl rfl)
theorem dX16_init_5 : decode cX16_init 5 = .ok (.aload_n 1, 1) := dk_43 (dk_at dksX16_init_0 5 rfl rfl)
theorem dX16_init_6 : decode cX16_init 6 = .ok (.putfield 7, 3) := dk_181 0 7 (dk_at dksX16_init_0 6 rfl rfl)
theorem dX16_init_9 : decode cX16_init 9 = .ok (.aload_n 0, 1) := dk_42 (dk_at dksX16_init_0 9 rfl rfl)
theorem dX16_init_10 : decode cX16_init 10 = .ok (.aload_n 2, 1) := dk_44 (dk_at dksX16_init_0 10 rfl rfl)
theorem dX16_init_11 : decode cX16_init 11 = .ok (.putfield 13, 3) := dk_181 0 13 (dk_at dksX16_init_0 11 rfl rfl)
theorem dX16_init_14 : decode cX16_init 14 = .ok (.aload_n 0, 1) := dk_42 (dk_at dksX16_init_0 14 rfl rfl)
theorem dX16_init_15 : decode cX16_init 15 = .ok (.aload_n 3, 1) := dk_45 (dk_at dksX16_init_0 15 rfl rfl)
theorem dX16_init_16 : decode cX16_init 16 = .ok (.putfield 17, 3) := dk_181 0 17 (dk_at dksX16_init_0 16 rfl rfl)
theorem dX16_init_19 : decode cX16_init 19 = .ok (.return_, 1) := dk_177 (dk_at dksX16_init_0 19 rfl rfl)
abbrev cX16_isSo : ByteArray := prog_4_method_2_code
def yX16_isSo : MethodName := ⟨RX16, "isSo", "(LVillageStories$World;)Z"⟩
def dkwX16_isSo_0 : List UInt8 := [42, 180, 0, 7, 42, 180, 0, 13, 42, 180, 0, 17, 43, 182, 0, 20, 172]
abbrev dktX16_isSo_0 : List UInt8 := dkwX16_isSo_0 ++ []
theorem dksX16_isSo_0 : cX16_isSo.data.toList.drop 0 = dktX16_isSo_0 := by decide +kernel
theorem dX16_isSo_0 : decode cX16_isSo 0 = .ok (.aload_n 0, 1) := dk_42 (dk_at dksX16_isSo_0 0 rfl rfl)
theorem dX16_isSo_1 : decode cX16_isSo 1 = .ok (.getfield 7, 3) := dk_180 0 7 (dk_at dksX16_isSo_0 1 rfl rfl)
theorem dX16_isSo_4 : decode cX16_isSo 4 = .ok (.aload_n 0, 1) := dk_42 (dk_at dksX16_isSo_0 4 rfl rfl)
theorem dX16_isSo_5 : decode cX16_isSo 5 = .ok (.getfield 13, 3) := dk_180 0 13 (dk_at dksX16_isSo_0 5 rfl rfl)
theorem dX16_isSo_8 : decode cX16_isSo 8 = .ok (.aload_n 0, 1) := dk_42 (dk_at dksX16_isSo_0 8 rfl rfl)
theorem dX16_isSo_9 : decode cX16_isSo 9 = .ok (.getfield 17, 3) := dk_180 0 17 (dk_at dksX16_isSo_0 9 rfl rfl)
theorem dX16_isSo_12 : decode cX16_isSo 12 = .ok (.aload_n 1, 1) := dk_43 (dk_at dksX16_isSo_0 12 rfl rfl)
theorem dX16_isSo_13 : decode cX16_isSo 13 = .ok (.invokevirtual 20, 3) := dk_182 0 20 (dk_at dksX16_isSo_0 13 rfl rfl)
theorem dX16_isSo_16 : decode cX16_isSo 16 = .ok (.ireturn, 1) := dk_172 (dk_at dksX16_isSo_0 16 rfl rfl)

abbrev cX17_init : ByteArray := prog_15_method_1_code
def yX17_init : MethodName := ⟨RX17, "<init>", "(LVillageStories$Part;)V"⟩
def dkwX17_init_0 : List UInt8 := [42, 183, 0, 1, 42, 43, 181, 0, 7, 177]
abbrev dktX17_init_0 : List UInt8 := dkwX17_init_0 ++ []
theorem dksX17_init_0 : cX17_init.data.toList.drop 0 = dktX17_init_0 := by decide +kernel
theorem dX17_init_0 : decode cX17_init 0 = .ok (.aload_n 0, 1) := dk_42 (dk_at dksX17_init_0 0 rfl rfl)
theorem dX17_init_1 : decode cX17_init 1 = .ok (.invokespecial 1, 3) := dk_183 0 1 (dk_at dksX17_init_0 1 rfl rfl)
theorem dX17_init_4 : decode cX17_init 4 = .ok (.aload_n 0, 1) := dk_42 (dk_at dksX17_init_0 4 rfl rfl)
theorem dX17_init_5 : decode cX17_init 5 = .ok (.aload_n 1, 1) := dk_43 (dk_at dksX17_init_0 5 rfl rfl)
theorem dX17_init_6 : decode cX17_init 6 = .ok (.putfield 7, 3) := dk_181 0 7 (dk_at dksX17_init_0 6 rfl rfl)
theorem dX17_init_9 : decode cX17_init 9 = .ok (.return_, 1) := dk_177 (dk_at dksX17_init_0 9 rfl rfl)
abbrev cX17_isSo : ByteArray := prog_15_method_2_code
def yX17_isSo : MethodName := ⟨RX17, "isSo", "(LVillageStories$World;)Z"⟩
def dkwX17_isSo_0 : List UInt8 := [42, 180, 0, 7, 43, 182, 0, 13, 154, 0, 7, 4, 167, 0, 4, 3, 172]
abbrev dktX17_isSo_0 : List UInt8 := dkwX17_isSo_0 ++ []
theorem dksX17_isSo_0 : cX17_isSo.data.toList.drop 0 = dktX17_isSo_0 := by decide +kernel
theorem dX17_isSo_0 : decode cX17_isSo 0 = .ok (.aload_n 0, 1) := dk_42 (dk_at dksX17_isSo_0 0 rfl rfl)
theorem dX17_isSo_1 : decode cX17_isSo 1 = .ok (.getfield 7, 3) := dk_180 0 7 (dk_at dksX17_isSo_0 1 rfl rfl)
theorem dX17_isSo_4 : decode cX17_isSo 4 = .ok (.aload_n 1, 1) := dk_43 (dk_at dksX17_isSo_0 4 rfl rfl)
theorem dX17_isSo_5 : decode cX17_isSo 5 = .ok (.invokevirtual 13, 3) := dk_182 0 13 (dk_at dksX17_isSo_0 5 rfl rfl)
theorem dX17_isSo_8 : decode cX17_isSo 8 = .ok (.ifCond .ne 7, 3) := dk_154 0 7 (dk_at dksX17_isSo_0 8 rfl rfl)
theorem dX17_isSo_11 : decode cX17_isSo 11 = .ok (.iconst 1, 1) := dk_4 (dk_at dksX17_isSo_0 11 rfl rfl)
theorem dX17_isSo_12 : decode cX17_isSo 12 = .ok (.goto 4, 3) := dk_167 0 4 (dk_at dksX17_isSo_0 12 rfl rfl)
theorem dX17_isSo_15 : decode cX17_isSo 15 = .ok (.iconst 0, 1) := dk_3 (dk_at dksX17_isSo_0 15 rfl rfl)
theorem dX17_isSo_16 : decode cX17_isSo 16 = .ok (.ireturn, 1) := dk_172 (dk_at dksX17_isSo_0 16 rfl rfl)

abbrev cX18_init : ByteArray := prog_25_method_1_code
def yX18_init : MethodName := ⟨RX18, "<init>", "(II)V"⟩
def dkwX18_init_0 : List UInt8 := [42, 183, 0, 1, 42, 27, 181, 0, 7, 42, 28, 181, 0, 13, 177]
abbrev dktX18_init_0 : List UInt8 := dkwX18_init_0 ++ []
theorem dksX18_init_0 : cX18_init.data.toList.drop 0 = dktX18_init_0 := by decide +kernel
theorem dX18_init_0 : decode cX18_init 0 = .ok (.aload_n 0, 1) := dk_42 (dk_at dksX18_init_0 0 rfl rfl)
theorem dX18_init_1 : decode cX18_init 1 = .ok (.invokespecial 1, 3) := dk_183 0 1 (dk_at dksX18_init_0 1 rfl rfl)
theorem dX18_init_4 : decode cX18_init 4 = .ok (.aload_n 0, 1) := dk_42 (dk_at dksX18_init_0 4 rfl rfl)
theorem dX18_init_5 : decode cX18_init 5 = .ok (.iload_n 1, 1) := dk_27 (dk_at dksX18_init_0 5 rfl rfl)
theorem dX18_init_6 : decode cX18_init 6 = .ok (.putfield 7, 3) := dk_181 0 7 (dk_at dksX18_init_0 6 rfl rfl)
theorem dX18_init_9 : decode cX18_init 9 = .ok (.aload_n 0, 1) := dk_42 (dk_at dksX18_init_0 9 rfl rfl)
theorem dX18_init_10 : decode cX18_init 10 = .ok (.iload_n 2, 1) := dk_28 (dk_at dksX18_init_0 10 rfl rfl)
theorem dX18_init_11 : decode cX18_init 11 = .ok (.putfield 13, 3) := dk_181 0 13 (dk_at dksX18_init_0 11 rfl rfl)
theorem dX18_init_14 : decode cX18_init 14 = .ok (.return_, 1) := dk_177 (dk_at dksX18_init_0 14 rfl rfl)
abbrev cX18_isSo : ByteArray := prog_25_method_2_code
def yX18_isSo : MethodName := ⟨RX18, "isSo", "(LVillageStories$World;)Z"⟩
def dkwX18_isSo_1 : List UInt8 := [167, 0, 4, 3, 172]
abbrev dktX18_isSo_1 : List UInt8 := dkwX18_isSo_1 ++ []
def dkwX18_isSo_0 : List UInt8 := [43, 180, 0, 16, 42, 180, 0, 7, 46, 43, 180, 0, 16, 42, 180, 0, 13, 46, 160, 0, 7, 4]
abbrev dktX18_isSo_0 : List UInt8 := dkwX18_isSo_0 ++ dktX18_isSo_1
theorem dksX18_isSo_0 : cX18_isSo.data.toList.drop 0 = dktX18_isSo_0 := by decide +kernel
theorem dksX18_isSo_1 : cX18_isSo.data.toList.drop 22 = dktX18_isSo_1 := dk_seg dksX18_isSo_0 22 rfl rfl
theorem dX18_isSo_0 : decode cX18_isSo 0 = .ok (.aload_n 1, 1) := dk_43 (dk_at dksX18_isSo_0 0 rfl rfl)
theorem dX18_isSo_1 : decode cX18_isSo 1 = .ok (.getfield 16, 3) := dk_180 0 16 (dk_at dksX18_isSo_0 1 rfl rfl)
theorem dX18_isSo_4 : decode cX18_isSo 4 = .ok (.aload_n 0, 1) := dk_42 (dk_at dksX18_isSo_0 4 rfl rfl)
theorem dX18_isSo_5 : decode cX18_isSo 5 = .ok (.getfield 7, 3) := dk_180 0 7 (dk_at dksX18_isSo_0 5 rfl rfl)
theorem dX18_isSo_8 : decode cX18_isSo 8 = .ok (.iaload, 1) := dk_46 (dk_at dksX18_isSo_0 8 rfl rfl)
theorem dX18_isSo_9 : decode cX18_isSo 9 = .ok (.aload_n 1, 1) := dk_43 (dk_at dksX18_isSo_0 9 rfl rfl)
theorem dX18_isSo_10 : decode cX18_isSo 10 = .ok (.getfield 16, 3) := dk_180 0 16 (dk_at dksX18_isSo_0 10 rfl rfl)
theorem dX18_isSo_13 : decode cX18_isSo 13 = .ok (.aload_n 0, 1) := dk_42 (dk_at dksX18_isSo_0 13 rfl rfl)
theorem dX18_isSo_14 : decode cX18_isSo 14 = .ok (.getfield 13, 3) := dk_180 0 13 (dk_at dksX18_isSo_0 14 rfl rfl)
theorem dX18_isSo_17 : decode cX18_isSo 17 = .ok (.iaload, 1) := dk_46 (dk_at dksX18_isSo_0 17 rfl rfl)
theorem dX18_isSo_18 : decode cX18_isSo 18 = .ok (.if_icmp .ne 7, 3) := dk_160 0 7 (dk_at dksX18_isSo_0 18 rfl rfl)
theorem dX18_isSo_21 : decode cX18_isSo 21 = .ok (.iconst 1, 1) := dk_4 (dk_at dksX18_isSo_0 21 rfl rfl)
theorem dX18_isSo_22 : decode cX18_isSo 22 = .ok (.goto 4, 3) := dk_167 0 4 (dk_at dksX18_isSo_1 0 rfl rfl)
theorem dX18_isSo_25 : decode cX18_isSo 25 = .ok (.iconst 0, 1) := dk_3 (dk_at dksX18_isSo_1 3 rfl rfl)
theorem dX18_isSo_26 : decode cX18_isSo 26 = .ok (.ireturn, 1) := dk_172 (dk_at dksX18_isSo_1 4 rfl rfl)

abbrev cX19_init : ByteArray := prog_22_method_1_code
def yX19_init : MethodName := ⟨RX19, "<init>", "(III)V"⟩
def dkwX19_init_0 : List UInt8 := [42, 183, 0, 1, 42, 27, 181, 0, 7, 42, 28, 181, 0, 13, 42, 29, 181, 0, 16, 177]
abbrev dktX19_init_0 : List UInt8 := dkwX19_init_0 ++ []
theorem dksX19_init_0 : cX19_init.data.toList.drop 0 = dktX19_init_0 := by decide +kernel
theorem dX19_init_0 : decode cX19_init 0 = .ok (.aload_n 0, 1) := dk_42 (dk_at dksX19_init_0 0 rfl rfl)
theorem dX19_init_1 : decode cX19_init 1 = .ok (.invokespecial 1, 3) := dk_183 0 1 (dk_at dksX19_init_0 1 rfl rfl)
theorem dX19_init_4 : decode cX19_init 4 = .ok (.aload_n 0, 1) := dk_42 (dk_at dksX19_init_0 4 rfl rfl)
theorem dX19_init_5 : decode cX19_init 5 = .ok (.iload_n 1, 1) := dk_27 (dk_at dksX19_init_0 5 rfl rfl)
theorem dX19_init_6 : decode cX19_init 6 = .ok (.putfield 7, 3) := dk_181 0 7 (dk_at dksX19_init_0 6 rfl rfl)
theorem dX19_init_9 : decode cX19_init 9 = .ok (.aload_n 0, 1) := dk_42 (dk_at dksX19_init_0 9 rfl rfl)
theorem dX19_init_10 : decode cX19_init 10 = .ok (.iload_n 2, 1) := dk_28 (dk_at dksX19_init_0 10 rfl rfl)
theorem dX19_init_11 : decode cX19_init 11 = .ok (.putfield 13, 3) := dk_181 0 13 (dk_at dksX19_init_0 11 rfl rfl)
theorem dX19_init_14 : decode cX19_init 14 = .ok (.aload_n 0, 1) := dk_42 (dk_at dksX19_init_0 14 rfl rfl)
theorem dX19_init_15 : decode cX19_init 15 = .ok (.iload_n 3, 1) := dk_29 (dk_at dksX19_init_0 15 rfl rfl)
theorem dX19_init_16 : decode cX19_init 16 = .ok (.putfield 16, 3) := dk_181 0 16 (dk_at dksX19_init_0 16 rfl rfl)
theorem dX19_init_19 : decode cX19_init 19 = .ok (.return_, 1) := dk_177 (dk_at dksX19_init_0 19 rfl rfl)
abbrev cX19_isSo : ByteArray := prog_22_method_2_code
def yX19_isSo : MethodName := ⟨RX19, "isSo", "(LVillageStories$World;)Z"⟩
def dkwX19_isSo_1 : List UInt8 := [180, 0, 16, 46, 184, 0, 29, 172]
abbrev dktX19_isSo_1 : List UInt8 := dkwX19_isSo_1 ++ []
def dkwX19_isSo_0 : List UInt8 := [43, 42, 180, 0, 7, 43, 180, 0, 19, 42, 180, 0, 13, 46, 182, 0, 25, 43, 180, 0, 19, 42]
abbrev dktX19_isSo_0 : List UInt8 := dkwX19_isSo_0 ++ dktX19_isSo_1
theorem dksX19_isSo_0 : cX19_isSo.data.toList.drop 0 = dktX19_isSo_0 := by decide +kernel
theorem dksX19_isSo_1 : cX19_isSo.data.toList.drop 22 = dktX19_isSo_1 := dk_seg dksX19_isSo_0 22 rfl rfl
theorem dX19_isSo_0 : decode cX19_isSo 0 = .ok (.aload_n 1, 1) := dk_43 (dk_at dksX19_isSo_0 0 rfl rfl)
theorem dX19_isSo_1 : decode cX19_isSo 1 = .ok (.aload_n 0, 1) := dk_42 (dk_at dksX19_isSo_0 1 rfl rfl)
theorem dX19_isSo_2 : decode cX19_isSo 2 = .ok (.getfield 7, 3) := dk_180 0 7 (dk_at dksX19_isSo_0 2 rfl rfl)
theorem dX19_isSo_5 : decode cX19_isSo 5 = .ok (.aload_n 1, 1) := dk_43 (dk_at dksX19_isSo_0 5 rfl rfl)
theorem dX19_isSo_6 : decode cX19_isSo 6 = .ok (.getfield 19, 3) := dk_180 0 19 (dk_at dksX19_isSo_0 6 rfl rfl)
theorem dX19_isSo_9 : decode cX19_isSo 9 = .ok (.aload_n 0, 1) := dk_42 (dk_at dksX19_isSo_0 9 rfl rfl)
theorem dX19_isSo_10 : decode cX19_isSo 10 = .ok (.getfield 13, 3) := dk_180 0 13 (dk_at dksX19_isSo_0 10 rfl rfl)
theorem dX19_isSo_13 : decode cX19_isSo 13 = .ok (.iaload, 1) := dk_46 (dk_at dksX19_isSo_0 13 rfl rfl)
theorem dX19_isSo_14 : decode cX19_isSo 14 = .ok (.invokevirtual 25, 3) := dk_182 0 25 (dk_at dksX19_isSo_0 14 rfl rfl)
theorem dX19_isSo_17 : decode cX19_isSo 17 = .ok (.aload_n 1, 1) := dk_43 (dk_at dksX19_isSo_0 17 rfl rfl)
theorem dX19_isSo_18 : decode cX19_isSo 18 = .ok (.getfield 19, 3) := dk_180 0 19 (dk_at dksX19_isSo_0 18 rfl rfl)
theorem dX19_isSo_21 : decode cX19_isSo 21 = .ok (.aload_n 0, 1) := dk_42 (dk_at dksX19_isSo_0 21 rfl rfl)
theorem dX19_isSo_22 : decode cX19_isSo 22 = .ok (.getfield 16, 3) := dk_180 0 16 (dk_at dksX19_isSo_1 0 rfl rfl)
theorem dX19_isSo_25 : decode cX19_isSo 25 = .ok (.iaload, 1) := dk_46 (dk_at dksX19_isSo_1 3 rfl rfl)
theorem dX19_isSo_26 : decode cX19_isSo 26 = .ok (.invokestatic 29, 3) := dk_184 0 29 (dk_at dksX19_isSo_1 4 rfl rfl)
theorem dX19_isSo_29 : decode cX19_isSo 29 = .ok (.ireturn, 1) := dk_172 (dk_at dksX19_isSo_1 7 rfl rfl)

abbrev cX2_init : ByteArray := prog_14_method_1_code
def yX2_init : MethodName := ⟨RX2, "<init>", "()V"⟩
def dkwX2_init_1 : List UInt8 := [187, 0, 15, 89, 7, 183, 0, 17, 181, 0, 20, 177]
abbrev dktX2_init_1 : List UInt8 := dkwX2_init_1 ++ []
def dkwX2_init_0 : List UInt8 := [42, 183, 0, 3, 42, 6, 188, 10, 89, 3, 5, 79, 89, 4, 5, 79, 89, 5, 5, 79, 181, 0, 9, 42]
abbrev dktX2_init_0 : List UInt8 := dkwX2_init_0 ++ dktX2_init_1
theorem dksX2_init_0 : cX2_init.data.toList.drop 0 = dktX2_init_0 := by decide +kernel
theorem dksX2_init_1 : cX2_init.data.toList.drop 24 = dktX2_init_1 := dk_seg dksX2_init_0 24 rfl rfl
theorem dX2_init_0 : decode cX2_init 0 = .ok (.aload_n 0, 1) := dk_42 (dk_at dksX2_init_0 0 rfl rfl)
theorem dX2_init_1 : decode cX2_init 1 = .ok (.invokespecial 3, 3) := dk_183 0 3 (dk_at dksX2_init_0 1 rfl rfl)
theorem dX2_init_4 : decode cX2_init 4 = .ok (.aload_n 0, 1) := dk_42 (dk_at dksX2_init_0 4 rfl rfl)
theorem dX2_init_5 : decode cX2_init 5 = .ok (.iconst 3, 1) := dk_6 (dk_at dksX2_init_0 5 rfl rfl)
theorem dX2_init_6 : decode cX2_init 6 = .ok (.newarray .int, 2) := dk_188_10 (dk_at dksX2_init_0 6 rfl rfl)
theorem dX2_init_8 : decode cX2_init 8 = .ok (.dup, 1) := dk_89 (dk_at dksX2_init_0 8 rfl rfl)
theorem dX2_init_9 : decode cX2_init 9 = .ok (.iconst 0, 1) := dk_3 (dk_at dksX2_init_0 9 rfl rfl)
theorem dX2_init_10 : decode cX2_init 10 = .ok (.iconst 2, 1) := dk_5 (dk_at dksX2_init_0 10 rfl rfl)
theorem dX2_init_11 : decode cX2_init 11 = .ok (.iastore, 1) := dk_79 (dk_at dksX2_init_0 11 rfl rfl)
theorem dX2_init_12 : decode cX2_init 12 = .ok (.dup, 1) := dk_89 (dk_at dksX2_init_0 12 rfl rfl)
theorem dX2_init_13 : decode cX2_init 13 = .ok (.iconst 1, 1) := dk_4 (dk_at dksX2_init_0 13 rfl rfl)
theorem dX2_init_14 : decode cX2_init 14 = .ok (.iconst 2, 1) := dk_5 (dk_at dksX2_init_0 14 rfl rfl)
theorem dX2_init_15 : decode cX2_init 15 = .ok (.iastore, 1) := dk_79 (dk_at dksX2_init_0 15 rfl rfl)
theorem dX2_init_16 : decode cX2_init 16 = .ok (.dup, 1) := dk_89 (dk_at dksX2_init_0 16 rfl rfl)
theorem dX2_init_17 : decode cX2_init 17 = .ok (.iconst 2, 1) := dk_5 (dk_at dksX2_init_0 17 rfl rfl)
theorem dX2_init_18 : decode cX2_init 18 = .ok (.iconst 2, 1) := dk_5 (dk_at dksX2_init_0 18 rfl rfl)
theorem dX2_init_19 : decode cX2_init 19 = .ok (.iastore, 1) := dk_79 (dk_at dksX2_init_0 19 rfl rfl)
theorem dX2_init_20 : decode cX2_init 20 = .ok (.putfield 9, 3) := dk_181 0 9 (dk_at dksX2_init_0 20 rfl rfl)
theorem dX2_init_23 : decode cX2_init 23 = .ok (.aload_n 0, 1) := dk_42 (dk_at dksX2_init_0 23 rfl rfl)
theorem dX2_init_24 : decode cX2_init 24 = .ok (.new 15, 3) := dk_187 0 15 (dk_at dksX2_init_1 0 rfl rfl)
theorem dX2_init_27 : decode cX2_init 27 = .ok (.dup, 1) := dk_89 (dk_at dksX2_init_1 3 rfl rfl)
theorem dX2_init_28 : decode cX2_init 28 = .ok (.iconst 4, 1) := dk_7 (dk_at dksX2_init_1 4 rfl rfl)
theorem dX2_init_29 : decode cX2_init 29 = .ok (.invokespecial 17, 3) := dk_183 0 17 (dk_at dksX2_init_1 5 rfl rfl)
theorem dX2_init_32 : decode cX2_init 32 = .ok (.putfield 20, 3) := dk_181 0 20 (dk_at dksX2_init_1 8 rfl rfl)
theorem dX2_init_35 : decode cX2_init 35 = .ok (.return_, 1) := dk_177 (dk_at dksX2_init_1 11 rfl rfl)
abbrev cX2_size : ByteArray := prog_14_method_3_code
def yX2_size : MethodName := ⟨RX2, "size", "(I)I"⟩
def dkwX2_size_0 : List UInt8 := [42, 180, 0, 9, 27, 46, 172]
abbrev dktX2_size_0 : List UInt8 := dkwX2_size_0 ++ []
theorem dksX2_size_0 : cX2_size.data.toList.drop 0 = dktX2_size_0 := by decide +kernel
theorem dX2_size_0 : decode cX2_size 0 = .ok (.aload_n 0, 1) := dk_42 (dk_at dksX2_size_0 0 rfl rfl)
theorem dX2_size_1 : decode cX2_size 1 = .ok (.getfield 9, 3) := dk_180 0 9 (dk_at dksX2_size_0 1 rfl rfl)
theorem dX2_size_4 : decode cX2_size 4 = .ok (.iload_n 1, 1) := dk_27 (dk_at dksX2_size_0 4 rfl rfl)
theorem dX2_size_5 : decode cX2_size 5 = .ok (.iaload, 1) := dk_46 (dk_at dksX2_size_0 5 rfl rfl)
theorem dX2_size_6 : decode cX2_size 6 = .ok (.ireturn, 1) := dk_172 (dk_at dksX2_size_0 6 rfl rfl)
abbrev cX2_facts : ByteArray := prog_14_method_6_code
def yX2_facts : MethodName := ⟨RX2, "facts", "()I"⟩
def dkwX2_facts_1 : List UInt8 := [132, 2, 1, 167, 255, 234, 27, 172]
abbrev dktX2_facts_1 : List UInt8 := dkwX2_facts_1 ++ []
def dkwX2_facts_0 : List UInt8 := [3, 60, 3, 61, 28, 42, 180, 0, 20, 182, 0, 37, 162, 0, 17, 27, 42, 28, 182, 0, 62, 96, 60]
abbrev dktX2_facts_0 : List UInt8 := dkwX2_facts_0 ++ dktX2_facts_1
theorem dksX2_facts_0 : cX2_facts.data.toList.drop 0 = dktX2_facts_0 := by decide +kernel
theorem dksX2_facts_1 : cX2_facts.data.toList.drop 23 = dktX2_facts_1 := dk_seg dksX2_facts_0 23 rfl rfl
theorem dX2_facts_0 : decode cX2_facts 0 = .ok (.iconst 0, 1) := dk_3 (dk_at dksX2_facts_0 0 rfl rfl)
theorem dX2_facts_1 : decode cX2_facts 1 = .ok (.istore_n 1, 1) := dk_60 (dk_at dksX2_facts_0 1 rfl rfl)
theorem dX2_facts_2 : decode cX2_facts 2 = .ok (.iconst 0, 1) := dk_3 (dk_at dksX2_facts_0 2 rfl rfl)
theorem dX2_facts_3 : decode cX2_facts 3 = .ok (.istore_n 2, 1) := dk_61 (dk_at dksX2_facts_0 3 rfl rfl)
theorem dX2_facts_4 : decode cX2_facts 4 = .ok (.iload_n 2, 1) := dk_28 (dk_at dksX2_facts_0 4 rfl rfl)
theorem dX2_facts_5 : decode cX2_facts 5 = .ok (.aload_n 0, 1) := dk_42 (dk_at dksX2_facts_0 5 rfl rfl)
theorem dX2_facts_6 : decode cX2_facts 6 = .ok (.getfield 20, 3) := dk_180 0 20 (dk_at dksX2_facts_0 6 rfl rfl)
theorem dX2_facts_9 : decode cX2_facts 9 = .ok (.invokevirtual 37, 3) := dk_182 0 37 (dk_at dksX2_facts_0 9 rfl rfl)
theorem dX2_facts_12 : decode cX2_facts 12 = .ok (.if_icmp .ge 17, 3) := dk_162 0 17 (dk_at dksX2_facts_0 12 rfl rfl)
theorem dX2_facts_15 : decode cX2_facts 15 = .ok (.iload_n 1, 1) := dk_27 (dk_at dksX2_facts_0 15 rfl rfl)
theorem dX2_facts_16 : decode cX2_facts 16 = .ok (.aload_n 0, 1) := dk_42 (dk_at dksX2_facts_0 16 rfl rfl)
theorem dX2_facts_17 : decode cX2_facts 17 = .ok (.iload_n 2, 1) := dk_28 (dk_at dksX2_facts_0 17 rfl rfl)
theorem dX2_facts_18 : decode cX2_facts 18 = .ok (.invokevirtual 62, 3) := dk_182 0 62 (dk_at dksX2_facts_0 18 rfl rfl)
theorem dX2_facts_21 : decode cX2_facts 21 = .ok (.iadd, 1) := dk_96 (dk_at dksX2_facts_0 21 rfl rfl)
theorem dX2_facts_22 : decode cX2_facts 22 = .ok (.istore_n 1, 1) := dk_60 (dk_at dksX2_facts_0 22 rfl rfl)
theorem dX2_facts_23 : decode cX2_facts 23 = .ok (.iinc 2 1, 3) := dk_132 2 1 (dk_at dksX2_facts_1 0 rfl rfl)
theorem dX2_facts_26 : decode cX2_facts 26 = .ok (.goto (-22), 3) := dk_167 255 234 (dk_at dksX2_facts_1 3 rfl rfl)
theorem dX2_facts_29 : decode cX2_facts 29 = .ok (.iload_n 1, 1) := dk_27 (dk_at dksX2_facts_1 6 rfl rfl)
theorem dX2_facts_30 : decode cX2_facts 30 = .ok (.ireturn, 1) := dk_172 (dk_at dksX2_facts_1 7 rfl rfl)
abbrev cX2_factsOf : ByteArray := prog_14_method_5_code
def yX2_factsOf : MethodName := ⟨RX2, "factsOf", "(I)I"⟩
def dkwX2_factsOf_1 : List UInt8 := [182, 0, 55, 153, 0, 7, 4, 167, 0, 12, 42, 180, 0, 9, 44, 180, 0, 59, 46, 104, 172]
abbrev dktX2_factsOf_1 : List UInt8 := dkwX2_factsOf_1 ++ []
def dkwX2_factsOf_0 : List UInt8 := [42, 180, 0, 20, 27, 182, 0, 45, 192, 0, 49, 77, 42, 180, 0, 9, 44, 180, 0, 51, 46, 44]
abbrev dktX2_factsOf_0 : List UInt8 := dkwX2_factsOf_0 ++ dktX2_factsOf_1
theorem dksX2_factsOf_0 : cX2_factsOf.data.toList.drop 0 = dktX2_factsOf_0 := by decide +kernel
theorem dksX2_factsOf_1 : cX2_factsOf.data.toList.drop 22 = dktX2_factsOf_1 := dk_seg dksX2_factsOf_0 22 rfl rfl
theorem dX2_factsOf_0 : decode cX2_factsOf 0 = .ok (.aload_n 0, 1) := dk_42 (dk_at dksX2_factsOf_0 0 rfl rfl)
theorem dX2_factsOf_1 : decode cX2_factsOf 1 = .ok (.getfield 20, 3) := dk_180 0 20 (dk_at dksX2_factsOf_0 1 rfl rfl)
theorem dX2_factsOf_4 : decode cX2_factsOf 4 = .ok (.iload_n 1, 1) := dk_27 (dk_at dksX2_factsOf_0 4 rfl rfl)
theorem dX2_factsOf_5 : decode cX2_factsOf 5 = .ok (.invokevirtual 45, 3) := dk_182 0 45 (dk_at dksX2_factsOf_0 5 rfl rfl)
theorem dX2_factsOf_8 : decode cX2_factsOf 8 = .ok (.checkcast 49, 3) := dk_192 0 49 (dk_at dksX2_factsOf_0 8 rfl rfl)
theorem dX2_factsOf_11 : decode cX2_factsOf 11 = .ok (.astore_n 2, 1) := dk_77 (dk_at dksX2_factsOf_0 11 rfl rfl)
theorem dX2_factsOf_12 : decode cX2_factsOf 12 = .ok (.aload_n 0, 1) := dk_42 (dk_at dksX2_factsOf_0 12 rfl rfl)
theorem dX2_factsOf_13 : decode cX2_factsOf 13 = .ok (.getfield 9, 3) := dk_180 0 9 (dk_at dksX2_factsOf_0 13 rfl rfl)
theorem dX2_factsOf_16 : decode cX2_factsOf 16 = .ok (.aload_n 2, 1) := dk_44 (dk_at dksX2_factsOf_0 16 rfl rfl)
theorem dX2_factsOf_17 : decode cX2_factsOf 17 = .ok (.getfield 51, 3) := dk_180 0 51 (dk_at dksX2_factsOf_0 17 rfl rfl)
theorem dX2_factsOf_20 : decode cX2_factsOf 20 = .ok (.iaload, 1) := dk_46 (dk_at dksX2_factsOf_0 20 rfl rfl)
theorem dX2_factsOf_21 : decode cX2_factsOf 21 = .ok (.aload_n 2, 1) := dk_44 (dk_at dksX2_factsOf_0 21 rfl rfl)
theorem dX2_factsOf_22 : decode cX2_factsOf 22 = .ok (.invokevirtual 55, 3) := dk_182 0 55 (dk_at dksX2_factsOf_1 0 rfl rfl)
theorem dX2_factsOf_25 : decode cX2_factsOf 25 = .ok (.ifCond .eq 7, 3) := dk_153 0 7 (dk_at dksX2_factsOf_1 3 rfl rfl)
theorem dX2_factsOf_28 : decode cX2_factsOf 28 = .ok (.iconst 1, 1) := dk_4 (dk_at dksX2_factsOf_1 6 rfl rfl)
theorem dX2_factsOf_29 : decode cX2_factsOf 29 = .ok (.goto 12, 3) := dk_167 0 12 (dk_at dksX2_factsOf_1 7 rfl rfl)
theorem dX2_factsOf_32 : decode cX2_factsOf 32 = .ok (.aload_n 0, 1) := dk_42 (dk_at dksX2_factsOf_1 10 rfl rfl)
theorem dX2_factsOf_33 : decode cX2_factsOf 33 = .ok (.getfield 9, 3) := dk_180 0 9 (dk_at dksX2_factsOf_1 11 rfl rfl)
theorem dX2_factsOf_36 : decode cX2_factsOf 36 = .ok (.aload_n 2, 1) := dk_44 (dk_at dksX2_factsOf_1 14 rfl rfl)
theorem dX2_factsOf_37 : decode cX2_factsOf 37 = .ok (.getfield 59, 3) := dk_180 0 59 (dk_at dksX2_factsOf_1 15 rfl rfl)
theorem dX2_factsOf_40 : decode cX2_factsOf 40 = .ok (.iaload, 1) := dk_46 (dk_at dksX2_factsOf_1 18 rfl rfl)
theorem dX2_factsOf_41 : decode cX2_factsOf 41 = .ok (.imul, 1) := dk_104 (dk_at dksX2_factsOf_1 19 rfl rfl)
theorem dX2_factsOf_42 : decode cX2_factsOf 42 = .ok (.ireturn, 1) := dk_172 (dk_at dksX2_factsOf_1 20 rfl rfl)
abbrev cX2_fact : ByteArray := prog_14_method_7_code
def yX2_fact : MethodName := ⟨RX2, "fact", "(III)I"⟩
def dkwX2_fact_5 : List UInt8 := [54, 5, 132, 6, 1, 167, 255, 236, 21, 5, 172]
abbrev dktX2_fact_5 : List UInt8 := dkwX2_fact_5 ++ []
def dkwX2_fact_4 : List UInt8 := [104, 29, 96, 54, 5, 3, 54, 6, 21, 6, 27, 162, 0, 20, 21, 5, 42, 21, 6, 182, 0, 62, 96]
abbrev dktX2_fact_4 : List UInt8 := dkwX2_fact_4 ++ dktX2_fact_5
def dkwX2_fact_3 : List UInt8 := [172, 25, 4, 182, 0, 55, 153, 0, 7, 28, 167, 0, 17, 28, 42, 180, 0, 9, 25, 4, 180, 0, 59, 46]
abbrev dktX2_fact_3 : List UInt8 := dkwX2_fact_3 ++ dktX2_fact_4
def dkwX2_fact_2 : List UInt8 := [154, 0, 25, 29, 3, 42, 180, 0, 9, 25, 4, 180, 0, 59, 46, 4, 100, 184, 0, 41, 154, 0, 5, 2]
abbrev dktX2_fact_2 : List UInt8 := dkwX2_fact_2 ++ dktX2_fact_3
def dkwX2_fact_1 : List UInt8 := [3, 42, 180, 0, 9, 25, 4, 180, 0, 51, 46, 4, 100, 184, 0, 41, 153, 0, 31, 25, 4, 182, 0, 55]
abbrev dktX2_fact_1 : List UInt8 := dkwX2_fact_1 ++ dktX2_fact_2
def dkwX2_fact_0 : List UInt8 := [42, 27, 182, 0, 66, 154, 0, 5, 2, 172, 42, 180, 0, 20, 27, 182, 0, 45, 192, 0, 49, 58, 4, 28]
abbrev dktX2_fact_0 : List UInt8 := dkwX2_fact_0 ++ dktX2_fact_1
theorem dksX2_fact_0 : cX2_fact.data.toList.drop 0 = dktX2_fact_0 := by decide +kernel
theorem dksX2_fact_1 : cX2_fact.data.toList.drop 24 = dktX2_fact_1 := dk_seg dksX2_fact_0 24 rfl rfl
theorem dksX2_fact_2 : cX2_fact.data.toList.drop 48 = dktX2_fact_2 := dk_seg dksX2_fact_1 24 rfl rfl
theorem dksX2_fact_3 : cX2_fact.data.toList.drop 72 = dktX2_fact_3 := dk_seg dksX2_fact_2 24 rfl rfl
theorem dksX2_fact_4 : cX2_fact.data.toList.drop 96 = dktX2_fact_4 := dk_seg dksX2_fact_3 24 rfl rfl
theorem dksX2_fact_5 : cX2_fact.data.toList.drop 119 = dktX2_fact_5 := dk_seg dksX2_fact_4 23 rfl rfl
theorem dX2_fact_0 : decode cX2_fact 0 = .ok (.aload_n 0, 1) := dk_42 (dk_at dksX2_fact_0 0 rfl rfl)
theorem dX2_fact_1 : decode cX2_fact 1 = .ok (.iload_n 1, 1) := dk_27 (dk_at dksX2_fact_0 1 rfl rfl)
theorem dX2_fact_2 : decode cX2_fact 2 = .ok (.invokevirtual 66, 3) := dk_182 0 66 (dk_at dksX2_fact_0 2 rfl rfl)
theorem dX2_fact_5 : decode cX2_fact 5 = .ok (.ifCond .ne 5, 3) := dk_154 0 5 (dk_at dksX2_fact_0 5 rfl rfl)
theorem dX2_fact_8 : decode cX2_fact 8 = .ok (.iconst (-1), 1) := dk_2 (dk_at dksX2_fact_0 8 rfl rfl)
theorem dX2_fact_9 : decode cX2_fact 9 = .ok (.ireturn, 1) := dk_172 (dk_at dksX2_fact_0 9 rfl rfl)
theorem dX2_fact_10 : decode cX2_fact 10 = .ok (.aload_n 0, 1) := dk_42 (dk_at dksX2_fact_0 10 rfl rfl)
theorem dX2_fact_11 : decode cX2_fact 11 = .ok (.getfield 20, 3) := dk_180 0 20 (dk_at dksX2_fact_0 11 rfl rfl)
theorem dX2_fact_14 : decode cX2_fact 14 = .ok (.iload_n 1, 1) := dk_27 (dk_at dksX2_fact_0 14 rfl rfl)
theorem dX2_fact_15 : decode cX2_fact 15 = .ok (.invokevirtual 45, 3) := dk_182 0 45 (dk_at dksX2_fact_0 15 rfl rfl)
theorem dX2_fact_18 : decode cX2_fact 18 = .ok (.checkcast 49, 3) := dk_192 0 49 (dk_at dksX2_fact_0 18 rfl rfl)
theorem dX2_fact_21 : decode cX2_fact 21 = .ok (.astore 4, 2) := dk_58 4 (dk_at dksX2_fact_0 21 rfl rfl)
theorem dX2_fact_23 : decode cX2_fact 23 = .ok (.iload_n 2, 1) := dk_28 (dk_at dksX2_fact_0 23 rfl rfl)
theorem dX2_fact_24 : decode cX2_fact 24 = .ok (.iconst 0, 1) := dk_3 (dk_at dksX2_fact_1 0 rfl rfl)
theorem dX2_fact_25 : decode cX2_fact 25 = .ok (.aload_n 0, 1) := dk_42 (dk_at dksX2_fact_1 1 rfl rfl)
theorem dX2_fact_26 : decode cX2_fact 26 = .ok (.getfield 9, 3) := dk_180 0 9 (dk_at dksX2_fact_1 2 rfl rfl)
theorem dX2_fact_29 : decode cX2_fact 29 = .ok (.aload 4, 2) := dk_25 4 (dk_at dksX2_fact_1 5 rfl rfl)
theorem dX2_fact_31 : decode cX2_fact 31 = .ok (.getfield 51, 3) := dk_180 0 51 (dk_at dksX2_fact_1 7 rfl rfl)
theorem dX2_fact_34 : decode cX2_fact 34 = .ok (.iaload, 1) := dk_46 (dk_at dksX2_fact_1 10 rfl rfl)
theorem dX2_fact_35 : decode cX2_fact 35 = .ok (.iconst 1, 1) := dk_4 (dk_at dksX2_fact_1 11 rfl rfl)
theorem dX2_fact_36 : decode cX2_fact 36 = .ok (.isub, 1) := dk_100 (dk_at dksX2_fact_1 12 rfl rfl)
theorem dX2_fact_37 : decode cX2_fact 37 = .ok (.invokestatic 41, 3) := dk_184 0 41 (dk_at dksX2_fact_1 13 rfl rfl)
theorem dX2_fact_40 : decode cX2_fact 40 = .ok (.ifCond .eq 31, 3) := dk_153 0 31 (dk_at dksX2_fact_1 16 rfl rfl)
theorem dX2_fact_43 : decode cX2_fact 43 = .ok (.aload 4, 2) := dk_25 4 (dk_at dksX2_fact_1 19 rfl rfl)
theorem dX2_fact_45 : decode cX2_fact 45 = .ok (.invokevirtual 55, 3) := dk_182 0 55 (dk_at dksX2_fact_1 21 rfl rfl)
theorem dX2_fact_48 : decode cX2_fact 48 = .ok (.ifCond .ne 25, 3) := dk_154 0 25 (dk_at dksX2_fact_2 0 rfl rfl)
theorem dX2_fact_51 : decode cX2_fact 51 = .ok (.iload_n 3, 1) := dk_29 (dk_at dksX2_fact_2 3 rfl rfl)
theorem dX2_fact_52 : decode cX2_fact 52 = .ok (.iconst 0, 1) := dk_3 (dk_at dksX2_fact_2 4 rfl rfl)
theorem dX2_fact_53 : decode cX2_fact 53 = .ok (.aload_n 0, 1) := dk_42 (dk_at dksX2_fact_2 5 rfl rfl)
theorem dX2_fact_54 : decode cX2_fact 54 = .ok (.getfield 9, 3) := dk_180 0 9 (dk_at dksX2_fact_2 6 rfl rfl)
theorem dX2_fact_57 : decode cX2_fact 57 = .ok (.aload 4, 2) := dk_25 4 (dk_at dksX2_fact_2 9 rfl rfl)
theorem dX2_fact_59 : decode cX2_fact 59 = .ok (.getfield 59, 3) := dk_180 0 59 (dk_at dksX2_fact_2 11 rfl rfl)
theorem dX2_fact_62 : decode cX2_fact 62 = .ok (.iaload, 1) := dk_46 (dk_at dksX2_fact_2 14 rfl rfl)
theorem dX2_fact_63 : decode cX2_fact 63 = .ok (.iconst 1, 1) := dk_4 (dk_at dksX2_fact_2 15 rfl rfl)
theorem dX2_fact_64 : decode cX2_fact 64 = .ok (.isub, 1) := dk_100 (dk_at dksX2_fact_2 16 rfl rfl)
theorem dX2_fact_65 : decode cX2_fact 65 = .ok (.invokestatic 41, 3) := dk_184 0 41 (dk_at dksX2_fact_2 17 rfl rfl)
theorem dX2_fact_68 : decode cX2_fact 68 = .ok (.ifCond .ne 5, 3) := dk_154 0 5 (dk_at dksX2_fact_2 20 rfl rfl)
theorem dX2_fact_71 : decode cX2_fact 71 = .ok (.iconst (-1), 1) := dk_2 (dk_at dksX2_fact_2 23 rfl rfl)
theorem dX2_fact_72 : decode cX2_fact 72 = .ok (.ireturn, 1) := dk_172 (dk_at dksX2_fact_3 0 rfl rfl)
theorem dX2_fact_73 : decode cX2_fact 73 = .ok (.aload 4, 2) := dk_25 4 (dk_at dksX2_fact_3 1 rfl rfl)
theorem dX2_fact_75 : decode cX2_fact 75 = .ok (.invokevirtual 55, 3) := dk_182 0 55 (dk_at dksX2_fact_3 3 rfl rfl)
theorem dX2_fact_78 : decode cX2_fact 78 = .ok (.ifCond .eq 7, 3) := dk_153 0 7 (dk_at dksX2_fact_3 6 rfl rfl)
theorem dX2_fact_81 : decode cX2_fact 81 = .ok (.iload_n 2, 1) := dk_28 (dk_at dksX2_fact_3 9 rfl rfl)
theorem dX2_fact_82 : decode cX2_fact 82 = .ok (.goto 17, 3) := dk_167 0 17 (dk_at dksX2_fact_3 10 rfl rfl)
theorem dX2_fact_85 : decode cX2_fact 85 = .ok (.iload_n 2, 1) := dk_28 (dk_at dksX2_fact_3 13 rfl rfl)
theorem dX2_fact_86 : decode cX2_fact 86 = .ok (.aload_n 0, 1) := dk_42 (dk_at dksX2_fact_3 14 rfl rfl)
theorem dX2_fact_87 : decode cX2_fact 87 = .ok (.getfield 9, 3) := dk_180 0 9 (dk_at dksX2_fact_3 15 rfl rfl)
theorem dX2_fact_90 : decode cX2_fact 90 = .ok (.aload 4, 2) := dk_25 4 (dk_at dksX2_fact_3 18 rfl rfl)
theorem dX2_fact_92 : decode cX2_fact 92 = .ok (.getfield 59, 3) := dk_180 0 59 (dk_at dksX2_fact_3 20 rfl rfl)
theorem dX2_fact_95 : decode cX2_fact 95 = .ok (.iaload, 1) := dk_46 (dk_at dksX2_fact_3 23 rfl rfl)
theorem dX2_fact_96 : decode cX2_fact 96 = .ok (.imul, 1) := dk_104 (dk_at dksX2_fact_4 0 rfl rfl)
theorem dX2_fact_97 : decode cX2_fact 97 = .ok (.iload_n 3, 1) := dk_29 (dk_at dksX2_fact_4 1 rfl rfl)
theorem dX2_fact_98 : decode cX2_fact 98 = .ok (.iadd, 1) := dk_96 (dk_at dksX2_fact_4 2 rfl rfl)
theorem dX2_fact_99 : decode cX2_fact 99 = .ok (.istore 5, 2) := dk_54 5 (dk_at dksX2_fact_4 3 rfl rfl)
theorem dX2_fact_101 : decode cX2_fact 101 = .ok (.iconst 0, 1) := dk_3 (dk_at dksX2_fact_4 5 rfl rfl)
theorem dX2_fact_102 : decode cX2_fact 102 = .ok (.istore 6, 2) := dk_54 6 (dk_at dksX2_fact_4 6 rfl rfl)
theorem dX2_fact_104 : decode cX2_fact 104 = .ok (.iload 6, 2) := dk_21 6 (dk_at dksX2_fact_4 8 rfl rfl)
theorem dX2_fact_106 : decode cX2_fact 106 = .ok (.iload_n 1, 1) := dk_27 (dk_at dksX2_fact_4 10 rfl rfl)
theorem dX2_fact_107 : decode cX2_fact 107 = .ok (.if_icmp .ge 20, 3) := dk_162 0 20 (dk_at dksX2_fact_4 11 rfl rfl)
theorem dX2_fact_110 : decode cX2_fact 110 = .ok (.iload 5, 2) := dk_21 5 (dk_at dksX2_fact_4 14 rfl rfl)
theorem dX2_fact_112 : decode cX2_fact 112 = .ok (.aload_n 0, 1) := dk_42 (dk_at dksX2_fact_4 16 rfl rfl)
theorem dX2_fact_113 : decode cX2_fact 113 = .ok (.iload 6, 2) := dk_21 6 (dk_at dksX2_fact_4 17 rfl rfl)
theorem dX2_fact_115 : decode cX2_fact 115 = .ok (.invokevirtual 62, 3) := dk_182 0 62 (dk_at dksX2_fact_4 19 rfl rfl)
theorem dX2_fact_118 : decode cX2_fact 118 = .ok (.iadd, 1) := dk_96 (dk_at dksX2_fact_4 22 rfl rfl)
theorem dX2_fact_119 : decode cX2_fact 119 = .ok (.istore 5, 2) := dk_54 5 (dk_at dksX2_fact_5 0 rfl rfl)
theorem dX2_fact_121 : decode cX2_fact 121 = .ok (.iinc 6 1, 3) := dk_132 6 1 (dk_at dksX2_fact_5 2 rfl rfl)
theorem dX2_fact_124 : decode cX2_fact 124 = .ok (.goto (-20), 3) := dk_167 255 236 (dk_at dksX2_fact_5 5 rfl rfl)
theorem dX2_fact_127 : decode cX2_fact 127 = .ok (.iload 5, 2) := dk_21 5 (dk_at dksX2_fact_5 8 rfl rfl)
theorem dX2_fact_129 : decode cX2_fact 129 = .ok (.ireturn, 1) := dk_172 (dk_at dksX2_fact_5 10 rfl rfl)
abbrev cX2_isRelation : ByteArray := prog_14_method_4_code
def yX2_isRelation : MethodName := ⟨RX2, "isRelation", "(I)Z"⟩
def dkwX2_isRelation_0 : List UInt8 := [27, 3, 42, 180, 0, 20, 182, 0, 37, 4, 100, 184, 0, 41, 172]
abbrev dktX2_isRelation_0 : List UInt8 := dkwX2_isRelation_0 ++ []
theorem dksX2_isRelation_0 : cX2_isRelation.data.toList.drop 0 = dktX2_isRelation_0 := by decide +kernel
theorem dX2_isRelation_0 : decode cX2_isRelation 0 = .ok (.iload_n 1, 1) := dk_27 (dk_at dksX2_isRelation_0 0 rfl rfl)
theorem dX2_isRelation_1 : decode cX2_isRelation 1 = .ok (.iconst 0, 1) := dk_3 (dk_at dksX2_isRelation_0 1 rfl rfl)
theorem dX2_isRelation_2 : decode cX2_isRelation 2 = .ok (.aload_n 0, 1) := dk_42 (dk_at dksX2_isRelation_0 2 rfl rfl)
theorem dX2_isRelation_3 : decode cX2_isRelation 3 = .ok (.getfield 20, 3) := dk_180 0 20 (dk_at dksX2_isRelation_0 3 rfl rfl)
theorem dX2_isRelation_6 : decode cX2_isRelation 6 = .ok (.invokevirtual 37, 3) := dk_182 0 37 (dk_at dksX2_isRelation_0 6 rfl rfl)
theorem dX2_isRelation_9 : decode cX2_isRelation 9 = .ok (.iconst 1, 1) := dk_4 (dk_at dksX2_isRelation_0 9 rfl rfl)
theorem dX2_isRelation_10 : decode cX2_isRelation 10 = .ok (.isub, 1) := dk_100 (dk_at dksX2_isRelation_0 10 rfl rfl)
theorem dX2_isRelation_11 : decode cX2_isRelation 11 = .ok (.invokestatic 41, 3) := dk_184 0 41 (dk_at dksX2_isRelation_0 11 rfl rfl)
theorem dX2_isRelation_14 : decode cX2_isRelation 14 = .ok (.ireturn, 1) := dk_172 (dk_at dksX2_isRelation_0 14 rfl rfl)
abbrev cX2_be : ByteArray := prog_14_method_2_code
def yX2_be : MethodName := ⟨RX2, "be", "(LVillageStories$Land;)V"⟩
def dkwX2_be_1 : List UInt8 := [180, 0, 20, 43, 180, 0, 20, 182, 0, 33, 87, 177]
abbrev dktX2_be_1 : List UInt8 := dkwX2_be_1 ++ []
def dkwX2_be_0 : List UInt8 := [43, 180, 0, 9, 3, 42, 180, 0, 9, 3, 6, 184, 0, 24, 42, 180, 0, 20, 182, 0, 30, 42]
abbrev dktX2_be_0 : List UInt8 := dkwX2_be_0 ++ dktX2_be_1
theorem dksX2_be_0 : cX2_be.data.toList.drop 0 = dktX2_be_0 := by decide +kernel
theorem dksX2_be_1 : cX2_be.data.toList.drop 22 = dktX2_be_1 := dk_seg dksX2_be_0 22 rfl rfl
theorem dX2_be_0 : decode cX2_be 0 = .ok (.aload_n 1, 1) := dk_43 (dk_at dksX2_be_0 0 rfl rfl)
theorem dX2_be_1 : decode cX2_be 1 = .ok (.getfield 9, 3) := dk_180 0 9 (dk_at dksX2_be_0 1 rfl rfl)
theorem dX2_be_4 : decode cX2_be 4 = .ok (.iconst 0, 1) := dk_3 (dk_at dksX2_be_0 4 rfl rfl)
theorem dX2_be_5 : decode cX2_be 5 = .ok (.aload_n 0, 1) := dk_42 (dk_at dksX2_be_0 5 rfl rfl)
theorem dX2_be_6 : decode cX2_be 6 = .ok (.getfield 9, 3) := dk_180 0 9 (dk_at dksX2_be_0 6 rfl rfl)
theorem dX2_be_9 : decode cX2_be 9 = .ok (.iconst 0, 1) := dk_3 (dk_at dksX2_be_0 9 rfl rfl)
theorem dX2_be_10 : decode cX2_be 10 = .ok (.iconst 3, 1) := dk_6 (dk_at dksX2_be_0 10 rfl rfl)
theorem dX2_be_11 : decode cX2_be 11 = .ok (.invokestatic 24, 3) := dk_184 0 24 (dk_at dksX2_be_0 11 rfl rfl)
theorem dX2_be_14 : decode cX2_be 14 = .ok (.aload_n 0, 1) := dk_42 (dk_at dksX2_be_0 14 rfl rfl)
theorem dX2_be_15 : decode cX2_be 15 = .ok (.getfield 20, 3) := dk_180 0 20 (dk_at dksX2_be_0 15 rfl rfl)
theorem dX2_be_18 : decode cX2_be 18 = .ok (.invokevirtual 30, 3) := dk_182 0 30 (dk_at dksX2_be_0 18 rfl rfl)
theorem dX2_be_21 : decode cX2_be 21 = .ok (.aload_n 0, 1) := dk_42 (dk_at dksX2_be_0 21 rfl rfl)
theorem dX2_be_22 : decode cX2_be 22 = .ok (.getfield 20, 3) := dk_180 0 20 (dk_at dksX2_be_1 0 rfl rfl)
theorem dX2_be_25 : decode cX2_be 25 = .ok (.aload_n 1, 1) := dk_43 (dk_at dksX2_be_1 3 rfl rfl)
theorem dX2_be_26 : decode cX2_be 26 = .ok (.getfield 20, 3) := dk_180 0 20 (dk_at dksX2_be_1 4 rfl rfl)
theorem dX2_be_29 : decode cX2_be 29 = .ok (.invokevirtual 33, 3) := dk_182 0 33 (dk_at dksX2_be_1 7 rfl rfl)
theorem dX2_be_32 : decode cX2_be 32 = .ok (.pop, 1) := dk_87 (dk_at dksX2_be_1 10 rfl rfl)
theorem dX2_be_33 : decode cX2_be 33 = .ok (.return_, 1) := dk_177 (dk_at dksX2_be_1 11 rfl rfl)

