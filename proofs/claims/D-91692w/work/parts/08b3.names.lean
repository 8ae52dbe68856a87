set_option maxRecDepth 100000
abbrev cX20_init : ByteArray := prog_30_method_1_code
def yX20_init : MethodName := ⟨RX20, "<init>", "(I)V"⟩
def dkwX20_init_0 : List UInt8 := [42, 183, 0, 1, 42, 27, 181, 0, 7, 177]
abbrev dktX20_init_0 : List UInt8 := dkwX20_init_0 ++ []
theorem dksX20_init_0 : cX20_init.data.toList.drop 0 = dktX20_init_0 := by decide +kernel
theorem dX20_init_0 : decode cX20_init 0 = .ok (.aload_n 0, 1) := dk_42 (dk_at dksX20_init_0 0 rfl rfl)
theorem dX20_init_1 : decode cX20_init 1 = .ok (.invokespecial 1, 3) := dk_183 0 1 (dk_at dksX20_init_0 1 rfl rfl)
theorem dX20_init_4 : decode cX20_init 4 = .ok (.aload_n 0, 1) := dk_42 (dk_at dksX20_init_0 4 rfl rfl)
theorem dX20_init_5 : decode cX20_init 5 = .ok (.iload_n 1, 1) := dk_27 (dk_at dksX20_init_0 5 rfl rfl)
theorem dX20_init_6 : decode cX20_init 6 = .ok (.putfield 7, 3) := dk_181 0 7 (dk_at dksX20_init_0 6 rfl rfl)
theorem dX20_init_9 : decode cX20_init 9 = .ok (.return_, 1) := dk_177 (dk_at dksX20_init_0 9 rfl rfl)
abbrev cX20_isSo : ByteArray := prog_30_method_2_code
def yX20_isSo : MethodName := ⟨RX20, "isSo", "(LVillageStories$World;)Z"⟩
def dkwX20_isSo_4 : List UInt8 := [184, 0, 48, 153, 0, 5, 3, 172, 132, 3, 1, 167, 255, 182, 4, 172]
abbrev dktX20_isSo_4 : List UInt8 := dkwX20_isSo_4 ++ []
def dkwX20_isSo_3 : List UInt8 := [132, 5, 1, 167, 255, 223, 21, 4, 4, 163, 0, 19, 43, 42, 180, 0, 7, 29, 182, 0, 44, 29]
abbrev dktX20_isSo_3 : List UInt8 := dkwX20_isSo_3 ++ dktX20_isSo_4
def dkwX20_isSo_2 : List UInt8 := [21, 4, 43, 42, 180, 0, 7, 29, 21, 5, 182, 0, 40, 153, 0, 7, 4, 167, 0, 4, 3, 96, 54, 4]
abbrev dktX20_isSo_2 : List UInt8 := dkwX20_isSo_2 ++ dktX20_isSo_3
def dkwX20_isSo_1 : List UInt8 := [182, 0, 36, 61, 3, 62, 29, 28, 162, 0, 75, 3, 54, 4, 3, 54, 5, 21, 5, 28, 162, 0, 33]
abbrev dktX20_isSo_1 : List UInt8 := dkwX20_isSo_1 ++ dktX20_isSo_2
def dkwX20_isSo_0 : List UInt8 := [43, 180, 0, 13, 43, 180, 0, 13, 180, 0, 19, 42, 180, 0, 7, 182, 0, 25, 192, 0, 31, 180, 0, 33]
abbrev dktX20_isSo_0 : List UInt8 := dkwX20_isSo_0 ++ dktX20_isSo_1
theorem dksX20_isSo_0 : cX20_isSo.data.toList.drop 0 = dktX20_isSo_0 := by decide +kernel
theorem dksX20_isSo_1 : cX20_isSo.data.toList.drop 24 = dktX20_isSo_1 := dk_seg dksX20_isSo_0 24 rfl rfl
theorem dksX20_isSo_2 : cX20_isSo.data.toList.drop 47 = dktX20_isSo_2 := dk_seg dksX20_isSo_1 23 rfl rfl
theorem dksX20_isSo_3 : cX20_isSo.data.toList.drop 71 = dktX20_isSo_3 := dk_seg dksX20_isSo_2 24 rfl rfl
theorem dksX20_isSo_4 : cX20_isSo.data.toList.drop 93 = dktX20_isSo_4 := dk_seg dksX20_isSo_3 22 rfl rfl
theorem dX20_isSo_0 : decode cX20_isSo 0 = .ok (.aload_n 1, 1) := dk_43 (dk_at dksX20_isSo_0 0 rfl rfl)
theorem dX20_isSo_1 : decode cX20_isSo 1 = .ok (.getfield 13, 3) := dk_180 0 13 (dk_at dksX20_isSo_0 1 rfl rfl)
theorem dX20_isSo_4 : decode cX20_isSo 4 = .ok (.aload_n 1, 1) := dk_43 (dk_at dksX20_isSo_0 4 rfl rfl)
theorem dX20_isSo_5 : decode cX20_isSo 5 = .ok (.getfield 13, 3) := dk_180 0 13 (dk_at dksX20_isSo_0 5 rfl rfl)
theorem dX20_isSo_8 : decode cX20_isSo 8 = .ok (.getfield 19, 3) := dk_180 0 19 (dk_at dksX20_isSo_0 8 rfl rfl)
theorem dX20_isSo_11 : decode cX20_isSo 11 = .ok (.aload_n 0, 1) := dk_42 (dk_at dksX20_isSo_0 11 rfl rfl)
theorem dX20_isSo_12 : decode cX20_isSo 12 = .ok (.getfield 7, 3) := dk_180 0 7 (dk_at dksX20_isSo_0 12 rfl rfl)
theorem dX20_isSo_15 : decode cX20_isSo 15 = .ok (.invokevirtual 25, 3) := dk_182 0 25 (dk_at dksX20_isSo_0 15 rfl rfl)
theorem dX20_isSo_18 : decode cX20_isSo 18 = .ok (.checkcast 31, 3) := dk_192 0 31 (dk_at dksX20_isSo_0 18 rfl rfl)
theorem dX20_isSo_21 : decode cX20_isSo 21 = .ok (.getfield 33, 3) := dk_180 0 33 (dk_at dksX20_isSo_0 21 rfl rfl)
theorem dX20_isSo_24 : decode cX20_isSo 24 = .ok (.invokevirtual 36, 3) := dk_182 0 36 (dk_at dksX20_isSo_1 0 rfl rfl)
theorem dX20_isSo_27 : decode cX20_isSo 27 = .ok (.istore_n 2, 1) := dk_61 (dk_at dksX20_isSo_1 3 rfl rfl)
theorem dX20_isSo_28 : decode cX20_isSo 28 = .ok (.iconst 0, 1) := dk_3 (dk_at dksX20_isSo_1 4 rfl rfl)
theorem dX20_isSo_29 : decode cX20_isSo 29 = .ok (.istore_n 3, 1) := dk_62 (dk_at dksX20_isSo_1 5 rfl rfl)
theorem dX20_isSo_30 : decode cX20_isSo 30 = .ok (.iload_n 3, 1) := dk_29 (dk_at dksX20_isSo_1 6 rfl rfl)
theorem dX20_isSo_31 : decode cX20_isSo 31 = .ok (.iload_n 2, 1) := dk_28 (dk_at dksX20_isSo_1 7 rfl rfl)
theorem dX20_isSo_32 : decode cX20_isSo 32 = .ok (.if_icmp .ge 75, 3) := dk_162 0 75 (dk_at dksX20_isSo_1 8 rfl rfl)
theorem dX20_isSo_35 : decode cX20_isSo 35 = .ok (.iconst 0, 1) := dk_3 (dk_at dksX20_isSo_1 11 rfl rfl)
theorem dX20_isSo_36 : decode cX20_isSo 36 = .ok (.istore 4, 2) := dk_54 4 (dk_at dksX20_isSo_1 12 rfl rfl)
theorem dX20_isSo_38 : decode cX20_isSo 38 = .ok (.iconst 0, 1) := dk_3 (dk_at dksX20_isSo_1 14 rfl rfl)
theorem dX20_isSo_39 : decode cX20_isSo 39 = .ok (.istore 5, 2) := dk_54 5 (dk_at dksX20_isSo_1 15 rfl rfl)
theorem dX20_isSo_41 : decode cX20_isSo 41 = .ok (.iload 5, 2) := dk_21 5 (dk_at dksX20_isSo_1 17 rfl rfl)
theorem dX20_isSo_43 : decode cX20_isSo 43 = .ok (.iload_n 2, 1) := dk_28 (dk_at dksX20_isSo_1 19 rfl rfl)
theorem dX20_isSo_44 : decode cX20_isSo 44 = .ok (.if_icmp .ge 33, 3) := dk_162 0 33 (dk_at dksX20_isSo_1 20 rfl rfl)
theorem dX20_isSo_47 : decode cX20_isSo 47 = .ok (.iload 4, 2) := dk_21 4 (dk_at dksX20_isSo_2 0 rfl rfl)
theorem dX20_isSo_49 : decode cX20_isSo 49 = .ok (.aload_n 1, 1) := dk_43 (dk_at dksX20_isSo_2 2 rfl rfl)
theorem dX20_isSo_50 : decode cX20_isSo 50 = .ok (.aload_n 0, 1) := dk_42 (dk_at dksX20_isSo_2 3 rfl rfl)
theorem dX20_isSo_51 : decode cX20_isSo 51 = .ok (.getfield 7, 3) := dk_180 0 7 (dk_at dksX20_isSo_2 4 rfl rfl)
theorem dX20_isSo_54 : decode cX20_isSo 54 = .ok (.iload_n 3, 1) := dk_29 (dk_at dksX20_isSo_2 7 rfl rfl)
theorem dX20_isSo_55 : decode cX20_isSo 55 = .ok (.iload 5, 2) := dk_21 5 (dk_at dksX20_isSo_2 8 rfl rfl)
theorem dX20_isSo_57 : decode cX20_isSo 57 = .ok (.invokevirtual 40, 3) := dk_182 0 40 (dk_at dksX20_isSo_2 10 rfl rfl)
theorem dX20_isSo_60 : decode cX20_isSo 60 = .ok (.ifCond .eq 7, 3) := dk_153 0 7 (dk_at dksX20_isSo_2 13 rfl rfl)
theorem dX20_isSo_63 : decode cX20_isSo 63 = .ok (.iconst 1, 1) := dk_4 (dk_at dksX20_isSo_2 16 rfl rfl)
theorem dX20_isSo_64 : decode cX20_isSo 64 = .ok (.goto 4, 3) := dk_167 0 4 (dk_at dksX20_isSo_2 17 rfl rfl)
theorem dX20_isSo_67 : decode cX20_isSo 67 = .ok (.iconst 0, 1) := dk_3 (dk_at dksX20_isSo_2 20 rfl rfl)
theorem dX20_isSo_68 : decode cX20_isSo 68 = .ok (.iadd, 1) := dk_96 (dk_at dksX20_isSo_2 21 rfl rfl)
theorem dX20_isSo_69 : decode cX20_isSo 69 = .ok (.istore 4, 2) := dk_54 4 (dk_at dksX20_isSo_2 22 rfl rfl)
theorem dX20_isSo_71 : decode cX20_isSo 71 = .ok (.iinc 5 1, 3) := dk_132 5 1 (dk_at dksX20_isSo_3 0 rfl rfl)
theorem dX20_isSo_74 : decode cX20_isSo 74 = .ok (.goto (-33), 3) := dk_167 255 223 (dk_at dksX20_isSo_3 3 rfl rfl)
theorem dX20_isSo_77 : decode cX20_isSo 77 = .ok (.iload 4, 2) := dk_21 4 (dk_at dksX20_isSo_3 6 rfl rfl)
theorem dX20_isSo_79 : decode cX20_isSo 79 = .ok (.iconst 1, 1) := dk_4 (dk_at dksX20_isSo_3 8 rfl rfl)
theorem dX20_isSo_80 : decode cX20_isSo 80 = .ok (.if_icmp .gt 19, 3) := dk_163 0 19 (dk_at dksX20_isSo_3 9 rfl rfl)
theorem dX20_isSo_83 : decode cX20_isSo 83 = .ok (.aload_n 1, 1) := dk_43 (dk_at dksX20_isSo_3 12 rfl rfl)
theorem dX20_isSo_84 : decode cX20_isSo 84 = .ok (.aload_n 0, 1) := dk_42 (dk_at dksX20_isSo_3 13 rfl rfl)
theorem dX20_isSo_85 : decode cX20_isSo 85 = .ok (.getfield 7, 3) := dk_180 0 7 (dk_at dksX20_isSo_3 14 rfl rfl)
theorem dX20_isSo_88 : decode cX20_isSo 88 = .ok (.iload_n 3, 1) := dk_29 (dk_at dksX20_isSo_3 17 rfl rfl)
theorem dX20_isSo_89 : decode cX20_isSo 89 = .ok (.invokevirtual 44, 3) := dk_182 0 44 (dk_at dksX20_isSo_3 18 rfl rfl)
theorem dX20_isSo_92 : decode cX20_isSo 92 = .ok (.iload_n 3, 1) := dk_29 (dk_at dksX20_isSo_3 21 rfl rfl)
theorem dX20_isSo_93 : decode cX20_isSo 93 = .ok (.invokestatic 48, 3) := dk_184 0 48 (dk_at dksX20_isSo_4 0 rfl rfl)
theorem dX20_isSo_96 : decode cX20_isSo 96 = .ok (.ifCond .eq 5, 3) := dk_153 0 5 (dk_at dksX20_isSo_4 3 rfl rfl)
theorem dX20_isSo_99 : decode cX20_isSo 99 = .ok (.iconst 0, 1) := dk_3 (dk_at dksX20_isSo_4 6 rfl rfl)
theorem dX20_isSo_100 : decode cX20_isSo 100 = .ok (.ireturn, 1) := dk_172 (dk_at dksX20_isSo_4 7 rfl rfl)
theorem dX20_isSo_101 : decode cX20_isSo 101 = .ok (.iinc 3 1, 3) := dk_132 3 1 (dk_at dksX20_isSo_4 8 rfl rfl)
theorem dX20_isSo_104 : decode cX20_isSo 104 = .ok (.goto (-74), 3) := dk_167 255 182 (dk_at dksX20_isSo_4 11 rfl rfl)
theorem dX20_isSo_107 : decode cX20_isSo 107 = .ok (.iconst 1, 1) := dk_4 (dk_at dksX20_isSo_4 14 rfl rfl)
theorem dX20_isSo_108 : decode cX20_isSo 108 = .ok (.ireturn, 1) := dk_172 (dk_at dksX20_isSo_4 15 rfl rfl)

abbrev cX21_init : ByteArray := prog_7_method_1_code
def yX21_init : MethodName := ⟨RX21, "<init>", "(III)V"⟩
def dkwX21_init_0 : List UInt8 := [42, 183, 0, 3, 42, 27, 181, 0, 9, 42, 28, 181, 0, 15, 42, 29, 181, 0, 18, 177]
abbrev dktX21_init_0 : List UInt8 := dkwX21_init_0 ++ []
theorem dksX21_init_0 : cX21_init.data.toList.drop 0 = dktX21_init_0 := by decide +kernel
theorem dX21_init_0 : decode cX21_init 0 = .ok (.aload_n 0, 1) := dk_42 (dk_at dksX21_init_0 0 rfl rfl)
theorem dX21_init_1 : decode cX21_init 1 = .ok (.invokespecial 3, 3) := dk_183 0 3 (dk_at dksX21_init_0 1 rfl rfl)
theorem dX21_init_4 : decode cX21_init 4 = .ok (.aload_n 0, 1) := dk_42 (dk_at dksX21_init_0 4 rfl rfl)
theorem dX21_init_5 : decode cX21_init 5 = .ok (.iload_n 1, 1) := dk_27 (dk_at dksX21_init_0 5 rfl rfl)
theorem dX21_init_6 : decode cX21_init 6 = .ok (.putfield 9, 3) := dk_181 0 9 (dk_at dksX21_init_0 6 rfl rfl)
theorem dX21_init_9 : decode cX21_init 9 = .ok (.aload_n 0, 1) := dk_42 (dk_at dksX21_init_0 9 rfl rfl)
theorem dX21_init_10 : decode cX21_init 10 = .ok (.iload_n 2, 1) := dk_28 (dk_at dksX21_init_0 10 rfl rfl)
theorem dX21_init_11 : decode cX21_init 11 = .ok (.putfield 15, 3) := dk_181 0 15 (dk_at dksX21_init_0 11 rfl rfl)
theorem dX21_init_14 : decode cX21_init 14 = .ok (.aload_n 0, 1) := dk_42 (dk_at dksX21_init_0 14 rfl rfl)
theorem dX21_init_15 : decode cX21_init 15 = .ok (.iload_n 3, 1) := dk_29 (dk_at dksX21_init_0 15 rfl rfl)
theorem dX21_init_16 : decode cX21_init 16 = .ok (.putfield 18, 3) := dk_181 0 18 (dk_at dksX21_init_0 16 rfl rfl)
theorem dX21_init_19 : decode cX21_init 19 = .ok (.return_, 1) := dk_177 (dk_at dksX21_init_0 19 rfl rfl)
abbrev cX21_isSo : ByteArray := prog_7_method_2_code
def yX21_isSo : MethodName := ⟨RX21, "isSo", "(LVillageStories$World;)Z"⟩
def dkwX21_isSo_1 : List UInt8 := [167, 0, 12, 43, 180, 0, 21, 42, 180, 0, 18, 46, 182, 0, 27, 172]
abbrev dktX21_isSo_1 : List UInt8 := dkwX21_isSo_1 ++ []
def dkwX21_isSo_0 : List UInt8 := [43, 42, 180, 0, 9, 43, 180, 0, 21, 42, 180, 0, 15, 46, 42, 180, 0, 18, 2, 160, 0, 7, 3]
abbrev dktX21_isSo_0 : List UInt8 := dkwX21_isSo_0 ++ dktX21_isSo_1
theorem dksX21_isSo_0 : cX21_isSo.data.toList.drop 0 = dktX21_isSo_0 := by decide +kernel
theorem dksX21_isSo_1 : cX21_isSo.data.toList.drop 23 = dktX21_isSo_1 := dk_seg dksX21_isSo_0 23 rfl rfl
theorem dX21_isSo_0 : decode cX21_isSo 0 = .ok (.aload_n 1, 1) := dk_43 (dk_at dksX21_isSo_0 0 rfl rfl)
theorem dX21_isSo_1 : decode cX21_isSo 1 = .ok (.aload_n 0, 1) := dk_42 (dk_at dksX21_isSo_0 1 rfl rfl)
theorem dX21_isSo_2 : decode cX21_isSo 2 = .ok (.getfield 9, 3) := dk_180 0 9 (dk_at dksX21_isSo_0 2 rfl rfl)
theorem dX21_isSo_5 : decode cX21_isSo 5 = .ok (.aload_n 1, 1) := dk_43 (dk_at dksX21_isSo_0 5 rfl rfl)
theorem dX21_isSo_6 : decode cX21_isSo 6 = .ok (.getfield 21, 3) := dk_180 0 21 (dk_at dksX21_isSo_0 6 rfl rfl)
theorem dX21_isSo_9 : decode cX21_isSo 9 = .ok (.aload_n 0, 1) := dk_42 (dk_at dksX21_isSo_0 9 rfl rfl)
theorem dX21_isSo_10 : decode cX21_isSo 10 = .ok (.getfield 15, 3) := dk_180 0 15 (dk_at dksX21_isSo_0 10 rfl rfl)
theorem dX21_isSo_13 : decode cX21_isSo 13 = .ok (.iaload, 1) := dk_46 (dk_at dksX21_isSo_0 13 rfl rfl)
theorem dX21_isSo_14 : decode cX21_isSo 14 = .ok (.aload_n 0, 1) := dk_42 (dk_at dksX21_isSo_0 14 rfl rfl)
theorem dX21_isSo_15 : decode cX21_isSo 15 = .ok (.getfield 18, 3) := dk_180 0 18 (dk_at dksX21_isSo_0 15 rfl rfl)
theorem dX21_isSo_18 : decode cX21_isSo 18 = .ok (.iconst (-1), 1) := dk_2 (dk_at dksX21_isSo_0 18 rfl rfl)
theorem dX21_isSo_19 : decode cX21_isSo 19 = .ok (.if_icmp .ne 7, 3) := dk_160 0 7 (dk_at dksX21_isSo_0 19 rfl rfl)
theorem dX21_isSo_22 : decode cX21_isSo 22 = .ok (.iconst 0, 1) := dk_3 (dk_at dksX21_isSo_0 22 rfl rfl)
theorem dX21_isSo_23 : decode cX21_isSo 23 = .ok (.goto 12, 3) := dk_167 0 12 (dk_at dksX21_isSo_1 0 rfl rfl)
theorem dX21_isSo_26 : decode cX21_isSo 26 = .ok (.aload_n 1, 1) := dk_43 (dk_at dksX21_isSo_1 3 rfl rfl)
theorem dX21_isSo_27 : decode cX21_isSo 27 = .ok (.getfield 21, 3) := dk_180 0 21 (dk_at dksX21_isSo_1 4 rfl rfl)
theorem dX21_isSo_30 : decode cX21_isSo 30 = .ok (.aload_n 0, 1) := dk_42 (dk_at dksX21_isSo_1 7 rfl rfl)
theorem dX21_isSo_31 : decode cX21_isSo 31 = .ok (.getfield 18, 3) := dk_180 0 18 (dk_at dksX21_isSo_1 8 rfl rfl)
theorem dX21_isSo_34 : decode cX21_isSo 34 = .ok (.iaload, 1) := dk_46 (dk_at dksX21_isSo_1 11 rfl rfl)
theorem dX21_isSo_35 : decode cX21_isSo 35 = .ok (.invokevirtual 27, 3) := dk_182 0 27 (dk_at dksX21_isSo_1 12 rfl rfl)
theorem dX21_isSo_38 : decode cX21_isSo 38 = .ok (.ireturn, 1) := dk_172 (dk_at dksX21_isSo_1 15 rfl rfl)

abbrev cX22_is : ByteArray := prog_10_method_2_code
def yX22_is : MethodName := ⟨RX22, "is", "(LVillageStories$Part;LVillageStories$Part;LVillageStories$World;)Z"⟩
def dkwX22_is_0 : List UInt8 := [43, 45, 182, 0, 7, 153, 0, 15, 44, 45, 182, 0, 7, 153, 0, 7, 4, 167, 0, 4, 3, 172]
abbrev dktX22_is_0 : List UInt8 := dkwX22_is_0 ++ []
theorem dksX22_is_0 : cX22_is.data.toList.drop 0 = dktX22_is_0 := by decide +kernel
theorem dX22_is_0 : decode cX22_is 0 = .ok (.aload_n 1, 1) := dk_43 (dk_at dksX22_is_0 0 rfl rfl)
theorem dX22_is_1 : decode cX22_is 1 = .ok (.aload_n 3, 1) := dk_45 (dk_at dksX22_is_0 1 rfl rfl)
theorem dX22_is_2 : decode cX22_is 2 = .ok (.invokevirtual 7, 3) := dk_182 0 7 (dk_at dksX22_is_0 2 rfl rfl)
theorem dX22_is_5 : decode cX22_is 5 = .ok (.ifCond .eq 15, 3) := dk_153 0 15 (dk_at dksX22_is_0 5 rfl rfl)
theorem dX22_is_8 : decode cX22_is 8 = .ok (.aload_n 2, 1) := dk_44 (dk_at dksX22_is_0 8 rfl rfl)
theorem dX22_is_9 : decode cX22_is 9 = .ok (.aload_n 3, 1) := dk_45 (dk_at dksX22_is_0 9 rfl rfl)
theorem dX22_is_10 : decode cX22_is 10 = .ok (.invokevirtual 7, 3) := dk_182 0 7 (dk_at dksX22_is_0 10 rfl rfl)
theorem dX22_is_13 : decode cX22_is 13 = .ok (.ifCond .eq 7, 3) := dk_153 0 7 (dk_at dksX22_is_0 13 rfl rfl)
theorem dX22_is_16 : decode cX22_is 16 = .ok (.iconst 1, 1) := dk_4 (dk_at dksX22_is_0 16 rfl rfl)
theorem dX22_is_17 : decode cX22_is 17 = .ok (.goto 4, 3) := dk_167 0 4 (dk_at dksX22_is_0 17 rfl rfl)
theorem dX22_is_20 : decode cX22_is 20 = .ok (.iconst 0, 1) := dk_3 (dk_at dksX22_is_0 20 rfl rfl)
theorem dX22_is_21 : decode cX22_is 21 = .ok (.ireturn, 1) := dk_172 (dk_at dksX22_is_0 21 rfl rfl)

abbrev cX23_is : ByteArray := prog_11_method_2_code
def yX23_is : MethodName := ⟨RX23, "is", "(LVillageStories$Part;LVillageStories$Part;LVillageStories$World;)Z"⟩
def dkwX23_is_0 : List UInt8 := [43, 45, 182, 0, 7, 154, 0, 11, 44, 45, 182, 0, 7, 153, 0, 7, 4, 167, 0, 4, 3, 172]
abbrev dktX23_is_0 : List UInt8 := dkwX23_is_0 ++ []
theorem dksX23_is_0 : cX23_is.data.toList.drop 0 = dktX23_is_0 := by decide +kernel
theorem dX23_is_0 : decode cX23_is 0 = .ok (.aload_n 1, 1) := dk_43 (dk_at dksX23_is_0 0 rfl rfl)
theorem dX23_is_1 : decode cX23_is 1 = .ok (.aload_n 3, 1) := dk_45 (dk_at dksX23_is_0 1 rfl rfl)
theorem dX23_is_2 : decode cX23_is 2 = .ok (.invokevirtual 7, 3) := dk_182 0 7 (dk_at dksX23_is_0 2 rfl rfl)
theorem dX23_is_5 : decode cX23_is 5 = .ok (.ifCond .ne 11, 3) := dk_154 0 11 (dk_at dksX23_is_0 5 rfl rfl)
theorem dX23_is_8 : decode cX23_is 8 = .ok (.aload_n 2, 1) := dk_44 (dk_at dksX23_is_0 8 rfl rfl)
theorem dX23_is_9 : decode cX23_is 9 = .ok (.aload_n 3, 1) := dk_45 (dk_at dksX23_is_0 9 rfl rfl)
theorem dX23_is_10 : decode cX23_is 10 = .ok (.invokevirtual 7, 3) := dk_182 0 7 (dk_at dksX23_is_0 10 rfl rfl)
theorem dX23_is_13 : decode cX23_is 13 = .ok (.ifCond .eq 7, 3) := dk_153 0 7 (dk_at dksX23_is_0 13 rfl rfl)
theorem dX23_is_16 : decode cX23_is 16 = .ok (.iconst 1, 1) := dk_4 (dk_at dksX23_is_0 16 rfl rfl)
theorem dX23_is_17 : decode cX23_is 17 = .ok (.goto 4, 3) := dk_167 0 4 (dk_at dksX23_is_0 17 rfl rfl)
theorem dX23_is_20 : decode cX23_is 20 = .ok (.iconst 0, 1) := dk_3 (dk_at dksX23_is_0 20 rfl rfl)
theorem dX23_is_21 : decode cX23_is 21 = .ok (.ireturn, 1) := dk_172 (dk_at dksX23_is_0 21 rfl rfl)

abbrev cX24_is : ByteArray := prog_12_method_2_code
def yX24_is : MethodName := ⟨RX24, "is", "(LVillageStories$Part;LVillageStories$Part;LVillageStories$World;)Z"⟩
def dkwX24_is_0 : List UInt8 := [43, 45, 182, 0, 7, 153, 0, 11, 44, 45, 182, 0, 7, 153, 0, 7, 4, 167, 0, 4, 3, 172]
abbrev dktX24_is_0 : List UInt8 := dkwX24_is_0 ++ []
theorem dksX24_is_0 : cX24_is.data.toList.drop 0 = dktX24_is_0 := by decide +kernel
theorem dX24_is_0 : decode cX24_is 0 = .ok (.aload_n 1, 1) := dk_43 (dk_at dksX24_is_0 0 rfl rfl)
theorem dX24_is_1 : decode cX24_is 1 = .ok (.aload_n 3, 1) := dk_45 (dk_at dksX24_is_0 1 rfl rfl)
theorem dX24_is_2 : decode cX24_is 2 = .ok (.invokevirtual 7, 3) := dk_182 0 7 (dk_at dksX24_is_0 2 rfl rfl)
theorem dX24_is_5 : decode cX24_is 5 = .ok (.ifCond .eq 11, 3) := dk_153 0 11 (dk_at dksX24_is_0 5 rfl rfl)
theorem dX24_is_8 : decode cX24_is 8 = .ok (.aload_n 2, 1) := dk_44 (dk_at dksX24_is_0 8 rfl rfl)
theorem dX24_is_9 : decode cX24_is 9 = .ok (.aload_n 3, 1) := dk_45 (dk_at dksX24_is_0 9 rfl rfl)
theorem dX24_is_10 : decode cX24_is 10 = .ok (.invokevirtual 7, 3) := dk_182 0 7 (dk_at dksX24_is_0 10 rfl rfl)
theorem dX24_is_13 : decode cX24_is 13 = .ok (.ifCond .eq 7, 3) := dk_153 0 7 (dk_at dksX24_is_0 13 rfl rfl)
theorem dX24_is_16 : decode cX24_is 16 = .ok (.iconst 1, 1) := dk_4 (dk_at dksX24_is_0 16 rfl rfl)
theorem dX24_is_17 : decode cX24_is 17 = .ok (.goto 4, 3) := dk_167 0 4 (dk_at dksX24_is_0 17 rfl rfl)
theorem dX24_is_20 : decode cX24_is 20 = .ok (.iconst 0, 1) := dk_3 (dk_at dksX24_is_0 20 rfl rfl)
theorem dX24_is_21 : decode cX24_is 21 = .ok (.ireturn, 1) := dk_172 (dk_at dksX24_is_0 21 rfl rfl)

abbrev cX25_is : ByteArray := prog_17_method_2_code
def yX25_is : MethodName := ⟨RX25, "is", "(III)Z"⟩
def dkwX25_is_0 : List UInt8 := [27, 28, 160, 0, 7, 4, 167, 0, 4, 3, 172]
abbrev dktX25_is_0 : List UInt8 := dkwX25_is_0 ++ []
theorem dksX25_is_0 : cX25_is.data.toList.drop 0 = dktX25_is_0 := by decide +kernel
theorem dX25_is_0 : decode cX25_is 0 = .ok (.iload_n 1, 1) := dk_27 (dk_at dksX25_is_0 0 rfl rfl)
theorem dX25_is_1 : decode cX25_is 1 = .ok (.iload_n 2, 1) := dk_28 (dk_at dksX25_is_0 1 rfl rfl)
theorem dX25_is_2 : decode cX25_is 2 = .ok (.if_icmp .ne 7, 3) := dk_160 0 7 (dk_at dksX25_is_0 2 rfl rfl)
theorem dX25_is_5 : decode cX25_is 5 = .ok (.iconst 1, 1) := dk_4 (dk_at dksX25_is_0 5 rfl rfl)
theorem dX25_is_6 : decode cX25_is 6 = .ok (.goto 4, 3) := dk_167 0 4 (dk_at dksX25_is_0 6 rfl rfl)
theorem dX25_is_9 : decode cX25_is 9 = .ok (.iconst 0, 1) := dk_3 (dk_at dksX25_is_0 9 rfl rfl)
theorem dX25_is_10 : decode cX25_is 10 = .ok (.ireturn, 1) := dk_172 (dk_at dksX25_is_0 10 rfl rfl)

abbrev cX26_is : ByteArray := prog_18_method_2_code
def yX26_is : MethodName := ⟨RX26, "is", "(III)Z"⟩
def dkwX26_is_0 : List UInt8 := [27, 158, 0, 7, 4, 167, 0, 4, 3, 172]
abbrev dktX26_is_0 : List UInt8 := dkwX26_is_0 ++ []
theorem dksX26_is_0 : cX26_is.data.toList.drop 0 = dktX26_is_0 := by decide +kernel
theorem dX26_is_0 : decode cX26_is 0 = .ok (.iload_n 1, 1) := dk_27 (dk_at dksX26_is_0 0 rfl rfl)
theorem dX26_is_1 : decode cX26_is 1 = .ok (.ifCond .le 7, 3) := dk_158 0 7 (dk_at dksX26_is_0 1 rfl rfl)
theorem dX26_is_4 : decode cX26_is 4 = .ok (.iconst 1, 1) := dk_4 (dk_at dksX26_is_0 4 rfl rfl)
theorem dX26_is_5 : decode cX26_is 5 = .ok (.goto 4, 3) := dk_167 0 4 (dk_at dksX26_is_0 5 rfl rfl)
theorem dX26_is_8 : decode cX26_is 8 = .ok (.iconst 0, 1) := dk_3 (dk_at dksX26_is_0 8 rfl rfl)
theorem dX26_is_9 : decode cX26_is 9 = .ok (.ireturn, 1) := dk_172 (dk_at dksX26_is_0 9 rfl rfl)

abbrev cX27_is : ByteArray := prog_19_method_2_code
def yX27_is : MethodName := ⟨RX27, "is", "(III)Z"⟩
def dkwX27_is_0 : List UInt8 := [27, 29, 161, 0, 7, 4, 167, 0, 4, 3, 172]
abbrev dktX27_is_0 : List UInt8 := dkwX27_is_0 ++ []
theorem dksX27_is_0 : cX27_is.data.toList.drop 0 = dktX27_is_0 := by decide +kernel
theorem dX27_is_0 : decode cX27_is 0 = .ok (.iload_n 1, 1) := dk_27 (dk_at dksX27_is_0 0 rfl rfl)
theorem dX27_is_1 : decode cX27_is 1 = .ok (.iload_n 3, 1) := dk_29 (dk_at dksX27_is_0 1 rfl rfl)
theorem dX27_is_2 : decode cX27_is 2 = .ok (.if_icmp .lt 7, 3) := dk_161 0 7 (dk_at dksX27_is_0 2 rfl rfl)
theorem dX27_is_5 : decode cX27_is 5 = .ok (.iconst 1, 1) := dk_4 (dk_at dksX27_is_0 5 rfl rfl)
theorem dX27_is_6 : decode cX27_is 6 = .ok (.goto 4, 3) := dk_167 0 4 (dk_at dksX27_is_0 6 rfl rfl)
theorem dX27_is_9 : decode cX27_is 9 = .ok (.iconst 0, 1) := dk_3 (dk_at dksX27_is_0 9 rfl rfl)
theorem dX27_is_10 : decode cX27_is 10 = .ok (.ireturn, 1) := dk_172 (dk_at dksX27_is_0 10 rfl rfl)

abbrev cX28_is : ByteArray := prog_20_method_2_code
def yX28_is : MethodName := ⟨RX28, "is", "(III)Z"⟩
def dkwX28_is_0 : List UInt8 := [27, 29, 163, 0, 7, 4, 167, 0, 4, 3, 172]
abbrev dktX28_is_0 : List UInt8 := dkwX28_is_0 ++ []
theorem dksX28_is_0 : cX28_is.data.toList.drop 0 = dktX28_is_0 := by decide +kernel
theorem dX28_is_0 : decode cX28_is 0 = .ok (.iload_n 1, 1) := dk_27 (dk_at dksX28_is_0 0 rfl rfl)
theorem dX28_is_1 : decode cX28_is 1 = .ok (.iload_n 3, 1) := dk_29 (dk_at dksX28_is_0 1 rfl rfl)
theorem dX28_is_2 : decode cX28_is 2 = .ok (.if_icmp .gt 7, 3) := dk_163 0 7 (dk_at dksX28_is_0 2 rfl rfl)
theorem dX28_is_5 : decode cX28_is 5 = .ok (.iconst 1, 1) := dk_4 (dk_at dksX28_is_0 5 rfl rfl)
theorem dX28_is_6 : decode cX28_is 6 = .ok (.goto 4, 3) := dk_167 0 4 (dk_at dksX28_is_0 6 rfl rfl)
theorem dX28_is_9 : decode cX28_is 9 = .ok (.iconst 0, 1) := dk_3 (dk_at dksX28_is_0 9 rfl rfl)
theorem dX28_is_10 : decode cX28_is 10 = .ok (.ireturn, 1) := dk_172 (dk_at dksX28_is_0 10 rfl rfl)

abbrev cX3_init : ByteArray := prog_31_method_1_code
def yX3_init : MethodName := ⟨RX3, "<init>", "()V"⟩
def dkwX3_init_0 : List UInt8 := [42, 183, 0, 3, 42, 7, 188, 10, 181, 0, 9, 177]
abbrev dktX3_init_0 : List UInt8 := dkwX3_init_0 ++ []
theorem dksX3_init_0 : cX3_init.data.toList.drop 0 = dktX3_init_0 := by decide +kernel
theorem dX3_init_0 : decode cX3_init 0 = .ok (.aload_n 0, 1) := dk_42 (dk_at dksX3_init_0 0 rfl rfl)
theorem dX3_init_1 : decode cX3_init 1 = .ok (.invokespecial 3, 3) := dk_183 0 3 (dk_at dksX3_init_0 1 rfl rfl)
theorem dX3_init_4 : decode cX3_init 4 = .ok (.aload_n 0, 1) := dk_42 (dk_at dksX3_init_0 4 rfl rfl)
theorem dX3_init_5 : decode cX3_init 5 = .ok (.iconst 4, 1) := dk_7 (dk_at dksX3_init_0 5 rfl rfl)
theorem dX3_init_6 : decode cX3_init 6 = .ok (.newarray .int, 2) := dk_188_10 (dk_at dksX3_init_0 6 rfl rfl)
theorem dX3_init_8 : decode cX3_init 8 = .ok (.putfield 9, 3) := dk_181 0 9 (dk_at dksX3_init_0 8 rfl rfl)
theorem dX3_init_11 : decode cX3_init 11 = .ok (.return_, 1) := dk_177 (dk_at dksX3_init_0 11 rfl rfl)
abbrev cX3_is : ByteArray := prog_31_method_2_code
def yX3_is : MethodName := ⟨RX3, "is", "(LVillageStories$Land;J)V"⟩
def dkwX3_is_0 : List UInt8 := [42, 43, 181, 0, 15, 42, 32, 181, 0, 19, 42, 43, 182, 0, 23, 181, 0, 29, 177]
abbrev dktX3_is_0 : List UInt8 := dkwX3_is_0 ++ []
theorem dksX3_is_0 : cX3_is.data.toList.drop 0 = dktX3_is_0 := by decide +kernel
theorem dX3_is_0 : decode cX3_is 0 = .ok (.aload_n 0, 1) := dk_42 (dk_at dksX3_is_0 0 rfl rfl)
theorem dX3_is_1 : decode cX3_is 1 = .ok (.aload_n 1, 1) := dk_43 (dk_at dksX3_is_0 1 rfl rfl)
theorem dX3_is_2 : decode cX3_is 2 = .ok (.putfield 15, 3) := dk_181 0 15 (dk_at dksX3_is_0 2 rfl rfl)
theorem dX3_is_5 : decode cX3_is 5 = .ok (.aload_n 0, 1) := dk_42 (dk_at dksX3_is_0 5 rfl rfl)
theorem dX3_is_6 : decode cX3_is 6 = .ok (.lload_n 2, 1) := dk_32 (dk_at dksX3_is_0 6 rfl rfl)
theorem dX3_is_7 : decode cX3_is 7 = .ok (.putfield 19, 3) := dk_181 0 19 (dk_at dksX3_is_0 7 rfl rfl)
theorem dX3_is_10 : decode cX3_is 10 = .ok (.aload_n 0, 1) := dk_42 (dk_at dksX3_is_0 10 rfl rfl)
theorem dX3_is_11 : decode cX3_is 11 = .ok (.aload_n 1, 1) := dk_43 (dk_at dksX3_is_0 11 rfl rfl)
theorem dX3_is_12 : decode cX3_is 12 = .ok (.invokevirtual 23, 3) := dk_182 0 23 (dk_at dksX3_is_0 12 rfl rfl)
theorem dX3_is_15 : decode cX3_is 15 = .ok (.putfield 29, 3) := dk_181 0 29 (dk_at dksX3_is_0 15 rfl rfl)
theorem dX3_is_18 : decode cX3_is 18 = .ok (.return_, 1) := dk_177 (dk_at dksX3_is_0 18 rfl rfl)
abbrev cX3_isSo : ByteArray := prog_31_method_3_code
def yX3_isSo : MethodName := ⟨RX3, "isSo", "(III)Z"⟩
def dkwX3_isSo_1 : List UInt8 := [10, 148, 154, 0, 7, 4, 167, 0, 4, 3, 172]
abbrev dktX3_isSo_1 : List UInt8 := dkwX3_isSo_1 ++ []
def dkwX3_isSo_0 : List UInt8 := [42, 180, 0, 19, 42, 180, 0, 29, 4, 100, 42, 180, 0, 15, 27, 28, 29, 182, 0, 32, 100, 123, 10, 127]
abbrev dktX3_isSo_0 : List UInt8 := dkwX3_isSo_0 ++ dktX3_isSo_1
theorem dksX3_isSo_0 : cX3_isSo.data.toList.drop 0 = dktX3_isSo_0 := by decide +kernel
theorem dksX3_isSo_1 : cX3_isSo.data.toList.drop 24 = dktX3_isSo_1 := dk_seg dksX3_isSo_0 24 rfl rfl
theorem dX3_isSo_0 : decode cX3_isSo 0 = .ok (.aload_n 0, 1) := dk_42 (dk_at dksX3_isSo_0 0 rfl rfl)
theorem dX3_isSo_1 : decode cX3_isSo 1 = .ok (.getfield 19, 3) := dk_180 0 19 (dk_at dksX3_isSo_0 1 rfl rfl)
theorem dX3_isSo_4 : decode cX3_isSo 4 = .ok (.aload_n 0, 1) := dk_42 (dk_at dksX3_isSo_0 4 rfl rfl)
theorem dX3_isSo_5 : decode cX3_isSo 5 = .ok (.getfield 29, 3) := dk_180 0 29 (dk_at dksX3_isSo_0 5 rfl rfl)
theorem dX3_isSo_8 : decode cX3_isSo 8 = .ok (.iconst 1, 1) := dk_4 (dk_at dksX3_isSo_0 8 rfl rfl)
theorem dX3_isSo_9 : decode cX3_isSo 9 = .ok (.isub, 1) := dk_100 (dk_at dksX3_isSo_0 9 rfl rfl)
theorem dX3_isSo_10 : decode cX3_isSo 10 = .ok (.aload_n 0, 1) := dk_42 (dk_at dksX3_isSo_0 10 rfl rfl)
theorem dX3_isSo_11 : decode cX3_isSo 11 = .ok (.getfield 15, 3) := dk_180 0 15 (dk_at dksX3_isSo_0 11 rfl rfl)
theorem dX3_isSo_14 : decode cX3_isSo 14 = .ok (.iload_n 1, 1) := dk_27 (dk_at dksX3_isSo_0 14 rfl rfl)
theorem dX3_isSo_15 : decode cX3_isSo 15 = .ok (.iload_n 2, 1) := dk_28 (dk_at dksX3_isSo_0 15 rfl rfl)
theorem dX3_isSo_16 : decode cX3_isSo 16 = .ok (.iload_n 3, 1) := dk_29 (dk_at dksX3_isSo_0 16 rfl rfl)
theorem dX3_isSo_17 : decode cX3_isSo 17 = .ok (.invokevirtual 32, 3) := dk_182 0 32 (dk_at dksX3_isSo_0 17 rfl rfl)
theorem dX3_isSo_20 : decode cX3_isSo 20 = .ok (.isub, 1) := dk_100 (dk_at dksX3_isSo_0 20 rfl rfl)
theorem dX3_isSo_21 : decode cX3_isSo 21 = .ok (.lshr, 1) := dk_123 (dk_at dksX3_isSo_0 21 rfl rfl)
theorem dX3_isSo_22 : decode cX3_isSo 22 = .ok (.lconst 1, 1) := dk_10 (dk_at dksX3_isSo_0 22 rfl rfl)
theorem dX3_isSo_23 : decode cX3_isSo 23 = .ok (.land, 1) := dk_127 (dk_at dksX3_isSo_0 23 rfl rfl)
theorem dX3_isSo_24 : decode cX3_isSo 24 = .ok (.lconst 1, 1) := dk_10 (dk_at dksX3_isSo_1 0 rfl rfl)
theorem dX3_isSo_25 : decode cX3_isSo 25 = .ok (.lcmp, 1) := dk_148 (dk_at dksX3_isSo_1 1 rfl rfl)
theorem dX3_isSo_26 : decode cX3_isSo 26 = .ok (.ifCond .ne 7, 3) := dk_154 0 7 (dk_at dksX3_isSo_1 2 rfl rfl)
theorem dX3_isSo_29 : decode cX3_isSo 29 = .ok (.iconst 1, 1) := dk_4 (dk_at dksX3_isSo_1 5 rfl rfl)
theorem dX3_isSo_30 : decode cX3_isSo 30 = .ok (.goto 4, 3) := dk_167 0 4 (dk_at dksX3_isSo_1 6 rfl rfl)
theorem dX3_isSo_33 : decode cX3_isSo 33 = .ok (.iconst 0, 1) := dk_3 (dk_at dksX3_isSo_1 9 rfl rfl)
theorem dX3_isSo_34 : decode cX3_isSo 34 = .ok (.ireturn, 1) := dk_172 (dk_at dksX3_isSo_1 10 rfl rfl)
abbrev cX3_reached : ByteArray := prog_31_method_4_code
def yX3_reached : MethodName := ⟨RX3, "reached", "(II)I"⟩
def dkwX3_reached_4 : List UInt8 := [167, 255, 210, 132, 6, 1, 167, 255, 195, 132, 5, 1, 167, 255, 180, 21, 4, 172]
abbrev dktX3_reached_4 : List UInt8 := dkwX3_reached_4 ++ []
def dkwX3_reached_3 : List UInt8 := [42, 27, 21, 6, 21, 7, 182, 0, 59, 153, 0, 12, 21, 4, 4, 21, 7, 120, 128, 54, 4, 132, 7, 1]
abbrev dktX3_reached_3 : List UInt8 := dkwX3_reached_3 ++ dktX3_reached_4
def dkwX3_reached_2 : List UInt8 := [54, 7, 21, 7, 29, 162, 0, 46, 21, 6, 28, 159, 0, 13, 21, 4, 21, 6, 184, 0, 55, 153, 0, 24]
abbrev dktX3_reached_2 : List UInt8 := dkwX3_reached_2 ++ dktX3_reached_3
def dkwX3_reached_1 : List UInt8 := [62, 3, 54, 4, 3, 54, 5, 21, 5, 29, 162, 0, 76, 3, 54, 6, 21, 6, 29, 162, 0, 61, 3]
abbrev dktX3_reached_1 : List UInt8 := dkwX3_reached_1 ++ dktX3_reached_2
def dkwX3_reached_0 : List UInt8 := [42, 180, 0, 15, 42, 180, 0, 15, 180, 0, 36, 27, 182, 0, 40, 192, 0, 46, 180, 0, 48, 182, 0, 51]
abbrev dktX3_reached_0 : List UInt8 := dkwX3_reached_0 ++ dktX3_reached_1
theorem dksX3_reached_0 : cX3_reached.data.toList.drop 0 = dktX3_reached_0 := by decide +kernel
theorem dksX3_reached_1 : cX3_reached.data.toList.drop 24 = dktX3_reached_1 := dk_seg dksX3_reached_0 24 rfl rfl
theorem dksX3_reached_2 : cX3_reached.data.toList.drop 47 = dktX3_reached_2 := dk_seg dksX3_reached_1 23 rfl rfl
theorem dksX3_reached_3 : cX3_reached.data.toList.drop 71 = dktX3_reached_3 := dk_seg dksX3_reached_2 24 rfl rfl
theorem dksX3_reached_4 : cX3_reached.data.toList.drop 95 = dktX3_reached_4 := dk_seg dksX3_reached_3 24 rfl rfl
theorem dX3_reached_0 : decode cX3_reached 0 = .ok (.aload_n 0, 1) := dk_42 (dk_at dksX3_reached_0 0 rfl rfl)
theorem dX3_reached_1 : decode cX3_reached 1 = .ok (.getfield 15, 3) := dk_180 0 15 (dk_at dksX3_reached_0 1 rfl rfl)
theorem dX3_reached_4 : decode cX3_reached 4 = .ok (.aload_n 0, 1) := dk_42 (dk_at dksX3_reached_0 4 rfl rfl)
theorem dX3_reached_5 : decode cX3_reached 5 = .ok (.getfield 15, 3) := dk_180 0 15 (dk_at dksX3_reached_0 5 rfl rfl)
theorem dX3_reached_8 : decode cX3_reached 8 = .ok (.getfield 36, 3) := dk_180 0 36 (dk_at dksX3_reached_0 8 rfl rfl)
theorem dX3_reached_11 : decode cX3_reached 11 = .ok (.iload_n 1, 1) := dk_27 (dk_at dksX3_reached_0 11 rfl rfl)
theorem dX3_reached_12 : decode cX3_reached 12 = .ok (.invokevirtual 40, 3) := dk_182 0 40 (dk_at dksX3_reached_0 12 rfl rfl)
theorem dX3_reached_15 : decode cX3_reached 15 = .ok (.checkcast 46, 3) := dk_192 0 46 (dk_at dksX3_reached_0 15 rfl rfl)
theorem dX3_reached_18 : decode cX3_reached 18 = .ok (.getfield 48, 3) := dk_180 0 48 (dk_at dksX3_reached_0 18 rfl rfl)
theorem dX3_reached_21 : decode cX3_reached 21 = .ok (.invokevirtual 51, 3) := dk_182 0 51 (dk_at dksX3_reached_0 21 rfl rfl)
theorem dX3_reached_24 : decode cX3_reached 24 = .ok (.istore_n 3, 1) := dk_62 (dk_at dksX3_reached_1 0 rfl rfl)
theorem dX3_reached_25 : decode cX3_reached 25 = .ok (.iconst 0, 1) := dk_3 (dk_at dksX3_reached_1 1 rfl rfl)
theorem dX3_reached_26 : decode cX3_reached 26 = .ok (.istore 4, 2) := dk_54 4 (dk_at dksX3_reached_1 2 rfl rfl)
theorem dX3_reached_28 : decode cX3_reached 28 = .ok (.iconst 0, 1) := dk_3 (dk_at dksX3_reached_1 4 rfl rfl)
theorem dX3_reached_29 : decode cX3_reached 29 = .ok (.istore 5, 2) := dk_54 5 (dk_at dksX3_reached_1 5 rfl rfl)
theorem dX3_reached_31 : decode cX3_reached 31 = .ok (.iload 5, 2) := dk_21 5 (dk_at dksX3_reached_1 7 rfl rfl)
theorem dX3_reached_33 : decode cX3_reached 33 = .ok (.iload_n 3, 1) := dk_29 (dk_at dksX3_reached_1 9 rfl rfl)
theorem dX3_reached_34 : decode cX3_reached 34 = .ok (.if_icmp .ge 76, 3) := dk_162 0 76 (dk_at dksX3_reached_1 10 rfl rfl)
theorem dX3_reached_37 : decode cX3_reached 37 = .ok (.iconst 0, 1) := dk_3 (dk_at dksX3_reached_1 13 rfl rfl)
theorem dX3_reached_38 : decode cX3_reached 38 = .ok (.istore 6, 2) := dk_54 6 (dk_at dksX3_reached_1 14 rfl rfl)
theorem dX3_reached_40 : decode cX3_reached 40 = .ok (.iload 6, 2) := dk_21 6 (dk_at dksX3_reached_1 16 rfl rfl)
theorem dX3_reached_42 : decode cX3_reached 42 = .ok (.iload_n 3, 1) := dk_29 (dk_at dksX3_reached_1 18 rfl rfl)
theorem dX3_reached_43 : decode cX3_reached 43 = .ok (.if_icmp .ge 61, 3) := dk_162 0 61 (dk_at dksX3_reached_1 19 rfl rfl)
theorem dX3_reached_46 : decode cX3_reached 46 = .ok (.iconst 0, 1) := dk_3 (dk_at dksX3_reached_1 22 rfl rfl)
theorem dX3_reached_47 : decode cX3_reached 47 = .ok (.istore 7, 2) := dk_54 7 (dk_at dksX3_reached_2 0 rfl rfl)
theorem dX3_reached_49 : decode cX3_reached 49 = .ok (.iload 7, 2) := dk_21 7 (dk_at dksX3_reached_2 2 rfl rfl)
theorem dX3_reached_51 : decode cX3_reached 51 = .ok (.iload_n 3, 1) := dk_29 (dk_at dksX3_reached_2 4 rfl rfl)
theorem dX3_reached_52 : decode cX3_reached 52 = .ok (.if_icmp .ge 46, 3) := dk_162 0 46 (dk_at dksX3_reached_2 5 rfl rfl)
theorem dX3_reached_55 : decode cX3_reached 55 = .ok (.iload 6, 2) := dk_21 6 (dk_at dksX3_reached_2 8 rfl rfl)
theorem dX3_reached_57 : decode cX3_reached 57 = .ok (.iload_n 2, 1) := dk_28 (dk_at dksX3_reached_2 10 rfl rfl)
theorem dX3_reached_58 : decode cX3_reached 58 = .ok (.if_icmp .eq 13, 3) := dk_159 0 13 (dk_at dksX3_reached_2 11 rfl rfl)
theorem dX3_reached_61 : decode cX3_reached 61 = .ok (.iload 4, 2) := dk_21 4 (dk_at dksX3_reached_2 14 rfl rfl)
theorem dX3_reached_63 : decode cX3_reached 63 = .ok (.iload 6, 2) := dk_21 6 (dk_at dksX3_reached_2 16 rfl rfl)
theorem dX3_reached_65 : decode cX3_reached 65 = .ok (.invokestatic 55, 3) := dk_184 0 55 (dk_at dksX3_reached_2 18 rfl rfl)
theorem dX3_reached_68 : decode cX3_reached 68 = .ok (.ifCond .eq 24, 3) := dk_153 0 24 (dk_at dksX3_reached_2 21 rfl rfl)
theorem dX3_reached_71 : decode cX3_reached 71 = .ok (.aload_n 0, 1) := dk_42 (dk_at dksX3_reached_3 0 rfl rfl)
theorem dX3_reached_72 : decode cX3_reached 72 = .ok (.iload_n 1, 1) := dk_27 (dk_at dksX3_reached_3 1 rfl rfl)
theorem dX3_reached_73 : decode cX3_reached 73 = .ok (.iload 6, 2) := dk_21 6 (dk_at dksX3_reached_3 2 rfl rfl)
theorem dX3_reached_75 : decode cX3_reached 75 = .ok (.iload 7, 2) := dk_21 7 (dk_at dksX3_reached_3 4 rfl rfl)
theorem dX3_reached_77 : decode cX3_reached 77 = .ok (.invokevirtual 59, 3) := dk_182 0 59 (dk_at dksX3_reached_3 6 rfl rfl)
theorem dX3_reached_80 : decode cX3_reached 80 = .ok (.ifCond .eq 12, 3) := dk_153 0 12 (dk_at dksX3_reached_3 9 rfl rfl)
theorem dX3_reached_83 : decode cX3_reached 83 = .ok (.iload 4, 2) := dk_21 4 (dk_at dksX3_reached_3 12 rfl rfl)
theorem dX3_reached_85 : decode cX3_reached 85 = .ok (.iconst 1, 1) := dk_4 (dk_at dksX3_reached_3 14 rfl rfl)
theorem dX3_reached_86 : decode cX3_reached 86 = .ok (.iload 7, 2) := dk_21 7 (dk_at dksX3_reached_3 15 rfl rfl)
theorem dX3_reached_88 : decode cX3_reached 88 = .ok (.ishl, 1) := dk_120 (dk_at dksX3_reached_3 17 rfl rfl)
theorem dX3_reached_89 : decode cX3_reached 89 = .ok (.ior, 1) := dk_128 (dk_at dksX3_reached_3 18 rfl rfl)
theorem dX3_reached_90 : decode cX3_reached 90 = .ok (.istore 4, 2) := dk_54 4 (dk_at dksX3_reached_3 19 rfl rfl)
theorem dX3_reached_92 : decode cX3_reached 92 = .ok (.iinc 7 1, 3) := dk_132 7 1 (dk_at dksX3_reached_3 21 rfl rfl)
theorem dX3_reached_95 : decode cX3_reached 95 = .ok (.goto (-46), 3) := dk_167 255 210 (dk_at dksX3_reached_4 0 rfl rfl)
theorem dX3_reached_98 : decode cX3_reached 98 = .ok (.iinc 6 1, 3) := dk_132 6 1 (dk_at dksX3_reached_4 3 rfl rfl)
theorem dX3_reached_101 : decode cX3_reached 101 = .ok (.goto (-61), 3) := dk_167 255 195 (dk_at dksX3_reached_4 6 rfl rfl)
theorem dX3_reached_104 : decode cX3_reached 104 = .ok (.iinc 5 1, 3) := dk_132 5 1 (dk_at dksX3_reached_4 9 rfl rfl)
theorem dX3_reached_107 : decode cX3_reached 107 = .ok (.goto (-76), 3) := dk_167 255 180 (dk_at dksX3_reached_4 12 rfl rfl)
theorem dX3_reached_110 : decode cX3_reached 110 = .ok (.iload 4, 2) := dk_21 4 (dk_at dksX3_reached_4 15 rfl rfl)
theorem dX3_reached_112 : decode cX3_reached 112 = .ok (.ireturn, 1) := dk_172 (dk_at dksX3_reached_4 17 rfl rfl)

abbrev cX4_init : ByteArray := prog_26_method_1_code
def yX4_init : MethodName := ⟨RX4, "<init>", "(LVillageStories;)V"⟩
def dkwX4_init_0 : List UInt8 := [42, 43, 181, 0, 1, 42, 183, 0, 7, 177]
abbrev dktX4_init_0 : List UInt8 := dkwX4_init_0 ++ []
theorem dksX4_init_0 : cX4_init.data.toList.drop 0 = dktX4_init_0 := by decide +kernel
theorem dX4_init_0 : decode cX4_init 0 = .ok (.aload_n 0, 1) := dk_42 (dk_at dksX4_init_0 0 rfl rfl)
theorem dX4_init_1 : decode cX4_init 1 = .ok (.aload_n 1, 1) := dk_43 (dk_at dksX4_init_0 1 rfl rfl)
theorem dX4_init_2 : decode cX4_init 2 = .ok (.putfield 1, 3) := dk_181 0 1 (dk_at dksX4_init_0 2 rfl rfl)
theorem dX4_init_5 : decode cX4_init 5 = .ok (.aload_n 0, 1) := dk_42 (dk_at dksX4_init_0 5 rfl rfl)
theorem dX4_init_6 : decode cX4_init 6 = .ok (.invokespecial 7, 3) := dk_183 0 7 (dk_at dksX4_init_0 6 rfl rfl)
theorem dX4_init_9 : decode cX4_init 9 = .ok (.return_, 1) := dk_177 (dk_at dksX4_init_0 9 rfl rfl)
abbrev cX4_least : ByteArray := prog_26_method_3_code
def yX4_least : MethodName := ⟨RX4, "least", "(J)J"⟩
def dkwX4_least_8 : List UInt8 := [180, 0, 21, 3, 92, 46, 4, 96, 79, 167, 255, 80, 42, 180, 0, 17, 173]
abbrev dktX4_least_8 : List UInt8 := dkwX4_least_8 ++ []
def dkwX4_least_7 : List UInt8 := [167, 255, 186, 42, 180, 0, 1, 180, 0, 21, 4, 92, 46, 4, 96, 79, 167, 255, 133, 42, 180, 0, 1]
abbrev dktX4_least_7 : List UInt8 := dkwX4_least_7 ++ dktX4_least_8
def dkwX4_least_6 : List UInt8 := [182, 0, 44, 184, 0, 48, 181, 0, 17, 42, 180, 0, 1, 180, 0, 21, 5, 92, 46, 4, 96, 79]
abbrev dktX4_least_6 : List UInt8 := dkwX4_least_6 ++ dktX4_least_7
def dkwX4_least_5 : List UInt8 := [162, 0, 49, 42, 42, 180, 0, 17, 42, 42, 180, 0, 1, 31, 42, 180, 0, 1, 180, 0, 21, 182, 0, 40]
abbrev dktX4_least_5 : List UInt8 := dkwX4_least_5 ++ dktX4_least_6
def dkwX4_least_4 : List UInt8 := [180, 0, 1, 180, 0, 21, 5, 46, 178, 0, 27, 42, 180, 0, 1, 182, 0, 30, 5, 182, 0, 34, 46]
abbrev dktX4_least_4 : List UInt8 := dkwX4_least_4 ++ dktX4_least_5
def dkwX4_least_3 : List UInt8 := [182, 0, 30, 4, 182, 0, 34, 46, 162, 0, 102, 42, 180, 0, 1, 180, 0, 21, 5, 3, 79, 42]
abbrev dktX4_least_3 : List UInt8 := dkwX4_least_3 ++ dktX4_least_4
def dkwX4_least_2 : List UInt8 := [180, 0, 21, 4, 3, 79, 42, 180, 0, 1, 180, 0, 21, 4, 46, 178, 0, 27, 42, 180, 0, 1]
abbrev dktX4_least_2 : List UInt8 := dkwX4_least_2 ++ dktX4_least_3
def dkwX4_least_1 : List UInt8 := [3, 46, 178, 0, 27, 42, 180, 0, 1, 182, 0, 30, 3, 182, 0, 34, 46, 162, 0, 155, 42, 180, 0, 1]
abbrev dktX4_least_1 : List UInt8 := dkwX4_least_1 ++ dktX4_least_2
def dkwX4_least_0 : List UInt8 := [42, 20, 0, 15, 181, 0, 17, 42, 180, 0, 1, 180, 0, 21, 3, 3, 79, 42, 180, 0, 1, 180, 0, 21]
abbrev dktX4_least_0 : List UInt8 := dkwX4_least_0 ++ dktX4_least_1
theorem dksX4_least_0 : cX4_least.data.toList.drop 0 = dktX4_least_0 := by decide +kernel
theorem dksX4_least_1 : cX4_least.data.toList.drop 24 = dktX4_least_1 := dk_seg dksX4_least_0 24 rfl rfl
theorem dksX4_least_2 : cX4_least.data.toList.drop 48 = dktX4_least_2 := dk_seg dksX4_least_1 24 rfl rfl
theorem dksX4_least_3 : cX4_least.data.toList.drop 70 = dktX4_least_3 := dk_seg dksX4_least_2 22 rfl rfl
theorem dksX4_least_4 : cX4_least.data.toList.drop 92 = dktX4_least_4 := dk_seg dksX4_least_3 22 rfl rfl
theorem dksX4_least_5 : cX4_least.data.toList.drop 115 = dktX4_least_5 := dk_seg dksX4_least_4 23 rfl rfl
theorem dksX4_least_6 : cX4_least.data.toList.drop 139 = dktX4_least_6 := dk_seg dksX4_least_5 24 rfl rfl
theorem dksX4_least_7 : cX4_least.data.toList.drop 161 = dktX4_least_7 := dk_seg dksX4_least_6 22 rfl rfl
theorem dksX4_least_8 : cX4_least.data.toList.drop 184 = dktX4_least_8 := dk_seg dksX4_least_7 23 rfl rfl
theorem dX4_least_0 : decode cX4_least 0 = .ok (.aload_n 0, 1) := dk_42 (dk_at dksX4_least_0 0 rfl rfl)
theorem dX4_least_1 : decode cX4_least 1 = .ok (.ldc2_w 15, 3) := dk_20 0 15 (dk_at dksX4_least_0 1 rfl rfl)
theorem dX4_least_4 : decode cX4_least 4 = .ok (.putfield 17, 3) := dk_181 0 17 (dk_at dksX4_least_0 4 rfl rfl)
theorem dX4_least_7 : decode cX4_least 7 = .ok (.aload_n 0, 1) := dk_42 (dk_at dksX4_least_0 7 rfl rfl)
theorem dX4_least_8 : decode cX4_least 8 = .ok (.getfield 1, 3) := dk_180 0 1 (dk_at dksX4_least_0 8 rfl rfl)
theorem dX4_least_11 : decode cX4_least 11 = .ok (.getfield 21, 3) := dk_180 0 21 (dk_at dksX4_least_0 11 rfl rfl)
theorem dX4_least_14 : decode cX4_least 14 = .ok (.iconst 0, 1) := dk_3 (dk_at dksX4_least_0 14 rfl rfl)
theorem dX4_least_15 : decode cX4_least 15 = .ok (.iconst 0, 1) := dk_3 (dk_at dksX4_least_0 15 rfl rfl)
theorem dX4_least_16 : decode cX4_least 16 = .ok (.iastore, 1) := dk_79 (dk_at dksX4_least_0 16 rfl rfl)
theorem dX4_least_17 : decode cX4_least 17 = .ok (.aload_n 0, 1) := dk_42 (dk_at dksX4_least_0 17 rfl rfl)
theorem dX4_least_18 : decode cX4_least 18 = .ok (.getfield 1, 3) := dk_180 0 1 (dk_at dksX4_least_0 18 rfl rfl)
theorem dX4_least_21 : decode cX4_least 21 = .ok (.getfield 21, 3) := dk_180 0 21 (dk_at dksX4_least_0 21 rfl rfl)
theorem dX4_least_24 : decode cX4_least 24 = .ok (.iconst 0, 1) := dk_3 (dk_at dksX4_least_1 0 rfl rfl)
theorem dX4_least_25 : decode cX4_least 25 = .ok (.iaload, 1) := dk_46 (dk_at dksX4_least_1 1 rfl rfl)
theorem dX4_least_26 : decode cX4_least 26 = .ok (.getstatic 27, 3) := dk_178 0 27 (dk_at dksX4_least_1 2 rfl rfl)
theorem dX4_least_29 : decode cX4_least 29 = .ok (.aload_n 0, 1) := dk_42 (dk_at dksX4_least_1 5 rfl rfl)
theorem dX4_least_30 : decode cX4_least 30 = .ok (.getfield 1, 3) := dk_180 0 1 (dk_at dksX4_least_1 6 rfl rfl)
theorem dX4_least_33 : decode cX4_least 33 = .ok (.invokevirtual 30, 3) := dk_182 0 30 (dk_at dksX4_least_1 9 rfl rfl)
theorem dX4_least_36 : decode cX4_least 36 = .ok (.iconst 0, 1) := dk_3 (dk_at dksX4_least_1 12 rfl rfl)
theorem dX4_least_37 : decode cX4_least 37 = .ok (.invokevirtual 34, 3) := dk_182 0 34 (dk_at dksX4_least_1 13 rfl rfl)
theorem dX4_least_40 : decode cX4_least 40 = .ok (.iaload, 1) := dk_46 (dk_at dksX4_least_1 16 rfl rfl)
theorem dX4_least_41 : decode cX4_least 41 = .ok (.if_icmp .ge 155, 3) := dk_162 0 155 (dk_at dksX4_least_1 17 rfl rfl)
theorem dX4_least_44 : decode cX4_least 44 = .ok (.aload_n 0, 1) := dk_42 (dk_at dksX4_least_1 20 rfl rfl)
theorem dX4_least_45 : decode cX4_least 45 = .ok (.getfield 1, 3) := dk_180 0 1 (dk_at dksX4_least_1 21 rfl rfl)
theorem dX4_least_48 : decode cX4_least 48 = .ok (.getfield 21, 3) := dk_180 0 21 (dk_at dksX4_least_2 0 rfl rfl)
theorem dX4_least_51 : decode cX4_least 51 = .ok (.iconst 1, 1) := dk_4 (dk_at dksX4_least_2 3 rfl rfl)
theorem dX4_least_52 : decode cX4_least 52 = .ok (.iconst 0, 1) := dk_3 (dk_at dksX4_least_2 4 rfl rfl)
theorem dX4_least_53 : decode cX4_least 53 = .ok (.iastore, 1) := dk_79 (dk_at dksX4_least_2 5 rfl rfl)
theorem dX4_least_54 : decode cX4_least 54 = .ok (.aload_n 0, 1) := dk_42 (dk_at dksX4_least_2 6 rfl rfl)
theorem dX4_least_55 : decode cX4_least 55 = .ok (.getfield 1, 3) := dk_180 0 1 (dk_at dksX4_least_2 7 rfl rfl)
theorem dX4_least_58 : decode cX4_least 58 = .ok (.getfield 21, 3) := dk_180 0 21 (dk_at dksX4_least_2 10 rfl rfl)
theorem dX4_least_61 : decode cX4_least 61 = .ok (.iconst 1, 1) := dk_4 (dk_at dksX4_least_2 13 rfl rfl)
theorem dX4_least_62 : decode cX4_least 62 = .ok (.iaload, 1) := dk_46 (dk_at dksX4_least_2 14 rfl rfl)
theorem dX4_least_63 : decode cX4_least 63 = .ok (.getstatic 27, 3) := dk_178 0 27 (dk_at dksX4_least_2 15 rfl rfl)
theorem dX4_least_66 : decode cX4_least 66 = .ok (.aload_n 0, 1) := dk_42 (dk_at dksX4_least_2 18 rfl rfl)
theorem dX4_least_67 : decode cX4_least 67 = .ok (.getfield 1, 3) := dk_180 0 1 (dk_at dksX4_least_2 19 rfl rfl)
theorem dX4_least_70 : decode cX4_least 70 = .ok (.invokevirtual 30, 3) := dk_182 0 30 (dk_at dksX4_least_3 0 rfl rfl)
theorem dX4_least_73 : decode cX4_least 73 = .ok (.iconst 1, 1) := dk_4 (dk_at dksX4_least_3 3 rfl rfl)
theorem dX4_least_74 : decode cX4_least 74 = .ok (.invokevirtual 34, 3) := dk_182 0 34 (dk_at dksX4_least_3 4 rfl rfl)
theorem dX4_least_77 : decode cX4_least 77 = .ok (.iaload, 1) := dk_46 (dk_at dksX4_least_3 7 rfl rfl)
theorem dX4_least_78 : decode cX4_least 78 = .ok (.if_icmp .ge 102, 3) := dk_162 0 102 (dk_at dksX4_least_3 8 rfl rfl)
theorem dX4_least_81 : decode cX4_least 81 = .ok (.aload_n 0, 1) := dk_42 (dk_at dksX4_least_3 11 rfl rfl)
theorem dX4_least_82 : decode cX4_least 82 = .ok (.getfield 1, 3) := dk_180 0 1 (dk_at dksX4_least_3 12 rfl rfl)
theorem dX4_least_85 : decode cX4_least 85 = .ok (.getfield 21, 3) := dk_180 0 21 (dk_at dksX4_least_3 15 rfl rfl)
theorem dX4_least_88 : decode cX4_least 88 = .ok (.iconst 2, 1) := dk_5 (dk_at dksX4_least_3 18 rfl rfl)
theorem dX4_least_89 : decode cX4_least 89 = .ok (.iconst 0, 1) := dk_3 (dk_at dksX4_least_3 19 rfl rfl)
theorem dX4_least_90 : decode cX4_least 90 = .ok (.iastore, 1) := dk_79 (dk_at dksX4_least_3 20 rfl rfl)
theorem dX4_least_91 : decode cX4_least 91 = .ok (.aload_n 0, 1) := dk_42 (dk_at dksX4_least_3 21 rfl rfl)
theorem dX4_least_92 : decode cX4_least 92 = .ok (.getfield 1, 3) := dk_180 0 1 (dk_at dksX4_least_4 0 rfl rfl)
theorem dX4_least_95 : decode cX4_least 95 = .ok (.getfield 21, 3) := dk_180 0 21 (dk_at dksX4_least_4 3 rfl rfl)
theorem dX4_least_98 : decode cX4_least 98 = .ok (.iconst 2, 1) := dk_5 (dk_at dksX4_least_4 6 rfl rfl)
theorem dX4_least_99 : decode cX4_least 99 = .ok (.iaload, 1) := dk_46 (dk_at dksX4_least_4 7 rfl rfl)
theorem dX4_least_100 : decode cX4_least 100 = .ok (.getstatic 27, 3) := dk_178 0 27 (dk_at dksX4_least_4 8 rfl rfl)
theorem dX4_least_103 : decode cX4_least 103 = .ok (.aload_n 0, 1) := dk_42 (dk_at dksX4_least_4 11 rfl rfl)
theorem dX4_least_104 : decode cX4_least 104 = .ok (.getfield 1, 3) := dk_180 0 1 (dk_at dksX4_least_4 12 rfl rfl)
theorem dX4_least_107 : decode cX4_least 107 = .ok (.invokevirtual 30, 3) := dk_182 0 30 (dk_at dksX4_least_4 15 rfl rfl)
theorem dX4_least_110 : decode cX4_least 110 = .ok (.iconst 2, 1) := dk_5 (dk_at dksX4_least_4 18 rfl rfl)
theorem dX4_least_111 : decode cX4_least 111 = .ok (.invokevirtual 34, 3) := dk_182 0 34 (dk_at dksX4_least_4 19 rfl rfl)
theorem dX4_least_114 : decode cX4_least 114 = .ok (.iaload, 1) := dk_46 (dk_at dksX4_least_4 22 rfl rfl)
theorem dX4_least_115 : decode cX4_least 115 = .ok (.if_icmp .ge 49, 3) := dk_162 0 49 (dk_at dksX4_least_5 0 rfl rfl)
theorem dX4_least_118 : decode cX4_least 118 = .ok (.aload_n 0, 1) := dk_42 (dk_at dksX4_least_5 3 rfl rfl)
theorem dX4_least_119 : decode cX4_least 119 = .ok (.aload_n 0, 1) := dk_42 (dk_at dksX4_least_5 4 rfl rfl)
theorem dX4_least_120 : decode cX4_least 120 = .ok (.getfield 17, 3) := dk_180 0 17 (dk_at dksX4_least_5 5 rfl rfl)
theorem dX4_least_123 : decode cX4_least 123 = .ok (.aload_n 0, 1) := dk_42 (dk_at dksX4_least_5 8 rfl rfl)
theorem dX4_least_124 : decode cX4_least 124 = .ok (.aload_n 0, 1) := dk_42 (dk_at dksX4_least_5 9 rfl rfl)
theorem dX4_least_125 : decode cX4_least 125 = .ok (.getfield 1, 3) := dk_180 0 1 (dk_at dksX4_least_5 10 rfl rfl)
theorem dX4_least_128 : decode cX4_least 128 = .ok (.lload_n 1, 1) := dk_31 (dk_at dksX4_least_5 13 rfl rfl)
theorem dX4_least_129 : decode cX4_least 129 = .ok (.aload_n 0, 1) := dk_42 (dk_at dksX4_least_5 14 rfl rfl)
theorem dX4_least_130 : decode cX4_least 130 = .ok (.getfield 1, 3) := dk_180 0 1 (dk_at dksX4_least_5 15 rfl rfl)
theorem dX4_least_133 : decode cX4_least 133 = .ok (.getfield 21, 3) := dk_180 0 21 (dk_at dksX4_least_5 18 rfl rfl)
theorem dX4_least_136 : decode cX4_least 136 = .ok (.invokevirtual 40, 3) := dk_182 0 40 (dk_at dksX4_least_5 21 rfl rfl)
theorem dX4_least_139 : decode cX4_least 139 = .ok (.invokevirtual 44, 3) := dk_182 0 44 (dk_at dksX4_least_6 0 rfl rfl)
theorem dX4_least_142 : decode cX4_least 142 = .ok (.invokestatic 48, 3) := dk_184 0 48 (dk_at dksX4_least_6 3 rfl rfl)
theorem dX4_least_145 : decode cX4_least 145 = .ok (.putfield 17, 3) := dk_181 0 17 (dk_at dksX4_least_6 6 rfl rfl)
theorem dX4_least_148 : decode cX4_least 148 = .ok (.aload_n 0, 1) := dk_42 (dk_at dksX4_least_6 9 rfl rfl)
theorem dX4_least_149 : decode cX4_least 149 = .ok (.getfield 1, 3) := dk_180 0 1 (dk_at dksX4_least_6 10 rfl rfl)
theorem dX4_least_152 : decode cX4_least 152 = .ok (.getfield 21, 3) := dk_180 0 21 (dk_at dksX4_least_6 13 rfl rfl)
theorem dX4_least_155 : decode cX4_least 155 = .ok (.iconst 2, 1) := dk_5 (dk_at dksX4_least_6 16 rfl rfl)
theorem dX4_least_156 : decode cX4_least 156 = .ok (.dup2, 1) := dk_92 (dk_at dksX4_least_6 17 rfl rfl)
theorem dX4_least_157 : decode cX4_least 157 = .ok (.iaload, 1) := dk_46 (dk_at dksX4_least_6 18 rfl rfl)
theorem dX4_least_158 : decode cX4_least 158 = .ok (.iconst 1, 1) := dk_4 (dk_at dksX4_least_6 19 rfl rfl)
theorem dX4_least_159 : decode cX4_least 159 = .ok (.iadd, 1) := dk_96 (dk_at dksX4_least_6 20 rfl rfl)
theorem dX4_least_160 : decode cX4_least 160 = .ok (.iastore, 1) := dk_79 (dk_at dksX4_least_6 21 rfl rfl)
theorem dX4_least_161 : decode cX4_least 161 = .ok (.goto (-70), 3) := dk_167 255 186 (dk_at dksX4_least_7 0 rfl rfl)
theorem dX4_least_164 : decode cX4_least 164 = .ok (.aload_n 0, 1) := dk_42 (dk_at dksX4_least_7 3 rfl rfl)
theorem dX4_least_165 : decode cX4_least 165 = .ok (.getfield 1, 3) := dk_180 0 1 (dk_at dksX4_least_7 4 rfl rfl)
theorem dX4_least_168 : decode cX4_least 168 = .ok (.getfield 21, 3) := dk_180 0 21 (dk_at dksX4_least_7 7 rfl rfl)
theorem dX4_least_171 : decode cX4_least 171 = .ok (.iconst 1, 1) := dk_4 (dk_at dksX4_least_7 10 rfl rfl)
theorem dX4_least_172 : decode cX4_least 172 = .ok (.dup2, 1) := dk_92 (dk_at dksX4_least_7 11 rfl rfl)
theorem dX4_least_173 : decode cX4_least 173 = .ok (.iaload, 1) := dk_46 (dk_at dksX4_least_7 12 rfl rfl)
theorem dX4_least_174 : decode cX4_least 174 = .ok (.iconst 1, 1) := dk_4 (dk_at dksX4_least_7 13 rfl rfl)
theorem dX4_least_175 : decode cX4_least 175 = .ok (.iadd, 1) := dk_96 (dk_at dksX4_least_7 14 rfl rfl)
theorem dX4_least_176 : decode cX4_least 176 = .ok (.iastore, 1) := dk_79 (dk_at dksX4_least_7 15 rfl rfl)
theorem dX4_least_177 : decode cX4_least 177 = .ok (.goto (-123), 3) := dk_167 255 133 (dk_at dksX4_least_7 16 rfl rfl)
theorem dX4_least_180 : decode cX4_least 180 = .ok (.aload_n 0, 1) := dk_42 (dk_at dksX4_least_7 19 rfl rfl)
theorem dX4_least_181 : decode cX4_least 181 = .ok (.getfield 1, 3) := dk_180 0 1 (dk_at dksX4_least_7 20 rfl rfl)
theorem dX4_least_184 : decode cX4_least 184 = .ok (.getfield 21, 3) := dk_180 0 21 (dk_at dksX4_least_8 0 rfl rfl)
theorem dX4_least_187 : decode cX4_least 187 = .ok (.iconst 0, 1) := dk_3 (dk_at dksX4_least_8 3 rfl rfl)
theorem dX4_least_188 : decode cX4_least 188 = .ok (.dup2, 1) := dk_92 (dk_at dksX4_least_8 4 rfl rfl)
theorem dX4_least_189 : decode cX4_least 189 = .ok (.iaload, 1) := dk_46 (dk_at dksX4_least_8 5 rfl rfl)
theorem dX4_least_190 : decode cX4_least 190 = .ok (.iconst 1, 1) := dk_4 (dk_at dksX4_least_8 6 rfl rfl)
theorem dX4_least_191 : decode cX4_least 191 = .ok (.iadd, 1) := dk_96 (dk_at dksX4_least_8 7 rfl rfl)
theorem dX4_least_192 : decode cX4_least 192 = .ok (.iastore, 1) := dk_79 (dk_at dksX4_least_8 8 rfl rfl)
theorem dX4_least_193 : decode cX4_least 193 = .ok (.goto (-176), 3) := dk_167 255 80 (dk_at dksX4_least_8 9 rfl rfl)
theorem dX4_least_196 : decode cX4_least 196 = .ok (.aload_n 0, 1) := dk_42 (dk_at dksX4_least_8 12 rfl rfl)
theorem dX4_least_197 : decode cX4_least 197 = .ok (.getfield 17, 3) := dk_180 0 17 (dk_at dksX4_least_8 13 rfl rfl)
theorem dX4_least_200 : decode cX4_least 200 = .ok (.lreturn, 1) := dk_173 (dk_at dksX4_least_8 16 rfl rfl)

abbrev cX5_init : ByteArray := prog_2_method_1_code
def yX5_init : MethodName := ⟨RX5, "<init>", "(LVillageStories;)V"⟩
def dkwX5_init_0 : List UInt8 := [42, 43, 181, 0, 1, 42, 43, 183, 0, 7, 177]
abbrev dktX5_init_0 : List UInt8 := dkwX5_init_0 ++ []
theorem dksX5_init_0 : cX5_init.data.toList.drop 0 = dktX5_init_0 := by decide +kernel
theorem dX5_init_0 : decode cX5_init 0 = .ok (.aload_n 0, 1) := dk_42 (dk_at dksX5_init_0 0 rfl rfl)
theorem dX5_init_1 : decode cX5_init 1 = .ok (.aload_n 1, 1) := dk_43 (dk_at dksX5_init_0 1 rfl rfl)
theorem dX5_init_2 : decode cX5_init 2 = .ok (.putfield 1, 3) := dk_181 0 1 (dk_at dksX5_init_0 2 rfl rfl)
theorem dX5_init_5 : decode cX5_init 5 = .ok (.aload_n 0, 1) := dk_42 (dk_at dksX5_init_0 5 rfl rfl)
theorem dX5_init_6 : decode cX5_init 6 = .ok (.aload_n 1, 1) := dk_43 (dk_at dksX5_init_0 6 rfl rfl)
theorem dX5_init_7 : decode cX5_init 7 = .ok (.invokespecial 7, 3) := dk_183 0 7 (dk_at dksX5_init_0 7 rfl rfl)
theorem dX5_init_10 : decode cX5_init 10 = .ok (.return_, 1) := dk_177 (dk_at dksX5_init_0 10 rfl rfl)
abbrev cX5_worth : ByteArray := prog_2_method_2_code
def yX5_worth : MethodName := ⟨RX5, "worth", "(J)J"⟩
theorem dX5_worth_0 : decode cX5_worth 0 = .ok (.lload_n 1, 1) := by decide +kernel
theorem dX5_worth_1 : decode cX5_worth 1 = .ok (.lreturn, 1) := by decide +kernel

abbrev cX6_init : ByteArray := prog_3_method_1_code
def yX6_init : MethodName := ⟨RX6, "<init>", "(LVillageStories;)V"⟩
def dkwX6_init_0 : List UInt8 := [42, 43, 181, 0, 1, 42, 43, 183, 0, 7, 177]
abbrev dktX6_init_0 : List UInt8 := dkwX6_init_0 ++ []
theorem dksX6_init_0 : cX6_init.data.toList.drop 0 = dktX6_init_0 := by decide +kernel
theorem dX6_init_0 : decode cX6_init 0 = .ok (.aload_n 0, 1) := dk_42 (dk_at dksX6_init_0 0 rfl rfl)
theorem dX6_init_1 : decode cX6_init 1 = .ok (.aload_n 1, 1) := dk_43 (dk_at dksX6_init_0 1 rfl rfl)
theorem dX6_init_2 : decode cX6_init 2 = .ok (.putfield 1, 3) := dk_181 0 1 (dk_at dksX6_init_0 2 rfl rfl)
theorem dX6_init_5 : decode cX6_init 5 = .ok (.aload_n 0, 1) := dk_42 (dk_at dksX6_init_0 5 rfl rfl)
theorem dX6_init_6 : decode cX6_init 6 = .ok (.aload_n 1, 1) := dk_43 (dk_at dksX6_init_0 6 rfl rfl)
theorem dX6_init_7 : decode cX6_init 7 = .ok (.invokespecial 7, 3) := dk_183 0 7 (dk_at dksX6_init_0 7 rfl rfl)
theorem dX6_init_10 : decode cX6_init 10 = .ok (.return_, 1) := dk_177 (dk_at dksX6_init_0 10 rfl rfl)
abbrev cX6_worth : ByteArray := prog_3_method_2_code
def yX6_worth : MethodName := ⟨RX6, "worth", "(J)J"⟩
def dkwX6_worth_0 : List UInt8 := [31, 42, 180, 0, 1, 180, 0, 13, 180, 0, 19, 131, 184, 0, 25, 133, 173]
abbrev dktX6_worth_0 : List UInt8 := dkwX6_worth_0 ++ []
theorem dksX6_worth_0 : cX6_worth.data.toList.drop 0 = dktX6_worth_0 := by decide +kernel
theorem dX6_worth_0 : decode cX6_worth 0 = .ok (.lload_n 1, 1) := dk_31 (dk_at dksX6_worth_0 0 rfl rfl)
theorem dX6_worth_1 : decode cX6_worth 1 = .ok (.aload_n 0, 1) := dk_42 (dk_at dksX6_worth_0 1 rfl rfl)
theorem dX6_worth_2 : decode cX6_worth 2 = .ok (.getfield 1, 3) := dk_180 0 1 (dk_at dksX6_worth_0 2 rfl rfl)
theorem dX6_worth_5 : decode cX6_worth 5 = .ok (.getfield 13, 3) := dk_180 0 13 (dk_at dksX6_worth_0 5 rfl rfl)
theorem dX6_worth_8 : decode cX6_worth 8 = .ok (.getfield 19, 3) := dk_180 0 19 (dk_at dksX6_worth_0 8 rfl rfl)
theorem dX6_worth_11 : decode cX6_worth 11 = .ok (.lxor, 1) := dk_131 (dk_at dksX6_worth_0 11 rfl rfl)
theorem dX6_worth_12 : decode cX6_worth 12 = .ok (.invokestatic 25, 3) := dk_184 0 25 (dk_at dksX6_worth_0 12 rfl rfl)
theorem dX6_worth_15 : decode cX6_worth 15 = .ok (.i2l, 1) := dk_133 (dk_at dksX6_worth_0 15 rfl rfl)
theorem dX6_worth_16 : decode cX6_worth 16 = .ok (.lreturn, 1) := dk_173 (dk_at dksX6_worth_0 16 rfl rfl)

abbrev cX8_init : ByteArray := prog_24_method_1_code
def yX8_init : MethodName := ⟨RX8, "<init>", "(II)V"⟩
def dkwX8_init_0 : List UInt8 := [42, 183, 0, 3, 42, 27, 181, 0, 9, 42, 28, 181, 0, 15, 177]
abbrev dktX8_init_0 : List UInt8 := dkwX8_init_0 ++ []
theorem dksX8_init_0 : cX8_init.data.toList.drop 0 = dktX8_init_0 := by decide +kernel
theorem dX8_init_0 : decode cX8_init 0 = .ok (.aload_n 0, 1) := dk_42 (dk_at dksX8_init_0 0 rfl rfl)
theorem dX8_init_1 : decode cX8_init 1 = .ok (.invokespecial 3, 3) := dk_183 0 3 (dk_at dksX8_init_0 1 rfl rfl)
theorem dX8_init_4 : decode cX8_init 4 = .ok (.aload_n 0, 1) := dk_42 (dk_at dksX8_init_0 4 rfl rfl)
theorem dX8_init_5 : decode cX8_init 5 = .ok (.iload_n 1, 1) := dk_27 (dk_at dksX8_init_0 5 rfl rfl)
theorem dX8_init_6 : decode cX8_init 6 = .ok (.putfield 9, 3) := dk_181 0 9 (dk_at dksX8_init_0 6 rfl rfl)
theorem dX8_init_9 : decode cX8_init 9 = .ok (.aload_n 0, 1) := dk_42 (dk_at dksX8_init_0 9 rfl rfl)
theorem dX8_init_10 : decode cX8_init 10 = .ok (.iload_n 2, 1) := dk_28 (dk_at dksX8_init_0 10 rfl rfl)
theorem dX8_init_11 : decode cX8_init 11 = .ok (.putfield 15, 3) := dk_181 0 15 (dk_at dksX8_init_0 11 rfl rfl)
theorem dX8_init_14 : decode cX8_init 14 = .ok (.return_, 1) := dk_177 (dk_at dksX8_init_0 14 rfl rfl)
abbrev cX8_isOfOne : ByteArray := prog_24_method_2_code
def yX8_isOfOne : MethodName := ⟨RX8, "isOfOne", "()Z"⟩
def dkwX8_isOfOne_0 : List UInt8 := [42, 180, 0, 15, 2, 160, 0, 7, 4, 167, 0, 4, 3, 172]
abbrev dktX8_isOfOne_0 : List UInt8 := dkwX8_isOfOne_0 ++ []
theorem dksX8_isOfOne_0 : cX8_isOfOne.data.toList.drop 0 = dktX8_isOfOne_0 := by decide +kernel
theorem dX8_isOfOne_0 : decode cX8_isOfOne 0 = .ok (.aload_n 0, 1) := dk_42 (dk_at dksX8_isOfOne_0 0 rfl rfl)
theorem dX8_isOfOne_1 : decode cX8_isOfOne 1 = .ok (.getfield 15, 3) := dk_180 0 15 (dk_at dksX8_isOfOne_0 1 rfl rfl)
theorem dX8_isOfOne_4 : decode cX8_isOfOne 4 = .ok (.iconst (-1), 1) := dk_2 (dk_at dksX8_isOfOne_0 4 rfl rfl)
theorem dX8_isOfOne_5 : decode cX8_isOfOne 5 = .ok (.if_icmp .ne 7, 3) := dk_160 0 7 (dk_at dksX8_isOfOne_0 5 rfl rfl)
theorem dX8_isOfOne_8 : decode cX8_isOfOne 8 = .ok (.iconst 1, 1) := dk_4 (dk_at dksX8_isOfOne_0 8 rfl rfl)
theorem dX8_isOfOne_9 : decode cX8_isOfOne 9 = .ok (.goto 4, 3) := dk_167 0 4 (dk_at dksX8_isOfOne_0 9 rfl rfl)
theorem dX8_isOfOne_12 : decode cX8_isOfOne 12 = .ok (.iconst 0, 1) := dk_3 (dk_at dksX8_isOfOne_0 12 rfl rfl)
theorem dX8_isOfOne_13 : decode cX8_isOfOne 13 = .ok (.ireturn, 1) := dk_172 (dk_at dksX8_isOfOne_0 13 rfl rfl)
abbrev cX8_isWithin : ByteArray := prog_24_method_3_code
def yX8_isWithin : MethodName := ⟨RX8, "isWithin", "()Z"⟩
def dkwX8_isWithin_0 : List UInt8 := [42, 180, 0, 9, 42, 180, 0, 15, 160, 0, 7, 4, 167, 0, 4, 3, 172]
abbrev dktX8_isWithin_0 : List UInt8 := dkwX8_isWithin_0 ++ []
theorem dksX8_isWithin_0 : cX8_isWithin.data.toList.drop 0 = dktX8_isWithin_0 := by decide +kernel
theorem dX8_isWithin_0 : decode cX8_isWithin 0 = .ok (.aload_n 0, 1) := dk_42 (dk_at dksX8_isWithin_0 0 rfl rfl)
theorem dX8_isWithin_1 : decode cX8_isWithin 1 = .ok (.getfield 9, 3) := dk_180 0 9 (dk_at dksX8_isWithin_0 1 rfl rfl)
theorem dX8_isWithin_4 : decode cX8_isWithin 4 = .ok (.aload_n 0, 1) := dk_42 (dk_at dksX8_isWithin_0 4 rfl rfl)
theorem dX8_isWithin_5 : decode cX8_isWithin 5 = .ok (.getfield 15, 3) := dk_180 0 15 (dk_at dksX8_isWithin_0 5 rfl rfl)
theorem dX8_isWithin_8 : decode cX8_isWithin 8 = .ok (.if_icmp .ne 7, 3) := dk_160 0 7 (dk_at dksX8_isWithin_0 8 rfl rfl)
theorem dX8_isWithin_11 : decode cX8_isWithin 11 = .ok (.iconst 1, 1) := dk_4 (dk_at dksX8_isWithin_0 11 rfl rfl)
theorem dX8_isWithin_12 : decode cX8_isWithin 12 = .ok (.goto 4, 3) := dk_167 0 4 (dk_at dksX8_isWithin_0 12 rfl rfl)
theorem dX8_isWithin_15 : decode cX8_isWithin 15 = .ok (.iconst 0, 1) := dk_3 (dk_at dksX8_isWithin_0 15 rfl rfl)
theorem dX8_isWithin_16 : decode cX8_isWithin 16 = .ok (.ireturn, 1) := dk_172 (dk_at dksX8_isWithin_0 16 rfl rfl)

abbrev cX9_init : ByteArray := prog_13_method_1_code
def yX9_init : MethodName := ⟨RX9, "<init>", "(IIIZI)V"⟩
def dkwX9_init_1 : List UInt8 := [181, 0, 19, 42, 21, 5, 181, 0, 23, 177]
abbrev dktX9_init_1 : List UInt8 := dkwX9_init_1 ++ []
def dkwX9_init_0 : List UInt8 := [42, 183, 0, 1, 42, 27, 181, 0, 7, 42, 28, 181, 0, 13, 42, 29, 181, 0, 16, 42, 21, 4]
abbrev dktX9_init_0 : List UInt8 := dkwX9_init_0 ++ dktX9_init_1
theorem dksX9_init_0 : cX9_init.data.toList.drop 0 = dktX9_init_0 := by decide +kernel
theorem dksX9_init_1 : cX9_init.data.toList.drop 22 = dktX9_init_1 := dk_seg dksX9_init_0 22 rfl rfl
theorem dX9_init_0 : decode cX9_init 0 = .ok (.aload_n 0, 1) := dk_42 (dk_at dksX9_init_0 0 rfl rfl)
theorem dX9_init_1 : decode cX9_init 1 = .ok (.invokespecial 1, 3) := dk_183 0 1 (dk_at dksX9_init_0 1 rfl rfl)
theorem dX9_init_4 : decode cX9_init 4 = .ok (.aload_n 0, 1) := dk_42 (dk_at dksX9_init_0 4 rfl rfl)
theorem dX9_init_5 : decode cX9_init 5 = .ok (.iload_n 1, 1) := dk_27 (dk_at dksX9_init_0 5 rfl rfl)
theorem dX9_init_6 : decode cX9_init 6 = .ok (.putfield 7, 3) := dk_181 0 7 (dk_at dksX9_init_0 6 rfl rfl)
theorem dX9_init_9 : decode cX9_init 9 = .ok (.aload_n 0, 1) := dk_42 (dk_at dksX9_init_0 9 rfl rfl)
theorem dX9_init_10 : decode cX9_init 10 = .ok (.iload_n 2, 1) := dk_28 (dk_at dksX9_init_0 10 rfl rfl)
theorem dX9_init_11 : decode cX9_init 11 = .ok (.putfield 13, 3) := dk_181 0 13 (dk_at dksX9_init_0 11 rfl rfl)
theorem dX9_init_14 : decode cX9_init 14 = .ok (.aload_n 0, 1) := dk_42 (dk_at dksX9_init_0 14 rfl rfl)
theorem dX9_init_15 : decode cX9_init 15 = .ok (.iload_n 3, 1) := dk_29 (dk_at dksX9_init_0 15 rfl rfl)
theorem dX9_init_16 : decode cX9_init 16 = .ok (.putfield 16, 3) := dk_181 0 16 (dk_at dksX9_init_0 16 rfl rfl)
theorem dX9_init_19 : decode cX9_init 19 = .ok (.aload_n 0, 1) := dk_42 (dk_at dksX9_init_0 19 rfl rfl)
theorem dX9_init_20 : decode cX9_init 20 = .ok (.iload 4, 2) := dk_21 4 (dk_at dksX9_init_0 20 rfl rfl)
theorem dX9_init_22 : decode cX9_init 22 = .ok (.putfield 19, 3) := dk_181 0 19 (dk_at dksX9_init_1 0 rfl rfl)
theorem dX9_init_25 : decode cX9_init 25 = .ok (.aload_n 0, 1) := dk_42 (dk_at dksX9_init_1 3 rfl rfl)
theorem dX9_init_26 : decode cX9_init 26 = .ok (.iload 5, 2) := dk_21 5 (dk_at dksX9_init_1 4 rfl rfl)
theorem dX9_init_28 : decode cX9_init 28 = .ok (.putfield 23, 3) := dk_181 0 23 (dk_at dksX9_init_1 6 rfl rfl)
theorem dX9_init_31 : decode cX9_init 31 = .ok (.return_, 1) := dk_177 (dk_at dksX9_init_1 9 rfl rfl)

