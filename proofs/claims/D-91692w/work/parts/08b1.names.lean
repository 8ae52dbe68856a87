set_option maxRecDepth 100000
abbrev cX0_init : ByteArray := prog_1_method_3_code
def yX0_init : MethodName := ⟨RX0, "<init>", "()V"⟩
def dkwX0_init_4 : List UInt8 := [42, 187, 0, 62, 89, 183, 0, 64, 181, 0, 65, 42, 16, 16, 188, 10, 181, 0, 69, 177]
abbrev dktX0_init_4 : List UInt8 := dkwX0_init_4 ++ []
def dkwX0_init_3 : List UInt8 := [42, 187, 0, 47, 89, 42, 183, 0, 49, 181, 0, 52, 42, 187, 0, 56, 89, 42, 183, 0, 58, 181, 0, 59]
abbrev dktX0_init_3 : List UInt8 := dkwX0_init_3 ++ dktX0_init_4
def dkwX0_init_2 : List UInt8 := [17, 16, 0, 188, 8, 181, 0, 36, 42, 17, 16, 0, 188, 8, 181, 0, 40, 42, 6, 188, 10, 181, 0, 43]
abbrev dktX0_init_2 : List UInt8 := dkwX0_init_2 ++ dktX0_init_3
def dkwX0_init_1 : List UInt8 := [187, 0, 20, 89, 183, 0, 22, 181, 0, 23, 42, 187, 0, 27, 89, 7, 183, 0, 29, 181, 0, 32, 42]
abbrev dktX0_init_1 : List UInt8 := dkwX0_init_1 ++ dktX0_init_2
def dkwX0_init_0 : List UInt8 := [42, 183, 0, 3, 42, 187, 0, 9, 89, 183, 0, 11, 181, 0, 12, 42, 6, 189, 0, 9, 181, 0, 16, 42]
abbrev dktX0_init_0 : List UInt8 := dkwX0_init_0 ++ dktX0_init_1
theorem dksX0_init_0 : cX0_init.data.toList.drop 0 = dktX0_init_0 := by decide +kernel
theorem dksX0_init_1 : cX0_init.data.toList.drop 24 = dktX0_init_1 := dk_seg dksX0_init_0 24 rfl rfl
theorem dksX0_init_2 : cX0_init.data.toList.drop 47 = dktX0_init_2 := dk_seg dksX0_init_1 23 rfl rfl
theorem dksX0_init_3 : cX0_init.data.toList.drop 71 = dktX0_init_3 := dk_seg dksX0_init_2 24 rfl rfl
theorem dksX0_init_4 : cX0_init.data.toList.drop 95 = dktX0_init_4 := dk_seg dksX0_init_3 24 rfl rfl
theorem dX0_init_0 : decode cX0_init 0 = .ok (.aload_n 0, 1) := dk_42 (dk_at dksX0_init_0 0 rfl rfl)
theorem dX0_init_1 : decode cX0_init 1 = .ok (.invokespecial 3, 3) := dk_183 0 3 (dk_at dksX0_init_0 1 rfl rfl)
theorem dX0_init_4 : decode cX0_init 4 = .ok (.aload_n 0, 1) := dk_42 (dk_at dksX0_init_0 4 rfl rfl)
theorem dX0_init_5 : decode cX0_init 5 = .ok (.new 9, 3) := dk_187 0 9 (dk_at dksX0_init_0 5 rfl rfl)
theorem dX0_init_8 : decode cX0_init 8 = .ok (.dup, 1) := dk_89 (dk_at dksX0_init_0 8 rfl rfl)
theorem dX0_init_9 : decode cX0_init 9 = .ok (.invokespecial 11, 3) := dk_183 0 11 (dk_at dksX0_init_0 9 rfl rfl)
theorem dX0_init_12 : decode cX0_init 12 = .ok (.putfield 12, 3) := dk_181 0 12 (dk_at dksX0_init_0 12 rfl rfl)
theorem dX0_init_15 : decode cX0_init 15 = .ok (.aload_n 0, 1) := dk_42 (dk_at dksX0_init_0 15 rfl rfl)
theorem dX0_init_16 : decode cX0_init 16 = .ok (.iconst 3, 1) := dk_6 (dk_at dksX0_init_0 16 rfl rfl)
theorem dX0_init_17 : decode cX0_init 17 = .ok (.anewarray 9, 3) := dk_189 0 9 (dk_at dksX0_init_0 17 rfl rfl)
theorem dX0_init_20 : decode cX0_init 20 = .ok (.putfield 16, 3) := dk_181 0 16 (dk_at dksX0_init_0 20 rfl rfl)
theorem dX0_init_23 : decode cX0_init 23 = .ok (.aload_n 0, 1) := dk_42 (dk_at dksX0_init_0 23 rfl rfl)
theorem dX0_init_24 : decode cX0_init 24 = .ok (.new 20, 3) := dk_187 0 20 (dk_at dksX0_init_1 0 rfl rfl)
theorem dX0_init_27 : decode cX0_init 27 = .ok (.dup, 1) := dk_89 (dk_at dksX0_init_1 3 rfl rfl)
theorem dX0_init_28 : decode cX0_init 28 = .ok (.invokespecial 22, 3) := dk_183 0 22 (dk_at dksX0_init_1 4 rfl rfl)
theorem dX0_init_31 : decode cX0_init 31 = .ok (.putfield 23, 3) := dk_181 0 23 (dk_at dksX0_init_1 7 rfl rfl)
theorem dX0_init_34 : decode cX0_init 34 = .ok (.aload_n 0, 1) := dk_42 (dk_at dksX0_init_1 10 rfl rfl)
theorem dX0_init_35 : decode cX0_init 35 = .ok (.new 27, 3) := dk_187 0 27 (dk_at dksX0_init_1 11 rfl rfl)
theorem dX0_init_38 : decode cX0_init 38 = .ok (.dup, 1) := dk_89 (dk_at dksX0_init_1 14 rfl rfl)
theorem dX0_init_39 : decode cX0_init 39 = .ok (.iconst 4, 1) := dk_7 (dk_at dksX0_init_1 15 rfl rfl)
theorem dX0_init_40 : decode cX0_init 40 = .ok (.invokespecial 29, 3) := dk_183 0 29 (dk_at dksX0_init_1 16 rfl rfl)
theorem dX0_init_43 : decode cX0_init 43 = .ok (.putfield 32, 3) := dk_181 0 32 (dk_at dksX0_init_1 19 rfl rfl)
theorem dX0_init_46 : decode cX0_init 46 = .ok (.aload_n 0, 1) := dk_42 (dk_at dksX0_init_1 22 rfl rfl)
theorem dX0_init_47 : decode cX0_init 47 = .ok (.sipush 4096, 3) := dk_17 16 0 (dk_at dksX0_init_2 0 rfl rfl)
theorem dX0_init_50 : decode cX0_init 50 = .ok (.newarray .byte, 2) := dk_188_8 (dk_at dksX0_init_2 3 rfl rfl)
theorem dX0_init_52 : decode cX0_init 52 = .ok (.putfield 36, 3) := dk_181 0 36 (dk_at dksX0_init_2 5 rfl rfl)
theorem dX0_init_55 : decode cX0_init 55 = .ok (.aload_n 0, 1) := dk_42 (dk_at dksX0_init_2 8 rfl rfl)
theorem dX0_init_56 : decode cX0_init 56 = .ok (.sipush 4096, 3) := dk_17 16 0 (dk_at dksX0_init_2 9 rfl rfl)
theorem dX0_init_59 : decode cX0_init 59 = .ok (.newarray .byte, 2) := dk_188_8 (dk_at dksX0_init_2 12 rfl rfl)
theorem dX0_init_61 : decode cX0_init 61 = .ok (.putfield 40, 3) := dk_181 0 40 (dk_at dksX0_init_2 14 rfl rfl)
theorem dX0_init_64 : decode cX0_init 64 = .ok (.aload_n 0, 1) := dk_42 (dk_at dksX0_init_2 17 rfl rfl)
theorem dX0_init_65 : decode cX0_init 65 = .ok (.iconst 3, 1) := dk_6 (dk_at dksX0_init_2 18 rfl rfl)
theorem dX0_init_66 : decode cX0_init 66 = .ok (.newarray .int, 2) := dk_188_10 (dk_at dksX0_init_2 19 rfl rfl)
theorem dX0_init_68 : decode cX0_init 68 = .ok (.putfield 43, 3) := dk_181 0 43 (dk_at dksX0_init_2 21 rfl rfl)
theorem dX0_init_71 : decode cX0_init 71 = .ok (.aload_n 0, 1) := dk_42 (dk_at dksX0_init_3 0 rfl rfl)
theorem dX0_init_72 : decode cX0_init 72 = .ok (.new 47, 3) := dk_187 0 47 (dk_at dksX0_init_3 1 rfl rfl)
theorem dX0_init_75 : decode cX0_init 75 = .ok (.dup, 1) := dk_89 (dk_at dksX0_init_3 4 rfl rfl)
theorem dX0_init_76 : decode cX0_init 76 = .ok (.aload_n 0, 1) := dk_42 (dk_at dksX0_init_3 5 rfl rfl)
theorem dX0_init_77 : decode cX0_init 77 = .ok (.invokespecial 49, 3) := dk_183 0 49 (dk_at dksX0_init_3 6 rfl rfl)
theorem dX0_init_80 : decode cX0_init 80 = .ok (.putfield 52, 3) := dk_181 0 52 (dk_at dksX0_init_3 9 rfl rfl)
theorem dX0_init_83 : decode cX0_init 83 = .ok (.aload_n 0, 1) := dk_42 (dk_at dksX0_init_3 12 rfl rfl)
theorem dX0_init_84 : decode cX0_init 84 = .ok (.new 56, 3) := dk_187 0 56 (dk_at dksX0_init_3 13 rfl rfl)
theorem dX0_init_87 : decode cX0_init 87 = .ok (.dup, 1) := dk_89 (dk_at dksX0_init_3 16 rfl rfl)
theorem dX0_init_88 : decode cX0_init 88 = .ok (.aload_n 0, 1) := dk_42 (dk_at dksX0_init_3 17 rfl rfl)
theorem dX0_init_89 : decode cX0_init 89 = .ok (.invokespecial 58, 3) := dk_183 0 58 (dk_at dksX0_init_3 18 rfl rfl)
theorem dX0_init_92 : decode cX0_init 92 = .ok (.putfield 59, 3) := dk_181 0 59 (dk_at dksX0_init_3 21 rfl rfl)
theorem dX0_init_95 : decode cX0_init 95 = .ok (.aload_n 0, 1) := dk_42 (dk_at dksX0_init_4 0 rfl rfl)
theorem dX0_init_96 : decode cX0_init 96 = .ok (.new 62, 3) := dk_187 0 62 (dk_at dksX0_init_4 1 rfl rfl)
theorem dX0_init_99 : decode cX0_init 99 = .ok (.dup, 1) := dk_89 (dk_at dksX0_init_4 4 rfl rfl)
theorem dX0_init_100 : decode cX0_init 100 = .ok (.invokespecial 64, 3) := dk_183 0 64 (dk_at dksX0_init_4 5 rfl rfl)
theorem dX0_init_103 : decode cX0_init 103 = .ok (.putfield 65, 3) := dk_181 0 65 (dk_at dksX0_init_4 8 rfl rfl)
theorem dX0_init_106 : decode cX0_init 106 = .ok (.aload_n 0, 1) := dk_42 (dk_at dksX0_init_4 11 rfl rfl)
theorem dX0_init_107 : decode cX0_init 107 = .ok (.bipush 16, 2) := dk_16 16 (dk_at dksX0_init_4 12 rfl rfl)
theorem dX0_init_109 : decode cX0_init 109 = .ok (.newarray .int, 2) := dk_188_10 (dk_at dksX0_init_4 14 rfl rfl)
theorem dX0_init_111 : decode cX0_init 111 = .ok (.putfield 69, 3) := dk_181 0 69 (dk_at dksX0_init_4 16 rfl rfl)
theorem dX0_init_114 : decode cX0_init 114 = .ok (.return_, 1) := dk_177 (dk_at dksX0_init_4 19 rfl rfl)
abbrev cX0_size : ByteArray := prog_1_method_7_code
def yX0_size : MethodName := ⟨RX0, "size", "(II)Z"⟩
def dkwX0_size_1 : List UInt8 := [28, 160, 0, 5, 3, 172, 42, 182, 0, 95, 180, 0, 102, 27, 28, 79, 42, 182, 0, 105, 4, 172]
abbrev dktX0_size_1 : List UInt8 := dkwX0_size_1 ++ []
def dkwX0_size_0 : List UInt8 := [27, 184, 0, 91, 153, 0, 24, 28, 4, 6, 184, 0, 75, 153, 0, 15, 42, 182, 0, 95, 27, 182, 0, 98]
abbrev dktX0_size_0 : List UInt8 := dkwX0_size_0 ++ dktX0_size_1
theorem dksX0_size_0 : cX0_size.data.toList.drop 0 = dktX0_size_0 := by decide +kernel
theorem dksX0_size_1 : cX0_size.data.toList.drop 24 = dktX0_size_1 := dk_seg dksX0_size_0 24 rfl rfl
theorem dX0_size_0 : decode cX0_size 0 = .ok (.iload_n 1, 1) := dk_27 (dk_at dksX0_size_0 0 rfl rfl)
theorem dX0_size_1 : decode cX0_size 1 = .ok (.invokestatic 91, 3) := dk_184 0 91 (dk_at dksX0_size_0 1 rfl rfl)
theorem dX0_size_4 : decode cX0_size 4 = .ok (.ifCond .eq 24, 3) := dk_153 0 24 (dk_at dksX0_size_0 4 rfl rfl)
theorem dX0_size_7 : decode cX0_size 7 = .ok (.iload_n 2, 1) := dk_28 (dk_at dksX0_size_0 7 rfl rfl)
theorem dX0_size_8 : decode cX0_size 8 = .ok (.iconst 1, 1) := dk_4 (dk_at dksX0_size_0 8 rfl rfl)
theorem dX0_size_9 : decode cX0_size 9 = .ok (.iconst 3, 1) := dk_6 (dk_at dksX0_size_0 9 rfl rfl)
theorem dX0_size_10 : decode cX0_size 10 = .ok (.invokestatic 75, 3) := dk_184 0 75 (dk_at dksX0_size_0 10 rfl rfl)
theorem dX0_size_13 : decode cX0_size 13 = .ok (.ifCond .eq 15, 3) := dk_153 0 15 (dk_at dksX0_size_0 13 rfl rfl)
theorem dX0_size_16 : decode cX0_size 16 = .ok (.aload_n 0, 1) := dk_42 (dk_at dksX0_size_0 16 rfl rfl)
theorem dX0_size_17 : decode cX0_size 17 = .ok (.invokevirtual 95, 3) := dk_182 0 95 (dk_at dksX0_size_0 17 rfl rfl)
theorem dX0_size_20 : decode cX0_size 20 = .ok (.iload_n 1, 1) := dk_27 (dk_at dksX0_size_0 20 rfl rfl)
theorem dX0_size_21 : decode cX0_size 21 = .ok (.invokevirtual 98, 3) := dk_182 0 98 (dk_at dksX0_size_0 21 rfl rfl)
theorem dX0_size_24 : decode cX0_size 24 = .ok (.iload_n 2, 1) := dk_28 (dk_at dksX0_size_1 0 rfl rfl)
theorem dX0_size_25 : decode cX0_size 25 = .ok (.if_icmp .ne 5, 3) := dk_160 0 5 (dk_at dksX0_size_1 1 rfl rfl)
theorem dX0_size_28 : decode cX0_size 28 = .ok (.iconst 0, 1) := dk_3 (dk_at dksX0_size_1 4 rfl rfl)
theorem dX0_size_29 : decode cX0_size 29 = .ok (.ireturn, 1) := dk_172 (dk_at dksX0_size_1 5 rfl rfl)
theorem dX0_size_30 : decode cX0_size 30 = .ok (.aload_n 0, 1) := dk_42 (dk_at dksX0_size_1 6 rfl rfl)
theorem dX0_size_31 : decode cX0_size 31 = .ok (.invokevirtual 95, 3) := dk_182 0 95 (dk_at dksX0_size_1 7 rfl rfl)
theorem dX0_size_34 : decode cX0_size 34 = .ok (.getfield 102, 3) := dk_180 0 102 (dk_at dksX0_size_1 10 rfl rfl)
theorem dX0_size_37 : decode cX0_size 37 = .ok (.iload_n 1, 1) := dk_27 (dk_at dksX0_size_1 13 rfl rfl)
theorem dX0_size_38 : decode cX0_size 38 = .ok (.iload_n 2, 1) := dk_28 (dk_at dksX0_size_1 14 rfl rfl)
theorem dX0_size_39 : decode cX0_size 39 = .ok (.iastore, 1) := dk_79 (dk_at dksX0_size_1 15 rfl rfl)
theorem dX0_size_40 : decode cX0_size 40 = .ok (.aload_n 0, 1) := dk_42 (dk_at dksX0_size_1 16 rfl rfl)
theorem dX0_size_41 : decode cX0_size 41 = .ok (.invokevirtual 105, 3) := dk_182 0 105 (dk_at dksX0_size_1 17 rfl rfl)
theorem dX0_size_44 : decode cX0_size 44 = .ok (.iconst 1, 1) := dk_4 (dk_at dksX0_size_1 20 rfl rfl)
theorem dX0_size_45 : decode cX0_size 45 = .ok (.ireturn, 1) := dk_172 (dk_at dksX0_size_1 21 rfl rfl)
abbrev cX0_isKind : ByteArray := prog_1_method_5_code
def yX0_isKind : MethodName := ⟨RX0, "isKind", "(I)Z"⟩
def dkwX0_isKind_0 : List UInt8 := [26, 3, 5, 184, 0, 75, 172]
abbrev dktX0_isKind_0 : List UInt8 := dkwX0_isKind_0 ++ []
theorem dksX0_isKind_0 : cX0_isKind.data.toList.drop 0 = dktX0_isKind_0 := by decide +kernel
theorem dX0_isKind_0 : decode cX0_isKind 0 = .ok (.iload_n 0, 1) := dk_26 (dk_at dksX0_isKind_0 0 rfl rfl)
theorem dX0_isKind_1 : decode cX0_isKind 1 = .ok (.iconst 0, 1) := dk_3 (dk_at dksX0_isKind_0 1 rfl rfl)
theorem dX0_isKind_2 : decode cX0_isKind 2 = .ok (.iconst 2, 1) := dk_5 (dk_at dksX0_isKind_0 2 rfl rfl)
theorem dX0_isKind_3 : decode cX0_isKind 3 = .ok (.invokestatic 75, 3) := dk_184 0 75 (dk_at dksX0_isKind_0 3 rfl rfl)
theorem dX0_isKind_6 : decode cX0_isKind 6 = .ok (.ireturn, 1) := dk_172 (dk_at dksX0_isKind_0 6 rfl rfl)
abbrev cX0_isIn : ByteArray := prog_1_method_1_code
def yX0_isIn : MethodName := ⟨RX0, "isIn", "(III)Z"⟩
def dkwX0_isIn_0 : List UInt8 := [26, 27, 161, 0, 12, 26, 28, 163, 0, 7, 4, 167, 0, 4, 3, 172]
abbrev dktX0_isIn_0 : List UInt8 := dkwX0_isIn_0 ++ []
theorem dksX0_isIn_0 : cX0_isIn.data.toList.drop 0 = dktX0_isIn_0 := by decide +kernel
theorem dX0_isIn_0 : decode cX0_isIn 0 = .ok (.iload_n 0, 1) := dk_26 (dk_at dksX0_isIn_0 0 rfl rfl)
theorem dX0_isIn_1 : decode cX0_isIn 1 = .ok (.iload_n 1, 1) := dk_27 (dk_at dksX0_isIn_0 1 rfl rfl)
theorem dX0_isIn_2 : decode cX0_isIn 2 = .ok (.if_icmp .lt 12, 3) := dk_161 0 12 (dk_at dksX0_isIn_0 2 rfl rfl)
theorem dX0_isIn_5 : decode cX0_isIn 5 = .ok (.iload_n 0, 1) := dk_26 (dk_at dksX0_isIn_0 5 rfl rfl)
theorem dX0_isIn_6 : decode cX0_isIn 6 = .ok (.iload_n 2, 1) := dk_28 (dk_at dksX0_isIn_0 6 rfl rfl)
theorem dX0_isIn_7 : decode cX0_isIn 7 = .ok (.if_icmp .gt 7, 3) := dk_163 0 7 (dk_at dksX0_isIn_0 7 rfl rfl)
theorem dX0_isIn_10 : decode cX0_isIn 10 = .ok (.iconst 1, 1) := dk_4 (dk_at dksX0_isIn_0 10 rfl rfl)
theorem dX0_isIn_11 : decode cX0_isIn 11 = .ok (.goto 4, 3) := dk_167 0 4 (dk_at dksX0_isIn_0 11 rfl rfl)
theorem dX0_isIn_14 : decode cX0_isIn 14 = .ok (.iconst 0, 1) := dk_3 (dk_at dksX0_isIn_0 14 rfl rfl)
theorem dX0_isIn_15 : decode cX0_isIn 15 = .ok (.ireturn, 1) := dk_172 (dk_at dksX0_isIn_0 15 rfl rfl)
abbrev cX0_land : ByteArray := prog_1_method_4_code
def yX0_land : MethodName := ⟨RX0, "land", "()LVillageStories$Land;"⟩
def dkwX0_land_0 : List UInt8 := [42, 180, 0, 12, 180, 0, 72, 176]
abbrev dktX0_land_0 : List UInt8 := dkwX0_land_0 ++ []
theorem dksX0_land_0 : cX0_land.data.toList.drop 0 = dktX0_land_0 := by decide +kernel
theorem dX0_land_0 : decode cX0_land 0 = .ok (.aload_n 0, 1) := dk_42 (dk_at dksX0_land_0 0 rfl rfl)
theorem dX0_land_1 : decode cX0_land 1 = .ok (.getfield 12, 3) := dk_180 0 12 (dk_at dksX0_land_0 1 rfl rfl)
theorem dX0_land_4 : decode cX0_land 4 = .ok (.getfield 72, 3) := dk_180 0 72 (dk_at dksX0_land_0 4 rfl rfl)
theorem dX0_land_7 : decode cX0_land 7 = .ok (.areturn, 1) := dk_176 (dk_at dksX0_land_0 7 rfl rfl)
abbrev cX0_changes : ByteArray := prog_1_method_6_code
def yX0_changes : MethodName := ⟨RX0, "changes", "()V"⟩
def dkwX0_changes_0 : List UInt8 := [42, 180, 0, 12, 9, 181, 0, 79, 42, 180, 0, 12, 3, 181, 0, 83, 42, 3, 181, 0, 87, 177]
abbrev dktX0_changes_0 : List UInt8 := dkwX0_changes_0 ++ []
theorem dksX0_changes_0 : cX0_changes.data.toList.drop 0 = dktX0_changes_0 := by decide +kernel
theorem dX0_changes_0 : decode cX0_changes 0 = .ok (.aload_n 0, 1) := dk_42 (dk_at dksX0_changes_0 0 rfl rfl)
theorem dX0_changes_1 : decode cX0_changes 1 = .ok (.getfield 12, 3) := dk_180 0 12 (dk_at dksX0_changes_0 1 rfl rfl)
theorem dX0_changes_4 : decode cX0_changes 4 = .ok (.lconst 0, 1) := dk_9 (dk_at dksX0_changes_0 4 rfl rfl)
theorem dX0_changes_5 : decode cX0_changes 5 = .ok (.putfield 79, 3) := dk_181 0 79 (dk_at dksX0_changes_0 5 rfl rfl)
theorem dX0_changes_8 : decode cX0_changes 8 = .ok (.aload_n 0, 1) := dk_42 (dk_at dksX0_changes_0 8 rfl rfl)
theorem dX0_changes_9 : decode cX0_changes 9 = .ok (.getfield 12, 3) := dk_180 0 12 (dk_at dksX0_changes_0 9 rfl rfl)
theorem dX0_changes_12 : decode cX0_changes 12 = .ok (.iconst 0, 1) := dk_3 (dk_at dksX0_changes_0 12 rfl rfl)
theorem dX0_changes_13 : decode cX0_changes 13 = .ok (.putfield 83, 3) := dk_181 0 83 (dk_at dksX0_changes_0 13 rfl rfl)
theorem dX0_changes_16 : decode cX0_changes 16 = .ok (.aload_n 0, 1) := dk_42 (dk_at dksX0_changes_0 16 rfl rfl)
theorem dX0_changes_17 : decode cX0_changes 17 = .ok (.iconst 0, 1) := dk_3 (dk_at dksX0_changes_0 17 rfl rfl)
theorem dX0_changes_18 : decode cX0_changes 18 = .ok (.putfield 87, 3) := dk_181 0 87 (dk_at dksX0_changes_0 18 rfl rfl)
theorem dX0_changes_21 : decode cX0_changes 21 = .ok (.return_, 1) := dk_177 (dk_at dksX0_changes_0 21 rfl rfl)
abbrev cX0_relation : ByteArray := prog_1_method_8_code
def yX0_relation : MethodName := ⟨RX0, "relation", "(II)I"⟩
def dkwX0_relation_3 : List UInt8 := [172]
abbrev dktX0_relation_3 : List UInt8 := dkwX0_relation_3 ++ []
def dkwX0_relation_2 : List UInt8 := [28, 183, 0, 116, 182, 0, 119, 87, 42, 182, 0, 105, 42, 182, 0, 95, 180, 0, 108, 182, 0, 111, 4, 100]
abbrev dktX0_relation_2 : List UInt8 := dkwX0_relation_2 ++ dktX0_relation_3
def dkwX0_relation_1 : List UInt8 := [159, 0, 12, 28, 184, 0, 91, 154, 0, 5, 2, 172, 42, 182, 0, 95, 180, 0, 108, 187, 0, 114, 89, 27]
abbrev dktX0_relation_1 : List UInt8 := dkwX0_relation_1 ++ dktX0_relation_2
def dkwX0_relation_0 : List UInt8 := [42, 182, 0, 95, 180, 0, 108, 182, 0, 111, 7, 159, 0, 22, 27, 184, 0, 91, 153, 0, 15, 28, 2]
abbrev dktX0_relation_0 : List UInt8 := dkwX0_relation_0 ++ dktX0_relation_1
theorem dksX0_relation_0 : cX0_relation.data.toList.drop 0 = dktX0_relation_0 := by decide +kernel
theorem dksX0_relation_1 : cX0_relation.data.toList.drop 23 = dktX0_relation_1 := dk_seg dksX0_relation_0 23 rfl rfl
theorem dksX0_relation_2 : cX0_relation.data.toList.drop 47 = dktX0_relation_2 := dk_seg dksX0_relation_1 24 rfl rfl
theorem dksX0_relation_3 : cX0_relation.data.toList.drop 71 = dktX0_relation_3 := dk_seg dksX0_relation_2 24 rfl rfl
theorem dX0_relation_0 : decode cX0_relation 0 = .ok (.aload_n 0, 1) := dk_42 (dk_at dksX0_relation_0 0 rfl rfl)
theorem dX0_relation_1 : decode cX0_relation 1 = .ok (.invokevirtual 95, 3) := dk_182 0 95 (dk_at dksX0_relation_0 1 rfl rfl)
theorem dX0_relation_4 : decode cX0_relation 4 = .ok (.getfield 108, 3) := dk_180 0 108 (dk_at dksX0_relation_0 4 rfl rfl)
theorem dX0_relation_7 : decode cX0_relation 7 = .ok (.invokevirtual 111, 3) := dk_182 0 111 (dk_at dksX0_relation_0 7 rfl rfl)
theorem dX0_relation_10 : decode cX0_relation 10 = .ok (.iconst 4, 1) := dk_7 (dk_at dksX0_relation_0 10 rfl rfl)
theorem dX0_relation_11 : decode cX0_relation 11 = .ok (.if_icmp .eq 22, 3) := dk_159 0 22 (dk_at dksX0_relation_0 11 rfl rfl)
theorem dX0_relation_14 : decode cX0_relation 14 = .ok (.iload_n 1, 1) := dk_27 (dk_at dksX0_relation_0 14 rfl rfl)
theorem dX0_relation_15 : decode cX0_relation 15 = .ok (.invokestatic 91, 3) := dk_184 0 91 (dk_at dksX0_relation_0 15 rfl rfl)
theorem dX0_relation_18 : decode cX0_relation 18 = .ok (.ifCond .eq 15, 3) := dk_153 0 15 (dk_at dksX0_relation_0 18 rfl rfl)
theorem dX0_relation_21 : decode cX0_relation 21 = .ok (.iload_n 2, 1) := dk_28 (dk_at dksX0_relation_0 21 rfl rfl)
theorem dX0_relation_22 : decode cX0_relation 22 = .ok (.iconst (-1), 1) := dk_2 (dk_at dksX0_relation_0 22 rfl rfl)
theorem dX0_relation_23 : decode cX0_relation 23 = .ok (.if_icmp .eq 12, 3) := dk_159 0 12 (dk_at dksX0_relation_1 0 rfl rfl)
theorem dX0_relation_26 : decode cX0_relation 26 = .ok (.iload_n 2, 1) := dk_28 (dk_at dksX0_relation_1 3 rfl rfl)
theorem dX0_relation_27 : decode cX0_relation 27 = .ok (.invokestatic 91, 3) := dk_184 0 91 (dk_at dksX0_relation_1 4 rfl rfl)
theorem dX0_relation_30 : decode cX0_relation 30 = .ok (.ifCond .ne 5, 3) := dk_154 0 5 (dk_at dksX0_relation_1 7 rfl rfl)
theorem dX0_relation_33 : decode cX0_relation 33 = .ok (.iconst (-1), 1) := dk_2 (dk_at dksX0_relation_1 10 rfl rfl)
theorem dX0_relation_34 : decode cX0_relation 34 = .ok (.ireturn, 1) := dk_172 (dk_at dksX0_relation_1 11 rfl rfl)
theorem dX0_relation_35 : decode cX0_relation 35 = .ok (.aload_n 0, 1) := dk_42 (dk_at dksX0_relation_1 12 rfl rfl)
theorem dX0_relation_36 : decode cX0_relation 36 = .ok (.invokevirtual 95, 3) := dk_182 0 95 (dk_at dksX0_relation_1 13 rfl rfl)
theorem dX0_relation_39 : decode cX0_relation 39 = .ok (.getfield 108, 3) := dk_180 0 108 (dk_at dksX0_relation_1 16 rfl rfl)
theorem dX0_relation_42 : decode cX0_relation 42 = .ok (.new 114, 3) := dk_187 0 114 (dk_at dksX0_relation_1 19 rfl rfl)
theorem dX0_relation_45 : decode cX0_relation 45 = .ok (.dup, 1) := dk_89 (dk_at dksX0_relation_1 22 rfl rfl)
theorem dX0_relation_46 : decode cX0_relation 46 = .ok (.iload_n 1, 1) := dk_27 (dk_at dksX0_relation_1 23 rfl rfl)
theorem dX0_relation_47 : decode cX0_relation 47 = .ok (.iload_n 2, 1) := dk_28 (dk_at dksX0_relation_2 0 rfl rfl)
theorem dX0_relation_48 : decode cX0_relation 48 = .ok (.invokespecial 116, 3) := dk_183 0 116 (dk_at dksX0_relation_2 1 rfl rfl)
theorem dX0_relation_51 : decode cX0_relation 51 = .ok (.invokevirtual 119, 3) := dk_182 0 119 (dk_at dksX0_relation_2 4 rfl rfl)
theorem dX0_relation_54 : decode cX0_relation 54 = .ok (.pop, 1) := dk_87 (dk_at dksX0_relation_2 7 rfl rfl)
theorem dX0_relation_55 : decode cX0_relation 55 = .ok (.aload_n 0, 1) := dk_42 (dk_at dksX0_relation_2 8 rfl rfl)
theorem dX0_relation_56 : decode cX0_relation 56 = .ok (.invokevirtual 105, 3) := dk_182 0 105 (dk_at dksX0_relation_2 9 rfl rfl)
theorem dX0_relation_59 : decode cX0_relation 59 = .ok (.aload_n 0, 1) := dk_42 (dk_at dksX0_relation_2 12 rfl rfl)
theorem dX0_relation_60 : decode cX0_relation 60 = .ok (.invokevirtual 95, 3) := dk_182 0 95 (dk_at dksX0_relation_2 13 rfl rfl)
theorem dX0_relation_63 : decode cX0_relation 63 = .ok (.getfield 108, 3) := dk_180 0 108 (dk_at dksX0_relation_2 16 rfl rfl)
theorem dX0_relation_66 : decode cX0_relation 66 = .ok (.invokevirtual 111, 3) := dk_182 0 111 (dk_at dksX0_relation_2 19 rfl rfl)
theorem dX0_relation_69 : decode cX0_relation 69 = .ok (.iconst 1, 1) := dk_4 (dk_at dksX0_relation_2 22 rfl rfl)
theorem dX0_relation_70 : decode cX0_relation 70 = .ok (.isub, 1) := dk_100 (dk_at dksX0_relation_2 23 rfl rfl)
theorem dX0_relation_71 : decode cX0_relation 71 = .ok (.ireturn, 1) := dk_172 (dk_at dksX0_relation_3 0 rfl rfl)
abbrev cX0_facts : ByteArray := prog_1_method_9_code
def yX0_facts : MethodName := ⟨RX0, "facts", "()I"⟩
def dkwX0_facts_0 : List UInt8 := [42, 182, 0, 95, 182, 0, 123, 172]
abbrev dktX0_facts_0 : List UInt8 := dkwX0_facts_0 ++ []
theorem dksX0_facts_0 : cX0_facts.data.toList.drop 0 = dktX0_facts_0 := by decide +kernel
theorem dX0_facts_0 : decode cX0_facts 0 = .ok (.aload_n 0, 1) := dk_42 (dk_at dksX0_facts_0 0 rfl rfl)
theorem dX0_facts_1 : decode cX0_facts 1 = .ok (.invokevirtual 95, 3) := dk_182 0 95 (dk_at dksX0_facts_0 1 rfl rfl)
theorem dX0_facts_4 : decode cX0_facts 4 = .ok (.invokevirtual 123, 3) := dk_182 0 123 (dk_at dksX0_facts_0 4 rfl rfl)
theorem dX0_facts_7 : decode cX0_facts 7 = .ok (.ireturn, 1) := dk_172 (dk_at dksX0_facts_0 7 rfl rfl)
abbrev cX0_tell : ByteArray := prog_1_method_12_code
def yX0_tell : MethodName := ⟨RX0, "tell", "(IIIZ)Z"⟩
def dkwX0_tell_2 : List UInt8 := [181, 0, 79, 4, 172]
abbrev dktX0_tell_2 : List UInt8 := dkwX0_tell_2 ++ []
def dkwX0_tell_1 : List UInt8 := [21, 4, 160, 0, 5, 3, 172, 42, 180, 0, 12, 89, 180, 0, 79, 42, 21, 5, 182, 0, 127, 131]
abbrev dktX0_tell_1 : List UInt8 := dkwX0_tell_1 ++ dktX0_tell_2
def dkwX0_tell_0 : List UInt8 := [42, 182, 0, 95, 27, 28, 29, 182, 0, 131, 54, 5, 21, 5, 2, 159, 0, 14, 42, 21, 5, 182, 0, 135]
abbrev dktX0_tell_0 : List UInt8 := dkwX0_tell_0 ++ dktX0_tell_1
theorem dksX0_tell_0 : cX0_tell.data.toList.drop 0 = dktX0_tell_0 := by decide +kernel
theorem dksX0_tell_1 : cX0_tell.data.toList.drop 24 = dktX0_tell_1 := dk_seg dksX0_tell_0 24 rfl rfl
theorem dksX0_tell_2 : cX0_tell.data.toList.drop 46 = dktX0_tell_2 := dk_seg dksX0_tell_1 22 rfl rfl
theorem dX0_tell_0 : decode cX0_tell 0 = .ok (.aload_n 0, 1) := dk_42 (dk_at dksX0_tell_0 0 rfl rfl)
theorem dX0_tell_1 : decode cX0_tell 1 = .ok (.invokevirtual 95, 3) := dk_182 0 95 (dk_at dksX0_tell_0 1 rfl rfl)
theorem dX0_tell_4 : decode cX0_tell 4 = .ok (.iload_n 1, 1) := dk_27 (dk_at dksX0_tell_0 4 rfl rfl)
theorem dX0_tell_5 : decode cX0_tell 5 = .ok (.iload_n 2, 1) := dk_28 (dk_at dksX0_tell_0 5 rfl rfl)
theorem dX0_tell_6 : decode cX0_tell 6 = .ok (.iload_n 3, 1) := dk_29 (dk_at dksX0_tell_0 6 rfl rfl)
theorem dX0_tell_7 : decode cX0_tell 7 = .ok (.invokevirtual 131, 3) := dk_182 0 131 (dk_at dksX0_tell_0 7 rfl rfl)
theorem dX0_tell_10 : decode cX0_tell 10 = .ok (.istore 5, 2) := dk_54 5 (dk_at dksX0_tell_0 10 rfl rfl)
theorem dX0_tell_12 : decode cX0_tell 12 = .ok (.iload 5, 2) := dk_21 5 (dk_at dksX0_tell_0 12 rfl rfl)
theorem dX0_tell_14 : decode cX0_tell 14 = .ok (.iconst (-1), 1) := dk_2 (dk_at dksX0_tell_0 14 rfl rfl)
theorem dX0_tell_15 : decode cX0_tell 15 = .ok (.if_icmp .eq 14, 3) := dk_159 0 14 (dk_at dksX0_tell_0 15 rfl rfl)
theorem dX0_tell_18 : decode cX0_tell 18 = .ok (.aload_n 0, 1) := dk_42 (dk_at dksX0_tell_0 18 rfl rfl)
theorem dX0_tell_19 : decode cX0_tell 19 = .ok (.iload 5, 2) := dk_21 5 (dk_at dksX0_tell_0 19 rfl rfl)
theorem dX0_tell_21 : decode cX0_tell 21 = .ok (.invokevirtual 135, 3) := dk_182 0 135 (dk_at dksX0_tell_0 21 rfl rfl)
theorem dX0_tell_24 : decode cX0_tell 24 = .ok (.iload 4, 2) := dk_21 4 (dk_at dksX0_tell_1 0 rfl rfl)
theorem dX0_tell_26 : decode cX0_tell 26 = .ok (.if_icmp .ne 5, 3) := dk_160 0 5 (dk_at dksX0_tell_1 2 rfl rfl)
theorem dX0_tell_29 : decode cX0_tell 29 = .ok (.iconst 0, 1) := dk_3 (dk_at dksX0_tell_1 5 rfl rfl)
theorem dX0_tell_30 : decode cX0_tell 30 = .ok (.ireturn, 1) := dk_172 (dk_at dksX0_tell_1 6 rfl rfl)
theorem dX0_tell_31 : decode cX0_tell 31 = .ok (.aload_n 0, 1) := dk_42 (dk_at dksX0_tell_1 7 rfl rfl)
theorem dX0_tell_32 : decode cX0_tell 32 = .ok (.getfield 12, 3) := dk_180 0 12 (dk_at dksX0_tell_1 8 rfl rfl)
theorem dX0_tell_35 : decode cX0_tell 35 = .ok (.dup, 1) := dk_89 (dk_at dksX0_tell_1 11 rfl rfl)
theorem dX0_tell_36 : decode cX0_tell 36 = .ok (.getfield 79, 3) := dk_180 0 79 (dk_at dksX0_tell_1 12 rfl rfl)
theorem dX0_tell_39 : decode cX0_tell 39 = .ok (.aload_n 0, 1) := dk_42 (dk_at dksX0_tell_1 15 rfl rfl)
theorem dX0_tell_40 : decode cX0_tell 40 = .ok (.iload 5, 2) := dk_21 5 (dk_at dksX0_tell_1 16 rfl rfl)
theorem dX0_tell_42 : decode cX0_tell 42 = .ok (.invokevirtual 127, 3) := dk_182 0 127 (dk_at dksX0_tell_1 18 rfl rfl)
theorem dX0_tell_45 : decode cX0_tell 45 = .ok (.lxor, 1) := dk_131 (dk_at dksX0_tell_1 21 rfl rfl)
theorem dX0_tell_46 : decode cX0_tell 46 = .ok (.putfield 79, 3) := dk_181 0 79 (dk_at dksX0_tell_2 0 rfl rfl)
theorem dX0_tell_49 : decode cX0_tell 49 = .ok (.iconst 1, 1) := dk_4 (dk_at dksX0_tell_2 3 rfl rfl)
theorem dX0_tell_50 : decode cX0_tell 50 = .ok (.ireturn, 1) := dk_172 (dk_at dksX0_tell_2 4 rfl rfl)
abbrev cX0_isHere : ByteArray := prog_1_method_11_code
def yX0_isHere : MethodName := ⟨RX0, "isHere", "(I)Z"⟩
def dkwX0_isHere_0 : List UInt8 := [42, 180, 0, 12, 180, 0, 79, 42, 27, 182, 0, 127, 127, 9, 148, 153, 0, 7, 4, 167, 0, 4, 3, 172]
abbrev dktX0_isHere_0 : List UInt8 := dkwX0_isHere_0 ++ []
theorem dksX0_isHere_0 : cX0_isHere.data.toList.drop 0 = dktX0_isHere_0 := by decide +kernel
theorem dX0_isHere_0 : decode cX0_isHere 0 = .ok (.aload_n 0, 1) := dk_42 (dk_at dksX0_isHere_0 0 rfl rfl)
theorem dX0_isHere_1 : decode cX0_isHere 1 = .ok (.getfield 12, 3) := dk_180 0 12 (dk_at dksX0_isHere_0 1 rfl rfl)
theorem dX0_isHere_4 : decode cX0_isHere 4 = .ok (.getfield 79, 3) := dk_180 0 79 (dk_at dksX0_isHere_0 4 rfl rfl)
theorem dX0_isHere_7 : decode cX0_isHere 7 = .ok (.aload_n 0, 1) := dk_42 (dk_at dksX0_isHere_0 7 rfl rfl)
theorem dX0_isHere_8 : decode cX0_isHere 8 = .ok (.iload_n 1, 1) := dk_27 (dk_at dksX0_isHere_0 8 rfl rfl)
theorem dX0_isHere_9 : decode cX0_isHere 9 = .ok (.invokevirtual 127, 3) := dk_182 0 127 (dk_at dksX0_isHere_0 9 rfl rfl)
theorem dX0_isHere_12 : decode cX0_isHere 12 = .ok (.land, 1) := dk_127 (dk_at dksX0_isHere_0 12 rfl rfl)
theorem dX0_isHere_13 : decode cX0_isHere 13 = .ok (.lconst 0, 1) := dk_9 (dk_at dksX0_isHere_0 13 rfl rfl)
theorem dX0_isHere_14 : decode cX0_isHere 14 = .ok (.lcmp, 1) := dk_148 (dk_at dksX0_isHere_0 14 rfl rfl)
theorem dX0_isHere_15 : decode cX0_isHere 15 = .ok (.ifCond .eq 7, 3) := dk_153 0 7 (dk_at dksX0_isHere_0 15 rfl rfl)
theorem dX0_isHere_18 : decode cX0_isHere 18 = .ok (.iconst 1, 1) := dk_4 (dk_at dksX0_isHere_0 18 rfl rfl)
theorem dX0_isHere_19 : decode cX0_isHere 19 = .ok (.goto 4, 3) := dk_167 0 4 (dk_at dksX0_isHere_0 19 rfl rfl)
theorem dX0_isHere_22 : decode cX0_isHere 22 = .ok (.iconst 0, 1) := dk_3 (dk_at dksX0_isHere_0 22 rfl rfl)
theorem dX0_isHere_23 : decode cX0_isHere 23 = .ok (.ireturn, 1) := dk_172 (dk_at dksX0_isHere_0 23 rfl rfl)
abbrev cX0_bit : ByteArray := prog_1_method_10_code
def yX0_bit : MethodName := ⟨RX0, "bit", "(I)J"⟩
def dkwX0_bit_0 : List UInt8 := [10, 42, 182, 0, 126, 4, 100, 27, 100, 121, 173]
abbrev dktX0_bit_0 : List UInt8 := dkwX0_bit_0 ++ []
theorem dksX0_bit_0 : cX0_bit.data.toList.drop 0 = dktX0_bit_0 := by decide +kernel
theorem dX0_bit_0 : decode cX0_bit 0 = .ok (.lconst 1, 1) := dk_10 (dk_at dksX0_bit_0 0 rfl rfl)
theorem dX0_bit_1 : decode cX0_bit 1 = .ok (.aload_n 0, 1) := dk_42 (dk_at dksX0_bit_0 1 rfl rfl)
theorem dX0_bit_2 : decode cX0_bit 2 = .ok (.invokevirtual 126, 3) := dk_182 0 126 (dk_at dksX0_bit_0 2 rfl rfl)
theorem dX0_bit_5 : decode cX0_bit 5 = .ok (.iconst 1, 1) := dk_4 (dk_at dksX0_bit_0 5 rfl rfl)
theorem dX0_bit_6 : decode cX0_bit 6 = .ok (.isub, 1) := dk_100 (dk_at dksX0_bit_0 6 rfl rfl)
theorem dX0_bit_7 : decode cX0_bit 7 = .ok (.iload_n 1, 1) := dk_27 (dk_at dksX0_bit_0 7 rfl rfl)
theorem dX0_bit_8 : decode cX0_bit 8 = .ok (.isub, 1) := dk_100 (dk_at dksX0_bit_0 8 rfl rfl)
theorem dX0_bit_9 : decode cX0_bit 9 = .ok (.lshl, 1) := dk_121 (dk_at dksX0_bit_0 9 rfl rfl)
theorem dX0_bit_10 : decode cX0_bit 10 = .ok (.lreturn, 1) := dk_173 (dk_at dksX0_bit_0 10 rfl rfl)
abbrev cX0_fact : ByteArray := prog_1_method_13_code
def yX0_fact : MethodName := ⟨RX0, "fact", "(III)I"⟩
def dkwX0_fact_1 : List UInt8 := [21, 4, 182, 0, 135, 153, 0, 7, 4, 167, 0, 4, 3, 172]
abbrev dktX0_fact_1 : List UInt8 := dkwX0_fact_1 ++ []
def dkwX0_fact_0 : List UInt8 := [42, 182, 0, 95, 27, 28, 29, 182, 0, 131, 54, 4, 21, 4, 2, 160, 0, 7, 2, 167, 0, 17, 42]
abbrev dktX0_fact_0 : List UInt8 := dkwX0_fact_0 ++ dktX0_fact_1
theorem dksX0_fact_0 : cX0_fact.data.toList.drop 0 = dktX0_fact_0 := by decide +kernel
theorem dksX0_fact_1 : cX0_fact.data.toList.drop 23 = dktX0_fact_1 := dk_seg dksX0_fact_0 23 rfl rfl
theorem dX0_fact_0 : decode cX0_fact 0 = .ok (.aload_n 0, 1) := dk_42 (dk_at dksX0_fact_0 0 rfl rfl)
theorem dX0_fact_1 : decode cX0_fact 1 = .ok (.invokevirtual 95, 3) := dk_182 0 95 (dk_at dksX0_fact_0 1 rfl rfl)
theorem dX0_fact_4 : decode cX0_fact 4 = .ok (.iload_n 1, 1) := dk_27 (dk_at dksX0_fact_0 4 rfl rfl)
theorem dX0_fact_5 : decode cX0_fact 5 = .ok (.iload_n 2, 1) := dk_28 (dk_at dksX0_fact_0 5 rfl rfl)
theorem dX0_fact_6 : decode cX0_fact 6 = .ok (.iload_n 3, 1) := dk_29 (dk_at dksX0_fact_0 6 rfl rfl)
theorem dX0_fact_7 : decode cX0_fact 7 = .ok (.invokevirtual 131, 3) := dk_182 0 131 (dk_at dksX0_fact_0 7 rfl rfl)
theorem dX0_fact_10 : decode cX0_fact 10 = .ok (.istore 4, 2) := dk_54 4 (dk_at dksX0_fact_0 10 rfl rfl)
theorem dX0_fact_12 : decode cX0_fact 12 = .ok (.iload 4, 2) := dk_21 4 (dk_at dksX0_fact_0 12 rfl rfl)
theorem dX0_fact_14 : decode cX0_fact 14 = .ok (.iconst (-1), 1) := dk_2 (dk_at dksX0_fact_0 14 rfl rfl)
theorem dX0_fact_15 : decode cX0_fact 15 = .ok (.if_icmp .ne 7, 3) := dk_160 0 7 (dk_at dksX0_fact_0 15 rfl rfl)
theorem dX0_fact_18 : decode cX0_fact 18 = .ok (.iconst (-1), 1) := dk_2 (dk_at dksX0_fact_0 18 rfl rfl)
theorem dX0_fact_19 : decode cX0_fact 19 = .ok (.goto 17, 3) := dk_167 0 17 (dk_at dksX0_fact_0 19 rfl rfl)
theorem dX0_fact_22 : decode cX0_fact 22 = .ok (.aload_n 0, 1) := dk_42 (dk_at dksX0_fact_0 22 rfl rfl)
theorem dX0_fact_23 : decode cX0_fact 23 = .ok (.iload 4, 2) := dk_21 4 (dk_at dksX0_fact_1 0 rfl rfl)
theorem dX0_fact_25 : decode cX0_fact 25 = .ok (.invokevirtual 135, 3) := dk_182 0 135 (dk_at dksX0_fact_1 2 rfl rfl)
theorem dX0_fact_28 : decode cX0_fact 28 = .ok (.ifCond .eq 7, 3) := dk_153 0 7 (dk_at dksX0_fact_1 5 rfl rfl)
theorem dX0_fact_31 : decode cX0_fact 31 = .ok (.iconst 1, 1) := dk_4 (dk_at dksX0_fact_1 8 rfl rfl)
theorem dX0_fact_32 : decode cX0_fact 32 = .ok (.goto 4, 3) := dk_167 0 4 (dk_at dksX0_fact_1 9 rfl rfl)
theorem dX0_fact_35 : decode cX0_fact 35 = .ok (.iconst 0, 1) := dk_3 (dk_at dksX0_fact_1 12 rfl rfl)
theorem dX0_fact_36 : decode cX0_fact 36 = .ok (.ireturn, 1) := dk_172 (dk_at dksX0_fact_1 13 rfl rfl)
abbrev cX0_known : ByteArray := prog_1_method_14_code
def yX0_known : MethodName := ⟨RX0, "known", "(IIIZ)Z"⟩
def dkwX0_known_4 : List UInt8 := [167, 0, 4, 29, 21, 4, 42, 180, 0, 12, 180, 0, 154, 183, 0, 157, 182, 0, 119, 87, 4, 172]
abbrev dktX0_known_4 : List UInt8 := dkwX0_known_4 ++ []
def dkwX0_known_3 : List UInt8 := [154, 0, 5, 3, 172, 42, 180, 0, 12, 180, 0, 138, 187, 0, 152, 89, 27, 28, 21, 5, 153, 0, 7, 3]
abbrev dktX0_known_3 : List UInt8 := dkwX0_known_3 ++ dktX0_known_4
def dkwX0_known_2 : List UInt8 := [182, 0, 144, 192, 0, 114, 182, 0, 148, 54, 5, 21, 5, 154, 0, 14, 29, 3, 5, 184, 0, 75]
abbrev dktX0_known_2 : List UInt8 := dkwX0_known_2 ++ dktX0_known_3
def dkwX0_known_1 : List UInt8 := [153, 0, 12, 28, 3, 5, 184, 0, 75, 154, 0, 5, 3, 172, 42, 182, 0, 95, 180, 0, 108, 27]
abbrev dktX0_known_1 : List UInt8 := dkwX0_known_1 ++ dktX0_known_2
def dkwX0_known_0 : List UInt8 := [42, 180, 0, 12, 180, 0, 138, 182, 0, 111, 16, 40, 159, 0, 23, 42, 182, 0, 95, 27, 182, 0, 141]
abbrev dktX0_known_0 : List UInt8 := dkwX0_known_0 ++ dktX0_known_1
theorem dksX0_known_0 : cX0_known.data.toList.drop 0 = dktX0_known_0 := by decide +kernel
theorem dksX0_known_1 : cX0_known.data.toList.drop 23 = dktX0_known_1 := dk_seg dksX0_known_0 23 rfl rfl
theorem dksX0_known_2 : cX0_known.data.toList.drop 45 = dktX0_known_2 := dk_seg dksX0_known_1 22 rfl rfl
theorem dksX0_known_3 : cX0_known.data.toList.drop 67 = dktX0_known_3 := dk_seg dksX0_known_2 22 rfl rfl
theorem dksX0_known_4 : cX0_known.data.toList.drop 91 = dktX0_known_4 := dk_seg dksX0_known_3 24 rfl rfl
theorem dX0_known_0 : decode cX0_known 0 = .ok (.aload_n 0, 1) := dk_42 (dk_at dksX0_known_0 0 rfl rfl)
theorem dX0_known_1 : decode cX0_known 1 = .ok (.getfield 12, 3) := dk_180 0 12 (dk_at dksX0_known_0 1 rfl rfl)
theorem dX0_known_4 : decode cX0_known 4 = .ok (.getfield 138, 3) := dk_180 0 138 (dk_at dksX0_known_0 4 rfl rfl)
theorem dX0_known_7 : decode cX0_known 7 = .ok (.invokevirtual 111, 3) := dk_182 0 111 (dk_at dksX0_known_0 7 rfl rfl)
theorem dX0_known_10 : decode cX0_known 10 = .ok (.bipush 40, 2) := dk_16 40 (dk_at dksX0_known_0 10 rfl rfl)
theorem dX0_known_12 : decode cX0_known 12 = .ok (.if_icmp .eq 23, 3) := dk_159 0 23 (dk_at dksX0_known_0 12 rfl rfl)
theorem dX0_known_15 : decode cX0_known 15 = .ok (.aload_n 0, 1) := dk_42 (dk_at dksX0_known_0 15 rfl rfl)
theorem dX0_known_16 : decode cX0_known 16 = .ok (.invokevirtual 95, 3) := dk_182 0 95 (dk_at dksX0_known_0 16 rfl rfl)
theorem dX0_known_19 : decode cX0_known 19 = .ok (.iload_n 1, 1) := dk_27 (dk_at dksX0_known_0 19 rfl rfl)
theorem dX0_known_20 : decode cX0_known 20 = .ok (.invokevirtual 141, 3) := dk_182 0 141 (dk_at dksX0_known_0 20 rfl rfl)
theorem dX0_known_23 : decode cX0_known 23 = .ok (.ifCond .eq 12, 3) := dk_153 0 12 (dk_at dksX0_known_1 0 rfl rfl)
theorem dX0_known_26 : decode cX0_known 26 = .ok (.iload_n 2, 1) := dk_28 (dk_at dksX0_known_1 3 rfl rfl)
theorem dX0_known_27 : decode cX0_known 27 = .ok (.iconst 0, 1) := dk_3 (dk_at dksX0_known_1 4 rfl rfl)
theorem dX0_known_28 : decode cX0_known 28 = .ok (.iconst 2, 1) := dk_5 (dk_at dksX0_known_1 5 rfl rfl)
theorem dX0_known_29 : decode cX0_known 29 = .ok (.invokestatic 75, 3) := dk_184 0 75 (dk_at dksX0_known_1 6 rfl rfl)
theorem dX0_known_32 : decode cX0_known 32 = .ok (.ifCond .ne 5, 3) := dk_154 0 5 (dk_at dksX0_known_1 9 rfl rfl)
theorem dX0_known_35 : decode cX0_known 35 = .ok (.iconst 0, 1) := dk_3 (dk_at dksX0_known_1 12 rfl rfl)
theorem dX0_known_36 : decode cX0_known 36 = .ok (.ireturn, 1) := dk_172 (dk_at dksX0_known_1 13 rfl rfl)
theorem dX0_known_37 : decode cX0_known 37 = .ok (.aload_n 0, 1) := dk_42 (dk_at dksX0_known_1 14 rfl rfl)
theorem dX0_known_38 : decode cX0_known 38 = .ok (.invokevirtual 95, 3) := dk_182 0 95 (dk_at dksX0_known_1 15 rfl rfl)
theorem dX0_known_41 : decode cX0_known 41 = .ok (.getfield 108, 3) := dk_180 0 108 (dk_at dksX0_known_1 18 rfl rfl)
theorem dX0_known_44 : decode cX0_known 44 = .ok (.iload_n 1, 1) := dk_27 (dk_at dksX0_known_1 21 rfl rfl)
theorem dX0_known_45 : decode cX0_known 45 = .ok (.invokevirtual 144, 3) := dk_182 0 144 (dk_at dksX0_known_2 0 rfl rfl)
theorem dX0_known_48 : decode cX0_known 48 = .ok (.checkcast 114, 3) := dk_192 0 114 (dk_at dksX0_known_2 3 rfl rfl)
theorem dX0_known_51 : decode cX0_known 51 = .ok (.invokevirtual 148, 3) := dk_182 0 148 (dk_at dksX0_known_2 6 rfl rfl)
theorem dX0_known_54 : decode cX0_known 54 = .ok (.istore 5, 2) := dk_54 5 (dk_at dksX0_known_2 9 rfl rfl)
theorem dX0_known_56 : decode cX0_known 56 = .ok (.iload 5, 2) := dk_21 5 (dk_at dksX0_known_2 11 rfl rfl)
theorem dX0_known_58 : decode cX0_known 58 = .ok (.ifCond .ne 14, 3) := dk_154 0 14 (dk_at dksX0_known_2 13 rfl rfl)
theorem dX0_known_61 : decode cX0_known 61 = .ok (.iload_n 3, 1) := dk_29 (dk_at dksX0_known_2 16 rfl rfl)
theorem dX0_known_62 : decode cX0_known 62 = .ok (.iconst 0, 1) := dk_3 (dk_at dksX0_known_2 17 rfl rfl)
theorem dX0_known_63 : decode cX0_known 63 = .ok (.iconst 2, 1) := dk_5 (dk_at dksX0_known_2 18 rfl rfl)
theorem dX0_known_64 : decode cX0_known 64 = .ok (.invokestatic 75, 3) := dk_184 0 75 (dk_at dksX0_known_2 19 rfl rfl)
theorem dX0_known_67 : decode cX0_known 67 = .ok (.ifCond .ne 5, 3) := dk_154 0 5 (dk_at dksX0_known_3 0 rfl rfl)
theorem dX0_known_70 : decode cX0_known 70 = .ok (.iconst 0, 1) := dk_3 (dk_at dksX0_known_3 3 rfl rfl)
theorem dX0_known_71 : decode cX0_known 71 = .ok (.ireturn, 1) := dk_172 (dk_at dksX0_known_3 4 rfl rfl)
theorem dX0_known_72 : decode cX0_known 72 = .ok (.aload_n 0, 1) := dk_42 (dk_at dksX0_known_3 5 rfl rfl)
theorem dX0_known_73 : decode cX0_known 73 = .ok (.getfield 12, 3) := dk_180 0 12 (dk_at dksX0_known_3 6 rfl rfl)
theorem dX0_known_76 : decode cX0_known 76 = .ok (.getfield 138, 3) := dk_180 0 138 (dk_at dksX0_known_3 9 rfl rfl)
theorem dX0_known_79 : decode cX0_known 79 = .ok (.new 152, 3) := dk_187 0 152 (dk_at dksX0_known_3 12 rfl rfl)
theorem dX0_known_82 : decode cX0_known 82 = .ok (.dup, 1) := dk_89 (dk_at dksX0_known_3 15 rfl rfl)
theorem dX0_known_83 : decode cX0_known 83 = .ok (.iload_n 1, 1) := dk_27 (dk_at dksX0_known_3 16 rfl rfl)
theorem dX0_known_84 : decode cX0_known 84 = .ok (.iload_n 2, 1) := dk_28 (dk_at dksX0_known_3 17 rfl rfl)
theorem dX0_known_85 : decode cX0_known 85 = .ok (.iload 5, 2) := dk_21 5 (dk_at dksX0_known_3 18 rfl rfl)
theorem dX0_known_87 : decode cX0_known 87 = .ok (.ifCond .eq 7, 3) := dk_153 0 7 (dk_at dksX0_known_3 20 rfl rfl)
theorem dX0_known_90 : decode cX0_known 90 = .ok (.iconst 0, 1) := dk_3 (dk_at dksX0_known_3 23 rfl rfl)
theorem dX0_known_91 : decode cX0_known 91 = .ok (.goto 4, 3) := dk_167 0 4 (dk_at dksX0_known_4 0 rfl rfl)
theorem dX0_known_94 : decode cX0_known 94 = .ok (.iload_n 3, 1) := dk_29 (dk_at dksX0_known_4 3 rfl rfl)
theorem dX0_known_95 : decode cX0_known 95 = .ok (.iload 4, 2) := dk_21 4 (dk_at dksX0_known_4 4 rfl rfl)
theorem dX0_known_97 : decode cX0_known 97 = .ok (.aload_n 0, 1) := dk_42 (dk_at dksX0_known_4 6 rfl rfl)
theorem dX0_known_98 : decode cX0_known 98 = .ok (.getfield 12, 3) := dk_180 0 12 (dk_at dksX0_known_4 7 rfl rfl)
theorem dX0_known_101 : decode cX0_known 101 = .ok (.getfield 154, 3) := dk_180 0 154 (dk_at dksX0_known_4 10 rfl rfl)
theorem dX0_known_104 : decode cX0_known 104 = .ok (.invokespecial 157, 3) := dk_183 0 157 (dk_at dksX0_known_4 13 rfl rfl)
theorem dX0_known_107 : decode cX0_known 107 = .ok (.invokevirtual 119, 3) := dk_182 0 119 (dk_at dksX0_known_4 16 rfl rfl)
theorem dX0_known_110 : decode cX0_known 110 = .ok (.pop, 1) := dk_87 (dk_at dksX0_known_4 19 rfl rfl)
theorem dX0_known_111 : decode cX0_known 111 = .ok (.iconst 1, 1) := dk_4 (dk_at dksX0_known_4 20 rfl rfl)
theorem dX0_known_112 : decode cX0_known 112 = .ok (.ireturn, 1) := dk_172 (dk_at dksX0_known_4 21 rfl rfl)
abbrev cX0_feed : ByteArray := prog_1_method_15_code
def yX0_feed : MethodName := ⟨RX0, "feed", "(IIIII)I"⟩
def dkwX0_feed_5 : List UInt8 := [181, 0, 160, 132, 6, 1, 167, 255, 156, 42, 180, 0, 12, 180, 0, 160, 172]
abbrev dktX0_feed_5 : List UInt8 := dkwX0_feed_5 ++ []
def dkwX0_feed_4 : List UInt8 := [16, 24, 16, 8, 21, 6, 6, 126, 104, 100, 122, 145, 84, 42, 180, 0, 12, 89, 180, 0, 160, 4, 96]
abbrev dktX0_feed_4 : List UInt8 := dkwX0_feed_4 ++ dktX0_feed_5
def dkwX0_feed_3 : List UInt8 := [167, 0, 5, 21, 5, 54, 7, 42, 180, 0, 12, 180, 0, 163, 42, 180, 0, 12, 180, 0, 160, 21, 7]
abbrev dktX0_feed_3 : List UInt8 := dkwX0_feed_3 ++ dktX0_feed_4
def dkwX0_feed_2 : List UInt8 := [167, 0, 28, 21, 6, 16, 12, 162, 0, 7, 29, 167, 0, 17, 21, 6, 16, 16, 162, 0, 8, 21, 4]
abbrev dktX0_feed_2 : List UInt8 := dkwX0_feed_2 ++ dktX0_feed_3
def dkwX0_feed_1 : List UInt8 := [16, 20, 162, 0, 99, 21, 6, 7, 162, 0, 7, 27, 167, 0, 39, 21, 6, 16, 8, 162, 0, 7, 28]
abbrev dktX0_feed_1 : List UInt8 := dkwX0_feed_1 ++ dktX0_feed_2
def dkwX0_feed_0 : List UInt8 := [42, 180, 0, 12, 180, 0, 160, 16, 20, 96, 17, 1, 144, 164, 0, 5, 2, 172, 3, 54, 6, 21, 6]
abbrev dktX0_feed_0 : List UInt8 := dkwX0_feed_0 ++ dktX0_feed_1
theorem dksX0_feed_0 : cX0_feed.data.toList.drop 0 = dktX0_feed_0 := by decide +kernel
theorem dksX0_feed_1 : cX0_feed.data.toList.drop 23 = dktX0_feed_1 := dk_seg dksX0_feed_0 23 rfl rfl
theorem dksX0_feed_2 : cX0_feed.data.toList.drop 46 = dktX0_feed_2 := dk_seg dksX0_feed_1 23 rfl rfl
theorem dksX0_feed_3 : cX0_feed.data.toList.drop 69 = dktX0_feed_3 := dk_seg dksX0_feed_2 23 rfl rfl
theorem dksX0_feed_4 : cX0_feed.data.toList.drop 92 = dktX0_feed_4 := dk_seg dksX0_feed_3 23 rfl rfl
theorem dksX0_feed_5 : cX0_feed.data.toList.drop 115 = dktX0_feed_5 := dk_seg dksX0_feed_4 23 rfl rfl
theorem dX0_feed_0 : decode cX0_feed 0 = .ok (.aload_n 0, 1) := dk_42 (dk_at dksX0_feed_0 0 rfl rfl)
theorem dX0_feed_1 : decode cX0_feed 1 = .ok (.getfield 12, 3) := dk_180 0 12 (dk_at dksX0_feed_0 1 rfl rfl)
theorem dX0_feed_4 : decode cX0_feed 4 = .ok (.getfield 160, 3) := dk_180 0 160 (dk_at dksX0_feed_0 4 rfl rfl)
theorem dX0_feed_7 : decode cX0_feed 7 = .ok (.bipush 20, 2) := dk_16 20 (dk_at dksX0_feed_0 7 rfl rfl)
theorem dX0_feed_9 : decode cX0_feed 9 = .ok (.iadd, 1) := dk_96 (dk_at dksX0_feed_0 9 rfl rfl)
theorem dX0_feed_10 : decode cX0_feed 10 = .ok (.sipush 400, 3) := dk_17 1 144 (dk_at dksX0_feed_0 10 rfl rfl)
theorem dX0_feed_13 : decode cX0_feed 13 = .ok (.if_icmp .le 5, 3) := dk_164 0 5 (dk_at dksX0_feed_0 13 rfl rfl)
theorem dX0_feed_16 : decode cX0_feed 16 = .ok (.iconst (-1), 1) := dk_2 (dk_at dksX0_feed_0 16 rfl rfl)
theorem dX0_feed_17 : decode cX0_feed 17 = .ok (.ireturn, 1) := dk_172 (dk_at dksX0_feed_0 17 rfl rfl)
theorem dX0_feed_18 : decode cX0_feed 18 = .ok (.iconst 0, 1) := dk_3 (dk_at dksX0_feed_0 18 rfl rfl)
theorem dX0_feed_19 : decode cX0_feed 19 = .ok (.istore 6, 2) := dk_54 6 (dk_at dksX0_feed_0 19 rfl rfl)
theorem dX0_feed_21 : decode cX0_feed 21 = .ok (.iload 6, 2) := dk_21 6 (dk_at dksX0_feed_0 21 rfl rfl)
theorem dX0_feed_23 : decode cX0_feed 23 = .ok (.bipush 20, 2) := dk_16 20 (dk_at dksX0_feed_1 0 rfl rfl)
theorem dX0_feed_25 : decode cX0_feed 25 = .ok (.if_icmp .ge 99, 3) := dk_162 0 99 (dk_at dksX0_feed_1 2 rfl rfl)
theorem dX0_feed_28 : decode cX0_feed 28 = .ok (.iload 6, 2) := dk_21 6 (dk_at dksX0_feed_1 5 rfl rfl)
theorem dX0_feed_30 : decode cX0_feed 30 = .ok (.iconst 4, 1) := dk_7 (dk_at dksX0_feed_1 7 rfl rfl)
theorem dX0_feed_31 : decode cX0_feed 31 = .ok (.if_icmp .ge 7, 3) := dk_162 0 7 (dk_at dksX0_feed_1 8 rfl rfl)
theorem dX0_feed_34 : decode cX0_feed 34 = .ok (.iload_n 1, 1) := dk_27 (dk_at dksX0_feed_1 11 rfl rfl)
theorem dX0_feed_35 : decode cX0_feed 35 = .ok (.goto 39, 3) := dk_167 0 39 (dk_at dksX0_feed_1 12 rfl rfl)
theorem dX0_feed_38 : decode cX0_feed 38 = .ok (.iload 6, 2) := dk_21 6 (dk_at dksX0_feed_1 15 rfl rfl)
theorem dX0_feed_40 : decode cX0_feed 40 = .ok (.bipush 8, 2) := dk_16 8 (dk_at dksX0_feed_1 17 rfl rfl)
theorem dX0_feed_42 : decode cX0_feed 42 = .ok (.if_icmp .ge 7, 3) := dk_162 0 7 (dk_at dksX0_feed_1 19 rfl rfl)
theorem dX0_feed_45 : decode cX0_feed 45 = .ok (.iload_n 2, 1) := dk_28 (dk_at dksX0_feed_1 22 rfl rfl)
theorem dX0_feed_46 : decode cX0_feed 46 = .ok (.goto 28, 3) := dk_167 0 28 (dk_at dksX0_feed_2 0 rfl rfl)
theorem dX0_feed_49 : decode cX0_feed 49 = .ok (.iload 6, 2) := dk_21 6 (dk_at dksX0_feed_2 3 rfl rfl)
theorem dX0_feed_51 : decode cX0_feed 51 = .ok (.bipush 12, 2) := dk_16 12 (dk_at dksX0_feed_2 5 rfl rfl)
theorem dX0_feed_53 : decode cX0_feed 53 = .ok (.if_icmp .ge 7, 3) := dk_162 0 7 (dk_at dksX0_feed_2 7 rfl rfl)
theorem dX0_feed_56 : decode cX0_feed 56 = .ok (.iload_n 3, 1) := dk_29 (dk_at dksX0_feed_2 10 rfl rfl)
theorem dX0_feed_57 : decode cX0_feed 57 = .ok (.goto 17, 3) := dk_167 0 17 (dk_at dksX0_feed_2 11 rfl rfl)
theorem dX0_feed_60 : decode cX0_feed 60 = .ok (.iload 6, 2) := dk_21 6 (dk_at dksX0_feed_2 14 rfl rfl)
theorem dX0_feed_62 : decode cX0_feed 62 = .ok (.bipush 16, 2) := dk_16 16 (dk_at dksX0_feed_2 16 rfl rfl)
theorem dX0_feed_64 : decode cX0_feed 64 = .ok (.if_icmp .ge 8, 3) := dk_162 0 8 (dk_at dksX0_feed_2 18 rfl rfl)
theorem dX0_feed_67 : decode cX0_feed 67 = .ok (.iload 4, 2) := dk_21 4 (dk_at dksX0_feed_2 21 rfl rfl)
theorem dX0_feed_69 : decode cX0_feed 69 = .ok (.goto 5, 3) := dk_167 0 5 (dk_at dksX0_feed_3 0 rfl rfl)
theorem dX0_feed_72 : decode cX0_feed 72 = .ok (.iload 5, 2) := dk_21 5 (dk_at dksX0_feed_3 3 rfl rfl)
theorem dX0_feed_74 : decode cX0_feed 74 = .ok (.istore 7, 2) := dk_54 7 (dk_at dksX0_feed_3 5 rfl rfl)
theorem dX0_feed_76 : decode cX0_feed 76 = .ok (.aload_n 0, 1) := dk_42 (dk_at dksX0_feed_3 7 rfl rfl)
theorem dX0_feed_77 : decode cX0_feed 77 = .ok (.getfield 12, 3) := dk_180 0 12 (dk_at dksX0_feed_3 8 rfl rfl)
theorem dX0_feed_80 : decode cX0_feed 80 = .ok (.getfield 163, 3) := dk_180 0 163 (dk_at dksX0_feed_3 11 rfl rfl)
theorem dX0_feed_83 : decode cX0_feed 83 = .ok (.aload_n 0, 1) := dk_42 (dk_at dksX0_feed_3 14 rfl rfl)
theorem dX0_feed_84 : decode cX0_feed 84 = .ok (.getfield 12, 3) := dk_180 0 12 (dk_at dksX0_feed_3 15 rfl rfl)
theorem dX0_feed_87 : decode cX0_feed 87 = .ok (.getfield 160, 3) := dk_180 0 160 (dk_at dksX0_feed_3 18 rfl rfl)
theorem dX0_feed_90 : decode cX0_feed 90 = .ok (.iload 7, 2) := dk_21 7 (dk_at dksX0_feed_3 21 rfl rfl)
theorem dX0_feed_92 : decode cX0_feed 92 = .ok (.bipush 24, 2) := dk_16 24 (dk_at dksX0_feed_4 0 rfl rfl)
theorem dX0_feed_94 : decode cX0_feed 94 = .ok (.bipush 8, 2) := dk_16 8 (dk_at dksX0_feed_4 2 rfl rfl)
theorem dX0_feed_96 : decode cX0_feed 96 = .ok (.iload 6, 2) := dk_21 6 (dk_at dksX0_feed_4 4 rfl rfl)
theorem dX0_feed_98 : decode cX0_feed 98 = .ok (.iconst 3, 1) := dk_6 (dk_at dksX0_feed_4 6 rfl rfl)
theorem dX0_feed_99 : decode cX0_feed 99 = .ok (.iand, 1) := dk_126 (dk_at dksX0_feed_4 7 rfl rfl)
theorem dX0_feed_100 : decode cX0_feed 100 = .ok (.imul, 1) := dk_104 (dk_at dksX0_feed_4 8 rfl rfl)
theorem dX0_feed_101 : decode cX0_feed 101 = .ok (.isub, 1) := dk_100 (dk_at dksX0_feed_4 9 rfl rfl)
theorem dX0_feed_102 : decode cX0_feed 102 = .ok (.ishr, 1) := dk_122 (dk_at dksX0_feed_4 10 rfl rfl)
theorem dX0_feed_103 : decode cX0_feed 103 = .ok (.i2b, 1) := dk_145 (dk_at dksX0_feed_4 11 rfl rfl)
theorem dX0_feed_104 : decode cX0_feed 104 = .ok (.bastore, 1) := dk_84 (dk_at dksX0_feed_4 12 rfl rfl)
theorem dX0_feed_105 : decode cX0_feed 105 = .ok (.aload_n 0, 1) := dk_42 (dk_at dksX0_feed_4 13 rfl rfl)
theorem dX0_feed_106 : decode cX0_feed 106 = .ok (.getfield 12, 3) := dk_180 0 12 (dk_at dksX0_feed_4 14 rfl rfl)
theorem dX0_feed_109 : decode cX0_feed 109 = .ok (.dup, 1) := dk_89 (dk_at dksX0_feed_4 17 rfl rfl)
theorem dX0_feed_110 : decode cX0_feed 110 = .ok (.getfield 160, 3) := dk_180 0 160 (dk_at dksX0_feed_4 18 rfl rfl)
theorem dX0_feed_113 : decode cX0_feed 113 = .ok (.iconst 1, 1) := dk_4 (dk_at dksX0_feed_4 21 rfl rfl)
theorem dX0_feed_114 : decode cX0_feed 114 = .ok (.iadd, 1) := dk_96 (dk_at dksX0_feed_4 22 rfl rfl)
theorem dX0_feed_115 : decode cX0_feed 115 = .ok (.putfield 160, 3) := dk_181 0 160 (dk_at dksX0_feed_5 0 rfl rfl)
theorem dX0_feed_118 : decode cX0_feed 118 = .ok (.iinc 6 1, 3) := dk_132 6 1 (dk_at dksX0_feed_5 3 rfl rfl)
theorem dX0_feed_121 : decode cX0_feed 121 = .ok (.goto (-100), 3) := dk_167 255 156 (dk_at dksX0_feed_5 6 rfl rfl)
theorem dX0_feed_124 : decode cX0_feed 124 = .ok (.aload_n 0, 1) := dk_42 (dk_at dksX0_feed_5 9 rfl rfl)
theorem dX0_feed_125 : decode cX0_feed 125 = .ok (.getfield 12, 3) := dk_180 0 12 (dk_at dksX0_feed_5 10 rfl rfl)
theorem dX0_feed_128 : decode cX0_feed 128 = .ok (.getfield 160, 3) := dk_180 0 160 (dk_at dksX0_feed_5 13 rfl rfl)
theorem dX0_feed_131 : decode cX0_feed 131 = .ok (.ireturn, 1) := dk_172 (dk_at dksX0_feed_5 16 rfl rfl)
abbrev cX0_end : ByteArray := prog_1_method_16_code
def yX0_end : MethodName := ⟨RX0, "end", "(I)I"⟩
def dkwX0_end_1 : List UInt8 := [181, 0, 160, 27, 172]
abbrev dktX0_end_1 : List UInt8 := dkwX0_end_1 ++ []
def dkwX0_end_0 : List UInt8 := [27, 155, 0, 14, 27, 42, 180, 0, 12, 180, 0, 160, 164, 0, 5, 2, 172, 42, 180, 0, 12, 27]
abbrev dktX0_end_0 : List UInt8 := dkwX0_end_0 ++ dktX0_end_1
theorem dksX0_end_0 : cX0_end.data.toList.drop 0 = dktX0_end_0 := by decide +kernel
theorem dksX0_end_1 : cX0_end.data.toList.drop 22 = dktX0_end_1 := dk_seg dksX0_end_0 22 rfl rfl
theorem dX0_end_0 : decode cX0_end 0 = .ok (.iload_n 1, 1) := dk_27 (dk_at dksX0_end_0 0 rfl rfl)
theorem dX0_end_1 : decode cX0_end 1 = .ok (.ifCond .lt 14, 3) := dk_155 0 14 (dk_at dksX0_end_0 1 rfl rfl)
theorem dX0_end_4 : decode cX0_end 4 = .ok (.iload_n 1, 1) := dk_27 (dk_at dksX0_end_0 4 rfl rfl)
theorem dX0_end_5 : decode cX0_end 5 = .ok (.aload_n 0, 1) := dk_42 (dk_at dksX0_end_0 5 rfl rfl)
theorem dX0_end_6 : decode cX0_end 6 = .ok (.getfield 12, 3) := dk_180 0 12 (dk_at dksX0_end_0 6 rfl rfl)
theorem dX0_end_9 : decode cX0_end 9 = .ok (.getfield 160, 3) := dk_180 0 160 (dk_at dksX0_end_0 9 rfl rfl)
theorem dX0_end_12 : decode cX0_end 12 = .ok (.if_icmp .le 5, 3) := dk_164 0 5 (dk_at dksX0_end_0 12 rfl rfl)
theorem dX0_end_15 : decode cX0_end 15 = .ok (.iconst (-1), 1) := dk_2 (dk_at dksX0_end_0 15 rfl rfl)
theorem dX0_end_16 : decode cX0_end 16 = .ok (.ireturn, 1) := dk_172 (dk_at dksX0_end_0 16 rfl rfl)
theorem dX0_end_17 : decode cX0_end 17 = .ok (.aload_n 0, 1) := dk_42 (dk_at dksX0_end_0 17 rfl rfl)
theorem dX0_end_18 : decode cX0_end 18 = .ok (.getfield 12, 3) := dk_180 0 12 (dk_at dksX0_end_0 18 rfl rfl)
theorem dX0_end_21 : decode cX0_end 21 = .ok (.iload_n 1, 1) := dk_27 (dk_at dksX0_end_0 21 rfl rfl)
theorem dX0_end_22 : decode cX0_end 22 = .ok (.putfield 160, 3) := dk_181 0 160 (dk_at dksX0_end_1 0 rfl rfl)
theorem dX0_end_25 : decode cX0_end 25 = .ok (.iload_n 1, 1) := dk_27 (dk_at dksX0_end_1 3 rfl rfl)
theorem dX0_end_26 : decode cX0_end 26 = .ok (.ireturn, 1) := dk_172 (dk_at dksX0_end_1 4 rfl rfl)
abbrev cX0_story : ByteArray := prog_1_method_19_code
def yX0_story : MethodName := ⟨RX0, "story", "()I"⟩
def dkwX0_story_4 : List UInt8 := [44, 182, 0, 200, 172]
abbrev dktX0_story_4 : List UInt8 := dkwX0_story_4 ++ []
def dkwX0_story_3 : List UInt8 := [182, 0, 119, 87, 42, 3, 181, 0, 87, 42, 180, 0, 12, 180, 0, 183, 182, 0, 111, 4, 100, 172, 77, 42]
abbrev dktX0_story_3 : List UInt8 := dkwX0_story_3 ++ dktX0_story_4
def dkwX0_story_2 : List UInt8 := [182, 0, 95, 180, 0, 108, 183, 0, 190, 182, 0, 193, 42, 180, 0, 12, 180, 0, 154, 183, 0, 197]
abbrev dktX0_story_2 : List UInt8 := dkwX0_story_2 ++ dktX0_story_3
def dkwX0_story_1 : List UInt8 := [180, 0, 12, 180, 0, 183, 187, 0, 186, 89, 187, 0, 188, 89, 42, 180, 0, 12, 180, 0, 163, 27, 42]
abbrev dktX0_story_1 : List UInt8 := dkwX0_story_1 ++ dktX0_story_2
def dkwX0_story_0 : List UInt8 := [42, 182, 0, 180, 60, 42, 180, 0, 12, 180, 0, 183, 182, 0, 111, 16, 8, 160, 0, 6, 16, 254, 172, 42]
abbrev dktX0_story_0 : List UInt8 := dkwX0_story_0 ++ dktX0_story_1
theorem dksX0_story_0 : cX0_story.data.toList.drop 0 = dktX0_story_0 := by decide +kernel
theorem dksX0_story_1 : cX0_story.data.toList.drop 24 = dktX0_story_1 := dk_seg dksX0_story_0 24 rfl rfl
theorem dksX0_story_2 : cX0_story.data.toList.drop 47 = dktX0_story_2 := dk_seg dksX0_story_1 23 rfl rfl
theorem dksX0_story_3 : cX0_story.data.toList.drop 69 = dktX0_story_3 := dk_seg dksX0_story_2 22 rfl rfl
theorem dksX0_story_4 : cX0_story.data.toList.drop 93 = dktX0_story_4 := dk_seg dksX0_story_3 24 rfl rfl
theorem dX0_story_0 : decode cX0_story 0 = .ok (.aload_n 0, 1) := dk_42 (dk_at dksX0_story_0 0 rfl rfl)
theorem dX0_story_1 : decode cX0_story 1 = .ok (.invokevirtual 180, 3) := dk_182 0 180 (dk_at dksX0_story_0 1 rfl rfl)
theorem dX0_story_4 : decode cX0_story 4 = .ok (.istore_n 1, 1) := dk_60 (dk_at dksX0_story_0 4 rfl rfl)
theorem dX0_story_5 : decode cX0_story 5 = .ok (.aload_n 0, 1) := dk_42 (dk_at dksX0_story_0 5 rfl rfl)
theorem dX0_story_6 : decode cX0_story 6 = .ok (.getfield 12, 3) := dk_180 0 12 (dk_at dksX0_story_0 6 rfl rfl)
theorem dX0_story_9 : decode cX0_story 9 = .ok (.getfield 183, 3) := dk_180 0 183 (dk_at dksX0_story_0 9 rfl rfl)
theorem dX0_story_12 : decode cX0_story 12 = .ok (.invokevirtual 111, 3) := dk_182 0 111 (dk_at dksX0_story_0 12 rfl rfl)
theorem dX0_story_15 : decode cX0_story 15 = .ok (.bipush 8, 2) := dk_16 8 (dk_at dksX0_story_0 15 rfl rfl)
theorem dX0_story_17 : decode cX0_story 17 = .ok (.if_icmp .ne 6, 3) := dk_160 0 6 (dk_at dksX0_story_0 17 rfl rfl)
theorem dX0_story_20 : decode cX0_story 20 = .ok (.bipush (-2), 2) := dk_16 254 (dk_at dksX0_story_0 20 rfl rfl)
theorem dX0_story_22 : decode cX0_story 22 = .ok (.ireturn, 1) := dk_172 (dk_at dksX0_story_0 22 rfl rfl)
theorem dX0_story_23 : decode cX0_story 23 = .ok (.aload_n 0, 1) := dk_42 (dk_at dksX0_story_0 23 rfl rfl)
theorem dX0_story_24 : decode cX0_story 24 = .ok (.getfield 12, 3) := dk_180 0 12 (dk_at dksX0_story_1 0 rfl rfl)
theorem dX0_story_27 : decode cX0_story 27 = .ok (.getfield 183, 3) := dk_180 0 183 (dk_at dksX0_story_1 3 rfl rfl)
theorem dX0_story_30 : decode cX0_story 30 = .ok (.new 186, 3) := dk_187 0 186 (dk_at dksX0_story_1 6 rfl rfl)
theorem dX0_story_33 : decode cX0_story 33 = .ok (.dup, 1) := dk_89 (dk_at dksX0_story_1 9 rfl rfl)
theorem dX0_story_34 : decode cX0_story 34 = .ok (.new 188, 3) := dk_187 0 188 (dk_at dksX0_story_1 10 rfl rfl)
theorem dX0_story_37 : decode cX0_story 37 = .ok (.dup, 1) := dk_89 (dk_at dksX0_story_1 13 rfl rfl)
theorem dX0_story_38 : decode cX0_story 38 = .ok (.aload_n 0, 1) := dk_42 (dk_at dksX0_story_1 14 rfl rfl)
theorem dX0_story_39 : decode cX0_story 39 = .ok (.getfield 12, 3) := dk_180 0 12 (dk_at dksX0_story_1 15 rfl rfl)
theorem dX0_story_42 : decode cX0_story 42 = .ok (.getfield 163, 3) := dk_180 0 163 (dk_at dksX0_story_1 18 rfl rfl)
theorem dX0_story_45 : decode cX0_story 45 = .ok (.iload_n 1, 1) := dk_27 (dk_at dksX0_story_1 21 rfl rfl)
theorem dX0_story_46 : decode cX0_story 46 = .ok (.aload_n 0, 1) := dk_42 (dk_at dksX0_story_1 22 rfl rfl)
theorem dX0_story_47 : decode cX0_story 47 = .ok (.invokevirtual 95, 3) := dk_182 0 95 (dk_at dksX0_story_2 0 rfl rfl)
theorem dX0_story_50 : decode cX0_story 50 = .ok (.getfield 108, 3) := dk_180 0 108 (dk_at dksX0_story_2 3 rfl rfl)
theorem dX0_story_53 : decode cX0_story 53 = .ok (.invokespecial 190, 3) := dk_183 0 190 (dk_at dksX0_story_2 6 rfl rfl)
theorem dX0_story_56 : decode cX0_story 56 = .ok (.invokevirtual 193, 3) := dk_182 0 193 (dk_at dksX0_story_2 9 rfl rfl)
theorem dX0_story_59 : decode cX0_story 59 = .ok (.aload_n 0, 1) := dk_42 (dk_at dksX0_story_2 12 rfl rfl)
theorem dX0_story_60 : decode cX0_story 60 = .ok (.getfield 12, 3) := dk_180 0 12 (dk_at dksX0_story_2 13 rfl rfl)
theorem dX0_story_63 : decode cX0_story 63 = .ok (.getfield 154, 3) := dk_180 0 154 (dk_at dksX0_story_2 16 rfl rfl)
theorem dX0_story_66 : decode cX0_story 66 = .ok (.invokespecial 197, 3) := dk_183 0 197 (dk_at dksX0_story_2 19 rfl rfl)
theorem dX0_story_69 : decode cX0_story 69 = .ok (.invokevirtual 119, 3) := dk_182 0 119 (dk_at dksX0_story_3 0 rfl rfl)
theorem dX0_story_72 : decode cX0_story 72 = .ok (.pop, 1) := dk_87 (dk_at dksX0_story_3 3 rfl rfl)
theorem dX0_story_73 : decode cX0_story 73 = .ok (.aload_n 0, 1) := dk_42 (dk_at dksX0_story_3 4 rfl rfl)
theorem dX0_story_74 : decode cX0_story 74 = .ok (.iconst 0, 1) := dk_3 (dk_at dksX0_story_3 5 rfl rfl)
theorem dX0_story_75 : decode cX0_story 75 = .ok (.putfield 87, 3) := dk_181 0 87 (dk_at dksX0_story_3 6 rfl rfl)
theorem dX0_story_78 : decode cX0_story 78 = .ok (.aload_n 0, 1) := dk_42 (dk_at dksX0_story_3 9 rfl rfl)
theorem dX0_story_79 : decode cX0_story 79 = .ok (.getfield 12, 3) := dk_180 0 12 (dk_at dksX0_story_3 10 rfl rfl)
theorem dX0_story_82 : decode cX0_story 82 = .ok (.getfield 183, 3) := dk_180 0 183 (dk_at dksX0_story_3 13 rfl rfl)
theorem dX0_story_85 : decode cX0_story 85 = .ok (.invokevirtual 111, 3) := dk_182 0 111 (dk_at dksX0_story_3 16 rfl rfl)
theorem dX0_story_88 : decode cX0_story 88 = .ok (.iconst 1, 1) := dk_4 (dk_at dksX0_story_3 19 rfl rfl)
theorem dX0_story_89 : decode cX0_story 89 = .ok (.isub, 1) := dk_100 (dk_at dksX0_story_3 20 rfl rfl)
theorem dX0_story_90 : decode cX0_story 90 = .ok (.ireturn, 1) := dk_172 (dk_at dksX0_story_3 21 rfl rfl)
theorem dX0_story_91 : decode cX0_story 91 = .ok (.astore_n 2, 1) := dk_77 (dk_at dksX0_story_3 22 rfl rfl)
theorem dX0_story_92 : decode cX0_story 92 = .ok (.aload_n 0, 1) := dk_42 (dk_at dksX0_story_3 23 rfl rfl)
theorem dX0_story_93 : decode cX0_story 93 = .ok (.aload_n 2, 1) := dk_44 (dk_at dksX0_story_4 0 rfl rfl)
theorem dX0_story_94 : decode cX0_story 94 = .ok (.invokevirtual 200, 3) := dk_182 0 200 (dk_at dksX0_story_4 1 rfl rfl)
theorem dX0_story_97 : decode cX0_story 97 = .ok (.ireturn, 1) := dk_172 (dk_at dksX0_story_4 4 rfl rfl)
abbrev cX0_begins : ByteArray := prog_1_method_17_code
def yX0_begins : MethodName := ⟨RX0, "begins", "()I"⟩
def dkwX0_begins_1 : List UInt8 := [42, 180, 0, 12, 2, 181, 0, 169, 27, 172]
abbrev dktX0_begins_1 : List UInt8 := dkwX0_begins_1 ++ []
def dkwX0_begins_0 : List UInt8 := [42, 180, 0, 12, 180, 0, 160, 60, 42, 180, 0, 12, 3, 181, 0, 160, 42, 180, 0, 12, 3, 181, 0, 166]
abbrev dktX0_begins_0 : List UInt8 := dkwX0_begins_0 ++ dktX0_begins_1
theorem dksX0_begins_0 : cX0_begins.data.toList.drop 0 = dktX0_begins_0 := by decide +kernel
theorem dksX0_begins_1 : cX0_begins.data.toList.drop 24 = dktX0_begins_1 := dk_seg dksX0_begins_0 24 rfl rfl
theorem dX0_begins_0 : decode cX0_begins 0 = .ok (.aload_n 0, 1) := dk_42 (dk_at dksX0_begins_0 0 rfl rfl)
theorem dX0_begins_1 : decode cX0_begins 1 = .ok (.getfield 12, 3) := dk_180 0 12 (dk_at dksX0_begins_0 1 rfl rfl)
theorem dX0_begins_4 : decode cX0_begins 4 = .ok (.getfield 160, 3) := dk_180 0 160 (dk_at dksX0_begins_0 4 rfl rfl)
theorem dX0_begins_7 : decode cX0_begins 7 = .ok (.istore_n 1, 1) := dk_60 (dk_at dksX0_begins_0 7 rfl rfl)
theorem dX0_begins_8 : decode cX0_begins 8 = .ok (.aload_n 0, 1) := dk_42 (dk_at dksX0_begins_0 8 rfl rfl)
theorem dX0_begins_9 : decode cX0_begins 9 = .ok (.getfield 12, 3) := dk_180 0 12 (dk_at dksX0_begins_0 9 rfl rfl)
theorem dX0_begins_12 : decode cX0_begins 12 = .ok (.iconst 0, 1) := dk_3 (dk_at dksX0_begins_0 12 rfl rfl)
theorem dX0_begins_13 : decode cX0_begins 13 = .ok (.putfield 160, 3) := dk_181 0 160 (dk_at dksX0_begins_0 13 rfl rfl)
theorem dX0_begins_16 : decode cX0_begins 16 = .ok (.aload_n 0, 1) := dk_42 (dk_at dksX0_begins_0 16 rfl rfl)
theorem dX0_begins_17 : decode cX0_begins 17 = .ok (.getfield 12, 3) := dk_180 0 12 (dk_at dksX0_begins_0 17 rfl rfl)
theorem dX0_begins_20 : decode cX0_begins 20 = .ok (.iconst 0, 1) := dk_3 (dk_at dksX0_begins_0 20 rfl rfl)
theorem dX0_begins_21 : decode cX0_begins 21 = .ok (.putfield 166, 3) := dk_181 0 166 (dk_at dksX0_begins_0 21 rfl rfl)
theorem dX0_begins_24 : decode cX0_begins 24 = .ok (.aload_n 0, 1) := dk_42 (dk_at dksX0_begins_1 0 rfl rfl)
theorem dX0_begins_25 : decode cX0_begins 25 = .ok (.getfield 12, 3) := dk_180 0 12 (dk_at dksX0_begins_1 1 rfl rfl)
theorem dX0_begins_28 : decode cX0_begins 28 = .ok (.iconst (-1), 1) := dk_2 (dk_at dksX0_begins_1 4 rfl rfl)
theorem dX0_begins_29 : decode cX0_begins 29 = .ok (.putfield 169, 3) := dk_181 0 169 (dk_at dksX0_begins_1 5 rfl rfl)
theorem dX0_begins_32 : decode cX0_begins 32 = .ok (.iload_n 1, 1) := dk_27 (dk_at dksX0_begins_1 8 rfl rfl)
theorem dX0_begins_33 : decode cX0_begins 33 = .ok (.ireturn, 1) := dk_172 (dk_at dksX0_begins_1 9 rfl rfl)
abbrev cX0_fails : ByteArray := prog_1_method_18_code
def yX0_fails : MethodName := ⟨RX0, "fails", "(LVillageStories$Fault;)I"⟩
def dkwX0_fails_0 : List UInt8 := [42, 180, 0, 12, 43, 180, 0, 172, 181, 0, 166, 42, 180, 0, 12, 43, 180, 0, 177, 181, 0, 169, 2, 172]
abbrev dktX0_fails_0 : List UInt8 := dkwX0_fails_0 ++ []
theorem dksX0_fails_0 : cX0_fails.data.toList.drop 0 = dktX0_fails_0 := by decide +kernel
theorem dX0_fails_0 : decode cX0_fails 0 = .ok (.aload_n 0, 1) := dk_42 (dk_at dksX0_fails_0 0 rfl rfl)
theorem dX0_fails_1 : decode cX0_fails 1 = .ok (.getfield 12, 3) := dk_180 0 12 (dk_at dksX0_fails_0 1 rfl rfl)
theorem dX0_fails_4 : decode cX0_fails 4 = .ok (.aload_n 1, 1) := dk_43 (dk_at dksX0_fails_0 4 rfl rfl)
theorem dX0_fails_5 : decode cX0_fails 5 = .ok (.getfield 172, 3) := dk_180 0 172 (dk_at dksX0_fails_0 5 rfl rfl)
theorem dX0_fails_8 : decode cX0_fails 8 = .ok (.putfield 166, 3) := dk_181 0 166 (dk_at dksX0_fails_0 8 rfl rfl)
theorem dX0_fails_11 : decode cX0_fails 11 = .ok (.aload_n 0, 1) := dk_42 (dk_at dksX0_fails_0 11 rfl rfl)
theorem dX0_fails_12 : decode cX0_fails 12 = .ok (.getfield 12, 3) := dk_180 0 12 (dk_at dksX0_fails_0 12 rfl rfl)
theorem dX0_fails_15 : decode cX0_fails 15 = .ok (.aload_n 1, 1) := dk_43 (dk_at dksX0_fails_0 15 rfl rfl)
theorem dX0_fails_16 : decode cX0_fails 16 = .ok (.getfield 177, 3) := dk_180 0 177 (dk_at dksX0_fails_0 16 rfl rfl)
theorem dX0_fails_19 : decode cX0_fails 19 = .ok (.putfield 169, 3) := dk_181 0 169 (dk_at dksX0_fails_0 19 rfl rfl)
theorem dX0_fails_22 : decode cX0_fails 22 = .ok (.iconst (-1), 1) := dk_2 (dk_at dksX0_fails_0 22 rfl rfl)
theorem dX0_fails_23 : decode cX0_fails 23 = .ok (.ireturn, 1) := dk_172 (dk_at dksX0_fails_0 23 rfl rfl)
abbrev cX0_guess : ByteArray := prog_1_method_20_code
def yX0_guess : MethodName := ⟨RX0, "guess", "()I"⟩
def dkwX0_guess_2 : List UInt8 := [181, 0, 211, 44, 180, 0, 208, 172, 77, 42, 44, 182, 0, 200, 172]
abbrev dktX0_guess_2 : List UInt8 := dkwX0_guess_2 ++ []
def dkwX0_guess_1 : List UInt8 := [183, 0, 190, 77, 42, 180, 0, 12, 44, 182, 0, 193, 181, 0, 204, 42, 180, 0, 12, 44, 180, 0, 208]
abbrev dktX0_guess_1 : List UInt8 := dkwX0_guess_1 ++ dktX0_guess_2
def dkwX0_guess_0 : List UInt8 := [42, 182, 0, 180, 60, 187, 0, 188, 89, 42, 180, 0, 12, 180, 0, 163, 27, 42, 182, 0, 95, 180, 0, 108]
abbrev dktX0_guess_0 : List UInt8 := dkwX0_guess_0 ++ dktX0_guess_1
theorem dksX0_guess_0 : cX0_guess.data.toList.drop 0 = dktX0_guess_0 := by decide +kernel
theorem dksX0_guess_1 : cX0_guess.data.toList.drop 24 = dktX0_guess_1 := dk_seg dksX0_guess_0 24 rfl rfl
theorem dksX0_guess_2 : cX0_guess.data.toList.drop 47 = dktX0_guess_2 := dk_seg dksX0_guess_1 23 rfl rfl
theorem dX0_guess_0 : decode cX0_guess 0 = .ok (.aload_n 0, 1) := dk_42 (dk_at dksX0_guess_0 0 rfl rfl)
theorem dX0_guess_1 : decode cX0_guess 1 = .ok (.invokevirtual 180, 3) := dk_182 0 180 (dk_at dksX0_guess_0 1 rfl rfl)
theorem dX0_guess_4 : decode cX0_guess 4 = .ok (.istore_n 1, 1) := dk_60 (dk_at dksX0_guess_0 4 rfl rfl)
theorem dX0_guess_5 : decode cX0_guess 5 = .ok (.new 188, 3) := dk_187 0 188 (dk_at dksX0_guess_0 5 rfl rfl)
theorem dX0_guess_8 : decode cX0_guess 8 = .ok (.dup, 1) := dk_89 (dk_at dksX0_guess_0 8 rfl rfl)
theorem dX0_guess_9 : decode cX0_guess 9 = .ok (.aload_n 0, 1) := dk_42 (dk_at dksX0_guess_0 9 rfl rfl)
theorem dX0_guess_10 : decode cX0_guess 10 = .ok (.getfield 12, 3) := dk_180 0 12 (dk_at dksX0_guess_0 10 rfl rfl)
theorem dX0_guess_13 : decode cX0_guess 13 = .ok (.getfield 163, 3) := dk_180 0 163 (dk_at dksX0_guess_0 13 rfl rfl)
theorem dX0_guess_16 : decode cX0_guess 16 = .ok (.iload_n 1, 1) := dk_27 (dk_at dksX0_guess_0 16 rfl rfl)
theorem dX0_guess_17 : decode cX0_guess 17 = .ok (.aload_n 0, 1) := dk_42 (dk_at dksX0_guess_0 17 rfl rfl)
theorem dX0_guess_18 : decode cX0_guess 18 = .ok (.invokevirtual 95, 3) := dk_182 0 95 (dk_at dksX0_guess_0 18 rfl rfl)
theorem dX0_guess_21 : decode cX0_guess 21 = .ok (.getfield 108, 3) := dk_180 0 108 (dk_at dksX0_guess_0 21 rfl rfl)
theorem dX0_guess_24 : decode cX0_guess 24 = .ok (.invokespecial 190, 3) := dk_183 0 190 (dk_at dksX0_guess_1 0 rfl rfl)
theorem dX0_guess_27 : decode cX0_guess 27 = .ok (.astore_n 2, 1) := dk_77 (dk_at dksX0_guess_1 3 rfl rfl)
theorem dX0_guess_28 : decode cX0_guess 28 = .ok (.aload_n 0, 1) := dk_42 (dk_at dksX0_guess_1 4 rfl rfl)
theorem dX0_guess_29 : decode cX0_guess 29 = .ok (.getfield 12, 3) := dk_180 0 12 (dk_at dksX0_guess_1 5 rfl rfl)
theorem dX0_guess_32 : decode cX0_guess 32 = .ok (.aload_n 2, 1) := dk_44 (dk_at dksX0_guess_1 8 rfl rfl)
theorem dX0_guess_33 : decode cX0_guess 33 = .ok (.invokevirtual 193, 3) := dk_182 0 193 (dk_at dksX0_guess_1 9 rfl rfl)
theorem dX0_guess_36 : decode cX0_guess 36 = .ok (.putfield 204, 3) := dk_181 0 204 (dk_at dksX0_guess_1 12 rfl rfl)
theorem dX0_guess_39 : decode cX0_guess 39 = .ok (.aload_n 0, 1) := dk_42 (dk_at dksX0_guess_1 15 rfl rfl)
theorem dX0_guess_40 : decode cX0_guess 40 = .ok (.getfield 12, 3) := dk_180 0 12 (dk_at dksX0_guess_1 16 rfl rfl)
theorem dX0_guess_43 : decode cX0_guess 43 = .ok (.aload_n 2, 1) := dk_44 (dk_at dksX0_guess_1 19 rfl rfl)
theorem dX0_guess_44 : decode cX0_guess 44 = .ok (.getfield 208, 3) := dk_180 0 208 (dk_at dksX0_guess_1 20 rfl rfl)
theorem dX0_guess_47 : decode cX0_guess 47 = .ok (.putfield 211, 3) := dk_181 0 211 (dk_at dksX0_guess_2 0 rfl rfl)
theorem dX0_guess_50 : decode cX0_guess 50 = .ok (.aload_n 2, 1) := dk_44 (dk_at dksX0_guess_2 3 rfl rfl)
theorem dX0_guess_51 : decode cX0_guess 51 = .ok (.getfield 208, 3) := dk_180 0 208 (dk_at dksX0_guess_2 4 rfl rfl)
theorem dX0_guess_54 : decode cX0_guess 54 = .ok (.ireturn, 1) := dk_172 (dk_at dksX0_guess_2 7 rfl rfl)
theorem dX0_guess_55 : decode cX0_guess 55 = .ok (.astore_n 2, 1) := dk_77 (dk_at dksX0_guess_2 8 rfl rfl)
theorem dX0_guess_56 : decode cX0_guess 56 = .ok (.aload_n 0, 1) := dk_42 (dk_at dksX0_guess_2 9 rfl rfl)
theorem dX0_guess_57 : decode cX0_guess 57 = .ok (.aload_n 2, 1) := dk_44 (dk_at dksX0_guess_2 10 rfl rfl)
theorem dX0_guess_58 : decode cX0_guess 58 = .ok (.invokevirtual 200, 3) := dk_182 0 200 (dk_at dksX0_guess_2 11 rfl rfl)
theorem dX0_guess_61 : decode cX0_guess 61 = .ok (.ireturn, 1) := dk_172 (dk_at dksX0_guess_2 14 rfl rfl)
abbrev cX0_fault : ByteArray := prog_1_method_21_code
def yX0_fault : MethodName := ⟨RX0, "fault", "(I)I"⟩
def dkwX0_fault_1 : List UInt8 := [180, 0, 169, 167, 0, 4, 2, 172]
abbrev dktX0_fault_1 : List UInt8 := dkwX0_fault_1 ++ []
def dkwX0_fault_0 : List UInt8 := [27, 154, 0, 13, 42, 180, 0, 12, 180, 0, 166, 167, 0, 19, 27, 4, 160, 0, 13, 42, 180, 0, 12]
abbrev dktX0_fault_0 : List UInt8 := dkwX0_fault_0 ++ dktX0_fault_1
theorem dksX0_fault_0 : cX0_fault.data.toList.drop 0 = dktX0_fault_0 := by decide +kernel
theorem dksX0_fault_1 : cX0_fault.data.toList.drop 23 = dktX0_fault_1 := dk_seg dksX0_fault_0 23 rfl rfl
theorem dX0_fault_0 : decode cX0_fault 0 = .ok (.iload_n 1, 1) := dk_27 (dk_at dksX0_fault_0 0 rfl rfl)
theorem dX0_fault_1 : decode cX0_fault 1 = .ok (.ifCond .ne 13, 3) := dk_154 0 13 (dk_at dksX0_fault_0 1 rfl rfl)
theorem dX0_fault_4 : decode cX0_fault 4 = .ok (.aload_n 0, 1) := dk_42 (dk_at dksX0_fault_0 4 rfl rfl)
theorem dX0_fault_5 : decode cX0_fault 5 = .ok (.getfield 12, 3) := dk_180 0 12 (dk_at dksX0_fault_0 5 rfl rfl)
theorem dX0_fault_8 : decode cX0_fault 8 = .ok (.getfield 166, 3) := dk_180 0 166 (dk_at dksX0_fault_0 8 rfl rfl)
theorem dX0_fault_11 : decode cX0_fault 11 = .ok (.goto 19, 3) := dk_167 0 19 (dk_at dksX0_fault_0 11 rfl rfl)
theorem dX0_fault_14 : decode cX0_fault 14 = .ok (.iload_n 1, 1) := dk_27 (dk_at dksX0_fault_0 14 rfl rfl)
theorem dX0_fault_15 : decode cX0_fault 15 = .ok (.iconst 1, 1) := dk_4 (dk_at dksX0_fault_0 15 rfl rfl)
theorem dX0_fault_16 : decode cX0_fault 16 = .ok (.if_icmp .ne 13, 3) := dk_160 0 13 (dk_at dksX0_fault_0 16 rfl rfl)
theorem dX0_fault_19 : decode cX0_fault 19 = .ok (.aload_n 0, 1) := dk_42 (dk_at dksX0_fault_0 19 rfl rfl)
theorem dX0_fault_20 : decode cX0_fault 20 = .ok (.getfield 12, 3) := dk_180 0 12 (dk_at dksX0_fault_0 20 rfl rfl)
theorem dX0_fault_23 : decode cX0_fault 23 = .ok (.getfield 169, 3) := dk_180 0 169 (dk_at dksX0_fault_1 0 rfl rfl)
theorem dX0_fault_26 : decode cX0_fault 26 = .ok (.goto 4, 3) := dk_167 0 4 (dk_at dksX0_fault_1 3 rfl rfl)
theorem dX0_fault_29 : decode cX0_fault 29 = .ok (.iconst (-1), 1) := dk_2 (dk_at dksX0_fault_1 6 rfl rfl)
theorem dX0_fault_30 : decode cX0_fault 30 = .ok (.ireturn, 1) := dk_172 (dk_at dksX0_fault_1 7 rfl rfl)
abbrev cX0_strike : ByteArray := prog_1_method_24_code
def yX0_strike : MethodName := ⟨RX0, "strike", "(I)Z"⟩
def dkwX0_strike_1 : List UInt8 := [182, 0, 217, 42, 180, 0, 12, 180, 0, 154, 181, 0, 221, 4, 172]
abbrev dktX0_strike_1 : List UInt8 := dkwX0_strike_1 ++ []
def dkwX0_strike_0 : List UInt8 := [42, 27, 182, 0, 214, 153, 0, 15, 42, 27, 182, 0, 217, 180, 0, 221, 2, 159, 0, 5, 3, 172, 42, 27]
abbrev dktX0_strike_0 : List UInt8 := dkwX0_strike_0 ++ dktX0_strike_1
theorem dksX0_strike_0 : cX0_strike.data.toList.drop 0 = dktX0_strike_0 := by decide +kernel
theorem dksX0_strike_1 : cX0_strike.data.toList.drop 24 = dktX0_strike_1 := dk_seg dksX0_strike_0 24 rfl rfl
theorem dX0_strike_0 : decode cX0_strike 0 = .ok (.aload_n 0, 1) := dk_42 (dk_at dksX0_strike_0 0 rfl rfl)
theorem dX0_strike_1 : decode cX0_strike 1 = .ok (.iload_n 1, 1) := dk_27 (dk_at dksX0_strike_0 1 rfl rfl)
theorem dX0_strike_2 : decode cX0_strike 2 = .ok (.invokevirtual 214, 3) := dk_182 0 214 (dk_at dksX0_strike_0 2 rfl rfl)
theorem dX0_strike_5 : decode cX0_strike 5 = .ok (.ifCond .eq 15, 3) := dk_153 0 15 (dk_at dksX0_strike_0 5 rfl rfl)
theorem dX0_strike_8 : decode cX0_strike 8 = .ok (.aload_n 0, 1) := dk_42 (dk_at dksX0_strike_0 8 rfl rfl)
theorem dX0_strike_9 : decode cX0_strike 9 = .ok (.iload_n 1, 1) := dk_27 (dk_at dksX0_strike_0 9 rfl rfl)
theorem dX0_strike_10 : decode cX0_strike 10 = .ok (.invokevirtual 217, 3) := dk_182 0 217 (dk_at dksX0_strike_0 10 rfl rfl)
theorem dX0_strike_13 : decode cX0_strike 13 = .ok (.getfield 221, 3) := dk_180 0 221 (dk_at dksX0_strike_0 13 rfl rfl)
theorem dX0_strike_16 : decode cX0_strike 16 = .ok (.iconst (-1), 1) := dk_2 (dk_at dksX0_strike_0 16 rfl rfl)
theorem dX0_strike_17 : decode cX0_strike 17 = .ok (.if_icmp .eq 5, 3) := dk_159 0 5 (dk_at dksX0_strike_0 17 rfl rfl)
theorem dX0_strike_20 : decode cX0_strike 20 = .ok (.iconst 0, 1) := dk_3 (dk_at dksX0_strike_0 20 rfl rfl)
theorem dX0_strike_21 : decode cX0_strike 21 = .ok (.ireturn, 1) := dk_172 (dk_at dksX0_strike_0 21 rfl rfl)
theorem dX0_strike_22 : decode cX0_strike 22 = .ok (.aload_n 0, 1) := dk_42 (dk_at dksX0_strike_0 22 rfl rfl)
theorem dX0_strike_23 : decode cX0_strike 23 = .ok (.iload_n 1, 1) := dk_27 (dk_at dksX0_strike_0 23 rfl rfl)
theorem dX0_strike_24 : decode cX0_strike 24 = .ok (.invokevirtual 217, 3) := dk_182 0 217 (dk_at dksX0_strike_1 0 rfl rfl)
theorem dX0_strike_27 : decode cX0_strike 27 = .ok (.aload_n 0, 1) := dk_42 (dk_at dksX0_strike_1 3 rfl rfl)
theorem dX0_strike_28 : decode cX0_strike 28 = .ok (.getfield 12, 3) := dk_180 0 12 (dk_at dksX0_strike_1 4 rfl rfl)
theorem dX0_strike_31 : decode cX0_strike 31 = .ok (.getfield 154, 3) := dk_180 0 154 (dk_at dksX0_strike_1 7 rfl rfl)
theorem dX0_strike_34 : decode cX0_strike 34 = .ok (.putfield 221, 3) := dk_181 0 221 (dk_at dksX0_strike_1 10 rfl rfl)
theorem dX0_strike_37 : decode cX0_strike 37 = .ok (.iconst 1, 1) := dk_4 (dk_at dksX0_strike_1 13 rfl rfl)
theorem dX0_strike_38 : decode cX0_strike 38 = .ok (.ireturn, 1) := dk_172 (dk_at dksX0_strike_1 14 rfl rfl)
abbrev cX0_isStory : ByteArray := prog_1_method_22_code
def yX0_isStory : MethodName := ⟨RX0, "isStory", "(I)Z"⟩
def dkwX0_isStory_0 : List UInt8 := [27, 3, 42, 180, 0, 12, 180, 0, 183, 182, 0, 111, 4, 100, 184, 0, 75, 172]
abbrev dktX0_isStory_0 : List UInt8 := dkwX0_isStory_0 ++ []
theorem dksX0_isStory_0 : cX0_isStory.data.toList.drop 0 = dktX0_isStory_0 := by decide +kernel
theorem dX0_isStory_0 : decode cX0_isStory 0 = .ok (.iload_n 1, 1) := dk_27 (dk_at dksX0_isStory_0 0 rfl rfl)
theorem dX0_isStory_1 : decode cX0_isStory 1 = .ok (.iconst 0, 1) := dk_3 (dk_at dksX0_isStory_0 1 rfl rfl)
theorem dX0_isStory_2 : decode cX0_isStory 2 = .ok (.aload_n 0, 1) := dk_42 (dk_at dksX0_isStory_0 2 rfl rfl)
theorem dX0_isStory_3 : decode cX0_isStory 3 = .ok (.getfield 12, 3) := dk_180 0 12 (dk_at dksX0_isStory_0 3 rfl rfl)
theorem dX0_isStory_6 : decode cX0_isStory 6 = .ok (.getfield 183, 3) := dk_180 0 183 (dk_at dksX0_isStory_0 6 rfl rfl)
theorem dX0_isStory_9 : decode cX0_isStory 9 = .ok (.invokevirtual 111, 3) := dk_182 0 111 (dk_at dksX0_isStory_0 9 rfl rfl)
theorem dX0_isStory_12 : decode cX0_isStory 12 = .ok (.iconst 1, 1) := dk_4 (dk_at dksX0_isStory_0 12 rfl rfl)
theorem dX0_isStory_13 : decode cX0_isStory 13 = .ok (.isub, 1) := dk_100 (dk_at dksX0_isStory_0 13 rfl rfl)
theorem dX0_isStory_14 : decode cX0_isStory 14 = .ok (.invokestatic 75, 3) := dk_184 0 75 (dk_at dksX0_isStory_0 14 rfl rfl)
theorem dX0_isStory_17 : decode cX0_isStory 17 = .ok (.ireturn, 1) := dk_172 (dk_at dksX0_isStory_0 17 rfl rfl)
abbrev cX0_story_2 : ByteArray := prog_1_method_23_code
def yX0_story_2 : MethodName := ⟨RX0, "story", "(I)LVillageStories$Story;"⟩
def dkwX0_story_2_0 : List UInt8 := [42, 180, 0, 12, 180, 0, 183, 27, 182, 0, 144, 192, 0, 186, 176]
abbrev dktX0_story_2_0 : List UInt8 := dkwX0_story_2_0 ++ []
theorem dksX0_story_2_0 : cX0_story_2.data.toList.drop 0 = dktX0_story_2_0 := by decide +kernel
theorem dX0_story_2_0 : decode cX0_story_2 0 = .ok (.aload_n 0, 1) := dk_42 (dk_at dksX0_story_2_0 0 rfl rfl)
theorem dX0_story_2_1 : decode cX0_story_2 1 = .ok (.getfield 12, 3) := dk_180 0 12 (dk_at dksX0_story_2_0 1 rfl rfl)
theorem dX0_story_2_4 : decode cX0_story_2 4 = .ok (.getfield 183, 3) := dk_180 0 183 (dk_at dksX0_story_2_0 4 rfl rfl)
theorem dX0_story_2_7 : decode cX0_story_2 7 = .ok (.iload_n 1, 1) := dk_27 (dk_at dksX0_story_2_0 7 rfl rfl)
theorem dX0_story_2_8 : decode cX0_story_2 8 = .ok (.invokevirtual 144, 3) := dk_182 0 144 (dk_at dksX0_story_2_0 8 rfl rfl)
theorem dX0_story_2_11 : decode cX0_story_2 11 = .ok (.checkcast 186, 3) := dk_192 0 186 (dk_at dksX0_story_2_0 11 rfl rfl)
theorem dX0_story_2_14 : decode cX0_story_2 14 = .ok (.areturn, 1) := dk_176 (dk_at dksX0_story_2_0 14 rfl rfl)
abbrev cX0_day : ByteArray := prog_1_method_25_code
def yX0_day : MethodName := ⟨RX0, "day", "(I)Z"⟩
def dkwX0_day_1 : List UInt8 := [181, 0, 154, 4, 172]
abbrev dktX0_day_1 : List UInt8 := dkwX0_day_1 ++ []
def dkwX0_day_0 : List UInt8 := [27, 42, 180, 0, 12, 180, 0, 154, 17, 3, 231, 184, 0, 75, 154, 0, 5, 3, 172, 42, 180, 0, 12, 27]
abbrev dktX0_day_0 : List UInt8 := dkwX0_day_0 ++ dktX0_day_1
theorem dksX0_day_0 : cX0_day.data.toList.drop 0 = dktX0_day_0 := by decide +kernel
theorem dksX0_day_1 : cX0_day.data.toList.drop 24 = dktX0_day_1 := dk_seg dksX0_day_0 24 rfl rfl
theorem dX0_day_0 : decode cX0_day 0 = .ok (.iload_n 1, 1) := dk_27 (dk_at dksX0_day_0 0 rfl rfl)
theorem dX0_day_1 : decode cX0_day 1 = .ok (.aload_n 0, 1) := dk_42 (dk_at dksX0_day_0 1 rfl rfl)
theorem dX0_day_2 : decode cX0_day 2 = .ok (.getfield 12, 3) := dk_180 0 12 (dk_at dksX0_day_0 2 rfl rfl)
theorem dX0_day_5 : decode cX0_day 5 = .ok (.getfield 154, 3) := dk_180 0 154 (dk_at dksX0_day_0 5 rfl rfl)
theorem dX0_day_8 : decode cX0_day 8 = .ok (.sipush 999, 3) := dk_17 3 231 (dk_at dksX0_day_0 8 rfl rfl)
theorem dX0_day_11 : decode cX0_day 11 = .ok (.invokestatic 75, 3) := dk_184 0 75 (dk_at dksX0_day_0 11 rfl rfl)
theorem dX0_day_14 : decode cX0_day 14 = .ok (.ifCond .ne 5, 3) := dk_154 0 5 (dk_at dksX0_day_0 14 rfl rfl)
theorem dX0_day_17 : decode cX0_day 17 = .ok (.iconst 0, 1) := dk_3 (dk_at dksX0_day_0 17 rfl rfl)
theorem dX0_day_18 : decode cX0_day 18 = .ok (.ireturn, 1) := dk_172 (dk_at dksX0_day_0 18 rfl rfl)
theorem dX0_day_19 : decode cX0_day 19 = .ok (.aload_n 0, 1) := dk_42 (dk_at dksX0_day_0 19 rfl rfl)
theorem dX0_day_20 : decode cX0_day 20 = .ok (.getfield 12, 3) := dk_180 0 12 (dk_at dksX0_day_0 20 rfl rfl)
theorem dX0_day_23 : decode cX0_day 23 = .ok (.iload_n 1, 1) := dk_27 (dk_at dksX0_day_0 23 rfl rfl)
theorem dX0_day_24 : decode cX0_day 24 = .ok (.putfield 154, 3) := dk_181 0 154 (dk_at dksX0_day_1 0 rfl rfl)
theorem dX0_day_27 : decode cX0_day 27 = .ok (.iconst 1, 1) := dk_4 (dk_at dksX0_day_1 3 rfl rfl)
theorem dX0_day_28 : decode cX0_day 28 = .ok (.ireturn, 1) := dk_172 (dk_at dksX0_day_1 4 rfl rfl)
abbrev cX0_view : ByteArray := prog_1_method_26_code
def yX0_view : MethodName := ⟨RX0, "view", "(I)Z"⟩
def dkwX0_view_1 : List UInt8 := [180, 0, 12, 27, 181, 0, 224, 4, 172]
abbrev dktX0_view_1 : List UInt8 := dkwX0_view_1 ++ []
def dkwX0_view_0 : List UInt8 := [27, 2, 159, 0, 20, 27, 3, 42, 180, 0, 12, 180, 0, 154, 184, 0, 75, 154, 0, 5, 3, 172, 42]
abbrev dktX0_view_0 : List UInt8 := dkwX0_view_0 ++ dktX0_view_1
theorem dksX0_view_0 : cX0_view.data.toList.drop 0 = dktX0_view_0 := by decide +kernel
theorem dksX0_view_1 : cX0_view.data.toList.drop 23 = dktX0_view_1 := dk_seg dksX0_view_0 23 rfl rfl
theorem dX0_view_0 : decode cX0_view 0 = .ok (.iload_n 1, 1) := dk_27 (dk_at dksX0_view_0 0 rfl rfl)
theorem dX0_view_1 : decode cX0_view 1 = .ok (.iconst (-1), 1) := dk_2 (dk_at dksX0_view_0 1 rfl rfl)
theorem dX0_view_2 : decode cX0_view 2 = .ok (.if_icmp .eq 20, 3) := dk_159 0 20 (dk_at dksX0_view_0 2 rfl rfl)
theorem dX0_view_5 : decode cX0_view 5 = .ok (.iload_n 1, 1) := dk_27 (dk_at dksX0_view_0 5 rfl rfl)
theorem dX0_view_6 : decode cX0_view 6 = .ok (.iconst 0, 1) := dk_3 (dk_at dksX0_view_0 6 rfl rfl)
theorem dX0_view_7 : decode cX0_view 7 = .ok (.aload_n 0, 1) := dk_42 (dk_at dksX0_view_0 7 rfl rfl)
theorem dX0_view_8 : decode cX0_view 8 = .ok (.getfield 12, 3) := dk_180 0 12 (dk_at dksX0_view_0 8 rfl rfl)
theorem dX0_view_11 : decode cX0_view 11 = .ok (.getfield 154, 3) := dk_180 0 154 (dk_at dksX0_view_0 11 rfl rfl)
theorem dX0_view_14 : decode cX0_view 14 = .ok (.invokestatic 75, 3) := dk_184 0 75 (dk_at dksX0_view_0 14 rfl rfl)
theorem dX0_view_17 : decode cX0_view 17 = .ok (.ifCond .ne 5, 3) := dk_154 0 5 (dk_at dksX0_view_0 17 rfl rfl)
theorem dX0_view_20 : decode cX0_view 20 = .ok (.iconst 0, 1) := dk_3 (dk_at dksX0_view_0 20 rfl rfl)
theorem dX0_view_21 : decode cX0_view 21 = .ok (.ireturn, 1) := dk_172 (dk_at dksX0_view_0 21 rfl rfl)
theorem dX0_view_22 : decode cX0_view 22 = .ok (.aload_n 0, 1) := dk_42 (dk_at dksX0_view_0 22 rfl rfl)
theorem dX0_view_23 : decode cX0_view 23 = .ok (.getfield 12, 3) := dk_180 0 12 (dk_at dksX0_view_1 0 rfl rfl)
theorem dX0_view_26 : decode cX0_view 26 = .ok (.iload_n 1, 1) := dk_27 (dk_at dksX0_view_1 3 rfl rfl)
theorem dX0_view_27 : decode cX0_view 27 = .ok (.putfield 224, 3) := dk_181 0 224 (dk_at dksX0_view_1 4 rfl rfl)
theorem dX0_view_30 : decode cX0_view 30 = .ok (.iconst 1, 1) := dk_4 (dk_at dksX0_view_1 7 rfl rfl)
theorem dX0_view_31 : decode cX0_view 31 = .ok (.ireturn, 1) := dk_172 (dk_at dksX0_view_1 8 rfl rfl)
abbrev cX0_so : ByteArray := prog_1_method_29_code
def yX0_so : MethodName := ⟨RX0, "so", "(I)I"⟩
def dkwX0_so_2 : List UInt8 := [182, 0, 95, 42, 180, 0, 12, 180, 0, 79, 182, 0, 244, 153, 0, 7, 4, 167, 0, 4, 3, 172]
abbrev dktX0_so_2 : List UInt8 := dkwX0_so_2 ++ []
def dkwX0_so_1 : List UInt8 := [42, 180, 0, 12, 180, 0, 204, 167, 0, 4, 1, 77, 44, 199, 0, 7, 2, 167, 0, 27, 42, 44, 42]
abbrev dktX0_so_1 : List UInt8 := dkwX0_so_1 ++ dktX0_so_2
def dkwX0_so_0 : List UInt8 := [42, 27, 182, 0, 214, 153, 0, 14, 42, 27, 182, 0, 217, 180, 0, 241, 167, 0, 19, 27, 2, 160, 0, 13]
abbrev dktX0_so_0 : List UInt8 := dkwX0_so_0 ++ dktX0_so_1
theorem dksX0_so_0 : cX0_so.data.toList.drop 0 = dktX0_so_0 := by decide +kernel
theorem dksX0_so_1 : cX0_so.data.toList.drop 24 = dktX0_so_1 := dk_seg dksX0_so_0 24 rfl rfl
theorem dksX0_so_2 : cX0_so.data.toList.drop 47 = dktX0_so_2 := dk_seg dksX0_so_1 23 rfl rfl
theorem dX0_so_0 : decode cX0_so 0 = .ok (.aload_n 0, 1) := dk_42 (dk_at dksX0_so_0 0 rfl rfl)
theorem dX0_so_1 : decode cX0_so 1 = .ok (.iload_n 1, 1) := dk_27 (dk_at dksX0_so_0 1 rfl rfl)
theorem dX0_so_2 : decode cX0_so 2 = .ok (.invokevirtual 214, 3) := dk_182 0 214 (dk_at dksX0_so_0 2 rfl rfl)
theorem dX0_so_5 : decode cX0_so 5 = .ok (.ifCond .eq 14, 3) := dk_153 0 14 (dk_at dksX0_so_0 5 rfl rfl)
theorem dX0_so_8 : decode cX0_so 8 = .ok (.aload_n 0, 1) := dk_42 (dk_at dksX0_so_0 8 rfl rfl)
theorem dX0_so_9 : decode cX0_so 9 = .ok (.iload_n 1, 1) := dk_27 (dk_at dksX0_so_0 9 rfl rfl)
theorem dX0_so_10 : decode cX0_so 10 = .ok (.invokevirtual 217, 3) := dk_182 0 217 (dk_at dksX0_so_0 10 rfl rfl)
theorem dX0_so_13 : decode cX0_so 13 = .ok (.getfield 241, 3) := dk_180 0 241 (dk_at dksX0_so_0 13 rfl rfl)
theorem dX0_so_16 : decode cX0_so 16 = .ok (.goto 19, 3) := dk_167 0 19 (dk_at dksX0_so_0 16 rfl rfl)
theorem dX0_so_19 : decode cX0_so 19 = .ok (.iload_n 1, 1) := dk_27 (dk_at dksX0_so_0 19 rfl rfl)
theorem dX0_so_20 : decode cX0_so 20 = .ok (.iconst (-1), 1) := dk_2 (dk_at dksX0_so_0 20 rfl rfl)
theorem dX0_so_21 : decode cX0_so 21 = .ok (.if_icmp .ne 13, 3) := dk_160 0 13 (dk_at dksX0_so_0 21 rfl rfl)
theorem dX0_so_24 : decode cX0_so 24 = .ok (.aload_n 0, 1) := dk_42 (dk_at dksX0_so_1 0 rfl rfl)
theorem dX0_so_25 : decode cX0_so 25 = .ok (.getfield 12, 3) := dk_180 0 12 (dk_at dksX0_so_1 1 rfl rfl)
theorem dX0_so_28 : decode cX0_so 28 = .ok (.getfield 204, 3) := dk_180 0 204 (dk_at dksX0_so_1 4 rfl rfl)
theorem dX0_so_31 : decode cX0_so 31 = .ok (.goto 4, 3) := dk_167 0 4 (dk_at dksX0_so_1 7 rfl rfl)
theorem dX0_so_34 : decode cX0_so 34 = .ok (.aconst_null, 1) := dk_1 (dk_at dksX0_so_1 10 rfl rfl)
theorem dX0_so_35 : decode cX0_so 35 = .ok (.astore_n 2, 1) := dk_77 (dk_at dksX0_so_1 11 rfl rfl)
theorem dX0_so_36 : decode cX0_so 36 = .ok (.aload_n 2, 1) := dk_44 (dk_at dksX0_so_1 12 rfl rfl)
theorem dX0_so_37 : decode cX0_so 37 = .ok (.ifnonnull 7, 3) := dk_199 0 7 (dk_at dksX0_so_1 13 rfl rfl)
theorem dX0_so_40 : decode cX0_so 40 = .ok (.iconst (-1), 1) := dk_2 (dk_at dksX0_so_1 16 rfl rfl)
theorem dX0_so_41 : decode cX0_so 41 = .ok (.goto 27, 3) := dk_167 0 27 (dk_at dksX0_so_1 17 rfl rfl)
theorem dX0_so_44 : decode cX0_so 44 = .ok (.aload_n 0, 1) := dk_42 (dk_at dksX0_so_1 20 rfl rfl)
theorem dX0_so_45 : decode cX0_so 45 = .ok (.aload_n 2, 1) := dk_44 (dk_at dksX0_so_1 21 rfl rfl)
theorem dX0_so_46 : decode cX0_so 46 = .ok (.aload_n 0, 1) := dk_42 (dk_at dksX0_so_1 22 rfl rfl)
theorem dX0_so_47 : decode cX0_so 47 = .ok (.invokevirtual 95, 3) := dk_182 0 95 (dk_at dksX0_so_2 0 rfl rfl)
theorem dX0_so_50 : decode cX0_so 50 = .ok (.aload_n 0, 1) := dk_42 (dk_at dksX0_so_2 3 rfl rfl)
theorem dX0_so_51 : decode cX0_so 51 = .ok (.getfield 12, 3) := dk_180 0 12 (dk_at dksX0_so_2 4 rfl rfl)
theorem dX0_so_54 : decode cX0_so 54 = .ok (.getfield 79, 3) := dk_180 0 79 (dk_at dksX0_so_2 7 rfl rfl)
theorem dX0_so_57 : decode cX0_so 57 = .ok (.invokevirtual 244, 3) := dk_182 0 244 (dk_at dksX0_so_2 10 rfl rfl)
theorem dX0_so_60 : decode cX0_so 60 = .ok (.ifCond .eq 7, 3) := dk_153 0 7 (dk_at dksX0_so_2 13 rfl rfl)
theorem dX0_so_63 : decode cX0_so 63 = .ok (.iconst 1, 1) := dk_4 (dk_at dksX0_so_2 16 rfl rfl)
theorem dX0_so_64 : decode cX0_so 64 = .ok (.goto 4, 3) := dk_167 0 4 (dk_at dksX0_so_2 17 rfl rfl)
theorem dX0_so_67 : decode cX0_so 67 = .ok (.iconst 0, 1) := dk_3 (dk_at dksX0_so_2 20 rfl rfl)
theorem dX0_so_68 : decode cX0_so 68 = .ok (.ireturn, 1) := dk_172 (dk_at dksX0_so_2 21 rfl rfl)
abbrev cX0_isSoIn : ByteArray := prog_1_method_28_code
def yX0_isSoIn : MethodName := ⟨RX0, "isSoIn", "(LVillageStories$Part;LVillageStories$Land;J)Z"⟩
def dkwX0_isSoIn_0 : List UInt8 := [42, 180, 0, 23, 44, 33, 182, 0, 231, 43, 42, 180, 0, 23, 182, 0, 235, 172]
abbrev dktX0_isSoIn_0 : List UInt8 := dkwX0_isSoIn_0 ++ []
theorem dksX0_isSoIn_0 : cX0_isSoIn.data.toList.drop 0 = dktX0_isSoIn_0 := by decide +kernel
theorem dX0_isSoIn_0 : decode cX0_isSoIn 0 = .ok (.aload_n 0, 1) := dk_42 (dk_at dksX0_isSoIn_0 0 rfl rfl)
theorem dX0_isSoIn_1 : decode cX0_isSoIn 1 = .ok (.getfield 23, 3) := dk_180 0 23 (dk_at dksX0_isSoIn_0 1 rfl rfl)
theorem dX0_isSoIn_4 : decode cX0_isSoIn 4 = .ok (.aload_n 2, 1) := dk_44 (dk_at dksX0_isSoIn_0 4 rfl rfl)
theorem dX0_isSoIn_5 : decode cX0_isSoIn 5 = .ok (.lload_n 3, 1) := dk_33 (dk_at dksX0_isSoIn_0 5 rfl rfl)
theorem dX0_isSoIn_6 : decode cX0_isSoIn 6 = .ok (.invokevirtual 231, 3) := dk_182 0 231 (dk_at dksX0_isSoIn_0 6 rfl rfl)
theorem dX0_isSoIn_9 : decode cX0_isSoIn 9 = .ok (.aload_n 1, 1) := dk_43 (dk_at dksX0_isSoIn_0 9 rfl rfl)
theorem dX0_isSoIn_10 : decode cX0_isSoIn 10 = .ok (.aload_n 0, 1) := dk_42 (dk_at dksX0_isSoIn_0 10 rfl rfl)
theorem dX0_isSoIn_11 : decode cX0_isSoIn 11 = .ok (.getfield 23, 3) := dk_180 0 23 (dk_at dksX0_isSoIn_0 11 rfl rfl)
theorem dX0_isSoIn_14 : decode cX0_isSoIn 14 = .ok (.invokevirtual 235, 3) := dk_182 0 235 (dk_at dksX0_isSoIn_0 14 rfl rfl)
theorem dX0_isSoIn_17 : decode cX0_isSoIn 17 = .ok (.ireturn, 1) := dk_172 (dk_at dksX0_isSoIn_0 17 rfl rfl)
abbrev cX0_has : ByteArray := prog_1_method_2_code
def yX0_has : MethodName := ⟨RX0, "has", "(II)Z"⟩
def dkwX0_has_0 : List UInt8 := [26, 27, 122, 4, 126, 4, 160, 0, 7, 4, 167, 0, 4, 3, 172]
abbrev dktX0_has_0 : List UInt8 := dkwX0_has_0 ++ []
theorem dksX0_has_0 : cX0_has.data.toList.drop 0 = dktX0_has_0 := by decide +kernel
theorem dX0_has_0 : decode cX0_has 0 = .ok (.iload_n 0, 1) := dk_26 (dk_at dksX0_has_0 0 rfl rfl)
theorem dX0_has_1 : decode cX0_has 1 = .ok (.iload_n 1, 1) := dk_27 (dk_at dksX0_has_0 1 rfl rfl)
theorem dX0_has_2 : decode cX0_has 2 = .ok (.ishr, 1) := dk_122 (dk_at dksX0_has_0 2 rfl rfl)
theorem dX0_has_3 : decode cX0_has 3 = .ok (.iconst 1, 1) := dk_4 (dk_at dksX0_has_0 3 rfl rfl)
theorem dX0_has_4 : decode cX0_has 4 = .ok (.iand, 1) := dk_126 (dk_at dksX0_has_0 4 rfl rfl)
theorem dX0_has_5 : decode cX0_has 5 = .ok (.iconst 1, 1) := dk_4 (dk_at dksX0_has_0 5 rfl rfl)
theorem dX0_has_6 : decode cX0_has 6 = .ok (.if_icmp .ne 7, 3) := dk_160 0 7 (dk_at dksX0_has_0 6 rfl rfl)
theorem dX0_has_9 : decode cX0_has 9 = .ok (.iconst 1, 1) := dk_4 (dk_at dksX0_has_0 9 rfl rfl)
theorem dX0_has_10 : decode cX0_has 10 = .ok (.goto 4, 3) := dk_167 0 4 (dk_at dksX0_has_0 10 rfl rfl)
theorem dX0_has_13 : decode cX0_has 13 = .ok (.iconst 0, 1) := dk_3 (dk_at dksX0_has_0 13 rfl rfl)
theorem dX0_has_14 : decode cX0_has 14 = .ok (.ireturn, 1) := dk_172 (dk_at dksX0_has_0 14 rfl rfl)
abbrev cX0_breaks : ByteArray := prog_1_method_31_code
def yX0_breaks : MethodName := ⟨RX0, "breaks", "(II)I"⟩
def dkwX0_breaks_3 : List UInt8 := [180, 0, 32, 28, 182, 0, 144, 192, 1, 12, 182, 1, 30, 167, 0, 4, 2, 172]
abbrev dktX0_breaks_3 : List UInt8 := dkwX0_breaks_3 ++ []
def dkwX0_breaks_2 : List UInt8 := [182, 1, 20, 62, 28, 3, 42, 180, 0, 32, 182, 0, 111, 4, 100, 184, 0, 75, 153, 0, 20, 42]
abbrev dktX0_breaks_2 : List UInt8 := dkwX0_breaks_2 ++ dktX0_breaks_3
def dkwX0_breaks_1 : List UInt8 := [180, 0, 79, 182, 0, 231, 42, 180, 0, 32, 182, 1, 27, 42, 42, 27, 182, 0, 217, 180, 0, 241]
abbrev dktX0_breaks_1 : List UInt8 := dkwX0_breaks_1 ++ dktX0_breaks_2
def dkwX0_breaks_0 : List UInt8 := [42, 27, 182, 0, 214, 154, 0, 5, 2, 172, 42, 180, 0, 23, 42, 182, 0, 95, 42, 180, 0, 12]
abbrev dktX0_breaks_0 : List UInt8 := dkwX0_breaks_0 ++ dktX0_breaks_1
theorem dksX0_breaks_0 : cX0_breaks.data.toList.drop 0 = dktX0_breaks_0 := by decide +kernel
theorem dksX0_breaks_1 : cX0_breaks.data.toList.drop 22 = dktX0_breaks_1 := dk_seg dksX0_breaks_0 22 rfl rfl
theorem dksX0_breaks_2 : cX0_breaks.data.toList.drop 44 = dktX0_breaks_2 := dk_seg dksX0_breaks_1 22 rfl rfl
theorem dksX0_breaks_3 : cX0_breaks.data.toList.drop 66 = dktX0_breaks_3 := dk_seg dksX0_breaks_2 22 rfl rfl
theorem dX0_breaks_0 : decode cX0_breaks 0 = .ok (.aload_n 0, 1) := dk_42 (dk_at dksX0_breaks_0 0 rfl rfl)
theorem dX0_breaks_1 : decode cX0_breaks 1 = .ok (.iload_n 1, 1) := dk_27 (dk_at dksX0_breaks_0 1 rfl rfl)
theorem dX0_breaks_2 : decode cX0_breaks 2 = .ok (.invokevirtual 214, 3) := dk_182 0 214 (dk_at dksX0_breaks_0 2 rfl rfl)
theorem dX0_breaks_5 : decode cX0_breaks 5 = .ok (.ifCond .ne 5, 3) := dk_154 0 5 (dk_at dksX0_breaks_0 5 rfl rfl)
theorem dX0_breaks_8 : decode cX0_breaks 8 = .ok (.iconst (-1), 1) := dk_2 (dk_at dksX0_breaks_0 8 rfl rfl)
theorem dX0_breaks_9 : decode cX0_breaks 9 = .ok (.ireturn, 1) := dk_172 (dk_at dksX0_breaks_0 9 rfl rfl)
theorem dX0_breaks_10 : decode cX0_breaks 10 = .ok (.aload_n 0, 1) := dk_42 (dk_at dksX0_breaks_0 10 rfl rfl)
theorem dX0_breaks_11 : decode cX0_breaks 11 = .ok (.getfield 23, 3) := dk_180 0 23 (dk_at dksX0_breaks_0 11 rfl rfl)
theorem dX0_breaks_14 : decode cX0_breaks 14 = .ok (.aload_n 0, 1) := dk_42 (dk_at dksX0_breaks_0 14 rfl rfl)
theorem dX0_breaks_15 : decode cX0_breaks 15 = .ok (.invokevirtual 95, 3) := dk_182 0 95 (dk_at dksX0_breaks_0 15 rfl rfl)
theorem dX0_breaks_18 : decode cX0_breaks 18 = .ok (.aload_n 0, 1) := dk_42 (dk_at dksX0_breaks_0 18 rfl rfl)
theorem dX0_breaks_19 : decode cX0_breaks 19 = .ok (.getfield 12, 3) := dk_180 0 12 (dk_at dksX0_breaks_0 19 rfl rfl)
theorem dX0_breaks_22 : decode cX0_breaks 22 = .ok (.getfield 79, 3) := dk_180 0 79 (dk_at dksX0_breaks_1 0 rfl rfl)
theorem dX0_breaks_25 : decode cX0_breaks 25 = .ok (.invokevirtual 231, 3) := dk_182 0 231 (dk_at dksX0_breaks_1 3 rfl rfl)
theorem dX0_breaks_28 : decode cX0_breaks 28 = .ok (.aload_n 0, 1) := dk_42 (dk_at dksX0_breaks_1 6 rfl rfl)
theorem dX0_breaks_29 : decode cX0_breaks 29 = .ok (.getfield 32, 3) := dk_180 0 32 (dk_at dksX0_breaks_1 7 rfl rfl)
theorem dX0_breaks_32 : decode cX0_breaks 32 = .ok (.invokevirtual 283, 3) := dk_182 1 27 (dk_at dksX0_breaks_1 10 rfl rfl)
theorem dX0_breaks_35 : decode cX0_breaks 35 = .ok (.aload_n 0, 1) := dk_42 (dk_at dksX0_breaks_1 13 rfl rfl)
theorem dX0_breaks_36 : decode cX0_breaks 36 = .ok (.aload_n 0, 1) := dk_42 (dk_at dksX0_breaks_1 14 rfl rfl)
theorem dX0_breaks_37 : decode cX0_breaks 37 = .ok (.iload_n 1, 1) := dk_27 (dk_at dksX0_breaks_1 15 rfl rfl)
theorem dX0_breaks_38 : decode cX0_breaks 38 = .ok (.invokevirtual 217, 3) := dk_182 0 217 (dk_at dksX0_breaks_1 16 rfl rfl)
theorem dX0_breaks_41 : decode cX0_breaks 41 = .ok (.getfield 241, 3) := dk_180 0 241 (dk_at dksX0_breaks_1 19 rfl rfl)
theorem dX0_breaks_44 : decode cX0_breaks 44 = .ok (.invokevirtual 276, 3) := dk_182 1 20 (dk_at dksX0_breaks_2 0 rfl rfl)
theorem dX0_breaks_47 : decode cX0_breaks 47 = .ok (.istore_n 3, 1) := dk_62 (dk_at dksX0_breaks_2 3 rfl rfl)
theorem dX0_breaks_48 : decode cX0_breaks 48 = .ok (.iload_n 2, 1) := dk_28 (dk_at dksX0_breaks_2 4 rfl rfl)
theorem dX0_breaks_49 : decode cX0_breaks 49 = .ok (.iconst 0, 1) := dk_3 (dk_at dksX0_breaks_2 5 rfl rfl)
theorem dX0_breaks_50 : decode cX0_breaks 50 = .ok (.aload_n 0, 1) := dk_42 (dk_at dksX0_breaks_2 6 rfl rfl)
theorem dX0_breaks_51 : decode cX0_breaks 51 = .ok (.getfield 32, 3) := dk_180 0 32 (dk_at dksX0_breaks_2 7 rfl rfl)
theorem dX0_breaks_54 : decode cX0_breaks 54 = .ok (.invokevirtual 111, 3) := dk_182 0 111 (dk_at dksX0_breaks_2 10 rfl rfl)
theorem dX0_breaks_57 : decode cX0_breaks 57 = .ok (.iconst 1, 1) := dk_4 (dk_at dksX0_breaks_2 13 rfl rfl)
theorem dX0_breaks_58 : decode cX0_breaks 58 = .ok (.isub, 1) := dk_100 (dk_at dksX0_breaks_2 14 rfl rfl)
theorem dX0_breaks_59 : decode cX0_breaks 59 = .ok (.invokestatic 75, 3) := dk_184 0 75 (dk_at dksX0_breaks_2 15 rfl rfl)
theorem dX0_breaks_62 : decode cX0_breaks 62 = .ok (.ifCond .eq 20, 3) := dk_153 0 20 (dk_at dksX0_breaks_2 18 rfl rfl)
theorem dX0_breaks_65 : decode cX0_breaks 65 = .ok (.aload_n 0, 1) := dk_42 (dk_at dksX0_breaks_2 21 rfl rfl)
theorem dX0_breaks_66 : decode cX0_breaks 66 = .ok (.getfield 32, 3) := dk_180 0 32 (dk_at dksX0_breaks_3 0 rfl rfl)
theorem dX0_breaks_69 : decode cX0_breaks 69 = .ok (.iload_n 2, 1) := dk_28 (dk_at dksX0_breaks_3 3 rfl rfl)
theorem dX0_breaks_70 : decode cX0_breaks 70 = .ok (.invokevirtual 144, 3) := dk_182 0 144 (dk_at dksX0_breaks_3 4 rfl rfl)
theorem dX0_breaks_73 : decode cX0_breaks 73 = .ok (.checkcast 268, 3) := dk_192 1 12 (dk_at dksX0_breaks_3 7 rfl rfl)
theorem dX0_breaks_76 : decode cX0_breaks 76 = .ok (.invokevirtual 286, 3) := dk_182 1 30 (dk_at dksX0_breaks_3 10 rfl rfl)
theorem dX0_breaks_79 : decode cX0_breaks 79 = .ok (.goto 4, 3) := dk_167 0 4 (dk_at dksX0_breaks_3 13 rfl rfl)
theorem dX0_breaks_82 : decode cX0_breaks 82 = .ok (.iconst (-1), 1) := dk_2 (dk_at dksX0_breaks_3 16 rfl rfl)
theorem dX0_breaks_83 : decode cX0_breaks 83 = .ok (.ireturn, 1) := dk_172 (dk_at dksX0_breaks_3 17 rfl rfl)
abbrev cX0_breaksAt : ByteArray := prog_1_method_30_code
def yX0_breaksAt : MethodName := ⟨RX0, "breaksAt", "(LVillageStories$Part;)Z"⟩
def dkwX0_breaksAt_6 : List UInt8 := [42, 180, 0, 23, 180, 1, 3, 44, 180, 1, 6, 29, 79, 3, 172]
abbrev dktX0_breaksAt_6 : List UInt8 := dkwX0_breaksAt_6 ++ []
def dkwX0_breaksAt_5 : List UInt8 := [172, 42, 180, 0, 32, 42, 180, 0, 32, 182, 0, 111, 4, 100, 182, 1, 24, 87, 132, 4, 1, 167, 255, 177]
abbrev dktX0_breaksAt_5 : List UInt8 := dkwX0_breaksAt_5 ++ dktX0_breaksAt_6
def dkwX0_breaksAt_4 : List UInt8 := [180, 0, 32, 21, 4, 184, 1, 11, 182, 0, 119, 87, 42, 44, 180, 1, 17, 182, 1, 20, 153, 0, 5, 4]
abbrev dktX0_breaksAt_4 : List UInt8 := dkwX0_breaksAt_4 ++ dktX0_breaksAt_5
def dkwX0_breaksAt_3 : List UInt8 := [180, 1, 10, 182, 0, 98, 162, 0, 66, 42, 180, 0, 23, 180, 1, 3, 44, 180, 1, 6, 21, 4, 79, 42]
abbrev dktX0_breaksAt_3 : List UInt8 := dkwX0_breaksAt_3 ++ dktX0_breaksAt_4
def dkwX0_breaksAt_2 : List UInt8 := [180, 1, 3, 44, 180, 1, 6, 46, 62, 3, 54, 4, 21, 4, 42, 180, 0, 23, 180, 1, 9, 44]
abbrev dktX0_breaksAt_2 : List UInt8 := dkwX0_breaksAt_2 ++ dktX0_breaksAt_3
def dkwX0_breaksAt_1 : List UInt8 := [180, 0, 23, 182, 0, 235, 154, 0, 7, 4, 167, 0, 4, 3, 172, 43, 192, 0, 248, 77, 42, 180, 0, 23]
abbrev dktX0_breaksAt_1 : List UInt8 := dkwX0_breaksAt_1 ++ dktX0_breaksAt_2
def dkwX0_breaksAt_0 : List UInt8 := [43, 193, 0, 248, 153, 0, 16, 43, 192, 0, 248, 180, 0, 250, 178, 0, 254, 165, 0, 20, 43, 42]
abbrev dktX0_breaksAt_0 : List UInt8 := dkwX0_breaksAt_0 ++ dktX0_breaksAt_1
theorem dksX0_breaksAt_0 : cX0_breaksAt.data.toList.drop 0 = dktX0_breaksAt_0 := by decide +kernel
theorem dksX0_breaksAt_1 : cX0_breaksAt.data.toList.drop 22 = dktX0_breaksAt_1 := dk_seg dksX0_breaksAt_0 22 rfl rfl
theorem dksX0_breaksAt_2 : cX0_breaksAt.data.toList.drop 46 = dktX0_breaksAt_2 := dk_seg dksX0_breaksAt_1 24 rfl rfl
theorem dksX0_breaksAt_3 : cX0_breaksAt.data.toList.drop 68 = dktX0_breaksAt_3 := dk_seg dksX0_breaksAt_2 22 rfl rfl
theorem dksX0_breaksAt_4 : cX0_breaksAt.data.toList.drop 92 = dktX0_breaksAt_4 := dk_seg dksX0_breaksAt_3 24 rfl rfl
theorem dksX0_breaksAt_5 : cX0_breaksAt.data.toList.drop 116 = dktX0_breaksAt_5 := dk_seg dksX0_breaksAt_4 24 rfl rfl
theorem dksX0_breaksAt_6 : cX0_breaksAt.data.toList.drop 140 = dktX0_breaksAt_6 := dk_seg dksX0_breaksAt_5 24 rfl rfl
theorem dX0_breaksAt_0 : decode cX0_breaksAt 0 = .ok (.aload_n 1, 1) := dk_43 (dk_at dksX0_breaksAt_0 0 rfl rfl)
theorem dX0_breaksAt_1 : decode cX0_breaksAt 1 = .ok (.instanceof 248, 3) := dk_193 0 248 (dk_at dksX0_breaksAt_0 1 rfl rfl)
theorem dX0_breaksAt_4 : decode cX0_breaksAt 4 = .ok (.ifCond .eq 16, 3) := dk_153 0 16 (dk_at dksX0_breaksAt_0 4 rfl rfl)
theorem dX0_breaksAt_7 : decode cX0_breaksAt 7 = .ok (.aload_n 1, 1) := dk_43 (dk_at dksX0_breaksAt_0 7 rfl rfl)
theorem dX0_breaksAt_8 : decode cX0_breaksAt 8 = .ok (.checkcast 248, 3) := dk_192 0 248 (dk_at dksX0_breaksAt_0 8 rfl rfl)
theorem dX0_breaksAt_11 : decode cX0_breaksAt 11 = .ok (.getfield 250, 3) := dk_180 0 250 (dk_at dksX0_breaksAt_0 11 rfl rfl)
theorem dX0_breaksAt_14 : decode cX0_breaksAt 14 = .ok (.getstatic 254, 3) := dk_178 0 254 (dk_at dksX0_breaksAt_0 14 rfl rfl)
theorem dX0_breaksAt_17 : decode cX0_breaksAt 17 = .ok (.if_acmp .eq 20, 3) := dk_165 0 20 (dk_at dksX0_breaksAt_0 17 rfl rfl)
theorem dX0_breaksAt_20 : decode cX0_breaksAt 20 = .ok (.aload_n 1, 1) := dk_43 (dk_at dksX0_breaksAt_0 20 rfl rfl)
theorem dX0_breaksAt_21 : decode cX0_breaksAt 21 = .ok (.aload_n 0, 1) := dk_42 (dk_at dksX0_breaksAt_0 21 rfl rfl)
theorem dX0_breaksAt_22 : decode cX0_breaksAt 22 = .ok (.getfield 23, 3) := dk_180 0 23 (dk_at dksX0_breaksAt_1 0 rfl rfl)
theorem dX0_breaksAt_25 : decode cX0_breaksAt 25 = .ok (.invokevirtual 235, 3) := dk_182 0 235 (dk_at dksX0_breaksAt_1 3 rfl rfl)
theorem dX0_breaksAt_28 : decode cX0_breaksAt 28 = .ok (.ifCond .ne 7, 3) := dk_154 0 7 (dk_at dksX0_breaksAt_1 6 rfl rfl)
theorem dX0_breaksAt_31 : decode cX0_breaksAt 31 = .ok (.iconst 1, 1) := dk_4 (dk_at dksX0_breaksAt_1 9 rfl rfl)
theorem dX0_breaksAt_32 : decode cX0_breaksAt 32 = .ok (.goto 4, 3) := dk_167 0 4 (dk_at dksX0_breaksAt_1 10 rfl rfl)
theorem dX0_breaksAt_35 : decode cX0_breaksAt 35 = .ok (.iconst 0, 1) := dk_3 (dk_at dksX0_breaksAt_1 13 rfl rfl)
theorem dX0_breaksAt_36 : decode cX0_breaksAt 36 = .ok (.ireturn, 1) := dk_172 (dk_at dksX0_breaksAt_1 14 rfl rfl)
theorem dX0_breaksAt_37 : decode cX0_breaksAt 37 = .ok (.aload_n 1, 1) := dk_43 (dk_at dksX0_breaksAt_1 15 rfl rfl)
theorem dX0_breaksAt_38 : decode cX0_breaksAt 38 = .ok (.checkcast 248, 3) := dk_192 0 248 (dk_at dksX0_breaksAt_1 16 rfl rfl)
theorem dX0_breaksAt_41 : decode cX0_breaksAt 41 = .ok (.astore_n 2, 1) := dk_77 (dk_at dksX0_breaksAt_1 19 rfl rfl)
theorem dX0_breaksAt_42 : decode cX0_breaksAt 42 = .ok (.aload_n 0, 1) := dk_42 (dk_at dksX0_breaksAt_1 20 rfl rfl)
theorem dX0_breaksAt_43 : decode cX0_breaksAt 43 = .ok (.getfield 23, 3) := dk_180 0 23 (dk_at dksX0_breaksAt_1 21 rfl rfl)
theorem dX0_breaksAt_46 : decode cX0_breaksAt 46 = .ok (.getfield 259, 3) := dk_180 1 3 (dk_at dksX0_breaksAt_2 0 rfl rfl)
theorem dX0_breaksAt_49 : decode cX0_breaksAt 49 = .ok (.aload_n 2, 1) := dk_44 (dk_at dksX0_breaksAt_2 3 rfl rfl)
theorem dX0_breaksAt_50 : decode cX0_breaksAt 50 = .ok (.getfield 262, 3) := dk_180 1 6 (dk_at dksX0_breaksAt_2 4 rfl rfl)
theorem dX0_breaksAt_53 : decode cX0_breaksAt 53 = .ok (.iaload, 1) := dk_46 (dk_at dksX0_breaksAt_2 7 rfl rfl)
theorem dX0_breaksAt_54 : decode cX0_breaksAt 54 = .ok (.istore_n 3, 1) := dk_62 (dk_at dksX0_breaksAt_2 8 rfl rfl)
theorem dX0_breaksAt_55 : decode cX0_breaksAt 55 = .ok (.iconst 0, 1) := dk_3 (dk_at dksX0_breaksAt_2 9 rfl rfl)
theorem dX0_breaksAt_56 : decode cX0_breaksAt 56 = .ok (.istore 4, 2) := dk_54 4 (dk_at dksX0_breaksAt_2 10 rfl rfl)
theorem dX0_breaksAt_58 : decode cX0_breaksAt 58 = .ok (.iload 4, 2) := dk_21 4 (dk_at dksX0_breaksAt_2 12 rfl rfl)
theorem dX0_breaksAt_60 : decode cX0_breaksAt 60 = .ok (.aload_n 0, 1) := dk_42 (dk_at dksX0_breaksAt_2 14 rfl rfl)
theorem dX0_breaksAt_61 : decode cX0_breaksAt 61 = .ok (.getfield 23, 3) := dk_180 0 23 (dk_at dksX0_breaksAt_2 15 rfl rfl)
theorem dX0_breaksAt_64 : decode cX0_breaksAt 64 = .ok (.getfield 265, 3) := dk_180 1 9 (dk_at dksX0_breaksAt_2 18 rfl rfl)
theorem dX0_breaksAt_67 : decode cX0_breaksAt 67 = .ok (.aload_n 2, 1) := dk_44 (dk_at dksX0_breaksAt_2 21 rfl rfl)
theorem dX0_breaksAt_68 : decode cX0_breaksAt 68 = .ok (.getfield 266, 3) := dk_180 1 10 (dk_at dksX0_breaksAt_3 0 rfl rfl)
theorem dX0_breaksAt_71 : decode cX0_breaksAt 71 = .ok (.invokevirtual 98, 3) := dk_182 0 98 (dk_at dksX0_breaksAt_3 3 rfl rfl)
theorem dX0_breaksAt_74 : decode cX0_breaksAt 74 = .ok (.if_icmp .ge 66, 3) := dk_162 0 66 (dk_at dksX0_breaksAt_3 6 rfl rfl)
theorem dX0_breaksAt_77 : decode cX0_breaksAt 77 = .ok (.aload_n 0, 1) := dk_42 (dk_at dksX0_breaksAt_3 9 rfl rfl)
theorem dX0_breaksAt_78 : decode cX0_breaksAt 78 = .ok (.getfield 23, 3) := dk_180 0 23 (dk_at dksX0_breaksAt_3 10 rfl rfl)
theorem dX0_breaksAt_81 : decode cX0_breaksAt 81 = .ok (.getfield 259, 3) := dk_180 1 3 (dk_at dksX0_breaksAt_3 13 rfl rfl)
theorem dX0_breaksAt_84 : decode cX0_breaksAt 84 = .ok (.aload_n 2, 1) := dk_44 (dk_at dksX0_breaksAt_3 16 rfl rfl)
theorem dX0_breaksAt_85 : decode cX0_breaksAt 85 = .ok (.getfield 262, 3) := dk_180 1 6 (dk_at dksX0_breaksAt_3 17 rfl rfl)
theorem dX0_breaksAt_88 : decode cX0_breaksAt 88 = .ok (.iload 4, 2) := dk_21 4 (dk_at dksX0_breaksAt_3 20 rfl rfl)
theorem dX0_breaksAt_90 : decode cX0_breaksAt 90 = .ok (.iastore, 1) := dk_79 (dk_at dksX0_breaksAt_3 22 rfl rfl)
theorem dX0_breaksAt_91 : decode cX0_breaksAt 91 = .ok (.aload_n 0, 1) := dk_42 (dk_at dksX0_breaksAt_3 23 rfl rfl)
theorem dX0_breaksAt_92 : decode cX0_breaksAt 92 = .ok (.getfield 32, 3) := dk_180 0 32 (dk_at dksX0_breaksAt_4 0 rfl rfl)
theorem dX0_breaksAt_95 : decode cX0_breaksAt 95 = .ok (.iload 4, 2) := dk_21 4 (dk_at dksX0_breaksAt_4 3 rfl rfl)
theorem dX0_breaksAt_97 : decode cX0_breaksAt 97 = .ok (.invokestatic 267, 3) := dk_184 1 11 (dk_at dksX0_breaksAt_4 5 rfl rfl)
theorem dX0_breaksAt_100 : decode cX0_breaksAt 100 = .ok (.invokevirtual 119, 3) := dk_182 0 119 (dk_at dksX0_breaksAt_4 8 rfl rfl)
theorem dX0_breaksAt_103 : decode cX0_breaksAt 103 = .ok (.pop, 1) := dk_87 (dk_at dksX0_breaksAt_4 11 rfl rfl)
theorem dX0_breaksAt_104 : decode cX0_breaksAt 104 = .ok (.aload_n 0, 1) := dk_42 (dk_at dksX0_breaksAt_4 12 rfl rfl)
theorem dX0_breaksAt_105 : decode cX0_breaksAt 105 = .ok (.aload_n 2, 1) := dk_44 (dk_at dksX0_breaksAt_4 13 rfl rfl)
theorem dX0_breaksAt_106 : decode cX0_breaksAt 106 = .ok (.getfield 273, 3) := dk_180 1 17 (dk_at dksX0_breaksAt_4 14 rfl rfl)
theorem dX0_breaksAt_109 : decode cX0_breaksAt 109 = .ok (.invokevirtual 276, 3) := dk_182 1 20 (dk_at dksX0_breaksAt_4 17 rfl rfl)
theorem dX0_breaksAt_112 : decode cX0_breaksAt 112 = .ok (.ifCond .eq 5, 3) := dk_153 0 5 (dk_at dksX0_breaksAt_4 20 rfl rfl)
theorem dX0_breaksAt_115 : decode cX0_breaksAt 115 = .ok (.iconst 1, 1) := dk_4 (dk_at dksX0_breaksAt_4 23 rfl rfl)
theorem dX0_breaksAt_116 : decode cX0_breaksAt 116 = .ok (.ireturn, 1) := dk_172 (dk_at dksX0_breaksAt_5 0 rfl rfl)
theorem dX0_breaksAt_117 : decode cX0_breaksAt 117 = .ok (.aload_n 0, 1) := dk_42 (dk_at dksX0_breaksAt_5 1 rfl rfl)
theorem dX0_breaksAt_118 : decode cX0_breaksAt 118 = .ok (.getfield 32, 3) := dk_180 0 32 (dk_at dksX0_breaksAt_5 2 rfl rfl)
theorem dX0_breaksAt_121 : decode cX0_breaksAt 121 = .ok (.aload_n 0, 1) := dk_42 (dk_at dksX0_breaksAt_5 5 rfl rfl)
theorem dX0_breaksAt_122 : decode cX0_breaksAt 122 = .ok (.getfield 32, 3) := dk_180 0 32 (dk_at dksX0_breaksAt_5 6 rfl rfl)
theorem dX0_breaksAt_125 : decode cX0_breaksAt 125 = .ok (.invokevirtual 111, 3) := dk_182 0 111 (dk_at dksX0_breaksAt_5 9 rfl rfl)
theorem dX0_breaksAt_128 : decode cX0_breaksAt 128 = .ok (.iconst 1, 1) := dk_4 (dk_at dksX0_breaksAt_5 12 rfl rfl)
theorem dX0_breaksAt_129 : decode cX0_breaksAt 129 = .ok (.isub, 1) := dk_100 (dk_at dksX0_breaksAt_5 13 rfl rfl)
theorem dX0_breaksAt_130 : decode cX0_breaksAt 130 = .ok (.invokevirtual 280, 3) := dk_182 1 24 (dk_at dksX0_breaksAt_5 14 rfl rfl)
theorem dX0_breaksAt_133 : decode cX0_breaksAt 133 = .ok (.pop, 1) := dk_87 (dk_at dksX0_breaksAt_5 17 rfl rfl)
theorem dX0_breaksAt_134 : decode cX0_breaksAt 134 = .ok (.iinc 4 1, 3) := dk_132 4 1 (dk_at dksX0_breaksAt_5 18 rfl rfl)
theorem dX0_breaksAt_137 : decode cX0_breaksAt 137 = .ok (.goto (-79), 3) := dk_167 255 177 (dk_at dksX0_breaksAt_5 21 rfl rfl)
theorem dX0_breaksAt_140 : decode cX0_breaksAt 140 = .ok (.aload_n 0, 1) := dk_42 (dk_at dksX0_breaksAt_6 0 rfl rfl)
theorem dX0_breaksAt_141 : decode cX0_breaksAt 141 = .ok (.getfield 23, 3) := dk_180 0 23 (dk_at dksX0_breaksAt_6 1 rfl rfl)
theorem dX0_breaksAt_144 : decode cX0_breaksAt 144 = .ok (.getfield 259, 3) := dk_180 1 3 (dk_at dksX0_breaksAt_6 4 rfl rfl)
theorem dX0_breaksAt_147 : decode cX0_breaksAt 147 = .ok (.aload_n 2, 1) := dk_44 (dk_at dksX0_breaksAt_6 7 rfl rfl)
theorem dX0_breaksAt_148 : decode cX0_breaksAt 148 = .ok (.getfield 262, 3) := dk_180 1 6 (dk_at dksX0_breaksAt_6 8 rfl rfl)
theorem dX0_breaksAt_151 : decode cX0_breaksAt 151 = .ok (.iload_n 3, 1) := dk_29 (dk_at dksX0_breaksAt_6 11 rfl rfl)
theorem dX0_breaksAt_152 : decode cX0_breaksAt 152 = .ok (.iastore, 1) := dk_79 (dk_at dksX0_breaksAt_6 12 rfl rfl)
theorem dX0_breaksAt_153 : decode cX0_breaksAt 153 = .ok (.iconst 0, 1) := dk_3 (dk_at dksX0_breaksAt_6 13 rfl rfl)
theorem dX0_breaksAt_154 : decode cX0_breaksAt 154 = .ok (.ireturn, 1) := dk_172 (dk_at dksX0_breaksAt_6 14 rfl rfl)
abbrev cX0_keep : ByteArray := prog_1_method_33_code
def yX0_keep : MethodName := ⟨RX0, "keep", "(I)Z"⟩
def dkwX0_keep_1 : List UInt8 := [80, 42, 180, 0, 12, 89, 180, 0, 83, 4, 27, 120, 128, 181, 0, 83, 4, 172]
abbrev dktX0_keep_1 : List UInt8 := dkwX0_keep_1 ++ []
def dkwX0_keep_0 : List UInt8 := [27, 184, 1, 33, 154, 0, 5, 3, 172, 42, 180, 0, 12, 180, 1, 36, 27, 42, 180, 0, 12, 180, 0, 79]
abbrev dktX0_keep_0 : List UInt8 := dkwX0_keep_0 ++ dktX0_keep_1
theorem dksX0_keep_0 : cX0_keep.data.toList.drop 0 = dktX0_keep_0 := by decide +kernel
theorem dksX0_keep_1 : cX0_keep.data.toList.drop 24 = dktX0_keep_1 := dk_seg dksX0_keep_0 24 rfl rfl
theorem dX0_keep_0 : decode cX0_keep 0 = .ok (.iload_n 1, 1) := dk_27 (dk_at dksX0_keep_0 0 rfl rfl)
theorem dX0_keep_1 : decode cX0_keep 1 = .ok (.invokestatic 289, 3) := dk_184 1 33 (dk_at dksX0_keep_0 1 rfl rfl)
theorem dX0_keep_4 : decode cX0_keep 4 = .ok (.ifCond .ne 5, 3) := dk_154 0 5 (dk_at dksX0_keep_0 4 rfl rfl)
theorem dX0_keep_7 : decode cX0_keep 7 = .ok (.iconst 0, 1) := dk_3 (dk_at dksX0_keep_0 7 rfl rfl)
theorem dX0_keep_8 : decode cX0_keep 8 = .ok (.ireturn, 1) := dk_172 (dk_at dksX0_keep_0 8 rfl rfl)
theorem dX0_keep_9 : decode cX0_keep 9 = .ok (.aload_n 0, 1) := dk_42 (dk_at dksX0_keep_0 9 rfl rfl)
theorem dX0_keep_10 : decode cX0_keep 10 = .ok (.getfield 12, 3) := dk_180 0 12 (dk_at dksX0_keep_0 10 rfl rfl)
theorem dX0_keep_13 : decode cX0_keep 13 = .ok (.getfield 292, 3) := dk_180 1 36 (dk_at dksX0_keep_0 13 rfl rfl)
theorem dX0_keep_16 : decode cX0_keep 16 = .ok (.iload_n 1, 1) := dk_27 (dk_at dksX0_keep_0 16 rfl rfl)
theorem dX0_keep_17 : decode cX0_keep 17 = .ok (.aload_n 0, 1) := dk_42 (dk_at dksX0_keep_0 17 rfl rfl)
theorem dX0_keep_18 : decode cX0_keep 18 = .ok (.getfield 12, 3) := dk_180 0 12 (dk_at dksX0_keep_0 18 rfl rfl)
theorem dX0_keep_21 : decode cX0_keep 21 = .ok (.getfield 79, 3) := dk_180 0 79 (dk_at dksX0_keep_0 21 rfl rfl)
theorem dX0_keep_24 : decode cX0_keep 24 = .ok (.lastore, 1) := dk_80 (dk_at dksX0_keep_1 0 rfl rfl)
theorem dX0_keep_25 : decode cX0_keep 25 = .ok (.aload_n 0, 1) := dk_42 (dk_at dksX0_keep_1 1 rfl rfl)
theorem dX0_keep_26 : decode cX0_keep 26 = .ok (.getfield 12, 3) := dk_180 0 12 (dk_at dksX0_keep_1 2 rfl rfl)
theorem dX0_keep_29 : decode cX0_keep 29 = .ok (.dup, 1) := dk_89 (dk_at dksX0_keep_1 5 rfl rfl)
theorem dX0_keep_30 : decode cX0_keep 30 = .ok (.getfield 83, 3) := dk_180 0 83 (dk_at dksX0_keep_1 6 rfl rfl)
theorem dX0_keep_33 : decode cX0_keep 33 = .ok (.iconst 1, 1) := dk_4 (dk_at dksX0_keep_1 9 rfl rfl)
theorem dX0_keep_34 : decode cX0_keep 34 = .ok (.iload_n 1, 1) := dk_27 (dk_at dksX0_keep_1 10 rfl rfl)
theorem dX0_keep_35 : decode cX0_keep 35 = .ok (.ishl, 1) := dk_120 (dk_at dksX0_keep_1 11 rfl rfl)
theorem dX0_keep_36 : decode cX0_keep 36 = .ok (.ior, 1) := dk_128 (dk_at dksX0_keep_1 12 rfl rfl)
theorem dX0_keep_37 : decode cX0_keep 37 = .ok (.putfield 83, 3) := dk_181 0 83 (dk_at dksX0_keep_1 13 rfl rfl)
theorem dX0_keep_40 : decode cX0_keep 40 = .ok (.iconst 1, 1) := dk_4 (dk_at dksX0_keep_1 16 rfl rfl)
theorem dX0_keep_41 : decode cX0_keep 41 = .ok (.ireturn, 1) := dk_172 (dk_at dksX0_keep_1 17 rfl rfl)
abbrev cX0_isPlace : ByteArray := prog_1_method_32_code
def yX0_isPlace : MethodName := ⟨RX0, "isPlace", "(I)Z"⟩
def dkwX0_isPlace_0 : List UInt8 := [26, 3, 6, 184, 0, 75, 172]
abbrev dktX0_isPlace_0 : List UInt8 := dkwX0_isPlace_0 ++ []
theorem dksX0_isPlace_0 : cX0_isPlace.data.toList.drop 0 = dktX0_isPlace_0 := by decide +kernel
theorem dX0_isPlace_0 : decode cX0_isPlace 0 = .ok (.iload_n 0, 1) := dk_26 (dk_at dksX0_isPlace_0 0 rfl rfl)
theorem dX0_isPlace_1 : decode cX0_isPlace 1 = .ok (.iconst 0, 1) := dk_3 (dk_at dksX0_isPlace_0 1 rfl rfl)
theorem dX0_isPlace_2 : decode cX0_isPlace 2 = .ok (.iconst 3, 1) := dk_6 (dk_at dksX0_isPlace_0 2 rfl rfl)
theorem dX0_isPlace_3 : decode cX0_isPlace 3 = .ok (.invokestatic 75, 3) := dk_184 0 75 (dk_at dksX0_isPlace_0 3 rfl rfl)
theorem dX0_isPlace_6 : decode cX0_isPlace 6 = .ok (.ireturn, 1) := dk_172 (dk_at dksX0_isPlace_0 6 rfl rfl)
abbrev cX0_apart : ByteArray := prog_1_method_42_code
def yX0_apart : MethodName := ⟨RX0, "apart", "(I)I"⟩
def dkwX0_apart_2 : List UInt8 := [136, 172]
abbrev dktX0_apart_2 : List UInt8 := dkwX0_apart_2 ++ []
def dkwX0_apart_1 : List UInt8 := [182, 1, 91, 154, 0, 5, 2, 172, 42, 180, 0, 59, 42, 180, 0, 12, 180, 1, 36, 27, 47, 182, 1, 83]
abbrev dktX0_apart_1 : List UInt8 := dkwX0_apart_1 ++ dktX0_apart_2
def dkwX0_apart_0 : List UInt8 := [27, 184, 1, 33, 153, 0, 24, 42, 180, 0, 12, 180, 0, 83, 27, 184, 1, 88, 153, 0, 10, 42]
abbrev dktX0_apart_0 : List UInt8 := dkwX0_apart_0 ++ dktX0_apart_1
theorem dksX0_apart_0 : cX0_apart.data.toList.drop 0 = dktX0_apart_0 := by decide +kernel
theorem dksX0_apart_1 : cX0_apart.data.toList.drop 22 = dktX0_apart_1 := dk_seg dksX0_apart_0 22 rfl rfl
theorem dksX0_apart_2 : cX0_apart.data.toList.drop 46 = dktX0_apart_2 := dk_seg dksX0_apart_1 24 rfl rfl
theorem dX0_apart_0 : decode cX0_apart 0 = .ok (.iload_n 1, 1) := dk_27 (dk_at dksX0_apart_0 0 rfl rfl)
theorem dX0_apart_1 : decode cX0_apart 1 = .ok (.invokestatic 289, 3) := dk_184 1 33 (dk_at dksX0_apart_0 1 rfl rfl)
theorem dX0_apart_4 : decode cX0_apart 4 = .ok (.ifCond .eq 24, 3) := dk_153 0 24 (dk_at dksX0_apart_0 4 rfl rfl)
theorem dX0_apart_7 : decode cX0_apart 7 = .ok (.aload_n 0, 1) := dk_42 (dk_at dksX0_apart_0 7 rfl rfl)
theorem dX0_apart_8 : decode cX0_apart 8 = .ok (.getfield 12, 3) := dk_180 0 12 (dk_at dksX0_apart_0 8 rfl rfl)
theorem dX0_apart_11 : decode cX0_apart 11 = .ok (.getfield 83, 3) := dk_180 0 83 (dk_at dksX0_apart_0 11 rfl rfl)
theorem dX0_apart_14 : decode cX0_apart 14 = .ok (.iload_n 1, 1) := dk_27 (dk_at dksX0_apart_0 14 rfl rfl)
theorem dX0_apart_15 : decode cX0_apart 15 = .ok (.invokestatic 344, 3) := dk_184 1 88 (dk_at dksX0_apart_0 15 rfl rfl)
theorem dX0_apart_18 : decode cX0_apart 18 = .ok (.ifCond .eq 10, 3) := dk_153 0 10 (dk_at dksX0_apart_0 18 rfl rfl)
theorem dX0_apart_21 : decode cX0_apart 21 = .ok (.aload_n 0, 1) := dk_42 (dk_at dksX0_apart_0 21 rfl rfl)
theorem dX0_apart_22 : decode cX0_apart 22 = .ok (.invokevirtual 347, 3) := dk_182 1 91 (dk_at dksX0_apart_1 0 rfl rfl)
theorem dX0_apart_25 : decode cX0_apart 25 = .ok (.ifCond .ne 5, 3) := dk_154 0 5 (dk_at dksX0_apart_1 3 rfl rfl)
theorem dX0_apart_28 : decode cX0_apart 28 = .ok (.iconst (-1), 1) := dk_2 (dk_at dksX0_apart_1 6 rfl rfl)
theorem dX0_apart_29 : decode cX0_apart 29 = .ok (.ireturn, 1) := dk_172 (dk_at dksX0_apart_1 7 rfl rfl)
theorem dX0_apart_30 : decode cX0_apart 30 = .ok (.aload_n 0, 1) := dk_42 (dk_at dksX0_apart_1 8 rfl rfl)
theorem dX0_apart_31 : decode cX0_apart 31 = .ok (.getfield 59, 3) := dk_180 0 59 (dk_at dksX0_apart_1 9 rfl rfl)
theorem dX0_apart_34 : decode cX0_apart 34 = .ok (.aload_n 0, 1) := dk_42 (dk_at dksX0_apart_1 12 rfl rfl)
theorem dX0_apart_35 : decode cX0_apart 35 = .ok (.getfield 12, 3) := dk_180 0 12 (dk_at dksX0_apart_1 13 rfl rfl)
theorem dX0_apart_38 : decode cX0_apart 38 = .ok (.getfield 292, 3) := dk_180 1 36 (dk_at dksX0_apart_1 16 rfl rfl)
theorem dX0_apart_41 : decode cX0_apart 41 = .ok (.iload_n 1, 1) := dk_27 (dk_at dksX0_apart_1 19 rfl rfl)
theorem dX0_apart_42 : decode cX0_apart 42 = .ok (.laload, 1) := dk_47 (dk_at dksX0_apart_1 20 rfl rfl)
theorem dX0_apart_43 : decode cX0_apart 43 = .ok (.invokevirtual 339, 3) := dk_182 1 83 (dk_at dksX0_apart_1 21 rfl rfl)
theorem dX0_apart_46 : decode cX0_apart 46 = .ok (.l2i, 1) := dk_136 (dk_at dksX0_apart_2 0 rfl rfl)
theorem dX0_apart_47 : decode cX0_apart 47 = .ok (.ireturn, 1) := dk_172 (dk_at dksX0_apart_2 1 rfl rfl)
abbrev cX0_isTold : ByteArray := prog_1_method_34_code
def yX0_isTold : MethodName := ⟨RX0, "isTold", "()Z"⟩
def dkwX0_isTold_0 : List UInt8 := [42, 182, 0, 126, 16, 12, 163, 0, 7, 4, 167, 0, 4, 3, 172]
abbrev dktX0_isTold_0 : List UInt8 := dkwX0_isTold_0 ++ []
theorem dksX0_isTold_0 : cX0_isTold.data.toList.drop 0 = dktX0_isTold_0 := by decide +kernel
theorem dX0_isTold_0 : decode cX0_isTold 0 = .ok (.aload_n 0, 1) := dk_42 (dk_at dksX0_isTold_0 0 rfl rfl)
theorem dX0_isTold_1 : decode cX0_isTold 1 = .ok (.invokevirtual 126, 3) := dk_182 0 126 (dk_at dksX0_isTold_0 1 rfl rfl)
theorem dX0_isTold_4 : decode cX0_isTold 4 = .ok (.bipush 12, 2) := dk_16 12 (dk_at dksX0_isTold_0 4 rfl rfl)
theorem dX0_isTold_6 : decode cX0_isTold 6 = .ok (.if_icmp .gt 7, 3) := dk_163 0 7 (dk_at dksX0_isTold_0 6 rfl rfl)
theorem dX0_isTold_9 : decode cX0_isTold 9 = .ok (.iconst 1, 1) := dk_4 (dk_at dksX0_isTold_0 9 rfl rfl)
theorem dX0_isTold_10 : decode cX0_isTold 10 = .ok (.goto 4, 3) := dk_167 0 4 (dk_at dksX0_isTold_0 10 rfl rfl)
theorem dX0_isTold_13 : decode cX0_isTold 13 = .ok (.iconst 0, 1) := dk_3 (dk_at dksX0_isTold_0 13 rfl rfl)
theorem dX0_isTold_14 : decode cX0_isTold 14 = .ok (.ireturn, 1) := dk_172 (dk_at dksX0_isTold_0 14 rfl rfl)
abbrev cX0_renamed : ByteArray := prog_1_method_40_code
def yX0_renamed : MethodName := ⟨RX0, "renamed", "(J[I)J"⟩
def dkwX0_renamed_8 : List UInt8 := [167, 255, 75, 22, 4, 173]
abbrev dktX0_renamed_8 : List UInt8 := dkwX0_renamed_8 ++ []
def dkwX0_renamed_7 : List UInt8 := [182, 0, 127, 129, 55, 4, 132, 6, 1, 132, 12, 1, 167, 255, 172, 132, 11, 1, 167, 255, 156, 132, 7, 1]
abbrev dktX0_renamed_7 : List UInt8 := dkwX0_renamed_7 ++ dktX0_renamed_8
def dkwX0_renamed_6 : List UInt8 := [153, 0, 7, 3, 167, 0, 17, 21, 10, 45, 25, 8, 180, 1, 73, 46, 21, 12, 184, 1, 76, 182, 0, 131]
abbrev dktX0_renamed_6 : List UInt8 := dkwX0_renamed_6 ++ dktX0_renamed_7
def dkwX0_renamed_5 : List UInt8 := [182, 0, 95, 21, 7, 21, 9, 45, 25, 8, 180, 1, 70, 46, 21, 11, 184, 1, 76, 25, 8, 182, 0, 148]
abbrev dktX0_renamed_5 : List UInt8 := dkwX0_renamed_5 ++ dktX0_renamed_6
def dkwX0_renamed_4 : List UInt8 := [21, 12, 21, 10, 162, 0, 83, 31, 42, 21, 6, 182, 0, 127, 127, 9, 148, 153, 0, 61, 22, 4, 42, 42]
abbrev dktX0_renamed_4 : List UInt8 := dkwX0_renamed_4 ++ dktX0_renamed_5
def dkwX0_renamed_3 : List UInt8 := [25, 8, 180, 1, 73, 182, 0, 98, 54, 10, 3, 54, 11, 21, 11, 21, 9, 162, 0, 99, 3, 54, 12]
abbrev dktX0_renamed_3 : List UInt8 := dkwX0_renamed_3 ++ dktX0_renamed_4
def dkwX0_renamed_2 : List UInt8 := [180, 1, 70, 182, 0, 98, 54, 9, 25, 8, 182, 0, 148, 153, 0, 7, 4, 167, 0, 15, 42, 182, 0, 95]
abbrev dktX0_renamed_2 : List UInt8 := dkwX0_renamed_2 ++ dktX0_renamed_3
def dkwX0_renamed_1 : List UInt8 := [42, 182, 0, 95, 180, 0, 108, 21, 7, 182, 0, 144, 192, 0, 114, 58, 8, 42, 182, 0, 95, 25, 8]
abbrev dktX0_renamed_1 : List UInt8 := dkwX0_renamed_1 ++ dktX0_renamed_2
def dkwX0_renamed_0 : List UInt8 := [9, 55, 4, 3, 54, 6, 3, 54, 7, 21, 7, 42, 182, 0, 95, 180, 0, 108, 182, 0, 111, 162, 0, 172]
abbrev dktX0_renamed_0 : List UInt8 := dkwX0_renamed_0 ++ dktX0_renamed_1
theorem dksX0_renamed_0 : cX0_renamed.data.toList.drop 0 = dktX0_renamed_0 := by decide +kernel
theorem dksX0_renamed_1 : cX0_renamed.data.toList.drop 24 = dktX0_renamed_1 := dk_seg dksX0_renamed_0 24 rfl rfl
theorem dksX0_renamed_2 : cX0_renamed.data.toList.drop 47 = dktX0_renamed_2 := dk_seg dksX0_renamed_1 23 rfl rfl
theorem dksX0_renamed_3 : cX0_renamed.data.toList.drop 71 = dktX0_renamed_3 := dk_seg dksX0_renamed_2 24 rfl rfl
theorem dksX0_renamed_4 : cX0_renamed.data.toList.drop 94 = dktX0_renamed_4 := dk_seg dksX0_renamed_3 23 rfl rfl
theorem dksX0_renamed_5 : cX0_renamed.data.toList.drop 118 = dktX0_renamed_5 := dk_seg dksX0_renamed_4 24 rfl rfl
theorem dksX0_renamed_6 : cX0_renamed.data.toList.drop 142 = dktX0_renamed_6 := dk_seg dksX0_renamed_5 24 rfl rfl
theorem dksX0_renamed_7 : cX0_renamed.data.toList.drop 166 = dktX0_renamed_7 := dk_seg dksX0_renamed_6 24 rfl rfl
theorem dksX0_renamed_8 : cX0_renamed.data.toList.drop 190 = dktX0_renamed_8 := dk_seg dksX0_renamed_7 24 rfl rfl
theorem dX0_renamed_0 : decode cX0_renamed 0 = .ok (.lconst 0, 1) := dk_9 (dk_at dksX0_renamed_0 0 rfl rfl)
theorem dX0_renamed_1 : decode cX0_renamed 1 = .ok (.lstore 4, 2) := dk_55 4 (dk_at dksX0_renamed_0 1 rfl rfl)
theorem dX0_renamed_3 : decode cX0_renamed 3 = .ok (.iconst 0, 1) := dk_3 (dk_at dksX0_renamed_0 3 rfl rfl)
theorem dX0_renamed_4 : decode cX0_renamed 4 = .ok (.istore 6, 2) := dk_54 6 (dk_at dksX0_renamed_0 4 rfl rfl)
theorem dX0_renamed_6 : decode cX0_renamed 6 = .ok (.iconst 0, 1) := dk_3 (dk_at dksX0_renamed_0 6 rfl rfl)
theorem dX0_renamed_7 : decode cX0_renamed 7 = .ok (.istore 7, 2) := dk_54 7 (dk_at dksX0_renamed_0 7 rfl rfl)
theorem dX0_renamed_9 : decode cX0_renamed 9 = .ok (.iload 7, 2) := dk_21 7 (dk_at dksX0_renamed_0 9 rfl rfl)
theorem dX0_renamed_11 : decode cX0_renamed 11 = .ok (.aload_n 0, 1) := dk_42 (dk_at dksX0_renamed_0 11 rfl rfl)
theorem dX0_renamed_12 : decode cX0_renamed 12 = .ok (.invokevirtual 95, 3) := dk_182 0 95 (dk_at dksX0_renamed_0 12 rfl rfl)
theorem dX0_renamed_15 : decode cX0_renamed 15 = .ok (.getfield 108, 3) := dk_180 0 108 (dk_at dksX0_renamed_0 15 rfl rfl)
theorem dX0_renamed_18 : decode cX0_renamed 18 = .ok (.invokevirtual 111, 3) := dk_182 0 111 (dk_at dksX0_renamed_0 18 rfl rfl)
theorem dX0_renamed_21 : decode cX0_renamed 21 = .ok (.if_icmp .ge 172, 3) := dk_162 0 172 (dk_at dksX0_renamed_0 21 rfl rfl)
theorem dX0_renamed_24 : decode cX0_renamed 24 = .ok (.aload_n 0, 1) := dk_42 (dk_at dksX0_renamed_1 0 rfl rfl)
theorem dX0_renamed_25 : decode cX0_renamed 25 = .ok (.invokevirtual 95, 3) := dk_182 0 95 (dk_at dksX0_renamed_1 1 rfl rfl)
theorem dX0_renamed_28 : decode cX0_renamed 28 = .ok (.getfield 108, 3) := dk_180 0 108 (dk_at dksX0_renamed_1 4 rfl rfl)
theorem dX0_renamed_31 : decode cX0_renamed 31 = .ok (.iload 7, 2) := dk_21 7 (dk_at dksX0_renamed_1 7 rfl rfl)
theorem dX0_renamed_33 : decode cX0_renamed 33 = .ok (.invokevirtual 144, 3) := dk_182 0 144 (dk_at dksX0_renamed_1 9 rfl rfl)
theorem dX0_renamed_36 : decode cX0_renamed 36 = .ok (.checkcast 114, 3) := dk_192 0 114 (dk_at dksX0_renamed_1 12 rfl rfl)
theorem dX0_renamed_39 : decode cX0_renamed 39 = .ok (.astore 8, 2) := dk_58 8 (dk_at dksX0_renamed_1 15 rfl rfl)
theorem dX0_renamed_41 : decode cX0_renamed 41 = .ok (.aload_n 0, 1) := dk_42 (dk_at dksX0_renamed_1 17 rfl rfl)
theorem dX0_renamed_42 : decode cX0_renamed 42 = .ok (.invokevirtual 95, 3) := dk_182 0 95 (dk_at dksX0_renamed_1 18 rfl rfl)
theorem dX0_renamed_45 : decode cX0_renamed 45 = .ok (.aload 8, 2) := dk_25 8 (dk_at dksX0_renamed_1 21 rfl rfl)
theorem dX0_renamed_47 : decode cX0_renamed 47 = .ok (.getfield 326, 3) := dk_180 1 70 (dk_at dksX0_renamed_2 0 rfl rfl)
theorem dX0_renamed_50 : decode cX0_renamed 50 = .ok (.invokevirtual 98, 3) := dk_182 0 98 (dk_at dksX0_renamed_2 3 rfl rfl)
theorem dX0_renamed_53 : decode cX0_renamed 53 = .ok (.istore 9, 2) := dk_54 9 (dk_at dksX0_renamed_2 6 rfl rfl)
theorem dX0_renamed_55 : decode cX0_renamed 55 = .ok (.aload 8, 2) := dk_25 8 (dk_at dksX0_renamed_2 8 rfl rfl)
theorem dX0_renamed_57 : decode cX0_renamed 57 = .ok (.invokevirtual 148, 3) := dk_182 0 148 (dk_at dksX0_renamed_2 10 rfl rfl)
theorem dX0_renamed_60 : decode cX0_renamed 60 = .ok (.ifCond .eq 7, 3) := dk_153 0 7 (dk_at dksX0_renamed_2 13 rfl rfl)
theorem dX0_renamed_63 : decode cX0_renamed 63 = .ok (.iconst 1, 1) := dk_4 (dk_at dksX0_renamed_2 16 rfl rfl)
theorem dX0_renamed_64 : decode cX0_renamed 64 = .ok (.goto 15, 3) := dk_167 0 15 (dk_at dksX0_renamed_2 17 rfl rfl)
theorem dX0_renamed_67 : decode cX0_renamed 67 = .ok (.aload_n 0, 1) := dk_42 (dk_at dksX0_renamed_2 20 rfl rfl)
theorem dX0_renamed_68 : decode cX0_renamed 68 = .ok (.invokevirtual 95, 3) := dk_182 0 95 (dk_at dksX0_renamed_2 21 rfl rfl)
theorem dX0_renamed_71 : decode cX0_renamed 71 = .ok (.aload 8, 2) := dk_25 8 (dk_at dksX0_renamed_3 0 rfl rfl)
theorem dX0_renamed_73 : decode cX0_renamed 73 = .ok (.getfield 329, 3) := dk_180 1 73 (dk_at dksX0_renamed_3 2 rfl rfl)
theorem dX0_renamed_76 : decode cX0_renamed 76 = .ok (.invokevirtual 98, 3) := dk_182 0 98 (dk_at dksX0_renamed_3 5 rfl rfl)
theorem dX0_renamed_79 : decode cX0_renamed 79 = .ok (.istore 10, 2) := dk_54 10 (dk_at dksX0_renamed_3 8 rfl rfl)
theorem dX0_renamed_81 : decode cX0_renamed 81 = .ok (.iconst 0, 1) := dk_3 (dk_at dksX0_renamed_3 10 rfl rfl)
theorem dX0_renamed_82 : decode cX0_renamed 82 = .ok (.istore 11, 2) := dk_54 11 (dk_at dksX0_renamed_3 11 rfl rfl)
theorem dX0_renamed_84 : decode cX0_renamed 84 = .ok (.iload 11, 2) := dk_21 11 (dk_at dksX0_renamed_3 13 rfl rfl)
theorem dX0_renamed_86 : decode cX0_renamed 86 = .ok (.iload 9, 2) := dk_21 9 (dk_at dksX0_renamed_3 15 rfl rfl)
theorem dX0_renamed_88 : decode cX0_renamed 88 = .ok (.if_icmp .ge 99, 3) := dk_162 0 99 (dk_at dksX0_renamed_3 17 rfl rfl)
theorem dX0_renamed_91 : decode cX0_renamed 91 = .ok (.iconst 0, 1) := dk_3 (dk_at dksX0_renamed_3 20 rfl rfl)
theorem dX0_renamed_92 : decode cX0_renamed 92 = .ok (.istore 12, 2) := dk_54 12 (dk_at dksX0_renamed_3 21 rfl rfl)
theorem dX0_renamed_94 : decode cX0_renamed 94 = .ok (.iload 12, 2) := dk_21 12 (dk_at dksX0_renamed_4 0 rfl rfl)
theorem dX0_renamed_96 : decode cX0_renamed 96 = .ok (.iload 10, 2) := dk_21 10 (dk_at dksX0_renamed_4 2 rfl rfl)
theorem dX0_renamed_98 : decode cX0_renamed 98 = .ok (.if_icmp .ge 83, 3) := dk_162 0 83 (dk_at dksX0_renamed_4 4 rfl rfl)
theorem dX0_renamed_101 : decode cX0_renamed 101 = .ok (.lload_n 1, 1) := dk_31 (dk_at dksX0_renamed_4 7 rfl rfl)
theorem dX0_renamed_102 : decode cX0_renamed 102 = .ok (.aload_n 0, 1) := dk_42 (dk_at dksX0_renamed_4 8 rfl rfl)
theorem dX0_renamed_103 : decode cX0_renamed 103 = .ok (.iload 6, 2) := dk_21 6 (dk_at dksX0_renamed_4 9 rfl rfl)
theorem dX0_renamed_105 : decode cX0_renamed 105 = .ok (.invokevirtual 127, 3) := dk_182 0 127 (dk_at dksX0_renamed_4 11 rfl rfl)
theorem dX0_renamed_108 : decode cX0_renamed 108 = .ok (.land, 1) := dk_127 (dk_at dksX0_renamed_4 14 rfl rfl)
theorem dX0_renamed_109 : decode cX0_renamed 109 = .ok (.lconst 0, 1) := dk_9 (dk_at dksX0_renamed_4 15 rfl rfl)
theorem dX0_renamed_110 : decode cX0_renamed 110 = .ok (.lcmp, 1) := dk_148 (dk_at dksX0_renamed_4 16 rfl rfl)
theorem dX0_renamed_111 : decode cX0_renamed 111 = .ok (.ifCond .eq 61, 3) := dk_153 0 61 (dk_at dksX0_renamed_4 17 rfl rfl)
theorem dX0_renamed_114 : decode cX0_renamed 114 = .ok (.lload 4, 2) := dk_22 4 (dk_at dksX0_renamed_4 20 rfl rfl)
theorem dX0_renamed_116 : decode cX0_renamed 116 = .ok (.aload_n 0, 1) := dk_42 (dk_at dksX0_renamed_4 22 rfl rfl)
theorem dX0_renamed_117 : decode cX0_renamed 117 = .ok (.aload_n 0, 1) := dk_42 (dk_at dksX0_renamed_4 23 rfl rfl)
theorem dX0_renamed_118 : decode cX0_renamed 118 = .ok (.invokevirtual 95, 3) := dk_182 0 95 (dk_at dksX0_renamed_5 0 rfl rfl)
theorem dX0_renamed_121 : decode cX0_renamed 121 = .ok (.iload 7, 2) := dk_21 7 (dk_at dksX0_renamed_5 3 rfl rfl)
theorem dX0_renamed_123 : decode cX0_renamed 123 = .ok (.iload 9, 2) := dk_21 9 (dk_at dksX0_renamed_5 5 rfl rfl)
theorem dX0_renamed_125 : decode cX0_renamed 125 = .ok (.aload_n 3, 1) := dk_45 (dk_at dksX0_renamed_5 7 rfl rfl)
theorem dX0_renamed_126 : decode cX0_renamed 126 = .ok (.aload 8, 2) := dk_25 8 (dk_at dksX0_renamed_5 8 rfl rfl)
theorem dX0_renamed_128 : decode cX0_renamed 128 = .ok (.getfield 326, 3) := dk_180 1 70 (dk_at dksX0_renamed_5 10 rfl rfl)
theorem dX0_renamed_131 : decode cX0_renamed 131 = .ok (.iaload, 1) := dk_46 (dk_at dksX0_renamed_5 13 rfl rfl)
theorem dX0_renamed_132 : decode cX0_renamed 132 = .ok (.iload 11, 2) := dk_21 11 (dk_at dksX0_renamed_5 14 rfl rfl)
theorem dX0_renamed_134 : decode cX0_renamed 134 = .ok (.invokestatic 332, 3) := dk_184 1 76 (dk_at dksX0_renamed_5 16 rfl rfl)
theorem dX0_renamed_137 : decode cX0_renamed 137 = .ok (.aload 8, 2) := dk_25 8 (dk_at dksX0_renamed_5 19 rfl rfl)
theorem dX0_renamed_139 : decode cX0_renamed 139 = .ok (.invokevirtual 148, 3) := dk_182 0 148 (dk_at dksX0_renamed_5 21 rfl rfl)
theorem dX0_renamed_142 : decode cX0_renamed 142 = .ok (.ifCond .eq 7, 3) := dk_153 0 7 (dk_at dksX0_renamed_6 0 rfl rfl)
theorem dX0_renamed_145 : decode cX0_renamed 145 = .ok (.iconst 0, 1) := dk_3 (dk_at dksX0_renamed_6 3 rfl rfl)
theorem dX0_renamed_146 : decode cX0_renamed 146 = .ok (.goto 17, 3) := dk_167 0 17 (dk_at dksX0_renamed_6 4 rfl rfl)
theorem dX0_renamed_149 : decode cX0_renamed 149 = .ok (.iload 10, 2) := dk_21 10 (dk_at dksX0_renamed_6 7 rfl rfl)
theorem dX0_renamed_151 : decode cX0_renamed 151 = .ok (.aload_n 3, 1) := dk_45 (dk_at dksX0_renamed_6 9 rfl rfl)
theorem dX0_renamed_152 : decode cX0_renamed 152 = .ok (.aload 8, 2) := dk_25 8 (dk_at dksX0_renamed_6 10 rfl rfl)
theorem dX0_renamed_154 : decode cX0_renamed 154 = .ok (.getfield 329, 3) := dk_180 1 73 (dk_at dksX0_renamed_6 12 rfl rfl)
theorem dX0_renamed_157 : decode cX0_renamed 157 = .ok (.iaload, 1) := dk_46 (dk_at dksX0_renamed_6 15 rfl rfl)
theorem dX0_renamed_158 : decode cX0_renamed 158 = .ok (.iload 12, 2) := dk_21 12 (dk_at dksX0_renamed_6 16 rfl rfl)
theorem dX0_renamed_160 : decode cX0_renamed 160 = .ok (.invokestatic 332, 3) := dk_184 1 76 (dk_at dksX0_renamed_6 18 rfl rfl)
theorem dX0_renamed_163 : decode cX0_renamed 163 = .ok (.invokevirtual 131, 3) := dk_182 0 131 (dk_at dksX0_renamed_6 21 rfl rfl)
theorem dX0_renamed_166 : decode cX0_renamed 166 = .ok (.invokevirtual 127, 3) := dk_182 0 127 (dk_at dksX0_renamed_7 0 rfl rfl)
theorem dX0_renamed_169 : decode cX0_renamed 169 = .ok (.lor, 1) := dk_129 (dk_at dksX0_renamed_7 3 rfl rfl)
theorem dX0_renamed_170 : decode cX0_renamed 170 = .ok (.lstore 4, 2) := dk_55 4 (dk_at dksX0_renamed_7 4 rfl rfl)
theorem dX0_renamed_172 : decode cX0_renamed 172 = .ok (.iinc 6 1, 3) := dk_132 6 1 (dk_at dksX0_renamed_7 6 rfl rfl)
theorem dX0_renamed_175 : decode cX0_renamed 175 = .ok (.iinc 12 1, 3) := dk_132 12 1 (dk_at dksX0_renamed_7 9 rfl rfl)
theorem dX0_renamed_178 : decode cX0_renamed 178 = .ok (.goto (-84), 3) := dk_167 255 172 (dk_at dksX0_renamed_7 12 rfl rfl)
theorem dX0_renamed_181 : decode cX0_renamed 181 = .ok (.iinc 11 1, 3) := dk_132 11 1 (dk_at dksX0_renamed_7 15 rfl rfl)
theorem dX0_renamed_184 : decode cX0_renamed 184 = .ok (.goto (-100), 3) := dk_167 255 156 (dk_at dksX0_renamed_7 18 rfl rfl)
theorem dX0_renamed_187 : decode cX0_renamed 187 = .ok (.iinc 7 1, 3) := dk_132 7 1 (dk_at dksX0_renamed_7 21 rfl rfl)
theorem dX0_renamed_190 : decode cX0_renamed 190 = .ok (.goto (-181), 3) := dk_167 255 75 (dk_at dksX0_renamed_8 0 rfl rfl)
theorem dX0_renamed_193 : decode cX0_renamed 193 = .ok (.lload 4, 2) := dk_22 4 (dk_at dksX0_renamed_8 3 rfl rfl)
theorem dX0_renamed_195 : decode cX0_renamed 195 = .ok (.lreturn, 1) := dk_173 (dk_at dksX0_renamed_8 5 rfl rfl)
abbrev cX0_turned : ByteArray := prog_1_method_39_code
def yX0_turned : MethodName := ⟨RX0, "turned", "(III)I"⟩
def dkwX0_turned_1 : List UInt8 := [28, 46, 172]
abbrev dktX0_turned_1 : List UInt8 := dkwX0_turned_1 ++ []
def dkwX0_turned_0 : List UInt8 := [26, 5, 160, 0, 17, 27, 154, 0, 7, 28, 167, 0, 16, 4, 28, 100, 167, 0, 10, 178, 1, 66, 27, 50]
abbrev dktX0_turned_0 : List UInt8 := dkwX0_turned_0 ++ dktX0_turned_1
theorem dksX0_turned_0 : cX0_turned.data.toList.drop 0 = dktX0_turned_0 := by decide +kernel
theorem dksX0_turned_1 : cX0_turned.data.toList.drop 24 = dktX0_turned_1 := dk_seg dksX0_turned_0 24 rfl rfl
theorem dX0_turned_0 : decode cX0_turned 0 = .ok (.iload_n 0, 1) := dk_26 (dk_at dksX0_turned_0 0 rfl rfl)
theorem dX0_turned_1 : decode cX0_turned 1 = .ok (.iconst 2, 1) := dk_5 (dk_at dksX0_turned_0 1 rfl rfl)
theorem dX0_turned_2 : decode cX0_turned 2 = .ok (.if_icmp .ne 17, 3) := dk_160 0 17 (dk_at dksX0_turned_0 2 rfl rfl)
theorem dX0_turned_5 : decode cX0_turned 5 = .ok (.iload_n 1, 1) := dk_27 (dk_at dksX0_turned_0 5 rfl rfl)
theorem dX0_turned_6 : decode cX0_turned 6 = .ok (.ifCond .ne 7, 3) := dk_154 0 7 (dk_at dksX0_turned_0 6 rfl rfl)
theorem dX0_turned_9 : decode cX0_turned 9 = .ok (.iload_n 2, 1) := dk_28 (dk_at dksX0_turned_0 9 rfl rfl)
theorem dX0_turned_10 : decode cX0_turned 10 = .ok (.goto 16, 3) := dk_167 0 16 (dk_at dksX0_turned_0 10 rfl rfl)
theorem dX0_turned_13 : decode cX0_turned 13 = .ok (.iconst 1, 1) := dk_4 (dk_at dksX0_turned_0 13 rfl rfl)
theorem dX0_turned_14 : decode cX0_turned 14 = .ok (.iload_n 2, 1) := dk_28 (dk_at dksX0_turned_0 14 rfl rfl)
theorem dX0_turned_15 : decode cX0_turned 15 = .ok (.isub, 1) := dk_100 (dk_at dksX0_turned_0 15 rfl rfl)
theorem dX0_turned_16 : decode cX0_turned 16 = .ok (.goto 10, 3) := dk_167 0 10 (dk_at dksX0_turned_0 16 rfl rfl)
theorem dX0_turned_19 : decode cX0_turned 19 = .ok (.getstatic 322, 3) := dk_178 1 66 (dk_at dksX0_turned_0 19 rfl rfl)
theorem dX0_turned_22 : decode cX0_turned 22 = .ok (.iload_n 1, 1) := dk_27 (dk_at dksX0_turned_0 22 rfl rfl)
theorem dX0_turned_23 : decode cX0_turned 23 = .ok (.aaload, 1) := dk_50 (dk_at dksX0_turned_0 23 rfl rfl)
theorem dX0_turned_24 : decode cX0_turned 24 = .ok (.iload_n 2, 1) := dk_28 (dk_at dksX0_turned_1 0 rfl rfl)
theorem dX0_turned_25 : decode cX0_turned 25 = .ok (.iaload, 1) := dk_46 (dk_at dksX0_turned_1 1 rfl rfl)
theorem dX0_turned_26 : decode cX0_turned 26 = .ok (.ireturn, 1) := dk_172 (dk_at dksX0_turned_1 2 rfl rfl)
abbrev cX0_worlds : ByteArray := prog_1_method_44_code
def yX0_worlds : MethodName := ⟨RX0, "worlds", "()I"⟩
def dkwX0_worlds_0 : List UInt8 := [42, 182, 1, 91, 154, 0, 5, 2, 172, 42, 182, 1, 94, 42, 42, 182, 1, 97, 182, 1, 100, 172]
abbrev dktX0_worlds_0 : List UInt8 := dkwX0_worlds_0 ++ []
theorem dksX0_worlds_0 : cX0_worlds.data.toList.drop 0 = dktX0_worlds_0 := by decide +kernel
theorem dX0_worlds_0 : decode cX0_worlds 0 = .ok (.aload_n 0, 1) := dk_42 (dk_at dksX0_worlds_0 0 rfl rfl)
theorem dX0_worlds_1 : decode cX0_worlds 1 = .ok (.invokevirtual 347, 3) := dk_182 1 91 (dk_at dksX0_worlds_0 1 rfl rfl)
theorem dX0_worlds_4 : decode cX0_worlds 4 = .ok (.ifCond .ne 5, 3) := dk_154 0 5 (dk_at dksX0_worlds_0 4 rfl rfl)
theorem dX0_worlds_7 : decode cX0_worlds 7 = .ok (.iconst (-1), 1) := dk_2 (dk_at dksX0_worlds_0 7 rfl rfl)
theorem dX0_worlds_8 : decode cX0_worlds 8 = .ok (.ireturn, 1) := dk_172 (dk_at dksX0_worlds_0 8 rfl rfl)
theorem dX0_worlds_9 : decode cX0_worlds 9 = .ok (.aload_n 0, 1) := dk_42 (dk_at dksX0_worlds_0 9 rfl rfl)
theorem dX0_worlds_10 : decode cX0_worlds 10 = .ok (.invokevirtual 350, 3) := dk_182 1 94 (dk_at dksX0_worlds_0 10 rfl rfl)
theorem dX0_worlds_13 : decode cX0_worlds 13 = .ok (.aload_n 0, 1) := dk_42 (dk_at dksX0_worlds_0 13 rfl rfl)
theorem dX0_worlds_14 : decode cX0_worlds 14 = .ok (.aload_n 0, 1) := dk_42 (dk_at dksX0_worlds_0 14 rfl rfl)
theorem dX0_worlds_15 : decode cX0_worlds 15 = .ok (.invokevirtual 353, 3) := dk_182 1 97 (dk_at dksX0_worlds_0 15 rfl rfl)
theorem dX0_worlds_18 : decode cX0_worlds 18 = .ok (.invokevirtual 356, 3) := dk_182 1 100 (dk_at dksX0_worlds_0 18 rfl rfl)
theorem dX0_worlds_21 : decode cX0_worlds 21 = .ok (.ireturn, 1) := dk_172 (dk_at dksX0_worlds_0 21 rfl rfl)
abbrev cX0_looks : ByteArray := prog_1_method_37_code
def yX0_looks : MethodName := ⟨RX0, "looks", "()V"⟩
def dkwX0_looks_4 : List UInt8 := [42, 4, 181, 0, 87, 177]
abbrev dktX0_looks_4 : List UInt8 := dkwX0_looks_4 ++ []
def dkwX0_looks_3 : List UInt8 := [167, 255, 212, 42, 180, 0, 36, 27, 28, 145, 84, 42, 180, 0, 40, 27, 3, 84, 132, 1, 1, 167, 255, 179]
abbrev dktX0_looks_3 : List UInt8 := dkwX0_looks_3 ++ dktX0_looks_4
def dkwX0_looks_2 : List UInt8 := [180, 0, 241, 42, 182, 0, 95, 27, 133, 182, 0, 244, 153, 0, 9, 28, 4, 29, 120, 128, 61, 132, 3, 1]
abbrev dktX0_looks_2 : List UInt8 := dkwX0_looks_2 ++ dktX0_looks_3
def dkwX0_looks_1 : List UInt8 := [3, 62, 29, 42, 180, 0, 12, 180, 0, 183, 182, 0, 111, 162, 0, 36, 42, 42, 29, 182, 0, 217]
abbrev dktX0_looks_1 : List UInt8 := dkwX0_looks_1 ++ dktX0_looks_2
def dkwX0_looks_0 : List UInt8 := [42, 182, 1, 60, 42, 180, 0, 87, 153, 0, 4, 177, 3, 60, 27, 42, 182, 1, 63, 162, 0, 75, 3, 61]
abbrev dktX0_looks_0 : List UInt8 := dkwX0_looks_0 ++ dktX0_looks_1
theorem dksX0_looks_0 : cX0_looks.data.toList.drop 0 = dktX0_looks_0 := by decide +kernel
theorem dksX0_looks_1 : cX0_looks.data.toList.drop 24 = dktX0_looks_1 := dk_seg dksX0_looks_0 24 rfl rfl
theorem dksX0_looks_2 : cX0_looks.data.toList.drop 46 = dktX0_looks_2 := dk_seg dksX0_looks_1 22 rfl rfl
theorem dksX0_looks_3 : cX0_looks.data.toList.drop 70 = dktX0_looks_3 := dk_seg dksX0_looks_2 24 rfl rfl
theorem dksX0_looks_4 : cX0_looks.data.toList.drop 94 = dktX0_looks_4 := dk_seg dksX0_looks_3 24 rfl rfl
theorem dX0_looks_0 : decode cX0_looks 0 = .ok (.aload_n 0, 1) := dk_42 (dk_at dksX0_looks_0 0 rfl rfl)
theorem dX0_looks_1 : decode cX0_looks 1 = .ok (.invokevirtual 316, 3) := dk_182 1 60 (dk_at dksX0_looks_0 1 rfl rfl)
theorem dX0_looks_4 : decode cX0_looks 4 = .ok (.aload_n 0, 1) := dk_42 (dk_at dksX0_looks_0 4 rfl rfl)
theorem dX0_looks_5 : decode cX0_looks 5 = .ok (.getfield 87, 3) := dk_180 0 87 (dk_at dksX0_looks_0 5 rfl rfl)
theorem dX0_looks_8 : decode cX0_looks 8 = .ok (.ifCond .eq 4, 3) := dk_153 0 4 (dk_at dksX0_looks_0 8 rfl rfl)
theorem dX0_looks_11 : decode cX0_looks 11 = .ok (.return_, 1) := dk_177 (dk_at dksX0_looks_0 11 rfl rfl)
theorem dX0_looks_12 : decode cX0_looks 12 = .ok (.iconst 0, 1) := dk_3 (dk_at dksX0_looks_0 12 rfl rfl)
theorem dX0_looks_13 : decode cX0_looks 13 = .ok (.istore_n 1, 1) := dk_60 (dk_at dksX0_looks_0 13 rfl rfl)
theorem dX0_looks_14 : decode cX0_looks 14 = .ok (.iload_n 1, 1) := dk_27 (dk_at dksX0_looks_0 14 rfl rfl)
theorem dX0_looks_15 : decode cX0_looks 15 = .ok (.aload_n 0, 1) := dk_42 (dk_at dksX0_looks_0 15 rfl rfl)
theorem dX0_looks_16 : decode cX0_looks 16 = .ok (.invokevirtual 319, 3) := dk_182 1 63 (dk_at dksX0_looks_0 16 rfl rfl)
theorem dX0_looks_19 : decode cX0_looks 19 = .ok (.if_icmp .ge 75, 3) := dk_162 0 75 (dk_at dksX0_looks_0 19 rfl rfl)
theorem dX0_looks_22 : decode cX0_looks 22 = .ok (.iconst 0, 1) := dk_3 (dk_at dksX0_looks_0 22 rfl rfl)
theorem dX0_looks_23 : decode cX0_looks 23 = .ok (.istore_n 2, 1) := dk_61 (dk_at dksX0_looks_0 23 rfl rfl)
theorem dX0_looks_24 : decode cX0_looks 24 = .ok (.iconst 0, 1) := dk_3 (dk_at dksX0_looks_1 0 rfl rfl)
theorem dX0_looks_25 : decode cX0_looks 25 = .ok (.istore_n 3, 1) := dk_62 (dk_at dksX0_looks_1 1 rfl rfl)
theorem dX0_looks_26 : decode cX0_looks 26 = .ok (.iload_n 3, 1) := dk_29 (dk_at dksX0_looks_1 2 rfl rfl)
theorem dX0_looks_27 : decode cX0_looks 27 = .ok (.aload_n 0, 1) := dk_42 (dk_at dksX0_looks_1 3 rfl rfl)
theorem dX0_looks_28 : decode cX0_looks 28 = .ok (.getfield 12, 3) := dk_180 0 12 (dk_at dksX0_looks_1 4 rfl rfl)
theorem dX0_looks_31 : decode cX0_looks 31 = .ok (.getfield 183, 3) := dk_180 0 183 (dk_at dksX0_looks_1 7 rfl rfl)
theorem dX0_looks_34 : decode cX0_looks 34 = .ok (.invokevirtual 111, 3) := dk_182 0 111 (dk_at dksX0_looks_1 10 rfl rfl)
theorem dX0_looks_37 : decode cX0_looks 37 = .ok (.if_icmp .ge 36, 3) := dk_162 0 36 (dk_at dksX0_looks_1 13 rfl rfl)
theorem dX0_looks_40 : decode cX0_looks 40 = .ok (.aload_n 0, 1) := dk_42 (dk_at dksX0_looks_1 16 rfl rfl)
theorem dX0_looks_41 : decode cX0_looks 41 = .ok (.aload_n 0, 1) := dk_42 (dk_at dksX0_looks_1 17 rfl rfl)
theorem dX0_looks_42 : decode cX0_looks 42 = .ok (.iload_n 3, 1) := dk_29 (dk_at dksX0_looks_1 18 rfl rfl)
theorem dX0_looks_43 : decode cX0_looks 43 = .ok (.invokevirtual 217, 3) := dk_182 0 217 (dk_at dksX0_looks_1 19 rfl rfl)
theorem dX0_looks_46 : decode cX0_looks 46 = .ok (.getfield 241, 3) := dk_180 0 241 (dk_at dksX0_looks_2 0 rfl rfl)
theorem dX0_looks_49 : decode cX0_looks 49 = .ok (.aload_n 0, 1) := dk_42 (dk_at dksX0_looks_2 3 rfl rfl)
theorem dX0_looks_50 : decode cX0_looks 50 = .ok (.invokevirtual 95, 3) := dk_182 0 95 (dk_at dksX0_looks_2 4 rfl rfl)
theorem dX0_looks_53 : decode cX0_looks 53 = .ok (.iload_n 1, 1) := dk_27 (dk_at dksX0_looks_2 7 rfl rfl)
theorem dX0_looks_54 : decode cX0_looks 54 = .ok (.i2l, 1) := dk_133 (dk_at dksX0_looks_2 8 rfl rfl)
theorem dX0_looks_55 : decode cX0_looks 55 = .ok (.invokevirtual 244, 3) := dk_182 0 244 (dk_at dksX0_looks_2 9 rfl rfl)
theorem dX0_looks_58 : decode cX0_looks 58 = .ok (.ifCond .eq 9, 3) := dk_153 0 9 (dk_at dksX0_looks_2 12 rfl rfl)
theorem dX0_looks_61 : decode cX0_looks 61 = .ok (.iload_n 2, 1) := dk_28 (dk_at dksX0_looks_2 15 rfl rfl)
theorem dX0_looks_62 : decode cX0_looks 62 = .ok (.iconst 1, 1) := dk_4 (dk_at dksX0_looks_2 16 rfl rfl)
theorem dX0_looks_63 : decode cX0_looks 63 = .ok (.iload_n 3, 1) := dk_29 (dk_at dksX0_looks_2 17 rfl rfl)
theorem dX0_looks_64 : decode cX0_looks 64 = .ok (.ishl, 1) := dk_120 (dk_at dksX0_looks_2 18 rfl rfl)
theorem dX0_looks_65 : decode cX0_looks 65 = .ok (.ior, 1) := dk_128 (dk_at dksX0_looks_2 19 rfl rfl)
theorem dX0_looks_66 : decode cX0_looks 66 = .ok (.istore_n 2, 1) := dk_61 (dk_at dksX0_looks_2 20 rfl rfl)
theorem dX0_looks_67 : decode cX0_looks 67 = .ok (.iinc 3 1, 3) := dk_132 3 1 (dk_at dksX0_looks_2 21 rfl rfl)
theorem dX0_looks_70 : decode cX0_looks 70 = .ok (.goto (-44), 3) := dk_167 255 212 (dk_at dksX0_looks_3 0 rfl rfl)
theorem dX0_looks_73 : decode cX0_looks 73 = .ok (.aload_n 0, 1) := dk_42 (dk_at dksX0_looks_3 3 rfl rfl)
theorem dX0_looks_74 : decode cX0_looks 74 = .ok (.getfield 36, 3) := dk_180 0 36 (dk_at dksX0_looks_3 4 rfl rfl)
theorem dX0_looks_77 : decode cX0_looks 77 = .ok (.iload_n 1, 1) := dk_27 (dk_at dksX0_looks_3 7 rfl rfl)
theorem dX0_looks_78 : decode cX0_looks 78 = .ok (.iload_n 2, 1) := dk_28 (dk_at dksX0_looks_3 8 rfl rfl)
theorem dX0_looks_79 : decode cX0_looks 79 = .ok (.i2b, 1) := dk_145 (dk_at dksX0_looks_3 9 rfl rfl)
theorem dX0_looks_80 : decode cX0_looks 80 = .ok (.bastore, 1) := dk_84 (dk_at dksX0_looks_3 10 rfl rfl)
theorem dX0_looks_81 : decode cX0_looks 81 = .ok (.aload_n 0, 1) := dk_42 (dk_at dksX0_looks_3 11 rfl rfl)
theorem dX0_looks_82 : decode cX0_looks 82 = .ok (.getfield 40, 3) := dk_180 0 40 (dk_at dksX0_looks_3 12 rfl rfl)
theorem dX0_looks_85 : decode cX0_looks 85 = .ok (.iload_n 1, 1) := dk_27 (dk_at dksX0_looks_3 15 rfl rfl)
theorem dX0_looks_86 : decode cX0_looks 86 = .ok (.iconst 0, 1) := dk_3 (dk_at dksX0_looks_3 16 rfl rfl)
theorem dX0_looks_87 : decode cX0_looks 87 = .ok (.bastore, 1) := dk_84 (dk_at dksX0_looks_3 17 rfl rfl)
theorem dX0_looks_88 : decode cX0_looks 88 = .ok (.iinc 1 1, 3) := dk_132 1 1 (dk_at dksX0_looks_3 18 rfl rfl)
theorem dX0_looks_91 : decode cX0_looks 91 = .ok (.goto (-77), 3) := dk_167 255 179 (dk_at dksX0_looks_3 21 rfl rfl)
theorem dX0_looks_94 : decode cX0_looks 94 = .ok (.aload_n 0, 1) := dk_42 (dk_at dksX0_looks_4 0 rfl rfl)
theorem dX0_looks_95 : decode cX0_looks 95 = .ok (.iconst 1, 1) := dk_4 (dk_at dksX0_looks_4 1 rfl rfl)
theorem dX0_looks_96 : decode cX0_looks 96 = .ok (.putfield 87, 3) := dk_181 0 87 (dk_at dksX0_looks_4 2 rfl rfl)
theorem dX0_looks_99 : decode cX0_looks 99 = .ok (.return_, 1) := dk_177 (dk_at dksX0_looks_4 5 rfl rfl)
abbrev cX0_knows : ByteArray := prog_1_method_36_code
def yX0_knows : MethodName := ⟨RX0, "knows", "()V"⟩
def dkwX0_knows_5 : List UInt8 := [42, 180, 1, 43, 42, 29, 182, 0, 127, 20, 1, 58, 131, 127, 181, 1, 43, 132, 1, 1, 167, 255, 130, 177]
abbrev dktX0_knows_5 : List UInt8 := dkwX0_knows_5 ++ []
def dkwX0_knows_4 : List UInt8 := [181, 1, 40, 42, 44, 180, 1, 56, 153, 0, 16, 42, 180, 1, 43, 42, 29, 182, 0, 127, 129, 167, 0, 17]
abbrev dktX0_knows_4 : List UInt8 := dkwX0_knows_4 ++ dktX0_knows_5
def dkwX0_knows_3 : List UInt8 := [44, 180, 1, 55, 182, 0, 228, 154, 0, 6, 167, 0, 55, 42, 89, 180, 1, 40, 42, 29, 182, 0, 127, 129]
abbrev dktX0_knows_3 : List UInt8 := dkwX0_knows_3 ++ dktX0_knows_4
def dkwX0_knows_2 : List UInt8 := [180, 1, 46, 44, 180, 1, 49, 44, 180, 1, 52, 182, 0, 131, 62, 29, 2, 159, 0, 72, 42, 180, 0, 12]
abbrev dktX0_knows_2 : List UInt8 := dkwX0_knows_2 ++ dktX0_knows_3
def dkwX0_knows_1 : List UInt8 := [162, 0, 118, 42, 180, 0, 12, 180, 0, 138, 27, 182, 0, 144, 192, 0, 152, 77, 42, 182, 0, 95, 44]
abbrev dktX0_knows_1 : List UInt8 := dkwX0_knows_1 ++ dktX0_knows_2
def dkwX0_knows_0 : List UInt8 := [42, 9, 181, 1, 40, 42, 9, 181, 1, 43, 3, 60, 27, 42, 180, 0, 12, 180, 0, 138, 182, 0, 111]
abbrev dktX0_knows_0 : List UInt8 := dkwX0_knows_0 ++ dktX0_knows_1
theorem dksX0_knows_0 : cX0_knows.data.toList.drop 0 = dktX0_knows_0 := by decide +kernel
theorem dksX0_knows_1 : cX0_knows.data.toList.drop 23 = dktX0_knows_1 := dk_seg dksX0_knows_0 23 rfl rfl
theorem dksX0_knows_2 : cX0_knows.data.toList.drop 46 = dktX0_knows_2 := dk_seg dksX0_knows_1 23 rfl rfl
theorem dksX0_knows_3 : cX0_knows.data.toList.drop 70 = dktX0_knows_3 := dk_seg dksX0_knows_2 24 rfl rfl
theorem dksX0_knows_4 : cX0_knows.data.toList.drop 94 = dktX0_knows_4 := dk_seg dksX0_knows_3 24 rfl rfl
theorem dksX0_knows_5 : cX0_knows.data.toList.drop 118 = dktX0_knows_5 := dk_seg dksX0_knows_4 24 rfl rfl
theorem dX0_knows_0 : decode cX0_knows 0 = .ok (.aload_n 0, 1) := dk_42 (dk_at dksX0_knows_0 0 rfl rfl)
theorem dX0_knows_1 : decode cX0_knows 1 = .ok (.lconst 0, 1) := dk_9 (dk_at dksX0_knows_0 1 rfl rfl)
theorem dX0_knows_2 : decode cX0_knows 2 = .ok (.putfield 296, 3) := dk_181 1 40 (dk_at dksX0_knows_0 2 rfl rfl)
theorem dX0_knows_5 : decode cX0_knows 5 = .ok (.aload_n 0, 1) := dk_42 (dk_at dksX0_knows_0 5 rfl rfl)
theorem dX0_knows_6 : decode cX0_knows 6 = .ok (.lconst 0, 1) := dk_9 (dk_at dksX0_knows_0 6 rfl rfl)
theorem dX0_knows_7 : decode cX0_knows 7 = .ok (.putfield 299, 3) := dk_181 1 43 (dk_at dksX0_knows_0 7 rfl rfl)
theorem dX0_knows_10 : decode cX0_knows 10 = .ok (.iconst 0, 1) := dk_3 (dk_at dksX0_knows_0 10 rfl rfl)
theorem dX0_knows_11 : decode cX0_knows 11 = .ok (.istore_n 1, 1) := dk_60 (dk_at dksX0_knows_0 11 rfl rfl)
theorem dX0_knows_12 : decode cX0_knows 12 = .ok (.iload_n 1, 1) := dk_27 (dk_at dksX0_knows_0 12 rfl rfl)
theorem dX0_knows_13 : decode cX0_knows 13 = .ok (.aload_n 0, 1) := dk_42 (dk_at dksX0_knows_0 13 rfl rfl)
theorem dX0_knows_14 : decode cX0_knows 14 = .ok (.getfield 12, 3) := dk_180 0 12 (dk_at dksX0_knows_0 14 rfl rfl)
theorem dX0_knows_17 : decode cX0_knows 17 = .ok (.getfield 138, 3) := dk_180 0 138 (dk_at dksX0_knows_0 17 rfl rfl)
theorem dX0_knows_20 : decode cX0_knows 20 = .ok (.invokevirtual 111, 3) := dk_182 0 111 (dk_at dksX0_knows_0 20 rfl rfl)
theorem dX0_knows_23 : decode cX0_knows 23 = .ok (.if_icmp .ge 118, 3) := dk_162 0 118 (dk_at dksX0_knows_1 0 rfl rfl)
theorem dX0_knows_26 : decode cX0_knows 26 = .ok (.aload_n 0, 1) := dk_42 (dk_at dksX0_knows_1 3 rfl rfl)
theorem dX0_knows_27 : decode cX0_knows 27 = .ok (.getfield 12, 3) := dk_180 0 12 (dk_at dksX0_knows_1 4 rfl rfl)
theorem dX0_knows_30 : decode cX0_knows 30 = .ok (.getfield 138, 3) := dk_180 0 138 (dk_at dksX0_knows_1 7 rfl rfl)
theorem dX0_knows_33 : decode cX0_knows 33 = .ok (.iload_n 1, 1) := dk_27 (dk_at dksX0_knows_1 10 rfl rfl)
theorem dX0_knows_34 : decode cX0_knows 34 = .ok (.invokevirtual 144, 3) := dk_182 0 144 (dk_at dksX0_knows_1 11 rfl rfl)
theorem dX0_knows_37 : decode cX0_knows 37 = .ok (.checkcast 152, 3) := dk_192 0 152 (dk_at dksX0_knows_1 14 rfl rfl)
theorem dX0_knows_40 : decode cX0_knows 40 = .ok (.astore_n 2, 1) := dk_77 (dk_at dksX0_knows_1 17 rfl rfl)
theorem dX0_knows_41 : decode cX0_knows 41 = .ok (.aload_n 0, 1) := dk_42 (dk_at dksX0_knows_1 18 rfl rfl)
theorem dX0_knows_42 : decode cX0_knows 42 = .ok (.invokevirtual 95, 3) := dk_182 0 95 (dk_at dksX0_knows_1 19 rfl rfl)
theorem dX0_knows_45 : decode cX0_knows 45 = .ok (.aload_n 2, 1) := dk_44 (dk_at dksX0_knows_1 22 rfl rfl)
theorem dX0_knows_46 : decode cX0_knows 46 = .ok (.getfield 302, 3) := dk_180 1 46 (dk_at dksX0_knows_2 0 rfl rfl)
theorem dX0_knows_49 : decode cX0_knows 49 = .ok (.aload_n 2, 1) := dk_44 (dk_at dksX0_knows_2 3 rfl rfl)
theorem dX0_knows_50 : decode cX0_knows 50 = .ok (.getfield 305, 3) := dk_180 1 49 (dk_at dksX0_knows_2 4 rfl rfl)
theorem dX0_knows_53 : decode cX0_knows 53 = .ok (.aload_n 2, 1) := dk_44 (dk_at dksX0_knows_2 7 rfl rfl)
theorem dX0_knows_54 : decode cX0_knows 54 = .ok (.getfield 308, 3) := dk_180 1 52 (dk_at dksX0_knows_2 8 rfl rfl)
theorem dX0_knows_57 : decode cX0_knows 57 = .ok (.invokevirtual 131, 3) := dk_182 0 131 (dk_at dksX0_knows_2 11 rfl rfl)
theorem dX0_knows_60 : decode cX0_knows 60 = .ok (.istore_n 3, 1) := dk_62 (dk_at dksX0_knows_2 14 rfl rfl)
theorem dX0_knows_61 : decode cX0_knows 61 = .ok (.iload_n 3, 1) := dk_29 (dk_at dksX0_knows_2 15 rfl rfl)
theorem dX0_knows_62 : decode cX0_knows 62 = .ok (.iconst (-1), 1) := dk_2 (dk_at dksX0_knows_2 16 rfl rfl)
theorem dX0_knows_63 : decode cX0_knows 63 = .ok (.if_icmp .eq 72, 3) := dk_159 0 72 (dk_at dksX0_knows_2 17 rfl rfl)
theorem dX0_knows_66 : decode cX0_knows 66 = .ok (.aload_n 0, 1) := dk_42 (dk_at dksX0_knows_2 20 rfl rfl)
theorem dX0_knows_67 : decode cX0_knows 67 = .ok (.getfield 12, 3) := dk_180 0 12 (dk_at dksX0_knows_2 21 rfl rfl)
theorem dX0_knows_70 : decode cX0_knows 70 = .ok (.aload_n 2, 1) := dk_44 (dk_at dksX0_knows_3 0 rfl rfl)
theorem dX0_knows_71 : decode cX0_knows 71 = .ok (.getfield 311, 3) := dk_180 1 55 (dk_at dksX0_knows_3 1 rfl rfl)
theorem dX0_knows_74 : decode cX0_knows 74 = .ok (.invokevirtual 228, 3) := dk_182 0 228 (dk_at dksX0_knows_3 4 rfl rfl)
theorem dX0_knows_77 : decode cX0_knows 77 = .ok (.ifCond .ne 6, 3) := dk_154 0 6 (dk_at dksX0_knows_3 7 rfl rfl)
theorem dX0_knows_80 : decode cX0_knows 80 = .ok (.goto 55, 3) := dk_167 0 55 (dk_at dksX0_knows_3 10 rfl rfl)
theorem dX0_knows_83 : decode cX0_knows 83 = .ok (.aload_n 0, 1) := dk_42 (dk_at dksX0_knows_3 13 rfl rfl)
theorem dX0_knows_84 : decode cX0_knows 84 = .ok (.dup, 1) := dk_89 (dk_at dksX0_knows_3 14 rfl rfl)
theorem dX0_knows_85 : decode cX0_knows 85 = .ok (.getfield 296, 3) := dk_180 1 40 (dk_at dksX0_knows_3 15 rfl rfl)
theorem dX0_knows_88 : decode cX0_knows 88 = .ok (.aload_n 0, 1) := dk_42 (dk_at dksX0_knows_3 18 rfl rfl)
theorem dX0_knows_89 : decode cX0_knows 89 = .ok (.iload_n 3, 1) := dk_29 (dk_at dksX0_knows_3 19 rfl rfl)
theorem dX0_knows_90 : decode cX0_knows 90 = .ok (.invokevirtual 127, 3) := dk_182 0 127 (dk_at dksX0_knows_3 20 rfl rfl)
theorem dX0_knows_93 : decode cX0_knows 93 = .ok (.lor, 1) := dk_129 (dk_at dksX0_knows_3 23 rfl rfl)
theorem dX0_knows_94 : decode cX0_knows 94 = .ok (.putfield 296, 3) := dk_181 1 40 (dk_at dksX0_knows_4 0 rfl rfl)
theorem dX0_knows_97 : decode cX0_knows 97 = .ok (.aload_n 0, 1) := dk_42 (dk_at dksX0_knows_4 3 rfl rfl)
theorem dX0_knows_98 : decode cX0_knows 98 = .ok (.aload_n 2, 1) := dk_44 (dk_at dksX0_knows_4 4 rfl rfl)
theorem dX0_knows_99 : decode cX0_knows 99 = .ok (.getfield 312, 3) := dk_180 1 56 (dk_at dksX0_knows_4 5 rfl rfl)
theorem dX0_knows_102 : decode cX0_knows 102 = .ok (.ifCond .eq 16, 3) := dk_153 0 16 (dk_at dksX0_knows_4 8 rfl rfl)
theorem dX0_knows_105 : decode cX0_knows 105 = .ok (.aload_n 0, 1) := dk_42 (dk_at dksX0_knows_4 11 rfl rfl)
theorem dX0_knows_106 : decode cX0_knows 106 = .ok (.getfield 299, 3) := dk_180 1 43 (dk_at dksX0_knows_4 12 rfl rfl)
theorem dX0_knows_109 : decode cX0_knows 109 = .ok (.aload_n 0, 1) := dk_42 (dk_at dksX0_knows_4 15 rfl rfl)
theorem dX0_knows_110 : decode cX0_knows 110 = .ok (.iload_n 3, 1) := dk_29 (dk_at dksX0_knows_4 16 rfl rfl)
theorem dX0_knows_111 : decode cX0_knows 111 = .ok (.invokevirtual 127, 3) := dk_182 0 127 (dk_at dksX0_knows_4 17 rfl rfl)
theorem dX0_knows_114 : decode cX0_knows 114 = .ok (.lor, 1) := dk_129 (dk_at dksX0_knows_4 20 rfl rfl)
theorem dX0_knows_115 : decode cX0_knows 115 = .ok (.goto 17, 3) := dk_167 0 17 (dk_at dksX0_knows_4 21 rfl rfl)
theorem dX0_knows_118 : decode cX0_knows 118 = .ok (.aload_n 0, 1) := dk_42 (dk_at dksX0_knows_5 0 rfl rfl)
theorem dX0_knows_119 : decode cX0_knows 119 = .ok (.getfield 299, 3) := dk_180 1 43 (dk_at dksX0_knows_5 1 rfl rfl)
theorem dX0_knows_122 : decode cX0_knows 122 = .ok (.aload_n 0, 1) := dk_42 (dk_at dksX0_knows_5 4 rfl rfl)
theorem dX0_knows_123 : decode cX0_knows 123 = .ok (.iload_n 3, 1) := dk_29 (dk_at dksX0_knows_5 5 rfl rfl)
theorem dX0_knows_124 : decode cX0_knows 124 = .ok (.invokevirtual 127, 3) := dk_182 0 127 (dk_at dksX0_knows_5 6 rfl rfl)
theorem dX0_knows_127 : decode cX0_knows 127 = .ok (.ldc2_w 314, 3) := dk_20 1 58 (dk_at dksX0_knows_5 9 rfl rfl)
theorem dX0_knows_130 : decode cX0_knows 130 = .ok (.lxor, 1) := dk_131 (dk_at dksX0_knows_5 12 rfl rfl)
theorem dX0_knows_131 : decode cX0_knows 131 = .ok (.land, 1) := dk_127 (dk_at dksX0_knows_5 13 rfl rfl)
theorem dX0_knows_132 : decode cX0_knows 132 = .ok (.putfield 299, 3) := dk_181 1 43 (dk_at dksX0_knows_5 14 rfl rfl)
theorem dX0_knows_135 : decode cX0_knows 135 = .ok (.iinc 1 1, 3) := dk_132 1 1 (dk_at dksX0_knows_5 17 rfl rfl)
theorem dX0_knows_138 : decode cX0_knows 138 = .ok (.goto (-126), 3) := dk_167 255 130 (dk_at dksX0_knows_5 20 rfl rfl)
theorem dX0_knows_141 : decode cX0_knows 141 = .ok (.return_, 1) := dk_177 (dk_at dksX0_knows_5 23 rfl rfl)
abbrev cX0_rows : ByteArray := prog_1_method_35_code
def yX0_rows : MethodName := ⟨RX0, "rows", "()I"⟩
def dkwX0_rows_0 : List UInt8 := [4, 42, 182, 0, 126, 120, 172]
abbrev dktX0_rows_0 : List UInt8 := dkwX0_rows_0 ++ []
theorem dksX0_rows_0 : cX0_rows.data.toList.drop 0 = dktX0_rows_0 := by decide +kernel
theorem dX0_rows_0 : decode cX0_rows 0 = .ok (.iconst 1, 1) := dk_4 (dk_at dksX0_rows_0 0 rfl rfl)
theorem dX0_rows_1 : decode cX0_rows 1 = .ok (.aload_n 0, 1) := dk_42 (dk_at dksX0_rows_0 1 rfl rfl)
theorem dX0_rows_2 : decode cX0_rows 2 = .ok (.invokevirtual 126, 3) := dk_182 0 126 (dk_at dksX0_rows_0 2 rfl rfl)
theorem dX0_rows_5 : decode cX0_rows 5 = .ok (.ishl, 1) := dk_120 (dk_at dksX0_rows_0 5 rfl rfl)
theorem dX0_rows_6 : decode cX0_rows 6 = .ok (.ireturn, 1) := dk_172 (dk_at dksX0_rows_0 6 rfl rfl)
abbrev cX0_needed : ByteArray := prog_1_method_27_code
def yX0_needed : MethodName := ⟨RX0, "needed", "()I"⟩
def dkwX0_needed_2 : List UInt8 := [182, 0, 228, 154, 0, 9, 27, 4, 28, 120, 128, 60, 132, 2, 1, 167, 255, 197, 27, 172]
abbrev dktX0_needed_2 : List UInt8 := dkwX0_needed_2 ++ []
def dkwX0_needed_1 : List UInt8 := [182, 0, 217, 180, 0, 227, 182, 0, 228, 153, 0, 27, 42, 180, 0, 12, 42, 28, 182, 0, 217, 180, 0, 221]
abbrev dktX0_needed_1 : List UInt8 := dkwX0_needed_1 ++ dktX0_needed_2
def dkwX0_needed_0 : List UInt8 := [3, 60, 3, 61, 28, 42, 180, 0, 12, 180, 0, 183, 182, 0, 111, 162, 0, 51, 42, 180, 0, 12, 42, 28]
abbrev dktX0_needed_0 : List UInt8 := dkwX0_needed_0 ++ dktX0_needed_1
theorem dksX0_needed_0 : cX0_needed.data.toList.drop 0 = dktX0_needed_0 := by decide +kernel
theorem dksX0_needed_1 : cX0_needed.data.toList.drop 24 = dktX0_needed_1 := dk_seg dksX0_needed_0 24 rfl rfl
theorem dksX0_needed_2 : cX0_needed.data.toList.drop 48 = dktX0_needed_2 := dk_seg dksX0_needed_1 24 rfl rfl
theorem dX0_needed_0 : decode cX0_needed 0 = .ok (.iconst 0, 1) := dk_3 (dk_at dksX0_needed_0 0 rfl rfl)
theorem dX0_needed_1 : decode cX0_needed 1 = .ok (.istore_n 1, 1) := dk_60 (dk_at dksX0_needed_0 1 rfl rfl)
theorem dX0_needed_2 : decode cX0_needed 2 = .ok (.iconst 0, 1) := dk_3 (dk_at dksX0_needed_0 2 rfl rfl)
theorem dX0_needed_3 : decode cX0_needed 3 = .ok (.istore_n 2, 1) := dk_61 (dk_at dksX0_needed_0 3 rfl rfl)
theorem dX0_needed_4 : decode cX0_needed 4 = .ok (.iload_n 2, 1) := dk_28 (dk_at dksX0_needed_0 4 rfl rfl)
theorem dX0_needed_5 : decode cX0_needed 5 = .ok (.aload_n 0, 1) := dk_42 (dk_at dksX0_needed_0 5 rfl rfl)
theorem dX0_needed_6 : decode cX0_needed 6 = .ok (.getfield 12, 3) := dk_180 0 12 (dk_at dksX0_needed_0 6 rfl rfl)
theorem dX0_needed_9 : decode cX0_needed 9 = .ok (.getfield 183, 3) := dk_180 0 183 (dk_at dksX0_needed_0 9 rfl rfl)
theorem dX0_needed_12 : decode cX0_needed 12 = .ok (.invokevirtual 111, 3) := dk_182 0 111 (dk_at dksX0_needed_0 12 rfl rfl)
theorem dX0_needed_15 : decode cX0_needed 15 = .ok (.if_icmp .ge 51, 3) := dk_162 0 51 (dk_at dksX0_needed_0 15 rfl rfl)
theorem dX0_needed_18 : decode cX0_needed 18 = .ok (.aload_n 0, 1) := dk_42 (dk_at dksX0_needed_0 18 rfl rfl)
theorem dX0_needed_19 : decode cX0_needed 19 = .ok (.getfield 12, 3) := dk_180 0 12 (dk_at dksX0_needed_0 19 rfl rfl)
theorem dX0_needed_22 : decode cX0_needed 22 = .ok (.aload_n 0, 1) := dk_42 (dk_at dksX0_needed_0 22 rfl rfl)
theorem dX0_needed_23 : decode cX0_needed 23 = .ok (.iload_n 2, 1) := dk_28 (dk_at dksX0_needed_0 23 rfl rfl)
theorem dX0_needed_24 : decode cX0_needed 24 = .ok (.invokevirtual 217, 3) := dk_182 0 217 (dk_at dksX0_needed_1 0 rfl rfl)
theorem dX0_needed_27 : decode cX0_needed 27 = .ok (.getfield 227, 3) := dk_180 0 227 (dk_at dksX0_needed_1 3 rfl rfl)
theorem dX0_needed_30 : decode cX0_needed 30 = .ok (.invokevirtual 228, 3) := dk_182 0 228 (dk_at dksX0_needed_1 6 rfl rfl)
theorem dX0_needed_33 : decode cX0_needed 33 = .ok (.ifCond .eq 27, 3) := dk_153 0 27 (dk_at dksX0_needed_1 9 rfl rfl)
theorem dX0_needed_36 : decode cX0_needed 36 = .ok (.aload_n 0, 1) := dk_42 (dk_at dksX0_needed_1 12 rfl rfl)
theorem dX0_needed_37 : decode cX0_needed 37 = .ok (.getfield 12, 3) := dk_180 0 12 (dk_at dksX0_needed_1 13 rfl rfl)
theorem dX0_needed_40 : decode cX0_needed 40 = .ok (.aload_n 0, 1) := dk_42 (dk_at dksX0_needed_1 16 rfl rfl)
theorem dX0_needed_41 : decode cX0_needed 41 = .ok (.iload_n 2, 1) := dk_28 (dk_at dksX0_needed_1 17 rfl rfl)
theorem dX0_needed_42 : decode cX0_needed 42 = .ok (.invokevirtual 217, 3) := dk_182 0 217 (dk_at dksX0_needed_1 18 rfl rfl)
theorem dX0_needed_45 : decode cX0_needed 45 = .ok (.getfield 221, 3) := dk_180 0 221 (dk_at dksX0_needed_1 21 rfl rfl)
theorem dX0_needed_48 : decode cX0_needed 48 = .ok (.invokevirtual 228, 3) := dk_182 0 228 (dk_at dksX0_needed_2 0 rfl rfl)
theorem dX0_needed_51 : decode cX0_needed 51 = .ok (.ifCond .ne 9, 3) := dk_154 0 9 (dk_at dksX0_needed_2 3 rfl rfl)
theorem dX0_needed_54 : decode cX0_needed 54 = .ok (.iload_n 1, 1) := dk_27 (dk_at dksX0_needed_2 6 rfl rfl)
theorem dX0_needed_55 : decode cX0_needed 55 = .ok (.iconst 1, 1) := dk_4 (dk_at dksX0_needed_2 7 rfl rfl)
theorem dX0_needed_56 : decode cX0_needed 56 = .ok (.iload_n 2, 1) := dk_28 (dk_at dksX0_needed_2 8 rfl rfl)
theorem dX0_needed_57 : decode cX0_needed 57 = .ok (.ishl, 1) := dk_120 (dk_at dksX0_needed_2 9 rfl rfl)
theorem dX0_needed_58 : decode cX0_needed 58 = .ok (.ior, 1) := dk_128 (dk_at dksX0_needed_2 10 rfl rfl)
theorem dX0_needed_59 : decode cX0_needed 59 = .ok (.istore_n 1, 1) := dk_60 (dk_at dksX0_needed_2 11 rfl rfl)
theorem dX0_needed_60 : decode cX0_needed 60 = .ok (.iinc 2 1, 3) := dk_132 2 1 (dk_at dksX0_needed_2 12 rfl rfl)
theorem dX0_needed_63 : decode cX0_needed 63 = .ok (.goto (-59), 3) := dk_167 255 197 (dk_at dksX0_needed_2 15 rfl rfl)
theorem dX0_needed_66 : decode cX0_needed 66 = .ok (.iload_n 1, 1) := dk_27 (dk_at dksX0_needed_2 18 rfl rfl)
theorem dX0_needed_67 : decode cX0_needed 67 = .ok (.ireturn, 1) := dk_172 (dk_at dksX0_needed_2 19 rfl rfl)
abbrev cX0_worldsOf : ByteArray := prog_1_method_43_code
def yX0_worldsOf : MethodName := ⟨RX0, "worldsOf", "(I)I"⟩
def dkwX0_worldsOf_1 : List UInt8 := [167, 0, 4, 3, 96, 61, 132, 3, 1, 167, 255, 228, 28, 172]
abbrev dktX0_worldsOf_1 : List UInt8 := dkwX0_worldsOf_1 ++ []
def dkwX0_worldsOf_0 : List UInt8 := [3, 61, 3, 62, 29, 42, 182, 1, 63, 162, 0, 26, 28, 42, 29, 27, 182, 1, 79, 153, 0, 7, 4]
abbrev dktX0_worldsOf_0 : List UInt8 := dkwX0_worldsOf_0 ++ dktX0_worldsOf_1
theorem dksX0_worldsOf_0 : cX0_worldsOf.data.toList.drop 0 = dktX0_worldsOf_0 := by decide +kernel
theorem dksX0_worldsOf_1 : cX0_worldsOf.data.toList.drop 23 = dktX0_worldsOf_1 := dk_seg dksX0_worldsOf_0 23 rfl rfl
theorem dX0_worldsOf_0 : decode cX0_worldsOf 0 = .ok (.iconst 0, 1) := dk_3 (dk_at dksX0_worldsOf_0 0 rfl rfl)
theorem dX0_worldsOf_1 : decode cX0_worldsOf 1 = .ok (.istore_n 2, 1) := dk_61 (dk_at dksX0_worldsOf_0 1 rfl rfl)
theorem dX0_worldsOf_2 : decode cX0_worldsOf 2 = .ok (.iconst 0, 1) := dk_3 (dk_at dksX0_worldsOf_0 2 rfl rfl)
theorem dX0_worldsOf_3 : decode cX0_worldsOf 3 = .ok (.istore_n 3, 1) := dk_62 (dk_at dksX0_worldsOf_0 3 rfl rfl)
theorem dX0_worldsOf_4 : decode cX0_worldsOf 4 = .ok (.iload_n 3, 1) := dk_29 (dk_at dksX0_worldsOf_0 4 rfl rfl)
theorem dX0_worldsOf_5 : decode cX0_worldsOf 5 = .ok (.aload_n 0, 1) := dk_42 (dk_at dksX0_worldsOf_0 5 rfl rfl)
theorem dX0_worldsOf_6 : decode cX0_worldsOf 6 = .ok (.invokevirtual 319, 3) := dk_182 1 63 (dk_at dksX0_worldsOf_0 6 rfl rfl)
theorem dX0_worldsOf_9 : decode cX0_worldsOf 9 = .ok (.if_icmp .ge 26, 3) := dk_162 0 26 (dk_at dksX0_worldsOf_0 9 rfl rfl)
theorem dX0_worldsOf_12 : decode cX0_worldsOf 12 = .ok (.iload_n 2, 1) := dk_28 (dk_at dksX0_worldsOf_0 12 rfl rfl)
theorem dX0_worldsOf_13 : decode cX0_worldsOf 13 = .ok (.aload_n 0, 1) := dk_42 (dk_at dksX0_worldsOf_0 13 rfl rfl)
theorem dX0_worldsOf_14 : decode cX0_worldsOf 14 = .ok (.iload_n 3, 1) := dk_29 (dk_at dksX0_worldsOf_0 14 rfl rfl)
theorem dX0_worldsOf_15 : decode cX0_worldsOf 15 = .ok (.iload_n 1, 1) := dk_27 (dk_at dksX0_worldsOf_0 15 rfl rfl)
theorem dX0_worldsOf_16 : decode cX0_worldsOf 16 = .ok (.invokevirtual 335, 3) := dk_182 1 79 (dk_at dksX0_worldsOf_0 16 rfl rfl)
theorem dX0_worldsOf_19 : decode cX0_worldsOf 19 = .ok (.ifCond .eq 7, 3) := dk_153 0 7 (dk_at dksX0_worldsOf_0 19 rfl rfl)
theorem dX0_worldsOf_22 : decode cX0_worldsOf 22 = .ok (.iconst 1, 1) := dk_4 (dk_at dksX0_worldsOf_0 22 rfl rfl)
theorem dX0_worldsOf_23 : decode cX0_worldsOf 23 = .ok (.goto 4, 3) := dk_167 0 4 (dk_at dksX0_worldsOf_1 0 rfl rfl)
theorem dX0_worldsOf_26 : decode cX0_worldsOf 26 = .ok (.iconst 0, 1) := dk_3 (dk_at dksX0_worldsOf_1 3 rfl rfl)
theorem dX0_worldsOf_27 : decode cX0_worldsOf 27 = .ok (.iadd, 1) := dk_96 (dk_at dksX0_worldsOf_1 4 rfl rfl)
theorem dX0_worldsOf_28 : decode cX0_worldsOf 28 = .ok (.istore_n 2, 1) := dk_61 (dk_at dksX0_worldsOf_1 5 rfl rfl)
theorem dX0_worldsOf_29 : decode cX0_worldsOf 29 = .ok (.iinc 3 1, 3) := dk_132 3 1 (dk_at dksX0_worldsOf_1 6 rfl rfl)
theorem dX0_worldsOf_32 : decode cX0_worldsOf 32 = .ok (.goto (-28), 3) := dk_167 255 228 (dk_at dksX0_worldsOf_1 9 rfl rfl)
theorem dX0_worldsOf_35 : decode cX0_worldsOf 35 = .ok (.iload_n 2, 1) := dk_28 (dk_at dksX0_worldsOf_1 12 rfl rfl)
theorem dX0_worldsOf_36 : decode cX0_worldsOf 36 = .ok (.ireturn, 1) := dk_172 (dk_at dksX0_worldsOf_1 13 rfl rfl)
abbrev cX0_isWorld : ByteArray := prog_1_method_38_code
def yX0_isWorld : MethodName := ⟨RX0, "isWorld", "(II)Z"⟩
def dkwX0_isWorld_1 : List UInt8 := [160, 0, 7, 4, 167, 0, 4, 3, 172]
abbrev dktX0_isWorld_1 : List UInt8 := dkwX0_isWorld_1 ++ []
def dkwX0_isWorld_0 : List UInt8 := [27, 133, 42, 180, 1, 40, 127, 42, 180, 1, 43, 148, 154, 0, 19, 42, 180, 0, 36, 27, 51, 28, 126, 28]
abbrev dktX0_isWorld_0 : List UInt8 := dkwX0_isWorld_0 ++ dktX0_isWorld_1
theorem dksX0_isWorld_0 : cX0_isWorld.data.toList.drop 0 = dktX0_isWorld_0 := by decide +kernel
theorem dksX0_isWorld_1 : cX0_isWorld.data.toList.drop 24 = dktX0_isWorld_1 := dk_seg dksX0_isWorld_0 24 rfl rfl
theorem dX0_isWorld_0 : decode cX0_isWorld 0 = .ok (.iload_n 1, 1) := dk_27 (dk_at dksX0_isWorld_0 0 rfl rfl)
theorem dX0_isWorld_1 : decode cX0_isWorld 1 = .ok (.i2l, 1) := dk_133 (dk_at dksX0_isWorld_0 1 rfl rfl)
theorem dX0_isWorld_2 : decode cX0_isWorld 2 = .ok (.aload_n 0, 1) := dk_42 (dk_at dksX0_isWorld_0 2 rfl rfl)
theorem dX0_isWorld_3 : decode cX0_isWorld 3 = .ok (.getfield 296, 3) := dk_180 1 40 (dk_at dksX0_isWorld_0 3 rfl rfl)
theorem dX0_isWorld_6 : decode cX0_isWorld 6 = .ok (.land, 1) := dk_127 (dk_at dksX0_isWorld_0 6 rfl rfl)
theorem dX0_isWorld_7 : decode cX0_isWorld 7 = .ok (.aload_n 0, 1) := dk_42 (dk_at dksX0_isWorld_0 7 rfl rfl)
theorem dX0_isWorld_8 : decode cX0_isWorld 8 = .ok (.getfield 299, 3) := dk_180 1 43 (dk_at dksX0_isWorld_0 8 rfl rfl)
theorem dX0_isWorld_11 : decode cX0_isWorld 11 = .ok (.lcmp, 1) := dk_148 (dk_at dksX0_isWorld_0 11 rfl rfl)
theorem dX0_isWorld_12 : decode cX0_isWorld 12 = .ok (.ifCond .ne 19, 3) := dk_154 0 19 (dk_at dksX0_isWorld_0 12 rfl rfl)
theorem dX0_isWorld_15 : decode cX0_isWorld 15 = .ok (.aload_n 0, 1) := dk_42 (dk_at dksX0_isWorld_0 15 rfl rfl)
theorem dX0_isWorld_16 : decode cX0_isWorld 16 = .ok (.getfield 36, 3) := dk_180 0 36 (dk_at dksX0_isWorld_0 16 rfl rfl)
theorem dX0_isWorld_19 : decode cX0_isWorld 19 = .ok (.iload_n 1, 1) := dk_27 (dk_at dksX0_isWorld_0 19 rfl rfl)
theorem dX0_isWorld_20 : decode cX0_isWorld 20 = .ok (.baload, 1) := dk_51 (dk_at dksX0_isWorld_0 20 rfl rfl)
theorem dX0_isWorld_21 : decode cX0_isWorld 21 = .ok (.iload_n 2, 1) := dk_28 (dk_at dksX0_isWorld_0 21 rfl rfl)
theorem dX0_isWorld_22 : decode cX0_isWorld 22 = .ok (.iand, 1) := dk_126 (dk_at dksX0_isWorld_0 22 rfl rfl)
theorem dX0_isWorld_23 : decode cX0_isWorld 23 = .ok (.iload_n 2, 1) := dk_28 (dk_at dksX0_isWorld_0 23 rfl rfl)
theorem dX0_isWorld_24 : decode cX0_isWorld 24 = .ok (.if_icmp .ne 7, 3) := dk_160 0 7 (dk_at dksX0_isWorld_1 0 rfl rfl)
theorem dX0_isWorld_27 : decode cX0_isWorld 27 = .ok (.iconst 1, 1) := dk_4 (dk_at dksX0_isWorld_1 3 rfl rfl)
theorem dX0_isWorld_28 : decode cX0_isWorld 28 = .ok (.goto 4, 3) := dk_167 0 4 (dk_at dksX0_isWorld_1 4 rfl rfl)
theorem dX0_isWorld_31 : decode cX0_isWorld 31 = .ok (.iconst 0, 1) := dk_3 (dk_at dksX0_isWorld_1 7 rfl rfl)
theorem dX0_isWorld_32 : decode cX0_isWorld 32 = .ok (.ireturn, 1) := dk_172 (dk_at dksX0_isWorld_1 8 rfl rfl)
abbrev cX0_forms : ByteArray := prog_1_method_45_code
def yX0_forms : MethodName := ⟨RX0, "forms", "()I"⟩
def dkwX0_forms_2 : List UInt8 := [132, 3, 1, 167, 255, 228, 28, 172]
abbrev dktX0_forms_2 : List UInt8 := dkwX0_forms_2 ++ []
def dkwX0_forms_1 : List UInt8 := [182, 1, 63, 162, 0, 26, 28, 42, 29, 27, 182, 1, 103, 153, 0, 7, 4, 167, 0, 4, 3, 96, 61]
abbrev dktX0_forms_1 : List UInt8 := dkwX0_forms_1 ++ dktX0_forms_2
def dkwX0_forms_0 : List UInt8 := [42, 182, 1, 91, 154, 0, 5, 2, 172, 42, 182, 1, 94, 42, 182, 1, 97, 60, 3, 61, 3, 62, 29, 42]
abbrev dktX0_forms_0 : List UInt8 := dkwX0_forms_0 ++ dktX0_forms_1
theorem dksX0_forms_0 : cX0_forms.data.toList.drop 0 = dktX0_forms_0 := by decide +kernel
theorem dksX0_forms_1 : cX0_forms.data.toList.drop 24 = dktX0_forms_1 := dk_seg dksX0_forms_0 24 rfl rfl
theorem dksX0_forms_2 : cX0_forms.data.toList.drop 47 = dktX0_forms_2 := dk_seg dksX0_forms_1 23 rfl rfl
theorem dX0_forms_0 : decode cX0_forms 0 = .ok (.aload_n 0, 1) := dk_42 (dk_at dksX0_forms_0 0 rfl rfl)
theorem dX0_forms_1 : decode cX0_forms 1 = .ok (.invokevirtual 347, 3) := dk_182 1 91 (dk_at dksX0_forms_0 1 rfl rfl)
theorem dX0_forms_4 : decode cX0_forms 4 = .ok (.ifCond .ne 5, 3) := dk_154 0 5 (dk_at dksX0_forms_0 4 rfl rfl)
theorem dX0_forms_7 : decode cX0_forms 7 = .ok (.iconst (-1), 1) := dk_2 (dk_at dksX0_forms_0 7 rfl rfl)
theorem dX0_forms_8 : decode cX0_forms 8 = .ok (.ireturn, 1) := dk_172 (dk_at dksX0_forms_0 8 rfl rfl)
theorem dX0_forms_9 : decode cX0_forms 9 = .ok (.aload_n 0, 1) := dk_42 (dk_at dksX0_forms_0 9 rfl rfl)
theorem dX0_forms_10 : decode cX0_forms 10 = .ok (.invokevirtual 350, 3) := dk_182 1 94 (dk_at dksX0_forms_0 10 rfl rfl)
theorem dX0_forms_13 : decode cX0_forms 13 = .ok (.aload_n 0, 1) := dk_42 (dk_at dksX0_forms_0 13 rfl rfl)
theorem dX0_forms_14 : decode cX0_forms 14 = .ok (.invokevirtual 353, 3) := dk_182 1 97 (dk_at dksX0_forms_0 14 rfl rfl)
theorem dX0_forms_17 : decode cX0_forms 17 = .ok (.istore_n 1, 1) := dk_60 (dk_at dksX0_forms_0 17 rfl rfl)
theorem dX0_forms_18 : decode cX0_forms 18 = .ok (.iconst 0, 1) := dk_3 (dk_at dksX0_forms_0 18 rfl rfl)
theorem dX0_forms_19 : decode cX0_forms 19 = .ok (.istore_n 2, 1) := dk_61 (dk_at dksX0_forms_0 19 rfl rfl)
theorem dX0_forms_20 : decode cX0_forms 20 = .ok (.iconst 0, 1) := dk_3 (dk_at dksX0_forms_0 20 rfl rfl)
theorem dX0_forms_21 : decode cX0_forms 21 = .ok (.istore_n 3, 1) := dk_62 (dk_at dksX0_forms_0 21 rfl rfl)
theorem dX0_forms_22 : decode cX0_forms 22 = .ok (.iload_n 3, 1) := dk_29 (dk_at dksX0_forms_0 22 rfl rfl)
theorem dX0_forms_23 : decode cX0_forms 23 = .ok (.aload_n 0, 1) := dk_42 (dk_at dksX0_forms_0 23 rfl rfl)
theorem dX0_forms_24 : decode cX0_forms 24 = .ok (.invokevirtual 319, 3) := dk_182 1 63 (dk_at dksX0_forms_1 0 rfl rfl)
theorem dX0_forms_27 : decode cX0_forms 27 = .ok (.if_icmp .ge 26, 3) := dk_162 0 26 (dk_at dksX0_forms_1 3 rfl rfl)
theorem dX0_forms_30 : decode cX0_forms 30 = .ok (.iload_n 2, 1) := dk_28 (dk_at dksX0_forms_1 6 rfl rfl)
theorem dX0_forms_31 : decode cX0_forms 31 = .ok (.aload_n 0, 1) := dk_42 (dk_at dksX0_forms_1 7 rfl rfl)
theorem dX0_forms_32 : decode cX0_forms 32 = .ok (.iload_n 3, 1) := dk_29 (dk_at dksX0_forms_1 8 rfl rfl)
theorem dX0_forms_33 : decode cX0_forms 33 = .ok (.iload_n 1, 1) := dk_27 (dk_at dksX0_forms_1 9 rfl rfl)
theorem dX0_forms_34 : decode cX0_forms 34 = .ok (.invokevirtual 359, 3) := dk_182 1 103 (dk_at dksX0_forms_1 10 rfl rfl)
theorem dX0_forms_37 : decode cX0_forms 37 = .ok (.ifCond .eq 7, 3) := dk_153 0 7 (dk_at dksX0_forms_1 13 rfl rfl)
theorem dX0_forms_40 : decode cX0_forms 40 = .ok (.iconst 1, 1) := dk_4 (dk_at dksX0_forms_1 16 rfl rfl)
theorem dX0_forms_41 : decode cX0_forms 41 = .ok (.goto 4, 3) := dk_167 0 4 (dk_at dksX0_forms_1 17 rfl rfl)
theorem dX0_forms_44 : decode cX0_forms 44 = .ok (.iconst 0, 1) := dk_3 (dk_at dksX0_forms_1 20 rfl rfl)
theorem dX0_forms_45 : decode cX0_forms 45 = .ok (.iadd, 1) := dk_96 (dk_at dksX0_forms_1 21 rfl rfl)
theorem dX0_forms_46 : decode cX0_forms 46 = .ok (.istore_n 2, 1) := dk_61 (dk_at dksX0_forms_1 22 rfl rfl)
theorem dX0_forms_47 : decode cX0_forms 47 = .ok (.iinc 3 1, 3) := dk_132 3 1 (dk_at dksX0_forms_2 0 rfl rfl)
theorem dX0_forms_50 : decode cX0_forms 50 = .ok (.goto (-28), 3) := dk_167 255 228 (dk_at dksX0_forms_2 3 rfl rfl)
theorem dX0_forms_53 : decode cX0_forms 53 = .ok (.iload_n 2, 1) := dk_28 (dk_at dksX0_forms_2 6 rfl rfl)
theorem dX0_forms_54 : decode cX0_forms 54 = .ok (.ireturn, 1) := dk_172 (dk_at dksX0_forms_2 7 rfl rfl)
abbrev cX0_isForm : ByteArray := prog_1_method_41_code
def yX0_isForm : MethodName := ⟨RX0, "isForm", "(II)Z"⟩
def dkwX0_isForm_2 : List UInt8 := [180, 0, 40, 27, 51, 4, 160, 0, 7, 4, 167, 0, 4, 3, 172]
abbrev dktX0_isForm_2 : List UInt8 := dkwX0_isForm_2 ++ []
def dkwX0_isForm_1 : List UInt8 := [27, 42, 180, 0, 52, 27, 133, 182, 1, 83, 27, 133, 148, 154, 0, 7, 4, 167, 0, 4, 5, 145, 84, 42]
abbrev dktX0_isForm_1 : List UInt8 := dkwX0_isForm_1 ++ dktX0_isForm_2
def dkwX0_isForm_0 : List UInt8 := [42, 27, 28, 182, 1, 79, 154, 0, 5, 3, 172, 42, 180, 0, 40, 27, 51, 154, 0, 30, 42, 180, 0, 40]
abbrev dktX0_isForm_0 : List UInt8 := dkwX0_isForm_0 ++ dktX0_isForm_1
theorem dksX0_isForm_0 : cX0_isForm.data.toList.drop 0 = dktX0_isForm_0 := by decide +kernel
theorem dksX0_isForm_1 : cX0_isForm.data.toList.drop 24 = dktX0_isForm_1 := dk_seg dksX0_isForm_0 24 rfl rfl
theorem dksX0_isForm_2 : cX0_isForm.data.toList.drop 48 = dktX0_isForm_2 := dk_seg dksX0_isForm_1 24 rfl rfl
theorem dX0_isForm_0 : decode cX0_isForm 0 = .ok (.aload_n 0, 1) := dk_42 (dk_at dksX0_isForm_0 0 rfl rfl)
theorem dX0_isForm_1 : decode cX0_isForm 1 = .ok (.iload_n 1, 1) := dk_27 (dk_at dksX0_isForm_0 1 rfl rfl)
theorem dX0_isForm_2 : decode cX0_isForm 2 = .ok (.iload_n 2, 1) := dk_28 (dk_at dksX0_isForm_0 2 rfl rfl)
theorem dX0_isForm_3 : decode cX0_isForm 3 = .ok (.invokevirtual 335, 3) := dk_182 1 79 (dk_at dksX0_isForm_0 3 rfl rfl)
theorem dX0_isForm_6 : decode cX0_isForm 6 = .ok (.ifCond .ne 5, 3) := dk_154 0 5 (dk_at dksX0_isForm_0 6 rfl rfl)
theorem dX0_isForm_9 : decode cX0_isForm 9 = .ok (.iconst 0, 1) := dk_3 (dk_at dksX0_isForm_0 9 rfl rfl)
theorem dX0_isForm_10 : decode cX0_isForm 10 = .ok (.ireturn, 1) := dk_172 (dk_at dksX0_isForm_0 10 rfl rfl)
theorem dX0_isForm_11 : decode cX0_isForm 11 = .ok (.aload_n 0, 1) := dk_42 (dk_at dksX0_isForm_0 11 rfl rfl)
theorem dX0_isForm_12 : decode cX0_isForm 12 = .ok (.getfield 40, 3) := dk_180 0 40 (dk_at dksX0_isForm_0 12 rfl rfl)
theorem dX0_isForm_15 : decode cX0_isForm 15 = .ok (.iload_n 1, 1) := dk_27 (dk_at dksX0_isForm_0 15 rfl rfl)
theorem dX0_isForm_16 : decode cX0_isForm 16 = .ok (.baload, 1) := dk_51 (dk_at dksX0_isForm_0 16 rfl rfl)
theorem dX0_isForm_17 : decode cX0_isForm 17 = .ok (.ifCond .ne 30, 3) := dk_154 0 30 (dk_at dksX0_isForm_0 17 rfl rfl)
theorem dX0_isForm_20 : decode cX0_isForm 20 = .ok (.aload_n 0, 1) := dk_42 (dk_at dksX0_isForm_0 20 rfl rfl)
theorem dX0_isForm_21 : decode cX0_isForm 21 = .ok (.getfield 40, 3) := dk_180 0 40 (dk_at dksX0_isForm_0 21 rfl rfl)
theorem dX0_isForm_24 : decode cX0_isForm 24 = .ok (.iload_n 1, 1) := dk_27 (dk_at dksX0_isForm_1 0 rfl rfl)
theorem dX0_isForm_25 : decode cX0_isForm 25 = .ok (.aload_n 0, 1) := dk_42 (dk_at dksX0_isForm_1 1 rfl rfl)
theorem dX0_isForm_26 : decode cX0_isForm 26 = .ok (.getfield 52, 3) := dk_180 0 52 (dk_at dksX0_isForm_1 2 rfl rfl)
theorem dX0_isForm_29 : decode cX0_isForm 29 = .ok (.iload_n 1, 1) := dk_27 (dk_at dksX0_isForm_1 5 rfl rfl)
theorem dX0_isForm_30 : decode cX0_isForm 30 = .ok (.i2l, 1) := dk_133 (dk_at dksX0_isForm_1 6 rfl rfl)
theorem dX0_isForm_31 : decode cX0_isForm 31 = .ok (.invokevirtual 339, 3) := dk_182 1 83 (dk_at dksX0_isForm_1 7 rfl rfl)
theorem dX0_isForm_34 : decode cX0_isForm 34 = .ok (.iload_n 1, 1) := dk_27 (dk_at dksX0_isForm_1 10 rfl rfl)
theorem dX0_isForm_35 : decode cX0_isForm 35 = .ok (.i2l, 1) := dk_133 (dk_at dksX0_isForm_1 11 rfl rfl)
theorem dX0_isForm_36 : decode cX0_isForm 36 = .ok (.lcmp, 1) := dk_148 (dk_at dksX0_isForm_1 12 rfl rfl)
theorem dX0_isForm_37 : decode cX0_isForm 37 = .ok (.ifCond .ne 7, 3) := dk_154 0 7 (dk_at dksX0_isForm_1 13 rfl rfl)
theorem dX0_isForm_40 : decode cX0_isForm 40 = .ok (.iconst 1, 1) := dk_4 (dk_at dksX0_isForm_1 16 rfl rfl)
theorem dX0_isForm_41 : decode cX0_isForm 41 = .ok (.goto 4, 3) := dk_167 0 4 (dk_at dksX0_isForm_1 17 rfl rfl)
theorem dX0_isForm_44 : decode cX0_isForm 44 = .ok (.iconst 2, 1) := dk_5 (dk_at dksX0_isForm_1 20 rfl rfl)
theorem dX0_isForm_45 : decode cX0_isForm 45 = .ok (.i2b, 1) := dk_145 (dk_at dksX0_isForm_1 21 rfl rfl)
theorem dX0_isForm_46 : decode cX0_isForm 46 = .ok (.bastore, 1) := dk_84 (dk_at dksX0_isForm_1 22 rfl rfl)
theorem dX0_isForm_47 : decode cX0_isForm 47 = .ok (.aload_n 0, 1) := dk_42 (dk_at dksX0_isForm_1 23 rfl rfl)
theorem dX0_isForm_48 : decode cX0_isForm 48 = .ok (.getfield 40, 3) := dk_180 0 40 (dk_at dksX0_isForm_2 0 rfl rfl)
theorem dX0_isForm_51 : decode cX0_isForm 51 = .ok (.iload_n 1, 1) := dk_27 (dk_at dksX0_isForm_2 3 rfl rfl)
theorem dX0_isForm_52 : decode cX0_isForm 52 = .ok (.baload, 1) := dk_51 (dk_at dksX0_isForm_2 4 rfl rfl)
theorem dX0_isForm_53 : decode cX0_isForm 53 = .ok (.iconst 1, 1) := dk_4 (dk_at dksX0_isForm_2 5 rfl rfl)
theorem dX0_isForm_54 : decode cX0_isForm 54 = .ok (.if_icmp .ne 7, 3) := dk_160 0 7 (dk_at dksX0_isForm_2 6 rfl rfl)
theorem dX0_isForm_57 : decode cX0_isForm 57 = .ok (.iconst 1, 1) := dk_4 (dk_at dksX0_isForm_2 9 rfl rfl)
theorem dX0_isForm_58 : decode cX0_isForm 58 = .ok (.goto 4, 3) := dk_167 0 4 (dk_at dksX0_isForm_2 10 rfl rfl)
theorem dX0_isForm_61 : decode cX0_isForm 61 = .ok (.iconst 0, 1) := dk_3 (dk_at dksX0_isForm_2 13 rfl rfl)
theorem dX0_isForm_62 : decode cX0_isForm 62 = .ok (.ireturn, 1) := dk_172 (dk_at dksX0_isForm_2 14 rfl rfl)
abbrev cX0_form : ByteArray := prog_1_method_46_code
def yX0_form : MethodName := ⟨RX0, "form", "(I)Z"⟩
def dkwX0_form_3 : List UInt8 := [132, 4, 1, 167, 255, 211, 3, 172]
abbrev dktX0_form_3 : List UInt8 := dkwX0_form_3 ++ []
def dkwX0_form_2 : List UInt8 := [167, 0, 23, 29, 27, 160, 0, 15, 42, 180, 0, 12, 21, 4, 133, 181, 0, 79, 4, 172, 132, 3, 1]
abbrev dktX0_form_2 : List UInt8 := dkwX0_form_2 ++ dktX0_form_3
def dkwX0_form_1 : List UInt8 := [3, 54, 4, 21, 4, 42, 182, 1, 63, 162, 0, 42, 42, 21, 4, 28, 182, 1, 103, 154, 0, 6]
abbrev dktX0_form_1 : List UInt8 := dkwX0_form_1 ++ dktX0_form_2
def dkwX0_form_0 : List UInt8 := [42, 182, 1, 91, 153, 0, 7, 27, 156, 0, 5, 3, 172, 42, 182, 1, 94, 42, 182, 1, 97, 61, 3, 62]
abbrev dktX0_form_0 : List UInt8 := dkwX0_form_0 ++ dktX0_form_1
theorem dksX0_form_0 : cX0_form.data.toList.drop 0 = dktX0_form_0 := by decide +kernel
theorem dksX0_form_1 : cX0_form.data.toList.drop 24 = dktX0_form_1 := dk_seg dksX0_form_0 24 rfl rfl
theorem dksX0_form_2 : cX0_form.data.toList.drop 46 = dktX0_form_2 := dk_seg dksX0_form_1 22 rfl rfl
theorem dksX0_form_3 : cX0_form.data.toList.drop 69 = dktX0_form_3 := dk_seg dksX0_form_2 23 rfl rfl
theorem dX0_form_0 : decode cX0_form 0 = .ok (.aload_n 0, 1) := dk_42 (dk_at dksX0_form_0 0 rfl rfl)
theorem dX0_form_1 : decode cX0_form 1 = .ok (.invokevirtual 347, 3) := dk_182 1 91 (dk_at dksX0_form_0 1 rfl rfl)
theorem dX0_form_4 : decode cX0_form 4 = .ok (.ifCond .eq 7, 3) := dk_153 0 7 (dk_at dksX0_form_0 4 rfl rfl)
theorem dX0_form_7 : decode cX0_form 7 = .ok (.iload_n 1, 1) := dk_27 (dk_at dksX0_form_0 7 rfl rfl)
theorem dX0_form_8 : decode cX0_form 8 = .ok (.ifCond .ge 5, 3) := dk_156 0 5 (dk_at dksX0_form_0 8 rfl rfl)
theorem dX0_form_11 : decode cX0_form 11 = .ok (.iconst 0, 1) := dk_3 (dk_at dksX0_form_0 11 rfl rfl)
theorem dX0_form_12 : decode cX0_form 12 = .ok (.ireturn, 1) := dk_172 (dk_at dksX0_form_0 12 rfl rfl)
theorem dX0_form_13 : decode cX0_form 13 = .ok (.aload_n 0, 1) := dk_42 (dk_at dksX0_form_0 13 rfl rfl)
theorem dX0_form_14 : decode cX0_form 14 = .ok (.invokevirtual 350, 3) := dk_182 1 94 (dk_at dksX0_form_0 14 rfl rfl)
theorem dX0_form_17 : decode cX0_form 17 = .ok (.aload_n 0, 1) := dk_42 (dk_at dksX0_form_0 17 rfl rfl)
theorem dX0_form_18 : decode cX0_form 18 = .ok (.invokevirtual 353, 3) := dk_182 1 97 (dk_at dksX0_form_0 18 rfl rfl)
theorem dX0_form_21 : decode cX0_form 21 = .ok (.istore_n 2, 1) := dk_61 (dk_at dksX0_form_0 21 rfl rfl)
theorem dX0_form_22 : decode cX0_form 22 = .ok (.iconst 0, 1) := dk_3 (dk_at dksX0_form_0 22 rfl rfl)
theorem dX0_form_23 : decode cX0_form 23 = .ok (.istore_n 3, 1) := dk_62 (dk_at dksX0_form_0 23 rfl rfl)
theorem dX0_form_24 : decode cX0_form 24 = .ok (.iconst 0, 1) := dk_3 (dk_at dksX0_form_1 0 rfl rfl)
theorem dX0_form_25 : decode cX0_form 25 = .ok (.istore 4, 2) := dk_54 4 (dk_at dksX0_form_1 1 rfl rfl)
theorem dX0_form_27 : decode cX0_form 27 = .ok (.iload 4, 2) := dk_21 4 (dk_at dksX0_form_1 3 rfl rfl)
theorem dX0_form_29 : decode cX0_form 29 = .ok (.aload_n 0, 1) := dk_42 (dk_at dksX0_form_1 5 rfl rfl)
theorem dX0_form_30 : decode cX0_form 30 = .ok (.invokevirtual 319, 3) := dk_182 1 63 (dk_at dksX0_form_1 6 rfl rfl)
theorem dX0_form_33 : decode cX0_form 33 = .ok (.if_icmp .ge 42, 3) := dk_162 0 42 (dk_at dksX0_form_1 9 rfl rfl)
theorem dX0_form_36 : decode cX0_form 36 = .ok (.aload_n 0, 1) := dk_42 (dk_at dksX0_form_1 12 rfl rfl)
theorem dX0_form_37 : decode cX0_form 37 = .ok (.iload 4, 2) := dk_21 4 (dk_at dksX0_form_1 13 rfl rfl)
theorem dX0_form_39 : decode cX0_form 39 = .ok (.iload_n 2, 1) := dk_28 (dk_at dksX0_form_1 15 rfl rfl)
theorem dX0_form_40 : decode cX0_form 40 = .ok (.invokevirtual 359, 3) := dk_182 1 103 (dk_at dksX0_form_1 16 rfl rfl)
theorem dX0_form_43 : decode cX0_form 43 = .ok (.ifCond .ne 6, 3) := dk_154 0 6 (dk_at dksX0_form_1 19 rfl rfl)
theorem dX0_form_46 : decode cX0_form 46 = .ok (.goto 23, 3) := dk_167 0 23 (dk_at dksX0_form_2 0 rfl rfl)
theorem dX0_form_49 : decode cX0_form 49 = .ok (.iload_n 3, 1) := dk_29 (dk_at dksX0_form_2 3 rfl rfl)
theorem dX0_form_50 : decode cX0_form 50 = .ok (.iload_n 1, 1) := dk_27 (dk_at dksX0_form_2 4 rfl rfl)
theorem dX0_form_51 : decode cX0_form 51 = .ok (.if_icmp .ne 15, 3) := dk_160 0 15 (dk_at dksX0_form_2 5 rfl rfl)
theorem dX0_form_54 : decode cX0_form 54 = .ok (.aload_n 0, 1) := dk_42 (dk_at dksX0_form_2 8 rfl rfl)
theorem dX0_form_55 : decode cX0_form 55 = .ok (.getfield 12, 3) := dk_180 0 12 (dk_at dksX0_form_2 9 rfl rfl)
theorem dX0_form_58 : decode cX0_form 58 = .ok (.iload 4, 2) := dk_21 4 (dk_at dksX0_form_2 12 rfl rfl)
theorem dX0_form_60 : decode cX0_form 60 = .ok (.i2l, 1) := dk_133 (dk_at dksX0_form_2 14 rfl rfl)
theorem dX0_form_61 : decode cX0_form 61 = .ok (.putfield 79, 3) := dk_181 0 79 (dk_at dksX0_form_2 15 rfl rfl)
theorem dX0_form_64 : decode cX0_form 64 = .ok (.iconst 1, 1) := dk_4 (dk_at dksX0_form_2 18 rfl rfl)
theorem dX0_form_65 : decode cX0_form 65 = .ok (.ireturn, 1) := dk_172 (dk_at dksX0_form_2 19 rfl rfl)
theorem dX0_form_66 : decode cX0_form 66 = .ok (.iinc 3 1, 3) := dk_132 3 1 (dk_at dksX0_form_2 20 rfl rfl)
theorem dX0_form_69 : decode cX0_form 69 = .ok (.iinc 4 1, 3) := dk_132 4 1 (dk_at dksX0_form_3 0 rfl rfl)
theorem dX0_form_72 : decode cX0_form 72 = .ok (.goto (-45), 3) := dk_167 255 211 (dk_at dksX0_form_3 3 rfl rfl)
theorem dX0_form_75 : decode cX0_form 75 = .ok (.iconst 0, 1) := dk_3 (dk_at dksX0_form_3 6 rfl rfl)
theorem dX0_form_76 : decode cX0_form 76 = .ok (.ireturn, 1) := dk_172 (dk_at dksX0_form_3 7 rfl rfl)
abbrev cX0_name : ByteArray := prog_1_method_47_code
def yX0_name : MethodName := ⟨RX0, "name", "()Z"⟩
def dkwX0_name_2 : List UInt8 := [181, 0, 79, 29, 172]
abbrev dktX0_name_2 : List UInt8 := dkwX0_name_2 ++ []
def dkwX0_name_1 : List UInt8 := [31, 42, 180, 0, 12, 180, 0, 79, 148, 153, 0, 7, 4, 167, 0, 4, 3, 62, 42, 180, 0, 12, 31]
abbrev dktX0_name_1 : List UInt8 := dkwX0_name_1 ++ dktX0_name_2
def dkwX0_name_0 : List UInt8 := [42, 182, 1, 91, 154, 0, 5, 3, 172, 42, 180, 0, 52, 42, 180, 0, 12, 180, 0, 79, 182, 1, 83, 64]
abbrev dktX0_name_0 : List UInt8 := dkwX0_name_0 ++ dktX0_name_1
theorem dksX0_name_0 : cX0_name.data.toList.drop 0 = dktX0_name_0 := by decide +kernel
theorem dksX0_name_1 : cX0_name.data.toList.drop 24 = dktX0_name_1 := dk_seg dksX0_name_0 24 rfl rfl
theorem dksX0_name_2 : cX0_name.data.toList.drop 47 = dktX0_name_2 := dk_seg dksX0_name_1 23 rfl rfl
theorem dX0_name_0 : decode cX0_name 0 = .ok (.aload_n 0, 1) := dk_42 (dk_at dksX0_name_0 0 rfl rfl)
theorem dX0_name_1 : decode cX0_name 1 = .ok (.invokevirtual 347, 3) := dk_182 1 91 (dk_at dksX0_name_0 1 rfl rfl)
theorem dX0_name_4 : decode cX0_name 4 = .ok (.ifCond .ne 5, 3) := dk_154 0 5 (dk_at dksX0_name_0 4 rfl rfl)
theorem dX0_name_7 : decode cX0_name 7 = .ok (.iconst 0, 1) := dk_3 (dk_at dksX0_name_0 7 rfl rfl)
theorem dX0_name_8 : decode cX0_name 8 = .ok (.ireturn, 1) := dk_172 (dk_at dksX0_name_0 8 rfl rfl)
theorem dX0_name_9 : decode cX0_name 9 = .ok (.aload_n 0, 1) := dk_42 (dk_at dksX0_name_0 9 rfl rfl)
theorem dX0_name_10 : decode cX0_name 10 = .ok (.getfield 52, 3) := dk_180 0 52 (dk_at dksX0_name_0 10 rfl rfl)
theorem dX0_name_13 : decode cX0_name 13 = .ok (.aload_n 0, 1) := dk_42 (dk_at dksX0_name_0 13 rfl rfl)
theorem dX0_name_14 : decode cX0_name 14 = .ok (.getfield 12, 3) := dk_180 0 12 (dk_at dksX0_name_0 14 rfl rfl)
theorem dX0_name_17 : decode cX0_name 17 = .ok (.getfield 79, 3) := dk_180 0 79 (dk_at dksX0_name_0 17 rfl rfl)
theorem dX0_name_20 : decode cX0_name 20 = .ok (.invokevirtual 339, 3) := dk_182 1 83 (dk_at dksX0_name_0 20 rfl rfl)
theorem dX0_name_23 : decode cX0_name 23 = .ok (.lstore_n 1, 1) := dk_64 (dk_at dksX0_name_0 23 rfl rfl)
theorem dX0_name_24 : decode cX0_name 24 = .ok (.lload_n 1, 1) := dk_31 (dk_at dksX0_name_1 0 rfl rfl)
theorem dX0_name_25 : decode cX0_name 25 = .ok (.aload_n 0, 1) := dk_42 (dk_at dksX0_name_1 1 rfl rfl)
theorem dX0_name_26 : decode cX0_name 26 = .ok (.getfield 12, 3) := dk_180 0 12 (dk_at dksX0_name_1 2 rfl rfl)
theorem dX0_name_29 : decode cX0_name 29 = .ok (.getfield 79, 3) := dk_180 0 79 (dk_at dksX0_name_1 5 rfl rfl)
theorem dX0_name_32 : decode cX0_name 32 = .ok (.lcmp, 1) := dk_148 (dk_at dksX0_name_1 8 rfl rfl)
theorem dX0_name_33 : decode cX0_name 33 = .ok (.ifCond .eq 7, 3) := dk_153 0 7 (dk_at dksX0_name_1 9 rfl rfl)
theorem dX0_name_36 : decode cX0_name 36 = .ok (.iconst 1, 1) := dk_4 (dk_at dksX0_name_1 12 rfl rfl)
theorem dX0_name_37 : decode cX0_name 37 = .ok (.goto 4, 3) := dk_167 0 4 (dk_at dksX0_name_1 13 rfl rfl)
theorem dX0_name_40 : decode cX0_name 40 = .ok (.iconst 0, 1) := dk_3 (dk_at dksX0_name_1 16 rfl rfl)
theorem dX0_name_41 : decode cX0_name 41 = .ok (.istore_n 3, 1) := dk_62 (dk_at dksX0_name_1 17 rfl rfl)
theorem dX0_name_42 : decode cX0_name 42 = .ok (.aload_n 0, 1) := dk_42 (dk_at dksX0_name_1 18 rfl rfl)
theorem dX0_name_43 : decode cX0_name 43 = .ok (.getfield 12, 3) := dk_180 0 12 (dk_at dksX0_name_1 19 rfl rfl)
theorem dX0_name_46 : decode cX0_name 46 = .ok (.lload_n 1, 1) := dk_31 (dk_at dksX0_name_1 22 rfl rfl)
theorem dX0_name_47 : decode cX0_name 47 = .ok (.putfield 79, 3) := dk_181 0 79 (dk_at dksX0_name_2 0 rfl rfl)
theorem dX0_name_50 : decode cX0_name 50 = .ok (.iload_n 3, 1) := dk_29 (dk_at dksX0_name_2 3 rfl rfl)
theorem dX0_name_51 : decode cX0_name 51 = .ok (.ireturn, 1) := dk_172 (dk_at dksX0_name_2 4 rfl rfl)
abbrev cX0_least : ByteArray := prog_1_method_49_code
def yX0_least : MethodName := ⟨RX0, "least", "(I)I"⟩
def dkwX0_least_6 : List UInt8 := [2, 172]
abbrev dktX0_least_6 : List UInt8 := dkwX0_least_6 ++ []
def dkwX0_least_5 : List UInt8 := [180, 0, 102, 27, 46, 172, 132, 5, 1, 167, 255, 174, 132, 4, 1, 167, 255, 159, 132, 3, 1, 167, 255, 144]
abbrev dktX0_least_5 : List UInt8 := dkwX0_least_5 ++ dktX0_least_6
def dkwX0_least_4 : List UInt8 := [79, 42, 180, 0, 65, 180, 0, 102, 5, 21, 6, 79, 42, 28, 182, 1, 110, 153, 0, 13, 42, 180, 0, 65]
abbrev dktX0_least_4 : List UInt8 := dkwX0_least_4 ++ dktX0_least_5
def dkwX0_least_3 : List UInt8 := [167, 0, 54, 42, 180, 0, 65, 180, 0, 102, 3, 21, 4, 79, 42, 180, 0, 65, 180, 0, 102, 4, 21, 5]
abbrev dktX0_least_3 : List UInt8 := dkwX0_least_3 ++ dktX0_least_4
def dkwX0_least_2 : List UInt8 := [163, 0, 82, 29, 21, 4, 100, 21, 5, 100, 54, 6, 21, 6, 4, 6, 184, 0, 75, 154, 0, 6]
abbrev dktX0_least_2 : List UInt8 := dkwX0_least_2 ++ dktX0_least_3
def dkwX0_least_1 : List UInt8 := [61, 6, 62, 29, 16, 9, 163, 0, 112, 4, 54, 4, 21, 4, 6, 163, 0, 97, 4, 54, 5, 21, 5, 6]
abbrev dktX0_least_1 : List UInt8 := dkwX0_least_1 ++ dktX0_least_2
def dkwX0_least_0 : List UInt8 := [27, 184, 0, 91, 154, 0, 5, 2, 172, 42, 180, 0, 65, 42, 182, 0, 95, 182, 1, 106, 42, 182, 1, 97]
abbrev dktX0_least_0 : List UInt8 := dkwX0_least_0 ++ dktX0_least_1
theorem dksX0_least_0 : cX0_least.data.toList.drop 0 = dktX0_least_0 := by decide +kernel
theorem dksX0_least_1 : cX0_least.data.toList.drop 24 = dktX0_least_1 := dk_seg dksX0_least_0 24 rfl rfl
theorem dksX0_least_2 : cX0_least.data.toList.drop 48 = dktX0_least_2 := dk_seg dksX0_least_1 24 rfl rfl
theorem dksX0_least_3 : cX0_least.data.toList.drop 70 = dktX0_least_3 := dk_seg dksX0_least_2 22 rfl rfl
theorem dksX0_least_4 : cX0_least.data.toList.drop 94 = dktX0_least_4 := dk_seg dksX0_least_3 24 rfl rfl
theorem dksX0_least_5 : cX0_least.data.toList.drop 118 = dktX0_least_5 := dk_seg dksX0_least_4 24 rfl rfl
theorem dksX0_least_6 : cX0_least.data.toList.drop 142 = dktX0_least_6 := dk_seg dksX0_least_5 24 rfl rfl
theorem dX0_least_0 : decode cX0_least 0 = .ok (.iload_n 1, 1) := dk_27 (dk_at dksX0_least_0 0 rfl rfl)
theorem dX0_least_1 : decode cX0_least 1 = .ok (.invokestatic 91, 3) := dk_184 0 91 (dk_at dksX0_least_0 1 rfl rfl)
theorem dX0_least_4 : decode cX0_least 4 = .ok (.ifCond .ne 5, 3) := dk_154 0 5 (dk_at dksX0_least_0 4 rfl rfl)
theorem dX0_least_7 : decode cX0_least 7 = .ok (.iconst (-1), 1) := dk_2 (dk_at dksX0_least_0 7 rfl rfl)
theorem dX0_least_8 : decode cX0_least 8 = .ok (.ireturn, 1) := dk_172 (dk_at dksX0_least_0 8 rfl rfl)
theorem dX0_least_9 : decode cX0_least 9 = .ok (.aload_n 0, 1) := dk_42 (dk_at dksX0_least_0 9 rfl rfl)
theorem dX0_least_10 : decode cX0_least 10 = .ok (.getfield 65, 3) := dk_180 0 65 (dk_at dksX0_least_0 10 rfl rfl)
theorem dX0_least_13 : decode cX0_least 13 = .ok (.aload_n 0, 1) := dk_42 (dk_at dksX0_least_0 13 rfl rfl)
theorem dX0_least_14 : decode cX0_least 14 = .ok (.invokevirtual 95, 3) := dk_182 0 95 (dk_at dksX0_least_0 14 rfl rfl)
theorem dX0_least_17 : decode cX0_least 17 = .ok (.invokevirtual 362, 3) := dk_182 1 106 (dk_at dksX0_least_0 17 rfl rfl)
theorem dX0_least_20 : decode cX0_least 20 = .ok (.aload_n 0, 1) := dk_42 (dk_at dksX0_least_0 20 rfl rfl)
theorem dX0_least_21 : decode cX0_least 21 = .ok (.invokevirtual 353, 3) := dk_182 1 97 (dk_at dksX0_least_0 21 rfl rfl)
theorem dX0_least_24 : decode cX0_least 24 = .ok (.istore_n 2, 1) := dk_61 (dk_at dksX0_least_1 0 rfl rfl)
theorem dX0_least_25 : decode cX0_least 25 = .ok (.iconst 3, 1) := dk_6 (dk_at dksX0_least_1 1 rfl rfl)
theorem dX0_least_26 : decode cX0_least 26 = .ok (.istore_n 3, 1) := dk_62 (dk_at dksX0_least_1 2 rfl rfl)
theorem dX0_least_27 : decode cX0_least 27 = .ok (.iload_n 3, 1) := dk_29 (dk_at dksX0_least_1 3 rfl rfl)
theorem dX0_least_28 : decode cX0_least 28 = .ok (.bipush 9, 2) := dk_16 9 (dk_at dksX0_least_1 4 rfl rfl)
theorem dX0_least_30 : decode cX0_least 30 = .ok (.if_icmp .gt 112, 3) := dk_163 0 112 (dk_at dksX0_least_1 6 rfl rfl)
theorem dX0_least_33 : decode cX0_least 33 = .ok (.iconst 1, 1) := dk_4 (dk_at dksX0_least_1 9 rfl rfl)
theorem dX0_least_34 : decode cX0_least 34 = .ok (.istore 4, 2) := dk_54 4 (dk_at dksX0_least_1 10 rfl rfl)
theorem dX0_least_36 : decode cX0_least 36 = .ok (.iload 4, 2) := dk_21 4 (dk_at dksX0_least_1 12 rfl rfl)
theorem dX0_least_38 : decode cX0_least 38 = .ok (.iconst 3, 1) := dk_6 (dk_at dksX0_least_1 14 rfl rfl)
theorem dX0_least_39 : decode cX0_least 39 = .ok (.if_icmp .gt 97, 3) := dk_163 0 97 (dk_at dksX0_least_1 15 rfl rfl)
theorem dX0_least_42 : decode cX0_least 42 = .ok (.iconst 1, 1) := dk_4 (dk_at dksX0_least_1 18 rfl rfl)
theorem dX0_least_43 : decode cX0_least 43 = .ok (.istore 5, 2) := dk_54 5 (dk_at dksX0_least_1 19 rfl rfl)
theorem dX0_least_45 : decode cX0_least 45 = .ok (.iload 5, 2) := dk_21 5 (dk_at dksX0_least_1 21 rfl rfl)
theorem dX0_least_47 : decode cX0_least 47 = .ok (.iconst 3, 1) := dk_6 (dk_at dksX0_least_1 23 rfl rfl)
theorem dX0_least_48 : decode cX0_least 48 = .ok (.if_icmp .gt 82, 3) := dk_163 0 82 (dk_at dksX0_least_2 0 rfl rfl)
theorem dX0_least_51 : decode cX0_least 51 = .ok (.iload_n 3, 1) := dk_29 (dk_at dksX0_least_2 3 rfl rfl)
theorem dX0_least_52 : decode cX0_least 52 = .ok (.iload 4, 2) := dk_21 4 (dk_at dksX0_least_2 4 rfl rfl)
theorem dX0_least_54 : decode cX0_least 54 = .ok (.isub, 1) := dk_100 (dk_at dksX0_least_2 6 rfl rfl)
theorem dX0_least_55 : decode cX0_least 55 = .ok (.iload 5, 2) := dk_21 5 (dk_at dksX0_least_2 7 rfl rfl)
theorem dX0_least_57 : decode cX0_least 57 = .ok (.isub, 1) := dk_100 (dk_at dksX0_least_2 9 rfl rfl)
theorem dX0_least_58 : decode cX0_least 58 = .ok (.istore 6, 2) := dk_54 6 (dk_at dksX0_least_2 10 rfl rfl)
theorem dX0_least_60 : decode cX0_least 60 = .ok (.iload 6, 2) := dk_21 6 (dk_at dksX0_least_2 12 rfl rfl)
theorem dX0_least_62 : decode cX0_least 62 = .ok (.iconst 1, 1) := dk_4 (dk_at dksX0_least_2 14 rfl rfl)
theorem dX0_least_63 : decode cX0_least 63 = .ok (.iconst 3, 1) := dk_6 (dk_at dksX0_least_2 15 rfl rfl)
theorem dX0_least_64 : decode cX0_least 64 = .ok (.invokestatic 75, 3) := dk_184 0 75 (dk_at dksX0_least_2 16 rfl rfl)
theorem dX0_least_67 : decode cX0_least 67 = .ok (.ifCond .ne 6, 3) := dk_154 0 6 (dk_at dksX0_least_2 19 rfl rfl)
theorem dX0_least_70 : decode cX0_least 70 = .ok (.goto 54, 3) := dk_167 0 54 (dk_at dksX0_least_3 0 rfl rfl)
theorem dX0_least_73 : decode cX0_least 73 = .ok (.aload_n 0, 1) := dk_42 (dk_at dksX0_least_3 3 rfl rfl)
theorem dX0_least_74 : decode cX0_least 74 = .ok (.getfield 65, 3) := dk_180 0 65 (dk_at dksX0_least_3 4 rfl rfl)
theorem dX0_least_77 : decode cX0_least 77 = .ok (.getfield 102, 3) := dk_180 0 102 (dk_at dksX0_least_3 7 rfl rfl)
theorem dX0_least_80 : decode cX0_least 80 = .ok (.iconst 0, 1) := dk_3 (dk_at dksX0_least_3 10 rfl rfl)
theorem dX0_least_81 : decode cX0_least 81 = .ok (.iload 4, 2) := dk_21 4 (dk_at dksX0_least_3 11 rfl rfl)
theorem dX0_least_83 : decode cX0_least 83 = .ok (.iastore, 1) := dk_79 (dk_at dksX0_least_3 13 rfl rfl)
theorem dX0_least_84 : decode cX0_least 84 = .ok (.aload_n 0, 1) := dk_42 (dk_at dksX0_least_3 14 rfl rfl)
theorem dX0_least_85 : decode cX0_least 85 = .ok (.getfield 65, 3) := dk_180 0 65 (dk_at dksX0_least_3 15 rfl rfl)
theorem dX0_least_88 : decode cX0_least 88 = .ok (.getfield 102, 3) := dk_180 0 102 (dk_at dksX0_least_3 18 rfl rfl)
theorem dX0_least_91 : decode cX0_least 91 = .ok (.iconst 1, 1) := dk_4 (dk_at dksX0_least_3 21 rfl rfl)
theorem dX0_least_92 : decode cX0_least 92 = .ok (.iload 5, 2) := dk_21 5 (dk_at dksX0_least_3 22 rfl rfl)
theorem dX0_least_94 : decode cX0_least 94 = .ok (.iastore, 1) := dk_79 (dk_at dksX0_least_4 0 rfl rfl)
theorem dX0_least_95 : decode cX0_least 95 = .ok (.aload_n 0, 1) := dk_42 (dk_at dksX0_least_4 1 rfl rfl)
theorem dX0_least_96 : decode cX0_least 96 = .ok (.getfield 65, 3) := dk_180 0 65 (dk_at dksX0_least_4 2 rfl rfl)
theorem dX0_least_99 : decode cX0_least 99 = .ok (.getfield 102, 3) := dk_180 0 102 (dk_at dksX0_least_4 5 rfl rfl)
theorem dX0_least_102 : decode cX0_least 102 = .ok (.iconst 2, 1) := dk_5 (dk_at dksX0_least_4 8 rfl rfl)
theorem dX0_least_103 : decode cX0_least 103 = .ok (.iload 6, 2) := dk_21 6 (dk_at dksX0_least_4 9 rfl rfl)
theorem dX0_least_105 : decode cX0_least 105 = .ok (.iastore, 1) := dk_79 (dk_at dksX0_least_4 11 rfl rfl)
theorem dX0_least_106 : decode cX0_least 106 = .ok (.aload_n 0, 1) := dk_42 (dk_at dksX0_least_4 12 rfl rfl)
theorem dX0_least_107 : decode cX0_least 107 = .ok (.iload_n 2, 1) := dk_28 (dk_at dksX0_least_4 13 rfl rfl)
theorem dX0_least_108 : decode cX0_least 108 = .ok (.invokevirtual 366, 3) := dk_182 1 110 (dk_at dksX0_least_4 14 rfl rfl)
theorem dX0_least_111 : decode cX0_least 111 = .ok (.ifCond .eq 13, 3) := dk_153 0 13 (dk_at dksX0_least_4 17 rfl rfl)
theorem dX0_least_114 : decode cX0_least 114 = .ok (.aload_n 0, 1) := dk_42 (dk_at dksX0_least_4 20 rfl rfl)
theorem dX0_least_115 : decode cX0_least 115 = .ok (.getfield 65, 3) := dk_180 0 65 (dk_at dksX0_least_4 21 rfl rfl)
theorem dX0_least_118 : decode cX0_least 118 = .ok (.getfield 102, 3) := dk_180 0 102 (dk_at dksX0_least_5 0 rfl rfl)
theorem dX0_least_121 : decode cX0_least 121 = .ok (.iload_n 1, 1) := dk_27 (dk_at dksX0_least_5 3 rfl rfl)
theorem dX0_least_122 : decode cX0_least 122 = .ok (.iaload, 1) := dk_46 (dk_at dksX0_least_5 4 rfl rfl)
theorem dX0_least_123 : decode cX0_least 123 = .ok (.ireturn, 1) := dk_172 (dk_at dksX0_least_5 5 rfl rfl)
theorem dX0_least_124 : decode cX0_least 124 = .ok (.iinc 5 1, 3) := dk_132 5 1 (dk_at dksX0_least_5 6 rfl rfl)
theorem dX0_least_127 : decode cX0_least 127 = .ok (.goto (-82), 3) := dk_167 255 174 (dk_at dksX0_least_5 9 rfl rfl)
theorem dX0_least_130 : decode cX0_least 130 = .ok (.iinc 4 1, 3) := dk_132 4 1 (dk_at dksX0_least_5 12 rfl rfl)
theorem dX0_least_133 : decode cX0_least 133 = .ok (.goto (-97), 3) := dk_167 255 159 (dk_at dksX0_least_5 15 rfl rfl)
theorem dX0_least_136 : decode cX0_least 136 = .ok (.iinc 3 1, 3) := dk_132 3 1 (dk_at dksX0_least_5 18 rfl rfl)
theorem dX0_least_139 : decode cX0_least 139 = .ok (.goto (-112), 3) := dk_167 255 144 (dk_at dksX0_least_5 21 rfl rfl)
theorem dX0_least_142 : decode cX0_least 142 = .ok (.iconst (-1), 1) := dk_2 (dk_at dksX0_least_6 0 rfl rfl)
theorem dX0_least_143 : decode cX0_least 143 = .ok (.ireturn, 1) := dk_172 (dk_at dksX0_least_6 1 rfl rfl)
abbrev cX0_fits : ByteArray := prog_1_method_48_code
def yX0_fits : MethodName := ⟨RX0, "fits", "(I)Z"⟩
def dkwX0_fits_4 : List UInt8 := [167, 255, 195, 21, 4, 153, 0, 5, 4, 172, 132, 3, 1, 167, 255, 169, 3, 172]
abbrev dktX0_fits_4 : List UInt8 := dkwX0_fits_4 ++ []
def dkwX0_fits_3 : List UInt8 := [42, 180, 0, 65, 29, 133, 182, 0, 244, 153, 0, 7, 4, 167, 0, 4, 3, 54, 4, 132, 5, 1]
abbrev dktX0_fits_3 : List UInt8 := dkwX0_fits_3 ++ dktX0_fits_4
def dkwX0_fits_2 : List UInt8 := [21, 4, 153, 0, 47, 27, 21, 5, 184, 1, 88, 153, 0, 25, 42, 42, 21, 5, 182, 0, 217, 180, 0, 241]
abbrev dktX0_fits_2 : List UInt8 := dkwX0_fits_2 ++ dktX0_fits_3
def dkwX0_fits_1 : List UInt8 := [162, 0, 86, 4, 54, 4, 3, 54, 5, 21, 5, 42, 180, 0, 12, 180, 0, 183, 182, 0, 111, 162, 0, 52]
abbrev dktX0_fits_1 : List UInt8 := dkwX0_fits_1 ++ dktX0_fits_2
def dkwX0_fits_0 : List UInt8 := [42, 180, 0, 65, 182, 0, 123, 61, 28, 16, 12, 164, 0, 5, 3, 172, 3, 62, 29, 4, 28, 120]
abbrev dktX0_fits_0 : List UInt8 := dkwX0_fits_0 ++ dktX0_fits_1
theorem dksX0_fits_0 : cX0_fits.data.toList.drop 0 = dktX0_fits_0 := by decide +kernel
theorem dksX0_fits_1 : cX0_fits.data.toList.drop 22 = dktX0_fits_1 := dk_seg dksX0_fits_0 22 rfl rfl
theorem dksX0_fits_2 : cX0_fits.data.toList.drop 46 = dktX0_fits_2 := dk_seg dksX0_fits_1 24 rfl rfl
theorem dksX0_fits_3 : cX0_fits.data.toList.drop 70 = dktX0_fits_3 := dk_seg dksX0_fits_2 24 rfl rfl
theorem dksX0_fits_4 : cX0_fits.data.toList.drop 92 = dktX0_fits_4 := dk_seg dksX0_fits_3 22 rfl rfl
theorem dX0_fits_0 : decode cX0_fits 0 = .ok (.aload_n 0, 1) := dk_42 (dk_at dksX0_fits_0 0 rfl rfl)
theorem dX0_fits_1 : decode cX0_fits 1 = .ok (.getfield 65, 3) := dk_180 0 65 (dk_at dksX0_fits_0 1 rfl rfl)
theorem dX0_fits_4 : decode cX0_fits 4 = .ok (.invokevirtual 123, 3) := dk_182 0 123 (dk_at dksX0_fits_0 4 rfl rfl)
theorem dX0_fits_7 : decode cX0_fits 7 = .ok (.istore_n 2, 1) := dk_61 (dk_at dksX0_fits_0 7 rfl rfl)
theorem dX0_fits_8 : decode cX0_fits 8 = .ok (.iload_n 2, 1) := dk_28 (dk_at dksX0_fits_0 8 rfl rfl)
theorem dX0_fits_9 : decode cX0_fits 9 = .ok (.bipush 12, 2) := dk_16 12 (dk_at dksX0_fits_0 9 rfl rfl)
theorem dX0_fits_11 : decode cX0_fits 11 = .ok (.if_icmp .le 5, 3) := dk_164 0 5 (dk_at dksX0_fits_0 11 rfl rfl)
theorem dX0_fits_14 : decode cX0_fits 14 = .ok (.iconst 0, 1) := dk_3 (dk_at dksX0_fits_0 14 rfl rfl)
theorem dX0_fits_15 : decode cX0_fits 15 = .ok (.ireturn, 1) := dk_172 (dk_at dksX0_fits_0 15 rfl rfl)
theorem dX0_fits_16 : decode cX0_fits 16 = .ok (.iconst 0, 1) := dk_3 (dk_at dksX0_fits_0 16 rfl rfl)
theorem dX0_fits_17 : decode cX0_fits 17 = .ok (.istore_n 3, 1) := dk_62 (dk_at dksX0_fits_0 17 rfl rfl)
theorem dX0_fits_18 : decode cX0_fits 18 = .ok (.iload_n 3, 1) := dk_29 (dk_at dksX0_fits_0 18 rfl rfl)
theorem dX0_fits_19 : decode cX0_fits 19 = .ok (.iconst 1, 1) := dk_4 (dk_at dksX0_fits_0 19 rfl rfl)
theorem dX0_fits_20 : decode cX0_fits 20 = .ok (.iload_n 2, 1) := dk_28 (dk_at dksX0_fits_0 20 rfl rfl)
theorem dX0_fits_21 : decode cX0_fits 21 = .ok (.ishl, 1) := dk_120 (dk_at dksX0_fits_0 21 rfl rfl)
theorem dX0_fits_22 : decode cX0_fits 22 = .ok (.if_icmp .ge 86, 3) := dk_162 0 86 (dk_at dksX0_fits_1 0 rfl rfl)
theorem dX0_fits_25 : decode cX0_fits 25 = .ok (.iconst 1, 1) := dk_4 (dk_at dksX0_fits_1 3 rfl rfl)
theorem dX0_fits_26 : decode cX0_fits 26 = .ok (.istore 4, 2) := dk_54 4 (dk_at dksX0_fits_1 4 rfl rfl)
theorem dX0_fits_28 : decode cX0_fits 28 = .ok (.iconst 0, 1) := dk_3 (dk_at dksX0_fits_1 6 rfl rfl)
theorem dX0_fits_29 : decode cX0_fits 29 = .ok (.istore 5, 2) := dk_54 5 (dk_at dksX0_fits_1 7 rfl rfl)
theorem dX0_fits_31 : decode cX0_fits 31 = .ok (.iload 5, 2) := dk_21 5 (dk_at dksX0_fits_1 9 rfl rfl)
theorem dX0_fits_33 : decode cX0_fits 33 = .ok (.aload_n 0, 1) := dk_42 (dk_at dksX0_fits_1 11 rfl rfl)
theorem dX0_fits_34 : decode cX0_fits 34 = .ok (.getfield 12, 3) := dk_180 0 12 (dk_at dksX0_fits_1 12 rfl rfl)
theorem dX0_fits_37 : decode cX0_fits 37 = .ok (.getfield 183, 3) := dk_180 0 183 (dk_at dksX0_fits_1 15 rfl rfl)
theorem dX0_fits_40 : decode cX0_fits 40 = .ok (.invokevirtual 111, 3) := dk_182 0 111 (dk_at dksX0_fits_1 18 rfl rfl)
theorem dX0_fits_43 : decode cX0_fits 43 = .ok (.if_icmp .ge 52, 3) := dk_162 0 52 (dk_at dksX0_fits_1 21 rfl rfl)
theorem dX0_fits_46 : decode cX0_fits 46 = .ok (.iload 4, 2) := dk_21 4 (dk_at dksX0_fits_2 0 rfl rfl)
theorem dX0_fits_48 : decode cX0_fits 48 = .ok (.ifCond .eq 47, 3) := dk_153 0 47 (dk_at dksX0_fits_2 2 rfl rfl)
theorem dX0_fits_51 : decode cX0_fits 51 = .ok (.iload_n 1, 1) := dk_27 (dk_at dksX0_fits_2 5 rfl rfl)
theorem dX0_fits_52 : decode cX0_fits 52 = .ok (.iload 5, 2) := dk_21 5 (dk_at dksX0_fits_2 6 rfl rfl)
theorem dX0_fits_54 : decode cX0_fits 54 = .ok (.invokestatic 344, 3) := dk_184 1 88 (dk_at dksX0_fits_2 8 rfl rfl)
theorem dX0_fits_57 : decode cX0_fits 57 = .ok (.ifCond .eq 25, 3) := dk_153 0 25 (dk_at dksX0_fits_2 11 rfl rfl)
theorem dX0_fits_60 : decode cX0_fits 60 = .ok (.aload_n 0, 1) := dk_42 (dk_at dksX0_fits_2 14 rfl rfl)
theorem dX0_fits_61 : decode cX0_fits 61 = .ok (.aload_n 0, 1) := dk_42 (dk_at dksX0_fits_2 15 rfl rfl)
theorem dX0_fits_62 : decode cX0_fits 62 = .ok (.iload 5, 2) := dk_21 5 (dk_at dksX0_fits_2 16 rfl rfl)
theorem dX0_fits_64 : decode cX0_fits 64 = .ok (.invokevirtual 217, 3) := dk_182 0 217 (dk_at dksX0_fits_2 18 rfl rfl)
theorem dX0_fits_67 : decode cX0_fits 67 = .ok (.getfield 241, 3) := dk_180 0 241 (dk_at dksX0_fits_2 21 rfl rfl)
theorem dX0_fits_70 : decode cX0_fits 70 = .ok (.aload_n 0, 1) := dk_42 (dk_at dksX0_fits_3 0 rfl rfl)
theorem dX0_fits_71 : decode cX0_fits 71 = .ok (.getfield 65, 3) := dk_180 0 65 (dk_at dksX0_fits_3 1 rfl rfl)
theorem dX0_fits_74 : decode cX0_fits 74 = .ok (.iload_n 3, 1) := dk_29 (dk_at dksX0_fits_3 4 rfl rfl)
theorem dX0_fits_75 : decode cX0_fits 75 = .ok (.i2l, 1) := dk_133 (dk_at dksX0_fits_3 5 rfl rfl)
theorem dX0_fits_76 : decode cX0_fits 76 = .ok (.invokevirtual 244, 3) := dk_182 0 244 (dk_at dksX0_fits_3 6 rfl rfl)
theorem dX0_fits_79 : decode cX0_fits 79 = .ok (.ifCond .eq 7, 3) := dk_153 0 7 (dk_at dksX0_fits_3 9 rfl rfl)
theorem dX0_fits_82 : decode cX0_fits 82 = .ok (.iconst 1, 1) := dk_4 (dk_at dksX0_fits_3 12 rfl rfl)
theorem dX0_fits_83 : decode cX0_fits 83 = .ok (.goto 4, 3) := dk_167 0 4 (dk_at dksX0_fits_3 13 rfl rfl)
theorem dX0_fits_86 : decode cX0_fits 86 = .ok (.iconst 0, 1) := dk_3 (dk_at dksX0_fits_3 16 rfl rfl)
theorem dX0_fits_87 : decode cX0_fits 87 = .ok (.istore 4, 2) := dk_54 4 (dk_at dksX0_fits_3 17 rfl rfl)
theorem dX0_fits_89 : decode cX0_fits 89 = .ok (.iinc 5 1, 3) := dk_132 5 1 (dk_at dksX0_fits_3 19 rfl rfl)
theorem dX0_fits_92 : decode cX0_fits 92 = .ok (.goto (-61), 3) := dk_167 255 195 (dk_at dksX0_fits_4 0 rfl rfl)
theorem dX0_fits_95 : decode cX0_fits 95 = .ok (.iload 4, 2) := dk_21 4 (dk_at dksX0_fits_4 3 rfl rfl)
theorem dX0_fits_97 : decode cX0_fits 97 = .ok (.ifCond .eq 5, 3) := dk_153 0 5 (dk_at dksX0_fits_4 5 rfl rfl)
theorem dX0_fits_100 : decode cX0_fits 100 = .ok (.iconst 1, 1) := dk_4 (dk_at dksX0_fits_4 8 rfl rfl)
theorem dX0_fits_101 : decode cX0_fits 101 = .ok (.ireturn, 1) := dk_172 (dk_at dksX0_fits_4 9 rfl rfl)
theorem dX0_fits_102 : decode cX0_fits 102 = .ok (.iinc 3 1, 3) := dk_132 3 1 (dk_at dksX0_fits_4 10 rfl rfl)
theorem dX0_fits_105 : decode cX0_fits 105 = .ok (.goto (-87), 3) := dk_167 255 169 (dk_at dksX0_fits_4 13 rfl rfl)
theorem dX0_fits_108 : decode cX0_fits 108 = .ok (.iconst 0, 1) := dk_3 (dk_at dksX0_fits_4 16 rfl rfl)
theorem dX0_fits_109 : decode cX0_fits 109 = .ok (.ireturn, 1) := dk_172 (dk_at dksX0_fits_4 17 rfl rfl)
abbrev cX0_core : ByteArray := prog_1_method_54_code
def yX0_core : MethodName := ⟨RX0, "core", "(I)I"⟩
def dkwX0_core_1 : List UInt8 := [186, 1, 127, 0, 0, 184, 1, 130, 61, 28, 2, 160, 0, 7, 2, 167, 0, 8, 28, 27, 184, 1, 134, 172]
abbrev dktX0_core_1 : List UInt8 := dkwX0_core_1 ++ []
def dkwX0_core_0 : List UInt8 := [42, 182, 1, 91, 153, 0, 7, 27, 156, 0, 5, 2, 172, 42, 182, 1, 94, 42, 182, 1, 97, 42]
abbrev dktX0_core_0 : List UInt8 := dkwX0_core_0 ++ dktX0_core_1
theorem dksX0_core_0 : cX0_core.data.toList.drop 0 = dktX0_core_0 := by decide +kernel
theorem dksX0_core_1 : cX0_core.data.toList.drop 22 = dktX0_core_1 := dk_seg dksX0_core_0 22 rfl rfl
theorem dX0_core_0 : decode cX0_core 0 = .ok (.aload_n 0, 1) := dk_42 (dk_at dksX0_core_0 0 rfl rfl)
theorem dX0_core_1 : decode cX0_core 1 = .ok (.invokevirtual 347, 3) := dk_182 1 91 (dk_at dksX0_core_0 1 rfl rfl)
theorem dX0_core_4 : decode cX0_core 4 = .ok (.ifCond .eq 7, 3) := dk_153 0 7 (dk_at dksX0_core_0 4 rfl rfl)
theorem dX0_core_7 : decode cX0_core 7 = .ok (.iload_n 1, 1) := dk_27 (dk_at dksX0_core_0 7 rfl rfl)
theorem dX0_core_8 : decode cX0_core 8 = .ok (.ifCond .ge 5, 3) := dk_156 0 5 (dk_at dksX0_core_0 8 rfl rfl)
theorem dX0_core_11 : decode cX0_core 11 = .ok (.iconst (-1), 1) := dk_2 (dk_at dksX0_core_0 11 rfl rfl)
theorem dX0_core_12 : decode cX0_core 12 = .ok (.ireturn, 1) := dk_172 (dk_at dksX0_core_0 12 rfl rfl)
theorem dX0_core_13 : decode cX0_core 13 = .ok (.aload_n 0, 1) := dk_42 (dk_at dksX0_core_0 13 rfl rfl)
theorem dX0_core_14 : decode cX0_core 14 = .ok (.invokevirtual 350, 3) := dk_182 1 94 (dk_at dksX0_core_0 14 rfl rfl)
theorem dX0_core_17 : decode cX0_core 17 = .ok (.aload_n 0, 1) := dk_42 (dk_at dksX0_core_0 17 rfl rfl)
theorem dX0_core_18 : decode cX0_core 18 = .ok (.invokevirtual 353, 3) := dk_182 1 97 (dk_at dksX0_core_0 18 rfl rfl)
theorem dX0_core_21 : decode cX0_core 21 = .ok (.aload_n 0, 1) := dk_42 (dk_at dksX0_core_0 21 rfl rfl)
theorem dX0_core_22 : decode cX0_core 22 = .ok (.invokedynamic 383, 5) := by decide +kernel
theorem dX0_core_27 : decode cX0_core 27 = .ok (.invokestatic 386, 3) := dk_184 1 130 (dk_at dksX0_core_1 5 rfl rfl)
theorem dX0_core_30 : decode cX0_core 30 = .ok (.istore_n 2, 1) := dk_61 (dk_at dksX0_core_1 8 rfl rfl)
theorem dX0_core_31 : decode cX0_core 31 = .ok (.iload_n 2, 1) := dk_28 (dk_at dksX0_core_1 9 rfl rfl)
theorem dX0_core_32 : decode cX0_core 32 = .ok (.iconst (-1), 1) := dk_2 (dk_at dksX0_core_1 10 rfl rfl)
theorem dX0_core_33 : decode cX0_core 33 = .ok (.if_icmp .ne 7, 3) := dk_160 0 7 (dk_at dksX0_core_1 11 rfl rfl)
theorem dX0_core_36 : decode cX0_core 36 = .ok (.iconst (-1), 1) := dk_2 (dk_at dksX0_core_1 14 rfl rfl)
theorem dX0_core_37 : decode cX0_core 37 = .ok (.goto 8, 3) := dk_167 0 8 (dk_at dksX0_core_1 15 rfl rfl)
theorem dX0_core_40 : decode cX0_core 40 = .ok (.iload_n 2, 1) := dk_28 (dk_at dksX0_core_1 18 rfl rfl)
theorem dX0_core_41 : decode cX0_core 41 = .ok (.iload_n 1, 1) := dk_27 (dk_at dksX0_core_1 19 rfl rfl)
theorem dX0_core_42 : decode cX0_core 42 = .ok (.invokestatic 390, 3) := dk_184 1 134 (dk_at dksX0_core_1 20 rfl rfl)
theorem dX0_core_45 : decode cX0_core 45 = .ok (.ireturn, 1) := dk_172 (dk_at dksX0_core_1 23 rfl rfl)
abbrev cX0_lambda_core_0 : ByteArray := prog_1_method_70_code
def yX0_lambda_core_0 : MethodName := ⟨RX0, "lambda$core$0", "(I)Z"⟩
def dkwX0_lambda_core_0_0 : List UInt8 := [42, 27, 182, 1, 166, 154, 0, 7, 4, 167, 0, 4, 3, 172]
abbrev dktX0_lambda_core_0_0 : List UInt8 := dkwX0_lambda_core_0_0 ++ []
theorem dksX0_lambda_core_0_0 : cX0_lambda_core_0.data.toList.drop 0 = dktX0_lambda_core_0_0 := by decide +kernel
theorem dX0_lambda_core_0_0 : decode cX0_lambda_core_0 0 = .ok (.aload_n 0, 1) := dk_42 (dk_at dksX0_lambda_core_0_0 0 rfl rfl)
theorem dX0_lambda_core_0_1 : decode cX0_lambda_core_0 1 = .ok (.iload_n 1, 1) := dk_27 (dk_at dksX0_lambda_core_0_0 1 rfl rfl)
theorem dX0_lambda_core_0_2 : decode cX0_lambda_core_0 2 = .ok (.invokevirtual 422, 3) := dk_182 1 166 (dk_at dksX0_lambda_core_0_0 2 rfl rfl)
theorem dX0_lambda_core_0_5 : decode cX0_lambda_core_0 5 = .ok (.ifCond .ne 7, 3) := dk_154 0 7 (dk_at dksX0_lambda_core_0_0 5 rfl rfl)
theorem dX0_lambda_core_0_8 : decode cX0_lambda_core_0 8 = .ok (.iconst 1, 1) := dk_4 (dk_at dksX0_lambda_core_0_0 8 rfl rfl)
theorem dX0_lambda_core_0_9 : decode cX0_lambda_core_0 9 = .ok (.goto 4, 3) := dk_167 0 4 (dk_at dksX0_lambda_core_0_0 9 rfl rfl)
theorem dX0_lambda_core_0_12 : decode cX0_lambda_core_0 12 = .ok (.iconst 0, 1) := dk_3 (dk_at dksX0_lambda_core_0_0 12 rfl rfl)
theorem dX0_lambda_core_0_13 : decode cX0_lambda_core_0 13 = .ok (.ireturn, 1) := dk_172 (dk_at dksX0_lambda_core_0_0 13 rfl rfl)
abbrev cX0_isBorne : ByteArray := prog_1_method_52_code
def yX0_isBorne : MethodName := ⟨RX0, "isBorne", "(I)Z"⟩
def dkwX0_isBorne_1 : List UInt8 := [132, 3, 1, 167, 255, 234, 28, 172]
abbrev dktX0_isBorne_1 : List UInt8 := dkwX0_isBorne_1 ++ []
def dkwX0_isBorne_0 : List UInt8 := [3, 61, 3, 62, 29, 42, 182, 1, 63, 162, 0, 20, 28, 154, 0, 16, 42, 29, 27, 182, 1, 79, 61]
abbrev dktX0_isBorne_0 : List UInt8 := dkwX0_isBorne_0 ++ dktX0_isBorne_1
theorem dksX0_isBorne_0 : cX0_isBorne.data.toList.drop 0 = dktX0_isBorne_0 := by decide +kernel
theorem dksX0_isBorne_1 : cX0_isBorne.data.toList.drop 23 = dktX0_isBorne_1 := dk_seg dksX0_isBorne_0 23 rfl rfl
theorem dX0_isBorne_0 : decode cX0_isBorne 0 = .ok (.iconst 0, 1) := dk_3 (dk_at dksX0_isBorne_0 0 rfl rfl)
theorem dX0_isBorne_1 : decode cX0_isBorne 1 = .ok (.istore_n 2, 1) := dk_61 (dk_at dksX0_isBorne_0 1 rfl rfl)
theorem dX0_isBorne_2 : decode cX0_isBorne 2 = .ok (.iconst 0, 1) := dk_3 (dk_at dksX0_isBorne_0 2 rfl rfl)
theorem dX0_isBorne_3 : decode cX0_isBorne 3 = .ok (.istore_n 3, 1) := dk_62 (dk_at dksX0_isBorne_0 3 rfl rfl)
theorem dX0_isBorne_4 : decode cX0_isBorne 4 = .ok (.iload_n 3, 1) := dk_29 (dk_at dksX0_isBorne_0 4 rfl rfl)
theorem dX0_isBorne_5 : decode cX0_isBorne 5 = .ok (.aload_n 0, 1) := dk_42 (dk_at dksX0_isBorne_0 5 rfl rfl)
theorem dX0_isBorne_6 : decode cX0_isBorne 6 = .ok (.invokevirtual 319, 3) := dk_182 1 63 (dk_at dksX0_isBorne_0 6 rfl rfl)
theorem dX0_isBorne_9 : decode cX0_isBorne 9 = .ok (.if_icmp .ge 20, 3) := dk_162 0 20 (dk_at dksX0_isBorne_0 9 rfl rfl)
theorem dX0_isBorne_12 : decode cX0_isBorne 12 = .ok (.iload_n 2, 1) := dk_28 (dk_at dksX0_isBorne_0 12 rfl rfl)
theorem dX0_isBorne_13 : decode cX0_isBorne 13 = .ok (.ifCond .ne 16, 3) := dk_154 0 16 (dk_at dksX0_isBorne_0 13 rfl rfl)
theorem dX0_isBorne_16 : decode cX0_isBorne 16 = .ok (.aload_n 0, 1) := dk_42 (dk_at dksX0_isBorne_0 16 rfl rfl)
theorem dX0_isBorne_17 : decode cX0_isBorne 17 = .ok (.iload_n 3, 1) := dk_29 (dk_at dksX0_isBorne_0 17 rfl rfl)
theorem dX0_isBorne_18 : decode cX0_isBorne 18 = .ok (.iload_n 1, 1) := dk_27 (dk_at dksX0_isBorne_0 18 rfl rfl)
theorem dX0_isBorne_19 : decode cX0_isBorne 19 = .ok (.invokevirtual 335, 3) := dk_182 1 79 (dk_at dksX0_isBorne_0 19 rfl rfl)
theorem dX0_isBorne_22 : decode cX0_isBorne 22 = .ok (.istore_n 2, 1) := dk_61 (dk_at dksX0_isBorne_0 22 rfl rfl)
theorem dX0_isBorne_23 : decode cX0_isBorne 23 = .ok (.iinc 3 1, 3) := dk_132 3 1 (dk_at dksX0_isBorne_1 0 rfl rfl)
theorem dX0_isBorne_26 : decode cX0_isBorne 26 = .ok (.goto (-22), 3) := dk_167 255 234 (dk_at dksX0_isBorne_1 3 rfl rfl)
theorem dX0_isBorne_29 : decode cX0_isBorne 29 = .ok (.iload_n 2, 1) := dk_28 (dk_at dksX0_isBorne_1 6 rfl rfl)
theorem dX0_isBorne_30 : decode cX0_isBorne 30 = .ok (.ireturn, 1) := dk_172 (dk_at dksX0_isBorne_1 7 rfl rfl)
abbrev cX0_fewest : ByteArray := prog_1_method_51_code
def yX0_fewest : MethodName := ⟨RX0, "fewest", "(ILVillageStories$Does;)I"⟩
def dkwX0_fewest_3 : List UInt8 := [61, 132, 3, 1, 167, 255, 187, 28, 172]
abbrev dktX0_fewest_3 : List UInt8 := dkwX0_fewest_3 ++ []
def dkwX0_fewest_2 : List UInt8 := [21, 4, 154, 0, 23, 29, 28, 184, 1, 116, 153, 0, 15, 43, 29, 185, 1, 119, 2, 0, 153, 0, 5, 29]
abbrev dktX0_fewest_2 : List UInt8 := dkwX0_fewest_2 ++ dktX0_fewest_3
def dkwX0_fewest_1 : List UInt8 := [160, 0, 7, 2, 167, 0, 12, 29, 184, 1, 113, 28, 184, 1, 113, 100, 54, 4, 21, 4, 155, 0, 16]
abbrev dktX0_fewest_1 : List UInt8 := dkwX0_fewest_1 ++ dktX0_fewest_2
def dkwX0_fewest_0 : List UInt8 := [2, 61, 3, 62, 29, 26, 163, 0, 70, 29, 26, 2, 130, 126, 153, 0, 6, 167, 0, 53, 28, 2]
abbrev dktX0_fewest_0 : List UInt8 := dkwX0_fewest_0 ++ dktX0_fewest_1
theorem dksX0_fewest_0 : cX0_fewest.data.toList.drop 0 = dktX0_fewest_0 := by decide +kernel
theorem dksX0_fewest_1 : cX0_fewest.data.toList.drop 22 = dktX0_fewest_1 := dk_seg dksX0_fewest_0 22 rfl rfl
theorem dksX0_fewest_2 : cX0_fewest.data.toList.drop 45 = dktX0_fewest_2 := dk_seg dksX0_fewest_1 23 rfl rfl
theorem dksX0_fewest_3 : cX0_fewest.data.toList.drop 69 = dktX0_fewest_3 := dk_seg dksX0_fewest_2 24 rfl rfl
theorem dX0_fewest_0 : decode cX0_fewest 0 = .ok (.iconst (-1), 1) := dk_2 (dk_at dksX0_fewest_0 0 rfl rfl)
theorem dX0_fewest_1 : decode cX0_fewest 1 = .ok (.istore_n 2, 1) := dk_61 (dk_at dksX0_fewest_0 1 rfl rfl)
theorem dX0_fewest_2 : decode cX0_fewest 2 = .ok (.iconst 0, 1) := dk_3 (dk_at dksX0_fewest_0 2 rfl rfl)
theorem dX0_fewest_3 : decode cX0_fewest 3 = .ok (.istore_n 3, 1) := dk_62 (dk_at dksX0_fewest_0 3 rfl rfl)
theorem dX0_fewest_4 : decode cX0_fewest 4 = .ok (.iload_n 3, 1) := dk_29 (dk_at dksX0_fewest_0 4 rfl rfl)
theorem dX0_fewest_5 : decode cX0_fewest 5 = .ok (.iload_n 0, 1) := dk_26 (dk_at dksX0_fewest_0 5 rfl rfl)
theorem dX0_fewest_6 : decode cX0_fewest 6 = .ok (.if_icmp .gt 70, 3) := dk_163 0 70 (dk_at dksX0_fewest_0 6 rfl rfl)
theorem dX0_fewest_9 : decode cX0_fewest 9 = .ok (.iload_n 3, 1) := dk_29 (dk_at dksX0_fewest_0 9 rfl rfl)
theorem dX0_fewest_10 : decode cX0_fewest 10 = .ok (.iload_n 0, 1) := dk_26 (dk_at dksX0_fewest_0 10 rfl rfl)
theorem dX0_fewest_11 : decode cX0_fewest 11 = .ok (.iconst (-1), 1) := dk_2 (dk_at dksX0_fewest_0 11 rfl rfl)
theorem dX0_fewest_12 : decode cX0_fewest 12 = .ok (.ixor, 1) := dk_130 (dk_at dksX0_fewest_0 12 rfl rfl)
theorem dX0_fewest_13 : decode cX0_fewest 13 = .ok (.iand, 1) := dk_126 (dk_at dksX0_fewest_0 13 rfl rfl)
theorem dX0_fewest_14 : decode cX0_fewest 14 = .ok (.ifCond .eq 6, 3) := dk_153 0 6 (dk_at dksX0_fewest_0 14 rfl rfl)
theorem dX0_fewest_17 : decode cX0_fewest 17 = .ok (.goto 53, 3) := dk_167 0 53 (dk_at dksX0_fewest_0 17 rfl rfl)
theorem dX0_fewest_20 : decode cX0_fewest 20 = .ok (.iload_n 2, 1) := dk_28 (dk_at dksX0_fewest_0 20 rfl rfl)
theorem dX0_fewest_21 : decode cX0_fewest 21 = .ok (.iconst (-1), 1) := dk_2 (dk_at dksX0_fewest_0 21 rfl rfl)
theorem dX0_fewest_22 : decode cX0_fewest 22 = .ok (.if_icmp .ne 7, 3) := dk_160 0 7 (dk_at dksX0_fewest_1 0 rfl rfl)
theorem dX0_fewest_25 : decode cX0_fewest 25 = .ok (.iconst (-1), 1) := dk_2 (dk_at dksX0_fewest_1 3 rfl rfl)
theorem dX0_fewest_26 : decode cX0_fewest 26 = .ok (.goto 12, 3) := dk_167 0 12 (dk_at dksX0_fewest_1 4 rfl rfl)
theorem dX0_fewest_29 : decode cX0_fewest 29 = .ok (.iload_n 3, 1) := dk_29 (dk_at dksX0_fewest_1 7 rfl rfl)
theorem dX0_fewest_30 : decode cX0_fewest 30 = .ok (.invokestatic 369, 3) := dk_184 1 113 (dk_at dksX0_fewest_1 8 rfl rfl)
theorem dX0_fewest_33 : decode cX0_fewest 33 = .ok (.iload_n 2, 1) := dk_28 (dk_at dksX0_fewest_1 11 rfl rfl)
theorem dX0_fewest_34 : decode cX0_fewest 34 = .ok (.invokestatic 369, 3) := dk_184 1 113 (dk_at dksX0_fewest_1 12 rfl rfl)
theorem dX0_fewest_37 : decode cX0_fewest 37 = .ok (.isub, 1) := dk_100 (dk_at dksX0_fewest_1 15 rfl rfl)
theorem dX0_fewest_38 : decode cX0_fewest 38 = .ok (.istore 4, 2) := dk_54 4 (dk_at dksX0_fewest_1 16 rfl rfl)
theorem dX0_fewest_40 : decode cX0_fewest 40 = .ok (.iload 4, 2) := dk_21 4 (dk_at dksX0_fewest_1 18 rfl rfl)
theorem dX0_fewest_42 : decode cX0_fewest 42 = .ok (.ifCond .lt 16, 3) := dk_155 0 16 (dk_at dksX0_fewest_1 20 rfl rfl)
theorem dX0_fewest_45 : decode cX0_fewest 45 = .ok (.iload 4, 2) := dk_21 4 (dk_at dksX0_fewest_2 0 rfl rfl)
theorem dX0_fewest_47 : decode cX0_fewest 47 = .ok (.ifCond .ne 23, 3) := dk_154 0 23 (dk_at dksX0_fewest_2 2 rfl rfl)
theorem dX0_fewest_50 : decode cX0_fewest 50 = .ok (.iload_n 3, 1) := dk_29 (dk_at dksX0_fewest_2 5 rfl rfl)
theorem dX0_fewest_51 : decode cX0_fewest 51 = .ok (.iload_n 2, 1) := dk_28 (dk_at dksX0_fewest_2 6 rfl rfl)
theorem dX0_fewest_52 : decode cX0_fewest 52 = .ok (.invokestatic 372, 3) := dk_184 1 116 (dk_at dksX0_fewest_2 7 rfl rfl)
theorem dX0_fewest_55 : decode cX0_fewest 55 = .ok (.ifCond .eq 15, 3) := dk_153 0 15 (dk_at dksX0_fewest_2 10 rfl rfl)
theorem dX0_fewest_58 : decode cX0_fewest 58 = .ok (.aload_n 1, 1) := dk_43 (dk_at dksX0_fewest_2 13 rfl rfl)
theorem dX0_fewest_59 : decode cX0_fewest 59 = .ok (.iload_n 3, 1) := dk_29 (dk_at dksX0_fewest_2 14 rfl rfl)
theorem dX0_fewest_60 : decode cX0_fewest 60 = .ok (.invokeinterface 375 2, 5) := by decide +kernel
theorem dX0_fewest_65 : decode cX0_fewest 65 = .ok (.ifCond .eq 5, 3) := dk_153 0 5 (dk_at dksX0_fewest_2 20 rfl rfl)
theorem dX0_fewest_68 : decode cX0_fewest 68 = .ok (.iload_n 3, 1) := dk_29 (dk_at dksX0_fewest_2 23 rfl rfl)
theorem dX0_fewest_69 : decode cX0_fewest 69 = .ok (.istore_n 2, 1) := dk_61 (dk_at dksX0_fewest_3 0 rfl rfl)
theorem dX0_fewest_70 : decode cX0_fewest 70 = .ok (.iinc 3 1, 3) := dk_132 3 1 (dk_at dksX0_fewest_3 1 rfl rfl)
theorem dX0_fewest_73 : decode cX0_fewest 73 = .ok (.goto (-69), 3) := dk_167 255 187 (dk_at dksX0_fewest_3 4 rfl rfl)
theorem dX0_fewest_76 : decode cX0_fewest 76 = .ok (.iload_n 2, 1) := dk_28 (dk_at dksX0_fewest_3 7 rfl rfl)
theorem dX0_fewest_77 : decode cX0_fewest 77 = .ok (.ireturn, 1) := dk_172 (dk_at dksX0_fewest_3 8 rfl rfl)
abbrev cX0_isLess : ByteArray := prog_1_method_50_code
def yX0_isLess : MethodName := ⟨RX0, "isLess", "(II)Z"⟩
def dkwX0_isLess_0 : List UInt8 := [26, 27, 130, 61, 26, 28, 126, 28, 116, 126, 153, 0, 7, 4, 167, 0, 4, 3, 172]
abbrev dktX0_isLess_0 : List UInt8 := dkwX0_isLess_0 ++ []
theorem dksX0_isLess_0 : cX0_isLess.data.toList.drop 0 = dktX0_isLess_0 := by decide +kernel
theorem dX0_isLess_0 : decode cX0_isLess 0 = .ok (.iload_n 0, 1) := dk_26 (dk_at dksX0_isLess_0 0 rfl rfl)
theorem dX0_isLess_1 : decode cX0_isLess 1 = .ok (.iload_n 1, 1) := dk_27 (dk_at dksX0_isLess_0 1 rfl rfl)
theorem dX0_isLess_2 : decode cX0_isLess 2 = .ok (.ixor, 1) := dk_130 (dk_at dksX0_isLess_0 2 rfl rfl)
theorem dX0_isLess_3 : decode cX0_isLess 3 = .ok (.istore_n 2, 1) := dk_61 (dk_at dksX0_isLess_0 3 rfl rfl)
theorem dX0_isLess_4 : decode cX0_isLess 4 = .ok (.iload_n 0, 1) := dk_26 (dk_at dksX0_isLess_0 4 rfl rfl)
theorem dX0_isLess_5 : decode cX0_isLess 5 = .ok (.iload_n 2, 1) := dk_28 (dk_at dksX0_isLess_0 5 rfl rfl)
theorem dX0_isLess_6 : decode cX0_isLess 6 = .ok (.iand, 1) := dk_126 (dk_at dksX0_isLess_0 6 rfl rfl)
theorem dX0_isLess_7 : decode cX0_isLess 7 = .ok (.iload_n 2, 1) := dk_28 (dk_at dksX0_isLess_0 7 rfl rfl)
theorem dX0_isLess_8 : decode cX0_isLess 8 = .ok (.ineg, 1) := dk_116 (dk_at dksX0_isLess_0 8 rfl rfl)
theorem dX0_isLess_9 : decode cX0_isLess 9 = .ok (.iand, 1) := dk_126 (dk_at dksX0_isLess_0 9 rfl rfl)
theorem dX0_isLess_10 : decode cX0_isLess 10 = .ok (.ifCond .eq 7, 3) := dk_153 0 7 (dk_at dksX0_isLess_0 10 rfl rfl)
theorem dX0_isLess_13 : decode cX0_isLess 13 = .ok (.iconst 1, 1) := dk_4 (dk_at dksX0_isLess_0 13 rfl rfl)
theorem dX0_isLess_14 : decode cX0_isLess 14 = .ok (.goto 4, 3) := dk_167 0 4 (dk_at dksX0_isLess_0 14 rfl rfl)
theorem dX0_isLess_17 : decode cX0_isLess 17 = .ok (.iconst 0, 1) := dk_3 (dk_at dksX0_isLess_0 17 rfl rfl)
theorem dX0_isLess_18 : decode cX0_isLess 18 = .ok (.ireturn, 1) := dk_172 (dk_at dksX0_isLess_0 18 rfl rfl)
abbrev cX0_at : ByteArray := prog_1_method_53_code
def yX0_at : MethodName := ⟨RX0, "at", "(II)I"⟩
def dkwX0_at_1 : List UInt8 := [167, 255, 238, 28, 154, 0, 7, 2, 167, 0, 7, 28, 184, 1, 124, 172]
abbrev dktX0_at_1 : List UInt8 := dkwX0_at_1 ++ []
def dkwX0_at_0 : List UInt8 := [26, 61, 3, 62, 29, 27, 162, 0, 19, 28, 153, 0, 15, 28, 28, 4, 100, 126, 61, 132, 3, 1]
abbrev dktX0_at_0 : List UInt8 := dkwX0_at_0 ++ dktX0_at_1
theorem dksX0_at_0 : cX0_at.data.toList.drop 0 = dktX0_at_0 := by decide +kernel
theorem dksX0_at_1 : cX0_at.data.toList.drop 22 = dktX0_at_1 := dk_seg dksX0_at_0 22 rfl rfl
theorem dX0_at_0 : decode cX0_at 0 = .ok (.iload_n 0, 1) := dk_26 (dk_at dksX0_at_0 0 rfl rfl)
theorem dX0_at_1 : decode cX0_at 1 = .ok (.istore_n 2, 1) := dk_61 (dk_at dksX0_at_0 1 rfl rfl)
theorem dX0_at_2 : decode cX0_at 2 = .ok (.iconst 0, 1) := dk_3 (dk_at dksX0_at_0 2 rfl rfl)
theorem dX0_at_3 : decode cX0_at 3 = .ok (.istore_n 3, 1) := dk_62 (dk_at dksX0_at_0 3 rfl rfl)
theorem dX0_at_4 : decode cX0_at 4 = .ok (.iload_n 3, 1) := dk_29 (dk_at dksX0_at_0 4 rfl rfl)
theorem dX0_at_5 : decode cX0_at 5 = .ok (.iload_n 1, 1) := dk_27 (dk_at dksX0_at_0 5 rfl rfl)
theorem dX0_at_6 : decode cX0_at 6 = .ok (.if_icmp .ge 19, 3) := dk_162 0 19 (dk_at dksX0_at_0 6 rfl rfl)
theorem dX0_at_9 : decode cX0_at 9 = .ok (.iload_n 2, 1) := dk_28 (dk_at dksX0_at_0 9 rfl rfl)
theorem dX0_at_10 : decode cX0_at 10 = .ok (.ifCond .eq 15, 3) := dk_153 0 15 (dk_at dksX0_at_0 10 rfl rfl)
theorem dX0_at_13 : decode cX0_at 13 = .ok (.iload_n 2, 1) := dk_28 (dk_at dksX0_at_0 13 rfl rfl)
theorem dX0_at_14 : decode cX0_at 14 = .ok (.iload_n 2, 1) := dk_28 (dk_at dksX0_at_0 14 rfl rfl)
theorem dX0_at_15 : decode cX0_at 15 = .ok (.iconst 1, 1) := dk_4 (dk_at dksX0_at_0 15 rfl rfl)
theorem dX0_at_16 : decode cX0_at 16 = .ok (.isub, 1) := dk_100 (dk_at dksX0_at_0 16 rfl rfl)
theorem dX0_at_17 : decode cX0_at 17 = .ok (.iand, 1) := dk_126 (dk_at dksX0_at_0 17 rfl rfl)
theorem dX0_at_18 : decode cX0_at 18 = .ok (.istore_n 2, 1) := dk_61 (dk_at dksX0_at_0 18 rfl rfl)
theorem dX0_at_19 : decode cX0_at 19 = .ok (.iinc 3 1, 3) := dk_132 3 1 (dk_at dksX0_at_0 19 rfl rfl)
theorem dX0_at_22 : decode cX0_at 22 = .ok (.goto (-18), 3) := dk_167 255 238 (dk_at dksX0_at_1 0 rfl rfl)
theorem dX0_at_25 : decode cX0_at 25 = .ok (.iload_n 2, 1) := dk_28 (dk_at dksX0_at_1 3 rfl rfl)
theorem dX0_at_26 : decode cX0_at 26 = .ok (.ifCond .ne 7, 3) := dk_154 0 7 (dk_at dksX0_at_1 4 rfl rfl)
theorem dX0_at_29 : decode cX0_at 29 = .ok (.iconst (-1), 1) := dk_2 (dk_at dksX0_at_1 7 rfl rfl)
theorem dX0_at_30 : decode cX0_at 30 = .ok (.goto 7, 3) := dk_167 0 7 (dk_at dksX0_at_1 8 rfl rfl)
theorem dX0_at_33 : decode cX0_at 33 = .ok (.iload_n 2, 1) := dk_28 (dk_at dksX0_at_1 11 rfl rfl)
theorem dX0_at_34 : decode cX0_at 34 = .ok (.invokestatic 380, 3) := dk_184 1 124 (dk_at dksX0_at_1 12 rfl rfl)
theorem dX0_at_37 : decode cX0_at 37 = .ok (.ireturn, 1) := dk_172 (dk_at dksX0_at_1 15 rfl rfl)
abbrev cX0_sure : ByteArray := prog_1_method_57_code
def yX0_sure : MethodName := ⟨RX0, "sure", "(III)I"⟩
def dkwX0_sure_1 : List UInt8 := [154, 0, 5, 2, 172, 42, 182, 1, 94, 42, 21, 4, 42, 182, 1, 97, 182, 1, 141, 172]
abbrev dktX0_sure_1 : List UInt8 := dkwX0_sure_1 ++ []
def dkwX0_sure_0 : List UInt8 := [42, 182, 0, 95, 27, 28, 29, 182, 0, 131, 54, 4, 21, 4, 2, 159, 0, 10, 42, 182, 1, 91]
abbrev dktX0_sure_0 : List UInt8 := dkwX0_sure_0 ++ dktX0_sure_1
theorem dksX0_sure_0 : cX0_sure.data.toList.drop 0 = dktX0_sure_0 := by decide +kernel
theorem dksX0_sure_1 : cX0_sure.data.toList.drop 22 = dktX0_sure_1 := dk_seg dksX0_sure_0 22 rfl rfl
theorem dX0_sure_0 : decode cX0_sure 0 = .ok (.aload_n 0, 1) := dk_42 (dk_at dksX0_sure_0 0 rfl rfl)
theorem dX0_sure_1 : decode cX0_sure 1 = .ok (.invokevirtual 95, 3) := dk_182 0 95 (dk_at dksX0_sure_0 1 rfl rfl)
theorem dX0_sure_4 : decode cX0_sure 4 = .ok (.iload_n 1, 1) := dk_27 (dk_at dksX0_sure_0 4 rfl rfl)
theorem dX0_sure_5 : decode cX0_sure 5 = .ok (.iload_n 2, 1) := dk_28 (dk_at dksX0_sure_0 5 rfl rfl)
theorem dX0_sure_6 : decode cX0_sure 6 = .ok (.iload_n 3, 1) := dk_29 (dk_at dksX0_sure_0 6 rfl rfl)
theorem dX0_sure_7 : decode cX0_sure 7 = .ok (.invokevirtual 131, 3) := dk_182 0 131 (dk_at dksX0_sure_0 7 rfl rfl)
theorem dX0_sure_10 : decode cX0_sure 10 = .ok (.istore 4, 2) := dk_54 4 (dk_at dksX0_sure_0 10 rfl rfl)
theorem dX0_sure_12 : decode cX0_sure 12 = .ok (.iload 4, 2) := dk_21 4 (dk_at dksX0_sure_0 12 rfl rfl)
theorem dX0_sure_14 : decode cX0_sure 14 = .ok (.iconst (-1), 1) := dk_2 (dk_at dksX0_sure_0 14 rfl rfl)
theorem dX0_sure_15 : decode cX0_sure 15 = .ok (.if_icmp .eq 10, 3) := dk_159 0 10 (dk_at dksX0_sure_0 15 rfl rfl)
theorem dX0_sure_18 : decode cX0_sure 18 = .ok (.aload_n 0, 1) := dk_42 (dk_at dksX0_sure_0 18 rfl rfl)
theorem dX0_sure_19 : decode cX0_sure 19 = .ok (.invokevirtual 347, 3) := dk_182 1 91 (dk_at dksX0_sure_0 19 rfl rfl)
theorem dX0_sure_22 : decode cX0_sure 22 = .ok (.ifCond .ne 5, 3) := dk_154 0 5 (dk_at dksX0_sure_1 0 rfl rfl)
theorem dX0_sure_25 : decode cX0_sure 25 = .ok (.iconst (-1), 1) := dk_2 (dk_at dksX0_sure_1 3 rfl rfl)
theorem dX0_sure_26 : decode cX0_sure 26 = .ok (.ireturn, 1) := dk_172 (dk_at dksX0_sure_1 4 rfl rfl)
theorem dX0_sure_27 : decode cX0_sure 27 = .ok (.aload_n 0, 1) := dk_42 (dk_at dksX0_sure_1 5 rfl rfl)
theorem dX0_sure_28 : decode cX0_sure 28 = .ok (.invokevirtual 350, 3) := dk_182 1 94 (dk_at dksX0_sure_1 6 rfl rfl)
theorem dX0_sure_31 : decode cX0_sure 31 = .ok (.aload_n 0, 1) := dk_42 (dk_at dksX0_sure_1 9 rfl rfl)
theorem dX0_sure_32 : decode cX0_sure 32 = .ok (.iload 4, 2) := dk_21 4 (dk_at dksX0_sure_1 10 rfl rfl)
theorem dX0_sure_34 : decode cX0_sure 34 = .ok (.aload_n 0, 1) := dk_42 (dk_at dksX0_sure_1 12 rfl rfl)
theorem dX0_sure_35 : decode cX0_sure 35 = .ok (.invokevirtual 353, 3) := dk_182 1 97 (dk_at dksX0_sure_1 13 rfl rfl)
theorem dX0_sure_38 : decode cX0_sure 38 = .ok (.invokevirtual 397, 3) := dk_182 1 141 (dk_at dksX0_sure_1 16 rfl rfl)
theorem dX0_sure_41 : decode cX0_sure 41 = .ok (.ireturn, 1) := dk_172 (dk_at dksX0_sure_1 19 rfl rfl)
abbrev cX0_sureOf : ByteArray := prog_1_method_56_code
def yX0_sureOf : MethodName := ⟨RX0, "sureOf", "(II)I"⟩
def dkwX0_sureOf_1 : List UInt8 := [29, 160, 0, 7, 4, 167, 0, 13, 21, 4, 154, 0, 7, 3, 167, 0, 4, 2, 172]
abbrev dktX0_sureOf_1 : List UInt8 := dkwX0_sureOf_1 ++ []
def dkwX0_sureOf_0 : List UInt8 := [42, 28, 182, 1, 100, 62, 42, 27, 28, 182, 1, 138, 54, 4, 29, 154, 0, 7, 2, 167, 0, 23, 21, 4]
abbrev dktX0_sureOf_0 : List UInt8 := dkwX0_sureOf_0 ++ dktX0_sureOf_1
theorem dksX0_sureOf_0 : cX0_sureOf.data.toList.drop 0 = dktX0_sureOf_0 := by decide +kernel
theorem dksX0_sureOf_1 : cX0_sureOf.data.toList.drop 24 = dktX0_sureOf_1 := dk_seg dksX0_sureOf_0 24 rfl rfl
theorem dX0_sureOf_0 : decode cX0_sureOf 0 = .ok (.aload_n 0, 1) := dk_42 (dk_at dksX0_sureOf_0 0 rfl rfl)
theorem dX0_sureOf_1 : decode cX0_sureOf 1 = .ok (.iload_n 2, 1) := dk_28 (dk_at dksX0_sureOf_0 1 rfl rfl)
theorem dX0_sureOf_2 : decode cX0_sureOf 2 = .ok (.invokevirtual 356, 3) := dk_182 1 100 (dk_at dksX0_sureOf_0 2 rfl rfl)
theorem dX0_sureOf_5 : decode cX0_sureOf 5 = .ok (.istore_n 3, 1) := dk_62 (dk_at dksX0_sureOf_0 5 rfl rfl)
theorem dX0_sureOf_6 : decode cX0_sureOf 6 = .ok (.aload_n 0, 1) := dk_42 (dk_at dksX0_sureOf_0 6 rfl rfl)
theorem dX0_sureOf_7 : decode cX0_sureOf 7 = .ok (.iload_n 1, 1) := dk_27 (dk_at dksX0_sureOf_0 7 rfl rfl)
theorem dX0_sureOf_8 : decode cX0_sureOf 8 = .ok (.iload_n 2, 1) := dk_28 (dk_at dksX0_sureOf_0 8 rfl rfl)
theorem dX0_sureOf_9 : decode cX0_sureOf 9 = .ok (.invokevirtual 394, 3) := dk_182 1 138 (dk_at dksX0_sureOf_0 9 rfl rfl)
theorem dX0_sureOf_12 : decode cX0_sureOf 12 = .ok (.istore 4, 2) := dk_54 4 (dk_at dksX0_sureOf_0 12 rfl rfl)
theorem dX0_sureOf_14 : decode cX0_sureOf 14 = .ok (.iload_n 3, 1) := dk_29 (dk_at dksX0_sureOf_0 14 rfl rfl)
theorem dX0_sureOf_15 : decode cX0_sureOf 15 = .ok (.ifCond .ne 7, 3) := dk_154 0 7 (dk_at dksX0_sureOf_0 15 rfl rfl)
theorem dX0_sureOf_18 : decode cX0_sureOf 18 = .ok (.iconst (-1), 1) := dk_2 (dk_at dksX0_sureOf_0 18 rfl rfl)
theorem dX0_sureOf_19 : decode cX0_sureOf 19 = .ok (.goto 23, 3) := dk_167 0 23 (dk_at dksX0_sureOf_0 19 rfl rfl)
theorem dX0_sureOf_22 : decode cX0_sureOf 22 = .ok (.iload 4, 2) := dk_21 4 (dk_at dksX0_sureOf_0 22 rfl rfl)
theorem dX0_sureOf_24 : decode cX0_sureOf 24 = .ok (.iload_n 3, 1) := dk_29 (dk_at dksX0_sureOf_1 0 rfl rfl)
theorem dX0_sureOf_25 : decode cX0_sureOf 25 = .ok (.if_icmp .ne 7, 3) := dk_160 0 7 (dk_at dksX0_sureOf_1 1 rfl rfl)
theorem dX0_sureOf_28 : decode cX0_sureOf 28 = .ok (.iconst 1, 1) := dk_4 (dk_at dksX0_sureOf_1 4 rfl rfl)
theorem dX0_sureOf_29 : decode cX0_sureOf 29 = .ok (.goto 13, 3) := dk_167 0 13 (dk_at dksX0_sureOf_1 5 rfl rfl)
theorem dX0_sureOf_32 : decode cX0_sureOf 32 = .ok (.iload 4, 2) := dk_21 4 (dk_at dksX0_sureOf_1 8 rfl rfl)
theorem dX0_sureOf_34 : decode cX0_sureOf 34 = .ok (.ifCond .ne 7, 3) := dk_154 0 7 (dk_at dksX0_sureOf_1 10 rfl rfl)
theorem dX0_sureOf_37 : decode cX0_sureOf 37 = .ok (.iconst 0, 1) := dk_3 (dk_at dksX0_sureOf_1 13 rfl rfl)
theorem dX0_sureOf_38 : decode cX0_sureOf 38 = .ok (.goto 4, 3) := dk_167 0 4 (dk_at dksX0_sureOf_1 14 rfl rfl)
theorem dX0_sureOf_41 : decode cX0_sureOf 41 = .ok (.iconst (-1), 1) := dk_2 (dk_at dksX0_sureOf_1 17 rfl rfl)
theorem dX0_sureOf_42 : decode cX0_sureOf 42 = .ok (.ireturn, 1) := dk_172 (dk_at dksX0_sureOf_1 18 rfl rfl)
abbrev cX0_soIn : ByteArray := prog_1_method_55_code
def yX0_soIn : MethodName := ⟨RX0, "soIn", "(II)I"⟩
def dkwX0_soIn_2 : List UInt8 := [132, 4, 1, 167, 255, 212, 29, 172]
abbrev dktX0_soIn_2 : List UInt8 := dkwX0_soIn_2 ++ []
def dkwX0_soIn_1 : List UInt8 := [153, 0, 21, 21, 4, 133, 42, 27, 182, 0, 127, 127, 9, 148, 153, 0, 7, 4, 167, 0, 4, 3, 96, 62]
abbrev dktX0_soIn_1 : List UInt8 := dkwX0_soIn_1 ++ dktX0_soIn_2
def dkwX0_soIn_0 : List UInt8 := [3, 62, 3, 54, 4, 21, 4, 42, 182, 1, 63, 162, 0, 41, 29, 42, 21, 4, 28, 182, 1, 79]
abbrev dktX0_soIn_0 : List UInt8 := dkwX0_soIn_0 ++ dktX0_soIn_1
theorem dksX0_soIn_0 : cX0_soIn.data.toList.drop 0 = dktX0_soIn_0 := by decide +kernel
theorem dksX0_soIn_1 : cX0_soIn.data.toList.drop 22 = dktX0_soIn_1 := dk_seg dksX0_soIn_0 22 rfl rfl
theorem dksX0_soIn_2 : cX0_soIn.data.toList.drop 46 = dktX0_soIn_2 := dk_seg dksX0_soIn_1 24 rfl rfl
theorem dX0_soIn_0 : decode cX0_soIn 0 = .ok (.iconst 0, 1) := dk_3 (dk_at dksX0_soIn_0 0 rfl rfl)
theorem dX0_soIn_1 : decode cX0_soIn 1 = .ok (.istore_n 3, 1) := dk_62 (dk_at dksX0_soIn_0 1 rfl rfl)
theorem dX0_soIn_2 : decode cX0_soIn 2 = .ok (.iconst 0, 1) := dk_3 (dk_at dksX0_soIn_0 2 rfl rfl)
theorem dX0_soIn_3 : decode cX0_soIn 3 = .ok (.istore 4, 2) := dk_54 4 (dk_at dksX0_soIn_0 3 rfl rfl)
theorem dX0_soIn_5 : decode cX0_soIn 5 = .ok (.iload 4, 2) := dk_21 4 (dk_at dksX0_soIn_0 5 rfl rfl)
theorem dX0_soIn_7 : decode cX0_soIn 7 = .ok (.aload_n 0, 1) := dk_42 (dk_at dksX0_soIn_0 7 rfl rfl)
theorem dX0_soIn_8 : decode cX0_soIn 8 = .ok (.invokevirtual 319, 3) := dk_182 1 63 (dk_at dksX0_soIn_0 8 rfl rfl)
theorem dX0_soIn_11 : decode cX0_soIn 11 = .ok (.if_icmp .ge 41, 3) := dk_162 0 41 (dk_at dksX0_soIn_0 11 rfl rfl)
theorem dX0_soIn_14 : decode cX0_soIn 14 = .ok (.iload_n 3, 1) := dk_29 (dk_at dksX0_soIn_0 14 rfl rfl)
theorem dX0_soIn_15 : decode cX0_soIn 15 = .ok (.aload_n 0, 1) := dk_42 (dk_at dksX0_soIn_0 15 rfl rfl)
theorem dX0_soIn_16 : decode cX0_soIn 16 = .ok (.iload 4, 2) := dk_21 4 (dk_at dksX0_soIn_0 16 rfl rfl)
theorem dX0_soIn_18 : decode cX0_soIn 18 = .ok (.iload_n 2, 1) := dk_28 (dk_at dksX0_soIn_0 18 rfl rfl)
theorem dX0_soIn_19 : decode cX0_soIn 19 = .ok (.invokevirtual 335, 3) := dk_182 1 79 (dk_at dksX0_soIn_0 19 rfl rfl)
theorem dX0_soIn_22 : decode cX0_soIn 22 = .ok (.ifCond .eq 21, 3) := dk_153 0 21 (dk_at dksX0_soIn_1 0 rfl rfl)
theorem dX0_soIn_25 : decode cX0_soIn 25 = .ok (.iload 4, 2) := dk_21 4 (dk_at dksX0_soIn_1 3 rfl rfl)
theorem dX0_soIn_27 : decode cX0_soIn 27 = .ok (.i2l, 1) := dk_133 (dk_at dksX0_soIn_1 5 rfl rfl)
theorem dX0_soIn_28 : decode cX0_soIn 28 = .ok (.aload_n 0, 1) := dk_42 (dk_at dksX0_soIn_1 6 rfl rfl)
theorem dX0_soIn_29 : decode cX0_soIn 29 = .ok (.iload_n 1, 1) := dk_27 (dk_at dksX0_soIn_1 7 rfl rfl)
theorem dX0_soIn_30 : decode cX0_soIn 30 = .ok (.invokevirtual 127, 3) := dk_182 0 127 (dk_at dksX0_soIn_1 8 rfl rfl)
theorem dX0_soIn_33 : decode cX0_soIn 33 = .ok (.land, 1) := dk_127 (dk_at dksX0_soIn_1 11 rfl rfl)
theorem dX0_soIn_34 : decode cX0_soIn 34 = .ok (.lconst 0, 1) := dk_9 (dk_at dksX0_soIn_1 12 rfl rfl)
theorem dX0_soIn_35 : decode cX0_soIn 35 = .ok (.lcmp, 1) := dk_148 (dk_at dksX0_soIn_1 13 rfl rfl)
theorem dX0_soIn_36 : decode cX0_soIn 36 = .ok (.ifCond .eq 7, 3) := dk_153 0 7 (dk_at dksX0_soIn_1 14 rfl rfl)
theorem dX0_soIn_39 : decode cX0_soIn 39 = .ok (.iconst 1, 1) := dk_4 (dk_at dksX0_soIn_1 17 rfl rfl)
theorem dX0_soIn_40 : decode cX0_soIn 40 = .ok (.goto 4, 3) := dk_167 0 4 (dk_at dksX0_soIn_1 18 rfl rfl)
theorem dX0_soIn_43 : decode cX0_soIn 43 = .ok (.iconst 0, 1) := dk_3 (dk_at dksX0_soIn_1 21 rfl rfl)
theorem dX0_soIn_44 : decode cX0_soIn 44 = .ok (.iadd, 1) := dk_96 (dk_at dksX0_soIn_1 22 rfl rfl)
theorem dX0_soIn_45 : decode cX0_soIn 45 = .ok (.istore_n 3, 1) := dk_62 (dk_at dksX0_soIn_1 23 rfl rfl)
theorem dX0_soIn_46 : decode cX0_soIn 46 = .ok (.iinc 4 1, 3) := dk_132 4 1 (dk_at dksX0_soIn_2 0 rfl rfl)
theorem dX0_soIn_49 : decode cX0_soIn 49 = .ok (.goto (-44), 3) := dk_167 255 212 (dk_at dksX0_soIn_2 3 rfl rfl)
theorem dX0_soIn_52 : decode cX0_soIn 52 = .ok (.iload_n 3, 1) := dk_29 (dk_at dksX0_soIn_2 6 rfl rfl)
theorem dX0_soIn_53 : decode cX0_soIn 53 = .ok (.ireturn, 1) := dk_172 (dk_at dksX0_soIn_2 7 rfl rfl)
abbrev cX0_cause : ByteArray := prog_1_method_58_code
def yX0_cause : MethodName := ⟨RX0, "cause", "(IIII)I"⟩
def dkwX0_cause_3 : List UInt8 := [184, 1, 130, 21, 4, 184, 1, 134, 172]
abbrev dktX0_cause_3 : List UInt8 := dkwX0_cause_3 ++ []
def dkwX0_cause_2 : List UInt8 := [54, 6, 21, 6, 2, 160, 0, 5, 2, 172, 42, 182, 1, 97, 42, 21, 5, 21, 6, 186, 1, 144, 0, 0]
abbrev dktX0_cause_2 : List UInt8 := dkwX0_cause_2 ++ dktX0_cause_3
def dkwX0_cause_1 : List UInt8 := [153, 0, 8, 21, 4, 156, 0, 5, 2, 172, 42, 182, 1, 94, 42, 21, 5, 42, 182, 1, 97, 182, 1, 141]
abbrev dktX0_cause_1 : List UInt8 := dkwX0_cause_1 ++ dktX0_cause_2
def dkwX0_cause_0 : List UInt8 := [42, 182, 0, 95, 27, 28, 29, 182, 0, 131, 54, 5, 21, 5, 2, 159, 0, 15, 42, 182, 1, 91]
abbrev dktX0_cause_0 : List UInt8 := dkwX0_cause_0 ++ dktX0_cause_1
theorem dksX0_cause_0 : cX0_cause.data.toList.drop 0 = dktX0_cause_0 := by decide +kernel
theorem dksX0_cause_1 : cX0_cause.data.toList.drop 22 = dktX0_cause_1 := dk_seg dksX0_cause_0 22 rfl rfl
theorem dksX0_cause_2 : cX0_cause.data.toList.drop 46 = dktX0_cause_2 := dk_seg dksX0_cause_1 24 rfl rfl
theorem dksX0_cause_3 : cX0_cause.data.toList.drop 70 = dktX0_cause_3 := dk_seg dksX0_cause_2 24 rfl rfl
theorem dX0_cause_0 : decode cX0_cause 0 = .ok (.aload_n 0, 1) := dk_42 (dk_at dksX0_cause_0 0 rfl rfl)
theorem dX0_cause_1 : decode cX0_cause 1 = .ok (.invokevirtual 95, 3) := dk_182 0 95 (dk_at dksX0_cause_0 1 rfl rfl)
theorem dX0_cause_4 : decode cX0_cause 4 = .ok (.iload_n 1, 1) := dk_27 (dk_at dksX0_cause_0 4 rfl rfl)
theorem dX0_cause_5 : decode cX0_cause 5 = .ok (.iload_n 2, 1) := dk_28 (dk_at dksX0_cause_0 5 rfl rfl)
theorem dX0_cause_6 : decode cX0_cause 6 = .ok (.iload_n 3, 1) := dk_29 (dk_at dksX0_cause_0 6 rfl rfl)
theorem dX0_cause_7 : decode cX0_cause 7 = .ok (.invokevirtual 131, 3) := dk_182 0 131 (dk_at dksX0_cause_0 7 rfl rfl)
theorem dX0_cause_10 : decode cX0_cause 10 = .ok (.istore 5, 2) := dk_54 5 (dk_at dksX0_cause_0 10 rfl rfl)
theorem dX0_cause_12 : decode cX0_cause 12 = .ok (.iload 5, 2) := dk_21 5 (dk_at dksX0_cause_0 12 rfl rfl)
theorem dX0_cause_14 : decode cX0_cause 14 = .ok (.iconst (-1), 1) := dk_2 (dk_at dksX0_cause_0 14 rfl rfl)
theorem dX0_cause_15 : decode cX0_cause 15 = .ok (.if_icmp .eq 15, 3) := dk_159 0 15 (dk_at dksX0_cause_0 15 rfl rfl)
theorem dX0_cause_18 : decode cX0_cause 18 = .ok (.aload_n 0, 1) := dk_42 (dk_at dksX0_cause_0 18 rfl rfl)
theorem dX0_cause_19 : decode cX0_cause 19 = .ok (.invokevirtual 347, 3) := dk_182 1 91 (dk_at dksX0_cause_0 19 rfl rfl)
theorem dX0_cause_22 : decode cX0_cause 22 = .ok (.ifCond .eq 8, 3) := dk_153 0 8 (dk_at dksX0_cause_1 0 rfl rfl)
theorem dX0_cause_25 : decode cX0_cause 25 = .ok (.iload 4, 2) := dk_21 4 (dk_at dksX0_cause_1 3 rfl rfl)
theorem dX0_cause_27 : decode cX0_cause 27 = .ok (.ifCond .ge 5, 3) := dk_156 0 5 (dk_at dksX0_cause_1 5 rfl rfl)
theorem dX0_cause_30 : decode cX0_cause 30 = .ok (.iconst (-1), 1) := dk_2 (dk_at dksX0_cause_1 8 rfl rfl)
theorem dX0_cause_31 : decode cX0_cause 31 = .ok (.ireturn, 1) := dk_172 (dk_at dksX0_cause_1 9 rfl rfl)
theorem dX0_cause_32 : decode cX0_cause 32 = .ok (.aload_n 0, 1) := dk_42 (dk_at dksX0_cause_1 10 rfl rfl)
theorem dX0_cause_33 : decode cX0_cause 33 = .ok (.invokevirtual 350, 3) := dk_182 1 94 (dk_at dksX0_cause_1 11 rfl rfl)
theorem dX0_cause_36 : decode cX0_cause 36 = .ok (.aload_n 0, 1) := dk_42 (dk_at dksX0_cause_1 14 rfl rfl)
theorem dX0_cause_37 : decode cX0_cause 37 = .ok (.iload 5, 2) := dk_21 5 (dk_at dksX0_cause_1 15 rfl rfl)
theorem dX0_cause_39 : decode cX0_cause 39 = .ok (.aload_n 0, 1) := dk_42 (dk_at dksX0_cause_1 17 rfl rfl)
theorem dX0_cause_40 : decode cX0_cause 40 = .ok (.invokevirtual 353, 3) := dk_182 1 97 (dk_at dksX0_cause_1 18 rfl rfl)
theorem dX0_cause_43 : decode cX0_cause 43 = .ok (.invokevirtual 397, 3) := dk_182 1 141 (dk_at dksX0_cause_1 21 rfl rfl)
theorem dX0_cause_46 : decode cX0_cause 46 = .ok (.istore 6, 2) := dk_54 6 (dk_at dksX0_cause_2 0 rfl rfl)
theorem dX0_cause_48 : decode cX0_cause 48 = .ok (.iload 6, 2) := dk_21 6 (dk_at dksX0_cause_2 2 rfl rfl)
theorem dX0_cause_50 : decode cX0_cause 50 = .ok (.iconst (-1), 1) := dk_2 (dk_at dksX0_cause_2 4 rfl rfl)
theorem dX0_cause_51 : decode cX0_cause 51 = .ok (.if_icmp .ne 5, 3) := dk_160 0 5 (dk_at dksX0_cause_2 5 rfl rfl)
theorem dX0_cause_54 : decode cX0_cause 54 = .ok (.iconst (-1), 1) := dk_2 (dk_at dksX0_cause_2 8 rfl rfl)
theorem dX0_cause_55 : decode cX0_cause 55 = .ok (.ireturn, 1) := dk_172 (dk_at dksX0_cause_2 9 rfl rfl)
theorem dX0_cause_56 : decode cX0_cause 56 = .ok (.aload_n 0, 1) := dk_42 (dk_at dksX0_cause_2 10 rfl rfl)
theorem dX0_cause_57 : decode cX0_cause 57 = .ok (.invokevirtual 353, 3) := dk_182 1 97 (dk_at dksX0_cause_2 11 rfl rfl)
theorem dX0_cause_60 : decode cX0_cause 60 = .ok (.aload_n 0, 1) := dk_42 (dk_at dksX0_cause_2 14 rfl rfl)
theorem dX0_cause_61 : decode cX0_cause 61 = .ok (.iload 5, 2) := dk_21 5 (dk_at dksX0_cause_2 15 rfl rfl)
theorem dX0_cause_63 : decode cX0_cause 63 = .ok (.iload 6, 2) := dk_21 6 (dk_at dksX0_cause_2 17 rfl rfl)
theorem dX0_cause_65 : decode cX0_cause 65 = .ok (.invokedynamic 400, 5) := by decide +kernel
theorem dX0_cause_70 : decode cX0_cause 70 = .ok (.invokestatic 386, 3) := dk_184 1 130 (dk_at dksX0_cause_3 0 rfl rfl)
theorem dX0_cause_73 : decode cX0_cause 73 = .ok (.iload 4, 2) := dk_21 4 (dk_at dksX0_cause_3 3 rfl rfl)
theorem dX0_cause_75 : decode cX0_cause 75 = .ok (.invokestatic 390, 3) := dk_184 1 134 (dk_at dksX0_cause_3 5 rfl rfl)
theorem dX0_cause_78 : decode cX0_cause 78 = .ok (.ireturn, 1) := dk_172 (dk_at dksX0_cause_3 8 rfl rfl)
abbrev cX0_lambda_cause_1 : ByteArray := prog_1_method_69_code
def yX0_lambda_cause_1 : MethodName := ⟨RX0, "lambda$cause$1", "(III)Z"⟩
def dkwX0_lambda_cause_1_0 : List UInt8 := [42, 27, 29, 182, 1, 141, 28, 160, 0, 7, 4, 167, 0, 4, 3, 172]
abbrev dktX0_lambda_cause_1_0 : List UInt8 := dkwX0_lambda_cause_1_0 ++ []
theorem dksX0_lambda_cause_1_0 : cX0_lambda_cause_1.data.toList.drop 0 = dktX0_lambda_cause_1_0 := by decide +kernel
theorem dX0_lambda_cause_1_0 : decode cX0_lambda_cause_1 0 = .ok (.aload_n 0, 1) := dk_42 (dk_at dksX0_lambda_cause_1_0 0 rfl rfl)
theorem dX0_lambda_cause_1_1 : decode cX0_lambda_cause_1 1 = .ok (.iload_n 1, 1) := dk_27 (dk_at dksX0_lambda_cause_1_0 1 rfl rfl)
theorem dX0_lambda_cause_1_2 : decode cX0_lambda_cause_1 2 = .ok (.iload_n 3, 1) := dk_29 (dk_at dksX0_lambda_cause_1_0 2 rfl rfl)
theorem dX0_lambda_cause_1_3 : decode cX0_lambda_cause_1 3 = .ok (.invokevirtual 397, 3) := dk_182 1 141 (dk_at dksX0_lambda_cause_1_0 3 rfl rfl)
theorem dX0_lambda_cause_1_6 : decode cX0_lambda_cause_1 6 = .ok (.iload_n 2, 1) := dk_28 (dk_at dksX0_lambda_cause_1_0 6 rfl rfl)
theorem dX0_lambda_cause_1_7 : decode cX0_lambda_cause_1 7 = .ok (.if_icmp .ne 7, 3) := dk_160 0 7 (dk_at dksX0_lambda_cause_1_0 7 rfl rfl)
theorem dX0_lambda_cause_1_10 : decode cX0_lambda_cause_1 10 = .ok (.iconst 1, 1) := dk_4 (dk_at dksX0_lambda_cause_1_0 10 rfl rfl)
theorem dX0_lambda_cause_1_11 : decode cX0_lambda_cause_1 11 = .ok (.goto 4, 3) := dk_167 0 4 (dk_at dksX0_lambda_cause_1_0 11 rfl rfl)
theorem dX0_lambda_cause_1_14 : decode cX0_lambda_cause_1 14 = .ok (.iconst 0, 1) := dk_3 (dk_at dksX0_lambda_cause_1_0 14 rfl rfl)
theorem dX0_lambda_cause_1_15 : decode cX0_lambda_cause_1 15 = .ok (.ireturn, 1) := dk_172 (dk_at dksX0_lambda_cause_1_0 15 rfl rfl)
abbrev cX0_without : ByteArray := prog_1_method_59_code
def yX0_without : MethodName := ⟨RX0, "without", "(I)I"⟩
def dkwX0_without_1 : List UInt8 := [154, 0, 5, 2, 172, 42, 182, 1, 94, 42, 42, 182, 1, 97, 4, 27, 120, 2, 130, 126, 182, 1, 100, 172]
abbrev dktX0_without_1 : List UInt8 := dkwX0_without_1 ++ []
def dkwX0_without_0 : List UInt8 := [42, 27, 182, 0, 214, 153, 0, 21, 42, 182, 1, 97, 27, 184, 1, 88, 153, 0, 10, 42, 182, 1, 91]
abbrev dktX0_without_0 : List UInt8 := dkwX0_without_0 ++ dktX0_without_1
theorem dksX0_without_0 : cX0_without.data.toList.drop 0 = dktX0_without_0 := by decide +kernel
theorem dksX0_without_1 : cX0_without.data.toList.drop 23 = dktX0_without_1 := dk_seg dksX0_without_0 23 rfl rfl
theorem dX0_without_0 : decode cX0_without 0 = .ok (.aload_n 0, 1) := dk_42 (dk_at dksX0_without_0 0 rfl rfl)
theorem dX0_without_1 : decode cX0_without 1 = .ok (.iload_n 1, 1) := dk_27 (dk_at dksX0_without_0 1 rfl rfl)
theorem dX0_without_2 : decode cX0_without 2 = .ok (.invokevirtual 214, 3) := dk_182 0 214 (dk_at dksX0_without_0 2 rfl rfl)
theorem dX0_without_5 : decode cX0_without 5 = .ok (.ifCond .eq 21, 3) := dk_153 0 21 (dk_at dksX0_without_0 5 rfl rfl)
theorem dX0_without_8 : decode cX0_without 8 = .ok (.aload_n 0, 1) := dk_42 (dk_at dksX0_without_0 8 rfl rfl)
theorem dX0_without_9 : decode cX0_without 9 = .ok (.invokevirtual 353, 3) := dk_182 1 97 (dk_at dksX0_without_0 9 rfl rfl)
theorem dX0_without_12 : decode cX0_without 12 = .ok (.iload_n 1, 1) := dk_27 (dk_at dksX0_without_0 12 rfl rfl)
theorem dX0_without_13 : decode cX0_without 13 = .ok (.invokestatic 344, 3) := dk_184 1 88 (dk_at dksX0_without_0 13 rfl rfl)
theorem dX0_without_16 : decode cX0_without 16 = .ok (.ifCond .eq 10, 3) := dk_153 0 10 (dk_at dksX0_without_0 16 rfl rfl)
theorem dX0_without_19 : decode cX0_without 19 = .ok (.aload_n 0, 1) := dk_42 (dk_at dksX0_without_0 19 rfl rfl)
theorem dX0_without_20 : decode cX0_without 20 = .ok (.invokevirtual 347, 3) := dk_182 1 91 (dk_at dksX0_without_0 20 rfl rfl)
theorem dX0_without_23 : decode cX0_without 23 = .ok (.ifCond .ne 5, 3) := dk_154 0 5 (dk_at dksX0_without_1 0 rfl rfl)
theorem dX0_without_26 : decode cX0_without 26 = .ok (.iconst (-1), 1) := dk_2 (dk_at dksX0_without_1 3 rfl rfl)
theorem dX0_without_27 : decode cX0_without 27 = .ok (.ireturn, 1) := dk_172 (dk_at dksX0_without_1 4 rfl rfl)
theorem dX0_without_28 : decode cX0_without 28 = .ok (.aload_n 0, 1) := dk_42 (dk_at dksX0_without_1 5 rfl rfl)
theorem dX0_without_29 : decode cX0_without 29 = .ok (.invokevirtual 350, 3) := dk_182 1 94 (dk_at dksX0_without_1 6 rfl rfl)
theorem dX0_without_32 : decode cX0_without 32 = .ok (.aload_n 0, 1) := dk_42 (dk_at dksX0_without_1 9 rfl rfl)
theorem dX0_without_33 : decode cX0_without 33 = .ok (.aload_n 0, 1) := dk_42 (dk_at dksX0_without_1 10 rfl rfl)
theorem dX0_without_34 : decode cX0_without 34 = .ok (.invokevirtual 353, 3) := dk_182 1 97 (dk_at dksX0_without_1 11 rfl rfl)
theorem dX0_without_37 : decode cX0_without 37 = .ok (.iconst 1, 1) := dk_4 (dk_at dksX0_without_1 14 rfl rfl)
theorem dX0_without_38 : decode cX0_without 38 = .ok (.iload_n 1, 1) := dk_27 (dk_at dksX0_without_1 15 rfl rfl)
theorem dX0_without_39 : decode cX0_without 39 = .ok (.ishl, 1) := dk_120 (dk_at dksX0_without_1 16 rfl rfl)
theorem dX0_without_40 : decode cX0_without 40 = .ok (.iconst (-1), 1) := dk_2 (dk_at dksX0_without_1 17 rfl rfl)
theorem dX0_without_41 : decode cX0_without 41 = .ok (.ixor, 1) := dk_130 (dk_at dksX0_without_1 18 rfl rfl)
theorem dX0_without_42 : decode cX0_without 42 = .ok (.iand, 1) := dk_126 (dk_at dksX0_without_1 19 rfl rfl)
theorem dX0_without_43 : decode cX0_without 43 = .ok (.invokevirtual 356, 3) := dk_182 1 100 (dk_at dksX0_without_1 20 rfl rfl)
theorem dX0_without_46 : decode cX0_without 46 = .ok (.ireturn, 1) := dk_172 (dk_at dksX0_without_1 23 rfl rfl)
