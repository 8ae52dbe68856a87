set_option maxRecDepth 100000
/-! VillageStories$Same -/
def RX18 : String := "VillageStories$Same"
def TX18 : u_T := fun k => match k with
  | 0 => ("VillageStories$Same", "a", "I", true)
  | _ => ("VillageStories$Same", "b", "I", true)
def tyX18 : Nat → FieldType := fun k => match k with
  | 0 => .int
  | _ => .int
abbrev wsX180 : List Cond := u_ws RX18 TX18 2
theorem nmX18 : ∀ a, a < 2 → ∀ b, b < 2 → a ≠ b → (TX18 a).2.1 ≠ (TX18 b).2.1 := by decide +kernel
theorem tyX18_ok : ∀ k, k < 2 → parseFieldDescriptor (TX18 k).2.2.1 = some (tyX18 k) := by decide +kernel
theorem q142 : (Jvm.Cond.initialized "VillageStories$Same") ∈ lw_all := lw_g (lw_at lw_m1 40 rfl) rfl
theorem q290 : (Jvm.Cond.fieldLinkNest "VillageStories$Same" (16 : Nat) "VillageStories$World" "vars" "[I" "VillageStories") ∈ lw_tbl := lw_at lw_m1 188 rfl
theorem q486 : (Jvm.Cond.selects "VillageStories$Same" ({ cls := "java/lang/Object", name := "getClass", desc := "()Ljava/lang/Class;" } : Jvm.MethodName) ({ cls := "java/lang/Object", name := "getClass", desc := "()Ljava/lang/Class;" } : Jvm.MethodName)) ∈ lw_all := lw_g (lw_at lw_m2 144 rfl) rfl
theorem q1130 : (Jvm.Cond.instantiable "VillageStories$Same" (2 : Nat)) ∈ lw_all := lw_g (lw_at lw_m5 68 rfl) rfl
theorem q1132 : (Jvm.Cond.instanceMethod ({ cls := "VillageStories$Same", name := "<init>", desc := "(II)V" } : Jvm.MethodName)) ∈ lw_all := lw_g (lw_at lw_m5 70 rfl) rfl
theorem q1133 : (Jvm.Cond.code ({ cls := "VillageStories$Same", name := "<init>", desc := "(II)V" } : Jvm.MethodName) prog_25_method_1_code (3 : Nat) (Option.none : Option Jvm.ClassFile.FieldType)) ∈ lw_all := lw_g (lw_at lw_m5 71 rfl) rfl
theorem q1134 : (Jvm.Cond.methodLinkNest "VillageStories$Same" (1 : Nat) ({ cls := "VillageStories$Part", name := "<init>", desc := "()V" } : Jvm.MethodName) "VillageStories") ∈ lw_tbl := lw_at lw_m5 72 rfl
theorem q1135 : (Jvm.Cond.fieldLink "VillageStories$Same" (7 : Nat) "VillageStories$Same" "a" "I") ∈ lw_all := lw_g (lw_at lw_m5 73 rfl) rfl
theorem q1136 : (Jvm.Cond.fieldLink "VillageStories$Same" (13 : Nat) "VillageStories$Same" "b" "I") ∈ lw_all := lw_g (lw_at lw_m5 74 rfl) rfl
theorem q1137 : (Jvm.Cond.laysFinal "VillageStories$Same" "VillageStories$Same" "a" "I") ∈ lw_all := lw_g (lw_at lw_m5 75 rfl) rfl
theorem q1138 : (Jvm.Cond.soleField "VillageStories$Same" "a") ∈ lw_all := lw_g (lw_at lw_m5 76 rfl) rfl
theorem q1139 : (Jvm.Cond.laysFinal "VillageStories$Same" "VillageStories$Same" "b" "I") ∈ lw_all := lw_g (lw_at lw_m5 77 rfl) rfl
theorem q1140 : (Jvm.Cond.soleField "VillageStories$Same" "b") ∈ lw_all := lw_g (lw_at lw_m5 78 rfl) rfl
theorem q1141 : (Jvm.Cond.superclass "VillageStories$Same" "VillageStories$Part") ∈ lw_all := lw_g (lw_at lw_m5 79 rfl) rfl
theorem q1306 : (Jvm.Cond.instanceMethod ({ cls := "VillageStories$Same", name := "isSo", desc := "(LVillageStories$World;)Z" } : Jvm.MethodName)) ∈ lw_all := lw_g (lw_at lw_m6 4 rfl) rfl
theorem q1307 : (Jvm.Cond.code ({ cls := "VillageStories$Same", name := "isSo", desc := "(LVillageStories$World;)Z" } : Jvm.MethodName) prog_25_method_2_code (2 : Nat) (Option.some Jvm.ClassFile.FieldType.boolean)) ∈ lw_all := lw_g (lw_at lw_m6 5 rfl) rfl
theorem q1343 : (Jvm.Cond.selects "VillageStories$Same" ({ cls := "VillageStories$Part", name := "isSo", desc := "(LVillageStories$World;)Z" } : Jvm.MethodName) ({ cls := "VillageStories$Same", name := "isSo", desc := "(LVillageStories$World;)Z" } : Jvm.MethodName)) ∈ lw_all := lw_g (lw_at lw_m6 41 rfl) rfl
theorem q2292 : (Jvm.Cond.castable "VillageStories$Same" "java/lang/Object") ∈ lw_tbl := lw_at lw_m10 30 rfl
theorem in_X18 : ∀ w ∈ wsX180, w ∈ lw_all := lw_in wsX180 [1137, 1139] (by decide +kernel) (by decide +kernel)
/-! VillageStories$Reach -/
def RX19 : String := "VillageStories$Reach"
def TX19 : u_T := fun k => match k with
  | 0 => ("VillageStories$Reach", "relation", "I", true)
  | 1 => ("VillageStories$Reach", "a", "I", true)
  | _ => ("VillageStories$Reach", "b", "I", true)
def tyX19 : Nat → FieldType := fun k => match k with
  | 0 => .int
  | 1 => .int
  | _ => .int
abbrev wsX190 : List Cond := u_ws RX19 TX19 3
theorem nmX19 : ∀ a, a < 3 → ∀ b, b < 3 → a ≠ b → (TX19 a).2.1 ≠ (TX19 b).2.1 := by decide +kernel
theorem tyX19_ok : ∀ k, k < 3 → parseFieldDescriptor (TX19 k).2.2.1 = some (tyX19 k) := by decide +kernel
theorem q143 : (Jvm.Cond.initialized "VillageStories$Reach") ∈ lw_all := lw_g (lw_at lw_m1 41 rfl) rfl
theorem q292 : (Jvm.Cond.fieldLinkNest "VillageStories$Reach" (19 : Nat) "VillageStories$World" "vars" "[I" "VillageStories") ∈ lw_tbl := lw_at lw_m1 190 rfl
theorem q483 : (Jvm.Cond.selects "VillageStories$Reach" ({ cls := "java/lang/Object", name := "getClass", desc := "()Ljava/lang/Class;" } : Jvm.MethodName) ({ cls := "java/lang/Object", name := "getClass", desc := "()Ljava/lang/Class;" } : Jvm.MethodName)) ∈ lw_all := lw_g (lw_at lw_m2 141 rfl) rfl
theorem q1160 : (Jvm.Cond.instantiable "VillageStories$Reach" (3 : Nat)) ∈ lw_all := lw_g (lw_at lw_m5 98 rfl) rfl
theorem q1162 : (Jvm.Cond.instanceMethod ({ cls := "VillageStories$Reach", name := "<init>", desc := "(III)V" } : Jvm.MethodName)) ∈ lw_all := lw_g (lw_at lw_m5 100 rfl) rfl
theorem q1163 : (Jvm.Cond.code ({ cls := "VillageStories$Reach", name := "<init>", desc := "(III)V" } : Jvm.MethodName) prog_22_method_1_code (4 : Nat) (Option.none : Option Jvm.ClassFile.FieldType)) ∈ lw_all := lw_g (lw_at lw_m5 101 rfl) rfl
theorem q1164 : (Jvm.Cond.methodLinkNest "VillageStories$Reach" (1 : Nat) ({ cls := "VillageStories$Part", name := "<init>", desc := "()V" } : Jvm.MethodName) "VillageStories") ∈ lw_tbl := lw_at lw_m5 102 rfl
theorem q1165 : (Jvm.Cond.fieldLink "VillageStories$Reach" (7 : Nat) "VillageStories$Reach" "relation" "I") ∈ lw_all := lw_g (lw_at lw_m5 103 rfl) rfl
theorem q1166 : (Jvm.Cond.fieldLink "VillageStories$Reach" (13 : Nat) "VillageStories$Reach" "a" "I") ∈ lw_all := lw_g (lw_at lw_m5 104 rfl) rfl
theorem q1167 : (Jvm.Cond.fieldLink "VillageStories$Reach" (16 : Nat) "VillageStories$Reach" "b" "I") ∈ lw_all := lw_g (lw_at lw_m5 105 rfl) rfl
theorem q1168 : (Jvm.Cond.laysFinal "VillageStories$Reach" "VillageStories$Reach" "relation" "I") ∈ lw_all := lw_g (lw_at lw_m5 106 rfl) rfl
theorem q1169 : (Jvm.Cond.soleField "VillageStories$Reach" "relation") ∈ lw_all := lw_g (lw_at lw_m5 107 rfl) rfl
theorem q1170 : (Jvm.Cond.laysFinal "VillageStories$Reach" "VillageStories$Reach" "a" "I") ∈ lw_all := lw_g (lw_at lw_m5 108 rfl) rfl
theorem q1171 : (Jvm.Cond.soleField "VillageStories$Reach" "a") ∈ lw_all := lw_g (lw_at lw_m5 109 rfl) rfl
theorem q1172 : (Jvm.Cond.laysFinal "VillageStories$Reach" "VillageStories$Reach" "b" "I") ∈ lw_all := lw_g (lw_at lw_m5 110 rfl) rfl
theorem q1173 : (Jvm.Cond.soleField "VillageStories$Reach" "b") ∈ lw_all := lw_g (lw_at lw_m5 111 rfl) rfl
theorem q1174 : (Jvm.Cond.superclass "VillageStories$Reach" "VillageStories$Part") ∈ lw_all := lw_g (lw_at lw_m5 112 rfl) rfl
theorem q1292 : (Jvm.Cond.instanceMethod ({ cls := "VillageStories$Reach", name := "isSo", desc := "(LVillageStories$World;)Z" } : Jvm.MethodName)) ∈ lw_all := lw_g (lw_at lw_m5 230 rfl) rfl
theorem q1293 : (Jvm.Cond.code ({ cls := "VillageStories$Reach", name := "isSo", desc := "(LVillageStories$World;)Z" } : Jvm.MethodName) prog_22_method_2_code (2 : Nat) (Option.some Jvm.ClassFile.FieldType.boolean)) ∈ lw_all := lw_g (lw_at lw_m5 231 rfl) rfl
theorem q1294 : (Jvm.Cond.methodLink "VillageStories$Reach" (25 : Nat) ({ cls := "VillageStories$World", name := "reached", desc := "(II)I" } : Jvm.MethodName)) ∈ lw_all := lw_g (lw_at lw_m5 232 rfl) rfl
theorem q1305 : (Jvm.Cond.methodLinkNest "VillageStories$Reach" (29 : Nat) ({ cls := "VillageStories", name := "has", desc := "(II)Z" } : Jvm.MethodName) "VillageStories") ∈ lw_tbl := lw_at lw_m6 3 rfl
theorem q1342 : (Jvm.Cond.selects "VillageStories$Reach" ({ cls := "VillageStories$Part", name := "isSo", desc := "(LVillageStories$World;)Z" } : Jvm.MethodName) ({ cls := "VillageStories$Reach", name := "isSo", desc := "(LVillageStories$World;)Z" } : Jvm.MethodName)) ∈ lw_all := lw_g (lw_at lw_m6 40 rfl) rfl
theorem q2293 : (Jvm.Cond.castable "VillageStories$Reach" "java/lang/Object") ∈ lw_tbl := lw_at lw_m10 31 rfl
theorem in_X19 : ∀ w ∈ wsX190, w ∈ lw_all := lw_in wsX190 [1168, 1170, 1172] (by decide +kernel) (by decide +kernel)
/-! VillageStories$Land -/
def RX2 : String := "VillageStories$Land"
def TX2 : u_T := fun k => match k with
  | 0 => ("VillageStories$Land", "sizes", "[I", true)
  | _ => ("VillageStories$Land", "relations", "Ljava/util/ArrayList;", true)
def tyX2 : Nat → FieldType := fun k => match k with
  | 0 => .array .int
  | _ => .object "java/util/ArrayList"
abbrev wsX20 : List Cond := u_ws RX2 TX2 2
theorem nmX2 : ∀ a, a < 2 → ∀ b, b < 2 → a ≠ b → (TX2 a).2.1 ≠ (TX2 b).2.1 := by decide +kernel
theorem tyX2_ok : ∀ k, k < 2 → parseFieldDescriptor (TX2 k).2.2.1 = some (tyX2 k) := by decide +kernel
theorem q105 : (Jvm.Cond.initialized "VillageStories$Land") ∈ lw_all := lw_g (lw_at lw_m1 3 rfl) rfl
theorem q163 : (Jvm.Cond.instantiable "VillageStories$Land" (2 : Nat)) ∈ lw_all := lw_g (lw_at lw_m1 61 rfl) rfl
theorem q165 : (Jvm.Cond.instanceMethod ({ cls := "VillageStories$Land", name := "<init>", desc := "()V" } : Jvm.MethodName)) ∈ lw_all := lw_g (lw_at lw_m1 63 rfl) rfl
theorem q166 : (Jvm.Cond.code ({ cls := "VillageStories$Land", name := "<init>", desc := "()V" } : Jvm.MethodName) prog_14_method_1_code (1 : Nat) (Option.none : Option Jvm.ClassFile.FieldType)) ∈ lw_all := lw_g (lw_at lw_m1 64 rfl) rfl
theorem q167 : (Jvm.Cond.methodLink "VillageStories$Land" (3 : Nat) ({ cls := "java/lang/Object", name := "<init>", desc := "()V" } : Jvm.MethodName)) ∈ lw_all := lw_g (lw_at lw_m1 65 rfl) rfl
theorem q168 : (Jvm.Cond.classLink "VillageStories$Land" (15 : Nat) "java/util/ArrayList") ∈ lw_all := lw_g (lw_at lw_m1 66 rfl) rfl
theorem q170 : (Jvm.Cond.methodLink "VillageStories$Land" (17 : Nat) ({ cls := "java/util/ArrayList", name := "<init>", desc := "(I)V" } : Jvm.MethodName)) ∈ lw_all := lw_g (lw_at lw_m1 68 rfl) rfl
theorem q199 : (Jvm.Cond.fieldLink "VillageStories$Land" (9 : Nat) "VillageStories$Land" "sizes" "[I") ∈ lw_all := lw_g (lw_at lw_m1 97 rfl) rfl
theorem q201 : (Jvm.Cond.fieldLink "VillageStories$Land" (20 : Nat) "VillageStories$Land" "relations" "Ljava/util/ArrayList;") ∈ lw_all := lw_g (lw_at lw_m1 99 rfl) rfl
theorem q205 : (Jvm.Cond.laysFinal "VillageStories$Land" "VillageStories$Land" "sizes" "[I") ∈ lw_all := lw_g (lw_at lw_m1 103 rfl) rfl
theorem q206 : (Jvm.Cond.soleField "VillageStories$Land" "sizes") ∈ lw_all := lw_g (lw_at lw_m1 104 rfl) rfl
theorem q207 : (Jvm.Cond.laysFinal "VillageStories$Land" "VillageStories$Land" "relations" "Ljava/util/ArrayList;") ∈ lw_all := lw_g (lw_at lw_m1 105 rfl) rfl
theorem q208 : (Jvm.Cond.soleField "VillageStories$Land" "relations") ∈ lw_all := lw_g (lw_at lw_m1 106 rfl) rfl
theorem q209 : (Jvm.Cond.superclass "VillageStories$Land" "java/lang/Object") ∈ lw_all := lw_g (lw_at lw_m1 107 rfl) rfl
theorem q398 : (Jvm.Cond.instanceMethod ({ cls := "VillageStories$Land", name := "size", desc := "(I)I" } : Jvm.MethodName)) ∈ lw_all := lw_g (lw_at lw_m2 56 rfl) rfl
theorem q399 : (Jvm.Cond.selects "VillageStories$Land" ({ cls := "VillageStories$Land", name := "size", desc := "(I)I" } : Jvm.MethodName) ({ cls := "VillageStories$Land", name := "size", desc := "(I)I" } : Jvm.MethodName)) ∈ lw_all := lw_g (lw_at lw_m2 57 rfl) rfl
theorem q400 : (Jvm.Cond.code ({ cls := "VillageStories$Land", name := "size", desc := "(I)I" } : Jvm.MethodName) prog_14_method_3_code (2 : Nat) (Option.some Jvm.ClassFile.FieldType.int)) ∈ lw_all := lw_g (lw_at lw_m2 58 rfl) rfl
theorem q422 : (Jvm.Cond.fieldLinkNest "VillageStories$Land" (51 : Nat) "VillageStories$Relation" "first" "I" "VillageStories") ∈ lw_tbl := lw_at lw_m2 80 rfl
theorem q426 : (Jvm.Cond.fieldLinkNest "VillageStories$Land" (59 : Nat) "VillageStories$Relation" "second" "I" "VillageStories") ∈ lw_tbl := lw_at lw_m2 84 rfl
theorem q477 : (Jvm.Cond.selects "VillageStories$Land" ({ cls := "java/lang/Object", name := "getClass", desc := "()Ljava/lang/Class;" } : Jvm.MethodName) ({ cls := "java/lang/Object", name := "getClass", desc := "()Ljava/lang/Class;" } : Jvm.MethodName)) ∈ lw_all := lw_g (lw_at lw_m2 135 rfl) rfl
theorem q515 : (Jvm.Cond.instanceMethod ({ cls := "VillageStories$Land", name := "facts", desc := "()I" } : Jvm.MethodName)) ∈ lw_all := lw_g (lw_at lw_m2 173 rfl) rfl
theorem q516 : (Jvm.Cond.selects "VillageStories$Land" ({ cls := "VillageStories$Land", name := "facts", desc := "()I" } : Jvm.MethodName) ({ cls := "VillageStories$Land", name := "facts", desc := "()I" } : Jvm.MethodName)) ∈ lw_all := lw_g (lw_at lw_m2 174 rfl) rfl
theorem q517 : (Jvm.Cond.code ({ cls := "VillageStories$Land", name := "facts", desc := "()I" } : Jvm.MethodName) prog_14_method_6_code (3 : Nat) (Option.some Jvm.ClassFile.FieldType.int)) ∈ lw_all := lw_g (lw_at lw_m2 175 rfl) rfl
theorem q518 : (Jvm.Cond.methodLink "VillageStories$Land" (37 : Nat) ({ cls := "java/util/ArrayList", name := "size", desc := "()I" } : Jvm.MethodName)) ∈ lw_all := lw_g (lw_at lw_m2 176 rfl) rfl
theorem q519 : (Jvm.Cond.methodLink "VillageStories$Land" (62 : Nat) ({ cls := "VillageStories$Land", name := "factsOf", desc := "(I)I" } : Jvm.MethodName)) ∈ lw_all := lw_g (lw_at lw_m2 177 rfl) rfl
theorem q520 : (Jvm.Cond.instanceMethod ({ cls := "VillageStories$Land", name := "factsOf", desc := "(I)I" } : Jvm.MethodName)) ∈ lw_all := lw_g (lw_at lw_m2 178 rfl) rfl
theorem q521 : (Jvm.Cond.selects "VillageStories$Land" ({ cls := "VillageStories$Land", name := "factsOf", desc := "(I)I" } : Jvm.MethodName) ({ cls := "VillageStories$Land", name := "factsOf", desc := "(I)I" } : Jvm.MethodName)) ∈ lw_all := lw_g (lw_at lw_m2 179 rfl) rfl
theorem q522 : (Jvm.Cond.code ({ cls := "VillageStories$Land", name := "factsOf", desc := "(I)I" } : Jvm.MethodName) prog_14_method_5_code (3 : Nat) (Option.some Jvm.ClassFile.FieldType.int)) ∈ lw_all := lw_g (lw_at lw_m2 180 rfl) rfl
theorem q523 : (Jvm.Cond.methodLink "VillageStories$Land" (45 : Nat) ({ cls := "java/util/ArrayList", name := "get", desc := "(I)Ljava/lang/Object;" } : Jvm.MethodName)) ∈ lw_all := lw_g (lw_at lw_m2 181 rfl) rfl
theorem q537 : (Jvm.Cond.classLink "VillageStories$Land" (49 : Nat) "VillageStories$Relation") ∈ lw_all := lw_g (lw_at lw_m2 195 rfl) rfl
theorem q538 : (Jvm.Cond.methodLink "VillageStories$Land" (55 : Nat) ({ cls := "VillageStories$Relation", name := "isOfOne", desc := "()Z" } : Jvm.MethodName)) ∈ lw_all := lw_g (lw_at lw_m2 196 rfl) rfl
theorem q547 : (Jvm.Cond.instanceMethod ({ cls := "VillageStories$Land", name := "fact", desc := "(III)I" } : Jvm.MethodName)) ∈ lw_all := lw_g (lw_at lw_m2 205 rfl) rfl
theorem q548 : (Jvm.Cond.selects "VillageStories$Land" ({ cls := "VillageStories$Land", name := "fact", desc := "(III)I" } : Jvm.MethodName) ({ cls := "VillageStories$Land", name := "fact", desc := "(III)I" } : Jvm.MethodName)) ∈ lw_all := lw_g (lw_at lw_m2 206 rfl) rfl
theorem q549 : (Jvm.Cond.code ({ cls := "VillageStories$Land", name := "fact", desc := "(III)I" } : Jvm.MethodName) prog_14_method_7_code (7 : Nat) (Option.some Jvm.ClassFile.FieldType.int)) ∈ lw_all := lw_g (lw_at lw_m2 207 rfl) rfl
theorem q550 : (Jvm.Cond.methodLink "VillageStories$Land" (66 : Nat) ({ cls := "VillageStories$Land", name := "isRelation", desc := "(I)Z" } : Jvm.MethodName)) ∈ lw_all := lw_g (lw_at lw_m2 208 rfl) rfl
theorem q551 : (Jvm.Cond.instanceMethod ({ cls := "VillageStories$Land", name := "isRelation", desc := "(I)Z" } : Jvm.MethodName)) ∈ lw_all := lw_g (lw_at lw_m2 209 rfl) rfl
theorem q552 : (Jvm.Cond.selects "VillageStories$Land" ({ cls := "VillageStories$Land", name := "isRelation", desc := "(I)Z" } : Jvm.MethodName) ({ cls := "VillageStories$Land", name := "isRelation", desc := "(I)Z" } : Jvm.MethodName)) ∈ lw_all := lw_g (lw_at lw_m2 210 rfl) rfl
theorem q553 : (Jvm.Cond.code ({ cls := "VillageStories$Land", name := "isRelation", desc := "(I)Z" } : Jvm.MethodName) prog_14_method_4_code (2 : Nat) (Option.some Jvm.ClassFile.FieldType.boolean)) ∈ lw_all := lw_g (lw_at lw_m2 211 rfl) rfl
theorem q554 : (Jvm.Cond.methodLinkNest "VillageStories$Land" (41 : Nat) ({ cls := "VillageStories", name := "isIn", desc := "(III)Z" } : Jvm.MethodName) "VillageStories") ∈ lw_tbl := lw_at lw_m2 212 rfl
theorem q1502 : (Jvm.Cond.instanceMethod ({ cls := "VillageStories$Land", name := "be", desc := "(LVillageStories$Land;)V" } : Jvm.MethodName)) ∈ lw_all := lw_g (lw_at lw_m6 200 rfl) rfl
theorem q1503 : (Jvm.Cond.selects "VillageStories$Land" ({ cls := "VillageStories$Land", name := "be", desc := "(LVillageStories$Land;)V" } : Jvm.MethodName) ({ cls := "VillageStories$Land", name := "be", desc := "(LVillageStories$Land;)V" } : Jvm.MethodName)) ∈ lw_all := lw_g (lw_at lw_m6 201 rfl) rfl
theorem q1504 : (Jvm.Cond.code ({ cls := "VillageStories$Land", name := "be", desc := "(LVillageStories$Land;)V" } : Jvm.MethodName) prog_14_method_2_code (2 : Nat) (Option.none : Option Jvm.ClassFile.FieldType)) ∈ lw_all := lw_g (lw_at lw_m6 202 rfl) rfl
theorem q1505 : (Jvm.Cond.methodLink "VillageStories$Land" (24 : Nat) ({ cls := "java/lang/System", name := "arraycopy", desc := "(Ljava/lang/Object;ILjava/lang/Object;II)V" } : Jvm.MethodName)) ∈ lw_all := lw_g (lw_at lw_m6 203 rfl) rfl
theorem q1506 : (Jvm.Cond.methodLink "VillageStories$Land" (30 : Nat) ({ cls := "java/util/ArrayList", name := "clear", desc := "()V" } : Jvm.MethodName)) ∈ lw_all := lw_g (lw_at lw_m6 204 rfl) rfl
theorem q1507 : (Jvm.Cond.methodLink "VillageStories$Land" (33 : Nat) ({ cls := "java/util/ArrayList", name := "addAll", desc := "(Ljava/util/Collection;)Z" } : Jvm.MethodName)) ∈ lw_all := lw_g (lw_at lw_m6 205 rfl) rfl
theorem q2269 : (Jvm.Cond.castable "VillageStories$Land" "java/lang/Object") ∈ lw_tbl := lw_at lw_m10 7 rfl
theorem in_X2 : ∀ w ∈ wsX20, w ∈ lw_all := lw_in wsX20 [205, 207] (by decide +kernel) (by decide +kernel)
/-! VillageStories$Tree -/
def RX20 : String := "VillageStories$Tree"
def TX20 : u_T := fun k => match k with
  | _ => ("VillageStories$Tree", "relation", "I", true)
def tyX20 : Nat → FieldType := fun k => match k with
  | _ => .int
abbrev wsX200 : List Cond := u_ws RX20 TX20 1
theorem nmX20 : ∀ a, a < 1 → ∀ b, b < 1 → a ≠ b → (TX20 a).2.1 ≠ (TX20 b).2.1 := by decide +kernel
theorem tyX20_ok : ∀ k, k < 1 → parseFieldDescriptor (TX20 k).2.2.1 = some (tyX20 k) := by decide +kernel
theorem q144 : (Jvm.Cond.initialized "VillageStories$Tree") ∈ lw_all := lw_g (lw_at lw_m1 42 rfl) rfl
theorem q202 : (Jvm.Cond.fieldLinkNest "VillageStories$Tree" (19 : Nat) "VillageStories$Land" "relations" "Ljava/util/ArrayList;" "VillageStories") ∈ lw_tbl := lw_at lw_m1 100 rfl
theorem q282 : (Jvm.Cond.fieldLinkNest "VillageStories$Tree" (13 : Nat) "VillageStories$World" "land" "LVillageStories$Land;" "VillageStories") ∈ lw_tbl := lw_at lw_m1 180 rfl
theorem q420 : (Jvm.Cond.fieldLinkNest "VillageStories$Tree" (33 : Nat) "VillageStories$Relation" "first" "I" "VillageStories") ∈ lw_tbl := lw_at lw_m2 78 rfl
theorem q490 : (Jvm.Cond.selects "VillageStories$Tree" ({ cls := "java/lang/Object", name := "getClass", desc := "()Ljava/lang/Class;" } : Jvm.MethodName) ({ cls := "java/lang/Object", name := "getClass", desc := "()Ljava/lang/Class;" } : Jvm.MethodName)) ∈ lw_all := lw_g (lw_at lw_m2 148 rfl) rfl
theorem q1177 : (Jvm.Cond.instantiable "VillageStories$Tree" (1 : Nat)) ∈ lw_all := lw_g (lw_at lw_m5 115 rfl) rfl
theorem q1179 : (Jvm.Cond.instanceMethod ({ cls := "VillageStories$Tree", name := "<init>", desc := "(I)V" } : Jvm.MethodName)) ∈ lw_all := lw_g (lw_at lw_m5 117 rfl) rfl
theorem q1180 : (Jvm.Cond.code ({ cls := "VillageStories$Tree", name := "<init>", desc := "(I)V" } : Jvm.MethodName) prog_30_method_1_code (2 : Nat) (Option.none : Option Jvm.ClassFile.FieldType)) ∈ lw_all := lw_g (lw_at lw_m5 118 rfl) rfl
theorem q1181 : (Jvm.Cond.methodLinkNest "VillageStories$Tree" (1 : Nat) ({ cls := "VillageStories$Part", name := "<init>", desc := "()V" } : Jvm.MethodName) "VillageStories") ∈ lw_tbl := lw_at lw_m5 119 rfl
theorem q1182 : (Jvm.Cond.fieldLink "VillageStories$Tree" (7 : Nat) "VillageStories$Tree" "relation" "I") ∈ lw_all := lw_g (lw_at lw_m5 120 rfl) rfl
theorem q1183 : (Jvm.Cond.laysFinal "VillageStories$Tree" "VillageStories$Tree" "relation" "I") ∈ lw_all := lw_g (lw_at lw_m5 121 rfl) rfl
theorem q1184 : (Jvm.Cond.soleField "VillageStories$Tree" "relation") ∈ lw_all := lw_g (lw_at lw_m5 122 rfl) rfl
theorem q1185 : (Jvm.Cond.superclass "VillageStories$Tree" "VillageStories$Part") ∈ lw_all := lw_g (lw_at lw_m5 123 rfl) rfl
theorem q1308 : (Jvm.Cond.instanceMethod ({ cls := "VillageStories$Tree", name := "isSo", desc := "(LVillageStories$World;)Z" } : Jvm.MethodName)) ∈ lw_all := lw_g (lw_at lw_m6 6 rfl) rfl
theorem q1309 : (Jvm.Cond.code ({ cls := "VillageStories$Tree", name := "isSo", desc := "(LVillageStories$World;)Z" } : Jvm.MethodName) prog_30_method_2_code (6 : Nat) (Option.some Jvm.ClassFile.FieldType.boolean)) ∈ lw_all := lw_g (lw_at lw_m6 7 rfl) rfl
theorem q1310 : (Jvm.Cond.methodLink "VillageStories$Tree" (25 : Nat) ({ cls := "java/util/ArrayList", name := "get", desc := "(I)Ljava/lang/Object;" } : Jvm.MethodName)) ∈ lw_all := lw_g (lw_at lw_m6 8 rfl) rfl
theorem q1311 : (Jvm.Cond.classLink "VillageStories$Tree" (31 : Nat) "VillageStories$Relation") ∈ lw_all := lw_g (lw_at lw_m6 9 rfl) rfl
theorem q1312 : (Jvm.Cond.methodLink "VillageStories$Tree" (36 : Nat) ({ cls := "VillageStories$Land", name := "size", desc := "(I)I" } : Jvm.MethodName)) ∈ lw_all := lw_g (lw_at lw_m6 10 rfl) rfl
theorem q1313 : (Jvm.Cond.methodLink "VillageStories$Tree" (40 : Nat) ({ cls := "VillageStories$World", name := "isSo", desc := "(III)Z" } : Jvm.MethodName)) ∈ lw_all := lw_g (lw_at lw_m6 11 rfl) rfl
theorem q1314 : (Jvm.Cond.methodLink "VillageStories$Tree" (44 : Nat) ({ cls := "VillageStories$World", name := "reached", desc := "(II)I" } : Jvm.MethodName)) ∈ lw_all := lw_g (lw_at lw_m6 12 rfl) rfl
theorem q1315 : (Jvm.Cond.methodLinkNest "VillageStories$Tree" (48 : Nat) ({ cls := "VillageStories", name := "has", desc := "(II)Z" } : Jvm.MethodName) "VillageStories") ∈ lw_tbl := lw_at lw_m6 13 rfl
theorem q1344 : (Jvm.Cond.selects "VillageStories$Tree" ({ cls := "VillageStories$Part", name := "isSo", desc := "(LVillageStories$World;)Z" } : Jvm.MethodName) ({ cls := "VillageStories$Tree", name := "isSo", desc := "(LVillageStories$World;)Z" } : Jvm.MethodName)) ∈ lw_all := lw_g (lw_at lw_m6 42 rfl) rfl
theorem q2294 : (Jvm.Cond.castable "VillageStories$Tree" "java/lang/Object") ∈ lw_tbl := lw_at lw_m10 32 rfl
theorem in_X20 : ∀ w ∈ wsX200, w ∈ lw_all := lw_in wsX200 [1183] (by decide +kernel) (by decide +kernel)
/-! VillageStories$Fact -/
def RX21 : String := "VillageStories$Fact"
def TX21 : u_T := fun k => match k with
  | 0 => ("VillageStories$Fact", "relation", "I", true)
  | 1 => ("VillageStories$Fact", "a", "I", true)
  | _ => ("VillageStories$Fact", "b", "I", true)
def tyX21 : Nat → FieldType := fun k => match k with
  | 0 => .int
  | 1 => .int
  | _ => .int
abbrev wsX210 : List Cond := u_ws RX21 TX21 3
theorem nmX21 : ∀ a, a < 3 → ∀ b, b < 3 → a ≠ b → (TX21 a).2.1 ≠ (TX21 b).2.1 := by decide +kernel
theorem tyX21_ok : ∀ k, k < 3 → parseFieldDescriptor (TX21 k).2.2.1 = some (tyX21 k) := by decide +kernel
theorem q145 : (Jvm.Cond.initialized "VillageStories$Fact") ∈ lw_all := lw_g (lw_at lw_m1 43 rfl) rfl
theorem q291 : (Jvm.Cond.fieldLinkNest "VillageStories$Fact" (21 : Nat) "VillageStories$World" "vars" "[I" "VillageStories") ∈ lw_tbl := lw_at lw_m1 189 rfl
theorem q471 : (Jvm.Cond.selects "VillageStories$Fact" ({ cls := "java/lang/Object", name := "getClass", desc := "()Ljava/lang/Class;" } : Jvm.MethodName) ({ cls := "java/lang/Object", name := "getClass", desc := "()Ljava/lang/Class;" } : Jvm.MethodName)) ∈ lw_all := lw_g (lw_at lw_m2 129 rfl) rfl
theorem q1187 : (Jvm.Cond.instantiable "VillageStories$Fact" (3 : Nat)) ∈ lw_all := lw_g (lw_at lw_m5 125 rfl) rfl
theorem q1190 : (Jvm.Cond.instanceMethod ({ cls := "VillageStories$Fact", name := "<init>", desc := "(III)V" } : Jvm.MethodName)) ∈ lw_all := lw_g (lw_at lw_m5 128 rfl) rfl
theorem q1191 : (Jvm.Cond.code ({ cls := "VillageStories$Fact", name := "<init>", desc := "(III)V" } : Jvm.MethodName) prog_7_method_1_code (4 : Nat) (Option.none : Option Jvm.ClassFile.FieldType)) ∈ lw_all := lw_g (lw_at lw_m5 129 rfl) rfl
theorem q1192 : (Jvm.Cond.methodLinkNest "VillageStories$Fact" (3 : Nat) ({ cls := "VillageStories$Part", name := "<init>", desc := "()V" } : Jvm.MethodName) "VillageStories") ∈ lw_tbl := lw_at lw_m5 130 rfl
theorem q1193 : (Jvm.Cond.fieldLink "VillageStories$Fact" (9 : Nat) "VillageStories$Fact" "relation" "I") ∈ lw_all := lw_g (lw_at lw_m5 131 rfl) rfl
theorem q1194 : (Jvm.Cond.fieldLink "VillageStories$Fact" (15 : Nat) "VillageStories$Fact" "a" "I") ∈ lw_all := lw_g (lw_at lw_m5 132 rfl) rfl
theorem q1195 : (Jvm.Cond.fieldLink "VillageStories$Fact" (18 : Nat) "VillageStories$Fact" "b" "I") ∈ lw_all := lw_g (lw_at lw_m5 133 rfl) rfl
theorem q1196 : (Jvm.Cond.laysFinal "VillageStories$Fact" "VillageStories$Fact" "relation" "I") ∈ lw_all := lw_g (lw_at lw_m5 134 rfl) rfl
theorem q1197 : (Jvm.Cond.soleField "VillageStories$Fact" "relation") ∈ lw_all := lw_g (lw_at lw_m5 135 rfl) rfl
theorem q1198 : (Jvm.Cond.laysFinal "VillageStories$Fact" "VillageStories$Fact" "a" "I") ∈ lw_all := lw_g (lw_at lw_m5 136 rfl) rfl
theorem q1199 : (Jvm.Cond.soleField "VillageStories$Fact" "a") ∈ lw_all := lw_g (lw_at lw_m5 137 rfl) rfl
theorem q1200 : (Jvm.Cond.laysFinal "VillageStories$Fact" "VillageStories$Fact" "b" "I") ∈ lw_all := lw_g (lw_at lw_m5 138 rfl) rfl
theorem q1201 : (Jvm.Cond.soleField "VillageStories$Fact" "b") ∈ lw_all := lw_g (lw_at lw_m5 139 rfl) rfl
theorem q1202 : (Jvm.Cond.superclass "VillageStories$Fact" "VillageStories$Part") ∈ lw_all := lw_g (lw_at lw_m5 140 rfl) rfl
theorem q1282 : (Jvm.Cond.instanceMethod ({ cls := "VillageStories$Fact", name := "isSo", desc := "(LVillageStories$World;)Z" } : Jvm.MethodName)) ∈ lw_all := lw_g (lw_at lw_m5 220 rfl) rfl
theorem q1283 : (Jvm.Cond.code ({ cls := "VillageStories$Fact", name := "isSo", desc := "(LVillageStories$World;)Z" } : Jvm.MethodName) prog_7_method_2_code (2 : Nat) (Option.some Jvm.ClassFile.FieldType.boolean)) ∈ lw_all := lw_g (lw_at lw_m5 221 rfl) rfl
theorem q1284 : (Jvm.Cond.methodLink "VillageStories$Fact" (27 : Nat) ({ cls := "VillageStories$World", name := "isSo", desc := "(III)Z" } : Jvm.MethodName)) ∈ lw_all := lw_g (lw_at lw_m5 222 rfl) rfl
theorem q1340 : (Jvm.Cond.selects "VillageStories$Fact" ({ cls := "VillageStories$Part", name := "isSo", desc := "(LVillageStories$World;)Z" } : Jvm.MethodName) ({ cls := "VillageStories$Fact", name := "isSo", desc := "(LVillageStories$World;)Z" } : Jvm.MethodName)) ∈ lw_all := lw_g (lw_at lw_m6 38 rfl) rfl
theorem q2295 : (Jvm.Cond.castable "VillageStories$Fact" "java/lang/Object") ∈ lw_tbl := lw_at lw_m10 33 rfl
theorem in_X21 : ∀ w ∈ wsX210, w ∈ lw_all := lw_in wsX210 [1196, 1198, 1200] (by decide +kernel) (by decide +kernel)
/-! VillageStories$Join$1 -/
def RX22 : String := "VillageStories$Join$1"
theorem q473 : (Jvm.Cond.selects "VillageStories$Join$1" ({ cls := "java/lang/Object", name := "getClass", desc := "()Ljava/lang/Class;" } : Jvm.MethodName) ({ cls := "java/lang/Object", name := "getClass", desc := "()Ljava/lang/Class;" } : Jvm.MethodName)) ∈ lw_all := lw_g (lw_at lw_m2 131 rfl) rfl
theorem q1274 : (Jvm.Cond.selects "VillageStories$Join$1" ({ cls := "VillageStories$Join", name := "is", desc := "(LVillageStories$Part;LVillageStories$Part;LVillageStories$World;)Z" } : Jvm.MethodName) ({ cls := "VillageStories$Join$1", name := "is", desc := "(LVillageStories$Part;LVillageStories$Part;LVillageStories$World;)Z" } : Jvm.MethodName)) ∈ lw_all := lw_g (lw_at lw_m5 212 rfl) rfl
theorem q1275 : (Jvm.Cond.instanceMethod ({ cls := "VillageStories$Join$1", name := "is", desc := "(LVillageStories$Part;LVillageStories$Part;LVillageStories$World;)Z" } : Jvm.MethodName)) ∈ lw_all := lw_g (lw_at lw_m5 213 rfl) rfl
theorem q1276 : (Jvm.Cond.code ({ cls := "VillageStories$Join$1", name := "is", desc := "(LVillageStories$Part;LVillageStories$Part;LVillageStories$World;)Z" } : Jvm.MethodName) prog_10_method_2_code (4 : Nat) (Option.some Jvm.ClassFile.FieldType.boolean)) ∈ lw_all := lw_g (lw_at lw_m5 214 rfl) rfl
theorem q1277 : (Jvm.Cond.methodLink "VillageStories$Join$1" (7 : Nat) ({ cls := "VillageStories$Part", name := "isSo", desc := "(LVillageStories$World;)Z" } : Jvm.MethodName)) ∈ lw_all := lw_g (lw_at lw_m5 215 rfl) rfl
theorem q2287 : (Jvm.Cond.castable "VillageStories$Join$1" "java/lang/Object") ∈ lw_tbl := lw_at lw_m10 25 rfl
/-! VillageStories$Join$2 -/
def RX23 : String := "VillageStories$Join$2"
theorem q474 : (Jvm.Cond.selects "VillageStories$Join$2" ({ cls := "java/lang/Object", name := "getClass", desc := "()Ljava/lang/Class;" } : Jvm.MethodName) ({ cls := "java/lang/Object", name := "getClass", desc := "()Ljava/lang/Class;" } : Jvm.MethodName)) ∈ lw_all := lw_g (lw_at lw_m2 132 rfl) rfl
theorem q1331 : (Jvm.Cond.selects "VillageStories$Join$2" ({ cls := "VillageStories$Join", name := "is", desc := "(LVillageStories$Part;LVillageStories$Part;LVillageStories$World;)Z" } : Jvm.MethodName) ({ cls := "VillageStories$Join$2", name := "is", desc := "(LVillageStories$Part;LVillageStories$Part;LVillageStories$World;)Z" } : Jvm.MethodName)) ∈ lw_all := lw_g (lw_at lw_m6 29 rfl) rfl
theorem q1332 : (Jvm.Cond.instanceMethod ({ cls := "VillageStories$Join$2", name := "is", desc := "(LVillageStories$Part;LVillageStories$Part;LVillageStories$World;)Z" } : Jvm.MethodName)) ∈ lw_all := lw_g (lw_at lw_m6 30 rfl) rfl
theorem q1333 : (Jvm.Cond.code ({ cls := "VillageStories$Join$2", name := "is", desc := "(LVillageStories$Part;LVillageStories$Part;LVillageStories$World;)Z" } : Jvm.MethodName) prog_11_method_2_code (4 : Nat) (Option.some Jvm.ClassFile.FieldType.boolean)) ∈ lw_all := lw_g (lw_at lw_m6 31 rfl) rfl
theorem q1334 : (Jvm.Cond.methodLink "VillageStories$Join$2" (7 : Nat) ({ cls := "VillageStories$Part", name := "isSo", desc := "(LVillageStories$World;)Z" } : Jvm.MethodName)) ∈ lw_all := lw_g (lw_at lw_m6 32 rfl) rfl
theorem q2288 : (Jvm.Cond.castable "VillageStories$Join$2" "java/lang/Object") ∈ lw_tbl := lw_at lw_m10 26 rfl
/-! VillageStories$Join$3 -/
def RX24 : String := "VillageStories$Join$3"
theorem q475 : (Jvm.Cond.selects "VillageStories$Join$3" ({ cls := "java/lang/Object", name := "getClass", desc := "()Ljava/lang/Class;" } : Jvm.MethodName) ({ cls := "java/lang/Object", name := "getClass", desc := "()Ljava/lang/Class;" } : Jvm.MethodName)) ∈ lw_all := lw_g (lw_at lw_m2 133 rfl) rfl
theorem q1335 : (Jvm.Cond.selects "VillageStories$Join$3" ({ cls := "VillageStories$Join", name := "is", desc := "(LVillageStories$Part;LVillageStories$Part;LVillageStories$World;)Z" } : Jvm.MethodName) ({ cls := "VillageStories$Join$3", name := "is", desc := "(LVillageStories$Part;LVillageStories$Part;LVillageStories$World;)Z" } : Jvm.MethodName)) ∈ lw_all := lw_g (lw_at lw_m6 33 rfl) rfl
theorem q1336 : (Jvm.Cond.instanceMethod ({ cls := "VillageStories$Join$3", name := "is", desc := "(LVillageStories$Part;LVillageStories$Part;LVillageStories$World;)Z" } : Jvm.MethodName)) ∈ lw_all := lw_g (lw_at lw_m6 34 rfl) rfl
theorem q1337 : (Jvm.Cond.code ({ cls := "VillageStories$Join$3", name := "is", desc := "(LVillageStories$Part;LVillageStories$Part;LVillageStories$World;)Z" } : Jvm.MethodName) prog_12_method_2_code (4 : Nat) (Option.some Jvm.ClassFile.FieldType.boolean)) ∈ lw_all := lw_g (lw_at lw_m6 35 rfl) rfl
theorem q1338 : (Jvm.Cond.methodLink "VillageStories$Join$3" (7 : Nat) ({ cls := "VillageStories$Part", name := "isSo", desc := "(LVillageStories$World;)Z" } : Jvm.MethodName)) ∈ lw_all := lw_g (lw_at lw_m6 36 rfl) rfl
theorem q2289 : (Jvm.Cond.castable "VillageStories$Join$3" "java/lang/Object") ∈ lw_tbl := lw_at lw_m10 27 rfl
/-! VillageStories$Often$1 -/
def RX25 : String := "VillageStories$Often$1"
theorem q479 : (Jvm.Cond.selects "VillageStories$Often$1" ({ cls := "java/lang/Object", name := "getClass", desc := "()Ljava/lang/Class;" } : Jvm.MethodName) ({ cls := "java/lang/Object", name := "getClass", desc := "()Ljava/lang/Class;" } : Jvm.MethodName)) ∈ lw_all := lw_g (lw_at lw_m2 137 rfl) rfl
theorem q956 : (Jvm.Cond.selects "VillageStories$Often$1" ({ cls := "VillageStories$Often", name := "hasNumber", desc := "()Z" } : Jvm.MethodName) ({ cls := "VillageStories$Often", name := "hasNumber", desc := "()Z" } : Jvm.MethodName)) ∈ lw_all := lw_g (lw_at lw_m4 134 rfl) rfl
theorem q1319 : (Jvm.Cond.selects "VillageStories$Often$1" ({ cls := "VillageStories$Often", name := "is", desc := "(III)Z" } : Jvm.MethodName) ({ cls := "VillageStories$Often$1", name := "is", desc := "(III)Z" } : Jvm.MethodName)) ∈ lw_all := lw_g (lw_at lw_m6 17 rfl) rfl
theorem q1320 : (Jvm.Cond.instanceMethod ({ cls := "VillageStories$Often$1", name := "is", desc := "(III)Z" } : Jvm.MethodName)) ∈ lw_all := lw_g (lw_at lw_m6 18 rfl) rfl
theorem q1321 : (Jvm.Cond.code ({ cls := "VillageStories$Often$1", name := "is", desc := "(III)Z" } : Jvm.MethodName) prog_17_method_2_code (4 : Nat) (Option.some Jvm.ClassFile.FieldType.boolean)) ∈ lw_all := lw_g (lw_at lw_m6 19 rfl) rfl
theorem q2282 : (Jvm.Cond.castable "VillageStories$Often$1" "java/lang/Object") ∈ lw_tbl := lw_at lw_m10 20 rfl
/-! VillageStories$Often$2 -/
def RX26 : String := "VillageStories$Often$2"
theorem q480 : (Jvm.Cond.selects "VillageStories$Often$2" ({ cls := "java/lang/Object", name := "getClass", desc := "()Ljava/lang/Class;" } : Jvm.MethodName) ({ cls := "java/lang/Object", name := "getClass", desc := "()Ljava/lang/Class;" } : Jvm.MethodName)) ∈ lw_all := lw_g (lw_at lw_m2 138 rfl) rfl
theorem q957 : (Jvm.Cond.selects "VillageStories$Often$2" ({ cls := "VillageStories$Often", name := "hasNumber", desc := "()Z" } : Jvm.MethodName) ({ cls := "VillageStories$Often", name := "hasNumber", desc := "()Z" } : Jvm.MethodName)) ∈ lw_all := lw_g (lw_at lw_m4 135 rfl) rfl
theorem q1322 : (Jvm.Cond.selects "VillageStories$Often$2" ({ cls := "VillageStories$Often", name := "is", desc := "(III)Z" } : Jvm.MethodName) ({ cls := "VillageStories$Often$2", name := "is", desc := "(III)Z" } : Jvm.MethodName)) ∈ lw_all := lw_g (lw_at lw_m6 20 rfl) rfl
theorem q1323 : (Jvm.Cond.instanceMethod ({ cls := "VillageStories$Often$2", name := "is", desc := "(III)Z" } : Jvm.MethodName)) ∈ lw_all := lw_g (lw_at lw_m6 21 rfl) rfl
theorem q1324 : (Jvm.Cond.code ({ cls := "VillageStories$Often$2", name := "is", desc := "(III)Z" } : Jvm.MethodName) prog_18_method_2_code (4 : Nat) (Option.some Jvm.ClassFile.FieldType.boolean)) ∈ lw_all := lw_g (lw_at lw_m6 22 rfl) rfl
theorem q2283 : (Jvm.Cond.castable "VillageStories$Often$2" "java/lang/Object") ∈ lw_tbl := lw_at lw_m10 21 rfl
/-! VillageStories$Often$3 -/
def RX27 : String := "VillageStories$Often$3"
theorem q481 : (Jvm.Cond.selects "VillageStories$Often$3" ({ cls := "java/lang/Object", name := "getClass", desc := "()Ljava/lang/Class;" } : Jvm.MethodName) ({ cls := "java/lang/Object", name := "getClass", desc := "()Ljava/lang/Class;" } : Jvm.MethodName)) ∈ lw_all := lw_g (lw_at lw_m2 139 rfl) rfl
theorem q958 : (Jvm.Cond.selects "VillageStories$Often$3" ({ cls := "VillageStories$Often", name := "hasNumber", desc := "()Z" } : Jvm.MethodName) ({ cls := "VillageStories$Often", name := "hasNumber", desc := "()Z" } : Jvm.MethodName)) ∈ lw_all := lw_g (lw_at lw_m4 136 rfl) rfl
theorem q1325 : (Jvm.Cond.selects "VillageStories$Often$3" ({ cls := "VillageStories$Often", name := "is", desc := "(III)Z" } : Jvm.MethodName) ({ cls := "VillageStories$Often$3", name := "is", desc := "(III)Z" } : Jvm.MethodName)) ∈ lw_all := lw_g (lw_at lw_m6 23 rfl) rfl
theorem q1326 : (Jvm.Cond.instanceMethod ({ cls := "VillageStories$Often$3", name := "is", desc := "(III)Z" } : Jvm.MethodName)) ∈ lw_all := lw_g (lw_at lw_m6 24 rfl) rfl
theorem q1327 : (Jvm.Cond.code ({ cls := "VillageStories$Often$3", name := "is", desc := "(III)Z" } : Jvm.MethodName) prog_19_method_2_code (4 : Nat) (Option.some Jvm.ClassFile.FieldType.boolean)) ∈ lw_all := lw_g (lw_at lw_m6 25 rfl) rfl
theorem q2284 : (Jvm.Cond.castable "VillageStories$Often$3" "java/lang/Object") ∈ lw_tbl := lw_at lw_m10 22 rfl
/-! VillageStories$Often$4 -/
def RX28 : String := "VillageStories$Often$4"
theorem q482 : (Jvm.Cond.selects "VillageStories$Often$4" ({ cls := "java/lang/Object", name := "getClass", desc := "()Ljava/lang/Class;" } : Jvm.MethodName) ({ cls := "java/lang/Object", name := "getClass", desc := "()Ljava/lang/Class;" } : Jvm.MethodName)) ∈ lw_all := lw_g (lw_at lw_m2 140 rfl) rfl
theorem q959 : (Jvm.Cond.selects "VillageStories$Often$4" ({ cls := "VillageStories$Often", name := "hasNumber", desc := "()Z" } : Jvm.MethodName) ({ cls := "VillageStories$Often", name := "hasNumber", desc := "()Z" } : Jvm.MethodName)) ∈ lw_all := lw_g (lw_at lw_m4 137 rfl) rfl
theorem q1328 : (Jvm.Cond.selects "VillageStories$Often$4" ({ cls := "VillageStories$Often", name := "is", desc := "(III)Z" } : Jvm.MethodName) ({ cls := "VillageStories$Often$4", name := "is", desc := "(III)Z" } : Jvm.MethodName)) ∈ lw_all := lw_g (lw_at lw_m6 26 rfl) rfl
theorem q1329 : (Jvm.Cond.instanceMethod ({ cls := "VillageStories$Often$4", name := "is", desc := "(III)Z" } : Jvm.MethodName)) ∈ lw_all := lw_g (lw_at lw_m6 27 rfl) rfl
theorem q1330 : (Jvm.Cond.code ({ cls := "VillageStories$Often$4", name := "is", desc := "(III)Z" } : Jvm.MethodName) prog_20_method_2_code (4 : Nat) (Option.some Jvm.ClassFile.FieldType.boolean)) ∈ lw_all := lw_g (lw_at lw_m6 28 rfl) rfl
theorem q2285 : (Jvm.Cond.castable "VillageStories$Often$4" "java/lang/Object") ∈ lw_tbl := lw_at lw_m10 23 rfl
/-! VillageStories$World -/
def RX3 : String := "VillageStories$World"
def TX3 : u_T := fun k => match k with
  | 0 => ("VillageStories$World", "land", "LVillageStories$Land;", false)
  | 1 => ("VillageStories$World", "row", "J", false)
  | 2 => ("VillageStories$World", "facts", "I", false)
  | _ => ("VillageStories$World", "vars", "[I", true)
def tyX3 : Nat → FieldType := fun k => match k with
  | 0 => .object "VillageStories$Land"
  | 1 => .long
  | 2 => .int
  | _ => .array .int
abbrev wsX30 : List Cond := u_ws RX3 TX3 4
theorem nmX3 : ∀ a, a < 4 → ∀ b, b < 4 → a ≠ b → (TX3 a).2.1 ≠ (TX3 b).2.1 := by decide +kernel
theorem tyX3_ok : ∀ k, k < 4 → parseFieldDescriptor (TX3 k).2.2.1 = some (tyX3 k) := by decide +kernel
theorem q109 : (Jvm.Cond.initialized "VillageStories$World") ∈ lw_all := lw_g (lw_at lw_m1 7 rfl) rfl
theorem q203 : (Jvm.Cond.fieldLinkNest "VillageStories$World" (36 : Nat) "VillageStories$Land" "relations" "Ljava/util/ArrayList;" "VillageStories") ∈ lw_tbl := lw_at lw_m1 101 rfl
theorem q277 : (Jvm.Cond.instantiable "VillageStories$World" (4 : Nat)) ∈ lw_all := lw_g (lw_at lw_m1 175 rfl) rfl
theorem q279 : (Jvm.Cond.instanceMethod ({ cls := "VillageStories$World", name := "<init>", desc := "()V" } : Jvm.MethodName)) ∈ lw_all := lw_g (lw_at lw_m1 177 rfl) rfl
theorem q280 : (Jvm.Cond.code ({ cls := "VillageStories$World", name := "<init>", desc := "()V" } : Jvm.MethodName) prog_31_method_1_code (1 : Nat) (Option.none : Option Jvm.ClassFile.FieldType)) ∈ lw_all := lw_g (lw_at lw_m1 178 rfl) rfl
theorem q281 : (Jvm.Cond.methodLink "VillageStories$World" (3 : Nat) ({ cls := "java/lang/Object", name := "<init>", desc := "()V" } : Jvm.MethodName)) ∈ lw_all := lw_g (lw_at lw_m1 179 rfl) rfl
theorem q283 : (Jvm.Cond.fieldLink "VillageStories$World" (15 : Nat) "VillageStories$World" "land" "LVillageStories$Land;") ∈ lw_all := lw_g (lw_at lw_m1 181 rfl) rfl
theorem q286 : (Jvm.Cond.fieldLink "VillageStories$World" (19 : Nat) "VillageStories$World" "row" "J") ∈ lw_all := lw_g (lw_at lw_m1 184 rfl) rfl
theorem q287 : (Jvm.Cond.fieldLink "VillageStories$World" (29 : Nat) "VillageStories$World" "facts" "I") ∈ lw_all := lw_g (lw_at lw_m1 185 rfl) rfl
theorem q288 : (Jvm.Cond.fieldLink "VillageStories$World" (9 : Nat) "VillageStories$World" "vars" "[I") ∈ lw_all := lw_g (lw_at lw_m1 186 rfl) rfl
theorem q294 : (Jvm.Cond.lays "VillageStories$World" "VillageStories$World" "land" "LVillageStories$Land;") ∈ lw_all := lw_g (lw_at lw_m1 192 rfl) rfl
theorem q295 : (Jvm.Cond.soleField "VillageStories$World" "land") ∈ lw_all := lw_g (lw_at lw_m1 193 rfl) rfl
theorem q296 : (Jvm.Cond.lays "VillageStories$World" "VillageStories$World" "row" "J") ∈ lw_all := lw_g (lw_at lw_m1 194 rfl) rfl
theorem q297 : (Jvm.Cond.soleField "VillageStories$World" "row") ∈ lw_all := lw_g (lw_at lw_m1 195 rfl) rfl
theorem q298 : (Jvm.Cond.lays "VillageStories$World" "VillageStories$World" "facts" "I") ∈ lw_all := lw_g (lw_at lw_m1 196 rfl) rfl
theorem q299 : (Jvm.Cond.soleField "VillageStories$World" "facts") ∈ lw_all := lw_g (lw_at lw_m1 197 rfl) rfl
theorem q300 : (Jvm.Cond.laysFinal "VillageStories$World" "VillageStories$World" "vars" "[I") ∈ lw_all := lw_g (lw_at lw_m1 198 rfl) rfl
theorem q301 : (Jvm.Cond.soleField "VillageStories$World" "vars") ∈ lw_all := lw_g (lw_at lw_m1 199 rfl) rfl
theorem q302 : (Jvm.Cond.superclass "VillageStories$World" "java/lang/Object") ∈ lw_all := lw_g (lw_at lw_m1 200 rfl) rfl
theorem q421 : (Jvm.Cond.fieldLinkNest "VillageStories$World" (48 : Nat) "VillageStories$Relation" "first" "I" "VillageStories") ∈ lw_tbl := lw_at lw_m2 79 rfl
theorem q491 : (Jvm.Cond.selects "VillageStories$World" ({ cls := "java/lang/Object", name := "getClass", desc := "()Ljava/lang/Class;" } : Jvm.MethodName) ({ cls := "java/lang/Object", name := "getClass", desc := "()Ljava/lang/Class;" } : Jvm.MethodName)) ∈ lw_all := lw_g (lw_at lw_m2 149 rfl) rfl
theorem q1261 : (Jvm.Cond.instanceMethod ({ cls := "VillageStories$World", name := "is", desc := "(LVillageStories$Land;J)V" } : Jvm.MethodName)) ∈ lw_all := lw_g (lw_at lw_m5 199 rfl) rfl
theorem q1262 : (Jvm.Cond.selects "VillageStories$World" ({ cls := "VillageStories$World", name := "is", desc := "(LVillageStories$Land;J)V" } : Jvm.MethodName) ({ cls := "VillageStories$World", name := "is", desc := "(LVillageStories$Land;J)V" } : Jvm.MethodName)) ∈ lw_all := lw_g (lw_at lw_m5 200 rfl) rfl
theorem q1263 : (Jvm.Cond.code ({ cls := "VillageStories$World", name := "is", desc := "(LVillageStories$Land;J)V" } : Jvm.MethodName) prog_31_method_2_code (4 : Nat) (Option.none : Option Jvm.ClassFile.FieldType)) ∈ lw_all := lw_g (lw_at lw_m5 201 rfl) rfl
theorem q1264 : (Jvm.Cond.methodLink "VillageStories$World" (23 : Nat) ({ cls := "VillageStories$Land", name := "facts", desc := "()I" } : Jvm.MethodName)) ∈ lw_all := lw_g (lw_at lw_m5 202 rfl) rfl
theorem q1285 : (Jvm.Cond.instanceMethod ({ cls := "VillageStories$World", name := "isSo", desc := "(III)Z" } : Jvm.MethodName)) ∈ lw_all := lw_g (lw_at lw_m5 223 rfl) rfl
theorem q1286 : (Jvm.Cond.selects "VillageStories$World" ({ cls := "VillageStories$World", name := "isSo", desc := "(III)Z" } : Jvm.MethodName) ({ cls := "VillageStories$World", name := "isSo", desc := "(III)Z" } : Jvm.MethodName)) ∈ lw_all := lw_g (lw_at lw_m5 224 rfl) rfl
theorem q1287 : (Jvm.Cond.code ({ cls := "VillageStories$World", name := "isSo", desc := "(III)Z" } : Jvm.MethodName) prog_31_method_3_code (4 : Nat) (Option.some Jvm.ClassFile.FieldType.boolean)) ∈ lw_all := lw_g (lw_at lw_m5 225 rfl) rfl
theorem q1288 : (Jvm.Cond.methodLink "VillageStories$World" (32 : Nat) ({ cls := "VillageStories$Land", name := "fact", desc := "(III)I" } : Jvm.MethodName)) ∈ lw_all := lw_g (lw_at lw_m5 226 rfl) rfl
theorem q1295 : (Jvm.Cond.instanceMethod ({ cls := "VillageStories$World", name := "reached", desc := "(II)I" } : Jvm.MethodName)) ∈ lw_all := lw_g (lw_at lw_m5 233 rfl) rfl
theorem q1296 : (Jvm.Cond.selects "VillageStories$World" ({ cls := "VillageStories$World", name := "reached", desc := "(II)I" } : Jvm.MethodName) ({ cls := "VillageStories$World", name := "reached", desc := "(II)I" } : Jvm.MethodName)) ∈ lw_all := lw_g (lw_at lw_m5 234 rfl) rfl
theorem q1297 : (Jvm.Cond.code ({ cls := "VillageStories$World", name := "reached", desc := "(II)I" } : Jvm.MethodName) prog_31_method_4_code (8 : Nat) (Option.some Jvm.ClassFile.FieldType.int)) ∈ lw_all := lw_g (lw_at lw_m5 235 rfl) rfl
theorem q1298 : (Jvm.Cond.methodLink "VillageStories$World" (40 : Nat) ({ cls := "java/util/ArrayList", name := "get", desc := "(I)Ljava/lang/Object;" } : Jvm.MethodName)) ∈ lw_all := lw_g (lw_at lw_m5 236 rfl) rfl
theorem q1299 : (Jvm.Cond.classLink "VillageStories$World" (46 : Nat) "VillageStories$Relation") ∈ lw_all := lw_g (lw_at lw_m5 237 rfl) rfl
theorem q1300 : (Jvm.Cond.methodLink "VillageStories$World" (51 : Nat) ({ cls := "VillageStories$Land", name := "size", desc := "(I)I" } : Jvm.MethodName)) ∈ lw_all := lw_g (lw_at lw_m5 238 rfl) rfl
theorem q1301 : (Jvm.Cond.methodLinkNest "VillageStories$World" (55 : Nat) ({ cls := "VillageStories", name := "has", desc := "(II)Z" } : Jvm.MethodName) "VillageStories") ∈ lw_tbl := lw_at lw_m5 239 rfl
theorem q1304 : (Jvm.Cond.methodLink "VillageStories$World" (59 : Nat) ({ cls := "VillageStories$World", name := "isSo", desc := "(III)Z" } : Jvm.MethodName)) ∈ lw_all := lw_g (lw_at lw_m6 2 rfl) rfl
theorem q2271 : (Jvm.Cond.castable "VillageStories$World" "java/lang/Object") ∈ lw_tbl := lw_at lw_m10 9 rfl
theorem in_X3 : ∀ w ∈ wsX30, w ∈ lw_all := lw_in wsX30 [294, 296, 298, 300] (by decide +kernel) (by decide +kernel)
/-! VillageStories$Search -/
def RX4 : String := "VillageStories$Search"
theorem q110 : (Jvm.Cond.initialized "VillageStories$Search") ∈ lw_all := lw_g (lw_at lw_m1 8 rfl) rfl
theorem q311 : (Jvm.Cond.instanceMethod ({ cls := "VillageStories$Search", name := "<init>", desc := "(LVillageStories;)V" } : Jvm.MethodName)) ∈ lw_all := lw_g (lw_at lw_m1 209 rfl) rfl
theorem q312 : (Jvm.Cond.code ({ cls := "VillageStories$Search", name := "<init>", desc := "(LVillageStories;)V" } : Jvm.MethodName) prog_26_method_1_code (2 : Nat) (Option.none : Option Jvm.ClassFile.FieldType)) ∈ lw_all := lw_g (lw_at lw_m1 210 rfl) rfl
theorem q313 : (Jvm.Cond.methodLink "VillageStories$Search" (7 : Nat) ({ cls := "java/lang/Object", name := "<init>", desc := "()V" } : Jvm.MethodName)) ∈ lw_all := lw_g (lw_at lw_m1 211 rfl) rfl
theorem q315 : (Jvm.Cond.fieldLink "VillageStories$Search" (17 : Nat) "VillageStories$Search" "best" "J") ∈ lw_all := lw_g (lw_at lw_m1 213 rfl) rfl
theorem q316 : (Jvm.Cond.fieldLink "VillageStories$Search" (1 : Nat) "VillageStories$Search" "this$0" "LVillageStories;") ∈ lw_all := lw_g (lw_at lw_m1 214 rfl) rfl
theorem q320 : (Jvm.Cond.soleField "VillageStories$Search" "best") ∈ lw_all := lw_g (lw_at lw_m1 218 rfl) rfl
theorem q322 : (Jvm.Cond.soleField "VillageStories$Search" "this$0") ∈ lw_all := lw_g (lw_at lw_m1 220 rfl) rfl
theorem q348 : (Jvm.Cond.fieldLinkNest "VillageStories$Search" (21 : Nat) "VillageStories" "ways" "[I" "VillageStories") ∈ lw_tbl := lw_at lw_m2 6 rfl
theorem q1411 : (Jvm.Cond.instanceMethod ({ cls := "VillageStories$Search", name := "least", desc := "(J)J" } : Jvm.MethodName)) ∈ lw_all := lw_g (lw_at lw_m6 109 rfl) rfl
theorem q1412 : (Jvm.Cond.sameMethod "VillageStories$Search" "VillageStories$Search" "least" "(J)J") ∈ lw_all := lw_g (lw_at lw_m6 110 rfl) rfl
theorem q1415 : (Jvm.Cond.code ({ cls := "VillageStories$Search", name := "least", desc := "(J)J" } : Jvm.MethodName) prog_26_method_3_code (3 : Nat) (Option.some Jvm.ClassFile.FieldType.long)) ∈ lw_all := lw_g (lw_at lw_m6 113 rfl) rfl
theorem q1416 : (Jvm.Cond.constantLong "VillageStories$Search" (15 : Nat) (9223372036854775807 : Int64)) ∈ lw_all := lw_g (lw_at lw_m6 114 rfl) rfl
theorem q1417 : (Jvm.Cond.fieldLinkNest "VillageStories$Search" (27 : Nat) "VillageStories" "ORDERS" "[I" "VillageStories") ∈ lw_tbl := lw_at lw_m6 115 rfl
theorem q1419 : (Jvm.Cond.methodLinkNest "VillageStories$Search" (30 : Nat) ({ cls := "VillageStories", name := "land", desc := "()LVillageStories$Land;" } : Jvm.MethodName) "VillageStories") ∈ lw_tbl := lw_at lw_m6 117 rfl
theorem q1420 : (Jvm.Cond.methodLink "VillageStories$Search" (34 : Nat) ({ cls := "VillageStories$Land", name := "size", desc := "(I)I" } : Jvm.MethodName)) ∈ lw_all := lw_g (lw_at lw_m6 118 rfl) rfl
theorem q1421 : (Jvm.Cond.methodLinkNest "VillageStories$Search" (40 : Nat) ({ cls := "VillageStories", name := "renamed", desc := "(J[I)J" } : Jvm.MethodName) "VillageStories") ∈ lw_tbl := lw_at lw_m6 119 rfl
theorem q1430 : (Jvm.Cond.methodLink "VillageStories$Search" (44 : Nat) ({ cls := "VillageStories$Search", name := "worth", desc := "(J)J" } : Jvm.MethodName)) ∈ lw_all := lw_g (lw_at lw_m6 128 rfl) rfl
theorem q1431 : (Jvm.Cond.declares ({ cls := "VillageStories$Search", name := "worth", desc := "(J)J" } : Jvm.MethodName)) ∈ lw_tbl := lw_at lw_m6 129 rfl
theorem q1432 : (Jvm.Cond.sameMethod "VillageStories$Search" "VillageStories$Search" "worth" "(J)J") ∈ lw_all := lw_g (lw_at lw_m6 130 rfl) rfl
theorem q1445 : (Jvm.Cond.methodLink "VillageStories$Search" (48 : Nat) ({ cls := "java/lang/Math", name := "min", desc := "(JJ)J" } : Jvm.MethodName)) ∈ lw_all := lw_g (lw_at lw_m6 143 rfl) rfl
/-! VillageStories$1 -/
def RX5 : String := "VillageStories$1"
def TX5 : u_T := fun k => match k with
  | 0 => ("VillageStories$Search", "best", "J", false)
  | 1 => ("VillageStories$Search", "this$0", "LVillageStories;", true)
  | _ => ("VillageStories$1", "this$0", "LVillageStories;", true)
def tyX5 : Nat → FieldType := fun k => match k with
  | 0 => .long
  | 1 => .object "VillageStories"
  | _ => .object "VillageStories"
abbrev wsX50 : List Cond := u_ws RX5 TX5 3
-- two fields of one name: no nmX5
theorem tyX5_ok : ∀ k, k < 3 → parseFieldDescriptor (TX5 k).2.2.1 = some (tyX5 k) := by decide +kernel
theorem q111 : (Jvm.Cond.initialized "VillageStories$1") ∈ lw_all := lw_g (lw_at lw_m1 9 rfl) rfl
theorem q306 : (Jvm.Cond.instantiable "VillageStories$1" (3 : Nat)) ∈ lw_all := lw_g (lw_at lw_m1 204 rfl) rfl
theorem q308 : (Jvm.Cond.instanceMethod ({ cls := "VillageStories$1", name := "<init>", desc := "(LVillageStories;)V" } : Jvm.MethodName)) ∈ lw_all := lw_g (lw_at lw_m1 206 rfl) rfl
theorem q309 : (Jvm.Cond.code ({ cls := "VillageStories$1", name := "<init>", desc := "(LVillageStories;)V" } : Jvm.MethodName) prog_2_method_1_code (2 : Nat) (Option.none : Option Jvm.ClassFile.FieldType)) ∈ lw_all := lw_g (lw_at lw_m1 207 rfl) rfl
theorem q310 : (Jvm.Cond.methodLinkNest "VillageStories$1" (7 : Nat) ({ cls := "VillageStories$Search", name := "<init>", desc := "(LVillageStories;)V" } : Jvm.MethodName) "VillageStories") ∈ lw_tbl := lw_at lw_m1 208 rfl
theorem q314 : (Jvm.Cond.fieldLink "VillageStories$1" (1 : Nat) "VillageStories$1" "this$0" "LVillageStories;") ∈ lw_all := lw_g (lw_at lw_m1 212 rfl) rfl
theorem q317 : (Jvm.Cond.laysFinal "VillageStories$1" "VillageStories$1" "this$0" "LVillageStories;") ∈ lw_all := lw_g (lw_at lw_m1 215 rfl) rfl
theorem q318 : (Jvm.Cond.soleField "VillageStories$1" "this$0") ∈ lw_all := lw_g (lw_at lw_m1 216 rfl) rfl
theorem q319 : (Jvm.Cond.lays "VillageStories$1" "VillageStories$Search" "best" "J") ∈ lw_all := lw_g (lw_at lw_m1 217 rfl) rfl
theorem q321 : (Jvm.Cond.laysFinal "VillageStories$1" "VillageStories$Search" "this$0" "LVillageStories;") ∈ lw_all := lw_g (lw_at lw_m1 219 rfl) rfl
theorem q323 : (Jvm.Cond.superclass "VillageStories$1" "VillageStories$Search") ∈ lw_all := lw_g (lw_at lw_m1 221 rfl) rfl
theorem q467 : (Jvm.Cond.selects "VillageStories$1" ({ cls := "java/lang/Object", name := "getClass", desc := "()Ljava/lang/Class;" } : Jvm.MethodName) ({ cls := "java/lang/Object", name := "getClass", desc := "()Ljava/lang/Class;" } : Jvm.MethodName)) ∈ lw_all := lw_g (lw_at lw_m2 125 rfl) rfl
theorem q1413 : (Jvm.Cond.selects "VillageStories$1" ({ cls := "VillageStories$Search", name := "least", desc := "(J)J" } : Jvm.MethodName) ({ cls := "VillageStories$Search", name := "least", desc := "(J)J" } : Jvm.MethodName)) ∈ lw_all := lw_g (lw_at lw_m6 111 rfl) rfl
theorem q1433 : (Jvm.Cond.selects "VillageStories$1" ({ cls := "VillageStories$Search", name := "worth", desc := "(J)J" } : Jvm.MethodName) ({ cls := "VillageStories$1", name := "worth", desc := "(J)J" } : Jvm.MethodName)) ∈ lw_all := lw_g (lw_at lw_m6 131 rfl) rfl
theorem q1434 : (Jvm.Cond.instanceMethod ({ cls := "VillageStories$1", name := "worth", desc := "(J)J" } : Jvm.MethodName)) ∈ lw_all := lw_g (lw_at lw_m6 132 rfl) rfl
theorem q1435 : (Jvm.Cond.code ({ cls := "VillageStories$1", name := "worth", desc := "(J)J" } : Jvm.MethodName) prog_2_method_2_code (3 : Nat) (Option.some Jvm.ClassFile.FieldType.long)) ∈ lw_all := lw_g (lw_at lw_m6 133 rfl) rfl
theorem q2272 : (Jvm.Cond.castable "VillageStories$1" "java/lang/Object") ∈ lw_tbl := lw_at lw_m10 10 rfl
theorem in_X5 : ∀ w ∈ wsX50, w ∈ lw_all := lw_in wsX50 [319, 321, 317] (by decide +kernel) (by decide +kernel)
/-! VillageStories$2 -/
def RX6 : String := "VillageStories$2"
def TX6 : u_T := fun k => match k with
  | 0 => ("VillageStories$Search", "best", "J", false)
  | 1 => ("VillageStories$Search", "this$0", "LVillageStories;", true)
  | _ => ("VillageStories$2", "this$0", "LVillageStories;", true)
def tyX6 : Nat → FieldType := fun k => match k with
  | 0 => .long
  | 1 => .object "VillageStories"
  | _ => .object "VillageStories"
abbrev wsX60 : List Cond := u_ws RX6 TX6 3
-- two fields of one name: no nmX6
theorem tyX6_ok : ∀ k, k < 3 → parseFieldDescriptor (TX6 k).2.2.1 = some (tyX6 k) := by decide +kernel
theorem q112 : (Jvm.Cond.initialized "VillageStories$2") ∈ lw_all := lw_g (lw_at lw_m1 10 rfl) rfl
theorem q231 : (Jvm.Cond.fieldLinkNest "VillageStories$2" (19 : Nat) "VillageStories$State" "row" "J" "VillageStories") ∈ lw_tbl := lw_at lw_m1 129 rfl
theorem q325 : (Jvm.Cond.instantiable "VillageStories$2" (3 : Nat)) ∈ lw_all := lw_g (lw_at lw_m1 223 rfl) rfl
theorem q327 : (Jvm.Cond.instanceMethod ({ cls := "VillageStories$2", name := "<init>", desc := "(LVillageStories;)V" } : Jvm.MethodName)) ∈ lw_all := lw_g (lw_at lw_m1 225 rfl) rfl
theorem q328 : (Jvm.Cond.code ({ cls := "VillageStories$2", name := "<init>", desc := "(LVillageStories;)V" } : Jvm.MethodName) prog_3_method_1_code (2 : Nat) (Option.none : Option Jvm.ClassFile.FieldType)) ∈ lw_all := lw_g (lw_at lw_m1 226 rfl) rfl
theorem q329 : (Jvm.Cond.methodLinkNest "VillageStories$2" (7 : Nat) ({ cls := "VillageStories$Search", name := "<init>", desc := "(LVillageStories;)V" } : Jvm.MethodName) "VillageStories") ∈ lw_tbl := lw_at lw_m1 227 rfl
theorem q330 : (Jvm.Cond.fieldLink "VillageStories$2" (1 : Nat) "VillageStories$2" "this$0" "LVillageStories;") ∈ lw_all := lw_g (lw_at lw_m1 228 rfl) rfl
theorem q331 : (Jvm.Cond.laysFinal "VillageStories$2" "VillageStories$2" "this$0" "LVillageStories;") ∈ lw_all := lw_g (lw_at lw_m1 229 rfl) rfl
theorem q332 : (Jvm.Cond.soleField "VillageStories$2" "this$0") ∈ lw_all := lw_g (lw_at lw_m1 230 rfl) rfl
theorem q333 : (Jvm.Cond.lays "VillageStories$2" "VillageStories$Search" "best" "J") ∈ lw_all := lw_g (lw_at lw_m1 231 rfl) rfl
theorem q334 : (Jvm.Cond.laysFinal "VillageStories$2" "VillageStories$Search" "this$0" "LVillageStories;") ∈ lw_all := lw_g (lw_at lw_m1 232 rfl) rfl
theorem q335 : (Jvm.Cond.superclass "VillageStories$2" "VillageStories$Search") ∈ lw_all := lw_g (lw_at lw_m1 233 rfl) rfl
theorem q338 : (Jvm.Cond.fieldLinkNest "VillageStories$2" (13 : Nat) "VillageStories" "now" "LVillageStories$State;" "VillageStories") ∈ lw_tbl := lw_at lw_m1 236 rfl
theorem q468 : (Jvm.Cond.selects "VillageStories$2" ({ cls := "java/lang/Object", name := "getClass", desc := "()Ljava/lang/Class;" } : Jvm.MethodName) ({ cls := "java/lang/Object", name := "getClass", desc := "()Ljava/lang/Class;" } : Jvm.MethodName)) ∈ lw_all := lw_g (lw_at lw_m2 126 rfl) rfl
theorem q1414 : (Jvm.Cond.selects "VillageStories$2" ({ cls := "VillageStories$Search", name := "least", desc := "(J)J" } : Jvm.MethodName) ({ cls := "VillageStories$Search", name := "least", desc := "(J)J" } : Jvm.MethodName)) ∈ lw_all := lw_g (lw_at lw_m6 112 rfl) rfl
theorem q1436 : (Jvm.Cond.selects "VillageStories$2" ({ cls := "VillageStories$Search", name := "worth", desc := "(J)J" } : Jvm.MethodName) ({ cls := "VillageStories$2", name := "worth", desc := "(J)J" } : Jvm.MethodName)) ∈ lw_all := lw_g (lw_at lw_m6 134 rfl) rfl
theorem q1437 : (Jvm.Cond.instanceMethod ({ cls := "VillageStories$2", name := "worth", desc := "(J)J" } : Jvm.MethodName)) ∈ lw_all := lw_g (lw_at lw_m6 135 rfl) rfl
theorem q1438 : (Jvm.Cond.code ({ cls := "VillageStories$2", name := "worth", desc := "(J)J" } : Jvm.MethodName) prog_3_method_2_code (3 : Nat) (Option.some Jvm.ClassFile.FieldType.long)) ∈ lw_all := lw_g (lw_at lw_m6 136 rfl) rfl
theorem q1439 : (Jvm.Cond.methodLink "VillageStories$2" (25 : Nat) ({ cls := "java/lang/Long", name := "bitCount", desc := "(J)I" } : Jvm.MethodName)) ∈ lw_all := lw_g (lw_at lw_m6 137 rfl) rfl
theorem q2273 : (Jvm.Cond.castable "VillageStories$2" "java/lang/Object") ∈ lw_tbl := lw_at lw_m10 11 rfl
theorem in_X6 : ∀ w ∈ wsX60, w ∈ lw_all := lw_in wsX60 [333, 334, 331] (by decide +kernel) (by decide +kernel)
/-! VillageStories$Relation -/
def RX8 : String := "VillageStories$Relation"
def TX8 : u_T := fun k => match k with
  | 0 => ("VillageStories$Relation", "first", "I", true)
  | _ => ("VillageStories$Relation", "second", "I", true)
def tyX8 : Nat → FieldType := fun k => match k with
  | 0 => .int
  | _ => .int
abbrev wsX80 : List Cond := u_ws RX8 TX8 2
theorem nmX8 : ∀ a, a < 2 → ∀ b, b < 2 → a ≠ b → (TX8 a).2.1 ≠ (TX8 b).2.1 := by decide +kernel
theorem tyX8_ok : ∀ k, k < 2 → parseFieldDescriptor (TX8 k).2.2.1 = some (tyX8 k) := by decide +kernel
theorem q114 : (Jvm.Cond.initialized "VillageStories$Relation") ∈ lw_all := lw_g (lw_at lw_m1 12 rfl) rfl
theorem q414 : (Jvm.Cond.instantiable "VillageStories$Relation" (2 : Nat)) ∈ lw_all := lw_g (lw_at lw_m2 72 rfl) rfl
theorem q416 : (Jvm.Cond.instanceMethod ({ cls := "VillageStories$Relation", name := "<init>", desc := "(II)V" } : Jvm.MethodName)) ∈ lw_all := lw_g (lw_at lw_m2 74 rfl) rfl
theorem q417 : (Jvm.Cond.code ({ cls := "VillageStories$Relation", name := "<init>", desc := "(II)V" } : Jvm.MethodName) prog_24_method_1_code (3 : Nat) (Option.none : Option Jvm.ClassFile.FieldType)) ∈ lw_all := lw_g (lw_at lw_m2 75 rfl) rfl
theorem q418 : (Jvm.Cond.methodLink "VillageStories$Relation" (3 : Nat) ({ cls := "java/lang/Object", name := "<init>", desc := "()V" } : Jvm.MethodName)) ∈ lw_all := lw_g (lw_at lw_m2 76 rfl) rfl
theorem q419 : (Jvm.Cond.fieldLink "VillageStories$Relation" (9 : Nat) "VillageStories$Relation" "first" "I") ∈ lw_all := lw_g (lw_at lw_m2 77 rfl) rfl
theorem q425 : (Jvm.Cond.fieldLink "VillageStories$Relation" (15 : Nat) "VillageStories$Relation" "second" "I") ∈ lw_all := lw_g (lw_at lw_m2 83 rfl) rfl
theorem q429 : (Jvm.Cond.laysFinal "VillageStories$Relation" "VillageStories$Relation" "first" "I") ∈ lw_all := lw_g (lw_at lw_m2 87 rfl) rfl
theorem q430 : (Jvm.Cond.soleField "VillageStories$Relation" "first") ∈ lw_all := lw_g (lw_at lw_m2 88 rfl) rfl
theorem q431 : (Jvm.Cond.laysFinal "VillageStories$Relation" "VillageStories$Relation" "second" "I") ∈ lw_all := lw_g (lw_at lw_m2 89 rfl) rfl
theorem q432 : (Jvm.Cond.soleField "VillageStories$Relation" "second") ∈ lw_all := lw_g (lw_at lw_m2 90 rfl) rfl
theorem q433 : (Jvm.Cond.superclass "VillageStories$Relation" "java/lang/Object") ∈ lw_all := lw_g (lw_at lw_m2 91 rfl) rfl
theorem q485 : (Jvm.Cond.selects "VillageStories$Relation" ({ cls := "java/lang/Object", name := "getClass", desc := "()Ljava/lang/Class;" } : Jvm.MethodName) ({ cls := "java/lang/Object", name := "getClass", desc := "()Ljava/lang/Class;" } : Jvm.MethodName)) ∈ lw_all := lw_g (lw_at lw_m2 143 rfl) rfl
theorem q539 : (Jvm.Cond.instanceMethod ({ cls := "VillageStories$Relation", name := "isOfOne", desc := "()Z" } : Jvm.MethodName)) ∈ lw_all := lw_g (lw_at lw_m2 197 rfl) rfl
theorem q540 : (Jvm.Cond.selects "VillageStories$Relation" ({ cls := "VillageStories$Relation", name := "isOfOne", desc := "()Z" } : Jvm.MethodName) ({ cls := "VillageStories$Relation", name := "isOfOne", desc := "()Z" } : Jvm.MethodName)) ∈ lw_all := lw_g (lw_at lw_m2 198 rfl) rfl
theorem q541 : (Jvm.Cond.code ({ cls := "VillageStories$Relation", name := "isOfOne", desc := "()Z" } : Jvm.MethodName) prog_24_method_2_code (1 : Nat) (Option.some Jvm.ClassFile.FieldType.boolean)) ∈ lw_all := lw_g (lw_at lw_m2 199 rfl) rfl
theorem q1156 : (Jvm.Cond.instanceMethod ({ cls := "VillageStories$Relation", name := "isWithin", desc := "()Z" } : Jvm.MethodName)) ∈ lw_all := lw_g (lw_at lw_m5 94 rfl) rfl
theorem q1157 : (Jvm.Cond.selects "VillageStories$Relation" ({ cls := "VillageStories$Relation", name := "isWithin", desc := "()Z" } : Jvm.MethodName) ({ cls := "VillageStories$Relation", name := "isWithin", desc := "()Z" } : Jvm.MethodName)) ∈ lw_all := lw_g (lw_at lw_m5 95 rfl) rfl
theorem q1158 : (Jvm.Cond.code ({ cls := "VillageStories$Relation", name := "isWithin", desc := "()Z" } : Jvm.MethodName) prog_24_method_3_code (1 : Nat) (Option.some Jvm.ClassFile.FieldType.boolean)) ∈ lw_all := lw_g (lw_at lw_m5 96 rfl) rfl
theorem q2275 : (Jvm.Cond.castable "VillageStories$Relation" "java/lang/Object") ∈ lw_tbl := lw_at lw_m10 13 rfl
theorem in_X8 : ∀ w ∈ wsX80, w ∈ lw_all := lw_in wsX80 [429, 431] (by decide +kernel) (by decide +kernel)
/-! VillageStories$Known -/
def RX9 : String := "VillageStories$Known"
def TX9 : u_T := fun k => match k with
  | 0 => ("VillageStories$Known", "relation", "I", true)
  | 1 => ("VillageStories$Known", "i", "I", true)
  | 2 => ("VillageStories$Known", "j", "I", true)
  | 3 => ("VillageStories$Known", "day", "I", true)
  | _ => ("VillageStories$Known", "is", "Z", true)
def tyX9 : Nat → FieldType := fun k => match k with
  | 0 => .int
  | 1 => .int
  | 2 => .int
  | 3 => .int
  | _ => .boolean
abbrev wsX90 : List Cond := u_ws RX9 TX9 5
theorem nmX9 : ∀ a, a < 5 → ∀ b, b < 5 → a ≠ b → (TX9 a).2.1 ≠ (TX9 b).2.1 := by decide +kernel
theorem tyX9_ok : ∀ k, k < 5 → parseFieldDescriptor (TX9 k).2.2.1 = some (tyX9 k) := by decide +kernel
theorem q121 : (Jvm.Cond.initialized "VillageStories$Known") ∈ lw_all := lw_g (lw_at lw_m1 19 rfl) rfl
theorem q476 : (Jvm.Cond.selects "VillageStories$Known" ({ cls := "java/lang/Object", name := "getClass", desc := "()Ljava/lang/Class;" } : Jvm.MethodName) ({ cls := "java/lang/Object", name := "getClass", desc := "()Ljava/lang/Class;" } : Jvm.MethodName)) ∈ lw_all := lw_g (lw_at lw_m2 134 rfl) rfl
theorem q576 : (Jvm.Cond.instantiable "VillageStories$Known" (5 : Nat)) ∈ lw_all := lw_g (lw_at lw_m2 234 rfl) rfl
theorem q578 : (Jvm.Cond.instanceMethod ({ cls := "VillageStories$Known", name := "<init>", desc := "(IIIZI)V" } : Jvm.MethodName)) ∈ lw_all := lw_g (lw_at lw_m2 236 rfl) rfl
theorem q579 : (Jvm.Cond.code ({ cls := "VillageStories$Known", name := "<init>", desc := "(IIIZI)V" } : Jvm.MethodName) prog_13_method_1_code (6 : Nat) (Option.none : Option Jvm.ClassFile.FieldType)) ∈ lw_all := lw_g (lw_at lw_m2 237 rfl) rfl
theorem q580 : (Jvm.Cond.methodLink "VillageStories$Known" (1 : Nat) ({ cls := "java/lang/Object", name := "<init>", desc := "()V" } : Jvm.MethodName)) ∈ lw_all := lw_g (lw_at lw_m2 238 rfl) rfl
theorem q581 : (Jvm.Cond.fieldLink "VillageStories$Known" (7 : Nat) "VillageStories$Known" "relation" "I") ∈ lw_all := lw_g (lw_at lw_m2 239 rfl) rfl
theorem q583 : (Jvm.Cond.fieldLink "VillageStories$Known" (13 : Nat) "VillageStories$Known" "i" "I") ∈ lw_all := lw_g (lw_at lw_m3 1 rfl) rfl
theorem q585 : (Jvm.Cond.fieldLink "VillageStories$Known" (16 : Nat) "VillageStories$Known" "j" "I") ∈ lw_all := lw_g (lw_at lw_m3 3 rfl) rfl
theorem q587 : (Jvm.Cond.fieldLink "VillageStories$Known" (23 : Nat) "VillageStories$Known" "day" "I") ∈ lw_all := lw_g (lw_at lw_m3 5 rfl) rfl
theorem q589 : (Jvm.Cond.fieldLink "VillageStories$Known" (19 : Nat) "VillageStories$Known" "is" "Z") ∈ lw_all := lw_g (lw_at lw_m3 7 rfl) rfl
theorem q591 : (Jvm.Cond.laysFinal "VillageStories$Known" "VillageStories$Known" "relation" "I") ∈ lw_all := lw_g (lw_at lw_m3 9 rfl) rfl
theorem q592 : (Jvm.Cond.soleField "VillageStories$Known" "relation") ∈ lw_all := lw_g (lw_at lw_m3 10 rfl) rfl
theorem q593 : (Jvm.Cond.laysFinal "VillageStories$Known" "VillageStories$Known" "i" "I") ∈ lw_all := lw_g (lw_at lw_m3 11 rfl) rfl
theorem q594 : (Jvm.Cond.soleField "VillageStories$Known" "i") ∈ lw_all := lw_g (lw_at lw_m3 12 rfl) rfl
theorem q595 : (Jvm.Cond.laysFinal "VillageStories$Known" "VillageStories$Known" "j" "I") ∈ lw_all := lw_g (lw_at lw_m3 13 rfl) rfl
theorem q596 : (Jvm.Cond.soleField "VillageStories$Known" "j") ∈ lw_all := lw_g (lw_at lw_m3 14 rfl) rfl
theorem q597 : (Jvm.Cond.laysFinal "VillageStories$Known" "VillageStories$Known" "day" "I") ∈ lw_all := lw_g (lw_at lw_m3 15 rfl) rfl
theorem q598 : (Jvm.Cond.soleField "VillageStories$Known" "day") ∈ lw_all := lw_g (lw_at lw_m3 16 rfl) rfl
theorem q599 : (Jvm.Cond.laysFinal "VillageStories$Known" "VillageStories$Known" "is" "Z") ∈ lw_all := lw_g (lw_at lw_m3 17 rfl) rfl
theorem q600 : (Jvm.Cond.soleField "VillageStories$Known" "is") ∈ lw_all := lw_g (lw_at lw_m3 18 rfl) rfl
theorem q601 : (Jvm.Cond.superclass "VillageStories$Known" "java/lang/Object") ∈ lw_all := lw_g (lw_at lw_m3 19 rfl) rfl
theorem q2276 : (Jvm.Cond.castable "VillageStories$Known" "java/lang/Object") ∈ lw_tbl := lw_at lw_m10 14 rfl
theorem in_X9 : ∀ w ∈ wsX90, w ∈ lw_all := lw_in wsX90 [591, 593, 595, 597, 599] (by decide +kernel) (by decide +kernel)
