set_option maxRecDepth 100000
/-! java/util/AbstractCollection -/
def RJ0 : String := "java/util/AbstractCollection"
theorem q106 : (Jvm.Cond.initialized "java/util/AbstractCollection") ∈ lw_all := lw_g (lw_at lw_m1 4 rfl) rfl
theorem q177 : (Jvm.Cond.instanceMethod ({ cls := "java/util/AbstractCollection", name := "<init>", desc := "()V" } : Jvm.MethodName)) ∈ lw_all := lw_g (lw_at lw_m1 75 rfl) rfl
theorem q178 : (Jvm.Cond.code ({ cls := "java/util/AbstractCollection", name := "<init>", desc := "()V" } : Jvm.MethodName) prog_52_method_1_code (1 : Nat) (Option.none : Option Jvm.ClassFile.FieldType)) ∈ lw_all := lw_g (lw_at lw_m1 76 rfl) rfl
theorem q179 : (Jvm.Cond.methodLink "java/util/AbstractCollection" (1 : Nat) ({ cls := "java/lang/Object", name := "<init>", desc := "()V" } : Jvm.MethodName)) ∈ lw_all := lw_g (lw_at lw_m1 77 rfl) rfl
/-! java/util/AbstractList -/
def RJ1 : String := "java/util/AbstractList"
theorem q107 : (Jvm.Cond.initialized "java/util/AbstractList") ∈ lw_all := lw_g (lw_at lw_m1 5 rfl) rfl
theorem q174 : (Jvm.Cond.instanceMethod ({ cls := "java/util/AbstractList", name := "<init>", desc := "()V" } : Jvm.MethodName)) ∈ lw_all := lw_g (lw_at lw_m1 72 rfl) rfl
theorem q175 : (Jvm.Cond.code ({ cls := "java/util/AbstractList", name := "<init>", desc := "()V" } : Jvm.MethodName) prog_53_method_1_code (1 : Nat) (Option.none : Option Jvm.ClassFile.FieldType)) ∈ lw_all := lw_g (lw_at lw_m1 73 rfl) rfl
theorem q176 : (Jvm.Cond.methodLink "java/util/AbstractList" (1 : Nat) ({ cls := "java/util/AbstractCollection", name := "<init>", desc := "()V" } : Jvm.MethodName)) ∈ lw_all := lw_g (lw_at lw_m1 74 rfl) rfl
theorem q186 : (Jvm.Cond.fieldLink "java/util/AbstractList" (7 : Nat) "java/util/AbstractList" "modCount" "I") ∈ lw_all := lw_g (lw_at lw_m1 84 rfl) rfl
theorem q194 : (Jvm.Cond.soleField "java/util/AbstractList" "modCount") ∈ lw_all := lw_g (lw_at lw_m1 92 rfl) rfl
/-! java/lang/AbstractStringBuilder -/
def RJ10 : String := "java/lang/AbstractStringBuilder"
theorem q128 : (Jvm.Cond.initialized "java/lang/AbstractStringBuilder") ∈ lw_all := lw_g (lw_at lw_m1 26 rfl) rfl
theorem q646 : (Jvm.Cond.instanceMethod ({ cls := "java/lang/AbstractStringBuilder", name := "<init>", desc := "(I)V" } : Jvm.MethodName)) ∈ lw_all := lw_g (lw_at lw_m3 64 rfl) rfl
theorem q647 : (Jvm.Cond.code ({ cls := "java/lang/AbstractStringBuilder", name := "<init>", desc := "(I)V" } : Jvm.MethodName) prog_35_method_2_code (2 : Nat) (Option.none : Option Jvm.ClassFile.FieldType)) ∈ lw_all := lw_g (lw_at lw_m3 65 rfl) rfl
theorem q648 : (Jvm.Cond.methodLink "java/lang/AbstractStringBuilder" (3 : Nat) ({ cls := "java/lang/Object", name := "<init>", desc := "()V" } : Jvm.MethodName)) ∈ lw_all := lw_g (lw_at lw_m3 66 rfl) rfl
theorem q649 : (Jvm.Cond.fieldLink "java/lang/AbstractStringBuilder" (18 : Nat) "java/lang/String" "COMPACT_STRINGS" "Z") ∈ lw_all := lw_g (lw_at lw_m3 67 rfl) rfl
theorem q651 : (Jvm.Cond.methodLink "java/lang/AbstractStringBuilder" (26 : Nat) ({ cls := "java/lang/StringUTF16", name := "newBytesFor", desc := "(I)[B" } : Jvm.MethodName)) ∈ lw_all := lw_g (lw_at lw_m3 69 rfl) rfl
theorem q658 : (Jvm.Cond.fieldLink "java/lang/AbstractStringBuilder" (15 : Nat) "java/lang/AbstractStringBuilder" "value" "[B") ∈ lw_all := lw_g (lw_at lw_m3 76 rfl) rfl
theorem q659 : (Jvm.Cond.fieldLink "java/lang/AbstractStringBuilder" (22 : Nat) "java/lang/AbstractStringBuilder" "coder" "B") ∈ lw_all := lw_g (lw_at lw_m3 77 rfl) rfl
theorem q661 : (Jvm.Cond.fieldLink "java/lang/AbstractStringBuilder" (79 : Nat) "java/lang/AbstractStringBuilder" "count" "I") ∈ lw_all := lw_g (lw_at lw_m3 79 rfl) rfl
theorem q663 : (Jvm.Cond.soleField "java/lang/AbstractStringBuilder" "value") ∈ lw_all := lw_g (lw_at lw_m3 81 rfl) rfl
theorem q665 : (Jvm.Cond.soleField "java/lang/AbstractStringBuilder" "coder") ∈ lw_all := lw_g (lw_at lw_m3 83 rfl) rfl
theorem q667 : (Jvm.Cond.soleField "java/lang/AbstractStringBuilder" "maybeLatin1") ∈ lw_all := lw_g (lw_at lw_m3 85 rfl) rfl
theorem q669 : (Jvm.Cond.soleField "java/lang/AbstractStringBuilder" "count") ∈ lw_all := lw_g (lw_at lw_m3 87 rfl) rfl
theorem q676 : (Jvm.Cond.instanceMethod ({ cls := "java/lang/AbstractStringBuilder", name := "length", desc := "()I" } : Jvm.MethodName)) ∈ lw_all := lw_g (lw_at lw_m3 94 rfl) rfl
theorem q677 : (Jvm.Cond.code ({ cls := "java/lang/AbstractStringBuilder", name := "length", desc := "()I" } : Jvm.MethodName) prog_35_method_6_code (1 : Nat) (Option.some Jvm.ClassFile.FieldType.int)) ∈ lw_all := lw_g (lw_at lw_m3 95 rfl) rfl
theorem q683 : (Jvm.Cond.instanceMethod ({ cls := "java/lang/AbstractStringBuilder", name := "append", desc := "(C)Ljava/lang/AbstractStringBuilder;" } : Jvm.MethodName)) ∈ lw_all := lw_g (lw_at lw_m3 101 rfl) rfl
theorem q684 : (Jvm.Cond.code ({ cls := "java/lang/AbstractStringBuilder", name := "append", desc := "(C)Ljava/lang/AbstractStringBuilder;" } : Jvm.MethodName) prog_35_method_31_code (2 : Nat) (Option.some (Jvm.ClassFile.FieldType.object "java/lang/AbstractStringBuilder"))) ∈ lw_all := lw_g (lw_at lw_m3 102 rfl) rfl
theorem q685 : (Jvm.Cond.methodLink "java/lang/AbstractStringBuilder" (100 : Nat) ({ cls := "java/lang/AbstractStringBuilder", name := "ensureCapacityInternal", desc := "(I)V" } : Jvm.MethodName)) ∈ lw_all := lw_g (lw_at lw_m3 103 rfl) rfl
theorem q686 : (Jvm.Cond.privateMethod ({ cls := "java/lang/AbstractStringBuilder", name := "ensureCapacityInternal", desc := "(I)V" } : Jvm.MethodName)) ∈ lw_tbl := lw_at lw_m3 104 rfl
theorem q687 : (Jvm.Cond.instanceMethod ({ cls := "java/lang/AbstractStringBuilder", name := "ensureCapacityInternal", desc := "(I)V" } : Jvm.MethodName)) ∈ lw_all := lw_g (lw_at lw_m3 105 rfl) rfl
theorem q688 : (Jvm.Cond.code ({ cls := "java/lang/AbstractStringBuilder", name := "ensureCapacityInternal", desc := "(I)V" } : Jvm.MethodName) prog_35_method_9_code (3 : Nat) (Option.none : Option Jvm.ClassFile.FieldType)) ∈ lw_all := lw_g (lw_at lw_m3 106 rfl) rfl
theorem q689 : (Jvm.Cond.methodLink "java/lang/AbstractStringBuilder" (104 : Nat) ({ cls := "java/lang/AbstractStringBuilder", name := "newCapacity", desc := "(I)I" } : Jvm.MethodName)) ∈ lw_all := lw_g (lw_at lw_m3 107 rfl) rfl
theorem q690 : (Jvm.Cond.privateMethod ({ cls := "java/lang/AbstractStringBuilder", name := "newCapacity", desc := "(I)I" } : Jvm.MethodName)) ∈ lw_tbl := lw_at lw_m3 108 rfl
theorem q691 : (Jvm.Cond.instanceMethod ({ cls := "java/lang/AbstractStringBuilder", name := "newCapacity", desc := "(I)I" } : Jvm.MethodName)) ∈ lw_all := lw_g (lw_at lw_m3 109 rfl) rfl
theorem q692 : (Jvm.Cond.code ({ cls := "java/lang/AbstractStringBuilder", name := "newCapacity", desc := "(I)I" } : Jvm.MethodName) prog_35_method_10_code (6 : Nat) (Option.some Jvm.ClassFile.FieldType.int)) ∈ lw_all := lw_g (lw_at lw_m3 110 rfl) rfl
theorem q693 : (Jvm.Cond.methodLink "java/lang/AbstractStringBuilder" (114 : Nat) ({ cls := "jdk/internal/util/ArraysSupport", name := "newLength", desc := "(III)I" } : Jvm.MethodName)) ∈ lw_all := lw_g (lw_at lw_m3 111 rfl) rfl
theorem q694 : (Jvm.Cond.constant "java/lang/AbstractStringBuilder" (39 : Nat) (2147483647 : Int32)) ∈ lw_all := lw_g (lw_at lw_m3 112 rfl) rfl
theorem q695 : (Jvm.Cond.methodLink "java/lang/AbstractStringBuilder" (108 : Nat) ({ cls := "java/util/Arrays", name := "copyOf", desc := "([BI)[B" } : Jvm.MethodName)) ∈ lw_all := lw_g (lw_at lw_m3 113 rfl) rfl
theorem q705 : (Jvm.Cond.methodLink "java/lang/AbstractStringBuilder" (83 : Nat) ({ cls := "java/lang/AbstractStringBuilder", name := "isLatin1", desc := "()Z" } : Jvm.MethodName)) ∈ lw_all := lw_g (lw_at lw_m3 123 rfl) rfl
theorem q706 : (Jvm.Cond.instanceMethod ({ cls := "java/lang/AbstractStringBuilder", name := "isLatin1", desc := "()Z" } : Jvm.MethodName)) ∈ lw_all := lw_g (lw_at lw_m3 124 rfl) rfl
theorem q707 : (Jvm.Cond.sameMethod "java/lang/AbstractStringBuilder" "java/lang/AbstractStringBuilder" "isLatin1" "()Z") ∈ lw_all := lw_g (lw_at lw_m3 125 rfl) rfl
theorem q709 : (Jvm.Cond.code ({ cls := "java/lang/AbstractStringBuilder", name := "isLatin1", desc := "()Z" } : Jvm.MethodName) prog_35_method_68_code (1 : Nat) (Option.some Jvm.ClassFile.FieldType.boolean)) ∈ lw_all := lw_g (lw_at lw_m3 127 rfl) rfl
theorem q710 : (Jvm.Cond.methodLink "java/lang/AbstractStringBuilder" (191 : Nat) ({ cls := "java/lang/StringLatin1", name := "canEncode", desc := "(C)Z" } : Jvm.MethodName)) ∈ lw_all := lw_g (lw_at lw_m3 128 rfl) rfl
theorem q713 : (Jvm.Cond.methodLink "java/lang/AbstractStringBuilder" (195 : Nat) ({ cls := "java/lang/AbstractStringBuilder", name := "inflate", desc := "()V" } : Jvm.MethodName)) ∈ lw_all := lw_g (lw_at lw_m3 131 rfl) rfl
theorem q714 : (Jvm.Cond.privateMethod ({ cls := "java/lang/AbstractStringBuilder", name := "inflate", desc := "()V" } : Jvm.MethodName)) ∈ lw_tbl := lw_at lw_m3 132 rfl
theorem q715 : (Jvm.Cond.instanceMethod ({ cls := "java/lang/AbstractStringBuilder", name := "inflate", desc := "()V" } : Jvm.MethodName)) ∈ lw_all := lw_g (lw_at lw_m3 133 rfl) rfl
theorem q716 : (Jvm.Cond.code ({ cls := "java/lang/AbstractStringBuilder", name := "inflate", desc := "()V" } : Jvm.MethodName) prog_35_method_11_code (2 : Nat) (Option.none : Option Jvm.ClassFile.FieldType)) ∈ lw_all := lw_g (lw_at lw_m3 134 rfl) rfl
theorem q717 : (Jvm.Cond.methodLink "java/lang/AbstractStringBuilder" (125 : Nat) ({ cls := "java/lang/StringLatin1", name := "inflate", desc := "([BI[BII)V" } : Jvm.MethodName)) ∈ lw_all := lw_g (lw_at lw_m3 135 rfl) rfl
theorem q746 : (Jvm.Cond.methodLink "java/lang/AbstractStringBuilder" (197 : Nat) ({ cls := "java/lang/StringUTF16", name := "putCharSB", desc := "([BII)V" } : Jvm.MethodName)) ∈ lw_all := lw_g (lw_at lw_m3 164 rfl) rfl
theorem q770 : (Jvm.Cond.instanceMethod ({ cls := "java/lang/AbstractStringBuilder", name := "getValue", desc := "()[B" } : Jvm.MethodName)) ∈ lw_all := lw_g (lw_at lw_m3 188 rfl) rfl
theorem q771 : (Jvm.Cond.sameMethod "java/lang/AbstractStringBuilder" "java/lang/AbstractStringBuilder" "getValue" "()[B") ∈ lw_all := lw_g (lw_at lw_m3 189 rfl) rfl
theorem q773 : (Jvm.Cond.code ({ cls := "java/lang/AbstractStringBuilder", name := "getValue", desc := "()[B" } : Jvm.MethodName) prog_35_method_64_code (1 : Nat) (Option.some (Jvm.ClassFile.FieldType.array Jvm.ClassFile.FieldType.byte))) ∈ lw_all := lw_g (lw_at lw_m3 191 rfl) rfl
theorem q2257 : (Jvm.Cond.sameMethod "java/lang/AbstractStringBuilder" "java/lang/AbstractStringBuilder" "length" "()I") ∈ lw_all := lw_g (lw_at lw_m9 235 rfl) rfl
theorem q2258 : (Jvm.Cond.sameMethod "java/lang/AbstractStringBuilder" "java/lang/AbstractStringBuilder" "append" "(C)Ljava/lang/AbstractStringBuilder;") ∈ lw_all := lw_g (lw_at lw_m9 236 rfl) rfl
theorem q2259 : (Jvm.Cond.sameMethod "java/lang/AbstractStringBuilder" "java/lang/AbstractStringBuilder" "ensureCapacityInternal" "(I)V") ∈ lw_all := lw_g (lw_at lw_m9 237 rfl) rfl
theorem q2260 : (Jvm.Cond.sameMethod "java/lang/AbstractStringBuilder" "java/lang/AbstractStringBuilder" "newCapacity" "(I)I") ∈ lw_all := lw_g (lw_at lw_m9 238 rfl) rfl
theorem q2261 : (Jvm.Cond.sameMethod "java/lang/AbstractStringBuilder" "java/lang/AbstractStringBuilder" "inflate" "()V") ∈ lw_all := lw_g (lw_at lw_m9 239 rfl) rfl
/-! java/lang/StringBuilder -/
def RJ11 : String := "java/lang/StringBuilder"
def TJ11 : u_T := fun k => match k with
  | 0 => ("java/lang/AbstractStringBuilder", "value", "[B", false)
  | 1 => ("java/lang/AbstractStringBuilder", "coder", "B", false)
  | 2 => ("java/lang/AbstractStringBuilder", "maybeLatin1", "Z", false)
  | _ => ("java/lang/AbstractStringBuilder", "count", "I", false)
def tyJ11 : Nat → FieldType := fun k => match k with
  | 0 => .array .byte
  | 1 => .byte
  | 2 => .boolean
  | _ => .int
abbrev wsJ110 : List Cond := u_ws RJ11 TJ11 4
theorem nmJ11 : ∀ a, a < 4 → ∀ b, b < 4 → a ≠ b → (TJ11 a).2.1 ≠ (TJ11 b).2.1 := by decide +kernel
theorem tyJ11_ok : ∀ k, k < 4 → parseFieldDescriptor (TJ11 k).2.2.1 = some (tyJ11 k) := by decide +kernel
theorem q129 : (Jvm.Cond.initialized "java/lang/StringBuilder") ∈ lw_all := lw_g (lw_at lw_m1 27 rfl) rfl
theorem q495 : (Jvm.Cond.selects "java/lang/StringBuilder" ({ cls := "java/lang/Object", name := "getClass", desc := "()Ljava/lang/Class;" } : Jvm.MethodName) ({ cls := "java/lang/Object", name := "getClass", desc := "()Ljava/lang/Class;" } : Jvm.MethodName)) ∈ lw_all := lw_g (lw_at lw_m2 153 rfl) rfl
theorem q641 : (Jvm.Cond.instantiable "java/lang/StringBuilder" (4 : Nat)) ∈ lw_all := lw_g (lw_at lw_m3 59 rfl) rfl
theorem q643 : (Jvm.Cond.instanceMethod ({ cls := "java/lang/StringBuilder", name := "<init>", desc := "(I)V" } : Jvm.MethodName)) ∈ lw_all := lw_g (lw_at lw_m3 61 rfl) rfl
theorem q644 : (Jvm.Cond.code ({ cls := "java/lang/StringBuilder", name := "<init>", desc := "(I)V" } : Jvm.MethodName) prog_47_method_2_code (2 : Nat) (Option.none : Option Jvm.ClassFile.FieldType)) ∈ lw_all := lw_g (lw_at lw_m3 62 rfl) rfl
theorem q645 : (Jvm.Cond.methodLink "java/lang/StringBuilder" (1 : Nat) ({ cls := "java/lang/AbstractStringBuilder", name := "<init>", desc := "(I)V" } : Jvm.MethodName)) ∈ lw_all := lw_g (lw_at lw_m3 63 rfl) rfl
theorem q662 : (Jvm.Cond.lays "java/lang/StringBuilder" "java/lang/AbstractStringBuilder" "value" "[B") ∈ lw_all := lw_g (lw_at lw_m3 80 rfl) rfl
theorem q664 : (Jvm.Cond.lays "java/lang/StringBuilder" "java/lang/AbstractStringBuilder" "coder" "B") ∈ lw_all := lw_g (lw_at lw_m3 82 rfl) rfl
theorem q666 : (Jvm.Cond.lays "java/lang/StringBuilder" "java/lang/AbstractStringBuilder" "maybeLatin1" "Z") ∈ lw_all := lw_g (lw_at lw_m3 84 rfl) rfl
theorem q668 : (Jvm.Cond.lays "java/lang/StringBuilder" "java/lang/AbstractStringBuilder" "count" "I") ∈ lw_all := lw_g (lw_at lw_m3 86 rfl) rfl
theorem q670 : (Jvm.Cond.superclass "java/lang/StringBuilder" "java/lang/AbstractStringBuilder") ∈ lw_all := lw_g (lw_at lw_m3 88 rfl) rfl
theorem q672 : (Jvm.Cond.instanceMethod ({ cls := "java/lang/StringBuilder", name := "length", desc := "()I" } : Jvm.MethodName)) ∈ lw_all := lw_g (lw_at lw_m3 90 rfl) rfl
theorem q673 : (Jvm.Cond.selects "java/lang/StringBuilder" ({ cls := "java/lang/StringBuilder", name := "length", desc := "()I" } : Jvm.MethodName) ({ cls := "java/lang/StringBuilder", name := "length", desc := "()I" } : Jvm.MethodName)) ∈ lw_all := lw_g (lw_at lw_m3 91 rfl) rfl
theorem q674 : (Jvm.Cond.code ({ cls := "java/lang/StringBuilder", name := "length", desc := "()I" } : Jvm.MethodName) prog_47_method_93_code (1 : Nat) (Option.some Jvm.ClassFile.FieldType.int)) ∈ lw_all := lw_g (lw_at lw_m3 92 rfl) rfl
theorem q675 : (Jvm.Cond.methodLink "java/lang/StringBuilder" (343 : Nat) ({ cls := "java/lang/AbstractStringBuilder", name := "length", desc := "()I" } : Jvm.MethodName)) ∈ lw_all := lw_g (lw_at lw_m3 93 rfl) rfl
theorem q679 : (Jvm.Cond.instanceMethod ({ cls := "java/lang/StringBuilder", name := "append", desc := "(C)Ljava/lang/StringBuilder;" } : Jvm.MethodName)) ∈ lw_all := lw_g (lw_at lw_m3 97 rfl) rfl
theorem q680 : (Jvm.Cond.selects "java/lang/StringBuilder" ({ cls := "java/lang/StringBuilder", name := "append", desc := "(C)Ljava/lang/StringBuilder;" } : Jvm.MethodName) ({ cls := "java/lang/StringBuilder", name := "append", desc := "(C)Ljava/lang/StringBuilder;" } : Jvm.MethodName)) ∈ lw_all := lw_g (lw_at lw_m3 98 rfl) rfl
theorem q681 : (Jvm.Cond.code ({ cls := "java/lang/StringBuilder", name := "append", desc := "(C)Ljava/lang/StringBuilder;" } : Jvm.MethodName) prog_47_method_14_code (2 : Nat) (Option.some (Jvm.ClassFile.FieldType.object "java/lang/StringBuilder"))) ∈ lw_all := lw_g (lw_at lw_m3 99 rfl) rfl
theorem q682 : (Jvm.Cond.methodLink "java/lang/StringBuilder" (50 : Nat) ({ cls := "java/lang/AbstractStringBuilder", name := "append", desc := "(C)Ljava/lang/AbstractStringBuilder;" } : Jvm.MethodName)) ∈ lw_all := lw_g (lw_at lw_m3 100 rfl) rfl
theorem q708 : (Jvm.Cond.selects "java/lang/StringBuilder" ({ cls := "java/lang/AbstractStringBuilder", name := "isLatin1", desc := "()Z" } : Jvm.MethodName) ({ cls := "java/lang/AbstractStringBuilder", name := "isLatin1", desc := "()Z" } : Jvm.MethodName)) ∈ lw_all := lw_g (lw_at lw_m3 126 rfl) rfl
theorem q757 : (Jvm.Cond.instanceMethod ({ cls := "java/lang/StringBuilder", name := "toString", desc := "()Ljava/lang/String;" } : Jvm.MethodName)) ∈ lw_all := lw_g (lw_at lw_m3 175 rfl) rfl
theorem q758 : (Jvm.Cond.selects "java/lang/StringBuilder" ({ cls := "java/lang/StringBuilder", name := "toString", desc := "()Ljava/lang/String;" } : Jvm.MethodName) ({ cls := "java/lang/StringBuilder", name := "toString", desc := "()Ljava/lang/String;" } : Jvm.MethodName)) ∈ lw_all := lw_g (lw_at lw_m3 176 rfl) rfl
theorem q759 : (Jvm.Cond.code ({ cls := "java/lang/StringBuilder", name := "toString", desc := "()Ljava/lang/String;" } : Jvm.MethodName) prog_47_method_42_code (1 : Nat) (Option.some (Jvm.ClassFile.FieldType.object "java/lang/String"))) ∈ lw_all := lw_g (lw_at lw_m3 177 rfl) rfl
theorem q760 : (Jvm.Cond.classLink "java/lang/StringBuilder" (18 : Nat) "java/lang/String") ∈ lw_all := lw_g (lw_at lw_m3 178 rfl) rfl
theorem q762 : (Jvm.Cond.methodLink "java/lang/StringBuilder" (137 : Nat) ({ cls := "java/lang/String", name := "<init>", desc := "(Ljava/lang/StringBuilder;)V" } : Jvm.MethodName)) ∈ lw_all := lw_g (lw_at lw_m3 180 rfl) rfl
theorem q772 : (Jvm.Cond.selects "java/lang/StringBuilder" ({ cls := "java/lang/AbstractStringBuilder", name := "getValue", desc := "()[B" } : Jvm.MethodName) ({ cls := "java/lang/AbstractStringBuilder", name := "getValue", desc := "()[B" } : Jvm.MethodName)) ∈ lw_all := lw_g (lw_at lw_m3 190 rfl) rfl
theorem q2262 : (Jvm.Cond.selects "java/lang/StringBuilder" ({ cls := "java/lang/AbstractStringBuilder", name := "length", desc := "()I" } : Jvm.MethodName) ({ cls := "java/lang/StringBuilder", name := "length", desc := "()I" } : Jvm.MethodName)) ∈ lw_all := lw_g (lw_at lw_m10 0 rfl) rfl
theorem q2280 : (Jvm.Cond.castable "java/lang/StringBuilder" "java/lang/Object") ∈ lw_tbl := lw_at lw_m10 18 rfl
theorem in_J11 : ∀ w ∈ wsJ110, w ∈ lw_all := lw_in wsJ110 [662, 664, 666, 668] (by decide +kernel) (by decide +kernel)
/-! java/lang/String -/
def RJ12 : String := "java/lang/String"
def TJ12 : u_T := fun k => match k with
  | 0 => ("java/lang/String", "value", "[B", true)
  | 1 => ("java/lang/String", "coder", "B", true)
  | 2 => ("java/lang/String", "hash", "I", false)
  | _ => ("java/lang/String", "hashIsZero", "Z", false)
def tyJ12 : Nat → FieldType := fun k => match k with
  | 0 => .array .byte
  | 1 => .byte
  | 2 => .int
  | _ => .boolean
abbrev wsJ120 : List Cond := u_ws RJ12 TJ12 4
theorem nmJ12 : ∀ a, a < 4 → ∀ b, b < 4 → a ≠ b → (TJ12 a).2.1 ≠ (TJ12 b).2.1 := by decide +kernel
theorem tyJ12_ok : ∀ k, k < 4 → parseFieldDescriptor (TJ12 k).2.2.1 = some (tyJ12 k) := by decide +kernel
theorem q130 : (Jvm.Cond.initialized "java/lang/String") ∈ lw_all := lw_g (lw_at lw_m1 28 rfl) rfl
theorem q494 : (Jvm.Cond.selects "java/lang/String" ({ cls := "java/lang/Object", name := "getClass", desc := "()Ljava/lang/Class;" } : Jvm.MethodName) ({ cls := "java/lang/Object", name := "getClass", desc := "()Ljava/lang/Class;" } : Jvm.MethodName)) ∈ lw_all := lw_g (lw_at lw_m2 152 rfl) rfl
theorem q650 : (Jvm.Cond.laysStatic "java/lang/String" "COMPACT_STRINGS" "Z") ∈ lw_tbl := lw_at lw_m3 68 rfl
theorem q660 : (Jvm.Cond.fieldLink "java/lang/String" (1048 : Nat) "java/lang/AbstractStringBuilder" "maybeLatin1" "Z") ∈ lw_all := lw_g (lw_at lw_m3 78 rfl) rfl
theorem q730 : (Jvm.Cond.static ({ cls := "java/lang/String", name := "checkBoundsOffCount", desc := "(III)I" } : Jvm.MethodName)) ∈ lw_all := lw_g (lw_at lw_m3 148 rfl) rfl
theorem q731 : (Jvm.Cond.code ({ cls := "java/lang/String", name := "checkBoundsOffCount", desc := "(III)I" } : Jvm.MethodName) prog_46_method_157_code (3 : Nat) (Option.some Jvm.ClassFile.FieldType.int)) ∈ lw_all := lw_g (lw_at lw_m3 149 rfl) rfl
theorem q732 : (Jvm.Cond.fieldLink "java/lang/String" (1053 : Nat) "jdk/internal/util/Preconditions" "SIOOBE_FORMATTER" "Ljava/util/function/BiFunction;") ∈ lw_all := lw_g (lw_at lw_m3 150 rfl) rfl
theorem q734 : (Jvm.Cond.methodLink "java/lang/String" (1065 : Nat) ({ cls := "jdk/internal/util/Preconditions", name := "checkFromIndexSize", desc := "(IIILjava/util/function/BiFunction;)I" } : Jvm.MethodName)) ∈ lw_all := lw_g (lw_at lw_m3 152 rfl) rfl
theorem q753 : (Jvm.Cond.static ({ cls := "java/lang/String", name := "checkIndex", desc := "(II)V" } : Jvm.MethodName)) ∈ lw_all := lw_g (lw_at lw_m3 171 rfl) rfl
theorem q754 : (Jvm.Cond.code ({ cls := "java/lang/String", name := "checkIndex", desc := "(II)V" } : Jvm.MethodName) prog_46_method_155_code (2 : Nat) (Option.none : Option Jvm.ClassFile.FieldType)) ∈ lw_all := lw_g (lw_at lw_m3 172 rfl) rfl
theorem q755 : (Jvm.Cond.methodLink "java/lang/String" (1059 : Nat) ({ cls := "jdk/internal/util/Preconditions", name := "checkIndex", desc := "(IILjava/util/function/BiFunction;)I" } : Jvm.MethodName)) ∈ lw_all := lw_g (lw_at lw_m3 173 rfl) rfl
theorem q761 : (Jvm.Cond.instantiable "java/lang/String" (4 : Nat)) ∈ lw_all := lw_g (lw_at lw_m3 179 rfl) rfl
theorem q763 : (Jvm.Cond.instanceMethod ({ cls := "java/lang/String", name := "<init>", desc := "(Ljava/lang/StringBuilder;)V" } : Jvm.MethodName)) ∈ lw_all := lw_g (lw_at lw_m3 181 rfl) rfl
theorem q764 : (Jvm.Cond.code ({ cls := "java/lang/String", name := "<init>", desc := "(Ljava/lang/StringBuilder;)V" } : Jvm.MethodName) prog_46_method_53_code (2 : Nat) (Option.none : Option Jvm.ClassFile.FieldType)) ∈ lw_all := lw_g (lw_at lw_m3 182 rfl) rfl
theorem q765 : (Jvm.Cond.methodLink "java/lang/String" (489 : Nat) ({ cls := "java/lang/String", name := "<init>", desc := "(Ljava/lang/AbstractStringBuilder;Ljava/lang/Void;)V" } : Jvm.MethodName)) ∈ lw_all := lw_g (lw_at lw_m3 183 rfl) rfl
theorem q766 : (Jvm.Cond.instanceMethod ({ cls := "java/lang/String", name := "<init>", desc := "(Ljava/lang/AbstractStringBuilder;Ljava/lang/Void;)V" } : Jvm.MethodName)) ∈ lw_all := lw_g (lw_at lw_m3 184 rfl) rfl
theorem q767 : (Jvm.Cond.code ({ cls := "java/lang/String", name := "<init>", desc := "(Ljava/lang/AbstractStringBuilder;Ljava/lang/Void;)V" } : Jvm.MethodName) prog_46_method_150_code (5 : Nat) (Option.none : Option Jvm.ClassFile.FieldType)) ∈ lw_all := lw_g (lw_at lw_m3 185 rfl) rfl
theorem q768 : (Jvm.Cond.methodLink "java/lang/String" (1 : Nat) ({ cls := "java/lang/Object", name := "<init>", desc := "()V" } : Jvm.MethodName)) ∈ lw_all := lw_g (lw_at lw_m3 186 rfl) rfl
theorem q769 : (Jvm.Cond.methodLink "java/lang/String" (552 : Nat) ({ cls := "java/lang/AbstractStringBuilder", name := "getValue", desc := "()[B" } : Jvm.MethodName)) ∈ lw_all := lw_g (lw_at lw_m3 187 rfl) rfl
theorem q774 : (Jvm.Cond.methodLink "java/lang/String" (549 : Nat) ({ cls := "java/lang/AbstractStringBuilder", name := "length", desc := "()I" } : Jvm.MethodName)) ∈ lw_all := lw_g (lw_at lw_m3 192 rfl) rfl
theorem q775 : (Jvm.Cond.methodLink "java/lang/String" (1047 : Nat) ({ cls := "java/lang/AbstractStringBuilder", name := "isLatin1", desc := "()Z" } : Jvm.MethodName)) ∈ lw_all := lw_g (lw_at lw_m3 193 rfl) rfl
theorem q776 : (Jvm.Cond.methodLink "java/lang/String" (54 : Nat) ({ cls := "java/util/Arrays", name := "copyOfRange", desc := "([BII)[B" } : Jvm.MethodName)) ∈ lw_all := lw_g (lw_at lw_m3 194 rfl) rfl
theorem q785 : (Jvm.Cond.fieldLink "java/lang/String" (38 : Nat) "java/lang/String" "COMPACT_STRINGS" "Z") ∈ lw_all := lw_g (lw_at lw_m3 203 rfl) rfl
theorem q786 : (Jvm.Cond.methodLink "java/lang/String" (1051 : Nat) ({ cls := "java/lang/StringUTF16", name := "compress", desc := "([BII)[B" } : Jvm.MethodName)) ∈ lw_all := lw_g (lw_at lw_m3 204 rfl) rfl
theorem q796 : (Jvm.Cond.methodLink "java/lang/String" (47 : Nat) ({ cls := "java/lang/StringUTF16", name := "coderFromArrayLen", desc := "([BI)B" } : Jvm.MethodName)) ∈ lw_all := lw_g (lw_at lw_m3 214 rfl) rfl
theorem q799 : (Jvm.Cond.fieldLink "java/lang/String" (9 : Nat) "java/lang/String" "value" "[B") ∈ lw_all := lw_g (lw_at lw_m3 217 rfl) rfl
theorem q800 : (Jvm.Cond.fieldLink "java/lang/String" (15 : Nat) "java/lang/String" "coder" "B") ∈ lw_all := lw_g (lw_at lw_m3 218 rfl) rfl
theorem q801 : (Jvm.Cond.laysFinal "java/lang/String" "java/lang/String" "value" "[B") ∈ lw_all := lw_g (lw_at lw_m3 219 rfl) rfl
theorem q802 : (Jvm.Cond.soleField "java/lang/String" "value") ∈ lw_all := lw_g (lw_at lw_m3 220 rfl) rfl
theorem q803 : (Jvm.Cond.laysFinal "java/lang/String" "java/lang/String" "coder" "B") ∈ lw_all := lw_g (lw_at lw_m3 221 rfl) rfl
theorem q804 : (Jvm.Cond.soleField "java/lang/String" "coder") ∈ lw_all := lw_g (lw_at lw_m3 222 rfl) rfl
theorem q805 : (Jvm.Cond.lays "java/lang/String" "java/lang/String" "hash" "I") ∈ lw_all := lw_g (lw_at lw_m3 223 rfl) rfl
theorem q806 : (Jvm.Cond.soleField "java/lang/String" "hash") ∈ lw_all := lw_g (lw_at lw_m3 224 rfl) rfl
theorem q807 : (Jvm.Cond.lays "java/lang/String" "java/lang/String" "hashIsZero" "Z") ∈ lw_all := lw_g (lw_at lw_m3 225 rfl) rfl
theorem q808 : (Jvm.Cond.soleField "java/lang/String" "hashIsZero") ∈ lw_all := lw_g (lw_at lw_m3 226 rfl) rfl
theorem q809 : (Jvm.Cond.superclass "java/lang/String" "java/lang/Object") ∈ lw_all := lw_g (lw_at lw_m3 227 rfl) rfl
theorem q942 : (Jvm.Cond.instanceMethod ({ cls := "java/lang/String", name := "equals", desc := "(Ljava/lang/Object;)Z" } : Jvm.MethodName)) ∈ lw_all := lw_g (lw_at lw_m4 120 rfl) rfl
theorem q943 : (Jvm.Cond.selects "java/lang/String" ({ cls := "java/lang/String", name := "equals", desc := "(Ljava/lang/Object;)Z" } : Jvm.MethodName) ({ cls := "java/lang/String", name := "equals", desc := "(Ljava/lang/Object;)Z" } : Jvm.MethodName)) ∈ lw_all := lw_g (lw_at lw_m4 121 rfl) rfl
theorem q944 : (Jvm.Cond.code ({ cls := "java/lang/String", name := "equals", desc := "(Ljava/lang/Object;)Z" } : Jvm.MethodName) prog_46_method_66_code (3 : Nat) (Option.some Jvm.ClassFile.FieldType.boolean)) ∈ lw_all := lw_g (lw_at lw_m4 122 rfl) rfl
theorem q945 : (Jvm.Cond.classLink "java/lang/String" (10 : Nat) "java/lang/String") ∈ lw_all := lw_g (lw_at lw_m4 123 rfl) rfl
theorem q946 : (Jvm.Cond.methodLink "java/lang/String" (541 : Nat) ({ cls := "java/lang/StringLatin1", name := "equals", desc := "([B[B)Z" } : Jvm.MethodName)) ∈ lw_all := lw_g (lw_at lw_m4 124 rfl) rfl
theorem q983 : (Jvm.Cond.instanceMethod ({ cls := "java/lang/String", name := "length", desc := "()I" } : Jvm.MethodName)) ∈ lw_all := lw_g (lw_at lw_m4 161 rfl) rfl
theorem q984 : (Jvm.Cond.selects "java/lang/String" ({ cls := "java/lang/String", name := "length", desc := "()I" } : Jvm.MethodName) ({ cls := "java/lang/String", name := "length", desc := "()I" } : Jvm.MethodName)) ∈ lw_all := lw_g (lw_at lw_m4 162 rfl) rfl
theorem q985 : (Jvm.Cond.code ({ cls := "java/lang/String", name := "length", desc := "()I" } : Jvm.MethodName) prog_46_method_54_code (1 : Nat) (Option.some Jvm.ClassFile.FieldType.int)) ∈ lw_all := lw_g (lw_at lw_m4 163 rfl) rfl
theorem q986 : (Jvm.Cond.methodLink "java/lang/String" (335 : Nat) ({ cls := "java/lang/String", name := "coder", desc := "()B" } : Jvm.MethodName)) ∈ lw_all := lw_g (lw_at lw_m4 164 rfl) rfl
theorem q987 : (Jvm.Cond.instanceMethod ({ cls := "java/lang/String", name := "coder", desc := "()B" } : Jvm.MethodName)) ∈ lw_all := lw_g (lw_at lw_m4 165 rfl) rfl
theorem q988 : (Jvm.Cond.selects "java/lang/String" ({ cls := "java/lang/String", name := "coder", desc := "()B" } : Jvm.MethodName) ({ cls := "java/lang/String", name := "coder", desc := "()B" } : Jvm.MethodName)) ∈ lw_all := lw_g (lw_at lw_m4 166 rfl) rfl
theorem q989 : (Jvm.Cond.code ({ cls := "java/lang/String", name := "coder", desc := "()B" } : Jvm.MethodName) prog_46_method_152_code (1 : Nat) (Option.some Jvm.ClassFile.FieldType.byte)) ∈ lw_all := lw_g (lw_at lw_m4 167 rfl) rfl
theorem q991 : (Jvm.Cond.instanceMethod ({ cls := "java/lang/String", name := "charAt", desc := "(I)C" } : Jvm.MethodName)) ∈ lw_all := lw_g (lw_at lw_m4 169 rfl) rfl
theorem q992 : (Jvm.Cond.selects "java/lang/String" ({ cls := "java/lang/String", name := "charAt", desc := "(I)C" } : Jvm.MethodName) ({ cls := "java/lang/String", name := "charAt", desc := "(I)C" } : Jvm.MethodName)) ∈ lw_all := lw_g (lw_at lw_m4 170 rfl) rfl
theorem q993 : (Jvm.Cond.code ({ cls := "java/lang/String", name := "charAt", desc := "(I)C" } : Jvm.MethodName) prog_46_method_56_code (2 : Nat) (Option.some Jvm.ClassFile.FieldType.char)) ∈ lw_all := lw_g (lw_at lw_m4 171 rfl) rfl
theorem q994 : (Jvm.Cond.methodLink "java/lang/String" (492 : Nat) ({ cls := "java/lang/String", name := "isLatin1", desc := "()Z" } : Jvm.MethodName)) ∈ lw_all := lw_g (lw_at lw_m4 172 rfl) rfl
theorem q995 : (Jvm.Cond.instanceMethod ({ cls := "java/lang/String", name := "isLatin1", desc := "()Z" } : Jvm.MethodName)) ∈ lw_all := lw_g (lw_at lw_m4 173 rfl) rfl
theorem q996 : (Jvm.Cond.selects "java/lang/String" ({ cls := "java/lang/String", name := "isLatin1", desc := "()Z" } : Jvm.MethodName) ({ cls := "java/lang/String", name := "isLatin1", desc := "()Z" } : Jvm.MethodName)) ∈ lw_all := lw_g (lw_at lw_m4 174 rfl) rfl
theorem q997 : (Jvm.Cond.code ({ cls := "java/lang/String", name := "isLatin1", desc := "()Z" } : Jvm.MethodName) prog_46_method_154_code (1 : Nat) (Option.some Jvm.ClassFile.FieldType.boolean)) ∈ lw_all := lw_g (lw_at lw_m4 175 rfl) rfl
theorem q998 : (Jvm.Cond.methodLink "java/lang/String" (495 : Nat) ({ cls := "java/lang/StringLatin1", name := "charAt", desc := "([BI)C" } : Jvm.MethodName)) ∈ lw_all := lw_g (lw_at lw_m4 176 rfl) rfl
theorem q1002 : (Jvm.Cond.methodLink "java/lang/String" (498 : Nat) ({ cls := "java/lang/StringUTF16", name := "charAt", desc := "([BI)C" } : Jvm.MethodName)) ∈ lw_all := lw_g (lw_at lw_m4 180 rfl) rfl
theorem q1006 : (Jvm.Cond.instanceMethod ({ cls := "java/lang/String", name := "indexOf", desc := "(I)I" } : Jvm.MethodName)) ∈ lw_all := lw_g (lw_at lw_m4 184 rfl) rfl
theorem q1007 : (Jvm.Cond.selects "java/lang/String" ({ cls := "java/lang/String", name := "indexOf", desc := "(I)I" } : Jvm.MethodName) ({ cls := "java/lang/String", name := "indexOf", desc := "(I)I" } : Jvm.MethodName)) ∈ lw_all := lw_g (lw_at lw_m4 185 rfl) rfl
theorem q1008 : (Jvm.Cond.code ({ cls := "java/lang/String", name := "indexOf", desc := "(I)I" } : Jvm.MethodName) prog_46_method_79_code (2 : Nat) (Option.some Jvm.ClassFile.FieldType.int)) ∈ lw_all := lw_g (lw_at lw_m4 186 rfl) rfl
theorem q1009 : (Jvm.Cond.methodLink "java/lang/String" (633 : Nat) ({ cls := "java/lang/String", name := "indexOf", desc := "(II)I" } : Jvm.MethodName)) ∈ lw_all := lw_g (lw_at lw_m4 187 rfl) rfl
theorem q1010 : (Jvm.Cond.instanceMethod ({ cls := "java/lang/String", name := "indexOf", desc := "(II)I" } : Jvm.MethodName)) ∈ lw_all := lw_g (lw_at lw_m4 188 rfl) rfl
theorem q1011 : (Jvm.Cond.selects "java/lang/String" ({ cls := "java/lang/String", name := "indexOf", desc := "(II)I" } : Jvm.MethodName) ({ cls := "java/lang/String", name := "indexOf", desc := "(II)I" } : Jvm.MethodName)) ∈ lw_all := lw_g (lw_at lw_m4 189 rfl) rfl
theorem q1012 : (Jvm.Cond.code ({ cls := "java/lang/String", name := "indexOf", desc := "(II)I" } : Jvm.MethodName) prog_46_method_80_code (3 : Nat) (Option.some Jvm.ClassFile.FieldType.int)) ∈ lw_all := lw_g (lw_at lw_m4 190 rfl) rfl
theorem q1013 : (Jvm.Cond.methodLink "java/lang/String" (505 : Nat) ({ cls := "java/lang/String", name := "length", desc := "()I" } : Jvm.MethodName)) ∈ lw_all := lw_g (lw_at lw_m4 191 rfl) rfl
theorem q1014 : (Jvm.Cond.methodLink "java/lang/String" (637 : Nat) ({ cls := "java/lang/StringLatin1", name := "indexOf", desc := "([BIII)I" } : Jvm.MethodName)) ∈ lw_all := lw_g (lw_at lw_m4 192 rfl) rfl
theorem q1025 : (Jvm.Cond.methodLink "java/lang/String" (640 : Nat) ({ cls := "java/lang/StringUTF16", name := "indexOf", desc := "([BIII)I" } : Jvm.MethodName)) ∈ lw_all := lw_g (lw_at lw_m4 203 rfl) rfl
theorem q1038 : (Jvm.Cond.static ({ cls := "java/lang/String", name := "checkBoundsBeginEnd", desc := "(III)V" } : Jvm.MethodName)) ∈ lw_all := lw_g (lw_at lw_m4 216 rfl) rfl
theorem q1039 : (Jvm.Cond.code ({ cls := "java/lang/String", name := "checkBoundsBeginEnd", desc := "(III)V" } : Jvm.MethodName) prog_46_method_158_code (3 : Nat) (Option.none : Option Jvm.ClassFile.FieldType)) ∈ lw_all := lw_g (lw_at lw_m4 217 rfl) rfl
theorem q1040 : (Jvm.Cond.methodLink "java/lang/String" (1062 : Nat) ({ cls := "jdk/internal/util/Preconditions", name := "checkFromToIndex", desc := "(IIILjava/util/function/BiFunction;)I" } : Jvm.MethodName)) ∈ lw_all := lw_g (lw_at lw_m4 218 rfl) rfl
theorem q2266 : (Jvm.Cond.castable "java/lang/String" "java/lang/Object") ∈ lw_tbl := lw_at lw_m10 4 rfl
theorem in_J12 : ∀ w ∈ wsJ120, w ∈ lw_all := lw_in wsJ120 [801, 803, 805, 807] (by decide +kernel) (by decide +kernel)
/-! java/lang/StringUTF16 -/
def RJ13 : String := "java/lang/StringUTF16"
theorem q131 : (Jvm.Cond.initialized "java/lang/StringUTF16") ∈ lw_all := lw_g (lw_at lw_m1 29 rfl) rfl
theorem q652 : (Jvm.Cond.static ({ cls := "java/lang/StringUTF16", name := "newBytesFor", desc := "(I)[B" } : Jvm.MethodName)) ∈ lw_all := lw_g (lw_at lw_m3 70 rfl) rfl
theorem q653 : (Jvm.Cond.code ({ cls := "java/lang/StringUTF16", name := "newBytesFor", desc := "(I)[B" } : Jvm.MethodName) prog_49_method_2_code (1 : Nat) (Option.some (Jvm.ClassFile.FieldType.array Jvm.ClassFile.FieldType.byte))) ∈ lw_all := lw_g (lw_at lw_m3 71 rfl) rfl
theorem q654 : (Jvm.Cond.methodLink "java/lang/StringUTF16" (11 : Nat) ({ cls := "java/lang/StringUTF16", name := "newBytesLength", desc := "(I)I" } : Jvm.MethodName)) ∈ lw_all := lw_g (lw_at lw_m3 72 rfl) rfl
theorem q655 : (Jvm.Cond.static ({ cls := "java/lang/StringUTF16", name := "newBytesLength", desc := "(I)I" } : Jvm.MethodName)) ∈ lw_all := lw_g (lw_at lw_m3 73 rfl) rfl
theorem q656 : (Jvm.Cond.code ({ cls := "java/lang/StringUTF16", name := "newBytesLength", desc := "(I)I" } : Jvm.MethodName) prog_49_method_3_code (1 : Nat) (Option.some Jvm.ClassFile.FieldType.int)) ∈ lw_all := lw_g (lw_at lw_m3 74 rfl) rfl
theorem q657 : (Jvm.Cond.constant "java/lang/StringUTF16" (20 : Nat) (1073741823 : Int32)) ∈ lw_all := lw_g (lw_at lw_m3 75 rfl) rfl
theorem q721 : (Jvm.Cond.static ({ cls := "java/lang/StringUTF16", name := "inflate", desc := "([BI[BII)V" } : Jvm.MethodName)) ∈ lw_all := lw_g (lw_at lw_m3 139 rfl) rfl
theorem q722 : (Jvm.Cond.code ({ cls := "java/lang/StringUTF16", name := "inflate", desc := "([BI[BII)V" } : Jvm.MethodName) prog_49_method_86_code (6 : Nat) (Option.none : Option Jvm.ClassFile.FieldType)) ∈ lw_all := lw_g (lw_at lw_m3 140 rfl) rfl
theorem q723 : (Jvm.Cond.methodLink "java/lang/StringUTF16" (173 : Nat) ({ cls := "java/lang/StringUTF16", name := "checkBoundsOffCount", desc := "(II[B)V" } : Jvm.MethodName)) ∈ lw_all := lw_g (lw_at lw_m3 141 rfl) rfl
theorem q724 : (Jvm.Cond.static ({ cls := "java/lang/StringUTF16", name := "checkBoundsOffCount", desc := "(II[B)V" } : Jvm.MethodName)) ∈ lw_all := lw_g (lw_at lw_m3 142 rfl) rfl
theorem q725 : (Jvm.Cond.code ({ cls := "java/lang/StringUTF16", name := "checkBoundsOffCount", desc := "(II[B)V" } : Jvm.MethodName) prog_49_method_94_code (3 : Nat) (Option.none : Option Jvm.ClassFile.FieldType)) ∈ lw_all := lw_g (lw_at lw_m3 143 rfl) rfl
theorem q726 : (Jvm.Cond.methodLink "java/lang/StringUTF16" (48 : Nat) ({ cls := "java/lang/StringUTF16", name := "length", desc := "([B)I" } : Jvm.MethodName)) ∈ lw_all := lw_g (lw_at lw_m3 144 rfl) rfl
theorem q727 : (Jvm.Cond.static ({ cls := "java/lang/StringUTF16", name := "length", desc := "([B)I" } : Jvm.MethodName)) ∈ lw_all := lw_g (lw_at lw_m3 145 rfl) rfl
theorem q728 : (Jvm.Cond.code ({ cls := "java/lang/StringUTF16", name := "length", desc := "([B)I" } : Jvm.MethodName) prog_49_method_6_code (1 : Nat) (Option.some Jvm.ClassFile.FieldType.int)) ∈ lw_all := lw_g (lw_at lw_m3 146 rfl) rfl
theorem q729 : (Jvm.Cond.methodLink "java/lang/StringUTF16" (419 : Nat) ({ cls := "java/lang/String", name := "checkBoundsOffCount", desc := "(III)I" } : Jvm.MethodName)) ∈ lw_all := lw_g (lw_at lw_m3 147 rfl) rfl
theorem q737 : (Jvm.Cond.methodLink "java/lang/StringUTF16" (111 : Nat) ({ cls := "java/lang/StringUTF16", name := "putChar", desc := "([BII)V" } : Jvm.MethodName)) ∈ lw_all := lw_g (lw_at lw_m3 155 rfl) rfl
theorem q738 : (Jvm.Cond.static ({ cls := "java/lang/StringUTF16", name := "putChar", desc := "([BII)V" } : Jvm.MethodName)) ∈ lw_all := lw_g (lw_at lw_m3 156 rfl) rfl
theorem q739 : (Jvm.Cond.code ({ cls := "java/lang/StringUTF16", name := "putChar", desc := "([BII)V" } : Jvm.MethodName) prog_49_method_4_code (3 : Nat) (Option.none : Option Jvm.ClassFile.FieldType)) ∈ lw_all := lw_g (lw_at lw_m3 157 rfl) rfl
theorem q740 : (Jvm.Cond.fieldLink "java/lang/StringUTF16" (44 : Nat) "java/lang/StringUTF16" "$assertionsDisabled" "Z") ∈ lw_all := lw_g (lw_at lw_m3 158 rfl) rfl
theorem q741 : (Jvm.Cond.laysStatic "java/lang/StringUTF16" "$assertionsDisabled" "Z") ∈ lw_tbl := lw_at lw_m3 159 rfl
theorem q742 : (Jvm.Cond.fieldLink "java/lang/StringUTF16" (59 : Nat) "java/lang/StringUTF16" "HI_BYTE_SHIFT" "I") ∈ lw_all := lw_g (lw_at lw_m3 160 rfl) rfl
theorem q743 : (Jvm.Cond.laysStatic "java/lang/StringUTF16" "HI_BYTE_SHIFT" "I") ∈ lw_tbl := lw_at lw_m3 161 rfl
theorem q744 : (Jvm.Cond.fieldLink "java/lang/StringUTF16" (63 : Nat) "java/lang/StringUTF16" "LO_BYTE_SHIFT" "I") ∈ lw_all := lw_g (lw_at lw_m3 162 rfl) rfl
theorem q745 : (Jvm.Cond.laysStatic "java/lang/StringUTF16" "LO_BYTE_SHIFT" "I") ∈ lw_tbl := lw_at lw_m3 163 rfl
theorem q747 : (Jvm.Cond.static ({ cls := "java/lang/StringUTF16", name := "putCharSB", desc := "([BII)V" } : Jvm.MethodName)) ∈ lw_all := lw_g (lw_at lw_m3 165 rfl) rfl
theorem q748 : (Jvm.Cond.code ({ cls := "java/lang/StringUTF16", name := "putCharSB", desc := "([BII)V" } : Jvm.MethodName) prog_49_method_71_code (3 : Nat) (Option.none : Option Jvm.ClassFile.FieldType)) ∈ lw_all := lw_g (lw_at lw_m3 166 rfl) rfl
theorem q749 : (Jvm.Cond.methodLink "java/lang/StringUTF16" (67 : Nat) ({ cls := "java/lang/StringUTF16", name := "checkIndex", desc := "(I[B)V" } : Jvm.MethodName)) ∈ lw_all := lw_g (lw_at lw_m3 167 rfl) rfl
theorem q750 : (Jvm.Cond.static ({ cls := "java/lang/StringUTF16", name := "checkIndex", desc := "(I[B)V" } : Jvm.MethodName)) ∈ lw_all := lw_g (lw_at lw_m3 168 rfl) rfl
theorem q751 : (Jvm.Cond.code ({ cls := "java/lang/StringUTF16", name := "checkIndex", desc := "(I[B)V" } : Jvm.MethodName) prog_49_method_91_code (2 : Nat) (Option.none : Option Jvm.ClassFile.FieldType)) ∈ lw_all := lw_g (lw_at lw_m3 169 rfl) rfl
theorem q752 : (Jvm.Cond.methodLink "java/lang/StringUTF16" (414 : Nat) ({ cls := "java/lang/String", name := "checkIndex", desc := "(II)V" } : Jvm.MethodName)) ∈ lw_all := lw_g (lw_at lw_m3 170 rfl) rfl
theorem q787 : (Jvm.Cond.static ({ cls := "java/lang/StringUTF16", name := "compress", desc := "([BII)[B" } : Jvm.MethodName)) ∈ lw_all := lw_g (lw_at lw_m3 205 rfl) rfl
theorem q788 : (Jvm.Cond.code ({ cls := "java/lang/StringUTF16", name := "compress", desc := "([BII)[B" } : Jvm.MethodName) prog_49_method_17_code (6 : Nat) (Option.some (Jvm.ClassFile.FieldType.array Jvm.ClassFile.FieldType.byte))) ∈ lw_all := lw_g (lw_at lw_m3 206 rfl) rfl
theorem q789 : (Jvm.Cond.methodLink "java/lang/StringUTF16" (123 : Nat) ({ cls := "java/lang/StringUTF16", name := "compress", desc := "([BI[BII)I" } : Jvm.MethodName)) ∈ lw_all := lw_g (lw_at lw_m3 207 rfl) rfl
theorem q790 : (Jvm.Cond.static ({ cls := "java/lang/StringUTF16", name := "compress", desc := "([BI[BII)I" } : Jvm.MethodName)) ∈ lw_all := lw_g (lw_at lw_m3 208 rfl) rfl
theorem q791 : (Jvm.Cond.code ({ cls := "java/lang/StringUTF16", name := "compress", desc := "([BI[BII)I" } : Jvm.MethodName) prog_49_method_22_code (7 : Nat) (Option.some Jvm.ClassFile.FieldType.int)) ∈ lw_all := lw_g (lw_at lw_m3 209 rfl) rfl
theorem q792 : (Jvm.Cond.methodLink "java/lang/StringUTF16" (71 : Nat) ({ cls := "java/lang/StringUTF16", name := "getChar", desc := "([BI)C" } : Jvm.MethodName)) ∈ lw_all := lw_g (lw_at lw_m3 210 rfl) rfl
theorem q793 : (Jvm.Cond.static ({ cls := "java/lang/StringUTF16", name := "getChar", desc := "([BI)C" } : Jvm.MethodName)) ∈ lw_all := lw_g (lw_at lw_m3 211 rfl) rfl
theorem q794 : (Jvm.Cond.code ({ cls := "java/lang/StringUTF16", name := "getChar", desc := "([BI)C" } : Jvm.MethodName) prog_49_method_5_code (2 : Nat) (Option.some Jvm.ClassFile.FieldType.char)) ∈ lw_all := lw_g (lw_at lw_m3 212 rfl) rfl
theorem q795 : (Jvm.Cond.methodLink "java/lang/StringUTF16" (126 : Nat) ({ cls := "java/util/Arrays", name := "copyOfRange", desc := "([BII)[B" } : Jvm.MethodName)) ∈ lw_all := lw_g (lw_at lw_m3 213 rfl) rfl
theorem q797 : (Jvm.Cond.static ({ cls := "java/lang/StringUTF16", name := "coderFromArrayLen", desc := "([BI)B" } : Jvm.MethodName)) ∈ lw_all := lw_g (lw_at lw_m3 215 rfl) rfl
theorem q798 : (Jvm.Cond.code ({ cls := "java/lang/StringUTF16", name := "coderFromArrayLen", desc := "([BI)B" } : Jvm.MethodName) prog_49_method_15_code (2 : Nat) (Option.some Jvm.ClassFile.FieldType.byte)) ∈ lw_all := lw_g (lw_at lw_m3 216 rfl) rfl
theorem q1003 : (Jvm.Cond.static ({ cls := "java/lang/StringUTF16", name := "charAt", desc := "([BI)C" } : Jvm.MethodName)) ∈ lw_all := lw_g (lw_at lw_m4 181 rfl) rfl
theorem q1004 : (Jvm.Cond.code ({ cls := "java/lang/StringUTF16", name := "charAt", desc := "([BI)C" } : Jvm.MethodName) prog_49_method_83_code (2 : Nat) (Option.some Jvm.ClassFile.FieldType.char)) ∈ lw_all := lw_g (lw_at lw_m4 182 rfl) rfl
theorem q1026 : (Jvm.Cond.static ({ cls := "java/lang/StringUTF16", name := "indexOf", desc := "([BIII)I" } : Jvm.MethodName)) ∈ lw_all := lw_g (lw_at lw_m4 204 rfl) rfl
theorem q1027 : (Jvm.Cond.code ({ cls := "java/lang/StringUTF16", name := "indexOf", desc := "([BIII)I" } : Jvm.MethodName) prog_49_method_40_code (4 : Nat) (Option.some Jvm.ClassFile.FieldType.int)) ∈ lw_all := lw_g (lw_at lw_m4 205 rfl) rfl
theorem q1028 : (Jvm.Cond.methodLink "java/lang/StringUTF16" (224 : Nat) ({ cls := "java/lang/Math", name := "max", desc := "(II)I" } : Jvm.MethodName)) ∈ lw_all := lw_g (lw_at lw_m4 206 rfl) rfl
theorem q1029 : (Jvm.Cond.methodLink "java/lang/StringUTF16" (183 : Nat) ({ cls := "java/lang/Math", name := "min", desc := "(II)I" } : Jvm.MethodName)) ∈ lw_all := lw_g (lw_at lw_m4 207 rfl) rfl
theorem q1030 : (Jvm.Cond.constant "java/lang/StringUTF16" (227 : Nat) (65536 : Int32)) ∈ lw_all := lw_g (lw_at lw_m4 208 rfl) rfl
theorem q1031 : (Jvm.Cond.methodLink "java/lang/StringUTF16" (228 : Nat) ({ cls := "java/lang/StringUTF16", name := "indexOfChar", desc := "([BIII)I" } : Jvm.MethodName)) ∈ lw_all := lw_g (lw_at lw_m4 209 rfl) rfl
theorem q1032 : (Jvm.Cond.static ({ cls := "java/lang/StringUTF16", name := "indexOfChar", desc := "([BIII)I" } : Jvm.MethodName)) ∈ lw_all := lw_g (lw_at lw_m4 210 rfl) rfl
theorem q1033 : (Jvm.Cond.code ({ cls := "java/lang/StringUTF16", name := "indexOfChar", desc := "([BIII)I" } : Jvm.MethodName) prog_49_method_47_code (4 : Nat) (Option.some Jvm.ClassFile.FieldType.int)) ∈ lw_all := lw_g (lw_at lw_m4 211 rfl) rfl
theorem q1034 : (Jvm.Cond.methodLink "java/lang/StringUTF16" (96 : Nat) ({ cls := "java/lang/StringUTF16", name := "checkBoundsBeginEnd", desc := "(II[B)V" } : Jvm.MethodName)) ∈ lw_all := lw_g (lw_at lw_m4 212 rfl) rfl
theorem q1035 : (Jvm.Cond.static ({ cls := "java/lang/StringUTF16", name := "checkBoundsBeginEnd", desc := "(II[B)V" } : Jvm.MethodName)) ∈ lw_all := lw_g (lw_at lw_m4 213 rfl) rfl
theorem q1036 : (Jvm.Cond.code ({ cls := "java/lang/StringUTF16", name := "checkBoundsBeginEnd", desc := "(II[B)V" } : Jvm.MethodName) prog_49_method_93_code (3 : Nat) (Option.none : Option Jvm.ClassFile.FieldType)) ∈ lw_all := lw_g (lw_at lw_m4 214 rfl) rfl
theorem q1037 : (Jvm.Cond.methodLink "java/lang/StringUTF16" (241 : Nat) ({ cls := "java/lang/String", name := "checkBoundsBeginEnd", desc := "(III)V" } : Jvm.MethodName)) ∈ lw_all := lw_g (lw_at lw_m4 215 rfl) rfl
theorem q1043 : (Jvm.Cond.methodLink "java/lang/StringUTF16" (244 : Nat) ({ cls := "java/lang/StringUTF16", name := "indexOfCharUnsafe", desc := "([BIII)I" } : Jvm.MethodName)) ∈ lw_all := lw_g (lw_at lw_m4 221 rfl) rfl
theorem q1044 : (Jvm.Cond.static ({ cls := "java/lang/StringUTF16", name := "indexOfCharUnsafe", desc := "([BIII)I" } : Jvm.MethodName)) ∈ lw_all := lw_g (lw_at lw_m4 222 rfl) rfl
theorem q1045 : (Jvm.Cond.code ({ cls := "java/lang/StringUTF16", name := "indexOfCharUnsafe", desc := "([BIII)I" } : Jvm.MethodName) prog_49_method_48_code (5 : Nat) (Option.some Jvm.ClassFile.FieldType.int)) ∈ lw_all := lw_g (lw_at lw_m4 223 rfl) rfl
theorem q1046 : (Jvm.Cond.methodLink "java/lang/StringUTF16" (232 : Nat) ({ cls := "java/lang/StringUTF16", name := "indexOfSupplementary", desc := "([BIII)I" } : Jvm.MethodName)) ∈ lw_all := lw_g (lw_at lw_m4 224 rfl) rfl
theorem q1047 : (Jvm.Cond.static ({ cls := "java/lang/StringUTF16", name := "indexOfSupplementary", desc := "([BIII)I" } : Jvm.MethodName)) ∈ lw_all := lw_g (lw_at lw_m4 225 rfl) rfl
theorem q1048 : (Jvm.Cond.code ({ cls := "java/lang/StringUTF16", name := "indexOfSupplementary", desc := "([BIII)I" } : Jvm.MethodName) prog_49_method_49_code (7 : Nat) (Option.some Jvm.ClassFile.FieldType.int)) ∈ lw_all := lw_g (lw_at lw_m4 226 rfl) rfl
theorem q1049 : (Jvm.Cond.methodLink "java/lang/StringUTF16" (164 : Nat) ({ cls := "java/lang/Character", name := "isValidCodePoint", desc := "(I)Z" } : Jvm.MethodName)) ∈ lw_all := lw_g (lw_at lw_m4 227 rfl) rfl
theorem q1052 : (Jvm.Cond.methodLink "java/lang/StringUTF16" (157 : Nat) ({ cls := "java/lang/Character", name := "highSurrogate", desc := "(I)C" } : Jvm.MethodName)) ∈ lw_all := lw_g (lw_at lw_m4 230 rfl) rfl
theorem q1056 : (Jvm.Cond.methodLink "java/lang/StringUTF16" (161 : Nat) ({ cls := "java/lang/Character", name := "lowSurrogate", desc := "(I)C" } : Jvm.MethodName)) ∈ lw_all := lw_g (lw_at lw_m4 234 rfl) rfl
/-! java/lang/StringLatin1 -/
def RJ14 : String := "java/lang/StringLatin1"
theorem q132 : (Jvm.Cond.initialized "java/lang/StringLatin1") ∈ lw_all := lw_g (lw_at lw_m1 30 rfl) rfl
theorem q711 : (Jvm.Cond.static ({ cls := "java/lang/StringLatin1", name := "canEncode", desc := "(C)Z" } : Jvm.MethodName)) ∈ lw_all := lw_g (lw_at lw_m3 129 rfl) rfl
theorem q712 : (Jvm.Cond.code ({ cls := "java/lang/StringLatin1", name := "canEncode", desc := "(C)Z" } : Jvm.MethodName) prog_48_method_3_code (1 : Nat) (Option.some Jvm.ClassFile.FieldType.boolean)) ∈ lw_all := lw_g (lw_at lw_m3 130 rfl) rfl
theorem q718 : (Jvm.Cond.static ({ cls := "java/lang/StringLatin1", name := "inflate", desc := "([BI[BII)V" } : Jvm.MethodName)) ∈ lw_all := lw_g (lw_at lw_m3 136 rfl) rfl
theorem q719 : (Jvm.Cond.code ({ cls := "java/lang/StringLatin1", name := "inflate", desc := "([BI[BII)V" } : Jvm.MethodName) prog_48_method_50_code (5 : Nat) (Option.none : Option Jvm.ClassFile.FieldType)) ∈ lw_all := lw_g (lw_at lw_m3 137 rfl) rfl
theorem q720 : (Jvm.Cond.methodLink "java/lang/StringLatin1" (240 : Nat) ({ cls := "java/lang/StringUTF16", name := "inflate", desc := "([BI[BII)V" } : Jvm.MethodName)) ∈ lw_all := lw_g (lw_at lw_m3 138 rfl) rfl
theorem q947 : (Jvm.Cond.static ({ cls := "java/lang/StringLatin1", name := "equals", desc := "([B[B)Z" } : Jvm.MethodName)) ∈ lw_all := lw_g (lw_at lw_m4 125 rfl) rfl
theorem q948 : (Jvm.Cond.code ({ cls := "java/lang/StringLatin1", name := "equals", desc := "([B[B)Z" } : Jvm.MethodName) prog_48_method_13_code (3 : Nat) (Option.some Jvm.ClassFile.FieldType.boolean)) ∈ lw_all := lw_g (lw_at lw_m4 126 rfl) rfl
theorem q999 : (Jvm.Cond.static ({ cls := "java/lang/StringLatin1", name := "charAt", desc := "([BI)C" } : Jvm.MethodName)) ∈ lw_all := lw_g (lw_at lw_m4 177 rfl) rfl
theorem q1000 : (Jvm.Cond.code ({ cls := "java/lang/StringLatin1", name := "charAt", desc := "([BI)C" } : Jvm.MethodName) prog_48_method_2_code (2 : Nat) (Option.some Jvm.ClassFile.FieldType.char)) ∈ lw_all := lw_g (lw_at lw_m4 178 rfl) rfl
theorem q1001 : (Jvm.Cond.methodLink "java/lang/StringLatin1" (9 : Nat) ({ cls := "java/lang/String", name := "checkIndex", desc := "(II)V" } : Jvm.MethodName)) ∈ lw_all := lw_g (lw_at lw_m4 179 rfl) rfl
theorem q1015 : (Jvm.Cond.static ({ cls := "java/lang/StringLatin1", name := "indexOf", desc := "([BIII)I" } : Jvm.MethodName)) ∈ lw_all := lw_g (lw_at lw_m4 193 rfl) rfl
theorem q1016 : (Jvm.Cond.code ({ cls := "java/lang/StringLatin1", name := "indexOf", desc := "([BIII)I" } : Jvm.MethodName) prog_48_method_22_code (4 : Nat) (Option.some Jvm.ClassFile.FieldType.int)) ∈ lw_all := lw_g (lw_at lw_m4 194 rfl) rfl
theorem q1017 : (Jvm.Cond.methodLink "java/lang/StringLatin1" (88 : Nat) ({ cls := "java/lang/StringLatin1", name := "canEncode", desc := "(I)Z" } : Jvm.MethodName)) ∈ lw_all := lw_g (lw_at lw_m4 195 rfl) rfl
theorem q1018 : (Jvm.Cond.static ({ cls := "java/lang/StringLatin1", name := "canEncode", desc := "(I)Z" } : Jvm.MethodName)) ∈ lw_all := lw_g (lw_at lw_m4 196 rfl) rfl
theorem q1019 : (Jvm.Cond.code ({ cls := "java/lang/StringLatin1", name := "canEncode", desc := "(I)Z" } : Jvm.MethodName) prog_48_method_4_code (1 : Nat) (Option.some Jvm.ClassFile.FieldType.boolean)) ∈ lw_all := lw_g (lw_at lw_m4 197 rfl) rfl
theorem q1020 : (Jvm.Cond.methodLink "java/lang/StringLatin1" (92 : Nat) ({ cls := "java/lang/Math", name := "max", desc := "(II)I" } : Jvm.MethodName)) ∈ lw_all := lw_g (lw_at lw_m4 198 rfl) rfl
theorem q1021 : (Jvm.Cond.methodLink "java/lang/StringLatin1" (38 : Nat) ({ cls := "java/lang/Math", name := "min", desc := "(II)I" } : Jvm.MethodName)) ∈ lw_all := lw_g (lw_at lw_m4 199 rfl) rfl
theorem q1022 : (Jvm.Cond.methodLink "java/lang/StringLatin1" (95 : Nat) ({ cls := "java/lang/StringLatin1", name := "indexOfChar", desc := "([BIII)I" } : Jvm.MethodName)) ∈ lw_all := lw_g (lw_at lw_m4 200 rfl) rfl
theorem q1023 : (Jvm.Cond.static ({ cls := "java/lang/StringLatin1", name := "indexOfChar", desc := "([BIII)I" } : Jvm.MethodName)) ∈ lw_all := lw_g (lw_at lw_m4 201 rfl) rfl
theorem q1024 : (Jvm.Cond.code ({ cls := "java/lang/StringLatin1", name := "indexOfChar", desc := "([BIII)I" } : Jvm.MethodName) prog_48_method_23_code (6 : Nat) (Option.some Jvm.ClassFile.FieldType.int)) ∈ lw_all := lw_g (lw_at lw_m4 202 rfl) rfl
/-! java/lang/Throwable -/
def RJ15 : String := "java/lang/Throwable"
def TJ15 : u_T := fun k => match k with
  | 0 => ("java/lang/Throwable", "cause", "Ljava/lang/Throwable;", false)
  | 1 => ("java/lang/Throwable", "stackTrace", "[Ljava/lang/StackTraceElement;", false)
  | 2 => ("java/lang/Throwable", "suppressedExceptions", "Ljava/util/List;", false)
  | 3 => ("java/lang/Throwable", "detailMessage", "Ljava/lang/String;", false)
  | _ => ("java/lang/Throwable", "backtrace", "Ljava/lang/Object;", false)
def tyJ15 : Nat → FieldType := fun k => match k with
  | 0 => .object "java/lang/Throwable"
  | 1 => .array (.object "java/lang/StackTraceElement")
  | 2 => .object "java/util/List"
  | 3 => .object "java/lang/String"
  | _ => .object "java/lang/Object"
abbrev wsJ150 : List Cond := u_ws RJ15 TJ15 5
theorem nmJ15 : ∀ a, a < 5 → ∀ b, b < 5 → a ≠ b → (TJ15 a).2.1 ≠ (TJ15 b).2.1 := by decide +kernel
theorem tyJ15_ok : ∀ k, k < 5 → parseFieldDescriptor (TJ15 k).2.2.1 = some (tyJ15 k) := by decide +kernel
theorem q133 : (Jvm.Cond.initialized "java/lang/Throwable") ∈ lw_all := lw_g (lw_at lw_m1 31 rfl) rfl
theorem q874 : (Jvm.Cond.declares ({ cls := "java/lang/Throwable", name := "<init>", desc := "()V" } : Jvm.MethodName)) ∈ lw_tbl := lw_at lw_m4 52 rfl
theorem q875 : (Jvm.Cond.declares ({ cls := "java/lang/Throwable", name := "<init>", desc := "(Ljava/lang/String;)V" } : Jvm.MethodName)) ∈ lw_tbl := lw_at lw_m4 53 rfl
theorem q879 : (Jvm.Cond.lays "java/lang/Throwable" "java/lang/Throwable" "cause" "Ljava/lang/Throwable;") ∈ lw_all := lw_g (lw_at lw_m4 57 rfl) rfl
theorem q881 : (Jvm.Cond.lays "java/lang/Throwable" "java/lang/Throwable" "stackTrace" "[Ljava/lang/StackTraceElement;") ∈ lw_all := lw_g (lw_at lw_m4 59 rfl) rfl
theorem q883 : (Jvm.Cond.lays "java/lang/Throwable" "java/lang/Throwable" "suppressedExceptions" "Ljava/util/List;") ∈ lw_all := lw_g (lw_at lw_m4 61 rfl) rfl
theorem q885 : (Jvm.Cond.lays "java/lang/Throwable" "java/lang/Throwable" "detailMessage" "Ljava/lang/String;") ∈ lw_all := lw_g (lw_at lw_m4 63 rfl) rfl
theorem q887 : (Jvm.Cond.lays "java/lang/Throwable" "java/lang/Throwable" "backtrace" "Ljava/lang/Object;") ∈ lw_all := lw_g (lw_at lw_m4 65 rfl) rfl
theorem q888 : (Jvm.Cond.fieldLink "java/lang/Throwable" (198 : Nat) "java/lang/Throwable" "backtrace" "Ljava/lang/Object;") ∈ lw_all := lw_g (lw_at lw_m4 66 rfl) rfl
theorem q889 : (Jvm.Cond.superclass "java/lang/Throwable" "java/lang/Object") ∈ lw_all := lw_g (lw_at lw_m4 67 rfl) rfl
theorem q890 : (Jvm.Cond.instanceMethod ({ cls := "java/lang/Throwable", name := "<init>", desc := "()V" } : Jvm.MethodName)) ∈ lw_all := lw_g (lw_at lw_m4 68 rfl) rfl
theorem q891 : (Jvm.Cond.code ({ cls := "java/lang/Throwable", name := "<init>", desc := "()V" } : Jvm.MethodName) prog_51_method_1_code (1 : Nat) (Option.none : Option Jvm.ClassFile.FieldType)) ∈ lw_all := lw_g (lw_at lw_m4 69 rfl) rfl
theorem q892 : (Jvm.Cond.methodLink "java/lang/Throwable" (1 : Nat) ({ cls := "java/lang/Object", name := "<init>", desc := "()V" } : Jvm.MethodName)) ∈ lw_all := lw_g (lw_at lw_m4 70 rfl) rfl
theorem q893 : (Jvm.Cond.fieldLink "java/lang/Throwable" (13 : Nat) "java/lang/Throwable" "UNASSIGNED_STACK" "[Ljava/lang/StackTraceElement;") ∈ lw_all := lw_g (lw_at lw_m4 71 rfl) rfl
theorem q894 : (Jvm.Cond.laysStatic "java/lang/Throwable" "UNASSIGNED_STACK" "[Ljava/lang/StackTraceElement;") ∈ lw_tbl := lw_at lw_m4 72 rfl
theorem q895 : (Jvm.Cond.fieldLink "java/lang/Throwable" (20 : Nat) "java/lang/Throwable" "SUPPRESSED_SENTINEL" "Ljava/util/List;") ∈ lw_all := lw_g (lw_at lw_m4 73 rfl) rfl
theorem q896 : (Jvm.Cond.laysStatic "java/lang/Throwable" "SUPPRESSED_SENTINEL" "Ljava/util/List;") ∈ lw_tbl := lw_at lw_m4 74 rfl
theorem q897 : (Jvm.Cond.methodLink "java/lang/Throwable" (27 : Nat) ({ cls := "java/lang/Throwable", name := "fillInStackTrace", desc := "()Ljava/lang/Throwable;" } : Jvm.MethodName)) ∈ lw_all := lw_g (lw_at lw_m4 75 rfl) rfl
theorem q898 : (Jvm.Cond.instanceMethod ({ cls := "java/lang/Throwable", name := "fillInStackTrace", desc := "()Ljava/lang/Throwable;" } : Jvm.MethodName)) ∈ lw_all := lw_g (lw_at lw_m4 76 rfl) rfl
theorem q899 : (Jvm.Cond.sameMethod "java/lang/Throwable" "java/lang/Throwable" "fillInStackTrace" "()Ljava/lang/Throwable;") ∈ lw_all := lw_g (lw_at lw_m4 77 rfl) rfl
theorem q900 : (Jvm.Cond.codeSync ({ cls := "java/lang/Throwable", name := "fillInStackTrace", desc := "()Ljava/lang/Throwable;" } : Jvm.MethodName) prog_51_method_18_code (1 : Nat) (Option.some (Jvm.ClassFile.FieldType.object "java/lang/Throwable"))) ∈ lw_all := lw_g (lw_at lw_m4 78 rfl) rfl
theorem q901 : (Jvm.Cond.methodLink "java/lang/Throwable" (202 : Nat) ({ cls := "java/lang/Throwable", name := "fillInStackTrace", desc := "(I)Ljava/lang/Throwable;" } : Jvm.MethodName)) ∈ lw_all := lw_g (lw_at lw_m4 79 rfl) rfl
theorem q902 : (Jvm.Cond.privateMethod ({ cls := "java/lang/Throwable", name := "fillInStackTrace", desc := "(I)Ljava/lang/Throwable;" } : Jvm.MethodName)) ∈ lw_tbl := lw_at lw_m4 80 rfl
theorem q903 : (Jvm.Cond.instanceMethod ({ cls := "java/lang/Throwable", name := "fillInStackTrace", desc := "(I)Ljava/lang/Throwable;" } : Jvm.MethodName)) ∈ lw_all := lw_g (lw_at lw_m4 81 rfl) rfl
theorem q904 : (Jvm.Cond.instantiable "java/lang/Throwable" (6 : Nat)) ∈ lw_all := lw_g (lw_at lw_m4 82 rfl) rfl
theorem q905 : (Jvm.Cond.native ({ cls := "java/lang/Throwable", name := "fillInStackTrace", desc := "(I)Ljava/lang/Throwable;" } : Jvm.MethodName)) ∈ lw_all := lw_g (lw_at lw_m4 83 rfl) rfl
theorem q919 : (Jvm.Cond.fieldLink "java/lang/Throwable" (198 : Nat) "java/lang/Throwable" "backtrace" "Ljava/lang/Object;") ∈ lw_all := lw_g (lw_at lw_m4 97 rfl) rfl
theorem q920 : (Jvm.Cond.fieldLink "java/lang/Throwable" (7 : Nat) "java/lang/Throwable" "cause" "Ljava/lang/Throwable;") ∈ lw_all := lw_g (lw_at lw_m4 98 rfl) rfl
theorem q921 : (Jvm.Cond.fieldLink "java/lang/Throwable" (17 : Nat) "java/lang/Throwable" "stackTrace" "[Ljava/lang/StackTraceElement;") ∈ lw_all := lw_g (lw_at lw_m4 99 rfl) rfl
theorem q922 : (Jvm.Cond.fieldLink "java/lang/Throwable" (24 : Nat) "java/lang/Throwable" "suppressedExceptions" "Ljava/util/List;") ∈ lw_all := lw_g (lw_at lw_m4 100 rfl) rfl
theorem q927 : (Jvm.Cond.soleField "java/lang/Throwable" "backtrace") ∈ lw_all := lw_g (lw_at lw_m4 105 rfl) rfl
theorem q928 : (Jvm.Cond.soleField "java/lang/Throwable" "detailMessage") ∈ lw_all := lw_g (lw_at lw_m4 106 rfl) rfl
theorem q929 : (Jvm.Cond.soleField "java/lang/Throwable" "cause") ∈ lw_all := lw_g (lw_at lw_m4 107 rfl) rfl
theorem q930 : (Jvm.Cond.soleField "java/lang/Throwable" "stackTrace") ∈ lw_all := lw_g (lw_at lw_m4 108 rfl) rfl
theorem q932 : (Jvm.Cond.soleField "java/lang/Throwable" "depth") ∈ lw_all := lw_g (lw_at lw_m4 110 rfl) rfl
theorem q933 : (Jvm.Cond.soleField "java/lang/Throwable" "suppressedExceptions") ∈ lw_all := lw_g (lw_at lw_m4 111 rfl) rfl
theorem q2263 : (Jvm.Cond.sameMethod "java/lang/Throwable" "java/lang/Throwable" "fillInStackTrace" "(I)Ljava/lang/Throwable;") ∈ lw_all := lw_g (lw_at lw_m10 1 rfl) rfl
theorem q2297 : (Jvm.Cond.castable "java/lang/Throwable" "java/lang/Object") ∈ lw_tbl := lw_at lw_m10 35 rfl
theorem in_J15 : ∀ w ∈ wsJ150, w ∈ lw_all := lw_in wsJ150 [879, 881, 883, 885, 887] (by decide +kernel) (by decide +kernel)
/-! java/lang/Exception -/
def RJ16 : String := "java/lang/Exception"
theorem q134 : (Jvm.Cond.initialized "java/lang/Exception") ∈ lw_all := lw_g (lw_at lw_m1 32 rfl) rfl
theorem q872 : (Jvm.Cond.declares ({ cls := "java/lang/Exception", name := "<init>", desc := "()V" } : Jvm.MethodName)) ∈ lw_tbl := lw_at lw_m4 50 rfl
theorem q873 : (Jvm.Cond.declares ({ cls := "java/lang/Exception", name := "<init>", desc := "(Ljava/lang/String;)V" } : Jvm.MethodName)) ∈ lw_tbl := lw_at lw_m4 51 rfl
theorem q910 : (Jvm.Cond.instanceMethod ({ cls := "java/lang/Exception", name := "<init>", desc := "()V" } : Jvm.MethodName)) ∈ lw_all := lw_g (lw_at lw_m4 88 rfl) rfl
theorem q911 : (Jvm.Cond.code ({ cls := "java/lang/Exception", name := "<init>", desc := "()V" } : Jvm.MethodName) prog_39_method_1_code (1 : Nat) (Option.none : Option Jvm.ClassFile.FieldType)) ∈ lw_all := lw_g (lw_at lw_m4 89 rfl) rfl
theorem q912 : (Jvm.Cond.methodLink "java/lang/Exception" (1 : Nat) ({ cls := "java/lang/Throwable", name := "<init>", desc := "()V" } : Jvm.MethodName)) ∈ lw_all := lw_g (lw_at lw_m4 90 rfl) rfl
/-! java/lang/Character -/
def RJ17 : String := "java/lang/Character"
theorem q137 : (Jvm.Cond.initialized "java/lang/Character") ∈ lw_all := lw_g (lw_at lw_m1 35 rfl) rfl
theorem q1050 : (Jvm.Cond.static ({ cls := "java/lang/Character", name := "isValidCodePoint", desc := "(I)Z" } : Jvm.MethodName)) ∈ lw_all := lw_g (lw_at lw_m4 228 rfl) rfl
theorem q1051 : (Jvm.Cond.code ({ cls := "java/lang/Character", name := "isValidCodePoint", desc := "(I)Z" } : Jvm.MethodName) prog_36_method_11_code (2 : Nat) (Option.some Jvm.ClassFile.FieldType.boolean)) ∈ lw_all := lw_g (lw_at lw_m4 229 rfl) rfl
theorem q1053 : (Jvm.Cond.static ({ cls := "java/lang/Character", name := "highSurrogate", desc := "(I)C" } : Jvm.MethodName)) ∈ lw_all := lw_g (lw_at lw_m4 231 rfl) rfl
theorem q1054 : (Jvm.Cond.code ({ cls := "java/lang/Character", name := "highSurrogate", desc := "(I)C" } : Jvm.MethodName) prog_36_method_28_code (1 : Nat) (Option.some Jvm.ClassFile.FieldType.char)) ∈ lw_all := lw_g (lw_at lw_m4 232 rfl) rfl
theorem q1055 : (Jvm.Cond.constant "java/lang/Character" (110 : Nat) (55232 : Int32)) ∈ lw_all := lw_g (lw_at lw_m4 233 rfl) rfl
theorem q1057 : (Jvm.Cond.static ({ cls := "java/lang/Character", name := "lowSurrogate", desc := "(I)C" } : Jvm.MethodName)) ∈ lw_all := lw_g (lw_at lw_m4 235 rfl) rfl
theorem q1058 : (Jvm.Cond.code ({ cls := "java/lang/Character", name := "lowSurrogate", desc := "(I)C" } : Jvm.MethodName) prog_36_method_29_code (1 : Nat) (Option.some Jvm.ClassFile.FieldType.char)) ∈ lw_all := lw_g (lw_at lw_m4 236 rfl) rfl
theorem q1059 : (Jvm.Cond.constant "java/lang/Character" (76 : Nat) (56320 : Int32)) ∈ lw_all := lw_g (lw_at lw_m4 237 rfl) rfl
/-! java/lang/Integer -/
def RJ18 : String := "java/lang/Integer"
def TJ18 : u_T := fun k => match k with
  | _ => ("java/lang/Integer", "value", "I", true)
def tyJ18 : Nat → FieldType := fun k => match k with
  | _ => .int
abbrev wsJ180 : List Cond := u_ws RJ18 TJ18 1
theorem nmJ18 : ∀ a, a < 1 → ∀ b, b < 1 → a ≠ b → (TJ18 a).2.1 ≠ (TJ18 b).2.1 := by decide +kernel
theorem tyJ18_ok : ∀ k, k < 1 → parseFieldDescriptor (TJ18 k).2.2.1 = some (tyJ18 k) := by decide +kernel
theorem q146 : (Jvm.Cond.initialized "java/lang/Integer") ∈ lw_all := lw_g (lw_at lw_m1 44 rfl) rfl
theorem q493 : (Jvm.Cond.selects "java/lang/Integer" ({ cls := "java/lang/Object", name := "getClass", desc := "()Ljava/lang/Class;" } : Jvm.MethodName) ({ cls := "java/lang/Object", name := "getClass", desc := "()Ljava/lang/Class;" } : Jvm.MethodName)) ∈ lw_all := lw_g (lw_at lw_m2 151 rfl) rfl
theorem q1361 : (Jvm.Cond.static ({ cls := "java/lang/Integer", name := "valueOf", desc := "(I)Ljava/lang/Integer;" } : Jvm.MethodName)) ∈ lw_all := lw_g (lw_at lw_m6 59 rfl) rfl
theorem q1362 : (Jvm.Cond.code ({ cls := "java/lang/Integer", name := "valueOf", desc := "(I)Ljava/lang/Integer;" } : Jvm.MethodName) prog_40_method_22_code (1 : Nat) (Option.some (Jvm.ClassFile.FieldType.object "java/lang/Integer"))) ∈ lw_all := lw_g (lw_at lw_m6 60 rfl) rfl
theorem q1363 : (Jvm.Cond.fieldLink "java/lang/Integer" (191 : Nat) "java/lang/Integer$IntegerCache" "high" "I") ∈ lw_all := lw_g (lw_at lw_m6 61 rfl) rfl
theorem q1365 : (Jvm.Cond.fieldLink "java/lang/Integer" (195 : Nat) "java/lang/Integer$IntegerCache" "cache" "[Ljava/lang/Integer;") ∈ lw_all := lw_g (lw_at lw_m6 63 rfl) rfl
theorem q1367 : (Jvm.Cond.classLink "java/lang/Integer" (1 : Nat) "java/lang/Integer") ∈ lw_all := lw_g (lw_at lw_m6 65 rfl) rfl
theorem q1368 : (Jvm.Cond.instantiable "java/lang/Integer" (1 : Nat)) ∈ lw_all := lw_g (lw_at lw_m6 66 rfl) rfl
theorem q1369 : (Jvm.Cond.methodLink "java/lang/Integer" (199 : Nat) ({ cls := "java/lang/Integer", name := "<init>", desc := "(I)V" } : Jvm.MethodName)) ∈ lw_all := lw_g (lw_at lw_m6 67 rfl) rfl
theorem q1370 : (Jvm.Cond.instanceMethod ({ cls := "java/lang/Integer", name := "<init>", desc := "(I)V" } : Jvm.MethodName)) ∈ lw_all := lw_g (lw_at lw_m6 68 rfl) rfl
theorem q1371 : (Jvm.Cond.code ({ cls := "java/lang/Integer", name := "<init>", desc := "(I)V" } : Jvm.MethodName) prog_40_method_23_code (2 : Nat) (Option.none : Option Jvm.ClassFile.FieldType)) ∈ lw_all := lw_g (lw_at lw_m6 69 rfl) rfl
theorem q1372 : (Jvm.Cond.methodLink "java/lang/Integer" (202 : Nat) ({ cls := "java/lang/Number", name := "<init>", desc := "()V" } : Jvm.MethodName)) ∈ lw_all := lw_g (lw_at lw_m6 70 rfl) rfl
theorem q1376 : (Jvm.Cond.fieldLink "java/lang/Integer" (205 : Nat) "java/lang/Integer" "value" "I") ∈ lw_all := lw_g (lw_at lw_m6 74 rfl) rfl
theorem q1377 : (Jvm.Cond.laysFinal "java/lang/Integer" "java/lang/Integer" "value" "I") ∈ lw_all := lw_g (lw_at lw_m6 75 rfl) rfl
theorem q1378 : (Jvm.Cond.soleField "java/lang/Integer" "value") ∈ lw_all := lw_g (lw_at lw_m6 76 rfl) rfl
theorem q1379 : (Jvm.Cond.superclass "java/lang/Integer" "java/lang/Number") ∈ lw_all := lw_g (lw_at lw_m6 77 rfl) rfl
theorem q1391 : (Jvm.Cond.instanceMethod ({ cls := "java/lang/Integer", name := "intValue", desc := "()I" } : Jvm.MethodName)) ∈ lw_all := lw_g (lw_at lw_m6 89 rfl) rfl
theorem q1392 : (Jvm.Cond.selects "java/lang/Integer" ({ cls := "java/lang/Integer", name := "intValue", desc := "()I" } : Jvm.MethodName) ({ cls := "java/lang/Integer", name := "intValue", desc := "()I" } : Jvm.MethodName)) ∈ lw_all := lw_g (lw_at lw_m6 90 rfl) rfl
theorem q1393 : (Jvm.Cond.code ({ cls := "java/lang/Integer", name := "intValue", desc := "()I" } : Jvm.MethodName) prog_40_method_27_code (1 : Nat) (Option.some Jvm.ClassFile.FieldType.int)) ∈ lw_all := lw_g (lw_at lw_m6 91 rfl) rfl
theorem q1540 : (Jvm.Cond.static ({ cls := "java/lang/Integer", name := "bitCount", desc := "(I)I" } : Jvm.MethodName)) ∈ lw_all := lw_g (lw_at lw_m6 238 rfl) rfl
theorem q1541 : (Jvm.Cond.code ({ cls := "java/lang/Integer", name := "bitCount", desc := "(I)I" } : Jvm.MethodName) prog_40_method_49_code (1 : Nat) (Option.some Jvm.ClassFile.FieldType.int)) ∈ lw_all := lw_g (lw_at lw_m6 239 rfl) rfl
theorem q1542 : (Jvm.Cond.constant "java/lang/Integer" (265 : Nat) (1431655765 : Int32)) ∈ lw_all := lw_g (lw_at lw_m7 0 rfl) rfl
theorem q1543 : (Jvm.Cond.constant "java/lang/Integer" (266 : Nat) (858993459 : Int32)) ∈ lw_all := lw_g (lw_at lw_m7 1 rfl) rfl
theorem q1544 : (Jvm.Cond.constant "java/lang/Integer" (267 : Nat) (252645135 : Int32)) ∈ lw_all := lw_g (lw_at lw_m7 2 rfl) rfl
theorem q1556 : (Jvm.Cond.static ({ cls := "java/lang/Integer", name := "numberOfTrailingZeros", desc := "(I)I" } : Jvm.MethodName)) ∈ lw_all := lw_g (lw_at lw_m7 14 rfl) rfl
theorem q1557 : (Jvm.Cond.code ({ cls := "java/lang/Integer", name := "numberOfTrailingZeros", desc := "(I)I" } : Jvm.MethodName) prog_40_method_48_code (2 : Nat) (Option.some Jvm.ClassFile.FieldType.int)) ∈ lw_all := lw_g (lw_at lw_m7 15 rfl) rfl
theorem q1558 : (Jvm.Cond.constant "java/lang/Integer" (264 : Nat) (65536 : Int32)) ∈ lw_all := lw_g (lw_at lw_m7 16 rfl) rfl
theorem q2296 : (Jvm.Cond.castable "java/lang/Integer" "java/lang/Object") ∈ lw_tbl := lw_at lw_m10 34 rfl
theorem in_J18 : ∀ w ∈ wsJ180, w ∈ lw_all := lw_in wsJ180 [1377] (by decide +kernel) (by decide +kernel)
/-! java/lang/Object -/
def RJ19 : String := "java/lang/Object"
theorem q154 : (Jvm.Cond.instanceMethod ({ cls := "java/lang/Object", name := "<init>", desc := "()V" } : Jvm.MethodName)) ∈ lw_all := lw_g (lw_at lw_m1 52 rfl) rfl
theorem q155 : (Jvm.Cond.code ({ cls := "java/lang/Object", name := "<init>", desc := "()V" } : Jvm.MethodName) object_method_1_code (1 : Nat) (Option.none : Option Jvm.ClassFile.FieldType)) ∈ lw_all := lw_g (lw_at lw_m1 53 rfl) rfl
theorem q464 : (Jvm.Cond.instanceMethod ({ cls := "java/lang/Object", name := "getClass", desc := "()Ljava/lang/Class;" } : Jvm.MethodName)) ∈ lw_all := lw_g (lw_at lw_m2 122 rfl) rfl
theorem q465 : (Jvm.Cond.sameMethod "java/lang/Object" "java/lang/Object" "getClass" "()Ljava/lang/Class;") ∈ lw_all := lw_g (lw_at lw_m2 123 rfl) rfl
theorem q497 : (Jvm.Cond.native ({ cls := "java/lang/Object", name := "getClass", desc := "()Ljava/lang/Class;" } : Jvm.MethodName)) ∈ lw_all := lw_g (lw_at lw_m2 155 rfl) rfl
theorem q700 : (Jvm.Cond.native ({ cls := "java/lang/Object", name := "clone", desc := "()Ljava/lang/Object;" } : Jvm.MethodName)) ∈ lw_all := lw_g (lw_at lw_m3 118 rfl) rfl
theorem q701 : (Jvm.Cond.instanceMethod ({ cls := "java/lang/Object", name := "clone", desc := "()Ljava/lang/Object;" } : Jvm.MethodName)) ∈ lw_all := lw_g (lw_at lw_m3 119 rfl) rfl
theorem q2300 : (Jvm.Cond.declares ({ cls := "java/lang/Object", name := "getClass", desc := "()Ljava/lang/Class;" } : Jvm.MethodName)) ∈ lw_tbl := lw_at lw_m10 38 rfl
/-! java/util/ArrayList -/
def RJ2 : String := "java/util/ArrayList"
def TJ2 : u_T := fun k => match k with
  | 0 => ("java/util/AbstractList", "modCount", "I", false)
  | 1 => ("java/util/ArrayList", "elementData", "[Ljava/lang/Object;", false)
  | _ => ("java/util/ArrayList", "size", "I", false)
def tyJ2 : Nat → FieldType := fun k => match k with
  | 0 => .int
  | 1 => .array (.object "java/lang/Object")
  | _ => .int
abbrev wsJ20 : List Cond := u_ws RJ2 TJ2 3
theorem nmJ2 : ∀ a, a < 3 → ∀ b, b < 3 → a ≠ b → (TJ2 a).2.1 ≠ (TJ2 b).2.1 := by decide +kernel
theorem tyJ2_ok : ∀ k, k < 3 → parseFieldDescriptor (TJ2 k).2.2.1 = some (tyJ2 k) := by decide +kernel
theorem q108 : (Jvm.Cond.initialized "java/util/ArrayList") ∈ lw_all := lw_g (lw_at lw_m1 6 rfl) rfl
theorem q169 : (Jvm.Cond.instantiable "java/util/ArrayList" (3 : Nat)) ∈ lw_all := lw_g (lw_at lw_m1 67 rfl) rfl
theorem q171 : (Jvm.Cond.instanceMethod ({ cls := "java/util/ArrayList", name := "<init>", desc := "(I)V" } : Jvm.MethodName)) ∈ lw_all := lw_g (lw_at lw_m1 69 rfl) rfl
theorem q172 : (Jvm.Cond.code ({ cls := "java/util/ArrayList", name := "<init>", desc := "(I)V" } : Jvm.MethodName) prog_54_method_1_code (2 : Nat) (Option.none : Option Jvm.ClassFile.FieldType)) ∈ lw_all := lw_g (lw_at lw_m1 70 rfl) rfl
theorem q173 : (Jvm.Cond.methodLink "java/util/ArrayList" (1 : Nat) ({ cls := "java/util/AbstractList", name := "<init>", desc := "()V" } : Jvm.MethodName)) ∈ lw_all := lw_g (lw_at lw_m1 71 rfl) rfl
theorem q180 : (Jvm.Cond.classLink "java/util/ArrayList" (7 : Nat) "java/lang/Object") ∈ lw_all := lw_g (lw_at lw_m1 78 rfl) rfl
theorem q182 : (Jvm.Cond.fieldLink "java/util/ArrayList" (15 : Nat) "java/util/ArrayList" "EMPTY_ELEMENTDATA" "[Ljava/lang/Object;") ∈ lw_all := lw_g (lw_at lw_m1 80 rfl) rfl
theorem q183 : (Jvm.Cond.laysStatic "java/util/ArrayList" "EMPTY_ELEMENTDATA" "[Ljava/lang/Object;") ∈ lw_tbl := lw_at lw_m1 81 rfl
theorem q184 : (Jvm.Cond.fieldLink "java/util/ArrayList" (9 : Nat) "java/util/ArrayList" "elementData" "[Ljava/lang/Object;") ∈ lw_all := lw_g (lw_at lw_m1 82 rfl) rfl
theorem q185 : (Jvm.Cond.fieldLink "java/util/ArrayList" (48 : Nat) "java/util/ArrayList" "size" "I") ∈ lw_all := lw_g (lw_at lw_m1 83 rfl) rfl
theorem q187 : (Jvm.Cond.fieldLink "java/util/ArrayList" (63 : Nat) "java/util/ArrayList" "modCount" "I") ∈ lw_all := lw_g (lw_at lw_m1 85 rfl) rfl
theorem q188 : (Jvm.Cond.sameField "java/util/ArrayList" "java/util/AbstractList" "modCount" "I") ∈ lw_all := lw_g (lw_at lw_m1 86 rfl) rfl
theorem q189 : (Jvm.Cond.lays "java/util/ArrayList" "java/util/ArrayList" "elementData" "[Ljava/lang/Object;") ∈ lw_all := lw_g (lw_at lw_m1 87 rfl) rfl
theorem q190 : (Jvm.Cond.soleField "java/util/ArrayList" "elementData") ∈ lw_all := lw_g (lw_at lw_m1 88 rfl) rfl
theorem q191 : (Jvm.Cond.lays "java/util/ArrayList" "java/util/ArrayList" "size" "I") ∈ lw_all := lw_g (lw_at lw_m1 89 rfl) rfl
theorem q192 : (Jvm.Cond.soleField "java/util/ArrayList" "size") ∈ lw_all := lw_g (lw_at lw_m1 90 rfl) rfl
theorem q193 : (Jvm.Cond.lays "java/util/ArrayList" "java/util/AbstractList" "modCount" "I") ∈ lw_all := lw_g (lw_at lw_m1 91 rfl) rfl
theorem q195 : (Jvm.Cond.superclass "java/util/ArrayList" "java/util/AbstractList") ∈ lw_all := lw_g (lw_at lw_m1 93 rfl) rfl
theorem q213 : (Jvm.Cond.instanceMethod ({ cls := "java/util/ArrayList", name := "<init>", desc := "()V" } : Jvm.MethodName)) ∈ lw_all := lw_g (lw_at lw_m1 111 rfl) rfl
theorem q214 : (Jvm.Cond.code ({ cls := "java/util/ArrayList", name := "<init>", desc := "()V" } : Jvm.MethodName) prog_54_method_2_code (1 : Nat) (Option.none : Option Jvm.ClassFile.FieldType)) ∈ lw_all := lw_g (lw_at lw_m1 112 rfl) rfl
theorem q215 : (Jvm.Cond.fieldLink "java/util/ArrayList" (39 : Nat) "java/util/ArrayList" "DEFAULTCAPACITY_EMPTY_ELEMENTDATA" "[Ljava/lang/Object;") ∈ lw_all := lw_g (lw_at lw_m1 113 rfl) rfl
theorem q216 : (Jvm.Cond.laysStatic "java/util/ArrayList" "DEFAULTCAPACITY_EMPTY_ELEMENTDATA" "[Ljava/lang/Object;") ∈ lw_tbl := lw_at lw_m1 114 rfl
theorem q410 : (Jvm.Cond.instanceMethod ({ cls := "java/util/ArrayList", name := "size", desc := "()I" } : Jvm.MethodName)) ∈ lw_all := lw_g (lw_at lw_m2 68 rfl) rfl
theorem q411 : (Jvm.Cond.selects "java/util/ArrayList" ({ cls := "java/util/ArrayList", name := "size", desc := "()I" } : Jvm.MethodName) ({ cls := "java/util/ArrayList", name := "size", desc := "()I" } : Jvm.MethodName)) ∈ lw_all := lw_g (lw_at lw_m2 69 rfl) rfl
theorem q412 : (Jvm.Cond.code ({ cls := "java/util/ArrayList", name := "size", desc := "()I" } : Jvm.MethodName) prog_54_method_8_code (1 : Nat) (Option.some Jvm.ClassFile.FieldType.int)) ∈ lw_all := lw_g (lw_at lw_m2 70 rfl) rfl
theorem q435 : (Jvm.Cond.instanceMethod ({ cls := "java/util/ArrayList", name := "add", desc := "(Ljava/lang/Object;)Z" } : Jvm.MethodName)) ∈ lw_all := lw_g (lw_at lw_m2 93 rfl) rfl
theorem q436 : (Jvm.Cond.selects "java/util/ArrayList" ({ cls := "java/util/ArrayList", name := "add", desc := "(Ljava/lang/Object;)Z" } : Jvm.MethodName) ({ cls := "java/util/ArrayList", name := "add", desc := "(Ljava/lang/Object;)Z" } : Jvm.MethodName)) ∈ lw_all := lw_g (lw_at lw_m2 94 rfl) rfl
theorem q437 : (Jvm.Cond.code ({ cls := "java/util/ArrayList", name := "add", desc := "(Ljava/lang/Object;)Z" } : Jvm.MethodName) prog_54_method_25_code (2 : Nat) (Option.some Jvm.ClassFile.FieldType.boolean)) ∈ lw_all := lw_g (lw_at lw_m2 95 rfl) rfl
theorem q438 : (Jvm.Cond.methodLink "java/util/ArrayList" (131 : Nat) ({ cls := "java/util/ArrayList", name := "add", desc := "(Ljava/lang/Object;[Ljava/lang/Object;I)V" } : Jvm.MethodName)) ∈ lw_all := lw_g (lw_at lw_m2 96 rfl) rfl
theorem q439 : (Jvm.Cond.privateMethod ({ cls := "java/util/ArrayList", name := "add", desc := "(Ljava/lang/Object;[Ljava/lang/Object;I)V" } : Jvm.MethodName)) ∈ lw_tbl := lw_at lw_m2 97 rfl
theorem q440 : (Jvm.Cond.instanceMethod ({ cls := "java/util/ArrayList", name := "add", desc := "(Ljava/lang/Object;[Ljava/lang/Object;I)V" } : Jvm.MethodName)) ∈ lw_all := lw_g (lw_at lw_m2 98 rfl) rfl
theorem q441 : (Jvm.Cond.code ({ cls := "java/util/ArrayList", name := "add", desc := "(Ljava/lang/Object;[Ljava/lang/Object;I)V" } : Jvm.MethodName) prog_54_method_24_code (4 : Nat) (Option.none : Option Jvm.ClassFile.FieldType)) ∈ lw_all := lw_g (lw_at lw_m2 99 rfl) rfl
theorem q442 : (Jvm.Cond.methodLink "java/util/ArrayList" (129 : Nat) ({ cls := "java/util/ArrayList", name := "grow", desc := "()[Ljava/lang/Object;" } : Jvm.MethodName)) ∈ lw_all := lw_g (lw_at lw_m2 100 rfl) rfl
theorem q443 : (Jvm.Cond.privateMethod ({ cls := "java/util/ArrayList", name := "grow", desc := "()[Ljava/lang/Object;" } : Jvm.MethodName)) ∈ lw_tbl := lw_at lw_m2 101 rfl
theorem q444 : (Jvm.Cond.instanceMethod ({ cls := "java/util/ArrayList", name := "grow", desc := "()[Ljava/lang/Object;" } : Jvm.MethodName)) ∈ lw_all := lw_g (lw_at lw_m2 102 rfl) rfl
theorem q445 : (Jvm.Cond.code ({ cls := "java/util/ArrayList", name := "grow", desc := "()[Ljava/lang/Object;" } : Jvm.MethodName) prog_54_method_7_code (1 : Nat) (Option.some (Jvm.ClassFile.FieldType.array (Jvm.ClassFile.FieldType.object "java/lang/Object")))) ∈ lw_all := lw_g (lw_at lw_m2 103 rfl) rfl
theorem q446 : (Jvm.Cond.methodLink "java/util/ArrayList" (69 : Nat) ({ cls := "java/util/ArrayList", name := "grow", desc := "(I)[Ljava/lang/Object;" } : Jvm.MethodName)) ∈ lw_all := lw_g (lw_at lw_m2 104 rfl) rfl
theorem q447 : (Jvm.Cond.privateMethod ({ cls := "java/util/ArrayList", name := "grow", desc := "(I)[Ljava/lang/Object;" } : Jvm.MethodName)) ∈ lw_tbl := lw_at lw_m2 105 rfl
theorem q448 : (Jvm.Cond.instanceMethod ({ cls := "java/util/ArrayList", name := "grow", desc := "(I)[Ljava/lang/Object;" } : Jvm.MethodName)) ∈ lw_all := lw_g (lw_at lw_m2 106 rfl) rfl
theorem q449 : (Jvm.Cond.code ({ cls := "java/util/ArrayList", name := "grow", desc := "(I)[Ljava/lang/Object;" } : Jvm.MethodName) prog_54_method_6_code (4 : Nat) (Option.some (Jvm.ClassFile.FieldType.array (Jvm.ClassFile.FieldType.object "java/lang/Object")))) ∈ lw_all := lw_g (lw_at lw_m2 107 rfl) rfl
theorem q450 : (Jvm.Cond.methodLink "java/util/ArrayList" (73 : Nat) ({ cls := "jdk/internal/util/ArraysSupport", name := "newLength", desc := "(III)I" } : Jvm.MethodName)) ∈ lw_all := lw_g (lw_at lw_m2 108 rfl) rfl
theorem q460 : (Jvm.Cond.methodLink "java/util/ArrayList" (66 : Nat) ({ cls := "java/util/Arrays", name := "copyOf", desc := "([Ljava/lang/Object;I)[Ljava/lang/Object;" } : Jvm.MethodName)) ∈ lw_all := lw_g (lw_at lw_m2 118 rfl) rfl
theorem q496 : (Jvm.Cond.selects "java/util/ArrayList" ({ cls := "java/lang/Object", name := "getClass", desc := "()Ljava/lang/Class;" } : Jvm.MethodName) ({ cls := "java/lang/Object", name := "getClass", desc := "()Ljava/lang/Class;" } : Jvm.MethodName)) ∈ lw_all := lw_g (lw_at lw_m2 154 rfl) rfl
theorem q509 : (Jvm.Cond.methodLink "java/util/ArrayList" (79 : Nat) ({ cls := "java/lang/Math", name := "max", desc := "(II)I" } : Jvm.MethodName)) ∈ lw_all := lw_g (lw_at lw_m2 167 rfl) rfl
theorem q524 : (Jvm.Cond.instanceMethod ({ cls := "java/util/ArrayList", name := "get", desc := "(I)Ljava/lang/Object;" } : Jvm.MethodName)) ∈ lw_all := lw_g (lw_at lw_m2 182 rfl) rfl
theorem q525 : (Jvm.Cond.selects "java/util/ArrayList" ({ cls := "java/util/ArrayList", name := "get", desc := "(I)Ljava/lang/Object;" } : Jvm.MethodName) ({ cls := "java/util/ArrayList", name := "get", desc := "(I)Ljava/lang/Object;" } : Jvm.MethodName)) ∈ lw_all := lw_g (lw_at lw_m2 183 rfl) rfl
theorem q526 : (Jvm.Cond.code ({ cls := "java/util/ArrayList", name := "get", desc := "(I)Ljava/lang/Object;" } : Jvm.MethodName) prog_54_method_20_code (2 : Nat) (Option.some (Jvm.ClassFile.FieldType.object "java/lang/Object"))) ∈ lw_all := lw_g (lw_at lw_m2 184 rfl) rfl
theorem q527 : (Jvm.Cond.methodLink "java/util/ArrayList" (118 : Nat) ({ cls := "java/util/Objects", name := "checkIndex", desc := "(II)I" } : Jvm.MethodName)) ∈ lw_all := lw_g (lw_at lw_m2 185 rfl) rfl
theorem q533 : (Jvm.Cond.methodLink "java/util/ArrayList" (123 : Nat) ({ cls := "java/util/ArrayList", name := "elementData", desc := "(I)Ljava/lang/Object;" } : Jvm.MethodName)) ∈ lw_all := lw_g (lw_at lw_m2 191 rfl) rfl
theorem q534 : (Jvm.Cond.instanceMethod ({ cls := "java/util/ArrayList", name := "elementData", desc := "(I)Ljava/lang/Object;" } : Jvm.MethodName)) ∈ lw_all := lw_g (lw_at lw_m2 192 rfl) rfl
theorem q535 : (Jvm.Cond.selects "java/util/ArrayList" ({ cls := "java/util/ArrayList", name := "elementData", desc := "(I)Ljava/lang/Object;" } : Jvm.MethodName) ({ cls := "java/util/ArrayList", name := "elementData", desc := "(I)Ljava/lang/Object;" } : Jvm.MethodName)) ∈ lw_all := lw_g (lw_at lw_m2 193 rfl) rfl
theorem q536 : (Jvm.Cond.code ({ cls := "java/util/ArrayList", name := "elementData", desc := "(I)Ljava/lang/Object;" } : Jvm.MethodName) prog_54_method_18_code (2 : Nat) (Option.some (Jvm.ClassFile.FieldType.object "java/lang/Object"))) ∈ lw_all := lw_g (lw_at lw_m2 194 rfl) rfl
theorem q1350 : (Jvm.Cond.instanceMethod ({ cls := "java/util/ArrayList", name := "clear", desc := "()V" } : Jvm.MethodName)) ∈ lw_all := lw_g (lw_at lw_m6 48 rfl) rfl
theorem q1351 : (Jvm.Cond.selects "java/util/ArrayList" ({ cls := "java/util/ArrayList", name := "clear", desc := "()V" } : Jvm.MethodName) ({ cls := "java/util/ArrayList", name := "clear", desc := "()V" } : Jvm.MethodName)) ∈ lw_all := lw_g (lw_at lw_m6 49 rfl) rfl
theorem q1352 : (Jvm.Cond.code ({ cls := "java/util/ArrayList", name := "clear", desc := "()V" } : Jvm.MethodName) prog_54_method_40_code (4 : Nat) (Option.none : Option Jvm.ClassFile.FieldType)) ∈ lw_all := lw_g (lw_at lw_m6 50 rfl) rfl
theorem q1381 : (Jvm.Cond.instanceMethod ({ cls := "java/util/ArrayList", name := "remove", desc := "(I)Ljava/lang/Object;" } : Jvm.MethodName)) ∈ lw_all := lw_g (lw_at lw_m6 79 rfl) rfl
theorem q1382 : (Jvm.Cond.selects "java/util/ArrayList" ({ cls := "java/util/ArrayList", name := "remove", desc := "(I)Ljava/lang/Object;" } : Jvm.MethodName) ({ cls := "java/util/ArrayList", name := "remove", desc := "(I)Ljava/lang/Object;" } : Jvm.MethodName)) ∈ lw_all := lw_g (lw_at lw_m6 80 rfl) rfl
theorem q1383 : (Jvm.Cond.code ({ cls := "java/util/ArrayList", name := "remove", desc := "(I)Ljava/lang/Object;" } : Jvm.MethodName) prog_54_method_29_code (4 : Nat) (Option.some (Jvm.ClassFile.FieldType.object "java/lang/Object"))) ∈ lw_all := lw_g (lw_at lw_m6 81 rfl) rfl
theorem q1384 : (Jvm.Cond.methodLink "java/util/ArrayList" (144 : Nat) ({ cls := "java/util/ArrayList", name := "fastRemove", desc := "([Ljava/lang/Object;I)V" } : Jvm.MethodName)) ∈ lw_all := lw_g (lw_at lw_m6 82 rfl) rfl
theorem q1385 : (Jvm.Cond.privateMethod ({ cls := "java/util/ArrayList", name := "fastRemove", desc := "([Ljava/lang/Object;I)V" } : Jvm.MethodName)) ∈ lw_tbl := lw_at lw_m6 83 rfl
theorem q1386 : (Jvm.Cond.instanceMethod ({ cls := "java/util/ArrayList", name := "fastRemove", desc := "([Ljava/lang/Object;I)V" } : Jvm.MethodName)) ∈ lw_all := lw_g (lw_at lw_m6 84 rfl) rfl
theorem q1387 : (Jvm.Cond.code ({ cls := "java/util/ArrayList", name := "fastRemove", desc := "([Ljava/lang/Object;I)V" } : Jvm.MethodName) prog_54_method_39_code (4 : Nat) (Option.none : Option Jvm.ClassFile.FieldType)) ∈ lw_all := lw_g (lw_at lw_m6 85 rfl) rfl
theorem q1388 : (Jvm.Cond.methodLink "java/util/ArrayList" (112 : Nat) ({ cls := "java/lang/System", name := "arraycopy", desc := "(Ljava/lang/Object;ILjava/lang/Object;II)V" } : Jvm.MethodName)) ∈ lw_all := lw_g (lw_at lw_m6 86 rfl) rfl
theorem q1508 : (Jvm.Cond.instanceMethod ({ cls := "java/util/ArrayList", name := "addAll", desc := "(Ljava/util/Collection;)Z" } : Jvm.MethodName)) ∈ lw_all := lw_g (lw_at lw_m6 206 rfl) rfl
theorem q1509 : (Jvm.Cond.selects "java/util/ArrayList" ({ cls := "java/util/ArrayList", name := "addAll", desc := "(Ljava/util/Collection;)Z" } : Jvm.MethodName) ({ cls := "java/util/ArrayList", name := "addAll", desc := "(Ljava/util/Collection;)Z" } : Jvm.MethodName)) ∈ lw_all := lw_g (lw_at lw_m6 207 rfl) rfl
theorem q1510 : (Jvm.Cond.code ({ cls := "java/util/ArrayList", name := "addAll", desc := "(Ljava/util/Collection;)Z" } : Jvm.MethodName) prog_54_method_41_code (6 : Nat) (Option.some Jvm.ClassFile.FieldType.boolean)) ∈ lw_all := lw_g (lw_at lw_m6 208 rfl) rfl
theorem q1511 : (Jvm.Cond.interfaceEntry "java/util/ArrayList" (42 : Nat)) ∈ lw_tbl := lw_at lw_m6 209 rfl
theorem q1512 : (Jvm.Cond.methodLink "java/util/ArrayList" (42 : Nat) ({ cls := "java/util/Collection", name := "toArray", desc := "()[Ljava/lang/Object;" } : Jvm.MethodName)) ∈ lw_all := lw_g (lw_at lw_m6 210 rfl) rfl
theorem q1515 : (Jvm.Cond.castable "java/util/ArrayList" "java/util/Collection") ∈ lw_tbl := lw_at lw_m6 213 rfl
theorem q1516 : (Jvm.Cond.selects "java/util/ArrayList" ({ cls := "java/util/Collection", name := "toArray", desc := "()[Ljava/lang/Object;" } : Jvm.MethodName) ({ cls := "java/util/ArrayList", name := "toArray", desc := "()[Ljava/lang/Object;" } : Jvm.MethodName)) ∈ lw_all := lw_g (lw_at lw_m6 214 rfl) rfl
theorem q1517 : (Jvm.Cond.unhidden "java/util/ArrayList" "toArray" "()[Ljava/lang/Object;") ∈ lw_tbl := lw_at lw_m6 215 rfl
theorem q1518 : (Jvm.Cond.instanceMethod ({ cls := "java/util/ArrayList", name := "toArray", desc := "()[Ljava/lang/Object;" } : Jvm.MethodName)) ∈ lw_all := lw_g (lw_at lw_m6 216 rfl) rfl
theorem q1519 : (Jvm.Cond.publicMethod ({ cls := "java/util/ArrayList", name := "toArray", desc := "()[Ljava/lang/Object;" } : Jvm.MethodName)) ∈ lw_tbl := lw_at lw_m6 217 rfl
theorem q1520 : (Jvm.Cond.code ({ cls := "java/util/ArrayList", name := "toArray", desc := "()[Ljava/lang/Object;" } : Jvm.MethodName) prog_54_method_16_code (1 : Nat) (Option.some (Jvm.ClassFile.FieldType.array (Jvm.ClassFile.FieldType.object "java/lang/Object")))) ∈ lw_all := lw_g (lw_at lw_m6 218 rfl) rfl
theorem q2270 : (Jvm.Cond.castable "java/util/ArrayList" "java/lang/Object") ∈ lw_tbl := lw_at lw_m10 8 rfl
theorem in_J2 : ∀ w ∈ wsJ20, w ∈ lw_all := lw_in wsJ20 [193, 189, 191] (by decide +kernel) (by decide +kernel)
/-! jdk/internal/util/ArraysSupport -/
def RJ3 : String := "jdk/internal/util/ArraysSupport"
theorem q115 : (Jvm.Cond.initialized "jdk/internal/util/ArraysSupport") ∈ lw_all := lw_g (lw_at lw_m1 13 rfl) rfl
theorem q451 : (Jvm.Cond.static ({ cls := "jdk/internal/util/ArraysSupport", name := "newLength", desc := "(III)I" } : Jvm.MethodName)) ∈ lw_all := lw_g (lw_at lw_m2 109 rfl) rfl
theorem q452 : (Jvm.Cond.code ({ cls := "jdk/internal/util/ArraysSupport", name := "newLength", desc := "(III)I" } : Jvm.MethodName) prog_61_method_27_code (4 : Nat) (Option.some Jvm.ClassFile.FieldType.int)) ∈ lw_all := lw_g (lw_at lw_m2 110 rfl) rfl
theorem q453 : (Jvm.Cond.methodLink "jdk/internal/util/ArraysSupport" (194 : Nat) ({ cls := "java/lang/Math", name := "max", desc := "(II)I" } : Jvm.MethodName)) ∈ lw_all := lw_g (lw_at lw_m2 111 rfl) rfl
theorem q456 : (Jvm.Cond.constant "jdk/internal/util/ArraysSupport" (200 : Nat) (2147483639 : Int32)) ∈ lw_all := lw_g (lw_at lw_m2 114 rfl) rfl
theorem q457 : (Jvm.Cond.methodLink "jdk/internal/util/ArraysSupport" (201 : Nat) ({ cls := "jdk/internal/util/ArraysSupport", name := "hugeLength", desc := "(II)I" } : Jvm.MethodName)) ∈ lw_all := lw_g (lw_at lw_m2 115 rfl) rfl
theorem q458 : (Jvm.Cond.static ({ cls := "jdk/internal/util/ArraysSupport", name := "hugeLength", desc := "(II)I" } : Jvm.MethodName)) ∈ lw_all := lw_g (lw_at lw_m2 116 rfl) rfl
theorem q459 : (Jvm.Cond.code ({ cls := "jdk/internal/util/ArraysSupport", name := "hugeLength", desc := "(II)I" } : Jvm.MethodName) prog_61_method_28_code (3 : Nat) (Option.some Jvm.ClassFile.FieldType.int)) ∈ lw_all := lw_g (lw_at lw_m2 117 rfl) rfl
/-! java/lang/Math -/
def RJ4 : String := "java/lang/Math"
theorem q116 : (Jvm.Cond.initialized "java/lang/Math") ∈ lw_all := lw_g (lw_at lw_m1 14 rfl) rfl
theorem q454 : (Jvm.Cond.static ({ cls := "java/lang/Math", name := "max", desc := "(II)I" } : Jvm.MethodName)) ∈ lw_all := lw_g (lw_at lw_m2 112 rfl) rfl
theorem q455 : (Jvm.Cond.code ({ cls := "java/lang/Math", name := "max", desc := "(II)I" } : Jvm.MethodName) prog_44_method_65_code (2 : Nat) (Option.some Jvm.ClassFile.FieldType.int)) ∈ lw_all := lw_g (lw_at lw_m2 113 rfl) rfl
theorem q504 : (Jvm.Cond.static ({ cls := "java/lang/Math", name := "min", desc := "(II)I" } : Jvm.MethodName)) ∈ lw_all := lw_g (lw_at lw_m2 162 rfl) rfl
theorem q505 : (Jvm.Cond.code ({ cls := "java/lang/Math", name := "min", desc := "(II)I" } : Jvm.MethodName) prog_44_method_69_code (2 : Nat) (Option.some Jvm.ClassFile.FieldType.int)) ∈ lw_all := lw_g (lw_at lw_m2 163 rfl) rfl
theorem q1446 : (Jvm.Cond.static ({ cls := "java/lang/Math", name := "min", desc := "(JJ)J" } : Jvm.MethodName)) ∈ lw_all := lw_g (lw_at lw_m6 144 rfl) rfl
theorem q1447 : (Jvm.Cond.code ({ cls := "java/lang/Math", name := "min", desc := "(JJ)J" } : Jvm.MethodName) prog_44_method_70_code (4 : Nat) (Option.some Jvm.ClassFile.FieldType.long)) ∈ lw_all := lw_g (lw_at lw_m6 145 rfl) rfl
/-! java/util/Arrays -/
def RJ5 : String := "java/util/Arrays"
theorem q117 : (Jvm.Cond.initialized "java/util/Arrays") ∈ lw_all := lw_g (lw_at lw_m1 15 rfl) rfl
theorem q461 : (Jvm.Cond.static ({ cls := "java/util/Arrays", name := "copyOf", desc := "([Ljava/lang/Object;I)[Ljava/lang/Object;" } : Jvm.MethodName)) ∈ lw_all := lw_g (lw_at lw_m2 119 rfl) rfl
theorem q462 : (Jvm.Cond.code ({ cls := "java/util/Arrays", name := "copyOf", desc := "([Ljava/lang/Object;I)[Ljava/lang/Object;" } : Jvm.MethodName) prog_55_method_119_code (2 : Nat) (Option.some (Jvm.ClassFile.FieldType.array (Jvm.ClassFile.FieldType.object "java/lang/Object")))) ∈ lw_all := lw_g (lw_at lw_m2 120 rfl) rfl
theorem q463 : (Jvm.Cond.methodLink "java/util/Arrays" (86 : Nat) ({ cls := "java/lang/Object", name := "getClass", desc := "()Ljava/lang/Class;" } : Jvm.MethodName)) ∈ lw_all := lw_g (lw_at lw_m2 121 rfl) rfl
theorem q498 : (Jvm.Cond.methodLink "java/util/Arrays" (300 : Nat) ({ cls := "java/util/Arrays", name := "copyOf", desc := "([Ljava/lang/Object;ILjava/lang/Class;)[Ljava/lang/Object;" } : Jvm.MethodName)) ∈ lw_all := lw_g (lw_at lw_m2 156 rfl) rfl
theorem q499 : (Jvm.Cond.static ({ cls := "java/util/Arrays", name := "copyOf", desc := "([Ljava/lang/Object;ILjava/lang/Class;)[Ljava/lang/Object;" } : Jvm.MethodName)) ∈ lw_all := lw_g (lw_at lw_m2 157 rfl) rfl
theorem q500 : (Jvm.Cond.code ({ cls := "java/util/Arrays", name := "copyOf", desc := "([Ljava/lang/Object;ILjava/lang/Class;)[Ljava/lang/Object;" } : Jvm.MethodName) prog_55_method_120_code (4 : Nat) (Option.some (Jvm.ClassFile.FieldType.array (Jvm.ClassFile.FieldType.object "java/lang/Object")))) ∈ lw_all := lw_g (lw_at lw_m2 158 rfl) rfl
theorem q501 : (Jvm.Cond.classLink "java/util/Arrays" (110 : Nat) "[Ljava/lang/Object;") ∈ lw_all := lw_g (lw_at lw_m2 159 rfl) rfl
theorem q502 : (Jvm.Cond.classLink "java/util/Arrays" (2 : Nat) "java/lang/Object") ∈ lw_all := lw_g (lw_at lw_m2 160 rfl) rfl
theorem q503 : (Jvm.Cond.methodLink "java/util/Arrays" (304 : Nat) ({ cls := "java/lang/Math", name := "min", desc := "(II)I" } : Jvm.MethodName)) ∈ lw_all := lw_g (lw_at lw_m2 161 rfl) rfl
theorem q506 : (Jvm.Cond.methodLink "java/util/Arrays" (150 : Nat) ({ cls := "java/lang/System", name := "arraycopy", desc := "(Ljava/lang/Object;ILjava/lang/Object;II)V" } : Jvm.MethodName)) ∈ lw_all := lw_g (lw_at lw_m2 164 rfl) rfl
theorem q696 : (Jvm.Cond.static ({ cls := "java/util/Arrays", name := "copyOf", desc := "([BI)[B" } : Jvm.MethodName)) ∈ lw_all := lw_g (lw_at lw_m3 114 rfl) rfl
theorem q697 : (Jvm.Cond.code ({ cls := "java/util/Arrays", name := "copyOf", desc := "([BI)[B" } : Jvm.MethodName) prog_55_method_121_code (3 : Nat) (Option.some (Jvm.ClassFile.FieldType.array Jvm.ClassFile.FieldType.byte))) ∈ lw_all := lw_g (lw_at lw_m3 115 rfl) rfl
theorem q698 : (Jvm.Cond.methodLink "java/util/Arrays" (310 : Nat) ({ cls := "[B", name := "clone", desc := "()Ljava/lang/Object;" } : Jvm.MethodName)) ∈ lw_all := lw_g (lw_at lw_m3 116 rfl) rfl
theorem q704 : (Jvm.Cond.classLink "java/util/Arrays" (311 : Nat) "[B") ∈ lw_all := lw_g (lw_at lw_m3 122 rfl) rfl
theorem q777 : (Jvm.Cond.static ({ cls := "java/util/Arrays", name := "copyOfRange", desc := "([BII)[B" } : Jvm.MethodName)) ∈ lw_all := lw_g (lw_at lw_m3 195 rfl) rfl
theorem q778 : (Jvm.Cond.code ({ cls := "java/util/Arrays", name := "copyOfRange", desc := "([BII)[B" } : Jvm.MethodName) prog_55_method_132_code (3 : Nat) (Option.some (Jvm.ClassFile.FieldType.array Jvm.ClassFile.FieldType.byte))) ∈ lw_all := lw_g (lw_at lw_m3 196 rfl) rfl
theorem q779 : (Jvm.Cond.methodLink "java/util/Arrays" (339 : Nat) ({ cls := "java/util/Arrays", name := "copyOfRangeByte", desc := "([BII)[B" } : Jvm.MethodName)) ∈ lw_all := lw_g (lw_at lw_m3 197 rfl) rfl
theorem q780 : (Jvm.Cond.static ({ cls := "java/util/Arrays", name := "copyOfRangeByte", desc := "([BII)[B" } : Jvm.MethodName)) ∈ lw_all := lw_g (lw_at lw_m3 198 rfl) rfl
theorem q781 : (Jvm.Cond.code ({ cls := "java/util/Arrays", name := "copyOfRangeByte", desc := "([BII)[B" } : Jvm.MethodName) prog_55_method_133_code (5 : Nat) (Option.some (Jvm.ClassFile.FieldType.array Jvm.ClassFile.FieldType.byte))) ∈ lw_all := lw_g (lw_at lw_m3 199 rfl) rfl
theorem q782 : (Jvm.Cond.methodLink "java/util/Arrays" (343 : Nat) ({ cls := "java/util/Arrays", name := "checkLength", desc := "(II)V" } : Jvm.MethodName)) ∈ lw_all := lw_g (lw_at lw_m3 200 rfl) rfl
theorem q783 : (Jvm.Cond.static ({ cls := "java/util/Arrays", name := "checkLength", desc := "(II)V" } : Jvm.MethodName)) ∈ lw_all := lw_g (lw_at lw_m3 201 rfl) rfl
theorem q784 : (Jvm.Cond.code ({ cls := "java/util/Arrays", name := "checkLength", desc := "(II)V" } : Jvm.MethodName) prog_55_method_131_code (2 : Nat) (Option.none : Option Jvm.ClassFile.FieldType)) ∈ lw_all := lw_g (lw_at lw_m3 202 rfl) rfl
/-! java/util/Objects -/
def RJ6 : String := "java/util/Objects"
theorem q119 : (Jvm.Cond.initialized "java/util/Objects") ∈ lw_all := lw_g (lw_at lw_m1 17 rfl) rfl
theorem q528 : (Jvm.Cond.static ({ cls := "java/util/Objects", name := "checkIndex", desc := "(II)I" } : Jvm.MethodName)) ∈ lw_all := lw_g (lw_at lw_m2 186 rfl) rfl
theorem q529 : (Jvm.Cond.code ({ cls := "java/util/Objects", name := "checkIndex", desc := "(II)I" } : Jvm.MethodName) prog_58_method_17_code (2 : Nat) (Option.some Jvm.ClassFile.FieldType.int)) ∈ lw_all := lw_g (lw_at lw_m2 187 rfl) rfl
theorem q530 : (Jvm.Cond.methodLink "java/util/Objects" (105 : Nat) ({ cls := "jdk/internal/util/Preconditions", name := "checkIndex", desc := "(IILjava/util/function/BiFunction;)I" } : Jvm.MethodName)) ∈ lw_all := lw_g (lw_at lw_m2 188 rfl) rfl
/-! jdk/internal/util/Preconditions -/
def RJ7 : String := "jdk/internal/util/Preconditions"
theorem q120 : (Jvm.Cond.initialized "jdk/internal/util/Preconditions") ∈ lw_all := lw_g (lw_at lw_m1 18 rfl) rfl
theorem q531 : (Jvm.Cond.static ({ cls := "jdk/internal/util/Preconditions", name := "checkIndex", desc := "(IILjava/util/function/BiFunction;)I" } : Jvm.MethodName)) ∈ lw_all := lw_g (lw_at lw_m2 189 rfl) rfl
theorem q532 : (Jvm.Cond.code ({ cls := "jdk/internal/util/Preconditions", name := "checkIndex", desc := "(IILjava/util/function/BiFunction;)I" } : Jvm.MethodName) prog_62_method_11_code (3 : Nat) (Option.some Jvm.ClassFile.FieldType.int)) ∈ lw_all := lw_g (lw_at lw_m2 190 rfl) rfl
theorem q733 : (Jvm.Cond.laysStatic "jdk/internal/util/Preconditions" "SIOOBE_FORMATTER" "Ljava/util/function/BiFunction;") ∈ lw_tbl := lw_at lw_m3 151 rfl
theorem q735 : (Jvm.Cond.static ({ cls := "jdk/internal/util/Preconditions", name := "checkFromIndexSize", desc := "(IIILjava/util/function/BiFunction;)I" } : Jvm.MethodName)) ∈ lw_all := lw_g (lw_at lw_m3 153 rfl) rfl
theorem q736 : (Jvm.Cond.code ({ cls := "jdk/internal/util/Preconditions", name := "checkFromIndexSize", desc := "(IIILjava/util/function/BiFunction;)I" } : Jvm.MethodName) prog_62_method_13_code (4 : Nat) (Option.some Jvm.ClassFile.FieldType.int)) ∈ lw_all := lw_g (lw_at lw_m3 154 rfl) rfl
theorem q1041 : (Jvm.Cond.static ({ cls := "jdk/internal/util/Preconditions", name := "checkFromToIndex", desc := "(IIILjava/util/function/BiFunction;)I" } : Jvm.MethodName)) ∈ lw_all := lw_g (lw_at lw_m4 219 rfl) rfl
theorem q1042 : (Jvm.Cond.code ({ cls := "jdk/internal/util/Preconditions", name := "checkFromToIndex", desc := "(IIILjava/util/function/BiFunction;)I" } : Jvm.MethodName) prog_62_method_12_code (4 : Nat) (Option.some Jvm.ClassFile.FieldType.int)) ∈ lw_all := lw_g (lw_at lw_m4 220 rfl) rfl
/-! java/lang/Number -/
def RJ8 : String := "java/lang/Number"
theorem q122 : (Jvm.Cond.initialized "java/lang/Number") ∈ lw_all := lw_g (lw_at lw_m1 20 rfl) rfl
theorem q1373 : (Jvm.Cond.instanceMethod ({ cls := "java/lang/Number", name := "<init>", desc := "()V" } : Jvm.MethodName)) ∈ lw_all := lw_g (lw_at lw_m6 71 rfl) rfl
theorem q1374 : (Jvm.Cond.code ({ cls := "java/lang/Number", name := "<init>", desc := "()V" } : Jvm.MethodName) prog_45_method_1_code (1 : Nat) (Option.none : Option Jvm.ClassFile.FieldType)) ∈ lw_all := lw_g (lw_at lw_m6 72 rfl) rfl
theorem q1375 : (Jvm.Cond.methodLink "java/lang/Number" (1 : Nat) ({ cls := "java/lang/Object", name := "<init>", desc := "()V" } : Jvm.MethodName)) ∈ lw_all := lw_g (lw_at lw_m6 73 rfl) rfl
/-! java/lang/Long -/
def RJ9 : String := "java/lang/Long"
theorem q123 : (Jvm.Cond.initialized "java/lang/Long") ∈ lw_all := lw_g (lw_at lw_m1 21 rfl) rfl
theorem q1440 : (Jvm.Cond.static ({ cls := "java/lang/Long", name := "bitCount", desc := "(J)I" } : Jvm.MethodName)) ∈ lw_all := lw_g (lw_at lw_m6 138 rfl) rfl
theorem q1441 : (Jvm.Cond.code ({ cls := "java/lang/Long", name := "bitCount", desc := "(J)I" } : Jvm.MethodName) prog_43_method_50_code (2 : Nat) (Option.some Jvm.ClassFile.FieldType.int)) ∈ lw_all := lw_g (lw_at lw_m6 139 rfl) rfl
theorem q1442 : (Jvm.Cond.constantLong "java/lang/Long" (314 : Nat) (6148914691236517205 : Int64)) ∈ lw_all := lw_g (lw_at lw_m6 140 rfl) rfl
theorem q1443 : (Jvm.Cond.constantLong "java/lang/Long" (316 : Nat) (3689348814741910323 : Int64)) ∈ lw_all := lw_g (lw_at lw_m6 141 rfl) rfl
theorem q1444 : (Jvm.Cond.constantLong "java/lang/Long" (318 : Nat) (1085102592571150095 : Int64)) ∈ lw_all := lw_g (lw_at lw_m6 142 rfl) rfl
/-! VillageStories -/
def RX0 : String := "VillageStories"
def TX0 : u_T := fun k => match k with
  | 0 => ("VillageStories", "now", "LVillageStories$State;", true)
  | 1 => ("VillageStories", "kept", "[LVillageStories$State;", true)
  | 2 => ("VillageStories", "looked", "LVillageStories$World;", true)
  | 3 => ("VillageStories", "broken", "Ljava/util/ArrayList;", true)
  | 4 => ("VillageStories", "table", "[B", true)
  | 5 => ("VillageStories", "least", "[B", true)
  | 6 => ("VillageStories", "isLooked", "Z", false)
  | 7 => ("VillageStories", "mask", "J", false)
  | 8 => ("VillageStories", "as", "J", false)
  | 9 => ("VillageStories", "ways", "[I", true)
  | 10 => ("VillageStories", "byRow", "LVillageStories$Search;", true)
  | 11 => ("VillageStories", "byFar", "LVillageStories$Search;", true)
  | 12 => ("VillageStories", "other", "LVillageStories$Land;", true)
  | _ => ("VillageStories", "asked", "[I", true)
def tyX0 : Nat → FieldType := fun k => match k with
  | 0 => .object "VillageStories$State"
  | 1 => .array (.object "VillageStories$State")
  | 2 => .object "VillageStories$World"
  | 3 => .object "java/util/ArrayList"
  | 4 => .array .byte
  | 5 => .array .byte
  | 6 => .boolean
  | 7 => .long
  | 8 => .long
  | 9 => .array .int
  | 10 => .object "VillageStories$Search"
  | 11 => .object "VillageStories$Search"
  | 12 => .object "VillageStories$Land"
  | _ => .array .int
abbrev wsX00 : List Cond := u_ws RX0 TX0 14
theorem nmX0 : ∀ a, a < 14 → ∀ b, b < 14 → a ≠ b → (TX0 a).2.1 ≠ (TX0 b).2.1 := by decide +kernel
theorem tyX0_ok : ∀ k, k < 14 → parseFieldDescriptor (TX0 k).2.2.1 = some (tyX0 k) := by decide +kernel
theorem q103 : (Jvm.Cond.initialized "VillageStories") ∈ lw_all := lw_g (lw_at lw_m1 1 rfl) rfl
theorem q149 : (Jvm.Cond.instantiable "VillageStories" (14 : Nat)) ∈ lw_all := lw_g (lw_at lw_m1 47 rfl) rfl
theorem q151 : (Jvm.Cond.instanceMethod ({ cls := "VillageStories", name := "<init>", desc := "()V" } : Jvm.MethodName)) ∈ lw_all := lw_g (lw_at lw_m1 49 rfl) rfl
theorem q152 : (Jvm.Cond.code ({ cls := "VillageStories", name := "<init>", desc := "()V" } : Jvm.MethodName) prog_1_method_3_code (1 : Nat) (Option.none : Option Jvm.ClassFile.FieldType)) ∈ lw_all := lw_g (lw_at lw_m1 50 rfl) rfl
theorem q153 : (Jvm.Cond.methodLink "VillageStories" (3 : Nat) ({ cls := "java/lang/Object", name := "<init>", desc := "()V" } : Jvm.MethodName)) ∈ lw_all := lw_g (lw_at lw_m1 51 rfl) rfl
theorem q156 : (Jvm.Cond.classLink "VillageStories" (9 : Nat) "VillageStories$State") ∈ lw_all := lw_g (lw_at lw_m1 54 rfl) rfl
theorem q158 : (Jvm.Cond.methodLinkNest "VillageStories" (11 : Nat) ({ cls := "VillageStories$State", name := "<init>", desc := "()V" } : Jvm.MethodName) "VillageStories") ∈ lw_tbl := lw_at lw_m1 56 rfl
theorem q200 : (Jvm.Cond.fieldLinkNest "VillageStories" (102 : Nat) "VillageStories$Land" "sizes" "[I" "VillageStories") ∈ lw_tbl := lw_at lw_m1 98 rfl
theorem q204 : (Jvm.Cond.fieldLinkNest "VillageStories" (108 : Nat) "VillageStories$Land" "relations" "Ljava/util/ArrayList;" "VillageStories") ∈ lw_tbl := lw_at lw_m1 102 rfl
theorem q218 : (Jvm.Cond.fieldLinkNest "VillageStories" (163 : Nat) "VillageStories$State" "tape" "[B" "VillageStories") ∈ lw_tbl := lw_at lw_m1 116 rfl
theorem q220 : (Jvm.Cond.fieldLinkNest "VillageStories" (160 : Nat) "VillageStories$State" "taped" "I" "VillageStories") ∈ lw_tbl := lw_at lw_m1 118 rfl
theorem q222 : (Jvm.Cond.fieldLinkNest "VillageStories" (166 : Nat) "VillageStories$State" "faultKind" "I" "VillageStories") ∈ lw_tbl := lw_at lw_m1 120 rfl
theorem q224 : (Jvm.Cond.fieldLinkNest "VillageStories" (169 : Nat) "VillageStories$State" "faultPlace" "I" "VillageStories") ∈ lw_tbl := lw_at lw_m1 122 rfl
theorem q226 : (Jvm.Cond.fieldLinkNest "VillageStories" (154 : Nat) "VillageStories$State" "day" "I" "VillageStories") ∈ lw_tbl := lw_at lw_m1 124 rfl
theorem q228 : (Jvm.Cond.fieldLinkNest "VillageStories" (224 : Nat) "VillageStories$State" "view" "I" "VillageStories") ∈ lw_tbl := lw_at lw_m1 126 rfl
theorem q230 : (Jvm.Cond.fieldLinkNest "VillageStories" (211 : Nat) "VillageStories$State" "guessed" "I" "VillageStories") ∈ lw_tbl := lw_at lw_m1 128 rfl
theorem q233 : (Jvm.Cond.fieldLinkNest "VillageStories" (79 : Nat) "VillageStories$State" "row" "J" "VillageStories") ∈ lw_tbl := lw_at lw_m1 131 rfl
theorem q235 : (Jvm.Cond.fieldLinkNest "VillageStories" (292 : Nat) "VillageStories$State" "places" "[J" "VillageStories") ∈ lw_tbl := lw_at lw_m1 133 rfl
theorem q237 : (Jvm.Cond.fieldLinkNest "VillageStories" (83 : Nat) "VillageStories$State" "filled" "I" "VillageStories") ∈ lw_tbl := lw_at lw_m1 135 rfl
theorem q239 : (Jvm.Cond.fieldLinkNest "VillageStories" (72 : Nat) "VillageStories$State" "land" "LVillageStories$Land;" "VillageStories") ∈ lw_tbl := lw_at lw_m1 137 rfl
theorem q241 : (Jvm.Cond.fieldLinkNest "VillageStories" (183 : Nat) "VillageStories$State" "stories" "Ljava/util/ArrayList;" "VillageStories") ∈ lw_tbl := lw_at lw_m1 139 rfl
theorem q243 : (Jvm.Cond.fieldLinkNest "VillageStories" (138 : Nat) "VillageStories$State" "known" "Ljava/util/ArrayList;" "VillageStories") ∈ lw_tbl := lw_at lw_m1 141 rfl
theorem q245 : (Jvm.Cond.fieldLinkNest "VillageStories" (204 : Nat) "VillageStories$State" "guess" "LVillageStories$Part;" "VillageStories") ∈ lw_tbl := lw_at lw_m1 143 rfl
theorem q276 : (Jvm.Cond.classLink "VillageStories" (20 : Nat) "VillageStories$World") ∈ lw_all := lw_g (lw_at lw_m1 174 rfl) rfl
theorem q278 : (Jvm.Cond.methodLinkNest "VillageStories" (22 : Nat) ({ cls := "VillageStories$World", name := "<init>", desc := "()V" } : Jvm.MethodName) "VillageStories") ∈ lw_tbl := lw_at lw_m1 176 rfl
theorem q285 : (Jvm.Cond.fieldLinkNest "VillageStories" (265 : Nat) "VillageStories$World" "land" "LVillageStories$Land;" "VillageStories") ∈ lw_tbl := lw_at lw_m1 183 rfl
theorem q293 : (Jvm.Cond.fieldLinkNest "VillageStories" (259 : Nat) "VillageStories$World" "vars" "[I" "VillageStories") ∈ lw_tbl := lw_at lw_m1 191 rfl
theorem q303 : (Jvm.Cond.classLink "VillageStories" (27 : Nat) "java/util/ArrayList") ∈ lw_all := lw_g (lw_at lw_m1 201 rfl) rfl
theorem q304 : (Jvm.Cond.methodLink "VillageStories" (29 : Nat) ({ cls := "java/util/ArrayList", name := "<init>", desc := "(I)V" } : Jvm.MethodName)) ∈ lw_all := lw_g (lw_at lw_m1 202 rfl) rfl
theorem q305 : (Jvm.Cond.classLink "VillageStories" (47 : Nat) "VillageStories$1") ∈ lw_all := lw_g (lw_at lw_m1 203 rfl) rfl
theorem q307 : (Jvm.Cond.methodLink "VillageStories" (49 : Nat) ({ cls := "VillageStories$1", name := "<init>", desc := "(LVillageStories;)V" } : Jvm.MethodName)) ∈ lw_all := lw_g (lw_at lw_m1 205 rfl) rfl
theorem q324 : (Jvm.Cond.classLink "VillageStories" (56 : Nat) "VillageStories$2") ∈ lw_all := lw_g (lw_at lw_m1 222 rfl) rfl
theorem q326 : (Jvm.Cond.methodLink "VillageStories" (58 : Nat) ({ cls := "VillageStories$2", name := "<init>", desc := "(LVillageStories;)V" } : Jvm.MethodName)) ∈ lw_all := lw_g (lw_at lw_m1 224 rfl) rfl
theorem q336 : (Jvm.Cond.classLink "VillageStories" (62 : Nat) "VillageStories$Land") ∈ lw_all := lw_g (lw_at lw_m1 234 rfl) rfl
theorem q337 : (Jvm.Cond.methodLinkNest "VillageStories" (64 : Nat) ({ cls := "VillageStories$Land", name := "<init>", desc := "()V" } : Jvm.MethodName) "VillageStories") ∈ lw_tbl := lw_at lw_m1 235 rfl
theorem q339 : (Jvm.Cond.fieldLink "VillageStories" (12 : Nat) "VillageStories" "now" "LVillageStories$State;") ∈ lw_all := lw_g (lw_at lw_m1 237 rfl) rfl
theorem q340 : (Jvm.Cond.fieldLink "VillageStories" (16 : Nat) "VillageStories" "kept" "[LVillageStories$State;") ∈ lw_all := lw_g (lw_at lw_m1 238 rfl) rfl
theorem q341 : (Jvm.Cond.fieldLink "VillageStories" (23 : Nat) "VillageStories" "looked" "LVillageStories$World;") ∈ lw_all := lw_g (lw_at lw_m1 239 rfl) rfl
theorem q342 : (Jvm.Cond.fieldLink "VillageStories" (32 : Nat) "VillageStories" "broken" "Ljava/util/ArrayList;") ∈ lw_all := lw_g (lw_at lw_m2 0 rfl) rfl
theorem q343 : (Jvm.Cond.fieldLink "VillageStories" (36 : Nat) "VillageStories" "table" "[B") ∈ lw_all := lw_g (lw_at lw_m2 1 rfl) rfl
theorem q344 : (Jvm.Cond.fieldLink "VillageStories" (40 : Nat) "VillageStories" "least" "[B") ∈ lw_all := lw_g (lw_at lw_m2 2 rfl) rfl
theorem q345 : (Jvm.Cond.fieldLink "VillageStories" (87 : Nat) "VillageStories" "isLooked" "Z") ∈ lw_all := lw_g (lw_at lw_m2 3 rfl) rfl
theorem q346 : (Jvm.Cond.fieldLink "VillageStories" (296 : Nat) "VillageStories" "mask" "J") ∈ lw_all := lw_g (lw_at lw_m2 4 rfl) rfl
theorem q347 : (Jvm.Cond.fieldLink "VillageStories" (299 : Nat) "VillageStories" "as" "J") ∈ lw_all := lw_g (lw_at lw_m2 5 rfl) rfl
theorem q349 : (Jvm.Cond.fieldLink "VillageStories" (43 : Nat) "VillageStories" "ways" "[I") ∈ lw_all := lw_g (lw_at lw_m2 7 rfl) rfl
theorem q350 : (Jvm.Cond.fieldLink "VillageStories" (52 : Nat) "VillageStories" "byRow" "LVillageStories$Search;") ∈ lw_all := lw_g (lw_at lw_m2 8 rfl) rfl
theorem q351 : (Jvm.Cond.fieldLink "VillageStories" (59 : Nat) "VillageStories" "byFar" "LVillageStories$Search;") ∈ lw_all := lw_g (lw_at lw_m2 9 rfl) rfl
theorem q352 : (Jvm.Cond.fieldLink "VillageStories" (65 : Nat) "VillageStories" "other" "LVillageStories$Land;") ∈ lw_all := lw_g (lw_at lw_m2 10 rfl) rfl
theorem q353 : (Jvm.Cond.fieldLink "VillageStories" (69 : Nat) "VillageStories" "asked" "[I") ∈ lw_all := lw_g (lw_at lw_m2 11 rfl) rfl
theorem q354 : (Jvm.Cond.laysFinal "VillageStories" "VillageStories" "now" "LVillageStories$State;") ∈ lw_all := lw_g (lw_at lw_m2 12 rfl) rfl
theorem q355 : (Jvm.Cond.soleField "VillageStories" "now") ∈ lw_all := lw_g (lw_at lw_m2 13 rfl) rfl
theorem q356 : (Jvm.Cond.laysFinal "VillageStories" "VillageStories" "kept" "[LVillageStories$State;") ∈ lw_all := lw_g (lw_at lw_m2 14 rfl) rfl
theorem q357 : (Jvm.Cond.soleField "VillageStories" "kept") ∈ lw_all := lw_g (lw_at lw_m2 15 rfl) rfl
theorem q358 : (Jvm.Cond.laysFinal "VillageStories" "VillageStories" "looked" "LVillageStories$World;") ∈ lw_all := lw_g (lw_at lw_m2 16 rfl) rfl
theorem q359 : (Jvm.Cond.soleField "VillageStories" "looked") ∈ lw_all := lw_g (lw_at lw_m2 17 rfl) rfl
theorem q360 : (Jvm.Cond.laysFinal "VillageStories" "VillageStories" "broken" "Ljava/util/ArrayList;") ∈ lw_all := lw_g (lw_at lw_m2 18 rfl) rfl
theorem q361 : (Jvm.Cond.soleField "VillageStories" "broken") ∈ lw_all := lw_g (lw_at lw_m2 19 rfl) rfl
theorem q362 : (Jvm.Cond.laysFinal "VillageStories" "VillageStories" "table" "[B") ∈ lw_all := lw_g (lw_at lw_m2 20 rfl) rfl
theorem q363 : (Jvm.Cond.soleField "VillageStories" "table") ∈ lw_all := lw_g (lw_at lw_m2 21 rfl) rfl
theorem q364 : (Jvm.Cond.laysFinal "VillageStories" "VillageStories" "least" "[B") ∈ lw_all := lw_g (lw_at lw_m2 22 rfl) rfl
theorem q365 : (Jvm.Cond.soleField "VillageStories" "least") ∈ lw_all := lw_g (lw_at lw_m2 23 rfl) rfl
theorem q366 : (Jvm.Cond.lays "VillageStories" "VillageStories" "isLooked" "Z") ∈ lw_all := lw_g (lw_at lw_m2 24 rfl) rfl
theorem q367 : (Jvm.Cond.soleField "VillageStories" "isLooked") ∈ lw_all := lw_g (lw_at lw_m2 25 rfl) rfl
theorem q368 : (Jvm.Cond.lays "VillageStories" "VillageStories" "mask" "J") ∈ lw_all := lw_g (lw_at lw_m2 26 rfl) rfl
theorem q369 : (Jvm.Cond.soleField "VillageStories" "mask") ∈ lw_all := lw_g (lw_at lw_m2 27 rfl) rfl
theorem q370 : (Jvm.Cond.lays "VillageStories" "VillageStories" "as" "J") ∈ lw_all := lw_g (lw_at lw_m2 28 rfl) rfl
theorem q371 : (Jvm.Cond.soleField "VillageStories" "as") ∈ lw_all := lw_g (lw_at lw_m2 29 rfl) rfl
theorem q372 : (Jvm.Cond.laysFinal "VillageStories" "VillageStories" "ways" "[I") ∈ lw_all := lw_g (lw_at lw_m2 30 rfl) rfl
theorem q373 : (Jvm.Cond.soleField "VillageStories" "ways") ∈ lw_all := lw_g (lw_at lw_m2 31 rfl) rfl
theorem q374 : (Jvm.Cond.laysFinal "VillageStories" "VillageStories" "byRow" "LVillageStories$Search;") ∈ lw_all := lw_g (lw_at lw_m2 32 rfl) rfl
theorem q375 : (Jvm.Cond.soleField "VillageStories" "byRow") ∈ lw_all := lw_g (lw_at lw_m2 33 rfl) rfl
theorem q376 : (Jvm.Cond.laysFinal "VillageStories" "VillageStories" "byFar" "LVillageStories$Search;") ∈ lw_all := lw_g (lw_at lw_m2 34 rfl) rfl
theorem q377 : (Jvm.Cond.soleField "VillageStories" "byFar") ∈ lw_all := lw_g (lw_at lw_m2 35 rfl) rfl
theorem q378 : (Jvm.Cond.laysFinal "VillageStories" "VillageStories" "other" "LVillageStories$Land;") ∈ lw_all := lw_g (lw_at lw_m2 36 rfl) rfl
theorem q379 : (Jvm.Cond.soleField "VillageStories" "other") ∈ lw_all := lw_g (lw_at lw_m2 37 rfl) rfl
theorem q380 : (Jvm.Cond.laysFinal "VillageStories" "VillageStories" "asked" "[I") ∈ lw_all := lw_g (lw_at lw_m2 38 rfl) rfl
theorem q381 : (Jvm.Cond.soleField "VillageStories" "asked") ∈ lw_all := lw_g (lw_at lw_m2 39 rfl) rfl
theorem q382 : (Jvm.Cond.superclass "VillageStories" "java/lang/Object") ∈ lw_all := lw_g (lw_at lw_m2 40 rfl) rfl
theorem q384 : (Jvm.Cond.instanceMethod ({ cls := "VillageStories", name := "size", desc := "(II)Z" } : Jvm.MethodName)) ∈ lw_all := lw_g (lw_at lw_m2 42 rfl) rfl
theorem q385 : (Jvm.Cond.selects "VillageStories" ({ cls := "VillageStories", name := "size", desc := "(II)Z" } : Jvm.MethodName) ({ cls := "VillageStories", name := "size", desc := "(II)Z" } : Jvm.MethodName)) ∈ lw_all := lw_g (lw_at lw_m2 43 rfl) rfl
theorem q386 : (Jvm.Cond.code ({ cls := "VillageStories", name := "size", desc := "(II)Z" } : Jvm.MethodName) prog_1_method_7_code (3 : Nat) (Option.some Jvm.ClassFile.FieldType.boolean)) ∈ lw_all := lw_g (lw_at lw_m2 44 rfl) rfl
theorem q387 : (Jvm.Cond.methodLink "VillageStories" (91 : Nat) ({ cls := "VillageStories", name := "isKind", desc := "(I)Z" } : Jvm.MethodName)) ∈ lw_all := lw_g (lw_at lw_m2 45 rfl) rfl
theorem q388 : (Jvm.Cond.static ({ cls := "VillageStories", name := "isKind", desc := "(I)Z" } : Jvm.MethodName)) ∈ lw_all := lw_g (lw_at lw_m2 46 rfl) rfl
theorem q389 : (Jvm.Cond.code ({ cls := "VillageStories", name := "isKind", desc := "(I)Z" } : Jvm.MethodName) prog_1_method_5_code (1 : Nat) (Option.some Jvm.ClassFile.FieldType.boolean)) ∈ lw_all := lw_g (lw_at lw_m2 47 rfl) rfl
theorem q390 : (Jvm.Cond.methodLink "VillageStories" (75 : Nat) ({ cls := "VillageStories", name := "isIn", desc := "(III)Z" } : Jvm.MethodName)) ∈ lw_all := lw_g (lw_at lw_m2 48 rfl) rfl
theorem q391 : (Jvm.Cond.static ({ cls := "VillageStories", name := "isIn", desc := "(III)Z" } : Jvm.MethodName)) ∈ lw_all := lw_g (lw_at lw_m2 49 rfl) rfl
theorem q392 : (Jvm.Cond.code ({ cls := "VillageStories", name := "isIn", desc := "(III)Z" } : Jvm.MethodName) prog_1_method_1_code (3 : Nat) (Option.some Jvm.ClassFile.FieldType.boolean)) ∈ lw_all := lw_g (lw_at lw_m2 50 rfl) rfl
theorem q393 : (Jvm.Cond.methodLink "VillageStories" (95 : Nat) ({ cls := "VillageStories", name := "land", desc := "()LVillageStories$Land;" } : Jvm.MethodName)) ∈ lw_all := lw_g (lw_at lw_m2 51 rfl) rfl
theorem q394 : (Jvm.Cond.privateMethod ({ cls := "VillageStories", name := "land", desc := "()LVillageStories$Land;" } : Jvm.MethodName)) ∈ lw_tbl := lw_at lw_m2 52 rfl
theorem q395 : (Jvm.Cond.instanceMethod ({ cls := "VillageStories", name := "land", desc := "()LVillageStories$Land;" } : Jvm.MethodName)) ∈ lw_all := lw_g (lw_at lw_m2 53 rfl) rfl
theorem q396 : (Jvm.Cond.code ({ cls := "VillageStories", name := "land", desc := "()LVillageStories$Land;" } : Jvm.MethodName) prog_1_method_4_code (1 : Nat) (Option.some (Jvm.ClassFile.FieldType.object "VillageStories$Land"))) ∈ lw_all := lw_g (lw_at lw_m2 54 rfl) rfl
theorem q397 : (Jvm.Cond.methodLink "VillageStories" (98 : Nat) ({ cls := "VillageStories$Land", name := "size", desc := "(I)I" } : Jvm.MethodName)) ∈ lw_all := lw_g (lw_at lw_m2 55 rfl) rfl
theorem q401 : (Jvm.Cond.methodLink "VillageStories" (105 : Nat) ({ cls := "VillageStories", name := "changes", desc := "()V" } : Jvm.MethodName)) ∈ lw_all := lw_g (lw_at lw_m2 59 rfl) rfl
theorem q402 : (Jvm.Cond.privateMethod ({ cls := "VillageStories", name := "changes", desc := "()V" } : Jvm.MethodName)) ∈ lw_tbl := lw_at lw_m2 60 rfl
theorem q403 : (Jvm.Cond.instanceMethod ({ cls := "VillageStories", name := "changes", desc := "()V" } : Jvm.MethodName)) ∈ lw_all := lw_g (lw_at lw_m2 61 rfl) rfl
theorem q404 : (Jvm.Cond.code ({ cls := "VillageStories", name := "changes", desc := "()V" } : Jvm.MethodName) prog_1_method_6_code (1 : Nat) (Option.none : Option Jvm.ClassFile.FieldType)) ∈ lw_all := lw_g (lw_at lw_m2 62 rfl) rfl
theorem q406 : (Jvm.Cond.instanceMethod ({ cls := "VillageStories", name := "relation", desc := "(II)I" } : Jvm.MethodName)) ∈ lw_all := lw_g (lw_at lw_m2 64 rfl) rfl
theorem q407 : (Jvm.Cond.selects "VillageStories" ({ cls := "VillageStories", name := "relation", desc := "(II)I" } : Jvm.MethodName) ({ cls := "VillageStories", name := "relation", desc := "(II)I" } : Jvm.MethodName)) ∈ lw_all := lw_g (lw_at lw_m2 65 rfl) rfl
theorem q408 : (Jvm.Cond.code ({ cls := "VillageStories", name := "relation", desc := "(II)I" } : Jvm.MethodName) prog_1_method_8_code (3 : Nat) (Option.some Jvm.ClassFile.FieldType.int)) ∈ lw_all := lw_g (lw_at lw_m2 66 rfl) rfl
theorem q409 : (Jvm.Cond.methodLink "VillageStories" (111 : Nat) ({ cls := "java/util/ArrayList", name := "size", desc := "()I" } : Jvm.MethodName)) ∈ lw_all := lw_g (lw_at lw_m2 67 rfl) rfl
theorem q413 : (Jvm.Cond.classLink "VillageStories" (114 : Nat) "VillageStories$Relation") ∈ lw_all := lw_g (lw_at lw_m2 71 rfl) rfl
theorem q415 : (Jvm.Cond.methodLink "VillageStories" (116 : Nat) ({ cls := "VillageStories$Relation", name := "<init>", desc := "(II)V" } : Jvm.MethodName)) ∈ lw_all := lw_g (lw_at lw_m2 73 rfl) rfl
theorem q424 : (Jvm.Cond.fieldLinkNest "VillageStories" (326 : Nat) "VillageStories$Relation" "first" "I" "VillageStories") ∈ lw_tbl := lw_at lw_m2 82 rfl
theorem q428 : (Jvm.Cond.fieldLinkNest "VillageStories" (329 : Nat) "VillageStories$Relation" "second" "I" "VillageStories") ∈ lw_tbl := lw_at lw_m2 86 rfl
theorem q434 : (Jvm.Cond.methodLink "VillageStories" (119 : Nat) ({ cls := "java/util/ArrayList", name := "add", desc := "(Ljava/lang/Object;)Z" } : Jvm.MethodName)) ∈ lw_all := lw_g (lw_at lw_m2 92 rfl) rfl
theorem q466 : (Jvm.Cond.selects "VillageStories" ({ cls := "java/lang/Object", name := "getClass", desc := "()Ljava/lang/Class;" } : Jvm.MethodName) ({ cls := "java/lang/Object", name := "getClass", desc := "()Ljava/lang/Class;" } : Jvm.MethodName)) ∈ lw_all := lw_g (lw_at lw_m2 124 rfl) rfl
theorem q511 : (Jvm.Cond.instanceMethod ({ cls := "VillageStories", name := "facts", desc := "()I" } : Jvm.MethodName)) ∈ lw_all := lw_g (lw_at lw_m2 169 rfl) rfl
theorem q512 : (Jvm.Cond.selects "VillageStories" ({ cls := "VillageStories", name := "facts", desc := "()I" } : Jvm.MethodName) ({ cls := "VillageStories", name := "facts", desc := "()I" } : Jvm.MethodName)) ∈ lw_all := lw_g (lw_at lw_m2 170 rfl) rfl
theorem q513 : (Jvm.Cond.code ({ cls := "VillageStories", name := "facts", desc := "()I" } : Jvm.MethodName) prog_1_method_9_code (1 : Nat) (Option.some Jvm.ClassFile.FieldType.int)) ∈ lw_all := lw_g (lw_at lw_m2 171 rfl) rfl
theorem q514 : (Jvm.Cond.methodLink "VillageStories" (123 : Nat) ({ cls := "VillageStories$Land", name := "facts", desc := "()I" } : Jvm.MethodName)) ∈ lw_all := lw_g (lw_at lw_m2 172 rfl) rfl
theorem q543 : (Jvm.Cond.instanceMethod ({ cls := "VillageStories", name := "tell", desc := "(IIIZ)Z" } : Jvm.MethodName)) ∈ lw_all := lw_g (lw_at lw_m2 201 rfl) rfl
theorem q544 : (Jvm.Cond.selects "VillageStories" ({ cls := "VillageStories", name := "tell", desc := "(IIIZ)Z" } : Jvm.MethodName) ({ cls := "VillageStories", name := "tell", desc := "(IIIZ)Z" } : Jvm.MethodName)) ∈ lw_all := lw_g (lw_at lw_m2 202 rfl) rfl
theorem q545 : (Jvm.Cond.code ({ cls := "VillageStories", name := "tell", desc := "(IIIZ)Z" } : Jvm.MethodName) prog_1_method_12_code (6 : Nat) (Option.some Jvm.ClassFile.FieldType.boolean)) ∈ lw_all := lw_g (lw_at lw_m2 203 rfl) rfl
theorem q546 : (Jvm.Cond.methodLink "VillageStories" (131 : Nat) ({ cls := "VillageStories$Land", name := "fact", desc := "(III)I" } : Jvm.MethodName)) ∈ lw_all := lw_g (lw_at lw_m2 204 rfl) rfl
theorem q555 : (Jvm.Cond.methodLink "VillageStories" (135 : Nat) ({ cls := "VillageStories", name := "isHere", desc := "(I)Z" } : Jvm.MethodName)) ∈ lw_all := lw_g (lw_at lw_m2 213 rfl) rfl
theorem q556 : (Jvm.Cond.privateMethod ({ cls := "VillageStories", name := "isHere", desc := "(I)Z" } : Jvm.MethodName)) ∈ lw_tbl := lw_at lw_m2 214 rfl
theorem q557 : (Jvm.Cond.instanceMethod ({ cls := "VillageStories", name := "isHere", desc := "(I)Z" } : Jvm.MethodName)) ∈ lw_all := lw_g (lw_at lw_m2 215 rfl) rfl
theorem q558 : (Jvm.Cond.code ({ cls := "VillageStories", name := "isHere", desc := "(I)Z" } : Jvm.MethodName) prog_1_method_11_code (2 : Nat) (Option.some Jvm.ClassFile.FieldType.boolean)) ∈ lw_all := lw_g (lw_at lw_m2 216 rfl) rfl
theorem q559 : (Jvm.Cond.methodLink "VillageStories" (127 : Nat) ({ cls := "VillageStories", name := "bit", desc := "(I)J" } : Jvm.MethodName)) ∈ lw_all := lw_g (lw_at lw_m2 217 rfl) rfl
theorem q560 : (Jvm.Cond.privateMethod ({ cls := "VillageStories", name := "bit", desc := "(I)J" } : Jvm.MethodName)) ∈ lw_tbl := lw_at lw_m2 218 rfl
theorem q561 : (Jvm.Cond.instanceMethod ({ cls := "VillageStories", name := "bit", desc := "(I)J" } : Jvm.MethodName)) ∈ lw_all := lw_g (lw_at lw_m2 219 rfl) rfl
theorem q562 : (Jvm.Cond.code ({ cls := "VillageStories", name := "bit", desc := "(I)J" } : Jvm.MethodName) prog_1_method_10_code (2 : Nat) (Option.some Jvm.ClassFile.FieldType.long)) ∈ lw_all := lw_g (lw_at lw_m2 220 rfl) rfl
theorem q563 : (Jvm.Cond.methodLink "VillageStories" (126 : Nat) ({ cls := "VillageStories", name := "facts", desc := "()I" } : Jvm.MethodName)) ∈ lw_all := lw_g (lw_at lw_m2 221 rfl) rfl
theorem q565 : (Jvm.Cond.instanceMethod ({ cls := "VillageStories", name := "fact", desc := "(III)I" } : Jvm.MethodName)) ∈ lw_all := lw_g (lw_at lw_m2 223 rfl) rfl
theorem q566 : (Jvm.Cond.selects "VillageStories" ({ cls := "VillageStories", name := "fact", desc := "(III)I" } : Jvm.MethodName) ({ cls := "VillageStories", name := "fact", desc := "(III)I" } : Jvm.MethodName)) ∈ lw_all := lw_g (lw_at lw_m2 224 rfl) rfl
theorem q567 : (Jvm.Cond.code ({ cls := "VillageStories", name := "fact", desc := "(III)I" } : Jvm.MethodName) prog_1_method_13_code (5 : Nat) (Option.some Jvm.ClassFile.FieldType.int)) ∈ lw_all := lw_g (lw_at lw_m2 225 rfl) rfl
theorem q569 : (Jvm.Cond.instanceMethod ({ cls := "VillageStories", name := "known", desc := "(IIIZ)Z" } : Jvm.MethodName)) ∈ lw_all := lw_g (lw_at lw_m2 227 rfl) rfl
theorem q570 : (Jvm.Cond.selects "VillageStories" ({ cls := "VillageStories", name := "known", desc := "(IIIZ)Z" } : Jvm.MethodName) ({ cls := "VillageStories", name := "known", desc := "(IIIZ)Z" } : Jvm.MethodName)) ∈ lw_all := lw_g (lw_at lw_m2 228 rfl) rfl
theorem q571 : (Jvm.Cond.code ({ cls := "VillageStories", name := "known", desc := "(IIIZ)Z" } : Jvm.MethodName) prog_1_method_14_code (6 : Nat) (Option.some Jvm.ClassFile.FieldType.boolean)) ∈ lw_all := lw_g (lw_at lw_m2 229 rfl) rfl
theorem q572 : (Jvm.Cond.methodLink "VillageStories" (141 : Nat) ({ cls := "VillageStories$Land", name := "isRelation", desc := "(I)Z" } : Jvm.MethodName)) ∈ lw_all := lw_g (lw_at lw_m2 230 rfl) rfl
theorem q573 : (Jvm.Cond.methodLink "VillageStories" (144 : Nat) ({ cls := "java/util/ArrayList", name := "get", desc := "(I)Ljava/lang/Object;" } : Jvm.MethodName)) ∈ lw_all := lw_g (lw_at lw_m2 231 rfl) rfl
theorem q574 : (Jvm.Cond.methodLink "VillageStories" (148 : Nat) ({ cls := "VillageStories$Relation", name := "isOfOne", desc := "()Z" } : Jvm.MethodName)) ∈ lw_all := lw_g (lw_at lw_m2 232 rfl) rfl
theorem q575 : (Jvm.Cond.classLink "VillageStories" (152 : Nat) "VillageStories$Known") ∈ lw_all := lw_g (lw_at lw_m2 233 rfl) rfl
theorem q577 : (Jvm.Cond.methodLink "VillageStories" (157 : Nat) ({ cls := "VillageStories$Known", name := "<init>", desc := "(IIIZI)V" } : Jvm.MethodName)) ∈ lw_all := lw_g (lw_at lw_m2 235 rfl) rfl
theorem q582 : (Jvm.Cond.fieldLinkNest "VillageStories" (302 : Nat) "VillageStories$Known" "relation" "I" "VillageStories") ∈ lw_tbl := lw_at lw_m3 0 rfl
theorem q584 : (Jvm.Cond.fieldLinkNest "VillageStories" (305 : Nat) "VillageStories$Known" "i" "I" "VillageStories") ∈ lw_tbl := lw_at lw_m3 2 rfl
theorem q586 : (Jvm.Cond.fieldLinkNest "VillageStories" (308 : Nat) "VillageStories$Known" "j" "I" "VillageStories") ∈ lw_tbl := lw_at lw_m3 4 rfl
theorem q588 : (Jvm.Cond.fieldLinkNest "VillageStories" (311 : Nat) "VillageStories$Known" "day" "I" "VillageStories") ∈ lw_tbl := lw_at lw_m3 6 rfl
theorem q590 : (Jvm.Cond.fieldLinkNest "VillageStories" (312 : Nat) "VillageStories$Known" "is" "Z" "VillageStories") ∈ lw_tbl := lw_at lw_m3 8 rfl
theorem q603 : (Jvm.Cond.instanceMethod ({ cls := "VillageStories", name := "feed", desc := "(IIIII)I" } : Jvm.MethodName)) ∈ lw_all := lw_g (lw_at lw_m3 21 rfl) rfl
theorem q604 : (Jvm.Cond.selects "VillageStories" ({ cls := "VillageStories", name := "feed", desc := "(IIIII)I" } : Jvm.MethodName) ({ cls := "VillageStories", name := "feed", desc := "(IIIII)I" } : Jvm.MethodName)) ∈ lw_all := lw_g (lw_at lw_m3 22 rfl) rfl
theorem q605 : (Jvm.Cond.code ({ cls := "VillageStories", name := "feed", desc := "(IIIII)I" } : Jvm.MethodName) prog_1_method_15_code (8 : Nat) (Option.some Jvm.ClassFile.FieldType.int)) ∈ lw_all := lw_g (lw_at lw_m3 23 rfl) rfl
theorem q607 : (Jvm.Cond.instanceMethod ({ cls := "VillageStories", name := "end", desc := "(I)I" } : Jvm.MethodName)) ∈ lw_all := lw_g (lw_at lw_m3 25 rfl) rfl
theorem q608 : (Jvm.Cond.selects "VillageStories" ({ cls := "VillageStories", name := "end", desc := "(I)I" } : Jvm.MethodName) ({ cls := "VillageStories", name := "end", desc := "(I)I" } : Jvm.MethodName)) ∈ lw_all := lw_g (lw_at lw_m3 26 rfl) rfl
theorem q609 : (Jvm.Cond.code ({ cls := "VillageStories", name := "end", desc := "(I)I" } : Jvm.MethodName) prog_1_method_16_code (2 : Nat) (Option.some Jvm.ClassFile.FieldType.int)) ∈ lw_all := lw_g (lw_at lw_m3 27 rfl) rfl
theorem q611 : (Jvm.Cond.instanceMethod ({ cls := "VillageStories", name := "story", desc := "()I" } : Jvm.MethodName)) ∈ lw_all := lw_g (lw_at lw_m3 29 rfl) rfl
theorem q612 : (Jvm.Cond.selects "VillageStories" ({ cls := "VillageStories", name := "story", desc := "()I" } : Jvm.MethodName) ({ cls := "VillageStories", name := "story", desc := "()I" } : Jvm.MethodName)) ∈ lw_all := lw_g (lw_at lw_m3 30 rfl) rfl
theorem q613 : (Jvm.Cond.codeWith ({ cls := "VillageStories", name := "story", desc := "()I" } : Jvm.MethodName) prog_1_method_19_code (3 : Nat) (Option.some Jvm.ClassFile.FieldType.int) [((23 : Nat), (90 : Nat), (91 : Nat), (173 : Nat))]) ∈ lw_all := lw_g (lw_at lw_m3 31 rfl) rfl
theorem q614 : (Jvm.Cond.classLink "VillageStories" (173 : Nat) "VillageStories$Fault") ∈ lw_all := lw_g (lw_at lw_m3 32 rfl) rfl
theorem q615 : (Jvm.Cond.methodLink "VillageStories" (180 : Nat) ({ cls := "VillageStories", name := "begins", desc := "()I" } : Jvm.MethodName)) ∈ lw_all := lw_g (lw_at lw_m3 33 rfl) rfl
theorem q616 : (Jvm.Cond.privateMethod ({ cls := "VillageStories", name := "begins", desc := "()I" } : Jvm.MethodName)) ∈ lw_tbl := lw_at lw_m3 34 rfl
theorem q617 : (Jvm.Cond.instanceMethod ({ cls := "VillageStories", name := "begins", desc := "()I" } : Jvm.MethodName)) ∈ lw_all := lw_g (lw_at lw_m3 35 rfl) rfl
theorem q618 : (Jvm.Cond.code ({ cls := "VillageStories", name := "begins", desc := "()I" } : Jvm.MethodName) prog_1_method_17_code (2 : Nat) (Option.some Jvm.ClassFile.FieldType.int)) ∈ lw_all := lw_g (lw_at lw_m3 36 rfl) rfl
theorem q619 : (Jvm.Cond.classLink "VillageStories" (186 : Nat) "VillageStories$Story") ∈ lw_all := lw_g (lw_at lw_m3 37 rfl) rfl
theorem q621 : (Jvm.Cond.classLink "VillageStories" (188 : Nat) "VillageStories$Reader") ∈ lw_all := lw_g (lw_at lw_m3 39 rfl) rfl
theorem q623 : (Jvm.Cond.methodLink "VillageStories" (190 : Nat) ({ cls := "VillageStories$Reader", name := "<init>", desc := "([BILjava/util/ArrayList;)V" } : Jvm.MethodName)) ∈ lw_all := lw_g (lw_at lw_m3 41 rfl) rfl
theorem q826 : (Jvm.Cond.fieldLinkNest "VillageStories" (208 : Nat) "VillageStories$Reader" "parts" "I" "VillageStories") ∈ lw_tbl := lw_at lw_m4 4 rfl
theorem q857 : (Jvm.Cond.methodLink "VillageStories" (193 : Nat) ({ cls := "VillageStories$Reader", name := "whole", desc := "()LVillageStories$Part;" } : Jvm.MethodName)) ∈ lw_all := lw_g (lw_at lw_m4 35 rfl) rfl
theorem q915 : (Jvm.Cond.fieldLinkNest "VillageStories" (172 : Nat) "VillageStories$Fault" "kind" "I" "VillageStories") ∈ lw_tbl := lw_at lw_m4 93 rfl
theorem q918 : (Jvm.Cond.fieldLinkNest "VillageStories" (177 : Nat) "VillageStories$Fault" "place" "I" "VillageStories") ∈ lw_tbl := lw_at lw_m4 96 rfl
theorem q936 : (Jvm.Cond.laysStatic "VillageStories" "OFTEN" "[LVillageStories$Often;") ∈ lw_tbl := lw_at lw_m4 114 rfl
theorem q1065 : (Jvm.Cond.laysStatic "VillageStories" "KIND_WORDS" "[Ljava/lang/String;") ∈ lw_tbl := lw_at lw_m5 3 rfl
theorem q1076 : (Jvm.Cond.fieldLinkNest "VillageStories" (250 : Nat) "VillageStories$Each" "often" "LVillageStories$Often;" "VillageStories") ∈ lw_tbl := lw_at lw_m5 14 rfl
theorem q1079 : (Jvm.Cond.fieldLinkNest "VillageStories" (262 : Nat) "VillageStories$Each" "var" "I" "VillageStories") ∈ lw_tbl := lw_at lw_m5 17 rfl
theorem q1081 : (Jvm.Cond.fieldLinkNest "VillageStories" (266 : Nat) "VillageStories$Each" "kind" "I" "VillageStories") ∈ lw_tbl := lw_at lw_m5 19 rfl
theorem q1083 : (Jvm.Cond.fieldLinkNest "VillageStories" (273 : Nat) "VillageStories$Each" "of" "LVillageStories$Part;" "VillageStories") ∈ lw_tbl := lw_at lw_m5 21 rfl
theorem q1096 : (Jvm.Cond.laysStatic "VillageStories" "JOINS" "[LVillageStories$Join;") ∈ lw_tbl := lw_at lw_m5 34 rfl
theorem q1203 : (Jvm.Cond.methodLink "VillageStories" (197 : Nat) ({ cls := "VillageStories$Story", name := "<init>", desc := "(LVillageStories$Part;I)V" } : Jvm.MethodName)) ∈ lw_all := lw_g (lw_at lw_m5 141 rfl) rfl
theorem q1208 : (Jvm.Cond.fieldLinkNest "VillageStories" (241 : Nat) "VillageStories$Story" "part" "LVillageStories$Part;" "VillageStories") ∈ lw_tbl := lw_at lw_m5 146 rfl
theorem q1210 : (Jvm.Cond.fieldLinkNest "VillageStories" (227 : Nat) "VillageStories$Story" "day" "I" "VillageStories") ∈ lw_tbl := lw_at lw_m5 148 rfl
theorem q1212 : (Jvm.Cond.fieldLinkNest "VillageStories" (221 : Nat) "VillageStories$Story" "struck" "I" "VillageStories") ∈ lw_tbl := lw_at lw_m5 150 rfl
theorem q1220 : (Jvm.Cond.methodLink "VillageStories" (200 : Nat) ({ cls := "VillageStories", name := "fails", desc := "(LVillageStories$Fault;)I" } : Jvm.MethodName)) ∈ lw_all := lw_g (lw_at lw_m5 158 rfl) rfl
theorem q1221 : (Jvm.Cond.privateMethod ({ cls := "VillageStories", name := "fails", desc := "(LVillageStories$Fault;)I" } : Jvm.MethodName)) ∈ lw_tbl := lw_at lw_m5 159 rfl
theorem q1222 : (Jvm.Cond.instanceMethod ({ cls := "VillageStories", name := "fails", desc := "(LVillageStories$Fault;)I" } : Jvm.MethodName)) ∈ lw_all := lw_g (lw_at lw_m5 160 rfl) rfl
theorem q1223 : (Jvm.Cond.code ({ cls := "VillageStories", name := "fails", desc := "(LVillageStories$Fault;)I" } : Jvm.MethodName) prog_1_method_18_code (2 : Nat) (Option.some Jvm.ClassFile.FieldType.int)) ∈ lw_all := lw_g (lw_at lw_m5 161 rfl) rfl
theorem q1225 : (Jvm.Cond.instanceMethod ({ cls := "VillageStories", name := "guess", desc := "()I" } : Jvm.MethodName)) ∈ lw_all := lw_g (lw_at lw_m5 163 rfl) rfl
theorem q1226 : (Jvm.Cond.selects "VillageStories" ({ cls := "VillageStories", name := "guess", desc := "()I" } : Jvm.MethodName) ({ cls := "VillageStories", name := "guess", desc := "()I" } : Jvm.MethodName)) ∈ lw_all := lw_g (lw_at lw_m5 164 rfl) rfl
theorem q1227 : (Jvm.Cond.codeWith ({ cls := "VillageStories", name := "guess", desc := "()I" } : Jvm.MethodName) prog_1_method_20_code (3 : Nat) (Option.some Jvm.ClassFile.FieldType.int) [((5 : Nat), (54 : Nat), (55 : Nat), (173 : Nat))]) ∈ lw_all := lw_g (lw_at lw_m5 165 rfl) rfl
theorem q1229 : (Jvm.Cond.instanceMethod ({ cls := "VillageStories", name := "fault", desc := "(I)I" } : Jvm.MethodName)) ∈ lw_all := lw_g (lw_at lw_m5 167 rfl) rfl
theorem q1230 : (Jvm.Cond.selects "VillageStories" ({ cls := "VillageStories", name := "fault", desc := "(I)I" } : Jvm.MethodName) ({ cls := "VillageStories", name := "fault", desc := "(I)I" } : Jvm.MethodName)) ∈ lw_all := lw_g (lw_at lw_m5 168 rfl) rfl
theorem q1231 : (Jvm.Cond.code ({ cls := "VillageStories", name := "fault", desc := "(I)I" } : Jvm.MethodName) prog_1_method_21_code (2 : Nat) (Option.some Jvm.ClassFile.FieldType.int)) ∈ lw_all := lw_g (lw_at lw_m5 169 rfl) rfl
theorem q1233 : (Jvm.Cond.instanceMethod ({ cls := "VillageStories", name := "strike", desc := "(I)Z" } : Jvm.MethodName)) ∈ lw_all := lw_g (lw_at lw_m5 171 rfl) rfl
theorem q1234 : (Jvm.Cond.selects "VillageStories" ({ cls := "VillageStories", name := "strike", desc := "(I)Z" } : Jvm.MethodName) ({ cls := "VillageStories", name := "strike", desc := "(I)Z" } : Jvm.MethodName)) ∈ lw_all := lw_g (lw_at lw_m5 172 rfl) rfl
theorem q1235 : (Jvm.Cond.code ({ cls := "VillageStories", name := "strike", desc := "(I)Z" } : Jvm.MethodName) prog_1_method_24_code (2 : Nat) (Option.some Jvm.ClassFile.FieldType.boolean)) ∈ lw_all := lw_g (lw_at lw_m5 173 rfl) rfl
theorem q1236 : (Jvm.Cond.methodLink "VillageStories" (214 : Nat) ({ cls := "VillageStories", name := "isStory", desc := "(I)Z" } : Jvm.MethodName)) ∈ lw_all := lw_g (lw_at lw_m5 174 rfl) rfl
theorem q1237 : (Jvm.Cond.privateMethod ({ cls := "VillageStories", name := "isStory", desc := "(I)Z" } : Jvm.MethodName)) ∈ lw_tbl := lw_at lw_m5 175 rfl
theorem q1238 : (Jvm.Cond.instanceMethod ({ cls := "VillageStories", name := "isStory", desc := "(I)Z" } : Jvm.MethodName)) ∈ lw_all := lw_g (lw_at lw_m5 176 rfl) rfl
theorem q1239 : (Jvm.Cond.code ({ cls := "VillageStories", name := "isStory", desc := "(I)Z" } : Jvm.MethodName) prog_1_method_22_code (2 : Nat) (Option.some Jvm.ClassFile.FieldType.boolean)) ∈ lw_all := lw_g (lw_at lw_m5 177 rfl) rfl
theorem q1240 : (Jvm.Cond.methodLink "VillageStories" (217 : Nat) ({ cls := "VillageStories", name := "story", desc := "(I)LVillageStories$Story;" } : Jvm.MethodName)) ∈ lw_all := lw_g (lw_at lw_m5 178 rfl) rfl
theorem q1241 : (Jvm.Cond.privateMethod ({ cls := "VillageStories", name := "story", desc := "(I)LVillageStories$Story;" } : Jvm.MethodName)) ∈ lw_tbl := lw_at lw_m5 179 rfl
theorem q1242 : (Jvm.Cond.instanceMethod ({ cls := "VillageStories", name := "story", desc := "(I)LVillageStories$Story;" } : Jvm.MethodName)) ∈ lw_all := lw_g (lw_at lw_m5 180 rfl) rfl
theorem q1243 : (Jvm.Cond.code ({ cls := "VillageStories", name := "story", desc := "(I)LVillageStories$Story;" } : Jvm.MethodName) prog_1_method_23_code (2 : Nat) (Option.some (Jvm.ClassFile.FieldType.object "VillageStories$Story"))) ∈ lw_all := lw_g (lw_at lw_m5 181 rfl) rfl
theorem q1245 : (Jvm.Cond.instanceMethod ({ cls := "VillageStories", name := "day", desc := "(I)Z" } : Jvm.MethodName)) ∈ lw_all := lw_g (lw_at lw_m5 183 rfl) rfl
theorem q1246 : (Jvm.Cond.selects "VillageStories" ({ cls := "VillageStories", name := "day", desc := "(I)Z" } : Jvm.MethodName) ({ cls := "VillageStories", name := "day", desc := "(I)Z" } : Jvm.MethodName)) ∈ lw_all := lw_g (lw_at lw_m5 184 rfl) rfl
theorem q1247 : (Jvm.Cond.code ({ cls := "VillageStories", name := "day", desc := "(I)Z" } : Jvm.MethodName) prog_1_method_25_code (2 : Nat) (Option.some Jvm.ClassFile.FieldType.boolean)) ∈ lw_all := lw_g (lw_at lw_m5 185 rfl) rfl
theorem q1249 : (Jvm.Cond.instanceMethod ({ cls := "VillageStories", name := "view", desc := "(I)Z" } : Jvm.MethodName)) ∈ lw_all := lw_g (lw_at lw_m5 187 rfl) rfl
theorem q1250 : (Jvm.Cond.selects "VillageStories" ({ cls := "VillageStories", name := "view", desc := "(I)Z" } : Jvm.MethodName) ({ cls := "VillageStories", name := "view", desc := "(I)Z" } : Jvm.MethodName)) ∈ lw_all := lw_g (lw_at lw_m5 188 rfl) rfl
theorem q1251 : (Jvm.Cond.code ({ cls := "VillageStories", name := "view", desc := "(I)Z" } : Jvm.MethodName) prog_1_method_26_code (2 : Nat) (Option.some Jvm.ClassFile.FieldType.boolean)) ∈ lw_all := lw_g (lw_at lw_m5 189 rfl) rfl
theorem q1253 : (Jvm.Cond.instanceMethod ({ cls := "VillageStories", name := "so", desc := "(I)I" } : Jvm.MethodName)) ∈ lw_all := lw_g (lw_at lw_m5 191 rfl) rfl
theorem q1254 : (Jvm.Cond.selects "VillageStories" ({ cls := "VillageStories", name := "so", desc := "(I)I" } : Jvm.MethodName) ({ cls := "VillageStories", name := "so", desc := "(I)I" } : Jvm.MethodName)) ∈ lw_all := lw_g (lw_at lw_m5 192 rfl) rfl
theorem q1255 : (Jvm.Cond.code ({ cls := "VillageStories", name := "so", desc := "(I)I" } : Jvm.MethodName) prog_1_method_29_code (3 : Nat) (Option.some Jvm.ClassFile.FieldType.int)) ∈ lw_all := lw_g (lw_at lw_m5 193 rfl) rfl
theorem q1256 : (Jvm.Cond.methodLink "VillageStories" (244 : Nat) ({ cls := "VillageStories", name := "isSoIn", desc := "(LVillageStories$Part;LVillageStories$Land;J)Z" } : Jvm.MethodName)) ∈ lw_all := lw_g (lw_at lw_m5 194 rfl) rfl
theorem q1257 : (Jvm.Cond.privateMethod ({ cls := "VillageStories", name := "isSoIn", desc := "(LVillageStories$Part;LVillageStories$Land;J)Z" } : Jvm.MethodName)) ∈ lw_tbl := lw_at lw_m5 195 rfl
theorem q1258 : (Jvm.Cond.instanceMethod ({ cls := "VillageStories", name := "isSoIn", desc := "(LVillageStories$Part;LVillageStories$Land;J)Z" } : Jvm.MethodName)) ∈ lw_all := lw_g (lw_at lw_m5 196 rfl) rfl
theorem q1259 : (Jvm.Cond.code ({ cls := "VillageStories", name := "isSoIn", desc := "(LVillageStories$Part;LVillageStories$Land;J)Z" } : Jvm.MethodName) prog_1_method_28_code (5 : Nat) (Option.some Jvm.ClassFile.FieldType.boolean)) ∈ lw_all := lw_g (lw_at lw_m5 197 rfl) rfl
theorem q1260 : (Jvm.Cond.methodLink "VillageStories" (231 : Nat) ({ cls := "VillageStories$World", name := "is", desc := "(LVillageStories$Land;J)V" } : Jvm.MethodName)) ∈ lw_all := lw_g (lw_at lw_m5 198 rfl) rfl
theorem q1265 : (Jvm.Cond.methodLink "VillageStories" (235 : Nat) ({ cls := "VillageStories$Part", name := "isSo", desc := "(LVillageStories$World;)Z" } : Jvm.MethodName)) ∈ lw_all := lw_g (lw_at lw_m5 203 rfl) rfl
theorem q1302 : (Jvm.Cond.static ({ cls := "VillageStories", name := "has", desc := "(II)Z" } : Jvm.MethodName)) ∈ lw_all := lw_g (lw_at lw_m6 0 rfl) rfl
theorem q1303 : (Jvm.Cond.code ({ cls := "VillageStories", name := "has", desc := "(II)Z" } : Jvm.MethodName) prog_1_method_2_code (2 : Nat) (Option.some Jvm.ClassFile.FieldType.boolean)) ∈ lw_all := lw_g (lw_at lw_m6 1 rfl) rfl
theorem q1346 : (Jvm.Cond.instanceMethod ({ cls := "VillageStories", name := "breaks", desc := "(II)I" } : Jvm.MethodName)) ∈ lw_all := lw_g (lw_at lw_m6 44 rfl) rfl
theorem q1347 : (Jvm.Cond.selects "VillageStories" ({ cls := "VillageStories", name := "breaks", desc := "(II)I" } : Jvm.MethodName) ({ cls := "VillageStories", name := "breaks", desc := "(II)I" } : Jvm.MethodName)) ∈ lw_all := lw_g (lw_at lw_m6 45 rfl) rfl
theorem q1348 : (Jvm.Cond.code ({ cls := "VillageStories", name := "breaks", desc := "(II)I" } : Jvm.MethodName) prog_1_method_31_code (4 : Nat) (Option.some Jvm.ClassFile.FieldType.int)) ∈ lw_all := lw_g (lw_at lw_m6 46 rfl) rfl
theorem q1349 : (Jvm.Cond.methodLink "VillageStories" (283 : Nat) ({ cls := "java/util/ArrayList", name := "clear", desc := "()V" } : Jvm.MethodName)) ∈ lw_all := lw_g (lw_at lw_m6 47 rfl) rfl
theorem q1353 : (Jvm.Cond.methodLink "VillageStories" (276 : Nat) ({ cls := "VillageStories", name := "breaksAt", desc := "(LVillageStories$Part;)Z" } : Jvm.MethodName)) ∈ lw_all := lw_g (lw_at lw_m6 51 rfl) rfl
theorem q1354 : (Jvm.Cond.privateMethod ({ cls := "VillageStories", name := "breaksAt", desc := "(LVillageStories$Part;)Z" } : Jvm.MethodName)) ∈ lw_tbl := lw_at lw_m6 52 rfl
theorem q1355 : (Jvm.Cond.instanceMethod ({ cls := "VillageStories", name := "breaksAt", desc := "(LVillageStories$Part;)Z" } : Jvm.MethodName)) ∈ lw_all := lw_g (lw_at lw_m6 53 rfl) rfl
theorem q1356 : (Jvm.Cond.code ({ cls := "VillageStories", name := "breaksAt", desc := "(LVillageStories$Part;)Z" } : Jvm.MethodName) prog_1_method_30_code (5 : Nat) (Option.some Jvm.ClassFile.FieldType.boolean)) ∈ lw_all := lw_g (lw_at lw_m6 54 rfl) rfl
theorem q1357 : (Jvm.Cond.classLink "VillageStories" (248 : Nat) "VillageStories$Each") ∈ lw_all := lw_g (lw_at lw_m6 55 rfl) rfl
theorem q1358 : (Jvm.Cond.fieldLink "VillageStories" (254 : Nat) "VillageStories$Often" "ALL" "LVillageStories$Often;") ∈ lw_all := lw_g (lw_at lw_m6 56 rfl) rfl
theorem q1360 : (Jvm.Cond.methodLink "VillageStories" (267 : Nat) ({ cls := "java/lang/Integer", name := "valueOf", desc := "(I)Ljava/lang/Integer;" } : Jvm.MethodName)) ∈ lw_all := lw_g (lw_at lw_m6 58 rfl) rfl
theorem q1380 : (Jvm.Cond.methodLink "VillageStories" (280 : Nat) ({ cls := "java/util/ArrayList", name := "remove", desc := "(I)Ljava/lang/Object;" } : Jvm.MethodName)) ∈ lw_all := lw_g (lw_at lw_m6 78 rfl) rfl
theorem q1389 : (Jvm.Cond.classLink "VillageStories" (268 : Nat) "java/lang/Integer") ∈ lw_all := lw_g (lw_at lw_m6 87 rfl) rfl
theorem q1390 : (Jvm.Cond.methodLink "VillageStories" (286 : Nat) ({ cls := "java/lang/Integer", name := "intValue", desc := "()I" } : Jvm.MethodName)) ∈ lw_all := lw_g (lw_at lw_m6 88 rfl) rfl
theorem q1395 : (Jvm.Cond.instanceMethod ({ cls := "VillageStories", name := "keep", desc := "(I)Z" } : Jvm.MethodName)) ∈ lw_all := lw_g (lw_at lw_m6 93 rfl) rfl
theorem q1396 : (Jvm.Cond.selects "VillageStories" ({ cls := "VillageStories", name := "keep", desc := "(I)Z" } : Jvm.MethodName) ({ cls := "VillageStories", name := "keep", desc := "(I)Z" } : Jvm.MethodName)) ∈ lw_all := lw_g (lw_at lw_m6 94 rfl) rfl
theorem q1397 : (Jvm.Cond.code ({ cls := "VillageStories", name := "keep", desc := "(I)Z" } : Jvm.MethodName) prog_1_method_33_code (2 : Nat) (Option.some Jvm.ClassFile.FieldType.boolean)) ∈ lw_all := lw_g (lw_at lw_m6 95 rfl) rfl
theorem q1398 : (Jvm.Cond.methodLink "VillageStories" (289 : Nat) ({ cls := "VillageStories", name := "isPlace", desc := "(I)Z" } : Jvm.MethodName)) ∈ lw_all := lw_g (lw_at lw_m6 96 rfl) rfl
theorem q1399 : (Jvm.Cond.static ({ cls := "VillageStories", name := "isPlace", desc := "(I)Z" } : Jvm.MethodName)) ∈ lw_all := lw_g (lw_at lw_m6 97 rfl) rfl
theorem q1400 : (Jvm.Cond.code ({ cls := "VillageStories", name := "isPlace", desc := "(I)Z" } : Jvm.MethodName) prog_1_method_32_code (1 : Nat) (Option.some Jvm.ClassFile.FieldType.boolean)) ∈ lw_all := lw_g (lw_at lw_m6 98 rfl) rfl
theorem q1402 : (Jvm.Cond.instanceMethod ({ cls := "VillageStories", name := "apart", desc := "(I)I" } : Jvm.MethodName)) ∈ lw_all := lw_g (lw_at lw_m6 100 rfl) rfl
theorem q1403 : (Jvm.Cond.selects "VillageStories" ({ cls := "VillageStories", name := "apart", desc := "(I)I" } : Jvm.MethodName) ({ cls := "VillageStories", name := "apart", desc := "(I)I" } : Jvm.MethodName)) ∈ lw_all := lw_g (lw_at lw_m6 101 rfl) rfl
theorem q1404 : (Jvm.Cond.code ({ cls := "VillageStories", name := "apart", desc := "(I)I" } : Jvm.MethodName) prog_1_method_42_code (2 : Nat) (Option.some Jvm.ClassFile.FieldType.int)) ∈ lw_all := lw_g (lw_at lw_m6 102 rfl) rfl
theorem q1405 : (Jvm.Cond.methodLink "VillageStories" (344 : Nat) ({ cls := "VillageStories", name := "has", desc := "(II)Z" } : Jvm.MethodName)) ∈ lw_all := lw_g (lw_at lw_m6 103 rfl) rfl
theorem q1406 : (Jvm.Cond.methodLink "VillageStories" (347 : Nat) ({ cls := "VillageStories", name := "isTold", desc := "()Z" } : Jvm.MethodName)) ∈ lw_all := lw_g (lw_at lw_m6 104 rfl) rfl
theorem q1407 : (Jvm.Cond.privateMethod ({ cls := "VillageStories", name := "isTold", desc := "()Z" } : Jvm.MethodName)) ∈ lw_tbl := lw_at lw_m6 105 rfl
theorem q1408 : (Jvm.Cond.instanceMethod ({ cls := "VillageStories", name := "isTold", desc := "()Z" } : Jvm.MethodName)) ∈ lw_all := lw_g (lw_at lw_m6 106 rfl) rfl
theorem q1409 : (Jvm.Cond.code ({ cls := "VillageStories", name := "isTold", desc := "()Z" } : Jvm.MethodName) prog_1_method_34_code (1 : Nat) (Option.some Jvm.ClassFile.FieldType.boolean)) ∈ lw_all := lw_g (lw_at lw_m6 107 rfl) rfl
theorem q1410 : (Jvm.Cond.methodLink "VillageStories" (339 : Nat) ({ cls := "VillageStories$Search", name := "least", desc := "(J)J" } : Jvm.MethodName)) ∈ lw_all := lw_g (lw_at lw_m6 108 rfl) rfl
theorem q1418 : (Jvm.Cond.laysStatic "VillageStories" "ORDERS" "[I") ∈ lw_tbl := lw_at lw_m6 116 rfl
theorem q1422 : (Jvm.Cond.privateMethod ({ cls := "VillageStories", name := "renamed", desc := "(J[I)J" } : Jvm.MethodName)) ∈ lw_tbl := lw_at lw_m6 120 rfl
theorem q1423 : (Jvm.Cond.instanceMethod ({ cls := "VillageStories", name := "renamed", desc := "(J[I)J" } : Jvm.MethodName)) ∈ lw_all := lw_g (lw_at lw_m6 121 rfl) rfl
theorem q1424 : (Jvm.Cond.code ({ cls := "VillageStories", name := "renamed", desc := "(J[I)J" } : Jvm.MethodName) prog_1_method_40_code (13 : Nat) (Option.some Jvm.ClassFile.FieldType.long)) ∈ lw_all := lw_g (lw_at lw_m6 122 rfl) rfl
theorem q1425 : (Jvm.Cond.methodLink "VillageStories" (332 : Nat) ({ cls := "VillageStories", name := "turned", desc := "(III)I" } : Jvm.MethodName)) ∈ lw_all := lw_g (lw_at lw_m6 123 rfl) rfl
theorem q1426 : (Jvm.Cond.static ({ cls := "VillageStories", name := "turned", desc := "(III)I" } : Jvm.MethodName)) ∈ lw_all := lw_g (lw_at lw_m6 124 rfl) rfl
theorem q1427 : (Jvm.Cond.code ({ cls := "VillageStories", name := "turned", desc := "(III)I" } : Jvm.MethodName) prog_1_method_39_code (3 : Nat) (Option.some Jvm.ClassFile.FieldType.int)) ∈ lw_all := lw_g (lw_at lw_m6 125 rfl) rfl
theorem q1428 : (Jvm.Cond.fieldLink "VillageStories" (322 : Nat) "VillageStories" "TURNED" "[[I") ∈ lw_all := lw_g (lw_at lw_m6 126 rfl) rfl
theorem q1429 : (Jvm.Cond.laysStatic "VillageStories" "TURNED" "[[I") ∈ lw_tbl := lw_at lw_m6 127 rfl
theorem q1449 : (Jvm.Cond.instanceMethod ({ cls := "VillageStories", name := "worlds", desc := "()I" } : Jvm.MethodName)) ∈ lw_all := lw_g (lw_at lw_m6 147 rfl) rfl
theorem q1450 : (Jvm.Cond.selects "VillageStories" ({ cls := "VillageStories", name := "worlds", desc := "()I" } : Jvm.MethodName) ({ cls := "VillageStories", name := "worlds", desc := "()I" } : Jvm.MethodName)) ∈ lw_all := lw_g (lw_at lw_m6 148 rfl) rfl
theorem q1451 : (Jvm.Cond.code ({ cls := "VillageStories", name := "worlds", desc := "()I" } : Jvm.MethodName) prog_1_method_44_code (1 : Nat) (Option.some Jvm.ClassFile.FieldType.int)) ∈ lw_all := lw_g (lw_at lw_m6 149 rfl) rfl
theorem q1452 : (Jvm.Cond.methodLink "VillageStories" (350 : Nat) ({ cls := "VillageStories", name := "looks", desc := "()V" } : Jvm.MethodName)) ∈ lw_all := lw_g (lw_at lw_m6 150 rfl) rfl
theorem q1453 : (Jvm.Cond.privateMethod ({ cls := "VillageStories", name := "looks", desc := "()V" } : Jvm.MethodName)) ∈ lw_tbl := lw_at lw_m6 151 rfl
theorem q1454 : (Jvm.Cond.instanceMethod ({ cls := "VillageStories", name := "looks", desc := "()V" } : Jvm.MethodName)) ∈ lw_all := lw_g (lw_at lw_m6 152 rfl) rfl
theorem q1455 : (Jvm.Cond.code ({ cls := "VillageStories", name := "looks", desc := "()V" } : Jvm.MethodName) prog_1_method_37_code (4 : Nat) (Option.none : Option Jvm.ClassFile.FieldType)) ∈ lw_all := lw_g (lw_at lw_m6 153 rfl) rfl
theorem q1456 : (Jvm.Cond.methodLink "VillageStories" (316 : Nat) ({ cls := "VillageStories", name := "knows", desc := "()V" } : Jvm.MethodName)) ∈ lw_all := lw_g (lw_at lw_m6 154 rfl) rfl
theorem q1457 : (Jvm.Cond.privateMethod ({ cls := "VillageStories", name := "knows", desc := "()V" } : Jvm.MethodName)) ∈ lw_tbl := lw_at lw_m6 155 rfl
theorem q1458 : (Jvm.Cond.instanceMethod ({ cls := "VillageStories", name := "knows", desc := "()V" } : Jvm.MethodName)) ∈ lw_all := lw_g (lw_at lw_m6 156 rfl) rfl
theorem q1459 : (Jvm.Cond.code ({ cls := "VillageStories", name := "knows", desc := "()V" } : Jvm.MethodName) prog_1_method_36_code (4 : Nat) (Option.none : Option Jvm.ClassFile.FieldType)) ∈ lw_all := lw_g (lw_at lw_m6 157 rfl) rfl
theorem q1460 : (Jvm.Cond.methodLink "VillageStories" (228 : Nat) ({ cls := "VillageStories$State", name := "isSeen", desc := "(I)Z" } : Jvm.MethodName)) ∈ lw_all := lw_g (lw_at lw_m6 158 rfl) rfl
theorem q1464 : (Jvm.Cond.constantLong "VillageStories" (314 : Nat) (-1 : Int64)) ∈ lw_all := lw_g (lw_at lw_m6 162 rfl) rfl
theorem q1465 : (Jvm.Cond.methodLink "VillageStories" (319 : Nat) ({ cls := "VillageStories", name := "rows", desc := "()I" } : Jvm.MethodName)) ∈ lw_all := lw_g (lw_at lw_m6 163 rfl) rfl
theorem q1466 : (Jvm.Cond.privateMethod ({ cls := "VillageStories", name := "rows", desc := "()I" } : Jvm.MethodName)) ∈ lw_tbl := lw_at lw_m6 164 rfl
theorem q1467 : (Jvm.Cond.instanceMethod ({ cls := "VillageStories", name := "rows", desc := "()I" } : Jvm.MethodName)) ∈ lw_all := lw_g (lw_at lw_m6 165 rfl) rfl
theorem q1468 : (Jvm.Cond.code ({ cls := "VillageStories", name := "rows", desc := "()I" } : Jvm.MethodName) prog_1_method_35_code (1 : Nat) (Option.some Jvm.ClassFile.FieldType.int)) ∈ lw_all := lw_g (lw_at lw_m6 166 rfl) rfl
theorem q1469 : (Jvm.Cond.methodLink "VillageStories" (353 : Nat) ({ cls := "VillageStories", name := "needed", desc := "()I" } : Jvm.MethodName)) ∈ lw_all := lw_g (lw_at lw_m6 167 rfl) rfl
theorem q1470 : (Jvm.Cond.privateMethod ({ cls := "VillageStories", name := "needed", desc := "()I" } : Jvm.MethodName)) ∈ lw_tbl := lw_at lw_m6 168 rfl
theorem q1471 : (Jvm.Cond.instanceMethod ({ cls := "VillageStories", name := "needed", desc := "()I" } : Jvm.MethodName)) ∈ lw_all := lw_g (lw_at lw_m6 169 rfl) rfl
theorem q1472 : (Jvm.Cond.code ({ cls := "VillageStories", name := "needed", desc := "()I" } : Jvm.MethodName) prog_1_method_27_code (3 : Nat) (Option.some Jvm.ClassFile.FieldType.int)) ∈ lw_all := lw_g (lw_at lw_m6 170 rfl) rfl
theorem q1473 : (Jvm.Cond.methodLink "VillageStories" (356 : Nat) ({ cls := "VillageStories", name := "worldsOf", desc := "(I)I" } : Jvm.MethodName)) ∈ lw_all := lw_g (lw_at lw_m6 171 rfl) rfl
theorem q1474 : (Jvm.Cond.privateMethod ({ cls := "VillageStories", name := "worldsOf", desc := "(I)I" } : Jvm.MethodName)) ∈ lw_tbl := lw_at lw_m6 172 rfl
theorem q1475 : (Jvm.Cond.instanceMethod ({ cls := "VillageStories", name := "worldsOf", desc := "(I)I" } : Jvm.MethodName)) ∈ lw_all := lw_g (lw_at lw_m6 173 rfl) rfl
theorem q1476 : (Jvm.Cond.code ({ cls := "VillageStories", name := "worldsOf", desc := "(I)I" } : Jvm.MethodName) prog_1_method_43_code (4 : Nat) (Option.some Jvm.ClassFile.FieldType.int)) ∈ lw_all := lw_g (lw_at lw_m6 174 rfl) rfl
theorem q1477 : (Jvm.Cond.methodLink "VillageStories" (335 : Nat) ({ cls := "VillageStories", name := "isWorld", desc := "(II)Z" } : Jvm.MethodName)) ∈ lw_all := lw_g (lw_at lw_m6 175 rfl) rfl
theorem q1478 : (Jvm.Cond.privateMethod ({ cls := "VillageStories", name := "isWorld", desc := "(II)Z" } : Jvm.MethodName)) ∈ lw_tbl := lw_at lw_m6 176 rfl
theorem q1479 : (Jvm.Cond.instanceMethod ({ cls := "VillageStories", name := "isWorld", desc := "(II)Z" } : Jvm.MethodName)) ∈ lw_all := lw_g (lw_at lw_m6 177 rfl) rfl
theorem q1480 : (Jvm.Cond.code ({ cls := "VillageStories", name := "isWorld", desc := "(II)Z" } : Jvm.MethodName) prog_1_method_38_code (3 : Nat) (Option.some Jvm.ClassFile.FieldType.boolean)) ∈ lw_all := lw_g (lw_at lw_m6 178 rfl) rfl
theorem q1482 : (Jvm.Cond.instanceMethod ({ cls := "VillageStories", name := "forms", desc := "()I" } : Jvm.MethodName)) ∈ lw_all := lw_g (lw_at lw_m6 180 rfl) rfl
theorem q1483 : (Jvm.Cond.selects "VillageStories" ({ cls := "VillageStories", name := "forms", desc := "()I" } : Jvm.MethodName) ({ cls := "VillageStories", name := "forms", desc := "()I" } : Jvm.MethodName)) ∈ lw_all := lw_g (lw_at lw_m6 181 rfl) rfl
theorem q1484 : (Jvm.Cond.code ({ cls := "VillageStories", name := "forms", desc := "()I" } : Jvm.MethodName) prog_1_method_45_code (4 : Nat) (Option.some Jvm.ClassFile.FieldType.int)) ∈ lw_all := lw_g (lw_at lw_m6 182 rfl) rfl
theorem q1485 : (Jvm.Cond.methodLink "VillageStories" (359 : Nat) ({ cls := "VillageStories", name := "isForm", desc := "(II)Z" } : Jvm.MethodName)) ∈ lw_all := lw_g (lw_at lw_m6 183 rfl) rfl
theorem q1486 : (Jvm.Cond.privateMethod ({ cls := "VillageStories", name := "isForm", desc := "(II)Z" } : Jvm.MethodName)) ∈ lw_tbl := lw_at lw_m6 184 rfl
theorem q1487 : (Jvm.Cond.instanceMethod ({ cls := "VillageStories", name := "isForm", desc := "(II)Z" } : Jvm.MethodName)) ∈ lw_all := lw_g (lw_at lw_m6 185 rfl) rfl
theorem q1488 : (Jvm.Cond.code ({ cls := "VillageStories", name := "isForm", desc := "(II)Z" } : Jvm.MethodName) prog_1_method_41_code (3 : Nat) (Option.some Jvm.ClassFile.FieldType.boolean)) ∈ lw_all := lw_g (lw_at lw_m6 186 rfl) rfl
theorem q1490 : (Jvm.Cond.instanceMethod ({ cls := "VillageStories", name := "form", desc := "(I)Z" } : Jvm.MethodName)) ∈ lw_all := lw_g (lw_at lw_m6 188 rfl) rfl
theorem q1491 : (Jvm.Cond.selects "VillageStories" ({ cls := "VillageStories", name := "form", desc := "(I)Z" } : Jvm.MethodName) ({ cls := "VillageStories", name := "form", desc := "(I)Z" } : Jvm.MethodName)) ∈ lw_all := lw_g (lw_at lw_m6 189 rfl) rfl
theorem q1492 : (Jvm.Cond.code ({ cls := "VillageStories", name := "form", desc := "(I)Z" } : Jvm.MethodName) prog_1_method_46_code (5 : Nat) (Option.some Jvm.ClassFile.FieldType.boolean)) ∈ lw_all := lw_g (lw_at lw_m6 190 rfl) rfl
theorem q1494 : (Jvm.Cond.instanceMethod ({ cls := "VillageStories", name := "name", desc := "()Z" } : Jvm.MethodName)) ∈ lw_all := lw_g (lw_at lw_m6 192 rfl) rfl
theorem q1495 : (Jvm.Cond.selects "VillageStories" ({ cls := "VillageStories", name := "name", desc := "()Z" } : Jvm.MethodName) ({ cls := "VillageStories", name := "name", desc := "()Z" } : Jvm.MethodName)) ∈ lw_all := lw_g (lw_at lw_m6 193 rfl) rfl
theorem q1496 : (Jvm.Cond.code ({ cls := "VillageStories", name := "name", desc := "()Z" } : Jvm.MethodName) prog_1_method_47_code (4 : Nat) (Option.some Jvm.ClassFile.FieldType.boolean)) ∈ lw_all := lw_g (lw_at lw_m6 194 rfl) rfl
theorem q1498 : (Jvm.Cond.instanceMethod ({ cls := "VillageStories", name := "least", desc := "(I)I" } : Jvm.MethodName)) ∈ lw_all := lw_g (lw_at lw_m6 196 rfl) rfl
theorem q1499 : (Jvm.Cond.selects "VillageStories" ({ cls := "VillageStories", name := "least", desc := "(I)I" } : Jvm.MethodName) ({ cls := "VillageStories", name := "least", desc := "(I)I" } : Jvm.MethodName)) ∈ lw_all := lw_g (lw_at lw_m6 197 rfl) rfl
theorem q1500 : (Jvm.Cond.code ({ cls := "VillageStories", name := "least", desc := "(I)I" } : Jvm.MethodName) prog_1_method_49_code (7 : Nat) (Option.some Jvm.ClassFile.FieldType.int)) ∈ lw_all := lw_g (lw_at lw_m6 198 rfl) rfl
theorem q1501 : (Jvm.Cond.methodLink "VillageStories" (362 : Nat) ({ cls := "VillageStories$Land", name := "be", desc := "(LVillageStories$Land;)V" } : Jvm.MethodName)) ∈ lw_all := lw_g (lw_at lw_m6 199 rfl) rfl
theorem q1521 : (Jvm.Cond.methodLink "VillageStories" (366 : Nat) ({ cls := "VillageStories", name := "fits", desc := "(I)Z" } : Jvm.MethodName)) ∈ lw_all := lw_g (lw_at lw_m6 219 rfl) rfl
theorem q1522 : (Jvm.Cond.privateMethod ({ cls := "VillageStories", name := "fits", desc := "(I)Z" } : Jvm.MethodName)) ∈ lw_tbl := lw_at lw_m6 220 rfl
theorem q1523 : (Jvm.Cond.instanceMethod ({ cls := "VillageStories", name := "fits", desc := "(I)Z" } : Jvm.MethodName)) ∈ lw_all := lw_g (lw_at lw_m6 221 rfl) rfl
theorem q1524 : (Jvm.Cond.code ({ cls := "VillageStories", name := "fits", desc := "(I)Z" } : Jvm.MethodName) prog_1_method_48_code (6 : Nat) (Option.some Jvm.ClassFile.FieldType.boolean)) ∈ lw_all := lw_g (lw_at lw_m6 222 rfl) rfl
theorem q1526 : (Jvm.Cond.instanceMethod ({ cls := "VillageStories", name := "core", desc := "(I)I" } : Jvm.MethodName)) ∈ lw_all := lw_g (lw_at lw_m6 224 rfl) rfl
theorem q1527 : (Jvm.Cond.selects "VillageStories" ({ cls := "VillageStories", name := "core", desc := "(I)I" } : Jvm.MethodName) ({ cls := "VillageStories", name := "core", desc := "(I)I" } : Jvm.MethodName)) ∈ lw_all := lw_g (lw_at lw_m6 225 rfl) rfl
theorem q1528 : (Jvm.Cond.code ({ cls := "VillageStories", name := "core", desc := "(I)I" } : Jvm.MethodName) prog_1_method_54_code (3 : Nat) (Option.some Jvm.ClassFile.FieldType.int)) ∈ lw_all := lw_g (lw_at lw_m6 226 rfl) rfl
theorem q1529 : (Jvm.Cond.privateMethod ({ cls := "VillageStories", name := "lambda$core$0", desc := "(I)Z" } : Jvm.MethodName)) ∈ lw_tbl := lw_at lw_m6 227 rfl
theorem q1530 : (Jvm.Cond.instanceMethod ({ cls := "VillageStories", name := "lambda$core$0", desc := "(I)Z" } : Jvm.MethodName)) ∈ lw_all := lw_g (lw_at lw_m6 228 rfl) rfl
theorem q1531 : (Jvm.Cond.code ({ cls := "VillageStories", name := "lambda$core$0", desc := "(I)Z" } : Jvm.MethodName) prog_1_method_70_code (2 : Nat) (Option.some Jvm.ClassFile.FieldType.boolean)) ∈ lw_all := lw_g (lw_at lw_m6 229 rfl) rfl
theorem q1532 : (Jvm.Cond.methodLink "VillageStories" (422 : Nat) ({ cls := "VillageStories", name := "isBorne", desc := "(I)Z" } : Jvm.MethodName)) ∈ lw_all := lw_g (lw_at lw_m6 230 rfl) rfl
theorem q1533 : (Jvm.Cond.privateMethod ({ cls := "VillageStories", name := "isBorne", desc := "(I)Z" } : Jvm.MethodName)) ∈ lw_tbl := lw_at lw_m6 231 rfl
theorem q1534 : (Jvm.Cond.instanceMethod ({ cls := "VillageStories", name := "isBorne", desc := "(I)Z" } : Jvm.MethodName)) ∈ lw_all := lw_g (lw_at lw_m6 232 rfl) rfl
theorem q1535 : (Jvm.Cond.code ({ cls := "VillageStories", name := "isBorne", desc := "(I)Z" } : Jvm.MethodName) prog_1_method_52_code (4 : Nat) (Option.some Jvm.ClassFile.FieldType.boolean)) ∈ lw_all := lw_g (lw_at lw_m6 233 rfl) rfl
theorem q1536 : (Jvm.Cond.methodLink "VillageStories" (386 : Nat) ({ cls := "VillageStories", name := "fewest", desc := "(ILVillageStories$Does;)I" } : Jvm.MethodName)) ∈ lw_all := lw_g (lw_at lw_m6 234 rfl) rfl
theorem q1537 : (Jvm.Cond.static ({ cls := "VillageStories", name := "fewest", desc := "(ILVillageStories$Does;)I" } : Jvm.MethodName)) ∈ lw_all := lw_g (lw_at lw_m6 235 rfl) rfl
theorem q1538 : (Jvm.Cond.code ({ cls := "VillageStories", name := "fewest", desc := "(ILVillageStories$Does;)I" } : Jvm.MethodName) prog_1_method_51_code (5 : Nat) (Option.some Jvm.ClassFile.FieldType.int)) ∈ lw_all := lw_g (lw_at lw_m6 236 rfl) rfl
theorem q1539 : (Jvm.Cond.methodLink "VillageStories" (369 : Nat) ({ cls := "java/lang/Integer", name := "bitCount", desc := "(I)I" } : Jvm.MethodName)) ∈ lw_all := lw_g (lw_at lw_m6 237 rfl) rfl
theorem q1545 : (Jvm.Cond.methodLink "VillageStories" (372 : Nat) ({ cls := "VillageStories", name := "isLess", desc := "(II)Z" } : Jvm.MethodName)) ∈ lw_all := lw_g (lw_at lw_m7 3 rfl) rfl
theorem q1546 : (Jvm.Cond.static ({ cls := "VillageStories", name := "isLess", desc := "(II)Z" } : Jvm.MethodName)) ∈ lw_all := lw_g (lw_at lw_m7 4 rfl) rfl
theorem q1547 : (Jvm.Cond.code ({ cls := "VillageStories", name := "isLess", desc := "(II)Z" } : Jvm.MethodName) prog_1_method_50_code (3 : Nat) (Option.some Jvm.ClassFile.FieldType.boolean)) ∈ lw_all := lw_g (lw_at lw_m7 5 rfl) rfl
theorem q1548 : (Jvm.Cond.interfaceEntry "VillageStories" (375 : Nat)) ∈ lw_tbl := lw_at lw_m7 6 rfl
theorem q1549 : (Jvm.Cond.methodLink "VillageStories" (375 : Nat) ({ cls := "VillageStories$Does", name := "does", desc := "(I)Z" } : Jvm.MethodName)) ∈ lw_all := lw_g (lw_at lw_m7 7 rfl) rfl
theorem q1552 : (Jvm.Cond.methodLink "VillageStories" (390 : Nat) ({ cls := "VillageStories", name := "at", desc := "(II)I" } : Jvm.MethodName)) ∈ lw_all := lw_g (lw_at lw_m7 10 rfl) rfl
theorem q1553 : (Jvm.Cond.static ({ cls := "VillageStories", name := "at", desc := "(II)I" } : Jvm.MethodName)) ∈ lw_all := lw_g (lw_at lw_m7 11 rfl) rfl
theorem q1554 : (Jvm.Cond.code ({ cls := "VillageStories", name := "at", desc := "(II)I" } : Jvm.MethodName) prog_1_method_53_code (4 : Nat) (Option.some Jvm.ClassFile.FieldType.int)) ∈ lw_all := lw_g (lw_at lw_m7 12 rfl) rfl
theorem q1555 : (Jvm.Cond.methodLink "VillageStories" (380 : Nat) ({ cls := "java/lang/Integer", name := "numberOfTrailingZeros", desc := "(I)I" } : Jvm.MethodName)) ∈ lw_all := lw_g (lw_at lw_m7 13 rfl) rfl
theorem q1560 : (Jvm.Cond.instanceMethod ({ cls := "VillageStories", name := "sure", desc := "(III)I" } : Jvm.MethodName)) ∈ lw_all := lw_g (lw_at lw_m7 18 rfl) rfl
theorem q1561 : (Jvm.Cond.selects "VillageStories" ({ cls := "VillageStories", name := "sure", desc := "(III)I" } : Jvm.MethodName) ({ cls := "VillageStories", name := "sure", desc := "(III)I" } : Jvm.MethodName)) ∈ lw_all := lw_g (lw_at lw_m7 19 rfl) rfl
theorem q1562 : (Jvm.Cond.code ({ cls := "VillageStories", name := "sure", desc := "(III)I" } : Jvm.MethodName) prog_1_method_57_code (5 : Nat) (Option.some Jvm.ClassFile.FieldType.int)) ∈ lw_all := lw_g (lw_at lw_m7 20 rfl) rfl
theorem q1563 : (Jvm.Cond.methodLink "VillageStories" (397 : Nat) ({ cls := "VillageStories", name := "sureOf", desc := "(II)I" } : Jvm.MethodName)) ∈ lw_all := lw_g (lw_at lw_m7 21 rfl) rfl
theorem q1564 : (Jvm.Cond.privateMethod ({ cls := "VillageStories", name := "sureOf", desc := "(II)I" } : Jvm.MethodName)) ∈ lw_tbl := lw_at lw_m7 22 rfl
theorem q1565 : (Jvm.Cond.instanceMethod ({ cls := "VillageStories", name := "sureOf", desc := "(II)I" } : Jvm.MethodName)) ∈ lw_all := lw_g (lw_at lw_m7 23 rfl) rfl
theorem q1566 : (Jvm.Cond.code ({ cls := "VillageStories", name := "sureOf", desc := "(II)I" } : Jvm.MethodName) prog_1_method_56_code (5 : Nat) (Option.some Jvm.ClassFile.FieldType.int)) ∈ lw_all := lw_g (lw_at lw_m7 24 rfl) rfl
theorem q1567 : (Jvm.Cond.methodLink "VillageStories" (394 : Nat) ({ cls := "VillageStories", name := "soIn", desc := "(II)I" } : Jvm.MethodName)) ∈ lw_all := lw_g (lw_at lw_m7 25 rfl) rfl
theorem q1568 : (Jvm.Cond.privateMethod ({ cls := "VillageStories", name := "soIn", desc := "(II)I" } : Jvm.MethodName)) ∈ lw_tbl := lw_at lw_m7 26 rfl
theorem q1569 : (Jvm.Cond.instanceMethod ({ cls := "VillageStories", name := "soIn", desc := "(II)I" } : Jvm.MethodName)) ∈ lw_all := lw_g (lw_at lw_m7 27 rfl) rfl
theorem q1570 : (Jvm.Cond.code ({ cls := "VillageStories", name := "soIn", desc := "(II)I" } : Jvm.MethodName) prog_1_method_55_code (5 : Nat) (Option.some Jvm.ClassFile.FieldType.int)) ∈ lw_all := lw_g (lw_at lw_m7 28 rfl) rfl
theorem q1572 : (Jvm.Cond.instanceMethod ({ cls := "VillageStories", name := "cause", desc := "(IIII)I" } : Jvm.MethodName)) ∈ lw_all := lw_g (lw_at lw_m7 30 rfl) rfl
theorem q1573 : (Jvm.Cond.selects "VillageStories" ({ cls := "VillageStories", name := "cause", desc := "(IIII)I" } : Jvm.MethodName) ({ cls := "VillageStories", name := "cause", desc := "(IIII)I" } : Jvm.MethodName)) ∈ lw_all := lw_g (lw_at lw_m7 31 rfl) rfl
theorem q1574 : (Jvm.Cond.code ({ cls := "VillageStories", name := "cause", desc := "(IIII)I" } : Jvm.MethodName) prog_1_method_58_code (7 : Nat) (Option.some Jvm.ClassFile.FieldType.int)) ∈ lw_all := lw_g (lw_at lw_m7 32 rfl) rfl
theorem q1575 : (Jvm.Cond.privateMethod ({ cls := "VillageStories", name := "lambda$cause$1", desc := "(III)Z" } : Jvm.MethodName)) ∈ lw_tbl := lw_at lw_m7 33 rfl
theorem q1576 : (Jvm.Cond.instanceMethod ({ cls := "VillageStories", name := "lambda$cause$1", desc := "(III)Z" } : Jvm.MethodName)) ∈ lw_all := lw_g (lw_at lw_m7 34 rfl) rfl
theorem q1577 : (Jvm.Cond.code ({ cls := "VillageStories", name := "lambda$cause$1", desc := "(III)Z" } : Jvm.MethodName) prog_1_method_69_code (4 : Nat) (Option.some Jvm.ClassFile.FieldType.boolean)) ∈ lw_all := lw_g (lw_at lw_m7 35 rfl) rfl
theorem q1579 : (Jvm.Cond.instanceMethod ({ cls := "VillageStories", name := "without", desc := "(I)I" } : Jvm.MethodName)) ∈ lw_all := lw_g (lw_at lw_m7 37 rfl) rfl
theorem q1580 : (Jvm.Cond.selects "VillageStories" ({ cls := "VillageStories", name := "without", desc := "(I)I" } : Jvm.MethodName) ({ cls := "VillageStories", name := "without", desc := "(I)I" } : Jvm.MethodName)) ∈ lw_all := lw_g (lw_at lw_m7 38 rfl) rfl
theorem q1581 : (Jvm.Cond.code ({ cls := "VillageStories", name := "without", desc := "(I)I" } : Jvm.MethodName) prog_1_method_59_code (2 : Nat) (Option.some Jvm.ClassFile.FieldType.int)) ∈ lw_all := lw_g (lw_at lw_m7 39 rfl) rfl
theorem q1583 : (Jvm.Cond.instanceMethod ({ cls := "VillageStories", name := "questions", desc := "()I" } : Jvm.MethodName)) ∈ lw_all := lw_g (lw_at lw_m7 41 rfl) rfl
theorem q1584 : (Jvm.Cond.selects "VillageStories" ({ cls := "VillageStories", name := "questions", desc := "()I" } : Jvm.MethodName) ({ cls := "VillageStories", name := "questions", desc := "()I" } : Jvm.MethodName)) ∈ lw_all := lw_g (lw_at lw_m7 42 rfl) rfl
theorem q1585 : (Jvm.Cond.code ({ cls := "VillageStories", name := "questions", desc := "()I" } : Jvm.MethodName) prog_1_method_61_code (4 : Nat) (Option.some Jvm.ClassFile.FieldType.int)) ∈ lw_all := lw_g (lw_at lw_m7 43 rfl) rfl
theorem q1586 : (Jvm.Cond.methodLink "VillageStories" (403 : Nat) ({ cls := "VillageStories", name := "singles", desc := "(II)Z" } : Jvm.MethodName)) ∈ lw_all := lw_g (lw_at lw_m7 44 rfl) rfl
theorem q1587 : (Jvm.Cond.privateMethod ({ cls := "VillageStories", name := "singles", desc := "(II)Z" } : Jvm.MethodName)) ∈ lw_tbl := lw_at lw_m7 45 rfl
theorem q1588 : (Jvm.Cond.instanceMethod ({ cls := "VillageStories", name := "singles", desc := "(II)Z" } : Jvm.MethodName)) ∈ lw_all := lw_g (lw_at lw_m7 46 rfl) rfl
theorem q1589 : (Jvm.Cond.code ({ cls := "VillageStories", name := "singles", desc := "(II)Z" } : Jvm.MethodName) prog_1_method_60_code (7 : Nat) (Option.some Jvm.ClassFile.FieldType.boolean)) ∈ lw_all := lw_g (lw_at lw_m7 47 rfl) rfl
theorem q1591 : (Jvm.Cond.instanceMethod ({ cls := "VillageStories", name := "settle", desc := "(I)I" } : Jvm.MethodName)) ∈ lw_all := lw_g (lw_at lw_m7 49 rfl) rfl
theorem q1592 : (Jvm.Cond.selects "VillageStories" ({ cls := "VillageStories", name := "settle", desc := "(I)I" } : Jvm.MethodName) ({ cls := "VillageStories", name := "settle", desc := "(I)I" } : Jvm.MethodName)) ∈ lw_all := lw_g (lw_at lw_m7 50 rfl) rfl
theorem q1593 : (Jvm.Cond.code ({ cls := "VillageStories", name := "settle", desc := "(I)I" } : Jvm.MethodName) prog_1_method_62_code (9 : Nat) (Option.some Jvm.ClassFile.FieldType.int)) ∈ lw_all := lw_g (lw_at lw_m7 51 rfl) rfl
theorem q1594 : (Jvm.Cond.methodLink "VillageStories" (406 : Nat) ({ cls := "java/lang/Math", name := "max", desc := "(II)I" } : Jvm.MethodName)) ∈ lw_all := lw_g (lw_at lw_m7 52 rfl) rfl
theorem q1595 : (Jvm.Cond.methodLink "VillageStories" (411 : Nat) ({ cls := "VillageStories$Land", name := "factsOf", desc := "(I)I" } : Jvm.MethodName)) ∈ lw_all := lw_g (lw_at lw_m7 53 rfl) rfl
theorem q1597 : (Jvm.Cond.instanceMethod ({ cls := "VillageStories", name := "near", desc := "()I" } : Jvm.MethodName)) ∈ lw_all := lw_g (lw_at lw_m7 55 rfl) rfl
theorem q1598 : (Jvm.Cond.selects "VillageStories" ({ cls := "VillageStories", name := "near", desc := "()I" } : Jvm.MethodName) ({ cls := "VillageStories", name := "near", desc := "()I" } : Jvm.MethodName)) ∈ lw_all := lw_g (lw_at lw_m7 56 rfl) rfl
theorem q1599 : (Jvm.Cond.code ({ cls := "VillageStories", name := "near", desc := "()I" } : Jvm.MethodName) prog_1_method_63_code (6 : Nat) (Option.some Jvm.ClassFile.FieldType.int)) ∈ lw_all := lw_g (lw_at lw_m7 57 rfl) rfl
theorem q1600 : (Jvm.Cond.methodLink "VillageStories" (414 : Nat) ({ cls := "java/lang/Long", name := "bitCount", desc := "(J)I" } : Jvm.MethodName)) ∈ lw_all := lw_g (lw_at lw_m7 58 rfl) rfl
theorem q1602 : (Jvm.Cond.instanceMethod ({ cls := "VillageStories", name := "holds", desc := "(I)I" } : Jvm.MethodName)) ∈ lw_all := lw_g (lw_at lw_m7 60 rfl) rfl
theorem q1603 : (Jvm.Cond.selects "VillageStories" ({ cls := "VillageStories", name := "holds", desc := "(I)I" } : Jvm.MethodName) ({ cls := "VillageStories", name := "holds", desc := "(I)I" } : Jvm.MethodName)) ∈ lw_all := lw_g (lw_at lw_m7 61 rfl) rfl
theorem q1604 : (Jvm.Cond.code ({ cls := "VillageStories", name := "holds", desc := "(I)I" } : Jvm.MethodName) prog_1_method_64_code (5 : Nat) (Option.some Jvm.ClassFile.FieldType.int)) ∈ lw_all := lw_g (lw_at lw_m7 62 rfl) rfl
theorem q1606 : (Jvm.Cond.instanceMethod ({ cls := "VillageStories", name := "against", desc := "()Z" } : Jvm.MethodName)) ∈ lw_all := lw_g (lw_at lw_m7 64 rfl) rfl
theorem q1607 : (Jvm.Cond.selects "VillageStories" ({ cls := "VillageStories", name := "against", desc := "()Z" } : Jvm.MethodName) ({ cls := "VillageStories", name := "against", desc := "()Z" } : Jvm.MethodName)) ∈ lw_all := lw_g (lw_at lw_m7 65 rfl) rfl
theorem q1608 : (Jvm.Cond.code ({ cls := "VillageStories", name := "against", desc := "()Z" } : Jvm.MethodName) prog_1_method_65_code (3 : Nat) (Option.some Jvm.ClassFile.FieldType.boolean)) ∈ lw_all := lw_g (lw_at lw_m7 66 rfl) rfl
theorem q1610 : (Jvm.Cond.instanceMethod ({ cls := "VillageStories", name := "many", desc := "(I)I" } : Jvm.MethodName)) ∈ lw_all := lw_g (lw_at lw_m7 68 rfl) rfl
theorem q1611 : (Jvm.Cond.selects "VillageStories" ({ cls := "VillageStories", name := "many", desc := "(I)I" } : Jvm.MethodName) ({ cls := "VillageStories", name := "many", desc := "(I)I" } : Jvm.MethodName)) ∈ lw_all := lw_g (lw_at lw_m7 69 rfl) rfl
theorem q1612 : (Jvm.Cond.code ({ cls := "VillageStories", name := "many", desc := "(I)I" } : Jvm.MethodName) prog_1_method_66_code (2 : Nat) (Option.some Jvm.ClassFile.FieldType.int)) ∈ lw_all := lw_g (lw_at lw_m7 70 rfl) rfl
theorem q1614 : (Jvm.Cond.instanceMethod ({ cls := "VillageStories", name := "image", desc := "(I)Z" } : Jvm.MethodName)) ∈ lw_all := lw_g (lw_at lw_m7 72 rfl) rfl
theorem q1615 : (Jvm.Cond.selects "VillageStories" ({ cls := "VillageStories", name := "image", desc := "(I)Z" } : Jvm.MethodName) ({ cls := "VillageStories", name := "image", desc := "(I)Z" } : Jvm.MethodName)) ∈ lw_all := lw_g (lw_at lw_m7 73 rfl) rfl
theorem q1616 : (Jvm.Cond.code ({ cls := "VillageStories", name := "image", desc := "(I)Z" } : Jvm.MethodName) prog_1_method_67_code (2 : Nat) (Option.some Jvm.ClassFile.FieldType.boolean)) ∈ lw_all := lw_g (lw_at lw_m7 74 rfl) rfl
theorem q1617 : (Jvm.Cond.methodLink "VillageStories" (419 : Nat) ({ cls := "VillageStories$State", name := "be", desc := "(LVillageStories$State;)V" } : Jvm.MethodName)) ∈ lw_all := lw_g (lw_at lw_m7 75 rfl) rfl
theorem q1636 : (Jvm.Cond.instanceMethod ({ cls := "VillageStories", name := "again", desc := "(I)Z" } : Jvm.MethodName)) ∈ lw_all := lw_g (lw_at lw_m7 94 rfl) rfl
theorem q1637 : (Jvm.Cond.selects "VillageStories" ({ cls := "VillageStories", name := "again", desc := "(I)Z" } : Jvm.MethodName) ({ cls := "VillageStories", name := "again", desc := "(I)Z" } : Jvm.MethodName)) ∈ lw_all := lw_g (lw_at lw_m7 95 rfl) rfl
theorem q1638 : (Jvm.Cond.code ({ cls := "VillageStories", name := "again", desc := "(I)Z" } : Jvm.MethodName) prog_1_method_68_code (2 : Nat) (Option.some Jvm.ClassFile.FieldType.boolean)) ∈ lw_all := lw_g (lw_at lw_m7 96 rfl) rfl
theorem q2268 : (Jvm.Cond.castable "VillageStories" "java/lang/Object") ∈ lw_tbl := lw_at lw_m10 6 rfl
theorem q2316 : (Jvm.Cond.stringRef "VillageStories" (427 : Nat) "man") ∈ lw_tbl := lw_at lw_m10 54 rfl
theorem q2317 : (Jvm.Cond.stringRef "VillageStories" (429 : Nat) "house") ∈ lw_tbl := lw_at lw_m10 55 rfl
theorem q2318 : (Jvm.Cond.stringRef "VillageStories" (431 : Nat) "day") ∈ lw_tbl := lw_at lw_m10 56 rfl
theorem in_X0 : ∀ w ∈ wsX00, w ∈ lw_all := lw_in wsX00 [354, 356, 358, 360, 362, 364, 366, 368, 370, 372, 374, 376, 378, 380] (by decide +kernel) (by decide +kernel)
/-! VillageStories$State -/
def RX1 : String := "VillageStories$State"
def TX1 : u_T := fun k => match k with
  | 0 => ("VillageStories$State", "tape", "[B", true)
  | 1 => ("VillageStories$State", "taped", "I", false)
  | 2 => ("VillageStories$State", "faultKind", "I", false)
  | 3 => ("VillageStories$State", "faultPlace", "I", false)
  | 4 => ("VillageStories$State", "day", "I", false)
  | 5 => ("VillageStories$State", "view", "I", false)
  | 6 => ("VillageStories$State", "guessed", "I", false)
  | 7 => ("VillageStories$State", "row", "J", false)
  | 8 => ("VillageStories$State", "places", "[J", true)
  | 9 => ("VillageStories$State", "filled", "I", false)
  | 10 => ("VillageStories$State", "land", "LVillageStories$Land;", true)
  | 11 => ("VillageStories$State", "stories", "Ljava/util/ArrayList;", true)
  | 12 => ("VillageStories$State", "known", "Ljava/util/ArrayList;", true)
  | _ => ("VillageStories$State", "guess", "LVillageStories$Part;", false)
def tyX1 : Nat → FieldType := fun k => match k with
  | 0 => .array .byte
  | 1 => .int
  | 2 => .int
  | 3 => .int
  | 4 => .int
  | 5 => .int
  | 6 => .int
  | 7 => .long
  | 8 => .array .long
  | 9 => .int
  | 10 => .object "VillageStories$Land"
  | 11 => .object "java/util/ArrayList"
  | 12 => .object "java/util/ArrayList"
  | _ => .object "VillageStories$Part"
abbrev wsX10 : List Cond := u_ws RX1 TX1 14
theorem nmX1 : ∀ a, a < 14 → ∀ b, b < 14 → a ≠ b → (TX1 a).2.1 ≠ (TX1 b).2.1 := by decide +kernel
theorem tyX1_ok : ∀ k, k < 14 → parseFieldDescriptor (TX1 k).2.2.1 = some (tyX1 k) := by decide +kernel
theorem q104 : (Jvm.Cond.initialized "VillageStories$State") ∈ lw_all := lw_g (lw_at lw_m1 2 rfl) rfl
theorem q157 : (Jvm.Cond.instantiable "VillageStories$State" (14 : Nat)) ∈ lw_all := lw_g (lw_at lw_m1 55 rfl) rfl
theorem q159 : (Jvm.Cond.instanceMethod ({ cls := "VillageStories$State", name := "<init>", desc := "()V" } : Jvm.MethodName)) ∈ lw_all := lw_g (lw_at lw_m1 57 rfl) rfl
theorem q160 : (Jvm.Cond.code ({ cls := "VillageStories$State", name := "<init>", desc := "()V" } : Jvm.MethodName) prog_27_method_1_code (1 : Nat) (Option.none : Option Jvm.ClassFile.FieldType)) ∈ lw_all := lw_g (lw_at lw_m1 58 rfl) rfl
theorem q161 : (Jvm.Cond.methodLink "VillageStories$State" (3 : Nat) ({ cls := "java/lang/Object", name := "<init>", desc := "()V" } : Jvm.MethodName)) ∈ lw_all := lw_g (lw_at lw_m1 59 rfl) rfl
theorem q162 : (Jvm.Cond.classLink "VillageStories$State" (26 : Nat) "VillageStories$Land") ∈ lw_all := lw_g (lw_at lw_m1 60 rfl) rfl
theorem q164 : (Jvm.Cond.methodLinkNest "VillageStories$State" (28 : Nat) ({ cls := "VillageStories$Land", name := "<init>", desc := "()V" } : Jvm.MethodName) "VillageStories") ∈ lw_tbl := lw_at lw_m1 62 rfl
theorem q210 : (Jvm.Cond.classLink "VillageStories$State" (33 : Nat) "java/util/ArrayList") ∈ lw_all := lw_g (lw_at lw_m1 108 rfl) rfl
theorem q211 : (Jvm.Cond.methodLink "VillageStories$State" (35 : Nat) ({ cls := "java/util/ArrayList", name := "<init>", desc := "(I)V" } : Jvm.MethodName)) ∈ lw_all := lw_g (lw_at lw_m1 109 rfl) rfl
theorem q212 : (Jvm.Cond.methodLink "VillageStories$State" (42 : Nat) ({ cls := "java/util/ArrayList", name := "<init>", desc := "()V" } : Jvm.MethodName)) ∈ lw_all := lw_g (lw_at lw_m1 110 rfl) rfl
theorem q217 : (Jvm.Cond.fieldLink "VillageStories$State" (9 : Nat) "VillageStories$State" "tape" "[B") ∈ lw_all := lw_g (lw_at lw_m1 115 rfl) rfl
theorem q219 : (Jvm.Cond.fieldLink "VillageStories$State" (52 : Nat) "VillageStories$State" "taped" "I") ∈ lw_all := lw_g (lw_at lw_m1 117 rfl) rfl
theorem q221 : (Jvm.Cond.fieldLink "VillageStories$State" (55 : Nat) "VillageStories$State" "faultKind" "I") ∈ lw_all := lw_g (lw_at lw_m1 119 rfl) rfl
theorem q223 : (Jvm.Cond.fieldLink "VillageStories$State" (15 : Nat) "VillageStories$State" "faultPlace" "I") ∈ lw_all := lw_g (lw_at lw_m1 121 rfl) rfl
theorem q225 : (Jvm.Cond.fieldLink "VillageStories$State" (58 : Nat) "VillageStories$State" "day" "I") ∈ lw_all := lw_g (lw_at lw_m1 123 rfl) rfl
theorem q227 : (Jvm.Cond.fieldLink "VillageStories$State" (19 : Nat) "VillageStories$State" "view" "I") ∈ lw_all := lw_g (lw_at lw_m1 125 rfl) rfl
theorem q229 : (Jvm.Cond.fieldLink "VillageStories$State" (61 : Nat) "VillageStories$State" "guessed" "I") ∈ lw_all := lw_g (lw_at lw_m1 127 rfl) rfl
theorem q232 : (Jvm.Cond.fieldLink "VillageStories$State" (64 : Nat) "VillageStories$State" "row" "J") ∈ lw_all := lw_g (lw_at lw_m1 130 rfl) rfl
theorem q234 : (Jvm.Cond.fieldLink "VillageStories$State" (22 : Nat) "VillageStories$State" "places" "[J") ∈ lw_all := lw_g (lw_at lw_m1 132 rfl) rfl
theorem q236 : (Jvm.Cond.fieldLink "VillageStories$State" (68 : Nat) "VillageStories$State" "filled" "I") ∈ lw_all := lw_g (lw_at lw_m1 134 rfl) rfl
theorem q238 : (Jvm.Cond.fieldLink "VillageStories$State" (29 : Nat) "VillageStories$State" "land" "LVillageStories$Land;") ∈ lw_all := lw_g (lw_at lw_m1 136 rfl) rfl
theorem q240 : (Jvm.Cond.fieldLink "VillageStories$State" (38 : Nat) "VillageStories$State" "stories" "Ljava/util/ArrayList;") ∈ lw_all := lw_g (lw_at lw_m1 138 rfl) rfl
theorem q242 : (Jvm.Cond.fieldLink "VillageStories$State" (43 : Nat) "VillageStories$State" "known" "Ljava/util/ArrayList;") ∈ lw_all := lw_g (lw_at lw_m1 140 rfl) rfl
theorem q244 : (Jvm.Cond.fieldLink "VillageStories$State" (100 : Nat) "VillageStories$State" "guess" "LVillageStories$Part;") ∈ lw_all := lw_g (lw_at lw_m1 142 rfl) rfl
theorem q246 : (Jvm.Cond.laysFinal "VillageStories$State" "VillageStories$State" "tape" "[B") ∈ lw_all := lw_g (lw_at lw_m1 144 rfl) rfl
theorem q247 : (Jvm.Cond.soleField "VillageStories$State" "tape") ∈ lw_all := lw_g (lw_at lw_m1 145 rfl) rfl
theorem q248 : (Jvm.Cond.lays "VillageStories$State" "VillageStories$State" "taped" "I") ∈ lw_all := lw_g (lw_at lw_m1 146 rfl) rfl
theorem q249 : (Jvm.Cond.soleField "VillageStories$State" "taped") ∈ lw_all := lw_g (lw_at lw_m1 147 rfl) rfl
theorem q250 : (Jvm.Cond.lays "VillageStories$State" "VillageStories$State" "faultKind" "I") ∈ lw_all := lw_g (lw_at lw_m1 148 rfl) rfl
theorem q251 : (Jvm.Cond.soleField "VillageStories$State" "faultKind") ∈ lw_all := lw_g (lw_at lw_m1 149 rfl) rfl
theorem q252 : (Jvm.Cond.lays "VillageStories$State" "VillageStories$State" "faultPlace" "I") ∈ lw_all := lw_g (lw_at lw_m1 150 rfl) rfl
theorem q253 : (Jvm.Cond.soleField "VillageStories$State" "faultPlace") ∈ lw_all := lw_g (lw_at lw_m1 151 rfl) rfl
theorem q254 : (Jvm.Cond.lays "VillageStories$State" "VillageStories$State" "day" "I") ∈ lw_all := lw_g (lw_at lw_m1 152 rfl) rfl
theorem q255 : (Jvm.Cond.soleField "VillageStories$State" "day") ∈ lw_all := lw_g (lw_at lw_m1 153 rfl) rfl
theorem q256 : (Jvm.Cond.lays "VillageStories$State" "VillageStories$State" "view" "I") ∈ lw_all := lw_g (lw_at lw_m1 154 rfl) rfl
theorem q257 : (Jvm.Cond.soleField "VillageStories$State" "view") ∈ lw_all := lw_g (lw_at lw_m1 155 rfl) rfl
theorem q258 : (Jvm.Cond.lays "VillageStories$State" "VillageStories$State" "guessed" "I") ∈ lw_all := lw_g (lw_at lw_m1 156 rfl) rfl
theorem q259 : (Jvm.Cond.soleField "VillageStories$State" "guessed") ∈ lw_all := lw_g (lw_at lw_m1 157 rfl) rfl
theorem q260 : (Jvm.Cond.lays "VillageStories$State" "VillageStories$State" "row" "J") ∈ lw_all := lw_g (lw_at lw_m1 158 rfl) rfl
theorem q261 : (Jvm.Cond.soleField "VillageStories$State" "row") ∈ lw_all := lw_g (lw_at lw_m1 159 rfl) rfl
theorem q262 : (Jvm.Cond.laysFinal "VillageStories$State" "VillageStories$State" "places" "[J") ∈ lw_all := lw_g (lw_at lw_m1 160 rfl) rfl
theorem q263 : (Jvm.Cond.soleField "VillageStories$State" "places") ∈ lw_all := lw_g (lw_at lw_m1 161 rfl) rfl
theorem q264 : (Jvm.Cond.lays "VillageStories$State" "VillageStories$State" "filled" "I") ∈ lw_all := lw_g (lw_at lw_m1 162 rfl) rfl
theorem q265 : (Jvm.Cond.soleField "VillageStories$State" "filled") ∈ lw_all := lw_g (lw_at lw_m1 163 rfl) rfl
theorem q266 : (Jvm.Cond.laysFinal "VillageStories$State" "VillageStories$State" "land" "LVillageStories$Land;") ∈ lw_all := lw_g (lw_at lw_m1 164 rfl) rfl
theorem q267 : (Jvm.Cond.soleField "VillageStories$State" "land") ∈ lw_all := lw_g (lw_at lw_m1 165 rfl) rfl
theorem q268 : (Jvm.Cond.laysFinal "VillageStories$State" "VillageStories$State" "stories" "Ljava/util/ArrayList;") ∈ lw_all := lw_g (lw_at lw_m1 166 rfl) rfl
theorem q269 : (Jvm.Cond.soleField "VillageStories$State" "stories") ∈ lw_all := lw_g (lw_at lw_m1 167 rfl) rfl
theorem q270 : (Jvm.Cond.laysFinal "VillageStories$State" "VillageStories$State" "known" "Ljava/util/ArrayList;") ∈ lw_all := lw_g (lw_at lw_m1 168 rfl) rfl
theorem q271 : (Jvm.Cond.soleField "VillageStories$State" "known") ∈ lw_all := lw_g (lw_at lw_m1 169 rfl) rfl
theorem q272 : (Jvm.Cond.lays "VillageStories$State" "VillageStories$State" "guess" "LVillageStories$Part;") ∈ lw_all := lw_g (lw_at lw_m1 170 rfl) rfl
theorem q273 : (Jvm.Cond.soleField "VillageStories$State" "guess") ∈ lw_all := lw_g (lw_at lw_m1 171 rfl) rfl
theorem q274 : (Jvm.Cond.superclass "VillageStories$State" "java/lang/Object") ∈ lw_all := lw_g (lw_at lw_m1 172 rfl) rfl
theorem q487 : (Jvm.Cond.selects "VillageStories$State" ({ cls := "java/lang/Object", name := "getClass", desc := "()Ljava/lang/Class;" } : Jvm.MethodName) ({ cls := "java/lang/Object", name := "getClass", desc := "()Ljava/lang/Class;" } : Jvm.MethodName)) ∈ lw_all := lw_g (lw_at lw_m2 145 rfl) rfl
theorem q1461 : (Jvm.Cond.instanceMethod ({ cls := "VillageStories$State", name := "isSeen", desc := "(I)Z" } : Jvm.MethodName)) ∈ lw_all := lw_g (lw_at lw_m6 159 rfl) rfl
theorem q1462 : (Jvm.Cond.selects "VillageStories$State" ({ cls := "VillageStories$State", name := "isSeen", desc := "(I)Z" } : Jvm.MethodName) ({ cls := "VillageStories$State", name := "isSeen", desc := "(I)Z" } : Jvm.MethodName)) ∈ lw_all := lw_g (lw_at lw_m6 160 rfl) rfl
theorem q1463 : (Jvm.Cond.code ({ cls := "VillageStories$State", name := "isSeen", desc := "(I)Z" } : Jvm.MethodName) prog_27_method_3_code (2 : Nat) (Option.some Jvm.ClassFile.FieldType.boolean)) ∈ lw_all := lw_g (lw_at lw_m6 161 rfl) rfl
theorem q1618 : (Jvm.Cond.instanceMethod ({ cls := "VillageStories$State", name := "be", desc := "(LVillageStories$State;)V" } : Jvm.MethodName)) ∈ lw_all := lw_g (lw_at lw_m7 76 rfl) rfl
theorem q1619 : (Jvm.Cond.selects "VillageStories$State" ({ cls := "VillageStories$State", name := "be", desc := "(LVillageStories$State;)V" } : Jvm.MethodName) ({ cls := "VillageStories$State", name := "be", desc := "(LVillageStories$State;)V" } : Jvm.MethodName)) ∈ lw_all := lw_g (lw_at lw_m7 77 rfl) rfl
theorem q1620 : (Jvm.Cond.code ({ cls := "VillageStories$State", name := "be", desc := "(LVillageStories$State;)V" } : Jvm.MethodName) prog_27_method_2_code (3 : Nat) (Option.none : Option Jvm.ClassFile.FieldType)) ∈ lw_all := lw_g (lw_at lw_m7 78 rfl) rfl
theorem q1621 : (Jvm.Cond.methodLink "VillageStories$State" (46 : Nat) ({ cls := "java/lang/System", name := "arraycopy", desc := "(Ljava/lang/Object;ILjava/lang/Object;II)V" } : Jvm.MethodName)) ∈ lw_all := lw_g (lw_at lw_m7 79 rfl) rfl
theorem q1622 : (Jvm.Cond.methodLink "VillageStories$State" (71 : Nat) ({ cls := "VillageStories$Land", name := "be", desc := "(LVillageStories$Land;)V" } : Jvm.MethodName)) ∈ lw_all := lw_g (lw_at lw_m7 80 rfl) rfl
theorem q1623 : (Jvm.Cond.methodLink "VillageStories$State" (75 : Nat) ({ cls := "java/util/ArrayList", name := "clear", desc := "()V" } : Jvm.MethodName)) ∈ lw_all := lw_g (lw_at lw_m7 81 rfl) rfl
theorem q1624 : (Jvm.Cond.methodLink "VillageStories$State" (78 : Nat) ({ cls := "java/util/ArrayList", name := "size", desc := "()I" } : Jvm.MethodName)) ∈ lw_all := lw_g (lw_at lw_m7 82 rfl) rfl
theorem q1625 : (Jvm.Cond.methodLink "VillageStories$State" (82 : Nat) ({ cls := "java/util/ArrayList", name := "get", desc := "(I)Ljava/lang/Object;" } : Jvm.MethodName)) ∈ lw_all := lw_g (lw_at lw_m7 83 rfl) rfl
theorem q1626 : (Jvm.Cond.classLink "VillageStories$State" (86 : Nat) "VillageStories$Story") ∈ lw_all := lw_g (lw_at lw_m7 84 rfl) rfl
theorem q1627 : (Jvm.Cond.methodLink "VillageStories$State" (88 : Nat) ({ cls := "VillageStories$Story", name := "copy", desc := "()LVillageStories$Story;" } : Jvm.MethodName)) ∈ lw_all := lw_g (lw_at lw_m7 85 rfl) rfl
theorem q1633 : (Jvm.Cond.methodLink "VillageStories$State" (92 : Nat) ({ cls := "java/util/ArrayList", name := "add", desc := "(Ljava/lang/Object;)Z" } : Jvm.MethodName)) ∈ lw_all := lw_g (lw_at lw_m7 91 rfl) rfl
theorem q1634 : (Jvm.Cond.methodLink "VillageStories$State" (96 : Nat) ({ cls := "java/util/ArrayList", name := "addAll", desc := "(Ljava/util/Collection;)Z" } : Jvm.MethodName)) ∈ lw_all := lw_g (lw_at lw_m7 92 rfl) rfl
theorem q2264 : (Jvm.Cond.castable "VillageStories$State" "java/lang/Object") ∈ lw_tbl := lw_at lw_m10 2 rfl
theorem in_X1 : ∀ w ∈ wsX10, w ∈ lw_all := lw_in wsX10 [246, 248, 250, 252, 254, 256, 258, 260, 262, 264, 266, 268, 270, 272] (by decide +kernel) (by decide +kernel)
/-! VillageStories$Story -/
def RX10 : String := "VillageStories$Story"
def TX10 : u_T := fun k => match k with
  | 0 => ("VillageStories$Story", "part", "LVillageStories$Part;", true)
  | 1 => ("VillageStories$Story", "day", "I", true)
  | _ => ("VillageStories$Story", "struck", "I", false)
def tyX10 : Nat → FieldType := fun k => match k with
  | 0 => .object "VillageStories$Part"
  | 1 => .int
  | _ => .int
abbrev wsX100 : List Cond := u_ws RX10 TX10 3
theorem nmX10 : ∀ a, a < 3 → ∀ b, b < 3 → a ≠ b → (TX10 a).2.1 ≠ (TX10 b).2.1 := by decide +kernel
theorem tyX10_ok : ∀ k, k < 3 → parseFieldDescriptor (TX10 k).2.2.1 = some (tyX10 k) := by decide +kernel
theorem q124 : (Jvm.Cond.initialized "VillageStories$Story") ∈ lw_all := lw_g (lw_at lw_m1 22 rfl) rfl
theorem q488 : (Jvm.Cond.selects "VillageStories$Story" ({ cls := "java/lang/Object", name := "getClass", desc := "()Ljava/lang/Class;" } : Jvm.MethodName) ({ cls := "java/lang/Object", name := "getClass", desc := "()Ljava/lang/Class;" } : Jvm.MethodName)) ∈ lw_all := lw_g (lw_at lw_m2 146 rfl) rfl
theorem q620 : (Jvm.Cond.instantiable "VillageStories$Story" (3 : Nat)) ∈ lw_all := lw_g (lw_at lw_m3 38 rfl) rfl
theorem q1204 : (Jvm.Cond.instanceMethod ({ cls := "VillageStories$Story", name := "<init>", desc := "(LVillageStories$Part;I)V" } : Jvm.MethodName)) ∈ lw_all := lw_g (lw_at lw_m5 142 rfl) rfl
theorem q1205 : (Jvm.Cond.code ({ cls := "VillageStories$Story", name := "<init>", desc := "(LVillageStories$Part;I)V" } : Jvm.MethodName) prog_28_method_1_code (3 : Nat) (Option.none : Option Jvm.ClassFile.FieldType)) ∈ lw_all := lw_g (lw_at lw_m5 143 rfl) rfl
theorem q1206 : (Jvm.Cond.methodLink "VillageStories$Story" (3 : Nat) ({ cls := "java/lang/Object", name := "<init>", desc := "()V" } : Jvm.MethodName)) ∈ lw_all := lw_g (lw_at lw_m5 144 rfl) rfl
theorem q1207 : (Jvm.Cond.fieldLink "VillageStories$Story" (15 : Nat) "VillageStories$Story" "part" "LVillageStories$Part;") ∈ lw_all := lw_g (lw_at lw_m5 145 rfl) rfl
theorem q1209 : (Jvm.Cond.fieldLink "VillageStories$Story" (19 : Nat) "VillageStories$Story" "day" "I") ∈ lw_all := lw_g (lw_at lw_m5 147 rfl) rfl
theorem q1211 : (Jvm.Cond.fieldLink "VillageStories$Story" (9 : Nat) "VillageStories$Story" "struck" "I") ∈ lw_all := lw_g (lw_at lw_m5 149 rfl) rfl
theorem q1213 : (Jvm.Cond.laysFinal "VillageStories$Story" "VillageStories$Story" "part" "LVillageStories$Part;") ∈ lw_all := lw_g (lw_at lw_m5 151 rfl) rfl
theorem q1214 : (Jvm.Cond.soleField "VillageStories$Story" "part") ∈ lw_all := lw_g (lw_at lw_m5 152 rfl) rfl
theorem q1215 : (Jvm.Cond.laysFinal "VillageStories$Story" "VillageStories$Story" "day" "I") ∈ lw_all := lw_g (lw_at lw_m5 153 rfl) rfl
theorem q1216 : (Jvm.Cond.soleField "VillageStories$Story" "day") ∈ lw_all := lw_g (lw_at lw_m5 154 rfl) rfl
theorem q1217 : (Jvm.Cond.lays "VillageStories$Story" "VillageStories$Story" "struck" "I") ∈ lw_all := lw_g (lw_at lw_m5 155 rfl) rfl
theorem q1218 : (Jvm.Cond.soleField "VillageStories$Story" "struck") ∈ lw_all := lw_g (lw_at lw_m5 156 rfl) rfl
theorem q1219 : (Jvm.Cond.superclass "VillageStories$Story" "java/lang/Object") ∈ lw_all := lw_g (lw_at lw_m5 157 rfl) rfl
theorem q1628 : (Jvm.Cond.instanceMethod ({ cls := "VillageStories$Story", name := "copy", desc := "()LVillageStories$Story;" } : Jvm.MethodName)) ∈ lw_all := lw_g (lw_at lw_m7 86 rfl) rfl
theorem q1629 : (Jvm.Cond.selects "VillageStories$Story" ({ cls := "VillageStories$Story", name := "copy", desc := "()LVillageStories$Story;" } : Jvm.MethodName) ({ cls := "VillageStories$Story", name := "copy", desc := "()LVillageStories$Story;" } : Jvm.MethodName)) ∈ lw_all := lw_g (lw_at lw_m7 87 rfl) rfl
theorem q1630 : (Jvm.Cond.code ({ cls := "VillageStories$Story", name := "copy", desc := "()LVillageStories$Story;" } : Jvm.MethodName) prog_28_method_2_code (2 : Nat) (Option.some (Jvm.ClassFile.FieldType.object "VillageStories$Story"))) ∈ lw_all := lw_g (lw_at lw_m7 88 rfl) rfl
theorem q1631 : (Jvm.Cond.classLink "VillageStories$Story" (10 : Nat) "VillageStories$Story") ∈ lw_all := lw_g (lw_at lw_m7 89 rfl) rfl
theorem q1632 : (Jvm.Cond.methodLink "VillageStories$Story" (22 : Nat) ({ cls := "VillageStories$Story", name := "<init>", desc := "(LVillageStories$Part;I)V" } : Jvm.MethodName)) ∈ lw_all := lw_g (lw_at lw_m7 90 rfl) rfl
theorem q2277 : (Jvm.Cond.castable "VillageStories$Story" "java/lang/Object") ∈ lw_tbl := lw_at lw_m10 15 rfl
theorem in_X10 : ∀ w ∈ wsX100, w ∈ lw_all := lw_in wsX100 [1213, 1215, 1217] (by decide +kernel) (by decide +kernel)
/-! VillageStories$Reader -/
def RX11 : String := "VillageStories$Reader"
def TX11 : u_T := fun k => match k with
  | 0 => ("VillageStories$Reader", "tape", "[B", true)
  | 1 => ("VillageStories$Reader", "size", "I", true)
  | 2 => ("VillageStories$Reader", "relations", "Ljava/util/ArrayList;", true)
  | 3 => ("VillageStories$Reader", "next", "I", false)
  | 4 => ("VillageStories$Reader", "place", "I", false)
  | 5 => ("VillageStories$Reader", "value", "I", false)
  | 6 => ("VillageStories$Reader", "parts", "I", false)
  | 7 => ("VillageStories$Reader", "within", "I", false)
  | 8 => ("VillageStories$Reader", "token", "LVillageStories$Token;", false)
  | 9 => ("VillageStories$Reader", "text", "Ljava/lang/String;", false)
  | 10 => ("VillageStories$Reader", "kinds", "[I", true)
  | _ => ("VillageStories$Reader", "also", "LVillageStories$Fault;", false)
def tyX11 : Nat → FieldType := fun k => match k with
  | 0 => .array .byte
  | 1 => .int
  | 2 => .object "java/util/ArrayList"
  | 3 => .int
  | 4 => .int
  | 5 => .int
  | 6 => .int
  | 7 => .int
  | 8 => .object "VillageStories$Token"
  | 9 => .object "java/lang/String"
  | 10 => .array .int
  | _ => .object "VillageStories$Fault"
abbrev wsX110 : List Cond := u_ws RX11 TX11 12
theorem nmX11 : ∀ a, a < 12 → ∀ b, b < 12 → a ≠ b → (TX11 a).2.1 ≠ (TX11 b).2.1 := by decide +kernel
theorem tyX11_ok : ∀ k, k < 12 → parseFieldDescriptor (TX11 k).2.2.1 = some (tyX11 k) := by decide +kernel
theorem q125 : (Jvm.Cond.initialized "VillageStories$Reader") ∈ lw_all := lw_g (lw_at lw_m1 23 rfl) rfl
theorem q423 : (Jvm.Cond.fieldLinkNest "VillageStories$Reader" (155 : Nat) "VillageStories$Relation" "first" "I" "VillageStories") ∈ lw_tbl := lw_at lw_m2 81 rfl
theorem q427 : (Jvm.Cond.fieldLinkNest "VillageStories$Reader" (229 : Nat) "VillageStories$Relation" "second" "I" "VillageStories") ∈ lw_tbl := lw_at lw_m2 85 rfl
theorem q484 : (Jvm.Cond.selects "VillageStories$Reader" ({ cls := "java/lang/Object", name := "getClass", desc := "()Ljava/lang/Class;" } : Jvm.MethodName) ({ cls := "java/lang/Object", name := "getClass", desc := "()Ljava/lang/Class;" } : Jvm.MethodName)) ∈ lw_all := lw_g (lw_at lw_m2 142 rfl) rfl
theorem q622 : (Jvm.Cond.instantiable "VillageStories$Reader" (12 : Nat)) ∈ lw_all := lw_g (lw_at lw_m3 40 rfl) rfl
theorem q624 : (Jvm.Cond.instanceMethod ({ cls := "VillageStories$Reader", name := "<init>", desc := "([BILjava/util/ArrayList;)V" } : Jvm.MethodName)) ∈ lw_all := lw_g (lw_at lw_m3 42 rfl) rfl
theorem q625 : (Jvm.Cond.code ({ cls := "VillageStories$Reader", name := "<init>", desc := "([BILjava/util/ArrayList;)V" } : Jvm.MethodName) prog_23_method_1_code (4 : Nat) (Option.none : Option Jvm.ClassFile.FieldType)) ∈ lw_all := lw_g (lw_at lw_m3 43 rfl) rfl
theorem q626 : (Jvm.Cond.methodLink "VillageStories$Reader" (3 : Nat) ({ cls := "java/lang/Object", name := "<init>", desc := "()V" } : Jvm.MethodName)) ∈ lw_all := lw_g (lw_at lw_m3 44 rfl) rfl
theorem q627 : (Jvm.Cond.methodLink "VillageStories$Reader" (27 : Nat) ({ cls := "VillageStories$Reader", name := "step", desc := "()V" } : Jvm.MethodName)) ∈ lw_all := lw_g (lw_at lw_m3 45 rfl) rfl
theorem q628 : (Jvm.Cond.privateMethod ({ cls := "VillageStories$Reader", name := "step", desc := "()V" } : Jvm.MethodName)) ∈ lw_tbl := lw_at lw_m3 46 rfl
theorem q629 : (Jvm.Cond.instanceMethod ({ cls := "VillageStories$Reader", name := "step", desc := "()V" } : Jvm.MethodName)) ∈ lw_all := lw_g (lw_at lw_m3 47 rfl) rfl
theorem q630 : (Jvm.Cond.code ({ cls := "VillageStories$Reader", name := "step", desc := "()V" } : Jvm.MethodName) prog_23_method_5_code (3 : Nat) (Option.none : Option Jvm.ClassFile.FieldType)) ∈ lw_all := lw_g (lw_at lw_m3 48 rfl) rfl
theorem q631 : (Jvm.Cond.methodLink "VillageStories$Reader" (33 : Nat) ({ cls := "VillageStories$Reader", name := "at", desc := "(I)I" } : Jvm.MethodName)) ∈ lw_all := lw_g (lw_at lw_m3 49 rfl) rfl
theorem q632 : (Jvm.Cond.privateMethod ({ cls := "VillageStories$Reader", name := "at", desc := "(I)I" } : Jvm.MethodName)) ∈ lw_tbl := lw_at lw_m3 50 rfl
theorem q633 : (Jvm.Cond.instanceMethod ({ cls := "VillageStories$Reader", name := "at", desc := "(I)I" } : Jvm.MethodName)) ∈ lw_all := lw_g (lw_at lw_m3 51 rfl) rfl
theorem q634 : (Jvm.Cond.code ({ cls := "VillageStories$Reader", name := "at", desc := "(I)I" } : Jvm.MethodName) prog_23_method_2_code (2 : Nat) (Option.some Jvm.ClassFile.FieldType.int)) ∈ lw_all := lw_g (lw_at lw_m3 52 rfl) rfl
theorem q635 : (Jvm.Cond.fieldLink "VillageStories$Reader" (40 : Nat) "VillageStories$Token" "END" "LVillageStories$Token;") ∈ lw_all := lw_g (lw_at lw_m3 53 rfl) rfl
theorem q637 : (Jvm.Cond.methodLink "VillageStories$Reader" (49 : Nat) ({ cls := "VillageStories$Reader", name := "isLetter", desc := "(I)Z" } : Jvm.MethodName)) ∈ lw_all := lw_g (lw_at lw_m3 55 rfl) rfl
theorem q638 : (Jvm.Cond.static ({ cls := "VillageStories$Reader", name := "isLetter", desc := "(I)Z" } : Jvm.MethodName)) ∈ lw_all := lw_g (lw_at lw_m3 56 rfl) rfl
theorem q639 : (Jvm.Cond.code ({ cls := "VillageStories$Reader", name := "isLetter", desc := "(I)Z" } : Jvm.MethodName) prog_23_method_3_code (1 : Nat) (Option.some Jvm.ClassFile.FieldType.boolean)) ∈ lw_all := lw_g (lw_at lw_m3 57 rfl) rfl
theorem q640 : (Jvm.Cond.classLink "VillageStories$Reader" (53 : Nat) "java/lang/StringBuilder") ∈ lw_all := lw_g (lw_at lw_m3 58 rfl) rfl
theorem q642 : (Jvm.Cond.methodLink "VillageStories$Reader" (55 : Nat) ({ cls := "java/lang/StringBuilder", name := "<init>", desc := "(I)V" } : Jvm.MethodName)) ∈ lw_all := lw_g (lw_at lw_m3 60 rfl) rfl
theorem q671 : (Jvm.Cond.methodLink "VillageStories$Reader" (58 : Nat) ({ cls := "java/lang/StringBuilder", name := "length", desc := "()I" } : Jvm.MethodName)) ∈ lw_all := lw_g (lw_at lw_m3 89 rfl) rfl
theorem q678 : (Jvm.Cond.methodLink "VillageStories$Reader" (62 : Nat) ({ cls := "java/lang/StringBuilder", name := "append", desc := "(C)Ljava/lang/StringBuilder;" } : Jvm.MethodName)) ∈ lw_all := lw_g (lw_at lw_m3 96 rfl) rfl
theorem q756 : (Jvm.Cond.methodLink "VillageStories$Reader" (66 : Nat) ({ cls := "java/lang/StringBuilder", name := "toString", desc := "()Ljava/lang/String;" } : Jvm.MethodName)) ∈ lw_all := lw_g (lw_at lw_m3 174 rfl) rfl
theorem q810 : (Jvm.Cond.fieldLink "VillageStories$Reader" (74 : Nat) "VillageStories$Token" "WORD" "LVillageStories$Token;") ∈ lw_all := lw_g (lw_at lw_m3 228 rfl) rfl
theorem q812 : (Jvm.Cond.methodLink "VillageStories$Reader" (77 : Nat) ({ cls := "VillageStories$Reader", name := "isDigit", desc := "(I)Z" } : Jvm.MethodName)) ∈ lw_all := lw_g (lw_at lw_m3 230 rfl) rfl
theorem q813 : (Jvm.Cond.static ({ cls := "VillageStories$Reader", name := "isDigit", desc := "(I)Z" } : Jvm.MethodName)) ∈ lw_all := lw_g (lw_at lw_m3 231 rfl) rfl
theorem q814 : (Jvm.Cond.code ({ cls := "VillageStories$Reader", name := "isDigit", desc := "(I)Z" } : Jvm.MethodName) prog_23_method_4_code (1 : Nat) (Option.some Jvm.ClassFile.FieldType.boolean)) ∈ lw_all := lw_g (lw_at lw_m3 232 rfl) rfl
theorem q815 : (Jvm.Cond.fieldLink "VillageStories$Reader" (83 : Nat) "VillageStories$Token" "BAD" "LVillageStories$Token;") ∈ lw_all := lw_g (lw_at lw_m3 233 rfl) rfl
theorem q817 : (Jvm.Cond.fieldLink "VillageStories$Reader" (86 : Nat) "VillageStories$Token" "NUMBER" "LVillageStories$Token;") ∈ lw_all := lw_g (lw_at lw_m3 235 rfl) rfl
theorem q819 : (Jvm.Cond.fieldLink "VillageStories$Reader" (15 : Nat) "VillageStories$Reader" "tape" "[B") ∈ lw_all := lw_g (lw_at lw_m3 237 rfl) rfl
theorem q820 : (Jvm.Cond.fieldLink "VillageStories$Reader" (19 : Nat) "VillageStories$Reader" "size" "I") ∈ lw_all := lw_g (lw_at lw_m3 238 rfl) rfl
theorem q821 : (Jvm.Cond.fieldLink "VillageStories$Reader" (23 : Nat) "VillageStories$Reader" "relations" "Ljava/util/ArrayList;") ∈ lw_all := lw_g (lw_at lw_m3 239 rfl) rfl
theorem q822 : (Jvm.Cond.fieldLink "VillageStories$Reader" (30 : Nat) "VillageStories$Reader" "next" "I") ∈ lw_all := lw_g (lw_at lw_m4 0 rfl) rfl
theorem q823 : (Jvm.Cond.fieldLink "VillageStories$Reader" (37 : Nat) "VillageStories$Reader" "place" "I") ∈ lw_all := lw_g (lw_at lw_m4 1 rfl) rfl
theorem q824 : (Jvm.Cond.fieldLink "VillageStories$Reader" (80 : Nat) "VillageStories$Reader" "value" "I") ∈ lw_all := lw_g (lw_at lw_m4 2 rfl) rfl
theorem q825 : (Jvm.Cond.fieldLink "VillageStories$Reader" (162 : Nat) "VillageStories$Reader" "parts" "I") ∈ lw_all := lw_g (lw_at lw_m4 3 rfl) rfl
theorem q827 : (Jvm.Cond.fieldLink "VillageStories$Reader" (233 : Nat) "VillageStories$Reader" "within" "I") ∈ lw_all := lw_g (lw_at lw_m4 5 rfl) rfl
theorem q828 : (Jvm.Cond.fieldLink "VillageStories$Reader" (46 : Nat) "VillageStories$Reader" "token" "LVillageStories$Token;") ∈ lw_all := lw_g (lw_at lw_m4 6 rfl) rfl
theorem q829 : (Jvm.Cond.fieldLink "VillageStories$Reader" (70 : Nat) "VillageStories$Reader" "text" "Ljava/lang/String;") ∈ lw_all := lw_g (lw_at lw_m4 7 rfl) rfl
theorem q830 : (Jvm.Cond.fieldLink "VillageStories$Reader" (9 : Nat) "VillageStories$Reader" "kinds" "[I") ∈ lw_all := lw_g (lw_at lw_m4 8 rfl) rfl
theorem q831 : (Jvm.Cond.fieldLink "VillageStories$Reader" (104 : Nat) "VillageStories$Reader" "also" "LVillageStories$Fault;") ∈ lw_all := lw_g (lw_at lw_m4 9 rfl) rfl
theorem q832 : (Jvm.Cond.laysFinal "VillageStories$Reader" "VillageStories$Reader" "tape" "[B") ∈ lw_all := lw_g (lw_at lw_m4 10 rfl) rfl
theorem q833 : (Jvm.Cond.soleField "VillageStories$Reader" "tape") ∈ lw_all := lw_g (lw_at lw_m4 11 rfl) rfl
theorem q834 : (Jvm.Cond.laysFinal "VillageStories$Reader" "VillageStories$Reader" "size" "I") ∈ lw_all := lw_g (lw_at lw_m4 12 rfl) rfl
theorem q835 : (Jvm.Cond.soleField "VillageStories$Reader" "size") ∈ lw_all := lw_g (lw_at lw_m4 13 rfl) rfl
theorem q836 : (Jvm.Cond.laysFinal "VillageStories$Reader" "VillageStories$Reader" "relations" "Ljava/util/ArrayList;") ∈ lw_all := lw_g (lw_at lw_m4 14 rfl) rfl
theorem q837 : (Jvm.Cond.soleField "VillageStories$Reader" "relations") ∈ lw_all := lw_g (lw_at lw_m4 15 rfl) rfl
theorem q838 : (Jvm.Cond.lays "VillageStories$Reader" "VillageStories$Reader" "next" "I") ∈ lw_all := lw_g (lw_at lw_m4 16 rfl) rfl
theorem q839 : (Jvm.Cond.soleField "VillageStories$Reader" "next") ∈ lw_all := lw_g (lw_at lw_m4 17 rfl) rfl
theorem q840 : (Jvm.Cond.lays "VillageStories$Reader" "VillageStories$Reader" "place" "I") ∈ lw_all := lw_g (lw_at lw_m4 18 rfl) rfl
theorem q841 : (Jvm.Cond.soleField "VillageStories$Reader" "place") ∈ lw_all := lw_g (lw_at lw_m4 19 rfl) rfl
theorem q842 : (Jvm.Cond.lays "VillageStories$Reader" "VillageStories$Reader" "value" "I") ∈ lw_all := lw_g (lw_at lw_m4 20 rfl) rfl
theorem q843 : (Jvm.Cond.soleField "VillageStories$Reader" "value") ∈ lw_all := lw_g (lw_at lw_m4 21 rfl) rfl
theorem q844 : (Jvm.Cond.lays "VillageStories$Reader" "VillageStories$Reader" "parts" "I") ∈ lw_all := lw_g (lw_at lw_m4 22 rfl) rfl
theorem q845 : (Jvm.Cond.soleField "VillageStories$Reader" "parts") ∈ lw_all := lw_g (lw_at lw_m4 23 rfl) rfl
theorem q846 : (Jvm.Cond.lays "VillageStories$Reader" "VillageStories$Reader" "within" "I") ∈ lw_all := lw_g (lw_at lw_m4 24 rfl) rfl
theorem q847 : (Jvm.Cond.soleField "VillageStories$Reader" "within") ∈ lw_all := lw_g (lw_at lw_m4 25 rfl) rfl
theorem q848 : (Jvm.Cond.lays "VillageStories$Reader" "VillageStories$Reader" "token" "LVillageStories$Token;") ∈ lw_all := lw_g (lw_at lw_m4 26 rfl) rfl
theorem q849 : (Jvm.Cond.soleField "VillageStories$Reader" "token") ∈ lw_all := lw_g (lw_at lw_m4 27 rfl) rfl
theorem q850 : (Jvm.Cond.lays "VillageStories$Reader" "VillageStories$Reader" "text" "Ljava/lang/String;") ∈ lw_all := lw_g (lw_at lw_m4 28 rfl) rfl
theorem q851 : (Jvm.Cond.soleField "VillageStories$Reader" "text") ∈ lw_all := lw_g (lw_at lw_m4 29 rfl) rfl
theorem q852 : (Jvm.Cond.laysFinal "VillageStories$Reader" "VillageStories$Reader" "kinds" "[I") ∈ lw_all := lw_g (lw_at lw_m4 30 rfl) rfl
theorem q853 : (Jvm.Cond.soleField "VillageStories$Reader" "kinds") ∈ lw_all := lw_g (lw_at lw_m4 31 rfl) rfl
theorem q854 : (Jvm.Cond.lays "VillageStories$Reader" "VillageStories$Reader" "also" "LVillageStories$Fault;") ∈ lw_all := lw_g (lw_at lw_m4 32 rfl) rfl
theorem q855 : (Jvm.Cond.soleField "VillageStories$Reader" "also") ∈ lw_all := lw_g (lw_at lw_m4 33 rfl) rfl
theorem q856 : (Jvm.Cond.superclass "VillageStories$Reader" "java/lang/Object") ∈ lw_all := lw_g (lw_at lw_m4 34 rfl) rfl
theorem q858 : (Jvm.Cond.instanceMethod ({ cls := "VillageStories$Reader", name := "whole", desc := "()LVillageStories$Part;" } : Jvm.MethodName)) ∈ lw_all := lw_g (lw_at lw_m4 36 rfl) rfl
theorem q859 : (Jvm.Cond.selects "VillageStories$Reader" ({ cls := "VillageStories$Reader", name := "whole", desc := "()LVillageStories$Part;" } : Jvm.MethodName) ({ cls := "VillageStories$Reader", name := "whole", desc := "()LVillageStories$Part;" } : Jvm.MethodName)) ∈ lw_all := lw_g (lw_at lw_m4 37 rfl) rfl
theorem q860 : (Jvm.Cond.code ({ cls := "VillageStories$Reader", name := "whole", desc := "()LVillageStories$Part;" } : Jvm.MethodName) prog_23_method_16_code (2 : Nat) (Option.some (Jvm.ClassFile.FieldType.object "VillageStories$Part"))) ∈ lw_all := lw_g (lw_at lw_m4 38 rfl) rfl
theorem q861 : (Jvm.Cond.methodLink "VillageStories$Reader" (158 : Nat) ({ cls := "VillageStories$Reader", name := "part", desc := "()LVillageStories$Part;" } : Jvm.MethodName)) ∈ lw_all := lw_g (lw_at lw_m4 39 rfl) rfl
theorem q862 : (Jvm.Cond.privateMethod ({ cls := "VillageStories$Reader", name := "part", desc := "()LVillageStories$Part;" } : Jvm.MethodName)) ∈ lw_tbl := lw_at lw_m4 40 rfl
theorem q863 : (Jvm.Cond.instanceMethod ({ cls := "VillageStories$Reader", name := "part", desc := "()LVillageStories$Part;" } : Jvm.MethodName)) ∈ lw_all := lw_g (lw_at lw_m4 41 rfl) rfl
theorem q864 : (Jvm.Cond.code ({ cls := "VillageStories$Reader", name := "part", desc := "()LVillageStories$Part;" } : Jvm.MethodName) prog_23_method_17_code (6 : Nat) (Option.some (Jvm.ClassFile.FieldType.object "VillageStories$Part"))) ∈ lw_all := lw_g (lw_at lw_m4 42 rfl) rfl
theorem q865 : (Jvm.Cond.methodLink "VillageStories$Reader" (129 : Nat) ({ cls := "VillageStories$Reader", name := "also", desc := "(II)V" } : Jvm.MethodName)) ∈ lw_all := lw_g (lw_at lw_m4 43 rfl) rfl
theorem q866 : (Jvm.Cond.privateMethod ({ cls := "VillageStories$Reader", name := "also", desc := "(II)V" } : Jvm.MethodName)) ∈ lw_tbl := lw_at lw_m4 44 rfl
theorem q867 : (Jvm.Cond.instanceMethod ({ cls := "VillageStories$Reader", name := "also", desc := "(II)V" } : Jvm.MethodName)) ∈ lw_all := lw_g (lw_at lw_m4 45 rfl) rfl
theorem q868 : (Jvm.Cond.code ({ cls := "VillageStories$Reader", name := "also", desc := "(II)V" } : Jvm.MethodName) prog_23_method_9_code (3 : Nat) (Option.none : Option Jvm.ClassFile.FieldType)) ∈ lw_all := lw_g (lw_at lw_m4 46 rfl) rfl
theorem q869 : (Jvm.Cond.classLink "VillageStories$Reader" (89 : Nat) "VillageStories$Fault") ∈ lw_all := lw_g (lw_at lw_m4 47 rfl) rfl
theorem q906 : (Jvm.Cond.methodLink "VillageStories$Reader" (91 : Nat) ({ cls := "VillageStories$Fault", name := "<init>", desc := "(II)V" } : Jvm.MethodName)) ∈ lw_all := lw_g (lw_at lw_m4 84 rfl) rfl
theorem q914 : (Jvm.Cond.fieldLinkNest "VillageStories$Reader" (109 : Nat) "VillageStories$Fault" "kind" "I" "VillageStories") ∈ lw_tbl := lw_at lw_m4 92 rfl
theorem q917 : (Jvm.Cond.fieldLinkNest "VillageStories$Reader" (108 : Nat) "VillageStories$Fault" "place" "I" "VillageStories") ∈ lw_tbl := lw_at lw_m4 95 rfl
theorem q935 : (Jvm.Cond.fieldLinkNest "VillageStories$Reader" (165 : Nat) "VillageStories" "OFTEN" "[LVillageStories$Often;" "VillageStories") ∈ lw_tbl := lw_at lw_m4 113 rfl
theorem q937 : (Jvm.Cond.methodLink "VillageStories$Reader" (135 : Nat) ({ cls := "VillageStories$Reader", name := "takes", desc := "(Ljava/lang/String;)Z" } : Jvm.MethodName)) ∈ lw_all := lw_g (lw_at lw_m4 115 rfl) rfl
theorem q938 : (Jvm.Cond.privateMethod ({ cls := "VillageStories$Reader", name := "takes", desc := "(Ljava/lang/String;)Z" } : Jvm.MethodName)) ∈ lw_tbl := lw_at lw_m4 116 rfl
theorem q939 : (Jvm.Cond.instanceMethod ({ cls := "VillageStories$Reader", name := "takes", desc := "(Ljava/lang/String;)Z" } : Jvm.MethodName)) ∈ lw_all := lw_g (lw_at lw_m4 117 rfl) rfl
theorem q940 : (Jvm.Cond.code ({ cls := "VillageStories$Reader", name := "takes", desc := "(Ljava/lang/String;)Z" } : Jvm.MethodName) prog_23_method_7_code (2 : Nat) (Option.some Jvm.ClassFile.FieldType.boolean)) ∈ lw_all := lw_g (lw_at lw_m4 118 rfl) rfl
theorem q941 : (Jvm.Cond.methodLink "VillageStories$Reader" (94 : Nat) ({ cls := "java/lang/String", name := "equals", desc := "(Ljava/lang/Object;)Z" } : Jvm.MethodName)) ∈ lw_all := lw_g (lw_at lw_m4 119 rfl) rfl
theorem q949 : (Jvm.Cond.methodLink "VillageStories$Reader" (174 : Nat) ({ cls := "VillageStories$Reader", name := "each", desc := "(LVillageStories$Often;I)LVillageStories$Part;" } : Jvm.MethodName)) ∈ lw_all := lw_g (lw_at lw_m4 127 rfl) rfl
theorem q950 : (Jvm.Cond.privateMethod ({ cls := "VillageStories$Reader", name := "each", desc := "(LVillageStories$Often;I)LVillageStories$Part;" } : Jvm.MethodName)) ∈ lw_tbl := lw_at lw_m4 128 rfl
theorem q951 : (Jvm.Cond.instanceMethod ({ cls := "VillageStories$Reader", name := "each", desc := "(LVillageStories$Often;I)LVillageStories$Part;" } : Jvm.MethodName)) ∈ lw_all := lw_g (lw_at lw_m4 129 rfl) rfl
theorem q952 : (Jvm.Cond.code ({ cls := "VillageStories$Reader", name := "each", desc := "(LVillageStories$Often;I)LVillageStories$Part;" } : Jvm.MethodName) prog_23_method_18_code (8 : Nat) (Option.some (Jvm.ClassFile.FieldType.object "VillageStories$Part"))) ∈ lw_all := lw_g (lw_at lw_m4 130 rfl) rfl
theorem q953 : (Jvm.Cond.methodLink "VillageStories$Reader" (236 : Nat) ({ cls := "VillageStories$Often", name := "hasNumber", desc := "()Z" } : Jvm.MethodName)) ∈ lw_all := lw_g (lw_at lw_m4 131 rfl) rfl
theorem q965 : (Jvm.Cond.methodLink "VillageStories$Reader" (239 : Nat) ({ cls := "VillageStories$Reader", name := "number", desc := "()I" } : Jvm.MethodName)) ∈ lw_all := lw_g (lw_at lw_m4 143 rfl) rfl
theorem q966 : (Jvm.Cond.privateMethod ({ cls := "VillageStories$Reader", name := "number", desc := "()I" } : Jvm.MethodName)) ∈ lw_tbl := lw_at lw_m4 144 rfl
theorem q967 : (Jvm.Cond.instanceMethod ({ cls := "VillageStories$Reader", name := "number", desc := "()I" } : Jvm.MethodName)) ∈ lw_all := lw_g (lw_at lw_m4 145 rfl) rfl
theorem q968 : (Jvm.Cond.code ({ cls := "VillageStories$Reader", name := "number", desc := "()I" } : Jvm.MethodName) prog_23_method_8_code (2 : Nat) (Option.some Jvm.ClassFile.FieldType.int)) ∈ lw_all := lw_g (lw_at lw_m4 146 rfl) rfl
theorem q969 : (Jvm.Cond.methodLink "VillageStories$Reader" (100 : Nat) ({ cls := "VillageStories$Reader", name := "wrong", desc := "()LVillageStories$Fault;" } : Jvm.MethodName)) ∈ lw_all := lw_g (lw_at lw_m4 147 rfl) rfl
theorem q970 : (Jvm.Cond.privateMethod ({ cls := "VillageStories$Reader", name := "wrong", desc := "()LVillageStories$Fault;" } : Jvm.MethodName)) ∈ lw_tbl := lw_at lw_m4 148 rfl
theorem q971 : (Jvm.Cond.instanceMethod ({ cls := "VillageStories$Reader", name := "wrong", desc := "()LVillageStories$Fault;" } : Jvm.MethodName)) ∈ lw_all := lw_g (lw_at lw_m4 149 rfl) rfl
theorem q972 : (Jvm.Cond.code ({ cls := "VillageStories$Reader", name := "wrong", desc := "()LVillageStories$Fault;" } : Jvm.MethodName) prog_23_method_6_code (1 : Nat) (Option.some (Jvm.ClassFile.FieldType.object "VillageStories$Fault"))) ∈ lw_all := lw_g (lw_at lw_m4 150 rfl) rfl
theorem q973 : (Jvm.Cond.methodLink "VillageStories$Reader" (126 : Nat) ({ cls := "VillageStories$Reader", name := "var", desc := "()I" } : Jvm.MethodName)) ∈ lw_all := lw_g (lw_at lw_m4 151 rfl) rfl
theorem q974 : (Jvm.Cond.privateMethod ({ cls := "VillageStories$Reader", name := "var", desc := "()I" } : Jvm.MethodName)) ∈ lw_tbl := lw_at lw_m4 152 rfl
theorem q975 : (Jvm.Cond.instanceMethod ({ cls := "VillageStories$Reader", name := "var", desc := "()I" } : Jvm.MethodName)) ∈ lw_all := lw_g (lw_at lw_m4 153 rfl) rfl
theorem q976 : (Jvm.Cond.code ({ cls := "VillageStories$Reader", name := "var", desc := "()I" } : Jvm.MethodName) prog_23_method_11_code (2 : Nat) (Option.some Jvm.ClassFile.FieldType.int)) ∈ lw_all := lw_g (lw_at lw_m4 154 rfl) rfl
theorem q977 : (Jvm.Cond.stringRef "VillageStories$Reader" (120 : Nat) "xyzw") ∈ lw_tbl := lw_at lw_m4 155 rfl
theorem q978 : (Jvm.Cond.methodLink "VillageStories$Reader" (122 : Nat) ({ cls := "VillageStories$Reader", name := "letter", desc := "(Ljava/lang/String;I)I" } : Jvm.MethodName)) ∈ lw_all := lw_g (lw_at lw_m4 156 rfl) rfl
theorem q979 : (Jvm.Cond.privateMethod ({ cls := "VillageStories$Reader", name := "letter", desc := "(Ljava/lang/String;I)I" } : Jvm.MethodName)) ∈ lw_tbl := lw_at lw_m4 157 rfl
theorem q980 : (Jvm.Cond.instanceMethod ({ cls := "VillageStories$Reader", name := "letter", desc := "(Ljava/lang/String;I)I" } : Jvm.MethodName)) ∈ lw_all := lw_g (lw_at lw_m4 158 rfl) rfl
theorem q981 : (Jvm.Cond.code ({ cls := "VillageStories$Reader", name := "letter", desc := "(Ljava/lang/String;I)I" } : Jvm.MethodName) prog_23_method_10_code (4 : Nat) (Option.some Jvm.ClassFile.FieldType.int)) ∈ lw_all := lw_g (lw_at lw_m4 159 rfl) rfl
theorem q982 : (Jvm.Cond.methodLink "VillageStories$Reader" (112 : Nat) ({ cls := "java/lang/String", name := "length", desc := "()I" } : Jvm.MethodName)) ∈ lw_all := lw_g (lw_at lw_m4 160 rfl) rfl
theorem q990 : (Jvm.Cond.methodLink "VillageStories$Reader" (113 : Nat) ({ cls := "java/lang/String", name := "charAt", desc := "(I)C" } : Jvm.MethodName)) ∈ lw_all := lw_g (lw_at lw_m4 168 rfl) rfl
theorem q1005 : (Jvm.Cond.methodLink "VillageStories$Reader" (117 : Nat) ({ cls := "java/lang/String", name := "indexOf", desc := "(I)I" } : Jvm.MethodName)) ∈ lw_all := lw_g (lw_at lw_m4 183 rfl) rfl
theorem q1060 : (Jvm.Cond.methodLink "VillageStories$Reader" (242 : Nat) ({ cls := "VillageStories$Reader", name := "kind", desc := "()I" } : Jvm.MethodName)) ∈ lw_all := lw_g (lw_at lw_m4 238 rfl) rfl
theorem q1061 : (Jvm.Cond.privateMethod ({ cls := "VillageStories$Reader", name := "kind", desc := "()I" } : Jvm.MethodName)) ∈ lw_tbl := lw_at lw_m4 239 rfl
theorem q1062 : (Jvm.Cond.instanceMethod ({ cls := "VillageStories$Reader", name := "kind", desc := "()I" } : Jvm.MethodName)) ∈ lw_all := lw_g (lw_at lw_m5 0 rfl) rfl
theorem q1063 : (Jvm.Cond.code ({ cls := "VillageStories$Reader", name := "kind", desc := "()I" } : Jvm.MethodName) prog_23_method_13_code (2 : Nat) (Option.some Jvm.ClassFile.FieldType.int)) ∈ lw_all := lw_g (lw_at lw_m5 1 rfl) rfl
theorem q1064 : (Jvm.Cond.fieldLinkNest "VillageStories$Reader" (131 : Nat) "VillageStories" "KIND_WORDS" "[Ljava/lang/String;" "VillageStories") ∈ lw_tbl := lw_at lw_m5 2 rfl
theorem q1066 : (Jvm.Cond.classLink "VillageStories$Reader" (244 : Nat) "VillageStories$Each") ∈ lw_all := lw_g (lw_at lw_m5 4 rfl) rfl
theorem q1068 : (Jvm.Cond.methodLink "VillageStories$Reader" (246 : Nat) ({ cls := "VillageStories$Each", name := "<init>", desc := "(LVillageStories$Often;IIILVillageStories$Part;)V" } : Jvm.MethodName)) ∈ lw_all := lw_g (lw_at lw_m5 6 rfl) rfl
theorem q1095 : (Jvm.Cond.fieldLinkNest "VillageStories$Reader" (178 : Nat) "VillageStories" "JOINS" "[LVillageStories$Join;" "VillageStories") ∈ lw_tbl := lw_at lw_m5 33 rfl
theorem q1097 : (Jvm.Cond.classLink "VillageStories$Reader" (185 : Nat) "VillageStories$Both") ∈ lw_all := lw_g (lw_at lw_m5 35 rfl) rfl
theorem q1099 : (Jvm.Cond.methodLink "VillageStories$Reader" (187 : Nat) ({ cls := "VillageStories$Both", name := "<init>", desc := "(LVillageStories$Join;LVillageStories$Part;LVillageStories$Part;)V" } : Jvm.MethodName)) ∈ lw_all := lw_g (lw_at lw_m5 37 rfl) rfl
theorem q1113 : (Jvm.Cond.stringRef "VillageStories$Reader" (190 : Nat) "not") ∈ lw_tbl := lw_at lw_m5 51 rfl
theorem q1114 : (Jvm.Cond.classLink "VillageStories$Reader" (192 : Nat) "VillageStories$Not") ∈ lw_all := lw_g (lw_at lw_m5 52 rfl) rfl
theorem q1116 : (Jvm.Cond.methodLink "VillageStories$Reader" (194 : Nat) ({ cls := "VillageStories$Not", name := "<init>", desc := "(LVillageStories$Part;)V" } : Jvm.MethodName)) ∈ lw_all := lw_g (lw_at lw_m5 54 rfl) rfl
theorem q1124 : (Jvm.Cond.stringRef "VillageStories$Reader" (197 : Nat) "same") ∈ lw_tbl := lw_at lw_m5 62 rfl
theorem q1125 : (Jvm.Cond.methodLink "VillageStories$Reader" (199 : Nat) ({ cls := "VillageStories$Reader", name := "bound", desc := "(I)I" } : Jvm.MethodName)) ∈ lw_all := lw_g (lw_at lw_m5 63 rfl) rfl
theorem q1126 : (Jvm.Cond.privateMethod ({ cls := "VillageStories$Reader", name := "bound", desc := "(I)I" } : Jvm.MethodName)) ∈ lw_tbl := lw_at lw_m5 64 rfl
theorem q1127 : (Jvm.Cond.instanceMethod ({ cls := "VillageStories$Reader", name := "bound", desc := "(I)I" } : Jvm.MethodName)) ∈ lw_all := lw_g (lw_at lw_m5 65 rfl) rfl
theorem q1128 : (Jvm.Cond.code ({ cls := "VillageStories$Reader", name := "bound", desc := "(I)I" } : Jvm.MethodName) prog_23_method_12_code (4 : Nat) (Option.some Jvm.ClassFile.FieldType.int)) ∈ lw_all := lw_g (lw_at lw_m5 66 rfl) rfl
theorem q1129 : (Jvm.Cond.classLink "VillageStories$Reader" (202 : Nat) "VillageStories$Same") ∈ lw_all := lw_g (lw_at lw_m5 67 rfl) rfl
theorem q1131 : (Jvm.Cond.methodLink "VillageStories$Reader" (204 : Nat) ({ cls := "VillageStories$Same", name := "<init>", desc := "(II)V" } : Jvm.MethodName)) ∈ lw_all := lw_g (lw_at lw_m5 69 rfl) rfl
theorem q1142 : (Jvm.Cond.stringRef "VillageStories$Reader" (205 : Nat) "reach") ∈ lw_tbl := lw_at lw_m5 80 rfl
theorem q1143 : (Jvm.Cond.methodLink "VillageStories$Reader" (207 : Nat) ({ cls := "VillageStories$Reader", name := "relation", desc := "()I" } : Jvm.MethodName)) ∈ lw_all := lw_g (lw_at lw_m5 81 rfl) rfl
theorem q1144 : (Jvm.Cond.privateMethod ({ cls := "VillageStories$Reader", name := "relation", desc := "()I" } : Jvm.MethodName)) ∈ lw_tbl := lw_at lw_m5 82 rfl
theorem q1145 : (Jvm.Cond.instanceMethod ({ cls := "VillageStories$Reader", name := "relation", desc := "()I" } : Jvm.MethodName)) ∈ lw_all := lw_g (lw_at lw_m5 83 rfl) rfl
theorem q1146 : (Jvm.Cond.code ({ cls := "VillageStories$Reader", name := "relation", desc := "()I" } : Jvm.MethodName) prog_23_method_14_code (2 : Nat) (Option.some Jvm.ClassFile.FieldType.int)) ∈ lw_all := lw_g (lw_at lw_m5 84 rfl) rfl
theorem q1147 : (Jvm.Cond.stringRef "VillageStories$Reader" (139 : Nat) "rstu") ∈ lw_tbl := lw_at lw_m5 85 rfl
theorem q1148 : (Jvm.Cond.methodLink "VillageStories$Reader" (141 : Nat) ({ cls := "java/util/ArrayList", name := "size", desc := "()I" } : Jvm.MethodName)) ∈ lw_all := lw_g (lw_at lw_m5 86 rfl) rfl
theorem q1149 : (Jvm.Cond.methodLink "VillageStories$Reader" (210 : Nat) ({ cls := "VillageStories$Reader", name := "leads", desc := "(II)I" } : Jvm.MethodName)) ∈ lw_all := lw_g (lw_at lw_m5 87 rfl) rfl
theorem q1150 : (Jvm.Cond.privateMethod ({ cls := "VillageStories$Reader", name := "leads", desc := "(II)I" } : Jvm.MethodName)) ∈ lw_tbl := lw_at lw_m5 88 rfl
theorem q1151 : (Jvm.Cond.instanceMethod ({ cls := "VillageStories$Reader", name := "leads", desc := "(II)I" } : Jvm.MethodName)) ∈ lw_all := lw_g (lw_at lw_m5 89 rfl) rfl
theorem q1152 : (Jvm.Cond.code ({ cls := "VillageStories$Reader", name := "leads", desc := "(II)I" } : Jvm.MethodName) prog_23_method_15_code (4 : Nat) (Option.some Jvm.ClassFile.FieldType.int)) ∈ lw_all := lw_g (lw_at lw_m5 90 rfl) rfl
theorem q1153 : (Jvm.Cond.methodLink "VillageStories$Reader" (145 : Nat) ({ cls := "java/util/ArrayList", name := "get", desc := "(I)Ljava/lang/Object;" } : Jvm.MethodName)) ∈ lw_all := lw_g (lw_at lw_m5 91 rfl) rfl
theorem q1154 : (Jvm.Cond.classLink "VillageStories$Reader" (149 : Nat) "VillageStories$Relation") ∈ lw_all := lw_g (lw_at lw_m5 92 rfl) rfl
theorem q1155 : (Jvm.Cond.methodLink "VillageStories$Reader" (151 : Nat) ({ cls := "VillageStories$Relation", name := "isWithin", desc := "()Z" } : Jvm.MethodName)) ∈ lw_all := lw_g (lw_at lw_m5 93 rfl) rfl
theorem q1159 : (Jvm.Cond.classLink "VillageStories$Reader" (214 : Nat) "VillageStories$Reach") ∈ lw_all := lw_g (lw_at lw_m5 97 rfl) rfl
theorem q1161 : (Jvm.Cond.methodLink "VillageStories$Reader" (216 : Nat) ({ cls := "VillageStories$Reach", name := "<init>", desc := "(III)V" } : Jvm.MethodName)) ∈ lw_all := lw_g (lw_at lw_m5 99 rfl) rfl
theorem q1175 : (Jvm.Cond.stringRef "VillageStories$Reader" (219 : Nat) "tree") ∈ lw_tbl := lw_at lw_m5 113 rfl
theorem q1176 : (Jvm.Cond.classLink "VillageStories$Reader" (221 : Nat) "VillageStories$Tree") ∈ lw_all := lw_g (lw_at lw_m5 114 rfl) rfl
theorem q1178 : (Jvm.Cond.methodLink "VillageStories$Reader" (223 : Nat) ({ cls := "VillageStories$Tree", name := "<init>", desc := "(I)V" } : Jvm.MethodName)) ∈ lw_all := lw_g (lw_at lw_m5 116 rfl) rfl
theorem q1186 : (Jvm.Cond.classLink "VillageStories$Reader" (224 : Nat) "VillageStories$Fact") ∈ lw_all := lw_g (lw_at lw_m5 124 rfl) rfl
theorem q1188 : (Jvm.Cond.methodLink "VillageStories$Reader" (226 : Nat) ({ cls := "VillageStories$Relation", name := "isOfOne", desc := "()Z" } : Jvm.MethodName)) ∈ lw_all := lw_g (lw_at lw_m5 126 rfl) rfl
theorem q1189 : (Jvm.Cond.methodLink "VillageStories$Reader" (232 : Nat) ({ cls := "VillageStories$Fact", name := "<init>", desc := "(III)V" } : Jvm.MethodName)) ∈ lw_all := lw_g (lw_at lw_m5 127 rfl) rfl
theorem q2278 : (Jvm.Cond.castable "VillageStories$Reader" "java/lang/Object") ∈ lw_tbl := lw_at lw_m10 16 rfl
theorem q2311 : (Jvm.Cond.fieldLinkNest "VillageStories$Reader" (169 : Nat) "VillageStories$Often" "word" "Ljava/lang/String;" "VillageStories") ∈ lw_tbl := lw_at lw_m10 49 rfl
theorem q2312 : (Jvm.Cond.fieldLinkNest "VillageStories$Reader" (182 : Nat) "VillageStories$Join" "word" "Ljava/lang/String;" "VillageStories") ∈ lw_tbl := lw_at lw_m10 50 rfl
theorem in_X11 : ∀ w ∈ wsX110, w ∈ lw_all := lw_in wsX110 [832, 834, 836, 838, 840, 842, 844, 846, 848, 850, 852, 854] (by decide +kernel) (by decide +kernel)
/-! VillageStories$Fault -/
def RX12 : String := "VillageStories$Fault"
def TX12 : u_T := fun k => match k with
  | 0 => ("java/lang/Throwable", "cause", "Ljava/lang/Throwable;", false)
  | 1 => ("java/lang/Throwable", "stackTrace", "[Ljava/lang/StackTraceElement;", false)
  | 2 => ("java/lang/Throwable", "suppressedExceptions", "Ljava/util/List;", false)
  | 3 => ("java/lang/Throwable", "detailMessage", "Ljava/lang/String;", false)
  | 4 => ("java/lang/Throwable", "backtrace", "Ljava/lang/Object;", false)
  | 5 => ("java/lang/Throwable", "depth", "I", false)
  | 6 => ("VillageStories$Fault", "kind", "I", true)
  | _ => ("VillageStories$Fault", "place", "I", true)
def tyX12 : Nat → FieldType := fun k => match k with
  | 0 => .object "java/lang/Throwable"
  | 1 => .array (.object "java/lang/StackTraceElement")
  | 2 => .object "java/util/List"
  | 3 => .object "java/lang/String"
  | 4 => .object "java/lang/Object"
  | 5 => .int
  | 6 => .int
  | _ => .int
abbrev wsX120 : List Cond := u_ws RX12 TX12 8
theorem nmX12 : ∀ a, a < 8 → ∀ b, b < 8 → a ≠ b → (TX12 a).2.1 ≠ (TX12 b).2.1 := by decide +kernel
theorem tyX12_ok : ∀ k, k < 8 → parseFieldDescriptor (TX12 k).2.2.1 = some (tyX12 k) := by decide +kernel
theorem q135 : (Jvm.Cond.initialized "VillageStories$Fault") ∈ lw_all := lw_g (lw_at lw_m1 33 rfl) rfl
theorem q472 : (Jvm.Cond.selects "VillageStories$Fault" ({ cls := "java/lang/Object", name := "getClass", desc := "()Ljava/lang/Class;" } : Jvm.MethodName) ({ cls := "java/lang/Object", name := "getClass", desc := "()Ljava/lang/Class;" } : Jvm.MethodName)) ∈ lw_all := lw_g (lw_at lw_m2 130 rfl) rfl
theorem q870 : (Jvm.Cond.instantiable "VillageStories$Fault" (8 : Nat)) ∈ lw_all := lw_g (lw_at lw_m4 48 rfl) rfl
theorem q871 : (Jvm.Cond.castable "VillageStories$Fault" "VillageStories$Fault") ∈ lw_tbl := lw_at lw_m4 49 rfl
theorem q876 : (Jvm.Cond.selects "VillageStories$Fault" ({ cls := "java/lang/Throwable", name := "fillInStackTrace", desc := "(I)Ljava/lang/Throwable;" } : Jvm.MethodName) ({ cls := "java/lang/Throwable", name := "fillInStackTrace", desc := "(I)Ljava/lang/Throwable;" } : Jvm.MethodName)) ∈ lw_all := lw_g (lw_at lw_m4 54 rfl) rfl
theorem q877 : (Jvm.Cond.selects "VillageStories$Fault" ({ cls := "java/lang/Throwable", name := "fillInStackTrace", desc := "()Ljava/lang/Throwable;" } : Jvm.MethodName) ({ cls := "java/lang/Throwable", name := "fillInStackTrace", desc := "()Ljava/lang/Throwable;" } : Jvm.MethodName)) ∈ lw_all := lw_g (lw_at lw_m4 55 rfl) rfl
theorem q878 : (Jvm.Cond.lays "VillageStories$Fault" "java/lang/Throwable" "cause" "Ljava/lang/Throwable;") ∈ lw_all := lw_g (lw_at lw_m4 56 rfl) rfl
theorem q880 : (Jvm.Cond.lays "VillageStories$Fault" "java/lang/Throwable" "stackTrace" "[Ljava/lang/StackTraceElement;") ∈ lw_all := lw_g (lw_at lw_m4 58 rfl) rfl
theorem q882 : (Jvm.Cond.lays "VillageStories$Fault" "java/lang/Throwable" "suppressedExceptions" "Ljava/util/List;") ∈ lw_all := lw_g (lw_at lw_m4 60 rfl) rfl
theorem q884 : (Jvm.Cond.lays "VillageStories$Fault" "java/lang/Throwable" "detailMessage" "Ljava/lang/String;") ∈ lw_all := lw_g (lw_at lw_m4 62 rfl) rfl
theorem q886 : (Jvm.Cond.lays "VillageStories$Fault" "java/lang/Throwable" "backtrace" "Ljava/lang/Object;") ∈ lw_all := lw_g (lw_at lw_m4 64 rfl) rfl
theorem q907 : (Jvm.Cond.instanceMethod ({ cls := "VillageStories$Fault", name := "<init>", desc := "(II)V" } : Jvm.MethodName)) ∈ lw_all := lw_g (lw_at lw_m4 85 rfl) rfl
theorem q908 : (Jvm.Cond.code ({ cls := "VillageStories$Fault", name := "<init>", desc := "(II)V" } : Jvm.MethodName) prog_8_method_1_code (3 : Nat) (Option.none : Option Jvm.ClassFile.FieldType)) ∈ lw_all := lw_g (lw_at lw_m4 86 rfl) rfl
theorem q909 : (Jvm.Cond.methodLink "VillageStories$Fault" (1 : Nat) ({ cls := "java/lang/Exception", name := "<init>", desc := "()V" } : Jvm.MethodName)) ∈ lw_all := lw_g (lw_at lw_m4 87 rfl) rfl
theorem q913 : (Jvm.Cond.fieldLink "VillageStories$Fault" (7 : Nat) "VillageStories$Fault" "kind" "I") ∈ lw_all := lw_g (lw_at lw_m4 91 rfl) rfl
theorem q916 : (Jvm.Cond.fieldLink "VillageStories$Fault" (13 : Nat) "VillageStories$Fault" "place" "I") ∈ lw_all := lw_g (lw_at lw_m4 94 rfl) rfl
theorem q923 : (Jvm.Cond.laysFinal "VillageStories$Fault" "VillageStories$Fault" "kind" "I") ∈ lw_all := lw_g (lw_at lw_m4 101 rfl) rfl
theorem q924 : (Jvm.Cond.soleField "VillageStories$Fault" "kind") ∈ lw_all := lw_g (lw_at lw_m4 102 rfl) rfl
theorem q925 : (Jvm.Cond.laysFinal "VillageStories$Fault" "VillageStories$Fault" "place" "I") ∈ lw_all := lw_g (lw_at lw_m4 103 rfl) rfl
theorem q926 : (Jvm.Cond.soleField "VillageStories$Fault" "place") ∈ lw_all := lw_g (lw_at lw_m4 104 rfl) rfl
theorem q931 : (Jvm.Cond.lays "VillageStories$Fault" "java/lang/Throwable" "depth" "I") ∈ lw_all := lw_g (lw_at lw_m4 109 rfl) rfl
theorem q934 : (Jvm.Cond.superclass "VillageStories$Fault" "java/lang/Exception") ∈ lw_all := lw_g (lw_at lw_m4 112 rfl) rfl
theorem q2281 : (Jvm.Cond.castable "VillageStories$Fault" "java/lang/Object") ∈ lw_tbl := lw_at lw_m10 19 rfl
theorem in_X12 : ∀ w ∈ wsX120, w ∈ lw_all := lw_in wsX120 [878, 880, 882, 884, 886, 931, 923, 925] (by decide +kernel) (by decide +kernel)
/-! VillageStories$Often -/
def RX13 : String := "VillageStories$Often"
theorem q136 : (Jvm.Cond.initialized "VillageStories$Often") ∈ lw_all := lw_g (lw_at lw_m1 34 rfl) rfl
theorem q954 : (Jvm.Cond.instanceMethod ({ cls := "VillageStories$Often", name := "hasNumber", desc := "()Z" } : Jvm.MethodName)) ∈ lw_all := lw_g (lw_at lw_m4 132 rfl) rfl
theorem q955 : (Jvm.Cond.sameMethod "VillageStories$Often" "VillageStories$Often" "hasNumber" "()Z") ∈ lw_all := lw_g (lw_at lw_m4 133 rfl) rfl
theorem q960 : (Jvm.Cond.code ({ cls := "VillageStories$Often", name := "hasNumber", desc := "()Z" } : Jvm.MethodName) prog_16_method_4_code (1 : Nat) (Option.some Jvm.ClassFile.FieldType.boolean)) ∈ lw_all := lw_g (lw_at lw_m4 138 rfl) rfl
theorem q961 : (Jvm.Cond.fieldLink "VillageStories$Often" (10 : Nat) "VillageStories$Often" "LEAST" "LVillageStories$Often;") ∈ lw_all := lw_g (lw_at lw_m4 139 rfl) rfl
theorem q962 : (Jvm.Cond.laysStatic "VillageStories$Often" "LEAST" "LVillageStories$Often;") ∈ lw_tbl := lw_at lw_m4 140 rfl
theorem q963 : (Jvm.Cond.fieldLink "VillageStories$Often" (13 : Nat) "VillageStories$Often" "MOST" "LVillageStories$Often;") ∈ lw_all := lw_g (lw_at lw_m4 141 rfl) rfl
theorem q964 : (Jvm.Cond.laysStatic "VillageStories$Often" "MOST" "LVillageStories$Often;") ∈ lw_tbl := lw_at lw_m4 142 rfl
theorem q1317 : (Jvm.Cond.declares ({ cls := "VillageStories$Often", name := "is", desc := "(III)Z" } : Jvm.MethodName)) ∈ lw_tbl := lw_at lw_m6 15 rfl
theorem q1318 : (Jvm.Cond.sameMethod "VillageStories$Often" "VillageStories$Often" "is" "(III)Z") ∈ lw_all := lw_g (lw_at lw_m6 16 rfl) rfl
theorem q1359 : (Jvm.Cond.laysStatic "VillageStories$Often" "ALL" "LVillageStories$Often;") ∈ lw_tbl := lw_at lw_m6 57 rfl
theorem q2265 : (Jvm.Cond.castable "VillageStories$Often" "java/lang/Object") ∈ lw_tbl := lw_at lw_m10 3 rfl
theorem q2313 : (Jvm.Cond.laysStatic "VillageStories$Often" "SOME" "LVillageStories$Often;") ∈ lw_tbl := lw_at lw_m10 51 rfl
theorem q2314 : (Jvm.Cond.stringRef "VillageStories$Often" (56 : Nat) "least") ∈ lw_tbl := lw_at lw_m10 52 rfl
theorem q2315 : (Jvm.Cond.stringRef "VillageStories$Often" (62 : Nat) "most") ∈ lw_tbl := lw_at lw_m10 53 rfl
theorem q2323 : (Jvm.Cond.stringRef "VillageStories$Often" (42 : Nat) "all") ∈ lw_tbl := lw_at lw_m10 61 rfl
theorem q2325 : (Jvm.Cond.stringRef "VillageStories$Often" (50 : Nat) "some") ∈ lw_tbl := lw_at lw_m10 63 rfl
/-! VillageStories$Part -/
def RX14 : String := "VillageStories$Part"
theorem q138 : (Jvm.Cond.initialized "VillageStories$Part") ∈ lw_all := lw_g (lw_at lw_m1 36 rfl) rfl
theorem q1072 : (Jvm.Cond.instanceMethod ({ cls := "VillageStories$Part", name := "<init>", desc := "()V" } : Jvm.MethodName)) ∈ lw_all := lw_g (lw_at lw_m5 10 rfl) rfl
theorem q1073 : (Jvm.Cond.code ({ cls := "VillageStories$Part", name := "<init>", desc := "()V" } : Jvm.MethodName) prog_21_method_1_code (1 : Nat) (Option.none : Option Jvm.ClassFile.FieldType)) ∈ lw_all := lw_g (lw_at lw_m5 11 rfl) rfl
theorem q1074 : (Jvm.Cond.methodLink "VillageStories$Part" (1 : Nat) ({ cls := "java/lang/Object", name := "<init>", desc := "()V" } : Jvm.MethodName)) ∈ lw_all := lw_g (lw_at lw_m5 12 rfl) rfl
theorem q1266 : (Jvm.Cond.declares ({ cls := "VillageStories$Part", name := "isSo", desc := "(LVillageStories$World;)Z" } : Jvm.MethodName)) ∈ lw_tbl := lw_at lw_m5 204 rfl
theorem q1267 : (Jvm.Cond.sameMethod "VillageStories$Part" "VillageStories$Part" "isSo" "(LVillageStories$World;)Z") ∈ lw_all := lw_g (lw_at lw_m5 205 rfl) rfl
/-! VillageStories$Each -/
def RX15 : String := "VillageStories$Each"
def TX15 : u_T := fun k => match k with
  | 0 => ("VillageStories$Each", "often", "LVillageStories$Often;", true)
  | 1 => ("VillageStories$Each", "n", "I", true)
  | 2 => ("VillageStories$Each", "var", "I", true)
  | 3 => ("VillageStories$Each", "kind", "I", true)
  | _ => ("VillageStories$Each", "of", "LVillageStories$Part;", true)
def tyX15 : Nat → FieldType := fun k => match k with
  | 0 => .object "VillageStories$Often"
  | 1 => .int
  | 2 => .int
  | 3 => .int
  | _ => .object "VillageStories$Part"
abbrev wsX150 : List Cond := u_ws RX15 TX15 5
theorem nmX15 : ∀ a, a < 5 → ∀ b, b < 5 → a ≠ b → (TX15 a).2.1 ≠ (TX15 b).2.1 := by decide +kernel
theorem tyX15_ok : ∀ k, k < 5 → parseFieldDescriptor (TX15 k).2.2.1 = some (tyX15 k) := by decide +kernel
theorem q139 : (Jvm.Cond.initialized "VillageStories$Each") ∈ lw_all := lw_g (lw_at lw_m1 37 rfl) rfl
theorem q284 : (Jvm.Cond.fieldLinkNest "VillageStories$Each" (33 : Nat) "VillageStories$World" "land" "LVillageStories$Land;" "VillageStories") ∈ lw_tbl := lw_at lw_m1 182 rfl
theorem q289 : (Jvm.Cond.fieldLinkNest "VillageStories$Each" (27 : Nat) "VillageStories$World" "vars" "[I" "VillageStories") ∈ lw_tbl := lw_at lw_m1 187 rfl
theorem q470 : (Jvm.Cond.selects "VillageStories$Each" ({ cls := "java/lang/Object", name := "getClass", desc := "()Ljava/lang/Class;" } : Jvm.MethodName) ({ cls := "java/lang/Object", name := "getClass", desc := "()Ljava/lang/Class;" } : Jvm.MethodName)) ∈ lw_all := lw_g (lw_at lw_m2 128 rfl) rfl
theorem q1067 : (Jvm.Cond.instantiable "VillageStories$Each" (5 : Nat)) ∈ lw_all := lw_g (lw_at lw_m5 5 rfl) rfl
theorem q1069 : (Jvm.Cond.instanceMethod ({ cls := "VillageStories$Each", name := "<init>", desc := "(LVillageStories$Often;IIILVillageStories$Part;)V" } : Jvm.MethodName)) ∈ lw_all := lw_g (lw_at lw_m5 7 rfl) rfl
theorem q1070 : (Jvm.Cond.code ({ cls := "VillageStories$Each", name := "<init>", desc := "(LVillageStories$Often;IIILVillageStories$Part;)V" } : Jvm.MethodName) prog_6_method_1_code (6 : Nat) (Option.none : Option Jvm.ClassFile.FieldType)) ∈ lw_all := lw_g (lw_at lw_m5 8 rfl) rfl
theorem q1071 : (Jvm.Cond.methodLinkNest "VillageStories$Each" (1 : Nat) ({ cls := "VillageStories$Part", name := "<init>", desc := "()V" } : Jvm.MethodName) "VillageStories") ∈ lw_tbl := lw_at lw_m5 9 rfl
theorem q1075 : (Jvm.Cond.fieldLink "VillageStories$Each" (7 : Nat) "VillageStories$Each" "often" "LVillageStories$Often;") ∈ lw_all := lw_g (lw_at lw_m5 13 rfl) rfl
theorem q1077 : (Jvm.Cond.fieldLink "VillageStories$Each" (13 : Nat) "VillageStories$Each" "n" "I") ∈ lw_all := lw_g (lw_at lw_m5 15 rfl) rfl
theorem q1078 : (Jvm.Cond.fieldLink "VillageStories$Each" (17 : Nat) "VillageStories$Each" "var" "I") ∈ lw_all := lw_g (lw_at lw_m5 16 rfl) rfl
theorem q1080 : (Jvm.Cond.fieldLink "VillageStories$Each" (20 : Nat) "VillageStories$Each" "kind" "I") ∈ lw_all := lw_g (lw_at lw_m5 18 rfl) rfl
theorem q1082 : (Jvm.Cond.fieldLink "VillageStories$Each" (23 : Nat) "VillageStories$Each" "of" "LVillageStories$Part;") ∈ lw_all := lw_g (lw_at lw_m5 20 rfl) rfl
theorem q1084 : (Jvm.Cond.laysFinal "VillageStories$Each" "VillageStories$Each" "often" "LVillageStories$Often;") ∈ lw_all := lw_g (lw_at lw_m5 22 rfl) rfl
theorem q1085 : (Jvm.Cond.soleField "VillageStories$Each" "often") ∈ lw_all := lw_g (lw_at lw_m5 23 rfl) rfl
theorem q1086 : (Jvm.Cond.laysFinal "VillageStories$Each" "VillageStories$Each" "n" "I") ∈ lw_all := lw_g (lw_at lw_m5 24 rfl) rfl
theorem q1087 : (Jvm.Cond.soleField "VillageStories$Each" "n") ∈ lw_all := lw_g (lw_at lw_m5 25 rfl) rfl
theorem q1088 : (Jvm.Cond.laysFinal "VillageStories$Each" "VillageStories$Each" "var" "I") ∈ lw_all := lw_g (lw_at lw_m5 26 rfl) rfl
theorem q1089 : (Jvm.Cond.soleField "VillageStories$Each" "var") ∈ lw_all := lw_g (lw_at lw_m5 27 rfl) rfl
theorem q1090 : (Jvm.Cond.laysFinal "VillageStories$Each" "VillageStories$Each" "kind" "I") ∈ lw_all := lw_g (lw_at lw_m5 28 rfl) rfl
theorem q1091 : (Jvm.Cond.soleField "VillageStories$Each" "kind") ∈ lw_all := lw_g (lw_at lw_m5 29 rfl) rfl
theorem q1092 : (Jvm.Cond.laysFinal "VillageStories$Each" "VillageStories$Each" "of" "LVillageStories$Part;") ∈ lw_all := lw_g (lw_at lw_m5 30 rfl) rfl
theorem q1093 : (Jvm.Cond.soleField "VillageStories$Each" "of") ∈ lw_all := lw_g (lw_at lw_m5 31 rfl) rfl
theorem q1094 : (Jvm.Cond.superclass "VillageStories$Each" "VillageStories$Part") ∈ lw_all := lw_g (lw_at lw_m5 32 rfl) rfl
theorem q1278 : (Jvm.Cond.instanceMethod ({ cls := "VillageStories$Each", name := "isSo", desc := "(LVillageStories$World;)Z" } : Jvm.MethodName)) ∈ lw_all := lw_g (lw_at lw_m5 216 rfl) rfl
theorem q1279 : (Jvm.Cond.code ({ cls := "VillageStories$Each", name := "isSo", desc := "(LVillageStories$World;)Z" } : Jvm.MethodName) prog_6_method_2_code (5 : Nat) (Option.some Jvm.ClassFile.FieldType.boolean)) ∈ lw_all := lw_g (lw_at lw_m5 217 rfl) rfl
theorem q1280 : (Jvm.Cond.methodLink "VillageStories$Each" (37 : Nat) ({ cls := "VillageStories$Land", name := "size", desc := "(I)I" } : Jvm.MethodName)) ∈ lw_all := lw_g (lw_at lw_m5 218 rfl) rfl
theorem q1281 : (Jvm.Cond.methodLink "VillageStories$Each" (43 : Nat) ({ cls := "VillageStories$Part", name := "isSo", desc := "(LVillageStories$World;)Z" } : Jvm.MethodName)) ∈ lw_all := lw_g (lw_at lw_m5 219 rfl) rfl
theorem q1316 : (Jvm.Cond.methodLink "VillageStories$Each" (47 : Nat) ({ cls := "VillageStories$Often", name := "is", desc := "(III)Z" } : Jvm.MethodName)) ∈ lw_all := lw_g (lw_at lw_m6 14 rfl) rfl
theorem q1339 : (Jvm.Cond.selects "VillageStories$Each" ({ cls := "VillageStories$Part", name := "isSo", desc := "(LVillageStories$World;)Z" } : Jvm.MethodName) ({ cls := "VillageStories$Each", name := "isSo", desc := "(LVillageStories$World;)Z" } : Jvm.MethodName)) ∈ lw_all := lw_g (lw_at lw_m6 37 rfl) rfl
theorem q2286 : (Jvm.Cond.castable "VillageStories$Each" "java/lang/Object") ∈ lw_tbl := lw_at lw_m10 24 rfl
theorem in_X15 : ∀ w ∈ wsX150, w ∈ lw_all := lw_in wsX150 [1084, 1086, 1088, 1090, 1092] (by decide +kernel) (by decide +kernel)
/-! VillageStories$Both -/
def RX16 : String := "VillageStories$Both"
def TX16 : u_T := fun k => match k with
  | 0 => ("VillageStories$Both", "join", "LVillageStories$Join;", true)
  | 1 => ("VillageStories$Both", "a", "LVillageStories$Part;", true)
  | _ => ("VillageStories$Both", "b", "LVillageStories$Part;", true)
def tyX16 : Nat → FieldType := fun k => match k with
  | 0 => .object "VillageStories$Join"
  | 1 => .object "VillageStories$Part"
  | _ => .object "VillageStories$Part"
abbrev wsX160 : List Cond := u_ws RX16 TX16 3
theorem nmX16 : ∀ a, a < 3 → ∀ b, b < 3 → a ≠ b → (TX16 a).2.1 ≠ (TX16 b).2.1 := by decide +kernel
theorem tyX16_ok : ∀ k, k < 3 → parseFieldDescriptor (TX16 k).2.2.1 = some (tyX16 k) := by decide +kernel
theorem q140 : (Jvm.Cond.initialized "VillageStories$Both") ∈ lw_all := lw_g (lw_at lw_m1 38 rfl) rfl
theorem q469 : (Jvm.Cond.selects "VillageStories$Both" ({ cls := "java/lang/Object", name := "getClass", desc := "()Ljava/lang/Class;" } : Jvm.MethodName) ({ cls := "java/lang/Object", name := "getClass", desc := "()Ljava/lang/Class;" } : Jvm.MethodName)) ∈ lw_all := lw_g (lw_at lw_m2 127 rfl) rfl
theorem q1098 : (Jvm.Cond.instantiable "VillageStories$Both" (3 : Nat)) ∈ lw_all := lw_g (lw_at lw_m5 36 rfl) rfl
theorem q1100 : (Jvm.Cond.instanceMethod ({ cls := "VillageStories$Both", name := "<init>", desc := "(LVillageStories$Join;LVillageStories$Part;LVillageStories$Part;)V" } : Jvm.MethodName)) ∈ lw_all := lw_g (lw_at lw_m5 38 rfl) rfl
theorem q1101 : (Jvm.Cond.code ({ cls := "VillageStories$Both", name := "<init>", desc := "(LVillageStories$Join;LVillageStories$Part;LVillageStories$Part;)V" } : Jvm.MethodName) prog_4_method_1_code (4 : Nat) (Option.none : Option Jvm.ClassFile.FieldType)) ∈ lw_all := lw_g (lw_at lw_m5 39 rfl) rfl
theorem q1102 : (Jvm.Cond.methodLinkNest "VillageStories$Both" (1 : Nat) ({ cls := "VillageStories$Part", name := "<init>", desc := "()V" } : Jvm.MethodName) "VillageStories") ∈ lw_tbl := lw_at lw_m5 40 rfl
theorem q1103 : (Jvm.Cond.fieldLink "VillageStories$Both" (7 : Nat) "VillageStories$Both" "join" "LVillageStories$Join;") ∈ lw_all := lw_g (lw_at lw_m5 41 rfl) rfl
theorem q1104 : (Jvm.Cond.fieldLink "VillageStories$Both" (13 : Nat) "VillageStories$Both" "a" "LVillageStories$Part;") ∈ lw_all := lw_g (lw_at lw_m5 42 rfl) rfl
theorem q1105 : (Jvm.Cond.fieldLink "VillageStories$Both" (17 : Nat) "VillageStories$Both" "b" "LVillageStories$Part;") ∈ lw_all := lw_g (lw_at lw_m5 43 rfl) rfl
theorem q1106 : (Jvm.Cond.laysFinal "VillageStories$Both" "VillageStories$Both" "join" "LVillageStories$Join;") ∈ lw_all := lw_g (lw_at lw_m5 44 rfl) rfl
theorem q1107 : (Jvm.Cond.soleField "VillageStories$Both" "join") ∈ lw_all := lw_g (lw_at lw_m5 45 rfl) rfl
theorem q1108 : (Jvm.Cond.laysFinal "VillageStories$Both" "VillageStories$Both" "a" "LVillageStories$Part;") ∈ lw_all := lw_g (lw_at lw_m5 46 rfl) rfl
theorem q1109 : (Jvm.Cond.soleField "VillageStories$Both" "a") ∈ lw_all := lw_g (lw_at lw_m5 47 rfl) rfl
theorem q1110 : (Jvm.Cond.laysFinal "VillageStories$Both" "VillageStories$Both" "b" "LVillageStories$Part;") ∈ lw_all := lw_g (lw_at lw_m5 48 rfl) rfl
theorem q1111 : (Jvm.Cond.soleField "VillageStories$Both" "b") ∈ lw_all := lw_g (lw_at lw_m5 49 rfl) rfl
theorem q1112 : (Jvm.Cond.superclass "VillageStories$Both" "VillageStories$Part") ∈ lw_all := lw_g (lw_at lw_m5 50 rfl) rfl
theorem q1268 : (Jvm.Cond.selects "VillageStories$Both" ({ cls := "VillageStories$Part", name := "isSo", desc := "(LVillageStories$World;)Z" } : Jvm.MethodName) ({ cls := "VillageStories$Both", name := "isSo", desc := "(LVillageStories$World;)Z" } : Jvm.MethodName)) ∈ lw_all := lw_g (lw_at lw_m5 206 rfl) rfl
theorem q1269 : (Jvm.Cond.instanceMethod ({ cls := "VillageStories$Both", name := "isSo", desc := "(LVillageStories$World;)Z" } : Jvm.MethodName)) ∈ lw_all := lw_g (lw_at lw_m5 207 rfl) rfl
theorem q1270 : (Jvm.Cond.code ({ cls := "VillageStories$Both", name := "isSo", desc := "(LVillageStories$World;)Z" } : Jvm.MethodName) prog_4_method_2_code (2 : Nat) (Option.some Jvm.ClassFile.FieldType.boolean)) ∈ lw_all := lw_g (lw_at lw_m5 208 rfl) rfl
theorem q1271 : (Jvm.Cond.methodLink "VillageStories$Both" (20 : Nat) ({ cls := "VillageStories$Join", name := "is", desc := "(LVillageStories$Part;LVillageStories$Part;LVillageStories$World;)Z" } : Jvm.MethodName)) ∈ lw_all := lw_g (lw_at lw_m5 209 rfl) rfl
theorem q2290 : (Jvm.Cond.castable "VillageStories$Both" "java/lang/Object") ∈ lw_tbl := lw_at lw_m10 28 rfl
theorem in_X16 : ∀ w ∈ wsX160, w ∈ lw_all := lw_in wsX160 [1106, 1108, 1110] (by decide +kernel) (by decide +kernel)
/-! VillageStories$Not -/
def RX17 : String := "VillageStories$Not"
def TX17 : u_T := fun k => match k with
  | _ => ("VillageStories$Not", "of", "LVillageStories$Part;", true)
def tyX17 : Nat → FieldType := fun k => match k with
  | _ => .object "VillageStories$Part"
abbrev wsX170 : List Cond := u_ws RX17 TX17 1
theorem nmX17 : ∀ a, a < 1 → ∀ b, b < 1 → a ≠ b → (TX17 a).2.1 ≠ (TX17 b).2.1 := by decide +kernel
theorem tyX17_ok : ∀ k, k < 1 → parseFieldDescriptor (TX17 k).2.2.1 = some (tyX17 k) := by decide +kernel
theorem q141 : (Jvm.Cond.initialized "VillageStories$Not") ∈ lw_all := lw_g (lw_at lw_m1 39 rfl) rfl
theorem q478 : (Jvm.Cond.selects "VillageStories$Not" ({ cls := "java/lang/Object", name := "getClass", desc := "()Ljava/lang/Class;" } : Jvm.MethodName) ({ cls := "java/lang/Object", name := "getClass", desc := "()Ljava/lang/Class;" } : Jvm.MethodName)) ∈ lw_all := lw_g (lw_at lw_m2 136 rfl) rfl
theorem q1115 : (Jvm.Cond.instantiable "VillageStories$Not" (1 : Nat)) ∈ lw_all := lw_g (lw_at lw_m5 53 rfl) rfl
theorem q1117 : (Jvm.Cond.instanceMethod ({ cls := "VillageStories$Not", name := "<init>", desc := "(LVillageStories$Part;)V" } : Jvm.MethodName)) ∈ lw_all := lw_g (lw_at lw_m5 55 rfl) rfl
theorem q1118 : (Jvm.Cond.code ({ cls := "VillageStories$Not", name := "<init>", desc := "(LVillageStories$Part;)V" } : Jvm.MethodName) prog_15_method_1_code (2 : Nat) (Option.none : Option Jvm.ClassFile.FieldType)) ∈ lw_all := lw_g (lw_at lw_m5 56 rfl) rfl
theorem q1119 : (Jvm.Cond.methodLinkNest "VillageStories$Not" (1 : Nat) ({ cls := "VillageStories$Part", name := "<init>", desc := "()V" } : Jvm.MethodName) "VillageStories") ∈ lw_tbl := lw_at lw_m5 57 rfl
theorem q1120 : (Jvm.Cond.fieldLink "VillageStories$Not" (7 : Nat) "VillageStories$Not" "of" "LVillageStories$Part;") ∈ lw_all := lw_g (lw_at lw_m5 58 rfl) rfl
theorem q1121 : (Jvm.Cond.laysFinal "VillageStories$Not" "VillageStories$Not" "of" "LVillageStories$Part;") ∈ lw_all := lw_g (lw_at lw_m5 59 rfl) rfl
theorem q1122 : (Jvm.Cond.soleField "VillageStories$Not" "of") ∈ lw_all := lw_g (lw_at lw_m5 60 rfl) rfl
theorem q1123 : (Jvm.Cond.superclass "VillageStories$Not" "VillageStories$Part") ∈ lw_all := lw_g (lw_at lw_m5 61 rfl) rfl
theorem q1289 : (Jvm.Cond.instanceMethod ({ cls := "VillageStories$Not", name := "isSo", desc := "(LVillageStories$World;)Z" } : Jvm.MethodName)) ∈ lw_all := lw_g (lw_at lw_m5 227 rfl) rfl
theorem q1290 : (Jvm.Cond.code ({ cls := "VillageStories$Not", name := "isSo", desc := "(LVillageStories$World;)Z" } : Jvm.MethodName) prog_15_method_2_code (2 : Nat) (Option.some Jvm.ClassFile.FieldType.boolean)) ∈ lw_all := lw_g (lw_at lw_m5 228 rfl) rfl
theorem q1291 : (Jvm.Cond.methodLink "VillageStories$Not" (13 : Nat) ({ cls := "VillageStories$Part", name := "isSo", desc := "(LVillageStories$World;)Z" } : Jvm.MethodName)) ∈ lw_all := lw_g (lw_at lw_m5 229 rfl) rfl
theorem q1341 : (Jvm.Cond.selects "VillageStories$Not" ({ cls := "VillageStories$Part", name := "isSo", desc := "(LVillageStories$World;)Z" } : Jvm.MethodName) ({ cls := "VillageStories$Not", name := "isSo", desc := "(LVillageStories$World;)Z" } : Jvm.MethodName)) ∈ lw_all := lw_g (lw_at lw_m6 39 rfl) rfl
theorem q2291 : (Jvm.Cond.castable "VillageStories$Not" "java/lang/Object") ∈ lw_tbl := lw_at lw_m10 29 rfl
theorem in_X17 : ∀ w ∈ wsX170, w ∈ lw_all := lw_in wsX170 [1121] (by decide +kernel) (by decide +kernel)
