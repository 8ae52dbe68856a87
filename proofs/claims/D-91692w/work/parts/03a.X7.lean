/-! VillageStoriesModel -/
set_option maxRecDepth 100000
def RX7 : String := "VillageStoriesModel"
def TX7 : u_T := fun k => match k with
  | 0 => ("VillageStoriesModel", "code", "I", false)
  | 1 => ("VillageStoriesModel", "tape", "[B", true)
  | 2 => ("VillageStoriesModel", "size", "[I", true)
  | 3 => ("VillageStoriesModel", "fault", "[I", true)
  | 4 => ("VillageStoriesModel", "faultPlace", "[I", true)
  | 5 => ("VillageStoriesModel", "days", "[I", true)
  | 6 => ("VillageStoriesModel", "viewed", "[I", true)
  | 7 => ("VillageStoriesModel", "sizes", "[I", true)
  | 8 => ("VillageStoriesModel", "relations", "[I", true)
  | 9 => ("VillageStoriesModel", "firstKind", "[I", true)
  | 10 => ("VillageStoriesModel", "secondKind", "[I", true)
  | 11 => ("VillageStoriesModel", "world", "[Z", true)
  | 12 => ("VillageStoriesModel", "stories", "[I", true)
  | 13 => ("VillageStoriesModel", "storyDay", "[I", true)
  | 14 => ("VillageStoriesModel", "struckDay", "[I", true)
  | 15 => ("VillageStoriesModel", "parts", "[I", true)
  | 16 => ("VillageStoriesModel", "act", "[I", true)
  | 17 => ("VillageStoriesModel", "one", "[I", true)
  | 18 => ("VillageStoriesModel", "two", "[I", true)
  | 19 => ("VillageStoriesModel", "three", "[I", true)
  | 20 => ("VillageStoriesModel", "knowns", "[I", true)
  | 21 => ("VillageStoriesModel", "knownOf", "[I", true)
  | 22 => ("VillageStoriesModel", "knownIs", "[I", true)
  | 23 => ("VillageStoriesModel", "knownDay", "[I", true)
  | 24 => ("VillageStoriesModel", "held", "[Z", true)
  | 25 => ("VillageStoriesModel", "holdsPlace", "[Z", true)
  | 26 => ("VillageStoriesModel", "now", "[I", true)
  | 27 => ("VillageStoriesModel", "start", "[I", true)
  | 28 => ("VillageStoriesModel", "is", "[Z", true)
  | 29 => ("VillageStoriesModel", "ahead", "I", false)
  | 30 => ("VillageStoriesModel", "length", "I", false)
  | 31 => ("VillageStoriesModel", "begins", "I", false)
  | 32 => ("VillageStoriesModel", "sort", "I", false)
  | 33 => ("VillageStoriesModel", "value", "I", false)
  | 34 => ("VillageStoriesModel", "word", "J", false)
  | 35 => ("VillageStoriesModel", "wrongAt", "I", false)
  | 36 => ("VillageStoriesModel", "laterFault", "I", false)
  | 37 => ("VillageStoriesModel", "laterPlace", "I", false)
  | 38 => ("VillageStoriesModel", "waiting", "I", false)
  | 39 => ("VillageStoriesModel", "around", "[I", true)
  | 40 => ("VillageStoriesModel", "newParts", "I", false)
  | 41 => ("VillageStoriesModel", "newAct", "[I", true)
  | 42 => ("VillageStoriesModel", "newOne", "[I", true)
  | 43 => ("VillageStoriesModel", "newTwo", "[I", true)
  | 44 => ("VillageStoriesModel", "newThree", "[I", true)
  | 45 => ("VillageStoriesModel", "ready", "[Z", true)
  | 46 => ("VillageStoriesModel", "top", "I", false)
  | 47 => ("VillageStoriesModel", "joined", "[Z", true)
  | 48 => ("VillageStoriesModel", "storiesToldNow", "I", false)
  | 49 => ("VillageStoriesModel", "knownBits", "I", false)
  | 50 => ("VillageStoriesModel", "knownSo", "I", false)
  | 51 => ("VillageStoriesModel", "orderOf", "[I", true)
  | 52 => ("VillageStoriesModel", "leastMen", "I", false)
  | 53 => ("VillageStoriesModel", "leastHouses", "I", false)
  | 54 => ("VillageStoriesModel", "leastDays", "I", false)
  | 55 => ("VillageStoriesModel", "together", "[Z", true)
  | 56 => ("VillageStoriesModel", "often", "[I", true)
  | 57 => ("VillageStoriesModel", "allWorlds", "I", false)
  | 58 => ("VillageStoriesModel", "fewWorlds", "[I", true)
  | 59 => ("VillageStoriesModel", "does", "[Z", true)
  | 60 => ("VillageStoriesModel", "doesNow", "[Z", true)
  | 61 => ("VillageStoriesModel", "yes", "[I", true)
  | _ => ("VillageStoriesModel", "kept", "[Z", true)
def tyX7 : Nat → FieldType := fun k => match k with
  | 0 => .int
  | 1 => .array .byte
  | 2 => .array .int
  | 3 => .array .int
  | 4 => .array .int
  | 5 => .array .int
  | 6 => .array .int
  | 7 => .array .int
  | 8 => .array .int
  | 9 => .array .int
  | 10 => .array .int
  | 11 => .array .boolean
  | 12 => .array .int
  | 13 => .array .int
  | 14 => .array .int
  | 15 => .array .int
  | 16 => .array .int
  | 17 => .array .int
  | 18 => .array .int
  | 19 => .array .int
  | 20 => .array .int
  | 21 => .array .int
  | 22 => .array .int
  | 23 => .array .int
  | 24 => .array .boolean
  | 25 => .array .boolean
  | 26 => .array .int
  | 27 => .array .int
  | 28 => .array .boolean
  | 29 => .int
  | 30 => .int
  | 31 => .int
  | 32 => .int
  | 33 => .int
  | 34 => .long
  | 35 => .int
  | 36 => .int
  | 37 => .int
  | 38 => .int
  | 39 => .array .int
  | 40 => .int
  | 41 => .array .int
  | 42 => .array .int
  | 43 => .array .int
  | 44 => .array .int
  | 45 => .array .boolean
  | 46 => .int
  | 47 => .array .boolean
  | 48 => .int
  | 49 => .int
  | 50 => .int
  | 51 => .array .int
  | 52 => .int
  | 53 => .int
  | 54 => .int
  | 55 => .array .boolean
  | 56 => .array .int
  | 57 => .int
  | 58 => .array .int
  | 59 => .array .boolean
  | 60 => .array .boolean
  | 61 => .array .int
  | _ => .array .boolean
abbrev wsX70 : List Cond := u_ws RX7 TX7 63
set_option maxRecDepth 100000 in
theorem nmX7 : ∀ a, a < 63 → ∀ b, b < 63 → a ≠ b → (TX7 a).2.1 ≠ (TX7 b).2.1 := by decide +kernel
set_option maxRecDepth 100000 in
theorem tyX7_ok : ∀ k, k < 63 → parseFieldDescriptor (TX7 k).2.2.1 = some (tyX7 k) := by decide +kernel
theorem q113 : (Jvm.Cond.initialized "VillageStoriesModel") ∈ lw_all := lw_g (lw_at lw_m1 11 rfl) rfl
theorem q492 : (Jvm.Cond.selects "VillageStoriesModel" ({ cls := "java/lang/Object", name := "getClass", desc := "()Ljava/lang/Class;" } : Jvm.MethodName) ({ cls := "java/lang/Object", name := "getClass", desc := "()Ljava/lang/Class;" } : Jvm.MethodName)) ∈ lw_all := lw_g (lw_at lw_m2 150 rfl) rfl
theorem q1640 : (Jvm.Cond.instantiable "VillageStoriesModel" (63 : Nat)) ∈ lw_all := lw_g (lw_at lw_m7 98 rfl) rfl
theorem q1642 : (Jvm.Cond.instanceMethod ({ cls := "VillageStoriesModel", name := "<init>", desc := "()V" } : Jvm.MethodName)) ∈ lw_all := lw_g (lw_at lw_m7 100 rfl) rfl
theorem q1643 : (Jvm.Cond.code ({ cls := "VillageStoriesModel", name := "<init>", desc := "()V" } : Jvm.MethodName) prog_33_method_1_code (2 : Nat) (Option.none : Option Jvm.ClassFile.FieldType)) ∈ lw_all := lw_g (lw_at lw_m7 101 rfl) rfl
theorem q1644 : (Jvm.Cond.methodLink "VillageStoriesModel" (1 : Nat) ({ cls := "java/lang/Object", name := "<init>", desc := "()V" } : Jvm.MethodName)) ∈ lw_all := lw_g (lw_at lw_m7 102 rfl) rfl
theorem q1645 : (Jvm.Cond.constant "VillageStoriesModel" (129 : Nat) (65536 : Int32)) ∈ lw_all := lw_g (lw_at lw_m7 103 rfl) rfl
theorem q1646 : (Jvm.Cond.fieldLink "VillageStoriesModel" (142 : Nat) "VillageStoriesModel" "code" "I") ∈ lw_all := lw_g (lw_at lw_m7 104 rfl) rfl
theorem q1647 : (Jvm.Cond.fieldLink "VillageStoriesModel" (7 : Nat) "VillageStoriesModel" "tape" "[B") ∈ lw_all := lw_g (lw_at lw_m7 105 rfl) rfl
theorem q1648 : (Jvm.Cond.fieldLink "VillageStoriesModel" (13 : Nat) "VillageStoriesModel" "size" "[I") ∈ lw_all := lw_g (lw_at lw_m7 106 rfl) rfl
theorem q1649 : (Jvm.Cond.fieldLink "VillageStoriesModel" (17 : Nat) "VillageStoriesModel" "fault" "[I") ∈ lw_all := lw_g (lw_at lw_m7 107 rfl) rfl
theorem q1650 : (Jvm.Cond.fieldLink "VillageStoriesModel" (20 : Nat) "VillageStoriesModel" "faultPlace" "[I") ∈ lw_all := lw_g (lw_at lw_m7 108 rfl) rfl
theorem q1651 : (Jvm.Cond.fieldLink "VillageStoriesModel" (23 : Nat) "VillageStoriesModel" "days" "[I") ∈ lw_all := lw_g (lw_at lw_m7 109 rfl) rfl
theorem q1652 : (Jvm.Cond.fieldLink "VillageStoriesModel" (26 : Nat) "VillageStoriesModel" "viewed" "[I") ∈ lw_all := lw_g (lw_at lw_m7 110 rfl) rfl
theorem q1653 : (Jvm.Cond.fieldLink "VillageStoriesModel" (29 : Nat) "VillageStoriesModel" "sizes" "[I") ∈ lw_all := lw_g (lw_at lw_m7 111 rfl) rfl
theorem q1654 : (Jvm.Cond.fieldLink "VillageStoriesModel" (32 : Nat) "VillageStoriesModel" "relations" "[I") ∈ lw_all := lw_g (lw_at lw_m7 112 rfl) rfl
theorem q1655 : (Jvm.Cond.fieldLink "VillageStoriesModel" (35 : Nat) "VillageStoriesModel" "firstKind" "[I") ∈ lw_all := lw_g (lw_at lw_m7 113 rfl) rfl
theorem q1656 : (Jvm.Cond.fieldLink "VillageStoriesModel" (38 : Nat) "VillageStoriesModel" "secondKind" "[I") ∈ lw_all := lw_g (lw_at lw_m7 114 rfl) rfl
theorem q1657 : (Jvm.Cond.fieldLink "VillageStoriesModel" (41 : Nat) "VillageStoriesModel" "world" "[Z") ∈ lw_all := lw_g (lw_at lw_m7 115 rfl) rfl
theorem q1658 : (Jvm.Cond.fieldLink "VillageStoriesModel" (45 : Nat) "VillageStoriesModel" "stories" "[I") ∈ lw_all := lw_g (lw_at lw_m7 116 rfl) rfl
theorem q1659 : (Jvm.Cond.fieldLink "VillageStoriesModel" (48 : Nat) "VillageStoriesModel" "storyDay" "[I") ∈ lw_all := lw_g (lw_at lw_m7 117 rfl) rfl
theorem q1660 : (Jvm.Cond.fieldLink "VillageStoriesModel" (51 : Nat) "VillageStoriesModel" "struckDay" "[I") ∈ lw_all := lw_g (lw_at lw_m7 118 rfl) rfl
theorem q1661 : (Jvm.Cond.fieldLink "VillageStoriesModel" (54 : Nat) "VillageStoriesModel" "parts" "[I") ∈ lw_all := lw_g (lw_at lw_m7 119 rfl) rfl
theorem q1662 : (Jvm.Cond.fieldLink "VillageStoriesModel" (57 : Nat) "VillageStoriesModel" "act" "[I") ∈ lw_all := lw_g (lw_at lw_m7 120 rfl) rfl
theorem q1663 : (Jvm.Cond.fieldLink "VillageStoriesModel" (60 : Nat) "VillageStoriesModel" "one" "[I") ∈ lw_all := lw_g (lw_at lw_m7 121 rfl) rfl
theorem q1664 : (Jvm.Cond.fieldLink "VillageStoriesModel" (63 : Nat) "VillageStoriesModel" "two" "[I") ∈ lw_all := lw_g (lw_at lw_m7 122 rfl) rfl
theorem q1665 : (Jvm.Cond.fieldLink "VillageStoriesModel" (66 : Nat) "VillageStoriesModel" "three" "[I") ∈ lw_all := lw_g (lw_at lw_m7 123 rfl) rfl
theorem q1666 : (Jvm.Cond.fieldLink "VillageStoriesModel" (69 : Nat) "VillageStoriesModel" "knowns" "[I") ∈ lw_all := lw_g (lw_at lw_m7 124 rfl) rfl
theorem q1667 : (Jvm.Cond.fieldLink "VillageStoriesModel" (72 : Nat) "VillageStoriesModel" "knownOf" "[I") ∈ lw_all := lw_g (lw_at lw_m7 125 rfl) rfl
theorem q1668 : (Jvm.Cond.fieldLink "VillageStoriesModel" (75 : Nat) "VillageStoriesModel" "knownIs" "[I") ∈ lw_all := lw_g (lw_at lw_m7 126 rfl) rfl
theorem q1669 : (Jvm.Cond.fieldLink "VillageStoriesModel" (78 : Nat) "VillageStoriesModel" "knownDay" "[I") ∈ lw_all := lw_g (lw_at lw_m7 127 rfl) rfl
theorem q1670 : (Jvm.Cond.fieldLink "VillageStoriesModel" (81 : Nat) "VillageStoriesModel" "held" "[Z") ∈ lw_all := lw_g (lw_at lw_m7 128 rfl) rfl
theorem q1671 : (Jvm.Cond.fieldLink "VillageStoriesModel" (84 : Nat) "VillageStoriesModel" "holdsPlace" "[Z") ∈ lw_all := lw_g (lw_at lw_m7 129 rfl) rfl
theorem q1672 : (Jvm.Cond.fieldLink "VillageStoriesModel" (87 : Nat) "VillageStoriesModel" "now" "[I") ∈ lw_all := lw_g (lw_at lw_m7 130 rfl) rfl
theorem q1673 : (Jvm.Cond.fieldLink "VillageStoriesModel" (90 : Nat) "VillageStoriesModel" "start" "[I") ∈ lw_all := lw_g (lw_at lw_m7 131 rfl) rfl
theorem q1674 : (Jvm.Cond.fieldLink "VillageStoriesModel" (93 : Nat) "VillageStoriesModel" "is" "[Z") ∈ lw_all := lw_g (lw_at lw_m7 132 rfl) rfl
theorem q1675 : (Jvm.Cond.fieldLink "VillageStoriesModel" (202 : Nat) "VillageStoriesModel" "ahead" "I") ∈ lw_all := lw_g (lw_at lw_m7 133 rfl) rfl
theorem q1676 : (Jvm.Cond.fieldLink "VillageStoriesModel" (205 : Nat) "VillageStoriesModel" "length" "I") ∈ lw_all := lw_g (lw_at lw_m7 134 rfl) rfl
theorem q1677 : (Jvm.Cond.fieldLink "VillageStoriesModel" (211 : Nat) "VillageStoriesModel" "begins" "I") ∈ lw_all := lw_g (lw_at lw_m7 135 rfl) rfl
theorem q1678 : (Jvm.Cond.fieldLink "VillageStoriesModel" (221 : Nat) "VillageStoriesModel" "sort" "I") ∈ lw_all := lw_g (lw_at lw_m7 136 rfl) rfl
theorem q1679 : (Jvm.Cond.fieldLink "VillageStoriesModel" (214 : Nat) "VillageStoriesModel" "value" "I") ∈ lw_all := lw_g (lw_at lw_m7 137 rfl) rfl
theorem q1680 : (Jvm.Cond.fieldLink "VillageStoriesModel" (217 : Nat) "VillageStoriesModel" "word" "J") ∈ lw_all := lw_g (lw_at lw_m7 138 rfl) rfl
theorem q1681 : (Jvm.Cond.fieldLink "VillageStoriesModel" (272 : Nat) "VillageStoriesModel" "wrongAt" "I") ∈ lw_all := lw_g (lw_at lw_m7 139 rfl) rfl
theorem q1682 : (Jvm.Cond.fieldLink "VillageStoriesModel" (275 : Nat) "VillageStoriesModel" "laterFault" "I") ∈ lw_all := lw_g (lw_at lw_m7 140 rfl) rfl
theorem q1683 : (Jvm.Cond.fieldLink "VillageStoriesModel" (278 : Nat) "VillageStoriesModel" "laterPlace" "I") ∈ lw_all := lw_g (lw_at lw_m7 141 rfl) rfl
theorem q1684 : (Jvm.Cond.fieldLink "VillageStoriesModel" (298 : Nat) "VillageStoriesModel" "waiting" "I") ∈ lw_all := lw_g (lw_at lw_m7 142 rfl) rfl
theorem q1685 : (Jvm.Cond.fieldLink "VillageStoriesModel" (96 : Nat) "VillageStoriesModel" "around" "[I") ∈ lw_all := lw_g (lw_at lw_m7 143 rfl) rfl
theorem q1686 : (Jvm.Cond.fieldLink "VillageStoriesModel" (313 : Nat) "VillageStoriesModel" "newParts" "I") ∈ lw_all := lw_g (lw_at lw_m7 144 rfl) rfl
theorem q1687 : (Jvm.Cond.fieldLink "VillageStoriesModel" (99 : Nat) "VillageStoriesModel" "newAct" "[I") ∈ lw_all := lw_g (lw_at lw_m7 145 rfl) rfl
theorem q1688 : (Jvm.Cond.fieldLink "VillageStoriesModel" (102 : Nat) "VillageStoriesModel" "newOne" "[I") ∈ lw_all := lw_g (lw_at lw_m7 146 rfl) rfl
theorem q1689 : (Jvm.Cond.fieldLink "VillageStoriesModel" (105 : Nat) "VillageStoriesModel" "newTwo" "[I") ∈ lw_all := lw_g (lw_at lw_m7 147 rfl) rfl
theorem q1690 : (Jvm.Cond.fieldLink "VillageStoriesModel" (108 : Nat) "VillageStoriesModel" "newThree" "[I") ∈ lw_all := lw_g (lw_at lw_m7 148 rfl) rfl
theorem q1691 : (Jvm.Cond.fieldLink "VillageStoriesModel" (111 : Nat) "VillageStoriesModel" "ready" "[Z") ∈ lw_all := lw_g (lw_at lw_m7 149 rfl) rfl
theorem q1692 : (Jvm.Cond.fieldLink "VillageStoriesModel" (353 : Nat) "VillageStoriesModel" "top" "I") ∈ lw_all := lw_g (lw_at lw_m7 150 rfl) rfl
theorem q1693 : (Jvm.Cond.fieldLink "VillageStoriesModel" (114 : Nat) "VillageStoriesModel" "joined" "[Z") ∈ lw_all := lw_g (lw_at lw_m7 151 rfl) rfl
theorem q1694 : (Jvm.Cond.fieldLink "VillageStoriesModel" (383 : Nat) "VillageStoriesModel" "storiesToldNow" "I") ∈ lw_all := lw_g (lw_at lw_m7 152 rfl) rfl
theorem q1695 : (Jvm.Cond.fieldLink "VillageStoriesModel" (374 : Nat) "VillageStoriesModel" "knownBits" "I") ∈ lw_all := lw_g (lw_at lw_m7 153 rfl) rfl
theorem q1696 : (Jvm.Cond.fieldLink "VillageStoriesModel" (377 : Nat) "VillageStoriesModel" "knownSo" "I") ∈ lw_all := lw_g (lw_at lw_m7 154 rfl) rfl
theorem q1697 : (Jvm.Cond.fieldLink "VillageStoriesModel" (117 : Nat) "VillageStoriesModel" "orderOf" "[I") ∈ lw_all := lw_g (lw_at lw_m7 155 rfl) rfl
theorem q1698 : (Jvm.Cond.fieldLink "VillageStoriesModel" (419 : Nat) "VillageStoriesModel" "leastMen" "I") ∈ lw_all := lw_g (lw_at lw_m7 156 rfl) rfl
theorem q1699 : (Jvm.Cond.fieldLink "VillageStoriesModel" (422 : Nat) "VillageStoriesModel" "leastHouses" "I") ∈ lw_all := lw_g (lw_at lw_m7 157 rfl) rfl
theorem q1700 : (Jvm.Cond.fieldLink "VillageStoriesModel" (425 : Nat) "VillageStoriesModel" "leastDays" "I") ∈ lw_all := lw_g (lw_at lw_m7 158 rfl) rfl
theorem q1701 : (Jvm.Cond.fieldLink "VillageStoriesModel" (120 : Nat) "VillageStoriesModel" "together" "[Z") ∈ lw_all := lw_g (lw_at lw_m7 159 rfl) rfl
theorem q1702 : (Jvm.Cond.fieldLink "VillageStoriesModel" (123 : Nat) "VillageStoriesModel" "often" "[I") ∈ lw_all := lw_g (lw_at lw_m7 160 rfl) rfl
theorem q1703 : (Jvm.Cond.fieldLink "VillageStoriesModel" (447 : Nat) "VillageStoriesModel" "allWorlds" "I") ∈ lw_all := lw_g (lw_at lw_m7 161 rfl) rfl
theorem q1704 : (Jvm.Cond.fieldLink "VillageStoriesModel" (126 : Nat) "VillageStoriesModel" "fewWorlds" "[I") ∈ lw_all := lw_g (lw_at lw_m7 162 rfl) rfl
theorem q1705 : (Jvm.Cond.fieldLink "VillageStoriesModel" (130 : Nat) "VillageStoriesModel" "does" "[Z") ∈ lw_all := lw_g (lw_at lw_m7 163 rfl) rfl
theorem q1706 : (Jvm.Cond.fieldLink "VillageStoriesModel" (133 : Nat) "VillageStoriesModel" "doesNow" "[Z") ∈ lw_all := lw_g (lw_at lw_m7 164 rfl) rfl
theorem q1707 : (Jvm.Cond.fieldLink "VillageStoriesModel" (136 : Nat) "VillageStoriesModel" "yes" "[I") ∈ lw_all := lw_g (lw_at lw_m7 165 rfl) rfl
theorem q1708 : (Jvm.Cond.fieldLink "VillageStoriesModel" (139 : Nat) "VillageStoriesModel" "kept" "[Z") ∈ lw_all := lw_g (lw_at lw_m7 166 rfl) rfl
theorem q1709 : (Jvm.Cond.lays "VillageStoriesModel" "VillageStoriesModel" "code" "I") ∈ lw_all := lw_g (lw_at lw_m7 167 rfl) rfl
theorem q1710 : (Jvm.Cond.soleField "VillageStoriesModel" "code") ∈ lw_all := lw_g (lw_at lw_m7 168 rfl) rfl
theorem q1711 : (Jvm.Cond.laysFinal "VillageStoriesModel" "VillageStoriesModel" "tape" "[B") ∈ lw_all := lw_g (lw_at lw_m7 169 rfl) rfl
theorem q1712 : (Jvm.Cond.soleField "VillageStoriesModel" "tape") ∈ lw_all := lw_g (lw_at lw_m7 170 rfl) rfl
theorem q1713 : (Jvm.Cond.laysFinal "VillageStoriesModel" "VillageStoriesModel" "size" "[I") ∈ lw_all := lw_g (lw_at lw_m7 171 rfl) rfl
theorem q1714 : (Jvm.Cond.soleField "VillageStoriesModel" "size") ∈ lw_all := lw_g (lw_at lw_m7 172 rfl) rfl
theorem q1715 : (Jvm.Cond.laysFinal "VillageStoriesModel" "VillageStoriesModel" "fault" "[I") ∈ lw_all := lw_g (lw_at lw_m7 173 rfl) rfl
theorem q1716 : (Jvm.Cond.soleField "VillageStoriesModel" "fault") ∈ lw_all := lw_g (lw_at lw_m7 174 rfl) rfl
theorem q1717 : (Jvm.Cond.laysFinal "VillageStoriesModel" "VillageStoriesModel" "faultPlace" "[I") ∈ lw_all := lw_g (lw_at lw_m7 175 rfl) rfl
theorem q1718 : (Jvm.Cond.soleField "VillageStoriesModel" "faultPlace") ∈ lw_all := lw_g (lw_at lw_m7 176 rfl) rfl
theorem q1719 : (Jvm.Cond.laysFinal "VillageStoriesModel" "VillageStoriesModel" "days" "[I") ∈ lw_all := lw_g (lw_at lw_m7 177 rfl) rfl
theorem q1720 : (Jvm.Cond.soleField "VillageStoriesModel" "days") ∈ lw_all := lw_g (lw_at lw_m7 178 rfl) rfl
theorem q1721 : (Jvm.Cond.laysFinal "VillageStoriesModel" "VillageStoriesModel" "viewed" "[I") ∈ lw_all := lw_g (lw_at lw_m7 179 rfl) rfl
theorem q1722 : (Jvm.Cond.soleField "VillageStoriesModel" "viewed") ∈ lw_all := lw_g (lw_at lw_m7 180 rfl) rfl
theorem q1723 : (Jvm.Cond.laysFinal "VillageStoriesModel" "VillageStoriesModel" "sizes" "[I") ∈ lw_all := lw_g (lw_at lw_m7 181 rfl) rfl
theorem q1724 : (Jvm.Cond.soleField "VillageStoriesModel" "sizes") ∈ lw_all := lw_g (lw_at lw_m7 182 rfl) rfl
theorem q1725 : (Jvm.Cond.laysFinal "VillageStoriesModel" "VillageStoriesModel" "relations" "[I") ∈ lw_all := lw_g (lw_at lw_m7 183 rfl) rfl
theorem q1726 : (Jvm.Cond.soleField "VillageStoriesModel" "relations") ∈ lw_all := lw_g (lw_at lw_m7 184 rfl) rfl
theorem q1727 : (Jvm.Cond.laysFinal "VillageStoriesModel" "VillageStoriesModel" "firstKind" "[I") ∈ lw_all := lw_g (lw_at lw_m7 185 rfl) rfl
theorem q1728 : (Jvm.Cond.soleField "VillageStoriesModel" "firstKind") ∈ lw_all := lw_g (lw_at lw_m7 186 rfl) rfl
theorem q1729 : (Jvm.Cond.laysFinal "VillageStoriesModel" "VillageStoriesModel" "secondKind" "[I") ∈ lw_all := lw_g (lw_at lw_m7 187 rfl) rfl
theorem q1730 : (Jvm.Cond.soleField "VillageStoriesModel" "secondKind") ∈ lw_all := lw_g (lw_at lw_m7 188 rfl) rfl
theorem q1731 : (Jvm.Cond.laysFinal "VillageStoriesModel" "VillageStoriesModel" "world" "[Z") ∈ lw_all := lw_g (lw_at lw_m7 189 rfl) rfl
theorem q1732 : (Jvm.Cond.soleField "VillageStoriesModel" "world") ∈ lw_all := lw_g (lw_at lw_m7 190 rfl) rfl
theorem q1733 : (Jvm.Cond.laysFinal "VillageStoriesModel" "VillageStoriesModel" "stories" "[I") ∈ lw_all := lw_g (lw_at lw_m7 191 rfl) rfl
theorem q1734 : (Jvm.Cond.soleField "VillageStoriesModel" "stories") ∈ lw_all := lw_g (lw_at lw_m7 192 rfl) rfl
theorem q1735 : (Jvm.Cond.laysFinal "VillageStoriesModel" "VillageStoriesModel" "storyDay" "[I") ∈ lw_all := lw_g (lw_at lw_m7 193 rfl) rfl
theorem q1736 : (Jvm.Cond.soleField "VillageStoriesModel" "storyDay") ∈ lw_all := lw_g (lw_at lw_m7 194 rfl) rfl
theorem q1737 : (Jvm.Cond.laysFinal "VillageStoriesModel" "VillageStoriesModel" "struckDay" "[I") ∈ lw_all := lw_g (lw_at lw_m7 195 rfl) rfl
theorem q1738 : (Jvm.Cond.soleField "VillageStoriesModel" "struckDay") ∈ lw_all := lw_g (lw_at lw_m7 196 rfl) rfl
theorem q1739 : (Jvm.Cond.laysFinal "VillageStoriesModel" "VillageStoriesModel" "parts" "[I") ∈ lw_all := lw_g (lw_at lw_m7 197 rfl) rfl
theorem q1740 : (Jvm.Cond.soleField "VillageStoriesModel" "parts") ∈ lw_all := lw_g (lw_at lw_m7 198 rfl) rfl
theorem q1741 : (Jvm.Cond.laysFinal "VillageStoriesModel" "VillageStoriesModel" "act" "[I") ∈ lw_all := lw_g (lw_at lw_m7 199 rfl) rfl
theorem q1742 : (Jvm.Cond.soleField "VillageStoriesModel" "act") ∈ lw_all := lw_g (lw_at lw_m7 200 rfl) rfl
theorem q1743 : (Jvm.Cond.laysFinal "VillageStoriesModel" "VillageStoriesModel" "one" "[I") ∈ lw_all := lw_g (lw_at lw_m7 201 rfl) rfl
theorem q1744 : (Jvm.Cond.soleField "VillageStoriesModel" "one") ∈ lw_all := lw_g (lw_at lw_m7 202 rfl) rfl
theorem q1745 : (Jvm.Cond.laysFinal "VillageStoriesModel" "VillageStoriesModel" "two" "[I") ∈ lw_all := lw_g (lw_at lw_m7 203 rfl) rfl
theorem q1746 : (Jvm.Cond.soleField "VillageStoriesModel" "two") ∈ lw_all := lw_g (lw_at lw_m7 204 rfl) rfl
theorem q1747 : (Jvm.Cond.laysFinal "VillageStoriesModel" "VillageStoriesModel" "three" "[I") ∈ lw_all := lw_g (lw_at lw_m7 205 rfl) rfl
theorem q1748 : (Jvm.Cond.soleField "VillageStoriesModel" "three") ∈ lw_all := lw_g (lw_at lw_m7 206 rfl) rfl
theorem q1749 : (Jvm.Cond.laysFinal "VillageStoriesModel" "VillageStoriesModel" "knowns" "[I") ∈ lw_all := lw_g (lw_at lw_m7 207 rfl) rfl
theorem q1750 : (Jvm.Cond.soleField "VillageStoriesModel" "knowns") ∈ lw_all := lw_g (lw_at lw_m7 208 rfl) rfl
theorem q1751 : (Jvm.Cond.laysFinal "VillageStoriesModel" "VillageStoriesModel" "knownOf" "[I") ∈ lw_all := lw_g (lw_at lw_m7 209 rfl) rfl
theorem q1752 : (Jvm.Cond.soleField "VillageStoriesModel" "knownOf") ∈ lw_all := lw_g (lw_at lw_m7 210 rfl) rfl
theorem q1753 : (Jvm.Cond.laysFinal "VillageStoriesModel" "VillageStoriesModel" "knownIs" "[I") ∈ lw_all := lw_g (lw_at lw_m7 211 rfl) rfl
theorem q1754 : (Jvm.Cond.soleField "VillageStoriesModel" "knownIs") ∈ lw_all := lw_g (lw_at lw_m7 212 rfl) rfl
theorem q1755 : (Jvm.Cond.laysFinal "VillageStoriesModel" "VillageStoriesModel" "knownDay" "[I") ∈ lw_all := lw_g (lw_at lw_m7 213 rfl) rfl
theorem q1756 : (Jvm.Cond.soleField "VillageStoriesModel" "knownDay") ∈ lw_all := lw_g (lw_at lw_m7 214 rfl) rfl
theorem q1757 : (Jvm.Cond.laysFinal "VillageStoriesModel" "VillageStoriesModel" "held" "[Z") ∈ lw_all := lw_g (lw_at lw_m7 215 rfl) rfl
theorem q1758 : (Jvm.Cond.soleField "VillageStoriesModel" "held") ∈ lw_all := lw_g (lw_at lw_m7 216 rfl) rfl
theorem q1759 : (Jvm.Cond.laysFinal "VillageStoriesModel" "VillageStoriesModel" "holdsPlace" "[Z") ∈ lw_all := lw_g (lw_at lw_m7 217 rfl) rfl
theorem q1760 : (Jvm.Cond.soleField "VillageStoriesModel" "holdsPlace") ∈ lw_all := lw_g (lw_at lw_m7 218 rfl) rfl
theorem q1761 : (Jvm.Cond.laysFinal "VillageStoriesModel" "VillageStoriesModel" "now" "[I") ∈ lw_all := lw_g (lw_at lw_m7 219 rfl) rfl
theorem q1762 : (Jvm.Cond.soleField "VillageStoriesModel" "now") ∈ lw_all := lw_g (lw_at lw_m7 220 rfl) rfl
theorem q1763 : (Jvm.Cond.laysFinal "VillageStoriesModel" "VillageStoriesModel" "start" "[I") ∈ lw_all := lw_g (lw_at lw_m7 221 rfl) rfl
theorem q1764 : (Jvm.Cond.soleField "VillageStoriesModel" "start") ∈ lw_all := lw_g (lw_at lw_m7 222 rfl) rfl
theorem q1765 : (Jvm.Cond.laysFinal "VillageStoriesModel" "VillageStoriesModel" "is" "[Z") ∈ lw_all := lw_g (lw_at lw_m7 223 rfl) rfl
theorem q1766 : (Jvm.Cond.soleField "VillageStoriesModel" "is") ∈ lw_all := lw_g (lw_at lw_m7 224 rfl) rfl
theorem q1767 : (Jvm.Cond.lays "VillageStoriesModel" "VillageStoriesModel" "ahead" "I") ∈ lw_all := lw_g (lw_at lw_m7 225 rfl) rfl
theorem q1768 : (Jvm.Cond.soleField "VillageStoriesModel" "ahead") ∈ lw_all := lw_g (lw_at lw_m7 226 rfl) rfl
theorem q1769 : (Jvm.Cond.lays "VillageStoriesModel" "VillageStoriesModel" "length" "I") ∈ lw_all := lw_g (lw_at lw_m7 227 rfl) rfl
theorem q1770 : (Jvm.Cond.soleField "VillageStoriesModel" "length") ∈ lw_all := lw_g (lw_at lw_m7 228 rfl) rfl
theorem q1771 : (Jvm.Cond.lays "VillageStoriesModel" "VillageStoriesModel" "begins" "I") ∈ lw_all := lw_g (lw_at lw_m7 229 rfl) rfl
theorem q1772 : (Jvm.Cond.soleField "VillageStoriesModel" "begins") ∈ lw_all := lw_g (lw_at lw_m7 230 rfl) rfl
theorem q1773 : (Jvm.Cond.lays "VillageStoriesModel" "VillageStoriesModel" "sort" "I") ∈ lw_all := lw_g (lw_at lw_m7 231 rfl) rfl
theorem q1774 : (Jvm.Cond.soleField "VillageStoriesModel" "sort") ∈ lw_all := lw_g (lw_at lw_m7 232 rfl) rfl
theorem q1775 : (Jvm.Cond.lays "VillageStoriesModel" "VillageStoriesModel" "value" "I") ∈ lw_all := lw_g (lw_at lw_m7 233 rfl) rfl
theorem q1776 : (Jvm.Cond.soleField "VillageStoriesModel" "value") ∈ lw_all := lw_g (lw_at lw_m7 234 rfl) rfl
theorem q1777 : (Jvm.Cond.lays "VillageStoriesModel" "VillageStoriesModel" "word" "J") ∈ lw_all := lw_g (lw_at lw_m7 235 rfl) rfl
theorem q1778 : (Jvm.Cond.soleField "VillageStoriesModel" "word") ∈ lw_all := lw_g (lw_at lw_m7 236 rfl) rfl
theorem q1779 : (Jvm.Cond.lays "VillageStoriesModel" "VillageStoriesModel" "wrongAt" "I") ∈ lw_all := lw_g (lw_at lw_m7 237 rfl) rfl
theorem q1780 : (Jvm.Cond.soleField "VillageStoriesModel" "wrongAt") ∈ lw_all := lw_g (lw_at lw_m7 238 rfl) rfl
theorem q1781 : (Jvm.Cond.lays "VillageStoriesModel" "VillageStoriesModel" "laterFault" "I") ∈ lw_all := lw_g (lw_at lw_m7 239 rfl) rfl
theorem q1782 : (Jvm.Cond.soleField "VillageStoriesModel" "laterFault") ∈ lw_all := lw_g (lw_at lw_m8 0 rfl) rfl
theorem q1783 : (Jvm.Cond.lays "VillageStoriesModel" "VillageStoriesModel" "laterPlace" "I") ∈ lw_all := lw_g (lw_at lw_m8 1 rfl) rfl
theorem q1784 : (Jvm.Cond.soleField "VillageStoriesModel" "laterPlace") ∈ lw_all := lw_g (lw_at lw_m8 2 rfl) rfl
theorem q1785 : (Jvm.Cond.lays "VillageStoriesModel" "VillageStoriesModel" "waiting" "I") ∈ lw_all := lw_g (lw_at lw_m8 3 rfl) rfl
theorem q1786 : (Jvm.Cond.soleField "VillageStoriesModel" "waiting") ∈ lw_all := lw_g (lw_at lw_m8 4 rfl) rfl
theorem q1787 : (Jvm.Cond.laysFinal "VillageStoriesModel" "VillageStoriesModel" "around" "[I") ∈ lw_all := lw_g (lw_at lw_m8 5 rfl) rfl
theorem q1788 : (Jvm.Cond.soleField "VillageStoriesModel" "around") ∈ lw_all := lw_g (lw_at lw_m8 6 rfl) rfl
theorem q1789 : (Jvm.Cond.lays "VillageStoriesModel" "VillageStoriesModel" "newParts" "I") ∈ lw_all := lw_g (lw_at lw_m8 7 rfl) rfl
theorem q1790 : (Jvm.Cond.soleField "VillageStoriesModel" "newParts") ∈ lw_all := lw_g (lw_at lw_m8 8 rfl) rfl
theorem q1791 : (Jvm.Cond.laysFinal "VillageStoriesModel" "VillageStoriesModel" "newAct" "[I") ∈ lw_all := lw_g (lw_at lw_m8 9 rfl) rfl
theorem q1792 : (Jvm.Cond.soleField "VillageStoriesModel" "newAct") ∈ lw_all := lw_g (lw_at lw_m8 10 rfl) rfl
theorem q1793 : (Jvm.Cond.laysFinal "VillageStoriesModel" "VillageStoriesModel" "newOne" "[I") ∈ lw_all := lw_g (lw_at lw_m8 11 rfl) rfl
theorem q1794 : (Jvm.Cond.soleField "VillageStoriesModel" "newOne") ∈ lw_all := lw_g (lw_at lw_m8 12 rfl) rfl
theorem q1795 : (Jvm.Cond.laysFinal "VillageStoriesModel" "VillageStoriesModel" "newTwo" "[I") ∈ lw_all := lw_g (lw_at lw_m8 13 rfl) rfl
theorem q1796 : (Jvm.Cond.soleField "VillageStoriesModel" "newTwo") ∈ lw_all := lw_g (lw_at lw_m8 14 rfl) rfl
theorem q1797 : (Jvm.Cond.laysFinal "VillageStoriesModel" "VillageStoriesModel" "newThree" "[I") ∈ lw_all := lw_g (lw_at lw_m8 15 rfl) rfl
theorem q1798 : (Jvm.Cond.soleField "VillageStoriesModel" "newThree") ∈ lw_all := lw_g (lw_at lw_m8 16 rfl) rfl
theorem q1799 : (Jvm.Cond.laysFinal "VillageStoriesModel" "VillageStoriesModel" "ready" "[Z") ∈ lw_all := lw_g (lw_at lw_m8 17 rfl) rfl
theorem q1800 : (Jvm.Cond.soleField "VillageStoriesModel" "ready") ∈ lw_all := lw_g (lw_at lw_m8 18 rfl) rfl
theorem q1801 : (Jvm.Cond.lays "VillageStoriesModel" "VillageStoriesModel" "top" "I") ∈ lw_all := lw_g (lw_at lw_m8 19 rfl) rfl
theorem q1802 : (Jvm.Cond.soleField "VillageStoriesModel" "top") ∈ lw_all := lw_g (lw_at lw_m8 20 rfl) rfl
theorem q1803 : (Jvm.Cond.laysFinal "VillageStoriesModel" "VillageStoriesModel" "joined" "[Z") ∈ lw_all := lw_g (lw_at lw_m8 21 rfl) rfl
theorem q1804 : (Jvm.Cond.soleField "VillageStoriesModel" "joined") ∈ lw_all := lw_g (lw_at lw_m8 22 rfl) rfl
theorem q1805 : (Jvm.Cond.lays "VillageStoriesModel" "VillageStoriesModel" "storiesToldNow" "I") ∈ lw_all := lw_g (lw_at lw_m8 23 rfl) rfl
theorem q1806 : (Jvm.Cond.soleField "VillageStoriesModel" "storiesToldNow") ∈ lw_all := lw_g (lw_at lw_m8 24 rfl) rfl
theorem q1807 : (Jvm.Cond.lays "VillageStoriesModel" "VillageStoriesModel" "knownBits" "I") ∈ lw_all := lw_g (lw_at lw_m8 25 rfl) rfl
theorem q1808 : (Jvm.Cond.soleField "VillageStoriesModel" "knownBits") ∈ lw_all := lw_g (lw_at lw_m8 26 rfl) rfl
theorem q1809 : (Jvm.Cond.lays "VillageStoriesModel" "VillageStoriesModel" "knownSo" "I") ∈ lw_all := lw_g (lw_at lw_m8 27 rfl) rfl
theorem q1810 : (Jvm.Cond.soleField "VillageStoriesModel" "knownSo") ∈ lw_all := lw_g (lw_at lw_m8 28 rfl) rfl
theorem q1811 : (Jvm.Cond.laysFinal "VillageStoriesModel" "VillageStoriesModel" "orderOf" "[I") ∈ lw_all := lw_g (lw_at lw_m8 29 rfl) rfl
theorem q1812 : (Jvm.Cond.soleField "VillageStoriesModel" "orderOf") ∈ lw_all := lw_g (lw_at lw_m8 30 rfl) rfl
theorem q1813 : (Jvm.Cond.lays "VillageStoriesModel" "VillageStoriesModel" "leastMen" "I") ∈ lw_all := lw_g (lw_at lw_m8 31 rfl) rfl
theorem q1814 : (Jvm.Cond.soleField "VillageStoriesModel" "leastMen") ∈ lw_all := lw_g (lw_at lw_m8 32 rfl) rfl
theorem q1815 : (Jvm.Cond.lays "VillageStoriesModel" "VillageStoriesModel" "leastHouses" "I") ∈ lw_all := lw_g (lw_at lw_m8 33 rfl) rfl
theorem q1816 : (Jvm.Cond.soleField "VillageStoriesModel" "leastHouses") ∈ lw_all := lw_g (lw_at lw_m8 34 rfl) rfl
theorem q1817 : (Jvm.Cond.lays "VillageStoriesModel" "VillageStoriesModel" "leastDays" "I") ∈ lw_all := lw_g (lw_at lw_m8 35 rfl) rfl
theorem q1818 : (Jvm.Cond.soleField "VillageStoriesModel" "leastDays") ∈ lw_all := lw_g (lw_at lw_m8 36 rfl) rfl
theorem q1819 : (Jvm.Cond.laysFinal "VillageStoriesModel" "VillageStoriesModel" "together" "[Z") ∈ lw_all := lw_g (lw_at lw_m8 37 rfl) rfl
theorem q1820 : (Jvm.Cond.soleField "VillageStoriesModel" "together") ∈ lw_all := lw_g (lw_at lw_m8 38 rfl) rfl
theorem q1821 : (Jvm.Cond.laysFinal "VillageStoriesModel" "VillageStoriesModel" "often" "[I") ∈ lw_all := lw_g (lw_at lw_m8 39 rfl) rfl
theorem q1822 : (Jvm.Cond.soleField "VillageStoriesModel" "often") ∈ lw_all := lw_g (lw_at lw_m8 40 rfl) rfl
theorem q1823 : (Jvm.Cond.lays "VillageStoriesModel" "VillageStoriesModel" "allWorlds" "I") ∈ lw_all := lw_g (lw_at lw_m8 41 rfl) rfl
theorem q1824 : (Jvm.Cond.soleField "VillageStoriesModel" "allWorlds") ∈ lw_all := lw_g (lw_at lw_m8 42 rfl) rfl
theorem q1825 : (Jvm.Cond.laysFinal "VillageStoriesModel" "VillageStoriesModel" "fewWorlds" "[I") ∈ lw_all := lw_g (lw_at lw_m8 43 rfl) rfl
theorem q1826 : (Jvm.Cond.soleField "VillageStoriesModel" "fewWorlds") ∈ lw_all := lw_g (lw_at lw_m8 44 rfl) rfl
theorem q1827 : (Jvm.Cond.laysFinal "VillageStoriesModel" "VillageStoriesModel" "does" "[Z") ∈ lw_all := lw_g (lw_at lw_m8 45 rfl) rfl
theorem q1828 : (Jvm.Cond.soleField "VillageStoriesModel" "does") ∈ lw_all := lw_g (lw_at lw_m8 46 rfl) rfl
theorem q1829 : (Jvm.Cond.laysFinal "VillageStoriesModel" "VillageStoriesModel" "doesNow" "[Z") ∈ lw_all := lw_g (lw_at lw_m8 47 rfl) rfl
theorem q1830 : (Jvm.Cond.soleField "VillageStoriesModel" "doesNow") ∈ lw_all := lw_g (lw_at lw_m8 48 rfl) rfl
theorem q1831 : (Jvm.Cond.laysFinal "VillageStoriesModel" "VillageStoriesModel" "yes" "[I") ∈ lw_all := lw_g (lw_at lw_m8 49 rfl) rfl
theorem q1832 : (Jvm.Cond.soleField "VillageStoriesModel" "yes") ∈ lw_all := lw_g (lw_at lw_m8 50 rfl) rfl
theorem q1833 : (Jvm.Cond.laysFinal "VillageStoriesModel" "VillageStoriesModel" "kept" "[Z") ∈ lw_all := lw_g (lw_at lw_m8 51 rfl) rfl
theorem q1834 : (Jvm.Cond.soleField "VillageStoriesModel" "kept") ∈ lw_all := lw_g (lw_at lw_m8 52 rfl) rfl
theorem q1835 : (Jvm.Cond.superclass "VillageStoriesModel" "java/lang/Object") ∈ lw_all := lw_g (lw_at lw_m8 53 rfl) rfl
theorem q1838 : (Jvm.Cond.instanceMethod ({ cls := "VillageStoriesModel", name := "size", desc := "(II)Z" } : Jvm.MethodName)) ∈ lw_all := lw_g (lw_at lw_m8 56 rfl) rfl
theorem q1839 : (Jvm.Cond.selects "VillageStoriesModel" ({ cls := "VillageStoriesModel", name := "size", desc := "(II)Z" } : Jvm.MethodName) ({ cls := "VillageStoriesModel", name := "size", desc := "(II)Z" } : Jvm.MethodName)) ∈ lw_all := lw_g (lw_at lw_m8 57 rfl) rfl
theorem q1840 : (Jvm.Cond.code ({ cls := "VillageStoriesModel", name := "size", desc := "(II)Z" } : Jvm.MethodName) prog_33_method_14_code (3 : Nat) (Option.some Jvm.ClassFile.FieldType.boolean)) ∈ lw_all := lw_g (lw_at lw_m8 58 rfl) rfl
theorem q1841 : (Jvm.Cond.methodLink "VillageStoriesModel" (160 : Nat) ({ cls := "VillageStoriesModel", name := "in", desc := "(III)Z" } : Jvm.MethodName)) ∈ lw_all := lw_g (lw_at lw_m8 59 rfl) rfl
theorem q1842 : (Jvm.Cond.static ({ cls := "VillageStoriesModel", name := "in", desc := "(III)Z" } : Jvm.MethodName)) ∈ lw_all := lw_g (lw_at lw_m8 60 rfl) rfl
theorem q1843 : (Jvm.Cond.code ({ cls := "VillageStoriesModel", name := "in", desc := "(III)Z" } : Jvm.MethodName) prog_33_method_3_code (3 : Nat) (Option.some Jvm.ClassFile.FieldType.boolean)) ∈ lw_all := lw_g (lw_at lw_m8 61 rfl) rfl
theorem q1844 : (Jvm.Cond.methodLink "VillageStoriesModel" (168 : Nat) ({ cls := "VillageStoriesModel", name := "clearWorld", desc := "()V" } : Jvm.MethodName)) ∈ lw_all := lw_g (lw_at lw_m8 62 rfl) rfl
theorem q1845 : (Jvm.Cond.privateMethod ({ cls := "VillageStoriesModel", name := "clearWorld", desc := "()V" } : Jvm.MethodName)) ∈ lw_tbl := lw_at lw_m8 63 rfl
theorem q1846 : (Jvm.Cond.instanceMethod ({ cls := "VillageStoriesModel", name := "clearWorld", desc := "()V" } : Jvm.MethodName)) ∈ lw_all := lw_g (lw_at lw_m8 64 rfl) rfl
theorem q1847 : (Jvm.Cond.code ({ cls := "VillageStoriesModel", name := "clearWorld", desc := "()V" } : Jvm.MethodName) prog_33_method_13_code (2 : Nat) (Option.none : Option Jvm.ClassFile.FieldType)) ∈ lw_all := lw_g (lw_at lw_m8 65 rfl) rfl
theorem q1849 : (Jvm.Cond.instanceMethod ({ cls := "VillageStoriesModel", name := "relation", desc := "(II)I" } : Jvm.MethodName)) ∈ lw_all := lw_g (lw_at lw_m8 67 rfl) rfl
theorem q1850 : (Jvm.Cond.selects "VillageStoriesModel" ({ cls := "VillageStoriesModel", name := "relation", desc := "(II)I" } : Jvm.MethodName) ({ cls := "VillageStoriesModel", name := "relation", desc := "(II)I" } : Jvm.MethodName)) ∈ lw_all := lw_g (lw_at lw_m8 68 rfl) rfl
theorem q1851 : (Jvm.Cond.code ({ cls := "VillageStoriesModel", name := "relation", desc := "(II)I" } : Jvm.MethodName) prog_33_method_15_code (4 : Nat) (Option.some Jvm.ClassFile.FieldType.int)) ∈ lw_all := lw_g (lw_at lw_m8 69 rfl) rfl
theorem q1853 : (Jvm.Cond.instanceMethod ({ cls := "VillageStoriesModel", name := "facts", desc := "()I" } : Jvm.MethodName)) ∈ lw_all := lw_g (lw_at lw_m8 71 rfl) rfl
theorem q1854 : (Jvm.Cond.selects "VillageStoriesModel" ({ cls := "VillageStoriesModel", name := "facts", desc := "()I" } : Jvm.MethodName) ({ cls := "VillageStoriesModel", name := "facts", desc := "()I" } : Jvm.MethodName)) ∈ lw_all := lw_g (lw_at lw_m8 72 rfl) rfl
theorem q1855 : (Jvm.Cond.code ({ cls := "VillageStoriesModel", name := "facts", desc := "()I" } : Jvm.MethodName) prog_33_method_16_code (1 : Nat) (Option.some Jvm.ClassFile.FieldType.int)) ∈ lw_all := lw_g (lw_at lw_m8 73 rfl) rfl
theorem q1856 : (Jvm.Cond.methodLink "VillageStoriesModel" (157 : Nat) ({ cls := "VillageStoriesModel", name := "bringSizes", desc := "()V" } : Jvm.MethodName)) ∈ lw_all := lw_g (lw_at lw_m8 74 rfl) rfl
theorem q1857 : (Jvm.Cond.privateMethod ({ cls := "VillageStoriesModel", name := "bringSizes", desc := "()V" } : Jvm.MethodName)) ∈ lw_tbl := lw_at lw_m8 75 rfl
theorem q1858 : (Jvm.Cond.instanceMethod ({ cls := "VillageStoriesModel", name := "bringSizes", desc := "()V" } : Jvm.MethodName)) ∈ lw_all := lw_g (lw_at lw_m8 76 rfl) rfl
theorem q1859 : (Jvm.Cond.code ({ cls := "VillageStoriesModel", name := "bringSizes", desc := "()V" } : Jvm.MethodName) prog_33_method_8_code (2 : Nat) (Option.none : Option Jvm.ClassFile.FieldType)) ∈ lw_all := lw_g (lw_at lw_m8 77 rfl) rfl
theorem q1860 : (Jvm.Cond.methodLink "VillageStoriesModel" (154 : Nat) ({ cls := "VillageStoriesModel", name := "findStarts", desc := "()V" } : Jvm.MethodName)) ∈ lw_all := lw_g (lw_at lw_m8 78 rfl) rfl
theorem q1861 : (Jvm.Cond.privateMethod ({ cls := "VillageStoriesModel", name := "findStarts", desc := "()V" } : Jvm.MethodName)) ∈ lw_tbl := lw_at lw_m8 79 rfl
theorem q1862 : (Jvm.Cond.instanceMethod ({ cls := "VillageStoriesModel", name := "findStarts", desc := "()V" } : Jvm.MethodName)) ∈ lw_all := lw_g (lw_at lw_m8 80 rfl) rfl
theorem q1863 : (Jvm.Cond.code ({ cls := "VillageStoriesModel", name := "findStarts", desc := "()V" } : Jvm.MethodName) prog_33_method_7_code (2 : Nat) (Option.none : Option Jvm.ClassFile.FieldType)) ∈ lw_all := lw_g (lw_at lw_m8 81 rfl) rfl
theorem q1864 : (Jvm.Cond.methodLink "VillageStoriesModel" (150 : Nat) ({ cls := "VillageStoriesModel", name := "sizeOf", desc := "(I)I" } : Jvm.MethodName)) ∈ lw_all := lw_g (lw_at lw_m8 82 rfl) rfl
theorem q1865 : (Jvm.Cond.privateMethod ({ cls := "VillageStoriesModel", name := "sizeOf", desc := "(I)I" } : Jvm.MethodName)) ∈ lw_tbl := lw_at lw_m8 83 rfl
theorem q1866 : (Jvm.Cond.instanceMethod ({ cls := "VillageStoriesModel", name := "sizeOf", desc := "(I)I" } : Jvm.MethodName)) ∈ lw_all := lw_g (lw_at lw_m8 84 rfl) rfl
theorem q1867 : (Jvm.Cond.code ({ cls := "VillageStoriesModel", name := "sizeOf", desc := "(I)I" } : Jvm.MethodName) prog_33_method_6_code (2 : Nat) (Option.some Jvm.ClassFile.FieldType.int)) ∈ lw_all := lw_g (lw_at lw_m8 85 rfl) rfl
theorem q1868 : (Jvm.Cond.methodLink "VillageStoriesModel" (171 : Nat) ({ cls := "VillageStoriesModel", name := "manyFacts", desc := "()I" } : Jvm.MethodName)) ∈ lw_all := lw_g (lw_at lw_m8 86 rfl) rfl
theorem q1869 : (Jvm.Cond.privateMethod ({ cls := "VillageStoriesModel", name := "manyFacts", desc := "()I" } : Jvm.MethodName)) ∈ lw_tbl := lw_at lw_m8 87 rfl
theorem q1870 : (Jvm.Cond.instanceMethod ({ cls := "VillageStoriesModel", name := "manyFacts", desc := "()I" } : Jvm.MethodName)) ∈ lw_all := lw_g (lw_at lw_m8 88 rfl) rfl
theorem q1871 : (Jvm.Cond.code ({ cls := "VillageStoriesModel", name := "manyFacts", desc := "()I" } : Jvm.MethodName) prog_33_method_10_code (1 : Nat) (Option.some Jvm.ClassFile.FieldType.int)) ∈ lw_all := lw_g (lw_at lw_m8 89 rfl) rfl
theorem q1873 : (Jvm.Cond.instanceMethod ({ cls := "VillageStoriesModel", name := "tell", desc := "(IIIZ)Z" } : Jvm.MethodName)) ∈ lw_all := lw_g (lw_at lw_m8 91 rfl) rfl
theorem q1874 : (Jvm.Cond.selects "VillageStoriesModel" ({ cls := "VillageStoriesModel", name := "tell", desc := "(IIIZ)Z" } : Jvm.MethodName) ({ cls := "VillageStoriesModel", name := "tell", desc := "(IIIZ)Z" } : Jvm.MethodName)) ∈ lw_all := lw_g (lw_at lw_m8 92 rfl) rfl
theorem q1875 : (Jvm.Cond.code ({ cls := "VillageStoriesModel", name := "tell", desc := "(IIIZ)Z" } : Jvm.MethodName) prog_33_method_19_code (6 : Nat) (Option.some Jvm.ClassFile.FieldType.boolean)) ∈ lw_all := lw_g (lw_at lw_m8 93 rfl) rfl
theorem q1876 : (Jvm.Cond.methodLink "VillageStoriesModel" (179 : Nat) ({ cls := "VillageStoriesModel", name := "toldFact", desc := "(III)I" } : Jvm.MethodName)) ∈ lw_all := lw_g (lw_at lw_m8 94 rfl) rfl
theorem q1877 : (Jvm.Cond.privateMethod ({ cls := "VillageStoriesModel", name := "toldFact", desc := "(III)I" } : Jvm.MethodName)) ∈ lw_tbl := lw_at lw_m8 95 rfl
theorem q1878 : (Jvm.Cond.instanceMethod ({ cls := "VillageStoriesModel", name := "toldFact", desc := "(III)I" } : Jvm.MethodName)) ∈ lw_all := lw_g (lw_at lw_m8 96 rfl) rfl
theorem q1879 : (Jvm.Cond.code ({ cls := "VillageStoriesModel", name := "toldFact", desc := "(III)I" } : Jvm.MethodName) prog_33_method_18_code (4 : Nat) (Option.some Jvm.ClassFile.FieldType.int)) ∈ lw_all := lw_g (lw_at lw_m8 97 rfl) rfl
theorem q1880 : (Jvm.Cond.methodLink "VillageStoriesModel" (175 : Nat) ({ cls := "VillageStoriesModel", name := "isRelation", desc := "(I)Z" } : Jvm.MethodName)) ∈ lw_all := lw_g (lw_at lw_m8 98 rfl) rfl
theorem q1881 : (Jvm.Cond.privateMethod ({ cls := "VillageStoriesModel", name := "isRelation", desc := "(I)Z" } : Jvm.MethodName)) ∈ lw_tbl := lw_at lw_m8 99 rfl
theorem q1882 : (Jvm.Cond.instanceMethod ({ cls := "VillageStoriesModel", name := "isRelation", desc := "(I)Z" } : Jvm.MethodName)) ∈ lw_all := lw_g (lw_at lw_m8 100 rfl) rfl
theorem q1883 : (Jvm.Cond.code ({ cls := "VillageStoriesModel", name := "isRelation", desc := "(I)Z" } : Jvm.MethodName) prog_33_method_17_code (2 : Nat) (Option.some Jvm.ClassFile.FieldType.boolean)) ∈ lw_all := lw_g (lw_at lw_m8 101 rfl) rfl
theorem q1884 : (Jvm.Cond.methodLink "VillageStoriesModel" (164 : Nat) ({ cls := "VillageStoriesModel", name := "factAt", desc := "(III)I" } : Jvm.MethodName)) ∈ lw_all := lw_g (lw_at lw_m8 102 rfl) rfl
theorem q1885 : (Jvm.Cond.privateMethod ({ cls := "VillageStoriesModel", name := "factAt", desc := "(III)I" } : Jvm.MethodName)) ∈ lw_tbl := lw_at lw_m8 103 rfl
theorem q1886 : (Jvm.Cond.instanceMethod ({ cls := "VillageStoriesModel", name := "factAt", desc := "(III)I" } : Jvm.MethodName)) ∈ lw_all := lw_g (lw_at lw_m8 104 rfl) rfl
theorem q1887 : (Jvm.Cond.code ({ cls := "VillageStoriesModel", name := "factAt", desc := "(III)I" } : Jvm.MethodName) prog_33_method_11_code (5 : Nat) (Option.some Jvm.ClassFile.FieldType.int)) ∈ lw_all := lw_g (lw_at lw_m8 105 rfl) rfl
theorem q1889 : (Jvm.Cond.instanceMethod ({ cls := "VillageStoriesModel", name := "fact", desc := "(III)I" } : Jvm.MethodName)) ∈ lw_all := lw_g (lw_at lw_m8 107 rfl) rfl
theorem q1890 : (Jvm.Cond.selects "VillageStoriesModel" ({ cls := "VillageStoriesModel", name := "fact", desc := "(III)I" } : Jvm.MethodName) ({ cls := "VillageStoriesModel", name := "fact", desc := "(III)I" } : Jvm.MethodName)) ∈ lw_all := lw_g (lw_at lw_m8 108 rfl) rfl
theorem q1891 : (Jvm.Cond.code ({ cls := "VillageStoriesModel", name := "fact", desc := "(III)I" } : Jvm.MethodName) prog_33_method_20_code (5 : Nat) (Option.some Jvm.ClassFile.FieldType.int)) ∈ lw_all := lw_g (lw_at lw_m8 109 rfl) rfl
theorem q1893 : (Jvm.Cond.instanceMethod ({ cls := "VillageStoriesModel", name := "known", desc := "(IIIZ)Z" } : Jvm.MethodName)) ∈ lw_all := lw_g (lw_at lw_m8 111 rfl) rfl
theorem q1894 : (Jvm.Cond.selects "VillageStoriesModel" ({ cls := "VillageStoriesModel", name := "known", desc := "(IIIZ)Z" } : Jvm.MethodName) ({ cls := "VillageStoriesModel", name := "known", desc := "(IIIZ)Z" } : Jvm.MethodName)) ∈ lw_all := lw_g (lw_at lw_m8 112 rfl) rfl
theorem q1895 : (Jvm.Cond.code ({ cls := "VillageStoriesModel", name := "known", desc := "(IIIZ)Z" } : Jvm.MethodName) prog_33_method_21_code (6 : Nat) (Option.some Jvm.ClassFile.FieldType.boolean)) ∈ lw_all := lw_g (lw_at lw_m8 113 rfl) rfl
theorem q1897 : (Jvm.Cond.instanceMethod ({ cls := "VillageStoriesModel", name := "keep", desc := "(I)Z" } : Jvm.MethodName)) ∈ lw_all := lw_g (lw_at lw_m8 115 rfl) rfl
theorem q1898 : (Jvm.Cond.selects "VillageStoriesModel" ({ cls := "VillageStoriesModel", name := "keep", desc := "(I)Z" } : Jvm.MethodName) ({ cls := "VillageStoriesModel", name := "keep", desc := "(I)Z" } : Jvm.MethodName)) ∈ lw_all := lw_g (lw_at lw_m8 116 rfl) rfl
theorem q1899 : (Jvm.Cond.code ({ cls := "VillageStoriesModel", name := "keep", desc := "(I)Z" } : Jvm.MethodName) prog_33_method_22_code (3 : Nat) (Option.some Jvm.ClassFile.FieldType.boolean)) ∈ lw_all := lw_g (lw_at lw_m8 117 rfl) rfl
theorem q1901 : (Jvm.Cond.instanceMethod ({ cls := "VillageStoriesModel", name := "apart", desc := "(I)I" } : Jvm.MethodName)) ∈ lw_all := lw_g (lw_at lw_m8 119 rfl) rfl
theorem q1902 : (Jvm.Cond.selects "VillageStoriesModel" ({ cls := "VillageStoriesModel", name := "apart", desc := "(I)I" } : Jvm.MethodName) ({ cls := "VillageStoriesModel", name := "apart", desc := "(I)I" } : Jvm.MethodName)) ∈ lw_all := lw_g (lw_at lw_m8 120 rfl) rfl
theorem q1903 : (Jvm.Cond.code ({ cls := "VillageStoriesModel", name := "apart", desc := "(I)I" } : Jvm.MethodName) prog_33_method_23_code (7 : Nat) (Option.some Jvm.ClassFile.FieldType.int)) ∈ lw_all := lw_g (lw_at lw_m8 121 rfl) rfl
theorem q1904 : (Jvm.Cond.methodLink "VillageStoriesModel" (182 : Nat) ({ cls := "VillageStoriesModel", name := "canTell", desc := "()Z" } : Jvm.MethodName)) ∈ lw_all := lw_g (lw_at lw_m8 122 rfl) rfl
theorem q1905 : (Jvm.Cond.privateMethod ({ cls := "VillageStoriesModel", name := "canTell", desc := "()Z" } : Jvm.MethodName)) ∈ lw_tbl := lw_at lw_m8 123 rfl
theorem q1906 : (Jvm.Cond.instanceMethod ({ cls := "VillageStoriesModel", name := "canTell", desc := "()Z" } : Jvm.MethodName)) ∈ lw_all := lw_g (lw_at lw_m8 124 rfl) rfl
theorem q1907 : (Jvm.Cond.code ({ cls := "VillageStoriesModel", name := "canTell", desc := "()Z" } : Jvm.MethodName) prog_33_method_67_code (1 : Nat) (Option.some Jvm.ClassFile.FieldType.boolean)) ∈ lw_all := lw_g (lw_at lw_m8 125 rfl) rfl
theorem q1908 : (Jvm.Cond.methodLink "VillageStoriesModel" (186 : Nat) ({ cls := "VillageStoriesModel", name := "numberOfWorld", desc := "()I" } : Jvm.MethodName)) ∈ lw_all := lw_g (lw_at lw_m8 126 rfl) rfl
theorem q1909 : (Jvm.Cond.privateMethod ({ cls := "VillageStoriesModel", name := "numberOfWorld", desc := "()I" } : Jvm.MethodName)) ∈ lw_tbl := lw_at lw_m8 127 rfl
theorem q1910 : (Jvm.Cond.instanceMethod ({ cls := "VillageStoriesModel", name := "numberOfWorld", desc := "()I" } : Jvm.MethodName)) ∈ lw_all := lw_g (lw_at lw_m8 128 rfl) rfl
theorem q1911 : (Jvm.Cond.code ({ cls := "VillageStoriesModel", name := "numberOfWorld", desc := "()I" } : Jvm.MethodName) prog_33_method_65_code (4 : Nat) (Option.some Jvm.ClassFile.FieldType.int)) ∈ lw_all := lw_g (lw_at lw_m8 129 rfl) rfl
theorem q1912 : (Jvm.Cond.methodLink "VillageStoriesModel" (189 : Nat) ({ cls := "VillageStoriesModel", name := "takeOrders", desc := "(I)Z" } : Jvm.MethodName)) ∈ lw_all := lw_g (lw_at lw_m8 130 rfl) rfl
theorem q1913 : (Jvm.Cond.privateMethod ({ cls := "VillageStoriesModel", name := "takeOrders", desc := "(I)Z" } : Jvm.MethodName)) ∈ lw_tbl := lw_at lw_m8 131 rfl
theorem q1914 : (Jvm.Cond.instanceMethod ({ cls := "VillageStoriesModel", name := "takeOrders", desc := "(I)Z" } : Jvm.MethodName)) ∈ lw_all := lw_g (lw_at lw_m8 132 rfl) rfl
theorem q1915 : (Jvm.Cond.code ({ cls := "VillageStoriesModel", name := "takeOrders", desc := "(I)Z" } : Jvm.MethodName) prog_33_method_76_code (2 : Nat) (Option.some Jvm.ClassFile.FieldType.boolean)) ∈ lw_all := lw_g (lw_at lw_m8 133 rfl) rfl
theorem q1916 : (Jvm.Cond.methodLink "VillageStoriesModel" (401 : Nat) ({ cls := "VillageStoriesModel", name := "isOrder", desc := "(II)Z" } : Jvm.MethodName)) ∈ lw_all := lw_g (lw_at lw_m8 134 rfl) rfl
theorem q1917 : (Jvm.Cond.static ({ cls := "VillageStoriesModel", name := "isOrder", desc := "(II)Z" } : Jvm.MethodName)) ∈ lw_all := lw_g (lw_at lw_m8 135 rfl) rfl
theorem q1918 : (Jvm.Cond.code ({ cls := "VillageStoriesModel", name := "isOrder", desc := "(II)Z" } : Jvm.MethodName) prog_33_method_73_code (3 : Nat) (Option.some Jvm.ClassFile.FieldType.boolean)) ∈ lw_all := lw_g (lw_at lw_m8 136 rfl) rfl
theorem q1919 : (Jvm.Cond.methodLink "VillageStoriesModel" (395 : Nat) ({ cls := "VillageStoriesModel", name := "inOrder", desc := "(II)I" } : Jvm.MethodName)) ∈ lw_all := lw_g (lw_at lw_m8 137 rfl) rfl
theorem q1920 : (Jvm.Cond.static ({ cls := "VillageStoriesModel", name := "inOrder", desc := "(II)I" } : Jvm.MethodName)) ∈ lw_all := lw_g (lw_at lw_m8 138 rfl) rfl
theorem q1921 : (Jvm.Cond.code ({ cls := "VillageStoriesModel", name := "inOrder", desc := "(II)I" } : Jvm.MethodName) prog_33_method_72_code (4 : Nat) (Option.some Jvm.ClassFile.FieldType.int)) ∈ lw_all := lw_g (lw_at lw_m8 139 rfl) rfl
theorem q1922 : (Jvm.Cond.methodLink "VillageStoriesModel" (192 : Nat) ({ cls := "VillageStoriesModel", name := "imageOf", desc := "()I" } : Jvm.MethodName)) ∈ lw_all := lw_g (lw_at lw_m8 140 rfl) rfl
theorem q1923 : (Jvm.Cond.privateMethod ({ cls := "VillageStoriesModel", name := "imageOf", desc := "()I" } : Jvm.MethodName)) ∈ lw_tbl := lw_at lw_m8 141 rfl
theorem q1924 : (Jvm.Cond.instanceMethod ({ cls := "VillageStoriesModel", name := "imageOf", desc := "()I" } : Jvm.MethodName)) ∈ lw_all := lw_g (lw_at lw_m8 142 rfl) rfl
theorem q1925 : (Jvm.Cond.code ({ cls := "VillageStoriesModel", name := "imageOf", desc := "()I" } : Jvm.MethodName) prog_33_method_75_code (7 : Nat) (Option.some Jvm.ClassFile.FieldType.int)) ∈ lw_all := lw_g (lw_at lw_m8 143 rfl) rfl
theorem q1926 : (Jvm.Cond.methodLink "VillageStoriesModel" (398 : Nat) ({ cls := "VillageStoriesModel", name := "renamed", desc := "(II)I" } : Jvm.MethodName)) ∈ lw_all := lw_g (lw_at lw_m8 144 rfl) rfl
theorem q1927 : (Jvm.Cond.privateMethod ({ cls := "VillageStoriesModel", name := "renamed", desc := "(II)I" } : Jvm.MethodName)) ∈ lw_tbl := lw_at lw_m8 145 rfl
theorem q1928 : (Jvm.Cond.instanceMethod ({ cls := "VillageStoriesModel", name := "renamed", desc := "(II)I" } : Jvm.MethodName)) ∈ lw_all := lw_g (lw_at lw_m8 146 rfl) rfl
theorem q1929 : (Jvm.Cond.code ({ cls := "VillageStoriesModel", name := "renamed", desc := "(II)I" } : Jvm.MethodName) prog_33_method_74_code (3 : Nat) (Option.some Jvm.ClassFile.FieldType.int)) ∈ lw_all := lw_g (lw_at lw_m8 147 rfl) rfl
theorem q1930 : (Jvm.Cond.methodLink "VillageStoriesModel" (195 : Nat) ({ cls := "VillageStoriesModel", name := "ones", desc := "(I)I" } : Jvm.MethodName)) ∈ lw_all := lw_g (lw_at lw_m8 148 rfl) rfl
theorem q1931 : (Jvm.Cond.static ({ cls := "VillageStoriesModel", name := "ones", desc := "(I)I" } : Jvm.MethodName)) ∈ lw_all := lw_g (lw_at lw_m8 149 rfl) rfl
theorem q1932 : (Jvm.Cond.code ({ cls := "VillageStoriesModel", name := "ones", desc := "(I)I" } : Jvm.MethodName) prog_33_method_24_code (3 : Nat) (Option.some Jvm.ClassFile.FieldType.int)) ∈ lw_all := lw_g (lw_at lw_m8 150 rfl) rfl
theorem q1934 : (Jvm.Cond.instanceMethod ({ cls := "VillageStoriesModel", name := "feed", desc := "(IIIII)I" } : Jvm.MethodName)) ∈ lw_all := lw_g (lw_at lw_m8 152 rfl) rfl
theorem q1935 : (Jvm.Cond.selects "VillageStoriesModel" ({ cls := "VillageStoriesModel", name := "feed", desc := "(IIIII)I" } : Jvm.MethodName) ({ cls := "VillageStoriesModel", name := "feed", desc := "(IIIII)I" } : Jvm.MethodName)) ∈ lw_all := lw_g (lw_at lw_m8 153 rfl) rfl
theorem q1936 : (Jvm.Cond.code ({ cls := "VillageStoriesModel", name := "feed", desc := "(IIIII)I" } : Jvm.MethodName) prog_33_method_25_code (6 : Nat) (Option.some Jvm.ClassFile.FieldType.int)) ∈ lw_all := lw_g (lw_at lw_m8 154 rfl) rfl
theorem q1937 : (Jvm.Cond.methodLink "VillageStoriesModel" (198 : Nat) ({ cls := "VillageStoriesModel", name := "four", desc := "(I)V" } : Jvm.MethodName)) ∈ lw_all := lw_g (lw_at lw_m8 155 rfl) rfl
theorem q1938 : (Jvm.Cond.privateMethod ({ cls := "VillageStoriesModel", name := "four", desc := "(I)V" } : Jvm.MethodName)) ∈ lw_tbl := lw_at lw_m8 156 rfl
theorem q1939 : (Jvm.Cond.instanceMethod ({ cls := "VillageStoriesModel", name := "four", desc := "(I)V" } : Jvm.MethodName)) ∈ lw_all := lw_g (lw_at lw_m8 157 rfl) rfl
theorem q1940 : (Jvm.Cond.code ({ cls := "VillageStoriesModel", name := "four", desc := "(I)V" } : Jvm.MethodName) prog_33_method_26_code (3 : Nat) (Option.none : Option Jvm.ClassFile.FieldType)) ∈ lw_all := lw_g (lw_at lw_m8 158 rfl) rfl
theorem q1942 : (Jvm.Cond.instanceMethod ({ cls := "VillageStoriesModel", name := "end", desc := "(I)I" } : Jvm.MethodName)) ∈ lw_all := lw_g (lw_at lw_m8 160 rfl) rfl
theorem q1943 : (Jvm.Cond.selects "VillageStoriesModel" ({ cls := "VillageStoriesModel", name := "end", desc := "(I)I" } : Jvm.MethodName) ({ cls := "VillageStoriesModel", name := "end", desc := "(I)I" } : Jvm.MethodName)) ∈ lw_all := lw_g (lw_at lw_m8 161 rfl) rfl
theorem q1944 : (Jvm.Cond.code ({ cls := "VillageStoriesModel", name := "end", desc := "(I)I" } : Jvm.MethodName) prog_33_method_27_code (2 : Nat) (Option.some Jvm.ClassFile.FieldType.int)) ∈ lw_all := lw_g (lw_at lw_m8 162 rfl) rfl
theorem q1946 : (Jvm.Cond.instanceMethod ({ cls := "VillageStoriesModel", name := "story", desc := "()I" } : Jvm.MethodName)) ∈ lw_all := lw_g (lw_at lw_m8 164 rfl) rfl
theorem q1947 : (Jvm.Cond.selects "VillageStoriesModel" ({ cls := "VillageStoriesModel", name := "story", desc := "()I" } : Jvm.MethodName) ({ cls := "VillageStoriesModel", name := "story", desc := "()I" } : Jvm.MethodName)) ∈ lw_all := lw_g (lw_at lw_m8 165 rfl) rfl
theorem q1948 : (Jvm.Cond.code ({ cls := "VillageStoriesModel", name := "story", desc := "()I" } : Jvm.MethodName) prog_33_method_46_code (2 : Nat) (Option.some Jvm.ClassFile.FieldType.int)) ∈ lw_all := lw_g (lw_at lw_m8 166 rfl) rfl
theorem q1949 : (Jvm.Cond.methodLink "VillageStoriesModel" (332 : Nat) ({ cls := "VillageStoriesModel", name := "readText", desc := "()Z" } : Jvm.MethodName)) ∈ lw_all := lw_g (lw_at lw_m8 167 rfl) rfl
theorem q1950 : (Jvm.Cond.privateMethod ({ cls := "VillageStoriesModel", name := "readText", desc := "()Z" } : Jvm.MethodName)) ∈ lw_tbl := lw_at lw_m8 168 rfl
theorem q1951 : (Jvm.Cond.instanceMethod ({ cls := "VillageStoriesModel", name := "readText", desc := "()Z" } : Jvm.MethodName)) ∈ lw_all := lw_g (lw_at lw_m8 169 rfl) rfl
theorem q1952 : (Jvm.Cond.code ({ cls := "VillageStoriesModel", name := "readText", desc := "()Z" } : Jvm.MethodName) prog_33_method_44_code (2 : Nat) (Option.some Jvm.ClassFile.FieldType.boolean)) ∈ lw_all := lw_g (lw_at lw_m8 170 rfl) rfl
theorem q1953 : (Jvm.Cond.methodLink "VillageStoriesModel" (304 : Nat) ({ cls := "VillageStoriesModel", name := "wait", desc := "(I)V" } : Jvm.MethodName)) ∈ lw_all := lw_g (lw_at lw_m8 171 rfl) rfl
theorem q1954 : (Jvm.Cond.privateMethod ({ cls := "VillageStoriesModel", name := "wait", desc := "(I)V" } : Jvm.MethodName)) ∈ lw_tbl := lw_at lw_m8 172 rfl
theorem q1955 : (Jvm.Cond.instanceMethod ({ cls := "VillageStoriesModel", name := "wait", desc := "(I)V" } : Jvm.MethodName)) ∈ lw_all := lw_g (lw_at lw_m8 173 rfl) rfl
theorem q1956 : (Jvm.Cond.code ({ cls := "VillageStoriesModel", name := "wait", desc := "(I)V" } : Jvm.MethodName) prog_33_method_39_code (2 : Nat) (Option.none : Option Jvm.ClassFile.FieldType)) ∈ lw_all := lw_g (lw_at lw_m8 174 rfl) rfl
theorem q1957 : (Jvm.Cond.methodLink "VillageStoriesModel" (295 : Nat) ({ cls := "VillageStoriesModel", name := "token", desc := "()V" } : Jvm.MethodName)) ∈ lw_all := lw_g (lw_at lw_m8 175 rfl) rfl
theorem q1958 : (Jvm.Cond.privateMethod ({ cls := "VillageStoriesModel", name := "token", desc := "()V" } : Jvm.MethodName)) ∈ lw_tbl := lw_at lw_m8 176 rfl
theorem q1959 : (Jvm.Cond.instanceMethod ({ cls := "VillageStoriesModel", name := "token", desc := "()V" } : Jvm.MethodName)) ∈ lw_all := lw_g (lw_at lw_m8 177 rfl) rfl
theorem q1960 : (Jvm.Cond.code ({ cls := "VillageStoriesModel", name := "token", desc := "()V" } : Jvm.MethodName) prog_33_method_29_code (3 : Nat) (Option.none : Option Jvm.ClassFile.FieldType)) ∈ lw_all := lw_g (lw_at lw_m8 178 rfl) rfl
theorem q1961 : (Jvm.Cond.methodLink "VillageStoriesModel" (208 : Nat) ({ cls := "VillageStoriesModel", name := "see", desc := "()I" } : Jvm.MethodName)) ∈ lw_all := lw_g (lw_at lw_m8 179 rfl) rfl
theorem q1962 : (Jvm.Cond.privateMethod ({ cls := "VillageStoriesModel", name := "see", desc := "()I" } : Jvm.MethodName)) ∈ lw_tbl := lw_at lw_m8 180 rfl
theorem q1963 : (Jvm.Cond.instanceMethod ({ cls := "VillageStoriesModel", name := "see", desc := "()I" } : Jvm.MethodName)) ∈ lw_all := lw_g (lw_at lw_m8 181 rfl) rfl
theorem q1964 : (Jvm.Cond.code ({ cls := "VillageStoriesModel", name := "see", desc := "()I" } : Jvm.MethodName) prog_33_method_28_code (1 : Nat) (Option.some Jvm.ClassFile.FieldType.int)) ∈ lw_all := lw_g (lw_at lw_m8 182 rfl) rfl
theorem q1965 : (Jvm.Cond.methodLink "VillageStoriesModel" (329 : Nat) ({ cls := "VillageStoriesModel", name := "readPart", desc := "(I)Z" } : Jvm.MethodName)) ∈ lw_all := lw_g (lw_at lw_m8 183 rfl) rfl
theorem q1966 : (Jvm.Cond.privateMethod ({ cls := "VillageStoriesModel", name := "readPart", desc := "(I)Z" } : Jvm.MethodName)) ∈ lw_tbl := lw_at lw_m8 184 rfl
theorem q1967 : (Jvm.Cond.instanceMethod ({ cls := "VillageStoriesModel", name := "readPart", desc := "(I)Z" } : Jvm.MethodName)) ∈ lw_all := lw_g (lw_at lw_m8 185 rfl) rfl
theorem q1968 : (Jvm.Cond.code ({ cls := "VillageStoriesModel", name := "readPart", desc := "(I)Z" } : Jvm.MethodName) prog_33_method_43_code (3 : Nat) (Option.some Jvm.ClassFile.FieldType.boolean)) ∈ lw_all := lw_g (lw_at lw_m8 186 rfl) rfl
theorem q1969 : (Jvm.Cond.methodLink "VillageStoriesModel" (291 : Nat) ({ cls := "VillageStoriesModel", name := "later", desc := "(II)V" } : Jvm.MethodName)) ∈ lw_all := lw_g (lw_at lw_m8 187 rfl) rfl
theorem q1970 : (Jvm.Cond.privateMethod ({ cls := "VillageStoriesModel", name := "later", desc := "(II)V" } : Jvm.MethodName)) ∈ lw_tbl := lw_at lw_m8 188 rfl
theorem q1971 : (Jvm.Cond.instanceMethod ({ cls := "VillageStoriesModel", name := "later", desc := "(II)V" } : Jvm.MethodName)) ∈ lw_all := lw_g (lw_at lw_m8 189 rfl) rfl
theorem q1972 : (Jvm.Cond.code ({ cls := "VillageStoriesModel", name := "later", desc := "(II)V" } : Jvm.MethodName) prog_33_method_36_code (3 : Nat) (Option.none : Option Jvm.ClassFile.FieldType)) ∈ lw_all := lw_g (lw_at lw_m8 190 rfl) rfl
theorem q1973 : (Jvm.Cond.methodLink "VillageStoriesModel" (316 : Nat) ({ cls := "VillageStoriesModel", name := "actOf", desc := "()I" } : Jvm.MethodName)) ∈ lw_all := lw_g (lw_at lw_m8 191 rfl) rfl
theorem q1974 : (Jvm.Cond.privateMethod ({ cls := "VillageStoriesModel", name := "actOf", desc := "()I" } : Jvm.MethodName)) ∈ lw_tbl := lw_at lw_m8 192 rfl
theorem q1975 : (Jvm.Cond.instanceMethod ({ cls := "VillageStoriesModel", name := "actOf", desc := "()I" } : Jvm.MethodName)) ∈ lw_all := lw_g (lw_at lw_m8 193 rfl) rfl
theorem q1976 : (Jvm.Cond.code ({ cls := "VillageStoriesModel", name := "actOf", desc := "()I" } : Jvm.MethodName) prog_33_method_31_code (1 : Nat) (Option.some Jvm.ClassFile.FieldType.int)) ∈ lw_all := lw_g (lw_at lw_m8 194 rfl) rfl
theorem q1977 : (Jvm.Cond.constantLong "VillageStoriesModel" (224 : Nat) (6384748 : Int64)) ∈ lw_all := lw_g (lw_at lw_m8 195 rfl) rfl
theorem q1978 : (Jvm.Cond.methodLink "VillageStoriesModel" (226 : Nat) ({ cls := "VillageStoriesModel", name := "isWord", desc := "(J)Z" } : Jvm.MethodName)) ∈ lw_all := lw_g (lw_at lw_m8 196 rfl) rfl
theorem q1979 : (Jvm.Cond.privateMethod ({ cls := "VillageStoriesModel", name := "isWord", desc := "(J)Z" } : Jvm.MethodName)) ∈ lw_tbl := lw_at lw_m8 197 rfl
theorem q1980 : (Jvm.Cond.instanceMethod ({ cls := "VillageStoriesModel", name := "isWord", desc := "(J)Z" } : Jvm.MethodName)) ∈ lw_all := lw_g (lw_at lw_m8 198 rfl) rfl
theorem q1981 : (Jvm.Cond.code ({ cls := "VillageStoriesModel", name := "isWord", desc := "(J)Z" } : Jvm.MethodName) prog_33_method_30_code (3 : Nat) (Option.some Jvm.ClassFile.FieldType.boolean)) ∈ lw_all := lw_g (lw_at lw_m8 199 rfl) rfl
theorem q1982 : (Jvm.Cond.constantLong "VillageStoriesModel" (230 : Nat) (1936682341 : Int64)) ∈ lw_all := lw_g (lw_at lw_m8 200 rfl) rfl
theorem q1983 : (Jvm.Cond.constantLong "VillageStoriesModel" (232 : Nat) (465557353332 : Int64)) ∈ lw_all := lw_g (lw_at lw_m8 201 rfl) rfl
theorem q1984 : (Jvm.Cond.constantLong "VillageStoriesModel" (234 : Nat) (1836020596 : Int64)) ∈ lw_all := lw_g (lw_at lw_m8 202 rfl) rfl
theorem q1985 : (Jvm.Cond.constantLong "VillageStoriesModel" (236 : Nat) (7237492 : Int64)) ∈ lw_all := lw_g (lw_at lw_m8 203 rfl) rfl
theorem q1986 : (Jvm.Cond.constantLong "VillageStoriesModel" (238 : Nat) (6385252 : Int64)) ∈ lw_all := lw_g (lw_at lw_m8 204 rfl) rfl
theorem q1987 : (Jvm.Cond.constantLong "VillageStoriesModel" (240 : Nat) (28530 : Int64)) ∈ lw_all := lw_g (lw_at lw_m8 205 rfl) rfl
theorem q1988 : (Jvm.Cond.constantLong "VillageStoriesModel" (242 : Nat) (26982 : Int64)) ∈ lw_all := lw_g (lw_at lw_m8 206 rfl) rfl
theorem q1989 : (Jvm.Cond.constantLong "VillageStoriesModel" (244 : Nat) (1935764837 : Int64)) ∈ lw_all := lw_g (lw_at lw_m8 207 rfl) rfl
theorem q1990 : (Jvm.Cond.constantLong "VillageStoriesModel" (246 : Nat) (491327153000 : Int64)) ∈ lw_all := lw_g (lw_at lw_m8 208 rfl) rfl
theorem q1991 : (Jvm.Cond.constantLong "VillageStoriesModel" (248 : Nat) (1953654117 : Int64)) ∈ lw_all := lw_g (lw_at lw_m8 209 rfl) rfl
theorem q1992 : (Jvm.Cond.methodLink "VillageStoriesModel" (319 : Nat) ({ cls := "VillageStoriesModel", name := "readRelation", desc := "(II)Z" } : Jvm.MethodName)) ∈ lw_all := lw_g (lw_at lw_m8 210 rfl) rfl
theorem q1993 : (Jvm.Cond.privateMethod ({ cls := "VillageStoriesModel", name := "readRelation", desc := "(II)Z" } : Jvm.MethodName)) ∈ lw_tbl := lw_at lw_m8 211 rfl
theorem q1994 : (Jvm.Cond.instanceMethod ({ cls := "VillageStoriesModel", name := "readRelation", desc := "(II)Z" } : Jvm.MethodName)) ∈ lw_all := lw_g (lw_at lw_m8 212 rfl) rfl
theorem q1995 : (Jvm.Cond.code ({ cls := "VillageStoriesModel", name := "readRelation", desc := "(II)Z" } : Jvm.MethodName) prog_33_method_42_code (6 : Nat) (Option.some Jvm.ClassFile.FieldType.boolean)) ∈ lw_all := lw_g (lw_at lw_m8 213 rfl) rfl
theorem q1996 : (Jvm.Cond.methodLink "VillageStoriesModel" (310 : Nat) ({ cls := "VillageStoriesModel", name := "relOf", desc := "()I" } : Jvm.MethodName)) ∈ lw_all := lw_g (lw_at lw_m8 214 rfl) rfl
theorem q1997 : (Jvm.Cond.privateMethod ({ cls := "VillageStoriesModel", name := "relOf", desc := "()I" } : Jvm.MethodName)) ∈ lw_tbl := lw_at lw_m8 215 rfl
theorem q1998 : (Jvm.Cond.instanceMethod ({ cls := "VillageStoriesModel", name := "relOf", desc := "()I" } : Jvm.MethodName)) ∈ lw_all := lw_g (lw_at lw_m8 216 rfl) rfl
theorem q1999 : (Jvm.Cond.code ({ cls := "VillageStoriesModel", name := "relOf", desc := "()I" } : Jvm.MethodName) prog_33_method_34_code (2 : Nat) (Option.some Jvm.ClassFile.FieldType.int)) ∈ lw_all := lw_g (lw_at lw_m8 217 rfl) rfl
theorem q2000 : (Jvm.Cond.constantLong "VillageStoriesModel" (264 : Nat) (114 : Int64)) ∈ lw_all := lw_g (lw_at lw_m8 218 rfl) rfl
theorem q2001 : (Jvm.Cond.constantLong "VillageStoriesModel" (266 : Nat) (115 : Int64)) ∈ lw_all := lw_g (lw_at lw_m8 219 rfl) rfl
theorem q2002 : (Jvm.Cond.constantLong "VillageStoriesModel" (268 : Nat) (116 : Int64)) ∈ lw_all := lw_g (lw_at lw_m8 220 rfl) rfl
theorem q2003 : (Jvm.Cond.constantLong "VillageStoriesModel" (270 : Nat) (117 : Int64)) ∈ lw_all := lw_g (lw_at lw_m8 221 rfl) rfl
theorem q2004 : (Jvm.Cond.methodLink "VillageStoriesModel" (307 : Nat) ({ cls := "VillageStoriesModel", name := "readVar", desc := "(II)I" } : Jvm.MethodName)) ∈ lw_all := lw_g (lw_at lw_m8 222 rfl) rfl
theorem q2005 : (Jvm.Cond.privateMethod ({ cls := "VillageStoriesModel", name := "readVar", desc := "(II)I" } : Jvm.MethodName)) ∈ lw_tbl := lw_at lw_m8 223 rfl
theorem q2006 : (Jvm.Cond.instanceMethod ({ cls := "VillageStoriesModel", name := "readVar", desc := "(II)I" } : Jvm.MethodName)) ∈ lw_all := lw_g (lw_at lw_m8 224 rfl) rfl
theorem q2007 : (Jvm.Cond.code ({ cls := "VillageStoriesModel", name := "readVar", desc := "(II)I" } : Jvm.MethodName) prog_33_method_38_code (4 : Nat) (Option.some Jvm.ClassFile.FieldType.int)) ∈ lw_all := lw_g (lw_at lw_m8 225 rfl) rfl
theorem q2008 : (Jvm.Cond.methodLink "VillageStoriesModel" (281 : Nat) ({ cls := "VillageStoriesModel", name := "varOf", desc := "()I" } : Jvm.MethodName)) ∈ lw_all := lw_g (lw_at lw_m8 226 rfl) rfl
theorem q2009 : (Jvm.Cond.privateMethod ({ cls := "VillageStoriesModel", name := "varOf", desc := "()I" } : Jvm.MethodName)) ∈ lw_tbl := lw_at lw_m8 227 rfl
theorem q2010 : (Jvm.Cond.instanceMethod ({ cls := "VillageStoriesModel", name := "varOf", desc := "()I" } : Jvm.MethodName)) ∈ lw_all := lw_g (lw_at lw_m8 228 rfl) rfl
theorem q2011 : (Jvm.Cond.code ({ cls := "VillageStoriesModel", name := "varOf", desc := "()I" } : Jvm.MethodName) prog_33_method_32_code (1 : Nat) (Option.some Jvm.ClassFile.FieldType.int)) ∈ lw_all := lw_g (lw_at lw_m8 229 rfl) rfl
theorem q2012 : (Jvm.Cond.constantLong "VillageStoriesModel" (250 : Nat) (120 : Int64)) ∈ lw_all := lw_g (lw_at lw_m8 230 rfl) rfl
theorem q2013 : (Jvm.Cond.constantLong "VillageStoriesModel" (252 : Nat) (121 : Int64)) ∈ lw_all := lw_g (lw_at lw_m8 231 rfl) rfl
theorem q2014 : (Jvm.Cond.constantLong "VillageStoriesModel" (254 : Nat) (122 : Int64)) ∈ lw_all := lw_g (lw_at lw_m8 232 rfl) rfl
theorem q2015 : (Jvm.Cond.constantLong "VillageStoriesModel" (256 : Nat) (119 : Int64)) ∈ lw_all := lw_g (lw_at lw_m8 233 rfl) rfl
theorem q2016 : (Jvm.Cond.methodLink "VillageStoriesModel" (284 : Nat) ({ cls := "VillageStoriesModel", name := "wrong", desc := "()I" } : Jvm.MethodName)) ∈ lw_all := lw_g (lw_at lw_m8 234 rfl) rfl
theorem q2017 : (Jvm.Cond.privateMethod ({ cls := "VillageStoriesModel", name := "wrong", desc := "()I" } : Jvm.MethodName)) ∈ lw_tbl := lw_at lw_m8 235 rfl
theorem q2018 : (Jvm.Cond.instanceMethod ({ cls := "VillageStoriesModel", name := "wrong", desc := "()I" } : Jvm.MethodName)) ∈ lw_all := lw_g (lw_at lw_m8 236 rfl) rfl
theorem q2019 : (Jvm.Cond.code ({ cls := "VillageStoriesModel", name := "wrong", desc := "()I" } : Jvm.MethodName) prog_33_method_35_code (1 : Nat) (Option.some Jvm.ClassFile.FieldType.int)) ∈ lw_all := lw_g (lw_at lw_m8 237 rfl) rfl
theorem q2020 : (Jvm.Cond.methodLink "VillageStoriesModel" (287 : Nat) ({ cls := "VillageStoriesModel", name := "bound", desc := "(II)I" } : Jvm.MethodName)) ∈ lw_all := lw_g (lw_at lw_m8 238 rfl) rfl
theorem q2021 : (Jvm.Cond.static ({ cls := "VillageStoriesModel", name := "bound", desc := "(II)I" } : Jvm.MethodName)) ∈ lw_all := lw_g (lw_at lw_m8 239 rfl) rfl
theorem q2022 : (Jvm.Cond.code ({ cls := "VillageStoriesModel", name := "bound", desc := "(II)I" } : Jvm.MethodName) prog_33_method_37_code (3 : Nat) (Option.some Jvm.ClassFile.FieldType.int)) ∈ lw_all := lw_g (lw_at lw_m9 0 rfl) rfl
theorem q2023 : (Jvm.Cond.methodLink "VillageStoriesModel" (323 : Nat) ({ cls := "VillageStoriesModel", name := "readBinder", desc := "(II)Z" } : Jvm.MethodName)) ∈ lw_all := lw_g (lw_at lw_m9 1 rfl) rfl
theorem q2024 : (Jvm.Cond.privateMethod ({ cls := "VillageStoriesModel", name := "readBinder", desc := "(II)Z" } : Jvm.MethodName)) ∈ lw_tbl := lw_at lw_m9 2 rfl
theorem q2025 : (Jvm.Cond.instanceMethod ({ cls := "VillageStoriesModel", name := "readBinder", desc := "(II)Z" } : Jvm.MethodName)) ∈ lw_all := lw_g (lw_at lw_m9 3 rfl) rfl
theorem q2026 : (Jvm.Cond.code ({ cls := "VillageStoriesModel", name := "readBinder", desc := "(II)Z" } : Jvm.MethodName) prog_33_method_40_code (5 : Nat) (Option.some Jvm.ClassFile.FieldType.boolean)) ∈ lw_all := lw_g (lw_at lw_m9 4 rfl) rfl
theorem q2027 : (Jvm.Cond.methodLink "VillageStoriesModel" (301 : Nat) ({ cls := "VillageStoriesModel", name := "kindOf", desc := "()I" } : Jvm.MethodName)) ∈ lw_all := lw_g (lw_at lw_m9 5 rfl) rfl
theorem q2028 : (Jvm.Cond.privateMethod ({ cls := "VillageStoriesModel", name := "kindOf", desc := "()I" } : Jvm.MethodName)) ∈ lw_tbl := lw_at lw_m9 6 rfl
theorem q2029 : (Jvm.Cond.instanceMethod ({ cls := "VillageStoriesModel", name := "kindOf", desc := "()I" } : Jvm.MethodName)) ∈ lw_all := lw_g (lw_at lw_m9 7 rfl) rfl
theorem q2030 : (Jvm.Cond.code ({ cls := "VillageStoriesModel", name := "kindOf", desc := "()I" } : Jvm.MethodName) prog_33_method_33_code (1 : Nat) (Option.some Jvm.ClassFile.FieldType.int)) ∈ lw_all := lw_g (lw_at lw_m9 8 rfl) rfl
theorem q2031 : (Jvm.Cond.constantLong "VillageStoriesModel" (258 : Nat) (7168366 : Int64)) ∈ lw_all := lw_g (lw_at lw_m9 9 rfl) rfl
theorem q2032 : (Jvm.Cond.constantLong "VillageStoriesModel" (260 : Nat) (448546567013 : Int64)) ∈ lw_all := lw_g (lw_at lw_m9 10 rfl) rfl
theorem q2033 : (Jvm.Cond.constantLong "VillageStoriesModel" (262 : Nat) (6578553 : Int64)) ∈ lw_all := lw_g (lw_at lw_m9 11 rfl) rfl
theorem q2034 : (Jvm.Cond.methodLink "VillageStoriesModel" (326 : Nat) ({ cls := "VillageStoriesModel", name := "readSame", desc := "(II)Z" } : Jvm.MethodName)) ∈ lw_all := lw_g (lw_at lw_m9 12 rfl) rfl
theorem q2035 : (Jvm.Cond.privateMethod ({ cls := "VillageStoriesModel", name := "readSame", desc := "(II)Z" } : Jvm.MethodName)) ∈ lw_tbl := lw_at lw_m9 13 rfl
theorem q2036 : (Jvm.Cond.instanceMethod ({ cls := "VillageStoriesModel", name := "readSame", desc := "(II)Z" } : Jvm.MethodName)) ∈ lw_all := lw_g (lw_at lw_m9 14 rfl) rfl
theorem q2037 : (Jvm.Cond.code ({ cls := "VillageStoriesModel", name := "readSame", desc := "(II)Z" } : Jvm.MethodName) prog_33_method_41_code (3 : Nat) (Option.some Jvm.ClassFile.FieldType.boolean)) ∈ lw_all := lw_g (lw_at lw_m9 15 rfl) rfl
theorem q2038 : (Jvm.Cond.methodLink "VillageStoriesModel" (335 : Nat) ({ cls := "VillageStoriesModel", name := "keepText", desc := "(I)V" } : Jvm.MethodName)) ∈ lw_all := lw_g (lw_at lw_m9 16 rfl) rfl
theorem q2039 : (Jvm.Cond.privateMethod ({ cls := "VillageStoriesModel", name := "keepText", desc := "(I)V" } : Jvm.MethodName)) ∈ lw_tbl := lw_at lw_m9 17 rfl
theorem q2040 : (Jvm.Cond.instanceMethod ({ cls := "VillageStoriesModel", name := "keepText", desc := "(I)V" } : Jvm.MethodName)) ∈ lw_all := lw_g (lw_at lw_m9 18 rfl) rfl
theorem q2041 : (Jvm.Cond.code ({ cls := "VillageStoriesModel", name := "keepText", desc := "(I)V" } : Jvm.MethodName) prog_33_method_45_code (3 : Nat) (Option.none : Option Jvm.ClassFile.FieldType)) ∈ lw_all := lw_g (lw_at lw_m9 19 rfl) rfl
theorem q2043 : (Jvm.Cond.instanceMethod ({ cls := "VillageStoriesModel", name := "guess", desc := "()I" } : Jvm.MethodName)) ∈ lw_all := lw_g (lw_at lw_m9 21 rfl) rfl
theorem q2044 : (Jvm.Cond.selects "VillageStoriesModel" ({ cls := "VillageStoriesModel", name := "guess", desc := "()I" } : Jvm.MethodName) ({ cls := "VillageStoriesModel", name := "guess", desc := "()I" } : Jvm.MethodName)) ∈ lw_all := lw_g (lw_at lw_m9 22 rfl) rfl
theorem q2045 : (Jvm.Cond.code ({ cls := "VillageStoriesModel", name := "guess", desc := "()I" } : Jvm.MethodName) prog_33_method_47_code (1 : Nat) (Option.some Jvm.ClassFile.FieldType.int)) ∈ lw_all := lw_g (lw_at lw_m9 23 rfl) rfl
theorem q2047 : (Jvm.Cond.instanceMethod ({ cls := "VillageStoriesModel", name := "fault", desc := "(I)I" } : Jvm.MethodName)) ∈ lw_all := lw_g (lw_at lw_m9 25 rfl) rfl
theorem q2048 : (Jvm.Cond.selects "VillageStoriesModel" ({ cls := "VillageStoriesModel", name := "fault", desc := "(I)I" } : Jvm.MethodName) ({ cls := "VillageStoriesModel", name := "fault", desc := "(I)I" } : Jvm.MethodName)) ∈ lw_all := lw_g (lw_at lw_m9 26 rfl) rfl
theorem q2049 : (Jvm.Cond.code ({ cls := "VillageStoriesModel", name := "fault", desc := "(I)I" } : Jvm.MethodName) prog_33_method_48_code (2 : Nat) (Option.some Jvm.ClassFile.FieldType.int)) ∈ lw_all := lw_g (lw_at lw_m9 27 rfl) rfl
theorem q2051 : (Jvm.Cond.instanceMethod ({ cls := "VillageStoriesModel", name := "strike", desc := "(I)Z" } : Jvm.MethodName)) ∈ lw_all := lw_g (lw_at lw_m9 29 rfl) rfl
theorem q2052 : (Jvm.Cond.selects "VillageStoriesModel" ({ cls := "VillageStoriesModel", name := "strike", desc := "(I)Z" } : Jvm.MethodName) ({ cls := "VillageStoriesModel", name := "strike", desc := "(I)Z" } : Jvm.MethodName)) ∈ lw_all := lw_g (lw_at lw_m9 30 rfl) rfl
theorem q2053 : (Jvm.Cond.code ({ cls := "VillageStoriesModel", name := "strike", desc := "(I)Z" } : Jvm.MethodName) prog_33_method_49_code (2 : Nat) (Option.some Jvm.ClassFile.FieldType.boolean)) ∈ lw_all := lw_g (lw_at lw_m9 31 rfl) rfl
theorem q2055 : (Jvm.Cond.instanceMethod ({ cls := "VillageStoriesModel", name := "day", desc := "(I)Z" } : Jvm.MethodName)) ∈ lw_all := lw_g (lw_at lw_m9 33 rfl) rfl
theorem q2056 : (Jvm.Cond.selects "VillageStoriesModel" ({ cls := "VillageStoriesModel", name := "day", desc := "(I)Z" } : Jvm.MethodName) ({ cls := "VillageStoriesModel", name := "day", desc := "(I)Z" } : Jvm.MethodName)) ∈ lw_all := lw_g (lw_at lw_m9 34 rfl) rfl
theorem q2057 : (Jvm.Cond.code ({ cls := "VillageStoriesModel", name := "day", desc := "(I)Z" } : Jvm.MethodName) prog_33_method_50_code (2 : Nat) (Option.some Jvm.ClassFile.FieldType.boolean)) ∈ lw_all := lw_g (lw_at lw_m9 35 rfl) rfl
theorem q2059 : (Jvm.Cond.instanceMethod ({ cls := "VillageStoriesModel", name := "view", desc := "(I)Z" } : Jvm.MethodName)) ∈ lw_all := lw_g (lw_at lw_m9 37 rfl) rfl
theorem q2060 : (Jvm.Cond.selects "VillageStoriesModel" ({ cls := "VillageStoriesModel", name := "view", desc := "(I)Z" } : Jvm.MethodName) ({ cls := "VillageStoriesModel", name := "view", desc := "(I)Z" } : Jvm.MethodName)) ∈ lw_all := lw_g (lw_at lw_m9 38 rfl) rfl
theorem q2061 : (Jvm.Cond.code ({ cls := "VillageStoriesModel", name := "view", desc := "(I)Z" } : Jvm.MethodName) prog_33_method_51_code (2 : Nat) (Option.some Jvm.ClassFile.FieldType.boolean)) ∈ lw_all := lw_g (lw_at lw_m9 39 rfl) rfl
theorem q2063 : (Jvm.Cond.instanceMethod ({ cls := "VillageStoriesModel", name := "so", desc := "(I)I" } : Jvm.MethodName)) ∈ lw_all := lw_g (lw_at lw_m9 41 rfl) rfl
theorem q2064 : (Jvm.Cond.selects "VillageStoriesModel" ({ cls := "VillageStoriesModel", name := "so", desc := "(I)I" } : Jvm.MethodName) ({ cls := "VillageStoriesModel", name := "so", desc := "(I)I" } : Jvm.MethodName)) ∈ lw_all := lw_g (lw_at lw_m9 42 rfl) rfl
theorem q2065 : (Jvm.Cond.code ({ cls := "VillageStoriesModel", name := "so", desc := "(I)I" } : Jvm.MethodName) prog_33_method_62_code (3 : Nat) (Option.some Jvm.ClassFile.FieldType.int)) ∈ lw_all := lw_g (lw_at lw_m9 43 rfl) rfl
theorem q2066 : (Jvm.Cond.methodLink "VillageStoriesModel" (368 : Nat) ({ cls := "VillageStoriesModel", name := "bringWorld", desc := "()V" } : Jvm.MethodName)) ∈ lw_all := lw_g (lw_at lw_m9 44 rfl) rfl
theorem q2067 : (Jvm.Cond.privateMethod ({ cls := "VillageStoriesModel", name := "bringWorld", desc := "()V" } : Jvm.MethodName)) ∈ lw_tbl := lw_at lw_m9 45 rfl
theorem q2068 : (Jvm.Cond.instanceMethod ({ cls := "VillageStoriesModel", name := "bringWorld", desc := "()V" } : Jvm.MethodName)) ∈ lw_all := lw_g (lw_at lw_m9 46 rfl) rfl
theorem q2069 : (Jvm.Cond.code ({ cls := "VillageStoriesModel", name := "bringWorld", desc := "()V" } : Jvm.MethodName) prog_33_method_9_code (2 : Nat) (Option.none : Option Jvm.ClassFile.FieldType)) ∈ lw_all := lw_g (lw_at lw_m9 47 rfl) rfl
theorem q2070 : (Jvm.Cond.methodLink "VillageStoriesModel" (371 : Nat) ({ cls := "VillageStoriesModel", name := "means", desc := "(I)Z" } : Jvm.MethodName)) ∈ lw_all := lw_g (lw_at lw_m9 48 rfl) rfl
theorem q2071 : (Jvm.Cond.privateMethod ({ cls := "VillageStoriesModel", name := "means", desc := "(I)Z" } : Jvm.MethodName)) ∈ lw_tbl := lw_at lw_m9 49 rfl
theorem q2072 : (Jvm.Cond.instanceMethod ({ cls := "VillageStoriesModel", name := "means", desc := "(I)Z" } : Jvm.MethodName)) ∈ lw_all := lw_g (lw_at lw_m9 50 rfl) rfl
theorem q2073 : (Jvm.Cond.code ({ cls := "VillageStoriesModel", name := "means", desc := "(I)Z" } : Jvm.MethodName) prog_33_method_61_code (2 : Nat) (Option.some Jvm.ClassFile.FieldType.boolean)) ∈ lw_all := lw_g (lw_at lw_m9 51 rfl) rfl
theorem q2074 : (Jvm.Cond.methodLink "VillageStoriesModel" (365 : Nat) ({ cls := "VillageStoriesModel", name := "work", desc := "(II)V" } : Jvm.MethodName)) ∈ lw_all := lw_g (lw_at lw_m9 52 rfl) rfl
theorem q2075 : (Jvm.Cond.privateMethod ({ cls := "VillageStoriesModel", name := "work", desc := "(II)V" } : Jvm.MethodName)) ∈ lw_tbl := lw_at lw_m9 53 rfl
theorem q2076 : (Jvm.Cond.instanceMethod ({ cls := "VillageStoriesModel", name := "work", desc := "(II)V" } : Jvm.MethodName)) ∈ lw_all := lw_g (lw_at lw_m9 54 rfl) rfl
theorem q2077 : (Jvm.Cond.code ({ cls := "VillageStoriesModel", name := "work", desc := "(II)V" } : Jvm.MethodName) prog_33_method_60_code (5 : Nat) (Option.none : Option Jvm.ClassFile.FieldType)) ∈ lw_all := lw_g (lw_at lw_m9 55 rfl) rfl
theorem q2078 : (Jvm.Cond.methodLink "VillageStoriesModel" (356 : Nat) ({ cls := "VillageStoriesModel", name := "leaf", desc := "(I)V" } : Jvm.MethodName)) ∈ lw_all := lw_g (lw_at lw_m9 56 rfl) rfl
theorem q2079 : (Jvm.Cond.privateMethod ({ cls := "VillageStoriesModel", name := "leaf", desc := "(I)V" } : Jvm.MethodName)) ∈ lw_tbl := lw_at lw_m9 57 rfl
theorem q2080 : (Jvm.Cond.instanceMethod ({ cls := "VillageStoriesModel", name := "leaf", desc := "(I)V" } : Jvm.MethodName)) ∈ lw_all := lw_g (lw_at lw_m9 58 rfl) rfl
theorem q2081 : (Jvm.Cond.code ({ cls := "VillageStoriesModel", name := "leaf", desc := "(I)V" } : Jvm.MethodName) prog_33_method_57_code (6 : Nat) (Option.none : Option Jvm.ClassFile.FieldType)) ∈ lw_all := lw_g (lw_at lw_m9 59 rfl) rfl
theorem q2082 : (Jvm.Cond.methodLink "VillageStoriesModel" (347 : Nat) ({ cls := "VillageStoriesModel", name := "isTree", desc := "(I)Z" } : Jvm.MethodName)) ∈ lw_all := lw_g (lw_at lw_m9 60 rfl) rfl
theorem q2083 : (Jvm.Cond.privateMethod ({ cls := "VillageStoriesModel", name := "isTree", desc := "(I)Z" } : Jvm.MethodName)) ∈ lw_tbl := lw_at lw_m9 61 rfl
theorem q2084 : (Jvm.Cond.instanceMethod ({ cls := "VillageStoriesModel", name := "isTree", desc := "(I)Z" } : Jvm.MethodName)) ∈ lw_all := lw_g (lw_at lw_m9 62 rfl) rfl
theorem q2085 : (Jvm.Cond.code ({ cls := "VillageStoriesModel", name := "isTree", desc := "(I)Z" } : Jvm.MethodName) prog_33_method_56_code (6 : Nat) (Option.some Jvm.ClassFile.FieldType.boolean)) ∈ lw_all := lw_g (lw_at lw_m9 63 rfl) rfl
theorem q2086 : (Jvm.Cond.methodLink "VillageStoriesModel" (344 : Nat) ({ cls := "VillageStoriesModel", name := "findJoined", desc := "(I)V" } : Jvm.MethodName)) ∈ lw_all := lw_g (lw_at lw_m9 64 rfl) rfl
theorem q2087 : (Jvm.Cond.privateMethod ({ cls := "VillageStoriesModel", name := "findJoined", desc := "(I)V" } : Jvm.MethodName)) ∈ lw_tbl := lw_at lw_m9 65 rfl
theorem q2088 : (Jvm.Cond.instanceMethod ({ cls := "VillageStoriesModel", name := "findJoined", desc := "(I)V" } : Jvm.MethodName)) ∈ lw_all := lw_g (lw_at lw_m9 66 rfl) rfl
theorem q2089 : (Jvm.Cond.code ({ cls := "VillageStoriesModel", name := "findJoined", desc := "(I)V" } : Jvm.MethodName) prog_33_method_55_code (4 : Nat) (Option.none : Option Jvm.ClassFile.FieldType)) ∈ lw_all := lw_g (lw_at lw_m9 67 rfl) rfl
theorem q2090 : (Jvm.Cond.methodLink "VillageStoriesModel" (341 : Nat) ({ cls := "VillageStoriesModel", name := "isSo", desc := "(III)Z" } : Jvm.MethodName)) ∈ lw_all := lw_g (lw_at lw_m9 68 rfl) rfl
theorem q2091 : (Jvm.Cond.privateMethod ({ cls := "VillageStoriesModel", name := "isSo", desc := "(III)Z" } : Jvm.MethodName)) ∈ lw_tbl := lw_at lw_m9 69 rfl
theorem q2092 : (Jvm.Cond.instanceMethod ({ cls := "VillageStoriesModel", name := "isSo", desc := "(III)Z" } : Jvm.MethodName)) ∈ lw_all := lw_g (lw_at lw_m9 70 rfl) rfl
theorem q2093 : (Jvm.Cond.code ({ cls := "VillageStoriesModel", name := "isSo", desc := "(III)Z" } : Jvm.MethodName) prog_33_method_12_code (5 : Nat) (Option.some Jvm.ClassFile.FieldType.boolean)) ∈ lw_all := lw_g (lw_at lw_m9 71 rfl) rfl
theorem q2094 : (Jvm.Cond.methodLink "VillageStoriesModel" (350 : Nat) ({ cls := "VillageStoriesModel", name := "valueIn", desc := "(II)I" } : Jvm.MethodName)) ∈ lw_all := lw_g (lw_at lw_m9 72 rfl) rfl
theorem q2095 : (Jvm.Cond.static ({ cls := "VillageStoriesModel", name := "valueIn", desc := "(II)I" } : Jvm.MethodName)) ∈ lw_all := lw_g (lw_at lw_m9 73 rfl) rfl
theorem q2096 : (Jvm.Cond.code ({ cls := "VillageStoriesModel", name := "valueIn", desc := "(II)I" } : Jvm.MethodName) prog_33_method_54_code (2 : Nat) (Option.some Jvm.ClassFile.FieldType.int)) ∈ lw_all := lw_g (lw_at lw_m9 74 rfl) rfl
theorem q2097 : (Jvm.Cond.methodLink "VillageStoriesModel" (338 : Nat) ({ cls := "VillageStoriesModel", name := "unit", desc := "(I)I" } : Jvm.MethodName)) ∈ lw_all := lw_g (lw_at lw_m9 75 rfl) rfl
theorem q2098 : (Jvm.Cond.static ({ cls := "VillageStoriesModel", name := "unit", desc := "(I)I" } : Jvm.MethodName)) ∈ lw_all := lw_g (lw_at lw_m9 76 rfl) rfl
theorem q2099 : (Jvm.Cond.code ({ cls := "VillageStoriesModel", name := "unit", desc := "(I)I" } : Jvm.MethodName) prog_33_method_53_code (1 : Nat) (Option.some Jvm.ClassFile.FieldType.int)) ∈ lw_all := lw_g (lw_at lw_m9 77 rfl) rfl
theorem q2100 : (Jvm.Cond.methodLink "VillageStoriesModel" (359 : Nat) ({ cls := "VillageStoriesModel", name := "bind", desc := "(I)V" } : Jvm.MethodName)) ∈ lw_all := lw_g (lw_at lw_m9 78 rfl) rfl
theorem q2101 : (Jvm.Cond.privateMethod ({ cls := "VillageStoriesModel", name := "bind", desc := "(I)V" } : Jvm.MethodName)) ∈ lw_tbl := lw_at lw_m9 79 rfl
theorem q2102 : (Jvm.Cond.instanceMethod ({ cls := "VillageStoriesModel", name := "bind", desc := "(I)V" } : Jvm.MethodName)) ∈ lw_all := lw_g (lw_at lw_m9 80 rfl) rfl
theorem q2103 : (Jvm.Cond.code ({ cls := "VillageStoriesModel", name := "bind", desc := "(I)V" } : Jvm.MethodName) prog_33_method_58_code (9 : Nat) (Option.none : Option Jvm.ClassFile.FieldType)) ∈ lw_all := lw_g (lw_at lw_m9 81 rfl) rfl
theorem q2104 : (Jvm.Cond.methodLink "VillageStoriesModel" (362 : Nat) ({ cls := "VillageStoriesModel", name := "join", desc := "(I)V" } : Jvm.MethodName)) ∈ lw_all := lw_g (lw_at lw_m9 82 rfl) rfl
theorem q2105 : (Jvm.Cond.privateMethod ({ cls := "VillageStoriesModel", name := "join", desc := "(I)V" } : Jvm.MethodName)) ∈ lw_tbl := lw_at lw_m9 83 rfl
theorem q2106 : (Jvm.Cond.instanceMethod ({ cls := "VillageStoriesModel", name := "join", desc := "(I)V" } : Jvm.MethodName)) ∈ lw_all := lw_g (lw_at lw_m9 84 rfl) rfl
theorem q2107 : (Jvm.Cond.code ({ cls := "VillageStoriesModel", name := "join", desc := "(I)V" } : Jvm.MethodName) prog_33_method_59_code (7 : Nat) (Option.none : Option Jvm.ClassFile.FieldType)) ∈ lw_all := lw_g (lw_at lw_m9 85 rfl) rfl
theorem q2109 : (Jvm.Cond.instanceMethod ({ cls := "VillageStoriesModel", name := "breaks", desc := "(II)I" } : Jvm.MethodName)) ∈ lw_all := lw_g (lw_at lw_m9 87 rfl) rfl
theorem q2110 : (Jvm.Cond.selects "VillageStoriesModel" ({ cls := "VillageStoriesModel", name := "breaks", desc := "(II)I" } : Jvm.MethodName) ({ cls := "VillageStoriesModel", name := "breaks", desc := "(II)I" } : Jvm.MethodName)) ∈ lw_all := lw_g (lw_at lw_m9 88 rfl) rfl
theorem q2111 : (Jvm.Cond.code ({ cls := "VillageStoriesModel", name := "breaks", desc := "(II)I" } : Jvm.MethodName) prog_33_method_63_code (14 : Nat) (Option.some Jvm.ClassFile.FieldType.int)) ∈ lw_all := lw_g (lw_at lw_m9 89 rfl) rfl
theorem q2113 : (Jvm.Cond.instanceMethod ({ cls := "VillageStoriesModel", name := "worlds", desc := "()I" } : Jvm.MethodName)) ∈ lw_all := lw_g (lw_at lw_m9 91 rfl) rfl
theorem q2114 : (Jvm.Cond.selects "VillageStoriesModel" ({ cls := "VillageStoriesModel", name := "worlds", desc := "()I" } : Jvm.MethodName) ({ cls := "VillageStoriesModel", name := "worlds", desc := "()I" } : Jvm.MethodName)) ∈ lw_all := lw_g (lw_at lw_m9 92 rfl) rfl
theorem q2115 : (Jvm.Cond.code ({ cls := "VillageStoriesModel", name := "worlds", desc := "()I" } : Jvm.MethodName) prog_33_method_79_code (3 : Nat) (Option.some Jvm.ClassFile.FieldType.int)) ∈ lw_all := lw_g (lw_at lw_m9 93 rfl) rfl
theorem q2116 : (Jvm.Cond.methodLink "VillageStoriesModel" (410 : Nat) ({ cls := "VillageStoriesModel", name := "prepare", desc := "()V" } : Jvm.MethodName)) ∈ lw_all := lw_g (lw_at lw_m9 94 rfl) rfl
theorem q2117 : (Jvm.Cond.privateMethod ({ cls := "VillageStoriesModel", name := "prepare", desc := "()V" } : Jvm.MethodName)) ∈ lw_tbl := lw_at lw_m9 95 rfl
theorem q2118 : (Jvm.Cond.instanceMethod ({ cls := "VillageStoriesModel", name := "prepare", desc := "()V" } : Jvm.MethodName)) ∈ lw_all := lw_g (lw_at lw_m9 96 rfl) rfl
theorem q2119 : (Jvm.Cond.code ({ cls := "VillageStoriesModel", name := "prepare", desc := "()V" } : Jvm.MethodName) prog_33_method_69_code (1 : Nat) (Option.none : Option Jvm.ClassFile.FieldType)) ∈ lw_all := lw_g (lw_at lw_m9 97 rfl) rfl
theorem q2120 : (Jvm.Cond.methodLink "VillageStoriesModel" (380 : Nat) ({ cls := "VillageStoriesModel", name := "told", desc := "()I" } : Jvm.MethodName)) ∈ lw_all := lw_g (lw_at lw_m9 98 rfl) rfl
theorem q2121 : (Jvm.Cond.privateMethod ({ cls := "VillageStoriesModel", name := "told", desc := "()I" } : Jvm.MethodName)) ∈ lw_tbl := lw_at lw_m9 99 rfl
theorem q2122 : (Jvm.Cond.instanceMethod ({ cls := "VillageStoriesModel", name := "told", desc := "()I" } : Jvm.MethodName)) ∈ lw_all := lw_g (lw_at lw_m9 100 rfl) rfl
theorem q2123 : (Jvm.Cond.code ({ cls := "VillageStoriesModel", name := "told", desc := "()I" } : Jvm.MethodName) prog_33_method_52_code (4 : Nat) (Option.some Jvm.ClassFile.FieldType.int)) ∈ lw_all := lw_g (lw_at lw_m9 101 rfl) rfl
theorem q2124 : (Jvm.Cond.methodLink "VillageStoriesModel" (386 : Nat) ({ cls := "VillageStoriesModel", name := "findKnown", desc := "()V" } : Jvm.MethodName)) ∈ lw_all := lw_g (lw_at lw_m9 102 rfl) rfl
theorem q2125 : (Jvm.Cond.privateMethod ({ cls := "VillageStoriesModel", name := "findKnown", desc := "()V" } : Jvm.MethodName)) ∈ lw_tbl := lw_at lw_m9 103 rfl
theorem q2126 : (Jvm.Cond.instanceMethod ({ cls := "VillageStoriesModel", name := "findKnown", desc := "()V" } : Jvm.MethodName)) ∈ lw_all := lw_g (lw_at lw_m9 104 rfl) rfl
theorem q2127 : (Jvm.Cond.code ({ cls := "VillageStoriesModel", name := "findKnown", desc := "()V" } : Jvm.MethodName) prog_33_method_68_code (7 : Nat) (Option.none : Option Jvm.ClassFile.FieldType)) ∈ lw_all := lw_g (lw_at lw_m9 105 rfl) rfl
theorem q2128 : (Jvm.Cond.methodLink "VillageStoriesModel" (404 : Nat) ({ cls := "VillageStoriesModel", name := "isWorld", desc := "(I)Z" } : Jvm.MethodName)) ∈ lw_all := lw_g (lw_at lw_m9 106 rfl) rfl
theorem q2129 : (Jvm.Cond.privateMethod ({ cls := "VillageStoriesModel", name := "isWorld", desc := "(I)Z" } : Jvm.MethodName)) ∈ lw_tbl := lw_at lw_m9 107 rfl
theorem q2130 : (Jvm.Cond.instanceMethod ({ cls := "VillageStoriesModel", name := "isWorld", desc := "(I)Z" } : Jvm.MethodName)) ∈ lw_all := lw_g (lw_at lw_m9 108 rfl) rfl
theorem q2131 : (Jvm.Cond.code ({ cls := "VillageStoriesModel", name := "isWorld", desc := "(I)Z" } : Jvm.MethodName) prog_33_method_71_code (3 : Nat) (Option.some Jvm.ClassFile.FieldType.boolean)) ∈ lw_all := lw_g (lw_at lw_m9 109 rfl) rfl
theorem q2132 : (Jvm.Cond.methodLink "VillageStoriesModel" (389 : Nat) ({ cls := "VillageStoriesModel", name := "isAsKnown", desc := "(I)Z" } : Jvm.MethodName)) ∈ lw_all := lw_g (lw_at lw_m9 110 rfl) rfl
theorem q2133 : (Jvm.Cond.privateMethod ({ cls := "VillageStoriesModel", name := "isAsKnown", desc := "(I)Z" } : Jvm.MethodName)) ∈ lw_tbl := lw_at lw_m9 111 rfl
theorem q2134 : (Jvm.Cond.instanceMethod ({ cls := "VillageStoriesModel", name := "isAsKnown", desc := "(I)Z" } : Jvm.MethodName)) ∈ lw_all := lw_g (lw_at lw_m9 112 rfl) rfl
theorem q2135 : (Jvm.Cond.code ({ cls := "VillageStoriesModel", name := "isAsKnown", desc := "(I)Z" } : Jvm.MethodName) prog_33_method_70_code (2 : Nat) (Option.some Jvm.ClassFile.FieldType.boolean)) ∈ lw_all := lw_g (lw_at lw_m9 113 rfl) rfl
theorem q2136 : (Jvm.Cond.methodLink "VillageStoriesModel" (392 : Nat) ({ cls := "VillageStoriesModel", name := "layWorld", desc := "(I)V" } : Jvm.MethodName)) ∈ lw_all := lw_g (lw_at lw_m9 114 rfl) rfl
theorem q2137 : (Jvm.Cond.privateMethod ({ cls := "VillageStoriesModel", name := "layWorld", desc := "(I)V" } : Jvm.MethodName)) ∈ lw_tbl := lw_at lw_m9 115 rfl
theorem q2138 : (Jvm.Cond.instanceMethod ({ cls := "VillageStoriesModel", name := "layWorld", desc := "(I)V" } : Jvm.MethodName)) ∈ lw_all := lw_g (lw_at lw_m9 116 rfl) rfl
theorem q2139 : (Jvm.Cond.code ({ cls := "VillageStoriesModel", name := "layWorld", desc := "(I)V" } : Jvm.MethodName) prog_33_method_64_code (4 : Nat) (Option.none : Option Jvm.ClassFile.FieldType)) ∈ lw_all := lw_g (lw_at lw_m9 117 rfl) rfl
theorem q2141 : (Jvm.Cond.instanceMethod ({ cls := "VillageStoriesModel", name := "forms", desc := "()I" } : Jvm.MethodName)) ∈ lw_all := lw_g (lw_at lw_m9 119 rfl) rfl
theorem q2142 : (Jvm.Cond.selects "VillageStoriesModel" ({ cls := "VillageStoriesModel", name := "forms", desc := "()I" } : Jvm.MethodName) ({ cls := "VillageStoriesModel", name := "forms", desc := "()I" } : Jvm.MethodName)) ∈ lw_all := lw_g (lw_at lw_m9 120 rfl) rfl
theorem q2143 : (Jvm.Cond.code ({ cls := "VillageStoriesModel", name := "forms", desc := "()I" } : Jvm.MethodName) prog_33_method_80_code (3 : Nat) (Option.some Jvm.ClassFile.FieldType.int)) ∈ lw_all := lw_g (lw_at lw_m9 121 rfl) rfl
theorem q2144 : (Jvm.Cond.methodLink "VillageStoriesModel" (413 : Nat) ({ cls := "VillageStoriesModel", name := "isForm", desc := "(I)Z" } : Jvm.MethodName)) ∈ lw_all := lw_g (lw_at lw_m9 122 rfl) rfl
theorem q2145 : (Jvm.Cond.privateMethod ({ cls := "VillageStoriesModel", name := "isForm", desc := "(I)Z" } : Jvm.MethodName)) ∈ lw_tbl := lw_at lw_m9 123 rfl
theorem q2146 : (Jvm.Cond.instanceMethod ({ cls := "VillageStoriesModel", name := "isForm", desc := "(I)Z" } : Jvm.MethodName)) ∈ lw_all := lw_g (lw_at lw_m9 124 rfl) rfl
theorem q2147 : (Jvm.Cond.code ({ cls := "VillageStoriesModel", name := "isForm", desc := "(I)Z" } : Jvm.MethodName) prog_33_method_78_code (2 : Nat) (Option.some Jvm.ClassFile.FieldType.boolean)) ∈ lw_all := lw_g (lw_at lw_m9 125 rfl) rfl
theorem q2148 : (Jvm.Cond.methodLink "VillageStoriesModel" (407 : Nat) ({ cls := "VillageStoriesModel", name := "leastImage", desc := "()I" } : Jvm.MethodName)) ∈ lw_all := lw_g (lw_at lw_m9 126 rfl) rfl
theorem q2149 : (Jvm.Cond.privateMethod ({ cls := "VillageStoriesModel", name := "leastImage", desc := "()I" } : Jvm.MethodName)) ∈ lw_tbl := lw_at lw_m9 127 rfl
theorem q2150 : (Jvm.Cond.instanceMethod ({ cls := "VillageStoriesModel", name := "leastImage", desc := "()I" } : Jvm.MethodName)) ∈ lw_all := lw_g (lw_at lw_m9 128 rfl) rfl
theorem q2151 : (Jvm.Cond.code ({ cls := "VillageStoriesModel", name := "leastImage", desc := "()I" } : Jvm.MethodName) prog_33_method_77_code (4 : Nat) (Option.some Jvm.ClassFile.FieldType.int)) ∈ lw_all := lw_g (lw_at lw_m9 129 rfl) rfl
theorem q2153 : (Jvm.Cond.instanceMethod ({ cls := "VillageStoriesModel", name := "form", desc := "(I)Z" } : Jvm.MethodName)) ∈ lw_all := lw_g (lw_at lw_m9 131 rfl) rfl
theorem q2154 : (Jvm.Cond.selects "VillageStoriesModel" ({ cls := "VillageStoriesModel", name := "form", desc := "(I)Z" } : Jvm.MethodName) ({ cls := "VillageStoriesModel", name := "form", desc := "(I)Z" } : Jvm.MethodName)) ∈ lw_all := lw_g (lw_at lw_m9 132 rfl) rfl
theorem q2155 : (Jvm.Cond.code ({ cls := "VillageStoriesModel", name := "form", desc := "(I)Z" } : Jvm.MethodName) prog_33_method_81_code (4 : Nat) (Option.some Jvm.ClassFile.FieldType.boolean)) ∈ lw_all := lw_g (lw_at lw_m9 133 rfl) rfl
theorem q2156 : (Jvm.Cond.methodLink "VillageStoriesModel" (416 : Nat) ({ cls := "VillageStoriesModel", name := "takeWorld", desc := "(I)V" } : Jvm.MethodName)) ∈ lw_all := lw_g (lw_at lw_m9 134 rfl) rfl
theorem q2157 : (Jvm.Cond.privateMethod ({ cls := "VillageStoriesModel", name := "takeWorld", desc := "(I)V" } : Jvm.MethodName)) ∈ lw_tbl := lw_at lw_m9 135 rfl
theorem q2158 : (Jvm.Cond.instanceMethod ({ cls := "VillageStoriesModel", name := "takeWorld", desc := "(I)V" } : Jvm.MethodName)) ∈ lw_all := lw_g (lw_at lw_m9 136 rfl) rfl
theorem q2159 : (Jvm.Cond.code ({ cls := "VillageStoriesModel", name := "takeWorld", desc := "(I)V" } : Jvm.MethodName) prog_33_method_66_code (4 : Nat) (Option.none : Option Jvm.ClassFile.FieldType)) ∈ lw_all := lw_g (lw_at lw_m9 137 rfl) rfl
theorem q2161 : (Jvm.Cond.instanceMethod ({ cls := "VillageStoriesModel", name := "name", desc := "()Z" } : Jvm.MethodName)) ∈ lw_all := lw_g (lw_at lw_m9 139 rfl) rfl
theorem q2162 : (Jvm.Cond.selects "VillageStoriesModel" ({ cls := "VillageStoriesModel", name := "name", desc := "()Z" } : Jvm.MethodName) ({ cls := "VillageStoriesModel", name := "name", desc := "()Z" } : Jvm.MethodName)) ∈ lw_all := lw_g (lw_at lw_m9 140 rfl) rfl
theorem q2163 : (Jvm.Cond.code ({ cls := "VillageStoriesModel", name := "name", desc := "()Z" } : Jvm.MethodName) prog_33_method_82_code (3 : Nat) (Option.some Jvm.ClassFile.FieldType.boolean)) ∈ lw_all := lw_g (lw_at lw_m9 141 rfl) rfl
theorem q2165 : (Jvm.Cond.instanceMethod ({ cls := "VillageStoriesModel", name := "least", desc := "(I)I" } : Jvm.MethodName)) ∈ lw_all := lw_g (lw_at lw_m9 143 rfl) rfl
theorem q2166 : (Jvm.Cond.selects "VillageStoriesModel" ({ cls := "VillageStoriesModel", name := "least", desc := "(I)I" } : Jvm.MethodName) ({ cls := "VillageStoriesModel", name := "least", desc := "(I)I" } : Jvm.MethodName)) ∈ lw_all := lw_g (lw_at lw_m9 144 rfl) rfl
theorem q2167 : (Jvm.Cond.code ({ cls := "VillageStoriesModel", name := "least", desc := "(I)I" } : Jvm.MethodName) prog_33_method_84_code (2 : Nat) (Option.some Jvm.ClassFile.FieldType.int)) ∈ lw_all := lw_g (lw_at lw_m9 145 rfl) rfl
theorem q2168 : (Jvm.Cond.methodLink "VillageStoriesModel" (428 : Nat) ({ cls := "VillageStoriesModel", name := "findLeast", desc := "()Z" } : Jvm.MethodName)) ∈ lw_all := lw_g (lw_at lw_m9 146 rfl) rfl
theorem q2169 : (Jvm.Cond.privateMethod ({ cls := "VillageStoriesModel", name := "findLeast", desc := "()Z" } : Jvm.MethodName)) ∈ lw_tbl := lw_at lw_m9 147 rfl
theorem q2170 : (Jvm.Cond.instanceMethod ({ cls := "VillageStoriesModel", name := "findLeast", desc := "()Z" } : Jvm.MethodName)) ∈ lw_all := lw_g (lw_at lw_m9 148 rfl) rfl
theorem q2171 : (Jvm.Cond.code ({ cls := "VillageStoriesModel", name := "findLeast", desc := "()Z" } : Jvm.MethodName) prog_33_method_83_code (5 : Nat) (Option.some Jvm.ClassFile.FieldType.boolean)) ∈ lw_all := lw_g (lw_at lw_m9 149 rfl) rfl
theorem q2173 : (Jvm.Cond.instanceMethod ({ cls := "VillageStoriesModel", name := "core", desc := "(I)I" } : Jvm.MethodName)) ∈ lw_all := lw_g (lw_at lw_m9 151 rfl) rfl
theorem q2174 : (Jvm.Cond.selects "VillageStoriesModel" ({ cls := "VillageStoriesModel", name := "core", desc := "(I)I" } : Jvm.MethodName) ({ cls := "VillageStoriesModel", name := "core", desc := "(I)I" } : Jvm.MethodName)) ∈ lw_all := lw_g (lw_at lw_m9 152 rfl) rfl
theorem q2175 : (Jvm.Cond.code ({ cls := "VillageStoriesModel", name := "core", desc := "(I)I" } : Jvm.MethodName) prog_33_method_89_code (3 : Nat) (Option.some Jvm.ClassFile.FieldType.int)) ∈ lw_all := lw_g (lw_at lw_m9 153 rfl) rfl
theorem q2176 : (Jvm.Cond.methodLink "VillageStoriesModel" (437 : Nat) ({ cls := "VillageStoriesModel", name := "findTogether", desc := "(IZ)V" } : Jvm.MethodName)) ∈ lw_all := lw_g (lw_at lw_m9 154 rfl) rfl
theorem q2177 : (Jvm.Cond.privateMethod ({ cls := "VillageStoriesModel", name := "findTogether", desc := "(IZ)V" } : Jvm.MethodName)) ∈ lw_tbl := lw_at lw_m9 155 rfl
theorem q2178 : (Jvm.Cond.instanceMethod ({ cls := "VillageStoriesModel", name := "findTogether", desc := "(IZ)V" } : Jvm.MethodName)) ∈ lw_all := lw_g (lw_at lw_m9 156 rfl) rfl
theorem q2179 : (Jvm.Cond.code ({ cls := "VillageStoriesModel", name := "findTogether", desc := "(IZ)V" } : Jvm.MethodName) prog_33_method_85_code (7 : Nat) (Option.none : Option Jvm.ClassFile.FieldType)) ∈ lw_all := lw_g (lw_at lw_m9 157 rfl) rfl
theorem q2180 : (Jvm.Cond.methodLink "VillageStoriesModel" (441 : Nat) ({ cls := "VillageStoriesModel", name := "fewestApart", desc := "()I" } : Jvm.MethodName)) ∈ lw_all := lw_g (lw_at lw_m9 158 rfl) rfl
theorem q2181 : (Jvm.Cond.privateMethod ({ cls := "VillageStoriesModel", name := "fewestApart", desc := "()I" } : Jvm.MethodName)) ∈ lw_tbl := lw_at lw_m9 159 rfl
theorem q2182 : (Jvm.Cond.instanceMethod ({ cls := "VillageStoriesModel", name := "fewestApart", desc := "()I" } : Jvm.MethodName)) ∈ lw_all := lw_g (lw_at lw_m9 160 rfl) rfl
theorem q2183 : (Jvm.Cond.code ({ cls := "VillageStoriesModel", name := "fewestApart", desc := "()I" } : Jvm.MethodName) prog_33_method_86_code (7 : Nat) (Option.some Jvm.ClassFile.FieldType.int)) ∈ lw_all := lw_g (lw_at lw_m9 161 rfl) rfl
theorem q2184 : (Jvm.Cond.methodLink "VillageStoriesModel" (431 : Nat) ({ cls := "VillageStoriesModel", name := "isTogether", desc := "(I)Z" } : Jvm.MethodName)) ∈ lw_all := lw_g (lw_at lw_m9 162 rfl) rfl
theorem q2185 : (Jvm.Cond.privateMethod ({ cls := "VillageStoriesModel", name := "isTogether", desc := "(I)Z" } : Jvm.MethodName)) ∈ lw_tbl := lw_at lw_m9 163 rfl
theorem q2186 : (Jvm.Cond.instanceMethod ({ cls := "VillageStoriesModel", name := "isTogether", desc := "(I)Z" } : Jvm.MethodName)) ∈ lw_all := lw_g (lw_at lw_m9 164 rfl) rfl
theorem q2187 : (Jvm.Cond.code ({ cls := "VillageStoriesModel", name := "isTogether", desc := "(I)Z" } : Jvm.MethodName) prog_33_method_87_code (3 : Nat) (Option.some Jvm.ClassFile.FieldType.boolean)) ∈ lw_all := lw_g (lw_at lw_m9 165 rfl) rfl
theorem q2188 : (Jvm.Cond.methodLink "VillageStoriesModel" (434 : Nat) ({ cls := "VillageStoriesModel", name := "isLessRow", desc := "(II)Z" } : Jvm.MethodName)) ∈ lw_all := lw_g (lw_at lw_m9 166 rfl) rfl
theorem q2189 : (Jvm.Cond.static ({ cls := "VillageStoriesModel", name := "isLessRow", desc := "(II)Z" } : Jvm.MethodName)) ∈ lw_all := lw_g (lw_at lw_m9 167 rfl) rfl
theorem q2190 : (Jvm.Cond.code ({ cls := "VillageStoriesModel", name := "isLessRow", desc := "(II)Z" } : Jvm.MethodName) prog_33_method_88_code (3 : Nat) (Option.some Jvm.ClassFile.FieldType.boolean)) ∈ lw_all := lw_g (lw_at lw_m9 168 rfl) rfl
theorem q2191 : (Jvm.Cond.methodLink "VillageStoriesModel" (444 : Nat) ({ cls := "VillageStoriesModel", name := "numberIn", desc := "(II)I" } : Jvm.MethodName)) ∈ lw_all := lw_g (lw_at lw_m9 169 rfl) rfl
theorem q2192 : (Jvm.Cond.static ({ cls := "VillageStoriesModel", name := "numberIn", desc := "(II)I" } : Jvm.MethodName)) ∈ lw_all := lw_g (lw_at lw_m9 170 rfl) rfl
theorem q2193 : (Jvm.Cond.code ({ cls := "VillageStoriesModel", name := "numberIn", desc := "(II)I" } : Jvm.MethodName) prog_33_method_90_code (4 : Nat) (Option.some Jvm.ClassFile.FieldType.int)) ∈ lw_all := lw_g (lw_at lw_m9 171 rfl) rfl
theorem q2195 : (Jvm.Cond.instanceMethod ({ cls := "VillageStoriesModel", name := "sure", desc := "(III)I" } : Jvm.MethodName)) ∈ lw_all := lw_g (lw_at lw_m9 173 rfl) rfl
theorem q2196 : (Jvm.Cond.selects "VillageStoriesModel" ({ cls := "VillageStoriesModel", name := "sure", desc := "(III)I" } : Jvm.MethodName) ({ cls := "VillageStoriesModel", name := "sure", desc := "(III)I" } : Jvm.MethodName)) ∈ lw_all := lw_g (lw_at lw_m9 174 rfl) rfl
theorem q2197 : (Jvm.Cond.code ({ cls := "VillageStoriesModel", name := "sure", desc := "(III)I" } : Jvm.MethodName) prog_33_method_92_code (5 : Nat) (Option.some Jvm.ClassFile.FieldType.int)) ∈ lw_all := lw_g (lw_at lw_m9 175 rfl) rfl
theorem q2198 : (Jvm.Cond.methodLink "VillageStoriesModel" (450 : Nat) ({ cls := "VillageStoriesModel", name := "countFacts", desc := "()V" } : Jvm.MethodName)) ∈ lw_all := lw_g (lw_at lw_m9 176 rfl) rfl
theorem q2199 : (Jvm.Cond.privateMethod ({ cls := "VillageStoriesModel", name := "countFacts", desc := "()V" } : Jvm.MethodName)) ∈ lw_tbl := lw_at lw_m9 177 rfl
theorem q2200 : (Jvm.Cond.instanceMethod ({ cls := "VillageStoriesModel", name := "countFacts", desc := "()V" } : Jvm.MethodName)) ∈ lw_all := lw_g (lw_at lw_m9 178 rfl) rfl
theorem q2201 : (Jvm.Cond.code ({ cls := "VillageStoriesModel", name := "countFacts", desc := "()V" } : Jvm.MethodName) prog_33_method_91_code (3 : Nat) (Option.none : Option Jvm.ClassFile.FieldType)) ∈ lw_all := lw_g (lw_at lw_m9 179 rfl) rfl
theorem q2203 : (Jvm.Cond.instanceMethod ({ cls := "VillageStoriesModel", name := "cause", desc := "(IIII)I" } : Jvm.MethodName)) ∈ lw_all := lw_g (lw_at lw_m9 181 rfl) rfl
theorem q2204 : (Jvm.Cond.selects "VillageStoriesModel" ({ cls := "VillageStoriesModel", name := "cause", desc := "(IIII)I" } : Jvm.MethodName) ({ cls := "VillageStoriesModel", name := "cause", desc := "(IIII)I" } : Jvm.MethodName)) ∈ lw_all := lw_g (lw_at lw_m9 182 rfl) rfl
theorem q2205 : (Jvm.Cond.code ({ cls := "VillageStoriesModel", name := "cause", desc := "(IIII)I" } : Jvm.MethodName) prog_33_method_93_code (6 : Nat) (Option.some Jvm.ClassFile.FieldType.int)) ∈ lw_all := lw_g (lw_at lw_m9 183 rfl) rfl
theorem q2207 : (Jvm.Cond.instanceMethod ({ cls := "VillageStoriesModel", name := "without", desc := "(I)I" } : Jvm.MethodName)) ∈ lw_all := lw_g (lw_at lw_m9 185 rfl) rfl
theorem q2208 : (Jvm.Cond.selects "VillageStoriesModel" ({ cls := "VillageStoriesModel", name := "without", desc := "(I)I" } : Jvm.MethodName) ({ cls := "VillageStoriesModel", name := "without", desc := "(I)I" } : Jvm.MethodName)) ∈ lw_all := lw_g (lw_at lw_m9 186 rfl) rfl
theorem q2209 : (Jvm.Cond.code ({ cls := "VillageStoriesModel", name := "without", desc := "(I)I" } : Jvm.MethodName) prog_33_method_94_code (4 : Nat) (Option.some Jvm.ClassFile.FieldType.int)) ∈ lw_all := lw_g (lw_at lw_m9 187 rfl) rfl
theorem q2211 : (Jvm.Cond.instanceMethod ({ cls := "VillageStoriesModel", name := "questions", desc := "()I" } : Jvm.MethodName)) ∈ lw_all := lw_g (lw_at lw_m9 189 rfl) rfl
theorem q2212 : (Jvm.Cond.selects "VillageStoriesModel" ({ cls := "VillageStoriesModel", name := "questions", desc := "()I" } : Jvm.MethodName) ({ cls := "VillageStoriesModel", name := "questions", desc := "()I" } : Jvm.MethodName)) ∈ lw_all := lw_g (lw_at lw_m9 190 rfl) rfl
theorem q2213 : (Jvm.Cond.code ({ cls := "VillageStoriesModel", name := "questions", desc := "()I" } : Jvm.MethodName) prog_33_method_97_code (4 : Nat) (Option.some Jvm.ClassFile.FieldType.int)) ∈ lw_all := lw_g (lw_at lw_m9 191 rfl) rfl
theorem q2214 : (Jvm.Cond.methodLink "VillageStoriesModel" (453 : Nat) ({ cls := "VillageStoriesModel", name := "findYes", desc := "(I)V" } : Jvm.MethodName)) ∈ lw_all := lw_g (lw_at lw_m9 192 rfl) rfl
theorem q2215 : (Jvm.Cond.privateMethod ({ cls := "VillageStoriesModel", name := "findYes", desc := "(I)V" } : Jvm.MethodName)) ∈ lw_tbl := lw_at lw_m9 193 rfl
theorem q2216 : (Jvm.Cond.instanceMethod ({ cls := "VillageStoriesModel", name := "findYes", desc := "(I)V" } : Jvm.MethodName)) ∈ lw_all := lw_g (lw_at lw_m9 194 rfl) rfl
theorem q2217 : (Jvm.Cond.code ({ cls := "VillageStoriesModel", name := "findYes", desc := "(I)V" } : Jvm.MethodName) prog_33_method_95_code (4 : Nat) (Option.none : Option Jvm.ClassFile.FieldType)) ∈ lw_all := lw_g (lw_at lw_m9 195 rfl) rfl
theorem q2218 : (Jvm.Cond.methodLink "VillageStoriesModel" (456 : Nat) ({ cls := "VillageStoriesModel", name := "asks", desc := "(I)Z" } : Jvm.MethodName)) ∈ lw_all := lw_g (lw_at lw_m9 196 rfl) rfl
theorem q2219 : (Jvm.Cond.privateMethod ({ cls := "VillageStoriesModel", name := "asks", desc := "(I)Z" } : Jvm.MethodName)) ∈ lw_tbl := lw_at lw_m9 197 rfl
theorem q2220 : (Jvm.Cond.instanceMethod ({ cls := "VillageStoriesModel", name := "asks", desc := "(I)Z" } : Jvm.MethodName)) ∈ lw_all := lw_g (lw_at lw_m9 198 rfl) rfl
theorem q2221 : (Jvm.Cond.code ({ cls := "VillageStoriesModel", name := "asks", desc := "(I)Z" } : Jvm.MethodName) prog_33_method_96_code (3 : Nat) (Option.some Jvm.ClassFile.FieldType.boolean)) ∈ lw_all := lw_g (lw_at lw_m9 199 rfl) rfl
theorem q2223 : (Jvm.Cond.instanceMethod ({ cls := "VillageStoriesModel", name := "settle", desc := "(I)I" } : Jvm.MethodName)) ∈ lw_all := lw_g (lw_at lw_m9 201 rfl) rfl
theorem q2224 : (Jvm.Cond.selects "VillageStoriesModel" ({ cls := "VillageStoriesModel", name := "settle", desc := "(I)I" } : Jvm.MethodName) ({ cls := "VillageStoriesModel", name := "settle", desc := "(I)I" } : Jvm.MethodName)) ∈ lw_all := lw_g (lw_at lw_m9 202 rfl) rfl
theorem q2225 : (Jvm.Cond.code ({ cls := "VillageStoriesModel", name := "settle", desc := "(I)I" } : Jvm.MethodName) prog_33_method_98_code (6 : Nat) (Option.some Jvm.ClassFile.FieldType.int)) ∈ lw_all := lw_g (lw_at lw_m9 203 rfl) rfl
theorem q2227 : (Jvm.Cond.instanceMethod ({ cls := "VillageStoriesModel", name := "near", desc := "()I" } : Jvm.MethodName)) ∈ lw_all := lw_g (lw_at lw_m9 205 rfl) rfl
theorem q2228 : (Jvm.Cond.selects "VillageStoriesModel" ({ cls := "VillageStoriesModel", name := "near", desc := "()I" } : Jvm.MethodName) ({ cls := "VillageStoriesModel", name := "near", desc := "()I" } : Jvm.MethodName)) ∈ lw_all := lw_g (lw_at lw_m9 206 rfl) rfl
theorem q2229 : (Jvm.Cond.code ({ cls := "VillageStoriesModel", name := "near", desc := "()I" } : Jvm.MethodName) prog_33_method_99_code (6 : Nat) (Option.some Jvm.ClassFile.FieldType.int)) ∈ lw_all := lw_g (lw_at lw_m9 207 rfl) rfl
theorem q2231 : (Jvm.Cond.instanceMethod ({ cls := "VillageStoriesModel", name := "holds", desc := "(I)I" } : Jvm.MethodName)) ∈ lw_all := lw_g (lw_at lw_m9 209 rfl) rfl
theorem q2232 : (Jvm.Cond.selects "VillageStoriesModel" ({ cls := "VillageStoriesModel", name := "holds", desc := "(I)I" } : Jvm.MethodName) ({ cls := "VillageStoriesModel", name := "holds", desc := "(I)I" } : Jvm.MethodName)) ∈ lw_all := lw_g (lw_at lw_m9 210 rfl) rfl
theorem q2233 : (Jvm.Cond.code ({ cls := "VillageStoriesModel", name := "holds", desc := "(I)I" } : Jvm.MethodName) prog_33_method_100_code (4 : Nat) (Option.some Jvm.ClassFile.FieldType.int)) ∈ lw_all := lw_g (lw_at lw_m9 211 rfl) rfl
theorem q2235 : (Jvm.Cond.instanceMethod ({ cls := "VillageStoriesModel", name := "against", desc := "()Z" } : Jvm.MethodName)) ∈ lw_all := lw_g (lw_at lw_m9 213 rfl) rfl
theorem q2236 : (Jvm.Cond.selects "VillageStoriesModel" ({ cls := "VillageStoriesModel", name := "against", desc := "()Z" } : Jvm.MethodName) ({ cls := "VillageStoriesModel", name := "against", desc := "()Z" } : Jvm.MethodName)) ∈ lw_all := lw_g (lw_at lw_m9 214 rfl) rfl
theorem q2237 : (Jvm.Cond.code ({ cls := "VillageStoriesModel", name := "against", desc := "()Z" } : Jvm.MethodName) prog_33_method_101_code (2 : Nat) (Option.some Jvm.ClassFile.FieldType.boolean)) ∈ lw_all := lw_g (lw_at lw_m9 215 rfl) rfl
theorem q2239 : (Jvm.Cond.instanceMethod ({ cls := "VillageStoriesModel", name := "many", desc := "(I)I" } : Jvm.MethodName)) ∈ lw_all := lw_g (lw_at lw_m9 217 rfl) rfl
theorem q2240 : (Jvm.Cond.selects "VillageStoriesModel" ({ cls := "VillageStoriesModel", name := "many", desc := "(I)I" } : Jvm.MethodName) ({ cls := "VillageStoriesModel", name := "many", desc := "(I)I" } : Jvm.MethodName)) ∈ lw_all := lw_g (lw_at lw_m9 218 rfl) rfl
theorem q2241 : (Jvm.Cond.code ({ cls := "VillageStoriesModel", name := "many", desc := "(I)I" } : Jvm.MethodName) prog_33_method_102_code (4 : Nat) (Option.some Jvm.ClassFile.FieldType.int)) ∈ lw_all := lw_g (lw_at lw_m9 219 rfl) rfl
theorem q2243 : (Jvm.Cond.instanceMethod ({ cls := "VillageStoriesModel", name := "image", desc := "(I)Z" } : Jvm.MethodName)) ∈ lw_all := lw_g (lw_at lw_m9 221 rfl) rfl
theorem q2244 : (Jvm.Cond.selects "VillageStoriesModel" ({ cls := "VillageStoriesModel", name := "image", desc := "(I)Z" } : Jvm.MethodName) ({ cls := "VillageStoriesModel", name := "image", desc := "(I)Z" } : Jvm.MethodName)) ∈ lw_all := lw_g (lw_at lw_m9 222 rfl) rfl
theorem q2245 : (Jvm.Cond.code ({ cls := "VillageStoriesModel", name := "image", desc := "(I)Z" } : Jvm.MethodName) prog_33_method_103_code (2 : Nat) (Option.some Jvm.ClassFile.FieldType.boolean)) ∈ lw_all := lw_g (lw_at lw_m9 223 rfl) rfl
theorem q2246 : (Jvm.Cond.methodLink "VillageStoriesModel" (459 : Nat) ({ cls := "VillageStoriesModel", name := "copy", desc := "(II)V" } : Jvm.MethodName)) ∈ lw_all := lw_g (lw_at lw_m9 224 rfl) rfl
theorem q2247 : (Jvm.Cond.privateMethod ({ cls := "VillageStoriesModel", name := "copy", desc := "(II)V" } : Jvm.MethodName)) ∈ lw_tbl := lw_at lw_m9 225 rfl
theorem q2248 : (Jvm.Cond.instanceMethod ({ cls := "VillageStoriesModel", name := "copy", desc := "(II)V" } : Jvm.MethodName)) ∈ lw_all := lw_g (lw_at lw_m9 226 rfl) rfl
theorem q2249 : (Jvm.Cond.code ({ cls := "VillageStoriesModel", name := "copy", desc := "(II)V" } : Jvm.MethodName) prog_33_method_5_code (4 : Nat) (Option.none : Option Jvm.ClassFile.FieldType)) ∈ lw_all := lw_g (lw_at lw_m9 227 rfl) rfl
theorem q2250 : (Jvm.Cond.methodLink "VillageStoriesModel" (146 : Nat) ({ cls := "VillageStoriesModel", name := "move", desc := "([IIII)V" } : Jvm.MethodName)) ∈ lw_all := lw_g (lw_at lw_m9 228 rfl) rfl
theorem q2251 : (Jvm.Cond.static ({ cls := "VillageStoriesModel", name := "move", desc := "([IIII)V" } : Jvm.MethodName)) ∈ lw_all := lw_g (lw_at lw_m9 229 rfl) rfl
theorem q2252 : (Jvm.Cond.code ({ cls := "VillageStoriesModel", name := "move", desc := "([IIII)V" } : Jvm.MethodName) prog_33_method_4_code (5 : Nat) (Option.none : Option Jvm.ClassFile.FieldType)) ∈ lw_all := lw_g (lw_at lw_m9 230 rfl) rfl
theorem q2254 : (Jvm.Cond.instanceMethod ({ cls := "VillageStoriesModel", name := "again", desc := "(I)Z" } : Jvm.MethodName)) ∈ lw_all := lw_g (lw_at lw_m9 232 rfl) rfl
theorem q2255 : (Jvm.Cond.selects "VillageStoriesModel" ({ cls := "VillageStoriesModel", name := "again", desc := "(I)Z" } : Jvm.MethodName) ({ cls := "VillageStoriesModel", name := "again", desc := "(I)Z" } : Jvm.MethodName)) ∈ lw_all := lw_g (lw_at lw_m9 233 rfl) rfl
theorem q2256 : (Jvm.Cond.code ({ cls := "VillageStoriesModel", name := "again", desc := "(I)Z" } : Jvm.MethodName) prog_33_method_104_code (2 : Nat) (Option.some Jvm.ClassFile.FieldType.boolean)) ∈ lw_all := lw_g (lw_at lw_m9 234 rfl) rfl
theorem q2274 : (Jvm.Cond.castable "VillageStoriesModel" "java/lang/Object") ∈ lw_tbl := lw_at lw_m10 12 rfl
theorem in_X7 : ∀ w ∈ wsX70, w ∈ lw_all := lw_in wsX70 [1709, 1711, 1713, 1715, 1717, 1719, 1721, 1723, 1725, 1727, 1729, 1731, 1733, 1735, 1737, 1739, 1741, 1743, 1745, 1747, 1749, 1751, 1753, 1755, 1757, 1759, 1761, 1763, 1765, 1767, 1769, 1771, 1773, 1775, 1777, 1779, 1781, 1783, 1785, 1787, 1789, 1791, 1793, 1795, 1797, 1799, 1801, 1803, 1805, 1807, 1809, 1811, 1813, 1815, 1817, 1819, 1821, 1823, 1825, 1827, 1829, 1831, 1833] (by decide +kernel) (by decide +kernel)
