set_option maxRecDepth 100000
/-! INFRA X: the class's heap as a value. Regions: field j of kind c is region 100*c+j (place 0); an array's places are in the region of its kind -/
theorem u_ws_le {C : String} {T : u_T} {n N : Nat} (h : n ≤ N) {w : Cond} (hw : w ∈ u_ws C T n) : w ∈ u_ws C T N := by
  obtain ⟨k, hk, rfl⟩ := List.mem_map.mp hw
  exact List.mem_map.mpr ⟨k, List.mem_range.mpr (Nat.lt_of_lt_of_le (List.mem_range.mp hk) h), rfl⟩
def Tk23 : u_T := fun _ => ("VillageStories$Often", "word", "Ljava/lang/String;", true)
def Tk24 : u_T := fun _ => ("VillageStories$Often", "word", "Ljava/lang/String;", true)
def Tk25 : u_T := fun _ => ("VillageStories$Often", "word", "Ljava/lang/String;", true)
def Tk26 : u_T := fun _ => ("VillageStories$Often", "word", "Ljava/lang/String;", true)
def Tk27 : u_T := fun _ => ("VillageStories$Join", "word", "Ljava/lang/String;", true)
def Tk28 : u_T := fun _ => ("VillageStories$Join", "word", "Ljava/lang/String;", true)
def Tk29 : u_T := fun _ => ("VillageStories$Join", "word", "Ljava/lang/String;", true)
def Tk30 : u_T := fun _ => ("", "", "", false)
def x_cl : List vw_C := [("", Tk30, 0), (RX0, TX0, 14), (RX1, TX1, 14), (RX2, TX2, 2), (RX3, TX3, 4), (RX8, TX8, 2), (RX9, TX9, 5), (RX10, TX10, 3), (RX11, TX11, 12), (RX12, TX12, 8), (RX15, TX15, 5), (RX16, TX16, 3), (RX17, TX17, 1), (RX18, TX18, 2), (RX19, TX19, 3), (RX20, TX20, 1), (RX21, TX21, 3), (RX5, TX5, 3), (RX6, TX6, 3), (RJ2, TJ2, 3), (RJ11, TJ11, 4), (RJ12, TJ12, 2), (RJ18, TJ18, 1), ("VillageStories$Often$1", Tk23, 1), ("VillageStories$Often$2", Tk24, 1), ("VillageStories$Often$3", Tk25, 1), ("VillageStories$Often$4", Tk26, 1), ("VillageStories$Join$1", Tk27, 1), ("VillageStories$Join$2", Tk28, 1), ("VillageStories$Join$3", Tk29, 1), ("VillageStories$Token", Tk30, 0)]
/-- the type of field j of kind c: 0 int-like, 1 long, 2 reference -/
def x_ty (c j : Nat) : Nat := match c, j with
  | 1, 0 => 2
  | 1, 1 => 2
  | 1, 2 => 2
  | 1, 3 => 2
  | 1, 4 => 2
  | 1, 5 => 2
  | 1, 7 => 1
  | 1, 8 => 1
  | 1, 9 => 2
  | 1, 10 => 2
  | 1, 11 => 2
  | 1, 12 => 2
  | 1, 13 => 2
  | 2, 0 => 2
  | 2, 7 => 1
  | 2, 8 => 2
  | 2, 10 => 2
  | 2, 11 => 2
  | 2, 12 => 2
  | 2, 13 => 2
  | 3, 0 => 2
  | 3, 1 => 2
  | 4, 0 => 2
  | 4, 1 => 1
  | 4, 3 => 2
  | 7, 0 => 2
  | 8, 0 => 2
  | 8, 2 => 2
  | 8, 8 => 2
  | 8, 9 => 2
  | 8, 10 => 2
  | 8, 11 => 2
  | 9, 0 => 2
  | 9, 1 => 2
  | 9, 2 => 2
  | 9, 3 => 2
  | 9, 4 => 2
  | 10, 0 => 2
  | 10, 4 => 2
  | 11, 0 => 2
  | 11, 1 => 2
  | 11, 2 => 2
  | 12, 0 => 2
  | 17, 0 => 1
  | 17, 1 => 2
  | 17, 2 => 2
  | 18, 0 => 1
  | 18, 1 => 2
  | 18, 2 => 2
  | 19, 1 => 2
  | 20, 0 => 2
  | 21, 0 => 2
  | 23, 0 => 2
  | 24, 0 => 2
  | 25, 0 => 2
  | 26, 0 => 2
  | 27, 0 => 2
  | 28, 0 => 2
  | 29, 0 => 2
  | _, _ => 0
def x_aty (k : Nat) : Option FieldType := match k with
  | 51 => some .byte
  | 52 => some .int
  | 53 => some .long
  | 54 => some .boolean
  | 55 => some (.object "java/lang/Object")
  | 56 => some (.object "VillageStories$State")
  | 57 => some (.object "VillageStories$Often")
  | 58 => some (.object "VillageStories$Join")
  | 59 => some (.object "java/lang/String")
  | 60 => some (.array .int)
  | 61 => some (.object "java/lang/Integer")
  | _ => none
def x_ec (k : Nat) : Nat := match k with
  | 53 => 1
  | 55 => 2
  | 56 => 2
  | 57 => 2
  | 58 => 2
  | 59 => 2
  | 60 => 2
  | 61 => 2
  | _ => 0
theorem x_in : ∀ c q, c ≤ 22 → x_cl[c]? = some q → ∀ w ∈ u_ws q.1 q.2.1 q.2.2, w ∈ lw_all := by
  intro c q hc hq w hw
  match c, hc, hq with
  | 0, _, hq => cases hq; exact absurd hw (by simp [u_ws])
  | 1, _, hq => cases hq; exact in_X0 w hw
  | 2, _, hq => cases hq; exact in_X1 w hw
  | 3, _, hq => cases hq; exact in_X2 w hw
  | 4, _, hq => cases hq; exact in_X3 w hw
  | 5, _, hq => cases hq; exact in_X8 w hw
  | 6, _, hq => cases hq; exact in_X9 w hw
  | 7, _, hq => cases hq; exact in_X10 w hw
  | 8, _, hq => cases hq; exact in_X11 w hw
  | 9, _, hq => cases hq; exact in_X12 w hw
  | 10, _, hq => cases hq; exact in_X15 w hw
  | 11, _, hq => cases hq; exact in_X16 w hw
  | 12, _, hq => cases hq; exact in_X17 w hw
  | 13, _, hq => cases hq; exact in_X18 w hw
  | 14, _, hq => cases hq; exact in_X19 w hw
  | 15, _, hq => cases hq; exact in_X20 w hw
  | 16, _, hq => cases hq; exact in_X21 w hw
  | 17, _, hq => cases hq; exact in_X5 w hw
  | 18, _, hq => cases hq; exact in_X6 w hw
  | 19, _, hq => cases hq; exact in_J2 w hw
  | 20, _, hq => cases hq; exact in_J11 w hw
  | 21, _, hq => cases hq; exact in_J12 w (u_ws_le (by decide) hw)
  | 22, _, hq => cases hq; exact in_J18 w hw
  | k + 23, hc, _ => exact absurd hc (by omega)
abbrev XS : Type := (Nat → Nat → Nat → Int32) × (Nat → Nat → Nat → Int64) × (Nat → Nat → Nat → Option Nat) × (Nat → Nat) × (Nat → Nat) × (Nat → Option Nat) × Nat × Nat × Nat × Nat × Nat
def xi (S : XS) : Nat → Nat → Nat → Int32 := S.1
def xl (S : XS) : Nat → Nat → Nat → Int64 := S.2.1
def xr (S : XS) : Nat → Nat → Nat → Option Nat := S.2.2.1
def xk (S : XS) : Nat → Nat := S.2.2.2.1
def xn (S : XS) : Nat → Nat := S.2.2.2.2.1
def xs (S : XS) : Nat → Option Nat := S.2.2.2.2.2.1
def xz (S : XS) : Nat := S.2.2.2.2.2.2.1
def xu (S : XS) : Nat := S.2.2.2.2.2.2.2.1
def xL (S : XS) : Nat := S.2.2.2.2.2.2.2.2.1
def xU (S : XS) : Nat := S.2.2.2.2.2.2.2.2.2.1
def xb (S : XS) : Nat := S.2.2.2.2.2.2.2.2.2.2
def s_i (S : XS) (r a i : Nat) (v : Int32) : XS := (fun r' a' i' => if r' = r ∧ a' = a ∧ i' = i then v else xi S r' a' i', xl S, xr S, xk S, xn S, xs S, xz S, xu S, xL S, xU S, xb S)
def s_l (S : XS) (r a i : Nat) (v : Int64) : XS := (xi S, fun r' a' i' => if r' = r ∧ a' = a ∧ i' = i then v else xl S r' a' i', xr S, xk S, xn S, xs S, xz S, xu S, xL S, xU S, xb S)
def s_r (S : XS) (r a i : Nat) (v : Option Nat) : XS := (xi S, xl S, fun r' a' i' => if r' = r ∧ a' = a ∧ i' = i then v else xr S r' a' i', xk S, xn S, xs S, xz S, xu S, xL S, xU S, xb S)
/-- a new cell of kind k, length n (0 for an object), c slots: all places are blank -/
def n_c (S : XS) (k n c : Nat) : XS := (fun r a i => if a = xz S then 0 else xi S r a i, fun r a i => if a = xz S then 0 else xl S r a i, fun r a i => if a = xz S then none else xr S r a i, fun a => if a = xz S then k else xk S a, fun a => if a = xz S then n else xn S a, xs S, xz S + 1, xu S + c, xL S, xU S, xb S)
abbrev XD : Type := (Nat → ClassId) × (Nat → Nat → Nat) × (Nat → ClassId)
def x_rg (c j : Nat) : Nat := if c ≤ 22 then 100 * c + j else if c ≤ 26 then 2300 + j else 2700 + j
def x_V (S : XS) (c j a : Nat) : Value := if x_ty c j = 0 then .int (xi S (x_rg c j) a 0) else if x_ty c j = 1 then .long (xl S (x_rg c j) a 0) else va_rf (xr S (x_rg c j) a 0)
def x_E (S : XS) (k a i : Nat) : Value := if x_ec k = 0 then .int (xi S k a i) else if x_ec k = 1 then .long (xl S k a i) else va_rf (xr S k a i)
/-- an object that was there at the start: it's read alone -/
def x_obR (S : XS) (U : State) (H : Heap) (a c : Nat) : Prop := ∃ (q : vw_C) (cell : Cell), x_cl[c]? = some q ∧ H[a]? = some cell ∧ cell.vm ≠ .unknown ∧ cell.vm.isStatics = false ∧ U.vm.findClass q.1 = some cell.cls ∧ ∀ j, j < q.2.2 → ∃ (cf : ClassId) (k : Class) (i : Nat) (f : Field), U.fieldFound? (q.2.1 j).1 (q.2.1 j).2.1 (q.2.1 j).2.2.1 = some (cf, k, i, f) ∧ f.isStatic = false ∧ cell.slots[f.slot]? = some (x_V S c j a)
/-- nobody holds the cell's monitor -/
def x_mon (H : Heap) (a : Nat) : Prop := ∀ cell : Cell, H[a]? = some cell → cell.monitor.owner = none ∧ cell.monitor.count = 0
def x_obW (D : XD) (S : XS) (H : Heap) (a c : Nat) : Prop := c ≤ 22 ∧ x_mon H a ∧ ∃ q : vw_C, x_cl[c]? = some q ∧ t_OB a (D.1 c) q.2.2 (D.2.1 c) H (fun j => x_V S c j a)
def x_arR (S : XS) (U : State) (H : Heap) (a k : Nat) : Prop := ∃ (ty : FieldType) (cell : Cell), x_aty k = some ty ∧ H[a]? = some cell ∧ U.isArrayOf cell ty ∧ cell.vm ≠ .unknown ∧ xn S a ≤ cell.slots.size ∧ cell.slots.size.toInt32 = Int32.ofNat (xn S a) ∧ (∀ i, i < xn S a → cell.slots[i]? = some (x_E S k a i)) ∧ (k = 55 → U.vm.findClass "[Ljava/lang/Object;" = some cell.cls)
def x_arW (D : XD) (S : XS) (H : Heap) (a k : Nat) : Prop := k ≤ 56 ∧ (∃ ty, x_aty k = some ty) ∧ H[a]? = some (arrV (D.2.2 k) (xn S a) (x_E S k a))
/-- what the heap holds at the address a -/
def x_at (D : XD) (S : XS) (U : State) (H : Heap) (a : Nat) : Prop := (xk S a < 50 → if xb S ≤ a then x_obW D S H a (xk S a) else x_obR S U H a (xk S a)) ∧ (50 ≤ xk S a → if xb S ≤ a then x_arW D S H a (xk S a) else x_arR S U H a (xk S a))
def x_P (D : XD) (S : XS) (U : State) (H : Heap) : Prop := H.size = xz S ∧ ∀ a, xk S a ≠ 0 → a < xz S ∧ x_at D S U H a
def x_K (D : XD) (U : State) : Prop := (∀ k q, 11 ≤ k → k ≤ 16 → x_cl[k]? = some q → va_Nc q.1 "VillageStories$Each" U) ∧ (∀ c q, 1 ≤ c → c ≤ 22 → x_cl[c]? = some q → u_Kn U q.1 q.2.1 q.2.2 (D.1 c) (D.2.1 c)) ∧ ∀ k ty, k ≤ 56 → x_aty k = some ty → ArrOfT U (D.2.2 k) ty ∧ va_RA U (D.2.2 k) ty
def x_nw : List Cond := [(Jvm.Cond.castable "java/lang/StringBuilder" "java/lang/Object"), (Jvm.Cond.castable "java/lang/String" "java/lang/Object"), (Jvm.Cond.declares ({ cls := "java/lang/Throwable", name := "<init>", desc := "()V" } : Jvm.MethodName)), (Jvm.Cond.declares ({ cls := "java/lang/Throwable", name := "<init>", desc := "(Ljava/lang/String;)V" } : Jvm.MethodName)), (Jvm.Cond.castable "java/lang/Throwable" "java/lang/Object"), (Jvm.Cond.declares ({ cls := "java/lang/Exception", name := "<init>", desc := "()V" } : Jvm.MethodName)), (Jvm.Cond.declares ({ cls := "java/lang/Exception", name := "<init>", desc := "(Ljava/lang/String;)V" } : Jvm.MethodName)), (Jvm.Cond.castable "java/lang/Integer" "java/lang/Object"), (Jvm.Cond.declares ({ cls := "java/lang/Object", name := "getClass", desc := "()Ljava/lang/Class;" } : Jvm.MethodName)), (Jvm.Cond.castable "java/util/ArrayList" "java/util/Collection"), (Jvm.Cond.castable "java/util/ArrayList" "java/lang/Object"), (Jvm.Cond.methodLinkNest "VillageStories" (11 : Nat) ({ cls := "VillageStories$State", name := "<init>", desc := "()V" } : Jvm.MethodName) "VillageStories"), (Jvm.Cond.fieldLinkNest "VillageStories" (102 : Nat) "VillageStories$Land" "sizes" "[I" "VillageStories"), (Jvm.Cond.fieldLinkNest "VillageStories" (108 : Nat) "VillageStories$Land" "relations" "Ljava/util/ArrayList;" "VillageStories"), (Jvm.Cond.fieldLinkNest "VillageStories" (163 : Nat) "VillageStories$State" "tape" "[B" "VillageStories"), (Jvm.Cond.fieldLinkNest "VillageStories" (160 : Nat) "VillageStories$State" "taped" "I" "VillageStories"), (Jvm.Cond.fieldLinkNest "VillageStories" (166 : Nat) "VillageStories$State" "faultKind" "I" "VillageStories"), (Jvm.Cond.fieldLinkNest "VillageStories" (169 : Nat) "VillageStories$State" "faultPlace" "I" "VillageStories"), (Jvm.Cond.fieldLinkNest "VillageStories" (154 : Nat) "VillageStories$State" "day" "I" "VillageStories"), (Jvm.Cond.fieldLinkNest "VillageStories" (224 : Nat) "VillageStories$State" "view" "I" "VillageStories"), (Jvm.Cond.fieldLinkNest "VillageStories" (211 : Nat) "VillageStories$State" "guessed" "I" "VillageStories"), (Jvm.Cond.fieldLinkNest "VillageStories" (79 : Nat) "VillageStories$State" "row" "J" "VillageStories"), (Jvm.Cond.fieldLinkNest "VillageStories" (292 : Nat) "VillageStories$State" "places" "[J" "VillageStories"), (Jvm.Cond.fieldLinkNest "VillageStories" (83 : Nat) "VillageStories$State" "filled" "I" "VillageStories"), (Jvm.Cond.fieldLinkNest "VillageStories" (72 : Nat) "VillageStories$State" "land" "LVillageStories$Land;" "VillageStories"), (Jvm.Cond.fieldLinkNest "VillageStories" (183 : Nat) "VillageStories$State" "stories" "Ljava/util/ArrayList;" "VillageStories"), (Jvm.Cond.fieldLinkNest "VillageStories" (138 : Nat) "VillageStories$State" "known" "Ljava/util/ArrayList;" "VillageStories"), (Jvm.Cond.fieldLinkNest "VillageStories" (204 : Nat) "VillageStories$State" "guess" "LVillageStories$Part;" "VillageStories"), (Jvm.Cond.methodLinkNest "VillageStories" (22 : Nat) ({ cls := "VillageStories$World", name := "<init>", desc := "()V" } : Jvm.MethodName) "VillageStories"), (Jvm.Cond.fieldLinkNest "VillageStories" (265 : Nat) "VillageStories$World" "land" "LVillageStories$Land;" "VillageStories"), (Jvm.Cond.fieldLinkNest "VillageStories" (259 : Nat) "VillageStories$World" "vars" "[I" "VillageStories"), (Jvm.Cond.methodLinkNest "VillageStories" (64 : Nat) ({ cls := "VillageStories$Land", name := "<init>", desc := "()V" } : Jvm.MethodName) "VillageStories"), (Jvm.Cond.fieldLinkNest "VillageStories" (326 : Nat) "VillageStories$Relation" "first" "I" "VillageStories"), (Jvm.Cond.fieldLinkNest "VillageStories" (329 : Nat) "VillageStories$Relation" "second" "I" "VillageStories"), (Jvm.Cond.fieldLinkNest "VillageStories" (302 : Nat) "VillageStories$Known" "relation" "I" "VillageStories"), (Jvm.Cond.fieldLinkNest "VillageStories" (305 : Nat) "VillageStories$Known" "i" "I" "VillageStories"), (Jvm.Cond.fieldLinkNest "VillageStories" (308 : Nat) "VillageStories$Known" "j" "I" "VillageStories"), (Jvm.Cond.fieldLinkNest "VillageStories" (311 : Nat) "VillageStories$Known" "day" "I" "VillageStories"), (Jvm.Cond.fieldLinkNest "VillageStories" (312 : Nat) "VillageStories$Known" "is" "Z" "VillageStories"), (Jvm.Cond.fieldLinkNest "VillageStories" (208 : Nat) "VillageStories$Reader" "parts" "I" "VillageStories"), (Jvm.Cond.fieldLinkNest "VillageStories" (172 : Nat) "VillageStories$Fault" "kind" "I" "VillageStories"), (Jvm.Cond.fieldLinkNest "VillageStories" (177 : Nat) "VillageStories$Fault" "place" "I" "VillageStories"), (Jvm.Cond.fieldLinkNest "VillageStories" (250 : Nat) "VillageStories$Each" "often" "LVillageStories$Often;" "VillageStories"), (Jvm.Cond.fieldLinkNest "VillageStories" (262 : Nat) "VillageStories$Each" "var" "I" "VillageStories"), (Jvm.Cond.fieldLinkNest "VillageStories" (266 : Nat) "VillageStories$Each" "kind" "I" "VillageStories"), (Jvm.Cond.fieldLinkNest "VillageStories" (273 : Nat) "VillageStories$Each" "of" "LVillageStories$Part;" "VillageStories"), (Jvm.Cond.fieldLinkNest "VillageStories" (241 : Nat) "VillageStories$Story" "part" "LVillageStories$Part;" "VillageStories"), (Jvm.Cond.fieldLinkNest "VillageStories" (227 : Nat) "VillageStories$Story" "day" "I" "VillageStories"), (Jvm.Cond.fieldLinkNest "VillageStories" (221 : Nat) "VillageStories$Story" "struck" "I" "VillageStories"), (Jvm.Cond.castable "VillageStories" "java/lang/Object"), (Jvm.Cond.methodLinkNest "VillageStories$State" (28 : Nat) ({ cls := "VillageStories$Land", name := "<init>", desc := "()V" } : Jvm.MethodName) "VillageStories"), (Jvm.Cond.castable "VillageStories$State" "java/lang/Object"), (Jvm.Cond.castable "VillageStories$Story" "java/lang/Object"), (Jvm.Cond.fieldLinkNest "VillageStories$Reader" (155 : Nat) "VillageStories$Relation" "first" "I" "VillageStories"), (Jvm.Cond.fieldLinkNest "VillageStories$Reader" (229 : Nat) "VillageStories$Relation" "second" "I" "VillageStories"), (Jvm.Cond.fieldLinkNest "VillageStories$Reader" (109 : Nat) "VillageStories$Fault" "kind" "I" "VillageStories"), (Jvm.Cond.fieldLinkNest "VillageStories$Reader" (108 : Nat) "VillageStories$Fault" "place" "I" "VillageStories"), (Jvm.Cond.fieldLinkNest "VillageStories$Reader" (165 : Nat) "VillageStories" "OFTEN" "[LVillageStories$Often;" "VillageStories"), (Jvm.Cond.fieldLinkNest "VillageStories$Reader" (131 : Nat) "VillageStories" "KIND_WORDS" "[Ljava/lang/String;" "VillageStories"), (Jvm.Cond.fieldLinkNest "VillageStories$Reader" (178 : Nat) "VillageStories" "JOINS" "[LVillageStories$Join;" "VillageStories"), (Jvm.Cond.castable "VillageStories$Reader" "java/lang/Object"), (Jvm.Cond.fieldLinkNest "VillageStories$Reader" (169 : Nat) "VillageStories$Often" "word" "Ljava/lang/String;" "VillageStories"), (Jvm.Cond.fieldLinkNest "VillageStories$Reader" (182 : Nat) "VillageStories$Join" "word" "Ljava/lang/String;" "VillageStories"), (Jvm.Cond.castable "VillageStories$Fault" "VillageStories$Fault"), (Jvm.Cond.castable "VillageStories$Fault" "java/lang/Object"), (Jvm.Cond.declares ({ cls := "VillageStories$Often", name := "is", desc := "(III)Z" } : Jvm.MethodName)), (Jvm.Cond.castable "VillageStories$Often" "java/lang/Object"), (Jvm.Cond.declares ({ cls := "VillageStories$Part", name := "isSo", desc := "(LVillageStories$World;)Z" } : Jvm.MethodName)), (Jvm.Cond.fieldLinkNest "VillageStories$Each" (33 : Nat) "VillageStories$World" "land" "LVillageStories$Land;" "VillageStories"), (Jvm.Cond.fieldLinkNest "VillageStories$Each" (27 : Nat) "VillageStories$World" "vars" "[I" "VillageStories"), (Jvm.Cond.methodLinkNest "VillageStories$Each" (1 : Nat) ({ cls := "VillageStories$Part", name := "<init>", desc := "()V" } : Jvm.MethodName) "VillageStories"), (Jvm.Cond.castable "VillageStories$Each" "java/lang/Object"), (Jvm.Cond.methodLinkNest "VillageStories$Both" (1 : Nat) ({ cls := "VillageStories$Part", name := "<init>", desc := "()V" } : Jvm.MethodName) "VillageStories"), (Jvm.Cond.castable "VillageStories$Both" "java/lang/Object"), (Jvm.Cond.methodLinkNest "VillageStories$Not" (1 : Nat) ({ cls := "VillageStories$Part", name := "<init>", desc := "()V" } : Jvm.MethodName) "VillageStories"), (Jvm.Cond.castable "VillageStories$Not" "java/lang/Object"), (Jvm.Cond.fieldLinkNest "VillageStories$Same" (16 : Nat) "VillageStories$World" "vars" "[I" "VillageStories"), (Jvm.Cond.methodLinkNest "VillageStories$Same" (1 : Nat) ({ cls := "VillageStories$Part", name := "<init>", desc := "()V" } : Jvm.MethodName) "VillageStories"), (Jvm.Cond.castable "VillageStories$Same" "java/lang/Object"), (Jvm.Cond.fieldLinkNest "VillageStories$Reach" (19 : Nat) "VillageStories$World" "vars" "[I" "VillageStories"), (Jvm.Cond.methodLinkNest "VillageStories$Reach" (1 : Nat) ({ cls := "VillageStories$Part", name := "<init>", desc := "()V" } : Jvm.MethodName) "VillageStories"), (Jvm.Cond.methodLinkNest "VillageStories$Reach" (29 : Nat) ({ cls := "VillageStories", name := "has", desc := "(II)Z" } : Jvm.MethodName) "VillageStories"), (Jvm.Cond.castable "VillageStories$Reach" "java/lang/Object"), (Jvm.Cond.fieldLinkNest "VillageStories$Land" (51 : Nat) "VillageStories$Relation" "first" "I" "VillageStories"), (Jvm.Cond.fieldLinkNest "VillageStories$Land" (59 : Nat) "VillageStories$Relation" "second" "I" "VillageStories"), (Jvm.Cond.methodLinkNest "VillageStories$Land" (41 : Nat) ({ cls := "VillageStories", name := "isIn", desc := "(III)Z" } : Jvm.MethodName) "VillageStories"), (Jvm.Cond.castable "VillageStories$Land" "java/lang/Object"), (Jvm.Cond.fieldLinkNest "VillageStories$Tree" (19 : Nat) "VillageStories$Land" "relations" "Ljava/util/ArrayList;" "VillageStories"), (Jvm.Cond.fieldLinkNest "VillageStories$Tree" (13 : Nat) "VillageStories$World" "land" "LVillageStories$Land;" "VillageStories"), (Jvm.Cond.fieldLinkNest "VillageStories$Tree" (33 : Nat) "VillageStories$Relation" "first" "I" "VillageStories"), (Jvm.Cond.methodLinkNest "VillageStories$Tree" (1 : Nat) ({ cls := "VillageStories$Part", name := "<init>", desc := "()V" } : Jvm.MethodName) "VillageStories"), (Jvm.Cond.methodLinkNest "VillageStories$Tree" (48 : Nat) ({ cls := "VillageStories", name := "has", desc := "(II)Z" } : Jvm.MethodName) "VillageStories"), (Jvm.Cond.castable "VillageStories$Tree" "java/lang/Object"), (Jvm.Cond.fieldLinkNest "VillageStories$Fact" (21 : Nat) "VillageStories$World" "vars" "[I" "VillageStories"), (Jvm.Cond.methodLinkNest "VillageStories$Fact" (3 : Nat) ({ cls := "VillageStories$Part", name := "<init>", desc := "()V" } : Jvm.MethodName) "VillageStories"), (Jvm.Cond.castable "VillageStories$Fact" "java/lang/Object"), (Jvm.Cond.castable "VillageStories$Join$1" "java/lang/Object"), (Jvm.Cond.castable "VillageStories$Join$2" "java/lang/Object"), (Jvm.Cond.castable "VillageStories$Join$3" "java/lang/Object"), (Jvm.Cond.castable "VillageStories$Often$1" "java/lang/Object"), (Jvm.Cond.castable "VillageStories$Often$2" "java/lang/Object"), (Jvm.Cond.castable "VillageStories$Often$3" "java/lang/Object"), (Jvm.Cond.castable "VillageStories$Often$4" "java/lang/Object"), (Jvm.Cond.fieldLinkNest "VillageStories$World" (36 : Nat) "VillageStories$Land" "relations" "Ljava/util/ArrayList;" "VillageStories"), (Jvm.Cond.fieldLinkNest "VillageStories$World" (48 : Nat) "VillageStories$Relation" "first" "I" "VillageStories"), (Jvm.Cond.methodLinkNest "VillageStories$World" (55 : Nat) ({ cls := "VillageStories", name := "has", desc := "(II)Z" } : Jvm.MethodName) "VillageStories"), (Jvm.Cond.castable "VillageStories$World" "java/lang/Object"), (Jvm.Cond.fieldLinkNest "VillageStories$Search" (21 : Nat) "VillageStories" "ways" "[I" "VillageStories"), (Jvm.Cond.fieldLinkNest "VillageStories$Search" (27 : Nat) "VillageStories" "ORDERS" "[I" "VillageStories"), (Jvm.Cond.methodLinkNest "VillageStories$Search" (30 : Nat) ({ cls := "VillageStories", name := "land", desc := "()LVillageStories$Land;" } : Jvm.MethodName) "VillageStories"), (Jvm.Cond.methodLinkNest "VillageStories$Search" (40 : Nat) ({ cls := "VillageStories", name := "renamed", desc := "(J[I)J" } : Jvm.MethodName) "VillageStories"), (Jvm.Cond.declares ({ cls := "VillageStories$Search", name := "worth", desc := "(J)J" } : Jvm.MethodName)), (Jvm.Cond.methodLinkNest "VillageStories$1" (7 : Nat) ({ cls := "VillageStories$Search", name := "<init>", desc := "(LVillageStories;)V" } : Jvm.MethodName) "VillageStories"), (Jvm.Cond.castable "VillageStories$1" "java/lang/Object"), (Jvm.Cond.fieldLinkNest "VillageStories$2" (19 : Nat) "VillageStories$State" "row" "J" "VillageStories"), (Jvm.Cond.methodLinkNest "VillageStories$2" (7 : Nat) ({ cls := "VillageStories$Search", name := "<init>", desc := "(LVillageStories;)V" } : Jvm.MethodName) "VillageStories"), (Jvm.Cond.fieldLinkNest "VillageStories$2" (13 : Nat) "VillageStories" "now" "LVillageStories$State;" "VillageStories"), (Jvm.Cond.castable "VillageStories$2" "java/lang/Object"), (Jvm.Cond.castable "VillageStoriesModel" "java/lang/Object"), (Jvm.Cond.castable "VillageStories$Relation" "java/lang/Object"), (Jvm.Cond.castable "VillageStories$Known" "java/lang/Object"), (Jvm.Cond.declares ({ cls := "VillageStories$Does", name := "does", desc := "(I)Z" } : Jvm.MethodName)), (Jvm.Cond.declares ({ cls := "VillageStories$Join", name := "is", desc := "(LVillageStories$Part;LVillageStories$Part;LVillageStories$World;)Z" } : Jvm.MethodName)), (Jvm.Cond.castable "VillageStories$Join" "java/lang/Object"), (Jvm.Cond.castable "VillageStories$Token" "java/lang/Object"), (Jvm.Cond.castable "[B" "java/lang/Cloneable"), (Jvm.Cond.castable "[B" "java/lang/Object"), (Jvm.Cond.castable "[I" "java/lang/Object"), (Jvm.Cond.castable "[J" "java/lang/Object"), (Jvm.Cond.castable "[LVillageStories$Join;" "java/lang/Object"), (Jvm.Cond.castable "[LVillageStories$Often;" "java/lang/Object"), (Jvm.Cond.castable "[LVillageStories$State;" "java/lang/Object"), (Jvm.Cond.castable "[Ljava/lang/Object;" "java/lang/Object"), (Jvm.Cond.castable "[Ljava/lang/String;" "java/lang/Object"), (Jvm.Cond.castable "[Z" "java/lang/Object"), (Jvm.Cond.castable "[[I" "java/lang/Object"), (Jvm.Cond.declares ({ cls := "java/util/Collection", name := "toArray", desc := "()[Ljava/lang/Object;" } : Jvm.MethodName)), (Jvm.Cond.arrayOver (Jvm.ClassFile.FieldType.object "java/lang/Object")), (Jvm.Cond.arrayOver (Jvm.ClassFile.FieldType.object "VillageStories$State")), (Jvm.Cond.arrayOver (Jvm.ClassFile.FieldType.object "java/lang/String")), (Jvm.Cond.selects "java/lang/StringBuilder" ({ cls := "java/lang/AbstractStringBuilder", name := "ensureCapacityInternal", desc := "(I)V" } : Jvm.MethodName) ({ cls := "java/lang/AbstractStringBuilder", name := "ensureCapacityInternal", desc := "(I)V" } : Jvm.MethodName))]
theorem nq2280 : (Jvm.Cond.castable "java/lang/StringBuilder" "java/lang/Object") ∈ x_nw := List.mem_of_getElem? (i := 0) rfl
theorem nq2266 : (Jvm.Cond.castable "java/lang/String" "java/lang/Object") ∈ x_nw := List.mem_of_getElem? (i := 1) rfl
theorem nq874 : (Jvm.Cond.declares ({ cls := "java/lang/Throwable", name := "<init>", desc := "()V" } : Jvm.MethodName)) ∈ x_nw := List.mem_of_getElem? (i := 2) rfl
theorem nq875 : (Jvm.Cond.declares ({ cls := "java/lang/Throwable", name := "<init>", desc := "(Ljava/lang/String;)V" } : Jvm.MethodName)) ∈ x_nw := List.mem_of_getElem? (i := 3) rfl
theorem nq2297 : (Jvm.Cond.castable "java/lang/Throwable" "java/lang/Object") ∈ x_nw := List.mem_of_getElem? (i := 4) rfl
theorem nq872 : (Jvm.Cond.declares ({ cls := "java/lang/Exception", name := "<init>", desc := "()V" } : Jvm.MethodName)) ∈ x_nw := List.mem_of_getElem? (i := 5) rfl
theorem nq873 : (Jvm.Cond.declares ({ cls := "java/lang/Exception", name := "<init>", desc := "(Ljava/lang/String;)V" } : Jvm.MethodName)) ∈ x_nw := List.mem_of_getElem? (i := 6) rfl
theorem nq2296 : (Jvm.Cond.castable "java/lang/Integer" "java/lang/Object") ∈ x_nw := List.mem_of_getElem? (i := 7) rfl
theorem nq2300 : (Jvm.Cond.declares ({ cls := "java/lang/Object", name := "getClass", desc := "()Ljava/lang/Class;" } : Jvm.MethodName)) ∈ x_nw := List.mem_of_getElem? (i := 8) rfl
theorem nq1515 : (Jvm.Cond.castable "java/util/ArrayList" "java/util/Collection") ∈ x_nw := List.mem_of_getElem? (i := 9) rfl
theorem nq2270 : (Jvm.Cond.castable "java/util/ArrayList" "java/lang/Object") ∈ x_nw := List.mem_of_getElem? (i := 10) rfl
theorem nq158 : (Jvm.Cond.methodLinkNest "VillageStories" (11 : Nat) ({ cls := "VillageStories$State", name := "<init>", desc := "()V" } : Jvm.MethodName) "VillageStories") ∈ x_nw := List.mem_of_getElem? (i := 11) rfl
theorem nq200 : (Jvm.Cond.fieldLinkNest "VillageStories" (102 : Nat) "VillageStories$Land" "sizes" "[I" "VillageStories") ∈ x_nw := List.mem_of_getElem? (i := 12) rfl
theorem nq204 : (Jvm.Cond.fieldLinkNest "VillageStories" (108 : Nat) "VillageStories$Land" "relations" "Ljava/util/ArrayList;" "VillageStories") ∈ x_nw := List.mem_of_getElem? (i := 13) rfl
theorem nq218 : (Jvm.Cond.fieldLinkNest "VillageStories" (163 : Nat) "VillageStories$State" "tape" "[B" "VillageStories") ∈ x_nw := List.mem_of_getElem? (i := 14) rfl
theorem nq220 : (Jvm.Cond.fieldLinkNest "VillageStories" (160 : Nat) "VillageStories$State" "taped" "I" "VillageStories") ∈ x_nw := List.mem_of_getElem? (i := 15) rfl
theorem nq222 : (Jvm.Cond.fieldLinkNest "VillageStories" (166 : Nat) "VillageStories$State" "faultKind" "I" "VillageStories") ∈ x_nw := List.mem_of_getElem? (i := 16) rfl
theorem nq224 : (Jvm.Cond.fieldLinkNest "VillageStories" (169 : Nat) "VillageStories$State" "faultPlace" "I" "VillageStories") ∈ x_nw := List.mem_of_getElem? (i := 17) rfl
theorem nq226 : (Jvm.Cond.fieldLinkNest "VillageStories" (154 : Nat) "VillageStories$State" "day" "I" "VillageStories") ∈ x_nw := List.mem_of_getElem? (i := 18) rfl
theorem nq228 : (Jvm.Cond.fieldLinkNest "VillageStories" (224 : Nat) "VillageStories$State" "view" "I" "VillageStories") ∈ x_nw := List.mem_of_getElem? (i := 19) rfl
theorem nq230 : (Jvm.Cond.fieldLinkNest "VillageStories" (211 : Nat) "VillageStories$State" "guessed" "I" "VillageStories") ∈ x_nw := List.mem_of_getElem? (i := 20) rfl
theorem nq233 : (Jvm.Cond.fieldLinkNest "VillageStories" (79 : Nat) "VillageStories$State" "row" "J" "VillageStories") ∈ x_nw := List.mem_of_getElem? (i := 21) rfl
theorem nq235 : (Jvm.Cond.fieldLinkNest "VillageStories" (292 : Nat) "VillageStories$State" "places" "[J" "VillageStories") ∈ x_nw := List.mem_of_getElem? (i := 22) rfl
theorem nq237 : (Jvm.Cond.fieldLinkNest "VillageStories" (83 : Nat) "VillageStories$State" "filled" "I" "VillageStories") ∈ x_nw := List.mem_of_getElem? (i := 23) rfl
theorem nq239 : (Jvm.Cond.fieldLinkNest "VillageStories" (72 : Nat) "VillageStories$State" "land" "LVillageStories$Land;" "VillageStories") ∈ x_nw := List.mem_of_getElem? (i := 24) rfl
theorem nq241 : (Jvm.Cond.fieldLinkNest "VillageStories" (183 : Nat) "VillageStories$State" "stories" "Ljava/util/ArrayList;" "VillageStories") ∈ x_nw := List.mem_of_getElem? (i := 25) rfl
theorem nq243 : (Jvm.Cond.fieldLinkNest "VillageStories" (138 : Nat) "VillageStories$State" "known" "Ljava/util/ArrayList;" "VillageStories") ∈ x_nw := List.mem_of_getElem? (i := 26) rfl
theorem nq245 : (Jvm.Cond.fieldLinkNest "VillageStories" (204 : Nat) "VillageStories$State" "guess" "LVillageStories$Part;" "VillageStories") ∈ x_nw := List.mem_of_getElem? (i := 27) rfl
theorem nq278 : (Jvm.Cond.methodLinkNest "VillageStories" (22 : Nat) ({ cls := "VillageStories$World", name := "<init>", desc := "()V" } : Jvm.MethodName) "VillageStories") ∈ x_nw := List.mem_of_getElem? (i := 28) rfl
theorem nq285 : (Jvm.Cond.fieldLinkNest "VillageStories" (265 : Nat) "VillageStories$World" "land" "LVillageStories$Land;" "VillageStories") ∈ x_nw := List.mem_of_getElem? (i := 29) rfl
theorem nq293 : (Jvm.Cond.fieldLinkNest "VillageStories" (259 : Nat) "VillageStories$World" "vars" "[I" "VillageStories") ∈ x_nw := List.mem_of_getElem? (i := 30) rfl
theorem nq337 : (Jvm.Cond.methodLinkNest "VillageStories" (64 : Nat) ({ cls := "VillageStories$Land", name := "<init>", desc := "()V" } : Jvm.MethodName) "VillageStories") ∈ x_nw := List.mem_of_getElem? (i := 31) rfl
theorem nq424 : (Jvm.Cond.fieldLinkNest "VillageStories" (326 : Nat) "VillageStories$Relation" "first" "I" "VillageStories") ∈ x_nw := List.mem_of_getElem? (i := 32) rfl
theorem nq428 : (Jvm.Cond.fieldLinkNest "VillageStories" (329 : Nat) "VillageStories$Relation" "second" "I" "VillageStories") ∈ x_nw := List.mem_of_getElem? (i := 33) rfl
theorem nq582 : (Jvm.Cond.fieldLinkNest "VillageStories" (302 : Nat) "VillageStories$Known" "relation" "I" "VillageStories") ∈ x_nw := List.mem_of_getElem? (i := 34) rfl
theorem nq584 : (Jvm.Cond.fieldLinkNest "VillageStories" (305 : Nat) "VillageStories$Known" "i" "I" "VillageStories") ∈ x_nw := List.mem_of_getElem? (i := 35) rfl
theorem nq586 : (Jvm.Cond.fieldLinkNest "VillageStories" (308 : Nat) "VillageStories$Known" "j" "I" "VillageStories") ∈ x_nw := List.mem_of_getElem? (i := 36) rfl
theorem nq588 : (Jvm.Cond.fieldLinkNest "VillageStories" (311 : Nat) "VillageStories$Known" "day" "I" "VillageStories") ∈ x_nw := List.mem_of_getElem? (i := 37) rfl
theorem nq590 : (Jvm.Cond.fieldLinkNest "VillageStories" (312 : Nat) "VillageStories$Known" "is" "Z" "VillageStories") ∈ x_nw := List.mem_of_getElem? (i := 38) rfl
theorem nq826 : (Jvm.Cond.fieldLinkNest "VillageStories" (208 : Nat) "VillageStories$Reader" "parts" "I" "VillageStories") ∈ x_nw := List.mem_of_getElem? (i := 39) rfl
theorem nq915 : (Jvm.Cond.fieldLinkNest "VillageStories" (172 : Nat) "VillageStories$Fault" "kind" "I" "VillageStories") ∈ x_nw := List.mem_of_getElem? (i := 40) rfl
theorem nq918 : (Jvm.Cond.fieldLinkNest "VillageStories" (177 : Nat) "VillageStories$Fault" "place" "I" "VillageStories") ∈ x_nw := List.mem_of_getElem? (i := 41) rfl
theorem nq1076 : (Jvm.Cond.fieldLinkNest "VillageStories" (250 : Nat) "VillageStories$Each" "often" "LVillageStories$Often;" "VillageStories") ∈ x_nw := List.mem_of_getElem? (i := 42) rfl
theorem nq1079 : (Jvm.Cond.fieldLinkNest "VillageStories" (262 : Nat) "VillageStories$Each" "var" "I" "VillageStories") ∈ x_nw := List.mem_of_getElem? (i := 43) rfl
theorem nq1081 : (Jvm.Cond.fieldLinkNest "VillageStories" (266 : Nat) "VillageStories$Each" "kind" "I" "VillageStories") ∈ x_nw := List.mem_of_getElem? (i := 44) rfl
theorem nq1083 : (Jvm.Cond.fieldLinkNest "VillageStories" (273 : Nat) "VillageStories$Each" "of" "LVillageStories$Part;" "VillageStories") ∈ x_nw := List.mem_of_getElem? (i := 45) rfl
theorem nq1208 : (Jvm.Cond.fieldLinkNest "VillageStories" (241 : Nat) "VillageStories$Story" "part" "LVillageStories$Part;" "VillageStories") ∈ x_nw := List.mem_of_getElem? (i := 46) rfl
theorem nq1210 : (Jvm.Cond.fieldLinkNest "VillageStories" (227 : Nat) "VillageStories$Story" "day" "I" "VillageStories") ∈ x_nw := List.mem_of_getElem? (i := 47) rfl
theorem nq1212 : (Jvm.Cond.fieldLinkNest "VillageStories" (221 : Nat) "VillageStories$Story" "struck" "I" "VillageStories") ∈ x_nw := List.mem_of_getElem? (i := 48) rfl
theorem nq2268 : (Jvm.Cond.castable "VillageStories" "java/lang/Object") ∈ x_nw := List.mem_of_getElem? (i := 49) rfl
theorem nq164 : (Jvm.Cond.methodLinkNest "VillageStories$State" (28 : Nat) ({ cls := "VillageStories$Land", name := "<init>", desc := "()V" } : Jvm.MethodName) "VillageStories") ∈ x_nw := List.mem_of_getElem? (i := 50) rfl
theorem nq2264 : (Jvm.Cond.castable "VillageStories$State" "java/lang/Object") ∈ x_nw := List.mem_of_getElem? (i := 51) rfl
theorem nq2277 : (Jvm.Cond.castable "VillageStories$Story" "java/lang/Object") ∈ x_nw := List.mem_of_getElem? (i := 52) rfl
theorem nq423 : (Jvm.Cond.fieldLinkNest "VillageStories$Reader" (155 : Nat) "VillageStories$Relation" "first" "I" "VillageStories") ∈ x_nw := List.mem_of_getElem? (i := 53) rfl
theorem nq427 : (Jvm.Cond.fieldLinkNest "VillageStories$Reader" (229 : Nat) "VillageStories$Relation" "second" "I" "VillageStories") ∈ x_nw := List.mem_of_getElem? (i := 54) rfl
theorem nq914 : (Jvm.Cond.fieldLinkNest "VillageStories$Reader" (109 : Nat) "VillageStories$Fault" "kind" "I" "VillageStories") ∈ x_nw := List.mem_of_getElem? (i := 55) rfl
theorem nq917 : (Jvm.Cond.fieldLinkNest "VillageStories$Reader" (108 : Nat) "VillageStories$Fault" "place" "I" "VillageStories") ∈ x_nw := List.mem_of_getElem? (i := 56) rfl
theorem nq935 : (Jvm.Cond.fieldLinkNest "VillageStories$Reader" (165 : Nat) "VillageStories" "OFTEN" "[LVillageStories$Often;" "VillageStories") ∈ x_nw := List.mem_of_getElem? (i := 57) rfl
theorem nq1064 : (Jvm.Cond.fieldLinkNest "VillageStories$Reader" (131 : Nat) "VillageStories" "KIND_WORDS" "[Ljava/lang/String;" "VillageStories") ∈ x_nw := List.mem_of_getElem? (i := 58) rfl
theorem nq1095 : (Jvm.Cond.fieldLinkNest "VillageStories$Reader" (178 : Nat) "VillageStories" "JOINS" "[LVillageStories$Join;" "VillageStories") ∈ x_nw := List.mem_of_getElem? (i := 59) rfl
theorem nq2278 : (Jvm.Cond.castable "VillageStories$Reader" "java/lang/Object") ∈ x_nw := List.mem_of_getElem? (i := 60) rfl
theorem nq2311 : (Jvm.Cond.fieldLinkNest "VillageStories$Reader" (169 : Nat) "VillageStories$Often" "word" "Ljava/lang/String;" "VillageStories") ∈ x_nw := List.mem_of_getElem? (i := 61) rfl
theorem nq2312 : (Jvm.Cond.fieldLinkNest "VillageStories$Reader" (182 : Nat) "VillageStories$Join" "word" "Ljava/lang/String;" "VillageStories") ∈ x_nw := List.mem_of_getElem? (i := 62) rfl
theorem nq871 : (Jvm.Cond.castable "VillageStories$Fault" "VillageStories$Fault") ∈ x_nw := List.mem_of_getElem? (i := 63) rfl
theorem nq2281 : (Jvm.Cond.castable "VillageStories$Fault" "java/lang/Object") ∈ x_nw := List.mem_of_getElem? (i := 64) rfl
theorem nq1317 : (Jvm.Cond.declares ({ cls := "VillageStories$Often", name := "is", desc := "(III)Z" } : Jvm.MethodName)) ∈ x_nw := List.mem_of_getElem? (i := 65) rfl
theorem nq2265 : (Jvm.Cond.castable "VillageStories$Often" "java/lang/Object") ∈ x_nw := List.mem_of_getElem? (i := 66) rfl
theorem nq1266 : (Jvm.Cond.declares ({ cls := "VillageStories$Part", name := "isSo", desc := "(LVillageStories$World;)Z" } : Jvm.MethodName)) ∈ x_nw := List.mem_of_getElem? (i := 67) rfl
theorem nq284 : (Jvm.Cond.fieldLinkNest "VillageStories$Each" (33 : Nat) "VillageStories$World" "land" "LVillageStories$Land;" "VillageStories") ∈ x_nw := List.mem_of_getElem? (i := 68) rfl
theorem nq289 : (Jvm.Cond.fieldLinkNest "VillageStories$Each" (27 : Nat) "VillageStories$World" "vars" "[I" "VillageStories") ∈ x_nw := List.mem_of_getElem? (i := 69) rfl
theorem nq1071 : (Jvm.Cond.methodLinkNest "VillageStories$Each" (1 : Nat) ({ cls := "VillageStories$Part", name := "<init>", desc := "()V" } : Jvm.MethodName) "VillageStories") ∈ x_nw := List.mem_of_getElem? (i := 70) rfl
theorem nq2286 : (Jvm.Cond.castable "VillageStories$Each" "java/lang/Object") ∈ x_nw := List.mem_of_getElem? (i := 71) rfl
theorem nq1102 : (Jvm.Cond.methodLinkNest "VillageStories$Both" (1 : Nat) ({ cls := "VillageStories$Part", name := "<init>", desc := "()V" } : Jvm.MethodName) "VillageStories") ∈ x_nw := List.mem_of_getElem? (i := 72) rfl
theorem nq2290 : (Jvm.Cond.castable "VillageStories$Both" "java/lang/Object") ∈ x_nw := List.mem_of_getElem? (i := 73) rfl
theorem nq1119 : (Jvm.Cond.methodLinkNest "VillageStories$Not" (1 : Nat) ({ cls := "VillageStories$Part", name := "<init>", desc := "()V" } : Jvm.MethodName) "VillageStories") ∈ x_nw := List.mem_of_getElem? (i := 74) rfl
theorem nq2291 : (Jvm.Cond.castable "VillageStories$Not" "java/lang/Object") ∈ x_nw := List.mem_of_getElem? (i := 75) rfl
theorem nq290 : (Jvm.Cond.fieldLinkNest "VillageStories$Same" (16 : Nat) "VillageStories$World" "vars" "[I" "VillageStories") ∈ x_nw := List.mem_of_getElem? (i := 76) rfl
theorem nq1134 : (Jvm.Cond.methodLinkNest "VillageStories$Same" (1 : Nat) ({ cls := "VillageStories$Part", name := "<init>", desc := "()V" } : Jvm.MethodName) "VillageStories") ∈ x_nw := List.mem_of_getElem? (i := 77) rfl
theorem nq2292 : (Jvm.Cond.castable "VillageStories$Same" "java/lang/Object") ∈ x_nw := List.mem_of_getElem? (i := 78) rfl
theorem nq292 : (Jvm.Cond.fieldLinkNest "VillageStories$Reach" (19 : Nat) "VillageStories$World" "vars" "[I" "VillageStories") ∈ x_nw := List.mem_of_getElem? (i := 79) rfl
theorem nq1164 : (Jvm.Cond.methodLinkNest "VillageStories$Reach" (1 : Nat) ({ cls := "VillageStories$Part", name := "<init>", desc := "()V" } : Jvm.MethodName) "VillageStories") ∈ x_nw := List.mem_of_getElem? (i := 80) rfl
theorem nq1305 : (Jvm.Cond.methodLinkNest "VillageStories$Reach" (29 : Nat) ({ cls := "VillageStories", name := "has", desc := "(II)Z" } : Jvm.MethodName) "VillageStories") ∈ x_nw := List.mem_of_getElem? (i := 81) rfl
theorem nq2293 : (Jvm.Cond.castable "VillageStories$Reach" "java/lang/Object") ∈ x_nw := List.mem_of_getElem? (i := 82) rfl
theorem nq422 : (Jvm.Cond.fieldLinkNest "VillageStories$Land" (51 : Nat) "VillageStories$Relation" "first" "I" "VillageStories") ∈ x_nw := List.mem_of_getElem? (i := 83) rfl
theorem nq426 : (Jvm.Cond.fieldLinkNest "VillageStories$Land" (59 : Nat) "VillageStories$Relation" "second" "I" "VillageStories") ∈ x_nw := List.mem_of_getElem? (i := 84) rfl
theorem nq554 : (Jvm.Cond.methodLinkNest "VillageStories$Land" (41 : Nat) ({ cls := "VillageStories", name := "isIn", desc := "(III)Z" } : Jvm.MethodName) "VillageStories") ∈ x_nw := List.mem_of_getElem? (i := 85) rfl
theorem nq2269 : (Jvm.Cond.castable "VillageStories$Land" "java/lang/Object") ∈ x_nw := List.mem_of_getElem? (i := 86) rfl
theorem nq202 : (Jvm.Cond.fieldLinkNest "VillageStories$Tree" (19 : Nat) "VillageStories$Land" "relations" "Ljava/util/ArrayList;" "VillageStories") ∈ x_nw := List.mem_of_getElem? (i := 87) rfl
theorem nq282 : (Jvm.Cond.fieldLinkNest "VillageStories$Tree" (13 : Nat) "VillageStories$World" "land" "LVillageStories$Land;" "VillageStories") ∈ x_nw := List.mem_of_getElem? (i := 88) rfl
theorem nq420 : (Jvm.Cond.fieldLinkNest "VillageStories$Tree" (33 : Nat) "VillageStories$Relation" "first" "I" "VillageStories") ∈ x_nw := List.mem_of_getElem? (i := 89) rfl
theorem nq1181 : (Jvm.Cond.methodLinkNest "VillageStories$Tree" (1 : Nat) ({ cls := "VillageStories$Part", name := "<init>", desc := "()V" } : Jvm.MethodName) "VillageStories") ∈ x_nw := List.mem_of_getElem? (i := 90) rfl
theorem nq1315 : (Jvm.Cond.methodLinkNest "VillageStories$Tree" (48 : Nat) ({ cls := "VillageStories", name := "has", desc := "(II)Z" } : Jvm.MethodName) "VillageStories") ∈ x_nw := List.mem_of_getElem? (i := 91) rfl
theorem nq2294 : (Jvm.Cond.castable "VillageStories$Tree" "java/lang/Object") ∈ x_nw := List.mem_of_getElem? (i := 92) rfl
theorem nq291 : (Jvm.Cond.fieldLinkNest "VillageStories$Fact" (21 : Nat) "VillageStories$World" "vars" "[I" "VillageStories") ∈ x_nw := List.mem_of_getElem? (i := 93) rfl
theorem nq1192 : (Jvm.Cond.methodLinkNest "VillageStories$Fact" (3 : Nat) ({ cls := "VillageStories$Part", name := "<init>", desc := "()V" } : Jvm.MethodName) "VillageStories") ∈ x_nw := List.mem_of_getElem? (i := 94) rfl
theorem nq2295 : (Jvm.Cond.castable "VillageStories$Fact" "java/lang/Object") ∈ x_nw := List.mem_of_getElem? (i := 95) rfl
theorem nq2287 : (Jvm.Cond.castable "VillageStories$Join$1" "java/lang/Object") ∈ x_nw := List.mem_of_getElem? (i := 96) rfl
theorem nq2288 : (Jvm.Cond.castable "VillageStories$Join$2" "java/lang/Object") ∈ x_nw := List.mem_of_getElem? (i := 97) rfl
theorem nq2289 : (Jvm.Cond.castable "VillageStories$Join$3" "java/lang/Object") ∈ x_nw := List.mem_of_getElem? (i := 98) rfl
theorem nq2282 : (Jvm.Cond.castable "VillageStories$Often$1" "java/lang/Object") ∈ x_nw := List.mem_of_getElem? (i := 99) rfl
theorem nq2283 : (Jvm.Cond.castable "VillageStories$Often$2" "java/lang/Object") ∈ x_nw := List.mem_of_getElem? (i := 100) rfl
theorem nq2284 : (Jvm.Cond.castable "VillageStories$Often$3" "java/lang/Object") ∈ x_nw := List.mem_of_getElem? (i := 101) rfl
theorem nq2285 : (Jvm.Cond.castable "VillageStories$Often$4" "java/lang/Object") ∈ x_nw := List.mem_of_getElem? (i := 102) rfl
theorem nq203 : (Jvm.Cond.fieldLinkNest "VillageStories$World" (36 : Nat) "VillageStories$Land" "relations" "Ljava/util/ArrayList;" "VillageStories") ∈ x_nw := List.mem_of_getElem? (i := 103) rfl
theorem nq421 : (Jvm.Cond.fieldLinkNest "VillageStories$World" (48 : Nat) "VillageStories$Relation" "first" "I" "VillageStories") ∈ x_nw := List.mem_of_getElem? (i := 104) rfl
theorem nq1301 : (Jvm.Cond.methodLinkNest "VillageStories$World" (55 : Nat) ({ cls := "VillageStories", name := "has", desc := "(II)Z" } : Jvm.MethodName) "VillageStories") ∈ x_nw := List.mem_of_getElem? (i := 105) rfl
theorem nq2271 : (Jvm.Cond.castable "VillageStories$World" "java/lang/Object") ∈ x_nw := List.mem_of_getElem? (i := 106) rfl
theorem nq348 : (Jvm.Cond.fieldLinkNest "VillageStories$Search" (21 : Nat) "VillageStories" "ways" "[I" "VillageStories") ∈ x_nw := List.mem_of_getElem? (i := 107) rfl
theorem nq1417 : (Jvm.Cond.fieldLinkNest "VillageStories$Search" (27 : Nat) "VillageStories" "ORDERS" "[I" "VillageStories") ∈ x_nw := List.mem_of_getElem? (i := 108) rfl
theorem nq1419 : (Jvm.Cond.methodLinkNest "VillageStories$Search" (30 : Nat) ({ cls := "VillageStories", name := "land", desc := "()LVillageStories$Land;" } : Jvm.MethodName) "VillageStories") ∈ x_nw := List.mem_of_getElem? (i := 109) rfl
theorem nq1421 : (Jvm.Cond.methodLinkNest "VillageStories$Search" (40 : Nat) ({ cls := "VillageStories", name := "renamed", desc := "(J[I)J" } : Jvm.MethodName) "VillageStories") ∈ x_nw := List.mem_of_getElem? (i := 110) rfl
theorem nq1431 : (Jvm.Cond.declares ({ cls := "VillageStories$Search", name := "worth", desc := "(J)J" } : Jvm.MethodName)) ∈ x_nw := List.mem_of_getElem? (i := 111) rfl
theorem nq310 : (Jvm.Cond.methodLinkNest "VillageStories$1" (7 : Nat) ({ cls := "VillageStories$Search", name := "<init>", desc := "(LVillageStories;)V" } : Jvm.MethodName) "VillageStories") ∈ x_nw := List.mem_of_getElem? (i := 112) rfl
theorem nq2272 : (Jvm.Cond.castable "VillageStories$1" "java/lang/Object") ∈ x_nw := List.mem_of_getElem? (i := 113) rfl
theorem nq231 : (Jvm.Cond.fieldLinkNest "VillageStories$2" (19 : Nat) "VillageStories$State" "row" "J" "VillageStories") ∈ x_nw := List.mem_of_getElem? (i := 114) rfl
theorem nq329 : (Jvm.Cond.methodLinkNest "VillageStories$2" (7 : Nat) ({ cls := "VillageStories$Search", name := "<init>", desc := "(LVillageStories;)V" } : Jvm.MethodName) "VillageStories") ∈ x_nw := List.mem_of_getElem? (i := 115) rfl
theorem nq338 : (Jvm.Cond.fieldLinkNest "VillageStories$2" (13 : Nat) "VillageStories" "now" "LVillageStories$State;" "VillageStories") ∈ x_nw := List.mem_of_getElem? (i := 116) rfl
theorem nq2273 : (Jvm.Cond.castable "VillageStories$2" "java/lang/Object") ∈ x_nw := List.mem_of_getElem? (i := 117) rfl
theorem nq2274 : (Jvm.Cond.castable "VillageStoriesModel" "java/lang/Object") ∈ x_nw := List.mem_of_getElem? (i := 118) rfl
theorem nq2275 : (Jvm.Cond.castable "VillageStories$Relation" "java/lang/Object") ∈ x_nw := List.mem_of_getElem? (i := 119) rfl
theorem nq2276 : (Jvm.Cond.castable "VillageStories$Known" "java/lang/Object") ∈ x_nw := List.mem_of_getElem? (i := 120) rfl
theorem nq1551 : (Jvm.Cond.declares ({ cls := "VillageStories$Does", name := "does", desc := "(I)Z" } : Jvm.MethodName)) ∈ x_nw := List.mem_of_getElem? (i := 121) rfl
theorem nq1272 : (Jvm.Cond.declares ({ cls := "VillageStories$Join", name := "is", desc := "(LVillageStories$Part;LVillageStories$Part;LVillageStories$World;)Z" } : Jvm.MethodName)) ∈ x_nw := List.mem_of_getElem? (i := 122) rfl
theorem nq2267 : (Jvm.Cond.castable "VillageStories$Join" "java/lang/Object") ∈ x_nw := List.mem_of_getElem? (i := 123) rfl
theorem nq2279 : (Jvm.Cond.castable "VillageStories$Token" "java/lang/Object") ∈ x_nw := List.mem_of_getElem? (i := 124) rfl
theorem nq703 : (Jvm.Cond.castable "[B" "java/lang/Cloneable") ∈ x_nw := List.mem_of_getElem? (i := 125) rfl
theorem nq2302 : (Jvm.Cond.castable "[B" "java/lang/Object") ∈ x_nw := List.mem_of_getElem? (i := 126) rfl
theorem nq2304 : (Jvm.Cond.castable "[I" "java/lang/Object") ∈ x_nw := List.mem_of_getElem? (i := 127) rfl
theorem nq2303 : (Jvm.Cond.castable "[J" "java/lang/Object") ∈ x_nw := List.mem_of_getElem? (i := 128) rfl
theorem nq2309 : (Jvm.Cond.castable "[LVillageStories$Join;" "java/lang/Object") ∈ x_nw := List.mem_of_getElem? (i := 129) rfl
theorem nq2307 : (Jvm.Cond.castable "[LVillageStories$Often;" "java/lang/Object") ∈ x_nw := List.mem_of_getElem? (i := 130) rfl
theorem nq2305 : (Jvm.Cond.castable "[LVillageStories$State;" "java/lang/Object") ∈ x_nw := List.mem_of_getElem? (i := 131) rfl
theorem nq2301 : (Jvm.Cond.castable "[Ljava/lang/Object;" "java/lang/Object") ∈ x_nw := List.mem_of_getElem? (i := 132) rfl
theorem nq2308 : (Jvm.Cond.castable "[Ljava/lang/String;" "java/lang/Object") ∈ x_nw := List.mem_of_getElem? (i := 133) rfl
theorem nq2306 : (Jvm.Cond.castable "[Z" "java/lang/Object") ∈ x_nw := List.mem_of_getElem? (i := 134) rfl
theorem nq2310 : (Jvm.Cond.castable "[[I" "java/lang/Object") ∈ x_nw := List.mem_of_getElem? (i := 135) rfl
theorem nq1514 : (Jvm.Cond.declares ({ cls := "java/util/Collection", name := "toArray", desc := "()[Ljava/lang/Object;" } : Jvm.MethodName)) ∈ x_nw := List.mem_of_getElem? (i := 136) rfl
theorem nq181 : (Jvm.Cond.arrayOver (Jvm.ClassFile.FieldType.object "java/lang/Object")) ∈ x_nw := List.mem_of_getElem? (i := 137) rfl
theorem nq275 : (Jvm.Cond.arrayOver (Jvm.ClassFile.FieldType.object "VillageStories$State")) ∈ x_nw := List.mem_of_getElem? (i := 138) rfl
theorem nq2319 : (Jvm.Cond.arrayOver (Jvm.ClassFile.FieldType.object "java/lang/String")) ∈ x_nw := List.mem_of_getElem? (i := 139) rfl
theorem nqEC : (Jvm.Cond.selects "java/lang/StringBuilder" ({ cls := "java/lang/AbstractStringBuilder", name := "ensureCapacityInternal", desc := "(I)V" } : Jvm.MethodName) ({ cls := "java/lang/AbstractStringBuilder", name := "ensureCapacityInternal", desc := "(I)V" } : Jvm.MethodName)) ∈ x_nw := List.mem_of_getElem? (i := 140) rfl
def x_wk (w : Cond) : Bool := match w with
  | .fieldLinkNest .. => true
  | .methodLinkNest .. => true
  | .castable .. => true
  | .declares .. => true
  | .arrayOver (.object _) => true
  | .selects .. => true
  | _ => false
theorem x_nw_wk : x_nw.all x_wk = true := by rfl
def x_st : List (String × String × String) := [("java/util/ArrayList", "EMPTY_ELEMENTDATA", "[Ljava/lang/Object;"), ("java/util/ArrayList", "DEFAULTCAPACITY_EMPTY_ELEMENTDATA", "[Ljava/lang/Object;"), ("VillageStories", "OFTEN", "[LVillageStories$Often;"), ("VillageStories", "KIND_WORDS", "[Ljava/lang/String;"), ("VillageStories", "JOINS", "[LVillageStories$Join;"), ("VillageStories", "ORDERS", "[I"), ("VillageStories", "TURNED", "[[I"), ("VillageStories$Often", "LEAST", "LVillageStories$Often;"), ("VillageStories$Often", "MOST", "LVillageStories$Often;"), ("VillageStories$Often", "ALL", "LVillageStories$Often;"), ("VillageStories$Token", "END", "LVillageStories$Token;"), ("VillageStories$Token", "WORD", "LVillageStories$Token;"), ("VillageStories$Token", "BAD", "LVillageStories$Token;"), ("VillageStories$Token", "NUMBER", "LVillageStories$Token;"), ("java/lang/Integer$IntegerCache", "cache", "[Ljava/lang/Integer;"), ("java/lang/Throwable", "UNASSIGNED_STACK", "[Ljava/lang/StackTraceElement;"), ("java/lang/Throwable", "SUPPRESSED_SENTINEL", "Ljava/util/List;"), ("jdk/internal/util/Preconditions", "SIOOBE_FORMATTER", "Ljava/util/function/BiFunction;")]
def x_str : List (String × Nat × String) := [("VillageStories$Reader", 120, "xyzw"), ("VillageStories$Reader", 139, "rstu"), ("VillageStories$Reader", 190, "not"), ("VillageStories$Reader", 197, "same"), ("VillageStories$Reader", 205, "reach"), ("VillageStories$Reader", 219, "tree")]
def yct : MethodName := ⟨"java/util/Collection", "toArray", "()[Ljava/lang/Object;"⟩
def x_NX (U : State) : Prop := va_Fw "java/util/ArrayList" yct yJ2_toArray U
def x_NW (U : State) : Prop := (∀ w ∈ x_nw, va_Nw w U) ∧ x_NX U
/-- what may come out of a state: kinds of old cells stay, the constants stay -/
def x_M (S0 S : XS) : Prop := xz S0 ≤ xz S ∧ xu S0 ≤ xu S ∧ xb S = xb S0 ∧ xL S = xL S0 ∧ xU S = xU S0 ∧ xs S = xs S0 ∧ ∀ q, q < xz S0 → xk S q = xk S0 q
def x_A (S0 : XS) : Nat → Prop := fun q => (xb S0 ≤ q ∧ q < xz S0 ∧ xk S0 q ≠ 0) ∨ xz S0 ≤ q
/-- the statics, the String constants, the class object of Object[] -/
def x_tS : List (String × String) := [("UNASSIGNED_STACK", "[Ljava/lang/StackTraceElement;"), ("SUPPRESSED_SENTINEL", "Ljava/util/List;")]
/-- Throwable's two statics are laid -/
def x_ZT (b : Nat) (U : State) (H : Heap) : Prop := ∀ q ∈ x_tS, ∃ (c : ClassId) (k : Class) (i : Nat) (f : Field) (a : Nat) (cell : Cell), U.vm.findClass "java/lang/Throwable" = some c ∧ U.fieldFound? "java/lang/Throwable" q.1 q.2 = some (c, k, i, f) ∧ f.isStatic = true ∧ k.statics = some a ∧ H[a]? = some cell ∧ cell.vm.isStatics = true ∧ cell.cls = c ∧ f.slot < cell.slots.size ∧ k.staticTypes[f.slot]? = some f.type ∧ ¬ b ≤ a
def x_ZS (S : XS) (U : State) (H : Heap) : Prop := (∀ k q, x_st[k]? = some q → va_Z q.1 q.2.1 q.2.2 (va_rf (xs S k)) (fun a => xb S ≤ a) U H) ∧ va_Z "java/lang/String" "COMPACT_STRINGS" "Z" (.int 1) (fun a => xb S ≤ a) U H ∧ va_Z "java/lang/Integer$IntegerCache" "high" "I" (.int 127) (fun a => xb S ≤ a) U H ∧ (∀ k q, x_str[k]? = some q → ∃ a, xs S (50 + k) = some a ∧ vk_R q.1 q.2.1 q.2.2 a U) ∧ (∃ a, xs S 40 = some a ∧ va_Mi "[Ljava/lang/Object;" a U) ∧ x_ZT (xb S) U H
/-- bytes are bytes -/
def x_F (S : XS) : Prop := ∀ a i, fits .byte (.int (xi S 51 a i)) = true
def x_B (S : XS) : Prop := xb S ≤ xz S ∧ xz S ≤ xL S ∧ xu S ≤ xU S ∧ x_F S
def x_C (D : XD) (S : XS) (U : State) : Prop := x_P D S U U.heap ∧ x_K D U ∧ x_NW U ∧ x_B S ∧ x_ZS S U U.heap
def x_I (D : XD) (S0 : XS) (s : State) (H : Heap) (locs : List Loc) (S : XS) : Prop := x_P D S s H ∧ x_K D s ∧ x_NW s ∧ x_B S ∧ x_M S0 S ∧ va_S (x_A S0) s.heap H locs ∧ s.heap.size = xz S0 ∧ x_ZS S s H
theorem x_M.rf {S : XS} : x_M S S := ⟨Nat.le_refl _, Nat.le_refl _, rfl, rfl, rfl, rfl, fun _ _ => rfl⟩
theorem x_M.tr {S0 S1 S2 : XS} (h : x_M S0 S1) (h2 : x_M S1 S2) : x_M S0 S2 := ⟨Nat.le_trans h.1 h2.1, Nat.le_trans h.2.1 h2.2.1, h2.2.2.1.trans h.2.2.1, h2.2.2.2.1.trans h.2.2.2.1, h2.2.2.2.2.1.trans h.2.2.2.2.1, h2.2.2.2.2.2.1.trans h.2.2.2.2.2.1, fun q hq => (h2.2.2.2.2.2.2 q (Nat.lt_of_lt_of_le hq h.1)).trans (h.2.2.2.2.2.2 q hq)⟩
theorem x_K.moved {D : XD} {u U : State} (hvm : u.vm.Alike U.vm) (h : x_K D u) : x_K D U := ⟨fun k q h1 h2 hq => (h.1 k q h1 h2 hq).moved hvm, fun c q h1 h2 hq => u_Kn_moved hvm (h.2.1 c q h1 h2 hq), fun k ty h1 hk => ⟨arrOfT_moved hvm (h.2.2 k ty h1 hk).1, (h.2.2 k ty h1 hk).2.moved hvm⟩⟩
theorem x_obR.moved {S : XS} {u U : State} {H : Heap} {a c : Nat} (hvm : u.vm.Alike U.vm) (h : x_obR S u H a c) : x_obR S U H a c := by
  obtain ⟨q, cell, h1, h2, h3, h4, h5, h6⟩ := h
  refine ⟨q, cell, h1, h2, h3, h4, by rw [hvm.findClass]; exact h5, fun j hj => ?_⟩
  obtain ⟨cf, k, i, f, g1, g2⟩ := h6 j hj
  obtain ⟨k', hi', -⟩ := State.fieldFound?_setVm hvm g1
  exact ⟨cf, k', i, f, hi', g2⟩
theorem x_arR.moved {S : XS} {u U : State} {H : Heap} {a c : Nat} (hvm : u.vm.Alike U.vm) (h : x_arR S u H a c) : x_arR S U H a c := by
  obtain ⟨ty, cell, h1, h2, h3, h4, h5, h6, h7, h8⟩ := h
  exact ⟨ty, cell, h1, h2, State.isArrayOf_alike hvm h3, h4, h5, h6, h7, fun q => by rw [hvm.findClass]; exact h8 q⟩
theorem x_P.moved {D : XD} {S : XS} {u U : State} {H : Heap} (hvm : u.vm.Alike U.vm) (h : x_P D S u H) : x_P D S U H := by
  refine ⟨h.1, fun a ha => ⟨(h.2 a ha).1, fun q => ?_, fun q => ?_⟩⟩
  · have h1 := (h.2 a ha).2.1 q
    split at h1
    · rename_i hb; rw [if_pos hb]; exact h1
    · rename_i hb; rw [if_neg hb]; exact h1.moved hvm
  · have h1 := (h.2 a ha).2.2 q
    split at h1
    · rename_i hb; rw [if_pos hb]; exact h1
    · rename_i hb; rw [if_neg hb]; exact h1.moved hvm

theorem va_Nw_warmS {C : String} {x y : MethodName} {s U : State} (hW : s.WarmedH U.vm) (hZ : va_Nw (.selects C x y) s) : va_Nw (.selects C x y) U := word_at hW (Or.inl (by first | rfl | simp [Cond.onTables, Cond.keeps, Cond.steady])) hZ
theorem x_NX.moved {s U : State} (hv : s.vm.Alike U.vm) (h : x_NX s) : x_NX U := va_Fw.moved (by decide) hv h
theorem x_NW.warm {s U : State} (hW : s.WarmedH U.vm) (h : x_NW s) : x_NW U := by
  refine ⟨?_, h.2.moved hW.alike⟩
  intro w hw
  have hk := List.all_eq_true.mp x_nw_wk w hw
  have h0 := h.1 w hw
  revert hk h0
  cases w <;> intro hk h0 <;> first
    | exact va_Nw.warmF hW h0
    | exact va_Nw.warmM hW h0
    | exact va_Nw.warmC hW h0
    | exact va_Nw.warmD hW h0
    | exact va_Nw_warmS hW h0
    | (exfalso; simp [x_wk] at hk; done)
    | skip
  rename_i ty
  cases ty <;> first
    | exact va_AO.moved hW.alike h0
    | (exfalso; simp [x_wk] at hk; done)
theorem x_NW.same {s U : State} (hv : s.vm = U.vm) (h : x_NW s) : x_NW U := by
  refine ⟨?_, h.2.moved (by rw [hv]; exact Vm.Alike.refl _)⟩
  intro w hw
  have hk := List.all_eq_true.mp x_nw_wk w hw
  have h0 := h.1 w hw
  revert hk h0
  cases w <;> intro hk h0 <;> first
    | exact va_Nw.same rfl hv h0
    | (exfalso; simp [x_wk] at hk; done)
    | skip
  rename_i ty
  cases ty <;> first
    | exact va_AO.moved (by rw [hv]; exact Vm.Alike.refl _) h0
    | (exfalso; simp [x_wk] at hk; done)
theorem x_NW.use {w : Cond} {U : State} {A : Array Value} (h : x_NW U) (hw : w ∈ x_nw) (hon : w.onTables = true) : w.before A U = true := va_Nw.use hon (h.1 w hw)
theorem x_ZT.moved {b : Nat} {s U : State} {H : Heap} (hv : s.vm.Alike U.vm) (h : x_ZT b s H) : x_ZT b U H := by
  intro q hq
  obtain ⟨c, k, i, f, a, cell, h1, h2, h3, h4, h5, h6, h7, h8, h9, h10⟩ := h q hq
  obtain ⟨k', hi', he⟩ := State.fieldFound?_setVm hv h2
  exact ⟨c, k', i, f, a, cell, by rw [hv.findClass]; exact h1, hi', h3, by rw [he]; exact h4, h5, h6, h7, h8, by rw [he]; exact h9, h10⟩
theorem x_ZT.kept {b : Nat} {U : State} {H H1 : Heap} (h : x_ZT b U H) (hq : ∀ a : Nat, a < H.size → ¬ b ≤ a → H1[a]? = H[a]?) : x_ZT b U H1 := by
  intro q hq2
  obtain ⟨c, k, i, f, a, cell, h1, h2, h3, h4, h5, h6, h7, h8, h9, h10⟩ := h q hq2
  exact ⟨c, k, i, f, a, cell, h1, h2, h3, h4, by rw [hq a (Array.getElem?_eq_some_iff.mp h5).1 h10]; exact h5, h6, h7, h8, h9, h10⟩
theorem x_ZS.warm {S : XS} {s U : State} {H : Heap} (hW : s.WarmedH U.vm) (h : x_ZS S s H) : x_ZS S U H :=
  ⟨fun k q hq => (h.1 k q hq).moved hW.alike, h.2.1.moved hW.alike, h.2.2.1.moved hW.alike, fun k q hq => by
    obtain ⟨a, h1, h2⟩ := h.2.2.2.1 k q hq
    exact ⟨a, h1, h2.warm hW⟩, by
    obtain ⟨a, h1, h2⟩ := h.2.2.2.2.1
    exact ⟨a, h1, h2.moved hW.alike⟩, h.2.2.2.2.2.moved hW.alike⟩
theorem x_ZS.same {S : XS} {s U : State} {H : Heap} (hv : s.vm = U.vm) (h : x_ZS S s H) : x_ZS S U H := by
  have ha : s.vm.Alike U.vm := by rw [hv]; exact Vm.Alike.refl _
  exact ⟨fun k q hq => (h.1 k q hq).moved ha, h.2.1.moved ha, h.2.2.1.moved ha, fun k q hq => by
    obtain ⟨a, h1, h2⟩ := h.2.2.2.1 k q hq
    exact ⟨a, h1, h2.same hv.symm⟩, by
    obtain ⟨a, h1, h2⟩ := h.2.2.2.2.1
    exact ⟨a, h1, h2.moved ha⟩, h.2.2.2.2.2.moved ha⟩
theorem x_ZS.kept {S S' : XS} {U : State} {H H1 : Heap} (h : x_ZS S U H) (hs : xs S' = xs S) (hb : xb S' = xb S) (hq : ∀ a : Nat, a < H.size → ¬ xb S ≤ a → H1[a]? = H[a]?) : x_ZS S' U H1 := by
  unfold x_ZS
  rw [hs, hb]
  exact ⟨fun k q hk => (h.1 k q hk).kept hq, h.2.1.kept hq, h.2.2.1.kept hq, h.2.2.2.1, h.2.2.2.2.1, h.2.2.2.2.2.kept hq⟩
theorem x_blind {D : XD} {S : XS} {vs : List Value} : FrameBlind (va_Pc vs (x_C D S)) := fun _ U _ _ q => ⟨q.1, q.2.1.moved (Vm.Alike.refl U.vm), q.2.2.1.moved (Vm.Alike.refl U.vm), x_NW.same (s := U) (U := U.calling _ _ _) rfl q.2.2.2.1, q.2.2.2.2.1, x_ZS.same (s := U) (U := U.calling _ _ _) rfl q.2.2.2.2.2⟩
theorem x_C.warm {D : XD} {S : XS} {s U : State} {H : Heap} (hU : U.heap = H) (hW : s.WarmedH U.vm) (h1 : x_P D S s H) (h2 : x_K D s) (h3 : x_NW s) (h4 : x_B S) (h5 : x_ZS S s H) : x_C D S U := by
  subst hU
  exact ⟨h1.moved hW.alike, h2.moved hW.alike, h3.warm hW, h4, h5.warm hW⟩
