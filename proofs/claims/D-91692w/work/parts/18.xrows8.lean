set_option maxRecDepth 100000
/-! ROWS X 8: behind a call; a call through an interface; calls that throw; the throw -/
def sc {β γ : Type} (q : Nat ⊕ β) (f : Nat → Option γ) (g : β → Option γ) : Option γ := match q with
  | .inl a => f a
  | .inr b => g b
theorem sc_l {β γ : Type} {a : Nat} {f : Nat → Option γ} {g : β → Option γ} {x : γ} (h : sc (.inl a) f g = some x) : f a = some x := h
theorem sc_r {β γ : Type} {b : β} {f : Nat → Option γ} {g : β → Option γ} {x : γ} (h : sc (.inr b) f g = some x) : g b = some x := h
def x_ri : Nat ⊕ Int32 → Nat ⊕ Option Value
  | .inl a => .inl a
  | .inr r => .inr (some (.int r))
def x_ra : Nat ⊕ Nat → Nat ⊕ Option Value
  | .inl a => .inl a
  | .inr r => .inr (some (.ref r))
def x_WT (p : Program) (l : Launch) (e : Env) (R : Room) (s : State) (m : MethodId) (args : Array Value) (below : List Frame) (meth : Method) (c : Code) (H : Heap) (locs : List Loc) (cells slots : Nat) (Q : State → Prop) (g : JFrame) (a : Nat) : Prop :=
  ∀ T : State, T.heap = H → Stand p l e R s m args below meth c T locs cells slots → ∃ t, Steps p.tables e below ((T.setTop g).pushFrame (.throwing a)) t ∧ Q t
section XB8
variable {p : Program} {l : Launch} {e : Env} {R : Room} {s : State} {m : MethodId} {args : Array Value} {below : List Frame} {meth : Method} {c : Code} {H : Heap} {locs : List Loc} {cells slots : Nat} {Q : State → Prop}
variable {cc : ByteArray} {pc nL : Nat} {ls : Array Slot} {rest : List Value} {D : XD} {S0 S S' : XS} {own : String}
variable {y : MethodName} {bytes : ByteArray} {maxL n index count F F' L' Lo b k : Nat} {ret : Option FieldType} {vs st : List Value} {v : Option Value} {C : String} {g : JFrame} {q : vw_C}
theorem x_after (hX : x_I D S0 s H locs S) {t T' : State} {L : List Loc} (hz : H.size ≤ t.heap.size) (hk : ∀ q : Nat, q < H.size → ¬ x_A S q → t.heap[q]? = H[q]?) (hC : x_C D S' t) (hMM : x_M S S') (hL : ∀ q ∈ L, x_A S q.base) (e1 : T'.heap = t.heap) (e2 : T'.vm = t.vm)
    (X' : Stand p l e (x_R F Lo S0) s m args below meth c T' (locs ++ L) ((xz S - xz S0) + (xz S' - xz S)) ((xu S - xu S0) + (xu S' - xu S))) :
    x_I D S0 s T'.heap (locs ++ L) S' ∧ Stand p l e (x_R F Lo S0) s m args below meth c T' (locs ++ L) (xz S' - xz S0) (xu S' - xu S0) := by
  obtain ⟨hP, hK, hNW, hB, hM, hSS, hsz, hZ⟩ := hX
  have hAA : ∀ q, x_A S q → x_A S0 q := by
    rintro q (⟨h1, h2, h3⟩ | h1)
    · by_cases hq : q < xz S0
      · exact Or.inl ⟨by rw [← hM.2.2.1]; exact h1, hq, by rw [← hM.2.2.2.2.2.2 q hq]; exact h3⟩
      · exact Or.inr (Nat.not_lt.mp hq)
    · exact Or.inr (Nat.le_trans hM.1 h1)
  have hvm : t.vm.Alike s.vm := by rw [← e2]; exact X'.warmed.alike.symm
  have hSS' : va_S (x_A S0) s.heap T'.heap (locs ++ L) := ⟨Nat.le_trans hSS.1 (by rw [e1]; exact hz), fun q h1 h2 => by rw [e1, hk q (Nat.lt_of_lt_of_le h1 hSS.1) (fun z => h2 (hAA q z))]; exact hSS.2.1 q h1 h2, fun q hq => by
      rcases List.mem_append.mp hq with h | h
      · exact hSS.2.2 q h
      · exact hAA _ (hL q h)⟩
  have hMM' := hM.tr hMM
  have hZ' : x_ZS S' s T'.heap := by
    refine hZ.kept hMM.2.2.2.2.2.1 hMM.2.2.1 (fun q hq1 hq2 => ?_)
    rw [e1]
    refine hk q hq1 (fun z => ?_)
    rcases z with ⟨z, -⟩ | z
    · exact hq2 z
    · rw [hP.1] at hq1; omega
  have ez : (xz S - xz S0) + (xz S' - xz S) = xz S' - xz S0 := by have := hM.1; have := hMM.1; omega
  have eu : (xu S - xu S0) + (xu S' - xu S) = xu S' - xu S0 := by have := hM.2.1; have := hMM.2.1; omega
  rw [ez, eu] at X'
  exact ⟨⟨by rw [e1]; exact hC.1.moved hvm, hK, hNW, hC.2.2.2.1, hMM', hSS', hsz, hZ'⟩, X'⟩
theorem x_back5 {mc ms kc ks : Nat} {Pc : Array Value → State → Prop} {Qc : Array Value → State → Outcome → State → Prop} {free : Addr → Prop} (hts : ∀ w ∈ lw_all, w.before args s = true) (hcode : Cond.code y bytes maxL ret ∈ lw_all) (hini : Cond.initialized y.cls ∈ lw_all) (hR : F' + 1 ≤ R.frames ∧ 8 + (maxL + 11) + L' ≤ R.locals) (hM : Met l y (ws_ y bytes maxL ret) ({ frames := F', cells := kc, slots := ks, locals := L' } : Room) Pc Qc mc ms free) (hbl : FrameBlind Pc) : Back l R p e below s args y 5 8 (fun A a => A.cells + kc ≤ R.cells ∧ A.slots + ks ≤ R.slots ∧ Pc a A.U) (PostOf Qc mc ms free) := by
  have hws := pay_in hts (lw_meth hcode)
  have hcw : Cond.code y bytes maxL ret ∈ ws_ y bytes maxL ret := List.mem_cons_self
  have hini := hts _ hini
  have hinit : ∀ a' U, s.WarmedH U.vm → (Cond.initialized y.cls).before a' U = true := fun a' U hW => word_at hW (Or.inl (by first | rfl | simp [Cond.onTables, Cond.keeps, Cond.steady])) hini
  refine Back.of_free (S := headSpec (ws_ y bytes maxL ret) ({ frames := F', cells := kc, slots := ks, locals := L' } : Room)) (P := Pc) (K := fun _ _ _ _ _ => True) (Q := fun a st o t => Qc a st o t ∧ ∃ L, FrameEnd st o t L mc ms ∧ ∀ q ∈ L, free q.base) (bytes := bytes) (maxL := maxL) (ret := ret)
    (E := fun a st o t L k n => k = mc ∧ n = ms ∧ ∀ q ∈ L, free q.base) hM hR.1 hR.2 ?_ ?_ (fun _ _ _ _ _ _ _ _ _ => trivial) ?_ ?_
  · intro m meth c A a X hp
    exact ⟨atoms_intro fun w hw => hws w hw _ _ X.warmed, hws _ hcw _ _ X.warmed, hinit _ _ X.warmed, hp.1, hp.2.1⟩
  · intro m meth c A a g mk X hp
    exact hbl _ _ _ _ hp.2.2
  · intro a st o t ⟨hq, L, hF, hL⟩
    exact ⟨L, mc, ms, hF, rfl, rfl, hL⟩
  · intro m meth c A a g mk v t L k n X hp hq hF ⟨e1, e2, hL⟩
    subst e1; subst e2
    exact ⟨g, mk, t, L, rfl, rfl, hq.1, rfl, hL, rfl, rfl⟩
/-- Collection.toArray of an ArrayList -/
theorem xr_toArray (B : CallFix p m c cc nL s args lw_all own) (hX : x_I D S0 s H locs S) (hc : x_Met l yJ2_toArray bytes maxL ret F' L' D [.ref b] S v S') (hb : xk S b = 19) (hlink : Cond.methodLink own index yct ∈ lw_all) (hin : Cond.instanceMethod yJ2_toArray ∈ lw_all) (hsel : Cond.selects "java/util/ArrayList" yct yJ2_toArray ∈ lw_all) (hini : Cond.initialized yJ2_toArray.cls ∈ lw_all) (hcode : Cond.code yJ2_toArray bytes maxL ret ∈ lw_all) (hR : F' + 1 ≤ F ∧ 8 + (maxL + 11) + L' ≤ Lo) (hls : ls.size = nL) (hro : (rest.map fun v => v.category).sum ≤ 8) (hdg : decode cc pc = .ok (.invokeinterface index count, 5))
    (kk : ∀ (H : Heap) (locs : List Loc), x_I D S0 s H locs S' → W p l e (x_R F Lo S0) s m args below meth c H locs (xz S' - xz S0) (xu S' - xu S0) Q (F0 m (pc + 5) ls (v.toList ++ rest))) : W p l e (x_R F Lo S0) s m args below meth c H locs (xz S - xz S0) (xu S - xu S0) Q (F0 m pc ls (.ref b :: rest)) := by
  obtain ⟨hx, hbb, hml, ho, hts⟩ := id B
  have hK := x_back5 (p := p) (e := e) (below := below) (R := x_R F Lo S0) hts hcode hini hR hc x_blind
  obtain ⟨cellB, hcB, hoB, hclB⟩ := x_recv hX hb (q := (RJ2, TJ2, 3)) rfl (by decide)
  obtain ⟨kB, hkB, -⟩ := Vm.findClass_spec hclB
  obtain ⟨f1, f2, f3, f4, f5⟩ := hX.2.2.1.2
  intro T hT X
  have hroom := x_roomL (F := F) (Lo := Lo) hX
  obtain ⟨v', vm₁, ⟨U', l2, c2, s2⟩, hW₁, X', ⟨g', mk, t, L, e1, e2, ⟨hv, hC, hMM, hz, hk⟩, h1, hL, h2, h3⟩, stp⟩ := va_callIF X hx (C := "java/util/ArrayList") (x := yct) (y := yJ2_toArray) (bytes := bytes) (maxL := maxL) (ret := ret) ho (hts _ hlink) (va_any rfl f1) (va_any rfl f2) (hts _ hsel) (hts _ hin) (va_any rfl f3) (va_any rfl f4) (va_any rfl f5) (hts _ hcode) (by decide) hK (by rw [hT]; exact hcB) hoB hclB hkB (g := F0 m pc ls (.ref b :: rest)) rfl (hls.trans hml.symm) (argsL := []) (rest := rest) (fun sig h => by
      have : parseMethodDescriptor yct.desc = some { parameters := [], returnType := some (.array (.object "java/lang/Object")) } := by decide +kernel
      rw [this] at h; cases h; rfl) rfl (lv_room hro) (by rw [hbb]; exact hdg)
    (fun vm₁ hW₁ => ⟨hroom.1, hroom.2, x_preC hX (T.setVm vm₁) hT hW₁⟩)
  dsimp only [Pt.U, Pt.locs, Pt.cells, Pt.slots] at X' e1 e2 h1 h2 h3 stp
  subst h1; subst h2; subst h3
  cases hv
  have hh : ((T.setVm vm₁).calling g' mk #[Value.ref b]).heap = H := hT
  obtain ⟨hI, X2⟩ := x_after hX (by rw [← hh]; exact hz) (by rw [← hh]; exact hk) hC hMM hL e1 e2 X'
  obtain ⟨t2, a1, b1⟩ := kk _ _ hI U' rfl X2
  exact ⟨t2, stp t2 a1, b1⟩
/-- into a body through its own class's table -/
theorem x_intoV {res : Nat ⊕ Option Value} (B : CallFix p m c cc nL s args lw_all own) (hX : x_I D S0 s H locs S) (hc : x_Bod l y bytes maxL ret [] F' L' D (.ref b :: vs) S res S') (hpl : plainName y.cls = true) (hfit : (lg_sl (.ref b :: vs)).length ≤ maxL) (hb : xk S b = k) (hq : x_cl[k]? = some q) (hk : 1 ≤ k ∧ k < 50) (hlink : Cond.methodLink own index y ∈ lw_all) (hin : Cond.instanceMethod y ∈ lw_all) (hsel : Cond.selects q.1 y y ∈ lw_all) (hcode : Cond.code y bytes maxL ret ∈ lw_all) (hd : y.cls ≠ "java/lang/invoke/MethodHandle" ∧ y.cls ≠ "java/lang/invoke/VarHandle" ∧ (parseMethodDescriptor y.desc).map (fun d => d.parameters.length) = some n) (hR : F' + 1 ≤ F ∧ 8 + (maxL + 11) + L' ≤ Lo) (hn : vs.length = n) (hls : ls.size = nL) (hst : st = vs.reverse ++ .ref b :: rest) (hro : (rest.map fun v => v.category).sum ≤ 8) (hdg : decode cc pc = .ok (.invokevirtual index, 3))
    {T : State} (hT : T.heap = H) (X : Stand p l e (x_R F Lo S0) s m args below meth c T locs (xz S - xz S0) (xu S - xu S0)) :
    ∃ (U : State) (mk : MethodId) (t : State), U.heap = H ∧ Stand p l e (x_R F Lo S0) s m args below meth c U locs (xz S - xz S0) (xu S - xu S0) ∧ x_MQ D S res S' (.java (F0 m pc ls rest) :: below) (U.calling (F0 m pc ls rest) mk (Value.ref b :: vs).toArray) t ∧
      (∀ tg, Steps p.tables e below t tg → Steps p.tables e below (T.setTop (F0 m pc ls st)) tg) := by
  obtain ⟨hx, hbb, hml, ho, hts⟩ := id B
  obtain ⟨cellB, hcB, hoB, hclB⟩ := x_recv hX hb hq hk
  obtain ⟨mk, methM, hnamed, hmethM, hstM, habM⟩ := Cond.instanceMethod_spec (hts _ hin)
  obtain ⟨methM', cM, hmethM', -, -, -, -, -, -, hsigM⟩ := Cond.code_spec hnamed (hts _ hcode)
  cases hmethM.symm.trans hmethM'
  obtain ⟨c2, r2, m2, q1, q2, q3, q4, kP, hkP, hkPi⟩ := Cond.selects_spec (hts _ hsel)
  cases hclB.symm.trans q1
  cases (State.methodFound?_of_named hnamed ⟨hd.1, hd.2.1⟩).symm.trans q2
  cases hnamed.symm.trans q3
  have hselP : selectMethod e.platform s.vm cellB.cls mk = .method mk := by rw [Launch.admits_selectMethod X.admits]; exact q4
  obtain ⟨vm₁, X₁, hstep₁⟩ := X.invokevirtual hx ho (hts _ hlink) hnamed hmethM hstM hkP hkPi ⟨hd.1, hd.2.1⟩ (a := b) (cell := cellB) (by rw [hT]; exact hcB)
    (fun z h => by rw [h] at hoB; cases hoB) hselP hmethM habM hkP hkPi (g := F0 m pc ls st) rfl (argsL := vs) (rest := rest) (x_len hd.2.2 hn _ hsigM) hst (by rw [hbb]; exact hdg)
  have hroom := x_roomL (F := F) (Lo := Lo) hX
  obtain ⟨t, h1, h2⟩ := x_enter hx hts (Or.inl ⟨hcode, rfl⟩) hpl hR hfit hc X₁ (g := F0 m pc ls rest) rfl (hls.trans hml.symm) (by rw [hbb]; exact hdg) (lv_room hro) (X₁.named hnamed) hroom (x_preC hX (vs := []) (T.setVm vm₁) hT X₁.warmed).2
  exact ⟨T.setVm vm₁, mk, t, hT, X₁, h2, fun tg h => hstep₁ _ fun acts => by rw [doInvoke_state]; exact h1.trans h⟩
theorem xr_callR (B : CallFix p m c cc nL s args lw_all own) (hX : x_I D S0 s H locs S) (hc : x_Bod l y bytes maxL ret [] F' L' D (.ref b :: vs) S (.inr v) S') (hpl : plainName y.cls = true) (hfit : (lg_sl (.ref b :: vs)).length ≤ maxL) (hb : xk S b = k) (hq : x_cl[k]? = some q) (hk : 1 ≤ k ∧ k < 50) (hlink : Cond.methodLink own index y ∈ lw_all) (hin : Cond.instanceMethod y ∈ lw_all) (hsel : Cond.selects q.1 y y ∈ lw_all) (hcode : Cond.code y bytes maxL ret ∈ lw_all) (hd : y.cls ≠ "java/lang/invoke/MethodHandle" ∧ y.cls ≠ "java/lang/invoke/VarHandle" ∧ (parseMethodDescriptor y.desc).map (fun d => d.parameters.length) = some n) (hR : F' + 1 ≤ F ∧ 8 + (maxL + 11) + L' ≤ Lo) (hn : vs.length = n) (hls : ls.size = nL) (hst : st = vs.reverse ++ .ref b :: rest) (hro : (rest.map fun v => v.category).sum ≤ 8) (hdg : decode cc pc = .ok (.invokevirtual index, 3))
    (kk : ∀ (H : Heap) (locs : List Loc), x_I D S0 s H locs S' → W p l e (x_R F Lo S0) s m args below meth c H locs (xz S' - xz S0) (xu S' - xu S0) Q (F0 m (pc + 3) ls (v.toList ++ rest))) : W p l e (x_R F Lo S0) s m args below meth c H locs (xz S - xz S0) (xu S - xu S0) Q (F0 m pc ls st) := by
  intro T hT X
  obtain ⟨U, mk, t, hU, X₁, ⟨-, hend, hWt, hCt, hMt, hFt, L, hsame, hL⟩, stp⟩ := x_intoV B hX hc hpl hfit hb hq hk hlink hin hsel hcode hd hR hn hls hst hro hdg hT X
  obtain ⟨T', X', -, -, ht⟩ := X₁.outOf (g := F0 m pc ls rest) rfl (by rw [B.2.1]; exact hdg) hend hWt hsame
  have hh : (U.calling (F0 m pc ls rest) mk (Value.ref b :: vs).toArray).heap = H := hU
  obtain ⟨hI, X2⟩ := x_after hX (by rw [← hh]; exact hFt.1) (by rw [← hh]; exact hFt.2) hCt hMt hL (by rw [ht]; simp) (by rw [ht]; simp) X'
  obtain ⟨t2, a1, b1⟩ := kk _ _ hI T' rfl X2
  exact ⟨t2, stp t2 (by rw [ht]; exact a1), b1⟩
theorem xr_callT {a : Nat} (B : CallFix p m c cc nL s args lw_all own) (hX : x_I D S0 s H locs S) (hc : x_Bod l y bytes maxL ret [] F' L' D (.ref b :: vs) S (.inl a) S') (hpl : plainName y.cls = true) (hfit : (lg_sl (.ref b :: vs)).length ≤ maxL) (hb : xk S b = k) (hq : x_cl[k]? = some q) (hk : 1 ≤ k ∧ k < 50) (hlink : Cond.methodLink own index y ∈ lw_all) (hin : Cond.instanceMethod y ∈ lw_all) (hsel : Cond.selects q.1 y y ∈ lw_all) (hcode : Cond.code y bytes maxL ret ∈ lw_all) (hd : y.cls ≠ "java/lang/invoke/MethodHandle" ∧ y.cls ≠ "java/lang/invoke/VarHandle" ∧ (parseMethodDescriptor y.desc).map (fun d => d.parameters.length) = some n) (hR : F' + 1 ≤ F ∧ 8 + (maxL + 11) + L' ≤ Lo) (hn : vs.length = n) (hls : ls.size = nL) (hst : st = vs.reverse ++ .ref b :: rest) (hro : (rest.map fun v => v.category).sum ≤ 8) (hdg : decode cc pc = .ok (.invokevirtual index, 3))
    (kk : ∀ (H : Heap) (locs : List Loc), x_I D S0 s H locs S' → x_WT p l e (x_R F Lo S0) s m args below meth c H locs (xz S' - xz S0) (xu S' - xu S0) Q (F0 m pc ls rest) a) : W p l e (x_R F Lo S0) s m args below meth c H locs (xz S - xz S0) (xu S - xu S0) Q (F0 m pc ls st) := by
  intro T hT X
  obtain ⟨U, mk, t, hU, X₁, ⟨-, hend, hWt, hCt, hMt, hFt, L, hsame, hL⟩, stp⟩ := x_intoV B hX hc hpl hfit hb hq hk hlink hin hsel hcode hd hR hn hls hst hro hdg hT X
  obtain ⟨T', X', -, -, ht⟩ := X₁.outOfThrown (g := F0 m pc ls rest) rfl hend hWt hsame
  have hh : (U.calling (F0 m pc ls rest) mk (Value.ref b :: vs).toArray).heap = H := hU
  obtain ⟨hI, X2⟩ := x_after hX (by rw [← hh]; exact hFt.1) (by rw [← hh]; exact hFt.2) hCt hMt hL (by rw [ht, Stand.throwing_heap]) (by rw [ht, Stand.throwing_vm]) X'
  obtain ⟨t2, a1, b1⟩ := kk _ _ hI T' rfl X2
  exact ⟨t2, stp t2 (by rw [ht]; exact a1), b1⟩
theorem x_noH (h : x_hs c = []) {pc : Nat} : ∀ x ∈ c.exceptionTable.toList, covers x pc = false := by
  have h2 : c.exceptionTable.toList = [] := List.map_eq_nil_iff.mp h
  rw [h2]
  intro x hx
  cases hx
theorem xr_out (hh : x_hs c = []) (hlk : meth.locks = false) (hX : x_I D S0 s H locs S) {a : Nat} : x_WT p l e R s m args below meth c H locs (xz S - xz S0) (xu S - xu S0) (x_MQ D S0 (.inl a) S below s) (F0 m pc ls st) a := by
  intro T hT X
  obtain ⟨h1, h2, h3, h4, h5⟩ := X.leaveThrown a (g := F0 m pc ls st) rfl rfl rfl (x_noH hh) hlk
  refine ⟨_, h1, h2, h3, h4, ?_, hX.2.2.2.2.1, hX.2.2.2.2.2.1.F (t := T.setFrames (.throwing a :: below)) hT, locs, h5, hX.2.2.2.2.2.1.2.2⟩
  exact x_C.warm (U := T.setFrames (.throwing a :: below)) hT h4 hX.1 hX.2.1 hX.2.2.1 hX.2.2.2.1 hX.2.2.2.2.2.2.2
theorem xr_athrow (B : CallFix p m c cc nL s args lw_all own) (hh : x_hs c = []) (hlk : meth.locks = false) (hX : x_I D S0 s H locs S) {a : Nat} (hdg : decode cc pc = .ok (.athrow, 1)) : W p l e R s m args below meth c H locs (xz S - xz S0) (xu S - xu S0) (x_MQ D S0 (.inl a) S below s) (F0 m pc ls (.ref a :: rest)) := by
  intro T hT X
  obtain ⟨h1, h2, h3, h4, h5⟩ := X.athrowLeaves B.1 (g := F0 m pc ls (.ref a :: rest)) rfl rfl rfl (x_noH hh) rfl (by rw [B.2.1]; exact hdg) hlk
  refine ⟨_, h1, h2, h3, h4, ?_, hX.2.2.2.2.1, hX.2.2.2.2.2.1.F (t := T.setFrames (.throwing a :: below)) hT, locs, h5, hX.2.2.2.2.2.1.2.2⟩
  exact x_C.warm (U := T.setFrames (.throwing a :: below)) hT h4 hX.1 hX.2.1 hX.2.2.1 hX.2.2.2.1 hX.2.2.2.2.2.2.2
end XB8
/-! starts of bodies that may throw -/
section XM8
variable {l : Launch} {y : MethodName} {cc : ByteArray} {nL : Nat} {F Lo : Nat} {vs : List Value} {D : XD} {S S' : XS}
theorem x_bodXI {ty : FieldType} {res : Nat ⊕ Int32} (own : String) (hc : y.cls = own)
    (body : ∀ (p : Program) (e : Env) (s : State) (m : MethodId) (args : Array Value) (below : List Frame) (meth : Method) (c : Code) (Q : State → Prop), CallFix p m c cc nL s args lw_all own → meth.name = y.name →
      (∀ (r : Int32), res = .inr r → ∀ (H : Heap) (locs : List Loc) (ls : Array Slot) (pc : Nat), narrow ty (.int r) = .int r → x_I D S s H locs S' → decode cc pc = .ok (.ireturn, 1) → W p l e (x_R F Lo S) s m args below meth c H locs (xz S' - xz S) (xu S' - xu S) Q (F0 m pc ls [.int r])) →
      (∀ (a : Nat), res = .inl a → ∀ (H : Heap) (locs : List Loc) (ls : Array Slot) (pc : Nat) (rest : List Value), x_I D S s H locs S' → decode cc pc = .ok (.athrow, 1) → W p l e (x_R F Lo S) s m args below meth c H locs (xz S' - xz S) (xu S' - xu S) Q (F0 m pc ls (.ref a :: rest))) →
      (∀ (a : Nat), res = .inl a → ∀ (H : Heap) (locs : List Loc) (ls : Array Slot) (pc : Nat) (st : List Value), x_I D S s H locs S' → x_WT p l e (x_R F Lo S) s m args below meth c H locs (xz S' - xz S) (xu S' - xu S) Q (F0 m pc ls st) a) →
      ∀ (H : Heap) (locs : List Loc), x_I D S s H locs S → ∀ ls, lv_has ls nL (lv_args 0 vs) → W p l e (x_R F Lo S) s m args below meth c H locs (xz S - xz S) (xu S - xu S) Q (F0 m 0 ls [])) : x_Bod l y cc nL (some ty) [] F Lo D vs S (x_ri res) S' := by
  subst hc
  intro p e s m args below meth c B hr hk hnm hh hX ls hl
  refine body p e s m args below meth c _ B hnm (fun r hres H locs ls pc hn hX' hd => ?_) (fun a hres H locs ls pc rest hX' hd => ?_) (fun a hres H locs ls pc st hX' => ?_) _ _ hX ls hl
  · subst hres
    refine W.qmono ?_ (xr_iret B hr hk hX' hn hd)
    rintro t ⟨o, h1, h2, ⟨rfl, h3, h4, h5⟩, L, ⟨-, h6, h7⟩, h8⟩
    exact ⟨h1, h2, h6, h3, h4, h5, L, h7, h8⟩
  · subst hres
    exact xr_athrow B hh hk hX' hd
  · subst hres
    exact xr_out hh hk hX'
theorem x_bodXA {ty : FieldType} {res : Nat ⊕ Nat} (own : String) (hc : y.cls = own) (hrt : (∃ n, ty = .object n) ∨ ∃ t, ty = .array t)
    (body : ∀ (p : Program) (e : Env) (s : State) (m : MethodId) (args : Array Value) (below : List Frame) (meth : Method) (c : Code) (Q : State → Prop), CallFix p m c cc nL s args lw_all own → meth.name = y.name →
      (∀ (r : Nat), res = .inr r → ∀ (H : Heap) (locs : List Loc) (ls : Array Slot) (pc : Nat), x_I D S s H locs S' → decode cc pc = .ok (.areturn, 1) → W p l e (x_R F Lo S) s m args below meth c H locs (xz S' - xz S) (xu S' - xu S) Q (F0 m pc ls [.ref r])) →
      (∀ (a : Nat), res = .inl a → ∀ (H : Heap) (locs : List Loc) (ls : Array Slot) (pc : Nat) (rest : List Value), x_I D S s H locs S' → decode cc pc = .ok (.athrow, 1) → W p l e (x_R F Lo S) s m args below meth c H locs (xz S' - xz S) (xu S' - xu S) Q (F0 m pc ls (.ref a :: rest))) →
      (∀ (a : Nat), res = .inl a → ∀ (H : Heap) (locs : List Loc) (ls : Array Slot) (pc : Nat) (st : List Value), x_I D S s H locs S' → x_WT p l e (x_R F Lo S) s m args below meth c H locs (xz S' - xz S) (xu S' - xu S) Q (F0 m pc ls st) a) →
      ∀ (H : Heap) (locs : List Loc), x_I D S s H locs S → ∀ ls, lv_has ls nL (lv_args 0 vs) → W p l e (x_R F Lo S) s m args below meth c H locs (xz S - xz S) (xu S - xu S) Q (F0 m 0 ls [])) : x_Bod l y cc nL (some ty) [] F Lo D vs S (x_ra res) S' := by
  subst hc
  intro p e s m args below meth c B hr hk hnm hh hX ls hl
  refine body p e s m args below meth c _ B hnm (fun r hres H locs ls pc hX' hd => ?_) (fun a hres H locs ls pc rest hX' hd => ?_) (fun a hres H locs ls pc st hX' => ?_) _ _ hX ls hl
  · subst hres
    refine W.qmono ?_ (xr_aret (r := some r) B hr hrt hk hX' hd)
    rintro t ⟨o, h1, h2, ⟨rfl, h3, h4, h5⟩, L, ⟨-, h6, h7⟩, h8⟩
    exact ⟨h1, h2, h6, h3, h4, h5, L, h7, h8⟩
  · subst hres
    exact xr_athrow B hh hk hX' hd
  · subst hres
    exact xr_out hh hk hX'
end XM8
