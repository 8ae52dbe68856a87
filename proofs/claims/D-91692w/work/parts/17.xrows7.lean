set_option maxRecDepth 100000
/-! ROWS X 7: bodies: contracts at a frame's own level: they ask no initialised class, and may end in a throw -/
def x_Out : Nat ⊕ Option Value → Outcome
  | .inl a => .threw a
  | .inr v => .returned v
def x_MQ (D : XD) (S : XS) (res : Nat ⊕ Option Value) (S' : XS) (below : List Frame) (s : State) : State → Prop := fun t =>
  t.status = .running ∧ Ended t below (x_Out res) ∧ s.WarmedH t.vm ∧ x_C D S' t ∧ x_M S S' ∧ va_F (x_A S) s t ∧ ∃ L, s.sameButNew ({ t with vm := s.vm } : State) L (xz S' - xz S) (xu S' - xu S) ∧ ∀ q ∈ L, x_A S q.base
abbrev x_hs (c : Code) : List (Nat × Nat × Nat × Nat) := c.exceptionTable.toList.map (fun h => (h.startPc, h.endPc, h.handlerPc, h.catchType))
def x_Bod (l : Launch) (y : MethodName) (cc : ByteArray) (nL : Nat) (ret : Option FieldType) (hs : List (Nat × Nat × Nat × Nat)) (F Lo : Nat) (D : XD) (vs : List Value) (S : XS) (res : Nat ⊕ Option Value) (S' : XS) : Prop :=
  ∀ (p : Program) (e : Env) (s : State) (m : MethodId) (args : Array Value) (below : List Frame) (meth : Method) (c : Code), CallFix p m c cc nL s args lw_all y.cls → meth.sig.returnType = ret → meth.locks = false → meth.name = y.name → x_hs c = hs → x_I D S s s.heap [] S → ∀ ls, lv_has ls nL (lv_args 0 vs) →
    W p l e (x_R F Lo S) s m args below meth c s.heap [] (xz S - xz S) (xu S - xu S) (x_MQ D S res S' below s) (F0 m 0 ls [])
/-- a method's code, with handlers or without -/
def x_Cd (y : MethodName) (cc : ByteArray) (nL : Nat) (ret : Option FieldType) (hs : List (Nat × Nat × Nat × Nat)) : Prop := (Cond.code y cc nL ret ∈ lw_all ∧ hs = []) ∨ Cond.codeWith y cc nL ret hs ∈ lw_all
section XB7
variable {p : Program} {l : Launch} {e : Env} {R : Room} {s : State} {m : MethodId} {args : Array Value} {below : List Frame} {meth : Method} {c : Code} {H : Heap} {locs : List Loc} {cells slots : Nat} {Q : State → Prop}
variable {cc : ByteArray} {pc nL : Nat} {ls : Array Slot} {rest : List Value} {D : XD} {S0 S S' : XS} {own : String}
variable {y : MethodName} {bytes : ByteArray} {maxL n index F F' L' Lo b k : Nat} {ret : Option FieldType} {hs : List (Nat × Nat × Nat × Nat)} {vs st : List Value} {res : Nat ⊕ Option Value} {v : Option Value} {C : String} {g : JFrame} {q : vw_C}
theorem W.qmono {Q' : State → Prop} (h : ∀ t, Q t → Q' t) (k : W p l e R s m args below meth c H locs cells slots Q g) : W p l e R s m args below meth c H locs cells slots Q' g := by
  intro T hT X
  obtain ⟨t, a, b⟩ := k T hT X
  exact ⟨t, a, h t b⟩
theorem x_warmAll (hts : ∀ w ∈ lw_all, w.before args s = true) (hcd : x_Cd y bytes maxL ret hs) {U : State} (hW : s.WarmedH U.vm) {a' : Array Value} : (∀ w ∈ lw_all, w.before a' U = true) := by
  rcases hcd with ⟨h, -⟩ | h
  · have h2 := pay_in hts (lw_meth h)
    exact fun w hw => h2 w (List.mem_cons_of_mem _ hw) _ _ hW
  · have h2 := pay_in hts (lw_methW h)
    exact fun w hw => h2 w (List.mem_cons_of_mem _ hw) _ _ hW
theorem x_codeAt {U : State} {a' : Array Value} {mk : MethodId} (h : ∀ w ∈ lw_all, w.before a' U = true) (hcd : x_Cd y bytes maxL ret hs) (hn : U.methodNamed? y = some mk) :
    ∃ meth c, U.vm.method? mk = some meth ∧ meth.code = some c ∧ c.code = bytes ∧ c.maxLocals = maxL ∧ meth.sig.returnType = ret ∧ meth.locks = false ∧ x_hs c = hs := by
  rcases hcd with ⟨h1, rfl⟩ | h1
  · obtain ⟨meth, c, a1, a2, a3, a4, a5, a6, a7, -⟩ := Cond.code_spec hn (h _ h1)
    exact ⟨meth, c, a1, a2, a3, a4, a5, a6, by
      have : c.exceptionTable = #[] := Array.isEmpty_iff.mp a7
      simp [x_hs, this]⟩
  · obtain ⟨mk', meth, c, a0, a1, a2, a3, a4, a5, a6, a7, -⟩ := Cond.codeWith_spec (h _ h1)
    cases hn.symm.trans a0
    exact ⟨meth, c, a1, a2, a3, a4, a6, a7, a5⟩
theorem x_enter (hx : p.tables.exec = Jvm.exec) (hts : ∀ w ∈ lw_all, w.before args s = true) (hcd : x_Cd y bytes maxL ret hs) (hpl : plainName y.cls = true) (hR : F' + 1 ≤ R.frames ∧ 8 + (maxL + 11) + L' ≤ R.locals) (hfit : (lg_sl vs).length ≤ maxL)
    (hM : x_Bod l y bytes maxL ret hs F' L' D vs S res S') {U : State} (X : Stand p l e R s m args below meth c U locs cells slots) (hg : g.method = m) (hsize : g.locals.size = c.maxLocals) {ig : Instr} {len : Nat} (hdg : decode c.code g.pc = .ok (ig, len))
    (hW : 2 * g.monitorRoom + (g.stack.map fun v => v.category).sum ≤ 8) {mk : MethodId} (hn : U.methodNamed? y = some mk) (hcl : cells + (xL S - xz S) ≤ R.cells ∧ slots + (xU S - xu S) ≤ R.slots) (hPc : x_C D S U) :
    ∃ t, Steps p.tables e below (doInvoke e (U.setTop g) [] mk vs.toArray).1 t ∧ x_MQ D S res S' (.java g :: below) (U.calling g mk vs.toArray) t := by
  have hall : ∀ (a' : Array Value) (U' : State), U'.vm = U.vm → ∀ w ∈ lw_all, w.before a' U' = true := fun a' U' h => x_warmAll hts hcd (by rw [h]; exact X.warmed)
  obtain ⟨methY, cY, hmY, hcY, hbY, hlY, hrY, hkY, hhY⟩ := x_codeAt (hall #[] U rfl) hcd hn
  obtain ⟨Y, hin⟩ := X.into hg hsize hdg vs.toArray (R' := x_R F' L' S) hmY hcY hkY (State.plainMethod.of_named (plainFor_of_name hpl) hn hmY) hR.1 (by rw [hlY]; have := hR.2; show _ + _ + (maxL + 11) + L' ≤ _; omega) hcl.1 hcl.2
  have hC := x_blind (vs := vs) vs.toArray U g mk ⟨rfl, hPc⟩
  obtain ⟨-, hP, hK, hNW, hB, hZ⟩ := hC
  have hown : (U.calling g mk vs.toArray).vm.findClass y.cls = some mk.cls := findClass_of_methodNamed (s := U.calling g mk vs.toArray) hn
  have hl := lv_entry vs (n := maxL) hfit
  have key := hM p e (U.calling g mk vs.toArray) mk vs.toArray (.java g :: below) methY cY ⟨hx, hbY, hlY, hown, hall _ _ rfl⟩ hrY hkY (name_of_methodNamed (s := U.calling g mk vs.toArray) hn hmY).1 hhY ⟨hP, hK, hNW, hB, x_M.rf, va_S.rf, hP.1, hZ⟩ _ hl
  rw [Nat.sub_self, Nat.sub_self] at key
  obtain ⟨t, h1, h2⟩ := key ((U.setTop g).pushFrame (.java (entryFrame mk vs.toArray cY.maxLocals))) rfl Y
  refine ⟨t, ?_, h2⟩
  rw [hin [], hlY, lg_entry_eq]
  rw [hlY, lg_entry_eq] at h1
  exact Steps.weaken (mid := [.java g]) h1
theorem x_backB (hx : p.tables.exec = Jvm.exec) (hts : ∀ w ∈ lw_all, w.before args s = true) (hcd : x_Cd y bytes maxL ret hs) (hpl : plainName y.cls = true) (hR : F' + 1 ≤ R.frames ∧ 8 + (maxL + 11) + L' ≤ R.locals) (hfit : (lg_sl vs).length ≤ maxL)
    (hM : x_Bod l y bytes maxL ret hs F' L' D vs S (.inr v) S') : Back l R p e below s args y 3 8 (fun A a => A.cells + (xL S - xz S) ≤ R.cells ∧ A.slots + (xU S - xu S) ≤ R.slots ∧ va_Pc vs (x_C D S) a A.U) (PostOf (x_Q D S v S') (xz S' - xz S) (xu S' - xu S) (x_A S)) := by
  intro m meth c A g ig mk a X hg hsize hdg hW hn hp
  obtain ⟨U, Ls, c0, s0⟩ := A
  dsimp only [Pt.U, Pt.locs, Pt.cells, Pt.slots] at X hn hp ⊢
  obtain ⟨hc1, hc2, rfl, hC⟩ := hp
  obtain ⟨t, h1, -, hend, hWt, hCt, hMt, hFt, L, hsame, hL⟩ := x_enter hx hts hcd hpl hR hfit hM X hg hsize hdg hW hn ⟨hc1, hc2⟩ hC
  obtain ⟨T', X', hW', -, ht⟩ := X.outOf hg hdg hend hWt hsame
  refine ⟨v, ⟨T', Ls ++ L, c0 + (xz S' - xz S), s0 + (xu S' - xu S)⟩, X', ⟨g, mk, t, L, ?_, ?_, ⟨rfl, hCt, hMt, hFt⟩, rfl, hL, rfl, rfl⟩, ?_⟩
  · rw [ht]; simp
  · rw [ht]; simp
  · show Steps p.tables e below _ (T'.setTop _)
    rw [← ht]; exact h1
/-- the call of a body that returns, by a chosen method of the object's class -/
theorem x_runUB {x : MethodName} {owner : String} (X0 : CallFix p m c cc nL s args lw_all own) (hM : x_Bod l y bytes maxL ret hs F' L' D (.ref b :: vs) S (.inr v) S') (hpl : plainName y.cls = true) (hfit : (lg_sl (.ref b :: vs)).length ≤ maxL) (hlink : Cond.methodLink own index x ∈ lw_all) (hsame : Cond.sameMethod x.cls owner x.name x.desc ∈ lw_all) (hdecl : va_Decl s ⟨owner, x.name, x.desc⟩) (hin : Cond.instanceMethod y ∈ lw_all) (hsel : Cond.selects C x y ∈ lw_all) (hcode : Cond.code y bytes maxL ret ∈ lw_all) (h0 : hs = []) (hd : owner ≠ "java/lang/invoke/MethodHandle" ∧ owner ≠ "java/lang/invoke/VarHandle" ∧ (parseMethodDescriptor x.desc).map (fun d => d.parameters.length) = some n) (hR : F' + 1 ≤ R.frames ∧ 8 + (maxL + 11) + L' ≤ R.locals) (hp : PreV s H C b (va_Pc (.ref b :: vs) (x_C D S)) vs)
    (hg : g.method = m) (hn : vs.length = n) (hsize : g.locals.size = nL) (hstack : g.stack = vs.reverse ++ .ref b :: rest) (hW : 2 * g.monitorRoom + (rest.map fun v => v.category).sum ≤ 8) (hdg : decode cc g.pc = .ok (.invokevirtual index, 3)) (hf : cells + (xL S - xz S) ≤ R.cells ∧ slots + (xU S - xu S) ≤ R.slots) :
    va_Run p l e R s m args below meth c H locs cells slots (xz S' - xz S) (xu S' - xu S) g rest (x_Q D S v S' (Value.ref b :: vs).toArray) (x_A S) := by
  obtain ⟨hx, hb, hml, ho, hts⟩ := X0
  have hK := x_backB (p := p) (e := e) (below := below) hx hts (Or.inl ⟨hcode, h0⟩) hpl hR hfit hM
  obtain ⟨-, ⟨cellB, hcB, hoB, hclB⟩, hPc⟩ := hp
  intro T hT X
  obtain ⟨v, vm₁, ⟨U', l2, c2, s2⟩, hW₁, X', ⟨g', mk, t, L, e1, e2, hq, h1, hL, h2, h3⟩, st⟩ := va_callVU X hx (C := C) (owner := owner) (bytes := bytes) (maxL := maxL) (ret := ret) ho (hts _ hlink) (hts _ hsame) hdecl ⟨hd.1, hd.2.1⟩ (hts _ hsel) (hts _ hin) (hts _ hcode) hK (by rw [hT]; exact hcB) hoB hclB hg (hsize.trans hml.symm) (argsL := vs) (rest := rest) (x_len hd.2.2 hn) hstack hW (by rw [hb]; exact hdg)
    (fun vm₁ hW₁ => ⟨hf.1, hf.2, hPc (T.setVm vm₁) hT hW₁⟩)
  dsimp only [Pt.U, Pt.locs, Pt.cells, Pt.slots] at X' e1 e2 h1 h2 h3 st
  subst h1; subst h2; subst h3
  exact ⟨v, (T.setVm vm₁).calling g' mk (Value.ref b :: vs).toArray, t, U', L, hT, X', hL, e1, e2, hq, st⟩
theorem xr_callUB {x : MethodName} {owner : String} (B : CallFix p m c cc nL s args lw_all own) (hX : x_I D S0 s H locs S) (hc : x_Bod l y bytes maxL ret [] F' L' D (.ref b :: vs) S (.inr v) S') (hpl : plainName y.cls = true) (hfit : (lg_sl (.ref b :: vs)).length ≤ maxL) (hb : xk S b = k) (hq : x_cl[k]? = some q) (hk : 1 ≤ k ∧ k < 50) (hlink : Cond.methodLink own index x ∈ lw_all) (hsame : Cond.sameMethod x.cls owner x.name x.desc ∈ lw_all) (hdecl : va_Decl s ⟨owner, x.name, x.desc⟩) (hin : Cond.instanceMethod y ∈ lw_all) (hsel : Cond.selects q.1 x y ∈ lw_all) (hcode : Cond.code y bytes maxL ret ∈ lw_all) (hd : owner ≠ "java/lang/invoke/MethodHandle" ∧ owner ≠ "java/lang/invoke/VarHandle" ∧ (parseMethodDescriptor x.desc).map (fun d => d.parameters.length) = some n) (hR : F' + 1 ≤ F ∧ 8 + (maxL + 11) + L' ≤ Lo) (hn : vs.length = n) (hls : ls.size = nL) (hst : st = vs.reverse ++ .ref b :: rest) (hro : (rest.map fun v => v.category).sum ≤ 8) (hdg : decode cc pc = .ok (.invokevirtual index, 3))
    (kk : ∀ (H : Heap) (locs : List Loc), x_I D S0 s H locs S' → W p l e (x_R F Lo S0) s m args below meth c H locs (xz S' - xz S0) (xu S' - xu S0) Q (F0 m (pc + 3) ls (v.toList ++ rest))) : W p l e (x_R F Lo S0) s m args below meth c H locs (xz S - xz S0) (xu S - xu S0) Q (F0 m pc ls st) :=
  xr_back hX (x_runUB (g := F0 m pc ls st) (rest := rest) B hc hpl hfit hlink hsame hdecl hin hsel hcode rfl hd hR ⟨x_blind, x_recv hX hb hq hk, x_preC hX⟩ rfl hn hls hst (lv_room hro) hdg (x_roomL hX)) kk
end XB7
/-! starts of bodies that return -/
section XM7
variable {l : Launch} {y : MethodName} {cc : ByteArray} {nL : Nat} {F Lo : Nat} {vs : List Value} {D : XD} {S S' : XS}
theorem x_bodI {ty : FieldType} {r : Int32} (own : String) (hc : y.cls = own)
    (body : ∀ (p : Program) (e : Env) (s : State) (m : MethodId) (args : Array Value) (below : List Frame) (meth : Method) (c : Code) (Q : State → Prop), CallFix p m c cc nL s args lw_all own → meth.name = y.name →
      (∀ (H : Heap) (locs : List Loc) (ls : Array Slot) (pc : Nat), narrow ty (.int r) = .int r → x_I D S s H locs S' → decode cc pc = .ok (.ireturn, 1) → W p l e (x_R F Lo S) s m args below meth c H locs (xz S' - xz S) (xu S' - xu S) Q (F0 m pc ls [.int r])) →
      ∀ (H : Heap) (locs : List Loc), x_I D S s H locs S → ∀ ls, lv_has ls nL (lv_args 0 vs) → W p l e (x_R F Lo S) s m args below meth c H locs (xz S - xz S) (xu S - xu S) Q (F0 m 0 ls [])) : x_Bod l y cc nL (some ty) [] F Lo D vs S (.inr (some (.int r))) S' := by
  subst hc
  intro p e s m args below meth c B hr hk hnm hh hX ls hl
  refine body p e s m args below meth c _ B hnm (fun H locs ls pc hn hX' hd => ?_) _ _ hX ls hl
  refine W.qmono ?_ (xr_iret B hr hk hX' hn hd)
  rintro t ⟨o, h1, h2, ⟨rfl, h3, h4, h5⟩, L, ⟨-, h6, h7⟩, h8⟩
  exact ⟨h1, h2, h6, h3, h4, h5, L, h7, h8⟩
end XM7
