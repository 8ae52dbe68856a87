set_option maxRecDepth 100000
/-! ROWS X 4: calls through nest mates, through an abstract or inherited name, of a superclass's method -/
section XC4
variable {p : Program} {l : Launch} {e : Env} {R : Room} {s : State} {m : MethodId} {args : Array Value} {below : List Frame} {meth : Method} {c : Code} {H : Heap} {locs : List Loc} {cells slots : Nat} {Q : State → Prop}
variable {cc : ByteArray} {pc nL : Nat} {ls : Array Slot} {rest : List Value} {D : XD} {S0 S S' : XS} {own : String}
variable {y : MethodName} {bytes : ByteArray} {maxL mc ms kc ks n index F' L' : Nat} {ret : Option FieldType} {Pc : Array Value → State → Prop} {Qc : Array Value → State → Outcome → State → Prop} {free : Addr → Prop} {C : String} {b : Addr} {As : List Value} {g : JFrame}
theorem x_back4 (hts : ∀ w ∈ lw_all, w.before args s = true) (hcode : Cond.code y bytes maxL ret ∈ lw_all) (hini : Cond.initialized y.cls ∈ lw_all) (hR : F' + 1 ≤ R.frames ∧ 8 + (maxL + 11) + L' ≤ R.locals) (hM : Met l y (ws_ y bytes maxL ret) ({ frames := F', cells := kc, slots := ks, locals := L' } : Room) Pc Qc mc ms free) (hbl : FrameBlind Pc) : Back l R p e below s args y 3 8 (fun A a => A.cells + kc ≤ R.cells ∧ A.slots + ks ≤ R.slots ∧ Pc a A.U) (PostOf Qc mc ms free) := by
  have hws := pay_in hts (lw_meth hcode)
  have hcw : Cond.code y bytes maxL ret ∈ ws_ y bytes maxL ret := List.mem_cons_self
  have hini := hts _ hini
  have hinit : ∀ a' U, s.WarmedH U.vm → (Cond.initialized y.cls).before a' U = true := fun a' U hW => word_at hW (Or.inl (by first | rfl | simp [Cond.onTables, Cond.keeps, Cond.steady])) hini
  refine Back.of_free (S := headSpec (ws_ y bytes maxL ret) ({ frames := F', cells := kc, slots := ks, locals := L' } : Room)) (P := Pc) (K := fun _ _ _ _ _ => True) (Q := fun a st o t => Qc a st o t ∧ ∃ L, FrameEnd st o t L mc ms ∧ ∀ q ∈ L, free q.base) (bytes := bytes) (maxL := maxL) (ret := ret)
    (E := fun a st o t L k n => k = mc ∧ n = ms ∧ ∀ q ∈ L, free q.base) hM hR.1 hR.2 ?_ ?_ (fun _ _ _ _ _ _ _ _ _ => trivial) ?_ ?_
  · intro m meth c A a X hp
    exact ⟨atoms_intro fun w hw => hws w hw _ _ X.warmed, hws _ hcw _ _ X.warmed, hinit _ _ X.warmed, hp.1, hp.2.1⟩
  · intro m meth c A a g mk X hp
    exact hbl _ _ _ _ hp.2.2
  · intro a st o t ⟨hq, L, hF, hL⟩
    exact ⟨L, mc, ms, hF, rfl, rfl, hL⟩
  · intro m meth c A a g mk v t L k n X hp hq hF ⟨e1, e2, hL⟩
    subst e1; subst e2
    exact ⟨g, mk, t, L, rfl, rfl, hq.1, rfl, hL, rfl, rfl⟩
theorem x_len {d : String} (h : (parseMethodDescriptor d).map (fun d => d.parameters.length) = some n) (hn : As.length = n) : ∀ sig, parseMethodDescriptor d = some sig → As.length = sig.parameters.length := by
  intro sig h2
  rw [h2] at h
  exact hn.trans (Option.some.inj h).symm
theorem x_runVN {host : String} (X0 : CallFix p m c cc nL s args lw_all own) (hM : Met l y (ws_ y bytes maxL ret) ({ frames := F', cells := kc, slots := ks, locals := L' } : Room) Pc Qc mc ms free) (hlink : (Cond.methodLinkNest own index y host).before args s = true) (hin : Cond.instanceMethod y ∈ lw_all) (hsel : Cond.selects C y y ∈ lw_all) (hini : Cond.initialized y.cls ∈ lw_all) (hcode : Cond.code y bytes maxL ret ∈ lw_all) (hd : y.cls ≠ "java/lang/invoke/MethodHandle" ∧ y.cls ≠ "java/lang/invoke/VarHandle" ∧ (parseMethodDescriptor y.desc).map (fun d => d.parameters.length) = some n) (hR : F' + 1 ≤ R.frames ∧ 8 + (maxL + 11) + L' ≤ R.locals) (hp : PreV s H C b Pc As)
    (hg : g.method = m) (hn : As.length = n) (hsize : g.locals.size = nL) (hstack : g.stack = As.reverse ++ .ref b :: rest) (hW : 2 * g.monitorRoom + (rest.map fun v => v.category).sum ≤ 8) (hdg : decode cc g.pc = .ok (.invokevirtual index, 3)) (hf : cells + kc ≤ R.cells ∧ slots + ks ≤ R.slots) :
    va_Run p l e R s m args below meth c H locs cells slots mc ms g rest (Qc (Value.ref b :: As).toArray) (free) := by
  obtain ⟨hx, hb, hml, ho, hts⟩ := X0
  have hK := x_back4 (p := p) (e := e) (below := below) hts hcode hini hR hM hp.1
  obtain ⟨-, ⟨cellB, hcB, hoB, hclB⟩, hPc⟩ := hp
  intro T hT X
  obtain ⟨v, vm₁, ⟨U', l2, c2, s2⟩, hW₁, X', ⟨g', mk, t, L, e1, e2, hq, h1, hL, h2, h3⟩, st⟩ := va_callVN X hx (C := C) (bytes := bytes) (maxL := maxL) (ret := ret) ho hlink (hts _ hin) (hts _ hsel) (hts _ hcode) ⟨hd.1, hd.2.1⟩ hK (by rw [hT]; exact hcB) hoB hclB hg (hsize.trans hml.symm) (argsL := As) (rest := rest) (x_len hd.2.2 hn) hstack hW (by rw [hb]; exact hdg)
    (fun vm₁ hW₁ => ⟨hf.1, hf.2, hPc (T.setVm vm₁) hT hW₁⟩)
  dsimp only [Pt.U, Pt.locs, Pt.cells, Pt.slots] at X' e1 e2 h1 h2 h3 st
  subst h1; subst h2; subst h3
  exact ⟨v, (T.setVm vm₁).calling g' mk (Value.ref b :: As).toArray, t, U', L, hT, X', hL, e1, e2, hq, st⟩
theorem x_runIN {host : String} (X0 : CallFix p m c cc nL s args lw_all own) (hM : Met l y (ws_ y bytes maxL none) ({ frames := F', cells := kc, slots := ks, locals := L' } : Room) Pc Qc mc ms free) (hlink : (Cond.methodLinkNest own index y host).before args s = true) (hin : Cond.instanceMethod y ∈ lw_all) (hini : Cond.initialized y.cls ∈ lw_all) (hcode : Cond.code y bytes maxL none ∈ lw_all) (hd : y.cls ≠ "java/lang/invoke/MethodHandle" ∧ y.cls ≠ "java/lang/invoke/VarHandle" ∧ (parseMethodDescriptor y.desc).map (fun d => d.parameters.length) = some n) (hy1 : y.name = "<init>") (hR : F' + 1 ≤ R.frames ∧ 8 + (maxL + 11) + L' ≤ R.locals) (hp : PreS s H Pc (.ref b :: As))
    (hg : g.method = m) (hn : As.length = n) (hsize : g.locals.size = nL) (hstack : g.stack = As.reverse ++ .ref b :: rest) (hW : 2 * g.monitorRoom + (rest.map fun v => v.category).sum ≤ 8) (hdg : decode cc g.pc = .ok (.invokespecial index, 3)) (hf : cells + kc ≤ R.cells ∧ slots + ks ≤ R.slots) :
    va_Run p l e R s m args below meth c H locs cells slots mc ms g rest (Qc (Value.ref b :: As).toArray) (free) := by
  obtain ⟨hx, hb, hml, ho, hts⟩ := X0
  have hK := x_back4 (p := p) (e := e) (below := below) hts hcode hini hR hM hp.1
  have hPc := hp.2
  intro T hT X
  obtain ⟨v, vm₁, ⟨U', l2, c2, s2⟩, hW₁, X', ⟨g', mk, t, L, e1, e2, hq, h1, hL, h2, h3⟩, st⟩ := va_callIN X hx (bytes := bytes) (maxL := maxL) ho hy1 hlink (hts _ hin) (hts _ hcode) ⟨hd.1, hd.2.1⟩ hK hg (hsize.trans hml.symm) (a := b) (argsL := As) (rest := rest) (x_len hd.2.2 hn) hstack hW (by rw [hb]; exact hdg)
    (fun vm₁ hW₁ => ⟨hf.1, hf.2, hPc (T.setVm vm₁) hT hW₁⟩)
  dsimp only [Pt.U, Pt.locs, Pt.cells, Pt.slots] at X' e1 e2 h1 h2 h3 st
  subst h1; subst h2; subst h3
  exact ⟨v, (T.setVm vm₁).calling g' mk (Value.ref b :: As).toArray, t, U', L, hT, X', hL, e1, e2, hq, st⟩
/-- a call whose name x is declared in 'owner' and whose receiver's class C selects y -/
theorem x_runU {x : MethodName} {owner : String} (X0 : CallFix p m c cc nL s args lw_all own) (hM : Met l y (ws_ y bytes maxL ret) ({ frames := F', cells := kc, slots := ks, locals := L' } : Room) Pc Qc mc ms free) (hlink : Cond.methodLink own index x ∈ lw_all) (hsame : Cond.sameMethod x.cls owner x.name x.desc ∈ lw_all) (hdecl : va_Decl s ⟨owner, x.name, x.desc⟩) (hin : Cond.instanceMethod y ∈ lw_all) (hsel : Cond.selects C x y ∈ lw_all) (hini : Cond.initialized y.cls ∈ lw_all) (hcode : Cond.code y bytes maxL ret ∈ lw_all) (hd : owner ≠ "java/lang/invoke/MethodHandle" ∧ owner ≠ "java/lang/invoke/VarHandle" ∧ (parseMethodDescriptor x.desc).map (fun d => d.parameters.length) = some n) (hR : F' + 1 ≤ R.frames ∧ 8 + (maxL + 11) + L' ≤ R.locals) (hp : PreV s H C b Pc As)
    (hg : g.method = m) (hn : As.length = n) (hsize : g.locals.size = nL) (hstack : g.stack = As.reverse ++ .ref b :: rest) (hW : 2 * g.monitorRoom + (rest.map fun v => v.category).sum ≤ 8) (hdg : decode cc g.pc = .ok (.invokevirtual index, 3)) (hf : cells + kc ≤ R.cells ∧ slots + ks ≤ R.slots) :
    va_Run p l e R s m args below meth c H locs cells slots mc ms g rest (Qc (Value.ref b :: As).toArray) (free) := by
  obtain ⟨hx, hb, hml, ho, hts⟩ := X0
  have hK := x_back4 (p := p) (e := e) (below := below) hts hcode hini hR hM hp.1
  obtain ⟨-, ⟨cellB, hcB, hoB, hclB⟩, hPc⟩ := hp
  intro T hT X
  obtain ⟨v, vm₁, ⟨U', l2, c2, s2⟩, hW₁, X', ⟨g', mk, t, L, e1, e2, hq, h1, hL, h2, h3⟩, st⟩ := va_callVU X hx (C := C) (owner := owner) (bytes := bytes) (maxL := maxL) (ret := ret) ho (hts _ hlink) (hts _ hsame) hdecl ⟨hd.1, hd.2.1⟩ (hts _ hsel) (hts _ hin) (hts _ hcode) hK (by rw [hT]; exact hcB) hoB hclB hg (hsize.trans hml.symm) (argsL := As) (rest := rest) (x_len hd.2.2 hn) hstack hW (by rw [hb]; exact hdg)
    (fun vm₁ hW₁ => ⟨hf.1, hf.2, hPc (T.setVm vm₁) hT hW₁⟩)
  dsimp only [Pt.U, Pt.locs, Pt.cells, Pt.slots] at X' e1 e2 h1 h2 h3 st
  subst h1; subst h2; subst h3
  exact ⟨v, (T.setVm vm₁).calling g' mk (Value.ref b :: As).toArray, t, U', L, hT, X', hL, e1, e2, hq, st⟩
theorem x_runSU (X0 : CallFix p m c cc nL s args lw_all own) (hM : Met l y (ws_ y bytes maxL ret) ({ frames := F', cells := kc, slots := ks, locals := L' } : Room) Pc Qc mc ms free) (hlink : Cond.methodLink own index y ∈ lw_all) (hsame : Cond.sameMethod y.cls y.cls y.name y.desc ∈ lw_all) (hsup : Cond.superclass own y.cls ∈ lw_all) (hin : Cond.instanceMethod y ∈ lw_all) (hini : Cond.initialized y.cls ∈ lw_all) (hcode : Cond.code y bytes maxL ret ∈ lw_all) (hd : y.name ≠ "<init>" ∧ (parseMethodDescriptor y.desc).map (fun d => d.parameters.length) = some n) (hR : F' + 1 ≤ R.frames ∧ 8 + (maxL + 11) + L' ≤ R.locals) (hp : PreV s H C b Pc As)
    (hg : g.method = m) (hn : As.length = n) (hsize : g.locals.size = nL) (hstack : g.stack = As.reverse ++ .ref b :: rest) (hW : 2 * g.monitorRoom + (rest.map fun v => v.category).sum ≤ 8) (hdg : decode cc g.pc = .ok (.invokespecial index, 3)) (hf : cells + kc ≤ R.cells ∧ slots + ks ≤ R.slots) :
    va_Run p l e R s m args below meth c H locs cells slots mc ms g rest (Qc (Value.ref b :: As).toArray) (free) := by
  obtain ⟨hx, hb, hml, ho, hts⟩ := X0
  have hK := x_back4 (p := p) (e := e) (below := below) hts hcode hini hR hM hp.1
  obtain ⟨-, ⟨cellB, hcB, hoB, hclB⟩, hPc⟩ := hp
  obtain ⟨kB, hkB, -⟩ := Vm.findClass_spec hclB
  intro T hT X
  obtain ⟨v, vm₁, ⟨U', l2, c2, s2⟩, hW₁, X', ⟨g', mk, t, L, e1, e2, hq, h1, hL, h2, h3⟩, st⟩ := va_callSU X hx (bytes := bytes) (maxL := maxL) (ret := ret) ho (hts _ hlink) (hts _ hsame) (hts _ hsup) (hts _ hin) (hts _ hcode) hd.1 hK (by rw [hT]; exact hcB) hoB hkB hg (hsize.trans hml.symm) (argsL := As) (rest := rest) (x_len hd.2 hn) hstack hW (by rw [hb]; exact hdg)
    (fun vm₁ hW₁ => ⟨hf.1, hf.2, hPc (T.setVm vm₁) hT hW₁⟩)
  dsimp only [Pt.U, Pt.locs, Pt.cells, Pt.slots] at X' e1 e2 h1 h2 h3 st
  subst h1; subst h2; subst h3
  exact ⟨v, (T.setVm vm₁).calling g' mk (Value.ref b :: As).toArray, t, U', L, hT, X', hL, e1, e2, hq, st⟩
/-- a pure static method of a nest mate -/
theorem pr_callSN {host : String} {st : List Value} {r : Value} (B : CallFix p m c cc nL s args lw_all own) (hc : p_Met l y bytes maxL ret ({ frames := F', cells := 0, slots := 0, locals := L' } : Room) As (some r)) (hlink : (Cond.methodLinkNest own index y host).before args s = true) (hst0 : Cond.static y ∈ lw_all) (hini : Cond.initialized y.cls ∈ lw_all) (hcode : Cond.code y bytes maxL ret ∈ lw_all) (hd : y.cls ≠ "java/lang/invoke/MethodHandle" ∧ y.cls ≠ "java/lang/invoke/VarHandle" ∧ (parseMethodDescriptor y.desc).map (fun d => d.parameters.length) = some n) (hR : F' + 1 ≤ R.frames ∧ 8 + (maxL + 11) + L' ≤ R.locals) (hn : As.length = n) (hls : ls.size = nL) (hst : st = As.reverse ++ rest) (hro : (rest.map fun v => v.category).sum ≤ 8) (hdg : decode cc pc = .ok (.invokestatic index, 3)) (hcs : cells ≤ R.cells ∧ slots ≤ R.slots)
    (kk : W p l e R s m args below meth c H locs cells slots Q (F0 m (pc + 3) ls (r :: rest))) : W p l e R s m args below meth c H locs cells slots Q (F0 m pc ls st) := by
  obtain ⟨hx, hb, hml, ho, hts⟩ := id B
  have hK := x_back4 (p := p) (e := e) (below := below) (R := R) hts hcode hini hR hc (fun _ _ _ _ q => q)
  intro T hT X
  obtain ⟨v, vm₁, ⟨U', l2, c2, s2⟩, hW₁, X', ⟨g', mk, t, L, e1, e2, hq, h1, hL, h2, h3⟩, stp⟩ := va_callSN X hx (bytes := bytes) (maxL := maxL) (ret := ret) ho hlink (hts _ hst0) (hts _ hini) (hts _ hcode) ⟨hd.1, hd.2.1⟩ hK (g := F0 m pc ls st) rfl (hls.trans hml.symm) (argsL := As) (rest := rest) (x_len hd.2.2 hn) hst (lv_room hro) (by rw [hb]; exact hdg)
    (fun vm₁ hW₁ => ⟨hcs.1, hcs.2, rfl, trivial⟩)
  dsimp only [Pt.U, Pt.locs, Pt.cells, Pt.slots] at X' e1 e2 h1 h2 h3 stp
  subst h1; subst h2; subst h3
  obtain ⟨hv, hh⟩ := hq
  cases hv
  obtain ⟨t2, a1, b1⟩ := kk U' (by rw [e1, hh]; exact hT) (Stand.forget X' (fun q h => (hL q h).elim))
  exact ⟨t2, stp t2 a1, b1⟩
end XC4
section XB4
variable {p : Program} {l : Launch} {e : Env} {s : State} {m : MethodId} {args : Array Value} {below : List Frame} {meth : Method} {c : Code} {H : Heap} {locs : List Loc} {Q : State → Prop}
variable {cc : ByteArray} {pc nL : Nat} {ls : Array Slot} {rest : List Value} {D : XD} {S0 S S' : XS} {own : String} {F Lo : Nat}
variable {y : MethodName} {bytes : ByteArray} {nL' n index F' L' b k : Nat} {ret' : Option FieldType} {vs st : List Value} {v : Option Value} {q : vw_C}
theorem xr_callVN {host : String} (B : CallFix p m c cc nL s args lw_all own) (hX : x_I D S0 s H locs S) (hc : x_Met l y bytes nL' ret' F' L' D (.ref b :: vs) S v S') (hb : xk S b = k) (hq : x_cl[k]? = some q) (hk : 1 ≤ k ∧ k < 50) (hlink : Cond.methodLinkNest own index y host ∈ x_nw) (hin : Cond.instanceMethod y ∈ lw_all) (hsel : Cond.selects q.1 y y ∈ lw_all) (hini : Cond.initialized y.cls ∈ lw_all) (hcode : Cond.code y bytes nL' ret' ∈ lw_all) (hd : y.cls ≠ "java/lang/invoke/MethodHandle" ∧ y.cls ≠ "java/lang/invoke/VarHandle" ∧ (parseMethodDescriptor y.desc).map (fun d => d.parameters.length) = some n) (hR : F' + 1 ≤ F ∧ 8 + (nL' + 11) + L' ≤ Lo) (hn : vs.length = n) (hls : ls.size = nL) (hst : st = vs.reverse ++ .ref b :: rest) (hro : (rest.map fun v => v.category).sum ≤ 8) (hdg : decode cc pc = .ok (.invokevirtual index, 3))
    (kk : ∀ (H : Heap) (locs : List Loc), x_I D S0 s H locs S' → W p l e (x_R F Lo S0) s m args below meth c H locs (xz S' - xz S0) (xu S' - xu S0) Q (F0 m (pc + 3) ls (v.toList ++ rest))) : W p l e (x_R F Lo S0) s m args below meth c H locs (xz S - xz S0) (xu S - xu S0) Q (F0 m pc ls st) :=
  xr_back hX (x_runVN (g := F0 m pc ls st) (rest := rest) B hc (hX.2.2.1.use hlink rfl) hin hsel hini hcode hd hR ⟨x_blind, x_recv hX hb hq hk, x_preC hX⟩ rfl hn hls hst (lv_room hro) hdg (x_roomL hX)) kk
theorem xr_callIN {host : String} (B : CallFix p m c cc nL s args lw_all own) (hX : x_I D S0 s H locs S) (hc : x_Met l y bytes nL' none F' L' D (.ref b :: vs) S v S') (hlink : Cond.methodLinkNest own index y host ∈ x_nw) (hin : Cond.instanceMethod y ∈ lw_all) (hini : Cond.initialized y.cls ∈ lw_all) (hcode : Cond.code y bytes nL' none ∈ lw_all) (hd : y.cls ≠ "java/lang/invoke/MethodHandle" ∧ y.cls ≠ "java/lang/invoke/VarHandle" ∧ (parseMethodDescriptor y.desc).map (fun d => d.parameters.length) = some n) (hy1 : y.name = "<init>") (hR : F' + 1 ≤ F ∧ 8 + (nL' + 11) + L' ≤ Lo) (hn : vs.length = n) (hls : ls.size = nL) (hst : st = vs.reverse ++ .ref b :: rest) (hro : (rest.map fun v => v.category).sum ≤ 8) (hdg : decode cc pc = .ok (.invokespecial index, 3))
    (kk : ∀ (H : Heap) (locs : List Loc), x_I D S0 s H locs S' → W p l e (x_R F Lo S0) s m args below meth c H locs (xz S' - xz S0) (xu S' - xu S0) Q (F0 m (pc + 3) ls (v.toList ++ rest))) : W p l e (x_R F Lo S0) s m args below meth c H locs (xz S - xz S0) (xu S - xu S0) Q (F0 m pc ls st) :=
  xr_back hX (x_runIN (g := F0 m pc ls st) (rest := rest) B hc (hX.2.2.1.use hlink rfl) hin hini hcode hd hy1 hR ⟨x_blind, x_preC hX⟩ rfl hn hls hst (lv_room hro) hdg (x_roomL hX)) kk
theorem xr_callU {x : MethodName} {owner : String} (B : CallFix p m c cc nL s args lw_all own) (hX : x_I D S0 s H locs S) (hc : x_Met l y bytes nL' ret' F' L' D (.ref b :: vs) S v S') (hb : xk S b = k) (hq : x_cl[k]? = some q) (hk : 1 ≤ k ∧ k < 50) (hlink : Cond.methodLink own index x ∈ lw_all) (hsame : Cond.sameMethod x.cls owner x.name x.desc ∈ lw_all) (hdecl : va_Decl s ⟨owner, x.name, x.desc⟩) (hin : Cond.instanceMethod y ∈ lw_all) (hsel : Cond.selects q.1 x y ∈ lw_all) (hini : Cond.initialized y.cls ∈ lw_all) (hcode : Cond.code y bytes nL' ret' ∈ lw_all) (hd : owner ≠ "java/lang/invoke/MethodHandle" ∧ owner ≠ "java/lang/invoke/VarHandle" ∧ (parseMethodDescriptor x.desc).map (fun d => d.parameters.length) = some n) (hR : F' + 1 ≤ F ∧ 8 + (nL' + 11) + L' ≤ Lo) (hn : vs.length = n) (hls : ls.size = nL) (hst : st = vs.reverse ++ .ref b :: rest) (hro : (rest.map fun v => v.category).sum ≤ 8) (hdg : decode cc pc = .ok (.invokevirtual index, 3))
    (kk : ∀ (H : Heap) (locs : List Loc), x_I D S0 s H locs S' → W p l e (x_R F Lo S0) s m args below meth c H locs (xz S' - xz S0) (xu S' - xu S0) Q (F0 m (pc + 3) ls (v.toList ++ rest))) : W p l e (x_R F Lo S0) s m args below meth c H locs (xz S - xz S0) (xu S - xu S0) Q (F0 m pc ls st) :=
  xr_back hX (x_runU (g := F0 m pc ls st) (rest := rest) B hc hlink hsame hdecl hin hsel hini hcode hd hR ⟨x_blind, x_recv hX hb hq hk, x_preC hX⟩ rfl hn hls hst (lv_room hro) hdg (x_roomL hX)) kk
theorem xr_callSU (B : CallFix p m c cc nL s args lw_all own) (hX : x_I D S0 s H locs S) (hc : x_Met l y bytes nL' ret' F' L' D (.ref b :: vs) S v S') (hb : xk S b = k) (hq : x_cl[k]? = some q) (hk : 1 ≤ k ∧ k < 50) (hlink : Cond.methodLink own index y ∈ lw_all) (hsame : Cond.sameMethod y.cls y.cls y.name y.desc ∈ lw_all) (hsup : Cond.superclass own y.cls ∈ lw_all) (hin : Cond.instanceMethod y ∈ lw_all) (hini : Cond.initialized y.cls ∈ lw_all) (hcode : Cond.code y bytes nL' ret' ∈ lw_all) (hd : y.name ≠ "<init>" ∧ (parseMethodDescriptor y.desc).map (fun d => d.parameters.length) = some n) (hR : F' + 1 ≤ F ∧ 8 + (nL' + 11) + L' ≤ Lo) (hn : vs.length = n) (hls : ls.size = nL) (hst : st = vs.reverse ++ .ref b :: rest) (hro : (rest.map fun v => v.category).sum ≤ 8) (hdg : decode cc pc = .ok (.invokespecial index, 3))
    (kk : ∀ (H : Heap) (locs : List Loc), x_I D S0 s H locs S' → W p l e (x_R F Lo S0) s m args below meth c H locs (xz S' - xz S0) (xu S' - xu S0) Q (F0 m (pc + 3) ls (v.toList ++ rest))) : W p l e (x_R F Lo S0) s m args below meth c H locs (xz S - xz S0) (xu S - xu S0) Q (F0 m pc ls st) :=
  xr_back hX (x_runSU (g := F0 m pc ls st) (rest := rest) B hc hlink hsame hsup hin hini hcode hd hR ⟨x_blind, x_recv hX hb hq hk, x_preC hX⟩ rfl hn hls hst (lv_room hro) hdg (x_roomL hX)) kk
theorem x_room0 (hX : x_I D S0 s H locs S) : (xz S - xz S0) ≤ (x_R F Lo S0).cells ∧ (xu S - xu S0) ≤ (x_R F Lo S0).slots := by
  have h := x_roomL (F := F) (Lo := Lo) hX
  omega
end XB4
/-! starts and ends by the kind of answer -/
section XM4
variable {l : Launch} {y : MethodName} {cc : ByteArray} {nL : Nat} {F Lo : Nat} {vs : List Value} {D : XD} {S S' : XS}
theorem x_metI {ty : FieldType} {r : Int32} (own : String) (hy : plainName y.cls = true) (hc : y.cls = own) (hfit : (lg_sl vs).length ≤ nL)
    (body : ∀ (p : Program) (e : Env) (s : State) (m : MethodId) (args : Array Value) (below : List Frame) (meth : Method) (c : Code) (Q : State → Prop), CallFix p m c cc nL s args lw_all own → meth.name = y.name →
      (∀ (H : Heap) (locs : List Loc) (ls : Array Slot) (pc : Nat), narrow ty (.int r) = .int r → x_I D S s H locs S' → decode cc pc = .ok (.ireturn, 1) → W p l e (x_R F Lo S) s m args below meth c H locs (xz S' - xz S) (xu S' - xu S) Q (F0 m pc ls [.int r])) →
      ∀ (H : Heap) (locs : List Loc), x_I D S s H locs S → ∀ ls, lv_has ls nL (lv_args 0 vs) → W p l e (x_R F Lo S) s m args below meth c H locs (xz S - xz S) (xu S - xu S) Q (F0 m 0 ls [])) : x_Met l y cc nL (some ty) F Lo D vs S (some (.int r)) S' :=
  x_met own hy hc hfit (fun p e s m args below meth c B hr hlk hnm hX ls hl => body p e s m args below meth c _ B hnm (fun H locs ls pc hn hX hd => xr_iret B hr hlk hX hn hd) _ _ hX ls hl)
theorem x_metV (own : String) (hy : plainName y.cls = true) (hc : y.cls = own) (hfit : (lg_sl vs).length ≤ nL)
    (body : ∀ (p : Program) (e : Env) (s : State) (m : MethodId) (args : Array Value) (below : List Frame) (meth : Method) (c : Code) (Q : State → Prop), CallFix p m c cc nL s args lw_all own → meth.name = y.name →
      (∀ (H : Heap) (locs : List Loc) (ls : Array Slot) (pc : Nat), x_I D S s H locs S' → decode cc pc = .ok (.return_, 1) → W p l e (x_R F Lo S) s m args below meth c H locs (xz S' - xz S) (xu S' - xu S) Q (F0 m pc ls [])) →
      ∀ (H : Heap) (locs : List Loc), x_I D S s H locs S → ∀ ls, lv_has ls nL (lv_args 0 vs) → W p l e (x_R F Lo S) s m args below meth c H locs (xz S - xz S) (xu S - xu S) Q (F0 m 0 ls [])) : x_Met l y cc nL none F Lo D vs S none S' :=
  x_met own hy hc hfit (fun p e s m args below meth c B hr hlk hnm hX ls hl => body p e s m args below meth c _ B hnm (fun H locs ls pc hX hd => xr_vret B hr hlk hX hd) _ _ hX ls hl)
theorem x_metL {r : Int64} (own : String) (hy : plainName y.cls = true) (hc : y.cls = own) (hfit : (lg_sl vs).length ≤ nL)
    (body : ∀ (p : Program) (e : Env) (s : State) (m : MethodId) (args : Array Value) (below : List Frame) (meth : Method) (c : Code) (Q : State → Prop), CallFix p m c cc nL s args lw_all own → meth.name = y.name →
      (∀ (H : Heap) (locs : List Loc) (ls : Array Slot) (pc : Nat), x_I D S s H locs S' → decode cc pc = .ok (.lreturn, 1) → W p l e (x_R F Lo S) s m args below meth c H locs (xz S' - xz S) (xu S' - xu S) Q (F0 m pc ls [.long r])) →
      ∀ (H : Heap) (locs : List Loc), x_I D S s H locs S → ∀ ls, lv_has ls nL (lv_args 0 vs) → W p l e (x_R F Lo S) s m args below meth c H locs (xz S - xz S) (xu S - xu S) Q (F0 m 0 ls [])) : x_Met l y cc nL (some .long) F Lo D vs S (some (.long r)) S' :=
  x_met own hy hc hfit (fun p e s m args below meth c B hr hlk hnm hX ls hl => body p e s m args below meth c _ B hnm (fun H locs ls pc hX hd => xr_lret B hr hlk hX hd) _ _ hX ls hl)
theorem x_metA {rt : FieldType} {r : Nat} (own : String) (hy : plainName y.cls = true) (hc : y.cls = own) (hfit : (lg_sl vs).length ≤ nL) (hrt : (∃ n, rt = .object n) ∨ ∃ t, rt = .array t)
    (body : ∀ (p : Program) (e : Env) (s : State) (m : MethodId) (args : Array Value) (below : List Frame) (meth : Method) (c : Code) (Q : State → Prop), CallFix p m c cc nL s args lw_all own → meth.name = y.name →
      (∀ (H : Heap) (locs : List Loc) (ls : Array Slot) (pc : Nat), x_I D S s H locs S' → decode cc pc = .ok (.areturn, 1) → W p l e (x_R F Lo S) s m args below meth c H locs (xz S' - xz S) (xu S' - xu S) Q (F0 m pc ls [.ref r])) →
      ∀ (H : Heap) (locs : List Loc), x_I D S s H locs S → ∀ ls, lv_has ls nL (lv_args 0 vs) → W p l e (x_R F Lo S) s m args below meth c H locs (xz S - xz S) (xu S - xu S) Q (F0 m 0 ls [])) : x_Met l y cc nL (some rt) F Lo D vs S (some (.ref r)) S' :=
  x_met own hy hc hfit (fun p e s m args below meth c B hr hlk hnm hX ls hl => body p e s m args below meth c _ B hnm (fun H locs ls pc hX hd => xr_aret (r := some r) B hr hrt hlk hX hd) _ _ hX ls hl)
end XM4
/-! facts that go along -/
section XF4
variable {S S' : XS} {a b k : Nat}
theorem ks_i {r i x : Nat} {v : Int32} (e : S' = s_i S r x i v) (h : xk S b = k) : xk S' b = k := by subst e; exact h
theorem ks_l {r i x : Nat} {v : Int64} (e : S' = s_l S r x i v) (h : xk S b = k) : xk S' b = k := by subst e; exact h
theorem ks_r {r i x : Nat} {v : Option Nat} (e : S' = s_r S r x i v) (h : xk S b = k) : xk S' b = k := by subst e; exact h
theorem kw_i {r i x : Nat} {v : Int32} (e : S' = s_i S r x i v) (h : xb S ≤ b) : xb S' ≤ b := by subst e; exact h
theorem kw_l {r i x : Nat} {v : Int64} (e : S' = s_l S r x i v) (h : xb S ≤ b) : xb S' ≤ b := by subst e; exact h
theorem kw_r {r i x : Nat} {v : Option Nat} (e : S' = s_r S r x i v) (h : xb S ≤ b) : xb S' ≤ b := by subst e; exact h
theorem ks_n {n c : Nat} {D : XD} {S0 : XS} {s : State} {H : Heap} {locs : List Loc} {kn : Nat} (hX : x_I D S0 s H locs S) (e : S' = n_c S kn n c) (hk : k ≠ 0) (h : xk S b = k) : xk S' b = k := by
  subst e
  have hb := (hX.1.2 b (by rw [h]; exact hk)).1
  exact (if_neg (Nat.ne_of_lt hb)).trans h
theorem kw_n {n c kn : Nat} (e : S' = n_c S kn n c) (h : xb S ≤ b) : xb S' ≤ b := by subst e; exact h
theorem ks_new {n c kn : Nat} (e : S' = n_c S kn n c) (ea : a = xz S) : xk S' a = kn := by subst e; subst ea; exact if_pos rfl
theorem kw_new {n c kn : Nat} {D : XD} {S0 : XS} {s : State} {H : Heap} {locs : List Loc} (hX : x_I D S0 s H locs S) (e : S' = n_c S kn n c) (ea : a = xz S) : xb S' ≤ a := by subst e; subst ea; exact hX.2.2.2.1.1
theorem x_Vi {c j : Nat} (h : x_ty c j = 0) (hc : c ≤ 22) : x_V S c j a = .int (xi S (100 * c + j) a 0) := by simp [x_V, x_rg, h, hc]
theorem x_Vl {c j : Nat} (h : x_ty c j = 1) (hc : c ≤ 22) : x_V S c j a = .long (xl S (100 * c + j) a 0) := by simp [x_V, x_rg, h, hc]
theorem x_Vr {c j : Nat} (h : x_ty c j = 2) (hc : c ≤ 22) {o : Option Nat} (ho : xr S (100 * c + j) a 0 = o) : x_V S c j a = va_rf o := by simp [x_V, x_rg, h, hc, ho]
def oc {β : Type} (o : Option Nat) (A : Option β) (K : Nat → Option β) : Option β := match o with
  | none => A
  | some b => K b
theorem oc_none {β : Type} {o : Option Nat} {A : Option β} {K : Nat → Option β} {y : β} (h : o = none) (hf : oc o A K = some y) : A = some y := by subst h; exact hf
theorem oc_some {β : Type} {o : Option Nat} {A : Option β} {K : Nat → Option β} {y : β} {b : Nat} (h : o = some b) (hf : oc o A K = some y) : K b = some y := by subst h; exact hf
end XF4
