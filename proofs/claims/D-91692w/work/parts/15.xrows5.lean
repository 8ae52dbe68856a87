set_option maxRecDepth 100000
/-! ROWS X 5: calls by words, natives, casts of arrays and parts, small facts -/
theorem nar_b {v : Int32} (h : vp_nar .byte v = v) : narrow .byte (.int v) = .int v := by rw [vp_nar_byte] at h; show Value.int _ = _; rw [h]
theorem fit_b {v : Int32} (h : vp_nar .byte v = v) : fits .byte (.int v) = true := by rw [← h]; exact x_nb v
theorem nar_c {v : Int32} (h : vp_nar .char v = v) : narrow .char (.int v) = .int v := by rw [vp_nar_char] at h; show Value.int _ = _; rw [h]
theorem xn_by {n c : Nat} (h : n ≤ 60000000) (hc : c ≤ 8) : n * c ≤ 536870912 := by
  calc n * c ≤ 60000000 * 8 := Nat.mul_le_mul h hc
    _ ≤ 536870912 := by decide
theorem xn_by4 {n : Nat} (h : n ≤ 60000000) : n * 4 ≤ 536870912 := by omega
/-- an object that an Object[] takes -/
def x_okO (S : XS) (b : Nat) : Bool := xk S b == 5 || xk S b == 6 || xk S b == 7 || xk S b == 22
def x_okQ (S : XS) (o : Option Nat) : Bool := match o with
  | none => true
  | some b => x_okO S b
/-- what System.arraycopy leaves -/
def s_cp (S : XS) (k a sp b dp n : Nat) : XS := (fun r c i => if r = k ∧ c = b ∧ dp ≤ i ∧ i < dp + n then xi S k a (sp + (i - dp)) else xi S r c i, fun r c i => if r = k ∧ c = b ∧ dp ≤ i ∧ i < dp + n then xl S k a (sp + (i - dp)) else xl S r c i, fun r c i => if r = k ∧ c = b ∧ dp ≤ i ∧ i < dp + n then xr S k a (sp + (i - dp)) else xr S r c i, xk S, xn S, xs S, xz S, xu S, xL S, xU S, xb S)
/-- a clone of the byte array a -/
def n_cl (S : XS) (a : Nat) : XS := (fun r c i => if c = xz S then (if r = 51 then xi S 51 a i else 0) else xi S r c i, fun r c i => if c = xz S then 0 else xl S r c i, fun r c i => if c = xz S then none else xr S r c i, fun c => if c = xz S then 51 else xk S c, fun c => if c = xz S then xn S a else xn S c, xs S, xz S + 1, xu S + xn S a, xL S, xU S, xb S)
theorem p_metL {l : Launch} {y : MethodName} {cc : ByteArray} {nL : Nat} {F L : Nat} {vs : List Value} {r : Int64} (own : String) (hy : plainName y.cls = true) (hc : y.cls = own) (hfit : (lg_sl vs).length ≤ nL)
    (body : ∀ (p : Program) (e : Env) (s : State) (m : MethodId) (args : Array Value) (below : List Frame) (meth : Method) (c : Code) (Q : State → Prop), CallFix p m c cc nL s args lw_all own →
      (∀ (ls : Array Slot) (pc : Nat), decode cc pc = .ok (.lreturn, 1) → W p l e ({ frames := F, cells := 0, slots := 0, locals := L } : Room) s m args below meth c s.heap [] 0 0 Q (F0 m pc ls [.long r])) →
      ∀ ls, lv_has ls nL (lv_args 0 vs) → W p l e ({ frames := F, cells := 0, slots := 0, locals := L } : Room) s m args below meth c s.heap [] 0 0 Q (F0 m 0 ls [])) : p_Met l y cc nL (some .long) ({ frames := F, cells := 0, slots := 0, locals := L } : Room) vs (some (.long r)) := by
  refine Met.ofW (cc := cc) (maxL := nL) (ret := some .long) hy rfl ?_
  intro p e s m args below meth c s₁ B hml hv
  obtain ⟨rfl, -⟩ := hv
  have hts := atoms_spec (ws := ws_ y cc nL (some .long)) B.pre
  have hts : ∀ w ∈ lw_all, w.before _ s = true := fun w h => hts w (List.mem_cons_of_mem _ h)
  have hown : s.vm.findClass own = some m.cls := by rw [← hc]; exact findClass_of_methodNamed B.named
  have hl := lv_entry vs (n := nL) hfit
  rw [lg_entry_eq]
  generalize (lg_sl vs ++ List.replicate (nL - (lg_sl vs).length) Slot.unset).toArray = ls at hl ⊢
  exact body p e s m _ below meth c _ ⟨B.exec, B.bytes, hml, hown, hts⟩ (fun ls pc hd => W.lret (v := r) B.exec B.bytes B.returns (fun t ht _ => ⟨rfl, ht⟩) (fun q h => by cases h) hd B.notSynchronized) ls hl
section XC5
variable {p : Program} {l : Launch} {e : Env} {R : Room} {s : State} {m : MethodId} {args : Array Value} {below : List Frame} {meth : Method} {c : Code} {H : Heap} {locs : List Loc} {cells slots : Nat} {Q : State → Prop}
variable {cc : ByteArray} {pc nL : Nat} {ls : Array Slot} {rest : List Value} {D : XD} {S0 S S' : XS} {own : String}
variable {y : MethodName} {bytes : ByteArray} {maxL mc ms kc ks n index F' L' : Nat} {ret : Option FieldType} {Pc : Array Value → State → Prop} {Qc : Array Value → State → Outcome → State → Prop} {free : Addr → Prop} {C : String} {b : Addr} {As : List Value} {g : JFrame}
theorem x_runVC (X0 : CallFix p m c cc nL s args lw_all own) (hM : Met l y (ws_ y bytes maxL ret) ({ frames := F', cells := kc, slots := ks, locals := L' } : Room) Pc Qc mc ms free) (hlink : (Cond.methodLink own index y).before args s = true) (hin : Cond.instanceMethod y ∈ lw_all) (hsel : (Cond.selects C y y).before args s = true) (hini : Cond.initialized y.cls ∈ lw_all) (hcode : Cond.code y bytes maxL ret ∈ lw_all) (hd : y.cls ≠ "java/lang/invoke/MethodHandle" ∧ y.cls ≠ "java/lang/invoke/VarHandle" ∧ (parseMethodDescriptor y.desc).map (fun d => d.parameters.length) = some n) (hR : F' + 1 ≤ R.frames ∧ 8 + (maxL + 11) + L' ≤ R.locals) (hp : PreV s H C b Pc As)
    (hg : g.method = m) (hn : As.length = n) (hsize : g.locals.size = nL) (hstack : g.stack = As.reverse ++ .ref b :: rest) (hW : 2 * g.monitorRoom + (rest.map fun v => v.category).sum ≤ 8) (hdg : decode cc g.pc = .ok (.invokevirtual index, 3)) (hf : cells + kc ≤ R.cells ∧ slots + ks ≤ R.slots) :
    va_Run p l e R s m args below meth c H locs cells slots mc ms g rest (Qc (Value.ref b :: As).toArray) (free) := by
  obtain ⟨hx, hb, hml, ho, hts⟩ := X0
  have hK := x_back4 (p := p) (e := e) (below := below) hts hcode hini hR hM hp.1
  obtain ⟨-, ⟨cellB, hcB, hoB, hclB⟩, hPc⟩ := hp
  intro T hT X
  obtain ⟨v, vm₁, ⟨U', l2, c2, s2⟩, hW₁, X', ⟨g', mk, t, L, e1, e2, hq, h1, hL, h2, h3⟩, st⟩ := callV X hx (C := C) (bytes := bytes) (maxL := maxL) (ret := ret) ho hlink (hts _ hin) hsel (hts _ hcode) ⟨hd.1, hd.2.1⟩ hK (by rw [hT]; exact hcB) hoB hclB hg (hsize.trans hml.symm) (argsL := As) (rest := rest) (x_len hd.2.2 hn) hstack hW (by rw [hb]; exact hdg)
    (fun vm₁ hW₁ => ⟨hf.1, hf.2, hPc (T.setVm vm₁) hT hW₁⟩)
  dsimp only [Pt.U, Pt.locs, Pt.cells, Pt.slots] at X' e1 e2 h1 h2 h3 st
  subst h1; subst h2; subst h3
  exact ⟨v, (T.setVm vm₁).calling g' mk (Value.ref b :: As).toArray, t, U', L, hT, X', hL, e1, e2, hq, st⟩
theorem x_runSC (X0 : CallFix p m c cc nL s args lw_all own) (hM : Met l y (ws_ y bytes maxL ret) ({ frames := F', cells := kc, slots := ks, locals := L' } : Room) Pc Qc mc ms free) (hlink : Cond.methodLink own index y ∈ lw_all) (hstt : Cond.static y ∈ lw_all) (hini : Cond.initialized y.cls ∈ lw_all) (hcode : Cond.code y bytes maxL ret ∈ lw_all) (hd : y.cls ≠ "java/lang/invoke/MethodHandle" ∧ y.cls ≠ "java/lang/invoke/VarHandle" ∧ (parseMethodDescriptor y.desc).map (fun d => d.parameters.length) = some n) (hR : F' + 1 ≤ R.frames ∧ 8 + (maxL + 11) + L' ≤ R.locals) (hp : PreS s H Pc As)
    (hg : g.method = m) (hn : As.length = n) (hsize : g.locals.size = nL) (hstack : g.stack = As.reverse ++ rest) (hW : 2 * g.monitorRoom + (rest.map fun v => v.category).sum ≤ 8) (hdg : decode cc g.pc = .ok (.invokestatic index, 3)) (hf : cells + kc ≤ R.cells ∧ slots + ks ≤ R.slots) :
    va_Run p l e R s m args below meth c H locs cells slots mc ms g rest (Qc As.toArray) (free) := by
  obtain ⟨hx, hb, hml, ho, hts⟩ := X0
  have hK := x_back4 (p := p) (e := e) (below := below) hts hcode hini hR hM hp.1
  intro T hT X
  obtain ⟨v, vm₁, ⟨U', l2, c2, s2⟩, hW₁, X', ⟨g', mk, t, L, e1, e2, hq, h1, hL, h2, h3⟩, st⟩ := callS X hx (bytes := bytes) (maxL := maxL) (ret := ret) ho (hts _ hlink) (hts _ hstt) (hts _ hini) (hts _ hcode) ⟨hd.1, hd.2.1⟩ hK hg (hsize.trans hml.symm) (argsL := As) (rest := rest) (x_len hd.2.2 hn) hstack hW (by rw [hb]; exact hdg)
    (fun vm₁ hW₁ => ⟨hf.1, hf.2, hp.2 (T.setVm vm₁) hT hW₁⟩)
  dsimp only [Pt.U, Pt.locs, Pt.cells, Pt.slots] at X' e1 e2 h1 h2 h3 st
  subst h1; subst h2; subst h3
  exact ⟨v, (T.setVm vm₁).calling g' mk As.toArray, t, U', L, hT, X', hL, e1, e2, hq, st⟩
theorem x_runIC (X0 : CallFix p m c cc nL s args lw_all own) (hM : Met l y (ws_ y bytes maxL none) ({ frames := F', cells := kc, slots := ks, locals := L' } : Room) Pc Qc mc ms free) (hlink : Cond.methodLink own index y ∈ lw_all) (hin : Cond.instanceMethod y ∈ lw_all) (hini : Cond.initialized y.cls ∈ lw_all) (hcode : Cond.code y bytes maxL none ∈ lw_all) (hd : y.cls ≠ "java/lang/invoke/MethodHandle" ∧ y.cls ≠ "java/lang/invoke/VarHandle" ∧ (parseMethodDescriptor y.desc).map (fun d => d.parameters.length) = some n) (hy1 : y.name = "<init>") (hR : F' + 1 ≤ R.frames ∧ 8 + (maxL + 11) + L' ≤ R.locals) (hp : PreS s H Pc (.ref b :: As))
    (hg : g.method = m) (hn : As.length = n) (hsize : g.locals.size = nL) (hstack : g.stack = As.reverse ++ .ref b :: rest) (hW : 2 * g.monitorRoom + (rest.map fun v => v.category).sum ≤ 8) (hdg : decode cc g.pc = .ok (.invokespecial index, 3)) (hf : cells + kc ≤ R.cells ∧ slots + ks ≤ R.slots) :
    va_Run p l e R s m args below meth c H locs cells slots mc ms g rest (Qc (Value.ref b :: As).toArray) (free) := by
  obtain ⟨hx, hb, hml, ho, hts⟩ := X0
  have hK := x_back4 (p := p) (e := e) (below := below) hts hcode hini hR hM hp.1
  have hPc := hp.2
  intro T hT X
  obtain ⟨v, vm₁, ⟨U', l2, c2, s2⟩, hW₁, X', ⟨g', mk, t, L, e1, e2, hq, h1, hL, h2, h3⟩, st⟩ := callI X hx (bytes := bytes) (maxL := maxL) ho hy1 (hts _ hlink) (hts _ hin) (hts _ hcode) ⟨hd.1, hd.2.1⟩ hK hg (hsize.trans hml.symm) (a := b) (argsL := As) (rest := rest) (x_len hd.2.2 hn) hstack hW (by rw [hb]; exact hdg)
    (fun vm₁ hW₁ => ⟨hf.1, hf.2, hPc (T.setVm vm₁) hT hW₁⟩)
  dsimp only [Pt.U, Pt.locs, Pt.cells, Pt.slots] at X' e1 e2 h1 h2 h3 st
  subst h1; subst h2; subst h3
  exact ⟨v, (T.setVm vm₁).calling g' mk (Value.ref b :: As).toArray, t, U', L, hT, X', hL, e1, e2, hq, st⟩
end XC5
section XB5
variable {p : Program} {l : Launch} {e : Env} {s : State} {m : MethodId} {args : Array Value} {below : List Frame} {meth : Method} {c : Code} {H : Heap} {locs : List Loc} {Q : State → Prop}
variable {cc : ByteArray} {pc nL : Nat} {ls : Array Slot} {rest : List Value} {D : XD} {S0 S S' : XS} {own : String} {F Lo : Nat}
variable {y : MethodName} {bytes : ByteArray} {nL' n index F' L' b k : Nat} {ret' : Option FieldType} {vs st : List Value} {v : Option Value} {q : vw_C}
theorem xr_callVC (B : CallFix p m c cc nL s args lw_all own) (hX : x_I D S0 s H locs S) (hc : x_Met l y bytes nL' ret' F' L' D (.ref b :: vs) S v S') (hb : xk S b = k) (hq : x_cl[k]? = some q) (hk : 1 ≤ k ∧ k < 50) (hlink : Cond.methodLink own index y ∈ lw_all) (hin : Cond.instanceMethod y ∈ lw_all) (hsel : Cond.selects q.1 y y ∈ lw_all ∨ Cond.selects q.1 y y ∈ x_nw) (hini : Cond.initialized y.cls ∈ lw_all) (hcode : Cond.code y bytes nL' ret' ∈ lw_all) (hd : y.cls ≠ "java/lang/invoke/MethodHandle" ∧ y.cls ≠ "java/lang/invoke/VarHandle" ∧ (parseMethodDescriptor y.desc).map (fun d => d.parameters.length) = some n) (hR : F' + 1 ≤ F ∧ 8 + (nL' + 11) + L' ≤ Lo) (hn : vs.length = n) (hls : ls.size = nL) (hst : st = vs.reverse ++ .ref b :: rest) (hro : (rest.map fun v => v.category).sum ≤ 8) (hdg : decode cc pc = .ok (.invokevirtual index, 3))
    (kk : ∀ (H : Heap) (locs : List Loc), x_I D S0 s H locs S' → W p l e (x_R F Lo S0) s m args below meth c H locs (xz S' - xz S0) (xu S' - xu S0) Q (F0 m (pc + 3) ls (v.toList ++ rest))) : W p l e (x_R F Lo S0) s m args below meth c H locs (xz S - xz S0) (xu S - xu S0) Q (F0 m pc ls st) :=
  xr_back hX (x_runVC (g := F0 m pc ls st) (rest := rest) B hc (B.2.2.2.2 _ hlink) hin (hsel.elim (fun h => B.2.2.2.2 _ h) (fun h => hX.2.2.1.use h rfl)) hini hcode hd hR ⟨x_blind, x_recv hX hb hq hk, x_preC hX⟩ rfl hn hls hst (lv_room hro) hdg (x_roomL hX)) kk
theorem xr_callSC (B : CallFix p m c cc nL s args lw_all own) (hX : x_I D S0 s H locs S) (hc : x_Met l y bytes nL' ret' F' L' D vs S v S') (hlink : Cond.methodLink own index y ∈ lw_all) (hstt : Cond.static y ∈ lw_all) (hini : Cond.initialized y.cls ∈ lw_all) (hcode : Cond.code y bytes nL' ret' ∈ lw_all) (hd : y.cls ≠ "java/lang/invoke/MethodHandle" ∧ y.cls ≠ "java/lang/invoke/VarHandle" ∧ (parseMethodDescriptor y.desc).map (fun d => d.parameters.length) = some n) (hR : F' + 1 ≤ F ∧ 8 + (nL' + 11) + L' ≤ Lo) (hn : vs.length = n) (hls : ls.size = nL) (hst : st = vs.reverse ++ rest) (hro : (rest.map fun v => v.category).sum ≤ 8) (hdg : decode cc pc = .ok (.invokestatic index, 3))
    (kk : ∀ (H : Heap) (locs : List Loc), x_I D S0 s H locs S' → W p l e (x_R F Lo S0) s m args below meth c H locs (xz S' - xz S0) (xu S' - xu S0) Q (F0 m (pc + 3) ls (v.toList ++ rest))) : W p l e (x_R F Lo S0) s m args below meth c H locs (xz S - xz S0) (xu S - xu S0) Q (F0 m pc ls st) :=
  xr_back hX (x_runSC (g := F0 m pc ls st) (rest := rest) B hc hlink hstt hini hcode hd hR ⟨x_blind, x_preC hX⟩ rfl hn hls hst (lv_room hro) hdg (x_roomL hX)) kk
theorem xr_callIC (B : CallFix p m c cc nL s args lw_all own) (hX : x_I D S0 s H locs S) (hc : x_Met l y bytes nL' none F' L' D (.ref b :: vs) S v S') (hlink : Cond.methodLink own index y ∈ lw_all) (hin : Cond.instanceMethod y ∈ lw_all) (hini : Cond.initialized y.cls ∈ lw_all) (hcode : Cond.code y bytes nL' none ∈ lw_all) (hd : y.cls ≠ "java/lang/invoke/MethodHandle" ∧ y.cls ≠ "java/lang/invoke/VarHandle" ∧ (parseMethodDescriptor y.desc).map (fun d => d.parameters.length) = some n) (hy1 : y.name = "<init>") (hR : F' + 1 ≤ F ∧ 8 + (nL' + 11) + L' ≤ Lo) (hn : vs.length = n) (hls : ls.size = nL) (hst : st = vs.reverse ++ .ref b :: rest) (hro : (rest.map fun v => v.category).sum ≤ 8) (hdg : decode cc pc = .ok (.invokespecial index, 3))
    (kk : ∀ (H : Heap) (locs : List Loc), x_I D S0 s H locs S' → W p l e (x_R F Lo S0) s m args below meth c H locs (xz S' - xz S0) (xu S' - xu S0) Q (F0 m (pc + 3) ls (v.toList ++ rest))) : W p l e (x_R F Lo S0) s m args below meth c H locs (xz S - xz S0) (xu S - xu S0) Q (F0 m pc ls st) :=
  xr_back hX (x_runIC (g := F0 m pc ls st) (rest := rest) B hc hlink hin hini hcode hd hy1 hR ⟨x_blind, x_preC hX⟩ rfl hn hls hst (lv_room hro) hdg (x_roomL hX)) kk
end XB5
section XS5
variable {p : Program} {l : Launch} {e : Env} {R : Room} {s : State} {m : MethodId} {args : Array Value} {below : List Frame} {meth : Method} {c : Code} {H : Heap} {locs : List Loc} {cells slots : Nat} {Q : State → Prop}
variable {cc : ByteArray} {pc nL : Nat} {ls : Array Slot} {rest : List Value} {D : XD} {S0 S S' : XS} {own : String}
theorem x_statR (hX : x_I D S0 s H locs S) (k : Nat) {q : String × String × String} (hq : x_st[k]? = some q) {b : Nat} (hb : xs S k = some b) : va_Z q.1 q.2.1 q.2.2 (.ref b) (fun a => xb S ≤ a) s H := by
  have h := x_stat hX k hq
  rw [hb] at h
  exact h
theorem xr_ldcM (B : CallFix p m c cc nL s args lw_all own) (hX : x_I D S0 s H locs S) {index a : Nat} (ha : xs S 40 = some a) (hlink : Cond.classLink own index "[Ljava/lang/Object;" ∈ lw_all) (hdg : decode cc pc = .ok (.ldc index, 2))
    (kk : W p l e R s m args below meth c H locs cells slots Q (F0 m (pc + 2) ls (.ref a :: rest))) : W p l e R s m args below meth c H locs cells slots Q (F0 m pc ls rest) := by
  obtain ⟨a', h1, h2⟩ := hX.2.2.2.2.2.2.2.2.2.2.2.1
  cases ha.symm.trans h1
  exact va_ldcM B.1 B.2.1 B.2.2.2.1 (B.2.2.2.2 _ hlink) h2 hdg kk
/-- the class of an Object[] -/
theorem x_clsO (hX : x_I D S0 s H locs S) {a : Nat} (ha : xk S a = 55) : ∃ cell : Cell, H[a]? = some cell ∧ cell.vm.isStatics = false ∧ s.vm.findClass "[Ljava/lang/Object;" = some cell.cls := by
  have hat := (hX.1.2 a (by omega)).2.2 (by omega)
  rw [ha] at hat
  split at hat
  · obtain ⟨h56, -, hc⟩ := hat
    refine ⟨_, hc, rfl, ?_⟩
    exact va_nmO (hX.2.1.2.2 55 _ (by decide) rfl).2 (by decide +kernel)
  · obtain ⟨ty, cell, g1, g2, g3, g4, g5, g6, g7, g8⟩ := hat
    refine ⟨cell, g2, ?_, g8 rfl⟩
    obtain ⟨h, -⟩ := g3
    cases hv : cell.vm <;> first | rfl | exact absurd hv (h _)
theorem xr_getC (B : CallFix p m c cc nL s args lw_all own) (hX : x_I D S0 s H locs S) {a mi index : Nat} (ha : xk S a = 55) (hm : xs S 40 = some mi) (hls : ls.size = nL) (hlink : Cond.methodLink own index ⟨"java/lang/Object", "getClass", "()Ljava/lang/Class;"⟩ ∈ lw_all) (hdecl : Cond.declares ⟨"java/lang/Object", "getClass", "()Ljava/lang/Class;"⟩ ∈ x_nw) (hsel : Cond.selects "[Ljava/lang/Object;" ⟨"java/lang/Object", "getClass", "()Ljava/lang/Class;"⟩ ⟨"java/lang/Object", "getClass", "()Ljava/lang/Class;"⟩ ∈ lw_all) (hinst : Cond.instanceMethod ⟨"java/lang/Object", "getClass", "()Ljava/lang/Class;"⟩ ∈ lw_all) (hnat : Cond.native ⟨"java/lang/Object", "getClass", "()Ljava/lang/Class;"⟩ ∈ lw_all) (hframes : 1 ≤ R.frames) (hlocals : (rest.map fun v => v.category).sum + 14 ≤ R.locals) (hdg : decode cc pc = .ok (.invokevirtual index, 3))
    (kk : W p l e R s m args below meth c H locs cells slots Q (F0 m (pc + 3) ls (.ref mi :: rest))) : W p l e R s m args below meth c H locs cells slots Q (F0 m pc ls (.ref a :: rest)) := by
  obtain ⟨a', h1, h2⟩ := hX.2.2.2.2.2.2.2.2.2.2.2.1
  cases hm.symm.trans h1
  obtain ⟨hx, hb, hml, hown, hts⟩ := id B
  exact va_getC hx hb (by rw [hml, hls]) hown (hts _ hlink) (hX.2.2.1.use hdecl rfl) (hts _ hsel) (hts _ hinst) (hts _ hnat) h2 (x_clsO hX ha) hframes hlocals hdg kk
/-- the words of the constants -/
theorem xr_getO (B : CallFix p m c cc nL s args lw_all own) (hX : x_I D S0 s H locs S) {a b index : Nat} {host : String} (hk : 23 ≤ xk S a ∧ xk S a ≤ 26) (hv : xr S 2300 a 0 = some b) (hq : Cond.fieldLinkNest own index "VillageStories$Often" "word" "Ljava/lang/String;" host ∈ x_nw) (_h : True = True) (hdg : decode cc pc = .ok (.getfield index, 3))
    (kk : W p l e R s m args below meth c H locs cells slots Q (F0 m (pc + 3) ls (.ref b :: rest))) : W p l e R s m args below meth c H locs cells slots Q (F0 m pc ls (.ref a :: rest)) := by
  have h4 : xk S a = 23 ∨ xk S a = 24 ∨ xk S a = 25 ∨ xk S a = 26 := by omega
  have hV : ∀ k, 23 ≤ k ∧ k ≤ 26 → x_V S k 0 a = .ref b := by
    intro k hk
    have : k = 23 ∨ k = 24 ∨ k = 25 ∨ k = 26 := by omega
    rcases this with h | h | h | h <;> subst h <;> simp [x_V, x_rg, x_ty, hv, va_rf]
  rcases h4 with h | h | h | h
  · exact xr_getN (q := ("VillageStories$Often$1", Tk23, 1)) B hX 0 h rfl (by decide) (by decide) (hV 23 (by decide)) hq (fun _ h => h) hdg kk
  · exact xr_getN (q := ("VillageStories$Often$2", Tk24, 1)) B hX 0 h rfl (by decide) (by decide) (hV 24 (by decide)) hq (fun _ h => h) hdg kk
  · exact xr_getN (q := ("VillageStories$Often$3", Tk25, 1)) B hX 0 h rfl (by decide) (by decide) (hV 25 (by decide)) hq (fun _ h => h) hdg kk
  · exact xr_getN (q := ("VillageStories$Often$4", Tk26, 1)) B hX 0 h rfl (by decide) (by decide) (hV 26 (by decide)) hq (fun _ h => h) hdg kk
theorem xr_getJ (B : CallFix p m c cc nL s args lw_all own) (hX : x_I D S0 s H locs S) {a b index : Nat} {host : String} (hk : 27 ≤ xk S a ∧ xk S a ≤ 29) (hv : xr S 2700 a 0 = some b) (hq : Cond.fieldLinkNest own index "VillageStories$Join" "word" "Ljava/lang/String;" host ∈ x_nw) (_h : True = True) (hdg : decode cc pc = .ok (.getfield index, 3))
    (kk : W p l e R s m args below meth c H locs cells slots Q (F0 m (pc + 3) ls (.ref b :: rest))) : W p l e R s m args below meth c H locs cells slots Q (F0 m pc ls (.ref a :: rest)) := by
  have h4 : xk S a = 27 ∨ xk S a = 28 ∨ xk S a = 29 := by omega
  have hV : ∀ k, 27 ≤ k ∧ k ≤ 29 → x_V S k 0 a = .ref b := by
    intro k hk
    have : k = 27 ∨ k = 28 ∨ k = 29 := by omega
    rcases this with h | h | h <;> subst h <;> simp [x_V, x_rg, x_ty, hv, va_rf]
  rcases h4 with h | h | h
  · exact xr_getN (q := ("VillageStories$Join$1", Tk27, 1)) B hX 0 h rfl (by decide) (by decide) (hV 27 (by decide)) hq (fun _ h => h) hdg kk
  · exact xr_getN (q := ("VillageStories$Join$2", Tk28, 1)) B hX 0 h rfl (by decide) (by decide) (hV 28 (by decide)) hq (fun _ h => h) hdg kk
  · exact xr_getN (q := ("VillageStories$Join$3", Tk29, 1)) B hX 0 h rfl (by decide) (by decide) (hV 29 (by decide)) hq (fun _ h => h) hdg kk
/-- a part that is no Each -/
theorem xr_instP (B : CallFix p m c cc nL s args lw_all own) (hX : x_I D S0 s H locs S) {a index : Nat} (hk : 11 ≤ xk S a ∧ xk S a ≤ 16) (hlink : Cond.classLink own index "VillageStories$Each" ∈ lw_all) (hdg : decode cc pc = .ok (.instanceof index, 3))
    (kk : W p l e R s m args below meth c H locs cells slots Q (F0 m (pc + 3) ls (.int 0 :: rest))) : W p l e R s m args below meth c H locs cells slots Q (F0 m pc ls (.ref a :: rest)) := by
  have h6 : ∃ q, x_cl[xk S a]? = some q := by
    have : xk S a = 11 ∨ xk S a = 12 ∨ xk S a = 13 ∨ xk S a = 14 ∨ xk S a = 15 ∨ xk S a = 16 := by omega
    rcases this with h | h | h | h | h | h <;> rw [h] <;> exact ⟨_, rfl⟩
  obtain ⟨q, hq⟩ := h6
  exact va_instNo B.1 B.2.1 B.2.2.2.1 (B.2.2.2.2 _ hlink) (hX.2.1.1 _ q hk.1 hk.2 hq) (x_recv hX rfl hq (by omega)) hdg kk
theorem x_okO_cast {b : Nat} (h : x_okO S b = true) : ∃ kb q, xk S b = kb ∧ x_cl[kb]? = some q ∧ (1 ≤ kb ∧ kb < 50) ∧ Cond.castable q.1 "java/lang/Object" ∈ x_nw := by
  unfold x_okO at h
  simp only [Bool.or_eq_true, beq_iff_eq] at h
  rcases h with ((h | h) | h) | h
  · exact ⟨5, _, h, rfl, by decide, nq2275⟩
  · exact ⟨6, _, h, rfl, by decide, nq2276⟩
  · exact ⟨7, _, h, rfl, by decide, nq2277⟩
  · exact ⟨22, _, h, rfl, by decide, nq2296⟩
theorem xr_aastO (B : CallFix p m c cc nL s args lw_all own) (hX : x_I D S0 s H locs S) {a b : Nat} (ha : xk S a = 55) (hw : xb S ≤ a) (hb : x_okO S b = true) {i : Int32} (hin : vp_in i (xn S a)) (hS' : S' = s_r S 55 a i.toNatClampNeg (some b)) (hdg : decode cc pc = .ok (.aastore, 1))
    (kk : ∀ (H : Heap) (locs : List Loc), x_I D S0 s H locs S' → W p l e R s m args below meth c H locs cells slots Q (F0 m (pc + 1) ls rest)) : W p l e R s m args below meth c H locs cells slots Q (F0 m pc ls (.ref b :: .int i :: .ref a :: rest)) := by
  obtain ⟨kb, q, h1, h2, h3, h4⟩ := x_okO_cast hb
  exact xr_aast (C := "java/lang/Object") B hX ha rfl (by decide) hw h1 h2 h3 (Or.inl h4) hin hS' hdg kk
/-- System.arraycopy -/
theorem x_copied (cs : Cell) (c1 : ClassId) {n1 sp dp n : Nat} (f g : Nat → Value) (hs : ∀ i, i < n → cs.slots[sp + i]? = some (f (sp + i))) :
    (arrV c1 n1 g).storeRun dp (cs.stretch sp n) = arrV c1 n1 (fun j => if dp ≤ j ∧ j < dp + n then f (sp + (j - dp)) else g j) := by
  have e : cs.stretch sp n = (List.range n).map (fun i => f (sp + i)) := by
    unfold Cell.stretch
    apply List.map_congr_left
    intro i hi
    have hi' := List.mem_range.mp hi
    rw [Array.getD_eq_getD_getElem?, hs i hi']
    rfl
  rw [e, Cell.storeRun, va_pairs]
  congr 1
  funext k
  simp only [List.length_map, List.length_range, Nat.add_zero]
  by_cases h : dp ≤ k ∧ k < dp + n
  · rw [if_pos h, if_pos h, List.getD_eq_getElem?_getD, List.getElem?_map, List.getElem?_range (by omega)]
    rfl
  · rw [if_neg h, if_neg h]
theorem x_same_cp {k a sp b dp n : Nat} : x_same S (s_cp S k a sp b dp n) b := by
  refine ⟨rfl, rfl, rfl, rfl, rfl, rfl, rfl, rfl, fun hF c i => ?_, fun c hc r i => ⟨if_neg (fun q => hc q.2.1), if_neg (fun q => hc q.2.1), if_neg (fun q => hc q.2.1)⟩⟩
  show fits .byte (.int (if 51 = k ∧ c = b ∧ dp ≤ i ∧ i < dp + n then xi S k a (sp + (i - dp)) else xi S 51 c i)) = true
  split
  · rename_i q
    rw [← q.1]
    exact hF a _
  · exact hF c i
theorem x_nonneg {z : Int32} (hz : 0 ≤ z) : z.toInt = (z.toNatClampNeg : Int) := by
  have hz0 : (0 : Int) ≤ z.toInt := by simpa using Int32.le_iff_toInt_le.mp hz
  show z.toInt = ((z.toInt.toNat : Nat) : Int)
  omega
theorem xr_copy (B : CallFix p m c cc nL s args lw_all own) (hX : x_I D S0 s H locs S) {a b k index : Nat} {ty : FieldType} (ha : xk S a = k) (hb : xk S b = k) (hw : xb S ≤ b) (hk : 50 ≤ k) (hty : x_aty k = some ty) {sp dp n : Int32} (hr : 0 ≤ sp ∧ 0 ≤ dp ∧ 0 ≤ n ∧ sp.toNatClampNeg + n.toNatClampNeg ≤ xn S a ∧ dp.toNatClampNeg + n.toNatClampNeg ≤ xn S b)
    (hvals : ∀ i, i < n.toNatClampNeg → fits ty (x_E S k a (sp.toNatClampNeg + i)) = true ∧ (k ≠ 55 → ∀ x, x_E S k a (sp.toNatClampNeg + i) ≠ .ref x) ∧ (k = 55 → x_okQ S (xr S 55 a (sp.toNatClampNeg + i)) = true)) (hS' : S' = s_cp S k a sp.toNatClampNeg b dp.toNatClampNeg n.toNatClampNeg) (hls : ls.size = nL) (hlink : Cond.methodLink own index arraycopyName ∈ lw_all) (hnat : Cond.native arraycopyName ∈ lw_all) (hstat : Cond.static arraycopyName ∈ lw_all) (hini : Cond.initialized "java/lang/System" ∈ lw_all)
    (hframes : 1 ≤ R.frames) (hlocals : (rest.map fun v => v.category).sum + (nativeFrameWords "java/lang/System" "arraycopy" 5 + 11) ≤ R.locals) (hdg : decode cc pc = .ok (.invokestatic index, 3))
    (kk : ∀ (H : Heap) (locs : List Loc), x_I D S0 s H locs S' → W p l e R s m args below meth c H locs cells slots Q (F0 m (pc + 3) ls rest)) : W p l e R s m args below meth c H locs cells slots Q (F0 m pc ls (.int n :: .int dp :: .ref b :: .int sp :: .ref a :: rest)) := by
  obtain ⟨hx, hb', hml, hown, hts⟩ := id B
  obtain ⟨h1, h2, h3, h4, h5⟩ := hr
  obtain ⟨cs, g1, g2, g3, g4, g5, g6⟩ := x_ary hX ha hty hk
  obtain ⟨h56, hty', hc1⟩ := x_arW_of hX hb hk hw
  obtain ⟨hso, k0, hk0, cm0, hkk0⟩ := g2
  obtain ⟨-, k1, hk1, cm1, hkk1⟩ := (hX.2.1.2.2 k ty h56 hty).1 (xn S b) (x_E S k b)
  intro T hT X
  have hs0 : ∀ i, i < n.toNatClampNeg → cs.slots[sp.toNatClampNeg + i]? = some (x_E S k a (sp.toNatClampNeg + i)) := fun i hi => g6 _ (by omega)
  obtain ⟨vm', X', step⟩ := X.arraycopy hx hown (hts _ hlink) (hts _ hnat) (hts _ hstat) (hts _ hini) (src := a) (dst := b) (cs := cs) (cd := arrV (D.2.2 k) (xn S b) (x_E S k b)) (srcPos := sp) (destPos := dp) (n := n) (by rw [hT]; exact g1) (by rw [hT]; exact hc1)
    hso (fun _ h => by cases h) g3 (fun h => by cases h) hk0 hk1 hkk0 hkk1 (by cases hrk : refKind ty <;> simp [hrk]) (Int32.not_lt.mpr h1) (Int32.not_lt.mpr h2) (Int32.not_lt.mpr h3)
    (by rw [x_nonneg h1, x_nonneg h3]; omega)
    (by rw [x_nonneg h2, x_nonneg h3, arrV_size]; omega)
    (fun vm₁ hvm i hi => by
      have e0 : cs.slots.getD (sp.toNatClampNeg + i) .null = x_E S k a (sp.toNatClampNeg + i) := by
        rw [Array.getD_eq_getD_getElem?, hs0 i hi]
        rfl
      rw [e0]
      obtain ⟨v1, v2, v3⟩ := hvals i hi
      refine ⟨v1, ?_⟩
      by_cases h55 : k = 55
      · have hx5 := v3 h55
        subst h55
        have hE : x_E S 55 a (sp.toNatClampNeg + i) = va_rf (xr S 55 a (sp.toNatClampNeg + i)) := by simp [x_E, x_ec]
        rw [hE]
        cases hq : xr S 55 a (sp.toNatClampNeg + i) with
        | none => exact trivial
        | some x =>
          rw [hq] at hx5
          obtain ⟨kb, q, w1, w2, w3, w4⟩ := x_okO_cast hx5
          obtain ⟨cellV, y1, y2, y3⟩ := x_recv hX w1 w2 w3
          obtain ⟨kA, comp, z1, z2, z3, -⟩ := (hX.2.1.2.2 55 (.object "java/lang/Object") (by decide) rfl).2
          have ecm : cm1 = comp := by
            cases (hk1.symm.trans z1)
            rw [z2] at hkk1
            cases hkk1
            rfl
          obtain ⟨kV, hkV, -⟩ := Vm.findClass_spec y3
          obtain ⟨kC, hkC, -⟩ := Vm.findClass_spec z3
          obtain ⟨c0, t0, f1, f2, f3⟩ := Cond.castable_spec (hX.2.2.1.use (A := args) w4 rfl)
          cases y3.symm.trans f1
          cases z3.symm.trans f2
          subst ecm
          obtain ⟨kV', hkV', -⟩ := hvm.2.2 _ _ hkV
          obtain ⟨kC', hkC', -⟩ := hvm.2.2 _ _ hkC
          exact ⟨cellV, by show T.heap[x]? = _; rw [hT]; exact y1, (fun k h => (by rw [h] at y2; cases y2)), ⟨kV', hkV'⟩, ⟨kC', hkC'⟩, by rw [show (T.setVm vm₁).vm = vm₁ from rfl, hvm.assignable]; exact f3⟩
      · have hne := v2 h55
        cases hv : x_E S k a (sp.toNatClampNeg + i) with
        | ref x => exact absurd hv (hne x)
        | _ => exact trivial)
    (g := F0 m pc ls (.int n :: .int dp :: .ref b :: .int sp :: .ref a :: rest)) rfl (hls.trans hml.symm) (rest := rest) rfl (by rw [hb']; exact hdg) hframes (by show 2 * 0 + _ + _ ≤ _; omega)
  have e1 : copied cs (arrV (D.2.2 k) (xn S b) (x_E S k b)) sp dp n = arrV (D.2.2 k) (xn S b) (fun j => if dp.toNatClampNeg ≤ j ∧ j < dp.toNatClampNeg + n.toNatClampNeg then x_E S k a (sp.toNatClampNeg + (j - dp.toNatClampNeg)) else x_E S k b j) := x_copied cs _ _ _ hs0
  rw [e1] at X' step
  have hl : b < H.size := (Array.getElem?_eq_some_iff.mp hc1).1
  generalize hcell : arrV (D.2.2 k) (xn S b) (fun j => if dp.toNatClampNeg ≤ j ∧ j < dp.toNatClampNeg + n.toNatClampNeg then x_E S k a (sp.toNatClampNeg + (j - dp.toNatClampNeg)) else x_E S k b j) = cellN at X' step
  have hheap : ((T.setVm vm').setCell b cellN).heap = H.setIfInBounds b cellN := by rw [← hT]; rfl
  have oq : ∀ q : Nat, q ≠ b → (H.setIfInBounds b cellN)[q]? = H[q]? := fun q hq => by simp [Array.getElem?_setIfInBounds, Ne.symm hq]
  have eb : (H.setIfInBounds b cellN)[b]? = some cellN := by simp [Array.getElem?_setIfInBounds, hl]
  subst hS'
  have hW0 := hX.wrote (j := 0) (H1 := H.setIfInBounds b cellN) hw (by omega) x_same_cp (by simp) oq (by
    unfold x_at
    rw [show xk (s_cp S k a sp.toNatClampNeg b dp.toNatClampNeg n.toNatClampNeg) b = k from hb, show xb (s_cp S k a sp.toNatClampNeg b dp.toNatClampNeg n.toNatClampNeg) = xb S from rfl]
    refine ⟨fun q => absurd q (by omega), fun _ => ?_⟩
    rw [if_pos hw]
    refine ⟨h56, hty', ?_⟩
    rw [eb, ← hcell]
    show _ = some (arrV (D.2.2 k) (xn S b) _)
    congr 2
    funext j
    unfold x_E
    by_cases hj : dp.toNatClampNeg ≤ j ∧ j < dp.toNatClampNeg + n.toNatClampNeg
    · simp [s_cp, xi, xl, xr, hj]
    · have hj' : ¬ (k = k ∧ b = b ∧ dp.toNatClampNeg ≤ j ∧ j < dp.toNatClampNeg + n.toNatClampNeg) := fun q => hj q.2.2
      simp only [s_cp, xi, xl, xr, true_and, if_neg hj])
  obtain ⟨i1, i2, i3, i4, i5, i6, i7, i8⟩ := hW0
  obtain ⟨t, a1, b1⟩ := kk (H.setIfInBounds b cellN) _ ⟨i1, i2, i3, i4, i5, ⟨i6.1, i6.2.1, fun q hq => by
      rcases List.mem_append.mp hq with h | h
      · exact hX.2.2.2.2.2.1.2.2 q h
      · obtain ⟨z, -, hz⟩ := List.mem_map.mp h
        rw [← hz]
        exact i6.2.2 ⟨b, 0⟩ (List.mem_append_right _ (List.mem_singleton.mpr rfl))⟩, i7, i8⟩ _ hheap X'
  exact ⟨t, step t a1, b1⟩
theorem ks_c {k k' a sp b dp n x : Nat} (e : S' = s_cp S k a sp b dp n) (h : xk S x = k') : xk S' x = k' := by subst e; exact h
theorem kw_c {k a sp b dp n x : Nat} (e : S' = s_cp S k a sp b dp n) (h : xb S ≤ x) : xb S' ≤ x := by subst e; exact h
end XS5
