set_option maxRecDepth 100000
/-! ROWS X 3: contracts, their starts and ends, calls -/
def x_Q (D : XD) (S : XS) (v : Option Value) (S' : XS) : Array Value → State → Outcome → State → Prop := fun _ st o t => o = .returned v ∧ x_C D S' t ∧ x_M S S' ∧ va_F (x_A S) st t
abbrev x_Met (l : Launch) (y : MethodName) (cc : ByteArray) (nL : Nat) (ret : Option FieldType) (F Lo : Nat) (D : XD) (vs : List Value) (S : XS) (v : Option Value) (S' : XS) : Prop := Met l y (ws_ y cc nL ret) (x_R F Lo S) (va_Pc vs (x_C D S)) (x_Q D S v S') (xz S' - xz S) (xu S' - xu S) (x_A S)
section XM
variable {l : Launch} {y : MethodName} {cc : ByteArray} {nL : Nat} {F Lo : Nat} {vs : List Value} {D : XD} {S S' : XS}
theorem x_met {ret : Option FieldType} {v : Option Value} (own : String) (hy : plainName y.cls = true) (hc : y.cls = own) (hfit : (lg_sl vs).length ≤ nL)
    (body : ∀ (p : Program) (e : Env) (s : State) (m : MethodId) (args : Array Value) (below : List Frame) (meth : Method) (c : Code), CallFix p m c cc nL s args lw_all own → meth.sig.returnType = ret → meth.locks = false → meth.name = y.name → x_I D S s s.heap [] S → ∀ ls, lv_has ls nL (lv_args 0 vs) →
      W p l e (x_R F Lo S) s m args below meth c s.heap [] (xz S - xz S) (xu S - xu S) (MQ below (x_Q D S v S') args s (xz S' - xz S) (xu S' - xu S) (x_A S)) (F0 m 0 ls [])) : x_Met l y cc nL ret F Lo D vs S v S' := by
  refine Met.ofW (cc := cc) (maxL := nL) (ret := ret) hy rfl ?_
  intro p e s m args below meth c s₁ B hml hv
  obtain ⟨rfl, hP, hK, hNW, hB, hZ⟩ := hv
  have hts := atoms_spec (ws := ws_ y cc nL ret) B.pre
  have hts : ∀ w ∈ lw_all, w.before _ s = true := fun w h => hts w (List.mem_cons_of_mem _ h)
  have hown : s.vm.findClass own = some m.cls := by rw [← hc]; exact findClass_of_methodNamed B.named
  have hl := lv_entry vs (n := nL) hfit
  rw [lg_entry_eq]
  generalize (lg_sl vs ++ List.replicate (nL - (lg_sl vs).length) Slot.unset).toArray = ls at hl ⊢
  have key := body p e s m _ below meth c ⟨B.exec, B.bytes, hml, hown, hts⟩ B.returns B.notSynchronized (name_of_methodNamed B.named B.method).1 ⟨hP, hK, hNW, hB, x_M.rf, va_S.rf, hP.1, hZ⟩ ls hl
  rw [Nat.sub_self, Nat.sub_self] at key
  exact key
end XM
section XE
variable {p : Program} {l : Launch} {e : Env} {R : Room} {s : State} {m : MethodId} {args : Array Value} {below : List Frame} {meth : Method} {c : Code} {H : Heap} {locs : List Loc} {Q : State → Prop}
variable {cc : ByteArray} {pc nL : Nat} {ls : Array Slot} {rest : List Value} {D : XD} {S0 S S' : XS} {own : String}
theorem x_end (hX : x_I D S0 s H locs S) {v : Option Value} {t : State} (ht : t.heap = H) (hW : s.WarmedH t.vm) : x_Q D S0 v S args s (.returned v) t := ⟨rfl, x_C.warm ht hW hX.1 hX.2.1 hX.2.2.1 hX.2.2.2.1 hX.2.2.2.2.2.2.2, hX.2.2.2.2.1, hX.2.2.2.2.2.1.F ht⟩
theorem xr_iret (B : CallFix p m c cc nL s args lw_all own) {ty : FieldType} (hr : meth.sig.returnType = some ty) (hlk : meth.locks = false) {r : Int32} (hX : x_I D S0 s H locs S) (hn : narrow ty (.int r) = .int r) (hd : decode cc pc = .ok (.ireturn, 1)) : W p l e R s m args below meth c H locs (xz S - xz S0) (xu S - xu S0) (MQ below (x_Q D S0 (some (.int r)) S) args s (xz S - xz S0) (xu S - xu S0) (x_A S0)) (F0 m pc ls [.int r]) :=
  W.zret (v := r) B.1 B.2.1 hr hn (fun t ht hW => x_end hX ht hW) hX.2.2.2.2.2.1.2.2 hd hlk
theorem xr_vret (B : CallFix p m c cc nL s args lw_all own) (hr : meth.sig.returnType = none) (hlk : meth.locks = false) (hX : x_I D S0 s H locs S) (hd : decode cc pc = .ok (.return_, 1)) : W p l e R s m args below meth c H locs (xz S - xz S0) (xu S - xu S0) (MQ below (x_Q D S0 none S) args s (xz S - xz S0) (xu S - xu S0) (x_A S0)) (F0 m pc ls []) :=
  W.vret B.1 B.2.1 hr (fun t ht hW => x_end hX ht hW) hX.2.2.2.2.2.1.2.2 hd hlk
theorem xr_lret (B : CallFix p m c cc nL s args lw_all own) (hr : meth.sig.returnType = some .long) (hlk : meth.locks = false) {r : Int64} (hX : x_I D S0 s H locs S) (hd : decode cc pc = .ok (.lreturn, 1)) : W p l e R s m args below meth c H locs (xz S - xz S0) (xu S - xu S0) (MQ below (x_Q D S0 (some (.long r)) S) args s (xz S - xz S0) (xu S - xu S0) (x_A S0)) (F0 m pc ls [.long r]) :=
  W.lret (v := r) B.1 B.2.1 hr (fun t ht hW => x_end hX ht hW) hX.2.2.2.2.2.1.2.2 hd hlk
theorem xr_aret (B : CallFix p m c cc nL s args lw_all own) {rt : FieldType} (hr : meth.sig.returnType = some rt) (hrt : (∃ n, rt = .object n) ∨ ∃ t, rt = .array t) (hlk : meth.locks = false) {r : Option Nat} (hX : x_I D S0 s H locs S) (hd : decode cc pc = .ok (.areturn, 1)) : W p l e R s m args below meth c H locs (xz S - xz S0) (xu S - xu S0) (MQ below (x_Q D S0 (some (va_rf r)) S) args s (xz S - xz S0) (xu S - xu S0) (x_A S0)) (F0 m pc ls [va_rf r]) :=
  W.aret (v := va_rf r) B.1 B.2.1 hr hrt (by cases r <;> simp [va_rf]) (fun t ht hW => x_end hX ht hW) hX.2.2.2.2.2.1.2.2 hd hlk
end XE
section XC
variable {p : Program} {l : Launch} {e : Env} {R : Room} {s : State} {m : MethodId} {args : Array Value} {below : List Frame} {meth : Method} {c : Code} {H : Heap} {locs : List Loc} {cells slots : Nat} {Q : State → Prop}
variable {cc : ByteArray} {pc nL : Nat} {ls : Array Slot} {rest : List Value} {D : XD} {S0 S S' : XS} {own : String}
variable {y : MethodName} {bytes : ByteArray} {maxL mc ms kc ks n index F' L' : Nat} {ret : Option FieldType} {ws : List Cond} {Pc : Array Value → State → Prop} {Qc : Array Value → State → Outcome → State → Prop} {free : Addr → Prop} {Ts : List Cond} {C : String} {b : Addr} {As : List Value} {g : JFrame}
theorem x_callBack (cb : CallB R s args own index y bytes maxL ret ws ({ frames := F', cells := mc, slots := ms, locals := L' } : Room) mc ms n) (hM : Met l y ws ({ frames := F', cells := kc, slots := ks, locals := L' } : Room) Pc Qc mc ms free) (hbl : FrameBlind Pc) : Back l R p e below s args y 3 8 (fun A a => A.cells + kc ≤ R.cells ∧ A.slots + ks ≤ R.slots ∧ Pc a A.U) (PostOf Qc mc ms free) := by
  obtain ⟨-, -, hfr, hlo, hws, hcw, -, hini, -⟩ := cb
  have hinit : ∀ a' U, s.WarmedH U.vm → (Cond.initialized y.cls).before a' U = true := fun a' U hW => word_at hW (Or.inl (by first | rfl | simp [Cond.onTables, Cond.keeps, Cond.steady])) hini
  refine Back.of_free (S := headSpec ws ({ frames := F', cells := kc, slots := ks, locals := L' } : Room)) (P := Pc) (K := fun _ _ _ _ _ => True) (Q := fun a st o t => Qc a st o t ∧ ∃ L, FrameEnd st o t L mc ms ∧ ∀ q ∈ L, free q.base) (bytes := bytes) (maxL := maxL) (ret := ret)
    (E := fun a st o t L k n => k = mc ∧ n = ms ∧ ∀ q ∈ L, free q.base) hM hfr hlo ?_ ?_ (fun _ _ _ _ _ _ _ _ _ => trivial) ?_ ?_
  · intro m meth c A a X hp
    exact ⟨atoms_intro fun w hw => hws w hw _ _ X.warmed, hws _ hcw _ _ X.warmed, hinit _ _ X.warmed, hp.1, hp.2.1⟩
  · intro m meth c A a g mk X hp
    exact hbl _ _ _ _ hp.2.2
  · intro a st o t ⟨hq, L, hF, hL⟩
    exact ⟨L, mc, ms, hF, rfl, rfl, hL⟩
  · intro m meth c A a g mk v t L k n X hp hq hF ⟨e1, e2, hL⟩
    subst e1; subst e2
    exact ⟨g, mk, t, L, rfl, rfl, hq.1, rfl, hL, rfl, rfl⟩
theorem x_runV (X0 : CallFix p m c cc nL s args Ts own) (hM : Met l y ws ({ frames := F', cells := kc, slots := ks, locals := L' } : Room) Pc Qc mc ms free) (cw : CallW R s args own C index y bytes maxL ret ws ({ frames := F', cells := mc, slots := ms, locals := L' } : Room) mc ms n) (hp : PreV s H C b Pc As)
    (hg : g.method = m) (hn : As.length = n) (hsize : g.locals.size = nL) (hstack : g.stack = As.reverse ++ .ref b :: rest) (hW : 2 * g.monitorRoom + (rest.map fun v => v.category).sum ≤ 8) (hdg : decode cc g.pc = .ok (.invokevirtual index, 3)) (hf : cells + kc ≤ R.cells ∧ slots + ks ≤ R.slots) :
    va_Run p l e R s m args below meth c H locs cells slots mc ms g rest (Qc (Value.ref b :: As).toArray) (free) := by
  have hK := x_callBack (p := p) (e := e) (below := below) cw.1 hM hp.1
  obtain ⟨⟨-, -, -, -, -, -, hcode, -, hy, hlen, hl⟩, hin, hse⟩ := cw
  obtain ⟨hx, hb, hml, ho, -⟩ := X0
  obtain ⟨-, ⟨cellB, hcB, hoB, hclB⟩, hPc⟩ := hp
  intro T hT X
  obtain ⟨v, vm₁, ⟨U', l2, c2, s2⟩, hW₁, X', ⟨g', mk, t, L, e1, e2, hq, h1, hL, h2, h3⟩, st⟩ := callV X hx (C := C) (bytes := bytes) (maxL := maxL) (ret := ret) ho hl hin hse hcode hy hK (by rw [hT]; exact hcB) hoB hclB hg (hsize.trans hml.symm) (argsL := As) (rest := rest) (fun sig h => hn.trans (hlen sig h)) hstack hW (by rw [hb]; exact hdg)
    (fun vm₁ hW₁ => ⟨hf.1, hf.2, hPc (T.setVm vm₁) hT hW₁⟩)
  dsimp only [Pt.U, Pt.locs, Pt.cells, Pt.slots] at X' e1 e2 h1 h2 h3 st
  subst h1; subst h2; subst h3
  exact ⟨v, (T.setVm vm₁).calling g' mk (Value.ref b :: As).toArray, t, U', L, hT, X', hL, e1, e2, hq, st⟩
theorem x_runS (X0 : CallFix p m c cc nL s args Ts own) (hM : Met l y ws ({ frames := F', cells := kc, slots := ks, locals := L' } : Room) Pc Qc mc ms free) (cw : CallB R s args own index y bytes maxL ret ws ({ frames := F', cells := mc, slots := ms, locals := L' } : Room) mc ms n ∧ (Cond.static y).before args s = true) (hp : PreS s H Pc As)
    (hg : g.method = m) (hn : As.length = n) (hsize : g.locals.size = nL) (hstack : g.stack = As.reverse ++ rest) (hW : 2 * g.monitorRoom + (rest.map fun v => v.category).sum ≤ 8) (hdg : decode cc g.pc = .ok (.invokestatic index, 3)) (hf : cells + kc ≤ R.cells ∧ slots + ks ≤ R.slots) :
    va_Run p l e R s m args below meth c H locs cells slots mc ms g rest (Qc As.toArray) (free) := by
  have hK := x_callBack (p := p) (e := e) (below := below) cw.1 hM hp.1
  obtain ⟨⟨-, -, -, -, -, -, hcode, hini, hy, hlen, hl⟩, hstt⟩ := cw
  obtain ⟨hx, hb, hml, ho, -⟩ := X0
  intro T hT X
  obtain ⟨v, vm₁, ⟨U', l2, c2, s2⟩, hW₁, X', ⟨g', mk, t, L, e1, e2, hq, h1, hL, h2, h3⟩, st⟩ := callS X hx (bytes := bytes) (maxL := maxL) (ret := ret) ho hl hstt hini hcode hy hK hg (hsize.trans hml.symm) (argsL := As) (rest := rest) (fun sig h => hn.trans (hlen sig h)) hstack hW (by rw [hb]; exact hdg)
    (fun vm₁ hW₁ => ⟨hf.1, hf.2, hp.2 (T.setVm vm₁) hT hW₁⟩)
  dsimp only [Pt.U, Pt.locs, Pt.cells, Pt.slots] at X' e1 e2 h1 h2 h3 st
  subst h1; subst h2; subst h3
  exact ⟨v, (T.setVm vm₁).calling g' mk As.toArray, t, U', L, hT, X', hL, e1, e2, hq, st⟩
theorem x_runI (X0 : CallFix p m c cc nL s args Ts own) (hM : Met l y ws ({ frames := F', cells := kc, slots := ks, locals := L' } : Room) Pc Qc mc ms free) (cw : CallB R s args own index y bytes maxL none ws ({ frames := F', cells := mc, slots := ms, locals := L' } : Room) mc ms n ∧ y.name = "<init>" ∧ (Cond.instanceMethod y).before args s = true) (hp : PreS s H Pc (.ref b :: As))
    (hg : g.method = m) (hn : As.length = n) (hsize : g.locals.size = nL) (hstack : g.stack = As.reverse ++ .ref b :: rest) (hW : 2 * g.monitorRoom + (rest.map fun v => v.category).sum ≤ 8) (hdg : decode cc g.pc = .ok (.invokespecial index, 3)) (hf : cells + kc ≤ R.cells ∧ slots + ks ≤ R.slots) :
    va_Run p l e R s m args below meth c H locs cells slots mc ms g rest (Qc (Value.ref b :: As).toArray) (free) := by
  have hK := x_callBack (p := p) (e := e) (below := below) cw.1 hM hp.1
  obtain ⟨⟨-, -, -, -, -, -, hcode, -, hy, hlen, hl⟩, hy1, hin⟩ := cw
  obtain ⟨hx, hb, hml, ho, -⟩ := X0
  intro T hT X
  obtain ⟨v, vm₁, ⟨U', l2, c2, s2⟩, hW₁, X', ⟨g', mk, t, L, e1, e2, hq, h1, hL, h2, h3⟩, st⟩ := callI X hx (bytes := bytes) (maxL := maxL) ho hy1 hl hin hcode hy hK hg (hsize.trans hml.symm) (a := b) (argsL := As) (rest := rest) (fun sig h => hn.trans (hlen sig h)) hstack hW (by rw [hb]; exact hdg)
    (fun vm₁ hW₁ => ⟨hf.1, hf.2, hp.2 (T.setVm vm₁) hT hW₁⟩)
  dsimp only [Pt.U, Pt.locs, Pt.cells, Pt.slots] at X' e1 e2 h1 h2 h3 st
  subst h1; subst h2; subst h3
  exact ⟨v, (T.setVm vm₁).calling g' mk (Value.ref b :: As).toArray, t, U', L, hT, X', hL, e1, e2, hq, st⟩
end XC
section XB
variable {p : Program} {l : Launch} {e : Env} {s : State} {m : MethodId} {args : Array Value} {below : List Frame} {meth : Method} {c : Code} {H : Heap} {locs : List Loc} {Q : State → Prop}
variable {cc : ByteArray} {pc nL : Nat} {ls : Array Slot} {rest : List Value} {D : XD} {S0 S S' : XS} {own : String} {F Lo : Nat}
/-- what a call of the class's own leaves -/
theorem xr_back {st : List Value} {v : Option Value} {a : Array Value} (hX : x_I D S0 s H locs S) (hr : va_Run p l e (x_R F Lo S0) s m args below meth c H locs (xz S - xz S0) (xu S - xu S0) (xz S' - xz S) (xu S' - xu S) (F0 m pc ls st) rest (x_Q D S v S' a) (x_A S))
    (kk : ∀ (H : Heap) (locs : List Loc), x_I D S0 s H locs S' → W p l e (x_R F Lo S0) s m args below meth c H locs (xz S' - xz S0) (xu S' - xu S0) Q (F0 m (pc + 3) ls (v.toList ++ rest))) : W p l e (x_R F Lo S0) s m args below meth c H locs (xz S - xz S0) (xu S - xu S0) Q (F0 m pc ls st) := by
  intro T hT X
  obtain ⟨v', st₀, t, T', L, h0, X', hL, e1, e2, ⟨hv, hC, hMM, hz, hk⟩, stp⟩ := hr T hT X
  cases hv
  rw [h0] at hz hk
  obtain ⟨hP, hK, hNW, hB, hM, hSS, hsz, hZ⟩ := hX
  have hAA : ∀ q, x_A S q → x_A S0 q := by
    rintro q (⟨h1, h2, h3⟩ | h1)
    · by_cases hq : q < xz S0
      · exact Or.inl ⟨by rw [← hM.2.2.1]; exact h1, hq, by rw [← hM.2.2.2.2.2.2 q hq]; exact h3⟩
      · exact Or.inr (Nat.not_lt.mp hq)
    · exact Or.inr (Nat.le_trans hM.1 h1)
  have hvm : t.vm.Alike s.vm := by rw [← e2]; exact X'.warmed.alike.symm
  have hSS' : va_S (x_A S0) s.heap T'.heap (locs ++ L) := ⟨Nat.le_trans hSS.1 (by rw [e1]; exact hz), fun q h1 h2 => by rw [e1, hk q (Nat.lt_of_lt_of_le h1 hSS.1) (fun z => h2 (hAA q z))]; exact hSS.2.1 q h1 h2, fun q hq => by
      rcases List.mem_append.mp hq with h | h
      · exact hSS.2.2 q h
      · exact hAA _ (hL q h)⟩
  have hMM' := hM.tr hMM
  have hZ' : x_ZS S' s T'.heap := by
    refine hZ.kept hMM.2.2.2.2.2.1 hMM.2.2.1 (fun q hq1 hq2 => ?_)
    rw [e1]
    refine hk q hq1 (fun z => ?_)
    rcases z with ⟨z, -⟩ | z
    · exact hq2 z
    · rw [hP.1] at hq1; omega
  have key := kk T'.heap (locs ++ L) ⟨by rw [e1]; exact hC.1.moved hvm, hK, hNW, hC.2.2.2.1, hMM', hSS', hsz, hZ'⟩
  have ez : (xz S - xz S0) + (xz S' - xz S) = xz S' - xz S0 := by have := hM.1; have := hMM.1; omega
  have eu : (xu S - xu S0) + (xu S' - xu S) = xu S' - xu S0 := by have := hM.2.1; have := hMM.2.1; omega
  rw [ez, eu] at X'
  obtain ⟨t2, a1, b1⟩ := key T' rfl X'
  exact ⟨t2, stp t2 a1, b1⟩
theorem x_roomL (hX : x_I D S0 s H locs S) : (xz S - xz S0) + (xL S - xz S) ≤ (x_R F Lo S0).cells ∧ (xu S - xu S0) + (xU S - xu S) ≤ (x_R F Lo S0).slots := by
  obtain ⟨-, -, -, hB, hM, -⟩ := hX
  have h1 := hM.1; have h2 := hM.2.1; have h3 := hM.2.2.2.1; have h4 := hM.2.2.2.2.1; have h5 := hB.2.1; have h6 := hB.2.2.1
  exact ⟨by show _ ≤ xL S0 - xz S0; omega, by show _ ≤ xU S0 - xu S0; omega⟩
theorem x_preC (hX : x_I D S0 s H locs S) {vs : List Value} : ∀ U : State, U.heap = H → s.WarmedH U.vm → va_Pc vs (x_C D S) vs.toArray U := fun U hU hW => ⟨rfl, x_C.warm hU hW hX.1 hX.2.1 hX.2.2.1 hX.2.2.2.1 hX.2.2.2.2.2.2.2⟩
theorem xr_callV {y : MethodName} {bytes : ByteArray} {nL' n index F' L' b k : Nat} {ret' : Option FieldType} {vs st : List Value} {v : Option Value} {q : vw_C} (B : CallFix p m c cc nL s args lw_all own) (hX : x_I D S0 s H locs S) (hc : x_Met l y bytes nL' ret' F' L' D (.ref b :: vs) S v S') (hb : xk S b = k) (hq : x_cl[k]? = some q) (hk : 1 ≤ k ∧ k < 50) (cw : CallW (x_R F Lo S0) s args own q.1 index y bytes nL' ret' (ws_ y bytes nL' ret') ({ frames := F', cells := xz S' - xz S, slots := xu S' - xu S, locals := L' } : Room) (xz S' - xz S) (xu S' - xu S) n) (hn : vs.length = n) (hls : ls.size = nL) (hst : st = vs.reverse ++ .ref b :: rest) (hro : (rest.map fun v => v.category).sum ≤ 8) (hdg : decode cc pc = .ok (.invokevirtual index, 3))
    (kk : ∀ (H : Heap) (locs : List Loc), x_I D S0 s H locs S' → W p l e (x_R F Lo S0) s m args below meth c H locs (xz S' - xz S0) (xu S' - xu S0) Q (F0 m (pc + 3) ls (v.toList ++ rest))) : W p l e (x_R F Lo S0) s m args below meth c H locs (xz S - xz S0) (xu S - xu S0) Q (F0 m pc ls st) :=
  xr_back hX (x_runV (g := F0 m pc ls st) (rest := rest) B hc cw ⟨x_blind, x_recv hX hb hq hk, x_preC hX⟩ rfl hn hls hst (lv_room hro) hdg (x_roomL hX)) kk
theorem xr_callS {y : MethodName} {bytes : ByteArray} {nL' n index F' L' : Nat} {ret' : Option FieldType} {vs st : List Value} {v : Option Value} (B : CallFix p m c cc nL s args lw_all own) (hX : x_I D S0 s H locs S) (hc : x_Met l y bytes nL' ret' F' L' D vs S v S') (cw : CallB (x_R F Lo S0) s args own index y bytes nL' ret' (ws_ y bytes nL' ret') ({ frames := F', cells := xz S' - xz S, slots := xu S' - xu S, locals := L' } : Room) (xz S' - xz S) (xu S' - xu S) n ∧ (Cond.static y).before args s = true) (hn : vs.length = n) (hls : ls.size = nL) (hst : st = vs.reverse ++ rest) (hro : (rest.map fun v => v.category).sum ≤ 8) (hdg : decode cc pc = .ok (.invokestatic index, 3))
    (kk : ∀ (H : Heap) (locs : List Loc), x_I D S0 s H locs S' → W p l e (x_R F Lo S0) s m args below meth c H locs (xz S' - xz S0) (xu S' - xu S0) Q (F0 m (pc + 3) ls (v.toList ++ rest))) : W p l e (x_R F Lo S0) s m args below meth c H locs (xz S - xz S0) (xu S - xu S0) Q (F0 m pc ls st) :=
  xr_back hX (x_runS (g := F0 m pc ls st) (rest := rest) B hc cw ⟨x_blind, x_preC hX⟩ rfl hn hls hst (lv_room hro) hdg (x_roomL hX)) kk
theorem xr_callI {y : MethodName} {bytes : ByteArray} {nL' n index F' L' b : Nat} {vs st : List Value} {v : Option Value} (B : CallFix p m c cc nL s args lw_all own) (hX : x_I D S0 s H locs S) (hc : x_Met l y bytes nL' none F' L' D (.ref b :: vs) S v S') (cw : CallB (x_R F Lo S0) s args own index y bytes nL' none (ws_ y bytes nL' none) ({ frames := F', cells := xz S' - xz S, slots := xu S' - xu S, locals := L' } : Room) (xz S' - xz S) (xu S' - xu S) n ∧ y.name = "<init>" ∧ (Cond.instanceMethod y).before args s = true) (hn : vs.length = n) (hls : ls.size = nL) (hst : st = vs.reverse ++ .ref b :: rest) (hro : (rest.map fun v => v.category).sum ≤ 8) (hdg : decode cc pc = .ok (.invokespecial index, 3))
    (kk : ∀ (H : Heap) (locs : List Loc), x_I D S0 s H locs S' → W p l e (x_R F Lo S0) s m args below meth c H locs (xz S' - xz S0) (xu S' - xu S0) Q (F0 m (pc + 3) ls (v.toList ++ rest))) : W p l e (x_R F Lo S0) s m args below meth c H locs (xz S - xz S0) (xu S - xu S0) Q (F0 m pc ls st) :=
  xr_back hX (x_runI (g := F0 m pc ls st) (rest := rest) B hc cw ⟨x_blind, x_preC hX⟩ rfl hn hls hst (lv_room hro) hdg (x_roomL hX)) kk
end XB
