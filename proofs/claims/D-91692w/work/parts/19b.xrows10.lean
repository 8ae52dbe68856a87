set_option maxRecDepth 100000
/-! ROWS X 10: into a handler; bodies with handlers; fields of one name -/
/-- one step of the note over a frame whose table has one entry, of a class that may be resolved now -/
theorem x_catchStep {e : Env} {s : State} {a : Addr} {f : JFrame} {r : List Frame} {meth : Method} {code : Code} (hm : s.vm.method? f.method = some meth) (hc : meth.code = some code) {x : ExceptionTableEntry} (hxs : code.exceptionTable.toList = [x]) (hcov : covers x f.pc = true) (h0 : x.catchType ≠ 0)
    {cT : ClassId} {vm₁ : Vm} {cell : Cell} (hg : (resolveClass f.method.cls x.catchType).Gives e.toSetting s.vm (.ok cT) vm₁) (hsz : vm₁.classes.size ≤ s.vm.classes.size) (hcell : s.heap[a]? = some cell) (hobj : ∀ k, cell.vm ≠ .statics k) (hk : ∃ k, vm₁.classes[cell.cls]? = some k) (hcl : ∃ k, vm₁.classes[cT]? = some k) (hfit : vm₁.assignable cell.cls cT = true) :
    (stepThrowing e s a (.java f :: r)).Is ((s.setVm vm₁).setFrames (.java { f with pc := x.handlerPc, stack := [.ref a] } :: r)) [] := by
  have hop : (VmOp.resolveClass f.method.cls x.catchType).answer e s.vm = .ok cT ∧ (VmOp.resolveClass f.method.cls x.catchType).tables e s.vm = vm₁ := hg.op rfl
  have hl : (VmOp.resolveClass f.method.cls x.catchType).lands e s = .done (s.setVm vm₁) := by
    have := VmOp.lands_same (op := VmOp.resolveClass f.method.cls x.catchType) (e := e) (s := s) (by rw [hop.2]; exact hsz)
    rw [hop.2] at this
    exact this
  simp only [stepThrowing, searchFrame, vmDo]
  generalize hr : Sem.go _ e false [] s = res
  obtain ⟨as, rfl, ha⟩ := Sem.eq_ok_of hr (a := Handler.found x.handlerPc) (s' := s.setVm vm₁) (acts' := []) (by
    simp only [covers] at hcov
    have hcell' : (s.setVm vm₁).heap[a]? = some cell := hcell
    simp [W.findHandler_eq hm hc, hxs, findHandler.go, hcov, h0, hl, hop.1, hcell, hcell', hobj, hk, hcl, hfit, VmOp.dirties, VmOp.acts])
  exact ⟨rfl, ha⟩
section XB10
variable {p : Program} {l : Launch} {e : Env} {R : Room} {s : State} {m : MethodId} {args : Array Value} {below : List Frame} {meth : Method} {c : Code} {H : Heap} {locs : List Loc} {cells slots : Nat} {Q : State → Prop}
variable {cc : ByteArray} {pc nL : Nat} {ls : Array Slot} {rest : List Value} {D : XD} {S0 S S' : XS} {own : String}
variable {y : MethodName} {bytes : ByteArray} {maxL n index F F' L' Lo b k : Nat} {ret : Option FieldType} {vs st : List Value} {v : Option Value} {q : vw_C}
/-- a Fault is caught in the method -/
theorem xr_catch (B : CallFix p m c cc nL s args lw_all own) {a0 e0 h0 ct : Nat} (hh : x_hs c = [(a0, e0, h0, ct)]) (hX : x_I D S0 s H locs S) {a : Nat} (hk : xk S a = 9) (hlink : Cond.classLink own ct RX12 ∈ lw_all) (hct : ct ≠ 0) (hpc : a0 ≤ pc ∧ pc < e0)
    (kk : W p l e (x_R F Lo S0) s m args below meth c H locs (xz S - xz S0) (xu S - xu S0) Q (F0 m h0 ls [.ref a])) : x_WT p l e (x_R F Lo S0) s m args below meth c H locs (xz S - xz S0) (xu S - xu S0) Q (F0 m pc ls st) a := by
  obtain ⟨hx, hb, hml, ho, hts⟩ := id B
  obtain ⟨cell, hcell, hobj, hclE⟩ := x_recv hX hk (q := (RX12, TX12, 8)) rfl (by decide)
  intro T hT X
  obtain ⟨cT, hfc, hlinks⟩ := Cond.classLink_spec ho (hts _ hlink) e.platform (by rw [X.admits.platform])
  cases hclE.symm.trans hfc
  obtain ⟨hg, hW, hr⟩ := State.classEntry (e := e) X.warmed hlinks
  generalize hv : T.vm.noted m.cls ct (.cls cell.cls) = vm₁ at hg hW hr
  have X1 := X.noted hW
  obtain ⟨t, h1, h2⟩ := kk (T.setVm vm₁) hT X1
  refine ⟨t, ?_, h2⟩
  obtain ⟨x, hxs⟩ : ∃ x, c.exceptionTable.toList = [x] := by
    rcases hl : c.exceptionTable.toList with _ | ⟨x, _ | ⟨z, w⟩⟩
    · rw [x_hs, hl] at hh; cases hh
    · exact ⟨x, rfl⟩
    · rw [x_hs, hl] at hh; simp at hh
  have hxx : (x.startPc, x.endPc, x.handlerPc, x.catchType) = (a0, e0, h0, ct) := by
    rw [x_hs, hxs] at hh
    simpa using hh
  obtain ⟨rfl, rfl, rfl, rfl⟩ : x.startPc = a0 ∧ x.endPc = e0 ∧ x.handlerPc = h0 ∧ x.catchType = ct := by simpa using hxx
  have hal := X1.warmed.alike
  obtain ⟨kE, hkE, -⟩ := Vm.findClass_spec hfc
  obtain ⟨kE', hkE', -⟩ := hal.2.2 _ _ hkE
  have hat : At T m c below := X.here
  obtain ⟨hgo, hw⟩ := At.throwing (g := F0 m pc ls st) hat a
  refine Steps.head hgo hw ?_
  rw [stepThread_throwing (frames_entered hat.top _), (x_catchStep (s := (T.setTop (F0 m pc ls st)).pushFrame (.throwing a)) (f := F0 m pc ls st) (meth := meth) (code := c) (x := x) (cT := cell.cls) (vm₁ := vm₁) (cell := cell) (by rw [Stand.throwing_vm]; exact X.method') X.code hxs (by simp [covers]; exact hpc) hct (by rw [Stand.throwing_vm]; exact hg) (by rw [Stand.throwing_vm, ← hv]; simp [Vm.noted]) (by rw [Stand.throwing_heap, hT]; exact hcell) (VmData.ne_statics_of hobj) ⟨kE', hkE'⟩ ⟨kE', hkE'⟩ (Vm.assignable_self _ _)).1]
  obtain ⟨g₀, hg0⟩ := Option.isSome_iff_exists.mp hat.top
  obtain ⟨r, hr0⟩ := State.topJava?_eq_some.mp hg0
  have e1 : (T.setVm vm₁).frames = .java g₀ :: r := hr0
  rw [State.setTop_of_frames _ e1] at h1
  have e2 : ∀ (U : State) (fs : List Frame), (U.setFrames fs).setVm vm₁ = (U.setVm vm₁).setFrames fs := fun _ _ => rfl
  rw [State.pushFrame, State.setTop_of_frames _ hr0, State.setFrames_setFrames, e2, State.setFrames_setFrames, hr0]
  exact h1
theorem x_slotsF (B : CallFix p m c cc nL s args lw_all own) (hX : x_I D S0 s H locs S) {k j : Nat} {q : vw_C} (hc : x_cl[k]? = some q) (hk : 1 ≤ k ∧ k ≤ 22) (hj : j < q.2.2) {ty0 : Nat → FieldType} (hty : ∀ i, i < q.2.2 → parseFieldDescriptor (q.2.1 i).2.2.1 = some (ty0 i)) (hfj : (q.2.1 j).2.2.2 = true) (hnm : ∀ i, i < q.2.2 → i ≠ j → (q.2.1 i).2.1 ≠ (q.2.1 j).2.1 ∨ ((q.2.1 i).2.2.2 = true ∧ (q.2.1 i).1 ≠ (q.2.1 j).1)) : ∀ i, i < q.2.2 → i ≠ j → D.2.1 k i ≠ D.2.1 k j := by
  intro i hi hne
  obtain ⟨hS, -⟩ := hX.2.1.2.1 k q hk.1 hk.2 hc
  obtain ⟨ca, ka, ia, fa, hia, ea⟩ := hS i hi
  obtain ⟨cb, kb, ib, fb, hib, eb⟩ := hS j hj
  rw [← ea, ← eb]
  rcases hnm i hi hne with h | ⟨h1, h2⟩
  · refine u_apart (u_lays B.2.2.2.2 (x_in k q hk.2 hc) hi) (u_lays B.2.2.2.2 (x_in k q hk.2 hc) hj) hia hib ?_
    rw [(State.fieldFound?_type hia (hty i hi)).1, (State.fieldFound?_type hib (hty j hj)).1]
    exact h
  · have li := B.2.2.2.2 _ (x_in k q hk.2 hc _ (u_in_lay hi))
    have lj := B.2.2.2.2 _ (x_in k q hk.2 hc _ (u_in_lay hj))
    unfold u_lay at li lj
    rw [if_pos h1] at li
    rw [if_pos hfj] at lj
    obtain ⟨c1, k1, c1', k1', i1, f1, a1, a2, a3, -, -, -, a7, -, d1, b1, b2, -⟩ := Cond.laysFinal_spec li
    obtain ⟨c2, k2, c2', k2', i2, f2, g1, g2, g3, -, -, -, g7, -, d2, e1, e2, -⟩ := Cond.laysFinal_spec lj
    cases hia.symm.trans a3
    cases hib.symm.trans g3
    cases a1.symm.trans g1
    intro hs
    rw [hs] at b1
    cases b1.symm.trans e1
    obtain ⟨k3, p1, p2⟩ := Vm.findClass_spec a7
    obtain ⟨k4, p3, p4⟩ := Vm.findClass_spec g7
    have n1 := (State.fieldFound?_spec hia).1
    have n2 := (State.fieldFound?_spec hib).1
    cases p1.symm.trans n1
    cases p3.symm.trans n2
    exact h2 (p2.symm.trans (b2.symm.trans (e2.trans p4)))
theorem xr_putG (B : CallFix p m c cc nL s args lw_all own) (hin2 : meth.name = "<init>") (hX : x_I D S0 s H locs S) {a k : Nat} (j : Nat) {q : vw_C} (ha : xk S a = k) (hc : x_cl[k]? = some q) (h50 : 1 ≤ k ∧ k < 50) (hw : xb S ≤ a) (hj : j < q.2.2) {v : Value} (hup : x_Vup S S' k j a v) {ty0 : Nat → FieldType} (hty : ∀ i, i < q.2.2 → parseFieldDescriptor (q.2.1 i).2.2.1 = some (ty0 i)) (hnm : ∀ i, i < q.2.2 → i ≠ j → (q.2.1 i).2.1 ≠ (q.2.1 j).2.1 ∨ ((q.2.1 i).2.2.2 = true ∧ (q.2.1 i).1 ≠ (q.2.1 j).1)) (hfin : (q.2.1 j).2.2.2 = true) (hdecl : (q.2.1 j).1 = own) (hn : narrow (ty0 j) v = v) (hfit : fits (ty0 j) v = true) {index : Nat} {ref : String} (hq : Cond.fieldLink own index ref (q.2.1 j).2.1 (q.2.1 j).2.2.1 ∈ lw_all) (hsame : ∀ x, s.fieldFound? (q.2.1 j).1 (q.2.1 j).2.1 (q.2.1 j).2.2.1 = some x → s.fieldFound? ref (q.2.1 j).2.1 (q.2.1 j).2.2.1 = some x) (hdg : decode cc pc = .ok (.putfield index, 3))
    (kk : ∀ (H : Heap) (locs : List Loc), x_I D S0 s H locs S' → W p l e R s m args below meth c H locs cells slots Q (F0 m (pc + 3) ls rest)) : W p l e R s m args below meth c H locs cells slots Q (F0 m pc ls (v :: .ref a :: rest)) := by
  obtain ⟨h22, cell, q1, q2, q3, q4⟩ := x_obW_of hX ha hc h50 hw
  have hap := x_slotsF B hX hc ⟨h50.1, h22⟩ hj hty hfin hnm
  obtain ⟨hx, hb, hml, hown, hts⟩ := id B
  obtain ⟨hS, hfc, kC, hkC, hkind⟩ := hX.2.1.2.1 k q h50.1 h22 hc
  obtain ⟨cf, kf, fi, f, hi, hsl⟩ := hS j hj
  have hlay := hts _ (x_in k q h22 hc _ (u_in_lay hj))
  unfold u_lay at hlay
  rw [if_pos hfin] at hlay
  have hst := (u_facts hfc hkC (u_lays hts (x_in k q h22 hc) hj) hi).1
  have hcf : m.cls = cf := by
    obtain ⟨_, _, c', _, _, _, -, -, hf', -, -, -, hown2, -⟩ := Cond.laysFinal_spec hlay
    have e1 : c' = cf := by have := hi.symm.trans hf'; simp at this; exact this.1.symm
    rw [hdecl] at hown2
    rw [← e1]; exact Option.some.inj (hown.symm.trans hown2)
  have h6 := u_fits hfc hkC hkind (Or.inr hlay) hi (hty j hj) hn hfit
  refine W.putFinK hx hb hown (hts _ hq) (hsame _ hi) hst hcf hin2 (by rw [q2]; exact h6) q1 q3 (by rw [hsl]; exact k2_hasslot (q4 j hj)) rfl rfl hdg fun H' e1 e2 e3 => ?_
  rw [hsl] at e1 ⊢
  exact kk H' _ (hX.put ha hc h50 hw hj hup hap h22 q1 q2 q3 q4 e1 e2 e3)
end XB10
/-! starts of bodies that have handlers -/
section XM10
variable {l : Launch} {y : MethodName} {cc : ByteArray} {nL : Nat} {F Lo : Nat} {vs : List Value} {D : XD} {S S' : XS}
theorem x_bodHI {ty : FieldType} {r : Int32} {hs : List (Nat × Nat × Nat × Nat)} (own : String) (hc : y.cls = own)
    (body : ∀ (p : Program) (e : Env) (s : State) (m : MethodId) (args : Array Value) (below : List Frame) (meth : Method) (c : Code) (Q : State → Prop), CallFix p m c cc nL s args lw_all own → meth.name = y.name → x_hs c = hs →
      (∀ (H : Heap) (locs : List Loc) (ls : Array Slot) (pc : Nat), narrow ty (.int r) = .int r → x_I D S s H locs S' → decode cc pc = .ok (.ireturn, 1) → W p l e (x_R F Lo S) s m args below meth c H locs (xz S' - xz S) (xu S' - xu S) Q (F0 m pc ls [.int r])) →
      ∀ (H : Heap) (locs : List Loc), x_I D S s H locs S → ∀ ls, lv_has ls nL (lv_args 0 vs) → W p l e (x_R F Lo S) s m args below meth c H locs (xz S - xz S) (xu S - xu S) Q (F0 m 0 ls [])) : x_Bod l y cc nL (some ty) hs F Lo D vs S (.inr (some (.int r))) S' := by
  subst hc
  intro p e s m args below meth c B hr hk hnm hh hX ls hl
  refine body p e s m args below meth c _ B hnm hh (fun H locs ls pc hn hX' hd => ?_) _ _ hX ls hl
  refine W.qmono ?_ (xr_iret B hr hk hX' hn hd)
  rintro t ⟨o, h1, h2, ⟨rfl, h3, h4, h5⟩, L, ⟨-, h6, h7⟩, h8⟩
  exact ⟨h1, h2, h6, h3, h4, h5, L, h7, h8⟩
end XM10
