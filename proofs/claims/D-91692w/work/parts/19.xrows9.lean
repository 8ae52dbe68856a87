set_option maxRecDepth 100000
/-! ROWS X 9: Exception's constructor over a Fault (traces are off) -/
theorem fill_eq : Jvm.LibCode.Throwable.Fill.code = prog_51_method_18_code := by decide +kernel
theorem init0_eq : Jvm.LibCode.Throwable.Init0.code = prog_51_method_1_code := by decide +kernel
theorem five_eq : Jvm.Bundle.five = prog_39_method_1_code := by decide +kernel
section XB9
variable {p : Program} {l : Launch} {e : Env} {R : Room} {s : State} {m : MethodId} {args : Array Value} {below : List Frame} {meth : Method} {c : Code} {H : Heap} {locs : List Loc} {cells slots : Nat} {Q : State → Prop}
variable {cc : ByteArray} {pc nL : Nat} {ls : Array Slot} {rest : List Value} {D : XD} {S0 S S' : XS} {own : String}
variable {F Lo o : Nat}
theorem x_thr {b : Nat} (hts : ∀ w ∈ lw_all, w.before args s = true) (hZ : x_ZT b s s.heap) : ∀ c ∈ Jvm.Bundle.throwableAtoms, c.before args s = true := by
  intro c hc
  simp only [Jvm.Bundle.throwableAtoms, List.mem_cons, List.not_mem_nil, or_false] at hc
  rcases hc with rfl | rfl | rfl | rfl | rfl | rfl | rfl | rfl | rfl | rfl | rfl | rfl | rfl | rfl | rfl | rfl | rfl | rfl | rfl | rfl | rfl | rfl | rfl | rfl
  · exact hts _ q133
  · exact hts _ q889
  · exact hts _ q898
  · rw [fill_eq]; exact hts _ q900
  · exact hts _ q903
  · exact hts _ q905
  · exact hts _ q890
  · rw [init0_eq]; exact hts _ q891
  · exact hts _ q154
  · exact hts _ q155
  · exact hts _ q892
  · exact hts _ q897
  · exact hts _ q901
  · exact hts _ q920
  · exact hts _ q879
  · exact hts _ q921
  · exact hts _ q881
  · exact hts _ q922
  · exact hts _ q883
  · exact hts _ q893
  · obtain ⟨c, k, i, f, a, cell, h1, h2, h3, h4, h5, h6, h7, h8, h9, -⟩ := hZ _ (List.mem_cons_self)
    exact Cond.laysStatic_of h1 h2 h3 h4 h5 h6 h7 h8 h9
  · exact hts _ q895
  · obtain ⟨c, k, i, f, a, cell, h1, h2, h3, h4, h5, h6, h7, h8, h9, -⟩ := hZ _ (List.mem_cons_of_mem _ List.mem_cons_self)
    exact Cond.laysStatic_of h1 h2 h3 h4 h5 h6 h7 h8 h9
  · exact hts _ q885
theorem x_put9 (B : CallFix p m c cc nL s args lw_all own) (hX : x_I D S0 s H locs S) (ha : xk S o = 9) (hw : xb S ≤ o) (j : Nat) (hj : j < 8) {v : Value} (hup : x_Vup S S' 9 j o v) {cell : Cell} (hcell : H[o]? = some cell) {j' : Nat} :
    x_I D S0 s (H.setIfInBounds o (cell.setSlot (D.2.1 9 j) v)) (locs ++ [⟨o, j'⟩]) S' := by
  obtain ⟨h22, cell', q1, q2, q3, q4⟩ := x_obW_of (q := (RX12, TX12, 8)) hX ha rfl (by decide) hw
  cases hcell.symm.trans q1
  have hap := x_slots (q := (RX12, TX12, 8)) B hX (k := 9) (j := j) rfl (by decide) hj tyX12_ok (fun i h1 h2 => nmX12 i h1 j hj h2)
  have hlt := (Array.getElem?_eq_some_iff.mp q1).1
  exact hX.put (q := (RX12, TX12, 8)) ha rfl (by decide) hw hj hup hap h22 q1 q2 q3 q4 (by simp [Array.getElem?_setIfInBounds, hlt]) (by simp) (fun q hq => by simp [Array.getElem?_setIfInBounds, Ne.symm hq])
theorem x_rfV (v : Option Nat) : (va_rf v).isRef = true := by cases v <;> rfl
theorem x_takes (B : CallFix p m c cc nL s args lw_all own) (hX : x_I D S0 s H locs S) (ha : xk S o = 9) (hw : xb S ≤ o) (j : Nat) (hj : j < 8) (hfin : (TX12 j).2.2.2 = false) {v : Value} (hn : narrow (tyX12 j) v = v) (hfit : fits (tyX12 j) v = true) {cell : Cell} (hcell : H[o]? = some cell) {cf : ClassId} {kf : Class} {fi : Nat} {f : Field} (hi : s.fieldFound? (TX12 j).1 (TX12 j).2.1 (TX12 j).2.2.1 = some (cf, kf, fi, f)) : f.slot = D.2.1 9 j ∧ Takes s cell f v := by
  obtain ⟨h22, cell', q1, q2, q3, q4⟩ := x_obW_of (q := (RX12, TX12, 8)) hX ha rfl (by decide) hw
  cases hcell.symm.trans q1
  obtain ⟨hx, hb, hml, hown, hts⟩ := id B
  obtain ⟨hS, hfc, kC, hkC, hkind⟩ := hX.2.1.2.1 9 (RX12, TX12, 8) (by decide) (by decide) rfl
  obtain ⟨cf', kf', fi', f', hi', hsl⟩ := hS j hj
  cases hi.symm.trans hi'
  have hlay := hts _ (x_in 9 (RX12, TX12, 8) (by decide) rfl _ (u_in_lay hj))
  unfold u_lay at hlay
  rw [if_neg (by rw [hfin]; decide)] at hlay
  have h6 := u_store hfc hkC hkind hlay hi (tyX12_ok j hj) hn hfit
  have h7 := q4 j hj
  refine ⟨hsl, (by rw [hsl]; exact (Array.getElem?_eq_some_iff.mp h7).1), ?_⟩
  rw [q2, q3]
  exact h6.2.2
theorem xr_excInit (hfl : l.flags = flags0) (B : CallFix p m c cc nL s args lw_all "VillageStories$Fault") (hX : x_I D S0 s H locs S) (ha : xk S o = 9) (hw : xb S ≤ o) (hbt : xr S 904 o 0 = none) {S1 S2 S3 S4 : XS} (e1 : S1 = s_r S 900 o 0 (some o)) (e2 : S2 = s_r S1 901 o 0 (xs S 15)) (e3 : S3 = s_r S2 902 o 0 (xs S 16)) (e4 : S4 = s_r S3 901 o 0 (xs S 15)) (hb0 : xb S0 ≤ xz S0) (hls : ls.size = nL) (hro : (rest.map fun v => v.category).sum ≤ 8) (hR : 3 < F ∧ 62 ≤ Lo) (hdg : decode cc pc = .ok (.invokespecial 1, 3))
    (kk : ∀ (H : Heap) (locs : List Loc), x_I D S0 s H locs S4 → W p l e (x_R F Lo S0) s m args below meth c H locs (xz S4 - xz S0) (xu S4 - xu S0) Q (F0 m (pc + 3) ls rest)) : W p l e (x_R F Lo S0) s m args below meth c H locs (xz S - xz S0) (xu S - xu S0) Q (F0 m pc ls (.ref o :: rest)) := by
  obtain ⟨hx, hb, hml, ho, hts⟩ := id B
  intro T hT X
  have howns : e.platform.frameOwnsMonitors = true := by rw [X.admits.platform]
  have hfin : e.platform.finalization = false := by rw [X.admits.platform]
  have hpl : e.platform.magicAccessors = ({} : Platform).magicAccessors := by rw [X.admits.platform]
  have htr : e.platform.stackTraces = false := by
    rw [X.admits.platform]
    show (!l.flags.contains Jvm.noTraceFlag) = false
    rw [hfl]
    decide +kernel
  have hM := hX.2.2.2.2.1
  have hSS := hX.2.2.2.2.2.1
  have hsz := hX.2.2.2.2.2.2.1
  have hZ := hX.2.2.2.2.2.2.2
  have hlow : ∀ a : Nat, ¬ xb S ≤ a → H[a]? = s.heap[a]? := fun a h => by
    have h2 := hM.2.2.1
    refine hSS.2.1 a (by omega) ?_
    rintro (⟨z, -⟩ | z)
    · omega
    · omega
  have hZs : x_ZT (xb S) s s.heap := by
    intro q hq
    obtain ⟨c, k, i, f, a, cell, h1, h2, h3, h4, h5, h6⟩ := hZ.2.2.2.2.2 q hq
    exact ⟨c, k, i, f, a, cell, h1, h2, h3, h4, by rw [← hlow a h6.2.2.2.2]; exact h5, h6⟩
  obtain ⟨Tt, Z, L, LZ, Y⟩ := ThrowableC.of_atoms (args := args) howns hfin hpl (x_thr hts hZs)
  obtain ⟨P1, Ps, hlen, L1, hL, hP1m, hlink1, hlink⟩ := Jvm.Bundle.chain0 (args := args) hpl Y.init0 [] "java/lang/Exception" (by decide +kernel) (fun n hn => by cases hn) (fun c hc => by
    simp only [Jvm.Bundle.chain0Atoms, Jvm.Bundle.passAtoms, List.mem_cons, List.not_mem_nil, or_false] at hc
    rcases hc with rfl | rfl | rfl | rfl | rfl
    · exact hts _ q910
    · rw [five_eq]; exact hts _ q911
    · exact hts _ q912
    · exact hts _ q890
    · exact hX.2.2.1.use nq874 rfl)
  have hPs : Ps = [] := List.length_eq_zero_iff.mp hlen
  subst hPs
  obtain ⟨h22, cell, c1, c2, c3, c4⟩ := x_obW_of (q := (RX12, TX12, 8)) hX ha rfl (by decide) hw
  obtain ⟨m1, m2⟩ := x_mon_of hX ha (by decide) hw cell c1
  obtain ⟨cfU, kfU, fiU, fU, aU, cellS, u1, u2, u3, u4, u5, u6, u7, u8⟩ := hZ.1 15 _ rfl
  obtain ⟨cfV, kfV, fiV, fV, aV, cellS', w1, w2, w3, w4, w5, w6, w7, w8⟩ := hZ.1 16 _ rfl
  have yU := u1.symm.trans Y.unassigned
  have yV := w1.symm.trans Y.sentinel
  cases yU
  cases yV
  have eaU : aU = Tt.aS := Option.some.inj (u4.symm.trans L.statics)
  have eaV : aV = Tt.aS := Option.some.inj (w4.symm.trans L.statics)
  subst eaU
  subst eaV
  cases u5.symm.trans w5
  obtain ⟨sC, tC⟩ := x_takes B hX ha hw 0 (by decide) rfl (v := .ref o) rfl rfl c1 Y.cause
  obtain ⟨sS, tS⟩ := x_takes B hX ha hw 1 (by decide) rfl (v := va_rf (xs S 15)) (by cases xs S 15 <;> rfl) (by cases xs S 15 <;> rfl) c1 Y.stack
  obtain ⟨sP, tP⟩ := x_takes B hX ha hw 2 (by decide) rfl (v := va_rf (xs S 16)) (by cases xs S 16 <;> rfl) (by cases xs S 16 <;> rfl) c1 Y.supp
  obtain ⟨ci198, i198, fB, hk198, hg198, ha198, hsB, -, hnB, htB, hffB⟩ := Cond.ownField (t := .object "java/lang/Object") Y.found L.cls (by decide +kernel) (hts _ q888) (hts _ q887) e.platform hpl
  obtain ⟨sB, -⟩ := x_takes B hX ha hw 4 (by decide) rfl (v := .null) rfl rfl c1 hffB
  have hap : ∀ i j, i < 8 → j < 8 → i ≠ j → D.2.1 9 i ≠ D.2.1 9 j := fun i j hi hj hne => x_slots (q := (RX12, TX12, 8)) B hX (k := 9) (j := j) rfl (by decide) hj tyX12_ok (fun i h1 h2 => nmX12 i h1 j hj h2) i hi hne
  have a0 := hap 4 0 (by decide) (by decide) (by decide)
  have a1 := hap 4 1 (by decide) (by decide) (by decide)
  have a2 := hap 4 2 (by decide) (by decide) (by decide)
  obtain ⟨hS, hfc, kC, hkC, hkind⟩ := hX.2.1.2.1 9 (RX12, TX12, 8) (by decide) (by decide) rfl
  have hsel0 : selectMethod e.platform s.vm cell.cls Tt.fill0 = .method Tt.fill0 := by
    obtain ⟨z1, z2, z3, q1, q2, q3, q4, -⟩ := Cond.selects_spec (hts _ q876)
    cases Option.some.inj (q1.symm.trans hfc)
    cases Option.some.inj (q2.symm.trans (State.methodFound?_of_named Y.fill0 (by decide)))
    cases Option.some.inj (q3.symm.trans Y.fill0)
    rw [Launch.admits_selectMethod X.admits, c2]; exact q4
  have hselF : selectMethod e.platform s.vm cell.cls Tt.fill = .method Tt.fill := by
    obtain ⟨z1, z2, z3, q1, q2, q3, q4, -⟩ := Cond.selects_spec (hts _ q877)
    cases Option.some.inj (q1.symm.trans hfc)
    cases Option.some.inj (q2.symm.trans (State.methodFound?_of_named Y.fill (by decide)))
    cases Option.some.inj (q3.symm.trans Y.fill)
    rw [Launch.admits_selectMethod X.admits, c2]; exact q4
  have hskip : SkipFacts Tt e.platform s (fun u => u) ⟨va_rf (xs S 15), x_rfV _⟩ ((preparedCellV Tt.toThrowableT cell o ⟨va_rf (xs S 15), x_rfV _⟩ ⟨va_rf (xs S 16), x_rfV _⟩).withEntry T.cur) :=
    ⟨{ ci198 := ci198, i198 := i198, fBack := fB }, ⟨hk198, hg198, ha198, hsB⟩, by
      have h4 : cell.slots[D.2.1 9 4]? = some (x_V S 9 4 o) := c4 4 (by decide)
      have h5 : x_V S 9 4 o = .null := by
        show va_rf (xr S 904 o 0) = .null
        rw [hbt]; rfl
      rw [h5] at h4
      simp only [preparedCellV, Cell.setSlot, Cell.withEntry, sB, sC, sS, sP]
      simp [Array.getElem?_setIfInBounds, Ne.symm a0, Ne.symm a1, Ne.symm a2, h4], fun _ _ => rfl⟩
  obtain ⟨tm, methC, cdC, kCC, vm₁, hnC, -, -, -, -, -, -, -, hW₁, st1⟩ := Steps.initCold (tb := p.tables) (e := e) (below := below) (s := s) (U := T) X.here hx X.warmed hpl ho (t := Jvm.Bundle.init0 "java/lang/Exception") rfl rfl (by decide) (hts _ q909) (hts _ q910) (bytes := Jvm.Bundle.five) (maxL := 1) (by rw [five_eq]; exact hts _ q911) (f := F0 m pc ls (.ref o :: rest)) rfl (a := o) (rest := rest) rfl (by rw [hb]; exact hdg)
  cases Option.some.inj (hnC.symm.trans hP1m)
  have X₁ := X.noted hW₁
  have hrm : 2 * (F0 m pc ls rest).monitorRoom + ((F0 m pc ls rest).stack.map fun v => v.category).sum ≤ 8 := by simpa using hro
  obtain ⟨vm₂, X₂, st2⟩ := X₁.ctorPlainOffV hx (g := F0 m pc ls rest) rfl (hls.trans hml.symm) Tt L Z LZ [P1] (fun P hP => by rcases List.mem_cons.mp hP with rfl | hP; exact L1; cases hP) ⟨hlink1, hlink⟩ (u0 := ⟨va_rf (xs S 15), x_rfV _⟩) (sen := ⟨va_rf (xs S 16), x_rfV _⟩) (self := o) (cell := cell) (cellS := cellS)
    (by show T.heap[o]? = _; rw [hT]; exact c1) (fun k h => by rw [c3] at h; cases h) (fun h => by rw [c3] at h; cases h) m1 m2 hsel0 hselF (by show T.heap[Tt.aS]? = _; rw [hT]; exact u5) (fun h => u8 (by rw [h]; exact hw)) (fun h => by rw [h] at u6; cases u6) u7 w7 tC tS tP Y.objLocals hskip htr [] (by rw [hb]; exact hdg) (by show 1 + 2 < F; omega) (by have h2 := hR.2; show 2 * (F0 m pc ls rest).monitorRoom + ((F0 m pc ls rest).stack.map fun v => v.category).sum + (13 * 1 + 41) ≤ Lo; omega)
  have hlt := (Array.getElem?_eq_some_iff.mp c1).1
  have hI1 := x_put9 (S' := S1) B hX ha hw 0 (by decide) (v := .ref o) (by rw [e1]; exact x_Vup_r (k := 9) (j := 0) (x := some o) rfl (by decide)) c1 (j' := Tt.fCause.slot)
  have hI2 := x_put9 (S' := S2) B hI1 (by rw [e1]; exact ha) (by rw [e1]; exact hw) 1 (by decide) (v := va_rf (xs S 15)) (by rw [e2]; exact x_Vup_r (k := 9) (j := 1) rfl (by decide)) (cell := cell.setSlot (D.2.1 9 0) (.ref o)) (by simp [Array.getElem?_setIfInBounds, hlt]) (j' := Tt.fStack.slot)
  have hI3 := x_put9 (S' := S3) B hI2 (by rw [e2, e1]; exact ha) (by rw [e2, e1]; exact hw) 2 (by decide) (v := va_rf (xs S 16)) (by rw [e3]; exact x_Vup_r (k := 9) (j := 2) rfl (by decide)) (cell := (cell.setSlot (D.2.1 9 0) (.ref o)).setSlot (D.2.1 9 1) (va_rf (xs S 15))) (by simp [Array.getElem?_setIfInBounds, hlt]) (j' := Tt.fSupp.slot)
  have hI4 := x_put9 (S' := S4) B hI3 (by rw [e3, e2, e1]; exact ha) (by rw [e3, e2, e1]; exact hw) 1 (by decide) (v := va_rf (xs S 15)) (by rw [e4]; exact x_Vup_r (k := 9) (j := 1) rfl (by decide)) (cell := ((cell.setSlot (D.2.1 9 0) (.ref o)).setSlot (D.2.1 9 1) (va_rf (xs S 15))).setSlot (D.2.1 9 2) (va_rf (xs S 16))) (by simp [Array.getElem?_setIfInBounds, hlt]) (j' := Tt.fStack.slot)
  have ez : xz S4 = xz S := by rw [e4, e3, e2, e1]; rfl
  have eu : xu S4 = xu S := by rw [e4, e3, e2, e1]; rfl
  have key := kk _ _ hI4
  rw [ez, eu] at key
  simp only [List.append_assoc, List.cons_append, List.nil_append] at key
  obtain ⟨t, b1, b2⟩ := key _ (by
    show (T.heap.setIfInBounds o _) = _
    rw [hT]
    simp [preparedCellV, sC, sS, sP]) X₂
  refine ⟨t, st1 t (fun acts => ?_), b2⟩
  rw [doInvoke_state]
  exact st2 t b1
end XB9
