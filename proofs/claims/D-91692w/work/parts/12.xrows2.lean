set_option maxRecDepth 100000
/-! ROWS X 2: writes of fields, new cells, statics, casts -/
section XP
variable {p : Program} {l : Launch} {e : Env} {R : Room} {s : State} {m : MethodId} {args : Array Value} {below : List Frame} {meth : Method} {c : Code} {H : Heap} {locs : List Loc} {cells slots : Nat} {Q : State → Prop}
variable {cc : ByteArray} {pc nL : Nat} {ls : Array Slot} {rest : List Value} {D : XD} {S0 S S' : XS} {own : String}
theorem x_obW_of (hX : x_I D S0 s H locs S) {a k : Nat} {q : vw_C} (ha : xk S a = k) (hc : x_cl[k]? = some q) (h50 : 1 ≤ k ∧ k < 50) (hw : xb S ≤ a) : k ≤ 22 ∧ t_OB a (D.1 k) q.2.2 (D.2.1 k) H (fun j => x_V S k j a) := by
  have hat := (hX.1.2 a (by omega)).2.1 (by omega)
  rw [ha, if_pos hw] at hat
  obtain ⟨h22, -, q', hq, ht⟩ := hat
  cases hc.symm.trans hq
  exact ⟨h22, ht⟩
theorem x_mon_of (hX : x_I D S0 s H locs S) {a k : Nat} (ha : xk S a = k) (h50 : 1 ≤ k ∧ k < 50) (hw : xb S ≤ a) : x_mon H a := by
  have hat := (hX.1.2 a (by omega)).2.1 (by omega)
  rw [ha, if_pos hw] at hat
  exact hat.2.1
/-- how a field's write shows in the picture -/
def x_Vup (S S' : XS) (k j a : Nat) (v : Value) : Prop := x_same S S' a ∧ ∀ j', x_V S' k j' a = updV (fun j => x_V S k j a) j v j'
theorem x_Vup_i {k j a : Nat} {x : Int32} (h : x_ty k j = 0) (hk : 1 ≤ k ∧ k ≤ 22) : x_Vup S (s_i S (100 * k + j) a 0 x) k j a (.int x) := by
  refine ⟨x_same_i (Or.inl (by omega)), fun j' => ?_⟩
  unfold updV
  by_cases hj : j' = j
  · subst hj; simp [x_V, x_rg, hk.2, h, s_i, xi]
  · have hne : ¬ (100 * k + j' = 100 * k + j) := by omega
    simp [x_V, x_rg, hk.2, s_i, xi, xl, xr, hj]
theorem x_Vup_l {k j a : Nat} {x : Int64} (h : x_ty k j = 1) (hk : 1 ≤ k ∧ k ≤ 22) : x_Vup S (s_l S (100 * k + j) a 0 x) k j a (.long x) := by
  refine ⟨x_same_l, fun j' => ?_⟩
  unfold updV
  by_cases hj : j' = j
  · subst hj; simp [x_V, x_rg, hk.2, h, s_l, xl]
  · have hne : ¬ (100 * k + j' = 100 * k + j) := by omega
    simp [x_V, x_rg, hk.2, s_l, xi, xl, xr, hj]
theorem x_Vup_r {k j a : Nat} {x : Option Nat} (h : x_ty k j = 2) (hk : 1 ≤ k ∧ k ≤ 22) : x_Vup S (s_r S (100 * k + j) a 0 x) k j a (va_rf x) := by
  refine ⟨x_same_r, fun j' => ?_⟩
  unfold updV
  by_cases hj : j' = j
  · subst hj; simp [x_V, x_rg, hk.2, h, s_r, xr]
  · have hne : ¬ (100 * k + j' = 100 * k + j) := by omega
    simp [x_V, x_rg, hk.2, s_r, xi, xl, xr, hj]
theorem x_slots (B : CallFix p m c cc nL s args lw_all own) (hX : x_I D S0 s H locs S) {k j : Nat} {q : vw_C} (hc : x_cl[k]? = some q) (hk : 1 ≤ k ∧ k ≤ 22) (hj : j < q.2.2) {ty0 : Nat → FieldType} (hty : ∀ i, i < q.2.2 → parseFieldDescriptor (q.2.1 i).2.2.1 = some (ty0 i)) (hnm : ∀ i, i < q.2.2 → i ≠ j → (q.2.1 i).2.1 ≠ (q.2.1 j).2.1) : ∀ i, i < q.2.2 → i ≠ j → D.2.1 k i ≠ D.2.1 k j := by
  intro i hi hne
  obtain ⟨hS, -⟩ := hX.2.1.2.1 k q hk.1 hk.2 hc
  obtain ⟨_, _, _, fa, hia, ea⟩ := hS i hi
  obtain ⟨_, _, _, fb, hib, eb⟩ := hS j hj
  rw [← ea, ← eb]
  refine u_apart (u_lays B.2.2.2.2 (x_in k q hk.2 hc) hi) (u_lays B.2.2.2.2 (x_in k q hk.2 hc) hj) hia hib ?_
  rw [(State.fieldFound?_type hia (hty i hi)).1, (State.fieldFound?_type hib (hty j hj)).1]
  exact hnm i hi hne
/-- what the heap's picture is behind a write of field j -/
theorem x_I.put (hX : x_I D S0 s H locs S) {a k j : Nat} {q : vw_C} {v : Value} {cell : Cell} (ha : xk S a = k) (hc : x_cl[k]? = some q) (h50 : 1 ≤ k ∧ k < 50) (hw : xb S ≤ a) (hj : j < q.2.2) (hup : x_Vup S S' k j a v) (hap : ∀ i, i < q.2.2 → i ≠ j → D.2.1 k i ≠ D.2.1 k j) (h22 : k ≤ 22) (q1 : H[a]? = some cell) (q2 : cell.cls = D.1 k) (q3 : cell.vm = .none) (q4 : ∀ i, i < q.2.2 → cell.slots[D.2.1 k i]? = some (x_V S k i a)) {H1 : Heap} (e1 : H1[a]? = some (cell.setSlot (D.2.1 k j) v)) (z : H1.size = H.size) (oq : ∀ q, q ≠ a → H1[q]? = H[q]?) {j' : Nat} : x_I D S0 s H1 (locs ++ [⟨a, j'⟩]) S' := by
  refine hX.wrote hw (by omega) hup.1 z oq ?_
  unfold x_at
  rw [hup.1.1, hup.1.2.2.2.2.2.2.2.1, ha]
  refine ⟨fun _ => ?_, fun q => absurd q (by omega)⟩
  rw [if_pos hw]
  refine ⟨h22, fun c hc => ?_, q, hc, _, e1, q2, q3, fun i hi => ?_⟩
  · rw [e1] at hc
    cases hc
    exact x_mon_of hX ha h50 hw cell q1
  show _ = some (x_V S' k i a)
  rw [hup.2 i]
  unfold updV
  by_cases hij : i = j
  · subst hij
    rw [if_pos rfl]
    have hlt := (Array.getElem?_eq_some_iff.mp (q4 i hi)).1
    simp [Cell.setSlot, Array.getElem?_setIfInBounds, hlt]
  · rw [if_neg hij]
    have := hap i hi hij
    rw [← q4 i hi]
    simp [Cell.setSlot, Array.getElem?_setIfInBounds, Ne.symm this]
theorem xr_put (B : CallFix p m c cc nL s args lw_all own) (hX : x_I D S0 s H locs S) {a k : Nat} (j : Nat) {q : vw_C} (ha : xk S a = k) (hc : x_cl[k]? = some q) (h50 : 1 ≤ k ∧ k < 50) (hw : xb S ≤ a) (hj : j < q.2.2) {v : Value} (hup : x_Vup S S' k j a v) {ty0 : Nat → FieldType} (hty : ∀ i, i < q.2.2 → parseFieldDescriptor (q.2.1 i).2.2.1 = some (ty0 i)) (hnm : ∀ i, i < q.2.2 → i ≠ j → (q.2.1 i).2.1 ≠ (q.2.1 j).2.1) (hfin : (q.2.1 j).2.2.2 = false) (hn : narrow (ty0 j) v = v) (hfit : fits (ty0 j) v = true) {index : Nat} {ref : String} (hq : Cond.fieldLink own index ref (q.2.1 j).2.1 (q.2.1 j).2.2.1 ∈ lw_all) (hsame : ∀ x, s.fieldFound? (q.2.1 j).1 (q.2.1 j).2.1 (q.2.1 j).2.2.1 = some x → s.fieldFound? ref (q.2.1 j).2.1 (q.2.1 j).2.2.1 = some x) (hdg : decode cc pc = .ok (.putfield index, 3))
    (kk : ∀ (H : Heap) (locs : List Loc), x_I D S0 s H locs S' → W p l e R s m args below meth c H locs cells slots Q (F0 m (pc + 3) ls rest)) : W p l e R s m args below meth c H locs cells slots Q (F0 m pc ls (v :: .ref a :: rest)) := by
  obtain ⟨h22, cell, q1, q2, q3, q4⟩ := x_obW_of hX ha hc h50 hw
  have hap := x_slots B hX hc ⟨h50.1, h22⟩ hj hty hnm
  obtain ⟨hx, hb, hml, hown, hts⟩ := id B
  obtain ⟨hS, hfc, kC, hkC, hkind⟩ := hX.2.1.2.1 k q h50.1 h22 hc
  obtain ⟨cf, kf, fi, f, hi, hsl⟩ := hS j hj
  have hlay := hts _ (x_in k q h22 hc _ (u_in_lay hj))
  unfold u_lay at hlay
  rw [if_neg (by rw [hfin]; decide)] at hlay
  have hst := (u_facts hfc hkC (u_lays hts (x_in k q h22 hc) hj) hi).1
  have h6 := u_store hfc hkC hkind hlay hi (hty j hj) hn hfit
  refine W.putK hx hb (f := f) ⟨hown, hts _ hq, ⟨_, _, _, hsame _ hi⟩, hst⟩ (by rw [q2]; exact h6) q1 q3 (by rw [hsl]; exact k2_hasslot (q4 j hj)) rfl rfl hdg fun H' e1 e2 e3 => ?_
  rw [hsl] at e1 ⊢
  exact kk H' _ (hX.put ha hc h50 hw hj hup hap h22 q1 q2 q3 q4 e1 e2 e3)
theorem xr_putN (B : CallFix p m c cc nL s args lw_all own) (hX : x_I D S0 s H locs S) {a k : Nat} (j : Nat) {q : vw_C} (ha : xk S a = k) (hc : x_cl[k]? = some q) (h50 : 1 ≤ k ∧ k < 50) (hw : xb S ≤ a) (hj : j < q.2.2) {v : Value} (hup : x_Vup S S' k j a v) {ty0 : Nat → FieldType} (hty : ∀ i, i < q.2.2 → parseFieldDescriptor (q.2.1 i).2.2.1 = some (ty0 i)) (hnm : ∀ i, i < q.2.2 → i ≠ j → (q.2.1 i).2.1 ≠ (q.2.1 j).2.1) (hfin : (q.2.1 j).2.2.2 = false) (hn : narrow (ty0 j) v = v) (hfit : fits (ty0 j) v = true) {index : Nat} {ref host : String} (hq : Cond.fieldLinkNest own index ref (q.2.1 j).2.1 (q.2.1 j).2.2.1 host ∈ x_nw) (hsame : ∀ x, s.fieldFound? (q.2.1 j).1 (q.2.1 j).2.1 (q.2.1 j).2.2.1 = some x → s.fieldFound? ref (q.2.1 j).2.1 (q.2.1 j).2.2.1 = some x) (hdg : decode cc pc = .ok (.putfield index, 3))
    (kk : ∀ (H : Heap) (locs : List Loc), x_I D S0 s H locs S' → W p l e R s m args below meth c H locs cells slots Q (F0 m (pc + 3) ls rest)) : W p l e R s m args below meth c H locs cells slots Q (F0 m pc ls (v :: .ref a :: rest)) := by
  obtain ⟨h22, cell, q1, q2, q3, q4⟩ := x_obW_of hX ha hc h50 hw
  have hap := x_slots B hX hc ⟨h50.1, h22⟩ hj hty hnm
  obtain ⟨hx, hb, hml, hown, hts⟩ := id B
  obtain ⟨hS, hfc, kC, hkC, hkind⟩ := hX.2.1.2.1 k q h50.1 h22 hc
  obtain ⟨cf, kf, fi, f, hi, hsl⟩ := hS j hj
  have hlay := hts _ (x_in k q h22 hc _ (u_in_lay hj))
  unfold u_lay at hlay
  rw [if_neg (by rw [hfin]; decide)] at hlay
  have hst := (u_facts hfc hkC (u_lays hts (x_in k q h22 hc) hj) hi).1
  have h6 := u_store hfc hkC hkind hlay hi (hty j hj) hn hfit
  refine va_WputK hx hb (f := f) hown (hX.2.2.1.use hq rfl) (hsame _ hi) hst (by rw [q2]; exact h6) q1 q3 (by rw [hsl]; exact k2_hasslot (q4 j hj)) rfl rfl hdg fun H' e1 e2 e3 => ?_
  rw [hsl] at e1 ⊢
  exact kk H' _ (hX.put ha hc h50 hw hj hup hap h22 q1 q2 q3 q4 e1 e2 e3)
/-- a final field, in the constructor of the class that declares it -/
theorem xr_putF (B : CallFix p m c cc nL s args lw_all own) (hin2 : meth.name = "<init>") (hX : x_I D S0 s H locs S) {a k : Nat} (j : Nat) {q : vw_C} (ha : xk S a = k) (hc : x_cl[k]? = some q) (h50 : 1 ≤ k ∧ k < 50) (hw : xb S ≤ a) (hj : j < q.2.2) {v : Value} (hup : x_Vup S S' k j a v) {ty0 : Nat → FieldType} (hty : ∀ i, i < q.2.2 → parseFieldDescriptor (q.2.1 i).2.2.1 = some (ty0 i)) (hnm : ∀ i, i < q.2.2 → i ≠ j → (q.2.1 i).2.1 ≠ (q.2.1 j).2.1) (hfin : (q.2.1 j).2.2.2 = true) (hdecl : (q.2.1 j).1 = own) (hn : narrow (ty0 j) v = v) (hfit : fits (ty0 j) v = true) {index : Nat} {ref : String} (hq : Cond.fieldLink own index ref (q.2.1 j).2.1 (q.2.1 j).2.2.1 ∈ lw_all) (hsame : ∀ x, s.fieldFound? (q.2.1 j).1 (q.2.1 j).2.1 (q.2.1 j).2.2.1 = some x → s.fieldFound? ref (q.2.1 j).2.1 (q.2.1 j).2.2.1 = some x) (hdg : decode cc pc = .ok (.putfield index, 3))
    (kk : ∀ (H : Heap) (locs : List Loc), x_I D S0 s H locs S' → W p l e R s m args below meth c H locs cells slots Q (F0 m (pc + 3) ls rest)) : W p l e R s m args below meth c H locs cells slots Q (F0 m pc ls (v :: .ref a :: rest)) := by
  obtain ⟨h22, cell, q1, q2, q3, q4⟩ := x_obW_of hX ha hc h50 hw
  have hap := x_slots B hX hc ⟨h50.1, h22⟩ hj hty hnm
  obtain ⟨hx, hb, hml, hown, hts⟩ := id B
  obtain ⟨hS, hfc, kC, hkC, hkind⟩ := hX.2.1.2.1 k q h50.1 h22 hc
  obtain ⟨cf, kf, fi, f, hi, hsl⟩ := hS j hj
  have hlay := hts _ (x_in k q h22 hc _ (u_in_lay hj))
  unfold u_lay at hlay
  rw [if_pos hfin] at hlay
  have hst := (u_facts hfc hkC (u_lays hts (x_in k q h22 hc) hj) hi).1
  have hcf : m.cls = cf := by
    obtain ⟨_, _, c', _, _, _, -, -, hf', -, -, -, hown2, -⟩ := Cond.laysFinal_spec hlay
    have e1 : c' = cf := by have := hi.symm.trans hf'; simp at this; exact this.1.symm
    rw [hdecl] at hown2
    rw [← e1]; exact Option.some.inj (hown.symm.trans hown2)
  have h6 := u_fits hfc hkC hkind (Or.inr hlay) hi (hty j hj) hn hfit
  refine W.putFinK hx hb hown (hts _ hq) (hsame _ hi) hst hcf hin2 (by rw [q2]; exact h6) q1 q3 (by rw [hsl]; exact k2_hasslot (q4 j hj)) rfl rfl hdg fun H' e1 e2 e3 => ?_
  rw [hsl] at e1 ⊢
  exact kk H' _ (hX.put ha hc h50 hw hj hup hap h22 q1 q2 q3 q4 e1 e2 e3)
/-- a new cell -/
theorem x_I.made (hX : x_I D S0 s H locs S) {k n ns : Nat} {cell : Cell} (hk : k ≠ 0) (hro : xz S < xL S ∧ xu S + ns ≤ xU S) (hat : ∀ H1 : Heap, H1[xz S]? = some cell → x_at D (n_c S k n ns) s H1 (xz S)) : x_I D S0 s (H.push cell) locs (n_c S k n ns) := by
  obtain ⟨⟨hz, hP⟩, hK, hNW, hbz, hM, hSS, hsz, hZ⟩ := hX
  have e1 : (H.push cell)[xz S]? = some cell := by rw [← hz, Array.getElem?_push_size]
  have o1 : ∀ q : Nat, q < H.size → (H.push cell)[q]? = H[q]? := fun q hq => by rw [Array.getElem?_push, if_neg (Nat.ne_of_lt hq)]
  refine ⟨⟨by rw [Array.size_push, hz]; rfl, fun b hb => ?_⟩, hK, hNW, ⟨Nat.le_succ_of_le hbz.1, hro.1, hro.2, fun b i => by
      show fits .byte (.int (if b = xz S then 0 else xi S 51 b i)) = true
      split
      · rfl
      · exact hbz.2.2.2 b i⟩, ⟨Nat.le_succ_of_le hM.1, Nat.le_trans hM.2.1 (Nat.le_add_right _ _), hM.2.2.1, hM.2.2.2.1, hM.2.2.2.2.1, hM.2.2.2.2.2.1, fun q hq => ?_⟩, ⟨?_, fun q h1 h2 => (o1 q (Nat.lt_of_lt_of_le h1 hSS.1)).trans (hSS.2.1 q h1 h2), hSS.2.2⟩, hsz, hZ.kept rfl rfl (fun q hq _ => o1 q hq)⟩
  · by_cases hbz' : b = xz S
    · subst hbz'
      exact ⟨Nat.lt_succ_self _, hat _ e1⟩
    · have hk' : xk (n_c S k n ns) b = xk S b := if_neg hbz'
      rw [hk'] at hb
      exact ⟨Nat.lt_succ_of_lt (hP b hb).1, (hP b hb).2.congr hk' (if_neg hbz') rfl (fun r i => ⟨if_neg hbz', if_neg hbz', if_neg hbz'⟩) (o1 b (by rw [hz]; exact (hP b hb).1))⟩
  · have : q ≠ xz S := Nat.ne_of_lt (Nat.lt_of_lt_of_le hq hM.1)
    exact (if_neg this).trans (hM.2.2.2.2.2.2 q hq)
  · rw [Array.size_push]; exact Nat.le_succ_of_le hSS.1
/-- the room that is left -/
abbrev x_R (F L : Nat) (S0 : XS) : Room := { frames := F, cells := xL S0 - xz S0, slots := xU S0 - xu S0, locals := L }
theorem xr_new {F Lo : Nat} (B : CallFix p m c cc nL s args lw_all own) (hX : x_I D S0 s H locs S) (k : Nat) {q : vw_C} {N index : Nat} (hc : x_cl[k]? = some q) (hk : 1 ≤ k ∧ k ≤ 22) {ty0 : Nat → FieldType} (hty : ∀ i, i < q.2.2 → parseFieldDescriptor (q.2.1 i).2.2.1 = some (ty0 i)) (hdef : ∀ i, i < q.2.2 → defaultValue (ty0 i) = if x_ty k i = 0 then .int 0 else if x_ty k i = 1 then .long 0 else .null) (hcl : Cond.classLink own index q.1 ∈ lw_all) (hin : Cond.instantiable q.1 N ∈ lw_all) (hini : Cond.initialized q.1 ∈ lw_all) (hroom : xz S < xL S ∧ xu S + N ≤ xU S) (hS' : S' = n_c S k 0 N) (hdg : decode cc pc = .ok (.new index, 3))
    (kk : ∀ H : Heap, x_I D S0 s H locs S' → W p l e (x_R F Lo S0) s m args below meth c H locs (xz S' - xz S0) (xu S' - xu S0) Q (F0 m (pc + 3) ls (.ref (xz S) :: rest))) : W p l e (x_R F Lo S0) s m args below meth c H locs (xz S - xz S0) (xu S - xu S0) Q (F0 m pc ls rest) := by
  have hM := hX.2.2.2.2.1
  have e4 : xL S = xL S0 := hM.2.2.2.1
  have e5 : xU S = xU S0 := hM.2.2.2.2.1
  have z1 := hM.1
  have z2 := hM.2.1
  obtain ⟨hx, hb, hml, hown, hts⟩ := id B
  refine W.newc hx hb hown (hts _ hcl) (hts _ hin) (hts _ hini) rfl hdg (by show _ + 1 ≤ xL S0 - xz S0; omega) (by show _ + N ≤ xU S0 - xu S0; omega) fun cC kC h1 h2 h3 h4 => ?_
  subst hS'
  have hKn := hX.2.1.2.1 k q hk.1 hk.2 hc
  have hcC : cC = D.1 k := Option.some.inj (h1.symm.trans hKn.2.1)
  subst hcC
  have ez : xz (n_c S k 0 N) - xz S0 = (xz S - xz S0) + 1 := by show xz S + 1 - xz S0 = _; omega
  have eu : xu (n_c S k 0 N) - xu S0 = (xu S - xu S0) + N := by show xu S + N - xu S0 = _; omega
  have key := kk _ (hX.made (k := k) (n := 0) (ns := N) (cell := { cls := D.1 k, slots := kC.instanceTypes.map defaultValue, vm := .none }) (by omega) hroom (fun H1 e1 => ?_))
  · rw [ez, eu] at key
    rw [show xz S = H.size from hX.1.1.symm] at key
    rw [show xz S = H.size from hX.1.1.symm]
    exact key
  · have hb : xb S ≤ xz S := hX.2.2.2.1.1
    unfold x_at
    rw [show xk (n_c S k 0 N) (xz S) = k from if_pos rfl, show xb (n_c S k 0 N) = xb S from rfl, if_pos hb]
    refine ⟨fun _ => ⟨hk.2, fun c hc => by rw [e1] at hc; cases hc; exact ⟨rfl, rfl⟩, q, hc, ?_⟩, fun h => absurd h (by omega)⟩
    refine (u_born (kC := kC) ty0 hts (x_in k q hk.2 hc) hKn h2 e1 hty).to (fun j hj => ?_)
    rw [hdef j hj]
    simp [x_V, n_c, xi, xl, xr, va_rf]
/-- a new array of numbers -/
theorem xr_newa {F Lo : Nat} (B : CallFix p m c cc nL s args lw_all own) (hX : x_I D S0 s H locs S) (k : Nat) {atype : ArrayType} (hk : 50 ≤ k ∧ k ≤ 54) (hty : x_aty k = some (newarray.typeOf atype)) (hdef : defaultValue (newarray.typeOf atype) = if x_ec k = 0 then .int 0 else .long 0) (hec : x_ec k ≤ 1) (hRA : ∀ c, va_RA s c (newarray.typeOf atype) ↔ s.vm.findClass ("[" ++ (newarray.typeOf atype).toString) = some c) {n : Int32} (hn : ¬ n < 0) (hbytes : n.toNatClampNeg * componentBytes (newarray.typeOf atype) ≤ 536870912) (harr : Cond.arrayClass (newarray.typeOf atype) ∈ lw_all) (hroom : xz S < xL S ∧ xu S + n.toNatClampNeg ≤ xU S) (hS' : S' = n_c S k n.toNatClampNeg n.toNatClampNeg) (hdg : decode cc pc = .ok (.newarray atype, 2))
    (kk : ∀ H : Heap, x_I D S0 s H locs S' → W p l e (x_R F Lo S0) s m args below meth c H locs (xz S' - xz S0) (xu S' - xu S0) Q (F0 m (pc + 2) ls (.ref (xz S) :: rest))) : W p l e (x_R F Lo S0) s m args below meth c H locs (xz S - xz S0) (xu S - xu S0) Q (F0 m pc ls (.int n :: rest)) := by
  have hM := hX.2.2.2.2.1
  have e4 : xL S = xL S0 := hM.2.2.2.1
  have e5 : xU S = xU S0 := hM.2.2.2.2.1
  have z1 := hM.1
  have z2 := hM.2.1
  obtain ⟨hx, hb, hml, hown, hts⟩ := id B
  refine W.newa hx hb (hts _ harr) rfl hdg rfl hn hbytes (by show _ + 1 ≤ xL S0 - xz S0; omega) (by show _ + _ ≤ xU S0 - xu S0; omega) fun cA kA comp h1 h2 h3 => ?_
  subst hS'
  have hcA : cA = D.2.2 k := by
    have h9 := (hRA _).mp (hX.2.1.2.2 k _ (by omega) hty).2
    exact Option.some.inj (h1.symm.trans h9)
  subst hcA
  have ez : xz (n_c S k n.toNatClampNeg n.toNatClampNeg) - xz S0 = (xz S - xz S0) + 1 := by show xz S + 1 - xz S0 = _; omega
  have eu : xu (n_c S k n.toNatClampNeg n.toNatClampNeg) - xu S0 = (xu S - xu S0) + n.toNatClampNeg := by show xu S + _ - xu S0 = _; omega
  have key := kk _ (hX.made (k := k) (n := n.toNatClampNeg) (ns := n.toNatClampNeg) (cell := { cls := D.2.2 k, slots := Array.replicate n.toNatClampNeg (defaultValue (newarray.typeOf atype)), vm := .none }) (by omega) hroom (fun H1 e1 => ?_))
  · rw [ez, eu] at key
    rw [show xz S = H.size from hX.1.1.symm] at key
    rw [show xz S = H.size from hX.1.1.symm]
    exact key
  · have hb : xb S ≤ xz S := hX.2.2.2.1.1
    unfold x_at
    rw [show xk (n_c S k n.toNatClampNeg n.toNatClampNeg) (xz S) = k from if_pos rfl, show xb (n_c S k n.toNatClampNeg n.toNatClampNeg) = xb S from rfl]
    refine ⟨fun h => absurd h (by omega), fun _ => ?_⟩
    rw [if_pos hb]
    refine ⟨by omega, ⟨_, hty⟩, ?_⟩
    rw [e1, arrV_new, show xn (n_c S k n.toNatClampNeg n.toNatClampNeg) (xz S) = n.toNatClampNeg from if_pos rfl, hdef]
    congr 2
    funext i
    simp [x_E, n_c, xi, xl, xr]
    have : x_ec k = 0 ∨ x_ec k = 1 := by omega
    rcases this with h | h <;> simp [h]
/-- a new array of references -/
theorem xr_anew {F Lo : Nat} (B : CallFix p m c cc nL s args lw_all own) (hX : x_I D S0 s H locs S) (k : Nat) {C : String} (hk : 55 ≤ k ∧ k ≤ 56) (hty : x_aty k = some (.object C)) {index : Nat} {n : Int32} (hn : ¬ n < 0) (hbytes : n.toNatClampNeg * 4 ≤ 536870912) (hcl : Cond.classLink own index C ∈ lw_all) (hao : Cond.arrayOver (.object C) ∈ x_nw) (hroom : xz S < xL S ∧ xu S + n.toNatClampNeg ≤ xU S) (hS' : S' = n_c S k n.toNatClampNeg n.toNatClampNeg) (hdg : decode cc pc = .ok (.anewarray index, 3))
    (kk : ∀ H : Heap, x_I D S0 s H locs S' → W p l e (x_R F Lo S0) s m args below meth c H locs (xz S' - xz S0) (xu S' - xu S0) Q (F0 m (pc + 3) ls (.ref (xz S) :: rest))) : W p l e (x_R F Lo S0) s m args below meth c H locs (xz S - xz S0) (xu S - xu S0) Q (F0 m pc ls (.int n :: rest)) := by
  have hM := hX.2.2.2.2.1
  have e4 : xL S = xL S0 := hM.2.2.2.1
  have e5 : xU S = xU S0 := hM.2.2.2.2.1
  have z1 := hM.1
  have z2 := hM.2.1
  obtain ⟨hx, hb, hml, hown, hts⟩ := id B
  refine W.anew hx hb hown (hts _ hcl) (hX.2.2.1.1 _ hao) rfl hdg rfl hn hbytes (by show _ + 1 ≤ xL S0 - xz S0; omega) (by show _ + _ ≤ xU S0 - xu S0; omega) fun cA kA comp f1 f2 f3 f4 => ?_
  subst hS'
  have hcA : cA = D.2.2 k := by
    obtain ⟨-, -, -, -, -, h9⟩ := (hX.2.1.2.2 k _ (by omega) hty).2
    exact Option.some.inj (f1.symm.trans h9)
  subst hcA
  have ez : xz (n_c S k n.toNatClampNeg n.toNatClampNeg) - xz S0 = (xz S - xz S0) + 1 := by show xz S + 1 - xz S0 = _; omega
  have eu : xu (n_c S k n.toNatClampNeg n.toNatClampNeg) - xu S0 = (xu S - xu S0) + n.toNatClampNeg := by show xu S + _ - xu S0 = _; omega
  have key := kk _ (hX.made (k := k) (n := n.toNatClampNeg) (ns := n.toNatClampNeg) (cell := { cls := D.2.2 k, slots := Array.replicate n.toNatClampNeg .null, vm := .none }) (by omega) hroom (fun H1 e1 => ?_))
  · rw [ez, eu] at key
    rw [show xz S = H.size from hX.1.1.symm] at key
    rw [show xz S = H.size from hX.1.1.symm]
    exact key
  · have hb : xb S ≤ xz S := hX.2.2.2.1.1
    unfold x_at
    rw [show xk (n_c S k n.toNatClampNeg n.toNatClampNeg) (xz S) = k from if_pos rfl, show xb (n_c S k n.toNatClampNeg n.toNatClampNeg) = xb S from rfl]
    refine ⟨fun h => absurd h (by omega), fun _ => ?_⟩
    rw [if_pos hb]
    refine ⟨by omega, ⟨_, hty⟩, ?_⟩
    rw [e1, arrV_new, show xn (n_c S k n.toNatClampNeg n.toNatClampNeg) (xz S) = n.toNatClampNeg from if_pos rfl]
    congr 2
    funext i
    have : k = 55 ∨ k = 56 := by omega
    rcases this with h | h <;> subst h <;> simp [x_E, x_ec, n_c, xi, xl, xr, va_rf]
/-- statics -/
theorem xr_gets (B : CallFix p m c cc nL s args lw_all own) (hX : x_I D S0 s H locs S) {C n d : String} {v : Value} (hZ : va_Z C n d v (fun a => xb S ≤ a) s H) {index : Nat} (hq : Cond.fieldLink own index C n d ∈ lw_all) (hdg : decode cc pc = .ok (.getstatic index, 3))
    (kk : W p l e R s m args below meth c H locs cells slots Q (F0 m (pc + 3) ls (v :: rest))) : W p l e R s m args below meth c H locs cells slots Q (F0 m pc ls rest) := by
  obtain ⟨cf, kf, fi, f, a, cell, h1, h2, h3, h4, h5, h6, h7, h8⟩ := hZ
  exact W.gets B.1 B.2.1 B.2.2.2.1 (B.2.2.2.2 _ hq) h1 h2 h3 h4 h5 (fun e => by rw [e] at h6; cases h6) h7 rfl hdg kk
theorem xr_getsN (B : CallFix p m c cc nL s args lw_all own) (hX : x_I D S0 s H locs S) {C n d host : String} {v : Value} (hZ : va_Z C n d v (fun a => xb S ≤ a) s H) {index : Nat} (hq : Cond.fieldLinkNest own index C n d host ∈ x_nw) (hdg : decode cc pc = .ok (.getstatic index, 3))
    (kk : W p l e R s m args below meth c H locs cells slots Q (F0 m (pc + 3) ls (v :: rest))) : W p l e R s m args below meth c H locs cells slots Q (F0 m pc ls rest) := by
  obtain ⟨cf, kf, fi, f, a, cell, h1, h2, h3, h4, h5, h6, h7, h8⟩ := hZ
  exact va_WgetsN B.1 B.2.1 B.2.2.2.1 (hX.2.2.1.use hq rfl) h1 h2 h3 h4 h5 (fun e => by rw [e] at h6; cases h6) h7 rfl hdg kk
theorem x_stat (hX : x_I D S0 s H locs S) (k : Nat) {q : String × String × String} (hq : x_st[k]? = some q) : va_Z q.1 q.2.1 q.2.2 (va_rf (xs S k)) (fun a => xb S ≤ a) s H := hX.2.2.2.2.2.2.2.1 k q hq
theorem xr_ldcS (B : CallFix p m c cc nL s args lw_all own) (hX : x_I D S0 s H locs S) (k : Nat) {tx : String} {index a : Nat} (hk : x_str[k]? = some (own, index, tx)) (ha : xs S (50 + k) = some a) (hdg : decode cc pc = .ok (.ldc index, 2))
    (kk : W p l e R s m args below meth c H locs cells slots Q (F0 m (pc + 2) ls (.ref a :: rest))) : W p l e R s m args below meth c H locs cells slots Q (F0 m pc ls rest) := by
  obtain ⟨a', h1, h2⟩ := hX.2.2.2.2.2.2.2.2.2.2.1 k _ hk
  cases ha.symm.trans h1
  exact va_ldcS B.1 B.2.1 B.2.2.2.1 h2 hdg kk
theorem xr_castY (B : CallFix p m c cc nL s args lw_all own) (hX : x_I D S0 s H locs S) {a k : Nat} {q : vw_C} (ha : xk S a = k) (hc : x_cl[k]? = some q) (h50 : 1 ≤ k ∧ k < 50) {nm : String} {index : Nat} (hlink : Cond.classLink own index nm ∈ lw_all) (hcast : Cond.castable q.1 nm ∈ x_nw ∨ (q.1 = nm ∧ k ≤ 22)) (hdg : decode cc pc = .ok (.checkcast index, 3))
    (kk : W p l e R s m args below meth c H locs cells slots Q (F0 m (pc + 3) ls (.ref a :: rest))) : W p l e R s m args below meth c H locs cells slots Q (F0 m pc ls (.ref a :: rest)) := by
  have hr := x_recv hX ha hc h50
  rcases hcast with h | ⟨h, h22⟩
  · exact va_castY B.1 B.2.1 B.2.2.2.1 (B.2.2.2.2 _ hlink) (hX.2.2.1.1 _ h) hr hdg kk
  · rw [h] at hr
    have hcl := (hX.2.1.2.1 k q h50.1 h22 hc).2
    rw [h] at hcl
    exact va_castS B.1 B.2.1 B.2.2.2.1 (B.2.2.2.2 _ hlink) hcl hr hdg kk
theorem xr_instY (B : CallFix p m c cc nL s args lw_all own) (hX : x_I D S0 s H locs S) {a k : Nat} {q : vw_C} (ha : xk S a = k) (hc : x_cl[k]? = some q) (h50 : 1 ≤ k ∧ k < 50) {nm : String} {index : Nat} (hlink : Cond.classLink own index nm ∈ lw_all) (hcast : Cond.castable q.1 nm ∈ x_nw ∨ (q.1 = nm ∧ k ≤ 22)) (hdg : decode cc pc = .ok (.instanceof index, 3))
    (kk : W p l e R s m args below meth c H locs cells slots Q (F0 m (pc + 3) ls (.int 1 :: rest))) : W p l e R s m args below meth c H locs cells slots Q (F0 m pc ls (.ref a :: rest)) := by
  have hr := x_recv hX ha hc h50
  rcases hcast with h | ⟨h, h22⟩
  · exact va_instY B.1 B.2.1 B.2.2.2.1 (B.2.2.2.2 _ hlink) (hX.2.2.1.1 _ h) hr hdg kk
  · rw [h] at hr
    have hcl := (hX.2.1.2.1 k q h50.1 h22 hc).2
    rw [h] at hcl
    exact va_instS B.1 B.2.1 B.2.2.2.1 (B.2.2.2.2 _ hlink) hcl hr hdg kk
end XP
