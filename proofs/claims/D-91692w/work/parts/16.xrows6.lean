set_option maxRecDepth 100000
/-! ROWS X 6: values that may be copied, clone, an interface's call -/
section XS6
variable {p : Program} {l : Launch} {e : Env} {R : Room} {s : State} {m : MethodId} {args : Array Value} {below : List Frame} {meth : Method} {c : Code} {H : Heap} {locs : List Loc} {cells slots : Nat} {Q : State → Prop}
variable {cc : ByteArray} {pc nL : Nat} {ls : Array Slot} {rest : List Value} {D : XD} {S0 S S' : XS} {own : String}
theorem w_i {f : JFrame} {r a i : Nat} {v : Int32} (h : S' = s_i S r a i v) (k : W p l e R s m args below meth c H locs (xz S' - xz S0) (xu S' - xu S0) Q f) : W p l e R s m args below meth c H locs (xz S - xz S0) (xu S - xu S0) Q f := by subst h; exact k
theorem w_l {f : JFrame} {r a i : Nat} {v : Int64} (h : S' = s_l S r a i v) (k : W p l e R s m args below meth c H locs (xz S' - xz S0) (xu S' - xu S0) Q f) : W p l e R s m args below meth c H locs (xz S - xz S0) (xu S - xu S0) Q f := by subst h; exact k
theorem w_r {f : JFrame} {r a i : Nat} {v : Option Nat} (h : S' = s_r S r a i v) (k : W p l e R s m args below meth c H locs (xz S' - xz S0) (xu S' - xu S0) Q f) : W p l e R s m args below meth c H locs (xz S - xz S0) (xu S - xu S0) Q f := by subst h; exact k
theorem w_c {f : JFrame} {k' a sp b dp n : Nat} (h : S' = s_cp S k' a sp b dp n) (k : W p l e R s m args below meth c H locs (xz S' - xz S0) (xu S' - xu S0) Q f) : W p l e R s m args below meth c H locs (xz S - xz S0) (xu S - xu S0) Q f := by subst h; exact k
theorem x_vals51 (hX : x_I D S0 s H locs S) {a sp n : Nat} : ∀ i, i < n → fits .byte (x_E S 51 a (sp + i)) = true ∧ ((51 : Nat) ≠ 55 → ∀ x, x_E S 51 a (sp + i) ≠ .ref x) ∧ ((51 : Nat) = 55 → x_okQ S (xr S 55 a (sp + i)) = true) := fun i _ => ⟨hX.2.2.2.1.2.2.2 a _, fun _ x h => by simp [x_E, x_ec] at h, fun h => absurd h (by decide)⟩
theorem x_vals52 {a sp n : Nat} : ∀ i, i < n → fits .int (x_E S 52 a (sp + i)) = true ∧ ((52 : Nat) ≠ 55 → ∀ x, x_E S 52 a (sp + i) ≠ .ref x) ∧ ((52 : Nat) = 55 → x_okQ S (xr S 55 a (sp + i)) = true) := fun i _ => ⟨rfl, fun _ x h => by simp [x_E, x_ec] at h, fun h => absurd h (by decide)⟩
theorem x_vals53 {a sp n : Nat} : ∀ i, i < n → fits .long (x_E S 53 a (sp + i)) = true ∧ ((53 : Nat) ≠ 55 → ∀ x, x_E S 53 a (sp + i) ≠ .ref x) ∧ ((53 : Nat) = 55 → x_okQ S (xr S 55 a (sp + i)) = true) := fun i _ => ⟨rfl, fun _ x h => by simp [x_E, x_ec] at h, fun h => absurd h (by decide)⟩
theorem x_vals55 {a sp n : Nat} (h : ∀ i, i < n → x_okQ S (xr S 55 a (sp + i)) = true) : ∀ i, i < n → fits (.object "java/lang/Object") (x_E S 55 a (sp + i)) = true ∧ ((55 : Nat) ≠ 55 → ∀ x, x_E S 55 a (sp + i) ≠ .ref x) ∧ ((55 : Nat) = 55 → x_okQ S (xr S 55 a (sp + i)) = true) := fun i hi => ⟨by
  have : x_E S 55 a (sp + i) = va_rf (xr S 55 a (sp + i)) := by simp [x_E, x_ec]
  rw [this]
  cases xr S 55 a (sp + i) <;> rfl, fun h => absurd rfl h, fun _ => h i hi⟩
theorem xr_castB (B : CallFix p m c cc nL s args lw_all own) (hX : x_I D S0 s H locs S) {a index : Nat} (ha : xk S a = 51) (hw : xb S ≤ a) (hlink : Cond.classLink own index "[B" ∈ lw_all) (hdg : decode cc pc = .ok (.checkcast index, 3))
    (kk : W p l e R s m args below meth c H locs cells slots Q (F0 m (pc + 3) ls (.ref a :: rest))) : W p l e R s m args below meth c H locs cells slots Q (F0 m pc ls (.ref a :: rest)) := by
  obtain ⟨h56, hty', hc1⟩ := x_arW_of hX ha (by decide) hw
  have hnm : s.vm.findClass "[B" = some (D.2.2 51) := (hX.2.1.2.2 51 .byte (by decide) rfl).2
  intro T hT X
  obtain ⟨vm', X', st⟩ := X.checkcastYes B.1 B.2.2.2.1 (B.2.2.2.2 _ hlink) (by rw [hT]; exact hc1) rfl hnm (va_asg _ _) (g := F0 m pc ls (.ref a :: rest)) rfl rfl (by rw [B.2.1]; exact hdg)
  obtain ⟨t, a1, b1⟩ := kk (T.setVm vm') hT X'
  exact ⟨t, st t a1, b1⟩
theorem xr_clone {F Lo : Nat} (B : CallFix p m c cc nL s args lw_all own) (hX : x_I D S0 s H locs S) {a index : Nat} (ha : xk S a = 51) (hw : xb S ≤ a) (hls : ls.size = nL)
    (hlink : Cond.methodLink own index ⟨"[B", "clone", "()Ljava/lang/Object;"⟩ ∈ lw_all) (hsame : Cond.sameMethod "[B" "java/lang/Object" "clone" "()Ljava/lang/Object;" ∈ lw_all)
    (hnat : Cond.native ⟨"java/lang/Object", "clone", "()Ljava/lang/Object;"⟩ ∈ lw_all) (hinst : Cond.instanceMethod ⟨"java/lang/Object", "clone", "()Ljava/lang/Object;"⟩ ∈ lw_all)
    (hsel : Cond.selects "[B" ⟨"[B", "clone", "()Ljava/lang/Object;"⟩ ⟨"java/lang/Object", "clone", "()Ljava/lang/Object;"⟩ ∈ lw_all) (hcl : Cond.castable "[B" "java/lang/Cloneable" ∈ x_nw)
    (hroom : xz S < xL S ∧ xu S + xn S a ≤ xU S) (hS' : S' = n_cl S a) (hframes : 1 ≤ F) (hlocals : (rest.map fun v => v.category).sum + 14 ≤ Lo) (hdg : decode cc pc = .ok (.invokevirtual index, 3))
    (kk : ∀ H : Heap, x_I D S0 s H locs S' → W p l e (x_R F Lo S0) s m args below meth c H locs (xz S' - xz S0) (xu S' - xu S0) Q (F0 m (pc + 3) ls (.ref (xz S) :: rest))) : W p l e (x_R F Lo S0) s m args below meth c H locs (xz S - xz S0) (xu S - xu S0) Q (F0 m pc ls (.ref a :: rest)) := by
  obtain ⟨h56, hty', hc1⟩ := x_arW_of hX ha (by decide) hw
  obtain ⟨hx, hb, hml, hown, hts⟩ := id B
  have hM := hX.2.2.2.2.1
  have e4 : xL S = xL S0 := hM.2.2.2.1
  have e5 : xU S = xU S0 := hM.2.2.2.2.1
  have z1 := hM.1
  have z2 := hM.2.1
  have hnm : s.vm.findClass "[B" = some (D.2.2 51) := (hX.2.1.2.2 51 .byte (by decide) rfl).2
  obtain ⟨c0, t0', f1, f2, f3⟩ := Cond.castable_spec (hX.2.2.1.use (A := args) hcl rfl)
  cases hnm.symm.trans f1
  intro T hT X
  have hcellT : T.heap[a]? = some (arrV (D.2.2 51) (xn S a) (x_E S 51 a)) := by rw [hT]; exact hc1
  obtain ⟨-, kA, hkA, comp, hkind⟩ := State.isArrayOf_alike X.warmed.alike ((hX.2.1.2.2 51 .byte (by decide) rfl).1 0 (fun _ => .null))
  obtain ⟨-, kS, hkS, compS, hkindS⟩ := (hX.2.1.2.2 51 .byte (by decide) rfl).1 0 (fun _ => .null)
  obtain ⟨vm', X', st⟩ := X.cloneArray hx hown (hts _ hlink) (hts _ hsame) (hts _ hnat) (hts _ hinst) (hts _ hsel) (a := a) (cell := arrV (D.2.2 51) (xn S a) (x_E S 51 a)) hcellT (fun k h => by cases h) (fun h => by cases h) hnm f2 f3
    (fun i v hv => by
      have hk' : T.vm.classes[D.2.2 51]? = some kA := hkA
      have hlt := (Array.getElem?_eq_some_iff.mp hv).1
      rw [arrV_size] at hlt
      rw [arrV_read _ _ hlt] at hv
      cases hv
      have hfit := (x_vals51 (n := i + 1) (sp := 0) (a := a) hX i (Nat.lt_succ_self i)).1
      rw [Nat.zero_add] at hfit
      show T.fitsSlot (D.2.2 51) .none i _ = true
      simpa [State.fitsSlot, State.slotType?, hk', hkind] using hfit)
    (g := F0 m pc ls (.ref a :: rest)) rfl (hls.trans hml.symm) rfl (by rw [hb]; exact hdg) hframes (by show 2 * 0 + _ + 14 ≤ Lo; omega) (by show _ + 1 ≤ xL S0 - xz S0; omega) (by show _ + _ ≤ xU S0 - xu S0; rw [arrV_size]; omega) (hloader := Vm.clonesLoader_of_array hkS hkindS)
  subst hS'
  have ez : xz (n_cl S a) - xz S0 = (xz S - xz S0) + 1 := by show xz S + 1 - xz S0 = _; omega
  have eu : xu (n_cl S a) - xu S0 = (xu S - xu S0) + xn S a := by show xu S + _ - xu S0 = _; omega
  have hcellE : ({ cls := (arrV (D.2.2 51) (xn S a) (x_E S 51 a)).cls, slots := (arrV (D.2.2 51) (xn S a) (x_E S 51 a)).slots } : Cell) = arrV (D.2.2 51) (xn S a) (x_E S 51 a) := rfl
  rw [hcellE, arrV_size] at X'
  rw [hcellE] at st
  have hI : x_I D S0 s (H.push (arrV (D.2.2 51) (xn S a) (x_E S 51 a))) locs (n_cl S a) := by
    obtain ⟨⟨hz, hP⟩, hK, hNW, hbz, hM, hSS, hsz, hZ⟩ := hX
    have e1 : (H.push (arrV (D.2.2 51) (xn S a) (x_E S 51 a)))[xz S]? = some (arrV (D.2.2 51) (xn S a) (x_E S 51 a)) := by rw [← hz, Array.getElem?_push_size]
    have o1 : ∀ q : Nat, q < H.size → (H.push (arrV (D.2.2 51) (xn S a) (x_E S 51 a)))[q]? = H[q]? := fun q hq => by rw [Array.getElem?_push, if_neg (Nat.ne_of_lt hq)]
    refine ⟨⟨by rw [Array.size_push, hz]; rfl, fun b hb => ?_⟩, hK, hNW, ⟨Nat.le_succ_of_le hbz.1, hroom.1, hroom.2, fun b i => ?_⟩, ⟨Nat.le_succ_of_le hM.1, Nat.le_trans hM.2.1 (Nat.le_add_right _ _), hM.2.2.1, hM.2.2.2.1, hM.2.2.2.2.1, hM.2.2.2.2.2.1, fun q hq => ?_⟩, ⟨?_, fun q h1 h2 => (o1 q (Nat.lt_of_lt_of_le h1 hSS.1)).trans (hSS.2.1 q h1 h2), hSS.2.2⟩, hsz, hZ.kept rfl rfl (fun q hq _ => o1 q hq)⟩
    · by_cases hbz' : b = xz S
      · subst hbz'
        refine ⟨Nat.lt_succ_self _, ?_⟩
        unfold x_at
        rw [show xk (n_cl S a) (xz S) = 51 from if_pos rfl, show xb (n_cl S a) = xb S from rfl]
        refine ⟨fun h => absurd h (by decide), fun _ => ?_⟩
        rw [if_pos hbz.1]
        refine ⟨by decide, ⟨_, rfl⟩, ?_⟩
        rw [e1, show xn (n_cl S a) (xz S) = xn S a from if_pos rfl]
        congr 2
        funext i
        simp [x_E, x_ec, n_cl, xi]
      · have hk' : xk (n_cl S a) b = xk S b := if_neg hbz'
        rw [hk'] at hb
        exact ⟨Nat.lt_succ_of_lt (hP b hb).1, (hP b hb).2.congr hk' (if_neg hbz') rfl (fun r i => ⟨if_neg hbz', if_neg hbz', if_neg hbz'⟩) (o1 b (by rw [hz]; exact (hP b hb).1))⟩
    · show fits .byte (.int (if b = xz S then (if 51 = 51 then xi S 51 a i else 0) else xi S 51 b i)) = true
      split
      · exact hbz.2.2.2 a i
      · exact hbz.2.2.2 b i
    · have : q ≠ xz S := Nat.ne_of_lt (Nat.lt_of_lt_of_le hq hM.1)
      exact (if_neg this).trans (hM.2.2.2.2.2.2 q hq)
    · rw [Array.size_push]; exact Nat.le_succ_of_le hSS.1
  have key := kk _ hI
  rw [ez, eu] at key
  rw [show xz S = H.size from hX.1.1.symm] at key
  rw [show xz S = H.size from hX.1.1.symm] at X'
  obtain ⟨t, b1, b2⟩ := key ((T.setVm vm').pushCell (arrV (D.2.2 51) (xn S a) (x_E S 51 a))) (by rw [← hT]; rfl) X'
  refine ⟨t, st t ?_, b2⟩
  rw [hT]
  exact b1
theorem ks_cl {a b k : Nat} {D : XD} {S0 : XS} {s : State} {H : Heap} {locs : List Loc} (hX : x_I D S0 s H locs S) (e : S' = n_cl S a) (hk : k ≠ 0) (h : xk S b = k) : xk S' b = k := by
  subst e
  have hb := (hX.1.2 b (by rw [h]; exact hk)).1
  exact (if_neg (Nat.ne_of_lt hb)).trans h
theorem kw_cl {a b : Nat} (e : S' = n_cl S a) (h : xb S ≤ b) : xb S' ≤ b := by subst e; exact h
theorem ks_ncl {a b : Nat} (e : S' = n_cl S a) (ea : b = xz S) : xk S' b = 51 := by subst e; subst ea; exact if_pos rfl
theorem kw_ncl {a b : Nat} {D : XD} {S0 : XS} {s : State} {H : Heap} {locs : List Loc} (hX : x_I D S0 s H locs S) (e : S' = n_cl S a) (ea : b = xz S) : xb S' ≤ b := by subst e; subst ea; exact hX.2.2.2.1.1
end XS6
theorem xd_1 : ∀ i, i < 14 → defaultValue (tyX0 i) = if x_ty 1 i = 0 then .int 0 else if x_ty 1 i = 1 then .long 0 else .null := by
  intro i hi
  match i, hi with
  | 0, _ => rfl
  | 1, _ => rfl
  | 2, _ => rfl
  | 3, _ => rfl
  | 4, _ => rfl
  | 5, _ => rfl
  | 6, _ => rfl
  | 7, _ => rfl
  | 8, _ => rfl
  | 9, _ => rfl
  | 10, _ => rfl
  | 11, _ => rfl
  | 12, _ => rfl
  | 13, _ => rfl
  | i + 14, hi => exact absurd hi (by omega)
theorem xd_2 : ∀ i, i < 14 → defaultValue (tyX1 i) = if x_ty 2 i = 0 then .int 0 else if x_ty 2 i = 1 then .long 0 else .null := by
  intro i hi
  match i, hi with
  | 0, _ => rfl
  | 1, _ => rfl
  | 2, _ => rfl
  | 3, _ => rfl
  | 4, _ => rfl
  | 5, _ => rfl
  | 6, _ => rfl
  | 7, _ => rfl
  | 8, _ => rfl
  | 9, _ => rfl
  | 10, _ => rfl
  | 11, _ => rfl
  | 12, _ => rfl
  | 13, _ => rfl
  | i + 14, hi => exact absurd hi (by omega)
theorem xd_3 : ∀ i, i < 2 → defaultValue (tyX2 i) = if x_ty 3 i = 0 then .int 0 else if x_ty 3 i = 1 then .long 0 else .null := by
  intro i hi
  match i, hi with
  | 0, _ => rfl
  | 1, _ => rfl
  | i + 2, hi => exact absurd hi (by omega)
theorem xd_4 : ∀ i, i < 4 → defaultValue (tyX3 i) = if x_ty 4 i = 0 then .int 0 else if x_ty 4 i = 1 then .long 0 else .null := by
  intro i hi
  match i, hi with
  | 0, _ => rfl
  | 1, _ => rfl
  | 2, _ => rfl
  | 3, _ => rfl
  | i + 4, hi => exact absurd hi (by omega)
theorem xd_5 : ∀ i, i < 2 → defaultValue (tyX8 i) = if x_ty 5 i = 0 then .int 0 else if x_ty 5 i = 1 then .long 0 else .null := by
  intro i hi
  match i, hi with
  | 0, _ => rfl
  | 1, _ => rfl
  | i + 2, hi => exact absurd hi (by omega)
theorem xd_6 : ∀ i, i < 5 → defaultValue (tyX9 i) = if x_ty 6 i = 0 then .int 0 else if x_ty 6 i = 1 then .long 0 else .null := by
  intro i hi
  match i, hi with
  | 0, _ => rfl
  | 1, _ => rfl
  | 2, _ => rfl
  | 3, _ => rfl
  | 4, _ => rfl
  | i + 5, hi => exact absurd hi (by omega)
theorem xd_7 : ∀ i, i < 3 → defaultValue (tyX10 i) = if x_ty 7 i = 0 then .int 0 else if x_ty 7 i = 1 then .long 0 else .null := by
  intro i hi
  match i, hi with
  | 0, _ => rfl
  | 1, _ => rfl
  | 2, _ => rfl
  | i + 3, hi => exact absurd hi (by omega)
theorem xd_8 : ∀ i, i < 12 → defaultValue (tyX11 i) = if x_ty 8 i = 0 then .int 0 else if x_ty 8 i = 1 then .long 0 else .null := by
  intro i hi
  match i, hi with
  | 0, _ => rfl
  | 1, _ => rfl
  | 2, _ => rfl
  | 3, _ => rfl
  | 4, _ => rfl
  | 5, _ => rfl
  | 6, _ => rfl
  | 7, _ => rfl
  | 8, _ => rfl
  | 9, _ => rfl
  | 10, _ => rfl
  | 11, _ => rfl
  | i + 12, hi => exact absurd hi (by omega)
theorem xd_9 : ∀ i, i < 8 → defaultValue (tyX12 i) = if x_ty 9 i = 0 then .int 0 else if x_ty 9 i = 1 then .long 0 else .null := by
  intro i hi
  match i, hi with
  | 0, _ => rfl
  | 1, _ => rfl
  | 2, _ => rfl
  | 3, _ => rfl
  | 4, _ => rfl
  | 5, _ => rfl
  | 6, _ => rfl
  | 7, _ => rfl
  | i + 8, hi => exact absurd hi (by omega)
theorem xd_10 : ∀ i, i < 5 → defaultValue (tyX15 i) = if x_ty 10 i = 0 then .int 0 else if x_ty 10 i = 1 then .long 0 else .null := by
  intro i hi
  match i, hi with
  | 0, _ => rfl
  | 1, _ => rfl
  | 2, _ => rfl
  | 3, _ => rfl
  | 4, _ => rfl
  | i + 5, hi => exact absurd hi (by omega)
theorem xd_11 : ∀ i, i < 3 → defaultValue (tyX16 i) = if x_ty 11 i = 0 then .int 0 else if x_ty 11 i = 1 then .long 0 else .null := by
  intro i hi
  match i, hi with
  | 0, _ => rfl
  | 1, _ => rfl
  | 2, _ => rfl
  | i + 3, hi => exact absurd hi (by omega)
theorem xd_12 : ∀ i, i < 1 → defaultValue (tyX17 i) = if x_ty 12 i = 0 then .int 0 else if x_ty 12 i = 1 then .long 0 else .null := by
  intro i hi
  match i, hi with
  | 0, _ => rfl
  | i + 1, hi => exact absurd hi (by omega)
theorem xd_13 : ∀ i, i < 2 → defaultValue (tyX18 i) = if x_ty 13 i = 0 then .int 0 else if x_ty 13 i = 1 then .long 0 else .null := by
  intro i hi
  match i, hi with
  | 0, _ => rfl
  | 1, _ => rfl
  | i + 2, hi => exact absurd hi (by omega)
theorem xd_14 : ∀ i, i < 3 → defaultValue (tyX19 i) = if x_ty 14 i = 0 then .int 0 else if x_ty 14 i = 1 then .long 0 else .null := by
  intro i hi
  match i, hi with
  | 0, _ => rfl
  | 1, _ => rfl
  | 2, _ => rfl
  | i + 3, hi => exact absurd hi (by omega)
theorem xd_15 : ∀ i, i < 1 → defaultValue (tyX20 i) = if x_ty 15 i = 0 then .int 0 else if x_ty 15 i = 1 then .long 0 else .null := by
  intro i hi
  match i, hi with
  | 0, _ => rfl
  | i + 1, hi => exact absurd hi (by omega)
theorem xd_16 : ∀ i, i < 3 → defaultValue (tyX21 i) = if x_ty 16 i = 0 then .int 0 else if x_ty 16 i = 1 then .long 0 else .null := by
  intro i hi
  match i, hi with
  | 0, _ => rfl
  | 1, _ => rfl
  | 2, _ => rfl
  | i + 3, hi => exact absurd hi (by omega)
theorem xd_17 : ∀ i, i < 3 → defaultValue (tyX5 i) = if x_ty 17 i = 0 then .int 0 else if x_ty 17 i = 1 then .long 0 else .null := by
  intro i hi
  match i, hi with
  | 0, _ => rfl
  | 1, _ => rfl
  | 2, _ => rfl
  | i + 3, hi => exact absurd hi (by omega)
theorem xd_18 : ∀ i, i < 3 → defaultValue (tyX6 i) = if x_ty 18 i = 0 then .int 0 else if x_ty 18 i = 1 then .long 0 else .null := by
  intro i hi
  match i, hi with
  | 0, _ => rfl
  | 1, _ => rfl
  | 2, _ => rfl
  | i + 3, hi => exact absurd hi (by omega)
theorem xd_19 : ∀ i, i < 3 → defaultValue (tyJ2 i) = if x_ty 19 i = 0 then .int 0 else if x_ty 19 i = 1 then .long 0 else .null := by
  intro i hi
  match i, hi with
  | 0, _ => rfl
  | 1, _ => rfl
  | 2, _ => rfl
  | i + 3, hi => exact absurd hi (by omega)
theorem xd_20 : ∀ i, i < 4 → defaultValue (tyJ11 i) = if x_ty 20 i = 0 then .int 0 else if x_ty 20 i = 1 then .long 0 else .null := by
  intro i hi
  match i, hi with
  | 0, _ => rfl
  | 1, _ => rfl
  | 2, _ => rfl
  | 3, _ => rfl
  | i + 4, hi => exact absurd hi (by omega)
theorem xd_21 : ∀ i, i < 2 → defaultValue (tyJ12 i) = if x_ty 21 i = 0 then .int 0 else if x_ty 21 i = 1 then .long 0 else .null := by
  intro i hi
  match i, hi with
  | 0, _ => rfl
  | 1, _ => rfl
  | i + 2, hi => exact absurd hi (by omega)
theorem xd_22 : ∀ i, i < 1 → defaultValue (tyJ18 i) = if x_ty 22 i = 0 then .int 0 else if x_ty 22 i = 1 then .long 0 else .null := by
  intro i hi
  match i, hi with
  | 0, _ => rfl
  | i + 1, hi => exact absurd hi (by omega)
