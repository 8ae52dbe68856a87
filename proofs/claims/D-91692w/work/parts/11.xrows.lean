set_option maxRecDepth 100000
/-! ROWS X: reads and writes of the class's heap -/
def x_same (S S' : XS) (a : Nat) : Prop := xk S' = xk S ∧ xn S' = xn S ∧ xs S' = xs S ∧ xz S' = xz S ∧ xu S' = xu S ∧ xL S' = xL S ∧ xU S' = xU S ∧ xb S' = xb S ∧ (x_F S → x_F S') ∧ ∀ b, b ≠ a → ∀ r i, xi S' r b i = xi S r b i ∧ xl S' r b i = xl S r b i ∧ xr S' r b i = xr S r b i
theorem x_F_i {S : XS} {r a i : Nat} {v : Int32} (h : r ≠ 51 ∨ fits .byte (.int v) = true) (hF : x_F S) : x_F (s_i S r a i v) := by
  intro b j
  show fits .byte (.int (if 51 = r ∧ b = a ∧ j = i then v else xi S 51 b j)) = true
  split
  · rename_i q
    rcases h with h | h
    · exact absurd q.1.symm h
    · exact h
  · exact hF b j
theorem x_same_i {S : XS} {r a i : Nat} {v : Int32} (h : r ≠ 51 ∨ fits .byte (.int v) = true) : x_same S (s_i S r a i v) a := ⟨rfl, rfl, rfl, rfl, rfl, rfl, rfl, rfl, x_F_i h, fun b hb r' i' => ⟨if_neg (fun q => hb q.2.1), rfl, rfl⟩⟩
theorem x_same_l {S : XS} {r a i : Nat} {v : Int64} : x_same S (s_l S r a i v) a := ⟨rfl, rfl, rfl, rfl, rfl, rfl, rfl, rfl, fun h => h, fun b hb r' i' => ⟨rfl, if_neg (fun q => hb q.2.1), rfl⟩⟩
theorem x_same_r {S : XS} {r a i : Nat} {v : Option Nat} : x_same S (s_r S r a i v) a := ⟨rfl, rfl, rfl, rfl, rfl, rfl, rfl, rfl, fun h => h, fun b hb r' i' => ⟨rfl, rfl, if_neg (fun q => hb q.2.1)⟩⟩
theorem x_at.congr {D : XD} {S S' : XS} {U : State} {H H1 : Heap} {b : Nat} (hk : xk S' b = xk S b) (hn : xn S' b = xn S b) (hb : xb S' = xb S) (hv : ∀ r i, xi S' r b i = xi S r b i ∧ xl S' r b i = xl S r b i ∧ xr S' r b i = xr S r b i) (hH : H1[b]? = H[b]?) (h : x_at D S U H b) : x_at D S' U H1 b := by
  have hV : ∀ c j, x_V S' c j b = x_V S c j b := fun c j => by unfold x_V; rw [(hv _ 0).1, (hv _ 0).2.1, (hv _ 0).2.2]
  have hE : ∀ k i, x_E S' k b i = x_E S k b i := fun k i => by unfold x_E; rw [(hv _ i).1, (hv _ i).2.1, (hv _ i).2.2]
  unfold x_at
  rw [hk, hb]
  refine ⟨fun q => ?_, fun q => ?_⟩
  · have h1 := h.1 q
    split at h1
    · rename_i hb; rw [if_pos hb]
      obtain ⟨h0, hm, q', hq, ht⟩ := h1
      exact ⟨h0, fun c hc => hm c (by rw [← hH]; exact hc), q', hq, (ht.kept hH).to (fun j _ => (hV _ j).symm)⟩
    · rename_i hb; rw [if_neg hb]
      obtain ⟨q', cell, g1, g2, g3, g4, g5, g6⟩ := h1
      refine ⟨q', cell, g1, by rw [hH]; exact g2, g3, g4, g5, fun j hj => ?_⟩
      rw [hV]
      exact g6 j hj
  · have h1 := h.2 q
    split at h1
    · rename_i hb; rw [if_pos hb]
      obtain ⟨h0, hty, hc⟩ := h1
      refine ⟨h0, hty, ?_⟩
      rw [hH, hc, hn]
      congr 2
      funext i
      exact (hE _ i).symm
    · rename_i hb; rw [if_neg hb]
      obtain ⟨ty, cell, g1, g2, g3, g4, g5, g6, g7, g8⟩ := h1
      refine ⟨ty, cell, g1, by rw [hH]; exact g2, g3, g4, by rw [hn]; exact g5, by rw [hn]; exact g6, fun i hi => ?_, g8⟩
      rw [hE]
      rw [hn] at hi
      exact g7 i hi
section XR
variable {p : Program} {l : Launch} {e : Env} {R : Room} {s : State} {m : MethodId} {args : Array Value} {below : List Frame} {meth : Method} {c : Code} {H : Heap} {locs : List Loc} {cells slots : Nat} {Q : State → Prop}
variable {cc : ByteArray} {pc nL : Nat} {ls : Array Slot} {rest : List Value} {D : XD} {S0 S S' : XS} {own : String}
/-- what a write into the writable cell a leaves -/
theorem x_I.wrote {H1 : Heap} {a j : Nat} (hX : x_I D S0 s H locs S) (hw : xb S ≤ a) (ha : xk S a ≠ 0) (hs : x_same S S' a) (z : H1.size = H.size) (oq : ∀ q, q ≠ a → H1[q]? = H[q]?) (hat : x_at D S' s H1 a) : x_I D S0 s H1 (locs ++ [⟨a, j⟩]) S' := by
  obtain ⟨⟨hz, hP⟩, hK, hNW, hbz, hM, hSS, hsz, hZ⟩ := hX
  obtain ⟨e1, e2, e3, e4, e5, e6, e7, e8, eF, e9⟩ := hs
  have hAa : x_A S0 a := by
    by_cases q : a < xz S0
    · refine Or.inl ⟨by rw [← hM.2.2.1]; exact hw, q, ?_⟩
      rw [← hM.2.2.2.2.2.2 a q]; exact ha
    · exact Or.inr (Nat.not_lt.mp q)
  refine ⟨⟨by rw [z, hz, e4], fun b hb => ?_⟩, hK, hNW, ⟨by rw [e8, e4]; exact hbz.1, by rw [e4, e6]; exact hbz.2.1, by rw [e5, e7]; exact hbz.2.2.1, eF hbz.2.2.2⟩, ⟨by rw [e4]; exact hM.1, by rw [e5]; exact hM.2.1, by rw [e8]; exact hM.2.2.1, by rw [e6]; exact hM.2.2.2.1, by rw [e7]; exact hM.2.2.2.2.1, by rw [e3]; exact hM.2.2.2.2.2.1, by rw [e1]; exact hM.2.2.2.2.2.2⟩, hSS.put z oq hAa, hsz, hZ.kept e3 e8 (fun q _ hq => oq q (fun h => hq (by rw [h]; exact hw)))⟩
  rw [e1] at hb
  refine ⟨by rw [e4]; exact (hP b hb).1, ?_⟩
  by_cases hba : b = a
  · rw [hba]; exact hat
  · exact (hP b hb).2.congr (by rw [e1]) (by rw [e2]) e8 (fun r i => e9 b hba r i) (oq b hba)
theorem x_fld (B : CallFix p m c cc nL s args lw_all own) (hX : x_I D S0 s H locs S) {a k j : Nat} {q : vw_C} (ha : xk S a = k) (hc : x_cl[k]? = some q) (h50 : 1 ≤ k ∧ k < 50) (hj : j < q.2.2) : ∃ (cell : Cell) (cf : ClassId) (kf : Class) (i : Nat) (f : Field), H[a]? = some cell ∧ cell.vm ≠ .unknown ∧ s.fieldFound? (q.2.1 j).1 (q.2.1 j).2.1 (q.2.1 j).2.2.1 = some (cf, kf, i, f) ∧ f.isStatic = false ∧ cell.slots[f.slot]? = some (x_V S k j a) := by
  obtain ⟨⟨hz, hP⟩, hK, -⟩ := hX
  have hat := (hP a (by omega)).2.1 (by omega)
  rw [ha] at hat
  split at hat
  · obtain ⟨h22, -, q', hq, cell, g1, g2, g3, g4⟩ := hat
    cases hc.symm.trans hq
    obtain ⟨hS, hfc, kC, hkC, hkind⟩ := hK.2.1 k q h50.1 h22 hc
    obtain ⟨cf, kf, fi, f, hi, hsl⟩ := hS j hj
    exact ⟨cell, cf, kf, fi, f, g1, (by rw [g3]; exact fun h => (by cases h)), hi, (u_facts hfc hkC (u_lays B.2.2.2.2 (x_in k q h22 hc) hj) hi).1, by rw [hsl]; exact g4 j hj⟩
  · obtain ⟨q', cell, g1, g2, g3, g4, g5, g6⟩ := hat
    cases hc.symm.trans g1
    obtain ⟨cf, kf, i, f, w1, w2, w3⟩ := g6 j hj
    exact ⟨cell, cf, kf, i, f, g2, g3, w1, w2, w3⟩
theorem x_recv (hX : x_I D S0 s H locs S) {a k : Nat} {q : vw_C} (ha : xk S a = k) (hc : x_cl[k]? = some q) (h50 : 1 ≤ k ∧ k < 50) : ∃ cell : Cell, H[a]? = some cell ∧ cell.vm.isStatics = false ∧ s.vm.findClass q.1 = some cell.cls := by
  obtain ⟨⟨hz, hP⟩, hK, -⟩ := hX
  have hat := (hP a (by omega)).2.1 (by omega)
  rw [ha] at hat
  split at hat
  · obtain ⟨h22, -, q', hq, cell, g1, g2, g3, g4⟩ := hat
    cases hc.symm.trans hq
    obtain ⟨hS, hfc, kC, hkC, hkind⟩ := hK.2.1 k q h50.1 h22 hc
    exact ⟨cell, g1, by rw [g3]; rfl, by rw [g2]; exact hfc⟩
  · obtain ⟨q', cell, g1, g2, g3, g4, g5, g6⟩ := hat
    cases hc.symm.trans g1
    exact ⟨cell, g2, g4, g5⟩
theorem xr_get (B : CallFix p m c cc nL s args lw_all own) (hX : x_I D S0 s H locs S) {a k : Nat} (j : Nat) {q : vw_C} (ha : xk S a = k) (hc : x_cl[k]? = some q) (h50 : 1 ≤ k ∧ k < 50) (hj : j < q.2.2) {v : Value} (hv : x_V S k j a = v) {index : Nat} {ref : String} (hq : Cond.fieldLink own index ref (q.2.1 j).2.1 (q.2.1 j).2.2.1 ∈ lw_all) (hsame : ∀ x, s.fieldFound? (q.2.1 j).1 (q.2.1 j).2.1 (q.2.1 j).2.2.1 = some x → s.fieldFound? ref (q.2.1 j).2.1 (q.2.1 j).2.2.1 = some x) (hdg : decode cc pc = .ok (.getfield index, 3))
    (kk : W p l e R s m args below meth c H locs cells slots Q (F0 m (pc + 3) ls (v :: rest))) : W p l e R s m args below meth c H locs cells slots Q (F0 m pc ls (.ref a :: rest)) := by
  obtain ⟨cell, cf, kf, i, f, g1, g2, g3, g4, g5⟩ := x_fld B hX ha hc h50 hj
  exact W.getf B.1 B.2.1 B.2.2.2.1 (B.2.2.2.2 _ hq) (hsame _ g3) g4 g1 g2 (v := v) (by rw [g5, hv]) rfl rfl hdg kk
theorem xr_getN (B : CallFix p m c cc nL s args lw_all own) (hX : x_I D S0 s H locs S) {a k : Nat} (j : Nat) {q : vw_C} (ha : xk S a = k) (hc : x_cl[k]? = some q) (h50 : 1 ≤ k ∧ k < 50) (hj : j < q.2.2) {v : Value} (hv : x_V S k j a = v) {index : Nat} {ref host : String} (hq : Cond.fieldLinkNest own index ref (q.2.1 j).2.1 (q.2.1 j).2.2.1 host ∈ x_nw) (hsame : ∀ x, s.fieldFound? (q.2.1 j).1 (q.2.1 j).2.1 (q.2.1 j).2.2.1 = some x → s.fieldFound? ref (q.2.1 j).2.1 (q.2.1 j).2.2.1 = some x) (hdg : decode cc pc = .ok (.getfield index, 3))
    (kk : W p l e R s m args below meth c H locs cells slots Q (F0 m (pc + 3) ls (v :: rest))) : W p l e R s m args below meth c H locs cells slots Q (F0 m pc ls (.ref a :: rest)) := by
  obtain ⟨cell, cf, kf, i, f, g1, g2, g3, g4, g5⟩ := x_fld B hX ha hc h50 hj
  exact va_Wgetf B.1 B.2.1 B.2.2.2.1 (hX.2.2.1.use hq rfl) (hsame _ g3) g4 g1 g2 (v := v) (by rw [g5, hv]) rfl rfl hdg kk
/-- an array that is read -/
theorem x_ary (hX : x_I D S0 s H locs S) {a k : Nat} {ty : FieldType} (ha : xk S a = k) (hty : x_aty k = some ty) (h50 : 50 ≤ k) : ∃ cell : Cell, H[a]? = some cell ∧ s.isArrayOf cell ty ∧ cell.vm ≠ .unknown ∧ xn S a ≤ cell.slots.size ∧ cell.slots.size.toInt32 = Int32.ofNat (xn S a) ∧ ∀ i, i < xn S a → cell.slots[i]? = some (x_E S k a i) := by
  obtain ⟨⟨hz, hP⟩, hK, -⟩ := hX
  have hat := (hP a (by omega)).2.2 (by omega)
  rw [ha] at hat
  split at hat
  · obtain ⟨h56, -, hc⟩ := hat
    refine ⟨_, hc, (hK.2.2 k ty h56 hty).1 _ _, (fun h => (by cases h)), Nat.le_of_eq (arrV_size _ _ _).symm, by rw [arrV_size], fun i hi => arrV_read _ _ hi⟩
  · obtain ⟨ty', cell, g1, g2, g3, g4, g5, g6, g7, -⟩ := hat
    cases hty.symm.trans g1
    exact ⟨cell, g2, g3, g4, g5, g6, g7⟩
theorem xr_alen (B : CallFix p m c cc nL s args lw_all own) (hX : x_I D S0 s H locs S) {a k : Nat} {ty : FieldType} (ha : xk S a = k) (hty : x_aty k = some ty) (h50 : 50 ≤ k) (hdg : decode cc pc = .ok (.arraylength, 1))
    (kk : W p l e R s m args below meth c H locs cells slots Q (F0 m (pc + 1) ls (.int (nI (xn S a)) :: rest))) : W p l e R s m args below meth c H locs cells slots Q (F0 m pc ls (.ref a :: rest)) := by
  obtain ⟨cell, g1, g2, g3, g4, g5, g6⟩ := x_ary hX ha hty h50
  exact W.alen B.1 B.2.1 g1 g2 g5 rfl rfl hdg kk
theorem x_idx {i : Int32} {n N : Nat} (hin : vp_in i n) (h : n ≤ N) : ¬ (i < 0 ∨ N ≤ i.toNatClampNeg) := by
  rintro (q | q)
  · exact hin (Or.inl q)
  · exact hin (Or.inr (Nat.le_trans h q))
theorem x_ilt {i : Int32} {n : Nat} (hin : vp_in i n) : i.toNatClampNeg < n := Nat.not_le.mp fun q => hin (Or.inr q)
theorem xr_iald (B : CallFix p m c cc nL s args lw_all own) (hX : x_I D S0 s H locs S) {a : Nat} (ha : xk S a = 52) {i v : Int32} (hin : vp_in i (xn S a)) (hv : v = xi S 52 a i.toNatClampNeg) (hdg : decode cc pc = .ok (.iaload, 1))
    (kk : W p l e R s m args below meth c H locs cells slots Q (F0 m (pc + 1) ls (.int v :: rest))) : W p l e R s m args below meth c H locs cells slots Q (F0 m pc ls (.int i :: .ref a :: rest)) := by
  obtain ⟨cell, g1, g2, g3, g4, g5, g6⟩ := x_ary (ty := .int) hX ha rfl (by decide)
  exact W.iald (v := .int v) B.1 B.2.1 g1 g2 g3 (x_idx hin g4) (by rw [g6 _ (x_ilt hin), hv]; rfl) rfl rfl hdg kk
theorem xr_bald (B : CallFix p m c cc nL s args lw_all own) (hX : x_I D S0 s H locs S) {a : Nat} (ha : xk S a = 51) {i v : Int32} (hin : vp_in i (xn S a)) (hv : v = xi S 51 a i.toNatClampNeg) (hdg : decode cc pc = .ok (.baload, 1))
    (kk : W p l e R s m args below meth c H locs cells slots Q (F0 m (pc + 1) ls (.int v :: rest))) : W p l e R s m args below meth c H locs cells slots Q (F0 m pc ls (.int i :: .ref a :: rest)) := by
  obtain ⟨cell, g1, g2, g3, g4, g5, g6⟩ := x_ary (ty := .byte) hX ha rfl (by decide)
  exact W.bald (v := .int v) B.1 B.2.1 g1 g2 g3 (x_idx hin g4) (by rw [g6 _ (x_ilt hin), hv]; rfl) rfl rfl hdg kk
theorem xr_lald (B : CallFix p m c cc nL s args lw_all own) (hX : x_I D S0 s H locs S) {a : Nat} (ha : xk S a = 53) {i : Int32} {v : Int64} (hin : vp_in i (xn S a)) (hv : v = xl S 53 a i.toNatClampNeg) (hdg : decode cc pc = .ok (.laload, 1))
    (kk : W p l e R s m args below meth c H locs cells slots Q (F0 m (pc + 1) ls (.long v :: rest))) : W p l e R s m args below meth c H locs cells slots Q (F0 m pc ls (.int i :: .ref a :: rest)) := by
  obtain ⟨cell, g1, g2, g3, g4, g5, g6⟩ := x_ary (ty := .long) hX ha rfl (by decide)
  exact W.lald (v := .long v) B.1 B.2.1 g1 g2 g3 (x_idx hin g4) (by rw [g6 _ (x_ilt hin), hv]; rfl) rfl rfl hdg kk
theorem xr_aald (B : CallFix p m c cc nL s args lw_all own) (hX : x_I D S0 s H locs S) {a k : Nat} {ty : FieldType} (ha : xk S a = k) (hty : x_aty k = some ty) (h55 : 55 ≤ k ∧ x_ec k = 2) (hre : ty.isReference = true) {i : Int32} {v : Option Nat} (hin : vp_in i (xn S a)) (hv : v = xr S k a i.toNatClampNeg) (hdg : decode cc pc = .ok (.aaload, 1))
    (kk : W p l e R s m args below meth c H locs cells slots Q (F0 m (pc + 1) ls (va_rf v :: rest))) : W p l e R s m args below meth c H locs cells slots Q (F0 m pc ls (.int i :: .ref a :: rest)) := by
  obtain ⟨cell, g1, g2, g3, g4, g5, g6⟩ := x_ary hX ha hty (by omega)
  exact W.aald (v := va_rf v) B.1 B.2.1 g1 g2 hre g3 (x_idx hin g4) (by rw [g6 _ (x_ilt hin), hv]; simp [x_E, h55.2]) rfl rfl hdg kk
/-- stores into arrays -/
theorem x_arW_of (hX : x_I D S0 s H locs S) {a k : Nat} (ha : xk S a = k) (h50 : 50 ≤ k) (hw : xb S ≤ a) : k ≤ 56 ∧ (∃ ty, x_aty k = some ty) ∧ H[a]? = some (arrV (D.2.2 k) (xn S a) (x_E S k a)) := by
  have hat := (hX.1.2 a (by omega)).2.2 (by omega)
  rw [ha, if_pos hw] at hat
  exact hat
theorem x_arW_up {a k i : Nat} {v : Value} {cA : ClassId} (hs : x_same S S' a) (hk : 50 ≤ k) (ha : xk S a = k) (hw : xb S ≤ a) (h56 : k ≤ 56) (hty : ∃ ty, x_aty k = some ty) (hE : ∀ j, x_E S' k a j = updV (x_E S k a) i v j) {H1 : Heap} (e1 : H1[a]? = some ((arrV (D.2.2 k) (xn S a) (x_E S k a)).setSlot i v)) : x_at D S' s H1 a := by
  unfold x_at
  rw [hs.1, hs.2.2.2.2.2.2.2.1, ha]
  refine ⟨fun q => absurd q (by omega), fun _ => ?_⟩
  rw [if_pos hw]
  refine ⟨h56, hty, ?_⟩
  rw [e1, arrV_store, hs.2.1]
  congr 2
  funext j
  exact (hE j).symm
theorem xr_iast (B : CallFix p m c cc nL s args lw_all own) (hX : x_I D S0 s H locs S) {a : Nat} (ha : xk S a = 52) (hw : xb S ≤ a) {i x : Int32} (hin : vp_in i (xn S a)) (hS' : S' = s_i S 52 a i.toNatClampNeg x) (hdg : decode cc pc = .ok (.iastore, 1))
    (kk : ∀ (H : Heap) (locs : List Loc), x_I D S0 s H locs S' → W p l e R s m args below meth c H locs cells slots Q (F0 m (pc + 1) ls rest)) : W p l e R s m args below meth c H locs cells slots Q (F0 m pc ls (.int x :: .int i :: .ref a :: rest)) := by
  obtain ⟨h56, hty, hc⟩ := x_arW_of hX ha (by decide) hw
  refine W.iast B.1 B.2.1 hc ((hX.2.1.2.2 52 .int (by decide) rfl).1 _ _) (fun q => by cases q) (by show ¬ (i < 0 ∨ (arrV _ _ _).slots.size ≤ _); rw [arrV_size]; exact hin) rfl rfl hdg fun H1 e1 z oq => ?_
  subst hS'
  refine kk H1 _ (hX.wrote hw (by omega) (x_same_i (Or.inl (by decide))) z oq (x_arW_up (cA := D.2.2 52) (x_same_i (Or.inl (by decide))) (by decide) ha hw h56 hty (fun j => ?_) e1))
  unfold x_E updV
  by_cases hj : j = i.toNatClampNeg
  · subst hj; simp [x_ec, s_i, xi]
  · simp [x_ec, s_i, xi, hj]
theorem x_nb (x : Int32) : fits .byte (.int (vp_nar .byte x)) = true := by rw [vp_nar_byte]; exact pk_fb x
theorem xr_bast (B : CallFix p m c cc nL s args lw_all own) (hX : x_I D S0 s H locs S) {a : Nat} (ha : xk S a = 51) (hw : xb S ≤ a) {i x : Int32} (hin : vp_in i (xn S a)) (hS' : S' = s_i S 51 a i.toNatClampNeg (vp_nar .byte x)) (hdg : decode cc pc = .ok (.bastore, 1))
    (kk : ∀ (H : Heap) (locs : List Loc), x_I D S0 s H locs S' → W p l e R s m args below meth c H locs cells slots Q (F0 m (pc + 1) ls rest)) : W p l e R s m args below meth c H locs cells slots Q (F0 m pc ls (.int x :: .int i :: .ref a :: rest)) := by
  obtain ⟨h56, hty, hc⟩ := x_arW_of hX ha (by decide) hw
  refine W.bast B.1 B.2.1 hc ((hX.2.1.2.2 51 .byte (by decide) rfl).1 _ _) (fun q => by cases q) (by show ¬ (i < 0 ∨ (arrV _ _ _).slots.size ≤ _); rw [arrV_size]; exact hin) rfl rfl hdg fun H1 e1 z oq => ?_
  subst hS'
  refine kk H1 _ (hX.wrote hw (by omega) (x_same_i (Or.inr (x_nb x))) z oq (x_arW_up (cA := D.2.2 51) (x_same_i (Or.inr (x_nb x))) (by decide) ha hw h56 hty (fun j => ?_) e1))
  unfold x_E updV
  by_cases hj : j = i.toNatClampNeg
  · subst hj; simp [x_ec, s_i, xi, vp_nar]; try rfl
  · simp [x_ec, s_i, xi, hj]
theorem xr_last (B : CallFix p m c cc nL s args lw_all own) (hX : x_I D S0 s H locs S) {a : Nat} (ha : xk S a = 53) (hw : xb S ≤ a) {i : Int32} {x : Int64} (hin : vp_in i (xn S a)) (hS' : S' = s_l S 53 a i.toNatClampNeg x) (hdg : decode cc pc = .ok (.lastore, 1))
    (kk : ∀ (H : Heap) (locs : List Loc), x_I D S0 s H locs S' → W p l e R s m args below meth c H locs cells slots Q (F0 m (pc + 1) ls rest)) : W p l e R s m args below meth c H locs cells slots Q (F0 m pc ls (.long x :: .int i :: .ref a :: rest)) := by
  obtain ⟨h56, hty, hc⟩ := x_arW_of hX ha (by decide) hw
  refine W.last B.1 B.2.1 hc ((hX.2.1.2.2 53 .long (by decide) rfl).1 _ _) (fun q => by cases q) (by show ¬ (i < 0 ∨ (arrV _ _ _).slots.size ≤ _); rw [arrV_size]; exact hin) rfl rfl hdg fun H1 e1 z oq => ?_
  subst hS'
  refine kk H1 _ (hX.wrote hw (by omega) x_same_l z oq (x_arW_up (cA := D.2.2 53) x_same_l (by decide) ha hw h56 hty (fun j => ?_) e1))
  unfold x_E updV
  by_cases hj : j = i.toNatClampNeg
  · subst hj; simp [x_ec, s_l, xl]
  · simp [x_ec, s_l, xl, hj]
theorem x_up_r {k a i : Nat} {v : Option Nat} (hk : x_ec k = 2) : ∀ j, x_E (s_r S k a i v) k a j = updV (x_E S k a) i (va_rf v) j := by
  intro j
  unfold x_E updV
  by_cases hj : j = i
  · subst hj; simp [hk, s_r, xr]
  · simp [hk, s_r, xr, hj]
/-- a store of null -/
theorem xr_aastN (B : CallFix p m c cc nL s args lw_all own) (hX : x_I D S0 s H locs S) {a k : Nat} {C : String} (ha : xk S a = k) (hty : x_aty k = some (.object C)) (h55 : 55 ≤ k ∧ x_ec k = 2) (hw : xb S ≤ a) {i : Int32} (hin : vp_in i (xn S a)) (hS' : S' = s_r S k a i.toNatClampNeg none) (hdg : decode cc pc = .ok (.aastore, 1))
    (kk : ∀ (H : Heap) (locs : List Loc), x_I D S0 s H locs S' → W p l e R s m args below meth c H locs cells slots Q (F0 m (pc + 1) ls rest)) : W p l e R s m args below meth c H locs cells slots Q (F0 m pc ls (.null :: .int i :: .ref a :: rest)) := by
  obtain ⟨h56, hty', hc⟩ := x_arW_of hX ha (by omega) hw
  refine va_WaastN (C := C) B.1 B.2.1 hc ((hX.2.1.2.2 k _ h56 hty).1 _ _) (fun q => by cases q) (by show ¬ (i < 0 ∨ (arrV _ _ _).slots.size ≤ _); rw [arrV_size]; exact hin) rfl rfl hdg fun H1 e1 z oq => ?_
  subst hS'
  exact kk H1 _ (hX.wrote hw (by omega) x_same_r z oq (x_arW_up (cA := D.2.2 k) x_same_r (by omega) ha hw h56 hty' (x_up_r h55.2) e1))
/-- a store of an object of the class C2 into an array over C (it can be cast) -/
theorem xr_aast (B : CallFix p m c cc nL s args lw_all own) (hX : x_I D S0 s H locs S) {a k b kb : Nat} {C : String} {q : vw_C} (ha : xk S a = k) (hty : x_aty k = some (.object C)) (h55 : 55 ≤ k ∧ x_ec k = 2) (hw : xb S ≤ a) (hb : xk S b = kb) (hq : x_cl[kb]? = some q) (hkb : 1 ≤ kb ∧ kb < 50) (hcast : Cond.castable q.1 C ∈ x_nw ∨ (q.1 = C ∧ kb ≤ 22)) {i : Int32} (hin : vp_in i (xn S a)) (hS' : S' = s_r S k a i.toNatClampNeg (some b)) (hdg : decode cc pc = .ok (.aastore, 1))
    (kk : ∀ (H : Heap) (locs : List Loc), x_I D S0 s H locs S' → W p l e R s m args below meth c H locs cells slots Q (F0 m (pc + 1) ls rest)) : W p l e R s m args below meth c H locs cells slots Q (F0 m pc ls (.ref b :: .int i :: .ref a :: rest)) := by
  obtain ⟨h56, hty', hc⟩ := x_arW_of hX ha (by omega) hw
  have hlt := x_ilt hin
  have h0 : ¬ i < 0 := fun q => hin (Or.inl q)
  obtain ⟨cellV, g1, g2, g3⟩ := x_recv hX hb hq hkb
  obtain ⟨kA, comp, k1, k2, k3, -⟩ := (hX.2.1.2.2 k _ h56 hty).2
  obtain ⟨kV, hkV, -⟩ := Vm.findClass_spec g3
  obtain ⟨kC, hkC, -⟩ := Vm.findClass_spec k3
  have hasg : s.vm.assignable cellV.cls comp = true := by
    rcases hcast with h | ⟨h, h22⟩
    · obtain ⟨c0, t0, f1, f2, f3⟩ := Cond.castable_spec (hX.2.2.1.use (A := args) h rfl)
      cases g3.symm.trans f1
      cases k3.symm.trans f2
      exact f3
    · have hcl := (hX.2.1.2.1 kb q hkb.1 h22 hq).2
      rw [h] at g3 hcl
      have e1 : cellV.cls = D.1 kb := Option.some.inj (g3.symm.trans hcl.1)
      have e2 : comp = D.1 kb := Option.some.inj (k3.symm.trans hcl.1)
      rw [e1, e2]
      exact va_assign hcl
  refine W.aast B.1 B.2.1 hc (fun q h => by cases h) (fun h => by cases h) k1 k2 rfl hkC ⟨h0, by show _ < (arrV _ _ _).slots.size; rw [arrV_size]; exact hlt⟩ g1 (fun q h => by rw [h] at g2; cases g2) hkV hasg rfl rfl hdg fun H1 e1 z oq => ?_
  subst hS'
  exact kk H1 _ (hX.wrote hw (by omega) x_same_r z oq (x_arW_up (cA := D.2.2 k) x_same_r (by omega) ha hw h56 hty' (x_up_r h55.2) e1))
end XR
