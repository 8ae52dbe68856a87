set_option maxRecDepth 100000
/-! INFRA M: the reference's state by numbers: fields and arrays S.1 field place, the long field S.2 -/
abbrev MS : Type := (Nat → Nat → Int32) × Int64
def m_up (S : MS) (k i : Nat) (v : Int32) : MS := (fun k' i' => if k' = k ∧ i' = i then v else S.1 k' i', S.2)
def m_uw (S : MS) (w : Int64) : MS := (S.1, w)
def m_len (k : Nat) : Nat := match k with
  | 1 => 1600
  | 2 => 4
  | 3 => 4
  | 4 => 4
  | 5 => 4
  | 6 => 4
  | 7 => 12
  | 8 => 4
  | 9 => 16
  | 10 => 16
  | 11 => 144
  | 12 => 4
  | 13 => 32
  | 14 => 32
  | 15 => 36
  | 16 => 1440
  | 17 => 1440
  | 18 => 1440
  | 19 => 1440
  | 20 => 4
  | 21 => 160
  | 22 => 160
  | 23 => 160
  | 24 => 576
  | 25 => 16
  | 26 => 3
  | 27 => 5
  | 28 => 36
  | 39 => 420
  | 41 => 41
  | 42 => 41
  | 43 => 41
  | 44 => 41
  | 45 => 3321
  | 47 => 9
  | 51 => 3
  | 55 => 256
  | 56 => 12
  | 58 => 16
  | 59 => 65536
  | 60 => 65536
  | 61 => 12
  | 62 => 3
  | _ => 0
def m_ty (k : Nat) : FieldType := match k with
  | 1 => .byte
  | 11 => .boolean
  | 24 => .boolean
  | 25 => .boolean
  | 28 => .boolean
  | 45 => .boolean
  | 47 => .boolean
  | 55 => .boolean
  | 59 => .boolean
  | 60 => .boolean
  | 62 => .boolean
  | _ => .int
abbrev MD : Type := Nat × (Nat → Nat) × ClassId × (Nat → Nat) × (FieldType → ClassId)
def m_V (D : MD) (S : MS) (k : Nat) : Value := if k = 34 then .long S.2 else if m_len k = 0 then .int (S.1 k 0) else .ref (D.2.1 k)
def m_P (D : MD) (S : MS) (H : Heap) : Prop := t_OB D.1 D.2.2.1 63 D.2.2.2.1 H (m_V D S) ∧ ∀ k, 0 < m_len k → H[D.2.1 k]? = some (arrV (D.2.2.2.2 (m_ty k)) (m_len k) (fun j => .int (S.1 k j)))
def m_N (D : MD) : Prop := (∀ k, 0 < m_len k → D.2.1 k ≠ D.1) ∧ ∀ k k', 0 < m_len k → 0 < m_len k' → D.2.1 k = D.2.1 k' → k = k'
def m_K (D : MD) (U : State) : Prop := u_Kn U RX7 TX7 63 D.2.2.1 D.2.2.2.1 ∧ ∀ k, ArrOfT U (D.2.2.2.2 (m_ty k)) (m_ty k)
def m_A (D : MD) : Nat → Prop := fun q => q = D.1 ∨ ∃ k, 0 < m_len k ∧ q = D.2.1 k
def m_C (D : MD) (S : MS) (U : State) : Prop := m_P D S U.heap ∧ m_N D ∧ m_K D U
def m_I (D : MD) (s : State) (H : Heap) (locs : List Loc) (S : MS) : Prop := m_P D S H ∧ m_N D ∧ m_K D s ∧ va_S (m_A D) s.heap H locs
def m_Q (D : MD) (v : Option Value) (S : MS) : Array Value → State → Outcome → State → Prop := fun _ st o t => o = .returned v ∧ m_C D S t ∧ va_F (m_A D) st t
abbrev m_Met (l : Launch) (y : MethodName) (cc : ByteArray) (nL : Nat) (ret : Option FieldType) (rm : Room) (D : MD) (vs : List Value) (S : MS) (v : Option Value) (S' : MS) : Prop := Met l y (ws_ y cc nL ret) rm (va_Pc vs (m_C D S)) (m_Q D v S') 0 0 (m_A D)
theorem m_K.moved {D : MD} {u U : State} (hvm : u.vm.Alike U.vm) (h : m_K D u) : m_K D U := ⟨u_Kn_moved hvm h.1, fun k => arrOfT_moved hvm (h.2 k)⟩
theorem m_blind {D : MD} {S : MS} {vs : List Value} : FrameBlind (va_Pc vs (m_C D S)) := fun _ U _ _ q => ⟨q.1, q.2.1, q.2.2.1, m_K.moved (Vm.Alike.refl U.vm) q.2.2.2⟩
theorem TX7_own (k : Nat) : (TX7 k).1 = RX7 := by unfold TX7; split <;> rfl
section MM
variable {l : Launch} {y : MethodName} {cc : ByteArray} {nL : Nat} {F L : Nat} {vs : List Value} {D : MD} {S S' : MS}
theorem m_metI {ty : FieldType} {r : Int32} (hy : plainName y.cls = true) (hc : y.cls = RX7) (hfit : (lg_sl vs).length ≤ nL)
    (body : ∀ (p : Program) (e : Env) (s : State) (m : MethodId) (args : Array Value) (below : List Frame) (meth : Method) (c : Code) (Q : State → Prop), CallFix p m c cc nL s args lw_all RX7 →
      (∀ (H : Heap) (locs : List Loc) (ls : Array Slot) (pc : Nat), narrow ty (.int r) = .int r → m_I D s H locs S' → decode cc pc = .ok (.ireturn, 1) → W p l e ({ frames := F, cells := 0, slots := 0, locals := L } : Room) s m args below meth c H locs 0 0 Q (F0 m pc ls [.int r])) →
      m_I D s s.heap [] S → ∀ ls, lv_has ls nL (lv_args 0 vs) → W p l e ({ frames := F, cells := 0, slots := 0, locals := L } : Room) s m args below meth c s.heap [] 0 0 Q (F0 m 0 ls [])) : m_Met l y cc nL (some ty) ({ frames := F, cells := 0, slots := 0, locals := L } : Room) D vs S (some (.int r)) S' := by
  refine Met.ofW (cc := cc) (maxL := nL) (ret := some ty) hy rfl ?_
  intro p e s m args below meth c s₁ B hml hv
  obtain ⟨rfl, hP, hN, hK⟩ := hv
  have hts := atoms_spec (ws := ws_ y cc nL (some ty)) B.pre
  have hts : ∀ w ∈ lw_all, w.before _ s = true := fun w h => hts w (List.mem_cons_of_mem _ h)
  have hown : s.vm.findClass RX7 = some m.cls := by rw [← hc]; exact findClass_of_methodNamed B.named
  have hl := lv_entry vs (n := nL) hfit
  rw [lg_entry_eq]
  generalize (lg_sl vs ++ List.replicate (nL - (lg_sl vs).length) Slot.unset).toArray = ls at hl ⊢
  exact body p e s m _ below meth c _ ⟨B.exec, B.bytes, hml, hown, hts⟩ (fun H locs ls pc hn hM hd => W.zret (v := r) B.exec B.bytes B.returns hn (fun t ht hW => ⟨rfl, ⟨by rw [ht]; exact hM.1, hN, m_K.moved hW.alike hK⟩, hM.2.2.2.F ht⟩) hM.2.2.2.2.2 hd B.notSynchronized) ⟨hP, hN, hK, va_S.rf⟩ ls hl
theorem m_metV (hy : plainName y.cls = true) (hc : y.cls = RX7) (hfit : (lg_sl vs).length ≤ nL)
    (body : ∀ (p : Program) (e : Env) (s : State) (m : MethodId) (args : Array Value) (below : List Frame) (meth : Method) (c : Code) (Q : State → Prop), CallFix p m c cc nL s args lw_all RX7 →
      (∀ (H : Heap) (locs : List Loc) (ls : Array Slot) (pc : Nat), m_I D s H locs S' → decode cc pc = .ok (.return_, 1) → W p l e ({ frames := F, cells := 0, slots := 0, locals := L } : Room) s m args below meth c H locs 0 0 Q (F0 m pc ls [])) →
      m_I D s s.heap [] S → ∀ ls, lv_has ls nL (lv_args 0 vs) → W p l e ({ frames := F, cells := 0, slots := 0, locals := L } : Room) s m args below meth c s.heap [] 0 0 Q (F0 m 0 ls [])) : m_Met l y cc nL none ({ frames := F, cells := 0, slots := 0, locals := L } : Room) D vs S none S' := by
  refine Met.ofW (cc := cc) (maxL := nL) (ret := none) hy rfl ?_
  intro p e s m args below meth c s₁ B hml hv
  obtain ⟨rfl, hP, hN, hK⟩ := hv
  have hts := atoms_spec (ws := ws_ y cc nL none) B.pre
  have hts : ∀ w ∈ lw_all, w.before _ s = true := fun w h => hts w (List.mem_cons_of_mem _ h)
  have hown : s.vm.findClass RX7 = some m.cls := by rw [← hc]; exact findClass_of_methodNamed B.named
  have hl := lv_entry vs (n := nL) hfit
  rw [lg_entry_eq]
  generalize (lg_sl vs ++ List.replicate (nL - (lg_sl vs).length) Slot.unset).toArray = ls at hl ⊢
  exact body p e s m _ below meth c _ ⟨B.exec, B.bytes, hml, hown, hts⟩ (fun H locs ls pc hM hd => W.vret B.exec B.bytes B.returns (fun t ht hW => ⟨rfl, ⟨by rw [ht]; exact hM.1, hN, m_K.moved hW.alike hK⟩, hM.2.2.2.F ht⟩) hM.2.2.2.2.2 hd B.notSynchronized) ⟨hP, hN, hK, va_S.rf⟩ ls hl
end MM
section MR
variable {p : Program} {l : Launch} {e : Env} {R : Room} {s : State} {m : MethodId} {args : Array Value} {below : List Frame} {meth : Method} {c : Code} {H : Heap} {locs : List Loc} {cells slots : Nat} {Q : State → Prop}
variable {cc : ByteArray} {pc nL : Nat} {ls : Array Slot} {rest : List Value} {D : MD} {S S' : MS}
theorem mr_get (B : CallFix p m c cc nL s args lw_all RX7) (hM : m_I D s H locs S) (k : Nat) {index : Nat} {v : Value} (hv : m_V D S k = v) (hk : k < 63) (hq : Cond.fieldLink RX7 index RX7 (TX7 k).2.1 (TX7 k).2.2.1 ∈ lw_all) (hdg : decode cc pc = .ok (.getfield index, 3))
    (kk : W p l e R s m args below meth c H locs cells slots Q (F0 m (pc + 3) ls (v :: rest))) : W p l e R s m args below meth c H locs cells slots Q (F0 m pc ls (.ref D.1 :: rest)) := by
  obtain ⟨hx, hb, hml, hown, hts⟩ := B
  obtain ⟨⟨⟨cell, q1, q2, q3, q4⟩, -⟩, -, ⟨⟨hS, hfc, kC, hkC, hkind⟩, -⟩, -⟩ := hM
  obtain ⟨cf, kf, fi, f, hi, hsl⟩ := hS k hk
  have hst := (u_facts hfc hkC (u_lays hts in_X7 hk) hi).1
  rw [TX7_own] at hi
  refine W.getf hx hb hown (hts _ hq) hi hst q1 (by rw [q3]; exact fun h => by cases h) (v := v) ?_ rfl rfl hdg kk
  rw [hsl, q4 k hk, hv]
theorem mr_iald (B : CallFix p m c cc nL s args lw_all RX7) (hM : m_I D s H locs S) (k : Nat) (hk : 0 < m_len k) (hty : m_ty k = .int) {i v : Int32} (hin : vp_in i (m_len k)) (hv : v = S.1 k i.toNatClampNeg) (hdg : decode cc pc = .ok (.iaload, 1))
    (kk : W p l e R s m args below meth c H locs cells slots Q (F0 m (pc + 1) ls (.int v :: rest))) : W p l e R s m args below meth c H locs cells slots Q (F0 m pc ls (.int i :: .ref (D.2.1 k) :: rest)) := by
  have hlt : i.toNatClampNeg < m_len k := Nat.not_le.mp fun q => hin (Or.inr q)
  have ha := hM.2.2.1.2 k
  rw [hty] at ha
  have hc := hM.1.2 k hk
  rw [hty] at hc
  exact W.iald (v := .int v) B.1 B.2.1 hc (ha _ _) (fun q => by cases q) (by show ¬ (i < 0 ∨ (arrV _ _ _).slots.size ≤ _); rw [arrV_size]; exact hin) (by show (arrV _ _ _).slots[_]? = _; rw [arrV_read _ _ hlt, hv]) rfl rfl hdg kk
theorem mr_bald (B : CallFix p m c cc nL s args lw_all RX7) (hM : m_I D s H locs S) (k : Nat) (hk : 0 < m_len k) (hty : m_ty k = .byte) {i v : Int32} (hin : vp_in i (m_len k)) (hv : v = S.1 k i.toNatClampNeg) (hdg : decode cc pc = .ok (.baload, 1))
    (kk : W p l e R s m args below meth c H locs cells slots Q (F0 m (pc + 1) ls (.int v :: rest))) : W p l e R s m args below meth c H locs cells slots Q (F0 m pc ls (.int i :: .ref (D.2.1 k) :: rest)) := by
  have hlt : i.toNatClampNeg < m_len k := Nat.not_le.mp fun q => hin (Or.inr q)
  have ha := hM.2.2.1.2 k
  rw [hty] at ha
  have hc := hM.1.2 k hk
  rw [hty] at hc
  exact W.bald (v := .int v) B.1 B.2.1 hc (ha _ _) (fun q => by cases q) (by show ¬ (i < 0 ∨ (arrV _ _ _).slots.size ≤ _); rw [arrV_size]; exact hin) (by show (arrV _ _ _).slots[_]? = _; rw [arrV_read _ _ hlt, hv]) rfl rfl hdg kk
theorem mr_zald (B : CallFix p m c cc nL s args lw_all RX7) (hM : m_I D s H locs S) (k : Nat) (hk : 0 < m_len k) (hty : m_ty k = .boolean) {i v : Int32} (hin : vp_in i (m_len k)) (hv : v = S.1 k i.toNatClampNeg) (hdg : decode cc pc = .ok (.baload, 1))
    (kk : W p l e R s m args below meth c H locs cells slots Q (F0 m (pc + 1) ls (.int v :: rest))) : W p l e R s m args below meth c H locs cells slots Q (F0 m pc ls (.int i :: .ref (D.2.1 k) :: rest)) := by
  have hlt : i.toNatClampNeg < m_len k := Nat.not_le.mp fun q => hin (Or.inr q)
  have ha := hM.2.2.1.2 k
  rw [hty] at ha
  have hc := hM.1.2 k hk
  rw [hty] at hc
  exact W.zald (v := .int v) B.1 B.2.1 hc (ha _ _) (fun q => by cases q) (by show ¬ (i < 0 ∨ (arrV _ _ _).slots.size ≤ _); rw [arrV_size]; exact hin) (by show (arrV _ _ _).slots[_]? = _; rw [arrV_read _ _ hlt, hv]) rfl rfl hdg kk
/-- what a store into the array k leaves -/
theorem m_P.stored {H1 : Heap} (hP : m_P D S H) (hN : m_N D) (k : Nat) (hk : 0 < m_len k) {i : Nat} {x : Int32} (e : H1[D.2.1 k]? = some ((arrV (D.2.2.2.2 (m_ty k)) (m_len k) (fun j => .int (S.1 k j))).setSlot i (.int x))) (oq : ∀ q, q ≠ D.2.1 k → H1[q]? = H[q]?) : m_P D (m_up S k i x) H1 := by
  refine ⟨?_, fun k' hk' => ?_⟩
  · refine (hP.1.kept (oq _ (fun h => hN.1 k hk h.symm))).to (fun k' _ => ?_)
    unfold m_V
    split
    · rfl
    · split
      · rename_i h
        have hne : ¬ (k' = k ∧ 0 = i) := fun q => by rw [q.1] at h; omega
        simp [m_up, hne]
      · rfl
  · by_cases hkk : k' = k
    · subst hkk
      rw [e, arrV_store]
      congr 2
      funext q
      by_cases hq : q = i
      · subst hq
        simp [updV, m_up]
      · simp [updV, m_up, hq]
    · rw [oq _ (fun h => hkk (hN.2 k' k hk' hk h)), hP.2 k' hk']
      congr 2
      funext q
      have hne : ¬ (k' = k ∧ q = i) := fun z => hkk z.1
      simp [m_up, hne]
theorem m_I.stored {H1 : Heap} (hM : m_I D s H locs S) (k : Nat) (hk : 0 < m_len k) {i : Nat} {x : Int32} (e : H1[D.2.1 k]? = some ((arrV (D.2.2.2.2 (m_ty k)) (m_len k) (fun j => .int (S.1 k j))).setSlot i (.int x))) (z : H1.size = H.size) (oq : ∀ q, q ≠ D.2.1 k → H1[q]? = H[q]?) {j : Nat} : m_I D s H1 (locs ++ [⟨D.2.1 k, j⟩]) (m_up S k i x) :=
  ⟨hM.1.stored hM.2.1 k hk e oq, hM.2.1, hM.2.2.1, hM.2.2.2.put z oq (Or.inr ⟨k, hk, rfl⟩)⟩
theorem mr_iast (B : CallFix p m c cc nL s args lw_all RX7) (hM : m_I D s H locs S) (k : Nat) (hk : 0 < m_len k) (hty : m_ty k = .int) {i x : Int32} (hin : vp_in i (m_len k)) (hS' : S' = m_up S k i.toNatClampNeg x) (hdg : decode cc pc = .ok (.iastore, 1))
    (kk : ∀ (H : Heap) (locs : List Loc), m_I D s H locs S' → W p l e R s m args below meth c H locs cells slots Q (F0 m (pc + 1) ls rest)) : W p l e R s m args below meth c H locs cells slots Q (F0 m pc ls (.int x :: .int i :: .ref (D.2.1 k) :: rest)) := by
  have ha := hM.2.2.1.2 k
  have hc := hM.1.2 k hk
  refine W.iast B.1 B.2.1 hc (by rw [hty] at ha ⊢; exact ha _ _) (fun q => by cases q) (by show ¬ (i < 0 ∨ (arrV _ _ _).slots.size ≤ _); rw [arrV_size]; exact hin) rfl rfl hdg fun H1 e z oq => ?_
  subst hS'
  exact kk H1 _ (hM.stored k hk e z oq)
theorem mr_bast (B : CallFix p m c cc nL s args lw_all RX7) (hM : m_I D s H locs S) (k : Nat) (hk : 0 < m_len k) (hty : m_ty k = .byte) {i x : Int32} (hin : vp_in i (m_len k)) (hS' : S' = m_up S k i.toNatClampNeg (vp_nar .byte x)) (hdg : decode cc pc = .ok (.bastore, 1))
    (kk : ∀ (H : Heap) (locs : List Loc), m_I D s H locs S' → W p l e R s m args below meth c H locs cells slots Q (F0 m (pc + 1) ls rest)) : W p l e R s m args below meth c H locs cells slots Q (F0 m pc ls (.int x :: .int i :: .ref (D.2.1 k) :: rest)) := by
  have ha := hM.2.2.1.2 k
  have hc := hM.1.2 k hk
  refine W.bast B.1 B.2.1 hc (by rw [hty] at ha ⊢; exact ha _ _) (fun q => by cases q) (by show ¬ (i < 0 ∨ (arrV _ _ _).slots.size ≤ _); rw [arrV_size]; exact hin) rfl rfl hdg fun H1 e z oq => ?_
  subst hS'
  exact kk H1 _ (hM.stored k hk e z oq)
theorem mr_zast (B : CallFix p m c cc nL s args lw_all RX7) (hM : m_I D s H locs S) (k : Nat) (hk : 0 < m_len k) (hty : m_ty k = .boolean) {i x : Int32} (hin : vp_in i (m_len k)) (hS' : S' = m_up S k i.toNatClampNeg (vp_nar .boolean x)) (hdg : decode cc pc = .ok (.bastore, 1))
    (kk : ∀ (H : Heap) (locs : List Loc), m_I D s H locs S' → W p l e R s m args below meth c H locs cells slots Q (F0 m (pc + 1) ls rest)) : W p l e R s m args below meth c H locs cells slots Q (F0 m pc ls (.int x :: .int i :: .ref (D.2.1 k) :: rest)) := by
  have ha := hM.2.2.1.2 k
  have hc := hM.1.2 k hk
  refine W.zast B.1 B.2.1 hc (by rw [hty] at ha ⊢; exact ha _ _) (fun q => by cases q) (by show ¬ (i < 0 ∨ (arrV _ _ _).slots.size ≤ _); rw [arrV_size]; exact hin) rfl rfl hdg fun H1 e z oq => ?_
  subst hS'
  exact kk H1 _ (hM.stored k hk e z oq)
theorem m_slots (B : CallFix p m c cc nL s args lw_all RX7) (hK : m_K D s) : ∀ x y, x < 63 → y < 63 → x ≠ y → D.2.2.2.1 x ≠ D.2.2.2.1 y := by
  intro x y hx hy hne
  obtain ⟨hS, -⟩ := hK.1
  obtain ⟨_, _, _, fa, hia, ea⟩ := hS x hx
  obtain ⟨_, _, _, fb, hib, eb⟩ := hS y hy
  rw [← ea, ← eb]
  refine u_apart (u_lays B.2.2.2.2 in_X7 hx) (u_lays B.2.2.2.2 in_X7 hy) hia hib ?_
  rw [(State.fieldFound?_type hia (tyX7_ok x hx)).1, (State.fieldFound?_type hib (tyX7_ok y hy)).1]
  exact nmX7 x hx y hy hne
theorem mr_put (B : CallFix p m c cc nL s args lw_all RX7) (hM : m_I D s H locs S) (k : Nat) {index : Nat} {v : Value} {ty : FieldType} (hk : k < 63) (hV : ∀ j, j < 63 → m_V D S' j = updV (m_V D S) k v j) (hA : ∀ j, 0 < m_len j → ∀ i, S'.1 j i = S.1 j i) (hfin : (TX7 k).2.2.2 = false) (hd : parseFieldDescriptor (TX7 k).2.2.1 = some ty) (hn : narrow ty v = v) (hfit : fits ty v = true) (hq : Cond.fieldLink RX7 index RX7 (TX7 k).2.1 (TX7 k).2.2.1 ∈ lw_all) (hdg : decode cc pc = .ok (.putfield index, 3))
    (kk : ∀ (H : Heap) (locs : List Loc), m_I D s H locs S' → W p l e R s m args below meth c H locs cells slots Q (F0 m (pc + 3) ls rest)) : W p l e R s m args below meth c H locs cells slots Q (F0 m pc ls (v :: .ref D.1 :: rest)) := by
  have hap := m_slots B hM.2.2.1
  obtain ⟨hx, hb, hml, hown, hts⟩ := B
  obtain ⟨⟨⟨cell, q1, q2, q3, q4⟩, hArr⟩, hN, hK, hSS⟩ := hM
  obtain ⟨hS, hfc, kC, hkC, hkind⟩ := hK.1
  obtain ⟨cf, kf, fi, f, hi, hsl⟩ := hS k hk
  have hlay := hts _ (in_X7 _ (u_in_lay hk))
  unfold u_lay at hlay
  rw [if_neg (by rw [hfin]; decide)] at hlay
  have hst := (u_facts hfc hkC (u_lays hts in_X7 hk) hi).1
  have h6 := u_store hfc hkC hkind hlay hi hd hn hfit
  rw [TX7_own] at hi
  refine W.putK hx hb (f := f) ⟨hown, hts _ hq, ⟨_, _, _, hi⟩, hst⟩ (by rw [q2]; exact h6) q1 q3 (by rw [hsl]; exact k2_hasslot (q4 k hk)) rfl rfl hdg fun H' e1 e2 e3 => ?_
  rw [hsl] at e1 ⊢
  refine kk H' _ ⟨⟨t_OB.to (V := updV (m_V D S) k v) ⟨_, e1, q2, q3, t_set q4 hap hk v⟩ (fun j hj => (hV j hj).symm), fun j hj => ?_⟩, hN, hK, hSS.put e2 e3 (Or.inl rfl)⟩
  rw [e3 _ (hN.1 j hj), hArr j hj]
  congr 2
  funext q
  rw [hA j hj q]
theorem m_V_upi {k : Nat} {x : Int32} (h1 : k ≠ 34) (h2 : m_len k = 0) : ∀ j, j < 63 → m_V D (m_up S k 0 x) j = updV (m_V D S) k (.int x) j := by
  intro j _
  unfold updV
  by_cases hj : j = k
  · subst hj
    simp [m_V, h1, h2, m_up]
  · simp only [hj, if_false]
    unfold m_V
    simp [m_up, hj]
theorem m_V_upl {x : Int64} : ∀ j, j < 63 → m_V D (m_uw S x) j = updV (m_V D S) 34 (.long x) j := by
  intro j _
  unfold updV
  by_cases hj : j = 34
  · subst hj
    simp [m_V, m_uw]
  · simp only [hj, if_false]
    unfold m_V
    simp [m_uw, hj]
theorem mr_puti (B : CallFix p m c cc nL s args lw_all RX7) (hM : m_I D s H locs S) (k : Nat) {index : Nat} {x : Int32} (hk : k < 63 ∧ k ≠ 34 ∧ m_len k = 0) (hS' : S' = m_up S k 0 x) (hfin : (TX7 k).2.2.2 = false) (hd : parseFieldDescriptor (TX7 k).2.2.1 = some .int) (hq : Cond.fieldLink RX7 index RX7 (TX7 k).2.1 (TX7 k).2.2.1 ∈ lw_all) (hdg : decode cc pc = .ok (.putfield index, 3))
    (kk : ∀ (H : Heap) (locs : List Loc), m_I D s H locs S' → W p l e R s m args below meth c H locs cells slots Q (F0 m (pc + 3) ls rest)) : W p l e R s m args below meth c H locs cells slots Q (F0 m pc ls (.int x :: .ref D.1 :: rest)) := by
  subst hS'
  refine mr_put B hM k hk.1 (m_V_upi hk.2.1 hk.2.2) (fun j hj i => ?_) hfin hd rfl rfl hq hdg kk
  have hne : ¬ (j = k ∧ i = 0) := fun q => by rw [q.1, hk.2.2] at hj; omega
  simp [m_up, hne]
theorem mr_putl (B : CallFix p m c cc nL s args lw_all RX7) (hM : m_I D s H locs S) {index : Nat} {x : Int64} (hS' : S' = m_uw S x) (hq : Cond.fieldLink RX7 index RX7 (TX7 34).2.1 (TX7 34).2.2.1 ∈ lw_all) (hdg : decode cc pc = .ok (.putfield index, 3))
    (kk : ∀ (H : Heap) (locs : List Loc), m_I D s H locs S' → W p l e R s m args below meth c H locs cells slots Q (F0 m (pc + 3) ls rest)) : W p l e R s m args below meth c H locs cells slots Q (F0 m pc ls (.long x :: .ref D.1 :: rest)) := by
  subst hS'
  exact mr_put (ty := .long) B hM 34 (by decide) m_V_upl (fun j hj i => rfl) rfl (by decide +kernel) rfl rfl hq hdg kk
theorem m_recv (hM : m_I D s H locs S) : ∃ cellB : Cell, H[D.1]? = some cellB ∧ cellB.vm.isStatics = false ∧ s.vm.findClass RX7 = some cellB.cls := by
  obtain ⟨⟨⟨cell, q1, q2, q3, -⟩, -⟩, -, ⟨⟨-, hfc, -⟩, -⟩, -⟩ := hM
  exact ⟨cell, q1, by rw [q3]; rfl, by rw [q2]; exact hfc⟩
/-- what a call of the reference's own method leaves -/
theorem mr_back {vs st : List Value} {v : Option Value} {a : Array Value} (hM : m_I D s H locs S) (hr : va_Run p l e R s m args below meth c H locs cells slots 0 0 (F0 m pc ls st) rest (m_Q D v S' a) (m_A D))
    (kk : ∀ (H : Heap) (locs : List Loc), m_I D s H locs S' → W p l e R s m args below meth c H locs cells slots Q (F0 m (pc + 3) ls (v.toList ++ rest))) : W p l e R s m args below meth c H locs cells slots Q (F0 m pc ls st) := by
  intro T hT X
  obtain ⟨v', st₀, t, T', L, h0, X', hL, e1, e2, ⟨hv, hC, hz, hk⟩, stp⟩ := hr T hT X
  cases hv
  rw [h0] at hz hk
  obtain ⟨-, hN, hK, hSS⟩ := hM
  obtain ⟨t2, a1, b1⟩ := kk T'.heap (locs ++ L) ⟨by rw [e1]; exact hC.1, hN, hK, ⟨Nat.le_trans hSS.1 (by rw [e1]; exact hz), fun q h1 h2 => by rw [e1, hk q (Nat.lt_of_lt_of_le h1 hSS.1) h2]; exact hSS.2.1 q h1 h2, fun q hq => by
      rcases List.mem_append.mp hq with h | h
      · exact hSS.2.2 q h
      · exact hL q h⟩⟩ T' rfl X'
  exact ⟨t2, stp t2 a1, b1⟩
theorem mr_callV {y : MethodName} {bytes : ByteArray} {nL' n index : Nat} {ret' : Option FieldType} {rm' : Room} {vs st : List Value} {v : Option Value} (B : CallFix p m c cc nL s args lw_all RX7) (hM : m_I D s H locs S) (hc : m_Met l y bytes nL' ret' rm' D (.ref D.1 :: vs) S v S') (cw : CallW R s args RX7 RX7 index y bytes nL' ret' (ws_ y bytes nL' ret') rm' 0 0 n) (hn : vs.length = n) (hls : ls.size = nL) (hst : st = vs.reverse ++ .ref D.1 :: rest) (hro : (rest.map fun v => v.category).sum ≤ 8) (hdg : decode cc pc = .ok (.invokevirtual index, 3)) (hcs : cells ≤ R.cells ∧ slots ≤ R.slots)
    (kk : ∀ (H : Heap) (locs : List Loc), m_I D s H locs S' → W p l e R s m args below meth c H locs cells slots Q (F0 m (pc + 3) ls (v.toList ++ rest))) : W p l e R s m args below meth c H locs cells slots Q (F0 m pc ls st) :=
  mr_back (vs := vs) hM (va_runV (g := F0 m pc ls st) (rest := rest) B hc cw ⟨m_blind, m_recv hM, fun U hU hW => ⟨rfl, by rw [hU]; exact hM.1, hM.2.1, m_K.moved hW.alike hM.2.2.1⟩⟩ rfl hn hls hst (lv_room hro) hdg hcs) kk
theorem mr_callS {y : MethodName} {bytes : ByteArray} {nL' n index : Nat} {ret' : Option FieldType} {rm' : Room} {vs st : List Value} {v : Option Value} (B : CallFix p m c cc nL s args lw_all RX7) (hM : m_I D s H locs S) (hc : m_Met l y bytes nL' ret' rm' D vs S v S') (cw : CallB R s args RX7 index y bytes nL' ret' (ws_ y bytes nL' ret') rm' 0 0 n ∧ (Cond.static y).before args s = true) (hn : vs.length = n) (hls : ls.size = nL) (hst : st = vs.reverse ++ rest) (hro : (rest.map fun v => v.category).sum ≤ 8) (hdg : decode cc pc = .ok (.invokestatic index, 3)) (hcs : cells ≤ R.cells ∧ slots ≤ R.slots)
    (kk : ∀ (H : Heap) (locs : List Loc), m_I D s H locs S' → W p l e R s m args below meth c H locs cells slots Q (F0 m (pc + 3) ls (v.toList ++ rest))) : W p l e R s m args below meth c H locs cells slots Q (F0 m pc ls st) :=
  mr_back (vs := vs) hM (va_runS (g := F0 m pc ls st) (rest := rest) B hc cw ⟨m_blind, fun U hU hW => ⟨rfl, by rw [hU]; exact hM.1, hM.2.1, m_K.moved hW.alike hM.2.2.1⟩⟩ rfl hn hls hst (lv_room hro) hdg hcs) kk
end MR
