/-! INFRA: the pure words that the printed functions are made of -/
def bd {α β : Type} (x : α) (K : α → Option β) : Option β := K x
def bnd {α β : Type} (x : Option α) (K : α → Option β) : Option β := match x with
  | none => none
  | some a => K a
def chk {β : Type} (P : Prop) [Decidable P] (K : Option β) : Option β := if P then K else none
abbrev inb (j : Int32) (n : Nat) : Prop := 0 ≤ j ∧ j.toNatClampNeg < n
def ald {α β : Type} (n : Nat) (f : Nat → α) (j : Int32) (K : α → Option β) : Option β := if inb j n then K (f j.toNatClampNeg) else none
def ast {α β : Type} (n : Nat) (j : Int32) (S : α) (K : α → Option β) : Option β := if inb j n then K S else none
def u2 {a b γ : Type} (K : a → b → γ) (t : a × b) : γ := K t.1 t.2
def u3 {a b c γ : Type} (K : a → b → c → γ) (t : a × b × c) : γ := K t.1 t.2.1 t.2.2
def u4 {a b c d γ : Type} (K : a → b → c → d → γ) (t : a × b × c × d) : γ := K t.1 t.2.1 t.2.2.1 t.2.2.2
def u5 {a b c d e γ : Type} (K : a → b → c → d → e → γ) (t : a × b × c × d × e) : γ := K t.1 t.2.1 t.2.2.1 t.2.2.2.1 t.2.2.2.2
def u6 {a b c d e f γ : Type} (K : a → b → c → d → e → f → γ) (t : a × b × c × d × e × f) : γ := K t.1 t.2.1 t.2.2.1 t.2.2.2.1 t.2.2.2.2.1 t.2.2.2.2.2
/-- a loop with fuel: a step goes on (inl) or ends it (inr) -/
def wO {σ ρ : Type} (step : σ → Option (σ ⊕ ρ)) : Nat → σ → Option ρ
  | 0, _ => none
  | n + 1, s => match step s with
    | none => none
    | some (.inl s') => wO step n s'
    | some (.inr r) => some r
def fu : Nat := 100000
theorem bd_some {α β : Type} {x : α} {K : α → Option β} {y : β} (h : bd x K = some y) : ∃ v, v = x ∧ K v = some y := ⟨x, rfl, h⟩
theorem bnd_some {α β : Type} {x : Option α} {K : α → Option β} {y : β} (h : bnd x K = some y) : ∃ v, x = some v ∧ K v = some y := by
  cases x with
  | none => exact absurd h (by simp [bnd])
  | some a => exact ⟨a, rfl, h⟩
theorem chk_some {β : Type} {P : Prop} [Decidable P] {K : Option β} {y : β} (h : chk P K = some y) : P ∧ K = some y := by
  unfold chk at h
  split at h
  · exact ⟨by assumption, h⟩
  · cases h
theorem inb_in {j : Int32} {n : Nat} (h : inb j n) : vp_in j n := by
  rintro (q | q)
  · exact Int32.not_lt.mpr h.1 q
  · exact Nat.not_le.mpr h.2 q
theorem ald_some {α β : Type} {n : Nat} {f : Nat → α} {j : Int32} {K : α → Option β} {y : β} (h : ald n f j K = some y) : ∃ v, v = f j.toNatClampNeg ∧ vp_in j n ∧ K v = some y := by
  unfold ald at h
  split at h
  · exact ⟨_, rfl, inb_in (by assumption), h⟩
  · cases h
theorem bd_at {α β : Type} {x v : α} {K : α → Option β} {y : β} (e : v = x) (h : bd x K = some y) : K v = some y := by subst e; exact h
theorem ast_some {α β : Type} {n : Nat} {S : α} {j : Int32} {K : α → Option β} {y : β} (h : ast n j S K = some y) : ∃ v, v = S ∧ vp_in j n ∧ K v = some y := by
  unfold ast at h
  split at h
  · exact ⟨_, rfl, inb_in (by assumption), h⟩
  · cases h
theorem u2_at {a b γ : Type} {K : a → b → Option γ} {x1 : a} {x2 : b} {y : γ} (h : u2 K (x1, x2) = some y) : K x1 x2 = some y := h
theorem u3_at {a b c γ : Type} {K : a → b → c → Option γ} {x1 : a} {x2 : b} {x3 : c} {y : γ} (h : u3 K (x1, x2, x3) = some y) : K x1 x2 x3 = some y := h
theorem u4_at {a b c d γ : Type} {K : a → b → c → d → Option γ} {x1 : a} {x2 : b} {x3 : c} {x4 : d} {y : γ} (h : u4 K (x1, x2, x3, x4) = some y) : K x1 x2 x3 x4 = some y := h
theorem u5_at {a b c d e γ : Type} {K : a → b → c → d → e → Option γ} {x1 : a} {x2 : b} {x3 : c} {x4 : d} {x5 : e} {y : γ} (h : u5 K (x1, x2, x3, x4, x5) = some y) : K x1 x2 x3 x4 x5 = some y := h
theorem u6_at {a b c d e f γ : Type} {K : a → b → c → d → e → f → Option γ} {x1 : a} {x2 : b} {x3 : c} {x4 : d} {x5 : e} {x6 : f} {y : γ} (h : u6 K (x1, x2, x3, x4, x5, x6) = some y) : K x1 x2 x3 x4 x5 x6 = some y := h
theorem el_l {a b γ : Type} {K : a → Option γ} {K' : b → Option γ} {x : a} {y : γ} (h : Sum.elim K K' (.inl x) = some y) : K x = some y := h
theorem el_r {a b γ : Type} {K : a → Option γ} {K' : b → Option γ} {x : b} {y : γ} (h : Sum.elim K K' (.inr x) = some y) : K' x = some y := h
theorem it_pos {β : Type} {P : Prop} [Decidable P] {A B : Option β} {y : β} (c : P) (h : (if P then A else B) = some y) : A = some y := by rw [if_pos c] at h; exact h
theorem it_neg {β : Type} {P : Prop} [Decidable P] {A B : Option β} {y : β} (c : ¬ P) (h : (if P then A else B) = some y) : B = some y := by rw [if_neg c] at h; exact h
theorem lp_W {σ ρ : Type} {step : σ → Option (σ ⊕ ρ)} (Wh : σ → Prop) (Wx : ρ → Prop) (h : ∀ s o, step s = some o → Sum.elim Wh Wx o → Wh s) : ∀ n s y, wO step n s = some y → Wx y → Wh s := by
  intro n
  induction n with
  | zero => intro s y h1; cases h1
  | succ n ih =>
    intro s y h1 h2
    unfold wO at h1
    cases hs : step s with
    | none => rw [hs] at h1; cases h1
    | some o =>
      rw [hs] at h1
      cases o with
      | inl s' => exact h s _ hs (ih s' y h1 h2)
      | inr r => cases h1; exact h s _ hs h2
/-! contracts of pure static methods: nothing of the heap -/
def p_Q (v : Option Value) : Array Value → State → Outcome → State → Prop := fun _ st o t => o = .returned v ∧ t.heap = st.heap
abbrev p_Met (l : Launch) (y : MethodName) (cc : ByteArray) (nL : Nat) (ret : Option FieldType) (rm : Room) (vs : List Value) (v : Option Value) : Prop := Met l y (ws_ y cc nL ret) rm (va_Pc vs (fun _ => True)) (p_Q v) 0 0 (fun _ => False)
section PM
variable {l : Launch} {y : MethodName} {cc : ByteArray} {nL : Nat} {F L : Nat} {vs : List Value}
theorem p_metI {ty : FieldType} {r : Int32} (own : String) (hy : plainName y.cls = true) (hc : y.cls = own) (hfit : (lg_sl vs).length ≤ nL)
    (body : ∀ (p : Program) (e : Env) (s : State) (m : MethodId) (args : Array Value) (below : List Frame) (meth : Method) (c : Code) (Q : State → Prop), CallFix p m c cc nL s args lw_all own →
      (∀ (ls : Array Slot) (pc : Nat), narrow ty (.int r) = .int r → decode cc pc = .ok (.ireturn, 1) → W p l e ({ frames := F, cells := 0, slots := 0, locals := L } : Room) s m args below meth c s.heap [] 0 0 Q (F0 m pc ls [.int r])) →
      ∀ ls, lv_has ls nL (lv_args 0 vs) → W p l e ({ frames := F, cells := 0, slots := 0, locals := L } : Room) s m args below meth c s.heap [] 0 0 Q (F0 m 0 ls [])) : p_Met l y cc nL (some ty) ({ frames := F, cells := 0, slots := 0, locals := L } : Room) vs (some (.int r)) := by
  refine Met.ofW (cc := cc) (maxL := nL) (ret := some ty) hy rfl ?_
  intro p e s m args below meth c s₁ B hml hv
  obtain ⟨rfl, -⟩ := hv
  have hts := atoms_spec (ws := ws_ y cc nL (some ty)) B.pre
  have hts : ∀ w ∈ lw_all, w.before _ s = true := fun w h => hts w (List.mem_cons_of_mem _ h)
  have hown : s.vm.findClass own = some m.cls := by rw [← hc]; exact findClass_of_methodNamed B.named
  have hl := lv_entry vs (n := nL) hfit
  rw [lg_entry_eq]
  generalize (lg_sl vs ++ List.replicate (nL - (lg_sl vs).length) Slot.unset).toArray = ls at hl ⊢
  exact body p e s m _ below meth c _ ⟨B.exec, B.bytes, hml, hown, hts⟩ (fun ls pc hn hd => W.zret (v := r) B.exec B.bytes B.returns hn (fun t ht _ => ⟨rfl, ht⟩) (fun q h => by cases h) hd B.notSynchronized) ls hl
end PM
section PR0
variable {p : Program} {l : Launch} {e : Env} {R : Room} {s : State} {m : MethodId} {args : Array Value} {below : List Frame} {meth : Method} {c : Code} {H : Heap} {locs : List Loc} {cells slots : Nat} {Q : State → Prop} {pc : Nat} {ls : Array Slot} {rest : List Value}
theorem js {v v' : Int32} (e0 : v = v') (J : W p l e R s m args below meth c H locs cells slots Q (F0 m pc ls (.int v :: rest))) : W p l e R s m args below meth c H locs cells slots Q (F0 m pc ls (.int v' :: rest)) := e0 ▸ J
theorem js' {v v' : Int32} (e0 : v = v') (J : W p l e R s m args below meth c H locs cells slots Q (F0 m pc ls (.int v' :: rest))) : W p l e R s m args below meth c H locs cells slots Q (F0 m pc ls (.int v :: rest)) := e0 ▸ J
end PR0
section PR
variable {p : Program} {l : Launch} {e : Env} {R : Room} {s : State} {m : MethodId} {args : Array Value} {below : List Frame} {meth : Method} {c : Code} {H : Heap} {locs : List Loc} {cells slots : Nat} {Q : State → Prop}
variable {cc : ByteArray} {pc nL : Nat} {ls : Array Slot} {rest : List Value} {own : String}
/-- a call of a pure static method -/
theorem pr_callS {y : MethodName} {bytes : ByteArray} {nL' n index : Nat} {ret' : Option FieldType} {rm' : Room} {vs st : List Value} {r : Value} (B : CallFix p m c cc nL s args lw_all own) (hc : p_Met l y bytes nL' ret' rm' vs (some r)) (cw : CallB R s args own index y bytes nL' ret' (ws_ y bytes nL' ret') rm' 0 0 n ∧ (Cond.static y).before args s = true) (hn : vs.length = n) (hls : ls.size = nL) (hst : st = vs.reverse ++ rest) (hro : (rest.map fun v => v.category).sum ≤ 8) (hdg : decode cc pc = .ok (.invokestatic index, 3)) (hcs : cells ≤ R.cells ∧ slots ≤ R.slots)
    (kk : W p l e R s m args below meth c H locs cells slots Q (F0 m (pc + 3) ls (r :: rest))) : W p l e R s m args below meth c H locs cells slots Q (F0 m pc ls st) := by
  intro T hT X
  obtain ⟨v', st₀, t, T', L, h0, X', hL, e1, e2, ⟨hv, hh⟩, stp⟩ := va_runS (g := F0 m pc ls st) (rest := rest) B hc cw ⟨fun _ _ _ _ q => q, fun U hU hW => ⟨rfl, trivial⟩⟩ rfl hn hls hst (lv_room hro) hdg hcs T hT X
  cases hv
  obtain ⟨t2, a1, b1⟩ := kk T' (by rw [e1, hh, h0]) (Stand.forget X' (fun q h => (hL q h).elim))
  exact ⟨t2, stp t2 a1, b1⟩
end PR
