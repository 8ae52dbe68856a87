set_option maxRecDepth 100000
def f_X7_copy_L2 (p0 : Int32) (p1 : Int32) (x1 : Int32) (S2 : MS) : Option ((Int32 × MS) ⊕ ((MS))) :=
  (if nI 400 ≤ x1 then some (.inr S2) else ald 1600 (S2.1 1) ((nI 400 * p0) + x1) fun v4 => ast 1600 ((nI 400 * p1) + x1) (m_up S2 1 ((nI 400 * p1) + x1).toNatClampNeg (vp_nar .byte v4)) fun S5 => bd (x1 + nI 1) fun x6 => some (.inl (x6, S5)))
def f_X7_copy_L41 (p0 : Int32) (p1 : Int32) (x10 : Int32) (S11 : MS) : Option ((Int32 × MS) ⊕ ((MS))) :=
  (if nI 36 ≤ x10 then some (.inr S11) else ald 144 (S11.1 11) ((nI 36 * p0) + x10) fun v13 => ast 144 ((nI 36 * p1) + x10) (m_up S11 11 ((nI 36 * p1) + x10).toNatClampNeg (vp_nar .boolean v13)) fun S14 => bd (x10 + nI 1) fun x15 => some (.inl (x15, S14)))
def f_X7_copy_L77 (p0 : Int32) (p1 : Int32) (x19 : Int32) (S20 : MS) : Option ((Int32 × MS) ⊕ ((MS))) :=
  (if nI 144 ≤ x19 then some (.inr S20) else ald 576 (S20.1 24) ((nI 144 * p0) + x19) fun v22 => ast 576 ((nI 144 * p1) + x19) (m_up S20 24 ((nI 144 * p1) + x19).toNatClampNeg (vp_nar .boolean v22)) fun S23 => bd (x19 + nI 1) fun x24 => some (.inl (x24, S23)))
def f_X7_copy_L116 (p0 : Int32) (p1 : Int32) (x28 : Int32) (S29 : MS) : Option ((Int32 × MS) ⊕ ((MS))) :=
  (if nI 4 ≤ x28 then some (.inr S29) else ald 16 (S29.1 25) ((nI 4 * p0) + x28) fun v31 => ast 16 ((nI 4 * p1) + x28) (m_up S29 25 ((nI 4 * p1) + x28).toNatClampNeg (vp_nar .boolean v31)) fun S32 => bd (x28 + nI 1) fun x33 => some (.inl (x33, S32)))
def f_X7_copy (S : MS) (p0 : Int32) (p1 : Int32) : Option MS :=
  bnd (wO (fun t : Int32 × MS => f_X7_copy_L2 p0 p1 t.1 t.2) fu (nI 0, S)) <| fun S9 => bnd (wO (fun t : Int32 × MS => f_X7_copy_L41 p0 p1 t.1 t.2) fu (nI 0, S9)) <| fun S18 => bnd (wO (fun t : Int32 × MS => f_X7_copy_L77 p0 p1 t.1 t.2) fu (nI 0, S18)) <| fun S27 => bnd (wO (fun t : Int32 × MS => f_X7_copy_L116 p0 p1 t.1 t.2) fu (nI 0, S27)) <| fun S36 => bnd (f_X7_move S36 20 (nI 1) p0 p1) fun S37 => bnd (f_X7_move S37 21 (nI 40) p0 p1) fun S38 => bnd (f_X7_move S38 22 (nI 40) p0 p1) fun S39 => bnd (f_X7_move S39 23 (nI 40) p0 p1) fun S40 => bnd (f_X7_move S40 2 (nI 1) p0 p1) fun S41 => bnd (f_X7_move S41 3 (nI 1) p0 p1) fun S42 => bnd (f_X7_move S42 4 (nI 1) p0 p1) fun S43 => bnd (f_X7_move S43 5 (nI 1) p0 p1) fun S44 => bnd (f_X7_move S44 6 (nI 1) p0 p1) fun S45 => bnd (f_X7_move S45 7 (nI 3) p0 p1) fun S46 => bnd (f_X7_move S46 8 (nI 1) p0 p1) fun S47 => bnd (f_X7_move S47 9 (nI 4) p0 p1) fun S48 => bnd (f_X7_move S48 10 (nI 4) p0 p1) fun S49 => bnd (f_X7_move S49 12 (nI 1) p0 p1) fun S50 => bnd (f_X7_move S50 13 (nI 8) p0 p1) fun S51 => bnd (f_X7_move S51 14 (nI 8) p0 p1) fun S52 => bnd (f_X7_move S52 15 (nI 9) p0 p1) fun S53 => bnd (f_X7_move S53 16 (nI 360) p0 p1) fun S54 => bnd (f_X7_move S54 17 (nI 360) p0 p1) fun S55 => bnd (f_X7_move S55 18 (nI 360) p0 p1) fun S56 => bnd (f_X7_move S56 19 (nI 360) p0 p1) fun S57 => some S57
abbrev r_X7_copy : Room := { frames := 1, cells := 0, slots := 0, locals := 24 }
set_option maxHeartbeats 4000000 in
set_option maxRecDepth 100000 in
theorem c_X7_copy (l : Launch) (D : MD) (S : MS) (p0 : Int32) (p1 : Int32) {S' : MS} (hf : f_X7_copy S p0 p1 = some S') : m_Met l yX7_copy cX7_copy 4 (Option.none : Option Jvm.ClassFile.FieldType) r_X7_copy D [.ref D.1, .int p0, .int p1] S none S' := by
  refine m_metV (F := 1) (L := 24) (by decide) rfl (Nat.le_of_ble_eq_true rfl) (fun p e s m args below meth c Q B hret hM ls hl => ?_)
  have hx := B.1
  have hb := B.2.1
  have hown := B.2.2.2.1
  have hts := B.2.2.2.2
  have hl : lv_has ls 4 [(0, .ref D.1), (1, .int p0), (2, .int p1)] := hl
  generalize s.heap = H, ([] : List Loc) = locs at hM ⊢
  unfold f_X7_copy at hf
  refine lv_iconst (v := nI 0) hx hb dX7_copy_0 ic0 ?_
  refine lv_istore_n (lv' := [(3, .int (nI 0)), (0, .ref D.1), (1, .int p0), (2, .int p1)]) hx hb dX7_copy_1 rfl hl (by decide) rfl (fun ls hl => ?_)
  obtain ⟨y8, hxy8, hf⟩ := bnd_some hf
  have hy8 : (fun t : MS => ∀ (H : Heap) (locs : List Loc) (ls : Array Slot), m_I D s H locs t → lv_has ls 4 [(0, .ref D.1), (1, .int p0), (2, .int p1)] → W p l e r_X7_copy s m args below meth c H locs 0 0 Q (F0 m 39 ls [])) y8 := by
    obtain ⟨S9, rfl⟩ : ∃ z, z = y8 := ⟨_, rfl⟩
    intro H locs ls hM hl
    refine lv_iconst (v := nI 0) hx hb dX7_copy_39 ic0 ?_
    refine lv_istore_n (lv' := [(3, .int (nI 0)), (0, .ref D.1), (1, .int p0), (2, .int p1)]) hx hb dX7_copy_40 rfl hl (by decide) rfl (fun ls hl => ?_)
    obtain ⟨y17, hxy17, hf⟩ := bnd_some hf
    have hy17 : (fun t : MS => ∀ (H : Heap) (locs : List Loc) (ls : Array Slot), m_I D s H locs t → lv_has ls 4 [(0, .ref D.1), (1, .int p0), (2, .int p1)] → W p l e r_X7_copy s m args below meth c H locs 0 0 Q (F0 m 75 ls [])) y17 := by
      obtain ⟨S18, rfl⟩ : ∃ z, z = y17 := ⟨_, rfl⟩
      intro H locs ls hM hl
      refine lv_iconst (v := nI 0) hx hb dX7_copy_75 ic0 ?_
      refine lv_istore_n (lv' := [(3, .int (nI 0)), (0, .ref D.1), (1, .int p0), (2, .int p1)]) hx hb dX7_copy_76 rfl hl (by decide) rfl (fun ls hl => ?_)
      obtain ⟨y26, hxy26, hf⟩ := bnd_some hf
      have hy26 : (fun t : MS => ∀ (H : Heap) (locs : List Loc) (ls : Array Slot), m_I D s H locs t → lv_has ls 4 [(0, .ref D.1), (1, .int p0), (2, .int p1)] → W p l e r_X7_copy s m args below meth c H locs 0 0 Q (F0 m 114 ls [])) y26 := by
        obtain ⟨S27, rfl⟩ : ∃ z, z = y26 := ⟨_, rfl⟩
        intro H locs ls hM hl
        refine lv_iconst (v := nI 0) hx hb dX7_copy_114 ic0 ?_
        refine lv_istore_n (lv' := [(3, .int (nI 0)), (0, .ref D.1), (1, .int p0), (2, .int p1)]) hx hb dX7_copy_115 rfl hl (by decide) rfl (fun ls hl => ?_)
        obtain ⟨y35, hxy35, hf⟩ := bnd_some hf
        have hy35 : (fun t : MS => ∀ (H : Heap) (locs : List Loc) (ls : Array Slot), m_I D s H locs t → lv_has ls 4 [(0, .ref D.1), (1, .int p0), (2, .int p1)] → W p l e r_X7_copy s m args below meth c H locs 0 0 Q (F0 m 147 ls [])) y35 := by
          obtain ⟨S36, rfl⟩ : ∃ z, z = y35 := ⟨_, rfl⟩
          intro H locs ls hM hl
          refine lv_aload_n hx hb dX7_copy_147 rfl (lv_at hl 0 rfl) ?_
          refine mr_get B hM 20 (v := .ref (D.2.1 20)) rfl (by decide) q1666 dX7_copy_148 ?_
          refine lv_iconst (v := nI 1) hx hb dX7_copy_151 ic1 ?_
          refine lv_iload_n hx hb dX7_copy_152 rfl (lv_at hl 1 rfl) ?_
          refine lv_iload_n hx hb dX7_copy_153 rfl (lv_at hl 2 rfl) ?_
          obtain ⟨S37, hcS37, hf⟩ := bnd_some hf
          refine mr_callS (rest := []) B hM (c_X7_move l D S36 20 (by decide) rfl (nI 1) p0 p1 hcS37) (va_cwS 4 hts (lw_S q2250 q2251 q113 q2252) rfl rfl rfl hd_X7_move ⟨Nat.le_of_ble_eq_true rfl, Nat.le_of_ble_eq_true rfl⟩) rfl hl.1 rfl (Nat.le_of_ble_eq_true rfl) dX7_copy_154 ⟨Nat.zero_le _, Nat.zero_le _⟩ (fun H locs hM => ?_)
          refine lv_aload_n hx hb dX7_copy_157 rfl (lv_at hl 0 rfl) ?_
          refine mr_get B hM 21 (v := .ref (D.2.1 21)) rfl (by decide) q1667 dX7_copy_158 ?_
          refine lv_bipush (v := nI 40) hx hb dX7_copy_161 bp40 ?_
          refine lv_iload_n hx hb dX7_copy_163 rfl (lv_at hl 1 rfl) ?_
          refine lv_iload_n hx hb dX7_copy_164 rfl (lv_at hl 2 rfl) ?_
          obtain ⟨S38, hcS38, hf⟩ := bnd_some hf
          refine mr_callS (rest := []) B hM (c_X7_move l D S37 21 (by decide) rfl (nI 40) p0 p1 hcS38) (va_cwS 4 hts (lw_S q2250 q2251 q113 q2252) rfl rfl rfl hd_X7_move ⟨Nat.le_of_ble_eq_true rfl, Nat.le_of_ble_eq_true rfl⟩) rfl hl.1 rfl (Nat.le_of_ble_eq_true rfl) dX7_copy_165 ⟨Nat.zero_le _, Nat.zero_le _⟩ (fun H locs hM => ?_)
          refine lv_aload_n hx hb dX7_copy_168 rfl (lv_at hl 0 rfl) ?_
          refine mr_get B hM 22 (v := .ref (D.2.1 22)) rfl (by decide) q1668 dX7_copy_169 ?_
          refine lv_bipush (v := nI 40) hx hb dX7_copy_172 bp40 ?_
          refine lv_iload_n hx hb dX7_copy_174 rfl (lv_at hl 1 rfl) ?_
          refine lv_iload_n hx hb dX7_copy_175 rfl (lv_at hl 2 rfl) ?_
          obtain ⟨S39, hcS39, hf⟩ := bnd_some hf
          refine mr_callS (rest := []) B hM (c_X7_move l D S38 22 (by decide) rfl (nI 40) p0 p1 hcS39) (va_cwS 4 hts (lw_S q2250 q2251 q113 q2252) rfl rfl rfl hd_X7_move ⟨Nat.le_of_ble_eq_true rfl, Nat.le_of_ble_eq_true rfl⟩) rfl hl.1 rfl (Nat.le_of_ble_eq_true rfl) dX7_copy_176 ⟨Nat.zero_le _, Nat.zero_le _⟩ (fun H locs hM => ?_)
          refine lv_aload_n hx hb dX7_copy_179 rfl (lv_at hl 0 rfl) ?_
          refine mr_get B hM 23 (v := .ref (D.2.1 23)) rfl (by decide) q1669 dX7_copy_180 ?_
          refine lv_bipush (v := nI 40) hx hb dX7_copy_183 bp40 ?_
          refine lv_iload_n hx hb dX7_copy_185 rfl (lv_at hl 1 rfl) ?_
          refine lv_iload_n hx hb dX7_copy_186 rfl (lv_at hl 2 rfl) ?_
          obtain ⟨S40, hcS40, hf⟩ := bnd_some hf
          refine mr_callS (rest := []) B hM (c_X7_move l D S39 23 (by decide) rfl (nI 40) p0 p1 hcS40) (va_cwS 4 hts (lw_S q2250 q2251 q113 q2252) rfl rfl rfl hd_X7_move ⟨Nat.le_of_ble_eq_true rfl, Nat.le_of_ble_eq_true rfl⟩) rfl hl.1 rfl (Nat.le_of_ble_eq_true rfl) dX7_copy_187 ⟨Nat.zero_le _, Nat.zero_le _⟩ (fun H locs hM => ?_)
          refine lv_aload_n hx hb dX7_copy_190 rfl (lv_at hl 0 rfl) ?_
          refine mr_get B hM 2 (v := .ref (D.2.1 2)) rfl (by decide) q1648 dX7_copy_191 ?_
          refine lv_iconst (v := nI 1) hx hb dX7_copy_194 ic1 ?_
          refine lv_iload_n hx hb dX7_copy_195 rfl (lv_at hl 1 rfl) ?_
          refine lv_iload_n hx hb dX7_copy_196 rfl (lv_at hl 2 rfl) ?_
          obtain ⟨S41, hcS41, hf⟩ := bnd_some hf
          refine mr_callS (rest := []) B hM (c_X7_move l D S40 2 (by decide) rfl (nI 1) p0 p1 hcS41) (va_cwS 4 hts (lw_S q2250 q2251 q113 q2252) rfl rfl rfl hd_X7_move ⟨Nat.le_of_ble_eq_true rfl, Nat.le_of_ble_eq_true rfl⟩) rfl hl.1 rfl (Nat.le_of_ble_eq_true rfl) dX7_copy_197 ⟨Nat.zero_le _, Nat.zero_le _⟩ (fun H locs hM => ?_)
          refine lv_aload_n hx hb dX7_copy_200 rfl (lv_at hl 0 rfl) ?_
          refine mr_get B hM 3 (v := .ref (D.2.1 3)) rfl (by decide) q1649 dX7_copy_201 ?_
          refine lv_iconst (v := nI 1) hx hb dX7_copy_204 ic1 ?_
          refine lv_iload_n hx hb dX7_copy_205 rfl (lv_at hl 1 rfl) ?_
          refine lv_iload_n hx hb dX7_copy_206 rfl (lv_at hl 2 rfl) ?_
          obtain ⟨S42, hcS42, hf⟩ := bnd_some hf
          refine mr_callS (rest := []) B hM (c_X7_move l D S41 3 (by decide) rfl (nI 1) p0 p1 hcS42) (va_cwS 4 hts (lw_S q2250 q2251 q113 q2252) rfl rfl rfl hd_X7_move ⟨Nat.le_of_ble_eq_true rfl, Nat.le_of_ble_eq_true rfl⟩) rfl hl.1 rfl (Nat.le_of_ble_eq_true rfl) dX7_copy_207 ⟨Nat.zero_le _, Nat.zero_le _⟩ (fun H locs hM => ?_)
          refine lv_aload_n hx hb dX7_copy_210 rfl (lv_at hl 0 rfl) ?_
          refine mr_get B hM 4 (v := .ref (D.2.1 4)) rfl (by decide) q1650 dX7_copy_211 ?_
          refine lv_iconst (v := nI 1) hx hb dX7_copy_214 ic1 ?_
          refine lv_iload_n hx hb dX7_copy_215 rfl (lv_at hl 1 rfl) ?_
          refine lv_iload_n hx hb dX7_copy_216 rfl (lv_at hl 2 rfl) ?_
          obtain ⟨S43, hcS43, hf⟩ := bnd_some hf
          refine mr_callS (rest := []) B hM (c_X7_move l D S42 4 (by decide) rfl (nI 1) p0 p1 hcS43) (va_cwS 4 hts (lw_S q2250 q2251 q113 q2252) rfl rfl rfl hd_X7_move ⟨Nat.le_of_ble_eq_true rfl, Nat.le_of_ble_eq_true rfl⟩) rfl hl.1 rfl (Nat.le_of_ble_eq_true rfl) dX7_copy_217 ⟨Nat.zero_le _, Nat.zero_le _⟩ (fun H locs hM => ?_)
          refine lv_aload_n hx hb dX7_copy_220 rfl (lv_at hl 0 rfl) ?_
          refine mr_get B hM 5 (v := .ref (D.2.1 5)) rfl (by decide) q1651 dX7_copy_221 ?_
          refine lv_iconst (v := nI 1) hx hb dX7_copy_224 ic1 ?_
          refine lv_iload_n hx hb dX7_copy_225 rfl (lv_at hl 1 rfl) ?_
          refine lv_iload_n hx hb dX7_copy_226 rfl (lv_at hl 2 rfl) ?_
          obtain ⟨S44, hcS44, hf⟩ := bnd_some hf
          refine mr_callS (rest := []) B hM (c_X7_move l D S43 5 (by decide) rfl (nI 1) p0 p1 hcS44) (va_cwS 4 hts (lw_S q2250 q2251 q113 q2252) rfl rfl rfl hd_X7_move ⟨Nat.le_of_ble_eq_true rfl, Nat.le_of_ble_eq_true rfl⟩) rfl hl.1 rfl (Nat.le_of_ble_eq_true rfl) dX7_copy_227 ⟨Nat.zero_le _, Nat.zero_le _⟩ (fun H locs hM => ?_)
          refine lv_aload_n hx hb dX7_copy_230 rfl (lv_at hl 0 rfl) ?_
          refine mr_get B hM 6 (v := .ref (D.2.1 6)) rfl (by decide) q1652 dX7_copy_231 ?_
          refine lv_iconst (v := nI 1) hx hb dX7_copy_234 ic1 ?_
          refine lv_iload_n hx hb dX7_copy_235 rfl (lv_at hl 1 rfl) ?_
          refine lv_iload_n hx hb dX7_copy_236 rfl (lv_at hl 2 rfl) ?_
          obtain ⟨S45, hcS45, hf⟩ := bnd_some hf
          refine mr_callS (rest := []) B hM (c_X7_move l D S44 6 (by decide) rfl (nI 1) p0 p1 hcS45) (va_cwS 4 hts (lw_S q2250 q2251 q113 q2252) rfl rfl rfl hd_X7_move ⟨Nat.le_of_ble_eq_true rfl, Nat.le_of_ble_eq_true rfl⟩) rfl hl.1 rfl (Nat.le_of_ble_eq_true rfl) dX7_copy_237 ⟨Nat.zero_le _, Nat.zero_le _⟩ (fun H locs hM => ?_)
          refine lv_aload_n hx hb dX7_copy_240 rfl (lv_at hl 0 rfl) ?_
          refine mr_get B hM 7 (v := .ref (D.2.1 7)) rfl (by decide) q1653 dX7_copy_241 ?_
          refine lv_iconst (v := nI 3) hx hb dX7_copy_244 ic3 ?_
          refine lv_iload_n hx hb dX7_copy_245 rfl (lv_at hl 1 rfl) ?_
          refine lv_iload_n hx hb dX7_copy_246 rfl (lv_at hl 2 rfl) ?_
          obtain ⟨S46, hcS46, hf⟩ := bnd_some hf
          refine mr_callS (rest := []) B hM (c_X7_move l D S45 7 (by decide) rfl (nI 3) p0 p1 hcS46) (va_cwS 4 hts (lw_S q2250 q2251 q113 q2252) rfl rfl rfl hd_X7_move ⟨Nat.le_of_ble_eq_true rfl, Nat.le_of_ble_eq_true rfl⟩) rfl hl.1 rfl (Nat.le_of_ble_eq_true rfl) dX7_copy_247 ⟨Nat.zero_le _, Nat.zero_le _⟩ (fun H locs hM => ?_)
          refine lv_aload_n hx hb dX7_copy_250 rfl (lv_at hl 0 rfl) ?_
          refine mr_get B hM 8 (v := .ref (D.2.1 8)) rfl (by decide) q1654 dX7_copy_251 ?_
          refine lv_iconst (v := nI 1) hx hb dX7_copy_254 ic1 ?_
          refine lv_iload_n hx hb dX7_copy_255 rfl (lv_at hl 1 rfl) ?_
          refine lv_iload_n hx hb dX7_copy_256 rfl (lv_at hl 2 rfl) ?_
          obtain ⟨S47, hcS47, hf⟩ := bnd_some hf
          refine mr_callS (rest := []) B hM (c_X7_move l D S46 8 (by decide) rfl (nI 1) p0 p1 hcS47) (va_cwS 4 hts (lw_S q2250 q2251 q113 q2252) rfl rfl rfl hd_X7_move ⟨Nat.le_of_ble_eq_true rfl, Nat.le_of_ble_eq_true rfl⟩) rfl hl.1 rfl (Nat.le_of_ble_eq_true rfl) dX7_copy_257 ⟨Nat.zero_le _, Nat.zero_le _⟩ (fun H locs hM => ?_)
          refine lv_aload_n hx hb dX7_copy_260 rfl (lv_at hl 0 rfl) ?_
          refine mr_get B hM 9 (v := .ref (D.2.1 9)) rfl (by decide) q1655 dX7_copy_261 ?_
          refine lv_iconst (v := nI 4) hx hb dX7_copy_264 ic4 ?_
          refine lv_iload_n hx hb dX7_copy_265 rfl (lv_at hl 1 rfl) ?_
          refine lv_iload_n hx hb dX7_copy_266 rfl (lv_at hl 2 rfl) ?_
          obtain ⟨S48, hcS48, hf⟩ := bnd_some hf
          refine mr_callS (rest := []) B hM (c_X7_move l D S47 9 (by decide) rfl (nI 4) p0 p1 hcS48) (va_cwS 4 hts (lw_S q2250 q2251 q113 q2252) rfl rfl rfl hd_X7_move ⟨Nat.le_of_ble_eq_true rfl, Nat.le_of_ble_eq_true rfl⟩) rfl hl.1 rfl (Nat.le_of_ble_eq_true rfl) dX7_copy_267 ⟨Nat.zero_le _, Nat.zero_le _⟩ (fun H locs hM => ?_)
          refine lv_aload_n hx hb dX7_copy_270 rfl (lv_at hl 0 rfl) ?_
          refine mr_get B hM 10 (v := .ref (D.2.1 10)) rfl (by decide) q1656 dX7_copy_271 ?_
          refine lv_iconst (v := nI 4) hx hb dX7_copy_274 ic4 ?_
          refine lv_iload_n hx hb dX7_copy_275 rfl (lv_at hl 1 rfl) ?_
          refine lv_iload_n hx hb dX7_copy_276 rfl (lv_at hl 2 rfl) ?_
          obtain ⟨S49, hcS49, hf⟩ := bnd_some hf
          refine mr_callS (rest := []) B hM (c_X7_move l D S48 10 (by decide) rfl (nI 4) p0 p1 hcS49) (va_cwS 4 hts (lw_S q2250 q2251 q113 q2252) rfl rfl rfl hd_X7_move ⟨Nat.le_of_ble_eq_true rfl, Nat.le_of_ble_eq_true rfl⟩) rfl hl.1 rfl (Nat.le_of_ble_eq_true rfl) dX7_copy_277 ⟨Nat.zero_le _, Nat.zero_le _⟩ (fun H locs hM => ?_)
          refine lv_aload_n hx hb dX7_copy_280 rfl (lv_at hl 0 rfl) ?_
          refine mr_get B hM 12 (v := .ref (D.2.1 12)) rfl (by decide) q1658 dX7_copy_281 ?_
          refine lv_iconst (v := nI 1) hx hb dX7_copy_284 ic1 ?_
          refine lv_iload_n hx hb dX7_copy_285 rfl (lv_at hl 1 rfl) ?_
          refine lv_iload_n hx hb dX7_copy_286 rfl (lv_at hl 2 rfl) ?_
          obtain ⟨S50, hcS50, hf⟩ := bnd_some hf
          refine mr_callS (rest := []) B hM (c_X7_move l D S49 12 (by decide) rfl (nI 1) p0 p1 hcS50) (va_cwS 4 hts (lw_S q2250 q2251 q113 q2252) rfl rfl rfl hd_X7_move ⟨Nat.le_of_ble_eq_true rfl, Nat.le_of_ble_eq_true rfl⟩) rfl hl.1 rfl (Nat.le_of_ble_eq_true rfl) dX7_copy_287 ⟨Nat.zero_le _, Nat.zero_le _⟩ (fun H locs hM => ?_)
          refine lv_aload_n hx hb dX7_copy_290 rfl (lv_at hl 0 rfl) ?_
          refine mr_get B hM 13 (v := .ref (D.2.1 13)) rfl (by decide) q1659 dX7_copy_291 ?_
          refine lv_bipush (v := nI 8) hx hb dX7_copy_294 bp8 ?_
          refine lv_iload_n hx hb dX7_copy_296 rfl (lv_at hl 1 rfl) ?_
          refine lv_iload_n hx hb dX7_copy_297 rfl (lv_at hl 2 rfl) ?_
          obtain ⟨S51, hcS51, hf⟩ := bnd_some hf
          refine mr_callS (rest := []) B hM (c_X7_move l D S50 13 (by decide) rfl (nI 8) p0 p1 hcS51) (va_cwS 4 hts (lw_S q2250 q2251 q113 q2252) rfl rfl rfl hd_X7_move ⟨Nat.le_of_ble_eq_true rfl, Nat.le_of_ble_eq_true rfl⟩) rfl hl.1 rfl (Nat.le_of_ble_eq_true rfl) dX7_copy_298 ⟨Nat.zero_le _, Nat.zero_le _⟩ (fun H locs hM => ?_)
          refine lv_aload_n hx hb dX7_copy_301 rfl (lv_at hl 0 rfl) ?_
          refine mr_get B hM 14 (v := .ref (D.2.1 14)) rfl (by decide) q1660 dX7_copy_302 ?_
          refine lv_bipush (v := nI 8) hx hb dX7_copy_305 bp8 ?_
          refine lv_iload_n hx hb dX7_copy_307 rfl (lv_at hl 1 rfl) ?_
          refine lv_iload_n hx hb dX7_copy_308 rfl (lv_at hl 2 rfl) ?_
          obtain ⟨S52, hcS52, hf⟩ := bnd_some hf
          refine mr_callS (rest := []) B hM (c_X7_move l D S51 14 (by decide) rfl (nI 8) p0 p1 hcS52) (va_cwS 4 hts (lw_S q2250 q2251 q113 q2252) rfl rfl rfl hd_X7_move ⟨Nat.le_of_ble_eq_true rfl, Nat.le_of_ble_eq_true rfl⟩) rfl hl.1 rfl (Nat.le_of_ble_eq_true rfl) dX7_copy_309 ⟨Nat.zero_le _, Nat.zero_le _⟩ (fun H locs hM => ?_)
          refine lv_aload_n hx hb dX7_copy_312 rfl (lv_at hl 0 rfl) ?_
          refine mr_get B hM 15 (v := .ref (D.2.1 15)) rfl (by decide) q1661 dX7_copy_313 ?_
          refine lv_bipush (v := nI 9) hx hb dX7_copy_316 bp9 ?_
          refine lv_iload_n hx hb dX7_copy_318 rfl (lv_at hl 1 rfl) ?_
          refine lv_iload_n hx hb dX7_copy_319 rfl (lv_at hl 2 rfl) ?_
          obtain ⟨S53, hcS53, hf⟩ := bnd_some hf
          refine mr_callS (rest := []) B hM (c_X7_move l D S52 15 (by decide) rfl (nI 9) p0 p1 hcS53) (va_cwS 4 hts (lw_S q2250 q2251 q113 q2252) rfl rfl rfl hd_X7_move ⟨Nat.le_of_ble_eq_true rfl, Nat.le_of_ble_eq_true rfl⟩) rfl hl.1 rfl (Nat.le_of_ble_eq_true rfl) dX7_copy_320 ⟨Nat.zero_le _, Nat.zero_le _⟩ (fun H locs hM => ?_)
          refine lv_aload_n hx hb dX7_copy_323 rfl (lv_at hl 0 rfl) ?_
          refine mr_get B hM 16 (v := .ref (D.2.1 16)) rfl (by decide) q1662 dX7_copy_324 ?_
          refine lv_sipush (v := nI 360) hx hb dX7_copy_327 sp360 ?_
          refine lv_iload_n hx hb dX7_copy_330 rfl (lv_at hl 1 rfl) ?_
          refine lv_iload_n hx hb dX7_copy_331 rfl (lv_at hl 2 rfl) ?_
          obtain ⟨S54, hcS54, hf⟩ := bnd_some hf
          refine mr_callS (rest := []) B hM (c_X7_move l D S53 16 (by decide) rfl (nI 360) p0 p1 hcS54) (va_cwS 4 hts (lw_S q2250 q2251 q113 q2252) rfl rfl rfl hd_X7_move ⟨Nat.le_of_ble_eq_true rfl, Nat.le_of_ble_eq_true rfl⟩) rfl hl.1 rfl (Nat.le_of_ble_eq_true rfl) dX7_copy_332 ⟨Nat.zero_le _, Nat.zero_le _⟩ (fun H locs hM => ?_)
          refine lv_aload_n hx hb dX7_copy_335 rfl (lv_at hl 0 rfl) ?_
          refine mr_get B hM 17 (v := .ref (D.2.1 17)) rfl (by decide) q1663 dX7_copy_336 ?_
          refine lv_sipush (v := nI 360) hx hb dX7_copy_339 sp360 ?_
          refine lv_iload_n hx hb dX7_copy_342 rfl (lv_at hl 1 rfl) ?_
          refine lv_iload_n hx hb dX7_copy_343 rfl (lv_at hl 2 rfl) ?_
          obtain ⟨S55, hcS55, hf⟩ := bnd_some hf
          refine mr_callS (rest := []) B hM (c_X7_move l D S54 17 (by decide) rfl (nI 360) p0 p1 hcS55) (va_cwS 4 hts (lw_S q2250 q2251 q113 q2252) rfl rfl rfl hd_X7_move ⟨Nat.le_of_ble_eq_true rfl, Nat.le_of_ble_eq_true rfl⟩) rfl hl.1 rfl (Nat.le_of_ble_eq_true rfl) dX7_copy_344 ⟨Nat.zero_le _, Nat.zero_le _⟩ (fun H locs hM => ?_)
          refine lv_aload_n hx hb dX7_copy_347 rfl (lv_at hl 0 rfl) ?_
          refine mr_get B hM 18 (v := .ref (D.2.1 18)) rfl (by decide) q1664 dX7_copy_348 ?_
          refine lv_sipush (v := nI 360) hx hb dX7_copy_351 sp360 ?_
          refine lv_iload_n hx hb dX7_copy_354 rfl (lv_at hl 1 rfl) ?_
          refine lv_iload_n hx hb dX7_copy_355 rfl (lv_at hl 2 rfl) ?_
          obtain ⟨S56, hcS56, hf⟩ := bnd_some hf
          refine mr_callS (rest := []) B hM (c_X7_move l D S55 18 (by decide) rfl (nI 360) p0 p1 hcS56) (va_cwS 4 hts (lw_S q2250 q2251 q113 q2252) rfl rfl rfl hd_X7_move ⟨Nat.le_of_ble_eq_true rfl, Nat.le_of_ble_eq_true rfl⟩) rfl hl.1 rfl (Nat.le_of_ble_eq_true rfl) dX7_copy_356 ⟨Nat.zero_le _, Nat.zero_le _⟩ (fun H locs hM => ?_)
          refine lv_aload_n hx hb dX7_copy_359 rfl (lv_at hl 0 rfl) ?_
          refine mr_get B hM 19 (v := .ref (D.2.1 19)) rfl (by decide) q1665 dX7_copy_360 ?_
          refine lv_sipush (v := nI 360) hx hb dX7_copy_363 sp360 ?_
          refine lv_iload_n hx hb dX7_copy_366 rfl (lv_at hl 1 rfl) ?_
          refine lv_iload_n hx hb dX7_copy_367 rfl (lv_at hl 2 rfl) ?_
          obtain ⟨S57, hcS57, hf⟩ := bnd_some hf
          refine mr_callS (rest := []) B hM (c_X7_move l D S56 19 (by decide) rfl (nI 360) p0 p1 hcS57) (va_cwS 4 hts (lw_S q2250 q2251 q113 q2252) rfl rfl rfl hd_X7_move ⟨Nat.le_of_ble_eq_true rfl, Nat.le_of_ble_eq_true rfl⟩) rfl hl.1 rfl (Nat.le_of_ble_eq_true rfl) dX7_copy_368 ⟨Nat.zero_le _, Nat.zero_le _⟩ (fun H locs hM => ?_)
          cases hf
          exact hret _ _ _ _ hM dX7_copy_371
        refine lp_W (step := (fun t : Int32 × MS => f_X7_copy_L116 p0 p1 t.1 t.2)) (fun t : Int32 × MS => ∀ (H : Heap) (locs : List Loc) (ls : Array Slot), m_I D s H locs t.2 → lv_has ls 4 [(0, .ref D.1), (1, .int p0), (2, .int p1), (3, .int t.1)] → W p l e r_X7_copy s m args below meth c H locs 0 0 Q (F0 m 116 ls [])) (fun t : MS => ∀ (H : Heap) (locs : List Loc) (ls : Array Slot), m_I D s H locs t → lv_has ls 4 [(0, .ref D.1), (1, .int p0), (2, .int p1)] → W p l e r_X7_copy s m args below meth c H locs 0 0 Q (F0 m 147 ls [])) ?_ fu (nI 0, S27) y35 hxy35 hy35 _ _ _ hM (lv_sub hl [1, 2, 3, 0] rfl)
        clear hf hxy35 hy35
        rintro ⟨x28, S29⟩ o (hf : f_X7_copy_L116 p0 p1 x28 S29 = some o) hk
        intro H locs ls hM hl
        unfold f_X7_copy_L116 at hf
        refine lv_iload_n hx hb dX7_copy_116 rfl (lv_at hl 3 rfl) ?_
        refine lv_iconst (v := nI 4) hx hb dX7_copy_117 ic4 ?_
        refine lv_icmp_ge (tgt := 147) hx hb dX7_copy_118 (by decide) (fun c30 => ?_) (fun c30 => ?_)
        · have hf := it_pos c30 hf
          cases hf
          exact hk _ _ _ hM (lv_sub hl [0, 1, 2] rfl)
        · have hf := it_neg c30 hf
          refine lv_aload_n hx hb dX7_copy_121 rfl (lv_at hl 0 rfl) ?_
          refine mr_get B hM 25 (v := .ref (D.2.1 25)) rfl (by decide) q1671 dX7_copy_122 ?_
          refine lv_iconst (v := nI 4) hx hb dX7_copy_125 ic4 ?_
          refine lv_iload_n hx hb dX7_copy_126 rfl (lv_at hl 2 rfl) ?_
          refine lv_imul hx hb dX7_copy_127 ?_
          refine lv_iload_n hx hb dX7_copy_128 rfl (lv_at hl 3 rfl) ?_
          refine lv_iadd hx hb dX7_copy_129 ?_
          refine lv_aload_n hx hb dX7_copy_130 rfl (lv_at hl 0 rfl) ?_
          refine mr_get B hM 25 (v := .ref (D.2.1 25)) rfl (by decide) q1671 dX7_copy_131 ?_
          refine lv_iconst (v := nI 4) hx hb dX7_copy_134 ic4 ?_
          refine lv_iload_n hx hb dX7_copy_135 rfl (lv_at hl 1 rfl) ?_
          refine lv_imul hx hb dX7_copy_136 ?_
          refine lv_iload_n hx hb dX7_copy_137 rfl (lv_at hl 3 rfl) ?_
          refine lv_iadd hx hb dX7_copy_138 ?_
          obtain ⟨v31, ev31, hiv31, hf⟩ := ald_some hf
          refine mr_zald B hM 25 (by decide) rfl hiv31 ev31 dX7_copy_139 ?_
          obtain ⟨S32, eS32, hiS32, hf⟩ := ast_some hf
          refine mr_zast B hM 25 (by decide) rfl hiS32 eS32 dX7_copy_140 (fun H locs hM => ?_)
          obtain ⟨x33, ex33, hf⟩ := bd_some hf
          refine lv_iinc (v := x33) (lv' := [(3, .int x33), (0, .ref D.1), (1, .int p0), (2, .int p1)]) hx hb dX7_copy_141 hl (k := 3) rfl (by rw [ex33]; first | done | rfl) (by decide) rfl (fun ls hl => ?_)
          refine lv_goto (tgt := 116) hx hb dX7_copy_144 (by decide) ?_
          cases hf
          exact hk _ _ _ hM (lv_sub hl [1, 2, 3, 0] rfl)
      refine lp_W (step := (fun t : Int32 × MS => f_X7_copy_L77 p0 p1 t.1 t.2)) (fun t : Int32 × MS => ∀ (H : Heap) (locs : List Loc) (ls : Array Slot), m_I D s H locs t.2 → lv_has ls 4 [(0, .ref D.1), (1, .int p0), (2, .int p1), (3, .int t.1)] → W p l e r_X7_copy s m args below meth c H locs 0 0 Q (F0 m 77 ls [])) (fun t : MS => ∀ (H : Heap) (locs : List Loc) (ls : Array Slot), m_I D s H locs t → lv_has ls 4 [(0, .ref D.1), (1, .int p0), (2, .int p1)] → W p l e r_X7_copy s m args below meth c H locs 0 0 Q (F0 m 114 ls [])) ?_ fu (nI 0, S18) y26 hxy26 hy26 _ _ _ hM (lv_sub hl [1, 2, 3, 0] rfl)
      clear hf hxy26 hy26
      rintro ⟨x19, S20⟩ o (hf : f_X7_copy_L77 p0 p1 x19 S20 = some o) hk
      intro H locs ls hM hl
      unfold f_X7_copy_L77 at hf
      refine lv_iload_n hx hb dX7_copy_77 rfl (lv_at hl 3 rfl) ?_
      refine lv_sipush (v := nI 144) hx hb dX7_copy_78 sp144 ?_
      refine lv_icmp_ge (tgt := 114) hx hb dX7_copy_81 (by decide) (fun c21 => ?_) (fun c21 => ?_)
      · have hf := it_pos c21 hf
        cases hf
        exact hk _ _ _ hM (lv_sub hl [0, 1, 2] rfl)
      · have hf := it_neg c21 hf
        refine lv_aload_n hx hb dX7_copy_84 rfl (lv_at hl 0 rfl) ?_
        refine mr_get B hM 24 (v := .ref (D.2.1 24)) rfl (by decide) q1670 dX7_copy_85 ?_
        refine lv_sipush (v := nI 144) hx hb dX7_copy_88 sp144 ?_
        refine lv_iload_n hx hb dX7_copy_91 rfl (lv_at hl 2 rfl) ?_
        refine lv_imul hx hb dX7_copy_92 ?_
        refine lv_iload_n hx hb dX7_copy_93 rfl (lv_at hl 3 rfl) ?_
        refine lv_iadd hx hb dX7_copy_94 ?_
        refine lv_aload_n hx hb dX7_copy_95 rfl (lv_at hl 0 rfl) ?_
        refine mr_get B hM 24 (v := .ref (D.2.1 24)) rfl (by decide) q1670 dX7_copy_96 ?_
        refine lv_sipush (v := nI 144) hx hb dX7_copy_99 sp144 ?_
        refine lv_iload_n hx hb dX7_copy_102 rfl (lv_at hl 1 rfl) ?_
        refine lv_imul hx hb dX7_copy_103 ?_
        refine lv_iload_n hx hb dX7_copy_104 rfl (lv_at hl 3 rfl) ?_
        refine lv_iadd hx hb dX7_copy_105 ?_
        obtain ⟨v22, ev22, hiv22, hf⟩ := ald_some hf
        refine mr_zald B hM 24 (by decide) rfl hiv22 ev22 dX7_copy_106 ?_
        obtain ⟨S23, eS23, hiS23, hf⟩ := ast_some hf
        refine mr_zast B hM 24 (by decide) rfl hiS23 eS23 dX7_copy_107 (fun H locs hM => ?_)
        obtain ⟨x24, ex24, hf⟩ := bd_some hf
        refine lv_iinc (v := x24) (lv' := [(3, .int x24), (0, .ref D.1), (1, .int p0), (2, .int p1)]) hx hb dX7_copy_108 hl (k := 3) rfl (by rw [ex24]; first | done | rfl) (by decide) rfl (fun ls hl => ?_)
        refine lv_goto (tgt := 77) hx hb dX7_copy_111 (by decide) ?_
        cases hf
        exact hk _ _ _ hM (lv_sub hl [1, 2, 3, 0] rfl)
    refine lp_W (step := (fun t : Int32 × MS => f_X7_copy_L41 p0 p1 t.1 t.2)) (fun t : Int32 × MS => ∀ (H : Heap) (locs : List Loc) (ls : Array Slot), m_I D s H locs t.2 → lv_has ls 4 [(0, .ref D.1), (1, .int p0), (2, .int p1), (3, .int t.1)] → W p l e r_X7_copy s m args below meth c H locs 0 0 Q (F0 m 41 ls [])) (fun t : MS => ∀ (H : Heap) (locs : List Loc) (ls : Array Slot), m_I D s H locs t → lv_has ls 4 [(0, .ref D.1), (1, .int p0), (2, .int p1)] → W p l e r_X7_copy s m args below meth c H locs 0 0 Q (F0 m 75 ls [])) ?_ fu (nI 0, S9) y17 hxy17 hy17 _ _ _ hM (lv_sub hl [1, 2, 3, 0] rfl)
    clear hf hxy17 hy17
    rintro ⟨x10, S11⟩ o (hf : f_X7_copy_L41 p0 p1 x10 S11 = some o) hk
    intro H locs ls hM hl
    unfold f_X7_copy_L41 at hf
    refine lv_iload_n hx hb dX7_copy_41 rfl (lv_at hl 3 rfl) ?_
    refine lv_bipush (v := nI 36) hx hb dX7_copy_42 bp36 ?_
    refine lv_icmp_ge (tgt := 75) hx hb dX7_copy_44 (by decide) (fun c12 => ?_) (fun c12 => ?_)
    · have hf := it_pos c12 hf
      cases hf
      exact hk _ _ _ hM (lv_sub hl [0, 1, 2] rfl)
    · have hf := it_neg c12 hf
      refine lv_aload_n hx hb dX7_copy_47 rfl (lv_at hl 0 rfl) ?_
      refine mr_get B hM 11 (v := .ref (D.2.1 11)) rfl (by decide) q1657 dX7_copy_48 ?_
      refine lv_bipush (v := nI 36) hx hb dX7_copy_51 bp36 ?_
      refine lv_iload_n hx hb dX7_copy_53 rfl (lv_at hl 2 rfl) ?_
      refine lv_imul hx hb dX7_copy_54 ?_
      refine lv_iload_n hx hb dX7_copy_55 rfl (lv_at hl 3 rfl) ?_
      refine lv_iadd hx hb dX7_copy_56 ?_
      refine lv_aload_n hx hb dX7_copy_57 rfl (lv_at hl 0 rfl) ?_
      refine mr_get B hM 11 (v := .ref (D.2.1 11)) rfl (by decide) q1657 dX7_copy_58 ?_
      refine lv_bipush (v := nI 36) hx hb dX7_copy_61 bp36 ?_
      refine lv_iload_n hx hb dX7_copy_63 rfl (lv_at hl 1 rfl) ?_
      refine lv_imul hx hb dX7_copy_64 ?_
      refine lv_iload_n hx hb dX7_copy_65 rfl (lv_at hl 3 rfl) ?_
      refine lv_iadd hx hb dX7_copy_66 ?_
      obtain ⟨v13, ev13, hiv13, hf⟩ := ald_some hf
      refine mr_zald B hM 11 (by decide) rfl hiv13 ev13 dX7_copy_67 ?_
      obtain ⟨S14, eS14, hiS14, hf⟩ := ast_some hf
      refine mr_zast B hM 11 (by decide) rfl hiS14 eS14 dX7_copy_68 (fun H locs hM => ?_)
      obtain ⟨x15, ex15, hf⟩ := bd_some hf
      refine lv_iinc (v := x15) (lv' := [(3, .int x15), (0, .ref D.1), (1, .int p0), (2, .int p1)]) hx hb dX7_copy_69 hl (k := 3) rfl (by rw [ex15]; first | done | rfl) (by decide) rfl (fun ls hl => ?_)
      refine lv_goto (tgt := 41) hx hb dX7_copy_72 (by decide) ?_
      cases hf
      exact hk _ _ _ hM (lv_sub hl [1, 2, 3, 0] rfl)
  refine lp_W (step := (fun t : Int32 × MS => f_X7_copy_L2 p0 p1 t.1 t.2)) (fun t : Int32 × MS => ∀ (H : Heap) (locs : List Loc) (ls : Array Slot), m_I D s H locs t.2 → lv_has ls 4 [(0, .ref D.1), (1, .int p0), (2, .int p1), (3, .int t.1)] → W p l e r_X7_copy s m args below meth c H locs 0 0 Q (F0 m 2 ls [])) (fun t : MS => ∀ (H : Heap) (locs : List Loc) (ls : Array Slot), m_I D s H locs t → lv_has ls 4 [(0, .ref D.1), (1, .int p0), (2, .int p1)] → W p l e r_X7_copy s m args below meth c H locs 0 0 Q (F0 m 39 ls [])) ?_ fu (nI 0, S) y8 hxy8 hy8 _ _ _ hM (lv_sub hl [1, 2, 3, 0] rfl)
  clear hf hxy8 hy8
  rintro ⟨x1, S2⟩ o (hf : f_X7_copy_L2 p0 p1 x1 S2 = some o) hk
  intro H locs ls hM hl
  unfold f_X7_copy_L2 at hf
  refine lv_iload_n hx hb dX7_copy_2 rfl (lv_at hl 3 rfl) ?_
  refine lv_sipush (v := nI 400) hx hb dX7_copy_3 sp400 ?_
  refine lv_icmp_ge (tgt := 39) hx hb dX7_copy_6 (by decide) (fun c3 => ?_) (fun c3 => ?_)
  · have hf := it_pos c3 hf
    cases hf
    exact hk _ _ _ hM (lv_sub hl [0, 1, 2] rfl)
  · have hf := it_neg c3 hf
    refine lv_aload_n hx hb dX7_copy_9 rfl (lv_at hl 0 rfl) ?_
    refine mr_get B hM 1 (v := .ref (D.2.1 1)) rfl (by decide) q1647 dX7_copy_10 ?_
    refine lv_sipush (v := nI 400) hx hb dX7_copy_13 sp400 ?_
    refine lv_iload_n hx hb dX7_copy_16 rfl (lv_at hl 2 rfl) ?_
    refine lv_imul hx hb dX7_copy_17 ?_
    refine lv_iload_n hx hb dX7_copy_18 rfl (lv_at hl 3 rfl) ?_
    refine lv_iadd hx hb dX7_copy_19 ?_
    refine lv_aload_n hx hb dX7_copy_20 rfl (lv_at hl 0 rfl) ?_
    refine mr_get B hM 1 (v := .ref (D.2.1 1)) rfl (by decide) q1647 dX7_copy_21 ?_
    refine lv_sipush (v := nI 400) hx hb dX7_copy_24 sp400 ?_
    refine lv_iload_n hx hb dX7_copy_27 rfl (lv_at hl 1 rfl) ?_
    refine lv_imul hx hb dX7_copy_28 ?_
    refine lv_iload_n hx hb dX7_copy_29 rfl (lv_at hl 3 rfl) ?_
    refine lv_iadd hx hb dX7_copy_30 ?_
    obtain ⟨v4, ev4, hiv4, hf⟩ := ald_some hf
    refine mr_bald B hM 1 (by decide) rfl hiv4 ev4 dX7_copy_31 ?_
    obtain ⟨S5, eS5, hiS5, hf⟩ := ast_some hf
    refine mr_bast B hM 1 (by decide) rfl hiS5 eS5 dX7_copy_32 (fun H locs hM => ?_)
    obtain ⟨x6, ex6, hf⟩ := bd_some hf
    refine lv_iinc (v := x6) (lv' := [(3, .int x6), (0, .ref D.1), (1, .int p0), (2, .int p1)]) hx hb dX7_copy_33 hl (k := 3) rfl (by rw [ex6]; first | done | rfl) (by decide) rfl (fun ls hl => ?_)
    refine lv_goto (tgt := 2) hx hb dX7_copy_36 (by decide) ?_
    cases hf
    exact hk _ _ _ hM (lv_sub hl [1, 2, 3, 0] rfl)
def f_X7_image (S : MS) (p0 : Int32) : Option (Int32 × MS) :=
  bd (m_up S 0 0 (nI 0)) fun S1 => bnd (f_X7_in p0 (nI 0) (nI 2)) fun r2 => (if r2 = 0 then some (nI 0, S1) else bnd (f_X7_copy S1 (nI 0) (p0 + nI 1)) fun S4 => ast 3 p0 (m_up S4 62 p0.toNatClampNeg (vp_nar .boolean (nI 1))) fun S5 => some (nI 1, S5))
abbrev r_X7_image : Room := { frames := 2, cells := 0, slots := 0, locals := 47 }
set_option maxHeartbeats 4000000 in
set_option maxRecDepth 100000 in
theorem c_X7_image (l : Launch) (D : MD) (S : MS) (p0 : Int32) {r : Int32} {S' : MS} (hf : f_X7_image S p0 = some (r, S')) : m_Met l yX7_image cX7_image 2 (Option.some Jvm.ClassFile.FieldType.boolean) r_X7_image D [.ref D.1, .int p0] S (some (.int r)) S' := by
  refine m_metI (F := 2) (L := 47) (by decide) rfl (Nat.le_of_ble_eq_true rfl) (fun p e s m args below meth c Q B hret hM ls hl => ?_)
  have hx := B.1
  have hb := B.2.1
  have hown := B.2.2.2.1
  have hts := B.2.2.2.2
  have hl : lv_has ls 2 [(0, .ref D.1), (1, .int p0)] := hl
  generalize s.heap = H, ([] : List Loc) = locs at hM ⊢
  unfold f_X7_image at hf
  refine lv_aload_n hx hb dX7_image_0 rfl (lv_at hl 0 rfl) ?_
  refine lv_iconst (v := nI 0) hx hb dX7_image_1 ic0 ?_
  obtain ⟨S1, eS1, hf⟩ := bd_some hf
  refine mr_puti B hM 0 (by decide) eS1 rfl (tyX7_ok 0 (by decide)) q1646 dX7_image_2 (fun H locs hM => ?_)
  refine lv_iload_n hx hb dX7_image_5 rfl (lv_at hl 1 rfl) ?_
  refine lv_iconst (v := nI 0) hx hb dX7_image_6 ic0 ?_
  refine lv_iconst (v := nI 2) hx hb dX7_image_7 ic2 ?_
  obtain ⟨r2, hcr2, hf⟩ := bnd_some hf
  refine pr_callS (rest := []) B (c_X7_in l p0 (nI 0) (nI 2) hcr2) (va_cwS 3 hts (lw_S q1841 q1842 q113 q1843) rfl rfl rfl hd_X7_in ⟨Nat.le_of_ble_eq_true rfl, Nat.le_of_ble_eq_true rfl⟩) rfl hl.1 rfl (Nat.le_of_ble_eq_true rfl) dX7_image_8 ⟨Nat.zero_le _, Nat.zero_le _⟩ ?_
  refine lv_if_ne (tgt := 16) hx hb dX7_image_11 (by decide) (fun c3 => ?_) (fun c3 => ?_)
  · have hf := it_neg c3 hf
    refine lv_aload_n hx hb dX7_image_16 rfl (lv_at hl 0 rfl) ?_
    refine lv_iconst (v := nI 0) hx hb dX7_image_17 ic0 ?_
    refine lv_iload_n hx hb dX7_image_18 rfl (lv_at hl 1 rfl) ?_
    refine lv_iconst (v := nI 1) hx hb dX7_image_19 ic1 ?_
    refine lv_iadd hx hb dX7_image_20 ?_
    obtain ⟨S4, hcS4, hf⟩ := bnd_some hf
    refine mr_callV (rest := []) B hM (c_X7_copy l D S1 (nI 0) (p0 + nI 1) hcS4) (cwV 2 hts (lw_V q2246 q2248 qs101 q113 q2249) rfl rfl rfl hd_X7_copy ⟨Nat.le_of_ble_eq_true rfl, Nat.le_of_ble_eq_true rfl⟩) rfl hl.1 rfl (Nat.le_of_ble_eq_true rfl) dX7_image_21 ⟨Nat.zero_le _, Nat.zero_le _⟩ (fun H locs hM => ?_)
    refine lv_aload_n hx hb dX7_image_24 rfl (lv_at hl 0 rfl) ?_
    refine mr_get B hM 62 (v := .ref (D.2.1 62)) rfl (by decide) q1708 dX7_image_25 ?_
    refine lv_iload_n hx hb dX7_image_28 rfl (lv_at hl 1 rfl) ?_
    refine lv_iconst (v := nI 1) hx hb dX7_image_29 ic1 ?_
    obtain ⟨S5, eS5, hiS5, hf⟩ := ast_some hf
    refine mr_zast B hM 62 (by decide) rfl hiS5 eS5 dX7_image_30 (fun H locs hM => ?_)
    refine lv_iconst (v := nI 1) hx hb dX7_image_31 ic1 ?_
    cases hf
    exact hret _ _ _ _ rfl hM dX7_image_32
  · have hf := it_pos c3 hf
    refine lv_iconst (v := nI 0) hx hb dX7_image_14 ic0 ?_
    cases hf
    exact hret _ _ _ _ rfl hM dX7_image_15
def f_X7_again (S : MS) (p0 : Int32) : Option (Int32 × MS) :=
  bd (m_up S 0 0 (nI 0)) fun S1 => bnd (f_X7_in p0 (nI 0) (nI 2)) fun r2 => (if r2 = 0 then some (nI 0, S1) else ald 3 (S1.1 62) p0 fun v4 => (if v4 = 0 then some (nI 0, S1) else bnd (f_X7_copy S1 (p0 + nI 1) (nI 0)) fun S6 => some (nI 1, S6)))
abbrev r_X7_again : Room := { frames := 2, cells := 0, slots := 0, locals := 47 }
set_option maxHeartbeats 4000000 in
set_option maxRecDepth 100000 in
theorem c_X7_again (l : Launch) (D : MD) (S : MS) (p0 : Int32) {r : Int32} {S' : MS} (hf : f_X7_again S p0 = some (r, S')) : m_Met l yX7_again cX7_again 2 (Option.some Jvm.ClassFile.FieldType.boolean) r_X7_again D [.ref D.1, .int p0] S (some (.int r)) S' := by
  refine m_metI (F := 2) (L := 47) (by decide) rfl (Nat.le_of_ble_eq_true rfl) (fun p e s m args below meth c Q B hret hM ls hl => ?_)
  have hx := B.1
  have hb := B.2.1
  have hown := B.2.2.2.1
  have hts := B.2.2.2.2
  have hl : lv_has ls 2 [(0, .ref D.1), (1, .int p0)] := hl
  generalize s.heap = H, ([] : List Loc) = locs at hM ⊢
  unfold f_X7_again at hf
  refine lv_aload_n hx hb dX7_again_0 rfl (lv_at hl 0 rfl) ?_
  refine lv_iconst (v := nI 0) hx hb dX7_again_1 ic0 ?_
  obtain ⟨S1, eS1, hf⟩ := bd_some hf
  refine mr_puti B hM 0 (by decide) eS1 rfl (tyX7_ok 0 (by decide)) q1646 dX7_again_2 (fun H locs hM => ?_)
  refine lv_iload_n hx hb dX7_again_5 rfl (lv_at hl 1 rfl) ?_
  refine lv_iconst (v := nI 0) hx hb dX7_again_6 ic0 ?_
  refine lv_iconst (v := nI 2) hx hb dX7_again_7 ic2 ?_
  obtain ⟨r2, hcr2, hf⟩ := bnd_some hf
  refine pr_callS (rest := []) B (c_X7_in l p0 (nI 0) (nI 2) hcr2) (va_cwS 3 hts (lw_S q1841 q1842 q113 q1843) rfl rfl rfl hd_X7_in ⟨Nat.le_of_ble_eq_true rfl, Nat.le_of_ble_eq_true rfl⟩) rfl hl.1 rfl (Nat.le_of_ble_eq_true rfl) dX7_again_8 ⟨Nat.zero_le _, Nat.zero_le _⟩ ?_
  refine lv_if_eq (tgt := 23) hx hb dX7_again_11 (by decide) (fun c3 => ?_) (fun c3 => ?_)
  · have hf := it_pos c3 hf
    refine lv_iconst (v := nI 0) hx hb dX7_again_23 ic0 ?_
    cases hf
    exact hret _ _ _ _ rfl hM dX7_again_24
  · have hf := it_neg c3 hf
    refine lv_aload_n hx hb dX7_again_14 rfl (lv_at hl 0 rfl) ?_
    refine mr_get B hM 62 (v := .ref (D.2.1 62)) rfl (by decide) q1708 dX7_again_15 ?_
    refine lv_iload_n hx hb dX7_again_18 rfl (lv_at hl 1 rfl) ?_
    obtain ⟨v4, ev4, hiv4, hf⟩ := ald_some hf
    refine mr_zald B hM 62 (by decide) rfl hiv4 ev4 dX7_again_19 ?_
    refine lv_if_ne (tgt := 25) hx hb dX7_again_20 (by decide) (fun c5 => ?_) (fun c5 => ?_)
    · have hf := it_neg c5 hf
      refine lv_aload_n hx hb dX7_again_25 rfl (lv_at hl 0 rfl) ?_
      refine lv_iload_n hx hb dX7_again_26 rfl (lv_at hl 1 rfl) ?_
      refine lv_iconst (v := nI 1) hx hb dX7_again_27 ic1 ?_
      refine lv_iadd hx hb dX7_again_28 ?_
      refine lv_iconst (v := nI 0) hx hb dX7_again_29 ic0 ?_
      obtain ⟨S6, hcS6, hf⟩ := bnd_some hf
      refine mr_callV (rest := []) B hM (c_X7_copy l D S1 (p0 + nI 1) (nI 0) hcS6) (cwV 2 hts (lw_V q2246 q2248 qs101 q113 q2249) rfl rfl rfl hd_X7_copy ⟨Nat.le_of_ble_eq_true rfl, Nat.le_of_ble_eq_true rfl⟩) rfl hl.1 rfl (Nat.le_of_ble_eq_true rfl) dX7_again_30 ⟨Nat.zero_le _, Nat.zero_le _⟩ (fun H locs hM => ?_)
      refine lv_iconst (v := nI 1) hx hb dX7_again_33 ic1 ?_
      cases hf
      exact hret _ _ _ _ rfl hM dX7_again_34
    · have hf := it_pos c5 hf
      refine lv_iconst (v := nI 0) hx hb dX7_again_23 ic0 ?_
      cases hf
      exact hret _ _ _ _ rfl hM dX7_again_24
