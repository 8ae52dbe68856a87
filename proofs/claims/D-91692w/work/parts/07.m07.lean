set_option maxRecDepth 100000
def f_X7_layWorld_L7 (p0 : Int32) (r1 : Int32) (x2 : Int32) (S3 : MS) : Option ((Int32 × MS) ⊕ ((MS))) :=
  (if r1 ≤ x2 then some (.inr S3) else (if ((p0 >>> (((r1 - nI 1) - x2) &&& 31)) &&& nI 1) = 0 then ast 36 x2 (m_up S3 28 x2.toNatClampNeg (vp_nar .boolean (nI 0))) fun S6 => bd (x2 + nI 1) fun x7 => some (.inl (x7, S6)) else ast 36 x2 (m_up S3 28 x2.toNatClampNeg (vp_nar .boolean (nI 1))) fun S8 => bd (x2 + nI 1) fun x9 => some (.inl (x9, S8))))
def f_X7_layWorld (S : MS) (p0 : Int32) : Option MS :=
  bnd (f_X7_manyFacts S) fun r1 => bnd (wO (fun t : Int32 × MS => f_X7_layWorld_L7 p0 r1 t.1 t.2) fu (nI 0, S)) <| fun S12 => some S12
abbrev r_X7_layWorld : Room := { frames := 1, cells := 0, slots := 0, locals := 20 }
set_option maxHeartbeats 4000000 in
set_option maxRecDepth 100000 in
theorem c_X7_layWorld (l : Launch) (D : MD) (S : MS) (p0 : Int32) {S' : MS} (hf : f_X7_layWorld S p0 = some S') : m_Met l yX7_layWorld cX7_layWorld 4 (Option.none : Option Jvm.ClassFile.FieldType) r_X7_layWorld D [.ref D.1, .int p0] S none S' := by
  refine m_metV (F := 1) (L := 20) (by decide) rfl (Nat.le_of_ble_eq_true rfl) (fun p e s m args below meth c Q B hret hM ls hl => ?_)
  have hx := B.1
  have hb := B.2.1
  have hown := B.2.2.2.1
  have hts := B.2.2.2.2
  have hl : lv_has ls 4 [(0, .ref D.1), (1, .int p0)] := hl
  generalize s.heap = H, ([] : List Loc) = locs at hM ⊢
  unfold f_X7_layWorld at hf
  refine lv_aload_n hx hb dX7_layWorld_0 rfl (lv_at hl 0 rfl) ?_
  obtain ⟨r1, hcr1, hf⟩ := bnd_some hf
  refine mr_callV (rest := []) B hM (c_X7_manyFacts l D S  hcr1) (cwV 0 hts (lw_V q1868 q1870 qs49 q113 q1871) rfl rfl rfl hd_X7_manyFacts ⟨Nat.le_of_ble_eq_true rfl, Nat.le_of_ble_eq_true rfl⟩) rfl hl.1 rfl (Nat.le_of_ble_eq_true rfl) dX7_layWorld_1 ⟨Nat.zero_le _, Nat.zero_le _⟩ (fun H locs hM => ?_)
  refine lv_istore_n (lv' := [(2, .int r1), (0, .ref D.1), (1, .int p0)]) hx hb dX7_layWorld_4 rfl hl (by decide) rfl (fun ls hl => ?_)
  refine lv_iconst (v := nI 0) hx hb dX7_layWorld_5 ic0 ?_
  refine lv_istore_n (lv' := [(3, .int (nI 0)), (2, .int r1), (0, .ref D.1), (1, .int p0)]) hx hb dX7_layWorld_6 rfl hl (by decide) rfl (fun ls hl => ?_)
  obtain ⟨y11, hxy11, hf⟩ := bnd_some hf
  have hy11 : (fun t : MS => ∀ (H : Heap) (locs : List Loc) (ls : Array Slot), m_I D s H locs t → lv_has ls 4 [] → W p l e r_X7_layWorld s m args below meth c H locs 0 0 Q (F0 m 41 ls [])) y11 := by
    obtain ⟨S12, rfl⟩ : ∃ z, z = y11 := ⟨_, rfl⟩
    intro H locs ls hM hl
    cases hf
    exact hret _ _ _ _ hM dX7_layWorld_41
  refine lp_W (step := (fun t : Int32 × MS => f_X7_layWorld_L7 p0 r1 t.1 t.2)) (fun t : Int32 × MS => ∀ (H : Heap) (locs : List Loc) (ls : Array Slot), m_I D s H locs t.2 → lv_has ls 4 [(0, .ref D.1), (1, .int p0), (2, .int r1), (3, .int t.1)] → W p l e r_X7_layWorld s m args below meth c H locs 0 0 Q (F0 m 7 ls [])) (fun t : MS => ∀ (H : Heap) (locs : List Loc) (ls : Array Slot), m_I D s H locs t → lv_has ls 4 [] → W p l e r_X7_layWorld s m args below meth c H locs 0 0 Q (F0 m 41 ls [])) ?_ fu (nI 0, S) y11 hxy11 hy11 _ _ _ hM (lv_sub hl [2, 3, 1, 0] rfl)
  clear hf hxy11 hy11
  rintro ⟨x2, S3⟩ o (hf : f_X7_layWorld_L7 p0 r1 x2 S3 = some o) hk
  intro H locs ls hM hl
  unfold f_X7_layWorld_L7 at hf
  refine lv_iload_n hx hb dX7_layWorld_7 rfl (lv_at hl 3 rfl) ?_
  refine lv_iload_n hx hb dX7_layWorld_8 rfl (lv_at hl 2 rfl) ?_
  refine lv_icmp_ge (tgt := 41) hx hb dX7_layWorld_9 (by decide) (fun c4 => ?_) (fun c4 => ?_)
  · have hf := it_pos c4 hf
    cases hf
    exact hk _ _ _ hM (lv_sub hl [] rfl)
  · have hf := it_neg c4 hf
    refine lv_aload_n hx hb dX7_layWorld_12 rfl (lv_at hl 0 rfl) ?_
    refine mr_get B hM 28 (v := .ref (D.2.1 28)) rfl (by decide) q1674 dX7_layWorld_13 ?_
    refine lv_iload_n hx hb dX7_layWorld_16 rfl (lv_at hl 3 rfl) ?_
    refine lv_iload_n hx hb dX7_layWorld_17 rfl (lv_at hl 1 rfl) ?_
    refine lv_iload_n hx hb dX7_layWorld_18 rfl (lv_at hl 2 rfl) ?_
    refine lv_iconst (v := nI 1) hx hb dX7_layWorld_19 ic1 ?_
    refine lv_isub hx hb dX7_layWorld_20 ?_
    refine lv_iload_n hx hb dX7_layWorld_21 rfl (lv_at hl 3 rfl) ?_
    refine lv_isub hx hb dX7_layWorld_22 ?_
    refine lv_ishr hx hb dX7_layWorld_23 ?_
    refine lv_iconst (v := nI 1) hx hb dX7_layWorld_24 ic1 ?_
    refine lv_iand hx hb dX7_layWorld_25 ?_
    refine lv_if_eq (tgt := 33) hx hb dX7_layWorld_26 (by decide) (fun c5 => ?_) (fun c5 => ?_)
    · have hf := it_pos c5 hf
      refine lv_iconst (v := nI 0) hx hb dX7_layWorld_33 ic0 ?_
      obtain ⟨S6, eS6, hiS6, hf⟩ := ast_some hf
      refine mr_zast B hM 28 (by decide) rfl hiS6 eS6 dX7_layWorld_34 (fun H locs hM => ?_)
      obtain ⟨x7, ex7, hf⟩ := bd_some hf
      refine lv_iinc (v := x7) (lv' := [(3, .int x7), (0, .ref D.1), (1, .int p0), (2, .int r1)]) hx hb dX7_layWorld_35 hl (k := 3) rfl (by rw [ex7]; first | done | rfl) (by decide) rfl (fun ls hl => ?_)
      refine lv_goto (tgt := 7) hx hb dX7_layWorld_38 (by decide) ?_
      cases hf
      exact hk _ _ _ hM (lv_sub hl [1, 2, 3, 0] rfl)
    · have hf := it_neg c5 hf
      refine lv_iconst (v := nI 1) hx hb dX7_layWorld_29 ic1 ?_
      refine lv_goto (tgt := 34) hx hb dX7_layWorld_30 (by decide) ?_
      obtain ⟨S8, eS8, hiS8, hf⟩ := ast_some hf
      refine mr_zast B hM 28 (by decide) rfl hiS8 eS8 dX7_layWorld_34 (fun H locs hM => ?_)
      obtain ⟨x9, ex9, hf⟩ := bd_some hf
      refine lv_iinc (v := x9) (lv' := [(3, .int x9), (0, .ref D.1), (1, .int p0), (2, .int r1)]) hx hb dX7_layWorld_35 hl (k := 3) rfl (by rw [ex9]; first | done | rfl) (by decide) rfl (fun ls hl => ?_)
      refine lv_goto (tgt := 7) hx hb dX7_layWorld_38 (by decide) ?_
      cases hf
      exact hk _ _ _ hM (lv_sub hl [1, 2, 3, 0] rfl)
def f_X7_isWorld_L17 (x4 : Int32) (S5 : MS) : Option ((Int32 × MS) ⊕ ((MS) ⊕ (MS))) :=
  ald 4 (S5.1 12) (nI 0) fun v6 => (if v6 ≤ x4 then some (.inr (.inr S5)) else (if (((S5.1 48 0) >>> (x4 &&& 31)) &&& nI 1) = 0 then bd (x4 + nI 1) fun x9 => some (.inl (x9, S5)) else bnd (f_X7_means S5 x4) <| u2 fun r10 S11 => (if r10 = 0 then some (.inr (.inl S11)) else bd (x4 + nI 1) fun x13 => some (.inl (x13, S11)))))
def f_X7_isWorld (S : MS) (p0 : Int32) : Option (Int32 × MS) :=
  bnd (f_X7_isAsKnown S p0) fun r1 => (if r1 = 0 then some (nI 0, S) else bnd (f_X7_layWorld S p0) fun S3 => bnd (wO (fun t : Int32 × MS => f_X7_isWorld_L17 t.1 t.2) fu (nI 0, S3)) (Sum.elim (fun S16 => some (nI 0, S16)) (fun S17 => some (nI 1, S17))))
abbrev r_X7_isWorld : Room := { frames := 8, cells := 0, slots := 0, locals := 188 }
set_option maxHeartbeats 4000000 in
set_option maxRecDepth 100000 in
theorem c_X7_isWorld (l : Launch) (D : MD) (S : MS) (p0 : Int32) {r : Int32} {S' : MS} (hf : f_X7_isWorld S p0 = some (r, S')) : m_Met l yX7_isWorld cX7_isWorld 3 (Option.some Jvm.ClassFile.FieldType.boolean) r_X7_isWorld D [.ref D.1, .int p0] S (some (.int r)) S' := by
  refine m_metI (F := 8) (L := 188) (by decide) rfl (Nat.le_of_ble_eq_true rfl) (fun p e s m args below meth c Q B hret hM ls hl => ?_)
  have hx := B.1
  have hb := B.2.1
  have hown := B.2.2.2.1
  have hts := B.2.2.2.2
  have hl : lv_has ls 3 [(0, .ref D.1), (1, .int p0)] := hl
  generalize s.heap = H, ([] : List Loc) = locs at hM ⊢
  unfold f_X7_isWorld at hf
  refine lv_aload_n hx hb dX7_isWorld_0 rfl (lv_at hl 0 rfl) ?_
  refine lv_iload_n hx hb dX7_isWorld_1 rfl (lv_at hl 1 rfl) ?_
  obtain ⟨r1, hcr1, hf⟩ := bnd_some hf
  refine mr_callV (rest := []) B hM (c_X7_isAsKnown l D S p0 hcr1) (cwV 1 hts (lw_V q2132 q2134 qs89 q113 q2135) rfl rfl rfl hd_X7_isAsKnown ⟨Nat.le_of_ble_eq_true rfl, Nat.le_of_ble_eq_true rfl⟩) rfl hl.1 rfl (Nat.le_of_ble_eq_true rfl) dX7_isWorld_2 ⟨Nat.zero_le _, Nat.zero_le _⟩ (fun H locs hM => ?_)
  refine lv_if_ne (tgt := 10) hx hb dX7_isWorld_5 (by decide) (fun c2 => ?_) (fun c2 => ?_)
  · have hf := it_neg c2 hf
    refine lv_aload_n hx hb dX7_isWorld_10 rfl (lv_at hl 0 rfl) ?_
    refine lv_iload_n hx hb dX7_isWorld_11 rfl (lv_at hl 1 rfl) ?_
    obtain ⟨S3, hcS3, hf⟩ := bnd_some hf
    refine mr_callV (rest := []) B hM (c_X7_layWorld l D S p0 hcS3) (cwV 1 hts (lw_V q2136 q2138 qs90 q113 q2139) rfl rfl rfl hd_X7_layWorld ⟨Nat.le_of_ble_eq_true rfl, Nat.le_of_ble_eq_true rfl⟩) rfl hl.1 rfl (Nat.le_of_ble_eq_true rfl) dX7_isWorld_12 ⟨Nat.zero_le _, Nat.zero_le _⟩ (fun H locs hM => ?_)
    refine lv_iconst (v := nI 0) hx hb dX7_isWorld_15 ic0 ?_
    refine lv_istore_n (lv' := [(2, .int (nI 0)), (0, .ref D.1), (1, .int p0)]) hx hb dX7_isWorld_16 rfl hl (by decide) rfl (fun ls hl => ?_)
    obtain ⟨y15, hxy15, hf⟩ := bnd_some hf
    have hy15 : (Sum.elim (fun t : MS => ∀ (H : Heap) (locs : List Loc) (ls : Array Slot), m_I D s H locs t → lv_has ls 3 [] → W p l e r_X7_isWorld s m args below meth c H locs 0 0 Q (F0 m 46 ls [])) (fun t : MS => ∀ (H : Heap) (locs : List Loc) (ls : Array Slot), m_I D s H locs t → lv_has ls 3 [] → W p l e r_X7_isWorld s m args below meth c H locs 0 0 Q (F0 m 54 ls []))) y15 := by
      rcases y15 with S16 | S17
      · have hf := el_l hf
        intro H locs ls hM hl
        refine lv_iconst (v := nI 0) hx hb dX7_isWorld_46 ic0 ?_
        cases hf
        exact hret _ _ _ _ rfl hM dX7_isWorld_47
      · have hf := el_r hf
        intro H locs ls hM hl
        refine lv_iconst (v := nI 1) hx hb dX7_isWorld_54 ic1 ?_
        cases hf
        exact hret _ _ _ _ rfl hM dX7_isWorld_55
    refine lp_W (step := (fun t : Int32 × MS => f_X7_isWorld_L17 t.1 t.2)) (fun t : Int32 × MS => ∀ (H : Heap) (locs : List Loc) (ls : Array Slot), m_I D s H locs t.2 → lv_has ls 3 [(0, .ref D.1), (2, .int t.1)] → W p l e r_X7_isWorld s m args below meth c H locs 0 0 Q (F0 m 17 ls [])) (Sum.elim (fun t : MS => ∀ (H : Heap) (locs : List Loc) (ls : Array Slot), m_I D s H locs t → lv_has ls 3 [] → W p l e r_X7_isWorld s m args below meth c H locs 0 0 Q (F0 m 46 ls [])) (fun t : MS => ∀ (H : Heap) (locs : List Loc) (ls : Array Slot), m_I D s H locs t → lv_has ls 3 [] → W p l e r_X7_isWorld s m args below meth c H locs 0 0 Q (F0 m 54 ls []))) ?_ fu (nI 0, S3) y15 hxy15 hy15 _ _ _ hM (lv_sub hl [1, 0] rfl)
    clear hf hxy15 hy15
    rintro ⟨x4, S5⟩ o (hf : f_X7_isWorld_L17 x4 S5 = some o) hk
    intro H locs ls hM hl
    unfold f_X7_isWorld_L17 at hf
    refine lv_iload_n hx hb dX7_isWorld_17 rfl (lv_at hl 1 rfl) ?_
    refine lv_aload_n hx hb dX7_isWorld_18 rfl (lv_at hl 0 rfl) ?_
    refine mr_get B hM 12 (v := .ref (D.2.1 12)) rfl (by decide) q1658 dX7_isWorld_19 ?_
    refine lv_iconst (v := nI 0) hx hb dX7_isWorld_22 ic0 ?_
    obtain ⟨v6, ev6, hiv6, hf⟩ := ald_some hf
    refine mr_iald B hM 12 (by decide) rfl hiv6 ev6 dX7_isWorld_23 ?_
    refine lv_icmp_ge (tgt := 54) hx hb dX7_isWorld_24 (by decide) (fun c7 => ?_) (fun c7 => ?_)
    · have hf := it_pos c7 hf
      cases hf
      exact hk _ _ _ hM (lv_sub hl [] rfl)
    · have hf := it_neg c7 hf
      refine lv_aload_n hx hb dX7_isWorld_27 rfl (lv_at hl 0 rfl) ?_
      refine mr_get B hM 48 (v := .int (S5.1 48 0)) rfl (by decide) q1694 dX7_isWorld_28 ?_
      refine lv_iload_n hx hb dX7_isWorld_31 rfl (lv_at hl 1 rfl) ?_
      refine lv_ishr hx hb dX7_isWorld_32 ?_
      refine lv_iconst (v := nI 1) hx hb dX7_isWorld_33 ic1 ?_
      refine lv_iand hx hb dX7_isWorld_34 ?_
      refine lv_if_eq (tgt := 48) hx hb dX7_isWorld_35 (by decide) (fun c8 => ?_) (fun c8 => ?_)
      · have hf := it_pos c8 hf
        obtain ⟨x9, ex9, hf⟩ := bd_some hf
        refine lv_iinc (v := x9) (lv' := [(2, .int x9), (0, .ref D.1)]) hx hb dX7_isWorld_48 hl (k := 1) rfl (by rw [ex9]; first | done | rfl) (by decide) rfl (fun ls hl => ?_)
        refine lv_goto (tgt := 17) hx hb dX7_isWorld_51 (by decide) ?_
        cases hf
        exact hk _ _ _ hM (lv_sub hl [1, 0] rfl)
      · have hf := it_neg c8 hf
        refine lv_aload_n hx hb dX7_isWorld_38 rfl (lv_at hl 0 rfl) ?_
        refine lv_iload_n hx hb dX7_isWorld_39 rfl (lv_at hl 1 rfl) ?_
        obtain ⟨⟨r10, S11⟩, hcr10, hf⟩ := bnd_some hf
        have hf := u2_at hf
        refine mr_callV (rest := []) B hM (c_X7_means l D S5 x4 hcr10) (cwV 1 hts (lw_V q2070 q2072 qs77 q113 q2073) rfl rfl rfl hd_X7_means ⟨Nat.le_of_ble_eq_true rfl, Nat.le_of_ble_eq_true rfl⟩) rfl hl.1 rfl (Nat.le_of_ble_eq_true rfl) dX7_isWorld_40 ⟨Nat.zero_le _, Nat.zero_le _⟩ (fun H locs hM => ?_)
        refine lv_if_ne (tgt := 48) hx hb dX7_isWorld_43 (by decide) (fun c12 => ?_) (fun c12 => ?_)
        · have hf := it_neg c12 hf
          obtain ⟨x13, ex13, hf⟩ := bd_some hf
          refine lv_iinc (v := x13) (lv' := [(2, .int x13), (0, .ref D.1)]) hx hb dX7_isWorld_48 hl (k := 1) rfl (by rw [ex13]; first | done | rfl) (by decide) rfl (fun ls hl => ?_)
          refine lv_goto (tgt := 17) hx hb dX7_isWorld_51 (by decide) ?_
          cases hf
          exact hk _ _ _ hM (lv_sub hl [1, 0] rfl)
        · have hf := it_pos c12 hf
          cases hf
          exact hk _ _ _ hM (lv_sub hl [] rfl)
  · have hf := it_pos c2 hf
    refine lv_iconst (v := nI 0) hx hb dX7_isWorld_8 ic0 ?_
    cases hf
    exact hret _ _ _ _ rfl hM dX7_isWorld_9
def f_X7_findKnown_L43 (x6 : Int32) (r7 : Int32) (x10 : Int32) (S11 : MS) : Option ((Int32 × MS) ⊕ ((MS))) :=
  ald 4 (S11.1 20) (nI 0) fun v12 => (if v12 ≤ x10 then some (.inr S11) else ald 160 (S11.1 21) x10 fun v14 => bd (v14 / nI 9) fun x15 => ald 160 (S11.1 21) x10 fun v16 => ald 160 (S11.1 21) x10 fun v17 => bnd (f_X7_factAt S11 x15 ((v16 / nI 3) - (v16 / nI 3) / nI 3 * nI 3) (v17 - v17 / nI 3 * nI 3)) fun r18 => (if r18 = (-1) then bd (x10 + nI 1) fun x20 => some (.inl (x20, S11)) else ald 160 (S11.1 23) x10 fun v21 => (if v21 ≤ x6 then bd (nI 1 <<< (((r7 - nI 1) - r18) &&& 31)) fun x23 => bd (m_up S11 49 0 ((S11.1 49 0) ||| x23)) fun S24 => ald 160 (S24.1 22) x10 fun v25 => (if v25 = nI 1 then bd (m_up S24 50 0 ((S24.1 50 0) ||| x23)) fun S29 => bd (x10 + nI 1) fun x30 => some (.inl (x30, S29)) else bd (m_up S24 50 0 ((S24.1 50 0) &&& (x23 ^^^ (-1)))) fun S27 => bd (x10 + nI 1) fun x28 => some (.inl (x28, S27))) else bd (x10 + nI 1) fun x31 => some (.inl (x31, S11)))))
def f_X7_findKnown_J25_3 (S : MS) (x6 : Int32) : Option MS :=
  bnd (f_X7_manyFacts S) fun r7 => bd (m_up S 49 0 (nI 0)) fun S8 => bd (m_up S8 50 0 (nI 0)) fun S9 => bnd (wO (fun t : Int32 × MS => f_X7_findKnown_L43 x6 r7 t.1 t.2) fu (nI 0, S9)) <| fun S34 => some S34
def f_X7_findKnown (S : MS) : Option MS :=
  ald 4 (S.1 6) (nI 0) fun v1 => (if v1 = (-1) then ald 4 (S.1 5) (nI 0) fun v5 => f_X7_findKnown_J25_3 S v5 else ald 4 (S.1 6) (nI 0) fun v4 => f_X7_findKnown_J25_3 S v4)
abbrev r_X7_findKnown : Room := { frames := 2, cells := 0, slots := 0, locals := 46 }
set_option maxHeartbeats 4000000 in
set_option maxRecDepth 100000 in
theorem c_X7_findKnown (l : Launch) (D : MD) (S : MS)  {S' : MS} (hf : f_X7_findKnown S = some S') : m_Met l yX7_findKnown cX7_findKnown 7 (Option.none : Option Jvm.ClassFile.FieldType) r_X7_findKnown D [.ref D.1] S none S' := by
  refine m_metV (F := 2) (L := 46) (by decide) rfl (Nat.le_of_ble_eq_true rfl) (fun p e s m args below meth c Q B hret hM ls hl => ?_)
  have hx := B.1
  have hb := B.2.1
  have hown := B.2.2.2.1
  have hts := B.2.2.2.2
  have hl : lv_has ls 7 [(0, .ref D.1)] := hl
  generalize s.heap = H, ([] : List Loc) = locs at hM ⊢
  unfold f_X7_findKnown at hf
  refine lv_aload_n hx hb dX7_findKnown_0 rfl (lv_at hl 0 rfl) ?_
  refine mr_get B hM 6 (v := .ref (D.2.1 6)) rfl (by decide) q1652 dX7_findKnown_1 ?_
  refine lv_iconst (v := nI 0) hx hb dX7_findKnown_4 ic0 ?_
  obtain ⟨v1, ev1, hiv1, hf⟩ := ald_some hf
  refine mr_iald B hM 6 (by decide) rfl hiv1 ev1 dX7_findKnown_5 ?_
  refine lv_iconst (v := (-1)) hx hb dX7_findKnown_6 icm1 ?_
  have j3 : ∀ (x6 : Int32), f_X7_findKnown_J25_3 S x6 = some S' → ∀ (H : Heap) (locs : List Loc) (ls : Array Slot), m_I D s H locs S → lv_has ls 7 [(0, .ref D.1)] → W p l e r_X7_findKnown s m args below meth c H locs 0 0 Q (F0 m 25 ls [.int x6]) := by
    intro x6 hf
    intro H locs ls hM hl
    unfold f_X7_findKnown_J25_3 at hf
    refine lv_istore_n (lv' := [(1, .int x6), (0, .ref D.1)]) hx hb dX7_findKnown_25 rfl hl (by decide) rfl (fun ls hl => ?_)
    refine lv_aload_n hx hb dX7_findKnown_26 rfl (lv_at hl 1 rfl) ?_
    obtain ⟨r7, hcr7, hf⟩ := bnd_some hf
    refine mr_callV (rest := []) B hM (c_X7_manyFacts l D S  hcr7) (cwV 0 hts (lw_V q1868 q1870 qs49 q113 q1871) rfl rfl rfl hd_X7_manyFacts ⟨Nat.le_of_ble_eq_true rfl, Nat.le_of_ble_eq_true rfl⟩) rfl hl.1 rfl (Nat.le_of_ble_eq_true rfl) dX7_findKnown_27 ⟨Nat.zero_le _, Nat.zero_le _⟩ (fun H locs hM => ?_)
    refine lv_istore_n (lv' := [(2, .int r7), (1, .int x6), (0, .ref D.1)]) hx hb dX7_findKnown_30 rfl hl (by decide) rfl (fun ls hl => ?_)
    refine lv_aload_n hx hb dX7_findKnown_31 rfl (lv_at hl 2 rfl) ?_
    refine lv_iconst (v := nI 0) hx hb dX7_findKnown_32 ic0 ?_
    obtain ⟨S8, eS8, hf⟩ := bd_some hf
    refine mr_puti B hM 49 (by decide) eS8 rfl (tyX7_ok 49 (by decide)) q1695 dX7_findKnown_33 (fun H locs hM => ?_)
    refine lv_aload_n hx hb dX7_findKnown_36 rfl (lv_at hl 2 rfl) ?_
    refine lv_iconst (v := nI 0) hx hb dX7_findKnown_37 ic0 ?_
    obtain ⟨S9, eS9, hf⟩ := bd_some hf
    refine mr_puti B hM 50 (by decide) eS9 rfl (tyX7_ok 50 (by decide)) q1696 dX7_findKnown_38 (fun H locs hM => ?_)
    refine lv_iconst (v := nI 0) hx hb dX7_findKnown_41 ic0 ?_
    refine lv_istore_n (lv' := [(3, .int (nI 0)), (2, .int r7), (1, .int x6), (0, .ref D.1)]) hx hb dX7_findKnown_42 rfl hl (by decide) rfl (fun ls hl => ?_)
    obtain ⟨y33, hxy33, hf⟩ := bnd_some hf
    have hy33 : (fun t : MS => ∀ (H : Heap) (locs : List Loc) (ls : Array Slot), m_I D s H locs t → lv_has ls 7 [] → W p l e r_X7_findKnown s m args below meth c H locs 0 0 Q (F0 m 169 ls [])) y33 := by
      obtain ⟨S34, rfl⟩ : ∃ z, z = y33 := ⟨_, rfl⟩
      intro H locs ls hM hl
      cases hf
      exact hret _ _ _ _ hM dX7_findKnown_169
    refine lp_W (step := (fun t : Int32 × MS => f_X7_findKnown_L43 x6 r7 t.1 t.2)) (fun t : Int32 × MS => ∀ (H : Heap) (locs : List Loc) (ls : Array Slot), m_I D s H locs t.2 → lv_has ls 7 [(0, .ref D.1), (1, .int x6), (2, .int r7), (3, .int t.1)] → W p l e r_X7_findKnown s m args below meth c H locs 0 0 Q (F0 m 43 ls [])) (fun t : MS => ∀ (H : Heap) (locs : List Loc) (ls : Array Slot), m_I D s H locs t → lv_has ls 7 [] → W p l e r_X7_findKnown s m args below meth c H locs 0 0 Q (F0 m 169 ls [])) ?_ fu (nI 0, S9) y33 hxy33 hy33 _ _ _ hM (lv_sub hl [3, 2, 1, 0] rfl)
    clear hf hxy33 hy33
    rintro ⟨x10, S11⟩ o (hf : f_X7_findKnown_L43 x6 r7 x10 S11 = some o) hk
    intro H locs ls hM hl
    unfold f_X7_findKnown_L43 at hf
    refine lv_iload_n hx hb dX7_findKnown_43 rfl (lv_at hl 3 rfl) ?_
    refine lv_aload_n hx hb dX7_findKnown_44 rfl (lv_at hl 0 rfl) ?_
    refine mr_get B hM 20 (v := .ref (D.2.1 20)) rfl (by decide) q1666 dX7_findKnown_45 ?_
    refine lv_iconst (v := nI 0) hx hb dX7_findKnown_48 ic0 ?_
    obtain ⟨v12, ev12, hiv12, hf⟩ := ald_some hf
    refine mr_iald B hM 20 (by decide) rfl hiv12 ev12 dX7_findKnown_49 ?_
    refine lv_icmp_ge (tgt := 169) hx hb dX7_findKnown_50 (by decide) (fun c13 => ?_) (fun c13 => ?_)
    · have hf := it_pos c13 hf
      cases hf
      exact hk _ _ _ hM (lv_sub hl [] rfl)
    · have hf := it_neg c13 hf
      refine lv_aload_n hx hb dX7_findKnown_53 rfl (lv_at hl 0 rfl) ?_
      refine mr_get B hM 21 (v := .ref (D.2.1 21)) rfl (by decide) q1667 dX7_findKnown_54 ?_
      refine lv_iload_n hx hb dX7_findKnown_57 rfl (lv_at hl 3 rfl) ?_
      obtain ⟨v14, ev14, hiv14, hf⟩ := ald_some hf
      refine mr_iald B hM 21 (by decide) rfl hiv14 ev14 dX7_findKnown_58 ?_
      refine lv_bipush (v := nI 9) hx hb dX7_findKnown_59 bp9 ?_
      refine lv_idiv hx hb dX7_findKnown_61 (by decide) ?_
      refine lv_topi (fun x15 ex15 => ?_)
      have hf := bd_at ex15 hf
      refine lv_istore (lv' := [(4, .int x15), (0, .ref D.1), (1, .int x6), (2, .int r7), (3, .int x10)]) hx hb dX7_findKnown_62 hl (by decide) rfl (fun ls hl => ?_)
      refine lv_aload_n hx hb dX7_findKnown_64 rfl (lv_at hl 1 rfl) ?_
      refine lv_iload hx hb dX7_findKnown_65 (lv_at hl 0 rfl) ?_
      refine lv_aload_n hx hb dX7_findKnown_67 rfl (lv_at hl 1 rfl) ?_
      refine mr_get B hM 21 (v := .ref (D.2.1 21)) rfl (by decide) q1667 dX7_findKnown_68 ?_
      refine lv_iload_n hx hb dX7_findKnown_71 rfl (lv_at hl 4 rfl) ?_
      obtain ⟨v16, ev16, hiv16, hf⟩ := ald_some hf
      refine mr_iald B hM 21 (by decide) rfl hiv16 ev16 dX7_findKnown_72 ?_
      refine lv_iconst (v := nI 3) hx hb dX7_findKnown_73 ic3 ?_
      refine lv_idiv hx hb dX7_findKnown_74 (by decide) ?_
      refine lv_iconst (v := nI 3) hx hb dX7_findKnown_75 ic3 ?_
      refine lv_irem hx hb dX7_findKnown_76 (by decide) ?_
      refine lv_aload_n hx hb dX7_findKnown_77 rfl (lv_at hl 1 rfl) ?_
      refine mr_get B hM 21 (v := .ref (D.2.1 21)) rfl (by decide) q1667 dX7_findKnown_78 ?_
      refine lv_iload_n hx hb dX7_findKnown_81 rfl (lv_at hl 4 rfl) ?_
      obtain ⟨v17, ev17, hiv17, hf⟩ := ald_some hf
      refine mr_iald B hM 21 (by decide) rfl hiv17 ev17 dX7_findKnown_82 ?_
      refine lv_iconst (v := nI 3) hx hb dX7_findKnown_83 ic3 ?_
      refine lv_irem hx hb dX7_findKnown_84 (by decide) ?_
      obtain ⟨r18, hcr18, hf⟩ := bnd_some hf
      refine mr_callV (rest := []) B hM (c_X7_factAt l D S11 x15 ((v16 / nI 3) - (v16 / nI 3) / nI 3 * nI 3) (v17 - v17 / nI 3 * nI 3) hcr18) (cwV 3 hts (lw_V q1884 q1886 qs52 q113 q1887) rfl rfl rfl hd_X7_factAt ⟨Nat.le_of_ble_eq_true rfl, Nat.le_of_ble_eq_true rfl⟩) rfl hl.1 rfl (Nat.le_of_ble_eq_true rfl) dX7_findKnown_85 ⟨Nat.zero_le _, Nat.zero_le _⟩ (fun H locs hM => ?_)
      refine lv_istore (lv' := [(5, .int r18), (4, .int x15), (0, .ref D.1), (1, .int x6), (2, .int r7), (3, .int x10)]) hx hb dX7_findKnown_88 hl (by decide) rfl (fun ls hl => ?_)
      refine lv_iload hx hb dX7_findKnown_90 (lv_at hl 0 rfl) ?_
      refine lv_iconst (v := (-1)) hx hb dX7_findKnown_92 icm1 ?_
      refine lv_icmp_eq (tgt := 163) hx hb dX7_findKnown_93 (by decide) (fun c19 => ?_) (fun c19 => ?_)
      · have hf := it_pos c19 hf
        obtain ⟨x20, ex20, hf⟩ := bd_some hf
        refine lv_iinc (v := x20) (lv' := [(3, .int x20), (5, .int r18), (4, .int x15), (0, .ref D.1), (1, .int x6), (2, .int r7)]) hx hb dX7_findKnown_163 hl (k := 5) rfl (by rw [ex20]; first | done | rfl) (by decide) rfl (fun ls hl => ?_)
        refine lv_goto (tgt := 43) hx hb dX7_findKnown_166 (by decide) ?_
        cases hf
        exact hk _ _ _ hM (lv_sub hl [3, 4, 5, 0] rfl)
      · have hf := it_neg c19 hf
        refine lv_aload_n hx hb dX7_findKnown_96 rfl (lv_at hl 2 rfl) ?_
        refine mr_get B hM 23 (v := .ref (D.2.1 23)) rfl (by decide) q1669 dX7_findKnown_97 ?_
        refine lv_iload_n hx hb dX7_findKnown_100 rfl (lv_at hl 5 rfl) ?_
        obtain ⟨v21, ev21, hiv21, hf⟩ := ald_some hf
        refine mr_iald B hM 23 (by decide) rfl hiv21 ev21 dX7_findKnown_101 ?_
        refine lv_iload_n hx hb dX7_findKnown_102 rfl (lv_at hl 3 rfl) ?_
        refine lv_icmp_le (tgt := 109) hx hb dX7_findKnown_103 (by decide) (fun c22 => ?_) (fun c22 => ?_)
        · have hf := it_pos c22 hf
          refine lv_iconst (v := nI 1) hx hb dX7_findKnown_109 ic1 ?_
          refine lv_iload_n hx hb dX7_findKnown_110 rfl (lv_at hl 4 rfl) ?_
          refine lv_iconst (v := nI 1) hx hb dX7_findKnown_111 ic1 ?_
          refine lv_isub hx hb dX7_findKnown_112 ?_
          refine lv_iload hx hb dX7_findKnown_113 (lv_at hl 0 rfl) ?_
          refine lv_isub hx hb dX7_findKnown_115 ?_
          refine lv_ishl hx hb dX7_findKnown_116 ?_
          refine lv_topi (fun x23 ex23 => ?_)
          have hf := bd_at ex23 hf
          refine lv_istore (lv' := [(6, .int x23), (5, .int r18), (4, .int x15), (0, .ref D.1), (1, .int x6), (2, .int r7), (3, .int x10)]) hx hb dX7_findKnown_117 hl (by decide) rfl (fun ls hl => ?_)
          refine lv_aload_n hx hb dX7_findKnown_119 rfl (lv_at hl 3 rfl) ?_
          refine lv_dup hx hb dX7_findKnown_120 rfl ?_
          refine mr_get B hM 49 (v := .int (S11.1 49 0)) rfl (by decide) q1695 dX7_findKnown_121 ?_
          refine lv_iload hx hb dX7_findKnown_124 (lv_at hl 0 rfl) ?_
          refine lv_ior hx hb dX7_findKnown_126 ?_
          obtain ⟨S24, eS24, hf⟩ := bd_some hf
          refine mr_puti B hM 49 (by decide) eS24 rfl (tyX7_ok 49 (by decide)) q1695 dX7_findKnown_127 (fun H locs hM => ?_)
          refine lv_aload_n hx hb dX7_findKnown_130 rfl (lv_at hl 3 rfl) ?_
          refine lv_aload_n hx hb dX7_findKnown_131 rfl (lv_at hl 3 rfl) ?_
          refine mr_get B hM 22 (v := .ref (D.2.1 22)) rfl (by decide) q1668 dX7_findKnown_132 ?_
          refine lv_iload_n hx hb dX7_findKnown_135 rfl (lv_at hl 6 rfl) ?_
          obtain ⟨v25, ev25, hiv25, hf⟩ := ald_some hf
          refine mr_iald B hM 22 (by decide) rfl hiv25 ev25 dX7_findKnown_136 ?_
          refine lv_iconst (v := nI 1) hx hb dX7_findKnown_137 ic1 ?_
          refine lv_icmp_ne (tgt := 151) hx hb dX7_findKnown_138 (by decide) (fun c26 => ?_) (fun c26 => ?_)
          · have hf := it_neg c26 hf
            refine lv_aload_n hx hb dX7_findKnown_151 rfl (lv_at hl 3 rfl) ?_
            refine mr_get B hM 50 (v := .int (S24.1 50 0)) rfl (by decide) q1696 dX7_findKnown_152 ?_
            refine lv_iload hx hb dX7_findKnown_155 (lv_at hl 0 rfl) ?_
            refine lv_iconst (v := (-1)) hx hb dX7_findKnown_157 icm1 ?_
            refine lv_ixor hx hb dX7_findKnown_158 ?_
            refine lv_iand hx hb dX7_findKnown_159 ?_
            obtain ⟨S27, eS27, hf⟩ := bd_some hf
            refine mr_puti B hM 50 (by decide) eS27 rfl (tyX7_ok 50 (by decide)) q1696 dX7_findKnown_160 (fun H locs hM => ?_)
            obtain ⟨x28, ex28, hf⟩ := bd_some hf
            refine lv_iinc (v := x28) (lv' := [(3, .int x28), (6, .int x23), (5, .int r18), (4, .int x15), (0, .ref D.1), (1, .int x6), (2, .int r7)]) hx hb dX7_findKnown_163 hl (k := 6) rfl (by rw [ex28]; first | done | rfl) (by decide) rfl (fun ls hl => ?_)
            refine lv_goto (tgt := 43) hx hb dX7_findKnown_166 (by decide) ?_
            cases hf
            exact hk _ _ _ hM (lv_sub hl [4, 5, 6, 0] rfl)
          · have hf := it_pos c26 hf
            refine lv_aload_n hx hb dX7_findKnown_141 rfl (lv_at hl 3 rfl) ?_
            refine mr_get B hM 50 (v := .int (S24.1 50 0)) rfl (by decide) q1696 dX7_findKnown_142 ?_
            refine lv_iload hx hb dX7_findKnown_145 (lv_at hl 0 rfl) ?_
            refine lv_ior hx hb dX7_findKnown_147 ?_
            refine lv_goto (tgt := 160) hx hb dX7_findKnown_148 (by decide) ?_
            obtain ⟨S29, eS29, hf⟩ := bd_some hf
            refine mr_puti B hM 50 (by decide) eS29 rfl (tyX7_ok 50 (by decide)) q1696 dX7_findKnown_160 (fun H locs hM => ?_)
            obtain ⟨x30, ex30, hf⟩ := bd_some hf
            refine lv_iinc (v := x30) (lv' := [(3, .int x30), (6, .int x23), (5, .int r18), (4, .int x15), (0, .ref D.1), (1, .int x6), (2, .int r7)]) hx hb dX7_findKnown_163 hl (k := 6) rfl (by rw [ex30]; first | done | rfl) (by decide) rfl (fun ls hl => ?_)
            refine lv_goto (tgt := 43) hx hb dX7_findKnown_166 (by decide) ?_
            cases hf
            exact hk _ _ _ hM (lv_sub hl [4, 5, 6, 0] rfl)
        · have hf := it_neg c22 hf
          refine lv_goto (tgt := 163) hx hb dX7_findKnown_106 (by decide) ?_
          obtain ⟨x31, ex31, hf⟩ := bd_some hf
          refine lv_iinc (v := x31) (lv' := [(3, .int x31), (5, .int r18), (4, .int x15), (0, .ref D.1), (1, .int x6), (2, .int r7)]) hx hb dX7_findKnown_163 hl (k := 5) rfl (by rw [ex31]; first | done | rfl) (by decide) rfl (fun ls hl => ?_)
          refine lv_goto (tgt := 43) hx hb dX7_findKnown_166 (by decide) ?_
          cases hf
          exact hk _ _ _ hM (lv_sub hl [3, 4, 5, 0] rfl)
  refine lv_icmp_ne (tgt := 19) hx hb dX7_findKnown_7 (by decide) (fun c2 => ?_) (fun c2 => ?_)
  · have hf := it_neg c2 hf
    refine lv_aload_n hx hb dX7_findKnown_19 rfl (lv_at hl 0 rfl) ?_
    refine mr_get B hM 6 (v := .ref (D.2.1 6)) rfl (by decide) q1652 dX7_findKnown_20 ?_
    refine lv_iconst (v := nI 0) hx hb dX7_findKnown_23 ic0 ?_
    obtain ⟨v4, ev4, hiv4, hf⟩ := ald_some hf
    refine mr_iald B hM 6 (by decide) rfl hiv4 ev4 dX7_findKnown_24 ?_
    exact j3 v4 hf _ _ _ hM (lv_sub hl [0] rfl)
  · have hf := it_pos c2 hf
    refine lv_aload_n hx hb dX7_findKnown_10 rfl (lv_at hl 0 rfl) ?_
    refine mr_get B hM 5 (v := .ref (D.2.1 5)) rfl (by decide) q1651 dX7_findKnown_11 ?_
    refine lv_iconst (v := nI 0) hx hb dX7_findKnown_14 ic0 ?_
    obtain ⟨v5, ev5, hiv5, hf⟩ := ald_some hf
    refine mr_iald B hM 5 (by decide) rfl hiv5 ev5 dX7_findKnown_15 ?_
    refine lv_goto (tgt := 25) hx hb dX7_findKnown_16 (by decide) ?_
    exact j3 v5 hf _ _ _ hM (lv_sub hl [0] rfl)
def f_X7_told_L30 (S : MS) (x6 : Int32) (x7 : Int32) (x8 : Int32) : Option ((Int32 × Int32) ⊕ ((Int32))) :=
  ald 4 (S.1 12) (nI 0) fun v9 => (if v9 ≤ x8 then some (.inr x7) else ald 32 (S.1 13) x8 fun v11 => (if x6 < v11 then bd (x7 ||| nI 0) fun x13 => bd (x8 + nI 1) fun x14 => some (.inl (x13, x14)) else ald 32 (S.1 14) x8 fun v15 => (if v15 = (-1) then bd (x7 ||| (nI 1 <<< (x8 &&& 31))) fun x17 => bd (x8 + nI 1) fun x18 => some (.inl (x17, x18)) else ald 32 (S.1 14) x8 fun v19 => (if v19 ≤ x6 then bd (x7 ||| nI 0) fun x21 => bd (x8 + nI 1) fun x22 => some (.inl (x21, x22)) else bd (x7 ||| (nI 1 <<< (x8 &&& 31))) fun x23 => bd (x8 + nI 1) fun x24 => some (.inl (x23, x24))))))
def f_X7_told_J25_3 (S : MS) (x6 : Int32) : Option Int32 :=
  bnd (wO (fun t : Int32 × Int32 => f_X7_told_L30 S x6 t.1 t.2) fu (nI 0, nI 0)) <| fun x27 => some x27
def f_X7_told (S : MS) : Option Int32 :=
  ald 4 (S.1 6) (nI 0) fun v1 => (if v1 = (-1) then ald 4 (S.1 5) (nI 0) fun v5 => f_X7_told_J25_3 S v5 else ald 4 (S.1 6) (nI 0) fun v4 => f_X7_told_J25_3 S v4)
abbrev r_X7_told : Room := { frames := 0, cells := 0, slots := 0, locals := 0 }
set_option maxHeartbeats 4000000 in
set_option maxRecDepth 100000 in
theorem c_X7_told (l : Launch) (D : MD) (S : MS)  {r : Int32} (hf : f_X7_told S = some r) : m_Met l yX7_told cX7_told 4 (Option.some Jvm.ClassFile.FieldType.int) r_X7_told D [.ref D.1] S (some (.int r)) S := by
  refine m_metI (F := 0) (L := 0) (by decide) rfl (Nat.le_of_ble_eq_true rfl) (fun p e s m args below meth c Q B hret hM ls hl => ?_)
  have hx := B.1
  have hb := B.2.1
  have hown := B.2.2.2.1
  have hts := B.2.2.2.2
  have hl : lv_has ls 4 [(0, .ref D.1)] := hl
  generalize s.heap = H, ([] : List Loc) = locs at hM ⊢
  unfold f_X7_told at hf
  refine lv_aload_n hx hb dX7_told_0 rfl (lv_at hl 0 rfl) ?_
  refine mr_get B hM 6 (v := .ref (D.2.1 6)) rfl (by decide) q1652 dX7_told_1 ?_
  refine lv_iconst (v := nI 0) hx hb dX7_told_4 ic0 ?_
  obtain ⟨v1, ev1, hiv1, hf⟩ := ald_some hf
  refine mr_iald B hM 6 (by decide) rfl hiv1 ev1 dX7_told_5 ?_
  refine lv_iconst (v := (-1)) hx hb dX7_told_6 icm1 ?_
  have j3 : ∀ (x6 : Int32), f_X7_told_J25_3 S x6 = some r → ∀ (H : Heap) (locs : List Loc) (ls : Array Slot), m_I D s H locs S → lv_has ls 4 [(0, .ref D.1)] → W p l e r_X7_told s m args below meth c H locs 0 0 Q (F0 m 25 ls [.int x6]) := by
    intro x6 hf
    intro H locs ls hM hl
    unfold f_X7_told_J25_3 at hf
    refine lv_istore_n (lv' := [(1, .int x6), (0, .ref D.1)]) hx hb dX7_told_25 rfl hl (by decide) rfl (fun ls hl => ?_)
    refine lv_iconst (v := nI 0) hx hb dX7_told_26 ic0 ?_
    refine lv_istore_n (lv' := [(2, .int (nI 0)), (1, .int x6), (0, .ref D.1)]) hx hb dX7_told_27 rfl hl (by decide) rfl (fun ls hl => ?_)
    refine lv_iconst (v := nI 0) hx hb dX7_told_28 ic0 ?_
    refine lv_istore_n (lv' := [(3, .int (nI 0)), (2, .int (nI 0)), (1, .int x6), (0, .ref D.1)]) hx hb dX7_told_29 rfl hl (by decide) rfl (fun ls hl => ?_)
    obtain ⟨y26, hxy26, hf⟩ := bnd_some hf
    have hy26 : (fun t : Int32 => ∀ (H : Heap) (locs : List Loc) (ls : Array Slot), m_I D s H locs S → lv_has ls 4 [(2, .int t)] → W p l e r_X7_told s m args below meth c H locs 0 0 Q (F0 m 86 ls [])) y26 := by
      obtain ⟨x27, rfl⟩ : ∃ z, z = y26 := ⟨_, rfl⟩
      intro H locs ls hM hl
      refine lv_iload_n hx hb dX7_told_86 rfl (lv_at hl 0 rfl) ?_
      cases hf
      exact hret _ _ _ _ rfl hM dX7_told_87
    refine lp_W (step := (fun t : Int32 × Int32 => f_X7_told_L30 S x6 t.1 t.2)) (fun t : Int32 × Int32 => ∀ (H : Heap) (locs : List Loc) (ls : Array Slot), m_I D s H locs S → lv_has ls 4 [(0, .ref D.1), (1, .int x6), (2, .int t.1), (3, .int t.2)] → W p l e r_X7_told s m args below meth c H locs 0 0 Q (F0 m 30 ls [])) (fun t : Int32 => ∀ (H : Heap) (locs : List Loc) (ls : Array Slot), m_I D s H locs S → lv_has ls 4 [(2, .int t)] → W p l e r_X7_told s m args below meth c H locs 0 0 Q (F0 m 86 ls [])) ?_ fu (nI 0, nI 0) y26 hxy26 hy26 _ _ _ hM (lv_sub hl [3, 2, 1, 0] rfl)
    clear hf hxy26 hy26
    rintro ⟨x7, x8⟩ o (hf : f_X7_told_L30 S x6 x7 x8 = some o) hk
    intro H locs ls hM hl
    unfold f_X7_told_L30 at hf
    refine lv_iload_n hx hb dX7_told_30 rfl (lv_at hl 3 rfl) ?_
    refine lv_aload_n hx hb dX7_told_31 rfl (lv_at hl 0 rfl) ?_
    refine mr_get B hM 12 (v := .ref (D.2.1 12)) rfl (by decide) q1658 dX7_told_32 ?_
    refine lv_iconst (v := nI 0) hx hb dX7_told_35 ic0 ?_
    obtain ⟨v9, ev9, hiv9, hf⟩ := ald_some hf
    refine mr_iald B hM 12 (by decide) rfl hiv9 ev9 dX7_told_36 ?_
    refine lv_icmp_ge (tgt := 86) hx hb dX7_told_37 (by decide) (fun c10 => ?_) (fun c10 => ?_)
    · have hf := it_pos c10 hf
      cases hf
      exact hk _ _ _ hM (lv_sub hl [2] rfl)
    · have hf := it_neg c10 hf
      refine lv_iload_n hx hb dX7_told_40 rfl (lv_at hl 2 rfl) ?_
      refine lv_aload_n hx hb dX7_told_41 rfl (lv_at hl 0 rfl) ?_
      refine mr_get B hM 13 (v := .ref (D.2.1 13)) rfl (by decide) q1659 dX7_told_42 ?_
      refine lv_iload_n hx hb dX7_told_45 rfl (lv_at hl 3 rfl) ?_
      obtain ⟨v11, ev11, hiv11, hf⟩ := ald_some hf
      refine mr_iald B hM 13 (by decide) rfl hiv11 ev11 dX7_told_46 ?_
      refine lv_iload_n hx hb dX7_told_47 rfl (lv_at hl 1 rfl) ?_
      refine lv_icmp_gt (tgt := 77) hx hb dX7_told_48 (by decide) (fun c12 => ?_) (fun c12 => ?_)
      · have hf := it_pos c12 hf
        refine lv_iconst (v := nI 0) hx hb dX7_told_77 ic0 ?_
        refine lv_ior hx hb dX7_told_78 ?_
        refine lv_topi (fun x13 ex13 => ?_)
        have hf := bd_at ex13 hf
        refine lv_istore_n (lv' := [(2, .int x13), (0, .ref D.1), (1, .int x6), (3, .int x8)]) hx hb dX7_told_79 rfl hl (by decide) rfl (fun ls hl => ?_)
        obtain ⟨x14, ex14, hf⟩ := bd_some hf
        refine lv_iinc (v := x14) (lv' := [(3, .int x14), (2, .int x13), (0, .ref D.1), (1, .int x6)]) hx hb dX7_told_80 hl (k := 3) rfl (by rw [ex14]; first | done | rfl) (by decide) rfl (fun ls hl => ?_)
        refine lv_goto (tgt := 30) hx hb dX7_told_83 (by decide) ?_
        cases hf
        exact hk _ _ _ hM (lv_sub hl [2, 3, 1, 0] rfl)
      · have hf := it_neg c12 hf
        refine lv_aload_n hx hb dX7_told_51 rfl (lv_at hl 0 rfl) ?_
        refine mr_get B hM 14 (v := .ref (D.2.1 14)) rfl (by decide) q1660 dX7_told_52 ?_
        refine lv_iload_n hx hb dX7_told_55 rfl (lv_at hl 3 rfl) ?_
        obtain ⟨v15, ev15, hiv15, hf⟩ := ald_some hf
        refine mr_iald B hM 14 (by decide) rfl hiv15 ev15 dX7_told_56 ?_
        refine lv_iconst (v := (-1)) hx hb dX7_told_57 icm1 ?_
        refine lv_icmp_eq (tgt := 71) hx hb dX7_told_58 (by decide) (fun c16 => ?_) (fun c16 => ?_)
        · have hf := it_pos c16 hf
          refine lv_iconst (v := nI 1) hx hb dX7_told_71 ic1 ?_
          refine lv_iload_n hx hb dX7_told_72 rfl (lv_at hl 3 rfl) ?_
          refine lv_ishl hx hb dX7_told_73 ?_
          refine lv_goto (tgt := 78) hx hb dX7_told_74 (by decide) ?_
          refine lv_ior hx hb dX7_told_78 ?_
          refine lv_topi (fun x17 ex17 => ?_)
          have hf := bd_at ex17 hf
          refine lv_istore_n (lv' := [(2, .int x17), (0, .ref D.1), (1, .int x6), (3, .int x8)]) hx hb dX7_told_79 rfl hl (by decide) rfl (fun ls hl => ?_)
          obtain ⟨x18, ex18, hf⟩ := bd_some hf
          refine lv_iinc (v := x18) (lv' := [(3, .int x18), (2, .int x17), (0, .ref D.1), (1, .int x6)]) hx hb dX7_told_80 hl (k := 3) rfl (by rw [ex18]; first | done | rfl) (by decide) rfl (fun ls hl => ?_)
          refine lv_goto (tgt := 30) hx hb dX7_told_83 (by decide) ?_
          cases hf
          exact hk _ _ _ hM (lv_sub hl [2, 3, 1, 0] rfl)
        · have hf := it_neg c16 hf
          refine lv_aload_n hx hb dX7_told_61 rfl (lv_at hl 0 rfl) ?_
          refine mr_get B hM 14 (v := .ref (D.2.1 14)) rfl (by decide) q1660 dX7_told_62 ?_
          refine lv_iload_n hx hb dX7_told_65 rfl (lv_at hl 3 rfl) ?_
          obtain ⟨v19, ev19, hiv19, hf⟩ := ald_some hf
          refine mr_iald B hM 14 (by decide) rfl hiv19 ev19 dX7_told_66 ?_
          refine lv_iload_n hx hb dX7_told_67 rfl (lv_at hl 1 rfl) ?_
          refine lv_icmp_le (tgt := 77) hx hb dX7_told_68 (by decide) (fun c20 => ?_) (fun c20 => ?_)
          · have hf := it_pos c20 hf
            refine lv_iconst (v := nI 0) hx hb dX7_told_77 ic0 ?_
            refine lv_ior hx hb dX7_told_78 ?_
            refine lv_topi (fun x21 ex21 => ?_)
            have hf := bd_at ex21 hf
            refine lv_istore_n (lv' := [(2, .int x21), (0, .ref D.1), (1, .int x6), (3, .int x8)]) hx hb dX7_told_79 rfl hl (by decide) rfl (fun ls hl => ?_)
            obtain ⟨x22, ex22, hf⟩ := bd_some hf
            refine lv_iinc (v := x22) (lv' := [(3, .int x22), (2, .int x21), (0, .ref D.1), (1, .int x6)]) hx hb dX7_told_80 hl (k := 3) rfl (by rw [ex22]; first | done | rfl) (by decide) rfl (fun ls hl => ?_)
            refine lv_goto (tgt := 30) hx hb dX7_told_83 (by decide) ?_
            cases hf
            exact hk _ _ _ hM (lv_sub hl [2, 3, 1, 0] rfl)
          · have hf := it_neg c20 hf
            refine lv_iconst (v := nI 1) hx hb dX7_told_71 ic1 ?_
            refine lv_iload_n hx hb dX7_told_72 rfl (lv_at hl 3 rfl) ?_
            refine lv_ishl hx hb dX7_told_73 ?_
            refine lv_goto (tgt := 78) hx hb dX7_told_74 (by decide) ?_
            refine lv_ior hx hb dX7_told_78 ?_
            refine lv_topi (fun x23 ex23 => ?_)
            have hf := bd_at ex23 hf
            refine lv_istore_n (lv' := [(2, .int x23), (0, .ref D.1), (1, .int x6), (3, .int x8)]) hx hb dX7_told_79 rfl hl (by decide) rfl (fun ls hl => ?_)
            obtain ⟨x24, ex24, hf⟩ := bd_some hf
            refine lv_iinc (v := x24) (lv' := [(3, .int x24), (2, .int x23), (0, .ref D.1), (1, .int x6)]) hx hb dX7_told_80 hl (k := 3) rfl (by rw [ex24]; first | done | rfl) (by decide) rfl (fun ls hl => ?_)
            refine lv_goto (tgt := 30) hx hb dX7_told_83 (by decide) ?_
            cases hf
            exact hk _ _ _ hM (lv_sub hl [2, 3, 1, 0] rfl)
  refine lv_icmp_ne (tgt := 19) hx hb dX7_told_7 (by decide) (fun c2 => ?_) (fun c2 => ?_)
  · have hf := it_neg c2 hf
    refine lv_aload_n hx hb dX7_told_19 rfl (lv_at hl 0 rfl) ?_
    refine mr_get B hM 6 (v := .ref (D.2.1 6)) rfl (by decide) q1652 dX7_told_20 ?_
    refine lv_iconst (v := nI 0) hx hb dX7_told_23 ic0 ?_
    obtain ⟨v4, ev4, hiv4, hf⟩ := ald_some hf
    refine mr_iald B hM 6 (by decide) rfl hiv4 ev4 dX7_told_24 ?_
    exact j3 v4 hf _ _ _ hM (lv_sub hl [0] rfl)
  · have hf := it_pos c2 hf
    refine lv_aload_n hx hb dX7_told_10 rfl (lv_at hl 0 rfl) ?_
    refine mr_get B hM 5 (v := .ref (D.2.1 5)) rfl (by decide) q1651 dX7_told_11 ?_
    refine lv_iconst (v := nI 0) hx hb dX7_told_14 ic0 ?_
    obtain ⟨v5, ev5, hiv5, hf⟩ := ald_some hf
    refine mr_iald B hM 5 (by decide) rfl hiv5 ev5 dX7_told_15 ?_
    refine lv_goto (tgt := 25) hx hb dX7_told_16 (by decide) ?_
    exact j3 v5 hf _ _ _ hM (lv_sub hl [0] rfl)
def f_X7_prepare (S : MS) : Option MS :=
  bnd (f_X7_told S) fun r1 => bd (m_up S 48 0 r1) fun S2 => bnd (f_X7_findKnown S2) fun S3 => some S3
abbrev r_X7_prepare : Room := { frames := 3, cells := 0, slots := 0, locals := 72 }
set_option maxHeartbeats 4000000 in
set_option maxRecDepth 100000 in
theorem c_X7_prepare (l : Launch) (D : MD) (S : MS)  {S' : MS} (hf : f_X7_prepare S = some S') : m_Met l yX7_prepare cX7_prepare 1 (Option.none : Option Jvm.ClassFile.FieldType) r_X7_prepare D [.ref D.1] S none S' := by
  refine m_metV (F := 3) (L := 72) (by decide) rfl (Nat.le_of_ble_eq_true rfl) (fun p e s m args below meth c Q B hret hM ls hl => ?_)
  have hx := B.1
  have hb := B.2.1
  have hown := B.2.2.2.1
  have hts := B.2.2.2.2
  have hl : lv_has ls 1 [(0, .ref D.1)] := hl
  generalize s.heap = H, ([] : List Loc) = locs at hM ⊢
  unfold f_X7_prepare at hf
  refine lv_aload_n hx hb dX7_prepare_0 rfl (lv_at hl 0 rfl) ?_
  refine lv_aload_n hx hb dX7_prepare_1 rfl (lv_at hl 0 rfl) ?_
  obtain ⟨r1, hcr1, hf⟩ := bnd_some hf
  refine mr_callV (rest := [.ref D.1]) B hM (c_X7_told l D S  hcr1) (cwV 0 hts (lw_V q2120 q2122 qs86 q113 q2123) rfl rfl rfl hd_X7_told ⟨Nat.le_of_ble_eq_true rfl, Nat.le_of_ble_eq_true rfl⟩) rfl hl.1 rfl (Nat.le_of_ble_eq_true rfl) dX7_prepare_2 ⟨Nat.zero_le _, Nat.zero_le _⟩ (fun H locs hM => ?_)
  obtain ⟨S2, eS2, hf⟩ := bd_some hf
  refine mr_puti B hM 48 (by decide) eS2 rfl (tyX7_ok 48 (by decide)) q1694 dX7_prepare_5 (fun H locs hM => ?_)
  refine lv_aload_n hx hb dX7_prepare_8 rfl (lv_at hl 0 rfl) ?_
  obtain ⟨S3, hcS3, hf⟩ := bnd_some hf
  refine mr_callV (rest := []) B hM (c_X7_findKnown l D S2  hcS3) (cwV 0 hts (lw_V q2124 q2126 qs87 q113 q2127) rfl rfl rfl hd_X7_findKnown ⟨Nat.le_of_ble_eq_true rfl, Nat.le_of_ble_eq_true rfl⟩) rfl hl.1 rfl (Nat.le_of_ble_eq_true rfl) dX7_prepare_9 ⟨Nat.zero_le _, Nat.zero_le _⟩ (fun H locs hM => ?_)
  cases hf
  exact hret _ _ _ _ hM dX7_prepare_12
def f_X7_worlds_L22 (x6 : Int32) (x7 : Int32) (S8 : MS) : Option ((Int32 × Int32 × MS) ⊕ ((Int32 × MS))) :=
  bnd (f_X7_manyFacts S8) fun r9 => (if (nI 1 <<< (r9 &&& 31)) ≤ x7 then some (.inr (x6, S8)) else bnd (f_X7_isWorld S8 x7) <| u2 fun r11 S12 => (if r11 = 0 then bd (x6 + nI 0) fun x14 => bd (x7 + nI 1) fun x15 => some (.inl (x14, x15, S12)) else bd (x6 + nI 1) fun x16 => bd (x7 + nI 1) fun x17 => some (.inl (x16, x17, S12))))
def f_X7_worlds (S : MS) : Option (Int32 × MS) :=
  bd (m_up S 0 0 (nI 0)) fun S1 => bnd (f_X7_canTell S1) <| u2 fun r2 S3 => (if r2 = 0 then some ((-1), S3) else bnd (f_X7_prepare S3) fun S5 => bnd (wO (fun t : Int32 × Int32 × MS => f_X7_worlds_L22 t.1 t.2.1 t.2.2) fu (nI 0, nI 0, S5)) <| u2 fun x20 S21 => some (x20, S21))
abbrev r_X7_worlds : Room := { frames := 9, cells := 0, slots := 0, locals := 210 }
set_option maxHeartbeats 4000000 in
set_option maxRecDepth 100000 in
theorem c_X7_worlds (l : Launch) (D : MD) (S : MS)  {r : Int32} {S' : MS} (hf : f_X7_worlds S = some (r, S')) : m_Met l yX7_worlds cX7_worlds 3 (Option.some Jvm.ClassFile.FieldType.int) r_X7_worlds D [.ref D.1] S (some (.int r)) S' := by
  refine m_metI (F := 9) (L := 210) (by decide) rfl (Nat.le_of_ble_eq_true rfl) (fun p e s m args below meth c Q B hret hM ls hl => ?_)
  have hx := B.1
  have hb := B.2.1
  have hown := B.2.2.2.1
  have hts := B.2.2.2.2
  have hl : lv_has ls 3 [(0, .ref D.1)] := hl
  generalize s.heap = H, ([] : List Loc) = locs at hM ⊢
  unfold f_X7_worlds at hf
  refine lv_aload_n hx hb dX7_worlds_0 rfl (lv_at hl 0 rfl) ?_
  refine lv_iconst (v := nI 0) hx hb dX7_worlds_1 ic0 ?_
  obtain ⟨S1, eS1, hf⟩ := bd_some hf
  refine mr_puti B hM 0 (by decide) eS1 rfl (tyX7_ok 0 (by decide)) q1646 dX7_worlds_2 (fun H locs hM => ?_)
  refine lv_aload_n hx hb dX7_worlds_5 rfl (lv_at hl 0 rfl) ?_
  obtain ⟨⟨r2, S3⟩, hcr2, hf⟩ := bnd_some hf
  have hf := u2_at hf
  refine mr_callV (rest := []) B hM (c_X7_canTell l D S1  hcr2) (cwV 0 hts (lw_V q1904 q1906 qs53 q113 q1907) rfl rfl rfl hd_X7_canTell ⟨Nat.le_of_ble_eq_true rfl, Nat.le_of_ble_eq_true rfl⟩) rfl hl.1 rfl (Nat.le_of_ble_eq_true rfl) dX7_worlds_6 ⟨Nat.zero_le _, Nat.zero_le _⟩ (fun H locs hM => ?_)
  refine lv_if_ne (tgt := 14) hx hb dX7_worlds_9 (by decide) (fun c4 => ?_) (fun c4 => ?_)
  · have hf := it_neg c4 hf
    refine lv_aload_n hx hb dX7_worlds_14 rfl (lv_at hl 0 rfl) ?_
    obtain ⟨S5, hcS5, hf⟩ := bnd_some hf
    refine mr_callV (rest := []) B hM (c_X7_prepare l D S3  hcS5) (cwV 0 hts (lw_V q2116 q2118 qs85 q113 q2119) rfl rfl rfl hd_X7_prepare ⟨Nat.le_of_ble_eq_true rfl, Nat.le_of_ble_eq_true rfl⟩) rfl hl.1 rfl (Nat.le_of_ble_eq_true rfl) dX7_worlds_15 ⟨Nat.zero_le _, Nat.zero_le _⟩ (fun H locs hM => ?_)
    refine lv_iconst (v := nI 0) hx hb dX7_worlds_18 ic0 ?_
    refine lv_istore_n (lv' := [(1, .int (nI 0)), (0, .ref D.1)]) hx hb dX7_worlds_19 rfl hl (by decide) rfl (fun ls hl => ?_)
    refine lv_iconst (v := nI 0) hx hb dX7_worlds_20 ic0 ?_
    refine lv_istore_n (lv' := [(2, .int (nI 0)), (1, .int (nI 0)), (0, .ref D.1)]) hx hb dX7_worlds_21 rfl hl (by decide) rfl (fun ls hl => ?_)
    obtain ⟨y19, hxy19, hf⟩ := bnd_some hf
    have hy19 : (fun t : Int32 × MS => ∀ (H : Heap) (locs : List Loc) (ls : Array Slot), m_I D s H locs t.2 → lv_has ls 3 [(1, .int t.1)] → W p l e r_X7_worlds s m args below meth c H locs 0 0 Q (F0 m 54 ls [])) y19 := by
      rcases y19 with ⟨x20, S21⟩
      have hf := u2_at hf
      intro H locs ls hM hl
      refine lv_iload_n hx hb dX7_worlds_54 rfl (lv_at hl 0 rfl) ?_
      cases hf
      exact hret _ _ _ _ rfl hM dX7_worlds_55
    refine lp_W (step := (fun t : Int32 × Int32 × MS => f_X7_worlds_L22 t.1 t.2.1 t.2.2)) (fun t : Int32 × Int32 × MS => ∀ (H : Heap) (locs : List Loc) (ls : Array Slot), m_I D s H locs t.2.2 → lv_has ls 3 [(0, .ref D.1), (1, .int t.1), (2, .int t.2.1)] → W p l e r_X7_worlds s m args below meth c H locs 0 0 Q (F0 m 22 ls [])) (fun t : Int32 × MS => ∀ (H : Heap) (locs : List Loc) (ls : Array Slot), m_I D s H locs t.2 → lv_has ls 3 [(1, .int t.1)] → W p l e r_X7_worlds s m args below meth c H locs 0 0 Q (F0 m 54 ls [])) ?_ fu (nI 0, nI 0, S5) y19 hxy19 hy19 _ _ _ hM (lv_sub hl [2, 1, 0] rfl)
    clear hf hxy19 hy19
    rintro ⟨x6, x7, S8⟩ o (hf : f_X7_worlds_L22 x6 x7 S8 = some o) hk
    intro H locs ls hM hl
    unfold f_X7_worlds_L22 at hf
    refine lv_iload_n hx hb dX7_worlds_22 rfl (lv_at hl 2 rfl) ?_
    refine lv_iconst (v := nI 1) hx hb dX7_worlds_23 ic1 ?_
    refine lv_aload_n hx hb dX7_worlds_24 rfl (lv_at hl 0 rfl) ?_
    obtain ⟨r9, hcr9, hf⟩ := bnd_some hf
    refine mr_callV (rest := [.int (nI 1), .int x7]) B hM (c_X7_manyFacts l D S8  hcr9) (cwV 0 hts (lw_V q1868 q1870 qs49 q113 q1871) rfl rfl rfl hd_X7_manyFacts ⟨Nat.le_of_ble_eq_true rfl, Nat.le_of_ble_eq_true rfl⟩) rfl hl.1 rfl (Nat.le_of_ble_eq_true rfl) dX7_worlds_25 ⟨Nat.zero_le _, Nat.zero_le _⟩ (fun H locs hM => ?_)
    refine lv_ishl hx hb dX7_worlds_28 ?_
    refine lv_icmp_ge (tgt := 54) hx hb dX7_worlds_29 (by decide) (fun c10 => ?_) (fun c10 => ?_)
    · have hf := it_pos c10 hf
      cases hf
      exact hk _ _ _ hM (lv_sub hl [1] rfl)
    · have hf := it_neg c10 hf
      refine lv_iload_n hx hb dX7_worlds_32 rfl (lv_at hl 1 rfl) ?_
      refine lv_aload_n hx hb dX7_worlds_33 rfl (lv_at hl 0 rfl) ?_
      refine lv_iload_n hx hb dX7_worlds_34 rfl (lv_at hl 2 rfl) ?_
      obtain ⟨⟨r11, S12⟩, hcr11, hf⟩ := bnd_some hf
      have hf := u2_at hf
      refine mr_callV (rest := [.int x6]) B hM (c_X7_isWorld l D S8 x7 hcr11) (cwV 1 hts (lw_V q2128 q2130 qs88 q113 q2131) rfl rfl rfl hd_X7_isWorld ⟨Nat.le_of_ble_eq_true rfl, Nat.le_of_ble_eq_true rfl⟩) rfl hl.1 rfl (Nat.le_of_ble_eq_true rfl) dX7_worlds_35 ⟨Nat.zero_le _, Nat.zero_le _⟩ (fun H locs hM => ?_)
      refine lv_if_eq (tgt := 45) hx hb dX7_worlds_38 (by decide) (fun c13 => ?_) (fun c13 => ?_)
      · have hf := it_pos c13 hf
        refine lv_iconst (v := nI 0) hx hb dX7_worlds_45 ic0 ?_
        refine lv_iadd hx hb dX7_worlds_46 ?_
        refine lv_topi (fun x14 ex14 => ?_)
        have hf := bd_at ex14 hf
        refine lv_istore_n (lv' := [(1, .int x14), (0, .ref D.1), (2, .int x7)]) hx hb dX7_worlds_47 rfl hl (by decide) rfl (fun ls hl => ?_)
        obtain ⟨x15, ex15, hf⟩ := bd_some hf
        refine lv_iinc (v := x15) (lv' := [(2, .int x15), (1, .int x14), (0, .ref D.1)]) hx hb dX7_worlds_48 hl (k := 2) rfl (by rw [ex15]; first | done | rfl) (by decide) rfl (fun ls hl => ?_)
        refine lv_goto (tgt := 22) hx hb dX7_worlds_51 (by decide) ?_
        cases hf
        exact hk _ _ _ hM (lv_sub hl [2, 1, 0] rfl)
      · have hf := it_neg c13 hf
        refine lv_iconst (v := nI 1) hx hb dX7_worlds_41 ic1 ?_
        refine lv_goto (tgt := 46) hx hb dX7_worlds_42 (by decide) ?_
        refine lv_iadd hx hb dX7_worlds_46 ?_
        refine lv_topi (fun x16 ex16 => ?_)
        have hf := bd_at ex16 hf
        refine lv_istore_n (lv' := [(1, .int x16), (0, .ref D.1), (2, .int x7)]) hx hb dX7_worlds_47 rfl hl (by decide) rfl (fun ls hl => ?_)
        obtain ⟨x17, ex17, hf⟩ := bd_some hf
        refine lv_iinc (v := x17) (lv' := [(2, .int x17), (1, .int x16), (0, .ref D.1)]) hx hb dX7_worlds_48 hl (k := 2) rfl (by rw [ex17]; first | done | rfl) (by decide) rfl (fun ls hl => ?_)
        refine lv_goto (tgt := 22) hx hb dX7_worlds_51 (by decide) ?_
        cases hf
        exact hk _ _ _ hM (lv_sub hl [2, 1, 0] rfl)
  · have hf := it_pos c4 hf
    refine lv_iconst (v := (-1)) hx hb dX7_worlds_12 icm1 ?_
    cases hf
    exact hret _ _ _ _ rfl hM dX7_worlds_13
def f_X7_leastImage_L4 (x1 : Int32) (x2 : Int32) (S3 : MS) : Option ((Int32 × Int32 × MS) ⊕ ((Int32 × MS))) :=
  (if nI 216 ≤ x2 then some (.inr (x1, S3)) else bnd (f_X7_takeOrders S3 x2) <| u2 fun r5 S6 => (if r5 = 0 then bd (x2 + nI 1) fun x8 => some (.inl (x1, x8, S6)) else bnd (f_X7_imageOf S6) fun r9 => (if x1 = (-1) then bd (x2 + nI 1) fun x11 => some (.inl (r9, x11, S6)) else (if x1 ≤ r9 then bd (x2 + nI 1) fun x13 => some (.inl (x1, x13, S6)) else bd (x2 + nI 1) fun x14 => some (.inl (r9, x14, S6))))))
def f_X7_leastImage (S : MS) : Option (Int32 × MS) :=
  bnd (wO (fun t : Int32 × Int32 × MS => f_X7_leastImage_L4 t.1 t.2.1 t.2.2) fu ((-1), nI 0, S)) <| u2 fun x17 S18 => some (x17, S18)
abbrev r_X7_leastImage : Room := { frames := 3, cells := 0, slots := 0, locals := 71 }
set_option maxHeartbeats 4000000 in
set_option maxRecDepth 100000 in
theorem c_X7_leastImage (l : Launch) (D : MD) (S : MS)  {r : Int32} {S' : MS} (hf : f_X7_leastImage S = some (r, S')) : m_Met l yX7_leastImage cX7_leastImage 4 (Option.some Jvm.ClassFile.FieldType.int) r_X7_leastImage D [.ref D.1] S (some (.int r)) S' := by
  refine m_metI (F := 3) (L := 71) (by decide) rfl (Nat.le_of_ble_eq_true rfl) (fun p e s m args below meth c Q B hret hM ls hl => ?_)
  have hx := B.1
  have hb := B.2.1
  have hown := B.2.2.2.1
  have hts := B.2.2.2.2
  have hl : lv_has ls 4 [(0, .ref D.1)] := hl
  generalize s.heap = H, ([] : List Loc) = locs at hM ⊢
  unfold f_X7_leastImage at hf
  refine lv_iconst (v := (-1)) hx hb dX7_leastImage_0 icm1 ?_
  refine lv_istore_n (lv' := [(1, .int (-1)), (0, .ref D.1)]) hx hb dX7_leastImage_1 rfl hl (by decide) rfl (fun ls hl => ?_)
  refine lv_iconst (v := nI 0) hx hb dX7_leastImage_2 ic0 ?_
  refine lv_istore_n (lv' := [(2, .int (nI 0)), (1, .int (-1)), (0, .ref D.1)]) hx hb dX7_leastImage_3 rfl hl (by decide) rfl (fun ls hl => ?_)
  obtain ⟨y16, hxy16, hf⟩ := bnd_some hf
  have hy16 : (fun t : Int32 × MS => ∀ (H : Heap) (locs : List Loc) (ls : Array Slot), m_I D s H locs t.2 → lv_has ls 4 [(1, .int t.1)] → W p l e r_X7_leastImage s m args below meth c H locs 0 0 Q (F0 m 46 ls [])) y16 := by
    rcases y16 with ⟨x17, S18⟩
    have hf := u2_at hf
    intro H locs ls hM hl
    refine lv_iload_n hx hb dX7_leastImage_46 rfl (lv_at hl 0 rfl) ?_
    cases hf
    exact hret _ _ _ _ rfl hM dX7_leastImage_47
  refine lp_W (step := (fun t : Int32 × Int32 × MS => f_X7_leastImage_L4 t.1 t.2.1 t.2.2)) (fun t : Int32 × Int32 × MS => ∀ (H : Heap) (locs : List Loc) (ls : Array Slot), m_I D s H locs t.2.2 → lv_has ls 4 [(0, .ref D.1), (1, .int t.1), (2, .int t.2.1)] → W p l e r_X7_leastImage s m args below meth c H locs 0 0 Q (F0 m 4 ls [])) (fun t : Int32 × MS => ∀ (H : Heap) (locs : List Loc) (ls : Array Slot), m_I D s H locs t.2 → lv_has ls 4 [(1, .int t.1)] → W p l e r_X7_leastImage s m args below meth c H locs 0 0 Q (F0 m 46 ls [])) ?_ fu ((-1), nI 0, S) y16 hxy16 hy16 _ _ _ hM (lv_sub hl [2, 1, 0] rfl)
  clear hf hxy16 hy16
  rintro ⟨x1, x2, S3⟩ o (hf : f_X7_leastImage_L4 x1 x2 S3 = some o) hk
  intro H locs ls hM hl
  unfold f_X7_leastImage_L4 at hf
  refine lv_iload_n hx hb dX7_leastImage_4 rfl (lv_at hl 2 rfl) ?_
  refine lv_sipush (v := nI 216) hx hb dX7_leastImage_5 sp216 ?_
  refine lv_icmp_ge (tgt := 46) hx hb dX7_leastImage_8 (by decide) (fun c4 => ?_) (fun c4 => ?_)
  · have hf := it_pos c4 hf
    cases hf
    exact hk _ _ _ hM (lv_sub hl [1] rfl)
  · have hf := it_neg c4 hf
    refine lv_aload_n hx hb dX7_leastImage_11 rfl (lv_at hl 0 rfl) ?_
    refine lv_iload_n hx hb dX7_leastImage_12 rfl (lv_at hl 2 rfl) ?_
    obtain ⟨⟨r5, S6⟩, hcr5, hf⟩ := bnd_some hf
    have hf := u2_at hf
    refine mr_callV (rest := []) B hM (c_X7_takeOrders l D S3 x2 hcr5) (cwV 1 hts (lw_V q1912 q1914 qs55 q113 q1915) rfl rfl rfl hd_X7_takeOrders ⟨Nat.le_of_ble_eq_true rfl, Nat.le_of_ble_eq_true rfl⟩) rfl hl.1 rfl (Nat.le_of_ble_eq_true rfl) dX7_leastImage_13 ⟨Nat.zero_le _, Nat.zero_le _⟩ (fun H locs hM => ?_)
    refine lv_if_eq (tgt := 40) hx hb dX7_leastImage_16 (by decide) (fun c7 => ?_) (fun c7 => ?_)
    · have hf := it_pos c7 hf
      obtain ⟨x8, ex8, hf⟩ := bd_some hf
      refine lv_iinc (v := x8) (lv' := [(2, .int x8), (0, .ref D.1), (1, .int x1)]) hx hb dX7_leastImage_40 hl (k := 2) rfl (by rw [ex8]; first | done | rfl) (by decide) rfl (fun ls hl => ?_)
      refine lv_goto (tgt := 4) hx hb dX7_leastImage_43 (by decide) ?_
      cases hf
      exact hk _ _ _ hM (lv_sub hl [1, 2, 0] rfl)
    · have hf := it_neg c7 hf
      refine lv_aload_n hx hb dX7_leastImage_19 rfl (lv_at hl 0 rfl) ?_
      obtain ⟨r9, hcr9, hf⟩ := bnd_some hf
      refine mr_callV (rest := []) B hM (c_X7_imageOf l D S6  hcr9) (cwV 0 hts (lw_V q1922 q1924 qs56 q113 q1925) rfl rfl rfl hd_X7_imageOf ⟨Nat.le_of_ble_eq_true rfl, Nat.le_of_ble_eq_true rfl⟩) rfl hl.1 rfl (Nat.le_of_ble_eq_true rfl) dX7_leastImage_20 ⟨Nat.zero_le _, Nat.zero_le _⟩ (fun H locs hM => ?_)
      refine lv_istore_n (lv' := [(3, .int r9), (0, .ref D.1), (1, .int x1), (2, .int x2)]) hx hb dX7_leastImage_23 rfl hl (by decide) rfl (fun ls hl => ?_)
      refine lv_iload_n hx hb dX7_leastImage_24 rfl (lv_at hl 2 rfl) ?_
      refine lv_iconst (v := (-1)) hx hb dX7_leastImage_25 icm1 ?_
      refine lv_icmp_eq (tgt := 34) hx hb dX7_leastImage_26 (by decide) (fun c10 => ?_) (fun c10 => ?_)
      · have hf := it_pos c10 hf
        refine lv_iload_n hx hb dX7_leastImage_34 rfl (lv_at hl 0 rfl) ?_
        refine lv_goto (tgt := 39) hx hb dX7_leastImage_35 (by decide) ?_
        refine lv_istore_n (lv' := [(1, .int r9), (3, .int r9), (0, .ref D.1), (2, .int x2)]) hx hb dX7_leastImage_39 rfl hl (by decide) rfl (fun ls hl => ?_)
        obtain ⟨x11, ex11, hf⟩ := bd_some hf
        refine lv_iinc (v := x11) (lv' := [(2, .int x11), (1, .int r9), (3, .int r9), (0, .ref D.1)]) hx hb dX7_leastImage_40 hl (k := 3) rfl (by rw [ex11]; first | done | rfl) (by decide) rfl (fun ls hl => ?_)
        refine lv_goto (tgt := 4) hx hb dX7_leastImage_43 (by decide) ?_
        cases hf
        exact hk _ _ _ hM (lv_sub hl [3, 1, 0] rfl)
      · have hf := it_neg c10 hf
        refine lv_iload_n hx hb dX7_leastImage_29 rfl (lv_at hl 0 rfl) ?_
        refine lv_iload_n hx hb dX7_leastImage_30 rfl (lv_at hl 2 rfl) ?_
        refine lv_icmp_ge (tgt := 38) hx hb dX7_leastImage_31 (by decide) (fun c12 => ?_) (fun c12 => ?_)
        · have hf := it_pos c12 hf
          refine lv_iload_n hx hb dX7_leastImage_38 rfl (lv_at hl 2 rfl) ?_
          refine lv_istore_n (lv' := [(1, .int x1), (3, .int r9), (0, .ref D.1), (2, .int x2)]) hx hb dX7_leastImage_39 rfl hl (by decide) rfl (fun ls hl => ?_)
          obtain ⟨x13, ex13, hf⟩ := bd_some hf
          refine lv_iinc (v := x13) (lv' := [(2, .int x13), (1, .int x1), (3, .int r9), (0, .ref D.1)]) hx hb dX7_leastImage_40 hl (k := 3) rfl (by rw [ex13]; first | done | rfl) (by decide) rfl (fun ls hl => ?_)
          refine lv_goto (tgt := 4) hx hb dX7_leastImage_43 (by decide) ?_
          cases hf
          exact hk _ _ _ hM (lv_sub hl [3, 1, 0] rfl)
        · have hf := it_neg c12 hf
          refine lv_iload_n hx hb dX7_leastImage_34 rfl (lv_at hl 0 rfl) ?_
          refine lv_goto (tgt := 39) hx hb dX7_leastImage_35 (by decide) ?_
          refine lv_istore_n (lv' := [(1, .int r9), (3, .int r9), (0, .ref D.1), (2, .int x2)]) hx hb dX7_leastImage_39 rfl hl (by decide) rfl (fun ls hl => ?_)
          obtain ⟨x14, ex14, hf⟩ := bd_some hf
          refine lv_iinc (v := x14) (lv' := [(2, .int x14), (1, .int r9), (3, .int r9), (0, .ref D.1)]) hx hb dX7_leastImage_40 hl (k := 3) rfl (by rw [ex14]; first | done | rfl) (by decide) rfl (fun ls hl => ?_)
          refine lv_goto (tgt := 4) hx hb dX7_leastImage_43 (by decide) ?_
          cases hf
          exact hk _ _ _ hM (lv_sub hl [3, 1, 0] rfl)
def f_X7_isForm (S : MS) (p0 : Int32) : Option (Int32 × MS) :=
  bnd (f_X7_isWorld S p0) <| u2 fun r1 S2 => (if r1 = 0 then some (nI 0, S2) else bnd (f_X7_leastImage S2) <| u2 fun r4 S5 => (if r4 = p0 then some (nI 1, S5) else some (nI 0, S5)))
abbrev r_X7_isForm : Room := { frames := 9, cells := 0, slots := 0, locals := 210 }
set_option maxHeartbeats 4000000 in
set_option maxRecDepth 100000 in
theorem c_X7_isForm (l : Launch) (D : MD) (S : MS) (p0 : Int32) {r : Int32} {S' : MS} (hf : f_X7_isForm S p0 = some (r, S')) : m_Met l yX7_isForm cX7_isForm 2 (Option.some Jvm.ClassFile.FieldType.boolean) r_X7_isForm D [.ref D.1, .int p0] S (some (.int r)) S' := by
  refine m_metI (F := 9) (L := 210) (by decide) rfl (Nat.le_of_ble_eq_true rfl) (fun p e s m args below meth c Q B hret hM ls hl => ?_)
  have hx := B.1
  have hb := B.2.1
  have hown := B.2.2.2.1
  have hts := B.2.2.2.2
  have hl : lv_has ls 2 [(0, .ref D.1), (1, .int p0)] := hl
  generalize s.heap = H, ([] : List Loc) = locs at hM ⊢
  unfold f_X7_isForm at hf
  refine lv_aload_n hx hb dX7_isForm_0 rfl (lv_at hl 0 rfl) ?_
  refine lv_iload_n hx hb dX7_isForm_1 rfl (lv_at hl 1 rfl) ?_
  obtain ⟨⟨r1, S2⟩, hcr1, hf⟩ := bnd_some hf
  have hf := u2_at hf
  refine mr_callV (rest := []) B hM (c_X7_isWorld l D S p0 hcr1) (cwV 1 hts (lw_V q2128 q2130 qs88 q113 q2131) rfl rfl rfl hd_X7_isWorld ⟨Nat.le_of_ble_eq_true rfl, Nat.le_of_ble_eq_true rfl⟩) rfl hl.1 rfl (Nat.le_of_ble_eq_true rfl) dX7_isForm_2 ⟨Nat.zero_le _, Nat.zero_le _⟩ (fun H locs hM => ?_)
  refine lv_if_eq (tgt := 20) hx hb dX7_isForm_5 (by decide) (fun c3 => ?_) (fun c3 => ?_)
  · have hf := it_pos c3 hf
    refine lv_iconst (v := nI 0) hx hb dX7_isForm_20 ic0 ?_
    cases hf
    exact hret _ _ _ _ rfl hM dX7_isForm_21
  · have hf := it_neg c3 hf
    refine lv_aload_n hx hb dX7_isForm_8 rfl (lv_at hl 0 rfl) ?_
    obtain ⟨⟨r4, S5⟩, hcr4, hf⟩ := bnd_some hf
    have hf := u2_at hf
    refine mr_callV (rest := []) B hM (c_X7_leastImage l D S2  hcr4) (cwV 0 hts (lw_V q2148 q2150 qs92 q113 q2151) rfl rfl rfl hd_X7_leastImage ⟨Nat.le_of_ble_eq_true rfl, Nat.le_of_ble_eq_true rfl⟩) rfl hl.1 rfl (Nat.le_of_ble_eq_true rfl) dX7_isForm_9 ⟨Nat.zero_le _, Nat.zero_le _⟩ (fun H locs hM => ?_)
    refine lv_iload_n hx hb dX7_isForm_12 rfl (lv_at hl 1 rfl) ?_
    refine lv_icmp_ne (tgt := 20) hx hb dX7_isForm_13 (by decide) (fun c6 => ?_) (fun c6 => ?_)
    · have hf := it_neg c6 hf
      refine lv_iconst (v := nI 0) hx hb dX7_isForm_20 ic0 ?_
      cases hf
      exact hret _ _ _ _ rfl hM dX7_isForm_21
    · have hf := it_pos c6 hf
      refine lv_iconst (v := nI 1) hx hb dX7_isForm_16 ic1 ?_
      refine lv_goto (tgt := 21) hx hb dX7_isForm_17 (by decide) ?_
      cases hf
      exact hret _ _ _ _ rfl hM dX7_isForm_21
def f_X7_forms_L22 (x6 : Int32) (x7 : Int32) (S8 : MS) : Option ((Int32 × Int32 × MS) ⊕ ((Int32 × MS))) :=
  bnd (f_X7_manyFacts S8) fun r9 => (if (nI 1 <<< (r9 &&& 31)) ≤ x7 then some (.inr (x6, S8)) else bnd (f_X7_isForm S8 x7) <| u2 fun r11 S12 => (if r11 = 0 then bd (x6 + nI 0) fun x14 => bd (x7 + nI 1) fun x15 => some (.inl (x14, x15, S12)) else bd (x6 + nI 1) fun x16 => bd (x7 + nI 1) fun x17 => some (.inl (x16, x17, S12))))
def f_X7_forms (S : MS) : Option (Int32 × MS) :=
  bd (m_up S 0 0 (nI 0)) fun S1 => bnd (f_X7_canTell S1) <| u2 fun r2 S3 => (if r2 = 0 then some ((-1), S3) else bnd (f_X7_prepare S3) fun S5 => bnd (wO (fun t : Int32 × Int32 × MS => f_X7_forms_L22 t.1 t.2.1 t.2.2) fu (nI 0, nI 0, S5)) <| u2 fun x20 S21 => some (x20, S21))
abbrev r_X7_forms : Room := { frames := 10, cells := 0, slots := 0, locals := 231 }
set_option maxHeartbeats 4000000 in
set_option maxRecDepth 100000 in
theorem c_X7_forms (l : Launch) (D : MD) (S : MS)  {r : Int32} {S' : MS} (hf : f_X7_forms S = some (r, S')) : m_Met l yX7_forms cX7_forms 3 (Option.some Jvm.ClassFile.FieldType.int) r_X7_forms D [.ref D.1] S (some (.int r)) S' := by
  refine m_metI (F := 10) (L := 231) (by decide) rfl (Nat.le_of_ble_eq_true rfl) (fun p e s m args below meth c Q B hret hM ls hl => ?_)
  have hx := B.1
  have hb := B.2.1
  have hown := B.2.2.2.1
  have hts := B.2.2.2.2
  have hl : lv_has ls 3 [(0, .ref D.1)] := hl
  generalize s.heap = H, ([] : List Loc) = locs at hM ⊢
  unfold f_X7_forms at hf
  refine lv_aload_n hx hb dX7_forms_0 rfl (lv_at hl 0 rfl) ?_
  refine lv_iconst (v := nI 0) hx hb dX7_forms_1 ic0 ?_
  obtain ⟨S1, eS1, hf⟩ := bd_some hf
  refine mr_puti B hM 0 (by decide) eS1 rfl (tyX7_ok 0 (by decide)) q1646 dX7_forms_2 (fun H locs hM => ?_)
  refine lv_aload_n hx hb dX7_forms_5 rfl (lv_at hl 0 rfl) ?_
  obtain ⟨⟨r2, S3⟩, hcr2, hf⟩ := bnd_some hf
  have hf := u2_at hf
  refine mr_callV (rest := []) B hM (c_X7_canTell l D S1  hcr2) (cwV 0 hts (lw_V q1904 q1906 qs53 q113 q1907) rfl rfl rfl hd_X7_canTell ⟨Nat.le_of_ble_eq_true rfl, Nat.le_of_ble_eq_true rfl⟩) rfl hl.1 rfl (Nat.le_of_ble_eq_true rfl) dX7_forms_6 ⟨Nat.zero_le _, Nat.zero_le _⟩ (fun H locs hM => ?_)
  refine lv_if_ne (tgt := 14) hx hb dX7_forms_9 (by decide) (fun c4 => ?_) (fun c4 => ?_)
  · have hf := it_neg c4 hf
    refine lv_aload_n hx hb dX7_forms_14 rfl (lv_at hl 0 rfl) ?_
    obtain ⟨S5, hcS5, hf⟩ := bnd_some hf
    refine mr_callV (rest := []) B hM (c_X7_prepare l D S3  hcS5) (cwV 0 hts (lw_V q2116 q2118 qs85 q113 q2119) rfl rfl rfl hd_X7_prepare ⟨Nat.le_of_ble_eq_true rfl, Nat.le_of_ble_eq_true rfl⟩) rfl hl.1 rfl (Nat.le_of_ble_eq_true rfl) dX7_forms_15 ⟨Nat.zero_le _, Nat.zero_le _⟩ (fun H locs hM => ?_)
    refine lv_iconst (v := nI 0) hx hb dX7_forms_18 ic0 ?_
    refine lv_istore_n (lv' := [(1, .int (nI 0)), (0, .ref D.1)]) hx hb dX7_forms_19 rfl hl (by decide) rfl (fun ls hl => ?_)
    refine lv_iconst (v := nI 0) hx hb dX7_forms_20 ic0 ?_
    refine lv_istore_n (lv' := [(2, .int (nI 0)), (1, .int (nI 0)), (0, .ref D.1)]) hx hb dX7_forms_21 rfl hl (by decide) rfl (fun ls hl => ?_)
    obtain ⟨y19, hxy19, hf⟩ := bnd_some hf
    have hy19 : (fun t : Int32 × MS => ∀ (H : Heap) (locs : List Loc) (ls : Array Slot), m_I D s H locs t.2 → lv_has ls 3 [(1, .int t.1)] → W p l e r_X7_forms s m args below meth c H locs 0 0 Q (F0 m 54 ls [])) y19 := by
      rcases y19 with ⟨x20, S21⟩
      have hf := u2_at hf
      intro H locs ls hM hl
      refine lv_iload_n hx hb dX7_forms_54 rfl (lv_at hl 0 rfl) ?_
      cases hf
      exact hret _ _ _ _ rfl hM dX7_forms_55
    refine lp_W (step := (fun t : Int32 × Int32 × MS => f_X7_forms_L22 t.1 t.2.1 t.2.2)) (fun t : Int32 × Int32 × MS => ∀ (H : Heap) (locs : List Loc) (ls : Array Slot), m_I D s H locs t.2.2 → lv_has ls 3 [(0, .ref D.1), (1, .int t.1), (2, .int t.2.1)] → W p l e r_X7_forms s m args below meth c H locs 0 0 Q (F0 m 22 ls [])) (fun t : Int32 × MS => ∀ (H : Heap) (locs : List Loc) (ls : Array Slot), m_I D s H locs t.2 → lv_has ls 3 [(1, .int t.1)] → W p l e r_X7_forms s m args below meth c H locs 0 0 Q (F0 m 54 ls [])) ?_ fu (nI 0, nI 0, S5) y19 hxy19 hy19 _ _ _ hM (lv_sub hl [2, 1, 0] rfl)
    clear hf hxy19 hy19
    rintro ⟨x6, x7, S8⟩ o (hf : f_X7_forms_L22 x6 x7 S8 = some o) hk
    intro H locs ls hM hl
    unfold f_X7_forms_L22 at hf
    refine lv_iload_n hx hb dX7_forms_22 rfl (lv_at hl 2 rfl) ?_
    refine lv_iconst (v := nI 1) hx hb dX7_forms_23 ic1 ?_
    refine lv_aload_n hx hb dX7_forms_24 rfl (lv_at hl 0 rfl) ?_
    obtain ⟨r9, hcr9, hf⟩ := bnd_some hf
    refine mr_callV (rest := [.int (nI 1), .int x7]) B hM (c_X7_manyFacts l D S8  hcr9) (cwV 0 hts (lw_V q1868 q1870 qs49 q113 q1871) rfl rfl rfl hd_X7_manyFacts ⟨Nat.le_of_ble_eq_true rfl, Nat.le_of_ble_eq_true rfl⟩) rfl hl.1 rfl (Nat.le_of_ble_eq_true rfl) dX7_forms_25 ⟨Nat.zero_le _, Nat.zero_le _⟩ (fun H locs hM => ?_)
    refine lv_ishl hx hb dX7_forms_28 ?_
    refine lv_icmp_ge (tgt := 54) hx hb dX7_forms_29 (by decide) (fun c10 => ?_) (fun c10 => ?_)
    · have hf := it_pos c10 hf
      cases hf
      exact hk _ _ _ hM (lv_sub hl [1] rfl)
    · have hf := it_neg c10 hf
      refine lv_iload_n hx hb dX7_forms_32 rfl (lv_at hl 1 rfl) ?_
      refine lv_aload_n hx hb dX7_forms_33 rfl (lv_at hl 0 rfl) ?_
      refine lv_iload_n hx hb dX7_forms_34 rfl (lv_at hl 2 rfl) ?_
      obtain ⟨⟨r11, S12⟩, hcr11, hf⟩ := bnd_some hf
      have hf := u2_at hf
      refine mr_callV (rest := [.int x6]) B hM (c_X7_isForm l D S8 x7 hcr11) (cwV 1 hts (lw_V q2144 q2146 qs91 q113 q2147) rfl rfl rfl hd_X7_isForm ⟨Nat.le_of_ble_eq_true rfl, Nat.le_of_ble_eq_true rfl⟩) rfl hl.1 rfl (Nat.le_of_ble_eq_true rfl) dX7_forms_35 ⟨Nat.zero_le _, Nat.zero_le _⟩ (fun H locs hM => ?_)
      refine lv_if_eq (tgt := 45) hx hb dX7_forms_38 (by decide) (fun c13 => ?_) (fun c13 => ?_)
      · have hf := it_pos c13 hf
        refine lv_iconst (v := nI 0) hx hb dX7_forms_45 ic0 ?_
        refine lv_iadd hx hb dX7_forms_46 ?_
        refine lv_topi (fun x14 ex14 => ?_)
        have hf := bd_at ex14 hf
        refine lv_istore_n (lv' := [(1, .int x14), (0, .ref D.1), (2, .int x7)]) hx hb dX7_forms_47 rfl hl (by decide) rfl (fun ls hl => ?_)
        obtain ⟨x15, ex15, hf⟩ := bd_some hf
        refine lv_iinc (v := x15) (lv' := [(2, .int x15), (1, .int x14), (0, .ref D.1)]) hx hb dX7_forms_48 hl (k := 2) rfl (by rw [ex15]; first | done | rfl) (by decide) rfl (fun ls hl => ?_)
        refine lv_goto (tgt := 22) hx hb dX7_forms_51 (by decide) ?_
        cases hf
        exact hk _ _ _ hM (lv_sub hl [2, 1, 0] rfl)
      · have hf := it_neg c13 hf
        refine lv_iconst (v := nI 1) hx hb dX7_forms_41 ic1 ?_
        refine lv_goto (tgt := 46) hx hb dX7_forms_42 (by decide) ?_
        refine lv_iadd hx hb dX7_forms_46 ?_
        refine lv_topi (fun x16 ex16 => ?_)
        have hf := bd_at ex16 hf
        refine lv_istore_n (lv' := [(1, .int x16), (0, .ref D.1), (2, .int x7)]) hx hb dX7_forms_47 rfl hl (by decide) rfl (fun ls hl => ?_)
        obtain ⟨x17, ex17, hf⟩ := bd_some hf
        refine lv_iinc (v := x17) (lv' := [(2, .int x17), (1, .int x16), (0, .ref D.1)]) hx hb dX7_forms_48 hl (k := 2) rfl (by rw [ex17]; first | done | rfl) (by decide) rfl (fun ls hl => ?_)
        refine lv_goto (tgt := 22) hx hb dX7_forms_51 (by decide) ?_
        cases hf
        exact hk _ _ _ hM (lv_sub hl [2, 1, 0] rfl)
  · have hf := it_pos c4 hf
    refine lv_iconst (v := (-1)) hx hb dX7_forms_12 icm1 ?_
    cases hf
    exact hret _ _ _ _ rfl hM dX7_forms_13
def f_X7_takeWorld_L7 (p0 : Int32) (r1 : Int32) (x2 : Int32) (S3 : MS) : Option ((Int32 × MS) ⊕ ((MS))) :=
  (if r1 ≤ x2 then some (.inr S3) else (if ((p0 >>> (((r1 - nI 1) - x2) &&& 31)) &&& nI 1) = 0 then ast 144 x2 (m_up S3 11 x2.toNatClampNeg (vp_nar .boolean (nI 0))) fun S6 => bd (x2 + nI 1) fun x7 => some (.inl (x7, S6)) else ast 144 x2 (m_up S3 11 x2.toNatClampNeg (vp_nar .boolean (nI 1))) fun S8 => bd (x2 + nI 1) fun x9 => some (.inl (x9, S8))))
def f_X7_takeWorld (S : MS) (p0 : Int32) : Option MS :=
  bnd (f_X7_manyFacts S) fun r1 => bnd (wO (fun t : Int32 × MS => f_X7_takeWorld_L7 p0 r1 t.1 t.2) fu (nI 0, S)) <| fun S12 => some S12
abbrev r_X7_takeWorld : Room := { frames := 1, cells := 0, slots := 0, locals := 20 }
set_option maxHeartbeats 4000000 in
set_option maxRecDepth 100000 in
theorem c_X7_takeWorld (l : Launch) (D : MD) (S : MS) (p0 : Int32) {S' : MS} (hf : f_X7_takeWorld S p0 = some S') : m_Met l yX7_takeWorld cX7_takeWorld 4 (Option.none : Option Jvm.ClassFile.FieldType) r_X7_takeWorld D [.ref D.1, .int p0] S none S' := by
  refine m_metV (F := 1) (L := 20) (by decide) rfl (Nat.le_of_ble_eq_true rfl) (fun p e s m args below meth c Q B hret hM ls hl => ?_)
  have hx := B.1
  have hb := B.2.1
  have hown := B.2.2.2.1
  have hts := B.2.2.2.2
  have hl : lv_has ls 4 [(0, .ref D.1), (1, .int p0)] := hl
  generalize s.heap = H, ([] : List Loc) = locs at hM ⊢
  unfold f_X7_takeWorld at hf
  refine lv_aload_n hx hb dX7_takeWorld_0 rfl (lv_at hl 0 rfl) ?_
  obtain ⟨r1, hcr1, hf⟩ := bnd_some hf
  refine mr_callV (rest := []) B hM (c_X7_manyFacts l D S  hcr1) (cwV 0 hts (lw_V q1868 q1870 qs49 q113 q1871) rfl rfl rfl hd_X7_manyFacts ⟨Nat.le_of_ble_eq_true rfl, Nat.le_of_ble_eq_true rfl⟩) rfl hl.1 rfl (Nat.le_of_ble_eq_true rfl) dX7_takeWorld_1 ⟨Nat.zero_le _, Nat.zero_le _⟩ (fun H locs hM => ?_)
  refine lv_istore_n (lv' := [(2, .int r1), (0, .ref D.1), (1, .int p0)]) hx hb dX7_takeWorld_4 rfl hl (by decide) rfl (fun ls hl => ?_)
  refine lv_iconst (v := nI 0) hx hb dX7_takeWorld_5 ic0 ?_
  refine lv_istore_n (lv' := [(3, .int (nI 0)), (2, .int r1), (0, .ref D.1), (1, .int p0)]) hx hb dX7_takeWorld_6 rfl hl (by decide) rfl (fun ls hl => ?_)
  obtain ⟨y11, hxy11, hf⟩ := bnd_some hf
  have hy11 : (fun t : MS => ∀ (H : Heap) (locs : List Loc) (ls : Array Slot), m_I D s H locs t → lv_has ls 4 [] → W p l e r_X7_takeWorld s m args below meth c H locs 0 0 Q (F0 m 41 ls [])) y11 := by
    obtain ⟨S12, rfl⟩ : ∃ z, z = y11 := ⟨_, rfl⟩
    intro H locs ls hM hl
    cases hf
    exact hret _ _ _ _ hM dX7_takeWorld_41
  refine lp_W (step := (fun t : Int32 × MS => f_X7_takeWorld_L7 p0 r1 t.1 t.2)) (fun t : Int32 × MS => ∀ (H : Heap) (locs : List Loc) (ls : Array Slot), m_I D s H locs t.2 → lv_has ls 4 [(0, .ref D.1), (1, .int p0), (2, .int r1), (3, .int t.1)] → W p l e r_X7_takeWorld s m args below meth c H locs 0 0 Q (F0 m 7 ls [])) (fun t : MS => ∀ (H : Heap) (locs : List Loc) (ls : Array Slot), m_I D s H locs t → lv_has ls 4 [] → W p l e r_X7_takeWorld s m args below meth c H locs 0 0 Q (F0 m 41 ls [])) ?_ fu (nI 0, S) y11 hxy11 hy11 _ _ _ hM (lv_sub hl [2, 3, 1, 0] rfl)
  clear hf hxy11 hy11
  rintro ⟨x2, S3⟩ o (hf : f_X7_takeWorld_L7 p0 r1 x2 S3 = some o) hk
  intro H locs ls hM hl
  unfold f_X7_takeWorld_L7 at hf
  refine lv_iload_n hx hb dX7_takeWorld_7 rfl (lv_at hl 3 rfl) ?_
  refine lv_iload_n hx hb dX7_takeWorld_8 rfl (lv_at hl 2 rfl) ?_
  refine lv_icmp_ge (tgt := 41) hx hb dX7_takeWorld_9 (by decide) (fun c4 => ?_) (fun c4 => ?_)
  · have hf := it_pos c4 hf
    cases hf
    exact hk _ _ _ hM (lv_sub hl [] rfl)
  · have hf := it_neg c4 hf
    refine lv_aload_n hx hb dX7_takeWorld_12 rfl (lv_at hl 0 rfl) ?_
    refine mr_get B hM 11 (v := .ref (D.2.1 11)) rfl (by decide) q1657 dX7_takeWorld_13 ?_
    refine lv_iload_n hx hb dX7_takeWorld_16 rfl (lv_at hl 3 rfl) ?_
    refine lv_iload_n hx hb dX7_takeWorld_17 rfl (lv_at hl 1 rfl) ?_
    refine lv_iload_n hx hb dX7_takeWorld_18 rfl (lv_at hl 2 rfl) ?_
    refine lv_iconst (v := nI 1) hx hb dX7_takeWorld_19 ic1 ?_
    refine lv_isub hx hb dX7_takeWorld_20 ?_
    refine lv_iload_n hx hb dX7_takeWorld_21 rfl (lv_at hl 3 rfl) ?_
    refine lv_isub hx hb dX7_takeWorld_22 ?_
    refine lv_ishr hx hb dX7_takeWorld_23 ?_
    refine lv_iconst (v := nI 1) hx hb dX7_takeWorld_24 ic1 ?_
    refine lv_iand hx hb dX7_takeWorld_25 ?_
    refine lv_if_eq (tgt := 33) hx hb dX7_takeWorld_26 (by decide) (fun c5 => ?_) (fun c5 => ?_)
    · have hf := it_pos c5 hf
      refine lv_iconst (v := nI 0) hx hb dX7_takeWorld_33 ic0 ?_
      obtain ⟨S6, eS6, hiS6, hf⟩ := ast_some hf
      refine mr_zast B hM 11 (by decide) rfl hiS6 eS6 dX7_takeWorld_34 (fun H locs hM => ?_)
      obtain ⟨x7, ex7, hf⟩ := bd_some hf
      refine lv_iinc (v := x7) (lv' := [(3, .int x7), (0, .ref D.1), (1, .int p0), (2, .int r1)]) hx hb dX7_takeWorld_35 hl (k := 3) rfl (by rw [ex7]; first | done | rfl) (by decide) rfl (fun ls hl => ?_)
      refine lv_goto (tgt := 7) hx hb dX7_takeWorld_38 (by decide) ?_
      cases hf
      exact hk _ _ _ hM (lv_sub hl [1, 2, 3, 0] rfl)
    · have hf := it_neg c5 hf
      refine lv_iconst (v := nI 1) hx hb dX7_takeWorld_29 ic1 ?_
      refine lv_goto (tgt := 34) hx hb dX7_takeWorld_30 (by decide) ?_
      obtain ⟨S8, eS8, hiS8, hf⟩ := ast_some hf
      refine mr_zast B hM 11 (by decide) rfl hiS8 eS8 dX7_takeWorld_34 (fun H locs hM => ?_)
      obtain ⟨x9, ex9, hf⟩ := bd_some hf
      refine lv_iinc (v := x9) (lv' := [(3, .int x9), (0, .ref D.1), (1, .int p0), (2, .int r1)]) hx hb dX7_takeWorld_35 hl (k := 3) rfl (by rw [ex9]; first | done | rfl) (by decide) rfl (fun ls hl => ?_)
      refine lv_goto (tgt := 7) hx hb dX7_takeWorld_38 (by decide) ?_
      cases hf
      exact hk _ _ _ hM (lv_sub hl [1, 2, 3, 0] rfl)
def f_X7_form_L22 (p0 : Int32) (x6 : Int32) (x7 : Int32) (S8 : MS) : Option ((Int32 × Int32 × MS) ⊕ ((Int32 × MS) ⊕ (MS))) :=
  bnd (f_X7_manyFacts S8) fun r9 => (if (nI 1 <<< (r9 &&& 31)) ≤ x7 then some (.inr (.inr S8)) else bnd (f_X7_isForm S8 x7) <| u2 fun r11 S12 => (if r11 = 0 then bd (x7 + nI 1) fun x14 => some (.inl (x6, x14, S12)) else (if x6 = p0 then some (.inr (.inl (x7, S12))) else bd (x6 + nI 1) fun x16 => bd (x7 + nI 1) fun x17 => some (.inl (x16, x17, S12)))))
def f_X7_form (S : MS) (p0 : Int32) : Option (Int32 × MS) :=
  bd (m_up S 0 0 (nI 0)) fun S1 => bnd (f_X7_canTell S1) <| u2 fun r2 S3 => (if r2 = 0 then some (nI 0, S3) else bnd (f_X7_prepare S3) fun S5 => bnd (wO (fun t : Int32 × Int32 × MS => f_X7_form_L22 p0 t.1 t.2.1 t.2.2) fu (nI 0, nI 0, S5)) (Sum.elim (u2 fun x20 S21 => bnd (f_X7_takeWorld S21 x20) fun S22 => some (nI 1, S22)) (fun S23 => some (nI 0, S23))))
abbrev r_X7_form : Room := { frames := 10, cells := 0, slots := 0, locals := 231 }
set_option maxHeartbeats 4000000 in
set_option maxRecDepth 100000 in
theorem c_X7_form (l : Launch) (D : MD) (S : MS) (p0 : Int32) {r : Int32} {S' : MS} (hf : f_X7_form S p0 = some (r, S')) : m_Met l yX7_form cX7_form 4 (Option.some Jvm.ClassFile.FieldType.boolean) r_X7_form D [.ref D.1, .int p0] S (some (.int r)) S' := by
  refine m_metI (F := 10) (L := 231) (by decide) rfl (Nat.le_of_ble_eq_true rfl) (fun p e s m args below meth c Q B hret hM ls hl => ?_)
  have hx := B.1
  have hb := B.2.1
  have hown := B.2.2.2.1
  have hts := B.2.2.2.2
  have hl : lv_has ls 4 [(0, .ref D.1), (1, .int p0)] := hl
  generalize s.heap = H, ([] : List Loc) = locs at hM ⊢
  unfold f_X7_form at hf
  refine lv_aload_n hx hb dX7_form_0 rfl (lv_at hl 0 rfl) ?_
  refine lv_iconst (v := nI 0) hx hb dX7_form_1 ic0 ?_
  obtain ⟨S1, eS1, hf⟩ := bd_some hf
  refine mr_puti B hM 0 (by decide) eS1 rfl (tyX7_ok 0 (by decide)) q1646 dX7_form_2 (fun H locs hM => ?_)
  refine lv_aload_n hx hb dX7_form_5 rfl (lv_at hl 0 rfl) ?_
  obtain ⟨⟨r2, S3⟩, hcr2, hf⟩ := bnd_some hf
  have hf := u2_at hf
  refine mr_callV (rest := []) B hM (c_X7_canTell l D S1  hcr2) (cwV 0 hts (lw_V q1904 q1906 qs53 q113 q1907) rfl rfl rfl hd_X7_canTell ⟨Nat.le_of_ble_eq_true rfl, Nat.le_of_ble_eq_true rfl⟩) rfl hl.1 rfl (Nat.le_of_ble_eq_true rfl) dX7_form_6 ⟨Nat.zero_le _, Nat.zero_le _⟩ (fun H locs hM => ?_)
  refine lv_if_ne (tgt := 14) hx hb dX7_form_9 (by decide) (fun c4 => ?_) (fun c4 => ?_)
  · have hf := it_neg c4 hf
    refine lv_aload_n hx hb dX7_form_14 rfl (lv_at hl 0 rfl) ?_
    obtain ⟨S5, hcS5, hf⟩ := bnd_some hf
    refine mr_callV (rest := []) B hM (c_X7_prepare l D S3  hcS5) (cwV 0 hts (lw_V q2116 q2118 qs85 q113 q2119) rfl rfl rfl hd_X7_prepare ⟨Nat.le_of_ble_eq_true rfl, Nat.le_of_ble_eq_true rfl⟩) rfl hl.1 rfl (Nat.le_of_ble_eq_true rfl) dX7_form_15 ⟨Nat.zero_le _, Nat.zero_le _⟩ (fun H locs hM => ?_)
    refine lv_iconst (v := nI 0) hx hb dX7_form_18 ic0 ?_
    refine lv_istore_n (lv' := [(2, .int (nI 0)), (0, .ref D.1), (1, .int p0)]) hx hb dX7_form_19 rfl hl (by decide) rfl (fun ls hl => ?_)
    refine lv_iconst (v := nI 0) hx hb dX7_form_20 ic0 ?_
    refine lv_istore_n (lv' := [(3, .int (nI 0)), (2, .int (nI 0)), (0, .ref D.1), (1, .int p0)]) hx hb dX7_form_21 rfl hl (by decide) rfl (fun ls hl => ?_)
    obtain ⟨y19, hxy19, hf⟩ := bnd_some hf
    have hy19 : (Sum.elim (fun t : Int32 × MS => ∀ (H : Heap) (locs : List Loc) (ls : Array Slot), m_I D s H locs t.2 → lv_has ls 4 [(0, .ref D.1), (3, .int t.1)] → W p l e r_X7_form s m args below meth c H locs 0 0 Q (F0 m 45 ls [])) (fun t : MS => ∀ (H : Heap) (locs : List Loc) (ls : Array Slot), m_I D s H locs t → lv_has ls 4 [] → W p l e r_X7_form s m args below meth c H locs 0 0 Q (F0 m 61 ls []))) y19 := by
      rcases y19 with ⟨x20, S21⟩ | S23
      · have hf := el_l hf
        have hf := u2_at hf
        intro H locs ls hM hl
        refine lv_aload_n hx hb dX7_form_45 rfl (lv_at hl 0 rfl) ?_
        refine lv_iload_n hx hb dX7_form_46 rfl (lv_at hl 1 rfl) ?_
        obtain ⟨S22, hcS22, hf⟩ := bnd_some hf
        refine mr_callV (rest := []) B hM (c_X7_takeWorld l D S21 x20 hcS22) (cwV 1 hts (lw_V q2156 q2158 qs93 q113 q2159) rfl rfl rfl hd_X7_takeWorld ⟨Nat.le_of_ble_eq_true rfl, Nat.le_of_ble_eq_true rfl⟩) rfl hl.1 rfl (Nat.le_of_ble_eq_true rfl) dX7_form_47 ⟨Nat.zero_le _, Nat.zero_le _⟩ (fun H locs hM => ?_)
        refine lv_iconst (v := nI 1) hx hb dX7_form_50 ic1 ?_
        cases hf
        exact hret _ _ _ _ rfl hM dX7_form_51
      · have hf := el_r hf
        intro H locs ls hM hl
        refine lv_iconst (v := nI 0) hx hb dX7_form_61 ic0 ?_
        cases hf
        exact hret _ _ _ _ rfl hM dX7_form_62
    refine lp_W (step := (fun t : Int32 × Int32 × MS => f_X7_form_L22 p0 t.1 t.2.1 t.2.2)) (fun t : Int32 × Int32 × MS => ∀ (H : Heap) (locs : List Loc) (ls : Array Slot), m_I D s H locs t.2.2 → lv_has ls 4 [(0, .ref D.1), (1, .int p0), (2, .int t.1), (3, .int t.2.1)] → W p l e r_X7_form s m args below meth c H locs 0 0 Q (F0 m 22 ls [])) (Sum.elim (fun t : Int32 × MS => ∀ (H : Heap) (locs : List Loc) (ls : Array Slot), m_I D s H locs t.2 → lv_has ls 4 [(0, .ref D.1), (3, .int t.1)] → W p l e r_X7_form s m args below meth c H locs 0 0 Q (F0 m 45 ls [])) (fun t : MS => ∀ (H : Heap) (locs : List Loc) (ls : Array Slot), m_I D s H locs t → lv_has ls 4 [] → W p l e r_X7_form s m args below meth c H locs 0 0 Q (F0 m 61 ls []))) ?_ fu (nI 0, nI 0, S5) y19 hxy19 hy19 _ _ _ hM (lv_sub hl [2, 3, 1, 0] rfl)
    clear hf hxy19 hy19
    rintro ⟨x6, x7, S8⟩ o (hf : f_X7_form_L22 p0 x6 x7 S8 = some o) hk
    intro H locs ls hM hl
    unfold f_X7_form_L22 at hf
    refine lv_iload_n hx hb dX7_form_22 rfl (lv_at hl 3 rfl) ?_
    refine lv_iconst (v := nI 1) hx hb dX7_form_23 ic1 ?_
    refine lv_aload_n hx hb dX7_form_24 rfl (lv_at hl 0 rfl) ?_
    obtain ⟨r9, hcr9, hf⟩ := bnd_some hf
    refine mr_callV (rest := [.int (nI 1), .int x7]) B hM (c_X7_manyFacts l D S8  hcr9) (cwV 0 hts (lw_V q1868 q1870 qs49 q113 q1871) rfl rfl rfl hd_X7_manyFacts ⟨Nat.le_of_ble_eq_true rfl, Nat.le_of_ble_eq_true rfl⟩) rfl hl.1 rfl (Nat.le_of_ble_eq_true rfl) dX7_form_25 ⟨Nat.zero_le _, Nat.zero_le _⟩ (fun H locs hM => ?_)
    refine lv_ishl hx hb dX7_form_28 ?_
    refine lv_icmp_ge (tgt := 61) hx hb dX7_form_29 (by decide) (fun c10 => ?_) (fun c10 => ?_)
    · have hf := it_pos c10 hf
      cases hf
      exact hk _ _ _ hM (lv_sub hl [] rfl)
    · have hf := it_neg c10 hf
      refine lv_aload_n hx hb dX7_form_32 rfl (lv_at hl 0 rfl) ?_
      refine lv_iload_n hx hb dX7_form_33 rfl (lv_at hl 3 rfl) ?_
      obtain ⟨⟨r11, S12⟩, hcr11, hf⟩ := bnd_some hf
      have hf := u2_at hf
      refine mr_callV (rest := []) B hM (c_X7_isForm l D S8 x7 hcr11) (cwV 1 hts (lw_V q2144 q2146 qs91 q113 q2147) rfl rfl rfl hd_X7_isForm ⟨Nat.le_of_ble_eq_true rfl, Nat.le_of_ble_eq_true rfl⟩) rfl hl.1 rfl (Nat.le_of_ble_eq_true rfl) dX7_form_34 ⟨Nat.zero_le _, Nat.zero_le _⟩ (fun H locs hM => ?_)
      refine lv_if_eq (tgt := 55) hx hb dX7_form_37 (by decide) (fun c13 => ?_) (fun c13 => ?_)
      · have hf := it_pos c13 hf
        obtain ⟨x14, ex14, hf⟩ := bd_some hf
        refine lv_iinc (v := x14) (lv' := [(3, .int x14), (0, .ref D.1), (1, .int p0), (2, .int x6)]) hx hb dX7_form_55 hl (k := 3) rfl (by rw [ex14]; first | done | rfl) (by decide) rfl (fun ls hl => ?_)
        refine lv_goto (tgt := 22) hx hb dX7_form_58 (by decide) ?_
        cases hf
        exact hk _ _ _ hM (lv_sub hl [1, 2, 3, 0] rfl)
      · have hf := it_neg c13 hf
        refine lv_iload_n hx hb dX7_form_40 rfl (lv_at hl 2 rfl) ?_
        refine lv_iload_n hx hb dX7_form_41 rfl (lv_at hl 1 rfl) ?_
        refine lv_icmp_ne (tgt := 52) hx hb dX7_form_42 (by decide) (fun c15 => ?_) (fun c15 => ?_)
        · have hf := it_neg c15 hf
          obtain ⟨x16, ex16, hf⟩ := bd_some hf
          refine lv_iinc (v := x16) (lv' := [(2, .int x16), (0, .ref D.1), (1, .int p0), (3, .int x7)]) hx hb dX7_form_52 hl (k := 2) rfl (by rw [ex16]; first | done | rfl) (by decide) rfl (fun ls hl => ?_)
          obtain ⟨x17, ex17, hf⟩ := bd_some hf
          refine lv_iinc (v := x17) (lv' := [(3, .int x17), (2, .int x16), (0, .ref D.1), (1, .int p0)]) hx hb dX7_form_55 hl (k := 3) rfl (by rw [ex17]; first | done | rfl) (by decide) rfl (fun ls hl => ?_)
          refine lv_goto (tgt := 22) hx hb dX7_form_58 (by decide) ?_
          cases hf
          exact hk _ _ _ hM (lv_sub hl [2, 3, 1, 0] rfl)
        · have hf := it_pos c15 hf
          cases hf
          exact hk _ _ _ hM (lv_sub hl [0, 3] rfl)
  · have hf := it_pos c4 hf
    refine lv_iconst (v := nI 0) hx hb dX7_form_12 ic0 ?_
    cases hf
    exact hret _ _ _ _ rfl hM dX7_form_13
def f_X7_name (S : MS) : Option (Int32 × MS) :=
  bd (m_up S 0 0 (nI 0)) fun S1 => bnd (f_X7_canTell S1) <| u2 fun r2 S3 => (if r2 = 0 then some (nI 0, S3) else bnd (f_X7_numberOfWorld S3) fun r5 => bnd (f_X7_layWorld S3 r5) fun S6 => bnd (f_X7_leastImage S6) <| u2 fun r7 S8 => bnd (f_X7_takeWorld S8 r7) fun S9 => (if r7 = r5 then some (nI 0, S9) else some (nI 1, S9)))
abbrev r_X7_name : Room := { frames := 4, cells := 0, slots := 0, locals := 94 }
set_option maxHeartbeats 4000000 in
set_option maxRecDepth 100000 in
theorem c_X7_name (l : Launch) (D : MD) (S : MS)  {r : Int32} {S' : MS} (hf : f_X7_name S = some (r, S')) : m_Met l yX7_name cX7_name 3 (Option.some Jvm.ClassFile.FieldType.boolean) r_X7_name D [.ref D.1] S (some (.int r)) S' := by
  refine m_metI (F := 4) (L := 94) (by decide) rfl (Nat.le_of_ble_eq_true rfl) (fun p e s m args below meth c Q B hret hM ls hl => ?_)
  have hx := B.1
  have hb := B.2.1
  have hown := B.2.2.2.1
  have hts := B.2.2.2.2
  have hl : lv_has ls 3 [(0, .ref D.1)] := hl
  generalize s.heap = H, ([] : List Loc) = locs at hM ⊢
  unfold f_X7_name at hf
  refine lv_aload_n hx hb dX7_name_0 rfl (lv_at hl 0 rfl) ?_
  refine lv_iconst (v := nI 0) hx hb dX7_name_1 ic0 ?_
  obtain ⟨S1, eS1, hf⟩ := bd_some hf
  refine mr_puti B hM 0 (by decide) eS1 rfl (tyX7_ok 0 (by decide)) q1646 dX7_name_2 (fun H locs hM => ?_)
  refine lv_aload_n hx hb dX7_name_5 rfl (lv_at hl 0 rfl) ?_
  obtain ⟨⟨r2, S3⟩, hcr2, hf⟩ := bnd_some hf
  have hf := u2_at hf
  refine mr_callV (rest := []) B hM (c_X7_canTell l D S1  hcr2) (cwV 0 hts (lw_V q1904 q1906 qs53 q113 q1907) rfl rfl rfl hd_X7_canTell ⟨Nat.le_of_ble_eq_true rfl, Nat.le_of_ble_eq_true rfl⟩) rfl hl.1 rfl (Nat.le_of_ble_eq_true rfl) dX7_name_6 ⟨Nat.zero_le _, Nat.zero_le _⟩ (fun H locs hM => ?_)
  refine lv_if_ne (tgt := 14) hx hb dX7_name_9 (by decide) (fun c4 => ?_) (fun c4 => ?_)
  · have hf := it_neg c4 hf
    refine lv_aload_n hx hb dX7_name_14 rfl (lv_at hl 0 rfl) ?_
    obtain ⟨r5, hcr5, hf⟩ := bnd_some hf
    refine mr_callV (rest := []) B hM (c_X7_numberOfWorld l D S3  hcr5) (cwV 0 hts (lw_V q1908 q1910 qs54 q113 q1911) rfl rfl rfl hd_X7_numberOfWorld ⟨Nat.le_of_ble_eq_true rfl, Nat.le_of_ble_eq_true rfl⟩) rfl hl.1 rfl (Nat.le_of_ble_eq_true rfl) dX7_name_15 ⟨Nat.zero_le _, Nat.zero_le _⟩ (fun H locs hM => ?_)
    refine lv_istore_n (lv' := [(1, .int r5), (0, .ref D.1)]) hx hb dX7_name_18 rfl hl (by decide) rfl (fun ls hl => ?_)
    refine lv_aload_n hx hb dX7_name_19 rfl (lv_at hl 1 rfl) ?_
    refine lv_iload_n hx hb dX7_name_20 rfl (lv_at hl 0 rfl) ?_
    obtain ⟨S6, hcS6, hf⟩ := bnd_some hf
    refine mr_callV (rest := []) B hM (c_X7_layWorld l D S3 r5 hcS6) (cwV 1 hts (lw_V q2136 q2138 qs90 q113 q2139) rfl rfl rfl hd_X7_layWorld ⟨Nat.le_of_ble_eq_true rfl, Nat.le_of_ble_eq_true rfl⟩) rfl hl.1 rfl (Nat.le_of_ble_eq_true rfl) dX7_name_21 ⟨Nat.zero_le _, Nat.zero_le _⟩ (fun H locs hM => ?_)
    refine lv_aload_n hx hb dX7_name_24 rfl (lv_at hl 1 rfl) ?_
    obtain ⟨⟨r7, S8⟩, hcr7, hf⟩ := bnd_some hf
    have hf := u2_at hf
    refine mr_callV (rest := []) B hM (c_X7_leastImage l D S6  hcr7) (cwV 0 hts (lw_V q2148 q2150 qs92 q113 q2151) rfl rfl rfl hd_X7_leastImage ⟨Nat.le_of_ble_eq_true rfl, Nat.le_of_ble_eq_true rfl⟩) rfl hl.1 rfl (Nat.le_of_ble_eq_true rfl) dX7_name_25 ⟨Nat.zero_le _, Nat.zero_le _⟩ (fun H locs hM => ?_)
    refine lv_istore_n (lv' := [(2, .int r7), (1, .int r5), (0, .ref D.1)]) hx hb dX7_name_28 rfl hl (by decide) rfl (fun ls hl => ?_)
    refine lv_aload_n hx hb dX7_name_29 rfl (lv_at hl 2 rfl) ?_
    refine lv_iload_n hx hb dX7_name_30 rfl (lv_at hl 0 rfl) ?_
    obtain ⟨S9, hcS9, hf⟩ := bnd_some hf
    refine mr_callV (rest := []) B hM (c_X7_takeWorld l D S8 r7 hcS9) (cwV 1 hts (lw_V q2156 q2158 qs93 q113 q2159) rfl rfl rfl hd_X7_takeWorld ⟨Nat.le_of_ble_eq_true rfl, Nat.le_of_ble_eq_true rfl⟩) rfl hl.1 rfl (Nat.le_of_ble_eq_true rfl) dX7_name_31 ⟨Nat.zero_le _, Nat.zero_le _⟩ (fun H locs hM => ?_)
    refine lv_iload_n hx hb dX7_name_34 rfl (lv_at hl 0 rfl) ?_
    refine lv_iload_n hx hb dX7_name_35 rfl (lv_at hl 1 rfl) ?_
    refine lv_icmp_eq (tgt := 43) hx hb dX7_name_36 (by decide) (fun c10 => ?_) (fun c10 => ?_)
    · have hf := it_pos c10 hf
      refine lv_iconst (v := nI 0) hx hb dX7_name_43 ic0 ?_
      cases hf
      exact hret _ _ _ _ rfl hM dX7_name_44
    · have hf := it_neg c10 hf
      refine lv_iconst (v := nI 1) hx hb dX7_name_39 ic1 ?_
      refine lv_goto (tgt := 44) hx hb dX7_name_40 (by decide) ?_
      cases hf
      exact hret _ _ _ _ rfl hM dX7_name_44
  · have hf := it_pos c4 hf
    refine lv_iconst (v := nI 0) hx hb dX7_name_12 ic0 ?_
    cases hf
    exact hret _ _ _ _ rfl hM dX7_name_13
