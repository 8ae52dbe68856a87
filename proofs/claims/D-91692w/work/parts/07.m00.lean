set_option maxRecDepth 100000
def f_X7_clearWorld_L2 (x1 : Int32) (S2 : MS) : Option ((Int32 × MS) ⊕ ((MS))) :=
  (if nI 36 ≤ x1 then some (.inr S2) else ast 144 x1 (m_up S2 11 x1.toNatClampNeg (vp_nar .boolean (nI 0))) fun S4 => bd (x1 + nI 1) fun x5 => some (.inl (x5, S4)))
def f_X7_clearWorld_L23 (x9 : Int32) (S10 : MS) : Option ((Int32 × MS) ⊕ ((MS))) :=
  (if nI 4 ≤ x9 then some (.inr S10) else ast 16 x9 (m_up S10 25 x9.toNatClampNeg (vp_nar .boolean (nI 0))) fun S12 => bd (x9 + nI 1) fun x13 => some (.inl (x13, S12)))
def f_X7_clearWorld (S : MS) : Option MS :=
  bnd (wO (fun t : Int32 × MS => f_X7_clearWorld_L2 t.1 t.2) fu (nI 0, S)) <| fun S8 => bnd (wO (fun t : Int32 × MS => f_X7_clearWorld_L23 t.1 t.2) fu (nI 0, S8)) <| fun S16 => some S16
abbrev r_X7_clearWorld : Room := { frames := 0, cells := 0, slots := 0, locals := 0 }
set_option maxHeartbeats 4000000 in
set_option maxRecDepth 100000 in
theorem c_X7_clearWorld (l : Launch) (D : MD) (S : MS)  {S' : MS} (hf : f_X7_clearWorld S = some S') : m_Met l yX7_clearWorld cX7_clearWorld 2 (Option.none : Option Jvm.ClassFile.FieldType) r_X7_clearWorld D [.ref D.1] S none S' := by
  refine m_metV (F := 0) (L := 0) (by decide) rfl (Nat.le_of_ble_eq_true rfl) (fun p e s m args below meth c Q B hret hM ls hl => ?_)
  have hx := B.1
  have hb := B.2.1
  have hown := B.2.2.2.1
  have hts := B.2.2.2.2
  have hl : lv_has ls 2 [(0, .ref D.1)] := hl
  generalize s.heap = H, ([] : List Loc) = locs at hM ⊢
  unfold f_X7_clearWorld at hf
  refine lv_iconst (v := nI 0) hx hb dX7_clearWorld_0 ic0 ?_
  refine lv_istore_n (lv' := [(1, .int (nI 0)), (0, .ref D.1)]) hx hb dX7_clearWorld_1 rfl hl (by decide) rfl (fun ls hl => ?_)
  obtain ⟨y7, hxy7, hf⟩ := bnd_some hf
  have hy7 : (fun t : MS => ∀ (H : Heap) (locs : List Loc) (ls : Array Slot), m_I D s H locs t → lv_has ls 2 [(0, .ref D.1)] → W p l e r_X7_clearWorld s m args below meth c H locs 0 0 Q (F0 m 21 ls [])) y7 := by
    obtain ⟨S8, rfl⟩ : ∃ z, z = y7 := ⟨_, rfl⟩
    intro H locs ls hM hl
    refine lv_iconst (v := nI 0) hx hb dX7_clearWorld_21 ic0 ?_
    refine lv_istore_n (lv' := [(1, .int (nI 0)), (0, .ref D.1)]) hx hb dX7_clearWorld_22 rfl hl (by decide) rfl (fun ls hl => ?_)
    obtain ⟨y15, hxy15, hf⟩ := bnd_some hf
    have hy15 : (fun t : MS => ∀ (H : Heap) (locs : List Loc) (ls : Array Slot), m_I D s H locs t → lv_has ls 2 [] → W p l e r_X7_clearWorld s m args below meth c H locs 0 0 Q (F0 m 41 ls [])) y15 := by
      obtain ⟨S16, rfl⟩ : ∃ z, z = y15 := ⟨_, rfl⟩
      intro H locs ls hM hl
      cases hf
      exact hret _ _ _ _ hM dX7_clearWorld_41
    refine lp_W (step := (fun t : Int32 × MS => f_X7_clearWorld_L23 t.1 t.2)) (fun t : Int32 × MS => ∀ (H : Heap) (locs : List Loc) (ls : Array Slot), m_I D s H locs t.2 → lv_has ls 2 [(0, .ref D.1), (1, .int t.1)] → W p l e r_X7_clearWorld s m args below meth c H locs 0 0 Q (F0 m 23 ls [])) (fun t : MS => ∀ (H : Heap) (locs : List Loc) (ls : Array Slot), m_I D s H locs t → lv_has ls 2 [] → W p l e r_X7_clearWorld s m args below meth c H locs 0 0 Q (F0 m 41 ls [])) ?_ fu (nI 0, S8) y15 hxy15 hy15 _ _ _ hM (lv_sub hl [1, 0] rfl)
    clear hf hxy15 hy15
    rintro ⟨x9, S10⟩ o (hf : f_X7_clearWorld_L23 x9 S10 = some o) hk
    intro H locs ls hM hl
    unfold f_X7_clearWorld_L23 at hf
    refine lv_iload_n hx hb dX7_clearWorld_23 rfl (lv_at hl 1 rfl) ?_
    refine lv_iconst (v := nI 4) hx hb dX7_clearWorld_24 ic4 ?_
    refine lv_icmp_ge (tgt := 41) hx hb dX7_clearWorld_25 (by decide) (fun c11 => ?_) (fun c11 => ?_)
    · have hf := it_pos c11 hf
      cases hf
      exact hk _ _ _ hM (lv_sub hl [] rfl)
    · have hf := it_neg c11 hf
      refine lv_aload_n hx hb dX7_clearWorld_28 rfl (lv_at hl 0 rfl) ?_
      refine mr_get B hM 25 (v := .ref (D.2.1 25)) rfl (by decide) q1671 dX7_clearWorld_29 ?_
      refine lv_iload_n hx hb dX7_clearWorld_32 rfl (lv_at hl 1 rfl) ?_
      refine lv_iconst (v := nI 0) hx hb dX7_clearWorld_33 ic0 ?_
      obtain ⟨S12, eS12, hiS12, hf⟩ := ast_some hf
      refine mr_zast B hM 25 (by decide) rfl hiS12 eS12 dX7_clearWorld_34 (fun H locs hM => ?_)
      obtain ⟨x13, ex13, hf⟩ := bd_some hf
      refine lv_iinc (v := x13) (lv' := [(1, .int x13), (0, .ref D.1)]) hx hb dX7_clearWorld_35 hl (k := 1) rfl (by rw [ex13]; first | done | rfl) (by decide) rfl (fun ls hl => ?_)
      refine lv_goto (tgt := 23) hx hb dX7_clearWorld_38 (by decide) ?_
      cases hf
      exact hk _ _ _ hM (lv_sub hl [1, 0] rfl)
  refine lp_W (step := (fun t : Int32 × MS => f_X7_clearWorld_L2 t.1 t.2)) (fun t : Int32 × MS => ∀ (H : Heap) (locs : List Loc) (ls : Array Slot), m_I D s H locs t.2 → lv_has ls 2 [(0, .ref D.1), (1, .int t.1)] → W p l e r_X7_clearWorld s m args below meth c H locs 0 0 Q (F0 m 2 ls [])) (fun t : MS => ∀ (H : Heap) (locs : List Loc) (ls : Array Slot), m_I D s H locs t → lv_has ls 2 [(0, .ref D.1)] → W p l e r_X7_clearWorld s m args below meth c H locs 0 0 Q (F0 m 21 ls [])) ?_ fu (nI 0, S) y7 hxy7 hy7 _ _ _ hM (lv_sub hl [1, 0] rfl)
  clear hf hxy7 hy7
  rintro ⟨x1, S2⟩ o (hf : f_X7_clearWorld_L2 x1 S2 = some o) hk
  intro H locs ls hM hl
  unfold f_X7_clearWorld_L2 at hf
  refine lv_iload_n hx hb dX7_clearWorld_2 rfl (lv_at hl 1 rfl) ?_
  refine lv_bipush (v := nI 36) hx hb dX7_clearWorld_3 bp36 ?_
  refine lv_icmp_ge (tgt := 21) hx hb dX7_clearWorld_5 (by decide) (fun c3 => ?_) (fun c3 => ?_)
  · have hf := it_pos c3 hf
    cases hf
    exact hk _ _ _ hM (lv_sub hl [0] rfl)
  · have hf := it_neg c3 hf
    refine lv_aload_n hx hb dX7_clearWorld_8 rfl (lv_at hl 0 rfl) ?_
    refine mr_get B hM 11 (v := .ref (D.2.1 11)) rfl (by decide) q1657 dX7_clearWorld_9 ?_
    refine lv_iload_n hx hb dX7_clearWorld_12 rfl (lv_at hl 1 rfl) ?_
    refine lv_iconst (v := nI 0) hx hb dX7_clearWorld_13 ic0 ?_
    obtain ⟨S4, eS4, hiS4, hf⟩ := ast_some hf
    refine mr_zast B hM 11 (by decide) rfl hiS4 eS4 dX7_clearWorld_14 (fun H locs hM => ?_)
    obtain ⟨x5, ex5, hf⟩ := bd_some hf
    refine lv_iinc (v := x5) (lv' := [(1, .int x5), (0, .ref D.1)]) hx hb dX7_clearWorld_15 hl (k := 1) rfl (by rw [ex5]; first | done | rfl) (by decide) rfl (fun ls hl => ?_)
    refine lv_goto (tgt := 2) hx hb dX7_clearWorld_18 (by decide) ?_
    cases hf
    exact hk _ _ _ hM (lv_sub hl [1, 0] rfl)
def f_X7_in (p0 : Int32) (p1 : Int32) (p2 : Int32) : Option Int32 :=
  (if p0 < p1 then some (nI 0) else (if p2 < p0 then some (nI 0) else some (nI 1)))
abbrev r_X7_in : Room := { frames := 0, cells := 0, slots := 0, locals := 0 }
set_option maxHeartbeats 4000000 in
set_option maxRecDepth 100000 in
theorem c_X7_in (l : Launch) (p0 : Int32) (p1 : Int32) (p2 : Int32) {r : Int32} (hf : f_X7_in p0 p1 p2 = some r) : p_Met l yX7_in cX7_in 3 (Option.some Jvm.ClassFile.FieldType.boolean) r_X7_in [.int p0, .int p1, .int p2] (some (.int r)) := by
  refine p_metI (F := 0) (L := 0) RX7 (by decide) rfl (Nat.le_of_ble_eq_true rfl) (fun p e s m args below meth c Q B hret ls hl => ?_)
  have hx := B.1
  have hb := B.2.1
  have hown := B.2.2.2.1
  have hts := B.2.2.2.2
  have hl : lv_has ls 3 [(0, .int p0), (1, .int p1), (2, .int p2)] := hl
  unfold f_X7_in at hf
  refine lv_iload_n hx hb dX7_in_0 rfl (lv_at hl 0 rfl) ?_
  refine lv_iload_n hx hb dX7_in_1 rfl (lv_at hl 1 rfl) ?_
  refine lv_icmp_lt (tgt := 14) hx hb dX7_in_2 (by decide) (fun c1 => ?_) (fun c1 => ?_)
  · have hf := it_pos c1 hf
    refine lv_iconst (v := nI 0) hx hb dX7_in_14 ic0 ?_
    cases hf
    exact hret _ _ rfl dX7_in_15
  · have hf := it_neg c1 hf
    refine lv_iload_n hx hb dX7_in_5 rfl (lv_at hl 0 rfl) ?_
    refine lv_iload_n hx hb dX7_in_6 rfl (lv_at hl 2 rfl) ?_
    refine lv_icmp_gt (tgt := 14) hx hb dX7_in_7 (by decide) (fun c2 => ?_) (fun c2 => ?_)
    · have hf := it_pos c2 hf
      refine lv_iconst (v := nI 0) hx hb dX7_in_14 ic0 ?_
      cases hf
      exact hret _ _ rfl dX7_in_15
    · have hf := it_neg c2 hf
      refine lv_iconst (v := nI 1) hx hb dX7_in_10 ic1 ?_
      refine lv_goto (tgt := 15) hx hb dX7_in_11 (by decide) ?_
      cases hf
      exact hret _ _ rfl dX7_in_15
def f_X7_size (S : MS) (p0 : Int32) (p1 : Int32) : Option (Int32 × MS) :=
  bd (m_up S 0 0 (nI 0)) fun S1 => bnd (f_X7_in p0 (nI 0) (nI 2)) fun r2 => (if r2 = 0 then some (nI 0, S1) else bnd (f_X7_in p1 (nI 1) (nI 3)) fun r4 => (if r4 = 0 then some (nI 0, S1) else ald 12 (S1.1 7) p0 fun v6 => (if v6 = p1 then some (nI 0, S1) else ast 12 p0 (m_up S1 7 p0.toNatClampNeg p1) fun S8 => bnd (f_X7_clearWorld S8) fun S9 => some (nI 1, S9))))
abbrev r_X7_size : Room := { frames := 1, cells := 0, slots := 0, locals := 22 }
set_option maxHeartbeats 4000000 in
set_option maxRecDepth 100000 in
theorem c_X7_size (l : Launch) (D : MD) (S : MS) (p0 : Int32) (p1 : Int32) {r : Int32} {S' : MS} (hf : f_X7_size S p0 p1 = some (r, S')) : m_Met l yX7_size cX7_size 3 (Option.some Jvm.ClassFile.FieldType.boolean) r_X7_size D [.ref D.1, .int p0, .int p1] S (some (.int r)) S' := by
  refine m_metI (F := 1) (L := 22) (by decide) rfl (Nat.le_of_ble_eq_true rfl) (fun p e s m args below meth c Q B hret hM ls hl => ?_)
  have hx := B.1
  have hb := B.2.1
  have hown := B.2.2.2.1
  have hts := B.2.2.2.2
  have hl : lv_has ls 3 [(0, .ref D.1), (1, .int p0), (2, .int p1)] := hl
  generalize s.heap = H, ([] : List Loc) = locs at hM ⊢
  unfold f_X7_size at hf
  refine lv_aload_n hx hb dX7_size_0 rfl (lv_at hl 0 rfl) ?_
  refine lv_iconst (v := nI 0) hx hb dX7_size_1 ic0 ?_
  obtain ⟨S1, eS1, hf⟩ := bd_some hf
  refine mr_puti B hM 0 (by decide) eS1 rfl (tyX7_ok 0 (by decide)) q1646 dX7_size_2 (fun H locs hM => ?_)
  refine lv_iload_n hx hb dX7_size_5 rfl (lv_at hl 1 rfl) ?_
  refine lv_iconst (v := nI 0) hx hb dX7_size_6 ic0 ?_
  refine lv_iconst (v := nI 2) hx hb dX7_size_7 ic2 ?_
  obtain ⟨r2, hcr2, hf⟩ := bnd_some hf
  refine pr_callS (rest := []) B (c_X7_in l p0 (nI 0) (nI 2) hcr2) (va_cwS 3 hts (lw_S q1841 q1842 q113 q1843) rfl rfl rfl hd_X7_in ⟨Nat.le_of_ble_eq_true rfl, Nat.le_of_ble_eq_true rfl⟩) rfl hl.1 rfl (Nat.le_of_ble_eq_true rfl) dX7_size_8 ⟨Nat.zero_le _, Nat.zero_le _⟩ ?_
  refine lv_if_eq (tgt := 33) hx hb dX7_size_11 (by decide) (fun c3 => ?_) (fun c3 => ?_)
  · have hf := it_pos c3 hf
    refine lv_iconst (v := nI 0) hx hb dX7_size_33 ic0 ?_
    cases hf
    exact hret _ _ _ _ rfl hM dX7_size_34
  · have hf := it_neg c3 hf
    refine lv_iload_n hx hb dX7_size_14 rfl (lv_at hl 2 rfl) ?_
    refine lv_iconst (v := nI 1) hx hb dX7_size_15 ic1 ?_
    refine lv_iconst (v := nI 3) hx hb dX7_size_16 ic3 ?_
    obtain ⟨r4, hcr4, hf⟩ := bnd_some hf
    refine pr_callS (rest := []) B (c_X7_in l p1 (nI 1) (nI 3) hcr4) (va_cwS 3 hts (lw_S q1841 q1842 q113 q1843) rfl rfl rfl hd_X7_in ⟨Nat.le_of_ble_eq_true rfl, Nat.le_of_ble_eq_true rfl⟩) rfl hl.1 rfl (Nat.le_of_ble_eq_true rfl) dX7_size_17 ⟨Nat.zero_le _, Nat.zero_le _⟩ ?_
    refine lv_if_eq (tgt := 33) hx hb dX7_size_20 (by decide) (fun c5 => ?_) (fun c5 => ?_)
    · have hf := it_pos c5 hf
      refine lv_iconst (v := nI 0) hx hb dX7_size_33 ic0 ?_
      cases hf
      exact hret _ _ _ _ rfl hM dX7_size_34
    · have hf := it_neg c5 hf
      refine lv_aload_n hx hb dX7_size_23 rfl (lv_at hl 0 rfl) ?_
      refine mr_get B hM 7 (v := .ref (D.2.1 7)) rfl (by decide) q1653 dX7_size_24 ?_
      refine lv_iload_n hx hb dX7_size_27 rfl (lv_at hl 1 rfl) ?_
      obtain ⟨v6, ev6, hiv6, hf⟩ := ald_some hf
      refine mr_iald B hM 7 (by decide) rfl hiv6 ev6 dX7_size_28 ?_
      refine lv_iload_n hx hb dX7_size_29 rfl (lv_at hl 2 rfl) ?_
      refine lv_icmp_ne (tgt := 35) hx hb dX7_size_30 (by decide) (fun c7 => ?_) (fun c7 => ?_)
      · have hf := it_neg c7 hf
        refine lv_aload_n hx hb dX7_size_35 rfl (lv_at hl 0 rfl) ?_
        refine mr_get B hM 7 (v := .ref (D.2.1 7)) rfl (by decide) q1653 dX7_size_36 ?_
        refine lv_iload_n hx hb dX7_size_39 rfl (lv_at hl 1 rfl) ?_
        refine lv_iload_n hx hb dX7_size_40 rfl (lv_at hl 2 rfl) ?_
        obtain ⟨S8, eS8, hiS8, hf⟩ := ast_some hf
        refine mr_iast B hM 7 (by decide) rfl hiS8 eS8 dX7_size_41 (fun H locs hM => ?_)
        refine lv_aload_n hx hb dX7_size_42 rfl (lv_at hl 0 rfl) ?_
        obtain ⟨S9, hcS9, hf⟩ := bnd_some hf
        refine mr_callV (rest := []) B hM (c_X7_clearWorld l D S8  hcS9) (cwV 0 hts (lw_V q1844 q1846 qs45 q113 q1847) rfl rfl rfl hd_X7_clearWorld ⟨Nat.le_of_ble_eq_true rfl, Nat.le_of_ble_eq_true rfl⟩) rfl hl.1 rfl (Nat.le_of_ble_eq_true rfl) dX7_size_43 ⟨Nat.zero_le _, Nat.zero_le _⟩ (fun H locs hM => ?_)
        refine lv_iconst (v := nI 1) hx hb dX7_size_46 ic1 ?_
        cases hf
        exact hret _ _ _ _ rfl hM dX7_size_47
      · have hf := it_pos c7 hf
        refine lv_iconst (v := nI 0) hx hb dX7_size_33 ic0 ?_
        cases hf
        exact hret _ _ _ _ rfl hM dX7_size_34
def f_X7_relation (S : MS) (p0 : Int32) (p1 : Int32) : Option (Int32 × MS) :=
  bd (m_up S 0 0 (nI 0)) fun S1 => ald 4 (S1.1 8) (nI 0) fun v2 => (if v2 = nI 4 then some ((-1), S1) else bnd (f_X7_in p0 (nI 0) (nI 2)) fun r4 => (if r4 = 0 then some ((-1), S1) else bnd (f_X7_in p1 (-1) (nI 2)) fun r6 => (if r6 = 0 then some ((-1), S1) else ald 4 (S1.1 8) (nI 0) fun v8 => ald 4 (S1.1 8) (nI 0) fun v9 => ast 4 (nI 0) (m_up S1 8 (nI 0).toNatClampNeg (v9 + nI 1)) fun S10 => ast 16 v8 (m_up S10 9 v8.toNatClampNeg p0) fun S11 => ast 16 v8 (m_up S11 10 v8.toNatClampNeg p1) fun S12 => bnd (f_X7_clearWorld S12) fun S13 => some (v8, S13))))
abbrev r_X7_relation : Room := { frames := 1, cells := 0, slots := 0, locals := 22 }
set_option maxHeartbeats 4000000 in
set_option maxRecDepth 100000 in
theorem c_X7_relation (l : Launch) (D : MD) (S : MS) (p0 : Int32) (p1 : Int32) {r : Int32} {S' : MS} (hf : f_X7_relation S p0 p1 = some (r, S')) : m_Met l yX7_relation cX7_relation 4 (Option.some Jvm.ClassFile.FieldType.int) r_X7_relation D [.ref D.1, .int p0, .int p1] S (some (.int r)) S' := by
  refine m_metI (F := 1) (L := 22) (by decide) rfl (Nat.le_of_ble_eq_true rfl) (fun p e s m args below meth c Q B hret hM ls hl => ?_)
  have hx := B.1
  have hb := B.2.1
  have hown := B.2.2.2.1
  have hts := B.2.2.2.2
  have hl : lv_has ls 4 [(0, .ref D.1), (1, .int p0), (2, .int p1)] := hl
  generalize s.heap = H, ([] : List Loc) = locs at hM ⊢
  unfold f_X7_relation at hf
  refine lv_aload_n hx hb dX7_relation_0 rfl (lv_at hl 0 rfl) ?_
  refine lv_iconst (v := nI 0) hx hb dX7_relation_1 ic0 ?_
  obtain ⟨S1, eS1, hf⟩ := bd_some hf
  refine mr_puti B hM 0 (by decide) eS1 rfl (tyX7_ok 0 (by decide)) q1646 dX7_relation_2 (fun H locs hM => ?_)
  refine lv_aload_n hx hb dX7_relation_5 rfl (lv_at hl 0 rfl) ?_
  refine mr_get B hM 8 (v := .ref (D.2.1 8)) rfl (by decide) q1654 dX7_relation_6 ?_
  refine lv_iconst (v := nI 0) hx hb dX7_relation_9 ic0 ?_
  obtain ⟨v2, ev2, hiv2, hf⟩ := ald_some hf
  refine mr_iald B hM 8 (by decide) rfl hiv2 ev2 dX7_relation_10 ?_
  refine lv_iconst (v := nI 4) hx hb dX7_relation_11 ic4 ?_
  refine lv_icmp_eq (tgt := 33) hx hb dX7_relation_12 (by decide) (fun c3 => ?_) (fun c3 => ?_)
  · have hf := it_pos c3 hf
    refine lv_iconst (v := (-1)) hx hb dX7_relation_33 icm1 ?_
    cases hf
    exact hret _ _ _ _ rfl hM dX7_relation_34
  · have hf := it_neg c3 hf
    refine lv_iload_n hx hb dX7_relation_15 rfl (lv_at hl 1 rfl) ?_
    refine lv_iconst (v := nI 0) hx hb dX7_relation_16 ic0 ?_
    refine lv_iconst (v := nI 2) hx hb dX7_relation_17 ic2 ?_
    obtain ⟨r4, hcr4, hf⟩ := bnd_some hf
    refine pr_callS (rest := []) B (c_X7_in l p0 (nI 0) (nI 2) hcr4) (va_cwS 3 hts (lw_S q1841 q1842 q113 q1843) rfl rfl rfl hd_X7_in ⟨Nat.le_of_ble_eq_true rfl, Nat.le_of_ble_eq_true rfl⟩) rfl hl.1 rfl (Nat.le_of_ble_eq_true rfl) dX7_relation_18 ⟨Nat.zero_le _, Nat.zero_le _⟩ ?_
    refine lv_if_eq (tgt := 33) hx hb dX7_relation_21 (by decide) (fun c5 => ?_) (fun c5 => ?_)
    · have hf := it_pos c5 hf
      refine lv_iconst (v := (-1)) hx hb dX7_relation_33 icm1 ?_
      cases hf
      exact hret _ _ _ _ rfl hM dX7_relation_34
    · have hf := it_neg c5 hf
      refine lv_iload_n hx hb dX7_relation_24 rfl (lv_at hl 2 rfl) ?_
      refine lv_iconst (v := (-1)) hx hb dX7_relation_25 icm1 ?_
      refine lv_iconst (v := nI 2) hx hb dX7_relation_26 ic2 ?_
      obtain ⟨r6, hcr6, hf⟩ := bnd_some hf
      refine pr_callS (rest := []) B (c_X7_in l p1 (-1) (nI 2) hcr6) (va_cwS 3 hts (lw_S q1841 q1842 q113 q1843) rfl rfl rfl hd_X7_in ⟨Nat.le_of_ble_eq_true rfl, Nat.le_of_ble_eq_true rfl⟩) rfl hl.1 rfl (Nat.le_of_ble_eq_true rfl) dX7_relation_27 ⟨Nat.zero_le _, Nat.zero_le _⟩ ?_
      refine lv_if_ne (tgt := 35) hx hb dX7_relation_30 (by decide) (fun c7 => ?_) (fun c7 => ?_)
      · have hf := it_neg c7 hf
        refine lv_aload_n hx hb dX7_relation_35 rfl (lv_at hl 0 rfl) ?_
        refine mr_get B hM 8 (v := .ref (D.2.1 8)) rfl (by decide) q1654 dX7_relation_36 ?_
        refine lv_iconst (v := nI 0) hx hb dX7_relation_39 ic0 ?_
        obtain ⟨v8, ev8, hiv8, hf⟩ := ald_some hf
        refine mr_iald B hM 8 (by decide) rfl hiv8 ev8 dX7_relation_40 ?_
        refine lv_istore_n (lv' := [(3, .int v8), (0, .ref D.1), (1, .int p0), (2, .int p1)]) hx hb dX7_relation_41 rfl hl (by decide) rfl (fun ls hl => ?_)
        refine lv_aload_n hx hb dX7_relation_42 rfl (lv_at hl 1 rfl) ?_
        refine mr_get B hM 8 (v := .ref (D.2.1 8)) rfl (by decide) q1654 dX7_relation_43 ?_
        refine lv_iconst (v := nI 0) hx hb dX7_relation_46 ic0 ?_
        refine lv_dup2_11 hx hb dX7_relation_47 rfl rfl ?_
        obtain ⟨v9, ev9, hiv9, hf⟩ := ald_some hf
        refine mr_iald B hM 8 (by decide) rfl hiv9 ev9 dX7_relation_48 ?_
        refine lv_iconst (v := nI 1) hx hb dX7_relation_49 ic1 ?_
        refine lv_iadd hx hb dX7_relation_50 ?_
        obtain ⟨S10, eS10, hiS10, hf⟩ := ast_some hf
        refine mr_iast B hM 8 (by decide) rfl hiS10 eS10 dX7_relation_51 (fun H locs hM => ?_)
        refine lv_aload_n hx hb dX7_relation_52 rfl (lv_at hl 1 rfl) ?_
        refine mr_get B hM 9 (v := .ref (D.2.1 9)) rfl (by decide) q1655 dX7_relation_53 ?_
        refine lv_iload_n hx hb dX7_relation_56 rfl (lv_at hl 0 rfl) ?_
        refine lv_iload_n hx hb dX7_relation_57 rfl (lv_at hl 2 rfl) ?_
        obtain ⟨S11, eS11, hiS11, hf⟩ := ast_some hf
        refine mr_iast B hM 9 (by decide) rfl hiS11 eS11 dX7_relation_58 (fun H locs hM => ?_)
        refine lv_aload_n hx hb dX7_relation_59 rfl (lv_at hl 1 rfl) ?_
        refine mr_get B hM 10 (v := .ref (D.2.1 10)) rfl (by decide) q1656 dX7_relation_60 ?_
        refine lv_iload_n hx hb dX7_relation_63 rfl (lv_at hl 0 rfl) ?_
        refine lv_iload_n hx hb dX7_relation_64 rfl (lv_at hl 3 rfl) ?_
        obtain ⟨S12, eS12, hiS12, hf⟩ := ast_some hf
        refine mr_iast B hM 10 (by decide) rfl hiS12 eS12 dX7_relation_65 (fun H locs hM => ?_)
        refine lv_aload_n hx hb dX7_relation_66 rfl (lv_at hl 1 rfl) ?_
        obtain ⟨S13, hcS13, hf⟩ := bnd_some hf
        refine mr_callV (rest := []) B hM (c_X7_clearWorld l D S12  hcS13) (cwV 0 hts (lw_V q1844 q1846 qs45 q113 q1847) rfl rfl rfl hd_X7_clearWorld ⟨Nat.le_of_ble_eq_true rfl, Nat.le_of_ble_eq_true rfl⟩) rfl hl.1 rfl (Nat.le_of_ble_eq_true rfl) dX7_relation_67 ⟨Nat.zero_le _, Nat.zero_le _⟩ (fun H locs hM => ?_)
        refine lv_iload_n hx hb dX7_relation_70 rfl (lv_at hl 0 rfl) ?_
        cases hf
        exact hret _ _ _ _ rfl hM dX7_relation_71
      · have hf := it_pos c7 hf
        refine lv_iconst (v := (-1)) hx hb dX7_relation_33 icm1 ?_
        cases hf
        exact hret _ _ _ _ rfl hM dX7_relation_34
def f_X7_sizeOf (S : MS) (p0 : Int32) : Option Int32 :=
  (if p0 = (-1) then some (nI 1) else ald 3 (S.1 26) p0 fun v2 => some v2)
abbrev r_X7_sizeOf : Room := { frames := 0, cells := 0, slots := 0, locals := 0 }
set_option maxHeartbeats 4000000 in
set_option maxRecDepth 100000 in
theorem c_X7_sizeOf (l : Launch) (D : MD) (S : MS) (p0 : Int32) {r : Int32} (hf : f_X7_sizeOf S p0 = some r) : m_Met l yX7_sizeOf cX7_sizeOf 2 (Option.some Jvm.ClassFile.FieldType.int) r_X7_sizeOf D [.ref D.1, .int p0] S (some (.int r)) S := by
  refine m_metI (F := 0) (L := 0) (by decide) rfl (Nat.le_of_ble_eq_true rfl) (fun p e s m args below meth c Q B hret hM ls hl => ?_)
  have hx := B.1
  have hb := B.2.1
  have hown := B.2.2.2.1
  have hts := B.2.2.2.2
  have hl : lv_has ls 2 [(0, .ref D.1), (1, .int p0)] := hl
  generalize s.heap = H, ([] : List Loc) = locs at hM ⊢
  unfold f_X7_sizeOf at hf
  refine lv_iload_n hx hb dX7_sizeOf_0 rfl (lv_at hl 1 rfl) ?_
  refine lv_iconst (v := (-1)) hx hb dX7_sizeOf_1 icm1 ?_
  refine lv_icmp_ne (tgt := 9) hx hb dX7_sizeOf_2 (by decide) (fun c1 => ?_) (fun c1 => ?_)
  · have hf := it_neg c1 hf
    refine lv_aload_n hx hb dX7_sizeOf_9 rfl (lv_at hl 0 rfl) ?_
    refine mr_get B hM 26 (v := .ref (D.2.1 26)) rfl (by decide) q1672 dX7_sizeOf_10 ?_
    refine lv_iload_n hx hb dX7_sizeOf_13 rfl (lv_at hl 1 rfl) ?_
    obtain ⟨v2, ev2, hiv2, hf⟩ := ald_some hf
    refine mr_iald B hM 26 (by decide) rfl hiv2 ev2 dX7_sizeOf_14 ?_
    cases hf
    exact hret _ _ _ _ rfl hM dX7_sizeOf_15
  · have hf := it_pos c1 hf
    refine lv_iconst (v := nI 1) hx hb dX7_sizeOf_5 ic1 ?_
    refine lv_goto (tgt := 15) hx hb dX7_sizeOf_6 (by decide) ?_
    cases hf
    exact hret _ _ _ _ rfl hM dX7_sizeOf_15
def f_X7_findStarts_L9 (x2 : Int32) (S3 : MS) : Option ((Int32 × MS) ⊕ ((MS))) :=
  ald 4 (S3.1 8) (nI 0) fun v4 => (if v4 ≤ x2 then some (.inr S3) else ald 5 (S3.1 27) x2 fun v6 => ald 16 (S3.1 9) x2 fun v7 => bnd (f_X7_sizeOf S3 v7) fun r8 => ald 16 (S3.1 10) x2 fun v9 => bnd (f_X7_sizeOf S3 v9) fun r10 => ast 5 (x2 + nI 1) (m_up S3 27 (x2 + nI 1).toNatClampNeg (v6 + (r8 * r10))) fun S11 => bd (x2 + nI 1) fun x12 => some (.inl (x12, S11)))
def f_X7_findStarts (S : MS) : Option MS :=
  ast 5 (nI 0) (m_up S 27 (nI 0).toNatClampNeg (nI 0)) fun S1 => bnd (wO (fun t : Int32 × MS => f_X7_findStarts_L9 t.1 t.2) fu (nI 0, S1)) <| fun S15 => some S15
abbrev r_X7_findStarts : Room := { frames := 1, cells := 0, slots := 0, locals := 21 }
set_option maxHeartbeats 4000000 in
set_option maxRecDepth 100000 in
theorem c_X7_findStarts (l : Launch) (D : MD) (S : MS)  {S' : MS} (hf : f_X7_findStarts S = some S') : m_Met l yX7_findStarts cX7_findStarts 2 (Option.none : Option Jvm.ClassFile.FieldType) r_X7_findStarts D [.ref D.1] S none S' := by
  refine m_metV (F := 1) (L := 21) (by decide) rfl (Nat.le_of_ble_eq_true rfl) (fun p e s m args below meth c Q B hret hM ls hl => ?_)
  have hx := B.1
  have hb := B.2.1
  have hown := B.2.2.2.1
  have hts := B.2.2.2.2
  have hl : lv_has ls 2 [(0, .ref D.1)] := hl
  generalize s.heap = H, ([] : List Loc) = locs at hM ⊢
  unfold f_X7_findStarts at hf
  refine lv_aload_n hx hb dX7_findStarts_0 rfl (lv_at hl 0 rfl) ?_
  refine mr_get B hM 27 (v := .ref (D.2.1 27)) rfl (by decide) q1673 dX7_findStarts_1 ?_
  refine lv_iconst (v := nI 0) hx hb dX7_findStarts_4 ic0 ?_
  refine lv_iconst (v := nI 0) hx hb dX7_findStarts_5 ic0 ?_
  obtain ⟨S1, eS1, hiS1, hf⟩ := ast_some hf
  refine mr_iast B hM 27 (by decide) rfl hiS1 eS1 dX7_findStarts_6 (fun H locs hM => ?_)
  refine lv_iconst (v := nI 0) hx hb dX7_findStarts_7 ic0 ?_
  refine lv_istore_n (lv' := [(1, .int (nI 0)), (0, .ref D.1)]) hx hb dX7_findStarts_8 rfl hl (by decide) rfl (fun ls hl => ?_)
  obtain ⟨y14, hxy14, hf⟩ := bnd_some hf
  have hy14 : (fun t : MS => ∀ (H : Heap) (locs : List Loc) (ls : Array Slot), m_I D s H locs t → lv_has ls 2 [] → W p l e r_X7_findStarts s m args below meth c H locs 0 0 Q (F0 m 61 ls [])) y14 := by
    obtain ⟨S15, rfl⟩ : ∃ z, z = y14 := ⟨_, rfl⟩
    intro H locs ls hM hl
    cases hf
    exact hret _ _ _ _ hM dX7_findStarts_61
  refine lp_W (step := (fun t : Int32 × MS => f_X7_findStarts_L9 t.1 t.2)) (fun t : Int32 × MS => ∀ (H : Heap) (locs : List Loc) (ls : Array Slot), m_I D s H locs t.2 → lv_has ls 2 [(0, .ref D.1), (1, .int t.1)] → W p l e r_X7_findStarts s m args below meth c H locs 0 0 Q (F0 m 9 ls [])) (fun t : MS => ∀ (H : Heap) (locs : List Loc) (ls : Array Slot), m_I D s H locs t → lv_has ls 2 [] → W p l e r_X7_findStarts s m args below meth c H locs 0 0 Q (F0 m 61 ls [])) ?_ fu (nI 0, S1) y14 hxy14 hy14 _ _ _ hM (lv_sub hl [1, 0] rfl)
  clear hf hxy14 hy14
  rintro ⟨x2, S3⟩ o (hf : f_X7_findStarts_L9 x2 S3 = some o) hk
  intro H locs ls hM hl
  unfold f_X7_findStarts_L9 at hf
  refine lv_iload_n hx hb dX7_findStarts_9 rfl (lv_at hl 1 rfl) ?_
  refine lv_aload_n hx hb dX7_findStarts_10 rfl (lv_at hl 0 rfl) ?_
  refine mr_get B hM 8 (v := .ref (D.2.1 8)) rfl (by decide) q1654 dX7_findStarts_11 ?_
  refine lv_iconst (v := nI 0) hx hb dX7_findStarts_14 ic0 ?_
  obtain ⟨v4, ev4, hiv4, hf⟩ := ald_some hf
  refine mr_iald B hM 8 (by decide) rfl hiv4 ev4 dX7_findStarts_15 ?_
  refine lv_icmp_ge (tgt := 61) hx hb dX7_findStarts_16 (by decide) (fun c5 => ?_) (fun c5 => ?_)
  · have hf := it_pos c5 hf
    cases hf
    exact hk _ _ _ hM (lv_sub hl [] rfl)
  · have hf := it_neg c5 hf
    refine lv_aload_n hx hb dX7_findStarts_19 rfl (lv_at hl 0 rfl) ?_
    refine mr_get B hM 27 (v := .ref (D.2.1 27)) rfl (by decide) q1673 dX7_findStarts_20 ?_
    refine lv_iload_n hx hb dX7_findStarts_23 rfl (lv_at hl 1 rfl) ?_
    refine lv_iconst (v := nI 1) hx hb dX7_findStarts_24 ic1 ?_
    refine lv_iadd hx hb dX7_findStarts_25 ?_
    refine lv_aload_n hx hb dX7_findStarts_26 rfl (lv_at hl 0 rfl) ?_
    refine mr_get B hM 27 (v := .ref (D.2.1 27)) rfl (by decide) q1673 dX7_findStarts_27 ?_
    refine lv_iload_n hx hb dX7_findStarts_30 rfl (lv_at hl 1 rfl) ?_
    obtain ⟨v6, ev6, hiv6, hf⟩ := ald_some hf
    refine mr_iald B hM 27 (by decide) rfl hiv6 ev6 dX7_findStarts_31 ?_
    refine lv_aload_n hx hb dX7_findStarts_32 rfl (lv_at hl 0 rfl) ?_
    refine lv_aload_n hx hb dX7_findStarts_33 rfl (lv_at hl 0 rfl) ?_
    refine mr_get B hM 9 (v := .ref (D.2.1 9)) rfl (by decide) q1655 dX7_findStarts_34 ?_
    refine lv_iload_n hx hb dX7_findStarts_37 rfl (lv_at hl 1 rfl) ?_
    obtain ⟨v7, ev7, hiv7, hf⟩ := ald_some hf
    refine mr_iald B hM 9 (by decide) rfl hiv7 ev7 dX7_findStarts_38 ?_
    obtain ⟨r8, hcr8, hf⟩ := bnd_some hf
    refine mr_callV (rest := [.int v6, .int (x2 + nI 1), .ref (D.2.1 27)]) B hM (c_X7_sizeOf l D S3 v7 hcr8) (cwV 1 hts (lw_V q1864 q1866 qs48 q113 q1867) rfl rfl rfl hd_X7_sizeOf ⟨Nat.le_of_ble_eq_true rfl, Nat.le_of_ble_eq_true rfl⟩) rfl hl.1 rfl (Nat.le_of_ble_eq_true rfl) dX7_findStarts_39 ⟨Nat.zero_le _, Nat.zero_le _⟩ (fun H locs hM => ?_)
    refine lv_aload_n hx hb dX7_findStarts_42 rfl (lv_at hl 0 rfl) ?_
    refine lv_aload_n hx hb dX7_findStarts_43 rfl (lv_at hl 0 rfl) ?_
    refine mr_get B hM 10 (v := .ref (D.2.1 10)) rfl (by decide) q1656 dX7_findStarts_44 ?_
    refine lv_iload_n hx hb dX7_findStarts_47 rfl (lv_at hl 1 rfl) ?_
    obtain ⟨v9, ev9, hiv9, hf⟩ := ald_some hf
    refine mr_iald B hM 10 (by decide) rfl hiv9 ev9 dX7_findStarts_48 ?_
    obtain ⟨r10, hcr10, hf⟩ := bnd_some hf
    refine mr_callV (rest := [.int r8, .int v6, .int (x2 + nI 1), .ref (D.2.1 27)]) B hM (c_X7_sizeOf l D S3 v9 hcr10) (cwV 1 hts (lw_V q1864 q1866 qs48 q113 q1867) rfl rfl rfl hd_X7_sizeOf ⟨Nat.le_of_ble_eq_true rfl, Nat.le_of_ble_eq_true rfl⟩) rfl hl.1 rfl (Nat.le_of_ble_eq_true rfl) dX7_findStarts_49 ⟨Nat.zero_le _, Nat.zero_le _⟩ (fun H locs hM => ?_)
    refine lv_imul hx hb dX7_findStarts_52 ?_
    refine lv_iadd hx hb dX7_findStarts_53 ?_
    obtain ⟨S11, eS11, hiS11, hf⟩ := ast_some hf
    refine mr_iast B hM 27 (by decide) rfl hiS11 eS11 dX7_findStarts_54 (fun H locs hM => ?_)
    obtain ⟨x12, ex12, hf⟩ := bd_some hf
    refine lv_iinc (v := x12) (lv' := [(1, .int x12), (0, .ref D.1)]) hx hb dX7_findStarts_55 hl (k := 1) rfl (by rw [ex12]; first | done | rfl) (by decide) rfl (fun ls hl => ?_)
    refine lv_goto (tgt := 9) hx hb dX7_findStarts_58 (by decide) ?_
    cases hf
    exact hk _ _ _ hM (lv_sub hl [1, 0] rfl)
def f_X7_bringSizes_L2 (x1 : Int32) (S2 : MS) : Option ((Int32 × MS) ⊕ ((MS))) :=
  (if nI 3 ≤ x1 then some (.inr S2) else ald 12 (S2.1 7) x1 fun v4 => ast 3 x1 (m_up S2 26 x1.toNatClampNeg v4) fun S5 => bd (x1 + nI 1) fun x6 => some (.inl (x6, S5)))
def f_X7_bringSizes (S : MS) : Option MS :=
  bnd (wO (fun t : Int32 × MS => f_X7_bringSizes_L2 t.1 t.2) fu (nI 0, S)) <| fun S9 => bnd (f_X7_findStarts S9) fun S10 => some S10
abbrev r_X7_bringSizes : Room := { frames := 2, cells := 0, slots := 0, locals := 42 }
set_option maxHeartbeats 4000000 in
set_option maxRecDepth 100000 in
theorem c_X7_bringSizes (l : Launch) (D : MD) (S : MS)  {S' : MS} (hf : f_X7_bringSizes S = some S') : m_Met l yX7_bringSizes cX7_bringSizes 2 (Option.none : Option Jvm.ClassFile.FieldType) r_X7_bringSizes D [.ref D.1] S none S' := by
  refine m_metV (F := 2) (L := 42) (by decide) rfl (Nat.le_of_ble_eq_true rfl) (fun p e s m args below meth c Q B hret hM ls hl => ?_)
  have hx := B.1
  have hb := B.2.1
  have hown := B.2.2.2.1
  have hts := B.2.2.2.2
  have hl : lv_has ls 2 [(0, .ref D.1)] := hl
  generalize s.heap = H, ([] : List Loc) = locs at hM ⊢
  unfold f_X7_bringSizes at hf
  refine lv_iconst (v := nI 0) hx hb dX7_bringSizes_0 ic0 ?_
  refine lv_istore_n (lv' := [(1, .int (nI 0)), (0, .ref D.1)]) hx hb dX7_bringSizes_1 rfl hl (by decide) rfl (fun ls hl => ?_)
  obtain ⟨y8, hxy8, hf⟩ := bnd_some hf
  have hy8 : (fun t : MS => ∀ (H : Heap) (locs : List Loc) (ls : Array Slot), m_I D s H locs t → lv_has ls 2 [(0, .ref D.1)] → W p l e r_X7_bringSizes s m args below meth c H locs 0 0 Q (F0 m 25 ls [])) y8 := by
    obtain ⟨S9, rfl⟩ : ∃ z, z = y8 := ⟨_, rfl⟩
    intro H locs ls hM hl
    refine lv_aload_n hx hb dX7_bringSizes_25 rfl (lv_at hl 0 rfl) ?_
    obtain ⟨S10, hcS10, hf⟩ := bnd_some hf
    refine mr_callV (rest := []) B hM (c_X7_findStarts l D S9  hcS10) (cwV 0 hts (lw_V q1860 q1862 qs47 q113 q1863) rfl rfl rfl hd_X7_findStarts ⟨Nat.le_of_ble_eq_true rfl, Nat.le_of_ble_eq_true rfl⟩) rfl hl.1 rfl (Nat.le_of_ble_eq_true rfl) dX7_bringSizes_26 ⟨Nat.zero_le _, Nat.zero_le _⟩ (fun H locs hM => ?_)
    cases hf
    exact hret _ _ _ _ hM dX7_bringSizes_29
  refine lp_W (step := (fun t : Int32 × MS => f_X7_bringSizes_L2 t.1 t.2)) (fun t : Int32 × MS => ∀ (H : Heap) (locs : List Loc) (ls : Array Slot), m_I D s H locs t.2 → lv_has ls 2 [(0, .ref D.1), (1, .int t.1)] → W p l e r_X7_bringSizes s m args below meth c H locs 0 0 Q (F0 m 2 ls [])) (fun t : MS => ∀ (H : Heap) (locs : List Loc) (ls : Array Slot), m_I D s H locs t → lv_has ls 2 [(0, .ref D.1)] → W p l e r_X7_bringSizes s m args below meth c H locs 0 0 Q (F0 m 25 ls [])) ?_ fu (nI 0, S) y8 hxy8 hy8 _ _ _ hM (lv_sub hl [1, 0] rfl)
  clear hf hxy8 hy8
  rintro ⟨x1, S2⟩ o (hf : f_X7_bringSizes_L2 x1 S2 = some o) hk
  intro H locs ls hM hl
  unfold f_X7_bringSizes_L2 at hf
  refine lv_iload_n hx hb dX7_bringSizes_2 rfl (lv_at hl 1 rfl) ?_
  refine lv_iconst (v := nI 3) hx hb dX7_bringSizes_3 ic3 ?_
  refine lv_icmp_ge (tgt := 25) hx hb dX7_bringSizes_4 (by decide) (fun c3 => ?_) (fun c3 => ?_)
  · have hf := it_pos c3 hf
    cases hf
    exact hk _ _ _ hM (lv_sub hl [0] rfl)
  · have hf := it_neg c3 hf
    refine lv_aload_n hx hb dX7_bringSizes_7 rfl (lv_at hl 0 rfl) ?_
    refine mr_get B hM 26 (v := .ref (D.2.1 26)) rfl (by decide) q1672 dX7_bringSizes_8 ?_
    refine lv_iload_n hx hb dX7_bringSizes_11 rfl (lv_at hl 1 rfl) ?_
    refine lv_aload_n hx hb dX7_bringSizes_12 rfl (lv_at hl 0 rfl) ?_
    refine mr_get B hM 7 (v := .ref (D.2.1 7)) rfl (by decide) q1653 dX7_bringSizes_13 ?_
    refine lv_iload_n hx hb dX7_bringSizes_16 rfl (lv_at hl 1 rfl) ?_
    obtain ⟨v4, ev4, hiv4, hf⟩ := ald_some hf
    refine mr_iald B hM 7 (by decide) rfl hiv4 ev4 dX7_bringSizes_17 ?_
    obtain ⟨S5, eS5, hiS5, hf⟩ := ast_some hf
    refine mr_iast B hM 26 (by decide) rfl hiS5 eS5 dX7_bringSizes_18 (fun H locs hM => ?_)
    obtain ⟨x6, ex6, hf⟩ := bd_some hf
    refine lv_iinc (v := x6) (lv' := [(1, .int x6), (0, .ref D.1)]) hx hb dX7_bringSizes_19 hl (k := 1) rfl (by rw [ex6]; first | done | rfl) (by decide) rfl (fun ls hl => ?_)
    refine lv_goto (tgt := 2) hx hb dX7_bringSizes_22 (by decide) ?_
    cases hf
    exact hk _ _ _ hM (lv_sub hl [1, 0] rfl)
def f_X7_manyFacts (S : MS) : Option Int32 :=
  ald 4 (S.1 8) (nI 0) fun v1 => ald 5 (S.1 27) v1 fun v2 => some v2
abbrev r_X7_manyFacts : Room := { frames := 0, cells := 0, slots := 0, locals := 0 }
set_option maxHeartbeats 4000000 in
set_option maxRecDepth 100000 in
theorem c_X7_manyFacts (l : Launch) (D : MD) (S : MS)  {r : Int32} (hf : f_X7_manyFacts S = some r) : m_Met l yX7_manyFacts cX7_manyFacts 1 (Option.some Jvm.ClassFile.FieldType.int) r_X7_manyFacts D [.ref D.1] S (some (.int r)) S := by
  refine m_metI (F := 0) (L := 0) (by decide) rfl (Nat.le_of_ble_eq_true rfl) (fun p e s m args below meth c Q B hret hM ls hl => ?_)
  have hx := B.1
  have hb := B.2.1
  have hown := B.2.2.2.1
  have hts := B.2.2.2.2
  have hl : lv_has ls 1 [(0, .ref D.1)] := hl
  generalize s.heap = H, ([] : List Loc) = locs at hM ⊢
  unfold f_X7_manyFacts at hf
  refine lv_aload_n hx hb dX7_manyFacts_0 rfl (lv_at hl 0 rfl) ?_
  refine mr_get B hM 27 (v := .ref (D.2.1 27)) rfl (by decide) q1673 dX7_manyFacts_1 ?_
  refine lv_aload_n hx hb dX7_manyFacts_4 rfl (lv_at hl 0 rfl) ?_
  refine mr_get B hM 8 (v := .ref (D.2.1 8)) rfl (by decide) q1654 dX7_manyFacts_5 ?_
  refine lv_iconst (v := nI 0) hx hb dX7_manyFacts_8 ic0 ?_
  obtain ⟨v1, ev1, hiv1, hf⟩ := ald_some hf
  refine mr_iald B hM 8 (by decide) rfl hiv1 ev1 dX7_manyFacts_9 ?_
  obtain ⟨v2, ev2, hiv2, hf⟩ := ald_some hf
  refine mr_iald B hM 27 (by decide) rfl hiv2 ev2 dX7_manyFacts_10 ?_
  cases hf
  exact hret _ _ _ _ rfl hM dX7_manyFacts_11
def f_X7_facts (S : MS) : Option (Int32 × MS) :=
  bd (m_up S 0 0 (nI 0)) fun S1 => bnd (f_X7_bringSizes S1) fun S2 => bnd (f_X7_manyFacts S2) fun r3 => some (r3, S2)
abbrev r_X7_facts : Room := { frames := 3, cells := 0, slots := 0, locals := 63 }
set_option maxHeartbeats 4000000 in
set_option maxRecDepth 100000 in
theorem c_X7_facts (l : Launch) (D : MD) (S : MS)  {r : Int32} {S' : MS} (hf : f_X7_facts S = some (r, S')) : m_Met l yX7_facts cX7_facts 1 (Option.some Jvm.ClassFile.FieldType.int) r_X7_facts D [.ref D.1] S (some (.int r)) S' := by
  refine m_metI (F := 3) (L := 63) (by decide) rfl (Nat.le_of_ble_eq_true rfl) (fun p e s m args below meth c Q B hret hM ls hl => ?_)
  have hx := B.1
  have hb := B.2.1
  have hown := B.2.2.2.1
  have hts := B.2.2.2.2
  have hl : lv_has ls 1 [(0, .ref D.1)] := hl
  generalize s.heap = H, ([] : List Loc) = locs at hM ⊢
  unfold f_X7_facts at hf
  refine lv_aload_n hx hb dX7_facts_0 rfl (lv_at hl 0 rfl) ?_
  refine lv_iconst (v := nI 0) hx hb dX7_facts_1 ic0 ?_
  obtain ⟨S1, eS1, hf⟩ := bd_some hf
  refine mr_puti B hM 0 (by decide) eS1 rfl (tyX7_ok 0 (by decide)) q1646 dX7_facts_2 (fun H locs hM => ?_)
  refine lv_aload_n hx hb dX7_facts_5 rfl (lv_at hl 0 rfl) ?_
  obtain ⟨S2, hcS2, hf⟩ := bnd_some hf
  refine mr_callV (rest := []) B hM (c_X7_bringSizes l D S1  hcS2) (cwV 0 hts (lw_V q1856 q1858 qs46 q113 q1859) rfl rfl rfl hd_X7_bringSizes ⟨Nat.le_of_ble_eq_true rfl, Nat.le_of_ble_eq_true rfl⟩) rfl hl.1 rfl (Nat.le_of_ble_eq_true rfl) dX7_facts_6 ⟨Nat.zero_le _, Nat.zero_le _⟩ (fun H locs hM => ?_)
  refine lv_aload_n hx hb dX7_facts_9 rfl (lv_at hl 0 rfl) ?_
  obtain ⟨r3, hcr3, hf⟩ := bnd_some hf
  refine mr_callV (rest := []) B hM (c_X7_manyFacts l D S2  hcr3) (cwV 0 hts (lw_V q1868 q1870 qs49 q113 q1871) rfl rfl rfl hd_X7_manyFacts ⟨Nat.le_of_ble_eq_true rfl, Nat.le_of_ble_eq_true rfl⟩) rfl hl.1 rfl (Nat.le_of_ble_eq_true rfl) dX7_facts_10 ⟨Nat.zero_le _, Nat.zero_le _⟩ (fun H locs hM => ?_)
  cases hf
  exact hret _ _ _ _ rfl hM dX7_facts_13
def f_X7_factAt (S : MS) (p0 : Int32) (p1 : Int32) (p2 : Int32) : Option Int32 :=
  ald 16 (S.1 10) p0 fun v1 => bd (if v1 = (-1) then nI 0 else p2) fun x4 => ald 16 (S.1 9) p0 fun v5 => bnd (f_X7_sizeOf S v5) fun r6 => bnd (f_X7_in p1 (nI 0) (r6 - nI 1)) fun r7 => (if r7 = 0 then some (-1) else ald 16 (S.1 10) p0 fun v9 => bnd (f_X7_sizeOf S v9) fun r10 => bnd (f_X7_in x4 (nI 0) (r10 - nI 1)) fun r11 => (if r11 = 0 then some (-1) else ald 5 (S.1 27) p0 fun v13 => ald 16 (S.1 10) p0 fun v14 => bnd (f_X7_sizeOf S v14) fun r15 => some ((v13 + (r15 * p1)) + x4)))
abbrev r_X7_factAt : Room := { frames := 1, cells := 0, slots := 0, locals := 22 }
set_option maxHeartbeats 4000000 in
set_option maxRecDepth 100000 in
theorem c_X7_factAt (l : Launch) (D : MD) (S : MS) (p0 : Int32) (p1 : Int32) (p2 : Int32) {r : Int32} (hf : f_X7_factAt S p0 p1 p2 = some r) : m_Met l yX7_factAt cX7_factAt 5 (Option.some Jvm.ClassFile.FieldType.int) r_X7_factAt D [.ref D.1, .int p0, .int p1, .int p2] S (some (.int r)) S := by
  refine m_metI (F := 1) (L := 22) (by decide) rfl (Nat.le_of_ble_eq_true rfl) (fun p e s m args below meth c Q B hret hM ls hl => ?_)
  have hx := B.1
  have hb := B.2.1
  have hown := B.2.2.2.1
  have hts := B.2.2.2.2
  have hl : lv_has ls 5 [(0, .ref D.1), (1, .int p0), (2, .int p1), (3, .int p2)] := hl
  generalize s.heap = H, ([] : List Loc) = locs at hM ⊢
  unfold f_X7_factAt at hf
  refine lv_aload_n hx hb dX7_factAt_0 rfl (lv_at hl 0 rfl) ?_
  refine mr_get B hM 10 (v := .ref (D.2.1 10)) rfl (by decide) q1656 dX7_factAt_1 ?_
  refine lv_iload_n hx hb dX7_factAt_4 rfl (lv_at hl 1 rfl) ?_
  obtain ⟨v1, ev1, hiv1, hf⟩ := ald_some hf
  refine mr_iald B hM 10 (by decide) rfl hiv1 ev1 dX7_factAt_5 ?_
  refine lv_iconst (v := (-1)) hx hb dX7_factAt_6 icm1 ?_
  obtain ⟨x4, ex4, hf⟩ := bd_some hf
  have jx4 : W p l e r_X7_factAt s m args below meth c H locs 0 0 Q (F0 m 15 ls [.int x4]) := by
    refine lv_istore (lv' := [(4, .int x4), (0, .ref D.1), (1, .int p0), (2, .int p1), (3, .int p2)]) hx hb dX7_factAt_15 hl (by decide) rfl (fun ls hl => ?_)
    refine lv_iload_n hx hb dX7_factAt_17 rfl (lv_at hl 3 rfl) ?_
    refine lv_iconst (v := nI 0) hx hb dX7_factAt_18 ic0 ?_
    refine lv_aload_n hx hb dX7_factAt_19 rfl (lv_at hl 1 rfl) ?_
    refine lv_aload_n hx hb dX7_factAt_20 rfl (lv_at hl 1 rfl) ?_
    refine mr_get B hM 9 (v := .ref (D.2.1 9)) rfl (by decide) q1655 dX7_factAt_21 ?_
    refine lv_iload_n hx hb dX7_factAt_24 rfl (lv_at hl 2 rfl) ?_
    obtain ⟨v5, ev5, hiv5, hf⟩ := ald_some hf
    refine mr_iald B hM 9 (by decide) rfl hiv5 ev5 dX7_factAt_25 ?_
    obtain ⟨r6, hcr6, hf⟩ := bnd_some hf
    refine mr_callV (rest := [.int (nI 0), .int p1]) B hM (c_X7_sizeOf l D S v5 hcr6) (cwV 1 hts (lw_V q1864 q1866 qs48 q113 q1867) rfl rfl rfl hd_X7_sizeOf ⟨Nat.le_of_ble_eq_true rfl, Nat.le_of_ble_eq_true rfl⟩) rfl hl.1 rfl (Nat.le_of_ble_eq_true rfl) dX7_factAt_26 ⟨Nat.zero_le _, Nat.zero_le _⟩ (fun H locs hM => ?_)
    refine lv_iconst (v := nI 1) hx hb dX7_factAt_29 ic1 ?_
    refine lv_isub hx hb dX7_factAt_30 ?_
    obtain ⟨r7, hcr7, hf⟩ := bnd_some hf
    refine pr_callS (rest := []) B (c_X7_in l p1 (nI 0) (r6 - nI 1) hcr7) (va_cwS 3 hts (lw_S q1841 q1842 q113 q1843) rfl rfl rfl hd_X7_in ⟨Nat.le_of_ble_eq_true rfl, Nat.le_of_ble_eq_true rfl⟩) rfl hl.1 rfl (Nat.le_of_ble_eq_true rfl) dX7_factAt_31 ⟨Nat.zero_le _, Nat.zero_le _⟩ ?_
    refine lv_if_eq (tgt := 83) hx hb dX7_factAt_34 (by decide) (fun c8 => ?_) (fun c8 => ?_)
    · have hf := it_pos c8 hf
      refine lv_iconst (v := (-1)) hx hb dX7_factAt_83 icm1 ?_
      cases hf
      exact hret _ _ _ _ rfl hM dX7_factAt_84
    · have hf := it_neg c8 hf
      refine lv_iload hx hb dX7_factAt_37 (lv_at hl 0 rfl) ?_
      refine lv_iconst (v := nI 0) hx hb dX7_factAt_39 ic0 ?_
      refine lv_aload_n hx hb dX7_factAt_40 rfl (lv_at hl 1 rfl) ?_
      refine lv_aload_n hx hb dX7_factAt_41 rfl (lv_at hl 1 rfl) ?_
      refine mr_get B hM 10 (v := .ref (D.2.1 10)) rfl (by decide) q1656 dX7_factAt_42 ?_
      refine lv_iload_n hx hb dX7_factAt_45 rfl (lv_at hl 2 rfl) ?_
      obtain ⟨v9, ev9, hiv9, hf⟩ := ald_some hf
      refine mr_iald B hM 10 (by decide) rfl hiv9 ev9 dX7_factAt_46 ?_
      obtain ⟨r10, hcr10, hf⟩ := bnd_some hf
      refine mr_callV (rest := [.int (nI 0), .int x4]) B hM (c_X7_sizeOf l D S v9 hcr10) (cwV 1 hts (lw_V q1864 q1866 qs48 q113 q1867) rfl rfl rfl hd_X7_sizeOf ⟨Nat.le_of_ble_eq_true rfl, Nat.le_of_ble_eq_true rfl⟩) rfl hl.1 rfl (Nat.le_of_ble_eq_true rfl) dX7_factAt_47 ⟨Nat.zero_le _, Nat.zero_le _⟩ (fun H locs hM => ?_)
      refine lv_iconst (v := nI 1) hx hb dX7_factAt_50 ic1 ?_
      refine lv_isub hx hb dX7_factAt_51 ?_
      obtain ⟨r11, hcr11, hf⟩ := bnd_some hf
      refine pr_callS (rest := []) B (c_X7_in l x4 (nI 0) (r10 - nI 1) hcr11) (va_cwS 3 hts (lw_S q1841 q1842 q113 q1843) rfl rfl rfl hd_X7_in ⟨Nat.le_of_ble_eq_true rfl, Nat.le_of_ble_eq_true rfl⟩) rfl hl.1 rfl (Nat.le_of_ble_eq_true rfl) dX7_factAt_52 ⟨Nat.zero_le _, Nat.zero_le _⟩ ?_
      refine lv_if_eq (tgt := 83) hx hb dX7_factAt_55 (by decide) (fun c12 => ?_) (fun c12 => ?_)
      · have hf := it_pos c12 hf
        refine lv_iconst (v := (-1)) hx hb dX7_factAt_83 icm1 ?_
        cases hf
        exact hret _ _ _ _ rfl hM dX7_factAt_84
      · have hf := it_neg c12 hf
        refine lv_aload_n hx hb dX7_factAt_58 rfl (lv_at hl 1 rfl) ?_
        refine mr_get B hM 27 (v := .ref (D.2.1 27)) rfl (by decide) q1673 dX7_factAt_59 ?_
        refine lv_iload_n hx hb dX7_factAt_62 rfl (lv_at hl 2 rfl) ?_
        obtain ⟨v13, ev13, hiv13, hf⟩ := ald_some hf
        refine mr_iald B hM 27 (by decide) rfl hiv13 ev13 dX7_factAt_63 ?_
        refine lv_aload_n hx hb dX7_factAt_64 rfl (lv_at hl 1 rfl) ?_
        refine lv_aload_n hx hb dX7_factAt_65 rfl (lv_at hl 1 rfl) ?_
        refine mr_get B hM 10 (v := .ref (D.2.1 10)) rfl (by decide) q1656 dX7_factAt_66 ?_
        refine lv_iload_n hx hb dX7_factAt_69 rfl (lv_at hl 2 rfl) ?_
        obtain ⟨v14, ev14, hiv14, hf⟩ := ald_some hf
        refine mr_iald B hM 10 (by decide) rfl hiv14 ev14 dX7_factAt_70 ?_
        obtain ⟨r15, hcr15, hf⟩ := bnd_some hf
        refine mr_callV (rest := [.int v13]) B hM (c_X7_sizeOf l D S v14 hcr15) (cwV 1 hts (lw_V q1864 q1866 qs48 q113 q1867) rfl rfl rfl hd_X7_sizeOf ⟨Nat.le_of_ble_eq_true rfl, Nat.le_of_ble_eq_true rfl⟩) rfl hl.1 rfl (Nat.le_of_ble_eq_true rfl) dX7_factAt_71 ⟨Nat.zero_le _, Nat.zero_le _⟩ (fun H locs hM => ?_)
        refine lv_iload_n hx hb dX7_factAt_74 rfl (lv_at hl 3 rfl) ?_
        refine lv_imul hx hb dX7_factAt_75 ?_
        refine lv_iadd hx hb dX7_factAt_76 ?_
        refine lv_iload hx hb dX7_factAt_77 (lv_at hl 0 rfl) ?_
        refine lv_iadd hx hb dX7_factAt_79 ?_
        refine lv_goto (tgt := 84) hx hb dX7_factAt_80 (by decide) ?_
        cases hf
        exact hret _ _ _ _ rfl hM dX7_factAt_84
  refine lv_icmp_ne (tgt := 14) hx hb dX7_factAt_7 (by decide) (fun c2 => ?_) (fun c2 => ?_)
  · refine lv_iload_n hx hb dX7_factAt_14 rfl (lv_at hl 3 rfl) ?_
    exact js (ex4.trans (if_neg c2)) jx4
  · refine lv_iconst (v := nI 0) hx hb dX7_factAt_10 ic0 ?_
    refine lv_goto (tgt := 15) hx hb dX7_factAt_11 (by decide) ?_
    exact js (ex4.trans (if_pos c2)) jx4
def f_X7_isRelation (S : MS) (p0 : Int32) : Option Int32 :=
  ald 4 (S.1 8) (nI 0) fun v1 => bnd (f_X7_in p0 (nI 0) (v1 - nI 1)) fun r2 => chk (r2 = 0 ∨ r2 = 1) <| some r2
abbrev r_X7_isRelation : Room := { frames := 1, cells := 0, slots := 0, locals := 22 }
set_option maxHeartbeats 4000000 in
set_option maxRecDepth 100000 in
theorem c_X7_isRelation (l : Launch) (D : MD) (S : MS) (p0 : Int32) {r : Int32} (hf : f_X7_isRelation S p0 = some r) : m_Met l yX7_isRelation cX7_isRelation 2 (Option.some Jvm.ClassFile.FieldType.boolean) r_X7_isRelation D [.ref D.1, .int p0] S (some (.int r)) S := by
  refine m_metI (F := 1) (L := 22) (by decide) rfl (Nat.le_of_ble_eq_true rfl) (fun p e s m args below meth c Q B hret hM ls hl => ?_)
  have hx := B.1
  have hb := B.2.1
  have hown := B.2.2.2.1
  have hts := B.2.2.2.2
  have hl : lv_has ls 2 [(0, .ref D.1), (1, .int p0)] := hl
  generalize s.heap = H, ([] : List Loc) = locs at hM ⊢
  unfold f_X7_isRelation at hf
  refine lv_iload_n hx hb dX7_isRelation_0 rfl (lv_at hl 1 rfl) ?_
  refine lv_iconst (v := nI 0) hx hb dX7_isRelation_1 ic0 ?_
  refine lv_aload_n hx hb dX7_isRelation_2 rfl (lv_at hl 0 rfl) ?_
  refine mr_get B hM 8 (v := .ref (D.2.1 8)) rfl (by decide) q1654 dX7_isRelation_3 ?_
  refine lv_iconst (v := nI 0) hx hb dX7_isRelation_6 ic0 ?_
  obtain ⟨v1, ev1, hiv1, hf⟩ := ald_some hf
  refine mr_iald B hM 8 (by decide) rfl hiv1 ev1 dX7_isRelation_7 ?_
  refine lv_iconst (v := nI 1) hx hb dX7_isRelation_8 ic1 ?_
  refine lv_isub hx hb dX7_isRelation_9 ?_
  obtain ⟨r2, hcr2, hf⟩ := bnd_some hf
  refine pr_callS (rest := []) B (c_X7_in l p0 (nI 0) (v1 - nI 1) hcr2) (va_cwS 3 hts (lw_S q1841 q1842 q113 q1843) rfl rfl rfl hd_X7_in ⟨Nat.le_of_ble_eq_true rfl, Nat.le_of_ble_eq_true rfl⟩) rfl hl.1 rfl (Nat.le_of_ble_eq_true rfl) dX7_isRelation_10 ⟨Nat.zero_le _, Nat.zero_le _⟩ ?_
  obtain ⟨hb3, hf⟩ := chk_some hf
  cases hf
  exact hret _ _ _ _ (by rcases hb3 with q | q <;> (rw [q]; rfl)) hM dX7_isRelation_13
def f_X7_toldFact (S : MS) (p0 : Int32) (p1 : Int32) (p2 : Int32) : Option (Int32 × MS) :=
  bnd (f_X7_bringSizes S) fun S1 => bnd (f_X7_isRelation S1 p0) fun r2 => (if r2 = 0 then some ((-1), S1) else bnd (f_X7_factAt S1 p0 p1 p2) fun r4 => some (r4, S1))
abbrev r_X7_toldFact : Room := { frames := 3, cells := 0, slots := 0, locals := 63 }
set_option maxHeartbeats 4000000 in
set_option maxRecDepth 100000 in
theorem c_X7_toldFact (l : Launch) (D : MD) (S : MS) (p0 : Int32) (p1 : Int32) (p2 : Int32) {r : Int32} {S' : MS} (hf : f_X7_toldFact S p0 p1 p2 = some (r, S')) : m_Met l yX7_toldFact cX7_toldFact 4 (Option.some Jvm.ClassFile.FieldType.int) r_X7_toldFact D [.ref D.1, .int p0, .int p1, .int p2] S (some (.int r)) S' := by
  refine m_metI (F := 3) (L := 63) (by decide) rfl (Nat.le_of_ble_eq_true rfl) (fun p e s m args below meth c Q B hret hM ls hl => ?_)
  have hx := B.1
  have hb := B.2.1
  have hown := B.2.2.2.1
  have hts := B.2.2.2.2
  have hl : lv_has ls 4 [(0, .ref D.1), (1, .int p0), (2, .int p1), (3, .int p2)] := hl
  generalize s.heap = H, ([] : List Loc) = locs at hM ⊢
  unfold f_X7_toldFact at hf
  refine lv_aload_n hx hb dX7_toldFact_0 rfl (lv_at hl 0 rfl) ?_
  obtain ⟨S1, hcS1, hf⟩ := bnd_some hf
  refine mr_callV (rest := []) B hM (c_X7_bringSizes l D S  hcS1) (cwV 0 hts (lw_V q1856 q1858 qs46 q113 q1859) rfl rfl rfl hd_X7_bringSizes ⟨Nat.le_of_ble_eq_true rfl, Nat.le_of_ble_eq_true rfl⟩) rfl hl.1 rfl (Nat.le_of_ble_eq_true rfl) dX7_toldFact_1 ⟨Nat.zero_le _, Nat.zero_le _⟩ (fun H locs hM => ?_)
  refine lv_aload_n hx hb dX7_toldFact_4 rfl (lv_at hl 0 rfl) ?_
  refine lv_iload_n hx hb dX7_toldFact_5 rfl (lv_at hl 1 rfl) ?_
  obtain ⟨r2, hcr2, hf⟩ := bnd_some hf
  refine mr_callV (rest := []) B hM (c_X7_isRelation l D S1 p0 hcr2) (cwV 1 hts (lw_V q1880 q1882 qs51 q113 q1883) rfl rfl rfl hd_X7_isRelation ⟨Nat.le_of_ble_eq_true rfl, Nat.le_of_ble_eq_true rfl⟩) rfl hl.1 rfl (Nat.le_of_ble_eq_true rfl) dX7_toldFact_6 ⟨Nat.zero_le _, Nat.zero_le _⟩ (fun H locs hM => ?_)
  refine lv_if_eq (tgt := 22) hx hb dX7_toldFact_9 (by decide) (fun c3 => ?_) (fun c3 => ?_)
  · have hf := it_pos c3 hf
    refine lv_iconst (v := (-1)) hx hb dX7_toldFact_22 icm1 ?_
    cases hf
    exact hret _ _ _ _ rfl hM dX7_toldFact_23
  · have hf := it_neg c3 hf
    refine lv_aload_n hx hb dX7_toldFact_12 rfl (lv_at hl 0 rfl) ?_
    refine lv_iload_n hx hb dX7_toldFact_13 rfl (lv_at hl 1 rfl) ?_
    refine lv_iload_n hx hb dX7_toldFact_14 rfl (lv_at hl 2 rfl) ?_
    refine lv_iload_n hx hb dX7_toldFact_15 rfl (lv_at hl 3 rfl) ?_
    obtain ⟨r4, hcr4, hf⟩ := bnd_some hf
    refine mr_callV (rest := []) B hM (c_X7_factAt l D S1 p0 p1 p2 hcr4) (cwV 3 hts (lw_V q1884 q1886 qs52 q113 q1887) rfl rfl rfl hd_X7_factAt ⟨Nat.le_of_ble_eq_true rfl, Nat.le_of_ble_eq_true rfl⟩) rfl hl.1 rfl (Nat.le_of_ble_eq_true rfl) dX7_toldFact_16 ⟨Nat.zero_le _, Nat.zero_le _⟩ (fun H locs hM => ?_)
    refine lv_goto (tgt := 23) hx hb dX7_toldFact_19 (by decide) ?_
    cases hf
    exact hret _ _ _ _ rfl hM dX7_toldFact_23
def f_X7_tell (S : MS) (p0 : Int32) (p1 : Int32) (p2 : Int32) (p3 : Int32) : Option (Int32 × MS) :=
  bd (m_up S 0 0 (nI 0)) fun S1 => bnd (f_X7_toldFact S1 p0 p1 p2) <| u2 fun r2 S3 => (if r2 = (-1) then some (nI 0, S3) else ald 144 (S3.1 11) r2 fun v5 => (if v5 = p3 then some (nI 0, S3) else ast 144 r2 (m_up S3 11 r2.toNatClampNeg (vp_nar .boolean p3)) fun S7 => some (nI 1, S7)))
abbrev r_X7_tell : Room := { frames := 4, cells := 0, slots := 0, locals := 86 }
set_option maxHeartbeats 4000000 in
set_option maxRecDepth 100000 in
theorem c_X7_tell (l : Launch) (D : MD) (S : MS) (p0 : Int32) (p1 : Int32) (p2 : Int32) (p3 : Int32) {r : Int32} {S' : MS} (hf : f_X7_tell S p0 p1 p2 p3 = some (r, S')) : m_Met l yX7_tell cX7_tell 6 (Option.some Jvm.ClassFile.FieldType.boolean) r_X7_tell D [.ref D.1, .int p0, .int p1, .int p2, .int p3] S (some (.int r)) S' := by
  refine m_metI (F := 4) (L := 86) (by decide) rfl (Nat.le_of_ble_eq_true rfl) (fun p e s m args below meth c Q B hret hM ls hl => ?_)
  have hx := B.1
  have hb := B.2.1
  have hown := B.2.2.2.1
  have hts := B.2.2.2.2
  have hl : lv_has ls 6 [(0, .ref D.1), (1, .int p0), (2, .int p1), (3, .int p2), (4, .int p3)] := hl
  generalize s.heap = H, ([] : List Loc) = locs at hM ⊢
  unfold f_X7_tell at hf
  refine lv_aload_n hx hb dX7_tell_0 rfl (lv_at hl 0 rfl) ?_
  refine lv_iconst (v := nI 0) hx hb dX7_tell_1 ic0 ?_
  obtain ⟨S1, eS1, hf⟩ := bd_some hf
  refine mr_puti B hM 0 (by decide) eS1 rfl (tyX7_ok 0 (by decide)) q1646 dX7_tell_2 (fun H locs hM => ?_)
  refine lv_aload_n hx hb dX7_tell_5 rfl (lv_at hl 0 rfl) ?_
  refine lv_iload_n hx hb dX7_tell_6 rfl (lv_at hl 1 rfl) ?_
  refine lv_iload_n hx hb dX7_tell_7 rfl (lv_at hl 2 rfl) ?_
  refine lv_iload_n hx hb dX7_tell_8 rfl (lv_at hl 3 rfl) ?_
  obtain ⟨⟨r2, S3⟩, hcr2, hf⟩ := bnd_some hf
  have hf := u2_at hf
  refine mr_callV (rest := []) B hM (c_X7_toldFact l D S1 p0 p1 p2 hcr2) (cwV 3 hts (lw_V q1876 q1878 qs50 q113 q1879) rfl rfl rfl hd_X7_toldFact ⟨Nat.le_of_ble_eq_true rfl, Nat.le_of_ble_eq_true rfl⟩) rfl hl.1 rfl (Nat.le_of_ble_eq_true rfl) dX7_tell_9 ⟨Nat.zero_le _, Nat.zero_le _⟩ (fun H locs hM => ?_)
  refine lv_istore (lv' := [(5, .int r2), (0, .ref D.1), (1, .int p0), (2, .int p1), (3, .int p2), (4, .int p3)]) hx hb dX7_tell_12 hl (by decide) rfl (fun ls hl => ?_)
  refine lv_iload hx hb dX7_tell_14 (lv_at hl 0 rfl) ?_
  refine lv_iconst (v := (-1)) hx hb dX7_tell_16 icm1 ?_
  refine lv_icmp_eq (tgt := 32) hx hb dX7_tell_17 (by decide) (fun c4 => ?_) (fun c4 => ?_)
  · have hf := it_pos c4 hf
    refine lv_iconst (v := nI 0) hx hb dX7_tell_32 ic0 ?_
    cases hf
    exact hret _ _ _ _ rfl hM dX7_tell_33
  · have hf := it_neg c4 hf
    refine lv_aload_n hx hb dX7_tell_20 rfl (lv_at hl 1 rfl) ?_
    refine mr_get B hM 11 (v := .ref (D.2.1 11)) rfl (by decide) q1657 dX7_tell_21 ?_
    refine lv_iload hx hb dX7_tell_24 (lv_at hl 0 rfl) ?_
    obtain ⟨v5, ev5, hiv5, hf⟩ := ald_some hf
    refine mr_zald B hM 11 (by decide) rfl hiv5 ev5 dX7_tell_26 ?_
    refine lv_iload hx hb dX7_tell_27 (lv_at hl 5 rfl) ?_
    refine lv_icmp_ne (tgt := 34) hx hb dX7_tell_29 (by decide) (fun c6 => ?_) (fun c6 => ?_)
    · have hf := it_neg c6 hf
      refine lv_aload_n hx hb dX7_tell_34 rfl (lv_at hl 1 rfl) ?_
      refine mr_get B hM 11 (v := .ref (D.2.1 11)) rfl (by decide) q1657 dX7_tell_35 ?_
      refine lv_iload hx hb dX7_tell_38 (lv_at hl 0 rfl) ?_
      refine lv_iload hx hb dX7_tell_40 (lv_at hl 5 rfl) ?_
      obtain ⟨S7, eS7, hiS7, hf⟩ := ast_some hf
      refine mr_zast B hM 11 (by decide) rfl hiS7 eS7 dX7_tell_42 (fun H locs hM => ?_)
      refine lv_iconst (v := nI 1) hx hb dX7_tell_43 ic1 ?_
      cases hf
      exact hret _ _ _ _ rfl hM dX7_tell_44
    · have hf := it_pos c6 hf
      refine lv_iconst (v := nI 0) hx hb dX7_tell_32 ic0 ?_
      cases hf
      exact hret _ _ _ _ rfl hM dX7_tell_33
def f_X7_fact (S : MS) (p0 : Int32) (p1 : Int32) (p2 : Int32) : Option (Int32 × MS) :=
  bd (m_up S 0 0 (nI 0)) fun S1 => bnd (f_X7_toldFact S1 p0 p1 p2) <| u2 fun r2 S3 => (if r2 = (-1) then some ((-1), S3) else ald 144 (S3.1 11) r2 fun v5 => (if v5 = 0 then some (nI 0, S3) else some (nI 1, S3)))
abbrev r_X7_fact : Room := { frames := 4, cells := 0, slots := 0, locals := 86 }
set_option maxHeartbeats 4000000 in
set_option maxRecDepth 100000 in
theorem c_X7_fact (l : Launch) (D : MD) (S : MS) (p0 : Int32) (p1 : Int32) (p2 : Int32) {r : Int32} {S' : MS} (hf : f_X7_fact S p0 p1 p2 = some (r, S')) : m_Met l yX7_fact cX7_fact 5 (Option.some Jvm.ClassFile.FieldType.int) r_X7_fact D [.ref D.1, .int p0, .int p1, .int p2] S (some (.int r)) S' := by
  refine m_metI (F := 4) (L := 86) (by decide) rfl (Nat.le_of_ble_eq_true rfl) (fun p e s m args below meth c Q B hret hM ls hl => ?_)
  have hx := B.1
  have hb := B.2.1
  have hown := B.2.2.2.1
  have hts := B.2.2.2.2
  have hl : lv_has ls 5 [(0, .ref D.1), (1, .int p0), (2, .int p1), (3, .int p2)] := hl
  generalize s.heap = H, ([] : List Loc) = locs at hM ⊢
  unfold f_X7_fact at hf
  refine lv_aload_n hx hb dX7_fact_0 rfl (lv_at hl 0 rfl) ?_
  refine lv_iconst (v := nI 0) hx hb dX7_fact_1 ic0 ?_
  obtain ⟨S1, eS1, hf⟩ := bd_some hf
  refine mr_puti B hM 0 (by decide) eS1 rfl (tyX7_ok 0 (by decide)) q1646 dX7_fact_2 (fun H locs hM => ?_)
  refine lv_aload_n hx hb dX7_fact_5 rfl (lv_at hl 0 rfl) ?_
  refine lv_iload_n hx hb dX7_fact_6 rfl (lv_at hl 1 rfl) ?_
  refine lv_iload_n hx hb dX7_fact_7 rfl (lv_at hl 2 rfl) ?_
  refine lv_iload_n hx hb dX7_fact_8 rfl (lv_at hl 3 rfl) ?_
  obtain ⟨⟨r2, S3⟩, hcr2, hf⟩ := bnd_some hf
  have hf := u2_at hf
  refine mr_callV (rest := []) B hM (c_X7_toldFact l D S1 p0 p1 p2 hcr2) (cwV 3 hts (lw_V q1876 q1878 qs50 q113 q1879) rfl rfl rfl hd_X7_toldFact ⟨Nat.le_of_ble_eq_true rfl, Nat.le_of_ble_eq_true rfl⟩) rfl hl.1 rfl (Nat.le_of_ble_eq_true rfl) dX7_fact_9 ⟨Nat.zero_le _, Nat.zero_le _⟩ (fun H locs hM => ?_)
  refine lv_istore (lv' := [(4, .int r2), (0, .ref D.1), (1, .int p0), (2, .int p1), (3, .int p2)]) hx hb dX7_fact_12 hl (by decide) rfl (fun ls hl => ?_)
  refine lv_iload hx hb dX7_fact_14 (lv_at hl 0 rfl) ?_
  refine lv_iconst (v := (-1)) hx hb dX7_fact_16 icm1 ?_
  refine lv_icmp_ne (tgt := 24) hx hb dX7_fact_17 (by decide) (fun c4 => ?_) (fun c4 => ?_)
  · have hf := it_neg c4 hf
    refine lv_aload_n hx hb dX7_fact_24 rfl (lv_at hl 1 rfl) ?_
    refine mr_get B hM 11 (v := .ref (D.2.1 11)) rfl (by decide) q1657 dX7_fact_25 ?_
    refine lv_iload hx hb dX7_fact_28 (lv_at hl 0 rfl) ?_
    obtain ⟨v5, ev5, hiv5, hf⟩ := ald_some hf
    refine mr_zald B hM 11 (by decide) rfl hiv5 ev5 dX7_fact_30 ?_
    refine lv_if_eq (tgt := 38) hx hb dX7_fact_31 (by decide) (fun c6 => ?_) (fun c6 => ?_)
    · have hf := it_pos c6 hf
      refine lv_iconst (v := nI 0) hx hb dX7_fact_38 ic0 ?_
      cases hf
      exact hret _ _ _ _ rfl hM dX7_fact_39
    · have hf := it_neg c6 hf
      refine lv_iconst (v := nI 1) hx hb dX7_fact_34 ic1 ?_
      refine lv_goto (tgt := 39) hx hb dX7_fact_35 (by decide) ?_
      cases hf
      exact hret _ _ _ _ rfl hM dX7_fact_39
  · have hf := it_pos c4 hf
    refine lv_iconst (v := (-1)) hx hb dX7_fact_20 icm1 ?_
    refine lv_goto (tgt := 39) hx hb dX7_fact_21 (by decide) ?_
    cases hf
    exact hret _ _ _ _ rfl hM dX7_fact_39
def f_X7_known_J54_10 (p0 : Int32) (p1 : Int32) (p2 : Int32) (p3 : Int32) (S1 : MS)  : Option (Int32 × MS) :=
  ald 4 (S1.1 20) (nI 0) fun v13 => ald 4 (S1.1 20) (nI 0) fun v14 => ast 4 (nI 0) (m_up S1 20 (nI 0).toNatClampNeg (v14 + nI 1)) fun S15 => ald 16 (S15.1 10) p0 fun v16 => bd (if v16 = (-1) then nI 0 else p2) fun x19 => ast 160 v13 (m_up S15 21 v13.toNatClampNeg (((nI 9 * p0) + (nI 3 * p1)) + x19)) fun S20 => bd (if p3 = 0 then nI 0 else nI 1) fun x23 => ast 160 v13 (m_up S20 22 v13.toNatClampNeg x23) fun S24 => ald 4 (S24.1 5) (nI 0) fun v25 => ast 160 v13 (m_up S24 23 v13.toNatClampNeg v25) fun S26 => some (nI 1, S26)
def f_X7_known (S : MS) (p0 : Int32) (p1 : Int32) (p2 : Int32) (p3 : Int32) : Option (Int32 × MS) :=
  bd (m_up S 0 0 (nI 0)) fun S1 => ald 4 (S1.1 20) (nI 0) fun v2 => (if v2 = nI 40 then some (nI 0, S1) else bnd (f_X7_isRelation S1 p0) fun r4 => (if r4 = 0 then some (nI 0, S1) else bnd (f_X7_in p1 (nI 0) (nI 2)) fun r6 => (if r6 = 0 then some (nI 0, S1) else ald 16 (S1.1 10) p0 fun v8 => (if v8 = (-1) then f_X7_known_J54_10 p0 p1 p2 p3 S1 else bnd (f_X7_in p2 (nI 0) (nI 2)) fun r11 => (if r11 = 0 then some (nI 0, S1) else f_X7_known_J54_10 p0 p1 p2 p3 S1)))))
abbrev r_X7_known : Room := { frames := 2, cells := 0, slots := 0, locals := 43 }
set_option maxHeartbeats 4000000 in
set_option maxRecDepth 100000 in
theorem c_X7_known (l : Launch) (D : MD) (S : MS) (p0 : Int32) (p1 : Int32) (p2 : Int32) (p3 : Int32) {r : Int32} {S' : MS} (hf : f_X7_known S p0 p1 p2 p3 = some (r, S')) : m_Met l yX7_known cX7_known 6 (Option.some Jvm.ClassFile.FieldType.boolean) r_X7_known D [.ref D.1, .int p0, .int p1, .int p2, .int p3] S (some (.int r)) S' := by
  refine m_metI (F := 2) (L := 43) (by decide) rfl (Nat.le_of_ble_eq_true rfl) (fun p e s m args below meth c Q B hret hM ls hl => ?_)
  have hx := B.1
  have hb := B.2.1
  have hown := B.2.2.2.1
  have hts := B.2.2.2.2
  have hl : lv_has ls 6 [(0, .ref D.1), (1, .int p0), (2, .int p1), (3, .int p2), (4, .int p3)] := hl
  generalize s.heap = H, ([] : List Loc) = locs at hM ⊢
  unfold f_X7_known at hf
  refine lv_aload_n hx hb dX7_known_0 rfl (lv_at hl 0 rfl) ?_
  refine lv_iconst (v := nI 0) hx hb dX7_known_1 ic0 ?_
  obtain ⟨S1, eS1, hf⟩ := bd_some hf
  refine mr_puti B hM 0 (by decide) eS1 rfl (tyX7_ok 0 (by decide)) q1646 dX7_known_2 (fun H locs hM => ?_)
  refine lv_aload_n hx hb dX7_known_5 rfl (lv_at hl 0 rfl) ?_
  refine mr_get B hM 20 (v := .ref (D.2.1 20)) rfl (by decide) q1666 dX7_known_6 ?_
  refine lv_iconst (v := nI 0) hx hb dX7_known_9 ic0 ?_
  obtain ⟨v2, ev2, hiv2, hf⟩ := ald_some hf
  refine mr_iald B hM 20 (by decide) rfl hiv2 ev2 dX7_known_10 ?_
  refine lv_bipush (v := nI 40) hx hb dX7_known_11 bp40 ?_
  refine lv_icmp_eq (tgt := 52) hx hb dX7_known_13 (by decide) (fun c3 => ?_) (fun c3 => ?_)
  · have hf := it_pos c3 hf
    refine lv_iconst (v := nI 0) hx hb dX7_known_52 ic0 ?_
    cases hf
    exact hret _ _ _ _ rfl hM dX7_known_53
  · have hf := it_neg c3 hf
    refine lv_aload_n hx hb dX7_known_16 rfl (lv_at hl 0 rfl) ?_
    refine lv_iload_n hx hb dX7_known_17 rfl (lv_at hl 1 rfl) ?_
    obtain ⟨r4, hcr4, hf⟩ := bnd_some hf
    refine mr_callV (rest := []) B hM (c_X7_isRelation l D S1 p0 hcr4) (cwV 1 hts (lw_V q1880 q1882 qs51 q113 q1883) rfl rfl rfl hd_X7_isRelation ⟨Nat.le_of_ble_eq_true rfl, Nat.le_of_ble_eq_true rfl⟩) rfl hl.1 rfl (Nat.le_of_ble_eq_true rfl) dX7_known_18 ⟨Nat.zero_le _, Nat.zero_le _⟩ (fun H locs hM => ?_)
    refine lv_if_eq (tgt := 52) hx hb dX7_known_21 (by decide) (fun c5 => ?_) (fun c5 => ?_)
    · have hf := it_pos c5 hf
      refine lv_iconst (v := nI 0) hx hb dX7_known_52 ic0 ?_
      cases hf
      exact hret _ _ _ _ rfl hM dX7_known_53
    · have hf := it_neg c5 hf
      refine lv_iload_n hx hb dX7_known_24 rfl (lv_at hl 2 rfl) ?_
      refine lv_iconst (v := nI 0) hx hb dX7_known_25 ic0 ?_
      refine lv_iconst (v := nI 2) hx hb dX7_known_26 ic2 ?_
      obtain ⟨r6, hcr6, hf⟩ := bnd_some hf
      refine pr_callS (rest := []) B (c_X7_in l p1 (nI 0) (nI 2) hcr6) (va_cwS 3 hts (lw_S q1841 q1842 q113 q1843) rfl rfl rfl hd_X7_in ⟨Nat.le_of_ble_eq_true rfl, Nat.le_of_ble_eq_true rfl⟩) rfl hl.1 rfl (Nat.le_of_ble_eq_true rfl) dX7_known_27 ⟨Nat.zero_le _, Nat.zero_le _⟩ ?_
      refine lv_if_eq (tgt := 52) hx hb dX7_known_30 (by decide) (fun c7 => ?_) (fun c7 => ?_)
      · have hf := it_pos c7 hf
        refine lv_iconst (v := nI 0) hx hb dX7_known_52 ic0 ?_
        cases hf
        exact hret _ _ _ _ rfl hM dX7_known_53
      · have hf := it_neg c7 hf
        refine lv_aload_n hx hb dX7_known_33 rfl (lv_at hl 0 rfl) ?_
        refine mr_get B hM 10 (v := .ref (D.2.1 10)) rfl (by decide) q1656 dX7_known_34 ?_
        refine lv_iload_n hx hb dX7_known_37 rfl (lv_at hl 1 rfl) ?_
        obtain ⟨v8, ev8, hiv8, hf⟩ := ald_some hf
        refine mr_iald B hM 10 (by decide) rfl hiv8 ev8 dX7_known_38 ?_
        refine lv_iconst (v := (-1)) hx hb dX7_known_39 icm1 ?_
        have j10 : f_X7_known_J54_10 p0 p1 p2 p3 S1 = some (r, S') → ∀ (H : Heap) (locs : List Loc) (ls : Array Slot), m_I D s H locs S1 → lv_has ls 6 [(0, .ref D.1), (1, .int p0), (2, .int p1), (3, .int p2), (4, .int p3)] → W p l e r_X7_known s m args below meth c H locs 0 0 Q (F0 m 54 ls []) := by
          intro hf
          intro H locs ls hM hl
          unfold f_X7_known_J54_10 at hf
          refine lv_aload_n hx hb dX7_known_54 rfl (lv_at hl 0 rfl) ?_
          refine mr_get B hM 20 (v := .ref (D.2.1 20)) rfl (by decide) q1666 dX7_known_55 ?_
          refine lv_iconst (v := nI 0) hx hb dX7_known_58 ic0 ?_
          obtain ⟨v13, ev13, hiv13, hf⟩ := ald_some hf
          refine mr_iald B hM 20 (by decide) rfl hiv13 ev13 dX7_known_59 ?_
          refine lv_istore (lv' := [(5, .int v13), (0, .ref D.1), (1, .int p0), (2, .int p1), (3, .int p2), (4, .int p3)]) hx hb dX7_known_60 hl (by decide) rfl (fun ls hl => ?_)
          refine lv_aload_n hx hb dX7_known_62 rfl (lv_at hl 1 rfl) ?_
          refine mr_get B hM 20 (v := .ref (D.2.1 20)) rfl (by decide) q1666 dX7_known_63 ?_
          refine lv_iconst (v := nI 0) hx hb dX7_known_66 ic0 ?_
          refine lv_dup2_11 hx hb dX7_known_67 rfl rfl ?_
          obtain ⟨v14, ev14, hiv14, hf⟩ := ald_some hf
          refine mr_iald B hM 20 (by decide) rfl hiv14 ev14 dX7_known_68 ?_
          refine lv_iconst (v := nI 1) hx hb dX7_known_69 ic1 ?_
          refine lv_iadd hx hb dX7_known_70 ?_
          obtain ⟨S15, eS15, hiS15, hf⟩ := ast_some hf
          refine mr_iast B hM 20 (by decide) rfl hiS15 eS15 dX7_known_71 (fun H locs hM => ?_)
          refine lv_aload_n hx hb dX7_known_72 rfl (lv_at hl 1 rfl) ?_
          refine mr_get B hM 21 (v := .ref (D.2.1 21)) rfl (by decide) q1667 dX7_known_73 ?_
          refine lv_iload hx hb dX7_known_76 (lv_at hl 0 rfl) ?_
          refine lv_bipush (v := nI 9) hx hb dX7_known_78 bp9 ?_
          refine lv_iload_n hx hb dX7_known_80 rfl (lv_at hl 2 rfl) ?_
          refine lv_imul hx hb dX7_known_81 ?_
          refine lv_iconst (v := nI 3) hx hb dX7_known_82 ic3 ?_
          refine lv_iload_n hx hb dX7_known_83 rfl (lv_at hl 3 rfl) ?_
          refine lv_imul hx hb dX7_known_84 ?_
          refine lv_iadd hx hb dX7_known_85 ?_
          refine lv_aload_n hx hb dX7_known_86 rfl (lv_at hl 1 rfl) ?_
          refine mr_get B hM 10 (v := .ref (D.2.1 10)) rfl (by decide) q1656 dX7_known_87 ?_
          refine lv_iload_n hx hb dX7_known_90 rfl (lv_at hl 2 rfl) ?_
          obtain ⟨v16, ev16, hiv16, hf⟩ := ald_some hf
          refine mr_iald B hM 10 (by decide) rfl hiv16 ev16 dX7_known_91 ?_
          refine lv_iconst (v := (-1)) hx hb dX7_known_92 icm1 ?_
          obtain ⟨x19, ex19, hf⟩ := bd_some hf
          have jx19 : W p l e r_X7_known s m args below meth c H locs 0 0 Q (F0 m 101 ls [.int x19, .int ((nI 9 * p0) + (nI 3 * p1)), .int v13, .ref (D.2.1 21)]) := by
            refine lv_iadd hx hb dX7_known_101 ?_
            obtain ⟨S20, eS20, hiS20, hf⟩ := ast_some hf
            refine mr_iast B hM 21 (by decide) rfl hiS20 eS20 dX7_known_102 (fun H locs hM => ?_)
            refine lv_aload_n hx hb dX7_known_103 rfl (lv_at hl 1 rfl) ?_
            refine mr_get B hM 22 (v := .ref (D.2.1 22)) rfl (by decide) q1668 dX7_known_104 ?_
            refine lv_iload hx hb dX7_known_107 (lv_at hl 0 rfl) ?_
            refine lv_iload hx hb dX7_known_109 (lv_at hl 5 rfl) ?_
            obtain ⟨x23, ex23, hf⟩ := bd_some hf
            have jx23 : W p l e r_X7_known s m args below meth c H locs 0 0 Q (F0 m 119 ls [.int x23, .int v13, .ref (D.2.1 22)]) := by
              obtain ⟨S24, eS24, hiS24, hf⟩ := ast_some hf
              refine mr_iast B hM 22 (by decide) rfl hiS24 eS24 dX7_known_119 (fun H locs hM => ?_)
              refine lv_aload_n hx hb dX7_known_120 rfl (lv_at hl 1 rfl) ?_
              refine mr_get B hM 23 (v := .ref (D.2.1 23)) rfl (by decide) q1669 dX7_known_121 ?_
              refine lv_iload hx hb dX7_known_124 (lv_at hl 0 rfl) ?_
              refine lv_aload_n hx hb dX7_known_126 rfl (lv_at hl 1 rfl) ?_
              refine mr_get B hM 5 (v := .ref (D.2.1 5)) rfl (by decide) q1651 dX7_known_127 ?_
              refine lv_iconst (v := nI 0) hx hb dX7_known_130 ic0 ?_
              obtain ⟨v25, ev25, hiv25, hf⟩ := ald_some hf
              refine mr_iald B hM 5 (by decide) rfl hiv25 ev25 dX7_known_131 ?_
              obtain ⟨S26, eS26, hiS26, hf⟩ := ast_some hf
              refine mr_iast B hM 23 (by decide) rfl hiS26 eS26 dX7_known_132 (fun H locs hM => ?_)
              refine lv_iconst (v := nI 1) hx hb dX7_known_133 ic1 ?_
              cases hf
              exact hret _ _ _ _ rfl hM dX7_known_134
            refine lv_if_eq (tgt := 118) hx hb dX7_known_111 (by decide) (fun c21 => ?_) (fun c21 => ?_)
            · refine lv_iconst (v := nI 0) hx hb dX7_known_118 ic0 ?_
              exact js (ex23.trans (if_pos c21)) jx23
            · refine lv_iconst (v := nI 1) hx hb dX7_known_114 ic1 ?_
              refine lv_goto (tgt := 119) hx hb dX7_known_115 (by decide) ?_
              exact js (ex23.trans (if_neg c21)) jx23
          refine lv_icmp_ne (tgt := 100) hx hb dX7_known_93 (by decide) (fun c17 => ?_) (fun c17 => ?_)
          · refine lv_iload_n hx hb dX7_known_100 rfl (lv_at hl 4 rfl) ?_
            exact js (ex19.trans (if_neg c17)) jx19
          · refine lv_iconst (v := nI 0) hx hb dX7_known_96 ic0 ?_
            refine lv_goto (tgt := 101) hx hb dX7_known_97 (by decide) ?_
            exact js (ex19.trans (if_pos c17)) jx19
        refine lv_icmp_eq (tgt := 54) hx hb dX7_known_40 (by decide) (fun c9 => ?_) (fun c9 => ?_)
        · have hf := it_pos c9 hf
          exact j10  hf _ _ _ hM (lv_sub hl [0, 1, 2, 3, 4] rfl)
        · have hf := it_neg c9 hf
          refine lv_iload_n hx hb dX7_known_43 rfl (lv_at hl 3 rfl) ?_
          refine lv_iconst (v := nI 0) hx hb dX7_known_44 ic0 ?_
          refine lv_iconst (v := nI 2) hx hb dX7_known_45 ic2 ?_
          obtain ⟨r11, hcr11, hf⟩ := bnd_some hf
          refine pr_callS (rest := []) B (c_X7_in l p2 (nI 0) (nI 2) hcr11) (va_cwS 3 hts (lw_S q1841 q1842 q113 q1843) rfl rfl rfl hd_X7_in ⟨Nat.le_of_ble_eq_true rfl, Nat.le_of_ble_eq_true rfl⟩) rfl hl.1 rfl (Nat.le_of_ble_eq_true rfl) dX7_known_46 ⟨Nat.zero_le _, Nat.zero_le _⟩ ?_
          refine lv_if_ne (tgt := 54) hx hb dX7_known_49 (by decide) (fun c12 => ?_) (fun c12 => ?_)
          · have hf := it_neg c12 hf
            exact j10  hf _ _ _ hM (lv_sub hl [0, 1, 2, 3, 4] rfl)
          · have hf := it_pos c12 hf
            refine lv_iconst (v := nI 0) hx hb dX7_known_52 ic0 ?_
            cases hf
            exact hret _ _ _ _ rfl hM dX7_known_53
def f_X7_keep_L25 (p0 : Int32) (x5 : Int32) (S6 : MS) : Option ((Int32 × MS) ⊕ ((MS))) :=
  (if nI 36 ≤ x5 then some (.inr S6) else ald 144 (S6.1 11) x5 fun v8 => ast 576 ((nI 36 * p0) + x5) (m_up S6 24 ((nI 36 * p0) + x5).toNatClampNeg (vp_nar .boolean v8)) fun S9 => bd (x5 + nI 1) fun x10 => some (.inl (x10, S9)))
def f_X7_keep (S : MS) (p0 : Int32) : Option (Int32 × MS) :=
  bd (m_up S 0 0 (nI 0)) fun S1 => bnd (f_X7_in p0 (nI 0) (nI 3)) fun r2 => (if r2 = 0 then some (nI 0, S1) else ast 16 p0 (m_up S1 25 p0.toNatClampNeg (vp_nar .boolean (nI 1))) fun S4 => bnd (wO (fun t : Int32 × MS => f_X7_keep_L25 p0 t.1 t.2) fu (nI 0, S4)) <| fun S13 => some (nI 1, S13))
abbrev r_X7_keep : Room := { frames := 1, cells := 0, slots := 0, locals := 22 }
set_option maxHeartbeats 4000000 in
set_option maxRecDepth 100000 in
theorem c_X7_keep (l : Launch) (D : MD) (S : MS) (p0 : Int32) {r : Int32} {S' : MS} (hf : f_X7_keep S p0 = some (r, S')) : m_Met l yX7_keep cX7_keep 3 (Option.some Jvm.ClassFile.FieldType.boolean) r_X7_keep D [.ref D.1, .int p0] S (some (.int r)) S' := by
  refine m_metI (F := 1) (L := 22) (by decide) rfl (Nat.le_of_ble_eq_true rfl) (fun p e s m args below meth c Q B hret hM ls hl => ?_)
  have hx := B.1
  have hb := B.2.1
  have hown := B.2.2.2.1
  have hts := B.2.2.2.2
  have hl : lv_has ls 3 [(0, .ref D.1), (1, .int p0)] := hl
  generalize s.heap = H, ([] : List Loc) = locs at hM ⊢
  unfold f_X7_keep at hf
  refine lv_aload_n hx hb dX7_keep_0 rfl (lv_at hl 0 rfl) ?_
  refine lv_iconst (v := nI 0) hx hb dX7_keep_1 ic0 ?_
  obtain ⟨S1, eS1, hf⟩ := bd_some hf
  refine mr_puti B hM 0 (by decide) eS1 rfl (tyX7_ok 0 (by decide)) q1646 dX7_keep_2 (fun H locs hM => ?_)
  refine lv_iload_n hx hb dX7_keep_5 rfl (lv_at hl 1 rfl) ?_
  refine lv_iconst (v := nI 0) hx hb dX7_keep_6 ic0 ?_
  refine lv_iconst (v := nI 3) hx hb dX7_keep_7 ic3 ?_
  obtain ⟨r2, hcr2, hf⟩ := bnd_some hf
  refine pr_callS (rest := []) B (c_X7_in l p0 (nI 0) (nI 3) hcr2) (va_cwS 3 hts (lw_S q1841 q1842 q113 q1843) rfl rfl rfl hd_X7_in ⟨Nat.le_of_ble_eq_true rfl, Nat.le_of_ble_eq_true rfl⟩) rfl hl.1 rfl (Nat.le_of_ble_eq_true rfl) dX7_keep_8 ⟨Nat.zero_le _, Nat.zero_le _⟩ ?_
  refine lv_if_ne (tgt := 16) hx hb dX7_keep_11 (by decide) (fun c3 => ?_) (fun c3 => ?_)
  · have hf := it_neg c3 hf
    refine lv_aload_n hx hb dX7_keep_16 rfl (lv_at hl 0 rfl) ?_
    refine mr_get B hM 25 (v := .ref (D.2.1 25)) rfl (by decide) q1671 dX7_keep_17 ?_
    refine lv_iload_n hx hb dX7_keep_20 rfl (lv_at hl 1 rfl) ?_
    refine lv_iconst (v := nI 1) hx hb dX7_keep_21 ic1 ?_
    obtain ⟨S4, eS4, hiS4, hf⟩ := ast_some hf
    refine mr_zast B hM 25 (by decide) rfl hiS4 eS4 dX7_keep_22 (fun H locs hM => ?_)
    refine lv_iconst (v := nI 0) hx hb dX7_keep_23 ic0 ?_
    refine lv_istore_n (lv' := [(2, .int (nI 0)), (0, .ref D.1), (1, .int p0)]) hx hb dX7_keep_24 rfl hl (by decide) rfl (fun ls hl => ?_)
    obtain ⟨y12, hxy12, hf⟩ := bnd_some hf
    have hy12 : (fun t : MS => ∀ (H : Heap) (locs : List Loc) (ls : Array Slot), m_I D s H locs t → lv_has ls 3 [] → W p l e r_X7_keep s m args below meth c H locs 0 0 Q (F0 m 54 ls [])) y12 := by
      obtain ⟨S13, rfl⟩ : ∃ z, z = y12 := ⟨_, rfl⟩
      intro H locs ls hM hl
      refine lv_iconst (v := nI 1) hx hb dX7_keep_54 ic1 ?_
      cases hf
      exact hret _ _ _ _ rfl hM dX7_keep_55
    refine lp_W (step := (fun t : Int32 × MS => f_X7_keep_L25 p0 t.1 t.2)) (fun t : Int32 × MS => ∀ (H : Heap) (locs : List Loc) (ls : Array Slot), m_I D s H locs t.2 → lv_has ls 3 [(0, .ref D.1), (1, .int p0), (2, .int t.1)] → W p l e r_X7_keep s m args below meth c H locs 0 0 Q (F0 m 25 ls [])) (fun t : MS => ∀ (H : Heap) (locs : List Loc) (ls : Array Slot), m_I D s H locs t → lv_has ls 3 [] → W p l e r_X7_keep s m args below meth c H locs 0 0 Q (F0 m 54 ls [])) ?_ fu (nI 0, S4) y12 hxy12 hy12 _ _ _ hM (lv_sub hl [1, 2, 0] rfl)
    clear hf hxy12 hy12
    rintro ⟨x5, S6⟩ o (hf : f_X7_keep_L25 p0 x5 S6 = some o) hk
    intro H locs ls hM hl
    unfold f_X7_keep_L25 at hf
    refine lv_iload_n hx hb dX7_keep_25 rfl (lv_at hl 2 rfl) ?_
    refine lv_bipush (v := nI 36) hx hb dX7_keep_26 bp36 ?_
    refine lv_icmp_ge (tgt := 54) hx hb dX7_keep_28 (by decide) (fun c7 => ?_) (fun c7 => ?_)
    · have hf := it_pos c7 hf
      cases hf
      exact hk _ _ _ hM (lv_sub hl [] rfl)
    · have hf := it_neg c7 hf
      refine lv_aload_n hx hb dX7_keep_31 rfl (lv_at hl 0 rfl) ?_
      refine mr_get B hM 24 (v := .ref (D.2.1 24)) rfl (by decide) q1670 dX7_keep_32 ?_
      refine lv_bipush (v := nI 36) hx hb dX7_keep_35 bp36 ?_
      refine lv_iload_n hx hb dX7_keep_37 rfl (lv_at hl 1 rfl) ?_
      refine lv_imul hx hb dX7_keep_38 ?_
      refine lv_iload_n hx hb dX7_keep_39 rfl (lv_at hl 2 rfl) ?_
      refine lv_iadd hx hb dX7_keep_40 ?_
      refine lv_aload_n hx hb dX7_keep_41 rfl (lv_at hl 0 rfl) ?_
      refine mr_get B hM 11 (v := .ref (D.2.1 11)) rfl (by decide) q1657 dX7_keep_42 ?_
      refine lv_iload_n hx hb dX7_keep_45 rfl (lv_at hl 2 rfl) ?_
      obtain ⟨v8, ev8, hiv8, hf⟩ := ald_some hf
      refine mr_zald B hM 11 (by decide) rfl hiv8 ev8 dX7_keep_46 ?_
      obtain ⟨S9, eS9, hiS9, hf⟩ := ast_some hf
      refine mr_zast B hM 24 (by decide) rfl hiS9 eS9 dX7_keep_47 (fun H locs hM => ?_)
      obtain ⟨x10, ex10, hf⟩ := bd_some hf
      refine lv_iinc (v := x10) (lv' := [(2, .int x10), (0, .ref D.1), (1, .int p0)]) hx hb dX7_keep_48 hl (k := 2) rfl (by rw [ex10]; first | done | rfl) (by decide) rfl (fun ls hl => ?_)
      refine lv_goto (tgt := 25) hx hb dX7_keep_51 (by decide) ?_
      cases hf
      exact hk _ _ _ hM (lv_sub hl [1, 2, 0] rfl)
  · have hf := it_pos c3 hf
    refine lv_iconst (v := nI 0) hx hb dX7_keep_14 ic0 ?_
    cases hf
    exact hret _ _ _ _ rfl hM dX7_keep_15
def f_X7_canTell (S : MS) : Option (Int32 × MS) :=
  bnd (f_X7_bringSizes S) fun S1 => bnd (f_X7_manyFacts S1) fun r2 => (if nI 12 < r2 then some (nI 0, S1) else some (nI 1, S1))
abbrev r_X7_canTell : Room := { frames := 3, cells := 0, slots := 0, locals := 63 }
set_option maxHeartbeats 4000000 in
set_option maxRecDepth 100000 in
theorem c_X7_canTell (l : Launch) (D : MD) (S : MS)  {r : Int32} {S' : MS} (hf : f_X7_canTell S = some (r, S')) : m_Met l yX7_canTell cX7_canTell 1 (Option.some Jvm.ClassFile.FieldType.boolean) r_X7_canTell D [.ref D.1] S (some (.int r)) S' := by
  refine m_metI (F := 3) (L := 63) (by decide) rfl (Nat.le_of_ble_eq_true rfl) (fun p e s m args below meth c Q B hret hM ls hl => ?_)
  have hx := B.1
  have hb := B.2.1
  have hown := B.2.2.2.1
  have hts := B.2.2.2.2
  have hl : lv_has ls 1 [(0, .ref D.1)] := hl
  generalize s.heap = H, ([] : List Loc) = locs at hM ⊢
  unfold f_X7_canTell at hf
  refine lv_aload_n hx hb dX7_canTell_0 rfl (lv_at hl 0 rfl) ?_
  obtain ⟨S1, hcS1, hf⟩ := bnd_some hf
  refine mr_callV (rest := []) B hM (c_X7_bringSizes l D S  hcS1) (cwV 0 hts (lw_V q1856 q1858 qs46 q113 q1859) rfl rfl rfl hd_X7_bringSizes ⟨Nat.le_of_ble_eq_true rfl, Nat.le_of_ble_eq_true rfl⟩) rfl hl.1 rfl (Nat.le_of_ble_eq_true rfl) dX7_canTell_1 ⟨Nat.zero_le _, Nat.zero_le _⟩ (fun H locs hM => ?_)
  refine lv_aload_n hx hb dX7_canTell_4 rfl (lv_at hl 0 rfl) ?_
  obtain ⟨r2, hcr2, hf⟩ := bnd_some hf
  refine mr_callV (rest := []) B hM (c_X7_manyFacts l D S1  hcr2) (cwV 0 hts (lw_V q1868 q1870 qs49 q113 q1871) rfl rfl rfl hd_X7_manyFacts ⟨Nat.le_of_ble_eq_true rfl, Nat.le_of_ble_eq_true rfl⟩) rfl hl.1 rfl (Nat.le_of_ble_eq_true rfl) dX7_canTell_5 ⟨Nat.zero_le _, Nat.zero_le _⟩ (fun H locs hM => ?_)
  refine lv_bipush (v := nI 12) hx hb dX7_canTell_8 bp12 ?_
  refine lv_icmp_gt (tgt := 17) hx hb dX7_canTell_10 (by decide) (fun c3 => ?_) (fun c3 => ?_)
  · have hf := it_pos c3 hf
    refine lv_iconst (v := nI 0) hx hb dX7_canTell_17 ic0 ?_
    cases hf
    exact hret _ _ _ _ rfl hM dX7_canTell_18
  · have hf := it_neg c3 hf
    refine lv_iconst (v := nI 1) hx hb dX7_canTell_13 ic1 ?_
    refine lv_goto (tgt := 18) hx hb dX7_canTell_14 (by decide) ?_
    cases hf
    exact hret _ _ _ _ rfl hM dX7_canTell_18
def f_X7_inOrder (p0 : Int32) (p1 : Int32) : Option Int32 :=
  bd (p0 / nI 2) fun x1 => bd (if (p0 - p0 / nI 2 * nI 2) = 0 then (if x1 = 0 then nI 1 else nI 0) else (if x1 = nI 2 then nI 1 else nI 2)) fun x6 => (if p1 = 0 then some x1 else (if p1 = nI 1 then some x6 else some ((nI 3 - x1) - x6)))
abbrev r_X7_inOrder : Room := { frames := 0, cells := 0, slots := 0, locals := 0 }
set_option maxHeartbeats 4000000 in
set_option maxRecDepth 100000 in
theorem c_X7_inOrder (l : Launch) (p0 : Int32) (p1 : Int32) {r : Int32} (hf : f_X7_inOrder p0 p1 = some r) : p_Met l yX7_inOrder cX7_inOrder 4 (Option.some Jvm.ClassFile.FieldType.int) r_X7_inOrder [.int p0, .int p1] (some (.int r)) := by
  refine p_metI (F := 0) (L := 0) RX7 (by decide) rfl (Nat.le_of_ble_eq_true rfl) (fun p e s m args below meth c Q B hret ls hl => ?_)
  have hx := B.1
  have hb := B.2.1
  have hown := B.2.2.2.1
  have hts := B.2.2.2.2
  have hl : lv_has ls 4 [(0, .int p0), (1, .int p1)] := hl
  unfold f_X7_inOrder at hf
  refine lv_iload_n hx hb dX7_inOrder_0 rfl (lv_at hl 0 rfl) ?_
  refine lv_iconst (v := nI 2) hx hb dX7_inOrder_1 ic2 ?_
  refine lv_idiv hx hb dX7_inOrder_2 (by decide) ?_
  refine lv_topi (fun x1 ex1 => ?_)
  have hf := bd_at ex1 hf
  refine lv_istore_n (lv' := [(2, .int x1), (0, .int p0), (1, .int p1)]) hx hb dX7_inOrder_3 rfl hl (by decide) rfl (fun ls hl => ?_)
  refine lv_iload_n hx hb dX7_inOrder_4 rfl (lv_at hl 1 rfl) ?_
  refine lv_iconst (v := nI 2) hx hb dX7_inOrder_5 ic2 ?_
  refine lv_irem hx hb dX7_inOrder_6 (by decide) ?_
  obtain ⟨x6, ex6, hf⟩ := bd_some hf
  have jx6 : W p l e r_X7_inOrder s m args below meth c s.heap [] 0 0 Q (F0 m 32 ls [.int x6]) := by
    refine lv_istore_n (lv' := [(3, .int x6), (2, .int x1), (0, .int p0), (1, .int p1)]) hx hb dX7_inOrder_32 rfl hl (by decide) rfl (fun ls hl => ?_)
    refine lv_iload_n hx hb dX7_inOrder_33 rfl (lv_at hl 3 rfl) ?_
    refine lv_if_ne (tgt := 41) hx hb dX7_inOrder_34 (by decide) (fun c7 => ?_) (fun c7 => ?_)
    · have hf := it_neg c7 hf
      refine lv_iload_n hx hb dX7_inOrder_41 rfl (lv_at hl 3 rfl) ?_
      refine lv_iconst (v := nI 1) hx hb dX7_inOrder_42 ic1 ?_
      refine lv_icmp_ne (tgt := 50) hx hb dX7_inOrder_43 (by decide) (fun c8 => ?_) (fun c8 => ?_)
      · have hf := it_neg c8 hf
        refine lv_iconst (v := nI 3) hx hb dX7_inOrder_50 ic3 ?_
        refine lv_iload_n hx hb dX7_inOrder_51 rfl (lv_at hl 1 rfl) ?_
        refine lv_isub hx hb dX7_inOrder_52 ?_
        refine lv_iload_n hx hb dX7_inOrder_53 rfl (lv_at hl 0 rfl) ?_
        refine lv_isub hx hb dX7_inOrder_54 ?_
        cases hf
        exact hret _ _ rfl dX7_inOrder_55
      · have hf := it_pos c8 hf
        refine lv_iload_n hx hb dX7_inOrder_46 rfl (lv_at hl 0 rfl) ?_
        refine lv_goto (tgt := 55) hx hb dX7_inOrder_47 (by decide) ?_
        cases hf
        exact hret _ _ rfl dX7_inOrder_55
    · have hf := it_pos c7 hf
      refine lv_iload_n hx hb dX7_inOrder_37 rfl (lv_at hl 1 rfl) ?_
      refine lv_goto (tgt := 55) hx hb dX7_inOrder_38 (by decide) ?_
      cases hf
      exact hret _ _ rfl dX7_inOrder_55
  refine lv_if_ne (tgt := 22) hx hb dX7_inOrder_7 (by decide) (fun c2 => ?_) (fun c2 => ?_)
  · refine lv_iload_n hx hb dX7_inOrder_22 rfl (lv_at hl 0 rfl) ?_
    refine lv_iconst (v := nI 2) hx hb dX7_inOrder_23 ic2 ?_
    refine lv_icmp_ne (tgt := 31) hx hb dX7_inOrder_24 (by decide) (fun c4 => ?_) (fun c4 => ?_)
    · refine lv_iconst (v := nI 2) hx hb dX7_inOrder_31 ic2 ?_
      exact js ((ex6.trans (if_neg c2)).trans (if_neg c4)) jx6
    · refine lv_iconst (v := nI 1) hx hb dX7_inOrder_27 ic1 ?_
      refine lv_goto (tgt := 32) hx hb dX7_inOrder_28 (by decide) ?_
      exact js ((ex6.trans (if_neg c2)).trans (if_pos c4)) jx6
  · refine lv_iload_n hx hb dX7_inOrder_10 rfl (lv_at hl 0 rfl) ?_
    refine lv_if_ne (tgt := 18) hx hb dX7_inOrder_11 (by decide) (fun c5 => ?_) (fun c5 => ?_)
    · refine lv_iconst (v := nI 0) hx hb dX7_inOrder_18 ic0 ?_
      refine lv_goto (tgt := 32) hx hb dX7_inOrder_19 (by decide) ?_
      exact js ((ex6.trans (if_pos c2)).trans (if_neg c5)) jx6
    · refine lv_iconst (v := nI 1) hx hb dX7_inOrder_14 ic1 ?_
      refine lv_goto (tgt := 32) hx hb dX7_inOrder_15 (by decide) ?_
      exact js ((ex6.trans (if_pos c2)).trans (if_pos c5)) jx6
def f_X7_renamed (S : MS) (p0 : Int32) (p1 : Int32) : Option Int32 :=
  (if p0 = (-1) then some (nI 0) else ald 3 (S.1 51) p0 fun v2 => bnd (f_X7_inOrder v2 p1) fun r3 => some r3)
abbrev r_X7_renamed : Room := { frames := 1, cells := 0, slots := 0, locals := 23 }
set_option maxHeartbeats 4000000 in
set_option maxRecDepth 100000 in
theorem c_X7_renamed (l : Launch) (D : MD) (S : MS) (p0 : Int32) (p1 : Int32) {r : Int32} (hf : f_X7_renamed S p0 p1 = some r) : m_Met l yX7_renamed cX7_renamed 3 (Option.some Jvm.ClassFile.FieldType.int) r_X7_renamed D [.ref D.1, .int p0, .int p1] S (some (.int r)) S := by
  refine m_metI (F := 1) (L := 23) (by decide) rfl (Nat.le_of_ble_eq_true rfl) (fun p e s m args below meth c Q B hret hM ls hl => ?_)
  have hx := B.1
  have hb := B.2.1
  have hown := B.2.2.2.1
  have hts := B.2.2.2.2
  have hl : lv_has ls 3 [(0, .ref D.1), (1, .int p0), (2, .int p1)] := hl
  generalize s.heap = H, ([] : List Loc) = locs at hM ⊢
  unfold f_X7_renamed at hf
  refine lv_iload_n hx hb dX7_renamed_0 rfl (lv_at hl 1 rfl) ?_
  refine lv_iconst (v := (-1)) hx hb dX7_renamed_1 icm1 ?_
  refine lv_icmp_ne (tgt := 9) hx hb dX7_renamed_2 (by decide) (fun c1 => ?_) (fun c1 => ?_)
  · have hf := it_neg c1 hf
    refine lv_aload_n hx hb dX7_renamed_9 rfl (lv_at hl 0 rfl) ?_
    refine mr_get B hM 51 (v := .ref (D.2.1 51)) rfl (by decide) q1697 dX7_renamed_10 ?_
    refine lv_iload_n hx hb dX7_renamed_13 rfl (lv_at hl 1 rfl) ?_
    obtain ⟨v2, ev2, hiv2, hf⟩ := ald_some hf
    refine mr_iald B hM 51 (by decide) rfl hiv2 ev2 dX7_renamed_14 ?_
    refine lv_iload_n hx hb dX7_renamed_15 rfl (lv_at hl 2 rfl) ?_
    obtain ⟨r3, hcr3, hf⟩ := bnd_some hf
    refine pr_callS (rest := []) B (c_X7_inOrder l v2 p1 hcr3) (va_cwS 2 hts (lw_S q1919 q1920 q113 q1921) rfl rfl rfl hd_X7_inOrder ⟨Nat.le_of_ble_eq_true rfl, Nat.le_of_ble_eq_true rfl⟩) rfl hl.1 rfl (Nat.le_of_ble_eq_true rfl) dX7_renamed_16 ⟨Nat.zero_le _, Nat.zero_le _⟩ ?_
    cases hf
    exact hret _ _ _ _ rfl hM dX7_renamed_19
  · have hf := it_pos c1 hf
    refine lv_iconst (v := nI 0) hx hb dX7_renamed_5 ic0 ?_
    refine lv_goto (tgt := 19) hx hb dX7_renamed_6 (by decide) ?_
    cases hf
    exact hret _ _ _ _ rfl hM dX7_renamed_19
