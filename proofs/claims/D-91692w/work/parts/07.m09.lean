set_option maxRecDepth 100000
def f_X7_countFacts_L11 (x3 : Int32) (S4 : MS) : Option ((Int32 × MS) ⊕ ((MS))) :=
  (if nI 12 ≤ x3 then some (.inr S4) else ast 12 x3 (m_up S4 56 x3.toNatClampNeg (nI 0)) fun S6 => bd (x3 + nI 1) fun x7 => some (.inl (x7, S6)))
def f_X7_countFacts_L62 (x20 : Int32) (S21 : MS) : Option ((Int32 × MS) ⊕ ((MS))) :=
  bnd (f_X7_manyFacts S21) fun r22 => (if r22 ≤ x20 then some (.inr S21) else ald 12 (S21.1 56) x20 fun v24 => ald 36 (S21.1 28) x20 fun v25 => (if v25 = 0 then ast 12 x20 (m_up S21 56 x20.toNatClampNeg (v24 + nI 0)) fun S27 => bd (x20 + nI 1) fun x28 => some (.inl (x28, S27)) else ast 12 x20 (m_up S21 56 x20.toNatClampNeg (v24 + nI 1)) fun S29 => bd (x20 + nI 1) fun x30 => some (.inl (x30, S29))))
def f_X7_countFacts_L32 (x11 : Int32) (S12 : MS) : Option ((Int32 × MS) ⊕ ((MS))) :=
  bnd (f_X7_manyFacts S12) fun r13 => (if (nI 1 <<< (r13 &&& 31)) ≤ x11 then some (.inr S12) else bnd (f_X7_isWorld S12 x11) <| u2 fun r15 S16 => (if r15 = 0 then bd (x11 + nI 1) fun x18 => some (.inl (x18, S16)) else bd (m_up S16 57 0 ((S16.1 57 0) + nI 1)) fun S19 => bnd (wO (fun t : Int32 × MS => f_X7_countFacts_L62 t.1 t.2) fu (nI 0, S19)) <| fun S33 => bd (x11 + nI 1) fun x34 => some (.inl (x34, S33))))
def f_X7_countFacts (S : MS) : Option MS :=
  bnd (f_X7_prepare S) fun S1 => bd (m_up S1 57 0 (nI 0)) fun S2 => bnd (wO (fun t : Int32 × MS => f_X7_countFacts_L11 t.1 t.2) fu (nI 0, S2)) <| fun S10 => bnd (wO (fun t : Int32 × MS => f_X7_countFacts_L32 t.1 t.2) fu (nI 0, S10)) <| fun S37 => some S37
abbrev r_X7_countFacts : Room := { frames := 9, cells := 0, slots := 0, locals := 210 }
set_option maxHeartbeats 4000000 in
set_option maxRecDepth 100000 in
theorem c_X7_countFacts (l : Launch) (D : MD) (S : MS)  {S' : MS} (hf : f_X7_countFacts S = some S') : m_Met l yX7_countFacts cX7_countFacts 3 (Option.none : Option Jvm.ClassFile.FieldType) r_X7_countFacts D [.ref D.1] S none S' := by
  refine m_metV (F := 9) (L := 210) (by decide) rfl (Nat.le_of_ble_eq_true rfl) (fun p e s m args below meth c Q B hret hM ls hl => ?_)
  have hx := B.1
  have hb := B.2.1
  have hown := B.2.2.2.1
  have hts := B.2.2.2.2
  have hl : lv_has ls 3 [(0, .ref D.1)] := hl
  generalize s.heap = H, ([] : List Loc) = locs at hM ⊢
  unfold f_X7_countFacts at hf
  refine lv_aload_n hx hb dX7_countFacts_0 rfl (lv_at hl 0 rfl) ?_
  obtain ⟨S1, hcS1, hf⟩ := bnd_some hf
  refine mr_callV (rest := []) B hM (c_X7_prepare l D S  hcS1) (cwV 0 hts (lw_V q2116 q2118 qs85 q113 q2119) rfl rfl rfl hd_X7_prepare ⟨Nat.le_of_ble_eq_true rfl, Nat.le_of_ble_eq_true rfl⟩) rfl hl.1 rfl (Nat.le_of_ble_eq_true rfl) dX7_countFacts_1 ⟨Nat.zero_le _, Nat.zero_le _⟩ (fun H locs hM => ?_)
  refine lv_aload_n hx hb dX7_countFacts_4 rfl (lv_at hl 0 rfl) ?_
  refine lv_iconst (v := nI 0) hx hb dX7_countFacts_5 ic0 ?_
  obtain ⟨S2, eS2, hf⟩ := bd_some hf
  refine mr_puti B hM 57 (by decide) eS2 rfl (tyX7_ok 57 (by decide)) q1703 dX7_countFacts_6 (fun H locs hM => ?_)
  refine lv_iconst (v := nI 0) hx hb dX7_countFacts_9 ic0 ?_
  refine lv_istore_n (lv' := [(1, .int (nI 0)), (0, .ref D.1)]) hx hb dX7_countFacts_10 rfl hl (by decide) rfl (fun ls hl => ?_)
  obtain ⟨y9, hxy9, hf⟩ := bnd_some hf
  have hy9 : (fun t : MS => ∀ (H : Heap) (locs : List Loc) (ls : Array Slot), m_I D s H locs t → lv_has ls 3 [(0, .ref D.1)] → W p l e r_X7_countFacts s m args below meth c H locs 0 0 Q (F0 m 30 ls [])) y9 := by
    obtain ⟨S10, rfl⟩ : ∃ z, z = y9 := ⟨_, rfl⟩
    intro H locs ls hM hl
    refine lv_iconst (v := nI 0) hx hb dX7_countFacts_30 ic0 ?_
    refine lv_istore_n (lv' := [(1, .int (nI 0)), (0, .ref D.1)]) hx hb dX7_countFacts_31 rfl hl (by decide) rfl (fun ls hl => ?_)
    obtain ⟨y36, hxy36, hf⟩ := bnd_some hf
    have hy36 : (fun t : MS => ∀ (H : Heap) (locs : List Loc) (ls : Array Slot), m_I D s H locs t → lv_has ls 3 [] → W p l e r_X7_countFacts s m args below meth c H locs 0 0 Q (F0 m 105 ls [])) y36 := by
      obtain ⟨S37, rfl⟩ : ∃ z, z = y36 := ⟨_, rfl⟩
      intro H locs ls hM hl
      cases hf
      exact hret _ _ _ _ hM dX7_countFacts_105
    refine lp_W (step := (fun t : Int32 × MS => f_X7_countFacts_L32 t.1 t.2)) (fun t : Int32 × MS => ∀ (H : Heap) (locs : List Loc) (ls : Array Slot), m_I D s H locs t.2 → lv_has ls 3 [(0, .ref D.1), (1, .int t.1)] → W p l e r_X7_countFacts s m args below meth c H locs 0 0 Q (F0 m 32 ls [])) (fun t : MS => ∀ (H : Heap) (locs : List Loc) (ls : Array Slot), m_I D s H locs t → lv_has ls 3 [] → W p l e r_X7_countFacts s m args below meth c H locs 0 0 Q (F0 m 105 ls [])) ?_ fu (nI 0, S10) y36 hxy36 hy36 _ _ _ hM (lv_sub hl [1, 0] rfl)
    clear hf hxy36 hy36
    rintro ⟨x11, S12⟩ o (hf : f_X7_countFacts_L32 x11 S12 = some o) hk
    intro H locs ls hM hl
    unfold f_X7_countFacts_L32 at hf
    refine lv_iload_n hx hb dX7_countFacts_32 rfl (lv_at hl 1 rfl) ?_
    refine lv_iconst (v := nI 1) hx hb dX7_countFacts_33 ic1 ?_
    refine lv_aload_n hx hb dX7_countFacts_34 rfl (lv_at hl 0 rfl) ?_
    obtain ⟨r13, hcr13, hf⟩ := bnd_some hf
    refine mr_callV (rest := [.int (nI 1), .int x11]) B hM (c_X7_manyFacts l D S12  hcr13) (cwV 0 hts (lw_V q1868 q1870 qs49 q113 q1871) rfl rfl rfl hd_X7_manyFacts ⟨Nat.le_of_ble_eq_true rfl, Nat.le_of_ble_eq_true rfl⟩) rfl hl.1 rfl (Nat.le_of_ble_eq_true rfl) dX7_countFacts_35 ⟨Nat.zero_le _, Nat.zero_le _⟩ (fun H locs hM => ?_)
    refine lv_ishl hx hb dX7_countFacts_38 ?_
    refine lv_icmp_ge (tgt := 105) hx hb dX7_countFacts_39 (by decide) (fun c14 => ?_) (fun c14 => ?_)
    · have hf := it_pos c14 hf
      cases hf
      exact hk _ _ _ hM (lv_sub hl [] rfl)
    · have hf := it_neg c14 hf
      refine lv_aload_n hx hb dX7_countFacts_42 rfl (lv_at hl 0 rfl) ?_
      refine lv_iload_n hx hb dX7_countFacts_43 rfl (lv_at hl 1 rfl) ?_
      obtain ⟨⟨r15, S16⟩, hcr15, hf⟩ := bnd_some hf
      have hf := u2_at hf
      refine mr_callV (rest := []) B hM (c_X7_isWorld l D S12 x11 hcr15) (cwV 1 hts (lw_V q2128 q2130 qs88 q113 q2131) rfl rfl rfl hd_X7_isWorld ⟨Nat.le_of_ble_eq_true rfl, Nat.le_of_ble_eq_true rfl⟩) rfl hl.1 rfl (Nat.le_of_ble_eq_true rfl) dX7_countFacts_44 ⟨Nat.zero_le _, Nat.zero_le _⟩ (fun H locs hM => ?_)
      refine lv_if_eq (tgt := 99) hx hb dX7_countFacts_47 (by decide) (fun c17 => ?_) (fun c17 => ?_)
      · have hf := it_pos c17 hf
        obtain ⟨x18, ex18, hf⟩ := bd_some hf
        refine lv_iinc (v := x18) (lv' := [(1, .int x18), (0, .ref D.1)]) hx hb dX7_countFacts_99 hl (k := 1) rfl (by rw [ex18]; first | done | rfl) (by decide) rfl (fun ls hl => ?_)
        refine lv_goto (tgt := 32) hx hb dX7_countFacts_102 (by decide) ?_
        cases hf
        exact hk _ _ _ hM (lv_sub hl [1, 0] rfl)
      · have hf := it_neg c17 hf
        refine lv_aload_n hx hb dX7_countFacts_50 rfl (lv_at hl 0 rfl) ?_
        refine lv_dup hx hb dX7_countFacts_51 rfl ?_
        refine mr_get B hM 57 (v := .int (S16.1 57 0)) rfl (by decide) q1703 dX7_countFacts_52 ?_
        refine lv_iconst (v := nI 1) hx hb dX7_countFacts_55 ic1 ?_
        refine lv_iadd hx hb dX7_countFacts_56 ?_
        obtain ⟨S19, eS19, hf⟩ := bd_some hf
        refine mr_puti B hM 57 (by decide) eS19 rfl (tyX7_ok 57 (by decide)) q1703 dX7_countFacts_57 (fun H locs hM => ?_)
        refine lv_iconst (v := nI 0) hx hb dX7_countFacts_60 ic0 ?_
        refine lv_istore_n (lv' := [(2, .int (nI 0)), (0, .ref D.1), (1, .int x11)]) hx hb dX7_countFacts_61 rfl hl (by decide) rfl (fun ls hl => ?_)
        obtain ⟨y32, hxy32, hf⟩ := bnd_some hf
        have hy32 : (fun t : MS => ∀ (H : Heap) (locs : List Loc) (ls : Array Slot), m_I D s H locs t → lv_has ls 3 [(0, .ref D.1), (1, .int x11)] → W p l e r_X7_countFacts s m args below meth c H locs 0 0 Q (F0 m 99 ls [])) y32 := by
          obtain ⟨S33, rfl⟩ : ∃ z, z = y32 := ⟨_, rfl⟩
          intro H locs ls hM hl
          obtain ⟨x34, ex34, hf⟩ := bd_some hf
          refine lv_iinc (v := x34) (lv' := [(1, .int x34), (0, .ref D.1)]) hx hb dX7_countFacts_99 hl (k := 1) rfl (by rw [ex34]; first | done | rfl) (by decide) rfl (fun ls hl => ?_)
          refine lv_goto (tgt := 32) hx hb dX7_countFacts_102 (by decide) ?_
          cases hf
          exact hk _ _ _ hM (lv_sub hl [1, 0] rfl)
        refine lp_W (step := (fun t : Int32 × MS => f_X7_countFacts_L62 t.1 t.2)) (fun t : Int32 × MS => ∀ (H : Heap) (locs : List Loc) (ls : Array Slot), m_I D s H locs t.2 → lv_has ls 3 [(0, .ref D.1), (1, .int x11), (2, .int t.1)] → W p l e r_X7_countFacts s m args below meth c H locs 0 0 Q (F0 m 62 ls [])) (fun t : MS => ∀ (H : Heap) (locs : List Loc) (ls : Array Slot), m_I D s H locs t → lv_has ls 3 [(0, .ref D.1), (1, .int x11)] → W p l e r_X7_countFacts s m args below meth c H locs 0 0 Q (F0 m 99 ls [])) ?_ fu (nI 0, S19) y32 hxy32 hy32 _ _ _ hM (lv_sub hl [1, 2, 0] rfl)
        clear hf hxy32 hy32
        rintro ⟨x20, S21⟩ o (hf : f_X7_countFacts_L62 x20 S21 = some o) hk
        intro H locs ls hM hl
        unfold f_X7_countFacts_L62 at hf
        refine lv_iload_n hx hb dX7_countFacts_62 rfl (lv_at hl 2 rfl) ?_
        refine lv_aload_n hx hb dX7_countFacts_63 rfl (lv_at hl 0 rfl) ?_
        obtain ⟨r22, hcr22, hf⟩ := bnd_some hf
        refine mr_callV (rest := [.int x20]) B hM (c_X7_manyFacts l D S21  hcr22) (cwV 0 hts (lw_V q1868 q1870 qs49 q113 q1871) rfl rfl rfl hd_X7_manyFacts ⟨Nat.le_of_ble_eq_true rfl, Nat.le_of_ble_eq_true rfl⟩) rfl hl.1 rfl (Nat.le_of_ble_eq_true rfl) dX7_countFacts_64 ⟨Nat.zero_le _, Nat.zero_le _⟩ (fun H locs hM => ?_)
        refine lv_icmp_ge (tgt := 99) hx hb dX7_countFacts_67 (by decide) (fun c23 => ?_) (fun c23 => ?_)
        · have hf := it_pos c23 hf
          cases hf
          exact hk _ _ _ hM (lv_sub hl [0, 1] rfl)
        · have hf := it_neg c23 hf
          refine lv_aload_n hx hb dX7_countFacts_70 rfl (lv_at hl 0 rfl) ?_
          refine mr_get B hM 56 (v := .ref (D.2.1 56)) rfl (by decide) q1702 dX7_countFacts_71 ?_
          refine lv_iload_n hx hb dX7_countFacts_74 rfl (lv_at hl 2 rfl) ?_
          refine lv_dup2_11 hx hb dX7_countFacts_75 rfl rfl ?_
          obtain ⟨v24, ev24, hiv24, hf⟩ := ald_some hf
          refine mr_iald B hM 56 (by decide) rfl hiv24 ev24 dX7_countFacts_76 ?_
          refine lv_aload_n hx hb dX7_countFacts_77 rfl (lv_at hl 0 rfl) ?_
          refine mr_get B hM 28 (v := .ref (D.2.1 28)) rfl (by decide) q1674 dX7_countFacts_78 ?_
          refine lv_iload_n hx hb dX7_countFacts_81 rfl (lv_at hl 2 rfl) ?_
          obtain ⟨v25, ev25, hiv25, hf⟩ := ald_some hf
          refine mr_zald B hM 28 (by decide) rfl hiv25 ev25 dX7_countFacts_82 ?_
          refine lv_if_eq (tgt := 90) hx hb dX7_countFacts_83 (by decide) (fun c26 => ?_) (fun c26 => ?_)
          · have hf := it_pos c26 hf
            refine lv_iconst (v := nI 0) hx hb dX7_countFacts_90 ic0 ?_
            refine lv_iadd hx hb dX7_countFacts_91 ?_
            obtain ⟨S27, eS27, hiS27, hf⟩ := ast_some hf
            refine mr_iast B hM 56 (by decide) rfl hiS27 eS27 dX7_countFacts_92 (fun H locs hM => ?_)
            obtain ⟨x28, ex28, hf⟩ := bd_some hf
            refine lv_iinc (v := x28) (lv' := [(2, .int x28), (0, .ref D.1), (1, .int x11)]) hx hb dX7_countFacts_93 hl (k := 2) rfl (by rw [ex28]; first | done | rfl) (by decide) rfl (fun ls hl => ?_)
            refine lv_goto (tgt := 62) hx hb dX7_countFacts_96 (by decide) ?_
            cases hf
            exact hk _ _ _ hM (lv_sub hl [1, 2, 0] rfl)
          · have hf := it_neg c26 hf
            refine lv_iconst (v := nI 1) hx hb dX7_countFacts_86 ic1 ?_
            refine lv_goto (tgt := 91) hx hb dX7_countFacts_87 (by decide) ?_
            refine lv_iadd hx hb dX7_countFacts_91 ?_
            obtain ⟨S29, eS29, hiS29, hf⟩ := ast_some hf
            refine mr_iast B hM 56 (by decide) rfl hiS29 eS29 dX7_countFacts_92 (fun H locs hM => ?_)
            obtain ⟨x30, ex30, hf⟩ := bd_some hf
            refine lv_iinc (v := x30) (lv' := [(2, .int x30), (0, .ref D.1), (1, .int x11)]) hx hb dX7_countFacts_93 hl (k := 2) rfl (by rw [ex30]; first | done | rfl) (by decide) rfl (fun ls hl => ?_)
            refine lv_goto (tgt := 62) hx hb dX7_countFacts_96 (by decide) ?_
            cases hf
            exact hk _ _ _ hM (lv_sub hl [1, 2, 0] rfl)
  refine lp_W (step := (fun t : Int32 × MS => f_X7_countFacts_L11 t.1 t.2)) (fun t : Int32 × MS => ∀ (H : Heap) (locs : List Loc) (ls : Array Slot), m_I D s H locs t.2 → lv_has ls 3 [(0, .ref D.1), (1, .int t.1)] → W p l e r_X7_countFacts s m args below meth c H locs 0 0 Q (F0 m 11 ls [])) (fun t : MS => ∀ (H : Heap) (locs : List Loc) (ls : Array Slot), m_I D s H locs t → lv_has ls 3 [(0, .ref D.1)] → W p l e r_X7_countFacts s m args below meth c H locs 0 0 Q (F0 m 30 ls [])) ?_ fu (nI 0, S2) y9 hxy9 hy9 _ _ _ hM (lv_sub hl [1, 0] rfl)
  clear hf hxy9 hy9
  rintro ⟨x3, S4⟩ o (hf : f_X7_countFacts_L11 x3 S4 = some o) hk
  intro H locs ls hM hl
  unfold f_X7_countFacts_L11 at hf
  refine lv_iload_n hx hb dX7_countFacts_11 rfl (lv_at hl 1 rfl) ?_
  refine lv_bipush (v := nI 12) hx hb dX7_countFacts_12 bp12 ?_
  refine lv_icmp_ge (tgt := 30) hx hb dX7_countFacts_14 (by decide) (fun c5 => ?_) (fun c5 => ?_)
  · have hf := it_pos c5 hf
    cases hf
    exact hk _ _ _ hM (lv_sub hl [0] rfl)
  · have hf := it_neg c5 hf
    refine lv_aload_n hx hb dX7_countFacts_17 rfl (lv_at hl 0 rfl) ?_
    refine mr_get B hM 56 (v := .ref (D.2.1 56)) rfl (by decide) q1702 dX7_countFacts_18 ?_
    refine lv_iload_n hx hb dX7_countFacts_21 rfl (lv_at hl 1 rfl) ?_
    refine lv_iconst (v := nI 0) hx hb dX7_countFacts_22 ic0 ?_
    obtain ⟨S6, eS6, hiS6, hf⟩ := ast_some hf
    refine mr_iast B hM 56 (by decide) rfl hiS6 eS6 dX7_countFacts_23 (fun H locs hM => ?_)
    obtain ⟨x7, ex7, hf⟩ := bd_some hf
    refine lv_iinc (v := x7) (lv' := [(1, .int x7), (0, .ref D.1)]) hx hb dX7_countFacts_24 hl (k := 1) rfl (by rw [ex7]; first | done | rfl) (by decide) rfl (fun ls hl => ?_)
    refine lv_goto (tgt := 11) hx hb dX7_countFacts_27 (by decide) ?_
    cases hf
    exact hk _ _ _ hM (lv_sub hl [1, 0] rfl)
def f_X7_sure (S : MS) (p0 : Int32) (p1 : Int32) (p2 : Int32) : Option (Int32 × MS) :=
  bd (m_up S 0 0 (nI 0)) fun S1 => bnd (f_X7_toldFact S1 p0 p1 p2) <| u2 fun r2 S3 => (if r2 = (-1) then some ((-1), S3) else bnd (f_X7_canTell S3) <| u2 fun r5 S6 => (if r5 = 0 then some ((-1), S6) else bnd (f_X7_countFacts S6) fun S8 => (if (S8.1 57 0) = 0 then some ((-1), S8) else ald 12 (S8.1 56) r2 fun v10 => (if v10 = (S8.1 57 0) then some (nI 1, S8) else ald 12 (S8.1 56) r2 fun v12 => (if v12 = 0 then some (nI 0, S8) else some ((-1), S8))))))
abbrev r_X7_sure : Room := { frames := 10, cells := 0, slots := 0, locals := 232 }
set_option maxHeartbeats 4000000 in
set_option maxRecDepth 100000 in
theorem c_X7_sure (l : Launch) (D : MD) (S : MS) (p0 : Int32) (p1 : Int32) (p2 : Int32) {r : Int32} {S' : MS} (hf : f_X7_sure S p0 p1 p2 = some (r, S')) : m_Met l yX7_sure cX7_sure 5 (Option.some Jvm.ClassFile.FieldType.int) r_X7_sure D [.ref D.1, .int p0, .int p1, .int p2] S (some (.int r)) S' := by
  refine m_metI (F := 10) (L := 232) (by decide) rfl (Nat.le_of_ble_eq_true rfl) (fun p e s m args below meth c Q B hret hM ls hl => ?_)
  have hx := B.1
  have hb := B.2.1
  have hown := B.2.2.2.1
  have hts := B.2.2.2.2
  have hl : lv_has ls 5 [(0, .ref D.1), (1, .int p0), (2, .int p1), (3, .int p2)] := hl
  generalize s.heap = H, ([] : List Loc) = locs at hM ⊢
  unfold f_X7_sure at hf
  refine lv_aload_n hx hb dX7_sure_0 rfl (lv_at hl 0 rfl) ?_
  refine lv_iconst (v := nI 0) hx hb dX7_sure_1 ic0 ?_
  obtain ⟨S1, eS1, hf⟩ := bd_some hf
  refine mr_puti B hM 0 (by decide) eS1 rfl (tyX7_ok 0 (by decide)) q1646 dX7_sure_2 (fun H locs hM => ?_)
  refine lv_aload_n hx hb dX7_sure_5 rfl (lv_at hl 0 rfl) ?_
  refine lv_iload_n hx hb dX7_sure_6 rfl (lv_at hl 1 rfl) ?_
  refine lv_iload_n hx hb dX7_sure_7 rfl (lv_at hl 2 rfl) ?_
  refine lv_iload_n hx hb dX7_sure_8 rfl (lv_at hl 3 rfl) ?_
  obtain ⟨⟨r2, S3⟩, hcr2, hf⟩ := bnd_some hf
  have hf := u2_at hf
  refine mr_callV (rest := []) B hM (c_X7_toldFact l D S1 p0 p1 p2 hcr2) (cwV 3 hts (lw_V q1876 q1878 qs50 q113 q1879) rfl rfl rfl hd_X7_toldFact ⟨Nat.le_of_ble_eq_true rfl, Nat.le_of_ble_eq_true rfl⟩) rfl hl.1 rfl (Nat.le_of_ble_eq_true rfl) dX7_sure_9 ⟨Nat.zero_le _, Nat.zero_le _⟩ (fun H locs hM => ?_)
  refine lv_istore (lv' := [(4, .int r2), (0, .ref D.1), (1, .int p0), (2, .int p1), (3, .int p2)]) hx hb dX7_sure_12 hl (by decide) rfl (fun ls hl => ?_)
  refine lv_iload hx hb dX7_sure_14 (lv_at hl 0 rfl) ?_
  refine lv_iconst (v := (-1)) hx hb dX7_sure_16 icm1 ?_
  refine lv_icmp_eq (tgt := 27) hx hb dX7_sure_17 (by decide) (fun c4 => ?_) (fun c4 => ?_)
  · have hf := it_pos c4 hf
    refine lv_iconst (v := (-1)) hx hb dX7_sure_27 icm1 ?_
    cases hf
    exact hret _ _ _ _ rfl hM dX7_sure_28
  · have hf := it_neg c4 hf
    refine lv_aload_n hx hb dX7_sure_20 rfl (lv_at hl 1 rfl) ?_
    obtain ⟨⟨r5, S6⟩, hcr5, hf⟩ := bnd_some hf
    have hf := u2_at hf
    refine mr_callV (rest := []) B hM (c_X7_canTell l D S3  hcr5) (cwV 0 hts (lw_V q1904 q1906 qs53 q113 q1907) rfl rfl rfl hd_X7_canTell ⟨Nat.le_of_ble_eq_true rfl, Nat.le_of_ble_eq_true rfl⟩) rfl hl.1 rfl (Nat.le_of_ble_eq_true rfl) dX7_sure_21 ⟨Nat.zero_le _, Nat.zero_le _⟩ (fun H locs hM => ?_)
    refine lv_if_ne (tgt := 29) hx hb dX7_sure_24 (by decide) (fun c7 => ?_) (fun c7 => ?_)
    · have hf := it_neg c7 hf
      refine lv_aload_n hx hb dX7_sure_29 rfl (lv_at hl 1 rfl) ?_
      obtain ⟨S8, hcS8, hf⟩ := bnd_some hf
      refine mr_callV (rest := []) B hM (c_X7_countFacts l D S6  hcS8) (cwV 0 hts (lw_V q2198 q2200 qs98 q113 q2201) rfl rfl rfl hd_X7_countFacts ⟨Nat.le_of_ble_eq_true rfl, Nat.le_of_ble_eq_true rfl⟩) rfl hl.1 rfl (Nat.le_of_ble_eq_true rfl) dX7_sure_30 ⟨Nat.zero_le _, Nat.zero_le _⟩ (fun H locs hM => ?_)
      refine lv_aload_n hx hb dX7_sure_33 rfl (lv_at hl 1 rfl) ?_
      refine mr_get B hM 57 (v := .int (S8.1 57 0)) rfl (by decide) q1703 dX7_sure_34 ?_
      refine lv_if_ne (tgt := 44) hx hb dX7_sure_37 (by decide) (fun c9 => ?_) (fun c9 => ?_)
      · have hf := it_neg c9 hf
        refine lv_aload_n hx hb dX7_sure_44 rfl (lv_at hl 1 rfl) ?_
        refine mr_get B hM 56 (v := .ref (D.2.1 56)) rfl (by decide) q1702 dX7_sure_45 ?_
        refine lv_iload hx hb dX7_sure_48 (lv_at hl 0 rfl) ?_
        obtain ⟨v10, ev10, hiv10, hf⟩ := ald_some hf
        refine mr_iald B hM 56 (by decide) rfl hiv10 ev10 dX7_sure_50 ?_
        refine lv_aload_n hx hb dX7_sure_51 rfl (lv_at hl 1 rfl) ?_
        refine mr_get B hM 57 (v := .int (S8.1 57 0)) rfl (by decide) q1703 dX7_sure_52 ?_
        refine lv_icmp_ne (tgt := 62) hx hb dX7_sure_55 (by decide) (fun c11 => ?_) (fun c11 => ?_)
        · have hf := it_neg c11 hf
          refine lv_aload_n hx hb dX7_sure_62 rfl (lv_at hl 1 rfl) ?_
          refine mr_get B hM 56 (v := .ref (D.2.1 56)) rfl (by decide) q1702 dX7_sure_63 ?_
          refine lv_iload hx hb dX7_sure_66 (lv_at hl 0 rfl) ?_
          obtain ⟨v12, ev12, hiv12, hf⟩ := ald_some hf
          refine mr_iald B hM 56 (by decide) rfl hiv12 ev12 dX7_sure_68 ?_
          refine lv_if_ne (tgt := 76) hx hb dX7_sure_69 (by decide) (fun c13 => ?_) (fun c13 => ?_)
          · have hf := it_neg c13 hf
            refine lv_iconst (v := (-1)) hx hb dX7_sure_76 icm1 ?_
            cases hf
            exact hret _ _ _ _ rfl hM dX7_sure_77
          · have hf := it_pos c13 hf
            refine lv_iconst (v := nI 0) hx hb dX7_sure_72 ic0 ?_
            refine lv_goto (tgt := 77) hx hb dX7_sure_73 (by decide) ?_
            cases hf
            exact hret _ _ _ _ rfl hM dX7_sure_77
        · have hf := it_pos c11 hf
          refine lv_iconst (v := nI 1) hx hb dX7_sure_58 ic1 ?_
          refine lv_goto (tgt := 77) hx hb dX7_sure_59 (by decide) ?_
          cases hf
          exact hret _ _ _ _ rfl hM dX7_sure_77
      · have hf := it_pos c9 hf
        refine lv_iconst (v := (-1)) hx hb dX7_sure_40 icm1 ?_
        refine lv_goto (tgt := 77) hx hb dX7_sure_41 (by decide) ?_
        cases hf
        exact hret _ _ _ _ rfl hM dX7_sure_77
    · have hf := it_pos c7 hf
      refine lv_iconst (v := (-1)) hx hb dX7_sure_27 icm1 ?_
      cases hf
      exact hret _ _ _ _ rfl hM dX7_sure_28
def f_X7_cause_J66_12 (p3 : Int32) (r2 : Int32) (S8 : MS)  : Option (Int32 × MS) :=
  ald 12 (S8.1 56) r2 fun v15 => bd (if v15 ≤ 0 then nI 0 else nI 1) fun x18 => bnd (f_X7_findTogether S8 r2 x18) fun S19 => bnd (f_X7_fewestApart S19) fun r20 => bnd (f_X7_numberIn r20 p3) fun r21 => some (r21, S19)
def f_X7_cause (S : MS) (p0 : Int32) (p1 : Int32) (p2 : Int32) (p3 : Int32) : Option (Int32 × MS) :=
  bd (m_up S 0 0 (nI 0)) fun S1 => bnd (f_X7_toldFact S1 p0 p1 p2) <| u2 fun r2 S3 => (if r2 = (-1) then some ((-1), S3) else bnd (f_X7_canTell S3) <| u2 fun r5 S6 => (if r5 = 0 then some ((-1), S6) else bnd (f_X7_countFacts S6) fun S8 => (if (S8.1 57 0) = 0 then some ((-1), S8) else ald 12 (S8.1 56) r2 fun v10 => (if v10 = 0 then f_X7_cause_J66_12 p3 r2 S8 else ald 12 (S8.1 56) r2 fun v13 => (if v13 = (S8.1 57 0) then f_X7_cause_J66_12 p3 r2 S8 else some ((-1), S8))))))
abbrev r_X7_cause : Room := { frames := 10, cells := 0, slots := 0, locals := 232 }
set_option maxHeartbeats 4000000 in
set_option maxRecDepth 100000 in
theorem c_X7_cause (l : Launch) (D : MD) (S : MS) (p0 : Int32) (p1 : Int32) (p2 : Int32) (p3 : Int32) {r : Int32} {S' : MS} (hf : f_X7_cause S p0 p1 p2 p3 = some (r, S')) : m_Met l yX7_cause cX7_cause 6 (Option.some Jvm.ClassFile.FieldType.int) r_X7_cause D [.ref D.1, .int p0, .int p1, .int p2, .int p3] S (some (.int r)) S' := by
  refine m_metI (F := 10) (L := 232) (by decide) rfl (Nat.le_of_ble_eq_true rfl) (fun p e s m args below meth c Q B hret hM ls hl => ?_)
  have hx := B.1
  have hb := B.2.1
  have hown := B.2.2.2.1
  have hts := B.2.2.2.2
  have hl : lv_has ls 6 [(0, .ref D.1), (1, .int p0), (2, .int p1), (3, .int p2), (4, .int p3)] := hl
  generalize s.heap = H, ([] : List Loc) = locs at hM ⊢
  unfold f_X7_cause at hf
  refine lv_aload_n hx hb dX7_cause_0 rfl (lv_at hl 0 rfl) ?_
  refine lv_iconst (v := nI 0) hx hb dX7_cause_1 ic0 ?_
  obtain ⟨S1, eS1, hf⟩ := bd_some hf
  refine mr_puti B hM 0 (by decide) eS1 rfl (tyX7_ok 0 (by decide)) q1646 dX7_cause_2 (fun H locs hM => ?_)
  refine lv_aload_n hx hb dX7_cause_5 rfl (lv_at hl 0 rfl) ?_
  refine lv_iload_n hx hb dX7_cause_6 rfl (lv_at hl 1 rfl) ?_
  refine lv_iload_n hx hb dX7_cause_7 rfl (lv_at hl 2 rfl) ?_
  refine lv_iload_n hx hb dX7_cause_8 rfl (lv_at hl 3 rfl) ?_
  obtain ⟨⟨r2, S3⟩, hcr2, hf⟩ := bnd_some hf
  have hf := u2_at hf
  refine mr_callV (rest := []) B hM (c_X7_toldFact l D S1 p0 p1 p2 hcr2) (cwV 3 hts (lw_V q1876 q1878 qs50 q113 q1879) rfl rfl rfl hd_X7_toldFact ⟨Nat.le_of_ble_eq_true rfl, Nat.le_of_ble_eq_true rfl⟩) rfl hl.1 rfl (Nat.le_of_ble_eq_true rfl) dX7_cause_9 ⟨Nat.zero_le _, Nat.zero_le _⟩ (fun H locs hM => ?_)
  refine lv_istore (lv' := [(5, .int r2), (0, .ref D.1), (1, .int p0), (2, .int p1), (3, .int p2), (4, .int p3)]) hx hb dX7_cause_12 hl (by decide) rfl (fun ls hl => ?_)
  refine lv_iload hx hb dX7_cause_14 (lv_at hl 0 rfl) ?_
  refine lv_iconst (v := (-1)) hx hb dX7_cause_16 icm1 ?_
  refine lv_icmp_eq (tgt := 27) hx hb dX7_cause_17 (by decide) (fun c4 => ?_) (fun c4 => ?_)
  · have hf := it_pos c4 hf
    refine lv_iconst (v := (-1)) hx hb dX7_cause_27 icm1 ?_
    cases hf
    exact hret _ _ _ _ rfl hM dX7_cause_28
  · have hf := it_neg c4 hf
    refine lv_aload_n hx hb dX7_cause_20 rfl (lv_at hl 1 rfl) ?_
    obtain ⟨⟨r5, S6⟩, hcr5, hf⟩ := bnd_some hf
    have hf := u2_at hf
    refine mr_callV (rest := []) B hM (c_X7_canTell l D S3  hcr5) (cwV 0 hts (lw_V q1904 q1906 qs53 q113 q1907) rfl rfl rfl hd_X7_canTell ⟨Nat.le_of_ble_eq_true rfl, Nat.le_of_ble_eq_true rfl⟩) rfl hl.1 rfl (Nat.le_of_ble_eq_true rfl) dX7_cause_21 ⟨Nat.zero_le _, Nat.zero_le _⟩ (fun H locs hM => ?_)
    refine lv_if_ne (tgt := 29) hx hb dX7_cause_24 (by decide) (fun c7 => ?_) (fun c7 => ?_)
    · have hf := it_neg c7 hf
      refine lv_aload_n hx hb dX7_cause_29 rfl (lv_at hl 1 rfl) ?_
      obtain ⟨S8, hcS8, hf⟩ := bnd_some hf
      refine mr_callV (rest := []) B hM (c_X7_countFacts l D S6  hcS8) (cwV 0 hts (lw_V q2198 q2200 qs98 q113 q2201) rfl rfl rfl hd_X7_countFacts ⟨Nat.le_of_ble_eq_true rfl, Nat.le_of_ble_eq_true rfl⟩) rfl hl.1 rfl (Nat.le_of_ble_eq_true rfl) dX7_cause_30 ⟨Nat.zero_le _, Nat.zero_le _⟩ (fun H locs hM => ?_)
      refine lv_aload_n hx hb dX7_cause_33 rfl (lv_at hl 1 rfl) ?_
      refine mr_get B hM 57 (v := .int (S8.1 57 0)) rfl (by decide) q1703 dX7_cause_34 ?_
      refine lv_if_eq (tgt := 64) hx hb dX7_cause_37 (by decide) (fun c9 => ?_) (fun c9 => ?_)
      · have hf := it_pos c9 hf
        refine lv_iconst (v := (-1)) hx hb dX7_cause_64 icm1 ?_
        cases hf
        exact hret _ _ _ _ rfl hM dX7_cause_65
      · have hf := it_neg c9 hf
        refine lv_aload_n hx hb dX7_cause_40 rfl (lv_at hl 1 rfl) ?_
        refine mr_get B hM 56 (v := .ref (D.2.1 56)) rfl (by decide) q1702 dX7_cause_41 ?_
        refine lv_iload hx hb dX7_cause_44 (lv_at hl 0 rfl) ?_
        obtain ⟨v10, ev10, hiv10, hf⟩ := ald_some hf
        refine mr_iald B hM 56 (by decide) rfl hiv10 ev10 dX7_cause_46 ?_
        have j12 : f_X7_cause_J66_12 p3 r2 S8 = some (r, S') → ∀ (H : Heap) (locs : List Loc) (ls : Array Slot), m_I D s H locs S8 → lv_has ls 6 [(0, .ref D.1), (4, .int p3), (5, .int r2)] → W p l e r_X7_cause s m args below meth c H locs 0 0 Q (F0 m 66 ls []) := by
          intro hf
          intro H locs ls hM hl
          unfold f_X7_cause_J66_12 at hf
          refine lv_aload_n hx hb dX7_cause_66 rfl (lv_at hl 0 rfl) ?_
          refine lv_iload hx hb dX7_cause_67 (lv_at hl 2 rfl) ?_
          refine lv_aload_n hx hb dX7_cause_69 rfl (lv_at hl 0 rfl) ?_
          refine mr_get B hM 56 (v := .ref (D.2.1 56)) rfl (by decide) q1702 dX7_cause_70 ?_
          refine lv_iload hx hb dX7_cause_73 (lv_at hl 2 rfl) ?_
          obtain ⟨v15, ev15, hiv15, hf⟩ := ald_some hf
          refine mr_iald B hM 56 (by decide) rfl hiv15 ev15 dX7_cause_75 ?_
          obtain ⟨x18, ex18, hf⟩ := bd_some hf
          have jx18 : W p l e r_X7_cause s m args below meth c H locs 0 0 Q (F0 m 84 ls [.int x18, .int r2, .ref D.1]) := by
            obtain ⟨S19, hcS19, hf⟩ := bnd_some hf
            refine mr_callV (rest := []) B hM (c_X7_findTogether l D S8 r2 x18 hcS19) (cwV 2 hts (lw_V q2176 q2178 qs95 q113 q2179) rfl rfl rfl hd_X7_findTogether ⟨Nat.le_of_ble_eq_true rfl, Nat.le_of_ble_eq_true rfl⟩) rfl hl.1 rfl (Nat.le_of_ble_eq_true rfl) dX7_cause_84 ⟨Nat.zero_le _, Nat.zero_le _⟩ (fun H locs hM => ?_)
            refine lv_aload_n hx hb dX7_cause_87 rfl (lv_at hl 0 rfl) ?_
            obtain ⟨r20, hcr20, hf⟩ := bnd_some hf
            refine mr_callV (rest := []) B hM (c_X7_fewestApart l D S19  hcr20) (cwV 0 hts (lw_V q2180 q2182 qs96 q113 q2183) rfl rfl rfl hd_X7_fewestApart ⟨Nat.le_of_ble_eq_true rfl, Nat.le_of_ble_eq_true rfl⟩) rfl hl.1 rfl (Nat.le_of_ble_eq_true rfl) dX7_cause_88 ⟨Nat.zero_le _, Nat.zero_le _⟩ (fun H locs hM => ?_)
            refine lv_iload hx hb dX7_cause_91 (lv_at hl 1 rfl) ?_
            obtain ⟨r21, hcr21, hf⟩ := bnd_some hf
            refine pr_callS (rest := []) B (c_X7_numberIn l r20 p3 hcr21) (va_cwS 2 hts (lw_S q2191 q2192 q113 q2193) rfl rfl rfl hd_X7_numberIn ⟨Nat.le_of_ble_eq_true rfl, Nat.le_of_ble_eq_true rfl⟩) rfl hl.1 rfl (Nat.le_of_ble_eq_true rfl) dX7_cause_93 ⟨Nat.zero_le _, Nat.zero_le _⟩ ?_
            cases hf
            exact hret _ _ _ _ rfl hM dX7_cause_96
          refine lv_if_le (tgt := 83) hx hb dX7_cause_76 (by decide) (fun c16 => ?_) (fun c16 => ?_)
          · refine lv_iconst (v := nI 0) hx hb dX7_cause_83 ic0 ?_
            exact js (ex18.trans (if_pos c16)) jx18
          · refine lv_iconst (v := nI 1) hx hb dX7_cause_79 ic1 ?_
            refine lv_goto (tgt := 84) hx hb dX7_cause_80 (by decide) ?_
            exact js (ex18.trans (if_neg c16)) jx18
        refine lv_if_eq (tgt := 66) hx hb dX7_cause_47 (by decide) (fun c11 => ?_) (fun c11 => ?_)
        · have hf := it_pos c11 hf
          exact j12  hf _ _ _ hM (lv_sub hl [1, 5, 0] rfl)
        · have hf := it_neg c11 hf
          refine lv_aload_n hx hb dX7_cause_50 rfl (lv_at hl 1 rfl) ?_
          refine mr_get B hM 56 (v := .ref (D.2.1 56)) rfl (by decide) q1702 dX7_cause_51 ?_
          refine lv_iload hx hb dX7_cause_54 (lv_at hl 0 rfl) ?_
          obtain ⟨v13, ev13, hiv13, hf⟩ := ald_some hf
          refine mr_iald B hM 56 (by decide) rfl hiv13 ev13 dX7_cause_56 ?_
          refine lv_aload_n hx hb dX7_cause_57 rfl (lv_at hl 1 rfl) ?_
          refine mr_get B hM 57 (v := .int (S8.1 57 0)) rfl (by decide) q1703 dX7_cause_58 ?_
          refine lv_icmp_eq (tgt := 66) hx hb dX7_cause_61 (by decide) (fun c14 => ?_) (fun c14 => ?_)
          · have hf := it_pos c14 hf
            exact j12  hf _ _ _ hM (lv_sub hl [1, 5, 0] rfl)
          · have hf := it_neg c14 hf
            refine lv_iconst (v := (-1)) hx hb dX7_cause_64 icm1 ?_
            cases hf
            exact hret _ _ _ _ rfl hM dX7_cause_65
    · have hf := it_pos c7 hf
      refine lv_iconst (v := (-1)) hx hb dX7_cause_27 icm1 ?_
      cases hf
      exact hret _ _ _ _ rfl hM dX7_cause_28
def f_X7_without_L63 (x11 : Int32) (x12 : Int32) (S13 : MS) : Option ((Int32 × Int32 × MS) ⊕ ((Int32 × MS))) :=
  bnd (f_X7_manyFacts S13) fun r14 => (if (nI 1 <<< (r14 &&& 31)) ≤ x12 then some (.inr (x11, S13)) else bnd (f_X7_isWorld S13 x12) <| u2 fun r16 S17 => (if r16 = 0 then bd (x11 + nI 0) fun x19 => bd (x12 + nI 1) fun x20 => some (.inl (x19, x20, S17)) else bd (x11 + nI 1) fun x21 => bd (x12 + nI 1) fun x22 => some (.inl (x21, x22, S17))))
def f_X7_without (S : MS) (p0 : Int32) : Option (Int32 × MS) :=
  bd (m_up S 0 0 (nI 0)) fun S1 => ald 4 (S1.1 12) (nI 0) fun v2 => bnd (f_X7_in p0 (nI 0) (v2 - nI 1)) fun r3 => (if r3 = 0 then some ((-1), S1) else bnd (f_X7_canTell S1) <| u2 fun r5 S6 => (if r5 = 0 then some ((-1), S6) else bnd (f_X7_prepare S6) fun S8 => (if (((S8.1 48 0) >>> (p0 &&& 31)) &&& nI 1) = 0 then some ((-1), S8) else bd (m_up S8 48 0 ((S8.1 48 0) ^^^ (nI 1 <<< (p0 &&& 31)))) fun S10 => bnd (wO (fun t : Int32 × Int32 × MS => f_X7_without_L63 t.1 t.2.1 t.2.2) fu (nI 0, nI 0, S10)) <| u2 fun x25 S26 => some (x25, S26))))
abbrev r_X7_without : Room := { frames := 9, cells := 0, slots := 0, locals := 210 }
set_option maxHeartbeats 4000000 in
set_option maxRecDepth 100000 in
theorem c_X7_without (l : Launch) (D : MD) (S : MS) (p0 : Int32) {r : Int32} {S' : MS} (hf : f_X7_without S p0 = some (r, S')) : m_Met l yX7_without cX7_without 4 (Option.some Jvm.ClassFile.FieldType.int) r_X7_without D [.ref D.1, .int p0] S (some (.int r)) S' := by
  refine m_metI (F := 9) (L := 210) (by decide) rfl (Nat.le_of_ble_eq_true rfl) (fun p e s m args below meth c Q B hret hM ls hl => ?_)
  have hx := B.1
  have hb := B.2.1
  have hown := B.2.2.2.1
  have hts := B.2.2.2.2
  have hl : lv_has ls 4 [(0, .ref D.1), (1, .int p0)] := hl
  generalize s.heap = H, ([] : List Loc) = locs at hM ⊢
  unfold f_X7_without at hf
  refine lv_aload_n hx hb dX7_without_0 rfl (lv_at hl 0 rfl) ?_
  refine lv_iconst (v := nI 0) hx hb dX7_without_1 ic0 ?_
  obtain ⟨S1, eS1, hf⟩ := bd_some hf
  refine mr_puti B hM 0 (by decide) eS1 rfl (tyX7_ok 0 (by decide)) q1646 dX7_without_2 (fun H locs hM => ?_)
  refine lv_iload_n hx hb dX7_without_5 rfl (lv_at hl 1 rfl) ?_
  refine lv_iconst (v := nI 0) hx hb dX7_without_6 ic0 ?_
  refine lv_aload_n hx hb dX7_without_7 rfl (lv_at hl 0 rfl) ?_
  refine mr_get B hM 12 (v := .ref (D.2.1 12)) rfl (by decide) q1658 dX7_without_8 ?_
  refine lv_iconst (v := nI 0) hx hb dX7_without_11 ic0 ?_
  obtain ⟨v2, ev2, hiv2, hf⟩ := ald_some hf
  refine mr_iald B hM 12 (by decide) rfl hiv2 ev2 dX7_without_12 ?_
  refine lv_iconst (v := nI 1) hx hb dX7_without_13 ic1 ?_
  refine lv_isub hx hb dX7_without_14 ?_
  obtain ⟨r3, hcr3, hf⟩ := bnd_some hf
  refine pr_callS (rest := []) B (c_X7_in l p0 (nI 0) (v2 - nI 1) hcr3) (va_cwS 3 hts (lw_S q1841 q1842 q113 q1843) rfl rfl rfl hd_X7_in ⟨Nat.le_of_ble_eq_true rfl, Nat.le_of_ble_eq_true rfl⟩) rfl hl.1 rfl (Nat.le_of_ble_eq_true rfl) dX7_without_15 ⟨Nat.zero_le _, Nat.zero_le _⟩ ?_
  refine lv_if_eq (tgt := 28) hx hb dX7_without_18 (by decide) (fun c4 => ?_) (fun c4 => ?_)
  · have hf := it_pos c4 hf
    refine lv_iconst (v := (-1)) hx hb dX7_without_28 icm1 ?_
    cases hf
    exact hret _ _ _ _ rfl hM dX7_without_29
  · have hf := it_neg c4 hf
    refine lv_aload_n hx hb dX7_without_21 rfl (lv_at hl 0 rfl) ?_
    obtain ⟨⟨r5, S6⟩, hcr5, hf⟩ := bnd_some hf
    have hf := u2_at hf
    refine mr_callV (rest := []) B hM (c_X7_canTell l D S1  hcr5) (cwV 0 hts (lw_V q1904 q1906 qs53 q113 q1907) rfl rfl rfl hd_X7_canTell ⟨Nat.le_of_ble_eq_true rfl, Nat.le_of_ble_eq_true rfl⟩) rfl hl.1 rfl (Nat.le_of_ble_eq_true rfl) dX7_without_22 ⟨Nat.zero_le _, Nat.zero_le _⟩ (fun H locs hM => ?_)
    refine lv_if_ne (tgt := 30) hx hb dX7_without_25 (by decide) (fun c7 => ?_) (fun c7 => ?_)
    · have hf := it_neg c7 hf
      refine lv_aload_n hx hb dX7_without_30 rfl (lv_at hl 0 rfl) ?_
      obtain ⟨S8, hcS8, hf⟩ := bnd_some hf
      refine mr_callV (rest := []) B hM (c_X7_prepare l D S6  hcS8) (cwV 0 hts (lw_V q2116 q2118 qs85 q113 q2119) rfl rfl rfl hd_X7_prepare ⟨Nat.le_of_ble_eq_true rfl, Nat.le_of_ble_eq_true rfl⟩) rfl hl.1 rfl (Nat.le_of_ble_eq_true rfl) dX7_without_31 ⟨Nat.zero_le _, Nat.zero_le _⟩ (fun H locs hM => ?_)
      refine lv_aload_n hx hb dX7_without_34 rfl (lv_at hl 0 rfl) ?_
      refine mr_get B hM 48 (v := .int (S8.1 48 0)) rfl (by decide) q1694 dX7_without_35 ?_
      refine lv_iload_n hx hb dX7_without_38 rfl (lv_at hl 1 rfl) ?_
      refine lv_ishr hx hb dX7_without_39 ?_
      refine lv_iconst (v := nI 1) hx hb dX7_without_40 ic1 ?_
      refine lv_iand hx hb dX7_without_41 ?_
      refine lv_if_ne (tgt := 47) hx hb dX7_without_42 (by decide) (fun c9 => ?_) (fun c9 => ?_)
      · have hf := it_neg c9 hf
        refine lv_aload_n hx hb dX7_without_47 rfl (lv_at hl 0 rfl) ?_
        refine lv_dup hx hb dX7_without_48 rfl ?_
        refine mr_get B hM 48 (v := .int (S8.1 48 0)) rfl (by decide) q1694 dX7_without_49 ?_
        refine lv_iconst (v := nI 1) hx hb dX7_without_52 ic1 ?_
        refine lv_iload_n hx hb dX7_without_53 rfl (lv_at hl 1 rfl) ?_
        refine lv_ishl hx hb dX7_without_54 ?_
        refine lv_ixor hx hb dX7_without_55 ?_
        obtain ⟨S10, eS10, hf⟩ := bd_some hf
        refine mr_puti B hM 48 (by decide) eS10 rfl (tyX7_ok 48 (by decide)) q1694 dX7_without_56 (fun H locs hM => ?_)
        refine lv_iconst (v := nI 0) hx hb dX7_without_59 ic0 ?_
        refine lv_istore_n (lv' := [(2, .int (nI 0)), (0, .ref D.1), (1, .int p0)]) hx hb dX7_without_60 rfl hl (by decide) rfl (fun ls hl => ?_)
        refine lv_iconst (v := nI 0) hx hb dX7_without_61 ic0 ?_
        refine lv_istore_n (lv' := [(3, .int (nI 0)), (2, .int (nI 0)), (0, .ref D.1), (1, .int p0)]) hx hb dX7_without_62 rfl hl (by decide) rfl (fun ls hl => ?_)
        obtain ⟨y24, hxy24, hf⟩ := bnd_some hf
        have hy24 : (fun t : Int32 × MS => ∀ (H : Heap) (locs : List Loc) (ls : Array Slot), m_I D s H locs t.2 → lv_has ls 4 [(2, .int t.1)] → W p l e r_X7_without s m args below meth c H locs 0 0 Q (F0 m 95 ls [])) y24 := by
          rcases y24 with ⟨x25, S26⟩
          have hf := u2_at hf
          intro H locs ls hM hl
          refine lv_iload_n hx hb dX7_without_95 rfl (lv_at hl 0 rfl) ?_
          cases hf
          exact hret _ _ _ _ rfl hM dX7_without_96
        refine lp_W (step := (fun t : Int32 × Int32 × MS => f_X7_without_L63 t.1 t.2.1 t.2.2)) (fun t : Int32 × Int32 × MS => ∀ (H : Heap) (locs : List Loc) (ls : Array Slot), m_I D s H locs t.2.2 → lv_has ls 4 [(0, .ref D.1), (2, .int t.1), (3, .int t.2.1)] → W p l e r_X7_without s m args below meth c H locs 0 0 Q (F0 m 63 ls [])) (fun t : Int32 × MS => ∀ (H : Heap) (locs : List Loc) (ls : Array Slot), m_I D s H locs t.2 → lv_has ls 4 [(2, .int t.1)] → W p l e r_X7_without s m args below meth c H locs 0 0 Q (F0 m 95 ls [])) ?_ fu (nI 0, nI 0, S10) y24 hxy24 hy24 _ _ _ hM (lv_sub hl [2, 1, 0] rfl)
        clear hf hxy24 hy24
        rintro ⟨x11, x12, S13⟩ o (hf : f_X7_without_L63 x11 x12 S13 = some o) hk
        intro H locs ls hM hl
        unfold f_X7_without_L63 at hf
        refine lv_iload_n hx hb dX7_without_63 rfl (lv_at hl 2 rfl) ?_
        refine lv_iconst (v := nI 1) hx hb dX7_without_64 ic1 ?_
        refine lv_aload_n hx hb dX7_without_65 rfl (lv_at hl 0 rfl) ?_
        obtain ⟨r14, hcr14, hf⟩ := bnd_some hf
        refine mr_callV (rest := [.int (nI 1), .int x12]) B hM (c_X7_manyFacts l D S13  hcr14) (cwV 0 hts (lw_V q1868 q1870 qs49 q113 q1871) rfl rfl rfl hd_X7_manyFacts ⟨Nat.le_of_ble_eq_true rfl, Nat.le_of_ble_eq_true rfl⟩) rfl hl.1 rfl (Nat.le_of_ble_eq_true rfl) dX7_without_66 ⟨Nat.zero_le _, Nat.zero_le _⟩ (fun H locs hM => ?_)
        refine lv_ishl hx hb dX7_without_69 ?_
        refine lv_icmp_ge (tgt := 95) hx hb dX7_without_70 (by decide) (fun c15 => ?_) (fun c15 => ?_)
        · have hf := it_pos c15 hf
          cases hf
          exact hk _ _ _ hM (lv_sub hl [1] rfl)
        · have hf := it_neg c15 hf
          refine lv_iload_n hx hb dX7_without_73 rfl (lv_at hl 1 rfl) ?_
          refine lv_aload_n hx hb dX7_without_74 rfl (lv_at hl 0 rfl) ?_
          refine lv_iload_n hx hb dX7_without_75 rfl (lv_at hl 2 rfl) ?_
          obtain ⟨⟨r16, S17⟩, hcr16, hf⟩ := bnd_some hf
          have hf := u2_at hf
          refine mr_callV (rest := [.int x11]) B hM (c_X7_isWorld l D S13 x12 hcr16) (cwV 1 hts (lw_V q2128 q2130 qs88 q113 q2131) rfl rfl rfl hd_X7_isWorld ⟨Nat.le_of_ble_eq_true rfl, Nat.le_of_ble_eq_true rfl⟩) rfl hl.1 rfl (Nat.le_of_ble_eq_true rfl) dX7_without_76 ⟨Nat.zero_le _, Nat.zero_le _⟩ (fun H locs hM => ?_)
          refine lv_if_eq (tgt := 86) hx hb dX7_without_79 (by decide) (fun c18 => ?_) (fun c18 => ?_)
          · have hf := it_pos c18 hf
            refine lv_iconst (v := nI 0) hx hb dX7_without_86 ic0 ?_
            refine lv_iadd hx hb dX7_without_87 ?_
            refine lv_topi (fun x19 ex19 => ?_)
            have hf := bd_at ex19 hf
            refine lv_istore_n (lv' := [(2, .int x19), (0, .ref D.1), (3, .int x12)]) hx hb dX7_without_88 rfl hl (by decide) rfl (fun ls hl => ?_)
            obtain ⟨x20, ex20, hf⟩ := bd_some hf
            refine lv_iinc (v := x20) (lv' := [(3, .int x20), (2, .int x19), (0, .ref D.1)]) hx hb dX7_without_89 hl (k := 2) rfl (by rw [ex20]; first | done | rfl) (by decide) rfl (fun ls hl => ?_)
            refine lv_goto (tgt := 63) hx hb dX7_without_92 (by decide) ?_
            cases hf
            exact hk _ _ _ hM (lv_sub hl [2, 1, 0] rfl)
          · have hf := it_neg c18 hf
            refine lv_iconst (v := nI 1) hx hb dX7_without_82 ic1 ?_
            refine lv_goto (tgt := 87) hx hb dX7_without_83 (by decide) ?_
            refine lv_iadd hx hb dX7_without_87 ?_
            refine lv_topi (fun x21 ex21 => ?_)
            have hf := bd_at ex21 hf
            refine lv_istore_n (lv' := [(2, .int x21), (0, .ref D.1), (3, .int x12)]) hx hb dX7_without_88 rfl hl (by decide) rfl (fun ls hl => ?_)
            obtain ⟨x22, ex22, hf⟩ := bd_some hf
            refine lv_iinc (v := x22) (lv' := [(3, .int x22), (2, .int x21), (0, .ref D.1)]) hx hb dX7_without_89 hl (k := 2) rfl (by rw [ex22]; first | done | rfl) (by decide) rfl (fun ls hl => ?_)
            refine lv_goto (tgt := 63) hx hb dX7_without_92 (by decide) ?_
            cases hf
            exact hk _ _ _ hM (lv_sub hl [2, 1, 0] rfl)
      · have hf := it_pos c9 hf
        refine lv_iconst (v := (-1)) hx hb dX7_without_45 icm1 ?_
        cases hf
        exact hret _ _ _ _ rfl hM dX7_without_46
    · have hf := it_pos c7 hf
      refine lv_iconst (v := (-1)) hx hb dX7_without_28 icm1 ?_
      cases hf
      exact hret _ _ _ _ rfl hM dX7_without_29
def f_X7_asks_L2 (p0 : Int32) (S : MS) (x1 : Int32) : Option ((Int32) ⊕ ((Unit) ⊕ (Unit))) :=
  bnd (f_X7_manyFacts S) fun r2 => (if r2 ≤ x1 then some (.inr (.inr ())) else ald 12 (S.1 61) x1 fun v4 => ald 65536 (S.1 59) (p0 &&& v4) fun v5 => (if v5 = 0 then bd (x1 + nI 1) fun x7 => some (.inl x7) else ald 12 (S.1 61) x1 fun v8 => ald 65536 (S.1 59) (p0 &&& (v8 ^^^ (-1))) fun v9 => (if v9 = 0 then bd (x1 + nI 1) fun x11 => some (.inl x11) else some (.inr (.inl ())))))
def f_X7_asks (S : MS) (p0 : Int32) : Option Int32 :=
  bnd (wO (fun t : Int32 => f_X7_asks_L2 p0 S t) fu (nI 0)) (Sum.elim (fun _ => some (nI 1)) (fun _ => some (nI 0)))
abbrev r_X7_asks : Room := { frames := 1, cells := 0, slots := 0, locals := 20 }
set_option maxHeartbeats 4000000 in
set_option maxRecDepth 100000 in
theorem c_X7_asks (l : Launch) (D : MD) (S : MS) (p0 : Int32) {r : Int32} (hf : f_X7_asks S p0 = some r) : m_Met l yX7_asks cX7_asks 3 (Option.some Jvm.ClassFile.FieldType.boolean) r_X7_asks D [.ref D.1, .int p0] S (some (.int r)) S := by
  refine m_metI (F := 1) (L := 20) (by decide) rfl (Nat.le_of_ble_eq_true rfl) (fun p e s m args below meth c Q B hret hM ls hl => ?_)
  have hx := B.1
  have hb := B.2.1
  have hown := B.2.2.2.1
  have hts := B.2.2.2.2
  have hl : lv_has ls 3 [(0, .ref D.1), (1, .int p0)] := hl
  generalize s.heap = H, ([] : List Loc) = locs at hM ⊢
  unfold f_X7_asks at hf
  refine lv_iconst (v := nI 0) hx hb dX7_asks_0 ic0 ?_
  refine lv_istore_n (lv' := [(2, .int (nI 0)), (0, .ref D.1), (1, .int p0)]) hx hb dX7_asks_1 rfl hl (by decide) rfl (fun ls hl => ?_)
  obtain ⟨y13, hxy13, hf⟩ := bnd_some hf
  have hy13 : (Sum.elim (fun t : Unit => ∀ (H : Heap) (locs : List Loc) (ls : Array Slot), m_I D s H locs S → lv_has ls 3 [] → W p l e r_X7_asks s m args below meth c H locs 0 0 Q (F0 m 44 ls [])) (fun t : Unit => ∀ (H : Heap) (locs : List Loc) (ls : Array Slot), m_I D s H locs S → lv_has ls 3 [] → W p l e r_X7_asks s m args below meth c H locs 0 0 Q (F0 m 52 ls []))) y13 := by
    rcases y13 with _ | _
    · have hf := el_l hf
      intro H locs ls hM hl
      refine lv_iconst (v := nI 1) hx hb dX7_asks_44 ic1 ?_
      cases hf
      exact hret _ _ _ _ rfl hM dX7_asks_45
    · have hf := el_r hf
      intro H locs ls hM hl
      refine lv_iconst (v := nI 0) hx hb dX7_asks_52 ic0 ?_
      cases hf
      exact hret _ _ _ _ rfl hM dX7_asks_53
  refine lp_W (step := (fun t : Int32 => f_X7_asks_L2 p0 S t)) (fun t : Int32 => ∀ (H : Heap) (locs : List Loc) (ls : Array Slot), m_I D s H locs S → lv_has ls 3 [(0, .ref D.1), (1, .int p0), (2, .int t)] → W p l e r_X7_asks s m args below meth c H locs 0 0 Q (F0 m 2 ls [])) (Sum.elim (fun t : Unit => ∀ (H : Heap) (locs : List Loc) (ls : Array Slot), m_I D s H locs S → lv_has ls 3 [] → W p l e r_X7_asks s m args below meth c H locs 0 0 Q (F0 m 44 ls [])) (fun t : Unit => ∀ (H : Heap) (locs : List Loc) (ls : Array Slot), m_I D s H locs S → lv_has ls 3 [] → W p l e r_X7_asks s m args below meth c H locs 0 0 Q (F0 m 52 ls []))) ?_ fu (nI 0) y13 hxy13 hy13 _ _ _ hM (lv_sub hl [1, 2, 0] rfl)
  clear hf hxy13 hy13
  rintro x1 o (hf : f_X7_asks_L2 p0 S x1 = some o) hk
  intro H locs ls hM hl
  unfold f_X7_asks_L2 at hf
  refine lv_iload_n hx hb dX7_asks_2 rfl (lv_at hl 2 rfl) ?_
  refine lv_aload_n hx hb dX7_asks_3 rfl (lv_at hl 0 rfl) ?_
  obtain ⟨r2, hcr2, hf⟩ := bnd_some hf
  refine mr_callV (rest := [.int x1]) B hM (c_X7_manyFacts l D S  hcr2) (cwV 0 hts (lw_V q1868 q1870 qs49 q113 q1871) rfl rfl rfl hd_X7_manyFacts ⟨Nat.le_of_ble_eq_true rfl, Nat.le_of_ble_eq_true rfl⟩) rfl hl.1 rfl (Nat.le_of_ble_eq_true rfl) dX7_asks_4 ⟨Nat.zero_le _, Nat.zero_le _⟩ (fun H locs hM => ?_)
  refine lv_icmp_ge (tgt := 52) hx hb dX7_asks_7 (by decide) (fun c3 => ?_) (fun c3 => ?_)
  · have hf := it_pos c3 hf
    cases hf
    exact hk _ _ _ hM (lv_sub hl [] rfl)
  · have hf := it_neg c3 hf
    refine lv_aload_n hx hb dX7_asks_10 rfl (lv_at hl 0 rfl) ?_
    refine mr_get B hM 59 (v := .ref (D.2.1 59)) rfl (by decide) q1705 dX7_asks_11 ?_
    refine lv_iload_n hx hb dX7_asks_14 rfl (lv_at hl 1 rfl) ?_
    refine lv_aload_n hx hb dX7_asks_15 rfl (lv_at hl 0 rfl) ?_
    refine mr_get B hM 61 (v := .ref (D.2.1 61)) rfl (by decide) q1707 dX7_asks_16 ?_
    refine lv_iload_n hx hb dX7_asks_19 rfl (lv_at hl 2 rfl) ?_
    obtain ⟨v4, ev4, hiv4, hf⟩ := ald_some hf
    refine mr_iald B hM 61 (by decide) rfl hiv4 ev4 dX7_asks_20 ?_
    refine lv_iand hx hb dX7_asks_21 ?_
    obtain ⟨v5, ev5, hiv5, hf⟩ := ald_some hf
    refine mr_zald B hM 59 (by decide) rfl hiv5 ev5 dX7_asks_22 ?_
    refine lv_if_eq (tgt := 46) hx hb dX7_asks_23 (by decide) (fun c6 => ?_) (fun c6 => ?_)
    · have hf := it_pos c6 hf
      obtain ⟨x7, ex7, hf⟩ := bd_some hf
      refine lv_iinc (v := x7) (lv' := [(2, .int x7), (0, .ref D.1), (1, .int p0)]) hx hb dX7_asks_46 hl (k := 2) rfl (by rw [ex7]; first | done | rfl) (by decide) rfl (fun ls hl => ?_)
      refine lv_goto (tgt := 2) hx hb dX7_asks_49 (by decide) ?_
      cases hf
      exact hk _ _ _ hM (lv_sub hl [1, 2, 0] rfl)
    · have hf := it_neg c6 hf
      refine lv_aload_n hx hb dX7_asks_26 rfl (lv_at hl 0 rfl) ?_
      refine mr_get B hM 59 (v := .ref (D.2.1 59)) rfl (by decide) q1705 dX7_asks_27 ?_
      refine lv_iload_n hx hb dX7_asks_30 rfl (lv_at hl 1 rfl) ?_
      refine lv_aload_n hx hb dX7_asks_31 rfl (lv_at hl 0 rfl) ?_
      refine mr_get B hM 61 (v := .ref (D.2.1 61)) rfl (by decide) q1707 dX7_asks_32 ?_
      refine lv_iload_n hx hb dX7_asks_35 rfl (lv_at hl 2 rfl) ?_
      obtain ⟨v8, ev8, hiv8, hf⟩ := ald_some hf
      refine mr_iald B hM 61 (by decide) rfl hiv8 ev8 dX7_asks_36 ?_
      refine lv_iconst (v := (-1)) hx hb dX7_asks_37 icm1 ?_
      refine lv_ixor hx hb dX7_asks_38 ?_
      refine lv_iand hx hb dX7_asks_39 ?_
      obtain ⟨v9, ev9, hiv9, hf⟩ := ald_some hf
      refine mr_zald B hM 59 (by decide) rfl hiv9 ev9 dX7_asks_40 ?_
      refine lv_if_eq (tgt := 46) hx hb dX7_asks_41 (by decide) (fun c10 => ?_) (fun c10 => ?_)
      · have hf := it_pos c10 hf
        obtain ⟨x11, ex11, hf⟩ := bd_some hf
        refine lv_iinc (v := x11) (lv' := [(2, .int x11), (0, .ref D.1), (1, .int p0)]) hx hb dX7_asks_46 hl (k := 2) rfl (by rw [ex11]; first | done | rfl) (by decide) rfl (fun ls hl => ?_)
        refine lv_goto (tgt := 2) hx hb dX7_asks_49 (by decide) ?_
        cases hf
        exact hk _ _ _ hM (lv_sub hl [1, 2, 0] rfl)
      · have hf := it_neg c10 hf
        cases hf
        exact hk _ _ _ hM (lv_sub hl [] rfl)
def f_X7_findYes_L19 (p0 : Int32) (x1 : Int32) (x6 : Int32) (S7 : MS) : Option ((Int32 × MS) ⊕ ((MS))) :=
  (if p0 ≤ x6 then some (.inr S7) else ald 12 (S7.1 61) x1 fun v9 => ald 16 (S7.1 58) x6 fun v10 => (if ((v10 >>> (x1 &&& 31)) &&& nI 1) = 0 then ast 12 x1 (m_up S7 61 x1.toNatClampNeg (v9 ||| nI 0)) fun S12 => bd (x6 + nI 1) fun x13 => some (.inl (x13, S12)) else ast 12 x1 (m_up S7 61 x1.toNatClampNeg (v9 ||| (nI 1 <<< (x6 &&& 31)))) fun S14 => bd (x6 + nI 1) fun x15 => some (.inl (x15, S14))))
def f_X7_findYes_L2 (p0 : Int32) (x1 : Int32) (S2 : MS) : Option ((Int32 × MS) ⊕ ((MS))) :=
  bnd (f_X7_manyFacts S2) fun r3 => (if r3 ≤ x1 then some (.inr S2) else ast 12 x1 (m_up S2 61 x1.toNatClampNeg (nI 0)) fun S5 => bnd (wO (fun t : Int32 × MS => f_X7_findYes_L19 p0 x1 t.1 t.2) fu (nI 0, S5)) <| fun S18 => bd (x1 + nI 1) fun x19 => some (.inl (x19, S18)))
def f_X7_findYes (S : MS) (p0 : Int32) : Option MS :=
  bnd (wO (fun t : Int32 × MS => f_X7_findYes_L2 p0 t.1 t.2) fu (nI 0, S)) <| fun S22 => some S22
abbrev r_X7_findYes : Room := { frames := 1, cells := 0, slots := 0, locals := 20 }
set_option maxHeartbeats 4000000 in
set_option maxRecDepth 100000 in
theorem c_X7_findYes (l : Launch) (D : MD) (S : MS) (p0 : Int32) {S' : MS} (hf : f_X7_findYes S p0 = some S') : m_Met l yX7_findYes cX7_findYes 4 (Option.none : Option Jvm.ClassFile.FieldType) r_X7_findYes D [.ref D.1, .int p0] S none S' := by
  refine m_metV (F := 1) (L := 20) (by decide) rfl (Nat.le_of_ble_eq_true rfl) (fun p e s m args below meth c Q B hret hM ls hl => ?_)
  have hx := B.1
  have hb := B.2.1
  have hown := B.2.2.2.1
  have hts := B.2.2.2.2
  have hl : lv_has ls 4 [(0, .ref D.1), (1, .int p0)] := hl
  generalize s.heap = H, ([] : List Loc) = locs at hM ⊢
  unfold f_X7_findYes at hf
  refine lv_iconst (v := nI 0) hx hb dX7_findYes_0 ic0 ?_
  refine lv_istore_n (lv' := [(2, .int (nI 0)), (0, .ref D.1), (1, .int p0)]) hx hb dX7_findYes_1 rfl hl (by decide) rfl (fun ls hl => ?_)
  obtain ⟨y21, hxy21, hf⟩ := bnd_some hf
  have hy21 : (fun t : MS => ∀ (H : Heap) (locs : List Loc) (ls : Array Slot), m_I D s H locs t → lv_has ls 4 [] → W p l e r_X7_findYes s m args below meth c H locs 0 0 Q (F0 m 65 ls [])) y21 := by
    obtain ⟨S22, rfl⟩ : ∃ z, z = y21 := ⟨_, rfl⟩
    intro H locs ls hM hl
    cases hf
    exact hret _ _ _ _ hM dX7_findYes_65
  refine lp_W (step := (fun t : Int32 × MS => f_X7_findYes_L2 p0 t.1 t.2)) (fun t : Int32 × MS => ∀ (H : Heap) (locs : List Loc) (ls : Array Slot), m_I D s H locs t.2 → lv_has ls 4 [(0, .ref D.1), (1, .int p0), (2, .int t.1)] → W p l e r_X7_findYes s m args below meth c H locs 0 0 Q (F0 m 2 ls [])) (fun t : MS => ∀ (H : Heap) (locs : List Loc) (ls : Array Slot), m_I D s H locs t → lv_has ls 4 [] → W p l e r_X7_findYes s m args below meth c H locs 0 0 Q (F0 m 65 ls [])) ?_ fu (nI 0, S) y21 hxy21 hy21 _ _ _ hM (lv_sub hl [1, 2, 0] rfl)
  clear hf hxy21 hy21
  rintro ⟨x1, S2⟩ o (hf : f_X7_findYes_L2 p0 x1 S2 = some o) hk
  intro H locs ls hM hl
  unfold f_X7_findYes_L2 at hf
  refine lv_iload_n hx hb dX7_findYes_2 rfl (lv_at hl 2 rfl) ?_
  refine lv_aload_n hx hb dX7_findYes_3 rfl (lv_at hl 0 rfl) ?_
  obtain ⟨r3, hcr3, hf⟩ := bnd_some hf
  refine mr_callV (rest := [.int x1]) B hM (c_X7_manyFacts l D S2  hcr3) (cwV 0 hts (lw_V q1868 q1870 qs49 q113 q1871) rfl rfl rfl hd_X7_manyFacts ⟨Nat.le_of_ble_eq_true rfl, Nat.le_of_ble_eq_true rfl⟩) rfl hl.1 rfl (Nat.le_of_ble_eq_true rfl) dX7_findYes_4 ⟨Nat.zero_le _, Nat.zero_le _⟩ (fun H locs hM => ?_)
  refine lv_icmp_ge (tgt := 65) hx hb dX7_findYes_7 (by decide) (fun c4 => ?_) (fun c4 => ?_)
  · have hf := it_pos c4 hf
    cases hf
    exact hk _ _ _ hM (lv_sub hl [] rfl)
  · have hf := it_neg c4 hf
    refine lv_aload_n hx hb dX7_findYes_10 rfl (lv_at hl 0 rfl) ?_
    refine mr_get B hM 61 (v := .ref (D.2.1 61)) rfl (by decide) q1707 dX7_findYes_11 ?_
    refine lv_iload_n hx hb dX7_findYes_14 rfl (lv_at hl 2 rfl) ?_
    refine lv_iconst (v := nI 0) hx hb dX7_findYes_15 ic0 ?_
    obtain ⟨S5, eS5, hiS5, hf⟩ := ast_some hf
    refine mr_iast B hM 61 (by decide) rfl hiS5 eS5 dX7_findYes_16 (fun H locs hM => ?_)
    refine lv_iconst (v := nI 0) hx hb dX7_findYes_17 ic0 ?_
    refine lv_istore_n (lv' := [(3, .int (nI 0)), (0, .ref D.1), (1, .int p0), (2, .int x1)]) hx hb dX7_findYes_18 rfl hl (by decide) rfl (fun ls hl => ?_)
    obtain ⟨y17, hxy17, hf⟩ := bnd_some hf
    have hy17 : (fun t : MS => ∀ (H : Heap) (locs : List Loc) (ls : Array Slot), m_I D s H locs t → lv_has ls 4 [(0, .ref D.1), (1, .int p0), (2, .int x1)] → W p l e r_X7_findYes s m args below meth c H locs 0 0 Q (F0 m 59 ls [])) y17 := by
      obtain ⟨S18, rfl⟩ : ∃ z, z = y17 := ⟨_, rfl⟩
      intro H locs ls hM hl
      obtain ⟨x19, ex19, hf⟩ := bd_some hf
      refine lv_iinc (v := x19) (lv' := [(2, .int x19), (0, .ref D.1), (1, .int p0)]) hx hb dX7_findYes_59 hl (k := 2) rfl (by rw [ex19]; first | done | rfl) (by decide) rfl (fun ls hl => ?_)
      refine lv_goto (tgt := 2) hx hb dX7_findYes_62 (by decide) ?_
      cases hf
      exact hk _ _ _ hM (lv_sub hl [1, 2, 0] rfl)
    refine lp_W (step := (fun t : Int32 × MS => f_X7_findYes_L19 p0 x1 t.1 t.2)) (fun t : Int32 × MS => ∀ (H : Heap) (locs : List Loc) (ls : Array Slot), m_I D s H locs t.2 → lv_has ls 4 [(0, .ref D.1), (1, .int p0), (2, .int x1), (3, .int t.1)] → W p l e r_X7_findYes s m args below meth c H locs 0 0 Q (F0 m 19 ls [])) (fun t : MS => ∀ (H : Heap) (locs : List Loc) (ls : Array Slot), m_I D s H locs t → lv_has ls 4 [(0, .ref D.1), (1, .int p0), (2, .int x1)] → W p l e r_X7_findYes s m args below meth c H locs 0 0 Q (F0 m 59 ls [])) ?_ fu (nI 0, S5) y17 hxy17 hy17 _ _ _ hM (lv_sub hl [1, 2, 3, 0] rfl)
    clear hf hxy17 hy17
    rintro ⟨x6, S7⟩ o (hf : f_X7_findYes_L19 p0 x1 x6 S7 = some o) hk
    intro H locs ls hM hl
    unfold f_X7_findYes_L19 at hf
    refine lv_iload_n hx hb dX7_findYes_19 rfl (lv_at hl 3 rfl) ?_
    refine lv_iload_n hx hb dX7_findYes_20 rfl (lv_at hl 1 rfl) ?_
    refine lv_icmp_ge (tgt := 59) hx hb dX7_findYes_21 (by decide) (fun c8 => ?_) (fun c8 => ?_)
    · have hf := it_pos c8 hf
      cases hf
      exact hk _ _ _ hM (lv_sub hl [0, 1, 2] rfl)
    · have hf := it_neg c8 hf
      refine lv_aload_n hx hb dX7_findYes_24 rfl (lv_at hl 0 rfl) ?_
      refine mr_get B hM 61 (v := .ref (D.2.1 61)) rfl (by decide) q1707 dX7_findYes_25 ?_
      refine lv_iload_n hx hb dX7_findYes_28 rfl (lv_at hl 2 rfl) ?_
      refine lv_dup2_11 hx hb dX7_findYes_29 rfl rfl ?_
      obtain ⟨v9, ev9, hiv9, hf⟩ := ald_some hf
      refine mr_iald B hM 61 (by decide) rfl hiv9 ev9 dX7_findYes_30 ?_
      refine lv_aload_n hx hb dX7_findYes_31 rfl (lv_at hl 0 rfl) ?_
      refine mr_get B hM 58 (v := .ref (D.2.1 58)) rfl (by decide) q1704 dX7_findYes_32 ?_
      refine lv_iload_n hx hb dX7_findYes_35 rfl (lv_at hl 3 rfl) ?_
      obtain ⟨v10, ev10, hiv10, hf⟩ := ald_some hf
      refine mr_iald B hM 58 (by decide) rfl hiv10 ev10 dX7_findYes_36 ?_
      refine lv_iload_n hx hb dX7_findYes_37 rfl (lv_at hl 2 rfl) ?_
      refine lv_ishr hx hb dX7_findYes_38 ?_
      refine lv_iconst (v := nI 1) hx hb dX7_findYes_39 ic1 ?_
      refine lv_iand hx hb dX7_findYes_40 ?_
      refine lv_if_eq (tgt := 50) hx hb dX7_findYes_41 (by decide) (fun c11 => ?_) (fun c11 => ?_)
      · have hf := it_pos c11 hf
        refine lv_iconst (v := nI 0) hx hb dX7_findYes_50 ic0 ?_
        refine lv_ior hx hb dX7_findYes_51 ?_
        obtain ⟨S12, eS12, hiS12, hf⟩ := ast_some hf
        refine mr_iast B hM 61 (by decide) rfl hiS12 eS12 dX7_findYes_52 (fun H locs hM => ?_)
        obtain ⟨x13, ex13, hf⟩ := bd_some hf
        refine lv_iinc (v := x13) (lv' := [(3, .int x13), (0, .ref D.1), (1, .int p0), (2, .int x1)]) hx hb dX7_findYes_53 hl (k := 3) rfl (by rw [ex13]; first | done | rfl) (by decide) rfl (fun ls hl => ?_)
        refine lv_goto (tgt := 19) hx hb dX7_findYes_56 (by decide) ?_
        cases hf
        exact hk _ _ _ hM (lv_sub hl [1, 2, 3, 0] rfl)
      · have hf := it_neg c11 hf
        refine lv_iconst (v := nI 1) hx hb dX7_findYes_44 ic1 ?_
        refine lv_iload_n hx hb dX7_findYes_45 rfl (lv_at hl 3 rfl) ?_
        refine lv_ishl hx hb dX7_findYes_46 ?_
        refine lv_goto (tgt := 51) hx hb dX7_findYes_47 (by decide) ?_
        refine lv_ior hx hb dX7_findYes_51 ?_
        obtain ⟨S14, eS14, hiS14, hf⟩ := ast_some hf
        refine mr_iast B hM 61 (by decide) rfl hiS14 eS14 dX7_findYes_52 (fun H locs hM => ?_)
        obtain ⟨x15, ex15, hf⟩ := bd_some hf
        refine lv_iinc (v := x15) (lv' := [(3, .int x15), (0, .ref D.1), (1, .int p0), (2, .int x1)]) hx hb dX7_findYes_53 hl (k := 3) rfl (by rw [ex15]; first | done | rfl) (by decide) rfl (fun ls hl => ?_)
        refine lv_goto (tgt := 19) hx hb dX7_findYes_56 (by decide) ?_
        cases hf
        exact hk _ _ _ hM (lv_sub hl [1, 2, 3, 0] rfl)
def f_X7_questions_L22 (x6 : Int32) (x7 : Int32) (S8 : MS) : Option ((Int32 × Int32 × MS) ⊕ ((MS) ⊕ (Int32 × MS))) :=
  bnd (f_X7_manyFacts S8) fun r9 => (if (nI 1 <<< (r9 &&& 31)) ≤ x7 then some (.inr (.inr (x6, S8))) else bnd (f_X7_isWorld S8 x7) <| u2 fun r11 S12 => (if r11 = 0 then bd (x7 + nI 1) fun x14 => some (.inl (x6, x14, S12)) else (if x6 = nI 16 then some (.inr (.inl S12)) else ast 16 x6 (m_up S12 58 x6.toNatClampNeg x7) fun S16 => bd (x6 + nI 1) fun x17 => bd (x7 + nI 1) fun x18 => some (.inl (x17, x18, S16)))))
def f_X7_questions_L77 (x22 : Int32) (x26 : Int32) (S27 : MS) : Option ((Int32 × MS) ⊕ ((MS))) :=
  (if (nI 1 <<< (x22 &&& 31)) ≤ x26 then some (.inr S27) else (if (x26 &&& (x26 - nI 1)) = 0 then ast 65536 x26 (m_up S27 59 x26.toNatClampNeg (vp_nar .boolean (nI 1))) fun S32 => bd (x26 + nI 1) fun x33 => some (.inl (x33, S32)) else ast 65536 x26 (m_up S27 59 x26.toNatClampNeg (vp_nar .boolean (nI 0))) fun S30 => bd (x26 + nI 1) fun x31 => some (.inl (x31, S30))))
def f_X7_questions_L133 (x22 : Int32) (x42 : Int32) (S43 : MS) : Option ((Int32 × MS) ⊕ ((MS))) :=
  (if (nI 1 <<< (x22 &&& 31)) ≤ x42 then some (.inr S43) else ald 65536 (S43.1 59) x42 fun v45 => (if v45 = 0 then bnd (f_X7_asks S43 x42) fun r49 => (if r49 = 0 then ast 65536 x42 (m_up S43 60 x42.toNatClampNeg (vp_nar .boolean (nI 0))) fun S51 => bd (x42 + nI 1) fun x52 => some (.inl (x52, S51)) else ast 65536 x42 (m_up S43 60 x42.toNatClampNeg (vp_nar .boolean (nI 1))) fun S53 => bd (x42 + nI 1) fun x54 => some (.inl (x54, S53))) else ast 65536 x42 (m_up S43 60 x42.toNatClampNeg (vp_nar .boolean (nI 1))) fun S47 => bd (x42 + nI 1) fun x48 => some (.inl (x48, S47))))
def f_X7_questions_L176 (x22 : Int32) (x58 : Int32) (S59 : MS) : Option ((Int32 × MS) ⊕ ((MS))) :=
  (if (nI 1 <<< (x22 &&& 31)) ≤ x58 then some (.inr S59) else ald 65536 (S59.1 60) x58 fun v61 => ast 65536 x58 (m_up S59 59 x58.toNatClampNeg (vp_nar .boolean v61)) fun S62 => bd (x58 + nI 1) fun x63 => some (.inl (x63, S62)))
def f_X7_questions_L111 (x22 : Int32) (x37 : Int32) (S38 : MS) : Option ((Int32 × MS) ⊕ ((Int32 × MS) ⊕ (MS))) :=
  (if nI 4 < x37 then some (.inr (.inr S38)) else ald 65536 (S38.1 59) ((nI 1 <<< (x22 &&& 31)) - nI 1) fun v40 => (if v40 = 0 then bnd (wO (fun t : Int32 × MS => f_X7_questions_L133 x22 t.1 t.2) fu (nI 0, S38)) <| fun S57 => bnd (wO (fun t : Int32 × MS => f_X7_questions_L176 x22 t.1 t.2) fu (nI 0, S57)) <| fun S66 => bd (x37 + nI 1) fun x67 => some (.inl (x67, S66)) else some (.inr (.inl (x37, S38)))))
def f_X7_questions (S : MS) : Option (Int32 × MS) :=
  bd (m_up S 0 0 (nI 0)) fun S1 => bnd (f_X7_canTell S1) <| u2 fun r2 S3 => (if r2 = 0 then some ((-1), S3) else bnd (f_X7_prepare S3) fun S5 => bnd (wO (fun t : Int32 × Int32 × MS => f_X7_questions_L22 t.1 t.2.1 t.2.2) fu (nI 0, nI 0, S5)) (Sum.elim (fun S21 => some ((-1), S21)) (u2 fun x22 S23 => (if x22 = 0 then some ((-1), S23) else bnd (f_X7_findYes S23 x22) fun S25 => bnd (wO (fun t : Int32 × MS => f_X7_questions_L77 x22 t.1 t.2) fu (nI 0, S25)) <| fun S36 => bnd (wO (fun t : Int32 × MS => f_X7_questions_L111 x22 t.1 t.2) fu (nI 0, S36)) (Sum.elim (u2 fun x70 S71 => some (x70, S71)) (fun S72 => some ((-1), S72)))))))
abbrev r_X7_questions : Room := { frames := 9, cells := 0, slots := 0, locals := 210 }
set_option maxHeartbeats 4000000 in
set_option maxRecDepth 100000 in
theorem c_X7_questions (l : Launch) (D : MD) (S : MS)  {r : Int32} {S' : MS} (hf : f_X7_questions S = some (r, S')) : m_Met l yX7_questions cX7_questions 4 (Option.some Jvm.ClassFile.FieldType.int) r_X7_questions D [.ref D.1] S (some (.int r)) S' := by
  refine m_metI (F := 9) (L := 210) (by decide) rfl (Nat.le_of_ble_eq_true rfl) (fun p e s m args below meth c Q B hret hM ls hl => ?_)
  have hx := B.1
  have hb := B.2.1
  have hown := B.2.2.2.1
  have hts := B.2.2.2.2
  have hl : lv_has ls 4 [(0, .ref D.1)] := hl
  generalize s.heap = H, ([] : List Loc) = locs at hM ⊢
  unfold f_X7_questions at hf
  refine lv_aload_n hx hb dX7_questions_0 rfl (lv_at hl 0 rfl) ?_
  refine lv_iconst (v := nI 0) hx hb dX7_questions_1 ic0 ?_
  obtain ⟨S1, eS1, hf⟩ := bd_some hf
  refine mr_puti B hM 0 (by decide) eS1 rfl (tyX7_ok 0 (by decide)) q1646 dX7_questions_2 (fun H locs hM => ?_)
  refine lv_aload_n hx hb dX7_questions_5 rfl (lv_at hl 0 rfl) ?_
  obtain ⟨⟨r2, S3⟩, hcr2, hf⟩ := bnd_some hf
  have hf := u2_at hf
  refine mr_callV (rest := []) B hM (c_X7_canTell l D S1  hcr2) (cwV 0 hts (lw_V q1904 q1906 qs53 q113 q1907) rfl rfl rfl hd_X7_canTell ⟨Nat.le_of_ble_eq_true rfl, Nat.le_of_ble_eq_true rfl⟩) rfl hl.1 rfl (Nat.le_of_ble_eq_true rfl) dX7_questions_6 ⟨Nat.zero_le _, Nat.zero_le _⟩ (fun H locs hM => ?_)
  refine lv_if_ne (tgt := 14) hx hb dX7_questions_9 (by decide) (fun c4 => ?_) (fun c4 => ?_)
  · have hf := it_neg c4 hf
    refine lv_aload_n hx hb dX7_questions_14 rfl (lv_at hl 0 rfl) ?_
    obtain ⟨S5, hcS5, hf⟩ := bnd_some hf
    refine mr_callV (rest := []) B hM (c_X7_prepare l D S3  hcS5) (cwV 0 hts (lw_V q2116 q2118 qs85 q113 q2119) rfl rfl rfl hd_X7_prepare ⟨Nat.le_of_ble_eq_true rfl, Nat.le_of_ble_eq_true rfl⟩) rfl hl.1 rfl (Nat.le_of_ble_eq_true rfl) dX7_questions_15 ⟨Nat.zero_le _, Nat.zero_le _⟩ (fun H locs hM => ?_)
    refine lv_iconst (v := nI 0) hx hb dX7_questions_18 ic0 ?_
    refine lv_istore_n (lv' := [(1, .int (nI 0)), (0, .ref D.1)]) hx hb dX7_questions_19 rfl hl (by decide) rfl (fun ls hl => ?_)
    refine lv_iconst (v := nI 0) hx hb dX7_questions_20 ic0 ?_
    refine lv_istore_n (lv' := [(2, .int (nI 0)), (1, .int (nI 0)), (0, .ref D.1)]) hx hb dX7_questions_21 rfl hl (by decide) rfl (fun ls hl => ?_)
    obtain ⟨y20, hxy20, hf⟩ := bnd_some hf
    have hy20 : (Sum.elim (fun t : MS => ∀ (H : Heap) (locs : List Loc) (ls : Array Slot), m_I D s H locs t → lv_has ls 4 [] → W p l e r_X7_questions s m args below meth c H locs 0 0 Q (F0 m 46 ls [])) (fun t : Int32 × MS => ∀ (H : Heap) (locs : List Loc) (ls : Array Slot), m_I D s H locs t.2 → lv_has ls 4 [(0, .ref D.1), (1, .int t.1)] → W p l e r_X7_questions s m args below meth c H locs 0 0 Q (F0 m 64 ls []))) y20 := by
      rcases y20 with S21 | ⟨x22, S23⟩
      · have hf := el_l hf
        intro H locs ls hM hl
        refine lv_iconst (v := (-1)) hx hb dX7_questions_46 icm1 ?_
        cases hf
        exact hret _ _ _ _ rfl hM dX7_questions_47
      · have hf := el_r hf
        have hf := u2_at hf
        intro H locs ls hM hl
        refine lv_iload_n hx hb dX7_questions_64 rfl (lv_at hl 1 rfl) ?_
        refine lv_if_ne (tgt := 70) hx hb dX7_questions_65 (by decide) (fun c24 => ?_) (fun c24 => ?_)
        · have hf := it_neg c24 hf
          refine lv_aload_n hx hb dX7_questions_70 rfl (lv_at hl 0 rfl) ?_
          refine lv_iload_n hx hb dX7_questions_71 rfl (lv_at hl 1 rfl) ?_
          obtain ⟨S25, hcS25, hf⟩ := bnd_some hf
          refine mr_callV (rest := []) B hM (c_X7_findYes l D S23 x22 hcS25) (cwV 1 hts (lw_V q2214 q2216 qs99 q113 q2217) rfl rfl rfl hd_X7_findYes ⟨Nat.le_of_ble_eq_true rfl, Nat.le_of_ble_eq_true rfl⟩) rfl hl.1 rfl (Nat.le_of_ble_eq_true rfl) dX7_questions_72 ⟨Nat.zero_le _, Nat.zero_le _⟩ (fun H locs hM => ?_)
          refine lv_iconst (v := nI 0) hx hb dX7_questions_75 ic0 ?_
          refine lv_istore_n (lv' := [(2, .int (nI 0)), (0, .ref D.1), (1, .int x22)]) hx hb dX7_questions_76 rfl hl (by decide) rfl (fun ls hl => ?_)
          obtain ⟨y35, hxy35, hf⟩ := bnd_some hf
          have hy35 : (fun t : MS => ∀ (H : Heap) (locs : List Loc) (ls : Array Slot), m_I D s H locs t → lv_has ls 4 [(0, .ref D.1), (1, .int x22)] → W p l e r_X7_questions s m args below meth c H locs 0 0 Q (F0 m 109 ls [])) y35 := by
            obtain ⟨S36, rfl⟩ : ∃ z, z = y35 := ⟨_, rfl⟩
            intro H locs ls hM hl
            refine lv_iconst (v := nI 0) hx hb dX7_questions_109 ic0 ?_
            refine lv_istore_n (lv' := [(2, .int (nI 0)), (0, .ref D.1), (1, .int x22)]) hx hb dX7_questions_110 rfl hl (by decide) rfl (fun ls hl => ?_)
            obtain ⟨y69, hxy69, hf⟩ := bnd_some hf
            have hy69 : (Sum.elim (fun t : Int32 × MS => ∀ (H : Heap) (locs : List Loc) (ls : Array Slot), m_I D s H locs t.2 → lv_has ls 4 [(2, .int t.1)] → W p l e r_X7_questions s m args below meth c H locs 0 0 Q (F0 m 129 ls [])) (fun t : MS => ∀ (H : Heap) (locs : List Loc) (ls : Array Slot), m_I D s H locs t → lv_has ls 4 [] → W p l e r_X7_questions s m args below meth c H locs 0 0 Q (F0 m 207 ls []))) y69 := by
              rcases y69 with ⟨x70, S71⟩ | S72
              · have hf := el_l hf
                have hf := u2_at hf
                intro H locs ls hM hl
                refine lv_iload_n hx hb dX7_questions_129 rfl (lv_at hl 0 rfl) ?_
                cases hf
                exact hret _ _ _ _ rfl hM dX7_questions_130
              · have hf := el_r hf
                intro H locs ls hM hl
                refine lv_iconst (v := (-1)) hx hb dX7_questions_207 icm1 ?_
                cases hf
                exact hret _ _ _ _ rfl hM dX7_questions_208
            refine lp_W (step := (fun t : Int32 × MS => f_X7_questions_L111 x22 t.1 t.2)) (fun t : Int32 × MS => ∀ (H : Heap) (locs : List Loc) (ls : Array Slot), m_I D s H locs t.2 → lv_has ls 4 [(0, .ref D.1), (1, .int x22), (2, .int t.1)] → W p l e r_X7_questions s m args below meth c H locs 0 0 Q (F0 m 111 ls [])) (Sum.elim (fun t : Int32 × MS => ∀ (H : Heap) (locs : List Loc) (ls : Array Slot), m_I D s H locs t.2 → lv_has ls 4 [(2, .int t.1)] → W p l e r_X7_questions s m args below meth c H locs 0 0 Q (F0 m 129 ls [])) (fun t : MS => ∀ (H : Heap) (locs : List Loc) (ls : Array Slot), m_I D s H locs t → lv_has ls 4 [] → W p l e r_X7_questions s m args below meth c H locs 0 0 Q (F0 m 207 ls []))) ?_ fu (nI 0, S36) y69 hxy69 hy69 _ _ _ hM (lv_sub hl [1, 2, 0] rfl)
            clear hf hxy69 hy69
            rintro ⟨x37, S38⟩ o (hf : f_X7_questions_L111 x22 x37 S38 = some o) hk
            intro H locs ls hM hl
            unfold f_X7_questions_L111 at hf
            refine lv_iload_n hx hb dX7_questions_111 rfl (lv_at hl 2 rfl) ?_
            refine lv_iconst (v := nI 4) hx hb dX7_questions_112 ic4 ?_
            refine lv_icmp_gt (tgt := 207) hx hb dX7_questions_113 (by decide) (fun c39 => ?_) (fun c39 => ?_)
            · have hf := it_pos c39 hf
              cases hf
              exact hk _ _ _ hM (lv_sub hl [] rfl)
            · have hf := it_neg c39 hf
              refine lv_aload_n hx hb dX7_questions_116 rfl (lv_at hl 0 rfl) ?_
              refine mr_get B hM 59 (v := .ref (D.2.1 59)) rfl (by decide) q1705 dX7_questions_117 ?_
              refine lv_iconst (v := nI 1) hx hb dX7_questions_120 ic1 ?_
              refine lv_iload_n hx hb dX7_questions_121 rfl (lv_at hl 1 rfl) ?_
              refine lv_ishl hx hb dX7_questions_122 ?_
              refine lv_iconst (v := nI 1) hx hb dX7_questions_123 ic1 ?_
              refine lv_isub hx hb dX7_questions_124 ?_
              obtain ⟨v40, ev40, hiv40, hf⟩ := ald_some hf
              refine mr_zald B hM 59 (by decide) rfl hiv40 ev40 dX7_questions_125 ?_
              refine lv_if_eq (tgt := 131) hx hb dX7_questions_126 (by decide) (fun c41 => ?_) (fun c41 => ?_)
              · have hf := it_pos c41 hf
                refine lv_iconst (v := nI 0) hx hb dX7_questions_131 ic0 ?_
                refine lv_istore_n (lv' := [(3, .int (nI 0)), (0, .ref D.1), (1, .int x22), (2, .int x37)]) hx hb dX7_questions_132 rfl hl (by decide) rfl (fun ls hl => ?_)
                obtain ⟨y56, hxy56, hf⟩ := bnd_some hf
                have hy56 : (fun t : MS => ∀ (H : Heap) (locs : List Loc) (ls : Array Slot), m_I D s H locs t → lv_has ls 4 [(0, .ref D.1), (1, .int x22), (2, .int x37)] → W p l e r_X7_questions s m args below meth c H locs 0 0 Q (F0 m 174 ls [])) y56 := by
                  obtain ⟨S57, rfl⟩ : ∃ z, z = y56 := ⟨_, rfl⟩
                  intro H locs ls hM hl
                  refine lv_iconst (v := nI 0) hx hb dX7_questions_174 ic0 ?_
                  refine lv_istore_n (lv' := [(3, .int (nI 0)), (0, .ref D.1), (1, .int x22), (2, .int x37)]) hx hb dX7_questions_175 rfl hl (by decide) rfl (fun ls hl => ?_)
                  obtain ⟨y65, hxy65, hf⟩ := bnd_some hf
                  have hy65 : (fun t : MS => ∀ (H : Heap) (locs : List Loc) (ls : Array Slot), m_I D s H locs t → lv_has ls 4 [(0, .ref D.1), (1, .int x22), (2, .int x37)] → W p l e r_X7_questions s m args below meth c H locs 0 0 Q (F0 m 201 ls [])) y65 := by
                    obtain ⟨S66, rfl⟩ : ∃ z, z = y65 := ⟨_, rfl⟩
                    intro H locs ls hM hl
                    obtain ⟨x67, ex67, hf⟩ := bd_some hf
                    refine lv_iinc (v := x67) (lv' := [(2, .int x67), (0, .ref D.1), (1, .int x22)]) hx hb dX7_questions_201 hl (k := 2) rfl (by rw [ex67]; first | done | rfl) (by decide) rfl (fun ls hl => ?_)
                    refine lv_goto (tgt := 111) hx hb dX7_questions_204 (by decide) ?_
                    cases hf
                    exact hk _ _ _ hM (lv_sub hl [1, 2, 0] rfl)
                  refine lp_W (step := (fun t : Int32 × MS => f_X7_questions_L176 x22 t.1 t.2)) (fun t : Int32 × MS => ∀ (H : Heap) (locs : List Loc) (ls : Array Slot), m_I D s H locs t.2 → lv_has ls 4 [(0, .ref D.1), (1, .int x22), (2, .int x37), (3, .int t.1)] → W p l e r_X7_questions s m args below meth c H locs 0 0 Q (F0 m 176 ls [])) (fun t : MS => ∀ (H : Heap) (locs : List Loc) (ls : Array Slot), m_I D s H locs t → lv_has ls 4 [(0, .ref D.1), (1, .int x22), (2, .int x37)] → W p l e r_X7_questions s m args below meth c H locs 0 0 Q (F0 m 201 ls [])) ?_ fu (nI 0, S57) y65 hxy65 hy65 _ _ _ hM (lv_sub hl [1, 2, 3, 0] rfl)
                  clear hf hxy65 hy65
                  rintro ⟨x58, S59⟩ o (hf : f_X7_questions_L176 x22 x58 S59 = some o) hk
                  intro H locs ls hM hl
                  unfold f_X7_questions_L176 at hf
                  refine lv_iload_n hx hb dX7_questions_176 rfl (lv_at hl 3 rfl) ?_
                  refine lv_iconst (v := nI 1) hx hb dX7_questions_177 ic1 ?_
                  refine lv_iload_n hx hb dX7_questions_178 rfl (lv_at hl 1 rfl) ?_
                  refine lv_ishl hx hb dX7_questions_179 ?_
                  refine lv_icmp_ge (tgt := 201) hx hb dX7_questions_180 (by decide) (fun c60 => ?_) (fun c60 => ?_)
                  · have hf := it_pos c60 hf
                    cases hf
                    exact hk _ _ _ hM (lv_sub hl [0, 1, 2] rfl)
                  · have hf := it_neg c60 hf
                    refine lv_aload_n hx hb dX7_questions_183 rfl (lv_at hl 0 rfl) ?_
                    refine mr_get B hM 59 (v := .ref (D.2.1 59)) rfl (by decide) q1705 dX7_questions_184 ?_
                    refine lv_iload_n hx hb dX7_questions_187 rfl (lv_at hl 3 rfl) ?_
                    refine lv_aload_n hx hb dX7_questions_188 rfl (lv_at hl 0 rfl) ?_
                    refine mr_get B hM 60 (v := .ref (D.2.1 60)) rfl (by decide) q1706 dX7_questions_189 ?_
                    refine lv_iload_n hx hb dX7_questions_192 rfl (lv_at hl 3 rfl) ?_
                    obtain ⟨v61, ev61, hiv61, hf⟩ := ald_some hf
                    refine mr_zald B hM 60 (by decide) rfl hiv61 ev61 dX7_questions_193 ?_
                    obtain ⟨S62, eS62, hiS62, hf⟩ := ast_some hf
                    refine mr_zast B hM 59 (by decide) rfl hiS62 eS62 dX7_questions_194 (fun H locs hM => ?_)
                    obtain ⟨x63, ex63, hf⟩ := bd_some hf
                    refine lv_iinc (v := x63) (lv' := [(3, .int x63), (0, .ref D.1), (1, .int x22), (2, .int x37)]) hx hb dX7_questions_195 hl (k := 3) rfl (by rw [ex63]; first | done | rfl) (by decide) rfl (fun ls hl => ?_)
                    refine lv_goto (tgt := 176) hx hb dX7_questions_198 (by decide) ?_
                    cases hf
                    exact hk _ _ _ hM (lv_sub hl [1, 2, 3, 0] rfl)
                refine lp_W (step := (fun t : Int32 × MS => f_X7_questions_L133 x22 t.1 t.2)) (fun t : Int32 × MS => ∀ (H : Heap) (locs : List Loc) (ls : Array Slot), m_I D s H locs t.2 → lv_has ls 4 [(0, .ref D.1), (1, .int x22), (2, .int x37), (3, .int t.1)] → W p l e r_X7_questions s m args below meth c H locs 0 0 Q (F0 m 133 ls [])) (fun t : MS => ∀ (H : Heap) (locs : List Loc) (ls : Array Slot), m_I D s H locs t → lv_has ls 4 [(0, .ref D.1), (1, .int x22), (2, .int x37)] → W p l e r_X7_questions s m args below meth c H locs 0 0 Q (F0 m 174 ls [])) ?_ fu (nI 0, S38) y56 hxy56 hy56 _ _ _ hM (lv_sub hl [1, 2, 3, 0] rfl)
                clear hf hxy56 hy56
                rintro ⟨x42, S43⟩ o (hf : f_X7_questions_L133 x22 x42 S43 = some o) hk
                intro H locs ls hM hl
                unfold f_X7_questions_L133 at hf
                refine lv_iload_n hx hb dX7_questions_133 rfl (lv_at hl 3 rfl) ?_
                refine lv_iconst (v := nI 1) hx hb dX7_questions_134 ic1 ?_
                refine lv_iload_n hx hb dX7_questions_135 rfl (lv_at hl 1 rfl) ?_
                refine lv_ishl hx hb dX7_questions_136 ?_
                refine lv_icmp_ge (tgt := 174) hx hb dX7_questions_137 (by decide) (fun c44 => ?_) (fun c44 => ?_)
                · have hf := it_pos c44 hf
                  cases hf
                  exact hk _ _ _ hM (lv_sub hl [0, 1, 2] rfl)
                · have hf := it_neg c44 hf
                  refine lv_aload_n hx hb dX7_questions_140 rfl (lv_at hl 0 rfl) ?_
                  refine mr_get B hM 60 (v := .ref (D.2.1 60)) rfl (by decide) q1706 dX7_questions_141 ?_
                  refine lv_iload_n hx hb dX7_questions_144 rfl (lv_at hl 3 rfl) ?_
                  refine lv_aload_n hx hb dX7_questions_145 rfl (lv_at hl 0 rfl) ?_
                  refine mr_get B hM 59 (v := .ref (D.2.1 59)) rfl (by decide) q1705 dX7_questions_146 ?_
                  refine lv_iload_n hx hb dX7_questions_149 rfl (lv_at hl 3 rfl) ?_
                  obtain ⟨v45, ev45, hiv45, hf⟩ := ald_some hf
                  refine mr_zald B hM 59 (by decide) rfl hiv45 ev45 dX7_questions_150 ?_
                  refine lv_if_ne (tgt := 162) hx hb dX7_questions_151 (by decide) (fun c46 => ?_) (fun c46 => ?_)
                  · have hf := it_neg c46 hf
                    refine lv_iconst (v := nI 1) hx hb dX7_questions_162 ic1 ?_
                    refine lv_goto (tgt := 167) hx hb dX7_questions_163 (by decide) ?_
                    obtain ⟨S47, eS47, hiS47, hf⟩ := ast_some hf
                    refine mr_zast B hM 60 (by decide) rfl hiS47 eS47 dX7_questions_167 (fun H locs hM => ?_)
                    obtain ⟨x48, ex48, hf⟩ := bd_some hf
                    refine lv_iinc (v := x48) (lv' := [(3, .int x48), (0, .ref D.1), (1, .int x22), (2, .int x37)]) hx hb dX7_questions_168 hl (k := 3) rfl (by rw [ex48]; first | done | rfl) (by decide) rfl (fun ls hl => ?_)
                    refine lv_goto (tgt := 133) hx hb dX7_questions_171 (by decide) ?_
                    cases hf
                    exact hk _ _ _ hM (lv_sub hl [1, 2, 3, 0] rfl)
                  · have hf := it_pos c46 hf
                    refine lv_aload_n hx hb dX7_questions_154 rfl (lv_at hl 0 rfl) ?_
                    refine lv_iload_n hx hb dX7_questions_155 rfl (lv_at hl 3 rfl) ?_
                    obtain ⟨r49, hcr49, hf⟩ := bnd_some hf
                    refine mr_callV (rest := [.int x42, .ref (D.2.1 60)]) B hM (c_X7_asks l D S43 x42 hcr49) (cwV 1 hts (lw_V q2218 q2220 qs100 q113 q2221) rfl rfl rfl hd_X7_asks ⟨Nat.le_of_ble_eq_true rfl, Nat.le_of_ble_eq_true rfl⟩) rfl hl.1 rfl (Nat.le_of_ble_eq_true rfl) dX7_questions_156 ⟨Nat.zero_le _, Nat.zero_le _⟩ (fun H locs hM => ?_)
                    refine lv_if_eq (tgt := 166) hx hb dX7_questions_159 (by decide) (fun c50 => ?_) (fun c50 => ?_)
                    · have hf := it_pos c50 hf
                      refine lv_iconst (v := nI 0) hx hb dX7_questions_166 ic0 ?_
                      obtain ⟨S51, eS51, hiS51, hf⟩ := ast_some hf
                      refine mr_zast B hM 60 (by decide) rfl hiS51 eS51 dX7_questions_167 (fun H locs hM => ?_)
                      obtain ⟨x52, ex52, hf⟩ := bd_some hf
                      refine lv_iinc (v := x52) (lv' := [(3, .int x52), (0, .ref D.1), (1, .int x22), (2, .int x37)]) hx hb dX7_questions_168 hl (k := 3) rfl (by rw [ex52]; first | done | rfl) (by decide) rfl (fun ls hl => ?_)
                      refine lv_goto (tgt := 133) hx hb dX7_questions_171 (by decide) ?_
                      cases hf
                      exact hk _ _ _ hM (lv_sub hl [1, 2, 3, 0] rfl)
                    · have hf := it_neg c50 hf
                      refine lv_iconst (v := nI 1) hx hb dX7_questions_162 ic1 ?_
                      refine lv_goto (tgt := 167) hx hb dX7_questions_163 (by decide) ?_
                      obtain ⟨S53, eS53, hiS53, hf⟩ := ast_some hf
                      refine mr_zast B hM 60 (by decide) rfl hiS53 eS53 dX7_questions_167 (fun H locs hM => ?_)
                      obtain ⟨x54, ex54, hf⟩ := bd_some hf
                      refine lv_iinc (v := x54) (lv' := [(3, .int x54), (0, .ref D.1), (1, .int x22), (2, .int x37)]) hx hb dX7_questions_168 hl (k := 3) rfl (by rw [ex54]; first | done | rfl) (by decide) rfl (fun ls hl => ?_)
                      refine lv_goto (tgt := 133) hx hb dX7_questions_171 (by decide) ?_
                      cases hf
                      exact hk _ _ _ hM (lv_sub hl [1, 2, 3, 0] rfl)
              · have hf := it_neg c41 hf
                cases hf
                exact hk _ _ _ hM (lv_sub hl [2] rfl)
          refine lp_W (step := (fun t : Int32 × MS => f_X7_questions_L77 x22 t.1 t.2)) (fun t : Int32 × MS => ∀ (H : Heap) (locs : List Loc) (ls : Array Slot), m_I D s H locs t.2 → lv_has ls 4 [(0, .ref D.1), (1, .int x22), (2, .int t.1)] → W p l e r_X7_questions s m args below meth c H locs 0 0 Q (F0 m 77 ls [])) (fun t : MS => ∀ (H : Heap) (locs : List Loc) (ls : Array Slot), m_I D s H locs t → lv_has ls 4 [(0, .ref D.1), (1, .int x22)] → W p l e r_X7_questions s m args below meth c H locs 0 0 Q (F0 m 109 ls [])) ?_ fu (nI 0, S25) y35 hxy35 hy35 _ _ _ hM (lv_sub hl [1, 2, 0] rfl)
          clear hf hxy35 hy35
          rintro ⟨x26, S27⟩ o (hf : f_X7_questions_L77 x22 x26 S27 = some o) hk
          intro H locs ls hM hl
          unfold f_X7_questions_L77 at hf
          refine lv_iload_n hx hb dX7_questions_77 rfl (lv_at hl 2 rfl) ?_
          refine lv_iconst (v := nI 1) hx hb dX7_questions_78 ic1 ?_
          refine lv_iload_n hx hb dX7_questions_79 rfl (lv_at hl 1 rfl) ?_
          refine lv_ishl hx hb dX7_questions_80 ?_
          refine lv_icmp_ge (tgt := 109) hx hb dX7_questions_81 (by decide) (fun c28 => ?_) (fun c28 => ?_)
          · have hf := it_pos c28 hf
            cases hf
            exact hk _ _ _ hM (lv_sub hl [0, 1] rfl)
          · have hf := it_neg c28 hf
            refine lv_aload_n hx hb dX7_questions_84 rfl (lv_at hl 0 rfl) ?_
            refine mr_get B hM 59 (v := .ref (D.2.1 59)) rfl (by decide) q1705 dX7_questions_85 ?_
            refine lv_iload_n hx hb dX7_questions_88 rfl (lv_at hl 2 rfl) ?_
            refine lv_iload_n hx hb dX7_questions_89 rfl (lv_at hl 2 rfl) ?_
            refine lv_iload_n hx hb dX7_questions_90 rfl (lv_at hl 2 rfl) ?_
            refine lv_iconst (v := nI 1) hx hb dX7_questions_91 ic1 ?_
            refine lv_isub hx hb dX7_questions_92 ?_
            refine lv_iand hx hb dX7_questions_93 ?_
            refine lv_if_ne (tgt := 101) hx hb dX7_questions_94 (by decide) (fun c29 => ?_) (fun c29 => ?_)
            · have hf := it_neg c29 hf
              refine lv_iconst (v := nI 0) hx hb dX7_questions_101 ic0 ?_
              obtain ⟨S30, eS30, hiS30, hf⟩ := ast_some hf
              refine mr_zast B hM 59 (by decide) rfl hiS30 eS30 dX7_questions_102 (fun H locs hM => ?_)
              obtain ⟨x31, ex31, hf⟩ := bd_some hf
              refine lv_iinc (v := x31) (lv' := [(2, .int x31), (0, .ref D.1), (1, .int x22)]) hx hb dX7_questions_103 hl (k := 2) rfl (by rw [ex31]; first | done | rfl) (by decide) rfl (fun ls hl => ?_)
              refine lv_goto (tgt := 77) hx hb dX7_questions_106 (by decide) ?_
              cases hf
              exact hk _ _ _ hM (lv_sub hl [1, 2, 0] rfl)
            · have hf := it_pos c29 hf
              refine lv_iconst (v := nI 1) hx hb dX7_questions_97 ic1 ?_
              refine lv_goto (tgt := 102) hx hb dX7_questions_98 (by decide) ?_
              obtain ⟨S32, eS32, hiS32, hf⟩ := ast_some hf
              refine mr_zast B hM 59 (by decide) rfl hiS32 eS32 dX7_questions_102 (fun H locs hM => ?_)
              obtain ⟨x33, ex33, hf⟩ := bd_some hf
              refine lv_iinc (v := x33) (lv' := [(2, .int x33), (0, .ref D.1), (1, .int x22)]) hx hb dX7_questions_103 hl (k := 2) rfl (by rw [ex33]; first | done | rfl) (by decide) rfl (fun ls hl => ?_)
              refine lv_goto (tgt := 77) hx hb dX7_questions_106 (by decide) ?_
              cases hf
              exact hk _ _ _ hM (lv_sub hl [1, 2, 0] rfl)
        · have hf := it_pos c24 hf
          refine lv_iconst (v := (-1)) hx hb dX7_questions_68 icm1 ?_
          cases hf
          exact hret _ _ _ _ rfl hM dX7_questions_69
    refine lp_W (step := (fun t : Int32 × Int32 × MS => f_X7_questions_L22 t.1 t.2.1 t.2.2)) (fun t : Int32 × Int32 × MS => ∀ (H : Heap) (locs : List Loc) (ls : Array Slot), m_I D s H locs t.2.2 → lv_has ls 4 [(0, .ref D.1), (1, .int t.1), (2, .int t.2.1)] → W p l e r_X7_questions s m args below meth c H locs 0 0 Q (F0 m 22 ls [])) (Sum.elim (fun t : MS => ∀ (H : Heap) (locs : List Loc) (ls : Array Slot), m_I D s H locs t → lv_has ls 4 [] → W p l e r_X7_questions s m args below meth c H locs 0 0 Q (F0 m 46 ls [])) (fun t : Int32 × MS => ∀ (H : Heap) (locs : List Loc) (ls : Array Slot), m_I D s H locs t.2 → lv_has ls 4 [(0, .ref D.1), (1, .int t.1)] → W p l e r_X7_questions s m args below meth c H locs 0 0 Q (F0 m 64 ls []))) ?_ fu (nI 0, nI 0, S5) y20 hxy20 hy20 _ _ _ hM (lv_sub hl [2, 1, 0] rfl)
    clear hf hxy20 hy20
    rintro ⟨x6, x7, S8⟩ o (hf : f_X7_questions_L22 x6 x7 S8 = some o) hk
    intro H locs ls hM hl
    unfold f_X7_questions_L22 at hf
    refine lv_iload_n hx hb dX7_questions_22 rfl (lv_at hl 2 rfl) ?_
    refine lv_iconst (v := nI 1) hx hb dX7_questions_23 ic1 ?_
    refine lv_aload_n hx hb dX7_questions_24 rfl (lv_at hl 0 rfl) ?_
    obtain ⟨r9, hcr9, hf⟩ := bnd_some hf
    refine mr_callV (rest := [.int (nI 1), .int x7]) B hM (c_X7_manyFacts l D S8  hcr9) (cwV 0 hts (lw_V q1868 q1870 qs49 q113 q1871) rfl rfl rfl hd_X7_manyFacts ⟨Nat.le_of_ble_eq_true rfl, Nat.le_of_ble_eq_true rfl⟩) rfl hl.1 rfl (Nat.le_of_ble_eq_true rfl) dX7_questions_25 ⟨Nat.zero_le _, Nat.zero_le _⟩ (fun H locs hM => ?_)
    refine lv_ishl hx hb dX7_questions_28 ?_
    refine lv_icmp_ge (tgt := 64) hx hb dX7_questions_29 (by decide) (fun c10 => ?_) (fun c10 => ?_)
    · have hf := it_pos c10 hf
      cases hf
      exact hk _ _ _ hM (lv_sub hl [0, 1] rfl)
    · have hf := it_neg c10 hf
      refine lv_aload_n hx hb dX7_questions_32 rfl (lv_at hl 0 rfl) ?_
      refine lv_iload_n hx hb dX7_questions_33 rfl (lv_at hl 2 rfl) ?_
      obtain ⟨⟨r11, S12⟩, hcr11, hf⟩ := bnd_some hf
      have hf := u2_at hf
      refine mr_callV (rest := []) B hM (c_X7_isWorld l D S8 x7 hcr11) (cwV 1 hts (lw_V q2128 q2130 qs88 q113 q2131) rfl rfl rfl hd_X7_isWorld ⟨Nat.le_of_ble_eq_true rfl, Nat.le_of_ble_eq_true rfl⟩) rfl hl.1 rfl (Nat.le_of_ble_eq_true rfl) dX7_questions_34 ⟨Nat.zero_le _, Nat.zero_le _⟩ (fun H locs hM => ?_)
      refine lv_if_eq (tgt := 58) hx hb dX7_questions_37 (by decide) (fun c13 => ?_) (fun c13 => ?_)
      · have hf := it_pos c13 hf
        obtain ⟨x14, ex14, hf⟩ := bd_some hf
        refine lv_iinc (v := x14) (lv' := [(2, .int x14), (0, .ref D.1), (1, .int x6)]) hx hb dX7_questions_58 hl (k := 2) rfl (by rw [ex14]; first | done | rfl) (by decide) rfl (fun ls hl => ?_)
        refine lv_goto (tgt := 22) hx hb dX7_questions_61 (by decide) ?_
        cases hf
        exact hk _ _ _ hM (lv_sub hl [1, 2, 0] rfl)
      · have hf := it_neg c13 hf
        refine lv_iload_n hx hb dX7_questions_40 rfl (lv_at hl 1 rfl) ?_
        refine lv_bipush (v := nI 16) hx hb dX7_questions_41 bp16 ?_
        refine lv_icmp_ne (tgt := 48) hx hb dX7_questions_43 (by decide) (fun c15 => ?_) (fun c15 => ?_)
        · have hf := it_neg c15 hf
          refine lv_aload_n hx hb dX7_questions_48 rfl (lv_at hl 0 rfl) ?_
          refine mr_get B hM 58 (v := .ref (D.2.1 58)) rfl (by decide) q1704 dX7_questions_49 ?_
          refine lv_iload_n hx hb dX7_questions_52 rfl (lv_at hl 1 rfl) ?_
          refine lv_iload_n hx hb dX7_questions_53 rfl (lv_at hl 2 rfl) ?_
          obtain ⟨S16, eS16, hiS16, hf⟩ := ast_some hf
          refine mr_iast B hM 58 (by decide) rfl hiS16 eS16 dX7_questions_54 (fun H locs hM => ?_)
          obtain ⟨x17, ex17, hf⟩ := bd_some hf
          refine lv_iinc (v := x17) (lv' := [(1, .int x17), (0, .ref D.1), (2, .int x7)]) hx hb dX7_questions_55 hl (k := 1) rfl (by rw [ex17]; first | done | rfl) (by decide) rfl (fun ls hl => ?_)
          obtain ⟨x18, ex18, hf⟩ := bd_some hf
          refine lv_iinc (v := x18) (lv' := [(2, .int x18), (1, .int x17), (0, .ref D.1)]) hx hb dX7_questions_58 hl (k := 2) rfl (by rw [ex18]; first | done | rfl) (by decide) rfl (fun ls hl => ?_)
          refine lv_goto (tgt := 22) hx hb dX7_questions_61 (by decide) ?_
          cases hf
          exact hk _ _ _ hM (lv_sub hl [2, 1, 0] rfl)
        · have hf := it_pos c15 hf
          cases hf
          exact hk _ _ _ hM (lv_sub hl [] rfl)
  · have hf := it_pos c4 hf
    refine lv_iconst (v := (-1)) hx hb dX7_questions_12 icm1 ?_
    cases hf
    exact hret _ _ _ _ rfl hM dX7_questions_13
