set_option maxRecDepth 100000
def f_X7_imageOf_L34 (S : MS) (r1 : Int32) (x3 : Int32) (r7 : Int32) (x8 : Int32) (x9 : Int32) : Option ((Int32 × Int32) ⊕ ((Int32))) :=
  ald 5 (S.1 27) (x3 + nI 1) fun v10 => ald 5 (S.1 27) x3 fun v11 => (if (v10 - v11) ≤ x9 then some (.inr x8) else ald 5 (S.1 27) x3 fun v13 => ald 16 (S.1 9) x3 fun v14 => chk (¬ r7 = 0) <| bnd (f_X7_renamed S v14 (x9 / r7)) fun r16 => ald 16 (S.1 10) x3 fun v17 => chk (¬ r7 = 0) <| bnd (f_X7_renamed S v17 (x9 - x9 / r7 * r7)) fun r19 => bd ((v13 + (r7 * r16)) + r19) fun x20 => ald 5 (S.1 27) x3 fun v21 => ald 36 (S.1 28) (v21 + x9) fun v22 => (if v22 = 0 then bd (x8 ||| nI 0) fun x24 => bd (x9 + nI 1) fun x25 => some (.inl (x24, x25)) else bd (x8 ||| (nI 1 <<< (((r1 - nI 1) - x20) &&& 31))) fun x26 => bd (x9 + nI 1) fun x27 => some (.inl (x26, x27))))
def f_X7_imageOf_L9 (S : MS) (r1 : Int32) (x2 : Int32) (x3 : Int32) : Option ((Int32 × Int32) ⊕ ((Int32))) :=
  ald 4 (S.1 8) (nI 0) fun v4 => (if v4 ≤ x3 then some (.inr x2) else ald 16 (S.1 10) x3 fun v6 => bnd (f_X7_sizeOf S v6) fun r7 => bnd (wO (fun t : Int32 × Int32 => f_X7_imageOf_L34 S r1 x3 r7 t.1 t.2) fu (x2, nI 0)) <| fun x30 => bd (x3 + nI 1) fun x31 => some (.inl (x30, x31)))
def f_X7_imageOf (S : MS) : Option Int32 :=
  bnd (f_X7_manyFacts S) fun r1 => bnd (wO (fun t : Int32 × Int32 => f_X7_imageOf_L9 S r1 t.1 t.2) fu (nI 0, nI 0)) <| fun x34 => some x34
abbrev r_X7_imageOf : Room := { frames := 2, cells := 0, slots := 0, locals := 45 }
set_option maxHeartbeats 4000000 in
set_option maxRecDepth 100000 in
theorem c_X7_imageOf (l : Launch) (D : MD) (S : MS)  {r : Int32} (hf : f_X7_imageOf S = some r) : m_Met l yX7_imageOf cX7_imageOf 7 (Option.some Jvm.ClassFile.FieldType.int) r_X7_imageOf D [.ref D.1] S (some (.int r)) S := by
  refine m_metI (F := 2) (L := 45) (by decide) rfl (Nat.le_of_ble_eq_true rfl) (fun p e s m args below meth c Q B hret hM ls hl => ?_)
  have hx := B.1
  have hb := B.2.1
  have hown := B.2.2.2.1
  have hts := B.2.2.2.2
  have hl : lv_has ls 7 [(0, .ref D.1)] := hl
  generalize s.heap = H, ([] : List Loc) = locs at hM ⊢
  unfold f_X7_imageOf at hf
  refine lv_aload_n hx hb dX7_imageOf_0 rfl (lv_at hl 0 rfl) ?_
  obtain ⟨r1, hcr1, hf⟩ := bnd_some hf
  refine mr_callV (rest := []) B hM (c_X7_manyFacts l D S  hcr1) (cwV 0 hts (lw_V q1868 q1870 qs49 q113 q1871) rfl rfl rfl hd_X7_manyFacts ⟨Nat.le_of_ble_eq_true rfl, Nat.le_of_ble_eq_true rfl⟩) rfl hl.1 rfl (Nat.le_of_ble_eq_true rfl) dX7_imageOf_1 ⟨Nat.zero_le _, Nat.zero_le _⟩ (fun H locs hM => ?_)
  refine lv_istore_n (lv' := [(1, .int r1), (0, .ref D.1)]) hx hb dX7_imageOf_4 rfl hl (by decide) rfl (fun ls hl => ?_)
  refine lv_iconst (v := nI 0) hx hb dX7_imageOf_5 ic0 ?_
  refine lv_istore_n (lv' := [(2, .int (nI 0)), (1, .int r1), (0, .ref D.1)]) hx hb dX7_imageOf_6 rfl hl (by decide) rfl (fun ls hl => ?_)
  refine lv_iconst (v := nI 0) hx hb dX7_imageOf_7 ic0 ?_
  refine lv_istore_n (lv' := [(3, .int (nI 0)), (2, .int (nI 0)), (1, .int r1), (0, .ref D.1)]) hx hb dX7_imageOf_8 rfl hl (by decide) rfl (fun ls hl => ?_)
  obtain ⟨y33, hxy33, hf⟩ := bnd_some hf
  have hy33 : (fun t : Int32 => ∀ (H : Heap) (locs : List Loc) (ls : Array Slot), m_I D s H locs S → lv_has ls 7 [(2, .int t)] → W p l e r_X7_imageOf s m args below meth c H locs 0 0 Q (F0 m 141 ls [])) y33 := by
    obtain ⟨x34, rfl⟩ : ∃ z, z = y33 := ⟨_, rfl⟩
    intro H locs ls hM hl
    refine lv_iload_n hx hb dX7_imageOf_141 rfl (lv_at hl 0 rfl) ?_
    cases hf
    exact hret _ _ _ _ rfl hM dX7_imageOf_142
  refine lp_W (step := (fun t : Int32 × Int32 => f_X7_imageOf_L9 S r1 t.1 t.2)) (fun t : Int32 × Int32 => ∀ (H : Heap) (locs : List Loc) (ls : Array Slot), m_I D s H locs S → lv_has ls 7 [(0, .ref D.1), (1, .int r1), (2, .int t.1), (3, .int t.2)] → W p l e r_X7_imageOf s m args below meth c H locs 0 0 Q (F0 m 9 ls [])) (fun t : Int32 => ∀ (H : Heap) (locs : List Loc) (ls : Array Slot), m_I D s H locs S → lv_has ls 7 [(2, .int t)] → W p l e r_X7_imageOf s m args below meth c H locs 0 0 Q (F0 m 141 ls [])) ?_ fu (nI 0, nI 0) y33 hxy33 hy33 _ _ _ hM (lv_sub hl [3, 2, 1, 0] rfl)
  clear hf hxy33 hy33
  rintro ⟨x2, x3⟩ o (hf : f_X7_imageOf_L9 S r1 x2 x3 = some o) hk
  intro H locs ls hM hl
  unfold f_X7_imageOf_L9 at hf
  refine lv_iload_n hx hb dX7_imageOf_9 rfl (lv_at hl 3 rfl) ?_
  refine lv_aload_n hx hb dX7_imageOf_10 rfl (lv_at hl 0 rfl) ?_
  refine mr_get B hM 8 (v := .ref (D.2.1 8)) rfl (by decide) q1654 dX7_imageOf_11 ?_
  refine lv_iconst (v := nI 0) hx hb dX7_imageOf_14 ic0 ?_
  obtain ⟨v4, ev4, hiv4, hf⟩ := ald_some hf
  refine mr_iald B hM 8 (by decide) rfl hiv4 ev4 dX7_imageOf_15 ?_
  refine lv_icmp_ge (tgt := 141) hx hb dX7_imageOf_16 (by decide) (fun c5 => ?_) (fun c5 => ?_)
  · have hf := it_pos c5 hf
    cases hf
    exact hk _ _ _ hM (lv_sub hl [2] rfl)
  · have hf := it_neg c5 hf
    refine lv_aload_n hx hb dX7_imageOf_19 rfl (lv_at hl 0 rfl) ?_
    refine lv_aload_n hx hb dX7_imageOf_20 rfl (lv_at hl 0 rfl) ?_
    refine mr_get B hM 10 (v := .ref (D.2.1 10)) rfl (by decide) q1656 dX7_imageOf_21 ?_
    refine lv_iload_n hx hb dX7_imageOf_24 rfl (lv_at hl 3 rfl) ?_
    obtain ⟨v6, ev6, hiv6, hf⟩ := ald_some hf
    refine mr_iald B hM 10 (by decide) rfl hiv6 ev6 dX7_imageOf_25 ?_
    obtain ⟨r7, hcr7, hf⟩ := bnd_some hf
    refine mr_callV (rest := []) B hM (c_X7_sizeOf l D S v6 hcr7) (cwV 1 hts (lw_V q1864 q1866 qs48 q113 q1867) rfl rfl rfl hd_X7_sizeOf ⟨Nat.le_of_ble_eq_true rfl, Nat.le_of_ble_eq_true rfl⟩) rfl hl.1 rfl (Nat.le_of_ble_eq_true rfl) dX7_imageOf_26 ⟨Nat.zero_le _, Nat.zero_le _⟩ (fun H locs hM => ?_)
    refine lv_istore (lv' := [(4, .int r7), (0, .ref D.1), (1, .int r1), (2, .int x2), (3, .int x3)]) hx hb dX7_imageOf_29 hl (by decide) rfl (fun ls hl => ?_)
    refine lv_iconst (v := nI 0) hx hb dX7_imageOf_31 ic0 ?_
    refine lv_istore (lv' := [(5, .int (nI 0)), (4, .int r7), (0, .ref D.1), (1, .int r1), (2, .int x2), (3, .int x3)]) hx hb dX7_imageOf_32 hl (by decide) rfl (fun ls hl => ?_)
    obtain ⟨y29, hxy29, hf⟩ := bnd_some hf
    have hy29 : (fun t : Int32 => ∀ (H : Heap) (locs : List Loc) (ls : Array Slot), m_I D s H locs S → lv_has ls 7 [(0, .ref D.1), (1, .int r1), (2, .int t), (3, .int x3)] → W p l e r_X7_imageOf s m args below meth c H locs 0 0 Q (F0 m 135 ls [])) y29 := by
      obtain ⟨x30, rfl⟩ : ∃ z, z = y29 := ⟨_, rfl⟩
      intro H locs ls hM hl
      obtain ⟨x31, ex31, hf⟩ := bd_some hf
      refine lv_iinc (v := x31) (lv' := [(3, .int x31), (0, .ref D.1), (1, .int r1), (2, .int x30)]) hx hb dX7_imageOf_135 hl (k := 3) rfl (by rw [ex31]; first | done | rfl) (by decide) rfl (fun ls hl => ?_)
      refine lv_goto (tgt := 9) hx hb dX7_imageOf_138 (by decide) ?_
      cases hf
      exact hk _ _ _ hM (lv_sub hl [1, 2, 3, 0] rfl)
    refine lp_W (step := (fun t : Int32 × Int32 => f_X7_imageOf_L34 S r1 x3 r7 t.1 t.2)) (fun t : Int32 × Int32 => ∀ (H : Heap) (locs : List Loc) (ls : Array Slot), m_I D s H locs S → lv_has ls 7 [(0, .ref D.1), (1, .int r1), (2, .int t.1), (3, .int x3), (4, .int r7), (5, .int t.2)] → W p l e r_X7_imageOf s m args below meth c H locs 0 0 Q (F0 m 34 ls [])) (fun t : Int32 => ∀ (H : Heap) (locs : List Loc) (ls : Array Slot), m_I D s H locs S → lv_has ls 7 [(0, .ref D.1), (1, .int r1), (2, .int t), (3, .int x3)] → W p l e r_X7_imageOf s m args below meth c H locs 0 0 Q (F0 m 135 ls [])) ?_ fu (x2, nI 0) y29 hxy29 hy29 _ _ _ hM (lv_sub hl [2, 3, 4, 5, 1, 0] rfl)
    clear hf hxy29 hy29
    rintro ⟨x8, x9⟩ o (hf : f_X7_imageOf_L34 S r1 x3 r7 x8 x9 = some o) hk
    intro H locs ls hM hl
    unfold f_X7_imageOf_L34 at hf
    refine lv_iload hx hb dX7_imageOf_34 (lv_at hl 5 rfl) ?_
    refine lv_aload_n hx hb dX7_imageOf_36 rfl (lv_at hl 0 rfl) ?_
    refine mr_get B hM 27 (v := .ref (D.2.1 27)) rfl (by decide) q1673 dX7_imageOf_37 ?_
    refine lv_iload_n hx hb dX7_imageOf_40 rfl (lv_at hl 3 rfl) ?_
    refine lv_iconst (v := nI 1) hx hb dX7_imageOf_41 ic1 ?_
    refine lv_iadd hx hb dX7_imageOf_42 ?_
    obtain ⟨v10, ev10, hiv10, hf⟩ := ald_some hf
    refine mr_iald B hM 27 (by decide) rfl hiv10 ev10 dX7_imageOf_43 ?_
    refine lv_aload_n hx hb dX7_imageOf_44 rfl (lv_at hl 0 rfl) ?_
    refine mr_get B hM 27 (v := .ref (D.2.1 27)) rfl (by decide) q1673 dX7_imageOf_45 ?_
    refine lv_iload_n hx hb dX7_imageOf_48 rfl (lv_at hl 3 rfl) ?_
    obtain ⟨v11, ev11, hiv11, hf⟩ := ald_some hf
    refine mr_iald B hM 27 (by decide) rfl hiv11 ev11 dX7_imageOf_49 ?_
    refine lv_isub hx hb dX7_imageOf_50 ?_
    refine lv_icmp_ge (tgt := 135) hx hb dX7_imageOf_51 (by decide) (fun c12 => ?_) (fun c12 => ?_)
    · have hf := it_pos c12 hf
      cases hf
      exact hk _ _ _ hM (lv_sub hl [0, 1, 2, 3] rfl)
    · have hf := it_neg c12 hf
      refine lv_aload_n hx hb dX7_imageOf_54 rfl (lv_at hl 0 rfl) ?_
      refine mr_get B hM 27 (v := .ref (D.2.1 27)) rfl (by decide) q1673 dX7_imageOf_55 ?_
      refine lv_iload_n hx hb dX7_imageOf_58 rfl (lv_at hl 3 rfl) ?_
      obtain ⟨v13, ev13, hiv13, hf⟩ := ald_some hf
      refine mr_iald B hM 27 (by decide) rfl hiv13 ev13 dX7_imageOf_59 ?_
      refine lv_iload hx hb dX7_imageOf_60 (lv_at hl 4 rfl) ?_
      refine lv_aload_n hx hb dX7_imageOf_62 rfl (lv_at hl 0 rfl) ?_
      refine lv_aload_n hx hb dX7_imageOf_63 rfl (lv_at hl 0 rfl) ?_
      refine mr_get B hM 9 (v := .ref (D.2.1 9)) rfl (by decide) q1655 dX7_imageOf_64 ?_
      refine lv_iload_n hx hb dX7_imageOf_67 rfl (lv_at hl 3 rfl) ?_
      obtain ⟨v14, ev14, hiv14, hf⟩ := ald_some hf
      refine mr_iald B hM 9 (by decide) rfl hiv14 ev14 dX7_imageOf_68 ?_
      refine lv_iload hx hb dX7_imageOf_69 (lv_at hl 5 rfl) ?_
      refine lv_iload hx hb dX7_imageOf_71 (lv_at hl 4 rfl) ?_
      obtain ⟨hz15, hf⟩ := chk_some hf
      refine lv_idiv hx hb dX7_imageOf_73 hz15 ?_
      obtain ⟨r16, hcr16, hf⟩ := bnd_some hf
      refine mr_callV (rest := [.int r7, .int v13]) B hM (c_X7_renamed l D S v14 (x9 / r7) hcr16) (cwV 2 hts (lw_V q1926 q1928 qs57 q113 q1929) rfl rfl rfl hd_X7_renamed ⟨Nat.le_of_ble_eq_true rfl, Nat.le_of_ble_eq_true rfl⟩) rfl hl.1 rfl (Nat.le_of_ble_eq_true rfl) dX7_imageOf_74 ⟨Nat.zero_le _, Nat.zero_le _⟩ (fun H locs hM => ?_)
      refine lv_imul hx hb dX7_imageOf_77 ?_
      refine lv_iadd hx hb dX7_imageOf_78 ?_
      refine lv_aload_n hx hb dX7_imageOf_79 rfl (lv_at hl 0 rfl) ?_
      refine lv_aload_n hx hb dX7_imageOf_80 rfl (lv_at hl 0 rfl) ?_
      refine mr_get B hM 10 (v := .ref (D.2.1 10)) rfl (by decide) q1656 dX7_imageOf_81 ?_
      refine lv_iload_n hx hb dX7_imageOf_84 rfl (lv_at hl 3 rfl) ?_
      obtain ⟨v17, ev17, hiv17, hf⟩ := ald_some hf
      refine mr_iald B hM 10 (by decide) rfl hiv17 ev17 dX7_imageOf_85 ?_
      refine lv_iload hx hb dX7_imageOf_86 (lv_at hl 5 rfl) ?_
      refine lv_iload hx hb dX7_imageOf_88 (lv_at hl 4 rfl) ?_
      obtain ⟨hz18, hf⟩ := chk_some hf
      refine lv_irem hx hb dX7_imageOf_90 hz18 ?_
      obtain ⟨r19, hcr19, hf⟩ := bnd_some hf
      refine mr_callV (rest := [.int (v13 + (r7 * r16))]) B hM (c_X7_renamed l D S v17 (x9 - x9 / r7 * r7) hcr19) (cwV 2 hts (lw_V q1926 q1928 qs57 q113 q1929) rfl rfl rfl hd_X7_renamed ⟨Nat.le_of_ble_eq_true rfl, Nat.le_of_ble_eq_true rfl⟩) rfl hl.1 rfl (Nat.le_of_ble_eq_true rfl) dX7_imageOf_91 ⟨Nat.zero_le _, Nat.zero_le _⟩ (fun H locs hM => ?_)
      refine lv_iadd hx hb dX7_imageOf_94 ?_
      refine lv_topi (fun x20 ex20 => ?_)
      have hf := bd_at ex20 hf
      refine lv_istore (lv' := [(6, .int x20), (0, .ref D.1), (1, .int r1), (2, .int x8), (3, .int x3), (4, .int r7), (5, .int x9)]) hx hb dX7_imageOf_95 hl (by decide) rfl (fun ls hl => ?_)
      refine lv_iload_n hx hb dX7_imageOf_97 rfl (lv_at hl 3 rfl) ?_
      refine lv_aload_n hx hb dX7_imageOf_98 rfl (lv_at hl 1 rfl) ?_
      refine mr_get B hM 28 (v := .ref (D.2.1 28)) rfl (by decide) q1674 dX7_imageOf_99 ?_
      refine lv_aload_n hx hb dX7_imageOf_102 rfl (lv_at hl 1 rfl) ?_
      refine mr_get B hM 27 (v := .ref (D.2.1 27)) rfl (by decide) q1673 dX7_imageOf_103 ?_
      refine lv_iload_n hx hb dX7_imageOf_106 rfl (lv_at hl 4 rfl) ?_
      obtain ⟨v21, ev21, hiv21, hf⟩ := ald_some hf
      refine mr_iald B hM 27 (by decide) rfl hiv21 ev21 dX7_imageOf_107 ?_
      refine lv_iload hx hb dX7_imageOf_108 (lv_at hl 6 rfl) ?_
      refine lv_iadd hx hb dX7_imageOf_110 ?_
      obtain ⟨v22, ev22, hiv22, hf⟩ := ald_some hf
      refine mr_zald B hM 28 (by decide) rfl hiv22 ev22 dX7_imageOf_111 ?_
      refine lv_if_eq (tgt := 126) hx hb dX7_imageOf_112 (by decide) (fun c23 => ?_) (fun c23 => ?_)
      · have hf := it_pos c23 hf
        refine lv_iconst (v := nI 0) hx hb dX7_imageOf_126 ic0 ?_
        refine lv_ior hx hb dX7_imageOf_127 ?_
        refine lv_topi (fun x24 ex24 => ?_)
        have hf := bd_at ex24 hf
        refine lv_istore_n (lv' := [(2, .int x24), (6, .int x20), (0, .ref D.1), (1, .int r1), (3, .int x3), (4, .int r7), (5, .int x9)]) hx hb dX7_imageOf_128 rfl hl (by decide) rfl (fun ls hl => ?_)
        obtain ⟨x25, ex25, hf⟩ := bd_some hf
        refine lv_iinc (v := x25) (lv' := [(5, .int x25), (2, .int x24), (6, .int x20), (0, .ref D.1), (1, .int r1), (3, .int x3), (4, .int r7)]) hx hb dX7_imageOf_129 hl (k := 6) rfl (by rw [ex25]; first | done | rfl) (by decide) rfl (fun ls hl => ?_)
        refine lv_goto (tgt := 34) hx hb dX7_imageOf_132 (by decide) ?_
        cases hf
        exact hk _ _ _ hM (lv_sub hl [3, 4, 1, 5, 6, 0] rfl)
      · have hf := it_neg c23 hf
        refine lv_iconst (v := nI 1) hx hb dX7_imageOf_115 ic1 ?_
        refine lv_iload_n hx hb dX7_imageOf_116 rfl (lv_at hl 2 rfl) ?_
        refine lv_iconst (v := nI 1) hx hb dX7_imageOf_117 ic1 ?_
        refine lv_isub hx hb dX7_imageOf_118 ?_
        refine lv_iload hx hb dX7_imageOf_119 (lv_at hl 0 rfl) ?_
        refine lv_isub hx hb dX7_imageOf_121 ?_
        refine lv_ishl hx hb dX7_imageOf_122 ?_
        refine lv_goto (tgt := 127) hx hb dX7_imageOf_123 (by decide) ?_
        refine lv_ior hx hb dX7_imageOf_127 ?_
        refine lv_topi (fun x26 ex26 => ?_)
        have hf := bd_at ex26 hf
        refine lv_istore_n (lv' := [(2, .int x26), (6, .int x20), (0, .ref D.1), (1, .int r1), (3, .int x3), (4, .int r7), (5, .int x9)]) hx hb dX7_imageOf_128 rfl hl (by decide) rfl (fun ls hl => ?_)
        obtain ⟨x27, ex27, hf⟩ := bd_some hf
        refine lv_iinc (v := x27) (lv' := [(5, .int x27), (2, .int x26), (6, .int x20), (0, .ref D.1), (1, .int r1), (3, .int x3), (4, .int r7)]) hx hb dX7_imageOf_129 hl (k := 6) rfl (by rw [ex27]; first | done | rfl) (by decide) rfl (fun ls hl => ?_)
        refine lv_goto (tgt := 34) hx hb dX7_imageOf_132 (by decide) ?_
        cases hf
        exact hk _ _ _ hM (lv_sub hl [3, 4, 1, 5, 6, 0] rfl)
def f_X7_numberOfWorld_L9 (S : MS) (r1 : Int32) (x2 : Int32) (x3 : Int32) : Option ((Int32 × Int32) ⊕ ((Int32))) :=
  (if r1 ≤ x3 then some (.inr x2) else ald 144 (S.1 11) x3 fun v5 => (if v5 = 0 then bd ((nI 2 * x2) + nI 0) fun x7 => bd (x3 + nI 1) fun x8 => some (.inl (x7, x8)) else bd ((nI 2 * x2) + nI 1) fun x9 => bd (x3 + nI 1) fun x10 => some (.inl (x9, x10))))
def f_X7_numberOfWorld (S : MS) : Option Int32 :=
  bnd (f_X7_manyFacts S) fun r1 => bnd (wO (fun t : Int32 × Int32 => f_X7_numberOfWorld_L9 S r1 t.1 t.2) fu (nI 0, nI 0)) <| fun x13 => some x13
abbrev r_X7_numberOfWorld : Room := { frames := 1, cells := 0, slots := 0, locals := 20 }
set_option maxHeartbeats 4000000 in
set_option maxRecDepth 100000 in
theorem c_X7_numberOfWorld (l : Launch) (D : MD) (S : MS)  {r : Int32} (hf : f_X7_numberOfWorld S = some r) : m_Met l yX7_numberOfWorld cX7_numberOfWorld 4 (Option.some Jvm.ClassFile.FieldType.int) r_X7_numberOfWorld D [.ref D.1] S (some (.int r)) S := by
  refine m_metI (F := 1) (L := 20) (by decide) rfl (Nat.le_of_ble_eq_true rfl) (fun p e s m args below meth c Q B hret hM ls hl => ?_)
  have hx := B.1
  have hb := B.2.1
  have hown := B.2.2.2.1
  have hts := B.2.2.2.2
  have hl : lv_has ls 4 [(0, .ref D.1)] := hl
  generalize s.heap = H, ([] : List Loc) = locs at hM ⊢
  unfold f_X7_numberOfWorld at hf
  refine lv_aload_n hx hb dX7_numberOfWorld_0 rfl (lv_at hl 0 rfl) ?_
  obtain ⟨r1, hcr1, hf⟩ := bnd_some hf
  refine mr_callV (rest := []) B hM (c_X7_manyFacts l D S  hcr1) (cwV 0 hts (lw_V q1868 q1870 qs49 q113 q1871) rfl rfl rfl hd_X7_manyFacts ⟨Nat.le_of_ble_eq_true rfl, Nat.le_of_ble_eq_true rfl⟩) rfl hl.1 rfl (Nat.le_of_ble_eq_true rfl) dX7_numberOfWorld_1 ⟨Nat.zero_le _, Nat.zero_le _⟩ (fun H locs hM => ?_)
  refine lv_istore_n (lv' := [(1, .int r1), (0, .ref D.1)]) hx hb dX7_numberOfWorld_4 rfl hl (by decide) rfl (fun ls hl => ?_)
  refine lv_iconst (v := nI 0) hx hb dX7_numberOfWorld_5 ic0 ?_
  refine lv_istore_n (lv' := [(2, .int (nI 0)), (1, .int r1), (0, .ref D.1)]) hx hb dX7_numberOfWorld_6 rfl hl (by decide) rfl (fun ls hl => ?_)
  refine lv_iconst (v := nI 0) hx hb dX7_numberOfWorld_7 ic0 ?_
  refine lv_istore_n (lv' := [(3, .int (nI 0)), (2, .int (nI 0)), (1, .int r1), (0, .ref D.1)]) hx hb dX7_numberOfWorld_8 rfl hl (by decide) rfl (fun ls hl => ?_)
  obtain ⟨y12, hxy12, hf⟩ := bnd_some hf
  have hy12 : (fun t : Int32 => ∀ (H : Heap) (locs : List Loc) (ls : Array Slot), m_I D s H locs S → lv_has ls 4 [(2, .int t)] → W p l e r_X7_numberOfWorld s m args below meth c H locs 0 0 Q (F0 m 39 ls [])) y12 := by
    obtain ⟨x13, rfl⟩ : ∃ z, z = y12 := ⟨_, rfl⟩
    intro H locs ls hM hl
    refine lv_iload_n hx hb dX7_numberOfWorld_39 rfl (lv_at hl 0 rfl) ?_
    cases hf
    exact hret _ _ _ _ rfl hM dX7_numberOfWorld_40
  refine lp_W (step := (fun t : Int32 × Int32 => f_X7_numberOfWorld_L9 S r1 t.1 t.2)) (fun t : Int32 × Int32 => ∀ (H : Heap) (locs : List Loc) (ls : Array Slot), m_I D s H locs S → lv_has ls 4 [(0, .ref D.1), (1, .int r1), (2, .int t.1), (3, .int t.2)] → W p l e r_X7_numberOfWorld s m args below meth c H locs 0 0 Q (F0 m 9 ls [])) (fun t : Int32 => ∀ (H : Heap) (locs : List Loc) (ls : Array Slot), m_I D s H locs S → lv_has ls 4 [(2, .int t)] → W p l e r_X7_numberOfWorld s m args below meth c H locs 0 0 Q (F0 m 39 ls [])) ?_ fu (nI 0, nI 0) y12 hxy12 hy12 _ _ _ hM (lv_sub hl [3, 2, 1, 0] rfl)
  clear hf hxy12 hy12
  rintro ⟨x2, x3⟩ o (hf : f_X7_numberOfWorld_L9 S r1 x2 x3 = some o) hk
  intro H locs ls hM hl
  unfold f_X7_numberOfWorld_L9 at hf
  refine lv_iload_n hx hb dX7_numberOfWorld_9 rfl (lv_at hl 3 rfl) ?_
  refine lv_iload_n hx hb dX7_numberOfWorld_10 rfl (lv_at hl 1 rfl) ?_
  refine lv_icmp_ge (tgt := 39) hx hb dX7_numberOfWorld_11 (by decide) (fun c4 => ?_) (fun c4 => ?_)
  · have hf := it_pos c4 hf
    cases hf
    exact hk _ _ _ hM (lv_sub hl [2] rfl)
  · have hf := it_neg c4 hf
    refine lv_iconst (v := nI 2) hx hb dX7_numberOfWorld_14 ic2 ?_
    refine lv_iload_n hx hb dX7_numberOfWorld_15 rfl (lv_at hl 2 rfl) ?_
    refine lv_imul hx hb dX7_numberOfWorld_16 ?_
    refine lv_aload_n hx hb dX7_numberOfWorld_17 rfl (lv_at hl 0 rfl) ?_
    refine mr_get B hM 11 (v := .ref (D.2.1 11)) rfl (by decide) q1657 dX7_numberOfWorld_18 ?_
    refine lv_iload_n hx hb dX7_numberOfWorld_21 rfl (lv_at hl 3 rfl) ?_
    obtain ⟨v5, ev5, hiv5, hf⟩ := ald_some hf
    refine mr_zald B hM 11 (by decide) rfl hiv5 ev5 dX7_numberOfWorld_22 ?_
    refine lv_if_eq (tgt := 30) hx hb dX7_numberOfWorld_23 (by decide) (fun c6 => ?_) (fun c6 => ?_)
    · have hf := it_pos c6 hf
      refine lv_iconst (v := nI 0) hx hb dX7_numberOfWorld_30 ic0 ?_
      refine lv_iadd hx hb dX7_numberOfWorld_31 ?_
      refine lv_topi (fun x7 ex7 => ?_)
      have hf := bd_at ex7 hf
      refine lv_istore_n (lv' := [(2, .int x7), (0, .ref D.1), (1, .int r1), (3, .int x3)]) hx hb dX7_numberOfWorld_32 rfl hl (by decide) rfl (fun ls hl => ?_)
      obtain ⟨x8, ex8, hf⟩ := bd_some hf
      refine lv_iinc (v := x8) (lv' := [(3, .int x8), (2, .int x7), (0, .ref D.1), (1, .int r1)]) hx hb dX7_numberOfWorld_33 hl (k := 3) rfl (by rw [ex8]; first | done | rfl) (by decide) rfl (fun ls hl => ?_)
      refine lv_goto (tgt := 9) hx hb dX7_numberOfWorld_36 (by decide) ?_
      cases hf
      exact hk _ _ _ hM (lv_sub hl [2, 3, 1, 0] rfl)
    · have hf := it_neg c6 hf
      refine lv_iconst (v := nI 1) hx hb dX7_numberOfWorld_26 ic1 ?_
      refine lv_goto (tgt := 31) hx hb dX7_numberOfWorld_27 (by decide) ?_
      refine lv_iadd hx hb dX7_numberOfWorld_31 ?_
      refine lv_topi (fun x9 ex9 => ?_)
      have hf := bd_at ex9 hf
      refine lv_istore_n (lv' := [(2, .int x9), (0, .ref D.1), (1, .int r1), (3, .int x3)]) hx hb dX7_numberOfWorld_32 rfl hl (by decide) rfl (fun ls hl => ?_)
      obtain ⟨x10, ex10, hf⟩ := bd_some hf
      refine lv_iinc (v := x10) (lv' := [(3, .int x10), (2, .int x9), (0, .ref D.1), (1, .int r1)]) hx hb dX7_numberOfWorld_33 hl (k := 3) rfl (by rw [ex10]; first | done | rfl) (by decide) rfl (fun ls hl => ?_)
      refine lv_goto (tgt := 9) hx hb dX7_numberOfWorld_36 (by decide) ?_
      cases hf
      exact hk _ _ _ hM (lv_sub hl [2, 3, 1, 0] rfl)
def f_X7_ones_L4 (p0 : Int32) (x1 : Int32) (x2 : Int32) : Option ((Int32 × Int32) ⊕ ((Int32))) :=
  (if nI 16 ≤ x2 then some (.inr x1) else bd (x1 + ((p0 >>> (x2 &&& 31)) &&& nI 1)) fun x4 => bd (x2 + nI 1) fun x5 => some (.inl (x4, x5)))
def f_X7_ones (p0 : Int32) : Option Int32 :=
  bnd (wO (fun t : Int32 × Int32 => f_X7_ones_L4 p0 t.1 t.2) fu (nI 0, nI 0)) <| fun x8 => some x8
abbrev r_X7_ones : Room := { frames := 0, cells := 0, slots := 0, locals := 0 }
set_option maxHeartbeats 4000000 in
set_option maxRecDepth 100000 in
theorem c_X7_ones (l : Launch) (p0 : Int32) {r : Int32} (hf : f_X7_ones p0 = some r) : p_Met l yX7_ones cX7_ones 3 (Option.some Jvm.ClassFile.FieldType.int) r_X7_ones [.int p0] (some (.int r)) := by
  refine p_metI (F := 0) (L := 0) RX7 (by decide) rfl (Nat.le_of_ble_eq_true rfl) (fun p e s m args below meth c Q B hret ls hl => ?_)
  have hx := B.1
  have hb := B.2.1
  have hown := B.2.2.2.1
  have hts := B.2.2.2.2
  have hl : lv_has ls 3 [(0, .int p0)] := hl
  unfold f_X7_ones at hf
  refine lv_iconst (v := nI 0) hx hb dX7_ones_0 ic0 ?_
  refine lv_istore_n (lv' := [(1, .int (nI 0)), (0, .int p0)]) hx hb dX7_ones_1 rfl hl (by decide) rfl (fun ls hl => ?_)
  refine lv_iconst (v := nI 0) hx hb dX7_ones_2 ic0 ?_
  refine lv_istore_n (lv' := [(2, .int (nI 0)), (1, .int (nI 0)), (0, .int p0)]) hx hb dX7_ones_3 rfl hl (by decide) rfl (fun ls hl => ?_)
  obtain ⟨y7, hxy7, hf⟩ := bnd_some hf
  have hy7 : (fun t : Int32 => ∀ (ls : Array Slot), lv_has ls 3 [(1, .int t)] → W p l e r_X7_ones s m args below meth c s.heap [] 0 0 Q (F0 m 24 ls [])) y7 := by
    obtain ⟨x8, rfl⟩ : ∃ z, z = y7 := ⟨_, rfl⟩
    intro ls hl
    refine lv_iload_n hx hb dX7_ones_24 rfl (lv_at hl 0 rfl) ?_
    cases hf
    exact hret _ _ rfl dX7_ones_25
  refine lp_W (step := (fun t : Int32 × Int32 => f_X7_ones_L4 p0 t.1 t.2)) (fun t : Int32 × Int32 => ∀ (ls : Array Slot), lv_has ls 3 [(0, .int p0), (1, .int t.1), (2, .int t.2)] → W p l e r_X7_ones s m args below meth c s.heap [] 0 0 Q (F0 m 4 ls [])) (fun t : Int32 => ∀ (ls : Array Slot), lv_has ls 3 [(1, .int t)] → W p l e r_X7_ones s m args below meth c s.heap [] 0 0 Q (F0 m 24 ls [])) ?_ fu (nI 0, nI 0) y7 hxy7 hy7 _ (lv_sub hl [2, 1, 0] rfl)
  clear hf hxy7 hy7
  rintro ⟨x1, x2⟩ o (hf : f_X7_ones_L4 p0 x1 x2 = some o) hk
  intro ls hl
  unfold f_X7_ones_L4 at hf
  refine lv_iload_n hx hb dX7_ones_4 rfl (lv_at hl 2 rfl) ?_
  refine lv_bipush (v := nI 16) hx hb dX7_ones_5 bp16 ?_
  refine lv_icmp_ge (tgt := 24) hx hb dX7_ones_7 (by decide) (fun c3 => ?_) (fun c3 => ?_)
  · have hf := it_pos c3 hf
    cases hf
    exact hk _ (lv_sub hl [1] rfl)
  · have hf := it_neg c3 hf
    refine lv_iload_n hx hb dX7_ones_10 rfl (lv_at hl 1 rfl) ?_
    refine lv_iload_n hx hb dX7_ones_11 rfl (lv_at hl 0 rfl) ?_
    refine lv_iload_n hx hb dX7_ones_12 rfl (lv_at hl 2 rfl) ?_
    refine lv_ishr hx hb dX7_ones_13 ?_
    refine lv_iconst (v := nI 1) hx hb dX7_ones_14 ic1 ?_
    refine lv_iand hx hb dX7_ones_15 ?_
    refine lv_iadd hx hb dX7_ones_16 ?_
    refine lv_topi (fun x4 ex4 => ?_)
    have hf := bd_at ex4 hf
    refine lv_istore_n (lv' := [(1, .int x4), (0, .int p0), (2, .int x2)]) hx hb dX7_ones_17 rfl hl (by decide) rfl (fun ls hl => ?_)
    obtain ⟨x5, ex5, hf⟩ := bd_some hf
    refine lv_iinc (v := x5) (lv' := [(2, .int x5), (1, .int x4), (0, .int p0)]) hx hb dX7_ones_18 hl (k := 2) rfl (by rw [ex5]; first | done | rfl) (by decide) rfl (fun ls hl => ?_)
    refine lv_goto (tgt := 4) hx hb dX7_ones_21 (by decide) ?_
    cases hf
    exact hk _ (lv_sub hl [2, 1, 0] rfl)
def f_X7_isOrder_L2 (p0 : Int32) (p1 : Int32) (x1 : Int32) : Option ((Int32) ⊕ ((Unit) ⊕ (Unit) ⊕ (Unit))) :=
  (if nI 3 ≤ x1 then some (.inr (.inr (.inr ()))) else (if p1 ≤ x1 then bnd (f_X7_inOrder p0 x1) fun r4 => (if r4 = x1 then bd (x1 + nI 1) fun x6 => some (.inl x6) else some (.inr (.inr (.inl ())))) else bnd (f_X7_inOrder p0 x1) fun r7 => (if r7 < p1 then bd (x1 + nI 1) fun x9 => some (.inl x9) else some (.inr (.inl ())))))
def f_X7_isOrder (p0 : Int32) (p1 : Int32) : Option Int32 :=
  bnd (wO (fun t : Int32 => f_X7_isOrder_L2 p0 p1 t) fu (nI 0)) (Sum.elim (fun _ => some (nI 0)) (Sum.elim (fun _ => some (nI 0)) (fun _ => some (nI 1))))
abbrev r_X7_isOrder : Room := { frames := 1, cells := 0, slots := 0, locals := 23 }
set_option maxHeartbeats 4000000 in
set_option maxRecDepth 100000 in
theorem c_X7_isOrder (l : Launch) (p0 : Int32) (p1 : Int32) {r : Int32} (hf : f_X7_isOrder p0 p1 = some r) : p_Met l yX7_isOrder cX7_isOrder 3 (Option.some Jvm.ClassFile.FieldType.boolean) r_X7_isOrder [.int p0, .int p1] (some (.int r)) := by
  refine p_metI (F := 1) (L := 23) RX7 (by decide) rfl (Nat.le_of_ble_eq_true rfl) (fun p e s m args below meth c Q B hret ls hl => ?_)
  have hx := B.1
  have hb := B.2.1
  have hown := B.2.2.2.1
  have hts := B.2.2.2.2
  have hl : lv_has ls 3 [(0, .int p0), (1, .int p1)] := hl
  unfold f_X7_isOrder at hf
  refine lv_iconst (v := nI 0) hx hb dX7_isOrder_0 ic0 ?_
  refine lv_istore_n (lv' := [(2, .int (nI 0)), (0, .int p0), (1, .int p1)]) hx hb dX7_isOrder_1 rfl hl (by decide) rfl (fun ls hl => ?_)
  obtain ⟨y11, hxy11, hf⟩ := bnd_some hf
  have hy11 : (Sum.elim (fun t : Unit => ∀ (ls : Array Slot), lv_has ls 3 [] → W p l e r_X7_isOrder s m args below meth c s.heap [] 0 0 Q (F0 m 21 ls [])) (Sum.elim (fun t : Unit => ∀ (ls : Array Slot), lv_has ls 3 [] → W p l e r_X7_isOrder s m args below meth c s.heap [] 0 0 Q (F0 m 33 ls [])) (fun t : Unit => ∀ (ls : Array Slot), lv_has ls 3 [] → W p l e r_X7_isOrder s m args below meth c s.heap [] 0 0 Q (F0 m 41 ls [])))) y11 := by
    rcases y11 with _ | _ | _
    · have hf := el_l hf
      intro ls hl
      refine lv_goto (tgt := 33) hx hb dX7_isOrder_21 (by decide) ?_
      refine lv_iconst (v := nI 0) hx hb dX7_isOrder_33 ic0 ?_
      cases hf
      exact hret _ _ rfl dX7_isOrder_34
    · have hf := el_r hf
      have hf := el_l hf
      intro ls hl
      refine lv_iconst (v := nI 0) hx hb dX7_isOrder_33 ic0 ?_
      cases hf
      exact hret _ _ rfl dX7_isOrder_34
    · have hf := el_r hf
      have hf := el_r hf
      intro ls hl
      refine lv_iconst (v := nI 1) hx hb dX7_isOrder_41 ic1 ?_
      cases hf
      exact hret _ _ rfl dX7_isOrder_42
  refine lp_W (step := (fun t : Int32 => f_X7_isOrder_L2 p0 p1 t)) (fun t : Int32 => ∀ (ls : Array Slot), lv_has ls 3 [(0, .int p0), (1, .int p1), (2, .int t)] → W p l e r_X7_isOrder s m args below meth c s.heap [] 0 0 Q (F0 m 2 ls [])) (Sum.elim (fun t : Unit => ∀ (ls : Array Slot), lv_has ls 3 [] → W p l e r_X7_isOrder s m args below meth c s.heap [] 0 0 Q (F0 m 21 ls [])) (Sum.elim (fun t : Unit => ∀ (ls : Array Slot), lv_has ls 3 [] → W p l e r_X7_isOrder s m args below meth c s.heap [] 0 0 Q (F0 m 33 ls [])) (fun t : Unit => ∀ (ls : Array Slot), lv_has ls 3 [] → W p l e r_X7_isOrder s m args below meth c s.heap [] 0 0 Q (F0 m 41 ls [])))) ?_ fu (nI 0) y11 hxy11 hy11 _ (lv_sub hl [1, 2, 0] rfl)
  clear hf hxy11 hy11
  rintro x1 o (hf : f_X7_isOrder_L2 p0 p1 x1 = some o) hk
  intro ls hl
  unfold f_X7_isOrder_L2 at hf
  refine lv_iload_n hx hb dX7_isOrder_2 rfl (lv_at hl 2 rfl) ?_
  refine lv_iconst (v := nI 3) hx hb dX7_isOrder_3 ic3 ?_
  refine lv_icmp_ge (tgt := 41) hx hb dX7_isOrder_4 (by decide) (fun c2 => ?_) (fun c2 => ?_)
  · have hf := it_pos c2 hf
    cases hf
    exact hk _ (lv_sub hl [] rfl)
  · have hf := it_neg c2 hf
    refine lv_iload_n hx hb dX7_isOrder_7 rfl (lv_at hl 2 rfl) ?_
    refine lv_iload_n hx hb dX7_isOrder_8 rfl (lv_at hl 1 rfl) ?_
    refine lv_icmp_ge (tgt := 24) hx hb dX7_isOrder_9 (by decide) (fun c3 => ?_) (fun c3 => ?_)
    · have hf := it_pos c3 hf
      refine lv_iload_n hx hb dX7_isOrder_24 rfl (lv_at hl 0 rfl) ?_
      refine lv_iload_n hx hb dX7_isOrder_25 rfl (lv_at hl 2 rfl) ?_
      obtain ⟨r4, hcr4, hf⟩ := bnd_some hf
      refine pr_callS (rest := []) B (c_X7_inOrder l p0 x1 hcr4) (va_cwS 2 hts (lw_S q1919 q1920 q113 q1921) rfl rfl rfl hd_X7_inOrder ⟨Nat.le_of_ble_eq_true rfl, Nat.le_of_ble_eq_true rfl⟩) rfl hl.1 rfl (Nat.le_of_ble_eq_true rfl) dX7_isOrder_26 ⟨Nat.zero_le _, Nat.zero_le _⟩ ?_
      refine lv_iload_n hx hb dX7_isOrder_29 rfl (lv_at hl 2 rfl) ?_
      refine lv_icmp_eq (tgt := 35) hx hb dX7_isOrder_30 (by decide) (fun c5 => ?_) (fun c5 => ?_)
      · have hf := it_pos c5 hf
        obtain ⟨x6, ex6, hf⟩ := bd_some hf
        refine lv_iinc (v := x6) (lv' := [(2, .int x6), (0, .int p0), (1, .int p1)]) hx hb dX7_isOrder_35 hl (k := 2) rfl (by rw [ex6]; first | done | rfl) (by decide) rfl (fun ls hl => ?_)
        refine lv_goto (tgt := 2) hx hb dX7_isOrder_38 (by decide) ?_
        cases hf
        exact hk _ (lv_sub hl [1, 2, 0] rfl)
      · have hf := it_neg c5 hf
        cases hf
        exact hk _ (lv_sub hl [] rfl)
    · have hf := it_neg c3 hf
      refine lv_iload_n hx hb dX7_isOrder_12 rfl (lv_at hl 0 rfl) ?_
      refine lv_iload_n hx hb dX7_isOrder_13 rfl (lv_at hl 2 rfl) ?_
      obtain ⟨r7, hcr7, hf⟩ := bnd_some hf
      refine pr_callS (rest := []) B (c_X7_inOrder l p0 x1 hcr7) (va_cwS 2 hts (lw_S q1919 q1920 q113 q1921) rfl rfl rfl hd_X7_inOrder ⟨Nat.le_of_ble_eq_true rfl, Nat.le_of_ble_eq_true rfl⟩) rfl hl.1 rfl (Nat.le_of_ble_eq_true rfl) dX7_isOrder_14 ⟨Nat.zero_le _, Nat.zero_le _⟩ ?_
      refine lv_iload_n hx hb dX7_isOrder_17 rfl (lv_at hl 1 rfl) ?_
      refine lv_icmp_lt (tgt := 35) hx hb dX7_isOrder_18 (by decide) (fun c8 => ?_) (fun c8 => ?_)
      · have hf := it_pos c8 hf
        obtain ⟨x9, ex9, hf⟩ := bd_some hf
        refine lv_iinc (v := x9) (lv' := [(2, .int x9), (0, .int p0), (1, .int p1)]) hx hb dX7_isOrder_35 hl (k := 2) rfl (by rw [ex9]; first | done | rfl) (by decide) rfl (fun ls hl => ?_)
        refine lv_goto (tgt := 2) hx hb dX7_isOrder_38 (by decide) ?_
        cases hf
        exact hk _ (lv_sub hl [1, 2, 0] rfl)
      · have hf := it_neg c8 hf
        cases hf
        exact hk _ (lv_sub hl [] rfl)
def f_X7_takeOrders (S : MS) (p0 : Int32) : Option (Int32 × MS) :=
  ast 3 (nI 0) (m_up S 51 (nI 0).toNatClampNeg (p0 / nI 36)) fun S1 => ast 3 (nI 1) (m_up S1 51 (nI 1).toNatClampNeg ((p0 / nI 6) - (p0 / nI 6) / nI 6 * nI 6)) fun S2 => ast 3 (nI 2) (m_up S2 51 (nI 2).toNatClampNeg (p0 - p0 / nI 6 * nI 6)) fun S3 => ald 3 (S3.1 51) (nI 0) fun v4 => ald 3 (S3.1 26) (nI 0) fun v5 => bnd (f_X7_isOrder v4 v5) fun r6 => (if r6 = 0 then some (nI 0, S3) else ald 3 (S3.1 51) (nI 1) fun v8 => ald 3 (S3.1 26) (nI 1) fun v9 => bnd (f_X7_isOrder v8 v9) fun r10 => (if r10 = 0 then some (nI 0, S3) else ald 3 (S3.1 51) (nI 2) fun v12 => ald 3 (S3.1 26) (nI 2) fun v13 => bnd (f_X7_isOrder v12 v13) fun r14 => (if r14 = 0 then some (nI 0, S3) else some (nI 1, S3))))
abbrev r_X7_takeOrders : Room := { frames := 2, cells := 0, slots := 0, locals := 45 }
set_option maxHeartbeats 4000000 in
set_option maxRecDepth 100000 in
theorem c_X7_takeOrders (l : Launch) (D : MD) (S : MS) (p0 : Int32) {r : Int32} {S' : MS} (hf : f_X7_takeOrders S p0 = some (r, S')) : m_Met l yX7_takeOrders cX7_takeOrders 2 (Option.some Jvm.ClassFile.FieldType.boolean) r_X7_takeOrders D [.ref D.1, .int p0] S (some (.int r)) S' := by
  refine m_metI (F := 2) (L := 45) (by decide) rfl (Nat.le_of_ble_eq_true rfl) (fun p e s m args below meth c Q B hret hM ls hl => ?_)
  have hx := B.1
  have hb := B.2.1
  have hown := B.2.2.2.1
  have hts := B.2.2.2.2
  have hl : lv_has ls 2 [(0, .ref D.1), (1, .int p0)] := hl
  generalize s.heap = H, ([] : List Loc) = locs at hM ⊢
  unfold f_X7_takeOrders at hf
  refine lv_aload_n hx hb dX7_takeOrders_0 rfl (lv_at hl 0 rfl) ?_
  refine mr_get B hM 51 (v := .ref (D.2.1 51)) rfl (by decide) q1697 dX7_takeOrders_1 ?_
  refine lv_iconst (v := nI 0) hx hb dX7_takeOrders_4 ic0 ?_
  refine lv_iload_n hx hb dX7_takeOrders_5 rfl (lv_at hl 1 rfl) ?_
  refine lv_bipush (v := nI 36) hx hb dX7_takeOrders_6 bp36 ?_
  refine lv_idiv hx hb dX7_takeOrders_8 (by decide) ?_
  obtain ⟨S1, eS1, hiS1, hf⟩ := ast_some hf
  refine mr_iast B hM 51 (by decide) rfl hiS1 eS1 dX7_takeOrders_9 (fun H locs hM => ?_)
  refine lv_aload_n hx hb dX7_takeOrders_10 rfl (lv_at hl 0 rfl) ?_
  refine mr_get B hM 51 (v := .ref (D.2.1 51)) rfl (by decide) q1697 dX7_takeOrders_11 ?_
  refine lv_iconst (v := nI 1) hx hb dX7_takeOrders_14 ic1 ?_
  refine lv_iload_n hx hb dX7_takeOrders_15 rfl (lv_at hl 1 rfl) ?_
  refine lv_bipush (v := nI 6) hx hb dX7_takeOrders_16 bp6 ?_
  refine lv_idiv hx hb dX7_takeOrders_18 (by decide) ?_
  refine lv_bipush (v := nI 6) hx hb dX7_takeOrders_19 bp6 ?_
  refine lv_irem hx hb dX7_takeOrders_21 (by decide) ?_
  obtain ⟨S2, eS2, hiS2, hf⟩ := ast_some hf
  refine mr_iast B hM 51 (by decide) rfl hiS2 eS2 dX7_takeOrders_22 (fun H locs hM => ?_)
  refine lv_aload_n hx hb dX7_takeOrders_23 rfl (lv_at hl 0 rfl) ?_
  refine mr_get B hM 51 (v := .ref (D.2.1 51)) rfl (by decide) q1697 dX7_takeOrders_24 ?_
  refine lv_iconst (v := nI 2) hx hb dX7_takeOrders_27 ic2 ?_
  refine lv_iload_n hx hb dX7_takeOrders_28 rfl (lv_at hl 1 rfl) ?_
  refine lv_bipush (v := nI 6) hx hb dX7_takeOrders_29 bp6 ?_
  refine lv_irem hx hb dX7_takeOrders_31 (by decide) ?_
  obtain ⟨S3, eS3, hiS3, hf⟩ := ast_some hf
  refine mr_iast B hM 51 (by decide) rfl hiS3 eS3 dX7_takeOrders_32 (fun H locs hM => ?_)
  refine lv_aload_n hx hb dX7_takeOrders_33 rfl (lv_at hl 0 rfl) ?_
  refine mr_get B hM 51 (v := .ref (D.2.1 51)) rfl (by decide) q1697 dX7_takeOrders_34 ?_
  refine lv_iconst (v := nI 0) hx hb dX7_takeOrders_37 ic0 ?_
  obtain ⟨v4, ev4, hiv4, hf⟩ := ald_some hf
  refine mr_iald B hM 51 (by decide) rfl hiv4 ev4 dX7_takeOrders_38 ?_
  refine lv_aload_n hx hb dX7_takeOrders_39 rfl (lv_at hl 0 rfl) ?_
  refine mr_get B hM 26 (v := .ref (D.2.1 26)) rfl (by decide) q1672 dX7_takeOrders_40 ?_
  refine lv_iconst (v := nI 0) hx hb dX7_takeOrders_43 ic0 ?_
  obtain ⟨v5, ev5, hiv5, hf⟩ := ald_some hf
  refine mr_iald B hM 26 (by decide) rfl hiv5 ev5 dX7_takeOrders_44 ?_
  obtain ⟨r6, hcr6, hf⟩ := bnd_some hf
  refine pr_callS (rest := []) B (c_X7_isOrder l v4 v5 hcr6) (va_cwS 2 hts (lw_S q1916 q1917 q113 q1918) rfl rfl rfl hd_X7_isOrder ⟨Nat.le_of_ble_eq_true rfl, Nat.le_of_ble_eq_true rfl⟩) rfl hl.1 rfl (Nat.le_of_ble_eq_true rfl) dX7_takeOrders_45 ⟨Nat.zero_le _, Nat.zero_le _⟩ ?_
  refine lv_if_eq (tgt := 91) hx hb dX7_takeOrders_48 (by decide) (fun c7 => ?_) (fun c7 => ?_)
  · have hf := it_pos c7 hf
    refine lv_iconst (v := nI 0) hx hb dX7_takeOrders_91 ic0 ?_
    cases hf
    exact hret _ _ _ _ rfl hM dX7_takeOrders_92
  · have hf := it_neg c7 hf
    refine lv_aload_n hx hb dX7_takeOrders_51 rfl (lv_at hl 0 rfl) ?_
    refine mr_get B hM 51 (v := .ref (D.2.1 51)) rfl (by decide) q1697 dX7_takeOrders_52 ?_
    refine lv_iconst (v := nI 1) hx hb dX7_takeOrders_55 ic1 ?_
    obtain ⟨v8, ev8, hiv8, hf⟩ := ald_some hf
    refine mr_iald B hM 51 (by decide) rfl hiv8 ev8 dX7_takeOrders_56 ?_
    refine lv_aload_n hx hb dX7_takeOrders_57 rfl (lv_at hl 0 rfl) ?_
    refine mr_get B hM 26 (v := .ref (D.2.1 26)) rfl (by decide) q1672 dX7_takeOrders_58 ?_
    refine lv_iconst (v := nI 1) hx hb dX7_takeOrders_61 ic1 ?_
    obtain ⟨v9, ev9, hiv9, hf⟩ := ald_some hf
    refine mr_iald B hM 26 (by decide) rfl hiv9 ev9 dX7_takeOrders_62 ?_
    obtain ⟨r10, hcr10, hf⟩ := bnd_some hf
    refine pr_callS (rest := []) B (c_X7_isOrder l v8 v9 hcr10) (va_cwS 2 hts (lw_S q1916 q1917 q113 q1918) rfl rfl rfl hd_X7_isOrder ⟨Nat.le_of_ble_eq_true rfl, Nat.le_of_ble_eq_true rfl⟩) rfl hl.1 rfl (Nat.le_of_ble_eq_true rfl) dX7_takeOrders_63 ⟨Nat.zero_le _, Nat.zero_le _⟩ ?_
    refine lv_if_eq (tgt := 91) hx hb dX7_takeOrders_66 (by decide) (fun c11 => ?_) (fun c11 => ?_)
    · have hf := it_pos c11 hf
      refine lv_iconst (v := nI 0) hx hb dX7_takeOrders_91 ic0 ?_
      cases hf
      exact hret _ _ _ _ rfl hM dX7_takeOrders_92
    · have hf := it_neg c11 hf
      refine lv_aload_n hx hb dX7_takeOrders_69 rfl (lv_at hl 0 rfl) ?_
      refine mr_get B hM 51 (v := .ref (D.2.1 51)) rfl (by decide) q1697 dX7_takeOrders_70 ?_
      refine lv_iconst (v := nI 2) hx hb dX7_takeOrders_73 ic2 ?_
      obtain ⟨v12, ev12, hiv12, hf⟩ := ald_some hf
      refine mr_iald B hM 51 (by decide) rfl hiv12 ev12 dX7_takeOrders_74 ?_
      refine lv_aload_n hx hb dX7_takeOrders_75 rfl (lv_at hl 0 rfl) ?_
      refine mr_get B hM 26 (v := .ref (D.2.1 26)) rfl (by decide) q1672 dX7_takeOrders_76 ?_
      refine lv_iconst (v := nI 2) hx hb dX7_takeOrders_79 ic2 ?_
      obtain ⟨v13, ev13, hiv13, hf⟩ := ald_some hf
      refine mr_iald B hM 26 (by decide) rfl hiv13 ev13 dX7_takeOrders_80 ?_
      obtain ⟨r14, hcr14, hf⟩ := bnd_some hf
      refine pr_callS (rest := []) B (c_X7_isOrder l v12 v13 hcr14) (va_cwS 2 hts (lw_S q1916 q1917 q113 q1918) rfl rfl rfl hd_X7_isOrder ⟨Nat.le_of_ble_eq_true rfl, Nat.le_of_ble_eq_true rfl⟩) rfl hl.1 rfl (Nat.le_of_ble_eq_true rfl) dX7_takeOrders_81 ⟨Nat.zero_le _, Nat.zero_le _⟩ ?_
      refine lv_if_eq (tgt := 91) hx hb dX7_takeOrders_84 (by decide) (fun c15 => ?_) (fun c15 => ?_)
      · have hf := it_pos c15 hf
        refine lv_iconst (v := nI 0) hx hb dX7_takeOrders_91 ic0 ?_
        cases hf
        exact hret _ _ _ _ rfl hM dX7_takeOrders_92
      · have hf := it_neg c15 hf
        refine lv_iconst (v := nI 1) hx hb dX7_takeOrders_87 ic1 ?_
        refine lv_goto (tgt := 92) hx hb dX7_takeOrders_88 (by decide) ?_
        cases hf
        exact hret _ _ _ _ rfl hM dX7_takeOrders_92
def f_X7_apart_L39 (p0 : Int32) (r9 : Int32) (x10 : Int32) (S11 : MS) : Option ((Int32 × MS) ⊕ ((MS))) :=
  (if r9 ≤ x10 then some (.inr S11) else ald 576 (S11.1 24) ((nI 36 * p0) + x10) fun v13 => ast 36 x10 (m_up S11 28 x10.toNatClampNeg (vp_nar .boolean v13)) fun S14 => bd (x10 + nI 1) fun x15 => some (.inl (x15, S14)))
def f_X7_apart_L79 (r19 : Int32) (x20 : Int32) (x21 : Int32) (S22 : MS) : Option ((Int32 × Int32 × MS) ⊕ ((Int32 × MS))) :=
  (if nI 216 ≤ x21 then some (.inr (x20, S22)) else bnd (f_X7_takeOrders S22 x21) <| u2 fun r24 S25 => (if r24 = 0 then bd (x21 + nI 1) fun x27 => some (.inl (x20, x27, S25)) else bnd (f_X7_imageOf S25) fun r28 => bnd (f_X7_ones (r28 ^^^ r19)) fun r29 => (if x20 ≤ r29 then bd (x21 + nI 1) fun x31 => some (.inl (x20, x31, S25)) else bd (x21 + nI 1) fun x32 => some (.inl (r29, x32, S25)))))
def f_X7_apart (S : MS) (p0 : Int32) : Option (Int32 × MS) :=
  bd (m_up S 0 0 (nI 0)) fun S1 => bnd (f_X7_in p0 (nI 0) (nI 3)) fun r2 => (if r2 = 0 then some ((-1), S1) else ald 16 (S1.1 25) p0 fun v4 => (if v4 = 0 then some ((-1), S1) else bnd (f_X7_canTell S1) <| u2 fun r6 S7 => (if r6 = 0 then some ((-1), S7) else bnd (f_X7_manyFacts S7) fun r9 => bnd (wO (fun t : Int32 × MS => f_X7_apart_L39 p0 r9 t.1 t.2) fu (nI 0, S7)) <| fun S18 => bnd (f_X7_numberOfWorld S18) fun r19 => bnd (wO (fun t : Int32 × Int32 × MS => f_X7_apart_L79 r19 t.1 t.2.1 t.2.2) fu (nI 36, nI 0, S18)) <| u2 fun x35 S36 => some (x35, S36))))
abbrev r_X7_apart : Room := { frames := 4, cells := 0, slots := 0, locals := 83 }
set_option maxHeartbeats 4000000 in
set_option maxRecDepth 100000 in
theorem c_X7_apart (l : Launch) (D : MD) (S : MS) (p0 : Int32) {r : Int32} {S' : MS} (hf : f_X7_apart S p0 = some (r, S')) : m_Met l yX7_apart cX7_apart 7 (Option.some Jvm.ClassFile.FieldType.int) r_X7_apart D [.ref D.1, .int p0] S (some (.int r)) S' := by
  refine m_metI (F := 4) (L := 83) (by decide) rfl (Nat.le_of_ble_eq_true rfl) (fun p e s m args below meth c Q B hret hM ls hl => ?_)
  have hx := B.1
  have hb := B.2.1
  have hown := B.2.2.2.1
  have hts := B.2.2.2.2
  have hl : lv_has ls 7 [(0, .ref D.1), (1, .int p0)] := hl
  generalize s.heap = H, ([] : List Loc) = locs at hM ⊢
  unfold f_X7_apart at hf
  refine lv_aload_n hx hb dX7_apart_0 rfl (lv_at hl 0 rfl) ?_
  refine lv_iconst (v := nI 0) hx hb dX7_apart_1 ic0 ?_
  obtain ⟨S1, eS1, hf⟩ := bd_some hf
  refine mr_puti B hM 0 (by decide) eS1 rfl (tyX7_ok 0 (by decide)) q1646 dX7_apart_2 (fun H locs hM => ?_)
  refine lv_iload_n hx hb dX7_apart_5 rfl (lv_at hl 1 rfl) ?_
  refine lv_iconst (v := nI 0) hx hb dX7_apart_6 ic0 ?_
  refine lv_iconst (v := nI 3) hx hb dX7_apart_7 ic3 ?_
  obtain ⟨r2, hcr2, hf⟩ := bnd_some hf
  refine pr_callS (rest := []) B (c_X7_in l p0 (nI 0) (nI 3) hcr2) (va_cwS 3 hts (lw_S q1841 q1842 q113 q1843) rfl rfl rfl hd_X7_in ⟨Nat.le_of_ble_eq_true rfl, Nat.le_of_ble_eq_true rfl⟩) rfl hl.1 rfl (Nat.le_of_ble_eq_true rfl) dX7_apart_8 ⟨Nat.zero_le _, Nat.zero_le _⟩ ?_
  refine lv_if_eq (tgt := 30) hx hb dX7_apart_11 (by decide) (fun c3 => ?_) (fun c3 => ?_)
  · have hf := it_pos c3 hf
    refine lv_iconst (v := (-1)) hx hb dX7_apart_30 icm1 ?_
    cases hf
    exact hret _ _ _ _ rfl hM dX7_apart_31
  · have hf := it_neg c3 hf
    refine lv_aload_n hx hb dX7_apart_14 rfl (lv_at hl 0 rfl) ?_
    refine mr_get B hM 25 (v := .ref (D.2.1 25)) rfl (by decide) q1671 dX7_apart_15 ?_
    refine lv_iload_n hx hb dX7_apart_18 rfl (lv_at hl 1 rfl) ?_
    obtain ⟨v4, ev4, hiv4, hf⟩ := ald_some hf
    refine mr_zald B hM 25 (by decide) rfl hiv4 ev4 dX7_apart_19 ?_
    refine lv_if_eq (tgt := 30) hx hb dX7_apart_20 (by decide) (fun c5 => ?_) (fun c5 => ?_)
    · have hf := it_pos c5 hf
      refine lv_iconst (v := (-1)) hx hb dX7_apart_30 icm1 ?_
      cases hf
      exact hret _ _ _ _ rfl hM dX7_apart_31
    · have hf := it_neg c5 hf
      refine lv_aload_n hx hb dX7_apart_23 rfl (lv_at hl 0 rfl) ?_
      obtain ⟨⟨r6, S7⟩, hcr6, hf⟩ := bnd_some hf
      have hf := u2_at hf
      refine mr_callV (rest := []) B hM (c_X7_canTell l D S1  hcr6) (cwV 0 hts (lw_V q1904 q1906 qs53 q113 q1907) rfl rfl rfl hd_X7_canTell ⟨Nat.le_of_ble_eq_true rfl, Nat.le_of_ble_eq_true rfl⟩) rfl hl.1 rfl (Nat.le_of_ble_eq_true rfl) dX7_apart_24 ⟨Nat.zero_le _, Nat.zero_le _⟩ (fun H locs hM => ?_)
      refine lv_if_ne (tgt := 32) hx hb dX7_apart_27 (by decide) (fun c8 => ?_) (fun c8 => ?_)
      · have hf := it_neg c8 hf
        refine lv_aload_n hx hb dX7_apart_32 rfl (lv_at hl 0 rfl) ?_
        obtain ⟨r9, hcr9, hf⟩ := bnd_some hf
        refine mr_callV (rest := []) B hM (c_X7_manyFacts l D S7  hcr9) (cwV 0 hts (lw_V q1868 q1870 qs49 q113 q1871) rfl rfl rfl hd_X7_manyFacts ⟨Nat.le_of_ble_eq_true rfl, Nat.le_of_ble_eq_true rfl⟩) rfl hl.1 rfl (Nat.le_of_ble_eq_true rfl) dX7_apart_33 ⟨Nat.zero_le _, Nat.zero_le _⟩ (fun H locs hM => ?_)
        refine lv_istore_n (lv' := [(2, .int r9), (0, .ref D.1), (1, .int p0)]) hx hb dX7_apart_36 rfl hl (by decide) rfl (fun ls hl => ?_)
        refine lv_iconst (v := nI 0) hx hb dX7_apart_37 ic0 ?_
        refine lv_istore_n (lv' := [(3, .int (nI 0)), (2, .int r9), (0, .ref D.1), (1, .int p0)]) hx hb dX7_apart_38 rfl hl (by decide) rfl (fun ls hl => ?_)
        obtain ⟨y17, hxy17, hf⟩ := bnd_some hf
        have hy17 : (fun t : MS => ∀ (H : Heap) (locs : List Loc) (ls : Array Slot), m_I D s H locs t → lv_has ls 7 [(0, .ref D.1)] → W p l e r_X7_apart s m args below meth c H locs 0 0 Q (F0 m 67 ls [])) y17 := by
          obtain ⟨S18, rfl⟩ : ∃ z, z = y17 := ⟨_, rfl⟩
          intro H locs ls hM hl
          refine lv_aload_n hx hb dX7_apart_67 rfl (lv_at hl 0 rfl) ?_
          obtain ⟨r19, hcr19, hf⟩ := bnd_some hf
          refine mr_callV (rest := []) B hM (c_X7_numberOfWorld l D S18  hcr19) (cwV 0 hts (lw_V q1908 q1910 qs54 q113 q1911) rfl rfl rfl hd_X7_numberOfWorld ⟨Nat.le_of_ble_eq_true rfl, Nat.le_of_ble_eq_true rfl⟩) rfl hl.1 rfl (Nat.le_of_ble_eq_true rfl) dX7_apart_68 ⟨Nat.zero_le _, Nat.zero_le _⟩ (fun H locs hM => ?_)
          refine lv_istore_n (lv' := [(3, .int r19), (0, .ref D.1)]) hx hb dX7_apart_71 rfl hl (by decide) rfl (fun ls hl => ?_)
          refine lv_bipush (v := nI 36) hx hb dX7_apart_72 bp36 ?_
          refine lv_istore (lv' := [(4, .int (nI 36)), (3, .int r19), (0, .ref D.1)]) hx hb dX7_apart_74 hl (by decide) rfl (fun ls hl => ?_)
          refine lv_iconst (v := nI 0) hx hb dX7_apart_76 ic0 ?_
          refine lv_istore (lv' := [(5, .int (nI 0)), (4, .int (nI 36)), (3, .int r19), (0, .ref D.1)]) hx hb dX7_apart_77 hl (by decide) rfl (fun ls hl => ?_)
          obtain ⟨y34, hxy34, hf⟩ := bnd_some hf
          have hy34 : (fun t : Int32 × MS => ∀ (H : Heap) (locs : List Loc) (ls : Array Slot), m_I D s H locs t.2 → lv_has ls 7 [(4, .int t.1)] → W p l e r_X7_apart s m args below meth c H locs 0 0 Q (F0 m 129 ls [])) y34 := by
            rcases y34 with ⟨x35, S36⟩
            have hf := u2_at hf
            intro H locs ls hM hl
            refine lv_iload hx hb dX7_apart_129 (lv_at hl 0 rfl) ?_
            cases hf
            exact hret _ _ _ _ rfl hM dX7_apart_131
          refine lp_W (step := (fun t : Int32 × Int32 × MS => f_X7_apart_L79 r19 t.1 t.2.1 t.2.2)) (fun t : Int32 × Int32 × MS => ∀ (H : Heap) (locs : List Loc) (ls : Array Slot), m_I D s H locs t.2.2 → lv_has ls 7 [(0, .ref D.1), (3, .int r19), (4, .int t.1), (5, .int t.2.1)] → W p l e r_X7_apart s m args below meth c H locs 0 0 Q (F0 m 79 ls [])) (fun t : Int32 × MS => ∀ (H : Heap) (locs : List Loc) (ls : Array Slot), m_I D s H locs t.2 → lv_has ls 7 [(4, .int t.1)] → W p l e r_X7_apart s m args below meth c H locs 0 0 Q (F0 m 129 ls [])) ?_ fu (nI 36, nI 0, S18) y34 hxy34 hy34 _ _ _ hM (lv_sub hl [3, 2, 1, 0] rfl)
          clear hf hxy34 hy34
          rintro ⟨x20, x21, S22⟩ o (hf : f_X7_apart_L79 r19 x20 x21 S22 = some o) hk
          intro H locs ls hM hl
          unfold f_X7_apart_L79 at hf
          refine lv_iload hx hb dX7_apart_79 (lv_at hl 3 rfl) ?_
          refine lv_sipush (v := nI 216) hx hb dX7_apart_81 sp216 ?_
          refine lv_icmp_ge (tgt := 129) hx hb dX7_apart_84 (by decide) (fun c23 => ?_) (fun c23 => ?_)
          · have hf := it_pos c23 hf
            cases hf
            exact hk _ _ _ hM (lv_sub hl [2] rfl)
          · have hf := it_neg c23 hf
            refine lv_aload_n hx hb dX7_apart_87 rfl (lv_at hl 0 rfl) ?_
            refine lv_iload hx hb dX7_apart_88 (lv_at hl 3 rfl) ?_
            obtain ⟨⟨r24, S25⟩, hcr24, hf⟩ := bnd_some hf
            have hf := u2_at hf
            refine mr_callV (rest := []) B hM (c_X7_takeOrders l D S22 x21 hcr24) (cwV 1 hts (lw_V q1912 q1914 qs55 q113 q1915) rfl rfl rfl hd_X7_takeOrders ⟨Nat.le_of_ble_eq_true rfl, Nat.le_of_ble_eq_true rfl⟩) rfl hl.1 rfl (Nat.le_of_ble_eq_true rfl) dX7_apart_90 ⟨Nat.zero_le _, Nat.zero_le _⟩ (fun H locs hM => ?_)
            refine lv_if_eq (tgt := 123) hx hb dX7_apart_93 (by decide) (fun c26 => ?_) (fun c26 => ?_)
            · have hf := it_pos c26 hf
              obtain ⟨x27, ex27, hf⟩ := bd_some hf
              refine lv_iinc (v := x27) (lv' := [(5, .int x27), (0, .ref D.1), (3, .int r19), (4, .int x20)]) hx hb dX7_apart_123 hl (k := 3) rfl (by rw [ex27]; first | done | rfl) (by decide) rfl (fun ls hl => ?_)
              refine lv_goto (tgt := 79) hx hb dX7_apart_126 (by decide) ?_
              cases hf
              exact hk _ _ _ hM (lv_sub hl [1, 2, 3, 0] rfl)
            · have hf := it_neg c26 hf
              refine lv_aload_n hx hb dX7_apart_96 rfl (lv_at hl 0 rfl) ?_
              obtain ⟨r28, hcr28, hf⟩ := bnd_some hf
              refine mr_callV (rest := []) B hM (c_X7_imageOf l D S25  hcr28) (cwV 0 hts (lw_V q1922 q1924 qs56 q113 q1925) rfl rfl rfl hd_X7_imageOf ⟨Nat.le_of_ble_eq_true rfl, Nat.le_of_ble_eq_true rfl⟩) rfl hl.1 rfl (Nat.le_of_ble_eq_true rfl) dX7_apart_97 ⟨Nat.zero_le _, Nat.zero_le _⟩ (fun H locs hM => ?_)
              refine lv_iload_n hx hb dX7_apart_100 rfl (lv_at hl 1 rfl) ?_
              refine lv_ixor hx hb dX7_apart_101 ?_
              obtain ⟨r29, hcr29, hf⟩ := bnd_some hf
              refine pr_callS (rest := []) B (c_X7_ones l (r28 ^^^ r19) hcr29) (va_cwS 1 hts (lw_S q1930 q1931 q113 q1932) rfl rfl rfl hd_X7_ones ⟨Nat.le_of_ble_eq_true rfl, Nat.le_of_ble_eq_true rfl⟩) rfl hl.1 rfl (Nat.le_of_ble_eq_true rfl) dX7_apart_102 ⟨Nat.zero_le _, Nat.zero_le _⟩ ?_
              refine lv_istore (lv' := [(6, .int r29), (0, .ref D.1), (3, .int r19), (4, .int x20), (5, .int x21)]) hx hb dX7_apart_105 hl (by decide) rfl (fun ls hl => ?_)
              refine lv_iload hx hb dX7_apart_107 (lv_at hl 0 rfl) ?_
              refine lv_iload hx hb dX7_apart_109 (lv_at hl 3 rfl) ?_
              refine lv_icmp_ge (tgt := 119) hx hb dX7_apart_111 (by decide) (fun c30 => ?_) (fun c30 => ?_)
              · have hf := it_pos c30 hf
                refine lv_iload hx hb dX7_apart_119 (lv_at hl 3 rfl) ?_
                refine lv_istore (lv' := [(4, .int x20), (6, .int r29), (0, .ref D.1), (3, .int r19), (5, .int x21)]) hx hb dX7_apart_121 hl (by decide) rfl (fun ls hl => ?_)
                obtain ⟨x31, ex31, hf⟩ := bd_some hf
                refine lv_iinc (v := x31) (lv' := [(5, .int x31), (4, .int x20), (6, .int r29), (0, .ref D.1), (3, .int r19)]) hx hb dX7_apart_123 hl (k := 4) rfl (by rw [ex31]; first | done | rfl) (by decide) rfl (fun ls hl => ?_)
                refine lv_goto (tgt := 79) hx hb dX7_apart_126 (by decide) ?_
                cases hf
                exact hk _ _ _ hM (lv_sub hl [3, 4, 1, 0] rfl)
              · have hf := it_neg c30 hf
                refine lv_iload hx hb dX7_apart_114 (lv_at hl 0 rfl) ?_
                refine lv_goto (tgt := 121) hx hb dX7_apart_116 (by decide) ?_
                refine lv_istore (lv' := [(4, .int r29), (6, .int r29), (0, .ref D.1), (3, .int r19), (5, .int x21)]) hx hb dX7_apart_121 hl (by decide) rfl (fun ls hl => ?_)
                obtain ⟨x32, ex32, hf⟩ := bd_some hf
                refine lv_iinc (v := x32) (lv' := [(5, .int x32), (4, .int r29), (6, .int r29), (0, .ref D.1), (3, .int r19)]) hx hb dX7_apart_123 hl (k := 4) rfl (by rw [ex32]; first | done | rfl) (by decide) rfl (fun ls hl => ?_)
                refine lv_goto (tgt := 79) hx hb dX7_apart_126 (by decide) ?_
                cases hf
                exact hk _ _ _ hM (lv_sub hl [3, 4, 1, 0] rfl)
        refine lp_W (step := (fun t : Int32 × MS => f_X7_apart_L39 p0 r9 t.1 t.2)) (fun t : Int32 × MS => ∀ (H : Heap) (locs : List Loc) (ls : Array Slot), m_I D s H locs t.2 → lv_has ls 7 [(0, .ref D.1), (1, .int p0), (2, .int r9), (3, .int t.1)] → W p l e r_X7_apart s m args below meth c H locs 0 0 Q (F0 m 39 ls [])) (fun t : MS => ∀ (H : Heap) (locs : List Loc) (ls : Array Slot), m_I D s H locs t → lv_has ls 7 [(0, .ref D.1)] → W p l e r_X7_apart s m args below meth c H locs 0 0 Q (F0 m 67 ls [])) ?_ fu (nI 0, S7) y17 hxy17 hy17 _ _ _ hM (lv_sub hl [2, 3, 1, 0] rfl)
        clear hf hxy17 hy17
        rintro ⟨x10, S11⟩ o (hf : f_X7_apart_L39 p0 r9 x10 S11 = some o) hk
        intro H locs ls hM hl
        unfold f_X7_apart_L39 at hf
        refine lv_iload_n hx hb dX7_apart_39 rfl (lv_at hl 3 rfl) ?_
        refine lv_iload_n hx hb dX7_apart_40 rfl (lv_at hl 2 rfl) ?_
        refine lv_icmp_ge (tgt := 67) hx hb dX7_apart_41 (by decide) (fun c12 => ?_) (fun c12 => ?_)
        · have hf := it_pos c12 hf
          cases hf
          exact hk _ _ _ hM (lv_sub hl [0] rfl)
        · have hf := it_neg c12 hf
          refine lv_aload_n hx hb dX7_apart_44 rfl (lv_at hl 0 rfl) ?_
          refine mr_get B hM 28 (v := .ref (D.2.1 28)) rfl (by decide) q1674 dX7_apart_45 ?_
          refine lv_iload_n hx hb dX7_apart_48 rfl (lv_at hl 3 rfl) ?_
          refine lv_aload_n hx hb dX7_apart_49 rfl (lv_at hl 0 rfl) ?_
          refine mr_get B hM 24 (v := .ref (D.2.1 24)) rfl (by decide) q1670 dX7_apart_50 ?_
          refine lv_bipush (v := nI 36) hx hb dX7_apart_53 bp36 ?_
          refine lv_iload_n hx hb dX7_apart_55 rfl (lv_at hl 1 rfl) ?_
          refine lv_imul hx hb dX7_apart_56 ?_
          refine lv_iload_n hx hb dX7_apart_57 rfl (lv_at hl 3 rfl) ?_
          refine lv_iadd hx hb dX7_apart_58 ?_
          obtain ⟨v13, ev13, hiv13, hf⟩ := ald_some hf
          refine mr_zald B hM 24 (by decide) rfl hiv13 ev13 dX7_apart_59 ?_
          obtain ⟨S14, eS14, hiS14, hf⟩ := ast_some hf
          refine mr_zast B hM 28 (by decide) rfl hiS14 eS14 dX7_apart_60 (fun H locs hM => ?_)
          obtain ⟨x15, ex15, hf⟩ := bd_some hf
          refine lv_iinc (v := x15) (lv' := [(3, .int x15), (0, .ref D.1), (1, .int p0), (2, .int r9)]) hx hb dX7_apart_61 hl (k := 3) rfl (by rw [ex15]; first | done | rfl) (by decide) rfl (fun ls hl => ?_)
          refine lv_goto (tgt := 39) hx hb dX7_apart_64 (by decide) ?_
          cases hf
          exact hk _ _ _ hM (lv_sub hl [1, 2, 3, 0] rfl)
      · have hf := it_pos c8 hf
        refine lv_iconst (v := (-1)) hx hb dX7_apart_30 icm1 ?_
        cases hf
        exact hret _ _ _ _ rfl hM dX7_apart_31
def f_X7_four_L3 (p0 : Int32) (x1 : Int32) (S2 : MS) : Option ((Int32 × MS) ⊕ ((MS))) :=
  (if x1 < 0 then some (.inr S2) else ald 4 (S2.1 2) (nI 0) fun v4 => ast 1600 v4 (m_up S2 1 v4.toNatClampNeg (vp_nar .byte ((p0 >>> (x1 &&& 31)).toInt8.toInt32))) fun S5 => ald 4 (S5.1 2) (nI 0) fun v6 => ast 4 (nI 0) (m_up S5 2 (nI 0).toNatClampNeg (v6 + nI 1)) fun S7 => bd (x1 + Int32.ofInt (-8)) fun x8 => some (.inl (x8, S7)))
def f_X7_four (S : MS) (p0 : Int32) : Option MS :=
  bnd (wO (fun t : Int32 × MS => f_X7_four_L3 p0 t.1 t.2) fu (nI 24, S)) <| fun S11 => some S11
abbrev r_X7_four : Room := { frames := 0, cells := 0, slots := 0, locals := 0 }
set_option maxHeartbeats 4000000 in
set_option maxRecDepth 100000 in
theorem c_X7_four (l : Launch) (D : MD) (S : MS) (p0 : Int32) {S' : MS} (hf : f_X7_four S p0 = some S') : m_Met l yX7_four cX7_four 3 (Option.none : Option Jvm.ClassFile.FieldType) r_X7_four D [.ref D.1, .int p0] S none S' := by
  refine m_metV (F := 0) (L := 0) (by decide) rfl (Nat.le_of_ble_eq_true rfl) (fun p e s m args below meth c Q B hret hM ls hl => ?_)
  have hx := B.1
  have hb := B.2.1
  have hown := B.2.2.2.1
  have hts := B.2.2.2.2
  have hl : lv_has ls 3 [(0, .ref D.1), (1, .int p0)] := hl
  generalize s.heap = H, ([] : List Loc) = locs at hM ⊢
  unfold f_X7_four at hf
  refine lv_bipush (v := nI 24) hx hb dX7_four_0 bp24 ?_
  refine lv_istore_n (lv' := [(2, .int (nI 24)), (0, .ref D.1), (1, .int p0)]) hx hb dX7_four_2 rfl hl (by decide) rfl (fun ls hl => ?_)
  obtain ⟨y10, hxy10, hf⟩ := bnd_some hf
  have hy10 : (fun t : MS => ∀ (H : Heap) (locs : List Loc) (ls : Array Slot), m_I D s H locs t → lv_has ls 3 [] → W p l e r_X7_four s m args below meth c H locs 0 0 Q (F0 m 38 ls [])) y10 := by
    obtain ⟨S11, rfl⟩ : ∃ z, z = y10 := ⟨_, rfl⟩
    intro H locs ls hM hl
    cases hf
    exact hret _ _ _ _ hM dX7_four_38
  refine lp_W (step := (fun t : Int32 × MS => f_X7_four_L3 p0 t.1 t.2)) (fun t : Int32 × MS => ∀ (H : Heap) (locs : List Loc) (ls : Array Slot), m_I D s H locs t.2 → lv_has ls 3 [(0, .ref D.1), (1, .int p0), (2, .int t.1)] → W p l e r_X7_four s m args below meth c H locs 0 0 Q (F0 m 3 ls [])) (fun t : MS => ∀ (H : Heap) (locs : List Loc) (ls : Array Slot), m_I D s H locs t → lv_has ls 3 [] → W p l e r_X7_four s m args below meth c H locs 0 0 Q (F0 m 38 ls [])) ?_ fu (nI 24, S) y10 hxy10 hy10 _ _ _ hM (lv_sub hl [1, 2, 0] rfl)
  clear hf hxy10 hy10
  rintro ⟨x1, S2⟩ o (hf : f_X7_four_L3 p0 x1 S2 = some o) hk
  intro H locs ls hM hl
  unfold f_X7_four_L3 at hf
  refine lv_iload_n hx hb dX7_four_3 rfl (lv_at hl 2 rfl) ?_
  refine lv_if_lt (tgt := 38) hx hb dX7_four_4 (by decide) (fun c3 => ?_) (fun c3 => ?_)
  · have hf := it_pos c3 hf
    cases hf
    exact hk _ _ _ hM (lv_sub hl [] rfl)
  · have hf := it_neg c3 hf
    refine lv_aload_n hx hb dX7_four_7 rfl (lv_at hl 0 rfl) ?_
    refine mr_get B hM 1 (v := .ref (D.2.1 1)) rfl (by decide) q1647 dX7_four_8 ?_
    refine lv_aload_n hx hb dX7_four_11 rfl (lv_at hl 0 rfl) ?_
    refine mr_get B hM 2 (v := .ref (D.2.1 2)) rfl (by decide) q1648 dX7_four_12 ?_
    refine lv_iconst (v := nI 0) hx hb dX7_four_15 ic0 ?_
    obtain ⟨v4, ev4, hiv4, hf⟩ := ald_some hf
    refine mr_iald B hM 2 (by decide) rfl hiv4 ev4 dX7_four_16 ?_
    refine lv_iload_n hx hb dX7_four_17 rfl (lv_at hl 1 rfl) ?_
    refine lv_iload_n hx hb dX7_four_18 rfl (lv_at hl 2 rfl) ?_
    refine lv_ishr hx hb dX7_four_19 ?_
    refine lv_i2b (v := (p0 >>> (x1 &&& 31)).toInt8.toInt32) hx hb dX7_four_20 rfl ?_
    obtain ⟨S5, eS5, hiS5, hf⟩ := ast_some hf
    refine mr_bast B hM 1 (by decide) rfl hiS5 eS5 dX7_four_21 (fun H locs hM => ?_)
    refine lv_aload_n hx hb dX7_four_22 rfl (lv_at hl 0 rfl) ?_
    refine mr_get B hM 2 (v := .ref (D.2.1 2)) rfl (by decide) q1648 dX7_four_23 ?_
    refine lv_iconst (v := nI 0) hx hb dX7_four_26 ic0 ?_
    refine lv_dup2_11 hx hb dX7_four_27 rfl rfl ?_
    obtain ⟨v6, ev6, hiv6, hf⟩ := ald_some hf
    refine mr_iald B hM 2 (by decide) rfl hiv6 ev6 dX7_four_28 ?_
    refine lv_iconst (v := nI 1) hx hb dX7_four_29 ic1 ?_
    refine lv_iadd hx hb dX7_four_30 ?_
    obtain ⟨S7, eS7, hiS7, hf⟩ := ast_some hf
    refine mr_iast B hM 2 (by decide) rfl hiS7 eS7 dX7_four_31 (fun H locs hM => ?_)
    obtain ⟨x8, ex8, hf⟩ := bd_some hf
    refine lv_iinc (v := x8) (lv' := [(2, .int x8), (0, .ref D.1), (1, .int p0)]) hx hb dX7_four_32 hl (k := 2) rfl (by rw [ex8]; first | done | rfl) (by decide) rfl (fun ls hl => ?_)
    refine lv_goto (tgt := 3) hx hb dX7_four_35 (by decide) ?_
    cases hf
    exact hk _ _ _ hM (lv_sub hl [1, 2, 0] rfl)
def f_X7_feed (S : MS) (p0 : Int32) (p1 : Int32) (p2 : Int32) (p3 : Int32) (p4 : Int32) : Option (Int32 × MS) :=
  bd (m_up S 0 0 (nI 0)) fun S1 => ald 4 (S1.1 2) (nI 0) fun v2 => (if (v2 + nI 20) ≤ nI 400 then bnd (f_X7_four S1 p0) fun S4 => bnd (f_X7_four S4 p1) fun S5 => bnd (f_X7_four S5 p2) fun S6 => bnd (f_X7_four S6 p3) fun S7 => bnd (f_X7_four S7 p4) fun S8 => ald 4 (S8.1 2) (nI 0) fun v9 => some (v9, S8) else some ((-1), S1))
abbrev r_X7_feed : Room := { frames := 1, cells := 0, slots := 0, locals := 22 }
set_option maxHeartbeats 4000000 in
set_option maxRecDepth 100000 in
theorem c_X7_feed (l : Launch) (D : MD) (S : MS) (p0 : Int32) (p1 : Int32) (p2 : Int32) (p3 : Int32) (p4 : Int32) {r : Int32} {S' : MS} (hf : f_X7_feed S p0 p1 p2 p3 p4 = some (r, S')) : m_Met l yX7_feed cX7_feed 6 (Option.some Jvm.ClassFile.FieldType.int) r_X7_feed D [.ref D.1, .int p0, .int p1, .int p2, .int p3, .int p4] S (some (.int r)) S' := by
  refine m_metI (F := 1) (L := 22) (by decide) rfl (Nat.le_of_ble_eq_true rfl) (fun p e s m args below meth c Q B hret hM ls hl => ?_)
  have hx := B.1
  have hb := B.2.1
  have hown := B.2.2.2.1
  have hts := B.2.2.2.2
  have hl : lv_has ls 6 [(0, .ref D.1), (1, .int p0), (2, .int p1), (3, .int p2), (4, .int p3), (5, .int p4)] := hl
  generalize s.heap = H, ([] : List Loc) = locs at hM ⊢
  unfold f_X7_feed at hf
  refine lv_aload_n hx hb dX7_feed_0 rfl (lv_at hl 0 rfl) ?_
  refine lv_iconst (v := nI 0) hx hb dX7_feed_1 ic0 ?_
  obtain ⟨S1, eS1, hf⟩ := bd_some hf
  refine mr_puti B hM 0 (by decide) eS1 rfl (tyX7_ok 0 (by decide)) q1646 dX7_feed_2 (fun H locs hM => ?_)
  refine lv_aload_n hx hb dX7_feed_5 rfl (lv_at hl 0 rfl) ?_
  refine mr_get B hM 2 (v := .ref (D.2.1 2)) rfl (by decide) q1648 dX7_feed_6 ?_
  refine lv_iconst (v := nI 0) hx hb dX7_feed_9 ic0 ?_
  obtain ⟨v2, ev2, hiv2, hf⟩ := ald_some hf
  refine mr_iald B hM 2 (by decide) rfl hiv2 ev2 dX7_feed_10 ?_
  refine lv_bipush (v := nI 20) hx hb dX7_feed_11 bp20 ?_
  refine lv_iadd hx hb dX7_feed_13 ?_
  refine lv_sipush (v := nI 400) hx hb dX7_feed_14 sp400 ?_
  refine lv_icmp_le (tgt := 22) hx hb dX7_feed_17 (by decide) (fun c3 => ?_) (fun c3 => ?_)
  · have hf := it_pos c3 hf
    refine lv_aload_n hx hb dX7_feed_22 rfl (lv_at hl 0 rfl) ?_
    refine lv_iload_n hx hb dX7_feed_23 rfl (lv_at hl 1 rfl) ?_
    obtain ⟨S4, hcS4, hf⟩ := bnd_some hf
    refine mr_callV (rest := []) B hM (c_X7_four l D S1 p0 hcS4) (cwV 1 hts (lw_V q1937 q1939 qs58 q113 q1940) rfl rfl rfl hd_X7_four ⟨Nat.le_of_ble_eq_true rfl, Nat.le_of_ble_eq_true rfl⟩) rfl hl.1 rfl (Nat.le_of_ble_eq_true rfl) dX7_feed_24 ⟨Nat.zero_le _, Nat.zero_le _⟩ (fun H locs hM => ?_)
    refine lv_aload_n hx hb dX7_feed_27 rfl (lv_at hl 0 rfl) ?_
    refine lv_iload_n hx hb dX7_feed_28 rfl (lv_at hl 2 rfl) ?_
    obtain ⟨S5, hcS5, hf⟩ := bnd_some hf
    refine mr_callV (rest := []) B hM (c_X7_four l D S4 p1 hcS5) (cwV 1 hts (lw_V q1937 q1939 qs58 q113 q1940) rfl rfl rfl hd_X7_four ⟨Nat.le_of_ble_eq_true rfl, Nat.le_of_ble_eq_true rfl⟩) rfl hl.1 rfl (Nat.le_of_ble_eq_true rfl) dX7_feed_29 ⟨Nat.zero_le _, Nat.zero_le _⟩ (fun H locs hM => ?_)
    refine lv_aload_n hx hb dX7_feed_32 rfl (lv_at hl 0 rfl) ?_
    refine lv_iload_n hx hb dX7_feed_33 rfl (lv_at hl 3 rfl) ?_
    obtain ⟨S6, hcS6, hf⟩ := bnd_some hf
    refine mr_callV (rest := []) B hM (c_X7_four l D S5 p2 hcS6) (cwV 1 hts (lw_V q1937 q1939 qs58 q113 q1940) rfl rfl rfl hd_X7_four ⟨Nat.le_of_ble_eq_true rfl, Nat.le_of_ble_eq_true rfl⟩) rfl hl.1 rfl (Nat.le_of_ble_eq_true rfl) dX7_feed_34 ⟨Nat.zero_le _, Nat.zero_le _⟩ (fun H locs hM => ?_)
    refine lv_aload_n hx hb dX7_feed_37 rfl (lv_at hl 0 rfl) ?_
    refine lv_iload hx hb dX7_feed_38 (lv_at hl 4 rfl) ?_
    obtain ⟨S7, hcS7, hf⟩ := bnd_some hf
    refine mr_callV (rest := []) B hM (c_X7_four l D S6 p3 hcS7) (cwV 1 hts (lw_V q1937 q1939 qs58 q113 q1940) rfl rfl rfl hd_X7_four ⟨Nat.le_of_ble_eq_true rfl, Nat.le_of_ble_eq_true rfl⟩) rfl hl.1 rfl (Nat.le_of_ble_eq_true rfl) dX7_feed_40 ⟨Nat.zero_le _, Nat.zero_le _⟩ (fun H locs hM => ?_)
    refine lv_aload_n hx hb dX7_feed_43 rfl (lv_at hl 0 rfl) ?_
    refine lv_iload hx hb dX7_feed_44 (lv_at hl 5 rfl) ?_
    obtain ⟨S8, hcS8, hf⟩ := bnd_some hf
    refine mr_callV (rest := []) B hM (c_X7_four l D S7 p4 hcS8) (cwV 1 hts (lw_V q1937 q1939 qs58 q113 q1940) rfl rfl rfl hd_X7_four ⟨Nat.le_of_ble_eq_true rfl, Nat.le_of_ble_eq_true rfl⟩) rfl hl.1 rfl (Nat.le_of_ble_eq_true rfl) dX7_feed_46 ⟨Nat.zero_le _, Nat.zero_le _⟩ (fun H locs hM => ?_)
    refine lv_aload_n hx hb dX7_feed_49 rfl (lv_at hl 0 rfl) ?_
    refine mr_get B hM 2 (v := .ref (D.2.1 2)) rfl (by decide) q1648 dX7_feed_50 ?_
    refine lv_iconst (v := nI 0) hx hb dX7_feed_53 ic0 ?_
    obtain ⟨v9, ev9, hiv9, hf⟩ := ald_some hf
    refine mr_iald B hM 2 (by decide) rfl hiv9 ev9 dX7_feed_54 ?_
    cases hf
    exact hret _ _ _ _ rfl hM dX7_feed_55
  · have hf := it_neg c3 hf
    refine lv_iconst (v := (-1)) hx hb dX7_feed_20 icm1 ?_
    cases hf
    exact hret _ _ _ _ rfl hM dX7_feed_21
def f_X7_end (S : MS) (p0 : Int32) : Option (Int32 × MS) :=
  bd (m_up S 0 0 (nI 0)) fun S1 => ald 4 (S1.1 2) (nI 0) fun v2 => bnd (f_X7_in p0 (nI 0) v2) fun r3 => (if r3 = 0 then some ((-1), S1) else ast 4 (nI 0) (m_up S1 2 (nI 0).toNatClampNeg p0) fun S5 => some (p0, S5))
abbrev r_X7_end : Room := { frames := 1, cells := 0, slots := 0, locals := 22 }
set_option maxHeartbeats 4000000 in
set_option maxRecDepth 100000 in
theorem c_X7_end (l : Launch) (D : MD) (S : MS) (p0 : Int32) {r : Int32} {S' : MS} (hf : f_X7_end S p0 = some (r, S')) : m_Met l yX7_end cX7_end 2 (Option.some Jvm.ClassFile.FieldType.int) r_X7_end D [.ref D.1, .int p0] S (some (.int r)) S' := by
  refine m_metI (F := 1) (L := 22) (by decide) rfl (Nat.le_of_ble_eq_true rfl) (fun p e s m args below meth c Q B hret hM ls hl => ?_)
  have hx := B.1
  have hb := B.2.1
  have hown := B.2.2.2.1
  have hts := B.2.2.2.2
  have hl : lv_has ls 2 [(0, .ref D.1), (1, .int p0)] := hl
  generalize s.heap = H, ([] : List Loc) = locs at hM ⊢
  unfold f_X7_end at hf
  refine lv_aload_n hx hb dX7_end_0 rfl (lv_at hl 0 rfl) ?_
  refine lv_iconst (v := nI 0) hx hb dX7_end_1 ic0 ?_
  obtain ⟨S1, eS1, hf⟩ := bd_some hf
  refine mr_puti B hM 0 (by decide) eS1 rfl (tyX7_ok 0 (by decide)) q1646 dX7_end_2 (fun H locs hM => ?_)
  refine lv_iload_n hx hb dX7_end_5 rfl (lv_at hl 1 rfl) ?_
  refine lv_iconst (v := nI 0) hx hb dX7_end_6 ic0 ?_
  refine lv_aload_n hx hb dX7_end_7 rfl (lv_at hl 0 rfl) ?_
  refine mr_get B hM 2 (v := .ref (D.2.1 2)) rfl (by decide) q1648 dX7_end_8 ?_
  refine lv_iconst (v := nI 0) hx hb dX7_end_11 ic0 ?_
  obtain ⟨v2, ev2, hiv2, hf⟩ := ald_some hf
  refine mr_iald B hM 2 (by decide) rfl hiv2 ev2 dX7_end_12 ?_
  obtain ⟨r3, hcr3, hf⟩ := bnd_some hf
  refine pr_callS (rest := []) B (c_X7_in l p0 (nI 0) v2 hcr3) (va_cwS 3 hts (lw_S q1841 q1842 q113 q1843) rfl rfl rfl hd_X7_in ⟨Nat.le_of_ble_eq_true rfl, Nat.le_of_ble_eq_true rfl⟩) rfl hl.1 rfl (Nat.le_of_ble_eq_true rfl) dX7_end_13 ⟨Nat.zero_le _, Nat.zero_le _⟩ ?_
  refine lv_if_ne (tgt := 21) hx hb dX7_end_16 (by decide) (fun c4 => ?_) (fun c4 => ?_)
  · have hf := it_neg c4 hf
    refine lv_aload_n hx hb dX7_end_21 rfl (lv_at hl 0 rfl) ?_
    refine mr_get B hM 2 (v := .ref (D.2.1 2)) rfl (by decide) q1648 dX7_end_22 ?_
    refine lv_iconst (v := nI 0) hx hb dX7_end_25 ic0 ?_
    refine lv_iload_n hx hb dX7_end_26 rfl (lv_at hl 1 rfl) ?_
    obtain ⟨S5, eS5, hiS5, hf⟩ := ast_some hf
    refine mr_iast B hM 2 (by decide) rfl hiS5 eS5 dX7_end_27 (fun H locs hM => ?_)
    refine lv_iload_n hx hb dX7_end_28 rfl (lv_at hl 1 rfl) ?_
    cases hf
    exact hret _ _ _ _ rfl hM dX7_end_29
  · have hf := it_pos c4 hf
    refine lv_iconst (v := (-1)) hx hb dX7_end_19 icm1 ?_
    cases hf
    exact hret _ _ _ _ rfl hM dX7_end_20
def f_X7_keepText_L12 (p0 : Int32) (x2 : Int32) (S3 : MS) : Option ((Int32 × MS) ⊕ ((MS))) :=
  (if (S3.1 40 0) ≤ x2 then some (.inr S3) else ald 41 (S3.1 41) x2 fun v5 => ast 1440 ((nI 40 * p0) + x2) (m_up S3 16 ((nI 40 * p0) + x2).toNatClampNeg v5) fun S6 => ald 41 (S6.1 42) x2 fun v7 => ast 1440 ((nI 40 * p0) + x2) (m_up S6 17 ((nI 40 * p0) + x2).toNatClampNeg v7) fun S8 => ald 41 (S8.1 43) x2 fun v9 => ast 1440 ((nI 40 * p0) + x2) (m_up S8 18 ((nI 40 * p0) + x2).toNatClampNeg v9) fun S10 => ald 41 (S10.1 44) x2 fun v11 => ast 1440 ((nI 40 * p0) + x2) (m_up S10 19 ((nI 40 * p0) + x2).toNatClampNeg v11) fun S12 => bd (x2 + nI 1) fun x13 => some (.inl (x13, S12)))
def f_X7_keepText (S : MS) (p0 : Int32) : Option MS :=
  ast 36 p0 (m_up S 15 p0.toNatClampNeg (S.1 40 0)) fun S1 => bnd (wO (fun t : Int32 × MS => f_X7_keepText_L12 p0 t.1 t.2) fu (nI 0, S1)) <| fun S16 => some S16
abbrev r_X7_keepText : Room := { frames := 0, cells := 0, slots := 0, locals := 0 }
set_option maxHeartbeats 4000000 in
set_option maxRecDepth 100000 in
theorem c_X7_keepText (l : Launch) (D : MD) (S : MS) (p0 : Int32) {S' : MS} (hf : f_X7_keepText S p0 = some S') : m_Met l yX7_keepText cX7_keepText 3 (Option.none : Option Jvm.ClassFile.FieldType) r_X7_keepText D [.ref D.1, .int p0] S none S' := by
  refine m_metV (F := 0) (L := 0) (by decide) rfl (Nat.le_of_ble_eq_true rfl) (fun p e s m args below meth c Q B hret hM ls hl => ?_)
  have hx := B.1
  have hb := B.2.1
  have hown := B.2.2.2.1
  have hts := B.2.2.2.2
  have hl : lv_has ls 3 [(0, .ref D.1), (1, .int p0)] := hl
  generalize s.heap = H, ([] : List Loc) = locs at hM ⊢
  unfold f_X7_keepText at hf
  refine lv_aload_n hx hb dX7_keepText_0 rfl (lv_at hl 0 rfl) ?_
  refine mr_get B hM 15 (v := .ref (D.2.1 15)) rfl (by decide) q1661 dX7_keepText_1 ?_
  refine lv_iload_n hx hb dX7_keepText_4 rfl (lv_at hl 1 rfl) ?_
  refine lv_aload_n hx hb dX7_keepText_5 rfl (lv_at hl 0 rfl) ?_
  refine mr_get B hM 40 (v := .int (S.1 40 0)) rfl (by decide) q1686 dX7_keepText_6 ?_
  obtain ⟨S1, eS1, hiS1, hf⟩ := ast_some hf
  refine mr_iast B hM 15 (by decide) rfl hiS1 eS1 dX7_keepText_9 (fun H locs hM => ?_)
  refine lv_iconst (v := nI 0) hx hb dX7_keepText_10 ic0 ?_
  refine lv_istore_n (lv' := [(2, .int (nI 0)), (0, .ref D.1), (1, .int p0)]) hx hb dX7_keepText_11 rfl hl (by decide) rfl (fun ls hl => ?_)
  obtain ⟨y15, hxy15, hf⟩ := bnd_some hf
  have hy15 : (fun t : MS => ∀ (H : Heap) (locs : List Loc) (ls : Array Slot), m_I D s H locs t → lv_has ls 3 [] → W p l e r_X7_keepText s m args below meth c H locs 0 0 Q (F0 m 94 ls [])) y15 := by
    obtain ⟨S16, rfl⟩ : ∃ z, z = y15 := ⟨_, rfl⟩
    intro H locs ls hM hl
    cases hf
    exact hret _ _ _ _ hM dX7_keepText_94
  refine lp_W (step := (fun t : Int32 × MS => f_X7_keepText_L12 p0 t.1 t.2)) (fun t : Int32 × MS => ∀ (H : Heap) (locs : List Loc) (ls : Array Slot), m_I D s H locs t.2 → lv_has ls 3 [(0, .ref D.1), (1, .int p0), (2, .int t.1)] → W p l e r_X7_keepText s m args below meth c H locs 0 0 Q (F0 m 12 ls [])) (fun t : MS => ∀ (H : Heap) (locs : List Loc) (ls : Array Slot), m_I D s H locs t → lv_has ls 3 [] → W p l e r_X7_keepText s m args below meth c H locs 0 0 Q (F0 m 94 ls [])) ?_ fu (nI 0, S1) y15 hxy15 hy15 _ _ _ hM (lv_sub hl [1, 2, 0] rfl)
  clear hf hxy15 hy15
  rintro ⟨x2, S3⟩ o (hf : f_X7_keepText_L12 p0 x2 S3 = some o) hk
  intro H locs ls hM hl
  unfold f_X7_keepText_L12 at hf
  refine lv_iload_n hx hb dX7_keepText_12 rfl (lv_at hl 2 rfl) ?_
  refine lv_aload_n hx hb dX7_keepText_13 rfl (lv_at hl 0 rfl) ?_
  refine mr_get B hM 40 (v := .int (S3.1 40 0)) rfl (by decide) q1686 dX7_keepText_14 ?_
  refine lv_icmp_ge (tgt := 94) hx hb dX7_keepText_17 (by decide) (fun c4 => ?_) (fun c4 => ?_)
  · have hf := it_pos c4 hf
    cases hf
    exact hk _ _ _ hM (lv_sub hl [] rfl)
  · have hf := it_neg c4 hf
    refine lv_aload_n hx hb dX7_keepText_20 rfl (lv_at hl 0 rfl) ?_
    refine mr_get B hM 16 (v := .ref (D.2.1 16)) rfl (by decide) q1662 dX7_keepText_21 ?_
    refine lv_bipush (v := nI 40) hx hb dX7_keepText_24 bp40 ?_
    refine lv_iload_n hx hb dX7_keepText_26 rfl (lv_at hl 1 rfl) ?_
    refine lv_imul hx hb dX7_keepText_27 ?_
    refine lv_iload_n hx hb dX7_keepText_28 rfl (lv_at hl 2 rfl) ?_
    refine lv_iadd hx hb dX7_keepText_29 ?_
    refine lv_aload_n hx hb dX7_keepText_30 rfl (lv_at hl 0 rfl) ?_
    refine mr_get B hM 41 (v := .ref (D.2.1 41)) rfl (by decide) q1687 dX7_keepText_31 ?_
    refine lv_iload_n hx hb dX7_keepText_34 rfl (lv_at hl 2 rfl) ?_
    obtain ⟨v5, ev5, hiv5, hf⟩ := ald_some hf
    refine mr_iald B hM 41 (by decide) rfl hiv5 ev5 dX7_keepText_35 ?_
    obtain ⟨S6, eS6, hiS6, hf⟩ := ast_some hf
    refine mr_iast B hM 16 (by decide) rfl hiS6 eS6 dX7_keepText_36 (fun H locs hM => ?_)
    refine lv_aload_n hx hb dX7_keepText_37 rfl (lv_at hl 0 rfl) ?_
    refine mr_get B hM 17 (v := .ref (D.2.1 17)) rfl (by decide) q1663 dX7_keepText_38 ?_
    refine lv_bipush (v := nI 40) hx hb dX7_keepText_41 bp40 ?_
    refine lv_iload_n hx hb dX7_keepText_43 rfl (lv_at hl 1 rfl) ?_
    refine lv_imul hx hb dX7_keepText_44 ?_
    refine lv_iload_n hx hb dX7_keepText_45 rfl (lv_at hl 2 rfl) ?_
    refine lv_iadd hx hb dX7_keepText_46 ?_
    refine lv_aload_n hx hb dX7_keepText_47 rfl (lv_at hl 0 rfl) ?_
    refine mr_get B hM 42 (v := .ref (D.2.1 42)) rfl (by decide) q1688 dX7_keepText_48 ?_
    refine lv_iload_n hx hb dX7_keepText_51 rfl (lv_at hl 2 rfl) ?_
    obtain ⟨v7, ev7, hiv7, hf⟩ := ald_some hf
    refine mr_iald B hM 42 (by decide) rfl hiv7 ev7 dX7_keepText_52 ?_
    obtain ⟨S8, eS8, hiS8, hf⟩ := ast_some hf
    refine mr_iast B hM 17 (by decide) rfl hiS8 eS8 dX7_keepText_53 (fun H locs hM => ?_)
    refine lv_aload_n hx hb dX7_keepText_54 rfl (lv_at hl 0 rfl) ?_
    refine mr_get B hM 18 (v := .ref (D.2.1 18)) rfl (by decide) q1664 dX7_keepText_55 ?_
    refine lv_bipush (v := nI 40) hx hb dX7_keepText_58 bp40 ?_
    refine lv_iload_n hx hb dX7_keepText_60 rfl (lv_at hl 1 rfl) ?_
    refine lv_imul hx hb dX7_keepText_61 ?_
    refine lv_iload_n hx hb dX7_keepText_62 rfl (lv_at hl 2 rfl) ?_
    refine lv_iadd hx hb dX7_keepText_63 ?_
    refine lv_aload_n hx hb dX7_keepText_64 rfl (lv_at hl 0 rfl) ?_
    refine mr_get B hM 43 (v := .ref (D.2.1 43)) rfl (by decide) q1689 dX7_keepText_65 ?_
    refine lv_iload_n hx hb dX7_keepText_68 rfl (lv_at hl 2 rfl) ?_
    obtain ⟨v9, ev9, hiv9, hf⟩ := ald_some hf
    refine mr_iald B hM 43 (by decide) rfl hiv9 ev9 dX7_keepText_69 ?_
    obtain ⟨S10, eS10, hiS10, hf⟩ := ast_some hf
    refine mr_iast B hM 18 (by decide) rfl hiS10 eS10 dX7_keepText_70 (fun H locs hM => ?_)
    refine lv_aload_n hx hb dX7_keepText_71 rfl (lv_at hl 0 rfl) ?_
    refine mr_get B hM 19 (v := .ref (D.2.1 19)) rfl (by decide) q1665 dX7_keepText_72 ?_
    refine lv_bipush (v := nI 40) hx hb dX7_keepText_75 bp40 ?_
    refine lv_iload_n hx hb dX7_keepText_77 rfl (lv_at hl 1 rfl) ?_
    refine lv_imul hx hb dX7_keepText_78 ?_
    refine lv_iload_n hx hb dX7_keepText_79 rfl (lv_at hl 2 rfl) ?_
    refine lv_iadd hx hb dX7_keepText_80 ?_
    refine lv_aload_n hx hb dX7_keepText_81 rfl (lv_at hl 0 rfl) ?_
    refine mr_get B hM 44 (v := .ref (D.2.1 44)) rfl (by decide) q1690 dX7_keepText_82 ?_
    refine lv_iload_n hx hb dX7_keepText_85 rfl (lv_at hl 2 rfl) ?_
    obtain ⟨v11, ev11, hiv11, hf⟩ := ald_some hf
    refine mr_iald B hM 44 (by decide) rfl hiv11 ev11 dX7_keepText_86 ?_
    obtain ⟨S12, eS12, hiS12, hf⟩ := ast_some hf
    refine mr_iast B hM 19 (by decide) rfl hiS12 eS12 dX7_keepText_87 (fun H locs hM => ?_)
    obtain ⟨x13, ex13, hf⟩ := bd_some hf
    refine lv_iinc (v := x13) (lv' := [(2, .int x13), (0, .ref D.1), (1, .int p0)]) hx hb dX7_keepText_88 hl (k := 2) rfl (by rw [ex13]; first | done | rfl) (by decide) rfl (fun ls hl => ?_)
    refine lv_goto (tgt := 12) hx hb dX7_keepText_91 (by decide) ?_
    cases hf
    exact hk _ _ _ hM (lv_sub hl [1, 2, 0] rfl)
def f_X7_isWord (S : MS) (p0 : Int64) : Option Int32 :=
  (if (S.1 32 0) = nI 2 then (if (lg_cmp S.2 p0) = 0 then some (nI 1) else some (nI 0)) else some (nI 0))
abbrev r_X7_isWord : Room := { frames := 0, cells := 0, slots := 0, locals := 0 }
set_option maxHeartbeats 4000000 in
set_option maxRecDepth 100000 in
theorem c_X7_isWord (l : Launch) (D : MD) (S : MS) (p0 : Int64) {r : Int32} (hf : f_X7_isWord S p0 = some r) : m_Met l yX7_isWord cX7_isWord 3 (Option.some Jvm.ClassFile.FieldType.boolean) r_X7_isWord D [.ref D.1, .long p0] S (some (.int r)) S := by
  refine m_metI (F := 0) (L := 0) (by decide) rfl (Nat.le_of_ble_eq_true rfl) (fun p e s m args below meth c Q B hret hM ls hl => ?_)
  have hx := B.1
  have hb := B.2.1
  have hown := B.2.2.2.1
  have hts := B.2.2.2.2
  have hl : lv_has ls 3 [(0, .ref D.1), (1, .long p0)] := hl
  generalize s.heap = H, ([] : List Loc) = locs at hM ⊢
  unfold f_X7_isWord at hf
  refine lv_aload_n hx hb dX7_isWord_0 rfl (lv_at hl 0 rfl) ?_
  refine mr_get B hM 32 (v := .int (S.1 32 0)) rfl (by decide) q1678 dX7_isWord_1 ?_
  refine lv_iconst (v := nI 2) hx hb dX7_isWord_4 ic2 ?_
  refine lv_icmp_ne (tgt := 21) hx hb dX7_isWord_5 (by decide) (fun c1 => ?_) (fun c1 => ?_)
  · have hf := it_neg c1 hf
    refine lv_iconst (v := nI 0) hx hb dX7_isWord_21 ic0 ?_
    cases hf
    exact hret _ _ _ _ rfl hM dX7_isWord_22
  · have hf := it_pos c1 hf
    refine lv_aload_n hx hb dX7_isWord_8 rfl (lv_at hl 0 rfl) ?_
    refine mr_get B hM 34 (v := .long S.2) rfl (by decide) q1680 dX7_isWord_9 ?_
    refine lv_lload_n hx hb dX7_isWord_12 rfl (lv_at hl 1 rfl) ?_
    refine W.lcmp hx hb dX7_isWord_13 ?_
    refine lv_if_ne (tgt := 21) hx hb dX7_isWord_14 (by decide) (fun c2 => ?_) (fun c2 => ?_)
    · have hf := it_neg c2 hf
      refine lv_iconst (v := nI 0) hx hb dX7_isWord_21 ic0 ?_
      cases hf
      exact hret _ _ _ _ rfl hM dX7_isWord_22
    · have hf := it_pos c2 hf
      refine lv_iconst (v := nI 1) hx hb dX7_isWord_17 ic1 ?_
      refine lv_goto (tgt := 22) hx hb dX7_isWord_18 (by decide) ?_
      cases hf
      exact hret _ _ _ _ rfl hM dX7_isWord_22
def f_X7_actOf (S : MS) : Option Int32 :=
  bnd (f_X7_isWord S (6384748 : Int64)) fun r1 => (if r1 = 0 then bnd (f_X7_isWord S (1936682341 : Int64)) fun r3 => (if r3 = 0 then bnd (f_X7_isWord S (465557353332 : Int64)) fun r5 => (if r5 = 0 then bnd (f_X7_isWord S (1836020596 : Int64)) fun r7 => (if r7 = 0 then bnd (f_X7_isWord S (7237492 : Int64)) fun r9 => (if r9 = 0 then bnd (f_X7_isWord S (6385252 : Int64)) fun r11 => (if r11 = 0 then bnd (f_X7_isWord S (28530 : Int64)) fun r13 => (if r13 = 0 then bnd (f_X7_isWord S (26982 : Int64)) fun r15 => (if r15 = 0 then bnd (f_X7_isWord S (1935764837 : Int64)) fun r17 => (if r17 = 0 then bnd (f_X7_isWord S (491327153000 : Int64)) fun r19 => (if r19 = 0 then bnd (f_X7_isWord S (1953654117 : Int64)) fun r21 => (if r21 = 0 then some (-1) else some (nI 10)) else some (nI 9)) else some (nI 8)) else some (nI 7)) else some (nI 6)) else some (nI 5)) else some (nI 4)) else some (nI 3)) else some (nI 2)) else some (nI 1)) else some (nI 0))
abbrev r_X7_actOf : Room := { frames := 1, cells := 0, slots := 0, locals := 22 }
set_option maxHeartbeats 4000000 in
set_option maxRecDepth 100000 in
theorem c_X7_actOf (l : Launch) (D : MD) (S : MS)  {r : Int32} (hf : f_X7_actOf S = some r) : m_Met l yX7_actOf cX7_actOf 1 (Option.some Jvm.ClassFile.FieldType.int) r_X7_actOf D [.ref D.1] S (some (.int r)) S := by
  refine m_metI (F := 1) (L := 22) (by decide) rfl (Nat.le_of_ble_eq_true rfl) (fun p e s m args below meth c Q B hret hM ls hl => ?_)
  have hx := B.1
  have hb := B.2.1
  have hown := B.2.2.2.1
  have hts := B.2.2.2.2
  have hl : lv_has ls 1 [(0, .ref D.1)] := hl
  generalize s.heap = H, ([] : List Loc) = locs at hM ⊢
  unfold f_X7_actOf at hf
  refine lv_aload_n hx hb dX7_actOf_0 rfl (lv_at hl 0 rfl) ?_
  refine lv_ldc2 (v := (6384748 : Int64)) hx hb hown (hts _ q1977) dX7_actOf_1 ?_
  obtain ⟨r1, hcr1, hf⟩ := bnd_some hf
  refine mr_callV (rest := []) B hM (c_X7_isWord l D S (6384748 : Int64) hcr1) (cwV 1 hts (lw_V q1978 q1980 qs66 q113 q1981) rfl rfl rfl hd_X7_isWord ⟨Nat.le_of_ble_eq_true rfl, Nat.le_of_ble_eq_true rfl⟩) rfl hl.1 rfl (Nat.le_of_ble_eq_true rfl) dX7_actOf_4 ⟨Nat.zero_le _, Nat.zero_le _⟩ (fun H locs hM => ?_)
  refine lv_if_eq (tgt := 14) hx hb dX7_actOf_7 (by decide) (fun c2 => ?_) (fun c2 => ?_)
  · have hf := it_pos c2 hf
    refine lv_aload_n hx hb dX7_actOf_14 rfl (lv_at hl 0 rfl) ?_
    refine lv_ldc2 (v := (1936682341 : Int64)) hx hb hown (hts _ q1982) dX7_actOf_15 ?_
    obtain ⟨r3, hcr3, hf⟩ := bnd_some hf
    refine mr_callV (rest := []) B hM (c_X7_isWord l D S (1936682341 : Int64) hcr3) (cwV 1 hts (lw_V q1978 q1980 qs66 q113 q1981) rfl rfl rfl hd_X7_isWord ⟨Nat.le_of_ble_eq_true rfl, Nat.le_of_ble_eq_true rfl⟩) rfl hl.1 rfl (Nat.le_of_ble_eq_true rfl) dX7_actOf_18 ⟨Nat.zero_le _, Nat.zero_le _⟩ (fun H locs hM => ?_)
    refine lv_if_eq (tgt := 28) hx hb dX7_actOf_21 (by decide) (fun c4 => ?_) (fun c4 => ?_)
    · have hf := it_pos c4 hf
      refine lv_aload_n hx hb dX7_actOf_28 rfl (lv_at hl 0 rfl) ?_
      refine lv_ldc2 (v := (465557353332 : Int64)) hx hb hown (hts _ q1983) dX7_actOf_29 ?_
      obtain ⟨r5, hcr5, hf⟩ := bnd_some hf
      refine mr_callV (rest := []) B hM (c_X7_isWord l D S (465557353332 : Int64) hcr5) (cwV 1 hts (lw_V q1978 q1980 qs66 q113 q1981) rfl rfl rfl hd_X7_isWord ⟨Nat.le_of_ble_eq_true rfl, Nat.le_of_ble_eq_true rfl⟩) rfl hl.1 rfl (Nat.le_of_ble_eq_true rfl) dX7_actOf_32 ⟨Nat.zero_le _, Nat.zero_le _⟩ (fun H locs hM => ?_)
      refine lv_if_eq (tgt := 42) hx hb dX7_actOf_35 (by decide) (fun c6 => ?_) (fun c6 => ?_)
      · have hf := it_pos c6 hf
        refine lv_aload_n hx hb dX7_actOf_42 rfl (lv_at hl 0 rfl) ?_
        refine lv_ldc2 (v := (1836020596 : Int64)) hx hb hown (hts _ q1984) dX7_actOf_43 ?_
        obtain ⟨r7, hcr7, hf⟩ := bnd_some hf
        refine mr_callV (rest := []) B hM (c_X7_isWord l D S (1836020596 : Int64) hcr7) (cwV 1 hts (lw_V q1978 q1980 qs66 q113 q1981) rfl rfl rfl hd_X7_isWord ⟨Nat.le_of_ble_eq_true rfl, Nat.le_of_ble_eq_true rfl⟩) rfl hl.1 rfl (Nat.le_of_ble_eq_true rfl) dX7_actOf_46 ⟨Nat.zero_le _, Nat.zero_le _⟩ (fun H locs hM => ?_)
        refine lv_if_eq (tgt := 56) hx hb dX7_actOf_49 (by decide) (fun c8 => ?_) (fun c8 => ?_)
        · have hf := it_pos c8 hf
          refine lv_aload_n hx hb dX7_actOf_56 rfl (lv_at hl 0 rfl) ?_
          refine lv_ldc2 (v := (7237492 : Int64)) hx hb hown (hts _ q1985) dX7_actOf_57 ?_
          obtain ⟨r9, hcr9, hf⟩ := bnd_some hf
          refine mr_callV (rest := []) B hM (c_X7_isWord l D S (7237492 : Int64) hcr9) (cwV 1 hts (lw_V q1978 q1980 qs66 q113 q1981) rfl rfl rfl hd_X7_isWord ⟨Nat.le_of_ble_eq_true rfl, Nat.le_of_ble_eq_true rfl⟩) rfl hl.1 rfl (Nat.le_of_ble_eq_true rfl) dX7_actOf_60 ⟨Nat.zero_le _, Nat.zero_le _⟩ (fun H locs hM => ?_)
          refine lv_if_eq (tgt := 70) hx hb dX7_actOf_63 (by decide) (fun c10 => ?_) (fun c10 => ?_)
          · have hf := it_pos c10 hf
            refine lv_aload_n hx hb dX7_actOf_70 rfl (lv_at hl 0 rfl) ?_
            refine lv_ldc2 (v := (6385252 : Int64)) hx hb hown (hts _ q1986) dX7_actOf_71 ?_
            obtain ⟨r11, hcr11, hf⟩ := bnd_some hf
            refine mr_callV (rest := []) B hM (c_X7_isWord l D S (6385252 : Int64) hcr11) (cwV 1 hts (lw_V q1978 q1980 qs66 q113 q1981) rfl rfl rfl hd_X7_isWord ⟨Nat.le_of_ble_eq_true rfl, Nat.le_of_ble_eq_true rfl⟩) rfl hl.1 rfl (Nat.le_of_ble_eq_true rfl) dX7_actOf_74 ⟨Nat.zero_le _, Nat.zero_le _⟩ (fun H locs hM => ?_)
            refine lv_if_eq (tgt := 84) hx hb dX7_actOf_77 (by decide) (fun c12 => ?_) (fun c12 => ?_)
            · have hf := it_pos c12 hf
              refine lv_aload_n hx hb dX7_actOf_84 rfl (lv_at hl 0 rfl) ?_
              refine lv_ldc2 (v := (28530 : Int64)) hx hb hown (hts _ q1987) dX7_actOf_85 ?_
              obtain ⟨r13, hcr13, hf⟩ := bnd_some hf
              refine mr_callV (rest := []) B hM (c_X7_isWord l D S (28530 : Int64) hcr13) (cwV 1 hts (lw_V q1978 q1980 qs66 q113 q1981) rfl rfl rfl hd_X7_isWord ⟨Nat.le_of_ble_eq_true rfl, Nat.le_of_ble_eq_true rfl⟩) rfl hl.1 rfl (Nat.le_of_ble_eq_true rfl) dX7_actOf_88 ⟨Nat.zero_le _, Nat.zero_le _⟩ (fun H locs hM => ?_)
              refine lv_if_eq (tgt := 99) hx hb dX7_actOf_91 (by decide) (fun c14 => ?_) (fun c14 => ?_)
              · have hf := it_pos c14 hf
                refine lv_aload_n hx hb dX7_actOf_99 rfl (lv_at hl 0 rfl) ?_
                refine lv_ldc2 (v := (26982 : Int64)) hx hb hown (hts _ q1988) dX7_actOf_100 ?_
                obtain ⟨r15, hcr15, hf⟩ := bnd_some hf
                refine mr_callV (rest := []) B hM (c_X7_isWord l D S (26982 : Int64) hcr15) (cwV 1 hts (lw_V q1978 q1980 qs66 q113 q1981) rfl rfl rfl hd_X7_isWord ⟨Nat.le_of_ble_eq_true rfl, Nat.le_of_ble_eq_true rfl⟩) rfl hl.1 rfl (Nat.le_of_ble_eq_true rfl) dX7_actOf_103 ⟨Nat.zero_le _, Nat.zero_le _⟩ (fun H locs hM => ?_)
                refine lv_if_eq (tgt := 114) hx hb dX7_actOf_106 (by decide) (fun c16 => ?_) (fun c16 => ?_)
                · have hf := it_pos c16 hf
                  refine lv_aload_n hx hb dX7_actOf_114 rfl (lv_at hl 0 rfl) ?_
                  refine lv_ldc2 (v := (1935764837 : Int64)) hx hb hown (hts _ q1989) dX7_actOf_115 ?_
                  obtain ⟨r17, hcr17, hf⟩ := bnd_some hf
                  refine mr_callV (rest := []) B hM (c_X7_isWord l D S (1935764837 : Int64) hcr17) (cwV 1 hts (lw_V q1978 q1980 qs66 q113 q1981) rfl rfl rfl hd_X7_isWord ⟨Nat.le_of_ble_eq_true rfl, Nat.le_of_ble_eq_true rfl⟩) rfl hl.1 rfl (Nat.le_of_ble_eq_true rfl) dX7_actOf_118 ⟨Nat.zero_le _, Nat.zero_le _⟩ (fun H locs hM => ?_)
                  refine lv_if_eq (tgt := 129) hx hb dX7_actOf_121 (by decide) (fun c18 => ?_) (fun c18 => ?_)
                  · have hf := it_pos c18 hf
                    refine lv_aload_n hx hb dX7_actOf_129 rfl (lv_at hl 0 rfl) ?_
                    refine lv_ldc2 (v := (491327153000 : Int64)) hx hb hown (hts _ q1990) dX7_actOf_130 ?_
                    obtain ⟨r19, hcr19, hf⟩ := bnd_some hf
                    refine mr_callV (rest := []) B hM (c_X7_isWord l D S (491327153000 : Int64) hcr19) (cwV 1 hts (lw_V q1978 q1980 qs66 q113 q1981) rfl rfl rfl hd_X7_isWord ⟨Nat.le_of_ble_eq_true rfl, Nat.le_of_ble_eq_true rfl⟩) rfl hl.1 rfl (Nat.le_of_ble_eq_true rfl) dX7_actOf_133 ⟨Nat.zero_le _, Nat.zero_le _⟩ (fun H locs hM => ?_)
                    refine lv_if_eq (tgt := 144) hx hb dX7_actOf_136 (by decide) (fun c20 => ?_) (fun c20 => ?_)
                    · have hf := it_pos c20 hf
                      refine lv_aload_n hx hb dX7_actOf_144 rfl (lv_at hl 0 rfl) ?_
                      refine lv_ldc2 (v := (1953654117 : Int64)) hx hb hown (hts _ q1991) dX7_actOf_145 ?_
                      obtain ⟨r21, hcr21, hf⟩ := bnd_some hf
                      refine mr_callV (rest := []) B hM (c_X7_isWord l D S (1953654117 : Int64) hcr21) (cwV 1 hts (lw_V q1978 q1980 qs66 q113 q1981) rfl rfl rfl hd_X7_isWord ⟨Nat.le_of_ble_eq_true rfl, Nat.le_of_ble_eq_true rfl⟩) rfl hl.1 rfl (Nat.le_of_ble_eq_true rfl) dX7_actOf_148 ⟨Nat.zero_le _, Nat.zero_le _⟩ (fun H locs hM => ?_)
                      refine lv_if_eq (tgt := 159) hx hb dX7_actOf_151 (by decide) (fun c22 => ?_) (fun c22 => ?_)
                      · have hf := it_pos c22 hf
                        refine lv_iconst (v := (-1)) hx hb dX7_actOf_159 icm1 ?_
                        cases hf
                        exact hret _ _ _ _ rfl hM dX7_actOf_160
                      · have hf := it_neg c22 hf
                        refine lv_bipush (v := nI 10) hx hb dX7_actOf_154 bp10 ?_
                        refine lv_goto (tgt := 160) hx hb dX7_actOf_156 (by decide) ?_
                        cases hf
                        exact hret _ _ _ _ rfl hM dX7_actOf_160
                    · have hf := it_neg c20 hf
                      refine lv_bipush (v := nI 9) hx hb dX7_actOf_139 bp9 ?_
                      refine lv_goto (tgt := 160) hx hb dX7_actOf_141 (by decide) ?_
                      cases hf
                      exact hret _ _ _ _ rfl hM dX7_actOf_160
                  · have hf := it_neg c18 hf
                    refine lv_bipush (v := nI 8) hx hb dX7_actOf_124 bp8 ?_
                    refine lv_goto (tgt := 160) hx hb dX7_actOf_126 (by decide) ?_
                    cases hf
                    exact hret _ _ _ _ rfl hM dX7_actOf_160
                · have hf := it_neg c16 hf
                  refine lv_bipush (v := nI 7) hx hb dX7_actOf_109 bp7 ?_
                  refine lv_goto (tgt := 160) hx hb dX7_actOf_111 (by decide) ?_
                  cases hf
                  exact hret _ _ _ _ rfl hM dX7_actOf_160
              · have hf := it_neg c14 hf
                refine lv_bipush (v := nI 6) hx hb dX7_actOf_94 bp6 ?_
                refine lv_goto (tgt := 160) hx hb dX7_actOf_96 (by decide) ?_
                cases hf
                exact hret _ _ _ _ rfl hM dX7_actOf_160
            · have hf := it_neg c12 hf
              refine lv_iconst (v := nI 5) hx hb dX7_actOf_80 ic5 ?_
              refine lv_goto (tgt := 160) hx hb dX7_actOf_81 (by decide) ?_
              cases hf
              exact hret _ _ _ _ rfl hM dX7_actOf_160
          · have hf := it_neg c10 hf
            refine lv_iconst (v := nI 4) hx hb dX7_actOf_66 ic4 ?_
            refine lv_goto (tgt := 160) hx hb dX7_actOf_67 (by decide) ?_
            cases hf
            exact hret _ _ _ _ rfl hM dX7_actOf_160
        · have hf := it_neg c8 hf
          refine lv_iconst (v := nI 3) hx hb dX7_actOf_52 ic3 ?_
          refine lv_goto (tgt := 160) hx hb dX7_actOf_53 (by decide) ?_
          cases hf
          exact hret _ _ _ _ rfl hM dX7_actOf_160
      · have hf := it_neg c6 hf
        refine lv_iconst (v := nI 2) hx hb dX7_actOf_38 ic2 ?_
        refine lv_goto (tgt := 160) hx hb dX7_actOf_39 (by decide) ?_
        cases hf
        exact hret _ _ _ _ rfl hM dX7_actOf_160
    · have hf := it_neg c4 hf
      refine lv_iconst (v := nI 1) hx hb dX7_actOf_24 ic1 ?_
      refine lv_goto (tgt := 160) hx hb dX7_actOf_25 (by decide) ?_
      cases hf
      exact hret _ _ _ _ rfl hM dX7_actOf_160
  · have hf := it_neg c2 hf
    refine lv_iconst (v := nI 0) hx hb dX7_actOf_10 ic0 ?_
    refine lv_goto (tgt := 160) hx hb dX7_actOf_11 (by decide) ?_
    cases hf
    exact hret _ _ _ _ rfl hM dX7_actOf_160
