set_option maxRecDepth 100000
def f_X7_findLeast_L89 (x21 : Int32) (S22 : MS) : Option ((Int32 × MS) ⊕ ((MS) ⊕ (MS))) :=
  bnd (f_X7_manyFacts S22) fun r23 => (if nI 12 < r23 then some (.inr (.inr S22)) else bnd (f_X7_manyFacts S22) fun r25 => (if (nI 1 <<< (r25 &&& 31)) ≤ x21 then some (.inr (.inr S22)) else bnd (f_X7_isWorld S22 x21) <| u2 fun r27 S28 => (if r27 = 0 then bd (x21 + nI 1) fun x30 => some (.inl (x30, S28)) else some (.inr (.inl S28)))))
def f_X7_findLeast_L35 (x5 : Int32) (x8 : Int32) (x11 : Int32) (S12 : MS) : Option ((Int32 × MS) ⊕ ((Int32 × MS) ⊕ (MS))) :=
  (if nI 3 < x11 then some (.inr (.inr S12)) else ast 3 (nI 0) (m_up S12 26 (nI 0).toNatClampNeg x8) fun S14 => ast 3 (nI 1) (m_up S14 26 (nI 1).toNatClampNeg x11) fun S15 => ast 3 (nI 2) (m_up S15 26 (nI 2).toNatClampNeg ((x5 - x8) - x11)) fun S16 => ald 3 (S16.1 26) (nI 2) fun v17 => bnd (f_X7_in v17 (nI 1) (nI 3)) fun r18 => (if r18 = 0 then bd (x11 + nI 1) fun x36 => some (.inl (x36, S16)) else bnd (f_X7_findStarts S16) fun S20 => bnd (wO (fun t : Int32 × MS => f_X7_findLeast_L89 t.1 t.2) fu (nI 0, S20)) (Sum.elim (fun S33 => some (.inr (.inl (x11, S33)))) (fun S34 => bd (x11 + nI 1) fun x35 => some (.inl (x35, S34))))))
def f_X7_findLeast_L28 (x5 : Int32) (x8 : Int32) (S9 : MS) : Option ((Int32 × MS) ⊕ ((Int32 × Int32 × MS) ⊕ (MS))) :=
  (if nI 3 < x8 then some (.inr (.inr S9)) else bnd (wO (fun t : Int32 × MS => f_X7_findLeast_L35 x5 x8 t.1 t.2) fu (nI 1, S9)) (Sum.elim (u2 fun x39 S40 => some (.inr (.inl (x8, x39, S40)))) (fun S41 => bd (x8 + nI 1) fun x42 => some (.inl (x42, S41)))))
def f_X7_findLeast_L20 (x5 : Int32) (S6 : MS) : Option ((Int32 × MS) ⊕ ((Int32 × Int32 × Int32 × MS) ⊕ (MS))) :=
  (if nI 9 < x5 then some (.inr (.inr S6)) else bnd (wO (fun t : Int32 × MS => f_X7_findLeast_L28 x5 t.1 t.2) fu (nI 1, S6)) (Sum.elim (u3 fun x45 x46 S47 => some (.inr (.inl (x5, x45, x46, S47)))) (fun S48 => bd (x5 + nI 1) fun x49 => some (.inl (x49, S48)))))
def f_X7_findLeast (S : MS) : Option (Int32 × MS) :=
  bnd (f_X7_told S) fun r1 => bd (m_up S 48 0 r1) fun S2 => bd (m_up S2 49 0 (nI 0)) fun S3 => bd (m_up S3 50 0 (nI 0)) fun S4 => bnd (wO (fun t : Int32 × MS => f_X7_findLeast_L20 t.1 t.2) fu (nI 3, S4)) (Sum.elim (u4 fun x52 x53 x54 S55 => bd (m_up S55 52 0 x53) fun S56 => bd (m_up S56 53 0 x54) fun S57 => bd (m_up S57 54 0 ((x52 - x53) - x54)) fun S58 => some (nI 1, S58)) (fun S59 => some (nI 0, S59)))
abbrev r_X7_findLeast : Room := { frames := 9, cells := 0, slots := 0, locals := 210 }
set_option maxHeartbeats 4000000 in
set_option maxRecDepth 100000 in
theorem c_X7_findLeast (l : Launch) (D : MD) (S : MS)  {r : Int32} {S' : MS} (hf : f_X7_findLeast S = some (r, S')) : m_Met l yX7_findLeast cX7_findLeast 5 (Option.some Jvm.ClassFile.FieldType.boolean) r_X7_findLeast D [.ref D.1] S (some (.int r)) S' := by
  refine m_metI (F := 9) (L := 210) (by decide) rfl (Nat.le_of_ble_eq_true rfl) (fun p e s m args below meth c Q B hret hM ls hl => ?_)
  have hx := B.1
  have hb := B.2.1
  have hown := B.2.2.2.1
  have hts := B.2.2.2.2
  have hl : lv_has ls 5 [(0, .ref D.1)] := hl
  generalize s.heap = H, ([] : List Loc) = locs at hM ⊢
  unfold f_X7_findLeast at hf
  refine lv_aload_n hx hb dX7_findLeast_0 rfl (lv_at hl 0 rfl) ?_
  refine lv_aload_n hx hb dX7_findLeast_1 rfl (lv_at hl 0 rfl) ?_
  obtain ⟨r1, hcr1, hf⟩ := bnd_some hf
  refine mr_callV (rest := [.ref D.1]) B hM (c_X7_told l D S  hcr1) (cwV 0 hts (lw_V q2120 q2122 qs86 q113 q2123) rfl rfl rfl hd_X7_told ⟨Nat.le_of_ble_eq_true rfl, Nat.le_of_ble_eq_true rfl⟩) rfl hl.1 rfl (Nat.le_of_ble_eq_true rfl) dX7_findLeast_2 ⟨Nat.zero_le _, Nat.zero_le _⟩ (fun H locs hM => ?_)
  obtain ⟨S2, eS2, hf⟩ := bd_some hf
  refine mr_puti B hM 48 (by decide) eS2 rfl (tyX7_ok 48 (by decide)) q1694 dX7_findLeast_5 (fun H locs hM => ?_)
  refine lv_aload_n hx hb dX7_findLeast_8 rfl (lv_at hl 0 rfl) ?_
  refine lv_iconst (v := nI 0) hx hb dX7_findLeast_9 ic0 ?_
  obtain ⟨S3, eS3, hf⟩ := bd_some hf
  refine mr_puti B hM 49 (by decide) eS3 rfl (tyX7_ok 49 (by decide)) q1695 dX7_findLeast_10 (fun H locs hM => ?_)
  refine lv_aload_n hx hb dX7_findLeast_13 rfl (lv_at hl 0 rfl) ?_
  refine lv_iconst (v := nI 0) hx hb dX7_findLeast_14 ic0 ?_
  obtain ⟨S4, eS4, hf⟩ := bd_some hf
  refine mr_puti B hM 50 (by decide) eS4 rfl (tyX7_ok 50 (by decide)) q1696 dX7_findLeast_15 (fun H locs hM => ?_)
  refine lv_iconst (v := nI 3) hx hb dX7_findLeast_18 ic3 ?_
  refine lv_istore_n (lv' := [(1, .int (nI 3)), (0, .ref D.1)]) hx hb dX7_findLeast_19 rfl hl (by decide) rfl (fun ls hl => ?_)
  obtain ⟨y51, hxy51, hf⟩ := bnd_some hf
  have hy51 : (Sum.elim (fun t : Int32 × Int32 × Int32 × MS => ∀ (H : Heap) (locs : List Loc) (ls : Array Slot), m_I D s H locs t.2.2.2 → lv_has ls 5 [(0, .ref D.1), (1, .int t.1), (2, .int t.2.1), (3, .int t.2.2.1)] → W p l e r_X7_findLeast s m args below meth c H locs 0 0 Q (F0 m 118 ls [])) (fun t : MS => ∀ (H : Heap) (locs : List Loc) (ls : Array Slot), m_I D s H locs t → lv_has ls 5 [] → W p l e r_X7_findLeast s m args below meth c H locs 0 0 Q (F0 m 163 ls []))) y51 := by
    rcases y51 with ⟨x52, x53, x54, S55⟩ | S59
    · have hf := el_l hf
      have hf := u4_at hf
      intro H locs ls hM hl
      refine lv_aload_n hx hb dX7_findLeast_118 rfl (lv_at hl 0 rfl) ?_
      refine lv_iload_n hx hb dX7_findLeast_119 rfl (lv_at hl 2 rfl) ?_
      obtain ⟨S56, eS56, hf⟩ := bd_some hf
      refine mr_puti B hM 52 (by decide) eS56 rfl (tyX7_ok 52 (by decide)) q1698 dX7_findLeast_120 (fun H locs hM => ?_)
      refine lv_aload_n hx hb dX7_findLeast_123 rfl (lv_at hl 0 rfl) ?_
      refine lv_iload_n hx hb dX7_findLeast_124 rfl (lv_at hl 3 rfl) ?_
      obtain ⟨S57, eS57, hf⟩ := bd_some hf
      refine mr_puti B hM 53 (by decide) eS57 rfl (tyX7_ok 53 (by decide)) q1699 dX7_findLeast_125 (fun H locs hM => ?_)
      refine lv_aload_n hx hb dX7_findLeast_128 rfl (lv_at hl 0 rfl) ?_
      refine lv_iload_n hx hb dX7_findLeast_129 rfl (lv_at hl 1 rfl) ?_
      refine lv_iload_n hx hb dX7_findLeast_130 rfl (lv_at hl 2 rfl) ?_
      refine lv_isub hx hb dX7_findLeast_131 ?_
      refine lv_iload_n hx hb dX7_findLeast_132 rfl (lv_at hl 3 rfl) ?_
      refine lv_isub hx hb dX7_findLeast_133 ?_
      obtain ⟨S58, eS58, hf⟩ := bd_some hf
      refine mr_puti B hM 54 (by decide) eS58 rfl (tyX7_ok 54 (by decide)) q1700 dX7_findLeast_134 (fun H locs hM => ?_)
      refine lv_iconst (v := nI 1) hx hb dX7_findLeast_137 ic1 ?_
      cases hf
      exact hret _ _ _ _ rfl hM dX7_findLeast_138
    · have hf := el_r hf
      intro H locs ls hM hl
      refine lv_iconst (v := nI 0) hx hb dX7_findLeast_163 ic0 ?_
      cases hf
      exact hret _ _ _ _ rfl hM dX7_findLeast_164
  refine lp_W (step := (fun t : Int32 × MS => f_X7_findLeast_L20 t.1 t.2)) (fun t : Int32 × MS => ∀ (H : Heap) (locs : List Loc) (ls : Array Slot), m_I D s H locs t.2 → lv_has ls 5 [(0, .ref D.1), (1, .int t.1)] → W p l e r_X7_findLeast s m args below meth c H locs 0 0 Q (F0 m 20 ls [])) (Sum.elim (fun t : Int32 × Int32 × Int32 × MS => ∀ (H : Heap) (locs : List Loc) (ls : Array Slot), m_I D s H locs t.2.2.2 → lv_has ls 5 [(0, .ref D.1), (1, .int t.1), (2, .int t.2.1), (3, .int t.2.2.1)] → W p l e r_X7_findLeast s m args below meth c H locs 0 0 Q (F0 m 118 ls [])) (fun t : MS => ∀ (H : Heap) (locs : List Loc) (ls : Array Slot), m_I D s H locs t → lv_has ls 5 [] → W p l e r_X7_findLeast s m args below meth c H locs 0 0 Q (F0 m 163 ls []))) ?_ fu (nI 3, S4) y51 hxy51 hy51 _ _ _ hM (lv_sub hl [1, 0] rfl)
  clear hf hxy51 hy51
  rintro ⟨x5, S6⟩ o (hf : f_X7_findLeast_L20 x5 S6 = some o) hk
  intro H locs ls hM hl
  unfold f_X7_findLeast_L20 at hf
  refine lv_iload_n hx hb dX7_findLeast_20 rfl (lv_at hl 1 rfl) ?_
  refine lv_bipush (v := nI 9) hx hb dX7_findLeast_21 bp9 ?_
  refine lv_icmp_gt (tgt := 163) hx hb dX7_findLeast_23 (by decide) (fun c7 => ?_) (fun c7 => ?_)
  · have hf := it_pos c7 hf
    cases hf
    exact hk _ _ _ hM (lv_sub hl [] rfl)
  · have hf := it_neg c7 hf
    refine lv_iconst (v := nI 1) hx hb dX7_findLeast_26 ic1 ?_
    refine lv_istore_n (lv' := [(2, .int (nI 1)), (0, .ref D.1), (1, .int x5)]) hx hb dX7_findLeast_27 rfl hl (by decide) rfl (fun ls hl => ?_)
    obtain ⟨y44, hxy44, hf⟩ := bnd_some hf
    have hy44 : (Sum.elim (fun t : Int32 × Int32 × MS => ∀ (H : Heap) (locs : List Loc) (ls : Array Slot), m_I D s H locs t.2.2 → lv_has ls 5 [(0, .ref D.1), (1, .int x5), (2, .int t.1), (3, .int t.2.1)] → W p l e r_X7_findLeast s m args below meth c H locs 0 0 Q (F0 m 118 ls [])) (fun t : MS => ∀ (H : Heap) (locs : List Loc) (ls : Array Slot), m_I D s H locs t → lv_has ls 5 [(0, .ref D.1), (1, .int x5)] → W p l e r_X7_findLeast s m args below meth c H locs 0 0 Q (F0 m 157 ls []))) y44 := by
      rcases y44 with ⟨x45, x46, S47⟩ | S48
      · have hf := el_l hf
        have hf := u3_at hf
        intro H locs ls hM hl
        cases hf
        exact hk _ _ _ hM (lv_sub hl [0, 1, 2, 3] rfl)
      · have hf := el_r hf
        intro H locs ls hM hl
        obtain ⟨x49, ex49, hf⟩ := bd_some hf
        refine lv_iinc (v := x49) (lv' := [(1, .int x49), (0, .ref D.1)]) hx hb dX7_findLeast_157 hl (k := 1) rfl (by rw [ex49]; first | done | rfl) (by decide) rfl (fun ls hl => ?_)
        refine lv_goto (tgt := 20) hx hb dX7_findLeast_160 (by decide) ?_
        cases hf
        exact hk _ _ _ hM (lv_sub hl [1, 0] rfl)
    refine lp_W (step := (fun t : Int32 × MS => f_X7_findLeast_L28 x5 t.1 t.2)) (fun t : Int32 × MS => ∀ (H : Heap) (locs : List Loc) (ls : Array Slot), m_I D s H locs t.2 → lv_has ls 5 [(0, .ref D.1), (1, .int x5), (2, .int t.1)] → W p l e r_X7_findLeast s m args below meth c H locs 0 0 Q (F0 m 28 ls [])) (Sum.elim (fun t : Int32 × Int32 × MS => ∀ (H : Heap) (locs : List Loc) (ls : Array Slot), m_I D s H locs t.2.2 → lv_has ls 5 [(0, .ref D.1), (1, .int x5), (2, .int t.1), (3, .int t.2.1)] → W p l e r_X7_findLeast s m args below meth c H locs 0 0 Q (F0 m 118 ls [])) (fun t : MS => ∀ (H : Heap) (locs : List Loc) (ls : Array Slot), m_I D s H locs t → lv_has ls 5 [(0, .ref D.1), (1, .int x5)] → W p l e r_X7_findLeast s m args below meth c H locs 0 0 Q (F0 m 157 ls []))) ?_ fu (nI 1, S6) y44 hxy44 hy44 _ _ _ hM (lv_sub hl [1, 2, 0] rfl)
    clear hf hxy44 hy44
    rintro ⟨x8, S9⟩ o (hf : f_X7_findLeast_L28 x5 x8 S9 = some o) hk
    intro H locs ls hM hl
    unfold f_X7_findLeast_L28 at hf
    refine lv_iload_n hx hb dX7_findLeast_28 rfl (lv_at hl 2 rfl) ?_
    refine lv_iconst (v := nI 3) hx hb dX7_findLeast_29 ic3 ?_
    refine lv_icmp_gt (tgt := 157) hx hb dX7_findLeast_30 (by decide) (fun c10 => ?_) (fun c10 => ?_)
    · have hf := it_pos c10 hf
      cases hf
      exact hk _ _ _ hM (lv_sub hl [0, 1] rfl)
    · have hf := it_neg c10 hf
      refine lv_iconst (v := nI 1) hx hb dX7_findLeast_33 ic1 ?_
      refine lv_istore_n (lv' := [(3, .int (nI 1)), (0, .ref D.1), (1, .int x5), (2, .int x8)]) hx hb dX7_findLeast_34 rfl hl (by decide) rfl (fun ls hl => ?_)
      obtain ⟨y38, hxy38, hf⟩ := bnd_some hf
      have hy38 : (Sum.elim (fun t : Int32 × MS => ∀ (H : Heap) (locs : List Loc) (ls : Array Slot), m_I D s H locs t.2 → lv_has ls 5 [(0, .ref D.1), (1, .int x5), (2, .int x8), (3, .int t.1)] → W p l e r_X7_findLeast s m args below meth c H locs 0 0 Q (F0 m 118 ls [])) (fun t : MS => ∀ (H : Heap) (locs : List Loc) (ls : Array Slot), m_I D s H locs t → lv_has ls 5 [(0, .ref D.1), (1, .int x5), (2, .int x8)] → W p l e r_X7_findLeast s m args below meth c H locs 0 0 Q (F0 m 151 ls []))) y38 := by
        rcases y38 with ⟨x39, S40⟩ | S41
        · have hf := el_l hf
          have hf := u2_at hf
          intro H locs ls hM hl
          cases hf
          exact hk _ _ _ hM (lv_sub hl [0, 1, 2, 3] rfl)
        · have hf := el_r hf
          intro H locs ls hM hl
          obtain ⟨x42, ex42, hf⟩ := bd_some hf
          refine lv_iinc (v := x42) (lv' := [(2, .int x42), (0, .ref D.1), (1, .int x5)]) hx hb dX7_findLeast_151 hl (k := 2) rfl (by rw [ex42]; first | done | rfl) (by decide) rfl (fun ls hl => ?_)
          refine lv_goto (tgt := 28) hx hb dX7_findLeast_154 (by decide) ?_
          cases hf
          exact hk _ _ _ hM (lv_sub hl [1, 2, 0] rfl)
      refine lp_W (step := (fun t : Int32 × MS => f_X7_findLeast_L35 x5 x8 t.1 t.2)) (fun t : Int32 × MS => ∀ (H : Heap) (locs : List Loc) (ls : Array Slot), m_I D s H locs t.2 → lv_has ls 5 [(0, .ref D.1), (1, .int x5), (2, .int x8), (3, .int t.1)] → W p l e r_X7_findLeast s m args below meth c H locs 0 0 Q (F0 m 35 ls [])) (Sum.elim (fun t : Int32 × MS => ∀ (H : Heap) (locs : List Loc) (ls : Array Slot), m_I D s H locs t.2 → lv_has ls 5 [(0, .ref D.1), (1, .int x5), (2, .int x8), (3, .int t.1)] → W p l e r_X7_findLeast s m args below meth c H locs 0 0 Q (F0 m 118 ls [])) (fun t : MS => ∀ (H : Heap) (locs : List Loc) (ls : Array Slot), m_I D s H locs t → lv_has ls 5 [(0, .ref D.1), (1, .int x5), (2, .int x8)] → W p l e r_X7_findLeast s m args below meth c H locs 0 0 Q (F0 m 151 ls []))) ?_ fu (nI 1, S9) y38 hxy38 hy38 _ _ _ hM (lv_sub hl [1, 2, 3, 0] rfl)
      clear hf hxy38 hy38
      rintro ⟨x11, S12⟩ o (hf : f_X7_findLeast_L35 x5 x8 x11 S12 = some o) hk
      intro H locs ls hM hl
      unfold f_X7_findLeast_L35 at hf
      refine lv_iload_n hx hb dX7_findLeast_35 rfl (lv_at hl 3 rfl) ?_
      refine lv_iconst (v := nI 3) hx hb dX7_findLeast_36 ic3 ?_
      refine lv_icmp_gt (tgt := 151) hx hb dX7_findLeast_37 (by decide) (fun c13 => ?_) (fun c13 => ?_)
      · have hf := it_pos c13 hf
        cases hf
        exact hk _ _ _ hM (lv_sub hl [0, 1, 2] rfl)
      · have hf := it_neg c13 hf
        refine lv_aload_n hx hb dX7_findLeast_40 rfl (lv_at hl 0 rfl) ?_
        refine mr_get B hM 26 (v := .ref (D.2.1 26)) rfl (by decide) q1672 dX7_findLeast_41 ?_
        refine lv_iconst (v := nI 0) hx hb dX7_findLeast_44 ic0 ?_
        refine lv_iload_n hx hb dX7_findLeast_45 rfl (lv_at hl 2 rfl) ?_
        obtain ⟨S14, eS14, hiS14, hf⟩ := ast_some hf
        refine mr_iast B hM 26 (by decide) rfl hiS14 eS14 dX7_findLeast_46 (fun H locs hM => ?_)
        refine lv_aload_n hx hb dX7_findLeast_47 rfl (lv_at hl 0 rfl) ?_
        refine mr_get B hM 26 (v := .ref (D.2.1 26)) rfl (by decide) q1672 dX7_findLeast_48 ?_
        refine lv_iconst (v := nI 1) hx hb dX7_findLeast_51 ic1 ?_
        refine lv_iload_n hx hb dX7_findLeast_52 rfl (lv_at hl 3 rfl) ?_
        obtain ⟨S15, eS15, hiS15, hf⟩ := ast_some hf
        refine mr_iast B hM 26 (by decide) rfl hiS15 eS15 dX7_findLeast_53 (fun H locs hM => ?_)
        refine lv_aload_n hx hb dX7_findLeast_54 rfl (lv_at hl 0 rfl) ?_
        refine mr_get B hM 26 (v := .ref (D.2.1 26)) rfl (by decide) q1672 dX7_findLeast_55 ?_
        refine lv_iconst (v := nI 2) hx hb dX7_findLeast_58 ic2 ?_
        refine lv_iload_n hx hb dX7_findLeast_59 rfl (lv_at hl 1 rfl) ?_
        refine lv_iload_n hx hb dX7_findLeast_60 rfl (lv_at hl 2 rfl) ?_
        refine lv_isub hx hb dX7_findLeast_61 ?_
        refine lv_iload_n hx hb dX7_findLeast_62 rfl (lv_at hl 3 rfl) ?_
        refine lv_isub hx hb dX7_findLeast_63 ?_
        obtain ⟨S16, eS16, hiS16, hf⟩ := ast_some hf
        refine mr_iast B hM 26 (by decide) rfl hiS16 eS16 dX7_findLeast_64 (fun H locs hM => ?_)
        refine lv_aload_n hx hb dX7_findLeast_65 rfl (lv_at hl 0 rfl) ?_
        refine mr_get B hM 26 (v := .ref (D.2.1 26)) rfl (by decide) q1672 dX7_findLeast_66 ?_
        refine lv_iconst (v := nI 2) hx hb dX7_findLeast_69 ic2 ?_
        obtain ⟨v17, ev17, hiv17, hf⟩ := ald_some hf
        refine mr_iald B hM 26 (by decide) rfl hiv17 ev17 dX7_findLeast_70 ?_
        refine lv_iconst (v := nI 1) hx hb dX7_findLeast_71 ic1 ?_
        refine lv_iconst (v := nI 3) hx hb dX7_findLeast_72 ic3 ?_
        obtain ⟨r18, hcr18, hf⟩ := bnd_some hf
        refine pr_callS (rest := []) B (c_X7_in l v17 (nI 1) (nI 3) hcr18) (va_cwS 3 hts (lw_S q1841 q1842 q113 q1843) rfl rfl rfl hd_X7_in ⟨Nat.le_of_ble_eq_true rfl, Nat.le_of_ble_eq_true rfl⟩) rfl hl.1 rfl (Nat.le_of_ble_eq_true rfl) dX7_findLeast_73 ⟨Nat.zero_le _, Nat.zero_le _⟩ ?_
        refine lv_if_ne (tgt := 82) hx hb dX7_findLeast_76 (by decide) (fun c19 => ?_) (fun c19 => ?_)
        · have hf := it_neg c19 hf
          refine lv_aload_n hx hb dX7_findLeast_82 rfl (lv_at hl 0 rfl) ?_
          obtain ⟨S20, hcS20, hf⟩ := bnd_some hf
          refine mr_callV (rest := []) B hM (c_X7_findStarts l D S16  hcS20) (cwV 0 hts (lw_V q1860 q1862 qs47 q113 q1863) rfl rfl rfl hd_X7_findStarts ⟨Nat.le_of_ble_eq_true rfl, Nat.le_of_ble_eq_true rfl⟩) rfl hl.1 rfl (Nat.le_of_ble_eq_true rfl) dX7_findLeast_83 ⟨Nat.zero_le _, Nat.zero_le _⟩ (fun H locs hM => ?_)
          refine lv_iconst (v := nI 0) hx hb dX7_findLeast_86 ic0 ?_
          refine lv_istore (lv' := [(4, .int (nI 0)), (0, .ref D.1), (1, .int x5), (2, .int x8), (3, .int x11)]) hx hb dX7_findLeast_87 hl (by decide) rfl (fun ls hl => ?_)
          obtain ⟨y32, hxy32, hf⟩ := bnd_some hf
          have hy32 : (Sum.elim (fun t : MS => ∀ (H : Heap) (locs : List Loc) (ls : Array Slot), m_I D s H locs t → lv_has ls 5 [(0, .ref D.1), (1, .int x5), (2, .int x8), (3, .int x11)] → W p l e r_X7_findLeast s m args below meth c H locs 0 0 Q (F0 m 118 ls [])) (fun t : MS => ∀ (H : Heap) (locs : List Loc) (ls : Array Slot), m_I D s H locs t → lv_has ls 5 [(0, .ref D.1), (1, .int x5), (2, .int x8), (3, .int x11)] → W p l e r_X7_findLeast s m args below meth c H locs 0 0 Q (F0 m 145 ls []))) y32 := by
            rcases y32 with S33 | S34
            · have hf := el_l hf
              intro H locs ls hM hl
              cases hf
              exact hk _ _ _ hM (lv_sub hl [0, 1, 2, 3] rfl)
            · have hf := el_r hf
              intro H locs ls hM hl
              obtain ⟨x35, ex35, hf⟩ := bd_some hf
              refine lv_iinc (v := x35) (lv' := [(3, .int x35), (0, .ref D.1), (1, .int x5), (2, .int x8)]) hx hb dX7_findLeast_145 hl (k := 3) rfl (by rw [ex35]; first | done | rfl) (by decide) rfl (fun ls hl => ?_)
              refine lv_goto (tgt := 35) hx hb dX7_findLeast_148 (by decide) ?_
              cases hf
              exact hk _ _ _ hM (lv_sub hl [1, 2, 3, 0] rfl)
          refine lp_W (step := (fun t : Int32 × MS => f_X7_findLeast_L89 t.1 t.2)) (fun t : Int32 × MS => ∀ (H : Heap) (locs : List Loc) (ls : Array Slot), m_I D s H locs t.2 → lv_has ls 5 [(0, .ref D.1), (1, .int x5), (2, .int x8), (3, .int x11), (4, .int t.1)] → W p l e r_X7_findLeast s m args below meth c H locs 0 0 Q (F0 m 89 ls [])) (Sum.elim (fun t : MS => ∀ (H : Heap) (locs : List Loc) (ls : Array Slot), m_I D s H locs t → lv_has ls 5 [(0, .ref D.1), (1, .int x5), (2, .int x8), (3, .int x11)] → W p l e r_X7_findLeast s m args below meth c H locs 0 0 Q (F0 m 118 ls [])) (fun t : MS => ∀ (H : Heap) (locs : List Loc) (ls : Array Slot), m_I D s H locs t → lv_has ls 5 [(0, .ref D.1), (1, .int x5), (2, .int x8), (3, .int x11)] → W p l e r_X7_findLeast s m args below meth c H locs 0 0 Q (F0 m 145 ls []))) ?_ fu (nI 0, S20) y32 hxy32 hy32 _ _ _ hM (lv_sub hl [1, 2, 3, 4, 0] rfl)
          clear hf hxy32 hy32
          rintro ⟨x21, S22⟩ o (hf : f_X7_findLeast_L89 x21 S22 = some o) hk
          intro H locs ls hM hl
          unfold f_X7_findLeast_L89 at hf
          refine lv_aload_n hx hb dX7_findLeast_89 rfl (lv_at hl 0 rfl) ?_
          obtain ⟨r23, hcr23, hf⟩ := bnd_some hf
          refine mr_callV (rest := []) B hM (c_X7_manyFacts l D S22  hcr23) (cwV 0 hts (lw_V q1868 q1870 qs49 q113 q1871) rfl rfl rfl hd_X7_manyFacts ⟨Nat.le_of_ble_eq_true rfl, Nat.le_of_ble_eq_true rfl⟩) rfl hl.1 rfl (Nat.le_of_ble_eq_true rfl) dX7_findLeast_90 ⟨Nat.zero_le _, Nat.zero_le _⟩ (fun H locs hM => ?_)
          refine lv_bipush (v := nI 12) hx hb dX7_findLeast_93 bp12 ?_
          refine lv_icmp_gt (tgt := 145) hx hb dX7_findLeast_95 (by decide) (fun c24 => ?_) (fun c24 => ?_)
          · have hf := it_pos c24 hf
            cases hf
            exact hk _ _ _ hM (lv_sub hl [0, 1, 2, 3] rfl)
          · have hf := it_neg c24 hf
            refine lv_iload hx hb dX7_findLeast_98 (lv_at hl 4 rfl) ?_
            refine lv_iconst (v := nI 1) hx hb dX7_findLeast_100 ic1 ?_
            refine lv_aload_n hx hb dX7_findLeast_101 rfl (lv_at hl 0 rfl) ?_
            obtain ⟨r25, hcr25, hf⟩ := bnd_some hf
            refine mr_callV (rest := [.int (nI 1), .int x21]) B hM (c_X7_manyFacts l D S22  hcr25) (cwV 0 hts (lw_V q1868 q1870 qs49 q113 q1871) rfl rfl rfl hd_X7_manyFacts ⟨Nat.le_of_ble_eq_true rfl, Nat.le_of_ble_eq_true rfl⟩) rfl hl.1 rfl (Nat.le_of_ble_eq_true rfl) dX7_findLeast_102 ⟨Nat.zero_le _, Nat.zero_le _⟩ (fun H locs hM => ?_)
            refine lv_ishl hx hb dX7_findLeast_105 ?_
            refine lv_icmp_ge (tgt := 145) hx hb dX7_findLeast_106 (by decide) (fun c26 => ?_) (fun c26 => ?_)
            · have hf := it_pos c26 hf
              cases hf
              exact hk _ _ _ hM (lv_sub hl [0, 1, 2, 3] rfl)
            · have hf := it_neg c26 hf
              refine lv_aload_n hx hb dX7_findLeast_109 rfl (lv_at hl 0 rfl) ?_
              refine lv_iload hx hb dX7_findLeast_110 (lv_at hl 4 rfl) ?_
              obtain ⟨⟨r27, S28⟩, hcr27, hf⟩ := bnd_some hf
              have hf := u2_at hf
              refine mr_callV (rest := []) B hM (c_X7_isWorld l D S22 x21 hcr27) (cwV 1 hts (lw_V q2128 q2130 qs88 q113 q2131) rfl rfl rfl hd_X7_isWorld ⟨Nat.le_of_ble_eq_true rfl, Nat.le_of_ble_eq_true rfl⟩) rfl hl.1 rfl (Nat.le_of_ble_eq_true rfl) dX7_findLeast_112 ⟨Nat.zero_le _, Nat.zero_le _⟩ (fun H locs hM => ?_)
              refine lv_if_eq (tgt := 139) hx hb dX7_findLeast_115 (by decide) (fun c29 => ?_) (fun c29 => ?_)
              · have hf := it_pos c29 hf
                obtain ⟨x30, ex30, hf⟩ := bd_some hf
                refine lv_iinc (v := x30) (lv' := [(4, .int x30), (0, .ref D.1), (1, .int x5), (2, .int x8), (3, .int x11)]) hx hb dX7_findLeast_139 hl (k := 4) rfl (by rw [ex30]; first | done | rfl) (by decide) rfl (fun ls hl => ?_)
                refine lv_goto (tgt := 89) hx hb dX7_findLeast_142 (by decide) ?_
                cases hf
                exact hk _ _ _ hM (lv_sub hl [1, 2, 3, 4, 0] rfl)
              · have hf := it_neg c29 hf
                cases hf
                exact hk _ _ _ hM (lv_sub hl [0, 1, 2, 3] rfl)
        · have hf := it_pos c19 hf
          refine lv_goto (tgt := 145) hx hb dX7_findLeast_79 (by decide) ?_
          obtain ⟨x36, ex36, hf⟩ := bd_some hf
          refine lv_iinc (v := x36) (lv' := [(3, .int x36), (0, .ref D.1), (1, .int x5), (2, .int x8)]) hx hb dX7_findLeast_145 hl (k := 3) rfl (by rw [ex36]; first | done | rfl) (by decide) rfl (fun ls hl => ?_)
          refine lv_goto (tgt := 35) hx hb dX7_findLeast_148 (by decide) ?_
          cases hf
          exact hk _ _ _ hM (lv_sub hl [1, 2, 3, 0] rfl)
def f_X7_least (S : MS) (p0 : Int32) : Option (Int32 × MS) :=
  bd (m_up S 0 0 (nI 0)) fun S1 => bnd (f_X7_in p0 (nI 0) (nI 2)) fun r2 => (if r2 = 0 then some ((-1), S1) else bnd (f_X7_findLeast S1) <| u2 fun r4 S5 => (if r4 = 0 then some ((-1), S5) else (if p0 = 0 then some ((S5.1 52 0), S5) else (if p0 = nI 1 then some ((S5.1 53 0), S5) else some ((S5.1 54 0), S5)))))
abbrev r_X7_least : Room := { frames := 10, cells := 0, slots := 0, locals := 234 }
set_option maxHeartbeats 4000000 in
set_option maxRecDepth 100000 in
theorem c_X7_least (l : Launch) (D : MD) (S : MS) (p0 : Int32) {r : Int32} {S' : MS} (hf : f_X7_least S p0 = some (r, S')) : m_Met l yX7_least cX7_least 2 (Option.some Jvm.ClassFile.FieldType.int) r_X7_least D [.ref D.1, .int p0] S (some (.int r)) S' := by
  refine m_metI (F := 10) (L := 234) (by decide) rfl (Nat.le_of_ble_eq_true rfl) (fun p e s m args below meth c Q B hret hM ls hl => ?_)
  have hx := B.1
  have hb := B.2.1
  have hown := B.2.2.2.1
  have hts := B.2.2.2.2
  have hl : lv_has ls 2 [(0, .ref D.1), (1, .int p0)] := hl
  generalize s.heap = H, ([] : List Loc) = locs at hM ⊢
  unfold f_X7_least at hf
  refine lv_aload_n hx hb dX7_least_0 rfl (lv_at hl 0 rfl) ?_
  refine lv_iconst (v := nI 0) hx hb dX7_least_1 ic0 ?_
  obtain ⟨S1, eS1, hf⟩ := bd_some hf
  refine mr_puti B hM 0 (by decide) eS1 rfl (tyX7_ok 0 (by decide)) q1646 dX7_least_2 (fun H locs hM => ?_)
  refine lv_iload_n hx hb dX7_least_5 rfl (lv_at hl 1 rfl) ?_
  refine lv_iconst (v := nI 0) hx hb dX7_least_6 ic0 ?_
  refine lv_iconst (v := nI 2) hx hb dX7_least_7 ic2 ?_
  obtain ⟨r2, hcr2, hf⟩ := bnd_some hf
  refine pr_callS (rest := []) B (c_X7_in l p0 (nI 0) (nI 2) hcr2) (va_cwS 3 hts (lw_S q1841 q1842 q113 q1843) rfl rfl rfl hd_X7_in ⟨Nat.le_of_ble_eq_true rfl, Nat.le_of_ble_eq_true rfl⟩) rfl hl.1 rfl (Nat.le_of_ble_eq_true rfl) dX7_least_8 ⟨Nat.zero_le _, Nat.zero_le _⟩ ?_
  refine lv_if_eq (tgt := 21) hx hb dX7_least_11 (by decide) (fun c3 => ?_) (fun c3 => ?_)
  · have hf := it_pos c3 hf
    refine lv_iconst (v := (-1)) hx hb dX7_least_21 icm1 ?_
    cases hf
    exact hret _ _ _ _ rfl hM dX7_least_22
  · have hf := it_neg c3 hf
    refine lv_aload_n hx hb dX7_least_14 rfl (lv_at hl 0 rfl) ?_
    obtain ⟨⟨r4, S5⟩, hcr4, hf⟩ := bnd_some hf
    have hf := u2_at hf
    refine mr_callV (rest := []) B hM (c_X7_findLeast l D S1  hcr4) (cwV 0 hts (lw_V q2168 q2170 qs94 q113 q2171) rfl rfl rfl hd_X7_findLeast ⟨Nat.le_of_ble_eq_true rfl, Nat.le_of_ble_eq_true rfl⟩) rfl hl.1 rfl (Nat.le_of_ble_eq_true rfl) dX7_least_15 ⟨Nat.zero_le _, Nat.zero_le _⟩ (fun H locs hM => ?_)
    refine lv_if_ne (tgt := 23) hx hb dX7_least_18 (by decide) (fun c6 => ?_) (fun c6 => ?_)
    · have hf := it_neg c6 hf
      refine lv_iload_n hx hb dX7_least_23 rfl (lv_at hl 1 rfl) ?_
      refine lv_if_ne (tgt := 34) hx hb dX7_least_24 (by decide) (fun c7 => ?_) (fun c7 => ?_)
      · have hf := it_neg c7 hf
        refine lv_iload_n hx hb dX7_least_34 rfl (lv_at hl 1 rfl) ?_
        refine lv_iconst (v := nI 1) hx hb dX7_least_35 ic1 ?_
        refine lv_icmp_ne (tgt := 46) hx hb dX7_least_36 (by decide) (fun c8 => ?_) (fun c8 => ?_)
        · have hf := it_neg c8 hf
          refine lv_aload_n hx hb dX7_least_46 rfl (lv_at hl 0 rfl) ?_
          refine mr_get B hM 54 (v := .int (S5.1 54 0)) rfl (by decide) q1700 dX7_least_47 ?_
          cases hf
          exact hret _ _ _ _ rfl hM dX7_least_50
        · have hf := it_pos c8 hf
          refine lv_aload_n hx hb dX7_least_39 rfl (lv_at hl 0 rfl) ?_
          refine mr_get B hM 53 (v := .int (S5.1 53 0)) rfl (by decide) q1699 dX7_least_40 ?_
          refine lv_goto (tgt := 50) hx hb dX7_least_43 (by decide) ?_
          cases hf
          exact hret _ _ _ _ rfl hM dX7_least_50
      · have hf := it_pos c7 hf
        refine lv_aload_n hx hb dX7_least_27 rfl (lv_at hl 0 rfl) ?_
        refine mr_get B hM 52 (v := .int (S5.1 52 0)) rfl (by decide) q1698 dX7_least_28 ?_
        refine lv_goto (tgt := 50) hx hb dX7_least_31 (by decide) ?_
        cases hf
        exact hret _ _ _ _ rfl hM dX7_least_50
    · have hf := it_pos c6 hf
      refine lv_iconst (v := (-1)) hx hb dX7_least_21 icm1 ?_
      cases hf
      exact hret _ _ _ _ rfl hM dX7_least_22
def f_X7_isLessRow (p0 : Int32) (p1 : Int32) : Option Int32 :=
  bd (p0 ^^^ p1) fun x1 => (if ((p0 &&& x1) &&& (-x1)) = 0 then some (nI 0) else some (nI 1))
abbrev r_X7_isLessRow : Room := { frames := 0, cells := 0, slots := 0, locals := 0 }
set_option maxHeartbeats 4000000 in
set_option maxRecDepth 100000 in
theorem c_X7_isLessRow (l : Launch) (p0 : Int32) (p1 : Int32) {r : Int32} (hf : f_X7_isLessRow p0 p1 = some r) : p_Met l yX7_isLessRow cX7_isLessRow 3 (Option.some Jvm.ClassFile.FieldType.boolean) r_X7_isLessRow [.int p0, .int p1] (some (.int r)) := by
  refine p_metI (F := 0) (L := 0) RX7 (by decide) rfl (Nat.le_of_ble_eq_true rfl) (fun p e s m args below meth c Q B hret ls hl => ?_)
  have hx := B.1
  have hb := B.2.1
  have hown := B.2.2.2.1
  have hts := B.2.2.2.2
  have hl : lv_has ls 3 [(0, .int p0), (1, .int p1)] := hl
  unfold f_X7_isLessRow at hf
  refine lv_iload_n hx hb dX7_isLessRow_0 rfl (lv_at hl 0 rfl) ?_
  refine lv_iload_n hx hb dX7_isLessRow_1 rfl (lv_at hl 1 rfl) ?_
  refine lv_ixor hx hb dX7_isLessRow_2 ?_
  refine lv_topi (fun x1 ex1 => ?_)
  have hf := bd_at ex1 hf
  refine lv_istore_n (lv' := [(2, .int x1), (0, .int p0), (1, .int p1)]) hx hb dX7_isLessRow_3 rfl hl (by decide) rfl (fun ls hl => ?_)
  refine lv_iload_n hx hb dX7_isLessRow_4 rfl (lv_at hl 1 rfl) ?_
  refine lv_iload_n hx hb dX7_isLessRow_5 rfl (lv_at hl 0 rfl) ?_
  refine lv_iand hx hb dX7_isLessRow_6 ?_
  refine lv_iload_n hx hb dX7_isLessRow_7 rfl (lv_at hl 0 rfl) ?_
  refine lv_ineg hx hb dX7_isLessRow_8 ?_
  refine lv_iand hx hb dX7_isLessRow_9 ?_
  refine lv_if_eq (tgt := 17) hx hb dX7_isLessRow_10 (by decide) (fun c2 => ?_) (fun c2 => ?_)
  · have hf := it_pos c2 hf
    refine lv_iconst (v := nI 0) hx hb dX7_isLessRow_17 ic0 ?_
    cases hf
    exact hret _ _ rfl dX7_isLessRow_18
  · have hf := it_neg c2 hf
    refine lv_iconst (v := nI 1) hx hb dX7_isLessRow_13 ic1 ?_
    refine lv_goto (tgt := 18) hx hb dX7_isLessRow_14 (by decide) ?_
    cases hf
    exact hret _ _ rfl dX7_isLessRow_18
def f_X7_isTogether_L2 (p0 : Int32) (S : MS) (x1 : Int32) : Option ((Int32) ⊕ ((Unit) ⊕ (Unit))) :=
  (if nI 256 ≤ x1 then some (.inr (.inr ())) else ald 256 (S.1 55) x1 fun v3 => (if v3 = 0 then bd (x1 + nI 1) fun x5 => some (.inl x5) else (if (p0 &&& (x1 ^^^ (-1))) = 0 then some (.inr (.inl ())) else bd (x1 + nI 1) fun x7 => some (.inl x7))))
def f_X7_isTogether (S : MS) (p0 : Int32) : Option Int32 :=
  bnd (wO (fun t : Int32 => f_X7_isTogether_L2 p0 S t) fu (nI 0)) (Sum.elim (fun _ => some (nI 1)) (fun _ => some (nI 0)))
abbrev r_X7_isTogether : Room := { frames := 0, cells := 0, slots := 0, locals := 0 }
set_option maxHeartbeats 4000000 in
set_option maxRecDepth 100000 in
theorem c_X7_isTogether (l : Launch) (D : MD) (S : MS) (p0 : Int32) {r : Int32} (hf : f_X7_isTogether S p0 = some r) : m_Met l yX7_isTogether cX7_isTogether 3 (Option.some Jvm.ClassFile.FieldType.boolean) r_X7_isTogether D [.ref D.1, .int p0] S (some (.int r)) S := by
  refine m_metI (F := 0) (L := 0) (by decide) rfl (Nat.le_of_ble_eq_true rfl) (fun p e s m args below meth c Q B hret hM ls hl => ?_)
  have hx := B.1
  have hb := B.2.1
  have hown := B.2.2.2.1
  have hts := B.2.2.2.2
  have hl : lv_has ls 3 [(0, .ref D.1), (1, .int p0)] := hl
  generalize s.heap = H, ([] : List Loc) = locs at hM ⊢
  unfold f_X7_isTogether at hf
  refine lv_iconst (v := nI 0) hx hb dX7_isTogether_0 ic0 ?_
  refine lv_istore_n (lv' := [(2, .int (nI 0)), (0, .ref D.1), (1, .int p0)]) hx hb dX7_isTogether_1 rfl hl (by decide) rfl (fun ls hl => ?_)
  obtain ⟨y9, hxy9, hf⟩ := bnd_some hf
  have hy9 : (Sum.elim (fun t : Unit => ∀ (H : Heap) (locs : List Loc) (ls : Array Slot), m_I D s H locs S → lv_has ls 3 [] → W p l e r_X7_isTogether s m args below meth c H locs 0 0 Q (F0 m 26 ls [])) (fun t : Unit => ∀ (H : Heap) (locs : List Loc) (ls : Array Slot), m_I D s H locs S → lv_has ls 3 [] → W p l e r_X7_isTogether s m args below meth c H locs 0 0 Q (F0 m 34 ls []))) y9 := by
    rcases y9 with _ | _
    · have hf := el_l hf
      intro H locs ls hM hl
      refine lv_iconst (v := nI 1) hx hb dX7_isTogether_26 ic1 ?_
      cases hf
      exact hret _ _ _ _ rfl hM dX7_isTogether_27
    · have hf := el_r hf
      intro H locs ls hM hl
      refine lv_iconst (v := nI 0) hx hb dX7_isTogether_34 ic0 ?_
      cases hf
      exact hret _ _ _ _ rfl hM dX7_isTogether_35
  refine lp_W (step := (fun t : Int32 => f_X7_isTogether_L2 p0 S t)) (fun t : Int32 => ∀ (H : Heap) (locs : List Loc) (ls : Array Slot), m_I D s H locs S → lv_has ls 3 [(0, .ref D.1), (1, .int p0), (2, .int t)] → W p l e r_X7_isTogether s m args below meth c H locs 0 0 Q (F0 m 2 ls [])) (Sum.elim (fun t : Unit => ∀ (H : Heap) (locs : List Loc) (ls : Array Slot), m_I D s H locs S → lv_has ls 3 [] → W p l e r_X7_isTogether s m args below meth c H locs 0 0 Q (F0 m 26 ls [])) (fun t : Unit => ∀ (H : Heap) (locs : List Loc) (ls : Array Slot), m_I D s H locs S → lv_has ls 3 [] → W p l e r_X7_isTogether s m args below meth c H locs 0 0 Q (F0 m 34 ls []))) ?_ fu (nI 0) y9 hxy9 hy9 _ _ _ hM (lv_sub hl [1, 2, 0] rfl)
  clear hf hxy9 hy9
  rintro x1 o (hf : f_X7_isTogether_L2 p0 S x1 = some o) hk
  intro H locs ls hM hl
  unfold f_X7_isTogether_L2 at hf
  refine lv_iload_n hx hb dX7_isTogether_2 rfl (lv_at hl 2 rfl) ?_
  refine lv_sipush (v := nI 256) hx hb dX7_isTogether_3 sp256 ?_
  refine lv_icmp_ge (tgt := 34) hx hb dX7_isTogether_6 (by decide) (fun c2 => ?_) (fun c2 => ?_)
  · have hf := it_pos c2 hf
    cases hf
    exact hk _ _ _ hM (lv_sub hl [] rfl)
  · have hf := it_neg c2 hf
    refine lv_aload_n hx hb dX7_isTogether_9 rfl (lv_at hl 0 rfl) ?_
    refine mr_get B hM 55 (v := .ref (D.2.1 55)) rfl (by decide) q1701 dX7_isTogether_10 ?_
    refine lv_iload_n hx hb dX7_isTogether_13 rfl (lv_at hl 2 rfl) ?_
    obtain ⟨v3, ev3, hiv3, hf⟩ := ald_some hf
    refine mr_zald B hM 55 (by decide) rfl hiv3 ev3 dX7_isTogether_14 ?_
    refine lv_if_eq (tgt := 28) hx hb dX7_isTogether_15 (by decide) (fun c4 => ?_) (fun c4 => ?_)
    · have hf := it_pos c4 hf
      obtain ⟨x5, ex5, hf⟩ := bd_some hf
      refine lv_iinc (v := x5) (lv' := [(2, .int x5), (0, .ref D.1), (1, .int p0)]) hx hb dX7_isTogether_28 hl (k := 2) rfl (by rw [ex5]; first | done | rfl) (by decide) rfl (fun ls hl => ?_)
      refine lv_goto (tgt := 2) hx hb dX7_isTogether_31 (by decide) ?_
      cases hf
      exact hk _ _ _ hM (lv_sub hl [1, 2, 0] rfl)
    · have hf := it_neg c4 hf
      refine lv_iload_n hx hb dX7_isTogether_18 rfl (lv_at hl 1 rfl) ?_
      refine lv_iload_n hx hb dX7_isTogether_19 rfl (lv_at hl 2 rfl) ?_
      refine lv_iconst (v := (-1)) hx hb dX7_isTogether_20 icm1 ?_
      refine lv_ixor hx hb dX7_isTogether_21 ?_
      refine lv_iand hx hb dX7_isTogether_22 ?_
      refine lv_if_ne (tgt := 28) hx hb dX7_isTogether_23 (by decide) (fun c6 => ?_) (fun c6 => ?_)
      · have hf := it_neg c6 hf
        obtain ⟨x7, ex7, hf⟩ := bd_some hf
        refine lv_iinc (v := x7) (lv' := [(2, .int x7), (0, .ref D.1), (1, .int p0)]) hx hb dX7_isTogether_28 hl (k := 2) rfl (by rw [ex7]; first | done | rfl) (by decide) rfl (fun ls hl => ?_)
        refine lv_goto (tgt := 2) hx hb dX7_isTogether_31 (by decide) ?_
        cases hf
        exact hk _ _ _ hM (lv_sub hl [1, 2, 0] rfl)
      · have hf := it_pos c6 hf
        cases hf
        exact hk _ _ _ hM (lv_sub hl [] rfl)
def f_X7_fewestApart_L27 (x4 : Int32) (x6 : Int32) (x7 : Int32) : Option ((Int32 × Int32) ⊕ ((Int32))) :=
  (if nI 8 ≤ x7 then some (.inr x6) else bd (x6 + ((x4 >>> (x7 &&& 31)) &&& nI 1)) fun x9 => bd (x7 + nI 1) fun x10 => some (.inl (x9, x10)))
def f_X7_fewestApart_L13 (S : MS) (r1 : Int32) (x2 : Int32) (x3 : Int32) (x4 : Int32) : Option ((Int32 × Int32 × Int32) ⊕ ((Int32))) :=
  (if nI 256 ≤ x4 then some (.inr x2) else bnd (wO (fun t : Int32 × Int32 => f_X7_fewestApart_L27 x4 t.1 t.2) fu (nI 0, nI 0)) <| fun x13 => (if (x4 &&& (r1 ^^^ (-1))) = 0 then (if x3 < x13 then bd (x4 + nI 1) fun x17 => some (.inl (x2, x3, x17)) else bnd (f_X7_isTogether S x4) fun r18 => (if r18 = 0 then (if x13 < x3 then bd (x4 + nI 1) fun x22 => some (.inl (x4, x13, x22)) else bnd (f_X7_isLessRow x4 x2) fun r23 => (if r23 = 0 then bd (x4 + nI 1) fun x25 => some (.inl (x2, x3, x25)) else bd (x4 + nI 1) fun x26 => some (.inl (x4, x13, x26)))) else bd (x4 + nI 1) fun x20 => some (.inl (x2, x3, x20)))) else bd (x4 + nI 1) fun x15 => some (.inl (x2, x3, x15))))
def f_X7_fewestApart (S : MS) : Option Int32 :=
  bnd (f_X7_told S) fun r1 => bnd (wO (fun t : Int32 × Int32 × Int32 => f_X7_fewestApart_L13 S r1 t.1 t.2.1 t.2.2) fu ((-1), nI 9, nI 0)) <| fun x29 => some x29
abbrev r_X7_fewestApart : Room := { frames := 1, cells := 0, slots := 0, locals := 23 }
set_option maxHeartbeats 4000000 in
set_option maxRecDepth 100000 in
theorem c_X7_fewestApart (l : Launch) (D : MD) (S : MS)  {r : Int32} (hf : f_X7_fewestApart S = some r) : m_Met l yX7_fewestApart cX7_fewestApart 7 (Option.some Jvm.ClassFile.FieldType.int) r_X7_fewestApart D [.ref D.1] S (some (.int r)) S := by
  refine m_metI (F := 1) (L := 23) (by decide) rfl (Nat.le_of_ble_eq_true rfl) (fun p e s m args below meth c Q B hret hM ls hl => ?_)
  have hx := B.1
  have hb := B.2.1
  have hown := B.2.2.2.1
  have hts := B.2.2.2.2
  have hl : lv_has ls 7 [(0, .ref D.1)] := hl
  generalize s.heap = H, ([] : List Loc) = locs at hM ⊢
  unfold f_X7_fewestApart at hf
  refine lv_aload_n hx hb dX7_fewestApart_0 rfl (lv_at hl 0 rfl) ?_
  obtain ⟨r1, hcr1, hf⟩ := bnd_some hf
  refine mr_callV (rest := []) B hM (c_X7_told l D S  hcr1) (cwV 0 hts (lw_V q2120 q2122 qs86 q113 q2123) rfl rfl rfl hd_X7_told ⟨Nat.le_of_ble_eq_true rfl, Nat.le_of_ble_eq_true rfl⟩) rfl hl.1 rfl (Nat.le_of_ble_eq_true rfl) dX7_fewestApart_1 ⟨Nat.zero_le _, Nat.zero_le _⟩ (fun H locs hM => ?_)
  refine lv_istore_n (lv' := [(1, .int r1), (0, .ref D.1)]) hx hb dX7_fewestApart_4 rfl hl (by decide) rfl (fun ls hl => ?_)
  refine lv_iconst (v := (-1)) hx hb dX7_fewestApart_5 icm1 ?_
  refine lv_istore_n (lv' := [(2, .int (-1)), (1, .int r1), (0, .ref D.1)]) hx hb dX7_fewestApart_6 rfl hl (by decide) rfl (fun ls hl => ?_)
  refine lv_bipush (v := nI 9) hx hb dX7_fewestApart_7 bp9 ?_
  refine lv_istore_n (lv' := [(3, .int (nI 9)), (2, .int (-1)), (1, .int r1), (0, .ref D.1)]) hx hb dX7_fewestApart_9 rfl hl (by decide) rfl (fun ls hl => ?_)
  refine lv_iconst (v := nI 0) hx hb dX7_fewestApart_10 ic0 ?_
  refine lv_istore (lv' := [(4, .int (nI 0)), (3, .int (nI 9)), (2, .int (-1)), (1, .int r1), (0, .ref D.1)]) hx hb dX7_fewestApart_11 hl (by decide) rfl (fun ls hl => ?_)
  obtain ⟨y28, hxy28, hf⟩ := bnd_some hf
  have hy28 : (fun t : Int32 => ∀ (H : Heap) (locs : List Loc) (ls : Array Slot), m_I D s H locs S → lv_has ls 7 [(2, .int t)] → W p l e r_X7_fewestApart s m args below meth c H locs 0 0 Q (F0 m 103 ls [])) y28 := by
    obtain ⟨x29, rfl⟩ : ∃ z, z = y28 := ⟨_, rfl⟩
    intro H locs ls hM hl
    refine lv_iload_n hx hb dX7_fewestApart_103 rfl (lv_at hl 0 rfl) ?_
    cases hf
    exact hret _ _ _ _ rfl hM dX7_fewestApart_104
  refine lp_W (step := (fun t : Int32 × Int32 × Int32 => f_X7_fewestApart_L13 S r1 t.1 t.2.1 t.2.2)) (fun t : Int32 × Int32 × Int32 => ∀ (H : Heap) (locs : List Loc) (ls : Array Slot), m_I D s H locs S → lv_has ls 7 [(0, .ref D.1), (1, .int r1), (2, .int t.1), (3, .int t.2.1), (4, .int t.2.2)] → W p l e r_X7_fewestApart s m args below meth c H locs 0 0 Q (F0 m 13 ls [])) (fun t : Int32 => ∀ (H : Heap) (locs : List Loc) (ls : Array Slot), m_I D s H locs S → lv_has ls 7 [(2, .int t)] → W p l e r_X7_fewestApart s m args below meth c H locs 0 0 Q (F0 m 103 ls [])) ?_ fu ((-1), nI 9, nI 0) y28 hxy28 hy28 _ _ _ hM (lv_sub hl [4, 3, 2, 1, 0] rfl)
  clear hf hxy28 hy28
  rintro ⟨x2, x3, x4⟩ o (hf : f_X7_fewestApart_L13 S r1 x2 x3 x4 = some o) hk
  intro H locs ls hM hl
  unfold f_X7_fewestApart_L13 at hf
  refine lv_iload hx hb dX7_fewestApart_13 (lv_at hl 4 rfl) ?_
  refine lv_sipush (v := nI 256) hx hb dX7_fewestApart_15 sp256 ?_
  refine lv_icmp_ge (tgt := 103) hx hb dX7_fewestApart_18 (by decide) (fun c5 => ?_) (fun c5 => ?_)
  · have hf := it_pos c5 hf
    cases hf
    exact hk _ _ _ hM (lv_sub hl [2] rfl)
  · have hf := it_neg c5 hf
    refine lv_iconst (v := nI 0) hx hb dX7_fewestApart_21 ic0 ?_
    refine lv_istore (lv' := [(5, .int (nI 0)), (0, .ref D.1), (1, .int r1), (2, .int x2), (3, .int x3), (4, .int x4)]) hx hb dX7_fewestApart_22 hl (by decide) rfl (fun ls hl => ?_)
    refine lv_iconst (v := nI 0) hx hb dX7_fewestApart_24 ic0 ?_
    refine lv_istore (lv' := [(6, .int (nI 0)), (5, .int (nI 0)), (0, .ref D.1), (1, .int r1), (2, .int x2), (3, .int x3), (4, .int x4)]) hx hb dX7_fewestApart_25 hl (by decide) rfl (fun ls hl => ?_)
    obtain ⟨y12, hxy12, hf⟩ := bnd_some hf
    have hy12 : (fun t : Int32 => ∀ (H : Heap) (locs : List Loc) (ls : Array Slot), m_I D s H locs S → lv_has ls 7 [(0, .ref D.1), (1, .int r1), (2, .int x2), (3, .int x3), (4, .int x4), (5, .int t)] → W p l e r_X7_fewestApart s m args below meth c H locs 0 0 Q (F0 m 52 ls [])) y12 := by
      obtain ⟨x13, rfl⟩ : ∃ z, z = y12 := ⟨_, rfl⟩
      intro H locs ls hM hl
      refine lv_iload hx hb dX7_fewestApart_52 (lv_at hl 4 rfl) ?_
      refine lv_iload_n hx hb dX7_fewestApart_54 rfl (lv_at hl 1 rfl) ?_
      refine lv_iconst (v := (-1)) hx hb dX7_fewestApart_55 icm1 ?_
      refine lv_ixor hx hb dX7_fewestApart_56 ?_
      refine lv_iand hx hb dX7_fewestApart_57 ?_
      refine lv_if_ne (tgt := 97) hx hb dX7_fewestApart_58 (by decide) (fun c14 => ?_) (fun c14 => ?_)
      · have hf := it_neg c14 hf
        obtain ⟨x15, ex15, hf⟩ := bd_some hf
        refine lv_iinc (v := x15) (lv' := [(4, .int x15), (0, .ref D.1), (1, .int r1), (2, .int x2), (3, .int x3), (5, .int x13)]) hx hb dX7_fewestApart_97 hl (k := 4) rfl (by rw [ex15]; first | done | rfl) (by decide) rfl (fun ls hl => ?_)
        refine lv_goto (tgt := 13) hx hb dX7_fewestApart_100 (by decide) ?_
        cases hf
        exact hk _ _ _ hM (lv_sub hl [1, 2, 3, 4, 0] rfl)
      · have hf := it_pos c14 hf
        refine lv_iload hx hb dX7_fewestApart_61 (lv_at hl 5 rfl) ?_
        refine lv_iload_n hx hb dX7_fewestApart_63 rfl (lv_at hl 3 rfl) ?_
        refine lv_icmp_gt (tgt := 97) hx hb dX7_fewestApart_64 (by decide) (fun c16 => ?_) (fun c16 => ?_)
        · have hf := it_pos c16 hf
          obtain ⟨x17, ex17, hf⟩ := bd_some hf
          refine lv_iinc (v := x17) (lv' := [(4, .int x17), (0, .ref D.1), (1, .int r1), (2, .int x2), (3, .int x3), (5, .int x13)]) hx hb dX7_fewestApart_97 hl (k := 4) rfl (by rw [ex17]; first | done | rfl) (by decide) rfl (fun ls hl => ?_)
          refine lv_goto (tgt := 13) hx hb dX7_fewestApart_100 (by decide) ?_
          cases hf
          exact hk _ _ _ hM (lv_sub hl [1, 2, 3, 4, 0] rfl)
        · have hf := it_neg c16 hf
          refine lv_aload_n hx hb dX7_fewestApart_67 rfl (lv_at hl 0 rfl) ?_
          refine lv_iload hx hb dX7_fewestApart_68 (lv_at hl 4 rfl) ?_
          obtain ⟨r18, hcr18, hf⟩ := bnd_some hf
          refine mr_callV (rest := []) B hM (c_X7_isTogether l D S x4 hcr18) (cwV 1 hts (lw_V q2184 q2186 qs97 q113 q2187) rfl rfl rfl hd_X7_isTogether ⟨Nat.le_of_ble_eq_true rfl, Nat.le_of_ble_eq_true rfl⟩) rfl hl.1 rfl (Nat.le_of_ble_eq_true rfl) dX7_fewestApart_70 ⟨Nat.zero_le _, Nat.zero_le _⟩ (fun H locs hM => ?_)
          refine lv_if_ne (tgt := 97) hx hb dX7_fewestApart_73 (by decide) (fun c19 => ?_) (fun c19 => ?_)
          · have hf := it_neg c19 hf
            obtain ⟨x20, ex20, hf⟩ := bd_some hf
            refine lv_iinc (v := x20) (lv' := [(4, .int x20), (0, .ref D.1), (1, .int r1), (2, .int x2), (3, .int x3), (5, .int x13)]) hx hb dX7_fewestApart_97 hl (k := 4) rfl (by rw [ex20]; first | done | rfl) (by decide) rfl (fun ls hl => ?_)
            refine lv_goto (tgt := 13) hx hb dX7_fewestApart_100 (by decide) ?_
            cases hf
            exact hk _ _ _ hM (lv_sub hl [1, 2, 3, 4, 0] rfl)
          · have hf := it_pos c19 hf
            refine lv_iload hx hb dX7_fewestApart_76 (lv_at hl 5 rfl) ?_
            refine lv_iload_n hx hb dX7_fewestApart_78 rfl (lv_at hl 3 rfl) ?_
            refine lv_icmp_lt (tgt := 91) hx hb dX7_fewestApart_79 (by decide) (fun c21 => ?_) (fun c21 => ?_)
            · have hf := it_pos c21 hf
              refine lv_iload hx hb dX7_fewestApart_91 (lv_at hl 4 rfl) ?_
              refine lv_istore_n (lv' := [(2, .int x4), (0, .ref D.1), (1, .int r1), (3, .int x3), (4, .int x4), (5, .int x13)]) hx hb dX7_fewestApart_93 rfl hl (by decide) rfl (fun ls hl => ?_)
              refine lv_iload hx hb dX7_fewestApart_94 (lv_at hl 5 rfl) ?_
              refine lv_istore_n (lv' := [(3, .int x13), (2, .int x4), (0, .ref D.1), (1, .int r1), (4, .int x4), (5, .int x13)]) hx hb dX7_fewestApart_96 rfl hl (by decide) rfl (fun ls hl => ?_)
              obtain ⟨x22, ex22, hf⟩ := bd_some hf
              refine lv_iinc (v := x22) (lv' := [(4, .int x22), (3, .int x13), (2, .int x4), (0, .ref D.1), (1, .int r1), (5, .int x13)]) hx hb dX7_fewestApart_97 hl (k := 4) rfl (by rw [ex22]; first | done | rfl) (by decide) rfl (fun ls hl => ?_)
              refine lv_goto (tgt := 13) hx hb dX7_fewestApart_100 (by decide) ?_
              cases hf
              exact hk _ _ _ hM (lv_sub hl [3, 4, 2, 1, 0] rfl)
            · have hf := it_neg c21 hf
              refine lv_iload hx hb dX7_fewestApart_82 (lv_at hl 4 rfl) ?_
              refine lv_iload_n hx hb dX7_fewestApart_84 rfl (lv_at hl 2 rfl) ?_
              obtain ⟨r23, hcr23, hf⟩ := bnd_some hf
              refine pr_callS (rest := []) B (c_X7_isLessRow l x4 x2 hcr23) (va_cwS 2 hts (lw_S q2188 q2189 q113 q2190) rfl rfl rfl hd_X7_isLessRow ⟨Nat.le_of_ble_eq_true rfl, Nat.le_of_ble_eq_true rfl⟩) rfl hl.1 rfl (Nat.le_of_ble_eq_true rfl) dX7_fewestApart_85 ⟨Nat.zero_le _, Nat.zero_le _⟩ ?_
              refine lv_if_eq (tgt := 97) hx hb dX7_fewestApart_88 (by decide) (fun c24 => ?_) (fun c24 => ?_)
              · have hf := it_pos c24 hf
                obtain ⟨x25, ex25, hf⟩ := bd_some hf
                refine lv_iinc (v := x25) (lv' := [(4, .int x25), (0, .ref D.1), (1, .int r1), (2, .int x2), (3, .int x3), (5, .int x13)]) hx hb dX7_fewestApart_97 hl (k := 4) rfl (by rw [ex25]; first | done | rfl) (by decide) rfl (fun ls hl => ?_)
                refine lv_goto (tgt := 13) hx hb dX7_fewestApart_100 (by decide) ?_
                cases hf
                exact hk _ _ _ hM (lv_sub hl [1, 2, 3, 4, 0] rfl)
              · have hf := it_neg c24 hf
                refine lv_iload hx hb dX7_fewestApart_91 (lv_at hl 4 rfl) ?_
                refine lv_istore_n (lv' := [(2, .int x4), (0, .ref D.1), (1, .int r1), (3, .int x3), (4, .int x4), (5, .int x13)]) hx hb dX7_fewestApart_93 rfl hl (by decide) rfl (fun ls hl => ?_)
                refine lv_iload hx hb dX7_fewestApart_94 (lv_at hl 5 rfl) ?_
                refine lv_istore_n (lv' := [(3, .int x13), (2, .int x4), (0, .ref D.1), (1, .int r1), (4, .int x4), (5, .int x13)]) hx hb dX7_fewestApart_96 rfl hl (by decide) rfl (fun ls hl => ?_)
                obtain ⟨x26, ex26, hf⟩ := bd_some hf
                refine lv_iinc (v := x26) (lv' := [(4, .int x26), (3, .int x13), (2, .int x4), (0, .ref D.1), (1, .int r1), (5, .int x13)]) hx hb dX7_fewestApart_97 hl (k := 4) rfl (by rw [ex26]; first | done | rfl) (by decide) rfl (fun ls hl => ?_)
                refine lv_goto (tgt := 13) hx hb dX7_fewestApart_100 (by decide) ?_
                cases hf
                exact hk _ _ _ hM (lv_sub hl [3, 4, 2, 1, 0] rfl)
    refine lp_W (step := (fun t : Int32 × Int32 => f_X7_fewestApart_L27 x4 t.1 t.2)) (fun t : Int32 × Int32 => ∀ (H : Heap) (locs : List Loc) (ls : Array Slot), m_I D s H locs S → lv_has ls 7 [(0, .ref D.1), (1, .int r1), (2, .int x2), (3, .int x3), (4, .int x4), (5, .int t.1), (6, .int t.2)] → W p l e r_X7_fewestApart s m args below meth c H locs 0 0 Q (F0 m 27 ls [])) (fun t : Int32 => ∀ (H : Heap) (locs : List Loc) (ls : Array Slot), m_I D s H locs S → lv_has ls 7 [(0, .ref D.1), (1, .int r1), (2, .int x2), (3, .int x3), (4, .int x4), (5, .int t)] → W p l e r_X7_fewestApart s m args below meth c H locs 0 0 Q (F0 m 52 ls [])) ?_ fu (nI 0, nI 0) y12 hxy12 hy12 _ _ _ hM (lv_sub hl [2, 3, 4, 5, 6, 1, 0] rfl)
    clear hf hxy12 hy12
    rintro ⟨x6, x7⟩ o (hf : f_X7_fewestApart_L27 x4 x6 x7 = some o) hk
    intro H locs ls hM hl
    unfold f_X7_fewestApart_L27 at hf
    refine lv_iload hx hb dX7_fewestApart_27 (lv_at hl 6 rfl) ?_
    refine lv_bipush (v := nI 8) hx hb dX7_fewestApart_29 bp8 ?_
    refine lv_icmp_ge (tgt := 52) hx hb dX7_fewestApart_31 (by decide) (fun c8 => ?_) (fun c8 => ?_)
    · have hf := it_pos c8 hf
      cases hf
      exact hk _ _ _ hM (lv_sub hl [0, 1, 2, 3, 4, 5] rfl)
    · have hf := it_neg c8 hf
      refine lv_iload hx hb dX7_fewestApart_34 (lv_at hl 5 rfl) ?_
      refine lv_iload hx hb dX7_fewestApart_36 (lv_at hl 4 rfl) ?_
      refine lv_iload hx hb dX7_fewestApart_38 (lv_at hl 6 rfl) ?_
      refine lv_ishr hx hb dX7_fewestApart_40 ?_
      refine lv_iconst (v := nI 1) hx hb dX7_fewestApart_41 ic1 ?_
      refine lv_iand hx hb dX7_fewestApart_42 ?_
      refine lv_iadd hx hb dX7_fewestApart_43 ?_
      refine lv_topi (fun x9 ex9 => ?_)
      have hf := bd_at ex9 hf
      refine lv_istore (lv' := [(5, .int x9), (0, .ref D.1), (1, .int r1), (2, .int x2), (3, .int x3), (4, .int x4), (6, .int x7)]) hx hb dX7_fewestApart_44 hl (by decide) rfl (fun ls hl => ?_)
      obtain ⟨x10, ex10, hf⟩ := bd_some hf
      refine lv_iinc (v := x10) (lv' := [(6, .int x10), (5, .int x9), (0, .ref D.1), (1, .int r1), (2, .int x2), (3, .int x3), (4, .int x4)]) hx hb dX7_fewestApart_46 hl (k := 6) rfl (by rw [ex10]; first | done | rfl) (by decide) rfl (fun ls hl => ?_)
      refine lv_goto (tgt := 27) hx hb dX7_fewestApart_49 (by decide) ?_
      cases hf
      exact hk _ _ _ hM (lv_sub hl [2, 3, 4, 5, 6, 1, 0] rfl)
def f_X7_findTogether_L8 (x2 : Int32) (S3 : MS) : Option ((Int32 × MS) ⊕ ((MS))) :=
  (if nI 256 ≤ x2 then some (.inr S3) else ast 256 x2 (m_up S3 55 x2.toNatClampNeg (vp_nar .boolean (nI 0))) fun S5 => bd (x2 + nI 1) fun x6 => some (.inl (x6, S5)))
def f_X7_findTogether_L87 (r1 : Int32) (x20 : Int32) (x21 : Int32) (S22 : MS) : Option ((Int32 × Int32 × MS) ⊕ ((Int32 × MS))) :=
  ald 4 (S22.1 12) (nI 0) fun v23 => (if v23 ≤ x21 then some (.inr (x20, S22)) else (if ((r1 >>> (x21 &&& 31)) &&& nI 1) = 0 then bd (x20 ||| nI 0) fun x26 => bd (x21 + nI 1) fun x27 => some (.inl (x26, x27, S22)) else bnd (f_X7_means S22 x21) <| u2 fun r28 S29 => (if r28 = 0 then bd (x20 ||| nI 0) fun x31 => bd (x21 + nI 1) fun x32 => some (.inl (x31, x32, S29)) else bd (x20 ||| (nI 1 <<< (x21 &&& 31))) fun x33 => bd (x21 + nI 1) fun x34 => some (.inl (x33, x34, S29)))))
def f_X7_findTogether_L87_58 (r1 : Int32) (x43 : Int32) (x44 : Int32) (S45 : MS) : Option ((Int32 × Int32 × MS) ⊕ ((Int32 × MS))) :=
  ald 4 (S45.1 12) (nI 0) fun v46 => (if v46 ≤ x44 then some (.inr (x43, S45)) else (if ((r1 >>> (x44 &&& 31)) &&& nI 1) = 0 then bd (x43 ||| nI 0) fun x49 => bd (x44 + nI 1) fun x50 => some (.inl (x49, x50, S45)) else bnd (f_X7_means S45 x44) <| u2 fun r51 S52 => (if r51 = 0 then bd (x43 ||| nI 0) fun x54 => bd (x44 + nI 1) fun x55 => some (.inl (x54, x55, S52)) else bd (x43 ||| (nI 1 <<< (x44 &&& 31))) fun x56 => bd (x44 + nI 1) fun x57 => some (.inl (x56, x57, S52)))))
def f_X7_findTogether_L37 (p0 : Int32) (p1 : Int32) (r1 : Int32) (x11 : Int32) (S12 : MS) : Option ((Int32 × MS) ⊕ ((MS))) :=
  bnd (f_X7_manyFacts S12) fun r13 => (if (nI 1 <<< (r13 &&& 31)) ≤ x11 then some (.inr S12) else bnd (f_X7_layWorld S12 x11) fun S15 => bnd (f_X7_isAsKnown S15 x11) fun r16 => (if r16 = 0 then bd (x11 + nI 1) fun x18 => some (.inl (x18, S15)) else (if p0 = (-1) then bnd (wO (fun t : Int32 × Int32 × MS => f_X7_findTogether_L87 r1 t.1 t.2.1 t.2.2) fu (nI 0, nI 0, S15)) <| u2 fun x37 S38 => ast 256 x37 (m_up S38 55 x37.toNatClampNeg (vp_nar .boolean (nI 1))) fun S39 => bd (x11 + nI 1) fun x40 => some (.inl (x40, S39)) else ald 36 (S15.1 28) p0 fun v41 => (if v41 = p1 then bd (x11 + nI 1) fun x64 => some (.inl (x64, S15)) else bnd (wO (fun t : Int32 × Int32 × MS => f_X7_findTogether_L87_58 r1 t.1 t.2.1 t.2.2) fu (nI 0, nI 0, S15)) <| u2 fun x60 S61 => ast 256 x60 (m_up S61 55 x60.toNatClampNeg (vp_nar .boolean (nI 1))) fun S62 => bd (x11 + nI 1) fun x63 => some (.inl (x63, S62))))))
def f_X7_findTogether (S : MS) (p0 : Int32) (p1 : Int32) : Option MS :=
  bnd (f_X7_told S) fun r1 => bnd (wO (fun t : Int32 × MS => f_X7_findTogether_L8 t.1 t.2) fu (nI 0, S)) <| fun S9 => bnd (f_X7_findKnown S9) fun S10 => bnd (wO (fun t : Int32 × MS => f_X7_findTogether_L37 p0 p1 r1 t.1 t.2) fu (nI 0, S10)) <| fun S67 => some S67
abbrev r_X7_findTogether : Room := { frames := 8, cells := 0, slots := 0, locals := 188 }
set_option maxHeartbeats 4000000 in
set_option maxRecDepth 100000 in
theorem c_X7_findTogether (l : Launch) (D : MD) (S : MS) (p0 : Int32) (p1 : Int32) {S' : MS} (hf : f_X7_findTogether S p0 p1 = some S') : m_Met l yX7_findTogether cX7_findTogether 7 (Option.none : Option Jvm.ClassFile.FieldType) r_X7_findTogether D [.ref D.1, .int p0, .int p1] S none S' := by
  refine m_metV (F := 8) (L := 188) (by decide) rfl (Nat.le_of_ble_eq_true rfl) (fun p e s m args below meth c Q B hret hM ls hl => ?_)
  have hx := B.1
  have hb := B.2.1
  have hown := B.2.2.2.1
  have hts := B.2.2.2.2
  have hl : lv_has ls 7 [(0, .ref D.1), (1, .int p0), (2, .int p1)] := hl
  generalize s.heap = H, ([] : List Loc) = locs at hM ⊢
  unfold f_X7_findTogether at hf
  refine lv_aload_n hx hb dX7_findTogether_0 rfl (lv_at hl 0 rfl) ?_
  obtain ⟨r1, hcr1, hf⟩ := bnd_some hf
  refine mr_callV (rest := []) B hM (c_X7_told l D S  hcr1) (cwV 0 hts (lw_V q2120 q2122 qs86 q113 q2123) rfl rfl rfl hd_X7_told ⟨Nat.le_of_ble_eq_true rfl, Nat.le_of_ble_eq_true rfl⟩) rfl hl.1 rfl (Nat.le_of_ble_eq_true rfl) dX7_findTogether_1 ⟨Nat.zero_le _, Nat.zero_le _⟩ (fun H locs hM => ?_)
  refine lv_istore_n (lv' := [(3, .int r1), (0, .ref D.1), (1, .int p0), (2, .int p1)]) hx hb dX7_findTogether_4 rfl hl (by decide) rfl (fun ls hl => ?_)
  refine lv_iconst (v := nI 0) hx hb dX7_findTogether_5 ic0 ?_
  refine lv_istore (lv' := [(4, .int (nI 0)), (3, .int r1), (0, .ref D.1), (1, .int p0), (2, .int p1)]) hx hb dX7_findTogether_6 hl (by decide) rfl (fun ls hl => ?_)
  obtain ⟨y8, hxy8, hf⟩ := bnd_some hf
  have hy8 : (fun t : MS => ∀ (H : Heap) (locs : List Loc) (ls : Array Slot), m_I D s H locs t → lv_has ls 7 [(0, .ref D.1), (1, .int p0), (2, .int p1), (3, .int r1)] → W p l e r_X7_findTogether s m args below meth c H locs 0 0 Q (F0 m 30 ls [])) y8 := by
    obtain ⟨S9, rfl⟩ : ∃ z, z = y8 := ⟨_, rfl⟩
    intro H locs ls hM hl
    refine lv_aload_n hx hb dX7_findTogether_30 rfl (lv_at hl 0 rfl) ?_
    obtain ⟨S10, hcS10, hf⟩ := bnd_some hf
    refine mr_callV (rest := []) B hM (c_X7_findKnown l D S9  hcS10) (cwV 0 hts (lw_V q2124 q2126 qs87 q113 q2127) rfl rfl rfl hd_X7_findKnown ⟨Nat.le_of_ble_eq_true rfl, Nat.le_of_ble_eq_true rfl⟩) rfl hl.1 rfl (Nat.le_of_ble_eq_true rfl) dX7_findTogether_31 ⟨Nat.zero_le _, Nat.zero_le _⟩ (fun H locs hM => ?_)
    refine lv_iconst (v := nI 0) hx hb dX7_findTogether_34 ic0 ?_
    refine lv_istore (lv' := [(4, .int (nI 0)), (0, .ref D.1), (1, .int p0), (2, .int p1), (3, .int r1)]) hx hb dX7_findTogether_35 hl (by decide) rfl (fun ls hl => ?_)
    obtain ⟨y66, hxy66, hf⟩ := bnd_some hf
    have hy66 : (fun t : MS => ∀ (H : Heap) (locs : List Loc) (ls : Array Slot), m_I D s H locs t → lv_has ls 7 [] → W p l e r_X7_findTogether s m args below meth c H locs 0 0 Q (F0 m 149 ls [])) y66 := by
      obtain ⟨S67, rfl⟩ : ∃ z, z = y66 := ⟨_, rfl⟩
      intro H locs ls hM hl
      cases hf
      exact hret _ _ _ _ hM dX7_findTogether_149
    refine lp_W (step := (fun t : Int32 × MS => f_X7_findTogether_L37 p0 p1 r1 t.1 t.2)) (fun t : Int32 × MS => ∀ (H : Heap) (locs : List Loc) (ls : Array Slot), m_I D s H locs t.2 → lv_has ls 7 [(0, .ref D.1), (1, .int p0), (2, .int p1), (3, .int r1), (4, .int t.1)] → W p l e r_X7_findTogether s m args below meth c H locs 0 0 Q (F0 m 37 ls [])) (fun t : MS => ∀ (H : Heap) (locs : List Loc) (ls : Array Slot), m_I D s H locs t → lv_has ls 7 [] → W p l e r_X7_findTogether s m args below meth c H locs 0 0 Q (F0 m 149 ls [])) ?_ fu (nI 0, S10) y66 hxy66 hy66 _ _ _ hM (lv_sub hl [1, 2, 3, 4, 0] rfl)
    clear hf hxy66 hy66
    rintro ⟨x11, S12⟩ o (hf : f_X7_findTogether_L37 p0 p1 r1 x11 S12 = some o) hk
    intro H locs ls hM hl
    unfold f_X7_findTogether_L37 at hf
    refine lv_iload hx hb dX7_findTogether_37 (lv_at hl 4 rfl) ?_
    refine lv_iconst (v := nI 1) hx hb dX7_findTogether_39 ic1 ?_
    refine lv_aload_n hx hb dX7_findTogether_40 rfl (lv_at hl 0 rfl) ?_
    obtain ⟨r13, hcr13, hf⟩ := bnd_some hf
    refine mr_callV (rest := [.int (nI 1), .int x11]) B hM (c_X7_manyFacts l D S12  hcr13) (cwV 0 hts (lw_V q1868 q1870 qs49 q113 q1871) rfl rfl rfl hd_X7_manyFacts ⟨Nat.le_of_ble_eq_true rfl, Nat.le_of_ble_eq_true rfl⟩) rfl hl.1 rfl (Nat.le_of_ble_eq_true rfl) dX7_findTogether_41 ⟨Nat.zero_le _, Nat.zero_le _⟩ (fun H locs hM => ?_)
    refine lv_ishl hx hb dX7_findTogether_44 ?_
    refine lv_icmp_ge (tgt := 149) hx hb dX7_findTogether_45 (by decide) (fun c14 => ?_) (fun c14 => ?_)
    · have hf := it_pos c14 hf
      cases hf
      exact hk _ _ _ hM (lv_sub hl [] rfl)
    · have hf := it_neg c14 hf
      refine lv_aload_n hx hb dX7_findTogether_48 rfl (lv_at hl 0 rfl) ?_
      refine lv_iload hx hb dX7_findTogether_49 (lv_at hl 4 rfl) ?_
      obtain ⟨S15, hcS15, hf⟩ := bnd_some hf
      refine mr_callV (rest := []) B hM (c_X7_layWorld l D S12 x11 hcS15) (cwV 1 hts (lw_V q2136 q2138 qs90 q113 q2139) rfl rfl rfl hd_X7_layWorld ⟨Nat.le_of_ble_eq_true rfl, Nat.le_of_ble_eq_true rfl⟩) rfl hl.1 rfl (Nat.le_of_ble_eq_true rfl) dX7_findTogether_51 ⟨Nat.zero_le _, Nat.zero_le _⟩ (fun H locs hM => ?_)
      refine lv_aload_n hx hb dX7_findTogether_54 rfl (lv_at hl 0 rfl) ?_
      refine lv_iload hx hb dX7_findTogether_55 (lv_at hl 4 rfl) ?_
      obtain ⟨r16, hcr16, hf⟩ := bnd_some hf
      refine mr_callV (rest := []) B hM (c_X7_isAsKnown l D S15 x11 hcr16) (cwV 1 hts (lw_V q2132 q2134 qs89 q113 q2135) rfl rfl rfl hd_X7_isAsKnown ⟨Nat.le_of_ble_eq_true rfl, Nat.le_of_ble_eq_true rfl⟩) rfl hl.1 rfl (Nat.le_of_ble_eq_true rfl) dX7_findTogether_57 ⟨Nat.zero_le _, Nat.zero_le _⟩ (fun H locs hM => ?_)
      refine lv_if_eq (tgt := 143) hx hb dX7_findTogether_60 (by decide) (fun c17 => ?_) (fun c17 => ?_)
      · have hf := it_pos c17 hf
        obtain ⟨x18, ex18, hf⟩ := bd_some hf
        refine lv_iinc (v := x18) (lv' := [(4, .int x18), (0, .ref D.1), (1, .int p0), (2, .int p1), (3, .int r1)]) hx hb dX7_findTogether_143 hl (k := 4) rfl (by rw [ex18]; first | done | rfl) (by decide) rfl (fun ls hl => ?_)
        refine lv_goto (tgt := 37) hx hb dX7_findTogether_146 (by decide) ?_
        cases hf
        exact hk _ _ _ hM (lv_sub hl [1, 2, 3, 4, 0] rfl)
      · have hf := it_neg c17 hf
        refine lv_iload_n hx hb dX7_findTogether_63 rfl (lv_at hl 1 rfl) ?_
        refine lv_iconst (v := (-1)) hx hb dX7_findTogether_64 icm1 ?_
        refine lv_icmp_eq (tgt := 81) hx hb dX7_findTogether_65 (by decide) (fun c19 => ?_) (fun c19 => ?_)
        · have hf := it_pos c19 hf
          refine lv_iconst (v := nI 0) hx hb dX7_findTogether_81 ic0 ?_
          refine lv_istore (lv' := [(5, .int (nI 0)), (0, .ref D.1), (1, .int p0), (2, .int p1), (3, .int r1), (4, .int x11)]) hx hb dX7_findTogether_82 hl (by decide) rfl (fun ls hl => ?_)
          refine lv_iconst (v := nI 0) hx hb dX7_findTogether_84 ic0 ?_
          refine lv_istore (lv' := [(6, .int (nI 0)), (5, .int (nI 0)), (0, .ref D.1), (1, .int p0), (2, .int p1), (3, .int r1), (4, .int x11)]) hx hb dX7_findTogether_85 hl (by decide) rfl (fun ls hl => ?_)
          obtain ⟨y36, hxy36, hf⟩ := bnd_some hf
          have hy36 : (fun t : Int32 × MS => ∀ (H : Heap) (locs : List Loc) (ls : Array Slot), m_I D s H locs t.2 → lv_has ls 7 [(0, .ref D.1), (1, .int p0), (2, .int p1), (3, .int r1), (4, .int x11), (5, .int t.1)] → W p l e r_X7_findTogether s m args below meth c H locs 0 0 Q (F0 m 135 ls [])) y36 := by
            rcases y36 with ⟨x37, S38⟩
            have hf := u2_at hf
            intro H locs ls hM hl
            refine lv_aload_n hx hb dX7_findTogether_135 rfl (lv_at hl 0 rfl) ?_
            refine mr_get B hM 55 (v := .ref (D.2.1 55)) rfl (by decide) q1701 dX7_findTogether_136 ?_
            refine lv_iload hx hb dX7_findTogether_139 (lv_at hl 5 rfl) ?_
            refine lv_iconst (v := nI 1) hx hb dX7_findTogether_141 ic1 ?_
            obtain ⟨S39, eS39, hiS39, hf⟩ := ast_some hf
            refine mr_zast B hM 55 (by decide) rfl hiS39 eS39 dX7_findTogether_142 (fun H locs hM => ?_)
            obtain ⟨x40, ex40, hf⟩ := bd_some hf
            refine lv_iinc (v := x40) (lv' := [(4, .int x40), (0, .ref D.1), (1, .int p0), (2, .int p1), (3, .int r1), (5, .int x37)]) hx hb dX7_findTogether_143 hl (k := 4) rfl (by rw [ex40]; first | done | rfl) (by decide) rfl (fun ls hl => ?_)
            refine lv_goto (tgt := 37) hx hb dX7_findTogether_146 (by decide) ?_
            cases hf
            exact hk _ _ _ hM (lv_sub hl [1, 2, 3, 4, 0] rfl)
          refine lp_W (step := (fun t : Int32 × Int32 × MS => f_X7_findTogether_L87 r1 t.1 t.2.1 t.2.2)) (fun t : Int32 × Int32 × MS => ∀ (H : Heap) (locs : List Loc) (ls : Array Slot), m_I D s H locs t.2.2 → lv_has ls 7 [(0, .ref D.1), (1, .int p0), (2, .int p1), (3, .int r1), (4, .int x11), (5, .int t.1), (6, .int t.2.1)] → W p l e r_X7_findTogether s m args below meth c H locs 0 0 Q (F0 m 87 ls [])) (fun t : Int32 × MS => ∀ (H : Heap) (locs : List Loc) (ls : Array Slot), m_I D s H locs t.2 → lv_has ls 7 [(0, .ref D.1), (1, .int p0), (2, .int p1), (3, .int r1), (4, .int x11), (5, .int t.1)] → W p l e r_X7_findTogether s m args below meth c H locs 0 0 Q (F0 m 135 ls [])) ?_ fu (nI 0, nI 0, S15) y36 hxy36 hy36 _ _ _ hM (lv_sub hl [2, 3, 4, 5, 6, 1, 0] rfl)
          clear hf hxy36 hy36
          rintro ⟨x20, x21, S22⟩ o (hf : f_X7_findTogether_L87 r1 x20 x21 S22 = some o) hk
          intro H locs ls hM hl
          unfold f_X7_findTogether_L87 at hf
          refine lv_iload hx hb dX7_findTogether_87 (lv_at hl 6 rfl) ?_
          refine lv_aload_n hx hb dX7_findTogether_89 rfl (lv_at hl 0 rfl) ?_
          refine mr_get B hM 12 (v := .ref (D.2.1 12)) rfl (by decide) q1658 dX7_findTogether_90 ?_
          refine lv_iconst (v := nI 0) hx hb dX7_findTogether_93 ic0 ?_
          obtain ⟨v23, ev23, hiv23, hf⟩ := ald_some hf
          refine mr_iald B hM 12 (by decide) rfl hiv23 ev23 dX7_findTogether_94 ?_
          refine lv_icmp_ge (tgt := 135) hx hb dX7_findTogether_95 (by decide) (fun c24 => ?_) (fun c24 => ?_)
          · have hf := it_pos c24 hf
            cases hf
            exact hk _ _ _ hM (lv_sub hl [0, 1, 2, 3, 4, 5] rfl)
          · have hf := it_neg c24 hf
            refine lv_iload hx hb dX7_findTogether_98 (lv_at hl 5 rfl) ?_
            refine lv_iload_n hx hb dX7_findTogether_100 rfl (lv_at hl 3 rfl) ?_
            refine lv_iload hx hb dX7_findTogether_101 (lv_at hl 6 rfl) ?_
            refine lv_ishr hx hb dX7_findTogether_103 ?_
            refine lv_iconst (v := nI 1) hx hb dX7_findTogether_104 ic1 ?_
            refine lv_iand hx hb dX7_findTogether_105 ?_
            refine lv_if_eq (tgt := 125) hx hb dX7_findTogether_106 (by decide) (fun c25 => ?_) (fun c25 => ?_)
            · have hf := it_pos c25 hf
              refine lv_iconst (v := nI 0) hx hb dX7_findTogether_125 ic0 ?_
              refine lv_ior hx hb dX7_findTogether_126 ?_
              refine lv_topi (fun x26 ex26 => ?_)
              have hf := bd_at ex26 hf
              refine lv_istore (lv' := [(5, .int x26), (0, .ref D.1), (1, .int p0), (2, .int p1), (3, .int r1), (4, .int x11), (6, .int x21)]) hx hb dX7_findTogether_127 hl (by decide) rfl (fun ls hl => ?_)
              obtain ⟨x27, ex27, hf⟩ := bd_some hf
              refine lv_iinc (v := x27) (lv' := [(6, .int x27), (5, .int x26), (0, .ref D.1), (1, .int p0), (2, .int p1), (3, .int r1), (4, .int x11)]) hx hb dX7_findTogether_129 hl (k := 6) rfl (by rw [ex27]; first | done | rfl) (by decide) rfl (fun ls hl => ?_)
              refine lv_goto (tgt := 87) hx hb dX7_findTogether_132 (by decide) ?_
              cases hf
              exact hk _ _ _ hM (lv_sub hl [2, 3, 4, 5, 6, 1, 0] rfl)
            · have hf := it_neg c25 hf
              refine lv_aload_n hx hb dX7_findTogether_109 rfl (lv_at hl 0 rfl) ?_
              refine lv_iload hx hb dX7_findTogether_110 (lv_at hl 6 rfl) ?_
              obtain ⟨⟨r28, S29⟩, hcr28, hf⟩ := bnd_some hf
              have hf := u2_at hf
              refine mr_callV (rest := [.int x20]) B hM (c_X7_means l D S22 x21 hcr28) (cwV 1 hts (lw_V q2070 q2072 qs77 q113 q2073) rfl rfl rfl hd_X7_means ⟨Nat.le_of_ble_eq_true rfl, Nat.le_of_ble_eq_true rfl⟩) rfl hl.1 rfl (Nat.le_of_ble_eq_true rfl) dX7_findTogether_112 ⟨Nat.zero_le _, Nat.zero_le _⟩ (fun H locs hM => ?_)
              refine lv_if_eq (tgt := 125) hx hb dX7_findTogether_115 (by decide) (fun c30 => ?_) (fun c30 => ?_)
              · have hf := it_pos c30 hf
                refine lv_iconst (v := nI 0) hx hb dX7_findTogether_125 ic0 ?_
                refine lv_ior hx hb dX7_findTogether_126 ?_
                refine lv_topi (fun x31 ex31 => ?_)
                have hf := bd_at ex31 hf
                refine lv_istore (lv' := [(5, .int x31), (0, .ref D.1), (1, .int p0), (2, .int p1), (3, .int r1), (4, .int x11), (6, .int x21)]) hx hb dX7_findTogether_127 hl (by decide) rfl (fun ls hl => ?_)
                obtain ⟨x32, ex32, hf⟩ := bd_some hf
                refine lv_iinc (v := x32) (lv' := [(6, .int x32), (5, .int x31), (0, .ref D.1), (1, .int p0), (2, .int p1), (3, .int r1), (4, .int x11)]) hx hb dX7_findTogether_129 hl (k := 6) rfl (by rw [ex32]; first | done | rfl) (by decide) rfl (fun ls hl => ?_)
                refine lv_goto (tgt := 87) hx hb dX7_findTogether_132 (by decide) ?_
                cases hf
                exact hk _ _ _ hM (lv_sub hl [2, 3, 4, 5, 6, 1, 0] rfl)
              · have hf := it_neg c30 hf
                refine lv_iconst (v := nI 1) hx hb dX7_findTogether_118 ic1 ?_
                refine lv_iload hx hb dX7_findTogether_119 (lv_at hl 6 rfl) ?_
                refine lv_ishl hx hb dX7_findTogether_121 ?_
                refine lv_goto (tgt := 126) hx hb dX7_findTogether_122 (by decide) ?_
                refine lv_ior hx hb dX7_findTogether_126 ?_
                refine lv_topi (fun x33 ex33 => ?_)
                have hf := bd_at ex33 hf
                refine lv_istore (lv' := [(5, .int x33), (0, .ref D.1), (1, .int p0), (2, .int p1), (3, .int r1), (4, .int x11), (6, .int x21)]) hx hb dX7_findTogether_127 hl (by decide) rfl (fun ls hl => ?_)
                obtain ⟨x34, ex34, hf⟩ := bd_some hf
                refine lv_iinc (v := x34) (lv' := [(6, .int x34), (5, .int x33), (0, .ref D.1), (1, .int p0), (2, .int p1), (3, .int r1), (4, .int x11)]) hx hb dX7_findTogether_129 hl (k := 6) rfl (by rw [ex34]; first | done | rfl) (by decide) rfl (fun ls hl => ?_)
                refine lv_goto (tgt := 87) hx hb dX7_findTogether_132 (by decide) ?_
                cases hf
                exact hk _ _ _ hM (lv_sub hl [2, 3, 4, 5, 6, 1, 0] rfl)
        · have hf := it_neg c19 hf
          refine lv_aload_n hx hb dX7_findTogether_68 rfl (lv_at hl 0 rfl) ?_
          refine mr_get B hM 28 (v := .ref (D.2.1 28)) rfl (by decide) q1674 dX7_findTogether_69 ?_
          refine lv_iload_n hx hb dX7_findTogether_72 rfl (lv_at hl 1 rfl) ?_
          obtain ⟨v41, ev41, hiv41, hf⟩ := ald_some hf
          refine mr_zald B hM 28 (by decide) rfl hiv41 ev41 dX7_findTogether_73 ?_
          refine lv_iload_n hx hb dX7_findTogether_74 rfl (lv_at hl 2 rfl) ?_
          refine lv_icmp_ne (tgt := 81) hx hb dX7_findTogether_75 (by decide) (fun c42 => ?_) (fun c42 => ?_)
          · have hf := it_neg c42 hf
            refine lv_iconst (v := nI 0) hx hb dX7_findTogether_81 ic0 ?_
            refine lv_istore (lv' := [(5, .int (nI 0)), (0, .ref D.1), (1, .int p0), (2, .int p1), (3, .int r1), (4, .int x11)]) hx hb dX7_findTogether_82 hl (by decide) rfl (fun ls hl => ?_)
            refine lv_iconst (v := nI 0) hx hb dX7_findTogether_84 ic0 ?_
            refine lv_istore (lv' := [(6, .int (nI 0)), (5, .int (nI 0)), (0, .ref D.1), (1, .int p0), (2, .int p1), (3, .int r1), (4, .int x11)]) hx hb dX7_findTogether_85 hl (by decide) rfl (fun ls hl => ?_)
            obtain ⟨y59, hxy59, hf⟩ := bnd_some hf
            have hy59 : (fun t : Int32 × MS => ∀ (H : Heap) (locs : List Loc) (ls : Array Slot), m_I D s H locs t.2 → lv_has ls 7 [(0, .ref D.1), (1, .int p0), (2, .int p1), (3, .int r1), (4, .int x11), (5, .int t.1)] → W p l e r_X7_findTogether s m args below meth c H locs 0 0 Q (F0 m 135 ls [])) y59 := by
              rcases y59 with ⟨x60, S61⟩
              have hf := u2_at hf
              intro H locs ls hM hl
              refine lv_aload_n hx hb dX7_findTogether_135 rfl (lv_at hl 0 rfl) ?_
              refine mr_get B hM 55 (v := .ref (D.2.1 55)) rfl (by decide) q1701 dX7_findTogether_136 ?_
              refine lv_iload hx hb dX7_findTogether_139 (lv_at hl 5 rfl) ?_
              refine lv_iconst (v := nI 1) hx hb dX7_findTogether_141 ic1 ?_
              obtain ⟨S62, eS62, hiS62, hf⟩ := ast_some hf
              refine mr_zast B hM 55 (by decide) rfl hiS62 eS62 dX7_findTogether_142 (fun H locs hM => ?_)
              obtain ⟨x63, ex63, hf⟩ := bd_some hf
              refine lv_iinc (v := x63) (lv' := [(4, .int x63), (0, .ref D.1), (1, .int p0), (2, .int p1), (3, .int r1), (5, .int x60)]) hx hb dX7_findTogether_143 hl (k := 4) rfl (by rw [ex63]; first | done | rfl) (by decide) rfl (fun ls hl => ?_)
              refine lv_goto (tgt := 37) hx hb dX7_findTogether_146 (by decide) ?_
              cases hf
              exact hk _ _ _ hM (lv_sub hl [1, 2, 3, 4, 0] rfl)
            refine lp_W (step := (fun t : Int32 × Int32 × MS => f_X7_findTogether_L87_58 r1 t.1 t.2.1 t.2.2)) (fun t : Int32 × Int32 × MS => ∀ (H : Heap) (locs : List Loc) (ls : Array Slot), m_I D s H locs t.2.2 → lv_has ls 7 [(0, .ref D.1), (1, .int p0), (2, .int p1), (3, .int r1), (4, .int x11), (5, .int t.1), (6, .int t.2.1)] → W p l e r_X7_findTogether s m args below meth c H locs 0 0 Q (F0 m 87 ls [])) (fun t : Int32 × MS => ∀ (H : Heap) (locs : List Loc) (ls : Array Slot), m_I D s H locs t.2 → lv_has ls 7 [(0, .ref D.1), (1, .int p0), (2, .int p1), (3, .int r1), (4, .int x11), (5, .int t.1)] → W p l e r_X7_findTogether s m args below meth c H locs 0 0 Q (F0 m 135 ls [])) ?_ fu (nI 0, nI 0, S15) y59 hxy59 hy59 _ _ _ hM (lv_sub hl [2, 3, 4, 5, 6, 1, 0] rfl)
            clear hf hxy59 hy59
            rintro ⟨x43, x44, S45⟩ o (hf : f_X7_findTogether_L87_58 r1 x43 x44 S45 = some o) hk
            intro H locs ls hM hl
            unfold f_X7_findTogether_L87_58 at hf
            refine lv_iload hx hb dX7_findTogether_87 (lv_at hl 6 rfl) ?_
            refine lv_aload_n hx hb dX7_findTogether_89 rfl (lv_at hl 0 rfl) ?_
            refine mr_get B hM 12 (v := .ref (D.2.1 12)) rfl (by decide) q1658 dX7_findTogether_90 ?_
            refine lv_iconst (v := nI 0) hx hb dX7_findTogether_93 ic0 ?_
            obtain ⟨v46, ev46, hiv46, hf⟩ := ald_some hf
            refine mr_iald B hM 12 (by decide) rfl hiv46 ev46 dX7_findTogether_94 ?_
            refine lv_icmp_ge (tgt := 135) hx hb dX7_findTogether_95 (by decide) (fun c47 => ?_) (fun c47 => ?_)
            · have hf := it_pos c47 hf
              cases hf
              exact hk _ _ _ hM (lv_sub hl [0, 1, 2, 3, 4, 5] rfl)
            · have hf := it_neg c47 hf
              refine lv_iload hx hb dX7_findTogether_98 (lv_at hl 5 rfl) ?_
              refine lv_iload_n hx hb dX7_findTogether_100 rfl (lv_at hl 3 rfl) ?_
              refine lv_iload hx hb dX7_findTogether_101 (lv_at hl 6 rfl) ?_
              refine lv_ishr hx hb dX7_findTogether_103 ?_
              refine lv_iconst (v := nI 1) hx hb dX7_findTogether_104 ic1 ?_
              refine lv_iand hx hb dX7_findTogether_105 ?_
              refine lv_if_eq (tgt := 125) hx hb dX7_findTogether_106 (by decide) (fun c48 => ?_) (fun c48 => ?_)
              · have hf := it_pos c48 hf
                refine lv_iconst (v := nI 0) hx hb dX7_findTogether_125 ic0 ?_
                refine lv_ior hx hb dX7_findTogether_126 ?_
                refine lv_topi (fun x49 ex49 => ?_)
                have hf := bd_at ex49 hf
                refine lv_istore (lv' := [(5, .int x49), (0, .ref D.1), (1, .int p0), (2, .int p1), (3, .int r1), (4, .int x11), (6, .int x44)]) hx hb dX7_findTogether_127 hl (by decide) rfl (fun ls hl => ?_)
                obtain ⟨x50, ex50, hf⟩ := bd_some hf
                refine lv_iinc (v := x50) (lv' := [(6, .int x50), (5, .int x49), (0, .ref D.1), (1, .int p0), (2, .int p1), (3, .int r1), (4, .int x11)]) hx hb dX7_findTogether_129 hl (k := 6) rfl (by rw [ex50]; first | done | rfl) (by decide) rfl (fun ls hl => ?_)
                refine lv_goto (tgt := 87) hx hb dX7_findTogether_132 (by decide) ?_
                cases hf
                exact hk _ _ _ hM (lv_sub hl [2, 3, 4, 5, 6, 1, 0] rfl)
              · have hf := it_neg c48 hf
                refine lv_aload_n hx hb dX7_findTogether_109 rfl (lv_at hl 0 rfl) ?_
                refine lv_iload hx hb dX7_findTogether_110 (lv_at hl 6 rfl) ?_
                obtain ⟨⟨r51, S52⟩, hcr51, hf⟩ := bnd_some hf
                have hf := u2_at hf
                refine mr_callV (rest := [.int x43]) B hM (c_X7_means l D S45 x44 hcr51) (cwV 1 hts (lw_V q2070 q2072 qs77 q113 q2073) rfl rfl rfl hd_X7_means ⟨Nat.le_of_ble_eq_true rfl, Nat.le_of_ble_eq_true rfl⟩) rfl hl.1 rfl (Nat.le_of_ble_eq_true rfl) dX7_findTogether_112 ⟨Nat.zero_le _, Nat.zero_le _⟩ (fun H locs hM => ?_)
                refine lv_if_eq (tgt := 125) hx hb dX7_findTogether_115 (by decide) (fun c53 => ?_) (fun c53 => ?_)
                · have hf := it_pos c53 hf
                  refine lv_iconst (v := nI 0) hx hb dX7_findTogether_125 ic0 ?_
                  refine lv_ior hx hb dX7_findTogether_126 ?_
                  refine lv_topi (fun x54 ex54 => ?_)
                  have hf := bd_at ex54 hf
                  refine lv_istore (lv' := [(5, .int x54), (0, .ref D.1), (1, .int p0), (2, .int p1), (3, .int r1), (4, .int x11), (6, .int x44)]) hx hb dX7_findTogether_127 hl (by decide) rfl (fun ls hl => ?_)
                  obtain ⟨x55, ex55, hf⟩ := bd_some hf
                  refine lv_iinc (v := x55) (lv' := [(6, .int x55), (5, .int x54), (0, .ref D.1), (1, .int p0), (2, .int p1), (3, .int r1), (4, .int x11)]) hx hb dX7_findTogether_129 hl (k := 6) rfl (by rw [ex55]; first | done | rfl) (by decide) rfl (fun ls hl => ?_)
                  refine lv_goto (tgt := 87) hx hb dX7_findTogether_132 (by decide) ?_
                  cases hf
                  exact hk _ _ _ hM (lv_sub hl [2, 3, 4, 5, 6, 1, 0] rfl)
                · have hf := it_neg c53 hf
                  refine lv_iconst (v := nI 1) hx hb dX7_findTogether_118 ic1 ?_
                  refine lv_iload hx hb dX7_findTogether_119 (lv_at hl 6 rfl) ?_
                  refine lv_ishl hx hb dX7_findTogether_121 ?_
                  refine lv_goto (tgt := 126) hx hb dX7_findTogether_122 (by decide) ?_
                  refine lv_ior hx hb dX7_findTogether_126 ?_
                  refine lv_topi (fun x56 ex56 => ?_)
                  have hf := bd_at ex56 hf
                  refine lv_istore (lv' := [(5, .int x56), (0, .ref D.1), (1, .int p0), (2, .int p1), (3, .int r1), (4, .int x11), (6, .int x44)]) hx hb dX7_findTogether_127 hl (by decide) rfl (fun ls hl => ?_)
                  obtain ⟨x57, ex57, hf⟩ := bd_some hf
                  refine lv_iinc (v := x57) (lv' := [(6, .int x57), (5, .int x56), (0, .ref D.1), (1, .int p0), (2, .int p1), (3, .int r1), (4, .int x11)]) hx hb dX7_findTogether_129 hl (k := 6) rfl (by rw [ex57]; first | done | rfl) (by decide) rfl (fun ls hl => ?_)
                  refine lv_goto (tgt := 87) hx hb dX7_findTogether_132 (by decide) ?_
                  cases hf
                  exact hk _ _ _ hM (lv_sub hl [2, 3, 4, 5, 6, 1, 0] rfl)
          · have hf := it_pos c42 hf
            refine lv_goto (tgt := 143) hx hb dX7_findTogether_78 (by decide) ?_
            obtain ⟨x64, ex64, hf⟩ := bd_some hf
            refine lv_iinc (v := x64) (lv' := [(4, .int x64), (0, .ref D.1), (1, .int p0), (2, .int p1), (3, .int r1)]) hx hb dX7_findTogether_143 hl (k := 4) rfl (by rw [ex64]; first | done | rfl) (by decide) rfl (fun ls hl => ?_)
            refine lv_goto (tgt := 37) hx hb dX7_findTogether_146 (by decide) ?_
            cases hf
            exact hk _ _ _ hM (lv_sub hl [1, 2, 3, 4, 0] rfl)
  refine lp_W (step := (fun t : Int32 × MS => f_X7_findTogether_L8 t.1 t.2)) (fun t : Int32 × MS => ∀ (H : Heap) (locs : List Loc) (ls : Array Slot), m_I D s H locs t.2 → lv_has ls 7 [(0, .ref D.1), (1, .int p0), (2, .int p1), (3, .int r1), (4, .int t.1)] → W p l e r_X7_findTogether s m args below meth c H locs 0 0 Q (F0 m 8 ls [])) (fun t : MS => ∀ (H : Heap) (locs : List Loc) (ls : Array Slot), m_I D s H locs t → lv_has ls 7 [(0, .ref D.1), (1, .int p0), (2, .int p1), (3, .int r1)] → W p l e r_X7_findTogether s m args below meth c H locs 0 0 Q (F0 m 30 ls [])) ?_ fu (nI 0, S) y8 hxy8 hy8 _ _ _ hM (lv_sub hl [2, 3, 4, 1, 0] rfl)
  clear hf hxy8 hy8
  rintro ⟨x2, S3⟩ o (hf : f_X7_findTogether_L8 x2 S3 = some o) hk
  intro H locs ls hM hl
  unfold f_X7_findTogether_L8 at hf
  refine lv_iload hx hb dX7_findTogether_8 (lv_at hl 4 rfl) ?_
  refine lv_sipush (v := nI 256) hx hb dX7_findTogether_10 sp256 ?_
  refine lv_icmp_ge (tgt := 30) hx hb dX7_findTogether_13 (by decide) (fun c4 => ?_) (fun c4 => ?_)
  · have hf := it_pos c4 hf
    cases hf
    exact hk _ _ _ hM (lv_sub hl [0, 1, 2, 3] rfl)
  · have hf := it_neg c4 hf
    refine lv_aload_n hx hb dX7_findTogether_16 rfl (lv_at hl 0 rfl) ?_
    refine mr_get B hM 55 (v := .ref (D.2.1 55)) rfl (by decide) q1701 dX7_findTogether_17 ?_
    refine lv_iload hx hb dX7_findTogether_20 (lv_at hl 4 rfl) ?_
    refine lv_iconst (v := nI 0) hx hb dX7_findTogether_22 ic0 ?_
    obtain ⟨S5, eS5, hiS5, hf⟩ := ast_some hf
    refine mr_zast B hM 55 (by decide) rfl hiS5 eS5 dX7_findTogether_23 (fun H locs hM => ?_)
    obtain ⟨x6, ex6, hf⟩ := bd_some hf
    refine lv_iinc (v := x6) (lv' := [(4, .int x6), (0, .ref D.1), (1, .int p0), (2, .int p1), (3, .int r1)]) hx hb dX7_findTogether_24 hl (k := 4) rfl (by rw [ex6]; first | done | rfl) (by decide) rfl (fun ls hl => ?_)
    refine lv_goto (tgt := 8) hx hb dX7_findTogether_27 (by decide) ?_
    cases hf
    exact hk _ _ _ hM (lv_sub hl [1, 2, 3, 4, 0] rfl)
def f_X7_numberIn_L4 (p0 : Int32) (p1 : Int32) (x1 : Int32) (x2 : Int32) : Option ((Int32 × Int32) ⊕ ((Int32) ⊕ (Unit))) :=
  (if nI 8 ≤ x2 then some (.inr (.inr ())) else (if p0 = (-1) then some (.inr (.inr ())) else (if ((p0 >>> (x2 &&& 31)) &&& nI 1) = 0 then bd (x2 + nI 1) fun x6 => some (.inl (x1, x6)) else (if x1 = p1 then some (.inr (.inl x2)) else bd (x1 + nI 1) fun x8 => bd (x2 + nI 1) fun x9 => some (.inl (x8, x9))))))
def f_X7_numberIn (p0 : Int32) (p1 : Int32) : Option Int32 :=
  bnd (wO (fun t : Int32 × Int32 => f_X7_numberIn_L4 p0 p1 t.1 t.2) fu (nI 0, nI 0)) (Sum.elim (fun x12 => some x12) (fun _ => some (-1)))
abbrev r_X7_numberIn : Room := { frames := 0, cells := 0, slots := 0, locals := 0 }
set_option maxHeartbeats 4000000 in
set_option maxRecDepth 100000 in
theorem c_X7_numberIn (l : Launch) (p0 : Int32) (p1 : Int32) {r : Int32} (hf : f_X7_numberIn p0 p1 = some r) : p_Met l yX7_numberIn cX7_numberIn 4 (Option.some Jvm.ClassFile.FieldType.int) r_X7_numberIn [.int p0, .int p1] (some (.int r)) := by
  refine p_metI (F := 0) (L := 0) RX7 (by decide) rfl (Nat.le_of_ble_eq_true rfl) (fun p e s m args below meth c Q B hret ls hl => ?_)
  have hx := B.1
  have hb := B.2.1
  have hown := B.2.2.2.1
  have hts := B.2.2.2.2
  have hl : lv_has ls 4 [(0, .int p0), (1, .int p1)] := hl
  unfold f_X7_numberIn at hf
  refine lv_iconst (v := nI 0) hx hb dX7_numberIn_0 ic0 ?_
  refine lv_istore_n (lv' := [(2, .int (nI 0)), (0, .int p0), (1, .int p1)]) hx hb dX7_numberIn_1 rfl hl (by decide) rfl (fun ls hl => ?_)
  refine lv_iconst (v := nI 0) hx hb dX7_numberIn_2 ic0 ?_
  refine lv_istore_n (lv' := [(3, .int (nI 0)), (2, .int (nI 0)), (0, .int p0), (1, .int p1)]) hx hb dX7_numberIn_3 rfl hl (by decide) rfl (fun ls hl => ?_)
  obtain ⟨y11, hxy11, hf⟩ := bnd_some hf
  have hy11 : (Sum.elim (fun t : Int32 => ∀ (ls : Array Slot), lv_has ls 4 [(3, .int t)] → W p l e r_X7_numberIn s m args below meth c s.heap [] 0 0 Q (F0 m 28 ls [])) (fun t : Unit => ∀ (ls : Array Slot), lv_has ls 4 [] → W p l e r_X7_numberIn s m args below meth c s.heap [] 0 0 Q (F0 m 39 ls []))) y11 := by
    rcases y11 with x12 | _
    · have hf := el_l hf
      intro ls hl
      refine lv_iload_n hx hb dX7_numberIn_28 rfl (lv_at hl 0 rfl) ?_
      cases hf
      exact hret _ _ rfl dX7_numberIn_29
    · have hf := el_r hf
      intro ls hl
      refine lv_iconst (v := (-1)) hx hb dX7_numberIn_39 icm1 ?_
      cases hf
      exact hret _ _ rfl dX7_numberIn_40
  refine lp_W (step := (fun t : Int32 × Int32 => f_X7_numberIn_L4 p0 p1 t.1 t.2)) (fun t : Int32 × Int32 => ∀ (ls : Array Slot), lv_has ls 4 [(0, .int p0), (1, .int p1), (2, .int t.1), (3, .int t.2)] → W p l e r_X7_numberIn s m args below meth c s.heap [] 0 0 Q (F0 m 4 ls [])) (Sum.elim (fun t : Int32 => ∀ (ls : Array Slot), lv_has ls 4 [(3, .int t)] → W p l e r_X7_numberIn s m args below meth c s.heap [] 0 0 Q (F0 m 28 ls [])) (fun t : Unit => ∀ (ls : Array Slot), lv_has ls 4 [] → W p l e r_X7_numberIn s m args below meth c s.heap [] 0 0 Q (F0 m 39 ls []))) ?_ fu (nI 0, nI 0) y11 hxy11 hy11 _ (lv_sub hl [2, 3, 1, 0] rfl)
  clear hf hxy11 hy11
  rintro ⟨x1, x2⟩ o (hf : f_X7_numberIn_L4 p0 p1 x1 x2 = some o) hk
  intro ls hl
  unfold f_X7_numberIn_L4 at hf
  refine lv_iload_n hx hb dX7_numberIn_4 rfl (lv_at hl 3 rfl) ?_
  refine lv_bipush (v := nI 8) hx hb dX7_numberIn_5 bp8 ?_
  refine lv_icmp_ge (tgt := 39) hx hb dX7_numberIn_7 (by decide) (fun c3 => ?_) (fun c3 => ?_)
  · have hf := it_pos c3 hf
    cases hf
    exact hk _ (lv_sub hl [] rfl)
  · have hf := it_neg c3 hf
    refine lv_iload_n hx hb dX7_numberIn_10 rfl (lv_at hl 0 rfl) ?_
    refine lv_iconst (v := (-1)) hx hb dX7_numberIn_11 icm1 ?_
    refine lv_icmp_eq (tgt := 39) hx hb dX7_numberIn_12 (by decide) (fun c4 => ?_) (fun c4 => ?_)
    · have hf := it_pos c4 hf
      cases hf
      exact hk _ (lv_sub hl [] rfl)
    · have hf := it_neg c4 hf
      refine lv_iload_n hx hb dX7_numberIn_15 rfl (lv_at hl 0 rfl) ?_
      refine lv_iload_n hx hb dX7_numberIn_16 rfl (lv_at hl 3 rfl) ?_
      refine lv_ishr hx hb dX7_numberIn_17 ?_
      refine lv_iconst (v := nI 1) hx hb dX7_numberIn_18 ic1 ?_
      refine lv_iand hx hb dX7_numberIn_19 ?_
      refine lv_if_eq (tgt := 33) hx hb dX7_numberIn_20 (by decide) (fun c5 => ?_) (fun c5 => ?_)
      · have hf := it_pos c5 hf
        obtain ⟨x6, ex6, hf⟩ := bd_some hf
        refine lv_iinc (v := x6) (lv' := [(3, .int x6), (0, .int p0), (1, .int p1), (2, .int x1)]) hx hb dX7_numberIn_33 hl (k := 3) rfl (by rw [ex6]; first | done | rfl) (by decide) rfl (fun ls hl => ?_)
        refine lv_goto (tgt := 4) hx hb dX7_numberIn_36 (by decide) ?_
        cases hf
        exact hk _ (lv_sub hl [1, 2, 3, 0] rfl)
      · have hf := it_neg c5 hf
        refine lv_iload_n hx hb dX7_numberIn_23 rfl (lv_at hl 2 rfl) ?_
        refine lv_iload_n hx hb dX7_numberIn_24 rfl (lv_at hl 1 rfl) ?_
        refine lv_icmp_ne (tgt := 30) hx hb dX7_numberIn_25 (by decide) (fun c7 => ?_) (fun c7 => ?_)
        · have hf := it_neg c7 hf
          obtain ⟨x8, ex8, hf⟩ := bd_some hf
          refine lv_iinc (v := x8) (lv' := [(2, .int x8), (0, .int p0), (1, .int p1), (3, .int x2)]) hx hb dX7_numberIn_30 hl (k := 2) rfl (by rw [ex8]; first | done | rfl) (by decide) rfl (fun ls hl => ?_)
          obtain ⟨x9, ex9, hf⟩ := bd_some hf
          refine lv_iinc (v := x9) (lv' := [(3, .int x9), (2, .int x8), (0, .int p0), (1, .int p1)]) hx hb dX7_numberIn_33 hl (k := 3) rfl (by rw [ex9]; first | done | rfl) (by decide) rfl (fun ls hl => ?_)
          refine lv_goto (tgt := 4) hx hb dX7_numberIn_36 (by decide) ?_
          cases hf
          exact hk _ (lv_sub hl [2, 3, 1, 0] rfl)
        · have hf := it_pos c7 hf
          cases hf
          exact hk _ (lv_sub hl [3] rfl)
def f_X7_core (S : MS) (p0 : Int32) : Option (Int32 × MS) :=
  bd (m_up S 0 0 (nI 0)) fun S1 => bnd (f_X7_canTell S1) <| u2 fun r2 S3 => (if r2 = 0 then some ((-1), S3) else bnd (f_X7_findTogether S3 (-1) (nI 0)) fun S5 => bnd (f_X7_fewestApart S5) fun r6 => bnd (f_X7_numberIn r6 p0) fun r7 => some (r7, S5))
abbrev r_X7_core : Room := { frames := 9, cells := 0, slots := 0, locals := 214 }
set_option maxHeartbeats 4000000 in
set_option maxRecDepth 100000 in
theorem c_X7_core (l : Launch) (D : MD) (S : MS) (p0 : Int32) {r : Int32} {S' : MS} (hf : f_X7_core S p0 = some (r, S')) : m_Met l yX7_core cX7_core 3 (Option.some Jvm.ClassFile.FieldType.int) r_X7_core D [.ref D.1, .int p0] S (some (.int r)) S' := by
  refine m_metI (F := 9) (L := 214) (by decide) rfl (Nat.le_of_ble_eq_true rfl) (fun p e s m args below meth c Q B hret hM ls hl => ?_)
  have hx := B.1
  have hb := B.2.1
  have hown := B.2.2.2.1
  have hts := B.2.2.2.2
  have hl : lv_has ls 3 [(0, .ref D.1), (1, .int p0)] := hl
  generalize s.heap = H, ([] : List Loc) = locs at hM ⊢
  unfold f_X7_core at hf
  refine lv_aload_n hx hb dX7_core_0 rfl (lv_at hl 0 rfl) ?_
  refine lv_iconst (v := nI 0) hx hb dX7_core_1 ic0 ?_
  obtain ⟨S1, eS1, hf⟩ := bd_some hf
  refine mr_puti B hM 0 (by decide) eS1 rfl (tyX7_ok 0 (by decide)) q1646 dX7_core_2 (fun H locs hM => ?_)
  refine lv_aload_n hx hb dX7_core_5 rfl (lv_at hl 0 rfl) ?_
  obtain ⟨⟨r2, S3⟩, hcr2, hf⟩ := bnd_some hf
  have hf := u2_at hf
  refine mr_callV (rest := []) B hM (c_X7_canTell l D S1  hcr2) (cwV 0 hts (lw_V q1904 q1906 qs53 q113 q1907) rfl rfl rfl hd_X7_canTell ⟨Nat.le_of_ble_eq_true rfl, Nat.le_of_ble_eq_true rfl⟩) rfl hl.1 rfl (Nat.le_of_ble_eq_true rfl) dX7_core_6 ⟨Nat.zero_le _, Nat.zero_le _⟩ (fun H locs hM => ?_)
  refine lv_if_ne (tgt := 14) hx hb dX7_core_9 (by decide) (fun c4 => ?_) (fun c4 => ?_)
  · have hf := it_neg c4 hf
    refine lv_aload_n hx hb dX7_core_14 rfl (lv_at hl 0 rfl) ?_
    refine lv_iconst (v := (-1)) hx hb dX7_core_15 icm1 ?_
    refine lv_iconst (v := nI 0) hx hb dX7_core_16 ic0 ?_
    obtain ⟨S5, hcS5, hf⟩ := bnd_some hf
    refine mr_callV (rest := []) B hM (c_X7_findTogether l D S3 (-1) (nI 0) hcS5) (cwV 2 hts (lw_V q2176 q2178 qs95 q113 q2179) rfl rfl rfl hd_X7_findTogether ⟨Nat.le_of_ble_eq_true rfl, Nat.le_of_ble_eq_true rfl⟩) rfl hl.1 rfl (Nat.le_of_ble_eq_true rfl) dX7_core_17 ⟨Nat.zero_le _, Nat.zero_le _⟩ (fun H locs hM => ?_)
    refine lv_aload_n hx hb dX7_core_20 rfl (lv_at hl 0 rfl) ?_
    obtain ⟨r6, hcr6, hf⟩ := bnd_some hf
    refine mr_callV (rest := []) B hM (c_X7_fewestApart l D S5  hcr6) (cwV 0 hts (lw_V q2180 q2182 qs96 q113 q2183) rfl rfl rfl hd_X7_fewestApart ⟨Nat.le_of_ble_eq_true rfl, Nat.le_of_ble_eq_true rfl⟩) rfl hl.1 rfl (Nat.le_of_ble_eq_true rfl) dX7_core_21 ⟨Nat.zero_le _, Nat.zero_le _⟩ (fun H locs hM => ?_)
    refine lv_istore_n (lv' := [(2, .int r6), (0, .ref D.1), (1, .int p0)]) hx hb dX7_core_24 rfl hl (by decide) rfl (fun ls hl => ?_)
    refine lv_iload_n hx hb dX7_core_25 rfl (lv_at hl 0 rfl) ?_
    refine lv_iload_n hx hb dX7_core_26 rfl (lv_at hl 2 rfl) ?_
    obtain ⟨r7, hcr7, hf⟩ := bnd_some hf
    refine pr_callS (rest := []) B (c_X7_numberIn l r6 p0 hcr7) (va_cwS 2 hts (lw_S q2191 q2192 q113 q2193) rfl rfl rfl hd_X7_numberIn ⟨Nat.le_of_ble_eq_true rfl, Nat.le_of_ble_eq_true rfl⟩) rfl hl.1 rfl (Nat.le_of_ble_eq_true rfl) dX7_core_27 ⟨Nat.zero_le _, Nat.zero_le _⟩ ?_
    cases hf
    exact hret _ _ _ _ rfl hM dX7_core_30
  · have hf := it_pos c4 hf
    refine lv_iconst (v := (-1)) hx hb dX7_core_12 icm1 ?_
    cases hf
    exact hret _ _ _ _ rfl hM dX7_core_13
