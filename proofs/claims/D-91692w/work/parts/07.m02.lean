set_option maxRecDepth 100000
def f_X7_later (S : MS) (p0 : Int32) (p1 : Int32) : Option MS :=
  (if (S.1 36 0) = 0 then bd (m_up S 36 0 p0) fun S2 => bd (m_up S2 37 0 p1) fun S3 => some S3 else (if p1 < (S.1 37 0) then bd (m_up S 36 0 p0) fun S5 => bd (m_up S5 37 0 p1) fun S6 => some S6 else (if p1 = (S.1 37 0) then (if (S.1 36 0) ≤ p0 then some S else bd (m_up S 36 0 p0) fun S9 => bd (m_up S9 37 0 p1) fun S10 => some S10) else some S)))
abbrev r_X7_later : Room := { frames := 0, cells := 0, slots := 0, locals := 0 }
set_option maxHeartbeats 4000000 in
set_option maxRecDepth 100000 in
theorem c_X7_later (l : Launch) (D : MD) (S : MS) (p0 : Int32) (p1 : Int32) {S' : MS} (hf : f_X7_later S p0 p1 = some S') : m_Met l yX7_later cX7_later 3 (Option.none : Option Jvm.ClassFile.FieldType) r_X7_later D [.ref D.1, .int p0, .int p1] S none S' := by
  refine m_metV (F := 0) (L := 0) (by decide) rfl (Nat.le_of_ble_eq_true rfl) (fun p e s m args below meth c Q B hret hM ls hl => ?_)
  have hx := B.1
  have hb := B.2.1
  have hown := B.2.2.2.1
  have hts := B.2.2.2.2
  have hl : lv_has ls 3 [(0, .ref D.1), (1, .int p0), (2, .int p1)] := hl
  generalize s.heap = H, ([] : List Loc) = locs at hM ⊢
  unfold f_X7_later at hf
  refine lv_aload_n hx hb dX7_later_0 rfl (lv_at hl 0 rfl) ?_
  refine mr_get B hM 36 (v := .int (S.1 36 0)) rfl (by decide) q1682 dX7_later_1 ?_
  refine lv_if_eq (tgt := 31) hx hb dX7_later_4 (by decide) (fun c1 => ?_) (fun c1 => ?_)
  · have hf := it_pos c1 hf
    refine lv_aload_n hx hb dX7_later_31 rfl (lv_at hl 0 rfl) ?_
    refine lv_iload_n hx hb dX7_later_32 rfl (lv_at hl 1 rfl) ?_
    obtain ⟨S2, eS2, hf⟩ := bd_some hf
    refine mr_puti B hM 36 (by decide) eS2 rfl (tyX7_ok 36 (by decide)) q1682 dX7_later_33 (fun H locs hM => ?_)
    refine lv_aload_n hx hb dX7_later_36 rfl (lv_at hl 0 rfl) ?_
    refine lv_iload_n hx hb dX7_later_37 rfl (lv_at hl 2 rfl) ?_
    obtain ⟨S3, eS3, hf⟩ := bd_some hf
    refine mr_puti B hM 37 (by decide) eS3 rfl (tyX7_ok 37 (by decide)) q1683 dX7_later_38 (fun H locs hM => ?_)
    cases hf
    exact hret _ _ _ _ hM dX7_later_41
  · have hf := it_neg c1 hf
    refine lv_iload_n hx hb dX7_later_7 rfl (lv_at hl 2 rfl) ?_
    refine lv_aload_n hx hb dX7_later_8 rfl (lv_at hl 0 rfl) ?_
    refine mr_get B hM 37 (v := .int (S.1 37 0)) rfl (by decide) q1683 dX7_later_9 ?_
    refine lv_icmp_lt (tgt := 31) hx hb dX7_later_12 (by decide) (fun c4 => ?_) (fun c4 => ?_)
    · have hf := it_pos c4 hf
      refine lv_aload_n hx hb dX7_later_31 rfl (lv_at hl 0 rfl) ?_
      refine lv_iload_n hx hb dX7_later_32 rfl (lv_at hl 1 rfl) ?_
      obtain ⟨S5, eS5, hf⟩ := bd_some hf
      refine mr_puti B hM 36 (by decide) eS5 rfl (tyX7_ok 36 (by decide)) q1682 dX7_later_33 (fun H locs hM => ?_)
      refine lv_aload_n hx hb dX7_later_36 rfl (lv_at hl 0 rfl) ?_
      refine lv_iload_n hx hb dX7_later_37 rfl (lv_at hl 2 rfl) ?_
      obtain ⟨S6, eS6, hf⟩ := bd_some hf
      refine mr_puti B hM 37 (by decide) eS6 rfl (tyX7_ok 37 (by decide)) q1683 dX7_later_38 (fun H locs hM => ?_)
      cases hf
      exact hret _ _ _ _ hM dX7_later_41
    · have hf := it_neg c4 hf
      refine lv_iload_n hx hb dX7_later_15 rfl (lv_at hl 2 rfl) ?_
      refine lv_aload_n hx hb dX7_later_16 rfl (lv_at hl 0 rfl) ?_
      refine mr_get B hM 37 (v := .int (S.1 37 0)) rfl (by decide) q1683 dX7_later_17 ?_
      refine lv_icmp_ne (tgt := 41) hx hb dX7_later_20 (by decide) (fun c7 => ?_) (fun c7 => ?_)
      · have hf := it_neg c7 hf
        cases hf
        exact hret _ _ _ _ hM dX7_later_41
      · have hf := it_pos c7 hf
        refine lv_iload_n hx hb dX7_later_23 rfl (lv_at hl 1 rfl) ?_
        refine lv_aload_n hx hb dX7_later_24 rfl (lv_at hl 0 rfl) ?_
        refine mr_get B hM 36 (v := .int (S.1 36 0)) rfl (by decide) q1682 dX7_later_25 ?_
        refine lv_icmp_ge (tgt := 41) hx hb dX7_later_28 (by decide) (fun c8 => ?_) (fun c8 => ?_)
        · have hf := it_pos c8 hf
          cases hf
          exact hret _ _ _ _ hM dX7_later_41
        · have hf := it_neg c8 hf
          refine lv_aload_n hx hb dX7_later_31 rfl (lv_at hl 0 rfl) ?_
          refine lv_iload_n hx hb dX7_later_32 rfl (lv_at hl 1 rfl) ?_
          obtain ⟨S9, eS9, hf⟩ := bd_some hf
          refine mr_puti B hM 36 (by decide) eS9 rfl (tyX7_ok 36 (by decide)) q1682 dX7_later_33 (fun H locs hM => ?_)
          refine lv_aload_n hx hb dX7_later_36 rfl (lv_at hl 0 rfl) ?_
          refine lv_iload_n hx hb dX7_later_37 rfl (lv_at hl 2 rfl) ?_
          obtain ⟨S10, eS10, hf⟩ := bd_some hf
          refine mr_puti B hM 37 (by decide) eS10 rfl (tyX7_ok 37 (by decide)) q1683 dX7_later_38 (fun H locs hM => ?_)
          cases hf
          exact hret _ _ _ _ hM dX7_later_41
def f_X7_kindOf (S : MS) : Option Int32 :=
  bnd (f_X7_isWord S (7168366 : Int64)) fun r1 => (if r1 = 0 then bnd (f_X7_isWord S (448546567013 : Int64)) fun r3 => (if r3 = 0 then bnd (f_X7_isWord S (6578553 : Int64)) fun r5 => (if r5 = 0 then some (-1) else some (nI 2)) else some (nI 1)) else some (nI 0))
abbrev r_X7_kindOf : Room := { frames := 1, cells := 0, slots := 0, locals := 22 }
set_option maxHeartbeats 4000000 in
set_option maxRecDepth 100000 in
theorem c_X7_kindOf (l : Launch) (D : MD) (S : MS)  {r : Int32} (hf : f_X7_kindOf S = some r) : m_Met l yX7_kindOf cX7_kindOf 1 (Option.some Jvm.ClassFile.FieldType.int) r_X7_kindOf D [.ref D.1] S (some (.int r)) S := by
  refine m_metI (F := 1) (L := 22) (by decide) rfl (Nat.le_of_ble_eq_true rfl) (fun p e s m args below meth c Q B hret hM ls hl => ?_)
  have hx := B.1
  have hb := B.2.1
  have hown := B.2.2.2.1
  have hts := B.2.2.2.2
  have hl : lv_has ls 1 [(0, .ref D.1)] := hl
  generalize s.heap = H, ([] : List Loc) = locs at hM ⊢
  unfold f_X7_kindOf at hf
  refine lv_aload_n hx hb dX7_kindOf_0 rfl (lv_at hl 0 rfl) ?_
  refine lv_ldc2 (v := (7168366 : Int64)) hx hb hown (hts _ q2031) dX7_kindOf_1 ?_
  obtain ⟨r1, hcr1, hf⟩ := bnd_some hf
  refine mr_callV (rest := []) B hM (c_X7_isWord l D S (7168366 : Int64) hcr1) (cwV 1 hts (lw_V q1978 q1980 qs66 q113 q1981) rfl rfl rfl hd_X7_isWord ⟨Nat.le_of_ble_eq_true rfl, Nat.le_of_ble_eq_true rfl⟩) rfl hl.1 rfl (Nat.le_of_ble_eq_true rfl) dX7_kindOf_4 ⟨Nat.zero_le _, Nat.zero_le _⟩ (fun H locs hM => ?_)
  refine lv_if_eq (tgt := 14) hx hb dX7_kindOf_7 (by decide) (fun c2 => ?_) (fun c2 => ?_)
  · have hf := it_pos c2 hf
    refine lv_aload_n hx hb dX7_kindOf_14 rfl (lv_at hl 0 rfl) ?_
    refine lv_ldc2 (v := (448546567013 : Int64)) hx hb hown (hts _ q2032) dX7_kindOf_15 ?_
    obtain ⟨r3, hcr3, hf⟩ := bnd_some hf
    refine mr_callV (rest := []) B hM (c_X7_isWord l D S (448546567013 : Int64) hcr3) (cwV 1 hts (lw_V q1978 q1980 qs66 q113 q1981) rfl rfl rfl hd_X7_isWord ⟨Nat.le_of_ble_eq_true rfl, Nat.le_of_ble_eq_true rfl⟩) rfl hl.1 rfl (Nat.le_of_ble_eq_true rfl) dX7_kindOf_18 ⟨Nat.zero_le _, Nat.zero_le _⟩ (fun H locs hM => ?_)
    refine lv_if_eq (tgt := 28) hx hb dX7_kindOf_21 (by decide) (fun c4 => ?_) (fun c4 => ?_)
    · have hf := it_pos c4 hf
      refine lv_aload_n hx hb dX7_kindOf_28 rfl (lv_at hl 0 rfl) ?_
      refine lv_ldc2 (v := (6578553 : Int64)) hx hb hown (hts _ q2033) dX7_kindOf_29 ?_
      obtain ⟨r5, hcr5, hf⟩ := bnd_some hf
      refine mr_callV (rest := []) B hM (c_X7_isWord l D S (6578553 : Int64) hcr5) (cwV 1 hts (lw_V q1978 q1980 qs66 q113 q1981) rfl rfl rfl hd_X7_isWord ⟨Nat.le_of_ble_eq_true rfl, Nat.le_of_ble_eq_true rfl⟩) rfl hl.1 rfl (Nat.le_of_ble_eq_true rfl) dX7_kindOf_32 ⟨Nat.zero_le _, Nat.zero_le _⟩ (fun H locs hM => ?_)
      refine lv_if_eq (tgt := 42) hx hb dX7_kindOf_35 (by decide) (fun c6 => ?_) (fun c6 => ?_)
      · have hf := it_pos c6 hf
        refine lv_iconst (v := (-1)) hx hb dX7_kindOf_42 icm1 ?_
        cases hf
        exact hret _ _ _ _ rfl hM dX7_kindOf_43
      · have hf := it_neg c6 hf
        refine lv_iconst (v := nI 2) hx hb dX7_kindOf_38 ic2 ?_
        refine lv_goto (tgt := 43) hx hb dX7_kindOf_39 (by decide) ?_
        cases hf
        exact hret _ _ _ _ rfl hM dX7_kindOf_43
    · have hf := it_neg c4 hf
      refine lv_iconst (v := nI 1) hx hb dX7_kindOf_24 ic1 ?_
      refine lv_goto (tgt := 43) hx hb dX7_kindOf_25 (by decide) ?_
      cases hf
      exact hret _ _ _ _ rfl hM dX7_kindOf_43
  · have hf := it_neg c2 hf
    refine lv_iconst (v := nI 0) hx hb dX7_kindOf_10 ic0 ?_
    refine lv_goto (tgt := 43) hx hb dX7_kindOf_11 (by decide) ?_
    cases hf
    exact hret _ _ _ _ rfl hM dX7_kindOf_43
def f_X7_see (S : MS) : Option Int32 :=
  (if (S.1 30 0) ≤ (S.1 29 0) then some (-1) else ald 1600 (S.1 1) (S.1 29 0) fun v2 => some (v2 &&& nI 255))
abbrev r_X7_see : Room := { frames := 0, cells := 0, slots := 0, locals := 0 }
set_option maxHeartbeats 4000000 in
set_option maxRecDepth 100000 in
theorem c_X7_see (l : Launch) (D : MD) (S : MS)  {r : Int32} (hf : f_X7_see S = some r) : m_Met l yX7_see cX7_see 1 (Option.some Jvm.ClassFile.FieldType.int) r_X7_see D [.ref D.1] S (some (.int r)) S := by
  refine m_metI (F := 0) (L := 0) (by decide) rfl (Nat.le_of_ble_eq_true rfl) (fun p e s m args below meth c Q B hret hM ls hl => ?_)
  have hx := B.1
  have hb := B.2.1
  have hown := B.2.2.2.1
  have hts := B.2.2.2.2
  have hl : lv_has ls 1 [(0, .ref D.1)] := hl
  generalize s.heap = H, ([] : List Loc) = locs at hM ⊢
  unfold f_X7_see at hf
  refine lv_aload_n hx hb dX7_see_0 rfl (lv_at hl 0 rfl) ?_
  refine mr_get B hM 29 (v := .int (S.1 29 0)) rfl (by decide) q1675 dX7_see_1 ?_
  refine lv_aload_n hx hb dX7_see_4 rfl (lv_at hl 0 rfl) ?_
  refine mr_get B hM 30 (v := .int (S.1 30 0)) rfl (by decide) q1676 dX7_see_5 ?_
  refine lv_icmp_ge (tgt := 27) hx hb dX7_see_8 (by decide) (fun c1 => ?_) (fun c1 => ?_)
  · have hf := it_pos c1 hf
    refine lv_iconst (v := (-1)) hx hb dX7_see_27 icm1 ?_
    cases hf
    exact hret _ _ _ _ rfl hM dX7_see_28
  · have hf := it_neg c1 hf
    refine lv_aload_n hx hb dX7_see_11 rfl (lv_at hl 0 rfl) ?_
    refine mr_get B hM 1 (v := .ref (D.2.1 1)) rfl (by decide) q1647 dX7_see_12 ?_
    refine lv_aload_n hx hb dX7_see_15 rfl (lv_at hl 0 rfl) ?_
    refine mr_get B hM 29 (v := .int (S.1 29 0)) rfl (by decide) q1675 dX7_see_16 ?_
    obtain ⟨v2, ev2, hiv2, hf⟩ := ald_some hf
    refine mr_bald B hM 1 (by decide) rfl hiv2 ev2 dX7_see_19 ?_
    refine lv_sipush (v := nI 255) hx hb dX7_see_20 sp255 ?_
    refine lv_iand hx hb dX7_see_23 ?_
    refine lv_goto (tgt := 28) hx hb dX7_see_24 (by decide) ?_
    cases hf
    exact hret _ _ _ _ rfl hM dX7_see_28
def f_X7_token_J18_4 (S1 : MS)  : Option ((MS) ⊕ ((MS))) :=
  bd (m_up S1 29 0 ((S1.1 29 0) + nI 1)) fun S7 => some (.inl S7)
def f_X7_token_L0 (S1 : MS) : Option ((MS) ⊕ ((MS))) :=
  bnd (f_X7_see S1) fun r2 => (if r2 = nI 10 then f_X7_token_J18_4 S1 else bnd (f_X7_see S1) fun r5 => (if r5 = nI 32 then f_X7_token_J18_4 S1 else some (.inr S1)))
def f_X7_token_J205_28 (x22 : Int32) (S23 : MS) (x30 : Int32) : Option ((Int32 × MS) ⊕ ((Int32 × MS))) :=
  bd (m_up S23 33 0 x30) fun S31 => bd (m_up S31 29 0 ((S31.1 29 0) + nI 1)) fun S32 => bd (x22 + nI 1) fun x33 => some (.inl (x33, S32))
def f_X7_token_L163 (x22 : Int32) (S23 : MS) : Option ((Int32 × MS) ⊕ ((Int32 × MS))) :=
  bnd (f_X7_see S23) fun r24 => bnd (f_X7_in r24 (nI 48) (nI 57)) fun r25 => (if r25 = 0 then some (.inr (x22, S23)) else (if nI 4 ≤ x22 then f_X7_token_J205_28 x22 S23 (S23.1 33 0) else bnd (f_X7_see S23) fun r29 => f_X7_token_J205_28 x22 S23 (((nI 10 * (S23.1 33 0)) + r29) - nI 48)))
def f_X7_token_L79 (x41 : Int32) (S42 : MS) : Option ((Int32 × MS) ⊕ ((Int32 × MS))) :=
  bnd (f_X7_see S42) fun r43 => bnd (f_X7_in r43 (nI 97) (nI 122)) fun r44 => (if r44 = 0 then some (.inr (x41, S42)) else bnd (f_X7_see S42) fun r46 => bd (m_uw S42 ((S42.2 <<< ((nI 8).toInt64 &&& 63)) ||| r46.toInt64)) fun S47 => bd (m_up S47 29 0 ((S47.1 29 0) + nI 1)) fun S48 => bd (x41 + nI 1) fun x49 => some (.inl (x49, S48)))
def f_X7_token_J141_55 (S53 : MS) (x56 : Int64) : Option MS :=
  bd (m_uw S53 x56) fun S57 => bd (m_up S57 32 0 (nI 2)) fun S58 => some S58
def f_X7_token (S : MS) : Option MS :=
  bnd (wO (fun t : MS => f_X7_token_L0 t) fu S) <| fun S10 => bd (m_up S10 31 0 (S10.1 29 0)) fun S11 => bnd (f_X7_see S11) fun r12 => bd (m_up S11 33 0 (nI 0)) fun S13 => bd (m_uw S13 (0 : Int64)) fun S14 => (if 0 ≤ r12 then bnd (f_X7_in r12 (nI 97) (nI 122)) fun r16 => (if r16 = 0 then bnd (f_X7_in r12 (nI 48) (nI 57)) fun r18 => (if r18 = 0 then bd (m_up S14 29 0 ((S14.1 29 0) + nI 1)) fun S20 => bd (m_up S20 32 0 (nI 1)) fun S21 => some S21 else bnd (wO (fun t : Int32 × MS => f_X7_token_L163 t.1 t.2) fu (nI 0, S14)) <| u2 fun x36 S37 => (if x36 ≤ nI 4 then bd (m_up S37 32 0 (nI 3)) fun S39 => some S39 else bd (m_up S37 32 0 (nI 1)) fun S40 => some S40)) else bnd (wO (fun t : Int32 × MS => f_X7_token_L79 t.1 t.2) fu (nI 0, S14)) <| u2 fun x52 S53 => (if x52 ≤ nI 8 then f_X7_token_J141_55 S53 S53.2 else f_X7_token_J141_55 S53 (0 : Int64))) else bd (m_up S14 32 0 (nI 0)) fun S59 => some S59)
abbrev r_X7_token : Room := { frames := 1, cells := 0, slots := 0, locals := 22 }
set_option maxHeartbeats 4000000 in
set_option maxRecDepth 100000 in
theorem c_X7_token (l : Launch) (D : MD) (S : MS)  {S' : MS} (hf : f_X7_token S = some S') : m_Met l yX7_token cX7_token 3 (Option.none : Option Jvm.ClassFile.FieldType) r_X7_token D [.ref D.1] S none S' := by
  refine m_metV (F := 1) (L := 22) (by decide) rfl (Nat.le_of_ble_eq_true rfl) (fun p e s m args below meth c Q B hret hM ls hl => ?_)
  have hx := B.1
  have hb := B.2.1
  have hown := B.2.2.2.1
  have hts := B.2.2.2.2
  have hl : lv_has ls 3 [(0, .ref D.1)] := hl
  generalize s.heap = H, ([] : List Loc) = locs at hM ⊢
  unfold f_X7_token at hf
  obtain ⟨y9, hxy9, hf⟩ := bnd_some hf
  have hy9 : (fun t : MS => ∀ (H : Heap) (locs : List Loc) (ls : Array Slot), m_I D s H locs t → lv_has ls 3 [(0, .ref D.1)] → W p l e r_X7_token s m args below meth c H locs 0 0 Q (F0 m 31 ls [])) y9 := by
    obtain ⟨S10, rfl⟩ : ∃ z, z = y9 := ⟨_, rfl⟩
    intro H locs ls hM hl
    refine lv_aload_n hx hb dX7_token_31 rfl (lv_at hl 0 rfl) ?_
    refine lv_aload_n hx hb dX7_token_32 rfl (lv_at hl 0 rfl) ?_
    refine mr_get B hM 29 (v := .int (S10.1 29 0)) rfl (by decide) q1675 dX7_token_33 ?_
    obtain ⟨S11, eS11, hf⟩ := bd_some hf
    refine mr_puti B hM 31 (by decide) eS11 rfl (tyX7_ok 31 (by decide)) q1677 dX7_token_36 (fun H locs hM => ?_)
    refine lv_aload_n hx hb dX7_token_39 rfl (lv_at hl 0 rfl) ?_
    obtain ⟨r12, hcr12, hf⟩ := bnd_some hf
    refine mr_callV (rest := []) B hM (c_X7_see l D S11  hcr12) (cwV 0 hts (lw_V q1961 q1963 qs62 q113 q1964) rfl rfl rfl hd_X7_see ⟨Nat.le_of_ble_eq_true rfl, Nat.le_of_ble_eq_true rfl⟩) rfl hl.1 rfl (Nat.le_of_ble_eq_true rfl) dX7_token_40 ⟨Nat.zero_le _, Nat.zero_le _⟩ (fun H locs hM => ?_)
    refine lv_istore_n (lv' := [(1, .int r12), (0, .ref D.1)]) hx hb dX7_token_43 rfl hl (by decide) rfl (fun ls hl => ?_)
    refine lv_aload_n hx hb dX7_token_44 rfl (lv_at hl 1 rfl) ?_
    refine lv_iconst (v := nI 0) hx hb dX7_token_45 ic0 ?_
    obtain ⟨S13, eS13, hf⟩ := bd_some hf
    refine mr_puti B hM 33 (by decide) eS13 rfl (tyX7_ok 33 (by decide)) q1679 dX7_token_46 (fun H locs hM => ?_)
    refine lv_aload_n hx hb dX7_token_49 rfl (lv_at hl 1 rfl) ?_
    refine lv_lconst (v := 0) hx hb dX7_token_50 (by decide) ?_
    obtain ⟨S14, eS14, hf⟩ := bd_some hf
    refine mr_putl B hM eS14 q1680 dX7_token_51 (fun H locs hM => ?_)
    refine lv_iconst (v := nI 0) hx hb dX7_token_54 ic0 ?_
    refine lv_istore_n (lv' := [(2, .int (nI 0)), (1, .int r12), (0, .ref D.1)]) hx hb dX7_token_55 rfl hl (by decide) rfl (fun ls hl => ?_)
    refine lv_iload_n hx hb dX7_token_56 rfl (lv_at hl 1 rfl) ?_
    refine lv_if_ge (tgt := 68) hx hb dX7_token_57 (by decide) (fun c15 => ?_) (fun c15 => ?_)
    · have hf := it_pos c15 hf
      refine lv_iload_n hx hb dX7_token_68 rfl (lv_at hl 1 rfl) ?_
      refine lv_bipush (v := nI 97) hx hb dX7_token_69 bp97 ?_
      refine lv_bipush (v := nI 122) hx hb dX7_token_71 bp122 ?_
      obtain ⟨r16, hcr16, hf⟩ := bnd_some hf
      refine pr_callS (rest := []) B (c_X7_in l r12 (nI 97) (nI 122) hcr16) (va_cwS 3 hts (lw_S q1841 q1842 q113 q1843) rfl rfl rfl hd_X7_in ⟨Nat.le_of_ble_eq_true rfl, Nat.le_of_ble_eq_true rfl⟩) rfl hl.1 rfl (Nat.le_of_ble_eq_true rfl) dX7_token_73 ⟨Nat.zero_le _, Nat.zero_le _⟩ ?_
      refine lv_if_eq (tgt := 152) hx hb dX7_token_76 (by decide) (fun c17 => ?_) (fun c17 => ?_)
      · have hf := it_pos c17 hf
        refine lv_iload_n hx hb dX7_token_152 rfl (lv_at hl 1 rfl) ?_
        refine lv_bipush (v := nI 48) hx hb dX7_token_153 bp48 ?_
        refine lv_bipush (v := nI 57) hx hb dX7_token_155 bp57 ?_
        obtain ⟨r18, hcr18, hf⟩ := bnd_some hf
        refine pr_callS (rest := []) B (c_X7_in l r12 (nI 48) (nI 57) hcr18) (va_cwS 3 hts (lw_S q1841 q1842 q113 q1843) rfl rfl rfl hd_X7_in ⟨Nat.le_of_ble_eq_true rfl, Nat.le_of_ble_eq_true rfl⟩) rfl hl.1 rfl (Nat.le_of_ble_eq_true rfl) dX7_token_157 ⟨Nat.zero_le _, Nat.zero_le _⟩ ?_
        refine lv_if_eq (tgt := 241) hx hb dX7_token_160 (by decide) (fun c19 => ?_) (fun c19 => ?_)
        · have hf := it_pos c19 hf
          refine lv_aload_n hx hb dX7_token_241 rfl (lv_at hl 2 rfl) ?_
          refine lv_dup hx hb dX7_token_242 rfl ?_
          refine mr_get B hM 29 (v := .int (S14.1 29 0)) rfl (by decide) q1675 dX7_token_243 ?_
          refine lv_iconst (v := nI 1) hx hb dX7_token_246 ic1 ?_
          refine lv_iadd hx hb dX7_token_247 ?_
          obtain ⟨S20, eS20, hf⟩ := bd_some hf
          refine mr_puti B hM 29 (by decide) eS20 rfl (tyX7_ok 29 (by decide)) q1675 dX7_token_248 (fun H locs hM => ?_)
          refine lv_aload_n hx hb dX7_token_251 rfl (lv_at hl 2 rfl) ?_
          refine lv_iconst (v := nI 1) hx hb dX7_token_252 ic1 ?_
          obtain ⟨S21, eS21, hf⟩ := bd_some hf
          refine mr_puti B hM 32 (by decide) eS21 rfl (tyX7_ok 32 (by decide)) q1678 dX7_token_253 (fun H locs hM => ?_)
          cases hf
          exact hret _ _ _ _ hM dX7_token_256
        · have hf := it_neg c19 hf
          obtain ⟨y35, hxy35, hf⟩ := bnd_some hf
          have hy35 : (fun t : Int32 × MS => ∀ (H : Heap) (locs : List Loc) (ls : Array Slot), m_I D s H locs t.2 → lv_has ls 3 [(0, .ref D.1), (2, .int t.1)] → W p l e r_X7_token s m args below meth c H locs 0 0 Q (F0 m 224 ls [])) y35 := by
            rcases y35 with ⟨x36, S37⟩
            have hf := u2_at hf
            intro H locs ls hM hl
            refine lv_aload_n hx hb dX7_token_224 rfl (lv_at hl 0 rfl) ?_
            refine lv_iload_n hx hb dX7_token_225 rfl (lv_at hl 1 rfl) ?_
            refine lv_iconst (v := nI 4) hx hb dX7_token_226 ic4 ?_
            refine lv_icmp_le (tgt := 234) hx hb dX7_token_227 (by decide) (fun c38 => ?_) (fun c38 => ?_)
            · have hf := it_pos c38 hf
              refine lv_iconst (v := nI 3) hx hb dX7_token_234 ic3 ?_
              obtain ⟨S39, eS39, hf⟩ := bd_some hf
              refine mr_puti B hM 32 (by decide) eS39 rfl (tyX7_ok 32 (by decide)) q1678 dX7_token_235 (fun H locs hM => ?_)
              refine lv_goto (tgt := 256) hx hb dX7_token_238 (by decide) ?_
              cases hf
              exact hret _ _ _ _ hM dX7_token_256
            · have hf := it_neg c38 hf
              refine lv_iconst (v := nI 1) hx hb dX7_token_230 ic1 ?_
              refine lv_goto (tgt := 235) hx hb dX7_token_231 (by decide) ?_
              obtain ⟨S40, eS40, hf⟩ := bd_some hf
              refine mr_puti B hM 32 (by decide) eS40 rfl (tyX7_ok 32 (by decide)) q1678 dX7_token_235 (fun H locs hM => ?_)
              refine lv_goto (tgt := 256) hx hb dX7_token_238 (by decide) ?_
              cases hf
              exact hret _ _ _ _ hM dX7_token_256
          refine lp_W (step := (fun t : Int32 × MS => f_X7_token_L163 t.1 t.2)) (fun t : Int32 × MS => ∀ (H : Heap) (locs : List Loc) (ls : Array Slot), m_I D s H locs t.2 → lv_has ls 3 [(0, .ref D.1), (2, .int t.1)] → W p l e r_X7_token s m args below meth c H locs 0 0 Q (F0 m 163 ls [])) (fun t : Int32 × MS => ∀ (H : Heap) (locs : List Loc) (ls : Array Slot), m_I D s H locs t.2 → lv_has ls 3 [(0, .ref D.1), (2, .int t.1)] → W p l e r_X7_token s m args below meth c H locs 0 0 Q (F0 m 224 ls [])) ?_ fu (nI 0, S14) y35 hxy35 hy35 _ _ _ hM (lv_sub hl [2, 0] rfl)
          clear hf hxy35 hy35
          rintro ⟨x22, S23⟩ o (hf : f_X7_token_L163 x22 S23 = some o) hk
          intro H locs ls hM hl
          unfold f_X7_token_L163 at hf
          refine lv_aload_n hx hb dX7_token_163 rfl (lv_at hl 0 rfl) ?_
          obtain ⟨r24, hcr24, hf⟩ := bnd_some hf
          refine mr_callV (rest := []) B hM (c_X7_see l D S23  hcr24) (cwV 0 hts (lw_V q1961 q1963 qs62 q113 q1964) rfl rfl rfl hd_X7_see ⟨Nat.le_of_ble_eq_true rfl, Nat.le_of_ble_eq_true rfl⟩) rfl hl.1 rfl (Nat.le_of_ble_eq_true rfl) dX7_token_164 ⟨Nat.zero_le _, Nat.zero_le _⟩ (fun H locs hM => ?_)
          refine lv_bipush (v := nI 48) hx hb dX7_token_167 bp48 ?_
          refine lv_bipush (v := nI 57) hx hb dX7_token_169 bp57 ?_
          obtain ⟨r25, hcr25, hf⟩ := bnd_some hf
          refine pr_callS (rest := []) B (c_X7_in l r24 (nI 48) (nI 57) hcr25) (va_cwS 3 hts (lw_S q1841 q1842 q113 q1843) rfl rfl rfl hd_X7_in ⟨Nat.le_of_ble_eq_true rfl, Nat.le_of_ble_eq_true rfl⟩) rfl hl.1 rfl (Nat.le_of_ble_eq_true rfl) dX7_token_171 ⟨Nat.zero_le _, Nat.zero_le _⟩ ?_
          refine lv_if_eq (tgt := 224) hx hb dX7_token_174 (by decide) (fun c26 => ?_) (fun c26 => ?_)
          · have hf := it_pos c26 hf
            cases hf
            exact hk _ _ _ hM (lv_sub hl [0, 1] rfl)
          · have hf := it_neg c26 hf
            refine lv_aload_n hx hb dX7_token_177 rfl (lv_at hl 0 rfl) ?_
            refine lv_iload_n hx hb dX7_token_178 rfl (lv_at hl 1 rfl) ?_
            refine lv_iconst (v := nI 4) hx hb dX7_token_179 ic4 ?_
            have j28 : ∀ (x30 : Int32), f_X7_token_J205_28 x22 S23 x30 = some o → ∀ (H : Heap) (locs : List Loc) (ls : Array Slot), m_I D s H locs S23 → lv_has ls 3 [(0, .ref D.1), (2, .int x22)] → W p l e r_X7_token s m args below meth c H locs 0 0 Q (F0 m 205 ls [.int x30, .ref D.1]) := by
              intro x30 hf
              intro H locs ls hM hl
              unfold f_X7_token_J205_28 at hf
              obtain ⟨S31, eS31, hf⟩ := bd_some hf
              refine mr_puti B hM 33 (by decide) eS31 rfl (tyX7_ok 33 (by decide)) q1679 dX7_token_205 (fun H locs hM => ?_)
              refine lv_aload_n hx hb dX7_token_208 rfl (lv_at hl 0 rfl) ?_
              refine lv_dup hx hb dX7_token_209 rfl ?_
              refine mr_get B hM 29 (v := .int (S31.1 29 0)) rfl (by decide) q1675 dX7_token_210 ?_
              refine lv_iconst (v := nI 1) hx hb dX7_token_213 ic1 ?_
              refine lv_iadd hx hb dX7_token_214 ?_
              obtain ⟨S32, eS32, hf⟩ := bd_some hf
              refine mr_puti B hM 29 (by decide) eS32 rfl (tyX7_ok 29 (by decide)) q1675 dX7_token_215 (fun H locs hM => ?_)
              obtain ⟨x33, ex33, hf⟩ := bd_some hf
              refine lv_iinc (v := x33) (lv' := [(2, .int x33), (0, .ref D.1)]) hx hb dX7_token_218 hl (k := 1) rfl (by rw [ex33]; first | done | rfl) (by decide) rfl (fun ls hl => ?_)
              refine lv_goto (tgt := 163) hx hb dX7_token_221 (by decide) ?_
              cases hf
              exact hk _ _ _ hM (lv_sub hl [1, 0] rfl)
            refine lv_icmp_ge (tgt := 201) hx hb dX7_token_180 (by decide) (fun c27 => ?_) (fun c27 => ?_)
            · have hf := it_pos c27 hf
              refine lv_aload_n hx hb dX7_token_201 rfl (lv_at hl 0 rfl) ?_
              refine mr_get B hM 33 (v := .int (S23.1 33 0)) rfl (by decide) q1679 dX7_token_202 ?_
              exact j28 (S23.1 33 0) hf _ _ _ hM (lv_sub hl [0, 1] rfl)
            · have hf := it_neg c27 hf
              refine lv_bipush (v := nI 10) hx hb dX7_token_183 bp10 ?_
              refine lv_aload_n hx hb dX7_token_185 rfl (lv_at hl 0 rfl) ?_
              refine mr_get B hM 33 (v := .int (S23.1 33 0)) rfl (by decide) q1679 dX7_token_186 ?_
              refine lv_imul hx hb dX7_token_189 ?_
              refine lv_aload_n hx hb dX7_token_190 rfl (lv_at hl 0 rfl) ?_
              obtain ⟨r29, hcr29, hf⟩ := bnd_some hf
              refine mr_callV (rest := [.int (nI 10 * (S23.1 33 0)), .ref D.1]) B hM (c_X7_see l D S23  hcr29) (cwV 0 hts (lw_V q1961 q1963 qs62 q113 q1964) rfl rfl rfl hd_X7_see ⟨Nat.le_of_ble_eq_true rfl, Nat.le_of_ble_eq_true rfl⟩) rfl hl.1 rfl (Nat.le_of_ble_eq_true rfl) dX7_token_191 ⟨Nat.zero_le _, Nat.zero_le _⟩ (fun H locs hM => ?_)
              refine lv_iadd hx hb dX7_token_194 ?_
              refine lv_bipush (v := nI 48) hx hb dX7_token_195 bp48 ?_
              refine lv_isub hx hb dX7_token_197 ?_
              refine lv_goto (tgt := 205) hx hb dX7_token_198 (by decide) ?_
              exact j28 (((nI 10 * (S23.1 33 0)) + r29) - nI 48) hf _ _ _ hM (lv_sub hl [0, 1] rfl)
      · have hf := it_neg c17 hf
        obtain ⟨y51, hxy51, hf⟩ := bnd_some hf
        have hy51 : (fun t : Int32 × MS => ∀ (H : Heap) (locs : List Loc) (ls : Array Slot), m_I D s H locs t.2 → lv_has ls 3 [(0, .ref D.1), (2, .int t.1)] → W p l e r_X7_token s m args below meth c H locs 0 0 Q (F0 m 126 ls [])) y51 := by
          rcases y51 with ⟨x52, S53⟩
          have hf := u2_at hf
          intro H locs ls hM hl
          refine lv_aload_n hx hb dX7_token_126 rfl (lv_at hl 0 rfl) ?_
          refine lv_iload_n hx hb dX7_token_127 rfl (lv_at hl 1 rfl) ?_
          refine lv_bipush (v := nI 8) hx hb dX7_token_128 bp8 ?_
          have j55 : ∀ (x56 : Int64), f_X7_token_J141_55 S53 x56 = some S' → ∀ (H : Heap) (locs : List Loc) (ls : Array Slot), m_I D s H locs S53 → lv_has ls 3 [(0, .ref D.1)] → W p l e r_X7_token s m args below meth c H locs 0 0 Q (F0 m 141 ls [.long x56, .ref D.1]) := by
            intro x56 hf
            intro H locs ls hM hl
            unfold f_X7_token_J141_55 at hf
            obtain ⟨S57, eS57, hf⟩ := bd_some hf
            refine mr_putl B hM eS57 q1680 dX7_token_141 (fun H locs hM => ?_)
            refine lv_aload_n hx hb dX7_token_144 rfl (lv_at hl 0 rfl) ?_
            refine lv_iconst (v := nI 2) hx hb dX7_token_145 ic2 ?_
            obtain ⟨S58, eS58, hf⟩ := bd_some hf
            refine mr_puti B hM 32 (by decide) eS58 rfl (tyX7_ok 32 (by decide)) q1678 dX7_token_146 (fun H locs hM => ?_)
            refine lv_goto (tgt := 256) hx hb dX7_token_149 (by decide) ?_
            cases hf
            exact hret _ _ _ _ hM dX7_token_256
          refine lv_icmp_le (tgt := 137) hx hb dX7_token_130 (by decide) (fun c54 => ?_) (fun c54 => ?_)
          · have hf := it_pos c54 hf
            refine lv_aload_n hx hb dX7_token_137 rfl (lv_at hl 0 rfl) ?_
            refine mr_get B hM 34 (v := .long S53.2) rfl (by decide) q1680 dX7_token_138 ?_
            exact j55 S53.2 hf _ _ _ hM (lv_sub hl [0] rfl)
          · have hf := it_neg c54 hf
            refine lv_lconst (v := 0) hx hb dX7_token_133 (by decide) ?_
            refine lv_goto (tgt := 141) hx hb dX7_token_134 (by decide) ?_
            exact j55 (0 : Int64) hf _ _ _ hM (lv_sub hl [0] rfl)
        refine lp_W (step := (fun t : Int32 × MS => f_X7_token_L79 t.1 t.2)) (fun t : Int32 × MS => ∀ (H : Heap) (locs : List Loc) (ls : Array Slot), m_I D s H locs t.2 → lv_has ls 3 [(0, .ref D.1), (2, .int t.1)] → W p l e r_X7_token s m args below meth c H locs 0 0 Q (F0 m 79 ls [])) (fun t : Int32 × MS => ∀ (H : Heap) (locs : List Loc) (ls : Array Slot), m_I D s H locs t.2 → lv_has ls 3 [(0, .ref D.1), (2, .int t.1)] → W p l e r_X7_token s m args below meth c H locs 0 0 Q (F0 m 126 ls [])) ?_ fu (nI 0, S14) y51 hxy51 hy51 _ _ _ hM (lv_sub hl [2, 0] rfl)
        clear hf hxy51 hy51
        rintro ⟨x41, S42⟩ o (hf : f_X7_token_L79 x41 S42 = some o) hk
        intro H locs ls hM hl
        unfold f_X7_token_L79 at hf
        refine lv_aload_n hx hb dX7_token_79 rfl (lv_at hl 0 rfl) ?_
        obtain ⟨r43, hcr43, hf⟩ := bnd_some hf
        refine mr_callV (rest := []) B hM (c_X7_see l D S42  hcr43) (cwV 0 hts (lw_V q1961 q1963 qs62 q113 q1964) rfl rfl rfl hd_X7_see ⟨Nat.le_of_ble_eq_true rfl, Nat.le_of_ble_eq_true rfl⟩) rfl hl.1 rfl (Nat.le_of_ble_eq_true rfl) dX7_token_80 ⟨Nat.zero_le _, Nat.zero_le _⟩ (fun H locs hM => ?_)
        refine lv_bipush (v := nI 97) hx hb dX7_token_83 bp97 ?_
        refine lv_bipush (v := nI 122) hx hb dX7_token_85 bp122 ?_
        obtain ⟨r44, hcr44, hf⟩ := bnd_some hf
        refine pr_callS (rest := []) B (c_X7_in l r43 (nI 97) (nI 122) hcr44) (va_cwS 3 hts (lw_S q1841 q1842 q113 q1843) rfl rfl rfl hd_X7_in ⟨Nat.le_of_ble_eq_true rfl, Nat.le_of_ble_eq_true rfl⟩) rfl hl.1 rfl (Nat.le_of_ble_eq_true rfl) dX7_token_87 ⟨Nat.zero_le _, Nat.zero_le _⟩ ?_
        refine lv_if_eq (tgt := 126) hx hb dX7_token_90 (by decide) (fun c45 => ?_) (fun c45 => ?_)
        · have hf := it_pos c45 hf
          cases hf
          exact hk _ _ _ hM (lv_sub hl [0, 1] rfl)
        · have hf := it_neg c45 hf
          refine lv_aload_n hx hb dX7_token_93 rfl (lv_at hl 0 rfl) ?_
          refine lv_aload_n hx hb dX7_token_94 rfl (lv_at hl 0 rfl) ?_
          refine mr_get B hM 34 (v := .long S42.2) rfl (by decide) q1680 dX7_token_95 ?_
          refine lv_bipush (v := nI 8) hx hb dX7_token_98 bp8 ?_
          refine lv_lshl (v := (S42.2 <<< ((nI 8).toInt64 &&& 63))) hx hb dX7_token_100 rfl ?_
          refine lv_aload_n hx hb dX7_token_101 rfl (lv_at hl 0 rfl) ?_
          obtain ⟨r46, hcr46, hf⟩ := bnd_some hf
          refine mr_callV (rest := [.long (S42.2 <<< ((nI 8).toInt64 &&& 63)), .ref D.1]) B hM (c_X7_see l D S42  hcr46) (cwV 0 hts (lw_V q1961 q1963 qs62 q113 q1964) rfl rfl rfl hd_X7_see ⟨Nat.le_of_ble_eq_true rfl, Nat.le_of_ble_eq_true rfl⟩) rfl hl.1 rfl (Nat.le_of_ble_eq_true rfl) dX7_token_102 ⟨Nat.zero_le _, Nat.zero_le _⟩ (fun H locs hM => ?_)
          refine lv_i2l (v := r46.toInt64) hx hb dX7_token_105 rfl ?_
          refine lv_lor hx hb dX7_token_106 ?_
          obtain ⟨S47, eS47, hf⟩ := bd_some hf
          refine mr_putl B hM eS47 q1680 dX7_token_107 (fun H locs hM => ?_)
          refine lv_aload_n hx hb dX7_token_110 rfl (lv_at hl 0 rfl) ?_
          refine lv_dup hx hb dX7_token_111 rfl ?_
          refine mr_get B hM 29 (v := .int (S47.1 29 0)) rfl (by decide) q1675 dX7_token_112 ?_
          refine lv_iconst (v := nI 1) hx hb dX7_token_115 ic1 ?_
          refine lv_iadd hx hb dX7_token_116 ?_
          obtain ⟨S48, eS48, hf⟩ := bd_some hf
          refine mr_puti B hM 29 (by decide) eS48 rfl (tyX7_ok 29 (by decide)) q1675 dX7_token_117 (fun H locs hM => ?_)
          obtain ⟨x49, ex49, hf⟩ := bd_some hf
          refine lv_iinc (v := x49) (lv' := [(2, .int x49), (0, .ref D.1)]) hx hb dX7_token_120 hl (k := 1) rfl (by rw [ex49]; first | done | rfl) (by decide) rfl (fun ls hl => ?_)
          refine lv_goto (tgt := 79) hx hb dX7_token_123 (by decide) ?_
          cases hf
          exact hk _ _ _ hM (lv_sub hl [1, 0] rfl)
    · have hf := it_neg c15 hf
      refine lv_aload_n hx hb dX7_token_60 rfl (lv_at hl 2 rfl) ?_
      refine lv_iconst (v := nI 0) hx hb dX7_token_61 ic0 ?_
      obtain ⟨S59, eS59, hf⟩ := bd_some hf
      refine mr_puti B hM 32 (by decide) eS59 rfl (tyX7_ok 32 (by decide)) q1678 dX7_token_62 (fun H locs hM => ?_)
      refine lv_goto (tgt := 256) hx hb dX7_token_65 (by decide) ?_
      cases hf
      exact hret _ _ _ _ hM dX7_token_256
  refine lp_W (step := (fun t : MS => f_X7_token_L0 t)) (fun t : MS => ∀ (H : Heap) (locs : List Loc) (ls : Array Slot), m_I D s H locs t → lv_has ls 3 [(0, .ref D.1)] → W p l e r_X7_token s m args below meth c H locs 0 0 Q (F0 m 0 ls [])) (fun t : MS => ∀ (H : Heap) (locs : List Loc) (ls : Array Slot), m_I D s H locs t → lv_has ls 3 [(0, .ref D.1)] → W p l e r_X7_token s m args below meth c H locs 0 0 Q (F0 m 31 ls [])) ?_ fu S y9 hxy9 hy9 _ _ _ hM (lv_sub hl [0] rfl)
  clear hf hxy9 hy9
  rintro S1 o (hf : f_X7_token_L0 S1 = some o) hk
  intro H locs ls hM hl
  unfold f_X7_token_L0 at hf
  refine lv_aload_n hx hb dX7_token_0 rfl (lv_at hl 0 rfl) ?_
  obtain ⟨r2, hcr2, hf⟩ := bnd_some hf
  refine mr_callV (rest := []) B hM (c_X7_see l D S1  hcr2) (cwV 0 hts (lw_V q1961 q1963 qs62 q113 q1964) rfl rfl rfl hd_X7_see ⟨Nat.le_of_ble_eq_true rfl, Nat.le_of_ble_eq_true rfl⟩) rfl hl.1 rfl (Nat.le_of_ble_eq_true rfl) dX7_token_1 ⟨Nat.zero_le _, Nat.zero_le _⟩ (fun H locs hM => ?_)
  refine lv_bipush (v := nI 10) hx hb dX7_token_4 bp10 ?_
  have j4 : f_X7_token_J18_4 S1 = some o → ∀ (H : Heap) (locs : List Loc) (ls : Array Slot), m_I D s H locs S1 → lv_has ls 3 [(0, .ref D.1)] → W p l e r_X7_token s m args below meth c H locs 0 0 Q (F0 m 18 ls []) := by
    intro hf
    intro H locs ls hM hl
    unfold f_X7_token_J18_4 at hf
    refine lv_aload_n hx hb dX7_token_18 rfl (lv_at hl 0 rfl) ?_
    refine lv_dup hx hb dX7_token_19 rfl ?_
    refine mr_get B hM 29 (v := .int (S1.1 29 0)) rfl (by decide) q1675 dX7_token_20 ?_
    refine lv_iconst (v := nI 1) hx hb dX7_token_23 ic1 ?_
    refine lv_iadd hx hb dX7_token_24 ?_
    obtain ⟨S7, eS7, hf⟩ := bd_some hf
    refine mr_puti B hM 29 (by decide) eS7 rfl (tyX7_ok 29 (by decide)) q1675 dX7_token_25 (fun H locs hM => ?_)
    refine lv_goto (tgt := 0) hx hb dX7_token_28 (by decide) ?_
    cases hf
    exact hk _ _ _ hM (lv_sub hl [0] rfl)
  refine lv_icmp_eq (tgt := 18) hx hb dX7_token_6 (by decide) (fun c3 => ?_) (fun c3 => ?_)
  · have hf := it_pos c3 hf
    exact j4  hf _ _ _ hM (lv_sub hl [0] rfl)
  · have hf := it_neg c3 hf
    refine lv_aload_n hx hb dX7_token_9 rfl (lv_at hl 0 rfl) ?_
    obtain ⟨r5, hcr5, hf⟩ := bnd_some hf
    refine mr_callV (rest := []) B hM (c_X7_see l D S1  hcr5) (cwV 0 hts (lw_V q1961 q1963 qs62 q113 q1964) rfl rfl rfl hd_X7_see ⟨Nat.le_of_ble_eq_true rfl, Nat.le_of_ble_eq_true rfl⟩) rfl hl.1 rfl (Nat.le_of_ble_eq_true rfl) dX7_token_10 ⟨Nat.zero_le _, Nat.zero_le _⟩ (fun H locs hM => ?_)
    refine lv_bipush (v := nI 32) hx hb dX7_token_13 bp32 ?_
    refine lv_icmp_ne (tgt := 31) hx hb dX7_token_15 (by decide) (fun c6 => ?_) (fun c6 => ?_)
    · have hf := it_neg c6 hf
      cases hf
      exact hk _ _ _ hM (lv_sub hl [0] rfl)
    · have hf := it_pos c6 hf
      exact j4  hf _ _ _ hM (lv_sub hl [0] rfl)
def f_X7_varOf (S : MS) : Option Int32 :=
  bnd (f_X7_isWord S (120 : Int64)) fun r1 => (if r1 = 0 then bnd (f_X7_isWord S (121 : Int64)) fun r3 => (if r3 = 0 then bnd (f_X7_isWord S (122 : Int64)) fun r5 => (if r5 = 0 then bnd (f_X7_isWord S (119 : Int64)) fun r7 => (if r7 = 0 then some (-1) else some (nI 3)) else some (nI 2)) else some (nI 1)) else some (nI 0))
abbrev r_X7_varOf : Room := { frames := 1, cells := 0, slots := 0, locals := 22 }
set_option maxHeartbeats 4000000 in
set_option maxRecDepth 100000 in
theorem c_X7_varOf (l : Launch) (D : MD) (S : MS)  {r : Int32} (hf : f_X7_varOf S = some r) : m_Met l yX7_varOf cX7_varOf 1 (Option.some Jvm.ClassFile.FieldType.int) r_X7_varOf D [.ref D.1] S (some (.int r)) S := by
  refine m_metI (F := 1) (L := 22) (by decide) rfl (Nat.le_of_ble_eq_true rfl) (fun p e s m args below meth c Q B hret hM ls hl => ?_)
  have hx := B.1
  have hb := B.2.1
  have hown := B.2.2.2.1
  have hts := B.2.2.2.2
  have hl : lv_has ls 1 [(0, .ref D.1)] := hl
  generalize s.heap = H, ([] : List Loc) = locs at hM ⊢
  unfold f_X7_varOf at hf
  refine lv_aload_n hx hb dX7_varOf_0 rfl (lv_at hl 0 rfl) ?_
  refine lv_ldc2 (v := (120 : Int64)) hx hb hown (hts _ q2012) dX7_varOf_1 ?_
  obtain ⟨r1, hcr1, hf⟩ := bnd_some hf
  refine mr_callV (rest := []) B hM (c_X7_isWord l D S (120 : Int64) hcr1) (cwV 1 hts (lw_V q1978 q1980 qs66 q113 q1981) rfl rfl rfl hd_X7_isWord ⟨Nat.le_of_ble_eq_true rfl, Nat.le_of_ble_eq_true rfl⟩) rfl hl.1 rfl (Nat.le_of_ble_eq_true rfl) dX7_varOf_4 ⟨Nat.zero_le _, Nat.zero_le _⟩ (fun H locs hM => ?_)
  refine lv_if_eq (tgt := 14) hx hb dX7_varOf_7 (by decide) (fun c2 => ?_) (fun c2 => ?_)
  · have hf := it_pos c2 hf
    refine lv_aload_n hx hb dX7_varOf_14 rfl (lv_at hl 0 rfl) ?_
    refine lv_ldc2 (v := (121 : Int64)) hx hb hown (hts _ q2013) dX7_varOf_15 ?_
    obtain ⟨r3, hcr3, hf⟩ := bnd_some hf
    refine mr_callV (rest := []) B hM (c_X7_isWord l D S (121 : Int64) hcr3) (cwV 1 hts (lw_V q1978 q1980 qs66 q113 q1981) rfl rfl rfl hd_X7_isWord ⟨Nat.le_of_ble_eq_true rfl, Nat.le_of_ble_eq_true rfl⟩) rfl hl.1 rfl (Nat.le_of_ble_eq_true rfl) dX7_varOf_18 ⟨Nat.zero_le _, Nat.zero_le _⟩ (fun H locs hM => ?_)
    refine lv_if_eq (tgt := 28) hx hb dX7_varOf_21 (by decide) (fun c4 => ?_) (fun c4 => ?_)
    · have hf := it_pos c4 hf
      refine lv_aload_n hx hb dX7_varOf_28 rfl (lv_at hl 0 rfl) ?_
      refine lv_ldc2 (v := (122 : Int64)) hx hb hown (hts _ q2014) dX7_varOf_29 ?_
      obtain ⟨r5, hcr5, hf⟩ := bnd_some hf
      refine mr_callV (rest := []) B hM (c_X7_isWord l D S (122 : Int64) hcr5) (cwV 1 hts (lw_V q1978 q1980 qs66 q113 q1981) rfl rfl rfl hd_X7_isWord ⟨Nat.le_of_ble_eq_true rfl, Nat.le_of_ble_eq_true rfl⟩) rfl hl.1 rfl (Nat.le_of_ble_eq_true rfl) dX7_varOf_32 ⟨Nat.zero_le _, Nat.zero_le _⟩ (fun H locs hM => ?_)
      refine lv_if_eq (tgt := 42) hx hb dX7_varOf_35 (by decide) (fun c6 => ?_) (fun c6 => ?_)
      · have hf := it_pos c6 hf
        refine lv_aload_n hx hb dX7_varOf_42 rfl (lv_at hl 0 rfl) ?_
        refine lv_ldc2 (v := (119 : Int64)) hx hb hown (hts _ q2015) dX7_varOf_43 ?_
        obtain ⟨r7, hcr7, hf⟩ := bnd_some hf
        refine mr_callV (rest := []) B hM (c_X7_isWord l D S (119 : Int64) hcr7) (cwV 1 hts (lw_V q1978 q1980 qs66 q113 q1981) rfl rfl rfl hd_X7_isWord ⟨Nat.le_of_ble_eq_true rfl, Nat.le_of_ble_eq_true rfl⟩) rfl hl.1 rfl (Nat.le_of_ble_eq_true rfl) dX7_varOf_46 ⟨Nat.zero_le _, Nat.zero_le _⟩ (fun H locs hM => ?_)
        refine lv_if_eq (tgt := 56) hx hb dX7_varOf_49 (by decide) (fun c8 => ?_) (fun c8 => ?_)
        · have hf := it_pos c8 hf
          refine lv_iconst (v := (-1)) hx hb dX7_varOf_56 icm1 ?_
          cases hf
          exact hret _ _ _ _ rfl hM dX7_varOf_57
        · have hf := it_neg c8 hf
          refine lv_iconst (v := nI 3) hx hb dX7_varOf_52 ic3 ?_
          refine lv_goto (tgt := 57) hx hb dX7_varOf_53 (by decide) ?_
          cases hf
          exact hret _ _ _ _ rfl hM dX7_varOf_57
      · have hf := it_neg c6 hf
        refine lv_iconst (v := nI 2) hx hb dX7_varOf_38 ic2 ?_
        refine lv_goto (tgt := 57) hx hb dX7_varOf_39 (by decide) ?_
        cases hf
        exact hret _ _ _ _ rfl hM dX7_varOf_57
    · have hf := it_neg c4 hf
      refine lv_iconst (v := nI 1) hx hb dX7_varOf_24 ic1 ?_
      refine lv_goto (tgt := 57) hx hb dX7_varOf_25 (by decide) ?_
      cases hf
      exact hret _ _ _ _ rfl hM dX7_varOf_57
  · have hf := it_neg c2 hf
    refine lv_iconst (v := nI 0) hx hb dX7_varOf_10 ic0 ?_
    refine lv_goto (tgt := 57) hx hb dX7_varOf_11 (by decide) ?_
    cases hf
    exact hret _ _ _ _ rfl hM dX7_varOf_57
def f_X7_wait (S : MS) (p0 : Int32) : Option MS :=
  ast 420 (S.1 38 0) (m_up S 39 (S.1 38 0).toNatClampNeg p0) fun S1 => bd (m_up S1 38 0 ((S1.1 38 0) + nI 1)) fun S2 => some S2
abbrev r_X7_wait : Room := { frames := 0, cells := 0, slots := 0, locals := 0 }
set_option maxHeartbeats 4000000 in
set_option maxRecDepth 100000 in
theorem c_X7_wait (l : Launch) (D : MD) (S : MS) (p0 : Int32) {S' : MS} (hf : f_X7_wait S p0 = some S') : m_Met l yX7_wait cX7_wait 2 (Option.none : Option Jvm.ClassFile.FieldType) r_X7_wait D [.ref D.1, .int p0] S none S' := by
  refine m_metV (F := 0) (L := 0) (by decide) rfl (Nat.le_of_ble_eq_true rfl) (fun p e s m args below meth c Q B hret hM ls hl => ?_)
  have hx := B.1
  have hb := B.2.1
  have hown := B.2.2.2.1
  have hts := B.2.2.2.2
  have hl : lv_has ls 2 [(0, .ref D.1), (1, .int p0)] := hl
  generalize s.heap = H, ([] : List Loc) = locs at hM ⊢
  unfold f_X7_wait at hf
  refine lv_aload_n hx hb dX7_wait_0 rfl (lv_at hl 0 rfl) ?_
  refine mr_get B hM 39 (v := .ref (D.2.1 39)) rfl (by decide) q1685 dX7_wait_1 ?_
  refine lv_aload_n hx hb dX7_wait_4 rfl (lv_at hl 0 rfl) ?_
  refine mr_get B hM 38 (v := .int (S.1 38 0)) rfl (by decide) q1684 dX7_wait_5 ?_
  refine lv_iload_n hx hb dX7_wait_8 rfl (lv_at hl 1 rfl) ?_
  obtain ⟨S1, eS1, hiS1, hf⟩ := ast_some hf
  refine mr_iast B hM 39 (by decide) rfl hiS1 eS1 dX7_wait_9 (fun H locs hM => ?_)
  refine lv_aload_n hx hb dX7_wait_10 rfl (lv_at hl 0 rfl) ?_
  refine lv_dup hx hb dX7_wait_11 rfl ?_
  refine mr_get B hM 38 (v := .int (S1.1 38 0)) rfl (by decide) q1684 dX7_wait_12 ?_
  refine lv_iconst (v := nI 1) hx hb dX7_wait_15 ic1 ?_
  refine lv_iadd hx hb dX7_wait_16 ?_
  obtain ⟨S2, eS2, hf⟩ := bd_some hf
  refine mr_puti B hM 38 (by decide) eS2 rfl (tyX7_ok 38 (by decide)) q1684 dX7_wait_17 (fun H locs hM => ?_)
  cases hf
  exact hret _ _ _ _ hM dX7_wait_20
def f_X7_readBinder_J49_4 (p0 : Int32) (p1 : Int32) (S9 : MS) : Option (Int32 × MS) :=
  bnd (f_X7_varOf S9) fun r10 => (if r10 = (-1) then bd (m_up S9 35 0 (S9.1 31 0)) fun S20 => some (nI 0, S20) else bnd (f_X7_token S9) fun S12 => bnd (f_X7_kindOf S12) fun r13 => (if r13 = (-1) then bd (m_up S12 35 0 (S12.1 31 0)) fun S19 => some (nI 0, S19) else bnd (f_X7_token S12) fun S15 => ast 41 p0 (m_up S15 42 p0.toNatClampNeg r10) fun S16 => ast 41 p0 (m_up S16 43 p0.toNatClampNeg r13) fun S17 => bnd (f_X7_wait S17 (((p1 &&& ((nI 3 <<< ((nI 2 * r10) &&& 31)) ^^^ (-1))) ||| (r13 <<< ((nI 2 * r10) &&& 31))) + nI 256)) fun S18 => some (nI 1, S18)))
def f_X7_readBinder (S : MS) (p0 : Int32) (p1 : Int32) : Option (Int32 × MS) :=
  ast 41 p0 (m_up S 44 p0.toNatClampNeg (nI 0)) fun S1 => ald 41 (S1.1 41) p0 fun v2 => (if v2 < nI 2 then f_X7_readBinder_J49_4 p0 p1 S1 else (if (S1.1 32 0) = nI 3 then ast 41 p0 (m_up S1 44 p0.toNatClampNeg (S1.1 33 0)) fun S6 => bnd (f_X7_token S6) fun S7 => f_X7_readBinder_J49_4 p0 p1 S7 else bd (m_up S1 35 0 (S1.1 31 0)) fun S8 => some (nI 0, S8)))
abbrev r_X7_readBinder : Room := { frames := 2, cells := 0, slots := 0, locals := 44 }
set_option maxHeartbeats 4000000 in
set_option maxRecDepth 100000 in
theorem c_X7_readBinder (l : Launch) (D : MD) (S : MS) (p0 : Int32) (p1 : Int32) {r : Int32} {S' : MS} (hf : f_X7_readBinder S p0 p1 = some (r, S')) : m_Met l yX7_readBinder cX7_readBinder 5 (Option.some Jvm.ClassFile.FieldType.boolean) r_X7_readBinder D [.ref D.1, .int p0, .int p1] S (some (.int r)) S' := by
  refine m_metI (F := 2) (L := 44) (by decide) rfl (Nat.le_of_ble_eq_true rfl) (fun p e s m args below meth c Q B hret hM ls hl => ?_)
  have hx := B.1
  have hb := B.2.1
  have hown := B.2.2.2.1
  have hts := B.2.2.2.2
  have hl : lv_has ls 5 [(0, .ref D.1), (1, .int p0), (2, .int p1)] := hl
  generalize s.heap = H, ([] : List Loc) = locs at hM ⊢
  unfold f_X7_readBinder at hf
  refine lv_aload_n hx hb dX7_readBinder_0 rfl (lv_at hl 0 rfl) ?_
  refine mr_get B hM 44 (v := .ref (D.2.1 44)) rfl (by decide) q1690 dX7_readBinder_1 ?_
  refine lv_iload_n hx hb dX7_readBinder_4 rfl (lv_at hl 1 rfl) ?_
  refine lv_iconst (v := nI 0) hx hb dX7_readBinder_5 ic0 ?_
  obtain ⟨S1, eS1, hiS1, hf⟩ := ast_some hf
  refine mr_iast B hM 44 (by decide) rfl hiS1 eS1 dX7_readBinder_6 (fun H locs hM => ?_)
  refine lv_aload_n hx hb dX7_readBinder_7 rfl (lv_at hl 0 rfl) ?_
  refine mr_get B hM 41 (v := .ref (D.2.1 41)) rfl (by decide) q1687 dX7_readBinder_8 ?_
  refine lv_iload_n hx hb dX7_readBinder_11 rfl (lv_at hl 1 rfl) ?_
  obtain ⟨v2, ev2, hiv2, hf⟩ := ald_some hf
  refine mr_iald B hM 41 (by decide) rfl hiv2 ev2 dX7_readBinder_12 ?_
  refine lv_iconst (v := nI 2) hx hb dX7_readBinder_13 ic2 ?_
  have j4 : ∀ (S9 : MS), f_X7_readBinder_J49_4 p0 p1 S9 = some (r, S') → ∀ (H : Heap) (locs : List Loc) (ls : Array Slot), m_I D s H locs S9 → lv_has ls 5 [(0, .ref D.1), (1, .int p0), (2, .int p1)] → W p l e r_X7_readBinder s m args below meth c H locs 0 0 Q (F0 m 49 ls []) := by
    intro S9 hf
    intro H locs ls hM hl
    unfold f_X7_readBinder_J49_4 at hf
    refine lv_aload_n hx hb dX7_readBinder_49 rfl (lv_at hl 0 rfl) ?_
    obtain ⟨r10, hcr10, hf⟩ := bnd_some hf
    refine mr_callV (rest := []) B hM (c_X7_varOf l D S9  hcr10) (cwV 0 hts (lw_V q2008 q2010 qs70 q113 q2011) rfl rfl rfl hd_X7_varOf ⟨Nat.le_of_ble_eq_true rfl, Nat.le_of_ble_eq_true rfl⟩) rfl hl.1 rfl (Nat.le_of_ble_eq_true rfl) dX7_readBinder_50 ⟨Nat.zero_le _, Nat.zero_le _⟩ (fun H locs hM => ?_)
    refine lv_istore_n (lv' := [(3, .int r10), (0, .ref D.1), (1, .int p0), (2, .int p1)]) hx hb dX7_readBinder_53 rfl hl (by decide) rfl (fun ls hl => ?_)
    refine lv_iload_n hx hb dX7_readBinder_54 rfl (lv_at hl 0 rfl) ?_
    refine lv_iconst (v := (-1)) hx hb dX7_readBinder_55 icm1 ?_
    refine lv_icmp_ne (tgt := 69) hx hb dX7_readBinder_56 (by decide) (fun c11 => ?_) (fun c11 => ?_)
    · have hf := it_neg c11 hf
      refine lv_aload_n hx hb dX7_readBinder_69 rfl (lv_at hl 1 rfl) ?_
      obtain ⟨S12, hcS12, hf⟩ := bnd_some hf
      refine mr_callV (rest := []) B hM (c_X7_token l D S9  hcS12) (cwV 0 hts (lw_V q1957 q1959 qs61 q113 q1960) rfl rfl rfl hd_X7_token ⟨Nat.le_of_ble_eq_true rfl, Nat.le_of_ble_eq_true rfl⟩) rfl hl.1 rfl (Nat.le_of_ble_eq_true rfl) dX7_readBinder_70 ⟨Nat.zero_le _, Nat.zero_le _⟩ (fun H locs hM => ?_)
      refine lv_aload_n hx hb dX7_readBinder_73 rfl (lv_at hl 1 rfl) ?_
      obtain ⟨r13, hcr13, hf⟩ := bnd_some hf
      refine mr_callV (rest := []) B hM (c_X7_kindOf l D S12  hcr13) (cwV 0 hts (lw_V q2027 q2029 qs73 q113 q2030) rfl rfl rfl hd_X7_kindOf ⟨Nat.le_of_ble_eq_true rfl, Nat.le_of_ble_eq_true rfl⟩) rfl hl.1 rfl (Nat.le_of_ble_eq_true rfl) dX7_readBinder_74 ⟨Nat.zero_le _, Nat.zero_le _⟩ (fun H locs hM => ?_)
      refine lv_istore (lv' := [(4, .int r13), (3, .int r10), (0, .ref D.1), (1, .int p0), (2, .int p1)]) hx hb dX7_readBinder_77 hl (by decide) rfl (fun ls hl => ?_)
      refine lv_iload hx hb dX7_readBinder_79 (lv_at hl 0 rfl) ?_
      refine lv_iconst (v := (-1)) hx hb dX7_readBinder_81 icm1 ?_
      refine lv_icmp_ne (tgt := 95) hx hb dX7_readBinder_82 (by decide) (fun c14 => ?_) (fun c14 => ?_)
      · have hf := it_neg c14 hf
        refine lv_aload_n hx hb dX7_readBinder_95 rfl (lv_at hl 2 rfl) ?_
        obtain ⟨S15, hcS15, hf⟩ := bnd_some hf
        refine mr_callV (rest := []) B hM (c_X7_token l D S12  hcS15) (cwV 0 hts (lw_V q1957 q1959 qs61 q113 q1960) rfl rfl rfl hd_X7_token ⟨Nat.le_of_ble_eq_true rfl, Nat.le_of_ble_eq_true rfl⟩) rfl hl.1 rfl (Nat.le_of_ble_eq_true rfl) dX7_readBinder_96 ⟨Nat.zero_le _, Nat.zero_le _⟩ (fun H locs hM => ?_)
        refine lv_aload_n hx hb dX7_readBinder_99 rfl (lv_at hl 2 rfl) ?_
        refine mr_get B hM 42 (v := .ref (D.2.1 42)) rfl (by decide) q1688 dX7_readBinder_100 ?_
        refine lv_iload_n hx hb dX7_readBinder_103 rfl (lv_at hl 3 rfl) ?_
        refine lv_iload_n hx hb dX7_readBinder_104 rfl (lv_at hl 1 rfl) ?_
        obtain ⟨S16, eS16, hiS16, hf⟩ := ast_some hf
        refine mr_iast B hM 42 (by decide) rfl hiS16 eS16 dX7_readBinder_105 (fun H locs hM => ?_)
        refine lv_aload_n hx hb dX7_readBinder_106 rfl (lv_at hl 2 rfl) ?_
        refine mr_get B hM 43 (v := .ref (D.2.1 43)) rfl (by decide) q1689 dX7_readBinder_107 ?_
        refine lv_iload_n hx hb dX7_readBinder_110 rfl (lv_at hl 3 rfl) ?_
        refine lv_iload hx hb dX7_readBinder_111 (lv_at hl 0 rfl) ?_
        obtain ⟨S17, eS17, hiS17, hf⟩ := ast_some hf
        refine mr_iast B hM 43 (by decide) rfl hiS17 eS17 dX7_readBinder_113 (fun H locs hM => ?_)
        refine lv_aload_n hx hb dX7_readBinder_114 rfl (lv_at hl 2 rfl) ?_
        refine lv_iload_n hx hb dX7_readBinder_115 rfl (lv_at hl 4 rfl) ?_
        refine lv_iconst (v := nI 3) hx hb dX7_readBinder_116 ic3 ?_
        refine lv_iconst (v := nI 2) hx hb dX7_readBinder_117 ic2 ?_
        refine lv_iload_n hx hb dX7_readBinder_118 rfl (lv_at hl 1 rfl) ?_
        refine lv_imul hx hb dX7_readBinder_119 ?_
        refine lv_ishl hx hb dX7_readBinder_120 ?_
        refine lv_iconst (v := (-1)) hx hb dX7_readBinder_121 icm1 ?_
        refine lv_ixor hx hb dX7_readBinder_122 ?_
        refine lv_iand hx hb dX7_readBinder_123 ?_
        refine lv_iload hx hb dX7_readBinder_124 (lv_at hl 0 rfl) ?_
        refine lv_iconst (v := nI 2) hx hb dX7_readBinder_126 ic2 ?_
        refine lv_iload_n hx hb dX7_readBinder_127 rfl (lv_at hl 1 rfl) ?_
        refine lv_imul hx hb dX7_readBinder_128 ?_
        refine lv_ishl hx hb dX7_readBinder_129 ?_
        refine lv_ior hx hb dX7_readBinder_130 ?_
        refine lv_sipush (v := nI 256) hx hb dX7_readBinder_131 sp256 ?_
        refine lv_iadd hx hb dX7_readBinder_134 ?_
        obtain ⟨S18, hcS18, hf⟩ := bnd_some hf
        refine mr_callV (rest := []) B hM (c_X7_wait l D S17 (((p1 &&& ((nI 3 <<< ((nI 2 * r10) &&& 31)) ^^^ (-1))) ||| (r13 <<< ((nI 2 * r10) &&& 31))) + nI 256) hcS18) (cwV 1 hts (lw_V q1953 q1955 qs60 q113 q1956) rfl rfl rfl hd_X7_wait ⟨Nat.le_of_ble_eq_true rfl, Nat.le_of_ble_eq_true rfl⟩) rfl hl.1 rfl (Nat.le_of_ble_eq_true rfl) dX7_readBinder_135 ⟨Nat.zero_le _, Nat.zero_le _⟩ (fun H locs hM => ?_)
        refine lv_iconst (v := nI 1) hx hb dX7_readBinder_138 ic1 ?_
        cases hf
        exact hret _ _ _ _ rfl hM dX7_readBinder_139
      · have hf := it_pos c14 hf
        refine lv_aload_n hx hb dX7_readBinder_85 rfl (lv_at hl 2 rfl) ?_
        refine lv_aload_n hx hb dX7_readBinder_86 rfl (lv_at hl 2 rfl) ?_
        refine mr_get B hM 31 (v := .int (S12.1 31 0)) rfl (by decide) q1677 dX7_readBinder_87 ?_
        obtain ⟨S19, eS19, hf⟩ := bd_some hf
        refine mr_puti B hM 35 (by decide) eS19 rfl (tyX7_ok 35 (by decide)) q1681 dX7_readBinder_90 (fun H locs hM => ?_)
        refine lv_iconst (v := nI 0) hx hb dX7_readBinder_93 ic0 ?_
        cases hf
        exact hret _ _ _ _ rfl hM dX7_readBinder_94
    · have hf := it_pos c11 hf
      refine lv_aload_n hx hb dX7_readBinder_59 rfl (lv_at hl 1 rfl) ?_
      refine lv_aload_n hx hb dX7_readBinder_60 rfl (lv_at hl 1 rfl) ?_
      refine mr_get B hM 31 (v := .int (S9.1 31 0)) rfl (by decide) q1677 dX7_readBinder_61 ?_
      obtain ⟨S20, eS20, hf⟩ := bd_some hf
      refine mr_puti B hM 35 (by decide) eS20 rfl (tyX7_ok 35 (by decide)) q1681 dX7_readBinder_64 (fun H locs hM => ?_)
      refine lv_iconst (v := nI 0) hx hb dX7_readBinder_67 ic0 ?_
      cases hf
      exact hret _ _ _ _ rfl hM dX7_readBinder_68
  refine lv_icmp_lt (tgt := 49) hx hb dX7_readBinder_14 (by decide) (fun c3 => ?_) (fun c3 => ?_)
  · have hf := it_pos c3 hf
    exact j4 S1 hf _ _ _ hM (lv_sub hl [0, 1, 2] rfl)
  · have hf := it_neg c3 hf
    refine lv_aload_n hx hb dX7_readBinder_17 rfl (lv_at hl 0 rfl) ?_
    refine mr_get B hM 32 (v := .int (S1.1 32 0)) rfl (by decide) q1678 dX7_readBinder_18 ?_
    refine lv_iconst (v := nI 3) hx hb dX7_readBinder_21 ic3 ?_
    refine lv_icmp_eq (tgt := 35) hx hb dX7_readBinder_22 (by decide) (fun c5 => ?_) (fun c5 => ?_)
    · have hf := it_pos c5 hf
      refine lv_aload_n hx hb dX7_readBinder_35 rfl (lv_at hl 0 rfl) ?_
      refine mr_get B hM 44 (v := .ref (D.2.1 44)) rfl (by decide) q1690 dX7_readBinder_36 ?_
      refine lv_iload_n hx hb dX7_readBinder_39 rfl (lv_at hl 1 rfl) ?_
      refine lv_aload_n hx hb dX7_readBinder_40 rfl (lv_at hl 0 rfl) ?_
      refine mr_get B hM 33 (v := .int (S1.1 33 0)) rfl (by decide) q1679 dX7_readBinder_41 ?_
      obtain ⟨S6, eS6, hiS6, hf⟩ := ast_some hf
      refine mr_iast B hM 44 (by decide) rfl hiS6 eS6 dX7_readBinder_44 (fun H locs hM => ?_)
      refine lv_aload_n hx hb dX7_readBinder_45 rfl (lv_at hl 0 rfl) ?_
      obtain ⟨S7, hcS7, hf⟩ := bnd_some hf
      refine mr_callV (rest := []) B hM (c_X7_token l D S6  hcS7) (cwV 0 hts (lw_V q1957 q1959 qs61 q113 q1960) rfl rfl rfl hd_X7_token ⟨Nat.le_of_ble_eq_true rfl, Nat.le_of_ble_eq_true rfl⟩) rfl hl.1 rfl (Nat.le_of_ble_eq_true rfl) dX7_readBinder_46 ⟨Nat.zero_le _, Nat.zero_le _⟩ (fun H locs hM => ?_)
      exact j4 S7 hf _ _ _ hM (lv_sub hl [0, 1, 2] rfl)
    · have hf := it_neg c5 hf
      refine lv_aload_n hx hb dX7_readBinder_25 rfl (lv_at hl 0 rfl) ?_
      refine lv_aload_n hx hb dX7_readBinder_26 rfl (lv_at hl 0 rfl) ?_
      refine mr_get B hM 31 (v := .int (S1.1 31 0)) rfl (by decide) q1677 dX7_readBinder_27 ?_
      obtain ⟨S8, eS8, hf⟩ := bd_some hf
      refine mr_puti B hM 35 (by decide) eS8 rfl (tyX7_ok 35 (by decide)) q1681 dX7_readBinder_30 (fun H locs hM => ?_)
      refine lv_iconst (v := nI 0) hx hb dX7_readBinder_33 ic0 ?_
      cases hf
      exact hret _ _ _ _ rfl hM dX7_readBinder_34
def f_X7_bound (p0 : Int32) (p1 : Int32) : Option Int32 :=
  bd ((p0 >>> ((nI 2 * p1) &&& 31)) &&& nI 3) fun x1 => (if x1 = nI 3 then some (-1) else some x1)
abbrev r_X7_bound : Room := { frames := 0, cells := 0, slots := 0, locals := 0 }
set_option maxHeartbeats 4000000 in
set_option maxRecDepth 100000 in
theorem c_X7_bound (l : Launch) (p0 : Int32) (p1 : Int32) {r : Int32} (hf : f_X7_bound p0 p1 = some r) : p_Met l yX7_bound cX7_bound 3 (Option.some Jvm.ClassFile.FieldType.int) r_X7_bound [.int p0, .int p1] (some (.int r)) := by
  refine p_metI (F := 0) (L := 0) RX7 (by decide) rfl (Nat.le_of_ble_eq_true rfl) (fun p e s m args below meth c Q B hret ls hl => ?_)
  have hx := B.1
  have hb := B.2.1
  have hown := B.2.2.2.1
  have hts := B.2.2.2.2
  have hl : lv_has ls 3 [(0, .int p0), (1, .int p1)] := hl
  unfold f_X7_bound at hf
  refine lv_iload_n hx hb dX7_bound_0 rfl (lv_at hl 0 rfl) ?_
  refine lv_iconst (v := nI 2) hx hb dX7_bound_1 ic2 ?_
  refine lv_iload_n hx hb dX7_bound_2 rfl (lv_at hl 1 rfl) ?_
  refine lv_imul hx hb dX7_bound_3 ?_
  refine lv_ishr hx hb dX7_bound_4 ?_
  refine lv_iconst (v := nI 3) hx hb dX7_bound_5 ic3 ?_
  refine lv_iand hx hb dX7_bound_6 ?_
  refine lv_topi (fun x1 ex1 => ?_)
  have hf := bd_at ex1 hf
  refine lv_istore_n (lv' := [(2, .int x1), (0, .int p0), (1, .int p1)]) hx hb dX7_bound_7 rfl hl (by decide) rfl (fun ls hl => ?_)
  refine lv_iload_n hx hb dX7_bound_8 rfl (lv_at hl 0 rfl) ?_
  refine lv_iconst (v := nI 3) hx hb dX7_bound_9 ic3 ?_
  refine lv_icmp_ne (tgt := 17) hx hb dX7_bound_10 (by decide) (fun c2 => ?_) (fun c2 => ?_)
  · have hf := it_neg c2 hf
    refine lv_iload_n hx hb dX7_bound_17 rfl (lv_at hl 0 rfl) ?_
    cases hf
    exact hret _ _ rfl dX7_bound_18
  · have hf := it_pos c2 hf
    refine lv_iconst (v := (-1)) hx hb dX7_bound_13 icm1 ?_
    refine lv_goto (tgt := 18) hx hb dX7_bound_14 (by decide) ?_
    cases hf
    exact hret _ _ rfl dX7_bound_18
def f_X7_wrong (S : MS) : Option (Int32 × MS) :=
  bd (m_up S 35 0 (S.1 31 0)) fun S1 => some ((-1), S1)
abbrev r_X7_wrong : Room := { frames := 0, cells := 0, slots := 0, locals := 0 }
set_option maxHeartbeats 4000000 in
set_option maxRecDepth 100000 in
theorem c_X7_wrong (l : Launch) (D : MD) (S : MS)  {r : Int32} {S' : MS} (hf : f_X7_wrong S = some (r, S')) : m_Met l yX7_wrong cX7_wrong 1 (Option.some Jvm.ClassFile.FieldType.int) r_X7_wrong D [.ref D.1] S (some (.int r)) S' := by
  refine m_metI (F := 0) (L := 0) (by decide) rfl (Nat.le_of_ble_eq_true rfl) (fun p e s m args below meth c Q B hret hM ls hl => ?_)
  have hx := B.1
  have hb := B.2.1
  have hown := B.2.2.2.1
  have hts := B.2.2.2.2
  have hl : lv_has ls 1 [(0, .ref D.1)] := hl
  generalize s.heap = H, ([] : List Loc) = locs at hM ⊢
  unfold f_X7_wrong at hf
  refine lv_aload_n hx hb dX7_wrong_0 rfl (lv_at hl 0 rfl) ?_
  refine lv_aload_n hx hb dX7_wrong_1 rfl (lv_at hl 0 rfl) ?_
  refine mr_get B hM 31 (v := .int (S.1 31 0)) rfl (by decide) q1677 dX7_wrong_2 ?_
  obtain ⟨S1, eS1, hf⟩ := bd_some hf
  refine mr_puti B hM 35 (by decide) eS1 rfl (tyX7_ok 35 (by decide)) q1681 dX7_wrong_5 (fun H locs hM => ?_)
  refine lv_iconst (v := (-1)) hx hb dX7_wrong_8 icm1 ?_
  cases hf
  exact hret _ _ _ _ rfl hM dX7_wrong_9
def f_X7_readVar_J59_5 (r1 : Int32) (S11 : MS) : Option (Int32 × MS) :=
  bnd (f_X7_token S11) fun S12 => some (r1, S12)
def f_X7_readVar (S : MS) (p0 : Int32) (p1 : Int32) : Option (Int32 × MS) :=
  bnd (f_X7_varOf S) fun r1 => (if r1 = (-1) then bnd (f_X7_wrong S) <| u2 fun r13 S14 => some (r13, S14) else bnd (f_X7_bound p0 r1) fun r3 => (if r3 = (-1) then bnd (f_X7_later S (nI 2) (S.1 31 0)) fun S10 => f_X7_readVar_J59_5 r1 S10 else (if p1 = (-1) then f_X7_readVar_J59_5 r1 S else bnd (f_X7_bound p0 r1) fun r7 => (if r7 = p1 then f_X7_readVar_J59_5 r1 S else bnd (f_X7_later S (nI 3) (S.1 31 0)) fun S9 => f_X7_readVar_J59_5 r1 S9))))
abbrev r_X7_readVar : Room := { frames := 2, cells := 0, slots := 0, locals := 44 }
set_option maxHeartbeats 4000000 in
set_option maxRecDepth 100000 in
theorem c_X7_readVar (l : Launch) (D : MD) (S : MS) (p0 : Int32) (p1 : Int32) {r : Int32} {S' : MS} (hf : f_X7_readVar S p0 p1 = some (r, S')) : m_Met l yX7_readVar cX7_readVar 4 (Option.some Jvm.ClassFile.FieldType.int) r_X7_readVar D [.ref D.1, .int p0, .int p1] S (some (.int r)) S' := by
  refine m_metI (F := 2) (L := 44) (by decide) rfl (Nat.le_of_ble_eq_true rfl) (fun p e s m args below meth c Q B hret hM ls hl => ?_)
  have hx := B.1
  have hb := B.2.1
  have hown := B.2.2.2.1
  have hts := B.2.2.2.2
  have hl : lv_has ls 4 [(0, .ref D.1), (1, .int p0), (2, .int p1)] := hl
  generalize s.heap = H, ([] : List Loc) = locs at hM ⊢
  unfold f_X7_readVar at hf
  refine lv_aload_n hx hb dX7_readVar_0 rfl (lv_at hl 0 rfl) ?_
  obtain ⟨r1, hcr1, hf⟩ := bnd_some hf
  refine mr_callV (rest := []) B hM (c_X7_varOf l D S  hcr1) (cwV 0 hts (lw_V q2008 q2010 qs70 q113 q2011) rfl rfl rfl hd_X7_varOf ⟨Nat.le_of_ble_eq_true rfl, Nat.le_of_ble_eq_true rfl⟩) rfl hl.1 rfl (Nat.le_of_ble_eq_true rfl) dX7_readVar_1 ⟨Nat.zero_le _, Nat.zero_le _⟩ (fun H locs hM => ?_)
  refine lv_istore_n (lv' := [(3, .int r1), (0, .ref D.1), (1, .int p0), (2, .int p1)]) hx hb dX7_readVar_4 rfl hl (by decide) rfl (fun ls hl => ?_)
  refine lv_iload_n hx hb dX7_readVar_5 rfl (lv_at hl 0 rfl) ?_
  refine lv_iconst (v := (-1)) hx hb dX7_readVar_6 icm1 ?_
  refine lv_icmp_ne (tgt := 15) hx hb dX7_readVar_7 (by decide) (fun c2 => ?_) (fun c2 => ?_)
  · have hf := it_neg c2 hf
    refine lv_iload_n hx hb dX7_readVar_15 rfl (lv_at hl 2 rfl) ?_
    refine lv_iload_n hx hb dX7_readVar_16 rfl (lv_at hl 0 rfl) ?_
    obtain ⟨r3, hcr3, hf⟩ := bnd_some hf
    refine pr_callS (rest := []) B (c_X7_bound l p0 r1 hcr3) (va_cwS 2 hts (lw_S q2020 q2021 q113 q2022) rfl rfl rfl hd_X7_bound ⟨Nat.le_of_ble_eq_true rfl, Nat.le_of_ble_eq_true rfl⟩) rfl hl.1 rfl (Nat.le_of_ble_eq_true rfl) dX7_readVar_17 ⟨Nat.zero_le _, Nat.zero_le _⟩ ?_
    refine lv_iconst (v := (-1)) hx hb dX7_readVar_20 icm1 ?_
    have j5 : ∀ (S11 : MS), f_X7_readVar_J59_5 r1 S11 = some (r, S') → ∀ (H : Heap) (locs : List Loc) (ls : Array Slot), m_I D s H locs S11 → lv_has ls 4 [(0, .ref D.1), (3, .int r1)] → W p l e r_X7_readVar s m args below meth c H locs 0 0 Q (F0 m 59 ls []) := by
      intro S11 hf
      intro H locs ls hM hl
      unfold f_X7_readVar_J59_5 at hf
      refine lv_aload_n hx hb dX7_readVar_59 rfl (lv_at hl 0 rfl) ?_
      obtain ⟨S12, hcS12, hf⟩ := bnd_some hf
      refine mr_callV (rest := []) B hM (c_X7_token l D S11  hcS12) (cwV 0 hts (lw_V q1957 q1959 qs61 q113 q1960) rfl rfl rfl hd_X7_token ⟨Nat.le_of_ble_eq_true rfl, Nat.le_of_ble_eq_true rfl⟩) rfl hl.1 rfl (Nat.le_of_ble_eq_true rfl) dX7_readVar_60 ⟨Nat.zero_le _, Nat.zero_le _⟩ (fun H locs hM => ?_)
      refine lv_iload_n hx hb dX7_readVar_63 rfl (lv_at hl 1 rfl) ?_
      cases hf
      exact hret _ _ _ _ rfl hM dX7_readVar_64
    refine lv_icmp_ne (tgt := 36) hx hb dX7_readVar_21 (by decide) (fun c4 => ?_) (fun c4 => ?_)
    · have hf := it_neg c4 hf
      refine lv_iload_n hx hb dX7_readVar_36 rfl (lv_at hl 3 rfl) ?_
      refine lv_iconst (v := (-1)) hx hb dX7_readVar_37 icm1 ?_
      refine lv_icmp_eq (tgt := 59) hx hb dX7_readVar_38 (by decide) (fun c6 => ?_) (fun c6 => ?_)
      · have hf := it_pos c6 hf
        exact j5 S hf _ _ _ hM (lv_sub hl [1, 0] rfl)
      · have hf := it_neg c6 hf
        refine lv_iload_n hx hb dX7_readVar_41 rfl (lv_at hl 2 rfl) ?_
        refine lv_iload_n hx hb dX7_readVar_42 rfl (lv_at hl 0 rfl) ?_
        obtain ⟨r7, hcr7, hf⟩ := bnd_some hf
        refine pr_callS (rest := []) B (c_X7_bound l p0 r1 hcr7) (va_cwS 2 hts (lw_S q2020 q2021 q113 q2022) rfl rfl rfl hd_X7_bound ⟨Nat.le_of_ble_eq_true rfl, Nat.le_of_ble_eq_true rfl⟩) rfl hl.1 rfl (Nat.le_of_ble_eq_true rfl) dX7_readVar_43 ⟨Nat.zero_le _, Nat.zero_le _⟩ ?_
        refine lv_iload_n hx hb dX7_readVar_46 rfl (lv_at hl 3 rfl) ?_
        refine lv_icmp_eq (tgt := 59) hx hb dX7_readVar_47 (by decide) (fun c8 => ?_) (fun c8 => ?_)
        · have hf := it_pos c8 hf
          exact j5 S hf _ _ _ hM (lv_sub hl [1, 0] rfl)
        · have hf := it_neg c8 hf
          refine lv_aload_n hx hb dX7_readVar_50 rfl (lv_at hl 1 rfl) ?_
          refine lv_iconst (v := nI 3) hx hb dX7_readVar_51 ic3 ?_
          refine lv_aload_n hx hb dX7_readVar_52 rfl (lv_at hl 1 rfl) ?_
          refine mr_get B hM 31 (v := .int (S.1 31 0)) rfl (by decide) q1677 dX7_readVar_53 ?_
          obtain ⟨S9, hcS9, hf⟩ := bnd_some hf
          refine mr_callV (rest := []) B hM (c_X7_later l D S (nI 3) (S.1 31 0) hcS9) (cwV 2 hts (lw_V q1969 q1971 qs64 q113 q1972) rfl rfl rfl hd_X7_later ⟨Nat.le_of_ble_eq_true rfl, Nat.le_of_ble_eq_true rfl⟩) rfl hl.1 rfl (Nat.le_of_ble_eq_true rfl) dX7_readVar_56 ⟨Nat.zero_le _, Nat.zero_le _⟩ (fun H locs hM => ?_)
          exact j5 S9 hf _ _ _ hM (lv_sub hl [1, 0] rfl)
    · have hf := it_pos c4 hf
      refine lv_aload_n hx hb dX7_readVar_24 rfl (lv_at hl 1 rfl) ?_
      refine lv_iconst (v := nI 2) hx hb dX7_readVar_25 ic2 ?_
      refine lv_aload_n hx hb dX7_readVar_26 rfl (lv_at hl 1 rfl) ?_
      refine mr_get B hM 31 (v := .int (S.1 31 0)) rfl (by decide) q1677 dX7_readVar_27 ?_
      obtain ⟨S10, hcS10, hf⟩ := bnd_some hf
      refine mr_callV (rest := []) B hM (c_X7_later l D S (nI 2) (S.1 31 0) hcS10) (cwV 2 hts (lw_V q1969 q1971 qs64 q113 q1972) rfl rfl rfl hd_X7_later ⟨Nat.le_of_ble_eq_true rfl, Nat.le_of_ble_eq_true rfl⟩) rfl hl.1 rfl (Nat.le_of_ble_eq_true rfl) dX7_readVar_30 ⟨Nat.zero_le _, Nat.zero_le _⟩ (fun H locs hM => ?_)
      refine lv_goto (tgt := 59) hx hb dX7_readVar_33 (by decide) ?_
      exact j5 S10 hf _ _ _ hM (lv_sub hl [1, 0] rfl)
  · have hf := it_pos c2 hf
    refine lv_aload_n hx hb dX7_readVar_10 rfl (lv_at hl 1 rfl) ?_
    obtain ⟨⟨r13, S14⟩, hcr13, hf⟩ := bnd_some hf
    have hf := u2_at hf
    refine mr_callV (rest := []) B hM (c_X7_wrong l D S  hcr13) (cwV 0 hts (lw_V q2016 q2018 qs71 q113 q2019) rfl rfl rfl hd_X7_wrong ⟨Nat.le_of_ble_eq_true rfl, Nat.le_of_ble_eq_true rfl⟩) rfl hl.1 rfl (Nat.le_of_ble_eq_true rfl) dX7_readVar_11 ⟨Nat.zero_le _, Nat.zero_le _⟩ (fun H locs hM => ?_)
    cases hf
    exact hret _ _ _ _ rfl hM dX7_readVar_14
def f_X7_relOf_J57_3 (S : MS) (x10 : Int32) : Option Int32 :=
  ald 4 (S.1 8) (nI 0) fun v11 => (if v11 ≤ x10 then some (-1) else some x10)
def f_X7_relOf (S : MS) : Option Int32 :=
  bnd (f_X7_isWord S (114 : Int64)) fun r1 => (if r1 = 0 then bnd (f_X7_isWord S (115 : Int64)) fun r4 => (if r4 = 0 then bnd (f_X7_isWord S (116 : Int64)) fun r6 => (if r6 = 0 then bnd (f_X7_isWord S (117 : Int64)) fun r8 => (if r8 = 0 then f_X7_relOf_J57_3 S (-1) else f_X7_relOf_J57_3 S (nI 3)) else f_X7_relOf_J57_3 S (nI 2)) else f_X7_relOf_J57_3 S (nI 1)) else f_X7_relOf_J57_3 S (nI 0))
abbrev r_X7_relOf : Room := { frames := 1, cells := 0, slots := 0, locals := 22 }
set_option maxHeartbeats 4000000 in
set_option maxRecDepth 100000 in
theorem c_X7_relOf (l : Launch) (D : MD) (S : MS)  {r : Int32} (hf : f_X7_relOf S = some r) : m_Met l yX7_relOf cX7_relOf 2 (Option.some Jvm.ClassFile.FieldType.int) r_X7_relOf D [.ref D.1] S (some (.int r)) S := by
  refine m_metI (F := 1) (L := 22) (by decide) rfl (Nat.le_of_ble_eq_true rfl) (fun p e s m args below meth c Q B hret hM ls hl => ?_)
  have hx := B.1
  have hb := B.2.1
  have hown := B.2.2.2.1
  have hts := B.2.2.2.2
  have hl : lv_has ls 2 [(0, .ref D.1)] := hl
  generalize s.heap = H, ([] : List Loc) = locs at hM ⊢
  unfold f_X7_relOf at hf
  refine lv_aload_n hx hb dX7_relOf_0 rfl (lv_at hl 0 rfl) ?_
  refine lv_ldc2 (v := (114 : Int64)) hx hb hown (hts _ q2000) dX7_relOf_1 ?_
  obtain ⟨r1, hcr1, hf⟩ := bnd_some hf
  refine mr_callV (rest := []) B hM (c_X7_isWord l D S (114 : Int64) hcr1) (cwV 1 hts (lw_V q1978 q1980 qs66 q113 q1981) rfl rfl rfl hd_X7_isWord ⟨Nat.le_of_ble_eq_true rfl, Nat.le_of_ble_eq_true rfl⟩) rfl hl.1 rfl (Nat.le_of_ble_eq_true rfl) dX7_relOf_4 ⟨Nat.zero_le _, Nat.zero_le _⟩ (fun H locs hM => ?_)
  have j3 : ∀ (x10 : Int32), f_X7_relOf_J57_3 S x10 = some r → ∀ (H : Heap) (locs : List Loc) (ls : Array Slot), m_I D s H locs S → lv_has ls 2 [(0, .ref D.1)] → W p l e r_X7_relOf s m args below meth c H locs 0 0 Q (F0 m 57 ls [.int x10]) := by
    intro x10 hf
    intro H locs ls hM hl
    unfold f_X7_relOf_J57_3 at hf
    refine lv_istore_n (lv' := [(1, .int x10), (0, .ref D.1)]) hx hb dX7_relOf_57 rfl hl (by decide) rfl (fun ls hl => ?_)
    refine lv_iload_n hx hb dX7_relOf_58 rfl (lv_at hl 0 rfl) ?_
    refine lv_aload_n hx hb dX7_relOf_59 rfl (lv_at hl 1 rfl) ?_
    refine mr_get B hM 8 (v := .ref (D.2.1 8)) rfl (by decide) q1654 dX7_relOf_60 ?_
    refine lv_iconst (v := nI 0) hx hb dX7_relOf_63 ic0 ?_
    obtain ⟨v11, ev11, hiv11, hf⟩ := ald_some hf
    refine mr_iald B hM 8 (by decide) rfl hiv11 ev11 dX7_relOf_64 ?_
    refine lv_icmp_ge (tgt := 72) hx hb dX7_relOf_65 (by decide) (fun c12 => ?_) (fun c12 => ?_)
    · have hf := it_pos c12 hf
      refine lv_iconst (v := (-1)) hx hb dX7_relOf_72 icm1 ?_
      cases hf
      exact hret _ _ _ _ rfl hM dX7_relOf_73
    · have hf := it_neg c12 hf
      refine lv_iload_n hx hb dX7_relOf_68 rfl (lv_at hl 0 rfl) ?_
      refine lv_goto (tgt := 73) hx hb dX7_relOf_69 (by decide) ?_
      cases hf
      exact hret _ _ _ _ rfl hM dX7_relOf_73
  refine lv_if_eq (tgt := 14) hx hb dX7_relOf_7 (by decide) (fun c2 => ?_) (fun c2 => ?_)
  · have hf := it_pos c2 hf
    refine lv_aload_n hx hb dX7_relOf_14 rfl (lv_at hl 0 rfl) ?_
    refine lv_ldc2 (v := (115 : Int64)) hx hb hown (hts _ q2001) dX7_relOf_15 ?_
    obtain ⟨r4, hcr4, hf⟩ := bnd_some hf
    refine mr_callV (rest := []) B hM (c_X7_isWord l D S (115 : Int64) hcr4) (cwV 1 hts (lw_V q1978 q1980 qs66 q113 q1981) rfl rfl rfl hd_X7_isWord ⟨Nat.le_of_ble_eq_true rfl, Nat.le_of_ble_eq_true rfl⟩) rfl hl.1 rfl (Nat.le_of_ble_eq_true rfl) dX7_relOf_18 ⟨Nat.zero_le _, Nat.zero_le _⟩ (fun H locs hM => ?_)
    refine lv_if_eq (tgt := 28) hx hb dX7_relOf_21 (by decide) (fun c5 => ?_) (fun c5 => ?_)
    · have hf := it_pos c5 hf
      refine lv_aload_n hx hb dX7_relOf_28 rfl (lv_at hl 0 rfl) ?_
      refine lv_ldc2 (v := (116 : Int64)) hx hb hown (hts _ q2002) dX7_relOf_29 ?_
      obtain ⟨r6, hcr6, hf⟩ := bnd_some hf
      refine mr_callV (rest := []) B hM (c_X7_isWord l D S (116 : Int64) hcr6) (cwV 1 hts (lw_V q1978 q1980 qs66 q113 q1981) rfl rfl rfl hd_X7_isWord ⟨Nat.le_of_ble_eq_true rfl, Nat.le_of_ble_eq_true rfl⟩) rfl hl.1 rfl (Nat.le_of_ble_eq_true rfl) dX7_relOf_32 ⟨Nat.zero_le _, Nat.zero_le _⟩ (fun H locs hM => ?_)
      refine lv_if_eq (tgt := 42) hx hb dX7_relOf_35 (by decide) (fun c7 => ?_) (fun c7 => ?_)
      · have hf := it_pos c7 hf
        refine lv_aload_n hx hb dX7_relOf_42 rfl (lv_at hl 0 rfl) ?_
        refine lv_ldc2 (v := (117 : Int64)) hx hb hown (hts _ q2003) dX7_relOf_43 ?_
        obtain ⟨r8, hcr8, hf⟩ := bnd_some hf
        refine mr_callV (rest := []) B hM (c_X7_isWord l D S (117 : Int64) hcr8) (cwV 1 hts (lw_V q1978 q1980 qs66 q113 q1981) rfl rfl rfl hd_X7_isWord ⟨Nat.le_of_ble_eq_true rfl, Nat.le_of_ble_eq_true rfl⟩) rfl hl.1 rfl (Nat.le_of_ble_eq_true rfl) dX7_relOf_46 ⟨Nat.zero_le _, Nat.zero_le _⟩ (fun H locs hM => ?_)
        refine lv_if_eq (tgt := 56) hx hb dX7_relOf_49 (by decide) (fun c9 => ?_) (fun c9 => ?_)
        · have hf := it_pos c9 hf
          refine lv_iconst (v := (-1)) hx hb dX7_relOf_56 icm1 ?_
          exact j3 (-1) hf _ _ _ hM (lv_sub hl [0] rfl)
        · have hf := it_neg c9 hf
          refine lv_iconst (v := nI 3) hx hb dX7_relOf_52 ic3 ?_
          refine lv_goto (tgt := 57) hx hb dX7_relOf_53 (by decide) ?_
          exact j3 (nI 3) hf _ _ _ hM (lv_sub hl [0] rfl)
      · have hf := it_neg c7 hf
        refine lv_iconst (v := nI 2) hx hb dX7_relOf_38 ic2 ?_
        refine lv_goto (tgt := 57) hx hb dX7_relOf_39 (by decide) ?_
        exact j3 (nI 2) hf _ _ _ hM (lv_sub hl [0] rfl)
    · have hf := it_neg c5 hf
      refine lv_iconst (v := nI 1) hx hb dX7_relOf_24 ic1 ?_
      refine lv_goto (tgt := 57) hx hb dX7_relOf_25 (by decide) ?_
      exact j3 (nI 1) hf _ _ _ hM (lv_sub hl [0] rfl)
  · have hf := it_neg c2 hf
    refine lv_iconst (v := nI 0) hx hb dX7_relOf_10 ic0 ?_
    refine lv_goto (tgt := 57) hx hb dX7_relOf_11 (by decide) ?_
    exact j3 (nI 0) hf _ _ _ hM (lv_sub hl [0] rfl)
