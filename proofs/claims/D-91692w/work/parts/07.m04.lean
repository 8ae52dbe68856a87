set_option maxRecDepth 100000
def f_X7_readPart_J102_15 (p0 : Int32) (x7 : Int32) (S18 : MS) : Option (Int32 × MS) :=
  bnd (f_X7_token S18) fun S19 => ald 41 (S19.1 41) x7 fun v20 => (if nI 3 < v20 then ald 41 (S19.1 41) x7 fun v22 => (if v22 = nI 8 then bnd (f_X7_readSame S19 x7 p0) <| u2 fun r33 S34 => chk (r33 = 0 ∨ r33 = 1) <| some (r33, S34) else ald 41 (S19.1 41) x7 fun v24 => (if v24 < nI 9 then bnd (f_X7_wait S19 p0) fun S26 => ald 41 (S26.1 41) x7 fun v27 => (if v27 = nI 4 then some (nI 1, S26) else bnd (f_X7_wait S26 p0) fun S29 => some (nI 1, S29)) else bnd (f_X7_readRelation S19 x7 p0) <| u2 fun r30 S31 => chk (r30 = 0 ∨ r30 = 1) <| some (r30, S31))) else bnd (f_X7_readBinder S19 x7 p0) <| u2 fun r36 S37 => chk (r36 = 0 ∨ r36 = 1) <| some (r36, S37))
def f_X7_readPart_J18_2 (p0 : Int32) (S4 : MS) : Option (Int32 × MS) :=
  bd (if nI 40 ≤ (S4.1 40 0) then nI 40 else (S4.1 40 0)) fun x7 => bd (m_up S4 40 0 ((S4.1 40 0) + nI 1)) fun S8 => bnd (f_X7_actOf S8) fun r9 => ast 41 x7 (m_up S8 41 x7.toNatClampNeg r9) fun S10 => ald 41 (S10.1 41) x7 fun v11 => (if v11 = (-1) then bnd (f_X7_readRelation S10 x7 p0) <| u2 fun r39 S40 => chk (r39 = 0 ∨ r39 = 1) <| some (r39, S40) else ald 41 (S10.1 41) x7 fun v13 => (if nI 3 < v13 then f_X7_readPart_J102_15 p0 x7 S10 else (if (p0 / nI 256) < nI 4 then f_X7_readPart_J102_15 p0 x7 S10 else bnd (f_X7_later S10 (nI 5) (S10.1 31 0)) fun S17 => f_X7_readPart_J102_15 p0 x7 S17)))
def f_X7_readPart (S : MS) (p0 : Int32) : Option (Int32 × MS) :=
  (if (S.1 40 0) = nI 40 then bnd (f_X7_later S (nI 4) (S.1 31 0)) fun S3 => f_X7_readPart_J18_2 p0 S3 else f_X7_readPart_J18_2 p0 S)
abbrev r_X7_readPart : Room := { frames := 4, cells := 0, slots := 0, locals := 92 }
set_option maxHeartbeats 4000000 in
set_option maxRecDepth 100000 in
theorem c_X7_readPart (l : Launch) (D : MD) (S : MS) (p0 : Int32) {r : Int32} {S' : MS} (hf : f_X7_readPart S p0 = some (r, S')) : m_Met l yX7_readPart cX7_readPart 3 (Option.some Jvm.ClassFile.FieldType.boolean) r_X7_readPart D [.ref D.1, .int p0] S (some (.int r)) S' := by
  refine m_metI (F := 4) (L := 92) (by decide) rfl (Nat.le_of_ble_eq_true rfl) (fun p e s m args below meth c Q B hret hM ls hl => ?_)
  have hx := B.1
  have hb := B.2.1
  have hown := B.2.2.2.1
  have hts := B.2.2.2.2
  have hl : lv_has ls 3 [(0, .ref D.1), (1, .int p0)] := hl
  generalize s.heap = H, ([] : List Loc) = locs at hM ⊢
  unfold f_X7_readPart at hf
  refine lv_aload_n hx hb dX7_readPart_0 rfl (lv_at hl 0 rfl) ?_
  refine mr_get B hM 40 (v := .int (S.1 40 0)) rfl (by decide) q1686 dX7_readPart_1 ?_
  refine lv_bipush (v := nI 40) hx hb dX7_readPart_4 bp40 ?_
  have j2 : ∀ (S4 : MS), f_X7_readPart_J18_2 p0 S4 = some (r, S') → ∀ (H : Heap) (locs : List Loc) (ls : Array Slot), m_I D s H locs S4 → lv_has ls 3 [(0, .ref D.1), (1, .int p0)] → W p l e r_X7_readPart s m args below meth c H locs 0 0 Q (F0 m 18 ls []) := by
    intro S4 hf
    intro H locs ls hM hl
    unfold f_X7_readPart_J18_2 at hf
    refine lv_aload_n hx hb dX7_readPart_18 rfl (lv_at hl 0 rfl) ?_
    refine mr_get B hM 40 (v := .int (S4.1 40 0)) rfl (by decide) q1686 dX7_readPart_19 ?_
    refine lv_bipush (v := nI 40) hx hb dX7_readPart_22 bp40 ?_
    obtain ⟨x7, ex7, hf⟩ := bd_some hf
    have jx7 : W p l e r_X7_readPart s m args below meth c H locs 0 0 Q (F0 m 36 ls [.int x7]) := by
      refine lv_istore_n (lv' := [(2, .int x7), (0, .ref D.1), (1, .int p0)]) hx hb dX7_readPart_36 rfl hl (by decide) rfl (fun ls hl => ?_)
      refine lv_aload_n hx hb dX7_readPart_37 rfl (lv_at hl 1 rfl) ?_
      refine lv_dup hx hb dX7_readPart_38 rfl ?_
      refine mr_get B hM 40 (v := .int (S4.1 40 0)) rfl (by decide) q1686 dX7_readPart_39 ?_
      refine lv_iconst (v := nI 1) hx hb dX7_readPart_42 ic1 ?_
      refine lv_iadd hx hb dX7_readPart_43 ?_
      obtain ⟨S8, eS8, hf⟩ := bd_some hf
      refine mr_puti B hM 40 (by decide) eS8 rfl (tyX7_ok 40 (by decide)) q1686 dX7_readPart_44 (fun H locs hM => ?_)
      refine lv_aload_n hx hb dX7_readPart_47 rfl (lv_at hl 1 rfl) ?_
      refine mr_get B hM 41 (v := .ref (D.2.1 41)) rfl (by decide) q1687 dX7_readPart_48 ?_
      refine lv_iload_n hx hb dX7_readPart_51 rfl (lv_at hl 0 rfl) ?_
      refine lv_aload_n hx hb dX7_readPart_52 rfl (lv_at hl 1 rfl) ?_
      obtain ⟨r9, hcr9, hf⟩ := bnd_some hf
      refine mr_callV (rest := [.int x7, .ref (D.2.1 41)]) B hM (c_X7_actOf l D S8  hcr9) (cwV 0 hts (lw_V q1973 q1975 qs65 q113 q1976) rfl rfl rfl hd_X7_actOf ⟨Nat.le_of_ble_eq_true rfl, Nat.le_of_ble_eq_true rfl⟩) rfl hl.1 rfl (Nat.le_of_ble_eq_true rfl) dX7_readPart_53 ⟨Nat.zero_le _, Nat.zero_le _⟩ (fun H locs hM => ?_)
      obtain ⟨S10, eS10, hiS10, hf⟩ := ast_some hf
      refine mr_iast B hM 41 (by decide) rfl hiS10 eS10 dX7_readPart_56 (fun H locs hM => ?_)
      refine lv_aload_n hx hb dX7_readPart_57 rfl (lv_at hl 1 rfl) ?_
      refine mr_get B hM 41 (v := .ref (D.2.1 41)) rfl (by decide) q1687 dX7_readPart_58 ?_
      refine lv_iload_n hx hb dX7_readPart_61 rfl (lv_at hl 0 rfl) ?_
      obtain ⟨v11, ev11, hiv11, hf⟩ := ald_some hf
      refine mr_iald B hM 41 (by decide) rfl hiv11 ev11 dX7_readPart_62 ?_
      refine lv_iconst (v := (-1)) hx hb dX7_readPart_63 icm1 ?_
      refine lv_icmp_ne (tgt := 74) hx hb dX7_readPart_64 (by decide) (fun c12 => ?_) (fun c12 => ?_)
      · have hf := it_neg c12 hf
        refine lv_aload_n hx hb dX7_readPart_74 rfl (lv_at hl 1 rfl) ?_
        refine mr_get B hM 41 (v := .ref (D.2.1 41)) rfl (by decide) q1687 dX7_readPart_75 ?_
        refine lv_iload_n hx hb dX7_readPart_78 rfl (lv_at hl 0 rfl) ?_
        obtain ⟨v13, ev13, hiv13, hf⟩ := ald_some hf
        refine mr_iald B hM 41 (by decide) rfl hiv13 ev13 dX7_readPart_79 ?_
        refine lv_iconst (v := nI 3) hx hb dX7_readPart_80 ic3 ?_
        have j15 : ∀ (S18 : MS), f_X7_readPart_J102_15 p0 x7 S18 = some (r, S') → ∀ (H : Heap) (locs : List Loc) (ls : Array Slot), m_I D s H locs S18 → lv_has ls 3 [(0, .ref D.1), (1, .int p0), (2, .int x7)] → W p l e r_X7_readPart s m args below meth c H locs 0 0 Q (F0 m 102 ls []) := by
          intro S18 hf
          intro H locs ls hM hl
          unfold f_X7_readPart_J102_15 at hf
          refine lv_aload_n hx hb dX7_readPart_102 rfl (lv_at hl 0 rfl) ?_
          obtain ⟨S19, hcS19, hf⟩ := bnd_some hf
          refine mr_callV (rest := []) B hM (c_X7_token l D S18  hcS19) (cwV 0 hts (lw_V q1957 q1959 qs61 q113 q1960) rfl rfl rfl hd_X7_token ⟨Nat.le_of_ble_eq_true rfl, Nat.le_of_ble_eq_true rfl⟩) rfl hl.1 rfl (Nat.le_of_ble_eq_true rfl) dX7_readPart_103 ⟨Nat.zero_le _, Nat.zero_le _⟩ (fun H locs hM => ?_)
          refine lv_aload_n hx hb dX7_readPart_106 rfl (lv_at hl 0 rfl) ?_
          refine mr_get B hM 41 (v := .ref (D.2.1 41)) rfl (by decide) q1687 dX7_readPart_107 ?_
          refine lv_iload_n hx hb dX7_readPart_110 rfl (lv_at hl 2 rfl) ?_
          obtain ⟨v20, ev20, hiv20, hf⟩ := ald_some hf
          refine mr_iald B hM 41 (by decide) rfl hiv20 ev20 dX7_readPart_111 ?_
          refine lv_iconst (v := nI 3) hx hb dX7_readPart_112 ic3 ?_
          refine lv_icmp_gt (tgt := 123) hx hb dX7_readPart_113 (by decide) (fun c21 => ?_) (fun c21 => ?_)
          · have hf := it_pos c21 hf
            refine lv_aload_n hx hb dX7_readPart_123 rfl (lv_at hl 0 rfl) ?_
            refine mr_get B hM 41 (v := .ref (D.2.1 41)) rfl (by decide) q1687 dX7_readPart_124 ?_
            refine lv_iload_n hx hb dX7_readPart_127 rfl (lv_at hl 2 rfl) ?_
            obtain ⟨v22, ev22, hiv22, hf⟩ := ald_some hf
            refine mr_iald B hM 41 (by decide) rfl hiv22 ev22 dX7_readPart_128 ?_
            refine lv_bipush (v := nI 8) hx hb dX7_readPart_129 bp8 ?_
            refine lv_icmp_ne (tgt := 141) hx hb dX7_readPart_131 (by decide) (fun c23 => ?_) (fun c23 => ?_)
            · have hf := it_neg c23 hf
              refine lv_aload_n hx hb dX7_readPart_141 rfl (lv_at hl 0 rfl) ?_
              refine mr_get B hM 41 (v := .ref (D.2.1 41)) rfl (by decide) q1687 dX7_readPart_142 ?_
              refine lv_iload_n hx hb dX7_readPart_145 rfl (lv_at hl 2 rfl) ?_
              obtain ⟨v24, ev24, hiv24, hf⟩ := ald_some hf
              refine mr_iald B hM 41 (by decide) rfl hiv24 ev24 dX7_readPart_146 ?_
              refine lv_bipush (v := nI 9) hx hb dX7_readPart_147 bp9 ?_
              refine lv_icmp_lt (tgt := 159) hx hb dX7_readPart_149 (by decide) (fun c25 => ?_) (fun c25 => ?_)
              · have hf := it_pos c25 hf
                refine lv_aload_n hx hb dX7_readPart_159 rfl (lv_at hl 0 rfl) ?_
                refine lv_iload_n hx hb dX7_readPart_160 rfl (lv_at hl 1 rfl) ?_
                obtain ⟨S26, hcS26, hf⟩ := bnd_some hf
                refine mr_callV (rest := []) B hM (c_X7_wait l D S19 p0 hcS26) (cwV 1 hts (lw_V q1953 q1955 qs60 q113 q1956) rfl rfl rfl hd_X7_wait ⟨Nat.le_of_ble_eq_true rfl, Nat.le_of_ble_eq_true rfl⟩) rfl hl.1 rfl (Nat.le_of_ble_eq_true rfl) dX7_readPart_161 ⟨Nat.zero_le _, Nat.zero_le _⟩ (fun H locs hM => ?_)
                refine lv_aload_n hx hb dX7_readPart_164 rfl (lv_at hl 0 rfl) ?_
                refine mr_get B hM 41 (v := .ref (D.2.1 41)) rfl (by decide) q1687 dX7_readPart_165 ?_
                refine lv_iload_n hx hb dX7_readPart_168 rfl (lv_at hl 2 rfl) ?_
                obtain ⟨v27, ev27, hiv27, hf⟩ := ald_some hf
                refine mr_iald B hM 41 (by decide) rfl hiv27 ev27 dX7_readPart_169 ?_
                refine lv_iconst (v := nI 4) hx hb dX7_readPart_170 ic4 ?_
                refine lv_icmp_eq (tgt := 179) hx hb dX7_readPart_171 (by decide) (fun c28 => ?_) (fun c28 => ?_)
                · have hf := it_pos c28 hf
                  refine lv_iconst (v := nI 1) hx hb dX7_readPart_179 ic1 ?_
                  cases hf
                  exact hret _ _ _ _ rfl hM dX7_readPart_180
                · have hf := it_neg c28 hf
                  refine lv_aload_n hx hb dX7_readPart_174 rfl (lv_at hl 0 rfl) ?_
                  refine lv_iload_n hx hb dX7_readPart_175 rfl (lv_at hl 1 rfl) ?_
                  obtain ⟨S29, hcS29, hf⟩ := bnd_some hf
                  refine mr_callV (rest := []) B hM (c_X7_wait l D S26 p0 hcS29) (cwV 1 hts (lw_V q1953 q1955 qs60 q113 q1956) rfl rfl rfl hd_X7_wait ⟨Nat.le_of_ble_eq_true rfl, Nat.le_of_ble_eq_true rfl⟩) rfl hl.1 rfl (Nat.le_of_ble_eq_true rfl) dX7_readPart_176 ⟨Nat.zero_le _, Nat.zero_le _⟩ (fun H locs hM => ?_)
                  refine lv_iconst (v := nI 1) hx hb dX7_readPart_179 ic1 ?_
                  cases hf
                  exact hret _ _ _ _ rfl hM dX7_readPart_180
              · have hf := it_neg c25 hf
                refine lv_aload_n hx hb dX7_readPart_152 rfl (lv_at hl 0 rfl) ?_
                refine lv_iload_n hx hb dX7_readPart_153 rfl (lv_at hl 2 rfl) ?_
                refine lv_iload_n hx hb dX7_readPart_154 rfl (lv_at hl 1 rfl) ?_
                obtain ⟨⟨r30, S31⟩, hcr30, hf⟩ := bnd_some hf
                have hf := u2_at hf
                refine mr_callV (rest := []) B hM (c_X7_readRelation l D S19 x7 p0 hcr30) (cwV 2 hts (lw_V q1992 q1994 qs67 q113 q1995) rfl rfl rfl hd_X7_readRelation ⟨Nat.le_of_ble_eq_true rfl, Nat.le_of_ble_eq_true rfl⟩) rfl hl.1 rfl (Nat.le_of_ble_eq_true rfl) dX7_readPart_155 ⟨Nat.zero_le _, Nat.zero_le _⟩ (fun H locs hM => ?_)
                obtain ⟨hb32, hf⟩ := chk_some hf
                cases hf
                exact hret _ _ _ _ (by rcases hb32 with q | q <;> (rw [q]; rfl)) hM dX7_readPart_158
            · have hf := it_pos c23 hf
              refine lv_aload_n hx hb dX7_readPart_134 rfl (lv_at hl 0 rfl) ?_
              refine lv_iload_n hx hb dX7_readPart_135 rfl (lv_at hl 2 rfl) ?_
              refine lv_iload_n hx hb dX7_readPart_136 rfl (lv_at hl 1 rfl) ?_
              obtain ⟨⟨r33, S34⟩, hcr33, hf⟩ := bnd_some hf
              have hf := u2_at hf
              refine mr_callV (rest := []) B hM (c_X7_readSame l D S19 x7 p0 hcr33) (cwV 2 hts (lw_V q2034 q2036 qs74 q113 q2037) rfl rfl rfl hd_X7_readSame ⟨Nat.le_of_ble_eq_true rfl, Nat.le_of_ble_eq_true rfl⟩) rfl hl.1 rfl (Nat.le_of_ble_eq_true rfl) dX7_readPart_137 ⟨Nat.zero_le _, Nat.zero_le _⟩ (fun H locs hM => ?_)
              obtain ⟨hb35, hf⟩ := chk_some hf
              cases hf
              exact hret _ _ _ _ (by rcases hb35 with q | q <;> (rw [q]; rfl)) hM dX7_readPart_140
          · have hf := it_neg c21 hf
            refine lv_aload_n hx hb dX7_readPart_116 rfl (lv_at hl 0 rfl) ?_
            refine lv_iload_n hx hb dX7_readPart_117 rfl (lv_at hl 2 rfl) ?_
            refine lv_iload_n hx hb dX7_readPart_118 rfl (lv_at hl 1 rfl) ?_
            obtain ⟨⟨r36, S37⟩, hcr36, hf⟩ := bnd_some hf
            have hf := u2_at hf
            refine mr_callV (rest := []) B hM (c_X7_readBinder l D S19 x7 p0 hcr36) (cwV 2 hts (lw_V q2023 q2025 qs72 q113 q2026) rfl rfl rfl hd_X7_readBinder ⟨Nat.le_of_ble_eq_true rfl, Nat.le_of_ble_eq_true rfl⟩) rfl hl.1 rfl (Nat.le_of_ble_eq_true rfl) dX7_readPart_119 ⟨Nat.zero_le _, Nat.zero_le _⟩ (fun H locs hM => ?_)
            obtain ⟨hb38, hf⟩ := chk_some hf
            cases hf
            exact hret _ _ _ _ (by rcases hb38 with q | q <;> (rw [q]; rfl)) hM dX7_readPart_122
        refine lv_icmp_gt (tgt := 102) hx hb dX7_readPart_81 (by decide) (fun c14 => ?_) (fun c14 => ?_)
        · have hf := it_pos c14 hf
          exact j15 S10 hf _ _ _ hM (lv_sub hl [1, 2, 0] rfl)
        · have hf := it_neg c14 hf
          refine lv_iload_n hx hb dX7_readPart_84 rfl (lv_at hl 2 rfl) ?_
          refine lv_sipush (v := nI 256) hx hb dX7_readPart_85 sp256 ?_
          refine lv_idiv hx hb dX7_readPart_88 (by decide) ?_
          refine lv_iconst (v := nI 4) hx hb dX7_readPart_89 ic4 ?_
          refine lv_icmp_lt (tgt := 102) hx hb dX7_readPart_90 (by decide) (fun c16 => ?_) (fun c16 => ?_)
          · have hf := it_pos c16 hf
            exact j15 S10 hf _ _ _ hM (lv_sub hl [1, 2, 0] rfl)
          · have hf := it_neg c16 hf
            refine lv_aload_n hx hb dX7_readPart_93 rfl (lv_at hl 1 rfl) ?_
            refine lv_iconst (v := nI 5) hx hb dX7_readPart_94 ic5 ?_
            refine lv_aload_n hx hb dX7_readPart_95 rfl (lv_at hl 1 rfl) ?_
            refine mr_get B hM 31 (v := .int (S10.1 31 0)) rfl (by decide) q1677 dX7_readPart_96 ?_
            obtain ⟨S17, hcS17, hf⟩ := bnd_some hf
            refine mr_callV (rest := []) B hM (c_X7_later l D S10 (nI 5) (S10.1 31 0) hcS17) (cwV 2 hts (lw_V q1969 q1971 qs64 q113 q1972) rfl rfl rfl hd_X7_later ⟨Nat.le_of_ble_eq_true rfl, Nat.le_of_ble_eq_true rfl⟩) rfl hl.1 rfl (Nat.le_of_ble_eq_true rfl) dX7_readPart_99 ⟨Nat.zero_le _, Nat.zero_le _⟩ (fun H locs hM => ?_)
            exact j15 S17 hf _ _ _ hM (lv_sub hl [1, 2, 0] rfl)
      · have hf := it_pos c12 hf
        refine lv_aload_n hx hb dX7_readPart_67 rfl (lv_at hl 1 rfl) ?_
        refine lv_iload_n hx hb dX7_readPart_68 rfl (lv_at hl 0 rfl) ?_
        refine lv_iload_n hx hb dX7_readPart_69 rfl (lv_at hl 2 rfl) ?_
        obtain ⟨⟨r39, S40⟩, hcr39, hf⟩ := bnd_some hf
        have hf := u2_at hf
        refine mr_callV (rest := []) B hM (c_X7_readRelation l D S10 x7 p0 hcr39) (cwV 2 hts (lw_V q1992 q1994 qs67 q113 q1995) rfl rfl rfl hd_X7_readRelation ⟨Nat.le_of_ble_eq_true rfl, Nat.le_of_ble_eq_true rfl⟩) rfl hl.1 rfl (Nat.le_of_ble_eq_true rfl) dX7_readPart_70 ⟨Nat.zero_le _, Nat.zero_le _⟩ (fun H locs hM => ?_)
        obtain ⟨hb41, hf⟩ := chk_some hf
        cases hf
        exact hret _ _ _ _ (by rcases hb41 with q | q <;> (rw [q]; rfl)) hM dX7_readPart_73
    refine lv_icmp_ge (tgt := 34) hx hb dX7_readPart_24 (by decide) (fun c5 => ?_) (fun c5 => ?_)
    · refine lv_bipush (v := nI 40) hx hb dX7_readPart_34 bp40 ?_
      exact js (ex7.trans (if_pos c5)) jx7
    · refine lv_aload_n hx hb dX7_readPart_27 rfl (lv_at hl 0 rfl) ?_
      refine mr_get B hM 40 (v := .int (S4.1 40 0)) rfl (by decide) q1686 dX7_readPart_28 ?_
      refine lv_goto (tgt := 36) hx hb dX7_readPart_31 (by decide) ?_
      exact js (ex7.trans (if_neg c5)) jx7
  refine lv_icmp_ne (tgt := 18) hx hb dX7_readPart_6 (by decide) (fun c1 => ?_) (fun c1 => ?_)
  · have hf := it_neg c1 hf
    exact j2 S hf _ _ _ hM (lv_sub hl [0, 1] rfl)
  · have hf := it_pos c1 hf
    refine lv_aload_n hx hb dX7_readPart_9 rfl (lv_at hl 0 rfl) ?_
    refine lv_iconst (v := nI 4) hx hb dX7_readPart_10 ic4 ?_
    refine lv_aload_n hx hb dX7_readPart_11 rfl (lv_at hl 0 rfl) ?_
    refine mr_get B hM 31 (v := .int (S.1 31 0)) rfl (by decide) q1677 dX7_readPart_12 ?_
    obtain ⟨S3, hcS3, hf⟩ := bnd_some hf
    refine mr_callV (rest := []) B hM (c_X7_later l D S (nI 4) (S.1 31 0) hcS3) (cwV 2 hts (lw_V q1969 q1971 qs64 q113 q1972) rfl rfl rfl hd_X7_later ⟨Nat.le_of_ble_eq_true rfl, Nat.le_of_ble_eq_true rfl⟩) rfl hl.1 rfl (Nat.le_of_ble_eq_true rfl) dX7_readPart_15 ⟨Nat.zero_le _, Nat.zero_le _⟩ (fun H locs hM => ?_)
    exact j2 S3 hf _ _ _ hM (lv_sub hl [0, 1] rfl)
def f_X7_readText_L74 (x14 : Int32) (S15 : MS) : Option ((Int32 × MS) ⊕ ((Int32 × MS))) :=
  (if x14 = 0 then some (.inr (x14, S15)) else (if (S15.1 38 0) ≤ 0 then some (.inr (x14, S15)) else bd (m_up S15 38 0 ((S15.1 38 0) - nI 1)) fun S18 => ald 420 (S18.1 39) (S18.1 38 0) fun v19 => bnd (f_X7_readPart S18 v19) <| u2 fun r20 S21 => some (.inl (r20, S21))))
def f_X7_readText_J133_27  (x30 : Int32) (S31 : MS) : Option (Int32 × MS) :=
  bd (if x30 = 0 then nI 1 else (S31.1 36 0)) fun x34 => ast 4 (nI 0) (m_up S31 3 (nI 0).toNatClampNeg x34) fun S35 => bd (if x30 = 0 then (S35.1 35 0) else (if (S35.1 36 0) ≤ 0 then (-1) else (S35.1 37 0))) fun x39 => ast 4 (nI 0) (m_up S35 4 (nI 0).toNatClampNeg x39) fun S40 => ald 4 (S40.1 3) (nI 0) fun v41 => (if v41 = 0 then some (nI 1, S40) else some (nI 0, S40))
def f_X7_readText (S : MS) : Option (Int32 × MS) :=
  ald 4 (S.1 2) (nI 0) fun v1 => bd (m_up S 30 0 v1) fun S2 => ast 4 (nI 0) (m_up S2 2 (nI 0).toNatClampNeg (nI 0)) fun S3 => ast 4 (nI 0) (m_up S3 3 (nI 0).toNatClampNeg (nI 0)) fun S4 => ast 4 (nI 0) (m_up S4 4 (nI 0).toNatClampNeg (-1)) fun S5 => bd (m_up S5 29 0 (nI 0)) fun S6 => bd (m_up S6 35 0 (-1)) fun S7 => bd (m_up S7 36 0 (nI 0)) fun S8 => bd (m_up S8 37 0 (nI 0)) fun S9 => bd (m_up S9 38 0 (nI 0)) fun S10 => bd (m_up S10 40 0 (nI 0)) fun S11 => bnd (f_X7_wait S11 (nI 255)) fun S12 => bnd (f_X7_token S12) fun S13 => bnd (wO (fun t : Int32 × MS => f_X7_readText_L74 t.1 t.2) fu (nI 1, S13)) <| u2 fun x24 S25 => (if x24 = 0 then f_X7_readText_J133_27 x24 S25 else (if (S25.1 32 0) = 0 then f_X7_readText_J133_27 x24 S25 else bd (m_up S25 35 0 (S25.1 31 0)) fun S29 => f_X7_readText_J133_27 (nI 0) S29))
abbrev r_X7_readText : Room := { frames := 5, cells := 0, slots := 0, locals := 114 }
set_option maxHeartbeats 4000000 in
set_option maxRecDepth 100000 in
theorem c_X7_readText (l : Launch) (D : MD) (S : MS)  {r : Int32} {S' : MS} (hf : f_X7_readText S = some (r, S')) : m_Met l yX7_readText cX7_readText 2 (Option.some Jvm.ClassFile.FieldType.boolean) r_X7_readText D [.ref D.1] S (some (.int r)) S' := by
  refine m_metI (F := 5) (L := 114) (by decide) rfl (Nat.le_of_ble_eq_true rfl) (fun p e s m args below meth c Q B hret hM ls hl => ?_)
  have hx := B.1
  have hb := B.2.1
  have hown := B.2.2.2.1
  have hts := B.2.2.2.2
  have hl : lv_has ls 2 [(0, .ref D.1)] := hl
  generalize s.heap = H, ([] : List Loc) = locs at hM ⊢
  unfold f_X7_readText at hf
  refine lv_aload_n hx hb dX7_readText_0 rfl (lv_at hl 0 rfl) ?_
  refine lv_aload_n hx hb dX7_readText_1 rfl (lv_at hl 0 rfl) ?_
  refine mr_get B hM 2 (v := .ref (D.2.1 2)) rfl (by decide) q1648 dX7_readText_2 ?_
  refine lv_iconst (v := nI 0) hx hb dX7_readText_5 ic0 ?_
  obtain ⟨v1, ev1, hiv1, hf⟩ := ald_some hf
  refine mr_iald B hM 2 (by decide) rfl hiv1 ev1 dX7_readText_6 ?_
  obtain ⟨S2, eS2, hf⟩ := bd_some hf
  refine mr_puti B hM 30 (by decide) eS2 rfl (tyX7_ok 30 (by decide)) q1676 dX7_readText_7 (fun H locs hM => ?_)
  refine lv_aload_n hx hb dX7_readText_10 rfl (lv_at hl 0 rfl) ?_
  refine mr_get B hM 2 (v := .ref (D.2.1 2)) rfl (by decide) q1648 dX7_readText_11 ?_
  refine lv_iconst (v := nI 0) hx hb dX7_readText_14 ic0 ?_
  refine lv_iconst (v := nI 0) hx hb dX7_readText_15 ic0 ?_
  obtain ⟨S3, eS3, hiS3, hf⟩ := ast_some hf
  refine mr_iast B hM 2 (by decide) rfl hiS3 eS3 dX7_readText_16 (fun H locs hM => ?_)
  refine lv_aload_n hx hb dX7_readText_17 rfl (lv_at hl 0 rfl) ?_
  refine mr_get B hM 3 (v := .ref (D.2.1 3)) rfl (by decide) q1649 dX7_readText_18 ?_
  refine lv_iconst (v := nI 0) hx hb dX7_readText_21 ic0 ?_
  refine lv_iconst (v := nI 0) hx hb dX7_readText_22 ic0 ?_
  obtain ⟨S4, eS4, hiS4, hf⟩ := ast_some hf
  refine mr_iast B hM 3 (by decide) rfl hiS4 eS4 dX7_readText_23 (fun H locs hM => ?_)
  refine lv_aload_n hx hb dX7_readText_24 rfl (lv_at hl 0 rfl) ?_
  refine mr_get B hM 4 (v := .ref (D.2.1 4)) rfl (by decide) q1650 dX7_readText_25 ?_
  refine lv_iconst (v := nI 0) hx hb dX7_readText_28 ic0 ?_
  refine lv_iconst (v := (-1)) hx hb dX7_readText_29 icm1 ?_
  obtain ⟨S5, eS5, hiS5, hf⟩ := ast_some hf
  refine mr_iast B hM 4 (by decide) rfl hiS5 eS5 dX7_readText_30 (fun H locs hM => ?_)
  refine lv_aload_n hx hb dX7_readText_31 rfl (lv_at hl 0 rfl) ?_
  refine lv_iconst (v := nI 0) hx hb dX7_readText_32 ic0 ?_
  obtain ⟨S6, eS6, hf⟩ := bd_some hf
  refine mr_puti B hM 29 (by decide) eS6 rfl (tyX7_ok 29 (by decide)) q1675 dX7_readText_33 (fun H locs hM => ?_)
  refine lv_aload_n hx hb dX7_readText_36 rfl (lv_at hl 0 rfl) ?_
  refine lv_iconst (v := (-1)) hx hb dX7_readText_37 icm1 ?_
  obtain ⟨S7, eS7, hf⟩ := bd_some hf
  refine mr_puti B hM 35 (by decide) eS7 rfl (tyX7_ok 35 (by decide)) q1681 dX7_readText_38 (fun H locs hM => ?_)
  refine lv_aload_n hx hb dX7_readText_41 rfl (lv_at hl 0 rfl) ?_
  refine lv_iconst (v := nI 0) hx hb dX7_readText_42 ic0 ?_
  obtain ⟨S8, eS8, hf⟩ := bd_some hf
  refine mr_puti B hM 36 (by decide) eS8 rfl (tyX7_ok 36 (by decide)) q1682 dX7_readText_43 (fun H locs hM => ?_)
  refine lv_aload_n hx hb dX7_readText_46 rfl (lv_at hl 0 rfl) ?_
  refine lv_iconst (v := nI 0) hx hb dX7_readText_47 ic0 ?_
  obtain ⟨S9, eS9, hf⟩ := bd_some hf
  refine mr_puti B hM 37 (by decide) eS9 rfl (tyX7_ok 37 (by decide)) q1683 dX7_readText_48 (fun H locs hM => ?_)
  refine lv_aload_n hx hb dX7_readText_51 rfl (lv_at hl 0 rfl) ?_
  refine lv_iconst (v := nI 0) hx hb dX7_readText_52 ic0 ?_
  obtain ⟨S10, eS10, hf⟩ := bd_some hf
  refine mr_puti B hM 38 (by decide) eS10 rfl (tyX7_ok 38 (by decide)) q1684 dX7_readText_53 (fun H locs hM => ?_)
  refine lv_aload_n hx hb dX7_readText_56 rfl (lv_at hl 0 rfl) ?_
  refine lv_iconst (v := nI 0) hx hb dX7_readText_57 ic0 ?_
  obtain ⟨S11, eS11, hf⟩ := bd_some hf
  refine mr_puti B hM 40 (by decide) eS11 rfl (tyX7_ok 40 (by decide)) q1686 dX7_readText_58 (fun H locs hM => ?_)
  refine lv_aload_n hx hb dX7_readText_61 rfl (lv_at hl 0 rfl) ?_
  refine lv_sipush (v := nI 255) hx hb dX7_readText_62 sp255 ?_
  obtain ⟨S12, hcS12, hf⟩ := bnd_some hf
  refine mr_callV (rest := []) B hM (c_X7_wait l D S11 (nI 255) hcS12) (cwV 1 hts (lw_V q1953 q1955 qs60 q113 q1956) rfl rfl rfl hd_X7_wait ⟨Nat.le_of_ble_eq_true rfl, Nat.le_of_ble_eq_true rfl⟩) rfl hl.1 rfl (Nat.le_of_ble_eq_true rfl) dX7_readText_65 ⟨Nat.zero_le _, Nat.zero_le _⟩ (fun H locs hM => ?_)
  refine lv_aload_n hx hb dX7_readText_68 rfl (lv_at hl 0 rfl) ?_
  obtain ⟨S13, hcS13, hf⟩ := bnd_some hf
  refine mr_callV (rest := []) B hM (c_X7_token l D S12  hcS13) (cwV 0 hts (lw_V q1957 q1959 qs61 q113 q1960) rfl rfl rfl hd_X7_token ⟨Nat.le_of_ble_eq_true rfl, Nat.le_of_ble_eq_true rfl⟩) rfl hl.1 rfl (Nat.le_of_ble_eq_true rfl) dX7_readText_69 ⟨Nat.zero_le _, Nat.zero_le _⟩ (fun H locs hM => ?_)
  refine lv_iconst (v := nI 1) hx hb dX7_readText_72 ic1 ?_
  refine lv_istore_n (lv' := [(1, .int (nI 1)), (0, .ref D.1)]) hx hb dX7_readText_73 rfl hl (by decide) rfl (fun ls hl => ?_)
  obtain ⟨y23, hxy23, hf⟩ := bnd_some hf
  have hy23 : (fun t : Int32 × MS => ∀ (H : Heap) (locs : List Loc) (ls : Array Slot), m_I D s H locs t.2 → lv_has ls 2 [(0, .ref D.1), (1, .int t.1)] → W p l e r_X7_readText s m args below meth c H locs 0 0 Q (F0 m 112 ls [])) y23 := by
    rcases y23 with ⟨x24, S25⟩
    have hf := u2_at hf
    intro H locs ls hM hl
    refine lv_iload_n hx hb dX7_readText_112 rfl (lv_at hl 1 rfl) ?_
    have j27 : ∀ (x30 : Int32) (S31 : MS), f_X7_readText_J133_27 x30 S31 = some (r, S') → ∀ (H : Heap) (locs : List Loc) (ls : Array Slot), m_I D s H locs S31 → lv_has ls 2 [(0, .ref D.1), (1, .int x30)] → W p l e r_X7_readText s m args below meth c H locs 0 0 Q (F0 m 133 ls []) := by
      intro x30 S31 hf
      intro H locs ls hM hl
      unfold f_X7_readText_J133_27 at hf
      refine lv_aload_n hx hb dX7_readText_133 rfl (lv_at hl 0 rfl) ?_
      refine mr_get B hM 3 (v := .ref (D.2.1 3)) rfl (by decide) q1649 dX7_readText_134 ?_
      refine lv_iconst (v := nI 0) hx hb dX7_readText_137 ic0 ?_
      refine lv_iload_n hx hb dX7_readText_138 rfl (lv_at hl 1 rfl) ?_
      obtain ⟨x34, ex34, hf⟩ := bd_some hf
      have jx34 : W p l e r_X7_readText s m args below meth c H locs 0 0 Q (F0 m 150 ls [.int x34, .int (nI 0), .ref (D.2.1 3)]) := by
        obtain ⟨S35, eS35, hiS35, hf⟩ := ast_some hf
        refine mr_iast B hM 3 (by decide) rfl hiS35 eS35 dX7_readText_150 (fun H locs hM => ?_)
        refine lv_aload_n hx hb dX7_readText_151 rfl (lv_at hl 0 rfl) ?_
        refine mr_get B hM 4 (v := .ref (D.2.1 4)) rfl (by decide) q1650 dX7_readText_152 ?_
        refine lv_iconst (v := nI 0) hx hb dX7_readText_155 ic0 ?_
        refine lv_iload_n hx hb dX7_readText_156 rfl (lv_at hl 1 rfl) ?_
        obtain ⟨x39, ex39, hf⟩ := bd_some hf
        have jx39 : W p l e r_X7_readText s m args below meth c H locs 0 0 Q (F0 m 182 ls [.int x39, .int (nI 0), .ref (D.2.1 4)]) := by
          obtain ⟨S40, eS40, hiS40, hf⟩ := ast_some hf
          refine mr_iast B hM 4 (by decide) rfl hiS40 eS40 dX7_readText_182 (fun H locs hM => ?_)
          refine lv_aload_n hx hb dX7_readText_183 rfl (lv_at hl 0 rfl) ?_
          refine mr_get B hM 3 (v := .ref (D.2.1 3)) rfl (by decide) q1649 dX7_readText_184 ?_
          refine lv_iconst (v := nI 0) hx hb dX7_readText_187 ic0 ?_
          obtain ⟨v41, ev41, hiv41, hf⟩ := ald_some hf
          refine mr_iald B hM 3 (by decide) rfl hiv41 ev41 dX7_readText_188 ?_
          refine lv_if_ne (tgt := 196) hx hb dX7_readText_189 (by decide) (fun c42 => ?_) (fun c42 => ?_)
          · have hf := it_neg c42 hf
            refine lv_iconst (v := nI 0) hx hb dX7_readText_196 ic0 ?_
            cases hf
            exact hret _ _ _ _ rfl hM dX7_readText_197
          · have hf := it_pos c42 hf
            refine lv_iconst (v := nI 1) hx hb dX7_readText_192 ic1 ?_
            refine lv_goto (tgt := 197) hx hb dX7_readText_193 (by decide) ?_
            cases hf
            exact hret _ _ _ _ rfl hM dX7_readText_197
        refine lv_if_ne (tgt := 167) hx hb dX7_readText_157 (by decide) (fun c36 => ?_) (fun c36 => ?_)
        · refine lv_aload_n hx hb dX7_readText_167 rfl (lv_at hl 0 rfl) ?_
          refine mr_get B hM 36 (v := .int (S35.1 36 0)) rfl (by decide) q1682 dX7_readText_168 ?_
          refine lv_if_le (tgt := 181) hx hb dX7_readText_171 (by decide) (fun c38 => ?_) (fun c38 => ?_)
          · refine lv_iconst (v := (-1)) hx hb dX7_readText_181 icm1 ?_
            exact js ((ex39.trans (if_neg c36)).trans (if_pos c38)) jx39
          · refine lv_aload_n hx hb dX7_readText_174 rfl (lv_at hl 0 rfl) ?_
            refine mr_get B hM 37 (v := .int (S35.1 37 0)) rfl (by decide) q1683 dX7_readText_175 ?_
            refine lv_goto (tgt := 182) hx hb dX7_readText_178 (by decide) ?_
            exact js ((ex39.trans (if_neg c36)).trans (if_neg c38)) jx39
        · refine lv_aload_n hx hb dX7_readText_160 rfl (lv_at hl 0 rfl) ?_
          refine mr_get B hM 35 (v := .int (S35.1 35 0)) rfl (by decide) q1681 dX7_readText_161 ?_
          refine lv_goto (tgt := 182) hx hb dX7_readText_164 (by decide) ?_
          exact js (ex39.trans (if_pos c36)) jx39
      refine lv_if_ne (tgt := 146) hx hb dX7_readText_139 (by decide) (fun c32 => ?_) (fun c32 => ?_)
      · refine lv_aload_n hx hb dX7_readText_146 rfl (lv_at hl 0 rfl) ?_
        refine mr_get B hM 36 (v := .int (S31.1 36 0)) rfl (by decide) q1682 dX7_readText_147 ?_
        exact js (ex34.trans (if_neg c32)) jx34
      · refine lv_iconst (v := nI 1) hx hb dX7_readText_142 ic1 ?_
        refine lv_goto (tgt := 150) hx hb dX7_readText_143 (by decide) ?_
        exact js (ex34.trans (if_pos c32)) jx34
    refine lv_if_eq (tgt := 133) hx hb dX7_readText_113 (by decide) (fun c26 => ?_) (fun c26 => ?_)
    · have hf := it_pos c26 hf
      exact j27 x24 S25 hf _ _ _ hM (lv_sub hl [0, 1] rfl)
    · have hf := it_neg c26 hf
      refine lv_aload_n hx hb dX7_readText_116 rfl (lv_at hl 0 rfl) ?_
      refine mr_get B hM 32 (v := .int (S25.1 32 0)) rfl (by decide) q1678 dX7_readText_117 ?_
      refine lv_if_eq (tgt := 133) hx hb dX7_readText_120 (by decide) (fun c28 => ?_) (fun c28 => ?_)
      · have hf := it_pos c28 hf
        exact j27 x24 S25 hf _ _ _ hM (lv_sub hl [0, 1] rfl)
      · have hf := it_neg c28 hf
        refine lv_aload_n hx hb dX7_readText_123 rfl (lv_at hl 0 rfl) ?_
        refine lv_aload_n hx hb dX7_readText_124 rfl (lv_at hl 0 rfl) ?_
        refine mr_get B hM 31 (v := .int (S25.1 31 0)) rfl (by decide) q1677 dX7_readText_125 ?_
        obtain ⟨S29, eS29, hf⟩ := bd_some hf
        refine mr_puti B hM 35 (by decide) eS29 rfl (tyX7_ok 35 (by decide)) q1681 dX7_readText_128 (fun H locs hM => ?_)
        refine lv_iconst (v := nI 0) hx hb dX7_readText_131 ic0 ?_
        refine lv_istore_n (lv' := [(1, .int (nI 0)), (0, .ref D.1)]) hx hb dX7_readText_132 rfl hl (by decide) rfl (fun ls hl => ?_)
        exact j27 (nI 0) S29 hf _ _ _ hM (lv_sub hl [1, 0] rfl)
  refine lp_W (step := (fun t : Int32 × MS => f_X7_readText_L74 t.1 t.2)) (fun t : Int32 × MS => ∀ (H : Heap) (locs : List Loc) (ls : Array Slot), m_I D s H locs t.2 → lv_has ls 2 [(0, .ref D.1), (1, .int t.1)] → W p l e r_X7_readText s m args below meth c H locs 0 0 Q (F0 m 74 ls [])) (fun t : Int32 × MS => ∀ (H : Heap) (locs : List Loc) (ls : Array Slot), m_I D s H locs t.2 → lv_has ls 2 [(0, .ref D.1), (1, .int t.1)] → W p l e r_X7_readText s m args below meth c H locs 0 0 Q (F0 m 112 ls [])) ?_ fu (nI 1, S13) y23 hxy23 hy23 _ _ _ hM (lv_sub hl [1, 0] rfl)
  clear hf hxy23 hy23
  rintro ⟨x14, S15⟩ o (hf : f_X7_readText_L74 x14 S15 = some o) hk
  intro H locs ls hM hl
  unfold f_X7_readText_L74 at hf
  refine lv_iload_n hx hb dX7_readText_74 rfl (lv_at hl 1 rfl) ?_
  refine lv_if_eq (tgt := 112) hx hb dX7_readText_75 (by decide) (fun c16 => ?_) (fun c16 => ?_)
  · have hf := it_pos c16 hf
    cases hf
    exact hk _ _ _ hM (lv_sub hl [0, 1] rfl)
  · have hf := it_neg c16 hf
    refine lv_aload_n hx hb dX7_readText_78 rfl (lv_at hl 0 rfl) ?_
    refine mr_get B hM 38 (v := .int (S15.1 38 0)) rfl (by decide) q1684 dX7_readText_79 ?_
    refine lv_if_le (tgt := 112) hx hb dX7_readText_82 (by decide) (fun c17 => ?_) (fun c17 => ?_)
    · have hf := it_pos c17 hf
      cases hf
      exact hk _ _ _ hM (lv_sub hl [0, 1] rfl)
    · have hf := it_neg c17 hf
      refine lv_aload_n hx hb dX7_readText_85 rfl (lv_at hl 0 rfl) ?_
      refine lv_dup hx hb dX7_readText_86 rfl ?_
      refine mr_get B hM 38 (v := .int (S15.1 38 0)) rfl (by decide) q1684 dX7_readText_87 ?_
      refine lv_iconst (v := nI 1) hx hb dX7_readText_90 ic1 ?_
      refine lv_isub hx hb dX7_readText_91 ?_
      obtain ⟨S18, eS18, hf⟩ := bd_some hf
      refine mr_puti B hM 38 (by decide) eS18 rfl (tyX7_ok 38 (by decide)) q1684 dX7_readText_92 (fun H locs hM => ?_)
      refine lv_aload_n hx hb dX7_readText_95 rfl (lv_at hl 0 rfl) ?_
      refine lv_aload_n hx hb dX7_readText_96 rfl (lv_at hl 0 rfl) ?_
      refine mr_get B hM 39 (v := .ref (D.2.1 39)) rfl (by decide) q1685 dX7_readText_97 ?_
      refine lv_aload_n hx hb dX7_readText_100 rfl (lv_at hl 0 rfl) ?_
      refine mr_get B hM 38 (v := .int (S18.1 38 0)) rfl (by decide) q1684 dX7_readText_101 ?_
      obtain ⟨v19, ev19, hiv19, hf⟩ := ald_some hf
      refine mr_iald B hM 39 (by decide) rfl hiv19 ev19 dX7_readText_104 ?_
      obtain ⟨⟨r20, S21⟩, hcr20, hf⟩ := bnd_some hf
      have hf := u2_at hf
      refine mr_callV (rest := []) B hM (c_X7_readPart l D S18 v19 hcr20) (cwV 1 hts (lw_V q1965 q1967 qs63 q113 q1968) rfl rfl rfl hd_X7_readPart ⟨Nat.le_of_ble_eq_true rfl, Nat.le_of_ble_eq_true rfl⟩) rfl hl.1 rfl (Nat.le_of_ble_eq_true rfl) dX7_readText_105 ⟨Nat.zero_le _, Nat.zero_le _⟩ (fun H locs hM => ?_)
      refine lv_istore_n (lv' := [(1, .int r20), (0, .ref D.1)]) hx hb dX7_readText_108 rfl hl (by decide) rfl (fun ls hl => ?_)
      refine lv_goto (tgt := 74) hx hb dX7_readText_109 (by decide) ?_
      cases hf
      exact hk _ _ _ hM (lv_sub hl [1, 0] rfl)
def f_X7_story (S : MS) : Option (Int32 × MS) :=
  bd (m_up S 0 0 (nI 0)) fun S1 => ald 4 (S1.1 12) (nI 0) fun v2 => (if v2 = nI 8 then ast 4 (nI 0) (m_up S1 2 (nI 0).toNatClampNeg (nI 0)) fun S14 => ast 4 (nI 0) (m_up S14 3 (nI 0).toNatClampNeg (nI 0)) fun S15 => ast 4 (nI 0) (m_up S15 4 (nI 0).toNatClampNeg (-1)) fun S16 => some ((-2), S16) else bnd (f_X7_readText S1) <| u2 fun r4 S5 => (if r4 = 0 then some ((-1), S5) else ald 4 (S5.1 12) (nI 0) fun v7 => ald 4 (S5.1 12) (nI 0) fun v8 => ast 4 (nI 0) (m_up S5 12 (nI 0).toNatClampNeg (v8 + nI 1)) fun S9 => bnd (f_X7_keepText S9 v7) fun S10 => ald 4 (S10.1 5) (nI 0) fun v11 => ast 32 v7 (m_up S10 13 v7.toNatClampNeg v11) fun S12 => ast 32 v7 (m_up S12 14 v7.toNatClampNeg (-1)) fun S13 => some (v7, S13)))
abbrev r_X7_story : Room := { frames := 6, cells := 0, slots := 0, locals := 135 }
set_option maxHeartbeats 4000000 in
set_option maxRecDepth 100000 in
theorem c_X7_story (l : Launch) (D : MD) (S : MS)  {r : Int32} {S' : MS} (hf : f_X7_story S = some (r, S')) : m_Met l yX7_story cX7_story 2 (Option.some Jvm.ClassFile.FieldType.int) r_X7_story D [.ref D.1] S (some (.int r)) S' := by
  refine m_metI (F := 6) (L := 135) (by decide) rfl (Nat.le_of_ble_eq_true rfl) (fun p e s m args below meth c Q B hret hM ls hl => ?_)
  have hx := B.1
  have hb := B.2.1
  have hown := B.2.2.2.1
  have hts := B.2.2.2.2
  have hl : lv_has ls 2 [(0, .ref D.1)] := hl
  generalize s.heap = H, ([] : List Loc) = locs at hM ⊢
  unfold f_X7_story at hf
  refine lv_aload_n hx hb dX7_story_0 rfl (lv_at hl 0 rfl) ?_
  refine lv_iconst (v := nI 0) hx hb dX7_story_1 ic0 ?_
  obtain ⟨S1, eS1, hf⟩ := bd_some hf
  refine mr_puti B hM 0 (by decide) eS1 rfl (tyX7_ok 0 (by decide)) q1646 dX7_story_2 (fun H locs hM => ?_)
  refine lv_aload_n hx hb dX7_story_5 rfl (lv_at hl 0 rfl) ?_
  refine mr_get B hM 12 (v := .ref (D.2.1 12)) rfl (by decide) q1658 dX7_story_6 ?_
  refine lv_iconst (v := nI 0) hx hb dX7_story_9 ic0 ?_
  obtain ⟨v2, ev2, hiv2, hf⟩ := ald_some hf
  refine mr_iald B hM 12 (by decide) rfl hiv2 ev2 dX7_story_10 ?_
  refine lv_bipush (v := nI 8) hx hb dX7_story_11 bp8 ?_
  refine lv_icmp_ne (tgt := 40) hx hb dX7_story_13 (by decide) (fun c3 => ?_) (fun c3 => ?_)
  · have hf := it_neg c3 hf
    refine lv_aload_n hx hb dX7_story_40 rfl (lv_at hl 0 rfl) ?_
    obtain ⟨⟨r4, S5⟩, hcr4, hf⟩ := bnd_some hf
    have hf := u2_at hf
    refine mr_callV (rest := []) B hM (c_X7_readText l D S1  hcr4) (cwV 0 hts (lw_V q1949 q1951 qs59 q113 q1952) rfl rfl rfl hd_X7_readText ⟨Nat.le_of_ble_eq_true rfl, Nat.le_of_ble_eq_true rfl⟩) rfl hl.1 rfl (Nat.le_of_ble_eq_true rfl) dX7_story_41 ⟨Nat.zero_le _, Nat.zero_le _⟩ (fun H locs hM => ?_)
    refine lv_if_ne (tgt := 49) hx hb dX7_story_44 (by decide) (fun c6 => ?_) (fun c6 => ?_)
    · have hf := it_neg c6 hf
      refine lv_aload_n hx hb dX7_story_49 rfl (lv_at hl 0 rfl) ?_
      refine mr_get B hM 12 (v := .ref (D.2.1 12)) rfl (by decide) q1658 dX7_story_50 ?_
      refine lv_iconst (v := nI 0) hx hb dX7_story_53 ic0 ?_
      obtain ⟨v7, ev7, hiv7, hf⟩ := ald_some hf
      refine mr_iald B hM 12 (by decide) rfl hiv7 ev7 dX7_story_54 ?_
      refine lv_istore_n (lv' := [(1, .int v7), (0, .ref D.1)]) hx hb dX7_story_55 rfl hl (by decide) rfl (fun ls hl => ?_)
      refine lv_aload_n hx hb dX7_story_56 rfl (lv_at hl 1 rfl) ?_
      refine mr_get B hM 12 (v := .ref (D.2.1 12)) rfl (by decide) q1658 dX7_story_57 ?_
      refine lv_iconst (v := nI 0) hx hb dX7_story_60 ic0 ?_
      refine lv_dup2_11 hx hb dX7_story_61 rfl rfl ?_
      obtain ⟨v8, ev8, hiv8, hf⟩ := ald_some hf
      refine mr_iald B hM 12 (by decide) rfl hiv8 ev8 dX7_story_62 ?_
      refine lv_iconst (v := nI 1) hx hb dX7_story_63 ic1 ?_
      refine lv_iadd hx hb dX7_story_64 ?_
      obtain ⟨S9, eS9, hiS9, hf⟩ := ast_some hf
      refine mr_iast B hM 12 (by decide) rfl hiS9 eS9 dX7_story_65 (fun H locs hM => ?_)
      refine lv_aload_n hx hb dX7_story_66 rfl (lv_at hl 1 rfl) ?_
      refine lv_iload_n hx hb dX7_story_67 rfl (lv_at hl 0 rfl) ?_
      obtain ⟨S10, hcS10, hf⟩ := bnd_some hf
      refine mr_callV (rest := []) B hM (c_X7_keepText l D S9 v7 hcS10) (cwV 1 hts (lw_V q2038 q2040 qs75 q113 q2041) rfl rfl rfl hd_X7_keepText ⟨Nat.le_of_ble_eq_true rfl, Nat.le_of_ble_eq_true rfl⟩) rfl hl.1 rfl (Nat.le_of_ble_eq_true rfl) dX7_story_68 ⟨Nat.zero_le _, Nat.zero_le _⟩ (fun H locs hM => ?_)
      refine lv_aload_n hx hb dX7_story_71 rfl (lv_at hl 1 rfl) ?_
      refine mr_get B hM 13 (v := .ref (D.2.1 13)) rfl (by decide) q1659 dX7_story_72 ?_
      refine lv_iload_n hx hb dX7_story_75 rfl (lv_at hl 0 rfl) ?_
      refine lv_aload_n hx hb dX7_story_76 rfl (lv_at hl 1 rfl) ?_
      refine mr_get B hM 5 (v := .ref (D.2.1 5)) rfl (by decide) q1651 dX7_story_77 ?_
      refine lv_iconst (v := nI 0) hx hb dX7_story_80 ic0 ?_
      obtain ⟨v11, ev11, hiv11, hf⟩ := ald_some hf
      refine mr_iald B hM 5 (by decide) rfl hiv11 ev11 dX7_story_81 ?_
      obtain ⟨S12, eS12, hiS12, hf⟩ := ast_some hf
      refine mr_iast B hM 13 (by decide) rfl hiS12 eS12 dX7_story_82 (fun H locs hM => ?_)
      refine lv_aload_n hx hb dX7_story_83 rfl (lv_at hl 1 rfl) ?_
      refine mr_get B hM 14 (v := .ref (D.2.1 14)) rfl (by decide) q1660 dX7_story_84 ?_
      refine lv_iload_n hx hb dX7_story_87 rfl (lv_at hl 0 rfl) ?_
      refine lv_iconst (v := (-1)) hx hb dX7_story_88 icm1 ?_
      obtain ⟨S13, eS13, hiS13, hf⟩ := ast_some hf
      refine mr_iast B hM 14 (by decide) rfl hiS13 eS13 dX7_story_89 (fun H locs hM => ?_)
      refine lv_iload_n hx hb dX7_story_90 rfl (lv_at hl 0 rfl) ?_
      cases hf
      exact hret _ _ _ _ rfl hM dX7_story_91
    · have hf := it_pos c6 hf
      refine lv_iconst (v := (-1)) hx hb dX7_story_47 icm1 ?_
      cases hf
      exact hret _ _ _ _ rfl hM dX7_story_48
  · have hf := it_pos c3 hf
    refine lv_aload_n hx hb dX7_story_16 rfl (lv_at hl 0 rfl) ?_
    refine mr_get B hM 2 (v := .ref (D.2.1 2)) rfl (by decide) q1648 dX7_story_17 ?_
    refine lv_iconst (v := nI 0) hx hb dX7_story_20 ic0 ?_
    refine lv_iconst (v := nI 0) hx hb dX7_story_21 ic0 ?_
    obtain ⟨S14, eS14, hiS14, hf⟩ := ast_some hf
    refine mr_iast B hM 2 (by decide) rfl hiS14 eS14 dX7_story_22 (fun H locs hM => ?_)
    refine lv_aload_n hx hb dX7_story_23 rfl (lv_at hl 0 rfl) ?_
    refine mr_get B hM 3 (v := .ref (D.2.1 3)) rfl (by decide) q1649 dX7_story_24 ?_
    refine lv_iconst (v := nI 0) hx hb dX7_story_27 ic0 ?_
    refine lv_iconst (v := nI 0) hx hb dX7_story_28 ic0 ?_
    obtain ⟨S15, eS15, hiS15, hf⟩ := ast_some hf
    refine mr_iast B hM 3 (by decide) rfl hiS15 eS15 dX7_story_29 (fun H locs hM => ?_)
    refine lv_aload_n hx hb dX7_story_30 rfl (lv_at hl 0 rfl) ?_
    refine mr_get B hM 4 (v := .ref (D.2.1 4)) rfl (by decide) q1650 dX7_story_31 ?_
    refine lv_iconst (v := nI 0) hx hb dX7_story_34 ic0 ?_
    refine lv_iconst (v := (-1)) hx hb dX7_story_35 icm1 ?_
    obtain ⟨S16, eS16, hiS16, hf⟩ := ast_some hf
    refine mr_iast B hM 4 (by decide) rfl hiS16 eS16 dX7_story_36 (fun H locs hM => ?_)
    refine lv_bipush (v := (-2)) hx hb dX7_story_37 bpm2 ?_
    cases hf
    exact hret _ _ _ _ rfl hM dX7_story_39
def f_X7_guess (S : MS) : Option (Int32 × MS) :=
  bd (m_up S 0 0 (nI 0)) fun S1 => bnd (f_X7_readText S1) <| u2 fun r2 S3 => (if r2 = 0 then some ((-1), S3) else bnd (f_X7_keepText S3 (nI 8)) fun S5 => some ((S5.1 40 0), S5))
abbrev r_X7_guess : Room := { frames := 6, cells := 0, slots := 0, locals := 135 }
set_option maxHeartbeats 4000000 in
set_option maxRecDepth 100000 in
theorem c_X7_guess (l : Launch) (D : MD) (S : MS)  {r : Int32} {S' : MS} (hf : f_X7_guess S = some (r, S')) : m_Met l yX7_guess cX7_guess 1 (Option.some Jvm.ClassFile.FieldType.int) r_X7_guess D [.ref D.1] S (some (.int r)) S' := by
  refine m_metI (F := 6) (L := 135) (by decide) rfl (Nat.le_of_ble_eq_true rfl) (fun p e s m args below meth c Q B hret hM ls hl => ?_)
  have hx := B.1
  have hb := B.2.1
  have hown := B.2.2.2.1
  have hts := B.2.2.2.2
  have hl : lv_has ls 1 [(0, .ref D.1)] := hl
  generalize s.heap = H, ([] : List Loc) = locs at hM ⊢
  unfold f_X7_guess at hf
  refine lv_aload_n hx hb dX7_guess_0 rfl (lv_at hl 0 rfl) ?_
  refine lv_iconst (v := nI 0) hx hb dX7_guess_1 ic0 ?_
  obtain ⟨S1, eS1, hf⟩ := bd_some hf
  refine mr_puti B hM 0 (by decide) eS1 rfl (tyX7_ok 0 (by decide)) q1646 dX7_guess_2 (fun H locs hM => ?_)
  refine lv_aload_n hx hb dX7_guess_5 rfl (lv_at hl 0 rfl) ?_
  obtain ⟨⟨r2, S3⟩, hcr2, hf⟩ := bnd_some hf
  have hf := u2_at hf
  refine mr_callV (rest := []) B hM (c_X7_readText l D S1  hcr2) (cwV 0 hts (lw_V q1949 q1951 qs59 q113 q1952) rfl rfl rfl hd_X7_readText ⟨Nat.le_of_ble_eq_true rfl, Nat.le_of_ble_eq_true rfl⟩) rfl hl.1 rfl (Nat.le_of_ble_eq_true rfl) dX7_guess_6 ⟨Nat.zero_le _, Nat.zero_le _⟩ (fun H locs hM => ?_)
  refine lv_if_ne (tgt := 14) hx hb dX7_guess_9 (by decide) (fun c4 => ?_) (fun c4 => ?_)
  · have hf := it_neg c4 hf
    refine lv_aload_n hx hb dX7_guess_14 rfl (lv_at hl 0 rfl) ?_
    refine lv_bipush (v := nI 8) hx hb dX7_guess_15 bp8 ?_
    obtain ⟨S5, hcS5, hf⟩ := bnd_some hf
    refine mr_callV (rest := []) B hM (c_X7_keepText l D S3 (nI 8) hcS5) (cwV 1 hts (lw_V q2038 q2040 qs75 q113 q2041) rfl rfl rfl hd_X7_keepText ⟨Nat.le_of_ble_eq_true rfl, Nat.le_of_ble_eq_true rfl⟩) rfl hl.1 rfl (Nat.le_of_ble_eq_true rfl) dX7_guess_17 ⟨Nat.zero_le _, Nat.zero_le _⟩ (fun H locs hM => ?_)
    refine lv_aload_n hx hb dX7_guess_20 rfl (lv_at hl 0 rfl) ?_
    refine mr_get B hM 40 (v := .int (S5.1 40 0)) rfl (by decide) q1686 dX7_guess_21 ?_
    cases hf
    exact hret _ _ _ _ rfl hM dX7_guess_24
  · have hf := it_pos c4 hf
    refine lv_iconst (v := (-1)) hx hb dX7_guess_12 icm1 ?_
    cases hf
    exact hret _ _ _ _ rfl hM dX7_guess_13
def f_X7_fault (S : MS) (p0 : Int32) : Option (Int32 × MS) :=
  bd (m_up S 0 0 (nI 0)) fun S1 => (if p0 = 0 then ald 4 (S1.1 3) (nI 0) fun v5 => some (v5, S1) else (if p0 = nI 1 then ald 4 (S1.1 4) (nI 0) fun v4 => some (v4, S1) else some ((-1), S1)))
abbrev r_X7_fault : Room := { frames := 0, cells := 0, slots := 0, locals := 0 }
set_option maxHeartbeats 4000000 in
set_option maxRecDepth 100000 in
theorem c_X7_fault (l : Launch) (D : MD) (S : MS) (p0 : Int32) {r : Int32} {S' : MS} (hf : f_X7_fault S p0 = some (r, S')) : m_Met l yX7_fault cX7_fault 2 (Option.some Jvm.ClassFile.FieldType.int) r_X7_fault D [.ref D.1, .int p0] S (some (.int r)) S' := by
  refine m_metI (F := 0) (L := 0) (by decide) rfl (Nat.le_of_ble_eq_true rfl) (fun p e s m args below meth c Q B hret hM ls hl => ?_)
  have hx := B.1
  have hb := B.2.1
  have hown := B.2.2.2.1
  have hts := B.2.2.2.2
  have hl : lv_has ls 2 [(0, .ref D.1), (1, .int p0)] := hl
  generalize s.heap = H, ([] : List Loc) = locs at hM ⊢
  unfold f_X7_fault at hf
  refine lv_aload_n hx hb dX7_fault_0 rfl (lv_at hl 0 rfl) ?_
  refine lv_iconst (v := nI 0) hx hb dX7_fault_1 ic0 ?_
  obtain ⟨S1, eS1, hf⟩ := bd_some hf
  refine mr_puti B hM 0 (by decide) eS1 rfl (tyX7_ok 0 (by decide)) q1646 dX7_fault_2 (fun H locs hM => ?_)
  refine lv_iload_n hx hb dX7_fault_5 rfl (lv_at hl 1 rfl) ?_
  refine lv_if_ne (tgt := 18) hx hb dX7_fault_6 (by decide) (fun c2 => ?_) (fun c2 => ?_)
  · have hf := it_neg c2 hf
    refine lv_iload_n hx hb dX7_fault_18 rfl (lv_at hl 1 rfl) ?_
    refine lv_iconst (v := nI 1) hx hb dX7_fault_19 ic1 ?_
    refine lv_icmp_ne (tgt := 32) hx hb dX7_fault_20 (by decide) (fun c3 => ?_) (fun c3 => ?_)
    · have hf := it_neg c3 hf
      refine lv_iconst (v := (-1)) hx hb dX7_fault_32 icm1 ?_
      cases hf
      exact hret _ _ _ _ rfl hM dX7_fault_33
    · have hf := it_pos c3 hf
      refine lv_aload_n hx hb dX7_fault_23 rfl (lv_at hl 0 rfl) ?_
      refine mr_get B hM 4 (v := .ref (D.2.1 4)) rfl (by decide) q1650 dX7_fault_24 ?_
      refine lv_iconst (v := nI 0) hx hb dX7_fault_27 ic0 ?_
      obtain ⟨v4, ev4, hiv4, hf⟩ := ald_some hf
      refine mr_iald B hM 4 (by decide) rfl hiv4 ev4 dX7_fault_28 ?_
      refine lv_goto (tgt := 33) hx hb dX7_fault_29 (by decide) ?_
      cases hf
      exact hret _ _ _ _ rfl hM dX7_fault_33
  · have hf := it_pos c2 hf
    refine lv_aload_n hx hb dX7_fault_9 rfl (lv_at hl 0 rfl) ?_
    refine mr_get B hM 3 (v := .ref (D.2.1 3)) rfl (by decide) q1649 dX7_fault_10 ?_
    refine lv_iconst (v := nI 0) hx hb dX7_fault_13 ic0 ?_
    obtain ⟨v5, ev5, hiv5, hf⟩ := ald_some hf
    refine mr_iald B hM 3 (by decide) rfl hiv5 ev5 dX7_fault_14 ?_
    refine lv_goto (tgt := 33) hx hb dX7_fault_15 (by decide) ?_
    cases hf
    exact hret _ _ _ _ rfl hM dX7_fault_33
def f_X7_strike (S : MS) (p0 : Int32) : Option (Int32 × MS) :=
  bd (m_up S 0 0 (nI 0)) fun S1 => ald 4 (S1.1 12) (nI 0) fun v2 => bnd (f_X7_in p0 (nI 0) (v2 - nI 1)) fun r3 => (if r3 = 0 then some (nI 0, S1) else ald 32 (S1.1 14) p0 fun v5 => (if v5 = (-1) then ald 4 (S1.1 5) (nI 0) fun v7 => ast 32 p0 (m_up S1 14 p0.toNatClampNeg v7) fun S8 => some (nI 1, S8) else some (nI 0, S1)))
abbrev r_X7_strike : Room := { frames := 1, cells := 0, slots := 0, locals := 22 }
set_option maxHeartbeats 4000000 in
set_option maxRecDepth 100000 in
theorem c_X7_strike (l : Launch) (D : MD) (S : MS) (p0 : Int32) {r : Int32} {S' : MS} (hf : f_X7_strike S p0 = some (r, S')) : m_Met l yX7_strike cX7_strike 2 (Option.some Jvm.ClassFile.FieldType.boolean) r_X7_strike D [.ref D.1, .int p0] S (some (.int r)) S' := by
  refine m_metI (F := 1) (L := 22) (by decide) rfl (Nat.le_of_ble_eq_true rfl) (fun p e s m args below meth c Q B hret hM ls hl => ?_)
  have hx := B.1
  have hb := B.2.1
  have hown := B.2.2.2.1
  have hts := B.2.2.2.2
  have hl : lv_has ls 2 [(0, .ref D.1), (1, .int p0)] := hl
  generalize s.heap = H, ([] : List Loc) = locs at hM ⊢
  unfold f_X7_strike at hf
  refine lv_aload_n hx hb dX7_strike_0 rfl (lv_at hl 0 rfl) ?_
  refine lv_iconst (v := nI 0) hx hb dX7_strike_1 ic0 ?_
  obtain ⟨S1, eS1, hf⟩ := bd_some hf
  refine mr_puti B hM 0 (by decide) eS1 rfl (tyX7_ok 0 (by decide)) q1646 dX7_strike_2 (fun H locs hM => ?_)
  refine lv_iload_n hx hb dX7_strike_5 rfl (lv_at hl 1 rfl) ?_
  refine lv_iconst (v := nI 0) hx hb dX7_strike_6 ic0 ?_
  refine lv_aload_n hx hb dX7_strike_7 rfl (lv_at hl 0 rfl) ?_
  refine mr_get B hM 12 (v := .ref (D.2.1 12)) rfl (by decide) q1658 dX7_strike_8 ?_
  refine lv_iconst (v := nI 0) hx hb dX7_strike_11 ic0 ?_
  obtain ⟨v2, ev2, hiv2, hf⟩ := ald_some hf
  refine mr_iald B hM 12 (by decide) rfl hiv2 ev2 dX7_strike_12 ?_
  refine lv_iconst (v := nI 1) hx hb dX7_strike_13 ic1 ?_
  refine lv_isub hx hb dX7_strike_14 ?_
  obtain ⟨r3, hcr3, hf⟩ := bnd_some hf
  refine pr_callS (rest := []) B (c_X7_in l p0 (nI 0) (v2 - nI 1) hcr3) (va_cwS 3 hts (lw_S q1841 q1842 q113 q1843) rfl rfl rfl hd_X7_in ⟨Nat.le_of_ble_eq_true rfl, Nat.le_of_ble_eq_true rfl⟩) rfl hl.1 rfl (Nat.le_of_ble_eq_true rfl) dX7_strike_15 ⟨Nat.zero_le _, Nat.zero_le _⟩ ?_
  refine lv_if_eq (tgt := 31) hx hb dX7_strike_18 (by decide) (fun c4 => ?_) (fun c4 => ?_)
  · have hf := it_pos c4 hf
    refine lv_iconst (v := nI 0) hx hb dX7_strike_31 ic0 ?_
    cases hf
    exact hret _ _ _ _ rfl hM dX7_strike_32
  · have hf := it_neg c4 hf
    refine lv_aload_n hx hb dX7_strike_21 rfl (lv_at hl 0 rfl) ?_
    refine mr_get B hM 14 (v := .ref (D.2.1 14)) rfl (by decide) q1660 dX7_strike_22 ?_
    refine lv_iload_n hx hb dX7_strike_25 rfl (lv_at hl 1 rfl) ?_
    obtain ⟨v5, ev5, hiv5, hf⟩ := ald_some hf
    refine mr_iald B hM 14 (by decide) rfl hiv5 ev5 dX7_strike_26 ?_
    refine lv_iconst (v := (-1)) hx hb dX7_strike_27 icm1 ?_
    refine lv_icmp_eq (tgt := 33) hx hb dX7_strike_28 (by decide) (fun c6 => ?_) (fun c6 => ?_)
    · have hf := it_pos c6 hf
      refine lv_aload_n hx hb dX7_strike_33 rfl (lv_at hl 0 rfl) ?_
      refine mr_get B hM 14 (v := .ref (D.2.1 14)) rfl (by decide) q1660 dX7_strike_34 ?_
      refine lv_iload_n hx hb dX7_strike_37 rfl (lv_at hl 1 rfl) ?_
      refine lv_aload_n hx hb dX7_strike_38 rfl (lv_at hl 0 rfl) ?_
      refine mr_get B hM 5 (v := .ref (D.2.1 5)) rfl (by decide) q1651 dX7_strike_39 ?_
      refine lv_iconst (v := nI 0) hx hb dX7_strike_42 ic0 ?_
      obtain ⟨v7, ev7, hiv7, hf⟩ := ald_some hf
      refine mr_iald B hM 5 (by decide) rfl hiv7 ev7 dX7_strike_43 ?_
      obtain ⟨S8, eS8, hiS8, hf⟩ := ast_some hf
      refine mr_iast B hM 14 (by decide) rfl hiS8 eS8 dX7_strike_44 (fun H locs hM => ?_)
      refine lv_iconst (v := nI 1) hx hb dX7_strike_45 ic1 ?_
      cases hf
      exact hret _ _ _ _ rfl hM dX7_strike_46
    · have hf := it_neg c6 hf
      refine lv_iconst (v := nI 0) hx hb dX7_strike_31 ic0 ?_
      cases hf
      exact hret _ _ _ _ rfl hM dX7_strike_32
def f_X7_day (S : MS) (p0 : Int32) : Option (Int32 × MS) :=
  bd (m_up S 0 0 (nI 0)) fun S1 => ald 4 (S1.1 5) (nI 0) fun v2 => bnd (f_X7_in p0 v2 (nI 999)) fun r3 => (if r3 = 0 then some (nI 0, S1) else ast 4 (nI 0) (m_up S1 5 (nI 0).toNatClampNeg p0) fun S5 => some (nI 1, S5))
abbrev r_X7_day : Room := { frames := 1, cells := 0, slots := 0, locals := 22 }
set_option maxHeartbeats 4000000 in
set_option maxRecDepth 100000 in
theorem c_X7_day (l : Launch) (D : MD) (S : MS) (p0 : Int32) {r : Int32} {S' : MS} (hf : f_X7_day S p0 = some (r, S')) : m_Met l yX7_day cX7_day 2 (Option.some Jvm.ClassFile.FieldType.boolean) r_X7_day D [.ref D.1, .int p0] S (some (.int r)) S' := by
  refine m_metI (F := 1) (L := 22) (by decide) rfl (Nat.le_of_ble_eq_true rfl) (fun p e s m args below meth c Q B hret hM ls hl => ?_)
  have hx := B.1
  have hb := B.2.1
  have hown := B.2.2.2.1
  have hts := B.2.2.2.2
  have hl : lv_has ls 2 [(0, .ref D.1), (1, .int p0)] := hl
  generalize s.heap = H, ([] : List Loc) = locs at hM ⊢
  unfold f_X7_day at hf
  refine lv_aload_n hx hb dX7_day_0 rfl (lv_at hl 0 rfl) ?_
  refine lv_iconst (v := nI 0) hx hb dX7_day_1 ic0 ?_
  obtain ⟨S1, eS1, hf⟩ := bd_some hf
  refine mr_puti B hM 0 (by decide) eS1 rfl (tyX7_ok 0 (by decide)) q1646 dX7_day_2 (fun H locs hM => ?_)
  refine lv_iload_n hx hb dX7_day_5 rfl (lv_at hl 1 rfl) ?_
  refine lv_aload_n hx hb dX7_day_6 rfl (lv_at hl 0 rfl) ?_
  refine mr_get B hM 5 (v := .ref (D.2.1 5)) rfl (by decide) q1651 dX7_day_7 ?_
  refine lv_iconst (v := nI 0) hx hb dX7_day_10 ic0 ?_
  obtain ⟨v2, ev2, hiv2, hf⟩ := ald_some hf
  refine mr_iald B hM 5 (by decide) rfl hiv2 ev2 dX7_day_11 ?_
  refine lv_sipush (v := nI 999) hx hb dX7_day_12 sp999 ?_
  obtain ⟨r3, hcr3, hf⟩ := bnd_some hf
  refine pr_callS (rest := []) B (c_X7_in l p0 v2 (nI 999) hcr3) (va_cwS 3 hts (lw_S q1841 q1842 q113 q1843) rfl rfl rfl hd_X7_in ⟨Nat.le_of_ble_eq_true rfl, Nat.le_of_ble_eq_true rfl⟩) rfl hl.1 rfl (Nat.le_of_ble_eq_true rfl) dX7_day_15 ⟨Nat.zero_le _, Nat.zero_le _⟩ ?_
  refine lv_if_ne (tgt := 23) hx hb dX7_day_18 (by decide) (fun c4 => ?_) (fun c4 => ?_)
  · have hf := it_neg c4 hf
    refine lv_aload_n hx hb dX7_day_23 rfl (lv_at hl 0 rfl) ?_
    refine mr_get B hM 5 (v := .ref (D.2.1 5)) rfl (by decide) q1651 dX7_day_24 ?_
    refine lv_iconst (v := nI 0) hx hb dX7_day_27 ic0 ?_
    refine lv_iload_n hx hb dX7_day_28 rfl (lv_at hl 1 rfl) ?_
    obtain ⟨S5, eS5, hiS5, hf⟩ := ast_some hf
    refine mr_iast B hM 5 (by decide) rfl hiS5 eS5 dX7_day_29 (fun H locs hM => ?_)
    refine lv_iconst (v := nI 1) hx hb dX7_day_30 ic1 ?_
    cases hf
    exact hret _ _ _ _ rfl hM dX7_day_31
  · have hf := it_pos c4 hf
    refine lv_iconst (v := nI 0) hx hb dX7_day_21 ic0 ?_
    cases hf
    exact hret _ _ _ _ rfl hM dX7_day_22
def f_X7_view (S : MS) (p0 : Int32) : Option (Int32 × MS) :=
  bd (m_up S 0 0 (nI 0)) fun S1 => ald 4 (S1.1 5) (nI 0) fun v2 => bnd (f_X7_in p0 (-1) v2) fun r3 => (if r3 = 0 then some (nI 0, S1) else ast 4 (nI 0) (m_up S1 6 (nI 0).toNatClampNeg p0) fun S5 => some (nI 1, S5))
abbrev r_X7_view : Room := { frames := 1, cells := 0, slots := 0, locals := 22 }
set_option maxHeartbeats 4000000 in
set_option maxRecDepth 100000 in
theorem c_X7_view (l : Launch) (D : MD) (S : MS) (p0 : Int32) {r : Int32} {S' : MS} (hf : f_X7_view S p0 = some (r, S')) : m_Met l yX7_view cX7_view 2 (Option.some Jvm.ClassFile.FieldType.boolean) r_X7_view D [.ref D.1, .int p0] S (some (.int r)) S' := by
  refine m_metI (F := 1) (L := 22) (by decide) rfl (Nat.le_of_ble_eq_true rfl) (fun p e s m args below meth c Q B hret hM ls hl => ?_)
  have hx := B.1
  have hb := B.2.1
  have hown := B.2.2.2.1
  have hts := B.2.2.2.2
  have hl : lv_has ls 2 [(0, .ref D.1), (1, .int p0)] := hl
  generalize s.heap = H, ([] : List Loc) = locs at hM ⊢
  unfold f_X7_view at hf
  refine lv_aload_n hx hb dX7_view_0 rfl (lv_at hl 0 rfl) ?_
  refine lv_iconst (v := nI 0) hx hb dX7_view_1 ic0 ?_
  obtain ⟨S1, eS1, hf⟩ := bd_some hf
  refine mr_puti B hM 0 (by decide) eS1 rfl (tyX7_ok 0 (by decide)) q1646 dX7_view_2 (fun H locs hM => ?_)
  refine lv_iload_n hx hb dX7_view_5 rfl (lv_at hl 1 rfl) ?_
  refine lv_iconst (v := (-1)) hx hb dX7_view_6 icm1 ?_
  refine lv_aload_n hx hb dX7_view_7 rfl (lv_at hl 0 rfl) ?_
  refine mr_get B hM 5 (v := .ref (D.2.1 5)) rfl (by decide) q1651 dX7_view_8 ?_
  refine lv_iconst (v := nI 0) hx hb dX7_view_11 ic0 ?_
  obtain ⟨v2, ev2, hiv2, hf⟩ := ald_some hf
  refine mr_iald B hM 5 (by decide) rfl hiv2 ev2 dX7_view_12 ?_
  obtain ⟨r3, hcr3, hf⟩ := bnd_some hf
  refine pr_callS (rest := []) B (c_X7_in l p0 (-1) v2 hcr3) (va_cwS 3 hts (lw_S q1841 q1842 q113 q1843) rfl rfl rfl hd_X7_in ⟨Nat.le_of_ble_eq_true rfl, Nat.le_of_ble_eq_true rfl⟩) rfl hl.1 rfl (Nat.le_of_ble_eq_true rfl) dX7_view_13 ⟨Nat.zero_le _, Nat.zero_le _⟩ ?_
  refine lv_if_ne (tgt := 21) hx hb dX7_view_16 (by decide) (fun c4 => ?_) (fun c4 => ?_)
  · have hf := it_neg c4 hf
    refine lv_aload_n hx hb dX7_view_21 rfl (lv_at hl 0 rfl) ?_
    refine mr_get B hM 6 (v := .ref (D.2.1 6)) rfl (by decide) q1652 dX7_view_22 ?_
    refine lv_iconst (v := nI 0) hx hb dX7_view_25 ic0 ?_
    refine lv_iload_n hx hb dX7_view_26 rfl (lv_at hl 1 rfl) ?_
    obtain ⟨S5, eS5, hiS5, hf⟩ := ast_some hf
    refine mr_iast B hM 6 (by decide) rfl hiS5 eS5 dX7_view_27 (fun H locs hM => ?_)
    refine lv_iconst (v := nI 1) hx hb dX7_view_28 ic1 ?_
    cases hf
    exact hret _ _ _ _ rfl hM dX7_view_29
  · have hf := it_pos c4 hf
    refine lv_iconst (v := nI 0) hx hb dX7_view_19 ic0 ?_
    cases hf
    exact hret _ _ _ _ rfl hM dX7_view_20
def f_X7_bringWorld_L6 (x2 : Int32) (S3 : MS) : Option ((Int32 × MS) ⊕ ((MS))) :=
  (if nI 36 ≤ x2 then some (.inr S3) else ald 144 (S3.1 11) x2 fun v5 => ast 36 x2 (m_up S3 28 x2.toNatClampNeg (vp_nar .boolean v5)) fun S6 => bd (x2 + nI 1) fun x7 => some (.inl (x7, S6)))
def f_X7_bringWorld (S : MS) : Option MS :=
  bnd (f_X7_bringSizes S) fun S1 => bnd (wO (fun t : Int32 × MS => f_X7_bringWorld_L6 t.1 t.2) fu (nI 0, S1)) <| fun S10 => some S10
abbrev r_X7_bringWorld : Room := { frames := 3, cells := 0, slots := 0, locals := 63 }
set_option maxHeartbeats 4000000 in
set_option maxRecDepth 100000 in
theorem c_X7_bringWorld (l : Launch) (D : MD) (S : MS)  {S' : MS} (hf : f_X7_bringWorld S = some S') : m_Met l yX7_bringWorld cX7_bringWorld 2 (Option.none : Option Jvm.ClassFile.FieldType) r_X7_bringWorld D [.ref D.1] S none S' := by
  refine m_metV (F := 3) (L := 63) (by decide) rfl (Nat.le_of_ble_eq_true rfl) (fun p e s m args below meth c Q B hret hM ls hl => ?_)
  have hx := B.1
  have hb := B.2.1
  have hown := B.2.2.2.1
  have hts := B.2.2.2.2
  have hl : lv_has ls 2 [(0, .ref D.1)] := hl
  generalize s.heap = H, ([] : List Loc) = locs at hM ⊢
  unfold f_X7_bringWorld at hf
  refine lv_aload_n hx hb dX7_bringWorld_0 rfl (lv_at hl 0 rfl) ?_
  obtain ⟨S1, hcS1, hf⟩ := bnd_some hf
  refine mr_callV (rest := []) B hM (c_X7_bringSizes l D S  hcS1) (cwV 0 hts (lw_V q1856 q1858 qs46 q113 q1859) rfl rfl rfl hd_X7_bringSizes ⟨Nat.le_of_ble_eq_true rfl, Nat.le_of_ble_eq_true rfl⟩) rfl hl.1 rfl (Nat.le_of_ble_eq_true rfl) dX7_bringWorld_1 ⟨Nat.zero_le _, Nat.zero_le _⟩ (fun H locs hM => ?_)
  refine lv_iconst (v := nI 0) hx hb dX7_bringWorld_4 ic0 ?_
  refine lv_istore_n (lv' := [(1, .int (nI 0)), (0, .ref D.1)]) hx hb dX7_bringWorld_5 rfl hl (by decide) rfl (fun ls hl => ?_)
  obtain ⟨y9, hxy9, hf⟩ := bnd_some hf
  have hy9 : (fun t : MS => ∀ (H : Heap) (locs : List Loc) (ls : Array Slot), m_I D s H locs t → lv_has ls 2 [] → W p l e r_X7_bringWorld s m args below meth c H locs 0 0 Q (F0 m 30 ls [])) y9 := by
    obtain ⟨S10, rfl⟩ : ∃ z, z = y9 := ⟨_, rfl⟩
    intro H locs ls hM hl
    cases hf
    exact hret _ _ _ _ hM dX7_bringWorld_30
  refine lp_W (step := (fun t : Int32 × MS => f_X7_bringWorld_L6 t.1 t.2)) (fun t : Int32 × MS => ∀ (H : Heap) (locs : List Loc) (ls : Array Slot), m_I D s H locs t.2 → lv_has ls 2 [(0, .ref D.1), (1, .int t.1)] → W p l e r_X7_bringWorld s m args below meth c H locs 0 0 Q (F0 m 6 ls [])) (fun t : MS => ∀ (H : Heap) (locs : List Loc) (ls : Array Slot), m_I D s H locs t → lv_has ls 2 [] → W p l e r_X7_bringWorld s m args below meth c H locs 0 0 Q (F0 m 30 ls [])) ?_ fu (nI 0, S1) y9 hxy9 hy9 _ _ _ hM (lv_sub hl [1, 0] rfl)
  clear hf hxy9 hy9
  rintro ⟨x2, S3⟩ o (hf : f_X7_bringWorld_L6 x2 S3 = some o) hk
  intro H locs ls hM hl
  unfold f_X7_bringWorld_L6 at hf
  refine lv_iload_n hx hb dX7_bringWorld_6 rfl (lv_at hl 1 rfl) ?_
  refine lv_bipush (v := nI 36) hx hb dX7_bringWorld_7 bp36 ?_
  refine lv_icmp_ge (tgt := 30) hx hb dX7_bringWorld_9 (by decide) (fun c4 => ?_) (fun c4 => ?_)
  · have hf := it_pos c4 hf
    cases hf
    exact hk _ _ _ hM (lv_sub hl [] rfl)
  · have hf := it_neg c4 hf
    refine lv_aload_n hx hb dX7_bringWorld_12 rfl (lv_at hl 0 rfl) ?_
    refine mr_get B hM 28 (v := .ref (D.2.1 28)) rfl (by decide) q1674 dX7_bringWorld_13 ?_
    refine lv_iload_n hx hb dX7_bringWorld_16 rfl (lv_at hl 1 rfl) ?_
    refine lv_aload_n hx hb dX7_bringWorld_17 rfl (lv_at hl 0 rfl) ?_
    refine mr_get B hM 11 (v := .ref (D.2.1 11)) rfl (by decide) q1657 dX7_bringWorld_18 ?_
    refine lv_iload_n hx hb dX7_bringWorld_21 rfl (lv_at hl 1 rfl) ?_
    obtain ⟨v5, ev5, hiv5, hf⟩ := ald_some hf
    refine mr_zald B hM 11 (by decide) rfl hiv5 ev5 dX7_bringWorld_22 ?_
    obtain ⟨S6, eS6, hiS6, hf⟩ := ast_some hf
    refine mr_zast B hM 28 (by decide) rfl hiS6 eS6 dX7_bringWorld_23 (fun H locs hM => ?_)
    obtain ⟨x7, ex7, hf⟩ := bd_some hf
    refine lv_iinc (v := x7) (lv' := [(1, .int x7), (0, .ref D.1)]) hx hb dX7_bringWorld_24 hl (k := 1) rfl (by rw [ex7]; first | done | rfl) (by decide) rfl (fun ls hl => ?_)
    refine lv_goto (tgt := 6) hx hb dX7_bringWorld_27 (by decide) ?_
    cases hf
    exact hk _ _ _ hM (lv_sub hl [1, 0] rfl)
def f_X7_unit (p0 : Int32) : Option Int32 :=
  (if p0 = 0 then some (nI 1) else (if p0 = nI 1 then some (nI 3) else (if p0 = nI 2 then some (nI 9) else some (nI 27))))
abbrev r_X7_unit : Room := { frames := 0, cells := 0, slots := 0, locals := 0 }
set_option maxHeartbeats 4000000 in
set_option maxRecDepth 100000 in
theorem c_X7_unit (l : Launch) (p0 : Int32) {r : Int32} (hf : f_X7_unit p0 = some r) : p_Met l yX7_unit cX7_unit 1 (Option.some Jvm.ClassFile.FieldType.int) r_X7_unit [.int p0] (some (.int r)) := by
  refine p_metI (F := 0) (L := 0) RX7 (by decide) rfl (Nat.le_of_ble_eq_true rfl) (fun p e s m args below meth c Q B hret ls hl => ?_)
  have hx := B.1
  have hb := B.2.1
  have hown := B.2.2.2.1
  have hts := B.2.2.2.2
  have hl : lv_has ls 1 [(0, .int p0)] := hl
  unfold f_X7_unit at hf
  refine lv_iload_n hx hb dX7_unit_0 rfl (lv_at hl 0 rfl) ?_
  refine lv_if_ne (tgt := 8) hx hb dX7_unit_1 (by decide) (fun c1 => ?_) (fun c1 => ?_)
  · have hf := it_neg c1 hf
    refine lv_iload_n hx hb dX7_unit_8 rfl (lv_at hl 0 rfl) ?_
    refine lv_iconst (v := nI 1) hx hb dX7_unit_9 ic1 ?_
    refine lv_icmp_ne (tgt := 17) hx hb dX7_unit_10 (by decide) (fun c2 => ?_) (fun c2 => ?_)
    · have hf := it_neg c2 hf
      refine lv_iload_n hx hb dX7_unit_17 rfl (lv_at hl 0 rfl) ?_
      refine lv_iconst (v := nI 2) hx hb dX7_unit_18 ic2 ?_
      refine lv_icmp_ne (tgt := 27) hx hb dX7_unit_19 (by decide) (fun c3 => ?_) (fun c3 => ?_)
      · have hf := it_neg c3 hf
        refine lv_bipush (v := nI 27) hx hb dX7_unit_27 bp27 ?_
        cases hf
        exact hret _ _ rfl dX7_unit_29
      · have hf := it_pos c3 hf
        refine lv_bipush (v := nI 9) hx hb dX7_unit_22 bp9 ?_
        refine lv_goto (tgt := 29) hx hb dX7_unit_24 (by decide) ?_
        cases hf
        exact hret _ _ rfl dX7_unit_29
    · have hf := it_pos c2 hf
      refine lv_iconst (v := nI 3) hx hb dX7_unit_13 ic3 ?_
      refine lv_goto (tgt := 29) hx hb dX7_unit_14 (by decide) ?_
      cases hf
      exact hret _ _ rfl dX7_unit_29
  · have hf := it_pos c1 hf
    refine lv_iconst (v := nI 1) hx hb dX7_unit_4 ic1 ?_
    refine lv_goto (tgt := 29) hx hb dX7_unit_5 (by decide) ?_
    cases hf
    exact hret _ _ rfl dX7_unit_29
def f_X7_bind_L61 (r2 : Int32) (v4 : Int32) (x5 : Int32) (x6 : Int32) (S7 : MS) (x11 : Int32) (x12 : Int32) : Option ((Int32 × Int32) ⊕ ((Int32))) :=
  (if v4 ≤ x12 then some (.inr x11) else ald 3321 (S7.1 45) ((x5 + x6) + (x12 * r2)) fun v14 => (if v14 = 0 then bd (x11 + nI 0) fun x16 => bd (x12 + nI 1) fun x17 => some (.inl (x16, x17)) else bd (x11 + nI 1) fun x18 => bd (x12 + nI 1) fun x19 => some (.inl (x18, x19))))
def f_X7_bind_L197 (r2 : Int32) (x5 : Int32) (x6 : Int32) (x36 : Int32) (x37 : Int32) (S38 : MS) : Option ((Int32 × MS) ⊕ ((MS))) :=
  (if nI 3 ≤ x37 then some (.inr S38) else ast 3321 ((x5 + x6) + (x37 * r2)) (m_up S38 45 ((x5 + x6) + (x37 * r2)).toNatClampNeg (vp_nar .boolean x36)) fun S40 => bd (x37 + nI 1) fun x41 => some (.inl (x41, S40)))
def f_X7_bind_J192_25 (r2 : Int32) (x5 : Int32) (x6 : Int32) (S7 : MS) (x36 : Int32) : Option ((Int32 × MS) ⊕ ((MS))) :=
  bnd (wO (fun t : Int32 × MS => f_X7_bind_L197 r2 x5 x6 x36 t.1 t.2) fu (nI 0, S7)) <| fun S44 => bd (x6 + nI 1) fun x45 => some (.inl (x45, S44))
def f_X7_bind_L36 (p0 : Int32) (r2 : Int32) (v4 : Int32) (x5 : Int32) (x6 : Int32) (S7 : MS) : Option ((Int32 × MS) ⊕ ((MS))) :=
  (if nI 81 ≤ x6 then some (.inr S7) else chk (¬ r2 = 0) <| (if ((x6 / r2) - (x6 / r2) / nI 3 * nI 3) ≤ 0 then bnd (wO (fun t : Int32 × Int32 => f_X7_bind_L61 r2 v4 x5 x6 S7 t.1 t.2) fu (nI 0, nI 0)) <| fun x22 => ald 1440 (S7.1 16) p0 fun v23 => (if v23 = 0 then (if x22 = v4 then f_X7_bind_J192_25 r2 x5 x6 S7 (nI 1) else f_X7_bind_J192_25 r2 x5 x6 S7 (nI 0)) else ald 1440 (S7.1 16) p0 fun v26 => (if v26 = nI 1 then (if x22 ≤ 0 then f_X7_bind_J192_25 r2 x5 x6 S7 (nI 0) else f_X7_bind_J192_25 r2 x5 x6 S7 (nI 1)) else ald 1440 (S7.1 16) p0 fun v28 => (if v28 = nI 2 then ald 1440 (S7.1 19) p0 fun v32 => (if x22 < v32 then f_X7_bind_J192_25 r2 x5 x6 S7 (nI 0) else f_X7_bind_J192_25 r2 x5 x6 S7 (nI 1)) else ald 1440 (S7.1 19) p0 fun v30 => (if v30 < x22 then f_X7_bind_J192_25 r2 x5 x6 S7 (nI 0) else f_X7_bind_J192_25 r2 x5 x6 S7 (nI 1))))) else bd (x6 + nI 1) fun x46 => some (.inl (x46, S7))))
def f_X7_bind (S : MS) (p0 : Int32) : Option MS :=
  ald 1440 (S.1 17) p0 fun v1 => bnd (f_X7_unit v1) fun r2 => ald 1440 (S.1 18) p0 fun v3 => ald 3 (S.1 26) v3 fun v4 => bd (nI 81 * ((S.1 46 0) - nI 1)) fun x5 => bnd (wO (fun t : Int32 × MS => f_X7_bind_L36 p0 r2 v4 x5 t.1 t.2) fu (nI 0, S)) <| fun S49 => some S49
abbrev r_X7_bind : Room := { frames := 1, cells := 0, slots := 0, locals := 20 }
set_option maxHeartbeats 4000000 in
set_option maxRecDepth 100000 in
theorem c_X7_bind (l : Launch) (D : MD) (S : MS) (p0 : Int32) {S' : MS} (hf : f_X7_bind S p0 = some S') : m_Met l yX7_bind cX7_bind 9 (Option.none : Option Jvm.ClassFile.FieldType) r_X7_bind D [.ref D.1, .int p0] S none S' := by
  refine m_metV (F := 1) (L := 20) (by decide) rfl (Nat.le_of_ble_eq_true rfl) (fun p e s m args below meth c Q B hret hM ls hl => ?_)
  have hx := B.1
  have hb := B.2.1
  have hown := B.2.2.2.1
  have hts := B.2.2.2.2
  have hl : lv_has ls 9 [(0, .ref D.1), (1, .int p0)] := hl
  generalize s.heap = H, ([] : List Loc) = locs at hM ⊢
  unfold f_X7_bind at hf
  refine lv_aload_n hx hb dX7_bind_0 rfl (lv_at hl 0 rfl) ?_
  refine mr_get B hM 17 (v := .ref (D.2.1 17)) rfl (by decide) q1663 dX7_bind_1 ?_
  refine lv_iload_n hx hb dX7_bind_4 rfl (lv_at hl 1 rfl) ?_
  obtain ⟨v1, ev1, hiv1, hf⟩ := ald_some hf
  refine mr_iald B hM 17 (by decide) rfl hiv1 ev1 dX7_bind_5 ?_
  obtain ⟨r2, hcr2, hf⟩ := bnd_some hf
  refine pr_callS (rest := []) B (c_X7_unit l v1 hcr2) (va_cwS 1 hts (lw_S q2097 q2098 q113 q2099) rfl rfl rfl hd_X7_unit ⟨Nat.le_of_ble_eq_true rfl, Nat.le_of_ble_eq_true rfl⟩) rfl hl.1 rfl (Nat.le_of_ble_eq_true rfl) dX7_bind_6 ⟨Nat.zero_le _, Nat.zero_le _⟩ ?_
  refine lv_istore_n (lv' := [(2, .int r2), (0, .ref D.1), (1, .int p0)]) hx hb dX7_bind_9 rfl hl (by decide) rfl (fun ls hl => ?_)
  refine lv_aload_n hx hb dX7_bind_10 rfl (lv_at hl 1 rfl) ?_
  refine mr_get B hM 26 (v := .ref (D.2.1 26)) rfl (by decide) q1672 dX7_bind_11 ?_
  refine lv_aload_n hx hb dX7_bind_14 rfl (lv_at hl 1 rfl) ?_
  refine mr_get B hM 18 (v := .ref (D.2.1 18)) rfl (by decide) q1664 dX7_bind_15 ?_
  refine lv_iload_n hx hb dX7_bind_18 rfl (lv_at hl 2 rfl) ?_
  obtain ⟨v3, ev3, hiv3, hf⟩ := ald_some hf
  refine mr_iald B hM 18 (by decide) rfl hiv3 ev3 dX7_bind_19 ?_
  obtain ⟨v4, ev4, hiv4, hf⟩ := ald_some hf
  refine mr_iald B hM 26 (by decide) rfl hiv4 ev4 dX7_bind_20 ?_
  refine lv_istore_n (lv' := [(3, .int v4), (2, .int r2), (0, .ref D.1), (1, .int p0)]) hx hb dX7_bind_21 rfl hl (by decide) rfl (fun ls hl => ?_)
  refine lv_bipush (v := nI 81) hx hb dX7_bind_22 bp81 ?_
  refine lv_aload_n hx hb dX7_bind_24 rfl (lv_at hl 2 rfl) ?_
  refine mr_get B hM 46 (v := .int (S.1 46 0)) rfl (by decide) q1692 dX7_bind_25 ?_
  refine lv_iconst (v := nI 1) hx hb dX7_bind_28 ic1 ?_
  refine lv_isub hx hb dX7_bind_29 ?_
  refine lv_imul hx hb dX7_bind_30 ?_
  refine lv_topi (fun x5 ex5 => ?_)
  have hf := bd_at ex5 hf
  refine lv_istore (lv' := [(4, .int x5), (3, .int v4), (2, .int r2), (0, .ref D.1), (1, .int p0)]) hx hb dX7_bind_31 hl (by decide) rfl (fun ls hl => ?_)
  refine lv_iconst (v := nI 0) hx hb dX7_bind_33 ic0 ?_
  refine lv_istore (lv' := [(5, .int (nI 0)), (4, .int x5), (3, .int v4), (2, .int r2), (0, .ref D.1), (1, .int p0)]) hx hb dX7_bind_34 hl (by decide) rfl (fun ls hl => ?_)
  obtain ⟨y48, hxy48, hf⟩ := bnd_some hf
  have hy48 : (fun t : MS => ∀ (H : Heap) (locs : List Loc) (ls : Array Slot), m_I D s H locs t → lv_has ls 9 [] → W p l e r_X7_bind s m args below meth c H locs 0 0 Q (F0 m 232 ls [])) y48 := by
    obtain ⟨S49, rfl⟩ : ∃ z, z = y48 := ⟨_, rfl⟩
    intro H locs ls hM hl
    cases hf
    exact hret _ _ _ _ hM dX7_bind_232
  refine lp_W (step := (fun t : Int32 × MS => f_X7_bind_L36 p0 r2 v4 x5 t.1 t.2)) (fun t : Int32 × MS => ∀ (H : Heap) (locs : List Loc) (ls : Array Slot), m_I D s H locs t.2 → lv_has ls 9 [(0, .ref D.1), (1, .int p0), (2, .int r2), (3, .int v4), (4, .int x5), (5, .int t.1)] → W p l e r_X7_bind s m args below meth c H locs 0 0 Q (F0 m 36 ls [])) (fun t : MS => ∀ (H : Heap) (locs : List Loc) (ls : Array Slot), m_I D s H locs t → lv_has ls 9 [] → W p l e r_X7_bind s m args below meth c H locs 0 0 Q (F0 m 232 ls [])) ?_ fu (nI 0, S) y48 hxy48 hy48 _ _ _ hM (lv_sub hl [4, 5, 3, 2, 1, 0] rfl)
  clear hf hxy48 hy48
  rintro ⟨x6, S7⟩ o (hf : f_X7_bind_L36 p0 r2 v4 x5 x6 S7 = some o) hk
  intro H locs ls hM hl
  unfold f_X7_bind_L36 at hf
  refine lv_iload hx hb dX7_bind_36 (lv_at hl 5 rfl) ?_
  refine lv_bipush (v := nI 81) hx hb dX7_bind_38 bp81 ?_
  refine lv_icmp_ge (tgt := 232) hx hb dX7_bind_40 (by decide) (fun c8 => ?_) (fun c8 => ?_)
  · have hf := it_pos c8 hf
    cases hf
    exact hk _ _ _ hM (lv_sub hl [] rfl)
  · have hf := it_neg c8 hf
    refine lv_iload hx hb dX7_bind_43 (lv_at hl 5 rfl) ?_
    refine lv_iload_n hx hb dX7_bind_45 rfl (lv_at hl 2 rfl) ?_
    obtain ⟨hz9, hf⟩ := chk_some hf
    refine lv_idiv hx hb dX7_bind_46 hz9 ?_
    refine lv_iconst (v := nI 3) hx hb dX7_bind_47 ic3 ?_
    refine lv_irem hx hb dX7_bind_48 (by decide) ?_
    refine lv_if_le (tgt := 55) hx hb dX7_bind_49 (by decide) (fun c10 => ?_) (fun c10 => ?_)
    · have hf := it_pos c10 hf
      refine lv_iconst (v := nI 0) hx hb dX7_bind_55 ic0 ?_
      refine lv_istore (lv' := [(6, .int (nI 0)), (0, .ref D.1), (1, .int p0), (2, .int r2), (3, .int v4), (4, .int x5), (5, .int x6)]) hx hb dX7_bind_56 hl (by decide) rfl (fun ls hl => ?_)
      refine lv_iconst (v := nI 0) hx hb dX7_bind_58 ic0 ?_
      refine lv_istore (lv' := [(7, .int (nI 0)), (6, .int (nI 0)), (0, .ref D.1), (1, .int p0), (2, .int r2), (3, .int v4), (4, .int x5), (5, .int x6)]) hx hb dX7_bind_59 hl (by decide) rfl (fun ls hl => ?_)
      obtain ⟨y21, hxy21, hf⟩ := bnd_some hf
      have hy21 : (fun t : Int32 => ∀ (H : Heap) (locs : List Loc) (ls : Array Slot), m_I D s H locs S7 → lv_has ls 9 [(0, .ref D.1), (1, .int p0), (2, .int r2), (3, .int v4), (4, .int x5), (5, .int x6), (6, .int t)] → W p l e r_X7_bind s m args below meth c H locs 0 0 Q (F0 m 101 ls [])) y21 := by
        obtain ⟨x22, rfl⟩ : ∃ z, z = y21 := ⟨_, rfl⟩
        intro H locs ls hM hl
        refine lv_aload_n hx hb dX7_bind_101 rfl (lv_at hl 0 rfl) ?_
        refine mr_get B hM 16 (v := .ref (D.2.1 16)) rfl (by decide) q1662 dX7_bind_102 ?_
        refine lv_iload_n hx hb dX7_bind_105 rfl (lv_at hl 1 rfl) ?_
        obtain ⟨v23, ev23, hiv23, hf⟩ := ald_some hf
        refine mr_iald B hM 16 (by decide) rfl hiv23 ev23 dX7_bind_106 ?_
        have j25 : ∀ (x36 : Int32), f_X7_bind_J192_25 r2 x5 x6 S7 x36 = some o → ∀ (H : Heap) (locs : List Loc) (ls : Array Slot), m_I D s H locs S7 → lv_has ls 9 [(0, .ref D.1), (1, .int p0), (2, .int r2), (3, .int v4), (4, .int x5), (5, .int x6)] → W p l e r_X7_bind s m args below meth c H locs 0 0 Q (F0 m 192 ls [.int x36]) := by
          intro x36 hf
          intro H locs ls hM hl
          unfold f_X7_bind_J192_25 at hf
          refine lv_istore (lv' := [(7, .int x36), (0, .ref D.1), (1, .int p0), (2, .int r2), (3, .int v4), (4, .int x5), (5, .int x6)]) hx hb dX7_bind_192 hl (by decide) rfl (fun ls hl => ?_)
          refine lv_iconst (v := nI 0) hx hb dX7_bind_194 ic0 ?_
          refine lv_istore (lv' := [(8, .int (nI 0)), (7, .int x36), (0, .ref D.1), (1, .int p0), (2, .int r2), (3, .int v4), (4, .int x5), (5, .int x6)]) hx hb dX7_bind_195 hl (by decide) rfl (fun ls hl => ?_)
          obtain ⟨y43, hxy43, hf⟩ := bnd_some hf
          have hy43 : (fun t : MS => ∀ (H : Heap) (locs : List Loc) (ls : Array Slot), m_I D s H locs t → lv_has ls 9 [(0, .ref D.1), (1, .int p0), (2, .int r2), (3, .int v4), (4, .int x5), (5, .int x6)] → W p l e r_X7_bind s m args below meth c H locs 0 0 Q (F0 m 226 ls [])) y43 := by
            obtain ⟨S44, rfl⟩ : ∃ z, z = y43 := ⟨_, rfl⟩
            intro H locs ls hM hl
            obtain ⟨x45, ex45, hf⟩ := bd_some hf
            refine lv_iinc (v := x45) (lv' := [(5, .int x45), (0, .ref D.1), (1, .int p0), (2, .int r2), (3, .int v4), (4, .int x5)]) hx hb dX7_bind_226 hl (k := 5) rfl (by rw [ex45]; first | done | rfl) (by decide) rfl (fun ls hl => ?_)
            refine lv_goto (tgt := 36) hx hb dX7_bind_229 (by decide) ?_
            cases hf
            exact hk _ _ _ hM (lv_sub hl [1, 2, 3, 4, 5, 0] rfl)
          refine lp_W (step := (fun t : Int32 × MS => f_X7_bind_L197 r2 x5 x6 x36 t.1 t.2)) (fun t : Int32 × MS => ∀ (H : Heap) (locs : List Loc) (ls : Array Slot), m_I D s H locs t.2 → lv_has ls 9 [(0, .ref D.1), (1, .int p0), (2, .int r2), (3, .int v4), (4, .int x5), (5, .int x6), (7, .int x36), (8, .int t.1)] → W p l e r_X7_bind s m args below meth c H locs 0 0 Q (F0 m 197 ls [])) (fun t : MS => ∀ (H : Heap) (locs : List Loc) (ls : Array Slot), m_I D s H locs t → lv_has ls 9 [(0, .ref D.1), (1, .int p0), (2, .int r2), (3, .int v4), (4, .int x5), (5, .int x6)] → W p l e r_X7_bind s m args below meth c H locs 0 0 Q (F0 m 226 ls [])) ?_ fu (nI 0, S7) y43 hxy43 hy43 _ _ _ hM (lv_sub hl [2, 3, 4, 5, 6, 7, 1, 0] rfl)
          clear hf hxy43 hy43
          rintro ⟨x37, S38⟩ o (hf : f_X7_bind_L197 r2 x5 x6 x36 x37 S38 = some o) hk
          intro H locs ls hM hl
          unfold f_X7_bind_L197 at hf
          refine lv_iload hx hb dX7_bind_197 (lv_at hl 7 rfl) ?_
          refine lv_iconst (v := nI 3) hx hb dX7_bind_199 ic3 ?_
          refine lv_icmp_ge (tgt := 226) hx hb dX7_bind_200 (by decide) (fun c39 => ?_) (fun c39 => ?_)
          · have hf := it_pos c39 hf
            cases hf
            exact hk _ _ _ hM (lv_sub hl [0, 1, 2, 3, 4, 5] rfl)
          · have hf := it_neg c39 hf
            refine lv_aload_n hx hb dX7_bind_203 rfl (lv_at hl 0 rfl) ?_
            refine mr_get B hM 45 (v := .ref (D.2.1 45)) rfl (by decide) q1691 dX7_bind_204 ?_
            refine lv_iload hx hb dX7_bind_207 (lv_at hl 4 rfl) ?_
            refine lv_iload hx hb dX7_bind_209 (lv_at hl 5 rfl) ?_
            refine lv_iadd hx hb dX7_bind_211 ?_
            refine lv_iload hx hb dX7_bind_212 (lv_at hl 7 rfl) ?_
            refine lv_iload_n hx hb dX7_bind_214 rfl (lv_at hl 2 rfl) ?_
            refine lv_imul hx hb dX7_bind_215 ?_
            refine lv_iadd hx hb dX7_bind_216 ?_
            refine lv_iload hx hb dX7_bind_217 (lv_at hl 6 rfl) ?_
            obtain ⟨S40, eS40, hiS40, hf⟩ := ast_some hf
            refine mr_zast B hM 45 (by decide) rfl hiS40 eS40 dX7_bind_219 (fun H locs hM => ?_)
            obtain ⟨x41, ex41, hf⟩ := bd_some hf
            refine lv_iinc (v := x41) (lv' := [(8, .int x41), (0, .ref D.1), (1, .int p0), (2, .int r2), (3, .int v4), (4, .int x5), (5, .int x6), (7, .int x36)]) hx hb dX7_bind_220 hl (k := 7) rfl (by rw [ex41]; first | done | rfl) (by decide) rfl (fun ls hl => ?_)
            refine lv_goto (tgt := 197) hx hb dX7_bind_223 (by decide) ?_
            cases hf
            exact hk _ _ _ hM (lv_sub hl [1, 2, 3, 4, 5, 6, 7, 0] rfl)
        refine lv_if_ne (tgt := 124) hx hb dX7_bind_107 (by decide) (fun c24 => ?_) (fun c24 => ?_)
        · have hf := it_neg c24 hf
          refine lv_aload_n hx hb dX7_bind_124 rfl (lv_at hl 0 rfl) ?_
          refine mr_get B hM 16 (v := .ref (D.2.1 16)) rfl (by decide) q1662 dX7_bind_125 ?_
          refine lv_iload_n hx hb dX7_bind_128 rfl (lv_at hl 1 rfl) ?_
          obtain ⟨v26, ev26, hiv26, hf⟩ := ald_some hf
          refine mr_iald B hM 16 (by decide) rfl hiv26 ev26 dX7_bind_129 ?_
          refine lv_iconst (v := nI 1) hx hb dX7_bind_130 ic1 ?_
          refine lv_icmp_ne (tgt := 147) hx hb dX7_bind_131 (by decide) (fun c27 => ?_) (fun c27 => ?_)
          · have hf := it_neg c27 hf
            refine lv_aload_n hx hb dX7_bind_147 rfl (lv_at hl 0 rfl) ?_
            refine mr_get B hM 16 (v := .ref (D.2.1 16)) rfl (by decide) q1662 dX7_bind_148 ?_
            refine lv_iload_n hx hb dX7_bind_151 rfl (lv_at hl 1 rfl) ?_
            obtain ⟨v28, ev28, hiv28, hf⟩ := ald_some hf
            refine mr_iald B hM 16 (by decide) rfl hiv28 ev28 dX7_bind_152 ?_
            refine lv_iconst (v := nI 2) hx hb dX7_bind_153 ic2 ?_
            refine lv_icmp_ne (tgt := 176) hx hb dX7_bind_154 (by decide) (fun c29 => ?_) (fun c29 => ?_)
            · have hf := it_neg c29 hf
              refine lv_iload hx hb dX7_bind_176 (lv_at hl 6 rfl) ?_
              refine lv_aload_n hx hb dX7_bind_178 rfl (lv_at hl 0 rfl) ?_
              refine mr_get B hM 19 (v := .ref (D.2.1 19)) rfl (by decide) q1665 dX7_bind_179 ?_
              refine lv_iload_n hx hb dX7_bind_182 rfl (lv_at hl 1 rfl) ?_
              obtain ⟨v30, ev30, hiv30, hf⟩ := ald_some hf
              refine mr_iald B hM 19 (by decide) rfl hiv30 ev30 dX7_bind_183 ?_
              refine lv_icmp_gt (tgt := 191) hx hb dX7_bind_184 (by decide) (fun c31 => ?_) (fun c31 => ?_)
              · have hf := it_pos c31 hf
                refine lv_iconst (v := nI 0) hx hb dX7_bind_191 ic0 ?_
                exact j25 (nI 0) hf _ _ _ hM (lv_sub hl [0, 1, 2, 3, 4, 5] rfl)
              · have hf := it_neg c31 hf
                refine lv_iconst (v := nI 1) hx hb dX7_bind_187 ic1 ?_
                refine lv_goto (tgt := 192) hx hb dX7_bind_188 (by decide) ?_
                exact j25 (nI 1) hf _ _ _ hM (lv_sub hl [0, 1, 2, 3, 4, 5] rfl)
            · have hf := it_pos c29 hf
              refine lv_iload hx hb dX7_bind_157 (lv_at hl 6 rfl) ?_
              refine lv_aload_n hx hb dX7_bind_159 rfl (lv_at hl 0 rfl) ?_
              refine mr_get B hM 19 (v := .ref (D.2.1 19)) rfl (by decide) q1665 dX7_bind_160 ?_
              refine lv_iload_n hx hb dX7_bind_163 rfl (lv_at hl 1 rfl) ?_
              obtain ⟨v32, ev32, hiv32, hf⟩ := ald_some hf
              refine mr_iald B hM 19 (by decide) rfl hiv32 ev32 dX7_bind_164 ?_
              refine lv_icmp_lt (tgt := 172) hx hb dX7_bind_165 (by decide) (fun c33 => ?_) (fun c33 => ?_)
              · have hf := it_pos c33 hf
                refine lv_iconst (v := nI 0) hx hb dX7_bind_172 ic0 ?_
                refine lv_goto (tgt := 192) hx hb dX7_bind_173 (by decide) ?_
                exact j25 (nI 0) hf _ _ _ hM (lv_sub hl [0, 1, 2, 3, 4, 5] rfl)
              · have hf := it_neg c33 hf
                refine lv_iconst (v := nI 1) hx hb dX7_bind_168 ic1 ?_
                refine lv_goto (tgt := 192) hx hb dX7_bind_169 (by decide) ?_
                exact j25 (nI 1) hf _ _ _ hM (lv_sub hl [0, 1, 2, 3, 4, 5] rfl)
          · have hf := it_pos c27 hf
            refine lv_iload hx hb dX7_bind_134 (lv_at hl 6 rfl) ?_
            refine lv_if_le (tgt := 143) hx hb dX7_bind_136 (by decide) (fun c34 => ?_) (fun c34 => ?_)
            · have hf := it_pos c34 hf
              refine lv_iconst (v := nI 0) hx hb dX7_bind_143 ic0 ?_
              refine lv_goto (tgt := 192) hx hb dX7_bind_144 (by decide) ?_
              exact j25 (nI 0) hf _ _ _ hM (lv_sub hl [0, 1, 2, 3, 4, 5] rfl)
            · have hf := it_neg c34 hf
              refine lv_iconst (v := nI 1) hx hb dX7_bind_139 ic1 ?_
              refine lv_goto (tgt := 192) hx hb dX7_bind_140 (by decide) ?_
              exact j25 (nI 1) hf _ _ _ hM (lv_sub hl [0, 1, 2, 3, 4, 5] rfl)
        · have hf := it_pos c24 hf
          refine lv_iload hx hb dX7_bind_110 (lv_at hl 6 rfl) ?_
          refine lv_iload_n hx hb dX7_bind_112 rfl (lv_at hl 3 rfl) ?_
          refine lv_icmp_ne (tgt := 120) hx hb dX7_bind_113 (by decide) (fun c35 => ?_) (fun c35 => ?_)
          · have hf := it_neg c35 hf
            refine lv_iconst (v := nI 0) hx hb dX7_bind_120 ic0 ?_
            refine lv_goto (tgt := 192) hx hb dX7_bind_121 (by decide) ?_
            exact j25 (nI 0) hf _ _ _ hM (lv_sub hl [0, 1, 2, 3, 4, 5] rfl)
          · have hf := it_pos c35 hf
            refine lv_iconst (v := nI 1) hx hb dX7_bind_116 ic1 ?_
            refine lv_goto (tgt := 192) hx hb dX7_bind_117 (by decide) ?_
            exact j25 (nI 1) hf _ _ _ hM (lv_sub hl [0, 1, 2, 3, 4, 5] rfl)
      refine lp_W (step := (fun t : Int32 × Int32 => f_X7_bind_L61 r2 v4 x5 x6 S7 t.1 t.2)) (fun t : Int32 × Int32 => ∀ (H : Heap) (locs : List Loc) (ls : Array Slot), m_I D s H locs S7 → lv_has ls 9 [(0, .ref D.1), (1, .int p0), (2, .int r2), (3, .int v4), (4, .int x5), (5, .int x6), (6, .int t.1), (7, .int t.2)] → W p l e r_X7_bind s m args below meth c H locs 0 0 Q (F0 m 61 ls [])) (fun t : Int32 => ∀ (H : Heap) (locs : List Loc) (ls : Array Slot), m_I D s H locs S7 → lv_has ls 9 [(0, .ref D.1), (1, .int p0), (2, .int r2), (3, .int v4), (4, .int x5), (5, .int x6), (6, .int t)] → W p l e r_X7_bind s m args below meth c H locs 0 0 Q (F0 m 101 ls [])) ?_ fu (nI 0, nI 0) y21 hxy21 hy21 _ _ _ hM (lv_sub hl [2, 3, 4, 5, 6, 7, 1, 0] rfl)
      clear hf hxy21 hy21
      rintro ⟨x11, x12⟩ o (hf : f_X7_bind_L61 r2 v4 x5 x6 S7 x11 x12 = some o) hk
      intro H locs ls hM hl
      unfold f_X7_bind_L61 at hf
      refine lv_iload hx hb dX7_bind_61 (lv_at hl 7 rfl) ?_
      refine lv_iload_n hx hb dX7_bind_63 rfl (lv_at hl 3 rfl) ?_
      refine lv_icmp_ge (tgt := 101) hx hb dX7_bind_64 (by decide) (fun c13 => ?_) (fun c13 => ?_)
      · have hf := it_pos c13 hf
        cases hf
        exact hk _ _ _ hM (lv_sub hl [0, 1, 2, 3, 4, 5, 6] rfl)
      · have hf := it_neg c13 hf
        refine lv_iload hx hb dX7_bind_67 (lv_at hl 6 rfl) ?_
        refine lv_aload_n hx hb dX7_bind_69 rfl (lv_at hl 0 rfl) ?_
        refine mr_get B hM 45 (v := .ref (D.2.1 45)) rfl (by decide) q1691 dX7_bind_70 ?_
        refine lv_iload hx hb dX7_bind_73 (lv_at hl 4 rfl) ?_
        refine lv_iload hx hb dX7_bind_75 (lv_at hl 5 rfl) ?_
        refine lv_iadd hx hb dX7_bind_77 ?_
        refine lv_iload hx hb dX7_bind_78 (lv_at hl 7 rfl) ?_
        refine lv_iload_n hx hb dX7_bind_80 rfl (lv_at hl 2 rfl) ?_
        refine lv_imul hx hb dX7_bind_81 ?_
        refine lv_iadd hx hb dX7_bind_82 ?_
        obtain ⟨v14, ev14, hiv14, hf⟩ := ald_some hf
        refine mr_zald B hM 45 (by decide) rfl hiv14 ev14 dX7_bind_83 ?_
        refine lv_if_eq (tgt := 91) hx hb dX7_bind_84 (by decide) (fun c15 => ?_) (fun c15 => ?_)
        · have hf := it_pos c15 hf
          refine lv_iconst (v := nI 0) hx hb dX7_bind_91 ic0 ?_
          refine lv_iadd hx hb dX7_bind_92 ?_
          refine lv_topi (fun x16 ex16 => ?_)
          have hf := bd_at ex16 hf
          refine lv_istore (lv' := [(6, .int x16), (0, .ref D.1), (1, .int p0), (2, .int r2), (3, .int v4), (4, .int x5), (5, .int x6), (7, .int x12)]) hx hb dX7_bind_93 hl (by decide) rfl (fun ls hl => ?_)
          obtain ⟨x17, ex17, hf⟩ := bd_some hf
          refine lv_iinc (v := x17) (lv' := [(7, .int x17), (6, .int x16), (0, .ref D.1), (1, .int p0), (2, .int r2), (3, .int v4), (4, .int x5), (5, .int x6)]) hx hb dX7_bind_95 hl (k := 7) rfl (by rw [ex17]; first | done | rfl) (by decide) rfl (fun ls hl => ?_)
          refine lv_goto (tgt := 61) hx hb dX7_bind_98 (by decide) ?_
          cases hf
          exact hk _ _ _ hM (lv_sub hl [2, 3, 4, 5, 6, 7, 1, 0] rfl)
        · have hf := it_neg c15 hf
          refine lv_iconst (v := nI 1) hx hb dX7_bind_87 ic1 ?_
          refine lv_goto (tgt := 92) hx hb dX7_bind_88 (by decide) ?_
          refine lv_iadd hx hb dX7_bind_92 ?_
          refine lv_topi (fun x18 ex18 => ?_)
          have hf := bd_at ex18 hf
          refine lv_istore (lv' := [(6, .int x18), (0, .ref D.1), (1, .int p0), (2, .int r2), (3, .int v4), (4, .int x5), (5, .int x6), (7, .int x12)]) hx hb dX7_bind_93 hl (by decide) rfl (fun ls hl => ?_)
          obtain ⟨x19, ex19, hf⟩ := bd_some hf
          refine lv_iinc (v := x19) (lv' := [(7, .int x19), (6, .int x18), (0, .ref D.1), (1, .int p0), (2, .int r2), (3, .int v4), (4, .int x5), (5, .int x6)]) hx hb dX7_bind_95 hl (k := 7) rfl (by rw [ex19]; first | done | rfl) (by decide) rfl (fun ls hl => ?_)
          refine lv_goto (tgt := 61) hx hb dX7_bind_98 (by decide) ?_
          cases hf
          exact hk _ _ _ hM (lv_sub hl [2, 3, 4, 5, 6, 7, 1, 0] rfl)
    · have hf := it_neg c10 hf
      refine lv_goto (tgt := 226) hx hb dX7_bind_52 (by decide) ?_
      obtain ⟨x46, ex46, hf⟩ := bd_some hf
      refine lv_iinc (v := x46) (lv' := [(5, .int x46), (0, .ref D.1), (1, .int p0), (2, .int r2), (3, .int v4), (4, .int x5)]) hx hb dX7_bind_226 hl (k := 5) rfl (by rw [ex46]; first | done | rfl) (by decide) rfl (fun ls hl => ?_)
      refine lv_goto (tgt := 36) hx hb dX7_bind_229 (by decide) ?_
      cases hf
      exact hk _ _ _ hM (lv_sub hl [1, 2, 3, 4, 5, 0] rfl)
