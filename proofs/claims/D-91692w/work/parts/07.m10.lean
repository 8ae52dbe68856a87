set_option maxRecDepth 100000
def f_X7_settle_J97_18 (x11 : Int32) (x12 : Int32) (x13 : Int32) (x21 : Int32) : Option ((Int32 × Int32 × Int32) ⊕ ((Int32 × Int32))) :=
  (if x11 = (-1) then bd (x13 + nI 1) fun x23 => some (.inl (x13, x21, x23)) else (if x12 ≤ x21 then bd (x13 + nI 1) fun x25 => some (.inl (x11, x12, x25)) else bd (x13 + nI 1) fun x26 => some (.inl (x13, x21, x26))))
def f_X7_settle_L50 (S9 : MS) (x11 : Int32) (x12 : Int32) (x13 : Int32) : Option ((Int32 × Int32 × Int32) ⊕ ((Int32 × Int32))) :=
  bnd (f_X7_manyFacts S9) fun r14 => (if r14 ≤ x13 then some (.inr (x11, x12)) else ald 12 (S9.1 56) x13 fun v16 => (if (nI 2 * v16) ≤ (S9.1 57 0) then ald 12 (S9.1 56) x13 fun v19 => f_X7_settle_J97_18 x11 x12 x13 ((S9.1 57 0) - v19) else ald 12 (S9.1 56) x13 fun v20 => f_X7_settle_J97_18 x11 x12 x13 v20))
def f_X7_settle_L125 (S9 : MS) (x29 : Int32) (x31 : Int32) : Option ((Int32) ⊕ ((Int32))) :=
  ald 5 (S9.1 27) (x31 + nI 1) fun v32 => (if x29 < v32 then some (.inr x31) else bd (x31 + nI 1) fun x34 => some (.inl x34))
def f_X7_settle (S : MS) (p0 : Int32) : Option (Int32 × MS) :=
  bd (m_up S 0 0 (nI 0)) fun S1 => bnd (f_X7_canTell S1) <| u2 fun r2 S3 => (if r2 = 0 then some ((-1), S3) else bnd (f_X7_manyFacts S3) fun r5 => (if r5 = 0 then some ((-1), S3) else bnd (f_X7_in p0 (nI 0) (nI 3)) fun r7 => (if r7 = 0 then some ((-1), S3) else bnd (f_X7_countFacts S3) fun S9 => (if (S9.1 57 0) = 0 then some ((-1), S9) else bnd (wO (fun t : Int32 × Int32 × Int32 => f_X7_settle_L50 S9 t.1 t.2.1 t.2.2) fu ((-1), nI 0, nI 0)) <| u2 fun x29 x30 => bnd (wO (fun t : Int32 => f_X7_settle_L125 S9 x29 t) fu (nI 0)) <| fun x37 => ald 16 (S9.1 10) x37 fun v38 => bnd (f_X7_sizeOf S9 v38) fun r39 => (if p0 = 0 then some (x37, S9) else (if p0 = nI 1 then ald 5 (S9.1 27) x37 fun v47 => chk (¬ r39 = 0) <| some (((x29 - v47) / r39), S9) else (if p0 = nI 3 then some (x30, S9) else ald 16 (S9.1 10) x37 fun v43 => (if v43 = (-1) then some ((-1), S9) else ald 5 (S9.1 27) x37 fun v45 => chk (¬ r39 = 0) <| some (((x29 - v45) - (x29 - v45) / r39 * r39), S9)))))))))
abbrev r_X7_settle : Room := { frames := 10, cells := 0, slots := 0, locals := 232 }
set_option maxHeartbeats 4000000 in
set_option maxRecDepth 100000 in
theorem c_X7_settle (l : Launch) (D : MD) (S : MS) (p0 : Int32) {r : Int32} {S' : MS} (hf : f_X7_settle S p0 = some (r, S')) : m_Met l yX7_settle cX7_settle 6 (Option.some Jvm.ClassFile.FieldType.int) r_X7_settle D [.ref D.1, .int p0] S (some (.int r)) S' := by
  refine m_metI (F := 10) (L := 232) (by decide) rfl (Nat.le_of_ble_eq_true rfl) (fun p e s m args below meth c Q B hret hM ls hl => ?_)
  have hx := B.1
  have hb := B.2.1
  have hown := B.2.2.2.1
  have hts := B.2.2.2.2
  have hl : lv_has ls 6 [(0, .ref D.1), (1, .int p0)] := hl
  generalize s.heap = H, ([] : List Loc) = locs at hM ⊢
  unfold f_X7_settle at hf
  refine lv_aload_n hx hb dX7_settle_0 rfl (lv_at hl 0 rfl) ?_
  refine lv_iconst (v := nI 0) hx hb dX7_settle_1 ic0 ?_
  obtain ⟨S1, eS1, hf⟩ := bd_some hf
  refine mr_puti B hM 0 (by decide) eS1 rfl (tyX7_ok 0 (by decide)) q1646 dX7_settle_2 (fun H locs hM => ?_)
  refine lv_aload_n hx hb dX7_settle_5 rfl (lv_at hl 0 rfl) ?_
  obtain ⟨⟨r2, S3⟩, hcr2, hf⟩ := bnd_some hf
  have hf := u2_at hf
  refine mr_callV (rest := []) B hM (c_X7_canTell l D S1  hcr2) (cwV 0 hts (lw_V q1904 q1906 qs53 q113 q1907) rfl rfl rfl hd_X7_canTell ⟨Nat.le_of_ble_eq_true rfl, Nat.le_of_ble_eq_true rfl⟩) rfl hl.1 rfl (Nat.le_of_ble_eq_true rfl) dX7_settle_6 ⟨Nat.zero_le _, Nat.zero_le _⟩ (fun H locs hM => ?_)
  refine lv_if_eq (tgt := 28) hx hb dX7_settle_9 (by decide) (fun c4 => ?_) (fun c4 => ?_)
  · have hf := it_pos c4 hf
    refine lv_iconst (v := (-1)) hx hb dX7_settle_28 icm1 ?_
    cases hf
    exact hret _ _ _ _ rfl hM dX7_settle_29
  · have hf := it_neg c4 hf
    refine lv_aload_n hx hb dX7_settle_12 rfl (lv_at hl 0 rfl) ?_
    obtain ⟨r5, hcr5, hf⟩ := bnd_some hf
    refine mr_callV (rest := []) B hM (c_X7_manyFacts l D S3  hcr5) (cwV 0 hts (lw_V q1868 q1870 qs49 q113 q1871) rfl rfl rfl hd_X7_manyFacts ⟨Nat.le_of_ble_eq_true rfl, Nat.le_of_ble_eq_true rfl⟩) rfl hl.1 rfl (Nat.le_of_ble_eq_true rfl) dX7_settle_13 ⟨Nat.zero_le _, Nat.zero_le _⟩ (fun H locs hM => ?_)
    refine lv_if_eq (tgt := 28) hx hb dX7_settle_16 (by decide) (fun c6 => ?_) (fun c6 => ?_)
    · have hf := it_pos c6 hf
      refine lv_iconst (v := (-1)) hx hb dX7_settle_28 icm1 ?_
      cases hf
      exact hret _ _ _ _ rfl hM dX7_settle_29
    · have hf := it_neg c6 hf
      refine lv_iload_n hx hb dX7_settle_19 rfl (lv_at hl 1 rfl) ?_
      refine lv_iconst (v := nI 0) hx hb dX7_settle_20 ic0 ?_
      refine lv_iconst (v := nI 3) hx hb dX7_settle_21 ic3 ?_
      obtain ⟨r7, hcr7, hf⟩ := bnd_some hf
      refine pr_callS (rest := []) B (c_X7_in l p0 (nI 0) (nI 3) hcr7) (va_cwS 3 hts (lw_S q1841 q1842 q113 q1843) rfl rfl rfl hd_X7_in ⟨Nat.le_of_ble_eq_true rfl, Nat.le_of_ble_eq_true rfl⟩) rfl hl.1 rfl (Nat.le_of_ble_eq_true rfl) dX7_settle_22 ⟨Nat.zero_le _, Nat.zero_le _⟩ ?_
      refine lv_if_ne (tgt := 30) hx hb dX7_settle_25 (by decide) (fun c8 => ?_) (fun c8 => ?_)
      · have hf := it_neg c8 hf
        refine lv_aload_n hx hb dX7_settle_30 rfl (lv_at hl 0 rfl) ?_
        obtain ⟨S9, hcS9, hf⟩ := bnd_some hf
        refine mr_callV (rest := []) B hM (c_X7_countFacts l D S3  hcS9) (cwV 0 hts (lw_V q2198 q2200 qs98 q113 q2201) rfl rfl rfl hd_X7_countFacts ⟨Nat.le_of_ble_eq_true rfl, Nat.le_of_ble_eq_true rfl⟩) rfl hl.1 rfl (Nat.le_of_ble_eq_true rfl) dX7_settle_31 ⟨Nat.zero_le _, Nat.zero_le _⟩ (fun H locs hM => ?_)
        refine lv_aload_n hx hb dX7_settle_34 rfl (lv_at hl 0 rfl) ?_
        refine mr_get B hM 57 (v := .int (S9.1 57 0)) rfl (by decide) q1703 dX7_settle_35 ?_
        refine lv_if_ne (tgt := 43) hx hb dX7_settle_38 (by decide) (fun c10 => ?_) (fun c10 => ?_)
        · have hf := it_neg c10 hf
          refine lv_iconst (v := (-1)) hx hb dX7_settle_43 icm1 ?_
          refine lv_istore_n (lv' := [(2, .int (-1)), (0, .ref D.1), (1, .int p0)]) hx hb dX7_settle_44 rfl hl (by decide) rfl (fun ls hl => ?_)
          refine lv_iconst (v := nI 0) hx hb dX7_settle_45 ic0 ?_
          refine lv_istore_n (lv' := [(3, .int (nI 0)), (2, .int (-1)), (0, .ref D.1), (1, .int p0)]) hx hb dX7_settle_46 rfl hl (by decide) rfl (fun ls hl => ?_)
          refine lv_iconst (v := nI 0) hx hb dX7_settle_47 ic0 ?_
          refine lv_istore (lv' := [(4, .int (nI 0)), (3, .int (nI 0)), (2, .int (-1)), (0, .ref D.1), (1, .int p0)]) hx hb dX7_settle_48 hl (by decide) rfl (fun ls hl => ?_)
          obtain ⟨y28, hxy28, hf⟩ := bnd_some hf
          have hy28 : (fun t : Int32 × Int32 => ∀ (H : Heap) (locs : List Loc) (ls : Array Slot), m_I D s H locs S9 → lv_has ls 6 [(0, .ref D.1), (1, .int p0), (2, .int t.1), (3, .int t.2)] → W p l e r_X7_settle s m args below meth c H locs 0 0 Q (F0 m 122 ls [])) y28 := by
            rcases y28 with ⟨x29, x30⟩
            have hf := u2_at hf
            intro H locs ls hM hl
            refine lv_iconst (v := nI 0) hx hb dX7_settle_122 ic0 ?_
            refine lv_istore (lv' := [(4, .int (nI 0)), (0, .ref D.1), (1, .int p0), (2, .int x29), (3, .int x30)]) hx hb dX7_settle_123 hl (by decide) rfl (fun ls hl => ?_)
            obtain ⟨y36, hxy36, hf⟩ := bnd_some hf
            have hy36 : (fun t : Int32 => ∀ (H : Heap) (locs : List Loc) (ls : Array Slot), m_I D s H locs S9 → lv_has ls 6 [(0, .ref D.1), (1, .int p0), (2, .int x29), (3, .int x30), (4, .int t)] → W p l e r_X7_settle s m args below meth c H locs 0 0 Q (F0 m 144 ls [])) y36 := by
              obtain ⟨x37, rfl⟩ : ∃ z, z = y36 := ⟨_, rfl⟩
              intro H locs ls hM hl
              refine lv_aload_n hx hb dX7_settle_144 rfl (lv_at hl 0 rfl) ?_
              refine lv_aload_n hx hb dX7_settle_145 rfl (lv_at hl 0 rfl) ?_
              refine mr_get B hM 10 (v := .ref (D.2.1 10)) rfl (by decide) q1656 dX7_settle_146 ?_
              refine lv_iload hx hb dX7_settle_149 (lv_at hl 4 rfl) ?_
              obtain ⟨v38, ev38, hiv38, hf⟩ := ald_some hf
              refine mr_iald B hM 10 (by decide) rfl hiv38 ev38 dX7_settle_151 ?_
              obtain ⟨r39, hcr39, hf⟩ := bnd_some hf
              refine mr_callV (rest := []) B hM (c_X7_sizeOf l D S9 v38 hcr39) (cwV 1 hts (lw_V q1864 q1866 qs48 q113 q1867) rfl rfl rfl hd_X7_sizeOf ⟨Nat.le_of_ble_eq_true rfl, Nat.le_of_ble_eq_true rfl⟩) rfl hl.1 rfl (Nat.le_of_ble_eq_true rfl) dX7_settle_152 ⟨Nat.zero_le _, Nat.zero_le _⟩ (fun H locs hM => ?_)
              refine lv_istore (lv' := [(5, .int r39), (0, .ref D.1), (1, .int p0), (2, .int x29), (3, .int x30), (4, .int x37)]) hx hb dX7_settle_155 hl (by decide) rfl (fun ls hl => ?_)
              refine lv_iload_n hx hb dX7_settle_157 rfl (lv_at hl 2 rfl) ?_
              refine lv_if_ne (tgt := 166) hx hb dX7_settle_158 (by decide) (fun c40 => ?_) (fun c40 => ?_)
              · have hf := it_neg c40 hf
                refine lv_iload_n hx hb dX7_settle_166 rfl (lv_at hl 2 rfl) ?_
                refine lv_iconst (v := nI 1) hx hb dX7_settle_167 ic1 ?_
                refine lv_icmp_ne (tgt := 186) hx hb dX7_settle_168 (by decide) (fun c41 => ?_) (fun c41 => ?_)
                · have hf := it_neg c41 hf
                  refine lv_iload_n hx hb dX7_settle_186 rfl (lv_at hl 2 rfl) ?_
                  refine lv_iconst (v := nI 3) hx hb dX7_settle_187 ic3 ?_
                  refine lv_icmp_ne (tgt := 195) hx hb dX7_settle_188 (by decide) (fun c42 => ?_) (fun c42 => ?_)
                  · have hf := it_neg c42 hf
                    refine lv_aload_n hx hb dX7_settle_195 rfl (lv_at hl 1 rfl) ?_
                    refine mr_get B hM 10 (v := .ref (D.2.1 10)) rfl (by decide) q1656 dX7_settle_196 ?_
                    refine lv_iload hx hb dX7_settle_199 (lv_at hl 5 rfl) ?_
                    obtain ⟨v43, ev43, hiv43, hf⟩ := ald_some hf
                    refine mr_iald B hM 10 (by decide) rfl hiv43 ev43 dX7_settle_201 ?_
                    refine lv_iconst (v := (-1)) hx hb dX7_settle_202 icm1 ?_
                    refine lv_icmp_ne (tgt := 210) hx hb dX7_settle_203 (by decide) (fun c44 => ?_) (fun c44 => ?_)
                    · have hf := it_neg c44 hf
                      refine lv_iload_n hx hb dX7_settle_210 rfl (lv_at hl 3 rfl) ?_
                      refine lv_aload_n hx hb dX7_settle_211 rfl (lv_at hl 1 rfl) ?_
                      refine mr_get B hM 27 (v := .ref (D.2.1 27)) rfl (by decide) q1673 dX7_settle_212 ?_
                      refine lv_iload hx hb dX7_settle_215 (lv_at hl 5 rfl) ?_
                      obtain ⟨v45, ev45, hiv45, hf⟩ := ald_some hf
                      refine mr_iald B hM 27 (by decide) rfl hiv45 ev45 dX7_settle_217 ?_
                      refine lv_isub hx hb dX7_settle_218 ?_
                      refine lv_iload hx hb dX7_settle_219 (lv_at hl 0 rfl) ?_
                      obtain ⟨hz46, hf⟩ := chk_some hf
                      refine lv_irem hx hb dX7_settle_221 hz46 ?_
                      cases hf
                      exact hret _ _ _ _ rfl hM dX7_settle_222
                    · have hf := it_pos c44 hf
                      refine lv_iconst (v := (-1)) hx hb dX7_settle_206 icm1 ?_
                      refine lv_goto (tgt := 222) hx hb dX7_settle_207 (by decide) ?_
                      cases hf
                      exact hret _ _ _ _ rfl hM dX7_settle_222
                  · have hf := it_pos c42 hf
                    refine lv_iload_n hx hb dX7_settle_191 rfl (lv_at hl 4 rfl) ?_
                    refine lv_goto (tgt := 222) hx hb dX7_settle_192 (by decide) ?_
                    cases hf
                    exact hret _ _ _ _ rfl hM dX7_settle_222
                · have hf := it_pos c41 hf
                  refine lv_iload_n hx hb dX7_settle_171 rfl (lv_at hl 3 rfl) ?_
                  refine lv_aload_n hx hb dX7_settle_172 rfl (lv_at hl 1 rfl) ?_
                  refine mr_get B hM 27 (v := .ref (D.2.1 27)) rfl (by decide) q1673 dX7_settle_173 ?_
                  refine lv_iload hx hb dX7_settle_176 (lv_at hl 5 rfl) ?_
                  obtain ⟨v47, ev47, hiv47, hf⟩ := ald_some hf
                  refine mr_iald B hM 27 (by decide) rfl hiv47 ev47 dX7_settle_178 ?_
                  refine lv_isub hx hb dX7_settle_179 ?_
                  refine lv_iload hx hb dX7_settle_180 (lv_at hl 0 rfl) ?_
                  obtain ⟨hz48, hf⟩ := chk_some hf
                  refine lv_idiv hx hb dX7_settle_182 hz48 ?_
                  refine lv_goto (tgt := 222) hx hb dX7_settle_183 (by decide) ?_
                  cases hf
                  exact hret _ _ _ _ rfl hM dX7_settle_222
              · have hf := it_pos c40 hf
                refine lv_iload hx hb dX7_settle_161 (lv_at hl 5 rfl) ?_
                refine lv_goto (tgt := 222) hx hb dX7_settle_163 (by decide) ?_
                cases hf
                exact hret _ _ _ _ rfl hM dX7_settle_222
            refine lp_W (step := (fun t : Int32 => f_X7_settle_L125 S9 x29 t)) (fun t : Int32 => ∀ (H : Heap) (locs : List Loc) (ls : Array Slot), m_I D s H locs S9 → lv_has ls 6 [(0, .ref D.1), (1, .int p0), (2, .int x29), (3, .int x30), (4, .int t)] → W p l e r_X7_settle s m args below meth c H locs 0 0 Q (F0 m 125 ls [])) (fun t : Int32 => ∀ (H : Heap) (locs : List Loc) (ls : Array Slot), m_I D s H locs S9 → lv_has ls 6 [(0, .ref D.1), (1, .int p0), (2, .int x29), (3, .int x30), (4, .int t)] → W p l e r_X7_settle s m args below meth c H locs 0 0 Q (F0 m 144 ls [])) ?_ fu (nI 0) y36 hxy36 hy36 _ _ _ hM (lv_sub hl [1, 2, 3, 4, 0] rfl)
            clear hf hxy36 hy36
            rintro x31 o (hf : f_X7_settle_L125 S9 x29 x31 = some o) hk
            intro H locs ls hM hl
            unfold f_X7_settle_L125 at hf
            refine lv_aload_n hx hb dX7_settle_125 rfl (lv_at hl 0 rfl) ?_
            refine mr_get B hM 27 (v := .ref (D.2.1 27)) rfl (by decide) q1673 dX7_settle_126 ?_
            refine lv_iload hx hb dX7_settle_129 (lv_at hl 4 rfl) ?_
            refine lv_iconst (v := nI 1) hx hb dX7_settle_131 ic1 ?_
            refine lv_iadd hx hb dX7_settle_132 ?_
            obtain ⟨v32, ev32, hiv32, hf⟩ := ald_some hf
            refine mr_iald B hM 27 (by decide) rfl hiv32 ev32 dX7_settle_133 ?_
            refine lv_iload_n hx hb dX7_settle_134 rfl (lv_at hl 2 rfl) ?_
            refine lv_icmp_gt (tgt := 144) hx hb dX7_settle_135 (by decide) (fun c33 => ?_) (fun c33 => ?_)
            · have hf := it_pos c33 hf
              cases hf
              exact hk _ _ _ hM (lv_sub hl [0, 1, 2, 3, 4] rfl)
            · have hf := it_neg c33 hf
              obtain ⟨x34, ex34, hf⟩ := bd_some hf
              refine lv_iinc (v := x34) (lv' := [(4, .int x34), (0, .ref D.1), (1, .int p0), (2, .int x29), (3, .int x30)]) hx hb dX7_settle_138 hl (k := 4) rfl (by rw [ex34]; first | done | rfl) (by decide) rfl (fun ls hl => ?_)
              refine lv_goto (tgt := 125) hx hb dX7_settle_141 (by decide) ?_
              cases hf
              exact hk _ _ _ hM (lv_sub hl [1, 2, 3, 4, 0] rfl)
          refine lp_W (step := (fun t : Int32 × Int32 × Int32 => f_X7_settle_L50 S9 t.1 t.2.1 t.2.2)) (fun t : Int32 × Int32 × Int32 => ∀ (H : Heap) (locs : List Loc) (ls : Array Slot), m_I D s H locs S9 → lv_has ls 6 [(0, .ref D.1), (1, .int p0), (2, .int t.1), (3, .int t.2.1), (4, .int t.2.2)] → W p l e r_X7_settle s m args below meth c H locs 0 0 Q (F0 m 50 ls [])) (fun t : Int32 × Int32 => ∀ (H : Heap) (locs : List Loc) (ls : Array Slot), m_I D s H locs S9 → lv_has ls 6 [(0, .ref D.1), (1, .int p0), (2, .int t.1), (3, .int t.2)] → W p l e r_X7_settle s m args below meth c H locs 0 0 Q (F0 m 122 ls [])) ?_ fu ((-1), nI 0, nI 0) y28 hxy28 hy28 _ _ _ hM (lv_sub hl [3, 4, 2, 1, 0] rfl)
          clear hf hxy28 hy28
          rintro ⟨x11, x12, x13⟩ o (hf : f_X7_settle_L50 S9 x11 x12 x13 = some o) hk
          intro H locs ls hM hl
          unfold f_X7_settle_L50 at hf
          refine lv_iload hx hb dX7_settle_50 (lv_at hl 4 rfl) ?_
          refine lv_aload_n hx hb dX7_settle_52 rfl (lv_at hl 0 rfl) ?_
          obtain ⟨r14, hcr14, hf⟩ := bnd_some hf
          refine mr_callV (rest := [.int x13]) B hM (c_X7_manyFacts l D S9  hcr14) (cwV 0 hts (lw_V q1868 q1870 qs49 q113 q1871) rfl rfl rfl hd_X7_manyFacts ⟨Nat.le_of_ble_eq_true rfl, Nat.le_of_ble_eq_true rfl⟩) rfl hl.1 rfl (Nat.le_of_ble_eq_true rfl) dX7_settle_53 ⟨Nat.zero_le _, Nat.zero_le _⟩ (fun H locs hM => ?_)
          refine lv_icmp_ge (tgt := 122) hx hb dX7_settle_56 (by decide) (fun c15 => ?_) (fun c15 => ?_)
          · have hf := it_pos c15 hf
            cases hf
            exact hk _ _ _ hM (lv_sub hl [0, 1, 2, 3] rfl)
          · have hf := it_neg c15 hf
            refine lv_iconst (v := nI 2) hx hb dX7_settle_59 ic2 ?_
            refine lv_aload_n hx hb dX7_settle_60 rfl (lv_at hl 0 rfl) ?_
            refine mr_get B hM 56 (v := .ref (D.2.1 56)) rfl (by decide) q1702 dX7_settle_61 ?_
            refine lv_iload hx hb dX7_settle_64 (lv_at hl 4 rfl) ?_
            obtain ⟨v16, ev16, hiv16, hf⟩ := ald_some hf
            refine mr_iald B hM 56 (by decide) rfl hiv16 ev16 dX7_settle_66 ?_
            refine lv_imul hx hb dX7_settle_67 ?_
            refine lv_aload_n hx hb dX7_settle_68 rfl (lv_at hl 0 rfl) ?_
            refine mr_get B hM 57 (v := .int (S9.1 57 0)) rfl (by decide) q1703 dX7_settle_69 ?_
            have j18 : ∀ (x21 : Int32), f_X7_settle_J97_18 x11 x12 x13 x21 = some o → ∀ (H : Heap) (locs : List Loc) (ls : Array Slot), m_I D s H locs S9 → lv_has ls 6 [(0, .ref D.1), (1, .int p0), (2, .int x11), (3, .int x12), (4, .int x13)] → W p l e r_X7_settle s m args below meth c H locs 0 0 Q (F0 m 97 ls [.int x21]) := by
              intro x21 hf
              intro H locs ls hM hl
              unfold f_X7_settle_J97_18 at hf
              refine lv_istore (lv' := [(5, .int x21), (0, .ref D.1), (1, .int p0), (2, .int x11), (3, .int x12), (4, .int x13)]) hx hb dX7_settle_97 hl (by decide) rfl (fun ls hl => ?_)
              refine lv_iload_n hx hb dX7_settle_99 rfl (lv_at hl 3 rfl) ?_
              refine lv_iconst (v := (-1)) hx hb dX7_settle_100 icm1 ?_
              refine lv_icmp_eq (tgt := 110) hx hb dX7_settle_101 (by decide) (fun c22 => ?_) (fun c22 => ?_)
              · have hf := it_pos c22 hf
                refine lv_iload hx hb dX7_settle_110 (lv_at hl 5 rfl) ?_
                refine lv_istore_n (lv' := [(2, .int x13), (5, .int x21), (0, .ref D.1), (1, .int p0), (3, .int x12), (4, .int x13)]) hx hb dX7_settle_112 rfl hl (by decide) rfl (fun ls hl => ?_)
                refine lv_iload hx hb dX7_settle_113 (lv_at hl 1 rfl) ?_
                refine lv_istore_n (lv' := [(3, .int x21), (2, .int x13), (5, .int x21), (0, .ref D.1), (1, .int p0), (4, .int x13)]) hx hb dX7_settle_115 rfl hl (by decide) rfl (fun ls hl => ?_)
                obtain ⟨x23, ex23, hf⟩ := bd_some hf
                refine lv_iinc (v := x23) (lv' := [(4, .int x23), (3, .int x21), (2, .int x13), (5, .int x21), (0, .ref D.1), (1, .int p0)]) hx hb dX7_settle_116 hl (k := 5) rfl (by rw [ex23]; first | done | rfl) (by decide) rfl (fun ls hl => ?_)
                refine lv_goto (tgt := 50) hx hb dX7_settle_119 (by decide) ?_
                cases hf
                exact hk _ _ _ hM (lv_sub hl [4, 5, 2, 1, 0] rfl)
              · have hf := it_neg c22 hf
                refine lv_iload hx hb dX7_settle_104 (lv_at hl 0 rfl) ?_
                refine lv_iload_n hx hb dX7_settle_106 rfl (lv_at hl 4 rfl) ?_
                refine lv_icmp_ge (tgt := 116) hx hb dX7_settle_107 (by decide) (fun c24 => ?_) (fun c24 => ?_)
                · have hf := it_pos c24 hf
                  obtain ⟨x25, ex25, hf⟩ := bd_some hf
                  refine lv_iinc (v := x25) (lv' := [(4, .int x25), (5, .int x21), (0, .ref D.1), (1, .int p0), (2, .int x11), (3, .int x12)]) hx hb dX7_settle_116 hl (k := 5) rfl (by rw [ex25]; first | done | rfl) (by decide) rfl (fun ls hl => ?_)
                  refine lv_goto (tgt := 50) hx hb dX7_settle_119 (by decide) ?_
                  cases hf
                  exact hk _ _ _ hM (lv_sub hl [2, 3, 4, 5, 0] rfl)
                · have hf := it_neg c24 hf
                  refine lv_iload hx hb dX7_settle_110 (lv_at hl 5 rfl) ?_
                  refine lv_istore_n (lv' := [(2, .int x13), (5, .int x21), (0, .ref D.1), (1, .int p0), (3, .int x12), (4, .int x13)]) hx hb dX7_settle_112 rfl hl (by decide) rfl (fun ls hl => ?_)
                  refine lv_iload hx hb dX7_settle_113 (lv_at hl 1 rfl) ?_
                  refine lv_istore_n (lv' := [(3, .int x21), (2, .int x13), (5, .int x21), (0, .ref D.1), (1, .int p0), (4, .int x13)]) hx hb dX7_settle_115 rfl hl (by decide) rfl (fun ls hl => ?_)
                  obtain ⟨x26, ex26, hf⟩ := bd_some hf
                  refine lv_iinc (v := x26) (lv' := [(4, .int x26), (3, .int x21), (2, .int x13), (5, .int x21), (0, .ref D.1), (1, .int p0)]) hx hb dX7_settle_116 hl (k := 5) rfl (by rw [ex26]; first | done | rfl) (by decide) rfl (fun ls hl => ?_)
                  refine lv_goto (tgt := 50) hx hb dX7_settle_119 (by decide) ?_
                  cases hf
                  exact hk _ _ _ hM (lv_sub hl [4, 5, 2, 1, 0] rfl)
            refine lv_icmp_le (tgt := 85) hx hb dX7_settle_72 (by decide) (fun c17 => ?_) (fun c17 => ?_)
            · have hf := it_pos c17 hf
              refine lv_aload_n hx hb dX7_settle_85 rfl (lv_at hl 0 rfl) ?_
              refine mr_get B hM 57 (v := .int (S9.1 57 0)) rfl (by decide) q1703 dX7_settle_86 ?_
              refine lv_aload_n hx hb dX7_settle_89 rfl (lv_at hl 0 rfl) ?_
              refine mr_get B hM 56 (v := .ref (D.2.1 56)) rfl (by decide) q1702 dX7_settle_90 ?_
              refine lv_iload hx hb dX7_settle_93 (lv_at hl 4 rfl) ?_
              obtain ⟨v19, ev19, hiv19, hf⟩ := ald_some hf
              refine mr_iald B hM 56 (by decide) rfl hiv19 ev19 dX7_settle_95 ?_
              refine lv_isub hx hb dX7_settle_96 ?_
              exact j18 ((S9.1 57 0) - v19) hf _ _ _ hM (lv_sub hl [0, 1, 2, 3, 4] rfl)
            · have hf := it_neg c17 hf
              refine lv_aload_n hx hb dX7_settle_75 rfl (lv_at hl 0 rfl) ?_
              refine mr_get B hM 56 (v := .ref (D.2.1 56)) rfl (by decide) q1702 dX7_settle_76 ?_
              refine lv_iload hx hb dX7_settle_79 (lv_at hl 4 rfl) ?_
              obtain ⟨v20, ev20, hiv20, hf⟩ := ald_some hf
              refine mr_iald B hM 56 (by decide) rfl hiv20 ev20 dX7_settle_81 ?_
              refine lv_goto (tgt := 97) hx hb dX7_settle_82 (by decide) ?_
              exact j18 v20 hf _ _ _ hM (lv_sub hl [0, 1, 2, 3, 4] rfl)
        · have hf := it_pos c10 hf
          refine lv_iconst (v := (-1)) hx hb dX7_settle_41 icm1 ?_
          cases hf
          exact hret _ _ _ _ rfl hM dX7_settle_42
      · have hf := it_pos c8 hf
        refine lv_iconst (v := (-1)) hx hb dX7_settle_28 icm1 ?_
        cases hf
        exact hret _ _ _ _ rfl hM dX7_settle_29
def f_X7_near_L51 (S13 : MS) (x15 : Int32) (x16 : Int32) : Option ((Int32 × Int32) ⊕ ((Int32))) :=
  bnd (f_X7_manyFacts S13) fun r17 => (if r17 ≤ x16 then some (.inr x15) else ald 36 (S13.1 28) x16 fun v19 => ald 144 (S13.1 11) x16 fun v20 => (if v19 = v20 then bd (x15 + nI 0) fun x22 => bd (x16 + nI 1) fun x23 => some (.inl (x22, x23)) else bd (x15 + nI 1) fun x24 => bd (x16 + nI 1) fun x25 => some (.inl (x24, x25))))
def f_X7_near_L24 (x6 : Int32) (x7 : Int32) (x8 : Int32) (S9 : MS) : Option ((Int32 × Int32 × Int32 × MS) ⊕ ((Int32 × Int32 × MS))) :=
  bnd (f_X7_manyFacts S9) fun r10 => (if (nI 1 <<< (r10 &&& 31)) ≤ x8 then some (.inr (x6, x7, S9)) else bnd (f_X7_isWorld S9 x8) <| u2 fun r12 S13 => (if r12 = 0 then bd (x8 + nI 1) fun x34 => some (.inl (x6, x7, x34, S13)) else bnd (wO (fun t : Int32 × Int32 => f_X7_near_L51 S13 t.1 t.2) fu (nI 0, nI 0)) <| fun x28 => (if x6 = (-1) then bd (x8 + nI 1) fun x30 => some (.inl (x8, x28, x30, S13)) else (if x7 ≤ x28 then bd (x8 + nI 1) fun x32 => some (.inl (x6, x7, x32, S13)) else bd (x8 + nI 1) fun x33 => some (.inl (x8, x28, x33, S13))))))
def f_X7_near (S : MS) : Option (Int32 × MS) :=
  bd (m_up S 0 0 (nI 0)) fun S1 => bnd (f_X7_canTell S1) <| u2 fun r2 S3 => (if r2 = 0 then some ((-1), S3) else bnd (f_X7_prepare S3) fun S5 => bnd (wO (fun t : Int32 × Int32 × Int32 × MS => f_X7_near_L24 t.1 t.2.1 t.2.2.1 t.2.2.2) fu ((-1), nI 0, nI 0, S5)) <| u3 fun x37 x38 S39 => (if x37 = (-1) then some ((-1), S39) else bnd (f_X7_takeWorld S39 x37) fun S41 => some (x38, S41)))
abbrev r_X7_near : Room := { frames := 9, cells := 0, slots := 0, locals := 210 }
set_option maxHeartbeats 4000000 in
set_option maxRecDepth 100000 in
theorem c_X7_near (l : Launch) (D : MD) (S : MS)  {r : Int32} {S' : MS} (hf : f_X7_near S = some (r, S')) : m_Met l yX7_near cX7_near 6 (Option.some Jvm.ClassFile.FieldType.int) r_X7_near D [.ref D.1] S (some (.int r)) S' := by
  refine m_metI (F := 9) (L := 210) (by decide) rfl (Nat.le_of_ble_eq_true rfl) (fun p e s m args below meth c Q B hret hM ls hl => ?_)
  have hx := B.1
  have hb := B.2.1
  have hown := B.2.2.2.1
  have hts := B.2.2.2.2
  have hl : lv_has ls 6 [(0, .ref D.1)] := hl
  generalize s.heap = H, ([] : List Loc) = locs at hM ⊢
  unfold f_X7_near at hf
  refine lv_aload_n hx hb dX7_near_0 rfl (lv_at hl 0 rfl) ?_
  refine lv_iconst (v := nI 0) hx hb dX7_near_1 ic0 ?_
  obtain ⟨S1, eS1, hf⟩ := bd_some hf
  refine mr_puti B hM 0 (by decide) eS1 rfl (tyX7_ok 0 (by decide)) q1646 dX7_near_2 (fun H locs hM => ?_)
  refine lv_aload_n hx hb dX7_near_5 rfl (lv_at hl 0 rfl) ?_
  obtain ⟨⟨r2, S3⟩, hcr2, hf⟩ := bnd_some hf
  have hf := u2_at hf
  refine mr_callV (rest := []) B hM (c_X7_canTell l D S1  hcr2) (cwV 0 hts (lw_V q1904 q1906 qs53 q113 q1907) rfl rfl rfl hd_X7_canTell ⟨Nat.le_of_ble_eq_true rfl, Nat.le_of_ble_eq_true rfl⟩) rfl hl.1 rfl (Nat.le_of_ble_eq_true rfl) dX7_near_6 ⟨Nat.zero_le _, Nat.zero_le _⟩ (fun H locs hM => ?_)
  refine lv_if_ne (tgt := 14) hx hb dX7_near_9 (by decide) (fun c4 => ?_) (fun c4 => ?_)
  · have hf := it_neg c4 hf
    refine lv_aload_n hx hb dX7_near_14 rfl (lv_at hl 0 rfl) ?_
    obtain ⟨S5, hcS5, hf⟩ := bnd_some hf
    refine mr_callV (rest := []) B hM (c_X7_prepare l D S3  hcS5) (cwV 0 hts (lw_V q2116 q2118 qs85 q113 q2119) rfl rfl rfl hd_X7_prepare ⟨Nat.le_of_ble_eq_true rfl, Nat.le_of_ble_eq_true rfl⟩) rfl hl.1 rfl (Nat.le_of_ble_eq_true rfl) dX7_near_15 ⟨Nat.zero_le _, Nat.zero_le _⟩ (fun H locs hM => ?_)
    refine lv_iconst (v := (-1)) hx hb dX7_near_18 icm1 ?_
    refine lv_istore_n (lv' := [(1, .int (-1)), (0, .ref D.1)]) hx hb dX7_near_19 rfl hl (by decide) rfl (fun ls hl => ?_)
    refine lv_iconst (v := nI 0) hx hb dX7_near_20 ic0 ?_
    refine lv_istore_n (lv' := [(2, .int (nI 0)), (1, .int (-1)), (0, .ref D.1)]) hx hb dX7_near_21 rfl hl (by decide) rfl (fun ls hl => ?_)
    refine lv_iconst (v := nI 0) hx hb dX7_near_22 ic0 ?_
    refine lv_istore_n (lv' := [(3, .int (nI 0)), (2, .int (nI 0)), (1, .int (-1)), (0, .ref D.1)]) hx hb dX7_near_23 rfl hl (by decide) rfl (fun ls hl => ?_)
    obtain ⟨y36, hxy36, hf⟩ := bnd_some hf
    have hy36 : (fun t : Int32 × Int32 × MS => ∀ (H : Heap) (locs : List Loc) (ls : Array Slot), m_I D s H locs t.2.2 → lv_has ls 6 [(0, .ref D.1), (1, .int t.1), (2, .int t.2.1)] → W p l e r_X7_near s m args below meth c H locs 0 0 Q (F0 m 115 ls [])) y36 := by
      rcases y36 with ⟨x37, x38, S39⟩
      have hf := u3_at hf
      intro H locs ls hM hl
      refine lv_iload_n hx hb dX7_near_115 rfl (lv_at hl 1 rfl) ?_
      refine lv_iconst (v := (-1)) hx hb dX7_near_116 icm1 ?_
      refine lv_icmp_ne (tgt := 122) hx hb dX7_near_117 (by decide) (fun c40 => ?_) (fun c40 => ?_)
      · have hf := it_neg c40 hf
        refine lv_aload_n hx hb dX7_near_122 rfl (lv_at hl 0 rfl) ?_
        refine lv_iload_n hx hb dX7_near_123 rfl (lv_at hl 1 rfl) ?_
        obtain ⟨S41, hcS41, hf⟩ := bnd_some hf
        refine mr_callV (rest := []) B hM (c_X7_takeWorld l D S39 x37 hcS41) (cwV 1 hts (lw_V q2156 q2158 qs93 q113 q2159) rfl rfl rfl hd_X7_takeWorld ⟨Nat.le_of_ble_eq_true rfl, Nat.le_of_ble_eq_true rfl⟩) rfl hl.1 rfl (Nat.le_of_ble_eq_true rfl) dX7_near_124 ⟨Nat.zero_le _, Nat.zero_le _⟩ (fun H locs hM => ?_)
        refine lv_iload_n hx hb dX7_near_127 rfl (lv_at hl 2 rfl) ?_
        cases hf
        exact hret _ _ _ _ rfl hM dX7_near_128
      · have hf := it_pos c40 hf
        refine lv_iconst (v := (-1)) hx hb dX7_near_120 icm1 ?_
        cases hf
        exact hret _ _ _ _ rfl hM dX7_near_121
    refine lp_W (step := (fun t : Int32 × Int32 × Int32 × MS => f_X7_near_L24 t.1 t.2.1 t.2.2.1 t.2.2.2)) (fun t : Int32 × Int32 × Int32 × MS => ∀ (H : Heap) (locs : List Loc) (ls : Array Slot), m_I D s H locs t.2.2.2 → lv_has ls 6 [(0, .ref D.1), (1, .int t.1), (2, .int t.2.1), (3, .int t.2.2.1)] → W p l e r_X7_near s m args below meth c H locs 0 0 Q (F0 m 24 ls [])) (fun t : Int32 × Int32 × MS => ∀ (H : Heap) (locs : List Loc) (ls : Array Slot), m_I D s H locs t.2.2 → lv_has ls 6 [(0, .ref D.1), (1, .int t.1), (2, .int t.2.1)] → W p l e r_X7_near s m args below meth c H locs 0 0 Q (F0 m 115 ls [])) ?_ fu ((-1), nI 0, nI 0, S5) y36 hxy36 hy36 _ _ _ hM (lv_sub hl [3, 2, 1, 0] rfl)
    clear hf hxy36 hy36
    rintro ⟨x6, x7, x8, S9⟩ o (hf : f_X7_near_L24 x6 x7 x8 S9 = some o) hk
    intro H locs ls hM hl
    unfold f_X7_near_L24 at hf
    refine lv_iload_n hx hb dX7_near_24 rfl (lv_at hl 3 rfl) ?_
    refine lv_iconst (v := nI 1) hx hb dX7_near_25 ic1 ?_
    refine lv_aload_n hx hb dX7_near_26 rfl (lv_at hl 0 rfl) ?_
    obtain ⟨r10, hcr10, hf⟩ := bnd_some hf
    refine mr_callV (rest := [.int (nI 1), .int x8]) B hM (c_X7_manyFacts l D S9  hcr10) (cwV 0 hts (lw_V q1868 q1870 qs49 q113 q1871) rfl rfl rfl hd_X7_manyFacts ⟨Nat.le_of_ble_eq_true rfl, Nat.le_of_ble_eq_true rfl⟩) rfl hl.1 rfl (Nat.le_of_ble_eq_true rfl) dX7_near_27 ⟨Nat.zero_le _, Nat.zero_le _⟩ (fun H locs hM => ?_)
    refine lv_ishl hx hb dX7_near_30 ?_
    refine lv_icmp_ge (tgt := 115) hx hb dX7_near_31 (by decide) (fun c11 => ?_) (fun c11 => ?_)
    · have hf := it_pos c11 hf
      cases hf
      exact hk _ _ _ hM (lv_sub hl [0, 1, 2] rfl)
    · have hf := it_neg c11 hf
      refine lv_aload_n hx hb dX7_near_34 rfl (lv_at hl 0 rfl) ?_
      refine lv_iload_n hx hb dX7_near_35 rfl (lv_at hl 3 rfl) ?_
      obtain ⟨⟨r12, S13⟩, hcr12, hf⟩ := bnd_some hf
      have hf := u2_at hf
      refine mr_callV (rest := []) B hM (c_X7_isWorld l D S9 x8 hcr12) (cwV 1 hts (lw_V q2128 q2130 qs88 q113 q2131) rfl rfl rfl hd_X7_isWorld ⟨Nat.le_of_ble_eq_true rfl, Nat.le_of_ble_eq_true rfl⟩) rfl hl.1 rfl (Nat.le_of_ble_eq_true rfl) dX7_near_36 ⟨Nat.zero_le _, Nat.zero_le _⟩ (fun H locs hM => ?_)
      refine lv_if_ne (tgt := 45) hx hb dX7_near_39 (by decide) (fun c14 => ?_) (fun c14 => ?_)
      · have hf := it_neg c14 hf
        refine lv_iconst (v := nI 0) hx hb dX7_near_45 ic0 ?_
        refine lv_istore (lv' := [(4, .int (nI 0)), (0, .ref D.1), (1, .int x6), (2, .int x7), (3, .int x8)]) hx hb dX7_near_46 hl (by decide) rfl (fun ls hl => ?_)
        refine lv_iconst (v := nI 0) hx hb dX7_near_48 ic0 ?_
        refine lv_istore (lv' := [(5, .int (nI 0)), (4, .int (nI 0)), (0, .ref D.1), (1, .int x6), (2, .int x7), (3, .int x8)]) hx hb dX7_near_49 hl (by decide) rfl (fun ls hl => ?_)
        obtain ⟨y27, hxy27, hf⟩ := bnd_some hf
        have hy27 : (fun t : Int32 => ∀ (H : Heap) (locs : List Loc) (ls : Array Slot), m_I D s H locs S13 → lv_has ls 6 [(0, .ref D.1), (1, .int x6), (2, .int x7), (3, .int x8), (4, .int t)] → W p l e r_X7_near s m args below meth c H locs 0 0 Q (F0 m 93 ls [])) y27 := by
          obtain ⟨x28, rfl⟩ : ∃ z, z = y27 := ⟨_, rfl⟩
          intro H locs ls hM hl
          refine lv_iload_n hx hb dX7_near_93 rfl (lv_at hl 1 rfl) ?_
          refine lv_iconst (v := (-1)) hx hb dX7_near_94 icm1 ?_
          refine lv_icmp_eq (tgt := 104) hx hb dX7_near_95 (by decide) (fun c29 => ?_) (fun c29 => ?_)
          · have hf := it_pos c29 hf
            refine lv_iload_n hx hb dX7_near_104 rfl (lv_at hl 3 rfl) ?_
            refine lv_istore_n (lv' := [(1, .int x8), (0, .ref D.1), (2, .int x7), (3, .int x8), (4, .int x28)]) hx hb dX7_near_105 rfl hl (by decide) rfl (fun ls hl => ?_)
            refine lv_iload hx hb dX7_near_106 (lv_at hl 4 rfl) ?_
            refine lv_istore_n (lv' := [(2, .int x28), (1, .int x8), (0, .ref D.1), (3, .int x8), (4, .int x28)]) hx hb dX7_near_108 rfl hl (by decide) rfl (fun ls hl => ?_)
            obtain ⟨x30, ex30, hf⟩ := bd_some hf
            refine lv_iinc (v := x30) (lv' := [(3, .int x30), (2, .int x28), (1, .int x8), (0, .ref D.1), (4, .int x28)]) hx hb dX7_near_109 hl (k := 3) rfl (by rw [ex30]; first | done | rfl) (by decide) rfl (fun ls hl => ?_)
            refine lv_goto (tgt := 24) hx hb dX7_near_112 (by decide) ?_
            cases hf
            exact hk _ _ _ hM (lv_sub hl [3, 2, 1, 0] rfl)
          · have hf := it_neg c29 hf
            refine lv_iload hx hb dX7_near_98 (lv_at hl 4 rfl) ?_
            refine lv_iload_n hx hb dX7_near_100 rfl (lv_at hl 2 rfl) ?_
            refine lv_icmp_ge (tgt := 109) hx hb dX7_near_101 (by decide) (fun c31 => ?_) (fun c31 => ?_)
            · have hf := it_pos c31 hf
              obtain ⟨x32, ex32, hf⟩ := bd_some hf
              refine lv_iinc (v := x32) (lv' := [(3, .int x32), (0, .ref D.1), (1, .int x6), (2, .int x7), (4, .int x28)]) hx hb dX7_near_109 hl (k := 3) rfl (by rw [ex32]; first | done | rfl) (by decide) rfl (fun ls hl => ?_)
              refine lv_goto (tgt := 24) hx hb dX7_near_112 (by decide) ?_
              cases hf
              exact hk _ _ _ hM (lv_sub hl [1, 2, 3, 0] rfl)
            · have hf := it_neg c31 hf
              refine lv_iload_n hx hb dX7_near_104 rfl (lv_at hl 3 rfl) ?_
              refine lv_istore_n (lv' := [(1, .int x8), (0, .ref D.1), (2, .int x7), (3, .int x8), (4, .int x28)]) hx hb dX7_near_105 rfl hl (by decide) rfl (fun ls hl => ?_)
              refine lv_iload hx hb dX7_near_106 (lv_at hl 4 rfl) ?_
              refine lv_istore_n (lv' := [(2, .int x28), (1, .int x8), (0, .ref D.1), (3, .int x8), (4, .int x28)]) hx hb dX7_near_108 rfl hl (by decide) rfl (fun ls hl => ?_)
              obtain ⟨x33, ex33, hf⟩ := bd_some hf
              refine lv_iinc (v := x33) (lv' := [(3, .int x33), (2, .int x28), (1, .int x8), (0, .ref D.1), (4, .int x28)]) hx hb dX7_near_109 hl (k := 3) rfl (by rw [ex33]; first | done | rfl) (by decide) rfl (fun ls hl => ?_)
              refine lv_goto (tgt := 24) hx hb dX7_near_112 (by decide) ?_
              cases hf
              exact hk _ _ _ hM (lv_sub hl [3, 2, 1, 0] rfl)
        refine lp_W (step := (fun t : Int32 × Int32 => f_X7_near_L51 S13 t.1 t.2)) (fun t : Int32 × Int32 => ∀ (H : Heap) (locs : List Loc) (ls : Array Slot), m_I D s H locs S13 → lv_has ls 6 [(0, .ref D.1), (1, .int x6), (2, .int x7), (3, .int x8), (4, .int t.1), (5, .int t.2)] → W p l e r_X7_near s m args below meth c H locs 0 0 Q (F0 m 51 ls [])) (fun t : Int32 => ∀ (H : Heap) (locs : List Loc) (ls : Array Slot), m_I D s H locs S13 → lv_has ls 6 [(0, .ref D.1), (1, .int x6), (2, .int x7), (3, .int x8), (4, .int t)] → W p l e r_X7_near s m args below meth c H locs 0 0 Q (F0 m 93 ls [])) ?_ fu (nI 0, nI 0) y27 hxy27 hy27 _ _ _ hM (lv_sub hl [2, 3, 4, 5, 1, 0] rfl)
        clear hf hxy27 hy27
        rintro ⟨x15, x16⟩ o (hf : f_X7_near_L51 S13 x15 x16 = some o) hk
        intro H locs ls hM hl
        unfold f_X7_near_L51 at hf
        refine lv_iload hx hb dX7_near_51 (lv_at hl 5 rfl) ?_
        refine lv_aload_n hx hb dX7_near_53 rfl (lv_at hl 0 rfl) ?_
        obtain ⟨r17, hcr17, hf⟩ := bnd_some hf
        refine mr_callV (rest := [.int x16]) B hM (c_X7_manyFacts l D S13  hcr17) (cwV 0 hts (lw_V q1868 q1870 qs49 q113 q1871) rfl rfl rfl hd_X7_manyFacts ⟨Nat.le_of_ble_eq_true rfl, Nat.le_of_ble_eq_true rfl⟩) rfl hl.1 rfl (Nat.le_of_ble_eq_true rfl) dX7_near_54 ⟨Nat.zero_le _, Nat.zero_le _⟩ (fun H locs hM => ?_)
        refine lv_icmp_ge (tgt := 93) hx hb dX7_near_57 (by decide) (fun c18 => ?_) (fun c18 => ?_)
        · have hf := it_pos c18 hf
          cases hf
          exact hk _ _ _ hM (lv_sub hl [0, 1, 2, 3, 4] rfl)
        · have hf := it_neg c18 hf
          refine lv_iload hx hb dX7_near_60 (lv_at hl 4 rfl) ?_
          refine lv_aload_n hx hb dX7_near_62 rfl (lv_at hl 0 rfl) ?_
          refine mr_get B hM 28 (v := .ref (D.2.1 28)) rfl (by decide) q1674 dX7_near_63 ?_
          refine lv_iload hx hb dX7_near_66 (lv_at hl 5 rfl) ?_
          obtain ⟨v19, ev19, hiv19, hf⟩ := ald_some hf
          refine mr_zald B hM 28 (by decide) rfl hiv19 ev19 dX7_near_68 ?_
          refine lv_aload_n hx hb dX7_near_69 rfl (lv_at hl 0 rfl) ?_
          refine mr_get B hM 11 (v := .ref (D.2.1 11)) rfl (by decide) q1657 dX7_near_70 ?_
          refine lv_iload hx hb dX7_near_73 (lv_at hl 5 rfl) ?_
          obtain ⟨v20, ev20, hiv20, hf⟩ := ald_some hf
          refine mr_zald B hM 11 (by decide) rfl hiv20 ev20 dX7_near_75 ?_
          refine lv_icmp_eq (tgt := 83) hx hb dX7_near_76 (by decide) (fun c21 => ?_) (fun c21 => ?_)
          · have hf := it_pos c21 hf
            refine lv_iconst (v := nI 0) hx hb dX7_near_83 ic0 ?_
            refine lv_iadd hx hb dX7_near_84 ?_
            refine lv_topi (fun x22 ex22 => ?_)
            have hf := bd_at ex22 hf
            refine lv_istore (lv' := [(4, .int x22), (0, .ref D.1), (1, .int x6), (2, .int x7), (3, .int x8), (5, .int x16)]) hx hb dX7_near_85 hl (by decide) rfl (fun ls hl => ?_)
            obtain ⟨x23, ex23, hf⟩ := bd_some hf
            refine lv_iinc (v := x23) (lv' := [(5, .int x23), (4, .int x22), (0, .ref D.1), (1, .int x6), (2, .int x7), (3, .int x8)]) hx hb dX7_near_87 hl (k := 5) rfl (by rw [ex23]; first | done | rfl) (by decide) rfl (fun ls hl => ?_)
            refine lv_goto (tgt := 51) hx hb dX7_near_90 (by decide) ?_
            cases hf
            exact hk _ _ _ hM (lv_sub hl [2, 3, 4, 5, 1, 0] rfl)
          · have hf := it_neg c21 hf
            refine lv_iconst (v := nI 1) hx hb dX7_near_79 ic1 ?_
            refine lv_goto (tgt := 84) hx hb dX7_near_80 (by decide) ?_
            refine lv_iadd hx hb dX7_near_84 ?_
            refine lv_topi (fun x24 ex24 => ?_)
            have hf := bd_at ex24 hf
            refine lv_istore (lv' := [(4, .int x24), (0, .ref D.1), (1, .int x6), (2, .int x7), (3, .int x8), (5, .int x16)]) hx hb dX7_near_85 hl (by decide) rfl (fun ls hl => ?_)
            obtain ⟨x25, ex25, hf⟩ := bd_some hf
            refine lv_iinc (v := x25) (lv' := [(5, .int x25), (4, .int x24), (0, .ref D.1), (1, .int x6), (2, .int x7), (3, .int x8)]) hx hb dX7_near_87 hl (k := 5) rfl (by rw [ex25]; first | done | rfl) (by decide) rfl (fun ls hl => ?_)
            refine lv_goto (tgt := 51) hx hb dX7_near_90 (by decide) ?_
            cases hf
            exact hk _ _ _ hM (lv_sub hl [2, 3, 4, 5, 1, 0] rfl)
      · have hf := it_pos c14 hf
        refine lv_goto (tgt := 109) hx hb dX7_near_42 (by decide) ?_
        obtain ⟨x34, ex34, hf⟩ := bd_some hf
        refine lv_iinc (v := x34) (lv' := [(3, .int x34), (0, .ref D.1), (1, .int x6), (2, .int x7)]) hx hb dX7_near_109 hl (k := 3) rfl (by rw [ex34]; first | done | rfl) (by decide) rfl (fun ls hl => ?_)
        refine lv_goto (tgt := 24) hx hb dX7_near_112 (by decide) ?_
        cases hf
        exact hk _ _ _ hM (lv_sub hl [1, 2, 3, 0] rfl)
  · have hf := it_pos c4 hf
    refine lv_iconst (v := (-1)) hx hb dX7_near_12 icm1 ?_
    cases hf
    exact hret _ _ _ _ rfl hM dX7_near_13
def f_X7_holds_L41 (p0 : Int32) (x10 : Int32) (x11 : Int32) (S12 : MS) : Option ((Int32 × Int32 × MS) ⊕ ((Int32 × MS))) :=
  bnd (f_X7_manyFacts S12) fun r13 => (if (nI 1 <<< (r13 &&& 31)) ≤ x11 then some (.inr (x10, S12)) else (if p0 = 0 then bnd (f_X7_isWorld S12 x11) <| u2 fun r28 S29 => (if r28 = 0 then bd (x10 + nI 0) fun x31 => bd (x11 + nI 1) fun x32 => some (.inl (x31, x32, S29)) else bnd (f_X7_means S29 (nI 8)) <| u2 fun r33 S34 => (if r33 = 0 then bd (x10 + nI 0) fun x36 => bd (x11 + nI 1) fun x37 => some (.inl (x36, x37, S34)) else bd (x10 + nI 1) fun x38 => bd (x11 + nI 1) fun x39 => some (.inl (x38, x39, S34)))) else bnd (f_X7_isForm S12 x11) <| u2 fun r16 S17 => (if r16 = 0 then bd (x10 + nI 0) fun x19 => bd (x11 + nI 1) fun x20 => some (.inl (x19, x20, S17)) else bnd (f_X7_means S17 (nI 8)) <| u2 fun r21 S22 => (if r21 = 0 then bd (x10 + nI 0) fun x24 => bd (x11 + nI 1) fun x25 => some (.inl (x24, x25, S22)) else bd (x10 + nI 1) fun x26 => bd (x11 + nI 1) fun x27 => some (.inl (x26, x27, S22))))))
def f_X7_holds (S : MS) (p0 : Int32) : Option (Int32 × MS) :=
  bd (m_up S 0 0 (nI 0)) fun S1 => ald 36 (S1.1 15) (nI 8) fun v2 => (if v2 = 0 then some ((-1), S1) else bnd (f_X7_canTell S1) <| u2 fun r4 S5 => (if r4 = 0 then some ((-1), S5) else bnd (f_X7_in p0 (nI 0) (nI 1)) fun r7 => (if r7 = 0 then some ((-1), S5) else bnd (f_X7_prepare S5) fun S9 => bnd (wO (fun t : Int32 × Int32 × MS => f_X7_holds_L41 p0 t.1 t.2.1 t.2.2) fu (nI 0, nI 0, S9)) <| u2 fun x42 S43 => some (x42, S43))))
abbrev r_X7_holds : Room := { frames := 10, cells := 0, slots := 0, locals := 231 }
set_option maxHeartbeats 4000000 in
set_option maxRecDepth 100000 in
theorem c_X7_holds (l : Launch) (D : MD) (S : MS) (p0 : Int32) {r : Int32} {S' : MS} (hf : f_X7_holds S p0 = some (r, S')) : m_Met l yX7_holds cX7_holds 4 (Option.some Jvm.ClassFile.FieldType.int) r_X7_holds D [.ref D.1, .int p0] S (some (.int r)) S' := by
  refine m_metI (F := 10) (L := 231) (by decide) rfl (Nat.le_of_ble_eq_true rfl) (fun p e s m args below meth c Q B hret hM ls hl => ?_)
  have hx := B.1
  have hb := B.2.1
  have hown := B.2.2.2.1
  have hts := B.2.2.2.2
  have hl : lv_has ls 4 [(0, .ref D.1), (1, .int p0)] := hl
  generalize s.heap = H, ([] : List Loc) = locs at hM ⊢
  unfold f_X7_holds at hf
  refine lv_aload_n hx hb dX7_holds_0 rfl (lv_at hl 0 rfl) ?_
  refine lv_iconst (v := nI 0) hx hb dX7_holds_1 ic0 ?_
  obtain ⟨S1, eS1, hf⟩ := bd_some hf
  refine mr_puti B hM 0 (by decide) eS1 rfl (tyX7_ok 0 (by decide)) q1646 dX7_holds_2 (fun H locs hM => ?_)
  refine lv_aload_n hx hb dX7_holds_5 rfl (lv_at hl 0 rfl) ?_
  refine mr_get B hM 15 (v := .ref (D.2.1 15)) rfl (by decide) q1661 dX7_holds_6 ?_
  refine lv_bipush (v := nI 8) hx hb dX7_holds_9 bp8 ?_
  obtain ⟨v2, ev2, hiv2, hf⟩ := ald_some hf
  refine mr_iald B hM 15 (by decide) rfl hiv2 ev2 dX7_holds_11 ?_
  refine lv_if_eq (tgt := 31) hx hb dX7_holds_12 (by decide) (fun c3 => ?_) (fun c3 => ?_)
  · have hf := it_pos c3 hf
    refine lv_iconst (v := (-1)) hx hb dX7_holds_31 icm1 ?_
    cases hf
    exact hret _ _ _ _ rfl hM dX7_holds_32
  · have hf := it_neg c3 hf
    refine lv_aload_n hx hb dX7_holds_15 rfl (lv_at hl 0 rfl) ?_
    obtain ⟨⟨r4, S5⟩, hcr4, hf⟩ := bnd_some hf
    have hf := u2_at hf
    refine mr_callV (rest := []) B hM (c_X7_canTell l D S1  hcr4) (cwV 0 hts (lw_V q1904 q1906 qs53 q113 q1907) rfl rfl rfl hd_X7_canTell ⟨Nat.le_of_ble_eq_true rfl, Nat.le_of_ble_eq_true rfl⟩) rfl hl.1 rfl (Nat.le_of_ble_eq_true rfl) dX7_holds_16 ⟨Nat.zero_le _, Nat.zero_le _⟩ (fun H locs hM => ?_)
    refine lv_if_eq (tgt := 31) hx hb dX7_holds_19 (by decide) (fun c6 => ?_) (fun c6 => ?_)
    · have hf := it_pos c6 hf
      refine lv_iconst (v := (-1)) hx hb dX7_holds_31 icm1 ?_
      cases hf
      exact hret _ _ _ _ rfl hM dX7_holds_32
    · have hf := it_neg c6 hf
      refine lv_iload_n hx hb dX7_holds_22 rfl (lv_at hl 1 rfl) ?_
      refine lv_iconst (v := nI 0) hx hb dX7_holds_23 ic0 ?_
      refine lv_iconst (v := nI 1) hx hb dX7_holds_24 ic1 ?_
      obtain ⟨r7, hcr7, hf⟩ := bnd_some hf
      refine pr_callS (rest := []) B (c_X7_in l p0 (nI 0) (nI 1) hcr7) (va_cwS 3 hts (lw_S q1841 q1842 q113 q1843) rfl rfl rfl hd_X7_in ⟨Nat.le_of_ble_eq_true rfl, Nat.le_of_ble_eq_true rfl⟩) rfl hl.1 rfl (Nat.le_of_ble_eq_true rfl) dX7_holds_25 ⟨Nat.zero_le _, Nat.zero_le _⟩ ?_
      refine lv_if_ne (tgt := 33) hx hb dX7_holds_28 (by decide) (fun c8 => ?_) (fun c8 => ?_)
      · have hf := it_neg c8 hf
        refine lv_aload_n hx hb dX7_holds_33 rfl (lv_at hl 0 rfl) ?_
        obtain ⟨S9, hcS9, hf⟩ := bnd_some hf
        refine mr_callV (rest := []) B hM (c_X7_prepare l D S5  hcS9) (cwV 0 hts (lw_V q2116 q2118 qs85 q113 q2119) rfl rfl rfl hd_X7_prepare ⟨Nat.le_of_ble_eq_true rfl, Nat.le_of_ble_eq_true rfl⟩) rfl hl.1 rfl (Nat.le_of_ble_eq_true rfl) dX7_holds_34 ⟨Nat.zero_le _, Nat.zero_le _⟩ (fun H locs hM => ?_)
        refine lv_iconst (v := nI 0) hx hb dX7_holds_37 ic0 ?_
        refine lv_istore_n (lv' := [(2, .int (nI 0)), (0, .ref D.1), (1, .int p0)]) hx hb dX7_holds_38 rfl hl (by decide) rfl (fun ls hl => ?_)
        refine lv_iconst (v := nI 0) hx hb dX7_holds_39 ic0 ?_
        refine lv_istore_n (lv' := [(3, .int (nI 0)), (2, .int (nI 0)), (0, .ref D.1), (1, .int p0)]) hx hb dX7_holds_40 rfl hl (by decide) rfl (fun ls hl => ?_)
        obtain ⟨y41, hxy41, hf⟩ := bnd_some hf
        have hy41 : (fun t : Int32 × MS => ∀ (H : Heap) (locs : List Loc) (ls : Array Slot), m_I D s H locs t.2 → lv_has ls 4 [(2, .int t.1)] → W p l e r_X7_holds s m args below meth c H locs 0 0 Q (F0 m 97 ls [])) y41 := by
          rcases y41 with ⟨x42, S43⟩
          have hf := u2_at hf
          intro H locs ls hM hl
          refine lv_iload_n hx hb dX7_holds_97 rfl (lv_at hl 0 rfl) ?_
          cases hf
          exact hret _ _ _ _ rfl hM dX7_holds_98
        refine lp_W (step := (fun t : Int32 × Int32 × MS => f_X7_holds_L41 p0 t.1 t.2.1 t.2.2)) (fun t : Int32 × Int32 × MS => ∀ (H : Heap) (locs : List Loc) (ls : Array Slot), m_I D s H locs t.2.2 → lv_has ls 4 [(0, .ref D.1), (1, .int p0), (2, .int t.1), (3, .int t.2.1)] → W p l e r_X7_holds s m args below meth c H locs 0 0 Q (F0 m 41 ls [])) (fun t : Int32 × MS => ∀ (H : Heap) (locs : List Loc) (ls : Array Slot), m_I D s H locs t.2 → lv_has ls 4 [(2, .int t.1)] → W p l e r_X7_holds s m args below meth c H locs 0 0 Q (F0 m 97 ls [])) ?_ fu (nI 0, nI 0, S9) y41 hxy41 hy41 _ _ _ hM (lv_sub hl [2, 3, 1, 0] rfl)
        clear hf hxy41 hy41
        rintro ⟨x10, x11, S12⟩ o (hf : f_X7_holds_L41 p0 x10 x11 S12 = some o) hk
        intro H locs ls hM hl
        unfold f_X7_holds_L41 at hf
        refine lv_iload_n hx hb dX7_holds_41 rfl (lv_at hl 3 rfl) ?_
        refine lv_iconst (v := nI 1) hx hb dX7_holds_42 ic1 ?_
        refine lv_aload_n hx hb dX7_holds_43 rfl (lv_at hl 0 rfl) ?_
        obtain ⟨r13, hcr13, hf⟩ := bnd_some hf
        refine mr_callV (rest := [.int (nI 1), .int x11]) B hM (c_X7_manyFacts l D S12  hcr13) (cwV 0 hts (lw_V q1868 q1870 qs49 q113 q1871) rfl rfl rfl hd_X7_manyFacts ⟨Nat.le_of_ble_eq_true rfl, Nat.le_of_ble_eq_true rfl⟩) rfl hl.1 rfl (Nat.le_of_ble_eq_true rfl) dX7_holds_44 ⟨Nat.zero_le _, Nat.zero_le _⟩ (fun H locs hM => ?_)
        refine lv_ishl hx hb dX7_holds_47 ?_
        refine lv_icmp_ge (tgt := 97) hx hb dX7_holds_48 (by decide) (fun c14 => ?_) (fun c14 => ?_)
        · have hf := it_pos c14 hf
          cases hf
          exact hk _ _ _ hM (lv_sub hl [2] rfl)
        · have hf := it_neg c14 hf
          refine lv_iload_n hx hb dX7_holds_51 rfl (lv_at hl 2 rfl) ?_
          refine lv_iload_n hx hb dX7_holds_52 rfl (lv_at hl 1 rfl) ?_
          refine lv_if_ne (tgt := 67) hx hb dX7_holds_53 (by decide) (fun c15 => ?_) (fun c15 => ?_)
          · have hf := it_neg c15 hf
            refine lv_aload_n hx hb dX7_holds_67 rfl (lv_at hl 0 rfl) ?_
            refine lv_iload_n hx hb dX7_holds_68 rfl (lv_at hl 3 rfl) ?_
            obtain ⟨⟨r16, S17⟩, hcr16, hf⟩ := bnd_some hf
            have hf := u2_at hf
            refine mr_callV (rest := [.int x10]) B hM (c_X7_isForm l D S12 x11 hcr16) (cwV 1 hts (lw_V q2144 q2146 qs91 q113 q2147) rfl rfl rfl hd_X7_isForm ⟨Nat.le_of_ble_eq_true rfl, Nat.le_of_ble_eq_true rfl⟩) rfl hl.1 rfl (Nat.le_of_ble_eq_true rfl) dX7_holds_69 ⟨Nat.zero_le _, Nat.zero_le _⟩ (fun H locs hM => ?_)
            refine lv_if_eq (tgt := 88) hx hb dX7_holds_72 (by decide) (fun c18 => ?_) (fun c18 => ?_)
            · have hf := it_pos c18 hf
              refine lv_iconst (v := nI 0) hx hb dX7_holds_88 ic0 ?_
              refine lv_iadd hx hb dX7_holds_89 ?_
              refine lv_topi (fun x19 ex19 => ?_)
              have hf := bd_at ex19 hf
              refine lv_istore_n (lv' := [(2, .int x19), (0, .ref D.1), (1, .int p0), (3, .int x11)]) hx hb dX7_holds_90 rfl hl (by decide) rfl (fun ls hl => ?_)
              obtain ⟨x20, ex20, hf⟩ := bd_some hf
              refine lv_iinc (v := x20) (lv' := [(3, .int x20), (2, .int x19), (0, .ref D.1), (1, .int p0)]) hx hb dX7_holds_91 hl (k := 3) rfl (by rw [ex20]; first | done | rfl) (by decide) rfl (fun ls hl => ?_)
              refine lv_goto (tgt := 41) hx hb dX7_holds_94 (by decide) ?_
              cases hf
              exact hk _ _ _ hM (lv_sub hl [2, 3, 1, 0] rfl)
            · have hf := it_neg c18 hf
              refine lv_aload_n hx hb dX7_holds_75 rfl (lv_at hl 0 rfl) ?_
              refine lv_bipush (v := nI 8) hx hb dX7_holds_76 bp8 ?_
              obtain ⟨⟨r21, S22⟩, hcr21, hf⟩ := bnd_some hf
              have hf := u2_at hf
              refine mr_callV (rest := [.int x10]) B hM (c_X7_means l D S17 (nI 8) hcr21) (cwV 1 hts (lw_V q2070 q2072 qs77 q113 q2073) rfl rfl rfl hd_X7_means ⟨Nat.le_of_ble_eq_true rfl, Nat.le_of_ble_eq_true rfl⟩) rfl hl.1 rfl (Nat.le_of_ble_eq_true rfl) dX7_holds_78 ⟨Nat.zero_le _, Nat.zero_le _⟩ (fun H locs hM => ?_)
              refine lv_if_eq (tgt := 88) hx hb dX7_holds_81 (by decide) (fun c23 => ?_) (fun c23 => ?_)
              · have hf := it_pos c23 hf
                refine lv_iconst (v := nI 0) hx hb dX7_holds_88 ic0 ?_
                refine lv_iadd hx hb dX7_holds_89 ?_
                refine lv_topi (fun x24 ex24 => ?_)
                have hf := bd_at ex24 hf
                refine lv_istore_n (lv' := [(2, .int x24), (0, .ref D.1), (1, .int p0), (3, .int x11)]) hx hb dX7_holds_90 rfl hl (by decide) rfl (fun ls hl => ?_)
                obtain ⟨x25, ex25, hf⟩ := bd_some hf
                refine lv_iinc (v := x25) (lv' := [(3, .int x25), (2, .int x24), (0, .ref D.1), (1, .int p0)]) hx hb dX7_holds_91 hl (k := 3) rfl (by rw [ex25]; first | done | rfl) (by decide) rfl (fun ls hl => ?_)
                refine lv_goto (tgt := 41) hx hb dX7_holds_94 (by decide) ?_
                cases hf
                exact hk _ _ _ hM (lv_sub hl [2, 3, 1, 0] rfl)
              · have hf := it_neg c23 hf
                refine lv_iconst (v := nI 1) hx hb dX7_holds_84 ic1 ?_
                refine lv_goto (tgt := 89) hx hb dX7_holds_85 (by decide) ?_
                refine lv_iadd hx hb dX7_holds_89 ?_
                refine lv_topi (fun x26 ex26 => ?_)
                have hf := bd_at ex26 hf
                refine lv_istore_n (lv' := [(2, .int x26), (0, .ref D.1), (1, .int p0), (3, .int x11)]) hx hb dX7_holds_90 rfl hl (by decide) rfl (fun ls hl => ?_)
                obtain ⟨x27, ex27, hf⟩ := bd_some hf
                refine lv_iinc (v := x27) (lv' := [(3, .int x27), (2, .int x26), (0, .ref D.1), (1, .int p0)]) hx hb dX7_holds_91 hl (k := 3) rfl (by rw [ex27]; first | done | rfl) (by decide) rfl (fun ls hl => ?_)
                refine lv_goto (tgt := 41) hx hb dX7_holds_94 (by decide) ?_
                cases hf
                exact hk _ _ _ hM (lv_sub hl [2, 3, 1, 0] rfl)
          · have hf := it_pos c15 hf
            refine lv_aload_n hx hb dX7_holds_56 rfl (lv_at hl 0 rfl) ?_
            refine lv_iload_n hx hb dX7_holds_57 rfl (lv_at hl 3 rfl) ?_
            obtain ⟨⟨r28, S29⟩, hcr28, hf⟩ := bnd_some hf
            have hf := u2_at hf
            refine mr_callV (rest := [.int x10]) B hM (c_X7_isWorld l D S12 x11 hcr28) (cwV 1 hts (lw_V q2128 q2130 qs88 q113 q2131) rfl rfl rfl hd_X7_isWorld ⟨Nat.le_of_ble_eq_true rfl, Nat.le_of_ble_eq_true rfl⟩) rfl hl.1 rfl (Nat.le_of_ble_eq_true rfl) dX7_holds_58 ⟨Nat.zero_le _, Nat.zero_le _⟩ (fun H locs hM => ?_)
            refine lv_if_eq (tgt := 88) hx hb dX7_holds_61 (by decide) (fun c30 => ?_) (fun c30 => ?_)
            · have hf := it_pos c30 hf
              refine lv_iconst (v := nI 0) hx hb dX7_holds_88 ic0 ?_
              refine lv_iadd hx hb dX7_holds_89 ?_
              refine lv_topi (fun x31 ex31 => ?_)
              have hf := bd_at ex31 hf
              refine lv_istore_n (lv' := [(2, .int x31), (0, .ref D.1), (1, .int p0), (3, .int x11)]) hx hb dX7_holds_90 rfl hl (by decide) rfl (fun ls hl => ?_)
              obtain ⟨x32, ex32, hf⟩ := bd_some hf
              refine lv_iinc (v := x32) (lv' := [(3, .int x32), (2, .int x31), (0, .ref D.1), (1, .int p0)]) hx hb dX7_holds_91 hl (k := 3) rfl (by rw [ex32]; first | done | rfl) (by decide) rfl (fun ls hl => ?_)
              refine lv_goto (tgt := 41) hx hb dX7_holds_94 (by decide) ?_
              cases hf
              exact hk _ _ _ hM (lv_sub hl [2, 3, 1, 0] rfl)
            · have hf := it_neg c30 hf
              refine lv_goto (tgt := 75) hx hb dX7_holds_64 (by decide) ?_
              refine lv_aload_n hx hb dX7_holds_75 rfl (lv_at hl 0 rfl) ?_
              refine lv_bipush (v := nI 8) hx hb dX7_holds_76 bp8 ?_
              obtain ⟨⟨r33, S34⟩, hcr33, hf⟩ := bnd_some hf
              have hf := u2_at hf
              refine mr_callV (rest := [.int x10]) B hM (c_X7_means l D S29 (nI 8) hcr33) (cwV 1 hts (lw_V q2070 q2072 qs77 q113 q2073) rfl rfl rfl hd_X7_means ⟨Nat.le_of_ble_eq_true rfl, Nat.le_of_ble_eq_true rfl⟩) rfl hl.1 rfl (Nat.le_of_ble_eq_true rfl) dX7_holds_78 ⟨Nat.zero_le _, Nat.zero_le _⟩ (fun H locs hM => ?_)
              refine lv_if_eq (tgt := 88) hx hb dX7_holds_81 (by decide) (fun c35 => ?_) (fun c35 => ?_)
              · have hf := it_pos c35 hf
                refine lv_iconst (v := nI 0) hx hb dX7_holds_88 ic0 ?_
                refine lv_iadd hx hb dX7_holds_89 ?_
                refine lv_topi (fun x36 ex36 => ?_)
                have hf := bd_at ex36 hf
                refine lv_istore_n (lv' := [(2, .int x36), (0, .ref D.1), (1, .int p0), (3, .int x11)]) hx hb dX7_holds_90 rfl hl (by decide) rfl (fun ls hl => ?_)
                obtain ⟨x37, ex37, hf⟩ := bd_some hf
                refine lv_iinc (v := x37) (lv' := [(3, .int x37), (2, .int x36), (0, .ref D.1), (1, .int p0)]) hx hb dX7_holds_91 hl (k := 3) rfl (by rw [ex37]; first | done | rfl) (by decide) rfl (fun ls hl => ?_)
                refine lv_goto (tgt := 41) hx hb dX7_holds_94 (by decide) ?_
                cases hf
                exact hk _ _ _ hM (lv_sub hl [2, 3, 1, 0] rfl)
              · have hf := it_neg c35 hf
                refine lv_iconst (v := nI 1) hx hb dX7_holds_84 ic1 ?_
                refine lv_goto (tgt := 89) hx hb dX7_holds_85 (by decide) ?_
                refine lv_iadd hx hb dX7_holds_89 ?_
                refine lv_topi (fun x38 ex38 => ?_)
                have hf := bd_at ex38 hf
                refine lv_istore_n (lv' := [(2, .int x38), (0, .ref D.1), (1, .int p0), (3, .int x11)]) hx hb dX7_holds_90 rfl hl (by decide) rfl (fun ls hl => ?_)
                obtain ⟨x39, ex39, hf⟩ := bd_some hf
                refine lv_iinc (v := x39) (lv' := [(3, .int x39), (2, .int x38), (0, .ref D.1), (1, .int p0)]) hx hb dX7_holds_91 hl (k := 3) rfl (by rw [ex39]; first | done | rfl) (by decide) rfl (fun ls hl => ?_)
                refine lv_goto (tgt := 41) hx hb dX7_holds_94 (by decide) ?_
                cases hf
                exact hk _ _ _ hM (lv_sub hl [2, 3, 1, 0] rfl)
      · have hf := it_pos c8 hf
        refine lv_iconst (v := (-1)) hx hb dX7_holds_31 icm1 ?_
        cases hf
        exact hret _ _ _ _ rfl hM dX7_holds_32
def f_X7_against_L30 (x8 : Int32) (S9 : MS) : Option ((Int32 × MS) ⊕ ((Int32 × MS) ⊕ (MS))) :=
  bnd (f_X7_manyFacts S9) fun r10 => (if (nI 1 <<< (r10 &&& 31)) ≤ x8 then some (.inr (.inr S9)) else bnd (f_X7_isForm S9 x8) <| u2 fun r12 S13 => (if r12 = 0 then bd (x8 + nI 1) fun x15 => some (.inl (x15, S13)) else bnd (f_X7_means S13 (nI 8)) <| u2 fun r16 S17 => (if r16 = 0 then some (.inr (.inl (x8, S17))) else bd (x8 + nI 1) fun x19 => some (.inl (x19, S17)))))
def f_X7_against (S : MS) : Option (Int32 × MS) :=
  bd (m_up S 0 0 (nI 0)) fun S1 => ald 36 (S1.1 15) (nI 8) fun v2 => (if v2 = 0 then some (nI 0, S1) else bnd (f_X7_canTell S1) <| u2 fun r4 S5 => (if r4 = 0 then some (nI 0, S5) else bnd (f_X7_prepare S5) fun S7 => bnd (wO (fun t : Int32 × MS => f_X7_against_L30 t.1 t.2) fu (nI 0, S7)) (Sum.elim (u2 fun x22 S23 => bnd (f_X7_takeWorld S23 x22) fun S24 => some (nI 1, S24)) (fun S25 => some (nI 0, S25)))))
abbrev r_X7_against : Room := { frames := 10, cells := 0, slots := 0, locals := 231 }
set_option maxHeartbeats 4000000 in
set_option maxRecDepth 100000 in
theorem c_X7_against (l : Launch) (D : MD) (S : MS)  {r : Int32} {S' : MS} (hf : f_X7_against S = some (r, S')) : m_Met l yX7_against cX7_against 2 (Option.some Jvm.ClassFile.FieldType.boolean) r_X7_against D [.ref D.1] S (some (.int r)) S' := by
  refine m_metI (F := 10) (L := 231) (by decide) rfl (Nat.le_of_ble_eq_true rfl) (fun p e s m args below meth c Q B hret hM ls hl => ?_)
  have hx := B.1
  have hb := B.2.1
  have hown := B.2.2.2.1
  have hts := B.2.2.2.2
  have hl : lv_has ls 2 [(0, .ref D.1)] := hl
  generalize s.heap = H, ([] : List Loc) = locs at hM ⊢
  unfold f_X7_against at hf
  refine lv_aload_n hx hb dX7_against_0 rfl (lv_at hl 0 rfl) ?_
  refine lv_iconst (v := nI 0) hx hb dX7_against_1 ic0 ?_
  obtain ⟨S1, eS1, hf⟩ := bd_some hf
  refine mr_puti B hM 0 (by decide) eS1 rfl (tyX7_ok 0 (by decide)) q1646 dX7_against_2 (fun H locs hM => ?_)
  refine lv_aload_n hx hb dX7_against_5 rfl (lv_at hl 0 rfl) ?_
  refine mr_get B hM 15 (v := .ref (D.2.1 15)) rfl (by decide) q1661 dX7_against_6 ?_
  refine lv_bipush (v := nI 8) hx hb dX7_against_9 bp8 ?_
  obtain ⟨v2, ev2, hiv2, hf⟩ := ald_some hf
  refine mr_iald B hM 15 (by decide) rfl hiv2 ev2 dX7_against_11 ?_
  refine lv_if_eq (tgt := 22) hx hb dX7_against_12 (by decide) (fun c3 => ?_) (fun c3 => ?_)
  · have hf := it_pos c3 hf
    refine lv_iconst (v := nI 0) hx hb dX7_against_22 ic0 ?_
    cases hf
    exact hret _ _ _ _ rfl hM dX7_against_23
  · have hf := it_neg c3 hf
    refine lv_aload_n hx hb dX7_against_15 rfl (lv_at hl 0 rfl) ?_
    obtain ⟨⟨r4, S5⟩, hcr4, hf⟩ := bnd_some hf
    have hf := u2_at hf
    refine mr_callV (rest := []) B hM (c_X7_canTell l D S1  hcr4) (cwV 0 hts (lw_V q1904 q1906 qs53 q113 q1907) rfl rfl rfl hd_X7_canTell ⟨Nat.le_of_ble_eq_true rfl, Nat.le_of_ble_eq_true rfl⟩) rfl hl.1 rfl (Nat.le_of_ble_eq_true rfl) dX7_against_16 ⟨Nat.zero_le _, Nat.zero_le _⟩ (fun H locs hM => ?_)
    refine lv_if_ne (tgt := 24) hx hb dX7_against_19 (by decide) (fun c6 => ?_) (fun c6 => ?_)
    · have hf := it_neg c6 hf
      refine lv_aload_n hx hb dX7_against_24 rfl (lv_at hl 0 rfl) ?_
      obtain ⟨S7, hcS7, hf⟩ := bnd_some hf
      refine mr_callV (rest := []) B hM (c_X7_prepare l D S5  hcS7) (cwV 0 hts (lw_V q2116 q2118 qs85 q113 q2119) rfl rfl rfl hd_X7_prepare ⟨Nat.le_of_ble_eq_true rfl, Nat.le_of_ble_eq_true rfl⟩) rfl hl.1 rfl (Nat.le_of_ble_eq_true rfl) dX7_against_25 ⟨Nat.zero_le _, Nat.zero_le _⟩ (fun H locs hM => ?_)
      refine lv_iconst (v := nI 0) hx hb dX7_against_28 ic0 ?_
      refine lv_istore_n (lv' := [(1, .int (nI 0)), (0, .ref D.1)]) hx hb dX7_against_29 rfl hl (by decide) rfl (fun ls hl => ?_)
      obtain ⟨y21, hxy21, hf⟩ := bnd_some hf
      have hy21 : (Sum.elim (fun t : Int32 × MS => ∀ (H : Heap) (locs : List Loc) (ls : Array Slot), m_I D s H locs t.2 → lv_has ls 2 [(0, .ref D.1), (1, .int t.1)] → W p l e r_X7_against s m args below meth c H locs 0 0 Q (F0 m 57 ls [])) (fun t : MS => ∀ (H : Heap) (locs : List Loc) (ls : Array Slot), m_I D s H locs t → lv_has ls 2 [] → W p l e r_X7_against s m args below meth c H locs 0 0 Q (F0 m 70 ls []))) y21 := by
        rcases y21 with ⟨x22, S23⟩ | S25
        · have hf := el_l hf
          have hf := u2_at hf
          intro H locs ls hM hl
          refine lv_aload_n hx hb dX7_against_57 rfl (lv_at hl 0 rfl) ?_
          refine lv_iload_n hx hb dX7_against_58 rfl (lv_at hl 1 rfl) ?_
          obtain ⟨S24, hcS24, hf⟩ := bnd_some hf
          refine mr_callV (rest := []) B hM (c_X7_takeWorld l D S23 x22 hcS24) (cwV 1 hts (lw_V q2156 q2158 qs93 q113 q2159) rfl rfl rfl hd_X7_takeWorld ⟨Nat.le_of_ble_eq_true rfl, Nat.le_of_ble_eq_true rfl⟩) rfl hl.1 rfl (Nat.le_of_ble_eq_true rfl) dX7_against_59 ⟨Nat.zero_le _, Nat.zero_le _⟩ (fun H locs hM => ?_)
          refine lv_iconst (v := nI 1) hx hb dX7_against_62 ic1 ?_
          cases hf
          exact hret _ _ _ _ rfl hM dX7_against_63
        · have hf := el_r hf
          intro H locs ls hM hl
          refine lv_iconst (v := nI 0) hx hb dX7_against_70 ic0 ?_
          cases hf
          exact hret _ _ _ _ rfl hM dX7_against_71
      refine lp_W (step := (fun t : Int32 × MS => f_X7_against_L30 t.1 t.2)) (fun t : Int32 × MS => ∀ (H : Heap) (locs : List Loc) (ls : Array Slot), m_I D s H locs t.2 → lv_has ls 2 [(0, .ref D.1), (1, .int t.1)] → W p l e r_X7_against s m args below meth c H locs 0 0 Q (F0 m 30 ls [])) (Sum.elim (fun t : Int32 × MS => ∀ (H : Heap) (locs : List Loc) (ls : Array Slot), m_I D s H locs t.2 → lv_has ls 2 [(0, .ref D.1), (1, .int t.1)] → W p l e r_X7_against s m args below meth c H locs 0 0 Q (F0 m 57 ls [])) (fun t : MS => ∀ (H : Heap) (locs : List Loc) (ls : Array Slot), m_I D s H locs t → lv_has ls 2 [] → W p l e r_X7_against s m args below meth c H locs 0 0 Q (F0 m 70 ls []))) ?_ fu (nI 0, S7) y21 hxy21 hy21 _ _ _ hM (lv_sub hl [1, 0] rfl)
      clear hf hxy21 hy21
      rintro ⟨x8, S9⟩ o (hf : f_X7_against_L30 x8 S9 = some o) hk
      intro H locs ls hM hl
      unfold f_X7_against_L30 at hf
      refine lv_iload_n hx hb dX7_against_30 rfl (lv_at hl 1 rfl) ?_
      refine lv_iconst (v := nI 1) hx hb dX7_against_31 ic1 ?_
      refine lv_aload_n hx hb dX7_against_32 rfl (lv_at hl 0 rfl) ?_
      obtain ⟨r10, hcr10, hf⟩ := bnd_some hf
      refine mr_callV (rest := [.int (nI 1), .int x8]) B hM (c_X7_manyFacts l D S9  hcr10) (cwV 0 hts (lw_V q1868 q1870 qs49 q113 q1871) rfl rfl rfl hd_X7_manyFacts ⟨Nat.le_of_ble_eq_true rfl, Nat.le_of_ble_eq_true rfl⟩) rfl hl.1 rfl (Nat.le_of_ble_eq_true rfl) dX7_against_33 ⟨Nat.zero_le _, Nat.zero_le _⟩ (fun H locs hM => ?_)
      refine lv_ishl hx hb dX7_against_36 ?_
      refine lv_icmp_ge (tgt := 70) hx hb dX7_against_37 (by decide) (fun c11 => ?_) (fun c11 => ?_)
      · have hf := it_pos c11 hf
        cases hf
        exact hk _ _ _ hM (lv_sub hl [] rfl)
      · have hf := it_neg c11 hf
        refine lv_aload_n hx hb dX7_against_40 rfl (lv_at hl 0 rfl) ?_
        refine lv_iload_n hx hb dX7_against_41 rfl (lv_at hl 1 rfl) ?_
        obtain ⟨⟨r12, S13⟩, hcr12, hf⟩ := bnd_some hf
        have hf := u2_at hf
        refine mr_callV (rest := []) B hM (c_X7_isForm l D S9 x8 hcr12) (cwV 1 hts (lw_V q2144 q2146 qs91 q113 q2147) rfl rfl rfl hd_X7_isForm ⟨Nat.le_of_ble_eq_true rfl, Nat.le_of_ble_eq_true rfl⟩) rfl hl.1 rfl (Nat.le_of_ble_eq_true rfl) dX7_against_42 ⟨Nat.zero_le _, Nat.zero_le _⟩ (fun H locs hM => ?_)
        refine lv_if_eq (tgt := 64) hx hb dX7_against_45 (by decide) (fun c14 => ?_) (fun c14 => ?_)
        · have hf := it_pos c14 hf
          obtain ⟨x15, ex15, hf⟩ := bd_some hf
          refine lv_iinc (v := x15) (lv' := [(1, .int x15), (0, .ref D.1)]) hx hb dX7_against_64 hl (k := 1) rfl (by rw [ex15]; first | done | rfl) (by decide) rfl (fun ls hl => ?_)
          refine lv_goto (tgt := 30) hx hb dX7_against_67 (by decide) ?_
          cases hf
          exact hk _ _ _ hM (lv_sub hl [1, 0] rfl)
        · have hf := it_neg c14 hf
          refine lv_aload_n hx hb dX7_against_48 rfl (lv_at hl 0 rfl) ?_
          refine lv_bipush (v := nI 8) hx hb dX7_against_49 bp8 ?_
          obtain ⟨⟨r16, S17⟩, hcr16, hf⟩ := bnd_some hf
          have hf := u2_at hf
          refine mr_callV (rest := []) B hM (c_X7_means l D S13 (nI 8) hcr16) (cwV 1 hts (lw_V q2070 q2072 qs77 q113 q2073) rfl rfl rfl hd_X7_means ⟨Nat.le_of_ble_eq_true rfl, Nat.le_of_ble_eq_true rfl⟩) rfl hl.1 rfl (Nat.le_of_ble_eq_true rfl) dX7_against_51 ⟨Nat.zero_le _, Nat.zero_le _⟩ (fun H locs hM => ?_)
          refine lv_if_ne (tgt := 64) hx hb dX7_against_54 (by decide) (fun c18 => ?_) (fun c18 => ?_)
          · have hf := it_neg c18 hf
            obtain ⟨x19, ex19, hf⟩ := bd_some hf
            refine lv_iinc (v := x19) (lv' := [(1, .int x19), (0, .ref D.1)]) hx hb dX7_against_64 hl (k := 1) rfl (by rw [ex19]; first | done | rfl) (by decide) rfl (fun ls hl => ?_)
            refine lv_goto (tgt := 30) hx hb dX7_against_67 (by decide) ?_
            cases hf
            exact hk _ _ _ hM (lv_sub hl [1, 0] rfl)
          · have hf := it_pos c18 hf
            cases hf
            exact hk _ _ _ hM (lv_sub hl [0, 1] rfl)
    · have hf := it_pos c6 hf
      refine lv_iconst (v := nI 0) hx hb dX7_against_22 ic0 ?_
      cases hf
      exact hret _ _ _ _ rfl hM dX7_against_23
def f_X7_many_L110 (S1 : MS) (x10 : Int32) (x11 : Int32) : Option ((Int32 × Int32) ⊕ ((Int32))) :=
  (if nI 36 ≤ x11 then some (.inr x10) else ald 144 (S1.1 11) x11 fun v13 => (if v13 = 0 then bd (x10 + nI 0) fun x15 => bd (x11 + nI 1) fun x16 => some (.inl (x15, x16)) else bd (x10 + nI 1) fun x17 => bd (x11 + nI 1) fun x18 => some (.inl (x17, x18))))
def f_X7_many (S : MS) (p0 : Int32) : Option (Int32 × MS) :=
  bd (m_up S 0 0 (nI 0)) fun S1 => (if p0 = nI 0 then ald 12 (S1.1 7) p0 fun v2 => some (v2, S1) else (if p0 = nI 1 then ald 12 (S1.1 7) p0 fun v3 => some (v3, S1) else (if p0 = nI 2 then ald 12 (S1.1 7) p0 fun v4 => some (v4, S1) else (if p0 = nI 3 then ald 4 (S1.1 8) (nI 0) fun v5 => some (v5, S1) else (if p0 = nI 4 then ald 4 (S1.1 12) (nI 0) fun v6 => some (v6, S1) else (if p0 = nI 5 then ald 4 (S1.1 5) (nI 0) fun v7 => some (v7, S1) else (if p0 = nI 6 then ald 4 (S1.1 6) (nI 0) fun v8 => some (v8, S1) else (if p0 = nI 7 then bnd (f_X7_told S1) fun r9 => some (r9, S1) else (if p0 = nI 8 then bnd (wO (fun t : Int32 × Int32 => f_X7_many_L110 S1 t.1 t.2) fu (nI 0, nI 0)) <| fun x21 => some (x21, S1) else (if p0 = nI 9 then ald 36 (S1.1 15) (nI 8) fun v22 => some (v22, S1) else (if p0 = nI 10 then ald 4 (S1.1 20) (nI 0) fun v23 => some (v23, S1) else some ((-2), S1))))))))))))
abbrev r_X7_many : Room := { frames := 1, cells := 0, slots := 0, locals := 23 }
set_option maxHeartbeats 4000000 in
set_option maxRecDepth 100000 in
theorem c_X7_many (l : Launch) (D : MD) (S : MS) (p0 : Int32) {r : Int32} {S' : MS} (hf : f_X7_many S p0 = some (r, S')) : m_Met l yX7_many cX7_many 4 (Option.some Jvm.ClassFile.FieldType.int) r_X7_many D [.ref D.1, .int p0] S (some (.int r)) S' := by
  refine m_metI (F := 1) (L := 23) (by decide) rfl (Nat.le_of_ble_eq_true rfl) (fun p e s m args below meth c Q B hret hM ls hl => ?_)
  have hx := B.1
  have hb := B.2.1
  have hown := B.2.2.2.1
  have hts := B.2.2.2.2
  have hl : lv_has ls 4 [(0, .ref D.1), (1, .int p0)] := hl
  generalize s.heap = H, ([] : List Loc) = locs at hM ⊢
  unfold f_X7_many at hf
  refine lv_aload_n hx hb dX7_many_0 rfl (lv_at hl 0 rfl) ?_
  refine lv_iconst (v := nI 0) hx hb dX7_many_1 ic0 ?_
  obtain ⟨S1, eS1, hf⟩ := bd_some hf
  refine mr_puti B hM 0 (by decide) eS1 rfl (tyX7_ok 0 (by decide)) q1646 dX7_many_2 (fun H locs hM => ?_)
  refine lv_iconst (v := nI 0) hx hb dX7_many_5 ic0 ?_
  refine lv_istore_n (lv' := [(2, .int (nI 0)), (0, .ref D.1), (1, .int p0)]) hx hb dX7_many_6 rfl hl (by decide) rfl (fun ls hl => ?_)
  refine lv_iload_n hx hb dX7_many_7 rfl (lv_at hl 2 rfl) ?_
  by_cases cdX7_many_8_0 : p0 = nI 0
  · have hf := it_pos cdX7_many_8_0 hf
    refine lv_tableIn (tgt := 68) hx hb dX7_many_8 (by rw [cdX7_many_8_0]; decide) (by rw [cdX7_many_8_0]; decide) (by rw [cdX7_many_8_0]; rfl) (by decide) ?_
    refine lv_aload_n hx hb dX7_many_68 rfl (lv_at hl 1 rfl) ?_
    refine mr_get B hM 7 (v := .ref (D.2.1 7)) rfl (by decide) q1653 dX7_many_69 ?_
    refine lv_iload_n hx hb dX7_many_72 rfl (lv_at hl 2 rfl) ?_
    obtain ⟨v2, ev2, hiv2, hf⟩ := ald_some hf
    refine mr_iald B hM 7 (by decide) rfl hiv2 ev2 dX7_many_73 ?_
    cases hf
    exact hret _ _ _ _ rfl hM dX7_many_74
  · have hf := it_neg cdX7_many_8_0 hf
    by_cases cdX7_many_8_1 : p0 = nI 1
    · have hf := it_pos cdX7_many_8_1 hf
      refine lv_tableIn (tgt := 68) hx hb dX7_many_8 (by rw [cdX7_many_8_1]; decide) (by rw [cdX7_many_8_1]; decide) (by rw [cdX7_many_8_1]; rfl) (by decide) ?_
      refine lv_aload_n hx hb dX7_many_68 rfl (lv_at hl 1 rfl) ?_
      refine mr_get B hM 7 (v := .ref (D.2.1 7)) rfl (by decide) q1653 dX7_many_69 ?_
      refine lv_iload_n hx hb dX7_many_72 rfl (lv_at hl 2 rfl) ?_
      obtain ⟨v3, ev3, hiv3, hf⟩ := ald_some hf
      refine mr_iald B hM 7 (by decide) rfl hiv3 ev3 dX7_many_73 ?_
      cases hf
      exact hret _ _ _ _ rfl hM dX7_many_74
    · have hf := it_neg cdX7_many_8_1 hf
      by_cases cdX7_many_8_2 : p0 = nI 2
      · have hf := it_pos cdX7_many_8_2 hf
        refine lv_tableIn (tgt := 68) hx hb dX7_many_8 (by rw [cdX7_many_8_2]; decide) (by rw [cdX7_many_8_2]; decide) (by rw [cdX7_many_8_2]; rfl) (by decide) ?_
        refine lv_aload_n hx hb dX7_many_68 rfl (lv_at hl 1 rfl) ?_
        refine mr_get B hM 7 (v := .ref (D.2.1 7)) rfl (by decide) q1653 dX7_many_69 ?_
        refine lv_iload_n hx hb dX7_many_72 rfl (lv_at hl 2 rfl) ?_
        obtain ⟨v4, ev4, hiv4, hf⟩ := ald_some hf
        refine mr_iald B hM 7 (by decide) rfl hiv4 ev4 dX7_many_73 ?_
        cases hf
        exact hret _ _ _ _ rfl hM dX7_many_74
      · have hf := it_neg cdX7_many_8_2 hf
        by_cases cdX7_many_8_3 : p0 = nI 3
        · have hf := it_pos cdX7_many_8_3 hf
          refine lv_tableIn (tgt := 75) hx hb dX7_many_8 (by rw [cdX7_many_8_3]; decide) (by rw [cdX7_many_8_3]; decide) (by rw [cdX7_many_8_3]; rfl) (by decide) ?_
          refine lv_aload_n hx hb dX7_many_75 rfl (lv_at hl 1 rfl) ?_
          refine mr_get B hM 8 (v := .ref (D.2.1 8)) rfl (by decide) q1654 dX7_many_76 ?_
          refine lv_iconst (v := nI 0) hx hb dX7_many_79 ic0 ?_
          obtain ⟨v5, ev5, hiv5, hf⟩ := ald_some hf
          refine mr_iald B hM 8 (by decide) rfl hiv5 ev5 dX7_many_80 ?_
          cases hf
          exact hret _ _ _ _ rfl hM dX7_many_81
        · have hf := it_neg cdX7_many_8_3 hf
          by_cases cdX7_many_8_4 : p0 = nI 4
          · have hf := it_pos cdX7_many_8_4 hf
            refine lv_tableIn (tgt := 82) hx hb dX7_many_8 (by rw [cdX7_many_8_4]; decide) (by rw [cdX7_many_8_4]; decide) (by rw [cdX7_many_8_4]; rfl) (by decide) ?_
            refine lv_aload_n hx hb dX7_many_82 rfl (lv_at hl 1 rfl) ?_
            refine mr_get B hM 12 (v := .ref (D.2.1 12)) rfl (by decide) q1658 dX7_many_83 ?_
            refine lv_iconst (v := nI 0) hx hb dX7_many_86 ic0 ?_
            obtain ⟨v6, ev6, hiv6, hf⟩ := ald_some hf
            refine mr_iald B hM 12 (by decide) rfl hiv6 ev6 dX7_many_87 ?_
            cases hf
            exact hret _ _ _ _ rfl hM dX7_many_88
          · have hf := it_neg cdX7_many_8_4 hf
            by_cases cdX7_many_8_5 : p0 = nI 5
            · have hf := it_pos cdX7_many_8_5 hf
              refine lv_tableIn (tgt := 89) hx hb dX7_many_8 (by rw [cdX7_many_8_5]; decide) (by rw [cdX7_many_8_5]; decide) (by rw [cdX7_many_8_5]; rfl) (by decide) ?_
              refine lv_aload_n hx hb dX7_many_89 rfl (lv_at hl 1 rfl) ?_
              refine mr_get B hM 5 (v := .ref (D.2.1 5)) rfl (by decide) q1651 dX7_many_90 ?_
              refine lv_iconst (v := nI 0) hx hb dX7_many_93 ic0 ?_
              obtain ⟨v7, ev7, hiv7, hf⟩ := ald_some hf
              refine mr_iald B hM 5 (by decide) rfl hiv7 ev7 dX7_many_94 ?_
              cases hf
              exact hret _ _ _ _ rfl hM dX7_many_95
            · have hf := it_neg cdX7_many_8_5 hf
              by_cases cdX7_many_8_6 : p0 = nI 6
              · have hf := it_pos cdX7_many_8_6 hf
                refine lv_tableIn (tgt := 96) hx hb dX7_many_8 (by rw [cdX7_many_8_6]; decide) (by rw [cdX7_many_8_6]; decide) (by rw [cdX7_many_8_6]; rfl) (by decide) ?_
                refine lv_aload_n hx hb dX7_many_96 rfl (lv_at hl 1 rfl) ?_
                refine mr_get B hM 6 (v := .ref (D.2.1 6)) rfl (by decide) q1652 dX7_many_97 ?_
                refine lv_iconst (v := nI 0) hx hb dX7_many_100 ic0 ?_
                obtain ⟨v8, ev8, hiv8, hf⟩ := ald_some hf
                refine mr_iald B hM 6 (by decide) rfl hiv8 ev8 dX7_many_101 ?_
                cases hf
                exact hret _ _ _ _ rfl hM dX7_many_102
              · have hf := it_neg cdX7_many_8_6 hf
                by_cases cdX7_many_8_7 : p0 = nI 7
                · have hf := it_pos cdX7_many_8_7 hf
                  refine lv_tableIn (tgt := 103) hx hb dX7_many_8 (by rw [cdX7_many_8_7]; decide) (by rw [cdX7_many_8_7]; decide) (by rw [cdX7_many_8_7]; rfl) (by decide) ?_
                  refine lv_aload_n hx hb dX7_many_103 rfl (lv_at hl 1 rfl) ?_
                  obtain ⟨r9, hcr9, hf⟩ := bnd_some hf
                  refine mr_callV (rest := []) B hM (c_X7_told l D S1  hcr9) (cwV 0 hts (lw_V q2120 q2122 qs86 q113 q2123) rfl rfl rfl hd_X7_told ⟨Nat.le_of_ble_eq_true rfl, Nat.le_of_ble_eq_true rfl⟩) rfl hl.1 rfl (Nat.le_of_ble_eq_true rfl) dX7_many_104 ⟨Nat.zero_le _, Nat.zero_le _⟩ (fun H locs hM => ?_)
                  cases hf
                  exact hret _ _ _ _ rfl hM dX7_many_107
                · have hf := it_neg cdX7_many_8_7 hf
                  by_cases cdX7_many_8_8 : p0 = nI 8
                  · have hf := it_pos cdX7_many_8_8 hf
                    refine lv_tableIn (tgt := 108) hx hb dX7_many_8 (by rw [cdX7_many_8_8]; decide) (by rw [cdX7_many_8_8]; decide) (by rw [cdX7_many_8_8]; rfl) (by decide) ?_
                    refine lv_iconst (v := nI 0) hx hb dX7_many_108 ic0 ?_
                    refine lv_istore_n (lv' := [(3, .int (nI 0)), (2, .int (nI 0)), (0, .ref D.1), (1, .int p0)]) hx hb dX7_many_109 rfl hl (by decide) rfl (fun ls hl => ?_)
                    obtain ⟨y20, hxy20, hf⟩ := bnd_some hf
                    have hy20 : (fun t : Int32 => ∀ (H : Heap) (locs : List Loc) (ls : Array Slot), m_I D s H locs S1 → lv_has ls 4 [(2, .int t)] → W p l e r_X7_many s m args below meth c H locs 0 0 Q (F0 m 139 ls [])) y20 := by
                      obtain ⟨x21, rfl⟩ : ∃ z, z = y20 := ⟨_, rfl⟩
                      intro H locs ls hM hl
                      refine lv_iload_n hx hb dX7_many_139 rfl (lv_at hl 0 rfl) ?_
                      cases hf
                      exact hret _ _ _ _ rfl hM dX7_many_140
                    refine lp_W (step := (fun t : Int32 × Int32 => f_X7_many_L110 S1 t.1 t.2)) (fun t : Int32 × Int32 => ∀ (H : Heap) (locs : List Loc) (ls : Array Slot), m_I D s H locs S1 → lv_has ls 4 [(0, .ref D.1), (2, .int t.1), (3, .int t.2)] → W p l e r_X7_many s m args below meth c H locs 0 0 Q (F0 m 110 ls [])) (fun t : Int32 => ∀ (H : Heap) (locs : List Loc) (ls : Array Slot), m_I D s H locs S1 → lv_has ls 4 [(2, .int t)] → W p l e r_X7_many s m args below meth c H locs 0 0 Q (F0 m 139 ls [])) ?_ fu (nI 0, nI 0) y20 hxy20 hy20 _ _ _ hM (lv_sub hl [2, 1, 0] rfl)
                    clear hf hxy20 hy20
                    rintro ⟨x10, x11⟩ o (hf : f_X7_many_L110 S1 x10 x11 = some o) hk
                    intro H locs ls hM hl
                    unfold f_X7_many_L110 at hf
                    refine lv_iload_n hx hb dX7_many_110 rfl (lv_at hl 2 rfl) ?_
                    refine lv_bipush (v := nI 36) hx hb dX7_many_111 bp36 ?_
                    refine lv_icmp_ge (tgt := 139) hx hb dX7_many_113 (by decide) (fun c12 => ?_) (fun c12 => ?_)
                    · have hf := it_pos c12 hf
                      cases hf
                      exact hk _ _ _ hM (lv_sub hl [1] rfl)
                    · have hf := it_neg c12 hf
                      refine lv_iload_n hx hb dX7_many_116 rfl (lv_at hl 1 rfl) ?_
                      refine lv_aload_n hx hb dX7_many_117 rfl (lv_at hl 0 rfl) ?_
                      refine mr_get B hM 11 (v := .ref (D.2.1 11)) rfl (by decide) q1657 dX7_many_118 ?_
                      refine lv_iload_n hx hb dX7_many_121 rfl (lv_at hl 2 rfl) ?_
                      obtain ⟨v13, ev13, hiv13, hf⟩ := ald_some hf
                      refine mr_zald B hM 11 (by decide) rfl hiv13 ev13 dX7_many_122 ?_
                      refine lv_if_eq (tgt := 130) hx hb dX7_many_123 (by decide) (fun c14 => ?_) (fun c14 => ?_)
                      · have hf := it_pos c14 hf
                        refine lv_iconst (v := nI 0) hx hb dX7_many_130 ic0 ?_
                        refine lv_iadd hx hb dX7_many_131 ?_
                        refine lv_topi (fun x15 ex15 => ?_)
                        have hf := bd_at ex15 hf
                        refine lv_istore_n (lv' := [(2, .int x15), (0, .ref D.1), (3, .int x11)]) hx hb dX7_many_132 rfl hl (by decide) rfl (fun ls hl => ?_)
                        obtain ⟨x16, ex16, hf⟩ := bd_some hf
                        refine lv_iinc (v := x16) (lv' := [(3, .int x16), (2, .int x15), (0, .ref D.1)]) hx hb dX7_many_133 hl (k := 2) rfl (by rw [ex16]; first | done | rfl) (by decide) rfl (fun ls hl => ?_)
                        refine lv_goto (tgt := 110) hx hb dX7_many_136 (by decide) ?_
                        cases hf
                        exact hk _ _ _ hM (lv_sub hl [2, 1, 0] rfl)
                      · have hf := it_neg c14 hf
                        refine lv_iconst (v := nI 1) hx hb dX7_many_126 ic1 ?_
                        refine lv_goto (tgt := 131) hx hb dX7_many_127 (by decide) ?_
                        refine lv_iadd hx hb dX7_many_131 ?_
                        refine lv_topi (fun x17 ex17 => ?_)
                        have hf := bd_at ex17 hf
                        refine lv_istore_n (lv' := [(2, .int x17), (0, .ref D.1), (3, .int x11)]) hx hb dX7_many_132 rfl hl (by decide) rfl (fun ls hl => ?_)
                        obtain ⟨x18, ex18, hf⟩ := bd_some hf
                        refine lv_iinc (v := x18) (lv' := [(3, .int x18), (2, .int x17), (0, .ref D.1)]) hx hb dX7_many_133 hl (k := 2) rfl (by rw [ex18]; first | done | rfl) (by decide) rfl (fun ls hl => ?_)
                        refine lv_goto (tgt := 110) hx hb dX7_many_136 (by decide) ?_
                        cases hf
                        exact hk _ _ _ hM (lv_sub hl [2, 1, 0] rfl)
                  · have hf := it_neg cdX7_many_8_8 hf
                    by_cases cdX7_many_8_9 : p0 = nI 9
                    · have hf := it_pos cdX7_many_8_9 hf
                      refine lv_tableIn (tgt := 141) hx hb dX7_many_8 (by rw [cdX7_many_8_9]; decide) (by rw [cdX7_many_8_9]; decide) (by rw [cdX7_many_8_9]; rfl) (by decide) ?_
                      refine lv_aload_n hx hb dX7_many_141 rfl (lv_at hl 1 rfl) ?_
                      refine mr_get B hM 15 (v := .ref (D.2.1 15)) rfl (by decide) q1661 dX7_many_142 ?_
                      refine lv_bipush (v := nI 8) hx hb dX7_many_145 bp8 ?_
                      obtain ⟨v22, ev22, hiv22, hf⟩ := ald_some hf
                      refine mr_iald B hM 15 (by decide) rfl hiv22 ev22 dX7_many_147 ?_
                      cases hf
                      exact hret _ _ _ _ rfl hM dX7_many_148
                    · have hf := it_neg cdX7_many_8_9 hf
                      by_cases cdX7_many_8_10 : p0 = nI 10
                      · have hf := it_pos cdX7_many_8_10 hf
                        refine lv_tableIn (tgt := 149) hx hb dX7_many_8 (by rw [cdX7_many_8_10]; decide) (by rw [cdX7_many_8_10]; decide) (by rw [cdX7_many_8_10]; rfl) (by decide) ?_
                        refine lv_aload_n hx hb dX7_many_149 rfl (lv_at hl 1 rfl) ?_
                        refine mr_get B hM 20 (v := .ref (D.2.1 20)) rfl (by decide) q1666 dX7_many_150 ?_
                        refine lv_iconst (v := nI 0) hx hb dX7_many_153 ic0 ?_
                        obtain ⟨v23, ev23, hiv23, hf⟩ := ald_some hf
                        refine mr_iald B hM 20 (by decide) rfl hiv23 ev23 dX7_many_154 ?_
                        cases hf
                        exact hret _ _ _ _ rfl hM dX7_many_155
                      · have hf := it_neg cdX7_many_8_10 hf
                        refine lv_tableOut (tgt := 156) hx hb dX7_many_8 (by have := lv_neT (a := 0) cdX7_many_8_0 (by decide); have := lv_neT (a := 1) cdX7_many_8_1 (by decide); have := lv_neT (a := 2) cdX7_many_8_2 (by decide); have := lv_neT (a := 3) cdX7_many_8_3 (by decide); have := lv_neT (a := 4) cdX7_many_8_4 (by decide); have := lv_neT (a := 5) cdX7_many_8_5 (by decide); have := lv_neT (a := 6) cdX7_many_8_6 (by decide); have := lv_neT (a := 7) cdX7_many_8_7 (by decide); have := lv_neT (a := 8) cdX7_many_8_8 (by decide); have := lv_neT (a := 9) cdX7_many_8_9 (by decide); have := lv_neT (a := 10) cdX7_many_8_10 (by decide); omega) (by decide) ?_
                        refine lv_bipush (v := (-2)) hx hb dX7_many_156 bpm2 ?_
                        cases hf
                        exact hret _ _ _ _ rfl hM dX7_many_158
def f_X7_move_L3 (k0 : Nat) (p1 : Int32) (p2 : Int32) (p3 : Int32) (x1 : Int32) (S2 : MS) : Option ((Int32 × MS) ⊕ ((MS))) :=
  (if p1 ≤ x1 then some (.inr S2) else ald (m_len k0) (S2.1 k0) ((p1 * p2) + x1) fun v4 => ast (m_len k0) ((p1 * p3) + x1) (m_up S2 k0 ((p1 * p3) + x1).toNatClampNeg v4) fun S5 => bd (x1 + nI 1) fun x6 => some (.inl (x6, S5)))
def f_X7_move (S : MS) (k0 : Nat) (p1 : Int32) (p2 : Int32) (p3 : Int32) : Option MS :=
  bnd (wO (fun t : Int32 × MS => f_X7_move_L3 k0 p1 p2 p3 t.1 t.2) fu (nI 0, S)) <| fun S9 => some S9
abbrev r_X7_move : Room := { frames := 0, cells := 0, slots := 0, locals := 0 }
set_option maxHeartbeats 4000000 in
set_option maxRecDepth 100000 in
theorem c_X7_move (l : Launch) (D : MD) (S : MS) (k0 : Nat) (hka : 0 < m_len k0) (hkta : m_ty k0 = .int) (p1 : Int32) (p2 : Int32) (p3 : Int32) {S' : MS} (hf : f_X7_move S k0 p1 p2 p3 = some S') : m_Met l yX7_move cX7_move 5 (Option.none : Option Jvm.ClassFile.FieldType) r_X7_move D [.ref (D.2.1 k0), .int p1, .int p2, .int p3] S none S' := by
  refine m_metV (F := 0) (L := 0) (by decide) rfl (Nat.le_of_ble_eq_true rfl) (fun p e s m args below meth c Q B hret hM ls hl => ?_)
  have hx := B.1
  have hb := B.2.1
  have hown := B.2.2.2.1
  have hts := B.2.2.2.2
  have hl : lv_has ls 5 [(0, .ref (D.2.1 k0)), (1, .int p1), (2, .int p2), (3, .int p3)] := hl
  generalize s.heap = H, ([] : List Loc) = locs at hM ⊢
  unfold f_X7_move at hf
  refine lv_iconst (v := nI 0) hx hb dX7_move_0 ic0 ?_
  refine lv_istore (lv' := [(4, .int (nI 0)), (0, .ref (D.2.1 k0)), (1, .int p1), (2, .int p2), (3, .int p3)]) hx hb dX7_move_1 hl (by decide) rfl (fun ls hl => ?_)
  obtain ⟨y8, hxy8, hf⟩ := bnd_some hf
  have hy8 : (fun t : MS => ∀ (H : Heap) (locs : List Loc) (ls : Array Slot), m_I D s H locs t → lv_has ls 5 [] → W p l e r_X7_move s m args below meth c H locs 0 0 Q (F0 m 31 ls [])) y8 := by
    obtain ⟨S9, rfl⟩ : ∃ z, z = y8 := ⟨_, rfl⟩
    intro H locs ls hM hl
    cases hf
    exact hret _ _ _ _ hM dX7_move_31
  refine lp_W (step := (fun t : Int32 × MS => f_X7_move_L3 k0 p1 p2 p3 t.1 t.2)) (fun t : Int32 × MS => ∀ (H : Heap) (locs : List Loc) (ls : Array Slot), m_I D s H locs t.2 → lv_has ls 5 [(0, .ref (D.2.1 k0)), (1, .int p1), (2, .int p2), (3, .int p3), (4, .int t.1)] → W p l e r_X7_move s m args below meth c H locs 0 0 Q (F0 m 3 ls [])) (fun t : MS => ∀ (H : Heap) (locs : List Loc) (ls : Array Slot), m_I D s H locs t → lv_has ls 5 [] → W p l e r_X7_move s m args below meth c H locs 0 0 Q (F0 m 31 ls [])) ?_ fu (nI 0, S) y8 hxy8 hy8 _ _ _ hM (lv_sub hl [1, 2, 3, 4, 0] rfl)
  clear hf hxy8 hy8
  rintro ⟨x1, S2⟩ o (hf : f_X7_move_L3 k0 p1 p2 p3 x1 S2 = some o) hk
  intro H locs ls hM hl
  unfold f_X7_move_L3 at hf
  refine lv_iload hx hb dX7_move_3 (lv_at hl 4 rfl) ?_
  refine lv_iload_n hx hb dX7_move_5 rfl (lv_at hl 1 rfl) ?_
  refine lv_icmp_ge (tgt := 31) hx hb dX7_move_6 (by decide) (fun c3 => ?_) (fun c3 => ?_)
  · have hf := it_pos c3 hf
    cases hf
    exact hk _ _ _ hM (lv_sub hl [] rfl)
  · have hf := it_neg c3 hf
    refine lv_aload_n hx hb dX7_move_9 rfl (lv_at hl 0 rfl) ?_
    refine lv_iload_n hx hb dX7_move_10 rfl (lv_at hl 1 rfl) ?_
    refine lv_iload_n hx hb dX7_move_11 rfl (lv_at hl 3 rfl) ?_
    refine lv_imul hx hb dX7_move_12 ?_
    refine lv_iload hx hb dX7_move_13 (lv_at hl 4 rfl) ?_
    refine lv_iadd hx hb dX7_move_15 ?_
    refine lv_aload_n hx hb dX7_move_16 rfl (lv_at hl 0 rfl) ?_
    refine lv_iload_n hx hb dX7_move_17 rfl (lv_at hl 1 rfl) ?_
    refine lv_iload_n hx hb dX7_move_18 rfl (lv_at hl 2 rfl) ?_
    refine lv_imul hx hb dX7_move_19 ?_
    refine lv_iload hx hb dX7_move_20 (lv_at hl 4 rfl) ?_
    refine lv_iadd hx hb dX7_move_22 ?_
    obtain ⟨v4, ev4, hiv4, hf⟩ := ald_some hf
    refine mr_iald B hM k0 hka hkta hiv4 ev4 dX7_move_23 ?_
    obtain ⟨S5, eS5, hiS5, hf⟩ := ast_some hf
    refine mr_iast B hM k0 hka hkta hiS5 eS5 dX7_move_24 (fun H locs hM => ?_)
    obtain ⟨x6, ex6, hf⟩ := bd_some hf
    refine lv_iinc (v := x6) (lv' := [(4, .int x6), (0, .ref (D.2.1 k0)), (1, .int p1), (2, .int p2), (3, .int p3)]) hx hb dX7_move_25 hl (k := 4) rfl (by rw [ex6]; first | done | rfl) (by decide) rfl (fun ls hl => ?_)
    refine lv_goto (tgt := 3) hx hb dX7_move_28 (by decide) ?_
    cases hf
    exact hk _ _ _ hM (lv_sub hl [1, 2, 3, 4, 0] rfl)
