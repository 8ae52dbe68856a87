set_option maxRecDepth 100000
def f_X7_leaf_J216_12 (x8 : Int32) (S9 : MS) (x36 : Int32) : Option ((Int32 × MS) ⊕ ((MS))) :=
  ast 3321 ((nI 81 * (S9.1 46 0)) + x8) (m_up S9 45 ((nI 81 * (S9.1 46 0)) + x8).toNatClampNeg (vp_nar .boolean x36)) fun S37 => bd (x8 + nI 1) fun x38 => some (.inl (x38, S37))
def f_X7_leaf_L51 (p0 : Int32) (v1 : Int32) (x8 : Int32) (S9 : MS) : Option ((Int32 × MS) ⊕ ((MS))) :=
  (if nI 81 ≤ x8 then some (.inr S9) else (if v1 = nI 8 then ald 1440 (S9.1 17) p0 fun v31 => bnd (f_X7_valueIn x8 v31) fun r32 => ald 1440 (S9.1 18) p0 fun v33 => bnd (f_X7_valueIn x8 v33) fun r34 => (if r32 = r34 then f_X7_leaf_J216_12 x8 S9 (nI 1) else f_X7_leaf_J216_12 x8 S9 (nI 0)) else (if v1 = nI 9 then ald 1440 (S9.1 18) p0 fun v26 => bnd (f_X7_valueIn x8 v26) fun r27 => ald 1440 (S9.1 19) p0 fun v28 => bnd (f_X7_valueIn x8 v28) fun r29 => ald 9 (S9.1 47) ((nI 3 * r27) + r29) fun v30 => f_X7_leaf_J216_12 x8 S9 v30 else (if v1 = nI 11 then ald 1440 (S9.1 17) p0 fun v22 => ald 1440 (S9.1 18) p0 fun v23 => bnd (f_X7_valueIn x8 v23) fun r24 => bnd (f_X7_isSo S9 v22 r24 (nI 0)) fun r25 => f_X7_leaf_J216_12 x8 S9 r25 else (if v1 = nI 12 then ald 1440 (S9.1 17) p0 fun v16 => ald 1440 (S9.1 18) p0 fun v17 => bnd (f_X7_valueIn x8 v17) fun r18 => ald 1440 (S9.1 19) p0 fun v19 => bnd (f_X7_valueIn x8 v19) fun r20 => bnd (f_X7_isSo S9 v16 r18 r20) fun r21 => f_X7_leaf_J216_12 x8 S9 r21 else f_X7_leaf_J216_12 x8 S9 (nI 0))))))
def f_X7_leaf_J48_4 (p0 : Int32) (v1 : Int32) (S7 : MS) : Option MS :=
  bnd (wO (fun t : Int32 × MS => f_X7_leaf_L51 p0 v1 t.1 t.2) fu (nI 0, S7)) <| fun S41 => bd (m_up S41 46 0 ((S41.1 46 0) + nI 1)) fun S42 => some S42
def f_X7_leaf_J216_58 (x54 : Int32) (S55 : MS) (x82 : Int32) : Option ((Int32 × MS) ⊕ ((MS))) :=
  ast 3321 ((nI 81 * (S55.1 46 0)) + x54) (m_up S55 45 ((nI 81 * (S55.1 46 0)) + x54).toNatClampNeg (vp_nar .boolean x82)) fun S83 => bd (x54 + nI 1) fun x84 => some (.inl (x84, S83))
def f_X7_leaf_L51_85 (p0 : Int32) (v1 : Int32) (x48 : Int32) (x54 : Int32) (S55 : MS) : Option ((Int32 × MS) ⊕ ((MS))) :=
  (if nI 81 ≤ x54 then some (.inr S55) else (if v1 = nI 8 then ald 1440 (S55.1 17) p0 fun v77 => bnd (f_X7_valueIn x54 v77) fun r78 => ald 1440 (S55.1 18) p0 fun v79 => bnd (f_X7_valueIn x54 v79) fun r80 => (if r78 = r80 then f_X7_leaf_J216_58 x54 S55 (nI 1) else f_X7_leaf_J216_58 x54 S55 (nI 0)) else (if v1 = nI 9 then ald 1440 (S55.1 18) p0 fun v72 => bnd (f_X7_valueIn x54 v72) fun r73 => ald 1440 (S55.1 19) p0 fun v74 => bnd (f_X7_valueIn x54 v74) fun r75 => ald 9 (S55.1 47) ((nI 3 * r73) + r75) fun v76 => f_X7_leaf_J216_58 x54 S55 v76 else (if v1 = nI 11 then ald 1440 (S55.1 17) p0 fun v68 => ald 1440 (S55.1 18) p0 fun v69 => bnd (f_X7_valueIn x54 v69) fun r70 => bnd (f_X7_isSo S55 v68 r70 (nI 0)) fun r71 => f_X7_leaf_J216_58 x54 S55 r71 else (if v1 = nI 12 then ald 1440 (S55.1 17) p0 fun v62 => ald 1440 (S55.1 18) p0 fun v63 => bnd (f_X7_valueIn x54 v63) fun r64 => ald 1440 (S55.1 19) p0 fun v65 => bnd (f_X7_valueIn x54 v65) fun r66 => bnd (f_X7_isSo S55 v62 r64 r66) fun r67 => f_X7_leaf_J216_58 x54 S55 r67 else f_X7_leaf_J216_58 x54 S55 x48)))))
def f_X7_leaf_J48_50 (p0 : Int32) (v1 : Int32) (x48 : Int32) (S53 : MS) : Option MS :=
  bnd (wO (fun t : Int32 × MS => f_X7_leaf_L51_85 p0 v1 x48 t.1 t.2) fu (nI 0, S53)) <| fun S87 => bd (m_up S87 46 0 ((S87.1 46 0) + nI 1)) fun S88 => some S88
def f_X7_leaf (S : MS) (p0 : Int32) : Option MS :=
  ald 1440 (S.1 16) p0 fun v1 => (if v1 = nI 10 then ald 1440 (S.1 17) p0 fun v43 => bnd (f_X7_isTree S v43) <| u2 fun r44 S45 => bd (if r44 = 0 then nI 0 else nI 1) fun x48 => (if v1 = nI 9 then ald 1440 (S45.1 17) p0 fun v51 => bnd (f_X7_findJoined S45 v51) fun S52 => f_X7_leaf_J48_50 p0 v1 x48 S52 else f_X7_leaf_J48_50 p0 v1 x48 S45) else (if v1 = nI 9 then ald 1440 (S.1 17) p0 fun v5 => bnd (f_X7_findJoined S v5) fun S6 => f_X7_leaf_J48_4 p0 v1 S6 else f_X7_leaf_J48_4 p0 v1 S))
abbrev r_X7_leaf : Room := { frames := 5, cells := 0, slots := 0, locals := 118 }
set_option maxHeartbeats 4000000 in
set_option maxRecDepth 100000 in
theorem c_X7_leaf (l : Launch) (D : MD) (S : MS) (p0 : Int32) {S' : MS} (hf : f_X7_leaf S p0 = some S') : m_Met l yX7_leaf cX7_leaf 6 (Option.none : Option Jvm.ClassFile.FieldType) r_X7_leaf D [.ref D.1, .int p0] S none S' := by
  refine m_metV (F := 5) (L := 118) (by decide) rfl (Nat.le_of_ble_eq_true rfl) (fun p e s m args below meth c Q B hret hM ls hl => ?_)
  have hx := B.1
  have hb := B.2.1
  have hown := B.2.2.2.1
  have hts := B.2.2.2.2
  have hl : lv_has ls 6 [(0, .ref D.1), (1, .int p0)] := hl
  generalize s.heap = H, ([] : List Loc) = locs at hM ⊢
  unfold f_X7_leaf at hf
  refine lv_aload_n hx hb dX7_leaf_0 rfl (lv_at hl 0 rfl) ?_
  refine mr_get B hM 16 (v := .ref (D.2.1 16)) rfl (by decide) q1662 dX7_leaf_1 ?_
  refine lv_iload_n hx hb dX7_leaf_4 rfl (lv_at hl 1 rfl) ?_
  obtain ⟨v1, ev1, hiv1, hf⟩ := ald_some hf
  refine mr_iald B hM 16 (by decide) rfl hiv1 ev1 dX7_leaf_5 ?_
  refine lv_istore_n (lv' := [(2, .int v1), (0, .ref D.1), (1, .int p0)]) hx hb dX7_leaf_6 rfl hl (by decide) rfl (fun ls hl => ?_)
  refine lv_iload_n hx hb dX7_leaf_7 rfl (lv_at hl 0 rfl) ?_
  refine lv_bipush (v := nI 10) hx hb dX7_leaf_8 bp10 ?_
  refine lv_icmp_ne (tgt := 30) hx hb dX7_leaf_10 (by decide) (fun c2 => ?_) (fun c2 => ?_)
  · have hf := it_neg c2 hf
    refine lv_iconst (v := nI 0) hx hb dX7_leaf_30 ic0 ?_
    refine lv_istore_n (lv' := [(3, .int (nI 0)), (2, .int v1), (0, .ref D.1), (1, .int p0)]) hx hb dX7_leaf_31 rfl hl (by decide) rfl (fun ls hl => ?_)
    refine lv_iload_n hx hb dX7_leaf_32 rfl (lv_at hl 1 rfl) ?_
    refine lv_bipush (v := nI 9) hx hb dX7_leaf_33 bp9 ?_
    have j4 : ∀ (S7 : MS), f_X7_leaf_J48_4 p0 v1 S7 = some S' → ∀ (H : Heap) (locs : List Loc) (ls : Array Slot), m_I D s H locs S7 → lv_has ls 6 [(0, .ref D.1), (1, .int p0), (2, .int v1), (3, .int (nI 0))] → W p l e r_X7_leaf s m args below meth c H locs 0 0 Q (F0 m 48 ls []) := by
      intro S7 hf
      intro H locs ls hM hl
      unfold f_X7_leaf_J48_4 at hf
      refine lv_iconst (v := nI 0) hx hb dX7_leaf_48 ic0 ?_
      refine lv_istore (lv' := [(4, .int (nI 0)), (0, .ref D.1), (1, .int p0), (2, .int v1), (3, .int (nI 0))]) hx hb dX7_leaf_49 hl (by decide) rfl (fun ls hl => ?_)
      obtain ⟨y40, hxy40, hf⟩ := bnd_some hf
      have hy40 : (fun t : MS => ∀ (H : Heap) (locs : List Loc) (ls : Array Slot), m_I D s H locs t → lv_has ls 6 [(0, .ref D.1)] → W p l e r_X7_leaf s m args below meth c H locs 0 0 Q (F0 m 239 ls [])) y40 := by
        obtain ⟨S41, rfl⟩ : ∃ z, z = y40 := ⟨_, rfl⟩
        intro H locs ls hM hl
        refine lv_aload_n hx hb dX7_leaf_239 rfl (lv_at hl 0 rfl) ?_
        refine lv_dup hx hb dX7_leaf_240 rfl ?_
        refine mr_get B hM 46 (v := .int (S41.1 46 0)) rfl (by decide) q1692 dX7_leaf_241 ?_
        refine lv_iconst (v := nI 1) hx hb dX7_leaf_244 ic1 ?_
        refine lv_iadd hx hb dX7_leaf_245 ?_
        obtain ⟨S42, eS42, hf⟩ := bd_some hf
        refine mr_puti B hM 46 (by decide) eS42 rfl (tyX7_ok 46 (by decide)) q1692 dX7_leaf_246 (fun H locs hM => ?_)
        cases hf
        exact hret _ _ _ _ hM dX7_leaf_249
      refine lp_W (step := (fun t : Int32 × MS => f_X7_leaf_L51 p0 v1 t.1 t.2)) (fun t : Int32 × MS => ∀ (H : Heap) (locs : List Loc) (ls : Array Slot), m_I D s H locs t.2 → lv_has ls 6 [(0, .ref D.1), (1, .int p0), (2, .int v1), (3, .int (nI 0)), (4, .int t.1)] → W p l e r_X7_leaf s m args below meth c H locs 0 0 Q (F0 m 51 ls [])) (fun t : MS => ∀ (H : Heap) (locs : List Loc) (ls : Array Slot), m_I D s H locs t → lv_has ls 6 [(0, .ref D.1)] → W p l e r_X7_leaf s m args below meth c H locs 0 0 Q (F0 m 239 ls [])) ?_ fu (nI 0, S7) y40 hxy40 hy40 _ _ _ hM (lv_sub hl [1, 2, 3, 4, 0] rfl)
      clear hf hxy40 hy40
      rintro ⟨x8, S9⟩ o (hf : f_X7_leaf_L51 p0 v1 x8 S9 = some o) hk
      intro H locs ls hM hl
      unfold f_X7_leaf_L51 at hf
      refine lv_iload hx hb dX7_leaf_51 (lv_at hl 4 rfl) ?_
      refine lv_bipush (v := nI 81) hx hb dX7_leaf_53 bp81 ?_
      refine lv_icmp_ge (tgt := 239) hx hb dX7_leaf_55 (by decide) (fun c10 => ?_) (fun c10 => ?_)
      · have hf := it_pos c10 hf
        cases hf
        exact hk _ _ _ hM (lv_sub hl [0] rfl)
      · have hf := it_neg c10 hf
        refine lv_iload_n hx hb dX7_leaf_58 rfl (lv_at hl 3 rfl) ?_
        refine lv_istore (lv' := [(5, .int (nI 0)), (0, .ref D.1), (1, .int p0), (2, .int v1), (3, .int (nI 0)), (4, .int x8)]) hx hb dX7_leaf_59 hl (by decide) rfl (fun ls hl => ?_)
        refine lv_iload_n hx hb dX7_leaf_61 rfl (lv_at hl 3 rfl) ?_
        refine lv_bipush (v := nI 8) hx hb dX7_leaf_62 bp8 ?_
        have j12 : ∀ (x36 : Int32), f_X7_leaf_J216_12 x8 S9 x36 = some o → ∀ (H : Heap) (locs : List Loc) (ls : Array Slot), m_I D s H locs S9 → lv_has ls 6 [(0, .ref D.1), (1, .int p0), (2, .int v1), (3, .int (nI 0)), (4, .int x8), (5, .int x36)] → W p l e r_X7_leaf s m args below meth c H locs 0 0 Q (F0 m 216 ls []) := by
          intro x36 hf
          intro H locs ls hM hl
          unfold f_X7_leaf_J216_12 at hf
          refine lv_aload_n hx hb dX7_leaf_216 rfl (lv_at hl 0 rfl) ?_
          refine mr_get B hM 45 (v := .ref (D.2.1 45)) rfl (by decide) q1691 dX7_leaf_217 ?_
          refine lv_bipush (v := nI 81) hx hb dX7_leaf_220 bp81 ?_
          refine lv_aload_n hx hb dX7_leaf_222 rfl (lv_at hl 0 rfl) ?_
          refine mr_get B hM 46 (v := .int (S9.1 46 0)) rfl (by decide) q1692 dX7_leaf_223 ?_
          refine lv_imul hx hb dX7_leaf_226 ?_
          refine lv_iload hx hb dX7_leaf_227 (lv_at hl 4 rfl) ?_
          refine lv_iadd hx hb dX7_leaf_229 ?_
          refine lv_iload hx hb dX7_leaf_230 (lv_at hl 5 rfl) ?_
          obtain ⟨S37, eS37, hiS37, hf⟩ := ast_some hf
          refine mr_zast B hM 45 (by decide) rfl hiS37 eS37 dX7_leaf_232 (fun H locs hM => ?_)
          obtain ⟨x38, ex38, hf⟩ := bd_some hf
          refine lv_iinc (v := x38) (lv' := [(4, .int x38), (0, .ref D.1), (1, .int p0), (2, .int v1), (3, .int (nI 0)), (5, .int x36)]) hx hb dX7_leaf_233 hl (k := 4) rfl (by rw [ex38]; first | done | rfl) (by decide) rfl (fun ls hl => ?_)
          refine lv_goto (tgt := 51) hx hb dX7_leaf_236 (by decide) ?_
          cases hf
          exact hk _ _ _ hM (lv_sub hl [1, 2, 3, 4, 0] rfl)
        refine lv_icmp_ne (tgt := 102) hx hb dX7_leaf_64 (by decide) (fun c11 => ?_) (fun c11 => ?_)
        · have hf := it_neg c11 hf
          refine lv_iload_n hx hb dX7_leaf_102 rfl (lv_at hl 3 rfl) ?_
          refine lv_bipush (v := nI 9) hx hb dX7_leaf_103 bp9 ?_
          refine lv_icmp_ne (tgt := 143) hx hb dX7_leaf_105 (by decide) (fun c13 => ?_) (fun c13 => ?_)
          · have hf := it_neg c13 hf
            refine lv_iload_n hx hb dX7_leaf_143 rfl (lv_at hl 3 rfl) ?_
            refine lv_bipush (v := nI 11) hx hb dX7_leaf_144 bp11 ?_
            refine lv_icmp_ne (tgt := 176) hx hb dX7_leaf_146 (by decide) (fun c14 => ?_) (fun c14 => ?_)
            · have hf := it_neg c14 hf
              refine lv_iload_n hx hb dX7_leaf_176 rfl (lv_at hl 3 rfl) ?_
              refine lv_bipush (v := nI 12) hx hb dX7_leaf_177 bp12 ?_
              refine lv_icmp_ne (tgt := 216) hx hb dX7_leaf_179 (by decide) (fun c15 => ?_) (fun c15 => ?_)
              · have hf := it_neg c15 hf
                exact j12 (nI 0) hf _ _ _ hM (lv_sub hl [1, 2, 3, 4, 5, 0] rfl)
              · have hf := it_pos c15 hf
                refine lv_aload_n hx hb dX7_leaf_182 rfl (lv_at hl 1 rfl) ?_
                refine lv_aload_n hx hb dX7_leaf_183 rfl (lv_at hl 1 rfl) ?_
                refine mr_get B hM 17 (v := .ref (D.2.1 17)) rfl (by decide) q1663 dX7_leaf_184 ?_
                refine lv_iload_n hx hb dX7_leaf_187 rfl (lv_at hl 2 rfl) ?_
                obtain ⟨v16, ev16, hiv16, hf⟩ := ald_some hf
                refine mr_iald B hM 17 (by decide) rfl hiv16 ev16 dX7_leaf_188 ?_
                refine lv_iload hx hb dX7_leaf_189 (lv_at hl 5 rfl) ?_
                refine lv_aload_n hx hb dX7_leaf_191 rfl (lv_at hl 1 rfl) ?_
                refine mr_get B hM 18 (v := .ref (D.2.1 18)) rfl (by decide) q1664 dX7_leaf_192 ?_
                refine lv_iload_n hx hb dX7_leaf_195 rfl (lv_at hl 2 rfl) ?_
                obtain ⟨v17, ev17, hiv17, hf⟩ := ald_some hf
                refine mr_iald B hM 18 (by decide) rfl hiv17 ev17 dX7_leaf_196 ?_
                obtain ⟨r18, hcr18, hf⟩ := bnd_some hf
                refine pr_callS (rest := [.int v16, .ref D.1]) B (c_X7_valueIn l x8 v17 hcr18) (va_cwS 2 hts (lw_S q2094 q2095 q113 q2096) rfl rfl rfl hd_X7_valueIn ⟨Nat.le_of_ble_eq_true rfl, Nat.le_of_ble_eq_true rfl⟩) rfl hl.1 rfl (Nat.le_of_ble_eq_true rfl) dX7_leaf_197 ⟨Nat.zero_le _, Nat.zero_le _⟩ ?_
                refine lv_iload hx hb dX7_leaf_200 (lv_at hl 5 rfl) ?_
                refine lv_aload_n hx hb dX7_leaf_202 rfl (lv_at hl 1 rfl) ?_
                refine mr_get B hM 19 (v := .ref (D.2.1 19)) rfl (by decide) q1665 dX7_leaf_203 ?_
                refine lv_iload_n hx hb dX7_leaf_206 rfl (lv_at hl 2 rfl) ?_
                obtain ⟨v19, ev19, hiv19, hf⟩ := ald_some hf
                refine mr_iald B hM 19 (by decide) rfl hiv19 ev19 dX7_leaf_207 ?_
                obtain ⟨r20, hcr20, hf⟩ := bnd_some hf
                refine pr_callS (rest := [.int r18, .int v16, .ref D.1]) B (c_X7_valueIn l x8 v19 hcr20) (va_cwS 2 hts (lw_S q2094 q2095 q113 q2096) rfl rfl rfl hd_X7_valueIn ⟨Nat.le_of_ble_eq_true rfl, Nat.le_of_ble_eq_true rfl⟩) rfl hl.1 rfl (Nat.le_of_ble_eq_true rfl) dX7_leaf_208 ⟨Nat.zero_le _, Nat.zero_le _⟩ ?_
                obtain ⟨r21, hcr21, hf⟩ := bnd_some hf
                refine mr_callV (rest := []) B hM (c_X7_isSo l D S9 v16 r18 r20 hcr21) (cwV 3 hts (lw_V q2090 q2092 qs82 q113 q2093) rfl rfl rfl hd_X7_isSo ⟨Nat.le_of_ble_eq_true rfl, Nat.le_of_ble_eq_true rfl⟩) rfl hl.1 rfl (Nat.le_of_ble_eq_true rfl) dX7_leaf_211 ⟨Nat.zero_le _, Nat.zero_le _⟩ (fun H locs hM => ?_)
                refine lv_istore (lv' := [(5, .int r21), (0, .ref D.1), (1, .int p0), (2, .int v1), (3, .int (nI 0)), (4, .int x8)]) hx hb dX7_leaf_214 hl (by decide) rfl (fun ls hl => ?_)
                exact j12 r21 hf _ _ _ hM (lv_sub hl [1, 2, 3, 4, 5, 0] rfl)
            · have hf := it_pos c14 hf
              refine lv_aload_n hx hb dX7_leaf_149 rfl (lv_at hl 1 rfl) ?_
              refine lv_aload_n hx hb dX7_leaf_150 rfl (lv_at hl 1 rfl) ?_
              refine mr_get B hM 17 (v := .ref (D.2.1 17)) rfl (by decide) q1663 dX7_leaf_151 ?_
              refine lv_iload_n hx hb dX7_leaf_154 rfl (lv_at hl 2 rfl) ?_
              obtain ⟨v22, ev22, hiv22, hf⟩ := ald_some hf
              refine mr_iald B hM 17 (by decide) rfl hiv22 ev22 dX7_leaf_155 ?_
              refine lv_iload hx hb dX7_leaf_156 (lv_at hl 5 rfl) ?_
              refine lv_aload_n hx hb dX7_leaf_158 rfl (lv_at hl 1 rfl) ?_
              refine mr_get B hM 18 (v := .ref (D.2.1 18)) rfl (by decide) q1664 dX7_leaf_159 ?_
              refine lv_iload_n hx hb dX7_leaf_162 rfl (lv_at hl 2 rfl) ?_
              obtain ⟨v23, ev23, hiv23, hf⟩ := ald_some hf
              refine mr_iald B hM 18 (by decide) rfl hiv23 ev23 dX7_leaf_163 ?_
              obtain ⟨r24, hcr24, hf⟩ := bnd_some hf
              refine pr_callS (rest := [.int v22, .ref D.1]) B (c_X7_valueIn l x8 v23 hcr24) (va_cwS 2 hts (lw_S q2094 q2095 q113 q2096) rfl rfl rfl hd_X7_valueIn ⟨Nat.le_of_ble_eq_true rfl, Nat.le_of_ble_eq_true rfl⟩) rfl hl.1 rfl (Nat.le_of_ble_eq_true rfl) dX7_leaf_164 ⟨Nat.zero_le _, Nat.zero_le _⟩ ?_
              refine lv_iconst (v := nI 0) hx hb dX7_leaf_167 ic0 ?_
              obtain ⟨r25, hcr25, hf⟩ := bnd_some hf
              refine mr_callV (rest := []) B hM (c_X7_isSo l D S9 v22 r24 (nI 0) hcr25) (cwV 3 hts (lw_V q2090 q2092 qs82 q113 q2093) rfl rfl rfl hd_X7_isSo ⟨Nat.le_of_ble_eq_true rfl, Nat.le_of_ble_eq_true rfl⟩) rfl hl.1 rfl (Nat.le_of_ble_eq_true rfl) dX7_leaf_168 ⟨Nat.zero_le _, Nat.zero_le _⟩ (fun H locs hM => ?_)
              refine lv_istore (lv' := [(5, .int r25), (0, .ref D.1), (1, .int p0), (2, .int v1), (3, .int (nI 0)), (4, .int x8)]) hx hb dX7_leaf_171 hl (by decide) rfl (fun ls hl => ?_)
              refine lv_goto (tgt := 216) hx hb dX7_leaf_173 (by decide) ?_
              exact j12 r25 hf _ _ _ hM (lv_sub hl [1, 2, 3, 4, 5, 0] rfl)
          · have hf := it_pos c13 hf
            refine lv_aload_n hx hb dX7_leaf_108 rfl (lv_at hl 1 rfl) ?_
            refine mr_get B hM 47 (v := .ref (D.2.1 47)) rfl (by decide) q1693 dX7_leaf_109 ?_
            refine lv_iconst (v := nI 3) hx hb dX7_leaf_112 ic3 ?_
            refine lv_iload hx hb dX7_leaf_113 (lv_at hl 5 rfl) ?_
            refine lv_aload_n hx hb dX7_leaf_115 rfl (lv_at hl 1 rfl) ?_
            refine mr_get B hM 18 (v := .ref (D.2.1 18)) rfl (by decide) q1664 dX7_leaf_116 ?_
            refine lv_iload_n hx hb dX7_leaf_119 rfl (lv_at hl 2 rfl) ?_
            obtain ⟨v26, ev26, hiv26, hf⟩ := ald_some hf
            refine mr_iald B hM 18 (by decide) rfl hiv26 ev26 dX7_leaf_120 ?_
            obtain ⟨r27, hcr27, hf⟩ := bnd_some hf
            refine pr_callS (rest := [.int (nI 3), .ref (D.2.1 47)]) B (c_X7_valueIn l x8 v26 hcr27) (va_cwS 2 hts (lw_S q2094 q2095 q113 q2096) rfl rfl rfl hd_X7_valueIn ⟨Nat.le_of_ble_eq_true rfl, Nat.le_of_ble_eq_true rfl⟩) rfl hl.1 rfl (Nat.le_of_ble_eq_true rfl) dX7_leaf_121 ⟨Nat.zero_le _, Nat.zero_le _⟩ ?_
            refine lv_imul hx hb dX7_leaf_124 ?_
            refine lv_iload hx hb dX7_leaf_125 (lv_at hl 5 rfl) ?_
            refine lv_aload_n hx hb dX7_leaf_127 rfl (lv_at hl 1 rfl) ?_
            refine mr_get B hM 19 (v := .ref (D.2.1 19)) rfl (by decide) q1665 dX7_leaf_128 ?_
            refine lv_iload_n hx hb dX7_leaf_131 rfl (lv_at hl 2 rfl) ?_
            obtain ⟨v28, ev28, hiv28, hf⟩ := ald_some hf
            refine mr_iald B hM 19 (by decide) rfl hiv28 ev28 dX7_leaf_132 ?_
            obtain ⟨r29, hcr29, hf⟩ := bnd_some hf
            refine pr_callS (rest := [.int (nI 3 * r27), .ref (D.2.1 47)]) B (c_X7_valueIn l x8 v28 hcr29) (va_cwS 2 hts (lw_S q2094 q2095 q113 q2096) rfl rfl rfl hd_X7_valueIn ⟨Nat.le_of_ble_eq_true rfl, Nat.le_of_ble_eq_true rfl⟩) rfl hl.1 rfl (Nat.le_of_ble_eq_true rfl) dX7_leaf_133 ⟨Nat.zero_le _, Nat.zero_le _⟩ ?_
            refine lv_iadd hx hb dX7_leaf_136 ?_
            obtain ⟨v30, ev30, hiv30, hf⟩ := ald_some hf
            refine mr_zald B hM 47 (by decide) rfl hiv30 ev30 dX7_leaf_137 ?_
            refine lv_istore (lv' := [(5, .int v30), (0, .ref D.1), (1, .int p0), (2, .int v1), (3, .int (nI 0)), (4, .int x8)]) hx hb dX7_leaf_138 hl (by decide) rfl (fun ls hl => ?_)
            refine lv_goto (tgt := 216) hx hb dX7_leaf_140 (by decide) ?_
            exact j12 v30 hf _ _ _ hM (lv_sub hl [1, 2, 3, 4, 5, 0] rfl)
        · have hf := it_pos c11 hf
          refine lv_iload hx hb dX7_leaf_67 (lv_at hl 5 rfl) ?_
          refine lv_aload_n hx hb dX7_leaf_69 rfl (lv_at hl 1 rfl) ?_
          refine mr_get B hM 17 (v := .ref (D.2.1 17)) rfl (by decide) q1663 dX7_leaf_70 ?_
          refine lv_iload_n hx hb dX7_leaf_73 rfl (lv_at hl 2 rfl) ?_
          obtain ⟨v31, ev31, hiv31, hf⟩ := ald_some hf
          refine mr_iald B hM 17 (by decide) rfl hiv31 ev31 dX7_leaf_74 ?_
          obtain ⟨r32, hcr32, hf⟩ := bnd_some hf
          refine pr_callS (rest := []) B (c_X7_valueIn l x8 v31 hcr32) (va_cwS 2 hts (lw_S q2094 q2095 q113 q2096) rfl rfl rfl hd_X7_valueIn ⟨Nat.le_of_ble_eq_true rfl, Nat.le_of_ble_eq_true rfl⟩) rfl hl.1 rfl (Nat.le_of_ble_eq_true rfl) dX7_leaf_75 ⟨Nat.zero_le _, Nat.zero_le _⟩ ?_
          refine lv_iload hx hb dX7_leaf_78 (lv_at hl 5 rfl) ?_
          refine lv_aload_n hx hb dX7_leaf_80 rfl (lv_at hl 1 rfl) ?_
          refine mr_get B hM 18 (v := .ref (D.2.1 18)) rfl (by decide) q1664 dX7_leaf_81 ?_
          refine lv_iload_n hx hb dX7_leaf_84 rfl (lv_at hl 2 rfl) ?_
          obtain ⟨v33, ev33, hiv33, hf⟩ := ald_some hf
          refine mr_iald B hM 18 (by decide) rfl hiv33 ev33 dX7_leaf_85 ?_
          obtain ⟨r34, hcr34, hf⟩ := bnd_some hf
          refine pr_callS (rest := [.int r32]) B (c_X7_valueIn l x8 v33 hcr34) (va_cwS 2 hts (lw_S q2094 q2095 q113 q2096) rfl rfl rfl hd_X7_valueIn ⟨Nat.le_of_ble_eq_true rfl, Nat.le_of_ble_eq_true rfl⟩) rfl hl.1 rfl (Nat.le_of_ble_eq_true rfl) dX7_leaf_86 ⟨Nat.zero_le _, Nat.zero_le _⟩ ?_
          refine lv_icmp_ne (tgt := 96) hx hb dX7_leaf_89 (by decide) (fun c35 => ?_) (fun c35 => ?_)
          · have hf := it_neg c35 hf
            refine lv_iconst (v := nI 0) hx hb dX7_leaf_96 ic0 ?_
            refine lv_istore (lv' := [(5, .int (nI 0)), (0, .ref D.1), (1, .int p0), (2, .int v1), (3, .int (nI 0)), (4, .int x8)]) hx hb dX7_leaf_97 hl (by decide) rfl (fun ls hl => ?_)
            refine lv_goto (tgt := 216) hx hb dX7_leaf_99 (by decide) ?_
            exact j12 (nI 0) hf _ _ _ hM (lv_sub hl [1, 2, 3, 4, 5, 0] rfl)
          · have hf := it_pos c35 hf
            refine lv_iconst (v := nI 1) hx hb dX7_leaf_92 ic1 ?_
            refine lv_goto (tgt := 97) hx hb dX7_leaf_93 (by decide) ?_
            refine lv_istore (lv' := [(5, .int (nI 1)), (0, .ref D.1), (1, .int p0), (2, .int v1), (3, .int (nI 0)), (4, .int x8)]) hx hb dX7_leaf_97 hl (by decide) rfl (fun ls hl => ?_)
            refine lv_goto (tgt := 216) hx hb dX7_leaf_99 (by decide) ?_
            exact j12 (nI 1) hf _ _ _ hM (lv_sub hl [1, 2, 3, 4, 5, 0] rfl)
    refine lv_icmp_ne (tgt := 48) hx hb dX7_leaf_35 (by decide) (fun c3 => ?_) (fun c3 => ?_)
    · have hf := it_neg c3 hf
      exact j4 S hf _ _ _ hM (lv_sub hl [2, 3, 1, 0] rfl)
    · have hf := it_pos c3 hf
      refine lv_aload_n hx hb dX7_leaf_38 rfl (lv_at hl 2 rfl) ?_
      refine lv_aload_n hx hb dX7_leaf_39 rfl (lv_at hl 2 rfl) ?_
      refine mr_get B hM 17 (v := .ref (D.2.1 17)) rfl (by decide) q1663 dX7_leaf_40 ?_
      refine lv_iload_n hx hb dX7_leaf_43 rfl (lv_at hl 3 rfl) ?_
      obtain ⟨v5, ev5, hiv5, hf⟩ := ald_some hf
      refine mr_iald B hM 17 (by decide) rfl hiv5 ev5 dX7_leaf_44 ?_
      obtain ⟨S6, hcS6, hf⟩ := bnd_some hf
      refine mr_callV (rest := []) B hM (c_X7_findJoined l D S v5 hcS6) (cwV 1 hts (lw_V q2086 q2088 qs81 q113 q2089) rfl rfl rfl hd_X7_findJoined ⟨Nat.le_of_ble_eq_true rfl, Nat.le_of_ble_eq_true rfl⟩) rfl hl.1 rfl (Nat.le_of_ble_eq_true rfl) dX7_leaf_45 ⟨Nat.zero_le _, Nat.zero_le _⟩ (fun H locs hM => ?_)
      exact j4 S6 hf _ _ _ hM (lv_sub hl [2, 3, 1, 0] rfl)
  · have hf := it_pos c2 hf
    refine lv_aload_n hx hb dX7_leaf_13 rfl (lv_at hl 1 rfl) ?_
    refine lv_aload_n hx hb dX7_leaf_14 rfl (lv_at hl 1 rfl) ?_
    refine mr_get B hM 17 (v := .ref (D.2.1 17)) rfl (by decide) q1663 dX7_leaf_15 ?_
    refine lv_iload_n hx hb dX7_leaf_18 rfl (lv_at hl 2 rfl) ?_
    obtain ⟨v43, ev43, hiv43, hf⟩ := ald_some hf
    refine mr_iald B hM 17 (by decide) rfl hiv43 ev43 dX7_leaf_19 ?_
    obtain ⟨⟨r44, S45⟩, hcr44, hf⟩ := bnd_some hf
    have hf := u2_at hf
    refine mr_callV (rest := []) B hM (c_X7_isTree l D S v43 hcr44) (cwV 1 hts (lw_V q2082 q2084 qs80 q113 q2085) rfl rfl rfl hd_X7_isTree ⟨Nat.le_of_ble_eq_true rfl, Nat.le_of_ble_eq_true rfl⟩) rfl hl.1 rfl (Nat.le_of_ble_eq_true rfl) dX7_leaf_20 ⟨Nat.zero_le _, Nat.zero_le _⟩ (fun H locs hM => ?_)
    obtain ⟨x48, ex48, hf⟩ := bd_some hf
    have jx48 : W p l e r_X7_leaf s m args below meth c H locs 0 0 Q (F0 m 31 ls [.int x48]) := by
      refine lv_istore_n (lv' := [(3, .int x48), (2, .int v1), (0, .ref D.1), (1, .int p0)]) hx hb dX7_leaf_31 rfl hl (by decide) rfl (fun ls hl => ?_)
      refine lv_iload_n hx hb dX7_leaf_32 rfl (lv_at hl 1 rfl) ?_
      refine lv_bipush (v := nI 9) hx hb dX7_leaf_33 bp9 ?_
      have j50 : ∀ (S53 : MS), f_X7_leaf_J48_50 p0 v1 x48 S53 = some S' → ∀ (H : Heap) (locs : List Loc) (ls : Array Slot), m_I D s H locs S53 → lv_has ls 6 [(0, .ref D.1), (1, .int p0), (2, .int v1), (3, .int x48)] → W p l e r_X7_leaf s m args below meth c H locs 0 0 Q (F0 m 48 ls []) := by
        intro S53 hf
        intro H locs ls hM hl
        unfold f_X7_leaf_J48_50 at hf
        refine lv_iconst (v := nI 0) hx hb dX7_leaf_48 ic0 ?_
        refine lv_istore (lv' := [(4, .int (nI 0)), (0, .ref D.1), (1, .int p0), (2, .int v1), (3, .int x48)]) hx hb dX7_leaf_49 hl (by decide) rfl (fun ls hl => ?_)
        obtain ⟨y86, hxy86, hf⟩ := bnd_some hf
        have hy86 : (fun t : MS => ∀ (H : Heap) (locs : List Loc) (ls : Array Slot), m_I D s H locs t → lv_has ls 6 [(0, .ref D.1)] → W p l e r_X7_leaf s m args below meth c H locs 0 0 Q (F0 m 239 ls [])) y86 := by
          obtain ⟨S87, rfl⟩ : ∃ z, z = y86 := ⟨_, rfl⟩
          intro H locs ls hM hl
          refine lv_aload_n hx hb dX7_leaf_239 rfl (lv_at hl 0 rfl) ?_
          refine lv_dup hx hb dX7_leaf_240 rfl ?_
          refine mr_get B hM 46 (v := .int (S87.1 46 0)) rfl (by decide) q1692 dX7_leaf_241 ?_
          refine lv_iconst (v := nI 1) hx hb dX7_leaf_244 ic1 ?_
          refine lv_iadd hx hb dX7_leaf_245 ?_
          obtain ⟨S88, eS88, hf⟩ := bd_some hf
          refine mr_puti B hM 46 (by decide) eS88 rfl (tyX7_ok 46 (by decide)) q1692 dX7_leaf_246 (fun H locs hM => ?_)
          cases hf
          exact hret _ _ _ _ hM dX7_leaf_249
        refine lp_W (step := (fun t : Int32 × MS => f_X7_leaf_L51_85 p0 v1 x48 t.1 t.2)) (fun t : Int32 × MS => ∀ (H : Heap) (locs : List Loc) (ls : Array Slot), m_I D s H locs t.2 → lv_has ls 6 [(0, .ref D.1), (1, .int p0), (2, .int v1), (3, .int x48), (4, .int t.1)] → W p l e r_X7_leaf s m args below meth c H locs 0 0 Q (F0 m 51 ls [])) (fun t : MS => ∀ (H : Heap) (locs : List Loc) (ls : Array Slot), m_I D s H locs t → lv_has ls 6 [(0, .ref D.1)] → W p l e r_X7_leaf s m args below meth c H locs 0 0 Q (F0 m 239 ls [])) ?_ fu (nI 0, S53) y86 hxy86 hy86 _ _ _ hM (lv_sub hl [1, 2, 3, 4, 0] rfl)
        clear hf hxy86 hy86
        rintro ⟨x54, S55⟩ o (hf : f_X7_leaf_L51_85 p0 v1 x48 x54 S55 = some o) hk
        intro H locs ls hM hl
        unfold f_X7_leaf_L51_85 at hf
        refine lv_iload hx hb dX7_leaf_51 (lv_at hl 4 rfl) ?_
        refine lv_bipush (v := nI 81) hx hb dX7_leaf_53 bp81 ?_
        refine lv_icmp_ge (tgt := 239) hx hb dX7_leaf_55 (by decide) (fun c56 => ?_) (fun c56 => ?_)
        · have hf := it_pos c56 hf
          cases hf
          exact hk _ _ _ hM (lv_sub hl [0] rfl)
        · have hf := it_neg c56 hf
          refine lv_iload_n hx hb dX7_leaf_58 rfl (lv_at hl 3 rfl) ?_
          refine lv_istore (lv' := [(5, .int x48), (0, .ref D.1), (1, .int p0), (2, .int v1), (3, .int x48), (4, .int x54)]) hx hb dX7_leaf_59 hl (by decide) rfl (fun ls hl => ?_)
          refine lv_iload_n hx hb dX7_leaf_61 rfl (lv_at hl 3 rfl) ?_
          refine lv_bipush (v := nI 8) hx hb dX7_leaf_62 bp8 ?_
          have j58 : ∀ (x82 : Int32), f_X7_leaf_J216_58 x54 S55 x82 = some o → ∀ (H : Heap) (locs : List Loc) (ls : Array Slot), m_I D s H locs S55 → lv_has ls 6 [(0, .ref D.1), (1, .int p0), (2, .int v1), (3, .int x48), (4, .int x54), (5, .int x82)] → W p l e r_X7_leaf s m args below meth c H locs 0 0 Q (F0 m 216 ls []) := by
            intro x82 hf
            intro H locs ls hM hl
            unfold f_X7_leaf_J216_58 at hf
            refine lv_aload_n hx hb dX7_leaf_216 rfl (lv_at hl 0 rfl) ?_
            refine mr_get B hM 45 (v := .ref (D.2.1 45)) rfl (by decide) q1691 dX7_leaf_217 ?_
            refine lv_bipush (v := nI 81) hx hb dX7_leaf_220 bp81 ?_
            refine lv_aload_n hx hb dX7_leaf_222 rfl (lv_at hl 0 rfl) ?_
            refine mr_get B hM 46 (v := .int (S55.1 46 0)) rfl (by decide) q1692 dX7_leaf_223 ?_
            refine lv_imul hx hb dX7_leaf_226 ?_
            refine lv_iload hx hb dX7_leaf_227 (lv_at hl 4 rfl) ?_
            refine lv_iadd hx hb dX7_leaf_229 ?_
            refine lv_iload hx hb dX7_leaf_230 (lv_at hl 5 rfl) ?_
            obtain ⟨S83, eS83, hiS83, hf⟩ := ast_some hf
            refine mr_zast B hM 45 (by decide) rfl hiS83 eS83 dX7_leaf_232 (fun H locs hM => ?_)
            obtain ⟨x84, ex84, hf⟩ := bd_some hf
            refine lv_iinc (v := x84) (lv' := [(4, .int x84), (0, .ref D.1), (1, .int p0), (2, .int v1), (3, .int x48), (5, .int x82)]) hx hb dX7_leaf_233 hl (k := 4) rfl (by rw [ex84]; first | done | rfl) (by decide) rfl (fun ls hl => ?_)
            refine lv_goto (tgt := 51) hx hb dX7_leaf_236 (by decide) ?_
            cases hf
            exact hk _ _ _ hM (lv_sub hl [1, 2, 3, 4, 0] rfl)
          refine lv_icmp_ne (tgt := 102) hx hb dX7_leaf_64 (by decide) (fun c57 => ?_) (fun c57 => ?_)
          · have hf := it_neg c57 hf
            refine lv_iload_n hx hb dX7_leaf_102 rfl (lv_at hl 3 rfl) ?_
            refine lv_bipush (v := nI 9) hx hb dX7_leaf_103 bp9 ?_
            refine lv_icmp_ne (tgt := 143) hx hb dX7_leaf_105 (by decide) (fun c59 => ?_) (fun c59 => ?_)
            · have hf := it_neg c59 hf
              refine lv_iload_n hx hb dX7_leaf_143 rfl (lv_at hl 3 rfl) ?_
              refine lv_bipush (v := nI 11) hx hb dX7_leaf_144 bp11 ?_
              refine lv_icmp_ne (tgt := 176) hx hb dX7_leaf_146 (by decide) (fun c60 => ?_) (fun c60 => ?_)
              · have hf := it_neg c60 hf
                refine lv_iload_n hx hb dX7_leaf_176 rfl (lv_at hl 3 rfl) ?_
                refine lv_bipush (v := nI 12) hx hb dX7_leaf_177 bp12 ?_
                refine lv_icmp_ne (tgt := 216) hx hb dX7_leaf_179 (by decide) (fun c61 => ?_) (fun c61 => ?_)
                · have hf := it_neg c61 hf
                  exact j58 x48 hf _ _ _ hM (lv_sub hl [1, 2, 3, 4, 5, 0] rfl)
                · have hf := it_pos c61 hf
                  refine lv_aload_n hx hb dX7_leaf_182 rfl (lv_at hl 1 rfl) ?_
                  refine lv_aload_n hx hb dX7_leaf_183 rfl (lv_at hl 1 rfl) ?_
                  refine mr_get B hM 17 (v := .ref (D.2.1 17)) rfl (by decide) q1663 dX7_leaf_184 ?_
                  refine lv_iload_n hx hb dX7_leaf_187 rfl (lv_at hl 2 rfl) ?_
                  obtain ⟨v62, ev62, hiv62, hf⟩ := ald_some hf
                  refine mr_iald B hM 17 (by decide) rfl hiv62 ev62 dX7_leaf_188 ?_
                  refine lv_iload hx hb dX7_leaf_189 (lv_at hl 5 rfl) ?_
                  refine lv_aload_n hx hb dX7_leaf_191 rfl (lv_at hl 1 rfl) ?_
                  refine mr_get B hM 18 (v := .ref (D.2.1 18)) rfl (by decide) q1664 dX7_leaf_192 ?_
                  refine lv_iload_n hx hb dX7_leaf_195 rfl (lv_at hl 2 rfl) ?_
                  obtain ⟨v63, ev63, hiv63, hf⟩ := ald_some hf
                  refine mr_iald B hM 18 (by decide) rfl hiv63 ev63 dX7_leaf_196 ?_
                  obtain ⟨r64, hcr64, hf⟩ := bnd_some hf
                  refine pr_callS (rest := [.int v62, .ref D.1]) B (c_X7_valueIn l x54 v63 hcr64) (va_cwS 2 hts (lw_S q2094 q2095 q113 q2096) rfl rfl rfl hd_X7_valueIn ⟨Nat.le_of_ble_eq_true rfl, Nat.le_of_ble_eq_true rfl⟩) rfl hl.1 rfl (Nat.le_of_ble_eq_true rfl) dX7_leaf_197 ⟨Nat.zero_le _, Nat.zero_le _⟩ ?_
                  refine lv_iload hx hb dX7_leaf_200 (lv_at hl 5 rfl) ?_
                  refine lv_aload_n hx hb dX7_leaf_202 rfl (lv_at hl 1 rfl) ?_
                  refine mr_get B hM 19 (v := .ref (D.2.1 19)) rfl (by decide) q1665 dX7_leaf_203 ?_
                  refine lv_iload_n hx hb dX7_leaf_206 rfl (lv_at hl 2 rfl) ?_
                  obtain ⟨v65, ev65, hiv65, hf⟩ := ald_some hf
                  refine mr_iald B hM 19 (by decide) rfl hiv65 ev65 dX7_leaf_207 ?_
                  obtain ⟨r66, hcr66, hf⟩ := bnd_some hf
                  refine pr_callS (rest := [.int r64, .int v62, .ref D.1]) B (c_X7_valueIn l x54 v65 hcr66) (va_cwS 2 hts (lw_S q2094 q2095 q113 q2096) rfl rfl rfl hd_X7_valueIn ⟨Nat.le_of_ble_eq_true rfl, Nat.le_of_ble_eq_true rfl⟩) rfl hl.1 rfl (Nat.le_of_ble_eq_true rfl) dX7_leaf_208 ⟨Nat.zero_le _, Nat.zero_le _⟩ ?_
                  obtain ⟨r67, hcr67, hf⟩ := bnd_some hf
                  refine mr_callV (rest := []) B hM (c_X7_isSo l D S55 v62 r64 r66 hcr67) (cwV 3 hts (lw_V q2090 q2092 qs82 q113 q2093) rfl rfl rfl hd_X7_isSo ⟨Nat.le_of_ble_eq_true rfl, Nat.le_of_ble_eq_true rfl⟩) rfl hl.1 rfl (Nat.le_of_ble_eq_true rfl) dX7_leaf_211 ⟨Nat.zero_le _, Nat.zero_le _⟩ (fun H locs hM => ?_)
                  refine lv_istore (lv' := [(5, .int r67), (0, .ref D.1), (1, .int p0), (2, .int v1), (3, .int x48), (4, .int x54)]) hx hb dX7_leaf_214 hl (by decide) rfl (fun ls hl => ?_)
                  exact j58 r67 hf _ _ _ hM (lv_sub hl [1, 2, 3, 4, 5, 0] rfl)
              · have hf := it_pos c60 hf
                refine lv_aload_n hx hb dX7_leaf_149 rfl (lv_at hl 1 rfl) ?_
                refine lv_aload_n hx hb dX7_leaf_150 rfl (lv_at hl 1 rfl) ?_
                refine mr_get B hM 17 (v := .ref (D.2.1 17)) rfl (by decide) q1663 dX7_leaf_151 ?_
                refine lv_iload_n hx hb dX7_leaf_154 rfl (lv_at hl 2 rfl) ?_
                obtain ⟨v68, ev68, hiv68, hf⟩ := ald_some hf
                refine mr_iald B hM 17 (by decide) rfl hiv68 ev68 dX7_leaf_155 ?_
                refine lv_iload hx hb dX7_leaf_156 (lv_at hl 5 rfl) ?_
                refine lv_aload_n hx hb dX7_leaf_158 rfl (lv_at hl 1 rfl) ?_
                refine mr_get B hM 18 (v := .ref (D.2.1 18)) rfl (by decide) q1664 dX7_leaf_159 ?_
                refine lv_iload_n hx hb dX7_leaf_162 rfl (lv_at hl 2 rfl) ?_
                obtain ⟨v69, ev69, hiv69, hf⟩ := ald_some hf
                refine mr_iald B hM 18 (by decide) rfl hiv69 ev69 dX7_leaf_163 ?_
                obtain ⟨r70, hcr70, hf⟩ := bnd_some hf
                refine pr_callS (rest := [.int v68, .ref D.1]) B (c_X7_valueIn l x54 v69 hcr70) (va_cwS 2 hts (lw_S q2094 q2095 q113 q2096) rfl rfl rfl hd_X7_valueIn ⟨Nat.le_of_ble_eq_true rfl, Nat.le_of_ble_eq_true rfl⟩) rfl hl.1 rfl (Nat.le_of_ble_eq_true rfl) dX7_leaf_164 ⟨Nat.zero_le _, Nat.zero_le _⟩ ?_
                refine lv_iconst (v := nI 0) hx hb dX7_leaf_167 ic0 ?_
                obtain ⟨r71, hcr71, hf⟩ := bnd_some hf
                refine mr_callV (rest := []) B hM (c_X7_isSo l D S55 v68 r70 (nI 0) hcr71) (cwV 3 hts (lw_V q2090 q2092 qs82 q113 q2093) rfl rfl rfl hd_X7_isSo ⟨Nat.le_of_ble_eq_true rfl, Nat.le_of_ble_eq_true rfl⟩) rfl hl.1 rfl (Nat.le_of_ble_eq_true rfl) dX7_leaf_168 ⟨Nat.zero_le _, Nat.zero_le _⟩ (fun H locs hM => ?_)
                refine lv_istore (lv' := [(5, .int r71), (0, .ref D.1), (1, .int p0), (2, .int v1), (3, .int x48), (4, .int x54)]) hx hb dX7_leaf_171 hl (by decide) rfl (fun ls hl => ?_)
                refine lv_goto (tgt := 216) hx hb dX7_leaf_173 (by decide) ?_
                exact j58 r71 hf _ _ _ hM (lv_sub hl [1, 2, 3, 4, 5, 0] rfl)
            · have hf := it_pos c59 hf
              refine lv_aload_n hx hb dX7_leaf_108 rfl (lv_at hl 1 rfl) ?_
              refine mr_get B hM 47 (v := .ref (D.2.1 47)) rfl (by decide) q1693 dX7_leaf_109 ?_
              refine lv_iconst (v := nI 3) hx hb dX7_leaf_112 ic3 ?_
              refine lv_iload hx hb dX7_leaf_113 (lv_at hl 5 rfl) ?_
              refine lv_aload_n hx hb dX7_leaf_115 rfl (lv_at hl 1 rfl) ?_
              refine mr_get B hM 18 (v := .ref (D.2.1 18)) rfl (by decide) q1664 dX7_leaf_116 ?_
              refine lv_iload_n hx hb dX7_leaf_119 rfl (lv_at hl 2 rfl) ?_
              obtain ⟨v72, ev72, hiv72, hf⟩ := ald_some hf
              refine mr_iald B hM 18 (by decide) rfl hiv72 ev72 dX7_leaf_120 ?_
              obtain ⟨r73, hcr73, hf⟩ := bnd_some hf
              refine pr_callS (rest := [.int (nI 3), .ref (D.2.1 47)]) B (c_X7_valueIn l x54 v72 hcr73) (va_cwS 2 hts (lw_S q2094 q2095 q113 q2096) rfl rfl rfl hd_X7_valueIn ⟨Nat.le_of_ble_eq_true rfl, Nat.le_of_ble_eq_true rfl⟩) rfl hl.1 rfl (Nat.le_of_ble_eq_true rfl) dX7_leaf_121 ⟨Nat.zero_le _, Nat.zero_le _⟩ ?_
              refine lv_imul hx hb dX7_leaf_124 ?_
              refine lv_iload hx hb dX7_leaf_125 (lv_at hl 5 rfl) ?_
              refine lv_aload_n hx hb dX7_leaf_127 rfl (lv_at hl 1 rfl) ?_
              refine mr_get B hM 19 (v := .ref (D.2.1 19)) rfl (by decide) q1665 dX7_leaf_128 ?_
              refine lv_iload_n hx hb dX7_leaf_131 rfl (lv_at hl 2 rfl) ?_
              obtain ⟨v74, ev74, hiv74, hf⟩ := ald_some hf
              refine mr_iald B hM 19 (by decide) rfl hiv74 ev74 dX7_leaf_132 ?_
              obtain ⟨r75, hcr75, hf⟩ := bnd_some hf
              refine pr_callS (rest := [.int (nI 3 * r73), .ref (D.2.1 47)]) B (c_X7_valueIn l x54 v74 hcr75) (va_cwS 2 hts (lw_S q2094 q2095 q113 q2096) rfl rfl rfl hd_X7_valueIn ⟨Nat.le_of_ble_eq_true rfl, Nat.le_of_ble_eq_true rfl⟩) rfl hl.1 rfl (Nat.le_of_ble_eq_true rfl) dX7_leaf_133 ⟨Nat.zero_le _, Nat.zero_le _⟩ ?_
              refine lv_iadd hx hb dX7_leaf_136 ?_
              obtain ⟨v76, ev76, hiv76, hf⟩ := ald_some hf
              refine mr_zald B hM 47 (by decide) rfl hiv76 ev76 dX7_leaf_137 ?_
              refine lv_istore (lv' := [(5, .int v76), (0, .ref D.1), (1, .int p0), (2, .int v1), (3, .int x48), (4, .int x54)]) hx hb dX7_leaf_138 hl (by decide) rfl (fun ls hl => ?_)
              refine lv_goto (tgt := 216) hx hb dX7_leaf_140 (by decide) ?_
              exact j58 v76 hf _ _ _ hM (lv_sub hl [1, 2, 3, 4, 5, 0] rfl)
          · have hf := it_pos c57 hf
            refine lv_iload hx hb dX7_leaf_67 (lv_at hl 5 rfl) ?_
            refine lv_aload_n hx hb dX7_leaf_69 rfl (lv_at hl 1 rfl) ?_
            refine mr_get B hM 17 (v := .ref (D.2.1 17)) rfl (by decide) q1663 dX7_leaf_70 ?_
            refine lv_iload_n hx hb dX7_leaf_73 rfl (lv_at hl 2 rfl) ?_
            obtain ⟨v77, ev77, hiv77, hf⟩ := ald_some hf
            refine mr_iald B hM 17 (by decide) rfl hiv77 ev77 dX7_leaf_74 ?_
            obtain ⟨r78, hcr78, hf⟩ := bnd_some hf
            refine pr_callS (rest := []) B (c_X7_valueIn l x54 v77 hcr78) (va_cwS 2 hts (lw_S q2094 q2095 q113 q2096) rfl rfl rfl hd_X7_valueIn ⟨Nat.le_of_ble_eq_true rfl, Nat.le_of_ble_eq_true rfl⟩) rfl hl.1 rfl (Nat.le_of_ble_eq_true rfl) dX7_leaf_75 ⟨Nat.zero_le _, Nat.zero_le _⟩ ?_
            refine lv_iload hx hb dX7_leaf_78 (lv_at hl 5 rfl) ?_
            refine lv_aload_n hx hb dX7_leaf_80 rfl (lv_at hl 1 rfl) ?_
            refine mr_get B hM 18 (v := .ref (D.2.1 18)) rfl (by decide) q1664 dX7_leaf_81 ?_
            refine lv_iload_n hx hb dX7_leaf_84 rfl (lv_at hl 2 rfl) ?_
            obtain ⟨v79, ev79, hiv79, hf⟩ := ald_some hf
            refine mr_iald B hM 18 (by decide) rfl hiv79 ev79 dX7_leaf_85 ?_
            obtain ⟨r80, hcr80, hf⟩ := bnd_some hf
            refine pr_callS (rest := [.int r78]) B (c_X7_valueIn l x54 v79 hcr80) (va_cwS 2 hts (lw_S q2094 q2095 q113 q2096) rfl rfl rfl hd_X7_valueIn ⟨Nat.le_of_ble_eq_true rfl, Nat.le_of_ble_eq_true rfl⟩) rfl hl.1 rfl (Nat.le_of_ble_eq_true rfl) dX7_leaf_86 ⟨Nat.zero_le _, Nat.zero_le _⟩ ?_
            refine lv_icmp_ne (tgt := 96) hx hb dX7_leaf_89 (by decide) (fun c81 => ?_) (fun c81 => ?_)
            · have hf := it_neg c81 hf
              refine lv_iconst (v := nI 0) hx hb dX7_leaf_96 ic0 ?_
              refine lv_istore (lv' := [(5, .int (nI 0)), (0, .ref D.1), (1, .int p0), (2, .int v1), (3, .int x48), (4, .int x54)]) hx hb dX7_leaf_97 hl (by decide) rfl (fun ls hl => ?_)
              refine lv_goto (tgt := 216) hx hb dX7_leaf_99 (by decide) ?_
              exact j58 (nI 0) hf _ _ _ hM (lv_sub hl [1, 2, 3, 4, 5, 0] rfl)
            · have hf := it_pos c81 hf
              refine lv_iconst (v := nI 1) hx hb dX7_leaf_92 ic1 ?_
              refine lv_goto (tgt := 97) hx hb dX7_leaf_93 (by decide) ?_
              refine lv_istore (lv' := [(5, .int (nI 1)), (0, .ref D.1), (1, .int p0), (2, .int v1), (3, .int x48), (4, .int x54)]) hx hb dX7_leaf_97 hl (by decide) rfl (fun ls hl => ?_)
              refine lv_goto (tgt := 216) hx hb dX7_leaf_99 (by decide) ?_
              exact j58 (nI 1) hf _ _ _ hM (lv_sub hl [1, 2, 3, 4, 5, 0] rfl)
      refine lv_icmp_ne (tgt := 48) hx hb dX7_leaf_35 (by decide) (fun c49 => ?_) (fun c49 => ?_)
      · have hf := it_neg c49 hf
        exact j50 S45 hf _ _ _ hM (lv_sub hl [2, 3, 1, 0] rfl)
      · have hf := it_pos c49 hf
        refine lv_aload_n hx hb dX7_leaf_38 rfl (lv_at hl 2 rfl) ?_
        refine lv_aload_n hx hb dX7_leaf_39 rfl (lv_at hl 2 rfl) ?_
        refine mr_get B hM 17 (v := .ref (D.2.1 17)) rfl (by decide) q1663 dX7_leaf_40 ?_
        refine lv_iload_n hx hb dX7_leaf_43 rfl (lv_at hl 3 rfl) ?_
        obtain ⟨v51, ev51, hiv51, hf⟩ := ald_some hf
        refine mr_iald B hM 17 (by decide) rfl hiv51 ev51 dX7_leaf_44 ?_
        obtain ⟨S52, hcS52, hf⟩ := bnd_some hf
        refine mr_callV (rest := []) B hM (c_X7_findJoined l D S45 v51 hcS52) (cwV 1 hts (lw_V q2086 q2088 qs81 q113 q2089) rfl rfl rfl hd_X7_findJoined ⟨Nat.le_of_ble_eq_true rfl, Nat.le_of_ble_eq_true rfl⟩) rfl hl.1 rfl (Nat.le_of_ble_eq_true rfl) dX7_leaf_45 ⟨Nat.zero_le _, Nat.zero_le _⟩ (fun H locs hM => ?_)
        exact j50 S52 hf _ _ _ hM (lv_sub hl [2, 3, 1, 0] rfl)
    refine lv_if_eq (tgt := 30) hx hb dX7_leaf_23 (by decide) (fun c46 => ?_) (fun c46 => ?_)
    · refine lv_iconst (v := nI 0) hx hb dX7_leaf_30 ic0 ?_
      exact js (ex48.trans (if_pos c46)) jx48
    · refine lv_iconst (v := nI 1) hx hb dX7_leaf_26 ic1 ?_
      refine lv_goto (tgt := 31) hx hb dX7_leaf_27 (by decide) ?_
      exact js (ex48.trans (if_neg c46)) jx48
def f_X7_work_L14 (p0 : Int32) (p1 : Int32) (x4 : Int32) (S5 : MS) : Option ((Int32 × MS) ⊕ ((MS))) :=
  (if x4 < p1 then some (.inr S5) else bd ((nI 40 * p0) + x4) fun x7 => ald 1440 (S5.1 16) x7 fun v8 => (if v8 < nI 8 then ald 1440 (S5.1 16) x7 fun v10 => (if nI 3 < v10 then bnd (f_X7_join S5 x7) fun S12 => bd (x4 + Int32.ofInt (-1)) fun x13 => some (.inl (x13, S12)) else bnd (f_X7_bind S5 x7) fun S14 => bd (x4 + Int32.ofInt (-1)) fun x15 => some (.inl (x15, S14))) else bnd (f_X7_leaf S5 x7) fun S16 => bd (x4 + Int32.ofInt (-1)) fun x17 => some (.inl (x17, S16))))
def f_X7_work (S : MS) (p0 : Int32) (p1 : Int32) : Option MS :=
  bd (m_up S 46 0 (nI 0)) fun S1 => ald 36 (S1.1 15) p0 fun v2 => bd (v2 - nI 1) fun x3 => bnd (wO (fun t : Int32 × MS => f_X7_work_L14 p0 p1 t.1 t.2) fu (x3, S1)) <| fun S20 => some S20
abbrev r_X7_work : Room := { frames := 6, cells := 0, slots := 0, locals := 143 }
set_option maxHeartbeats 4000000 in
set_option maxRecDepth 100000 in
theorem c_X7_work (l : Launch) (D : MD) (S : MS) (p0 : Int32) (p1 : Int32) {S' : MS} (hf : f_X7_work S p0 p1 = some S') : m_Met l yX7_work cX7_work 5 (Option.none : Option Jvm.ClassFile.FieldType) r_X7_work D [.ref D.1, .int p0, .int p1] S none S' := by
  refine m_metV (F := 6) (L := 143) (by decide) rfl (Nat.le_of_ble_eq_true rfl) (fun p e s m args below meth c Q B hret hM ls hl => ?_)
  have hx := B.1
  have hb := B.2.1
  have hown := B.2.2.2.1
  have hts := B.2.2.2.2
  have hl : lv_has ls 5 [(0, .ref D.1), (1, .int p0), (2, .int p1)] := hl
  generalize s.heap = H, ([] : List Loc) = locs at hM ⊢
  unfold f_X7_work at hf
  refine lv_aload_n hx hb dX7_work_0 rfl (lv_at hl 0 rfl) ?_
  refine lv_iconst (v := nI 0) hx hb dX7_work_1 ic0 ?_
  obtain ⟨S1, eS1, hf⟩ := bd_some hf
  refine mr_puti B hM 46 (by decide) eS1 rfl (tyX7_ok 46 (by decide)) q1692 dX7_work_2 (fun H locs hM => ?_)
  refine lv_aload_n hx hb dX7_work_5 rfl (lv_at hl 0 rfl) ?_
  refine mr_get B hM 15 (v := .ref (D.2.1 15)) rfl (by decide) q1661 dX7_work_6 ?_
  refine lv_iload_n hx hb dX7_work_9 rfl (lv_at hl 1 rfl) ?_
  obtain ⟨v2, ev2, hiv2, hf⟩ := ald_some hf
  refine mr_iald B hM 15 (by decide) rfl hiv2 ev2 dX7_work_10 ?_
  refine lv_iconst (v := nI 1) hx hb dX7_work_11 ic1 ?_
  refine lv_isub hx hb dX7_work_12 ?_
  refine lv_topi (fun x3 ex3 => ?_)
  have hf := bd_at ex3 hf
  refine lv_istore_n (lv' := [(3, .int x3), (0, .ref D.1), (1, .int p0), (2, .int p1)]) hx hb dX7_work_13 rfl hl (by decide) rfl (fun ls hl => ?_)
  obtain ⟨y19, hxy19, hf⟩ := bnd_some hf
  have hy19 : (fun t : MS => ∀ (H : Heap) (locs : List Loc) (ls : Array Slot), m_I D s H locs t → lv_has ls 5 [] → W p l e r_X7_work s m args below meth c H locs 0 0 Q (F0 m 80 ls [])) y19 := by
    obtain ⟨S20, rfl⟩ : ∃ z, z = y19 := ⟨_, rfl⟩
    intro H locs ls hM hl
    cases hf
    exact hret _ _ _ _ hM dX7_work_80
  refine lp_W (step := (fun t : Int32 × MS => f_X7_work_L14 p0 p1 t.1 t.2)) (fun t : Int32 × MS => ∀ (H : Heap) (locs : List Loc) (ls : Array Slot), m_I D s H locs t.2 → lv_has ls 5 [(0, .ref D.1), (1, .int p0), (2, .int p1), (3, .int t.1)] → W p l e r_X7_work s m args below meth c H locs 0 0 Q (F0 m 14 ls [])) (fun t : MS => ∀ (H : Heap) (locs : List Loc) (ls : Array Slot), m_I D s H locs t → lv_has ls 5 [] → W p l e r_X7_work s m args below meth c H locs 0 0 Q (F0 m 80 ls [])) ?_ fu (x3, S1) y19 hxy19 hy19 _ _ _ hM (lv_sub hl [1, 2, 3, 0] rfl)
  clear hf hxy19 hy19
  rintro ⟨x4, S5⟩ o (hf : f_X7_work_L14 p0 p1 x4 S5 = some o) hk
  intro H locs ls hM hl
  unfold f_X7_work_L14 at hf
  refine lv_iload_n hx hb dX7_work_14 rfl (lv_at hl 3 rfl) ?_
  refine lv_iload_n hx hb dX7_work_15 rfl (lv_at hl 2 rfl) ?_
  refine lv_icmp_lt (tgt := 80) hx hb dX7_work_16 (by decide) (fun c6 => ?_) (fun c6 => ?_)
  · have hf := it_pos c6 hf
    cases hf
    exact hk _ _ _ hM (lv_sub hl [] rfl)
  · have hf := it_neg c6 hf
    refine lv_bipush (v := nI 40) hx hb dX7_work_19 bp40 ?_
    refine lv_iload_n hx hb dX7_work_21 rfl (lv_at hl 1 rfl) ?_
    refine lv_imul hx hb dX7_work_22 ?_
    refine lv_iload_n hx hb dX7_work_23 rfl (lv_at hl 3 rfl) ?_
    refine lv_iadd hx hb dX7_work_24 ?_
    refine lv_topi (fun x7 ex7 => ?_)
    have hf := bd_at ex7 hf
    refine lv_istore (lv' := [(4, .int x7), (0, .ref D.1), (1, .int p0), (2, .int p1), (3, .int x4)]) hx hb dX7_work_25 hl (by decide) rfl (fun ls hl => ?_)
    refine lv_aload_n hx hb dX7_work_27 rfl (lv_at hl 1 rfl) ?_
    refine mr_get B hM 16 (v := .ref (D.2.1 16)) rfl (by decide) q1662 dX7_work_28 ?_
    refine lv_iload hx hb dX7_work_31 (lv_at hl 0 rfl) ?_
    obtain ⟨v8, ev8, hiv8, hf⟩ := ald_some hf
    refine mr_iald B hM 16 (by decide) rfl hiv8 ev8 dX7_work_33 ?_
    refine lv_bipush (v := nI 8) hx hb dX7_work_34 bp8 ?_
    refine lv_icmp_lt (tgt := 48) hx hb dX7_work_36 (by decide) (fun c9 => ?_) (fun c9 => ?_)
    · have hf := it_pos c9 hf
      refine lv_aload_n hx hb dX7_work_48 rfl (lv_at hl 1 rfl) ?_
      refine mr_get B hM 16 (v := .ref (D.2.1 16)) rfl (by decide) q1662 dX7_work_49 ?_
      refine lv_iload hx hb dX7_work_52 (lv_at hl 0 rfl) ?_
      obtain ⟨v10, ev10, hiv10, hf⟩ := ald_some hf
      refine mr_iald B hM 16 (by decide) rfl hiv10 ev10 dX7_work_54 ?_
      refine lv_iconst (v := nI 3) hx hb dX7_work_55 ic3 ?_
      refine lv_icmp_gt (tgt := 68) hx hb dX7_work_56 (by decide) (fun c11 => ?_) (fun c11 => ?_)
      · have hf := it_pos c11 hf
        refine lv_aload_n hx hb dX7_work_68 rfl (lv_at hl 1 rfl) ?_
        refine lv_iload hx hb dX7_work_69 (lv_at hl 0 rfl) ?_
        obtain ⟨S12, hcS12, hf⟩ := bnd_some hf
        refine mr_callV (rest := []) B hM (c_X7_join l D S5 x7 hcS12) (cwV 1 hts (lw_V q2104 q2106 qs84 q113 q2107) rfl rfl rfl hd_X7_join ⟨Nat.le_of_ble_eq_true rfl, Nat.le_of_ble_eq_true rfl⟩) rfl hl.1 rfl (Nat.le_of_ble_eq_true rfl) dX7_work_71 ⟨Nat.zero_le _, Nat.zero_le _⟩ (fun H locs hM => ?_)
        obtain ⟨x13, ex13, hf⟩ := bd_some hf
        refine lv_iinc (v := x13) (lv' := [(3, .int x13), (4, .int x7), (0, .ref D.1), (1, .int p0), (2, .int p1)]) hx hb dX7_work_74 hl (k := 4) rfl (by rw [ex13]; first | done | rfl) (by decide) rfl (fun ls hl => ?_)
        refine lv_goto (tgt := 14) hx hb dX7_work_77 (by decide) ?_
        cases hf
        exact hk _ _ _ hM (lv_sub hl [2, 3, 4, 0] rfl)
      · have hf := it_neg c11 hf
        refine lv_aload_n hx hb dX7_work_59 rfl (lv_at hl 1 rfl) ?_
        refine lv_iload hx hb dX7_work_60 (lv_at hl 0 rfl) ?_
        obtain ⟨S14, hcS14, hf⟩ := bnd_some hf
        refine mr_callV (rest := []) B hM (c_X7_bind l D S5 x7 hcS14) (cwV 1 hts (lw_V q2100 q2102 qs83 q113 q2103) rfl rfl rfl hd_X7_bind ⟨Nat.le_of_ble_eq_true rfl, Nat.le_of_ble_eq_true rfl⟩) rfl hl.1 rfl (Nat.le_of_ble_eq_true rfl) dX7_work_62 ⟨Nat.zero_le _, Nat.zero_le _⟩ (fun H locs hM => ?_)
        refine lv_goto (tgt := 74) hx hb dX7_work_65 (by decide) ?_
        obtain ⟨x15, ex15, hf⟩ := bd_some hf
        refine lv_iinc (v := x15) (lv' := [(3, .int x15), (4, .int x7), (0, .ref D.1), (1, .int p0), (2, .int p1)]) hx hb dX7_work_74 hl (k := 4) rfl (by rw [ex15]; first | done | rfl) (by decide) rfl (fun ls hl => ?_)
        refine lv_goto (tgt := 14) hx hb dX7_work_77 (by decide) ?_
        cases hf
        exact hk _ _ _ hM (lv_sub hl [2, 3, 4, 0] rfl)
    · have hf := it_neg c9 hf
      refine lv_aload_n hx hb dX7_work_39 rfl (lv_at hl 1 rfl) ?_
      refine lv_iload hx hb dX7_work_40 (lv_at hl 0 rfl) ?_
      obtain ⟨S16, hcS16, hf⟩ := bnd_some hf
      refine mr_callV (rest := []) B hM (c_X7_leaf l D S5 x7 hcS16) (cwV 1 hts (lw_V q2078 q2080 qs79 q113 q2081) rfl rfl rfl hd_X7_leaf ⟨Nat.le_of_ble_eq_true rfl, Nat.le_of_ble_eq_true rfl⟩) rfl hl.1 rfl (Nat.le_of_ble_eq_true rfl) dX7_work_42 ⟨Nat.zero_le _, Nat.zero_le _⟩ (fun H locs hM => ?_)
      refine lv_goto (tgt := 74) hx hb dX7_work_45 (by decide) ?_
      obtain ⟨x17, ex17, hf⟩ := bd_some hf
      refine lv_iinc (v := x17) (lv' := [(3, .int x17), (4, .int x7), (0, .ref D.1), (1, .int p0), (2, .int p1)]) hx hb dX7_work_74 hl (k := 4) rfl (by rw [ex17]; first | done | rfl) (by decide) rfl (fun ls hl => ?_)
      refine lv_goto (tgt := 14) hx hb dX7_work_77 (by decide) ?_
      cases hf
      exact hk _ _ _ hM (lv_sub hl [2, 3, 4, 0] rfl)
def f_X7_means (S : MS) (p0 : Int32) : Option (Int32 × MS) :=
  bnd (f_X7_work S p0 (nI 0)) fun S1 => ald 3321 (S1.1 45) (nI 0) fun v2 => chk (v2 = 0 ∨ v2 = 1) <| some (v2, S1)
abbrev r_X7_means : Room := { frames := 7, cells := 0, slots := 0, locals := 167 }
set_option maxHeartbeats 4000000 in
set_option maxRecDepth 100000 in
theorem c_X7_means (l : Launch) (D : MD) (S : MS) (p0 : Int32) {r : Int32} {S' : MS} (hf : f_X7_means S p0 = some (r, S')) : m_Met l yX7_means cX7_means 2 (Option.some Jvm.ClassFile.FieldType.boolean) r_X7_means D [.ref D.1, .int p0] S (some (.int r)) S' := by
  refine m_metI (F := 7) (L := 167) (by decide) rfl (Nat.le_of_ble_eq_true rfl) (fun p e s m args below meth c Q B hret hM ls hl => ?_)
  have hx := B.1
  have hb := B.2.1
  have hown := B.2.2.2.1
  have hts := B.2.2.2.2
  have hl : lv_has ls 2 [(0, .ref D.1), (1, .int p0)] := hl
  generalize s.heap = H, ([] : List Loc) = locs at hM ⊢
  unfold f_X7_means at hf
  refine lv_aload_n hx hb dX7_means_0 rfl (lv_at hl 0 rfl) ?_
  refine lv_iload_n hx hb dX7_means_1 rfl (lv_at hl 1 rfl) ?_
  refine lv_iconst (v := nI 0) hx hb dX7_means_2 ic0 ?_
  obtain ⟨S1, hcS1, hf⟩ := bnd_some hf
  refine mr_callV (rest := []) B hM (c_X7_work l D S p0 (nI 0) hcS1) (cwV 2 hts (lw_V q2074 q2076 qs78 q113 q2077) rfl rfl rfl hd_X7_work ⟨Nat.le_of_ble_eq_true rfl, Nat.le_of_ble_eq_true rfl⟩) rfl hl.1 rfl (Nat.le_of_ble_eq_true rfl) dX7_means_3 ⟨Nat.zero_le _, Nat.zero_le _⟩ (fun H locs hM => ?_)
  refine lv_aload_n hx hb dX7_means_6 rfl (lv_at hl 0 rfl) ?_
  refine mr_get B hM 45 (v := .ref (D.2.1 45)) rfl (by decide) q1691 dX7_means_7 ?_
  refine lv_iconst (v := nI 0) hx hb dX7_means_10 ic0 ?_
  obtain ⟨v2, ev2, hiv2, hf⟩ := ald_some hf
  refine mr_zald B hM 45 (by decide) rfl hiv2 ev2 dX7_means_11 ?_
  obtain ⟨hb3, hf⟩ := chk_some hf
  cases hf
  exact hret _ _ _ _ (by rcases hb3 with q | q <;> (rw [q]; rfl)) hM dX7_means_12
def f_X7_so (S : MS) (p0 : Int32) : Option (Int32 × MS) :=
  bd (m_up S 0 0 (nI 0)) fun S1 => bd (if p0 = (-1) then nI 8 else p0) fun x4 => (if p0 = (-1) then ald 36 (S1.1 15) (nI 8) fun v13 => (if v13 = 0 then some ((-1), S1) else bnd (f_X7_bringWorld S1) fun S15 => bnd (f_X7_means S15 x4) <| u2 fun r16 S17 => (if r16 = 0 then some (nI 0, S17) else some (nI 1, S17))) else ald 4 (S1.1 12) (nI 0) fun v6 => bnd (f_X7_in p0 (nI 0) (v6 - nI 1)) fun r7 => (if r7 = 0 then some ((-1), S1) else bnd (f_X7_bringWorld S1) fun S9 => bnd (f_X7_means S9 x4) <| u2 fun r10 S11 => (if r10 = 0 then some (nI 0, S11) else some (nI 1, S11))))
abbrev r_X7_so : Room := { frames := 8, cells := 0, slots := 0, locals := 188 }
set_option maxHeartbeats 4000000 in
set_option maxRecDepth 100000 in
theorem c_X7_so (l : Launch) (D : MD) (S : MS) (p0 : Int32) {r : Int32} {S' : MS} (hf : f_X7_so S p0 = some (r, S')) : m_Met l yX7_so cX7_so 3 (Option.some Jvm.ClassFile.FieldType.int) r_X7_so D [.ref D.1, .int p0] S (some (.int r)) S' := by
  refine m_metI (F := 8) (L := 188) (by decide) rfl (Nat.le_of_ble_eq_true rfl) (fun p e s m args below meth c Q B hret hM ls hl => ?_)
  have hx := B.1
  have hb := B.2.1
  have hown := B.2.2.2.1
  have hts := B.2.2.2.2
  have hl : lv_has ls 3 [(0, .ref D.1), (1, .int p0)] := hl
  generalize s.heap = H, ([] : List Loc) = locs at hM ⊢
  unfold f_X7_so at hf
  refine lv_aload_n hx hb dX7_so_0 rfl (lv_at hl 0 rfl) ?_
  refine lv_iconst (v := nI 0) hx hb dX7_so_1 ic0 ?_
  obtain ⟨S1, eS1, hf⟩ := bd_some hf
  refine mr_puti B hM 0 (by decide) eS1 rfl (tyX7_ok 0 (by decide)) q1646 dX7_so_2 (fun H locs hM => ?_)
  refine lv_iload_n hx hb dX7_so_5 rfl (lv_at hl 1 rfl) ?_
  refine lv_iconst (v := (-1)) hx hb dX7_so_6 icm1 ?_
  obtain ⟨x4, ex4, hf⟩ := bd_some hf
  have jx4 : W p l e r_X7_so s m args below meth c H locs 0 0 Q (F0 m 16 ls [.int x4]) := by
    refine lv_istore_n (lv' := [(2, .int x4), (0, .ref D.1), (1, .int p0)]) hx hb dX7_so_16 rfl hl (by decide) rfl (fun ls hl => ?_)
    refine lv_iload_n hx hb dX7_so_17 rfl (lv_at hl 2 rfl) ?_
    refine lv_iconst (v := (-1)) hx hb dX7_so_18 icm1 ?_
    refine lv_icmp_ne (tgt := 35) hx hb dX7_so_19 (by decide) (fun c5 => ?_) (fun c5 => ?_)
    · have hf := it_neg c5 hf
      refine lv_iload_n hx hb dX7_so_35 rfl (lv_at hl 2 rfl) ?_
      refine lv_iconst (v := nI 0) hx hb dX7_so_36 ic0 ?_
      refine lv_aload_n hx hb dX7_so_37 rfl (lv_at hl 1 rfl) ?_
      refine mr_get B hM 12 (v := .ref (D.2.1 12)) rfl (by decide) q1658 dX7_so_38 ?_
      refine lv_iconst (v := nI 0) hx hb dX7_so_41 ic0 ?_
      obtain ⟨v6, ev6, hiv6, hf⟩ := ald_some hf
      refine mr_iald B hM 12 (by decide) rfl hiv6 ev6 dX7_so_42 ?_
      refine lv_iconst (v := nI 1) hx hb dX7_so_43 ic1 ?_
      refine lv_isub hx hb dX7_so_44 ?_
      obtain ⟨r7, hcr7, hf⟩ := bnd_some hf
      refine pr_callS (rest := []) B (c_X7_in l p0 (nI 0) (v6 - nI 1) hcr7) (va_cwS 3 hts (lw_S q1841 q1842 q113 q1843) rfl rfl rfl hd_X7_in ⟨Nat.le_of_ble_eq_true rfl, Nat.le_of_ble_eq_true rfl⟩) rfl hl.1 rfl (Nat.le_of_ble_eq_true rfl) dX7_so_45 ⟨Nat.zero_le _, Nat.zero_le _⟩ ?_
      refine lv_if_ne (tgt := 53) hx hb dX7_so_48 (by decide) (fun c8 => ?_) (fun c8 => ?_)
      · have hf := it_neg c8 hf
        refine lv_aload_n hx hb dX7_so_53 rfl (lv_at hl 1 rfl) ?_
        obtain ⟨S9, hcS9, hf⟩ := bnd_some hf
        refine mr_callV (rest := []) B hM (c_X7_bringWorld l D S1  hcS9) (cwV 0 hts (lw_V q2066 q2068 qs76 q113 q2069) rfl rfl rfl hd_X7_bringWorld ⟨Nat.le_of_ble_eq_true rfl, Nat.le_of_ble_eq_true rfl⟩) rfl hl.1 rfl (Nat.le_of_ble_eq_true rfl) dX7_so_54 ⟨Nat.zero_le _, Nat.zero_le _⟩ (fun H locs hM => ?_)
        refine lv_aload_n hx hb dX7_so_57 rfl (lv_at hl 1 rfl) ?_
        refine lv_iload_n hx hb dX7_so_58 rfl (lv_at hl 0 rfl) ?_
        obtain ⟨⟨r10, S11⟩, hcr10, hf⟩ := bnd_some hf
        have hf := u2_at hf
        refine mr_callV (rest := []) B hM (c_X7_means l D S9 x4 hcr10) (cwV 1 hts (lw_V q2070 q2072 qs77 q113 q2073) rfl rfl rfl hd_X7_means ⟨Nat.le_of_ble_eq_true rfl, Nat.le_of_ble_eq_true rfl⟩) rfl hl.1 rfl (Nat.le_of_ble_eq_true rfl) dX7_so_59 ⟨Nat.zero_le _, Nat.zero_le _⟩ (fun H locs hM => ?_)
        refine lv_if_eq (tgt := 69) hx hb dX7_so_62 (by decide) (fun c12 => ?_) (fun c12 => ?_)
        · have hf := it_pos c12 hf
          refine lv_iconst (v := nI 0) hx hb dX7_so_69 ic0 ?_
          cases hf
          exact hret _ _ _ _ rfl hM dX7_so_70
        · have hf := it_neg c12 hf
          refine lv_iconst (v := nI 1) hx hb dX7_so_65 ic1 ?_
          refine lv_goto (tgt := 70) hx hb dX7_so_66 (by decide) ?_
          cases hf
          exact hret _ _ _ _ rfl hM dX7_so_70
      · have hf := it_pos c8 hf
        refine lv_iconst (v := (-1)) hx hb dX7_so_51 icm1 ?_
        cases hf
        exact hret _ _ _ _ rfl hM dX7_so_52
    · have hf := it_pos c5 hf
      refine lv_aload_n hx hb dX7_so_22 rfl (lv_at hl 1 rfl) ?_
      refine mr_get B hM 15 (v := .ref (D.2.1 15)) rfl (by decide) q1661 dX7_so_23 ?_
      refine lv_bipush (v := nI 8) hx hb dX7_so_26 bp8 ?_
      obtain ⟨v13, ev13, hiv13, hf⟩ := ald_some hf
      refine mr_iald B hM 15 (by decide) rfl hiv13 ev13 dX7_so_28 ?_
      refine lv_if_ne (tgt := 53) hx hb dX7_so_29 (by decide) (fun c14 => ?_) (fun c14 => ?_)
      · have hf := it_neg c14 hf
        refine lv_aload_n hx hb dX7_so_53 rfl (lv_at hl 1 rfl) ?_
        obtain ⟨S15, hcS15, hf⟩ := bnd_some hf
        refine mr_callV (rest := []) B hM (c_X7_bringWorld l D S1  hcS15) (cwV 0 hts (lw_V q2066 q2068 qs76 q113 q2069) rfl rfl rfl hd_X7_bringWorld ⟨Nat.le_of_ble_eq_true rfl, Nat.le_of_ble_eq_true rfl⟩) rfl hl.1 rfl (Nat.le_of_ble_eq_true rfl) dX7_so_54 ⟨Nat.zero_le _, Nat.zero_le _⟩ (fun H locs hM => ?_)
        refine lv_aload_n hx hb dX7_so_57 rfl (lv_at hl 1 rfl) ?_
        refine lv_iload_n hx hb dX7_so_58 rfl (lv_at hl 0 rfl) ?_
        obtain ⟨⟨r16, S17⟩, hcr16, hf⟩ := bnd_some hf
        have hf := u2_at hf
        refine mr_callV (rest := []) B hM (c_X7_means l D S15 x4 hcr16) (cwV 1 hts (lw_V q2070 q2072 qs77 q113 q2073) rfl rfl rfl hd_X7_means ⟨Nat.le_of_ble_eq_true rfl, Nat.le_of_ble_eq_true rfl⟩) rfl hl.1 rfl (Nat.le_of_ble_eq_true rfl) dX7_so_59 ⟨Nat.zero_le _, Nat.zero_le _⟩ (fun H locs hM => ?_)
        refine lv_if_eq (tgt := 69) hx hb dX7_so_62 (by decide) (fun c18 => ?_) (fun c18 => ?_)
        · have hf := it_pos c18 hf
          refine lv_iconst (v := nI 0) hx hb dX7_so_69 ic0 ?_
          cases hf
          exact hret _ _ _ _ rfl hM dX7_so_70
        · have hf := it_neg c18 hf
          refine lv_iconst (v := nI 1) hx hb dX7_so_65 ic1 ?_
          refine lv_goto (tgt := 70) hx hb dX7_so_66 (by decide) ?_
          cases hf
          exact hret _ _ _ _ rfl hM dX7_so_70
      · have hf := it_pos c14 hf
        refine lv_goto (tgt := 51) hx hb dX7_so_32 (by decide) ?_
        refine lv_iconst (v := (-1)) hx hb dX7_so_51 icm1 ?_
        cases hf
        exact hret _ _ _ _ rfl hM dX7_so_52
  refine lv_icmp_ne (tgt := 15) hx hb dX7_so_7 (by decide) (fun c2 => ?_) (fun c2 => ?_)
  · refine lv_iload_n hx hb dX7_so_15 rfl (lv_at hl 1 rfl) ?_
    exact js (ex4.trans (if_neg c2)) jx4
  · refine lv_bipush (v := nI 8) hx hb dX7_so_10 bp8 ?_
    refine lv_goto (tgt := 16) hx hb dX7_so_12 (by decide) ?_
    exact js (ex4.trans (if_pos c2)) jx4
def f_X7_breaks_L32 (p0 : Int32) (S5 : MS) (x6 : Int32) (x7 : Int32) : Option ((Int32 × Int32) ⊕ ((Int32 × Int32))) :=
  ald 1440 (S5.1 16) ((nI 40 * p0) + x6) fun v8 => (if v8 = 0 then ald 1440 (S5.1 18) ((nI 40 * p0) + x6) fun v10 => ald 3 (S5.1 26) v10 fun v11 => bd (x7 * v11) fun x12 => bd (x6 + nI 1) fun x13 => some (.inl (x13, x12)) else some (.inr (x6, x7)))
def f_X7_breaks_J204_42 (p1 : Int32) (S23 : MS) (x28 : Int32) (x29 : Int32) (x30 : Int32) (x31 : Int32) (x33 : Int32) (x37 : Int32) (x39 : Int32) (x45 : Int32) : Option ((Int32 × Int32 × Int32 × Int32 × Int32) ⊕ ((Int32 × Int32))) :=
  bd (x28 + x45) fun x46 => ald 1440 (S23.1 17) x33 fun v47 => bd (x30 ||| (nI 1 <<< (v47 &&& 31))) fun x48 => (if x31 = p1 then bd (x31 + Int32.ofInt (-1)) fun x51 => some (.inl (x39, x46, x37, x48, x51)) else bd (x31 + Int32.ofInt (-1)) fun x50 => some (.inl (x39, x46, x29, x48, x50)))
def f_X7_breaks_L128 (p0 : Int32) (p1 : Int32) (S23 : MS) (x27 : Int32) (x28 : Int32) (x29 : Int32) (x30 : Int32) (x31 : Int32) : Option ((Int32 × Int32 × Int32 × Int32 × Int32) ⊕ ((Int32 × Int32))) :=
  (if x31 < 0 then some (.inr (x28, x29)) else bd ((nI 40 * p0) + x31) fun x33 => ald 1440 (S23.1 18) x33 fun v34 => ald 3 (S23.1 26) v34 fun v35 => chk (¬ v35 = 0) <| bd (x27 - x27 / v35 * v35) fun x37 => chk (¬ v35 = 0) <| bd (x27 / v35) fun x39 => ald 1440 (S23.1 17) x33 fun v40 => (if ((x30 >>> (v40 &&& 31)) &&& nI 1) = 0 then ald 1440 (S23.1 17) x33 fun v43 => bnd (f_X7_unit v43) fun r44 => f_X7_breaks_J204_42 p1 S23 x28 x29 x30 x31 x33 x37 x39 (x37 * r44) else f_X7_breaks_J204_42 p1 S23 x28 x29 x30 x31 x33 x37 x39 (nI 0)))
def f_X7_breaks_L103 (p0 : Int32) (p1 : Int32) (x16 : Int32) (x17 : Int32) (S23 : MS) (x24 : Int32) : Option ((Int32) ⊕ ((Int32) ⊕ (Unit))) :=
  (if x17 ≤ x24 then some (.inr (.inr ())) else bd (x16 - nI 1) fun x26 => bnd (wO (fun t : Int32 × Int32 × Int32 × Int32 × Int32 => f_X7_breaks_L128 p0 p1 S23 t.1 t.2.1 t.2.2.1 t.2.2.2.1 t.2.2.2.2) fu (x24, nI 0, nI 0, nI 0, x26)) <| u2 fun x54 x55 => ald 3321 (S23.1 45) x54 fun v56 => (if v56 = 0 then some (.inr (.inl x55)) else bd (x24 + nI 1) fun x58 => some (.inl x58)))
def f_X7_breaks (S : MS) (p0 : Int32) (p1 : Int32) : Option (Int32 × MS) :=
  bd (m_up S 0 0 (nI 0)) fun S1 => ald 4 (S1.1 12) (nI 0) fun v2 => bnd (f_X7_in p0 (nI 0) (v2 - nI 1)) fun r3 => (if r3 = 0 then some ((-1), S1) else bnd (f_X7_bringWorld S1) fun S5 => bnd (wO (fun t : Int32 × Int32 => f_X7_breaks_L32 p0 S5 t.1 t.2) fu (nI 0, nI 1)) <| u2 fun x16 x17 => bnd (f_X7_in p1 (nI 0) (x16 - nI 1)) fun r18 => (if r18 = 0 then some ((-1), S5) else bnd (f_X7_means S5 p0) <| u2 fun r20 S21 => (if r20 = 0 then bnd (f_X7_work S21 p0 x16) fun S23 => bnd (wO (fun t : Int32 => f_X7_breaks_L103 p0 p1 x16 x17 S23 t) fu (nI 0)) (Sum.elim (fun x61 => some (x61, S23)) (fun _ => some ((-1), S23))) else some ((-1), S21))))
abbrev r_X7_breaks : Room := { frames := 8, cells := 0, slots := 0, locals := 188 }
set_option maxHeartbeats 4000000 in
set_option maxRecDepth 100000 in
theorem c_X7_breaks (l : Launch) (D : MD) (S : MS) (p0 : Int32) (p1 : Int32) {r : Int32} {S' : MS} (hf : f_X7_breaks S p0 p1 = some (r, S')) : m_Met l yX7_breaks cX7_breaks 14 (Option.some Jvm.ClassFile.FieldType.int) r_X7_breaks D [.ref D.1, .int p0, .int p1] S (some (.int r)) S' := by
  refine m_metI (F := 8) (L := 188) (by decide) rfl (Nat.le_of_ble_eq_true rfl) (fun p e s m args below meth c Q B hret hM ls hl => ?_)
  have hx := B.1
  have hb := B.2.1
  have hown := B.2.2.2.1
  have hts := B.2.2.2.2
  have hl : lv_has ls 14 [(0, .ref D.1), (1, .int p0), (2, .int p1)] := hl
  generalize s.heap = H, ([] : List Loc) = locs at hM ⊢
  unfold f_X7_breaks at hf
  refine lv_aload_n hx hb dX7_breaks_0 rfl (lv_at hl 0 rfl) ?_
  refine lv_iconst (v := nI 0) hx hb dX7_breaks_1 ic0 ?_
  obtain ⟨S1, eS1, hf⟩ := bd_some hf
  refine mr_puti B hM 0 (by decide) eS1 rfl (tyX7_ok 0 (by decide)) q1646 dX7_breaks_2 (fun H locs hM => ?_)
  refine lv_iload_n hx hb dX7_breaks_5 rfl (lv_at hl 1 rfl) ?_
  refine lv_iconst (v := nI 0) hx hb dX7_breaks_6 ic0 ?_
  refine lv_aload_n hx hb dX7_breaks_7 rfl (lv_at hl 0 rfl) ?_
  refine mr_get B hM 12 (v := .ref (D.2.1 12)) rfl (by decide) q1658 dX7_breaks_8 ?_
  refine lv_iconst (v := nI 0) hx hb dX7_breaks_11 ic0 ?_
  obtain ⟨v2, ev2, hiv2, hf⟩ := ald_some hf
  refine mr_iald B hM 12 (by decide) rfl hiv2 ev2 dX7_breaks_12 ?_
  refine lv_iconst (v := nI 1) hx hb dX7_breaks_13 ic1 ?_
  refine lv_isub hx hb dX7_breaks_14 ?_
  obtain ⟨r3, hcr3, hf⟩ := bnd_some hf
  refine pr_callS (rest := []) B (c_X7_in l p0 (nI 0) (v2 - nI 1) hcr3) (va_cwS 3 hts (lw_S q1841 q1842 q113 q1843) rfl rfl rfl hd_X7_in ⟨Nat.le_of_ble_eq_true rfl, Nat.le_of_ble_eq_true rfl⟩) rfl hl.1 rfl (Nat.le_of_ble_eq_true rfl) dX7_breaks_15 ⟨Nat.zero_le _, Nat.zero_le _⟩ ?_
  refine lv_if_ne (tgt := 23) hx hb dX7_breaks_18 (by decide) (fun c4 => ?_) (fun c4 => ?_)
  · have hf := it_neg c4 hf
    refine lv_aload_n hx hb dX7_breaks_23 rfl (lv_at hl 0 rfl) ?_
    obtain ⟨S5, hcS5, hf⟩ := bnd_some hf
    refine mr_callV (rest := []) B hM (c_X7_bringWorld l D S1  hcS5) (cwV 0 hts (lw_V q2066 q2068 qs76 q113 q2069) rfl rfl rfl hd_X7_bringWorld ⟨Nat.le_of_ble_eq_true rfl, Nat.le_of_ble_eq_true rfl⟩) rfl hl.1 rfl (Nat.le_of_ble_eq_true rfl) dX7_breaks_24 ⟨Nat.zero_le _, Nat.zero_le _⟩ (fun H locs hM => ?_)
    refine lv_iconst (v := nI 0) hx hb dX7_breaks_27 ic0 ?_
    refine lv_istore_n (lv' := [(3, .int (nI 0)), (0, .ref D.1), (1, .int p0), (2, .int p1)]) hx hb dX7_breaks_28 rfl hl (by decide) rfl (fun ls hl => ?_)
    refine lv_iconst (v := nI 1) hx hb dX7_breaks_29 ic1 ?_
    refine lv_istore (lv' := [(4, .int (nI 1)), (3, .int (nI 0)), (0, .ref D.1), (1, .int p0), (2, .int p1)]) hx hb dX7_breaks_30 hl (by decide) rfl (fun ls hl => ?_)
    obtain ⟨y15, hxy15, hf⟩ := bnd_some hf
    have hy15 : (fun t : Int32 × Int32 => ∀ (H : Heap) (locs : List Loc) (ls : Array Slot), m_I D s H locs S5 → lv_has ls 14 [(0, .ref D.1), (1, .int p0), (2, .int p1), (3, .int t.1), (4, .int t.2)] → W p l e r_X7_breaks s m args below meth c H locs 0 0 Q (F0 m 73 ls [])) y15 := by
      rcases y15 with ⟨x16, x17⟩
      have hf := u2_at hf
      intro H locs ls hM hl
      refine lv_iload_n hx hb dX7_breaks_73 rfl (lv_at hl 2 rfl) ?_
      refine lv_iconst (v := nI 0) hx hb dX7_breaks_74 ic0 ?_
      refine lv_iload_n hx hb dX7_breaks_75 rfl (lv_at hl 3 rfl) ?_
      refine lv_iconst (v := nI 1) hx hb dX7_breaks_76 ic1 ?_
      refine lv_isub hx hb dX7_breaks_77 ?_
      obtain ⟨r18, hcr18, hf⟩ := bnd_some hf
      refine pr_callS (rest := []) B (c_X7_in l p1 (nI 0) (x16 - nI 1) hcr18) (va_cwS 3 hts (lw_S q1841 q1842 q113 q1843) rfl rfl rfl hd_X7_in ⟨Nat.le_of_ble_eq_true rfl, Nat.le_of_ble_eq_true rfl⟩) rfl hl.1 rfl (Nat.le_of_ble_eq_true rfl) dX7_breaks_78 ⟨Nat.zero_le _, Nat.zero_le _⟩ ?_
      refine lv_if_eq (tgt := 92) hx hb dX7_breaks_81 (by decide) (fun c19 => ?_) (fun c19 => ?_)
      · have hf := it_pos c19 hf
        refine lv_iconst (v := (-1)) hx hb dX7_breaks_92 icm1 ?_
        cases hf
        exact hret _ _ _ _ rfl hM dX7_breaks_93
      · have hf := it_neg c19 hf
        refine lv_aload_n hx hb dX7_breaks_84 rfl (lv_at hl 0 rfl) ?_
        refine lv_iload_n hx hb dX7_breaks_85 rfl (lv_at hl 1 rfl) ?_
        obtain ⟨⟨r20, S21⟩, hcr20, hf⟩ := bnd_some hf
        have hf := u2_at hf
        refine mr_callV (rest := []) B hM (c_X7_means l D S5 p0 hcr20) (cwV 1 hts (lw_V q2070 q2072 qs77 q113 q2073) rfl rfl rfl hd_X7_means ⟨Nat.le_of_ble_eq_true rfl, Nat.le_of_ble_eq_true rfl⟩) rfl hl.1 rfl (Nat.le_of_ble_eq_true rfl) dX7_breaks_86 ⟨Nat.zero_le _, Nat.zero_le _⟩ (fun H locs hM => ?_)
        refine lv_if_eq (tgt := 94) hx hb dX7_breaks_89 (by decide) (fun c22 => ?_) (fun c22 => ?_)
        · have hf := it_pos c22 hf
          refine lv_aload_n hx hb dX7_breaks_94 rfl (lv_at hl 0 rfl) ?_
          refine lv_iload_n hx hb dX7_breaks_95 rfl (lv_at hl 1 rfl) ?_
          refine lv_iload_n hx hb dX7_breaks_96 rfl (lv_at hl 3 rfl) ?_
          obtain ⟨S23, hcS23, hf⟩ := bnd_some hf
          refine mr_callV (rest := []) B hM (c_X7_work l D S21 p0 x16 hcS23) (cwV 2 hts (lw_V q2074 q2076 qs78 q113 q2077) rfl rfl rfl hd_X7_work ⟨Nat.le_of_ble_eq_true rfl, Nat.le_of_ble_eq_true rfl⟩) rfl hl.1 rfl (Nat.le_of_ble_eq_true rfl) dX7_breaks_97 ⟨Nat.zero_le _, Nat.zero_le _⟩ (fun H locs hM => ?_)
          refine lv_iconst (v := nI 0) hx hb dX7_breaks_100 ic0 ?_
          refine lv_istore (lv' := [(5, .int (nI 0)), (0, .ref D.1), (1, .int p0), (2, .int p1), (3, .int x16), (4, .int x17)]) hx hb dX7_breaks_101 hl (by decide) rfl (fun ls hl => ?_)
          obtain ⟨y60, hxy60, hf⟩ := bnd_some hf
          have hy60 : (Sum.elim (fun t : Int32 => ∀ (H : Heap) (locs : List Loc) (ls : Array Slot), m_I D s H locs S23 → lv_has ls 14 [(8, .int t)] → W p l e r_X7_breaks s m args below meth c H locs 0 0 Q (F0 m 252 ls [])) (fun t : Unit => ∀ (H : Heap) (locs : List Loc) (ls : Array Slot), m_I D s H locs S23 → lv_has ls 14 [] → W p l e r_X7_breaks s m args below meth c H locs 0 0 Q (F0 m 261 ls []))) y60 := by
            rcases y60 with x61 | _
            · have hf := el_l hf
              intro H locs ls hM hl
              refine lv_iload hx hb dX7_breaks_252 (lv_at hl 0 rfl) ?_
              cases hf
              exact hret _ _ _ _ rfl hM dX7_breaks_254
            · have hf := el_r hf
              intro H locs ls hM hl
              refine lv_iconst (v := (-1)) hx hb dX7_breaks_261 icm1 ?_
              cases hf
              exact hret _ _ _ _ rfl hM dX7_breaks_262
          refine lp_W (step := (fun t : Int32 => f_X7_breaks_L103 p0 p1 x16 x17 S23 t)) (fun t : Int32 => ∀ (H : Heap) (locs : List Loc) (ls : Array Slot), m_I D s H locs S23 → lv_has ls 14 [(0, .ref D.1), (1, .int p0), (2, .int p1), (3, .int x16), (4, .int x17), (5, .int t)] → W p l e r_X7_breaks s m args below meth c H locs 0 0 Q (F0 m 103 ls [])) (Sum.elim (fun t : Int32 => ∀ (H : Heap) (locs : List Loc) (ls : Array Slot), m_I D s H locs S23 → lv_has ls 14 [(8, .int t)] → W p l e r_X7_breaks s m args below meth c H locs 0 0 Q (F0 m 252 ls [])) (fun t : Unit => ∀ (H : Heap) (locs : List Loc) (ls : Array Slot), m_I D s H locs S23 → lv_has ls 14 [] → W p l e r_X7_breaks s m args below meth c H locs 0 0 Q (F0 m 261 ls []))) ?_ fu (nI 0) y60 hxy60 hy60 _ _ _ hM (lv_sub hl [1, 2, 3, 4, 5, 0] rfl)
          clear hf hxy60 hy60
          rintro x24 o (hf : f_X7_breaks_L103 p0 p1 x16 x17 S23 x24 = some o) hk
          intro H locs ls hM hl
          unfold f_X7_breaks_L103 at hf
          refine lv_iload hx hb dX7_breaks_103 (lv_at hl 5 rfl) ?_
          refine lv_iload hx hb dX7_breaks_105 (lv_at hl 4 rfl) ?_
          refine lv_icmp_ge (tgt := 261) hx hb dX7_breaks_107 (by decide) (fun c25 => ?_) (fun c25 => ?_)
          · have hf := it_pos c25 hf
            cases hf
            exact hk _ _ _ hM (lv_sub hl [] rfl)
          · have hf := it_neg c25 hf
            refine lv_iload hx hb dX7_breaks_110 (lv_at hl 5 rfl) ?_
            refine lv_istore (lv' := [(6, .int x24), (0, .ref D.1), (1, .int p0), (2, .int p1), (3, .int x16), (4, .int x17), (5, .int x24)]) hx hb dX7_breaks_112 hl (by decide) rfl (fun ls hl => ?_)
            refine lv_iconst (v := nI 0) hx hb dX7_breaks_114 ic0 ?_
            refine lv_istore (lv' := [(7, .int (nI 0)), (6, .int x24), (0, .ref D.1), (1, .int p0), (2, .int p1), (3, .int x16), (4, .int x17), (5, .int x24)]) hx hb dX7_breaks_115 hl (by decide) rfl (fun ls hl => ?_)
            refine lv_iconst (v := nI 0) hx hb dX7_breaks_117 ic0 ?_
            refine lv_istore (lv' := [(8, .int (nI 0)), (7, .int (nI 0)), (6, .int x24), (0, .ref D.1), (1, .int p0), (2, .int p1), (3, .int x16), (4, .int x17), (5, .int x24)]) hx hb dX7_breaks_118 hl (by decide) rfl (fun ls hl => ?_)
            refine lv_iconst (v := nI 0) hx hb dX7_breaks_120 ic0 ?_
            refine lv_istore (lv' := [(9, .int (nI 0)), (8, .int (nI 0)), (7, .int (nI 0)), (6, .int x24), (0, .ref D.1), (1, .int p0), (2, .int p1), (3, .int x16), (4, .int x17), (5, .int x24)]) hx hb dX7_breaks_121 hl (by decide) rfl (fun ls hl => ?_)
            refine lv_iload_n hx hb dX7_breaks_123 rfl (lv_at hl 7 rfl) ?_
            refine lv_iconst (v := nI 1) hx hb dX7_breaks_124 ic1 ?_
            refine lv_isub hx hb dX7_breaks_125 ?_
            refine lv_topi (fun x26 ex26 => ?_)
            have hf := bd_at ex26 hf
            refine lv_istore (lv' := [(10, .int x26), (9, .int (nI 0)), (8, .int (nI 0)), (7, .int (nI 0)), (6, .int x24), (0, .ref D.1), (1, .int p0), (2, .int p1), (3, .int x16), (4, .int x17), (5, .int x24)]) hx hb dX7_breaks_126 hl (by decide) rfl (fun ls hl => ?_)
            obtain ⟨y53, hxy53, hf⟩ := bnd_some hf
            have hy53 : (fun t : Int32 × Int32 => ∀ (H : Heap) (locs : List Loc) (ls : Array Slot), m_I D s H locs S23 → lv_has ls 14 [(0, .ref D.1), (1, .int p0), (2, .int p1), (3, .int x16), (4, .int x17), (5, .int x24), (7, .int t.1), (8, .int t.2)] → W p l e r_X7_breaks s m args below meth c H locs 0 0 Q (F0 m 242 ls [])) y53 := by
              rcases y53 with ⟨x54, x55⟩
              have hf := u2_at hf
              intro H locs ls hM hl
              refine lv_aload_n hx hb dX7_breaks_242 rfl (lv_at hl 0 rfl) ?_
              refine mr_get B hM 45 (v := .ref (D.2.1 45)) rfl (by decide) q1691 dX7_breaks_243 ?_
              refine lv_iload hx hb dX7_breaks_246 (lv_at hl 6 rfl) ?_
              obtain ⟨v56, ev56, hiv56, hf⟩ := ald_some hf
              refine mr_zald B hM 45 (by decide) rfl hiv56 ev56 dX7_breaks_248 ?_
              refine lv_if_ne (tgt := 255) hx hb dX7_breaks_249 (by decide) (fun c57 => ?_) (fun c57 => ?_)
              · have hf := it_neg c57 hf
                obtain ⟨x58, ex58, hf⟩ := bd_some hf
                refine lv_iinc (v := x58) (lv' := [(5, .int x58), (0, .ref D.1), (1, .int p0), (2, .int p1), (3, .int x16), (4, .int x17), (7, .int x54), (8, .int x55)]) hx hb dX7_breaks_255 hl (k := 5) rfl (by rw [ex58]; first | done | rfl) (by decide) rfl (fun ls hl => ?_)
                refine lv_goto (tgt := 103) hx hb dX7_breaks_258 (by decide) ?_
                cases hf
                exact hk _ _ _ hM (lv_sub hl [1, 2, 3, 4, 5, 0] rfl)
              · have hf := it_pos c57 hf
                cases hf
                exact hk _ _ _ hM (lv_sub hl [7] rfl)
            refine lp_W (step := (fun t : Int32 × Int32 × Int32 × Int32 × Int32 => f_X7_breaks_L128 p0 p1 S23 t.1 t.2.1 t.2.2.1 t.2.2.2.1 t.2.2.2.2)) (fun t : Int32 × Int32 × Int32 × Int32 × Int32 => ∀ (H : Heap) (locs : List Loc) (ls : Array Slot), m_I D s H locs S23 → lv_has ls 14 [(0, .ref D.1), (1, .int p0), (2, .int p1), (3, .int x16), (4, .int x17), (5, .int x24), (6, .int t.1), (7, .int t.2.1), (8, .int t.2.2.1), (9, .int t.2.2.2.1), (10, .int t.2.2.2.2)] → W p l e r_X7_breaks s m args below meth c H locs 0 0 Q (F0 m 128 ls [])) (fun t : Int32 × Int32 => ∀ (H : Heap) (locs : List Loc) (ls : Array Slot), m_I D s H locs S23 → lv_has ls 14 [(0, .ref D.1), (1, .int p0), (2, .int p1), (3, .int x16), (4, .int x17), (5, .int x24), (7, .int t.1), (8, .int t.2)] → W p l e r_X7_breaks s m args below meth c H locs 0 0 Q (F0 m 242 ls [])) ?_ fu (x24, nI 0, nI 0, nI 0, x26) y53 hxy53 hy53 _ _ _ hM (lv_sub hl [5, 6, 7, 8, 9, 10, 4, 3, 2, 1, 0] rfl)
            clear hf hxy53 hy53
            rintro ⟨x27, x28, x29, x30, x31⟩ o (hf : f_X7_breaks_L128 p0 p1 S23 x27 x28 x29 x30 x31 = some o) hk
            intro H locs ls hM hl
            unfold f_X7_breaks_L128 at hf
            refine lv_iload hx hb dX7_breaks_128 (lv_at hl 10 rfl) ?_
            refine lv_if_lt (tgt := 242) hx hb dX7_breaks_130 (by decide) (fun c32 => ?_) (fun c32 => ?_)
            · have hf := it_pos c32 hf
              cases hf
              exact hk _ _ _ hM (lv_sub hl [0, 1, 2, 3, 4, 5, 7, 8] rfl)
            · have hf := it_neg c32 hf
              refine lv_bipush (v := nI 40) hx hb dX7_breaks_133 bp40 ?_
              refine lv_iload_n hx hb dX7_breaks_135 rfl (lv_at hl 1 rfl) ?_
              refine lv_imul hx hb dX7_breaks_136 ?_
              refine lv_iload hx hb dX7_breaks_137 (lv_at hl 10 rfl) ?_
              refine lv_iadd hx hb dX7_breaks_139 ?_
              refine lv_topi (fun x33 ex33 => ?_)
              have hf := bd_at ex33 hf
              refine lv_istore (lv' := [(11, .int x33), (0, .ref D.1), (1, .int p0), (2, .int p1), (3, .int x16), (4, .int x17), (5, .int x24), (6, .int x27), (7, .int x28), (8, .int x29), (9, .int x30), (10, .int x31)]) hx hb dX7_breaks_140 hl (by decide) rfl (fun ls hl => ?_)
              refine lv_aload_n hx hb dX7_breaks_142 rfl (lv_at hl 1 rfl) ?_
              refine mr_get B hM 26 (v := .ref (D.2.1 26)) rfl (by decide) q1672 dX7_breaks_143 ?_
              refine lv_aload_n hx hb dX7_breaks_146 rfl (lv_at hl 1 rfl) ?_
              refine mr_get B hM 18 (v := .ref (D.2.1 18)) rfl (by decide) q1664 dX7_breaks_147 ?_
              refine lv_iload hx hb dX7_breaks_150 (lv_at hl 0 rfl) ?_
              obtain ⟨v34, ev34, hiv34, hf⟩ := ald_some hf
              refine mr_iald B hM 18 (by decide) rfl hiv34 ev34 dX7_breaks_152 ?_
              obtain ⟨v35, ev35, hiv35, hf⟩ := ald_some hf
              refine mr_iald B hM 26 (by decide) rfl hiv35 ev35 dX7_breaks_153 ?_
              refine lv_istore (lv' := [(12, .int v35), (11, .int x33), (0, .ref D.1), (1, .int p0), (2, .int p1), (3, .int x16), (4, .int x17), (5, .int x24), (6, .int x27), (7, .int x28), (8, .int x29), (9, .int x30), (10, .int x31)]) hx hb dX7_breaks_154 hl (by decide) rfl (fun ls hl => ?_)
              refine lv_iload hx hb dX7_breaks_156 (lv_at hl 8 rfl) ?_
              refine lv_iload hx hb dX7_breaks_158 (lv_at hl 0 rfl) ?_
              obtain ⟨hz36, hf⟩ := chk_some hf
              refine lv_irem hx hb dX7_breaks_160 hz36 ?_
              refine lv_topi (fun x37 ex37 => ?_)
              have hf := bd_at ex37 hf
              refine lv_istore (lv' := [(13, .int x37), (12, .int v35), (11, .int x33), (0, .ref D.1), (1, .int p0), (2, .int p1), (3, .int x16), (4, .int x17), (5, .int x24), (6, .int x27), (7, .int x28), (8, .int x29), (9, .int x30), (10, .int x31)]) hx hb dX7_breaks_161 hl (by decide) rfl (fun ls hl => ?_)
              refine lv_iload hx hb dX7_breaks_163 (lv_at hl 9 rfl) ?_
              refine lv_iload hx hb dX7_breaks_165 (lv_at hl 1 rfl) ?_
              obtain ⟨hz38, hf⟩ := chk_some hf
              refine lv_idiv hx hb dX7_breaks_167 hz38 ?_
              refine lv_topi (fun x39 ex39 => ?_)
              have hf := bd_at ex39 hf
              refine lv_istore (lv' := [(6, .int x39), (13, .int x37), (12, .int v35), (11, .int x33), (0, .ref D.1), (1, .int p0), (2, .int p1), (3, .int x16), (4, .int x17), (5, .int x24), (7, .int x28), (8, .int x29), (9, .int x30), (10, .int x31)]) hx hb dX7_breaks_168 hl (by decide) rfl (fun ls hl => ?_)
              refine lv_iload hx hb dX7_breaks_170 (lv_at hl 10 rfl) ?_
              refine lv_iload hx hb dX7_breaks_172 (lv_at hl 12 rfl) ?_
              refine lv_aload_n hx hb dX7_breaks_174 rfl (lv_at hl 4 rfl) ?_
              refine mr_get B hM 17 (v := .ref (D.2.1 17)) rfl (by decide) q1663 dX7_breaks_175 ?_
              refine lv_iload hx hb dX7_breaks_178 (lv_at hl 3 rfl) ?_
              obtain ⟨v40, ev40, hiv40, hf⟩ := ald_some hf
              refine mr_iald B hM 17 (by decide) rfl hiv40 ev40 dX7_breaks_180 ?_
              refine lv_ishr hx hb dX7_breaks_181 ?_
              refine lv_iconst (v := nI 1) hx hb dX7_breaks_182 ic1 ?_
              refine lv_iand hx hb dX7_breaks_183 ?_
              have j42 : ∀ (x45 : Int32), f_X7_breaks_J204_42 p1 S23 x28 x29 x30 x31 x33 x37 x39 x45 = some o → ∀ (H : Heap) (locs : List Loc) (ls : Array Slot), m_I D s H locs S23 → lv_has ls 14 [(0, .ref D.1), (1, .int p0), (2, .int p1), (3, .int x16), (4, .int x17), (5, .int x24), (6, .int x39), (8, .int x29), (9, .int x30), (10, .int x31), (11, .int x33), (13, .int x37)] → W p l e r_X7_breaks s m args below meth c H locs 0 0 Q (F0 m 204 ls [.int x45, .int x28]) := by
                intro x45 hf
                intro H locs ls hM hl
                unfold f_X7_breaks_J204_42 at hf
                refine lv_iadd hx hb dX7_breaks_204 ?_
                refine lv_topi (fun x46 ex46 => ?_)
                have hf := bd_at ex46 hf
                refine lv_istore (lv' := [(7, .int x46), (0, .ref D.1), (1, .int p0), (2, .int p1), (3, .int x16), (4, .int x17), (5, .int x24), (6, .int x39), (8, .int x29), (9, .int x30), (10, .int x31), (11, .int x33), (13, .int x37)]) hx hb dX7_breaks_205 hl (by decide) rfl (fun ls hl => ?_)
                refine lv_iload hx hb dX7_breaks_207 (lv_at hl 9 rfl) ?_
                refine lv_iconst (v := nI 1) hx hb dX7_breaks_209 ic1 ?_
                refine lv_aload_n hx hb dX7_breaks_210 rfl (lv_at hl 1 rfl) ?_
                refine mr_get B hM 17 (v := .ref (D.2.1 17)) rfl (by decide) q1663 dX7_breaks_211 ?_
                refine lv_iload hx hb dX7_breaks_214 (lv_at hl 11 rfl) ?_
                obtain ⟨v47, ev47, hiv47, hf⟩ := ald_some hf
                refine mr_iald B hM 17 (by decide) rfl hiv47 ev47 dX7_breaks_216 ?_
                refine lv_ishl hx hb dX7_breaks_217 ?_
                refine lv_ior hx hb dX7_breaks_218 ?_
                refine lv_topi (fun x48 ex48 => ?_)
                have hf := bd_at ex48 hf
                refine lv_istore (lv' := [(9, .int x48), (7, .int x46), (0, .ref D.1), (1, .int p0), (2, .int p1), (3, .int x16), (4, .int x17), (5, .int x24), (6, .int x39), (8, .int x29), (10, .int x31), (11, .int x33), (13, .int x37)]) hx hb dX7_breaks_219 hl (by decide) rfl (fun ls hl => ?_)
                refine lv_iload hx hb dX7_breaks_221 (lv_at hl 10 rfl) ?_
                refine lv_iload_n hx hb dX7_breaks_223 rfl (lv_at hl 4 rfl) ?_
                refine lv_icmp_ne (tgt := 232) hx hb dX7_breaks_224 (by decide) (fun c49 => ?_) (fun c49 => ?_)
                · have hf := it_neg c49 hf
                  refine lv_iload hx hb dX7_breaks_232 (lv_at hl 9 rfl) ?_
                  refine lv_istore (lv' := [(8, .int x29), (9, .int x48), (7, .int x46), (0, .ref D.1), (1, .int p0), (2, .int p1), (3, .int x16), (4, .int x17), (5, .int x24), (6, .int x39), (10, .int x31), (11, .int x33), (13, .int x37)]) hx hb dX7_breaks_234 hl (by decide) rfl (fun ls hl => ?_)
                  obtain ⟨x50, ex50, hf⟩ := bd_some hf
                  refine lv_iinc (v := x50) (lv' := [(10, .int x50), (8, .int x29), (9, .int x48), (7, .int x46), (0, .ref D.1), (1, .int p0), (2, .int p1), (3, .int x16), (4, .int x17), (5, .int x24), (6, .int x39), (11, .int x33), (13, .int x37)]) hx hb dX7_breaks_236 hl (k := 10) rfl (by rw [ex50]; first | done | rfl) (by decide) rfl (fun ls hl => ?_)
                  refine lv_goto (tgt := 128) hx hb dX7_breaks_239 (by decide) ?_
                  cases hf
                  exact hk _ _ _ hM (lv_sub hl [4, 5, 6, 7, 8, 9, 10, 3, 1, 2, 0] rfl)
                · have hf := it_pos c49 hf
                  refine lv_iload hx hb dX7_breaks_227 (lv_at hl 12 rfl) ?_
                  refine lv_goto (tgt := 234) hx hb dX7_breaks_229 (by decide) ?_
                  refine lv_istore (lv' := [(8, .int x37), (9, .int x48), (7, .int x46), (0, .ref D.1), (1, .int p0), (2, .int p1), (3, .int x16), (4, .int x17), (5, .int x24), (6, .int x39), (10, .int x31), (11, .int x33), (13, .int x37)]) hx hb dX7_breaks_234 hl (by decide) rfl (fun ls hl => ?_)
                  obtain ⟨x51, ex51, hf⟩ := bd_some hf
                  refine lv_iinc (v := x51) (lv' := [(10, .int x51), (8, .int x37), (9, .int x48), (7, .int x46), (0, .ref D.1), (1, .int p0), (2, .int p1), (3, .int x16), (4, .int x17), (5, .int x24), (6, .int x39), (11, .int x33), (13, .int x37)]) hx hb dX7_breaks_236 hl (k := 10) rfl (by rw [ex51]; first | done | rfl) (by decide) rfl (fun ls hl => ?_)
                  refine lv_goto (tgt := 128) hx hb dX7_breaks_239 (by decide) ?_
                  cases hf
                  exact hk _ _ _ hM (lv_sub hl [4, 5, 6, 7, 8, 9, 10, 3, 1, 2, 0] rfl)
              refine lv_if_ne (tgt := 203) hx hb dX7_breaks_184 (by decide) (fun c41 => ?_) (fun c41 => ?_)
              · have hf := it_neg c41 hf
                refine lv_iconst (v := nI 0) hx hb dX7_breaks_203 ic0 ?_
                exact j42 (nI 0) hf _ _ _ hM (lv_sub hl [4, 5, 6, 7, 8, 9, 0, 11, 12, 13, 3, 1] rfl)
              · have hf := it_pos c41 hf
                refine lv_iload hx hb dX7_breaks_187 (lv_at hl 1 rfl) ?_
                refine lv_aload_n hx hb dX7_breaks_189 rfl (lv_at hl 4 rfl) ?_
                refine mr_get B hM 17 (v := .ref (D.2.1 17)) rfl (by decide) q1663 dX7_breaks_190 ?_
                refine lv_iload hx hb dX7_breaks_193 (lv_at hl 3 rfl) ?_
                obtain ⟨v43, ev43, hiv43, hf⟩ := ald_some hf
                refine mr_iald B hM 17 (by decide) rfl hiv43 ev43 dX7_breaks_195 ?_
                obtain ⟨r44, hcr44, hf⟩ := bnd_some hf
                refine pr_callS (rest := [.int x37, .int x28]) B (c_X7_unit l v43 hcr44) (va_cwS 1 hts (lw_S q2097 q2098 q113 q2099) rfl rfl rfl hd_X7_unit ⟨Nat.le_of_ble_eq_true rfl, Nat.le_of_ble_eq_true rfl⟩) rfl hl.1 rfl (Nat.le_of_ble_eq_true rfl) dX7_breaks_196 ⟨Nat.zero_le _, Nat.zero_le _⟩ ?_
                refine lv_imul hx hb dX7_breaks_199 ?_
                refine lv_goto (tgt := 204) hx hb dX7_breaks_200 (by decide) ?_
                exact j42 (x37 * r44) hf _ _ _ hM (lv_sub hl [4, 5, 6, 7, 8, 9, 0, 11, 12, 13, 3, 1] rfl)
        · have hf := it_neg c22 hf
          refine lv_iconst (v := (-1)) hx hb dX7_breaks_92 icm1 ?_
          cases hf
          exact hret _ _ _ _ rfl hM dX7_breaks_93
    refine lp_W (step := (fun t : Int32 × Int32 => f_X7_breaks_L32 p0 S5 t.1 t.2)) (fun t : Int32 × Int32 => ∀ (H : Heap) (locs : List Loc) (ls : Array Slot), m_I D s H locs S5 → lv_has ls 14 [(0, .ref D.1), (1, .int p0), (2, .int p1), (3, .int t.1), (4, .int t.2)] → W p l e r_X7_breaks s m args below meth c H locs 0 0 Q (F0 m 32 ls [])) (fun t : Int32 × Int32 => ∀ (H : Heap) (locs : List Loc) (ls : Array Slot), m_I D s H locs S5 → lv_has ls 14 [(0, .ref D.1), (1, .int p0), (2, .int p1), (3, .int t.1), (4, .int t.2)] → W p l e r_X7_breaks s m args below meth c H locs 0 0 Q (F0 m 73 ls [])) ?_ fu (nI 0, nI 1) y15 hxy15 hy15 _ _ _ hM (lv_sub hl [2, 3, 4, 1, 0] rfl)
    clear hf hxy15 hy15
    rintro ⟨x6, x7⟩ o (hf : f_X7_breaks_L32 p0 S5 x6 x7 = some o) hk
    intro H locs ls hM hl
    unfold f_X7_breaks_L32 at hf
    refine lv_aload_n hx hb dX7_breaks_32 rfl (lv_at hl 0 rfl) ?_
    refine mr_get B hM 16 (v := .ref (D.2.1 16)) rfl (by decide) q1662 dX7_breaks_33 ?_
    refine lv_bipush (v := nI 40) hx hb dX7_breaks_36 bp40 ?_
    refine lv_iload_n hx hb dX7_breaks_38 rfl (lv_at hl 1 rfl) ?_
    refine lv_imul hx hb dX7_breaks_39 ?_
    refine lv_iload_n hx hb dX7_breaks_40 rfl (lv_at hl 3 rfl) ?_
    refine lv_iadd hx hb dX7_breaks_41 ?_
    obtain ⟨v8, ev8, hiv8, hf⟩ := ald_some hf
    refine mr_iald B hM 16 (by decide) rfl hiv8 ev8 dX7_breaks_42 ?_
    refine lv_if_ne (tgt := 73) hx hb dX7_breaks_43 (by decide) (fun c9 => ?_) (fun c9 => ?_)
    · have hf := it_neg c9 hf
      cases hf
      exact hk _ _ _ hM (lv_sub hl [0, 1, 2, 3, 4] rfl)
    · have hf := it_pos c9 hf
      refine lv_iload hx hb dX7_breaks_46 (lv_at hl 4 rfl) ?_
      refine lv_aload_n hx hb dX7_breaks_48 rfl (lv_at hl 0 rfl) ?_
      refine mr_get B hM 26 (v := .ref (D.2.1 26)) rfl (by decide) q1672 dX7_breaks_49 ?_
      refine lv_aload_n hx hb dX7_breaks_52 rfl (lv_at hl 0 rfl) ?_
      refine mr_get B hM 18 (v := .ref (D.2.1 18)) rfl (by decide) q1664 dX7_breaks_53 ?_
      refine lv_bipush (v := nI 40) hx hb dX7_breaks_56 bp40 ?_
      refine lv_iload_n hx hb dX7_breaks_58 rfl (lv_at hl 1 rfl) ?_
      refine lv_imul hx hb dX7_breaks_59 ?_
      refine lv_iload_n hx hb dX7_breaks_60 rfl (lv_at hl 3 rfl) ?_
      refine lv_iadd hx hb dX7_breaks_61 ?_
      obtain ⟨v10, ev10, hiv10, hf⟩ := ald_some hf
      refine mr_iald B hM 18 (by decide) rfl hiv10 ev10 dX7_breaks_62 ?_
      obtain ⟨v11, ev11, hiv11, hf⟩ := ald_some hf
      refine mr_iald B hM 26 (by decide) rfl hiv11 ev11 dX7_breaks_63 ?_
      refine lv_imul hx hb dX7_breaks_64 ?_
      refine lv_topi (fun x12 ex12 => ?_)
      have hf := bd_at ex12 hf
      refine lv_istore (lv' := [(4, .int x12), (0, .ref D.1), (1, .int p0), (2, .int p1), (3, .int x6)]) hx hb dX7_breaks_65 hl (by decide) rfl (fun ls hl => ?_)
      obtain ⟨x13, ex13, hf⟩ := bd_some hf
      refine lv_iinc (v := x13) (lv' := [(3, .int x13), (4, .int x12), (0, .ref D.1), (1, .int p0), (2, .int p1)]) hx hb dX7_breaks_67 hl (k := 4) rfl (by rw [ex13]; first | done | rfl) (by decide) rfl (fun ls hl => ?_)
      refine lv_goto (tgt := 32) hx hb dX7_breaks_70 (by decide) ?_
      cases hf
      exact hk _ _ _ hM (lv_sub hl [2, 3, 4, 0, 1] rfl)
  · have hf := it_pos c4 hf
    refine lv_iconst (v := (-1)) hx hb dX7_breaks_21 icm1 ?_
    cases hf
    exact hret _ _ _ _ rfl hM dX7_breaks_22
def f_X7_isAsKnown (S : MS) (p0 : Int32) : Option Int32 :=
  (if (p0 &&& (S.1 49 0)) = (S.1 50 0) then some (nI 1) else some (nI 0))
abbrev r_X7_isAsKnown : Room := { frames := 0, cells := 0, slots := 0, locals := 0 }
set_option maxHeartbeats 4000000 in
set_option maxRecDepth 100000 in
theorem c_X7_isAsKnown (l : Launch) (D : MD) (S : MS) (p0 : Int32) {r : Int32} (hf : f_X7_isAsKnown S p0 = some r) : m_Met l yX7_isAsKnown cX7_isAsKnown 2 (Option.some Jvm.ClassFile.FieldType.boolean) r_X7_isAsKnown D [.ref D.1, .int p0] S (some (.int r)) S := by
  refine m_metI (F := 0) (L := 0) (by decide) rfl (Nat.le_of_ble_eq_true rfl) (fun p e s m args below meth c Q B hret hM ls hl => ?_)
  have hx := B.1
  have hb := B.2.1
  have hown := B.2.2.2.1
  have hts := B.2.2.2.2
  have hl : lv_has ls 2 [(0, .ref D.1), (1, .int p0)] := hl
  generalize s.heap = H, ([] : List Loc) = locs at hM ⊢
  unfold f_X7_isAsKnown at hf
  refine lv_iload_n hx hb dX7_isAsKnown_0 rfl (lv_at hl 1 rfl) ?_
  refine lv_aload_n hx hb dX7_isAsKnown_1 rfl (lv_at hl 0 rfl) ?_
  refine mr_get B hM 49 (v := .int (S.1 49 0)) rfl (by decide) q1695 dX7_isAsKnown_2 ?_
  refine lv_iand hx hb dX7_isAsKnown_5 ?_
  refine lv_aload_n hx hb dX7_isAsKnown_6 rfl (lv_at hl 0 rfl) ?_
  refine mr_get B hM 50 (v := .int (S.1 50 0)) rfl (by decide) q1696 dX7_isAsKnown_7 ?_
  refine lv_icmp_ne (tgt := 17) hx hb dX7_isAsKnown_10 (by decide) (fun c1 => ?_) (fun c1 => ?_)
  · have hf := it_neg c1 hf
    refine lv_iconst (v := nI 0) hx hb dX7_isAsKnown_17 ic0 ?_
    cases hf
    exact hret _ _ _ _ rfl hM dX7_isAsKnown_18
  · have hf := it_pos c1 hf
    refine lv_iconst (v := nI 1) hx hb dX7_isAsKnown_13 ic1 ?_
    refine lv_goto (tgt := 18) hx hb dX7_isAsKnown_14 (by decide) ?_
    cases hf
    exact hret _ _ _ _ rfl hM dX7_isAsKnown_18
