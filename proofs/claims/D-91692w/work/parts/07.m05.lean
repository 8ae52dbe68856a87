set_option maxRecDepth 100000
def f_X7_join_L78 (v1 : Int32) (x2 : Int32) (x5 : Int32) (S6 : MS) : Option ((Int32 × MS) ⊕ ((MS))) :=
  (if nI 81 ≤ x5 then some (.inr S6) else ald 3321 (S6.1 45) (x2 + x5) fun v8 => ald 3321 (S6.1 45) ((x2 - nI 81) + x5) fun v9 => (if v1 = nI 5 then (if v8 = 0 then ast 3321 ((x2 - nI 81) + x5) (m_up S6 45 ((x2 - nI 81) + x5).toNatClampNeg (vp_nar .boolean (nI 0))) fun S29 => bd (x5 + nI 1) fun x30 => some (.inl (x30, S29)) else (if v9 = 0 then ast 3321 ((x2 - nI 81) + x5) (m_up S6 45 ((x2 - nI 81) + x5).toNatClampNeg (vp_nar .boolean (nI 0))) fun S32 => bd (x5 + nI 1) fun x33 => some (.inl (x33, S32)) else ast 3321 ((x2 - nI 81) + x5) (m_up S6 45 ((x2 - nI 81) + x5).toNatClampNeg (vp_nar .boolean (nI 1))) fun S34 => bd (x5 + nI 1) fun x35 => some (.inl (x35, S34)))) else (if v1 = nI 6 then (if v8 = 0 then (if v9 = 0 then ast 3321 ((x2 - nI 81) + x5) (m_up S6 45 ((x2 - nI 81) + x5).toNatClampNeg (vp_nar .boolean (nI 0))) fun S24 => bd (x5 + nI 1) fun x25 => some (.inl (x25, S24)) else ast 3321 ((x2 - nI 81) + x5) (m_up S6 45 ((x2 - nI 81) + x5).toNatClampNeg (vp_nar .boolean (nI 1))) fun S26 => bd (x5 + nI 1) fun x27 => some (.inl (x27, S26))) else ast 3321 ((x2 - nI 81) + x5) (m_up S6 45 ((x2 - nI 81) + x5).toNatClampNeg (vp_nar .boolean (nI 1))) fun S21 => bd (x5 + nI 1) fun x22 => some (.inl (x22, S21))) else (if v8 = 0 then ast 3321 ((x2 - nI 81) + x5) (m_up S6 45 ((x2 - nI 81) + x5).toNatClampNeg (vp_nar .boolean (nI 1))) fun S13 => bd (x5 + nI 1) fun x14 => some (.inl (x14, S13)) else (if v9 = 0 then ast 3321 ((x2 - nI 81) + x5) (m_up S6 45 ((x2 - nI 81) + x5).toNatClampNeg (vp_nar .boolean (nI 0))) fun S16 => bd (x5 + nI 1) fun x17 => some (.inl (x17, S16)) else ast 3321 ((x2 - nI 81) + x5) (m_up S6 45 ((x2 - nI 81) + x5).toNatClampNeg (vp_nar .boolean (nI 1))) fun S18 => bd (x5 + nI 1) fun x19 => some (.inl (x19, S18)))))))
def f_X7_join_L25 (x2 : Int32) (x39 : Int32) (S40 : MS) : Option ((Int32 × MS) ⊕ ((MS))) :=
  (if nI 81 ≤ x39 then some (.inr S40) else ald 3321 (S40.1 45) (x2 + x39) fun v42 => (if v42 = 0 then ast 3321 (x2 + x39) (m_up S40 45 (x2 + x39).toNatClampNeg (vp_nar .boolean (nI 1))) fun S46 => bd (x39 + nI 1) fun x47 => some (.inl (x47, S46)) else ast 3321 (x2 + x39) (m_up S40 45 (x2 + x39).toNatClampNeg (vp_nar .boolean (nI 0))) fun S44 => bd (x39 + nI 1) fun x45 => some (.inl (x45, S44))))
def f_X7_join (S : MS) (p0 : Int32) : Option MS :=
  ald 1440 (S.1 16) p0 fun v1 => bd (nI 81 * ((S.1 46 0) - nI 1)) fun x2 => (if v1 = nI 4 then bnd (wO (fun t : Int32 × MS => f_X7_join_L25 x2 t.1 t.2) fu (nI 0, S)) <| fun S50 => some S50 else bd (m_up S 46 0 ((S.1 46 0) - nI 1)) fun S4 => bnd (wO (fun t : Int32 × MS => f_X7_join_L78 v1 x2 t.1 t.2) fu (nI 0, S4)) <| fun S38 => some S38)
abbrev r_X7_join : Room := { frames := 0, cells := 0, slots := 0, locals := 0 }
set_option maxHeartbeats 4000000 in
set_option maxRecDepth 100000 in
theorem c_X7_join (l : Launch) (D : MD) (S : MS) (p0 : Int32) {S' : MS} (hf : f_X7_join S p0 = some S') : m_Met l yX7_join cX7_join 7 (Option.none : Option Jvm.ClassFile.FieldType) r_X7_join D [.ref D.1, .int p0] S none S' := by
  refine m_metV (F := 0) (L := 0) (by decide) rfl (Nat.le_of_ble_eq_true rfl) (fun p e s m args below meth c Q B hret hM ls hl => ?_)
  have hx := B.1
  have hb := B.2.1
  have hown := B.2.2.2.1
  have hts := B.2.2.2.2
  have hl : lv_has ls 7 [(0, .ref D.1), (1, .int p0)] := hl
  generalize s.heap = H, ([] : List Loc) = locs at hM ⊢
  unfold f_X7_join at hf
  refine lv_aload_n hx hb dX7_join_0 rfl (lv_at hl 0 rfl) ?_
  refine mr_get B hM 16 (v := .ref (D.2.1 16)) rfl (by decide) q1662 dX7_join_1 ?_
  refine lv_iload_n hx hb dX7_join_4 rfl (lv_at hl 1 rfl) ?_
  obtain ⟨v1, ev1, hiv1, hf⟩ := ald_some hf
  refine mr_iald B hM 16 (by decide) rfl hiv1 ev1 dX7_join_5 ?_
  refine lv_istore_n (lv' := [(2, .int v1), (0, .ref D.1), (1, .int p0)]) hx hb dX7_join_6 rfl hl (by decide) rfl (fun ls hl => ?_)
  refine lv_bipush (v := nI 81) hx hb dX7_join_7 bp81 ?_
  refine lv_aload_n hx hb dX7_join_9 rfl (lv_at hl 1 rfl) ?_
  refine mr_get B hM 46 (v := .int (S.1 46 0)) rfl (by decide) q1692 dX7_join_10 ?_
  refine lv_iconst (v := nI 1) hx hb dX7_join_13 ic1 ?_
  refine lv_isub hx hb dX7_join_14 ?_
  refine lv_imul hx hb dX7_join_15 ?_
  refine lv_topi (fun x2 ex2 => ?_)
  have hf := bd_at ex2 hf
  refine lv_istore_n (lv' := [(3, .int x2), (2, .int v1), (0, .ref D.1), (1, .int p0)]) hx hb dX7_join_16 rfl hl (by decide) rfl (fun ls hl => ?_)
  refine lv_iload_n hx hb dX7_join_17 rfl (lv_at hl 1 rfl) ?_
  refine lv_iconst (v := nI 4) hx hb dX7_join_18 ic4 ?_
  refine lv_icmp_ne (tgt := 65) hx hb dX7_join_19 (by decide) (fun c3 => ?_) (fun c3 => ?_)
  · have hf := it_neg c3 hf
    refine lv_aload_n hx hb dX7_join_65 rfl (lv_at hl 2 rfl) ?_
    refine lv_dup hx hb dX7_join_66 rfl ?_
    refine mr_get B hM 46 (v := .int (S.1 46 0)) rfl (by decide) q1692 dX7_join_67 ?_
    refine lv_iconst (v := nI 1) hx hb dX7_join_70 ic1 ?_
    refine lv_isub hx hb dX7_join_71 ?_
    obtain ⟨S4, eS4, hf⟩ := bd_some hf
    refine mr_puti B hM 46 (by decide) eS4 rfl (tyX7_ok 46 (by decide)) q1692 dX7_join_72 (fun H locs hM => ?_)
    refine lv_iconst (v := nI 0) hx hb dX7_join_75 ic0 ?_
    refine lv_istore (lv' := [(4, .int (nI 0)), (3, .int x2), (2, .int v1), (0, .ref D.1), (1, .int p0)]) hx hb dX7_join_76 hl (by decide) rfl (fun ls hl => ?_)
    obtain ⟨y37, hxy37, hf⟩ := bnd_some hf
    have hy37 : (fun t : MS => ∀ (H : Heap) (locs : List Loc) (ls : Array Slot), m_I D s H locs t → lv_has ls 7 [] → W p l e r_X7_join s m args below meth c H locs 0 0 Q (F0 m 190 ls [])) y37 := by
      obtain ⟨S38, rfl⟩ : ∃ z, z = y37 := ⟨_, rfl⟩
      intro H locs ls hM hl
      cases hf
      exact hret _ _ _ _ hM dX7_join_190
    refine lp_W (step := (fun t : Int32 × MS => f_X7_join_L78 v1 x2 t.1 t.2)) (fun t : Int32 × MS => ∀ (H : Heap) (locs : List Loc) (ls : Array Slot), m_I D s H locs t.2 → lv_has ls 7 [(0, .ref D.1), (2, .int v1), (3, .int x2), (4, .int t.1)] → W p l e r_X7_join s m args below meth c H locs 0 0 Q (F0 m 78 ls [])) (fun t : MS => ∀ (H : Heap) (locs : List Loc) (ls : Array Slot), m_I D s H locs t → lv_has ls 7 [] → W p l e r_X7_join s m args below meth c H locs 0 0 Q (F0 m 190 ls [])) ?_ fu (nI 0, S4) y37 hxy37 hy37 _ _ _ hM (lv_sub hl [3, 2, 1, 0] rfl)
    clear hf hxy37 hy37
    rintro ⟨x5, S6⟩ o (hf : f_X7_join_L78 v1 x2 x5 S6 = some o) hk
    intro H locs ls hM hl
    unfold f_X7_join_L78 at hf
    refine lv_iload hx hb dX7_join_78 (lv_at hl 3 rfl) ?_
    refine lv_bipush (v := nI 81) hx hb dX7_join_80 bp81 ?_
    refine lv_icmp_ge (tgt := 190) hx hb dX7_join_82 (by decide) (fun c7 => ?_) (fun c7 => ?_)
    · have hf := it_pos c7 hf
      cases hf
      exact hk _ _ _ hM (lv_sub hl [] rfl)
    · have hf := it_neg c7 hf
      refine lv_aload_n hx hb dX7_join_85 rfl (lv_at hl 0 rfl) ?_
      refine mr_get B hM 45 (v := .ref (D.2.1 45)) rfl (by decide) q1691 dX7_join_86 ?_
      refine lv_iload_n hx hb dX7_join_89 rfl (lv_at hl 2 rfl) ?_
      refine lv_iload hx hb dX7_join_90 (lv_at hl 3 rfl) ?_
      refine lv_iadd hx hb dX7_join_92 ?_
      obtain ⟨v8, ev8, hiv8, hf⟩ := ald_some hf
      refine mr_zald B hM 45 (by decide) rfl hiv8 ev8 dX7_join_93 ?_
      refine lv_istore (lv' := [(5, .int v8), (0, .ref D.1), (2, .int v1), (3, .int x2), (4, .int x5)]) hx hb dX7_join_94 hl (by decide) rfl (fun ls hl => ?_)
      refine lv_aload_n hx hb dX7_join_96 rfl (lv_at hl 1 rfl) ?_
      refine mr_get B hM 45 (v := .ref (D.2.1 45)) rfl (by decide) q1691 dX7_join_97 ?_
      refine lv_iload_n hx hb dX7_join_100 rfl (lv_at hl 3 rfl) ?_
      refine lv_bipush (v := nI 81) hx hb dX7_join_101 bp81 ?_
      refine lv_isub hx hb dX7_join_103 ?_
      refine lv_iload hx hb dX7_join_104 (lv_at hl 4 rfl) ?_
      refine lv_iadd hx hb dX7_join_106 ?_
      obtain ⟨v9, ev9, hiv9, hf⟩ := ald_some hf
      refine mr_zald B hM 45 (by decide) rfl hiv9 ev9 dX7_join_107 ?_
      refine lv_istore (lv' := [(6, .int v9), (5, .int v8), (0, .ref D.1), (2, .int v1), (3, .int x2), (4, .int x5)]) hx hb dX7_join_108 hl (by decide) rfl (fun ls hl => ?_)
      refine lv_aload_n hx hb dX7_join_110 rfl (lv_at hl 2 rfl) ?_
      refine mr_get B hM 45 (v := .ref (D.2.1 45)) rfl (by decide) q1691 dX7_join_111 ?_
      refine lv_iload_n hx hb dX7_join_114 rfl (lv_at hl 4 rfl) ?_
      refine lv_bipush (v := nI 81) hx hb dX7_join_115 bp81 ?_
      refine lv_isub hx hb dX7_join_117 ?_
      refine lv_iload hx hb dX7_join_118 (lv_at hl 5 rfl) ?_
      refine lv_iadd hx hb dX7_join_120 ?_
      refine lv_iload_n hx hb dX7_join_121 rfl (lv_at hl 3 rfl) ?_
      refine lv_iconst (v := nI 5) hx hb dX7_join_122 ic5 ?_
      refine lv_icmp_ne (tgt := 144) hx hb dX7_join_123 (by decide) (fun c10 => ?_) (fun c10 => ?_)
      · have hf := it_neg c10 hf
        refine lv_iload_n hx hb dX7_join_144 rfl (lv_at hl 3 rfl) ?_
        refine lv_bipush (v := nI 6) hx hb dX7_join_145 bp6 ?_
        refine lv_icmp_ne (tgt := 168) hx hb dX7_join_147 (by decide) (fun c11 => ?_) (fun c11 => ?_)
        · have hf := it_neg c11 hf
          refine lv_iload hx hb dX7_join_168 (lv_at hl 1 rfl) ?_
          refine lv_if_eq (tgt := 178) hx hb dX7_join_170 (by decide) (fun c12 => ?_) (fun c12 => ?_)
          · have hf := it_pos c12 hf
            refine lv_iconst (v := nI 1) hx hb dX7_join_178 ic1 ?_
            refine lv_goto (tgt := 183) hx hb dX7_join_179 (by decide) ?_
            obtain ⟨S13, eS13, hiS13, hf⟩ := ast_some hf
            refine mr_zast B hM 45 (by decide) rfl hiS13 eS13 dX7_join_183 (fun H locs hM => ?_)
            obtain ⟨x14, ex14, hf⟩ := bd_some hf
            refine lv_iinc (v := x14) (lv' := [(4, .int x14), (6, .int v9), (5, .int v8), (0, .ref D.1), (2, .int v1), (3, .int x2)]) hx hb dX7_join_184 hl (k := 5) rfl (by rw [ex14]; first | done | rfl) (by decide) rfl (fun ls hl => ?_)
            refine lv_goto (tgt := 78) hx hb dX7_join_187 (by decide) ?_
            cases hf
            exact hk _ _ _ hM (lv_sub hl [3, 4, 5, 0] rfl)
          · have hf := it_neg c12 hf
            refine lv_iload hx hb dX7_join_173 (lv_at hl 0 rfl) ?_
            refine lv_if_eq (tgt := 182) hx hb dX7_join_175 (by decide) (fun c15 => ?_) (fun c15 => ?_)
            · have hf := it_pos c15 hf
              refine lv_iconst (v := nI 0) hx hb dX7_join_182 ic0 ?_
              obtain ⟨S16, eS16, hiS16, hf⟩ := ast_some hf
              refine mr_zast B hM 45 (by decide) rfl hiS16 eS16 dX7_join_183 (fun H locs hM => ?_)
              obtain ⟨x17, ex17, hf⟩ := bd_some hf
              refine lv_iinc (v := x17) (lv' := [(4, .int x17), (6, .int v9), (5, .int v8), (0, .ref D.1), (2, .int v1), (3, .int x2)]) hx hb dX7_join_184 hl (k := 5) rfl (by rw [ex17]; first | done | rfl) (by decide) rfl (fun ls hl => ?_)
              refine lv_goto (tgt := 78) hx hb dX7_join_187 (by decide) ?_
              cases hf
              exact hk _ _ _ hM (lv_sub hl [3, 4, 5, 0] rfl)
            · have hf := it_neg c15 hf
              refine lv_iconst (v := nI 1) hx hb dX7_join_178 ic1 ?_
              refine lv_goto (tgt := 183) hx hb dX7_join_179 (by decide) ?_
              obtain ⟨S18, eS18, hiS18, hf⟩ := ast_some hf
              refine mr_zast B hM 45 (by decide) rfl hiS18 eS18 dX7_join_183 (fun H locs hM => ?_)
              obtain ⟨x19, ex19, hf⟩ := bd_some hf
              refine lv_iinc (v := x19) (lv' := [(4, .int x19), (6, .int v9), (5, .int v8), (0, .ref D.1), (2, .int v1), (3, .int x2)]) hx hb dX7_join_184 hl (k := 5) rfl (by rw [ex19]; first | done | rfl) (by decide) rfl (fun ls hl => ?_)
              refine lv_goto (tgt := 78) hx hb dX7_join_187 (by decide) ?_
              cases hf
              exact hk _ _ _ hM (lv_sub hl [3, 4, 5, 0] rfl)
        · have hf := it_pos c11 hf
          refine lv_iload hx hb dX7_join_150 (lv_at hl 1 rfl) ?_
          refine lv_if_ne (tgt := 160) hx hb dX7_join_152 (by decide) (fun c20 => ?_) (fun c20 => ?_)
          · have hf := it_neg c20 hf
            refine lv_iconst (v := nI 1) hx hb dX7_join_160 ic1 ?_
            refine lv_goto (tgt := 183) hx hb dX7_join_161 (by decide) ?_
            obtain ⟨S21, eS21, hiS21, hf⟩ := ast_some hf
            refine mr_zast B hM 45 (by decide) rfl hiS21 eS21 dX7_join_183 (fun H locs hM => ?_)
            obtain ⟨x22, ex22, hf⟩ := bd_some hf
            refine lv_iinc (v := x22) (lv' := [(4, .int x22), (6, .int v9), (5, .int v8), (0, .ref D.1), (2, .int v1), (3, .int x2)]) hx hb dX7_join_184 hl (k := 5) rfl (by rw [ex22]; first | done | rfl) (by decide) rfl (fun ls hl => ?_)
            refine lv_goto (tgt := 78) hx hb dX7_join_187 (by decide) ?_
            cases hf
            exact hk _ _ _ hM (lv_sub hl [3, 4, 5, 0] rfl)
          · have hf := it_pos c20 hf
            refine lv_iload hx hb dX7_join_155 (lv_at hl 0 rfl) ?_
            refine lv_if_eq (tgt := 164) hx hb dX7_join_157 (by decide) (fun c23 => ?_) (fun c23 => ?_)
            · have hf := it_pos c23 hf
              refine lv_iconst (v := nI 0) hx hb dX7_join_164 ic0 ?_
              refine lv_goto (tgt := 183) hx hb dX7_join_165 (by decide) ?_
              obtain ⟨S24, eS24, hiS24, hf⟩ := ast_some hf
              refine mr_zast B hM 45 (by decide) rfl hiS24 eS24 dX7_join_183 (fun H locs hM => ?_)
              obtain ⟨x25, ex25, hf⟩ := bd_some hf
              refine lv_iinc (v := x25) (lv' := [(4, .int x25), (6, .int v9), (5, .int v8), (0, .ref D.1), (2, .int v1), (3, .int x2)]) hx hb dX7_join_184 hl (k := 5) rfl (by rw [ex25]; first | done | rfl) (by decide) rfl (fun ls hl => ?_)
              refine lv_goto (tgt := 78) hx hb dX7_join_187 (by decide) ?_
              cases hf
              exact hk _ _ _ hM (lv_sub hl [3, 4, 5, 0] rfl)
            · have hf := it_neg c23 hf
              refine lv_iconst (v := nI 1) hx hb dX7_join_160 ic1 ?_
              refine lv_goto (tgt := 183) hx hb dX7_join_161 (by decide) ?_
              obtain ⟨S26, eS26, hiS26, hf⟩ := ast_some hf
              refine mr_zast B hM 45 (by decide) rfl hiS26 eS26 dX7_join_183 (fun H locs hM => ?_)
              obtain ⟨x27, ex27, hf⟩ := bd_some hf
              refine lv_iinc (v := x27) (lv' := [(4, .int x27), (6, .int v9), (5, .int v8), (0, .ref D.1), (2, .int v1), (3, .int x2)]) hx hb dX7_join_184 hl (k := 5) rfl (by rw [ex27]; first | done | rfl) (by decide) rfl (fun ls hl => ?_)
              refine lv_goto (tgt := 78) hx hb dX7_join_187 (by decide) ?_
              cases hf
              exact hk _ _ _ hM (lv_sub hl [3, 4, 5, 0] rfl)
      · have hf := it_pos c10 hf
        refine lv_iload hx hb dX7_join_126 (lv_at hl 1 rfl) ?_
        refine lv_if_eq (tgt := 140) hx hb dX7_join_128 (by decide) (fun c28 => ?_) (fun c28 => ?_)
        · have hf := it_pos c28 hf
          refine lv_iconst (v := nI 0) hx hb dX7_join_140 ic0 ?_
          refine lv_goto (tgt := 183) hx hb dX7_join_141 (by decide) ?_
          obtain ⟨S29, eS29, hiS29, hf⟩ := ast_some hf
          refine mr_zast B hM 45 (by decide) rfl hiS29 eS29 dX7_join_183 (fun H locs hM => ?_)
          obtain ⟨x30, ex30, hf⟩ := bd_some hf
          refine lv_iinc (v := x30) (lv' := [(4, .int x30), (6, .int v9), (5, .int v8), (0, .ref D.1), (2, .int v1), (3, .int x2)]) hx hb dX7_join_184 hl (k := 5) rfl (by rw [ex30]; first | done | rfl) (by decide) rfl (fun ls hl => ?_)
          refine lv_goto (tgt := 78) hx hb dX7_join_187 (by decide) ?_
          cases hf
          exact hk _ _ _ hM (lv_sub hl [3, 4, 5, 0] rfl)
        · have hf := it_neg c28 hf
          refine lv_iload hx hb dX7_join_131 (lv_at hl 0 rfl) ?_
          refine lv_if_eq (tgt := 140) hx hb dX7_join_133 (by decide) (fun c31 => ?_) (fun c31 => ?_)
          · have hf := it_pos c31 hf
            refine lv_iconst (v := nI 0) hx hb dX7_join_140 ic0 ?_
            refine lv_goto (tgt := 183) hx hb dX7_join_141 (by decide) ?_
            obtain ⟨S32, eS32, hiS32, hf⟩ := ast_some hf
            refine mr_zast B hM 45 (by decide) rfl hiS32 eS32 dX7_join_183 (fun H locs hM => ?_)
            obtain ⟨x33, ex33, hf⟩ := bd_some hf
            refine lv_iinc (v := x33) (lv' := [(4, .int x33), (6, .int v9), (5, .int v8), (0, .ref D.1), (2, .int v1), (3, .int x2)]) hx hb dX7_join_184 hl (k := 5) rfl (by rw [ex33]; first | done | rfl) (by decide) rfl (fun ls hl => ?_)
            refine lv_goto (tgt := 78) hx hb dX7_join_187 (by decide) ?_
            cases hf
            exact hk _ _ _ hM (lv_sub hl [3, 4, 5, 0] rfl)
          · have hf := it_neg c31 hf
            refine lv_iconst (v := nI 1) hx hb dX7_join_136 ic1 ?_
            refine lv_goto (tgt := 183) hx hb dX7_join_137 (by decide) ?_
            obtain ⟨S34, eS34, hiS34, hf⟩ := ast_some hf
            refine mr_zast B hM 45 (by decide) rfl hiS34 eS34 dX7_join_183 (fun H locs hM => ?_)
            obtain ⟨x35, ex35, hf⟩ := bd_some hf
            refine lv_iinc (v := x35) (lv' := [(4, .int x35), (6, .int v9), (5, .int v8), (0, .ref D.1), (2, .int v1), (3, .int x2)]) hx hb dX7_join_184 hl (k := 5) rfl (by rw [ex35]; first | done | rfl) (by decide) rfl (fun ls hl => ?_)
            refine lv_goto (tgt := 78) hx hb dX7_join_187 (by decide) ?_
            cases hf
            exact hk _ _ _ hM (lv_sub hl [3, 4, 5, 0] rfl)
  · have hf := it_pos c3 hf
    refine lv_iconst (v := nI 0) hx hb dX7_join_22 ic0 ?_
    refine lv_istore (lv' := [(4, .int (nI 0)), (3, .int x2), (2, .int v1), (0, .ref D.1), (1, .int p0)]) hx hb dX7_join_23 hl (by decide) rfl (fun ls hl => ?_)
    obtain ⟨y49, hxy49, hf⟩ := bnd_some hf
    have hy49 : (fun t : MS => ∀ (H : Heap) (locs : List Loc) (ls : Array Slot), m_I D s H locs t → lv_has ls 7 [] → W p l e r_X7_join s m args below meth c H locs 0 0 Q (F0 m 64 ls [])) y49 := by
      obtain ⟨S50, rfl⟩ : ∃ z, z = y49 := ⟨_, rfl⟩
      intro H locs ls hM hl
      cases hf
      exact hret _ _ _ _ hM dX7_join_64
    refine lp_W (step := (fun t : Int32 × MS => f_X7_join_L25 x2 t.1 t.2)) (fun t : Int32 × MS => ∀ (H : Heap) (locs : List Loc) (ls : Array Slot), m_I D s H locs t.2 → lv_has ls 7 [(0, .ref D.1), (3, .int x2), (4, .int t.1)] → W p l e r_X7_join s m args below meth c H locs 0 0 Q (F0 m 25 ls [])) (fun t : MS => ∀ (H : Heap) (locs : List Loc) (ls : Array Slot), m_I D s H locs t → lv_has ls 7 [] → W p l e r_X7_join s m args below meth c H locs 0 0 Q (F0 m 64 ls [])) ?_ fu (nI 0, S) y49 hxy49 hy49 _ _ _ hM (lv_sub hl [3, 1, 0] rfl)
    clear hf hxy49 hy49
    rintro ⟨x39, S40⟩ o (hf : f_X7_join_L25 x2 x39 S40 = some o) hk
    intro H locs ls hM hl
    unfold f_X7_join_L25 at hf
    refine lv_iload hx hb dX7_join_25 (lv_at hl 2 rfl) ?_
    refine lv_bipush (v := nI 81) hx hb dX7_join_27 bp81 ?_
    refine lv_icmp_ge (tgt := 64) hx hb dX7_join_29 (by decide) (fun c41 => ?_) (fun c41 => ?_)
    · have hf := it_pos c41 hf
      cases hf
      exact hk _ _ _ hM (lv_sub hl [] rfl)
    · have hf := it_neg c41 hf
      refine lv_aload_n hx hb dX7_join_32 rfl (lv_at hl 0 rfl) ?_
      refine mr_get B hM 45 (v := .ref (D.2.1 45)) rfl (by decide) q1691 dX7_join_33 ?_
      refine lv_iload_n hx hb dX7_join_36 rfl (lv_at hl 1 rfl) ?_
      refine lv_iload hx hb dX7_join_37 (lv_at hl 2 rfl) ?_
      refine lv_iadd hx hb dX7_join_39 ?_
      refine lv_aload_n hx hb dX7_join_40 rfl (lv_at hl 0 rfl) ?_
      refine mr_get B hM 45 (v := .ref (D.2.1 45)) rfl (by decide) q1691 dX7_join_41 ?_
      refine lv_iload_n hx hb dX7_join_44 rfl (lv_at hl 1 rfl) ?_
      refine lv_iload hx hb dX7_join_45 (lv_at hl 2 rfl) ?_
      refine lv_iadd hx hb dX7_join_47 ?_
      obtain ⟨v42, ev42, hiv42, hf⟩ := ald_some hf
      refine mr_zald B hM 45 (by decide) rfl hiv42 ev42 dX7_join_48 ?_
      refine lv_if_ne (tgt := 56) hx hb dX7_join_49 (by decide) (fun c43 => ?_) (fun c43 => ?_)
      · have hf := it_neg c43 hf
        refine lv_iconst (v := nI 0) hx hb dX7_join_56 ic0 ?_
        obtain ⟨S44, eS44, hiS44, hf⟩ := ast_some hf
        refine mr_zast B hM 45 (by decide) rfl hiS44 eS44 dX7_join_57 (fun H locs hM => ?_)
        obtain ⟨x45, ex45, hf⟩ := bd_some hf
        refine lv_iinc (v := x45) (lv' := [(4, .int x45), (0, .ref D.1), (3, .int x2)]) hx hb dX7_join_58 hl (k := 2) rfl (by rw [ex45]; first | done | rfl) (by decide) rfl (fun ls hl => ?_)
        refine lv_goto (tgt := 25) hx hb dX7_join_61 (by decide) ?_
        cases hf
        exact hk _ _ _ hM (lv_sub hl [1, 2, 0] rfl)
      · have hf := it_pos c43 hf
        refine lv_iconst (v := nI 1) hx hb dX7_join_52 ic1 ?_
        refine lv_goto (tgt := 57) hx hb dX7_join_53 (by decide) ?_
        obtain ⟨S46, eS46, hiS46, hf⟩ := ast_some hf
        refine mr_zast B hM 45 (by decide) rfl hiS46 eS46 dX7_join_57 (fun H locs hM => ?_)
        obtain ⟨x47, ex47, hf⟩ := bd_some hf
        refine lv_iinc (v := x47) (lv' := [(4, .int x47), (0, .ref D.1), (3, .int x2)]) hx hb dX7_join_58 hl (k := 2) rfl (by rw [ex47]; first | done | rfl) (by decide) rfl (fun ls hl => ?_)
        refine lv_goto (tgt := 25) hx hb dX7_join_61 (by decide) ?_
        cases hf
        exact hk _ _ _ hM (lv_sub hl [1, 2, 0] rfl)
def f_X7_isSo (S : MS) (p0 : Int32) (p1 : Int32) (p2 : Int32) : Option Int32 :=
  bnd (f_X7_factAt S p0 p1 p2) fun r1 => (if r1 = (-1) then some (nI 0) else ald 36 (S.1 28) r1 fun v3 => (if v3 = 0 then some (nI 0) else some (nI 1)))
abbrev r_X7_isSo : Room := { frames := 2, cells := 0, slots := 0, locals := 46 }
set_option maxHeartbeats 4000000 in
set_option maxRecDepth 100000 in
theorem c_X7_isSo (l : Launch) (D : MD) (S : MS) (p0 : Int32) (p1 : Int32) (p2 : Int32) {r : Int32} (hf : f_X7_isSo S p0 p1 p2 = some r) : m_Met l yX7_isSo cX7_isSo 5 (Option.some Jvm.ClassFile.FieldType.boolean) r_X7_isSo D [.ref D.1, .int p0, .int p1, .int p2] S (some (.int r)) S := by
  refine m_metI (F := 2) (L := 46) (by decide) rfl (Nat.le_of_ble_eq_true rfl) (fun p e s m args below meth c Q B hret hM ls hl => ?_)
  have hx := B.1
  have hb := B.2.1
  have hown := B.2.2.2.1
  have hts := B.2.2.2.2
  have hl : lv_has ls 5 [(0, .ref D.1), (1, .int p0), (2, .int p1), (3, .int p2)] := hl
  generalize s.heap = H, ([] : List Loc) = locs at hM ⊢
  unfold f_X7_isSo at hf
  refine lv_aload_n hx hb dX7_isSo_0 rfl (lv_at hl 0 rfl) ?_
  refine lv_iload_n hx hb dX7_isSo_1 rfl (lv_at hl 1 rfl) ?_
  refine lv_iload_n hx hb dX7_isSo_2 rfl (lv_at hl 2 rfl) ?_
  refine lv_iload_n hx hb dX7_isSo_3 rfl (lv_at hl 3 rfl) ?_
  obtain ⟨r1, hcr1, hf⟩ := bnd_some hf
  refine mr_callV (rest := []) B hM (c_X7_factAt l D S p0 p1 p2 hcr1) (cwV 3 hts (lw_V q1884 q1886 qs52 q113 q1887) rfl rfl rfl hd_X7_factAt ⟨Nat.le_of_ble_eq_true rfl, Nat.le_of_ble_eq_true rfl⟩) rfl hl.1 rfl (Nat.le_of_ble_eq_true rfl) dX7_isSo_4 ⟨Nat.zero_le _, Nat.zero_le _⟩ (fun H locs hM => ?_)
  refine lv_istore (lv' := [(4, .int r1), (0, .ref D.1), (1, .int p0), (2, .int p1), (3, .int p2)]) hx hb dX7_isSo_7 hl (by decide) rfl (fun ls hl => ?_)
  refine lv_iload hx hb dX7_isSo_9 (lv_at hl 0 rfl) ?_
  refine lv_iconst (v := (-1)) hx hb dX7_isSo_11 icm1 ?_
  refine lv_icmp_eq (tgt := 29) hx hb dX7_isSo_12 (by decide) (fun c2 => ?_) (fun c2 => ?_)
  · have hf := it_pos c2 hf
    refine lv_iconst (v := nI 0) hx hb dX7_isSo_29 ic0 ?_
    cases hf
    exact hret _ _ _ _ rfl hM dX7_isSo_30
  · have hf := it_neg c2 hf
    refine lv_aload_n hx hb dX7_isSo_15 rfl (lv_at hl 1 rfl) ?_
    refine mr_get B hM 28 (v := .ref (D.2.1 28)) rfl (by decide) q1674 dX7_isSo_16 ?_
    refine lv_iload hx hb dX7_isSo_19 (lv_at hl 0 rfl) ?_
    obtain ⟨v3, ev3, hiv3, hf⟩ := ald_some hf
    refine mr_zald B hM 28 (by decide) rfl hiv3 ev3 dX7_isSo_21 ?_
    refine lv_if_eq (tgt := 29) hx hb dX7_isSo_22 (by decide) (fun c4 => ?_) (fun c4 => ?_)
    · have hf := it_pos c4 hf
      refine lv_iconst (v := nI 0) hx hb dX7_isSo_29 ic0 ?_
      cases hf
      exact hret _ _ _ _ rfl hM dX7_isSo_30
    · have hf := it_neg c4 hf
      refine lv_iconst (v := nI 1) hx hb dX7_isSo_25 ic1 ?_
      refine lv_goto (tgt := 30) hx hb dX7_isSo_26 (by decide) ?_
      cases hf
      exact hret _ _ _ _ rfl hM dX7_isSo_30
def f_X7_findJoined_L2 (p0 : Int32) (x1 : Int32) (S2 : MS) : Option ((Int32 × MS) ⊕ ((MS))) :=
  (if nI 9 ≤ x1 then some (.inr S2) else bnd (f_X7_isSo S2 p0 (x1 / nI 3) (x1 - x1 / nI 3 * nI 3)) fun r4 => ast 9 x1 (m_up S2 47 x1.toNatClampNeg (vp_nar .boolean r4)) fun S5 => bd (x1 + nI 1) fun x6 => some (.inl (x6, S5)))
def f_X7_findJoined_L40 (x10 : Int32) (x13 : Int32) (S14 : MS) : Option ((Int32 × MS) ⊕ ((MS))) :=
  (if nI 9 ≤ x13 then some (.inr S14) else ald 9 (S14.1 47) x13 fun v16 => (if v16 = 0 then ald 9 (S14.1 47) ((x13 - (x13 - x13 / nI 3 * nI 3)) + x10) fun v20 => (if v20 = 0 then ast 9 x13 (m_up S14 47 x13.toNatClampNeg (vp_nar .boolean (nI 0))) fun S22 => bd (x13 + nI 1) fun x23 => some (.inl (x23, S22)) else ald 9 (S14.1 47) ((nI 3 * x10) + (x13 - x13 / nI 3 * nI 3)) fun v24 => (if v24 = 0 then ast 9 x13 (m_up S14 47 x13.toNatClampNeg (vp_nar .boolean (nI 0))) fun S26 => bd (x13 + nI 1) fun x27 => some (.inl (x27, S26)) else ast 9 x13 (m_up S14 47 x13.toNatClampNeg (vp_nar .boolean (nI 1))) fun S28 => bd (x13 + nI 1) fun x29 => some (.inl (x29, S28)))) else ast 9 x13 (m_up S14 47 x13.toNatClampNeg (vp_nar .boolean (nI 1))) fun S18 => bd (x13 + nI 1) fun x19 => some (.inl (x19, S18))))
def f_X7_findJoined_L33 (x10 : Int32) (S11 : MS) : Option ((Int32 × MS) ⊕ ((MS))) :=
  (if nI 3 ≤ x10 then some (.inr S11) else bnd (wO (fun t : Int32 × MS => f_X7_findJoined_L40 x10 t.1 t.2) fu (nI 0, S11)) <| fun S32 => bd (x10 + nI 1) fun x33 => some (.inl (x33, S32)))
def f_X7_findJoined (S : MS) (p0 : Int32) : Option MS :=
  bnd (wO (fun t : Int32 × MS => f_X7_findJoined_L2 p0 t.1 t.2) fu (nI 0, S)) <| fun S9 => bnd (wO (fun t : Int32 × MS => f_X7_findJoined_L33 t.1 t.2) fu (nI 0, S9)) <| fun S36 => some S36
abbrev r_X7_findJoined : Room := { frames := 3, cells := 0, slots := 0, locals := 70 }
set_option maxHeartbeats 4000000 in
set_option maxRecDepth 100000 in
theorem c_X7_findJoined (l : Launch) (D : MD) (S : MS) (p0 : Int32) {S' : MS} (hf : f_X7_findJoined S p0 = some S') : m_Met l yX7_findJoined cX7_findJoined 4 (Option.none : Option Jvm.ClassFile.FieldType) r_X7_findJoined D [.ref D.1, .int p0] S none S' := by
  refine m_metV (F := 3) (L := 70) (by decide) rfl (Nat.le_of_ble_eq_true rfl) (fun p e s m args below meth c Q B hret hM ls hl => ?_)
  have hx := B.1
  have hb := B.2.1
  have hown := B.2.2.2.1
  have hts := B.2.2.2.2
  have hl : lv_has ls 4 [(0, .ref D.1), (1, .int p0)] := hl
  generalize s.heap = H, ([] : List Loc) = locs at hM ⊢
  unfold f_X7_findJoined at hf
  refine lv_iconst (v := nI 0) hx hb dX7_findJoined_0 ic0 ?_
  refine lv_istore_n (lv' := [(2, .int (nI 0)), (0, .ref D.1), (1, .int p0)]) hx hb dX7_findJoined_1 rfl hl (by decide) rfl (fun ls hl => ?_)
  obtain ⟨y8, hxy8, hf⟩ := bnd_some hf
  have hy8 : (fun t : MS => ∀ (H : Heap) (locs : List Loc) (ls : Array Slot), m_I D s H locs t → lv_has ls 4 [(0, .ref D.1)] → W p l e r_X7_findJoined s m args below meth c H locs 0 0 Q (F0 m 31 ls [])) y8 := by
    obtain ⟨S9, rfl⟩ : ∃ z, z = y8 := ⟨_, rfl⟩
    intro H locs ls hM hl
    refine lv_iconst (v := nI 0) hx hb dX7_findJoined_31 ic0 ?_
    refine lv_istore_n (lv' := [(2, .int (nI 0)), (0, .ref D.1)]) hx hb dX7_findJoined_32 rfl hl (by decide) rfl (fun ls hl => ?_)
    obtain ⟨y35, hxy35, hf⟩ := bnd_some hf
    have hy35 : (fun t : MS => ∀ (H : Heap) (locs : List Loc) (ls : Array Slot), m_I D s H locs t → lv_has ls 4 [] → W p l e r_X7_findJoined s m args below meth c H locs 0 0 Q (F0 m 108 ls [])) y35 := by
      obtain ⟨S36, rfl⟩ : ∃ z, z = y35 := ⟨_, rfl⟩
      intro H locs ls hM hl
      cases hf
      exact hret _ _ _ _ hM dX7_findJoined_108
    refine lp_W (step := (fun t : Int32 × MS => f_X7_findJoined_L33 t.1 t.2)) (fun t : Int32 × MS => ∀ (H : Heap) (locs : List Loc) (ls : Array Slot), m_I D s H locs t.2 → lv_has ls 4 [(0, .ref D.1), (2, .int t.1)] → W p l e r_X7_findJoined s m args below meth c H locs 0 0 Q (F0 m 33 ls [])) (fun t : MS => ∀ (H : Heap) (locs : List Loc) (ls : Array Slot), m_I D s H locs t → lv_has ls 4 [] → W p l e r_X7_findJoined s m args below meth c H locs 0 0 Q (F0 m 108 ls [])) ?_ fu (nI 0, S9) y35 hxy35 hy35 _ _ _ hM (lv_sub hl [1, 0] rfl)
    clear hf hxy35 hy35
    rintro ⟨x10, S11⟩ o (hf : f_X7_findJoined_L33 x10 S11 = some o) hk
    intro H locs ls hM hl
    unfold f_X7_findJoined_L33 at hf
    refine lv_iload_n hx hb dX7_findJoined_33 rfl (lv_at hl 1 rfl) ?_
    refine lv_iconst (v := nI 3) hx hb dX7_findJoined_34 ic3 ?_
    refine lv_icmp_ge (tgt := 108) hx hb dX7_findJoined_35 (by decide) (fun c12 => ?_) (fun c12 => ?_)
    · have hf := it_pos c12 hf
      cases hf
      exact hk _ _ _ hM (lv_sub hl [] rfl)
    · have hf := it_neg c12 hf
      refine lv_iconst (v := nI 0) hx hb dX7_findJoined_38 ic0 ?_
      refine lv_istore_n (lv' := [(3, .int (nI 0)), (0, .ref D.1), (2, .int x10)]) hx hb dX7_findJoined_39 rfl hl (by decide) rfl (fun ls hl => ?_)
      obtain ⟨y31, hxy31, hf⟩ := bnd_some hf
      have hy31 : (fun t : MS => ∀ (H : Heap) (locs : List Loc) (ls : Array Slot), m_I D s H locs t → lv_has ls 4 [(0, .ref D.1), (2, .int x10)] → W p l e r_X7_findJoined s m args below meth c H locs 0 0 Q (F0 m 102 ls [])) y31 := by
        obtain ⟨S32, rfl⟩ : ∃ z, z = y31 := ⟨_, rfl⟩
        intro H locs ls hM hl
        obtain ⟨x33, ex33, hf⟩ := bd_some hf
        refine lv_iinc (v := x33) (lv' := [(2, .int x33), (0, .ref D.1)]) hx hb dX7_findJoined_102 hl (k := 1) rfl (by rw [ex33]; first | done | rfl) (by decide) rfl (fun ls hl => ?_)
        refine lv_goto (tgt := 33) hx hb dX7_findJoined_105 (by decide) ?_
        cases hf
        exact hk _ _ _ hM (lv_sub hl [1, 0] rfl)
      refine lp_W (step := (fun t : Int32 × MS => f_X7_findJoined_L40 x10 t.1 t.2)) (fun t : Int32 × MS => ∀ (H : Heap) (locs : List Loc) (ls : Array Slot), m_I D s H locs t.2 → lv_has ls 4 [(0, .ref D.1), (2, .int x10), (3, .int t.1)] → W p l e r_X7_findJoined s m args below meth c H locs 0 0 Q (F0 m 40 ls [])) (fun t : MS => ∀ (H : Heap) (locs : List Loc) (ls : Array Slot), m_I D s H locs t → lv_has ls 4 [(0, .ref D.1), (2, .int x10)] → W p l e r_X7_findJoined s m args below meth c H locs 0 0 Q (F0 m 102 ls [])) ?_ fu (nI 0, S11) y31 hxy31 hy31 _ _ _ hM (lv_sub hl [1, 2, 0] rfl)
      clear hf hxy31 hy31
      rintro ⟨x13, S14⟩ o (hf : f_X7_findJoined_L40 x10 x13 S14 = some o) hk
      intro H locs ls hM hl
      unfold f_X7_findJoined_L40 at hf
      refine lv_iload_n hx hb dX7_findJoined_40 rfl (lv_at hl 2 rfl) ?_
      refine lv_bipush (v := nI 9) hx hb dX7_findJoined_41 bp9 ?_
      refine lv_icmp_ge (tgt := 102) hx hb dX7_findJoined_43 (by decide) (fun c15 => ?_) (fun c15 => ?_)
      · have hf := it_pos c15 hf
        cases hf
        exact hk _ _ _ hM (lv_sub hl [0, 1] rfl)
      · have hf := it_neg c15 hf
        refine lv_aload_n hx hb dX7_findJoined_46 rfl (lv_at hl 0 rfl) ?_
        refine mr_get B hM 47 (v := .ref (D.2.1 47)) rfl (by decide) q1693 dX7_findJoined_47 ?_
        refine lv_iload_n hx hb dX7_findJoined_50 rfl (lv_at hl 2 rfl) ?_
        refine lv_aload_n hx hb dX7_findJoined_51 rfl (lv_at hl 0 rfl) ?_
        refine mr_get B hM 47 (v := .ref (D.2.1 47)) rfl (by decide) q1693 dX7_findJoined_52 ?_
        refine lv_iload_n hx hb dX7_findJoined_55 rfl (lv_at hl 2 rfl) ?_
        obtain ⟨v16, ev16, hiv16, hf⟩ := ald_some hf
        refine mr_zald B hM 47 (by decide) rfl hiv16 ev16 dX7_findJoined_56 ?_
        refine lv_if_ne (tgt := 90) hx hb dX7_findJoined_57 (by decide) (fun c17 => ?_) (fun c17 => ?_)
        · have hf := it_neg c17 hf
          refine lv_iconst (v := nI 1) hx hb dX7_findJoined_90 ic1 ?_
          refine lv_goto (tgt := 95) hx hb dX7_findJoined_91 (by decide) ?_
          obtain ⟨S18, eS18, hiS18, hf⟩ := ast_some hf
          refine mr_zast B hM 47 (by decide) rfl hiS18 eS18 dX7_findJoined_95 (fun H locs hM => ?_)
          obtain ⟨x19, ex19, hf⟩ := bd_some hf
          refine lv_iinc (v := x19) (lv' := [(3, .int x19), (0, .ref D.1), (2, .int x10)]) hx hb dX7_findJoined_96 hl (k := 2) rfl (by rw [ex19]; first | done | rfl) (by decide) rfl (fun ls hl => ?_)
          refine lv_goto (tgt := 40) hx hb dX7_findJoined_99 (by decide) ?_
          cases hf
          exact hk _ _ _ hM (lv_sub hl [1, 2, 0] rfl)
        · have hf := it_pos c17 hf
          refine lv_aload_n hx hb dX7_findJoined_60 rfl (lv_at hl 0 rfl) ?_
          refine mr_get B hM 47 (v := .ref (D.2.1 47)) rfl (by decide) q1693 dX7_findJoined_61 ?_
          refine lv_iload_n hx hb dX7_findJoined_64 rfl (lv_at hl 2 rfl) ?_
          refine lv_iload_n hx hb dX7_findJoined_65 rfl (lv_at hl 2 rfl) ?_
          refine lv_iconst (v := nI 3) hx hb dX7_findJoined_66 ic3 ?_
          refine lv_irem hx hb dX7_findJoined_67 (by decide) ?_
          refine lv_isub hx hb dX7_findJoined_68 ?_
          refine lv_iload_n hx hb dX7_findJoined_69 rfl (lv_at hl 1 rfl) ?_
          refine lv_iadd hx hb dX7_findJoined_70 ?_
          obtain ⟨v20, ev20, hiv20, hf⟩ := ald_some hf
          refine mr_zald B hM 47 (by decide) rfl hiv20 ev20 dX7_findJoined_71 ?_
          refine lv_if_eq (tgt := 94) hx hb dX7_findJoined_72 (by decide) (fun c21 => ?_) (fun c21 => ?_)
          · have hf := it_pos c21 hf
            refine lv_iconst (v := nI 0) hx hb dX7_findJoined_94 ic0 ?_
            obtain ⟨S22, eS22, hiS22, hf⟩ := ast_some hf
            refine mr_zast B hM 47 (by decide) rfl hiS22 eS22 dX7_findJoined_95 (fun H locs hM => ?_)
            obtain ⟨x23, ex23, hf⟩ := bd_some hf
            refine lv_iinc (v := x23) (lv' := [(3, .int x23), (0, .ref D.1), (2, .int x10)]) hx hb dX7_findJoined_96 hl (k := 2) rfl (by rw [ex23]; first | done | rfl) (by decide) rfl (fun ls hl => ?_)
            refine lv_goto (tgt := 40) hx hb dX7_findJoined_99 (by decide) ?_
            cases hf
            exact hk _ _ _ hM (lv_sub hl [1, 2, 0] rfl)
          · have hf := it_neg c21 hf
            refine lv_aload_n hx hb dX7_findJoined_75 rfl (lv_at hl 0 rfl) ?_
            refine mr_get B hM 47 (v := .ref (D.2.1 47)) rfl (by decide) q1693 dX7_findJoined_76 ?_
            refine lv_iconst (v := nI 3) hx hb dX7_findJoined_79 ic3 ?_
            refine lv_iload_n hx hb dX7_findJoined_80 rfl (lv_at hl 1 rfl) ?_
            refine lv_imul hx hb dX7_findJoined_81 ?_
            refine lv_iload_n hx hb dX7_findJoined_82 rfl (lv_at hl 2 rfl) ?_
            refine lv_iconst (v := nI 3) hx hb dX7_findJoined_83 ic3 ?_
            refine lv_irem hx hb dX7_findJoined_84 (by decide) ?_
            refine lv_iadd hx hb dX7_findJoined_85 ?_
            obtain ⟨v24, ev24, hiv24, hf⟩ := ald_some hf
            refine mr_zald B hM 47 (by decide) rfl hiv24 ev24 dX7_findJoined_86 ?_
            refine lv_if_eq (tgt := 94) hx hb dX7_findJoined_87 (by decide) (fun c25 => ?_) (fun c25 => ?_)
            · have hf := it_pos c25 hf
              refine lv_iconst (v := nI 0) hx hb dX7_findJoined_94 ic0 ?_
              obtain ⟨S26, eS26, hiS26, hf⟩ := ast_some hf
              refine mr_zast B hM 47 (by decide) rfl hiS26 eS26 dX7_findJoined_95 (fun H locs hM => ?_)
              obtain ⟨x27, ex27, hf⟩ := bd_some hf
              refine lv_iinc (v := x27) (lv' := [(3, .int x27), (0, .ref D.1), (2, .int x10)]) hx hb dX7_findJoined_96 hl (k := 2) rfl (by rw [ex27]; first | done | rfl) (by decide) rfl (fun ls hl => ?_)
              refine lv_goto (tgt := 40) hx hb dX7_findJoined_99 (by decide) ?_
              cases hf
              exact hk _ _ _ hM (lv_sub hl [1, 2, 0] rfl)
            · have hf := it_neg c25 hf
              refine lv_iconst (v := nI 1) hx hb dX7_findJoined_90 ic1 ?_
              refine lv_goto (tgt := 95) hx hb dX7_findJoined_91 (by decide) ?_
              obtain ⟨S28, eS28, hiS28, hf⟩ := ast_some hf
              refine mr_zast B hM 47 (by decide) rfl hiS28 eS28 dX7_findJoined_95 (fun H locs hM => ?_)
              obtain ⟨x29, ex29, hf⟩ := bd_some hf
              refine lv_iinc (v := x29) (lv' := [(3, .int x29), (0, .ref D.1), (2, .int x10)]) hx hb dX7_findJoined_96 hl (k := 2) rfl (by rw [ex29]; first | done | rfl) (by decide) rfl (fun ls hl => ?_)
              refine lv_goto (tgt := 40) hx hb dX7_findJoined_99 (by decide) ?_
              cases hf
              exact hk _ _ _ hM (lv_sub hl [1, 2, 0] rfl)
  refine lp_W (step := (fun t : Int32 × MS => f_X7_findJoined_L2 p0 t.1 t.2)) (fun t : Int32 × MS => ∀ (H : Heap) (locs : List Loc) (ls : Array Slot), m_I D s H locs t.2 → lv_has ls 4 [(0, .ref D.1), (1, .int p0), (2, .int t.1)] → W p l e r_X7_findJoined s m args below meth c H locs 0 0 Q (F0 m 2 ls [])) (fun t : MS => ∀ (H : Heap) (locs : List Loc) (ls : Array Slot), m_I D s H locs t → lv_has ls 4 [(0, .ref D.1)] → W p l e r_X7_findJoined s m args below meth c H locs 0 0 Q (F0 m 31 ls [])) ?_ fu (nI 0, S) y8 hxy8 hy8 _ _ _ hM (lv_sub hl [1, 2, 0] rfl)
  clear hf hxy8 hy8
  rintro ⟨x1, S2⟩ o (hf : f_X7_findJoined_L2 p0 x1 S2 = some o) hk
  intro H locs ls hM hl
  unfold f_X7_findJoined_L2 at hf
  refine lv_iload_n hx hb dX7_findJoined_2 rfl (lv_at hl 2 rfl) ?_
  refine lv_bipush (v := nI 9) hx hb dX7_findJoined_3 bp9 ?_
  refine lv_icmp_ge (tgt := 31) hx hb dX7_findJoined_5 (by decide) (fun c3 => ?_) (fun c3 => ?_)
  · have hf := it_pos c3 hf
    cases hf
    exact hk _ _ _ hM (lv_sub hl [0] rfl)
  · have hf := it_neg c3 hf
    refine lv_aload_n hx hb dX7_findJoined_8 rfl (lv_at hl 0 rfl) ?_
    refine mr_get B hM 47 (v := .ref (D.2.1 47)) rfl (by decide) q1693 dX7_findJoined_9 ?_
    refine lv_iload_n hx hb dX7_findJoined_12 rfl (lv_at hl 2 rfl) ?_
    refine lv_aload_n hx hb dX7_findJoined_13 rfl (lv_at hl 0 rfl) ?_
    refine lv_iload_n hx hb dX7_findJoined_14 rfl (lv_at hl 1 rfl) ?_
    refine lv_iload_n hx hb dX7_findJoined_15 rfl (lv_at hl 2 rfl) ?_
    refine lv_iconst (v := nI 3) hx hb dX7_findJoined_16 ic3 ?_
    refine lv_idiv hx hb dX7_findJoined_17 (by decide) ?_
    refine lv_iload_n hx hb dX7_findJoined_18 rfl (lv_at hl 2 rfl) ?_
    refine lv_iconst (v := nI 3) hx hb dX7_findJoined_19 ic3 ?_
    refine lv_irem hx hb dX7_findJoined_20 (by decide) ?_
    obtain ⟨r4, hcr4, hf⟩ := bnd_some hf
    refine mr_callV (rest := [.int x1, .ref (D.2.1 47)]) B hM (c_X7_isSo l D S2 p0 (x1 / nI 3) (x1 - x1 / nI 3 * nI 3) hcr4) (cwV 3 hts (lw_V q2090 q2092 qs82 q113 q2093) rfl rfl rfl hd_X7_isSo ⟨Nat.le_of_ble_eq_true rfl, Nat.le_of_ble_eq_true rfl⟩) rfl hl.1 rfl (Nat.le_of_ble_eq_true rfl) dX7_findJoined_21 ⟨Nat.zero_le _, Nat.zero_le _⟩ (fun H locs hM => ?_)
    obtain ⟨S5, eS5, hiS5, hf⟩ := ast_some hf
    refine mr_zast B hM 47 (by decide) rfl hiS5 eS5 dX7_findJoined_24 (fun H locs hM => ?_)
    obtain ⟨x6, ex6, hf⟩ := bd_some hf
    refine lv_iinc (v := x6) (lv' := [(2, .int x6), (0, .ref D.1), (1, .int p0)]) hx hb dX7_findJoined_25 hl (k := 2) rfl (by rw [ex6]; first | done | rfl) (by decide) rfl (fun ls hl => ?_)
    refine lv_goto (tgt := 2) hx hb dX7_findJoined_28 (by decide) ?_
    cases hf
    exact hk _ _ _ hM (lv_sub hl [1, 2, 0] rfl)
def f_X7_isTree_L20 (p0 : Int32) (S1 : MS) (x3 : Int32) (x5 : Int32) (x6 : Int32) : Option ((Int32 × Int32) ⊕ ((Int32))) :=
  (if nI 3 ≤ x6 then some (.inr x5) else bnd (f_X7_isSo S1 p0 x3 x6) fun r8 => (if r8 = 0 then bd (x5 + nI 0) fun x10 => bd (x6 + nI 1) fun x11 => some (.inl (x10, x11)) else bd (x5 + nI 1) fun x12 => bd (x6 + nI 1) fun x13 => some (.inl (x12, x13))))
def f_X7_isTree_L9 (p0 : Int32) (S1 : MS) (x2 : Int32) (x3 : Int32) : Option ((Int32 × Int32) ⊕ ((Int32))) :=
  (if nI 3 ≤ x3 then some (.inr x2) else bnd (wO (fun t : Int32 × Int32 => f_X7_isTree_L20 p0 S1 x3 t.1 t.2) fu (nI 0, nI 0)) <| fun x16 => (if x2 = 0 then bd (x3 + nI 1) fun x18 => some (.inl (nI 0, x18)) else (if nI 1 < x16 then bd (x3 + nI 1) fun x20 => some (.inl (nI 0, x20)) else ald 9 (S1.1 47) (nI 4 * x3) fun v21 => (if v21 = 0 then bd (x3 + nI 1) fun x24 => some (.inl (nI 1, x24)) else bd (x3 + nI 1) fun x23 => some (.inl (nI 0, x23))))))
def f_X7_isTree (S : MS) (p0 : Int32) : Option (Int32 × MS) :=
  bnd (f_X7_findJoined S p0) fun S1 => bnd (wO (fun t : Int32 × Int32 => f_X7_isTree_L9 p0 S1 t.1 t.2) fu (nI 1, nI 0)) <| fun x27 => chk (x27 = 0 ∨ x27 = 1) <| some (x27, S1)
abbrev r_X7_isTree : Room := { frames := 4, cells := 0, slots := 0, locals := 93 }
set_option maxHeartbeats 4000000 in
set_option maxRecDepth 100000 in
theorem c_X7_isTree (l : Launch) (D : MD) (S : MS) (p0 : Int32) {r : Int32} {S' : MS} (hf : f_X7_isTree S p0 = some (r, S')) : m_Met l yX7_isTree cX7_isTree 6 (Option.some Jvm.ClassFile.FieldType.boolean) r_X7_isTree D [.ref D.1, .int p0] S (some (.int r)) S' := by
  refine m_metI (F := 4) (L := 93) (by decide) rfl (Nat.le_of_ble_eq_true rfl) (fun p e s m args below meth c Q B hret hM ls hl => ?_)
  have hx := B.1
  have hb := B.2.1
  have hown := B.2.2.2.1
  have hts := B.2.2.2.2
  have hl : lv_has ls 6 [(0, .ref D.1), (1, .int p0)] := hl
  generalize s.heap = H, ([] : List Loc) = locs at hM ⊢
  unfold f_X7_isTree at hf
  refine lv_aload_n hx hb dX7_isTree_0 rfl (lv_at hl 0 rfl) ?_
  refine lv_iload_n hx hb dX7_isTree_1 rfl (lv_at hl 1 rfl) ?_
  obtain ⟨S1, hcS1, hf⟩ := bnd_some hf
  refine mr_callV (rest := []) B hM (c_X7_findJoined l D S p0 hcS1) (cwV 1 hts (lw_V q2086 q2088 qs81 q113 q2089) rfl rfl rfl hd_X7_findJoined ⟨Nat.le_of_ble_eq_true rfl, Nat.le_of_ble_eq_true rfl⟩) rfl hl.1 rfl (Nat.le_of_ble_eq_true rfl) dX7_isTree_2 ⟨Nat.zero_le _, Nat.zero_le _⟩ (fun H locs hM => ?_)
  refine lv_iconst (v := nI 1) hx hb dX7_isTree_5 ic1 ?_
  refine lv_istore_n (lv' := [(2, .int (nI 1)), (0, .ref D.1), (1, .int p0)]) hx hb dX7_isTree_6 rfl hl (by decide) rfl (fun ls hl => ?_)
  refine lv_iconst (v := nI 0) hx hb dX7_isTree_7 ic0 ?_
  refine lv_istore_n (lv' := [(3, .int (nI 0)), (2, .int (nI 1)), (0, .ref D.1), (1, .int p0)]) hx hb dX7_isTree_8 rfl hl (by decide) rfl (fun ls hl => ?_)
  obtain ⟨y26, hxy26, hf⟩ := bnd_some hf
  have hy26 : (fun t : Int32 => ∀ (H : Heap) (locs : List Loc) (ls : Array Slot), m_I D s H locs S1 → lv_has ls 6 [(2, .int t)] → W p l e r_X7_isTree s m args below meth c H locs 0 0 Q (F0 m 86 ls [])) y26 := by
    obtain ⟨x27, rfl⟩ : ∃ z, z = y26 := ⟨_, rfl⟩
    intro H locs ls hM hl
    refine lv_iload_n hx hb dX7_isTree_86 rfl (lv_at hl 0 rfl) ?_
    obtain ⟨hb28, hf⟩ := chk_some hf
    cases hf
    exact hret _ _ _ _ (by rcases hb28 with q | q <;> (rw [q]; rfl)) hM dX7_isTree_87
  refine lp_W (step := (fun t : Int32 × Int32 => f_X7_isTree_L9 p0 S1 t.1 t.2)) (fun t : Int32 × Int32 => ∀ (H : Heap) (locs : List Loc) (ls : Array Slot), m_I D s H locs S1 → lv_has ls 6 [(0, .ref D.1), (1, .int p0), (2, .int t.1), (3, .int t.2)] → W p l e r_X7_isTree s m args below meth c H locs 0 0 Q (F0 m 9 ls [])) (fun t : Int32 => ∀ (H : Heap) (locs : List Loc) (ls : Array Slot), m_I D s H locs S1 → lv_has ls 6 [(2, .int t)] → W p l e r_X7_isTree s m args below meth c H locs 0 0 Q (F0 m 86 ls [])) ?_ fu (nI 1, nI 0) y26 hxy26 hy26 _ _ _ hM (lv_sub hl [2, 3, 1, 0] rfl)
  clear hf hxy26 hy26
  rintro ⟨x2, x3⟩ o (hf : f_X7_isTree_L9 p0 S1 x2 x3 = some o) hk
  intro H locs ls hM hl
  unfold f_X7_isTree_L9 at hf
  refine lv_iload_n hx hb dX7_isTree_9 rfl (lv_at hl 3 rfl) ?_
  refine lv_iconst (v := nI 3) hx hb dX7_isTree_10 ic3 ?_
  refine lv_icmp_ge (tgt := 86) hx hb dX7_isTree_11 (by decide) (fun c4 => ?_) (fun c4 => ?_)
  · have hf := it_pos c4 hf
    cases hf
    exact hk _ _ _ hM (lv_sub hl [2] rfl)
  · have hf := it_neg c4 hf
    refine lv_iconst (v := nI 0) hx hb dX7_isTree_14 ic0 ?_
    refine lv_istore (lv' := [(4, .int (nI 0)), (0, .ref D.1), (1, .int p0), (2, .int x2), (3, .int x3)]) hx hb dX7_isTree_15 hl (by decide) rfl (fun ls hl => ?_)
    refine lv_iconst (v := nI 0) hx hb dX7_isTree_17 ic0 ?_
    refine lv_istore (lv' := [(5, .int (nI 0)), (4, .int (nI 0)), (0, .ref D.1), (1, .int p0), (2, .int x2), (3, .int x3)]) hx hb dX7_isTree_18 hl (by decide) rfl (fun ls hl => ?_)
    obtain ⟨y15, hxy15, hf⟩ := bnd_some hf
    have hy15 : (fun t : Int32 => ∀ (H : Heap) (locs : List Loc) (ls : Array Slot), m_I D s H locs S1 → lv_has ls 6 [(0, .ref D.1), (1, .int p0), (2, .int x2), (3, .int x3), (4, .int t)] → W p l e r_X7_isTree s m args below meth c H locs 0 0 Q (F0 m 53 ls [])) y15 := by
      obtain ⟨x16, rfl⟩ : ∃ z, z = y15 := ⟨_, rfl⟩
      intro H locs ls hM hl
      refine lv_iload_n hx hb dX7_isTree_53 rfl (lv_at hl 2 rfl) ?_
      refine lv_if_eq (tgt := 78) hx hb dX7_isTree_54 (by decide) (fun c17 => ?_) (fun c17 => ?_)
      · have hf := it_pos c17 hf
        refine lv_iconst (v := nI 0) hx hb dX7_isTree_78 ic0 ?_
        refine lv_istore_n (lv' := [(2, .int (nI 0)), (0, .ref D.1), (1, .int p0), (3, .int x3), (4, .int x16)]) hx hb dX7_isTree_79 rfl hl (by decide) rfl (fun ls hl => ?_)
        obtain ⟨x18, ex18, hf⟩ := bd_some hf
        refine lv_iinc (v := x18) (lv' := [(3, .int x18), (2, .int (nI 0)), (0, .ref D.1), (1, .int p0), (4, .int x16)]) hx hb dX7_isTree_80 hl (k := 3) rfl (by rw [ex18]; first | done | rfl) (by decide) rfl (fun ls hl => ?_)
        refine lv_goto (tgt := 9) hx hb dX7_isTree_83 (by decide) ?_
        cases hf
        exact hk _ _ _ hM (lv_sub hl [2, 3, 1, 0] rfl)
      · have hf := it_neg c17 hf
        refine lv_iload hx hb dX7_isTree_57 (lv_at hl 4 rfl) ?_
        refine lv_iconst (v := nI 1) hx hb dX7_isTree_59 ic1 ?_
        refine lv_icmp_gt (tgt := 78) hx hb dX7_isTree_60 (by decide) (fun c19 => ?_) (fun c19 => ?_)
        · have hf := it_pos c19 hf
          refine lv_iconst (v := nI 0) hx hb dX7_isTree_78 ic0 ?_
          refine lv_istore_n (lv' := [(2, .int (nI 0)), (0, .ref D.1), (1, .int p0), (3, .int x3), (4, .int x16)]) hx hb dX7_isTree_79 rfl hl (by decide) rfl (fun ls hl => ?_)
          obtain ⟨x20, ex20, hf⟩ := bd_some hf
          refine lv_iinc (v := x20) (lv' := [(3, .int x20), (2, .int (nI 0)), (0, .ref D.1), (1, .int p0), (4, .int x16)]) hx hb dX7_isTree_80 hl (k := 3) rfl (by rw [ex20]; first | done | rfl) (by decide) rfl (fun ls hl => ?_)
          refine lv_goto (tgt := 9) hx hb dX7_isTree_83 (by decide) ?_
          cases hf
          exact hk _ _ _ hM (lv_sub hl [2, 3, 1, 0] rfl)
        · have hf := it_neg c19 hf
          refine lv_aload_n hx hb dX7_isTree_63 rfl (lv_at hl 0 rfl) ?_
          refine mr_get B hM 47 (v := .ref (D.2.1 47)) rfl (by decide) q1693 dX7_isTree_64 ?_
          refine lv_iconst (v := nI 4) hx hb dX7_isTree_67 ic4 ?_
          refine lv_iload_n hx hb dX7_isTree_68 rfl (lv_at hl 3 rfl) ?_
          refine lv_imul hx hb dX7_isTree_69 ?_
          obtain ⟨v21, ev21, hiv21, hf⟩ := ald_some hf
          refine mr_zald B hM 47 (by decide) rfl hiv21 ev21 dX7_isTree_70 ?_
          refine lv_if_ne (tgt := 78) hx hb dX7_isTree_71 (by decide) (fun c22 => ?_) (fun c22 => ?_)
          · have hf := it_neg c22 hf
            refine lv_iconst (v := nI 0) hx hb dX7_isTree_78 ic0 ?_
            refine lv_istore_n (lv' := [(2, .int (nI 0)), (0, .ref D.1), (1, .int p0), (3, .int x3), (4, .int x16)]) hx hb dX7_isTree_79 rfl hl (by decide) rfl (fun ls hl => ?_)
            obtain ⟨x23, ex23, hf⟩ := bd_some hf
            refine lv_iinc (v := x23) (lv' := [(3, .int x23), (2, .int (nI 0)), (0, .ref D.1), (1, .int p0), (4, .int x16)]) hx hb dX7_isTree_80 hl (k := 3) rfl (by rw [ex23]; first | done | rfl) (by decide) rfl (fun ls hl => ?_)
            refine lv_goto (tgt := 9) hx hb dX7_isTree_83 (by decide) ?_
            cases hf
            exact hk _ _ _ hM (lv_sub hl [2, 3, 1, 0] rfl)
          · have hf := it_pos c22 hf
            refine lv_iconst (v := nI 1) hx hb dX7_isTree_74 ic1 ?_
            refine lv_goto (tgt := 79) hx hb dX7_isTree_75 (by decide) ?_
            refine lv_istore_n (lv' := [(2, .int (nI 1)), (0, .ref D.1), (1, .int p0), (3, .int x3), (4, .int x16)]) hx hb dX7_isTree_79 rfl hl (by decide) rfl (fun ls hl => ?_)
            obtain ⟨x24, ex24, hf⟩ := bd_some hf
            refine lv_iinc (v := x24) (lv' := [(3, .int x24), (2, .int (nI 1)), (0, .ref D.1), (1, .int p0), (4, .int x16)]) hx hb dX7_isTree_80 hl (k := 3) rfl (by rw [ex24]; first | done | rfl) (by decide) rfl (fun ls hl => ?_)
            refine lv_goto (tgt := 9) hx hb dX7_isTree_83 (by decide) ?_
            cases hf
            exact hk _ _ _ hM (lv_sub hl [2, 3, 1, 0] rfl)
    refine lp_W (step := (fun t : Int32 × Int32 => f_X7_isTree_L20 p0 S1 x3 t.1 t.2)) (fun t : Int32 × Int32 => ∀ (H : Heap) (locs : List Loc) (ls : Array Slot), m_I D s H locs S1 → lv_has ls 6 [(0, .ref D.1), (1, .int p0), (2, .int x2), (3, .int x3), (4, .int t.1), (5, .int t.2)] → W p l e r_X7_isTree s m args below meth c H locs 0 0 Q (F0 m 20 ls [])) (fun t : Int32 => ∀ (H : Heap) (locs : List Loc) (ls : Array Slot), m_I D s H locs S1 → lv_has ls 6 [(0, .ref D.1), (1, .int p0), (2, .int x2), (3, .int x3), (4, .int t)] → W p l e r_X7_isTree s m args below meth c H locs 0 0 Q (F0 m 53 ls [])) ?_ fu (nI 0, nI 0) y15 hxy15 hy15 _ _ _ hM (lv_sub hl [2, 3, 4, 5, 1, 0] rfl)
    clear hf hxy15 hy15
    rintro ⟨x5, x6⟩ o (hf : f_X7_isTree_L20 p0 S1 x3 x5 x6 = some o) hk
    intro H locs ls hM hl
    unfold f_X7_isTree_L20 at hf
    refine lv_iload hx hb dX7_isTree_20 (lv_at hl 5 rfl) ?_
    refine lv_iconst (v := nI 3) hx hb dX7_isTree_22 ic3 ?_
    refine lv_icmp_ge (tgt := 53) hx hb dX7_isTree_23 (by decide) (fun c7 => ?_) (fun c7 => ?_)
    · have hf := it_pos c7 hf
      cases hf
      exact hk _ _ _ hM (lv_sub hl [0, 1, 2, 3, 4] rfl)
    · have hf := it_neg c7 hf
      refine lv_iload hx hb dX7_isTree_26 (lv_at hl 4 rfl) ?_
      refine lv_aload_n hx hb dX7_isTree_28 rfl (lv_at hl 0 rfl) ?_
      refine lv_iload_n hx hb dX7_isTree_29 rfl (lv_at hl 1 rfl) ?_
      refine lv_iload_n hx hb dX7_isTree_30 rfl (lv_at hl 3 rfl) ?_
      refine lv_iload hx hb dX7_isTree_31 (lv_at hl 5 rfl) ?_
      obtain ⟨r8, hcr8, hf⟩ := bnd_some hf
      refine mr_callV (rest := [.int x5]) B hM (c_X7_isSo l D S1 p0 x3 x6 hcr8) (cwV 3 hts (lw_V q2090 q2092 qs82 q113 q2093) rfl rfl rfl hd_X7_isSo ⟨Nat.le_of_ble_eq_true rfl, Nat.le_of_ble_eq_true rfl⟩) rfl hl.1 rfl (Nat.le_of_ble_eq_true rfl) dX7_isTree_33 ⟨Nat.zero_le _, Nat.zero_le _⟩ (fun H locs hM => ?_)
      refine lv_if_eq (tgt := 43) hx hb dX7_isTree_36 (by decide) (fun c9 => ?_) (fun c9 => ?_)
      · have hf := it_pos c9 hf
        refine lv_iconst (v := nI 0) hx hb dX7_isTree_43 ic0 ?_
        refine lv_iadd hx hb dX7_isTree_44 ?_
        refine lv_topi (fun x10 ex10 => ?_)
        have hf := bd_at ex10 hf
        refine lv_istore (lv' := [(4, .int x10), (0, .ref D.1), (1, .int p0), (2, .int x2), (3, .int x3), (5, .int x6)]) hx hb dX7_isTree_45 hl (by decide) rfl (fun ls hl => ?_)
        obtain ⟨x11, ex11, hf⟩ := bd_some hf
        refine lv_iinc (v := x11) (lv' := [(5, .int x11), (4, .int x10), (0, .ref D.1), (1, .int p0), (2, .int x2), (3, .int x3)]) hx hb dX7_isTree_47 hl (k := 5) rfl (by rw [ex11]; first | done | rfl) (by decide) rfl (fun ls hl => ?_)
        refine lv_goto (tgt := 20) hx hb dX7_isTree_50 (by decide) ?_
        cases hf
        exact hk _ _ _ hM (lv_sub hl [2, 3, 4, 5, 1, 0] rfl)
      · have hf := it_neg c9 hf
        refine lv_iconst (v := nI 1) hx hb dX7_isTree_39 ic1 ?_
        refine lv_goto (tgt := 44) hx hb dX7_isTree_40 (by decide) ?_
        refine lv_iadd hx hb dX7_isTree_44 ?_
        refine lv_topi (fun x12 ex12 => ?_)
        have hf := bd_at ex12 hf
        refine lv_istore (lv' := [(4, .int x12), (0, .ref D.1), (1, .int p0), (2, .int x2), (3, .int x3), (5, .int x6)]) hx hb dX7_isTree_45 hl (by decide) rfl (fun ls hl => ?_)
        obtain ⟨x13, ex13, hf⟩ := bd_some hf
        refine lv_iinc (v := x13) (lv' := [(5, .int x13), (4, .int x12), (0, .ref D.1), (1, .int p0), (2, .int x2), (3, .int x3)]) hx hb dX7_isTree_47 hl (k := 5) rfl (by rw [ex13]; first | done | rfl) (by decide) rfl (fun ls hl => ?_)
        refine lv_goto (tgt := 20) hx hb dX7_isTree_50 (by decide) ?_
        cases hf
        exact hk _ _ _ hM (lv_sub hl [2, 3, 4, 5, 1, 0] rfl)
def f_X7_valueIn (p0 : Int32) (p1 : Int32) : Option Int32 :=
  bnd (f_X7_unit p1) fun r1 => chk (¬ r1 = 0) <| some ((p0 / r1) - (p0 / r1) / nI 3 * nI 3)
abbrev r_X7_valueIn : Room := { frames := 1, cells := 0, slots := 0, locals := 20 }
set_option maxHeartbeats 4000000 in
set_option maxRecDepth 100000 in
theorem c_X7_valueIn (l : Launch) (p0 : Int32) (p1 : Int32) {r : Int32} (hf : f_X7_valueIn p0 p1 = some r) : p_Met l yX7_valueIn cX7_valueIn 2 (Option.some Jvm.ClassFile.FieldType.int) r_X7_valueIn [.int p0, .int p1] (some (.int r)) := by
  refine p_metI (F := 1) (L := 20) RX7 (by decide) rfl (Nat.le_of_ble_eq_true rfl) (fun p e s m args below meth c Q B hret ls hl => ?_)
  have hx := B.1
  have hb := B.2.1
  have hown := B.2.2.2.1
  have hts := B.2.2.2.2
  have hl : lv_has ls 2 [(0, .int p0), (1, .int p1)] := hl
  unfold f_X7_valueIn at hf
  refine lv_iload_n hx hb dX7_valueIn_0 rfl (lv_at hl 0 rfl) ?_
  refine lv_iload_n hx hb dX7_valueIn_1 rfl (lv_at hl 1 rfl) ?_
  obtain ⟨r1, hcr1, hf⟩ := bnd_some hf
  refine pr_callS (rest := [.int p0]) B (c_X7_unit l p1 hcr1) (va_cwS 1 hts (lw_S q2097 q2098 q113 q2099) rfl rfl rfl hd_X7_unit ⟨Nat.le_of_ble_eq_true rfl, Nat.le_of_ble_eq_true rfl⟩) rfl hl.1 rfl (Nat.le_of_ble_eq_true rfl) dX7_valueIn_2 ⟨Nat.zero_le _, Nat.zero_le _⟩ ?_
  obtain ⟨hz2, hf⟩ := chk_some hf
  refine lv_idiv hx hb dX7_valueIn_5 hz2 ?_
  refine lv_iconst (v := nI 3) hx hb dX7_valueIn_6 ic3 ?_
  refine lv_irem hx hb dX7_valueIn_7 (by decide) ?_
  cases hf
  exact hret _ _ rfl dX7_valueIn_8
