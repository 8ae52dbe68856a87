set_option maxRecDepth 100000
def f_X7_readRelation_J236_34 (p0 : Int32) (p1 : Int32) (S27 : MS) (x36 : Int32) : Option (Int32 × MS) :=
  bnd (f_X7_readVar S27 p1 x36) <| u2 fun r37 S38 => ast 41 p0 (m_up S38 44 p0.toNatClampNeg r37) fun S39 => ald 41 (S39.1 44) p0 fun v40 => (if v40 = (-1) then some (nI 0, S39) else some (nI 1, S39))
def f_X7_readRelation_J198_30 (p0 : Int32) (S27 : MS)  : Option (Int32 × MS) :=
  ald 41 (S27.1 43) p0 fun v42 => (if v42 = (-1) then some (nI 0, S27) else some (nI 1, S27))
def f_X7_readRelation_J173_22 (p0 : Int32) (p1 : Int32) (r1 : Int32) (S18 : MS) (x24 : Int32) : Option (Int32 × MS) :=
  bnd (f_X7_readVar S18 p1 x24) <| u2 fun r25 S26 => ast 41 p0 (m_up S26 43 p0.toNatClampNeg r25) fun S27 => ald 41 (S27.1 43) p0 fun v28 => (if v28 = (-1) then f_X7_readRelation_J198_30 p0 S27 else ald 41 (S27.1 41) p0 fun v31 => (if v31 = nI 11 then f_X7_readRelation_J198_30 p0 S27 else (if nI 1 = 0 then f_X7_readRelation_J236_34 p0 p1 S27 (-1) else ald 16 (S27.1 10) r1 fun v35 => f_X7_readRelation_J236_34 p0 p1 S27 v35)))
def f_X7_readRelation_J126_11 (p0 : Int32) (p1 : Int32) (r1 : Int32) (S9 : MS) (x15 : Int32) : Option (Int32 × MS) :=
  ast 41 p0 (m_up S9 41 p0.toNatClampNeg x15) fun S16 => ast 41 p0 (m_up S16 42 p0.toNatClampNeg r1) fun S17 => bnd (f_X7_token S17) fun S18 => ald 41 (S18.1 41) p0 fun v19 => (if v19 = nI 10 then some (nI 1, S18) else (if nI 1 = 0 then f_X7_readRelation_J173_22 p0 p1 r1 S18 (-1) else ald 16 (S18.1 9) r1 fun v23 => f_X7_readRelation_J173_22 p0 p1 r1 S18 v23))
def f_X7_readRelation_J90_7 (p0 : Int32) (p1 : Int32) (r1 : Int32) (S9 : MS) : Option (Int32 × MS) :=
  (if nI 1 = 0 then ald 16 (S9.1 10) r1 fun v12 => (if v12 = (-1) then f_X7_readRelation_J126_11 p0 p1 r1 S9 (nI 11) else f_X7_readRelation_J126_11 p0 p1 r1 S9 (nI 12)) else ald 41 (S9.1 41) p0 fun v14 => f_X7_readRelation_J126_11 p0 p1 r1 S9 v14)
def f_X7_readRelation_J236_77 (p0 : Int32) (p1 : Int32) (S70 : MS) (x79 : Int32) : Option (Int32 × MS) :=
  bnd (f_X7_readVar S70 p1 x79) <| u2 fun r80 S81 => ast 41 p0 (m_up S81 44 p0.toNatClampNeg r80) fun S82 => ald 41 (S82.1 44) p0 fun v83 => (if v83 = (-1) then some (nI 0, S82) else some (nI 1, S82))
def f_X7_readRelation_J198_73 (p0 : Int32) (S70 : MS)  : Option (Int32 × MS) :=
  ald 41 (S70.1 43) p0 fun v85 => (if v85 = (-1) then some (nI 0, S70) else some (nI 1, S70))
def f_X7_readRelation_J173_65 (p0 : Int32) (p1 : Int32) (r1 : Int32) (x48 : Int32) (S61 : MS) (x67 : Int32) : Option (Int32 × MS) :=
  bnd (f_X7_readVar S61 p1 x67) <| u2 fun r68 S69 => ast 41 p0 (m_up S69 43 p0.toNatClampNeg r68) fun S70 => ald 41 (S70.1 43) p0 fun v71 => (if v71 = (-1) then f_X7_readRelation_J198_73 p0 S70 else ald 41 (S70.1 41) p0 fun v74 => (if v74 = nI 11 then f_X7_readRelation_J198_73 p0 S70 else (if x48 = 0 then f_X7_readRelation_J236_77 p0 p1 S70 (-1) else ald 16 (S70.1 10) r1 fun v78 => f_X7_readRelation_J236_77 p0 p1 S70 v78)))
def f_X7_readRelation_J126_54 (p0 : Int32) (p1 : Int32) (r1 : Int32) (x48 : Int32) (S52 : MS) (x58 : Int32) : Option (Int32 × MS) :=
  ast 41 p0 (m_up S52 41 p0.toNatClampNeg x58) fun S59 => ast 41 p0 (m_up S59 42 p0.toNatClampNeg r1) fun S60 => bnd (f_X7_token S60) fun S61 => ald 41 (S61.1 41) p0 fun v62 => (if v62 = nI 10 then some (nI 1, S61) else (if x48 = 0 then f_X7_readRelation_J173_65 p0 p1 r1 x48 S61 (-1) else ald 16 (S61.1 9) r1 fun v66 => f_X7_readRelation_J173_65 p0 p1 r1 x48 S61 v66))
def f_X7_readRelation_J90_50 (p0 : Int32) (p1 : Int32) (r1 : Int32) (x48 : Int32) (S52 : MS) : Option (Int32 × MS) :=
  (if nI 1 = 0 then ald 16 (S52.1 10) r1 fun v55 => (if v55 = (-1) then f_X7_readRelation_J126_54 p0 p1 r1 x48 S52 (nI 11) else f_X7_readRelation_J126_54 p0 p1 r1 x48 S52 (nI 12)) else ald 41 (S52.1 41) p0 fun v57 => f_X7_readRelation_J126_54 p0 p1 r1 x48 S52 v57)
def f_X7_readRelation_J236_120 (p0 : Int32) (p1 : Int32) (S113 : MS) (x122 : Int32) : Option (Int32 × MS) :=
  bnd (f_X7_readVar S113 p1 x122) <| u2 fun r123 S124 => ast 41 p0 (m_up S124 44 p0.toNatClampNeg r123) fun S125 => ald 41 (S125.1 44) p0 fun v126 => (if v126 = (-1) then some (nI 0, S125) else some (nI 1, S125))
def f_X7_readRelation_J198_116 (p0 : Int32) (S113 : MS)  : Option (Int32 × MS) :=
  ald 41 (S113.1 43) p0 fun v128 => (if v128 = (-1) then some (nI 0, S113) else some (nI 1, S113))
def f_X7_readRelation_J173_108 (p0 : Int32) (p1 : Int32) (r1 : Int32) (S104 : MS) (x110 : Int32) : Option (Int32 × MS) :=
  bnd (f_X7_readVar S104 p1 x110) <| u2 fun r111 S112 => ast 41 p0 (m_up S112 43 p0.toNatClampNeg r111) fun S113 => ald 41 (S113.1 43) p0 fun v114 => (if v114 = (-1) then f_X7_readRelation_J198_116 p0 S113 else ald 41 (S113.1 41) p0 fun v117 => (if v117 = nI 11 then f_X7_readRelation_J198_116 p0 S113 else (if nI 1 = 0 then f_X7_readRelation_J236_120 p0 p1 S113 (-1) else ald 16 (S113.1 10) r1 fun v121 => f_X7_readRelation_J236_120 p0 p1 S113 v121)))
def f_X7_readRelation_J126_97 (p0 : Int32) (p1 : Int32) (r1 : Int32) (S95 : MS) (x101 : Int32) : Option (Int32 × MS) :=
  ast 41 p0 (m_up S95 41 p0.toNatClampNeg x101) fun S102 => ast 41 p0 (m_up S102 42 p0.toNatClampNeg r1) fun S103 => bnd (f_X7_token S103) fun S104 => ald 41 (S104.1 41) p0 fun v105 => (if v105 = nI 10 then some (nI 1, S104) else (if nI 1 = 0 then f_X7_readRelation_J173_108 p0 p1 r1 S104 (-1) else ald 16 (S104.1 9) r1 fun v109 => f_X7_readRelation_J173_108 p0 p1 r1 S104 v109))
def f_X7_readRelation_J90_93 (p0 : Int32) (p1 : Int32) (r1 : Int32) (x90 : Int32) (S95 : MS) : Option (Int32 × MS) :=
  (if x90 = 0 then ald 16 (S95.1 10) r1 fun v98 => (if v98 = (-1) then f_X7_readRelation_J126_97 p0 p1 r1 S95 (nI 11) else f_X7_readRelation_J126_97 p0 p1 r1 S95 (nI 12)) else ald 41 (S95.1 41) p0 fun v100 => f_X7_readRelation_J126_97 p0 p1 r1 S95 v100)
def f_X7_readRelation_J236_163 (p0 : Int32) (p1 : Int32) (S156 : MS) (x165 : Int32) : Option (Int32 × MS) :=
  bnd (f_X7_readVar S156 p1 x165) <| u2 fun r166 S167 => ast 41 p0 (m_up S167 44 p0.toNatClampNeg r166) fun S168 => ald 41 (S168.1 44) p0 fun v169 => (if v169 = (-1) then some (nI 0, S168) else some (nI 1, S168))
def f_X7_readRelation_J198_159 (p0 : Int32) (S156 : MS)  : Option (Int32 × MS) :=
  ald 41 (S156.1 43) p0 fun v171 => (if v171 = (-1) then some (nI 0, S156) else some (nI 1, S156))
def f_X7_readRelation_J173_151 (p0 : Int32) (p1 : Int32) (r1 : Int32) (x134 : Int32) (S147 : MS) (x153 : Int32) : Option (Int32 × MS) :=
  bnd (f_X7_readVar S147 p1 x153) <| u2 fun r154 S155 => ast 41 p0 (m_up S155 43 p0.toNatClampNeg r154) fun S156 => ald 41 (S156.1 43) p0 fun v157 => (if v157 = (-1) then f_X7_readRelation_J198_159 p0 S156 else ald 41 (S156.1 41) p0 fun v160 => (if v160 = nI 11 then f_X7_readRelation_J198_159 p0 S156 else (if x134 = 0 then f_X7_readRelation_J236_163 p0 p1 S156 (-1) else ald 16 (S156.1 10) r1 fun v164 => f_X7_readRelation_J236_163 p0 p1 S156 v164)))
def f_X7_readRelation_J126_140 (p0 : Int32) (p1 : Int32) (r1 : Int32) (x134 : Int32) (S138 : MS) (x144 : Int32) : Option (Int32 × MS) :=
  ast 41 p0 (m_up S138 41 p0.toNatClampNeg x144) fun S145 => ast 41 p0 (m_up S145 42 p0.toNatClampNeg r1) fun S146 => bnd (f_X7_token S146) fun S147 => ald 41 (S147.1 41) p0 fun v148 => (if v148 = nI 10 then some (nI 1, S147) else (if x134 = 0 then f_X7_readRelation_J173_151 p0 p1 r1 x134 S147 (-1) else ald 16 (S147.1 9) r1 fun v152 => f_X7_readRelation_J173_151 p0 p1 r1 x134 S147 v152))
def f_X7_readRelation_J90_136 (p0 : Int32) (p1 : Int32) (r1 : Int32) (x90 : Int32) (x134 : Int32) (S138 : MS) : Option (Int32 × MS) :=
  (if x90 = 0 then ald 16 (S138.1 10) r1 fun v141 => (if v141 = (-1) then f_X7_readRelation_J126_140 p0 p1 r1 x134 S138 (nI 11) else f_X7_readRelation_J126_140 p0 p1 r1 x134 S138 (nI 12)) else ald 41 (S138.1 41) p0 fun v143 => f_X7_readRelation_J126_140 p0 p1 r1 x134 S138 v143)
def f_X7_readRelation (S : MS) (p0 : Int32) (p1 : Int32) : Option (Int32 × MS) :=
  bnd (f_X7_relOf S) fun r1 => (if r1 = (-1) then bd (m_up S 35 0 (S.1 31 0)) fun S173 => some (nI 0, S173) else ald 41 (S.1 41) p0 fun v3 => (if v3 = nI 9 then (if nI 1 = 0 then (if nI 1 = 0 then bnd (f_X7_later S (nI 3) (S.1 31 0)) fun S8 => f_X7_readRelation_J90_7 p0 p1 r1 S8 else f_X7_readRelation_J90_7 p0 p1 r1 S) else ald 16 (S.1 10) r1 fun v44 => ald 16 (S.1 9) r1 fun v45 => bd (if v44 = v45 then nI 1 else nI 0) fun x48 => (if x48 = 0 then bnd (f_X7_later S (nI 3) (S.1 31 0)) fun S51 => f_X7_readRelation_J90_50 p0 p1 r1 x48 S51 else f_X7_readRelation_J90_50 p0 p1 r1 x48 S)) else ald 41 (S.1 41) p0 fun v87 => bd (if v87 = nI 10 then nI 1 else nI 0) fun x90 => (if x90 = 0 then (if nI 1 = 0 then bnd (f_X7_later S (nI 3) (S.1 31 0)) fun S94 => f_X7_readRelation_J90_93 p0 p1 r1 x90 S94 else f_X7_readRelation_J90_93 p0 p1 r1 x90 S) else ald 16 (S.1 10) r1 fun v130 => ald 16 (S.1 9) r1 fun v131 => bd (if v130 = v131 then nI 1 else nI 0) fun x134 => (if x134 = 0 then bnd (f_X7_later S (nI 3) (S.1 31 0)) fun S137 => f_X7_readRelation_J90_136 p0 p1 r1 x90 x134 S137 else f_X7_readRelation_J90_136 p0 p1 r1 x90 x134 S))))
abbrev r_X7_readRelation : Room := { frames := 3, cells := 0, slots := 0, locals := 67 }
set_option maxHeartbeats 4000000 in
set_option maxRecDepth 100000 in
theorem c_X7_readRelation (l : Launch) (D : MD) (S : MS) (p0 : Int32) (p1 : Int32) {r : Int32} {S' : MS} (hf : f_X7_readRelation S p0 p1 = some (r, S')) : m_Met l yX7_readRelation cX7_readRelation 6 (Option.some Jvm.ClassFile.FieldType.boolean) r_X7_readRelation D [.ref D.1, .int p0, .int p1] S (some (.int r)) S' := by
  refine m_metI (F := 3) (L := 67) (by decide) rfl (Nat.le_of_ble_eq_true rfl) (fun p e s m args below meth c Q B hret hM ls hl => ?_)
  have hx := B.1
  have hb := B.2.1
  have hown := B.2.2.2.1
  have hts := B.2.2.2.2
  have hl : lv_has ls 6 [(0, .ref D.1), (1, .int p0), (2, .int p1)] := hl
  generalize s.heap = H, ([] : List Loc) = locs at hM ⊢
  unfold f_X7_readRelation at hf
  refine lv_aload_n hx hb dX7_readRelation_0 rfl (lv_at hl 0 rfl) ?_
  obtain ⟨r1, hcr1, hf⟩ := bnd_some hf
  refine mr_callV (rest := []) B hM (c_X7_relOf l D S  hcr1) (cwV 0 hts (lw_V q1996 q1998 qs68 q113 q1999) rfl rfl rfl hd_X7_relOf ⟨Nat.le_of_ble_eq_true rfl, Nat.le_of_ble_eq_true rfl⟩) rfl hl.1 rfl (Nat.le_of_ble_eq_true rfl) dX7_readRelation_1 ⟨Nat.zero_le _, Nat.zero_le _⟩ (fun H locs hM => ?_)
  refine lv_istore_n (lv' := [(3, .int r1), (0, .ref D.1), (1, .int p0), (2, .int p1)]) hx hb dX7_readRelation_4 rfl hl (by decide) rfl (fun ls hl => ?_)
  refine lv_iload_n hx hb dX7_readRelation_5 rfl (lv_at hl 0 rfl) ?_
  refine lv_iconst (v := (-1)) hx hb dX7_readRelation_6 icm1 ?_
  refine lv_icmp_ne (tgt := 20) hx hb dX7_readRelation_7 (by decide) (fun c2 => ?_) (fun c2 => ?_)
  · have hf := it_neg c2 hf
    refine lv_aload_n hx hb dX7_readRelation_20 rfl (lv_at hl 1 rfl) ?_
    refine mr_get B hM 41 (v := .ref (D.2.1 41)) rfl (by decide) q1687 dX7_readRelation_21 ?_
    refine lv_iload_n hx hb dX7_readRelation_24 rfl (lv_at hl 2 rfl) ?_
    obtain ⟨v3, ev3, hiv3, hf⟩ := ald_some hf
    refine mr_iald B hM 41 (by decide) rfl hiv3 ev3 dX7_readRelation_25 ?_
    refine lv_bipush (v := nI 9) hx hb dX7_readRelation_26 bp9 ?_
    refine lv_icmp_eq (tgt := 42) hx hb dX7_readRelation_28 (by decide) (fun c4 => ?_) (fun c4 => ?_)
    · have hf := it_pos c4 hf
      refine lv_iconst (v := nI 1) hx hb dX7_readRelation_42 ic1 ?_
      refine lv_goto (tgt := 47) hx hb dX7_readRelation_43 (by decide) ?_
      refine lv_istore (lv' := [(4, .int (nI 1)), (3, .int r1), (0, .ref D.1), (1, .int p0), (2, .int p1)]) hx hb dX7_readRelation_47 hl (by decide) rfl (fun ls hl => ?_)
      refine lv_iload hx hb dX7_readRelation_49 (lv_at hl 0 rfl) ?_
      refine lv_if_eq (tgt := 69) hx hb dX7_readRelation_51 (by decide) (fun c5 => ?_) (fun c5 => ?_)
      · have hf := it_pos c5 hf
        refine lv_iconst (v := nI 1) hx hb dX7_readRelation_69 ic1 ?_
        refine lv_goto (tgt := 74) hx hb dX7_readRelation_70 (by decide) ?_
        refine lv_istore (lv' := [(5, .int (nI 1)), (4, .int (nI 1)), (3, .int r1), (0, .ref D.1), (1, .int p0), (2, .int p1)]) hx hb dX7_readRelation_74 hl (by decide) rfl (fun ls hl => ?_)
        refine lv_iload hx hb dX7_readRelation_76 (lv_at hl 0 rfl) ?_
        have j7 : ∀ (S9 : MS), f_X7_readRelation_J90_7 p0 p1 r1 S9 = some (r, S') → ∀ (H : Heap) (locs : List Loc) (ls : Array Slot), m_I D s H locs S9 → lv_has ls 6 [(0, .ref D.1), (1, .int p0), (2, .int p1), (3, .int r1), (4, .int (nI 1)), (5, .int (nI 1))] → W p l e r_X7_readRelation s m args below meth c H locs 0 0 Q (F0 m 90 ls []) := by
          intro S9 hf
          intro H locs ls hM hl
          unfold f_X7_readRelation_J90_7 at hf
          refine lv_aload_n hx hb dX7_readRelation_90 rfl (lv_at hl 0 rfl) ?_
          refine mr_get B hM 41 (v := .ref (D.2.1 41)) rfl (by decide) q1687 dX7_readRelation_91 ?_
          refine lv_iload_n hx hb dX7_readRelation_94 rfl (lv_at hl 1 rfl) ?_
          refine lv_iload hx hb dX7_readRelation_95 (lv_at hl 4 rfl) ?_
          have j11 : ∀ (x15 : Int32), f_X7_readRelation_J126_11 p0 p1 r1 S9 x15 = some (r, S') → ∀ (H : Heap) (locs : List Loc) (ls : Array Slot), m_I D s H locs S9 → lv_has ls 6 [(0, .ref D.1), (1, .int p0), (2, .int p1), (3, .int r1), (5, .int (nI 1))] → W p l e r_X7_readRelation s m args below meth c H locs 0 0 Q (F0 m 126 ls [.int x15, .int p0, .ref (D.2.1 41)]) := by
            intro x15 hf
            intro H locs ls hM hl
            unfold f_X7_readRelation_J126_11 at hf
            obtain ⟨S16, eS16, hiS16, hf⟩ := ast_some hf
            refine mr_iast B hM 41 (by decide) rfl hiS16 eS16 dX7_readRelation_126 (fun H locs hM => ?_)
            refine lv_aload_n hx hb dX7_readRelation_127 rfl (lv_at hl 0 rfl) ?_
            refine mr_get B hM 42 (v := .ref (D.2.1 42)) rfl (by decide) q1688 dX7_readRelation_128 ?_
            refine lv_iload_n hx hb dX7_readRelation_131 rfl (lv_at hl 1 rfl) ?_
            refine lv_iload_n hx hb dX7_readRelation_132 rfl (lv_at hl 3 rfl) ?_
            obtain ⟨S17, eS17, hiS17, hf⟩ := ast_some hf
            refine mr_iast B hM 42 (by decide) rfl hiS17 eS17 dX7_readRelation_133 (fun H locs hM => ?_)
            refine lv_aload_n hx hb dX7_readRelation_134 rfl (lv_at hl 0 rfl) ?_
            obtain ⟨S18, hcS18, hf⟩ := bnd_some hf
            refine mr_callV (rest := []) B hM (c_X7_token l D S17  hcS18) (cwV 0 hts (lw_V q1957 q1959 qs61 q113 q1960) rfl rfl rfl hd_X7_token ⟨Nat.le_of_ble_eq_true rfl, Nat.le_of_ble_eq_true rfl⟩) rfl hl.1 rfl (Nat.le_of_ble_eq_true rfl) dX7_readRelation_135 ⟨Nat.zero_le _, Nat.zero_le _⟩ (fun H locs hM => ?_)
            refine lv_aload_n hx hb dX7_readRelation_138 rfl (lv_at hl 0 rfl) ?_
            refine mr_get B hM 41 (v := .ref (D.2.1 41)) rfl (by decide) q1687 dX7_readRelation_139 ?_
            refine lv_iload_n hx hb dX7_readRelation_142 rfl (lv_at hl 1 rfl) ?_
            obtain ⟨v19, ev19, hiv19, hf⟩ := ald_some hf
            refine mr_iald B hM 41 (by decide) rfl hiv19 ev19 dX7_readRelation_143 ?_
            refine lv_bipush (v := nI 10) hx hb dX7_readRelation_144 bp10 ?_
            refine lv_icmp_ne (tgt := 151) hx hb dX7_readRelation_146 (by decide) (fun c20 => ?_) (fun c20 => ?_)
            · have hf := it_neg c20 hf
              refine lv_aload_n hx hb dX7_readRelation_151 rfl (lv_at hl 0 rfl) ?_
              refine mr_get B hM 43 (v := .ref (D.2.1 43)) rfl (by decide) q1689 dX7_readRelation_152 ?_
              refine lv_iload_n hx hb dX7_readRelation_155 rfl (lv_at hl 1 rfl) ?_
              refine lv_aload_n hx hb dX7_readRelation_156 rfl (lv_at hl 0 rfl) ?_
              refine lv_iload_n hx hb dX7_readRelation_157 rfl (lv_at hl 2 rfl) ?_
              refine lv_iload hx hb dX7_readRelation_158 (lv_at hl 4 rfl) ?_
              have j22 : ∀ (x24 : Int32), f_X7_readRelation_J173_22 p0 p1 r1 S18 x24 = some (r, S') → ∀ (H : Heap) (locs : List Loc) (ls : Array Slot), m_I D s H locs S18 → lv_has ls 6 [(0, .ref D.1), (1, .int p0), (2, .int p1), (3, .int r1), (5, .int (nI 1))] → W p l e r_X7_readRelation s m args below meth c H locs 0 0 Q (F0 m 173 ls [.int x24, .int p1, .ref D.1, .int p0, .ref (D.2.1 43)]) := by
                intro x24 hf
                intro H locs ls hM hl
                unfold f_X7_readRelation_J173_22 at hf
                obtain ⟨⟨r25, S26⟩, hcr25, hf⟩ := bnd_some hf
                have hf := u2_at hf
                refine mr_callV (rest := [.int p0, .ref (D.2.1 43)]) B hM (c_X7_readVar l D S18 p1 x24 hcr25) (cwV 2 hts (lw_V q2004 q2006 qs69 q113 q2007) rfl rfl rfl hd_X7_readVar ⟨Nat.le_of_ble_eq_true rfl, Nat.le_of_ble_eq_true rfl⟩) rfl hl.1 rfl (Nat.le_of_ble_eq_true rfl) dX7_readRelation_173 ⟨Nat.zero_le _, Nat.zero_le _⟩ (fun H locs hM => ?_)
                obtain ⟨S27, eS27, hiS27, hf⟩ := ast_some hf
                refine mr_iast B hM 43 (by decide) rfl hiS27 eS27 dX7_readRelation_176 (fun H locs hM => ?_)
                refine lv_aload_n hx hb dX7_readRelation_177 rfl (lv_at hl 0 rfl) ?_
                refine mr_get B hM 43 (v := .ref (D.2.1 43)) rfl (by decide) q1689 dX7_readRelation_178 ?_
                refine lv_iload_n hx hb dX7_readRelation_181 rfl (lv_at hl 1 rfl) ?_
                obtain ⟨v28, ev28, hiv28, hf⟩ := ald_some hf
                refine mr_iald B hM 43 (by decide) rfl hiv28 ev28 dX7_readRelation_182 ?_
                refine lv_iconst (v := (-1)) hx hb dX7_readRelation_183 icm1 ?_
                have j30 : f_X7_readRelation_J198_30 p0 S27 = some (r, S') → ∀ (H : Heap) (locs : List Loc) (ls : Array Slot), m_I D s H locs S27 → lv_has ls 6 [(0, .ref D.1), (1, .int p0)] → W p l e r_X7_readRelation s m args below meth c H locs 0 0 Q (F0 m 198 ls []) := by
                  intro hf
                  intro H locs ls hM hl
                  unfold f_X7_readRelation_J198_30 at hf
                  refine lv_aload_n hx hb dX7_readRelation_198 rfl (lv_at hl 0 rfl) ?_
                  refine mr_get B hM 43 (v := .ref (D.2.1 43)) rfl (by decide) q1689 dX7_readRelation_199 ?_
                  refine lv_iload_n hx hb dX7_readRelation_202 rfl (lv_at hl 1 rfl) ?_
                  obtain ⟨v42, ev42, hiv42, hf⟩ := ald_some hf
                  refine mr_iald B hM 43 (by decide) rfl hiv42 ev42 dX7_readRelation_203 ?_
                  refine lv_iconst (v := (-1)) hx hb dX7_readRelation_204 icm1 ?_
                  refine lv_icmp_eq (tgt := 212) hx hb dX7_readRelation_205 (by decide) (fun c43 => ?_) (fun c43 => ?_)
                  · have hf := it_pos c43 hf
                    refine lv_iconst (v := nI 0) hx hb dX7_readRelation_212 ic0 ?_
                    cases hf
                    exact hret _ _ _ _ rfl hM dX7_readRelation_213
                  · have hf := it_neg c43 hf
                    refine lv_iconst (v := nI 1) hx hb dX7_readRelation_208 ic1 ?_
                    refine lv_goto (tgt := 213) hx hb dX7_readRelation_209 (by decide) ?_
                    cases hf
                    exact hret _ _ _ _ rfl hM dX7_readRelation_213
                refine lv_icmp_eq (tgt := 198) hx hb dX7_readRelation_184 (by decide) (fun c29 => ?_) (fun c29 => ?_)
                · have hf := it_pos c29 hf
                  exact j30  hf _ _ _ hM (lv_sub hl [0, 1] rfl)
                · have hf := it_neg c29 hf
                  refine lv_aload_n hx hb dX7_readRelation_187 rfl (lv_at hl 0 rfl) ?_
                  refine mr_get B hM 41 (v := .ref (D.2.1 41)) rfl (by decide) q1687 dX7_readRelation_188 ?_
                  refine lv_iload_n hx hb dX7_readRelation_191 rfl (lv_at hl 1 rfl) ?_
                  obtain ⟨v31, ev31, hiv31, hf⟩ := ald_some hf
                  refine mr_iald B hM 41 (by decide) rfl hiv31 ev31 dX7_readRelation_192 ?_
                  refine lv_bipush (v := nI 11) hx hb dX7_readRelation_193 bp11 ?_
                  refine lv_icmp_ne (tgt := 214) hx hb dX7_readRelation_195 (by decide) (fun c32 => ?_) (fun c32 => ?_)
                  · have hf := it_neg c32 hf
                    refine lv_aload_n hx hb dX7_readRelation_214 rfl (lv_at hl 0 rfl) ?_
                    refine mr_get B hM 44 (v := .ref (D.2.1 44)) rfl (by decide) q1690 dX7_readRelation_215 ?_
                    refine lv_iload_n hx hb dX7_readRelation_218 rfl (lv_at hl 1 rfl) ?_
                    refine lv_aload_n hx hb dX7_readRelation_219 rfl (lv_at hl 0 rfl) ?_
                    refine lv_iload_n hx hb dX7_readRelation_220 rfl (lv_at hl 2 rfl) ?_
                    refine lv_iload hx hb dX7_readRelation_221 (lv_at hl 4 rfl) ?_
                    have j34 : ∀ (x36 : Int32), f_X7_readRelation_J236_34 p0 p1 S27 x36 = some (r, S') → ∀ (H : Heap) (locs : List Loc) (ls : Array Slot), m_I D s H locs S27 → lv_has ls 6 [(0, .ref D.1), (1, .int p0)] → W p l e r_X7_readRelation s m args below meth c H locs 0 0 Q (F0 m 236 ls [.int x36, .int p1, .ref D.1, .int p0, .ref (D.2.1 44)]) := by
                      intro x36 hf
                      intro H locs ls hM hl
                      unfold f_X7_readRelation_J236_34 at hf
                      obtain ⟨⟨r37, S38⟩, hcr37, hf⟩ := bnd_some hf
                      have hf := u2_at hf
                      refine mr_callV (rest := [.int p0, .ref (D.2.1 44)]) B hM (c_X7_readVar l D S27 p1 x36 hcr37) (cwV 2 hts (lw_V q2004 q2006 qs69 q113 q2007) rfl rfl rfl hd_X7_readVar ⟨Nat.le_of_ble_eq_true rfl, Nat.le_of_ble_eq_true rfl⟩) rfl hl.1 rfl (Nat.le_of_ble_eq_true rfl) dX7_readRelation_236 ⟨Nat.zero_le _, Nat.zero_le _⟩ (fun H locs hM => ?_)
                      obtain ⟨S39, eS39, hiS39, hf⟩ := ast_some hf
                      refine mr_iast B hM 44 (by decide) rfl hiS39 eS39 dX7_readRelation_239 (fun H locs hM => ?_)
                      refine lv_aload_n hx hb dX7_readRelation_240 rfl (lv_at hl 0 rfl) ?_
                      refine mr_get B hM 44 (v := .ref (D.2.1 44)) rfl (by decide) q1690 dX7_readRelation_241 ?_
                      refine lv_iload_n hx hb dX7_readRelation_244 rfl (lv_at hl 1 rfl) ?_
                      obtain ⟨v40, ev40, hiv40, hf⟩ := ald_some hf
                      refine mr_iald B hM 44 (by decide) rfl hiv40 ev40 dX7_readRelation_245 ?_
                      refine lv_iconst (v := (-1)) hx hb dX7_readRelation_246 icm1 ?_
                      refine lv_icmp_eq (tgt := 254) hx hb dX7_readRelation_247 (by decide) (fun c41 => ?_) (fun c41 => ?_)
                      · have hf := it_pos c41 hf
                        refine lv_iconst (v := nI 0) hx hb dX7_readRelation_254 ic0 ?_
                        cases hf
                        exact hret _ _ _ _ rfl hM dX7_readRelation_255
                      · have hf := it_neg c41 hf
                        refine lv_iconst (v := nI 1) hx hb dX7_readRelation_250 ic1 ?_
                        refine lv_goto (tgt := 255) hx hb dX7_readRelation_251 (by decide) ?_
                        cases hf
                        exact hret _ _ _ _ rfl hM dX7_readRelation_255
                    refine lv_if_eq (tgt := 235) hx hb dX7_readRelation_223 (by decide) (fun c33 => ?_) (fun c33 => ?_)
                    · have hf := it_pos c33 hf
                      refine lv_iconst (v := (-1)) hx hb dX7_readRelation_235 icm1 ?_
                      exact j34 (-1) hf _ _ _ hM (lv_sub hl [0, 1] rfl)
                    · have hf := it_neg c33 hf
                      refine lv_aload_n hx hb dX7_readRelation_226 rfl (lv_at hl 0 rfl) ?_
                      refine mr_get B hM 10 (v := .ref (D.2.1 10)) rfl (by decide) q1656 dX7_readRelation_227 ?_
                      refine lv_iload_n hx hb dX7_readRelation_230 rfl (lv_at hl 3 rfl) ?_
                      obtain ⟨v35, ev35, hiv35, hf⟩ := ald_some hf
                      refine mr_iald B hM 10 (by decide) rfl hiv35 ev35 dX7_readRelation_231 ?_
                      refine lv_goto (tgt := 236) hx hb dX7_readRelation_232 (by decide) ?_
                      exact j34 v35 hf _ _ _ hM (lv_sub hl [0, 1] rfl)
                  · have hf := it_pos c32 hf
                    exact j30  hf _ _ _ hM (lv_sub hl [0, 1] rfl)
              refine lv_if_eq (tgt := 172) hx hb dX7_readRelation_160 (by decide) (fun c21 => ?_) (fun c21 => ?_)
              · have hf := it_pos c21 hf
                refine lv_iconst (v := (-1)) hx hb dX7_readRelation_172 icm1 ?_
                exact j22 (-1) hf _ _ _ hM (lv_sub hl [0, 1, 2, 3, 4] rfl)
              · have hf := it_neg c21 hf
                refine lv_aload_n hx hb dX7_readRelation_163 rfl (lv_at hl 0 rfl) ?_
                refine mr_get B hM 9 (v := .ref (D.2.1 9)) rfl (by decide) q1655 dX7_readRelation_164 ?_
                refine lv_iload_n hx hb dX7_readRelation_167 rfl (lv_at hl 3 rfl) ?_
                obtain ⟨v23, ev23, hiv23, hf⟩ := ald_some hf
                refine mr_iald B hM 9 (by decide) rfl hiv23 ev23 dX7_readRelation_168 ?_
                refine lv_goto (tgt := 173) hx hb dX7_readRelation_169 (by decide) ?_
                exact j22 v23 hf _ _ _ hM (lv_sub hl [0, 1, 2, 3, 4] rfl)
            · have hf := it_pos c20 hf
              refine lv_iconst (v := nI 1) hx hb dX7_readRelation_149 ic1 ?_
              cases hf
              exact hret _ _ _ _ rfl hM dX7_readRelation_150
          refine lv_if_eq (tgt := 109) hx hb dX7_readRelation_97 (by decide) (fun c10 => ?_) (fun c10 => ?_)
          · have hf := it_pos c10 hf
            refine lv_aload_n hx hb dX7_readRelation_109 rfl (lv_at hl 0 rfl) ?_
            refine mr_get B hM 10 (v := .ref (D.2.1 10)) rfl (by decide) q1656 dX7_readRelation_110 ?_
            refine lv_iload_n hx hb dX7_readRelation_113 rfl (lv_at hl 3 rfl) ?_
            obtain ⟨v12, ev12, hiv12, hf⟩ := ald_some hf
            refine mr_iald B hM 10 (by decide) rfl hiv12 ev12 dX7_readRelation_114 ?_
            refine lv_iconst (v := (-1)) hx hb dX7_readRelation_115 icm1 ?_
            refine lv_icmp_ne (tgt := 124) hx hb dX7_readRelation_116 (by decide) (fun c13 => ?_) (fun c13 => ?_)
            · have hf := it_neg c13 hf
              refine lv_bipush (v := nI 12) hx hb dX7_readRelation_124 bp12 ?_
              exact j11 (nI 12) hf _ _ _ hM (lv_sub hl [0, 1, 2, 3, 5] rfl)
            · have hf := it_pos c13 hf
              refine lv_bipush (v := nI 11) hx hb dX7_readRelation_119 bp11 ?_
              refine lv_goto (tgt := 126) hx hb dX7_readRelation_121 (by decide) ?_
              exact j11 (nI 11) hf _ _ _ hM (lv_sub hl [0, 1, 2, 3, 5] rfl)
          · have hf := it_neg c10 hf
            refine lv_aload_n hx hb dX7_readRelation_100 rfl (lv_at hl 0 rfl) ?_
            refine mr_get B hM 41 (v := .ref (D.2.1 41)) rfl (by decide) q1687 dX7_readRelation_101 ?_
            refine lv_iload_n hx hb dX7_readRelation_104 rfl (lv_at hl 1 rfl) ?_
            obtain ⟨v14, ev14, hiv14, hf⟩ := ald_some hf
            refine mr_iald B hM 41 (by decide) rfl hiv14 ev14 dX7_readRelation_105 ?_
            refine lv_goto (tgt := 126) hx hb dX7_readRelation_106 (by decide) ?_
            exact j11 v14 hf _ _ _ hM (lv_sub hl [0, 1, 2, 3, 5] rfl)
        refine lv_if_ne (tgt := 90) hx hb dX7_readRelation_78 (by decide) (fun c6 => ?_) (fun c6 => ?_)
        · have hf := it_neg c6 hf
          exact j7 S hf _ _ _ hM (lv_sub hl [3, 4, 5, 2, 1, 0] rfl)
        · have hf := it_pos c6 hf
          refine lv_aload_n hx hb dX7_readRelation_81 rfl (lv_at hl 3 rfl) ?_
          refine lv_iconst (v := nI 3) hx hb dX7_readRelation_82 ic3 ?_
          refine lv_aload_n hx hb dX7_readRelation_83 rfl (lv_at hl 3 rfl) ?_
          refine mr_get B hM 31 (v := .int (S.1 31 0)) rfl (by decide) q1677 dX7_readRelation_84 ?_
          obtain ⟨S8, hcS8, hf⟩ := bnd_some hf
          refine mr_callV (rest := []) B hM (c_X7_later l D S (nI 3) (S.1 31 0) hcS8) (cwV 2 hts (lw_V q1969 q1971 qs64 q113 q1972) rfl rfl rfl hd_X7_later ⟨Nat.le_of_ble_eq_true rfl, Nat.le_of_ble_eq_true rfl⟩) rfl hl.1 rfl (Nat.le_of_ble_eq_true rfl) dX7_readRelation_87 ⟨Nat.zero_le _, Nat.zero_le _⟩ (fun H locs hM => ?_)
          exact j7 S8 hf _ _ _ hM (lv_sub hl [3, 4, 5, 2, 1, 0] rfl)
      · have hf := it_neg c5 hf
        refine lv_aload_n hx hb dX7_readRelation_54 rfl (lv_at hl 2 rfl) ?_
        refine mr_get B hM 10 (v := .ref (D.2.1 10)) rfl (by decide) q1656 dX7_readRelation_55 ?_
        refine lv_iload_n hx hb dX7_readRelation_58 rfl (lv_at hl 1 rfl) ?_
        obtain ⟨v44, ev44, hiv44, hf⟩ := ald_some hf
        refine mr_iald B hM 10 (by decide) rfl hiv44 ev44 dX7_readRelation_59 ?_
        refine lv_aload_n hx hb dX7_readRelation_60 rfl (lv_at hl 2 rfl) ?_
        refine mr_get B hM 9 (v := .ref (D.2.1 9)) rfl (by decide) q1655 dX7_readRelation_61 ?_
        refine lv_iload_n hx hb dX7_readRelation_64 rfl (lv_at hl 1 rfl) ?_
        obtain ⟨v45, ev45, hiv45, hf⟩ := ald_some hf
        refine mr_iald B hM 9 (by decide) rfl hiv45 ev45 dX7_readRelation_65 ?_
        obtain ⟨x48, ex48, hf⟩ := bd_some hf
        have jx48 : W p l e r_X7_readRelation s m args below meth c H locs 0 0 Q (F0 m 74 ls [.int x48]) := by
          refine lv_istore (lv' := [(5, .int x48), (4, .int (nI 1)), (3, .int r1), (0, .ref D.1), (1, .int p0), (2, .int p1)]) hx hb dX7_readRelation_74 hl (by decide) rfl (fun ls hl => ?_)
          refine lv_iload hx hb dX7_readRelation_76 (lv_at hl 0 rfl) ?_
          have j50 : ∀ (S52 : MS), f_X7_readRelation_J90_50 p0 p1 r1 x48 S52 = some (r, S') → ∀ (H : Heap) (locs : List Loc) (ls : Array Slot), m_I D s H locs S52 → lv_has ls 6 [(0, .ref D.1), (1, .int p0), (2, .int p1), (3, .int r1), (4, .int (nI 1)), (5, .int x48)] → W p l e r_X7_readRelation s m args below meth c H locs 0 0 Q (F0 m 90 ls []) := by
            intro S52 hf
            intro H locs ls hM hl
            unfold f_X7_readRelation_J90_50 at hf
            refine lv_aload_n hx hb dX7_readRelation_90 rfl (lv_at hl 0 rfl) ?_
            refine mr_get B hM 41 (v := .ref (D.2.1 41)) rfl (by decide) q1687 dX7_readRelation_91 ?_
            refine lv_iload_n hx hb dX7_readRelation_94 rfl (lv_at hl 1 rfl) ?_
            refine lv_iload hx hb dX7_readRelation_95 (lv_at hl 4 rfl) ?_
            have j54 : ∀ (x58 : Int32), f_X7_readRelation_J126_54 p0 p1 r1 x48 S52 x58 = some (r, S') → ∀ (H : Heap) (locs : List Loc) (ls : Array Slot), m_I D s H locs S52 → lv_has ls 6 [(0, .ref D.1), (1, .int p0), (2, .int p1), (3, .int r1), (5, .int x48)] → W p l e r_X7_readRelation s m args below meth c H locs 0 0 Q (F0 m 126 ls [.int x58, .int p0, .ref (D.2.1 41)]) := by
              intro x58 hf
              intro H locs ls hM hl
              unfold f_X7_readRelation_J126_54 at hf
              obtain ⟨S59, eS59, hiS59, hf⟩ := ast_some hf
              refine mr_iast B hM 41 (by decide) rfl hiS59 eS59 dX7_readRelation_126 (fun H locs hM => ?_)
              refine lv_aload_n hx hb dX7_readRelation_127 rfl (lv_at hl 0 rfl) ?_
              refine mr_get B hM 42 (v := .ref (D.2.1 42)) rfl (by decide) q1688 dX7_readRelation_128 ?_
              refine lv_iload_n hx hb dX7_readRelation_131 rfl (lv_at hl 1 rfl) ?_
              refine lv_iload_n hx hb dX7_readRelation_132 rfl (lv_at hl 3 rfl) ?_
              obtain ⟨S60, eS60, hiS60, hf⟩ := ast_some hf
              refine mr_iast B hM 42 (by decide) rfl hiS60 eS60 dX7_readRelation_133 (fun H locs hM => ?_)
              refine lv_aload_n hx hb dX7_readRelation_134 rfl (lv_at hl 0 rfl) ?_
              obtain ⟨S61, hcS61, hf⟩ := bnd_some hf
              refine mr_callV (rest := []) B hM (c_X7_token l D S60  hcS61) (cwV 0 hts (lw_V q1957 q1959 qs61 q113 q1960) rfl rfl rfl hd_X7_token ⟨Nat.le_of_ble_eq_true rfl, Nat.le_of_ble_eq_true rfl⟩) rfl hl.1 rfl (Nat.le_of_ble_eq_true rfl) dX7_readRelation_135 ⟨Nat.zero_le _, Nat.zero_le _⟩ (fun H locs hM => ?_)
              refine lv_aload_n hx hb dX7_readRelation_138 rfl (lv_at hl 0 rfl) ?_
              refine mr_get B hM 41 (v := .ref (D.2.1 41)) rfl (by decide) q1687 dX7_readRelation_139 ?_
              refine lv_iload_n hx hb dX7_readRelation_142 rfl (lv_at hl 1 rfl) ?_
              obtain ⟨v62, ev62, hiv62, hf⟩ := ald_some hf
              refine mr_iald B hM 41 (by decide) rfl hiv62 ev62 dX7_readRelation_143 ?_
              refine lv_bipush (v := nI 10) hx hb dX7_readRelation_144 bp10 ?_
              refine lv_icmp_ne (tgt := 151) hx hb dX7_readRelation_146 (by decide) (fun c63 => ?_) (fun c63 => ?_)
              · have hf := it_neg c63 hf
                refine lv_aload_n hx hb dX7_readRelation_151 rfl (lv_at hl 0 rfl) ?_
                refine mr_get B hM 43 (v := .ref (D.2.1 43)) rfl (by decide) q1689 dX7_readRelation_152 ?_
                refine lv_iload_n hx hb dX7_readRelation_155 rfl (lv_at hl 1 rfl) ?_
                refine lv_aload_n hx hb dX7_readRelation_156 rfl (lv_at hl 0 rfl) ?_
                refine lv_iload_n hx hb dX7_readRelation_157 rfl (lv_at hl 2 rfl) ?_
                refine lv_iload hx hb dX7_readRelation_158 (lv_at hl 4 rfl) ?_
                have j65 : ∀ (x67 : Int32), f_X7_readRelation_J173_65 p0 p1 r1 x48 S61 x67 = some (r, S') → ∀ (H : Heap) (locs : List Loc) (ls : Array Slot), m_I D s H locs S61 → lv_has ls 6 [(0, .ref D.1), (1, .int p0), (2, .int p1), (3, .int r1), (5, .int x48)] → W p l e r_X7_readRelation s m args below meth c H locs 0 0 Q (F0 m 173 ls [.int x67, .int p1, .ref D.1, .int p0, .ref (D.2.1 43)]) := by
                  intro x67 hf
                  intro H locs ls hM hl
                  unfold f_X7_readRelation_J173_65 at hf
                  obtain ⟨⟨r68, S69⟩, hcr68, hf⟩ := bnd_some hf
                  have hf := u2_at hf
                  refine mr_callV (rest := [.int p0, .ref (D.2.1 43)]) B hM (c_X7_readVar l D S61 p1 x67 hcr68) (cwV 2 hts (lw_V q2004 q2006 qs69 q113 q2007) rfl rfl rfl hd_X7_readVar ⟨Nat.le_of_ble_eq_true rfl, Nat.le_of_ble_eq_true rfl⟩) rfl hl.1 rfl (Nat.le_of_ble_eq_true rfl) dX7_readRelation_173 ⟨Nat.zero_le _, Nat.zero_le _⟩ (fun H locs hM => ?_)
                  obtain ⟨S70, eS70, hiS70, hf⟩ := ast_some hf
                  refine mr_iast B hM 43 (by decide) rfl hiS70 eS70 dX7_readRelation_176 (fun H locs hM => ?_)
                  refine lv_aload_n hx hb dX7_readRelation_177 rfl (lv_at hl 0 rfl) ?_
                  refine mr_get B hM 43 (v := .ref (D.2.1 43)) rfl (by decide) q1689 dX7_readRelation_178 ?_
                  refine lv_iload_n hx hb dX7_readRelation_181 rfl (lv_at hl 1 rfl) ?_
                  obtain ⟨v71, ev71, hiv71, hf⟩ := ald_some hf
                  refine mr_iald B hM 43 (by decide) rfl hiv71 ev71 dX7_readRelation_182 ?_
                  refine lv_iconst (v := (-1)) hx hb dX7_readRelation_183 icm1 ?_
                  have j73 : f_X7_readRelation_J198_73 p0 S70 = some (r, S') → ∀ (H : Heap) (locs : List Loc) (ls : Array Slot), m_I D s H locs S70 → lv_has ls 6 [(0, .ref D.1), (1, .int p0)] → W p l e r_X7_readRelation s m args below meth c H locs 0 0 Q (F0 m 198 ls []) := by
                    intro hf
                    intro H locs ls hM hl
                    unfold f_X7_readRelation_J198_73 at hf
                    refine lv_aload_n hx hb dX7_readRelation_198 rfl (lv_at hl 0 rfl) ?_
                    refine mr_get B hM 43 (v := .ref (D.2.1 43)) rfl (by decide) q1689 dX7_readRelation_199 ?_
                    refine lv_iload_n hx hb dX7_readRelation_202 rfl (lv_at hl 1 rfl) ?_
                    obtain ⟨v85, ev85, hiv85, hf⟩ := ald_some hf
                    refine mr_iald B hM 43 (by decide) rfl hiv85 ev85 dX7_readRelation_203 ?_
                    refine lv_iconst (v := (-1)) hx hb dX7_readRelation_204 icm1 ?_
                    refine lv_icmp_eq (tgt := 212) hx hb dX7_readRelation_205 (by decide) (fun c86 => ?_) (fun c86 => ?_)
                    · have hf := it_pos c86 hf
                      refine lv_iconst (v := nI 0) hx hb dX7_readRelation_212 ic0 ?_
                      cases hf
                      exact hret _ _ _ _ rfl hM dX7_readRelation_213
                    · have hf := it_neg c86 hf
                      refine lv_iconst (v := nI 1) hx hb dX7_readRelation_208 ic1 ?_
                      refine lv_goto (tgt := 213) hx hb dX7_readRelation_209 (by decide) ?_
                      cases hf
                      exact hret _ _ _ _ rfl hM dX7_readRelation_213
                  refine lv_icmp_eq (tgt := 198) hx hb dX7_readRelation_184 (by decide) (fun c72 => ?_) (fun c72 => ?_)
                  · have hf := it_pos c72 hf
                    exact j73  hf _ _ _ hM (lv_sub hl [0, 1] rfl)
                  · have hf := it_neg c72 hf
                    refine lv_aload_n hx hb dX7_readRelation_187 rfl (lv_at hl 0 rfl) ?_
                    refine mr_get B hM 41 (v := .ref (D.2.1 41)) rfl (by decide) q1687 dX7_readRelation_188 ?_
                    refine lv_iload_n hx hb dX7_readRelation_191 rfl (lv_at hl 1 rfl) ?_
                    obtain ⟨v74, ev74, hiv74, hf⟩ := ald_some hf
                    refine mr_iald B hM 41 (by decide) rfl hiv74 ev74 dX7_readRelation_192 ?_
                    refine lv_bipush (v := nI 11) hx hb dX7_readRelation_193 bp11 ?_
                    refine lv_icmp_ne (tgt := 214) hx hb dX7_readRelation_195 (by decide) (fun c75 => ?_) (fun c75 => ?_)
                    · have hf := it_neg c75 hf
                      refine lv_aload_n hx hb dX7_readRelation_214 rfl (lv_at hl 0 rfl) ?_
                      refine mr_get B hM 44 (v := .ref (D.2.1 44)) rfl (by decide) q1690 dX7_readRelation_215 ?_
                      refine lv_iload_n hx hb dX7_readRelation_218 rfl (lv_at hl 1 rfl) ?_
                      refine lv_aload_n hx hb dX7_readRelation_219 rfl (lv_at hl 0 rfl) ?_
                      refine lv_iload_n hx hb dX7_readRelation_220 rfl (lv_at hl 2 rfl) ?_
                      refine lv_iload hx hb dX7_readRelation_221 (lv_at hl 4 rfl) ?_
                      have j77 : ∀ (x79 : Int32), f_X7_readRelation_J236_77 p0 p1 S70 x79 = some (r, S') → ∀ (H : Heap) (locs : List Loc) (ls : Array Slot), m_I D s H locs S70 → lv_has ls 6 [(0, .ref D.1), (1, .int p0)] → W p l e r_X7_readRelation s m args below meth c H locs 0 0 Q (F0 m 236 ls [.int x79, .int p1, .ref D.1, .int p0, .ref (D.2.1 44)]) := by
                        intro x79 hf
                        intro H locs ls hM hl
                        unfold f_X7_readRelation_J236_77 at hf
                        obtain ⟨⟨r80, S81⟩, hcr80, hf⟩ := bnd_some hf
                        have hf := u2_at hf
                        refine mr_callV (rest := [.int p0, .ref (D.2.1 44)]) B hM (c_X7_readVar l D S70 p1 x79 hcr80) (cwV 2 hts (lw_V q2004 q2006 qs69 q113 q2007) rfl rfl rfl hd_X7_readVar ⟨Nat.le_of_ble_eq_true rfl, Nat.le_of_ble_eq_true rfl⟩) rfl hl.1 rfl (Nat.le_of_ble_eq_true rfl) dX7_readRelation_236 ⟨Nat.zero_le _, Nat.zero_le _⟩ (fun H locs hM => ?_)
                        obtain ⟨S82, eS82, hiS82, hf⟩ := ast_some hf
                        refine mr_iast B hM 44 (by decide) rfl hiS82 eS82 dX7_readRelation_239 (fun H locs hM => ?_)
                        refine lv_aload_n hx hb dX7_readRelation_240 rfl (lv_at hl 0 rfl) ?_
                        refine mr_get B hM 44 (v := .ref (D.2.1 44)) rfl (by decide) q1690 dX7_readRelation_241 ?_
                        refine lv_iload_n hx hb dX7_readRelation_244 rfl (lv_at hl 1 rfl) ?_
                        obtain ⟨v83, ev83, hiv83, hf⟩ := ald_some hf
                        refine mr_iald B hM 44 (by decide) rfl hiv83 ev83 dX7_readRelation_245 ?_
                        refine lv_iconst (v := (-1)) hx hb dX7_readRelation_246 icm1 ?_
                        refine lv_icmp_eq (tgt := 254) hx hb dX7_readRelation_247 (by decide) (fun c84 => ?_) (fun c84 => ?_)
                        · have hf := it_pos c84 hf
                          refine lv_iconst (v := nI 0) hx hb dX7_readRelation_254 ic0 ?_
                          cases hf
                          exact hret _ _ _ _ rfl hM dX7_readRelation_255
                        · have hf := it_neg c84 hf
                          refine lv_iconst (v := nI 1) hx hb dX7_readRelation_250 ic1 ?_
                          refine lv_goto (tgt := 255) hx hb dX7_readRelation_251 (by decide) ?_
                          cases hf
                          exact hret _ _ _ _ rfl hM dX7_readRelation_255
                      refine lv_if_eq (tgt := 235) hx hb dX7_readRelation_223 (by decide) (fun c76 => ?_) (fun c76 => ?_)
                      · have hf := it_pos c76 hf
                        refine lv_iconst (v := (-1)) hx hb dX7_readRelation_235 icm1 ?_
                        exact j77 (-1) hf _ _ _ hM (lv_sub hl [0, 1] rfl)
                      · have hf := it_neg c76 hf
                        refine lv_aload_n hx hb dX7_readRelation_226 rfl (lv_at hl 0 rfl) ?_
                        refine mr_get B hM 10 (v := .ref (D.2.1 10)) rfl (by decide) q1656 dX7_readRelation_227 ?_
                        refine lv_iload_n hx hb dX7_readRelation_230 rfl (lv_at hl 3 rfl) ?_
                        obtain ⟨v78, ev78, hiv78, hf⟩ := ald_some hf
                        refine mr_iald B hM 10 (by decide) rfl hiv78 ev78 dX7_readRelation_231 ?_
                        refine lv_goto (tgt := 236) hx hb dX7_readRelation_232 (by decide) ?_
                        exact j77 v78 hf _ _ _ hM (lv_sub hl [0, 1] rfl)
                    · have hf := it_pos c75 hf
                      exact j73  hf _ _ _ hM (lv_sub hl [0, 1] rfl)
                refine lv_if_eq (tgt := 172) hx hb dX7_readRelation_160 (by decide) (fun c64 => ?_) (fun c64 => ?_)
                · have hf := it_pos c64 hf
                  refine lv_iconst (v := (-1)) hx hb dX7_readRelation_172 icm1 ?_
                  exact j65 (-1) hf _ _ _ hM (lv_sub hl [0, 1, 2, 3, 4] rfl)
                · have hf := it_neg c64 hf
                  refine lv_aload_n hx hb dX7_readRelation_163 rfl (lv_at hl 0 rfl) ?_
                  refine mr_get B hM 9 (v := .ref (D.2.1 9)) rfl (by decide) q1655 dX7_readRelation_164 ?_
                  refine lv_iload_n hx hb dX7_readRelation_167 rfl (lv_at hl 3 rfl) ?_
                  obtain ⟨v66, ev66, hiv66, hf⟩ := ald_some hf
                  refine mr_iald B hM 9 (by decide) rfl hiv66 ev66 dX7_readRelation_168 ?_
                  refine lv_goto (tgt := 173) hx hb dX7_readRelation_169 (by decide) ?_
                  exact j65 v66 hf _ _ _ hM (lv_sub hl [0, 1, 2, 3, 4] rfl)
              · have hf := it_pos c63 hf
                refine lv_iconst (v := nI 1) hx hb dX7_readRelation_149 ic1 ?_
                cases hf
                exact hret _ _ _ _ rfl hM dX7_readRelation_150
            refine lv_if_eq (tgt := 109) hx hb dX7_readRelation_97 (by decide) (fun c53 => ?_) (fun c53 => ?_)
            · have hf := it_pos c53 hf
              refine lv_aload_n hx hb dX7_readRelation_109 rfl (lv_at hl 0 rfl) ?_
              refine mr_get B hM 10 (v := .ref (D.2.1 10)) rfl (by decide) q1656 dX7_readRelation_110 ?_
              refine lv_iload_n hx hb dX7_readRelation_113 rfl (lv_at hl 3 rfl) ?_
              obtain ⟨v55, ev55, hiv55, hf⟩ := ald_some hf
              refine mr_iald B hM 10 (by decide) rfl hiv55 ev55 dX7_readRelation_114 ?_
              refine lv_iconst (v := (-1)) hx hb dX7_readRelation_115 icm1 ?_
              refine lv_icmp_ne (tgt := 124) hx hb dX7_readRelation_116 (by decide) (fun c56 => ?_) (fun c56 => ?_)
              · have hf := it_neg c56 hf
                refine lv_bipush (v := nI 12) hx hb dX7_readRelation_124 bp12 ?_
                exact j54 (nI 12) hf _ _ _ hM (lv_sub hl [0, 1, 2, 3, 5] rfl)
              · have hf := it_pos c56 hf
                refine lv_bipush (v := nI 11) hx hb dX7_readRelation_119 bp11 ?_
                refine lv_goto (tgt := 126) hx hb dX7_readRelation_121 (by decide) ?_
                exact j54 (nI 11) hf _ _ _ hM (lv_sub hl [0, 1, 2, 3, 5] rfl)
            · have hf := it_neg c53 hf
              refine lv_aload_n hx hb dX7_readRelation_100 rfl (lv_at hl 0 rfl) ?_
              refine mr_get B hM 41 (v := .ref (D.2.1 41)) rfl (by decide) q1687 dX7_readRelation_101 ?_
              refine lv_iload_n hx hb dX7_readRelation_104 rfl (lv_at hl 1 rfl) ?_
              obtain ⟨v57, ev57, hiv57, hf⟩ := ald_some hf
              refine mr_iald B hM 41 (by decide) rfl hiv57 ev57 dX7_readRelation_105 ?_
              refine lv_goto (tgt := 126) hx hb dX7_readRelation_106 (by decide) ?_
              exact j54 v57 hf _ _ _ hM (lv_sub hl [0, 1, 2, 3, 5] rfl)
          refine lv_if_ne (tgt := 90) hx hb dX7_readRelation_78 (by decide) (fun c49 => ?_) (fun c49 => ?_)
          · have hf := it_neg c49 hf
            exact j50 S hf _ _ _ hM (lv_sub hl [3, 4, 5, 2, 1, 0] rfl)
          · have hf := it_pos c49 hf
            refine lv_aload_n hx hb dX7_readRelation_81 rfl (lv_at hl 3 rfl) ?_
            refine lv_iconst (v := nI 3) hx hb dX7_readRelation_82 ic3 ?_
            refine lv_aload_n hx hb dX7_readRelation_83 rfl (lv_at hl 3 rfl) ?_
            refine mr_get B hM 31 (v := .int (S.1 31 0)) rfl (by decide) q1677 dX7_readRelation_84 ?_
            obtain ⟨S51, hcS51, hf⟩ := bnd_some hf
            refine mr_callV (rest := []) B hM (c_X7_later l D S (nI 3) (S.1 31 0) hcS51) (cwV 2 hts (lw_V q1969 q1971 qs64 q113 q1972) rfl rfl rfl hd_X7_later ⟨Nat.le_of_ble_eq_true rfl, Nat.le_of_ble_eq_true rfl⟩) rfl hl.1 rfl (Nat.le_of_ble_eq_true rfl) dX7_readRelation_87 ⟨Nat.zero_le _, Nat.zero_le _⟩ (fun H locs hM => ?_)
            exact j50 S51 hf _ _ _ hM (lv_sub hl [3, 4, 5, 2, 1, 0] rfl)
        refine lv_icmp_ne (tgt := 73) hx hb dX7_readRelation_66 (by decide) (fun c46 => ?_) (fun c46 => ?_)
        · refine lv_iconst (v := nI 0) hx hb dX7_readRelation_73 ic0 ?_
          exact js (ex48.trans (if_neg c46)) jx48
        · refine lv_iconst (v := nI 1) hx hb dX7_readRelation_69 ic1 ?_
          refine lv_goto (tgt := 74) hx hb dX7_readRelation_70 (by decide) ?_
          exact js (ex48.trans (if_pos c46)) jx48
    · have hf := it_neg c4 hf
      refine lv_aload_n hx hb dX7_readRelation_31 rfl (lv_at hl 1 rfl) ?_
      refine mr_get B hM 41 (v := .ref (D.2.1 41)) rfl (by decide) q1687 dX7_readRelation_32 ?_
      refine lv_iload_n hx hb dX7_readRelation_35 rfl (lv_at hl 2 rfl) ?_
      obtain ⟨v87, ev87, hiv87, hf⟩ := ald_some hf
      refine mr_iald B hM 41 (by decide) rfl hiv87 ev87 dX7_readRelation_36 ?_
      refine lv_bipush (v := nI 10) hx hb dX7_readRelation_37 bp10 ?_
      obtain ⟨x90, ex90, hf⟩ := bd_some hf
      have jx90 : W p l e r_X7_readRelation s m args below meth c H locs 0 0 Q (F0 m 47 ls [.int x90]) := by
        refine lv_istore (lv' := [(4, .int x90), (3, .int r1), (0, .ref D.1), (1, .int p0), (2, .int p1)]) hx hb dX7_readRelation_47 hl (by decide) rfl (fun ls hl => ?_)
        refine lv_iload hx hb dX7_readRelation_49 (lv_at hl 0 rfl) ?_
        refine lv_if_eq (tgt := 69) hx hb dX7_readRelation_51 (by decide) (fun c91 => ?_) (fun c91 => ?_)
        · have hf := it_pos c91 hf
          refine lv_iconst (v := nI 1) hx hb dX7_readRelation_69 ic1 ?_
          refine lv_goto (tgt := 74) hx hb dX7_readRelation_70 (by decide) ?_
          refine lv_istore (lv' := [(5, .int (nI 1)), (4, .int x90), (3, .int r1), (0, .ref D.1), (1, .int p0), (2, .int p1)]) hx hb dX7_readRelation_74 hl (by decide) rfl (fun ls hl => ?_)
          refine lv_iload hx hb dX7_readRelation_76 (lv_at hl 0 rfl) ?_
          have j93 : ∀ (S95 : MS), f_X7_readRelation_J90_93 p0 p1 r1 x90 S95 = some (r, S') → ∀ (H : Heap) (locs : List Loc) (ls : Array Slot), m_I D s H locs S95 → lv_has ls 6 [(0, .ref D.1), (1, .int p0), (2, .int p1), (3, .int r1), (4, .int x90), (5, .int (nI 1))] → W p l e r_X7_readRelation s m args below meth c H locs 0 0 Q (F0 m 90 ls []) := by
            intro S95 hf
            intro H locs ls hM hl
            unfold f_X7_readRelation_J90_93 at hf
            refine lv_aload_n hx hb dX7_readRelation_90 rfl (lv_at hl 0 rfl) ?_
            refine mr_get B hM 41 (v := .ref (D.2.1 41)) rfl (by decide) q1687 dX7_readRelation_91 ?_
            refine lv_iload_n hx hb dX7_readRelation_94 rfl (lv_at hl 1 rfl) ?_
            refine lv_iload hx hb dX7_readRelation_95 (lv_at hl 4 rfl) ?_
            have j97 : ∀ (x101 : Int32), f_X7_readRelation_J126_97 p0 p1 r1 S95 x101 = some (r, S') → ∀ (H : Heap) (locs : List Loc) (ls : Array Slot), m_I D s H locs S95 → lv_has ls 6 [(0, .ref D.1), (1, .int p0), (2, .int p1), (3, .int r1), (5, .int (nI 1))] → W p l e r_X7_readRelation s m args below meth c H locs 0 0 Q (F0 m 126 ls [.int x101, .int p0, .ref (D.2.1 41)]) := by
              intro x101 hf
              intro H locs ls hM hl
              unfold f_X7_readRelation_J126_97 at hf
              obtain ⟨S102, eS102, hiS102, hf⟩ := ast_some hf
              refine mr_iast B hM 41 (by decide) rfl hiS102 eS102 dX7_readRelation_126 (fun H locs hM => ?_)
              refine lv_aload_n hx hb dX7_readRelation_127 rfl (lv_at hl 0 rfl) ?_
              refine mr_get B hM 42 (v := .ref (D.2.1 42)) rfl (by decide) q1688 dX7_readRelation_128 ?_
              refine lv_iload_n hx hb dX7_readRelation_131 rfl (lv_at hl 1 rfl) ?_
              refine lv_iload_n hx hb dX7_readRelation_132 rfl (lv_at hl 3 rfl) ?_
              obtain ⟨S103, eS103, hiS103, hf⟩ := ast_some hf
              refine mr_iast B hM 42 (by decide) rfl hiS103 eS103 dX7_readRelation_133 (fun H locs hM => ?_)
              refine lv_aload_n hx hb dX7_readRelation_134 rfl (lv_at hl 0 rfl) ?_
              obtain ⟨S104, hcS104, hf⟩ := bnd_some hf
              refine mr_callV (rest := []) B hM (c_X7_token l D S103  hcS104) (cwV 0 hts (lw_V q1957 q1959 qs61 q113 q1960) rfl rfl rfl hd_X7_token ⟨Nat.le_of_ble_eq_true rfl, Nat.le_of_ble_eq_true rfl⟩) rfl hl.1 rfl (Nat.le_of_ble_eq_true rfl) dX7_readRelation_135 ⟨Nat.zero_le _, Nat.zero_le _⟩ (fun H locs hM => ?_)
              refine lv_aload_n hx hb dX7_readRelation_138 rfl (lv_at hl 0 rfl) ?_
              refine mr_get B hM 41 (v := .ref (D.2.1 41)) rfl (by decide) q1687 dX7_readRelation_139 ?_
              refine lv_iload_n hx hb dX7_readRelation_142 rfl (lv_at hl 1 rfl) ?_
              obtain ⟨v105, ev105, hiv105, hf⟩ := ald_some hf
              refine mr_iald B hM 41 (by decide) rfl hiv105 ev105 dX7_readRelation_143 ?_
              refine lv_bipush (v := nI 10) hx hb dX7_readRelation_144 bp10 ?_
              refine lv_icmp_ne (tgt := 151) hx hb dX7_readRelation_146 (by decide) (fun c106 => ?_) (fun c106 => ?_)
              · have hf := it_neg c106 hf
                refine lv_aload_n hx hb dX7_readRelation_151 rfl (lv_at hl 0 rfl) ?_
                refine mr_get B hM 43 (v := .ref (D.2.1 43)) rfl (by decide) q1689 dX7_readRelation_152 ?_
                refine lv_iload_n hx hb dX7_readRelation_155 rfl (lv_at hl 1 rfl) ?_
                refine lv_aload_n hx hb dX7_readRelation_156 rfl (lv_at hl 0 rfl) ?_
                refine lv_iload_n hx hb dX7_readRelation_157 rfl (lv_at hl 2 rfl) ?_
                refine lv_iload hx hb dX7_readRelation_158 (lv_at hl 4 rfl) ?_
                have j108 : ∀ (x110 : Int32), f_X7_readRelation_J173_108 p0 p1 r1 S104 x110 = some (r, S') → ∀ (H : Heap) (locs : List Loc) (ls : Array Slot), m_I D s H locs S104 → lv_has ls 6 [(0, .ref D.1), (1, .int p0), (2, .int p1), (3, .int r1), (5, .int (nI 1))] → W p l e r_X7_readRelation s m args below meth c H locs 0 0 Q (F0 m 173 ls [.int x110, .int p1, .ref D.1, .int p0, .ref (D.2.1 43)]) := by
                  intro x110 hf
                  intro H locs ls hM hl
                  unfold f_X7_readRelation_J173_108 at hf
                  obtain ⟨⟨r111, S112⟩, hcr111, hf⟩ := bnd_some hf
                  have hf := u2_at hf
                  refine mr_callV (rest := [.int p0, .ref (D.2.1 43)]) B hM (c_X7_readVar l D S104 p1 x110 hcr111) (cwV 2 hts (lw_V q2004 q2006 qs69 q113 q2007) rfl rfl rfl hd_X7_readVar ⟨Nat.le_of_ble_eq_true rfl, Nat.le_of_ble_eq_true rfl⟩) rfl hl.1 rfl (Nat.le_of_ble_eq_true rfl) dX7_readRelation_173 ⟨Nat.zero_le _, Nat.zero_le _⟩ (fun H locs hM => ?_)
                  obtain ⟨S113, eS113, hiS113, hf⟩ := ast_some hf
                  refine mr_iast B hM 43 (by decide) rfl hiS113 eS113 dX7_readRelation_176 (fun H locs hM => ?_)
                  refine lv_aload_n hx hb dX7_readRelation_177 rfl (lv_at hl 0 rfl) ?_
                  refine mr_get B hM 43 (v := .ref (D.2.1 43)) rfl (by decide) q1689 dX7_readRelation_178 ?_
                  refine lv_iload_n hx hb dX7_readRelation_181 rfl (lv_at hl 1 rfl) ?_
                  obtain ⟨v114, ev114, hiv114, hf⟩ := ald_some hf
                  refine mr_iald B hM 43 (by decide) rfl hiv114 ev114 dX7_readRelation_182 ?_
                  refine lv_iconst (v := (-1)) hx hb dX7_readRelation_183 icm1 ?_
                  have j116 : f_X7_readRelation_J198_116 p0 S113 = some (r, S') → ∀ (H : Heap) (locs : List Loc) (ls : Array Slot), m_I D s H locs S113 → lv_has ls 6 [(0, .ref D.1), (1, .int p0)] → W p l e r_X7_readRelation s m args below meth c H locs 0 0 Q (F0 m 198 ls []) := by
                    intro hf
                    intro H locs ls hM hl
                    unfold f_X7_readRelation_J198_116 at hf
                    refine lv_aload_n hx hb dX7_readRelation_198 rfl (lv_at hl 0 rfl) ?_
                    refine mr_get B hM 43 (v := .ref (D.2.1 43)) rfl (by decide) q1689 dX7_readRelation_199 ?_
                    refine lv_iload_n hx hb dX7_readRelation_202 rfl (lv_at hl 1 rfl) ?_
                    obtain ⟨v128, ev128, hiv128, hf⟩ := ald_some hf
                    refine mr_iald B hM 43 (by decide) rfl hiv128 ev128 dX7_readRelation_203 ?_
                    refine lv_iconst (v := (-1)) hx hb dX7_readRelation_204 icm1 ?_
                    refine lv_icmp_eq (tgt := 212) hx hb dX7_readRelation_205 (by decide) (fun c129 => ?_) (fun c129 => ?_)
                    · have hf := it_pos c129 hf
                      refine lv_iconst (v := nI 0) hx hb dX7_readRelation_212 ic0 ?_
                      cases hf
                      exact hret _ _ _ _ rfl hM dX7_readRelation_213
                    · have hf := it_neg c129 hf
                      refine lv_iconst (v := nI 1) hx hb dX7_readRelation_208 ic1 ?_
                      refine lv_goto (tgt := 213) hx hb dX7_readRelation_209 (by decide) ?_
                      cases hf
                      exact hret _ _ _ _ rfl hM dX7_readRelation_213
                  refine lv_icmp_eq (tgt := 198) hx hb dX7_readRelation_184 (by decide) (fun c115 => ?_) (fun c115 => ?_)
                  · have hf := it_pos c115 hf
                    exact j116  hf _ _ _ hM (lv_sub hl [0, 1] rfl)
                  · have hf := it_neg c115 hf
                    refine lv_aload_n hx hb dX7_readRelation_187 rfl (lv_at hl 0 rfl) ?_
                    refine mr_get B hM 41 (v := .ref (D.2.1 41)) rfl (by decide) q1687 dX7_readRelation_188 ?_
                    refine lv_iload_n hx hb dX7_readRelation_191 rfl (lv_at hl 1 rfl) ?_
                    obtain ⟨v117, ev117, hiv117, hf⟩ := ald_some hf
                    refine mr_iald B hM 41 (by decide) rfl hiv117 ev117 dX7_readRelation_192 ?_
                    refine lv_bipush (v := nI 11) hx hb dX7_readRelation_193 bp11 ?_
                    refine lv_icmp_ne (tgt := 214) hx hb dX7_readRelation_195 (by decide) (fun c118 => ?_) (fun c118 => ?_)
                    · have hf := it_neg c118 hf
                      refine lv_aload_n hx hb dX7_readRelation_214 rfl (lv_at hl 0 rfl) ?_
                      refine mr_get B hM 44 (v := .ref (D.2.1 44)) rfl (by decide) q1690 dX7_readRelation_215 ?_
                      refine lv_iload_n hx hb dX7_readRelation_218 rfl (lv_at hl 1 rfl) ?_
                      refine lv_aload_n hx hb dX7_readRelation_219 rfl (lv_at hl 0 rfl) ?_
                      refine lv_iload_n hx hb dX7_readRelation_220 rfl (lv_at hl 2 rfl) ?_
                      refine lv_iload hx hb dX7_readRelation_221 (lv_at hl 4 rfl) ?_
                      have j120 : ∀ (x122 : Int32), f_X7_readRelation_J236_120 p0 p1 S113 x122 = some (r, S') → ∀ (H : Heap) (locs : List Loc) (ls : Array Slot), m_I D s H locs S113 → lv_has ls 6 [(0, .ref D.1), (1, .int p0)] → W p l e r_X7_readRelation s m args below meth c H locs 0 0 Q (F0 m 236 ls [.int x122, .int p1, .ref D.1, .int p0, .ref (D.2.1 44)]) := by
                        intro x122 hf
                        intro H locs ls hM hl
                        unfold f_X7_readRelation_J236_120 at hf
                        obtain ⟨⟨r123, S124⟩, hcr123, hf⟩ := bnd_some hf
                        have hf := u2_at hf
                        refine mr_callV (rest := [.int p0, .ref (D.2.1 44)]) B hM (c_X7_readVar l D S113 p1 x122 hcr123) (cwV 2 hts (lw_V q2004 q2006 qs69 q113 q2007) rfl rfl rfl hd_X7_readVar ⟨Nat.le_of_ble_eq_true rfl, Nat.le_of_ble_eq_true rfl⟩) rfl hl.1 rfl (Nat.le_of_ble_eq_true rfl) dX7_readRelation_236 ⟨Nat.zero_le _, Nat.zero_le _⟩ (fun H locs hM => ?_)
                        obtain ⟨S125, eS125, hiS125, hf⟩ := ast_some hf
                        refine mr_iast B hM 44 (by decide) rfl hiS125 eS125 dX7_readRelation_239 (fun H locs hM => ?_)
                        refine lv_aload_n hx hb dX7_readRelation_240 rfl (lv_at hl 0 rfl) ?_
                        refine mr_get B hM 44 (v := .ref (D.2.1 44)) rfl (by decide) q1690 dX7_readRelation_241 ?_
                        refine lv_iload_n hx hb dX7_readRelation_244 rfl (lv_at hl 1 rfl) ?_
                        obtain ⟨v126, ev126, hiv126, hf⟩ := ald_some hf
                        refine mr_iald B hM 44 (by decide) rfl hiv126 ev126 dX7_readRelation_245 ?_
                        refine lv_iconst (v := (-1)) hx hb dX7_readRelation_246 icm1 ?_
                        refine lv_icmp_eq (tgt := 254) hx hb dX7_readRelation_247 (by decide) (fun c127 => ?_) (fun c127 => ?_)
                        · have hf := it_pos c127 hf
                          refine lv_iconst (v := nI 0) hx hb dX7_readRelation_254 ic0 ?_
                          cases hf
                          exact hret _ _ _ _ rfl hM dX7_readRelation_255
                        · have hf := it_neg c127 hf
                          refine lv_iconst (v := nI 1) hx hb dX7_readRelation_250 ic1 ?_
                          refine lv_goto (tgt := 255) hx hb dX7_readRelation_251 (by decide) ?_
                          cases hf
                          exact hret _ _ _ _ rfl hM dX7_readRelation_255
                      refine lv_if_eq (tgt := 235) hx hb dX7_readRelation_223 (by decide) (fun c119 => ?_) (fun c119 => ?_)
                      · have hf := it_pos c119 hf
                        refine lv_iconst (v := (-1)) hx hb dX7_readRelation_235 icm1 ?_
                        exact j120 (-1) hf _ _ _ hM (lv_sub hl [0, 1] rfl)
                      · have hf := it_neg c119 hf
                        refine lv_aload_n hx hb dX7_readRelation_226 rfl (lv_at hl 0 rfl) ?_
                        refine mr_get B hM 10 (v := .ref (D.2.1 10)) rfl (by decide) q1656 dX7_readRelation_227 ?_
                        refine lv_iload_n hx hb dX7_readRelation_230 rfl (lv_at hl 3 rfl) ?_
                        obtain ⟨v121, ev121, hiv121, hf⟩ := ald_some hf
                        refine mr_iald B hM 10 (by decide) rfl hiv121 ev121 dX7_readRelation_231 ?_
                        refine lv_goto (tgt := 236) hx hb dX7_readRelation_232 (by decide) ?_
                        exact j120 v121 hf _ _ _ hM (lv_sub hl [0, 1] rfl)
                    · have hf := it_pos c118 hf
                      exact j116  hf _ _ _ hM (lv_sub hl [0, 1] rfl)
                refine lv_if_eq (tgt := 172) hx hb dX7_readRelation_160 (by decide) (fun c107 => ?_) (fun c107 => ?_)
                · have hf := it_pos c107 hf
                  refine lv_iconst (v := (-1)) hx hb dX7_readRelation_172 icm1 ?_
                  exact j108 (-1) hf _ _ _ hM (lv_sub hl [0, 1, 2, 3, 4] rfl)
                · have hf := it_neg c107 hf
                  refine lv_aload_n hx hb dX7_readRelation_163 rfl (lv_at hl 0 rfl) ?_
                  refine mr_get B hM 9 (v := .ref (D.2.1 9)) rfl (by decide) q1655 dX7_readRelation_164 ?_
                  refine lv_iload_n hx hb dX7_readRelation_167 rfl (lv_at hl 3 rfl) ?_
                  obtain ⟨v109, ev109, hiv109, hf⟩ := ald_some hf
                  refine mr_iald B hM 9 (by decide) rfl hiv109 ev109 dX7_readRelation_168 ?_
                  refine lv_goto (tgt := 173) hx hb dX7_readRelation_169 (by decide) ?_
                  exact j108 v109 hf _ _ _ hM (lv_sub hl [0, 1, 2, 3, 4] rfl)
              · have hf := it_pos c106 hf
                refine lv_iconst (v := nI 1) hx hb dX7_readRelation_149 ic1 ?_
                cases hf
                exact hret _ _ _ _ rfl hM dX7_readRelation_150
            refine lv_if_eq (tgt := 109) hx hb dX7_readRelation_97 (by decide) (fun c96 => ?_) (fun c96 => ?_)
            · have hf := it_pos c96 hf
              refine lv_aload_n hx hb dX7_readRelation_109 rfl (lv_at hl 0 rfl) ?_
              refine mr_get B hM 10 (v := .ref (D.2.1 10)) rfl (by decide) q1656 dX7_readRelation_110 ?_
              refine lv_iload_n hx hb dX7_readRelation_113 rfl (lv_at hl 3 rfl) ?_
              obtain ⟨v98, ev98, hiv98, hf⟩ := ald_some hf
              refine mr_iald B hM 10 (by decide) rfl hiv98 ev98 dX7_readRelation_114 ?_
              refine lv_iconst (v := (-1)) hx hb dX7_readRelation_115 icm1 ?_
              refine lv_icmp_ne (tgt := 124) hx hb dX7_readRelation_116 (by decide) (fun c99 => ?_) (fun c99 => ?_)
              · have hf := it_neg c99 hf
                refine lv_bipush (v := nI 12) hx hb dX7_readRelation_124 bp12 ?_
                exact j97 (nI 12) hf _ _ _ hM (lv_sub hl [0, 1, 2, 3, 5] rfl)
              · have hf := it_pos c99 hf
                refine lv_bipush (v := nI 11) hx hb dX7_readRelation_119 bp11 ?_
                refine lv_goto (tgt := 126) hx hb dX7_readRelation_121 (by decide) ?_
                exact j97 (nI 11) hf _ _ _ hM (lv_sub hl [0, 1, 2, 3, 5] rfl)
            · have hf := it_neg c96 hf
              refine lv_aload_n hx hb dX7_readRelation_100 rfl (lv_at hl 0 rfl) ?_
              refine mr_get B hM 41 (v := .ref (D.2.1 41)) rfl (by decide) q1687 dX7_readRelation_101 ?_
              refine lv_iload_n hx hb dX7_readRelation_104 rfl (lv_at hl 1 rfl) ?_
              obtain ⟨v100, ev100, hiv100, hf⟩ := ald_some hf
              refine mr_iald B hM 41 (by decide) rfl hiv100 ev100 dX7_readRelation_105 ?_
              refine lv_goto (tgt := 126) hx hb dX7_readRelation_106 (by decide) ?_
              exact j97 v100 hf _ _ _ hM (lv_sub hl [0, 1, 2, 3, 5] rfl)
          refine lv_if_ne (tgt := 90) hx hb dX7_readRelation_78 (by decide) (fun c92 => ?_) (fun c92 => ?_)
          · have hf := it_neg c92 hf
            exact j93 S hf _ _ _ hM (lv_sub hl [3, 4, 5, 2, 1, 0] rfl)
          · have hf := it_pos c92 hf
            refine lv_aload_n hx hb dX7_readRelation_81 rfl (lv_at hl 3 rfl) ?_
            refine lv_iconst (v := nI 3) hx hb dX7_readRelation_82 ic3 ?_
            refine lv_aload_n hx hb dX7_readRelation_83 rfl (lv_at hl 3 rfl) ?_
            refine mr_get B hM 31 (v := .int (S.1 31 0)) rfl (by decide) q1677 dX7_readRelation_84 ?_
            obtain ⟨S94, hcS94, hf⟩ := bnd_some hf
            refine mr_callV (rest := []) B hM (c_X7_later l D S (nI 3) (S.1 31 0) hcS94) (cwV 2 hts (lw_V q1969 q1971 qs64 q113 q1972) rfl rfl rfl hd_X7_later ⟨Nat.le_of_ble_eq_true rfl, Nat.le_of_ble_eq_true rfl⟩) rfl hl.1 rfl (Nat.le_of_ble_eq_true rfl) dX7_readRelation_87 ⟨Nat.zero_le _, Nat.zero_le _⟩ (fun H locs hM => ?_)
            exact j93 S94 hf _ _ _ hM (lv_sub hl [3, 4, 5, 2, 1, 0] rfl)
        · have hf := it_neg c91 hf
          refine lv_aload_n hx hb dX7_readRelation_54 rfl (lv_at hl 2 rfl) ?_
          refine mr_get B hM 10 (v := .ref (D.2.1 10)) rfl (by decide) q1656 dX7_readRelation_55 ?_
          refine lv_iload_n hx hb dX7_readRelation_58 rfl (lv_at hl 1 rfl) ?_
          obtain ⟨v130, ev130, hiv130, hf⟩ := ald_some hf
          refine mr_iald B hM 10 (by decide) rfl hiv130 ev130 dX7_readRelation_59 ?_
          refine lv_aload_n hx hb dX7_readRelation_60 rfl (lv_at hl 2 rfl) ?_
          refine mr_get B hM 9 (v := .ref (D.2.1 9)) rfl (by decide) q1655 dX7_readRelation_61 ?_
          refine lv_iload_n hx hb dX7_readRelation_64 rfl (lv_at hl 1 rfl) ?_
          obtain ⟨v131, ev131, hiv131, hf⟩ := ald_some hf
          refine mr_iald B hM 9 (by decide) rfl hiv131 ev131 dX7_readRelation_65 ?_
          obtain ⟨x134, ex134, hf⟩ := bd_some hf
          have jx134 : W p l e r_X7_readRelation s m args below meth c H locs 0 0 Q (F0 m 74 ls [.int x134]) := by
            refine lv_istore (lv' := [(5, .int x134), (4, .int x90), (3, .int r1), (0, .ref D.1), (1, .int p0), (2, .int p1)]) hx hb dX7_readRelation_74 hl (by decide) rfl (fun ls hl => ?_)
            refine lv_iload hx hb dX7_readRelation_76 (lv_at hl 0 rfl) ?_
            have j136 : ∀ (S138 : MS), f_X7_readRelation_J90_136 p0 p1 r1 x90 x134 S138 = some (r, S') → ∀ (H : Heap) (locs : List Loc) (ls : Array Slot), m_I D s H locs S138 → lv_has ls 6 [(0, .ref D.1), (1, .int p0), (2, .int p1), (3, .int r1), (4, .int x90), (5, .int x134)] → W p l e r_X7_readRelation s m args below meth c H locs 0 0 Q (F0 m 90 ls []) := by
              intro S138 hf
              intro H locs ls hM hl
              unfold f_X7_readRelation_J90_136 at hf
              refine lv_aload_n hx hb dX7_readRelation_90 rfl (lv_at hl 0 rfl) ?_
              refine mr_get B hM 41 (v := .ref (D.2.1 41)) rfl (by decide) q1687 dX7_readRelation_91 ?_
              refine lv_iload_n hx hb dX7_readRelation_94 rfl (lv_at hl 1 rfl) ?_
              refine lv_iload hx hb dX7_readRelation_95 (lv_at hl 4 rfl) ?_
              have j140 : ∀ (x144 : Int32), f_X7_readRelation_J126_140 p0 p1 r1 x134 S138 x144 = some (r, S') → ∀ (H : Heap) (locs : List Loc) (ls : Array Slot), m_I D s H locs S138 → lv_has ls 6 [(0, .ref D.1), (1, .int p0), (2, .int p1), (3, .int r1), (5, .int x134)] → W p l e r_X7_readRelation s m args below meth c H locs 0 0 Q (F0 m 126 ls [.int x144, .int p0, .ref (D.2.1 41)]) := by
                intro x144 hf
                intro H locs ls hM hl
                unfold f_X7_readRelation_J126_140 at hf
                obtain ⟨S145, eS145, hiS145, hf⟩ := ast_some hf
                refine mr_iast B hM 41 (by decide) rfl hiS145 eS145 dX7_readRelation_126 (fun H locs hM => ?_)
                refine lv_aload_n hx hb dX7_readRelation_127 rfl (lv_at hl 0 rfl) ?_
                refine mr_get B hM 42 (v := .ref (D.2.1 42)) rfl (by decide) q1688 dX7_readRelation_128 ?_
                refine lv_iload_n hx hb dX7_readRelation_131 rfl (lv_at hl 1 rfl) ?_
                refine lv_iload_n hx hb dX7_readRelation_132 rfl (lv_at hl 3 rfl) ?_
                obtain ⟨S146, eS146, hiS146, hf⟩ := ast_some hf
                refine mr_iast B hM 42 (by decide) rfl hiS146 eS146 dX7_readRelation_133 (fun H locs hM => ?_)
                refine lv_aload_n hx hb dX7_readRelation_134 rfl (lv_at hl 0 rfl) ?_
                obtain ⟨S147, hcS147, hf⟩ := bnd_some hf
                refine mr_callV (rest := []) B hM (c_X7_token l D S146  hcS147) (cwV 0 hts (lw_V q1957 q1959 qs61 q113 q1960) rfl rfl rfl hd_X7_token ⟨Nat.le_of_ble_eq_true rfl, Nat.le_of_ble_eq_true rfl⟩) rfl hl.1 rfl (Nat.le_of_ble_eq_true rfl) dX7_readRelation_135 ⟨Nat.zero_le _, Nat.zero_le _⟩ (fun H locs hM => ?_)
                refine lv_aload_n hx hb dX7_readRelation_138 rfl (lv_at hl 0 rfl) ?_
                refine mr_get B hM 41 (v := .ref (D.2.1 41)) rfl (by decide) q1687 dX7_readRelation_139 ?_
                refine lv_iload_n hx hb dX7_readRelation_142 rfl (lv_at hl 1 rfl) ?_
                obtain ⟨v148, ev148, hiv148, hf⟩ := ald_some hf
                refine mr_iald B hM 41 (by decide) rfl hiv148 ev148 dX7_readRelation_143 ?_
                refine lv_bipush (v := nI 10) hx hb dX7_readRelation_144 bp10 ?_
                refine lv_icmp_ne (tgt := 151) hx hb dX7_readRelation_146 (by decide) (fun c149 => ?_) (fun c149 => ?_)
                · have hf := it_neg c149 hf
                  refine lv_aload_n hx hb dX7_readRelation_151 rfl (lv_at hl 0 rfl) ?_
                  refine mr_get B hM 43 (v := .ref (D.2.1 43)) rfl (by decide) q1689 dX7_readRelation_152 ?_
                  refine lv_iload_n hx hb dX7_readRelation_155 rfl (lv_at hl 1 rfl) ?_
                  refine lv_aload_n hx hb dX7_readRelation_156 rfl (lv_at hl 0 rfl) ?_
                  refine lv_iload_n hx hb dX7_readRelation_157 rfl (lv_at hl 2 rfl) ?_
                  refine lv_iload hx hb dX7_readRelation_158 (lv_at hl 4 rfl) ?_
                  have j151 : ∀ (x153 : Int32), f_X7_readRelation_J173_151 p0 p1 r1 x134 S147 x153 = some (r, S') → ∀ (H : Heap) (locs : List Loc) (ls : Array Slot), m_I D s H locs S147 → lv_has ls 6 [(0, .ref D.1), (1, .int p0), (2, .int p1), (3, .int r1), (5, .int x134)] → W p l e r_X7_readRelation s m args below meth c H locs 0 0 Q (F0 m 173 ls [.int x153, .int p1, .ref D.1, .int p0, .ref (D.2.1 43)]) := by
                    intro x153 hf
                    intro H locs ls hM hl
                    unfold f_X7_readRelation_J173_151 at hf
                    obtain ⟨⟨r154, S155⟩, hcr154, hf⟩ := bnd_some hf
                    have hf := u2_at hf
                    refine mr_callV (rest := [.int p0, .ref (D.2.1 43)]) B hM (c_X7_readVar l D S147 p1 x153 hcr154) (cwV 2 hts (lw_V q2004 q2006 qs69 q113 q2007) rfl rfl rfl hd_X7_readVar ⟨Nat.le_of_ble_eq_true rfl, Nat.le_of_ble_eq_true rfl⟩) rfl hl.1 rfl (Nat.le_of_ble_eq_true rfl) dX7_readRelation_173 ⟨Nat.zero_le _, Nat.zero_le _⟩ (fun H locs hM => ?_)
                    obtain ⟨S156, eS156, hiS156, hf⟩ := ast_some hf
                    refine mr_iast B hM 43 (by decide) rfl hiS156 eS156 dX7_readRelation_176 (fun H locs hM => ?_)
                    refine lv_aload_n hx hb dX7_readRelation_177 rfl (lv_at hl 0 rfl) ?_
                    refine mr_get B hM 43 (v := .ref (D.2.1 43)) rfl (by decide) q1689 dX7_readRelation_178 ?_
                    refine lv_iload_n hx hb dX7_readRelation_181 rfl (lv_at hl 1 rfl) ?_
                    obtain ⟨v157, ev157, hiv157, hf⟩ := ald_some hf
                    refine mr_iald B hM 43 (by decide) rfl hiv157 ev157 dX7_readRelation_182 ?_
                    refine lv_iconst (v := (-1)) hx hb dX7_readRelation_183 icm1 ?_
                    have j159 : f_X7_readRelation_J198_159 p0 S156 = some (r, S') → ∀ (H : Heap) (locs : List Loc) (ls : Array Slot), m_I D s H locs S156 → lv_has ls 6 [(0, .ref D.1), (1, .int p0)] → W p l e r_X7_readRelation s m args below meth c H locs 0 0 Q (F0 m 198 ls []) := by
                      intro hf
                      intro H locs ls hM hl
                      unfold f_X7_readRelation_J198_159 at hf
                      refine lv_aload_n hx hb dX7_readRelation_198 rfl (lv_at hl 0 rfl) ?_
                      refine mr_get B hM 43 (v := .ref (D.2.1 43)) rfl (by decide) q1689 dX7_readRelation_199 ?_
                      refine lv_iload_n hx hb dX7_readRelation_202 rfl (lv_at hl 1 rfl) ?_
                      obtain ⟨v171, ev171, hiv171, hf⟩ := ald_some hf
                      refine mr_iald B hM 43 (by decide) rfl hiv171 ev171 dX7_readRelation_203 ?_
                      refine lv_iconst (v := (-1)) hx hb dX7_readRelation_204 icm1 ?_
                      refine lv_icmp_eq (tgt := 212) hx hb dX7_readRelation_205 (by decide) (fun c172 => ?_) (fun c172 => ?_)
                      · have hf := it_pos c172 hf
                        refine lv_iconst (v := nI 0) hx hb dX7_readRelation_212 ic0 ?_
                        cases hf
                        exact hret _ _ _ _ rfl hM dX7_readRelation_213
                      · have hf := it_neg c172 hf
                        refine lv_iconst (v := nI 1) hx hb dX7_readRelation_208 ic1 ?_
                        refine lv_goto (tgt := 213) hx hb dX7_readRelation_209 (by decide) ?_
                        cases hf
                        exact hret _ _ _ _ rfl hM dX7_readRelation_213
                    refine lv_icmp_eq (tgt := 198) hx hb dX7_readRelation_184 (by decide) (fun c158 => ?_) (fun c158 => ?_)
                    · have hf := it_pos c158 hf
                      exact j159  hf _ _ _ hM (lv_sub hl [0, 1] rfl)
                    · have hf := it_neg c158 hf
                      refine lv_aload_n hx hb dX7_readRelation_187 rfl (lv_at hl 0 rfl) ?_
                      refine mr_get B hM 41 (v := .ref (D.2.1 41)) rfl (by decide) q1687 dX7_readRelation_188 ?_
                      refine lv_iload_n hx hb dX7_readRelation_191 rfl (lv_at hl 1 rfl) ?_
                      obtain ⟨v160, ev160, hiv160, hf⟩ := ald_some hf
                      refine mr_iald B hM 41 (by decide) rfl hiv160 ev160 dX7_readRelation_192 ?_
                      refine lv_bipush (v := nI 11) hx hb dX7_readRelation_193 bp11 ?_
                      refine lv_icmp_ne (tgt := 214) hx hb dX7_readRelation_195 (by decide) (fun c161 => ?_) (fun c161 => ?_)
                      · have hf := it_neg c161 hf
                        refine lv_aload_n hx hb dX7_readRelation_214 rfl (lv_at hl 0 rfl) ?_
                        refine mr_get B hM 44 (v := .ref (D.2.1 44)) rfl (by decide) q1690 dX7_readRelation_215 ?_
                        refine lv_iload_n hx hb dX7_readRelation_218 rfl (lv_at hl 1 rfl) ?_
                        refine lv_aload_n hx hb dX7_readRelation_219 rfl (lv_at hl 0 rfl) ?_
                        refine lv_iload_n hx hb dX7_readRelation_220 rfl (lv_at hl 2 rfl) ?_
                        refine lv_iload hx hb dX7_readRelation_221 (lv_at hl 4 rfl) ?_
                        have j163 : ∀ (x165 : Int32), f_X7_readRelation_J236_163 p0 p1 S156 x165 = some (r, S') → ∀ (H : Heap) (locs : List Loc) (ls : Array Slot), m_I D s H locs S156 → lv_has ls 6 [(0, .ref D.1), (1, .int p0)] → W p l e r_X7_readRelation s m args below meth c H locs 0 0 Q (F0 m 236 ls [.int x165, .int p1, .ref D.1, .int p0, .ref (D.2.1 44)]) := by
                          intro x165 hf
                          intro H locs ls hM hl
                          unfold f_X7_readRelation_J236_163 at hf
                          obtain ⟨⟨r166, S167⟩, hcr166, hf⟩ := bnd_some hf
                          have hf := u2_at hf
                          refine mr_callV (rest := [.int p0, .ref (D.2.1 44)]) B hM (c_X7_readVar l D S156 p1 x165 hcr166) (cwV 2 hts (lw_V q2004 q2006 qs69 q113 q2007) rfl rfl rfl hd_X7_readVar ⟨Nat.le_of_ble_eq_true rfl, Nat.le_of_ble_eq_true rfl⟩) rfl hl.1 rfl (Nat.le_of_ble_eq_true rfl) dX7_readRelation_236 ⟨Nat.zero_le _, Nat.zero_le _⟩ (fun H locs hM => ?_)
                          obtain ⟨S168, eS168, hiS168, hf⟩ := ast_some hf
                          refine mr_iast B hM 44 (by decide) rfl hiS168 eS168 dX7_readRelation_239 (fun H locs hM => ?_)
                          refine lv_aload_n hx hb dX7_readRelation_240 rfl (lv_at hl 0 rfl) ?_
                          refine mr_get B hM 44 (v := .ref (D.2.1 44)) rfl (by decide) q1690 dX7_readRelation_241 ?_
                          refine lv_iload_n hx hb dX7_readRelation_244 rfl (lv_at hl 1 rfl) ?_
                          obtain ⟨v169, ev169, hiv169, hf⟩ := ald_some hf
                          refine mr_iald B hM 44 (by decide) rfl hiv169 ev169 dX7_readRelation_245 ?_
                          refine lv_iconst (v := (-1)) hx hb dX7_readRelation_246 icm1 ?_
                          refine lv_icmp_eq (tgt := 254) hx hb dX7_readRelation_247 (by decide) (fun c170 => ?_) (fun c170 => ?_)
                          · have hf := it_pos c170 hf
                            refine lv_iconst (v := nI 0) hx hb dX7_readRelation_254 ic0 ?_
                            cases hf
                            exact hret _ _ _ _ rfl hM dX7_readRelation_255
                          · have hf := it_neg c170 hf
                            refine lv_iconst (v := nI 1) hx hb dX7_readRelation_250 ic1 ?_
                            refine lv_goto (tgt := 255) hx hb dX7_readRelation_251 (by decide) ?_
                            cases hf
                            exact hret _ _ _ _ rfl hM dX7_readRelation_255
                        refine lv_if_eq (tgt := 235) hx hb dX7_readRelation_223 (by decide) (fun c162 => ?_) (fun c162 => ?_)
                        · have hf := it_pos c162 hf
                          refine lv_iconst (v := (-1)) hx hb dX7_readRelation_235 icm1 ?_
                          exact j163 (-1) hf _ _ _ hM (lv_sub hl [0, 1] rfl)
                        · have hf := it_neg c162 hf
                          refine lv_aload_n hx hb dX7_readRelation_226 rfl (lv_at hl 0 rfl) ?_
                          refine mr_get B hM 10 (v := .ref (D.2.1 10)) rfl (by decide) q1656 dX7_readRelation_227 ?_
                          refine lv_iload_n hx hb dX7_readRelation_230 rfl (lv_at hl 3 rfl) ?_
                          obtain ⟨v164, ev164, hiv164, hf⟩ := ald_some hf
                          refine mr_iald B hM 10 (by decide) rfl hiv164 ev164 dX7_readRelation_231 ?_
                          refine lv_goto (tgt := 236) hx hb dX7_readRelation_232 (by decide) ?_
                          exact j163 v164 hf _ _ _ hM (lv_sub hl [0, 1] rfl)
                      · have hf := it_pos c161 hf
                        exact j159  hf _ _ _ hM (lv_sub hl [0, 1] rfl)
                  refine lv_if_eq (tgt := 172) hx hb dX7_readRelation_160 (by decide) (fun c150 => ?_) (fun c150 => ?_)
                  · have hf := it_pos c150 hf
                    refine lv_iconst (v := (-1)) hx hb dX7_readRelation_172 icm1 ?_
                    exact j151 (-1) hf _ _ _ hM (lv_sub hl [0, 1, 2, 3, 4] rfl)
                  · have hf := it_neg c150 hf
                    refine lv_aload_n hx hb dX7_readRelation_163 rfl (lv_at hl 0 rfl) ?_
                    refine mr_get B hM 9 (v := .ref (D.2.1 9)) rfl (by decide) q1655 dX7_readRelation_164 ?_
                    refine lv_iload_n hx hb dX7_readRelation_167 rfl (lv_at hl 3 rfl) ?_
                    obtain ⟨v152, ev152, hiv152, hf⟩ := ald_some hf
                    refine mr_iald B hM 9 (by decide) rfl hiv152 ev152 dX7_readRelation_168 ?_
                    refine lv_goto (tgt := 173) hx hb dX7_readRelation_169 (by decide) ?_
                    exact j151 v152 hf _ _ _ hM (lv_sub hl [0, 1, 2, 3, 4] rfl)
                · have hf := it_pos c149 hf
                  refine lv_iconst (v := nI 1) hx hb dX7_readRelation_149 ic1 ?_
                  cases hf
                  exact hret _ _ _ _ rfl hM dX7_readRelation_150
              refine lv_if_eq (tgt := 109) hx hb dX7_readRelation_97 (by decide) (fun c139 => ?_) (fun c139 => ?_)
              · have hf := it_pos c139 hf
                refine lv_aload_n hx hb dX7_readRelation_109 rfl (lv_at hl 0 rfl) ?_
                refine mr_get B hM 10 (v := .ref (D.2.1 10)) rfl (by decide) q1656 dX7_readRelation_110 ?_
                refine lv_iload_n hx hb dX7_readRelation_113 rfl (lv_at hl 3 rfl) ?_
                obtain ⟨v141, ev141, hiv141, hf⟩ := ald_some hf
                refine mr_iald B hM 10 (by decide) rfl hiv141 ev141 dX7_readRelation_114 ?_
                refine lv_iconst (v := (-1)) hx hb dX7_readRelation_115 icm1 ?_
                refine lv_icmp_ne (tgt := 124) hx hb dX7_readRelation_116 (by decide) (fun c142 => ?_) (fun c142 => ?_)
                · have hf := it_neg c142 hf
                  refine lv_bipush (v := nI 12) hx hb dX7_readRelation_124 bp12 ?_
                  exact j140 (nI 12) hf _ _ _ hM (lv_sub hl [0, 1, 2, 3, 5] rfl)
                · have hf := it_pos c142 hf
                  refine lv_bipush (v := nI 11) hx hb dX7_readRelation_119 bp11 ?_
                  refine lv_goto (tgt := 126) hx hb dX7_readRelation_121 (by decide) ?_
                  exact j140 (nI 11) hf _ _ _ hM (lv_sub hl [0, 1, 2, 3, 5] rfl)
              · have hf := it_neg c139 hf
                refine lv_aload_n hx hb dX7_readRelation_100 rfl (lv_at hl 0 rfl) ?_
                refine mr_get B hM 41 (v := .ref (D.2.1 41)) rfl (by decide) q1687 dX7_readRelation_101 ?_
                refine lv_iload_n hx hb dX7_readRelation_104 rfl (lv_at hl 1 rfl) ?_
                obtain ⟨v143, ev143, hiv143, hf⟩ := ald_some hf
                refine mr_iald B hM 41 (by decide) rfl hiv143 ev143 dX7_readRelation_105 ?_
                refine lv_goto (tgt := 126) hx hb dX7_readRelation_106 (by decide) ?_
                exact j140 v143 hf _ _ _ hM (lv_sub hl [0, 1, 2, 3, 5] rfl)
            refine lv_if_ne (tgt := 90) hx hb dX7_readRelation_78 (by decide) (fun c135 => ?_) (fun c135 => ?_)
            · have hf := it_neg c135 hf
              exact j136 S hf _ _ _ hM (lv_sub hl [3, 4, 5, 2, 1, 0] rfl)
            · have hf := it_pos c135 hf
              refine lv_aload_n hx hb dX7_readRelation_81 rfl (lv_at hl 3 rfl) ?_
              refine lv_iconst (v := nI 3) hx hb dX7_readRelation_82 ic3 ?_
              refine lv_aload_n hx hb dX7_readRelation_83 rfl (lv_at hl 3 rfl) ?_
              refine mr_get B hM 31 (v := .int (S.1 31 0)) rfl (by decide) q1677 dX7_readRelation_84 ?_
              obtain ⟨S137, hcS137, hf⟩ := bnd_some hf
              refine mr_callV (rest := []) B hM (c_X7_later l D S (nI 3) (S.1 31 0) hcS137) (cwV 2 hts (lw_V q1969 q1971 qs64 q113 q1972) rfl rfl rfl hd_X7_later ⟨Nat.le_of_ble_eq_true rfl, Nat.le_of_ble_eq_true rfl⟩) rfl hl.1 rfl (Nat.le_of_ble_eq_true rfl) dX7_readRelation_87 ⟨Nat.zero_le _, Nat.zero_le _⟩ (fun H locs hM => ?_)
              exact j136 S137 hf _ _ _ hM (lv_sub hl [3, 4, 5, 2, 1, 0] rfl)
          refine lv_icmp_ne (tgt := 73) hx hb dX7_readRelation_66 (by decide) (fun c132 => ?_) (fun c132 => ?_)
          · refine lv_iconst (v := nI 0) hx hb dX7_readRelation_73 ic0 ?_
            exact js (ex134.trans (if_neg c132)) jx134
          · refine lv_iconst (v := nI 1) hx hb dX7_readRelation_69 ic1 ?_
            refine lv_goto (tgt := 74) hx hb dX7_readRelation_70 (by decide) ?_
            exact js (ex134.trans (if_pos c132)) jx134
      refine lv_icmp_ne (tgt := 46) hx hb dX7_readRelation_39 (by decide) (fun c88 => ?_) (fun c88 => ?_)
      · refine lv_iconst (v := nI 0) hx hb dX7_readRelation_46 ic0 ?_
        exact js (ex90.trans (if_neg c88)) jx90
      · refine lv_iconst (v := nI 1) hx hb dX7_readRelation_42 ic1 ?_
        refine lv_goto (tgt := 47) hx hb dX7_readRelation_43 (by decide) ?_
        exact js (ex90.trans (if_pos c88)) jx90
  · have hf := it_pos c2 hf
    refine lv_aload_n hx hb dX7_readRelation_10 rfl (lv_at hl 1 rfl) ?_
    refine lv_aload_n hx hb dX7_readRelation_11 rfl (lv_at hl 1 rfl) ?_
    refine mr_get B hM 31 (v := .int (S.1 31 0)) rfl (by decide) q1677 dX7_readRelation_12 ?_
    obtain ⟨S173, eS173, hf⟩ := bd_some hf
    refine mr_puti B hM 35 (by decide) eS173 rfl (tyX7_ok 35 (by decide)) q1681 dX7_readRelation_15 (fun H locs hM => ?_)
    refine lv_iconst (v := nI 0) hx hb dX7_readRelation_18 ic0 ?_
    cases hf
    exact hret _ _ _ _ rfl hM dX7_readRelation_19
def f_X7_readSame (S : MS) (p0 : Int32) (p1 : Int32) : Option (Int32 × MS) :=
  bnd (f_X7_readVar S p1 (-1)) <| u2 fun r1 S2 => ast 41 p0 (m_up S2 42 p0.toNatClampNeg r1) fun S3 => ald 41 (S3.1 42) p0 fun v4 => (if v4 = (-1) then some (nI 0, S3) else ald 41 (S3.1 42) p0 fun v6 => bnd (f_X7_bound p1 v6) fun r7 => bnd (f_X7_readVar S3 p1 r7) <| u2 fun r8 S9 => ast 41 p0 (m_up S9 43 p0.toNatClampNeg r8) fun S10 => ald 41 (S10.1 43) p0 fun v11 => (if v11 = (-1) then some (nI 0, S10) else some (nI 1, S10)))
abbrev r_X7_readSame : Room := { frames := 3, cells := 0, slots := 0, locals := 67 }
set_option maxHeartbeats 4000000 in
set_option maxRecDepth 100000 in
theorem c_X7_readSame (l : Launch) (D : MD) (S : MS) (p0 : Int32) (p1 : Int32) {r : Int32} {S' : MS} (hf : f_X7_readSame S p0 p1 = some (r, S')) : m_Met l yX7_readSame cX7_readSame 3 (Option.some Jvm.ClassFile.FieldType.boolean) r_X7_readSame D [.ref D.1, .int p0, .int p1] S (some (.int r)) S' := by
  refine m_metI (F := 3) (L := 67) (by decide) rfl (Nat.le_of_ble_eq_true rfl) (fun p e s m args below meth c Q B hret hM ls hl => ?_)
  have hx := B.1
  have hb := B.2.1
  have hown := B.2.2.2.1
  have hts := B.2.2.2.2
  have hl : lv_has ls 3 [(0, .ref D.1), (1, .int p0), (2, .int p1)] := hl
  generalize s.heap = H, ([] : List Loc) = locs at hM ⊢
  unfold f_X7_readSame at hf
  refine lv_aload_n hx hb dX7_readSame_0 rfl (lv_at hl 0 rfl) ?_
  refine mr_get B hM 42 (v := .ref (D.2.1 42)) rfl (by decide) q1688 dX7_readSame_1 ?_
  refine lv_iload_n hx hb dX7_readSame_4 rfl (lv_at hl 1 rfl) ?_
  refine lv_aload_n hx hb dX7_readSame_5 rfl (lv_at hl 0 rfl) ?_
  refine lv_iload_n hx hb dX7_readSame_6 rfl (lv_at hl 2 rfl) ?_
  refine lv_iconst (v := (-1)) hx hb dX7_readSame_7 icm1 ?_
  obtain ⟨⟨r1, S2⟩, hcr1, hf⟩ := bnd_some hf
  have hf := u2_at hf
  refine mr_callV (rest := [.int p0, .ref (D.2.1 42)]) B hM (c_X7_readVar l D S p1 (-1) hcr1) (cwV 2 hts (lw_V q2004 q2006 qs69 q113 q2007) rfl rfl rfl hd_X7_readVar ⟨Nat.le_of_ble_eq_true rfl, Nat.le_of_ble_eq_true rfl⟩) rfl hl.1 rfl (Nat.le_of_ble_eq_true rfl) dX7_readSame_8 ⟨Nat.zero_le _, Nat.zero_le _⟩ (fun H locs hM => ?_)
  obtain ⟨S3, eS3, hiS3, hf⟩ := ast_some hf
  refine mr_iast B hM 42 (by decide) rfl hiS3 eS3 dX7_readSame_11 (fun H locs hM => ?_)
  refine lv_aload_n hx hb dX7_readSame_12 rfl (lv_at hl 0 rfl) ?_
  refine mr_get B hM 42 (v := .ref (D.2.1 42)) rfl (by decide) q1688 dX7_readSame_13 ?_
  refine lv_iload_n hx hb dX7_readSame_16 rfl (lv_at hl 1 rfl) ?_
  obtain ⟨v4, ev4, hiv4, hf⟩ := ald_some hf
  refine mr_iald B hM 42 (by decide) rfl hiv4 ev4 dX7_readSame_17 ?_
  refine lv_iconst (v := (-1)) hx hb dX7_readSame_18 icm1 ?_
  refine lv_icmp_ne (tgt := 24) hx hb dX7_readSame_19 (by decide) (fun c5 => ?_) (fun c5 => ?_)
  · have hf := it_neg c5 hf
    refine lv_aload_n hx hb dX7_readSame_24 rfl (lv_at hl 0 rfl) ?_
    refine mr_get B hM 43 (v := .ref (D.2.1 43)) rfl (by decide) q1689 dX7_readSame_25 ?_
    refine lv_iload_n hx hb dX7_readSame_28 rfl (lv_at hl 1 rfl) ?_
    refine lv_aload_n hx hb dX7_readSame_29 rfl (lv_at hl 0 rfl) ?_
    refine lv_iload_n hx hb dX7_readSame_30 rfl (lv_at hl 2 rfl) ?_
    refine lv_iload_n hx hb dX7_readSame_31 rfl (lv_at hl 2 rfl) ?_
    refine lv_aload_n hx hb dX7_readSame_32 rfl (lv_at hl 0 rfl) ?_
    refine mr_get B hM 42 (v := .ref (D.2.1 42)) rfl (by decide) q1688 dX7_readSame_33 ?_
    refine lv_iload_n hx hb dX7_readSame_36 rfl (lv_at hl 1 rfl) ?_
    obtain ⟨v6, ev6, hiv6, hf⟩ := ald_some hf
    refine mr_iald B hM 42 (by decide) rfl hiv6 ev6 dX7_readSame_37 ?_
    obtain ⟨r7, hcr7, hf⟩ := bnd_some hf
    refine pr_callS (rest := [.int p1, .ref D.1, .int p0, .ref (D.2.1 43)]) B (c_X7_bound l p1 v6 hcr7) (va_cwS 2 hts (lw_S q2020 q2021 q113 q2022) rfl rfl rfl hd_X7_bound ⟨Nat.le_of_ble_eq_true rfl, Nat.le_of_ble_eq_true rfl⟩) rfl hl.1 rfl (Nat.le_of_ble_eq_true rfl) dX7_readSame_38 ⟨Nat.zero_le _, Nat.zero_le _⟩ ?_
    obtain ⟨⟨r8, S9⟩, hcr8, hf⟩ := bnd_some hf
    have hf := u2_at hf
    refine mr_callV (rest := [.int p0, .ref (D.2.1 43)]) B hM (c_X7_readVar l D S3 p1 r7 hcr8) (cwV 2 hts (lw_V q2004 q2006 qs69 q113 q2007) rfl rfl rfl hd_X7_readVar ⟨Nat.le_of_ble_eq_true rfl, Nat.le_of_ble_eq_true rfl⟩) rfl hl.1 rfl (Nat.le_of_ble_eq_true rfl) dX7_readSame_41 ⟨Nat.zero_le _, Nat.zero_le _⟩ (fun H locs hM => ?_)
    obtain ⟨S10, eS10, hiS10, hf⟩ := ast_some hf
    refine mr_iast B hM 43 (by decide) rfl hiS10 eS10 dX7_readSame_44 (fun H locs hM => ?_)
    refine lv_aload_n hx hb dX7_readSame_45 rfl (lv_at hl 0 rfl) ?_
    refine mr_get B hM 43 (v := .ref (D.2.1 43)) rfl (by decide) q1689 dX7_readSame_46 ?_
    refine lv_iload_n hx hb dX7_readSame_49 rfl (lv_at hl 1 rfl) ?_
    obtain ⟨v11, ev11, hiv11, hf⟩ := ald_some hf
    refine mr_iald B hM 43 (by decide) rfl hiv11 ev11 dX7_readSame_50 ?_
    refine lv_iconst (v := (-1)) hx hb dX7_readSame_51 icm1 ?_
    refine lv_icmp_eq (tgt := 59) hx hb dX7_readSame_52 (by decide) (fun c12 => ?_) (fun c12 => ?_)
    · have hf := it_pos c12 hf
      refine lv_iconst (v := nI 0) hx hb dX7_readSame_59 ic0 ?_
      cases hf
      exact hret _ _ _ _ rfl hM dX7_readSame_60
    · have hf := it_neg c12 hf
      refine lv_iconst (v := nI 1) hx hb dX7_readSame_55 ic1 ?_
      refine lv_goto (tgt := 60) hx hb dX7_readSame_56 (by decide) ?_
      cases hf
      exact hret _ _ _ _ rfl hM dX7_readSame_60
  · have hf := it_pos c5 hf
    refine lv_iconst (v := nI 0) hx hb dX7_readSame_22 ic0 ?_
    cases hf
    exact hret _ _ _ _ rfl hM dX7_readSame_23
