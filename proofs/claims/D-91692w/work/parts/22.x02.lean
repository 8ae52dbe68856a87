set_option maxRecDepth 100000
def f_X0_singles_L39 (o : Nat) (p0 : Int32) (S : XS) (x4 : Int32) (x8 : Int32) (x9 : Int32) : Option ((Int32 × Int32) ⊕ ((Int32))) :=
  bnd (xr S 113 o 0) fun b10 => chk (xk S b10 = 52) <| (if (nI (xn S b10)) ≤ x9 then some (.inr x8) else bnd (f_X0_has p0 x9) fun r13 => (if r13 = 0 then bd (x9 + nI 1) fun x15 => some (.inl (x8, x15)) else bnd (xr S 113 o 0) fun b16 => chk (xk S b16 = 52) <| ald (xn S b16) (xi S 52 b16) x9 fun v18 => bnd (f_X0_bit S o x4) fun r19 => (if (lg_cmp (v18.toInt64 &&& r19) (0 : Int64)) = 0 then bd (x9 + nI 1) fun x21 => some (.inl (x8, x21)) else bd (x8 ||| (nI 1 <<< (x9 &&& 31))) fun x22 => bd (x9 + nI 1) fun x23 => some (.inl (x22, x23)))))
def f_X0_singles_L24 (rec : XS → Nat → Int32 → Int32 → Option Int32) (o : Nat) (p0 : Int32) (p1 : Int32) (S : XS) (x4 : Int32) : Option ((Int32) ⊕ ((Unit) ⊕ (Unit))) :=
  chk (xk S o = 1) <| bnd (f_X0_facts S o) fun r5 => (if r5 ≤ x4 then some (.inr (.inr ())) else bnd (wO (fun t : Int32 × Int32 => f_X0_singles_L39 o p0 S x4 t.1 t.2) fu (nI 0, nI 0)) <| fun x26 => (if x26 = 0 then bd (x4 + nI 1) fun x28 => some (.inl x28) else (if x26 = p0 then bd (x4 + nI 1) fun x30 => some (.inl x30) else bnd (rec S o x26 (p1 - nI 1)) fun r31 => (if r31 = 0 then bd (x4 + nI 1) fun x33 => some (.inl x33) else bnd (rec S o (p0 &&& (x26 ^^^ (-1))) (p1 - nI 1)) fun r34 => (if r34 = 0 then bd (x4 + nI 1) fun x36 => some (.inl x36) else some (.inr (.inl ())))))))
def f_X0_singles (rec : XS → Nat → Int32 → Int32 → Option Int32) (S : XS) (o : Nat) (p0 : Int32) (p1 : Int32) : Option Int32 :=
  bnd (f_J18_bitCount p0) fun r1 => (if nI 1 < r1 then (if r1 ≤ (nI 1 <<< (p1 &&& 31)) then bnd (wO (fun t : Int32 => f_X0_singles_L24 rec o p0 p1 S t) fu (nI 0)) (Sum.elim (fun _ => some (nI 1)) (fun _ => some (nI 0))) else some (nI 0)) else some (nI 1))
set_option maxHeartbeats 4000000 in
set_option maxRecDepth 100000 in
theorem c_X0_singles (l : Launch) (D : XD) {rF rL : Nat} {rec : XS → Nat → Int32 → Int32 → Option Int32} (hro : 40 ≤ rF ∧ 1000 ≤ rL) (hrec : x_R_singles l D rF rL rec) (S : XS) (o : Nat) (p0 : Int32) (p1 : Int32) {r : Int32} (hf : f_X0_singles rec S o p0 p1 = some r) : x_Met l yX0_singles cX0_singles 7 (Option.some Jvm.ClassFile.FieldType.boolean) (rF + 1) (rL + 26) D [.ref o, .int p0, .int p1] S (some (.int r)) S := by
  refine x_metI RX0 (by decide) rfl (Nat.le_of_ble_eq_true rfl) (fun p e s m args below meth c Q B hnm hret H locs hX ls hl => ?_)
  have hx := B.1
  have hb := B.2.1
  have hml := B.2.2.1
  have hown := B.2.2.2.1
  have hts := B.2.2.2.2
  have hl : lv_has ls 7 [(0, .ref o), (1, .int p0), (2, .int p1)] := hl
  unfold f_X0_singles at hf
  refine lv_iload_n hx hb dX0_singles_0 rfl (lv_at hl 1 rfl) ?_
  obtain ⟨r1, hcr1, hf⟩ := bnd_some hf
  refine pr_callS (rest := []) B (c_J18_bitCount l p0 hcr1) (va_cwS 1 hts (lw_S q1539 q1540 q146 q1541) rfl rfl rfl hd_J18_bitCount ⟨Nat.le_trans (Nat.le_of_ble_eq_true rfl : _ ≤ 40) (by show 40 ≤ rF + 1; omega), Nat.le_trans (Nat.le_of_ble_eq_true rfl : _ ≤ 1000) (by show 1000 ≤ rL + 26; omega)⟩) rfl hl.1 rfl (Nat.le_of_ble_eq_true rfl) dX0_singles_1 (x_room0 hX) ?_
  refine lv_istore_n (lv' := [(3, .int r1), (0, .ref o), (1, .int p0), (2, .int p1)]) hx hb dX0_singles_4 rfl hl (by decide) rfl (fun ls hl => ?_)
  refine lv_iload_n hx hb dX0_singles_5 rfl (lv_at hl 0 rfl) ?_
  refine lv_iconst (v := nI 1) hx hb dX0_singles_6 ic1 ?_
  refine lv_icmp_gt (tgt := 12) hx hb dX0_singles_7 (by decide) (fun c2 => ?_) (fun c2 => ?_)
  · have hf := it_pos c2 hf
    refine lv_iload_n hx hb dX0_singles_12 rfl (lv_at hl 0 rfl) ?_
    refine lv_iconst (v := nI 1) hx hb dX0_singles_13 ic1 ?_
    refine lv_iload_n hx hb dX0_singles_14 rfl (lv_at hl 3 rfl) ?_
    refine lv_ishl hx hb dX0_singles_15 ?_
    refine lv_icmp_le (tgt := 21) hx hb dX0_singles_16 (by decide) (fun c3 => ?_) (fun c3 => ?_)
    · have hf := it_pos c3 hf
      refine lv_iconst (v := nI 0) hx hb dX0_singles_21 ic0 ?_
      refine lv_istore (lv' := [(4, .int (nI 0)), (3, .int r1), (0, .ref o), (1, .int p0), (2, .int p1)]) hx hb dX0_singles_22 hl (by decide) rfl (fun ls hl => ?_)
      obtain ⟨y38, hxy38, hf⟩ := bnd_some hf
      have hy38 : (Sum.elim (fun t : Unit => ∀ (H : Heap) (locs : List Loc) (ls : Array Slot), x_I D S s H locs S → lv_has ls 7 [] → W p l e (x_R (rF + 1) (rL + 26) S) s m args below meth c H locs (xz S - xz S) (xu S - xu S) Q (F0 m 132 ls [])) (fun t : Unit => ∀ (H : Heap) (locs : List Loc) (ls : Array Slot), x_I D S s H locs S → lv_has ls 7 [] → W p l e (x_R (rF + 1) (rL + 26) S) s m args below meth c H locs (xz S - xz S) (xu S - xu S) Q (F0 m 140 ls []))) y38 := by
        rcases y38 with _ | _
        · have hf := el_l hf
          intro H locs ls hX hl
          refine lv_iconst (v := nI 1) hx hb dX0_singles_132 ic1 ?_
          cases hf
          exact hret _ _ _ _ rfl hX dX0_singles_133
        · have hf := el_r hf
          intro H locs ls hX hl
          refine lv_iconst (v := nI 0) hx hb dX0_singles_140 ic0 ?_
          cases hf
          exact hret _ _ _ _ rfl hX dX0_singles_141
      refine lp_W (step := (fun t : Int32 => f_X0_singles_L24 rec o p0 p1 S t)) (fun t : Int32 => ∀ (H : Heap) (locs : List Loc) (ls : Array Slot), x_I D S s H locs S → lv_has ls 7 [(0, .ref o), (1, .int p0), (2, .int p1), (4, .int t)] → W p l e (x_R (rF + 1) (rL + 26) S) s m args below meth c H locs (xz S - xz S) (xu S - xu S) Q (F0 m 24 ls [])) (Sum.elim (fun t : Unit => ∀ (H : Heap) (locs : List Loc) (ls : Array Slot), x_I D S s H locs S → lv_has ls 7 [] → W p l e (x_R (rF + 1) (rL + 26) S) s m args below meth c H locs (xz S - xz S) (xu S - xu S) Q (F0 m 132 ls [])) (fun t : Unit => ∀ (H : Heap) (locs : List Loc) (ls : Array Slot), x_I D S s H locs S → lv_has ls 7 [] → W p l e (x_R (rF + 1) (rL + 26) S) s m args below meth c H locs (xz S - xz S) (xu S - xu S) Q (F0 m 140 ls []))) ?_ fu (nI 0) y38 hxy38 hy38 _ _ _ hX (lv_sub hl [2, 3, 4, 0] rfl)
      clear hf hxy38 hy38
      rintro x4 oo (hf : f_X0_singles_L24 rec o p0 p1 S x4 = some oo) hk
      intro H locs ls hX hl
      unfold f_X0_singles_L24 at hf
      refine lv_iload hx hb dX0_singles_24 (lv_at hl 3 rfl) ?_
      refine lv_aload_n hx hb dX0_singles_26 rfl (lv_at hl 0 rfl) ?_
      obtain ⟨hk6, hf⟩ := chk_some hf
      obtain ⟨r5, hcr5, hf⟩ := bnd_some hf
      refine xr_callVC (rest := [.int x4]) (q := (RX0, TX0, 14)) B hX (c_X0_facts l D S o hcr5) hk6 rfl (by decide) q563 q511 (Or.inl q512) q103 q513 hd_X0_facts ⟨by omega, by omega⟩ rfl hl.1 rfl (Nat.le_of_ble_eq_true rfl) dX0_singles_27 (fun H locs hX => ?_)
      refine lv_icmp_ge (tgt := 140) hx hb dX0_singles_30 (by decide) (fun c7 => ?_) (fun c7 => ?_)
      · have hf := it_pos c7 hf
        cases hf
        exact hk _ _ _ hX (lv_sub hl [] rfl)
      · have hf := it_neg c7 hf
        refine lv_iconst (v := nI 0) hx hb dX0_singles_33 ic0 ?_
        refine lv_istore (lv' := [(5, .int (nI 0)), (0, .ref o), (1, .int p0), (2, .int p1), (4, .int x4)]) hx hb dX0_singles_34 hl (by decide) rfl (fun ls hl => ?_)
        refine lv_iconst (v := nI 0) hx hb dX0_singles_36 ic0 ?_
        refine lv_istore (lv' := [(6, .int (nI 0)), (5, .int (nI 0)), (0, .ref o), (1, .int p0), (2, .int p1), (4, .int x4)]) hx hb dX0_singles_37 hl (by decide) rfl (fun ls hl => ?_)
        obtain ⟨y25, hxy25, hf⟩ := bnd_some hf
        have hy25 : (fun t : Int32 => ∀ (H : Heap) (locs : List Loc) (ls : Array Slot), x_I D S s H locs S → lv_has ls 7 [(0, .ref o), (1, .int p0), (2, .int p1), (4, .int x4), (5, .int t)] → W p l e (x_R (rF + 1) (rL + 26) S) s m args below meth c H locs (xz S - xz S) (xu S - xu S) Q (F0 m 93 ls [])) y25 := by
          obtain ⟨x26, rfl⟩ : ∃ z, z = y25 := ⟨_, rfl⟩
          intro H locs ls hX hl
          refine lv_iload hx hb dX0_singles_93 (lv_at hl 4 rfl) ?_
          refine lv_if_eq (tgt := 134) hx hb dX0_singles_95 (by decide) (fun c27 => ?_) (fun c27 => ?_)
          · have hf := it_pos c27 hf
            obtain ⟨x28, ex28, hf⟩ := bd_some hf
            refine lv_iinc (v := x28) (lv' := [(4, .int x28), (0, .ref o), (1, .int p0), (2, .int p1), (5, .int x26)]) hx hb dX0_singles_134 hl (k := 3) rfl (by rw [ex28]; first | done | rfl) (by decide) rfl (fun ls hl => ?_)
            refine lv_goto (tgt := 24) hx hb dX0_singles_137 (by decide) ?_
            cases hf
            exact hk _ _ _ hX (lv_sub hl [1, 2, 3, 0] rfl)
          · have hf := it_neg c27 hf
            refine lv_iload hx hb dX0_singles_98 (lv_at hl 4 rfl) ?_
            refine lv_iload_n hx hb dX0_singles_100 rfl (lv_at hl 1 rfl) ?_
            refine lv_icmp_eq (tgt := 134) hx hb dX0_singles_101 (by decide) (fun c29 => ?_) (fun c29 => ?_)
            · have hf := it_pos c29 hf
              obtain ⟨x30, ex30, hf⟩ := bd_some hf
              refine lv_iinc (v := x30) (lv' := [(4, .int x30), (0, .ref o), (1, .int p0), (2, .int p1), (5, .int x26)]) hx hb dX0_singles_134 hl (k := 3) rfl (by rw [ex30]; first | done | rfl) (by decide) rfl (fun ls hl => ?_)
              refine lv_goto (tgt := 24) hx hb dX0_singles_137 (by decide) ?_
              cases hf
              exact hk _ _ _ hX (lv_sub hl [1, 2, 3, 0] rfl)
            · have hf := it_neg c29 hf
              refine lv_aload_n hx hb dX0_singles_104 rfl (lv_at hl 0 rfl) ?_
              refine lv_iload hx hb dX0_singles_105 (lv_at hl 4 rfl) ?_
              refine lv_iload_n hx hb dX0_singles_107 rfl (lv_at hl 2 rfl) ?_
              refine lv_iconst (v := nI 1) hx hb dX0_singles_108 ic1 ?_
              refine lv_isub hx hb dX0_singles_109 ?_
              obtain ⟨r31, hcr31, hf⟩ := bnd_some hf
              refine xr_callVC (rest := []) (q := (RX0, TX0, 14)) B hX (hrec _ _ _ _ _ hcr31) hk6 rfl (by decide) q1586 q1588 (Or.inl qs44) q103 q1589 hd_X0_singles ⟨by omega, by omega⟩ rfl hl.1 rfl (Nat.le_of_ble_eq_true rfl) dX0_singles_110 (fun H locs hX => ?_)
              refine lv_if_eq (tgt := 134) hx hb dX0_singles_113 (by decide) (fun c32 => ?_) (fun c32 => ?_)
              · have hf := it_pos c32 hf
                obtain ⟨x33, ex33, hf⟩ := bd_some hf
                refine lv_iinc (v := x33) (lv' := [(4, .int x33), (0, .ref o), (1, .int p0), (2, .int p1), (5, .int x26)]) hx hb dX0_singles_134 hl (k := 3) rfl (by rw [ex33]; first | done | rfl) (by decide) rfl (fun ls hl => ?_)
                refine lv_goto (tgt := 24) hx hb dX0_singles_137 (by decide) ?_
                cases hf
                exact hk _ _ _ hX (lv_sub hl [1, 2, 3, 0] rfl)
              · have hf := it_neg c32 hf
                refine lv_aload_n hx hb dX0_singles_116 rfl (lv_at hl 0 rfl) ?_
                refine lv_iload_n hx hb dX0_singles_117 rfl (lv_at hl 1 rfl) ?_
                refine lv_iload hx hb dX0_singles_118 (lv_at hl 4 rfl) ?_
                refine lv_iconst (v := (-1)) hx hb dX0_singles_120 icm1 ?_
                refine lv_ixor hx hb dX0_singles_121 ?_
                refine lv_iand hx hb dX0_singles_122 ?_
                refine lv_iload_n hx hb dX0_singles_123 rfl (lv_at hl 2 rfl) ?_
                refine lv_iconst (v := nI 1) hx hb dX0_singles_124 ic1 ?_
                refine lv_isub hx hb dX0_singles_125 ?_
                obtain ⟨r34, hcr34, hf⟩ := bnd_some hf
                refine xr_callVC (rest := []) (q := (RX0, TX0, 14)) B hX (hrec _ _ _ _ _ hcr34) hk6 rfl (by decide) q1586 q1588 (Or.inl qs44) q103 q1589 hd_X0_singles ⟨by omega, by omega⟩ rfl hl.1 rfl (Nat.le_of_ble_eq_true rfl) dX0_singles_126 (fun H locs hX => ?_)
                refine lv_if_eq (tgt := 134) hx hb dX0_singles_129 (by decide) (fun c35 => ?_) (fun c35 => ?_)
                · have hf := it_pos c35 hf
                  obtain ⟨x36, ex36, hf⟩ := bd_some hf
                  refine lv_iinc (v := x36) (lv' := [(4, .int x36), (0, .ref o), (1, .int p0), (2, .int p1), (5, .int x26)]) hx hb dX0_singles_134 hl (k := 3) rfl (by rw [ex36]; first | done | rfl) (by decide) rfl (fun ls hl => ?_)
                  refine lv_goto (tgt := 24) hx hb dX0_singles_137 (by decide) ?_
                  cases hf
                  exact hk _ _ _ hX (lv_sub hl [1, 2, 3, 0] rfl)
                · have hf := it_neg c35 hf
                  cases hf
                  exact hk _ _ _ hX (lv_sub hl [] rfl)
        refine lp_W (step := (fun t : Int32 × Int32 => f_X0_singles_L39 o p0 S x4 t.1 t.2)) (fun t : Int32 × Int32 => ∀ (H : Heap) (locs : List Loc) (ls : Array Slot), x_I D S s H locs S → lv_has ls 7 [(0, .ref o), (1, .int p0), (2, .int p1), (4, .int x4), (5, .int t.1), (6, .int t.2)] → W p l e (x_R (rF + 1) (rL + 26) S) s m args below meth c H locs (xz S - xz S) (xu S - xu S) Q (F0 m 39 ls [])) (fun t : Int32 => ∀ (H : Heap) (locs : List Loc) (ls : Array Slot), x_I D S s H locs S → lv_has ls 7 [(0, .ref o), (1, .int p0), (2, .int p1), (4, .int x4), (5, .int t)] → W p l e (x_R (rF + 1) (rL + 26) S) s m args below meth c H locs (xz S - xz S) (xu S - xu S) Q (F0 m 93 ls [])) ?_ fu (nI 0, nI 0) y25 hxy25 hy25 _ _ _ hX (lv_sub hl [2, 3, 4, 5, 1, 0] rfl)
        clear hf hxy25 hy25
        rintro ⟨x8, x9⟩ oo (hf : f_X0_singles_L39 o p0 S x4 x8 x9 = some oo) hk
        intro H locs ls hX hl
        unfold f_X0_singles_L39 at hf
        refine lv_iload hx hb dX0_singles_39 (lv_at hl 5 rfl) ?_
        refine lv_aload_n hx hb dX0_singles_41 rfl (lv_at hl 0 rfl) ?_
        obtain ⟨b10, hb10, hf⟩ := bnd_some hf
        refine xr_get (q := (RX0, TX0, 14)) B hX 13 hk6 rfl (by decide) (by decide) (v := .ref b10) (x_Vr (c := 1) (j := 13) rfl (by decide) hb10) q353 (fun _ h => h) dX0_singles_42 ?_
        obtain ⟨hk11, hf⟩ := chk_some hf
        refine xr_alen B hX hk11 rfl (by decide) dX0_singles_45 ?_
        refine lv_icmp_ge (tgt := 93) hx hb dX0_singles_46 (by decide) (fun c12 => ?_) (fun c12 => ?_)
        · have hf := it_pos c12 hf
          cases hf
          exact hk _ _ _ hX (lv_sub hl [0, 1, 2, 3, 4] rfl)
        · have hf := it_neg c12 hf
          refine lv_iload_n hx hb dX0_singles_49 rfl (lv_at hl 1 rfl) ?_
          refine lv_iload hx hb dX0_singles_50 (lv_at hl 5 rfl) ?_
          obtain ⟨r13, hcr13, hf⟩ := bnd_some hf
          refine pr_callS (rest := []) B (c_X0_has l p0 x9 hcr13) (va_cwS 2 hts (lw_S q1405 q1302 q103 q1303) rfl rfl rfl hd_X0_has ⟨Nat.le_trans (Nat.le_of_ble_eq_true rfl : _ ≤ 40) (by show 40 ≤ rF + 1; omega), Nat.le_trans (Nat.le_of_ble_eq_true rfl : _ ≤ 1000) (by show 1000 ≤ rL + 26; omega)⟩) rfl hl.1 rfl (Nat.le_of_ble_eq_true rfl) dX0_singles_52 (x_room0 hX) ?_
          refine lv_if_eq (tgt := 87) hx hb dX0_singles_55 (by decide) (fun c14 => ?_) (fun c14 => ?_)
          · have hf := it_pos c14 hf
            obtain ⟨x15, ex15, hf⟩ := bd_some hf
            refine lv_iinc (v := x15) (lv' := [(6, .int x15), (0, .ref o), (1, .int p0), (2, .int p1), (4, .int x4), (5, .int x8)]) hx hb dX0_singles_87 hl (k := 5) rfl (by rw [ex15]; first | done | rfl) (by decide) rfl (fun ls hl => ?_)
            refine lv_goto (tgt := 39) hx hb dX0_singles_90 (by decide) ?_
            cases hf
            exact hk _ _ _ hX (lv_sub hl [1, 2, 3, 4, 5, 0] rfl)
          · have hf := it_neg c14 hf
            refine lv_aload_n hx hb dX0_singles_58 rfl (lv_at hl 0 rfl) ?_
            obtain ⟨b16, hb16, hf⟩ := bnd_some hf
            refine xr_get (q := (RX0, TX0, 14)) B hX 13 hk6 rfl (by decide) (by decide) (v := .ref b16) (x_Vr (c := 1) (j := 13) rfl (by decide) hb16) q353 (fun _ h => h) dX0_singles_59 ?_
            refine lv_iload hx hb dX0_singles_62 (lv_at hl 5 rfl) ?_
            obtain ⟨hk17, hf⟩ := chk_some hf
            obtain ⟨v18, ev18, hiv18, hf⟩ := ald_some hf
            refine xr_iald B hX hk17 hiv18 ev18 dX0_singles_64 ?_
            refine lv_i2l (v := v18.toInt64) hx hb dX0_singles_65 rfl ?_
            refine lv_aload_n hx hb dX0_singles_66 rfl (lv_at hl 0 rfl) ?_
            refine lv_iload hx hb dX0_singles_67 (lv_at hl 3 rfl) ?_
            obtain ⟨r19, hcr19, hf⟩ := bnd_some hf
            refine xr_callVC (rest := [.long v18.toInt64]) (q := (RX0, TX0, 14)) B hX (c_X0_bit l D S o x4 hcr19) hk6 rfl (by decide) q559 q561 (Or.inl qs6) q103 q562 hd_X0_bit ⟨by omega, by omega⟩ rfl hl.1 rfl (Nat.le_of_ble_eq_true rfl) dX0_singles_69 (fun H locs hX => ?_)
            refine lv_land hx hb dX0_singles_72 ?_
            refine lv_lconst (v := 0) hx hb dX0_singles_73 (by decide) ?_
            refine W.lcmp hx hb dX0_singles_74 ?_
            refine lv_if_eq (tgt := 87) hx hb dX0_singles_75 (by decide) (fun c20 => ?_) (fun c20 => ?_)
            · have hf := it_pos c20 hf
              obtain ⟨x21, ex21, hf⟩ := bd_some hf
              refine lv_iinc (v := x21) (lv' := [(6, .int x21), (0, .ref o), (1, .int p0), (2, .int p1), (4, .int x4), (5, .int x8)]) hx hb dX0_singles_87 hl (k := 5) rfl (by rw [ex21]; first | done | rfl) (by decide) rfl (fun ls hl => ?_)
              refine lv_goto (tgt := 39) hx hb dX0_singles_90 (by decide) ?_
              cases hf
              exact hk _ _ _ hX (lv_sub hl [1, 2, 3, 4, 5, 0] rfl)
            · have hf := it_neg c20 hf
              refine lv_iload hx hb dX0_singles_78 (lv_at hl 4 rfl) ?_
              refine lv_iconst (v := nI 1) hx hb dX0_singles_80 ic1 ?_
              refine lv_iload hx hb dX0_singles_81 (lv_at hl 5 rfl) ?_
              refine lv_ishl hx hb dX0_singles_83 ?_
              refine lv_ior hx hb dX0_singles_84 ?_
              refine lv_topi (fun x22 ex22 => ?_)
              have hf := bd_at ex22 hf
              refine lv_istore (lv' := [(5, .int x22), (0, .ref o), (1, .int p0), (2, .int p1), (4, .int x4), (6, .int x9)]) hx hb dX0_singles_85 hl (by decide) rfl (fun ls hl => ?_)
              obtain ⟨x23, ex23, hf⟩ := bd_some hf
              refine lv_iinc (v := x23) (lv' := [(6, .int x23), (5, .int x22), (0, .ref o), (1, .int p0), (2, .int p1), (4, .int x4)]) hx hb dX0_singles_87 hl (k := 5) rfl (by rw [ex23]; first | done | rfl) (by decide) rfl (fun ls hl => ?_)
              refine lv_goto (tgt := 39) hx hb dX0_singles_90 (by decide) ?_
              cases hf
              exact hk _ _ _ hX (lv_sub hl [2, 3, 4, 5, 1, 0] rfl)
    · have hf := it_neg c3 hf
      refine lv_iconst (v := nI 0) hx hb dX0_singles_19 ic0 ?_
      cases hf
      exact hret _ _ _ _ rfl hX dX0_singles_20
  · have hf := it_neg c2 hf
    refine lv_iconst (v := nI 1) hx hb dX0_singles_10 ic1 ?_
    cases hf
    exact hret _ _ _ _ rfl hX dX0_singles_11
def g_singles : Nat → XS → Nat → Int32 → Int32 → Option Int32
  | 0 => fun _ _ _ _ => none
  | n + 1 => fun S o a b => f_X0_singles (g_singles n) S o a b
theorem k_singles (l : Launch) (D : XD) : ∀ n, x_R_singles l D (40 + 1 * n) (1000 + 26 * n) (g_singles n)
  | 0 => fun S o a b r hf => by cases hf
  | n + 1 => fun S o a b r hf => by
    rw [g_singles] at hf
    exact c_X0_singles l D ⟨by omega, by omega⟩ (k_singles l D n) S o a b hf
def f_X0_questions_L22 (o : Nat) (r5 : Int32) (x7 : Int32) (x8 : Int32) (S9 : XS) : Option ((Int32 × Int32 × XS) ⊕ ((Int32 × XS))) :=
  chk (xk S9 o = 1) <| bnd (f_X0_rows S9 o) fun r10 => (if r10 ≤ x8 then some (.inr (x7, S9)) else bnd (f_X0_isWorld S9 o x8 r5) fun r13 => (if r13 = 0 then bd (x8 + nI 1) fun x26 => some (.inl (x7, x26, S9)) else bnd (xr S9 113 o 0) fun b15 => chk (xk S9 b15 = 52) <| (if (nI (xn S9 b15)) ≤ x7 then bd (x7 + nI 1) fun x18 => bd (x8 + nI 1) fun x19 => some (.inl (x18, x19, S9)) else bnd (xr S9 113 o 0) fun b20 => chk (xk S9 b20 = 52) <| chk (xb S9 ≤ b20) <| ast (xn S9 b20) x7 (s_i S9 52 b20 x7.toNatClampNeg x8) fun S23 => bd (x7 + nI 1) fun x24 => bd (x8 + nI 1) fun x25 => some (.inl (x24, x25, S23)))))
def f_X0_questions_L84 (o : Nat) (x29 : Int32) (S30 : XS) (x36 : Int32) : Option ((Int32) ⊕ ((Int32) ⊕ (Unit))) :=
  (if nI 4 < x36 then some (.inr (.inr ())) else bnd (g_singles 8 S30 o ((nI 1 <<< (x29 &&& 31)) - nI 1) x36) fun r38 => (if r38 = 0 then bd (x36 + nI 1) fun x40 => some (.inl x40) else some (.inr (.inl x36))))
def f_X0_questions (S : XS) (o : Nat) : Option (Int32 × XS) :=
  chk (xk S o = 1) <| bnd (f_X0_isTold S o) fun r1 => (if r1 = 0 then some ((-1), S) else bnd (f_X0_looks S o) fun S4 => chk (xk S4 o = 1) <| bnd (f_X0_needed S4 o) fun r5 => bnd (wO (fun t : Int32 × Int32 × XS => f_X0_questions_L22 o r5 t.1 t.2.1 t.2.2) fu (nI 0, nI 0, S4)) <| u2 fun x29 S30 => (if x29 = 0 then some ((-1), S30) else chk (xk S30 o = 1) <| bnd (xr S30 113 o 0) fun b33 => chk (xk S30 b33 = 52) <| (if x29 ≤ (nI (xn S30 b33)) then bnd (wO (fun t : Int32 => f_X0_questions_L84 o x29 S30 t) fu (nI 0)) (Sum.elim (fun x43 => some (x43, S30)) (fun _ => some ((-1), S30))) else some ((-1), S30))))
set_option maxHeartbeats 4000000 in
set_option maxRecDepth 100000 in
theorem c_X0_questions (l : Launch) (D : XD) (S : XS) (o : Nat) {r : Int32} {S' : XS} (hf : f_X0_questions S o = some (r, S')) : x_Met l yX0_questions cX0_questions 4 (Option.some Jvm.ClassFile.FieldType.int) 119 2776 D [.ref o] S (some (.int r)) S' := by
  refine x_metI RX0 (by decide) rfl (Nat.le_of_ble_eq_true rfl) (fun p e s m args below meth c Q B hnm hret H locs hX ls hl => ?_)
  have hx := B.1
  have hb := B.2.1
  have hml := B.2.2.1
  have hown := B.2.2.2.1
  have hts := B.2.2.2.2
  have hl : lv_has ls 4 [(0, .ref o)] := hl
  unfold f_X0_questions at hf
  refine lv_aload_n hx hb dX0_questions_0 rfl (lv_at hl 0 rfl) ?_
  obtain ⟨hk2, hf⟩ := chk_some hf
  obtain ⟨r1, hcr1, hf⟩ := bnd_some hf
  refine xr_callVC (rest := []) (q := (RX0, TX0, 14)) B hX (c_X0_isTold l D S o hcr1) hk2 rfl (by decide) q1406 q1408 (Or.inl qs29) q103 q1409 hd_X0_isTold ⟨Nat.le_of_ble_eq_true rfl, Nat.le_of_ble_eq_true rfl⟩ rfl hl.1 rfl (Nat.le_of_ble_eq_true rfl) dX0_questions_1 (fun H locs hX => ?_)
  refine lv_if_ne (tgt := 9) hx hb dX0_questions_4 (by decide) (fun c3 => ?_) (fun c3 => ?_)
  · have hf := it_neg c3 hf
    refine lv_aload_n hx hb dX0_questions_9 rfl (lv_at hl 0 rfl) ?_
    obtain ⟨S4, hcS4, hf⟩ := bnd_some hf
    refine xr_callVC (rest := []) (q := (RX0, TX0, 14)) B hX (c_X0_looks l D S o hcS4) hk2 rfl (by decide) q1452 q1454 (Or.inl qs31) q103 q1455 hd_X0_looks ⟨Nat.le_of_ble_eq_true rfl, Nat.le_of_ble_eq_true rfl⟩ rfl hl.1 rfl (Nat.le_of_ble_eq_true rfl) dX0_questions_10 (fun H locs hX => ?_)
    refine lv_aload_n hx hb dX0_questions_13 rfl (lv_at hl 0 rfl) ?_
    obtain ⟨hk6, hf⟩ := chk_some hf
    obtain ⟨r5, hcr5, hf⟩ := bnd_some hf
    refine xr_callVC (rest := []) (q := (RX0, TX0, 14)) B hX (c_X0_needed l D S4 o hcr5) hk6 rfl (by decide) q1469 q1471 (Or.inl qs34) q103 q1472 hd_X0_needed ⟨Nat.le_of_ble_eq_true rfl, Nat.le_of_ble_eq_true rfl⟩ rfl hl.1 rfl (Nat.le_of_ble_eq_true rfl) dX0_questions_14 (fun H locs hX => ?_)
    refine lv_istore_n (lv' := [(1, .int r5), (0, .ref o)]) hx hb dX0_questions_17 rfl hl (by decide) rfl (fun ls hl => ?_)
    refine lv_iconst (v := nI 0) hx hb dX0_questions_18 ic0 ?_
    refine lv_istore_n (lv' := [(2, .int (nI 0)), (1, .int r5), (0, .ref o)]) hx hb dX0_questions_19 rfl hl (by decide) rfl (fun ls hl => ?_)
    refine lv_iconst (v := nI 0) hx hb dX0_questions_20 ic0 ?_
    refine lv_istore_n (lv' := [(3, .int (nI 0)), (2, .int (nI 0)), (1, .int r5), (0, .ref o)]) hx hb dX0_questions_21 rfl hl (by decide) rfl (fun ls hl => ?_)
    obtain ⟨y28, hxy28, hf⟩ := bnd_some hf
    have hy28 : (fun t : Int32 × XS => ∀ (H : Heap) (locs : List Loc) (ls : Array Slot), x_I D S s H locs t.2 → lv_has ls 4 [(0, .ref o), (2, .int t.1)] → W p l e (x_R 119 2776 S) s m args below meth c H locs (xz t.2 - xz S) (xu t.2 - xu S) Q (F0 m 67 ls [])) y28 := by
      rcases y28 with ⟨x29, S30⟩
      have hf := u2_at hf
      intro H locs ls hX hl
      refine lv_iload_n hx hb dX0_questions_67 rfl (lv_at hl 1 rfl) ?_
      refine lv_if_eq (tgt := 80) hx hb dX0_questions_68 (by decide) (fun c31 => ?_) (fun c31 => ?_)
      · have hf := it_pos c31 hf
        refine lv_iconst (v := (-1)) hx hb dX0_questions_80 icm1 ?_
        cases hf
        exact hret _ _ _ _ rfl hX dX0_questions_81
      · have hf := it_neg c31 hf
        refine lv_iload_n hx hb dX0_questions_71 rfl (lv_at hl 1 rfl) ?_
        refine lv_aload_n hx hb dX0_questions_72 rfl (lv_at hl 0 rfl) ?_
        obtain ⟨hk32, hf⟩ := chk_some hf
        obtain ⟨b33, hb33, hf⟩ := bnd_some hf
        refine xr_get (q := (RX0, TX0, 14)) B hX 13 hk32 rfl (by decide) (by decide) (v := .ref b33) (x_Vr (c := 1) (j := 13) rfl (by decide) hb33) q353 (fun _ h => h) dX0_questions_73 ?_
        obtain ⟨hk34, hf⟩ := chk_some hf
        refine xr_alen B hX hk34 rfl (by decide) dX0_questions_76 ?_
        refine lv_icmp_le (tgt := 82) hx hb dX0_questions_77 (by decide) (fun c35 => ?_) (fun c35 => ?_)
        · have hf := it_pos c35 hf
          refine lv_iconst (v := nI 0) hx hb dX0_questions_82 ic0 ?_
          refine lv_istore_n (lv' := [(3, .int (nI 0)), (0, .ref o), (2, .int x29)]) hx hb dX0_questions_83 rfl hl (by decide) rfl (fun ls hl => ?_)
          obtain ⟨y42, hxy42, hf⟩ := bnd_some hf
          have hy42 : (Sum.elim (fun t : Int32 => ∀ (H : Heap) (locs : List Loc) (ls : Array Slot), x_I D S s H locs S30 → lv_has ls 4 [(3, .int t)] → W p l e (x_R 119 2776 S) s m args below meth c H locs (xz S30 - xz S) (xu S30 - xu S) Q (F0 m 102 ls [])) (fun t : Unit => ∀ (H : Heap) (locs : List Loc) (ls : Array Slot), x_I D S s H locs S30 → lv_has ls 4 [] → W p l e (x_R 119 2776 S) s m args below meth c H locs (xz S30 - xz S) (xu S30 - xu S) Q (F0 m 110 ls []))) y42 := by
            rcases y42 with x43 | _
            · have hf := el_l hf
              intro H locs ls hX hl
              refine lv_iload_n hx hb dX0_questions_102 rfl (lv_at hl 0 rfl) ?_
              cases hf
              exact hret _ _ _ _ rfl hX dX0_questions_103
            · have hf := el_r hf
              intro H locs ls hX hl
              refine lv_iconst (v := (-1)) hx hb dX0_questions_110 icm1 ?_
              cases hf
              exact hret _ _ _ _ rfl hX dX0_questions_111
          refine lp_W (step := (fun t : Int32 => f_X0_questions_L84 o x29 S30 t)) (fun t : Int32 => ∀ (H : Heap) (locs : List Loc) (ls : Array Slot), x_I D S s H locs S30 → lv_has ls 4 [(0, .ref o), (2, .int x29), (3, .int t)] → W p l e (x_R 119 2776 S) s m args below meth c H locs (xz S30 - xz S) (xu S30 - xu S) Q (F0 m 84 ls [])) (Sum.elim (fun t : Int32 => ∀ (H : Heap) (locs : List Loc) (ls : Array Slot), x_I D S s H locs S30 → lv_has ls 4 [(3, .int t)] → W p l e (x_R 119 2776 S) s m args below meth c H locs (xz S30 - xz S) (xu S30 - xu S) Q (F0 m 102 ls [])) (fun t : Unit => ∀ (H : Heap) (locs : List Loc) (ls : Array Slot), x_I D S s H locs S30 → lv_has ls 4 [] → W p l e (x_R 119 2776 S) s m args below meth c H locs (xz S30 - xz S) (xu S30 - xu S) Q (F0 m 110 ls []))) ?_ fu (nI 0) y42 hxy42 hy42 _ _ _ hX (lv_sub hl [1, 2, 0] rfl)
          clear hf hxy42 hy42
          rintro x36 oo (hf : f_X0_questions_L84 o x29 S30 x36 = some oo) hk
          intro H locs ls hX hl
          unfold f_X0_questions_L84 at hf
          refine lv_iload_n hx hb dX0_questions_84 rfl (lv_at hl 2 rfl) ?_
          refine lv_iconst (v := nI 4) hx hb dX0_questions_85 ic4 ?_
          refine lv_icmp_gt (tgt := 110) hx hb dX0_questions_86 (by decide) (fun c37 => ?_) (fun c37 => ?_)
          · have hf := it_pos c37 hf
            cases hf
            exact hk _ _ _ hX (lv_sub hl [] rfl)
          · have hf := it_neg c37 hf
            refine lv_aload_n hx hb dX0_questions_89 rfl (lv_at hl 0 rfl) ?_
            refine lv_iconst (v := nI 1) hx hb dX0_questions_90 ic1 ?_
            refine lv_iload_n hx hb dX0_questions_91 rfl (lv_at hl 1 rfl) ?_
            refine lv_ishl hx hb dX0_questions_92 ?_
            refine lv_iconst (v := nI 1) hx hb dX0_questions_93 ic1 ?_
            refine lv_isub hx hb dX0_questions_94 ?_
            refine lv_iload_n hx hb dX0_questions_95 rfl (lv_at hl 2 rfl) ?_
            obtain ⟨r38, hcr38, hf⟩ := bnd_some hf
            refine xr_callVC (rest := []) (q := (RX0, TX0, 14)) B hX (k_singles l D 8 _ _ _ _ _ hcr38) hk32 rfl (by decide) q1586 q1588 (Or.inl qs44) q103 q1589 hd_X0_singles ⟨Nat.le_of_ble_eq_true rfl, Nat.le_of_ble_eq_true rfl⟩ rfl hl.1 rfl (Nat.le_of_ble_eq_true rfl) dX0_questions_96 (fun H locs hX => ?_)
            refine lv_if_eq (tgt := 104) hx hb dX0_questions_99 (by decide) (fun c39 => ?_) (fun c39 => ?_)
            · have hf := it_pos c39 hf
              obtain ⟨x40, ex40, hf⟩ := bd_some hf
              refine lv_iinc (v := x40) (lv' := [(3, .int x40), (0, .ref o), (2, .int x29)]) hx hb dX0_questions_104 hl (k := 2) rfl (by rw [ex40]; first | done | rfl) (by decide) rfl (fun ls hl => ?_)
              refine lv_goto (tgt := 84) hx hb dX0_questions_107 (by decide) ?_
              cases hf
              exact hk _ _ _ hX (lv_sub hl [1, 2, 0] rfl)
            · have hf := it_neg c39 hf
              cases hf
              exact hk _ _ _ hX (lv_sub hl [2] rfl)
        · have hf := it_neg c35 hf
          refine lv_iconst (v := (-1)) hx hb dX0_questions_80 icm1 ?_
          cases hf
          exact hret _ _ _ _ rfl hX dX0_questions_81
    refine lp_W (step := (fun t : Int32 × Int32 × XS => f_X0_questions_L22 o r5 t.1 t.2.1 t.2.2)) (fun t : Int32 × Int32 × XS => ∀ (H : Heap) (locs : List Loc) (ls : Array Slot), x_I D S s H locs t.2.2 → lv_has ls 4 [(0, .ref o), (1, .int r5), (2, .int t.1), (3, .int t.2.1)] → W p l e (x_R 119 2776 S) s m args below meth c H locs (xz t.2.2 - xz S) (xu t.2.2 - xu S) Q (F0 m 22 ls [])) (fun t : Int32 × XS => ∀ (H : Heap) (locs : List Loc) (ls : Array Slot), x_I D S s H locs t.2 → lv_has ls 4 [(0, .ref o), (2, .int t.1)] → W p l e (x_R 119 2776 S) s m args below meth c H locs (xz t.2 - xz S) (xu t.2 - xu S) Q (F0 m 67 ls [])) ?_ fu (nI 0, nI 0, S4) y28 hxy28 hy28 _ _ _ hX (lv_sub hl [3, 2, 1, 0] rfl)
    clear hf hxy28 hy28
    rintro ⟨x7, x8, S9⟩ oo (hf : f_X0_questions_L22 o r5 x7 x8 S9 = some oo) hk
    intro H locs ls hX hl
    unfold f_X0_questions_L22 at hf
    refine lv_iload_n hx hb dX0_questions_22 rfl (lv_at hl 3 rfl) ?_
    refine lv_aload_n hx hb dX0_questions_23 rfl (lv_at hl 0 rfl) ?_
    obtain ⟨hk11, hf⟩ := chk_some hf
    obtain ⟨r10, hcr10, hf⟩ := bnd_some hf
    refine xr_callVC (rest := [.int x8]) (q := (RX0, TX0, 14)) B hX (c_X0_rows l D S9 o hcr10) hk11 rfl (by decide) q1465 q1467 (Or.inl qs33) q103 q1468 hd_X0_rows ⟨Nat.le_of_ble_eq_true rfl, Nat.le_of_ble_eq_true rfl⟩ rfl hl.1 rfl (Nat.le_of_ble_eq_true rfl) dX0_questions_24 (fun H locs hX => ?_)
    refine lv_icmp_ge (tgt := 67) hx hb dX0_questions_27 (by decide) (fun c12 => ?_) (fun c12 => ?_)
    · have hf := it_pos c12 hf
      cases hf
      exact hk _ _ _ hX (lv_sub hl [0, 2] rfl)
    · have hf := it_neg c12 hf
      refine lv_aload_n hx hb dX0_questions_30 rfl (lv_at hl 0 rfl) ?_
      refine lv_iload_n hx hb dX0_questions_31 rfl (lv_at hl 3 rfl) ?_
      refine lv_iload_n hx hb dX0_questions_32 rfl (lv_at hl 1 rfl) ?_
      obtain ⟨r13, hcr13, hf⟩ := bnd_some hf
      refine xr_callVC (rest := []) (q := (RX0, TX0, 14)) B hX (c_X0_isWorld l D S9 o x8 r5 hcr13) hk11 rfl (by decide) q1477 q1479 (Or.inl qs36) q103 q1480 hd_X0_isWorld ⟨Nat.le_of_ble_eq_true rfl, Nat.le_of_ble_eq_true rfl⟩ rfl hl.1 rfl (Nat.le_of_ble_eq_true rfl) dX0_questions_33 (fun H locs hX => ?_)
      refine lv_if_ne (tgt := 42) hx hb dX0_questions_36 (by decide) (fun c14 => ?_) (fun c14 => ?_)
      · have hf := it_neg c14 hf
        refine lv_iload_n hx hb dX0_questions_42 rfl (lv_at hl 2 rfl) ?_
        refine lv_aload_n hx hb dX0_questions_43 rfl (lv_at hl 0 rfl) ?_
        obtain ⟨b15, hb15, hf⟩ := bnd_some hf
        refine xr_get (q := (RX0, TX0, 14)) B hX 13 hk11 rfl (by decide) (by decide) (v := .ref b15) (x_Vr (c := 1) (j := 13) rfl (by decide) hb15) q353 (fun _ h => h) dX0_questions_44 ?_
        obtain ⟨hk16, hf⟩ := chk_some hf
        refine xr_alen B hX hk16 rfl (by decide) dX0_questions_47 ?_
        refine lv_icmp_ge (tgt := 58) hx hb dX0_questions_48 (by decide) (fun c17 => ?_) (fun c17 => ?_)
        · have hf := it_pos c17 hf
          obtain ⟨x18, ex18, hf⟩ := bd_some hf
          refine lv_iinc (v := x18) (lv' := [(2, .int x18), (0, .ref o), (1, .int r5), (3, .int x8)]) hx hb dX0_questions_58 hl (k := 2) rfl (by rw [ex18]; first | done | rfl) (by decide) rfl (fun ls hl => ?_)
          obtain ⟨x19, ex19, hf⟩ := bd_some hf
          refine lv_iinc (v := x19) (lv' := [(3, .int x19), (2, .int x18), (0, .ref o), (1, .int r5)]) hx hb dX0_questions_61 hl (k := 3) rfl (by rw [ex19]; first | done | rfl) (by decide) rfl (fun ls hl => ?_)
          refine lv_goto (tgt := 22) hx hb dX0_questions_64 (by decide) ?_
          cases hf
          exact hk _ _ _ hX (lv_sub hl [2, 3, 1, 0] rfl)
        · have hf := it_neg c17 hf
          refine lv_aload_n hx hb dX0_questions_51 rfl (lv_at hl 0 rfl) ?_
          obtain ⟨b20, hb20, hf⟩ := bnd_some hf
          refine xr_get (q := (RX0, TX0, 14)) B hX 13 hk11 rfl (by decide) (by decide) (v := .ref b20) (x_Vr (c := 1) (j := 13) rfl (by decide) hb20) q353 (fun _ h => h) dX0_questions_52 ?_
          refine lv_iload_n hx hb dX0_questions_55 rfl (lv_at hl 2 rfl) ?_
          refine lv_iload_n hx hb dX0_questions_56 rfl (lv_at hl 3 rfl) ?_
          obtain ⟨hk21, hf⟩ := chk_some hf
          obtain ⟨hw22, hf⟩ := chk_some hf
          obtain ⟨S23, eS23, hiS23, hf⟩ := ast_some hf
          refine xr_iast B hX hk21 hw22 hiS23 eS23 dX0_questions_57 (fun H locs hX => ?_)
          refine w_i eS23 ?_
          have hk11 := ks_i eS23 hk11
          have hk16 := ks_i eS23 hk16
          have hk21 := ks_i eS23 hk21
          have hw22 := kw_i eS23 hw22
          obtain ⟨x24, ex24, hf⟩ := bd_some hf
          refine lv_iinc (v := x24) (lv' := [(2, .int x24), (0, .ref o), (1, .int r5), (3, .int x8)]) hx hb dX0_questions_58 hl (k := 2) rfl (by rw [ex24]; first | done | rfl) (by decide) rfl (fun ls hl => ?_)
          obtain ⟨x25, ex25, hf⟩ := bd_some hf
          refine lv_iinc (v := x25) (lv' := [(3, .int x25), (2, .int x24), (0, .ref o), (1, .int r5)]) hx hb dX0_questions_61 hl (k := 3) rfl (by rw [ex25]; first | done | rfl) (by decide) rfl (fun ls hl => ?_)
          refine lv_goto (tgt := 22) hx hb dX0_questions_64 (by decide) ?_
          cases hf
          exact hk _ _ _ hX (lv_sub hl [2, 3, 1, 0] rfl)
      · have hf := it_pos c14 hf
        refine lv_goto (tgt := 61) hx hb dX0_questions_39 (by decide) ?_
        obtain ⟨x26, ex26, hf⟩ := bd_some hf
        refine lv_iinc (v := x26) (lv' := [(3, .int x26), (0, .ref o), (1, .int r5), (2, .int x7)]) hx hb dX0_questions_61 hl (k := 3) rfl (by rw [ex26]; first | done | rfl) (by decide) rfl (fun ls hl => ?_)
        refine lv_goto (tgt := 22) hx hb dX0_questions_64 (by decide) ?_
        cases hf
        exact hk _ _ _ hX (lv_sub hl [1, 2, 3, 0] rfl)
  · have hf := it_pos c3 hf
    refine lv_iconst (v := (-1)) hx hb dX0_questions_7 icm1 ?_
    cases hf
    exact hret _ _ _ _ rfl hX dX0_questions_8
def f_X0_settle_L55 (o : Nat) (S8 : XS) (r9 : Int32) (r11 : Int32) (x13 : Int32) (x14 : Int32) (x15 : Int32) : Option ((Int32 × Int32 × Int32) ⊕ ((Int32 × Int32))) :=
  bnd (f_X0_facts S8 o) fun r16 => (if r16 ≤ x15 then some (.inr (x13, x14)) else bnd (f_X0_soIn S8 o x15 r9) fun r18 => bd (if r18 < (r11 - r18) then (r11 - r18) else r18) fun x19 => (if x13 = (-1) then bd (x15 + nI 1) fun x21 => some (.inl (x15, x19, x21)) else (if x19 < x14 then bd (x15 + nI 1) fun x23 => some (.inl (x15, x19, x23)) else bd (x15 + nI 1) fun x24 => some (.inl (x13, x14, x24)))))
def f_X0_settle_L125 (o : Nat) (S8 : XS) (x30 : Int32) (x31 : Int32) : Option ((Int32 × Int32) ⊕ ((Int32 × Int32))) :=
  bnd (f_X0_land S8 o) fun b32 => chk (xk S8 b32 = 3) <| bnd (f_X2_factsOf S8 b32 x31) fun r33 => (if x30 < r33 then some (.inr (x30, x31)) else bnd (f_X0_land S8 o) fun b36 => chk (xk S8 b36 = 3) <| bnd (f_X2_factsOf S8 b36 x31) fun r37 => bd (x30 - r37) fun x39 => bd (x31 + nI 1) fun x40 => some (.inl (x39, x40)))
def f_X0_settle (S : XS) (o : Nat) (p0 : Int32) : Option (Int32 × XS) :=
  chk (xk S o = 1) <| bnd (f_X0_isTold S o) fun r1 => (if r1 = 0 then some ((-1), S) else bnd (f_X0_facts S o) fun r4 => (if r4 = 0 then some ((-1), S) else bnd (f_X0_isIn p0 (nI 0) (nI 3)) fun r6 => (if r6 = 0 then some ((-1), S) else bnd (f_X0_looks S o) fun S8 => chk (xk S8 o = 1) <| bnd (f_X0_needed S8 o) fun r9 => bnd (f_X0_worldsOf S8 o r9) fun r11 => (if r11 = 0 then some ((-1), S8) else bnd (wO (fun t : Int32 × Int32 × Int32 => f_X0_settle_L55 o S8 r9 r11 t.1 t.2.1 t.2.2) fu ((-1), nI 0, nI 0)) <| u2 fun x27 x28 => (if p0 = nI 3 then some (x28, S8) else bnd (wO (fun t : Int32 × Int32 => f_X0_settle_L125 o S8 t.1 t.2) fu (x27, nI 0)) <| u2 fun x43 x44 => bnd (f_X0_land S8 o) fun b45 => chk (xk S8 b45 = 3) <| bnd (xr S8 301 b45 0) fun b47 => chk (xk S8 b47 = 19) <| bnd (f_J2_get S8 b47 x44) fun b48 => chk (xk S8 b48 = 5) <| (if p0 = 0 then some (x44, S8) else bnd (f_X8_isOfOne S8 b48) fun r52 => (if r52 = 0 then (if p0 = nI 1 then bnd (f_X0_land S8 o) fun b59 => chk (xk S8 b59 = 3) <| bnd (f_X2_size S8 b59 (xi S8 501 b48 0)) fun r60 => chk (¬ r60 = 0) <| some ((x43 / r60), S8) else bnd (f_X0_land S8 o) fun b55 => chk (xk S8 b55 = 3) <| bnd (f_X2_size S8 b55 (xi S8 501 b48 0)) fun r56 => chk (¬ r56 = 0) <| some ((x43 - x43 / r56 * r56), S8)) else (if p0 = nI 1 then some (x43, S8) else some ((-1), S8)))))))))
set_option maxHeartbeats 4000000 in
set_option maxRecDepth 100000 in
theorem c_X0_settle (l : Launch) (D : XD) (S : XS) (o : Nat) (p0 : Int32) {r : Int32} {S' : XS} (hf : f_X0_settle S o p0 = some (r, S')) : x_Met l yX0_settle cX0_settle 9 (Option.some Jvm.ClassFile.FieldType.int) 119 2776 D [.ref o, .int p0] S (some (.int r)) S' := by
  refine x_metI RX0 (by decide) rfl (Nat.le_of_ble_eq_true rfl) (fun p e s m args below meth c Q B hnm hret H locs hX ls hl => ?_)
  have hx := B.1
  have hb := B.2.1
  have hml := B.2.2.1
  have hown := B.2.2.2.1
  have hts := B.2.2.2.2
  have hl : lv_has ls 9 [(0, .ref o), (1, .int p0)] := hl
  unfold f_X0_settle at hf
  refine lv_aload_n hx hb dX0_settle_0 rfl (lv_at hl 0 rfl) ?_
  obtain ⟨hk2, hf⟩ := chk_some hf
  obtain ⟨r1, hcr1, hf⟩ := bnd_some hf
  refine xr_callVC (rest := []) (q := (RX0, TX0, 14)) B hX (c_X0_isTold l D S o hcr1) hk2 rfl (by decide) q1406 q1408 (Or.inl qs29) q103 q1409 hd_X0_isTold ⟨Nat.le_of_ble_eq_true rfl, Nat.le_of_ble_eq_true rfl⟩ rfl hl.1 rfl (Nat.le_of_ble_eq_true rfl) dX0_settle_1 (fun H locs hX => ?_)
  refine lv_if_eq (tgt := 23) hx hb dX0_settle_4 (by decide) (fun c3 => ?_) (fun c3 => ?_)
  · have hf := it_pos c3 hf
    refine lv_iconst (v := (-1)) hx hb dX0_settle_23 icm1 ?_
    cases hf
    exact hret _ _ _ _ rfl hX dX0_settle_24
  · have hf := it_neg c3 hf
    refine lv_aload_n hx hb dX0_settle_7 rfl (lv_at hl 0 rfl) ?_
    obtain ⟨r4, hcr4, hf⟩ := bnd_some hf
    refine xr_callVC (rest := []) (q := (RX0, TX0, 14)) B hX (c_X0_facts l D S o hcr4) hk2 rfl (by decide) q563 q511 (Or.inl q512) q103 q513 hd_X0_facts ⟨Nat.le_of_ble_eq_true rfl, Nat.le_of_ble_eq_true rfl⟩ rfl hl.1 rfl (Nat.le_of_ble_eq_true rfl) dX0_settle_8 (fun H locs hX => ?_)
    refine lv_if_eq (tgt := 23) hx hb dX0_settle_11 (by decide) (fun c5 => ?_) (fun c5 => ?_)
    · have hf := it_pos c5 hf
      refine lv_iconst (v := (-1)) hx hb dX0_settle_23 icm1 ?_
      cases hf
      exact hret _ _ _ _ rfl hX dX0_settle_24
    · have hf := it_neg c5 hf
      refine lv_iload_n hx hb dX0_settle_14 rfl (lv_at hl 1 rfl) ?_
      refine lv_iconst (v := nI 0) hx hb dX0_settle_15 ic0 ?_
      refine lv_iconst (v := nI 3) hx hb dX0_settle_16 ic3 ?_
      obtain ⟨r6, hcr6, hf⟩ := bnd_some hf
      refine pr_callS (rest := []) B (c_X0_isIn l p0 (nI 0) (nI 3) hcr6) (va_cwS 3 hts (lw_S q390 q391 q103 q392) rfl rfl rfl hd_X0_isIn ⟨Nat.le_of_ble_eq_true rfl, Nat.le_of_ble_eq_true rfl⟩) rfl hl.1 rfl (Nat.le_of_ble_eq_true rfl) dX0_settle_17 (x_room0 hX) ?_
      refine lv_if_ne (tgt := 25) hx hb dX0_settle_20 (by decide) (fun c7 => ?_) (fun c7 => ?_)
      · have hf := it_neg c7 hf
        refine lv_aload_n hx hb dX0_settle_25 rfl (lv_at hl 0 rfl) ?_
        obtain ⟨S8, hcS8, hf⟩ := bnd_some hf
        refine xr_callVC (rest := []) (q := (RX0, TX0, 14)) B hX (c_X0_looks l D S o hcS8) hk2 rfl (by decide) q1452 q1454 (Or.inl qs31) q103 q1455 hd_X0_looks ⟨Nat.le_of_ble_eq_true rfl, Nat.le_of_ble_eq_true rfl⟩ rfl hl.1 rfl (Nat.le_of_ble_eq_true rfl) dX0_settle_26 (fun H locs hX => ?_)
        refine lv_aload_n hx hb dX0_settle_29 rfl (lv_at hl 0 rfl) ?_
        obtain ⟨hk10, hf⟩ := chk_some hf
        obtain ⟨r9, hcr9, hf⟩ := bnd_some hf
        refine xr_callVC (rest := []) (q := (RX0, TX0, 14)) B hX (c_X0_needed l D S8 o hcr9) hk10 rfl (by decide) q1469 q1471 (Or.inl qs34) q103 q1472 hd_X0_needed ⟨Nat.le_of_ble_eq_true rfl, Nat.le_of_ble_eq_true rfl⟩ rfl hl.1 rfl (Nat.le_of_ble_eq_true rfl) dX0_settle_30 (fun H locs hX => ?_)
        refine lv_istore_n (lv' := [(2, .int r9), (0, .ref o), (1, .int p0)]) hx hb dX0_settle_33 rfl hl (by decide) rfl (fun ls hl => ?_)
        refine lv_aload_n hx hb dX0_settle_34 rfl (lv_at hl 1 rfl) ?_
        refine lv_iload_n hx hb dX0_settle_35 rfl (lv_at hl 0 rfl) ?_
        obtain ⟨r11, hcr11, hf⟩ := bnd_some hf
        refine xr_callVC (rest := []) (q := (RX0, TX0, 14)) B hX (c_X0_worldsOf l D S8 o r9 hcr11) hk10 rfl (by decide) q1473 q1475 (Or.inl qs35) q103 q1476 hd_X0_worldsOf ⟨Nat.le_of_ble_eq_true rfl, Nat.le_of_ble_eq_true rfl⟩ rfl hl.1 rfl (Nat.le_of_ble_eq_true rfl) dX0_settle_36 (fun H locs hX => ?_)
        refine lv_istore_n (lv' := [(3, .int r11), (2, .int r9), (0, .ref o), (1, .int p0)]) hx hb dX0_settle_39 rfl hl (by decide) rfl (fun ls hl => ?_)
        refine lv_iload_n hx hb dX0_settle_40 rfl (lv_at hl 0 rfl) ?_
        refine lv_if_ne (tgt := 46) hx hb dX0_settle_41 (by decide) (fun c12 => ?_) (fun c12 => ?_)
        · have hf := it_neg c12 hf
          refine lv_iconst (v := (-1)) hx hb dX0_settle_46 icm1 ?_
          refine lv_istore (lv' := [(4, .int (-1)), (3, .int r11), (2, .int r9), (0, .ref o), (1, .int p0)]) hx hb dX0_settle_47 hl (by decide) rfl (fun ls hl => ?_)
          refine lv_iconst (v := nI 0) hx hb dX0_settle_49 ic0 ?_
          refine lv_istore (lv' := [(5, .int (nI 0)), (4, .int (-1)), (3, .int r11), (2, .int r9), (0, .ref o), (1, .int p0)]) hx hb dX0_settle_50 hl (by decide) rfl (fun ls hl => ?_)
          refine lv_iconst (v := nI 0) hx hb dX0_settle_52 ic0 ?_
          refine lv_istore (lv' := [(6, .int (nI 0)), (5, .int (nI 0)), (4, .int (-1)), (3, .int r11), (2, .int r9), (0, .ref o), (1, .int p0)]) hx hb dX0_settle_53 hl (by decide) rfl (fun ls hl => ?_)
          obtain ⟨y26, hxy26, hf⟩ := bnd_some hf
          have hy26 : (fun t : Int32 × Int32 => ∀ (H : Heap) (locs : List Loc) (ls : Array Slot), x_I D S s H locs S8 → lv_has ls 9 [(0, .ref o), (1, .int p0), (4, .int t.1), (5, .int t.2)] → W p l e (x_R 119 2776 S) s m args below meth c H locs (xz S8 - xz S) (xu S8 - xu S) Q (F0 m 114 ls [])) y26 := by
            rcases y26 with ⟨x27, x28⟩
            have hf := u2_at hf
            intro H locs ls hX hl
            refine lv_iload_n hx hb dX0_settle_114 rfl (lv_at hl 1 rfl) ?_
            refine lv_iconst (v := nI 3) hx hb dX0_settle_115 ic3 ?_
            refine lv_icmp_ne (tgt := 122) hx hb dX0_settle_116 (by decide) (fun c29 => ?_) (fun c29 => ?_)
            · have hf := it_neg c29 hf
              refine lv_iconst (v := nI 0) hx hb dX0_settle_122 ic0 ?_
              refine lv_istore (lv' := [(6, .int (nI 0)), (0, .ref o), (1, .int p0), (4, .int x27), (5, .int x28)]) hx hb dX0_settle_123 hl (by decide) rfl (fun ls hl => ?_)
              obtain ⟨y42, hxy42, hf⟩ := bnd_some hf
              have hy42 : (fun t : Int32 × Int32 => ∀ (H : Heap) (locs : List Loc) (ls : Array Slot), x_I D S s H locs S8 → lv_has ls 9 [(0, .ref o), (1, .int p0), (4, .int t.1), (6, .int t.2)] → W p l e (x_R 119 2776 S) s m args below meth c H locs (xz S8 - xz S) (xu S8 - xu S) Q (F0 m 159 ls [])) y42 := by
                rcases y42 with ⟨x43, x44⟩
                have hf := u2_at hf
                intro H locs ls hX hl
                refine lv_aload_n hx hb dX0_settle_159 rfl (lv_at hl 0 rfl) ?_
                obtain ⟨b45, hcb45, hf⟩ := bnd_some hf
                refine xr_callVC (rest := []) (q := (RX0, TX0, 14)) B hX (c_X0_land l D S8 o hcb45) hk10 rfl (by decide) q393 q395 (Or.inl qs0) q103 q396 hd_X0_land ⟨Nat.le_of_ble_eq_true rfl, Nat.le_of_ble_eq_true rfl⟩ rfl hl.1 rfl (Nat.le_of_ble_eq_true rfl) dX0_settle_160 (fun H locs hX => ?_)
                obtain ⟨hk46, hf⟩ := chk_some hf
                obtain ⟨b47, hb47, hf⟩ := bnd_some hf
                refine xr_getN (q := (RX2, TX2, 2)) B hX 1 hk46 rfl (by decide) (by decide) (v := .ref b47) (x_Vr (c := 3) (j := 1) rfl (by decide) hb47) nq204 (fun _ h => h) dX0_settle_163 ?_
                refine lv_iload hx hb dX0_settle_166 (lv_at hl 3 rfl) ?_
                obtain ⟨hk49, hf⟩ := chk_some hf
                obtain ⟨b48, hcb48, hf⟩ := bnd_some hf
                refine xr_callVC (rest := []) (q := (RJ2, TJ2, 3)) B hX (c_J2_get l D S8 b47 x44 hcb48) hk49 rfl (by decide) q573 q524 (Or.inl q525) q108 q526 hd_J2_get ⟨Nat.le_of_ble_eq_true rfl, Nat.le_of_ble_eq_true rfl⟩ rfl hl.1 rfl (Nat.le_of_ble_eq_true rfl) dX0_settle_168 (fun H locs hX => ?_)
                obtain ⟨hk50, hf⟩ := chk_some hf
                refine xr_castY (q := (RX8, TX8, 2)) B hX hk50 rfl (by decide) q413 (Or.inr ⟨rfl, by decide⟩) dX0_settle_171 ?_
                refine lv_astore (lv' := [(7, .ref b48), (0, .ref o), (1, .int p0), (4, .int x43), (6, .int x44)]) hx hb dX0_settle_174 hl (by decide) rfl (fun ls hl => ?_)
                refine lv_iload_n hx hb dX0_settle_176 rfl (lv_at hl 2 rfl) ?_
                refine lv_if_ne (tgt := 183) hx hb dX0_settle_177 (by decide) (fun c51 => ?_) (fun c51 => ?_)
                · have hf := it_neg c51 hf
                  refine lv_aload hx hb dX0_settle_183 (lv_at hl 0 rfl) ?_
                  obtain ⟨r52, hcr52, hf⟩ := bnd_some hf
                  refine xr_callVC (rest := []) (q := (RX8, TX8, 2)) B hX (c_X8_isOfOne l D S8 b48 hcr52) hk50 rfl (by decide) q574 q539 (Or.inl q540) q114 q541 hd_X8_isOfOne ⟨Nat.le_of_ble_eq_true rfl, Nat.le_of_ble_eq_true rfl⟩ rfl hl.1 rfl (Nat.le_of_ble_eq_true rfl) dX0_settle_185 (fun H locs hX => ?_)
                  refine lv_if_eq (tgt := 203) hx hb dX0_settle_188 (by decide) (fun c53 => ?_) (fun c53 => ?_)
                  · have hf := it_pos c53 hf
                    refine lv_iload_n hx hb dX0_settle_203 rfl (lv_at hl 2 rfl) ?_
                    refine lv_iconst (v := nI 1) hx hb dX0_settle_204 ic1 ?_
                    refine lv_icmp_ne (tgt := 226) hx hb dX0_settle_205 (by decide) (fun c54 => ?_) (fun c54 => ?_)
                    · have hf := it_neg c54 hf
                      refine lv_iload hx hb dX0_settle_226 (lv_at hl 3 rfl) ?_
                      refine lv_aload_n hx hb dX0_settle_228 rfl (lv_at hl 1 rfl) ?_
                      obtain ⟨b55, hcb55, hf⟩ := bnd_some hf
                      refine xr_callVC (rest := [.int x43]) (q := (RX0, TX0, 14)) B hX (c_X0_land l D S8 o hcb55) hk10 rfl (by decide) q393 q395 (Or.inl qs0) q103 q396 hd_X0_land ⟨Nat.le_of_ble_eq_true rfl, Nat.le_of_ble_eq_true rfl⟩ rfl hl.1 rfl (Nat.le_of_ble_eq_true rfl) dX0_settle_229 (fun H locs hX => ?_)
                      refine lv_aload hx hb dX0_settle_232 (lv_at hl 0 rfl) ?_
                      refine xr_getN (q := (RX8, TX8, 2)) B hX 1 hk50 rfl (by decide) (by decide) (x_Vi rfl (by decide)) nq428 (fun _ h => h) dX0_settle_234 ?_
                      obtain ⟨hk57, hf⟩ := chk_some hf
                      obtain ⟨r56, hcr56, hf⟩ := bnd_some hf
                      refine xr_callVC (rest := [.int x43]) (q := (RX2, TX2, 2)) B hX (c_X2_size l D S8 b55 (xi S8 501 b48 0) hcr56) hk57 rfl (by decide) q397 q398 (Or.inl q399) q105 q400 hd_X2_size ⟨Nat.le_of_ble_eq_true rfl, Nat.le_of_ble_eq_true rfl⟩ rfl hl.1 rfl (Nat.le_of_ble_eq_true rfl) dX0_settle_237 (fun H locs hX => ?_)
                      obtain ⟨hz58, hf⟩ := chk_some hf
                      refine lv_irem hx hb dX0_settle_240 hz58 ?_
                      cases hf
                      exact hret _ _ _ _ rfl hX dX0_settle_241
                    · have hf := it_pos c54 hf
                      refine lv_iload hx hb dX0_settle_208 (lv_at hl 3 rfl) ?_
                      refine lv_aload_n hx hb dX0_settle_210 rfl (lv_at hl 1 rfl) ?_
                      obtain ⟨b59, hcb59, hf⟩ := bnd_some hf
                      refine xr_callVC (rest := [.int x43]) (q := (RX0, TX0, 14)) B hX (c_X0_land l D S8 o hcb59) hk10 rfl (by decide) q393 q395 (Or.inl qs0) q103 q396 hd_X0_land ⟨Nat.le_of_ble_eq_true rfl, Nat.le_of_ble_eq_true rfl⟩ rfl hl.1 rfl (Nat.le_of_ble_eq_true rfl) dX0_settle_211 (fun H locs hX => ?_)
                      refine lv_aload hx hb dX0_settle_214 (lv_at hl 0 rfl) ?_
                      refine xr_getN (q := (RX8, TX8, 2)) B hX 1 hk50 rfl (by decide) (by decide) (x_Vi rfl (by decide)) nq428 (fun _ h => h) dX0_settle_216 ?_
                      obtain ⟨hk61, hf⟩ := chk_some hf
                      obtain ⟨r60, hcr60, hf⟩ := bnd_some hf
                      refine xr_callVC (rest := [.int x43]) (q := (RX2, TX2, 2)) B hX (c_X2_size l D S8 b59 (xi S8 501 b48 0) hcr60) hk61 rfl (by decide) q397 q398 (Or.inl q399) q105 q400 hd_X2_size ⟨Nat.le_of_ble_eq_true rfl, Nat.le_of_ble_eq_true rfl⟩ rfl hl.1 rfl (Nat.le_of_ble_eq_true rfl) dX0_settle_219 (fun H locs hX => ?_)
                      obtain ⟨hz62, hf⟩ := chk_some hf
                      refine lv_idiv hx hb dX0_settle_222 hz62 ?_
                      refine lv_goto (tgt := 241) hx hb dX0_settle_223 (by decide) ?_
                      cases hf
                      exact hret _ _ _ _ rfl hX dX0_settle_241
                  · have hf := it_neg c53 hf
                    refine lv_iload_n hx hb dX0_settle_191 rfl (lv_at hl 2 rfl) ?_
                    refine lv_iconst (v := nI 1) hx hb dX0_settle_192 ic1 ?_
                    refine lv_icmp_ne (tgt := 201) hx hb dX0_settle_193 (by decide) (fun c63 => ?_) (fun c63 => ?_)
                    · have hf := it_neg c63 hf
                      refine lv_iconst (v := (-1)) hx hb dX0_settle_201 icm1 ?_
                      cases hf
                      exact hret _ _ _ _ rfl hX dX0_settle_202
                    · have hf := it_pos c63 hf
                      refine lv_iload hx hb dX0_settle_196 (lv_at hl 3 rfl) ?_
                      refine lv_goto (tgt := 202) hx hb dX0_settle_198 (by decide) ?_
                      cases hf
                      exact hret _ _ _ _ rfl hX dX0_settle_202
                · have hf := it_pos c51 hf
                  refine lv_iload hx hb dX0_settle_180 (lv_at hl 4 rfl) ?_
                  cases hf
                  exact hret _ _ _ _ rfl hX dX0_settle_182
              refine lp_W (step := (fun t : Int32 × Int32 => f_X0_settle_L125 o S8 t.1 t.2)) (fun t : Int32 × Int32 => ∀ (H : Heap) (locs : List Loc) (ls : Array Slot), x_I D S s H locs S8 → lv_has ls 9 [(0, .ref o), (1, .int p0), (4, .int t.1), (6, .int t.2)] → W p l e (x_R 119 2776 S) s m args below meth c H locs (xz S8 - xz S) (xu S8 - xu S) Q (F0 m 125 ls [])) (fun t : Int32 × Int32 => ∀ (H : Heap) (locs : List Loc) (ls : Array Slot), x_I D S s H locs S8 → lv_has ls 9 [(0, .ref o), (1, .int p0), (4, .int t.1), (6, .int t.2)] → W p l e (x_R 119 2776 S) s m args below meth c H locs (xz S8 - xz S) (xu S8 - xu S) Q (F0 m 159 ls [])) ?_ fu (x27, nI 0) y42 hxy42 hy42 _ _ _ hX (lv_sub hl [1, 2, 3, 0] rfl)
              clear hf hxy42 hy42
              rintro ⟨x30, x31⟩ oo (hf : f_X0_settle_L125 o S8 x30 x31 = some oo) hk
              intro H locs ls hX hl
              unfold f_X0_settle_L125 at hf
              refine lv_iload hx hb dX0_settle_125 (lv_at hl 2 rfl) ?_
              refine lv_aload_n hx hb dX0_settle_127 rfl (lv_at hl 0 rfl) ?_
              obtain ⟨b32, hcb32, hf⟩ := bnd_some hf
              refine xr_callVC (rest := [.int x30]) (q := (RX0, TX0, 14)) B hX (c_X0_land l D S8 o hcb32) hk10 rfl (by decide) q393 q395 (Or.inl qs0) q103 q396 hd_X0_land ⟨Nat.le_of_ble_eq_true rfl, Nat.le_of_ble_eq_true rfl⟩ rfl hl.1 rfl (Nat.le_of_ble_eq_true rfl) dX0_settle_128 (fun H locs hX => ?_)
              refine lv_iload hx hb dX0_settle_131 (lv_at hl 3 rfl) ?_
              obtain ⟨hk34, hf⟩ := chk_some hf
              obtain ⟨r33, hcr33, hf⟩ := bnd_some hf
              refine xr_callVC (rest := [.int x30]) (q := (RX2, TX2, 2)) B hX (c_X2_factsOf l D S8 b32 x31 hcr33) hk34 rfl (by decide) q1595 q520 (Or.inl q521) q105 q522 hd_X2_factsOf ⟨Nat.le_of_ble_eq_true rfl, Nat.le_of_ble_eq_true rfl⟩ rfl hl.1 rfl (Nat.le_of_ble_eq_true rfl) dX0_settle_133 (fun H locs hX => ?_)
              refine lv_icmp_lt (tgt := 159) hx hb dX0_settle_136 (by decide) (fun c35 => ?_) (fun c35 => ?_)
              · have hf := it_pos c35 hf
                cases hf
                exact hk _ _ _ hX (lv_sub hl [0, 1, 2, 3] rfl)
              · have hf := it_neg c35 hf
                refine lv_iload hx hb dX0_settle_139 (lv_at hl 2 rfl) ?_
                refine lv_aload_n hx hb dX0_settle_141 rfl (lv_at hl 0 rfl) ?_
                obtain ⟨b36, hcb36, hf⟩ := bnd_some hf
                refine xr_callVC (rest := [.int x30]) (q := (RX0, TX0, 14)) B hX (c_X0_land l D S8 o hcb36) hk10 rfl (by decide) q393 q395 (Or.inl qs0) q103 q396 hd_X0_land ⟨Nat.le_of_ble_eq_true rfl, Nat.le_of_ble_eq_true rfl⟩ rfl hl.1 rfl (Nat.le_of_ble_eq_true rfl) dX0_settle_142 (fun H locs hX => ?_)
                refine lv_iload hx hb dX0_settle_145 (lv_at hl 3 rfl) ?_
                obtain ⟨hk38, hf⟩ := chk_some hf
                obtain ⟨r37, hcr37, hf⟩ := bnd_some hf
                refine xr_callVC (rest := [.int x30]) (q := (RX2, TX2, 2)) B hX (c_X2_factsOf l D S8 b36 x31 hcr37) hk38 rfl (by decide) q1595 q520 (Or.inl q521) q105 q522 hd_X2_factsOf ⟨Nat.le_of_ble_eq_true rfl, Nat.le_of_ble_eq_true rfl⟩ rfl hl.1 rfl (Nat.le_of_ble_eq_true rfl) dX0_settle_147 (fun H locs hX => ?_)
                refine lv_isub hx hb dX0_settle_150 ?_
                refine lv_topi (fun x39 ex39 => ?_)
                have hf := bd_at ex39 hf
                refine lv_istore (lv' := [(4, .int x39), (0, .ref o), (1, .int p0), (6, .int x31)]) hx hb dX0_settle_151 hl (by decide) rfl (fun ls hl => ?_)
                obtain ⟨x40, ex40, hf⟩ := bd_some hf
                refine lv_iinc (v := x40) (lv' := [(6, .int x40), (4, .int x39), (0, .ref o), (1, .int p0)]) hx hb dX0_settle_153 hl (k := 3) rfl (by rw [ex40]; first | done | rfl) (by decide) rfl (fun ls hl => ?_)
                refine lv_goto (tgt := 125) hx hb dX0_settle_156 (by decide) ?_
                cases hf
                exact hk _ _ _ hX (lv_sub hl [2, 3, 1, 0] rfl)
            · have hf := it_pos c29 hf
              refine lv_iload hx hb dX0_settle_119 (lv_at hl 3 rfl) ?_
              cases hf
              exact hret _ _ _ _ rfl hX dX0_settle_121
          refine lp_W (step := (fun t : Int32 × Int32 × Int32 => f_X0_settle_L55 o S8 r9 r11 t.1 t.2.1 t.2.2)) (fun t : Int32 × Int32 × Int32 => ∀ (H : Heap) (locs : List Loc) (ls : Array Slot), x_I D S s H locs S8 → lv_has ls 9 [(0, .ref o), (1, .int p0), (2, .int r9), (3, .int r11), (4, .int t.1), (5, .int t.2.1), (6, .int t.2.2)] → W p l e (x_R 119 2776 S) s m args below meth c H locs (xz S8 - xz S) (xu S8 - xu S) Q (F0 m 55 ls [])) (fun t : Int32 × Int32 => ∀ (H : Heap) (locs : List Loc) (ls : Array Slot), x_I D S s H locs S8 → lv_has ls 9 [(0, .ref o), (1, .int p0), (4, .int t.1), (5, .int t.2)] → W p l e (x_R 119 2776 S) s m args below meth c H locs (xz S8 - xz S) (xu S8 - xu S) Q (F0 m 114 ls [])) ?_ fu ((-1), nI 0, nI 0) y26 hxy26 hy26 _ _ _ hX (lv_sub hl [5, 6, 4, 3, 2, 1, 0] rfl)
          clear hf hxy26 hy26
          rintro ⟨x13, x14, x15⟩ oo (hf : f_X0_settle_L55 o S8 r9 r11 x13 x14 x15 = some oo) hk
          intro H locs ls hX hl
          unfold f_X0_settle_L55 at hf
          refine lv_iload hx hb dX0_settle_55 (lv_at hl 6 rfl) ?_
          refine lv_aload_n hx hb dX0_settle_57 rfl (lv_at hl 0 rfl) ?_
          obtain ⟨r16, hcr16, hf⟩ := bnd_some hf
          refine xr_callVC (rest := [.int x15]) (q := (RX0, TX0, 14)) B hX (c_X0_facts l D S8 o hcr16) hk10 rfl (by decide) q563 q511 (Or.inl q512) q103 q513 hd_X0_facts ⟨Nat.le_of_ble_eq_true rfl, Nat.le_of_ble_eq_true rfl⟩ rfl hl.1 rfl (Nat.le_of_ble_eq_true rfl) dX0_settle_58 (fun H locs hX => ?_)
          refine lv_icmp_ge (tgt := 114) hx hb dX0_settle_61 (by decide) (fun c17 => ?_) (fun c17 => ?_)
          · have hf := it_pos c17 hf
            cases hf
            exact hk _ _ _ hX (lv_sub hl [0, 1, 4, 5] rfl)
          · have hf := it_neg c17 hf
            refine lv_aload_n hx hb dX0_settle_64 rfl (lv_at hl 0 rfl) ?_
            refine lv_iload hx hb dX0_settle_65 (lv_at hl 6 rfl) ?_
            refine lv_iload_n hx hb dX0_settle_67 rfl (lv_at hl 2 rfl) ?_
            obtain ⟨r18, hcr18, hf⟩ := bnd_some hf
            refine xr_callVC (rest := []) (q := (RX0, TX0, 14)) B hX (c_X0_soIn l D S8 o x15 r9 hcr18) hk10 rfl (by decide) q1567 q1569 (Or.inl qs42) q103 q1570 hd_X0_soIn ⟨Nat.le_of_ble_eq_true rfl, Nat.le_of_ble_eq_true rfl⟩ rfl hl.1 rfl (Nat.le_of_ble_eq_true rfl) dX0_settle_68 (fun H locs hX => ?_)
            refine lv_istore (lv' := [(7, .int r18), (0, .ref o), (1, .int p0), (2, .int r9), (3, .int r11), (4, .int x13), (5, .int x14), (6, .int x15)]) hx hb dX0_settle_71 hl (by decide) rfl (fun ls hl => ?_)
            refine lv_iload hx hb dX0_settle_73 (lv_at hl 0 rfl) ?_
            refine lv_iload_n hx hb dX0_settle_75 rfl (lv_at hl 4 rfl) ?_
            refine lv_iload hx hb dX0_settle_76 (lv_at hl 0 rfl) ?_
            refine lv_isub hx hb dX0_settle_78 ?_
            refine va_mmax (rest := []) hx hb (hml.trans hl.1.symm) hown (hts _ q1594) (hts _ q454) (hts _ q116) (hts _ q455) (Nat.le_of_ble_eq_true rfl) (Nat.le_of_ble_eq_true rfl) (x_room0 hX).1 (x_room0 hX).2 dX0_settle_79 ?_
            refine lv_topi (fun x19 ex19 => ?_)
            have hf := bd_at ex19 hf
            refine lv_istore (lv' := [(8, .int x19), (7, .int r18), (0, .ref o), (1, .int p0), (2, .int r9), (3, .int r11), (4, .int x13), (5, .int x14), (6, .int x15)]) hx hb dX0_settle_82 hl (by decide) rfl (fun ls hl => ?_)
            refine lv_iload hx hb dX0_settle_84 (lv_at hl 6 rfl) ?_
            refine lv_iconst (v := (-1)) hx hb dX0_settle_86 icm1 ?_
            refine lv_icmp_eq (tgt := 100) hx hb dX0_settle_87 (by decide) (fun c20 => ?_) (fun c20 => ?_)
            · have hf := it_pos c20 hf
              refine lv_iload hx hb dX0_settle_100 (lv_at hl 8 rfl) ?_
              refine lv_istore (lv' := [(4, .int x15), (8, .int x19), (7, .int r18), (0, .ref o), (1, .int p0), (2, .int r9), (3, .int r11), (5, .int x14), (6, .int x15)]) hx hb dX0_settle_102 hl (by decide) rfl (fun ls hl => ?_)
              refine lv_iload hx hb dX0_settle_104 (lv_at hl 1 rfl) ?_
              refine lv_istore (lv' := [(5, .int x19), (4, .int x15), (8, .int x19), (7, .int r18), (0, .ref o), (1, .int p0), (2, .int r9), (3, .int r11), (6, .int x15)]) hx hb dX0_settle_106 hl (by decide) rfl (fun ls hl => ?_)
              obtain ⟨x21, ex21, hf⟩ := bd_some hf
              refine lv_iinc (v := x21) (lv' := [(6, .int x21), (5, .int x19), (4, .int x15), (8, .int x19), (7, .int r18), (0, .ref o), (1, .int p0), (2, .int r9), (3, .int r11)]) hx hb dX0_settle_108 hl (k := 8) rfl (by rw [ex21]; first | done | rfl) (by decide) rfl (fun ls hl => ?_)
              refine lv_goto (tgt := 55) hx hb dX0_settle_111 (by decide) ?_
              cases hf
              exact hk _ _ _ hX (lv_sub hl [5, 6, 7, 8, 2, 1, 0] rfl)
            · have hf := it_neg c20 hf
              refine lv_iload hx hb dX0_settle_90 (lv_at hl 0 rfl) ?_
              refine lv_iload hx hb dX0_settle_92 (lv_at hl 7 rfl) ?_
              refine lv_icmp_lt (tgt := 100) hx hb dX0_settle_94 (by decide) (fun c22 => ?_) (fun c22 => ?_)
              · have hf := it_pos c22 hf
                refine lv_iload hx hb dX0_settle_100 (lv_at hl 8 rfl) ?_
                refine lv_istore (lv' := [(4, .int x15), (8, .int x19), (7, .int r18), (0, .ref o), (1, .int p0), (2, .int r9), (3, .int r11), (5, .int x14), (6, .int x15)]) hx hb dX0_settle_102 hl (by decide) rfl (fun ls hl => ?_)
                refine lv_iload hx hb dX0_settle_104 (lv_at hl 1 rfl) ?_
                refine lv_istore (lv' := [(5, .int x19), (4, .int x15), (8, .int x19), (7, .int r18), (0, .ref o), (1, .int p0), (2, .int r9), (3, .int r11), (6, .int x15)]) hx hb dX0_settle_106 hl (by decide) rfl (fun ls hl => ?_)
                obtain ⟨x23, ex23, hf⟩ := bd_some hf
                refine lv_iinc (v := x23) (lv' := [(6, .int x23), (5, .int x19), (4, .int x15), (8, .int x19), (7, .int r18), (0, .ref o), (1, .int p0), (2, .int r9), (3, .int r11)]) hx hb dX0_settle_108 hl (k := 8) rfl (by rw [ex23]; first | done | rfl) (by decide) rfl (fun ls hl => ?_)
                refine lv_goto (tgt := 55) hx hb dX0_settle_111 (by decide) ?_
                cases hf
                exact hk _ _ _ hX (lv_sub hl [5, 6, 7, 8, 2, 1, 0] rfl)
              · have hf := it_neg c22 hf
                refine lv_goto (tgt := 108) hx hb dX0_settle_97 (by decide) ?_
                obtain ⟨x24, ex24, hf⟩ := bd_some hf
                refine lv_iinc (v := x24) (lv' := [(6, .int x24), (8, .int x19), (7, .int r18), (0, .ref o), (1, .int p0), (2, .int r9), (3, .int r11), (4, .int x13), (5, .int x14)]) hx hb dX0_settle_108 hl (k := 8) rfl (by rw [ex24]; first | done | rfl) (by decide) rfl (fun ls hl => ?_)
                refine lv_goto (tgt := 55) hx hb dX0_settle_111 (by decide) ?_
                cases hf
                exact hk _ _ _ hX (lv_sub hl [3, 4, 5, 6, 7, 8, 0] rfl)
        · have hf := it_pos c12 hf
          refine lv_iconst (v := (-1)) hx hb dX0_settle_44 icm1 ?_
          cases hf
          exact hret _ _ _ _ rfl hX dX0_settle_45
      · have hf := it_pos c7 hf
        refine lv_iconst (v := (-1)) hx hb dX0_settle_23 icm1 ?_
        cases hf
        exact hret _ _ _ _ rfl hX dX0_settle_24
def f_X0_near_L25 (o : Nat) (S4 : XS) (r5 : Int32) (x7 : Int32) (x8 : Int32) (x9 : Int32) : Option ((Int32 × Int32 × Int32) ⊕ ((Int32 × Int32))) :=
  bnd (f_X0_rows S4 o) fun r10 => (if r10 ≤ x9 then some (.inr (x7, x8)) else bnd (f_X0_isWorld S4 o x9 r5) fun r12 => (if r12 = 0 then bd (x9 + nI 1) fun x22 => some (.inl (x7, x8, x22)) else bnd (xr S4 100 o 0) fun b14 => chk (xk S4 b14 = 2) <| bnd (f_J9_bitCount (x9.toInt64 ^^^ (xl S4 207 b14 0))) fun r16 => (if x7 = (-1) then bd (x9 + nI 1) fun x18 => some (.inl (x9, r16, x18)) else (if r16 < x8 then bd (x9 + nI 1) fun x20 => some (.inl (x9, r16, x20)) else bd (x9 + nI 1) fun x21 => some (.inl (x7, x8, x21))))))
def f_X0_near (S : XS) (o : Nat) : Option (Int32 × XS) :=
  chk (xk S o = 1) <| bnd (f_X0_isTold S o) fun r1 => (if r1 = 0 then some ((-1), S) else bnd (f_X0_looks S o) fun S4 => chk (xk S4 o = 1) <| bnd (f_X0_needed S4 o) fun r5 => bnd (wO (fun t : Int32 × Int32 × Int32 => f_X0_near_L25 o S4 r5 t.1 t.2.1 t.2.2) fu ((-1), nI 0, nI 0)) <| u2 fun x25 x26 => (if x25 = (-1) then some ((-1), S4) else bnd (xr S4 100 o 0) fun b28 => chk (xk S4 b28 = 2) <| chk (xb S4 ≤ b28) <| bd (s_l S4 207 b28 0 x25.toInt64) fun S31 => some (x26, S31)))
set_option maxHeartbeats 4000000 in
set_option maxRecDepth 100000 in
theorem c_X0_near (l : Launch) (D : XD) (S : XS) (o : Nat) {r : Int32} {S' : XS} (hf : f_X0_near S o = some (r, S')) : x_Met l yX0_near cX0_near 6 (Option.some Jvm.ClassFile.FieldType.int) 119 2776 D [.ref o] S (some (.int r)) S' := by
  refine x_metI RX0 (by decide) rfl (Nat.le_of_ble_eq_true rfl) (fun p e s m args below meth c Q B hnm hret H locs hX ls hl => ?_)
  have hx := B.1
  have hb := B.2.1
  have hml := B.2.2.1
  have hown := B.2.2.2.1
  have hts := B.2.2.2.2
  have hl : lv_has ls 6 [(0, .ref o)] := hl
  unfold f_X0_near at hf
  refine lv_aload_n hx hb dX0_near_0 rfl (lv_at hl 0 rfl) ?_
  obtain ⟨hk2, hf⟩ := chk_some hf
  obtain ⟨r1, hcr1, hf⟩ := bnd_some hf
  refine xr_callVC (rest := []) (q := (RX0, TX0, 14)) B hX (c_X0_isTold l D S o hcr1) hk2 rfl (by decide) q1406 q1408 (Or.inl qs29) q103 q1409 hd_X0_isTold ⟨Nat.le_of_ble_eq_true rfl, Nat.le_of_ble_eq_true rfl⟩ rfl hl.1 rfl (Nat.le_of_ble_eq_true rfl) dX0_near_1 (fun H locs hX => ?_)
  refine lv_if_ne (tgt := 9) hx hb dX0_near_4 (by decide) (fun c3 => ?_) (fun c3 => ?_)
  · have hf := it_neg c3 hf
    refine lv_aload_n hx hb dX0_near_9 rfl (lv_at hl 0 rfl) ?_
    obtain ⟨S4, hcS4, hf⟩ := bnd_some hf
    refine xr_callVC (rest := []) (q := (RX0, TX0, 14)) B hX (c_X0_looks l D S o hcS4) hk2 rfl (by decide) q1452 q1454 (Or.inl qs31) q103 q1455 hd_X0_looks ⟨Nat.le_of_ble_eq_true rfl, Nat.le_of_ble_eq_true rfl⟩ rfl hl.1 rfl (Nat.le_of_ble_eq_true rfl) dX0_near_10 (fun H locs hX => ?_)
    refine lv_aload_n hx hb dX0_near_13 rfl (lv_at hl 0 rfl) ?_
    obtain ⟨hk6, hf⟩ := chk_some hf
    obtain ⟨r5, hcr5, hf⟩ := bnd_some hf
    refine xr_callVC (rest := []) (q := (RX0, TX0, 14)) B hX (c_X0_needed l D S4 o hcr5) hk6 rfl (by decide) q1469 q1471 (Or.inl qs34) q103 q1472 hd_X0_needed ⟨Nat.le_of_ble_eq_true rfl, Nat.le_of_ble_eq_true rfl⟩ rfl hl.1 rfl (Nat.le_of_ble_eq_true rfl) dX0_near_14 (fun H locs hX => ?_)
    refine lv_istore_n (lv' := [(1, .int r5), (0, .ref o)]) hx hb dX0_near_17 rfl hl (by decide) rfl (fun ls hl => ?_)
    refine lv_iconst (v := (-1)) hx hb dX0_near_18 icm1 ?_
    refine lv_istore_n (lv' := [(2, .int (-1)), (1, .int r5), (0, .ref o)]) hx hb dX0_near_19 rfl hl (by decide) rfl (fun ls hl => ?_)
    refine lv_iconst (v := nI 0) hx hb dX0_near_20 ic0 ?_
    refine lv_istore_n (lv' := [(3, .int (nI 0)), (2, .int (-1)), (1, .int r5), (0, .ref o)]) hx hb dX0_near_21 rfl hl (by decide) rfl (fun ls hl => ?_)
    refine lv_iconst (v := nI 0) hx hb dX0_near_22 ic0 ?_
    refine lv_istore (lv' := [(4, .int (nI 0)), (3, .int (nI 0)), (2, .int (-1)), (1, .int r5), (0, .ref o)]) hx hb dX0_near_23 hl (by decide) rfl (fun ls hl => ?_)
    obtain ⟨y24, hxy24, hf⟩ := bnd_some hf
    have hy24 : (fun t : Int32 × Int32 => ∀ (H : Heap) (locs : List Loc) (ls : Array Slot), x_I D S s H locs S4 → lv_has ls 6 [(0, .ref o), (2, .int t.1), (3, .int t.2)] → W p l e (x_R 119 2776 S) s m args below meth c H locs (xz S4 - xz S) (xu S4 - xu S) Q (F0 m 89 ls [])) y24 := by
      rcases y24 with ⟨x25, x26⟩
      have hf := u2_at hf
      intro H locs ls hX hl
      refine lv_iload_n hx hb dX0_near_89 rfl (lv_at hl 1 rfl) ?_
      refine lv_iconst (v := (-1)) hx hb dX0_near_90 icm1 ?_
      refine lv_icmp_ne (tgt := 96) hx hb dX0_near_91 (by decide) (fun c27 => ?_) (fun c27 => ?_)
      · have hf := it_neg c27 hf
        refine lv_aload_n hx hb dX0_near_96 rfl (lv_at hl 0 rfl) ?_
        obtain ⟨b28, hb28, hf⟩ := bnd_some hf
        refine xr_get (q := (RX0, TX0, 14)) B hX 0 hk6 rfl (by decide) (by decide) (v := .ref b28) (x_Vr (c := 1) (j := 0) rfl (by decide) hb28) q339 (fun _ h => h) dX0_near_97 ?_
        refine lv_iload_n hx hb dX0_near_100 rfl (lv_at hl 1 rfl) ?_
        refine lv_i2l (v := x25.toInt64) hx hb dX0_near_101 rfl ?_
        obtain ⟨hk29, hf⟩ := chk_some hf
        obtain ⟨hw30, hf⟩ := chk_some hf
        obtain ⟨S31, eS31, hf⟩ := bd_some hf
        refine xr_putN (S' := S31) (q := (RX1, TX1, 14)) (v := .long x25.toInt64) (ty0 := tyX1) B hX 7 hk29 rfl (by decide) hw30 (by decide) (by rw [eS31]; exact x_Vup_l (k := 2) (j := 7) rfl (by decide)) tyX1_ok (fun i h1 h2 => nmX1 i (Nat.lt_of_lt_of_le h1 (by decide)) 7 (by decide) h2) rfl rfl rfl nq233 (fun _ h => h) dX0_near_102 (fun H locs hX => ?_)
        refine w_l eS31 ?_
        have hk6 := ks_l eS31 hk6
        have hk29 := ks_l eS31 hk29
        have hw30 := kw_l eS31 hw30
        refine lv_iload_n hx hb dX0_near_105 rfl (lv_at hl 2 rfl) ?_
        cases hf
        exact hret _ _ _ _ rfl hX dX0_near_106
      · have hf := it_pos c27 hf
        refine lv_iconst (v := (-1)) hx hb dX0_near_94 icm1 ?_
        cases hf
        exact hret _ _ _ _ rfl hX dX0_near_95
    refine lp_W (step := (fun t : Int32 × Int32 × Int32 => f_X0_near_L25 o S4 r5 t.1 t.2.1 t.2.2)) (fun t : Int32 × Int32 × Int32 => ∀ (H : Heap) (locs : List Loc) (ls : Array Slot), x_I D S s H locs S4 → lv_has ls 6 [(0, .ref o), (1, .int r5), (2, .int t.1), (3, .int t.2.1), (4, .int t.2.2)] → W p l e (x_R 119 2776 S) s m args below meth c H locs (xz S4 - xz S) (xu S4 - xu S) Q (F0 m 25 ls [])) (fun t : Int32 × Int32 => ∀ (H : Heap) (locs : List Loc) (ls : Array Slot), x_I D S s H locs S4 → lv_has ls 6 [(0, .ref o), (2, .int t.1), (3, .int t.2)] → W p l e (x_R 119 2776 S) s m args below meth c H locs (xz S4 - xz S) (xu S4 - xu S) Q (F0 m 89 ls [])) ?_ fu ((-1), nI 0, nI 0) y24 hxy24 hy24 _ _ _ hX (lv_sub hl [4, 3, 2, 1, 0] rfl)
    clear hf hxy24 hy24
    rintro ⟨x7, x8, x9⟩ oo (hf : f_X0_near_L25 o S4 r5 x7 x8 x9 = some oo) hk
    intro H locs ls hX hl
    unfold f_X0_near_L25 at hf
    refine lv_iload hx hb dX0_near_25 (lv_at hl 4 rfl) ?_
    refine lv_aload_n hx hb dX0_near_27 rfl (lv_at hl 0 rfl) ?_
    obtain ⟨r10, hcr10, hf⟩ := bnd_some hf
    refine xr_callVC (rest := [.int x9]) (q := (RX0, TX0, 14)) B hX (c_X0_rows l D S4 o hcr10) hk6 rfl (by decide) q1465 q1467 (Or.inl qs33) q103 q1468 hd_X0_rows ⟨Nat.le_of_ble_eq_true rfl, Nat.le_of_ble_eq_true rfl⟩ rfl hl.1 rfl (Nat.le_of_ble_eq_true rfl) dX0_near_28 (fun H locs hX => ?_)
    refine lv_icmp_ge (tgt := 89) hx hb dX0_near_31 (by decide) (fun c11 => ?_) (fun c11 => ?_)
    · have hf := it_pos c11 hf
      cases hf
      exact hk _ _ _ hX (lv_sub hl [0, 2, 3] rfl)
    · have hf := it_neg c11 hf
      refine lv_aload_n hx hb dX0_near_34 rfl (lv_at hl 0 rfl) ?_
      refine lv_iload hx hb dX0_near_35 (lv_at hl 4 rfl) ?_
      refine lv_iload_n hx hb dX0_near_37 rfl (lv_at hl 1 rfl) ?_
      obtain ⟨r12, hcr12, hf⟩ := bnd_some hf
      refine xr_callVC (rest := []) (q := (RX0, TX0, 14)) B hX (c_X0_isWorld l D S4 o x9 r5 hcr12) hk6 rfl (by decide) q1477 q1479 (Or.inl qs36) q103 q1480 hd_X0_isWorld ⟨Nat.le_of_ble_eq_true rfl, Nat.le_of_ble_eq_true rfl⟩ rfl hl.1 rfl (Nat.le_of_ble_eq_true rfl) dX0_near_38 (fun H locs hX => ?_)
      refine lv_if_ne (tgt := 47) hx hb dX0_near_41 (by decide) (fun c13 => ?_) (fun c13 => ?_)
      · have hf := it_neg c13 hf
        refine lv_iload hx hb dX0_near_47 (lv_at hl 4 rfl) ?_
        refine lv_i2l (v := x9.toInt64) hx hb dX0_near_49 rfl ?_
        refine lv_aload_n hx hb dX0_near_50 rfl (lv_at hl 0 rfl) ?_
        obtain ⟨b14, hb14, hf⟩ := bnd_some hf
        refine xr_get (q := (RX0, TX0, 14)) B hX 0 hk6 rfl (by decide) (by decide) (v := .ref b14) (x_Vr (c := 1) (j := 0) rfl (by decide) hb14) q339 (fun _ h => h) dX0_near_51 ?_
        obtain ⟨hk15, hf⟩ := chk_some hf
        refine xr_getN (q := (RX1, TX1, 14)) B hX 7 hk15 rfl (by decide) (by decide) (x_Vl rfl (by decide)) nq233 (fun _ h => h) dX0_near_54 ?_
        refine lv_lxor hx hb dX0_near_57 ?_
        obtain ⟨r16, hcr16, hf⟩ := bnd_some hf
        refine pr_callS (rest := []) B (c_J9_bitCount l (x9.toInt64 ^^^ (xl S4 207 b14 0)) hcr16) (va_cwS 1 hts (lw_S q1600 q1440 q123 q1441) rfl rfl rfl hd_J9_bitCount ⟨Nat.le_of_ble_eq_true rfl, Nat.le_of_ble_eq_true rfl⟩) rfl hl.1 rfl (Nat.le_of_ble_eq_true rfl) dX0_near_58 (x_room0 hX) ?_
        refine lv_istore (lv' := [(5, .int r16), (0, .ref o), (1, .int r5), (2, .int x7), (3, .int x8), (4, .int x9)]) hx hb dX0_near_61 hl (by decide) rfl (fun ls hl => ?_)
        refine lv_iload_n hx hb dX0_near_63 rfl (lv_at hl 3 rfl) ?_
        refine lv_iconst (v := (-1)) hx hb dX0_near_64 icm1 ?_
        refine lv_icmp_eq (tgt := 77) hx hb dX0_near_65 (by decide) (fun c17 => ?_) (fun c17 => ?_)
        · have hf := it_pos c17 hf
          refine lv_iload hx hb dX0_near_77 (lv_at hl 5 rfl) ?_
          refine lv_istore_n (lv' := [(2, .int x9), (5, .int r16), (0, .ref o), (1, .int r5), (3, .int x8), (4, .int x9)]) hx hb dX0_near_79 rfl hl (by decide) rfl (fun ls hl => ?_)
          refine lv_iload hx hb dX0_near_80 (lv_at hl 1 rfl) ?_
          refine lv_istore_n (lv' := [(3, .int r16), (2, .int x9), (5, .int r16), (0, .ref o), (1, .int r5), (4, .int x9)]) hx hb dX0_near_82 rfl hl (by decide) rfl (fun ls hl => ?_)
          obtain ⟨x18, ex18, hf⟩ := bd_some hf
          refine lv_iinc (v := x18) (lv' := [(4, .int x18), (3, .int r16), (2, .int x9), (5, .int r16), (0, .ref o), (1, .int r5)]) hx hb dX0_near_83 hl (k := 5) rfl (by rw [ex18]; first | done | rfl) (by decide) rfl (fun ls hl => ?_)
          refine lv_goto (tgt := 25) hx hb dX0_near_86 (by decide) ?_
          cases hf
          exact hk _ _ _ hX (lv_sub hl [4, 5, 2, 1, 0] rfl)
        · have hf := it_neg c17 hf
          refine lv_iload hx hb dX0_near_68 (lv_at hl 0 rfl) ?_
          refine lv_iload_n hx hb dX0_near_70 rfl (lv_at hl 4 rfl) ?_
          refine lv_icmp_lt (tgt := 77) hx hb dX0_near_71 (by decide) (fun c19 => ?_) (fun c19 => ?_)
          · have hf := it_pos c19 hf
            refine lv_iload hx hb dX0_near_77 (lv_at hl 5 rfl) ?_
            refine lv_istore_n (lv' := [(2, .int x9), (5, .int r16), (0, .ref o), (1, .int r5), (3, .int x8), (4, .int x9)]) hx hb dX0_near_79 rfl hl (by decide) rfl (fun ls hl => ?_)
            refine lv_iload hx hb dX0_near_80 (lv_at hl 1 rfl) ?_
            refine lv_istore_n (lv' := [(3, .int r16), (2, .int x9), (5, .int r16), (0, .ref o), (1, .int r5), (4, .int x9)]) hx hb dX0_near_82 rfl hl (by decide) rfl (fun ls hl => ?_)
            obtain ⟨x20, ex20, hf⟩ := bd_some hf
            refine lv_iinc (v := x20) (lv' := [(4, .int x20), (3, .int r16), (2, .int x9), (5, .int r16), (0, .ref o), (1, .int r5)]) hx hb dX0_near_83 hl (k := 5) rfl (by rw [ex20]; first | done | rfl) (by decide) rfl (fun ls hl => ?_)
            refine lv_goto (tgt := 25) hx hb dX0_near_86 (by decide) ?_
            cases hf
            exact hk _ _ _ hX (lv_sub hl [4, 5, 2, 1, 0] rfl)
          · have hf := it_neg c19 hf
            refine lv_goto (tgt := 83) hx hb dX0_near_74 (by decide) ?_
            obtain ⟨x21, ex21, hf⟩ := bd_some hf
            refine lv_iinc (v := x21) (lv' := [(4, .int x21), (5, .int r16), (0, .ref o), (1, .int r5), (2, .int x7), (3, .int x8)]) hx hb dX0_near_83 hl (k := 5) rfl (by rw [ex21]; first | done | rfl) (by decide) rfl (fun ls hl => ?_)
            refine lv_goto (tgt := 25) hx hb dX0_near_86 (by decide) ?_
            cases hf
            exact hk _ _ _ hX (lv_sub hl [2, 3, 4, 5, 0] rfl)
      · have hf := it_pos c13 hf
        refine lv_goto (tgt := 83) hx hb dX0_near_44 (by decide) ?_
        obtain ⟨x22, ex22, hf⟩ := bd_some hf
        refine lv_iinc (v := x22) (lv' := [(4, .int x22), (0, .ref o), (1, .int r5), (2, .int x7), (3, .int x8)]) hx hb dX0_near_83 hl (k := 4) rfl (by rw [ex22]; first | done | rfl) (by decide) rfl (fun ls hl => ?_)
        refine lv_goto (tgt := 25) hx hb dX0_near_86 (by decide) ?_
        cases hf
        exact hk _ _ _ hX (lv_sub hl [1, 2, 3, 4, 0] rfl)
  · have hf := it_pos c3 hf
    refine lv_iconst (v := (-1)) hx hb dX0_near_7 icm1 ?_
    cases hf
    exact hret _ _ _ _ rfl hX dX0_near_8
