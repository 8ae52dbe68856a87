set_option maxRecDepth 100000
def f_X0_holds_L42 (o : Nat) (p0 : Int32) (r11 : Int32) (x13 : Int32) (x14 : Int32) (S15 : XS) : Option ((Int32 × Int32 × XS) ⊕ ((Int32 × XS))) :=
  chk (xk S15 o = 1) <| bnd (f_X0_rows S15 o) fun r16 => (if r16 ≤ x14 then some (.inr (x13, S15)) else (if p0 = 0 then bnd (f_X0_isWorld S15 o x14 r11) fun r39 => (if r39 = 0 then bd (x13 + nI 0) fun x41 => bd (x14 + nI 1) fun x42 => some (.inl (x41, x42, S15)) else bnd (xr S15 100 o 0) fun b43 => chk (xk S15 b43 = 2) <| (oc (xr S15 213 b43 0) (bnd (f_X0_land S15 o) fun b47 => none) fun b45 => bnd (f_X0_land S15 o) fun b48 => bnd (f_X0_isSoIn S15 o b45 b48 x14.toInt64) <| u2 fun r49 S50 => (if r49 = 0 then bd (x13 + nI 0) fun x52 => bd (x14 + nI 1) fun x53 => some (.inl (x52, x53, S50)) else bd (x13 + nI 1) fun x54 => bd (x14 + nI 1) fun x55 => some (.inl (x54, x55, S50))))) else bnd (f_X0_isForm S15 o x14 r11) <| u2 fun r20 S21 => (if r20 = 0 then bd (x13 + nI 0) fun x23 => bd (x14 + nI 1) fun x24 => some (.inl (x23, x24, S21)) else chk (xk S21 o = 1) <| bnd (xr S21 100 o 0) fun b26 => chk (xk S21 b26 = 2) <| (oc (xr S21 213 b26 0) (bnd (f_X0_land S21 o) fun b30 => none) fun b28 => bnd (f_X0_land S21 o) fun b31 => bnd (f_X0_isSoIn S21 o b28 b31 x14.toInt64) <| u2 fun r32 S33 => (if r32 = 0 then bd (x13 + nI 0) fun x35 => bd (x14 + nI 1) fun x36 => some (.inl (x35, x36, S33)) else bd (x13 + nI 1) fun x37 => bd (x14 + nI 1) fun x38 => some (.inl (x37, x38, S33)))))))
def f_X0_holds (S : XS) (o : Nat) (p0 : Int32) : Option (Int32 × XS) :=
  chk (xk S o = 1) <| bnd (xr S 100 o 0) fun b2 => chk (xk S b2 = 2) <| (oc (xr S 213 b2 0) (some ((-1), S)) fun b4 => bnd (f_X0_isTold S o) fun r6 => (if r6 = 0 then some ((-1), S) else bnd (f_X0_isIn p0 (nI 0) (nI 1)) fun r8 => (if r8 = 0 then some ((-1), S) else bnd (f_X0_looks S o) fun S10 => chk (xk S10 o = 1) <| bnd (f_X0_needed S10 o) fun r11 => bnd (wO (fun t : Int32 × Int32 × XS => f_X0_holds_L42 o p0 r11 t.1 t.2.1 t.2.2) fu (nI 0, nI 0, S10)) <| u2 fun x58 S59 => some (x58, S59))))
set_option maxHeartbeats 4000000 in
set_option maxRecDepth 100000 in
theorem c_X0_holds (l : Launch) (D : XD) (S : XS) (o : Nat) (p0 : Int32) {r : Int32} {S' : XS} (hf : f_X0_holds S o p0 = some (r, S')) : x_Met l yX0_holds cX0_holds 5 (Option.some Jvm.ClassFile.FieldType.int) 119 2776 D [.ref o, .int p0] S (some (.int r)) S' := by
  refine x_metI RX0 (by decide) rfl (Nat.le_of_ble_eq_true rfl) (fun p e s m args below meth c Q B hnm hret H locs hX ls hl => ?_)
  have hx := B.1
  have hb := B.2.1
  have hml := B.2.2.1
  have hown := B.2.2.2.1
  have hts := B.2.2.2.2
  have hl : lv_has ls 5 [(0, .ref o), (1, .int p0)] := hl
  unfold f_X0_holds at hf
  refine lv_aload_n hx hb dX0_holds_0 rfl (lv_at hl 0 rfl) ?_
  obtain ⟨hk1, hf⟩ := chk_some hf
  obtain ⟨b2, hb2, hf⟩ := bnd_some hf
  refine xr_get (q := (RX0, TX0, 14)) B hX 0 hk1 rfl (by decide) (by decide) (v := .ref b2) (x_Vr (c := 1) (j := 0) rfl (by decide) hb2) q339 (fun _ h => h) dX0_holds_1 ?_
  obtain ⟨hk3, hf⟩ := chk_some hf
  rcases ho5 : xr S 213 b2 0 with _ | b4
  · have hf := oc_none ho5 hf
    refine xr_getN (q := (RX1, TX1, 14)) B hX 13 hk3 rfl (by decide) (by decide) (v := .null) (x_Vr (c := 2) (j := 13) rfl (by decide) ho5) nq245 (fun _ h => h) dX0_holds_4 ?_
    refine lv_ifnullN (tgt := 26) hx hb dX0_holds_7 (by decide) ?_
    refine lv_iconst (v := (-1)) hx hb dX0_holds_26 icm1 ?_
    cases hf
    exact hret _ _ _ _ rfl hX dX0_holds_27
  · have hf := oc_some ho5 hf
    refine xr_getN (q := (RX1, TX1, 14)) B hX 13 hk3 rfl (by decide) (by decide) (v := .ref b4) (x_Vr (c := 2) (j := 13) rfl (by decide) ho5) nq245 (fun _ h => h) dX0_holds_4 ?_
    refine lv_ifnull hx hb dX0_holds_7 ?_
    refine lv_aload_n hx hb dX0_holds_10 rfl (lv_at hl 0 rfl) ?_
    obtain ⟨r6, hcr6, hf⟩ := bnd_some hf
    refine xr_callVC (rest := []) (q := (RX0, TX0, 14)) B hX (c_X0_isTold l D S o hcr6) hk1 rfl (by decide) q1406 q1408 (Or.inl qs29) q103 q1409 hd_X0_isTold ⟨Nat.le_of_ble_eq_true rfl, Nat.le_of_ble_eq_true rfl⟩ rfl hl.1 rfl (Nat.le_of_ble_eq_true rfl) dX0_holds_11 (fun H locs hX => ?_)
    refine lv_if_eq (tgt := 26) hx hb dX0_holds_14 (by decide) (fun c7 => ?_) (fun c7 => ?_)
    · have hf := it_pos c7 hf
      refine lv_iconst (v := (-1)) hx hb dX0_holds_26 icm1 ?_
      cases hf
      exact hret _ _ _ _ rfl hX dX0_holds_27
    · have hf := it_neg c7 hf
      refine lv_iload_n hx hb dX0_holds_17 rfl (lv_at hl 1 rfl) ?_
      refine lv_iconst (v := nI 0) hx hb dX0_holds_18 ic0 ?_
      refine lv_iconst (v := nI 1) hx hb dX0_holds_19 ic1 ?_
      obtain ⟨r8, hcr8, hf⟩ := bnd_some hf
      refine pr_callS (rest := []) B (c_X0_isIn l p0 (nI 0) (nI 1) hcr8) (va_cwS 3 hts (lw_S q390 q391 q103 q392) rfl rfl rfl hd_X0_isIn ⟨Nat.le_of_ble_eq_true rfl, Nat.le_of_ble_eq_true rfl⟩) rfl hl.1 rfl (Nat.le_of_ble_eq_true rfl) dX0_holds_20 (x_room0 hX) ?_
      refine lv_if_ne (tgt := 28) hx hb dX0_holds_23 (by decide) (fun c9 => ?_) (fun c9 => ?_)
      · have hf := it_neg c9 hf
        refine lv_aload_n hx hb dX0_holds_28 rfl (lv_at hl 0 rfl) ?_
        obtain ⟨S10, hcS10, hf⟩ := bnd_some hf
        refine xr_callVC (rest := []) (q := (RX0, TX0, 14)) B hX (c_X0_looks l D S o hcS10) hk1 rfl (by decide) q1452 q1454 (Or.inl qs31) q103 q1455 hd_X0_looks ⟨Nat.le_of_ble_eq_true rfl, Nat.le_of_ble_eq_true rfl⟩ rfl hl.1 rfl (Nat.le_of_ble_eq_true rfl) dX0_holds_29 (fun H locs hX => ?_)
        refine lv_aload_n hx hb dX0_holds_32 rfl (lv_at hl 0 rfl) ?_
        obtain ⟨hk12, hf⟩ := chk_some hf
        obtain ⟨r11, hcr11, hf⟩ := bnd_some hf
        refine xr_callVC (rest := []) (q := (RX0, TX0, 14)) B hX (c_X0_needed l D S10 o hcr11) hk12 rfl (by decide) q1469 q1471 (Or.inl qs34) q103 q1472 hd_X0_needed ⟨Nat.le_of_ble_eq_true rfl, Nat.le_of_ble_eq_true rfl⟩ rfl hl.1 rfl (Nat.le_of_ble_eq_true rfl) dX0_holds_33 (fun H locs hX => ?_)
        refine lv_istore_n (lv' := [(2, .int r11), (0, .ref o), (1, .int p0)]) hx hb dX0_holds_36 rfl hl (by decide) rfl (fun ls hl => ?_)
        refine lv_iconst (v := nI 0) hx hb dX0_holds_37 ic0 ?_
        refine lv_istore_n (lv' := [(3, .int (nI 0)), (2, .int r11), (0, .ref o), (1, .int p0)]) hx hb dX0_holds_38 rfl hl (by decide) rfl (fun ls hl => ?_)
        refine lv_iconst (v := nI 0) hx hb dX0_holds_39 ic0 ?_
        refine lv_istore (lv' := [(4, .int (nI 0)), (3, .int (nI 0)), (2, .int r11), (0, .ref o), (1, .int p0)]) hx hb dX0_holds_40 hl (by decide) rfl (fun ls hl => ?_)
        obtain ⟨y57, hxy57, hf⟩ := bnd_some hf
        have hy57 : (fun t : Int32 × XS => ∀ (H : Heap) (locs : List Loc) (ls : Array Slot), x_I D S s H locs t.2 → lv_has ls 5 [(3, .int t.1)] → W p l e (x_R 119 2776 S) s m args below meth c H locs (xz t.2 - xz S) (xu t.2 - xu S) Q (F0 m 113 ls [])) y57 := by
          rcases y57 with ⟨x58, S59⟩
          have hf := u2_at hf
          intro H locs ls hX hl
          refine lv_iload_n hx hb dX0_holds_113 rfl (lv_at hl 0 rfl) ?_
          cases hf
          exact hret _ _ _ _ rfl hX dX0_holds_114
        refine lp_W (step := (fun t : Int32 × Int32 × XS => f_X0_holds_L42 o p0 r11 t.1 t.2.1 t.2.2)) (fun t : Int32 × Int32 × XS => ∀ (H : Heap) (locs : List Loc) (ls : Array Slot), x_I D S s H locs t.2.2 → lv_has ls 5 [(0, .ref o), (1, .int p0), (2, .int r11), (3, .int t.1), (4, .int t.2.1)] → W p l e (x_R 119 2776 S) s m args below meth c H locs (xz t.2.2 - xz S) (xu t.2.2 - xu S) Q (F0 m 42 ls [])) (fun t : Int32 × XS => ∀ (H : Heap) (locs : List Loc) (ls : Array Slot), x_I D S s H locs t.2 → lv_has ls 5 [(3, .int t.1)] → W p l e (x_R 119 2776 S) s m args below meth c H locs (xz t.2 - xz S) (xu t.2 - xu S) Q (F0 m 113 ls [])) ?_ fu (nI 0, nI 0, S10) y57 hxy57 hy57 _ _ _ hX (lv_sub hl [3, 4, 2, 1, 0] rfl)
        clear hf hxy57 hy57
        rintro ⟨x13, x14, S15⟩ oo (hf : f_X0_holds_L42 o p0 r11 x13 x14 S15 = some oo) hk
        intro H locs ls hX hl
        unfold f_X0_holds_L42 at hf
        refine lv_iload hx hb dX0_holds_42 (lv_at hl 4 rfl) ?_
        refine lv_aload_n hx hb dX0_holds_44 rfl (lv_at hl 0 rfl) ?_
        obtain ⟨hk17, hf⟩ := chk_some hf
        obtain ⟨r16, hcr16, hf⟩ := bnd_some hf
        refine xr_callVC (rest := [.int x14]) (q := (RX0, TX0, 14)) B hX (c_X0_rows l D S15 o hcr16) hk17 rfl (by decide) q1465 q1467 (Or.inl qs33) q103 q1468 hd_X0_rows ⟨Nat.le_of_ble_eq_true rfl, Nat.le_of_ble_eq_true rfl⟩ rfl hl.1 rfl (Nat.le_of_ble_eq_true rfl) dX0_holds_45 (fun H locs hX => ?_)
        refine lv_icmp_ge (tgt := 113) hx hb dX0_holds_48 (by decide) (fun c18 => ?_) (fun c18 => ?_)
        · have hf := it_pos c18 hf
          cases hf
          exact hk _ _ _ hX (lv_sub hl [3] rfl)
        · have hf := it_neg c18 hf
          refine lv_iload_n hx hb dX0_holds_51 rfl (lv_at hl 3 rfl) ?_
          refine lv_iload_n hx hb dX0_holds_52 rfl (lv_at hl 1 rfl) ?_
          refine lv_if_ne (tgt := 69) hx hb dX0_holds_53 (by decide) (fun c19 => ?_) (fun c19 => ?_)
          · have hf := it_neg c19 hf
            refine lv_aload_n hx hb dX0_holds_69 rfl (lv_at hl 0 rfl) ?_
            refine lv_iload hx hb dX0_holds_70 (lv_at hl 4 rfl) ?_
            refine lv_iload_n hx hb dX0_holds_72 rfl (lv_at hl 2 rfl) ?_
            obtain ⟨⟨r20, S21⟩, hcr20, hf⟩ := bnd_some hf
            have hf := u2_at hf
            refine xr_callVC (rest := [.int x13]) (q := (RX0, TX0, 14)) B hX (c_X0_isForm l D S15 o x14 r11 hcr20) hk17 rfl (by decide) q1485 q1487 (Or.inl qs37) q103 q1488 hd_X0_isForm ⟨Nat.le_of_ble_eq_true rfl, Nat.le_of_ble_eq_true rfl⟩ rfl hl.1 rfl (Nat.le_of_ble_eq_true rfl) dX0_holds_73 (fun H locs hX => ?_)
            refine lv_if_eq (tgt := 104) hx hb dX0_holds_76 (by decide) (fun c22 => ?_) (fun c22 => ?_)
            · have hf := it_pos c22 hf
              refine lv_iconst (v := nI 0) hx hb dX0_holds_104 ic0 ?_
              refine lv_iadd hx hb dX0_holds_105 ?_
              refine lv_topi (fun x23 ex23 => ?_)
              have hf := bd_at ex23 hf
              refine lv_istore_n (lv' := [(3, .int x23), (0, .ref o), (1, .int p0), (2, .int r11), (4, .int x14)]) hx hb dX0_holds_106 rfl hl (by decide) rfl (fun ls hl => ?_)
              obtain ⟨x24, ex24, hf⟩ := bd_some hf
              refine lv_iinc (v := x24) (lv' := [(4, .int x24), (3, .int x23), (0, .ref o), (1, .int p0), (2, .int r11)]) hx hb dX0_holds_107 hl (k := 4) rfl (by rw [ex24]; first | done | rfl) (by decide) rfl (fun ls hl => ?_)
              refine lv_goto (tgt := 42) hx hb dX0_holds_110 (by decide) ?_
              cases hf
              exact hk _ _ _ hX (lv_sub hl [2, 3, 4, 1, 0] rfl)
            · have hf := it_neg c22 hf
              refine lv_aload_n hx hb dX0_holds_79 rfl (lv_at hl 0 rfl) ?_
              refine lv_aload_n hx hb dX0_holds_80 rfl (lv_at hl 0 rfl) ?_
              obtain ⟨hk25, hf⟩ := chk_some hf
              obtain ⟨b26, hb26, hf⟩ := bnd_some hf
              refine xr_get (q := (RX0, TX0, 14)) B hX 0 hk25 rfl (by decide) (by decide) (v := .ref b26) (x_Vr (c := 1) (j := 0) rfl (by decide) hb26) q339 (fun _ h => h) dX0_holds_81 ?_
              obtain ⟨hk27, hf⟩ := chk_some hf
              rcases ho29 : xr S21 213 b26 0 with _ | b28
              · have hf := oc_none ho29 hf
                refine xr_getN (q := (RX1, TX1, 14)) B hX 13 hk27 rfl (by decide) (by decide) (v := .null) (x_Vr (c := 2) (j := 13) rfl (by decide) ho29) nq245 (fun _ h => h) dX0_holds_84 ?_
                refine lv_aload_n hx hb dX0_holds_87 rfl (lv_at hl 0 rfl) ?_
                obtain ⟨b30, hcb30, hf⟩ := bnd_some hf
                refine xr_callVC (rest := [.null, .ref o, .int x13]) (q := (RX0, TX0, 14)) B hX (c_X0_land l D S21 o hcb30) hk25 rfl (by decide) q393 q395 (Or.inl qs0) q103 q396 hd_X0_land ⟨Nat.le_of_ble_eq_true rfl, Nat.le_of_ble_eq_true rfl⟩ rfl hl.1 rfl (Nat.le_of_ble_eq_true rfl) dX0_holds_88 (fun H locs hX => ?_)
                refine lv_iload hx hb dX0_holds_91 (lv_at hl 4 rfl) ?_
                refine lv_i2l (v := x14.toInt64) hx hb dX0_holds_93 rfl ?_
                cases hf
              · have hf := oc_some ho29 hf
                refine xr_getN (q := (RX1, TX1, 14)) B hX 13 hk27 rfl (by decide) (by decide) (v := .ref b28) (x_Vr (c := 2) (j := 13) rfl (by decide) ho29) nq245 (fun _ h => h) dX0_holds_84 ?_
                refine lv_aload_n hx hb dX0_holds_87 rfl (lv_at hl 0 rfl) ?_
                obtain ⟨b31, hcb31, hf⟩ := bnd_some hf
                refine xr_callVC (rest := [.ref b28, .ref o, .int x13]) (q := (RX0, TX0, 14)) B hX (c_X0_land l D S21 o hcb31) hk25 rfl (by decide) q393 q395 (Or.inl qs0) q103 q396 hd_X0_land ⟨Nat.le_of_ble_eq_true rfl, Nat.le_of_ble_eq_true rfl⟩ rfl hl.1 rfl (Nat.le_of_ble_eq_true rfl) dX0_holds_88 (fun H locs hX => ?_)
                refine lv_iload hx hb dX0_holds_91 (lv_at hl 4 rfl) ?_
                refine lv_i2l (v := x14.toInt64) hx hb dX0_holds_93 rfl ?_
                obtain ⟨⟨r32, S33⟩, hcr32, hf⟩ := bnd_some hf
                have hf := u2_at hf
                refine xr_callVC (rest := [.int x13]) (q := (RX0, TX0, 14)) B hX (c_X0_isSoIn l D S21 o b28 b31 x14.toInt64 hcr32) hk25 rfl (by decide) q1256 q1258 (Or.inl qs26) q103 q1259 hd_X0_isSoIn ⟨Nat.le_of_ble_eq_true rfl, Nat.le_of_ble_eq_true rfl⟩ rfl hl.1 rfl (Nat.le_of_ble_eq_true rfl) dX0_holds_94 (fun H locs hX => ?_)
                refine lv_if_eq (tgt := 104) hx hb dX0_holds_97 (by decide) (fun c34 => ?_) (fun c34 => ?_)
                · have hf := it_pos c34 hf
                  refine lv_iconst (v := nI 0) hx hb dX0_holds_104 ic0 ?_
                  refine lv_iadd hx hb dX0_holds_105 ?_
                  refine lv_topi (fun x35 ex35 => ?_)
                  have hf := bd_at ex35 hf
                  refine lv_istore_n (lv' := [(3, .int x35), (0, .ref o), (1, .int p0), (2, .int r11), (4, .int x14)]) hx hb dX0_holds_106 rfl hl (by decide) rfl (fun ls hl => ?_)
                  obtain ⟨x36, ex36, hf⟩ := bd_some hf
                  refine lv_iinc (v := x36) (lv' := [(4, .int x36), (3, .int x35), (0, .ref o), (1, .int p0), (2, .int r11)]) hx hb dX0_holds_107 hl (k := 4) rfl (by rw [ex36]; first | done | rfl) (by decide) rfl (fun ls hl => ?_)
                  refine lv_goto (tgt := 42) hx hb dX0_holds_110 (by decide) ?_
                  cases hf
                  exact hk _ _ _ hX (lv_sub hl [2, 3, 4, 1, 0] rfl)
                · have hf := it_neg c34 hf
                  refine lv_iconst (v := nI 1) hx hb dX0_holds_100 ic1 ?_
                  refine lv_goto (tgt := 105) hx hb dX0_holds_101 (by decide) ?_
                  refine lv_iadd hx hb dX0_holds_105 ?_
                  refine lv_topi (fun x37 ex37 => ?_)
                  have hf := bd_at ex37 hf
                  refine lv_istore_n (lv' := [(3, .int x37), (0, .ref o), (1, .int p0), (2, .int r11), (4, .int x14)]) hx hb dX0_holds_106 rfl hl (by decide) rfl (fun ls hl => ?_)
                  obtain ⟨x38, ex38, hf⟩ := bd_some hf
                  refine lv_iinc (v := x38) (lv' := [(4, .int x38), (3, .int x37), (0, .ref o), (1, .int p0), (2, .int r11)]) hx hb dX0_holds_107 hl (k := 4) rfl (by rw [ex38]; first | done | rfl) (by decide) rfl (fun ls hl => ?_)
                  refine lv_goto (tgt := 42) hx hb dX0_holds_110 (by decide) ?_
                  cases hf
                  exact hk _ _ _ hX (lv_sub hl [2, 3, 4, 1, 0] rfl)
          · have hf := it_pos c19 hf
            refine lv_aload_n hx hb dX0_holds_56 rfl (lv_at hl 0 rfl) ?_
            refine lv_iload hx hb dX0_holds_57 (lv_at hl 4 rfl) ?_
            refine lv_iload_n hx hb dX0_holds_59 rfl (lv_at hl 2 rfl) ?_
            obtain ⟨r39, hcr39, hf⟩ := bnd_some hf
            refine xr_callVC (rest := [.int x13]) (q := (RX0, TX0, 14)) B hX (c_X0_isWorld l D S15 o x14 r11 hcr39) hk17 rfl (by decide) q1477 q1479 (Or.inl qs36) q103 q1480 hd_X0_isWorld ⟨Nat.le_of_ble_eq_true rfl, Nat.le_of_ble_eq_true rfl⟩ rfl hl.1 rfl (Nat.le_of_ble_eq_true rfl) dX0_holds_60 (fun H locs hX => ?_)
            refine lv_if_eq (tgt := 104) hx hb dX0_holds_63 (by decide) (fun c40 => ?_) (fun c40 => ?_)
            · have hf := it_pos c40 hf
              refine lv_iconst (v := nI 0) hx hb dX0_holds_104 ic0 ?_
              refine lv_iadd hx hb dX0_holds_105 ?_
              refine lv_topi (fun x41 ex41 => ?_)
              have hf := bd_at ex41 hf
              refine lv_istore_n (lv' := [(3, .int x41), (0, .ref o), (1, .int p0), (2, .int r11), (4, .int x14)]) hx hb dX0_holds_106 rfl hl (by decide) rfl (fun ls hl => ?_)
              obtain ⟨x42, ex42, hf⟩ := bd_some hf
              refine lv_iinc (v := x42) (lv' := [(4, .int x42), (3, .int x41), (0, .ref o), (1, .int p0), (2, .int r11)]) hx hb dX0_holds_107 hl (k := 4) rfl (by rw [ex42]; first | done | rfl) (by decide) rfl (fun ls hl => ?_)
              refine lv_goto (tgt := 42) hx hb dX0_holds_110 (by decide) ?_
              cases hf
              exact hk _ _ _ hX (lv_sub hl [2, 3, 4, 1, 0] rfl)
            · have hf := it_neg c40 hf
              refine lv_goto (tgt := 79) hx hb dX0_holds_66 (by decide) ?_
              refine lv_aload_n hx hb dX0_holds_79 rfl (lv_at hl 0 rfl) ?_
              refine lv_aload_n hx hb dX0_holds_80 rfl (lv_at hl 0 rfl) ?_
              obtain ⟨b43, hb43, hf⟩ := bnd_some hf
              refine xr_get (q := (RX0, TX0, 14)) B hX 0 hk17 rfl (by decide) (by decide) (v := .ref b43) (x_Vr (c := 1) (j := 0) rfl (by decide) hb43) q339 (fun _ h => h) dX0_holds_81 ?_
              obtain ⟨hk44, hf⟩ := chk_some hf
              rcases ho46 : xr S15 213 b43 0 with _ | b45
              · have hf := oc_none ho46 hf
                refine xr_getN (q := (RX1, TX1, 14)) B hX 13 hk44 rfl (by decide) (by decide) (v := .null) (x_Vr (c := 2) (j := 13) rfl (by decide) ho46) nq245 (fun _ h => h) dX0_holds_84 ?_
                refine lv_aload_n hx hb dX0_holds_87 rfl (lv_at hl 0 rfl) ?_
                obtain ⟨b47, hcb47, hf⟩ := bnd_some hf
                refine xr_callVC (rest := [.null, .ref o, .int x13]) (q := (RX0, TX0, 14)) B hX (c_X0_land l D S15 o hcb47) hk17 rfl (by decide) q393 q395 (Or.inl qs0) q103 q396 hd_X0_land ⟨Nat.le_of_ble_eq_true rfl, Nat.le_of_ble_eq_true rfl⟩ rfl hl.1 rfl (Nat.le_of_ble_eq_true rfl) dX0_holds_88 (fun H locs hX => ?_)
                refine lv_iload hx hb dX0_holds_91 (lv_at hl 4 rfl) ?_
                refine lv_i2l (v := x14.toInt64) hx hb dX0_holds_93 rfl ?_
                cases hf
              · have hf := oc_some ho46 hf
                refine xr_getN (q := (RX1, TX1, 14)) B hX 13 hk44 rfl (by decide) (by decide) (v := .ref b45) (x_Vr (c := 2) (j := 13) rfl (by decide) ho46) nq245 (fun _ h => h) dX0_holds_84 ?_
                refine lv_aload_n hx hb dX0_holds_87 rfl (lv_at hl 0 rfl) ?_
                obtain ⟨b48, hcb48, hf⟩ := bnd_some hf
                refine xr_callVC (rest := [.ref b45, .ref o, .int x13]) (q := (RX0, TX0, 14)) B hX (c_X0_land l D S15 o hcb48) hk17 rfl (by decide) q393 q395 (Or.inl qs0) q103 q396 hd_X0_land ⟨Nat.le_of_ble_eq_true rfl, Nat.le_of_ble_eq_true rfl⟩ rfl hl.1 rfl (Nat.le_of_ble_eq_true rfl) dX0_holds_88 (fun H locs hX => ?_)
                refine lv_iload hx hb dX0_holds_91 (lv_at hl 4 rfl) ?_
                refine lv_i2l (v := x14.toInt64) hx hb dX0_holds_93 rfl ?_
                obtain ⟨⟨r49, S50⟩, hcr49, hf⟩ := bnd_some hf
                have hf := u2_at hf
                refine xr_callVC (rest := [.int x13]) (q := (RX0, TX0, 14)) B hX (c_X0_isSoIn l D S15 o b45 b48 x14.toInt64 hcr49) hk17 rfl (by decide) q1256 q1258 (Or.inl qs26) q103 q1259 hd_X0_isSoIn ⟨Nat.le_of_ble_eq_true rfl, Nat.le_of_ble_eq_true rfl⟩ rfl hl.1 rfl (Nat.le_of_ble_eq_true rfl) dX0_holds_94 (fun H locs hX => ?_)
                refine lv_if_eq (tgt := 104) hx hb dX0_holds_97 (by decide) (fun c51 => ?_) (fun c51 => ?_)
                · have hf := it_pos c51 hf
                  refine lv_iconst (v := nI 0) hx hb dX0_holds_104 ic0 ?_
                  refine lv_iadd hx hb dX0_holds_105 ?_
                  refine lv_topi (fun x52 ex52 => ?_)
                  have hf := bd_at ex52 hf
                  refine lv_istore_n (lv' := [(3, .int x52), (0, .ref o), (1, .int p0), (2, .int r11), (4, .int x14)]) hx hb dX0_holds_106 rfl hl (by decide) rfl (fun ls hl => ?_)
                  obtain ⟨x53, ex53, hf⟩ := bd_some hf
                  refine lv_iinc (v := x53) (lv' := [(4, .int x53), (3, .int x52), (0, .ref o), (1, .int p0), (2, .int r11)]) hx hb dX0_holds_107 hl (k := 4) rfl (by rw [ex53]; first | done | rfl) (by decide) rfl (fun ls hl => ?_)
                  refine lv_goto (tgt := 42) hx hb dX0_holds_110 (by decide) ?_
                  cases hf
                  exact hk _ _ _ hX (lv_sub hl [2, 3, 4, 1, 0] rfl)
                · have hf := it_neg c51 hf
                  refine lv_iconst (v := nI 1) hx hb dX0_holds_100 ic1 ?_
                  refine lv_goto (tgt := 105) hx hb dX0_holds_101 (by decide) ?_
                  refine lv_iadd hx hb dX0_holds_105 ?_
                  refine lv_topi (fun x54 ex54 => ?_)
                  have hf := bd_at ex54 hf
                  refine lv_istore_n (lv' := [(3, .int x54), (0, .ref o), (1, .int p0), (2, .int r11), (4, .int x14)]) hx hb dX0_holds_106 rfl hl (by decide) rfl (fun ls hl => ?_)
                  obtain ⟨x55, ex55, hf⟩ := bd_some hf
                  refine lv_iinc (v := x55) (lv' := [(4, .int x55), (3, .int x54), (0, .ref o), (1, .int p0), (2, .int r11)]) hx hb dX0_holds_107 hl (k := 4) rfl (by rw [ex55]; first | done | rfl) (by decide) rfl (fun ls hl => ?_)
                  refine lv_goto (tgt := 42) hx hb dX0_holds_110 (by decide) ?_
                  cases hf
                  exact hk _ _ _ hX (lv_sub hl [2, 3, 4, 1, 0] rfl)
      · have hf := it_pos c9 hf
        refine lv_iconst (v := (-1)) hx hb dX0_holds_26 icm1 ?_
        cases hf
        exact hret _ _ _ _ rfl hX dX0_holds_27
def f_X0_against_L30 (o : Nat) (r9 : Int32) (x11 : Int32) (S12 : XS) : Option ((Int32 × XS) ⊕ ((Int32 × XS) ⊕ (XS))) :=
  chk (xk S12 o = 1) <| bnd (f_X0_rows S12 o) fun r13 => (if r13 ≤ x11 then some (.inr (.inr S12)) else bnd (f_X0_isForm S12 o x11 r9) <| u2 fun r16 S17 => (if r16 = 0 then bd (x11 + nI 1) fun x19 => some (.inl (x19, S17)) else chk (xk S17 o = 1) <| bnd (xr S17 100 o 0) fun b21 => chk (xk S17 b21 = 2) <| (oc (xr S17 213 b21 0) (bnd (f_X0_land S17 o) fun b25 => none) fun b23 => bnd (f_X0_land S17 o) fun b26 => bnd (f_X0_isSoIn S17 o b23 b26 x11.toInt64) <| u2 fun r27 S28 => (if r27 = 0 then some (.inr (.inl (x11, S28))) else bd (x11 + nI 1) fun x30 => some (.inl (x30, S28))))))
def f_X0_against (S : XS) (o : Nat) : Option (Int32 × XS) :=
  chk (xk S o = 1) <| bnd (xr S 100 o 0) fun b2 => chk (xk S b2 = 2) <| (oc (xr S 213 b2 0) (some (nI 0, S)) fun b4 => bnd (f_X0_isTold S o) fun r6 => (if r6 = 0 then some (nI 0, S) else bnd (f_X0_looks S o) fun S8 => chk (xk S8 o = 1) <| bnd (f_X0_needed S8 o) fun r9 => bnd (wO (fun t : Int32 × XS => f_X0_against_L30 o r9 t.1 t.2) fu (nI 0, S8)) (Sum.elim (u2 fun x33 S34 => chk (xk S34 o = 1) <| bnd (xr S34 100 o 0) fun b36 => chk (xk S34 b36 = 2) <| chk (xb S34 ≤ b36) <| bd (s_l S34 207 b36 0 x33.toInt64) fun S39 => some (nI 1, S39)) (fun S40 => some (nI 0, S40)))))
set_option maxHeartbeats 4000000 in
set_option maxRecDepth 100000 in
theorem c_X0_against (l : Launch) (D : XD) (S : XS) (o : Nat) {r : Int32} {S' : XS} (hf : f_X0_against S o = some (r, S')) : x_Met l yX0_against cX0_against 3 (Option.some Jvm.ClassFile.FieldType.boolean) 119 2776 D [.ref o] S (some (.int r)) S' := by
  refine x_metI RX0 (by decide) rfl (Nat.le_of_ble_eq_true rfl) (fun p e s m args below meth c Q B hnm hret H locs hX ls hl => ?_)
  have hx := B.1
  have hb := B.2.1
  have hml := B.2.2.1
  have hown := B.2.2.2.1
  have hts := B.2.2.2.2
  have hl : lv_has ls 3 [(0, .ref o)] := hl
  unfold f_X0_against at hf
  refine lv_aload_n hx hb dX0_against_0 rfl (lv_at hl 0 rfl) ?_
  obtain ⟨hk1, hf⟩ := chk_some hf
  obtain ⟨b2, hb2, hf⟩ := bnd_some hf
  refine xr_get (q := (RX0, TX0, 14)) B hX 0 hk1 rfl (by decide) (by decide) (v := .ref b2) (x_Vr (c := 1) (j := 0) rfl (by decide) hb2) q339 (fun _ h => h) dX0_against_1 ?_
  obtain ⟨hk3, hf⟩ := chk_some hf
  rcases ho5 : xr S 213 b2 0 with _ | b4
  · have hf := oc_none ho5 hf
    refine xr_getN (q := (RX1, TX1, 14)) B hX 13 hk3 rfl (by decide) (by decide) (v := .null) (x_Vr (c := 2) (j := 13) rfl (by decide) ho5) nq245 (fun _ h => h) dX0_against_4 ?_
    refine lv_ifnullN (tgt := 17) hx hb dX0_against_7 (by decide) ?_
    refine lv_iconst (v := nI 0) hx hb dX0_against_17 ic0 ?_
    cases hf
    exact hret _ _ _ _ rfl hX dX0_against_18
  · have hf := oc_some ho5 hf
    refine xr_getN (q := (RX1, TX1, 14)) B hX 13 hk3 rfl (by decide) (by decide) (v := .ref b4) (x_Vr (c := 2) (j := 13) rfl (by decide) ho5) nq245 (fun _ h => h) dX0_against_4 ?_
    refine lv_ifnull hx hb dX0_against_7 ?_
    refine lv_aload_n hx hb dX0_against_10 rfl (lv_at hl 0 rfl) ?_
    obtain ⟨r6, hcr6, hf⟩ := bnd_some hf
    refine xr_callVC (rest := []) (q := (RX0, TX0, 14)) B hX (c_X0_isTold l D S o hcr6) hk1 rfl (by decide) q1406 q1408 (Or.inl qs29) q103 q1409 hd_X0_isTold ⟨Nat.le_of_ble_eq_true rfl, Nat.le_of_ble_eq_true rfl⟩ rfl hl.1 rfl (Nat.le_of_ble_eq_true rfl) dX0_against_11 (fun H locs hX => ?_)
    refine lv_if_ne (tgt := 19) hx hb dX0_against_14 (by decide) (fun c7 => ?_) (fun c7 => ?_)
    · have hf := it_neg c7 hf
      refine lv_aload_n hx hb dX0_against_19 rfl (lv_at hl 0 rfl) ?_
      obtain ⟨S8, hcS8, hf⟩ := bnd_some hf
      refine xr_callVC (rest := []) (q := (RX0, TX0, 14)) B hX (c_X0_looks l D S o hcS8) hk1 rfl (by decide) q1452 q1454 (Or.inl qs31) q103 q1455 hd_X0_looks ⟨Nat.le_of_ble_eq_true rfl, Nat.le_of_ble_eq_true rfl⟩ rfl hl.1 rfl (Nat.le_of_ble_eq_true rfl) dX0_against_20 (fun H locs hX => ?_)
      refine lv_aload_n hx hb dX0_against_23 rfl (lv_at hl 0 rfl) ?_
      obtain ⟨hk10, hf⟩ := chk_some hf
      obtain ⟨r9, hcr9, hf⟩ := bnd_some hf
      refine xr_callVC (rest := []) (q := (RX0, TX0, 14)) B hX (c_X0_needed l D S8 o hcr9) hk10 rfl (by decide) q1469 q1471 (Or.inl qs34) q103 q1472 hd_X0_needed ⟨Nat.le_of_ble_eq_true rfl, Nat.le_of_ble_eq_true rfl⟩ rfl hl.1 rfl (Nat.le_of_ble_eq_true rfl) dX0_against_24 (fun H locs hX => ?_)
      refine lv_istore_n (lv' := [(1, .int r9), (0, .ref o)]) hx hb dX0_against_27 rfl hl (by decide) rfl (fun ls hl => ?_)
      refine lv_iconst (v := nI 0) hx hb dX0_against_28 ic0 ?_
      refine lv_istore_n (lv' := [(2, .int (nI 0)), (1, .int r9), (0, .ref o)]) hx hb dX0_against_29 rfl hl (by decide) rfl (fun ls hl => ?_)
      obtain ⟨y32, hxy32, hf⟩ := bnd_some hf
      have hy32 : (Sum.elim (fun t : Int32 × XS => ∀ (H : Heap) (locs : List Loc) (ls : Array Slot), x_I D S s H locs t.2 → lv_has ls 3 [(0, .ref o), (2, .int t.1)] → W p l e (x_R 119 2776 S) s m args below meth c H locs (xz t.2 - xz S) (xu t.2 - xu S) Q (F0 m 70 ls [])) (fun t : XS => ∀ (H : Heap) (locs : List Loc) (ls : Array Slot), x_I D S s H locs t → lv_has ls 3 [] → W p l e (x_R 119 2776 S) s m args below meth c H locs (xz t - xz S) (xu t - xu S) Q (F0 m 87 ls []))) y32 := by
        rcases y32 with ⟨x33, S34⟩ | S40
        · have hf := el_l hf
          have hf := u2_at hf
          intro H locs ls hX hl
          refine lv_aload_n hx hb dX0_against_70 rfl (lv_at hl 0 rfl) ?_
          obtain ⟨hk35, hf⟩ := chk_some hf
          obtain ⟨b36, hb36, hf⟩ := bnd_some hf
          refine xr_get (q := (RX0, TX0, 14)) B hX 0 hk35 rfl (by decide) (by decide) (v := .ref b36) (x_Vr (c := 1) (j := 0) rfl (by decide) hb36) q339 (fun _ h => h) dX0_against_71 ?_
          refine lv_iload_n hx hb dX0_against_74 rfl (lv_at hl 1 rfl) ?_
          refine lv_i2l (v := x33.toInt64) hx hb dX0_against_75 rfl ?_
          obtain ⟨hk37, hf⟩ := chk_some hf
          obtain ⟨hw38, hf⟩ := chk_some hf
          obtain ⟨S39, eS39, hf⟩ := bd_some hf
          refine xr_putN (S' := S39) (q := (RX1, TX1, 14)) (v := .long x33.toInt64) (ty0 := tyX1) B hX 7 hk37 rfl (by decide) hw38 (by decide) (by rw [eS39]; exact x_Vup_l (k := 2) (j := 7) rfl (by decide)) tyX1_ok (fun i h1 h2 => nmX1 i (Nat.lt_of_lt_of_le h1 (by decide)) 7 (by decide) h2) rfl rfl rfl nq233 (fun _ h => h) dX0_against_76 (fun H locs hX => ?_)
          refine w_l eS39 ?_
          have hk35 := ks_l eS39 hk35
          have hk37 := ks_l eS39 hk37
          have hw38 := kw_l eS39 hw38
          refine lv_iconst (v := nI 1) hx hb dX0_against_79 ic1 ?_
          cases hf
          exact hret _ _ _ _ rfl hX dX0_against_80
        · have hf := el_r hf
          intro H locs ls hX hl
          refine lv_iconst (v := nI 0) hx hb dX0_against_87 ic0 ?_
          cases hf
          exact hret _ _ _ _ rfl hX dX0_against_88
      refine lp_W (step := (fun t : Int32 × XS => f_X0_against_L30 o r9 t.1 t.2)) (fun t : Int32 × XS => ∀ (H : Heap) (locs : List Loc) (ls : Array Slot), x_I D S s H locs t.2 → lv_has ls 3 [(0, .ref o), (1, .int r9), (2, .int t.1)] → W p l e (x_R 119 2776 S) s m args below meth c H locs (xz t.2 - xz S) (xu t.2 - xu S) Q (F0 m 30 ls [])) (Sum.elim (fun t : Int32 × XS => ∀ (H : Heap) (locs : List Loc) (ls : Array Slot), x_I D S s H locs t.2 → lv_has ls 3 [(0, .ref o), (2, .int t.1)] → W p l e (x_R 119 2776 S) s m args below meth c H locs (xz t.2 - xz S) (xu t.2 - xu S) Q (F0 m 70 ls [])) (fun t : XS => ∀ (H : Heap) (locs : List Loc) (ls : Array Slot), x_I D S s H locs t → lv_has ls 3 [] → W p l e (x_R 119 2776 S) s m args below meth c H locs (xz t - xz S) (xu t - xu S) Q (F0 m 87 ls []))) ?_ fu (nI 0, S8) y32 hxy32 hy32 _ _ _ hX (lv_sub hl [2, 1, 0] rfl)
      clear hf hxy32 hy32
      rintro ⟨x11, S12⟩ oo (hf : f_X0_against_L30 o r9 x11 S12 = some oo) hk
      intro H locs ls hX hl
      unfold f_X0_against_L30 at hf
      refine lv_iload_n hx hb dX0_against_30 rfl (lv_at hl 2 rfl) ?_
      refine lv_aload_n hx hb dX0_against_31 rfl (lv_at hl 0 rfl) ?_
      obtain ⟨hk14, hf⟩ := chk_some hf
      obtain ⟨r13, hcr13, hf⟩ := bnd_some hf
      refine xr_callVC (rest := [.int x11]) (q := (RX0, TX0, 14)) B hX (c_X0_rows l D S12 o hcr13) hk14 rfl (by decide) q1465 q1467 (Or.inl qs33) q103 q1468 hd_X0_rows ⟨Nat.le_of_ble_eq_true rfl, Nat.le_of_ble_eq_true rfl⟩ rfl hl.1 rfl (Nat.le_of_ble_eq_true rfl) dX0_against_32 (fun H locs hX => ?_)
      refine lv_icmp_ge (tgt := 87) hx hb dX0_against_35 (by decide) (fun c15 => ?_) (fun c15 => ?_)
      · have hf := it_pos c15 hf
        cases hf
        exact hk _ _ _ hX (lv_sub hl [] rfl)
      · have hf := it_neg c15 hf
        refine lv_aload_n hx hb dX0_against_38 rfl (lv_at hl 0 rfl) ?_
        refine lv_iload_n hx hb dX0_against_39 rfl (lv_at hl 2 rfl) ?_
        refine lv_iload_n hx hb dX0_against_40 rfl (lv_at hl 1 rfl) ?_
        obtain ⟨⟨r16, S17⟩, hcr16, hf⟩ := bnd_some hf
        have hf := u2_at hf
        refine xr_callVC (rest := []) (q := (RX0, TX0, 14)) B hX (c_X0_isForm l D S12 o x11 r9 hcr16) hk14 rfl (by decide) q1485 q1487 (Or.inl qs37) q103 q1488 hd_X0_isForm ⟨Nat.le_of_ble_eq_true rfl, Nat.le_of_ble_eq_true rfl⟩ rfl hl.1 rfl (Nat.le_of_ble_eq_true rfl) dX0_against_41 (fun H locs hX => ?_)
        refine lv_if_eq (tgt := 81) hx hb dX0_against_44 (by decide) (fun c18 => ?_) (fun c18 => ?_)
        · have hf := it_pos c18 hf
          obtain ⟨x19, ex19, hf⟩ := bd_some hf
          refine lv_iinc (v := x19) (lv' := [(2, .int x19), (0, .ref o), (1, .int r9)]) hx hb dX0_against_81 hl (k := 2) rfl (by rw [ex19]; first | done | rfl) (by decide) rfl (fun ls hl => ?_)
          refine lv_goto (tgt := 30) hx hb dX0_against_84 (by decide) ?_
          cases hf
          exact hk _ _ _ hX (lv_sub hl [1, 2, 0] rfl)
        · have hf := it_neg c18 hf
          refine lv_aload_n hx hb dX0_against_47 rfl (lv_at hl 0 rfl) ?_
          refine lv_aload_n hx hb dX0_against_48 rfl (lv_at hl 0 rfl) ?_
          obtain ⟨hk20, hf⟩ := chk_some hf
          obtain ⟨b21, hb21, hf⟩ := bnd_some hf
          refine xr_get (q := (RX0, TX0, 14)) B hX 0 hk20 rfl (by decide) (by decide) (v := .ref b21) (x_Vr (c := 1) (j := 0) rfl (by decide) hb21) q339 (fun _ h => h) dX0_against_49 ?_
          obtain ⟨hk22, hf⟩ := chk_some hf
          rcases ho24 : xr S17 213 b21 0 with _ | b23
          · have hf := oc_none ho24 hf
            refine xr_getN (q := (RX1, TX1, 14)) B hX 13 hk22 rfl (by decide) (by decide) (v := .null) (x_Vr (c := 2) (j := 13) rfl (by decide) ho24) nq245 (fun _ h => h) dX0_against_52 ?_
            refine lv_aload_n hx hb dX0_against_55 rfl (lv_at hl 0 rfl) ?_
            obtain ⟨b25, hcb25, hf⟩ := bnd_some hf
            refine xr_callVC (rest := [.null, .ref o]) (q := (RX0, TX0, 14)) B hX (c_X0_land l D S17 o hcb25) hk20 rfl (by decide) q393 q395 (Or.inl qs0) q103 q396 hd_X0_land ⟨Nat.le_of_ble_eq_true rfl, Nat.le_of_ble_eq_true rfl⟩ rfl hl.1 rfl (Nat.le_of_ble_eq_true rfl) dX0_against_56 (fun H locs hX => ?_)
            refine lv_iload_n hx hb dX0_against_59 rfl (lv_at hl 2 rfl) ?_
            refine lv_i2l (v := x11.toInt64) hx hb dX0_against_60 rfl ?_
            cases hf
          · have hf := oc_some ho24 hf
            refine xr_getN (q := (RX1, TX1, 14)) B hX 13 hk22 rfl (by decide) (by decide) (v := .ref b23) (x_Vr (c := 2) (j := 13) rfl (by decide) ho24) nq245 (fun _ h => h) dX0_against_52 ?_
            refine lv_aload_n hx hb dX0_against_55 rfl (lv_at hl 0 rfl) ?_
            obtain ⟨b26, hcb26, hf⟩ := bnd_some hf
            refine xr_callVC (rest := [.ref b23, .ref o]) (q := (RX0, TX0, 14)) B hX (c_X0_land l D S17 o hcb26) hk20 rfl (by decide) q393 q395 (Or.inl qs0) q103 q396 hd_X0_land ⟨Nat.le_of_ble_eq_true rfl, Nat.le_of_ble_eq_true rfl⟩ rfl hl.1 rfl (Nat.le_of_ble_eq_true rfl) dX0_against_56 (fun H locs hX => ?_)
            refine lv_iload_n hx hb dX0_against_59 rfl (lv_at hl 2 rfl) ?_
            refine lv_i2l (v := x11.toInt64) hx hb dX0_against_60 rfl ?_
            obtain ⟨⟨r27, S28⟩, hcr27, hf⟩ := bnd_some hf
            have hf := u2_at hf
            refine xr_callVC (rest := []) (q := (RX0, TX0, 14)) B hX (c_X0_isSoIn l D S17 o b23 b26 x11.toInt64 hcr27) hk20 rfl (by decide) q1256 q1258 (Or.inl qs26) q103 q1259 hd_X0_isSoIn ⟨Nat.le_of_ble_eq_true rfl, Nat.le_of_ble_eq_true rfl⟩ rfl hl.1 rfl (Nat.le_of_ble_eq_true rfl) dX0_against_61 (fun H locs hX => ?_)
            refine lv_if_eq (tgt := 70) hx hb dX0_against_64 (by decide) (fun c29 => ?_) (fun c29 => ?_)
            · have hf := it_pos c29 hf
              cases hf
              exact hk _ _ _ hX (lv_sub hl [0, 2] rfl)
            · have hf := it_neg c29 hf
              refine lv_goto (tgt := 81) hx hb dX0_against_67 (by decide) ?_
              obtain ⟨x30, ex30, hf⟩ := bd_some hf
              refine lv_iinc (v := x30) (lv' := [(2, .int x30), (0, .ref o), (1, .int r9)]) hx hb dX0_against_81 hl (k := 2) rfl (by rw [ex30]; first | done | rfl) (by decide) rfl (fun ls hl => ?_)
              refine lv_goto (tgt := 30) hx hb dX0_against_84 (by decide) ?_
              cases hf
              exact hk _ _ _ hX (lv_sub hl [1, 2, 0] rfl)
    · have hf := it_pos c7 hf
      refine lv_iconst (v := nI 0) hx hb dX0_against_17 ic0 ?_
      cases hf
      exact hret _ _ _ _ rfl hX dX0_against_18
