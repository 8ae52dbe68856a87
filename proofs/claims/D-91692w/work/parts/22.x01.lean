set_option maxRecDepth 100000
def f_X0_looks_L26 (o : Nat) (x5 : Int32) (x10 : Int32) (x11 : Int32) (S12 : XS) : Option ((Int32 × Int32 × XS) ⊕ ((Int32 × XS))) :=
  chk (xk S12 o = 1) <| bnd (xr S12 100 o 0) fun b14 => chk (xk S12 b14 = 2) <| bnd (xr S12 211 b14 0) fun b16 => chk (xk S12 b16 = 19) <| bnd (f_J2_size S12 b16) fun r17 => (if r17 ≤ x11 then some (.inr (x10, S12)) else bnd (f_X0_story_2 S12 o x11) fun b20 => chk (xk S12 b20 = 7) <| bnd (xr S12 700 b20 0) fun b22 => bnd (f_X0_land S12 o) fun b23 => bnd (f_X0_isSoIn S12 o b22 b23 x5.toInt64) <| u2 fun r24 S25 => (if r24 = 0 then bd (x11 + nI 1) fun x27 => some (.inl (x10, x27, S25)) else bd (x10 ||| (nI 1 <<< (x11 &&& 31))) fun x28 => bd (x11 + nI 1) fun x29 => some (.inl (x28, x29, S25))))
def f_X0_looks_L14 (o : Nat) (x5 : Int32) (S6 : XS) : Option ((Int32 × XS) ⊕ ((XS))) :=
  chk (xk S6 o = 1) <| bnd (f_X0_rows S6 o) fun r7 => (if r7 ≤ x5 then some (.inr S6) else bnd (wO (fun t : Int32 × Int32 × XS => f_X0_looks_L26 o x5 t.1 t.2.1 t.2.2) fu (nI 0, nI 0, S6)) <| u2 fun x32 S33 => chk (xk S33 o = 1) <| bnd (xr S33 104 o 0) fun b35 => chk (xk S33 b35 = 51) <| chk (xb S33 ≤ b35) <| ast (xn S33 b35) x5 (s_i S33 51 b35 x5.toNatClampNeg (vp_nar .byte x32.toInt8.toInt32)) fun S38 => bnd (xr S38 105 o 0) fun b39 => chk (xk S38 b39 = 51) <| chk (xb S38 ≤ b39) <| ast (xn S38 b39) x5 (s_i S38 51 b39 x5.toNatClampNeg (vp_nar .byte (nI 0))) fun S42 => bd (x5 + nI 1) fun x43 => some (.inl (x43, S42)))
def f_X0_looks (S : XS) (o : Nat) : Option XS :=
  chk (xk S o = 1) <| bnd (f_X0_knows S o) fun S1 => chk (xk S1 o = 1) <| (if (xi S1 106 o 0) = 0 then bnd (wO (fun t : Int32 × XS => f_X0_looks_L14 o t.1 t.2) fu (nI 0, S1)) <| fun S46 => chk (xk S46 o = 1) <| chk (xb S46 ≤ o) <| bd (s_i S46 106 o 0 (nI 1)) fun S49 => some S49 else some S1)
set_option maxHeartbeats 4000000 in
set_option maxRecDepth 100000 in
theorem c_X0_looks (l : Launch) (D : XD) (S : XS) (o : Nat) {S' : XS} (hf : f_X0_looks S o = some S') : x_Met l yX0_looks cX0_looks 4 (Option.none : Option Jvm.ClassFile.FieldType) 118 2753 D [.ref o] S none S' := by
  refine x_metV RX0 (by decide) rfl (Nat.le_of_ble_eq_true rfl) (fun p e s m args below meth c Q B hnm hret H locs hX ls hl => ?_)
  have hx := B.1
  have hb := B.2.1
  have hml := B.2.2.1
  have hown := B.2.2.2.1
  have hts := B.2.2.2.2
  have hl : lv_has ls 4 [(0, .ref o)] := hl
  unfold f_X0_looks at hf
  refine lv_aload_n hx hb dX0_looks_0 rfl (lv_at hl 0 rfl) ?_
  obtain ⟨hk2, hf⟩ := chk_some hf
  obtain ⟨S1, hcS1, hf⟩ := bnd_some hf
  refine xr_callVC (rest := []) (q := (RX0, TX0, 14)) B hX (c_X0_knows l D S o hcS1) hk2 rfl (by decide) q1456 q1458 (Or.inl qs32) q103 q1459 hd_X0_knows ⟨Nat.le_of_ble_eq_true rfl, Nat.le_of_ble_eq_true rfl⟩ rfl hl.1 rfl (Nat.le_of_ble_eq_true rfl) dX0_looks_1 (fun H locs hX => ?_)
  refine lv_aload_n hx hb dX0_looks_4 rfl (lv_at hl 0 rfl) ?_
  obtain ⟨hk3, hf⟩ := chk_some hf
  refine xr_get (q := (RX0, TX0, 14)) B hX 6 hk3 rfl (by decide) (by decide) (x_Vi rfl (by decide)) q345 (fun _ h => h) dX0_looks_5 ?_
  refine lv_if_eq (tgt := 12) hx hb dX0_looks_8 (by decide) (fun c4 => ?_) (fun c4 => ?_)
  · have hf := it_pos c4 hf
    refine lv_iconst (v := nI 0) hx hb dX0_looks_12 ic0 ?_
    refine lv_istore_n (lv' := [(1, .int (nI 0)), (0, .ref o)]) hx hb dX0_looks_13 rfl hl (by decide) rfl (fun ls hl => ?_)
    obtain ⟨y45, hxy45, hf⟩ := bnd_some hf
    have hy45 : (fun t : XS => ∀ (H : Heap) (locs : List Loc) (ls : Array Slot), x_I D S s H locs t → lv_has ls 4 [(0, .ref o)] → W p l e (x_R 118 2753 S) s m args below meth c H locs (xz t - xz S) (xu t - xu S) Q (F0 m 94 ls [])) y45 := by
      obtain ⟨S46, rfl⟩ : ∃ z, z = y45 := ⟨_, rfl⟩
      intro H locs ls hX hl
      refine lv_aload_n hx hb dX0_looks_94 rfl (lv_at hl 0 rfl) ?_
      refine lv_iconst (v := nI 1) hx hb dX0_looks_95 ic1 ?_
      obtain ⟨hk47, hf⟩ := chk_some hf
      obtain ⟨hw48, hf⟩ := chk_some hf
      obtain ⟨S49, eS49, hf⟩ := bd_some hf
      refine xr_put (S' := S49) (q := (RX0, TX0, 14)) (v := .int (nI 1)) (ty0 := tyX0) B hX 6 hk47 rfl (by decide) hw48 (by decide) (by rw [eS49]; exact x_Vup_i (k := 1) (j := 6) rfl (by decide)) tyX0_ok (fun i h1 h2 => nmX0 i (Nat.lt_of_lt_of_le h1 (by decide)) 6 (by decide) h2) rfl rfl rfl q345 (fun _ h => h) dX0_looks_96 (fun H locs hX => ?_)
      refine w_i eS49 ?_
      have hk47 := ks_i eS49 hk47
      have hw48 := kw_i eS49 hw48
      cases hf
      exact hret _ _ _ _ hX dX0_looks_99
    refine lp_W (step := (fun t : Int32 × XS => f_X0_looks_L14 o t.1 t.2)) (fun t : Int32 × XS => ∀ (H : Heap) (locs : List Loc) (ls : Array Slot), x_I D S s H locs t.2 → lv_has ls 4 [(0, .ref o), (1, .int t.1)] → W p l e (x_R 118 2753 S) s m args below meth c H locs (xz t.2 - xz S) (xu t.2 - xu S) Q (F0 m 14 ls [])) (fun t : XS => ∀ (H : Heap) (locs : List Loc) (ls : Array Slot), x_I D S s H locs t → lv_has ls 4 [(0, .ref o)] → W p l e (x_R 118 2753 S) s m args below meth c H locs (xz t - xz S) (xu t - xu S) Q (F0 m 94 ls [])) ?_ fu (nI 0, S1) y45 hxy45 hy45 _ _ _ hX (lv_sub hl [1, 0] rfl)
    clear hf hxy45 hy45
    rintro ⟨x5, S6⟩ oo (hf : f_X0_looks_L14 o x5 S6 = some oo) hk
    intro H locs ls hX hl
    unfold f_X0_looks_L14 at hf
    refine lv_iload_n hx hb dX0_looks_14 rfl (lv_at hl 1 rfl) ?_
    refine lv_aload_n hx hb dX0_looks_15 rfl (lv_at hl 0 rfl) ?_
    obtain ⟨hk8, hf⟩ := chk_some hf
    obtain ⟨r7, hcr7, hf⟩ := bnd_some hf
    refine xr_callVC (rest := [.int x5]) (q := (RX0, TX0, 14)) B hX (c_X0_rows l D S6 o hcr7) hk8 rfl (by decide) q1465 q1467 (Or.inl qs33) q103 q1468 hd_X0_rows ⟨Nat.le_of_ble_eq_true rfl, Nat.le_of_ble_eq_true rfl⟩ rfl hl.1 rfl (Nat.le_of_ble_eq_true rfl) dX0_looks_16 (fun H locs hX => ?_)
    refine lv_icmp_ge (tgt := 94) hx hb dX0_looks_19 (by decide) (fun c9 => ?_) (fun c9 => ?_)
    · have hf := it_pos c9 hf
      cases hf
      exact hk _ _ _ hX (lv_sub hl [0] rfl)
    · have hf := it_neg c9 hf
      refine lv_iconst (v := nI 0) hx hb dX0_looks_22 ic0 ?_
      refine lv_istore_n (lv' := [(2, .int (nI 0)), (0, .ref o), (1, .int x5)]) hx hb dX0_looks_23 rfl hl (by decide) rfl (fun ls hl => ?_)
      refine lv_iconst (v := nI 0) hx hb dX0_looks_24 ic0 ?_
      refine lv_istore_n (lv' := [(3, .int (nI 0)), (2, .int (nI 0)), (0, .ref o), (1, .int x5)]) hx hb dX0_looks_25 rfl hl (by decide) rfl (fun ls hl => ?_)
      obtain ⟨y31, hxy31, hf⟩ := bnd_some hf
      have hy31 : (fun t : Int32 × XS => ∀ (H : Heap) (locs : List Loc) (ls : Array Slot), x_I D S s H locs t.2 → lv_has ls 4 [(0, .ref o), (1, .int x5), (2, .int t.1)] → W p l e (x_R 118 2753 S) s m args below meth c H locs (xz t.2 - xz S) (xu t.2 - xu S) Q (F0 m 73 ls [])) y31 := by
        rcases y31 with ⟨x32, S33⟩
        have hf := u2_at hf
        intro H locs ls hX hl
        refine lv_aload_n hx hb dX0_looks_73 rfl (lv_at hl 0 rfl) ?_
        obtain ⟨hk34, hf⟩ := chk_some hf
        obtain ⟨b35, hb35, hf⟩ := bnd_some hf
        refine xr_get (q := (RX0, TX0, 14)) B hX 4 hk34 rfl (by decide) (by decide) (v := .ref b35) (x_Vr (c := 1) (j := 4) rfl (by decide) hb35) q343 (fun _ h => h) dX0_looks_74 ?_
        refine lv_iload_n hx hb dX0_looks_77 rfl (lv_at hl 1 rfl) ?_
        refine lv_iload_n hx hb dX0_looks_78 rfl (lv_at hl 2 rfl) ?_
        refine lv_i2b (v := x32.toInt8.toInt32) hx hb dX0_looks_79 rfl ?_
        obtain ⟨hk36, hf⟩ := chk_some hf
        obtain ⟨hw37, hf⟩ := chk_some hf
        obtain ⟨S38, eS38, hiS38, hf⟩ := ast_some hf
        refine xr_bast B hX hk36 hw37 hiS38 eS38 dX0_looks_80 (fun H locs hX => ?_)
        refine w_i eS38 ?_
        have hk34 := ks_i eS38 hk34
        have hk36 := ks_i eS38 hk36
        have hw37 := kw_i eS38 hw37
        refine lv_aload_n hx hb dX0_looks_81 rfl (lv_at hl 0 rfl) ?_
        obtain ⟨b39, hb39, hf⟩ := bnd_some hf
        refine xr_get (q := (RX0, TX0, 14)) B hX 5 hk34 rfl (by decide) (by decide) (v := .ref b39) (x_Vr (c := 1) (j := 5) rfl (by decide) hb39) q344 (fun _ h => h) dX0_looks_82 ?_
        refine lv_iload_n hx hb dX0_looks_85 rfl (lv_at hl 1 rfl) ?_
        refine lv_iconst (v := nI 0) hx hb dX0_looks_86 ic0 ?_
        obtain ⟨hk40, hf⟩ := chk_some hf
        obtain ⟨hw41, hf⟩ := chk_some hf
        obtain ⟨S42, eS42, hiS42, hf⟩ := ast_some hf
        refine xr_bast B hX hk40 hw41 hiS42 eS42 dX0_looks_87 (fun H locs hX => ?_)
        refine w_i eS42 ?_
        have hk34 := ks_i eS42 hk34
        have hk36 := ks_i eS42 hk36
        have hw37 := kw_i eS42 hw37
        have hk40 := ks_i eS42 hk40
        have hw41 := kw_i eS42 hw41
        obtain ⟨x43, ex43, hf⟩ := bd_some hf
        refine lv_iinc (v := x43) (lv' := [(1, .int x43), (0, .ref o), (2, .int x32)]) hx hb dX0_looks_88 hl (k := 1) rfl (by rw [ex43]; first | done | rfl) (by decide) rfl (fun ls hl => ?_)
        refine lv_goto (tgt := 14) hx hb dX0_looks_91 (by decide) ?_
        cases hf
        exact hk _ _ _ hX (lv_sub hl [1, 0] rfl)
      refine lp_W (step := (fun t : Int32 × Int32 × XS => f_X0_looks_L26 o x5 t.1 t.2.1 t.2.2)) (fun t : Int32 × Int32 × XS => ∀ (H : Heap) (locs : List Loc) (ls : Array Slot), x_I D S s H locs t.2.2 → lv_has ls 4 [(0, .ref o), (1, .int x5), (2, .int t.1), (3, .int t.2.1)] → W p l e (x_R 118 2753 S) s m args below meth c H locs (xz t.2.2 - xz S) (xu t.2.2 - xu S) Q (F0 m 26 ls [])) (fun t : Int32 × XS => ∀ (H : Heap) (locs : List Loc) (ls : Array Slot), x_I D S s H locs t.2 → lv_has ls 4 [(0, .ref o), (1, .int x5), (2, .int t.1)] → W p l e (x_R 118 2753 S) s m args below meth c H locs (xz t.2 - xz S) (xu t.2 - xu S) Q (F0 m 73 ls [])) ?_ fu (nI 0, nI 0, S6) y31 hxy31 hy31 _ _ _ hX (lv_sub hl [2, 3, 1, 0] rfl)
      clear hf hxy31 hy31
      rintro ⟨x10, x11, S12⟩ oo (hf : f_X0_looks_L26 o x5 x10 x11 S12 = some oo) hk
      intro H locs ls hX hl
      unfold f_X0_looks_L26 at hf
      refine lv_iload_n hx hb dX0_looks_26 rfl (lv_at hl 3 rfl) ?_
      refine lv_aload_n hx hb dX0_looks_27 rfl (lv_at hl 0 rfl) ?_
      obtain ⟨hk13, hf⟩ := chk_some hf
      obtain ⟨b14, hb14, hf⟩ := bnd_some hf
      refine xr_get (q := (RX0, TX0, 14)) B hX 0 hk13 rfl (by decide) (by decide) (v := .ref b14) (x_Vr (c := 1) (j := 0) rfl (by decide) hb14) q339 (fun _ h => h) dX0_looks_28 ?_
      obtain ⟨hk15, hf⟩ := chk_some hf
      obtain ⟨b16, hb16, hf⟩ := bnd_some hf
      refine xr_getN (q := (RX1, TX1, 14)) B hX 11 hk15 rfl (by decide) (by decide) (v := .ref b16) (x_Vr (c := 2) (j := 11) rfl (by decide) hb16) nq241 (fun _ h => h) dX0_looks_31 ?_
      obtain ⟨hk18, hf⟩ := chk_some hf
      obtain ⟨r17, hcr17, hf⟩ := bnd_some hf
      refine xr_callVC (rest := [.int x11]) (q := (RJ2, TJ2, 3)) B hX (c_J2_size l D S12 b16 hcr17) hk18 rfl (by decide) q409 q410 (Or.inl q411) q108 q412 hd_J2_size ⟨Nat.le_of_ble_eq_true rfl, Nat.le_of_ble_eq_true rfl⟩ rfl hl.1 rfl (Nat.le_of_ble_eq_true rfl) dX0_looks_34 (fun H locs hX => ?_)
      refine lv_icmp_ge (tgt := 73) hx hb dX0_looks_37 (by decide) (fun c19 => ?_) (fun c19 => ?_)
      · have hf := it_pos c19 hf
        cases hf
        exact hk _ _ _ hX (lv_sub hl [0, 1, 2] rfl)
      · have hf := it_neg c19 hf
        refine lv_aload_n hx hb dX0_looks_40 rfl (lv_at hl 0 rfl) ?_
        refine lv_aload_n hx hb dX0_looks_41 rfl (lv_at hl 0 rfl) ?_
        refine lv_iload_n hx hb dX0_looks_42 rfl (lv_at hl 3 rfl) ?_
        obtain ⟨b20, hcb20, hf⟩ := bnd_some hf
        refine xr_callVC (rest := [.ref o]) (q := (RX0, TX0, 14)) B hX (c_X0_story_2 l D S12 o x11 hcb20) hk13 rfl (by decide) q1240 q1242 (Or.inl qs25) q103 q1243 hd_X0_story_2 ⟨Nat.le_of_ble_eq_true rfl, Nat.le_of_ble_eq_true rfl⟩ rfl hl.1 rfl (Nat.le_of_ble_eq_true rfl) dX0_looks_43 (fun H locs hX => ?_)
        obtain ⟨hk21, hf⟩ := chk_some hf
        obtain ⟨b22, hb22, hf⟩ := bnd_some hf
        refine xr_getN (q := (RX10, TX10, 3)) B hX 0 hk21 rfl (by decide) (by decide) (v := .ref b22) (x_Vr (c := 7) (j := 0) rfl (by decide) hb22) nq1208 (fun _ h => h) dX0_looks_46 ?_
        refine lv_aload_n hx hb dX0_looks_49 rfl (lv_at hl 0 rfl) ?_
        obtain ⟨b23, hcb23, hf⟩ := bnd_some hf
        refine xr_callVC (rest := [.ref b22, .ref o]) (q := (RX0, TX0, 14)) B hX (c_X0_land l D S12 o hcb23) hk13 rfl (by decide) q393 q395 (Or.inl qs0) q103 q396 hd_X0_land ⟨Nat.le_of_ble_eq_true rfl, Nat.le_of_ble_eq_true rfl⟩ rfl hl.1 rfl (Nat.le_of_ble_eq_true rfl) dX0_looks_50 (fun H locs hX => ?_)
        refine lv_iload_n hx hb dX0_looks_53 rfl (lv_at hl 1 rfl) ?_
        refine lv_i2l (v := x5.toInt64) hx hb dX0_looks_54 rfl ?_
        obtain ⟨⟨r24, S25⟩, hcr24, hf⟩ := bnd_some hf
        have hf := u2_at hf
        refine xr_callVC (rest := []) (q := (RX0, TX0, 14)) B hX (c_X0_isSoIn l D S12 o b22 b23 x5.toInt64 hcr24) hk13 rfl (by decide) q1256 q1258 (Or.inl qs26) q103 q1259 hd_X0_isSoIn ⟨Nat.le_of_ble_eq_true rfl, Nat.le_of_ble_eq_true rfl⟩ rfl hl.1 rfl (Nat.le_of_ble_eq_true rfl) dX0_looks_55 (fun H locs hX => ?_)
        refine lv_if_eq (tgt := 67) hx hb dX0_looks_58 (by decide) (fun c26 => ?_) (fun c26 => ?_)
        · have hf := it_pos c26 hf
          obtain ⟨x27, ex27, hf⟩ := bd_some hf
          refine lv_iinc (v := x27) (lv' := [(3, .int x27), (0, .ref o), (1, .int x5), (2, .int x10)]) hx hb dX0_looks_67 hl (k := 3) rfl (by rw [ex27]; first | done | rfl) (by decide) rfl (fun ls hl => ?_)
          refine lv_goto (tgt := 26) hx hb dX0_looks_70 (by decide) ?_
          cases hf
          exact hk _ _ _ hX (lv_sub hl [1, 2, 3, 0] rfl)
        · have hf := it_neg c26 hf
          refine lv_iload_n hx hb dX0_looks_61 rfl (lv_at hl 2 rfl) ?_
          refine lv_iconst (v := nI 1) hx hb dX0_looks_62 ic1 ?_
          refine lv_iload_n hx hb dX0_looks_63 rfl (lv_at hl 3 rfl) ?_
          refine lv_ishl hx hb dX0_looks_64 ?_
          refine lv_ior hx hb dX0_looks_65 ?_
          refine lv_topi (fun x28 ex28 => ?_)
          have hf := bd_at ex28 hf
          refine lv_istore_n (lv' := [(2, .int x28), (0, .ref o), (1, .int x5), (3, .int x11)]) hx hb dX0_looks_66 rfl hl (by decide) rfl (fun ls hl => ?_)
          obtain ⟨x29, ex29, hf⟩ := bd_some hf
          refine lv_iinc (v := x29) (lv' := [(3, .int x29), (2, .int x28), (0, .ref o), (1, .int x5)]) hx hb dX0_looks_67 hl (k := 3) rfl (by rw [ex29]; first | done | rfl) (by decide) rfl (fun ls hl => ?_)
          refine lv_goto (tgt := 26) hx hb dX0_looks_70 (by decide) ?_
          cases hf
          exact hk _ _ _ hX (lv_sub hl [2, 3, 1, 0] rfl)
  · have hf := it_neg c4 hf
    cases hf
    exact hret _ _ _ _ hX dX0_looks_11
def f_X0_worlds (S : XS) (o : Nat) : Option (Int32 × XS) :=
  chk (xk S o = 1) <| bnd (f_X0_isTold S o) fun r1 => (if r1 = 0 then some ((-1), S) else bnd (f_X0_looks S o) fun S4 => chk (xk S4 o = 1) <| bnd (f_X0_needed S4 o) fun r5 => bnd (f_X0_worldsOf S4 o r5) fun r7 => some (r7, S4))
set_option maxHeartbeats 4000000 in
set_option maxRecDepth 100000 in
theorem c_X0_worlds (l : Launch) (D : XD) (S : XS) (o : Nat) {r : Int32} {S' : XS} (hf : f_X0_worlds S o = some (r, S')) : x_Met l yX0_worlds cX0_worlds 1 (Option.some Jvm.ClassFile.FieldType.int) 119 2776 D [.ref o] S (some (.int r)) S' := by
  refine x_metI RX0 (by decide) rfl (Nat.le_of_ble_eq_true rfl) (fun p e s m args below meth c Q B hnm hret H locs hX ls hl => ?_)
  have hx := B.1
  have hb := B.2.1
  have hml := B.2.2.1
  have hown := B.2.2.2.1
  have hts := B.2.2.2.2
  have hl : lv_has ls 1 [(0, .ref o)] := hl
  unfold f_X0_worlds at hf
  refine lv_aload_n hx hb dX0_worlds_0 rfl (lv_at hl 0 rfl) ?_
  obtain ⟨hk2, hf⟩ := chk_some hf
  obtain ⟨r1, hcr1, hf⟩ := bnd_some hf
  refine xr_callVC (rest := []) (q := (RX0, TX0, 14)) B hX (c_X0_isTold l D S o hcr1) hk2 rfl (by decide) q1406 q1408 (Or.inl qs29) q103 q1409 hd_X0_isTold ⟨Nat.le_of_ble_eq_true rfl, Nat.le_of_ble_eq_true rfl⟩ rfl hl.1 rfl (Nat.le_of_ble_eq_true rfl) dX0_worlds_1 (fun H locs hX => ?_)
  refine lv_if_ne (tgt := 9) hx hb dX0_worlds_4 (by decide) (fun c3 => ?_) (fun c3 => ?_)
  · have hf := it_neg c3 hf
    refine lv_aload_n hx hb dX0_worlds_9 rfl (lv_at hl 0 rfl) ?_
    obtain ⟨S4, hcS4, hf⟩ := bnd_some hf
    refine xr_callVC (rest := []) (q := (RX0, TX0, 14)) B hX (c_X0_looks l D S o hcS4) hk2 rfl (by decide) q1452 q1454 (Or.inl qs31) q103 q1455 hd_X0_looks ⟨Nat.le_of_ble_eq_true rfl, Nat.le_of_ble_eq_true rfl⟩ rfl hl.1 rfl (Nat.le_of_ble_eq_true rfl) dX0_worlds_10 (fun H locs hX => ?_)
    refine lv_aload_n hx hb dX0_worlds_13 rfl (lv_at hl 0 rfl) ?_
    refine lv_aload_n hx hb dX0_worlds_14 rfl (lv_at hl 0 rfl) ?_
    obtain ⟨hk6, hf⟩ := chk_some hf
    obtain ⟨r5, hcr5, hf⟩ := bnd_some hf
    refine xr_callVC (rest := [.ref o]) (q := (RX0, TX0, 14)) B hX (c_X0_needed l D S4 o hcr5) hk6 rfl (by decide) q1469 q1471 (Or.inl qs34) q103 q1472 hd_X0_needed ⟨Nat.le_of_ble_eq_true rfl, Nat.le_of_ble_eq_true rfl⟩ rfl hl.1 rfl (Nat.le_of_ble_eq_true rfl) dX0_worlds_15 (fun H locs hX => ?_)
    obtain ⟨r7, hcr7, hf⟩ := bnd_some hf
    refine xr_callVC (rest := []) (q := (RX0, TX0, 14)) B hX (c_X0_worldsOf l D S4 o r5 hcr7) hk6 rfl (by decide) q1473 q1475 (Or.inl qs35) q103 q1476 hd_X0_worldsOf ⟨Nat.le_of_ble_eq_true rfl, Nat.le_of_ble_eq_true rfl⟩ rfl hl.1 rfl (Nat.le_of_ble_eq_true rfl) dX0_worlds_18 (fun H locs hX => ?_)
    cases hf
    exact hret _ _ _ _ rfl hX dX0_worlds_21
  · have hf := it_pos c3 hf
    refine lv_iconst (v := (-1)) hx hb dX0_worlds_7 icm1 ?_
    cases hf
    exact hret _ _ _ _ rfl hX dX0_worlds_8
def f_X0_forms_L22 (o : Nat) (r5 : Int32) (x7 : Int32) (x8 : Int32) (S9 : XS) : Option ((Int32 × Int32 × XS) ⊕ ((Int32 × XS))) :=
  chk (xk S9 o = 1) <| bnd (f_X0_rows S9 o) fun r10 => (if r10 ≤ x8 then some (.inr (x7, S9)) else bnd (f_X0_isForm S9 o x8 r5) <| u2 fun r13 S14 => (if r13 = 0 then bd (x7 + nI 0) fun x16 => bd (x8 + nI 1) fun x17 => some (.inl (x16, x17, S14)) else bd (x7 + nI 1) fun x18 => bd (x8 + nI 1) fun x19 => some (.inl (x18, x19, S14))))
def f_X0_forms (S : XS) (o : Nat) : Option (Int32 × XS) :=
  chk (xk S o = 1) <| bnd (f_X0_isTold S o) fun r1 => (if r1 = 0 then some ((-1), S) else bnd (f_X0_looks S o) fun S4 => chk (xk S4 o = 1) <| bnd (f_X0_needed S4 o) fun r5 => bnd (wO (fun t : Int32 × Int32 × XS => f_X0_forms_L22 o r5 t.1 t.2.1 t.2.2) fu (nI 0, nI 0, S4)) <| u2 fun x22 S23 => some (x22, S23))
set_option maxHeartbeats 4000000 in
set_option maxRecDepth 100000 in
theorem c_X0_forms (l : Launch) (D : XD) (S : XS) (o : Nat) {r : Int32} {S' : XS} (hf : f_X0_forms S o = some (r, S')) : x_Met l yX0_forms cX0_forms 4 (Option.some Jvm.ClassFile.FieldType.int) 119 2776 D [.ref o] S (some (.int r)) S' := by
  refine x_metI RX0 (by decide) rfl (Nat.le_of_ble_eq_true rfl) (fun p e s m args below meth c Q B hnm hret H locs hX ls hl => ?_)
  have hx := B.1
  have hb := B.2.1
  have hml := B.2.2.1
  have hown := B.2.2.2.1
  have hts := B.2.2.2.2
  have hl : lv_has ls 4 [(0, .ref o)] := hl
  unfold f_X0_forms at hf
  refine lv_aload_n hx hb dX0_forms_0 rfl (lv_at hl 0 rfl) ?_
  obtain ⟨hk2, hf⟩ := chk_some hf
  obtain ⟨r1, hcr1, hf⟩ := bnd_some hf
  refine xr_callVC (rest := []) (q := (RX0, TX0, 14)) B hX (c_X0_isTold l D S o hcr1) hk2 rfl (by decide) q1406 q1408 (Or.inl qs29) q103 q1409 hd_X0_isTold ⟨Nat.le_of_ble_eq_true rfl, Nat.le_of_ble_eq_true rfl⟩ rfl hl.1 rfl (Nat.le_of_ble_eq_true rfl) dX0_forms_1 (fun H locs hX => ?_)
  refine lv_if_ne (tgt := 9) hx hb dX0_forms_4 (by decide) (fun c3 => ?_) (fun c3 => ?_)
  · have hf := it_neg c3 hf
    refine lv_aload_n hx hb dX0_forms_9 rfl (lv_at hl 0 rfl) ?_
    obtain ⟨S4, hcS4, hf⟩ := bnd_some hf
    refine xr_callVC (rest := []) (q := (RX0, TX0, 14)) B hX (c_X0_looks l D S o hcS4) hk2 rfl (by decide) q1452 q1454 (Or.inl qs31) q103 q1455 hd_X0_looks ⟨Nat.le_of_ble_eq_true rfl, Nat.le_of_ble_eq_true rfl⟩ rfl hl.1 rfl (Nat.le_of_ble_eq_true rfl) dX0_forms_10 (fun H locs hX => ?_)
    refine lv_aload_n hx hb dX0_forms_13 rfl (lv_at hl 0 rfl) ?_
    obtain ⟨hk6, hf⟩ := chk_some hf
    obtain ⟨r5, hcr5, hf⟩ := bnd_some hf
    refine xr_callVC (rest := []) (q := (RX0, TX0, 14)) B hX (c_X0_needed l D S4 o hcr5) hk6 rfl (by decide) q1469 q1471 (Or.inl qs34) q103 q1472 hd_X0_needed ⟨Nat.le_of_ble_eq_true rfl, Nat.le_of_ble_eq_true rfl⟩ rfl hl.1 rfl (Nat.le_of_ble_eq_true rfl) dX0_forms_14 (fun H locs hX => ?_)
    refine lv_istore_n (lv' := [(1, .int r5), (0, .ref o)]) hx hb dX0_forms_17 rfl hl (by decide) rfl (fun ls hl => ?_)
    refine lv_iconst (v := nI 0) hx hb dX0_forms_18 ic0 ?_
    refine lv_istore_n (lv' := [(2, .int (nI 0)), (1, .int r5), (0, .ref o)]) hx hb dX0_forms_19 rfl hl (by decide) rfl (fun ls hl => ?_)
    refine lv_iconst (v := nI 0) hx hb dX0_forms_20 ic0 ?_
    refine lv_istore_n (lv' := [(3, .int (nI 0)), (2, .int (nI 0)), (1, .int r5), (0, .ref o)]) hx hb dX0_forms_21 rfl hl (by decide) rfl (fun ls hl => ?_)
    obtain ⟨y21, hxy21, hf⟩ := bnd_some hf
    have hy21 : (fun t : Int32 × XS => ∀ (H : Heap) (locs : List Loc) (ls : Array Slot), x_I D S s H locs t.2 → lv_has ls 4 [(2, .int t.1)] → W p l e (x_R 119 2776 S) s m args below meth c H locs (xz t.2 - xz S) (xu t.2 - xu S) Q (F0 m 53 ls [])) y21 := by
      rcases y21 with ⟨x22, S23⟩
      have hf := u2_at hf
      intro H locs ls hX hl
      refine lv_iload_n hx hb dX0_forms_53 rfl (lv_at hl 0 rfl) ?_
      cases hf
      exact hret _ _ _ _ rfl hX dX0_forms_54
    refine lp_W (step := (fun t : Int32 × Int32 × XS => f_X0_forms_L22 o r5 t.1 t.2.1 t.2.2)) (fun t : Int32 × Int32 × XS => ∀ (H : Heap) (locs : List Loc) (ls : Array Slot), x_I D S s H locs t.2.2 → lv_has ls 4 [(0, .ref o), (1, .int r5), (2, .int t.1), (3, .int t.2.1)] → W p l e (x_R 119 2776 S) s m args below meth c H locs (xz t.2.2 - xz S) (xu t.2.2 - xu S) Q (F0 m 22 ls [])) (fun t : Int32 × XS => ∀ (H : Heap) (locs : List Loc) (ls : Array Slot), x_I D S s H locs t.2 → lv_has ls 4 [(2, .int t.1)] → W p l e (x_R 119 2776 S) s m args below meth c H locs (xz t.2 - xz S) (xu t.2 - xu S) Q (F0 m 53 ls [])) ?_ fu (nI 0, nI 0, S4) y21 hxy21 hy21 _ _ _ hX (lv_sub hl [3, 2, 1, 0] rfl)
    clear hf hxy21 hy21
    rintro ⟨x7, x8, S9⟩ oo (hf : f_X0_forms_L22 o r5 x7 x8 S9 = some oo) hk
    intro H locs ls hX hl
    unfold f_X0_forms_L22 at hf
    refine lv_iload_n hx hb dX0_forms_22 rfl (lv_at hl 3 rfl) ?_
    refine lv_aload_n hx hb dX0_forms_23 rfl (lv_at hl 0 rfl) ?_
    obtain ⟨hk11, hf⟩ := chk_some hf
    obtain ⟨r10, hcr10, hf⟩ := bnd_some hf
    refine xr_callVC (rest := [.int x8]) (q := (RX0, TX0, 14)) B hX (c_X0_rows l D S9 o hcr10) hk11 rfl (by decide) q1465 q1467 (Or.inl qs33) q103 q1468 hd_X0_rows ⟨Nat.le_of_ble_eq_true rfl, Nat.le_of_ble_eq_true rfl⟩ rfl hl.1 rfl (Nat.le_of_ble_eq_true rfl) dX0_forms_24 (fun H locs hX => ?_)
    refine lv_icmp_ge (tgt := 53) hx hb dX0_forms_27 (by decide) (fun c12 => ?_) (fun c12 => ?_)
    · have hf := it_pos c12 hf
      cases hf
      exact hk _ _ _ hX (lv_sub hl [2] rfl)
    · have hf := it_neg c12 hf
      refine lv_iload_n hx hb dX0_forms_30 rfl (lv_at hl 2 rfl) ?_
      refine lv_aload_n hx hb dX0_forms_31 rfl (lv_at hl 0 rfl) ?_
      refine lv_iload_n hx hb dX0_forms_32 rfl (lv_at hl 3 rfl) ?_
      refine lv_iload_n hx hb dX0_forms_33 rfl (lv_at hl 1 rfl) ?_
      obtain ⟨⟨r13, S14⟩, hcr13, hf⟩ := bnd_some hf
      have hf := u2_at hf
      refine xr_callVC (rest := [.int x7]) (q := (RX0, TX0, 14)) B hX (c_X0_isForm l D S9 o x8 r5 hcr13) hk11 rfl (by decide) q1485 q1487 (Or.inl qs37) q103 q1488 hd_X0_isForm ⟨Nat.le_of_ble_eq_true rfl, Nat.le_of_ble_eq_true rfl⟩ rfl hl.1 rfl (Nat.le_of_ble_eq_true rfl) dX0_forms_34 (fun H locs hX => ?_)
      refine lv_if_eq (tgt := 44) hx hb dX0_forms_37 (by decide) (fun c15 => ?_) (fun c15 => ?_)
      · have hf := it_pos c15 hf
        refine lv_iconst (v := nI 0) hx hb dX0_forms_44 ic0 ?_
        refine lv_iadd hx hb dX0_forms_45 ?_
        refine lv_topi (fun x16 ex16 => ?_)
        have hf := bd_at ex16 hf
        refine lv_istore_n (lv' := [(2, .int x16), (0, .ref o), (1, .int r5), (3, .int x8)]) hx hb dX0_forms_46 rfl hl (by decide) rfl (fun ls hl => ?_)
        obtain ⟨x17, ex17, hf⟩ := bd_some hf
        refine lv_iinc (v := x17) (lv' := [(3, .int x17), (2, .int x16), (0, .ref o), (1, .int r5)]) hx hb dX0_forms_47 hl (k := 3) rfl (by rw [ex17]; first | done | rfl) (by decide) rfl (fun ls hl => ?_)
        refine lv_goto (tgt := 22) hx hb dX0_forms_50 (by decide) ?_
        cases hf
        exact hk _ _ _ hX (lv_sub hl [2, 3, 1, 0] rfl)
      · have hf := it_neg c15 hf
        refine lv_iconst (v := nI 1) hx hb dX0_forms_40 ic1 ?_
        refine lv_goto (tgt := 45) hx hb dX0_forms_41 (by decide) ?_
        refine lv_iadd hx hb dX0_forms_45 ?_
        refine lv_topi (fun x18 ex18 => ?_)
        have hf := bd_at ex18 hf
        refine lv_istore_n (lv' := [(2, .int x18), (0, .ref o), (1, .int r5), (3, .int x8)]) hx hb dX0_forms_46 rfl hl (by decide) rfl (fun ls hl => ?_)
        obtain ⟨x19, ex19, hf⟩ := bd_some hf
        refine lv_iinc (v := x19) (lv' := [(3, .int x19), (2, .int x18), (0, .ref o), (1, .int r5)]) hx hb dX0_forms_47 hl (k := 3) rfl (by rw [ex19]; first | done | rfl) (by decide) rfl (fun ls hl => ?_)
        refine lv_goto (tgt := 22) hx hb dX0_forms_50 (by decide) ?_
        cases hf
        exact hk _ _ _ hX (lv_sub hl [2, 3, 1, 0] rfl)
  · have hf := it_pos c3 hf
    refine lv_iconst (v := (-1)) hx hb dX0_forms_7 icm1 ?_
    cases hf
    exact hret _ _ _ _ rfl hX dX0_forms_8
def f_X0_form_L27 (o : Nat) (p0 : Int32) (r6 : Int32) (x8 : Int32) (x9 : Int32) (S10 : XS) : Option ((Int32 × Int32 × XS) ⊕ ((Int32 × XS) ⊕ (XS))) :=
  chk (xk S10 o = 1) <| bnd (f_X0_rows S10 o) fun r11 => (if r11 ≤ x9 then some (.inr (.inr S10)) else bnd (f_X0_isForm S10 o x9 r6) <| u2 fun r14 S15 => (if r14 = 0 then bd (x9 + nI 1) fun x20 => some (.inl (x8, x20, S15)) else (if x8 = p0 then some (.inr (.inl (x9, S15))) else bd (x8 + nI 1) fun x18 => bd (x9 + nI 1) fun x19 => some (.inl (x18, x19, S15)))))
def f_X0_form (S : XS) (o : Nat) (p0 : Int32) : Option (Int32 × XS) :=
  chk (xk S o = 1) <| bnd (f_X0_isTold S o) fun r1 => (if r1 = 0 then some (nI 0, S) else (if 0 ≤ p0 then bnd (f_X0_looks S o) fun S5 => chk (xk S5 o = 1) <| bnd (f_X0_needed S5 o) fun r6 => bnd (wO (fun t : Int32 × Int32 × XS => f_X0_form_L27 o p0 r6 t.1 t.2.1 t.2.2) fu (nI 0, nI 0, S5)) (Sum.elim (u2 fun x23 S24 => chk (xk S24 o = 1) <| bnd (xr S24 100 o 0) fun b26 => chk (xk S24 b26 = 2) <| chk (xb S24 ≤ b26) <| bd (s_l S24 207 b26 0 x23.toInt64) fun S29 => some (nI 1, S29)) (fun S30 => some (nI 0, S30))) else some (nI 0, S)))
set_option maxHeartbeats 4000000 in
set_option maxRecDepth 100000 in
theorem c_X0_form (l : Launch) (D : XD) (S : XS) (o : Nat) (p0 : Int32) {r : Int32} {S' : XS} (hf : f_X0_form S o p0 = some (r, S')) : x_Met l yX0_form cX0_form 5 (Option.some Jvm.ClassFile.FieldType.boolean) 119 2776 D [.ref o, .int p0] S (some (.int r)) S' := by
  refine x_metI RX0 (by decide) rfl (Nat.le_of_ble_eq_true rfl) (fun p e s m args below meth c Q B hnm hret H locs hX ls hl => ?_)
  have hx := B.1
  have hb := B.2.1
  have hml := B.2.2.1
  have hown := B.2.2.2.1
  have hts := B.2.2.2.2
  have hl : lv_has ls 5 [(0, .ref o), (1, .int p0)] := hl
  unfold f_X0_form at hf
  refine lv_aload_n hx hb dX0_form_0 rfl (lv_at hl 0 rfl) ?_
  obtain ⟨hk2, hf⟩ := chk_some hf
  obtain ⟨r1, hcr1, hf⟩ := bnd_some hf
  refine xr_callVC (rest := []) (q := (RX0, TX0, 14)) B hX (c_X0_isTold l D S o hcr1) hk2 rfl (by decide) q1406 q1408 (Or.inl qs29) q103 q1409 hd_X0_isTold ⟨Nat.le_of_ble_eq_true rfl, Nat.le_of_ble_eq_true rfl⟩ rfl hl.1 rfl (Nat.le_of_ble_eq_true rfl) dX0_form_1 (fun H locs hX => ?_)
  refine lv_if_eq (tgt := 11) hx hb dX0_form_4 (by decide) (fun c3 => ?_) (fun c3 => ?_)
  · have hf := it_pos c3 hf
    refine lv_iconst (v := nI 0) hx hb dX0_form_11 ic0 ?_
    cases hf
    exact hret _ _ _ _ rfl hX dX0_form_12
  · have hf := it_neg c3 hf
    refine lv_iload_n hx hb dX0_form_7 rfl (lv_at hl 1 rfl) ?_
    refine lv_if_ge (tgt := 13) hx hb dX0_form_8 (by decide) (fun c4 => ?_) (fun c4 => ?_)
    · have hf := it_pos c4 hf
      refine lv_aload_n hx hb dX0_form_13 rfl (lv_at hl 0 rfl) ?_
      obtain ⟨S5, hcS5, hf⟩ := bnd_some hf
      refine xr_callVC (rest := []) (q := (RX0, TX0, 14)) B hX (c_X0_looks l D S o hcS5) hk2 rfl (by decide) q1452 q1454 (Or.inl qs31) q103 q1455 hd_X0_looks ⟨Nat.le_of_ble_eq_true rfl, Nat.le_of_ble_eq_true rfl⟩ rfl hl.1 rfl (Nat.le_of_ble_eq_true rfl) dX0_form_14 (fun H locs hX => ?_)
      refine lv_aload_n hx hb dX0_form_17 rfl (lv_at hl 0 rfl) ?_
      obtain ⟨hk7, hf⟩ := chk_some hf
      obtain ⟨r6, hcr6, hf⟩ := bnd_some hf
      refine xr_callVC (rest := []) (q := (RX0, TX0, 14)) B hX (c_X0_needed l D S5 o hcr6) hk7 rfl (by decide) q1469 q1471 (Or.inl qs34) q103 q1472 hd_X0_needed ⟨Nat.le_of_ble_eq_true rfl, Nat.le_of_ble_eq_true rfl⟩ rfl hl.1 rfl (Nat.le_of_ble_eq_true rfl) dX0_form_18 (fun H locs hX => ?_)
      refine lv_istore_n (lv' := [(2, .int r6), (0, .ref o), (1, .int p0)]) hx hb dX0_form_21 rfl hl (by decide) rfl (fun ls hl => ?_)
      refine lv_iconst (v := nI 0) hx hb dX0_form_22 ic0 ?_
      refine lv_istore_n (lv' := [(3, .int (nI 0)), (2, .int r6), (0, .ref o), (1, .int p0)]) hx hb dX0_form_23 rfl hl (by decide) rfl (fun ls hl => ?_)
      refine lv_iconst (v := nI 0) hx hb dX0_form_24 ic0 ?_
      refine lv_istore (lv' := [(4, .int (nI 0)), (3, .int (nI 0)), (2, .int r6), (0, .ref o), (1, .int p0)]) hx hb dX0_form_25 hl (by decide) rfl (fun ls hl => ?_)
      obtain ⟨y22, hxy22, hf⟩ := bnd_some hf
      have hy22 : (Sum.elim (fun t : Int32 × XS => ∀ (H : Heap) (locs : List Loc) (ls : Array Slot), x_I D S s H locs t.2 → lv_has ls 5 [(0, .ref o), (4, .int t.1)] → W p l e (x_R 119 2776 S) s m args below meth c H locs (xz t.2 - xz S) (xu t.2 - xu S) Q (F0 m 54 ls [])) (fun t : XS => ∀ (H : Heap) (locs : List Loc) (ls : Array Slot), x_I D S s H locs t → lv_has ls 5 [] → W p l e (x_R 119 2776 S) s m args below meth c H locs (xz t - xz S) (xu t - xu S) Q (F0 m 75 ls []))) y22 := by
        rcases y22 with ⟨x23, S24⟩ | S30
        · have hf := el_l hf
          have hf := u2_at hf
          intro H locs ls hX hl
          refine lv_aload_n hx hb dX0_form_54 rfl (lv_at hl 0 rfl) ?_
          obtain ⟨hk25, hf⟩ := chk_some hf
          obtain ⟨b26, hb26, hf⟩ := bnd_some hf
          refine xr_get (q := (RX0, TX0, 14)) B hX 0 hk25 rfl (by decide) (by decide) (v := .ref b26) (x_Vr (c := 1) (j := 0) rfl (by decide) hb26) q339 (fun _ h => h) dX0_form_55 ?_
          refine lv_iload hx hb dX0_form_58 (lv_at hl 1 rfl) ?_
          refine lv_i2l (v := x23.toInt64) hx hb dX0_form_60 rfl ?_
          obtain ⟨hk27, hf⟩ := chk_some hf
          obtain ⟨hw28, hf⟩ := chk_some hf
          obtain ⟨S29, eS29, hf⟩ := bd_some hf
          refine xr_putN (S' := S29) (q := (RX1, TX1, 14)) (v := .long x23.toInt64) (ty0 := tyX1) B hX 7 hk27 rfl (by decide) hw28 (by decide) (by rw [eS29]; exact x_Vup_l (k := 2) (j := 7) rfl (by decide)) tyX1_ok (fun i h1 h2 => nmX1 i (Nat.lt_of_lt_of_le h1 (by decide)) 7 (by decide) h2) rfl rfl rfl nq233 (fun _ h => h) dX0_form_61 (fun H locs hX => ?_)
          refine w_l eS29 ?_
          have hk25 := ks_l eS29 hk25
          have hk27 := ks_l eS29 hk27
          have hw28 := kw_l eS29 hw28
          refine lv_iconst (v := nI 1) hx hb dX0_form_64 ic1 ?_
          cases hf
          exact hret _ _ _ _ rfl hX dX0_form_65
        · have hf := el_r hf
          intro H locs ls hX hl
          refine lv_iconst (v := nI 0) hx hb dX0_form_75 ic0 ?_
          cases hf
          exact hret _ _ _ _ rfl hX dX0_form_76
      refine lp_W (step := (fun t : Int32 × Int32 × XS => f_X0_form_L27 o p0 r6 t.1 t.2.1 t.2.2)) (fun t : Int32 × Int32 × XS => ∀ (H : Heap) (locs : List Loc) (ls : Array Slot), x_I D S s H locs t.2.2 → lv_has ls 5 [(0, .ref o), (1, .int p0), (2, .int r6), (3, .int t.1), (4, .int t.2.1)] → W p l e (x_R 119 2776 S) s m args below meth c H locs (xz t.2.2 - xz S) (xu t.2.2 - xu S) Q (F0 m 27 ls [])) (Sum.elim (fun t : Int32 × XS => ∀ (H : Heap) (locs : List Loc) (ls : Array Slot), x_I D S s H locs t.2 → lv_has ls 5 [(0, .ref o), (4, .int t.1)] → W p l e (x_R 119 2776 S) s m args below meth c H locs (xz t.2 - xz S) (xu t.2 - xu S) Q (F0 m 54 ls [])) (fun t : XS => ∀ (H : Heap) (locs : List Loc) (ls : Array Slot), x_I D S s H locs t → lv_has ls 5 [] → W p l e (x_R 119 2776 S) s m args below meth c H locs (xz t - xz S) (xu t - xu S) Q (F0 m 75 ls []))) ?_ fu (nI 0, nI 0, S5) y22 hxy22 hy22 _ _ _ hX (lv_sub hl [3, 4, 2, 1, 0] rfl)
      clear hf hxy22 hy22
      rintro ⟨x8, x9, S10⟩ oo (hf : f_X0_form_L27 o p0 r6 x8 x9 S10 = some oo) hk
      intro H locs ls hX hl
      unfold f_X0_form_L27 at hf
      refine lv_iload hx hb dX0_form_27 (lv_at hl 4 rfl) ?_
      refine lv_aload_n hx hb dX0_form_29 rfl (lv_at hl 0 rfl) ?_
      obtain ⟨hk12, hf⟩ := chk_some hf
      obtain ⟨r11, hcr11, hf⟩ := bnd_some hf
      refine xr_callVC (rest := [.int x9]) (q := (RX0, TX0, 14)) B hX (c_X0_rows l D S10 o hcr11) hk12 rfl (by decide) q1465 q1467 (Or.inl qs33) q103 q1468 hd_X0_rows ⟨Nat.le_of_ble_eq_true rfl, Nat.le_of_ble_eq_true rfl⟩ rfl hl.1 rfl (Nat.le_of_ble_eq_true rfl) dX0_form_30 (fun H locs hX => ?_)
      refine lv_icmp_ge (tgt := 75) hx hb dX0_form_33 (by decide) (fun c13 => ?_) (fun c13 => ?_)
      · have hf := it_pos c13 hf
        cases hf
        exact hk _ _ _ hX (lv_sub hl [] rfl)
      · have hf := it_neg c13 hf
        refine lv_aload_n hx hb dX0_form_36 rfl (lv_at hl 0 rfl) ?_
        refine lv_iload hx hb dX0_form_37 (lv_at hl 4 rfl) ?_
        refine lv_iload_n hx hb dX0_form_39 rfl (lv_at hl 2 rfl) ?_
        obtain ⟨⟨r14, S15⟩, hcr14, hf⟩ := bnd_some hf
        have hf := u2_at hf
        refine xr_callVC (rest := []) (q := (RX0, TX0, 14)) B hX (c_X0_isForm l D S10 o x9 r6 hcr14) hk12 rfl (by decide) q1485 q1487 (Or.inl qs37) q103 q1488 hd_X0_isForm ⟨Nat.le_of_ble_eq_true rfl, Nat.le_of_ble_eq_true rfl⟩ rfl hl.1 rfl (Nat.le_of_ble_eq_true rfl) dX0_form_40 (fun H locs hX => ?_)
        refine lv_if_ne (tgt := 49) hx hb dX0_form_43 (by decide) (fun c16 => ?_) (fun c16 => ?_)
        · have hf := it_neg c16 hf
          refine lv_iload_n hx hb dX0_form_49 rfl (lv_at hl 3 rfl) ?_
          refine lv_iload_n hx hb dX0_form_50 rfl (lv_at hl 1 rfl) ?_
          refine lv_icmp_ne (tgt := 66) hx hb dX0_form_51 (by decide) (fun c17 => ?_) (fun c17 => ?_)
          · have hf := it_neg c17 hf
            obtain ⟨x18, ex18, hf⟩ := bd_some hf
            refine lv_iinc (v := x18) (lv' := [(3, .int x18), (0, .ref o), (1, .int p0), (2, .int r6), (4, .int x9)]) hx hb dX0_form_66 hl (k := 3) rfl (by rw [ex18]; first | done | rfl) (by decide) rfl (fun ls hl => ?_)
            obtain ⟨x19, ex19, hf⟩ := bd_some hf
            refine lv_iinc (v := x19) (lv' := [(4, .int x19), (3, .int x18), (0, .ref o), (1, .int p0), (2, .int r6)]) hx hb dX0_form_69 hl (k := 4) rfl (by rw [ex19]; first | done | rfl) (by decide) rfl (fun ls hl => ?_)
            refine lv_goto (tgt := 27) hx hb dX0_form_72 (by decide) ?_
            cases hf
            exact hk _ _ _ hX (lv_sub hl [2, 3, 4, 1, 0] rfl)
          · have hf := it_pos c17 hf
            cases hf
            exact hk _ _ _ hX (lv_sub hl [0, 4] rfl)
        · have hf := it_pos c16 hf
          refine lv_goto (tgt := 69) hx hb dX0_form_46 (by decide) ?_
          obtain ⟨x20, ex20, hf⟩ := bd_some hf
          refine lv_iinc (v := x20) (lv' := [(4, .int x20), (0, .ref o), (1, .int p0), (2, .int r6), (3, .int x8)]) hx hb dX0_form_69 hl (k := 4) rfl (by rw [ex20]; first | done | rfl) (by decide) rfl (fun ls hl => ?_)
          refine lv_goto (tgt := 27) hx hb dX0_form_72 (by decide) ?_
          cases hf
          exact hk _ _ _ hX (lv_sub hl [1, 2, 3, 4, 0] rfl)
    · have hf := it_neg c4 hf
      refine lv_iconst (v := nI 0) hx hb dX0_form_11 ic0 ?_
      cases hf
      exact hret _ _ _ _ rfl hX dX0_form_12
def f_X0_fits_L31 (o : Nat) (p0 : Int32) (x6 : Int32) (x9 : Int32) (x10 : Int32) (S11 : XS) : Option ((Int32 × Int32 × XS) ⊕ ((Int32 × XS))) :=
  chk (xk S11 o = 1) <| bnd (xr S11 100 o 0) fun b13 => chk (xk S11 b13 = 2) <| bnd (xr S11 211 b13 0) fun b15 => chk (xk S11 b15 = 19) <| bnd (f_J2_size S11 b15) fun r16 => (if r16 ≤ x10 then some (.inr (x9, S11)) else (if x9 = 0 then some (.inr (x9, S11)) else bnd (f_X0_has p0 x10) fun r20 => (if r20 = 0 then bd (x10 + nI 1) fun x22 => some (.inl (nI 1, x22, S11)) else bnd (f_X0_story_2 S11 o x10) fun b23 => chk (xk S11 b23 = 7) <| bnd (xr S11 700 b23 0) fun b25 => bnd (xr S11 112 o 0) fun b26 => bnd (f_X0_isSoIn S11 o b25 b26 x6.toInt64) <| u2 fun r27 S28 => (if r27 = 0 then bd (x10 + nI 1) fun x30 => some (.inl (nI 0, x30, S28)) else bd (x10 + nI 1) fun x31 => some (.inl (nI 1, x31, S28))))))
def f_X0_fits_L18 (o : Nat) (p0 : Int32) (r3 : Int32) (x6 : Int32) (S7 : XS) : Option ((Int32 × XS) ⊕ ((XS) ⊕ (XS))) :=
  (if (nI 1 <<< (r3 &&& 31)) ≤ x6 then some (.inr (.inr S7)) else bnd (wO (fun t : Int32 × Int32 × XS => f_X0_fits_L31 o p0 x6 t.1 t.2.1 t.2.2) fu (nI 1, nI 0, S7)) <| u2 fun x34 S35 => (if x34 = 0 then bd (x6 + nI 1) fun x37 => some (.inl (x37, S35)) else some (.inr (.inl S35))))
def f_X0_fits (S : XS) (o : Nat) (p0 : Int32) : Option (Int32 × XS) :=
  chk (xk S o = 1) <| bnd (xr S 112 o 0) fun b2 => chk (xk S b2 = 3) <| bnd (f_X2_facts S b2) fun r3 => (if r3 ≤ nI 12 then bnd (wO (fun t : Int32 × XS => f_X0_fits_L18 o p0 r3 t.1 t.2) fu (nI 0, S)) (Sum.elim (fun S40 => some (nI 1, S40)) (fun S41 => some (nI 0, S41))) else some (nI 0, S))
set_option maxHeartbeats 4000000 in
set_option maxRecDepth 100000 in
theorem c_X0_fits (l : Launch) (D : XD) (S : XS) (o : Nat) (p0 : Int32) {r : Int32} {S' : XS} (hf : f_X0_fits S o p0 = some (r, S')) : x_Met l yX0_fits cX0_fits 6 (Option.some Jvm.ClassFile.FieldType.boolean) 118 2753 D [.ref o, .int p0] S (some (.int r)) S' := by
  refine x_metI RX0 (by decide) rfl (Nat.le_of_ble_eq_true rfl) (fun p e s m args below meth c Q B hnm hret H locs hX ls hl => ?_)
  have hx := B.1
  have hb := B.2.1
  have hml := B.2.2.1
  have hown := B.2.2.2.1
  have hts := B.2.2.2.2
  have hl : lv_has ls 6 [(0, .ref o), (1, .int p0)] := hl
  unfold f_X0_fits at hf
  refine lv_aload_n hx hb dX0_fits_0 rfl (lv_at hl 0 rfl) ?_
  obtain ⟨hk1, hf⟩ := chk_some hf
  obtain ⟨b2, hb2, hf⟩ := bnd_some hf
  refine xr_get (q := (RX0, TX0, 14)) B hX 12 hk1 rfl (by decide) (by decide) (v := .ref b2) (x_Vr (c := 1) (j := 12) rfl (by decide) hb2) q352 (fun _ h => h) dX0_fits_1 ?_
  obtain ⟨hk4, hf⟩ := chk_some hf
  obtain ⟨r3, hcr3, hf⟩ := bnd_some hf
  refine xr_callVC (rest := []) (q := (RX2, TX2, 2)) B hX (c_X2_facts l D S b2 hcr3) hk4 rfl (by decide) q514 q515 (Or.inl q516) q105 q517 hd_X2_facts ⟨Nat.le_of_ble_eq_true rfl, Nat.le_of_ble_eq_true rfl⟩ rfl hl.1 rfl (Nat.le_of_ble_eq_true rfl) dX0_fits_4 (fun H locs hX => ?_)
  refine lv_istore_n (lv' := [(2, .int r3), (0, .ref o), (1, .int p0)]) hx hb dX0_fits_7 rfl hl (by decide) rfl (fun ls hl => ?_)
  refine lv_iload_n hx hb dX0_fits_8 rfl (lv_at hl 0 rfl) ?_
  refine lv_bipush (v := nI 12) hx hb dX0_fits_9 bp12 ?_
  refine lv_icmp_le (tgt := 16) hx hb dX0_fits_11 (by decide) (fun c5 => ?_) (fun c5 => ?_)
  · have hf := it_pos c5 hf
    refine lv_iconst (v := nI 0) hx hb dX0_fits_16 ic0 ?_
    refine lv_istore_n (lv' := [(3, .int (nI 0)), (2, .int r3), (0, .ref o), (1, .int p0)]) hx hb dX0_fits_17 rfl hl (by decide) rfl (fun ls hl => ?_)
    obtain ⟨y39, hxy39, hf⟩ := bnd_some hf
    have hy39 : (Sum.elim (fun t : XS => ∀ (H : Heap) (locs : List Loc) (ls : Array Slot), x_I D S s H locs t → lv_has ls 6 [] → W p l e (x_R 118 2753 S) s m args below meth c H locs (xz t - xz S) (xu t - xu S) Q (F0 m 100 ls [])) (fun t : XS => ∀ (H : Heap) (locs : List Loc) (ls : Array Slot), x_I D S s H locs t → lv_has ls 6 [] → W p l e (x_R 118 2753 S) s m args below meth c H locs (xz t - xz S) (xu t - xu S) Q (F0 m 108 ls []))) y39 := by
      rcases y39 with S40 | S41
      · have hf := el_l hf
        intro H locs ls hX hl
        refine lv_iconst (v := nI 1) hx hb dX0_fits_100 ic1 ?_
        cases hf
        exact hret _ _ _ _ rfl hX dX0_fits_101
      · have hf := el_r hf
        intro H locs ls hX hl
        refine lv_iconst (v := nI 0) hx hb dX0_fits_108 ic0 ?_
        cases hf
        exact hret _ _ _ _ rfl hX dX0_fits_109
    refine lp_W (step := (fun t : Int32 × XS => f_X0_fits_L18 o p0 r3 t.1 t.2)) (fun t : Int32 × XS => ∀ (H : Heap) (locs : List Loc) (ls : Array Slot), x_I D S s H locs t.2 → lv_has ls 6 [(0, .ref o), (1, .int p0), (2, .int r3), (3, .int t.1)] → W p l e (x_R 118 2753 S) s m args below meth c H locs (xz t.2 - xz S) (xu t.2 - xu S) Q (F0 m 18 ls [])) (Sum.elim (fun t : XS => ∀ (H : Heap) (locs : List Loc) (ls : Array Slot), x_I D S s H locs t → lv_has ls 6 [] → W p l e (x_R 118 2753 S) s m args below meth c H locs (xz t - xz S) (xu t - xu S) Q (F0 m 100 ls [])) (fun t : XS => ∀ (H : Heap) (locs : List Loc) (ls : Array Slot), x_I D S s H locs t → lv_has ls 6 [] → W p l e (x_R 118 2753 S) s m args below meth c H locs (xz t - xz S) (xu t - xu S) Q (F0 m 108 ls []))) ?_ fu (nI 0, S) y39 hxy39 hy39 _ _ _ hX (lv_sub hl [2, 3, 1, 0] rfl)
    clear hf hxy39 hy39
    rintro ⟨x6, S7⟩ oo (hf : f_X0_fits_L18 o p0 r3 x6 S7 = some oo) hk
    intro H locs ls hX hl
    unfold f_X0_fits_L18 at hf
    refine lv_iload_n hx hb dX0_fits_18 rfl (lv_at hl 3 rfl) ?_
    refine lv_iconst (v := nI 1) hx hb dX0_fits_19 ic1 ?_
    refine lv_iload_n hx hb dX0_fits_20 rfl (lv_at hl 2 rfl) ?_
    refine lv_ishl hx hb dX0_fits_21 ?_
    refine lv_icmp_ge (tgt := 108) hx hb dX0_fits_22 (by decide) (fun c8 => ?_) (fun c8 => ?_)
    · have hf := it_pos c8 hf
      cases hf
      exact hk _ _ _ hX (lv_sub hl [] rfl)
    · have hf := it_neg c8 hf
      refine lv_iconst (v := nI 1) hx hb dX0_fits_25 ic1 ?_
      refine lv_istore (lv' := [(4, .int (nI 1)), (0, .ref o), (1, .int p0), (2, .int r3), (3, .int x6)]) hx hb dX0_fits_26 hl (by decide) rfl (fun ls hl => ?_)
      refine lv_iconst (v := nI 0) hx hb dX0_fits_28 ic0 ?_
      refine lv_istore (lv' := [(5, .int (nI 0)), (4, .int (nI 1)), (0, .ref o), (1, .int p0), (2, .int r3), (3, .int x6)]) hx hb dX0_fits_29 hl (by decide) rfl (fun ls hl => ?_)
      obtain ⟨y33, hxy33, hf⟩ := bnd_some hf
      have hy33 : (fun t : Int32 × XS => ∀ (H : Heap) (locs : List Loc) (ls : Array Slot), x_I D S s H locs t.2 → lv_has ls 6 [(0, .ref o), (1, .int p0), (2, .int r3), (3, .int x6), (4, .int t.1)] → W p l e (x_R 118 2753 S) s m args below meth c H locs (xz t.2 - xz S) (xu t.2 - xu S) Q (F0 m 95 ls [])) y33 := by
        rcases y33 with ⟨x34, S35⟩
        have hf := u2_at hf
        intro H locs ls hX hl
        refine lv_iload hx hb dX0_fits_95 (lv_at hl 4 rfl) ?_
        refine lv_if_eq (tgt := 102) hx hb dX0_fits_97 (by decide) (fun c36 => ?_) (fun c36 => ?_)
        · have hf := it_pos c36 hf
          obtain ⟨x37, ex37, hf⟩ := bd_some hf
          refine lv_iinc (v := x37) (lv' := [(3, .int x37), (0, .ref o), (1, .int p0), (2, .int r3), (4, .int x34)]) hx hb dX0_fits_102 hl (k := 3) rfl (by rw [ex37]; first | done | rfl) (by decide) rfl (fun ls hl => ?_)
          refine lv_goto (tgt := 18) hx hb dX0_fits_105 (by decide) ?_
          cases hf
          exact hk _ _ _ hX (lv_sub hl [1, 2, 3, 0] rfl)
        · have hf := it_neg c36 hf
          cases hf
          exact hk _ _ _ hX (lv_sub hl [] rfl)
      refine lp_W (step := (fun t : Int32 × Int32 × XS => f_X0_fits_L31 o p0 x6 t.1 t.2.1 t.2.2)) (fun t : Int32 × Int32 × XS => ∀ (H : Heap) (locs : List Loc) (ls : Array Slot), x_I D S s H locs t.2.2 → lv_has ls 6 [(0, .ref o), (1, .int p0), (2, .int r3), (3, .int x6), (4, .int t.1), (5, .int t.2.1)] → W p l e (x_R 118 2753 S) s m args below meth c H locs (xz t.2.2 - xz S) (xu t.2.2 - xu S) Q (F0 m 31 ls [])) (fun t : Int32 × XS => ∀ (H : Heap) (locs : List Loc) (ls : Array Slot), x_I D S s H locs t.2 → lv_has ls 6 [(0, .ref o), (1, .int p0), (2, .int r3), (3, .int x6), (4, .int t.1)] → W p l e (x_R 118 2753 S) s m args below meth c H locs (xz t.2 - xz S) (xu t.2 - xu S) Q (F0 m 95 ls [])) ?_ fu (nI 1, nI 0, S7) y33 hxy33 hy33 _ _ _ hX (lv_sub hl [2, 3, 4, 5, 1, 0] rfl)
      clear hf hxy33 hy33
      rintro ⟨x9, x10, S11⟩ oo (hf : f_X0_fits_L31 o p0 x6 x9 x10 S11 = some oo) hk
      intro H locs ls hX hl
      unfold f_X0_fits_L31 at hf
      refine lv_iload hx hb dX0_fits_31 (lv_at hl 5 rfl) ?_
      refine lv_aload_n hx hb dX0_fits_33 rfl (lv_at hl 0 rfl) ?_
      obtain ⟨hk12, hf⟩ := chk_some hf
      obtain ⟨b13, hb13, hf⟩ := bnd_some hf
      refine xr_get (q := (RX0, TX0, 14)) B hX 0 hk12 rfl (by decide) (by decide) (v := .ref b13) (x_Vr (c := 1) (j := 0) rfl (by decide) hb13) q339 (fun _ h => h) dX0_fits_34 ?_
      obtain ⟨hk14, hf⟩ := chk_some hf
      obtain ⟨b15, hb15, hf⟩ := bnd_some hf
      refine xr_getN (q := (RX1, TX1, 14)) B hX 11 hk14 rfl (by decide) (by decide) (v := .ref b15) (x_Vr (c := 2) (j := 11) rfl (by decide) hb15) nq241 (fun _ h => h) dX0_fits_37 ?_
      obtain ⟨hk17, hf⟩ := chk_some hf
      obtain ⟨r16, hcr16, hf⟩ := bnd_some hf
      refine xr_callVC (rest := [.int x10]) (q := (RJ2, TJ2, 3)) B hX (c_J2_size l D S11 b15 hcr16) hk17 rfl (by decide) q409 q410 (Or.inl q411) q108 q412 hd_J2_size ⟨Nat.le_of_ble_eq_true rfl, Nat.le_of_ble_eq_true rfl⟩ rfl hl.1 rfl (Nat.le_of_ble_eq_true rfl) dX0_fits_40 (fun H locs hX => ?_)
      refine lv_icmp_ge (tgt := 95) hx hb dX0_fits_43 (by decide) (fun c18 => ?_) (fun c18 => ?_)
      · have hf := it_pos c18 hf
        cases hf
        exact hk _ _ _ hX (lv_sub hl [0, 1, 2, 3, 4] rfl)
      · have hf := it_neg c18 hf
        refine lv_iload hx hb dX0_fits_46 (lv_at hl 4 rfl) ?_
        refine lv_if_eq (tgt := 95) hx hb dX0_fits_48 (by decide) (fun c19 => ?_) (fun c19 => ?_)
        · have hf := it_pos c19 hf
          cases hf
          exact hk _ _ _ hX (lv_sub hl [0, 1, 2, 3, 4] rfl)
        · have hf := it_neg c19 hf
          refine lv_iload_n hx hb dX0_fits_51 rfl (lv_at hl 1 rfl) ?_
          refine lv_iload hx hb dX0_fits_52 (lv_at hl 5 rfl) ?_
          obtain ⟨r20, hcr20, hf⟩ := bnd_some hf
          refine pr_callS (rest := []) B (c_X0_has l p0 x10 hcr20) (va_cwS 2 hts (lw_S q1405 q1302 q103 q1303) rfl rfl rfl hd_X0_has ⟨Nat.le_of_ble_eq_true rfl, Nat.le_of_ble_eq_true rfl⟩) rfl hl.1 rfl (Nat.le_of_ble_eq_true rfl) dX0_fits_54 (x_room0 hX) ?_
          refine lv_if_eq (tgt := 82) hx hb dX0_fits_57 (by decide) (fun c21 => ?_) (fun c21 => ?_)
          · have hf := it_pos c21 hf
            refine lv_iconst (v := nI 1) hx hb dX0_fits_82 ic1 ?_
            refine lv_goto (tgt := 87) hx hb dX0_fits_83 (by decide) ?_
            refine lv_istore (lv' := [(4, .int (nI 1)), (0, .ref o), (1, .int p0), (2, .int r3), (3, .int x6), (5, .int x10)]) hx hb dX0_fits_87 hl (by decide) rfl (fun ls hl => ?_)
            obtain ⟨x22, ex22, hf⟩ := bd_some hf
            refine lv_iinc (v := x22) (lv' := [(5, .int x22), (4, .int (nI 1)), (0, .ref o), (1, .int p0), (2, .int r3), (3, .int x6)]) hx hb dX0_fits_89 hl (k := 5) rfl (by rw [ex22]; first | done | rfl) (by decide) rfl (fun ls hl => ?_)
            refine lv_goto (tgt := 31) hx hb dX0_fits_92 (by decide) ?_
            cases hf
            exact hk _ _ _ hX (lv_sub hl [2, 3, 4, 5, 1, 0] rfl)
          · have hf := it_neg c21 hf
            refine lv_aload_n hx hb dX0_fits_60 rfl (lv_at hl 0 rfl) ?_
            refine lv_aload_n hx hb dX0_fits_61 rfl (lv_at hl 0 rfl) ?_
            refine lv_iload hx hb dX0_fits_62 (lv_at hl 5 rfl) ?_
            obtain ⟨b23, hcb23, hf⟩ := bnd_some hf
            refine xr_callVC (rest := [.ref o]) (q := (RX0, TX0, 14)) B hX (c_X0_story_2 l D S11 o x10 hcb23) hk12 rfl (by decide) q1240 q1242 (Or.inl qs25) q103 q1243 hd_X0_story_2 ⟨Nat.le_of_ble_eq_true rfl, Nat.le_of_ble_eq_true rfl⟩ rfl hl.1 rfl (Nat.le_of_ble_eq_true rfl) dX0_fits_64 (fun H locs hX => ?_)
            obtain ⟨hk24, hf⟩ := chk_some hf
            obtain ⟨b25, hb25, hf⟩ := bnd_some hf
            refine xr_getN (q := (RX10, TX10, 3)) B hX 0 hk24 rfl (by decide) (by decide) (v := .ref b25) (x_Vr (c := 7) (j := 0) rfl (by decide) hb25) nq1208 (fun _ h => h) dX0_fits_67 ?_
            refine lv_aload_n hx hb dX0_fits_70 rfl (lv_at hl 0 rfl) ?_
            obtain ⟨b26, hb26, hf⟩ := bnd_some hf
            refine xr_get (q := (RX0, TX0, 14)) B hX 12 hk12 rfl (by decide) (by decide) (v := .ref b26) (x_Vr (c := 1) (j := 12) rfl (by decide) hb26) q352 (fun _ h => h) dX0_fits_71 ?_
            refine lv_iload_n hx hb dX0_fits_74 rfl (lv_at hl 3 rfl) ?_
            refine lv_i2l (v := x6.toInt64) hx hb dX0_fits_75 rfl ?_
            obtain ⟨⟨r27, S28⟩, hcr27, hf⟩ := bnd_some hf
            have hf := u2_at hf
            refine xr_callVC (rest := []) (q := (RX0, TX0, 14)) B hX (c_X0_isSoIn l D S11 o b25 b26 x6.toInt64 hcr27) hk12 rfl (by decide) q1256 q1258 (Or.inl qs26) q103 q1259 hd_X0_isSoIn ⟨Nat.le_of_ble_eq_true rfl, Nat.le_of_ble_eq_true rfl⟩ rfl hl.1 rfl (Nat.le_of_ble_eq_true rfl) dX0_fits_76 (fun H locs hX => ?_)
            refine lv_if_eq (tgt := 86) hx hb dX0_fits_79 (by decide) (fun c29 => ?_) (fun c29 => ?_)
            · have hf := it_pos c29 hf
              refine lv_iconst (v := nI 0) hx hb dX0_fits_86 ic0 ?_
              refine lv_istore (lv' := [(4, .int (nI 0)), (0, .ref o), (1, .int p0), (2, .int r3), (3, .int x6), (5, .int x10)]) hx hb dX0_fits_87 hl (by decide) rfl (fun ls hl => ?_)
              obtain ⟨x30, ex30, hf⟩ := bd_some hf
              refine lv_iinc (v := x30) (lv' := [(5, .int x30), (4, .int (nI 0)), (0, .ref o), (1, .int p0), (2, .int r3), (3, .int x6)]) hx hb dX0_fits_89 hl (k := 5) rfl (by rw [ex30]; first | done | rfl) (by decide) rfl (fun ls hl => ?_)
              refine lv_goto (tgt := 31) hx hb dX0_fits_92 (by decide) ?_
              cases hf
              exact hk _ _ _ hX (lv_sub hl [2, 3, 4, 5, 1, 0] rfl)
            · have hf := it_neg c29 hf
              refine lv_iconst (v := nI 1) hx hb dX0_fits_82 ic1 ?_
              refine lv_goto (tgt := 87) hx hb dX0_fits_83 (by decide) ?_
              refine lv_istore (lv' := [(4, .int (nI 1)), (0, .ref o), (1, .int p0), (2, .int r3), (3, .int x6), (5, .int x10)]) hx hb dX0_fits_87 hl (by decide) rfl (fun ls hl => ?_)
              obtain ⟨x31, ex31, hf⟩ := bd_some hf
              refine lv_iinc (v := x31) (lv' := [(5, .int x31), (4, .int (nI 1)), (0, .ref o), (1, .int p0), (2, .int r3), (3, .int x6)]) hx hb dX0_fits_89 hl (k := 5) rfl (by rw [ex31]; first | done | rfl) (by decide) rfl (fun ls hl => ?_)
              refine lv_goto (tgt := 31) hx hb dX0_fits_92 (by decide) ?_
              cases hf
              exact hk _ _ _ hX (lv_sub hl [2, 3, 4, 5, 1, 0] rfl)
  · have hf := it_neg c5 hf
    refine lv_iconst (v := nI 0) hx hb dX0_fits_14 ic0 ?_
    cases hf
    exact hret _ _ _ _ rfl hX dX0_fits_15
def f_X0_least_L45 (o : Nat) (r8 : Int32) (x10 : Int32) (x13 : Int32) (x16 : Int32) (S17 : XS) : Option ((Int32 × XS) ⊕ ((XS) ⊕ (XS))) :=
  (if nI 3 < x16 then some (.inr (.inr S17)) else bd ((x10 - x13) - x16) fun x19 => bnd (f_X0_isIn x19 (nI 1) (nI 3)) fun r20 => (if r20 = 0 then bd (x16 + nI 1) fun x45 => some (.inl (x45, S17)) else chk (xk S17 o = 1) <| bnd (xr S17 112 o 0) fun b23 => chk (xk S17 b23 = 3) <| bnd (xr S17 300 b23 0) fun b25 => chk (xk S17 b25 = 52) <| chk (xb S17 ≤ b25) <| ast (xn S17 b25) (nI 0) (s_i S17 52 b25 (nI 0).toNatClampNeg x13) fun S28 => bnd (xr S28 112 o 0) fun b29 => chk (xk S28 b29 = 3) <| bnd (xr S28 300 b29 0) fun b31 => chk (xk S28 b31 = 52) <| chk (xb S28 ≤ b31) <| ast (xn S28 b31) (nI 1) (s_i S28 52 b31 (nI 1).toNatClampNeg x16) fun S34 => bnd (xr S34 112 o 0) fun b35 => chk (xk S34 b35 = 3) <| bnd (xr S34 300 b35 0) fun b37 => chk (xk S34 b37 = 52) <| chk (xb S34 ≤ b37) <| ast (xn S34 b37) (nI 2) (s_i S34 52 b37 (nI 2).toNatClampNeg x19) fun S40 => bnd (f_X0_fits S40 o r8) <| u2 fun r41 S42 => (if r41 = 0 then bd (x16 + nI 1) fun x44 => some (.inl (x44, S42)) else some (.inr (.inl S42)))))
def f_X0_least_L36 (o : Nat) (r8 : Int32) (x10 : Int32) (x13 : Int32) (S14 : XS) : Option ((Int32 × XS) ⊕ ((XS) ⊕ (XS))) :=
  (if nI 3 < x13 then some (.inr (.inr S14)) else bnd (wO (fun t : Int32 × XS => f_X0_least_L45 o r8 x10 x13 t.1 t.2) fu (nI 1, S14)) (Sum.elim (fun S48 => some (.inr (.inl S48))) (fun S49 => bd (x13 + nI 1) fun x50 => some (.inl (x50, S49)))))
def f_X0_least_L27 (o : Nat) (r8 : Int32) (x10 : Int32) (S11 : XS) : Option ((Int32 × XS) ⊕ ((XS) ⊕ (XS))) :=
  (if nI 9 < x10 then some (.inr (.inr S11)) else bnd (wO (fun t : Int32 × XS => f_X0_least_L36 o r8 x10 t.1 t.2) fu (nI 1, S11)) (Sum.elim (fun S53 => some (.inr (.inl S53))) (fun S54 => bd (x10 + nI 1) fun x55 => some (.inl (x55, S54)))))
def f_X0_least (S : XS) (o : Nat) (p0 : Int32) : Option (Int32 × XS) :=
  bnd (f_X0_isKind p0) fun r1 => (if r1 = 0 then some ((-1), S) else chk (xk S o = 1) <| bnd (xr S 112 o 0) fun b4 => bnd (f_X0_land S o) fun b5 => chk (xk S b4 = 3) <| bnd (f_X2_be S b4 b5) fun S6 => chk (xk S6 o = 1) <| bnd (f_X0_needed S6 o) fun r8 => bnd (wO (fun t : Int32 × XS => f_X0_least_L27 o r8 t.1 t.2) fu (nI 3, S6)) (Sum.elim (fun S58 => chk (xk S58 o = 1) <| bnd (xr S58 112 o 0) fun b60 => chk (xk S58 b60 = 3) <| bnd (xr S58 300 b60 0) fun b62 => chk (xk S58 b62 = 52) <| ald (xn S58 b62) (xi S58 52 b62) p0 fun v64 => some (v64, S58)) (fun S65 => some ((-1), S65))))
set_option maxHeartbeats 4000000 in
set_option maxRecDepth 100000 in
theorem c_X0_least (l : Launch) (D : XD) (S : XS) (o : Nat) (p0 : Int32) {r : Int32} {S' : XS} (hf : f_X0_least S o p0 = some (r, S')) : x_Met l yX0_least cX0_least 7 (Option.some Jvm.ClassFile.FieldType.int) 119 2778 D [.ref o, .int p0] S (some (.int r)) S' := by
  refine x_metI RX0 (by decide) rfl (Nat.le_of_ble_eq_true rfl) (fun p e s m args below meth c Q B hnm hret H locs hX ls hl => ?_)
  have hx := B.1
  have hb := B.2.1
  have hml := B.2.2.1
  have hown := B.2.2.2.1
  have hts := B.2.2.2.2
  have hl : lv_has ls 7 [(0, .ref o), (1, .int p0)] := hl
  unfold f_X0_least at hf
  refine lv_iload_n hx hb dX0_least_0 rfl (lv_at hl 1 rfl) ?_
  obtain ⟨r1, hcr1, hf⟩ := bnd_some hf
  refine pr_callS (rest := []) B (c_X0_isKind l p0 hcr1) (va_cwS 1 hts (lw_S q387 q388 q103 q389) rfl rfl rfl hd_X0_isKind ⟨Nat.le_of_ble_eq_true rfl, Nat.le_of_ble_eq_true rfl⟩) rfl hl.1 rfl (Nat.le_of_ble_eq_true rfl) dX0_least_1 (x_room0 hX) ?_
  refine lv_if_ne (tgt := 9) hx hb dX0_least_4 (by decide) (fun c2 => ?_) (fun c2 => ?_)
  · have hf := it_neg c2 hf
    refine lv_aload_n hx hb dX0_least_9 rfl (lv_at hl 0 rfl) ?_
    obtain ⟨hk3, hf⟩ := chk_some hf
    obtain ⟨b4, hb4, hf⟩ := bnd_some hf
    refine xr_get (q := (RX0, TX0, 14)) B hX 12 hk3 rfl (by decide) (by decide) (v := .ref b4) (x_Vr (c := 1) (j := 12) rfl (by decide) hb4) q352 (fun _ h => h) dX0_least_10 ?_
    refine lv_aload_n hx hb dX0_least_13 rfl (lv_at hl 0 rfl) ?_
    obtain ⟨b5, hcb5, hf⟩ := bnd_some hf
    refine xr_callVC (rest := [.ref b4]) (q := (RX0, TX0, 14)) B hX (c_X0_land l D S o hcb5) hk3 rfl (by decide) q393 q395 (Or.inl qs0) q103 q396 hd_X0_land ⟨Nat.le_of_ble_eq_true rfl, Nat.le_of_ble_eq_true rfl⟩ rfl hl.1 rfl (Nat.le_of_ble_eq_true rfl) dX0_least_14 (fun H locs hX => ?_)
    obtain ⟨hk7, hf⟩ := chk_some hf
    obtain ⟨S6, hcS6, hf⟩ := bnd_some hf
    refine xr_callVC (rest := []) (q := (RX2, TX2, 2)) B hX (c_X2_be l D S b4 b5 hcS6) hk7 rfl (by decide) q1501 q1502 (Or.inl q1503) q105 q1504 hd_X2_be ⟨Nat.le_of_ble_eq_true rfl, Nat.le_of_ble_eq_true rfl⟩ rfl hl.1 rfl (Nat.le_of_ble_eq_true rfl) dX0_least_17 (fun H locs hX => ?_)
    refine lv_aload_n hx hb dX0_least_20 rfl (lv_at hl 0 rfl) ?_
    obtain ⟨hk9, hf⟩ := chk_some hf
    obtain ⟨r8, hcr8, hf⟩ := bnd_some hf
    refine xr_callVC (rest := []) (q := (RX0, TX0, 14)) B hX (c_X0_needed l D S6 o hcr8) hk9 rfl (by decide) q1469 q1471 (Or.inl qs34) q103 q1472 hd_X0_needed ⟨Nat.le_of_ble_eq_true rfl, Nat.le_of_ble_eq_true rfl⟩ rfl hl.1 rfl (Nat.le_of_ble_eq_true rfl) dX0_least_21 (fun H locs hX => ?_)
    refine lv_istore_n (lv' := [(2, .int r8), (0, .ref o), (1, .int p0)]) hx hb dX0_least_24 rfl hl (by decide) rfl (fun ls hl => ?_)
    refine lv_iconst (v := nI 3) hx hb dX0_least_25 ic3 ?_
    refine lv_istore_n (lv' := [(3, .int (nI 3)), (2, .int r8), (0, .ref o), (1, .int p0)]) hx hb dX0_least_26 rfl hl (by decide) rfl (fun ls hl => ?_)
    obtain ⟨y57, hxy57, hf⟩ := bnd_some hf
    have hy57 : (Sum.elim (fun t : XS => ∀ (H : Heap) (locs : List Loc) (ls : Array Slot), x_I D S s H locs t → lv_has ls 7 [(0, .ref o), (1, .int p0)] → W p l e (x_R 119 2778 S) s m args below meth c H locs (xz t - xz S) (xu t - xu S) Q (F0 m 114 ls [])) (fun t : XS => ∀ (H : Heap) (locs : List Loc) (ls : Array Slot), x_I D S s H locs t → lv_has ls 7 [] → W p l e (x_R 119 2778 S) s m args below meth c H locs (xz t - xz S) (xu t - xu S) Q (F0 m 142 ls []))) y57 := by
      rcases y57 with S58 | S65
      · have hf := el_l hf
        intro H locs ls hX hl
        refine lv_aload_n hx hb dX0_least_114 rfl (lv_at hl 0 rfl) ?_
        obtain ⟨hk59, hf⟩ := chk_some hf
        obtain ⟨b60, hb60, hf⟩ := bnd_some hf
        refine xr_get (q := (RX0, TX0, 14)) B hX 12 hk59 rfl (by decide) (by decide) (v := .ref b60) (x_Vr (c := 1) (j := 12) rfl (by decide) hb60) q352 (fun _ h => h) dX0_least_115 ?_
        obtain ⟨hk61, hf⟩ := chk_some hf
        obtain ⟨b62, hb62, hf⟩ := bnd_some hf
        refine xr_getN (q := (RX2, TX2, 2)) B hX 0 hk61 rfl (by decide) (by decide) (v := .ref b62) (x_Vr (c := 3) (j := 0) rfl (by decide) hb62) nq200 (fun _ h => h) dX0_least_118 ?_
        refine lv_iload_n hx hb dX0_least_121 rfl (lv_at hl 1 rfl) ?_
        obtain ⟨hk63, hf⟩ := chk_some hf
        obtain ⟨v64, ev64, hiv64, hf⟩ := ald_some hf
        refine xr_iald B hX hk63 hiv64 ev64 dX0_least_122 ?_
        cases hf
        exact hret _ _ _ _ rfl hX dX0_least_123
      · have hf := el_r hf
        intro H locs ls hX hl
        refine lv_iconst (v := (-1)) hx hb dX0_least_142 icm1 ?_
        cases hf
        exact hret _ _ _ _ rfl hX dX0_least_143
    refine lp_W (step := (fun t : Int32 × XS => f_X0_least_L27 o r8 t.1 t.2)) (fun t : Int32 × XS => ∀ (H : Heap) (locs : List Loc) (ls : Array Slot), x_I D S s H locs t.2 → lv_has ls 7 [(0, .ref o), (1, .int p0), (2, .int r8), (3, .int t.1)] → W p l e (x_R 119 2778 S) s m args below meth c H locs (xz t.2 - xz S) (xu t.2 - xu S) Q (F0 m 27 ls [])) (Sum.elim (fun t : XS => ∀ (H : Heap) (locs : List Loc) (ls : Array Slot), x_I D S s H locs t → lv_has ls 7 [(0, .ref o), (1, .int p0)] → W p l e (x_R 119 2778 S) s m args below meth c H locs (xz t - xz S) (xu t - xu S) Q (F0 m 114 ls [])) (fun t : XS => ∀ (H : Heap) (locs : List Loc) (ls : Array Slot), x_I D S s H locs t → lv_has ls 7 [] → W p l e (x_R 119 2778 S) s m args below meth c H locs (xz t - xz S) (xu t - xu S) Q (F0 m 142 ls []))) ?_ fu (nI 3, S6) y57 hxy57 hy57 _ _ _ hX (lv_sub hl [2, 3, 1, 0] rfl)
    clear hf hxy57 hy57
    rintro ⟨x10, S11⟩ oo (hf : f_X0_least_L27 o r8 x10 S11 = some oo) hk
    intro H locs ls hX hl
    unfold f_X0_least_L27 at hf
    refine lv_iload_n hx hb dX0_least_27 rfl (lv_at hl 3 rfl) ?_
    refine lv_bipush (v := nI 9) hx hb dX0_least_28 bp9 ?_
    refine lv_icmp_gt (tgt := 142) hx hb dX0_least_30 (by decide) (fun c12 => ?_) (fun c12 => ?_)
    · have hf := it_pos c12 hf
      cases hf
      exact hk _ _ _ hX (lv_sub hl [] rfl)
    · have hf := it_neg c12 hf
      refine lv_iconst (v := nI 1) hx hb dX0_least_33 ic1 ?_
      refine lv_istore (lv' := [(4, .int (nI 1)), (0, .ref o), (1, .int p0), (2, .int r8), (3, .int x10)]) hx hb dX0_least_34 hl (by decide) rfl (fun ls hl => ?_)
      obtain ⟨y52, hxy52, hf⟩ := bnd_some hf
      have hy52 : (Sum.elim (fun t : XS => ∀ (H : Heap) (locs : List Loc) (ls : Array Slot), x_I D S s H locs t → lv_has ls 7 [(0, .ref o), (1, .int p0)] → W p l e (x_R 119 2778 S) s m args below meth c H locs (xz t - xz S) (xu t - xu S) Q (F0 m 114 ls [])) (fun t : XS => ∀ (H : Heap) (locs : List Loc) (ls : Array Slot), x_I D S s H locs t → lv_has ls 7 [(0, .ref o), (1, .int p0), (2, .int r8), (3, .int x10)] → W p l e (x_R 119 2778 S) s m args below meth c H locs (xz t - xz S) (xu t - xu S) Q (F0 m 136 ls []))) y52 := by
        rcases y52 with S53 | S54
        · have hf := el_l hf
          intro H locs ls hX hl
          cases hf
          exact hk _ _ _ hX (lv_sub hl [0, 1] rfl)
        · have hf := el_r hf
          intro H locs ls hX hl
          obtain ⟨x55, ex55, hf⟩ := bd_some hf
          refine lv_iinc (v := x55) (lv' := [(3, .int x55), (0, .ref o), (1, .int p0), (2, .int r8)]) hx hb dX0_least_136 hl (k := 3) rfl (by rw [ex55]; first | done | rfl) (by decide) rfl (fun ls hl => ?_)
          refine lv_goto (tgt := 27) hx hb dX0_least_139 (by decide) ?_
          cases hf
          exact hk _ _ _ hX (lv_sub hl [1, 2, 3, 0] rfl)
      refine lp_W (step := (fun t : Int32 × XS => f_X0_least_L36 o r8 x10 t.1 t.2)) (fun t : Int32 × XS => ∀ (H : Heap) (locs : List Loc) (ls : Array Slot), x_I D S s H locs t.2 → lv_has ls 7 [(0, .ref o), (1, .int p0), (2, .int r8), (3, .int x10), (4, .int t.1)] → W p l e (x_R 119 2778 S) s m args below meth c H locs (xz t.2 - xz S) (xu t.2 - xu S) Q (F0 m 36 ls [])) (Sum.elim (fun t : XS => ∀ (H : Heap) (locs : List Loc) (ls : Array Slot), x_I D S s H locs t → lv_has ls 7 [(0, .ref o), (1, .int p0)] → W p l e (x_R 119 2778 S) s m args below meth c H locs (xz t - xz S) (xu t - xu S) Q (F0 m 114 ls [])) (fun t : XS => ∀ (H : Heap) (locs : List Loc) (ls : Array Slot), x_I D S s H locs t → lv_has ls 7 [(0, .ref o), (1, .int p0), (2, .int r8), (3, .int x10)] → W p l e (x_R 119 2778 S) s m args below meth c H locs (xz t - xz S) (xu t - xu S) Q (F0 m 136 ls []))) ?_ fu (nI 1, S11) y52 hxy52 hy52 _ _ _ hX (lv_sub hl [1, 2, 3, 4, 0] rfl)
      clear hf hxy52 hy52
      rintro ⟨x13, S14⟩ oo (hf : f_X0_least_L36 o r8 x10 x13 S14 = some oo) hk
      intro H locs ls hX hl
      unfold f_X0_least_L36 at hf
      refine lv_iload hx hb dX0_least_36 (lv_at hl 4 rfl) ?_
      refine lv_iconst (v := nI 3) hx hb dX0_least_38 ic3 ?_
      refine lv_icmp_gt (tgt := 136) hx hb dX0_least_39 (by decide) (fun c15 => ?_) (fun c15 => ?_)
      · have hf := it_pos c15 hf
        cases hf
        exact hk _ _ _ hX (lv_sub hl [0, 1, 2, 3] rfl)
      · have hf := it_neg c15 hf
        refine lv_iconst (v := nI 1) hx hb dX0_least_42 ic1 ?_
        refine lv_istore (lv' := [(5, .int (nI 1)), (0, .ref o), (1, .int p0), (2, .int r8), (3, .int x10), (4, .int x13)]) hx hb dX0_least_43 hl (by decide) rfl (fun ls hl => ?_)
        obtain ⟨y47, hxy47, hf⟩ := bnd_some hf
        have hy47 : (Sum.elim (fun t : XS => ∀ (H : Heap) (locs : List Loc) (ls : Array Slot), x_I D S s H locs t → lv_has ls 7 [(0, .ref o), (1, .int p0)] → W p l e (x_R 119 2778 S) s m args below meth c H locs (xz t - xz S) (xu t - xu S) Q (F0 m 114 ls [])) (fun t : XS => ∀ (H : Heap) (locs : List Loc) (ls : Array Slot), x_I D S s H locs t → lv_has ls 7 [(0, .ref o), (1, .int p0), (2, .int r8), (3, .int x10), (4, .int x13)] → W p l e (x_R 119 2778 S) s m args below meth c H locs (xz t - xz S) (xu t - xu S) Q (F0 m 130 ls []))) y47 := by
          rcases y47 with S48 | S49
          · have hf := el_l hf
            intro H locs ls hX hl
            cases hf
            exact hk _ _ _ hX (lv_sub hl [0, 1] rfl)
          · have hf := el_r hf
            intro H locs ls hX hl
            obtain ⟨x50, ex50, hf⟩ := bd_some hf
            refine lv_iinc (v := x50) (lv' := [(4, .int x50), (0, .ref o), (1, .int p0), (2, .int r8), (3, .int x10)]) hx hb dX0_least_130 hl (k := 4) rfl (by rw [ex50]; first | done | rfl) (by decide) rfl (fun ls hl => ?_)
            refine lv_goto (tgt := 36) hx hb dX0_least_133 (by decide) ?_
            cases hf
            exact hk _ _ _ hX (lv_sub hl [1, 2, 3, 4, 0] rfl)
        refine lp_W (step := (fun t : Int32 × XS => f_X0_least_L45 o r8 x10 x13 t.1 t.2)) (fun t : Int32 × XS => ∀ (H : Heap) (locs : List Loc) (ls : Array Slot), x_I D S s H locs t.2 → lv_has ls 7 [(0, .ref o), (1, .int p0), (2, .int r8), (3, .int x10), (4, .int x13), (5, .int t.1)] → W p l e (x_R 119 2778 S) s m args below meth c H locs (xz t.2 - xz S) (xu t.2 - xu S) Q (F0 m 45 ls [])) (Sum.elim (fun t : XS => ∀ (H : Heap) (locs : List Loc) (ls : Array Slot), x_I D S s H locs t → lv_has ls 7 [(0, .ref o), (1, .int p0)] → W p l e (x_R 119 2778 S) s m args below meth c H locs (xz t - xz S) (xu t - xu S) Q (F0 m 114 ls [])) (fun t : XS => ∀ (H : Heap) (locs : List Loc) (ls : Array Slot), x_I D S s H locs t → lv_has ls 7 [(0, .ref o), (1, .int p0), (2, .int r8), (3, .int x10), (4, .int x13)] → W p l e (x_R 119 2778 S) s m args below meth c H locs (xz t - xz S) (xu t - xu S) Q (F0 m 130 ls []))) ?_ fu (nI 1, S14) y47 hxy47 hy47 _ _ _ hX (lv_sub hl [1, 2, 3, 4, 5, 0] rfl)
        clear hf hxy47 hy47
        rintro ⟨x16, S17⟩ oo (hf : f_X0_least_L45 o r8 x10 x13 x16 S17 = some oo) hk
        intro H locs ls hX hl
        unfold f_X0_least_L45 at hf
        refine lv_iload hx hb dX0_least_45 (lv_at hl 5 rfl) ?_
        refine lv_iconst (v := nI 3) hx hb dX0_least_47 ic3 ?_
        refine lv_icmp_gt (tgt := 130) hx hb dX0_least_48 (by decide) (fun c18 => ?_) (fun c18 => ?_)
        · have hf := it_pos c18 hf
          cases hf
          exact hk _ _ _ hX (lv_sub hl [0, 1, 2, 3, 4] rfl)
        · have hf := it_neg c18 hf
          refine lv_iload_n hx hb dX0_least_51 rfl (lv_at hl 3 rfl) ?_
          refine lv_iload hx hb dX0_least_52 (lv_at hl 4 rfl) ?_
          refine lv_isub hx hb dX0_least_54 ?_
          refine lv_iload hx hb dX0_least_55 (lv_at hl 5 rfl) ?_
          refine lv_isub hx hb dX0_least_57 ?_
          refine lv_topi (fun x19 ex19 => ?_)
          have hf := bd_at ex19 hf
          refine lv_istore (lv' := [(6, .int x19), (0, .ref o), (1, .int p0), (2, .int r8), (3, .int x10), (4, .int x13), (5, .int x16)]) hx hb dX0_least_58 hl (by decide) rfl (fun ls hl => ?_)
          refine lv_iload hx hb dX0_least_60 (lv_at hl 0 rfl) ?_
          refine lv_iconst (v := nI 1) hx hb dX0_least_62 ic1 ?_
          refine lv_iconst (v := nI 3) hx hb dX0_least_63 ic3 ?_
          obtain ⟨r20, hcr20, hf⟩ := bnd_some hf
          refine pr_callS (rest := []) B (c_X0_isIn l x19 (nI 1) (nI 3) hcr20) (va_cwS 3 hts (lw_S q390 q391 q103 q392) rfl rfl rfl hd_X0_isIn ⟨Nat.le_of_ble_eq_true rfl, Nat.le_of_ble_eq_true rfl⟩) rfl hl.1 rfl (Nat.le_of_ble_eq_true rfl) dX0_least_64 (x_room0 hX) ?_
          refine lv_if_ne (tgt := 73) hx hb dX0_least_67 (by decide) (fun c21 => ?_) (fun c21 => ?_)
          · have hf := it_neg c21 hf
            refine lv_aload_n hx hb dX0_least_73 rfl (lv_at hl 1 rfl) ?_
            obtain ⟨hk22, hf⟩ := chk_some hf
            obtain ⟨b23, hb23, hf⟩ := bnd_some hf
            refine xr_get (q := (RX0, TX0, 14)) B hX 12 hk22 rfl (by decide) (by decide) (v := .ref b23) (x_Vr (c := 1) (j := 12) rfl (by decide) hb23) q352 (fun _ h => h) dX0_least_74 ?_
            obtain ⟨hk24, hf⟩ := chk_some hf
            obtain ⟨b25, hb25, hf⟩ := bnd_some hf
            refine xr_getN (q := (RX2, TX2, 2)) B hX 0 hk24 rfl (by decide) (by decide) (v := .ref b25) (x_Vr (c := 3) (j := 0) rfl (by decide) hb25) nq200 (fun _ h => h) dX0_least_77 ?_
            refine lv_iconst (v := nI 0) hx hb dX0_least_80 ic0 ?_
            refine lv_iload hx hb dX0_least_81 (lv_at hl 5 rfl) ?_
            obtain ⟨hk26, hf⟩ := chk_some hf
            obtain ⟨hw27, hf⟩ := chk_some hf
            obtain ⟨S28, eS28, hiS28, hf⟩ := ast_some hf
            refine xr_iast B hX hk26 hw27 hiS28 eS28 dX0_least_83 (fun H locs hX => ?_)
            refine w_i eS28 ?_
            have hk22 := ks_i eS28 hk22
            have hk24 := ks_i eS28 hk24
            have hk26 := ks_i eS28 hk26
            have hw27 := kw_i eS28 hw27
            refine lv_aload_n hx hb dX0_least_84 rfl (lv_at hl 1 rfl) ?_
            obtain ⟨b29, hb29, hf⟩ := bnd_some hf
            refine xr_get (q := (RX0, TX0, 14)) B hX 12 hk22 rfl (by decide) (by decide) (v := .ref b29) (x_Vr (c := 1) (j := 12) rfl (by decide) hb29) q352 (fun _ h => h) dX0_least_85 ?_
            obtain ⟨hk30, hf⟩ := chk_some hf
            obtain ⟨b31, hb31, hf⟩ := bnd_some hf
            refine xr_getN (q := (RX2, TX2, 2)) B hX 0 hk30 rfl (by decide) (by decide) (v := .ref b31) (x_Vr (c := 3) (j := 0) rfl (by decide) hb31) nq200 (fun _ h => h) dX0_least_88 ?_
            refine lv_iconst (v := nI 1) hx hb dX0_least_91 ic1 ?_
            refine lv_iload hx hb dX0_least_92 (lv_at hl 6 rfl) ?_
            obtain ⟨hk32, hf⟩ := chk_some hf
            obtain ⟨hw33, hf⟩ := chk_some hf
            obtain ⟨S34, eS34, hiS34, hf⟩ := ast_some hf
            refine xr_iast B hX hk32 hw33 hiS34 eS34 dX0_least_94 (fun H locs hX => ?_)
            refine w_i eS34 ?_
            have hk22 := ks_i eS34 hk22
            have hk24 := ks_i eS34 hk24
            have hk26 := ks_i eS34 hk26
            have hw27 := kw_i eS34 hw27
            have hk30 := ks_i eS34 hk30
            have hk32 := ks_i eS34 hk32
            have hw33 := kw_i eS34 hw33
            refine lv_aload_n hx hb dX0_least_95 rfl (lv_at hl 1 rfl) ?_
            obtain ⟨b35, hb35, hf⟩ := bnd_some hf
            refine xr_get (q := (RX0, TX0, 14)) B hX 12 hk22 rfl (by decide) (by decide) (v := .ref b35) (x_Vr (c := 1) (j := 12) rfl (by decide) hb35) q352 (fun _ h => h) dX0_least_96 ?_
            obtain ⟨hk36, hf⟩ := chk_some hf
            obtain ⟨b37, hb37, hf⟩ := bnd_some hf
            refine xr_getN (q := (RX2, TX2, 2)) B hX 0 hk36 rfl (by decide) (by decide) (v := .ref b37) (x_Vr (c := 3) (j := 0) rfl (by decide) hb37) nq200 (fun _ h => h) dX0_least_99 ?_
            refine lv_iconst (v := nI 2) hx hb dX0_least_102 ic2 ?_
            refine lv_iload hx hb dX0_least_103 (lv_at hl 0 rfl) ?_
            obtain ⟨hk38, hf⟩ := chk_some hf
            obtain ⟨hw39, hf⟩ := chk_some hf
            obtain ⟨S40, eS40, hiS40, hf⟩ := ast_some hf
            refine xr_iast B hX hk38 hw39 hiS40 eS40 dX0_least_105 (fun H locs hX => ?_)
            refine w_i eS40 ?_
            have hk22 := ks_i eS40 hk22
            have hk24 := ks_i eS40 hk24
            have hk26 := ks_i eS40 hk26
            have hw27 := kw_i eS40 hw27
            have hk30 := ks_i eS40 hk30
            have hk32 := ks_i eS40 hk32
            have hw33 := kw_i eS40 hw33
            have hk36 := ks_i eS40 hk36
            have hk38 := ks_i eS40 hk38
            have hw39 := kw_i eS40 hw39
            refine lv_aload_n hx hb dX0_least_106 rfl (lv_at hl 1 rfl) ?_
            refine lv_iload_n hx hb dX0_least_107 rfl (lv_at hl 3 rfl) ?_
            obtain ⟨⟨r41, S42⟩, hcr41, hf⟩ := bnd_some hf
            have hf := u2_at hf
            refine xr_callVC (rest := []) (q := (RX0, TX0, 14)) B hX (c_X0_fits l D S40 o r8 hcr41) hk22 rfl (by decide) q1521 q1523 (Or.inl qs38) q103 q1524 hd_X0_fits ⟨Nat.le_of_ble_eq_true rfl, Nat.le_of_ble_eq_true rfl⟩ rfl hl.1 rfl (Nat.le_of_ble_eq_true rfl) dX0_least_108 (fun H locs hX => ?_)
            refine lv_if_eq (tgt := 124) hx hb dX0_least_111 (by decide) (fun c43 => ?_) (fun c43 => ?_)
            · have hf := it_pos c43 hf
              obtain ⟨x44, ex44, hf⟩ := bd_some hf
              refine lv_iinc (v := x44) (lv' := [(5, .int x44), (6, .int x19), (0, .ref o), (1, .int p0), (2, .int r8), (3, .int x10), (4, .int x13)]) hx hb dX0_least_124 hl (k := 6) rfl (by rw [ex44]; first | done | rfl) (by decide) rfl (fun ls hl => ?_)
              refine lv_goto (tgt := 45) hx hb dX0_least_127 (by decide) ?_
              cases hf
              exact hk _ _ _ hX (lv_sub hl [2, 3, 4, 5, 6, 0] rfl)
            · have hf := it_neg c43 hf
              cases hf
              exact hk _ _ _ hX (lv_sub hl [1, 2] rfl)
          · have hf := it_pos c21 hf
            refine lv_goto (tgt := 124) hx hb dX0_least_70 (by decide) ?_
            obtain ⟨x45, ex45, hf⟩ := bd_some hf
            refine lv_iinc (v := x45) (lv' := [(5, .int x45), (6, .int x19), (0, .ref o), (1, .int p0), (2, .int r8), (3, .int x10), (4, .int x13)]) hx hb dX0_least_124 hl (k := 6) rfl (by rw [ex45]; first | done | rfl) (by decide) rfl (fun ls hl => ?_)
            refine lv_goto (tgt := 45) hx hb dX0_least_127 (by decide) ?_
            cases hf
            exact hk _ _ _ hX (lv_sub hl [2, 3, 4, 5, 6, 0] rfl)
  · have hf := it_pos c2 hf
    refine lv_iconst (v := (-1)) hx hb dX0_least_7 icm1 ?_
    cases hf
    exact hret _ _ _ _ rfl hX dX0_least_8
def f_X0_sure (S : XS) (o : Nat) (p0 : Int32) (p1 : Int32) (p2 : Int32) : Option (Int32 × XS) :=
  chk (xk S o = 1) <| bnd (f_X0_land S o) fun b1 => chk (xk S b1 = 3) <| bnd (f_X2_fact S b1 p0 p1 p2) fun r3 => (if r3 = (-1) then some ((-1), S) else bnd (f_X0_isTold S o) fun r6 => (if r6 = 0 then some ((-1), S) else bnd (f_X0_looks S o) fun S8 => chk (xk S8 o = 1) <| bnd (f_X0_needed S8 o) fun r9 => bnd (f_X0_sureOf S8 o r3 r9) fun r11 => some (r11, S8)))
set_option maxHeartbeats 4000000 in
set_option maxRecDepth 100000 in
theorem c_X0_sure (l : Launch) (D : XD) (S : XS) (o : Nat) (p0 : Int32) (p1 : Int32) (p2 : Int32) {r : Int32} {S' : XS} (hf : f_X0_sure S o p0 p1 p2 = some (r, S')) : x_Met l yX0_sure cX0_sure 5 (Option.some Jvm.ClassFile.FieldType.int) 119 2776 D [.ref o, .int p0, .int p1, .int p2] S (some (.int r)) S' := by
  refine x_metI RX0 (by decide) rfl (Nat.le_of_ble_eq_true rfl) (fun p e s m args below meth c Q B hnm hret H locs hX ls hl => ?_)
  have hx := B.1
  have hb := B.2.1
  have hml := B.2.2.1
  have hown := B.2.2.2.1
  have hts := B.2.2.2.2
  have hl : lv_has ls 5 [(0, .ref o), (1, .int p0), (2, .int p1), (3, .int p2)] := hl
  unfold f_X0_sure at hf
  refine lv_aload_n hx hb dX0_sure_0 rfl (lv_at hl 0 rfl) ?_
  obtain ⟨hk2, hf⟩ := chk_some hf
  obtain ⟨b1, hcb1, hf⟩ := bnd_some hf
  refine xr_callVC (rest := []) (q := (RX0, TX0, 14)) B hX (c_X0_land l D S o hcb1) hk2 rfl (by decide) q393 q395 (Or.inl qs0) q103 q396 hd_X0_land ⟨Nat.le_of_ble_eq_true rfl, Nat.le_of_ble_eq_true rfl⟩ rfl hl.1 rfl (Nat.le_of_ble_eq_true rfl) dX0_sure_1 (fun H locs hX => ?_)
  refine lv_iload_n hx hb dX0_sure_4 rfl (lv_at hl 1 rfl) ?_
  refine lv_iload_n hx hb dX0_sure_5 rfl (lv_at hl 2 rfl) ?_
  refine lv_iload_n hx hb dX0_sure_6 rfl (lv_at hl 3 rfl) ?_
  obtain ⟨hk4, hf⟩ := chk_some hf
  obtain ⟨r3, hcr3, hf⟩ := bnd_some hf
  refine xr_callVC (rest := []) (q := (RX2, TX2, 2)) B hX (c_X2_fact l D S b1 p0 p1 p2 hcr3) hk4 rfl (by decide) q546 q547 (Or.inl q548) q105 q549 hd_X2_fact ⟨Nat.le_of_ble_eq_true rfl, Nat.le_of_ble_eq_true rfl⟩ rfl hl.1 rfl (Nat.le_of_ble_eq_true rfl) dX0_sure_7 (fun H locs hX => ?_)
  refine lv_istore (lv' := [(4, .int r3), (0, .ref o), (1, .int p0), (2, .int p1), (3, .int p2)]) hx hb dX0_sure_10 hl (by decide) rfl (fun ls hl => ?_)
  refine lv_iload hx hb dX0_sure_12 (lv_at hl 0 rfl) ?_
  refine lv_iconst (v := (-1)) hx hb dX0_sure_14 icm1 ?_
  refine lv_icmp_eq (tgt := 25) hx hb dX0_sure_15 (by decide) (fun c5 => ?_) (fun c5 => ?_)
  · have hf := it_pos c5 hf
    refine lv_iconst (v := (-1)) hx hb dX0_sure_25 icm1 ?_
    cases hf
    exact hret _ _ _ _ rfl hX dX0_sure_26
  · have hf := it_neg c5 hf
    refine lv_aload_n hx hb dX0_sure_18 rfl (lv_at hl 1 rfl) ?_
    obtain ⟨r6, hcr6, hf⟩ := bnd_some hf
    refine xr_callVC (rest := []) (q := (RX0, TX0, 14)) B hX (c_X0_isTold l D S o hcr6) hk2 rfl (by decide) q1406 q1408 (Or.inl qs29) q103 q1409 hd_X0_isTold ⟨Nat.le_of_ble_eq_true rfl, Nat.le_of_ble_eq_true rfl⟩ rfl hl.1 rfl (Nat.le_of_ble_eq_true rfl) dX0_sure_19 (fun H locs hX => ?_)
    refine lv_if_ne (tgt := 27) hx hb dX0_sure_22 (by decide) (fun c7 => ?_) (fun c7 => ?_)
    · have hf := it_neg c7 hf
      refine lv_aload_n hx hb dX0_sure_27 rfl (lv_at hl 1 rfl) ?_
      obtain ⟨S8, hcS8, hf⟩ := bnd_some hf
      refine xr_callVC (rest := []) (q := (RX0, TX0, 14)) B hX (c_X0_looks l D S o hcS8) hk2 rfl (by decide) q1452 q1454 (Or.inl qs31) q103 q1455 hd_X0_looks ⟨Nat.le_of_ble_eq_true rfl, Nat.le_of_ble_eq_true rfl⟩ rfl hl.1 rfl (Nat.le_of_ble_eq_true rfl) dX0_sure_28 (fun H locs hX => ?_)
      refine lv_aload_n hx hb dX0_sure_31 rfl (lv_at hl 1 rfl) ?_
      refine lv_iload hx hb dX0_sure_32 (lv_at hl 0 rfl) ?_
      refine lv_aload_n hx hb dX0_sure_34 rfl (lv_at hl 1 rfl) ?_
      obtain ⟨hk10, hf⟩ := chk_some hf
      obtain ⟨r9, hcr9, hf⟩ := bnd_some hf
      refine xr_callVC (rest := [.int r3, .ref o]) (q := (RX0, TX0, 14)) B hX (c_X0_needed l D S8 o hcr9) hk10 rfl (by decide) q1469 q1471 (Or.inl qs34) q103 q1472 hd_X0_needed ⟨Nat.le_of_ble_eq_true rfl, Nat.le_of_ble_eq_true rfl⟩ rfl hl.1 rfl (Nat.le_of_ble_eq_true rfl) dX0_sure_35 (fun H locs hX => ?_)
      obtain ⟨r11, hcr11, hf⟩ := bnd_some hf
      refine xr_callVC (rest := []) (q := (RX0, TX0, 14)) B hX (c_X0_sureOf l D S8 o r3 r9 hcr11) hk10 rfl (by decide) q1563 q1565 (Or.inl qs41) q103 q1566 hd_X0_sureOf ⟨Nat.le_of_ble_eq_true rfl, Nat.le_of_ble_eq_true rfl⟩ rfl hl.1 rfl (Nat.le_of_ble_eq_true rfl) dX0_sure_38 (fun H locs hX => ?_)
      cases hf
      exact hret _ _ _ _ rfl hX dX0_sure_41
    · have hf := it_pos c7 hf
      refine lv_iconst (v := (-1)) hx hb dX0_sure_25 icm1 ?_
      cases hf
      exact hret _ _ _ _ rfl hX dX0_sure_26
def f_X0_without (S : XS) (o : Nat) (p0 : Int32) : Option (Int32 × XS) :=
  chk (xk S o = 1) <| bnd (f_X0_isStory S o p0) fun r1 => (if r1 = 0 then some ((-1), S) else bnd (f_X0_needed S o) fun r4 => bnd (f_X0_has r4 p0) fun r5 => (if r5 = 0 then some ((-1), S) else bnd (f_X0_isTold S o) fun r7 => (if r7 = 0 then some ((-1), S) else bnd (f_X0_looks S o) fun S9 => chk (xk S9 o = 1) <| bnd (f_X0_needed S9 o) fun r10 => bnd (f_X0_worldsOf S9 o (r10 &&& ((nI 1 <<< (p0 &&& 31)) ^^^ (-1)))) fun r12 => some (r12, S9))))
set_option maxHeartbeats 4000000 in
set_option maxRecDepth 100000 in
theorem c_X0_without (l : Launch) (D : XD) (S : XS) (o : Nat) (p0 : Int32) {r : Int32} {S' : XS} (hf : f_X0_without S o p0 = some (r, S')) : x_Met l yX0_without cX0_without 2 (Option.some Jvm.ClassFile.FieldType.int) 119 2776 D [.ref o, .int p0] S (some (.int r)) S' := by
  refine x_metI RX0 (by decide) rfl (Nat.le_of_ble_eq_true rfl) (fun p e s m args below meth c Q B hnm hret H locs hX ls hl => ?_)
  have hx := B.1
  have hb := B.2.1
  have hml := B.2.2.1
  have hown := B.2.2.2.1
  have hts := B.2.2.2.2
  have hl : lv_has ls 2 [(0, .ref o), (1, .int p0)] := hl
  unfold f_X0_without at hf
  refine lv_aload_n hx hb dX0_without_0 rfl (lv_at hl 0 rfl) ?_
  refine lv_iload_n hx hb dX0_without_1 rfl (lv_at hl 1 rfl) ?_
  obtain ⟨hk2, hf⟩ := chk_some hf
  obtain ⟨r1, hcr1, hf⟩ := bnd_some hf
  refine xr_callVC (rest := []) (q := (RX0, TX0, 14)) B hX (c_X0_isStory l D S o p0 hcr1) hk2 rfl (by decide) q1236 q1238 (Or.inl qs24) q103 q1239 hd_X0_isStory ⟨Nat.le_of_ble_eq_true rfl, Nat.le_of_ble_eq_true rfl⟩ rfl hl.1 rfl (Nat.le_of_ble_eq_true rfl) dX0_without_2 (fun H locs hX => ?_)
  refine lv_if_eq (tgt := 26) hx hb dX0_without_5 (by decide) (fun c3 => ?_) (fun c3 => ?_)
  · have hf := it_pos c3 hf
    refine lv_iconst (v := (-1)) hx hb dX0_without_26 icm1 ?_
    cases hf
    exact hret _ _ _ _ rfl hX dX0_without_27
  · have hf := it_neg c3 hf
    refine lv_aload_n hx hb dX0_without_8 rfl (lv_at hl 0 rfl) ?_
    obtain ⟨r4, hcr4, hf⟩ := bnd_some hf
    refine xr_callVC (rest := []) (q := (RX0, TX0, 14)) B hX (c_X0_needed l D S o hcr4) hk2 rfl (by decide) q1469 q1471 (Or.inl qs34) q103 q1472 hd_X0_needed ⟨Nat.le_of_ble_eq_true rfl, Nat.le_of_ble_eq_true rfl⟩ rfl hl.1 rfl (Nat.le_of_ble_eq_true rfl) dX0_without_9 (fun H locs hX => ?_)
    refine lv_iload_n hx hb dX0_without_12 rfl (lv_at hl 1 rfl) ?_
    obtain ⟨r5, hcr5, hf⟩ := bnd_some hf
    refine pr_callS (rest := []) B (c_X0_has l r4 p0 hcr5) (va_cwS 2 hts (lw_S q1405 q1302 q103 q1303) rfl rfl rfl hd_X0_has ⟨Nat.le_of_ble_eq_true rfl, Nat.le_of_ble_eq_true rfl⟩) rfl hl.1 rfl (Nat.le_of_ble_eq_true rfl) dX0_without_13 (x_room0 hX) ?_
    refine lv_if_eq (tgt := 26) hx hb dX0_without_16 (by decide) (fun c6 => ?_) (fun c6 => ?_)
    · have hf := it_pos c6 hf
      refine lv_iconst (v := (-1)) hx hb dX0_without_26 icm1 ?_
      cases hf
      exact hret _ _ _ _ rfl hX dX0_without_27
    · have hf := it_neg c6 hf
      refine lv_aload_n hx hb dX0_without_19 rfl (lv_at hl 0 rfl) ?_
      obtain ⟨r7, hcr7, hf⟩ := bnd_some hf
      refine xr_callVC (rest := []) (q := (RX0, TX0, 14)) B hX (c_X0_isTold l D S o hcr7) hk2 rfl (by decide) q1406 q1408 (Or.inl qs29) q103 q1409 hd_X0_isTold ⟨Nat.le_of_ble_eq_true rfl, Nat.le_of_ble_eq_true rfl⟩ rfl hl.1 rfl (Nat.le_of_ble_eq_true rfl) dX0_without_20 (fun H locs hX => ?_)
      refine lv_if_ne (tgt := 28) hx hb dX0_without_23 (by decide) (fun c8 => ?_) (fun c8 => ?_)
      · have hf := it_neg c8 hf
        refine lv_aload_n hx hb dX0_without_28 rfl (lv_at hl 0 rfl) ?_
        obtain ⟨S9, hcS9, hf⟩ := bnd_some hf
        refine xr_callVC (rest := []) (q := (RX0, TX0, 14)) B hX (c_X0_looks l D S o hcS9) hk2 rfl (by decide) q1452 q1454 (Or.inl qs31) q103 q1455 hd_X0_looks ⟨Nat.le_of_ble_eq_true rfl, Nat.le_of_ble_eq_true rfl⟩ rfl hl.1 rfl (Nat.le_of_ble_eq_true rfl) dX0_without_29 (fun H locs hX => ?_)
        refine lv_aload_n hx hb dX0_without_32 rfl (lv_at hl 0 rfl) ?_
        refine lv_aload_n hx hb dX0_without_33 rfl (lv_at hl 0 rfl) ?_
        obtain ⟨hk11, hf⟩ := chk_some hf
        obtain ⟨r10, hcr10, hf⟩ := bnd_some hf
        refine xr_callVC (rest := [.ref o]) (q := (RX0, TX0, 14)) B hX (c_X0_needed l D S9 o hcr10) hk11 rfl (by decide) q1469 q1471 (Or.inl qs34) q103 q1472 hd_X0_needed ⟨Nat.le_of_ble_eq_true rfl, Nat.le_of_ble_eq_true rfl⟩ rfl hl.1 rfl (Nat.le_of_ble_eq_true rfl) dX0_without_34 (fun H locs hX => ?_)
        refine lv_iconst (v := nI 1) hx hb dX0_without_37 ic1 ?_
        refine lv_iload_n hx hb dX0_without_38 rfl (lv_at hl 1 rfl) ?_
        refine lv_ishl hx hb dX0_without_39 ?_
        refine lv_iconst (v := (-1)) hx hb dX0_without_40 icm1 ?_
        refine lv_ixor hx hb dX0_without_41 ?_
        refine lv_iand hx hb dX0_without_42 ?_
        obtain ⟨r12, hcr12, hf⟩ := bnd_some hf
        refine xr_callVC (rest := []) (q := (RX0, TX0, 14)) B hX (c_X0_worldsOf l D S9 o (r10 &&& ((nI 1 <<< (p0 &&& 31)) ^^^ (-1))) hcr12) hk11 rfl (by decide) q1473 q1475 (Or.inl qs35) q103 q1476 hd_X0_worldsOf ⟨Nat.le_of_ble_eq_true rfl, Nat.le_of_ble_eq_true rfl⟩ rfl hl.1 rfl (Nat.le_of_ble_eq_true rfl) dX0_without_43 (fun H locs hX => ?_)
        cases hf
        exact hret _ _ _ _ rfl hX dX0_without_46
      · have hf := it_pos c8 hf
        refine lv_iconst (v := (-1)) hx hb dX0_without_26 icm1 ?_
        cases hf
        exact hret _ _ _ _ rfl hX dX0_without_27
def x_R_singles (l : Launch) (D : XD) (F Lo : Nat) (rec : XS → Nat → Int32 → Int32 → Option Int32) : Prop := ∀ S o a b r, rec S o a b = some r → x_Met l yX0_singles cX0_singles 7 (Option.some Jvm.ClassFile.FieldType.boolean) F Lo D [.ref o, .int a, .int b] S (some (.int r)) S
