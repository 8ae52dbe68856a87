set_option maxRecDepth 100000
def f_X12_init (S : XS) (o : Nat) (p0 : Int32) (p1 : Int32) : Option XS :=
  chk (xk S o = 9) <| chk (xb S ≤ o) <| chk (xr S 904 o 0 = none) <| bd (s_r S 900 o 0 (some o)) fun S4 => bd (s_r S4 901 o 0 (xs S 15)) fun S5 => bd (s_r S5 902 o 0 (xs S 16)) fun S6 => bd (s_r S6 901 o 0 (xs S 15)) fun S7 => bd (s_i S7 906 o 0 p0) fun S8 => bd (s_i S8 907 o 0 p1) fun S9 => some S9
set_option maxHeartbeats 4000000 in
set_option maxRecDepth 100000 in
theorem c_X12_init (l : Launch) (hfl : l.flags = flags0) (D : XD) (S : XS) (o : Nat) (p0 : Int32) (p1 : Int32) {S' : XS} (hf : f_X12_init S o p0 p1 = some S') : x_Met l yX12_init cX12_init 3 (Option.none : Option Jvm.ClassFile.FieldType) 4 62 D [.ref o, .int p0, .int p1] S none S' := by
  refine x_metV RX12 (by decide) rfl (Nat.le_of_ble_eq_true rfl) (fun p e s m args below meth c Q B hnm hret H locs hX ls hl => ?_)
  have hx := B.1
  have hb := B.2.1
  have hml := B.2.2.1
  have hown := B.2.2.2.1
  have hts := B.2.2.2.2
  have hl : lv_has ls 3 [(0, .ref o), (1, .int p0), (2, .int p1)] := hl
  unfold f_X12_init at hf
  refine lv_aload_n hx hb dX12_init_0 rfl (lv_at hl 0 rfl) ?_
  obtain ⟨hk1, hf⟩ := chk_some hf
  obtain ⟨hw2, hf⟩ := chk_some hf
  obtain ⟨hb3, hf⟩ := chk_some hf
  obtain ⟨S4, eS4, hf⟩ := bd_some hf
  obtain ⟨S5, eS5, hf⟩ := bd_some hf
  obtain ⟨S6, eS6, hf⟩ := bd_some hf
  obtain ⟨S7, eS7, hf⟩ := bd_some hf
  refine xr_excInit (rest := []) hfl B hX hk1 hw2 hb3 eS4 eS5 eS6 eS7 hX.2.2.2.1.1 hl.1 (Nat.le_of_ble_eq_true rfl) ⟨by decide, by decide⟩ dX12_init_1 (fun H locs hX => ?_)
  have hk1 := ks_r eS4 hk1
  have hw2 := kw_r eS4 hw2
  have hk1 := ks_r eS5 hk1
  have hw2 := kw_r eS5 hw2
  have hk1 := ks_r eS6 hk1
  have hw2 := kw_r eS6 hw2
  have hk1 := ks_r eS7 hk1
  have hw2 := kw_r eS7 hw2
  refine lv_aload_n hx hb dX12_init_4 rfl (lv_at hl 0 rfl) ?_
  refine lv_iload_n hx hb dX12_init_5 rfl (lv_at hl 1 rfl) ?_
  obtain ⟨S8, eS8, hf⟩ := bd_some hf
  refine xr_putF (S' := S8) (q := (RX12, TX12, 8)) (v := .int p0) (ty0 := tyX12) B hnm hX 6 hk1 rfl (by decide) hw2 (by decide) (by rw [eS8]; exact x_Vup_i (k := 9) (j := 6) rfl (by decide)) tyX12_ok (fun i h1 h2 => nmX12 i (Nat.lt_of_lt_of_le h1 (by decide)) 6 (by decide) h2) rfl rfl rfl rfl q913 (fun _ h => h) dX12_init_6 (fun H locs hX => ?_)
  refine w_i eS8 ?_
  have hk1 := ks_i eS8 hk1
  have hw2 := kw_i eS8 hw2
  refine lv_aload_n hx hb dX12_init_9 rfl (lv_at hl 0 rfl) ?_
  refine lv_iload_n hx hb dX12_init_10 rfl (lv_at hl 2 rfl) ?_
  obtain ⟨S9, eS9, hf⟩ := bd_some hf
  refine xr_putF (S' := S9) (q := (RX12, TX12, 8)) (v := .int p1) (ty0 := tyX12) B hnm hX 7 hk1 rfl (by decide) hw2 (by decide) (by rw [eS9]; exact x_Vup_i (k := 9) (j := 7) rfl (by decide)) tyX12_ok (fun i h1 h2 => nmX12 i (Nat.lt_of_lt_of_le h1 (by decide)) 7 (by decide) h2) rfl rfl rfl rfl q916 (fun _ h => h) dX12_init_11 (fun H locs hX => ?_)
  refine w_i eS9 ?_
  have hk1 := ks_i eS9 hk1
  have hw2 := kw_i eS9 hw2
  cases hf
  exact hret _ _ _ _ hX dX12_init_14
def f_X11_also (S : XS) (o : Nat) (p0 : Int32) (p1 : Int32) : Option XS :=
  chk (xk S o = 8) <| (oc (xr S 811 o 0) (chk (xz S < xL S ∧ xu S + 8 ≤ xU S) <| bd (xz S) fun a6 => bd (n_c S 9 0 8) fun S5 => bnd (f_X12_init S5 a6 p0 p1) fun S9 => chk (xk S9 o = 8) <| chk (xb S9 ≤ o) <| bd (s_r S9 811 o 0 (some a6)) fun S12 => some S12) fun b2 => bnd (xr S 811 o 0) fun b13 => chk (xk S b13 = 9) <| (if p1 < (xi S 907 b13 0) then chk (xz S < xL S ∧ xu S + 8 ≤ xU S) <| bd (xz S) fun a18 => bd (n_c S 9 0 8) fun S17 => bnd (f_X12_init S17 a18 p0 p1) fun S21 => chk (xk S21 o = 8) <| chk (xb S21 ≤ o) <| bd (s_r S21 811 o 0 (some a18)) fun S24 => some S24 else bnd (xr S 811 o 0) fun b25 => chk (xk S b25 = 9) <| (if p1 = (xi S 907 b25 0) then bnd (xr S 811 o 0) fun b28 => chk (xk S b28 = 9) <| (if (xi S 906 b28 0) ≤ p0 then some S else chk (xz S < xL S ∧ xu S + 8 ≤ xU S) <| bd (xz S) fun a33 => bd (n_c S 9 0 8) fun S32 => bnd (f_X12_init S32 a33 p0 p1) fun S36 => chk (xk S36 o = 8) <| chk (xb S36 ≤ o) <| bd (s_r S36 811 o 0 (some a33)) fun S39 => some S39) else some S)))
set_option maxHeartbeats 4000000 in
set_option maxRecDepth 100000 in
theorem c_X11_also (l : Launch) (hfl : l.flags = flags0) (D : XD) (S : XS) (o : Nat) (p0 : Int32) (p1 : Int32) {S' : XS} (hf : f_X11_also S o p0 p1 = some S') : x_Met l yX11_also cX11_also 3 (Option.none : Option Jvm.ClassFile.FieldType) 5 84 D [.ref o, .int p0, .int p1] S none S' := by
  refine x_metV RX11 (by decide) rfl (Nat.le_of_ble_eq_true rfl) (fun p e s m args below meth c Q B hnm hret H locs hX ls hl => ?_)
  have hx := B.1
  have hb := B.2.1
  have hml := B.2.2.1
  have hown := B.2.2.2.1
  have hts := B.2.2.2.2
  have hl : lv_has ls 3 [(0, .ref o), (1, .int p0), (2, .int p1)] := hl
  unfold f_X11_also at hf
  refine lv_aload_n hx hb dX11_also_0 rfl (lv_at hl 0 rfl) ?_
  obtain ⟨hk1, hf⟩ := chk_some hf
  rcases ho3 : xr S 811 o 0 with _ | b2
  · have hf := oc_none ho3 hf
    refine xr_get (q := (RX11, TX11, 12)) B hX 11 hk1 rfl (by decide) (by decide) (v := .null) (x_Vr (c := 8) (j := 11) rfl (by decide) ho3) q831 (fun _ h => h) dX11_also_1 ?_
    refine lv_ifnullN (tgt := 40) hx hb dX11_also_4 (by decide) ?_
    refine lv_aload_n hx hb dX11_also_40 rfl (lv_at hl 0 rfl) ?_
    obtain ⟨hr4, hf⟩ := chk_some hf
    obtain ⟨a6, ea6, hf⟩ := bd_some hf
    obtain ⟨S5, eS5, hf⟩ := bd_some hf
    have hk1 := ks_n hX eS5 (by decide) hk1
    have hk7 := ks_new eS5 ea6
    have hw8 := kw_new hX eS5 ea6
    refine xr_new (q := (RX12, TX12, 8)) (N := 8) (ty0 := tyX12) B hX 9 rfl (by decide) tyX12_ok xd_9 q869 q870 q135 hr4 eS5 dX11_also_41 (fun H hX => ?_)
    refine W.eq (g2 := F0 m 44 ls [.ref a6, .ref o]) (by rw [ea6]; first | done | rfl) ?_
    refine lv_dup hx hb dX11_also_44 rfl ?_
    refine lv_iload_n hx hb dX11_also_45 rfl (lv_at hl 1 rfl) ?_
    refine lv_iload_n hx hb dX11_also_46 rfl (lv_at hl 2 rfl) ?_
    obtain ⟨S9, hcS9, hf⟩ := bnd_some hf
    refine xr_callIC (rest := [.ref a6, .ref o]) B hX (c_X12_init l hfl D S5 a6 p0 p1 hcS9) q906 q907 q135 q908 hd_X12_init rfl ⟨Nat.le_of_ble_eq_true rfl, Nat.le_of_ble_eq_true rfl⟩ rfl hl.1 rfl (Nat.le_of_ble_eq_true rfl) dX11_also_47 (fun H locs hX => ?_)
    obtain ⟨hk10, hf⟩ := chk_some hf
    obtain ⟨hw11, hf⟩ := chk_some hf
    obtain ⟨S12, eS12, hf⟩ := bd_some hf
    refine xr_put (S' := S12) (q := (RX11, TX11, 12)) (v := va_rf (some a6)) (ty0 := tyX11) B hX 11 hk10 rfl (by decide) hw11 (by decide) (by rw [eS12]; exact x_Vup_r (k := 8) (j := 11) rfl (by decide)) tyX11_ok (fun i h1 h2 => nmX11 i (Nat.lt_of_lt_of_le h1 (by decide)) 11 (by decide) h2) rfl rfl rfl q831 (fun _ h => h) dX11_also_50 (fun H locs hX => ?_)
    refine w_r eS12 ?_
    have hk10 := ks_r eS12 hk10
    have hw11 := kw_r eS12 hw11
    cases hf
    exact hret _ _ _ _ hX dX11_also_53
  · have hf := oc_some ho3 hf
    refine xr_get (q := (RX11, TX11, 12)) B hX 11 hk1 rfl (by decide) (by decide) (v := .ref b2) (x_Vr (c := 8) (j := 11) rfl (by decide) ho3) q831 (fun _ h => h) dX11_also_1 ?_
    refine lv_ifnull hx hb dX11_also_4 ?_
    refine lv_iload_n hx hb dX11_also_7 rfl (lv_at hl 2 rfl) ?_
    refine lv_aload_n hx hb dX11_also_8 rfl (lv_at hl 0 rfl) ?_
    obtain ⟨b13, hb13, hf⟩ := bnd_some hf
    refine xr_get (q := (RX11, TX11, 12)) B hX 11 hk1 rfl (by decide) (by decide) (v := .ref b13) (x_Vr (c := 8) (j := 11) rfl (by decide) hb13) q831 (fun _ h => h) dX11_also_9 ?_
    obtain ⟨hk14, hf⟩ := chk_some hf
    refine xr_getN (q := (RX12, TX12, 8)) B hX 7 hk14 rfl (by decide) (by decide) (x_Vi rfl (by decide)) nq917 (fun _ h => h) dX11_also_12 ?_
    refine lv_icmp_lt (tgt := 40) hx hb dX11_also_15 (by decide) (fun c15 => ?_) (fun c15 => ?_)
    · have hf := it_pos c15 hf
      refine lv_aload_n hx hb dX11_also_40 rfl (lv_at hl 0 rfl) ?_
      obtain ⟨hr16, hf⟩ := chk_some hf
      obtain ⟨a18, ea18, hf⟩ := bd_some hf
      obtain ⟨S17, eS17, hf⟩ := bd_some hf
      have hk1 := ks_n hX eS17 (by decide) hk1
      have hk14 := ks_n hX eS17 (by decide) hk14
      have hk19 := ks_new eS17 ea18
      have hw20 := kw_new hX eS17 ea18
      refine xr_new (q := (RX12, TX12, 8)) (N := 8) (ty0 := tyX12) B hX 9 rfl (by decide) tyX12_ok xd_9 q869 q870 q135 hr16 eS17 dX11_also_41 (fun H hX => ?_)
      refine W.eq (g2 := F0 m 44 ls [.ref a18, .ref o]) (by rw [ea18]; first | done | rfl) ?_
      refine lv_dup hx hb dX11_also_44 rfl ?_
      refine lv_iload_n hx hb dX11_also_45 rfl (lv_at hl 1 rfl) ?_
      refine lv_iload_n hx hb dX11_also_46 rfl (lv_at hl 2 rfl) ?_
      obtain ⟨S21, hcS21, hf⟩ := bnd_some hf
      refine xr_callIC (rest := [.ref a18, .ref o]) B hX (c_X12_init l hfl D S17 a18 p0 p1 hcS21) q906 q907 q135 q908 hd_X12_init rfl ⟨Nat.le_of_ble_eq_true rfl, Nat.le_of_ble_eq_true rfl⟩ rfl hl.1 rfl (Nat.le_of_ble_eq_true rfl) dX11_also_47 (fun H locs hX => ?_)
      obtain ⟨hk22, hf⟩ := chk_some hf
      obtain ⟨hw23, hf⟩ := chk_some hf
      obtain ⟨S24, eS24, hf⟩ := bd_some hf
      refine xr_put (S' := S24) (q := (RX11, TX11, 12)) (v := va_rf (some a18)) (ty0 := tyX11) B hX 11 hk22 rfl (by decide) hw23 (by decide) (by rw [eS24]; exact x_Vup_r (k := 8) (j := 11) rfl (by decide)) tyX11_ok (fun i h1 h2 => nmX11 i (Nat.lt_of_lt_of_le h1 (by decide)) 11 (by decide) h2) rfl rfl rfl q831 (fun _ h => h) dX11_also_50 (fun H locs hX => ?_)
      refine w_r eS24 ?_
      have hk22 := ks_r eS24 hk22
      have hw23 := kw_r eS24 hw23
      cases hf
      exact hret _ _ _ _ hX dX11_also_53
    · have hf := it_neg c15 hf
      refine lv_iload_n hx hb dX11_also_18 rfl (lv_at hl 2 rfl) ?_
      refine lv_aload_n hx hb dX11_also_19 rfl (lv_at hl 0 rfl) ?_
      obtain ⟨b25, hb25, hf⟩ := bnd_some hf
      refine xr_get (q := (RX11, TX11, 12)) B hX 11 hk1 rfl (by decide) (by decide) (v := .ref b25) (x_Vr (c := 8) (j := 11) rfl (by decide) hb25) q831 (fun _ h => h) dX11_also_20 ?_
      obtain ⟨hk26, hf⟩ := chk_some hf
      refine xr_getN (q := (RX12, TX12, 8)) B hX 7 hk26 rfl (by decide) (by decide) (x_Vi rfl (by decide)) nq917 (fun _ h => h) dX11_also_23 ?_
      refine lv_icmp_ne (tgt := 53) hx hb dX11_also_26 (by decide) (fun c27 => ?_) (fun c27 => ?_)
      · have hf := it_neg c27 hf
        cases hf
        exact hret _ _ _ _ hX dX11_also_53
      · have hf := it_pos c27 hf
        refine lv_iload_n hx hb dX11_also_29 rfl (lv_at hl 1 rfl) ?_
        refine lv_aload_n hx hb dX11_also_30 rfl (lv_at hl 0 rfl) ?_
        obtain ⟨b28, hb28, hf⟩ := bnd_some hf
        refine xr_get (q := (RX11, TX11, 12)) B hX 11 hk1 rfl (by decide) (by decide) (v := .ref b28) (x_Vr (c := 8) (j := 11) rfl (by decide) hb28) q831 (fun _ h => h) dX11_also_31 ?_
        obtain ⟨hk29, hf⟩ := chk_some hf
        refine xr_getN (q := (RX12, TX12, 8)) B hX 6 hk29 rfl (by decide) (by decide) (x_Vi rfl (by decide)) nq914 (fun _ h => h) dX11_also_34 ?_
        refine lv_icmp_ge (tgt := 53) hx hb dX11_also_37 (by decide) (fun c30 => ?_) (fun c30 => ?_)
        · have hf := it_pos c30 hf
          cases hf
          exact hret _ _ _ _ hX dX11_also_53
        · have hf := it_neg c30 hf
          refine lv_aload_n hx hb dX11_also_40 rfl (lv_at hl 0 rfl) ?_
          obtain ⟨hr31, hf⟩ := chk_some hf
          obtain ⟨a33, ea33, hf⟩ := bd_some hf
          obtain ⟨S32, eS32, hf⟩ := bd_some hf
          have hk1 := ks_n hX eS32 (by decide) hk1
          have hk14 := ks_n hX eS32 (by decide) hk14
          have hk26 := ks_n hX eS32 (by decide) hk26
          have hk29 := ks_n hX eS32 (by decide) hk29
          have hk34 := ks_new eS32 ea33
          have hw35 := kw_new hX eS32 ea33
          refine xr_new (q := (RX12, TX12, 8)) (N := 8) (ty0 := tyX12) B hX 9 rfl (by decide) tyX12_ok xd_9 q869 q870 q135 hr31 eS32 dX11_also_41 (fun H hX => ?_)
          refine W.eq (g2 := F0 m 44 ls [.ref a33, .ref o]) (by rw [ea33]; first | done | rfl) ?_
          refine lv_dup hx hb dX11_also_44 rfl ?_
          refine lv_iload_n hx hb dX11_also_45 rfl (lv_at hl 1 rfl) ?_
          refine lv_iload_n hx hb dX11_also_46 rfl (lv_at hl 2 rfl) ?_
          obtain ⟨S36, hcS36, hf⟩ := bnd_some hf
          refine xr_callIC (rest := [.ref a33, .ref o]) B hX (c_X12_init l hfl D S32 a33 p0 p1 hcS36) q906 q907 q135 q908 hd_X12_init rfl ⟨Nat.le_of_ble_eq_true rfl, Nat.le_of_ble_eq_true rfl⟩ rfl hl.1 rfl (Nat.le_of_ble_eq_true rfl) dX11_also_47 (fun H locs hX => ?_)
          obtain ⟨hk37, hf⟩ := chk_some hf
          obtain ⟨hw38, hf⟩ := chk_some hf
          obtain ⟨S39, eS39, hf⟩ := bd_some hf
          refine xr_put (S' := S39) (q := (RX11, TX11, 12)) (v := va_rf (some a33)) (ty0 := tyX11) B hX 11 hk37 rfl (by decide) hw38 (by decide) (by rw [eS39]; exact x_Vup_r (k := 8) (j := 11) rfl (by decide)) tyX11_ok (fun i h1 h2 => nmX11 i (Nat.lt_of_lt_of_le h1 (by decide)) 11 (by decide) h2) rfl rfl rfl q831 (fun _ h => h) dX11_also_50 (fun H locs hX => ?_)
          refine w_r eS39 ?_
          have hk37 := ks_r eS39 hk37
          have hw38 := kw_r eS39 hw38
          cases hf
          exact hret _ _ _ _ hX dX11_also_53
def f_X11_wrong (S : XS) (o : Nat) : Option (Nat × XS) :=
  chk (xz S < xL S ∧ xu S + 8 ≤ xU S) <| bd (xz S) fun a3 => bd (n_c S 9 0 8) fun S2 => chk (xk S2 o = 8) <| bnd (f_X12_init S2 a3 (nI 1) (xi S2 804 o 0)) fun S7 => some (a3, S7)
set_option maxHeartbeats 4000000 in
set_option maxRecDepth 100000 in
theorem c_X11_wrong (l : Launch) (hfl : l.flags = flags0) (D : XD) (S : XS) (o : Nat) {r : Nat} {S' : XS} (hf : f_X11_wrong S o = some (r, S')) : x_Met l yX11_wrong cX11_wrong 1 (Option.some (Jvm.ClassFile.FieldType.object "VillageStories$Fault")) 5 84 D [.ref o] S (some (.ref r)) S' := by
  refine x_metA RX11 (by decide) rfl (Nat.le_of_ble_eq_true rfl) (Or.inl ⟨_, rfl⟩) (fun p e s m args below meth c Q B hnm hret H locs hX ls hl => ?_)
  have hx := B.1
  have hb := B.2.1
  have hml := B.2.2.1
  have hown := B.2.2.2.1
  have hts := B.2.2.2.2
  have hl : lv_has ls 1 [(0, .ref o)] := hl
  unfold f_X11_wrong at hf
  obtain ⟨hr1, hf⟩ := chk_some hf
  obtain ⟨a3, ea3, hf⟩ := bd_some hf
  obtain ⟨S2, eS2, hf⟩ := bd_some hf
  have hk4 := ks_new eS2 ea3
  have hw5 := kw_new hX eS2 ea3
  refine xr_new (q := (RX12, TX12, 8)) (N := 8) (ty0 := tyX12) B hX 9 rfl (by decide) tyX12_ok xd_9 q869 q870 q135 hr1 eS2 dX11_wrong_0 (fun H hX => ?_)
  refine W.eq (g2 := F0 m 3 ls [.ref a3]) (by rw [ea3]; first | done | rfl) ?_
  refine lv_dup hx hb dX11_wrong_3 rfl ?_
  refine lv_iconst (v := nI 1) hx hb dX11_wrong_4 ic1 ?_
  refine lv_aload_n hx hb dX11_wrong_5 rfl (lv_at hl 0 rfl) ?_
  obtain ⟨hk6, hf⟩ := chk_some hf
  refine xr_get (q := (RX11, TX11, 12)) B hX 4 hk6 rfl (by decide) (by decide) (x_Vi rfl (by decide)) q823 (fun _ h => h) dX11_wrong_6 ?_
  obtain ⟨S7, hcS7, hf⟩ := bnd_some hf
  refine xr_callIC (rest := [.ref a3]) B hX (c_X12_init l hfl D S2 a3 (nI 1) (xi S2 804 o 0) hcS7) q906 q907 q135 q908 hd_X12_init rfl ⟨Nat.le_of_ble_eq_true rfl, Nat.le_of_ble_eq_true rfl⟩ rfl hl.1 rfl (Nat.le_of_ble_eq_true rfl) dX11_wrong_9 (fun H locs hX => ?_)
  cases hf
  exact hret _ _ _ _ hX dX11_wrong_12
def f_X11_var (S : XS) (o : Nat) : Option ((Nat ⊕ Int32) × XS) :=
  bnd (xs S 50) fun b1 => chk (xk S o = 8) <| bnd (f_X11_letter S o b1 (nI 4)) fun r2 => (if r2 = (-1) then bnd (f_X11_wrong S o) <| u2 fun b6 S7 => some (.inl b6, S7) else bnd (f_X11_step S o) fun S5 => some (.inr r2, S5))
set_option maxHeartbeats 4000000 in
set_option maxRecDepth 100000 in
theorem c_X11_var (l : Launch) (hfl : l.flags = flags0) (D : XD) (S : XS) (o : Nat) {res : Nat ⊕ Int32} {S' : XS} (hf : f_X11_var S o = some (res, S')) : x_Bod l yX11_var cX11_var 2 (Option.some Jvm.ClassFile.FieldType.int) [] 7 193 D [.ref o] S (x_ri res) S' := by
  refine x_bodXI RX11 rfl (fun p e s m args below meth c Q B hnm hret hthr hthw H locs hX ls hl => ?_)
  have hx := B.1
  have hb := B.2.1
  have hml := B.2.2.1
  have hown := B.2.2.2.1
  have hts := B.2.2.2.2
  have hl : lv_has ls 2 [(0, .ref o)] := hl
  unfold f_X11_var at hf
  refine lv_aload_n hx hb dX11_var_0 rfl (lv_at hl 0 rfl) ?_
  obtain ⟨b1, hb1, hf⟩ := bnd_some hf
  refine xr_ldcS B hX 0 rfl hb1 dX11_var_1 ?_
  refine lv_iconst (v := nI 4) hx hb dX11_var_3 ic4 ?_
  obtain ⟨hk3, hf⟩ := chk_some hf
  obtain ⟨r2, hcr2, hf⟩ := bnd_some hf
  refine xr_callVC (rest := []) (q := (RX11, TX11, 12)) B hX (c_X11_letter l D S o b1 (nI 4) hcr2) hk3 rfl (by decide) q978 q980 (Or.inl qs18) q125 q981 hd_X11_letter ⟨Nat.le_of_ble_eq_true rfl, Nat.le_of_ble_eq_true rfl⟩ rfl hl.1 rfl (Nat.le_of_ble_eq_true rfl) dX11_var_4 (fun H locs hX => ?_)
  refine lv_istore_n (lv' := [(1, .int r2), (0, .ref o)]) hx hb dX11_var_7 rfl hl (by decide) rfl (fun ls hl => ?_)
  refine lv_iload_n hx hb dX11_var_8 rfl (lv_at hl 0 rfl) ?_
  refine lv_iconst (v := (-1)) hx hb dX11_var_9 icm1 ?_
  refine lv_icmp_ne (tgt := 18) hx hb dX11_var_10 (by decide) (fun c4 => ?_) (fun c4 => ?_)
  · have hf := it_neg c4 hf
    refine lv_aload_n hx hb dX11_var_18 rfl (lv_at hl 1 rfl) ?_
    obtain ⟨S5, hcS5, hf⟩ := bnd_some hf
    refine xr_callVC (rest := []) (q := (RX11, TX11, 12)) B hX (c_X11_step l D S o hcS5) hk3 rfl (by decide) q627 q629 (Or.inl qs8) q125 q630 hd_X11_step ⟨Nat.le_of_ble_eq_true rfl, Nat.le_of_ble_eq_true rfl⟩ rfl hl.1 rfl (Nat.le_of_ble_eq_true rfl) dX11_var_19 (fun H locs hX => ?_)
    refine lv_iload_n hx hb dX11_var_22 rfl (lv_at hl 0 rfl) ?_
    cases hf
    exact hret _ rfl _ _ _ _ rfl hX dX11_var_23
  · have hf := it_pos c4 hf
    refine lv_aload_n hx hb dX11_var_13 rfl (lv_at hl 1 rfl) ?_
    obtain ⟨⟨b6, S7⟩, hcb6, hf⟩ := bnd_some hf
    have hf := u2_at hf
    refine xr_callVC (rest := []) (q := (RX11, TX11, 12)) B hX (c_X11_wrong l hfl D S o hcb6) hk3 rfl (by decide) q969 q971 (Or.inl qs16) q125 q972 hd_X11_wrong ⟨Nat.le_of_ble_eq_true rfl, Nat.le_of_ble_eq_true rfl⟩ rfl hl.1 rfl (Nat.le_of_ble_eq_true rfl) dX11_var_14 (fun H locs hX => ?_)
    cases hf
    exact hthr _ rfl _ _ _ _ _ hX dX11_var_17
def f_X11_bound (S : XS) (o : Nat) (p0 : Int32) : Option ((Nat ⊕ Int32) × XS) :=
  chk (xk S o = 8) <| bd (xi S 804 o 0) fun x2 => bnd (f_X11_var S o) <| u2 fun q3 S4 => (sc q3 (fun a5 => some (.inl a5, S4)) fun r6 => chk (xk S4 o = 8) <| bnd (xr S4 810 o 0) fun b8 => chk (xk S4 b8 = 52) <| ald (xn S4 b8) (xi S4 52 b8) r6 fun v10 => (if v10 = (-1) then bnd (f_X11_also S4 o (nI 2) x2) fun S18 => some (.inr r6, S18) else (if p0 = (-1) then some (.inr r6, S4) else bnd (xr S4 810 o 0) fun b13 => chk (xk S4 b13 = 52) <| ald (xn S4 b13) (xi S4 52 b13) r6 fun v15 => (if v15 = p0 then some (.inr r6, S4) else bnd (f_X11_also S4 o (nI 3) x2) fun S17 => some (.inr r6, S17)))))
set_option maxHeartbeats 4000000 in
set_option maxRecDepth 100000 in
theorem c_X11_bound (l : Launch) (hfl : l.flags = flags0) (D : XD) (S : XS) (o : Nat) (p0 : Int32) {res : Nat ⊕ Int32} {S' : XS} (hf : f_X11_bound S o p0 = some (res, S')) : x_Bod l yX11_bound cX11_bound 4 (Option.some Jvm.ClassFile.FieldType.int) [] 8 214 D [.ref o, .int p0] S (x_ri res) S' := by
  refine x_bodXI RX11 rfl (fun p e s m args below meth c Q B hnm hret hthr hthw H locs hX ls hl => ?_)
  have hx := B.1
  have hb := B.2.1
  have hml := B.2.2.1
  have hown := B.2.2.2.1
  have hts := B.2.2.2.2
  have hl : lv_has ls 4 [(0, .ref o), (1, .int p0)] := hl
  unfold f_X11_bound at hf
  refine lv_aload_n hx hb dX11_bound_0 rfl (lv_at hl 0 rfl) ?_
  obtain ⟨hk1, hf⟩ := chk_some hf
  refine xr_get (q := (RX11, TX11, 12)) B hX 4 hk1 rfl (by decide) (by decide) (x_Vi rfl (by decide)) q823 (fun _ h => h) dX11_bound_1 ?_
  refine lv_topi (fun x2 ex2 => ?_)
  have hf := bd_at ex2 hf
  refine lv_istore_n (lv' := [(2, .int x2), (0, .ref o), (1, .int p0)]) hx hb dX11_bound_4 rfl hl (by decide) rfl (fun ls hl => ?_)
  refine lv_aload_n hx hb dX11_bound_5 rfl (lv_at hl 1 rfl) ?_
  obtain ⟨⟨q3, S4⟩, hcq3, hf⟩ := bnd_some hf
  have hf := u2_at hf
  rcases q3 with a5 | r6
  · have hf := sc_l hf
    refine xr_callT (rest := []) (q := (RX11, TX11, 12)) B hX (c_X11_var l hfl D S o hcq3) (by decide) (Nat.le_of_ble_eq_true rfl) hk1 rfl (by decide) q973 q975 qs17 q976 hd_X11_var ⟨Nat.le_of_ble_eq_true rfl, Nat.le_of_ble_eq_true rfl⟩ rfl hl.1 rfl (Nat.le_of_ble_eq_true rfl) dX11_bound_6 (fun H locs hX => ?_)
    cases hf
    exact hthw _ rfl _ _ _ _ _ hX
  · have hf := sc_r hf
    refine xr_callR (rest := []) (q := (RX11, TX11, 12)) B hX (c_X11_var l hfl D S o hcq3) (by decide) (Nat.le_of_ble_eq_true rfl) hk1 rfl (by decide) q973 q975 qs17 q976 hd_X11_var ⟨Nat.le_of_ble_eq_true rfl, Nat.le_of_ble_eq_true rfl⟩ rfl hl.1 rfl (Nat.le_of_ble_eq_true rfl) dX11_bound_6 (fun H locs hX => ?_)
    refine lv_istore_n (lv' := [(3, .int r6), (2, .int x2), (0, .ref o), (1, .int p0)]) hx hb dX11_bound_9 rfl hl (by decide) rfl (fun ls hl => ?_)
    refine lv_aload_n hx hb dX11_bound_10 rfl (lv_at hl 2 rfl) ?_
    obtain ⟨hk7, hf⟩ := chk_some hf
    obtain ⟨b8, hb8, hf⟩ := bnd_some hf
    refine xr_get (q := (RX11, TX11, 12)) B hX 10 hk7 rfl (by decide) (by decide) (v := .ref b8) (x_Vr (c := 8) (j := 10) rfl (by decide) hb8) q830 (fun _ h => h) dX11_bound_11 ?_
    refine lv_iload_n hx hb dX11_bound_14 rfl (lv_at hl 0 rfl) ?_
    obtain ⟨hk9, hf⟩ := chk_some hf
    obtain ⟨v10, ev10, hiv10, hf⟩ := ald_some hf
    refine xr_iald B hX hk9 hiv10 ev10 dX11_bound_15 ?_
    refine lv_iconst (v := (-1)) hx hb dX11_bound_16 icm1 ?_
    refine lv_icmp_ne (tgt := 29) hx hb dX11_bound_17 (by decide) (fun c11 => ?_) (fun c11 => ?_)
    · have hf := it_neg c11 hf
      refine lv_iload_n hx hb dX11_bound_29 rfl (lv_at hl 3 rfl) ?_
      refine lv_iconst (v := (-1)) hx hb dX11_bound_30 icm1 ?_
      refine lv_icmp_eq (tgt := 50) hx hb dX11_bound_31 (by decide) (fun c12 => ?_) (fun c12 => ?_)
      · have hf := it_pos c12 hf
        refine lv_iload_n hx hb dX11_bound_50 rfl (lv_at hl 0 rfl) ?_
        cases hf
        exact hret _ rfl _ _ _ _ rfl hX dX11_bound_51
      · have hf := it_neg c12 hf
        refine lv_aload_n hx hb dX11_bound_34 rfl (lv_at hl 2 rfl) ?_
        obtain ⟨b13, hb13, hf⟩ := bnd_some hf
        refine xr_get (q := (RX11, TX11, 12)) B hX 10 hk7 rfl (by decide) (by decide) (v := .ref b13) (x_Vr (c := 8) (j := 10) rfl (by decide) hb13) q830 (fun _ h => h) dX11_bound_35 ?_
        refine lv_iload_n hx hb dX11_bound_38 rfl (lv_at hl 0 rfl) ?_
        obtain ⟨hk14, hf⟩ := chk_some hf
        obtain ⟨v15, ev15, hiv15, hf⟩ := ald_some hf
        refine xr_iald B hX hk14 hiv15 ev15 dX11_bound_39 ?_
        refine lv_iload_n hx hb dX11_bound_40 rfl (lv_at hl 3 rfl) ?_
        refine lv_icmp_eq (tgt := 50) hx hb dX11_bound_41 (by decide) (fun c16 => ?_) (fun c16 => ?_)
        · have hf := it_pos c16 hf
          refine lv_iload_n hx hb dX11_bound_50 rfl (lv_at hl 0 rfl) ?_
          cases hf
          exact hret _ rfl _ _ _ _ rfl hX dX11_bound_51
        · have hf := it_neg c16 hf
          refine lv_aload_n hx hb dX11_bound_44 rfl (lv_at hl 2 rfl) ?_
          refine lv_iconst (v := nI 3) hx hb dX11_bound_45 ic3 ?_
          refine lv_iload_n hx hb dX11_bound_46 rfl (lv_at hl 1 rfl) ?_
          obtain ⟨S17, hcS17, hf⟩ := bnd_some hf
          refine xr_callVC (rest := []) (q := (RX11, TX11, 12)) B hX (c_X11_also l hfl D S4 o (nI 3) x2 hcS17) hk7 rfl (by decide) q865 q867 (Or.inl qs11) q125 q868 hd_X11_also ⟨Nat.le_of_ble_eq_true rfl, Nat.le_of_ble_eq_true rfl⟩ rfl hl.1 rfl (Nat.le_of_ble_eq_true rfl) dX11_bound_47 (fun H locs hX => ?_)
          refine lv_iload_n hx hb dX11_bound_50 rfl (lv_at hl 0 rfl) ?_
          cases hf
          exact hret _ rfl _ _ _ _ rfl hX dX11_bound_51
    · have hf := it_pos c11 hf
      refine lv_aload_n hx hb dX11_bound_20 rfl (lv_at hl 2 rfl) ?_
      refine lv_iconst (v := nI 2) hx hb dX11_bound_21 ic2 ?_
      refine lv_iload_n hx hb dX11_bound_22 rfl (lv_at hl 1 rfl) ?_
      obtain ⟨S18, hcS18, hf⟩ := bnd_some hf
      refine xr_callVC (rest := []) (q := (RX11, TX11, 12)) B hX (c_X11_also l hfl D S4 o (nI 2) x2 hcS18) hk7 rfl (by decide) q865 q867 (Or.inl qs11) q125 q868 hd_X11_also ⟨Nat.le_of_ble_eq_true rfl, Nat.le_of_ble_eq_true rfl⟩ rfl hl.1 rfl (Nat.le_of_ble_eq_true rfl) dX11_bound_23 (fun H locs hX => ?_)
      refine lv_goto (tgt := 50) hx hb dX11_bound_26 (by decide) ?_
      refine lv_iload_n hx hb dX11_bound_50 rfl (lv_at hl 0 rfl) ?_
      cases hf
      exact hret _ rfl _ _ _ _ rfl hX dX11_bound_51
def f_X11_kind_L2 (o : Nat) (x1 : Int32) (S2 : XS) : Option ((Int32 × XS) ⊕ ((Int32 × XS) ⊕ (XS))) :=
  (if nI 3 ≤ x1 then some (.inr (.inr S2)) else bnd (xs S2 3) fun b4 => chk (xk S2 b4 = 59) <| ald (xn S2 b4) (xr S2 59 b4) x1 fun q6 => bnd q6 fun b7 => chk (xk S2 o = 8) <| bnd (f_X11_takes S2 o b7) <| u2 fun r8 S9 => (if r8 = 0 then bd (x1 + nI 1) fun x12 => some (.inl (x12, S9)) else some (.inr (.inl (x1, S9)))))
def f_X11_kind (S : XS) (o : Nat) : Option ((Nat ⊕ Int32) × XS) :=
  bnd (wO (fun t : Int32 × XS => f_X11_kind_L2 o t.1 t.2) fu (nI 0, S)) (Sum.elim (u2 fun x15 S16 => some (.inr x15, S16)) (fun S17 => chk (xk S17 o = 8) <| bnd (f_X11_wrong S17 o) <| u2 fun b18 S19 => some (.inl b18, S19)))
set_option maxHeartbeats 4000000 in
set_option maxRecDepth 100000 in
theorem c_X11_kind (l : Launch) (hfl : l.flags = flags0) (D : XD) (S : XS) (o : Nat) {res : Nat ⊕ Int32} {S' : XS} (hf : f_X11_kind S o = some (res, S')) : x_Bod l yX11_kind cX11_kind 2 (Option.some Jvm.ClassFile.FieldType.int) [] 8 214 D [.ref o] S (x_ri res) S' := by
  refine x_bodXI RX11 rfl (fun p e s m args below meth c Q B hnm hret hthr hthw H locs hX ls hl => ?_)
  have hx := B.1
  have hb := B.2.1
  have hml := B.2.2.1
  have hown := B.2.2.2.1
  have hts := B.2.2.2.2
  have hl : lv_has ls 2 [(0, .ref o)] := hl
  unfold f_X11_kind at hf
  refine lv_iconst (v := nI 0) hx hb dX11_kind_0 ic0 ?_
  refine lv_istore_n (lv' := [(1, .int (nI 0)), (0, .ref o)]) hx hb dX11_kind_1 rfl hl (by decide) rfl (fun ls hl => ?_)
  obtain ⟨y14, hxy14, hf⟩ := bnd_some hf
  have hy14 : (Sum.elim (fun t : Int32 × XS => ∀ (H : Heap) (locs : List Loc) (ls : Array Slot), x_I D S s H locs t.2 → lv_has ls 2 [(1, .int t.1)] → W p l e (x_R 8 214 S) s m args below meth c H locs (xz t.2 - xz S) (xu t.2 - xu S) Q (F0 m 19 ls [])) (fun t : XS => ∀ (H : Heap) (locs : List Loc) (ls : Array Slot), x_I D S s H locs t → lv_has ls 2 [(0, .ref o)] → W p l e (x_R 8 214 S) s m args below meth c H locs (xz t - xz S) (xu t - xu S) Q (F0 m 27 ls []))) y14 := by
    rcases y14 with ⟨x15, S16⟩ | S17
    · have hf := el_l hf
      have hf := u2_at hf
      intro H locs ls hX hl
      refine lv_iload_n hx hb dX11_kind_19 rfl (lv_at hl 0 rfl) ?_
      cases hf
      exact hret _ rfl _ _ _ _ rfl hX dX11_kind_20
    · have hf := el_r hf
      intro H locs ls hX hl
      refine lv_aload_n hx hb dX11_kind_27 rfl (lv_at hl 0 rfl) ?_
      obtain ⟨hk20, hf⟩ := chk_some hf
      obtain ⟨⟨b18, S19⟩, hcb18, hf⟩ := bnd_some hf
      have hf := u2_at hf
      refine xr_callVC (rest := []) (q := (RX11, TX11, 12)) B hX (c_X11_wrong l hfl D S17 o hcb18) hk20 rfl (by decide) q969 q971 (Or.inl qs16) q125 q972 hd_X11_wrong ⟨Nat.le_of_ble_eq_true rfl, Nat.le_of_ble_eq_true rfl⟩ rfl hl.1 rfl (Nat.le_of_ble_eq_true rfl) dX11_kind_28 (fun H locs hX => ?_)
      cases hf
      exact hthr _ rfl _ _ _ _ _ hX dX11_kind_31
  refine lp_W (step := (fun t : Int32 × XS => f_X11_kind_L2 o t.1 t.2)) (fun t : Int32 × XS => ∀ (H : Heap) (locs : List Loc) (ls : Array Slot), x_I D S s H locs t.2 → lv_has ls 2 [(0, .ref o), (1, .int t.1)] → W p l e (x_R 8 214 S) s m args below meth c H locs (xz t.2 - xz S) (xu t.2 - xu S) Q (F0 m 2 ls [])) (Sum.elim (fun t : Int32 × XS => ∀ (H : Heap) (locs : List Loc) (ls : Array Slot), x_I D S s H locs t.2 → lv_has ls 2 [(1, .int t.1)] → W p l e (x_R 8 214 S) s m args below meth c H locs (xz t.2 - xz S) (xu t.2 - xu S) Q (F0 m 19 ls [])) (fun t : XS => ∀ (H : Heap) (locs : List Loc) (ls : Array Slot), x_I D S s H locs t → lv_has ls 2 [(0, .ref o)] → W p l e (x_R 8 214 S) s m args below meth c H locs (xz t - xz S) (xu t - xu S) Q (F0 m 27 ls []))) ?_ fu (nI 0, S) y14 hxy14 hy14 _ _ _ hX (lv_sub hl [1, 0] rfl)
  clear hf hxy14 hy14
  rintro ⟨x1, S2⟩ oo (hf : f_X11_kind_L2 o x1 S2 = some oo) hk
  intro H locs ls hX hl
  unfold f_X11_kind_L2 at hf
  refine lv_iload_n hx hb dX11_kind_2 rfl (lv_at hl 1 rfl) ?_
  refine lv_iconst (v := nI 3) hx hb dX11_kind_3 ic3 ?_
  refine lv_icmp_ge (tgt := 27) hx hb dX11_kind_4 (by decide) (fun c3 => ?_) (fun c3 => ?_)
  · have hf := it_pos c3 hf
    cases hf
    exact hk _ _ _ hX (lv_sub hl [0] rfl)
  · have hf := it_neg c3 hf
    refine lv_aload_n hx hb dX11_kind_7 rfl (lv_at hl 0 rfl) ?_
    obtain ⟨b4, hb4, hf⟩ := bnd_some hf
    refine xr_getsN B hX (v := .ref b4) (x_statR hX 3 rfl hb4) nq1064 dX11_kind_8 ?_
    refine lv_iload_n hx hb dX11_kind_11 rfl (lv_at hl 1 rfl) ?_
    obtain ⟨hk5, hf⟩ := chk_some hf
    obtain ⟨q6, eq6, hiq6, hf⟩ := ald_some hf
    obtain ⟨b7, hb7, hf⟩ := bnd_some hf
    rw [hb7] at eq6
    refine xr_aald B hX hk5 rfl (by decide) rfl hiq6 eq6 dX11_kind_12 ?_
    refine W.eq (g2 := F0 m 13 ls [.ref b7, .ref o]) rfl ?_
    obtain ⟨hk10, hf⟩ := chk_some hf
    obtain ⟨⟨r8, S9⟩, hcr8, hf⟩ := bnd_some hf
    have hf := u2_at hf
    refine xr_callVC (rest := []) (q := (RX11, TX11, 12)) B hX (c_X11_takes l D S2 o b7 hcr8) hk10 rfl (by decide) q937 q939 (Or.inl qs13) q125 q940 hd_X11_takes ⟨Nat.le_of_ble_eq_true rfl, Nat.le_of_ble_eq_true rfl⟩ rfl hl.1 rfl (Nat.le_of_ble_eq_true rfl) dX11_kind_13 (fun H locs hX => ?_)
    refine lv_if_eq (tgt := 21) hx hb dX11_kind_16 (by decide) (fun c11 => ?_) (fun c11 => ?_)
    · have hf := it_pos c11 hf
      obtain ⟨x12, ex12, hf⟩ := bd_some hf
      refine lv_iinc (v := x12) (lv' := [(1, .int x12), (0, .ref o)]) hx hb dX11_kind_21 hl (k := 1) rfl (by rw [ex12]; first | done | rfl) (by decide) rfl (fun ls hl => ?_)
      refine lv_goto (tgt := 2) hx hb dX11_kind_24 (by decide) ?_
      cases hf
      exact hk _ _ _ hX (lv_sub hl [1, 0] rfl)
    · have hf := it_neg c11 hf
      cases hf
      exact hk _ _ _ hX (lv_sub hl [1] rfl)
def f_X11_number (S : XS) (o : Nat) : Option ((Nat ⊕ Int32) × XS) :=
  chk (xk S o = 8) <| bnd (xr S 808 o 0) fun b2 => bnd (xs S 13) fun b3 => (if (some b2 : Option Nat) = some b3 then bd (xi S 805 o 0) fun x5 => bnd (f_X11_step S o) fun S6 => some (.inr x5, S6) else bnd (f_X11_wrong S o) <| u2 fun b7 S8 => some (.inl b7, S8))
set_option maxHeartbeats 4000000 in
set_option maxRecDepth 100000 in
theorem c_X11_number (l : Launch) (hfl : l.flags = flags0) (D : XD) (S : XS) (o : Nat) {res : Nat ⊕ Int32} {S' : XS} (hf : f_X11_number S o = some (res, S')) : x_Bod l yX11_number cX11_number 2 (Option.some Jvm.ClassFile.FieldType.int) [] 7 193 D [.ref o] S (x_ri res) S' := by
  refine x_bodXI RX11 rfl (fun p e s m args below meth c Q B hnm hret hthr hthw H locs hX ls hl => ?_)
  have hx := B.1
  have hb := B.2.1
  have hml := B.2.2.1
  have hown := B.2.2.2.1
  have hts := B.2.2.2.2
  have hl : lv_has ls 2 [(0, .ref o)] := hl
  unfold f_X11_number at hf
  refine lv_aload_n hx hb dX11_number_0 rfl (lv_at hl 0 rfl) ?_
  obtain ⟨hk1, hf⟩ := chk_some hf
  obtain ⟨b2, hb2, hf⟩ := bnd_some hf
  refine xr_get (q := (RX11, TX11, 12)) B hX 8 hk1 rfl (by decide) (by decide) (v := .ref b2) (x_Vr (c := 8) (j := 8) rfl (by decide) hb2) q828 (fun _ h => h) dX11_number_1 ?_
  obtain ⟨b3, hb3, hf⟩ := bnd_some hf
  refine xr_gets B hX (v := .ref b3) (x_statR hX 13 rfl hb3) q817 dX11_number_4 ?_
  refine lv_acmp_eq (rx := some b2) (ry := some b3) (tgt := 15) hx hb dX11_number_7 (by decide) (fun c4 => ?_) (fun c4 => ?_)
  · have hf := it_pos c4 hf
    refine lv_aload_n hx hb dX11_number_15 rfl (lv_at hl 0 rfl) ?_
    refine xr_get (q := (RX11, TX11, 12)) B hX 5 hk1 rfl (by decide) (by decide) (x_Vi rfl (by decide)) q824 (fun _ h => h) dX11_number_16 ?_
    refine lv_topi (fun x5 ex5 => ?_)
    have hf := bd_at ex5 hf
    refine lv_istore_n (lv' := [(1, .int x5), (0, .ref o)]) hx hb dX11_number_19 rfl hl (by decide) rfl (fun ls hl => ?_)
    refine lv_aload_n hx hb dX11_number_20 rfl (lv_at hl 1 rfl) ?_
    obtain ⟨S6, hcS6, hf⟩ := bnd_some hf
    refine xr_callVC (rest := []) (q := (RX11, TX11, 12)) B hX (c_X11_step l D S o hcS6) hk1 rfl (by decide) q627 q629 (Or.inl qs8) q125 q630 hd_X11_step ⟨Nat.le_of_ble_eq_true rfl, Nat.le_of_ble_eq_true rfl⟩ rfl hl.1 rfl (Nat.le_of_ble_eq_true rfl) dX11_number_21 (fun H locs hX => ?_)
    refine lv_iload_n hx hb dX11_number_24 rfl (lv_at hl 0 rfl) ?_
    cases hf
    exact hret _ rfl _ _ _ _ rfl hX dX11_number_25
  · have hf := it_neg c4 hf
    refine lv_aload_n hx hb dX11_number_10 rfl (lv_at hl 0 rfl) ?_
    obtain ⟨⟨b7, S8⟩, hcb7, hf⟩ := bnd_some hf
    have hf := u2_at hf
    refine xr_callVC (rest := []) (q := (RX11, TX11, 12)) B hX (c_X11_wrong l hfl D S o hcb7) hk1 rfl (by decide) q969 q971 (Or.inl qs16) q125 q972 hd_X11_wrong ⟨Nat.le_of_ble_eq_true rfl, Nat.le_of_ble_eq_true rfl⟩ rfl hl.1 rfl (Nat.le_of_ble_eq_true rfl) dX11_number_11 (fun H locs hX => ?_)
    cases hf
    exact hthr _ rfl _ _ _ _ _ hX dX11_number_14
def x_R_part (l : Launch) (D : XD) (F Lo : Nat) (rec : XS → Nat → Option ((Nat ⊕ Nat) × XS)) : Prop := ∀ S o res S', rec S o = some (res, S') → x_Bod l yX11_part cX11_part 6 (Option.some (Jvm.ClassFile.FieldType.object "VillageStories$Part")) [] F Lo D [.ref o] S (x_ra res) S'
def d_hasNumber (S : XS) (o : Nat) : Option Int32 :=
  if xk S o = 23 then f_X13_hasNumber S o else if xk S o = 24 then f_X13_hasNumber S o else if xk S o = 25 then f_X13_hasNumber S o else if xk S o = 26 then f_X13_hasNumber S o else none
theorem xr_hasNumber {p : Program} {l : Launch} {e : Env} {s : State} {m : MethodId} {args : Array Value} {below : List Frame} {meth : Method} {c : Code} {H : Heap} {locs : List Loc} {Q : State → Prop} {cc : ByteArray} {pc nL F Lo index : Nat} {ls : Array Slot} {rest st : List Value} {D : XD} {S0 S : XS} {own : String} (B : CallFix p m c cc nL s args lw_all own) (hX : x_I D S0 s H locs S) {o : Nat} {r : Int32} (hf : d_hasNumber S o = some r) (hlink : Cond.methodLink own index yX13_hasNumber ∈ lw_all) (hR : 1 ≤ F ∧ 20 ≤ Lo) (hls : ls.size = nL) (hst : st = [] ++ .ref o :: rest) (hro : (rest.map fun v => v.category).sum ≤ 8) (hdg : decode cc pc = .ok (.invokevirtual index, 3)) (kk : ∀ (H : Heap) (locs : List Loc), x_I D S0 s H locs S → W p l e (x_R F Lo S0) s m args below meth c H locs (xz S - xz S0) (xu S - xu S0) Q (F0 m (pc + 3) ls (.int r :: rest))) : W p l e (x_R F Lo S0) s m args below meth c H locs (xz S - xz S0) (xu S - xu S0) Q (F0 m pc ls st) := by
  unfold d_hasNumber at hf
  by_cases h23 : xk S o = 23
  · have hf := it_pos h23 hf
    exact xr_callVC (rest := rest) (q := ("VillageStories$Often$1", Tk23, 1)) B hX (c_X13_hasNumber l D S o hf) h23 rfl (by decide) hlink q954 (Or.inl q956) q136 q960 hd_X13_hasNumber ⟨by omega, by omega⟩ rfl hls hst hro hdg kk
  have hf := it_neg h23 hf
  by_cases h24 : xk S o = 24
  · have hf := it_pos h24 hf
    exact xr_callVC (rest := rest) (q := ("VillageStories$Often$2", Tk24, 1)) B hX (c_X13_hasNumber l D S o hf) h24 rfl (by decide) hlink q954 (Or.inl q957) q136 q960 hd_X13_hasNumber ⟨by omega, by omega⟩ rfl hls hst hro hdg kk
  have hf := it_neg h24 hf
  by_cases h25 : xk S o = 25
  · have hf := it_pos h25 hf
    exact xr_callVC (rest := rest) (q := ("VillageStories$Often$3", Tk25, 1)) B hX (c_X13_hasNumber l D S o hf) h25 rfl (by decide) hlink q954 (Or.inl q958) q136 q960 hd_X13_hasNumber ⟨by omega, by omega⟩ rfl hls hst hro hdg kk
  have hf := it_neg h25 hf
  by_cases h26 : xk S o = 26
  · have hf := it_pos h26 hf
    exact xr_callVC (rest := rest) (q := ("VillageStories$Often$4", Tk26, 1)) B hX (c_X13_hasNumber l D S o hf) h26 rfl (by decide) hlink q954 (Or.inl q959) q136 q960 hd_X13_hasNumber ⟨by omega, by omega⟩ rfl hls hst hro hdg kk
  have hf := it_neg h26 hf
  cases hf
def f_X11_each_J29_8 (rec : XS → Nat → Option ((Nat ⊕ Nat) × XS)) (o : Nat) (p0 : Nat) (x14 : Int32) (S15 : XS) : Option ((Nat ⊕ Nat) × XS) :=
  chk (xk S15 o = 8) <| bnd (f_X11_var S15 o) <| u2 fun q17 S18 => (sc q17 (fun a19 => some (.inl a19, S18)) fun r20 => chk (xk S18 o = 8) <| bnd (f_X11_kind S18 o) <| u2 fun q22 S23 => (sc q22 (fun a24 => some (.inl a24, S23)) fun r25 => chk (xk S23 o = 8) <| bnd (xr S23 810 o 0) fun b27 => chk (xk S23 b27 = 52) <| ald (xn S23 b27) (xi S23 52 b27) r20 fun v29 => bnd (xr S23 810 o 0) fun b30 => chk (xk S23 b30 = 52) <| chk (xb S23 ≤ b30) <| ast (xn S23 b30) r20 (s_i S23 52 b30 r20.toNatClampNeg r25) fun S33 => chk (xb S33 ≤ o) <| bd (s_i S33 807 o 0 ((xi S33 807 o 0) + nI 1)) fun S35 => bnd (rec S35 o) <| u2 fun q36 S37 => (sc q36 (fun a38 => some (.inl a38, S37)) fun b39 => chk (xk S37 o = 8) <| chk (xb S37 ≤ o) <| bd (s_i S37 807 o 0 ((xi S37 807 o 0) - nI 1)) fun S42 => bnd (xr S42 810 o 0) fun b43 => chk (xk S42 b43 = 52) <| chk (xb S42 ≤ b43) <| ast (xn S42 b43) r20 (s_i S42 52 b43 r20.toNatClampNeg v29) fun S46 => chk (xz S46 < xL S46 ∧ xu S46 + 5 ≤ xU S46) <| bd (xz S46) fun a49 => bd (n_c S46 10 0 5) fun S48 => bnd (f_X15_init S48 a49 p0 x14 r20 r25 b39) fun S52 => some (.inr a49, S52))))
def f_X11_each_J14_3 (rec : XS → Nat → Option ((Nat ⊕ Nat) × XS)) (o : Nat) (p0 : Nat) (S5 : XS) : Option ((Nat ⊕ Nat) × XS) :=
  bnd (d_hasNumber S5 p0) fun r6 => (if r6 = 0 then f_X11_each_J29_8 rec o p0 (nI 0) S5 else chk (xk S5 o = 8) <| bnd (f_X11_number S5 o) <| u2 fun q10 S11 => (sc q10 (fun a12 => some (.inl a12, S11)) fun r13 => f_X11_each_J29_8 rec o p0 r13 S11))
def f_X11_each (rec : XS → Nat → Option ((Nat ⊕ Nat) × XS)) (S : XS) (o : Nat) (p0 : Nat) (p1 : Int32) : Option ((Nat ⊕ Nat) × XS) :=
  chk (xk S o = 8) <| (if (xi S 807 o 0) < nI 4 then f_X11_each_J14_3 rec o p0 S else bnd (f_X11_also S o (nI 5) p1) fun S4 => f_X11_each_J14_3 rec o p0 S4)
set_option maxHeartbeats 4000000 in
set_option maxRecDepth 100000 in
theorem c_X11_each (l : Launch) (hfl : l.flags = flags0) (D : XD) {rF rL : Nat} {rec : XS → Nat → Option ((Nat ⊕ Nat) × XS)} (hro : 20 ≤ rF ∧ 400 ≤ rL) (hrec : x_R_part l D rF rL rec) (S : XS) (o : Nat) (p0 : Nat) (p1 : Int32) {res : Nat ⊕ Nat} {S' : XS} (hf : f_X11_each rec S o p0 p1 = some (res, S')) : x_Bod l yX11_each cX11_each 8 (Option.some (Jvm.ClassFile.FieldType.object "VillageStories$Part")) [] (rF + 1) (rL + 60) D [.ref o, .ref p0, .int p1] S (x_ra res) S' := by
  refine x_bodXA RX11 rfl (Or.inl ⟨_, rfl⟩) (fun p e s m args below meth c Q B hnm hret hthr hthw H locs hX ls hl => ?_)
  have hx := B.1
  have hb := B.2.1
  have hml := B.2.2.1
  have hown := B.2.2.2.1
  have hts := B.2.2.2.2
  have hl : lv_has ls 8 [(0, .ref o), (1, .ref p0), (2, .int p1)] := hl
  unfold f_X11_each at hf
  refine lv_aload_n hx hb dX11_each_0 rfl (lv_at hl 0 rfl) ?_
  obtain ⟨hk1, hf⟩ := chk_some hf
  refine xr_get (q := (RX11, TX11, 12)) B hX 7 hk1 rfl (by decide) (by decide) (x_Vi rfl (by decide)) q827 (fun _ h => h) dX11_each_1 ?_
  refine lv_iconst (v := nI 4) hx hb dX11_each_4 ic4 ?_
  have j3 : ∀ (S5 : XS), f_X11_each_J14_3 rec o p0 S5 = some (res, S') → ∀ (H : Heap) (locs : List Loc) (ls : Array Slot), x_I D S s H locs S5 → lv_has ls 8 [(0, .ref o), (1, .ref p0)] → W p l e (x_R (rF + 1) (rL + 60) S) s m args below meth c H locs (xz S5 - xz S) (xu S5 - xu S) Q (F0 m 14 ls []) := by
    intro S5 hf
    intro H locs ls hX hl
    unfold f_X11_each_J14_3 at hf
    refine lv_aload_n hx hb dX11_each_14 rfl (lv_at hl 1 rfl) ?_
    obtain ⟨r6, hcr6, hf⟩ := bnd_some hf
    refine xr_hasNumber (rest := []) B hX  hcr6 q953 ⟨by omega, by omega⟩ hl.1 rfl (Nat.le_of_ble_eq_true rfl) dX11_each_15 (fun H locs hX => ?_)
    have j8 : ∀ (x14 : Int32) (S15 : XS), f_X11_each_J29_8 rec o p0 x14 S15 = some (res, S') → ∀ (H : Heap) (locs : List Loc) (ls : Array Slot), x_I D S s H locs S15 → lv_has ls 8 [(0, .ref o), (1, .ref p0)] → W p l e (x_R (rF + 1) (rL + 60) S) s m args below meth c H locs (xz S15 - xz S) (xu S15 - xu S) Q (F0 m 29 ls [.int x14]) := by
      intro x14 S15 hf
      intro H locs ls hX hl
      unfold f_X11_each_J29_8 at hf
      refine lv_istore_n (lv' := [(3, .int x14), (0, .ref o), (1, .ref p0)]) hx hb dX11_each_29 rfl hl (by decide) rfl (fun ls hl => ?_)
      refine lv_aload_n hx hb dX11_each_30 rfl (lv_at hl 1 rfl) ?_
      obtain ⟨hk16, hf⟩ := chk_some hf
      obtain ⟨⟨q17, S18⟩, hcq17, hf⟩ := bnd_some hf
      have hf := u2_at hf
      rcases q17 with a19 | r20
      · have hf := sc_l hf
        refine xr_callT (rest := []) (q := (RX11, TX11, 12)) B hX (c_X11_var l hfl D S15 o hcq17) (by decide) (Nat.le_of_ble_eq_true rfl) hk16 rfl (by decide) q973 q975 qs17 q976 hd_X11_var ⟨by omega, by omega⟩ rfl hl.1 rfl (Nat.le_of_ble_eq_true rfl) dX11_each_31 (fun H locs hX => ?_)
        cases hf
        exact hthw _ rfl _ _ _ _ _ hX
      · have hf := sc_r hf
        refine xr_callR (rest := []) (q := (RX11, TX11, 12)) B hX (c_X11_var l hfl D S15 o hcq17) (by decide) (Nat.le_of_ble_eq_true rfl) hk16 rfl (by decide) q973 q975 qs17 q976 hd_X11_var ⟨by omega, by omega⟩ rfl hl.1 rfl (Nat.le_of_ble_eq_true rfl) dX11_each_31 (fun H locs hX => ?_)
        refine lv_istore (lv' := [(4, .int r20), (3, .int x14), (0, .ref o), (1, .ref p0)]) hx hb dX11_each_34 hl (by decide) rfl (fun ls hl => ?_)
        refine lv_aload_n hx hb dX11_each_36 rfl (lv_at hl 2 rfl) ?_
        obtain ⟨hk21, hf⟩ := chk_some hf
        obtain ⟨⟨q22, S23⟩, hcq22, hf⟩ := bnd_some hf
        have hf := u2_at hf
        rcases q22 with a24 | r25
        · have hf := sc_l hf
          refine xr_callT (rest := []) (q := (RX11, TX11, 12)) B hX (c_X11_kind l hfl D S18 o hcq22) (by decide) (Nat.le_of_ble_eq_true rfl) hk21 rfl (by decide) q1060 q1062 qs19 q1063 hd_X11_kind ⟨by omega, by omega⟩ rfl hl.1 rfl (Nat.le_of_ble_eq_true rfl) dX11_each_37 (fun H locs hX => ?_)
          cases hf
          exact hthw _ rfl _ _ _ _ _ hX
        · have hf := sc_r hf
          refine xr_callR (rest := []) (q := (RX11, TX11, 12)) B hX (c_X11_kind l hfl D S18 o hcq22) (by decide) (Nat.le_of_ble_eq_true rfl) hk21 rfl (by decide) q1060 q1062 qs19 q1063 hd_X11_kind ⟨by omega, by omega⟩ rfl hl.1 rfl (Nat.le_of_ble_eq_true rfl) dX11_each_37 (fun H locs hX => ?_)
          refine lv_istore (lv' := [(5, .int r25), (4, .int r20), (3, .int x14), (0, .ref o), (1, .ref p0)]) hx hb dX11_each_40 hl (by decide) rfl (fun ls hl => ?_)
          refine lv_aload_n hx hb dX11_each_42 rfl (lv_at hl 3 rfl) ?_
          obtain ⟨hk26, hf⟩ := chk_some hf
          obtain ⟨b27, hb27, hf⟩ := bnd_some hf
          refine xr_get (q := (RX11, TX11, 12)) B hX 10 hk26 rfl (by decide) (by decide) (v := .ref b27) (x_Vr (c := 8) (j := 10) rfl (by decide) hb27) q830 (fun _ h => h) dX11_each_43 ?_
          refine lv_iload hx hb dX11_each_46 (lv_at hl 1 rfl) ?_
          obtain ⟨hk28, hf⟩ := chk_some hf
          obtain ⟨v29, ev29, hiv29, hf⟩ := ald_some hf
          refine xr_iald B hX hk28 hiv29 ev29 dX11_each_48 ?_
          refine lv_istore (lv' := [(6, .int v29), (5, .int r25), (4, .int r20), (3, .int x14), (0, .ref o), (1, .ref p0)]) hx hb dX11_each_49 hl (by decide) rfl (fun ls hl => ?_)
          refine lv_aload_n hx hb dX11_each_51 rfl (lv_at hl 4 rfl) ?_
          obtain ⟨b30, hb30, hf⟩ := bnd_some hf
          refine xr_get (q := (RX11, TX11, 12)) B hX 10 hk26 rfl (by decide) (by decide) (v := .ref b30) (x_Vr (c := 8) (j := 10) rfl (by decide) hb30) q830 (fun _ h => h) dX11_each_52 ?_
          refine lv_iload hx hb dX11_each_55 (lv_at hl 2 rfl) ?_
          refine lv_iload hx hb dX11_each_57 (lv_at hl 1 rfl) ?_
          obtain ⟨hk31, hf⟩ := chk_some hf
          obtain ⟨hw32, hf⟩ := chk_some hf
          obtain ⟨S33, eS33, hiS33, hf⟩ := ast_some hf
          refine xr_iast B hX hk31 hw32 hiS33 eS33 dX11_each_59 (fun H locs hX => ?_)
          refine w_i eS33 ?_
          have hk26 := ks_i eS33 hk26
          have hk28 := ks_i eS33 hk28
          have hk31 := ks_i eS33 hk31
          have hw32 := kw_i eS33 hw32
          refine lv_aload_n hx hb dX11_each_60 rfl (lv_at hl 4 rfl) ?_
          refine lv_dup hx hb dX11_each_61 rfl ?_
          refine xr_get (q := (RX11, TX11, 12)) B hX 7 hk26 rfl (by decide) (by decide) (x_Vi rfl (by decide)) q827 (fun _ h => h) dX11_each_62 ?_
          refine lv_iconst (v := nI 1) hx hb dX11_each_65 ic1 ?_
          refine lv_iadd hx hb dX11_each_66 ?_
          obtain ⟨hw34, hf⟩ := chk_some hf
          obtain ⟨S35, eS35, hf⟩ := bd_some hf
          refine xr_put (S' := S35) (q := (RX11, TX11, 12)) (v := .int ((xi S33 807 o 0) + nI 1)) (ty0 := tyX11) B hX 7 hk26 rfl (by decide) hw34 (by decide) (by rw [eS35]; exact x_Vup_i (k := 8) (j := 7) rfl (by decide)) tyX11_ok (fun i h1 h2 => nmX11 i (Nat.lt_of_lt_of_le h1 (by decide)) 7 (by decide) h2) rfl rfl rfl q827 (fun _ h => h) dX11_each_67 (fun H locs hX => ?_)
          refine w_i eS35 ?_
          have hk26 := ks_i eS35 hk26
          have hk28 := ks_i eS35 hk28
          have hk31 := ks_i eS35 hk31
          have hw32 := kw_i eS35 hw32
          have hw34 := kw_i eS35 hw34
          refine lv_aload_n hx hb dX11_each_70 rfl (lv_at hl 4 rfl) ?_
          obtain ⟨⟨q36, S37⟩, hcq36, hf⟩ := bnd_some hf
          have hf := u2_at hf
          rcases q36 with a38 | b39
          · have hf := sc_l hf
            refine xr_callT (rest := []) (q := (RX11, TX11, 12)) B hX (hrec _ _ _ _ hcq36) (by decide) (Nat.le_of_ble_eq_true rfl) hk26 rfl (by decide) q861 q863 qs10 q864 hd_X11_part ⟨by omega, by omega⟩ rfl hl.1 rfl (Nat.le_of_ble_eq_true rfl) dX11_each_71 (fun H locs hX => ?_)
            cases hf
            exact hthw _ rfl _ _ _ _ _ hX
          · have hf := sc_r hf
            refine xr_callR (rest := []) (q := (RX11, TX11, 12)) B hX (hrec _ _ _ _ hcq36) (by decide) (Nat.le_of_ble_eq_true rfl) hk26 rfl (by decide) q861 q863 qs10 q864 hd_X11_part ⟨by omega, by omega⟩ rfl hl.1 rfl (Nat.le_of_ble_eq_true rfl) dX11_each_71 (fun H locs hX => ?_)
            refine lv_astore (lv' := [(7, .ref b39), (6, .int v29), (5, .int r25), (4, .int r20), (3, .int x14), (0, .ref o), (1, .ref p0)]) hx hb dX11_each_74 hl (by decide) rfl (fun ls hl => ?_)
            refine lv_aload_n hx hb dX11_each_76 rfl (lv_at hl 5 rfl) ?_
            refine lv_dup hx hb dX11_each_77 rfl ?_
            obtain ⟨hk40, hf⟩ := chk_some hf
            refine xr_get (q := (RX11, TX11, 12)) B hX 7 hk40 rfl (by decide) (by decide) (x_Vi rfl (by decide)) q827 (fun _ h => h) dX11_each_78 ?_
            refine lv_iconst (v := nI 1) hx hb dX11_each_81 ic1 ?_
            refine lv_isub hx hb dX11_each_82 ?_
            obtain ⟨hw41, hf⟩ := chk_some hf
            obtain ⟨S42, eS42, hf⟩ := bd_some hf
            refine xr_put (S' := S42) (q := (RX11, TX11, 12)) (v := .int ((xi S37 807 o 0) - nI 1)) (ty0 := tyX11) B hX 7 hk40 rfl (by decide) hw41 (by decide) (by rw [eS42]; exact x_Vup_i (k := 8) (j := 7) rfl (by decide)) tyX11_ok (fun i h1 h2 => nmX11 i (Nat.lt_of_lt_of_le h1 (by decide)) 7 (by decide) h2) rfl rfl rfl q827 (fun _ h => h) dX11_each_83 (fun H locs hX => ?_)
            refine w_i eS42 ?_
            have hk40 := ks_i eS42 hk40
            have hw41 := kw_i eS42 hw41
            refine lv_aload_n hx hb dX11_each_86 rfl (lv_at hl 5 rfl) ?_
            obtain ⟨b43, hb43, hf⟩ := bnd_some hf
            refine xr_get (q := (RX11, TX11, 12)) B hX 10 hk40 rfl (by decide) (by decide) (v := .ref b43) (x_Vr (c := 8) (j := 10) rfl (by decide) hb43) q830 (fun _ h => h) dX11_each_87 ?_
            refine lv_iload hx hb dX11_each_90 (lv_at hl 3 rfl) ?_
            refine lv_iload hx hb dX11_each_92 (lv_at hl 1 rfl) ?_
            obtain ⟨hk44, hf⟩ := chk_some hf
            obtain ⟨hw45, hf⟩ := chk_some hf
            obtain ⟨S46, eS46, hiS46, hf⟩ := ast_some hf
            refine xr_iast B hX hk44 hw45 hiS46 eS46 dX11_each_94 (fun H locs hX => ?_)
            refine w_i eS46 ?_
            have hk40 := ks_i eS46 hk40
            have hw41 := kw_i eS46 hw41
            have hk44 := ks_i eS46 hk44
            have hw45 := kw_i eS46 hw45
            obtain ⟨hr47, hf⟩ := chk_some hf
            obtain ⟨a49, ea49, hf⟩ := bd_some hf
            obtain ⟨S48, eS48, hf⟩ := bd_some hf
            have hk40 := ks_n hX eS48 (by decide) hk40
            have hw41 := kw_n eS48 hw41
            have hk44 := ks_n hX eS48 (by decide) hk44
            have hw45 := kw_n eS48 hw45
            have hk50 := ks_new eS48 ea49
            have hw51 := kw_new hX eS48 ea49
            refine xr_new (q := (RX15, TX15, 5)) (N := 5) (ty0 := tyX15) B hX 10 rfl (by decide) tyX15_ok xd_10 q1066 q1067 q139 hr47 eS48 dX11_each_95 (fun H hX => ?_)
            refine W.eq (g2 := F0 m 98 ls [.ref a49]) (by rw [ea49]; first | done | rfl) ?_
            refine lv_dup hx hb dX11_each_98 rfl ?_
            refine lv_aload_n hx hb dX11_each_99 rfl (lv_at hl 6 rfl) ?_
            refine lv_iload_n hx hb dX11_each_100 rfl (lv_at hl 4 rfl) ?_
            refine lv_iload hx hb dX11_each_101 (lv_at hl 3 rfl) ?_
            refine lv_iload hx hb dX11_each_103 (lv_at hl 2 rfl) ?_
            refine lv_aload hx hb dX11_each_105 (lv_at hl 0 rfl) ?_
            obtain ⟨S52, hcS52, hf⟩ := bnd_some hf
            refine xr_callIC (rest := [.ref a49]) B hX (c_X15_init l D S48 a49 p0 x14 r20 r25 b39 hcS52) q1068 q1069 q139 q1070 hd_X15_init rfl ⟨by omega, by omega⟩ rfl hl.1 rfl (Nat.le_of_ble_eq_true rfl) dX11_each_107 (fun H locs hX => ?_)
            cases hf
            exact hret _ rfl _ _ _ _ hX dX11_each_110
    refine lv_if_eq (tgt := 28) hx hb dX11_each_18 (by decide) (fun c7 => ?_) (fun c7 => ?_)
    · have hf := it_pos c7 hf
      refine lv_iconst (v := nI 0) hx hb dX11_each_28 ic0 ?_
      exact j8 (nI 0) S5 hf _ _ _ hX (lv_sub hl [0, 1] rfl)
    · have hf := it_neg c7 hf
      refine lv_aload_n hx hb dX11_each_21 rfl (lv_at hl 0 rfl) ?_
      obtain ⟨hk9, hf⟩ := chk_some hf
      obtain ⟨⟨q10, S11⟩, hcq10, hf⟩ := bnd_some hf
      have hf := u2_at hf
      rcases q10 with a12 | r13
      · have hf := sc_l hf
        refine xr_callT (rest := []) (q := (RX11, TX11, 12)) B hX (c_X11_number l hfl D S5 o hcq10) (by decide) (Nat.le_of_ble_eq_true rfl) hk9 rfl (by decide) q965 q967 qs15 q968 hd_X11_number ⟨by omega, by omega⟩ rfl hl.1 rfl (Nat.le_of_ble_eq_true rfl) dX11_each_22 (fun H locs hX => ?_)
        cases hf
        exact hthw _ rfl _ _ _ _ _ hX
      · have hf := sc_r hf
        refine xr_callR (rest := []) (q := (RX11, TX11, 12)) B hX (c_X11_number l hfl D S5 o hcq10) (by decide) (Nat.le_of_ble_eq_true rfl) hk9 rfl (by decide) q965 q967 qs15 q968 hd_X11_number ⟨by omega, by omega⟩ rfl hl.1 rfl (Nat.le_of_ble_eq_true rfl) dX11_each_22 (fun H locs hX => ?_)
        refine lv_goto (tgt := 29) hx hb dX11_each_25 (by decide) ?_
        exact j8 r13 S11 hf _ _ _ hX (lv_sub hl [0, 1] rfl)
  refine lv_icmp_lt (tgt := 14) hx hb dX11_each_5 (by decide) (fun c2 => ?_) (fun c2 => ?_)
  · have hf := it_pos c2 hf
    exact j3 S hf _ _ _ hX (lv_sub hl [0, 1] rfl)
  · have hf := it_neg c2 hf
    refine lv_aload_n hx hb dX11_each_8 rfl (lv_at hl 0 rfl) ?_
    refine lv_iconst (v := nI 5) hx hb dX11_each_9 ic5 ?_
    refine lv_iload_n hx hb dX11_each_10 rfl (lv_at hl 2 rfl) ?_
    obtain ⟨S4, hcS4, hf⟩ := bnd_some hf
    refine xr_callVC (rest := []) (q := (RX11, TX11, 12)) B hX (c_X11_also l hfl D S o (nI 5) p1 hcS4) hk1 rfl (by decide) q865 q867 (Or.inl qs11) q125 q868 hd_X11_also ⟨by omega, by omega⟩ rfl hl.1 rfl (Nat.le_of_ble_eq_true rfl) dX11_each_11 (fun H locs hX => ?_)
    exact j3 S4 hf _ _ _ hX (lv_sub hl [0, 1] rfl)
def f_X11_leads (S : XS) (o : Nat) (p0 : Int32) (p1 : Int32) : Option (Int32 × XS) :=
  chk (xk S o = 8) <| bnd (xr S 802 o 0) fun b2 => chk (xk S b2 = 19) <| bnd (f_J2_get S b2 p0) fun b3 => chk (xk S b3 = 5) <| bnd (f_X8_isWithin S b3) fun r6 => (if r6 = 0 then bnd (f_X11_also S o (nI 3) p1) fun S8 => some ((-1), S8) else some ((xi S 500 b3 0), S))
set_option maxHeartbeats 4000000 in
set_option maxRecDepth 100000 in
theorem c_X11_leads (l : Launch) (hfl : l.flags = flags0) (D : XD) (S : XS) (o : Nat) (p0 : Int32) (p1 : Int32) {r : Int32} {S' : XS} (hf : f_X11_leads S o p0 p1 = some (r, S')) : x_Met l yX11_leads cX11_leads 4 (Option.some Jvm.ClassFile.FieldType.int) 6 106 D [.ref o, .int p0, .int p1] S (some (.int r)) S' := by
  refine x_metI RX11 (by decide) rfl (Nat.le_of_ble_eq_true rfl) (fun p e s m args below meth c Q B hnm hret H locs hX ls hl => ?_)
  have hx := B.1
  have hb := B.2.1
  have hml := B.2.2.1
  have hown := B.2.2.2.1
  have hts := B.2.2.2.2
  have hl : lv_has ls 4 [(0, .ref o), (1, .int p0), (2, .int p1)] := hl
  unfold f_X11_leads at hf
  refine lv_aload_n hx hb dX11_leads_0 rfl (lv_at hl 0 rfl) ?_
  obtain ⟨hk1, hf⟩ := chk_some hf
  obtain ⟨b2, hb2, hf⟩ := bnd_some hf
  refine xr_get (q := (RX11, TX11, 12)) B hX 2 hk1 rfl (by decide) (by decide) (v := .ref b2) (x_Vr (c := 8) (j := 2) rfl (by decide) hb2) q821 (fun _ h => h) dX11_leads_1 ?_
  refine lv_iload_n hx hb dX11_leads_4 rfl (lv_at hl 1 rfl) ?_
  obtain ⟨hk4, hf⟩ := chk_some hf
  obtain ⟨b3, hcb3, hf⟩ := bnd_some hf
  refine xr_callVC (rest := []) (q := (RJ2, TJ2, 3)) B hX (c_J2_get l D S b2 p0 hcb3) hk4 rfl (by decide) q1153 q524 (Or.inl q525) q108 q526 hd_J2_get ⟨Nat.le_of_ble_eq_true rfl, Nat.le_of_ble_eq_true rfl⟩ rfl hl.1 rfl (Nat.le_of_ble_eq_true rfl) dX11_leads_5 (fun H locs hX => ?_)
  obtain ⟨hk5, hf⟩ := chk_some hf
  refine xr_castY (q := (RX8, TX8, 2)) B hX hk5 rfl (by decide) q1154 (Or.inr ⟨rfl, by decide⟩) dX11_leads_8 ?_
  refine lv_astore_n (lv' := [(3, .ref b3), (0, .ref o), (1, .int p0), (2, .int p1)]) hx hb dX11_leads_11 rfl hl (by decide) rfl (fun ls hl => ?_)
  refine lv_aload_n hx hb dX11_leads_12 rfl (lv_at hl 0 rfl) ?_
  obtain ⟨r6, hcr6, hf⟩ := bnd_some hf
  refine xr_callVC (rest := []) (q := (RX8, TX8, 2)) B hX (c_X8_isWithin l D S b3 hcr6) hk5 rfl (by decide) q1155 q1156 (Or.inl q1157) q114 q1158 hd_X8_isWithin ⟨Nat.le_of_ble_eq_true rfl, Nat.le_of_ble_eq_true rfl⟩ rfl hl.1 rfl (Nat.le_of_ble_eq_true rfl) dX11_leads_13 (fun H locs hX => ?_)
  refine lv_if_eq (tgt := 24) hx hb dX11_leads_16 (by decide) (fun c7 => ?_) (fun c7 => ?_)
  · have hf := it_pos c7 hf
    refine lv_aload_n hx hb dX11_leads_24 rfl (lv_at hl 1 rfl) ?_
    refine lv_iconst (v := nI 3) hx hb dX11_leads_25 ic3 ?_
    refine lv_iload_n hx hb dX11_leads_26 rfl (lv_at hl 3 rfl) ?_
    obtain ⟨S8, hcS8, hf⟩ := bnd_some hf
    refine xr_callVC (rest := []) (q := (RX11, TX11, 12)) B hX (c_X11_also l hfl D S o (nI 3) p1 hcS8) hk1 rfl (by decide) q865 q867 (Or.inl qs11) q125 q868 hd_X11_also ⟨Nat.le_of_ble_eq_true rfl, Nat.le_of_ble_eq_true rfl⟩ rfl hl.1 rfl (Nat.le_of_ble_eq_true rfl) dX11_leads_27 (fun H locs hX => ?_)
    refine lv_iconst (v := (-1)) hx hb dX11_leads_30 icm1 ?_
    cases hf
    exact hret _ _ _ _ rfl hX dX11_leads_31
  · have hf := it_neg c7 hf
    refine lv_aload_n hx hb dX11_leads_19 rfl (lv_at hl 0 rfl) ?_
    refine xr_getN (q := (RX8, TX8, 2)) B hX 0 hk5 rfl (by decide) (by decide) (x_Vi rfl (by decide)) nq423 (fun _ h => h) dX11_leads_20 ?_
    cases hf
    exact hret _ _ _ _ rfl hX dX11_leads_23
def f_X11_relation (S : XS) (o : Nat) : Option ((Nat ⊕ Int32) × XS) :=
  bnd (xs S 51) fun b1 => chk (xk S o = 8) <| bnd (xr S 802 o 0) fun b3 => chk (xk S b3 = 19) <| bnd (f_J2_size S b3) fun r4 => bnd (f_X11_letter S o b1 r4) fun r6 => (if r6 = (-1) then bnd (f_X11_wrong S o) <| u2 fun b9 S10 => some (.inl b9, S10) else bnd (f_X11_step S o) fun S8 => some (.inr r6, S8))
set_option maxHeartbeats 4000000 in
set_option maxRecDepth 100000 in
theorem c_X11_relation (l : Launch) (hfl : l.flags = flags0) (D : XD) (S : XS) (o : Nat) {res : Nat ⊕ Int32} {S' : XS} (hf : f_X11_relation S o = some (res, S')) : x_Bod l yX11_relation cX11_relation 2 (Option.some Jvm.ClassFile.FieldType.int) [] 7 193 D [.ref o] S (x_ri res) S' := by
  refine x_bodXI RX11 rfl (fun p e s m args below meth c Q B hnm hret hthr hthw H locs hX ls hl => ?_)
  have hx := B.1
  have hb := B.2.1
  have hml := B.2.2.1
  have hown := B.2.2.2.1
  have hts := B.2.2.2.2
  have hl : lv_has ls 2 [(0, .ref o)] := hl
  unfold f_X11_relation at hf
  refine lv_aload_n hx hb dX11_relation_0 rfl (lv_at hl 0 rfl) ?_
  obtain ⟨b1, hb1, hf⟩ := bnd_some hf
  refine xr_ldcS B hX 1 rfl hb1 dX11_relation_1 ?_
  refine lv_aload_n hx hb dX11_relation_3 rfl (lv_at hl 0 rfl) ?_
  obtain ⟨hk2, hf⟩ := chk_some hf
  obtain ⟨b3, hb3, hf⟩ := bnd_some hf
  refine xr_get (q := (RX11, TX11, 12)) B hX 2 hk2 rfl (by decide) (by decide) (v := .ref b3) (x_Vr (c := 8) (j := 2) rfl (by decide) hb3) q821 (fun _ h => h) dX11_relation_4 ?_
  obtain ⟨hk5, hf⟩ := chk_some hf
  obtain ⟨r4, hcr4, hf⟩ := bnd_some hf
  refine xr_callVC (rest := [.ref b1, .ref o]) (q := (RJ2, TJ2, 3)) B hX (c_J2_size l D S b3 hcr4) hk5 rfl (by decide) q1148 q410 (Or.inl q411) q108 q412 hd_J2_size ⟨Nat.le_of_ble_eq_true rfl, Nat.le_of_ble_eq_true rfl⟩ rfl hl.1 rfl (Nat.le_of_ble_eq_true rfl) dX11_relation_7 (fun H locs hX => ?_)
  obtain ⟨r6, hcr6, hf⟩ := bnd_some hf
  refine xr_callVC (rest := []) (q := (RX11, TX11, 12)) B hX (c_X11_letter l D S o b1 r4 hcr6) hk2 rfl (by decide) q978 q980 (Or.inl qs18) q125 q981 hd_X11_letter ⟨Nat.le_of_ble_eq_true rfl, Nat.le_of_ble_eq_true rfl⟩ rfl hl.1 rfl (Nat.le_of_ble_eq_true rfl) dX11_relation_10 (fun H locs hX => ?_)
  refine lv_istore_n (lv' := [(1, .int r6), (0, .ref o)]) hx hb dX11_relation_13 rfl hl (by decide) rfl (fun ls hl => ?_)
  refine lv_iload_n hx hb dX11_relation_14 rfl (lv_at hl 0 rfl) ?_
  refine lv_iconst (v := (-1)) hx hb dX11_relation_15 icm1 ?_
  refine lv_icmp_ne (tgt := 24) hx hb dX11_relation_16 (by decide) (fun c7 => ?_) (fun c7 => ?_)
  · have hf := it_neg c7 hf
    refine lv_aload_n hx hb dX11_relation_24 rfl (lv_at hl 1 rfl) ?_
    obtain ⟨S8, hcS8, hf⟩ := bnd_some hf
    refine xr_callVC (rest := []) (q := (RX11, TX11, 12)) B hX (c_X11_step l D S o hcS8) hk2 rfl (by decide) q627 q629 (Or.inl qs8) q125 q630 hd_X11_step ⟨Nat.le_of_ble_eq_true rfl, Nat.le_of_ble_eq_true rfl⟩ rfl hl.1 rfl (Nat.le_of_ble_eq_true rfl) dX11_relation_25 (fun H locs hX => ?_)
    refine lv_iload_n hx hb dX11_relation_28 rfl (lv_at hl 0 rfl) ?_
    cases hf
    exact hret _ rfl _ _ _ _ rfl hX dX11_relation_29
  · have hf := it_pos c7 hf
    refine lv_aload_n hx hb dX11_relation_19 rfl (lv_at hl 1 rfl) ?_
    obtain ⟨⟨b9, S10⟩, hcb9, hf⟩ := bnd_some hf
    have hf := u2_at hf
    refine xr_callVC (rest := []) (q := (RX11, TX11, 12)) B hX (c_X11_wrong l hfl D S o hcb9) hk2 rfl (by decide) q969 q971 (Or.inl qs16) q125 q972 hd_X11_wrong ⟨Nat.le_of_ble_eq_true rfl, Nat.le_of_ble_eq_true rfl⟩ rfl hl.1 rfl (Nat.le_of_ble_eq_true rfl) dX11_relation_20 (fun H locs hX => ?_)
    cases hf
    exact hthr _ rfl _ _ _ _ _ hX dX11_relation_23
