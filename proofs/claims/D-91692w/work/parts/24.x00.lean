set_option maxRecDepth 100000
def f_X4_init_17 (S : XS) (o : Nat) (p0 : Nat) : Option XS :=
  chk (xk S o = 17) <| chk (xb S ≤ o) <| bd (s_r S 1701 o 0 (some p0)) fun S3 => some S3
set_option maxHeartbeats 4000000 in
set_option maxRecDepth 100000 in
theorem c_X4_init_17 (l : Launch) (D : XD) (S : XS) (o : Nat) (p0 : Nat) {S' : XS} (hf : f_X4_init_17 S o p0 = some S') : x_Met l yX4_init cX4_init 2 (Option.none : Option Jvm.ClassFile.FieldType) 1 60 D [.ref o, .ref p0] S none S' := by
  refine x_metV RX4 (by decide) rfl (Nat.le_of_ble_eq_true rfl) (fun p e s m args below meth c Q B hnm hret H locs hX ls hl => ?_)
  have hx := B.1
  have hb := B.2.1
  have hml := B.2.2.1
  have hown := B.2.2.2.1
  have hts := B.2.2.2.2
  have hl : lv_has ls 2 [(0, .ref o), (1, .ref p0)] := hl
  unfold f_X4_init_17 at hf
  refine lv_aload_n hx hb dX4_init_0 rfl (lv_at hl 0 rfl) ?_
  refine lv_aload_n hx hb dX4_init_1 rfl (lv_at hl 1 rfl) ?_
  obtain ⟨hk1, hf⟩ := chk_some hf
  obtain ⟨hw2, hf⟩ := chk_some hf
  obtain ⟨S3, eS3, hf⟩ := bd_some hf
  refine xr_putG (S' := S3) (q := (RX5, TX5, 3)) (v := va_rf (some p0)) (ty0 := tyX5) B hnm hX 1 hk1 rfl (by decide) hw2 (by decide) (by rw [eS3]; exact x_Vup_r (k := 17) (j := 1) rfl (by decide)) tyX5_ok (by decide +kernel) rfl rfl rfl rfl q316 (fun _ h => h) dX4_init_2 (fun H locs hX => ?_)
  refine w_r eS3 ?_
  have hk1 := ks_r eS3 hk1
  have hw2 := kw_r eS3 hw2
  refine lv_aload_n hx hb dX4_init_5 rfl (lv_at hl 0 rfl) ?_
  refine W.objInit hx hb hown (hts _ q313) (hts _ q154) (hts _ q155) rfl (by rw [hml]; exact hl.1) rfl dX4_init_6 (Nat.le_of_ble_eq_true rfl) (Nat.le_of_ble_eq_true rfl) ?_
  refine W.eq (g2 := F0 m 9 ls []) rfl ?_
  cases hf
  exact hret _ _ _ _ hX dX4_init_9
def f_X5_init (S : XS) (o : Nat) (p0 : Nat) : Option XS :=
  chk (xk S o = 17) <| chk (xb S ≤ o) <| bd (s_r S 1702 o 0 (some p0)) fun S3 => bnd (f_X4_init_17 S3 o p0) fun S4 => some S4
set_option maxHeartbeats 4000000 in
set_option maxRecDepth 100000 in
theorem c_X5_init (l : Launch) (D : XD) (S : XS) (o : Nat) (p0 : Nat) {S' : XS} (hf : f_X5_init S o p0 = some S') : x_Met l yX5_init cX5_init 2 (Option.none : Option Jvm.ClassFile.FieldType) 2 81 D [.ref o, .ref p0] S none S' := by
  refine x_metV RX5 (by decide) rfl (Nat.le_of_ble_eq_true rfl) (fun p e s m args below meth c Q B hnm hret H locs hX ls hl => ?_)
  have hx := B.1
  have hb := B.2.1
  have hml := B.2.2.1
  have hown := B.2.2.2.1
  have hts := B.2.2.2.2
  have hl : lv_has ls 2 [(0, .ref o), (1, .ref p0)] := hl
  unfold f_X5_init at hf
  refine lv_aload_n hx hb dX5_init_0 rfl (lv_at hl 0 rfl) ?_
  refine lv_aload_n hx hb dX5_init_1 rfl (lv_at hl 1 rfl) ?_
  obtain ⟨hk1, hf⟩ := chk_some hf
  obtain ⟨hw2, hf⟩ := chk_some hf
  obtain ⟨S3, eS3, hf⟩ := bd_some hf
  refine xr_putG (S' := S3) (q := (RX5, TX5, 3)) (v := va_rf (some p0)) (ty0 := tyX5) B hnm hX 2 hk1 rfl (by decide) hw2 (by decide) (by rw [eS3]; exact x_Vup_r (k := 17) (j := 2) rfl (by decide)) tyX5_ok (by decide +kernel) rfl rfl rfl rfl q314 (fun _ h => h) dX5_init_2 (fun H locs hX => ?_)
  refine w_r eS3 ?_
  have hk1 := ks_r eS3 hk1
  have hw2 := kw_r eS3 hw2
  refine lv_aload_n hx hb dX5_init_5 rfl (lv_at hl 0 rfl) ?_
  refine lv_aload_n hx hb dX5_init_6 rfl (lv_at hl 1 rfl) ?_
  obtain ⟨S4, hcS4, hf⟩ := bnd_some hf
  refine xr_callIN (rest := []) B hX (c_X4_init_17 l D S3 o p0 hcS4) nq310 q311 q110 q312 hd_X4_init rfl ⟨Nat.le_of_ble_eq_true rfl, Nat.le_of_ble_eq_true rfl⟩ rfl hl.1 rfl (Nat.le_of_ble_eq_true rfl) dX5_init_7 (fun H locs hX => ?_)
  cases hf
  exact hret _ _ _ _ hX dX5_init_10
def f_X4_init_18 (S : XS) (o : Nat) (p0 : Nat) : Option XS :=
  chk (xk S o = 18) <| chk (xb S ≤ o) <| bd (s_r S 1801 o 0 (some p0)) fun S3 => some S3
set_option maxHeartbeats 4000000 in
set_option maxRecDepth 100000 in
theorem c_X4_init_18 (l : Launch) (D : XD) (S : XS) (o : Nat) (p0 : Nat) {S' : XS} (hf : f_X4_init_18 S o p0 = some S') : x_Met l yX4_init cX4_init 2 (Option.none : Option Jvm.ClassFile.FieldType) 1 60 D [.ref o, .ref p0] S none S' := by
  refine x_metV RX4 (by decide) rfl (Nat.le_of_ble_eq_true rfl) (fun p e s m args below meth c Q B hnm hret H locs hX ls hl => ?_)
  have hx := B.1
  have hb := B.2.1
  have hml := B.2.2.1
  have hown := B.2.2.2.1
  have hts := B.2.2.2.2
  have hl : lv_has ls 2 [(0, .ref o), (1, .ref p0)] := hl
  unfold f_X4_init_18 at hf
  refine lv_aload_n hx hb dX4_init_0 rfl (lv_at hl 0 rfl) ?_
  refine lv_aload_n hx hb dX4_init_1 rfl (lv_at hl 1 rfl) ?_
  obtain ⟨hk1, hf⟩ := chk_some hf
  obtain ⟨hw2, hf⟩ := chk_some hf
  obtain ⟨S3, eS3, hf⟩ := bd_some hf
  refine xr_putG (S' := S3) (q := (RX6, TX6, 3)) (v := va_rf (some p0)) (ty0 := tyX6) B hnm hX 1 hk1 rfl (by decide) hw2 (by decide) (by rw [eS3]; exact x_Vup_r (k := 18) (j := 1) rfl (by decide)) tyX6_ok (by decide +kernel) rfl rfl rfl rfl q316 (fun _ h => h) dX4_init_2 (fun H locs hX => ?_)
  refine w_r eS3 ?_
  have hk1 := ks_r eS3 hk1
  have hw2 := kw_r eS3 hw2
  refine lv_aload_n hx hb dX4_init_5 rfl (lv_at hl 0 rfl) ?_
  refine W.objInit hx hb hown (hts _ q313) (hts _ q154) (hts _ q155) rfl (by rw [hml]; exact hl.1) rfl dX4_init_6 (Nat.le_of_ble_eq_true rfl) (Nat.le_of_ble_eq_true rfl) ?_
  refine W.eq (g2 := F0 m 9 ls []) rfl ?_
  cases hf
  exact hret _ _ _ _ hX dX4_init_9
def f_X6_init (S : XS) (o : Nat) (p0 : Nat) : Option XS :=
  chk (xk S o = 18) <| chk (xb S ≤ o) <| bd (s_r S 1802 o 0 (some p0)) fun S3 => bnd (f_X4_init_18 S3 o p0) fun S4 => some S4
set_option maxHeartbeats 4000000 in
set_option maxRecDepth 100000 in
theorem c_X6_init (l : Launch) (D : XD) (S : XS) (o : Nat) (p0 : Nat) {S' : XS} (hf : f_X6_init S o p0 = some S') : x_Met l yX6_init cX6_init 2 (Option.none : Option Jvm.ClassFile.FieldType) 2 81 D [.ref o, .ref p0] S none S' := by
  refine x_metV RX6 (by decide) rfl (Nat.le_of_ble_eq_true rfl) (fun p e s m args below meth c Q B hnm hret H locs hX ls hl => ?_)
  have hx := B.1
  have hb := B.2.1
  have hml := B.2.2.1
  have hown := B.2.2.2.1
  have hts := B.2.2.2.2
  have hl : lv_has ls 2 [(0, .ref o), (1, .ref p0)] := hl
  unfold f_X6_init at hf
  refine lv_aload_n hx hb dX6_init_0 rfl (lv_at hl 0 rfl) ?_
  refine lv_aload_n hx hb dX6_init_1 rfl (lv_at hl 1 rfl) ?_
  obtain ⟨hk1, hf⟩ := chk_some hf
  obtain ⟨hw2, hf⟩ := chk_some hf
  obtain ⟨S3, eS3, hf⟩ := bd_some hf
  refine xr_putG (S' := S3) (q := (RX6, TX6, 3)) (v := va_rf (some p0)) (ty0 := tyX6) B hnm hX 2 hk1 rfl (by decide) hw2 (by decide) (by rw [eS3]; exact x_Vup_r (k := 18) (j := 2) rfl (by decide)) tyX6_ok (by decide +kernel) rfl rfl rfl rfl q330 (fun _ h => h) dX6_init_2 (fun H locs hX => ?_)
  refine w_r eS3 ?_
  have hk1 := ks_r eS3 hk1
  have hw2 := kw_r eS3 hw2
  refine lv_aload_n hx hb dX6_init_5 rfl (lv_at hl 0 rfl) ?_
  refine lv_aload_n hx hb dX6_init_6 rfl (lv_at hl 1 rfl) ?_
  obtain ⟨S4, hcS4, hf⟩ := bnd_some hf
  refine xr_callIN (rest := []) B hX (c_X4_init_18 l D S3 o p0 hcS4) nq329 q311 q110 q312 hd_X4_init rfl ⟨Nat.le_of_ble_eq_true rfl, Nat.le_of_ble_eq_true rfl⟩ rfl hl.1 rfl (Nat.le_of_ble_eq_true rfl) dX6_init_7 (fun H locs hX => ?_)
  cases hf
  exact hret _ _ _ _ hX dX6_init_10
def f_X0_init (S : XS) (o : Nat) : Option XS :=
  chk (xz S < xL S ∧ xu S + 14 ≤ xU S) <| bd (xz S) fun a3 => bd (n_c S 2 0 14) fun S2 => bnd (f_X1_init S2 a3) fun S6 => chk (xk S6 o = 1) <| chk (xb S6 ≤ o) <| bd (s_r S6 100 o 0 (some a3)) fun S9 => chk (0 ≤ nI 3 ∧ (nI 3).toNatClampNeg ≤ 60000000) <| chk (xz S9 < xL S9 ∧ xu S9 + (nI 3).toNatClampNeg ≤ xU S9) <| bd (xz S9) fun a12 => bd (n_c S9 56 (nI 3).toNatClampNeg (nI 3).toNatClampNeg) fun S11 => bd (s_r S11 101 o 0 (some a12)) fun S15 => chk (xz S15 < xL S15 ∧ xu S15 + 4 ≤ xU S15) <| bd (xz S15) fun a18 => bd (n_c S15 4 0 4) fun S17 => bnd (f_X3_init S17 a18) fun S21 => chk (xk S21 o = 1) <| chk (xb S21 ≤ o) <| bd (s_r S21 102 o 0 (some a18)) fun S24 => chk (xz S24 < xL S24 ∧ xu S24 + 3 ≤ xU S24) <| bd (xz S24) fun a27 => bd (n_c S24 19 0 3) fun S26 => bnd (f_J2_init S26 a27 (nI 4)) fun S30 => chk (xk S30 o = 1) <| chk (xb S30 ≤ o) <| bd (s_r S30 103 o 0 (some a27)) fun S33 => chk (0 ≤ nI 4096 ∧ (nI 4096).toNatClampNeg ≤ 60000000) <| chk (xz S33 < xL S33 ∧ xu S33 + (nI 4096).toNatClampNeg ≤ xU S33) <| bd (xz S33) fun a36 => bd (n_c S33 51 (nI 4096).toNatClampNeg (nI 4096).toNatClampNeg) fun S35 => bd (s_r S35 104 o 0 (some a36)) fun S39 => chk (0 ≤ nI 4096 ∧ (nI 4096).toNatClampNeg ≤ 60000000) <| chk (xz S39 < xL S39 ∧ xu S39 + (nI 4096).toNatClampNeg ≤ xU S39) <| bd (xz S39) fun a42 => bd (n_c S39 51 (nI 4096).toNatClampNeg (nI 4096).toNatClampNeg) fun S41 => bd (s_r S41 105 o 0 (some a42)) fun S45 => chk (0 ≤ nI 3 ∧ (nI 3).toNatClampNeg ≤ 60000000) <| chk (xz S45 < xL S45 ∧ xu S45 + (nI 3).toNatClampNeg ≤ xU S45) <| bd (xz S45) fun a48 => bd (n_c S45 52 (nI 3).toNatClampNeg (nI 3).toNatClampNeg) fun S47 => bd (s_r S47 109 o 0 (some a48)) fun S51 => chk (xz S51 < xL S51 ∧ xu S51 + 3 ≤ xU S51) <| bd (xz S51) fun a54 => bd (n_c S51 17 0 3) fun S53 => bnd (f_X5_init S53 a54 o) fun S57 => chk (xk S57 o = 1) <| chk (xb S57 ≤ o) <| bd (s_r S57 110 o 0 (some a54)) fun S60 => chk (xz S60 < xL S60 ∧ xu S60 + 3 ≤ xU S60) <| bd (xz S60) fun a63 => bd (n_c S60 18 0 3) fun S62 => bnd (f_X6_init S62 a63 o) fun S66 => chk (xk S66 o = 1) <| chk (xb S66 ≤ o) <| bd (s_r S66 111 o 0 (some a63)) fun S69 => chk (xz S69 < xL S69 ∧ xu S69 + 2 ≤ xU S69) <| bd (xz S69) fun a72 => bd (n_c S69 3 0 2) fun S71 => bnd (f_X2_init S71 a72) fun S75 => chk (xk S75 o = 1) <| chk (xb S75 ≤ o) <| bd (s_r S75 112 o 0 (some a72)) fun S78 => chk (0 ≤ nI 16 ∧ (nI 16).toNatClampNeg ≤ 60000000) <| chk (xz S78 < xL S78 ∧ xu S78 + (nI 16).toNatClampNeg ≤ xU S78) <| bd (xz S78) fun a81 => bd (n_c S78 52 (nI 16).toNatClampNeg (nI 16).toNatClampNeg) fun S80 => bd (s_r S80 113 o 0 (some a81)) fun S84 => some S84
set_option maxHeartbeats 4000000 in
set_option maxRecDepth 100000 in
theorem c_X0_init (l : Launch) (D : XD) (S : XS) (o : Nat) {S' : XS} (hf : f_X0_init S o = some S') : x_Met l yX0_init cX0_init 1 (Option.none : Option Jvm.ClassFile.FieldType) 6 161 D [.ref o] S none S' := by
  refine x_metV RX0 (by decide) rfl (Nat.le_of_ble_eq_true rfl) (fun p e s m args below meth c Q B hnm hret H locs hX ls hl => ?_)
  have hx := B.1
  have hb := B.2.1
  have hml := B.2.2.1
  have hown := B.2.2.2.1
  have hts := B.2.2.2.2
  have hl : lv_has ls 1 [(0, .ref o)] := hl
  unfold f_X0_init at hf
  refine lv_aload_n hx hb dX0_init_0 rfl (lv_at hl 0 rfl) ?_
  refine W.objInit hx hb hown (hts _ q153) (hts _ q154) (hts _ q155) rfl (by rw [hml]; exact hl.1) rfl dX0_init_1 (Nat.le_of_ble_eq_true rfl) (Nat.le_of_ble_eq_true rfl) ?_
  refine W.eq (g2 := F0 m 4 ls []) rfl ?_
  refine lv_aload_n hx hb dX0_init_4 rfl (lv_at hl 0 rfl) ?_
  obtain ⟨hr1, hf⟩ := chk_some hf
  obtain ⟨a3, ea3, hf⟩ := bd_some hf
  obtain ⟨S2, eS2, hf⟩ := bd_some hf
  have hk4 := ks_new eS2 ea3
  have hw5 := kw_new hX eS2 ea3
  refine xr_new (q := (RX1, TX1, 14)) (N := 14) (ty0 := tyX1) B hX 2 rfl (by decide) tyX1_ok xd_2 q156 q157 q104 hr1 eS2 dX0_init_5 (fun H hX => ?_)
  refine W.eq (g2 := F0 m 8 ls [.ref a3, .ref o]) (by rw [ea3]; first | done | rfl) ?_
  refine lv_dup hx hb dX0_init_8 rfl ?_
  obtain ⟨S6, hcS6, hf⟩ := bnd_some hf
  refine xr_callIN (rest := [.ref a3, .ref o]) B hX (c_X1_init l D S2 a3 hcS6) nq158 q159 q104 q160 hd_X1_init rfl ⟨Nat.le_of_ble_eq_true rfl, Nat.le_of_ble_eq_true rfl⟩ rfl hl.1 rfl (Nat.le_of_ble_eq_true rfl) dX0_init_9 (fun H locs hX => ?_)
  obtain ⟨hk7, hf⟩ := chk_some hf
  obtain ⟨hw8, hf⟩ := chk_some hf
  obtain ⟨S9, eS9, hf⟩ := bd_some hf
  refine xr_putF (S' := S9) (q := (RX0, TX0, 14)) (v := va_rf (some a3)) (ty0 := tyX0) B hnm hX 0 hk7 rfl (by decide) hw8 (by decide) (by rw [eS9]; exact x_Vup_r (k := 1) (j := 0) rfl (by decide)) tyX0_ok (fun i h1 h2 => nmX0 i (Nat.lt_of_lt_of_le h1 (by decide)) 0 (by decide) h2) rfl rfl rfl rfl q339 (fun _ h => h) dX0_init_12 (fun H locs hX => ?_)
  refine w_r eS9 ?_
  have hk7 := ks_r eS9 hk7
  have hw8 := kw_r eS9 hw8
  refine lv_aload_n hx hb dX0_init_15 rfl (lv_at hl 0 rfl) ?_
  refine lv_iconst (v := nI 3) hx hb dX0_init_16 ic3 ?_
  obtain ⟨h012, hf⟩ := chk_some hf
  obtain ⟨hr10, hf⟩ := chk_some hf
  obtain ⟨a12, ea12, hf⟩ := bd_some hf
  obtain ⟨S11, eS11, hf⟩ := bd_some hf
  have hk7 := ks_n hX eS11 (by decide) hk7
  have hw8 := kw_n eS11 hw8
  have hk13 := ks_new eS11 ea12
  have hw14 := kw_new hX eS11 ea12
  refine xr_anew B hX 56 (by decide) rfl (Int32.not_lt.mpr h012.1) (xn_by4 h012.2) q156 nq275 hr10 eS11 dX0_init_17 (fun H hX => ?_)
  refine W.eq (g2 := F0 m 20 ls [.ref a12, .ref o]) (by rw [ea12]; first | done | rfl) ?_
  obtain ⟨S15, eS15, hf⟩ := bd_some hf
  refine xr_putF (S' := S15) (q := (RX0, TX0, 14)) (v := va_rf (some a12)) (ty0 := tyX0) B hnm hX 1 hk7 rfl (by decide) hw8 (by decide) (by rw [eS15]; exact x_Vup_r (k := 1) (j := 1) rfl (by decide)) tyX0_ok (fun i h1 h2 => nmX0 i (Nat.lt_of_lt_of_le h1 (by decide)) 1 (by decide) h2) rfl rfl rfl rfl q340 (fun _ h => h) dX0_init_20 (fun H locs hX => ?_)
  refine w_r eS15 ?_
  have hk7 := ks_r eS15 hk7
  have hw8 := kw_r eS15 hw8
  have hk13 := ks_r eS15 hk13
  have hw14 := kw_r eS15 hw14
  refine lv_aload_n hx hb dX0_init_23 rfl (lv_at hl 0 rfl) ?_
  obtain ⟨hr16, hf⟩ := chk_some hf
  obtain ⟨a18, ea18, hf⟩ := bd_some hf
  obtain ⟨S17, eS17, hf⟩ := bd_some hf
  have hk7 := ks_n hX eS17 (by decide) hk7
  have hw8 := kw_n eS17 hw8
  have hk13 := ks_n hX eS17 (by decide) hk13
  have hw14 := kw_n eS17 hw14
  have hk19 := ks_new eS17 ea18
  have hw20 := kw_new hX eS17 ea18
  refine xr_new (q := (RX3, TX3, 4)) (N := 4) (ty0 := tyX3) B hX 4 rfl (by decide) tyX3_ok xd_4 q276 q277 q109 hr16 eS17 dX0_init_24 (fun H hX => ?_)
  refine W.eq (g2 := F0 m 27 ls [.ref a18, .ref o]) (by rw [ea18]; first | done | rfl) ?_
  refine lv_dup hx hb dX0_init_27 rfl ?_
  obtain ⟨S21, hcS21, hf⟩ := bnd_some hf
  refine xr_callIN (rest := [.ref a18, .ref o]) B hX (c_X3_init l D S17 a18 hcS21) nq278 q279 q109 q280 hd_X3_init rfl ⟨Nat.le_of_ble_eq_true rfl, Nat.le_of_ble_eq_true rfl⟩ rfl hl.1 rfl (Nat.le_of_ble_eq_true rfl) dX0_init_28 (fun H locs hX => ?_)
  obtain ⟨hk22, hf⟩ := chk_some hf
  obtain ⟨hw23, hf⟩ := chk_some hf
  obtain ⟨S24, eS24, hf⟩ := bd_some hf
  refine xr_putF (S' := S24) (q := (RX0, TX0, 14)) (v := va_rf (some a18)) (ty0 := tyX0) B hnm hX 2 hk22 rfl (by decide) hw23 (by decide) (by rw [eS24]; exact x_Vup_r (k := 1) (j := 2) rfl (by decide)) tyX0_ok (fun i h1 h2 => nmX0 i (Nat.lt_of_lt_of_le h1 (by decide)) 2 (by decide) h2) rfl rfl rfl rfl q341 (fun _ h => h) dX0_init_31 (fun H locs hX => ?_)
  refine w_r eS24 ?_
  have hk22 := ks_r eS24 hk22
  have hw23 := kw_r eS24 hw23
  refine lv_aload_n hx hb dX0_init_34 rfl (lv_at hl 0 rfl) ?_
  obtain ⟨hr25, hf⟩ := chk_some hf
  obtain ⟨a27, ea27, hf⟩ := bd_some hf
  obtain ⟨S26, eS26, hf⟩ := bd_some hf
  have hk22 := ks_n hX eS26 (by decide) hk22
  have hw23 := kw_n eS26 hw23
  have hk28 := ks_new eS26 ea27
  have hw29 := kw_new hX eS26 ea27
  refine xr_new (q := (RJ2, TJ2, 3)) (N := 3) (ty0 := tyJ2) B hX 19 rfl (by decide) tyJ2_ok xd_19 q303 q169 q108 hr25 eS26 dX0_init_35 (fun H hX => ?_)
  refine W.eq (g2 := F0 m 38 ls [.ref a27, .ref o]) (by rw [ea27]; first | done | rfl) ?_
  refine lv_dup hx hb dX0_init_38 rfl ?_
  refine lv_iconst (v := nI 4) hx hb dX0_init_39 ic4 ?_
  obtain ⟨S30, hcS30, hf⟩ := bnd_some hf
  refine xr_callIC (rest := [.ref a27, .ref o]) B hX (c_J2_init l D S26 a27 (nI 4) hcS30) q304 q171 q108 q172 hd_J2_init rfl ⟨Nat.le_of_ble_eq_true rfl, Nat.le_of_ble_eq_true rfl⟩ rfl hl.1 rfl (Nat.le_of_ble_eq_true rfl) dX0_init_40 (fun H locs hX => ?_)
  obtain ⟨hk31, hf⟩ := chk_some hf
  obtain ⟨hw32, hf⟩ := chk_some hf
  obtain ⟨S33, eS33, hf⟩ := bd_some hf
  refine xr_putF (S' := S33) (q := (RX0, TX0, 14)) (v := va_rf (some a27)) (ty0 := tyX0) B hnm hX 3 hk31 rfl (by decide) hw32 (by decide) (by rw [eS33]; exact x_Vup_r (k := 1) (j := 3) rfl (by decide)) tyX0_ok (fun i h1 h2 => nmX0 i (Nat.lt_of_lt_of_le h1 (by decide)) 3 (by decide) h2) rfl rfl rfl rfl q342 (fun _ h => h) dX0_init_43 (fun H locs hX => ?_)
  refine w_r eS33 ?_
  have hk31 := ks_r eS33 hk31
  have hw32 := kw_r eS33 hw32
  refine lv_aload_n hx hb dX0_init_46 rfl (lv_at hl 0 rfl) ?_
  refine lv_sipush (v := nI 4096) hx hb dX0_init_47 sp4096 ?_
  obtain ⟨h036, hf⟩ := chk_some hf
  obtain ⟨hr34, hf⟩ := chk_some hf
  obtain ⟨a36, ea36, hf⟩ := bd_some hf
  obtain ⟨S35, eS35, hf⟩ := bd_some hf
  have hk31 := ks_n hX eS35 (by decide) hk31
  have hw32 := kw_n eS35 hw32
  have hk37 := ks_new eS35 ea36
  have hw38 := kw_new hX eS35 ea36
  refine xr_newa (atype := .byte) B hX 51 (by decide) rfl rfl (by decide) (fun _ => Iff.rfl) (Int32.not_lt.mpr h036.1) (xn_by h036.2 (by decide)) q196 hr34 eS35 dX0_init_50 (fun H hX => ?_)
  refine W.eq (g2 := F0 m 52 ls [.ref a36, .ref o]) (by rw [ea36]; first | done | rfl) ?_
  obtain ⟨S39, eS39, hf⟩ := bd_some hf
  refine xr_putF (S' := S39) (q := (RX0, TX0, 14)) (v := va_rf (some a36)) (ty0 := tyX0) B hnm hX 4 hk31 rfl (by decide) hw32 (by decide) (by rw [eS39]; exact x_Vup_r (k := 1) (j := 4) rfl (by decide)) tyX0_ok (fun i h1 h2 => nmX0 i (Nat.lt_of_lt_of_le h1 (by decide)) 4 (by decide) h2) rfl rfl rfl rfl q343 (fun _ h => h) dX0_init_52 (fun H locs hX => ?_)
  refine w_r eS39 ?_
  have hk31 := ks_r eS39 hk31
  have hw32 := kw_r eS39 hw32
  have hk37 := ks_r eS39 hk37
  have hw38 := kw_r eS39 hw38
  refine lv_aload_n hx hb dX0_init_55 rfl (lv_at hl 0 rfl) ?_
  refine lv_sipush (v := nI 4096) hx hb dX0_init_56 sp4096 ?_
  obtain ⟨h042, hf⟩ := chk_some hf
  obtain ⟨hr40, hf⟩ := chk_some hf
  obtain ⟨a42, ea42, hf⟩ := bd_some hf
  obtain ⟨S41, eS41, hf⟩ := bd_some hf
  have hk31 := ks_n hX eS41 (by decide) hk31
  have hw32 := kw_n eS41 hw32
  have hk37 := ks_n hX eS41 (by decide) hk37
  have hw38 := kw_n eS41 hw38
  have hk43 := ks_new eS41 ea42
  have hw44 := kw_new hX eS41 ea42
  refine xr_newa (atype := .byte) B hX 51 (by decide) rfl rfl (by decide) (fun _ => Iff.rfl) (Int32.not_lt.mpr h042.1) (xn_by h042.2 (by decide)) q196 hr40 eS41 dX0_init_59 (fun H hX => ?_)
  refine W.eq (g2 := F0 m 61 ls [.ref a42, .ref o]) (by rw [ea42]; first | done | rfl) ?_
  obtain ⟨S45, eS45, hf⟩ := bd_some hf
  refine xr_putF (S' := S45) (q := (RX0, TX0, 14)) (v := va_rf (some a42)) (ty0 := tyX0) B hnm hX 5 hk31 rfl (by decide) hw32 (by decide) (by rw [eS45]; exact x_Vup_r (k := 1) (j := 5) rfl (by decide)) tyX0_ok (fun i h1 h2 => nmX0 i (Nat.lt_of_lt_of_le h1 (by decide)) 5 (by decide) h2) rfl rfl rfl rfl q344 (fun _ h => h) dX0_init_61 (fun H locs hX => ?_)
  refine w_r eS45 ?_
  have hk31 := ks_r eS45 hk31
  have hw32 := kw_r eS45 hw32
  have hk37 := ks_r eS45 hk37
  have hw38 := kw_r eS45 hw38
  have hk43 := ks_r eS45 hk43
  have hw44 := kw_r eS45 hw44
  refine lv_aload_n hx hb dX0_init_64 rfl (lv_at hl 0 rfl) ?_
  refine lv_iconst (v := nI 3) hx hb dX0_init_65 ic3 ?_
  obtain ⟨h048, hf⟩ := chk_some hf
  obtain ⟨hr46, hf⟩ := chk_some hf
  obtain ⟨a48, ea48, hf⟩ := bd_some hf
  obtain ⟨S47, eS47, hf⟩ := bd_some hf
  have hk31 := ks_n hX eS47 (by decide) hk31
  have hw32 := kw_n eS47 hw32
  have hk37 := ks_n hX eS47 (by decide) hk37
  have hw38 := kw_n eS47 hw38
  have hk43 := ks_n hX eS47 (by decide) hk43
  have hw44 := kw_n eS47 hw44
  have hk49 := ks_new eS47 ea48
  have hw50 := kw_new hX eS47 ea48
  refine xr_newa (atype := .int) B hX 52 (by decide) rfl rfl (by decide) (fun _ => Iff.rfl) (Int32.not_lt.mpr h048.1) (xn_by h048.2 (by decide)) q198 hr46 eS47 dX0_init_66 (fun H hX => ?_)
  refine W.eq (g2 := F0 m 68 ls [.ref a48, .ref o]) (by rw [ea48]; first | done | rfl) ?_
  obtain ⟨S51, eS51, hf⟩ := bd_some hf
  refine xr_putF (S' := S51) (q := (RX0, TX0, 14)) (v := va_rf (some a48)) (ty0 := tyX0) B hnm hX 9 hk31 rfl (by decide) hw32 (by decide) (by rw [eS51]; exact x_Vup_r (k := 1) (j := 9) rfl (by decide)) tyX0_ok (fun i h1 h2 => nmX0 i (Nat.lt_of_lt_of_le h1 (by decide)) 9 (by decide) h2) rfl rfl rfl rfl q349 (fun _ h => h) dX0_init_68 (fun H locs hX => ?_)
  refine w_r eS51 ?_
  have hk31 := ks_r eS51 hk31
  have hw32 := kw_r eS51 hw32
  have hk37 := ks_r eS51 hk37
  have hw38 := kw_r eS51 hw38
  have hk43 := ks_r eS51 hk43
  have hw44 := kw_r eS51 hw44
  have hk49 := ks_r eS51 hk49
  have hw50 := kw_r eS51 hw50
  refine lv_aload_n hx hb dX0_init_71 rfl (lv_at hl 0 rfl) ?_
  obtain ⟨hr52, hf⟩ := chk_some hf
  obtain ⟨a54, ea54, hf⟩ := bd_some hf
  obtain ⟨S53, eS53, hf⟩ := bd_some hf
  have hk31 := ks_n hX eS53 (by decide) hk31
  have hw32 := kw_n eS53 hw32
  have hk37 := ks_n hX eS53 (by decide) hk37
  have hw38 := kw_n eS53 hw38
  have hk43 := ks_n hX eS53 (by decide) hk43
  have hw44 := kw_n eS53 hw44
  have hk49 := ks_n hX eS53 (by decide) hk49
  have hw50 := kw_n eS53 hw50
  have hk55 := ks_new eS53 ea54
  have hw56 := kw_new hX eS53 ea54
  refine xr_new (q := (RX5, TX5, 3)) (N := 3) (ty0 := tyX5) B hX 17 rfl (by decide) tyX5_ok xd_17 q305 q306 q111 hr52 eS53 dX0_init_72 (fun H hX => ?_)
  refine W.eq (g2 := F0 m 75 ls [.ref a54, .ref o]) (by rw [ea54]; first | done | rfl) ?_
  refine lv_dup hx hb dX0_init_75 rfl ?_
  refine lv_aload_n hx hb dX0_init_76 rfl (lv_at hl 0 rfl) ?_
  obtain ⟨S57, hcS57, hf⟩ := bnd_some hf
  refine xr_callIC (rest := [.ref a54, .ref o]) B hX (c_X5_init l D S53 a54 o hcS57) q307 q308 q111 q309 hd_X5_init rfl ⟨Nat.le_of_ble_eq_true rfl, Nat.le_of_ble_eq_true rfl⟩ rfl hl.1 rfl (Nat.le_of_ble_eq_true rfl) dX0_init_77 (fun H locs hX => ?_)
  obtain ⟨hk58, hf⟩ := chk_some hf
  obtain ⟨hw59, hf⟩ := chk_some hf
  obtain ⟨S60, eS60, hf⟩ := bd_some hf
  refine xr_putF (S' := S60) (q := (RX0, TX0, 14)) (v := va_rf (some a54)) (ty0 := tyX0) B hnm hX 10 hk58 rfl (by decide) hw59 (by decide) (by rw [eS60]; exact x_Vup_r (k := 1) (j := 10) rfl (by decide)) tyX0_ok (fun i h1 h2 => nmX0 i (Nat.lt_of_lt_of_le h1 (by decide)) 10 (by decide) h2) rfl rfl rfl rfl q350 (fun _ h => h) dX0_init_80 (fun H locs hX => ?_)
  refine w_r eS60 ?_
  have hk58 := ks_r eS60 hk58
  have hw59 := kw_r eS60 hw59
  refine lv_aload_n hx hb dX0_init_83 rfl (lv_at hl 0 rfl) ?_
  obtain ⟨hr61, hf⟩ := chk_some hf
  obtain ⟨a63, ea63, hf⟩ := bd_some hf
  obtain ⟨S62, eS62, hf⟩ := bd_some hf
  have hk58 := ks_n hX eS62 (by decide) hk58
  have hw59 := kw_n eS62 hw59
  have hk64 := ks_new eS62 ea63
  have hw65 := kw_new hX eS62 ea63
  refine xr_new (q := (RX6, TX6, 3)) (N := 3) (ty0 := tyX6) B hX 18 rfl (by decide) tyX6_ok xd_18 q324 q325 q112 hr61 eS62 dX0_init_84 (fun H hX => ?_)
  refine W.eq (g2 := F0 m 87 ls [.ref a63, .ref o]) (by rw [ea63]; first | done | rfl) ?_
  refine lv_dup hx hb dX0_init_87 rfl ?_
  refine lv_aload_n hx hb dX0_init_88 rfl (lv_at hl 0 rfl) ?_
  obtain ⟨S66, hcS66, hf⟩ := bnd_some hf
  refine xr_callIC (rest := [.ref a63, .ref o]) B hX (c_X6_init l D S62 a63 o hcS66) q326 q327 q112 q328 hd_X6_init rfl ⟨Nat.le_of_ble_eq_true rfl, Nat.le_of_ble_eq_true rfl⟩ rfl hl.1 rfl (Nat.le_of_ble_eq_true rfl) dX0_init_89 (fun H locs hX => ?_)
  obtain ⟨hk67, hf⟩ := chk_some hf
  obtain ⟨hw68, hf⟩ := chk_some hf
  obtain ⟨S69, eS69, hf⟩ := bd_some hf
  refine xr_putF (S' := S69) (q := (RX0, TX0, 14)) (v := va_rf (some a63)) (ty0 := tyX0) B hnm hX 11 hk67 rfl (by decide) hw68 (by decide) (by rw [eS69]; exact x_Vup_r (k := 1) (j := 11) rfl (by decide)) tyX0_ok (fun i h1 h2 => nmX0 i (Nat.lt_of_lt_of_le h1 (by decide)) 11 (by decide) h2) rfl rfl rfl rfl q351 (fun _ h => h) dX0_init_92 (fun H locs hX => ?_)
  refine w_r eS69 ?_
  have hk67 := ks_r eS69 hk67
  have hw68 := kw_r eS69 hw68
  refine lv_aload_n hx hb dX0_init_95 rfl (lv_at hl 0 rfl) ?_
  obtain ⟨hr70, hf⟩ := chk_some hf
  obtain ⟨a72, ea72, hf⟩ := bd_some hf
  obtain ⟨S71, eS71, hf⟩ := bd_some hf
  have hk67 := ks_n hX eS71 (by decide) hk67
  have hw68 := kw_n eS71 hw68
  have hk73 := ks_new eS71 ea72
  have hw74 := kw_new hX eS71 ea72
  refine xr_new (q := (RX2, TX2, 2)) (N := 2) (ty0 := tyX2) B hX 3 rfl (by decide) tyX2_ok xd_3 q336 q163 q105 hr70 eS71 dX0_init_96 (fun H hX => ?_)
  refine W.eq (g2 := F0 m 99 ls [.ref a72, .ref o]) (by rw [ea72]; first | done | rfl) ?_
  refine lv_dup hx hb dX0_init_99 rfl ?_
  obtain ⟨S75, hcS75, hf⟩ := bnd_some hf
  refine xr_callIN (rest := [.ref a72, .ref o]) B hX (c_X2_init l D S71 a72 hcS75) nq337 q165 q105 q166 hd_X2_init rfl ⟨Nat.le_of_ble_eq_true rfl, Nat.le_of_ble_eq_true rfl⟩ rfl hl.1 rfl (Nat.le_of_ble_eq_true rfl) dX0_init_100 (fun H locs hX => ?_)
  obtain ⟨hk76, hf⟩ := chk_some hf
  obtain ⟨hw77, hf⟩ := chk_some hf
  obtain ⟨S78, eS78, hf⟩ := bd_some hf
  refine xr_putF (S' := S78) (q := (RX0, TX0, 14)) (v := va_rf (some a72)) (ty0 := tyX0) B hnm hX 12 hk76 rfl (by decide) hw77 (by decide) (by rw [eS78]; exact x_Vup_r (k := 1) (j := 12) rfl (by decide)) tyX0_ok (fun i h1 h2 => nmX0 i (Nat.lt_of_lt_of_le h1 (by decide)) 12 (by decide) h2) rfl rfl rfl rfl q352 (fun _ h => h) dX0_init_103 (fun H locs hX => ?_)
  refine w_r eS78 ?_
  have hk76 := ks_r eS78 hk76
  have hw77 := kw_r eS78 hw77
  refine lv_aload_n hx hb dX0_init_106 rfl (lv_at hl 0 rfl) ?_
  refine lv_bipush (v := nI 16) hx hb dX0_init_107 bp16 ?_
  obtain ⟨h081, hf⟩ := chk_some hf
  obtain ⟨hr79, hf⟩ := chk_some hf
  obtain ⟨a81, ea81, hf⟩ := bd_some hf
  obtain ⟨S80, eS80, hf⟩ := bd_some hf
  have hk76 := ks_n hX eS80 (by decide) hk76
  have hw77 := kw_n eS80 hw77
  have hk82 := ks_new eS80 ea81
  have hw83 := kw_new hX eS80 ea81
  refine xr_newa (atype := .int) B hX 52 (by decide) rfl rfl (by decide) (fun _ => Iff.rfl) (Int32.not_lt.mpr h081.1) (xn_by h081.2 (by decide)) q198 hr79 eS80 dX0_init_109 (fun H hX => ?_)
  refine W.eq (g2 := F0 m 111 ls [.ref a81, .ref o]) (by rw [ea81]; first | done | rfl) ?_
  obtain ⟨S84, eS84, hf⟩ := bd_some hf
  refine xr_putF (S' := S84) (q := (RX0, TX0, 14)) (v := va_rf (some a81)) (ty0 := tyX0) B hnm hX 13 hk76 rfl (by decide) hw77 (by decide) (by rw [eS84]; exact x_Vup_r (k := 1) (j := 13) rfl (by decide)) tyX0_ok (fun i h1 h2 => nmX0 i (Nat.lt_of_lt_of_le h1 (by decide)) 13 (by decide) h2) rfl rfl rfl rfl q353 (fun _ h => h) dX0_init_111 (fun H locs hX => ?_)
  refine w_r eS84 ?_
  have hk76 := ks_r eS84 hk76
  have hw77 := kw_r eS84 hw77
  have hk82 := ks_r eS84 hk82
  have hw83 := kw_r eS84 hw83
  cases hf
  exact hret _ _ _ _ hX dX0_init_114
def f_X0_story (S : XS) (o : Nat) : Option (Int32 × XS) :=
  chk (xk S o = 1) <| bnd (f_X0_begins S o) <| u2 fun r1 S2 => chk (xk S2 o = 1) <| bnd (xr S2 100 o 0) fun b5 => chk (xk S2 b5 = 2) <| bnd (xr S2 211 b5 0) fun b7 => chk (xk S2 b7 = 19) <| bnd (f_J2_size S2 b7) fun r8 => (if r8 = nI 8 then some ((-2), S2) else bnd (xr S2 100 o 0) fun b11 => chk (xk S2 b11 = 2) <| bnd (xr S2 211 b11 0) fun b13 => chk (xz S2 < xL S2 ∧ xu S2 + 3 ≤ xU S2) <| bd (xz S2) fun a16 => bd (n_c S2 7 0 3) fun S15 => chk (xz S15 < xL S15 ∧ xu S15 + 12 ≤ xU S15) <| bd (xz S15) fun a21 => bd (n_c S15 8 0 12) fun S20 => bnd (xr S20 100 o 0) fun b24 => chk (xk S20 b24 = 2) <| bnd (xr S20 200 b24 0) fun b26 => bnd (f_X0_land S20 o) fun b27 => chk (xk S20 b27 = 3) <| bnd (xr S20 301 b27 0) fun b29 => bnd (f_X11_init S20 a21 b26 r1 b29) fun S30 => chk (xk S30 a21 = 8) <| bnd (f_X11_whole S30 a21) <| u2 fun q32 S33 => (sc q32 (fun a34 => chk (xk S33 a34 = 9) <| chk (xk S33 o = 1) <| bnd (f_X0_fails S33 o a34) <| u2 fun r52 S53 => some (r52, S53)) fun b35 => chk (xk S33 o = 1) <| bnd (xr S33 100 o 0) fun b37 => chk (xk S33 b37 = 2) <| bnd (f_X10_init S33 a16 b35 (xi S33 204 b37 0)) fun S39 => chk (xk S39 b13 = 19) <| bnd (f_J2_add S39 b13 a16) <| u2 fun r40 S41 => chk (xk S41 o = 1) <| chk (xb S41 ≤ o) <| bd (s_i S41 106 o 0 (nI 0)) fun S45 => bnd (xr S45 100 o 0) fun b46 => chk (xk S45 b46 = 2) <| bnd (xr S45 211 b46 0) fun b48 => chk (xk S45 b48 = 19) <| bnd (f_J2_size S45 b48) fun r49 => some ((r49 - nI 1), S45)))
set_option maxHeartbeats 4000000 in
set_option maxRecDepth 100000 in
theorem c_X0_story (l : Launch) (hfl : l.flags = flags0) (D : XD) (S : XS) (o : Nat) {r : Int32} {S' : XS} (hf : f_X0_story S o = some (r, S')) : x_Bod l yX0_story cX0_story 3 (Option.some Jvm.ClassFile.FieldType.int) [(23, 90, 91, 173)] 426 24686 D [.ref o] S (.inr (some (.int r))) S' := by
  refine x_bodHI RX0 rfl (fun p e s m args below meth c Q B hnm hh hret H locs hX ls hl => ?_)
  have hx := B.1
  have hb := B.2.1
  have hml := B.2.2.1
  have hown := B.2.2.2.1
  have hts := B.2.2.2.2
  have hl : lv_has ls 3 [(0, .ref o)] := hl
  unfold f_X0_story at hf
  refine lv_aload_n hx hb dX0_story_0 rfl (lv_at hl 0 rfl) ?_
  obtain ⟨hk3, hf⟩ := chk_some hf
  obtain ⟨⟨r1, S2⟩, hcr1, hf⟩ := bnd_some hf
  have hf := u2_at hf
  refine xr_callVC (rest := []) (q := (RX0, TX0, 14)) B hX (c_X0_begins l D S o hcr1) hk3 rfl (by decide) q615 q617 (Or.inl qs7) q103 q618 hd_X0_begins ⟨Nat.le_of_ble_eq_true rfl, Nat.le_of_ble_eq_true rfl⟩ rfl hl.1 rfl (Nat.le_of_ble_eq_true rfl) dX0_story_1 (fun H locs hX => ?_)
  refine lv_istore_n (lv' := [(1, .int r1), (0, .ref o)]) hx hb dX0_story_4 rfl hl (by decide) rfl (fun ls hl => ?_)
  refine lv_aload_n hx hb dX0_story_5 rfl (lv_at hl 1 rfl) ?_
  obtain ⟨hk4, hf⟩ := chk_some hf
  obtain ⟨b5, hb5, hf⟩ := bnd_some hf
  refine xr_get (q := (RX0, TX0, 14)) B hX 0 hk4 rfl (by decide) (by decide) (v := .ref b5) (x_Vr (c := 1) (j := 0) rfl (by decide) hb5) q339 (fun _ h => h) dX0_story_6 ?_
  obtain ⟨hk6, hf⟩ := chk_some hf
  obtain ⟨b7, hb7, hf⟩ := bnd_some hf
  refine xr_getN (q := (RX1, TX1, 14)) B hX 11 hk6 rfl (by decide) (by decide) (v := .ref b7) (x_Vr (c := 2) (j := 11) rfl (by decide) hb7) nq241 (fun _ h => h) dX0_story_9 ?_
  obtain ⟨hk9, hf⟩ := chk_some hf
  obtain ⟨r8, hcr8, hf⟩ := bnd_some hf
  refine xr_callVC (rest := []) (q := (RJ2, TJ2, 3)) B hX (c_J2_size l D S2 b7 hcr8) hk9 rfl (by decide) q409 q410 (Or.inl q411) q108 q412 hd_J2_size ⟨Nat.le_of_ble_eq_true rfl, Nat.le_of_ble_eq_true rfl⟩ rfl hl.1 rfl (Nat.le_of_ble_eq_true rfl) dX0_story_12 (fun H locs hX => ?_)
  refine lv_bipush (v := nI 8) hx hb dX0_story_15 bp8 ?_
  refine lv_icmp_ne (tgt := 23) hx hb dX0_story_17 (by decide) (fun c10 => ?_) (fun c10 => ?_)
  · have hf := it_neg c10 hf
    refine lv_aload_n hx hb dX0_story_23 rfl (lv_at hl 1 rfl) ?_
    obtain ⟨b11, hb11, hf⟩ := bnd_some hf
    refine xr_get (q := (RX0, TX0, 14)) B hX 0 hk4 rfl (by decide) (by decide) (v := .ref b11) (x_Vr (c := 1) (j := 0) rfl (by decide) hb11) q339 (fun _ h => h) dX0_story_24 ?_
    obtain ⟨hk12, hf⟩ := chk_some hf
    obtain ⟨b13, hb13, hf⟩ := bnd_some hf
    refine xr_getN (q := (RX1, TX1, 14)) B hX 11 hk12 rfl (by decide) (by decide) (v := .ref b13) (x_Vr (c := 2) (j := 11) rfl (by decide) hb13) nq241 (fun _ h => h) dX0_story_27 ?_
    obtain ⟨hr14, hf⟩ := chk_some hf
    obtain ⟨a16, ea16, hf⟩ := bd_some hf
    obtain ⟨S15, eS15, hf⟩ := bd_some hf
    have hk4 := ks_n hX eS15 (by decide) hk4
    have hk6 := ks_n hX eS15 (by decide) hk6
    have hk9 := ks_n hX eS15 (by decide) hk9
    have hk12 := ks_n hX eS15 (by decide) hk12
    have hk17 := ks_new eS15 ea16
    have hw18 := kw_new hX eS15 ea16
    refine xr_new (q := (RX10, TX10, 3)) (N := 3) (ty0 := tyX10) B hX 7 rfl (by decide) tyX10_ok xd_7 q619 q620 q124 hr14 eS15 dX0_story_30 (fun H hX => ?_)
    refine W.eq (g2 := F0 m 33 ls [.ref a16, .ref b13]) (by rw [ea16]; first | done | rfl) ?_
    refine lv_dup hx hb dX0_story_33 rfl ?_
    obtain ⟨hr19, hf⟩ := chk_some hf
    obtain ⟨a21, ea21, hf⟩ := bd_some hf
    obtain ⟨S20, eS20, hf⟩ := bd_some hf
    have hk4 := ks_n hX eS20 (by decide) hk4
    have hk6 := ks_n hX eS20 (by decide) hk6
    have hk9 := ks_n hX eS20 (by decide) hk9
    have hk12 := ks_n hX eS20 (by decide) hk12
    have hk17 := ks_n hX eS20 (by decide) hk17
    have hw18 := kw_n eS20 hw18
    have hk22 := ks_new eS20 ea21
    have hw23 := kw_new hX eS20 ea21
    refine xr_new (q := (RX11, TX11, 12)) (N := 12) (ty0 := tyX11) B hX 8 rfl (by decide) tyX11_ok xd_8 q621 q622 q125 hr19 eS20 dX0_story_34 (fun H hX => ?_)
    refine W.eq (g2 := F0 m 37 ls [.ref a21, .ref a16, .ref a16, .ref b13]) (by rw [ea21]; first | done | rfl) ?_
    refine lv_dup hx hb dX0_story_37 rfl ?_
    refine lv_aload_n hx hb dX0_story_38 rfl (lv_at hl 1 rfl) ?_
    obtain ⟨b24, hb24, hf⟩ := bnd_some hf
    refine xr_get (q := (RX0, TX0, 14)) B hX 0 hk4 rfl (by decide) (by decide) (v := .ref b24) (x_Vr (c := 1) (j := 0) rfl (by decide) hb24) q339 (fun _ h => h) dX0_story_39 ?_
    obtain ⟨hk25, hf⟩ := chk_some hf
    obtain ⟨b26, hb26, hf⟩ := bnd_some hf
    refine xr_getN (q := (RX1, TX1, 14)) B hX 0 hk25 rfl (by decide) (by decide) (v := .ref b26) (x_Vr (c := 2) (j := 0) rfl (by decide) hb26) nq218 (fun _ h => h) dX0_story_42 ?_
    refine lv_iload_n hx hb dX0_story_45 rfl (lv_at hl 0 rfl) ?_
    refine lv_aload_n hx hb dX0_story_46 rfl (lv_at hl 1 rfl) ?_
    obtain ⟨b27, hcb27, hf⟩ := bnd_some hf
    refine xr_callVC (rest := [.int r1, .ref b26, .ref a21, .ref a21, .ref a16, .ref a16, .ref b13]) (q := (RX0, TX0, 14)) B hX (c_X0_land l D S20 o hcb27) hk4 rfl (by decide) q393 q395 (Or.inl qs0) q103 q396 hd_X0_land ⟨Nat.le_of_ble_eq_true rfl, Nat.le_of_ble_eq_true rfl⟩ rfl hl.1 rfl (Nat.le_of_ble_eq_true rfl) dX0_story_47 (fun H locs hX => ?_)
    obtain ⟨hk28, hf⟩ := chk_some hf
    obtain ⟨b29, hb29, hf⟩ := bnd_some hf
    refine xr_getN (q := (RX2, TX2, 2)) B hX 1 hk28 rfl (by decide) (by decide) (v := .ref b29) (x_Vr (c := 3) (j := 1) rfl (by decide) hb29) nq204 (fun _ h => h) dX0_story_50 ?_
    obtain ⟨S30, hcS30, hf⟩ := bnd_some hf
    refine xr_callIC (rest := [.ref a21, .ref a16, .ref a16, .ref b13]) B hX (c_X11_init l D S20 a21 b26 r1 b29 hcS30) q623 q624 q125 q625 hd_X11_init rfl ⟨Nat.le_of_ble_eq_true rfl, Nat.le_of_ble_eq_true rfl⟩ rfl hl.1 rfl (Nat.le_of_ble_eq_true rfl) dX0_story_53 (fun H locs hX => ?_)
    obtain ⟨hk31, hf⟩ := chk_some hf
    obtain ⟨⟨q32, S33⟩, hcq32, hf⟩ := bnd_some hf
    have hf := u2_at hf
    rcases q32 with a34 | b35
    · have hf := sc_l hf
      refine xr_callT (rest := [.ref a16, .ref a16, .ref b13]) (q := (RX11, TX11, 12)) B hX (c_X11_whole l hfl D S30 a21 hcq32) (by decide) (Nat.le_of_ble_eq_true rfl) hk31 rfl (by decide) q857 q858 q859 q860 hd_X11_whole ⟨Nat.le_of_ble_eq_true rfl, Nat.le_of_ble_eq_true rfl⟩ rfl hl.1 rfl (Nat.le_of_ble_eq_true rfl) dX0_story_56 (fun H locs hX => ?_)
      obtain ⟨hk51, hf⟩ := chk_some hf
      refine xr_catch B hh hX hk51 q614 (by decide) ⟨by decide, by decide⟩ ?_
      refine lv_astore_n (lv' := [(2, .ref a34), (1, .int r1), (0, .ref o)]) hx hb dX0_story_91 rfl hl (by decide) rfl (fun ls hl => ?_)
      refine lv_aload_n hx hb dX0_story_92 rfl (lv_at hl 2 rfl) ?_
      refine lv_aload_n hx hb dX0_story_93 rfl (lv_at hl 0 rfl) ?_
      obtain ⟨hk54, hf⟩ := chk_some hf
      obtain ⟨⟨r52, S53⟩, hcr52, hf⟩ := bnd_some hf
      have hf := u2_at hf
      refine xr_callVC (rest := []) (q := (RX0, TX0, 14)) B hX (c_X0_fails l D S33 o a34 hcr52) hk54 rfl (by decide) q1220 q1222 (Or.inl qs23) q103 q1223 hd_X0_fails ⟨Nat.le_of_ble_eq_true rfl, Nat.le_of_ble_eq_true rfl⟩ rfl hl.1 rfl (Nat.le_of_ble_eq_true rfl) dX0_story_94 (fun H locs hX => ?_)
      cases hf
      exact hret _ _ _ _ rfl hX dX0_story_97
    · have hf := sc_r hf
      refine xr_callR (rest := [.ref a16, .ref a16, .ref b13]) (q := (RX11, TX11, 12)) B hX (c_X11_whole l hfl D S30 a21 hcq32) (by decide) (Nat.le_of_ble_eq_true rfl) hk31 rfl (by decide) q857 q858 q859 q860 hd_X11_whole ⟨Nat.le_of_ble_eq_true rfl, Nat.le_of_ble_eq_true rfl⟩ rfl hl.1 rfl (Nat.le_of_ble_eq_true rfl) dX0_story_56 (fun H locs hX => ?_)
      refine lv_aload_n hx hb dX0_story_59 rfl (lv_at hl 1 rfl) ?_
      obtain ⟨hk36, hf⟩ := chk_some hf
      obtain ⟨b37, hb37, hf⟩ := bnd_some hf
      refine xr_get (q := (RX0, TX0, 14)) B hX 0 hk36 rfl (by decide) (by decide) (v := .ref b37) (x_Vr (c := 1) (j := 0) rfl (by decide) hb37) q339 (fun _ h => h) dX0_story_60 ?_
      obtain ⟨hk38, hf⟩ := chk_some hf
      refine xr_getN (q := (RX1, TX1, 14)) B hX 4 hk38 rfl (by decide) (by decide) (x_Vi rfl (by decide)) nq226 (fun _ h => h) dX0_story_63 ?_
      obtain ⟨S39, hcS39, hf⟩ := bnd_some hf
      refine xr_callIC (rest := [.ref a16, .ref b13]) B hX (c_X10_init l D S33 a16 b35 (xi S33 204 b37 0) hcS39) q1203 q1204 q124 q1205 hd_X10_init rfl ⟨Nat.le_of_ble_eq_true rfl, Nat.le_of_ble_eq_true rfl⟩ rfl hl.1 rfl (Nat.le_of_ble_eq_true rfl) dX0_story_66 (fun H locs hX => ?_)
      obtain ⟨hk42, hf⟩ := chk_some hf
      obtain ⟨⟨r40, S41⟩, hcr40, hf⟩ := bnd_some hf
      have hf := u2_at hf
      refine xr_callVC (rest := []) (q := (RJ2, TJ2, 3)) B hX (c_J2_add l D S39 b13 a16 hcr40) hk42 rfl (by decide) q434 q435 (Or.inl q436) q108 q437 hd_J2_add ⟨Nat.le_of_ble_eq_true rfl, Nat.le_of_ble_eq_true rfl⟩ rfl hl.1 rfl (Nat.le_of_ble_eq_true rfl) dX0_story_69 (fun H locs hX => ?_)
      refine lv_pop hx hb dX0_story_72 rfl ?_
      refine lv_aload_n hx hb dX0_story_73 rfl (lv_at hl 1 rfl) ?_
      refine lv_iconst (v := nI 0) hx hb dX0_story_74 ic0 ?_
      obtain ⟨hk43, hf⟩ := chk_some hf
      obtain ⟨hw44, hf⟩ := chk_some hf
      obtain ⟨S45, eS45, hf⟩ := bd_some hf
      refine xr_put (S' := S45) (q := (RX0, TX0, 14)) (v := .int (nI 0)) (ty0 := tyX0) B hX 6 hk43 rfl (by decide) hw44 (by decide) (by rw [eS45]; exact x_Vup_i (k := 1) (j := 6) rfl (by decide)) tyX0_ok (fun i h1 h2 => nmX0 i (Nat.lt_of_lt_of_le h1 (by decide)) 6 (by decide) h2) rfl rfl rfl q345 (fun _ h => h) dX0_story_75 (fun H locs hX => ?_)
      refine w_i eS45 ?_
      have hk43 := ks_i eS45 hk43
      have hw44 := kw_i eS45 hw44
      refine lv_aload_n hx hb dX0_story_78 rfl (lv_at hl 1 rfl) ?_
      obtain ⟨b46, hb46, hf⟩ := bnd_some hf
      refine xr_get (q := (RX0, TX0, 14)) B hX 0 hk43 rfl (by decide) (by decide) (v := .ref b46) (x_Vr (c := 1) (j := 0) rfl (by decide) hb46) q339 (fun _ h => h) dX0_story_79 ?_
      obtain ⟨hk47, hf⟩ := chk_some hf
      obtain ⟨b48, hb48, hf⟩ := bnd_some hf
      refine xr_getN (q := (RX1, TX1, 14)) B hX 11 hk47 rfl (by decide) (by decide) (v := .ref b48) (x_Vr (c := 2) (j := 11) rfl (by decide) hb48) nq241 (fun _ h => h) dX0_story_82 ?_
      obtain ⟨hk50, hf⟩ := chk_some hf
      obtain ⟨r49, hcr49, hf⟩ := bnd_some hf
      refine xr_callVC (rest := []) (q := (RJ2, TJ2, 3)) B hX (c_J2_size l D S45 b48 hcr49) hk50 rfl (by decide) q409 q410 (Or.inl q411) q108 q412 hd_J2_size ⟨Nat.le_of_ble_eq_true rfl, Nat.le_of_ble_eq_true rfl⟩ rfl hl.1 rfl (Nat.le_of_ble_eq_true rfl) dX0_story_85 (fun H locs hX => ?_)
      refine lv_iconst (v := nI 1) hx hb dX0_story_88 ic1 ?_
      refine lv_isub hx hb dX0_story_89 ?_
      cases hf
      exact hret _ _ _ _ rfl hX dX0_story_90
  · have hf := it_pos c10 hf
    refine lv_bipush (v := (-2)) hx hb dX0_story_20 bpm2 ?_
    cases hf
    exact hret _ _ _ _ rfl hX dX0_story_22
def f_X0_guess (S : XS) (o : Nat) : Option (Int32 × XS) :=
  chk (xk S o = 1) <| bnd (f_X0_begins S o) <| u2 fun r1 S2 => chk (xz S2 < xL S2 ∧ xu S2 + 12 ≤ xU S2) <| bd (xz S2) fun a6 => bd (n_c S2 8 0 12) fun S5 => chk (xk S5 o = 1) <| bnd (xr S5 100 o 0) fun b10 => chk (xk S5 b10 = 2) <| bnd (xr S5 200 b10 0) fun b12 => bnd (f_X0_land S5 o) fun b13 => chk (xk S5 b13 = 3) <| bnd (xr S5 301 b13 0) fun b15 => bnd (f_X11_init S5 a6 b12 r1 b15) fun S16 => chk (xk S16 o = 1) <| bnd (xr S16 100 o 0) fun b18 => chk (xk S16 a6 = 8) <| bnd (f_X11_whole S16 a6) <| u2 fun q20 S21 => (sc q20 (fun a22 => chk (xk S21 a22 = 9) <| chk (xk S21 o = 1) <| bnd (f_X0_fails S21 o a22) <| u2 fun r34 S35 => some (r34, S35)) fun b23 => chk (xk S21 b18 = 2) <| chk (xb S21 ≤ b18) <| bd (s_r S21 213 b18 0 (some b23)) fun S26 => chk (xk S26 o = 1) <| bnd (xr S26 100 o 0) fun b28 => chk (xk S26 a6 = 8) <| chk (xk S26 b28 = 2) <| chk (xb S26 ≤ b28) <| bd (s_i S26 206 b28 0 (xi S26 806 a6 0)) fun S32 => some ((xi S32 806 a6 0), S32))
set_option maxHeartbeats 4000000 in
set_option maxRecDepth 100000 in
theorem c_X0_guess (l : Launch) (hfl : l.flags = flags0) (D : XD) (S : XS) (o : Nat) {r : Int32} {S' : XS} (hf : f_X0_guess S o = some (r, S')) : x_Bod l yX0_guess cX0_guess 3 (Option.some Jvm.ClassFile.FieldType.int) [(5, 54, 55, 173)] 426 24686 D [.ref o] S (.inr (some (.int r))) S' := by
  refine x_bodHI RX0 rfl (fun p e s m args below meth c Q B hnm hh hret H locs hX ls hl => ?_)
  have hx := B.1
  have hb := B.2.1
  have hml := B.2.2.1
  have hown := B.2.2.2.1
  have hts := B.2.2.2.2
  have hl : lv_has ls 3 [(0, .ref o)] := hl
  unfold f_X0_guess at hf
  refine lv_aload_n hx hb dX0_guess_0 rfl (lv_at hl 0 rfl) ?_
  obtain ⟨hk3, hf⟩ := chk_some hf
  obtain ⟨⟨r1, S2⟩, hcr1, hf⟩ := bnd_some hf
  have hf := u2_at hf
  refine xr_callVC (rest := []) (q := (RX0, TX0, 14)) B hX (c_X0_begins l D S o hcr1) hk3 rfl (by decide) q615 q617 (Or.inl qs7) q103 q618 hd_X0_begins ⟨Nat.le_of_ble_eq_true rfl, Nat.le_of_ble_eq_true rfl⟩ rfl hl.1 rfl (Nat.le_of_ble_eq_true rfl) dX0_guess_1 (fun H locs hX => ?_)
  refine lv_istore_n (lv' := [(1, .int r1), (0, .ref o)]) hx hb dX0_guess_4 rfl hl (by decide) rfl (fun ls hl => ?_)
  obtain ⟨hr4, hf⟩ := chk_some hf
  obtain ⟨a6, ea6, hf⟩ := bd_some hf
  obtain ⟨S5, eS5, hf⟩ := bd_some hf
  have hk7 := ks_new eS5 ea6
  have hw8 := kw_new hX eS5 ea6
  refine xr_new (q := (RX11, TX11, 12)) (N := 12) (ty0 := tyX11) B hX 8 rfl (by decide) tyX11_ok xd_8 q621 q622 q125 hr4 eS5 dX0_guess_5 (fun H hX => ?_)
  refine W.eq (g2 := F0 m 8 ls [.ref a6]) (by rw [ea6]; first | done | rfl) ?_
  refine lv_dup hx hb dX0_guess_8 rfl ?_
  refine lv_aload_n hx hb dX0_guess_9 rfl (lv_at hl 1 rfl) ?_
  obtain ⟨hk9, hf⟩ := chk_some hf
  obtain ⟨b10, hb10, hf⟩ := bnd_some hf
  refine xr_get (q := (RX0, TX0, 14)) B hX 0 hk9 rfl (by decide) (by decide) (v := .ref b10) (x_Vr (c := 1) (j := 0) rfl (by decide) hb10) q339 (fun _ h => h) dX0_guess_10 ?_
  obtain ⟨hk11, hf⟩ := chk_some hf
  obtain ⟨b12, hb12, hf⟩ := bnd_some hf
  refine xr_getN (q := (RX1, TX1, 14)) B hX 0 hk11 rfl (by decide) (by decide) (v := .ref b12) (x_Vr (c := 2) (j := 0) rfl (by decide) hb12) nq218 (fun _ h => h) dX0_guess_13 ?_
  refine lv_iload_n hx hb dX0_guess_16 rfl (lv_at hl 0 rfl) ?_
  refine lv_aload_n hx hb dX0_guess_17 rfl (lv_at hl 1 rfl) ?_
  obtain ⟨b13, hcb13, hf⟩ := bnd_some hf
  refine xr_callVC (rest := [.int r1, .ref b12, .ref a6, .ref a6]) (q := (RX0, TX0, 14)) B hX (c_X0_land l D S5 o hcb13) hk9 rfl (by decide) q393 q395 (Or.inl qs0) q103 q396 hd_X0_land ⟨Nat.le_of_ble_eq_true rfl, Nat.le_of_ble_eq_true rfl⟩ rfl hl.1 rfl (Nat.le_of_ble_eq_true rfl) dX0_guess_18 (fun H locs hX => ?_)
  obtain ⟨hk14, hf⟩ := chk_some hf
  obtain ⟨b15, hb15, hf⟩ := bnd_some hf
  refine xr_getN (q := (RX2, TX2, 2)) B hX 1 hk14 rfl (by decide) (by decide) (v := .ref b15) (x_Vr (c := 3) (j := 1) rfl (by decide) hb15) nq204 (fun _ h => h) dX0_guess_21 ?_
  obtain ⟨S16, hcS16, hf⟩ := bnd_some hf
  refine xr_callIC (rest := [.ref a6]) B hX (c_X11_init l D S5 a6 b12 r1 b15 hcS16) q623 q624 q125 q625 hd_X11_init rfl ⟨Nat.le_of_ble_eq_true rfl, Nat.le_of_ble_eq_true rfl⟩ rfl hl.1 rfl (Nat.le_of_ble_eq_true rfl) dX0_guess_24 (fun H locs hX => ?_)
  refine lv_astore_n (lv' := [(2, .ref a6), (1, .int r1), (0, .ref o)]) hx hb dX0_guess_27 rfl hl (by decide) rfl (fun ls hl => ?_)
  refine lv_aload_n hx hb dX0_guess_28 rfl (lv_at hl 2 rfl) ?_
  obtain ⟨hk17, hf⟩ := chk_some hf
  obtain ⟨b18, hb18, hf⟩ := bnd_some hf
  refine xr_get (q := (RX0, TX0, 14)) B hX 0 hk17 rfl (by decide) (by decide) (v := .ref b18) (x_Vr (c := 1) (j := 0) rfl (by decide) hb18) q339 (fun _ h => h) dX0_guess_29 ?_
  refine lv_aload_n hx hb dX0_guess_32 rfl (lv_at hl 0 rfl) ?_
  obtain ⟨hk19, hf⟩ := chk_some hf
  obtain ⟨⟨q20, S21⟩, hcq20, hf⟩ := bnd_some hf
  have hf := u2_at hf
  rcases q20 with a22 | b23
  · have hf := sc_l hf
    refine xr_callT (rest := [.ref b18]) (q := (RX11, TX11, 12)) B hX (c_X11_whole l hfl D S16 a6 hcq20) (by decide) (Nat.le_of_ble_eq_true rfl) hk19 rfl (by decide) q857 q858 q859 q860 hd_X11_whole ⟨Nat.le_of_ble_eq_true rfl, Nat.le_of_ble_eq_true rfl⟩ rfl hl.1 rfl (Nat.le_of_ble_eq_true rfl) dX0_guess_33 (fun H locs hX => ?_)
    obtain ⟨hk33, hf⟩ := chk_some hf
    refine xr_catch B hh hX hk33 q614 (by decide) ⟨by decide, by decide⟩ ?_
    refine lv_astore_n (lv' := [(2, .ref a22), (1, .int r1), (0, .ref o)]) hx hb dX0_guess_55 rfl hl (by decide) rfl (fun ls hl => ?_)
    refine lv_aload_n hx hb dX0_guess_56 rfl (lv_at hl 2 rfl) ?_
    refine lv_aload_n hx hb dX0_guess_57 rfl (lv_at hl 0 rfl) ?_
    obtain ⟨hk36, hf⟩ := chk_some hf
    obtain ⟨⟨r34, S35⟩, hcr34, hf⟩ := bnd_some hf
    have hf := u2_at hf
    refine xr_callVC (rest := []) (q := (RX0, TX0, 14)) B hX (c_X0_fails l D S21 o a22 hcr34) hk36 rfl (by decide) q1220 q1222 (Or.inl qs23) q103 q1223 hd_X0_fails ⟨Nat.le_of_ble_eq_true rfl, Nat.le_of_ble_eq_true rfl⟩ rfl hl.1 rfl (Nat.le_of_ble_eq_true rfl) dX0_guess_58 (fun H locs hX => ?_)
    cases hf
    exact hret _ _ _ _ rfl hX dX0_guess_61
  · have hf := sc_r hf
    refine xr_callR (rest := [.ref b18]) (q := (RX11, TX11, 12)) B hX (c_X11_whole l hfl D S16 a6 hcq20) (by decide) (Nat.le_of_ble_eq_true rfl) hk19 rfl (by decide) q857 q858 q859 q860 hd_X11_whole ⟨Nat.le_of_ble_eq_true rfl, Nat.le_of_ble_eq_true rfl⟩ rfl hl.1 rfl (Nat.le_of_ble_eq_true rfl) dX0_guess_33 (fun H locs hX => ?_)
    obtain ⟨hk24, hf⟩ := chk_some hf
    obtain ⟨hw25, hf⟩ := chk_some hf
    obtain ⟨S26, eS26, hf⟩ := bd_some hf
    refine xr_putN (S' := S26) (q := (RX1, TX1, 14)) (v := va_rf (some b23)) (ty0 := tyX1) B hX 13 hk24 rfl (by decide) hw25 (by decide) (by rw [eS26]; exact x_Vup_r (k := 2) (j := 13) rfl (by decide)) tyX1_ok (fun i h1 h2 => nmX1 i (Nat.lt_of_lt_of_le h1 (by decide)) 13 (by decide) h2) rfl rfl rfl nq245 (fun _ h => h) dX0_guess_36 (fun H locs hX => ?_)
    refine w_r eS26 ?_
    have hk24 := ks_r eS26 hk24
    have hw25 := kw_r eS26 hw25
    refine lv_aload_n hx hb dX0_guess_39 rfl (lv_at hl 2 rfl) ?_
    obtain ⟨hk27, hf⟩ := chk_some hf
    obtain ⟨b28, hb28, hf⟩ := bnd_some hf
    refine xr_get (q := (RX0, TX0, 14)) B hX 0 hk27 rfl (by decide) (by decide) (v := .ref b28) (x_Vr (c := 1) (j := 0) rfl (by decide) hb28) q339 (fun _ h => h) dX0_guess_40 ?_
    refine lv_aload_n hx hb dX0_guess_43 rfl (lv_at hl 0 rfl) ?_
    obtain ⟨hk29, hf⟩ := chk_some hf
    refine xr_getN (q := (RX11, TX11, 12)) B hX 6 hk29 rfl (by decide) (by decide) (x_Vi rfl (by decide)) nq826 (fun _ h => h) dX0_guess_44 ?_
    obtain ⟨hk30, hf⟩ := chk_some hf
    obtain ⟨hw31, hf⟩ := chk_some hf
    obtain ⟨S32, eS32, hf⟩ := bd_some hf
    refine xr_putN (S' := S32) (q := (RX1, TX1, 14)) (v := .int (xi S26 806 a6 0)) (ty0 := tyX1) B hX 6 hk30 rfl (by decide) hw31 (by decide) (by rw [eS32]; exact x_Vup_i (k := 2) (j := 6) rfl (by decide)) tyX1_ok (fun i h1 h2 => nmX1 i (Nat.lt_of_lt_of_le h1 (by decide)) 6 (by decide) h2) rfl rfl rfl nq230 (fun _ h => h) dX0_guess_47 (fun H locs hX => ?_)
    refine w_i eS32 ?_
    have hk24 := ks_i eS32 hk24
    have hw25 := kw_i eS32 hw25
    have hk27 := ks_i eS32 hk27
    have hk29 := ks_i eS32 hk29
    have hk30 := ks_i eS32 hk30
    have hw31 := kw_i eS32 hw31
    refine lv_aload_n hx hb dX0_guess_50 rfl (lv_at hl 0 rfl) ?_
    refine xr_getN (q := (RX11, TX11, 12)) B hX 6 hk29 rfl (by decide) (by decide) (x_Vi rfl (by decide)) nq826 (fun _ h => h) dX0_guess_51 ?_
    cases hf
    exact hret _ _ _ _ rfl hX dX0_guess_54
