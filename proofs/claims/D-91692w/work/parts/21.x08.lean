set_option maxRecDepth 100000
def f_X1_be_L114 (o : Nat) (p0 : Nat) (x34 : Int32) (S35 : XS) : Option ((Int32 × XS) ⊕ ((XS))) :=
  chk (xk S35 p0 = 2) <| bnd (xr S35 211 p0 0) fun b37 => chk (xk S35 b37 = 19) <| bnd (f_J2_size S35 b37) fun r38 => (if r38 ≤ x34 then some (.inr S35) else chk (xk S35 o = 2) <| bnd (xr S35 211 o 0) fun b42 => bnd (xr S35 211 p0 0) fun b43 => chk (xk S35 b43 = 19) <| bnd (f_J2_get S35 b43 x34) fun b44 => chk (xk S35 b44 = 7) <| bnd (f_X10_copy S35 b44) <| u2 fun b47 S48 => chk (xk S48 b42 = 19) <| bnd (f_J2_add S48 b42 b47) <| u2 fun r49 S50 => bd (x34 + nI 1) fun x52 => some (.inl (x52, S50)))
def f_X1_be (S : XS) (o : Nat) (p0 : Nat) : Option XS :=
  chk (xk S p0 = 2) <| bnd (xr S 200 p0 0) fun b2 => chk (xk S o = 2) <| bnd (xr S 200 o 0) fun b4 => chk (xk S b2 = 51) <| chk (xk S b4 = 51) <| chk (xb S ≤ b4) <| chk (0 ≤ nI 0 ∧ 0 ≤ nI 0 ∧ 0 ≤ nI 400 ∧ (nI 0).toNatClampNeg + (nI 400).toNatClampNeg ≤ xn S b2 ∧ (nI 0).toNatClampNeg + (nI 400).toNatClampNeg ≤ xn S b4) <| bd (s_cp S 51 b2 (nI 0).toNatClampNeg b4 (nI 0).toNatClampNeg (nI 400).toNatClampNeg) fun S9 => chk (xb S9 ≤ o) <| bd (s_i S9 201 o 0 (xi S9 201 p0 0)) fun S11 => bd (s_i S11 202 o 0 (xi S11 202 p0 0)) fun S12 => bd (s_i S12 203 o 0 (xi S12 203 p0 0)) fun S13 => bd (s_i S13 204 o 0 (xi S13 204 p0 0)) fun S14 => bd (s_i S14 205 o 0 (xi S14 205 p0 0)) fun S15 => bd (s_i S15 206 o 0 (xi S15 206 p0 0)) fun S16 => bd (s_l S16 207 o 0 (xl S16 207 p0 0)) fun S17 => bnd (xr S17 208 p0 0) fun b18 => bnd (xr S17 208 o 0) fun b19 => chk (xk S17 b18 = 53) <| chk (xk S17 b19 = 53) <| chk (xb S17 ≤ b19) <| chk (0 ≤ nI 0 ∧ 0 ≤ nI 0 ∧ 0 ≤ nI 4 ∧ (nI 0).toNatClampNeg + (nI 4).toNatClampNeg ≤ xn S17 b18 ∧ (nI 0).toNatClampNeg + (nI 4).toNatClampNeg ≤ xn S17 b19) <| bd (s_cp S17 53 b18 (nI 0).toNatClampNeg b19 (nI 0).toNatClampNeg (nI 4).toNatClampNeg) fun S24 => bd (s_i S24 209 o 0 (xi S24 209 p0 0)) fun S25 => bnd (xr S25 210 o 0) fun b26 => bnd (xr S25 210 p0 0) fun b27 => chk (xk S25 b26 = 3) <| bnd (f_X2_be S25 b26 b27) fun S28 => chk (xk S28 o = 2) <| bnd (xr S28 211 o 0) fun b31 => chk (xk S28 b31 = 19) <| bnd (f_J2_clear S28 b31) fun S32 => bnd (wO (fun t : Int32 × XS => f_X1_be_L114 o p0 t.1 t.2) fu (nI 0, S32)) <| fun S55 => chk (xk S55 o = 2) <| bnd (xr S55 212 o 0) fun b57 => chk (xk S55 b57 = 19) <| bnd (f_J2_clear S55 b57) fun S58 => chk (xk S58 o = 2) <| bnd (xr S58 212 o 0) fun b61 => chk (xk S58 p0 = 2) <| bnd (xr S58 212 p0 0) fun b63 => chk (xk S58 b61 = 19) <| bnd (f_J2_addAll S58 b61 b63) <| u2 fun r64 S65 => chk (xk S65 p0 = 2) <| (oc (xr S65 213 p0 0) (chk (xk S65 o = 2) <| chk (xb S65 ≤ o) <| bd (s_r S65 213 o 0 none) fun S72 => some S72) fun b68 => chk (xk S65 o = 2) <| chk (xb S65 ≤ o) <| bd (s_r S65 213 o 0 (some b68)) fun S75 => some S75)
set_option maxHeartbeats 4000000 in
set_option maxRecDepth 100000 in
theorem c_X1_be (l : Launch) (D : XD) (S : XS) (o : Nat) (p0 : Nat) {S' : XS} (hf : f_X1_be S o p0 = some S') : x_Met l yX1_be cX1_be 3 (Option.none : Option Jvm.ClassFile.FieldType) 7 191 D [.ref o, .ref p0] S none S' := by
  refine x_metV RX1 (by decide) rfl (Nat.le_of_ble_eq_true rfl) (fun p e s m args below meth c Q B hnm hret H locs hX ls hl => ?_)
  have hx := B.1
  have hb := B.2.1
  have hml := B.2.2.1
  have hown := B.2.2.2.1
  have hts := B.2.2.2.2
  have hl : lv_has ls 3 [(0, .ref o), (1, .ref p0)] := hl
  unfold f_X1_be at hf
  refine lv_aload_n hx hb dX1_be_0 rfl (lv_at hl 1 rfl) ?_
  obtain ⟨hk1, hf⟩ := chk_some hf
  obtain ⟨b2, hb2, hf⟩ := bnd_some hf
  refine xr_get (q := (RX1, TX1, 14)) B hX 0 hk1 rfl (by decide) (by decide) (v := .ref b2) (x_Vr (c := 2) (j := 0) rfl (by decide) hb2) q217 (fun _ h => h) dX1_be_1 ?_
  refine lv_iconst (v := nI 0) hx hb dX1_be_4 ic0 ?_
  refine lv_aload_n hx hb dX1_be_5 rfl (lv_at hl 0 rfl) ?_
  obtain ⟨hk3, hf⟩ := chk_some hf
  obtain ⟨b4, hb4, hf⟩ := bnd_some hf
  refine xr_get (q := (RX1, TX1, 14)) B hX 0 hk3 rfl (by decide) (by decide) (v := .ref b4) (x_Vr (c := 2) (j := 0) rfl (by decide) hb4) q217 (fun _ h => h) dX1_be_6 ?_
  refine lv_iconst (v := nI 0) hx hb dX1_be_9 ic0 ?_
  refine lv_sipush (v := nI 400) hx hb dX1_be_10 sp400 ?_
  obtain ⟨hk5, hf⟩ := chk_some hf
  obtain ⟨hk6, hf⟩ := chk_some hf
  obtain ⟨hw7, hf⟩ := chk_some hf
  obtain ⟨hr8, hf⟩ := chk_some hf
  obtain ⟨S9, eS9, hf⟩ := bd_some hf
  refine xr_copy (rest := []) B hX hk5 hk6 hw7 (by decide) rfl hr8 (x_vals51 hX) eS9 hl.1 q1621 q508 q507 q118 (Nat.le_of_ble_eq_true rfl) (Nat.le_of_ble_eq_true rfl) dX1_be_13 (fun H locs hX => ?_)
  refine w_c eS9 ?_
  have hk1 := ks_c eS9 hk1
  have hk3 := ks_c eS9 hk3
  have hk5 := ks_c eS9 hk5
  have hk6 := ks_c eS9 hk6
  have hw7 := kw_c eS9 hw7
  refine lv_aload_n hx hb dX1_be_16 rfl (lv_at hl 0 rfl) ?_
  refine lv_aload_n hx hb dX1_be_17 rfl (lv_at hl 1 rfl) ?_
  refine xr_get (q := (RX1, TX1, 14)) B hX 1 hk1 rfl (by decide) (by decide) (x_Vi rfl (by decide)) q219 (fun _ h => h) dX1_be_18 ?_
  obtain ⟨hw10, hf⟩ := chk_some hf
  obtain ⟨S11, eS11, hf⟩ := bd_some hf
  refine xr_put (S' := S11) (q := (RX1, TX1, 14)) (v := .int (xi S9 201 p0 0)) (ty0 := tyX1) B hX 1 hk3 rfl (by decide) hw10 (by decide) (by rw [eS11]; exact x_Vup_i (k := 2) (j := 1) rfl (by decide)) tyX1_ok (fun i h1 h2 => nmX1 i (Nat.lt_of_lt_of_le h1 (by decide)) 1 (by decide) h2) rfl rfl rfl q219 (fun _ h => h) dX1_be_21 (fun H locs hX => ?_)
  refine w_i eS11 ?_
  have hk1 := ks_i eS11 hk1
  have hk3 := ks_i eS11 hk3
  have hk5 := ks_i eS11 hk5
  have hk6 := ks_i eS11 hk6
  have hw7 := kw_i eS11 hw7
  have hw10 := kw_i eS11 hw10
  refine lv_aload_n hx hb dX1_be_24 rfl (lv_at hl 0 rfl) ?_
  refine lv_aload_n hx hb dX1_be_25 rfl (lv_at hl 1 rfl) ?_
  refine xr_get (q := (RX1, TX1, 14)) B hX 2 hk1 rfl (by decide) (by decide) (x_Vi rfl (by decide)) q221 (fun _ h => h) dX1_be_26 ?_
  obtain ⟨S12, eS12, hf⟩ := bd_some hf
  refine xr_put (S' := S12) (q := (RX1, TX1, 14)) (v := .int (xi S11 202 p0 0)) (ty0 := tyX1) B hX 2 hk3 rfl (by decide) hw10 (by decide) (by rw [eS12]; exact x_Vup_i (k := 2) (j := 2) rfl (by decide)) tyX1_ok (fun i h1 h2 => nmX1 i (Nat.lt_of_lt_of_le h1 (by decide)) 2 (by decide) h2) rfl rfl rfl q221 (fun _ h => h) dX1_be_29 (fun H locs hX => ?_)
  refine w_i eS12 ?_
  have hk1 := ks_i eS12 hk1
  have hk3 := ks_i eS12 hk3
  have hk5 := ks_i eS12 hk5
  have hk6 := ks_i eS12 hk6
  have hw7 := kw_i eS12 hw7
  have hw10 := kw_i eS12 hw10
  refine lv_aload_n hx hb dX1_be_32 rfl (lv_at hl 0 rfl) ?_
  refine lv_aload_n hx hb dX1_be_33 rfl (lv_at hl 1 rfl) ?_
  refine xr_get (q := (RX1, TX1, 14)) B hX 3 hk1 rfl (by decide) (by decide) (x_Vi rfl (by decide)) q223 (fun _ h => h) dX1_be_34 ?_
  obtain ⟨S13, eS13, hf⟩ := bd_some hf
  refine xr_put (S' := S13) (q := (RX1, TX1, 14)) (v := .int (xi S12 203 p0 0)) (ty0 := tyX1) B hX 3 hk3 rfl (by decide) hw10 (by decide) (by rw [eS13]; exact x_Vup_i (k := 2) (j := 3) rfl (by decide)) tyX1_ok (fun i h1 h2 => nmX1 i (Nat.lt_of_lt_of_le h1 (by decide)) 3 (by decide) h2) rfl rfl rfl q223 (fun _ h => h) dX1_be_37 (fun H locs hX => ?_)
  refine w_i eS13 ?_
  have hk1 := ks_i eS13 hk1
  have hk3 := ks_i eS13 hk3
  have hk5 := ks_i eS13 hk5
  have hk6 := ks_i eS13 hk6
  have hw7 := kw_i eS13 hw7
  have hw10 := kw_i eS13 hw10
  refine lv_aload_n hx hb dX1_be_40 rfl (lv_at hl 0 rfl) ?_
  refine lv_aload_n hx hb dX1_be_41 rfl (lv_at hl 1 rfl) ?_
  refine xr_get (q := (RX1, TX1, 14)) B hX 4 hk1 rfl (by decide) (by decide) (x_Vi rfl (by decide)) q225 (fun _ h => h) dX1_be_42 ?_
  obtain ⟨S14, eS14, hf⟩ := bd_some hf
  refine xr_put (S' := S14) (q := (RX1, TX1, 14)) (v := .int (xi S13 204 p0 0)) (ty0 := tyX1) B hX 4 hk3 rfl (by decide) hw10 (by decide) (by rw [eS14]; exact x_Vup_i (k := 2) (j := 4) rfl (by decide)) tyX1_ok (fun i h1 h2 => nmX1 i (Nat.lt_of_lt_of_le h1 (by decide)) 4 (by decide) h2) rfl rfl rfl q225 (fun _ h => h) dX1_be_45 (fun H locs hX => ?_)
  refine w_i eS14 ?_
  have hk1 := ks_i eS14 hk1
  have hk3 := ks_i eS14 hk3
  have hk5 := ks_i eS14 hk5
  have hk6 := ks_i eS14 hk6
  have hw7 := kw_i eS14 hw7
  have hw10 := kw_i eS14 hw10
  refine lv_aload_n hx hb dX1_be_48 rfl (lv_at hl 0 rfl) ?_
  refine lv_aload_n hx hb dX1_be_49 rfl (lv_at hl 1 rfl) ?_
  refine xr_get (q := (RX1, TX1, 14)) B hX 5 hk1 rfl (by decide) (by decide) (x_Vi rfl (by decide)) q227 (fun _ h => h) dX1_be_50 ?_
  obtain ⟨S15, eS15, hf⟩ := bd_some hf
  refine xr_put (S' := S15) (q := (RX1, TX1, 14)) (v := .int (xi S14 205 p0 0)) (ty0 := tyX1) B hX 5 hk3 rfl (by decide) hw10 (by decide) (by rw [eS15]; exact x_Vup_i (k := 2) (j := 5) rfl (by decide)) tyX1_ok (fun i h1 h2 => nmX1 i (Nat.lt_of_lt_of_le h1 (by decide)) 5 (by decide) h2) rfl rfl rfl q227 (fun _ h => h) dX1_be_53 (fun H locs hX => ?_)
  refine w_i eS15 ?_
  have hk1 := ks_i eS15 hk1
  have hk3 := ks_i eS15 hk3
  have hk5 := ks_i eS15 hk5
  have hk6 := ks_i eS15 hk6
  have hw7 := kw_i eS15 hw7
  have hw10 := kw_i eS15 hw10
  refine lv_aload_n hx hb dX1_be_56 rfl (lv_at hl 0 rfl) ?_
  refine lv_aload_n hx hb dX1_be_57 rfl (lv_at hl 1 rfl) ?_
  refine xr_get (q := (RX1, TX1, 14)) B hX 6 hk1 rfl (by decide) (by decide) (x_Vi rfl (by decide)) q229 (fun _ h => h) dX1_be_58 ?_
  obtain ⟨S16, eS16, hf⟩ := bd_some hf
  refine xr_put (S' := S16) (q := (RX1, TX1, 14)) (v := .int (xi S15 206 p0 0)) (ty0 := tyX1) B hX 6 hk3 rfl (by decide) hw10 (by decide) (by rw [eS16]; exact x_Vup_i (k := 2) (j := 6) rfl (by decide)) tyX1_ok (fun i h1 h2 => nmX1 i (Nat.lt_of_lt_of_le h1 (by decide)) 6 (by decide) h2) rfl rfl rfl q229 (fun _ h => h) dX1_be_61 (fun H locs hX => ?_)
  refine w_i eS16 ?_
  have hk1 := ks_i eS16 hk1
  have hk3 := ks_i eS16 hk3
  have hk5 := ks_i eS16 hk5
  have hk6 := ks_i eS16 hk6
  have hw7 := kw_i eS16 hw7
  have hw10 := kw_i eS16 hw10
  refine lv_aload_n hx hb dX1_be_64 rfl (lv_at hl 0 rfl) ?_
  refine lv_aload_n hx hb dX1_be_65 rfl (lv_at hl 1 rfl) ?_
  refine xr_get (q := (RX1, TX1, 14)) B hX 7 hk1 rfl (by decide) (by decide) (x_Vl rfl (by decide)) q232 (fun _ h => h) dX1_be_66 ?_
  obtain ⟨S17, eS17, hf⟩ := bd_some hf
  refine xr_put (S' := S17) (q := (RX1, TX1, 14)) (v := .long (xl S16 207 p0 0)) (ty0 := tyX1) B hX 7 hk3 rfl (by decide) hw10 (by decide) (by rw [eS17]; exact x_Vup_l (k := 2) (j := 7) rfl (by decide)) tyX1_ok (fun i h1 h2 => nmX1 i (Nat.lt_of_lt_of_le h1 (by decide)) 7 (by decide) h2) rfl rfl rfl q232 (fun _ h => h) dX1_be_69 (fun H locs hX => ?_)
  refine w_l eS17 ?_
  have hk1 := ks_l eS17 hk1
  have hk3 := ks_l eS17 hk3
  have hk5 := ks_l eS17 hk5
  have hk6 := ks_l eS17 hk6
  have hw7 := kw_l eS17 hw7
  have hw10 := kw_l eS17 hw10
  refine lv_aload_n hx hb dX1_be_72 rfl (lv_at hl 1 rfl) ?_
  obtain ⟨b18, hb18, hf⟩ := bnd_some hf
  refine xr_get (q := (RX1, TX1, 14)) B hX 8 hk1 rfl (by decide) (by decide) (v := .ref b18) (x_Vr (c := 2) (j := 8) rfl (by decide) hb18) q234 (fun _ h => h) dX1_be_73 ?_
  refine lv_iconst (v := nI 0) hx hb dX1_be_76 ic0 ?_
  refine lv_aload_n hx hb dX1_be_77 rfl (lv_at hl 0 rfl) ?_
  obtain ⟨b19, hb19, hf⟩ := bnd_some hf
  refine xr_get (q := (RX1, TX1, 14)) B hX 8 hk3 rfl (by decide) (by decide) (v := .ref b19) (x_Vr (c := 2) (j := 8) rfl (by decide) hb19) q234 (fun _ h => h) dX1_be_78 ?_
  refine lv_iconst (v := nI 0) hx hb dX1_be_81 ic0 ?_
  refine lv_iconst (v := nI 4) hx hb dX1_be_82 ic4 ?_
  obtain ⟨hk20, hf⟩ := chk_some hf
  obtain ⟨hk21, hf⟩ := chk_some hf
  obtain ⟨hw22, hf⟩ := chk_some hf
  obtain ⟨hr23, hf⟩ := chk_some hf
  obtain ⟨S24, eS24, hf⟩ := bd_some hf
  refine xr_copy (rest := []) B hX hk20 hk21 hw22 (by decide) rfl hr23 x_vals53 eS24 hl.1 q1621 q508 q507 q118 (Nat.le_of_ble_eq_true rfl) (Nat.le_of_ble_eq_true rfl) dX1_be_83 (fun H locs hX => ?_)
  refine w_c eS24 ?_
  have hk1 := ks_c eS24 hk1
  have hk3 := ks_c eS24 hk3
  have hk5 := ks_c eS24 hk5
  have hk6 := ks_c eS24 hk6
  have hw7 := kw_c eS24 hw7
  have hw10 := kw_c eS24 hw10
  have hk20 := ks_c eS24 hk20
  have hk21 := ks_c eS24 hk21
  have hw22 := kw_c eS24 hw22
  refine lv_aload_n hx hb dX1_be_86 rfl (lv_at hl 0 rfl) ?_
  refine lv_aload_n hx hb dX1_be_87 rfl (lv_at hl 1 rfl) ?_
  refine xr_get (q := (RX1, TX1, 14)) B hX 9 hk1 rfl (by decide) (by decide) (x_Vi rfl (by decide)) q236 (fun _ h => h) dX1_be_88 ?_
  obtain ⟨S25, eS25, hf⟩ := bd_some hf
  refine xr_put (S' := S25) (q := (RX1, TX1, 14)) (v := .int (xi S24 209 p0 0)) (ty0 := tyX1) B hX 9 hk3 rfl (by decide) hw10 (by decide) (by rw [eS25]; exact x_Vup_i (k := 2) (j := 9) rfl (by decide)) tyX1_ok (fun i h1 h2 => nmX1 i (Nat.lt_of_lt_of_le h1 (by decide)) 9 (by decide) h2) rfl rfl rfl q236 (fun _ h => h) dX1_be_91 (fun H locs hX => ?_)
  refine w_i eS25 ?_
  have hk1 := ks_i eS25 hk1
  have hk3 := ks_i eS25 hk3
  have hk5 := ks_i eS25 hk5
  have hk6 := ks_i eS25 hk6
  have hw7 := kw_i eS25 hw7
  have hw10 := kw_i eS25 hw10
  have hk20 := ks_i eS25 hk20
  have hk21 := ks_i eS25 hk21
  have hw22 := kw_i eS25 hw22
  refine lv_aload_n hx hb dX1_be_94 rfl (lv_at hl 0 rfl) ?_
  obtain ⟨b26, hb26, hf⟩ := bnd_some hf
  refine xr_get (q := (RX1, TX1, 14)) B hX 10 hk3 rfl (by decide) (by decide) (v := .ref b26) (x_Vr (c := 2) (j := 10) rfl (by decide) hb26) q238 (fun _ h => h) dX1_be_95 ?_
  refine lv_aload_n hx hb dX1_be_98 rfl (lv_at hl 1 rfl) ?_
  obtain ⟨b27, hb27, hf⟩ := bnd_some hf
  refine xr_get (q := (RX1, TX1, 14)) B hX 10 hk1 rfl (by decide) (by decide) (v := .ref b27) (x_Vr (c := 2) (j := 10) rfl (by decide) hb27) q238 (fun _ h => h) dX1_be_99 ?_
  obtain ⟨hk29, hf⟩ := chk_some hf
  obtain ⟨S28, hcS28, hf⟩ := bnd_some hf
  refine xr_callVC (rest := []) (q := (RX2, TX2, 2)) B hX (c_X2_be l D S25 b26 b27 hcS28) hk29 rfl (by decide) q1622 q1502 (Or.inl q1503) q105 q1504 hd_X2_be ⟨Nat.le_of_ble_eq_true rfl, Nat.le_of_ble_eq_true rfl⟩ rfl hl.1 rfl (Nat.le_of_ble_eq_true rfl) dX1_be_102 (fun H locs hX => ?_)
  refine lv_aload_n hx hb dX1_be_105 rfl (lv_at hl 0 rfl) ?_
  obtain ⟨hk30, hf⟩ := chk_some hf
  obtain ⟨b31, hb31, hf⟩ := bnd_some hf
  refine xr_get (q := (RX1, TX1, 14)) B hX 11 hk30 rfl (by decide) (by decide) (v := .ref b31) (x_Vr (c := 2) (j := 11) rfl (by decide) hb31) q240 (fun _ h => h) dX1_be_106 ?_
  obtain ⟨hk33, hf⟩ := chk_some hf
  obtain ⟨S32, hcS32, hf⟩ := bnd_some hf
  refine xr_callVC (rest := []) (q := (RJ2, TJ2, 3)) B hX (c_J2_clear l D S28 b31 hcS32) hk33 rfl (by decide) q1623 q1350 (Or.inl q1351) q108 q1352 hd_J2_clear ⟨Nat.le_of_ble_eq_true rfl, Nat.le_of_ble_eq_true rfl⟩ rfl hl.1 rfl (Nat.le_of_ble_eq_true rfl) dX1_be_109 (fun H locs hX => ?_)
  refine lv_iconst (v := nI 0) hx hb dX1_be_112 ic0 ?_
  refine lv_istore_n (lv' := [(2, .int (nI 0)), (0, .ref o), (1, .ref p0)]) hx hb dX1_be_113 rfl hl (by decide) rfl (fun ls hl => ?_)
  obtain ⟨y54, hxy54, hf⟩ := bnd_some hf
  have hy54 : (fun t : XS => ∀ (H : Heap) (locs : List Loc) (ls : Array Slot), x_I D S s H locs t → lv_has ls 3 [(0, .ref o), (1, .ref p0)] → W p l e (x_R 7 191 S) s m args below meth c H locs (xz t - xz S) (xu t - xu S) Q (F0 m 153 ls [])) y54 := by
    obtain ⟨S55, rfl⟩ : ∃ z, z = y54 := ⟨_, rfl⟩
    intro H locs ls hX hl
    refine lv_aload_n hx hb dX1_be_153 rfl (lv_at hl 0 rfl) ?_
    obtain ⟨hk56, hf⟩ := chk_some hf
    obtain ⟨b57, hb57, hf⟩ := bnd_some hf
    refine xr_get (q := (RX1, TX1, 14)) B hX 12 hk56 rfl (by decide) (by decide) (v := .ref b57) (x_Vr (c := 2) (j := 12) rfl (by decide) hb57) q242 (fun _ h => h) dX1_be_154 ?_
    obtain ⟨hk59, hf⟩ := chk_some hf
    obtain ⟨S58, hcS58, hf⟩ := bnd_some hf
    refine xr_callVC (rest := []) (q := (RJ2, TJ2, 3)) B hX (c_J2_clear l D S55 b57 hcS58) hk59 rfl (by decide) q1623 q1350 (Or.inl q1351) q108 q1352 hd_J2_clear ⟨Nat.le_of_ble_eq_true rfl, Nat.le_of_ble_eq_true rfl⟩ rfl hl.1 rfl (Nat.le_of_ble_eq_true rfl) dX1_be_157 (fun H locs hX => ?_)
    refine lv_aload_n hx hb dX1_be_160 rfl (lv_at hl 0 rfl) ?_
    obtain ⟨hk60, hf⟩ := chk_some hf
    obtain ⟨b61, hb61, hf⟩ := bnd_some hf
    refine xr_get (q := (RX1, TX1, 14)) B hX 12 hk60 rfl (by decide) (by decide) (v := .ref b61) (x_Vr (c := 2) (j := 12) rfl (by decide) hb61) q242 (fun _ h => h) dX1_be_161 ?_
    refine lv_aload_n hx hb dX1_be_164 rfl (lv_at hl 1 rfl) ?_
    obtain ⟨hk62, hf⟩ := chk_some hf
    obtain ⟨b63, hb63, hf⟩ := bnd_some hf
    refine xr_get (q := (RX1, TX1, 14)) B hX 12 hk62 rfl (by decide) (by decide) (v := .ref b63) (x_Vr (c := 2) (j := 12) rfl (by decide) hb63) q242 (fun _ h => h) dX1_be_165 ?_
    obtain ⟨hk66, hf⟩ := chk_some hf
    obtain ⟨⟨r64, S65⟩, hcr64, hf⟩ := bnd_some hf
    have hf := u2_at hf
    refine xr_callVC (rest := []) (q := (RJ2, TJ2, 3)) B hX (c_J2_addAll l D S58 b61 b63 hcr64) hk66 rfl (by decide) q1634 q1508 (Or.inl q1509) q108 q1510 hd_J2_addAll ⟨Nat.le_of_ble_eq_true rfl, Nat.le_of_ble_eq_true rfl⟩ rfl hl.1 rfl (Nat.le_of_ble_eq_true rfl) dX1_be_168 (fun H locs hX => ?_)
    refine lv_pop hx hb dX1_be_171 rfl ?_
    refine lv_aload_n hx hb dX1_be_172 rfl (lv_at hl 0 rfl) ?_
    refine lv_aload_n hx hb dX1_be_173 rfl (lv_at hl 1 rfl) ?_
    obtain ⟨hk67, hf⟩ := chk_some hf
    rcases ho69 : xr S65 213 p0 0 with _ | b68
    · have hf := oc_none ho69 hf
      refine xr_get (q := (RX1, TX1, 14)) B hX 13 hk67 rfl (by decide) (by decide) (v := .null) (x_Vr (c := 2) (j := 13) rfl (by decide) ho69) q244 (fun _ h => h) dX1_be_174 ?_
      obtain ⟨hk70, hf⟩ := chk_some hf
      obtain ⟨hw71, hf⟩ := chk_some hf
      obtain ⟨S72, eS72, hf⟩ := bd_some hf
      refine xr_put (S' := S72) (q := (RX1, TX1, 14)) (v := va_rf none) (ty0 := tyX1) B hX 13 hk70 rfl (by decide) hw71 (by decide) (by rw [eS72]; exact x_Vup_r (k := 2) (j := 13) rfl (by decide)) tyX1_ok (fun i h1 h2 => nmX1 i (Nat.lt_of_lt_of_le h1 (by decide)) 13 (by decide) h2) rfl rfl rfl q244 (fun _ h => h) dX1_be_177 (fun H locs hX => ?_)
      refine w_r eS72 ?_
      have hk67 := ks_r eS72 hk67
      have hk70 := ks_r eS72 hk70
      have hw71 := kw_r eS72 hw71
      cases hf
      exact hret _ _ _ _ hX dX1_be_180
    · have hf := oc_some ho69 hf
      refine xr_get (q := (RX1, TX1, 14)) B hX 13 hk67 rfl (by decide) (by decide) (v := .ref b68) (x_Vr (c := 2) (j := 13) rfl (by decide) ho69) q244 (fun _ h => h) dX1_be_174 ?_
      obtain ⟨hk73, hf⟩ := chk_some hf
      obtain ⟨hw74, hf⟩ := chk_some hf
      obtain ⟨S75, eS75, hf⟩ := bd_some hf
      refine xr_put (S' := S75) (q := (RX1, TX1, 14)) (v := va_rf (some b68)) (ty0 := tyX1) B hX 13 hk73 rfl (by decide) hw74 (by decide) (by rw [eS75]; exact x_Vup_r (k := 2) (j := 13) rfl (by decide)) tyX1_ok (fun i h1 h2 => nmX1 i (Nat.lt_of_lt_of_le h1 (by decide)) 13 (by decide) h2) rfl rfl rfl q244 (fun _ h => h) dX1_be_177 (fun H locs hX => ?_)
      refine w_r eS75 ?_
      have hk67 := ks_r eS75 hk67
      have hk73 := ks_r eS75 hk73
      have hw74 := kw_r eS75 hw74
      cases hf
      exact hret _ _ _ _ hX dX1_be_180
  refine lp_W (step := (fun t : Int32 × XS => f_X1_be_L114 o p0 t.1 t.2)) (fun t : Int32 × XS => ∀ (H : Heap) (locs : List Loc) (ls : Array Slot), x_I D S s H locs t.2 → lv_has ls 3 [(0, .ref o), (1, .ref p0), (2, .int t.1)] → W p l e (x_R 7 191 S) s m args below meth c H locs (xz t.2 - xz S) (xu t.2 - xu S) Q (F0 m 114 ls [])) (fun t : XS => ∀ (H : Heap) (locs : List Loc) (ls : Array Slot), x_I D S s H locs t → lv_has ls 3 [(0, .ref o), (1, .ref p0)] → W p l e (x_R 7 191 S) s m args below meth c H locs (xz t - xz S) (xu t - xu S) Q (F0 m 153 ls [])) ?_ fu (nI 0, S32) y54 hxy54 hy54 _ _ _ hX (lv_sub hl [1, 2, 0] rfl)
  clear hf hxy54 hy54
  rintro ⟨x34, S35⟩ oo (hf : f_X1_be_L114 o p0 x34 S35 = some oo) hk
  intro H locs ls hX hl
  unfold f_X1_be_L114 at hf
  refine lv_iload_n hx hb dX1_be_114 rfl (lv_at hl 2 rfl) ?_
  refine lv_aload_n hx hb dX1_be_115 rfl (lv_at hl 1 rfl) ?_
  obtain ⟨hk36, hf⟩ := chk_some hf
  obtain ⟨b37, hb37, hf⟩ := bnd_some hf
  refine xr_get (q := (RX1, TX1, 14)) B hX 11 hk36 rfl (by decide) (by decide) (v := .ref b37) (x_Vr (c := 2) (j := 11) rfl (by decide) hb37) q240 (fun _ h => h) dX1_be_116 ?_
  obtain ⟨hk39, hf⟩ := chk_some hf
  obtain ⟨r38, hcr38, hf⟩ := bnd_some hf
  refine xr_callVC (rest := [.int x34]) (q := (RJ2, TJ2, 3)) B hX (c_J2_size l D S35 b37 hcr38) hk39 rfl (by decide) q1624 q410 (Or.inl q411) q108 q412 hd_J2_size ⟨Nat.le_of_ble_eq_true rfl, Nat.le_of_ble_eq_true rfl⟩ rfl hl.1 rfl (Nat.le_of_ble_eq_true rfl) dX1_be_119 (fun H locs hX => ?_)
  refine lv_icmp_ge (tgt := 153) hx hb dX1_be_122 (by decide) (fun c40 => ?_) (fun c40 => ?_)
  · have hf := it_pos c40 hf
    cases hf
    exact hk _ _ _ hX (lv_sub hl [0, 1] rfl)
  · have hf := it_neg c40 hf
    refine lv_aload_n hx hb dX1_be_125 rfl (lv_at hl 0 rfl) ?_
    obtain ⟨hk41, hf⟩ := chk_some hf
    obtain ⟨b42, hb42, hf⟩ := bnd_some hf
    refine xr_get (q := (RX1, TX1, 14)) B hX 11 hk41 rfl (by decide) (by decide) (v := .ref b42) (x_Vr (c := 2) (j := 11) rfl (by decide) hb42) q240 (fun _ h => h) dX1_be_126 ?_
    refine lv_aload_n hx hb dX1_be_129 rfl (lv_at hl 1 rfl) ?_
    obtain ⟨b43, hb43, hf⟩ := bnd_some hf
    refine xr_get (q := (RX1, TX1, 14)) B hX 11 hk36 rfl (by decide) (by decide) (v := .ref b43) (x_Vr (c := 2) (j := 11) rfl (by decide) hb43) q240 (fun _ h => h) dX1_be_130 ?_
    refine lv_iload_n hx hb dX1_be_133 rfl (lv_at hl 2 rfl) ?_
    obtain ⟨hk45, hf⟩ := chk_some hf
    obtain ⟨b44, hcb44, hf⟩ := bnd_some hf
    refine xr_callVC (rest := [.ref b42]) (q := (RJ2, TJ2, 3)) B hX (c_J2_get l D S35 b43 x34 hcb44) hk45 rfl (by decide) q1625 q524 (Or.inl q525) q108 q526 hd_J2_get ⟨Nat.le_of_ble_eq_true rfl, Nat.le_of_ble_eq_true rfl⟩ rfl hl.1 rfl (Nat.le_of_ble_eq_true rfl) dX1_be_134 (fun H locs hX => ?_)
    obtain ⟨hk46, hf⟩ := chk_some hf
    refine xr_castY (q := (RX10, TX10, 3)) B hX hk46 rfl (by decide) q1626 (Or.inr ⟨rfl, by decide⟩) dX1_be_137 ?_
    obtain ⟨⟨b47, S48⟩, hcb47, hf⟩ := bnd_some hf
    have hf := u2_at hf
    refine xr_callVC (rest := [.ref b42]) (q := (RX10, TX10, 3)) B hX (c_X10_copy l D S35 b44 hcb47) hk46 rfl (by decide) q1627 q1628 (Or.inl q1629) q124 q1630 hd_X10_copy ⟨Nat.le_of_ble_eq_true rfl, Nat.le_of_ble_eq_true rfl⟩ rfl hl.1 rfl (Nat.le_of_ble_eq_true rfl) dX1_be_140 (fun H locs hX => ?_)
    obtain ⟨hk51, hf⟩ := chk_some hf
    obtain ⟨⟨r49, S50⟩, hcr49, hf⟩ := bnd_some hf
    have hf := u2_at hf
    refine xr_callVC (rest := []) (q := (RJ2, TJ2, 3)) B hX (c_J2_add l D S48 b42 b47 hcr49) hk51 rfl (by decide) q1633 q435 (Or.inl q436) q108 q437 hd_J2_add ⟨Nat.le_of_ble_eq_true rfl, Nat.le_of_ble_eq_true rfl⟩ rfl hl.1 rfl (Nat.le_of_ble_eq_true rfl) dX1_be_143 (fun H locs hX => ?_)
    refine lv_pop hx hb dX1_be_146 rfl ?_
    obtain ⟨x52, ex52, hf⟩ := bd_some hf
    refine lv_iinc (v := x52) (lv' := [(2, .int x52), (0, .ref o), (1, .ref p0)]) hx hb dX1_be_147 hl (k := 2) rfl (by rw [ex52]; first | done | rfl) (by decide) rfl (fun ls hl => ?_)
    refine lv_goto (tgt := 114) hx hb dX1_be_150 (by decide) ?_
    cases hf
    exact hk _ _ _ hX (lv_sub hl [1, 2, 0] rfl)
def f_X0_image (S : XS) (o : Nat) (p0 : Int32) : Option (Int32 × XS) :=
  bnd (f_X0_isIn p0 (nI 0) (nI 2)) fun r1 => (if r1 = 0 then some (nI 0, S) else chk (xk S o = 1) <| bnd (xr S 101 o 0) fun b4 => chk (xk S b4 = 56) <| ald (xn S b4) (xr S 56 b4) p0 fun q6 => (oc (q6) (bnd (xr S 101 o 0) fun b9 => chk (xz S < xL S ∧ xu S + 14 ≤ xU S) <| bd (xz S) fun a12 => bd (n_c S 2 0 14) fun S11 => bnd (f_X1_init S11 a12) fun S15 => chk (xk S15 b9 = 56) <| chk (xb S15 ≤ b9) <| chk (xk S15 a12 = 2) <| ast (xn S15 b9) p0 (s_r S15 56 b9 p0.toNatClampNeg (some a12)) fun S18 => chk (xk S18 o = 1) <| bnd (xr S18 101 o 0) fun b21 => chk (xk S18 b21 = 56) <| ald (xn S18 b21) (xr S18 56 b21) p0 fun q23 => bnd q23 fun b24 => bnd (xr S18 100 o 0) fun b25 => chk (xk S18 b24 = 2) <| bnd (f_X1_be S18 b24 b25) fun S26 => some (nI 1, S26)) fun b7 => bnd (xr S 101 o 0) fun b28 => chk (xk S b28 = 56) <| ald (xn S b28) (xr S 56 b28) p0 fun q30 => bnd q30 fun b31 => bnd (xr S 100 o 0) fun b32 => chk (xk S b31 = 2) <| bnd (f_X1_be S b31 b32) fun S33 => some (nI 1, S33)))
set_option maxHeartbeats 4000000 in
set_option maxRecDepth 100000 in
theorem c_X0_image (l : Launch) (D : XD) (S : XS) (o : Nat) (p0 : Int32) {r : Int32} {S' : XS} (hf : f_X0_image S o p0 = some (r, S')) : x_Met l yX0_image cX0_image 2 (Option.some Jvm.ClassFile.FieldType.boolean) 8 213 D [.ref o, .int p0] S (some (.int r)) S' := by
  refine x_metI RX0 (by decide) rfl (Nat.le_of_ble_eq_true rfl) (fun p e s m args below meth c Q B hnm hret H locs hX ls hl => ?_)
  have hx := B.1
  have hb := B.2.1
  have hml := B.2.2.1
  have hown := B.2.2.2.1
  have hts := B.2.2.2.2
  have hl : lv_has ls 2 [(0, .ref o), (1, .int p0)] := hl
  unfold f_X0_image at hf
  refine lv_iload_n hx hb dX0_image_0 rfl (lv_at hl 1 rfl) ?_
  refine lv_iconst (v := nI 0) hx hb dX0_image_1 ic0 ?_
  refine lv_iconst (v := nI 2) hx hb dX0_image_2 ic2 ?_
  obtain ⟨r1, hcr1, hf⟩ := bnd_some hf
  refine pr_callS (rest := []) B (c_X0_isIn l p0 (nI 0) (nI 2) hcr1) (va_cwS 3 hts (lw_S q390 q391 q103 q392) rfl rfl rfl hd_X0_isIn ⟨Nat.le_of_ble_eq_true rfl, Nat.le_of_ble_eq_true rfl⟩) rfl hl.1 rfl (Nat.le_of_ble_eq_true rfl) dX0_image_3 (x_room0 hX) ?_
  refine lv_if_ne (tgt := 11) hx hb dX0_image_6 (by decide) (fun c2 => ?_) (fun c2 => ?_)
  · have hf := it_neg c2 hf
    refine lv_aload_n hx hb dX0_image_11 rfl (lv_at hl 0 rfl) ?_
    obtain ⟨hk3, hf⟩ := chk_some hf
    obtain ⟨b4, hb4, hf⟩ := bnd_some hf
    refine xr_get (q := (RX0, TX0, 14)) B hX 1 hk3 rfl (by decide) (by decide) (v := .ref b4) (x_Vr (c := 1) (j := 1) rfl (by decide) hb4) q340 (fun _ h => h) dX0_image_12 ?_
    refine lv_iload_n hx hb dX0_image_15 rfl (lv_at hl 1 rfl) ?_
    obtain ⟨hk5, hf⟩ := chk_some hf
    obtain ⟨q6, eq6, hiq6, hf⟩ := ald_some hf
    rcases ho8 : q6 with _ | b7
    · have hf := oc_none ho8 hf
      subst ho8
      refine xr_aald B hX hk5 rfl (by decide) rfl hiq6 eq6 dX0_image_16 ?_
      refine W.eq (g2 := F0 m 17 ls [.null]) rfl ?_
      refine lv_ifnonnullN hx hb dX0_image_17 ?_
      refine lv_aload_n hx hb dX0_image_20 rfl (lv_at hl 0 rfl) ?_
      obtain ⟨b9, hb9, hf⟩ := bnd_some hf
      refine xr_get (q := (RX0, TX0, 14)) B hX 1 hk3 rfl (by decide) (by decide) (v := .ref b9) (x_Vr (c := 1) (j := 1) rfl (by decide) hb9) q340 (fun _ h => h) dX0_image_21 ?_
      refine lv_iload_n hx hb dX0_image_24 rfl (lv_at hl 1 rfl) ?_
      obtain ⟨hr10, hf⟩ := chk_some hf
      obtain ⟨a12, ea12, hf⟩ := bd_some hf
      obtain ⟨S11, eS11, hf⟩ := bd_some hf
      have hk3 := ks_n hX eS11 (by decide) hk3
      have hk5 := ks_n hX eS11 (by decide) hk5
      have hk13 := ks_new eS11 ea12
      have hw14 := kw_new hX eS11 ea12
      refine xr_new (q := (RX1, TX1, 14)) (N := 14) (ty0 := tyX1) B hX 2 rfl (by decide) tyX1_ok xd_2 q156 q157 q104 hr10 eS11 dX0_image_25 (fun H hX => ?_)
      refine W.eq (g2 := F0 m 28 ls [.ref a12, .int p0, .ref b9]) (by rw [ea12]; first | done | rfl) ?_
      refine lv_dup hx hb dX0_image_28 rfl ?_
      obtain ⟨S15, hcS15, hf⟩ := bnd_some hf
      refine xr_callIN (rest := [.ref a12, .int p0, .ref b9]) B hX (c_X1_init l D S11 a12 hcS15) nq158 q159 q104 q160 hd_X1_init rfl ⟨Nat.le_of_ble_eq_true rfl, Nat.le_of_ble_eq_true rfl⟩ rfl hl.1 rfl (Nat.le_of_ble_eq_true rfl) dX0_image_29 (fun H locs hX => ?_)
      obtain ⟨hk16, hf⟩ := chk_some hf
      obtain ⟨hw17, hf⟩ := chk_some hf
      obtain ⟨hk19, hf⟩ := chk_some hf
      obtain ⟨S18, eS18, hiS18, hf⟩ := ast_some hf
      refine xr_aast (q := (RX1, TX1, 14)) B hX hk16 rfl (by decide) hw17 hk19 rfl (by decide) (Or.inr ⟨rfl, by decide⟩) hiS18 eS18 dX0_image_32 (fun H locs hX => ?_)
      refine w_r eS18 ?_
      have hk16 := ks_r eS18 hk16
      have hw17 := kw_r eS18 hw17
      have hk19 := ks_r eS18 hk19
      refine lv_aload_n hx hb dX0_image_33 rfl (lv_at hl 0 rfl) ?_
      obtain ⟨hk20, hf⟩ := chk_some hf
      obtain ⟨b21, hb21, hf⟩ := bnd_some hf
      refine xr_get (q := (RX0, TX0, 14)) B hX 1 hk20 rfl (by decide) (by decide) (v := .ref b21) (x_Vr (c := 1) (j := 1) rfl (by decide) hb21) q340 (fun _ h => h) dX0_image_34 ?_
      refine lv_iload_n hx hb dX0_image_37 rfl (lv_at hl 1 rfl) ?_
      obtain ⟨hk22, hf⟩ := chk_some hf
      obtain ⟨q23, eq23, hiq23, hf⟩ := ald_some hf
      obtain ⟨b24, hb24, hf⟩ := bnd_some hf
      rw [hb24] at eq23
      refine xr_aald B hX hk22 rfl (by decide) rfl hiq23 eq23 dX0_image_38 ?_
      refine W.eq (g2 := F0 m 39 ls [.ref b24]) rfl ?_
      refine lv_aload_n hx hb dX0_image_39 rfl (lv_at hl 0 rfl) ?_
      obtain ⟨b25, hb25, hf⟩ := bnd_some hf
      refine xr_get (q := (RX0, TX0, 14)) B hX 0 hk20 rfl (by decide) (by decide) (v := .ref b25) (x_Vr (c := 1) (j := 0) rfl (by decide) hb25) q339 (fun _ h => h) dX0_image_40 ?_
      obtain ⟨hk27, hf⟩ := chk_some hf
      obtain ⟨S26, hcS26, hf⟩ := bnd_some hf
      refine xr_callVC (rest := []) (q := (RX1, TX1, 14)) B hX (c_X1_be l D S18 b24 b25 hcS26) hk27 rfl (by decide) q1617 q1618 (Or.inl q1619) q104 q1620 hd_X1_be ⟨Nat.le_of_ble_eq_true rfl, Nat.le_of_ble_eq_true rfl⟩ rfl hl.1 rfl (Nat.le_of_ble_eq_true rfl) dX0_image_43 (fun H locs hX => ?_)
      refine lv_iconst (v := nI 1) hx hb dX0_image_46 ic1 ?_
      cases hf
      exact hret _ _ _ _ rfl hX dX0_image_47
    · have hf := oc_some ho8 hf
      subst ho8
      refine xr_aald B hX hk5 rfl (by decide) rfl hiq6 eq6 dX0_image_16 ?_
      refine W.eq (g2 := F0 m 17 ls [.ref b7]) rfl ?_
      refine lv_ifnonnull (tgt := 33) hx hb dX0_image_17 (by decide) ?_
      refine lv_aload_n hx hb dX0_image_33 rfl (lv_at hl 0 rfl) ?_
      obtain ⟨b28, hb28, hf⟩ := bnd_some hf
      refine xr_get (q := (RX0, TX0, 14)) B hX 1 hk3 rfl (by decide) (by decide) (v := .ref b28) (x_Vr (c := 1) (j := 1) rfl (by decide) hb28) q340 (fun _ h => h) dX0_image_34 ?_
      refine lv_iload_n hx hb dX0_image_37 rfl (lv_at hl 1 rfl) ?_
      obtain ⟨hk29, hf⟩ := chk_some hf
      obtain ⟨q30, eq30, hiq30, hf⟩ := ald_some hf
      obtain ⟨b31, hb31, hf⟩ := bnd_some hf
      rw [hb31] at eq30
      refine xr_aald B hX hk29 rfl (by decide) rfl hiq30 eq30 dX0_image_38 ?_
      refine W.eq (g2 := F0 m 39 ls [.ref b31]) rfl ?_
      refine lv_aload_n hx hb dX0_image_39 rfl (lv_at hl 0 rfl) ?_
      obtain ⟨b32, hb32, hf⟩ := bnd_some hf
      refine xr_get (q := (RX0, TX0, 14)) B hX 0 hk3 rfl (by decide) (by decide) (v := .ref b32) (x_Vr (c := 1) (j := 0) rfl (by decide) hb32) q339 (fun _ h => h) dX0_image_40 ?_
      obtain ⟨hk34, hf⟩ := chk_some hf
      obtain ⟨S33, hcS33, hf⟩ := bnd_some hf
      refine xr_callVC (rest := []) (q := (RX1, TX1, 14)) B hX (c_X1_be l D S b31 b32 hcS33) hk34 rfl (by decide) q1617 q1618 (Or.inl q1619) q104 q1620 hd_X1_be ⟨Nat.le_of_ble_eq_true rfl, Nat.le_of_ble_eq_true rfl⟩ rfl hl.1 rfl (Nat.le_of_ble_eq_true rfl) dX0_image_43 (fun H locs hX => ?_)
      refine lv_iconst (v := nI 1) hx hb dX0_image_46 ic1 ?_
      cases hf
      exact hret _ _ _ _ rfl hX dX0_image_47
  · have hf := it_pos c2 hf
    refine lv_iconst (v := nI 0) hx hb dX0_image_9 ic0 ?_
    cases hf
    exact hret _ _ _ _ rfl hX dX0_image_10
def f_X0_again (S : XS) (o : Nat) (p0 : Int32) : Option (Int32 × XS) :=
  bnd (f_X0_isIn p0 (nI 0) (nI 2)) fun r1 => (if r1 = 0 then some (nI 0, S) else chk (xk S o = 1) <| bnd (xr S 101 o 0) fun b4 => chk (xk S b4 = 56) <| ald (xn S b4) (xr S 56 b4) p0 fun q6 => (oc (q6) (some (nI 0, S)) fun b7 => bnd (xr S 100 o 0) fun b9 => bnd (xr S 101 o 0) fun b10 => chk (xk S b10 = 56) <| ald (xn S b10) (xr S 56 b10) p0 fun q12 => bnd q12 fun b13 => chk (xk S b9 = 2) <| bnd (f_X1_be S b9 b13) fun S14 => chk (xk S14 o = 1) <| chk (xb S14 ≤ o) <| bd (s_i S14 106 o 0 (nI 0)) fun S18 => some (nI 1, S18)))
set_option maxHeartbeats 4000000 in
set_option maxRecDepth 100000 in
theorem c_X0_again (l : Launch) (D : XD) (S : XS) (o : Nat) (p0 : Int32) {r : Int32} {S' : XS} (hf : f_X0_again S o p0 = some (r, S')) : x_Met l yX0_again cX0_again 2 (Option.some Jvm.ClassFile.FieldType.boolean) 8 213 D [.ref o, .int p0] S (some (.int r)) S' := by
  refine x_metI RX0 (by decide) rfl (Nat.le_of_ble_eq_true rfl) (fun p e s m args below meth c Q B hnm hret H locs hX ls hl => ?_)
  have hx := B.1
  have hb := B.2.1
  have hml := B.2.2.1
  have hown := B.2.2.2.1
  have hts := B.2.2.2.2
  have hl : lv_has ls 2 [(0, .ref o), (1, .int p0)] := hl
  unfold f_X0_again at hf
  refine lv_iload_n hx hb dX0_again_0 rfl (lv_at hl 1 rfl) ?_
  refine lv_iconst (v := nI 0) hx hb dX0_again_1 ic0 ?_
  refine lv_iconst (v := nI 2) hx hb dX0_again_2 ic2 ?_
  obtain ⟨r1, hcr1, hf⟩ := bnd_some hf
  refine pr_callS (rest := []) B (c_X0_isIn l p0 (nI 0) (nI 2) hcr1) (va_cwS 3 hts (lw_S q390 q391 q103 q392) rfl rfl rfl hd_X0_isIn ⟨Nat.le_of_ble_eq_true rfl, Nat.le_of_ble_eq_true rfl⟩) rfl hl.1 rfl (Nat.le_of_ble_eq_true rfl) dX0_again_3 (x_room0 hX) ?_
  refine lv_if_eq (tgt := 18) hx hb dX0_again_6 (by decide) (fun c2 => ?_) (fun c2 => ?_)
  · have hf := it_pos c2 hf
    refine lv_iconst (v := nI 0) hx hb dX0_again_18 ic0 ?_
    cases hf
    exact hret _ _ _ _ rfl hX dX0_again_19
  · have hf := it_neg c2 hf
    refine lv_aload_n hx hb dX0_again_9 rfl (lv_at hl 0 rfl) ?_
    obtain ⟨hk3, hf⟩ := chk_some hf
    obtain ⟨b4, hb4, hf⟩ := bnd_some hf
    refine xr_get (q := (RX0, TX0, 14)) B hX 1 hk3 rfl (by decide) (by decide) (v := .ref b4) (x_Vr (c := 1) (j := 1) rfl (by decide) hb4) q340 (fun _ h => h) dX0_again_10 ?_
    refine lv_iload_n hx hb dX0_again_13 rfl (lv_at hl 1 rfl) ?_
    obtain ⟨hk5, hf⟩ := chk_some hf
    obtain ⟨q6, eq6, hiq6, hf⟩ := ald_some hf
    rcases ho8 : q6 with _ | b7
    · have hf := oc_none ho8 hf
      subst ho8
      refine xr_aald B hX hk5 rfl (by decide) rfl hiq6 eq6 dX0_again_14 ?_
      refine W.eq (g2 := F0 m 15 ls [.null]) rfl ?_
      refine lv_ifnonnullN hx hb dX0_again_15 ?_
      refine lv_iconst (v := nI 0) hx hb dX0_again_18 ic0 ?_
      cases hf
      exact hret _ _ _ _ rfl hX dX0_again_19
    · have hf := oc_some ho8 hf
      subst ho8
      refine xr_aald B hX hk5 rfl (by decide) rfl hiq6 eq6 dX0_again_14 ?_
      refine W.eq (g2 := F0 m 15 ls [.ref b7]) rfl ?_
      refine lv_ifnonnull (tgt := 20) hx hb dX0_again_15 (by decide) ?_
      refine lv_aload_n hx hb dX0_again_20 rfl (lv_at hl 0 rfl) ?_
      obtain ⟨b9, hb9, hf⟩ := bnd_some hf
      refine xr_get (q := (RX0, TX0, 14)) B hX 0 hk3 rfl (by decide) (by decide) (v := .ref b9) (x_Vr (c := 1) (j := 0) rfl (by decide) hb9) q339 (fun _ h => h) dX0_again_21 ?_
      refine lv_aload_n hx hb dX0_again_24 rfl (lv_at hl 0 rfl) ?_
      obtain ⟨b10, hb10, hf⟩ := bnd_some hf
      refine xr_get (q := (RX0, TX0, 14)) B hX 1 hk3 rfl (by decide) (by decide) (v := .ref b10) (x_Vr (c := 1) (j := 1) rfl (by decide) hb10) q340 (fun _ h => h) dX0_again_25 ?_
      refine lv_iload_n hx hb dX0_again_28 rfl (lv_at hl 1 rfl) ?_
      obtain ⟨hk11, hf⟩ := chk_some hf
      obtain ⟨q12, eq12, hiq12, hf⟩ := ald_some hf
      obtain ⟨b13, hb13, hf⟩ := bnd_some hf
      rw [hb13] at eq12
      refine xr_aald B hX hk11 rfl (by decide) rfl hiq12 eq12 dX0_again_29 ?_
      refine W.eq (g2 := F0 m 30 ls [.ref b13, .ref b9]) rfl ?_
      obtain ⟨hk15, hf⟩ := chk_some hf
      obtain ⟨S14, hcS14, hf⟩ := bnd_some hf
      refine xr_callVC (rest := []) (q := (RX1, TX1, 14)) B hX (c_X1_be l D S b9 b13 hcS14) hk15 rfl (by decide) q1617 q1618 (Or.inl q1619) q104 q1620 hd_X1_be ⟨Nat.le_of_ble_eq_true rfl, Nat.le_of_ble_eq_true rfl⟩ rfl hl.1 rfl (Nat.le_of_ble_eq_true rfl) dX0_again_30 (fun H locs hX => ?_)
      refine lv_aload_n hx hb dX0_again_33 rfl (lv_at hl 0 rfl) ?_
      refine lv_iconst (v := nI 0) hx hb dX0_again_34 ic0 ?_
      obtain ⟨hk16, hf⟩ := chk_some hf
      obtain ⟨hw17, hf⟩ := chk_some hf
      obtain ⟨S18, eS18, hf⟩ := bd_some hf
      refine xr_put (S' := S18) (q := (RX0, TX0, 14)) (v := .int (nI 0)) (ty0 := tyX0) B hX 6 hk16 rfl (by decide) hw17 (by decide) (by rw [eS18]; exact x_Vup_i (k := 1) (j := 6) rfl (by decide)) tyX0_ok (fun i h1 h2 => nmX0 i (Nat.lt_of_lt_of_le h1 (by decide)) 6 (by decide) h2) rfl rfl rfl q345 (fun _ h => h) dX0_again_35 (fun H locs hX => ?_)
      refine w_i eS18 ?_
      have hk16 := ks_i eS18 hk16
      have hw17 := kw_i eS18 hw17
      refine lv_iconst (v := nI 1) hx hb dX0_again_38 ic1 ?_
      cases hf
      exact hret _ _ _ _ rfl hX dX0_again_39
