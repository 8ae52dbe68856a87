set_option maxRecDepth 100000
def f_X4_least_17_L91 (o : Nat) (p0 : Int64) (S54 : XS) : Option ((XS) ⊕ ((XS))) :=
  chk (xk S54 o = 17) <| bnd (xr S54 1701 o 0) fun b56 => chk (xk S54 b56 = 1) <| bnd (xr S54 109 b56 0) fun b58 => chk (xk S54 b58 = 52) <| ald (xn S54 b58) (xi S54 52 b58) (nI 2) fun v60 => bnd (xs S54 5) fun b61 => bnd (xr S54 1701 o 0) fun b62 => chk (xk S54 b62 = 1) <| bnd (f_X0_land S54 b62) fun b63 => chk (xk S54 b63 = 3) <| bnd (f_X2_size S54 b63 (nI 2)) fun r65 => chk (xk S54 b61 = 52) <| ald (xn S54 b61) (xi S54 52 b61) r65 fun v68 => (if v68 ≤ v60 then some (.inr S54) else bnd (xr S54 1701 o 0) fun b70 => bnd (xr S54 1701 o 0) fun b71 => chk (xk S54 b71 = 1) <| bnd (xr S54 109 b71 0) fun b73 => chk (xk S54 b70 = 1) <| bnd (f_X0_renamed S54 b70 p0 b73) fun r74 => none)
def f_X4_least_17_L54 (o : Nat) (p0 : Int64) (S32 : XS) : Option ((XS) ⊕ ((XS))) :=
  chk (xk S32 o = 17) <| bnd (xr S32 1701 o 0) fun b34 => chk (xk S32 b34 = 1) <| bnd (xr S32 109 b34 0) fun b36 => chk (xk S32 b36 = 52) <| ald (xn S32 b36) (xi S32 52 b36) (nI 1) fun v38 => bnd (xs S32 5) fun b39 => bnd (xr S32 1701 o 0) fun b40 => chk (xk S32 b40 = 1) <| bnd (f_X0_land S32 b40) fun b41 => chk (xk S32 b41 = 3) <| bnd (f_X2_size S32 b41 (nI 1)) fun r43 => chk (xk S32 b39 = 52) <| ald (xn S32 b39) (xi S32 52 b39) r43 fun v46 => (if v46 ≤ v38 then some (.inr S32) else bnd (xr S32 1701 o 0) fun b48 => chk (xk S32 b48 = 1) <| bnd (xr S32 109 b48 0) fun b50 => chk (xk S32 b50 = 52) <| chk (xb S32 ≤ b50) <| ast (xn S32 b50) (nI 2) (s_i S32 52 b50 (nI 2).toNatClampNeg (nI 0)) fun S53 => bnd (wO (fun t : XS => f_X4_least_17_L91 o p0 t) fu S53) <| fun S78 => chk (xk S78 o = 17) <| bnd (xr S78 1701 o 0) fun b80 => chk (xk S78 b80 = 1) <| bnd (xr S78 109 b80 0) fun b82 => chk (xk S78 b82 = 52) <| ald (xn S78 b82) (xi S78 52 b82) (nI 1) fun v84 => chk (xb S78 ≤ b82) <| ast (xn S78 b82) (nI 1) (s_i S78 52 b82 (nI 1).toNatClampNeg (v84 + nI 1)) fun S86 => some (.inl S86))
def f_X4_least_17_L17 (o : Nat) (p0 : Int64) (S10 : XS) : Option ((XS) ⊕ ((XS))) :=
  chk (xk S10 o = 17) <| bnd (xr S10 1701 o 0) fun b12 => chk (xk S10 b12 = 1) <| bnd (xr S10 109 b12 0) fun b14 => chk (xk S10 b14 = 52) <| ald (xn S10 b14) (xi S10 52 b14) (nI 0) fun v16 => bnd (xs S10 5) fun b17 => bnd (xr S10 1701 o 0) fun b18 => chk (xk S10 b18 = 1) <| bnd (f_X0_land S10 b18) fun b19 => chk (xk S10 b19 = 3) <| bnd (f_X2_size S10 b19 (nI 0)) fun r21 => chk (xk S10 b17 = 52) <| ald (xn S10 b17) (xi S10 52 b17) r21 fun v24 => (if v24 ≤ v16 then some (.inr S10) else bnd (xr S10 1701 o 0) fun b26 => chk (xk S10 b26 = 1) <| bnd (xr S10 109 b26 0) fun b28 => chk (xk S10 b28 = 52) <| chk (xb S10 ≤ b28) <| ast (xn S10 b28) (nI 1) (s_i S10 52 b28 (nI 1).toNatClampNeg (nI 0)) fun S31 => bnd (wO (fun t : XS => f_X4_least_17_L54 o p0 t) fu S31) <| fun S89 => chk (xk S89 o = 17) <| bnd (xr S89 1701 o 0) fun b91 => chk (xk S89 b91 = 1) <| bnd (xr S89 109 b91 0) fun b93 => chk (xk S89 b93 = 52) <| ald (xn S89 b93) (xi S89 52 b93) (nI 0) fun v95 => chk (xb S89 ≤ b93) <| ast (xn S89 b93) (nI 0) (s_i S89 52 b93 (nI 0).toNatClampNeg (v95 + nI 1)) fun S97 => some (.inl S97))
def f_X4_least_17 (S : XS) (o : Nat) (p0 : Int64) : Option (Int64 × XS) :=
  chk (xk S o = 17) <| chk (xb S ≤ o) <| bd (s_l S 1700 o 0 (9223372036854775807 : Int64)) fun S3 => bnd (xr S3 1701 o 0) fun b4 => chk (xk S3 b4 = 1) <| bnd (xr S3 109 b4 0) fun b6 => chk (xk S3 b6 = 52) <| chk (xb S3 ≤ b6) <| ast (xn S3 b6) (nI 0) (s_i S3 52 b6 (nI 0).toNatClampNeg (nI 0)) fun S9 => bnd (wO (fun t : XS => f_X4_least_17_L17 o p0 t) fu S9) <| fun S100 => chk (xk S100 o = 17) <| some ((xl S100 1700 o 0), S100)
set_option maxHeartbeats 4000000 in
set_option maxRecDepth 100000 in
theorem c_X4_least_17 (l : Launch) (D : XD) (S : XS) (o : Nat) (p0 : Int64) {r : Int64} {S' : XS} (hf : f_X4_least_17 S o p0 = some (r, S')) : x_Met l yX4_least cX4_least 3 (Option.some Jvm.ClassFile.FieldType.long) 8 181 D [.ref o, .long p0] S (some (.long r)) S' := by
  refine x_metL RX4 (by decide) rfl (Nat.le_of_ble_eq_true rfl) (fun p e s m args below meth c Q B hnm hret H locs hX ls hl => ?_)
  have hx := B.1
  have hb := B.2.1
  have hml := B.2.2.1
  have hown := B.2.2.2.1
  have hts := B.2.2.2.2
  have hl : lv_has ls 3 [(0, .ref o), (1, .long p0)] := hl
  unfold f_X4_least_17 at hf
  refine lv_aload_n hx hb dX4_least_0 rfl (lv_at hl 0 rfl) ?_
  refine lv_ldc2 (v := (9223372036854775807 : Int64)) hx hb hown (hts _ q1416) dX4_least_1 ?_
  obtain ⟨hk1, hf⟩ := chk_some hf
  obtain ⟨hw2, hf⟩ := chk_some hf
  obtain ⟨S3, eS3, hf⟩ := bd_some hf
  refine xr_put (S' := S3) (q := (RX5, TX5, 3)) (v := .long (9223372036854775807 : Int64)) (ty0 := tyX5) B hX 0 hk1 rfl (by decide) hw2 (by decide) (by rw [eS3]; exact x_Vup_l (k := 17) (j := 0) rfl (by decide)) tyX5_ok (by decide +kernel) rfl rfl rfl q315 (fun _ h => h) dX4_least_4 (fun H locs hX => ?_)
  refine w_l eS3 ?_
  have hk1 := ks_l eS3 hk1
  have hw2 := kw_l eS3 hw2
  refine lv_aload_n hx hb dX4_least_7 rfl (lv_at hl 0 rfl) ?_
  obtain ⟨b4, hb4, hf⟩ := bnd_some hf
  refine xr_get (q := (RX5, TX5, 3)) B hX 1 hk1 rfl (by decide) (by decide) (v := .ref b4) (x_Vr (c := 17) (j := 1) rfl (by decide) hb4) q316 (fun _ h => h) dX4_least_8 ?_
  obtain ⟨hk5, hf⟩ := chk_some hf
  obtain ⟨b6, hb6, hf⟩ := bnd_some hf
  refine xr_getN (q := (RX0, TX0, 14)) B hX 9 hk5 rfl (by decide) (by decide) (v := .ref b6) (x_Vr (c := 1) (j := 9) rfl (by decide) hb6) nq348 (fun _ h => h) dX4_least_11 ?_
  refine lv_iconst (v := nI 0) hx hb dX4_least_14 ic0 ?_
  refine lv_iconst (v := nI 0) hx hb dX4_least_15 ic0 ?_
  obtain ⟨hk7, hf⟩ := chk_some hf
  obtain ⟨hw8, hf⟩ := chk_some hf
  obtain ⟨S9, eS9, hiS9, hf⟩ := ast_some hf
  refine xr_iast B hX hk7 hw8 hiS9 eS9 dX4_least_16 (fun H locs hX => ?_)
  refine w_i eS9 ?_
  have hk1 := ks_i eS9 hk1
  have hw2 := kw_i eS9 hw2
  have hk5 := ks_i eS9 hk5
  have hk7 := ks_i eS9 hk7
  have hw8 := kw_i eS9 hw8
  obtain ⟨y99, hxy99, hf⟩ := bnd_some hf
  have hy99 : (fun t : XS => ∀ (H : Heap) (locs : List Loc) (ls : Array Slot), x_I D S s H locs t → lv_has ls 3 [(0, .ref o)] → W p l e (x_R 8 181 S) s m args below meth c H locs (xz t - xz S) (xu t - xu S) Q (F0 m 196 ls [])) y99 := by
    obtain ⟨S100, rfl⟩ : ∃ z, z = y99 := ⟨_, rfl⟩
    intro H locs ls hX hl
    refine lv_aload_n hx hb dX4_least_196 rfl (lv_at hl 0 rfl) ?_
    obtain ⟨hk101, hf⟩ := chk_some hf
    refine xr_get (q := (RX5, TX5, 3)) B hX 0 hk101 rfl (by decide) (by decide) (x_Vl rfl (by decide)) q315 (fun _ h => h) dX4_least_197 ?_
    cases hf
    exact hret _ _ _ _ hX dX4_least_200
  refine lp_W (step := (fun t : XS => f_X4_least_17_L17 o p0 t)) (fun t : XS => ∀ (H : Heap) (locs : List Loc) (ls : Array Slot), x_I D S s H locs t → lv_has ls 3 [(0, .ref o), (1, .long p0)] → W p l e (x_R 8 181 S) s m args below meth c H locs (xz t - xz S) (xu t - xu S) Q (F0 m 17 ls [])) (fun t : XS => ∀ (H : Heap) (locs : List Loc) (ls : Array Slot), x_I D S s H locs t → lv_has ls 3 [(0, .ref o)] → W p l e (x_R 8 181 S) s m args below meth c H locs (xz t - xz S) (xu t - xu S) Q (F0 m 196 ls [])) ?_ fu S9 y99 hxy99 hy99 _ _ _ hX (lv_sub hl [0, 1] rfl)
  clear hf hxy99 hy99
  rintro S10 oo (hf : f_X4_least_17_L17 o p0 S10 = some oo) hk
  intro H locs ls hX hl
  unfold f_X4_least_17_L17 at hf
  refine lv_aload_n hx hb dX4_least_17 rfl (lv_at hl 0 rfl) ?_
  obtain ⟨hk11, hf⟩ := chk_some hf
  obtain ⟨b12, hb12, hf⟩ := bnd_some hf
  refine xr_get (q := (RX5, TX5, 3)) B hX 1 hk11 rfl (by decide) (by decide) (v := .ref b12) (x_Vr (c := 17) (j := 1) rfl (by decide) hb12) q316 (fun _ h => h) dX4_least_18 ?_
  obtain ⟨hk13, hf⟩ := chk_some hf
  obtain ⟨b14, hb14, hf⟩ := bnd_some hf
  refine xr_getN (q := (RX0, TX0, 14)) B hX 9 hk13 rfl (by decide) (by decide) (v := .ref b14) (x_Vr (c := 1) (j := 9) rfl (by decide) hb14) nq348 (fun _ h => h) dX4_least_21 ?_
  refine lv_iconst (v := nI 0) hx hb dX4_least_24 ic0 ?_
  obtain ⟨hk15, hf⟩ := chk_some hf
  obtain ⟨v16, ev16, hiv16, hf⟩ := ald_some hf
  refine xr_iald B hX hk15 hiv16 ev16 dX4_least_25 ?_
  obtain ⟨b17, hb17, hf⟩ := bnd_some hf
  refine xr_getsN B hX (v := .ref b17) (x_statR hX 5 rfl hb17) nq1417 dX4_least_26 ?_
  refine lv_aload_n hx hb dX4_least_29 rfl (lv_at hl 0 rfl) ?_
  obtain ⟨b18, hb18, hf⟩ := bnd_some hf
  refine xr_get (q := (RX5, TX5, 3)) B hX 1 hk11 rfl (by decide) (by decide) (v := .ref b18) (x_Vr (c := 17) (j := 1) rfl (by decide) hb18) q316 (fun _ h => h) dX4_least_30 ?_
  obtain ⟨hk20, hf⟩ := chk_some hf
  obtain ⟨b19, hcb19, hf⟩ := bnd_some hf
  refine xr_callVN (rest := [.ref b17, .int v16]) (q := (RX0, TX0, 14)) B hX (c_X0_land l D S10 b18 hcb19) hk20 rfl (by decide) nq1419 q395 qs0 q103 q396 hd_X0_land ⟨Nat.le_of_ble_eq_true rfl, Nat.le_of_ble_eq_true rfl⟩ rfl hl.1 rfl (Nat.le_of_ble_eq_true rfl) dX4_least_33 (fun H locs hX => ?_)
  refine lv_iconst (v := nI 0) hx hb dX4_least_36 ic0 ?_
  obtain ⟨hk22, hf⟩ := chk_some hf
  obtain ⟨r21, hcr21, hf⟩ := bnd_some hf
  refine xr_callVC (rest := [.ref b17, .int v16]) (q := (RX2, TX2, 2)) B hX (c_X2_size l D S10 b19 (nI 0) hcr21) hk22 rfl (by decide) q1420 q398 (Or.inl q399) q105 q400 hd_X2_size ⟨Nat.le_of_ble_eq_true rfl, Nat.le_of_ble_eq_true rfl⟩ rfl hl.1 rfl (Nat.le_of_ble_eq_true rfl) dX4_least_37 (fun H locs hX => ?_)
  obtain ⟨hk23, hf⟩ := chk_some hf
  obtain ⟨v24, ev24, hiv24, hf⟩ := ald_some hf
  refine xr_iald B hX hk23 hiv24 ev24 dX4_least_40 ?_
  refine lv_icmp_ge (tgt := 196) hx hb dX4_least_41 (by decide) (fun c25 => ?_) (fun c25 => ?_)
  · have hf := it_pos c25 hf
    cases hf
    exact hk _ _ _ hX (lv_sub hl [0] rfl)
  · have hf := it_neg c25 hf
    refine lv_aload_n hx hb dX4_least_44 rfl (lv_at hl 0 rfl) ?_
    obtain ⟨b26, hb26, hf⟩ := bnd_some hf
    refine xr_get (q := (RX5, TX5, 3)) B hX 1 hk11 rfl (by decide) (by decide) (v := .ref b26) (x_Vr (c := 17) (j := 1) rfl (by decide) hb26) q316 (fun _ h => h) dX4_least_45 ?_
    obtain ⟨hk27, hf⟩ := chk_some hf
    obtain ⟨b28, hb28, hf⟩ := bnd_some hf
    refine xr_getN (q := (RX0, TX0, 14)) B hX 9 hk27 rfl (by decide) (by decide) (v := .ref b28) (x_Vr (c := 1) (j := 9) rfl (by decide) hb28) nq348 (fun _ h => h) dX4_least_48 ?_
    refine lv_iconst (v := nI 1) hx hb dX4_least_51 ic1 ?_
    refine lv_iconst (v := nI 0) hx hb dX4_least_52 ic0 ?_
    obtain ⟨hk29, hf⟩ := chk_some hf
    obtain ⟨hw30, hf⟩ := chk_some hf
    obtain ⟨S31, eS31, hiS31, hf⟩ := ast_some hf
    refine xr_iast B hX hk29 hw30 hiS31 eS31 dX4_least_53 (fun H locs hX => ?_)
    refine w_i eS31 ?_
    have hk11 := ks_i eS31 hk11
    have hk13 := ks_i eS31 hk13
    have hk15 := ks_i eS31 hk15
    have hk20 := ks_i eS31 hk20
    have hk22 := ks_i eS31 hk22
    have hk23 := ks_i eS31 hk23
    have hk27 := ks_i eS31 hk27
    have hk29 := ks_i eS31 hk29
    have hw30 := kw_i eS31 hw30
    obtain ⟨y88, hxy88, hf⟩ := bnd_some hf
    have hy88 : (fun t : XS => ∀ (H : Heap) (locs : List Loc) (ls : Array Slot), x_I D S s H locs t → lv_has ls 3 [(0, .ref o), (1, .long p0)] → W p l e (x_R 8 181 S) s m args below meth c H locs (xz t - xz S) (xu t - xu S) Q (F0 m 180 ls [])) y88 := by
      obtain ⟨S89, rfl⟩ : ∃ z, z = y88 := ⟨_, rfl⟩
      intro H locs ls hX hl
      refine lv_aload_n hx hb dX4_least_180 rfl (lv_at hl 0 rfl) ?_
      obtain ⟨hk90, hf⟩ := chk_some hf
      obtain ⟨b91, hb91, hf⟩ := bnd_some hf
      refine xr_get (q := (RX5, TX5, 3)) B hX 1 hk90 rfl (by decide) (by decide) (v := .ref b91) (x_Vr (c := 17) (j := 1) rfl (by decide) hb91) q316 (fun _ h => h) dX4_least_181 ?_
      obtain ⟨hk92, hf⟩ := chk_some hf
      obtain ⟨b93, hb93, hf⟩ := bnd_some hf
      refine xr_getN (q := (RX0, TX0, 14)) B hX 9 hk92 rfl (by decide) (by decide) (v := .ref b93) (x_Vr (c := 1) (j := 9) rfl (by decide) hb93) nq348 (fun _ h => h) dX4_least_184 ?_
      refine lv_iconst (v := nI 0) hx hb dX4_least_187 ic0 ?_
      refine lv_dup2_11 hx hb dX4_least_188 rfl rfl ?_
      obtain ⟨hk94, hf⟩ := chk_some hf
      obtain ⟨v95, ev95, hiv95, hf⟩ := ald_some hf
      refine xr_iald B hX hk94 hiv95 ev95 dX4_least_189 ?_
      refine lv_iconst (v := nI 1) hx hb dX4_least_190 ic1 ?_
      refine lv_iadd hx hb dX4_least_191 ?_
      obtain ⟨hw96, hf⟩ := chk_some hf
      obtain ⟨S97, eS97, hiS97, hf⟩ := ast_some hf
      refine xr_iast B hX hk94 hw96 hiS97 eS97 dX4_least_192 (fun H locs hX => ?_)
      refine w_i eS97 ?_
      have hk90 := ks_i eS97 hk90
      have hk92 := ks_i eS97 hk92
      have hk94 := ks_i eS97 hk94
      have hw96 := kw_i eS97 hw96
      refine lv_goto (tgt := 17) hx hb dX4_least_193 (by decide) ?_
      cases hf
      exact hk _ _ _ hX (lv_sub hl [0, 1] rfl)
    refine lp_W (step := (fun t : XS => f_X4_least_17_L54 o p0 t)) (fun t : XS => ∀ (H : Heap) (locs : List Loc) (ls : Array Slot), x_I D S s H locs t → lv_has ls 3 [(0, .ref o), (1, .long p0)] → W p l e (x_R 8 181 S) s m args below meth c H locs (xz t - xz S) (xu t - xu S) Q (F0 m 54 ls [])) (fun t : XS => ∀ (H : Heap) (locs : List Loc) (ls : Array Slot), x_I D S s H locs t → lv_has ls 3 [(0, .ref o), (1, .long p0)] → W p l e (x_R 8 181 S) s m args below meth c H locs (xz t - xz S) (xu t - xu S) Q (F0 m 180 ls [])) ?_ fu S31 y88 hxy88 hy88 _ _ _ hX (lv_sub hl [0, 1] rfl)
    clear hf hxy88 hy88
    rintro S32 oo (hf : f_X4_least_17_L54 o p0 S32 = some oo) hk
    intro H locs ls hX hl
    unfold f_X4_least_17_L54 at hf
    refine lv_aload_n hx hb dX4_least_54 rfl (lv_at hl 0 rfl) ?_
    obtain ⟨hk33, hf⟩ := chk_some hf
    obtain ⟨b34, hb34, hf⟩ := bnd_some hf
    refine xr_get (q := (RX5, TX5, 3)) B hX 1 hk33 rfl (by decide) (by decide) (v := .ref b34) (x_Vr (c := 17) (j := 1) rfl (by decide) hb34) q316 (fun _ h => h) dX4_least_55 ?_
    obtain ⟨hk35, hf⟩ := chk_some hf
    obtain ⟨b36, hb36, hf⟩ := bnd_some hf
    refine xr_getN (q := (RX0, TX0, 14)) B hX 9 hk35 rfl (by decide) (by decide) (v := .ref b36) (x_Vr (c := 1) (j := 9) rfl (by decide) hb36) nq348 (fun _ h => h) dX4_least_58 ?_
    refine lv_iconst (v := nI 1) hx hb dX4_least_61 ic1 ?_
    obtain ⟨hk37, hf⟩ := chk_some hf
    obtain ⟨v38, ev38, hiv38, hf⟩ := ald_some hf
    refine xr_iald B hX hk37 hiv38 ev38 dX4_least_62 ?_
    obtain ⟨b39, hb39, hf⟩ := bnd_some hf
    refine xr_getsN B hX (v := .ref b39) (x_statR hX 5 rfl hb39) nq1417 dX4_least_63 ?_
    refine lv_aload_n hx hb dX4_least_66 rfl (lv_at hl 0 rfl) ?_
    obtain ⟨b40, hb40, hf⟩ := bnd_some hf
    refine xr_get (q := (RX5, TX5, 3)) B hX 1 hk33 rfl (by decide) (by decide) (v := .ref b40) (x_Vr (c := 17) (j := 1) rfl (by decide) hb40) q316 (fun _ h => h) dX4_least_67 ?_
    obtain ⟨hk42, hf⟩ := chk_some hf
    obtain ⟨b41, hcb41, hf⟩ := bnd_some hf
    refine xr_callVN (rest := [.ref b39, .int v38]) (q := (RX0, TX0, 14)) B hX (c_X0_land l D S32 b40 hcb41) hk42 rfl (by decide) nq1419 q395 qs0 q103 q396 hd_X0_land ⟨Nat.le_of_ble_eq_true rfl, Nat.le_of_ble_eq_true rfl⟩ rfl hl.1 rfl (Nat.le_of_ble_eq_true rfl) dX4_least_70 (fun H locs hX => ?_)
    refine lv_iconst (v := nI 1) hx hb dX4_least_73 ic1 ?_
    obtain ⟨hk44, hf⟩ := chk_some hf
    obtain ⟨r43, hcr43, hf⟩ := bnd_some hf
    refine xr_callVC (rest := [.ref b39, .int v38]) (q := (RX2, TX2, 2)) B hX (c_X2_size l D S32 b41 (nI 1) hcr43) hk44 rfl (by decide) q1420 q398 (Or.inl q399) q105 q400 hd_X2_size ⟨Nat.le_of_ble_eq_true rfl, Nat.le_of_ble_eq_true rfl⟩ rfl hl.1 rfl (Nat.le_of_ble_eq_true rfl) dX4_least_74 (fun H locs hX => ?_)
    obtain ⟨hk45, hf⟩ := chk_some hf
    obtain ⟨v46, ev46, hiv46, hf⟩ := ald_some hf
    refine xr_iald B hX hk45 hiv46 ev46 dX4_least_77 ?_
    refine lv_icmp_ge (tgt := 180) hx hb dX4_least_78 (by decide) (fun c47 => ?_) (fun c47 => ?_)
    · have hf := it_pos c47 hf
      cases hf
      exact hk _ _ _ hX (lv_sub hl [0, 1] rfl)
    · have hf := it_neg c47 hf
      refine lv_aload_n hx hb dX4_least_81 rfl (lv_at hl 0 rfl) ?_
      obtain ⟨b48, hb48, hf⟩ := bnd_some hf
      refine xr_get (q := (RX5, TX5, 3)) B hX 1 hk33 rfl (by decide) (by decide) (v := .ref b48) (x_Vr (c := 17) (j := 1) rfl (by decide) hb48) q316 (fun _ h => h) dX4_least_82 ?_
      obtain ⟨hk49, hf⟩ := chk_some hf
      obtain ⟨b50, hb50, hf⟩ := bnd_some hf
      refine xr_getN (q := (RX0, TX0, 14)) B hX 9 hk49 rfl (by decide) (by decide) (v := .ref b50) (x_Vr (c := 1) (j := 9) rfl (by decide) hb50) nq348 (fun _ h => h) dX4_least_85 ?_
      refine lv_iconst (v := nI 2) hx hb dX4_least_88 ic2 ?_
      refine lv_iconst (v := nI 0) hx hb dX4_least_89 ic0 ?_
      obtain ⟨hk51, hf⟩ := chk_some hf
      obtain ⟨hw52, hf⟩ := chk_some hf
      obtain ⟨S53, eS53, hiS53, hf⟩ := ast_some hf
      refine xr_iast B hX hk51 hw52 hiS53 eS53 dX4_least_90 (fun H locs hX => ?_)
      refine w_i eS53 ?_
      have hk33 := ks_i eS53 hk33
      have hk35 := ks_i eS53 hk35
      have hk37 := ks_i eS53 hk37
      have hk42 := ks_i eS53 hk42
      have hk44 := ks_i eS53 hk44
      have hk45 := ks_i eS53 hk45
      have hk49 := ks_i eS53 hk49
      have hk51 := ks_i eS53 hk51
      have hw52 := kw_i eS53 hw52
      obtain ⟨y77, hxy77, hf⟩ := bnd_some hf
      have hy77 : (fun t : XS => ∀ (H : Heap) (locs : List Loc) (ls : Array Slot), x_I D S s H locs t → lv_has ls 3 [(0, .ref o), (1, .long p0)] → W p l e (x_R 8 181 S) s m args below meth c H locs (xz t - xz S) (xu t - xu S) Q (F0 m 164 ls [])) y77 := by
        obtain ⟨S78, rfl⟩ : ∃ z, z = y77 := ⟨_, rfl⟩
        intro H locs ls hX hl
        refine lv_aload_n hx hb dX4_least_164 rfl (lv_at hl 0 rfl) ?_
        obtain ⟨hk79, hf⟩ := chk_some hf
        obtain ⟨b80, hb80, hf⟩ := bnd_some hf
        refine xr_get (q := (RX5, TX5, 3)) B hX 1 hk79 rfl (by decide) (by decide) (v := .ref b80) (x_Vr (c := 17) (j := 1) rfl (by decide) hb80) q316 (fun _ h => h) dX4_least_165 ?_
        obtain ⟨hk81, hf⟩ := chk_some hf
        obtain ⟨b82, hb82, hf⟩ := bnd_some hf
        refine xr_getN (q := (RX0, TX0, 14)) B hX 9 hk81 rfl (by decide) (by decide) (v := .ref b82) (x_Vr (c := 1) (j := 9) rfl (by decide) hb82) nq348 (fun _ h => h) dX4_least_168 ?_
        refine lv_iconst (v := nI 1) hx hb dX4_least_171 ic1 ?_
        refine lv_dup2_11 hx hb dX4_least_172 rfl rfl ?_
        obtain ⟨hk83, hf⟩ := chk_some hf
        obtain ⟨v84, ev84, hiv84, hf⟩ := ald_some hf
        refine xr_iald B hX hk83 hiv84 ev84 dX4_least_173 ?_
        refine lv_iconst (v := nI 1) hx hb dX4_least_174 ic1 ?_
        refine lv_iadd hx hb dX4_least_175 ?_
        obtain ⟨hw85, hf⟩ := chk_some hf
        obtain ⟨S86, eS86, hiS86, hf⟩ := ast_some hf
        refine xr_iast B hX hk83 hw85 hiS86 eS86 dX4_least_176 (fun H locs hX => ?_)
        refine w_i eS86 ?_
        have hk79 := ks_i eS86 hk79
        have hk81 := ks_i eS86 hk81
        have hk83 := ks_i eS86 hk83
        have hw85 := kw_i eS86 hw85
        refine lv_goto (tgt := 54) hx hb dX4_least_177 (by decide) ?_
        cases hf
        exact hk _ _ _ hX (lv_sub hl [0, 1] rfl)
      refine lp_W (step := (fun t : XS => f_X4_least_17_L91 o p0 t)) (fun t : XS => ∀ (H : Heap) (locs : List Loc) (ls : Array Slot), x_I D S s H locs t → lv_has ls 3 [(0, .ref o), (1, .long p0)] → W p l e (x_R 8 181 S) s m args below meth c H locs (xz t - xz S) (xu t - xu S) Q (F0 m 91 ls [])) (fun t : XS => ∀ (H : Heap) (locs : List Loc) (ls : Array Slot), x_I D S s H locs t → lv_has ls 3 [(0, .ref o), (1, .long p0)] → W p l e (x_R 8 181 S) s m args below meth c H locs (xz t - xz S) (xu t - xu S) Q (F0 m 164 ls [])) ?_ fu S53 y77 hxy77 hy77 _ _ _ hX (lv_sub hl [0, 1] rfl)
      clear hf hxy77 hy77
      rintro S54 oo (hf : f_X4_least_17_L91 o p0 S54 = some oo) hk
      intro H locs ls hX hl
      unfold f_X4_least_17_L91 at hf
      refine lv_aload_n hx hb dX4_least_91 rfl (lv_at hl 0 rfl) ?_
      obtain ⟨hk55, hf⟩ := chk_some hf
      obtain ⟨b56, hb56, hf⟩ := bnd_some hf
      refine xr_get (q := (RX5, TX5, 3)) B hX 1 hk55 rfl (by decide) (by decide) (v := .ref b56) (x_Vr (c := 17) (j := 1) rfl (by decide) hb56) q316 (fun _ h => h) dX4_least_92 ?_
      obtain ⟨hk57, hf⟩ := chk_some hf
      obtain ⟨b58, hb58, hf⟩ := bnd_some hf
      refine xr_getN (q := (RX0, TX0, 14)) B hX 9 hk57 rfl (by decide) (by decide) (v := .ref b58) (x_Vr (c := 1) (j := 9) rfl (by decide) hb58) nq348 (fun _ h => h) dX4_least_95 ?_
      refine lv_iconst (v := nI 2) hx hb dX4_least_98 ic2 ?_
      obtain ⟨hk59, hf⟩ := chk_some hf
      obtain ⟨v60, ev60, hiv60, hf⟩ := ald_some hf
      refine xr_iald B hX hk59 hiv60 ev60 dX4_least_99 ?_
      obtain ⟨b61, hb61, hf⟩ := bnd_some hf
      refine xr_getsN B hX (v := .ref b61) (x_statR hX 5 rfl hb61) nq1417 dX4_least_100 ?_
      refine lv_aload_n hx hb dX4_least_103 rfl (lv_at hl 0 rfl) ?_
      obtain ⟨b62, hb62, hf⟩ := bnd_some hf
      refine xr_get (q := (RX5, TX5, 3)) B hX 1 hk55 rfl (by decide) (by decide) (v := .ref b62) (x_Vr (c := 17) (j := 1) rfl (by decide) hb62) q316 (fun _ h => h) dX4_least_104 ?_
      obtain ⟨hk64, hf⟩ := chk_some hf
      obtain ⟨b63, hcb63, hf⟩ := bnd_some hf
      refine xr_callVN (rest := [.ref b61, .int v60]) (q := (RX0, TX0, 14)) B hX (c_X0_land l D S54 b62 hcb63) hk64 rfl (by decide) nq1419 q395 qs0 q103 q396 hd_X0_land ⟨Nat.le_of_ble_eq_true rfl, Nat.le_of_ble_eq_true rfl⟩ rfl hl.1 rfl (Nat.le_of_ble_eq_true rfl) dX4_least_107 (fun H locs hX => ?_)
      refine lv_iconst (v := nI 2) hx hb dX4_least_110 ic2 ?_
      obtain ⟨hk66, hf⟩ := chk_some hf
      obtain ⟨r65, hcr65, hf⟩ := bnd_some hf
      refine xr_callVC (rest := [.ref b61, .int v60]) (q := (RX2, TX2, 2)) B hX (c_X2_size l D S54 b63 (nI 2) hcr65) hk66 rfl (by decide) q1420 q398 (Or.inl q399) q105 q400 hd_X2_size ⟨Nat.le_of_ble_eq_true rfl, Nat.le_of_ble_eq_true rfl⟩ rfl hl.1 rfl (Nat.le_of_ble_eq_true rfl) dX4_least_111 (fun H locs hX => ?_)
      obtain ⟨hk67, hf⟩ := chk_some hf
      obtain ⟨v68, ev68, hiv68, hf⟩ := ald_some hf
      refine xr_iald B hX hk67 hiv68 ev68 dX4_least_114 ?_
      refine lv_icmp_ge (tgt := 164) hx hb dX4_least_115 (by decide) (fun c69 => ?_) (fun c69 => ?_)
      · have hf := it_pos c69 hf
        cases hf
        exact hk _ _ _ hX (lv_sub hl [0, 1] rfl)
      · have hf := it_neg c69 hf
        refine lv_aload_n hx hb dX4_least_118 rfl (lv_at hl 0 rfl) ?_
        refine lv_aload_n hx hb dX4_least_119 rfl (lv_at hl 0 rfl) ?_
        refine xr_get (q := (RX5, TX5, 3)) B hX 0 hk55 rfl (by decide) (by decide) (x_Vl rfl (by decide)) q315 (fun _ h => h) dX4_least_120 ?_
        refine lv_aload_n hx hb dX4_least_123 rfl (lv_at hl 0 rfl) ?_
        refine lv_aload_n hx hb dX4_least_124 rfl (lv_at hl 0 rfl) ?_
        obtain ⟨b70, hb70, hf⟩ := bnd_some hf
        refine xr_get (q := (RX5, TX5, 3)) B hX 1 hk55 rfl (by decide) (by decide) (v := .ref b70) (x_Vr (c := 17) (j := 1) rfl (by decide) hb70) q316 (fun _ h => h) dX4_least_125 ?_
        refine lv_lload_n hx hb dX4_least_128 rfl (lv_at hl 1 rfl) ?_
        refine lv_aload_n hx hb dX4_least_129 rfl (lv_at hl 0 rfl) ?_
        obtain ⟨b71, hb71, hf⟩ := bnd_some hf
        refine xr_get (q := (RX5, TX5, 3)) B hX 1 hk55 rfl (by decide) (by decide) (v := .ref b71) (x_Vr (c := 17) (j := 1) rfl (by decide) hb71) q316 (fun _ h => h) dX4_least_130 ?_
        obtain ⟨hk72, hf⟩ := chk_some hf
        obtain ⟨b73, hb73, hf⟩ := bnd_some hf
        refine xr_getN (q := (RX0, TX0, 14)) B hX 9 hk72 rfl (by decide) (by decide) (v := .ref b73) (x_Vr (c := 1) (j := 9) rfl (by decide) hb73) nq348 (fun _ h => h) dX4_least_133 ?_
        obtain ⟨hk75, hf⟩ := chk_some hf
        obtain ⟨r74, hcr74, hf⟩ := bnd_some hf
        refine xr_callVN (rest := [.ref o, .long (xl S54 1700 o 0), .ref o]) (q := (RX0, TX0, 14)) B hX (c_X0_renamed l D S54 b70 p0 b73 hcr74) hk75 rfl (by decide) nq1421 q1423 qs30 q103 q1424 hd_X0_renamed ⟨Nat.le_of_ble_eq_true rfl, Nat.le_of_ble_eq_true rfl⟩ rfl hl.1 rfl (Nat.le_of_ble_eq_true rfl) dX4_least_136 (fun H locs hX => ?_)
        cases hf
def f_X0_isForm_J47_8 (o : Nat) (p0 : Int32) (S21 : XS) : Option (Int32 × XS) :=
  chk (xk S21 o = 1) <| bnd (xr S21 105 o 0) fun b23 => chk (xk S21 b23 = 51) <| ald (xn S21 b23) (xi S21 51 b23) p0 fun v25 => (if v25 = nI 1 then some (nI 1, S21) else some (nI 0, S21))
def f_X0_isForm (S : XS) (o : Nat) (p0 : Int32) (p1 : Int32) : Option (Int32 × XS) :=
  chk (xk S o = 1) <| bnd (f_X0_isWorld S o p0 p1) fun r1 => (if r1 = 0 then some (nI 0, S) else bnd (xr S 105 o 0) fun b4 => chk (xk S b4 = 51) <| ald (xn S b4) (xi S 51 b4) p0 fun v6 => (if v6 = 0 then bnd (xr S 105 o 0) fun b9 => bnd (xr S 110 o 0) fun b10 => chk (xk S b10 = 17) <| bnd (f_X4_least_17 S b10 p0.toInt64) <| u2 fun r11 S12 => (if (lg_cmp r11 p0.toInt64) = 0 then chk (xk S12 b9 = 51) <| chk (xb S12 ≤ b9) <| ast (xn S12 b9) p0 (s_i S12 51 b9 p0.toNatClampNeg (vp_nar .byte ((nI 1).toInt8.toInt32))) fun S20 => f_X0_isForm_J47_8 o p0 S20 else chk (xk S12 b9 = 51) <| chk (xb S12 ≤ b9) <| ast (xn S12 b9) p0 (s_i S12 51 b9 p0.toNatClampNeg (vp_nar .byte ((nI 2).toInt8.toInt32))) fun S17 => f_X0_isForm_J47_8 o p0 S17) else f_X0_isForm_J47_8 o p0 S))
set_option maxHeartbeats 4000000 in
set_option maxRecDepth 100000 in
theorem c_X0_isForm (l : Launch) (D : XD) (S : XS) (o : Nat) (p0 : Int32) (p1 : Int32) {r : Int32} {S' : XS} (hf : f_X0_isForm S o p0 p1 = some (r, S')) : x_Met l yX0_isForm cX0_isForm 3 (Option.some Jvm.ClassFile.FieldType.boolean) 9 203 D [.ref o, .int p0, .int p1] S (some (.int r)) S' := by
  refine x_metI RX0 (by decide) rfl (Nat.le_of_ble_eq_true rfl) (fun p e s m args below meth c Q B hnm hret H locs hX ls hl => ?_)
  have hx := B.1
  have hb := B.2.1
  have hml := B.2.2.1
  have hown := B.2.2.2.1
  have hts := B.2.2.2.2
  have hl : lv_has ls 3 [(0, .ref o), (1, .int p0), (2, .int p1)] := hl
  unfold f_X0_isForm at hf
  refine lv_aload_n hx hb dX0_isForm_0 rfl (lv_at hl 0 rfl) ?_
  refine lv_iload_n hx hb dX0_isForm_1 rfl (lv_at hl 1 rfl) ?_
  refine lv_iload_n hx hb dX0_isForm_2 rfl (lv_at hl 2 rfl) ?_
  obtain ⟨hk2, hf⟩ := chk_some hf
  obtain ⟨r1, hcr1, hf⟩ := bnd_some hf
  refine xr_callVC (rest := []) (q := (RX0, TX0, 14)) B hX (c_X0_isWorld l D S o p0 p1 hcr1) hk2 rfl (by decide) q1477 q1479 (Or.inl qs36) q103 q1480 hd_X0_isWorld ⟨Nat.le_of_ble_eq_true rfl, Nat.le_of_ble_eq_true rfl⟩ rfl hl.1 rfl (Nat.le_of_ble_eq_true rfl) dX0_isForm_3 (fun H locs hX => ?_)
  refine lv_if_ne (tgt := 11) hx hb dX0_isForm_6 (by decide) (fun c3 => ?_) (fun c3 => ?_)
  · have hf := it_neg c3 hf
    refine lv_aload_n hx hb dX0_isForm_11 rfl (lv_at hl 0 rfl) ?_
    obtain ⟨b4, hb4, hf⟩ := bnd_some hf
    refine xr_get (q := (RX0, TX0, 14)) B hX 5 hk2 rfl (by decide) (by decide) (v := .ref b4) (x_Vr (c := 1) (j := 5) rfl (by decide) hb4) q344 (fun _ h => h) dX0_isForm_12 ?_
    refine lv_iload_n hx hb dX0_isForm_15 rfl (lv_at hl 1 rfl) ?_
    obtain ⟨hk5, hf⟩ := chk_some hf
    obtain ⟨v6, ev6, hiv6, hf⟩ := ald_some hf
    refine xr_bald B hX hk5 hiv6 ev6 dX0_isForm_16 ?_
    have j8 : ∀ (S21 : XS), f_X0_isForm_J47_8 o p0 S21 = some (r, S') → ∀ (H : Heap) (locs : List Loc) (ls : Array Slot), x_I D S s H locs S21 → lv_has ls 3 [(0, .ref o), (1, .int p0)] → W p l e (x_R 9 203 S) s m args below meth c H locs (xz S21 - xz S) (xu S21 - xu S) Q (F0 m 47 ls []) := by
      intro S21 hf
      intro H locs ls hX hl
      unfold f_X0_isForm_J47_8 at hf
      refine lv_aload_n hx hb dX0_isForm_47 rfl (lv_at hl 0 rfl) ?_
      obtain ⟨hk22, hf⟩ := chk_some hf
      obtain ⟨b23, hb23, hf⟩ := bnd_some hf
      refine xr_get (q := (RX0, TX0, 14)) B hX 5 hk22 rfl (by decide) (by decide) (v := .ref b23) (x_Vr (c := 1) (j := 5) rfl (by decide) hb23) q344 (fun _ h => h) dX0_isForm_48 ?_
      refine lv_iload_n hx hb dX0_isForm_51 rfl (lv_at hl 1 rfl) ?_
      obtain ⟨hk24, hf⟩ := chk_some hf
      obtain ⟨v25, ev25, hiv25, hf⟩ := ald_some hf
      refine xr_bald B hX hk24 hiv25 ev25 dX0_isForm_52 ?_
      refine lv_iconst (v := nI 1) hx hb dX0_isForm_53 ic1 ?_
      refine lv_icmp_ne (tgt := 61) hx hb dX0_isForm_54 (by decide) (fun c26 => ?_) (fun c26 => ?_)
      · have hf := it_neg c26 hf
        refine lv_iconst (v := nI 0) hx hb dX0_isForm_61 ic0 ?_
        cases hf
        exact hret _ _ _ _ rfl hX dX0_isForm_62
      · have hf := it_pos c26 hf
        refine lv_iconst (v := nI 1) hx hb dX0_isForm_57 ic1 ?_
        refine lv_goto (tgt := 62) hx hb dX0_isForm_58 (by decide) ?_
        cases hf
        exact hret _ _ _ _ rfl hX dX0_isForm_62
    refine lv_if_ne (tgt := 47) hx hb dX0_isForm_17 (by decide) (fun c7 => ?_) (fun c7 => ?_)
    · have hf := it_neg c7 hf
      exact j8 S hf _ _ _ hX (lv_sub hl [0, 1] rfl)
    · have hf := it_pos c7 hf
      refine lv_aload_n hx hb dX0_isForm_20 rfl (lv_at hl 0 rfl) ?_
      obtain ⟨b9, hb9, hf⟩ := bnd_some hf
      refine xr_get (q := (RX0, TX0, 14)) B hX 5 hk2 rfl (by decide) (by decide) (v := .ref b9) (x_Vr (c := 1) (j := 5) rfl (by decide) hb9) q344 (fun _ h => h) dX0_isForm_21 ?_
      refine lv_iload_n hx hb dX0_isForm_24 rfl (lv_at hl 1 rfl) ?_
      refine lv_aload_n hx hb dX0_isForm_25 rfl (lv_at hl 0 rfl) ?_
      obtain ⟨b10, hb10, hf⟩ := bnd_some hf
      refine xr_get (q := (RX0, TX0, 14)) B hX 10 hk2 rfl (by decide) (by decide) (v := .ref b10) (x_Vr (c := 1) (j := 10) rfl (by decide) hb10) q350 (fun _ h => h) dX0_isForm_26 ?_
      refine lv_iload_n hx hb dX0_isForm_29 rfl (lv_at hl 1 rfl) ?_
      refine lv_i2l (v := p0.toInt64) hx hb dX0_isForm_30 rfl ?_
      obtain ⟨hk13, hf⟩ := chk_some hf
      obtain ⟨⟨r11, S12⟩, hcr11, hf⟩ := bnd_some hf
      have hf := u2_at hf
      refine xr_callVC (rest := [.int p0, .ref b9]) (q := (RX5, TX5, 3)) B hX (c_X4_least_17 l D S b10 p0.toInt64 hcr11) hk13 rfl (by decide) q1410 q1411 (Or.inl q1413) q110 q1415 hd_X4_least ⟨Nat.le_of_ble_eq_true rfl, Nat.le_of_ble_eq_true rfl⟩ rfl hl.1 rfl (Nat.le_of_ble_eq_true rfl) dX0_isForm_31 (fun H locs hX => ?_)
      refine lv_iload_n hx hb dX0_isForm_34 rfl (lv_at hl 1 rfl) ?_
      refine lv_i2l (v := p0.toInt64) hx hb dX0_isForm_35 rfl ?_
      refine W.lcmp hx hb dX0_isForm_36 ?_
      refine lv_if_ne (tgt := 44) hx hb dX0_isForm_37 (by decide) (fun c14 => ?_) (fun c14 => ?_)
      · have hf := it_neg c14 hf
        refine lv_iconst (v := nI 2) hx hb dX0_isForm_44 ic2 ?_
        refine lv_i2b (v := (nI 2).toInt8.toInt32) hx hb dX0_isForm_45 rfl ?_
        obtain ⟨hk15, hf⟩ := chk_some hf
        obtain ⟨hw16, hf⟩ := chk_some hf
        obtain ⟨S17, eS17, hiS17, hf⟩ := ast_some hf
        refine xr_bast B hX hk15 hw16 hiS17 eS17 dX0_isForm_46 (fun H locs hX => ?_)
        refine w_i eS17 ?_
        have hk15 := ks_i eS17 hk15
        have hw16 := kw_i eS17 hw16
        exact j8 S17 hf _ _ _ hX (lv_sub hl [0, 1] rfl)
      · have hf := it_pos c14 hf
        refine lv_iconst (v := nI 1) hx hb dX0_isForm_40 ic1 ?_
        refine lv_goto (tgt := 45) hx hb dX0_isForm_41 (by decide) ?_
        refine lv_i2b (v := (nI 1).toInt8.toInt32) hx hb dX0_isForm_45 rfl ?_
        obtain ⟨hk18, hf⟩ := chk_some hf
        obtain ⟨hw19, hf⟩ := chk_some hf
        obtain ⟨S20, eS20, hiS20, hf⟩ := ast_some hf
        refine xr_bast B hX hk18 hw19 hiS20 eS20 dX0_isForm_46 (fun H locs hX => ?_)
        refine w_i eS20 ?_
        have hk18 := ks_i eS20 hk18
        have hw19 := kw_i eS20 hw19
        exact j8 S20 hf _ _ _ hX (lv_sub hl [0, 1] rfl)
  · have hf := it_pos c3 hf
    refine lv_iconst (v := nI 0) hx hb dX0_isForm_9 ic0 ?_
    cases hf
    exact hret _ _ _ _ rfl hX dX0_isForm_10
def f_X0_name (S : XS) (o : Nat) : Option (Int32 × XS) :=
  chk (xk S o = 1) <| bnd (f_X0_isTold S o) fun r1 => (if r1 = 0 then some (nI 0, S) else bnd (xr S 110 o 0) fun b4 => bnd (xr S 100 o 0) fun b5 => chk (xk S b5 = 2) <| chk (xk S b4 = 17) <| bnd (f_X4_least_17 S b4 (xl S 207 b5 0)) <| u2 fun r7 S8 => chk (xk S8 o = 1) <| bnd (xr S8 100 o 0) fun b11 => chk (xk S8 b11 = 2) <| bd (if (lg_cmp r7 (xl S8 207 b11 0)) = 0 then nI 0 else nI 1) fun x15 => bnd (xr S8 100 o 0) fun b16 => chk (xk S8 b16 = 2) <| chk (xb S8 ≤ b16) <| bd (s_l S8 207 b16 0 r7) fun S19 => chk (x15 = 0 ∨ x15 = 1) <| some (x15, S19))
set_option maxHeartbeats 4000000 in
set_option maxRecDepth 100000 in
theorem c_X0_name (l : Launch) (D : XD) (S : XS) (o : Nat) {r : Int32} {S' : XS} (hf : f_X0_name S o = some (r, S')) : x_Met l yX0_name cX0_name 4 (Option.some Jvm.ClassFile.FieldType.boolean) 9 203 D [.ref o] S (some (.int r)) S' := by
  refine x_metI RX0 (by decide) rfl (Nat.le_of_ble_eq_true rfl) (fun p e s m args below meth c Q B hnm hret H locs hX ls hl => ?_)
  have hx := B.1
  have hb := B.2.1
  have hml := B.2.2.1
  have hown := B.2.2.2.1
  have hts := B.2.2.2.2
  have hl : lv_has ls 4 [(0, .ref o)] := hl
  unfold f_X0_name at hf
  refine lv_aload_n hx hb dX0_name_0 rfl (lv_at hl 0 rfl) ?_
  obtain ⟨hk2, hf⟩ := chk_some hf
  obtain ⟨r1, hcr1, hf⟩ := bnd_some hf
  refine xr_callVC (rest := []) (q := (RX0, TX0, 14)) B hX (c_X0_isTold l D S o hcr1) hk2 rfl (by decide) q1406 q1408 (Or.inl qs29) q103 q1409 hd_X0_isTold ⟨Nat.le_of_ble_eq_true rfl, Nat.le_of_ble_eq_true rfl⟩ rfl hl.1 rfl (Nat.le_of_ble_eq_true rfl) dX0_name_1 (fun H locs hX => ?_)
  refine lv_if_ne (tgt := 9) hx hb dX0_name_4 (by decide) (fun c3 => ?_) (fun c3 => ?_)
  · have hf := it_neg c3 hf
    refine lv_aload_n hx hb dX0_name_9 rfl (lv_at hl 0 rfl) ?_
    obtain ⟨b4, hb4, hf⟩ := bnd_some hf
    refine xr_get (q := (RX0, TX0, 14)) B hX 10 hk2 rfl (by decide) (by decide) (v := .ref b4) (x_Vr (c := 1) (j := 10) rfl (by decide) hb4) q350 (fun _ h => h) dX0_name_10 ?_
    refine lv_aload_n hx hb dX0_name_13 rfl (lv_at hl 0 rfl) ?_
    obtain ⟨b5, hb5, hf⟩ := bnd_some hf
    refine xr_get (q := (RX0, TX0, 14)) B hX 0 hk2 rfl (by decide) (by decide) (v := .ref b5) (x_Vr (c := 1) (j := 0) rfl (by decide) hb5) q339 (fun _ h => h) dX0_name_14 ?_
    obtain ⟨hk6, hf⟩ := chk_some hf
    refine xr_getN (q := (RX1, TX1, 14)) B hX 7 hk6 rfl (by decide) (by decide) (x_Vl rfl (by decide)) nq233 (fun _ h => h) dX0_name_17 ?_
    obtain ⟨hk9, hf⟩ := chk_some hf
    obtain ⟨⟨r7, S8⟩, hcr7, hf⟩ := bnd_some hf
    have hf := u2_at hf
    refine xr_callVC (rest := []) (q := (RX5, TX5, 3)) B hX (c_X4_least_17 l D S b4 (xl S 207 b5 0) hcr7) hk9 rfl (by decide) q1410 q1411 (Or.inl q1413) q110 q1415 hd_X4_least ⟨Nat.le_of_ble_eq_true rfl, Nat.le_of_ble_eq_true rfl⟩ rfl hl.1 rfl (Nat.le_of_ble_eq_true rfl) dX0_name_20 (fun H locs hX => ?_)
    refine lv_lstore_n (lv' := [(1, .long r7), (0, .ref o)]) hx hb dX0_name_23 rfl hl (by decide) rfl (fun ls hl => ?_)
    refine lv_lload_n hx hb dX0_name_24 rfl (lv_at hl 0 rfl) ?_
    refine lv_aload_n hx hb dX0_name_25 rfl (lv_at hl 1 rfl) ?_
    obtain ⟨hk10, hf⟩ := chk_some hf
    obtain ⟨b11, hb11, hf⟩ := bnd_some hf
    refine xr_get (q := (RX0, TX0, 14)) B hX 0 hk10 rfl (by decide) (by decide) (v := .ref b11) (x_Vr (c := 1) (j := 0) rfl (by decide) hb11) q339 (fun _ h => h) dX0_name_26 ?_
    obtain ⟨hk12, hf⟩ := chk_some hf
    refine xr_getN (q := (RX1, TX1, 14)) B hX 7 hk12 rfl (by decide) (by decide) (x_Vl rfl (by decide)) nq233 (fun _ h => h) dX0_name_29 ?_
    refine W.lcmp hx hb dX0_name_32 ?_
    obtain ⟨x15, ex15, hf⟩ := bd_some hf
    have jx15 : W p l e (x_R 9 203 S) s m args below meth c H locs (xz S8 - xz S) (xu S8 - xu S) Q (F0 m 41 ls [.int x15]) := by
      refine lv_istore_n (lv' := [(3, .int x15), (1, .long r7), (0, .ref o)]) hx hb dX0_name_41 rfl hl (by decide) rfl (fun ls hl => ?_)
      refine lv_aload_n hx hb dX0_name_42 rfl (lv_at hl 2 rfl) ?_
      obtain ⟨b16, hb16, hf⟩ := bnd_some hf
      refine xr_get (q := (RX0, TX0, 14)) B hX 0 hk10 rfl (by decide) (by decide) (v := .ref b16) (x_Vr (c := 1) (j := 0) rfl (by decide) hb16) q339 (fun _ h => h) dX0_name_43 ?_
      refine lv_lload_n hx hb dX0_name_46 rfl (lv_at hl 1 rfl) ?_
      obtain ⟨hk17, hf⟩ := chk_some hf
      obtain ⟨hw18, hf⟩ := chk_some hf
      obtain ⟨S19, eS19, hf⟩ := bd_some hf
      refine xr_putN (S' := S19) (q := (RX1, TX1, 14)) (v := .long r7) (ty0 := tyX1) B hX 7 hk17 rfl (by decide) hw18 (by decide) (by rw [eS19]; exact x_Vup_l (k := 2) (j := 7) rfl (by decide)) tyX1_ok (fun i h1 h2 => nmX1 i (Nat.lt_of_lt_of_le h1 (by decide)) 7 (by decide) h2) rfl rfl rfl nq233 (fun _ h => h) dX0_name_47 (fun H locs hX => ?_)
      refine w_l eS19 ?_
      have hk10 := ks_l eS19 hk10
      have hk12 := ks_l eS19 hk12
      have hk17 := ks_l eS19 hk17
      have hw18 := kw_l eS19 hw18
      refine lv_iload_n hx hb dX0_name_50 rfl (lv_at hl 0 rfl) ?_
      obtain ⟨hb20, hf⟩ := chk_some hf
      cases hf
      exact hret _ _ _ _ (by rcases hb20 with q | q <;> (rw [q]; rfl)) hX dX0_name_51
    refine lv_if_eq (tgt := 40) hx hb dX0_name_33 (by decide) (fun c13 => ?_) (fun c13 => ?_)
    · refine lv_iconst (v := nI 0) hx hb dX0_name_40 ic0 ?_
      exact js (ex15.trans (if_pos c13)) jx15
    · refine lv_iconst (v := nI 1) hx hb dX0_name_36 ic1 ?_
      refine lv_goto (tgt := 41) hx hb dX0_name_37 (by decide) ?_
      exact js (ex15.trans (if_neg c13)) jx15
  · have hf := it_pos c3 hf
    refine lv_iconst (v := nI 0) hx hb dX0_name_7 ic0 ?_
    cases hf
    exact hret _ _ _ _ rfl hX dX0_name_8
def f_X2_be (S : XS) (o : Nat) (p0 : Nat) : Option XS :=
  chk (xk S p0 = 3) <| bnd (xr S 300 p0 0) fun b2 => chk (xk S o = 3) <| bnd (xr S 300 o 0) fun b4 => chk (xk S b2 = 52) <| chk (xk S b4 = 52) <| chk (xb S ≤ b4) <| chk (0 ≤ nI 0 ∧ 0 ≤ nI 0 ∧ 0 ≤ nI 3 ∧ (nI 0).toNatClampNeg + (nI 3).toNatClampNeg ≤ xn S b2 ∧ (nI 0).toNatClampNeg + (nI 3).toNatClampNeg ≤ xn S b4) <| bd (s_cp S 52 b2 (nI 0).toNatClampNeg b4 (nI 0).toNatClampNeg (nI 3).toNatClampNeg) fun S9 => bnd (xr S9 301 o 0) fun b10 => chk (xk S9 b10 = 19) <| bnd (f_J2_clear S9 b10) fun S11 => chk (xk S11 o = 3) <| bnd (xr S11 301 o 0) fun b14 => chk (xk S11 p0 = 3) <| bnd (xr S11 301 p0 0) fun b16 => chk (xk S11 b14 = 19) <| bnd (f_J2_addAll S11 b14 b16) <| u2 fun r17 S18 => some S18
set_option maxHeartbeats 4000000 in
set_option maxRecDepth 100000 in
theorem c_X2_be (l : Launch) (D : XD) (S : XS) (o : Nat) (p0 : Nat) {S' : XS} (hf : f_X2_be S o p0 = some S') : x_Met l yX2_be cX2_be 2 (Option.none : Option Jvm.ClassFile.FieldType) 5 152 D [.ref o, .ref p0] S none S' := by
  refine x_metV RX2 (by decide) rfl (Nat.le_of_ble_eq_true rfl) (fun p e s m args below meth c Q B hnm hret H locs hX ls hl => ?_)
  have hx := B.1
  have hb := B.2.1
  have hml := B.2.2.1
  have hown := B.2.2.2.1
  have hts := B.2.2.2.2
  have hl : lv_has ls 2 [(0, .ref o), (1, .ref p0)] := hl
  unfold f_X2_be at hf
  refine lv_aload_n hx hb dX2_be_0 rfl (lv_at hl 1 rfl) ?_
  obtain ⟨hk1, hf⟩ := chk_some hf
  obtain ⟨b2, hb2, hf⟩ := bnd_some hf
  refine xr_get (q := (RX2, TX2, 2)) B hX 0 hk1 rfl (by decide) (by decide) (v := .ref b2) (x_Vr (c := 3) (j := 0) rfl (by decide) hb2) q199 (fun _ h => h) dX2_be_1 ?_
  refine lv_iconst (v := nI 0) hx hb dX2_be_4 ic0 ?_
  refine lv_aload_n hx hb dX2_be_5 rfl (lv_at hl 0 rfl) ?_
  obtain ⟨hk3, hf⟩ := chk_some hf
  obtain ⟨b4, hb4, hf⟩ := bnd_some hf
  refine xr_get (q := (RX2, TX2, 2)) B hX 0 hk3 rfl (by decide) (by decide) (v := .ref b4) (x_Vr (c := 3) (j := 0) rfl (by decide) hb4) q199 (fun _ h => h) dX2_be_6 ?_
  refine lv_iconst (v := nI 0) hx hb dX2_be_9 ic0 ?_
  refine lv_iconst (v := nI 3) hx hb dX2_be_10 ic3 ?_
  obtain ⟨hk5, hf⟩ := chk_some hf
  obtain ⟨hk6, hf⟩ := chk_some hf
  obtain ⟨hw7, hf⟩ := chk_some hf
  obtain ⟨hr8, hf⟩ := chk_some hf
  obtain ⟨S9, eS9, hf⟩ := bd_some hf
  refine xr_copy (rest := []) B hX hk5 hk6 hw7 (by decide) rfl hr8 x_vals52 eS9 hl.1 q1505 q508 q507 q118 (Nat.le_of_ble_eq_true rfl) (Nat.le_of_ble_eq_true rfl) dX2_be_11 (fun H locs hX => ?_)
  refine w_c eS9 ?_
  have hk1 := ks_c eS9 hk1
  have hk3 := ks_c eS9 hk3
  have hk5 := ks_c eS9 hk5
  have hk6 := ks_c eS9 hk6
  have hw7 := kw_c eS9 hw7
  refine lv_aload_n hx hb dX2_be_14 rfl (lv_at hl 0 rfl) ?_
  obtain ⟨b10, hb10, hf⟩ := bnd_some hf
  refine xr_get (q := (RX2, TX2, 2)) B hX 1 hk3 rfl (by decide) (by decide) (v := .ref b10) (x_Vr (c := 3) (j := 1) rfl (by decide) hb10) q201 (fun _ h => h) dX2_be_15 ?_
  obtain ⟨hk12, hf⟩ := chk_some hf
  obtain ⟨S11, hcS11, hf⟩ := bnd_some hf
  refine xr_callVC (rest := []) (q := (RJ2, TJ2, 3)) B hX (c_J2_clear l D S9 b10 hcS11) hk12 rfl (by decide) q1506 q1350 (Or.inl q1351) q108 q1352 hd_J2_clear ⟨Nat.le_of_ble_eq_true rfl, Nat.le_of_ble_eq_true rfl⟩ rfl hl.1 rfl (Nat.le_of_ble_eq_true rfl) dX2_be_18 (fun H locs hX => ?_)
  refine lv_aload_n hx hb dX2_be_21 rfl (lv_at hl 0 rfl) ?_
  obtain ⟨hk13, hf⟩ := chk_some hf
  obtain ⟨b14, hb14, hf⟩ := bnd_some hf
  refine xr_get (q := (RX2, TX2, 2)) B hX 1 hk13 rfl (by decide) (by decide) (v := .ref b14) (x_Vr (c := 3) (j := 1) rfl (by decide) hb14) q201 (fun _ h => h) dX2_be_22 ?_
  refine lv_aload_n hx hb dX2_be_25 rfl (lv_at hl 1 rfl) ?_
  obtain ⟨hk15, hf⟩ := chk_some hf
  obtain ⟨b16, hb16, hf⟩ := bnd_some hf
  refine xr_get (q := (RX2, TX2, 2)) B hX 1 hk15 rfl (by decide) (by decide) (v := .ref b16) (x_Vr (c := 3) (j := 1) rfl (by decide) hb16) q201 (fun _ h => h) dX2_be_26 ?_
  obtain ⟨hk19, hf⟩ := chk_some hf
  obtain ⟨⟨r17, S18⟩, hcr17, hf⟩ := bnd_some hf
  have hf := u2_at hf
  refine xr_callVC (rest := []) (q := (RJ2, TJ2, 3)) B hX (c_J2_addAll l D S11 b14 b16 hcr17) hk19 rfl (by decide) q1507 q1508 (Or.inl q1509) q108 q1510 hd_J2_addAll ⟨Nat.le_of_ble_eq_true rfl, Nat.le_of_ble_eq_true rfl⟩ rfl hl.1 rfl (Nat.le_of_ble_eq_true rfl) dX2_be_29 (fun H locs hX => ?_)
  refine lv_pop hx hb dX2_be_32 rfl ?_
  cases hf
  exact hret _ _ _ _ hX dX2_be_33
def f_X0_at_L4 (p1 : Int32) (x1 : Int32) (x2 : Int32) : Option ((Int32 × Int32) ⊕ ((Int32))) :=
  (if p1 ≤ x2 then some (.inr x1) else (if x1 = 0 then some (.inr x1) else bd (x1 &&& (x1 - nI 1)) fun x5 => bd (x2 + nI 1) fun x6 => some (.inl (x5, x6))))
def f_X0_at (p0 : Int32) (p1 : Int32) : Option Int32 :=
  bnd (wO (fun t : Int32 × Int32 => f_X0_at_L4 p1 t.1 t.2) fu (p0, nI 0)) <| fun x9 => (if x9 = 0 then some (-1) else bnd (f_J18_numberOfTrailingZeros x9) fun r11 => some r11)
abbrev r_X0_at : Room := { frames := 1, cells := 0, slots := 0, locals := 21 }
set_option maxHeartbeats 4000000 in
set_option maxRecDepth 100000 in
theorem c_X0_at (l : Launch) (p0 : Int32) (p1 : Int32) {r : Int32} (hf : f_X0_at p0 p1 = some r) : p_Met l yX0_at cX0_at 4 (Option.some Jvm.ClassFile.FieldType.int) r_X0_at [.int p0, .int p1] (some (.int r)) := by
  refine p_metI (F := 1) (L := 21) RX0 (by decide) rfl (Nat.le_of_ble_eq_true rfl) (fun p e s m args below meth c Q B hret ls hl => ?_)
  have hx := B.1
  have hb := B.2.1
  have hml := B.2.2.1
  have hown := B.2.2.2.1
  have hts := B.2.2.2.2
  have hl : lv_has ls 4 [(0, .int p0), (1, .int p1)] := hl
  unfold f_X0_at at hf
  refine lv_iload_n hx hb dX0_at_0 rfl (lv_at hl 0 rfl) ?_
  refine lv_istore_n (lv' := [(2, .int p0), (0, .int p0), (1, .int p1)]) hx hb dX0_at_1 rfl hl (by decide) rfl (fun ls hl => ?_)
  refine lv_iconst (v := nI 0) hx hb dX0_at_2 ic0 ?_
  refine lv_istore_n (lv' := [(3, .int (nI 0)), (2, .int p0), (0, .int p0), (1, .int p1)]) hx hb dX0_at_3 rfl hl (by decide) rfl (fun ls hl => ?_)
  obtain ⟨y8, hxy8, hf⟩ := bnd_some hf
  have hy8 : (fun t : Int32 => ∀ (ls : Array Slot), lv_has ls 4 [(2, .int t)] → W p l e r_X0_at s m args below meth c s.heap [] 0 0 Q (F0 m 25 ls [])) y8 := by
    obtain ⟨x9, rfl⟩ : ∃ z, z = y8 := ⟨_, rfl⟩
    intro ls hl
    refine lv_iload_n hx hb dX0_at_25 rfl (lv_at hl 0 rfl) ?_
    refine lv_if_ne (tgt := 33) hx hb dX0_at_26 (by decide) (fun c10 => ?_) (fun c10 => ?_)
    · have hf := it_neg c10 hf
      refine lv_iload_n hx hb dX0_at_33 rfl (lv_at hl 0 rfl) ?_
      obtain ⟨r11, hcr11, hf⟩ := bnd_some hf
      refine pr_callS (rest := []) B (c_J18_numberOfTrailingZeros l x9 hcr11) (va_cwS 1 hts (lw_S q1555 q1556 q146 q1557) rfl rfl rfl hd_J18_numberOfTrailingZeros ⟨Nat.le_of_ble_eq_true rfl, Nat.le_of_ble_eq_true rfl⟩) rfl hl.1 rfl (Nat.le_of_ble_eq_true rfl) dX0_at_34 ⟨Nat.zero_le _, Nat.zero_le _⟩ ?_
      cases hf
      exact hret _ _ rfl dX0_at_37
    · have hf := it_pos c10 hf
      refine lv_iconst (v := (-1)) hx hb dX0_at_29 icm1 ?_
      refine lv_goto (tgt := 37) hx hb dX0_at_30 (by decide) ?_
      cases hf
      exact hret _ _ rfl dX0_at_37
  refine lp_W (step := (fun t : Int32 × Int32 => f_X0_at_L4 p1 t.1 t.2)) (fun t : Int32 × Int32 => ∀ (ls : Array Slot), lv_has ls 4 [(1, .int p1), (2, .int t.1), (3, .int t.2)] → W p l e r_X0_at s m args below meth c s.heap [] 0 0 Q (F0 m 4 ls [])) (fun t : Int32 => ∀ (ls : Array Slot), lv_has ls 4 [(2, .int t)] → W p l e r_X0_at s m args below meth c s.heap [] 0 0 Q (F0 m 25 ls [])) ?_ fu (p0, nI 0) y8 hxy8 hy8 _ (lv_sub hl [3, 1, 0] rfl)
  clear hf hxy8 hy8
  rintro ⟨x1, x2⟩ oo (hf : f_X0_at_L4 p1 x1 x2 = some oo) hk
  intro ls hl
  unfold f_X0_at_L4 at hf
  refine lv_iload_n hx hb dX0_at_4 rfl (lv_at hl 2 rfl) ?_
  refine lv_iload_n hx hb dX0_at_5 rfl (lv_at hl 0 rfl) ?_
  refine lv_icmp_ge (tgt := 25) hx hb dX0_at_6 (by decide) (fun c3 => ?_) (fun c3 => ?_)
  · have hf := it_pos c3 hf
    cases hf
    exact hk _ (lv_sub hl [1] rfl)
  · have hf := it_neg c3 hf
    refine lv_iload_n hx hb dX0_at_9 rfl (lv_at hl 1 rfl) ?_
    refine lv_if_eq (tgt := 25) hx hb dX0_at_10 (by decide) (fun c4 => ?_) (fun c4 => ?_)
    · have hf := it_pos c4 hf
      cases hf
      exact hk _ (lv_sub hl [1] rfl)
    · have hf := it_neg c4 hf
      refine lv_iload_n hx hb dX0_at_13 rfl (lv_at hl 1 rfl) ?_
      refine lv_iload_n hx hb dX0_at_14 rfl (lv_at hl 1 rfl) ?_
      refine lv_iconst (v := nI 1) hx hb dX0_at_15 ic1 ?_
      refine lv_isub hx hb dX0_at_16 ?_
      refine lv_iand hx hb dX0_at_17 ?_
      refine lv_topi (fun x5 ex5 => ?_)
      have hf := bd_at ex5 hf
      refine lv_istore_n (lv' := [(2, .int x5), (1, .int p1), (3, .int x2)]) hx hb dX0_at_18 rfl hl (by decide) rfl (fun ls hl => ?_)
      obtain ⟨x6, ex6, hf⟩ := bd_some hf
      refine lv_iinc (v := x6) (lv' := [(3, .int x6), (2, .int x5), (1, .int p1)]) hx hb dX0_at_19 hl (k := 2) rfl (by rw [ex6]; first | done | rfl) (by decide) rfl (fun ls hl => ?_)
      refine lv_goto (tgt := 4) hx hb dX0_at_22 (by decide) ?_
      cases hf
      exact hk _ (lv_sub hl [2, 1, 0] rfl)
def f_X0_isLess (p0 : Int32) (p1 : Int32) : Option Int32 :=
  bd (p0 ^^^ p1) fun x1 => (if ((p0 &&& x1) &&& (-x1)) = 0 then some (nI 0) else some (nI 1))
abbrev r_X0_isLess : Room := { frames := 0, cells := 0, slots := 0, locals := 0 }
set_option maxHeartbeats 4000000 in
set_option maxRecDepth 100000 in
theorem c_X0_isLess (l : Launch) (p0 : Int32) (p1 : Int32) {r : Int32} (hf : f_X0_isLess p0 p1 = some r) : p_Met l yX0_isLess cX0_isLess 3 (Option.some Jvm.ClassFile.FieldType.boolean) r_X0_isLess [.int p0, .int p1] (some (.int r)) := by
  refine p_metI (F := 0) (L := 0) RX0 (by decide) rfl (Nat.le_of_ble_eq_true rfl) (fun p e s m args below meth c Q B hret ls hl => ?_)
  have hx := B.1
  have hb := B.2.1
  have hml := B.2.2.1
  have hown := B.2.2.2.1
  have hts := B.2.2.2.2
  have hl : lv_has ls 3 [(0, .int p0), (1, .int p1)] := hl
  unfold f_X0_isLess at hf
  refine lv_iload_n hx hb dX0_isLess_0 rfl (lv_at hl 0 rfl) ?_
  refine lv_iload_n hx hb dX0_isLess_1 rfl (lv_at hl 1 rfl) ?_
  refine lv_ixor hx hb dX0_isLess_2 ?_
  refine lv_topi (fun x1 ex1 => ?_)
  have hf := bd_at ex1 hf
  refine lv_istore_n (lv' := [(2, .int x1), (0, .int p0), (1, .int p1)]) hx hb dX0_isLess_3 rfl hl (by decide) rfl (fun ls hl => ?_)
  refine lv_iload_n hx hb dX0_isLess_4 rfl (lv_at hl 1 rfl) ?_
  refine lv_iload_n hx hb dX0_isLess_5 rfl (lv_at hl 0 rfl) ?_
  refine lv_iand hx hb dX0_isLess_6 ?_
  refine lv_iload_n hx hb dX0_isLess_7 rfl (lv_at hl 0 rfl) ?_
  refine lv_ineg hx hb dX0_isLess_8 ?_
  refine lv_iand hx hb dX0_isLess_9 ?_
  refine lv_if_eq (tgt := 17) hx hb dX0_isLess_10 (by decide) (fun c2 => ?_) (fun c2 => ?_)
  · have hf := it_pos c2 hf
    refine lv_iconst (v := nI 0) hx hb dX0_isLess_17 ic0 ?_
    cases hf
    exact hret _ _ rfl dX0_isLess_18
  · have hf := it_neg c2 hf
    refine lv_iconst (v := nI 1) hx hb dX0_isLess_13 ic1 ?_
    refine lv_goto (tgt := 18) hx hb dX0_isLess_14 (by decide) ?_
    cases hf
    exact hret _ _ rfl dX0_isLess_18
def f_X0_isBorne_L4 (o : Nat) (p0 : Int32) (S : XS) (x1 : Int32) (x2 : Int32) : Option ((Int32 × Int32) ⊕ ((Int32))) :=
  chk (xk S o = 1) <| bnd (f_X0_rows S o) fun r3 => (if r3 ≤ x2 then some (.inr x1) else (if x1 = 0 then bnd (f_X0_isWorld S o x2 p0) fun r7 => bd (x2 + nI 1) fun x8 => some (.inl (r7, x8)) else some (.inr x1)))
def f_X0_isBorne (S : XS) (o : Nat) (p0 : Int32) : Option Int32 :=
  bnd (wO (fun t : Int32 × Int32 => f_X0_isBorne_L4 o p0 S t.1 t.2) fu (nI 0, nI 0)) <| fun x11 => chk (x11 = 0 ∨ x11 = 1) <| some x11
set_option maxHeartbeats 4000000 in
set_option maxRecDepth 100000 in
theorem c_X0_isBorne (l : Launch) (D : XD) (S : XS) (o : Nat) (p0 : Int32) {r : Int32} (hf : f_X0_isBorne S o p0 = some r) : x_Met l yX0_isBorne cX0_isBorne 4 (Option.some Jvm.ClassFile.FieldType.boolean) 7 148 D [.ref o, .int p0] S (some (.int r)) S := by
  refine x_metI RX0 (by decide) rfl (Nat.le_of_ble_eq_true rfl) (fun p e s m args below meth c Q B hnm hret H locs hX ls hl => ?_)
  have hx := B.1
  have hb := B.2.1
  have hml := B.2.2.1
  have hown := B.2.2.2.1
  have hts := B.2.2.2.2
  have hl : lv_has ls 4 [(0, .ref o), (1, .int p0)] := hl
  unfold f_X0_isBorne at hf
  refine lv_iconst (v := nI 0) hx hb dX0_isBorne_0 ic0 ?_
  refine lv_istore_n (lv' := [(2, .int (nI 0)), (0, .ref o), (1, .int p0)]) hx hb dX0_isBorne_1 rfl hl (by decide) rfl (fun ls hl => ?_)
  refine lv_iconst (v := nI 0) hx hb dX0_isBorne_2 ic0 ?_
  refine lv_istore_n (lv' := [(3, .int (nI 0)), (2, .int (nI 0)), (0, .ref o), (1, .int p0)]) hx hb dX0_isBorne_3 rfl hl (by decide) rfl (fun ls hl => ?_)
  obtain ⟨y10, hxy10, hf⟩ := bnd_some hf
  have hy10 : (fun t : Int32 => ∀ (H : Heap) (locs : List Loc) (ls : Array Slot), x_I D S s H locs S → lv_has ls 4 [(2, .int t)] → W p l e (x_R 7 148 S) s m args below meth c H locs (xz S - xz S) (xu S - xu S) Q (F0 m 29 ls [])) y10 := by
    obtain ⟨x11, rfl⟩ : ∃ z, z = y10 := ⟨_, rfl⟩
    intro H locs ls hX hl
    refine lv_iload_n hx hb dX0_isBorne_29 rfl (lv_at hl 0 rfl) ?_
    obtain ⟨hb12, hf⟩ := chk_some hf
    cases hf
    exact hret _ _ _ _ (by rcases hb12 with q | q <;> (rw [q]; rfl)) hX dX0_isBorne_30
  refine lp_W (step := (fun t : Int32 × Int32 => f_X0_isBorne_L4 o p0 S t.1 t.2)) (fun t : Int32 × Int32 => ∀ (H : Heap) (locs : List Loc) (ls : Array Slot), x_I D S s H locs S → lv_has ls 4 [(0, .ref o), (1, .int p0), (2, .int t.1), (3, .int t.2)] → W p l e (x_R 7 148 S) s m args below meth c H locs (xz S - xz S) (xu S - xu S) Q (F0 m 4 ls [])) (fun t : Int32 => ∀ (H : Heap) (locs : List Loc) (ls : Array Slot), x_I D S s H locs S → lv_has ls 4 [(2, .int t)] → W p l e (x_R 7 148 S) s m args below meth c H locs (xz S - xz S) (xu S - xu S) Q (F0 m 29 ls [])) ?_ fu (nI 0, nI 0) y10 hxy10 hy10 _ _ _ hX (lv_sub hl [2, 3, 1, 0] rfl)
  clear hf hxy10 hy10
  rintro ⟨x1, x2⟩ oo (hf : f_X0_isBorne_L4 o p0 S x1 x2 = some oo) hk
  intro H locs ls hX hl
  unfold f_X0_isBorne_L4 at hf
  refine lv_iload_n hx hb dX0_isBorne_4 rfl (lv_at hl 3 rfl) ?_
  refine lv_aload_n hx hb dX0_isBorne_5 rfl (lv_at hl 0 rfl) ?_
  obtain ⟨hk4, hf⟩ := chk_some hf
  obtain ⟨r3, hcr3, hf⟩ := bnd_some hf
  refine xr_callVC (rest := [.int x2]) (q := (RX0, TX0, 14)) B hX (c_X0_rows l D S o hcr3) hk4 rfl (by decide) q1465 q1467 (Or.inl qs33) q103 q1468 hd_X0_rows ⟨Nat.le_of_ble_eq_true rfl, Nat.le_of_ble_eq_true rfl⟩ rfl hl.1 rfl (Nat.le_of_ble_eq_true rfl) dX0_isBorne_6 (fun H locs hX => ?_)
  refine lv_icmp_ge (tgt := 29) hx hb dX0_isBorne_9 (by decide) (fun c5 => ?_) (fun c5 => ?_)
  · have hf := it_pos c5 hf
    cases hf
    exact hk _ _ _ hX (lv_sub hl [2] rfl)
  · have hf := it_neg c5 hf
    refine lv_iload_n hx hb dX0_isBorne_12 rfl (lv_at hl 2 rfl) ?_
    refine lv_if_ne (tgt := 29) hx hb dX0_isBorne_13 (by decide) (fun c6 => ?_) (fun c6 => ?_)
    · have hf := it_neg c6 hf
      cases hf
      exact hk _ _ _ hX (lv_sub hl [2] rfl)
    · have hf := it_pos c6 hf
      refine lv_aload_n hx hb dX0_isBorne_16 rfl (lv_at hl 0 rfl) ?_
      refine lv_iload_n hx hb dX0_isBorne_17 rfl (lv_at hl 3 rfl) ?_
      refine lv_iload_n hx hb dX0_isBorne_18 rfl (lv_at hl 1 rfl) ?_
      obtain ⟨r7, hcr7, hf⟩ := bnd_some hf
      refine xr_callVC (rest := []) (q := (RX0, TX0, 14)) B hX (c_X0_isWorld l D S o x2 p0 hcr7) hk4 rfl (by decide) q1477 q1479 (Or.inl qs36) q103 q1480 hd_X0_isWorld ⟨Nat.le_of_ble_eq_true rfl, Nat.le_of_ble_eq_true rfl⟩ rfl hl.1 rfl (Nat.le_of_ble_eq_true rfl) dX0_isBorne_19 (fun H locs hX => ?_)
      refine lv_istore_n (lv' := [(2, .int r7), (0, .ref o), (1, .int p0), (3, .int x2)]) hx hb dX0_isBorne_22 rfl hl (by decide) rfl (fun ls hl => ?_)
      obtain ⟨x8, ex8, hf⟩ := bd_some hf
      refine lv_iinc (v := x8) (lv' := [(3, .int x8), (2, .int r7), (0, .ref o), (1, .int p0)]) hx hb dX0_isBorne_23 hl (k := 3) rfl (by rw [ex8]; first | done | rfl) (by decide) rfl (fun ls hl => ?_)
      refine lv_goto (tgt := 4) hx hb dX0_isBorne_26 (by decide) ?_
      cases hf
      exact hk _ _ _ hX (lv_sub hl [2, 3, 1, 0] rfl)
def f_X0_lambda_core_0 (S : XS) (o : Nat) (p0 : Int32) : Option Int32 :=
  chk (xk S o = 1) <| bnd (f_X0_isBorne S o p0) fun r1 => (if r1 = 0 then some (nI 1) else some (nI 0))
set_option maxHeartbeats 4000000 in
set_option maxRecDepth 100000 in
theorem c_X0_lambda_core_0 (l : Launch) (D : XD) (S : XS) (o : Nat) (p0 : Int32) {r : Int32} (hf : f_X0_lambda_core_0 S o p0 = some r) : x_Met l yX0_lambda_core_0 cX0_lambda_core_0 2 (Option.some Jvm.ClassFile.FieldType.boolean) 8 171 D [.ref o, .int p0] S (some (.int r)) S := by
  refine x_metI RX0 (by decide) rfl (Nat.le_of_ble_eq_true rfl) (fun p e s m args below meth c Q B hnm hret H locs hX ls hl => ?_)
  have hx := B.1
  have hb := B.2.1
  have hml := B.2.2.1
  have hown := B.2.2.2.1
  have hts := B.2.2.2.2
  have hl : lv_has ls 2 [(0, .ref o), (1, .int p0)] := hl
  unfold f_X0_lambda_core_0 at hf
  refine lv_aload_n hx hb dX0_lambda_core_0_0 rfl (lv_at hl 0 rfl) ?_
  refine lv_iload_n hx hb dX0_lambda_core_0_1 rfl (lv_at hl 1 rfl) ?_
  obtain ⟨hk2, hf⟩ := chk_some hf
  obtain ⟨r1, hcr1, hf⟩ := bnd_some hf
  refine xr_callVC (rest := []) (q := (RX0, TX0, 14)) B hX (c_X0_isBorne l D S o p0 hcr1) hk2 rfl (by decide) q1532 q1534 (Or.inl qs40) q103 q1535 hd_X0_isBorne ⟨Nat.le_of_ble_eq_true rfl, Nat.le_of_ble_eq_true rfl⟩ rfl hl.1 rfl (Nat.le_of_ble_eq_true rfl) dX0_lambda_core_0_2 (fun H locs hX => ?_)
  refine lv_if_ne (tgt := 12) hx hb dX0_lambda_core_0_5 (by decide) (fun c3 => ?_) (fun c3 => ?_)
  · have hf := it_neg c3 hf
    refine lv_iconst (v := nI 0) hx hb dX0_lambda_core_0_12 ic0 ?_
    cases hf
    exact hret _ _ _ _ rfl hX dX0_lambda_core_0_13
  · have hf := it_pos c3 hf
    refine lv_iconst (v := nI 1) hx hb dX0_lambda_core_0_8 ic1 ?_
    refine lv_goto (tgt := 13) hx hb dX0_lambda_core_0_9 (by decide) ?_
    cases hf
    exact hret _ _ _ _ rfl hX dX0_lambda_core_0_13
def f_X0_soIn_L5 (o : Nat) (p0 : Int32) (p1 : Int32) (S : XS) (x1 : Int32) (x2 : Int32) : Option ((Int32 × Int32) ⊕ ((Int32))) :=
  chk (xk S o = 1) <| bnd (f_X0_rows S o) fun r3 => (if r3 ≤ x2 then some (.inr x1) else bnd (f_X0_isWorld S o x2 p1) fun r6 => (if r6 = 0 then bd (x1 + nI 0) fun x8 => bd (x2 + nI 1) fun x9 => some (.inl (x8, x9)) else bnd (f_X0_bit S o p0) fun r10 => (if (lg_cmp (x2.toInt64 &&& r10) (0 : Int64)) = 0 then bd (x1 + nI 0) fun x12 => bd (x2 + nI 1) fun x13 => some (.inl (x12, x13)) else bd (x1 + nI 1) fun x14 => bd (x2 + nI 1) fun x15 => some (.inl (x14, x15)))))
def f_X0_soIn (S : XS) (o : Nat) (p0 : Int32) (p1 : Int32) : Option Int32 :=
  bnd (wO (fun t : Int32 × Int32 => f_X0_soIn_L5 o p0 p1 S t.1 t.2) fu (nI 0, nI 0)) <| fun x18 => some x18
set_option maxHeartbeats 4000000 in
set_option maxRecDepth 100000 in
theorem c_X0_soIn (l : Launch) (D : XD) (S : XS) (o : Nat) (p0 : Int32) (p1 : Int32) {r : Int32} (hf : f_X0_soIn S o p0 p1 = some r) : x_Met l yX0_soIn cX0_soIn 5 (Option.some Jvm.ClassFile.FieldType.int) 7 149 D [.ref o, .int p0, .int p1] S (some (.int r)) S := by
  refine x_metI RX0 (by decide) rfl (Nat.le_of_ble_eq_true rfl) (fun p e s m args below meth c Q B hnm hret H locs hX ls hl => ?_)
  have hx := B.1
  have hb := B.2.1
  have hml := B.2.2.1
  have hown := B.2.2.2.1
  have hts := B.2.2.2.2
  have hl : lv_has ls 5 [(0, .ref o), (1, .int p0), (2, .int p1)] := hl
  unfold f_X0_soIn at hf
  refine lv_iconst (v := nI 0) hx hb dX0_soIn_0 ic0 ?_
  refine lv_istore_n (lv' := [(3, .int (nI 0)), (0, .ref o), (1, .int p0), (2, .int p1)]) hx hb dX0_soIn_1 rfl hl (by decide) rfl (fun ls hl => ?_)
  refine lv_iconst (v := nI 0) hx hb dX0_soIn_2 ic0 ?_
  refine lv_istore (lv' := [(4, .int (nI 0)), (3, .int (nI 0)), (0, .ref o), (1, .int p0), (2, .int p1)]) hx hb dX0_soIn_3 hl (by decide) rfl (fun ls hl => ?_)
  obtain ⟨y17, hxy17, hf⟩ := bnd_some hf
  have hy17 : (fun t : Int32 => ∀ (H : Heap) (locs : List Loc) (ls : Array Slot), x_I D S s H locs S → lv_has ls 5 [(3, .int t)] → W p l e (x_R 7 149 S) s m args below meth c H locs (xz S - xz S) (xu S - xu S) Q (F0 m 52 ls [])) y17 := by
    obtain ⟨x18, rfl⟩ : ∃ z, z = y17 := ⟨_, rfl⟩
    intro H locs ls hX hl
    refine lv_iload_n hx hb dX0_soIn_52 rfl (lv_at hl 0 rfl) ?_
    cases hf
    exact hret _ _ _ _ rfl hX dX0_soIn_53
  refine lp_W (step := (fun t : Int32 × Int32 => f_X0_soIn_L5 o p0 p1 S t.1 t.2)) (fun t : Int32 × Int32 => ∀ (H : Heap) (locs : List Loc) (ls : Array Slot), x_I D S s H locs S → lv_has ls 5 [(0, .ref o), (1, .int p0), (2, .int p1), (3, .int t.1), (4, .int t.2)] → W p l e (x_R 7 149 S) s m args below meth c H locs (xz S - xz S) (xu S - xu S) Q (F0 m 5 ls [])) (fun t : Int32 => ∀ (H : Heap) (locs : List Loc) (ls : Array Slot), x_I D S s H locs S → lv_has ls 5 [(3, .int t)] → W p l e (x_R 7 149 S) s m args below meth c H locs (xz S - xz S) (xu S - xu S) Q (F0 m 52 ls [])) ?_ fu (nI 0, nI 0) y17 hxy17 hy17 _ _ _ hX (lv_sub hl [2, 3, 4, 1, 0] rfl)
  clear hf hxy17 hy17
  rintro ⟨x1, x2⟩ oo (hf : f_X0_soIn_L5 o p0 p1 S x1 x2 = some oo) hk
  intro H locs ls hX hl
  unfold f_X0_soIn_L5 at hf
  refine lv_iload hx hb dX0_soIn_5 (lv_at hl 4 rfl) ?_
  refine lv_aload_n hx hb dX0_soIn_7 rfl (lv_at hl 0 rfl) ?_
  obtain ⟨hk4, hf⟩ := chk_some hf
  obtain ⟨r3, hcr3, hf⟩ := bnd_some hf
  refine xr_callVC (rest := [.int x2]) (q := (RX0, TX0, 14)) B hX (c_X0_rows l D S o hcr3) hk4 rfl (by decide) q1465 q1467 (Or.inl qs33) q103 q1468 hd_X0_rows ⟨Nat.le_of_ble_eq_true rfl, Nat.le_of_ble_eq_true rfl⟩ rfl hl.1 rfl (Nat.le_of_ble_eq_true rfl) dX0_soIn_8 (fun H locs hX => ?_)
  refine lv_icmp_ge (tgt := 52) hx hb dX0_soIn_11 (by decide) (fun c5 => ?_) (fun c5 => ?_)
  · have hf := it_pos c5 hf
    cases hf
    exact hk _ _ _ hX (lv_sub hl [3] rfl)
  · have hf := it_neg c5 hf
    refine lv_iload_n hx hb dX0_soIn_14 rfl (lv_at hl 3 rfl) ?_
    refine lv_aload_n hx hb dX0_soIn_15 rfl (lv_at hl 0 rfl) ?_
    refine lv_iload hx hb dX0_soIn_16 (lv_at hl 4 rfl) ?_
    refine lv_iload_n hx hb dX0_soIn_18 rfl (lv_at hl 2 rfl) ?_
    obtain ⟨r6, hcr6, hf⟩ := bnd_some hf
    refine xr_callVC (rest := [.int x1]) (q := (RX0, TX0, 14)) B hX (c_X0_isWorld l D S o x2 p1 hcr6) hk4 rfl (by decide) q1477 q1479 (Or.inl qs36) q103 q1480 hd_X0_isWorld ⟨Nat.le_of_ble_eq_true rfl, Nat.le_of_ble_eq_true rfl⟩ rfl hl.1 rfl (Nat.le_of_ble_eq_true rfl) dX0_soIn_19 (fun H locs hX => ?_)
    refine lv_if_eq (tgt := 43) hx hb dX0_soIn_22 (by decide) (fun c7 => ?_) (fun c7 => ?_)
    · have hf := it_pos c7 hf
      refine lv_iconst (v := nI 0) hx hb dX0_soIn_43 ic0 ?_
      refine lv_iadd hx hb dX0_soIn_44 ?_
      refine lv_topi (fun x8 ex8 => ?_)
      have hf := bd_at ex8 hf
      refine lv_istore_n (lv' := [(3, .int x8), (0, .ref o), (1, .int p0), (2, .int p1), (4, .int x2)]) hx hb dX0_soIn_45 rfl hl (by decide) rfl (fun ls hl => ?_)
      obtain ⟨x9, ex9, hf⟩ := bd_some hf
      refine lv_iinc (v := x9) (lv' := [(4, .int x9), (3, .int x8), (0, .ref o), (1, .int p0), (2, .int p1)]) hx hb dX0_soIn_46 hl (k := 4) rfl (by rw [ex9]; first | done | rfl) (by decide) rfl (fun ls hl => ?_)
      refine lv_goto (tgt := 5) hx hb dX0_soIn_49 (by decide) ?_
      cases hf
      exact hk _ _ _ hX (lv_sub hl [2, 3, 4, 1, 0] rfl)
    · have hf := it_neg c7 hf
      refine lv_iload hx hb dX0_soIn_25 (lv_at hl 4 rfl) ?_
      refine lv_i2l (v := x2.toInt64) hx hb dX0_soIn_27 rfl ?_
      refine lv_aload_n hx hb dX0_soIn_28 rfl (lv_at hl 0 rfl) ?_
      refine lv_iload_n hx hb dX0_soIn_29 rfl (lv_at hl 1 rfl) ?_
      obtain ⟨r10, hcr10, hf⟩ := bnd_some hf
      refine xr_callVC (rest := [.long x2.toInt64, .int x1]) (q := (RX0, TX0, 14)) B hX (c_X0_bit l D S o p0 hcr10) hk4 rfl (by decide) q559 q561 (Or.inl qs6) q103 q562 hd_X0_bit ⟨Nat.le_of_ble_eq_true rfl, Nat.le_of_ble_eq_true rfl⟩ rfl hl.1 rfl (Nat.le_of_ble_eq_true rfl) dX0_soIn_30 (fun H locs hX => ?_)
      refine lv_land hx hb dX0_soIn_33 ?_
      refine lv_lconst (v := 0) hx hb dX0_soIn_34 (by decide) ?_
      refine W.lcmp hx hb dX0_soIn_35 ?_
      refine lv_if_eq (tgt := 43) hx hb dX0_soIn_36 (by decide) (fun c11 => ?_) (fun c11 => ?_)
      · have hf := it_pos c11 hf
        refine lv_iconst (v := nI 0) hx hb dX0_soIn_43 ic0 ?_
        refine lv_iadd hx hb dX0_soIn_44 ?_
        refine lv_topi (fun x12 ex12 => ?_)
        have hf := bd_at ex12 hf
        refine lv_istore_n (lv' := [(3, .int x12), (0, .ref o), (1, .int p0), (2, .int p1), (4, .int x2)]) hx hb dX0_soIn_45 rfl hl (by decide) rfl (fun ls hl => ?_)
        obtain ⟨x13, ex13, hf⟩ := bd_some hf
        refine lv_iinc (v := x13) (lv' := [(4, .int x13), (3, .int x12), (0, .ref o), (1, .int p0), (2, .int p1)]) hx hb dX0_soIn_46 hl (k := 4) rfl (by rw [ex13]; first | done | rfl) (by decide) rfl (fun ls hl => ?_)
        refine lv_goto (tgt := 5) hx hb dX0_soIn_49 (by decide) ?_
        cases hf
        exact hk _ _ _ hX (lv_sub hl [2, 3, 4, 1, 0] rfl)
      · have hf := it_neg c11 hf
        refine lv_iconst (v := nI 1) hx hb dX0_soIn_39 ic1 ?_
        refine lv_goto (tgt := 44) hx hb dX0_soIn_40 (by decide) ?_
        refine lv_iadd hx hb dX0_soIn_44 ?_
        refine lv_topi (fun x14 ex14 => ?_)
        have hf := bd_at ex14 hf
        refine lv_istore_n (lv' := [(3, .int x14), (0, .ref o), (1, .int p0), (2, .int p1), (4, .int x2)]) hx hb dX0_soIn_45 rfl hl (by decide) rfl (fun ls hl => ?_)
        obtain ⟨x15, ex15, hf⟩ := bd_some hf
        refine lv_iinc (v := x15) (lv' := [(4, .int x15), (3, .int x14), (0, .ref o), (1, .int p0), (2, .int p1)]) hx hb dX0_soIn_46 hl (k := 4) rfl (by rw [ex15]; first | done | rfl) (by decide) rfl (fun ls hl => ?_)
        refine lv_goto (tgt := 5) hx hb dX0_soIn_49 (by decide) ?_
        cases hf
        exact hk _ _ _ hX (lv_sub hl [2, 3, 4, 1, 0] rfl)
def f_X0_sureOf (S : XS) (o : Nat) (p0 : Int32) (p1 : Int32) : Option Int32 :=
  chk (xk S o = 1) <| bnd (f_X0_worldsOf S o p1) fun r1 => bnd (f_X0_soIn S o p0 p1) fun r3 => (if r1 = 0 then some (-1) else (if r3 = r1 then some (nI 1) else (if r3 = 0 then some (nI 0) else some (-1))))
set_option maxHeartbeats 4000000 in
set_option maxRecDepth 100000 in
theorem c_X0_sureOf (l : Launch) (D : XD) (S : XS) (o : Nat) (p0 : Int32) (p1 : Int32) {r : Int32} (hf : f_X0_sureOf S o p0 p1 = some r) : x_Met l yX0_sureOf cX0_sureOf 5 (Option.some Jvm.ClassFile.FieldType.int) 8 173 D [.ref o, .int p0, .int p1] S (some (.int r)) S := by
  refine x_metI RX0 (by decide) rfl (Nat.le_of_ble_eq_true rfl) (fun p e s m args below meth c Q B hnm hret H locs hX ls hl => ?_)
  have hx := B.1
  have hb := B.2.1
  have hml := B.2.2.1
  have hown := B.2.2.2.1
  have hts := B.2.2.2.2
  have hl : lv_has ls 5 [(0, .ref o), (1, .int p0), (2, .int p1)] := hl
  unfold f_X0_sureOf at hf
  refine lv_aload_n hx hb dX0_sureOf_0 rfl (lv_at hl 0 rfl) ?_
  refine lv_iload_n hx hb dX0_sureOf_1 rfl (lv_at hl 2 rfl) ?_
  obtain ⟨hk2, hf⟩ := chk_some hf
  obtain ⟨r1, hcr1, hf⟩ := bnd_some hf
  refine xr_callVC (rest := []) (q := (RX0, TX0, 14)) B hX (c_X0_worldsOf l D S o p1 hcr1) hk2 rfl (by decide) q1473 q1475 (Or.inl qs35) q103 q1476 hd_X0_worldsOf ⟨Nat.le_of_ble_eq_true rfl, Nat.le_of_ble_eq_true rfl⟩ rfl hl.1 rfl (Nat.le_of_ble_eq_true rfl) dX0_sureOf_2 (fun H locs hX => ?_)
  refine lv_istore_n (lv' := [(3, .int r1), (0, .ref o), (1, .int p0), (2, .int p1)]) hx hb dX0_sureOf_5 rfl hl (by decide) rfl (fun ls hl => ?_)
  refine lv_aload_n hx hb dX0_sureOf_6 rfl (lv_at hl 1 rfl) ?_
  refine lv_iload_n hx hb dX0_sureOf_7 rfl (lv_at hl 2 rfl) ?_
  refine lv_iload_n hx hb dX0_sureOf_8 rfl (lv_at hl 3 rfl) ?_
  obtain ⟨r3, hcr3, hf⟩ := bnd_some hf
  refine xr_callVC (rest := []) (q := (RX0, TX0, 14)) B hX (c_X0_soIn l D S o p0 p1 hcr3) hk2 rfl (by decide) q1567 q1569 (Or.inl qs42) q103 q1570 hd_X0_soIn ⟨Nat.le_of_ble_eq_true rfl, Nat.le_of_ble_eq_true rfl⟩ rfl hl.1 rfl (Nat.le_of_ble_eq_true rfl) dX0_sureOf_9 (fun H locs hX => ?_)
  refine lv_istore (lv' := [(4, .int r3), (3, .int r1), (0, .ref o), (1, .int p0), (2, .int p1)]) hx hb dX0_sureOf_12 hl (by decide) rfl (fun ls hl => ?_)
  refine lv_iload_n hx hb dX0_sureOf_14 rfl (lv_at hl 1 rfl) ?_
  refine lv_if_ne (tgt := 22) hx hb dX0_sureOf_15 (by decide) (fun c4 => ?_) (fun c4 => ?_)
  · have hf := it_neg c4 hf
    refine lv_iload hx hb dX0_sureOf_22 (lv_at hl 0 rfl) ?_
    refine lv_iload_n hx hb dX0_sureOf_24 rfl (lv_at hl 1 rfl) ?_
    refine lv_icmp_ne (tgt := 32) hx hb dX0_sureOf_25 (by decide) (fun c5 => ?_) (fun c5 => ?_)
    · have hf := it_neg c5 hf
      refine lv_iload hx hb dX0_sureOf_32 (lv_at hl 0 rfl) ?_
      refine lv_if_ne (tgt := 41) hx hb dX0_sureOf_34 (by decide) (fun c6 => ?_) (fun c6 => ?_)
      · have hf := it_neg c6 hf
        refine lv_iconst (v := (-1)) hx hb dX0_sureOf_41 icm1 ?_
        cases hf
        exact hret _ _ _ _ rfl hX dX0_sureOf_42
      · have hf := it_pos c6 hf
        refine lv_iconst (v := nI 0) hx hb dX0_sureOf_37 ic0 ?_
        refine lv_goto (tgt := 42) hx hb dX0_sureOf_38 (by decide) ?_
        cases hf
        exact hret _ _ _ _ rfl hX dX0_sureOf_42
    · have hf := it_pos c5 hf
      refine lv_iconst (v := nI 1) hx hb dX0_sureOf_28 ic1 ?_
      refine lv_goto (tgt := 42) hx hb dX0_sureOf_29 (by decide) ?_
      cases hf
      exact hret _ _ _ _ rfl hX dX0_sureOf_42
  · have hf := it_pos c4 hf
    refine lv_iconst (v := (-1)) hx hb dX0_sureOf_18 icm1 ?_
    refine lv_goto (tgt := 42) hx hb dX0_sureOf_19 (by decide) ?_
    cases hf
    exact hret _ _ _ _ rfl hX dX0_sureOf_42
def f_X0_lambda_cause_1 (S : XS) (o : Nat) (p0 : Int32) (p1 : Int32) (p2 : Int32) : Option Int32 :=
  chk (xk S o = 1) <| bnd (f_X0_sureOf S o p0 p2) fun r1 => (if r1 = p1 then some (nI 1) else some (nI 0))
set_option maxHeartbeats 4000000 in
set_option maxRecDepth 100000 in
theorem c_X0_lambda_cause_1 (l : Launch) (D : XD) (S : XS) (o : Nat) (p0 : Int32) (p1 : Int32) (p2 : Int32) {r : Int32} (hf : f_X0_lambda_cause_1 S o p0 p1 p2 = some r) : x_Met l yX0_lambda_cause_1 cX0_lambda_cause_1 4 (Option.some Jvm.ClassFile.FieldType.boolean) 9 197 D [.ref o, .int p0, .int p1, .int p2] S (some (.int r)) S := by
  refine x_metI RX0 (by decide) rfl (Nat.le_of_ble_eq_true rfl) (fun p e s m args below meth c Q B hnm hret H locs hX ls hl => ?_)
  have hx := B.1
  have hb := B.2.1
  have hml := B.2.2.1
  have hown := B.2.2.2.1
  have hts := B.2.2.2.2
  have hl : lv_has ls 4 [(0, .ref o), (1, .int p0), (2, .int p1), (3, .int p2)] := hl
  unfold f_X0_lambda_cause_1 at hf
  refine lv_aload_n hx hb dX0_lambda_cause_1_0 rfl (lv_at hl 0 rfl) ?_
  refine lv_iload_n hx hb dX0_lambda_cause_1_1 rfl (lv_at hl 1 rfl) ?_
  refine lv_iload_n hx hb dX0_lambda_cause_1_2 rfl (lv_at hl 3 rfl) ?_
  obtain ⟨hk2, hf⟩ := chk_some hf
  obtain ⟨r1, hcr1, hf⟩ := bnd_some hf
  refine xr_callVC (rest := []) (q := (RX0, TX0, 14)) B hX (c_X0_sureOf l D S o p0 p2 hcr1) hk2 rfl (by decide) q1563 q1565 (Or.inl qs41) q103 q1566 hd_X0_sureOf ⟨Nat.le_of_ble_eq_true rfl, Nat.le_of_ble_eq_true rfl⟩ rfl hl.1 rfl (Nat.le_of_ble_eq_true rfl) dX0_lambda_cause_1_3 (fun H locs hX => ?_)
  refine lv_iload_n hx hb dX0_lambda_cause_1_6 rfl (lv_at hl 2 rfl) ?_
  refine lv_icmp_ne (tgt := 14) hx hb dX0_lambda_cause_1_7 (by decide) (fun c3 => ?_) (fun c3 => ?_)
  · have hf := it_neg c3 hf
    refine lv_iconst (v := nI 0) hx hb dX0_lambda_cause_1_14 ic0 ?_
    cases hf
    exact hret _ _ _ _ rfl hX dX0_lambda_cause_1_15
  · have hf := it_pos c3 hf
    refine lv_iconst (v := nI 1) hx hb dX0_lambda_cause_1_10 ic1 ?_
    refine lv_goto (tgt := 15) hx hb dX0_lambda_cause_1_11 (by decide) ?_
    cases hf
    exact hret _ _ _ _ rfl hX dX0_lambda_cause_1_15
def f_X0_many (S : XS) (o : Nat) (p0 : Int32) : Option Int32 :=
  (if p0 = nI 0 then chk (xk S o = 1) <| bnd (f_X0_land S o) fun b1 => chk (xk S b1 = 3) <| bnd (f_X2_size S b1 p0) fun r3 => some r3 else (if p0 = nI 1 then chk (xk S o = 1) <| bnd (f_X0_land S o) fun b5 => chk (xk S b5 = 3) <| bnd (f_X2_size S b5 p0) fun r7 => some r7 else (if p0 = nI 2 then chk (xk S o = 1) <| bnd (f_X0_land S o) fun b9 => chk (xk S b9 = 3) <| bnd (f_X2_size S b9 p0) fun r11 => some r11 else (if p0 = nI 3 then chk (xk S o = 1) <| bnd (f_X0_land S o) fun b13 => chk (xk S b13 = 3) <| bnd (xr S 301 b13 0) fun b16 => chk (xk S b16 = 19) <| bnd (f_J2_size S b16) fun r17 => some r17 else (if p0 = nI 4 then chk (xk S o = 1) <| bnd (xr S 100 o 0) fun b20 => chk (xk S b20 = 2) <| bnd (xr S 211 b20 0) fun b22 => chk (xk S b22 = 19) <| bnd (f_J2_size S b22) fun r23 => some r23 else (if p0 = nI 5 then chk (xk S o = 1) <| bnd (xr S 100 o 0) fun b26 => chk (xk S b26 = 2) <| some (xi S 204 b26 0) else (if p0 = nI 6 then chk (xk S o = 1) <| bnd (xr S 100 o 0) fun b29 => chk (xk S b29 = 2) <| some (xi S 205 b29 0) else (if p0 = nI 7 then chk (xk S o = 1) <| bnd (f_X0_needed S o) fun r31 => some r31 else (if p0 = nI 8 then chk (xk S o = 1) <| bnd (xr S 100 o 0) fun b34 => chk (xk S b34 = 2) <| bnd (f_J9_bitCount (xl S 207 b34 0)) fun r36 => some r36 else (if p0 = nI 9 then chk (xk S o = 1) <| bnd (xr S 100 o 0) fun b38 => chk (xk S b38 = 2) <| some (xi S 206 b38 0) else (if p0 = nI 10 then chk (xk S o = 1) <| bnd (xr S 100 o 0) fun b41 => chk (xk S b41 = 2) <| bnd (xr S 212 b41 0) fun b43 => chk (xk S b43 = 19) <| bnd (f_J2_size S b43) fun r44 => some r44 else some (-2))))))))))))
set_option maxHeartbeats 4000000 in
set_option maxRecDepth 100000 in
theorem c_X0_many (l : Launch) (D : XD) (S : XS) (o : Nat) (p0 : Int32) {r : Int32} (hf : f_X0_many S o p0 = some r) : x_Met l yX0_many cX0_many 2 (Option.some Jvm.ClassFile.FieldType.int) 5 107 D [.ref o, .int p0] S (some (.int r)) S := by
  refine x_metI RX0 (by decide) rfl (Nat.le_of_ble_eq_true rfl) (fun p e s m args below meth c Q B hnm hret H locs hX ls hl => ?_)
  have hx := B.1
  have hb := B.2.1
  have hml := B.2.2.1
  have hown := B.2.2.2.1
  have hts := B.2.2.2.2
  have hl : lv_has ls 2 [(0, .ref o), (1, .int p0)] := hl
  unfold f_X0_many at hf
  refine lv_iload_n hx hb dX0_many_0 rfl (lv_at hl 1 rfl) ?_
  by_cases cdX0_many_1_0 : p0 = nI 0
  · have hf := it_pos cdX0_many_1_0 hf
    refine lv_tableIn (tgt := 60) hx hb dX0_many_1 (by rw [cdX0_many_1_0]; decide) (by rw [cdX0_many_1_0]; decide) (by rw [cdX0_many_1_0]; rfl) (by decide) ?_
    refine lv_aload_n hx hb dX0_many_60 rfl (lv_at hl 0 rfl) ?_
    obtain ⟨hk2, hf⟩ := chk_some hf
    obtain ⟨b1, hcb1, hf⟩ := bnd_some hf
    refine xr_callVC (rest := []) (q := (RX0, TX0, 14)) B hX (c_X0_land l D S o hcb1) hk2 rfl (by decide) q393 q395 (Or.inl qs0) q103 q396 hd_X0_land ⟨Nat.le_of_ble_eq_true rfl, Nat.le_of_ble_eq_true rfl⟩ rfl hl.1 rfl (Nat.le_of_ble_eq_true rfl) dX0_many_61 (fun H locs hX => ?_)
    refine lv_iload_n hx hb dX0_many_64 rfl (lv_at hl 1 rfl) ?_
    obtain ⟨hk4, hf⟩ := chk_some hf
    obtain ⟨r3, hcr3, hf⟩ := bnd_some hf
    refine xr_callVC (rest := []) (q := (RX2, TX2, 2)) B hX (c_X2_size l D S b1 p0 hcr3) hk4 rfl (by decide) q397 q398 (Or.inl q399) q105 q400 hd_X2_size ⟨Nat.le_of_ble_eq_true rfl, Nat.le_of_ble_eq_true rfl⟩ rfl hl.1 rfl (Nat.le_of_ble_eq_true rfl) dX0_many_65 (fun H locs hX => ?_)
    cases hf
    exact hret _ _ _ _ rfl hX dX0_many_68
  · have hf := it_neg cdX0_many_1_0 hf
    by_cases cdX0_many_1_1 : p0 = nI 1
    · have hf := it_pos cdX0_many_1_1 hf
      refine lv_tableIn (tgt := 60) hx hb dX0_many_1 (by rw [cdX0_many_1_1]; decide) (by rw [cdX0_many_1_1]; decide) (by rw [cdX0_many_1_1]; rfl) (by decide) ?_
      refine lv_aload_n hx hb dX0_many_60 rfl (lv_at hl 0 rfl) ?_
      obtain ⟨hk6, hf⟩ := chk_some hf
      obtain ⟨b5, hcb5, hf⟩ := bnd_some hf
      refine xr_callVC (rest := []) (q := (RX0, TX0, 14)) B hX (c_X0_land l D S o hcb5) hk6 rfl (by decide) q393 q395 (Or.inl qs0) q103 q396 hd_X0_land ⟨Nat.le_of_ble_eq_true rfl, Nat.le_of_ble_eq_true rfl⟩ rfl hl.1 rfl (Nat.le_of_ble_eq_true rfl) dX0_many_61 (fun H locs hX => ?_)
      refine lv_iload_n hx hb dX0_many_64 rfl (lv_at hl 1 rfl) ?_
      obtain ⟨hk8, hf⟩ := chk_some hf
      obtain ⟨r7, hcr7, hf⟩ := bnd_some hf
      refine xr_callVC (rest := []) (q := (RX2, TX2, 2)) B hX (c_X2_size l D S b5 p0 hcr7) hk8 rfl (by decide) q397 q398 (Or.inl q399) q105 q400 hd_X2_size ⟨Nat.le_of_ble_eq_true rfl, Nat.le_of_ble_eq_true rfl⟩ rfl hl.1 rfl (Nat.le_of_ble_eq_true rfl) dX0_many_65 (fun H locs hX => ?_)
      cases hf
      exact hret _ _ _ _ rfl hX dX0_many_68
    · have hf := it_neg cdX0_many_1_1 hf
      by_cases cdX0_many_1_2 : p0 = nI 2
      · have hf := it_pos cdX0_many_1_2 hf
        refine lv_tableIn (tgt := 60) hx hb dX0_many_1 (by rw [cdX0_many_1_2]; decide) (by rw [cdX0_many_1_2]; decide) (by rw [cdX0_many_1_2]; rfl) (by decide) ?_
        refine lv_aload_n hx hb dX0_many_60 rfl (lv_at hl 0 rfl) ?_
        obtain ⟨hk10, hf⟩ := chk_some hf
        obtain ⟨b9, hcb9, hf⟩ := bnd_some hf
        refine xr_callVC (rest := []) (q := (RX0, TX0, 14)) B hX (c_X0_land l D S o hcb9) hk10 rfl (by decide) q393 q395 (Or.inl qs0) q103 q396 hd_X0_land ⟨Nat.le_of_ble_eq_true rfl, Nat.le_of_ble_eq_true rfl⟩ rfl hl.1 rfl (Nat.le_of_ble_eq_true rfl) dX0_many_61 (fun H locs hX => ?_)
        refine lv_iload_n hx hb dX0_many_64 rfl (lv_at hl 1 rfl) ?_
        obtain ⟨hk12, hf⟩ := chk_some hf
        obtain ⟨r11, hcr11, hf⟩ := bnd_some hf
        refine xr_callVC (rest := []) (q := (RX2, TX2, 2)) B hX (c_X2_size l D S b9 p0 hcr11) hk12 rfl (by decide) q397 q398 (Or.inl q399) q105 q400 hd_X2_size ⟨Nat.le_of_ble_eq_true rfl, Nat.le_of_ble_eq_true rfl⟩ rfl hl.1 rfl (Nat.le_of_ble_eq_true rfl) dX0_many_65 (fun H locs hX => ?_)
        cases hf
        exact hret _ _ _ _ rfl hX dX0_many_68
      · have hf := it_neg cdX0_many_1_2 hf
        by_cases cdX0_many_1_3 : p0 = nI 3
        · have hf := it_pos cdX0_many_1_3 hf
          refine lv_tableIn (tgt := 69) hx hb dX0_many_1 (by rw [cdX0_many_1_3]; decide) (by rw [cdX0_many_1_3]; decide) (by rw [cdX0_many_1_3]; rfl) (by decide) ?_
          refine lv_aload_n hx hb dX0_many_69 rfl (lv_at hl 0 rfl) ?_
          obtain ⟨hk14, hf⟩ := chk_some hf
          obtain ⟨b13, hcb13, hf⟩ := bnd_some hf
          refine xr_callVC (rest := []) (q := (RX0, TX0, 14)) B hX (c_X0_land l D S o hcb13) hk14 rfl (by decide) q393 q395 (Or.inl qs0) q103 q396 hd_X0_land ⟨Nat.le_of_ble_eq_true rfl, Nat.le_of_ble_eq_true rfl⟩ rfl hl.1 rfl (Nat.le_of_ble_eq_true rfl) dX0_many_70 (fun H locs hX => ?_)
          obtain ⟨hk15, hf⟩ := chk_some hf
          obtain ⟨b16, hb16, hf⟩ := bnd_some hf
          refine xr_getN (q := (RX2, TX2, 2)) B hX 1 hk15 rfl (by decide) (by decide) (v := .ref b16) (x_Vr (c := 3) (j := 1) rfl (by decide) hb16) nq204 (fun _ h => h) dX0_many_73 ?_
          obtain ⟨hk18, hf⟩ := chk_some hf
          obtain ⟨r17, hcr17, hf⟩ := bnd_some hf
          refine xr_callVC (rest := []) (q := (RJ2, TJ2, 3)) B hX (c_J2_size l D S b16 hcr17) hk18 rfl (by decide) q409 q410 (Or.inl q411) q108 q412 hd_J2_size ⟨Nat.le_of_ble_eq_true rfl, Nat.le_of_ble_eq_true rfl⟩ rfl hl.1 rfl (Nat.le_of_ble_eq_true rfl) dX0_many_76 (fun H locs hX => ?_)
          cases hf
          exact hret _ _ _ _ rfl hX dX0_many_79
        · have hf := it_neg cdX0_many_1_3 hf
          by_cases cdX0_many_1_4 : p0 = nI 4
          · have hf := it_pos cdX0_many_1_4 hf
            refine lv_tableIn (tgt := 80) hx hb dX0_many_1 (by rw [cdX0_many_1_4]; decide) (by rw [cdX0_many_1_4]; decide) (by rw [cdX0_many_1_4]; rfl) (by decide) ?_
            refine lv_aload_n hx hb dX0_many_80 rfl (lv_at hl 0 rfl) ?_
            obtain ⟨hk19, hf⟩ := chk_some hf
            obtain ⟨b20, hb20, hf⟩ := bnd_some hf
            refine xr_get (q := (RX0, TX0, 14)) B hX 0 hk19 rfl (by decide) (by decide) (v := .ref b20) (x_Vr (c := 1) (j := 0) rfl (by decide) hb20) q339 (fun _ h => h) dX0_many_81 ?_
            obtain ⟨hk21, hf⟩ := chk_some hf
            obtain ⟨b22, hb22, hf⟩ := bnd_some hf
            refine xr_getN (q := (RX1, TX1, 14)) B hX 11 hk21 rfl (by decide) (by decide) (v := .ref b22) (x_Vr (c := 2) (j := 11) rfl (by decide) hb22) nq241 (fun _ h => h) dX0_many_84 ?_
            obtain ⟨hk24, hf⟩ := chk_some hf
            obtain ⟨r23, hcr23, hf⟩ := bnd_some hf
            refine xr_callVC (rest := []) (q := (RJ2, TJ2, 3)) B hX (c_J2_size l D S b22 hcr23) hk24 rfl (by decide) q409 q410 (Or.inl q411) q108 q412 hd_J2_size ⟨Nat.le_of_ble_eq_true rfl, Nat.le_of_ble_eq_true rfl⟩ rfl hl.1 rfl (Nat.le_of_ble_eq_true rfl) dX0_many_87 (fun H locs hX => ?_)
            cases hf
            exact hret _ _ _ _ rfl hX dX0_many_90
          · have hf := it_neg cdX0_many_1_4 hf
            by_cases cdX0_many_1_5 : p0 = nI 5
            · have hf := it_pos cdX0_many_1_5 hf
              refine lv_tableIn (tgt := 91) hx hb dX0_many_1 (by rw [cdX0_many_1_5]; decide) (by rw [cdX0_many_1_5]; decide) (by rw [cdX0_many_1_5]; rfl) (by decide) ?_
              refine lv_aload_n hx hb dX0_many_91 rfl (lv_at hl 0 rfl) ?_
              obtain ⟨hk25, hf⟩ := chk_some hf
              obtain ⟨b26, hb26, hf⟩ := bnd_some hf
              refine xr_get (q := (RX0, TX0, 14)) B hX 0 hk25 rfl (by decide) (by decide) (v := .ref b26) (x_Vr (c := 1) (j := 0) rfl (by decide) hb26) q339 (fun _ h => h) dX0_many_92 ?_
              obtain ⟨hk27, hf⟩ := chk_some hf
              refine xr_getN (q := (RX1, TX1, 14)) B hX 4 hk27 rfl (by decide) (by decide) (x_Vi rfl (by decide)) nq226 (fun _ h => h) dX0_many_95 ?_
              cases hf
              exact hret _ _ _ _ rfl hX dX0_many_98
            · have hf := it_neg cdX0_many_1_5 hf
              by_cases cdX0_many_1_6 : p0 = nI 6
              · have hf := it_pos cdX0_many_1_6 hf
                refine lv_tableIn (tgt := 99) hx hb dX0_many_1 (by rw [cdX0_many_1_6]; decide) (by rw [cdX0_many_1_6]; decide) (by rw [cdX0_many_1_6]; rfl) (by decide) ?_
                refine lv_aload_n hx hb dX0_many_99 rfl (lv_at hl 0 rfl) ?_
                obtain ⟨hk28, hf⟩ := chk_some hf
                obtain ⟨b29, hb29, hf⟩ := bnd_some hf
                refine xr_get (q := (RX0, TX0, 14)) B hX 0 hk28 rfl (by decide) (by decide) (v := .ref b29) (x_Vr (c := 1) (j := 0) rfl (by decide) hb29) q339 (fun _ h => h) dX0_many_100 ?_
                obtain ⟨hk30, hf⟩ := chk_some hf
                refine xr_getN (q := (RX1, TX1, 14)) B hX 5 hk30 rfl (by decide) (by decide) (x_Vi rfl (by decide)) nq228 (fun _ h => h) dX0_many_103 ?_
                cases hf
                exact hret _ _ _ _ rfl hX dX0_many_106
              · have hf := it_neg cdX0_many_1_6 hf
                by_cases cdX0_many_1_7 : p0 = nI 7
                · have hf := it_pos cdX0_many_1_7 hf
                  refine lv_tableIn (tgt := 107) hx hb dX0_many_1 (by rw [cdX0_many_1_7]; decide) (by rw [cdX0_many_1_7]; decide) (by rw [cdX0_many_1_7]; rfl) (by decide) ?_
                  refine lv_aload_n hx hb dX0_many_107 rfl (lv_at hl 0 rfl) ?_
                  obtain ⟨hk32, hf⟩ := chk_some hf
                  obtain ⟨r31, hcr31, hf⟩ := bnd_some hf
                  refine xr_callVC (rest := []) (q := (RX0, TX0, 14)) B hX (c_X0_needed l D S o hcr31) hk32 rfl (by decide) q1469 q1471 (Or.inl qs34) q103 q1472 hd_X0_needed ⟨Nat.le_of_ble_eq_true rfl, Nat.le_of_ble_eq_true rfl⟩ rfl hl.1 rfl (Nat.le_of_ble_eq_true rfl) dX0_many_108 (fun H locs hX => ?_)
                  cases hf
                  exact hret _ _ _ _ rfl hX dX0_many_111
                · have hf := it_neg cdX0_many_1_7 hf
                  by_cases cdX0_many_1_8 : p0 = nI 8
                  · have hf := it_pos cdX0_many_1_8 hf
                    refine lv_tableIn (tgt := 112) hx hb dX0_many_1 (by rw [cdX0_many_1_8]; decide) (by rw [cdX0_many_1_8]; decide) (by rw [cdX0_many_1_8]; rfl) (by decide) ?_
                    refine lv_aload_n hx hb dX0_many_112 rfl (lv_at hl 0 rfl) ?_
                    obtain ⟨hk33, hf⟩ := chk_some hf
                    obtain ⟨b34, hb34, hf⟩ := bnd_some hf
                    refine xr_get (q := (RX0, TX0, 14)) B hX 0 hk33 rfl (by decide) (by decide) (v := .ref b34) (x_Vr (c := 1) (j := 0) rfl (by decide) hb34) q339 (fun _ h => h) dX0_many_113 ?_
                    obtain ⟨hk35, hf⟩ := chk_some hf
                    refine xr_getN (q := (RX1, TX1, 14)) B hX 7 hk35 rfl (by decide) (by decide) (x_Vl rfl (by decide)) nq233 (fun _ h => h) dX0_many_116 ?_
                    obtain ⟨r36, hcr36, hf⟩ := bnd_some hf
                    refine pr_callS (rest := []) B (c_J9_bitCount l (xl S 207 b34 0) hcr36) (va_cwS 1 hts (lw_S q1600 q1440 q123 q1441) rfl rfl rfl hd_J9_bitCount ⟨Nat.le_of_ble_eq_true rfl, Nat.le_of_ble_eq_true rfl⟩) rfl hl.1 rfl (Nat.le_of_ble_eq_true rfl) dX0_many_119 (x_room0 hX) ?_
                    cases hf
                    exact hret _ _ _ _ rfl hX dX0_many_122
                  · have hf := it_neg cdX0_many_1_8 hf
                    by_cases cdX0_many_1_9 : p0 = nI 9
                    · have hf := it_pos cdX0_many_1_9 hf
                      refine lv_tableIn (tgt := 123) hx hb dX0_many_1 (by rw [cdX0_many_1_9]; decide) (by rw [cdX0_many_1_9]; decide) (by rw [cdX0_many_1_9]; rfl) (by decide) ?_
                      refine lv_aload_n hx hb dX0_many_123 rfl (lv_at hl 0 rfl) ?_
                      obtain ⟨hk37, hf⟩ := chk_some hf
                      obtain ⟨b38, hb38, hf⟩ := bnd_some hf
                      refine xr_get (q := (RX0, TX0, 14)) B hX 0 hk37 rfl (by decide) (by decide) (v := .ref b38) (x_Vr (c := 1) (j := 0) rfl (by decide) hb38) q339 (fun _ h => h) dX0_many_124 ?_
                      obtain ⟨hk39, hf⟩ := chk_some hf
                      refine xr_getN (q := (RX1, TX1, 14)) B hX 6 hk39 rfl (by decide) (by decide) (x_Vi rfl (by decide)) nq230 (fun _ h => h) dX0_many_127 ?_
                      cases hf
                      exact hret _ _ _ _ rfl hX dX0_many_130
                    · have hf := it_neg cdX0_many_1_9 hf
                      by_cases cdX0_many_1_10 : p0 = nI 10
                      · have hf := it_pos cdX0_many_1_10 hf
                        refine lv_tableIn (tgt := 131) hx hb dX0_many_1 (by rw [cdX0_many_1_10]; decide) (by rw [cdX0_many_1_10]; decide) (by rw [cdX0_many_1_10]; rfl) (by decide) ?_
                        refine lv_aload_n hx hb dX0_many_131 rfl (lv_at hl 0 rfl) ?_
                        obtain ⟨hk40, hf⟩ := chk_some hf
                        obtain ⟨b41, hb41, hf⟩ := bnd_some hf
                        refine xr_get (q := (RX0, TX0, 14)) B hX 0 hk40 rfl (by decide) (by decide) (v := .ref b41) (x_Vr (c := 1) (j := 0) rfl (by decide) hb41) q339 (fun _ h => h) dX0_many_132 ?_
                        obtain ⟨hk42, hf⟩ := chk_some hf
                        obtain ⟨b43, hb43, hf⟩ := bnd_some hf
                        refine xr_getN (q := (RX1, TX1, 14)) B hX 12 hk42 rfl (by decide) (by decide) (v := .ref b43) (x_Vr (c := 2) (j := 12) rfl (by decide) hb43) nq243 (fun _ h => h) dX0_many_135 ?_
                        obtain ⟨hk45, hf⟩ := chk_some hf
                        obtain ⟨r44, hcr44, hf⟩ := bnd_some hf
                        refine xr_callVC (rest := []) (q := (RJ2, TJ2, 3)) B hX (c_J2_size l D S b43 hcr44) hk45 rfl (by decide) q409 q410 (Or.inl q411) q108 q412 hd_J2_size ⟨Nat.le_of_ble_eq_true rfl, Nat.le_of_ble_eq_true rfl⟩ rfl hl.1 rfl (Nat.le_of_ble_eq_true rfl) dX0_many_138 (fun H locs hX => ?_)
                        cases hf
                        exact hret _ _ _ _ rfl hX dX0_many_141
                      · have hf := it_neg cdX0_many_1_10 hf
                        refine lv_tableOut (tgt := 142) hx hb dX0_many_1 (by have := lv_neT (a := 0) cdX0_many_1_0 (by decide); have := lv_neT (a := 1) cdX0_many_1_1 (by decide); have := lv_neT (a := 2) cdX0_many_1_2 (by decide); have := lv_neT (a := 3) cdX0_many_1_3 (by decide); have := lv_neT (a := 4) cdX0_many_1_4 (by decide); have := lv_neT (a := 5) cdX0_many_1_5 (by decide); have := lv_neT (a := 6) cdX0_many_1_6 (by decide); have := lv_neT (a := 7) cdX0_many_1_7 (by decide); have := lv_neT (a := 8) cdX0_many_1_8 (by decide); have := lv_neT (a := 9) cdX0_many_1_9 (by decide); have := lv_neT (a := 10) cdX0_many_1_10 (by decide); omega) (by decide) ?_
                        refine lv_bipush (v := (-2)) hx hb dX0_many_142 bpm2 ?_
                        cases hf
                        exact hret _ _ _ _ rfl hX dX0_many_144
def f_X10_copy (S : XS) (o : Nat) : Option (Nat × XS) :=
  chk (xz S < xL S ∧ xu S + 3 ≤ xU S) <| bd (xz S) fun a3 => bd (n_c S 7 0 3) fun S2 => chk (xk S2 o = 7) <| bnd (xr S2 700 o 0) fun b7 => bnd (f_X10_init S2 a3 b7 (xi S2 701 o 0)) fun S8 => chk (xk S8 o = 7) <| chk (xk S8 a3 = 7) <| chk (xb S8 ≤ a3) <| bd (s_i S8 702 a3 0 (xi S8 702 o 0)) fun S12 => some (a3, S12)
set_option maxHeartbeats 4000000 in
set_option maxRecDepth 100000 in
theorem c_X10_copy (l : Launch) (D : XD) (S : XS) (o : Nat) {r : Nat} {S' : XS} (hf : f_X10_copy S o = some (r, S')) : x_Met l yX10_copy cX10_copy 2 (Option.some (Jvm.ClassFile.FieldType.object "VillageStories$Story")) 2 82 D [.ref o] S (some (.ref r)) S' := by
  refine x_metA RX10 (by decide) rfl (Nat.le_of_ble_eq_true rfl) (Or.inl ⟨_, rfl⟩) (fun p e s m args below meth c Q B hnm hret H locs hX ls hl => ?_)
  have hx := B.1
  have hb := B.2.1
  have hml := B.2.2.1
  have hown := B.2.2.2.1
  have hts := B.2.2.2.2
  have hl : lv_has ls 2 [(0, .ref o)] := hl
  unfold f_X10_copy at hf
  obtain ⟨hr1, hf⟩ := chk_some hf
  obtain ⟨a3, ea3, hf⟩ := bd_some hf
  obtain ⟨S2, eS2, hf⟩ := bd_some hf
  have hk4 := ks_new eS2 ea3
  have hw5 := kw_new hX eS2 ea3
  refine xr_new (q := (RX10, TX10, 3)) (N := 3) (ty0 := tyX10) B hX 7 rfl (by decide) tyX10_ok xd_7 q1631 q620 q124 hr1 eS2 dX10_copy_0 (fun H hX => ?_)
  refine W.eq (g2 := F0 m 3 ls [.ref a3]) (by rw [ea3]; first | done | rfl) ?_
  refine lv_dup hx hb dX10_copy_3 rfl ?_
  refine lv_aload_n hx hb dX10_copy_4 rfl (lv_at hl 0 rfl) ?_
  obtain ⟨hk6, hf⟩ := chk_some hf
  obtain ⟨b7, hb7, hf⟩ := bnd_some hf
  refine xr_get (q := (RX10, TX10, 3)) B hX 0 hk6 rfl (by decide) (by decide) (v := .ref b7) (x_Vr (c := 7) (j := 0) rfl (by decide) hb7) q1207 (fun _ h => h) dX10_copy_5 ?_
  refine lv_aload_n hx hb dX10_copy_8 rfl (lv_at hl 0 rfl) ?_
  refine xr_get (q := (RX10, TX10, 3)) B hX 1 hk6 rfl (by decide) (by decide) (x_Vi rfl (by decide)) q1209 (fun _ h => h) dX10_copy_9 ?_
  obtain ⟨S8, hcS8, hf⟩ := bnd_some hf
  refine xr_callIC (rest := [.ref a3]) B hX (c_X10_init l D S2 a3 b7 (xi S2 701 o 0) hcS8) q1632 q1204 q124 q1205 hd_X10_init rfl ⟨Nat.le_of_ble_eq_true rfl, Nat.le_of_ble_eq_true rfl⟩ rfl hl.1 rfl (Nat.le_of_ble_eq_true rfl) dX10_copy_12 (fun H locs hX => ?_)
  refine lv_astore_n (lv' := [(1, .ref a3), (0, .ref o)]) hx hb dX10_copy_15 rfl hl (by decide) rfl (fun ls hl => ?_)
  refine lv_aload_n hx hb dX10_copy_16 rfl (lv_at hl 0 rfl) ?_
  refine lv_aload_n hx hb dX10_copy_17 rfl (lv_at hl 1 rfl) ?_
  obtain ⟨hk9, hf⟩ := chk_some hf
  refine xr_get (q := (RX10, TX10, 3)) B hX 2 hk9 rfl (by decide) (by decide) (x_Vi rfl (by decide)) q1211 (fun _ h => h) dX10_copy_18 ?_
  obtain ⟨hk10, hf⟩ := chk_some hf
  obtain ⟨hw11, hf⟩ := chk_some hf
  obtain ⟨S12, eS12, hf⟩ := bd_some hf
  refine xr_put (S' := S12) (q := (RX10, TX10, 3)) (v := .int (xi S8 702 o 0)) (ty0 := tyX10) B hX 2 hk10 rfl (by decide) hw11 (by decide) (by rw [eS12]; exact x_Vup_i (k := 7) (j := 2) rfl (by decide)) tyX10_ok (fun i h1 h2 => nmX10 i (Nat.lt_of_lt_of_le h1 (by decide)) 2 (by decide) h2) rfl rfl rfl q1211 (fun _ h => h) dX10_copy_21 (fun H locs hX => ?_)
  refine w_i eS12 ?_
  have hk9 := ks_i eS12 hk9
  have hk10 := ks_i eS12 hk10
  have hw11 := kw_i eS12 hw11
  refine lv_aload_n hx hb dX10_copy_24 rfl (lv_at hl 0 rfl) ?_
  cases hf
  exact hret _ _ _ _ hX dX10_copy_25
