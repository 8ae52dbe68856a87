set_option maxRecDepth 100000
def f_X4_least_18_L91 (o : Nat) (p0 : Int64) (S54 : XS) : Option ((XS) ⊕ ((XS))) :=
  chk (xk S54 o = 18) <| bnd (xr S54 1801 o 0) fun b56 => chk (xk S54 b56 = 1) <| bnd (xr S54 109 b56 0) fun b58 => chk (xk S54 b58 = 52) <| ald (xn S54 b58) (xi S54 52 b58) (nI 2) fun v60 => bnd (xs S54 5) fun b61 => bnd (xr S54 1801 o 0) fun b62 => chk (xk S54 b62 = 1) <| bnd (f_X0_land S54 b62) fun b63 => chk (xk S54 b63 = 3) <| bnd (f_X2_size S54 b63 (nI 2)) fun r65 => chk (xk S54 b61 = 52) <| ald (xn S54 b61) (xi S54 52 b61) r65 fun v68 => (if v68 ≤ v60 then some (.inr S54) else bnd (xr S54 1801 o 0) fun b70 => bnd (xr S54 1801 o 0) fun b71 => chk (xk S54 b71 = 1) <| bnd (xr S54 109 b71 0) fun b73 => chk (xk S54 b70 = 1) <| bnd (f_X0_renamed S54 b70 p0 b73) fun r74 => none)
def f_X4_least_18_L54 (o : Nat) (p0 : Int64) (S32 : XS) : Option ((XS) ⊕ ((XS))) :=
  chk (xk S32 o = 18) <| bnd (xr S32 1801 o 0) fun b34 => chk (xk S32 b34 = 1) <| bnd (xr S32 109 b34 0) fun b36 => chk (xk S32 b36 = 52) <| ald (xn S32 b36) (xi S32 52 b36) (nI 1) fun v38 => bnd (xs S32 5) fun b39 => bnd (xr S32 1801 o 0) fun b40 => chk (xk S32 b40 = 1) <| bnd (f_X0_land S32 b40) fun b41 => chk (xk S32 b41 = 3) <| bnd (f_X2_size S32 b41 (nI 1)) fun r43 => chk (xk S32 b39 = 52) <| ald (xn S32 b39) (xi S32 52 b39) r43 fun v46 => (if v46 ≤ v38 then some (.inr S32) else bnd (xr S32 1801 o 0) fun b48 => chk (xk S32 b48 = 1) <| bnd (xr S32 109 b48 0) fun b50 => chk (xk S32 b50 = 52) <| chk (xb S32 ≤ b50) <| ast (xn S32 b50) (nI 2) (s_i S32 52 b50 (nI 2).toNatClampNeg (nI 0)) fun S53 => bnd (wO (fun t : XS => f_X4_least_18_L91 o p0 t) fu S53) <| fun S78 => chk (xk S78 o = 18) <| bnd (xr S78 1801 o 0) fun b80 => chk (xk S78 b80 = 1) <| bnd (xr S78 109 b80 0) fun b82 => chk (xk S78 b82 = 52) <| ald (xn S78 b82) (xi S78 52 b82) (nI 1) fun v84 => chk (xb S78 ≤ b82) <| ast (xn S78 b82) (nI 1) (s_i S78 52 b82 (nI 1).toNatClampNeg (v84 + nI 1)) fun S86 => some (.inl S86))
def f_X4_least_18_L17 (o : Nat) (p0 : Int64) (S10 : XS) : Option ((XS) ⊕ ((XS))) :=
  chk (xk S10 o = 18) <| bnd (xr S10 1801 o 0) fun b12 => chk (xk S10 b12 = 1) <| bnd (xr S10 109 b12 0) fun b14 => chk (xk S10 b14 = 52) <| ald (xn S10 b14) (xi S10 52 b14) (nI 0) fun v16 => bnd (xs S10 5) fun b17 => bnd (xr S10 1801 o 0) fun b18 => chk (xk S10 b18 = 1) <| bnd (f_X0_land S10 b18) fun b19 => chk (xk S10 b19 = 3) <| bnd (f_X2_size S10 b19 (nI 0)) fun r21 => chk (xk S10 b17 = 52) <| ald (xn S10 b17) (xi S10 52 b17) r21 fun v24 => (if v24 ≤ v16 then some (.inr S10) else bnd (xr S10 1801 o 0) fun b26 => chk (xk S10 b26 = 1) <| bnd (xr S10 109 b26 0) fun b28 => chk (xk S10 b28 = 52) <| chk (xb S10 ≤ b28) <| ast (xn S10 b28) (nI 1) (s_i S10 52 b28 (nI 1).toNatClampNeg (nI 0)) fun S31 => bnd (wO (fun t : XS => f_X4_least_18_L54 o p0 t) fu S31) <| fun S89 => chk (xk S89 o = 18) <| bnd (xr S89 1801 o 0) fun b91 => chk (xk S89 b91 = 1) <| bnd (xr S89 109 b91 0) fun b93 => chk (xk S89 b93 = 52) <| ald (xn S89 b93) (xi S89 52 b93) (nI 0) fun v95 => chk (xb S89 ≤ b93) <| ast (xn S89 b93) (nI 0) (s_i S89 52 b93 (nI 0).toNatClampNeg (v95 + nI 1)) fun S97 => some (.inl S97))
def f_X4_least_18 (S : XS) (o : Nat) (p0 : Int64) : Option (Int64 × XS) :=
  chk (xk S o = 18) <| chk (xb S ≤ o) <| bd (s_l S 1800 o 0 (9223372036854775807 : Int64)) fun S3 => bnd (xr S3 1801 o 0) fun b4 => chk (xk S3 b4 = 1) <| bnd (xr S3 109 b4 0) fun b6 => chk (xk S3 b6 = 52) <| chk (xb S3 ≤ b6) <| ast (xn S3 b6) (nI 0) (s_i S3 52 b6 (nI 0).toNatClampNeg (nI 0)) fun S9 => bnd (wO (fun t : XS => f_X4_least_18_L17 o p0 t) fu S9) <| fun S100 => chk (xk S100 o = 18) <| some ((xl S100 1800 o 0), S100)
set_option maxHeartbeats 4000000 in
set_option maxRecDepth 100000 in
theorem c_X4_least_18 (l : Launch) (D : XD) (S : XS) (o : Nat) (p0 : Int64) {r : Int64} {S' : XS} (hf : f_X4_least_18 S o p0 = some (r, S')) : x_Met l yX4_least cX4_least 3 (Option.some Jvm.ClassFile.FieldType.long) 8 181 D [.ref o, .long p0] S (some (.long r)) S' := by
  refine x_metL RX4 (by decide) rfl (Nat.le_of_ble_eq_true rfl) (fun p e s m args below meth c Q B hnm hret H locs hX ls hl => ?_)
  have hx := B.1
  have hb := B.2.1
  have hml := B.2.2.1
  have hown := B.2.2.2.1
  have hts := B.2.2.2.2
  have hl : lv_has ls 3 [(0, .ref o), (1, .long p0)] := hl
  unfold f_X4_least_18 at hf
  refine lv_aload_n hx hb dX4_least_0 rfl (lv_at hl 0 rfl) ?_
  refine lv_ldc2 (v := (9223372036854775807 : Int64)) hx hb hown (hts _ q1416) dX4_least_1 ?_
  obtain ⟨hk1, hf⟩ := chk_some hf
  obtain ⟨hw2, hf⟩ := chk_some hf
  obtain ⟨S3, eS3, hf⟩ := bd_some hf
  refine xr_put (S' := S3) (q := (RX6, TX6, 3)) (v := .long (9223372036854775807 : Int64)) (ty0 := tyX6) B hX 0 hk1 rfl (by decide) hw2 (by decide) (by rw [eS3]; exact x_Vup_l (k := 18) (j := 0) rfl (by decide)) tyX6_ok (by decide +kernel) rfl rfl rfl q315 (fun _ h => h) dX4_least_4 (fun H locs hX => ?_)
  refine w_l eS3 ?_
  have hk1 := ks_l eS3 hk1
  have hw2 := kw_l eS3 hw2
  refine lv_aload_n hx hb dX4_least_7 rfl (lv_at hl 0 rfl) ?_
  obtain ⟨b4, hb4, hf⟩ := bnd_some hf
  refine xr_get (q := (RX6, TX6, 3)) B hX 1 hk1 rfl (by decide) (by decide) (v := .ref b4) (x_Vr (c := 18) (j := 1) rfl (by decide) hb4) q316 (fun _ h => h) dX4_least_8 ?_
  obtain ⟨hk5, hf⟩ := chk_some hf
  obtain ⟨b6, hb6, hf⟩ := bnd_some hf
  refine xr_getN (q := (RX0, TX0, 14)) B hX 9 hk5 rfl (by decide) (by decide) (v := .ref b6) (x_Vr (c := 1) (j := 9) rfl (by decide) hb6) nq348 (fun _ h => h) dX4_least_11 ?_
  refine lv_iconst (v := nI 0) hx hb dX4_least_14 ic0 ?_
  refine lv_iconst (v := nI 0) hx hb dX4_least_15 ic0 ?_
  obtain ⟨hk7, hf⟩ := chk_some hf
  obtain ⟨hw8, hf⟩ := chk_some hf
  obtain ⟨S9, eS9, hiS9, hf⟩ := ast_some hf
  refine xr_iast B hX hk7 hw8 hiS9 eS9 dX4_least_16 (fun H locs hX => ?_)
  refine w_i eS9 ?_
  have hk1 := ks_i eS9 hk1
  have hw2 := kw_i eS9 hw2
  have hk5 := ks_i eS9 hk5
  have hk7 := ks_i eS9 hk7
  have hw8 := kw_i eS9 hw8
  obtain ⟨y99, hxy99, hf⟩ := bnd_some hf
  have hy99 : (fun t : XS => ∀ (H : Heap) (locs : List Loc) (ls : Array Slot), x_I D S s H locs t → lv_has ls 3 [(0, .ref o)] → W p l e (x_R 8 181 S) s m args below meth c H locs (xz t - xz S) (xu t - xu S) Q (F0 m 196 ls [])) y99 := by
    obtain ⟨S100, rfl⟩ : ∃ z, z = y99 := ⟨_, rfl⟩
    intro H locs ls hX hl
    refine lv_aload_n hx hb dX4_least_196 rfl (lv_at hl 0 rfl) ?_
    obtain ⟨hk101, hf⟩ := chk_some hf
    refine xr_get (q := (RX6, TX6, 3)) B hX 0 hk101 rfl (by decide) (by decide) (x_Vl rfl (by decide)) q315 (fun _ h => h) dX4_least_197 ?_
    cases hf
    exact hret _ _ _ _ hX dX4_least_200
  refine lp_W (step := (fun t : XS => f_X4_least_18_L17 o p0 t)) (fun t : XS => ∀ (H : Heap) (locs : List Loc) (ls : Array Slot), x_I D S s H locs t → lv_has ls 3 [(0, .ref o), (1, .long p0)] → W p l e (x_R 8 181 S) s m args below meth c H locs (xz t - xz S) (xu t - xu S) Q (F0 m 17 ls [])) (fun t : XS => ∀ (H : Heap) (locs : List Loc) (ls : Array Slot), x_I D S s H locs t → lv_has ls 3 [(0, .ref o)] → W p l e (x_R 8 181 S) s m args below meth c H locs (xz t - xz S) (xu t - xu S) Q (F0 m 196 ls [])) ?_ fu S9 y99 hxy99 hy99 _ _ _ hX (lv_sub hl [0, 1] rfl)
  clear hf hxy99 hy99
  rintro S10 oo (hf : f_X4_least_18_L17 o p0 S10 = some oo) hk
  intro H locs ls hX hl
  unfold f_X4_least_18_L17 at hf
  refine lv_aload_n hx hb dX4_least_17 rfl (lv_at hl 0 rfl) ?_
  obtain ⟨hk11, hf⟩ := chk_some hf
  obtain ⟨b12, hb12, hf⟩ := bnd_some hf
  refine xr_get (q := (RX6, TX6, 3)) B hX 1 hk11 rfl (by decide) (by decide) (v := .ref b12) (x_Vr (c := 18) (j := 1) rfl (by decide) hb12) q316 (fun _ h => h) dX4_least_18 ?_
  obtain ⟨hk13, hf⟩ := chk_some hf
  obtain ⟨b14, hb14, hf⟩ := bnd_some hf
  refine xr_getN (q := (RX0, TX0, 14)) B hX 9 hk13 rfl (by decide) (by decide) (v := .ref b14) (x_Vr (c := 1) (j := 9) rfl (by decide) hb14) nq348 (fun _ h => h) dX4_least_21 ?_
  refine lv_iconst (v := nI 0) hx hb dX4_least_24 ic0 ?_
  obtain ⟨hk15, hf⟩ := chk_some hf
  obtain ⟨v16, ev16, hiv16, hf⟩ := ald_some hf
  refine xr_iald B hX hk15 hiv16 ev16 dX4_least_25 ?_
  obtain ⟨b17, hb17, hf⟩ := bnd_some hf
  refine xr_getsN B hX (v := .ref b17) (x_statR hX 5 rfl hb17) nq1417 dX4_least_26 ?_
  refine lv_aload_n hx hb dX4_least_29 rfl (lv_at hl 0 rfl) ?_
  obtain ⟨b18, hb18, hf⟩ := bnd_some hf
  refine xr_get (q := (RX6, TX6, 3)) B hX 1 hk11 rfl (by decide) (by decide) (v := .ref b18) (x_Vr (c := 18) (j := 1) rfl (by decide) hb18) q316 (fun _ h => h) dX4_least_30 ?_
  obtain ⟨hk20, hf⟩ := chk_some hf
  obtain ⟨b19, hcb19, hf⟩ := bnd_some hf
  refine xr_callVN (rest := [.ref b17, .int v16]) (q := (RX0, TX0, 14)) B hX (c_X0_land l D S10 b18 hcb19) hk20 rfl (by decide) nq1419 q395 qs0 q103 q396 hd_X0_land ⟨Nat.le_of_ble_eq_true rfl, Nat.le_of_ble_eq_true rfl⟩ rfl hl.1 rfl (Nat.le_of_ble_eq_true rfl) dX4_least_33 (fun H locs hX => ?_)
  refine lv_iconst (v := nI 0) hx hb dX4_least_36 ic0 ?_
  obtain ⟨hk22, hf⟩ := chk_some hf
  obtain ⟨r21, hcr21, hf⟩ := bnd_some hf
  refine xr_callVC (rest := [.ref b17, .int v16]) (q := (RX2, TX2, 2)) B hX (c_X2_size l D S10 b19 (nI 0) hcr21) hk22 rfl (by decide) q1420 q398 (Or.inl q399) q105 q400 hd_X2_size ⟨Nat.le_of_ble_eq_true rfl, Nat.le_of_ble_eq_true rfl⟩ rfl hl.1 rfl (Nat.le_of_ble_eq_true rfl) dX4_least_37 (fun H locs hX => ?_)
  obtain ⟨hk23, hf⟩ := chk_some hf
  obtain ⟨v24, ev24, hiv24, hf⟩ := ald_some hf
  refine xr_iald B hX hk23 hiv24 ev24 dX4_least_40 ?_
  refine lv_icmp_ge (tgt := 196) hx hb dX4_least_41 (by decide) (fun c25 => ?_) (fun c25 => ?_)
  · have hf := it_pos c25 hf
    cases hf
    exact hk _ _ _ hX (lv_sub hl [0] rfl)
  · have hf := it_neg c25 hf
    refine lv_aload_n hx hb dX4_least_44 rfl (lv_at hl 0 rfl) ?_
    obtain ⟨b26, hb26, hf⟩ := bnd_some hf
    refine xr_get (q := (RX6, TX6, 3)) B hX 1 hk11 rfl (by decide) (by decide) (v := .ref b26) (x_Vr (c := 18) (j := 1) rfl (by decide) hb26) q316 (fun _ h => h) dX4_least_45 ?_
    obtain ⟨hk27, hf⟩ := chk_some hf
    obtain ⟨b28, hb28, hf⟩ := bnd_some hf
    refine xr_getN (q := (RX0, TX0, 14)) B hX 9 hk27 rfl (by decide) (by decide) (v := .ref b28) (x_Vr (c := 1) (j := 9) rfl (by decide) hb28) nq348 (fun _ h => h) dX4_least_48 ?_
    refine lv_iconst (v := nI 1) hx hb dX4_least_51 ic1 ?_
    refine lv_iconst (v := nI 0) hx hb dX4_least_52 ic0 ?_
    obtain ⟨hk29, hf⟩ := chk_some hf
    obtain ⟨hw30, hf⟩ := chk_some hf
    obtain ⟨S31, eS31, hiS31, hf⟩ := ast_some hf
    refine xr_iast B hX hk29 hw30 hiS31 eS31 dX4_least_53 (fun H locs hX => ?_)
    refine w_i eS31 ?_
    have hk11 := ks_i eS31 hk11
    have hk13 := ks_i eS31 hk13
    have hk15 := ks_i eS31 hk15
    have hk20 := ks_i eS31 hk20
    have hk22 := ks_i eS31 hk22
    have hk23 := ks_i eS31 hk23
    have hk27 := ks_i eS31 hk27
    have hk29 := ks_i eS31 hk29
    have hw30 := kw_i eS31 hw30
    obtain ⟨y88, hxy88, hf⟩ := bnd_some hf
    have hy88 : (fun t : XS => ∀ (H : Heap) (locs : List Loc) (ls : Array Slot), x_I D S s H locs t → lv_has ls 3 [(0, .ref o), (1, .long p0)] → W p l e (x_R 8 181 S) s m args below meth c H locs (xz t - xz S) (xu t - xu S) Q (F0 m 180 ls [])) y88 := by
      obtain ⟨S89, rfl⟩ : ∃ z, z = y88 := ⟨_, rfl⟩
      intro H locs ls hX hl
      refine lv_aload_n hx hb dX4_least_180 rfl (lv_at hl 0 rfl) ?_
      obtain ⟨hk90, hf⟩ := chk_some hf
      obtain ⟨b91, hb91, hf⟩ := bnd_some hf
      refine xr_get (q := (RX6, TX6, 3)) B hX 1 hk90 rfl (by decide) (by decide) (v := .ref b91) (x_Vr (c := 18) (j := 1) rfl (by decide) hb91) q316 (fun _ h => h) dX4_least_181 ?_
      obtain ⟨hk92, hf⟩ := chk_some hf
      obtain ⟨b93, hb93, hf⟩ := bnd_some hf
      refine xr_getN (q := (RX0, TX0, 14)) B hX 9 hk92 rfl (by decide) (by decide) (v := .ref b93) (x_Vr (c := 1) (j := 9) rfl (by decide) hb93) nq348 (fun _ h => h) dX4_least_184 ?_
      refine lv_iconst (v := nI 0) hx hb dX4_least_187 ic0 ?_
      refine lv_dup2_11 hx hb dX4_least_188 rfl rfl ?_
      obtain ⟨hk94, hf⟩ := chk_some hf
      obtain ⟨v95, ev95, hiv95, hf⟩ := ald_some hf
      refine xr_iald B hX hk94 hiv95 ev95 dX4_least_189 ?_
      refine lv_iconst (v := nI 1) hx hb dX4_least_190 ic1 ?_
      refine lv_iadd hx hb dX4_least_191 ?_
      obtain ⟨hw96, hf⟩ := chk_some hf
      obtain ⟨S97, eS97, hiS97, hf⟩ := ast_some hf
      refine xr_iast B hX hk94 hw96 hiS97 eS97 dX4_least_192 (fun H locs hX => ?_)
      refine w_i eS97 ?_
      have hk90 := ks_i eS97 hk90
      have hk92 := ks_i eS97 hk92
      have hk94 := ks_i eS97 hk94
      have hw96 := kw_i eS97 hw96
      refine lv_goto (tgt := 17) hx hb dX4_least_193 (by decide) ?_
      cases hf
      exact hk _ _ _ hX (lv_sub hl [0, 1] rfl)
    refine lp_W (step := (fun t : XS => f_X4_least_18_L54 o p0 t)) (fun t : XS => ∀ (H : Heap) (locs : List Loc) (ls : Array Slot), x_I D S s H locs t → lv_has ls 3 [(0, .ref o), (1, .long p0)] → W p l e (x_R 8 181 S) s m args below meth c H locs (xz t - xz S) (xu t - xu S) Q (F0 m 54 ls [])) (fun t : XS => ∀ (H : Heap) (locs : List Loc) (ls : Array Slot), x_I D S s H locs t → lv_has ls 3 [(0, .ref o), (1, .long p0)] → W p l e (x_R 8 181 S) s m args below meth c H locs (xz t - xz S) (xu t - xu S) Q (F0 m 180 ls [])) ?_ fu S31 y88 hxy88 hy88 _ _ _ hX (lv_sub hl [0, 1] rfl)
    clear hf hxy88 hy88
    rintro S32 oo (hf : f_X4_least_18_L54 o p0 S32 = some oo) hk
    intro H locs ls hX hl
    unfold f_X4_least_18_L54 at hf
    refine lv_aload_n hx hb dX4_least_54 rfl (lv_at hl 0 rfl) ?_
    obtain ⟨hk33, hf⟩ := chk_some hf
    obtain ⟨b34, hb34, hf⟩ := bnd_some hf
    refine xr_get (q := (RX6, TX6, 3)) B hX 1 hk33 rfl (by decide) (by decide) (v := .ref b34) (x_Vr (c := 18) (j := 1) rfl (by decide) hb34) q316 (fun _ h => h) dX4_least_55 ?_
    obtain ⟨hk35, hf⟩ := chk_some hf
    obtain ⟨b36, hb36, hf⟩ := bnd_some hf
    refine xr_getN (q := (RX0, TX0, 14)) B hX 9 hk35 rfl (by decide) (by decide) (v := .ref b36) (x_Vr (c := 1) (j := 9) rfl (by decide) hb36) nq348 (fun _ h => h) dX4_least_58 ?_
    refine lv_iconst (v := nI 1) hx hb dX4_least_61 ic1 ?_
    obtain ⟨hk37, hf⟩ := chk_some hf
    obtain ⟨v38, ev38, hiv38, hf⟩ := ald_some hf
    refine xr_iald B hX hk37 hiv38 ev38 dX4_least_62 ?_
    obtain ⟨b39, hb39, hf⟩ := bnd_some hf
    refine xr_getsN B hX (v := .ref b39) (x_statR hX 5 rfl hb39) nq1417 dX4_least_63 ?_
    refine lv_aload_n hx hb dX4_least_66 rfl (lv_at hl 0 rfl) ?_
    obtain ⟨b40, hb40, hf⟩ := bnd_some hf
    refine xr_get (q := (RX6, TX6, 3)) B hX 1 hk33 rfl (by decide) (by decide) (v := .ref b40) (x_Vr (c := 18) (j := 1) rfl (by decide) hb40) q316 (fun _ h => h) dX4_least_67 ?_
    obtain ⟨hk42, hf⟩ := chk_some hf
    obtain ⟨b41, hcb41, hf⟩ := bnd_some hf
    refine xr_callVN (rest := [.ref b39, .int v38]) (q := (RX0, TX0, 14)) B hX (c_X0_land l D S32 b40 hcb41) hk42 rfl (by decide) nq1419 q395 qs0 q103 q396 hd_X0_land ⟨Nat.le_of_ble_eq_true rfl, Nat.le_of_ble_eq_true rfl⟩ rfl hl.1 rfl (Nat.le_of_ble_eq_true rfl) dX4_least_70 (fun H locs hX => ?_)
    refine lv_iconst (v := nI 1) hx hb dX4_least_73 ic1 ?_
    obtain ⟨hk44, hf⟩ := chk_some hf
    obtain ⟨r43, hcr43, hf⟩ := bnd_some hf
    refine xr_callVC (rest := [.ref b39, .int v38]) (q := (RX2, TX2, 2)) B hX (c_X2_size l D S32 b41 (nI 1) hcr43) hk44 rfl (by decide) q1420 q398 (Or.inl q399) q105 q400 hd_X2_size ⟨Nat.le_of_ble_eq_true rfl, Nat.le_of_ble_eq_true rfl⟩ rfl hl.1 rfl (Nat.le_of_ble_eq_true rfl) dX4_least_74 (fun H locs hX => ?_)
    obtain ⟨hk45, hf⟩ := chk_some hf
    obtain ⟨v46, ev46, hiv46, hf⟩ := ald_some hf
    refine xr_iald B hX hk45 hiv46 ev46 dX4_least_77 ?_
    refine lv_icmp_ge (tgt := 180) hx hb dX4_least_78 (by decide) (fun c47 => ?_) (fun c47 => ?_)
    · have hf := it_pos c47 hf
      cases hf
      exact hk _ _ _ hX (lv_sub hl [0, 1] rfl)
    · have hf := it_neg c47 hf
      refine lv_aload_n hx hb dX4_least_81 rfl (lv_at hl 0 rfl) ?_
      obtain ⟨b48, hb48, hf⟩ := bnd_some hf
      refine xr_get (q := (RX6, TX6, 3)) B hX 1 hk33 rfl (by decide) (by decide) (v := .ref b48) (x_Vr (c := 18) (j := 1) rfl (by decide) hb48) q316 (fun _ h => h) dX4_least_82 ?_
      obtain ⟨hk49, hf⟩ := chk_some hf
      obtain ⟨b50, hb50, hf⟩ := bnd_some hf
      refine xr_getN (q := (RX0, TX0, 14)) B hX 9 hk49 rfl (by decide) (by decide) (v := .ref b50) (x_Vr (c := 1) (j := 9) rfl (by decide) hb50) nq348 (fun _ h => h) dX4_least_85 ?_
      refine lv_iconst (v := nI 2) hx hb dX4_least_88 ic2 ?_
      refine lv_iconst (v := nI 0) hx hb dX4_least_89 ic0 ?_
      obtain ⟨hk51, hf⟩ := chk_some hf
      obtain ⟨hw52, hf⟩ := chk_some hf
      obtain ⟨S53, eS53, hiS53, hf⟩ := ast_some hf
      refine xr_iast B hX hk51 hw52 hiS53 eS53 dX4_least_90 (fun H locs hX => ?_)
      refine w_i eS53 ?_
      have hk33 := ks_i eS53 hk33
      have hk35 := ks_i eS53 hk35
      have hk37 := ks_i eS53 hk37
      have hk42 := ks_i eS53 hk42
      have hk44 := ks_i eS53 hk44
      have hk45 := ks_i eS53 hk45
      have hk49 := ks_i eS53 hk49
      have hk51 := ks_i eS53 hk51
      have hw52 := kw_i eS53 hw52
      obtain ⟨y77, hxy77, hf⟩ := bnd_some hf
      have hy77 : (fun t : XS => ∀ (H : Heap) (locs : List Loc) (ls : Array Slot), x_I D S s H locs t → lv_has ls 3 [(0, .ref o), (1, .long p0)] → W p l e (x_R 8 181 S) s m args below meth c H locs (xz t - xz S) (xu t - xu S) Q (F0 m 164 ls [])) y77 := by
        obtain ⟨S78, rfl⟩ : ∃ z, z = y77 := ⟨_, rfl⟩
        intro H locs ls hX hl
        refine lv_aload_n hx hb dX4_least_164 rfl (lv_at hl 0 rfl) ?_
        obtain ⟨hk79, hf⟩ := chk_some hf
        obtain ⟨b80, hb80, hf⟩ := bnd_some hf
        refine xr_get (q := (RX6, TX6, 3)) B hX 1 hk79 rfl (by decide) (by decide) (v := .ref b80) (x_Vr (c := 18) (j := 1) rfl (by decide) hb80) q316 (fun _ h => h) dX4_least_165 ?_
        obtain ⟨hk81, hf⟩ := chk_some hf
        obtain ⟨b82, hb82, hf⟩ := bnd_some hf
        refine xr_getN (q := (RX0, TX0, 14)) B hX 9 hk81 rfl (by decide) (by decide) (v := .ref b82) (x_Vr (c := 1) (j := 9) rfl (by decide) hb82) nq348 (fun _ h => h) dX4_least_168 ?_
        refine lv_iconst (v := nI 1) hx hb dX4_least_171 ic1 ?_
        refine lv_dup2_11 hx hb dX4_least_172 rfl rfl ?_
        obtain ⟨hk83, hf⟩ := chk_some hf
        obtain ⟨v84, ev84, hiv84, hf⟩ := ald_some hf
        refine xr_iald B hX hk83 hiv84 ev84 dX4_least_173 ?_
        refine lv_iconst (v := nI 1) hx hb dX4_least_174 ic1 ?_
        refine lv_iadd hx hb dX4_least_175 ?_
        obtain ⟨hw85, hf⟩ := chk_some hf
        obtain ⟨S86, eS86, hiS86, hf⟩ := ast_some hf
        refine xr_iast B hX hk83 hw85 hiS86 eS86 dX4_least_176 (fun H locs hX => ?_)
        refine w_i eS86 ?_
        have hk79 := ks_i eS86 hk79
        have hk81 := ks_i eS86 hk81
        have hk83 := ks_i eS86 hk83
        have hw85 := kw_i eS86 hw85
        refine lv_goto (tgt := 54) hx hb dX4_least_177 (by decide) ?_
        cases hf
        exact hk _ _ _ hX (lv_sub hl [0, 1] rfl)
      refine lp_W (step := (fun t : XS => f_X4_least_18_L91 o p0 t)) (fun t : XS => ∀ (H : Heap) (locs : List Loc) (ls : Array Slot), x_I D S s H locs t → lv_has ls 3 [(0, .ref o), (1, .long p0)] → W p l e (x_R 8 181 S) s m args below meth c H locs (xz t - xz S) (xu t - xu S) Q (F0 m 91 ls [])) (fun t : XS => ∀ (H : Heap) (locs : List Loc) (ls : Array Slot), x_I D S s H locs t → lv_has ls 3 [(0, .ref o), (1, .long p0)] → W p l e (x_R 8 181 S) s m args below meth c H locs (xz t - xz S) (xu t - xu S) Q (F0 m 164 ls [])) ?_ fu S53 y77 hxy77 hy77 _ _ _ hX (lv_sub hl [0, 1] rfl)
      clear hf hxy77 hy77
      rintro S54 oo (hf : f_X4_least_18_L91 o p0 S54 = some oo) hk
      intro H locs ls hX hl
      unfold f_X4_least_18_L91 at hf
      refine lv_aload_n hx hb dX4_least_91 rfl (lv_at hl 0 rfl) ?_
      obtain ⟨hk55, hf⟩ := chk_some hf
      obtain ⟨b56, hb56, hf⟩ := bnd_some hf
      refine xr_get (q := (RX6, TX6, 3)) B hX 1 hk55 rfl (by decide) (by decide) (v := .ref b56) (x_Vr (c := 18) (j := 1) rfl (by decide) hb56) q316 (fun _ h => h) dX4_least_92 ?_
      obtain ⟨hk57, hf⟩ := chk_some hf
      obtain ⟨b58, hb58, hf⟩ := bnd_some hf
      refine xr_getN (q := (RX0, TX0, 14)) B hX 9 hk57 rfl (by decide) (by decide) (v := .ref b58) (x_Vr (c := 1) (j := 9) rfl (by decide) hb58) nq348 (fun _ h => h) dX4_least_95 ?_
      refine lv_iconst (v := nI 2) hx hb dX4_least_98 ic2 ?_
      obtain ⟨hk59, hf⟩ := chk_some hf
      obtain ⟨v60, ev60, hiv60, hf⟩ := ald_some hf
      refine xr_iald B hX hk59 hiv60 ev60 dX4_least_99 ?_
      obtain ⟨b61, hb61, hf⟩ := bnd_some hf
      refine xr_getsN B hX (v := .ref b61) (x_statR hX 5 rfl hb61) nq1417 dX4_least_100 ?_
      refine lv_aload_n hx hb dX4_least_103 rfl (lv_at hl 0 rfl) ?_
      obtain ⟨b62, hb62, hf⟩ := bnd_some hf
      refine xr_get (q := (RX6, TX6, 3)) B hX 1 hk55 rfl (by decide) (by decide) (v := .ref b62) (x_Vr (c := 18) (j := 1) rfl (by decide) hb62) q316 (fun _ h => h) dX4_least_104 ?_
      obtain ⟨hk64, hf⟩ := chk_some hf
      obtain ⟨b63, hcb63, hf⟩ := bnd_some hf
      refine xr_callVN (rest := [.ref b61, .int v60]) (q := (RX0, TX0, 14)) B hX (c_X0_land l D S54 b62 hcb63) hk64 rfl (by decide) nq1419 q395 qs0 q103 q396 hd_X0_land ⟨Nat.le_of_ble_eq_true rfl, Nat.le_of_ble_eq_true rfl⟩ rfl hl.1 rfl (Nat.le_of_ble_eq_true rfl) dX4_least_107 (fun H locs hX => ?_)
      refine lv_iconst (v := nI 2) hx hb dX4_least_110 ic2 ?_
      obtain ⟨hk66, hf⟩ := chk_some hf
      obtain ⟨r65, hcr65, hf⟩ := bnd_some hf
      refine xr_callVC (rest := [.ref b61, .int v60]) (q := (RX2, TX2, 2)) B hX (c_X2_size l D S54 b63 (nI 2) hcr65) hk66 rfl (by decide) q1420 q398 (Or.inl q399) q105 q400 hd_X2_size ⟨Nat.le_of_ble_eq_true rfl, Nat.le_of_ble_eq_true rfl⟩ rfl hl.1 rfl (Nat.le_of_ble_eq_true rfl) dX4_least_111 (fun H locs hX => ?_)
      obtain ⟨hk67, hf⟩ := chk_some hf
      obtain ⟨v68, ev68, hiv68, hf⟩ := ald_some hf
      refine xr_iald B hX hk67 hiv68 ev68 dX4_least_114 ?_
      refine lv_icmp_ge (tgt := 164) hx hb dX4_least_115 (by decide) (fun c69 => ?_) (fun c69 => ?_)
      · have hf := it_pos c69 hf
        cases hf
        exact hk _ _ _ hX (lv_sub hl [0, 1] rfl)
      · have hf := it_neg c69 hf
        refine lv_aload_n hx hb dX4_least_118 rfl (lv_at hl 0 rfl) ?_
        refine lv_aload_n hx hb dX4_least_119 rfl (lv_at hl 0 rfl) ?_
        refine xr_get (q := (RX6, TX6, 3)) B hX 0 hk55 rfl (by decide) (by decide) (x_Vl rfl (by decide)) q315 (fun _ h => h) dX4_least_120 ?_
        refine lv_aload_n hx hb dX4_least_123 rfl (lv_at hl 0 rfl) ?_
        refine lv_aload_n hx hb dX4_least_124 rfl (lv_at hl 0 rfl) ?_
        obtain ⟨b70, hb70, hf⟩ := bnd_some hf
        refine xr_get (q := (RX6, TX6, 3)) B hX 1 hk55 rfl (by decide) (by decide) (v := .ref b70) (x_Vr (c := 18) (j := 1) rfl (by decide) hb70) q316 (fun _ h => h) dX4_least_125 ?_
        refine lv_lload_n hx hb dX4_least_128 rfl (lv_at hl 1 rfl) ?_
        refine lv_aload_n hx hb dX4_least_129 rfl (lv_at hl 0 rfl) ?_
        obtain ⟨b71, hb71, hf⟩ := bnd_some hf
        refine xr_get (q := (RX6, TX6, 3)) B hX 1 hk55 rfl (by decide) (by decide) (v := .ref b71) (x_Vr (c := 18) (j := 1) rfl (by decide) hb71) q316 (fun _ h => h) dX4_least_130 ?_
        obtain ⟨hk72, hf⟩ := chk_some hf
        obtain ⟨b73, hb73, hf⟩ := bnd_some hf
        refine xr_getN (q := (RX0, TX0, 14)) B hX 9 hk72 rfl (by decide) (by decide) (v := .ref b73) (x_Vr (c := 1) (j := 9) rfl (by decide) hb73) nq348 (fun _ h => h) dX4_least_133 ?_
        obtain ⟨hk75, hf⟩ := chk_some hf
        obtain ⟨r74, hcr74, hf⟩ := bnd_some hf
        refine xr_callVN (rest := [.ref o, .long (xl S54 1800 o 0), .ref o]) (q := (RX0, TX0, 14)) B hX (c_X0_renamed l D S54 b70 p0 b73 hcr74) hk75 rfl (by decide) nq1421 q1423 qs30 q103 q1424 hd_X0_renamed ⟨Nat.le_of_ble_eq_true rfl, Nat.le_of_ble_eq_true rfl⟩ rfl hl.1 rfl (Nat.le_of_ble_eq_true rfl) dX4_least_136 (fun H locs hX => ?_)
        cases hf
def f_X0_apart (S : XS) (o : Nat) (p0 : Int32) : Option (Int32 × XS) :=
  bnd (f_X0_isPlace p0) fun r1 => (if r1 = 0 then some ((-1), S) else chk (xk S o = 1) <| bnd (xr S 100 o 0) fun b4 => chk (xk S b4 = 2) <| bnd (f_X0_has (xi S 209 b4 0) p0) fun r6 => (if r6 = 0 then some ((-1), S) else bnd (f_X0_isTold S o) fun r8 => (if r8 = 0 then some ((-1), S) else bnd (xr S 111 o 0) fun b10 => bnd (xr S 100 o 0) fun b11 => chk (xk S b11 = 2) <| bnd (xr S 208 b11 0) fun b13 => chk (xk S b13 = 53) <| ald (xn S b13) (xl S 53 b13) p0 fun v15 => chk (xk S b10 = 18) <| bnd (f_X4_least_18 S b10 v15) <| u2 fun r16 S17 => some (r16.toInt32, S17))))
set_option maxHeartbeats 4000000 in
set_option maxRecDepth 100000 in
theorem c_X0_apart (l : Launch) (D : XD) (S : XS) (o : Nat) (p0 : Int32) {r : Int32} {S' : XS} (hf : f_X0_apart S o p0 = some (r, S')) : x_Met l yX0_apart cX0_apart 2 (Option.some Jvm.ClassFile.FieldType.int) 9 203 D [.ref o, .int p0] S (some (.int r)) S' := by
  refine x_metI RX0 (by decide) rfl (Nat.le_of_ble_eq_true rfl) (fun p e s m args below meth c Q B hnm hret H locs hX ls hl => ?_)
  have hx := B.1
  have hb := B.2.1
  have hml := B.2.2.1
  have hown := B.2.2.2.1
  have hts := B.2.2.2.2
  have hl : lv_has ls 2 [(0, .ref o), (1, .int p0)] := hl
  unfold f_X0_apart at hf
  refine lv_iload_n hx hb dX0_apart_0 rfl (lv_at hl 1 rfl) ?_
  obtain ⟨r1, hcr1, hf⟩ := bnd_some hf
  refine pr_callS (rest := []) B (c_X0_isPlace l p0 hcr1) (va_cwS 1 hts (lw_S q1398 q1399 q103 q1400) rfl rfl rfl hd_X0_isPlace ⟨Nat.le_of_ble_eq_true rfl, Nat.le_of_ble_eq_true rfl⟩) rfl hl.1 rfl (Nat.le_of_ble_eq_true rfl) dX0_apart_1 (x_room0 hX) ?_
  refine lv_if_eq (tgt := 28) hx hb dX0_apart_4 (by decide) (fun c2 => ?_) (fun c2 => ?_)
  · have hf := it_pos c2 hf
    refine lv_iconst (v := (-1)) hx hb dX0_apart_28 icm1 ?_
    cases hf
    exact hret _ _ _ _ rfl hX dX0_apart_29
  · have hf := it_neg c2 hf
    refine lv_aload_n hx hb dX0_apart_7 rfl (lv_at hl 0 rfl) ?_
    obtain ⟨hk3, hf⟩ := chk_some hf
    obtain ⟨b4, hb4, hf⟩ := bnd_some hf
    refine xr_get (q := (RX0, TX0, 14)) B hX 0 hk3 rfl (by decide) (by decide) (v := .ref b4) (x_Vr (c := 1) (j := 0) rfl (by decide) hb4) q339 (fun _ h => h) dX0_apart_8 ?_
    obtain ⟨hk5, hf⟩ := chk_some hf
    refine xr_getN (q := (RX1, TX1, 14)) B hX 9 hk5 rfl (by decide) (by decide) (x_Vi rfl (by decide)) nq237 (fun _ h => h) dX0_apart_11 ?_
    refine lv_iload_n hx hb dX0_apart_14 rfl (lv_at hl 1 rfl) ?_
    obtain ⟨r6, hcr6, hf⟩ := bnd_some hf
    refine pr_callS (rest := []) B (c_X0_has l (xi S 209 b4 0) p0 hcr6) (va_cwS 2 hts (lw_S q1405 q1302 q103 q1303) rfl rfl rfl hd_X0_has ⟨Nat.le_of_ble_eq_true rfl, Nat.le_of_ble_eq_true rfl⟩) rfl hl.1 rfl (Nat.le_of_ble_eq_true rfl) dX0_apart_15 (x_room0 hX) ?_
    refine lv_if_eq (tgt := 28) hx hb dX0_apart_18 (by decide) (fun c7 => ?_) (fun c7 => ?_)
    · have hf := it_pos c7 hf
      refine lv_iconst (v := (-1)) hx hb dX0_apart_28 icm1 ?_
      cases hf
      exact hret _ _ _ _ rfl hX dX0_apart_29
    · have hf := it_neg c7 hf
      refine lv_aload_n hx hb dX0_apart_21 rfl (lv_at hl 0 rfl) ?_
      obtain ⟨r8, hcr8, hf⟩ := bnd_some hf
      refine xr_callVC (rest := []) (q := (RX0, TX0, 14)) B hX (c_X0_isTold l D S o hcr8) hk3 rfl (by decide) q1406 q1408 (Or.inl qs29) q103 q1409 hd_X0_isTold ⟨Nat.le_of_ble_eq_true rfl, Nat.le_of_ble_eq_true rfl⟩ rfl hl.1 rfl (Nat.le_of_ble_eq_true rfl) dX0_apart_22 (fun H locs hX => ?_)
      refine lv_if_ne (tgt := 30) hx hb dX0_apart_25 (by decide) (fun c9 => ?_) (fun c9 => ?_)
      · have hf := it_neg c9 hf
        refine lv_aload_n hx hb dX0_apart_30 rfl (lv_at hl 0 rfl) ?_
        obtain ⟨b10, hb10, hf⟩ := bnd_some hf
        refine xr_get (q := (RX0, TX0, 14)) B hX 11 hk3 rfl (by decide) (by decide) (v := .ref b10) (x_Vr (c := 1) (j := 11) rfl (by decide) hb10) q351 (fun _ h => h) dX0_apart_31 ?_
        refine lv_aload_n hx hb dX0_apart_34 rfl (lv_at hl 0 rfl) ?_
        obtain ⟨b11, hb11, hf⟩ := bnd_some hf
        refine xr_get (q := (RX0, TX0, 14)) B hX 0 hk3 rfl (by decide) (by decide) (v := .ref b11) (x_Vr (c := 1) (j := 0) rfl (by decide) hb11) q339 (fun _ h => h) dX0_apart_35 ?_
        obtain ⟨hk12, hf⟩ := chk_some hf
        obtain ⟨b13, hb13, hf⟩ := bnd_some hf
        refine xr_getN (q := (RX1, TX1, 14)) B hX 8 hk12 rfl (by decide) (by decide) (v := .ref b13) (x_Vr (c := 2) (j := 8) rfl (by decide) hb13) nq235 (fun _ h => h) dX0_apart_38 ?_
        refine lv_iload_n hx hb dX0_apart_41 rfl (lv_at hl 1 rfl) ?_
        obtain ⟨hk14, hf⟩ := chk_some hf
        obtain ⟨v15, ev15, hiv15, hf⟩ := ald_some hf
        refine xr_lald B hX hk14 hiv15 ev15 dX0_apart_42 ?_
        obtain ⟨hk18, hf⟩ := chk_some hf
        obtain ⟨⟨r16, S17⟩, hcr16, hf⟩ := bnd_some hf
        have hf := u2_at hf
        refine xr_callVC (rest := []) (q := (RX6, TX6, 3)) B hX (c_X4_least_18 l D S b10 v15 hcr16) hk18 rfl (by decide) q1410 q1411 (Or.inl q1414) q110 q1415 hd_X4_least ⟨Nat.le_of_ble_eq_true rfl, Nat.le_of_ble_eq_true rfl⟩ rfl hl.1 rfl (Nat.le_of_ble_eq_true rfl) dX0_apart_43 (fun H locs hX => ?_)
        refine lv_l2i (v := r16.toInt32) hx hb dX0_apart_46 rfl ?_
        cases hf
        exact hret _ _ _ _ rfl hX dX0_apart_47
      · have hf := it_pos c9 hf
        refine lv_iconst (v := (-1)) hx hb dX0_apart_28 icm1 ?_
        cases hf
        exact hret _ _ _ _ rfl hX dX0_apart_29
def f_X1_isSeen (S : XS) (o : Nat) (p0 : Int32) : Option Int32 :=
  (if p0 = (-1) then some (nI 0) else chk (xk S o = 2) <| (if (xi S 205 o 0) = (-1) then some (nI 1) else (if (xi S 205 o 0) < p0 then some (nI 0) else some (nI 1))))
set_option maxHeartbeats 4000000 in
set_option maxRecDepth 100000 in
theorem c_X1_isSeen (l : Launch) (D : XD) (S : XS) (o : Nat) (p0 : Int32) {r : Int32} (hf : f_X1_isSeen S o p0 = some r) : x_Met l yX1_isSeen cX1_isSeen 2 (Option.some Jvm.ClassFile.FieldType.boolean) 0 0 D [.ref o, .int p0] S (some (.int r)) S := by
  refine x_metI RX1 (by decide) rfl (Nat.le_of_ble_eq_true rfl) (fun p e s m args below meth c Q B hnm hret H locs hX ls hl => ?_)
  have hx := B.1
  have hb := B.2.1
  have hml := B.2.2.1
  have hown := B.2.2.2.1
  have hts := B.2.2.2.2
  have hl : lv_has ls 2 [(0, .ref o), (1, .int p0)] := hl
  unfold f_X1_isSeen at hf
  refine lv_iload_n hx hb dX1_isSeen_0 rfl (lv_at hl 1 rfl) ?_
  refine lv_iconst (v := (-1)) hx hb dX1_isSeen_1 icm1 ?_
  refine lv_icmp_eq (tgt := 25) hx hb dX1_isSeen_2 (by decide) (fun c1 => ?_) (fun c1 => ?_)
  · have hf := it_pos c1 hf
    refine lv_iconst (v := nI 0) hx hb dX1_isSeen_25 ic0 ?_
    cases hf
    exact hret _ _ _ _ rfl hX dX1_isSeen_26
  · have hf := it_neg c1 hf
    refine lv_aload_n hx hb dX1_isSeen_5 rfl (lv_at hl 0 rfl) ?_
    obtain ⟨hk2, hf⟩ := chk_some hf
    refine xr_get (q := (RX1, TX1, 14)) B hX 5 hk2 rfl (by decide) (by decide) (x_Vi rfl (by decide)) q227 (fun _ h => h) dX1_isSeen_6 ?_
    refine lv_iconst (v := (-1)) hx hb dX1_isSeen_9 icm1 ?_
    refine lv_icmp_eq (tgt := 21) hx hb dX1_isSeen_10 (by decide) (fun c3 => ?_) (fun c3 => ?_)
    · have hf := it_pos c3 hf
      refine lv_iconst (v := nI 1) hx hb dX1_isSeen_21 ic1 ?_
      refine lv_goto (tgt := 26) hx hb dX1_isSeen_22 (by decide) ?_
      cases hf
      exact hret _ _ _ _ rfl hX dX1_isSeen_26
    · have hf := it_neg c3 hf
      refine lv_iload_n hx hb dX1_isSeen_13 rfl (lv_at hl 1 rfl) ?_
      refine lv_aload_n hx hb dX1_isSeen_14 rfl (lv_at hl 0 rfl) ?_
      refine xr_get (q := (RX1, TX1, 14)) B hX 5 hk2 rfl (by decide) (by decide) (x_Vi rfl (by decide)) q227 (fun _ h => h) dX1_isSeen_15 ?_
      refine lv_icmp_gt (tgt := 25) hx hb dX1_isSeen_18 (by decide) (fun c4 => ?_) (fun c4 => ?_)
      · have hf := it_pos c4 hf
        refine lv_iconst (v := nI 0) hx hb dX1_isSeen_25 ic0 ?_
        cases hf
        exact hret _ _ _ _ rfl hX dX1_isSeen_26
      · have hf := it_neg c4 hf
        refine lv_iconst (v := nI 1) hx hb dX1_isSeen_21 ic1 ?_
        refine lv_goto (tgt := 26) hx hb dX1_isSeen_22 (by decide) ?_
        cases hf
        exact hret _ _ _ _ rfl hX dX1_isSeen_26
def f_X0_knows_L12 (o : Nat) (x5 : Int32) (S6 : XS) : Option ((Int32 × XS) ⊕ ((XS))) :=
  chk (xk S6 o = 1) <| bnd (xr S6 100 o 0) fun b8 => chk (xk S6 b8 = 2) <| bnd (xr S6 212 b8 0) fun b10 => chk (xk S6 b10 = 19) <| bnd (f_J2_size S6 b10) fun r11 => (if r11 ≤ x5 then some (.inr S6) else bnd (xr S6 100 o 0) fun b14 => chk (xk S6 b14 = 2) <| bnd (xr S6 212 b14 0) fun b16 => chk (xk S6 b16 = 19) <| bnd (f_J2_get S6 b16 x5) fun b17 => chk (xk S6 b17 = 6) <| bnd (f_X0_land S6 o) fun b20 => chk (xk S6 b20 = 3) <| bnd (f_X2_fact S6 b20 (xi S6 600 b17 0) (xi S6 601 b17 0) (xi S6 602 b17 0)) fun r21 => (if r21 = (-1) then bd (x5 + nI 1) fun x24 => some (.inl (x24, S6)) else bnd (xr S6 100 o 0) fun b25 => chk (xk S6 b25 = 2) <| bnd (f_X1_isSeen S6 b25 (xi S6 603 b17 0)) fun r26 => (if r26 = 0 then bd (x5 + nI 1) fun x39 => some (.inl (x39, S6)) else bnd (f_X0_bit S6 o r21) fun r29 => chk (xb S6 ≤ o) <| bd (s_l S6 107 o 0 ((xl S6 107 o 0) ||| r29)) fun S31 => (if (xi S31 604 b17 0) = 0 then bnd (f_X0_bit S31 o r21) fun r33 => bd (s_l S31 108 o 0 ((xl S31 108 o 0) &&& (r33 ^^^ (-1 : Int64)))) fun S34 => bd (x5 + nI 1) fun x35 => some (.inl (x35, S34)) else bnd (f_X0_bit S31 o r21) fun r36 => bd (s_l S31 108 o 0 ((xl S31 108 o 0) ||| r36)) fun S37 => bd (x5 + nI 1) fun x38 => some (.inl (x38, S37))))))
def f_X0_knows (S : XS) (o : Nat) : Option XS :=
  chk (xk S o = 1) <| chk (xb S ≤ o) <| bd (s_l S 107 o 0 (0 : Int64)) fun S3 => bd (s_l S3 108 o 0 (0 : Int64)) fun S4 => bnd (wO (fun t : Int32 × XS => f_X0_knows_L12 o t.1 t.2) fu (nI 0, S4)) <| fun S42 => some S42
set_option maxHeartbeats 4000000 in
set_option maxRecDepth 100000 in
theorem c_X0_knows (l : Launch) (D : XD) (S : XS) (o : Nat) {S' : XS} (hf : f_X0_knows S o = some S') : x_Met l yX0_knows cX0_knows 4 (Option.none : Option Jvm.ClassFile.FieldType) 7 149 D [.ref o] S none S' := by
  refine x_metV RX0 (by decide) rfl (Nat.le_of_ble_eq_true rfl) (fun p e s m args below meth c Q B hnm hret H locs hX ls hl => ?_)
  have hx := B.1
  have hb := B.2.1
  have hml := B.2.2.1
  have hown := B.2.2.2.1
  have hts := B.2.2.2.2
  have hl : lv_has ls 4 [(0, .ref o)] := hl
  unfold f_X0_knows at hf
  refine lv_aload_n hx hb dX0_knows_0 rfl (lv_at hl 0 rfl) ?_
  refine lv_lconst (v := 0) hx hb dX0_knows_1 (by decide) ?_
  obtain ⟨hk1, hf⟩ := chk_some hf
  obtain ⟨hw2, hf⟩ := chk_some hf
  obtain ⟨S3, eS3, hf⟩ := bd_some hf
  refine xr_put (S' := S3) (q := (RX0, TX0, 14)) (v := .long (0 : Int64)) (ty0 := tyX0) B hX 7 hk1 rfl (by decide) hw2 (by decide) (by rw [eS3]; exact x_Vup_l (k := 1) (j := 7) rfl (by decide)) tyX0_ok (fun i h1 h2 => nmX0 i (Nat.lt_of_lt_of_le h1 (by decide)) 7 (by decide) h2) rfl rfl rfl q346 (fun _ h => h) dX0_knows_2 (fun H locs hX => ?_)
  refine w_l eS3 ?_
  have hk1 := ks_l eS3 hk1
  have hw2 := kw_l eS3 hw2
  refine lv_aload_n hx hb dX0_knows_5 rfl (lv_at hl 0 rfl) ?_
  refine lv_lconst (v := 0) hx hb dX0_knows_6 (by decide) ?_
  obtain ⟨S4, eS4, hf⟩ := bd_some hf
  refine xr_put (S' := S4) (q := (RX0, TX0, 14)) (v := .long (0 : Int64)) (ty0 := tyX0) B hX 8 hk1 rfl (by decide) hw2 (by decide) (by rw [eS4]; exact x_Vup_l (k := 1) (j := 8) rfl (by decide)) tyX0_ok (fun i h1 h2 => nmX0 i (Nat.lt_of_lt_of_le h1 (by decide)) 8 (by decide) h2) rfl rfl rfl q347 (fun _ h => h) dX0_knows_7 (fun H locs hX => ?_)
  refine w_l eS4 ?_
  have hk1 := ks_l eS4 hk1
  have hw2 := kw_l eS4 hw2
  refine lv_iconst (v := nI 0) hx hb dX0_knows_10 ic0 ?_
  refine lv_istore_n (lv' := [(1, .int (nI 0)), (0, .ref o)]) hx hb dX0_knows_11 rfl hl (by decide) rfl (fun ls hl => ?_)
  obtain ⟨y41, hxy41, hf⟩ := bnd_some hf
  have hy41 : (fun t : XS => ∀ (H : Heap) (locs : List Loc) (ls : Array Slot), x_I D S s H locs t → lv_has ls 4 [] → W p l e (x_R 7 149 S) s m args below meth c H locs (xz t - xz S) (xu t - xu S) Q (F0 m 141 ls [])) y41 := by
    obtain ⟨S42, rfl⟩ : ∃ z, z = y41 := ⟨_, rfl⟩
    intro H locs ls hX hl
    cases hf
    exact hret _ _ _ _ hX dX0_knows_141
  refine lp_W (step := (fun t : Int32 × XS => f_X0_knows_L12 o t.1 t.2)) (fun t : Int32 × XS => ∀ (H : Heap) (locs : List Loc) (ls : Array Slot), x_I D S s H locs t.2 → lv_has ls 4 [(0, .ref o), (1, .int t.1)] → W p l e (x_R 7 149 S) s m args below meth c H locs (xz t.2 - xz S) (xu t.2 - xu S) Q (F0 m 12 ls [])) (fun t : XS => ∀ (H : Heap) (locs : List Loc) (ls : Array Slot), x_I D S s H locs t → lv_has ls 4 [] → W p l e (x_R 7 149 S) s m args below meth c H locs (xz t - xz S) (xu t - xu S) Q (F0 m 141 ls [])) ?_ fu (nI 0, S4) y41 hxy41 hy41 _ _ _ hX (lv_sub hl [1, 0] rfl)
  clear hf hxy41 hy41
  rintro ⟨x5, S6⟩ oo (hf : f_X0_knows_L12 o x5 S6 = some oo) hk
  intro H locs ls hX hl
  unfold f_X0_knows_L12 at hf
  refine lv_iload_n hx hb dX0_knows_12 rfl (lv_at hl 1 rfl) ?_
  refine lv_aload_n hx hb dX0_knows_13 rfl (lv_at hl 0 rfl) ?_
  obtain ⟨hk7, hf⟩ := chk_some hf
  obtain ⟨b8, hb8, hf⟩ := bnd_some hf
  refine xr_get (q := (RX0, TX0, 14)) B hX 0 hk7 rfl (by decide) (by decide) (v := .ref b8) (x_Vr (c := 1) (j := 0) rfl (by decide) hb8) q339 (fun _ h => h) dX0_knows_14 ?_
  obtain ⟨hk9, hf⟩ := chk_some hf
  obtain ⟨b10, hb10, hf⟩ := bnd_some hf
  refine xr_getN (q := (RX1, TX1, 14)) B hX 12 hk9 rfl (by decide) (by decide) (v := .ref b10) (x_Vr (c := 2) (j := 12) rfl (by decide) hb10) nq243 (fun _ h => h) dX0_knows_17 ?_
  obtain ⟨hk12, hf⟩ := chk_some hf
  obtain ⟨r11, hcr11, hf⟩ := bnd_some hf
  refine xr_callVC (rest := [.int x5]) (q := (RJ2, TJ2, 3)) B hX (c_J2_size l D S6 b10 hcr11) hk12 rfl (by decide) q409 q410 (Or.inl q411) q108 q412 hd_J2_size ⟨Nat.le_of_ble_eq_true rfl, Nat.le_of_ble_eq_true rfl⟩ rfl hl.1 rfl (Nat.le_of_ble_eq_true rfl) dX0_knows_20 (fun H locs hX => ?_)
  refine lv_icmp_ge (tgt := 141) hx hb dX0_knows_23 (by decide) (fun c13 => ?_) (fun c13 => ?_)
  · have hf := it_pos c13 hf
    cases hf
    exact hk _ _ _ hX (lv_sub hl [] rfl)
  · have hf := it_neg c13 hf
    refine lv_aload_n hx hb dX0_knows_26 rfl (lv_at hl 0 rfl) ?_
    obtain ⟨b14, hb14, hf⟩ := bnd_some hf
    refine xr_get (q := (RX0, TX0, 14)) B hX 0 hk7 rfl (by decide) (by decide) (v := .ref b14) (x_Vr (c := 1) (j := 0) rfl (by decide) hb14) q339 (fun _ h => h) dX0_knows_27 ?_
    obtain ⟨hk15, hf⟩ := chk_some hf
    obtain ⟨b16, hb16, hf⟩ := bnd_some hf
    refine xr_getN (q := (RX1, TX1, 14)) B hX 12 hk15 rfl (by decide) (by decide) (v := .ref b16) (x_Vr (c := 2) (j := 12) rfl (by decide) hb16) nq243 (fun _ h => h) dX0_knows_30 ?_
    refine lv_iload_n hx hb dX0_knows_33 rfl (lv_at hl 1 rfl) ?_
    obtain ⟨hk18, hf⟩ := chk_some hf
    obtain ⟨b17, hcb17, hf⟩ := bnd_some hf
    refine xr_callVC (rest := []) (q := (RJ2, TJ2, 3)) B hX (c_J2_get l D S6 b16 x5 hcb17) hk18 rfl (by decide) q573 q524 (Or.inl q525) q108 q526 hd_J2_get ⟨Nat.le_of_ble_eq_true rfl, Nat.le_of_ble_eq_true rfl⟩ rfl hl.1 rfl (Nat.le_of_ble_eq_true rfl) dX0_knows_34 (fun H locs hX => ?_)
    obtain ⟨hk19, hf⟩ := chk_some hf
    refine xr_castY (q := (RX9, TX9, 5)) B hX hk19 rfl (by decide) q575 (Or.inr ⟨rfl, by decide⟩) dX0_knows_37 ?_
    refine lv_astore_n (lv' := [(2, .ref b17), (0, .ref o), (1, .int x5)]) hx hb dX0_knows_40 rfl hl (by decide) rfl (fun ls hl => ?_)
    refine lv_aload_n hx hb dX0_knows_41 rfl (lv_at hl 1 rfl) ?_
    obtain ⟨b20, hcb20, hf⟩ := bnd_some hf
    refine xr_callVC (rest := []) (q := (RX0, TX0, 14)) B hX (c_X0_land l D S6 o hcb20) hk7 rfl (by decide) q393 q395 (Or.inl qs0) q103 q396 hd_X0_land ⟨Nat.le_of_ble_eq_true rfl, Nat.le_of_ble_eq_true rfl⟩ rfl hl.1 rfl (Nat.le_of_ble_eq_true rfl) dX0_knows_42 (fun H locs hX => ?_)
    refine lv_aload_n hx hb dX0_knows_45 rfl (lv_at hl 0 rfl) ?_
    refine xr_getN (q := (RX9, TX9, 5)) B hX 0 hk19 rfl (by decide) (by decide) (x_Vi rfl (by decide)) nq582 (fun _ h => h) dX0_knows_46 ?_
    refine lv_aload_n hx hb dX0_knows_49 rfl (lv_at hl 0 rfl) ?_
    refine xr_getN (q := (RX9, TX9, 5)) B hX 1 hk19 rfl (by decide) (by decide) (x_Vi rfl (by decide)) nq584 (fun _ h => h) dX0_knows_50 ?_
    refine lv_aload_n hx hb dX0_knows_53 rfl (lv_at hl 0 rfl) ?_
    refine xr_getN (q := (RX9, TX9, 5)) B hX 2 hk19 rfl (by decide) (by decide) (x_Vi rfl (by decide)) nq586 (fun _ h => h) dX0_knows_54 ?_
    obtain ⟨hk22, hf⟩ := chk_some hf
    obtain ⟨r21, hcr21, hf⟩ := bnd_some hf
    refine xr_callVC (rest := []) (q := (RX2, TX2, 2)) B hX (c_X2_fact l D S6 b20 (xi S6 600 b17 0) (xi S6 601 b17 0) (xi S6 602 b17 0) hcr21) hk22 rfl (by decide) q546 q547 (Or.inl q548) q105 q549 hd_X2_fact ⟨Nat.le_of_ble_eq_true rfl, Nat.le_of_ble_eq_true rfl⟩ rfl hl.1 rfl (Nat.le_of_ble_eq_true rfl) dX0_knows_57 (fun H locs hX => ?_)
    refine lv_istore_n (lv' := [(3, .int r21), (2, .ref b17), (0, .ref o), (1, .int x5)]) hx hb dX0_knows_60 rfl hl (by decide) rfl (fun ls hl => ?_)
    refine lv_iload_n hx hb dX0_knows_61 rfl (lv_at hl 0 rfl) ?_
    refine lv_iconst (v := (-1)) hx hb dX0_knows_62 icm1 ?_
    refine lv_icmp_eq (tgt := 135) hx hb dX0_knows_63 (by decide) (fun c23 => ?_) (fun c23 => ?_)
    · have hf := it_pos c23 hf
      obtain ⟨x24, ex24, hf⟩ := bd_some hf
      refine lv_iinc (v := x24) (lv' := [(1, .int x24), (3, .int r21), (2, .ref b17), (0, .ref o)]) hx hb dX0_knows_135 hl (k := 3) rfl (by rw [ex24]; first | done | rfl) (by decide) rfl (fun ls hl => ?_)
      refine lv_goto (tgt := 12) hx hb dX0_knows_138 (by decide) ?_
      cases hf
      exact hk _ _ _ hX (lv_sub hl [3, 0] rfl)
    · have hf := it_neg c23 hf
      refine lv_aload_n hx hb dX0_knows_66 rfl (lv_at hl 2 rfl) ?_
      obtain ⟨b25, hb25, hf⟩ := bnd_some hf
      refine xr_get (q := (RX0, TX0, 14)) B hX 0 hk7 rfl (by decide) (by decide) (v := .ref b25) (x_Vr (c := 1) (j := 0) rfl (by decide) hb25) q339 (fun _ h => h) dX0_knows_67 ?_
      refine lv_aload_n hx hb dX0_knows_70 rfl (lv_at hl 1 rfl) ?_
      refine xr_getN (q := (RX9, TX9, 5)) B hX 3 hk19 rfl (by decide) (by decide) (x_Vi rfl (by decide)) nq588 (fun _ h => h) dX0_knows_71 ?_
      obtain ⟨hk27, hf⟩ := chk_some hf
      obtain ⟨r26, hcr26, hf⟩ := bnd_some hf
      refine xr_callVC (rest := []) (q := (RX1, TX1, 14)) B hX (c_X1_isSeen l D S6 b25 (xi S6 603 b17 0) hcr26) hk27 rfl (by decide) q1460 q1461 (Or.inl q1462) q104 q1463 hd_X1_isSeen ⟨Nat.le_of_ble_eq_true rfl, Nat.le_of_ble_eq_true rfl⟩ rfl hl.1 rfl (Nat.le_of_ble_eq_true rfl) dX0_knows_74 (fun H locs hX => ?_)
      refine lv_if_ne (tgt := 83) hx hb dX0_knows_77 (by decide) (fun c28 => ?_) (fun c28 => ?_)
      · have hf := it_neg c28 hf
        refine lv_aload_n hx hb dX0_knows_83 rfl (lv_at hl 2 rfl) ?_
        refine lv_dup hx hb dX0_knows_84 rfl ?_
        refine xr_get (q := (RX0, TX0, 14)) B hX 7 hk7 rfl (by decide) (by decide) (x_Vl rfl (by decide)) q346 (fun _ h => h) dX0_knows_85 ?_
        refine lv_aload_n hx hb dX0_knows_88 rfl (lv_at hl 2 rfl) ?_
        refine lv_iload_n hx hb dX0_knows_89 rfl (lv_at hl 0 rfl) ?_
        obtain ⟨r29, hcr29, hf⟩ := bnd_some hf
        refine xr_callVC (rest := [.long (xl S6 107 o 0), .ref o]) (q := (RX0, TX0, 14)) B hX (c_X0_bit l D S6 o r21 hcr29) hk7 rfl (by decide) q559 q561 (Or.inl qs6) q103 q562 hd_X0_bit ⟨Nat.le_of_ble_eq_true rfl, Nat.le_of_ble_eq_true rfl⟩ rfl hl.1 rfl (Nat.le_of_ble_eq_true rfl) dX0_knows_90 (fun H locs hX => ?_)
        refine lv_lor hx hb dX0_knows_93 ?_
        obtain ⟨hw30, hf⟩ := chk_some hf
        obtain ⟨S31, eS31, hf⟩ := bd_some hf
        refine xr_put (S' := S31) (q := (RX0, TX0, 14)) (v := .long ((xl S6 107 o 0) ||| r29)) (ty0 := tyX0) B hX 7 hk7 rfl (by decide) hw30 (by decide) (by rw [eS31]; exact x_Vup_l (k := 1) (j := 7) rfl (by decide)) tyX0_ok (fun i h1 h2 => nmX0 i (Nat.lt_of_lt_of_le h1 (by decide)) 7 (by decide) h2) rfl rfl rfl q346 (fun _ h => h) dX0_knows_94 (fun H locs hX => ?_)
        refine w_l eS31 ?_
        have hk7 := ks_l eS31 hk7
        have hk9 := ks_l eS31 hk9
        have hk12 := ks_l eS31 hk12
        have hk15 := ks_l eS31 hk15
        have hk18 := ks_l eS31 hk18
        have hk19 := ks_l eS31 hk19
        have hk22 := ks_l eS31 hk22
        have hk27 := ks_l eS31 hk27
        have hw30 := kw_l eS31 hw30
        refine lv_aload_n hx hb dX0_knows_97 rfl (lv_at hl 2 rfl) ?_
        refine lv_aload_n hx hb dX0_knows_98 rfl (lv_at hl 1 rfl) ?_
        refine xr_getN (q := (RX9, TX9, 5)) B hX 4 hk19 rfl (by decide) (by decide) (x_Vi rfl (by decide)) nq590 (fun _ h => h) dX0_knows_99 ?_
        refine lv_if_eq (tgt := 118) hx hb dX0_knows_102 (by decide) (fun c32 => ?_) (fun c32 => ?_)
        · have hf := it_pos c32 hf
          refine lv_aload_n hx hb dX0_knows_118 rfl (lv_at hl 2 rfl) ?_
          refine xr_get (q := (RX0, TX0, 14)) B hX 8 hk7 rfl (by decide) (by decide) (x_Vl rfl (by decide)) q347 (fun _ h => h) dX0_knows_119 ?_
          refine lv_aload_n hx hb dX0_knows_122 rfl (lv_at hl 2 rfl) ?_
          refine lv_iload_n hx hb dX0_knows_123 rfl (lv_at hl 0 rfl) ?_
          obtain ⟨r33, hcr33, hf⟩ := bnd_some hf
          refine xr_callVC (rest := [.long (xl S31 108 o 0), .ref o]) (q := (RX0, TX0, 14)) B hX (c_X0_bit l D S31 o r21 hcr33) hk7 rfl (by decide) q559 q561 (Or.inl qs6) q103 q562 hd_X0_bit ⟨Nat.le_of_ble_eq_true rfl, Nat.le_of_ble_eq_true rfl⟩ rfl hl.1 rfl (Nat.le_of_ble_eq_true rfl) dX0_knows_124 (fun H locs hX => ?_)
          refine lv_ldc2 (v := (-1 : Int64)) hx hb hown (hts _ q1464) dX0_knows_127 ?_
          refine lv_lxor hx hb dX0_knows_130 ?_
          refine lv_land hx hb dX0_knows_131 ?_
          obtain ⟨S34, eS34, hf⟩ := bd_some hf
          refine xr_put (S' := S34) (q := (RX0, TX0, 14)) (v := .long ((xl S31 108 o 0) &&& (r33 ^^^ (-1 : Int64)))) (ty0 := tyX0) B hX 8 hk7 rfl (by decide) hw30 (by decide) (by rw [eS34]; exact x_Vup_l (k := 1) (j := 8) rfl (by decide)) tyX0_ok (fun i h1 h2 => nmX0 i (Nat.lt_of_lt_of_le h1 (by decide)) 8 (by decide) h2) rfl rfl rfl q347 (fun _ h => h) dX0_knows_132 (fun H locs hX => ?_)
          refine w_l eS34 ?_
          have hk7 := ks_l eS34 hk7
          have hk9 := ks_l eS34 hk9
          have hk12 := ks_l eS34 hk12
          have hk15 := ks_l eS34 hk15
          have hk18 := ks_l eS34 hk18
          have hk19 := ks_l eS34 hk19
          have hk22 := ks_l eS34 hk22
          have hk27 := ks_l eS34 hk27
          have hw30 := kw_l eS34 hw30
          obtain ⟨x35, ex35, hf⟩ := bd_some hf
          refine lv_iinc (v := x35) (lv' := [(1, .int x35), (3, .int r21), (2, .ref b17), (0, .ref o)]) hx hb dX0_knows_135 hl (k := 3) rfl (by rw [ex35]; first | done | rfl) (by decide) rfl (fun ls hl => ?_)
          refine lv_goto (tgt := 12) hx hb dX0_knows_138 (by decide) ?_
          cases hf
          exact hk _ _ _ hX (lv_sub hl [3, 0] rfl)
        · have hf := it_neg c32 hf
          refine lv_aload_n hx hb dX0_knows_105 rfl (lv_at hl 2 rfl) ?_
          refine xr_get (q := (RX0, TX0, 14)) B hX 8 hk7 rfl (by decide) (by decide) (x_Vl rfl (by decide)) q347 (fun _ h => h) dX0_knows_106 ?_
          refine lv_aload_n hx hb dX0_knows_109 rfl (lv_at hl 2 rfl) ?_
          refine lv_iload_n hx hb dX0_knows_110 rfl (lv_at hl 0 rfl) ?_
          obtain ⟨r36, hcr36, hf⟩ := bnd_some hf
          refine xr_callVC (rest := [.long (xl S31 108 o 0), .ref o]) (q := (RX0, TX0, 14)) B hX (c_X0_bit l D S31 o r21 hcr36) hk7 rfl (by decide) q559 q561 (Or.inl qs6) q103 q562 hd_X0_bit ⟨Nat.le_of_ble_eq_true rfl, Nat.le_of_ble_eq_true rfl⟩ rfl hl.1 rfl (Nat.le_of_ble_eq_true rfl) dX0_knows_111 (fun H locs hX => ?_)
          refine lv_lor hx hb dX0_knows_114 ?_
          refine lv_goto (tgt := 132) hx hb dX0_knows_115 (by decide) ?_
          obtain ⟨S37, eS37, hf⟩ := bd_some hf
          refine xr_put (S' := S37) (q := (RX0, TX0, 14)) (v := .long ((xl S31 108 o 0) ||| r36)) (ty0 := tyX0) B hX 8 hk7 rfl (by decide) hw30 (by decide) (by rw [eS37]; exact x_Vup_l (k := 1) (j := 8) rfl (by decide)) tyX0_ok (fun i h1 h2 => nmX0 i (Nat.lt_of_lt_of_le h1 (by decide)) 8 (by decide) h2) rfl rfl rfl q347 (fun _ h => h) dX0_knows_132 (fun H locs hX => ?_)
          refine w_l eS37 ?_
          have hk7 := ks_l eS37 hk7
          have hk9 := ks_l eS37 hk9
          have hk12 := ks_l eS37 hk12
          have hk15 := ks_l eS37 hk15
          have hk18 := ks_l eS37 hk18
          have hk19 := ks_l eS37 hk19
          have hk22 := ks_l eS37 hk22
          have hk27 := ks_l eS37 hk27
          have hw30 := kw_l eS37 hw30
          obtain ⟨x38, ex38, hf⟩ := bd_some hf
          refine lv_iinc (v := x38) (lv' := [(1, .int x38), (3, .int r21), (2, .ref b17), (0, .ref o)]) hx hb dX0_knows_135 hl (k := 3) rfl (by rw [ex38]; first | done | rfl) (by decide) rfl (fun ls hl => ?_)
          refine lv_goto (tgt := 12) hx hb dX0_knows_138 (by decide) ?_
          cases hf
          exact hk _ _ _ hX (lv_sub hl [3, 0] rfl)
      · have hf := it_pos c28 hf
        refine lv_goto (tgt := 135) hx hb dX0_knows_80 (by decide) ?_
        obtain ⟨x39, ex39, hf⟩ := bd_some hf
        refine lv_iinc (v := x39) (lv' := [(1, .int x39), (3, .int r21), (2, .ref b17), (0, .ref o)]) hx hb dX0_knows_135 hl (k := 3) rfl (by rw [ex39]; first | done | rfl) (by decide) rfl (fun ls hl => ?_)
        refine lv_goto (tgt := 12) hx hb dX0_knows_138 (by decide) ?_
        cases hf
        exact hk _ _ _ hX (lv_sub hl [3, 0] rfl)
def f_X0_rows (S : XS) (o : Nat) : Option Int32 :=
  chk (xk S o = 1) <| bnd (f_X0_facts S o) fun r1 => some (nI 1 <<< (r1 &&& 31))
set_option maxHeartbeats 4000000 in
set_option maxRecDepth 100000 in
theorem c_X0_rows (l : Launch) (D : XD) (S : XS) (o : Nat) {r : Int32} (hf : f_X0_rows S o = some r) : x_Met l yX0_rows cX0_rows 1 (Option.some Jvm.ClassFile.FieldType.int) 6 128 D [.ref o] S (some (.int r)) S := by
  refine x_metI RX0 (by decide) rfl (Nat.le_of_ble_eq_true rfl) (fun p e s m args below meth c Q B hnm hret H locs hX ls hl => ?_)
  have hx := B.1
  have hb := B.2.1
  have hml := B.2.2.1
  have hown := B.2.2.2.1
  have hts := B.2.2.2.2
  have hl : lv_has ls 1 [(0, .ref o)] := hl
  unfold f_X0_rows at hf
  refine lv_iconst (v := nI 1) hx hb dX0_rows_0 ic1 ?_
  refine lv_aload_n hx hb dX0_rows_1 rfl (lv_at hl 0 rfl) ?_
  obtain ⟨hk2, hf⟩ := chk_some hf
  obtain ⟨r1, hcr1, hf⟩ := bnd_some hf
  refine xr_callVC (rest := [.int (nI 1)]) (q := (RX0, TX0, 14)) B hX (c_X0_facts l D S o hcr1) hk2 rfl (by decide) q563 q511 (Or.inl q512) q103 q513 hd_X0_facts ⟨Nat.le_of_ble_eq_true rfl, Nat.le_of_ble_eq_true rfl⟩ rfl hl.1 rfl (Nat.le_of_ble_eq_true rfl) dX0_rows_2 (fun H locs hX => ?_)
  refine lv_ishl hx hb dX0_rows_5 ?_
  cases hf
  exact hret _ _ _ _ rfl hX dX0_rows_6
def f_X0_needed_L4 (o : Nat) (S : XS) (x1 : Int32) (x2 : Int32) : Option ((Int32 × Int32) ⊕ ((Int32))) :=
  chk (xk S o = 1) <| bnd (xr S 100 o 0) fun b4 => chk (xk S b4 = 2) <| bnd (xr S 211 b4 0) fun b6 => chk (xk S b6 = 19) <| bnd (f_J2_size S b6) fun r7 => (if r7 ≤ x2 then some (.inr x1) else bnd (xr S 100 o 0) fun b10 => bnd (f_X0_story_2 S o x2) fun b11 => chk (xk S b11 = 7) <| chk (xk S b10 = 2) <| bnd (f_X1_isSeen S b10 (xi S 701 b11 0)) fun r13 => (if r13 = 0 then bd (x2 + nI 1) fun x16 => some (.inl (x1, x16)) else bnd (xr S 100 o 0) fun b17 => bnd (f_X0_story_2 S o x2) fun b18 => chk (xk S b18 = 7) <| chk (xk S b17 = 2) <| bnd (f_X1_isSeen S b17 (xi S 702 b18 0)) fun r20 => (if r20 = 0 then bd (x1 ||| (nI 1 <<< (x2 &&& 31))) fun x24 => bd (x2 + nI 1) fun x25 => some (.inl (x24, x25)) else bd (x2 + nI 1) fun x23 => some (.inl (x1, x23)))))
def f_X0_needed (S : XS) (o : Nat) : Option Int32 :=
  bnd (wO (fun t : Int32 × Int32 => f_X0_needed_L4 o S t.1 t.2) fu (nI 0, nI 0)) <| fun x28 => some x28
set_option maxHeartbeats 4000000 in
set_option maxRecDepth 100000 in
theorem c_X0_needed (l : Launch) (D : XD) (S : XS) (o : Nat) {r : Int32} (hf : f_X0_needed S o = some r) : x_Met l yX0_needed cX0_needed 3 (Option.some Jvm.ClassFile.FieldType.int) 4 85 D [.ref o] S (some (.int r)) S := by
  refine x_metI RX0 (by decide) rfl (Nat.le_of_ble_eq_true rfl) (fun p e s m args below meth c Q B hnm hret H locs hX ls hl => ?_)
  have hx := B.1
  have hb := B.2.1
  have hml := B.2.2.1
  have hown := B.2.2.2.1
  have hts := B.2.2.2.2
  have hl : lv_has ls 3 [(0, .ref o)] := hl
  unfold f_X0_needed at hf
  refine lv_iconst (v := nI 0) hx hb dX0_needed_0 ic0 ?_
  refine lv_istore_n (lv' := [(1, .int (nI 0)), (0, .ref o)]) hx hb dX0_needed_1 rfl hl (by decide) rfl (fun ls hl => ?_)
  refine lv_iconst (v := nI 0) hx hb dX0_needed_2 ic0 ?_
  refine lv_istore_n (lv' := [(2, .int (nI 0)), (1, .int (nI 0)), (0, .ref o)]) hx hb dX0_needed_3 rfl hl (by decide) rfl (fun ls hl => ?_)
  obtain ⟨y27, hxy27, hf⟩ := bnd_some hf
  have hy27 : (fun t : Int32 => ∀ (H : Heap) (locs : List Loc) (ls : Array Slot), x_I D S s H locs S → lv_has ls 3 [(1, .int t)] → W p l e (x_R 4 85 S) s m args below meth c H locs (xz S - xz S) (xu S - xu S) Q (F0 m 66 ls [])) y27 := by
    obtain ⟨x28, rfl⟩ : ∃ z, z = y27 := ⟨_, rfl⟩
    intro H locs ls hX hl
    refine lv_iload_n hx hb dX0_needed_66 rfl (lv_at hl 0 rfl) ?_
    cases hf
    exact hret _ _ _ _ rfl hX dX0_needed_67
  refine lp_W (step := (fun t : Int32 × Int32 => f_X0_needed_L4 o S t.1 t.2)) (fun t : Int32 × Int32 => ∀ (H : Heap) (locs : List Loc) (ls : Array Slot), x_I D S s H locs S → lv_has ls 3 [(0, .ref o), (1, .int t.1), (2, .int t.2)] → W p l e (x_R 4 85 S) s m args below meth c H locs (xz S - xz S) (xu S - xu S) Q (F0 m 4 ls [])) (fun t : Int32 => ∀ (H : Heap) (locs : List Loc) (ls : Array Slot), x_I D S s H locs S → lv_has ls 3 [(1, .int t)] → W p l e (x_R 4 85 S) s m args below meth c H locs (xz S - xz S) (xu S - xu S) Q (F0 m 66 ls [])) ?_ fu (nI 0, nI 0) y27 hxy27 hy27 _ _ _ hX (lv_sub hl [2, 1, 0] rfl)
  clear hf hxy27 hy27
  rintro ⟨x1, x2⟩ oo (hf : f_X0_needed_L4 o S x1 x2 = some oo) hk
  intro H locs ls hX hl
  unfold f_X0_needed_L4 at hf
  refine lv_iload_n hx hb dX0_needed_4 rfl (lv_at hl 2 rfl) ?_
  refine lv_aload_n hx hb dX0_needed_5 rfl (lv_at hl 0 rfl) ?_
  obtain ⟨hk3, hf⟩ := chk_some hf
  obtain ⟨b4, hb4, hf⟩ := bnd_some hf
  refine xr_get (q := (RX0, TX0, 14)) B hX 0 hk3 rfl (by decide) (by decide) (v := .ref b4) (x_Vr (c := 1) (j := 0) rfl (by decide) hb4) q339 (fun _ h => h) dX0_needed_6 ?_
  obtain ⟨hk5, hf⟩ := chk_some hf
  obtain ⟨b6, hb6, hf⟩ := bnd_some hf
  refine xr_getN (q := (RX1, TX1, 14)) B hX 11 hk5 rfl (by decide) (by decide) (v := .ref b6) (x_Vr (c := 2) (j := 11) rfl (by decide) hb6) nq241 (fun _ h => h) dX0_needed_9 ?_
  obtain ⟨hk8, hf⟩ := chk_some hf
  obtain ⟨r7, hcr7, hf⟩ := bnd_some hf
  refine xr_callVC (rest := [.int x2]) (q := (RJ2, TJ2, 3)) B hX (c_J2_size l D S b6 hcr7) hk8 rfl (by decide) q409 q410 (Or.inl q411) q108 q412 hd_J2_size ⟨Nat.le_of_ble_eq_true rfl, Nat.le_of_ble_eq_true rfl⟩ rfl hl.1 rfl (Nat.le_of_ble_eq_true rfl) dX0_needed_12 (fun H locs hX => ?_)
  refine lv_icmp_ge (tgt := 66) hx hb dX0_needed_15 (by decide) (fun c9 => ?_) (fun c9 => ?_)
  · have hf := it_pos c9 hf
    cases hf
    exact hk _ _ _ hX (lv_sub hl [1] rfl)
  · have hf := it_neg c9 hf
    refine lv_aload_n hx hb dX0_needed_18 rfl (lv_at hl 0 rfl) ?_
    obtain ⟨b10, hb10, hf⟩ := bnd_some hf
    refine xr_get (q := (RX0, TX0, 14)) B hX 0 hk3 rfl (by decide) (by decide) (v := .ref b10) (x_Vr (c := 1) (j := 0) rfl (by decide) hb10) q339 (fun _ h => h) dX0_needed_19 ?_
    refine lv_aload_n hx hb dX0_needed_22 rfl (lv_at hl 0 rfl) ?_
    refine lv_iload_n hx hb dX0_needed_23 rfl (lv_at hl 2 rfl) ?_
    obtain ⟨b11, hcb11, hf⟩ := bnd_some hf
    refine xr_callVC (rest := [.ref b10]) (q := (RX0, TX0, 14)) B hX (c_X0_story_2 l D S o x2 hcb11) hk3 rfl (by decide) q1240 q1242 (Or.inl qs25) q103 q1243 hd_X0_story_2 ⟨Nat.le_of_ble_eq_true rfl, Nat.le_of_ble_eq_true rfl⟩ rfl hl.1 rfl (Nat.le_of_ble_eq_true rfl) dX0_needed_24 (fun H locs hX => ?_)
    obtain ⟨hk12, hf⟩ := chk_some hf
    refine xr_getN (q := (RX10, TX10, 3)) B hX 1 hk12 rfl (by decide) (by decide) (x_Vi rfl (by decide)) nq1210 (fun _ h => h) dX0_needed_27 ?_
    obtain ⟨hk14, hf⟩ := chk_some hf
    obtain ⟨r13, hcr13, hf⟩ := bnd_some hf
    refine xr_callVC (rest := []) (q := (RX1, TX1, 14)) B hX (c_X1_isSeen l D S b10 (xi S 701 b11 0) hcr13) hk14 rfl (by decide) q1460 q1461 (Or.inl q1462) q104 q1463 hd_X1_isSeen ⟨Nat.le_of_ble_eq_true rfl, Nat.le_of_ble_eq_true rfl⟩ rfl hl.1 rfl (Nat.le_of_ble_eq_true rfl) dX0_needed_30 (fun H locs hX => ?_)
    refine lv_if_eq (tgt := 60) hx hb dX0_needed_33 (by decide) (fun c15 => ?_) (fun c15 => ?_)
    · have hf := it_pos c15 hf
      obtain ⟨x16, ex16, hf⟩ := bd_some hf
      refine lv_iinc (v := x16) (lv' := [(2, .int x16), (0, .ref o), (1, .int x1)]) hx hb dX0_needed_60 hl (k := 2) rfl (by rw [ex16]; first | done | rfl) (by decide) rfl (fun ls hl => ?_)
      refine lv_goto (tgt := 4) hx hb dX0_needed_63 (by decide) ?_
      cases hf
      exact hk _ _ _ hX (lv_sub hl [1, 2, 0] rfl)
    · have hf := it_neg c15 hf
      refine lv_aload_n hx hb dX0_needed_36 rfl (lv_at hl 0 rfl) ?_
      obtain ⟨b17, hb17, hf⟩ := bnd_some hf
      refine xr_get (q := (RX0, TX0, 14)) B hX 0 hk3 rfl (by decide) (by decide) (v := .ref b17) (x_Vr (c := 1) (j := 0) rfl (by decide) hb17) q339 (fun _ h => h) dX0_needed_37 ?_
      refine lv_aload_n hx hb dX0_needed_40 rfl (lv_at hl 0 rfl) ?_
      refine lv_iload_n hx hb dX0_needed_41 rfl (lv_at hl 2 rfl) ?_
      obtain ⟨b18, hcb18, hf⟩ := bnd_some hf
      refine xr_callVC (rest := [.ref b17]) (q := (RX0, TX0, 14)) B hX (c_X0_story_2 l D S o x2 hcb18) hk3 rfl (by decide) q1240 q1242 (Or.inl qs25) q103 q1243 hd_X0_story_2 ⟨Nat.le_of_ble_eq_true rfl, Nat.le_of_ble_eq_true rfl⟩ rfl hl.1 rfl (Nat.le_of_ble_eq_true rfl) dX0_needed_42 (fun H locs hX => ?_)
      obtain ⟨hk19, hf⟩ := chk_some hf
      refine xr_getN (q := (RX10, TX10, 3)) B hX 2 hk19 rfl (by decide) (by decide) (x_Vi rfl (by decide)) nq1212 (fun _ h => h) dX0_needed_45 ?_
      obtain ⟨hk21, hf⟩ := chk_some hf
      obtain ⟨r20, hcr20, hf⟩ := bnd_some hf
      refine xr_callVC (rest := []) (q := (RX1, TX1, 14)) B hX (c_X1_isSeen l D S b17 (xi S 702 b18 0) hcr20) hk21 rfl (by decide) q1460 q1461 (Or.inl q1462) q104 q1463 hd_X1_isSeen ⟨Nat.le_of_ble_eq_true rfl, Nat.le_of_ble_eq_true rfl⟩ rfl hl.1 rfl (Nat.le_of_ble_eq_true rfl) dX0_needed_48 (fun H locs hX => ?_)
      refine lv_if_ne (tgt := 60) hx hb dX0_needed_51 (by decide) (fun c22 => ?_) (fun c22 => ?_)
      · have hf := it_neg c22 hf
        obtain ⟨x23, ex23, hf⟩ := bd_some hf
        refine lv_iinc (v := x23) (lv' := [(2, .int x23), (0, .ref o), (1, .int x1)]) hx hb dX0_needed_60 hl (k := 2) rfl (by rw [ex23]; first | done | rfl) (by decide) rfl (fun ls hl => ?_)
        refine lv_goto (tgt := 4) hx hb dX0_needed_63 (by decide) ?_
        cases hf
        exact hk _ _ _ hX (lv_sub hl [1, 2, 0] rfl)
      · have hf := it_pos c22 hf
        refine lv_iload_n hx hb dX0_needed_54 rfl (lv_at hl 1 rfl) ?_
        refine lv_iconst (v := nI 1) hx hb dX0_needed_55 ic1 ?_
        refine lv_iload_n hx hb dX0_needed_56 rfl (lv_at hl 2 rfl) ?_
        refine lv_ishl hx hb dX0_needed_57 ?_
        refine lv_ior hx hb dX0_needed_58 ?_
        refine lv_topi (fun x24 ex24 => ?_)
        have hf := bd_at ex24 hf
        refine lv_istore_n (lv' := [(1, .int x24), (0, .ref o), (2, .int x2)]) hx hb dX0_needed_59 rfl hl (by decide) rfl (fun ls hl => ?_)
        obtain ⟨x25, ex25, hf⟩ := bd_some hf
        refine lv_iinc (v := x25) (lv' := [(2, .int x25), (1, .int x24), (0, .ref o)]) hx hb dX0_needed_60 hl (k := 2) rfl (by rw [ex25]; first | done | rfl) (by decide) rfl (fun ls hl => ?_)
        refine lv_goto (tgt := 4) hx hb dX0_needed_63 (by decide) ?_
        cases hf
        exact hk _ _ _ hX (lv_sub hl [2, 1, 0] rfl)
def f_X0_isWorld (S : XS) (o : Nat) (p0 : Int32) (p1 : Int32) : Option Int32 :=
  chk (xk S o = 1) <| (if (lg_cmp (p0.toInt64 &&& (xl S 107 o 0)) (xl S 108 o 0)) = 0 then bnd (xr S 104 o 0) fun b3 => chk (xk S b3 = 51) <| ald (xn S b3) (xi S 51 b3) p0 fun v5 => (if (v5 &&& p1) = p1 then some (nI 1) else some (nI 0)) else some (nI 0))
set_option maxHeartbeats 4000000 in
set_option maxRecDepth 100000 in
theorem c_X0_isWorld (l : Launch) (D : XD) (S : XS) (o : Nat) (p0 : Int32) (p1 : Int32) {r : Int32} (hf : f_X0_isWorld S o p0 p1 = some r) : x_Met l yX0_isWorld cX0_isWorld 3 (Option.some Jvm.ClassFile.FieldType.boolean) 0 0 D [.ref o, .int p0, .int p1] S (some (.int r)) S := by
  refine x_metI RX0 (by decide) rfl (Nat.le_of_ble_eq_true rfl) (fun p e s m args below meth c Q B hnm hret H locs hX ls hl => ?_)
  have hx := B.1
  have hb := B.2.1
  have hml := B.2.2.1
  have hown := B.2.2.2.1
  have hts := B.2.2.2.2
  have hl : lv_has ls 3 [(0, .ref o), (1, .int p0), (2, .int p1)] := hl
  unfold f_X0_isWorld at hf
  refine lv_iload_n hx hb dX0_isWorld_0 rfl (lv_at hl 1 rfl) ?_
  refine lv_i2l (v := p0.toInt64) hx hb dX0_isWorld_1 rfl ?_
  refine lv_aload_n hx hb dX0_isWorld_2 rfl (lv_at hl 0 rfl) ?_
  obtain ⟨hk1, hf⟩ := chk_some hf
  refine xr_get (q := (RX0, TX0, 14)) B hX 7 hk1 rfl (by decide) (by decide) (x_Vl rfl (by decide)) q346 (fun _ h => h) dX0_isWorld_3 ?_
  refine lv_land hx hb dX0_isWorld_6 ?_
  refine lv_aload_n hx hb dX0_isWorld_7 rfl (lv_at hl 0 rfl) ?_
  refine xr_get (q := (RX0, TX0, 14)) B hX 8 hk1 rfl (by decide) (by decide) (x_Vl rfl (by decide)) q347 (fun _ h => h) dX0_isWorld_8 ?_
  refine W.lcmp hx hb dX0_isWorld_11 ?_
  refine lv_if_ne (tgt := 31) hx hb dX0_isWorld_12 (by decide) (fun c2 => ?_) (fun c2 => ?_)
  · have hf := it_neg c2 hf
    refine lv_iconst (v := nI 0) hx hb dX0_isWorld_31 ic0 ?_
    cases hf
    exact hret _ _ _ _ rfl hX dX0_isWorld_32
  · have hf := it_pos c2 hf
    refine lv_aload_n hx hb dX0_isWorld_15 rfl (lv_at hl 0 rfl) ?_
    obtain ⟨b3, hb3, hf⟩ := bnd_some hf
    refine xr_get (q := (RX0, TX0, 14)) B hX 4 hk1 rfl (by decide) (by decide) (v := .ref b3) (x_Vr (c := 1) (j := 4) rfl (by decide) hb3) q343 (fun _ h => h) dX0_isWorld_16 ?_
    refine lv_iload_n hx hb dX0_isWorld_19 rfl (lv_at hl 1 rfl) ?_
    obtain ⟨hk4, hf⟩ := chk_some hf
    obtain ⟨v5, ev5, hiv5, hf⟩ := ald_some hf
    refine xr_bald B hX hk4 hiv5 ev5 dX0_isWorld_20 ?_
    refine lv_iload_n hx hb dX0_isWorld_21 rfl (lv_at hl 2 rfl) ?_
    refine lv_iand hx hb dX0_isWorld_22 ?_
    refine lv_iload_n hx hb dX0_isWorld_23 rfl (lv_at hl 2 rfl) ?_
    refine lv_icmp_ne (tgt := 31) hx hb dX0_isWorld_24 (by decide) (fun c6 => ?_) (fun c6 => ?_)
    · have hf := it_neg c6 hf
      refine lv_iconst (v := nI 0) hx hb dX0_isWorld_31 ic0 ?_
      cases hf
      exact hret _ _ _ _ rfl hX dX0_isWorld_32
    · have hf := it_pos c6 hf
      refine lv_iconst (v := nI 1) hx hb dX0_isWorld_27 ic1 ?_
      refine lv_goto (tgt := 32) hx hb dX0_isWorld_28 (by decide) ?_
      cases hf
      exact hret _ _ _ _ rfl hX dX0_isWorld_32
def f_X0_worldsOf_L4 (o : Nat) (p0 : Int32) (S : XS) (x1 : Int32) (x2 : Int32) : Option ((Int32 × Int32) ⊕ ((Int32))) :=
  chk (xk S o = 1) <| bnd (f_X0_rows S o) fun r3 => (if r3 ≤ x2 then some (.inr x1) else bnd (f_X0_isWorld S o x2 p0) fun r6 => (if r6 = 0 then bd (x1 + nI 0) fun x8 => bd (x2 + nI 1) fun x9 => some (.inl (x8, x9)) else bd (x1 + nI 1) fun x10 => bd (x2 + nI 1) fun x11 => some (.inl (x10, x11))))
def f_X0_worldsOf (S : XS) (o : Nat) (p0 : Int32) : Option Int32 :=
  bnd (wO (fun t : Int32 × Int32 => f_X0_worldsOf_L4 o p0 S t.1 t.2) fu (nI 0, nI 0)) <| fun x14 => some x14
set_option maxHeartbeats 4000000 in
set_option maxRecDepth 100000 in
theorem c_X0_worldsOf (l : Launch) (D : XD) (S : XS) (o : Nat) (p0 : Int32) {r : Int32} (hf : f_X0_worldsOf S o p0 = some r) : x_Met l yX0_worldsOf cX0_worldsOf 4 (Option.some Jvm.ClassFile.FieldType.int) 7 148 D [.ref o, .int p0] S (some (.int r)) S := by
  refine x_metI RX0 (by decide) rfl (Nat.le_of_ble_eq_true rfl) (fun p e s m args below meth c Q B hnm hret H locs hX ls hl => ?_)
  have hx := B.1
  have hb := B.2.1
  have hml := B.2.2.1
  have hown := B.2.2.2.1
  have hts := B.2.2.2.2
  have hl : lv_has ls 4 [(0, .ref o), (1, .int p0)] := hl
  unfold f_X0_worldsOf at hf
  refine lv_iconst (v := nI 0) hx hb dX0_worldsOf_0 ic0 ?_
  refine lv_istore_n (lv' := [(2, .int (nI 0)), (0, .ref o), (1, .int p0)]) hx hb dX0_worldsOf_1 rfl hl (by decide) rfl (fun ls hl => ?_)
  refine lv_iconst (v := nI 0) hx hb dX0_worldsOf_2 ic0 ?_
  refine lv_istore_n (lv' := [(3, .int (nI 0)), (2, .int (nI 0)), (0, .ref o), (1, .int p0)]) hx hb dX0_worldsOf_3 rfl hl (by decide) rfl (fun ls hl => ?_)
  obtain ⟨y13, hxy13, hf⟩ := bnd_some hf
  have hy13 : (fun t : Int32 => ∀ (H : Heap) (locs : List Loc) (ls : Array Slot), x_I D S s H locs S → lv_has ls 4 [(2, .int t)] → W p l e (x_R 7 148 S) s m args below meth c H locs (xz S - xz S) (xu S - xu S) Q (F0 m 35 ls [])) y13 := by
    obtain ⟨x14, rfl⟩ : ∃ z, z = y13 := ⟨_, rfl⟩
    intro H locs ls hX hl
    refine lv_iload_n hx hb dX0_worldsOf_35 rfl (lv_at hl 0 rfl) ?_
    cases hf
    exact hret _ _ _ _ rfl hX dX0_worldsOf_36
  refine lp_W (step := (fun t : Int32 × Int32 => f_X0_worldsOf_L4 o p0 S t.1 t.2)) (fun t : Int32 × Int32 => ∀ (H : Heap) (locs : List Loc) (ls : Array Slot), x_I D S s H locs S → lv_has ls 4 [(0, .ref o), (1, .int p0), (2, .int t.1), (3, .int t.2)] → W p l e (x_R 7 148 S) s m args below meth c H locs (xz S - xz S) (xu S - xu S) Q (F0 m 4 ls [])) (fun t : Int32 => ∀ (H : Heap) (locs : List Loc) (ls : Array Slot), x_I D S s H locs S → lv_has ls 4 [(2, .int t)] → W p l e (x_R 7 148 S) s m args below meth c H locs (xz S - xz S) (xu S - xu S) Q (F0 m 35 ls [])) ?_ fu (nI 0, nI 0) y13 hxy13 hy13 _ _ _ hX (lv_sub hl [2, 3, 1, 0] rfl)
  clear hf hxy13 hy13
  rintro ⟨x1, x2⟩ oo (hf : f_X0_worldsOf_L4 o p0 S x1 x2 = some oo) hk
  intro H locs ls hX hl
  unfold f_X0_worldsOf_L4 at hf
  refine lv_iload_n hx hb dX0_worldsOf_4 rfl (lv_at hl 3 rfl) ?_
  refine lv_aload_n hx hb dX0_worldsOf_5 rfl (lv_at hl 0 rfl) ?_
  obtain ⟨hk4, hf⟩ := chk_some hf
  obtain ⟨r3, hcr3, hf⟩ := bnd_some hf
  refine xr_callVC (rest := [.int x2]) (q := (RX0, TX0, 14)) B hX (c_X0_rows l D S o hcr3) hk4 rfl (by decide) q1465 q1467 (Or.inl qs33) q103 q1468 hd_X0_rows ⟨Nat.le_of_ble_eq_true rfl, Nat.le_of_ble_eq_true rfl⟩ rfl hl.1 rfl (Nat.le_of_ble_eq_true rfl) dX0_worldsOf_6 (fun H locs hX => ?_)
  refine lv_icmp_ge (tgt := 35) hx hb dX0_worldsOf_9 (by decide) (fun c5 => ?_) (fun c5 => ?_)
  · have hf := it_pos c5 hf
    cases hf
    exact hk _ _ _ hX (lv_sub hl [2] rfl)
  · have hf := it_neg c5 hf
    refine lv_iload_n hx hb dX0_worldsOf_12 rfl (lv_at hl 2 rfl) ?_
    refine lv_aload_n hx hb dX0_worldsOf_13 rfl (lv_at hl 0 rfl) ?_
    refine lv_iload_n hx hb dX0_worldsOf_14 rfl (lv_at hl 3 rfl) ?_
    refine lv_iload_n hx hb dX0_worldsOf_15 rfl (lv_at hl 1 rfl) ?_
    obtain ⟨r6, hcr6, hf⟩ := bnd_some hf
    refine xr_callVC (rest := [.int x1]) (q := (RX0, TX0, 14)) B hX (c_X0_isWorld l D S o x2 p0 hcr6) hk4 rfl (by decide) q1477 q1479 (Or.inl qs36) q103 q1480 hd_X0_isWorld ⟨Nat.le_of_ble_eq_true rfl, Nat.le_of_ble_eq_true rfl⟩ rfl hl.1 rfl (Nat.le_of_ble_eq_true rfl) dX0_worldsOf_16 (fun H locs hX => ?_)
    refine lv_if_eq (tgt := 26) hx hb dX0_worldsOf_19 (by decide) (fun c7 => ?_) (fun c7 => ?_)
    · have hf := it_pos c7 hf
      refine lv_iconst (v := nI 0) hx hb dX0_worldsOf_26 ic0 ?_
      refine lv_iadd hx hb dX0_worldsOf_27 ?_
      refine lv_topi (fun x8 ex8 => ?_)
      have hf := bd_at ex8 hf
      refine lv_istore_n (lv' := [(2, .int x8), (0, .ref o), (1, .int p0), (3, .int x2)]) hx hb dX0_worldsOf_28 rfl hl (by decide) rfl (fun ls hl => ?_)
      obtain ⟨x9, ex9, hf⟩ := bd_some hf
      refine lv_iinc (v := x9) (lv' := [(3, .int x9), (2, .int x8), (0, .ref o), (1, .int p0)]) hx hb dX0_worldsOf_29 hl (k := 3) rfl (by rw [ex9]; first | done | rfl) (by decide) rfl (fun ls hl => ?_)
      refine lv_goto (tgt := 4) hx hb dX0_worldsOf_32 (by decide) ?_
      cases hf
      exact hk _ _ _ hX (lv_sub hl [2, 3, 1, 0] rfl)
    · have hf := it_neg c7 hf
      refine lv_iconst (v := nI 1) hx hb dX0_worldsOf_22 ic1 ?_
      refine lv_goto (tgt := 27) hx hb dX0_worldsOf_23 (by decide) ?_
      refine lv_iadd hx hb dX0_worldsOf_27 ?_
      refine lv_topi (fun x10 ex10 => ?_)
      have hf := bd_at ex10 hf
      refine lv_istore_n (lv' := [(2, .int x10), (0, .ref o), (1, .int p0), (3, .int x2)]) hx hb dX0_worldsOf_28 rfl hl (by decide) rfl (fun ls hl => ?_)
      obtain ⟨x11, ex11, hf⟩ := bd_some hf
      refine lv_iinc (v := x11) (lv' := [(3, .int x11), (2, .int x10), (0, .ref o), (1, .int p0)]) hx hb dX0_worldsOf_29 hl (k := 3) rfl (by rw [ex11]; first | done | rfl) (by decide) rfl (fun ls hl => ?_)
      refine lv_goto (tgt := 4) hx hb dX0_worldsOf_32 (by decide) ?_
      cases hf
      exact hk _ _ _ hX (lv_sub hl [2, 3, 1, 0] rfl)
def f_X5_worth (S : XS) (o : Nat) (p0 : Int64) : Option Int64 :=
  some p0
set_option maxHeartbeats 4000000 in
set_option maxRecDepth 100000 in
theorem c_X5_worth (l : Launch) (D : XD) (S : XS) (o : Nat) (p0 : Int64) {r : Int64} (hf : f_X5_worth S o p0 = some r) : x_Met l yX5_worth cX5_worth 3 (Option.some Jvm.ClassFile.FieldType.long) 0 0 D [.ref o, .long p0] S (some (.long r)) S := by
  refine x_metL RX5 (by decide) rfl (Nat.le_of_ble_eq_true rfl) (fun p e s m args below meth c Q B hnm hret H locs hX ls hl => ?_)
  have hx := B.1
  have hb := B.2.1
  have hml := B.2.2.1
  have hown := B.2.2.2.1
  have hts := B.2.2.2.2
  have hl : lv_has ls 3 [(0, .ref o), (1, .long p0)] := hl
  unfold f_X5_worth at hf
  refine lv_lload_n hx hb dX5_worth_0 rfl (lv_at hl 1 rfl) ?_
  cases hf
  exact hret _ _ _ _ hX dX5_worth_1
