set_option maxRecDepth 100000
def f_J9_bitCount (p0 : Int64) : Option Int32 :=
  bd (p0 - ((p0.toUInt64 >>> ((nI 1).toInt64.toUInt64 &&& Int64.toUInt64 63)).toInt64 &&& (6148914691236517205 : Int64))) fun x1 => bd ((x1 &&& (3689348814741910323 : Int64)) + ((x1.toUInt64 >>> ((nI 2).toInt64.toUInt64 &&& Int64.toUInt64 63)).toInt64 &&& (3689348814741910323 : Int64))) fun x2 => bd ((x2 + (x2.toUInt64 >>> ((nI 4).toInt64.toUInt64 &&& Int64.toUInt64 63)).toInt64) &&& (1085102592571150095 : Int64)) fun x3 => bd (x3 + (x3.toUInt64 >>> ((nI 8).toInt64.toUInt64 &&& Int64.toUInt64 63)).toInt64) fun x4 => bd (x4 + (x4.toUInt64 >>> ((nI 16).toInt64.toUInt64 &&& Int64.toUInt64 63)).toInt64) fun x5 => bd (x5 + (x5.toUInt64 >>> ((nI 32).toInt64.toUInt64 &&& Int64.toUInt64 63)).toInt64) fun x6 => some (x6.toInt32 &&& nI 127)
abbrev r_J9_bitCount : Room := { frames := 0, cells := 0, slots := 0, locals := 0 }
set_option maxHeartbeats 4000000 in
set_option maxRecDepth 100000 in
theorem c_J9_bitCount (l : Launch) (p0 : Int64) {r : Int32} (hf : f_J9_bitCount p0 = some r) : p_Met l yJ9_bitCount cJ9_bitCount 2 (Option.some Jvm.ClassFile.FieldType.int) r_J9_bitCount [.long p0] (some (.int r)) := by
  refine p_metI (F := 0) (L := 0) RJ9 (by decide) rfl (Nat.le_of_ble_eq_true rfl) (fun p e s m args below meth c Q B hret ls hl => ?_)
  have hx := B.1
  have hb := B.2.1
  have hml := B.2.2.1
  have hown := B.2.2.2.1
  have hts := B.2.2.2.2
  have hl : lv_has ls 2 [(0, .long p0)] := hl
  unfold f_J9_bitCount at hf
  refine lv_lload_n hx hb dJ9_bitCount_0 rfl (lv_at hl 0 rfl) ?_
  refine lv_lload_n hx hb dJ9_bitCount_1 rfl (lv_at hl 0 rfl) ?_
  refine lv_iconst (v := nI 1) hx hb dJ9_bitCount_2 ic1 ?_
  refine lv_lushr (v := (p0.toUInt64 >>> ((nI 1).toInt64.toUInt64 &&& Int64.toUInt64 63)).toInt64) hx hb dJ9_bitCount_3 rfl ?_
  refine lv_ldc2 (v := (6148914691236517205 : Int64)) hx hb hown (hts _ q1442) dJ9_bitCount_4 ?_
  refine lv_land hx hb dJ9_bitCount_7 ?_
  refine lv_lsub hx hb dJ9_bitCount_8 ?_
  refine lv_topl (fun x1 ex1 => ?_)
  have hf := bd_at ex1 hf
  refine lv_lstore_n (lv' := [(0, .long x1)]) hx hb dJ9_bitCount_9 rfl hl (by decide) rfl (fun ls hl => ?_)
  refine lv_lload_n hx hb dJ9_bitCount_10 rfl (lv_at hl 0 rfl) ?_
  refine lv_ldc2 (v := (3689348814741910323 : Int64)) hx hb hown (hts _ q1443) dJ9_bitCount_11 ?_
  refine lv_land hx hb dJ9_bitCount_14 ?_
  refine lv_lload_n hx hb dJ9_bitCount_15 rfl (lv_at hl 0 rfl) ?_
  refine lv_iconst (v := nI 2) hx hb dJ9_bitCount_16 ic2 ?_
  refine lv_lushr (v := (x1.toUInt64 >>> ((nI 2).toInt64.toUInt64 &&& Int64.toUInt64 63)).toInt64) hx hb dJ9_bitCount_17 rfl ?_
  refine lv_ldc2 (v := (3689348814741910323 : Int64)) hx hb hown (hts _ q1443) dJ9_bitCount_18 ?_
  refine lv_land hx hb dJ9_bitCount_21 ?_
  refine lv_ladd hx hb dJ9_bitCount_22 ?_
  refine lv_topl (fun x2 ex2 => ?_)
  have hf := bd_at ex2 hf
  refine lv_lstore_n (lv' := [(0, .long x2)]) hx hb dJ9_bitCount_23 rfl hl (by decide) rfl (fun ls hl => ?_)
  refine lv_lload_n hx hb dJ9_bitCount_24 rfl (lv_at hl 0 rfl) ?_
  refine lv_lload_n hx hb dJ9_bitCount_25 rfl (lv_at hl 0 rfl) ?_
  refine lv_iconst (v := nI 4) hx hb dJ9_bitCount_26 ic4 ?_
  refine lv_lushr (v := (x2.toUInt64 >>> ((nI 4).toInt64.toUInt64 &&& Int64.toUInt64 63)).toInt64) hx hb dJ9_bitCount_27 rfl ?_
  refine lv_ladd hx hb dJ9_bitCount_28 ?_
  refine lv_ldc2 (v := (1085102592571150095 : Int64)) hx hb hown (hts _ q1444) dJ9_bitCount_29 ?_
  refine lv_land hx hb dJ9_bitCount_32 ?_
  refine lv_topl (fun x3 ex3 => ?_)
  have hf := bd_at ex3 hf
  refine lv_lstore_n (lv' := [(0, .long x3)]) hx hb dJ9_bitCount_33 rfl hl (by decide) rfl (fun ls hl => ?_)
  refine lv_lload_n hx hb dJ9_bitCount_34 rfl (lv_at hl 0 rfl) ?_
  refine lv_lload_n hx hb dJ9_bitCount_35 rfl (lv_at hl 0 rfl) ?_
  refine lv_bipush (v := nI 8) hx hb dJ9_bitCount_36 bp8 ?_
  refine lv_lushr (v := (x3.toUInt64 >>> ((nI 8).toInt64.toUInt64 &&& Int64.toUInt64 63)).toInt64) hx hb dJ9_bitCount_38 rfl ?_
  refine lv_ladd hx hb dJ9_bitCount_39 ?_
  refine lv_topl (fun x4 ex4 => ?_)
  have hf := bd_at ex4 hf
  refine lv_lstore_n (lv' := [(0, .long x4)]) hx hb dJ9_bitCount_40 rfl hl (by decide) rfl (fun ls hl => ?_)
  refine lv_lload_n hx hb dJ9_bitCount_41 rfl (lv_at hl 0 rfl) ?_
  refine lv_lload_n hx hb dJ9_bitCount_42 rfl (lv_at hl 0 rfl) ?_
  refine lv_bipush (v := nI 16) hx hb dJ9_bitCount_43 bp16 ?_
  refine lv_lushr (v := (x4.toUInt64 >>> ((nI 16).toInt64.toUInt64 &&& Int64.toUInt64 63)).toInt64) hx hb dJ9_bitCount_45 rfl ?_
  refine lv_ladd hx hb dJ9_bitCount_46 ?_
  refine lv_topl (fun x5 ex5 => ?_)
  have hf := bd_at ex5 hf
  refine lv_lstore_n (lv' := [(0, .long x5)]) hx hb dJ9_bitCount_47 rfl hl (by decide) rfl (fun ls hl => ?_)
  refine lv_lload_n hx hb dJ9_bitCount_48 rfl (lv_at hl 0 rfl) ?_
  refine lv_lload_n hx hb dJ9_bitCount_49 rfl (lv_at hl 0 rfl) ?_
  refine lv_bipush (v := nI 32) hx hb dJ9_bitCount_50 bp32 ?_
  refine lv_lushr (v := (x5.toUInt64 >>> ((nI 32).toInt64.toUInt64 &&& Int64.toUInt64 63)).toInt64) hx hb dJ9_bitCount_52 rfl ?_
  refine lv_ladd hx hb dJ9_bitCount_53 ?_
  refine lv_topl (fun x6 ex6 => ?_)
  have hf := bd_at ex6 hf
  refine lv_lstore_n (lv' := [(0, .long x6)]) hx hb dJ9_bitCount_54 rfl hl (by decide) rfl (fun ls hl => ?_)
  refine lv_lload_n hx hb dJ9_bitCount_55 rfl (lv_at hl 0 rfl) ?_
  refine lv_l2i (v := x6.toInt32) hx hb dJ9_bitCount_56 rfl ?_
  refine lv_bipush (v := nI 127) hx hb dJ9_bitCount_57 bp127 ?_
  refine lv_iand hx hb dJ9_bitCount_59 ?_
  cases hf
  exact hret _ _ rfl dJ9_bitCount_60
def f_X2_init (S : XS) (o : Nat) : Option XS :=
  chk (0 ≤ nI 3 ∧ (nI 3).toNatClampNeg ≤ 60000000) <| chk (xz S < xL S ∧ xu S + (nI 3).toNatClampNeg ≤ xU S) <| bd (xz S) fun a3 => bd (n_c S 52 (nI 3).toNatClampNeg (nI 3).toNatClampNeg) fun S2 => ast (xn S2 a3) (nI 0) (s_i S2 52 a3 (nI 0).toNatClampNeg (nI 2)) fun S6 => ast (xn S6 a3) (nI 1) (s_i S6 52 a3 (nI 1).toNatClampNeg (nI 2)) fun S7 => ast (xn S7 a3) (nI 2) (s_i S7 52 a3 (nI 2).toNatClampNeg (nI 2)) fun S8 => chk (xk S8 o = 3) <| chk (xb S8 ≤ o) <| bd (s_r S8 300 o 0 (some a3)) fun S11 => chk (xz S11 < xL S11 ∧ xu S11 + 3 ≤ xU S11) <| bd (xz S11) fun a14 => bd (n_c S11 19 0 3) fun S13 => bnd (f_J2_init S13 a14 (nI 4)) fun S17 => chk (xk S17 o = 3) <| chk (xb S17 ≤ o) <| bd (s_r S17 301 o 0 (some a14)) fun S20 => some S20
set_option maxHeartbeats 4000000 in
set_option maxRecDepth 100000 in
theorem c_X2_init (l : Launch) (D : XD) (S : XS) (o : Nat) {S' : XS} (hf : f_X2_init S o = some S') : x_Met l yX2_init cX2_init 1 (Option.none : Option Jvm.ClassFile.FieldType) 4 121 D [.ref o] S none S' := by
  refine x_metV RX2 (by decide) rfl (Nat.le_of_ble_eq_true rfl) (fun p e s m args below meth c Q B hnm hret H locs hX ls hl => ?_)
  have hx := B.1
  have hb := B.2.1
  have hml := B.2.2.1
  have hown := B.2.2.2.1
  have hts := B.2.2.2.2
  have hl : lv_has ls 1 [(0, .ref o)] := hl
  unfold f_X2_init at hf
  refine lv_aload_n hx hb dX2_init_0 rfl (lv_at hl 0 rfl) ?_
  refine W.objInit hx hb hown (hts _ q167) (hts _ q154) (hts _ q155) rfl (by rw [hml]; exact hl.1) rfl dX2_init_1 (Nat.le_of_ble_eq_true rfl) (Nat.le_of_ble_eq_true rfl) ?_
  refine W.eq (g2 := F0 m 4 ls []) rfl ?_
  refine lv_aload_n hx hb dX2_init_4 rfl (lv_at hl 0 rfl) ?_
  refine lv_iconst (v := nI 3) hx hb dX2_init_5 ic3 ?_
  obtain ⟨h03, hf⟩ := chk_some hf
  obtain ⟨hr1, hf⟩ := chk_some hf
  obtain ⟨a3, ea3, hf⟩ := bd_some hf
  obtain ⟨S2, eS2, hf⟩ := bd_some hf
  have hk4 := ks_new eS2 ea3
  have hw5 := kw_new hX eS2 ea3
  refine xr_newa (atype := .int) B hX 52 (by decide) rfl rfl (by decide) (fun _ => Iff.rfl) (Int32.not_lt.mpr h03.1) (xn_by h03.2 (by decide)) q198 hr1 eS2 dX2_init_6 (fun H hX => ?_)
  refine W.eq (g2 := F0 m 8 ls [.ref a3, .ref o]) (by rw [ea3]; first | done | rfl) ?_
  refine lv_dup hx hb dX2_init_8 rfl ?_
  refine lv_iconst (v := nI 0) hx hb dX2_init_9 ic0 ?_
  refine lv_iconst (v := nI 2) hx hb dX2_init_10 ic2 ?_
  obtain ⟨S6, eS6, hiS6, hf⟩ := ast_some hf
  refine xr_iast B hX hk4 hw5 hiS6 eS6 dX2_init_11 (fun H locs hX => ?_)
  refine w_i eS6 ?_
  have hk4 := ks_i eS6 hk4
  have hw5 := kw_i eS6 hw5
  refine lv_dup hx hb dX2_init_12 rfl ?_
  refine lv_iconst (v := nI 1) hx hb dX2_init_13 ic1 ?_
  refine lv_iconst (v := nI 2) hx hb dX2_init_14 ic2 ?_
  obtain ⟨S7, eS7, hiS7, hf⟩ := ast_some hf
  refine xr_iast B hX hk4 hw5 hiS7 eS7 dX2_init_15 (fun H locs hX => ?_)
  refine w_i eS7 ?_
  have hk4 := ks_i eS7 hk4
  have hw5 := kw_i eS7 hw5
  refine lv_dup hx hb dX2_init_16 rfl ?_
  refine lv_iconst (v := nI 2) hx hb dX2_init_17 ic2 ?_
  refine lv_iconst (v := nI 2) hx hb dX2_init_18 ic2 ?_
  obtain ⟨S8, eS8, hiS8, hf⟩ := ast_some hf
  refine xr_iast B hX hk4 hw5 hiS8 eS8 dX2_init_19 (fun H locs hX => ?_)
  refine w_i eS8 ?_
  have hk4 := ks_i eS8 hk4
  have hw5 := kw_i eS8 hw5
  obtain ⟨hk9, hf⟩ := chk_some hf
  obtain ⟨hw10, hf⟩ := chk_some hf
  obtain ⟨S11, eS11, hf⟩ := bd_some hf
  refine xr_putF (S' := S11) (q := (RX2, TX2, 2)) (v := va_rf (some a3)) (ty0 := tyX2) B hnm hX 0 hk9 rfl (by decide) hw10 (by decide) (by rw [eS11]; exact x_Vup_r (k := 3) (j := 0) rfl (by decide)) tyX2_ok (fun i h1 h2 => nmX2 i (Nat.lt_of_lt_of_le h1 (by decide)) 0 (by decide) h2) rfl rfl rfl rfl q199 (fun _ h => h) dX2_init_20 (fun H locs hX => ?_)
  refine w_r eS11 ?_
  have hk4 := ks_r eS11 hk4
  have hw5 := kw_r eS11 hw5
  have hk9 := ks_r eS11 hk9
  have hw10 := kw_r eS11 hw10
  refine lv_aload_n hx hb dX2_init_23 rfl (lv_at hl 0 rfl) ?_
  obtain ⟨hr12, hf⟩ := chk_some hf
  obtain ⟨a14, ea14, hf⟩ := bd_some hf
  obtain ⟨S13, eS13, hf⟩ := bd_some hf
  have hk4 := ks_n hX eS13 (by decide) hk4
  have hw5 := kw_n eS13 hw5
  have hk9 := ks_n hX eS13 (by decide) hk9
  have hw10 := kw_n eS13 hw10
  have hk15 := ks_new eS13 ea14
  have hw16 := kw_new hX eS13 ea14
  refine xr_new (q := (RJ2, TJ2, 3)) (N := 3) (ty0 := tyJ2) B hX 19 rfl (by decide) tyJ2_ok xd_19 q168 q169 q108 hr12 eS13 dX2_init_24 (fun H hX => ?_)
  refine W.eq (g2 := F0 m 27 ls [.ref a14, .ref o]) (by rw [ea14]; first | done | rfl) ?_
  refine lv_dup hx hb dX2_init_27 rfl ?_
  refine lv_iconst (v := nI 4) hx hb dX2_init_28 ic4 ?_
  obtain ⟨S17, hcS17, hf⟩ := bnd_some hf
  refine xr_callIC (rest := [.ref a14, .ref o]) B hX (c_J2_init l D S13 a14 (nI 4) hcS17) q170 q171 q108 q172 hd_J2_init rfl ⟨Nat.le_of_ble_eq_true rfl, Nat.le_of_ble_eq_true rfl⟩ rfl hl.1 rfl (Nat.le_of_ble_eq_true rfl) dX2_init_29 (fun H locs hX => ?_)
  obtain ⟨hk18, hf⟩ := chk_some hf
  obtain ⟨hw19, hf⟩ := chk_some hf
  obtain ⟨S20, eS20, hf⟩ := bd_some hf
  refine xr_putF (S' := S20) (q := (RX2, TX2, 2)) (v := va_rf (some a14)) (ty0 := tyX2) B hnm hX 1 hk18 rfl (by decide) hw19 (by decide) (by rw [eS20]; exact x_Vup_r (k := 3) (j := 1) rfl (by decide)) tyX2_ok (fun i h1 h2 => nmX2 i (Nat.lt_of_lt_of_le h1 (by decide)) 1 (by decide) h2) rfl rfl rfl rfl q201 (fun _ h => h) dX2_init_32 (fun H locs hX => ?_)
  refine w_r eS20 ?_
  have hk18 := ks_r eS20 hk18
  have hw19 := kw_r eS20 hw19
  cases hf
  exact hret _ _ _ _ hX dX2_init_35
def f_X1_init (S : XS) (o : Nat) : Option XS :=
  chk (0 ≤ nI 400 ∧ (nI 400).toNatClampNeg ≤ 60000000) <| chk (xz S < xL S ∧ xu S + (nI 400).toNatClampNeg ≤ xU S) <| bd (xz S) fun a3 => bd (n_c S 51 (nI 400).toNatClampNeg (nI 400).toNatClampNeg) fun S2 => chk (xk S2 o = 2) <| chk (xb S2 ≤ o) <| bd (s_r S2 200 o 0 (some a3)) fun S8 => bd (s_i S8 203 o 0 (-1)) fun S9 => bd (s_i S9 205 o 0 (-1)) fun S10 => chk (0 ≤ nI 4 ∧ (nI 4).toNatClampNeg ≤ 60000000) <| chk (xz S10 < xL S10 ∧ xu S10 + (nI 4).toNatClampNeg ≤ xU S10) <| bd (xz S10) fun a13 => bd (n_c S10 53 (nI 4).toNatClampNeg (nI 4).toNatClampNeg) fun S12 => bd (s_r S12 208 o 0 (some a13)) fun S16 => chk (xz S16 < xL S16 ∧ xu S16 + 2 ≤ xU S16) <| bd (xz S16) fun a19 => bd (n_c S16 3 0 2) fun S18 => bnd (f_X2_init S18 a19) fun S22 => chk (xk S22 o = 2) <| chk (xb S22 ≤ o) <| bd (s_r S22 210 o 0 (some a19)) fun S25 => chk (xz S25 < xL S25 ∧ xu S25 + 3 ≤ xU S25) <| bd (xz S25) fun a28 => bd (n_c S25 19 0 3) fun S27 => bnd (f_J2_init S27 a28 (nI 8)) fun S31 => chk (xk S31 o = 2) <| chk (xb S31 ≤ o) <| bd (s_r S31 211 o 0 (some a28)) fun S34 => chk (xz S34 < xL S34 ∧ xu S34 + 3 ≤ xU S34) <| bd (xz S34) fun a37 => bd (n_c S34 19 0 3) fun S36 => bnd (f_J2_init_2 S36 a37) fun S40 => chk (xk S40 o = 2) <| chk (xb S40 ≤ o) <| bd (s_r S40 212 o 0 (some a37)) fun S43 => some S43
set_option maxHeartbeats 4000000 in
set_option maxRecDepth 100000 in
theorem c_X1_init (l : Launch) (D : XD) (S : XS) (o : Nat) {S' : XS} (hf : f_X1_init S o = some S') : x_Met l yX1_init cX1_init 1 (Option.none : Option Jvm.ClassFile.FieldType) 5 141 D [.ref o] S none S' := by
  refine x_metV RX1 (by decide) rfl (Nat.le_of_ble_eq_true rfl) (fun p e s m args below meth c Q B hnm hret H locs hX ls hl => ?_)
  have hx := B.1
  have hb := B.2.1
  have hml := B.2.2.1
  have hown := B.2.2.2.1
  have hts := B.2.2.2.2
  have hl : lv_has ls 1 [(0, .ref o)] := hl
  unfold f_X1_init at hf
  refine lv_aload_n hx hb dX1_init_0 rfl (lv_at hl 0 rfl) ?_
  refine W.objInit hx hb hown (hts _ q161) (hts _ q154) (hts _ q155) rfl (by rw [hml]; exact hl.1) rfl dX1_init_1 (Nat.le_of_ble_eq_true rfl) (Nat.le_of_ble_eq_true rfl) ?_
  refine W.eq (g2 := F0 m 4 ls []) rfl ?_
  refine lv_aload_n hx hb dX1_init_4 rfl (lv_at hl 0 rfl) ?_
  refine lv_sipush (v := nI 400) hx hb dX1_init_5 sp400 ?_
  obtain ⟨h03, hf⟩ := chk_some hf
  obtain ⟨hr1, hf⟩ := chk_some hf
  obtain ⟨a3, ea3, hf⟩ := bd_some hf
  obtain ⟨S2, eS2, hf⟩ := bd_some hf
  have hk4 := ks_new eS2 ea3
  have hw5 := kw_new hX eS2 ea3
  refine xr_newa (atype := .byte) B hX 51 (by decide) rfl rfl (by decide) (fun _ => Iff.rfl) (Int32.not_lt.mpr h03.1) (xn_by h03.2 (by decide)) q196 hr1 eS2 dX1_init_8 (fun H hX => ?_)
  refine W.eq (g2 := F0 m 10 ls [.ref a3, .ref o]) (by rw [ea3]; first | done | rfl) ?_
  obtain ⟨hk6, hf⟩ := chk_some hf
  obtain ⟨hw7, hf⟩ := chk_some hf
  obtain ⟨S8, eS8, hf⟩ := bd_some hf
  refine xr_putF (S' := S8) (q := (RX1, TX1, 14)) (v := va_rf (some a3)) (ty0 := tyX1) B hnm hX 0 hk6 rfl (by decide) hw7 (by decide) (by rw [eS8]; exact x_Vup_r (k := 2) (j := 0) rfl (by decide)) tyX1_ok (fun i h1 h2 => nmX1 i (Nat.lt_of_lt_of_le h1 (by decide)) 0 (by decide) h2) rfl rfl rfl rfl q217 (fun _ h => h) dX1_init_10 (fun H locs hX => ?_)
  refine w_r eS8 ?_
  have hk4 := ks_r eS8 hk4
  have hw5 := kw_r eS8 hw5
  have hk6 := ks_r eS8 hk6
  have hw7 := kw_r eS8 hw7
  refine lv_aload_n hx hb dX1_init_13 rfl (lv_at hl 0 rfl) ?_
  refine lv_iconst (v := (-1)) hx hb dX1_init_14 icm1 ?_
  obtain ⟨S9, eS9, hf⟩ := bd_some hf
  refine xr_put (S' := S9) (q := (RX1, TX1, 14)) (v := .int (-1)) (ty0 := tyX1) B hX 3 hk6 rfl (by decide) hw7 (by decide) (by rw [eS9]; exact x_Vup_i (k := 2) (j := 3) rfl (by decide)) tyX1_ok (fun i h1 h2 => nmX1 i (Nat.lt_of_lt_of_le h1 (by decide)) 3 (by decide) h2) rfl rfl rfl q223 (fun _ h => h) dX1_init_15 (fun H locs hX => ?_)
  refine w_i eS9 ?_
  have hk4 := ks_i eS9 hk4
  have hw5 := kw_i eS9 hw5
  have hk6 := ks_i eS9 hk6
  have hw7 := kw_i eS9 hw7
  refine lv_aload_n hx hb dX1_init_18 rfl (lv_at hl 0 rfl) ?_
  refine lv_iconst (v := (-1)) hx hb dX1_init_19 icm1 ?_
  obtain ⟨S10, eS10, hf⟩ := bd_some hf
  refine xr_put (S' := S10) (q := (RX1, TX1, 14)) (v := .int (-1)) (ty0 := tyX1) B hX 5 hk6 rfl (by decide) hw7 (by decide) (by rw [eS10]; exact x_Vup_i (k := 2) (j := 5) rfl (by decide)) tyX1_ok (fun i h1 h2 => nmX1 i (Nat.lt_of_lt_of_le h1 (by decide)) 5 (by decide) h2) rfl rfl rfl q227 (fun _ h => h) dX1_init_20 (fun H locs hX => ?_)
  refine w_i eS10 ?_
  have hk4 := ks_i eS10 hk4
  have hw5 := kw_i eS10 hw5
  have hk6 := ks_i eS10 hk6
  have hw7 := kw_i eS10 hw7
  refine lv_aload_n hx hb dX1_init_23 rfl (lv_at hl 0 rfl) ?_
  refine lv_iconst (v := nI 4) hx hb dX1_init_24 ic4 ?_
  obtain ⟨h013, hf⟩ := chk_some hf
  obtain ⟨hr11, hf⟩ := chk_some hf
  obtain ⟨a13, ea13, hf⟩ := bd_some hf
  obtain ⟨S12, eS12, hf⟩ := bd_some hf
  have hk4 := ks_n hX eS12 (by decide) hk4
  have hw5 := kw_n eS12 hw5
  have hk6 := ks_n hX eS12 (by decide) hk6
  have hw7 := kw_n eS12 hw7
  have hk14 := ks_new eS12 ea13
  have hw15 := kw_new hX eS12 ea13
  refine xr_newa (atype := .long) B hX 53 (by decide) rfl rfl (by decide) (fun _ => Iff.rfl) (Int32.not_lt.mpr h013.1) (xn_by h013.2 (by decide)) q197 hr11 eS12 dX1_init_25 (fun H hX => ?_)
  refine W.eq (g2 := F0 m 27 ls [.ref a13, .ref o]) (by rw [ea13]; first | done | rfl) ?_
  obtain ⟨S16, eS16, hf⟩ := bd_some hf
  refine xr_putF (S' := S16) (q := (RX1, TX1, 14)) (v := va_rf (some a13)) (ty0 := tyX1) B hnm hX 8 hk6 rfl (by decide) hw7 (by decide) (by rw [eS16]; exact x_Vup_r (k := 2) (j := 8) rfl (by decide)) tyX1_ok (fun i h1 h2 => nmX1 i (Nat.lt_of_lt_of_le h1 (by decide)) 8 (by decide) h2) rfl rfl rfl rfl q234 (fun _ h => h) dX1_init_27 (fun H locs hX => ?_)
  refine w_r eS16 ?_
  have hk4 := ks_r eS16 hk4
  have hw5 := kw_r eS16 hw5
  have hk6 := ks_r eS16 hk6
  have hw7 := kw_r eS16 hw7
  have hk14 := ks_r eS16 hk14
  have hw15 := kw_r eS16 hw15
  refine lv_aload_n hx hb dX1_init_30 rfl (lv_at hl 0 rfl) ?_
  obtain ⟨hr17, hf⟩ := chk_some hf
  obtain ⟨a19, ea19, hf⟩ := bd_some hf
  obtain ⟨S18, eS18, hf⟩ := bd_some hf
  have hk4 := ks_n hX eS18 (by decide) hk4
  have hw5 := kw_n eS18 hw5
  have hk6 := ks_n hX eS18 (by decide) hk6
  have hw7 := kw_n eS18 hw7
  have hk14 := ks_n hX eS18 (by decide) hk14
  have hw15 := kw_n eS18 hw15
  have hk20 := ks_new eS18 ea19
  have hw21 := kw_new hX eS18 ea19
  refine xr_new (q := (RX2, TX2, 2)) (N := 2) (ty0 := tyX2) B hX 3 rfl (by decide) tyX2_ok xd_3 q162 q163 q105 hr17 eS18 dX1_init_31 (fun H hX => ?_)
  refine W.eq (g2 := F0 m 34 ls [.ref a19, .ref o]) (by rw [ea19]; first | done | rfl) ?_
  refine lv_dup hx hb dX1_init_34 rfl ?_
  obtain ⟨S22, hcS22, hf⟩ := bnd_some hf
  refine xr_callIN (rest := [.ref a19, .ref o]) B hX (c_X2_init l D S18 a19 hcS22) nq164 q165 q105 q166 hd_X2_init rfl ⟨Nat.le_of_ble_eq_true rfl, Nat.le_of_ble_eq_true rfl⟩ rfl hl.1 rfl (Nat.le_of_ble_eq_true rfl) dX1_init_35 (fun H locs hX => ?_)
  obtain ⟨hk23, hf⟩ := chk_some hf
  obtain ⟨hw24, hf⟩ := chk_some hf
  obtain ⟨S25, eS25, hf⟩ := bd_some hf
  refine xr_putF (S' := S25) (q := (RX1, TX1, 14)) (v := va_rf (some a19)) (ty0 := tyX1) B hnm hX 10 hk23 rfl (by decide) hw24 (by decide) (by rw [eS25]; exact x_Vup_r (k := 2) (j := 10) rfl (by decide)) tyX1_ok (fun i h1 h2 => nmX1 i (Nat.lt_of_lt_of_le h1 (by decide)) 10 (by decide) h2) rfl rfl rfl rfl q238 (fun _ h => h) dX1_init_38 (fun H locs hX => ?_)
  refine w_r eS25 ?_
  have hk23 := ks_r eS25 hk23
  have hw24 := kw_r eS25 hw24
  refine lv_aload_n hx hb dX1_init_41 rfl (lv_at hl 0 rfl) ?_
  obtain ⟨hr26, hf⟩ := chk_some hf
  obtain ⟨a28, ea28, hf⟩ := bd_some hf
  obtain ⟨S27, eS27, hf⟩ := bd_some hf
  have hk23 := ks_n hX eS27 (by decide) hk23
  have hw24 := kw_n eS27 hw24
  have hk29 := ks_new eS27 ea28
  have hw30 := kw_new hX eS27 ea28
  refine xr_new (q := (RJ2, TJ2, 3)) (N := 3) (ty0 := tyJ2) B hX 19 rfl (by decide) tyJ2_ok xd_19 q210 q169 q108 hr26 eS27 dX1_init_42 (fun H hX => ?_)
  refine W.eq (g2 := F0 m 45 ls [.ref a28, .ref o]) (by rw [ea28]; first | done | rfl) ?_
  refine lv_dup hx hb dX1_init_45 rfl ?_
  refine lv_bipush (v := nI 8) hx hb dX1_init_46 bp8 ?_
  obtain ⟨S31, hcS31, hf⟩ := bnd_some hf
  refine xr_callIC (rest := [.ref a28, .ref o]) B hX (c_J2_init l D S27 a28 (nI 8) hcS31) q211 q171 q108 q172 hd_J2_init rfl ⟨Nat.le_of_ble_eq_true rfl, Nat.le_of_ble_eq_true rfl⟩ rfl hl.1 rfl (Nat.le_of_ble_eq_true rfl) dX1_init_48 (fun H locs hX => ?_)
  obtain ⟨hk32, hf⟩ := chk_some hf
  obtain ⟨hw33, hf⟩ := chk_some hf
  obtain ⟨S34, eS34, hf⟩ := bd_some hf
  refine xr_putF (S' := S34) (q := (RX1, TX1, 14)) (v := va_rf (some a28)) (ty0 := tyX1) B hnm hX 11 hk32 rfl (by decide) hw33 (by decide) (by rw [eS34]; exact x_Vup_r (k := 2) (j := 11) rfl (by decide)) tyX1_ok (fun i h1 h2 => nmX1 i (Nat.lt_of_lt_of_le h1 (by decide)) 11 (by decide) h2) rfl rfl rfl rfl q240 (fun _ h => h) dX1_init_51 (fun H locs hX => ?_)
  refine w_r eS34 ?_
  have hk32 := ks_r eS34 hk32
  have hw33 := kw_r eS34 hw33
  refine lv_aload_n hx hb dX1_init_54 rfl (lv_at hl 0 rfl) ?_
  obtain ⟨hr35, hf⟩ := chk_some hf
  obtain ⟨a37, ea37, hf⟩ := bd_some hf
  obtain ⟨S36, eS36, hf⟩ := bd_some hf
  have hk32 := ks_n hX eS36 (by decide) hk32
  have hw33 := kw_n eS36 hw33
  have hk38 := ks_new eS36 ea37
  have hw39 := kw_new hX eS36 ea37
  refine xr_new (q := (RJ2, TJ2, 3)) (N := 3) (ty0 := tyJ2) B hX 19 rfl (by decide) tyJ2_ok xd_19 q210 q169 q108 hr35 eS36 dX1_init_55 (fun H hX => ?_)
  refine W.eq (g2 := F0 m 58 ls [.ref a37, .ref o]) (by rw [ea37]; first | done | rfl) ?_
  refine lv_dup hx hb dX1_init_58 rfl ?_
  obtain ⟨S40, hcS40, hf⟩ := bnd_some hf
  refine xr_callIC (rest := [.ref a37, .ref o]) B hX (c_J2_init_2 l D S36 a37 hcS40) q212 q213 q108 q214 hd_J2_init_2 rfl ⟨Nat.le_of_ble_eq_true rfl, Nat.le_of_ble_eq_true rfl⟩ rfl hl.1 rfl (Nat.le_of_ble_eq_true rfl) dX1_init_59 (fun H locs hX => ?_)
  obtain ⟨hk41, hf⟩ := chk_some hf
  obtain ⟨hw42, hf⟩ := chk_some hf
  obtain ⟨S43, eS43, hf⟩ := bd_some hf
  refine xr_putF (S' := S43) (q := (RX1, TX1, 14)) (v := va_rf (some a37)) (ty0 := tyX1) B hnm hX 12 hk41 rfl (by decide) hw42 (by decide) (by rw [eS43]; exact x_Vup_r (k := 2) (j := 12) rfl (by decide)) tyX1_ok (fun i h1 h2 => nmX1 i (Nat.lt_of_lt_of_le h1 (by decide)) 12 (by decide) h2) rfl rfl rfl rfl q242 (fun _ h => h) dX1_init_62 (fun H locs hX => ?_)
  refine w_r eS43 ?_
  have hk41 := ks_r eS43 hk41
  have hw42 := kw_r eS43 hw42
  cases hf
  exact hret _ _ _ _ hX dX1_init_65
def f_X3_init (S : XS) (o : Nat) : Option XS :=
  chk (0 ≤ nI 4 ∧ (nI 4).toNatClampNeg ≤ 60000000) <| chk (xz S < xL S ∧ xu S + (nI 4).toNatClampNeg ≤ xU S) <| bd (xz S) fun a3 => bd (n_c S 52 (nI 4).toNatClampNeg (nI 4).toNatClampNeg) fun S2 => chk (xk S2 o = 4) <| chk (xb S2 ≤ o) <| bd (s_r S2 403 o 0 (some a3)) fun S8 => some S8
set_option maxHeartbeats 4000000 in
set_option maxRecDepth 100000 in
theorem c_X3_init (l : Launch) (D : XD) (S : XS) (o : Nat) {S' : XS} (hf : f_X3_init S o = some S') : x_Met l yX3_init cX3_init 1 (Option.none : Option Jvm.ClassFile.FieldType) 1 60 D [.ref o] S none S' := by
  refine x_metV RX3 (by decide) rfl (Nat.le_of_ble_eq_true rfl) (fun p e s m args below meth c Q B hnm hret H locs hX ls hl => ?_)
  have hx := B.1
  have hb := B.2.1
  have hml := B.2.2.1
  have hown := B.2.2.2.1
  have hts := B.2.2.2.2
  have hl : lv_has ls 1 [(0, .ref o)] := hl
  unfold f_X3_init at hf
  refine lv_aload_n hx hb dX3_init_0 rfl (lv_at hl 0 rfl) ?_
  refine W.objInit hx hb hown (hts _ q281) (hts _ q154) (hts _ q155) rfl (by rw [hml]; exact hl.1) rfl dX3_init_1 (Nat.le_of_ble_eq_true rfl) (Nat.le_of_ble_eq_true rfl) ?_
  refine W.eq (g2 := F0 m 4 ls []) rfl ?_
  refine lv_aload_n hx hb dX3_init_4 rfl (lv_at hl 0 rfl) ?_
  refine lv_iconst (v := nI 4) hx hb dX3_init_5 ic4 ?_
  obtain ⟨h03, hf⟩ := chk_some hf
  obtain ⟨hr1, hf⟩ := chk_some hf
  obtain ⟨a3, ea3, hf⟩ := bd_some hf
  obtain ⟨S2, eS2, hf⟩ := bd_some hf
  have hk4 := ks_new eS2 ea3
  have hw5 := kw_new hX eS2 ea3
  refine xr_newa (atype := .int) B hX 52 (by decide) rfl rfl (by decide) (fun _ => Iff.rfl) (Int32.not_lt.mpr h03.1) (xn_by h03.2 (by decide)) q198 hr1 eS2 dX3_init_6 (fun H hX => ?_)
  refine W.eq (g2 := F0 m 8 ls [.ref a3, .ref o]) (by rw [ea3]; first | done | rfl) ?_
  obtain ⟨hk6, hf⟩ := chk_some hf
  obtain ⟨hw7, hf⟩ := chk_some hf
  obtain ⟨S8, eS8, hf⟩ := bd_some hf
  refine xr_putF (S' := S8) (q := (RX3, TX3, 4)) (v := va_rf (some a3)) (ty0 := tyX3) B hnm hX 3 hk6 rfl (by decide) hw7 (by decide) (by rw [eS8]; exact x_Vup_r (k := 4) (j := 3) rfl (by decide)) tyX3_ok (fun i h1 h2 => nmX3 i (Nat.lt_of_lt_of_le h1 (by decide)) 3 (by decide) h2) rfl rfl rfl rfl q288 (fun _ h => h) dX3_init_8 (fun H locs hX => ?_)
  refine w_r eS8 ?_
  have hk4 := ks_r eS8 hk4
  have hw5 := kw_r eS8 hw5
  have hk6 := ks_r eS8 hk6
  have hw7 := kw_r eS8 hw7
  cases hf
  exact hret _ _ _ _ hX dX3_init_11
def f_X0_changes (S : XS) (o : Nat) : Option XS :=
  chk (xk S o = 1) <| bnd (xr S 100 o 0) fun b2 => chk (xk S b2 = 2) <| chk (xb S ≤ b2) <| bd (s_l S 207 b2 0 (0 : Int64)) fun S5 => bnd (xr S5 100 o 0) fun b6 => chk (xk S5 b6 = 2) <| chk (xb S5 ≤ b6) <| bd (s_i S5 209 b6 0 (nI 0)) fun S9 => chk (xb S9 ≤ o) <| bd (s_i S9 106 o 0 (nI 0)) fun S11 => some S11
set_option maxHeartbeats 4000000 in
set_option maxRecDepth 100000 in
theorem c_X0_changes (l : Launch) (D : XD) (S : XS) (o : Nat) {S' : XS} (hf : f_X0_changes S o = some S') : x_Met l yX0_changes cX0_changes 1 (Option.none : Option Jvm.ClassFile.FieldType) 0 0 D [.ref o] S none S' := by
  refine x_metV RX0 (by decide) rfl (Nat.le_of_ble_eq_true rfl) (fun p e s m args below meth c Q B hnm hret H locs hX ls hl => ?_)
  have hx := B.1
  have hb := B.2.1
  have hml := B.2.2.1
  have hown := B.2.2.2.1
  have hts := B.2.2.2.2
  have hl : lv_has ls 1 [(0, .ref o)] := hl
  unfold f_X0_changes at hf
  refine lv_aload_n hx hb dX0_changes_0 rfl (lv_at hl 0 rfl) ?_
  obtain ⟨hk1, hf⟩ := chk_some hf
  obtain ⟨b2, hb2, hf⟩ := bnd_some hf
  refine xr_get (q := (RX0, TX0, 14)) B hX 0 hk1 rfl (by decide) (by decide) (v := .ref b2) (x_Vr (c := 1) (j := 0) rfl (by decide) hb2) q339 (fun _ h => h) dX0_changes_1 ?_
  refine lv_lconst (v := 0) hx hb dX0_changes_4 (by decide) ?_
  obtain ⟨hk3, hf⟩ := chk_some hf
  obtain ⟨hw4, hf⟩ := chk_some hf
  obtain ⟨S5, eS5, hf⟩ := bd_some hf
  refine xr_putN (S' := S5) (q := (RX1, TX1, 14)) (v := .long (0 : Int64)) (ty0 := tyX1) B hX 7 hk3 rfl (by decide) hw4 (by decide) (by rw [eS5]; exact x_Vup_l (k := 2) (j := 7) rfl (by decide)) tyX1_ok (fun i h1 h2 => nmX1 i (Nat.lt_of_lt_of_le h1 (by decide)) 7 (by decide) h2) rfl rfl rfl nq233 (fun _ h => h) dX0_changes_5 (fun H locs hX => ?_)
  refine w_l eS5 ?_
  have hk1 := ks_l eS5 hk1
  have hk3 := ks_l eS5 hk3
  have hw4 := kw_l eS5 hw4
  refine lv_aload_n hx hb dX0_changes_8 rfl (lv_at hl 0 rfl) ?_
  obtain ⟨b6, hb6, hf⟩ := bnd_some hf
  refine xr_get (q := (RX0, TX0, 14)) B hX 0 hk1 rfl (by decide) (by decide) (v := .ref b6) (x_Vr (c := 1) (j := 0) rfl (by decide) hb6) q339 (fun _ h => h) dX0_changes_9 ?_
  refine lv_iconst (v := nI 0) hx hb dX0_changes_12 ic0 ?_
  obtain ⟨hk7, hf⟩ := chk_some hf
  obtain ⟨hw8, hf⟩ := chk_some hf
  obtain ⟨S9, eS9, hf⟩ := bd_some hf
  refine xr_putN (S' := S9) (q := (RX1, TX1, 14)) (v := .int (nI 0)) (ty0 := tyX1) B hX 9 hk7 rfl (by decide) hw8 (by decide) (by rw [eS9]; exact x_Vup_i (k := 2) (j := 9) rfl (by decide)) tyX1_ok (fun i h1 h2 => nmX1 i (Nat.lt_of_lt_of_le h1 (by decide)) 9 (by decide) h2) rfl rfl rfl nq237 (fun _ h => h) dX0_changes_13 (fun H locs hX => ?_)
  refine w_i eS9 ?_
  have hk1 := ks_i eS9 hk1
  have hk3 := ks_i eS9 hk3
  have hw4 := kw_i eS9 hw4
  have hk7 := ks_i eS9 hk7
  have hw8 := kw_i eS9 hw8
  refine lv_aload_n hx hb dX0_changes_16 rfl (lv_at hl 0 rfl) ?_
  refine lv_iconst (v := nI 0) hx hb dX0_changes_17 ic0 ?_
  obtain ⟨hw10, hf⟩ := chk_some hf
  obtain ⟨S11, eS11, hf⟩ := bd_some hf
  refine xr_put (S' := S11) (q := (RX0, TX0, 14)) (v := .int (nI 0)) (ty0 := tyX0) B hX 6 hk1 rfl (by decide) hw10 (by decide) (by rw [eS11]; exact x_Vup_i (k := 1) (j := 6) rfl (by decide)) tyX0_ok (fun i h1 h2 => nmX0 i (Nat.lt_of_lt_of_le h1 (by decide)) 6 (by decide) h2) rfl rfl rfl q345 (fun _ h => h) dX0_changes_18 (fun H locs hX => ?_)
  refine w_i eS11 ?_
  have hk1 := ks_i eS11 hk1
  have hk3 := ks_i eS11 hk3
  have hw4 := kw_i eS11 hw4
  have hk7 := ks_i eS11 hk7
  have hw8 := kw_i eS11 hw8
  have hw10 := kw_i eS11 hw10
  cases hf
  exact hret _ _ _ _ hX dX0_changes_21
def f_X0_isIn (p0 : Int32) (p1 : Int32) (p2 : Int32) : Option Int32 :=
  (if p0 < p1 then some (nI 0) else (if p2 < p0 then some (nI 0) else some (nI 1)))
abbrev r_X0_isIn : Room := { frames := 0, cells := 0, slots := 0, locals := 0 }
set_option maxHeartbeats 4000000 in
set_option maxRecDepth 100000 in
theorem c_X0_isIn (l : Launch) (p0 : Int32) (p1 : Int32) (p2 : Int32) {r : Int32} (hf : f_X0_isIn p0 p1 p2 = some r) : p_Met l yX0_isIn cX0_isIn 3 (Option.some Jvm.ClassFile.FieldType.boolean) r_X0_isIn [.int p0, .int p1, .int p2] (some (.int r)) := by
  refine p_metI (F := 0) (L := 0) RX0 (by decide) rfl (Nat.le_of_ble_eq_true rfl) (fun p e s m args below meth c Q B hret ls hl => ?_)
  have hx := B.1
  have hb := B.2.1
  have hml := B.2.2.1
  have hown := B.2.2.2.1
  have hts := B.2.2.2.2
  have hl : lv_has ls 3 [(0, .int p0), (1, .int p1), (2, .int p2)] := hl
  unfold f_X0_isIn at hf
  refine lv_iload_n hx hb dX0_isIn_0 rfl (lv_at hl 0 rfl) ?_
  refine lv_iload_n hx hb dX0_isIn_1 rfl (lv_at hl 1 rfl) ?_
  refine lv_icmp_lt (tgt := 14) hx hb dX0_isIn_2 (by decide) (fun c1 => ?_) (fun c1 => ?_)
  · have hf := it_pos c1 hf
    refine lv_iconst (v := nI 0) hx hb dX0_isIn_14 ic0 ?_
    cases hf
    exact hret _ _ rfl dX0_isIn_15
  · have hf := it_neg c1 hf
    refine lv_iload_n hx hb dX0_isIn_5 rfl (lv_at hl 0 rfl) ?_
    refine lv_iload_n hx hb dX0_isIn_6 rfl (lv_at hl 2 rfl) ?_
    refine lv_icmp_gt (tgt := 14) hx hb dX0_isIn_7 (by decide) (fun c2 => ?_) (fun c2 => ?_)
    · have hf := it_pos c2 hf
      refine lv_iconst (v := nI 0) hx hb dX0_isIn_14 ic0 ?_
      cases hf
      exact hret _ _ rfl dX0_isIn_15
    · have hf := it_neg c2 hf
      refine lv_iconst (v := nI 1) hx hb dX0_isIn_10 ic1 ?_
      refine lv_goto (tgt := 15) hx hb dX0_isIn_11 (by decide) ?_
      cases hf
      exact hret _ _ rfl dX0_isIn_15
def f_X0_isKind (p0 : Int32) : Option Int32 :=
  bnd (f_X0_isIn p0 (nI 0) (nI 2)) fun r1 => chk (r1 = 0 ∨ r1 = 1) <| some r1
abbrev r_X0_isKind : Room := { frames := 1, cells := 0, slots := 0, locals := 22 }
set_option maxHeartbeats 4000000 in
set_option maxRecDepth 100000 in
theorem c_X0_isKind (l : Launch) (p0 : Int32) {r : Int32} (hf : f_X0_isKind p0 = some r) : p_Met l yX0_isKind cX0_isKind 1 (Option.some Jvm.ClassFile.FieldType.boolean) r_X0_isKind [.int p0] (some (.int r)) := by
  refine p_metI (F := 1) (L := 22) RX0 (by decide) rfl (Nat.le_of_ble_eq_true rfl) (fun p e s m args below meth c Q B hret ls hl => ?_)
  have hx := B.1
  have hb := B.2.1
  have hml := B.2.2.1
  have hown := B.2.2.2.1
  have hts := B.2.2.2.2
  have hl : lv_has ls 1 [(0, .int p0)] := hl
  unfold f_X0_isKind at hf
  refine lv_iload_n hx hb dX0_isKind_0 rfl (lv_at hl 0 rfl) ?_
  refine lv_iconst (v := nI 0) hx hb dX0_isKind_1 ic0 ?_
  refine lv_iconst (v := nI 2) hx hb dX0_isKind_2 ic2 ?_
  obtain ⟨r1, hcr1, hf⟩ := bnd_some hf
  refine pr_callS (rest := []) B (c_X0_isIn l p0 (nI 0) (nI 2) hcr1) (va_cwS 3 hts (lw_S q390 q391 q103 q392) rfl rfl rfl hd_X0_isIn ⟨Nat.le_of_ble_eq_true rfl, Nat.le_of_ble_eq_true rfl⟩) rfl hl.1 rfl (Nat.le_of_ble_eq_true rfl) dX0_isKind_3 ⟨Nat.zero_le _, Nat.zero_le _⟩ ?_
  obtain ⟨hb2, hf⟩ := chk_some hf
  cases hf
  exact hret _ _ (by rcases hb2 with q | q <;> (rw [q]; rfl)) dX0_isKind_6
def f_X0_land (S : XS) (o : Nat) : Option Nat :=
  chk (xk S o = 1) <| bnd (xr S 100 o 0) fun b2 => chk (xk S b2 = 2) <| bnd (xr S 210 b2 0) fun b4 => some b4
set_option maxHeartbeats 4000000 in
set_option maxRecDepth 100000 in
theorem c_X0_land (l : Launch) (D : XD) (S : XS) (o : Nat) {r : Nat} (hf : f_X0_land S o = some r) : x_Met l yX0_land cX0_land 1 (Option.some (Jvm.ClassFile.FieldType.object "VillageStories$Land")) 0 0 D [.ref o] S (some (.ref r)) S := by
  refine x_metA RX0 (by decide) rfl (Nat.le_of_ble_eq_true rfl) (Or.inl ⟨_, rfl⟩) (fun p e s m args below meth c Q B hnm hret H locs hX ls hl => ?_)
  have hx := B.1
  have hb := B.2.1
  have hml := B.2.2.1
  have hown := B.2.2.2.1
  have hts := B.2.2.2.2
  have hl : lv_has ls 1 [(0, .ref o)] := hl
  unfold f_X0_land at hf
  refine lv_aload_n hx hb dX0_land_0 rfl (lv_at hl 0 rfl) ?_
  obtain ⟨hk1, hf⟩ := chk_some hf
  obtain ⟨b2, hb2, hf⟩ := bnd_some hf
  refine xr_get (q := (RX0, TX0, 14)) B hX 0 hk1 rfl (by decide) (by decide) (v := .ref b2) (x_Vr (c := 1) (j := 0) rfl (by decide) hb2) q339 (fun _ h => h) dX0_land_1 ?_
  obtain ⟨hk3, hf⟩ := chk_some hf
  obtain ⟨b4, hb4, hf⟩ := bnd_some hf
  refine xr_getN (q := (RX1, TX1, 14)) B hX 10 hk3 rfl (by decide) (by decide) (v := .ref b4) (x_Vr (c := 2) (j := 10) rfl (by decide) hb4) nq239 (fun _ h => h) dX0_land_4 ?_
  cases hf
  exact hret _ _ _ _ hX dX0_land_7
def f_X2_size (S : XS) (o : Nat) (p0 : Int32) : Option Int32 :=
  chk (xk S o = 3) <| bnd (xr S 300 o 0) fun b2 => chk (xk S b2 = 52) <| ald (xn S b2) (xi S 52 b2) p0 fun v4 => some v4
set_option maxHeartbeats 4000000 in
set_option maxRecDepth 100000 in
theorem c_X2_size (l : Launch) (D : XD) (S : XS) (o : Nat) (p0 : Int32) {r : Int32} (hf : f_X2_size S o p0 = some r) : x_Met l yX2_size cX2_size 2 (Option.some Jvm.ClassFile.FieldType.int) 0 0 D [.ref o, .int p0] S (some (.int r)) S := by
  refine x_metI RX2 (by decide) rfl (Nat.le_of_ble_eq_true rfl) (fun p e s m args below meth c Q B hnm hret H locs hX ls hl => ?_)
  have hx := B.1
  have hb := B.2.1
  have hml := B.2.2.1
  have hown := B.2.2.2.1
  have hts := B.2.2.2.2
  have hl : lv_has ls 2 [(0, .ref o), (1, .int p0)] := hl
  unfold f_X2_size at hf
  refine lv_aload_n hx hb dX2_size_0 rfl (lv_at hl 0 rfl) ?_
  obtain ⟨hk1, hf⟩ := chk_some hf
  obtain ⟨b2, hb2, hf⟩ := bnd_some hf
  refine xr_get (q := (RX2, TX2, 2)) B hX 0 hk1 rfl (by decide) (by decide) (v := .ref b2) (x_Vr (c := 3) (j := 0) rfl (by decide) hb2) q199 (fun _ h => h) dX2_size_1 ?_
  refine lv_iload_n hx hb dX2_size_4 rfl (lv_at hl 1 rfl) ?_
  obtain ⟨hk3, hf⟩ := chk_some hf
  obtain ⟨v4, ev4, hiv4, hf⟩ := ald_some hf
  refine xr_iald B hX hk3 hiv4 ev4 dX2_size_5 ?_
  cases hf
  exact hret _ _ _ _ rfl hX dX2_size_6
def f_X0_size (S : XS) (o : Nat) (p0 : Int32) (p1 : Int32) : Option (Int32 × XS) :=
  bnd (f_X0_isKind p0) fun r1 => (if r1 = 0 then some (nI 0, S) else bnd (f_X0_isIn p1 (nI 1) (nI 3)) fun r3 => (if r3 = 0 then some (nI 0, S) else chk (xk S o = 1) <| bnd (f_X0_land S o) fun b5 => chk (xk S b5 = 3) <| bnd (f_X2_size S b5 p0) fun r7 => (if r7 = p1 then some (nI 0, S) else bnd (f_X0_land S o) fun b10 => chk (xk S b10 = 3) <| bnd (xr S 300 b10 0) fun b12 => chk (xk S b12 = 52) <| chk (xb S ≤ b12) <| ast (xn S b12) p0 (s_i S 52 b12 p0.toNatClampNeg p1) fun S15 => bnd (f_X0_changes S15 o) fun S16 => some (nI 1, S16))))
set_option maxHeartbeats 4000000 in
set_option maxRecDepth 100000 in
theorem c_X0_size (l : Launch) (D : XD) (S : XS) (o : Nat) (p0 : Int32) (p1 : Int32) {r : Int32} {S' : XS} (hf : f_X0_size S o p0 p1 = some (r, S')) : x_Met l yX0_size cX0_size 3 (Option.some Jvm.ClassFile.FieldType.boolean) 2 42 D [.ref o, .int p0, .int p1] S (some (.int r)) S' := by
  refine x_metI RX0 (by decide) rfl (Nat.le_of_ble_eq_true rfl) (fun p e s m args below meth c Q B hnm hret H locs hX ls hl => ?_)
  have hx := B.1
  have hb := B.2.1
  have hml := B.2.2.1
  have hown := B.2.2.2.1
  have hts := B.2.2.2.2
  have hl : lv_has ls 3 [(0, .ref o), (1, .int p0), (2, .int p1)] := hl
  unfold f_X0_size at hf
  refine lv_iload_n hx hb dX0_size_0 rfl (lv_at hl 1 rfl) ?_
  obtain ⟨r1, hcr1, hf⟩ := bnd_some hf
  refine pr_callS (rest := []) B (c_X0_isKind l p0 hcr1) (va_cwS 1 hts (lw_S q387 q388 q103 q389) rfl rfl rfl hd_X0_isKind ⟨Nat.le_of_ble_eq_true rfl, Nat.le_of_ble_eq_true rfl⟩) rfl hl.1 rfl (Nat.le_of_ble_eq_true rfl) dX0_size_1 (x_room0 hX) ?_
  refine lv_if_eq (tgt := 28) hx hb dX0_size_4 (by decide) (fun c2 => ?_) (fun c2 => ?_)
  · have hf := it_pos c2 hf
    refine lv_iconst (v := nI 0) hx hb dX0_size_28 ic0 ?_
    cases hf
    exact hret _ _ _ _ rfl hX dX0_size_29
  · have hf := it_neg c2 hf
    refine lv_iload_n hx hb dX0_size_7 rfl (lv_at hl 2 rfl) ?_
    refine lv_iconst (v := nI 1) hx hb dX0_size_8 ic1 ?_
    refine lv_iconst (v := nI 3) hx hb dX0_size_9 ic3 ?_
    obtain ⟨r3, hcr3, hf⟩ := bnd_some hf
    refine pr_callS (rest := []) B (c_X0_isIn l p1 (nI 1) (nI 3) hcr3) (va_cwS 3 hts (lw_S q390 q391 q103 q392) rfl rfl rfl hd_X0_isIn ⟨Nat.le_of_ble_eq_true rfl, Nat.le_of_ble_eq_true rfl⟩) rfl hl.1 rfl (Nat.le_of_ble_eq_true rfl) dX0_size_10 (x_room0 hX) ?_
    refine lv_if_eq (tgt := 28) hx hb dX0_size_13 (by decide) (fun c4 => ?_) (fun c4 => ?_)
    · have hf := it_pos c4 hf
      refine lv_iconst (v := nI 0) hx hb dX0_size_28 ic0 ?_
      cases hf
      exact hret _ _ _ _ rfl hX dX0_size_29
    · have hf := it_neg c4 hf
      refine lv_aload_n hx hb dX0_size_16 rfl (lv_at hl 0 rfl) ?_
      obtain ⟨hk6, hf⟩ := chk_some hf
      obtain ⟨b5, hcb5, hf⟩ := bnd_some hf
      refine xr_callVC (rest := []) (q := (RX0, TX0, 14)) B hX (c_X0_land l D S o hcb5) hk6 rfl (by decide) q393 q395 (Or.inl qs0) q103 q396 hd_X0_land ⟨Nat.le_of_ble_eq_true rfl, Nat.le_of_ble_eq_true rfl⟩ rfl hl.1 rfl (Nat.le_of_ble_eq_true rfl) dX0_size_17 (fun H locs hX => ?_)
      refine lv_iload_n hx hb dX0_size_20 rfl (lv_at hl 1 rfl) ?_
      obtain ⟨hk8, hf⟩ := chk_some hf
      obtain ⟨r7, hcr7, hf⟩ := bnd_some hf
      refine xr_callVC (rest := []) (q := (RX2, TX2, 2)) B hX (c_X2_size l D S b5 p0 hcr7) hk8 rfl (by decide) q397 q398 (Or.inl q399) q105 q400 hd_X2_size ⟨Nat.le_of_ble_eq_true rfl, Nat.le_of_ble_eq_true rfl⟩ rfl hl.1 rfl (Nat.le_of_ble_eq_true rfl) dX0_size_21 (fun H locs hX => ?_)
      refine lv_iload_n hx hb dX0_size_24 rfl (lv_at hl 2 rfl) ?_
      refine lv_icmp_ne (tgt := 30) hx hb dX0_size_25 (by decide) (fun c9 => ?_) (fun c9 => ?_)
      · have hf := it_neg c9 hf
        refine lv_aload_n hx hb dX0_size_30 rfl (lv_at hl 0 rfl) ?_
        obtain ⟨b10, hcb10, hf⟩ := bnd_some hf
        refine xr_callVC (rest := []) (q := (RX0, TX0, 14)) B hX (c_X0_land l D S o hcb10) hk6 rfl (by decide) q393 q395 (Or.inl qs0) q103 q396 hd_X0_land ⟨Nat.le_of_ble_eq_true rfl, Nat.le_of_ble_eq_true rfl⟩ rfl hl.1 rfl (Nat.le_of_ble_eq_true rfl) dX0_size_31 (fun H locs hX => ?_)
        obtain ⟨hk11, hf⟩ := chk_some hf
        obtain ⟨b12, hb12, hf⟩ := bnd_some hf
        refine xr_getN (q := (RX2, TX2, 2)) B hX 0 hk11 rfl (by decide) (by decide) (v := .ref b12) (x_Vr (c := 3) (j := 0) rfl (by decide) hb12) nq200 (fun _ h => h) dX0_size_34 ?_
        refine lv_iload_n hx hb dX0_size_37 rfl (lv_at hl 1 rfl) ?_
        refine lv_iload_n hx hb dX0_size_38 rfl (lv_at hl 2 rfl) ?_
        obtain ⟨hk13, hf⟩ := chk_some hf
        obtain ⟨hw14, hf⟩ := chk_some hf
        obtain ⟨S15, eS15, hiS15, hf⟩ := ast_some hf
        refine xr_iast B hX hk13 hw14 hiS15 eS15 dX0_size_39 (fun H locs hX => ?_)
        refine w_i eS15 ?_
        have hk6 := ks_i eS15 hk6
        have hk8 := ks_i eS15 hk8
        have hk11 := ks_i eS15 hk11
        have hk13 := ks_i eS15 hk13
        have hw14 := kw_i eS15 hw14
        refine lv_aload_n hx hb dX0_size_40 rfl (lv_at hl 0 rfl) ?_
        obtain ⟨S16, hcS16, hf⟩ := bnd_some hf
        refine xr_callVC (rest := []) (q := (RX0, TX0, 14)) B hX (c_X0_changes l D S15 o hcS16) hk6 rfl (by decide) q401 q403 (Or.inl qs1) q103 q404 hd_X0_changes ⟨Nat.le_of_ble_eq_true rfl, Nat.le_of_ble_eq_true rfl⟩ rfl hl.1 rfl (Nat.le_of_ble_eq_true rfl) dX0_size_41 (fun H locs hX => ?_)
        refine lv_iconst (v := nI 1) hx hb dX0_size_44 ic1 ?_
        cases hf
        exact hret _ _ _ _ rfl hX dX0_size_45
      · have hf := it_pos c9 hf
        refine lv_iconst (v := nI 0) hx hb dX0_size_28 ic0 ?_
        cases hf
        exact hret _ _ _ _ rfl hX dX0_size_29
def f_X8_init (S : XS) (o : Nat) (p0 : Int32) (p1 : Int32) : Option XS :=
  chk (xk S o = 5) <| chk (xb S ≤ o) <| bd (s_i S 500 o 0 p0) fun S3 => bd (s_i S3 501 o 0 p1) fun S4 => some S4
set_option maxHeartbeats 4000000 in
set_option maxRecDepth 100000 in
theorem c_X8_init (l : Launch) (D : XD) (S : XS) (o : Nat) (p0 : Int32) (p1 : Int32) {S' : XS} (hf : f_X8_init S o p0 p1 = some S') : x_Met l yX8_init cX8_init 3 (Option.none : Option Jvm.ClassFile.FieldType) 1 60 D [.ref o, .int p0, .int p1] S none S' := by
  refine x_metV RX8 (by decide) rfl (Nat.le_of_ble_eq_true rfl) (fun p e s m args below meth c Q B hnm hret H locs hX ls hl => ?_)
  have hx := B.1
  have hb := B.2.1
  have hml := B.2.2.1
  have hown := B.2.2.2.1
  have hts := B.2.2.2.2
  have hl : lv_has ls 3 [(0, .ref o), (1, .int p0), (2, .int p1)] := hl
  unfold f_X8_init at hf
  refine lv_aload_n hx hb dX8_init_0 rfl (lv_at hl 0 rfl) ?_
  refine W.objInit hx hb hown (hts _ q418) (hts _ q154) (hts _ q155) rfl (by rw [hml]; exact hl.1) rfl dX8_init_1 (Nat.le_of_ble_eq_true rfl) (Nat.le_of_ble_eq_true rfl) ?_
  refine W.eq (g2 := F0 m 4 ls []) rfl ?_
  refine lv_aload_n hx hb dX8_init_4 rfl (lv_at hl 0 rfl) ?_
  refine lv_iload_n hx hb dX8_init_5 rfl (lv_at hl 1 rfl) ?_
  obtain ⟨hk1, hf⟩ := chk_some hf
  obtain ⟨hw2, hf⟩ := chk_some hf
  obtain ⟨S3, eS3, hf⟩ := bd_some hf
  refine xr_putF (S' := S3) (q := (RX8, TX8, 2)) (v := .int p0) (ty0 := tyX8) B hnm hX 0 hk1 rfl (by decide) hw2 (by decide) (by rw [eS3]; exact x_Vup_i (k := 5) (j := 0) rfl (by decide)) tyX8_ok (fun i h1 h2 => nmX8 i (Nat.lt_of_lt_of_le h1 (by decide)) 0 (by decide) h2) rfl rfl rfl rfl q419 (fun _ h => h) dX8_init_6 (fun H locs hX => ?_)
  refine w_i eS3 ?_
  have hk1 := ks_i eS3 hk1
  have hw2 := kw_i eS3 hw2
  refine lv_aload_n hx hb dX8_init_9 rfl (lv_at hl 0 rfl) ?_
  refine lv_iload_n hx hb dX8_init_10 rfl (lv_at hl 2 rfl) ?_
  obtain ⟨S4, eS4, hf⟩ := bd_some hf
  refine xr_putF (S' := S4) (q := (RX8, TX8, 2)) (v := .int p1) (ty0 := tyX8) B hnm hX 1 hk1 rfl (by decide) hw2 (by decide) (by rw [eS4]; exact x_Vup_i (k := 5) (j := 1) rfl (by decide)) tyX8_ok (fun i h1 h2 => nmX8 i (Nat.lt_of_lt_of_le h1 (by decide)) 1 (by decide) h2) rfl rfl rfl rfl q425 (fun _ h => h) dX8_init_11 (fun H locs hX => ?_)
  refine w_i eS4 ?_
  have hk1 := ks_i eS4 hk1
  have hw2 := kw_i eS4 hw2
  cases hf
  exact hret _ _ _ _ hX dX8_init_14
def f_X0_relation_J35_11 (o : Nat) (p0 : Int32) (p1 : Int32) (S : XS)  : Option (Int32 × XS) :=
  bnd (f_X0_land S o) fun b14 => chk (xk S b14 = 3) <| bnd (xr S 301 b14 0) fun b16 => chk (xz S < xL S ∧ xu S + 2 ≤ xU S) <| bd (xz S) fun a19 => bd (n_c S 5 0 2) fun S18 => bnd (f_X8_init S18 a19 p0 p1) fun S22 => chk (xk S22 b16 = 19) <| bnd (f_J2_add S22 b16 a19) <| u2 fun r23 S24 => chk (xk S24 o = 1) <| bnd (f_X0_changes S24 o) fun S26 => chk (xk S26 o = 1) <| bnd (f_X0_land S26 o) fun b28 => chk (xk S26 b28 = 3) <| bnd (xr S26 301 b28 0) fun b31 => chk (xk S26 b31 = 19) <| bnd (f_J2_size S26 b31) fun r32 => some ((r32 - nI 1), S26)
def f_X0_relation (S : XS) (o : Nat) (p0 : Int32) (p1 : Int32) : Option (Int32 × XS) :=
  chk (xk S o = 1) <| bnd (f_X0_land S o) fun b1 => chk (xk S b1 = 3) <| bnd (xr S 301 b1 0) fun b4 => chk (xk S b4 = 19) <| bnd (f_J2_size S b4) fun r5 => (if r5 = nI 4 then some ((-1), S) else bnd (f_X0_isKind p0) fun r8 => (if r8 = 0 then some ((-1), S) else (if p1 = (-1) then f_X0_relation_J35_11 o p0 p1 S else bnd (f_X0_isKind p1) fun r12 => (if r12 = 0 then some ((-1), S) else f_X0_relation_J35_11 o p0 p1 S))))
set_option maxHeartbeats 4000000 in
set_option maxRecDepth 100000 in
theorem c_X0_relation (l : Launch) (D : XD) (S : XS) (o : Nat) (p0 : Int32) (p1 : Int32) {r : Int32} {S' : XS} (hf : f_X0_relation S o p0 p1 = some (r, S')) : x_Met l yX0_relation cX0_relation 3 (Option.some Jvm.ClassFile.FieldType.int) 7 191 D [.ref o, .int p0, .int p1] S (some (.int r)) S' := by
  refine x_metI RX0 (by decide) rfl (Nat.le_of_ble_eq_true rfl) (fun p e s m args below meth c Q B hnm hret H locs hX ls hl => ?_)
  have hx := B.1
  have hb := B.2.1
  have hml := B.2.2.1
  have hown := B.2.2.2.1
  have hts := B.2.2.2.2
  have hl : lv_has ls 3 [(0, .ref o), (1, .int p0), (2, .int p1)] := hl
  unfold f_X0_relation at hf
  refine lv_aload_n hx hb dX0_relation_0 rfl (lv_at hl 0 rfl) ?_
  obtain ⟨hk2, hf⟩ := chk_some hf
  obtain ⟨b1, hcb1, hf⟩ := bnd_some hf
  refine xr_callVC (rest := []) (q := (RX0, TX0, 14)) B hX (c_X0_land l D S o hcb1) hk2 rfl (by decide) q393 q395 (Or.inl qs0) q103 q396 hd_X0_land ⟨Nat.le_of_ble_eq_true rfl, Nat.le_of_ble_eq_true rfl⟩ rfl hl.1 rfl (Nat.le_of_ble_eq_true rfl) dX0_relation_1 (fun H locs hX => ?_)
  obtain ⟨hk3, hf⟩ := chk_some hf
  obtain ⟨b4, hb4, hf⟩ := bnd_some hf
  refine xr_getN (q := (RX2, TX2, 2)) B hX 1 hk3 rfl (by decide) (by decide) (v := .ref b4) (x_Vr (c := 3) (j := 1) rfl (by decide) hb4) nq204 (fun _ h => h) dX0_relation_4 ?_
  obtain ⟨hk6, hf⟩ := chk_some hf
  obtain ⟨r5, hcr5, hf⟩ := bnd_some hf
  refine xr_callVC (rest := []) (q := (RJ2, TJ2, 3)) B hX (c_J2_size l D S b4 hcr5) hk6 rfl (by decide) q409 q410 (Or.inl q411) q108 q412 hd_J2_size ⟨Nat.le_of_ble_eq_true rfl, Nat.le_of_ble_eq_true rfl⟩ rfl hl.1 rfl (Nat.le_of_ble_eq_true rfl) dX0_relation_7 (fun H locs hX => ?_)
  refine lv_iconst (v := nI 4) hx hb dX0_relation_10 ic4 ?_
  refine lv_icmp_eq (tgt := 33) hx hb dX0_relation_11 (by decide) (fun c7 => ?_) (fun c7 => ?_)
  · have hf := it_pos c7 hf
    refine lv_iconst (v := (-1)) hx hb dX0_relation_33 icm1 ?_
    cases hf
    exact hret _ _ _ _ rfl hX dX0_relation_34
  · have hf := it_neg c7 hf
    refine lv_iload_n hx hb dX0_relation_14 rfl (lv_at hl 1 rfl) ?_
    obtain ⟨r8, hcr8, hf⟩ := bnd_some hf
    refine pr_callS (rest := []) B (c_X0_isKind l p0 hcr8) (va_cwS 1 hts (lw_S q387 q388 q103 q389) rfl rfl rfl hd_X0_isKind ⟨Nat.le_of_ble_eq_true rfl, Nat.le_of_ble_eq_true rfl⟩) rfl hl.1 rfl (Nat.le_of_ble_eq_true rfl) dX0_relation_15 (x_room0 hX) ?_
    refine lv_if_eq (tgt := 33) hx hb dX0_relation_18 (by decide) (fun c9 => ?_) (fun c9 => ?_)
    · have hf := it_pos c9 hf
      refine lv_iconst (v := (-1)) hx hb dX0_relation_33 icm1 ?_
      cases hf
      exact hret _ _ _ _ rfl hX dX0_relation_34
    · have hf := it_neg c9 hf
      refine lv_iload_n hx hb dX0_relation_21 rfl (lv_at hl 2 rfl) ?_
      refine lv_iconst (v := (-1)) hx hb dX0_relation_22 icm1 ?_
      have j11 : f_X0_relation_J35_11 o p0 p1 S = some (r, S') → ∀ (H : Heap) (locs : List Loc) (ls : Array Slot), x_I D S s H locs S → lv_has ls 3 [(0, .ref o), (1, .int p0), (2, .int p1)] → W p l e (x_R 7 191 S) s m args below meth c H locs (xz S - xz S) (xu S - xu S) Q (F0 m 35 ls []) := by
        intro hf
        intro H locs ls hX hl
        unfold f_X0_relation_J35_11 at hf
        refine lv_aload_n hx hb dX0_relation_35 rfl (lv_at hl 0 rfl) ?_
        obtain ⟨b14, hcb14, hf⟩ := bnd_some hf
        refine xr_callVC (rest := []) (q := (RX0, TX0, 14)) B hX (c_X0_land l D S o hcb14) hk2 rfl (by decide) q393 q395 (Or.inl qs0) q103 q396 hd_X0_land ⟨Nat.le_of_ble_eq_true rfl, Nat.le_of_ble_eq_true rfl⟩ rfl hl.1 rfl (Nat.le_of_ble_eq_true rfl) dX0_relation_36 (fun H locs hX => ?_)
        obtain ⟨hk15, hf⟩ := chk_some hf
        obtain ⟨b16, hb16, hf⟩ := bnd_some hf
        refine xr_getN (q := (RX2, TX2, 2)) B hX 1 hk15 rfl (by decide) (by decide) (v := .ref b16) (x_Vr (c := 3) (j := 1) rfl (by decide) hb16) nq204 (fun _ h => h) dX0_relation_39 ?_
        obtain ⟨hr17, hf⟩ := chk_some hf
        obtain ⟨a19, ea19, hf⟩ := bd_some hf
        obtain ⟨S18, eS18, hf⟩ := bd_some hf
        have hk2 := ks_n hX eS18 (by decide) hk2
        have hk3 := ks_n hX eS18 (by decide) hk3
        have hk6 := ks_n hX eS18 (by decide) hk6
        have hk15 := ks_n hX eS18 (by decide) hk15
        have hk20 := ks_new eS18 ea19
        have hw21 := kw_new hX eS18 ea19
        refine xr_new (q := (RX8, TX8, 2)) (N := 2) (ty0 := tyX8) B hX 5 rfl (by decide) tyX8_ok xd_5 q413 q414 q114 hr17 eS18 dX0_relation_42 (fun H hX => ?_)
        refine W.eq (g2 := F0 m 45 ls [.ref a19, .ref b16]) (by rw [ea19]; first | done | rfl) ?_
        refine lv_dup hx hb dX0_relation_45 rfl ?_
        refine lv_iload_n hx hb dX0_relation_46 rfl (lv_at hl 1 rfl) ?_
        refine lv_iload_n hx hb dX0_relation_47 rfl (lv_at hl 2 rfl) ?_
        obtain ⟨S22, hcS22, hf⟩ := bnd_some hf
        refine xr_callIC (rest := [.ref a19, .ref b16]) B hX (c_X8_init l D S18 a19 p0 p1 hcS22) q415 q416 q114 q417 hd_X8_init rfl ⟨Nat.le_of_ble_eq_true rfl, Nat.le_of_ble_eq_true rfl⟩ rfl hl.1 rfl (Nat.le_of_ble_eq_true rfl) dX0_relation_48 (fun H locs hX => ?_)
        obtain ⟨hk25, hf⟩ := chk_some hf
        obtain ⟨⟨r23, S24⟩, hcr23, hf⟩ := bnd_some hf
        have hf := u2_at hf
        refine xr_callVC (rest := []) (q := (RJ2, TJ2, 3)) B hX (c_J2_add l D S22 b16 a19 hcr23) hk25 rfl (by decide) q434 q435 (Or.inl q436) q108 q437 hd_J2_add ⟨Nat.le_of_ble_eq_true rfl, Nat.le_of_ble_eq_true rfl⟩ rfl hl.1 rfl (Nat.le_of_ble_eq_true rfl) dX0_relation_51 (fun H locs hX => ?_)
        refine lv_pop hx hb dX0_relation_54 rfl ?_
        refine lv_aload_n hx hb dX0_relation_55 rfl (lv_at hl 0 rfl) ?_
        obtain ⟨hk27, hf⟩ := chk_some hf
        obtain ⟨S26, hcS26, hf⟩ := bnd_some hf
        refine xr_callVC (rest := []) (q := (RX0, TX0, 14)) B hX (c_X0_changes l D S24 o hcS26) hk27 rfl (by decide) q401 q403 (Or.inl qs1) q103 q404 hd_X0_changes ⟨Nat.le_of_ble_eq_true rfl, Nat.le_of_ble_eq_true rfl⟩ rfl hl.1 rfl (Nat.le_of_ble_eq_true rfl) dX0_relation_56 (fun H locs hX => ?_)
        refine lv_aload_n hx hb dX0_relation_59 rfl (lv_at hl 0 rfl) ?_
        obtain ⟨hk29, hf⟩ := chk_some hf
        obtain ⟨b28, hcb28, hf⟩ := bnd_some hf
        refine xr_callVC (rest := []) (q := (RX0, TX0, 14)) B hX (c_X0_land l D S26 o hcb28) hk29 rfl (by decide) q393 q395 (Or.inl qs0) q103 q396 hd_X0_land ⟨Nat.le_of_ble_eq_true rfl, Nat.le_of_ble_eq_true rfl⟩ rfl hl.1 rfl (Nat.le_of_ble_eq_true rfl) dX0_relation_60 (fun H locs hX => ?_)
        obtain ⟨hk30, hf⟩ := chk_some hf
        obtain ⟨b31, hb31, hf⟩ := bnd_some hf
        refine xr_getN (q := (RX2, TX2, 2)) B hX 1 hk30 rfl (by decide) (by decide) (v := .ref b31) (x_Vr (c := 3) (j := 1) rfl (by decide) hb31) nq204 (fun _ h => h) dX0_relation_63 ?_
        obtain ⟨hk33, hf⟩ := chk_some hf
        obtain ⟨r32, hcr32, hf⟩ := bnd_some hf
        refine xr_callVC (rest := []) (q := (RJ2, TJ2, 3)) B hX (c_J2_size l D S26 b31 hcr32) hk33 rfl (by decide) q409 q410 (Or.inl q411) q108 q412 hd_J2_size ⟨Nat.le_of_ble_eq_true rfl, Nat.le_of_ble_eq_true rfl⟩ rfl hl.1 rfl (Nat.le_of_ble_eq_true rfl) dX0_relation_66 (fun H locs hX => ?_)
        refine lv_iconst (v := nI 1) hx hb dX0_relation_69 ic1 ?_
        refine lv_isub hx hb dX0_relation_70 ?_
        cases hf
        exact hret _ _ _ _ rfl hX dX0_relation_71
      refine lv_icmp_eq (tgt := 35) hx hb dX0_relation_23 (by decide) (fun c10 => ?_) (fun c10 => ?_)
      · have hf := it_pos c10 hf
        exact j11  hf _ _ _ hX (lv_sub hl [0, 1, 2] rfl)
      · have hf := it_neg c10 hf
        refine lv_iload_n hx hb dX0_relation_26 rfl (lv_at hl 2 rfl) ?_
        obtain ⟨r12, hcr12, hf⟩ := bnd_some hf
        refine pr_callS (rest := []) B (c_X0_isKind l p1 hcr12) (va_cwS 1 hts (lw_S q387 q388 q103 q389) rfl rfl rfl hd_X0_isKind ⟨Nat.le_of_ble_eq_true rfl, Nat.le_of_ble_eq_true rfl⟩) rfl hl.1 rfl (Nat.le_of_ble_eq_true rfl) dX0_relation_27 (x_room0 hX) ?_
        refine lv_if_ne (tgt := 35) hx hb dX0_relation_30 (by decide) (fun c13 => ?_) (fun c13 => ?_)
        · have hf := it_neg c13 hf
          exact j11  hf _ _ _ hX (lv_sub hl [0, 1, 2] rfl)
        · have hf := it_pos c13 hf
          refine lv_iconst (v := (-1)) hx hb dX0_relation_33 icm1 ?_
          cases hf
          exact hret _ _ _ _ rfl hX dX0_relation_34
def f_X8_isOfOne (S : XS) (o : Nat) : Option Int32 :=
  chk (xk S o = 5) <| (if (xi S 501 o 0) = (-1) then some (nI 1) else some (nI 0))
set_option maxHeartbeats 4000000 in
set_option maxRecDepth 100000 in
theorem c_X8_isOfOne (l : Launch) (D : XD) (S : XS) (o : Nat) {r : Int32} (hf : f_X8_isOfOne S o = some r) : x_Met l yX8_isOfOne cX8_isOfOne 1 (Option.some Jvm.ClassFile.FieldType.boolean) 0 0 D [.ref o] S (some (.int r)) S := by
  refine x_metI RX8 (by decide) rfl (Nat.le_of_ble_eq_true rfl) (fun p e s m args below meth c Q B hnm hret H locs hX ls hl => ?_)
  have hx := B.1
  have hb := B.2.1
  have hml := B.2.2.1
  have hown := B.2.2.2.1
  have hts := B.2.2.2.2
  have hl : lv_has ls 1 [(0, .ref o)] := hl
  unfold f_X8_isOfOne at hf
  refine lv_aload_n hx hb dX8_isOfOne_0 rfl (lv_at hl 0 rfl) ?_
  obtain ⟨hk1, hf⟩ := chk_some hf
  refine xr_get (q := (RX8, TX8, 2)) B hX 1 hk1 rfl (by decide) (by decide) (x_Vi rfl (by decide)) q425 (fun _ h => h) dX8_isOfOne_1 ?_
  refine lv_iconst (v := (-1)) hx hb dX8_isOfOne_4 icm1 ?_
  refine lv_icmp_ne (tgt := 12) hx hb dX8_isOfOne_5 (by decide) (fun c2 => ?_) (fun c2 => ?_)
  · have hf := it_neg c2 hf
    refine lv_iconst (v := nI 0) hx hb dX8_isOfOne_12 ic0 ?_
    cases hf
    exact hret _ _ _ _ rfl hX dX8_isOfOne_13
  · have hf := it_pos c2 hf
    refine lv_iconst (v := nI 1) hx hb dX8_isOfOne_8 ic1 ?_
    refine lv_goto (tgt := 13) hx hb dX8_isOfOne_9 (by decide) ?_
    cases hf
    exact hret _ _ _ _ rfl hX dX8_isOfOne_13
def f_X2_factsOf (S : XS) (o : Nat) (p0 : Int32) : Option Int32 :=
  chk (xk S o = 3) <| bnd (xr S 301 o 0) fun b2 => chk (xk S b2 = 19) <| bnd (f_J2_get S b2 p0) fun b3 => chk (xk S b3 = 5) <| bnd (xr S 300 o 0) fun b6 => chk (xk S b6 = 52) <| ald (xn S b6) (xi S 52 b6) (xi S 500 b3 0) fun v8 => bnd (f_X8_isOfOne S b3) fun r9 => (if r9 = 0 then bnd (xr S 300 o 0) fun b11 => chk (xk S b11 = 52) <| ald (xn S b11) (xi S 52 b11) (xi S 501 b3 0) fun v13 => some (v8 * v13) else some (v8 * nI 1))
set_option maxHeartbeats 4000000 in
set_option maxRecDepth 100000 in
theorem c_X2_factsOf (l : Launch) (D : XD) (S : XS) (o : Nat) (p0 : Int32) {r : Int32} (hf : f_X2_factsOf S o p0 = some r) : x_Met l yX2_factsOf cX2_factsOf 3 (Option.some Jvm.ClassFile.FieldType.int) 3 64 D [.ref o, .int p0] S (some (.int r)) S := by
  refine x_metI RX2 (by decide) rfl (Nat.le_of_ble_eq_true rfl) (fun p e s m args below meth c Q B hnm hret H locs hX ls hl => ?_)
  have hx := B.1
  have hb := B.2.1
  have hml := B.2.2.1
  have hown := B.2.2.2.1
  have hts := B.2.2.2.2
  have hl : lv_has ls 3 [(0, .ref o), (1, .int p0)] := hl
  unfold f_X2_factsOf at hf
  refine lv_aload_n hx hb dX2_factsOf_0 rfl (lv_at hl 0 rfl) ?_
  obtain ⟨hk1, hf⟩ := chk_some hf
  obtain ⟨b2, hb2, hf⟩ := bnd_some hf
  refine xr_get (q := (RX2, TX2, 2)) B hX 1 hk1 rfl (by decide) (by decide) (v := .ref b2) (x_Vr (c := 3) (j := 1) rfl (by decide) hb2) q201 (fun _ h => h) dX2_factsOf_1 ?_
  refine lv_iload_n hx hb dX2_factsOf_4 rfl (lv_at hl 1 rfl) ?_
  obtain ⟨hk4, hf⟩ := chk_some hf
  obtain ⟨b3, hcb3, hf⟩ := bnd_some hf
  refine xr_callVC (rest := []) (q := (RJ2, TJ2, 3)) B hX (c_J2_get l D S b2 p0 hcb3) hk4 rfl (by decide) q523 q524 (Or.inl q525) q108 q526 hd_J2_get ⟨Nat.le_of_ble_eq_true rfl, Nat.le_of_ble_eq_true rfl⟩ rfl hl.1 rfl (Nat.le_of_ble_eq_true rfl) dX2_factsOf_5 (fun H locs hX => ?_)
  obtain ⟨hk5, hf⟩ := chk_some hf
  refine xr_castY (q := (RX8, TX8, 2)) B hX hk5 rfl (by decide) q537 (Or.inr ⟨rfl, by decide⟩) dX2_factsOf_8 ?_
  refine lv_astore_n (lv' := [(2, .ref b3), (0, .ref o), (1, .int p0)]) hx hb dX2_factsOf_11 rfl hl (by decide) rfl (fun ls hl => ?_)
  refine lv_aload_n hx hb dX2_factsOf_12 rfl (lv_at hl 1 rfl) ?_
  obtain ⟨b6, hb6, hf⟩ := bnd_some hf
  refine xr_get (q := (RX2, TX2, 2)) B hX 0 hk1 rfl (by decide) (by decide) (v := .ref b6) (x_Vr (c := 3) (j := 0) rfl (by decide) hb6) q199 (fun _ h => h) dX2_factsOf_13 ?_
  refine lv_aload_n hx hb dX2_factsOf_16 rfl (lv_at hl 0 rfl) ?_
  refine xr_getN (q := (RX8, TX8, 2)) B hX 0 hk5 rfl (by decide) (by decide) (x_Vi rfl (by decide)) nq422 (fun _ h => h) dX2_factsOf_17 ?_
  obtain ⟨hk7, hf⟩ := chk_some hf
  obtain ⟨v8, ev8, hiv8, hf⟩ := ald_some hf
  refine xr_iald B hX hk7 hiv8 ev8 dX2_factsOf_20 ?_
  refine lv_aload_n hx hb dX2_factsOf_21 rfl (lv_at hl 0 rfl) ?_
  obtain ⟨r9, hcr9, hf⟩ := bnd_some hf
  refine xr_callVC (rest := [.int v8]) (q := (RX8, TX8, 2)) B hX (c_X8_isOfOne l D S b3 hcr9) hk5 rfl (by decide) q538 q539 (Or.inl q540) q114 q541 hd_X8_isOfOne ⟨Nat.le_of_ble_eq_true rfl, Nat.le_of_ble_eq_true rfl⟩ rfl hl.1 rfl (Nat.le_of_ble_eq_true rfl) dX2_factsOf_22 (fun H locs hX => ?_)
  refine lv_if_eq (tgt := 32) hx hb dX2_factsOf_25 (by decide) (fun c10 => ?_) (fun c10 => ?_)
  · have hf := it_pos c10 hf
    refine lv_aload_n hx hb dX2_factsOf_32 rfl (lv_at hl 1 rfl) ?_
    obtain ⟨b11, hb11, hf⟩ := bnd_some hf
    refine xr_get (q := (RX2, TX2, 2)) B hX 0 hk1 rfl (by decide) (by decide) (v := .ref b11) (x_Vr (c := 3) (j := 0) rfl (by decide) hb11) q199 (fun _ h => h) dX2_factsOf_33 ?_
    refine lv_aload_n hx hb dX2_factsOf_36 rfl (lv_at hl 0 rfl) ?_
    refine xr_getN (q := (RX8, TX8, 2)) B hX 1 hk5 rfl (by decide) (by decide) (x_Vi rfl (by decide)) nq426 (fun _ h => h) dX2_factsOf_37 ?_
    obtain ⟨hk12, hf⟩ := chk_some hf
    obtain ⟨v13, ev13, hiv13, hf⟩ := ald_some hf
    refine xr_iald B hX hk12 hiv13 ev13 dX2_factsOf_40 ?_
    refine lv_imul hx hb dX2_factsOf_41 ?_
    cases hf
    exact hret _ _ _ _ rfl hX dX2_factsOf_42
  · have hf := it_neg c10 hf
    refine lv_iconst (v := nI 1) hx hb dX2_factsOf_28 ic1 ?_
    refine lv_goto (tgt := 41) hx hb dX2_factsOf_29 (by decide) ?_
    refine lv_imul hx hb dX2_factsOf_41 ?_
    cases hf
    exact hret _ _ _ _ rfl hX dX2_factsOf_42
def f_X2_facts_L4 (o : Nat) (S : XS) (x1 : Int32) (x2 : Int32) : Option ((Int32 × Int32) ⊕ ((Int32))) :=
  chk (xk S o = 3) <| bnd (xr S 301 o 0) fun b4 => chk (xk S b4 = 19) <| bnd (f_J2_size S b4) fun r5 => (if r5 ≤ x2 then some (.inr x1) else bnd (f_X2_factsOf S o x2) fun r8 => bd (x1 + r8) fun x9 => bd (x2 + nI 1) fun x10 => some (.inl (x9, x10)))
def f_X2_facts (S : XS) (o : Nat) : Option Int32 :=
  bnd (wO (fun t : Int32 × Int32 => f_X2_facts_L4 o S t.1 t.2) fu (nI 0, nI 0)) <| fun x13 => some x13
set_option maxHeartbeats 4000000 in
set_option maxRecDepth 100000 in
theorem c_X2_facts (l : Launch) (D : XD) (S : XS) (o : Nat) {r : Int32} (hf : f_X2_facts S o = some r) : x_Met l yX2_facts cX2_facts 3 (Option.some Jvm.ClassFile.FieldType.int) 4 86 D [.ref o] S (some (.int r)) S := by
  refine x_metI RX2 (by decide) rfl (Nat.le_of_ble_eq_true rfl) (fun p e s m args below meth c Q B hnm hret H locs hX ls hl => ?_)
  have hx := B.1
  have hb := B.2.1
  have hml := B.2.2.1
  have hown := B.2.2.2.1
  have hts := B.2.2.2.2
  have hl : lv_has ls 3 [(0, .ref o)] := hl
  unfold f_X2_facts at hf
  refine lv_iconst (v := nI 0) hx hb dX2_facts_0 ic0 ?_
  refine lv_istore_n (lv' := [(1, .int (nI 0)), (0, .ref o)]) hx hb dX2_facts_1 rfl hl (by decide) rfl (fun ls hl => ?_)
  refine lv_iconst (v := nI 0) hx hb dX2_facts_2 ic0 ?_
  refine lv_istore_n (lv' := [(2, .int (nI 0)), (1, .int (nI 0)), (0, .ref o)]) hx hb dX2_facts_3 rfl hl (by decide) rfl (fun ls hl => ?_)
  obtain ⟨y12, hxy12, hf⟩ := bnd_some hf
  have hy12 : (fun t : Int32 => ∀ (H : Heap) (locs : List Loc) (ls : Array Slot), x_I D S s H locs S → lv_has ls 3 [(1, .int t)] → W p l e (x_R 4 86 S) s m args below meth c H locs (xz S - xz S) (xu S - xu S) Q (F0 m 29 ls [])) y12 := by
    obtain ⟨x13, rfl⟩ : ∃ z, z = y12 := ⟨_, rfl⟩
    intro H locs ls hX hl
    refine lv_iload_n hx hb dX2_facts_29 rfl (lv_at hl 0 rfl) ?_
    cases hf
    exact hret _ _ _ _ rfl hX dX2_facts_30
  refine lp_W (step := (fun t : Int32 × Int32 => f_X2_facts_L4 o S t.1 t.2)) (fun t : Int32 × Int32 => ∀ (H : Heap) (locs : List Loc) (ls : Array Slot), x_I D S s H locs S → lv_has ls 3 [(0, .ref o), (1, .int t.1), (2, .int t.2)] → W p l e (x_R 4 86 S) s m args below meth c H locs (xz S - xz S) (xu S - xu S) Q (F0 m 4 ls [])) (fun t : Int32 => ∀ (H : Heap) (locs : List Loc) (ls : Array Slot), x_I D S s H locs S → lv_has ls 3 [(1, .int t)] → W p l e (x_R 4 86 S) s m args below meth c H locs (xz S - xz S) (xu S - xu S) Q (F0 m 29 ls [])) ?_ fu (nI 0, nI 0) y12 hxy12 hy12 _ _ _ hX (lv_sub hl [2, 1, 0] rfl)
  clear hf hxy12 hy12
  rintro ⟨x1, x2⟩ oo (hf : f_X2_facts_L4 o S x1 x2 = some oo) hk
  intro H locs ls hX hl
  unfold f_X2_facts_L4 at hf
  refine lv_iload_n hx hb dX2_facts_4 rfl (lv_at hl 2 rfl) ?_
  refine lv_aload_n hx hb dX2_facts_5 rfl (lv_at hl 0 rfl) ?_
  obtain ⟨hk3, hf⟩ := chk_some hf
  obtain ⟨b4, hb4, hf⟩ := bnd_some hf
  refine xr_get (q := (RX2, TX2, 2)) B hX 1 hk3 rfl (by decide) (by decide) (v := .ref b4) (x_Vr (c := 3) (j := 1) rfl (by decide) hb4) q201 (fun _ h => h) dX2_facts_6 ?_
  obtain ⟨hk6, hf⟩ := chk_some hf
  obtain ⟨r5, hcr5, hf⟩ := bnd_some hf
  refine xr_callVC (rest := [.int x2]) (q := (RJ2, TJ2, 3)) B hX (c_J2_size l D S b4 hcr5) hk6 rfl (by decide) q518 q410 (Or.inl q411) q108 q412 hd_J2_size ⟨Nat.le_of_ble_eq_true rfl, Nat.le_of_ble_eq_true rfl⟩ rfl hl.1 rfl (Nat.le_of_ble_eq_true rfl) dX2_facts_9 (fun H locs hX => ?_)
  refine lv_icmp_ge (tgt := 29) hx hb dX2_facts_12 (by decide) (fun c7 => ?_) (fun c7 => ?_)
  · have hf := it_pos c7 hf
    cases hf
    exact hk _ _ _ hX (lv_sub hl [1] rfl)
  · have hf := it_neg c7 hf
    refine lv_iload_n hx hb dX2_facts_15 rfl (lv_at hl 1 rfl) ?_
    refine lv_aload_n hx hb dX2_facts_16 rfl (lv_at hl 0 rfl) ?_
    refine lv_iload_n hx hb dX2_facts_17 rfl (lv_at hl 2 rfl) ?_
    obtain ⟨r8, hcr8, hf⟩ := bnd_some hf
    refine xr_callVC (rest := [.int x1]) (q := (RX2, TX2, 2)) B hX (c_X2_factsOf l D S o x2 hcr8) hk3 rfl (by decide) q519 q520 (Or.inl q521) q105 q522 hd_X2_factsOf ⟨Nat.le_of_ble_eq_true rfl, Nat.le_of_ble_eq_true rfl⟩ rfl hl.1 rfl (Nat.le_of_ble_eq_true rfl) dX2_facts_18 (fun H locs hX => ?_)
    refine lv_iadd hx hb dX2_facts_21 ?_
    refine lv_topi (fun x9 ex9 => ?_)
    have hf := bd_at ex9 hf
    refine lv_istore_n (lv' := [(1, .int x9), (0, .ref o), (2, .int x2)]) hx hb dX2_facts_22 rfl hl (by decide) rfl (fun ls hl => ?_)
    obtain ⟨x10, ex10, hf⟩ := bd_some hf
    refine lv_iinc (v := x10) (lv' := [(2, .int x10), (1, .int x9), (0, .ref o)]) hx hb dX2_facts_23 hl (k := 2) rfl (by rw [ex10]; first | done | rfl) (by decide) rfl (fun ls hl => ?_)
    refine lv_goto (tgt := 4) hx hb dX2_facts_26 (by decide) ?_
    cases hf
    exact hk _ _ _ hX (lv_sub hl [2, 1, 0] rfl)
def f_X0_facts (S : XS) (o : Nat) : Option Int32 :=
  chk (xk S o = 1) <| bnd (f_X0_land S o) fun b1 => chk (xk S b1 = 3) <| bnd (f_X2_facts S b1) fun r3 => some r3
set_option maxHeartbeats 4000000 in
set_option maxRecDepth 100000 in
theorem c_X0_facts (l : Launch) (D : XD) (S : XS) (o : Nat) {r : Int32} (hf : f_X0_facts S o = some r) : x_Met l yX0_facts cX0_facts 1 (Option.some Jvm.ClassFile.FieldType.int) 5 108 D [.ref o] S (some (.int r)) S := by
  refine x_metI RX0 (by decide) rfl (Nat.le_of_ble_eq_true rfl) (fun p e s m args below meth c Q B hnm hret H locs hX ls hl => ?_)
  have hx := B.1
  have hb := B.2.1
  have hml := B.2.2.1
  have hown := B.2.2.2.1
  have hts := B.2.2.2.2
  have hl : lv_has ls 1 [(0, .ref o)] := hl
  unfold f_X0_facts at hf
  refine lv_aload_n hx hb dX0_facts_0 rfl (lv_at hl 0 rfl) ?_
  obtain ⟨hk2, hf⟩ := chk_some hf
  obtain ⟨b1, hcb1, hf⟩ := bnd_some hf
  refine xr_callVC (rest := []) (q := (RX0, TX0, 14)) B hX (c_X0_land l D S o hcb1) hk2 rfl (by decide) q393 q395 (Or.inl qs0) q103 q396 hd_X0_land ⟨Nat.le_of_ble_eq_true rfl, Nat.le_of_ble_eq_true rfl⟩ rfl hl.1 rfl (Nat.le_of_ble_eq_true rfl) dX0_facts_1 (fun H locs hX => ?_)
  obtain ⟨hk4, hf⟩ := chk_some hf
  obtain ⟨r3, hcr3, hf⟩ := bnd_some hf
  refine xr_callVC (rest := []) (q := (RX2, TX2, 2)) B hX (c_X2_facts l D S b1 hcr3) hk4 rfl (by decide) q514 q515 (Or.inl q516) q105 q517 hd_X2_facts ⟨Nat.le_of_ble_eq_true rfl, Nat.le_of_ble_eq_true rfl⟩ rfl hl.1 rfl (Nat.le_of_ble_eq_true rfl) dX0_facts_4 (fun H locs hX => ?_)
  cases hf
  exact hret _ _ _ _ rfl hX dX0_facts_7
def f_X0_bit (S : XS) (o : Nat) (p0 : Int32) : Option Int64 :=
  chk (xk S o = 1) <| bnd (f_X0_facts S o) fun r1 => some ((1 : Int64) <<< (((r1 - nI 1) - p0).toInt64 &&& 63))
set_option maxHeartbeats 4000000 in
set_option maxRecDepth 100000 in
theorem c_X0_bit (l : Launch) (D : XD) (S : XS) (o : Nat) (p0 : Int32) {r : Int64} (hf : f_X0_bit S o p0 = some r) : x_Met l yX0_bit cX0_bit 2 (Option.some Jvm.ClassFile.FieldType.long) 6 128 D [.ref o, .int p0] S (some (.long r)) S := by
  refine x_metL RX0 (by decide) rfl (Nat.le_of_ble_eq_true rfl) (fun p e s m args below meth c Q B hnm hret H locs hX ls hl => ?_)
  have hx := B.1
  have hb := B.2.1
  have hml := B.2.2.1
  have hown := B.2.2.2.1
  have hts := B.2.2.2.2
  have hl : lv_has ls 2 [(0, .ref o), (1, .int p0)] := hl
  unfold f_X0_bit at hf
  refine lv_lconst (v := 1) hx hb dX0_bit_0 (by decide) ?_
  refine lv_aload_n hx hb dX0_bit_1 rfl (lv_at hl 0 rfl) ?_
  obtain ⟨hk2, hf⟩ := chk_some hf
  obtain ⟨r1, hcr1, hf⟩ := bnd_some hf
  refine xr_callVC (rest := [.long (1 : Int64)]) (q := (RX0, TX0, 14)) B hX (c_X0_facts l D S o hcr1) hk2 rfl (by decide) q563 q511 (Or.inl q512) q103 q513 hd_X0_facts ⟨Nat.le_of_ble_eq_true rfl, Nat.le_of_ble_eq_true rfl⟩ rfl hl.1 rfl (Nat.le_of_ble_eq_true rfl) dX0_bit_2 (fun H locs hX => ?_)
  refine lv_iconst (v := nI 1) hx hb dX0_bit_5 ic1 ?_
  refine lv_isub hx hb dX0_bit_6 ?_
  refine lv_iload_n hx hb dX0_bit_7 rfl (lv_at hl 1 rfl) ?_
  refine lv_isub hx hb dX0_bit_8 ?_
  refine lv_lshl (v := ((1 : Int64) <<< (((r1 - nI 1) - p0).toInt64 &&& 63))) hx hb dX0_bit_9 rfl ?_
  cases hf
  exact hret _ _ _ _ hX dX0_bit_10
def f_X0_isHere (S : XS) (o : Nat) (p0 : Int32) : Option Int32 :=
  chk (xk S o = 1) <| bnd (xr S 100 o 0) fun b2 => chk (xk S b2 = 2) <| bnd (f_X0_bit S o p0) fun r4 => (if (lg_cmp ((xl S 207 b2 0) &&& r4) (0 : Int64)) = 0 then some (nI 0) else some (nI 1))
set_option maxHeartbeats 4000000 in
set_option maxRecDepth 100000 in
theorem c_X0_isHere (l : Launch) (D : XD) (S : XS) (o : Nat) (p0 : Int32) {r : Int32} (hf : f_X0_isHere S o p0 = some r) : x_Met l yX0_isHere cX0_isHere 2 (Option.some Jvm.ClassFile.FieldType.boolean) 7 149 D [.ref o, .int p0] S (some (.int r)) S := by
  refine x_metI RX0 (by decide) rfl (Nat.le_of_ble_eq_true rfl) (fun p e s m args below meth c Q B hnm hret H locs hX ls hl => ?_)
  have hx := B.1
  have hb := B.2.1
  have hml := B.2.2.1
  have hown := B.2.2.2.1
  have hts := B.2.2.2.2
  have hl : lv_has ls 2 [(0, .ref o), (1, .int p0)] := hl
  unfold f_X0_isHere at hf
  refine lv_aload_n hx hb dX0_isHere_0 rfl (lv_at hl 0 rfl) ?_
  obtain ⟨hk1, hf⟩ := chk_some hf
  obtain ⟨b2, hb2, hf⟩ := bnd_some hf
  refine xr_get (q := (RX0, TX0, 14)) B hX 0 hk1 rfl (by decide) (by decide) (v := .ref b2) (x_Vr (c := 1) (j := 0) rfl (by decide) hb2) q339 (fun _ h => h) dX0_isHere_1 ?_
  obtain ⟨hk3, hf⟩ := chk_some hf
  refine xr_getN (q := (RX1, TX1, 14)) B hX 7 hk3 rfl (by decide) (by decide) (x_Vl rfl (by decide)) nq233 (fun _ h => h) dX0_isHere_4 ?_
  refine lv_aload_n hx hb dX0_isHere_7 rfl (lv_at hl 0 rfl) ?_
  refine lv_iload_n hx hb dX0_isHere_8 rfl (lv_at hl 1 rfl) ?_
  obtain ⟨r4, hcr4, hf⟩ := bnd_some hf
  refine xr_callVC (rest := [.long (xl S 207 b2 0)]) (q := (RX0, TX0, 14)) B hX (c_X0_bit l D S o p0 hcr4) hk1 rfl (by decide) q559 q561 (Or.inl qs6) q103 q562 hd_X0_bit ⟨Nat.le_of_ble_eq_true rfl, Nat.le_of_ble_eq_true rfl⟩ rfl hl.1 rfl (Nat.le_of_ble_eq_true rfl) dX0_isHere_9 (fun H locs hX => ?_)
  refine lv_land hx hb dX0_isHere_12 ?_
  refine lv_lconst (v := 0) hx hb dX0_isHere_13 (by decide) ?_
  refine W.lcmp hx hb dX0_isHere_14 ?_
  refine lv_if_eq (tgt := 22) hx hb dX0_isHere_15 (by decide) (fun c5 => ?_) (fun c5 => ?_)
  · have hf := it_pos c5 hf
    refine lv_iconst (v := nI 0) hx hb dX0_isHere_22 ic0 ?_
    cases hf
    exact hret _ _ _ _ rfl hX dX0_isHere_23
  · have hf := it_neg c5 hf
    refine lv_iconst (v := nI 1) hx hb dX0_isHere_18 ic1 ?_
    refine lv_goto (tgt := 23) hx hb dX0_isHere_19 (by decide) ?_
    cases hf
    exact hret _ _ _ _ rfl hX dX0_isHere_23
def f_X2_isRelation (S : XS) (o : Nat) (p0 : Int32) : Option Int32 :=
  chk (xk S o = 3) <| bnd (xr S 301 o 0) fun b2 => chk (xk S b2 = 19) <| bnd (f_J2_size S b2) fun r3 => bnd (f_X0_isIn p0 (nI 0) (r3 - nI 1)) fun r5 => chk (r5 = 0 ∨ r5 = 1) <| some r5
set_option maxHeartbeats 4000000 in
set_option maxRecDepth 100000 in
theorem c_X2_isRelation (l : Launch) (D : XD) (S : XS) (o : Nat) (p0 : Int32) {r : Int32} (hf : f_X2_isRelation S o p0 = some r) : x_Met l yX2_isRelation cX2_isRelation 2 (Option.some Jvm.ClassFile.FieldType.boolean) 1 22 D [.ref o, .int p0] S (some (.int r)) S := by
  refine x_metI RX2 (by decide) rfl (Nat.le_of_ble_eq_true rfl) (fun p e s m args below meth c Q B hnm hret H locs hX ls hl => ?_)
  have hx := B.1
  have hb := B.2.1
  have hml := B.2.2.1
  have hown := B.2.2.2.1
  have hts := B.2.2.2.2
  have hl : lv_has ls 2 [(0, .ref o), (1, .int p0)] := hl
  unfold f_X2_isRelation at hf
  refine lv_iload_n hx hb dX2_isRelation_0 rfl (lv_at hl 1 rfl) ?_
  refine lv_iconst (v := nI 0) hx hb dX2_isRelation_1 ic0 ?_
  refine lv_aload_n hx hb dX2_isRelation_2 rfl (lv_at hl 0 rfl) ?_
  obtain ⟨hk1, hf⟩ := chk_some hf
  obtain ⟨b2, hb2, hf⟩ := bnd_some hf
  refine xr_get (q := (RX2, TX2, 2)) B hX 1 hk1 rfl (by decide) (by decide) (v := .ref b2) (x_Vr (c := 3) (j := 1) rfl (by decide) hb2) q201 (fun _ h => h) dX2_isRelation_3 ?_
  obtain ⟨hk4, hf⟩ := chk_some hf
  obtain ⟨r3, hcr3, hf⟩ := bnd_some hf
  refine xr_callVC (rest := [.int (nI 0), .int p0]) (q := (RJ2, TJ2, 3)) B hX (c_J2_size l D S b2 hcr3) hk4 rfl (by decide) q518 q410 (Or.inl q411) q108 q412 hd_J2_size ⟨Nat.le_of_ble_eq_true rfl, Nat.le_of_ble_eq_true rfl⟩ rfl hl.1 rfl (Nat.le_of_ble_eq_true rfl) dX2_isRelation_6 (fun H locs hX => ?_)
  refine lv_iconst (v := nI 1) hx hb dX2_isRelation_9 ic1 ?_
  refine lv_isub hx hb dX2_isRelation_10 ?_
  obtain ⟨r5, hcr5, hf⟩ := bnd_some hf
  refine pr_callSN (rest := []) B (c_X0_isIn l p0 (nI 0) (r3 - nI 1) hcr5) (hX.2.2.1.use nq554 rfl) q391 q103 q392 hd_X0_isIn ⟨Nat.le_of_ble_eq_true rfl, Nat.le_of_ble_eq_true rfl⟩ rfl hl.1 rfl (Nat.le_of_ble_eq_true rfl) dX2_isRelation_11 (x_room0 hX) ?_
  obtain ⟨hb6, hf⟩ := chk_some hf
  cases hf
  exact hret _ _ _ _ (by rcases hb6 with q | q <;> (rw [q]; rfl)) hX dX2_isRelation_14
def f_X2_fact_L104 (o : Nat) (p0 : Int32) (S : XS) (x28 : Int32) (x29 : Int32) : Option ((Int32 × Int32) ⊕ ((Int32))) :=
  (if p0 ≤ x29 then some (.inr x28) else bnd (f_X2_factsOf S o x29) fun r31 => bd (x28 + r31) fun x32 => bd (x29 + nI 1) fun x33 => some (.inl (x32, x33)))
def f_X2_fact_J99_23 (o : Nat) (p0 : Int32) (S : XS) (x27 : Int32) : Option Int32 :=
  bnd (wO (fun t : Int32 × Int32 => f_X2_fact_L104 o p0 S t.1 t.2) fu (x27, nI 0)) <| fun x36 => some x36
def f_X2_fact_J73_15 (o : Nat) (p0 : Int32) (p1 : Int32) (p2 : Int32) (S : XS) (b5 : Nat)  : Option Int32 :=
  bnd (f_X8_isOfOne S b5) fun r21 => (if r21 = 0 then bnd (xr S 300 o 0) fun b24 => chk (xk S b24 = 52) <| ald (xn S b24) (xi S 52 b24) (xi S 501 b5 0) fun v26 => f_X2_fact_J99_23 o p0 S ((p1 * v26) + p2) else f_X2_fact_J99_23 o p0 S p1)
def f_X2_fact (S : XS) (o : Nat) (p0 : Int32) (p1 : Int32) (p2 : Int32) : Option Int32 :=
  chk (xk S o = 3) <| bnd (f_X2_isRelation S o p0) fun r1 => (if r1 = 0 then some (-1) else bnd (xr S 301 o 0) fun b4 => chk (xk S b4 = 19) <| bnd (f_J2_get S b4 p0) fun b5 => chk (xk S b5 = 5) <| bnd (xr S 300 o 0) fun b8 => chk (xk S b8 = 52) <| ald (xn S b8) (xi S 52 b8) (xi S 500 b5 0) fun v10 => bnd (f_X0_isIn p1 (nI 0) (v10 - nI 1)) fun r11 => (if r11 = 0 then some (-1) else bnd (f_X8_isOfOne S b5) fun r13 => (if r13 = 0 then bnd (xr S 300 o 0) fun b16 => chk (xk S b16 = 52) <| ald (xn S b16) (xi S 52 b16) (xi S 501 b5 0) fun v18 => bnd (f_X0_isIn p2 (nI 0) (v18 - nI 1)) fun r19 => (if r19 = 0 then some (-1) else f_X2_fact_J73_15 o p0 p1 p2 S b5) else f_X2_fact_J73_15 o p0 p1 p2 S b5)))
set_option maxHeartbeats 4000000 in
set_option maxRecDepth 100000 in
theorem c_X2_fact (l : Launch) (D : XD) (S : XS) (o : Nat) (p0 : Int32) (p1 : Int32) (p2 : Int32) {r : Int32} (hf : f_X2_fact S o p0 p1 p2 = some r) : x_Met l yX2_fact cX2_fact 7 (Option.some Jvm.ClassFile.FieldType.int) 4 86 D [.ref o, .int p0, .int p1, .int p2] S (some (.int r)) S := by
  refine x_metI RX2 (by decide) rfl (Nat.le_of_ble_eq_true rfl) (fun p e s m args below meth c Q B hnm hret H locs hX ls hl => ?_)
  have hx := B.1
  have hb := B.2.1
  have hml := B.2.2.1
  have hown := B.2.2.2.1
  have hts := B.2.2.2.2
  have hl : lv_has ls 7 [(0, .ref o), (1, .int p0), (2, .int p1), (3, .int p2)] := hl
  unfold f_X2_fact at hf
  refine lv_aload_n hx hb dX2_fact_0 rfl (lv_at hl 0 rfl) ?_
  refine lv_iload_n hx hb dX2_fact_1 rfl (lv_at hl 1 rfl) ?_
  obtain ⟨hk2, hf⟩ := chk_some hf
  obtain ⟨r1, hcr1, hf⟩ := bnd_some hf
  refine xr_callVC (rest := []) (q := (RX2, TX2, 2)) B hX (c_X2_isRelation l D S o p0 hcr1) hk2 rfl (by decide) q550 q551 (Or.inl q552) q105 q553 hd_X2_isRelation ⟨Nat.le_of_ble_eq_true rfl, Nat.le_of_ble_eq_true rfl⟩ rfl hl.1 rfl (Nat.le_of_ble_eq_true rfl) dX2_fact_2 (fun H locs hX => ?_)
  refine lv_if_ne (tgt := 10) hx hb dX2_fact_5 (by decide) (fun c3 => ?_) (fun c3 => ?_)
  · have hf := it_neg c3 hf
    refine lv_aload_n hx hb dX2_fact_10 rfl (lv_at hl 0 rfl) ?_
    obtain ⟨b4, hb4, hf⟩ := bnd_some hf
    refine xr_get (q := (RX2, TX2, 2)) B hX 1 hk2 rfl (by decide) (by decide) (v := .ref b4) (x_Vr (c := 3) (j := 1) rfl (by decide) hb4) q201 (fun _ h => h) dX2_fact_11 ?_
    refine lv_iload_n hx hb dX2_fact_14 rfl (lv_at hl 1 rfl) ?_
    obtain ⟨hk6, hf⟩ := chk_some hf
    obtain ⟨b5, hcb5, hf⟩ := bnd_some hf
    refine xr_callVC (rest := []) (q := (RJ2, TJ2, 3)) B hX (c_J2_get l D S b4 p0 hcb5) hk6 rfl (by decide) q523 q524 (Or.inl q525) q108 q526 hd_J2_get ⟨Nat.le_of_ble_eq_true rfl, Nat.le_of_ble_eq_true rfl⟩ rfl hl.1 rfl (Nat.le_of_ble_eq_true rfl) dX2_fact_15 (fun H locs hX => ?_)
    obtain ⟨hk7, hf⟩ := chk_some hf
    refine xr_castY (q := (RX8, TX8, 2)) B hX hk7 rfl (by decide) q537 (Or.inr ⟨rfl, by decide⟩) dX2_fact_18 ?_
    refine lv_astore (lv' := [(4, .ref b5), (0, .ref o), (1, .int p0), (2, .int p1), (3, .int p2)]) hx hb dX2_fact_21 hl (by decide) rfl (fun ls hl => ?_)
    refine lv_iload_n hx hb dX2_fact_23 rfl (lv_at hl 3 rfl) ?_
    refine lv_iconst (v := nI 0) hx hb dX2_fact_24 ic0 ?_
    refine lv_aload_n hx hb dX2_fact_25 rfl (lv_at hl 1 rfl) ?_
    obtain ⟨b8, hb8, hf⟩ := bnd_some hf
    refine xr_get (q := (RX2, TX2, 2)) B hX 0 hk2 rfl (by decide) (by decide) (v := .ref b8) (x_Vr (c := 3) (j := 0) rfl (by decide) hb8) q199 (fun _ h => h) dX2_fact_26 ?_
    refine lv_aload hx hb dX2_fact_29 (lv_at hl 0 rfl) ?_
    refine xr_getN (q := (RX8, TX8, 2)) B hX 0 hk7 rfl (by decide) (by decide) (x_Vi rfl (by decide)) nq422 (fun _ h => h) dX2_fact_31 ?_
    obtain ⟨hk9, hf⟩ := chk_some hf
    obtain ⟨v10, ev10, hiv10, hf⟩ := ald_some hf
    refine xr_iald B hX hk9 hiv10 ev10 dX2_fact_34 ?_
    refine lv_iconst (v := nI 1) hx hb dX2_fact_35 ic1 ?_
    refine lv_isub hx hb dX2_fact_36 ?_
    obtain ⟨r11, hcr11, hf⟩ := bnd_some hf
    refine pr_callSN (rest := []) B (c_X0_isIn l p1 (nI 0) (v10 - nI 1) hcr11) (hX.2.2.1.use nq554 rfl) q391 q103 q392 hd_X0_isIn ⟨Nat.le_of_ble_eq_true rfl, Nat.le_of_ble_eq_true rfl⟩ rfl hl.1 rfl (Nat.le_of_ble_eq_true rfl) dX2_fact_37 (x_room0 hX) ?_
    refine lv_if_eq (tgt := 71) hx hb dX2_fact_40 (by decide) (fun c12 => ?_) (fun c12 => ?_)
    · have hf := it_pos c12 hf
      refine lv_iconst (v := (-1)) hx hb dX2_fact_71 icm1 ?_
      cases hf
      exact hret _ _ _ _ rfl hX dX2_fact_72
    · have hf := it_neg c12 hf
      refine lv_aload hx hb dX2_fact_43 (lv_at hl 0 rfl) ?_
      obtain ⟨r13, hcr13, hf⟩ := bnd_some hf
      refine xr_callVC (rest := []) (q := (RX8, TX8, 2)) B hX (c_X8_isOfOne l D S b5 hcr13) hk7 rfl (by decide) q538 q539 (Or.inl q540) q114 q541 hd_X8_isOfOne ⟨Nat.le_of_ble_eq_true rfl, Nat.le_of_ble_eq_true rfl⟩ rfl hl.1 rfl (Nat.le_of_ble_eq_true rfl) dX2_fact_45 (fun H locs hX => ?_)
      have j15 : f_X2_fact_J73_15 o p0 p1 p2 S b5 = some r → ∀ (H : Heap) (locs : List Loc) (ls : Array Slot), x_I D S s H locs S → lv_has ls 7 [(0, .ref o), (1, .int p0), (2, .int p1), (3, .int p2), (4, .ref b5)] → W p l e (x_R 4 86 S) s m args below meth c H locs (xz S - xz S) (xu S - xu S) Q (F0 m 73 ls []) := by
        intro hf
        intro H locs ls hX hl
        unfold f_X2_fact_J73_15 at hf
        refine lv_aload hx hb dX2_fact_73 (lv_at hl 4 rfl) ?_
        obtain ⟨r21, hcr21, hf⟩ := bnd_some hf
        refine xr_callVC (rest := []) (q := (RX8, TX8, 2)) B hX (c_X8_isOfOne l D S b5 hcr21) hk7 rfl (by decide) q538 q539 (Or.inl q540) q114 q541 hd_X8_isOfOne ⟨Nat.le_of_ble_eq_true rfl, Nat.le_of_ble_eq_true rfl⟩ rfl hl.1 rfl (Nat.le_of_ble_eq_true rfl) dX2_fact_75 (fun H locs hX => ?_)
        have j23 : ∀ (x27 : Int32), f_X2_fact_J99_23 o p0 S x27 = some r → ∀ (H : Heap) (locs : List Loc) (ls : Array Slot), x_I D S s H locs S → lv_has ls 7 [(0, .ref o), (1, .int p0)] → W p l e (x_R 4 86 S) s m args below meth c H locs (xz S - xz S) (xu S - xu S) Q (F0 m 99 ls [.int x27]) := by
          intro x27 hf
          intro H locs ls hX hl
          unfold f_X2_fact_J99_23 at hf
          refine lv_istore (lv' := [(5, .int x27), (0, .ref o), (1, .int p0)]) hx hb dX2_fact_99 hl (by decide) rfl (fun ls hl => ?_)
          refine lv_iconst (v := nI 0) hx hb dX2_fact_101 ic0 ?_
          refine lv_istore (lv' := [(6, .int (nI 0)), (5, .int x27), (0, .ref o), (1, .int p0)]) hx hb dX2_fact_102 hl (by decide) rfl (fun ls hl => ?_)
          obtain ⟨y35, hxy35, hf⟩ := bnd_some hf
          have hy35 : (fun t : Int32 => ∀ (H : Heap) (locs : List Loc) (ls : Array Slot), x_I D S s H locs S → lv_has ls 7 [(5, .int t)] → W p l e (x_R 4 86 S) s m args below meth c H locs (xz S - xz S) (xu S - xu S) Q (F0 m 127 ls [])) y35 := by
            obtain ⟨x36, rfl⟩ : ∃ z, z = y35 := ⟨_, rfl⟩
            intro H locs ls hX hl
            refine lv_iload hx hb dX2_fact_127 (lv_at hl 0 rfl) ?_
            cases hf
            exact hret _ _ _ _ rfl hX dX2_fact_129
          refine lp_W (step := (fun t : Int32 × Int32 => f_X2_fact_L104 o p0 S t.1 t.2)) (fun t : Int32 × Int32 => ∀ (H : Heap) (locs : List Loc) (ls : Array Slot), x_I D S s H locs S → lv_has ls 7 [(0, .ref o), (1, .int p0), (5, .int t.1), (6, .int t.2)] → W p l e (x_R 4 86 S) s m args below meth c H locs (xz S - xz S) (xu S - xu S) Q (F0 m 104 ls [])) (fun t : Int32 => ∀ (H : Heap) (locs : List Loc) (ls : Array Slot), x_I D S s H locs S → lv_has ls 7 [(5, .int t)] → W p l e (x_R 4 86 S) s m args below meth c H locs (xz S - xz S) (xu S - xu S) Q (F0 m 127 ls [])) ?_ fu (x27, nI 0) y35 hxy35 hy35 _ _ _ hX (lv_sub hl [2, 3, 1, 0] rfl)
          clear hf hxy35 hy35
          rintro ⟨x28, x29⟩ oo (hf : f_X2_fact_L104 o p0 S x28 x29 = some oo) hk
          intro H locs ls hX hl
          unfold f_X2_fact_L104 at hf
          refine lv_iload hx hb dX2_fact_104 (lv_at hl 3 rfl) ?_
          refine lv_iload_n hx hb dX2_fact_106 rfl (lv_at hl 1 rfl) ?_
          refine lv_icmp_ge (tgt := 127) hx hb dX2_fact_107 (by decide) (fun c30 => ?_) (fun c30 => ?_)
          · have hf := it_pos c30 hf
            cases hf
            exact hk _ _ _ hX (lv_sub hl [2] rfl)
          · have hf := it_neg c30 hf
            refine lv_iload hx hb dX2_fact_110 (lv_at hl 2 rfl) ?_
            refine lv_aload_n hx hb dX2_fact_112 rfl (lv_at hl 0 rfl) ?_
            refine lv_iload hx hb dX2_fact_113 (lv_at hl 3 rfl) ?_
            obtain ⟨r31, hcr31, hf⟩ := bnd_some hf
            refine xr_callVC (rest := [.int x28]) (q := (RX2, TX2, 2)) B hX (c_X2_factsOf l D S o x29 hcr31) hk2 rfl (by decide) q519 q520 (Or.inl q521) q105 q522 hd_X2_factsOf ⟨Nat.le_of_ble_eq_true rfl, Nat.le_of_ble_eq_true rfl⟩ rfl hl.1 rfl (Nat.le_of_ble_eq_true rfl) dX2_fact_115 (fun H locs hX => ?_)
            refine lv_iadd hx hb dX2_fact_118 ?_
            refine lv_topi (fun x32 ex32 => ?_)
            have hf := bd_at ex32 hf
            refine lv_istore (lv' := [(5, .int x32), (0, .ref o), (1, .int p0), (6, .int x29)]) hx hb dX2_fact_119 hl (by decide) rfl (fun ls hl => ?_)
            obtain ⟨x33, ex33, hf⟩ := bd_some hf
            refine lv_iinc (v := x33) (lv' := [(6, .int x33), (5, .int x32), (0, .ref o), (1, .int p0)]) hx hb dX2_fact_121 hl (k := 3) rfl (by rw [ex33]; first | done | rfl) (by decide) rfl (fun ls hl => ?_)
            refine lv_goto (tgt := 104) hx hb dX2_fact_124 (by decide) ?_
            cases hf
            exact hk _ _ _ hX (lv_sub hl [2, 3, 1, 0] rfl)
        refine lv_if_eq (tgt := 85) hx hb dX2_fact_78 (by decide) (fun c22 => ?_) (fun c22 => ?_)
        · have hf := it_pos c22 hf
          refine lv_iload_n hx hb dX2_fact_85 rfl (lv_at hl 2 rfl) ?_
          refine lv_aload_n hx hb dX2_fact_86 rfl (lv_at hl 0 rfl) ?_
          obtain ⟨b24, hb24, hf⟩ := bnd_some hf
          refine xr_get (q := (RX2, TX2, 2)) B hX 0 hk2 rfl (by decide) (by decide) (v := .ref b24) (x_Vr (c := 3) (j := 0) rfl (by decide) hb24) q199 (fun _ h => h) dX2_fact_87 ?_
          refine lv_aload hx hb dX2_fact_90 (lv_at hl 4 rfl) ?_
          refine xr_getN (q := (RX8, TX8, 2)) B hX 1 hk7 rfl (by decide) (by decide) (x_Vi rfl (by decide)) nq426 (fun _ h => h) dX2_fact_92 ?_
          obtain ⟨hk25, hf⟩ := chk_some hf
          obtain ⟨v26, ev26, hiv26, hf⟩ := ald_some hf
          refine xr_iald B hX hk25 hiv26 ev26 dX2_fact_95 ?_
          refine lv_imul hx hb dX2_fact_96 ?_
          refine lv_iload_n hx hb dX2_fact_97 rfl (lv_at hl 3 rfl) ?_
          refine lv_iadd hx hb dX2_fact_98 ?_
          exact j23 ((p1 * v26) + p2) hf _ _ _ hX (lv_sub hl [0, 1] rfl)
        · have hf := it_neg c22 hf
          refine lv_iload_n hx hb dX2_fact_81 rfl (lv_at hl 2 rfl) ?_
          refine lv_goto (tgt := 99) hx hb dX2_fact_82 (by decide) ?_
          exact j23 p1 hf _ _ _ hX (lv_sub hl [0, 1] rfl)
      refine lv_if_ne (tgt := 73) hx hb dX2_fact_48 (by decide) (fun c14 => ?_) (fun c14 => ?_)
      · have hf := it_neg c14 hf
        exact j15  hf _ _ _ hX (lv_sub hl [1, 2, 3, 4, 0] rfl)
      · have hf := it_pos c14 hf
        refine lv_iload_n hx hb dX2_fact_51 rfl (lv_at hl 4 rfl) ?_
        refine lv_iconst (v := nI 0) hx hb dX2_fact_52 ic0 ?_
        refine lv_aload_n hx hb dX2_fact_53 rfl (lv_at hl 1 rfl) ?_
        obtain ⟨b16, hb16, hf⟩ := bnd_some hf
        refine xr_get (q := (RX2, TX2, 2)) B hX 0 hk2 rfl (by decide) (by decide) (v := .ref b16) (x_Vr (c := 3) (j := 0) rfl (by decide) hb16) q199 (fun _ h => h) dX2_fact_54 ?_
        refine lv_aload hx hb dX2_fact_57 (lv_at hl 0 rfl) ?_
        refine xr_getN (q := (RX8, TX8, 2)) B hX 1 hk7 rfl (by decide) (by decide) (x_Vi rfl (by decide)) nq426 (fun _ h => h) dX2_fact_59 ?_
        obtain ⟨hk17, hf⟩ := chk_some hf
        obtain ⟨v18, ev18, hiv18, hf⟩ := ald_some hf
        refine xr_iald B hX hk17 hiv18 ev18 dX2_fact_62 ?_
        refine lv_iconst (v := nI 1) hx hb dX2_fact_63 ic1 ?_
        refine lv_isub hx hb dX2_fact_64 ?_
        obtain ⟨r19, hcr19, hf⟩ := bnd_some hf
        refine pr_callSN (rest := []) B (c_X0_isIn l p2 (nI 0) (v18 - nI 1) hcr19) (hX.2.2.1.use nq554 rfl) q391 q103 q392 hd_X0_isIn ⟨Nat.le_of_ble_eq_true rfl, Nat.le_of_ble_eq_true rfl⟩ rfl hl.1 rfl (Nat.le_of_ble_eq_true rfl) dX2_fact_65 (x_room0 hX) ?_
        refine lv_if_ne (tgt := 73) hx hb dX2_fact_68 (by decide) (fun c20 => ?_) (fun c20 => ?_)
        · have hf := it_neg c20 hf
          exact j15  hf _ _ _ hX (lv_sub hl [1, 2, 3, 4, 0] rfl)
        · have hf := it_pos c20 hf
          refine lv_iconst (v := (-1)) hx hb dX2_fact_71 icm1 ?_
          cases hf
          exact hret _ _ _ _ rfl hX dX2_fact_72
  · have hf := it_pos c3 hf
    refine lv_iconst (v := (-1)) hx hb dX2_fact_8 icm1 ?_
    cases hf
    exact hret _ _ _ _ rfl hX dX2_fact_9
def f_X0_tell (S : XS) (o : Nat) (p0 : Int32) (p1 : Int32) (p2 : Int32) (p3 : Int32) : Option (Int32 × XS) :=
  chk (xk S o = 1) <| bnd (f_X0_land S o) fun b1 => chk (xk S b1 = 3) <| bnd (f_X2_fact S b1 p0 p1 p2) fun r3 => (if r3 = (-1) then some (nI 0, S) else bnd (f_X0_isHere S o r3) fun r6 => (if r6 = p3 then some (nI 0, S) else bnd (xr S 100 o 0) fun b8 => chk (xk S b8 = 2) <| bnd (f_X0_bit S o r3) fun r10 => chk (xb S ≤ b8) <| bd (s_l S 207 b8 0 ((xl S 207 b8 0) ^^^ r10)) fun S12 => some (nI 1, S12)))
set_option maxHeartbeats 4000000 in
set_option maxRecDepth 100000 in
theorem c_X0_tell (l : Launch) (D : XD) (S : XS) (o : Nat) (p0 : Int32) (p1 : Int32) (p2 : Int32) (p3 : Int32) {r : Int32} {S' : XS} (hf : f_X0_tell S o p0 p1 p2 p3 = some (r, S')) : x_Met l yX0_tell cX0_tell 6 (Option.some Jvm.ClassFile.FieldType.boolean) 8 170 D [.ref o, .int p0, .int p1, .int p2, .int p3] S (some (.int r)) S' := by
  refine x_metI RX0 (by decide) rfl (Nat.le_of_ble_eq_true rfl) (fun p e s m args below meth c Q B hnm hret H locs hX ls hl => ?_)
  have hx := B.1
  have hb := B.2.1
  have hml := B.2.2.1
  have hown := B.2.2.2.1
  have hts := B.2.2.2.2
  have hl : lv_has ls 6 [(0, .ref o), (1, .int p0), (2, .int p1), (3, .int p2), (4, .int p3)] := hl
  unfold f_X0_tell at hf
  refine lv_aload_n hx hb dX0_tell_0 rfl (lv_at hl 0 rfl) ?_
  obtain ⟨hk2, hf⟩ := chk_some hf
  obtain ⟨b1, hcb1, hf⟩ := bnd_some hf
  refine xr_callVC (rest := []) (q := (RX0, TX0, 14)) B hX (c_X0_land l D S o hcb1) hk2 rfl (by decide) q393 q395 (Or.inl qs0) q103 q396 hd_X0_land ⟨Nat.le_of_ble_eq_true rfl, Nat.le_of_ble_eq_true rfl⟩ rfl hl.1 rfl (Nat.le_of_ble_eq_true rfl) dX0_tell_1 (fun H locs hX => ?_)
  refine lv_iload_n hx hb dX0_tell_4 rfl (lv_at hl 1 rfl) ?_
  refine lv_iload_n hx hb dX0_tell_5 rfl (lv_at hl 2 rfl) ?_
  refine lv_iload_n hx hb dX0_tell_6 rfl (lv_at hl 3 rfl) ?_
  obtain ⟨hk4, hf⟩ := chk_some hf
  obtain ⟨r3, hcr3, hf⟩ := bnd_some hf
  refine xr_callVC (rest := []) (q := (RX2, TX2, 2)) B hX (c_X2_fact l D S b1 p0 p1 p2 hcr3) hk4 rfl (by decide) q546 q547 (Or.inl q548) q105 q549 hd_X2_fact ⟨Nat.le_of_ble_eq_true rfl, Nat.le_of_ble_eq_true rfl⟩ rfl hl.1 rfl (Nat.le_of_ble_eq_true rfl) dX0_tell_7 (fun H locs hX => ?_)
  refine lv_istore (lv' := [(5, .int r3), (0, .ref o), (1, .int p0), (2, .int p1), (3, .int p2), (4, .int p3)]) hx hb dX0_tell_10 hl (by decide) rfl (fun ls hl => ?_)
  refine lv_iload hx hb dX0_tell_12 (lv_at hl 0 rfl) ?_
  refine lv_iconst (v := (-1)) hx hb dX0_tell_14 icm1 ?_
  refine lv_icmp_eq (tgt := 29) hx hb dX0_tell_15 (by decide) (fun c5 => ?_) (fun c5 => ?_)
  · have hf := it_pos c5 hf
    refine lv_iconst (v := nI 0) hx hb dX0_tell_29 ic0 ?_
    cases hf
    exact hret _ _ _ _ rfl hX dX0_tell_30
  · have hf := it_neg c5 hf
    refine lv_aload_n hx hb dX0_tell_18 rfl (lv_at hl 1 rfl) ?_
    refine lv_iload hx hb dX0_tell_19 (lv_at hl 0 rfl) ?_
    obtain ⟨r6, hcr6, hf⟩ := bnd_some hf
    refine xr_callVC (rest := []) (q := (RX0, TX0, 14)) B hX (c_X0_isHere l D S o r3 hcr6) hk2 rfl (by decide) q555 q557 (Or.inl qs5) q103 q558 hd_X0_isHere ⟨Nat.le_of_ble_eq_true rfl, Nat.le_of_ble_eq_true rfl⟩ rfl hl.1 rfl (Nat.le_of_ble_eq_true rfl) dX0_tell_21 (fun H locs hX => ?_)
    refine lv_iload hx hb dX0_tell_24 (lv_at hl 5 rfl) ?_
    refine lv_icmp_ne (tgt := 31) hx hb dX0_tell_26 (by decide) (fun c7 => ?_) (fun c7 => ?_)
    · have hf := it_neg c7 hf
      refine lv_aload_n hx hb dX0_tell_31 rfl (lv_at hl 1 rfl) ?_
      obtain ⟨b8, hb8, hf⟩ := bnd_some hf
      refine xr_get (q := (RX0, TX0, 14)) B hX 0 hk2 rfl (by decide) (by decide) (v := .ref b8) (x_Vr (c := 1) (j := 0) rfl (by decide) hb8) q339 (fun _ h => h) dX0_tell_32 ?_
      refine lv_dup hx hb dX0_tell_35 rfl ?_
      obtain ⟨hk9, hf⟩ := chk_some hf
      refine xr_getN (q := (RX1, TX1, 14)) B hX 7 hk9 rfl (by decide) (by decide) (x_Vl rfl (by decide)) nq233 (fun _ h => h) dX0_tell_36 ?_
      refine lv_aload_n hx hb dX0_tell_39 rfl (lv_at hl 1 rfl) ?_
      refine lv_iload hx hb dX0_tell_40 (lv_at hl 0 rfl) ?_
      obtain ⟨r10, hcr10, hf⟩ := bnd_some hf
      refine xr_callVC (rest := [.long (xl S 207 b8 0), .ref b8]) (q := (RX0, TX0, 14)) B hX (c_X0_bit l D S o r3 hcr10) hk2 rfl (by decide) q559 q561 (Or.inl qs6) q103 q562 hd_X0_bit ⟨Nat.le_of_ble_eq_true rfl, Nat.le_of_ble_eq_true rfl⟩ rfl hl.1 rfl (Nat.le_of_ble_eq_true rfl) dX0_tell_42 (fun H locs hX => ?_)
      refine lv_lxor hx hb dX0_tell_45 ?_
      obtain ⟨hw11, hf⟩ := chk_some hf
      obtain ⟨S12, eS12, hf⟩ := bd_some hf
      refine xr_putN (S' := S12) (q := (RX1, TX1, 14)) (v := .long ((xl S 207 b8 0) ^^^ r10)) (ty0 := tyX1) B hX 7 hk9 rfl (by decide) hw11 (by decide) (by rw [eS12]; exact x_Vup_l (k := 2) (j := 7) rfl (by decide)) tyX1_ok (fun i h1 h2 => nmX1 i (Nat.lt_of_lt_of_le h1 (by decide)) 7 (by decide) h2) rfl rfl rfl nq233 (fun _ h => h) dX0_tell_46 (fun H locs hX => ?_)
      refine w_l eS12 ?_
      have hk2 := ks_l eS12 hk2
      have hk4 := ks_l eS12 hk4
      have hk9 := ks_l eS12 hk9
      have hw11 := kw_l eS12 hw11
      refine lv_iconst (v := nI 1) hx hb dX0_tell_49 ic1 ?_
      cases hf
      exact hret _ _ _ _ rfl hX dX0_tell_50
    · have hf := it_pos c7 hf
      refine lv_iconst (v := nI 0) hx hb dX0_tell_29 ic0 ?_
      cases hf
      exact hret _ _ _ _ rfl hX dX0_tell_30
