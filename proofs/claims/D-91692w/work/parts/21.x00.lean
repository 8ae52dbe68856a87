set_option maxRecDepth 100000
def f_J0_init (S : XS) (o : Nat) : Option Unit :=
  some ()
set_option maxHeartbeats 4000000 in
set_option maxRecDepth 100000 in
theorem c_J0_init (l : Launch) (D : XD) (S : XS) (o : Nat) {r : Unit} (hf : f_J0_init S o = some r) : x_Met l yJ0_init cJ0_init 1 (Option.none : Option Jvm.ClassFile.FieldType) 1 60 D [.ref o] S none S := by
  refine x_metV RJ0 (by decide) rfl (Nat.le_of_ble_eq_true rfl) (fun p e s m args below meth c Q B hnm hret H locs hX ls hl => ?_)
  have hx := B.1
  have hb := B.2.1
  have hml := B.2.2.1
  have hown := B.2.2.2.1
  have hts := B.2.2.2.2
  have hl : lv_has ls 1 [(0, .ref o)] := hl
  unfold f_J0_init at hf
  refine lv_aload_n hx hb dJ0_init_0 rfl (lv_at hl 0 rfl) ?_
  refine W.objInit hx hb hown (hts _ q179) (hts _ q154) (hts _ q155) rfl (by rw [hml]; exact hl.1) rfl dJ0_init_1 (Nat.le_of_ble_eq_true rfl) (Nat.le_of_ble_eq_true rfl) ?_
  refine W.eq (g2 := F0 m 4 ls []) rfl ?_
  cases hf
  exact hret _ _ _ _ hX dJ0_init_4
def f_J1_init (S : XS) (o : Nat) : Option XS :=
  bnd (f_J0_init S o) fun r1 => chk (xk S o = 19) <| chk (xb S ≤ o) <| bd (s_i S 1900 o 0 (nI 0)) fun S4 => some S4
set_option maxHeartbeats 4000000 in
set_option maxRecDepth 100000 in
theorem c_J1_init (l : Launch) (D : XD) (S : XS) (o : Nat) {S' : XS} (hf : f_J1_init S o = some S') : x_Met l yJ1_init cJ1_init 1 (Option.none : Option Jvm.ClassFile.FieldType) 2 80 D [.ref o] S none S' := by
  refine x_metV RJ1 (by decide) rfl (Nat.le_of_ble_eq_true rfl) (fun p e s m args below meth c Q B hnm hret H locs hX ls hl => ?_)
  have hx := B.1
  have hb := B.2.1
  have hml := B.2.2.1
  have hown := B.2.2.2.1
  have hts := B.2.2.2.2
  have hl : lv_has ls 1 [(0, .ref o)] := hl
  unfold f_J1_init at hf
  refine lv_aload_n hx hb dJ1_init_0 rfl (lv_at hl 0 rfl) ?_
  obtain ⟨r1, hcr1, hf⟩ := bnd_some hf
  refine xr_callIC (rest := []) B hX (c_J0_init l D S o hcr1) q176 q177 q106 q178 hd_J0_init rfl ⟨Nat.le_of_ble_eq_true rfl, Nat.le_of_ble_eq_true rfl⟩ rfl hl.1 rfl (Nat.le_of_ble_eq_true rfl) dJ1_init_1 (fun H locs hX => ?_)
  refine lv_aload_n hx hb dJ1_init_4 rfl (lv_at hl 0 rfl) ?_
  refine lv_iconst (v := nI 0) hx hb dJ1_init_5 ic0 ?_
  obtain ⟨hk2, hf⟩ := chk_some hf
  obtain ⟨hw3, hf⟩ := chk_some hf
  obtain ⟨S4, eS4, hf⟩ := bd_some hf
  refine xr_put (S' := S4) (q := (RJ2, TJ2, 3)) (v := .int (nI 0)) (ty0 := tyJ2) B hX 0 hk2 rfl (by decide) hw3 (by decide) (by rw [eS4]; exact x_Vup_i (k := 19) (j := 0) rfl (by decide)) tyJ2_ok (fun i h1 h2 => nmJ2 i (Nat.lt_of_lt_of_le h1 (by decide)) 0 (by decide) h2) rfl rfl rfl q186 (fun _ h => h) dJ1_init_6 (fun H locs hX => ?_)
  refine w_i eS4 ?_
  have hk2 := ks_i eS4 hk2
  have hw3 := kw_i eS4 hw3
  cases hf
  exact hret _ _ _ _ hX dJ1_init_9
def f_J10_init (S : XS) (o : Nat) (p0 : Int32) : Option XS :=
  chk (0 ≤ p0 ∧ p0.toNatClampNeg ≤ 60000000) <| chk (xz S < xL S ∧ xu S + p0.toNatClampNeg ≤ xU S) <| bd (xz S) fun a4 => bd (n_c S 51 p0.toNatClampNeg p0.toNatClampNeg) fun S3 => chk (xk S3 o = 20) <| chk (xb S3 ≤ o) <| bd (s_r S3 2000 o 0 (some a4)) fun S9 => bd (s_i S9 2001 o 0 (nI 0)) fun S10 => some S10
set_option maxHeartbeats 4000000 in
set_option maxRecDepth 100000 in
theorem c_J10_init (l : Launch) (D : XD) (S : XS) (o : Nat) (p0 : Int32) {S' : XS} (hf : f_J10_init S o p0 = some S') : x_Met l yJ10_init cJ10_init 2 (Option.none : Option Jvm.ClassFile.FieldType) 1 60 D [.ref o, .int p0] S none S' := by
  refine x_metV RJ10 (by decide) rfl (Nat.le_of_ble_eq_true rfl) (fun p e s m args below meth c Q B hnm hret H locs hX ls hl => ?_)
  have hx := B.1
  have hb := B.2.1
  have hml := B.2.2.1
  have hown := B.2.2.2.1
  have hts := B.2.2.2.2
  have hl : lv_has ls 2 [(0, .ref o), (1, .int p0)] := hl
  unfold f_J10_init at hf
  refine lv_aload_n hx hb dJ10_init_0 rfl (lv_at hl 0 rfl) ?_
  refine W.objInit hx hb hown (hts _ q648) (hts _ q154) (hts _ q155) rfl (by rw [hml]; exact hl.1) rfl dJ10_init_1 (Nat.le_of_ble_eq_true rfl) (Nat.le_of_ble_eq_true rfl) ?_
  refine W.eq (g2 := F0 m 4 ls []) rfl ?_
  refine xr_gets B hX (v := .int (nI 1)) hX.2.2.2.2.2.2.2.2.1 q649 dJ10_init_4 ?_
  refine lv_if_eq (tgt := 25) hx hb dJ10_init_7 (by decide) (fun c1 => ?_) (fun c1 => ?_)
  · exact absurd c1 (by decide)
  · refine lv_aload_n hx hb dJ10_init_10 rfl (lv_at hl 0 rfl) ?_
    refine lv_iload_n hx hb dJ10_init_11 rfl (lv_at hl 1 rfl) ?_
    obtain ⟨h04, hf⟩ := chk_some hf
    obtain ⟨hr2, hf⟩ := chk_some hf
    obtain ⟨a4, ea4, hf⟩ := bd_some hf
    obtain ⟨S3, eS3, hf⟩ := bd_some hf
    have hk5 := ks_new eS3 ea4
    have hw6 := kw_new hX eS3 ea4
    refine xr_newa (atype := .byte) B hX 51 (by decide) rfl rfl (by decide) (fun _ => Iff.rfl) (Int32.not_lt.mpr h04.1) (xn_by h04.2 (by decide)) q196 hr2 eS3 dJ10_init_12 (fun H hX => ?_)
    refine W.eq (g2 := F0 m 14 ls [.ref a4, .ref o]) (by rw [ea4]; first | done | rfl) ?_
    obtain ⟨hk7, hf⟩ := chk_some hf
    obtain ⟨hw8, hf⟩ := chk_some hf
    obtain ⟨S9, eS9, hf⟩ := bd_some hf
    refine xr_put (S' := S9) (q := (RJ11, TJ11, 4)) (v := va_rf (some a4)) (ty0 := tyJ11) B hX 0 hk7 rfl (by decide) hw8 (by decide) (by rw [eS9]; exact x_Vup_r (k := 20) (j := 0) rfl (by decide)) tyJ11_ok (fun i h1 h2 => nmJ11 i (Nat.lt_of_lt_of_le h1 (by decide)) 0 (by decide) h2) rfl rfl rfl q658 (fun _ h => h) dJ10_init_14 (fun H locs hX => ?_)
    refine w_r eS9 ?_
    have hk5 := ks_r eS9 hk5
    have hw6 := kw_r eS9 hw6
    have hk7 := ks_r eS9 hk7
    have hw8 := kw_r eS9 hw8
    refine lv_aload_n hx hb dJ10_init_17 rfl (lv_at hl 0 rfl) ?_
    refine lv_iconst (v := nI 0) hx hb dJ10_init_18 ic0 ?_
    obtain ⟨S10, eS10, hf⟩ := bd_some hf
    refine xr_put (S' := S10) (q := (RJ11, TJ11, 4)) (v := .int (nI 0)) (ty0 := tyJ11) B hX 1 hk7 rfl (by decide) hw8 (by decide) (by rw [eS10]; exact x_Vup_i (k := 20) (j := 1) rfl (by decide)) tyJ11_ok (fun i h1 h2 => nmJ11 i (Nat.lt_of_lt_of_le h1 (by decide)) 1 (by decide) h2) rfl rfl rfl q659 (fun _ h => h) dJ10_init_19 (fun H locs hX => ?_)
    refine w_i eS10 ?_
    have hk5 := ks_i eS10 hk5
    have hw6 := kw_i eS10 hw6
    have hk7 := ks_i eS10 hk7
    have hw8 := kw_i eS10 hw8
    refine lv_goto (tgt := 38) hx hb dJ10_init_22 (by decide) ?_
    cases hf
    exact hret _ _ _ _ hX dJ10_init_38
def f_J10_length (S : XS) (o : Nat) : Option Int32 :=
  chk (xk S o = 20) <| some (xi S 2003 o 0)
set_option maxHeartbeats 4000000 in
set_option maxRecDepth 100000 in
theorem c_J10_length (l : Launch) (D : XD) (S : XS) (o : Nat) {r : Int32} (hf : f_J10_length S o = some r) : x_Met l yJ10_length cJ10_length 1 (Option.some Jvm.ClassFile.FieldType.int) 0 0 D [.ref o] S (some (.int r)) S := by
  refine x_metI RJ10 (by decide) rfl (Nat.le_of_ble_eq_true rfl) (fun p e s m args below meth c Q B hnm hret H locs hX ls hl => ?_)
  have hx := B.1
  have hb := B.2.1
  have hml := B.2.2.1
  have hown := B.2.2.2.1
  have hts := B.2.2.2.2
  have hl : lv_has ls 1 [(0, .ref o)] := hl
  unfold f_J10_length at hf
  refine lv_aload_n hx hb dJ10_length_0 rfl (lv_at hl 0 rfl) ?_
  obtain ⟨hk1, hf⟩ := chk_some hf
  refine xr_get (q := (RJ11, TJ11, 4)) B hX 3 hk1 rfl (by decide) (by decide) (x_Vi rfl (by decide)) q661 (fun _ h => h) dJ10_length_1 ?_
  cases hf
  exact hret _ _ _ _ rfl hX dJ10_length_4
def f_J10_ensureCapacityInternal (S : XS) (o : Nat) (p0 : Int32) : Option XS :=
  chk (xk S o = 20) <| bnd (xr S 2000 o 0) fun b2 => chk (xk S b2 = 51) <| bd ((nI (xn S b2)) >>> ((xi S 2001 o 0) &&& 31)) fun x4 => (if (p0 - x4) ≤ 0 then some S else bnd (xr S 2000 o 0) fun b6 => none)
set_option maxHeartbeats 4000000 in
set_option maxRecDepth 100000 in
theorem c_J10_ensureCapacityInternal (l : Launch) (D : XD) (S : XS) (o : Nat) (p0 : Int32) {S' : XS} (hf : f_J10_ensureCapacityInternal S o p0 = some S') : x_Met l yJ10_ensureCapacityInternal cJ10_ensureCapacityInternal 3 (Option.none : Option Jvm.ClassFile.FieldType) 0 0 D [.ref o, .int p0] S none S' := by
  refine x_metV RJ10 (by decide) rfl (Nat.le_of_ble_eq_true rfl) (fun p e s m args below meth c Q B hnm hret H locs hX ls hl => ?_)
  have hx := B.1
  have hb := B.2.1
  have hml := B.2.2.1
  have hown := B.2.2.2.1
  have hts := B.2.2.2.2
  have hl : lv_has ls 3 [(0, .ref o), (1, .int p0)] := hl
  unfold f_J10_ensureCapacityInternal at hf
  refine lv_aload_n hx hb dJ10_ensureCapacityInternal_0 rfl (lv_at hl 0 rfl) ?_
  obtain ⟨hk1, hf⟩ := chk_some hf
  obtain ⟨b2, hb2, hf⟩ := bnd_some hf
  refine xr_get (q := (RJ11, TJ11, 4)) B hX 0 hk1 rfl (by decide) (by decide) (v := .ref b2) (x_Vr (c := 20) (j := 0) rfl (by decide) hb2) q658 (fun _ h => h) dJ10_ensureCapacityInternal_1 ?_
  obtain ⟨hk3, hf⟩ := chk_some hf
  refine xr_alen B hX hk3 rfl (by decide) dJ10_ensureCapacityInternal_4 ?_
  refine lv_aload_n hx hb dJ10_ensureCapacityInternal_5 rfl (lv_at hl 0 rfl) ?_
  refine xr_get (q := (RJ11, TJ11, 4)) B hX 1 hk1 rfl (by decide) (by decide) (x_Vi rfl (by decide)) q659 (fun _ h => h) dJ10_ensureCapacityInternal_6 ?_
  refine lv_ishr hx hb dJ10_ensureCapacityInternal_9 ?_
  refine lv_topi (fun x4 ex4 => ?_)
  have hf := bd_at ex4 hf
  refine lv_istore_n (lv' := [(2, .int x4), (0, .ref o), (1, .int p0)]) hx hb dJ10_ensureCapacityInternal_10 rfl hl (by decide) rfl (fun ls hl => ?_)
  refine lv_iload_n hx hb dJ10_ensureCapacityInternal_11 rfl (lv_at hl 2 rfl) ?_
  refine lv_iload_n hx hb dJ10_ensureCapacityInternal_12 rfl (lv_at hl 0 rfl) ?_
  refine lv_isub hx hb dJ10_ensureCapacityInternal_13 ?_
  refine lv_if_le (tgt := 38) hx hb dJ10_ensureCapacityInternal_14 (by decide) (fun c5 => ?_) (fun c5 => ?_)
  · have hf := it_pos c5 hf
    cases hf
    exact hret _ _ _ _ hX dJ10_ensureCapacityInternal_38
  · have hf := it_neg c5 hf
    refine lv_aload_n hx hb dJ10_ensureCapacityInternal_17 rfl (lv_at hl 1 rfl) ?_
    refine lv_aload_n hx hb dJ10_ensureCapacityInternal_18 rfl (lv_at hl 1 rfl) ?_
    obtain ⟨b6, hb6, hf⟩ := bnd_some hf
    refine xr_get (q := (RJ11, TJ11, 4)) B hX 0 hk1 rfl (by decide) (by decide) (v := .ref b6) (x_Vr (c := 20) (j := 0) rfl (by decide) hb6) q658 (fun _ h => h) dJ10_ensureCapacityInternal_19 ?_
    refine lv_aload_n hx hb dJ10_ensureCapacityInternal_22 rfl (lv_at hl 1 rfl) ?_
    refine lv_iload_n hx hb dJ10_ensureCapacityInternal_23 rfl (lv_at hl 2 rfl) ?_
    cases hf
def f_J10_isLatin1 (S : XS) (o : Nat) : Option Int32 :=
  chk (xk S o = 20) <| (if (xi S 2001 o 0) = 0 then some (nI 1) else some (nI 0))
set_option maxHeartbeats 4000000 in
set_option maxRecDepth 100000 in
theorem c_J10_isLatin1 (l : Launch) (D : XD) (S : XS) (o : Nat) {r : Int32} (hf : f_J10_isLatin1 S o = some r) : x_Met l yJ10_isLatin1 cJ10_isLatin1 1 (Option.some Jvm.ClassFile.FieldType.boolean) 0 0 D [.ref o] S (some (.int r)) S := by
  refine x_metI RJ10 (by decide) rfl (Nat.le_of_ble_eq_true rfl) (fun p e s m args below meth c Q B hnm hret H locs hX ls hl => ?_)
  have hx := B.1
  have hb := B.2.1
  have hml := B.2.2.1
  have hown := B.2.2.2.1
  have hts := B.2.2.2.2
  have hl : lv_has ls 1 [(0, .ref o)] := hl
  unfold f_J10_isLatin1 at hf
  refine xr_gets B hX (v := .int (nI 1)) hX.2.2.2.2.2.2.2.2.1 q649 dJ10_isLatin1_0 ?_
  refine lv_if_eq (tgt := 17) hx hb dJ10_isLatin1_3 (by decide) (fun c1 => ?_) (fun c1 => ?_)
  · exact absurd c1 (by decide)
  · refine lv_aload_n hx hb dJ10_isLatin1_6 rfl (lv_at hl 0 rfl) ?_
    obtain ⟨hk2, hf⟩ := chk_some hf
    refine xr_get (q := (RJ11, TJ11, 4)) B hX 1 hk2 rfl (by decide) (by decide) (x_Vi rfl (by decide)) q659 (fun _ h => h) dJ10_isLatin1_7 ?_
    refine lv_if_ne (tgt := 17) hx hb dJ10_isLatin1_10 (by decide) (fun c3 => ?_) (fun c3 => ?_)
    · have hf := it_neg c3 hf
      refine lv_iconst (v := nI 0) hx hb dJ10_isLatin1_17 ic0 ?_
      cases hf
      exact hret _ _ _ _ rfl hX dJ10_isLatin1_18
    · have hf := it_pos c3 hf
      refine lv_iconst (v := nI 1) hx hb dJ10_isLatin1_13 ic1 ?_
      refine lv_goto (tgt := 18) hx hb dJ10_isLatin1_14 (by decide) ?_
      cases hf
      exact hret _ _ _ _ rfl hX dJ10_isLatin1_18
def f_J14_canEncode (p0 : Int32) : Option Int32 :=
  (if nI 255 < p0 then some (nI 0) else some (nI 1))
abbrev r_J14_canEncode : Room := { frames := 0, cells := 0, slots := 0, locals := 0 }
set_option maxHeartbeats 4000000 in
set_option maxRecDepth 100000 in
theorem c_J14_canEncode (l : Launch) (p0 : Int32) {r : Int32} (hf : f_J14_canEncode p0 = some r) : p_Met l yJ14_canEncode cJ14_canEncode 1 (Option.some Jvm.ClassFile.FieldType.boolean) r_J14_canEncode [.int p0] (some (.int r)) := by
  refine p_metI (F := 0) (L := 0) RJ14 (by decide) rfl (Nat.le_of_ble_eq_true rfl) (fun p e s m args below meth c Q B hret ls hl => ?_)
  have hx := B.1
  have hb := B.2.1
  have hml := B.2.2.1
  have hown := B.2.2.2.1
  have hts := B.2.2.2.2
  have hl : lv_has ls 1 [(0, .int p0)] := hl
  unfold f_J14_canEncode at hf
  refine lv_iload_n hx hb dJ14_canEncode_0 rfl (lv_at hl 0 rfl) ?_
  refine lv_sipush (v := nI 255) hx hb dJ14_canEncode_1 sp255 ?_
  refine lv_icmp_gt (tgt := 11) hx hb dJ14_canEncode_4 (by decide) (fun c1 => ?_) (fun c1 => ?_)
  · have hf := it_pos c1 hf
    refine lv_iconst (v := nI 0) hx hb dJ14_canEncode_11 ic0 ?_
    cases hf
    exact hret _ _ rfl dJ14_canEncode_12
  · have hf := it_neg c1 hf
    refine lv_iconst (v := nI 1) hx hb dJ14_canEncode_7 ic1 ?_
    refine lv_goto (tgt := 12) hx hb dJ14_canEncode_8 (by decide) ?_
    cases hf
    exact hret _ _ rfl dJ14_canEncode_12
def f_J10_append (S : XS) (o : Nat) (p0 : Int32) : Option (Nat × XS) :=
  chk (xk S o = 20) <| bnd (f_J10_ensureCapacityInternal S o ((xi S 2003 o 0) + nI 1)) fun S2 => chk (xk S2 o = 20) <| bnd (f_J10_isLatin1 S2 o) fun r3 => (if r3 = 0 then bnd (f_J10_isLatin1 S2 o) fun r6 => (if r6 = 0 then bnd (xr S2 2000 o 0) fun b9 => chk (xb S2 ≤ o) <| bd (s_i S2 2003 o 0 ((xi S2 2003 o 0) + nI 1)) fun S11 => none else none) else bnd (f_J14_canEncode p0) fun r12 => (if r12 = 0 then bnd (f_J10_isLatin1 S2 o) fun r14 => (if r14 = 0 then bnd (xr S2 2000 o 0) fun b17 => chk (xb S2 ≤ o) <| bd (s_i S2 2003 o 0 ((xi S2 2003 o 0) + nI 1)) fun S19 => none else none) else bnd (xr S2 2000 o 0) fun b20 => chk (xb S2 ≤ o) <| bd (s_i S2 2003 o 0 ((xi S2 2003 o 0) + nI 1)) fun S22 => chk (xk S22 b20 = 51) <| chk (xb S22 ≤ b20) <| ast (xn S22 b20) (xi S2 2003 o 0) (s_i S22 51 b20 (xi S2 2003 o 0).toNatClampNeg (vp_nar .byte p0.toInt8.toInt32)) fun S25 => some (o, S25)))
set_option maxHeartbeats 4000000 in
set_option maxRecDepth 100000 in
theorem c_J10_append (l : Launch) (D : XD) (S : XS) (o : Nat) (p0 : Int32) {r : Nat} {S' : XS} (hf : f_J10_append S o p0 = some (r, S')) : x_Met l yJ10_append cJ10_append 2 (Option.some (Jvm.ClassFile.FieldType.object "java/lang/AbstractStringBuilder")) 1 22 D [.ref o, .int p0] S (some (.ref r)) S' := by
  refine x_metA RJ10 (by decide) rfl (Nat.le_of_ble_eq_true rfl) (Or.inl ⟨_, rfl⟩) (fun p e s m args below meth c Q B hnm hret H locs hX ls hl => ?_)
  have hx := B.1
  have hb := B.2.1
  have hml := B.2.2.1
  have hown := B.2.2.2.1
  have hts := B.2.2.2.2
  have hl : lv_has ls 2 [(0, .ref o), (1, .int p0)] := hl
  unfold f_J10_append at hf
  refine lv_aload_n hx hb dJ10_append_0 rfl (lv_at hl 0 rfl) ?_
  refine lv_aload_n hx hb dJ10_append_1 rfl (lv_at hl 0 rfl) ?_
  obtain ⟨hk1, hf⟩ := chk_some hf
  refine xr_get (q := (RJ11, TJ11, 4)) B hX 3 hk1 rfl (by decide) (by decide) (x_Vi rfl (by decide)) q661 (fun _ h => h) dJ10_append_2 ?_
  refine lv_iconst (v := nI 1) hx hb dJ10_append_5 ic1 ?_
  refine lv_iadd hx hb dJ10_append_6 ?_
  obtain ⟨S2, hcS2, hf⟩ := bnd_some hf
  refine xr_callVC (rest := []) (q := (RJ11, TJ11, 4)) B hX (c_J10_ensureCapacityInternal l D S o ((xi S 2003 o 0) + nI 1) hcS2) hk1 rfl (by decide) q685 q687 (Or.inr nqEC) q128 q688 hd_J10_ensureCapacityInternal ⟨Nat.le_of_ble_eq_true rfl, Nat.le_of_ble_eq_true rfl⟩ rfl hl.1 rfl (Nat.le_of_ble_eq_true rfl) dJ10_append_7 (fun H locs hX => ?_)
  refine lv_aload_n hx hb dJ10_append_10 rfl (lv_at hl 0 rfl) ?_
  obtain ⟨hk4, hf⟩ := chk_some hf
  obtain ⟨r3, hcr3, hf⟩ := bnd_some hf
  refine xr_callVC (rest := []) (q := (RJ11, TJ11, 4)) B hX (c_J10_isLatin1 l D S2 o hcr3) hk4 rfl (by decide) q705 q706 (Or.inl q708) q128 q709 hd_J10_isLatin1 ⟨Nat.le_of_ble_eq_true rfl, Nat.le_of_ble_eq_true rfl⟩ rfl hl.1 rfl (Nat.le_of_ble_eq_true rfl) dJ10_append_11 (fun H locs hX => ?_)
  refine lv_if_eq (tgt := 45) hx hb dJ10_append_14 (by decide) (fun c5 => ?_) (fun c5 => ?_)
  · have hf := it_pos c5 hf
    refine lv_aload_n hx hb dJ10_append_45 rfl (lv_at hl 0 rfl) ?_
    obtain ⟨r6, hcr6, hf⟩ := bnd_some hf
    refine xr_callVC (rest := []) (q := (RJ11, TJ11, 4)) B hX (c_J10_isLatin1 l D S2 o hcr6) hk4 rfl (by decide) q705 q706 (Or.inl q708) q128 q709 hd_J10_isLatin1 ⟨Nat.le_of_ble_eq_true rfl, Nat.le_of_ble_eq_true rfl⟩ rfl hl.1 rfl (Nat.le_of_ble_eq_true rfl) dJ10_append_46 (fun H locs hX => ?_)
    refine lv_if_eq (tgt := 56) hx hb dJ10_append_49 (by decide) (fun c7 => ?_) (fun c7 => ?_)
    · have hf := it_pos c7 hf
      refine lv_aload_n hx hb dJ10_append_56 rfl (lv_at hl 0 rfl) ?_
      obtain ⟨b9, hb9, hf⟩ := bnd_some hf
      refine xr_get (q := (RJ11, TJ11, 4)) B hX 0 hk4 rfl (by decide) (by decide) (v := .ref b9) (x_Vr (c := 20) (j := 0) rfl (by decide) hb9) q658 (fun _ h => h) dJ10_append_57 ?_
      refine lv_aload_n hx hb dJ10_append_60 rfl (lv_at hl 0 rfl) ?_
      refine lv_dup hx hb dJ10_append_61 rfl ?_
      refine xr_get (q := (RJ11, TJ11, 4)) B hX 3 hk4 rfl (by decide) (by decide) (x_Vi rfl (by decide)) q661 (fun _ h => h) dJ10_append_62 ?_
      refine lv_dup_x1 hx hb dJ10_append_65 rfl rfl ?_
      refine lv_iconst (v := nI 1) hx hb dJ10_append_66 ic1 ?_
      refine lv_iadd hx hb dJ10_append_67 ?_
      obtain ⟨hw10, hf⟩ := chk_some hf
      obtain ⟨S11, eS11, hf⟩ := bd_some hf
      refine xr_put (S' := S11) (q := (RJ11, TJ11, 4)) (v := .int ((xi S2 2003 o 0) + nI 1)) (ty0 := tyJ11) B hX 3 hk4 rfl (by decide) hw10 (by decide) (by rw [eS11]; exact x_Vup_i (k := 20) (j := 3) rfl (by decide)) tyJ11_ok (fun i h1 h2 => nmJ11 i (Nat.lt_of_lt_of_le h1 (by decide)) 3 (by decide) h2) rfl rfl rfl q661 (fun _ h => h) dJ10_append_68 (fun H locs hX => ?_)
      refine w_i eS11 ?_
      have hk4 := ks_i eS11 hk4
      have hw10 := kw_i eS11 hw10
      refine lv_iload_n hx hb dJ10_append_71 rfl (lv_at hl 1 rfl) ?_
      cases hf
    · have hf := it_neg c7 hf
      refine lv_aload_n hx hb dJ10_append_52 rfl (lv_at hl 0 rfl) ?_
      cases hf
  · have hf := it_neg c5 hf
    refine lv_iload_n hx hb dJ10_append_17 rfl (lv_at hl 1 rfl) ?_
    obtain ⟨r12, hcr12, hf⟩ := bnd_some hf
    refine pr_callS (rest := []) B (c_J14_canEncode l p0 hcr12) (va_cwS 1 hts (lw_S q710 q711 q132 q712) rfl rfl rfl hd_J14_canEncode ⟨Nat.le_of_ble_eq_true rfl, Nat.le_of_ble_eq_true rfl⟩) rfl hl.1 rfl (Nat.le_of_ble_eq_true rfl) dJ10_append_18 (x_room0 hX) ?_
    refine lv_if_eq (tgt := 45) hx hb dJ10_append_21 (by decide) (fun c13 => ?_) (fun c13 => ?_)
    · have hf := it_pos c13 hf
      refine lv_aload_n hx hb dJ10_append_45 rfl (lv_at hl 0 rfl) ?_
      obtain ⟨r14, hcr14, hf⟩ := bnd_some hf
      refine xr_callVC (rest := []) (q := (RJ11, TJ11, 4)) B hX (c_J10_isLatin1 l D S2 o hcr14) hk4 rfl (by decide) q705 q706 (Or.inl q708) q128 q709 hd_J10_isLatin1 ⟨Nat.le_of_ble_eq_true rfl, Nat.le_of_ble_eq_true rfl⟩ rfl hl.1 rfl (Nat.le_of_ble_eq_true rfl) dJ10_append_46 (fun H locs hX => ?_)
      refine lv_if_eq (tgt := 56) hx hb dJ10_append_49 (by decide) (fun c15 => ?_) (fun c15 => ?_)
      · have hf := it_pos c15 hf
        refine lv_aload_n hx hb dJ10_append_56 rfl (lv_at hl 0 rfl) ?_
        obtain ⟨b17, hb17, hf⟩ := bnd_some hf
        refine xr_get (q := (RJ11, TJ11, 4)) B hX 0 hk4 rfl (by decide) (by decide) (v := .ref b17) (x_Vr (c := 20) (j := 0) rfl (by decide) hb17) q658 (fun _ h => h) dJ10_append_57 ?_
        refine lv_aload_n hx hb dJ10_append_60 rfl (lv_at hl 0 rfl) ?_
        refine lv_dup hx hb dJ10_append_61 rfl ?_
        refine xr_get (q := (RJ11, TJ11, 4)) B hX 3 hk4 rfl (by decide) (by decide) (x_Vi rfl (by decide)) q661 (fun _ h => h) dJ10_append_62 ?_
        refine lv_dup_x1 hx hb dJ10_append_65 rfl rfl ?_
        refine lv_iconst (v := nI 1) hx hb dJ10_append_66 ic1 ?_
        refine lv_iadd hx hb dJ10_append_67 ?_
        obtain ⟨hw18, hf⟩ := chk_some hf
        obtain ⟨S19, eS19, hf⟩ := bd_some hf
        refine xr_put (S' := S19) (q := (RJ11, TJ11, 4)) (v := .int ((xi S2 2003 o 0) + nI 1)) (ty0 := tyJ11) B hX 3 hk4 rfl (by decide) hw18 (by decide) (by rw [eS19]; exact x_Vup_i (k := 20) (j := 3) rfl (by decide)) tyJ11_ok (fun i h1 h2 => nmJ11 i (Nat.lt_of_lt_of_le h1 (by decide)) 3 (by decide) h2) rfl rfl rfl q661 (fun _ h => h) dJ10_append_68 (fun H locs hX => ?_)
        refine w_i eS19 ?_
        have hk4 := ks_i eS19 hk4
        have hw18 := kw_i eS19 hw18
        refine lv_iload_n hx hb dJ10_append_71 rfl (lv_at hl 1 rfl) ?_
        cases hf
      · have hf := it_neg c15 hf
        refine lv_aload_n hx hb dJ10_append_52 rfl (lv_at hl 0 rfl) ?_
        cases hf
    · have hf := it_neg c13 hf
      refine lv_aload_n hx hb dJ10_append_24 rfl (lv_at hl 0 rfl) ?_
      obtain ⟨b20, hb20, hf⟩ := bnd_some hf
      refine xr_get (q := (RJ11, TJ11, 4)) B hX 0 hk4 rfl (by decide) (by decide) (v := .ref b20) (x_Vr (c := 20) (j := 0) rfl (by decide) hb20) q658 (fun _ h => h) dJ10_append_25 ?_
      refine lv_aload_n hx hb dJ10_append_28 rfl (lv_at hl 0 rfl) ?_
      refine lv_dup hx hb dJ10_append_29 rfl ?_
      refine xr_get (q := (RJ11, TJ11, 4)) B hX 3 hk4 rfl (by decide) (by decide) (x_Vi rfl (by decide)) q661 (fun _ h => h) dJ10_append_30 ?_
      refine lv_dup_x1 hx hb dJ10_append_33 rfl rfl ?_
      refine lv_iconst (v := nI 1) hx hb dJ10_append_34 ic1 ?_
      refine lv_iadd hx hb dJ10_append_35 ?_
      obtain ⟨hw21, hf⟩ := chk_some hf
      obtain ⟨S22, eS22, hf⟩ := bd_some hf
      refine xr_put (S' := S22) (q := (RJ11, TJ11, 4)) (v := .int ((xi S2 2003 o 0) + nI 1)) (ty0 := tyJ11) B hX 3 hk4 rfl (by decide) hw21 (by decide) (by rw [eS22]; exact x_Vup_i (k := 20) (j := 3) rfl (by decide)) tyJ11_ok (fun i h1 h2 => nmJ11 i (Nat.lt_of_lt_of_le h1 (by decide)) 3 (by decide) h2) rfl rfl rfl q661 (fun _ h => h) dJ10_append_36 (fun H locs hX => ?_)
      refine w_i eS22 ?_
      have hk4 := ks_i eS22 hk4
      have hw21 := kw_i eS22 hw21
      refine lv_iload_n hx hb dJ10_append_39 rfl (lv_at hl 1 rfl) ?_
      refine lv_i2b (v := p0.toInt8.toInt32) hx hb dJ10_append_40 rfl ?_
      obtain ⟨hk23, hf⟩ := chk_some hf
      obtain ⟨hw24, hf⟩ := chk_some hf
      obtain ⟨S25, eS25, hiS25, hf⟩ := ast_some hf
      refine xr_bast B hX hk23 hw24 hiS25 eS25 dJ10_append_41 (fun H locs hX => ?_)
      refine w_i eS25 ?_
      have hk4 := ks_i eS25 hk4
      have hw21 := kw_i eS25 hw21
      have hk23 := ks_i eS25 hk23
      have hw24 := kw_i eS25 hw24
      refine lv_goto (tgt := 75) hx hb dJ10_append_42 (by decide) ?_
      refine lv_aload_n hx hb dJ10_append_75 rfl (lv_at hl 0 rfl) ?_
      cases hf
      exact hret _ _ _ _ hX dJ10_append_76
def f_J10_getValue (S : XS) (o : Nat) : Option Nat :=
  chk (xk S o = 20) <| bnd (xr S 2000 o 0) fun b2 => some b2
set_option maxHeartbeats 4000000 in
set_option maxRecDepth 100000 in
theorem c_J10_getValue (l : Launch) (D : XD) (S : XS) (o : Nat) {r : Nat} (hf : f_J10_getValue S o = some r) : x_Met l yJ10_getValue cJ10_getValue 1 (Option.some (Jvm.ClassFile.FieldType.array Jvm.ClassFile.FieldType.byte)) 0 0 D [.ref o] S (some (.ref r)) S := by
  refine x_metA RJ10 (by decide) rfl (Nat.le_of_ble_eq_true rfl) (Or.inr ⟨_, rfl⟩) (fun p e s m args below meth c Q B hnm hret H locs hX ls hl => ?_)
  have hx := B.1
  have hb := B.2.1
  have hml := B.2.2.1
  have hown := B.2.2.2.1
  have hts := B.2.2.2.2
  have hl : lv_has ls 1 [(0, .ref o)] := hl
  unfold f_J10_getValue at hf
  refine lv_aload_n hx hb dJ10_getValue_0 rfl (lv_at hl 0 rfl) ?_
  obtain ⟨hk1, hf⟩ := chk_some hf
  obtain ⟨b2, hb2, hf⟩ := bnd_some hf
  refine xr_get (q := (RJ11, TJ11, 4)) B hX 0 hk1 rfl (by decide) (by decide) (v := .ref b2) (x_Vr (c := 20) (j := 0) rfl (by decide) hb2) q658 (fun _ h => h) dJ10_getValue_1 ?_
  cases hf
  exact hret _ _ _ _ hX dJ10_getValue_4
def f_J11_init (S : XS) (o : Nat) (p0 : Int32) : Option XS :=
  bnd (f_J10_init S o p0) fun S1 => some S1
set_option maxHeartbeats 4000000 in
set_option maxRecDepth 100000 in
theorem c_J11_init (l : Launch) (D : XD) (S : XS) (o : Nat) (p0 : Int32) {S' : XS} (hf : f_J11_init S o p0 = some S') : x_Met l yJ11_init cJ11_init 2 (Option.none : Option Jvm.ClassFile.FieldType) 2 81 D [.ref o, .int p0] S none S' := by
  refine x_metV RJ11 (by decide) rfl (Nat.le_of_ble_eq_true rfl) (fun p e s m args below meth c Q B hnm hret H locs hX ls hl => ?_)
  have hx := B.1
  have hb := B.2.1
  have hml := B.2.2.1
  have hown := B.2.2.2.1
  have hts := B.2.2.2.2
  have hl : lv_has ls 2 [(0, .ref o), (1, .int p0)] := hl
  unfold f_J11_init at hf
  refine lv_aload_n hx hb dJ11_init_0 rfl (lv_at hl 0 rfl) ?_
  refine lv_iload_n hx hb dJ11_init_1 rfl (lv_at hl 1 rfl) ?_
  obtain ⟨S1, hcS1, hf⟩ := bnd_some hf
  refine xr_callIC (rest := []) B hX (c_J10_init l D S o p0 hcS1) q645 q646 q128 q647 hd_J10_init rfl ⟨Nat.le_of_ble_eq_true rfl, Nat.le_of_ble_eq_true rfl⟩ rfl hl.1 rfl (Nat.le_of_ble_eq_true rfl) dJ11_init_2 (fun H locs hX => ?_)
  cases hf
  exact hret _ _ _ _ hX dJ11_init_5
def f_J11_length (S : XS) (o : Nat) : Option Int32 :=
  chk (xk S o = 20) <| bnd (f_J10_length S o) fun r1 => some r1
set_option maxHeartbeats 4000000 in
set_option maxRecDepth 100000 in
theorem c_J11_length (l : Launch) (D : XD) (S : XS) (o : Nat) {r : Int32} (hf : f_J11_length S o = some r) : x_Met l yJ11_length cJ11_length 1 (Option.some Jvm.ClassFile.FieldType.int) 1 20 D [.ref o] S (some (.int r)) S := by
  refine x_metI RJ11 (by decide) rfl (Nat.le_of_ble_eq_true rfl) (fun p e s m args below meth c Q B hnm hret H locs hX ls hl => ?_)
  have hx := B.1
  have hb := B.2.1
  have hml := B.2.2.1
  have hown := B.2.2.2.1
  have hts := B.2.2.2.2
  have hl : lv_has ls 1 [(0, .ref o)] := hl
  unfold f_J11_length at hf
  refine lv_aload_n hx hb dJ11_length_0 rfl (lv_at hl 0 rfl) ?_
  obtain ⟨hk2, hf⟩ := chk_some hf
  obtain ⟨r1, hcr1, hf⟩ := bnd_some hf
  refine xr_callSU (rest := []) (q := (RJ11, TJ11, 4)) B hX (c_J10_length l D S o hcr1) hk2 rfl (by decide) q675 q2257 q670 q676 q128 q677 hdu_J10_length ⟨Nat.le_of_ble_eq_true rfl, Nat.le_of_ble_eq_true rfl⟩ rfl hl.1 rfl (Nat.le_of_ble_eq_true rfl) dJ11_length_1 (fun H locs hX => ?_)
  cases hf
  exact hret _ _ _ _ rfl hX dJ11_length_4
def f_J11_append (S : XS) (o : Nat) (p0 : Int32) : Option (Nat × XS) :=
  chk (xk S o = 20) <| bnd (f_J10_append S o p0) <| u2 fun b1 S2 => some (o, S2)
set_option maxHeartbeats 4000000 in
set_option maxRecDepth 100000 in
theorem c_J11_append (l : Launch) (D : XD) (S : XS) (o : Nat) (p0 : Int32) {r : Nat} {S' : XS} (hf : f_J11_append S o p0 = some (r, S')) : x_Met l yJ11_append cJ11_append 2 (Option.some (Jvm.ClassFile.FieldType.object "java/lang/StringBuilder")) 2 43 D [.ref o, .int p0] S (some (.ref r)) S' := by
  refine x_metA RJ11 (by decide) rfl (Nat.le_of_ble_eq_true rfl) (Or.inl ⟨_, rfl⟩) (fun p e s m args below meth c Q B hnm hret H locs hX ls hl => ?_)
  have hx := B.1
  have hb := B.2.1
  have hml := B.2.2.1
  have hown := B.2.2.2.1
  have hts := B.2.2.2.2
  have hl : lv_has ls 2 [(0, .ref o), (1, .int p0)] := hl
  unfold f_J11_append at hf
  refine lv_aload_n hx hb dJ11_append_0 rfl (lv_at hl 0 rfl) ?_
  refine lv_iload_n hx hb dJ11_append_1 rfl (lv_at hl 1 rfl) ?_
  obtain ⟨hk3, hf⟩ := chk_some hf
  obtain ⟨⟨b1, S2⟩, hcb1, hf⟩ := bnd_some hf
  have hf := u2_at hf
  refine xr_callSU (rest := []) (q := (RJ11, TJ11, 4)) B hX (c_J10_append l D S o p0 hcb1) hk3 rfl (by decide) q682 q2258 q670 q683 q128 q684 hdu_J10_append ⟨Nat.le_of_ble_eq_true rfl, Nat.le_of_ble_eq_true rfl⟩ rfl hl.1 rfl (Nat.le_of_ble_eq_true rfl) dJ11_append_2 (fun H locs hX => ?_)
  refine lv_pop hx hb dJ11_append_5 rfl ?_
  refine lv_aload_n hx hb dJ11_append_6 rfl (lv_at hl 0 rfl) ?_
  cases hf
  exact hret _ _ _ _ hX dJ11_append_7
def f_J5_checkLength (S : XS) (p0 : Int32) (p1 : Int32) : Option Unit :=
  (if p0 ≤ p1 then some () else none)
set_option maxHeartbeats 4000000 in
set_option maxRecDepth 100000 in
theorem c_J5_checkLength (l : Launch) (D : XD) (S : XS) (p0 : Int32) (p1 : Int32) {r : Unit} (hf : f_J5_checkLength S p0 p1 = some r) : x_Met l yJ5_checkLength cJ5_checkLength 2 (Option.none : Option Jvm.ClassFile.FieldType) 0 0 D [.int p0, .int p1] S none S := by
  refine x_metV RJ5 (by decide) rfl (Nat.le_of_ble_eq_true rfl) (fun p e s m args below meth c Q B hnm hret H locs hX ls hl => ?_)
  have hx := B.1
  have hb := B.2.1
  have hml := B.2.2.1
  have hown := B.2.2.2.1
  have hts := B.2.2.2.2
  have hl : lv_has ls 2 [(0, .int p0), (1, .int p1)] := hl
  unfold f_J5_checkLength at hf
  refine lv_iload_n hx hb dJ5_checkLength_0 rfl (lv_at hl 1 rfl) ?_
  refine lv_iload_n hx hb dJ5_checkLength_1 rfl (lv_at hl 0 rfl) ?_
  refine lv_icmp_ge (tgt := 37) hx hb dJ5_checkLength_2 (by decide) (fun c1 => ?_) (fun c1 => ?_)
  · have hf := it_pos c1 hf
    cases hf
    exact hret _ _ _ _ hX dJ5_checkLength_37
  · have hf := it_neg c1 hf
    cases hf
def f_J5_copyOfRangeByte (S : XS) (p0 : Nat) (p1 : Int32) (p2 : Int32) : Option (Nat × XS) :=
  bnd (f_J5_checkLength S p1 p2) fun r1 => bd (p2 - p1) fun x2 => chk (0 ≤ x2 ∧ x2.toNatClampNeg ≤ 60000000) <| chk (xz S < xL S ∧ xu S + x2.toNatClampNeg ≤ xU S) <| bd (xz S) fun a5 => bd (n_c S 51 x2.toNatClampNeg x2.toNatClampNeg) fun S4 => chk (xk S4 p0 = 51) <| chk (0 ≤ p1 ∧ 0 ≤ nI 0 ∧ 0 ≤ (if x2 < ((nI (xn S4 p0)) - p1) then x2 else ((nI (xn S4 p0)) - p1)) ∧ p1.toNatClampNeg + (if x2 < ((nI (xn S4 p0)) - p1) then x2 else ((nI (xn S4 p0)) - p1)).toNatClampNeg ≤ xn S4 p0 ∧ (nI 0).toNatClampNeg + (if x2 < ((nI (xn S4 p0)) - p1) then x2 else ((nI (xn S4 p0)) - p1)).toNatClampNeg ≤ xn S4 a5) <| bd (s_cp S4 51 p0 p1.toNatClampNeg a5 (nI 0).toNatClampNeg (if x2 < ((nI (xn S4 p0)) - p1) then x2 else ((nI (xn S4 p0)) - p1)).toNatClampNeg) fun S10 => some (a5, S10)
set_option maxHeartbeats 4000000 in
set_option maxRecDepth 100000 in
theorem c_J5_copyOfRangeByte (l : Launch) (D : XD) (S : XS) (p0 : Nat) (p1 : Int32) (p2 : Int32) {r : Nat} {S' : XS} (hf : f_J5_copyOfRangeByte S p0 p1 p2 = some (r, S')) : x_Met l yJ5_copyOfRangeByte cJ5_copyOfRangeByte 5 (Option.some (Jvm.ClassFile.FieldType.array Jvm.ClassFile.FieldType.byte)) 1 60 D [.ref p0, .int p1, .int p2] S (some (.ref r)) S' := by
  refine x_metA RJ5 (by decide) rfl (Nat.le_of_ble_eq_true rfl) (Or.inr ⟨_, rfl⟩) (fun p e s m args below meth c Q B hnm hret H locs hX ls hl => ?_)
  have hx := B.1
  have hb := B.2.1
  have hml := B.2.2.1
  have hown := B.2.2.2.1
  have hts := B.2.2.2.2
  have hl : lv_has ls 5 [(0, .ref p0), (1, .int p1), (2, .int p2)] := hl
  unfold f_J5_copyOfRangeByte at hf
  refine lv_iload_n hx hb dJ5_copyOfRangeByte_0 rfl (lv_at hl 1 rfl) ?_
  refine lv_iload_n hx hb dJ5_copyOfRangeByte_1 rfl (lv_at hl 2 rfl) ?_
  obtain ⟨r1, hcr1, hf⟩ := bnd_some hf
  refine xr_callSC (rest := []) B hX (c_J5_checkLength l D S p1 p2 hcr1) q782 q783 q117 q784 hd_J5_checkLength ⟨Nat.le_of_ble_eq_true rfl, Nat.le_of_ble_eq_true rfl⟩ rfl hl.1 rfl (Nat.le_of_ble_eq_true rfl) dJ5_copyOfRangeByte_2 (fun H locs hX => ?_)
  refine lv_iload_n hx hb dJ5_copyOfRangeByte_5 rfl (lv_at hl 2 rfl) ?_
  refine lv_iload_n hx hb dJ5_copyOfRangeByte_6 rfl (lv_at hl 1 rfl) ?_
  refine lv_isub hx hb dJ5_copyOfRangeByte_7 ?_
  refine lv_topi (fun x2 ex2 => ?_)
  have hf := bd_at ex2 hf
  refine lv_istore_n (lv' := [(3, .int x2), (0, .ref p0), (1, .int p1), (2, .int p2)]) hx hb dJ5_copyOfRangeByte_8 rfl hl (by decide) rfl (fun ls hl => ?_)
  refine lv_iload_n hx hb dJ5_copyOfRangeByte_9 rfl (lv_at hl 0 rfl) ?_
  obtain ⟨h05, hf⟩ := chk_some hf
  obtain ⟨hr3, hf⟩ := chk_some hf
  obtain ⟨a5, ea5, hf⟩ := bd_some hf
  obtain ⟨S4, eS4, hf⟩ := bd_some hf
  have hk6 := ks_new eS4 ea5
  have hw7 := kw_new hX eS4 ea5
  refine xr_newa (atype := .byte) B hX 51 (by decide) rfl rfl (by decide) (fun _ => Iff.rfl) (Int32.not_lt.mpr h05.1) (xn_by h05.2 (by decide)) q196 hr3 eS4 dJ5_copyOfRangeByte_10 (fun H hX => ?_)
  refine W.eq (g2 := F0 m 12 ls [.ref a5]) (by rw [ea5]; first | done | rfl) ?_
  refine lv_astore (lv' := [(4, .ref a5), (3, .int x2), (0, .ref p0), (1, .int p1), (2, .int p2)]) hx hb dJ5_copyOfRangeByte_12 hl (by decide) rfl (fun ls hl => ?_)
  refine lv_aload_n hx hb dJ5_copyOfRangeByte_14 rfl (lv_at hl 2 rfl) ?_
  refine lv_iload_n hx hb dJ5_copyOfRangeByte_15 rfl (lv_at hl 3 rfl) ?_
  refine lv_aload hx hb dJ5_copyOfRangeByte_16 (lv_at hl 0 rfl) ?_
  refine lv_iconst (v := nI 0) hx hb dJ5_copyOfRangeByte_18 ic0 ?_
  refine lv_aload_n hx hb dJ5_copyOfRangeByte_19 rfl (lv_at hl 2 rfl) ?_
  obtain ⟨hk8, hf⟩ := chk_some hf
  refine xr_alen B hX hk8 rfl (by decide) dJ5_copyOfRangeByte_20 ?_
  refine lv_iload_n hx hb dJ5_copyOfRangeByte_21 rfl (lv_at hl 3 rfl) ?_
  refine lv_isub hx hb dJ5_copyOfRangeByte_22 ?_
  refine lv_iload_n hx hb dJ5_copyOfRangeByte_23 rfl (lv_at hl 1 rfl) ?_
  refine va_mmin (rest := [.int (nI 0), .ref a5, .int p1, .ref p0]) hx hb (hml.trans hl.1.symm) hown (hts _ q503) (hts _ q504) (hts _ q116) (hts _ q505) (Nat.le_of_ble_eq_true rfl) (Nat.le_of_ble_eq_true rfl) (x_room0 hX).1 (x_room0 hX).2 dJ5_copyOfRangeByte_24 ?_
  obtain ⟨hr9, hf⟩ := chk_some hf
  obtain ⟨S10, eS10, hf⟩ := bd_some hf
  refine xr_copy (rest := []) B hX hk8 hk6 hw7 (by decide) rfl hr9 (x_vals51 hX) eS10 hl.1 q506 q508 q507 q118 (Nat.le_of_ble_eq_true rfl) (Nat.le_of_ble_eq_true rfl) dJ5_copyOfRangeByte_27 (fun H locs hX => ?_)
  refine w_c eS10 ?_
  have hk6 := ks_c eS10 hk6
  have hw7 := kw_c eS10 hw7
  have hk8 := ks_c eS10 hk8
  refine lv_aload hx hb dJ5_copyOfRangeByte_30 (lv_at hl 0 rfl) ?_
  cases hf
  exact hret _ _ _ _ hX dJ5_copyOfRangeByte_32
def f_J5_copyOfRange_J10_2 (p0 : Nat) (p1 : Int32) (p2 : Int32) (S : XS)  : Option (Nat × XS) :=
  bnd (f_J5_copyOfRangeByte S p0 p1 p2) <| u2 fun b11 S12 => some (b11, S12)
def f_J5_copyOfRange (S : XS) (p0 : Nat) (p1 : Int32) (p2 : Int32) : Option (Nat × XS) :=
  (if p1 = 0 then chk (xk S p0 = 51) <| (if p2 = (nI (xn S p0)) then chk (xb S ≤ p0) <| chk (xz S < xL S ∧ xu S + xn S p0 ≤ xU S) <| bd (xz S) fun a8 => bd (n_cl S p0) fun S7 => some (a8, S7) else f_J5_copyOfRange_J10_2 p0 p1 p2 S) else f_J5_copyOfRange_J10_2 p0 p1 p2 S)
set_option maxHeartbeats 4000000 in
set_option maxRecDepth 100000 in
theorem c_J5_copyOfRange (l : Launch) (D : XD) (S : XS) (p0 : Nat) (p1 : Int32) (p2 : Int32) {r : Nat} {S' : XS} (hf : f_J5_copyOfRange S p0 p1 p2 = some (r, S')) : x_Met l yJ5_copyOfRange cJ5_copyOfRange 3 (Option.some (Jvm.ClassFile.FieldType.array Jvm.ClassFile.FieldType.byte)) 2 84 D [.ref p0, .int p1, .int p2] S (some (.ref r)) S' := by
  refine x_metA RJ5 (by decide) rfl (Nat.le_of_ble_eq_true rfl) (Or.inr ⟨_, rfl⟩) (fun p e s m args below meth c Q B hnm hret H locs hX ls hl => ?_)
  have hx := B.1
  have hb := B.2.1
  have hml := B.2.2.1
  have hown := B.2.2.2.1
  have hts := B.2.2.2.2
  have hl : lv_has ls 3 [(0, .ref p0), (1, .int p1), (2, .int p2)] := hl
  unfold f_J5_copyOfRange at hf
  refine lv_iload_n hx hb dJ5_copyOfRange_0 rfl (lv_at hl 1 rfl) ?_
  have j2 : f_J5_copyOfRange_J10_2 p0 p1 p2 S = some (r, S') → ∀ (H : Heap) (locs : List Loc) (ls : Array Slot), x_I D S s H locs S → lv_has ls 3 [(0, .ref p0), (1, .int p1), (2, .int p2)] → W p l e (x_R 2 84 S) s m args below meth c H locs (xz S - xz S) (xu S - xu S) Q (F0 m 10 ls []) := by
    intro hf
    intro H locs ls hX hl
    unfold f_J5_copyOfRange_J10_2 at hf
    refine lv_aload_n hx hb dJ5_copyOfRange_10 rfl (lv_at hl 0 rfl) ?_
    refine lv_iload_n hx hb dJ5_copyOfRange_11 rfl (lv_at hl 1 rfl) ?_
    refine lv_iload_n hx hb dJ5_copyOfRange_12 rfl (lv_at hl 2 rfl) ?_
    obtain ⟨⟨b11, S12⟩, hcb11, hf⟩ := bnd_some hf
    have hf := u2_at hf
    refine xr_callSC (rest := []) B hX (c_J5_copyOfRangeByte l D S p0 p1 p2 hcb11) q779 q780 q117 q781 hd_J5_copyOfRangeByte ⟨Nat.le_of_ble_eq_true rfl, Nat.le_of_ble_eq_true rfl⟩ rfl hl.1 rfl (Nat.le_of_ble_eq_true rfl) dJ5_copyOfRange_13 (fun H locs hX => ?_)
    cases hf
    exact hret _ _ _ _ hX dJ5_copyOfRange_16
  refine lv_if_ne (tgt := 10) hx hb dJ5_copyOfRange_1 (by decide) (fun c1 => ?_) (fun c1 => ?_)
  · have hf := it_neg c1 hf
    exact j2  hf _ _ _ hX (lv_sub hl [0, 1, 2] rfl)
  · have hf := it_pos c1 hf
    refine lv_iload_n hx hb dJ5_copyOfRange_4 rfl (lv_at hl 2 rfl) ?_
    refine lv_aload_n hx hb dJ5_copyOfRange_5 rfl (lv_at hl 0 rfl) ?_
    obtain ⟨hk3, hf⟩ := chk_some hf
    refine xr_alen B hX hk3 rfl (by decide) dJ5_copyOfRange_6 ?_
    refine lv_icmp_eq (tgt := 17) hx hb dJ5_copyOfRange_7 (by decide) (fun c4 => ?_) (fun c4 => ?_)
    · have hf := it_pos c4 hf
      refine lv_aload_n hx hb dJ5_copyOfRange_17 rfl (lv_at hl 0 rfl) ?_
      obtain ⟨hw5, hf⟩ := chk_some hf
      obtain ⟨hr6, hf⟩ := chk_some hf
      obtain ⟨a8, ea8, hf⟩ := bd_some hf
      obtain ⟨S7, eS7, hf⟩ := bd_some hf
      have hk9 := ks_ncl eS7 ea8
      have hw10 := kw_ncl hX eS7 ea8
      have hk3_ := ks_cl hX eS7 (by decide) hk3
      have hw5_ := kw_cl eS7 hw5
      refine xr_clone (rest := []) B hX hk3 hw5 hl.1 q698 q699 q700 q701 q702 nq703 hr6 eS7 (Nat.le_of_ble_eq_true rfl) (Nat.le_of_ble_eq_true rfl) dJ5_copyOfRange_18 (fun H hX => ?_)
      refine W.eq (g2 := F0 m 21 ls [.ref a8]) (by rw [ea8]; first | done | rfl) ?_
      refine xr_castB B hX hk9 hw10 q704 dJ5_copyOfRange_21 ?_
      cases hf
      exact hret _ _ _ _ hX dJ5_copyOfRange_24
    · have hf := it_neg c4 hf
      exact j2  hf _ _ _ hX (lv_sub hl [0, 1, 2] rfl)
def f_J12_init_2 (S : XS) (o : Nat) (p0 : Nat) (p1 : Option Nat) : Option XS :=
  chk (xk S p0 = 20) <| bnd (f_J10_getValue S p0) fun b1 => bnd (f_J11_length S p0) fun r3 => bnd (f_J10_isLatin1 S p0) fun r4 => (if r4 = 0 then (if (xi S 2002 p0 0) = 0 then chk (xk S o = 21) <| chk (xb S ≤ o) <| bd (s_i S 2101 o 0 (nI 1)) fun S10 => bnd (f_J5_copyOfRange S10 b1 (nI 0) (r3 <<< (nI 1 &&& 31))) <| u2 fun b11 S12 => chk (xk S12 o = 21) <| chk (xb S12 ≤ o) <| bd (s_r S12 2100 o 0 (some b11)) fun S15 => some S15 else none) else chk (xk S o = 21) <| chk (xb S ≤ o) <| bd (s_i S 2101 o 0 (nI 0)) fun S18 => bnd (f_J5_copyOfRange S18 b1 (nI 0) r3) <| u2 fun b19 S20 => chk (xk S20 o = 21) <| chk (xb S20 ≤ o) <| bd (s_r S20 2100 o 0 (some b19)) fun S23 => some S23)
set_option maxHeartbeats 4000000 in
set_option maxRecDepth 100000 in
theorem c_J12_init_2 (l : Launch) (D : XD) (S : XS) (o : Nat) (p0 : Nat) (p1 : Option Nat) {S' : XS} (hf : f_J12_init_2 S o p0 p1 = some S') : x_Met l yJ12_init_2 cJ12_init_2 5 (Option.none : Option Jvm.ClassFile.FieldType) 3 106 D [.ref o, .ref p0, va_rf p1] S none S' := by
  refine x_metV RJ12 (by decide) rfl (by cases p1 <;> exact Nat.le_of_ble_eq_true rfl) (fun p e s m args below meth c Q B hnm hret H locs hX ls hl => ?_)
  have hx := B.1
  have hb := B.2.1
  have hml := B.2.2.1
  have hown := B.2.2.2.1
  have hts := B.2.2.2.2
  have hl : lv_has ls 5 [(0, .ref o), (1, .ref p0), (2, va_rf p1)] := hl
  unfold f_J12_init_2 at hf
  refine lv_aload_n hx hb dJ12_init_2_0 rfl (lv_at hl 0 rfl) ?_
  refine W.objInit hx hb hown (hts _ q768) (hts _ q154) (hts _ q155) rfl (by rw [hml]; exact hl.1) rfl dJ12_init_2_1 (Nat.le_of_ble_eq_true rfl) (Nat.le_of_ble_eq_true rfl) ?_
  refine W.eq (g2 := F0 m 4 ls []) rfl ?_
  refine lv_aload_n hx hb dJ12_init_2_4 rfl (lv_at hl 1 rfl) ?_
  obtain ⟨hk2, hf⟩ := chk_some hf
  obtain ⟨b1, hcb1, hf⟩ := bnd_some hf
  refine xr_callVC (rest := []) (q := (RJ11, TJ11, 4)) B hX (c_J10_getValue l D S p0 hcb1) hk2 rfl (by decide) q769 q770 (Or.inl q772) q128 q773 hd_J10_getValue ⟨Nat.le_of_ble_eq_true rfl, Nat.le_of_ble_eq_true rfl⟩ rfl hl.1 rfl (Nat.le_of_ble_eq_true rfl) dJ12_init_2_5 (fun H locs hX => ?_)
  refine lv_astore_n (lv' := [(3, .ref b1), (0, .ref o), (1, .ref p0), (2, va_rf p1)]) hx hb dJ12_init_2_8 rfl hl (by decide) (by cases p1 <;> rfl) (fun ls hl => ?_)
  refine lv_aload_n hx hb dJ12_init_2_9 rfl (lv_at hl 2 rfl) ?_
  obtain ⟨r3, hcr3, hf⟩ := bnd_some hf
  refine xr_callU (rest := []) (q := (RJ11, TJ11, 4)) (x := yJ10_length) (owner := "java/lang/AbstractStringBuilder") B hX (c_J11_length l D S p0 hcr3) hk2 rfl (by decide) q774 q2257 (va_Decl.of (hts _ q676) (hts _ q677)) q672 q2262 q129 q674 hdx_J10_length ⟨Nat.le_of_ble_eq_true rfl, Nat.le_of_ble_eq_true rfl⟩ rfl hl.1 rfl (Nat.le_of_ble_eq_true rfl) dJ12_init_2_10 (fun H locs hX => ?_)
  refine lv_istore (lv' := [(4, .int r3), (3, .ref b1), (0, .ref o), (1, .ref p0), (2, va_rf p1)]) hx hb dJ12_init_2_13 hl (by decide) (by cases p1 <;> rfl) (fun ls hl => ?_)
  refine lv_aload_n hx hb dJ12_init_2_15 rfl (lv_at hl 3 rfl) ?_
  obtain ⟨r4, hcr4, hf⟩ := bnd_some hf
  refine xr_callVC (rest := []) (q := (RJ11, TJ11, 4)) B hX (c_J10_isLatin1 l D S p0 hcr4) hk2 rfl (by decide) q775 q706 (Or.inl q708) q128 q709 hd_J10_isLatin1 ⟨Nat.le_of_ble_eq_true rfl, Nat.le_of_ble_eq_true rfl⟩ rfl hl.1 rfl (Nat.le_of_ble_eq_true rfl) dJ12_init_2_16 (fun H locs hX => ?_)
  refine lv_if_eq (tgt := 41) hx hb dJ12_init_2_19 (by decide) (fun c5 => ?_) (fun c5 => ?_)
  · have hf := it_pos c5 hf
    refine xr_gets B hX (v := .int (nI 1)) hX.2.2.2.2.2.2.2.2.1 q785 dJ12_init_2_41 ?_
    refine lv_if_eq (tgt := 79) hx hb dJ12_init_2_44 (by decide) (fun c6 => ?_) (fun c6 => ?_)
    · exact absurd c6 (by decide)
    · refine lv_aload_n hx hb dJ12_init_2_47 rfl (lv_at hl 3 rfl) ?_
      refine xr_get (q := (RJ11, TJ11, 4)) B hX 2 hk2 rfl (by decide) (by decide) (x_Vi rfl (by decide)) q660 (fun _ h => h) dJ12_init_2_48 ?_
      refine lv_if_eq (tgt := 79) hx hb dJ12_init_2_51 (by decide) (fun c7 => ?_) (fun c7 => ?_)
      · have hf := it_pos c7 hf
        refine lv_aload_n hx hb dJ12_init_2_79 rfl (lv_at hl 2 rfl) ?_
        refine lv_iconst (v := nI 1) hx hb dJ12_init_2_80 ic1 ?_
        obtain ⟨hk8, hf⟩ := chk_some hf
        obtain ⟨hw9, hf⟩ := chk_some hf
        obtain ⟨S10, eS10, hf⟩ := bd_some hf
        refine xr_putF (S' := S10) (q := (RJ12, TJ12, 2)) (v := .int (nI 1)) (ty0 := tyJ12) B hnm hX 1 hk8 rfl (by decide) hw9 (by decide) (by rw [eS10]; exact x_Vup_i (k := 21) (j := 1) rfl (by decide)) (fun i h => tyJ12_ok i (Nat.lt_of_lt_of_le h (by decide))) (fun i h1 h2 => nmJ12 i (Nat.lt_of_lt_of_le h1 (by decide)) 1 (by decide) h2) rfl rfl rfl rfl q800 (fun _ h => h) dJ12_init_2_81 (fun H locs hX => ?_)
        refine w_i eS10 ?_
        have hk2 := ks_i eS10 hk2
        have hk8 := ks_i eS10 hk8
        have hw9 := kw_i eS10 hw9
        refine lv_aload_n hx hb dJ12_init_2_84 rfl (lv_at hl 2 rfl) ?_
        refine lv_aload_n hx hb dJ12_init_2_85 rfl (lv_at hl 1 rfl) ?_
        refine lv_iconst (v := nI 0) hx hb dJ12_init_2_86 ic0 ?_
        refine lv_iload hx hb dJ12_init_2_87 (lv_at hl 0 rfl) ?_
        refine lv_iconst (v := nI 1) hx hb dJ12_init_2_89 ic1 ?_
        refine lv_ishl hx hb dJ12_init_2_90 ?_
        obtain ⟨⟨b11, S12⟩, hcb11, hf⟩ := bnd_some hf
        have hf := u2_at hf
        refine xr_callSC (rest := [.ref o]) B hX (c_J5_copyOfRange l D S10 b1 (nI 0) (r3 <<< (nI 1 &&& 31)) hcb11) q776 q777 q117 q778 hd_J5_copyOfRange ⟨Nat.le_of_ble_eq_true rfl, Nat.le_of_ble_eq_true rfl⟩ rfl hl.1 rfl (Nat.le_of_ble_eq_true rfl) dJ12_init_2_91 (fun H locs hX => ?_)
        obtain ⟨hk13, hf⟩ := chk_some hf
        obtain ⟨hw14, hf⟩ := chk_some hf
        obtain ⟨S15, eS15, hf⟩ := bd_some hf
        refine xr_putF (S' := S15) (q := (RJ12, TJ12, 2)) (v := va_rf (some b11)) (ty0 := tyJ12) B hnm hX 0 hk13 rfl (by decide) hw14 (by decide) (by rw [eS15]; exact x_Vup_r (k := 21) (j := 0) rfl (by decide)) (fun i h => tyJ12_ok i (Nat.lt_of_lt_of_le h (by decide))) (fun i h1 h2 => nmJ12 i (Nat.lt_of_lt_of_le h1 (by decide)) 0 (by decide) h2) rfl rfl rfl rfl q799 (fun _ h => h) dJ12_init_2_94 (fun H locs hX => ?_)
        refine w_r eS15 ?_
        have hk13 := ks_r eS15 hk13
        have hw14 := kw_r eS15 hw14
        cases hf
        exact hret _ _ _ _ hX dJ12_init_2_97
      · have hf := it_neg c7 hf
        refine lv_aload_n hx hb dJ12_init_2_54 rfl (lv_at hl 2 rfl) ?_
        refine lv_aload_n hx hb dJ12_init_2_55 rfl (lv_at hl 1 rfl) ?_
        refine lv_iconst (v := nI 0) hx hb dJ12_init_2_56 ic0 ?_
        refine lv_iload hx hb dJ12_init_2_57 (lv_at hl 0 rfl) ?_
        cases hf
  · have hf := it_neg c5 hf
    refine lv_aload_n hx hb dJ12_init_2_22 rfl (lv_at hl 2 rfl) ?_
    refine lv_iconst (v := nI 0) hx hb dJ12_init_2_23 ic0 ?_
    obtain ⟨hk16, hf⟩ := chk_some hf
    obtain ⟨hw17, hf⟩ := chk_some hf
    obtain ⟨S18, eS18, hf⟩ := bd_some hf
    refine xr_putF (S' := S18) (q := (RJ12, TJ12, 2)) (v := .int (nI 0)) (ty0 := tyJ12) B hnm hX 1 hk16 rfl (by decide) hw17 (by decide) (by rw [eS18]; exact x_Vup_i (k := 21) (j := 1) rfl (by decide)) (fun i h => tyJ12_ok i (Nat.lt_of_lt_of_le h (by decide))) (fun i h1 h2 => nmJ12 i (Nat.lt_of_lt_of_le h1 (by decide)) 1 (by decide) h2) rfl rfl rfl rfl q800 (fun _ h => h) dJ12_init_2_24 (fun H locs hX => ?_)
    refine w_i eS18 ?_
    have hk2 := ks_i eS18 hk2
    have hk16 := ks_i eS18 hk16
    have hw17 := kw_i eS18 hw17
    refine lv_aload_n hx hb dJ12_init_2_27 rfl (lv_at hl 2 rfl) ?_
    refine lv_aload_n hx hb dJ12_init_2_28 rfl (lv_at hl 1 rfl) ?_
    refine lv_iconst (v := nI 0) hx hb dJ12_init_2_29 ic0 ?_
    refine lv_iload hx hb dJ12_init_2_30 (lv_at hl 0 rfl) ?_
    obtain ⟨⟨b19, S20⟩, hcb19, hf⟩ := bnd_some hf
    have hf := u2_at hf
    refine xr_callSC (rest := [.ref o]) B hX (c_J5_copyOfRange l D S18 b1 (nI 0) r3 hcb19) q776 q777 q117 q778 hd_J5_copyOfRange ⟨Nat.le_of_ble_eq_true rfl, Nat.le_of_ble_eq_true rfl⟩ rfl hl.1 rfl (Nat.le_of_ble_eq_true rfl) dJ12_init_2_32 (fun H locs hX => ?_)
    obtain ⟨hk21, hf⟩ := chk_some hf
    obtain ⟨hw22, hf⟩ := chk_some hf
    obtain ⟨S23, eS23, hf⟩ := bd_some hf
    refine xr_putF (S' := S23) (q := (RJ12, TJ12, 2)) (v := va_rf (some b19)) (ty0 := tyJ12) B hnm hX 0 hk21 rfl (by decide) hw22 (by decide) (by rw [eS23]; exact x_Vup_r (k := 21) (j := 0) rfl (by decide)) (fun i h => tyJ12_ok i (Nat.lt_of_lt_of_le h (by decide))) (fun i h1 h2 => nmJ12 i (Nat.lt_of_lt_of_le h1 (by decide)) 0 (by decide) h2) rfl rfl rfl rfl q799 (fun _ h => h) dJ12_init_2_35 (fun H locs hX => ?_)
    refine w_r eS23 ?_
    have hk21 := ks_r eS23 hk21
    have hw22 := kw_r eS23 hw22
    refine lv_goto (tgt := 97) hx hb dJ12_init_2_38 (by decide) ?_
    cases hf
    exact hret _ _ _ _ hX dJ12_init_2_97
def f_J12_init (S : XS) (o : Nat) (p0 : Nat) : Option XS :=
  bnd (f_J12_init_2 S o p0 none) fun S1 => some S1
set_option maxHeartbeats 4000000 in
set_option maxRecDepth 100000 in
theorem c_J12_init (l : Launch) (D : XD) (S : XS) (o : Nat) (p0 : Nat) {S' : XS} (hf : f_J12_init S o p0 = some S') : x_Met l yJ12_init cJ12_init 2 (Option.none : Option Jvm.ClassFile.FieldType) 4 130 D [.ref o, .ref p0] S none S' := by
  refine x_metV RJ12 (by decide) rfl (Nat.le_of_ble_eq_true rfl) (fun p e s m args below meth c Q B hnm hret H locs hX ls hl => ?_)
  have hx := B.1
  have hb := B.2.1
  have hml := B.2.2.1
  have hown := B.2.2.2.1
  have hts := B.2.2.2.2
  have hl : lv_has ls 2 [(0, .ref o), (1, .ref p0)] := hl
  unfold f_J12_init at hf
  refine lv_aload_n hx hb dJ12_init_0 rfl (lv_at hl 0 rfl) ?_
  refine lv_aload_n hx hb dJ12_init_1 rfl (lv_at hl 1 rfl) ?_
  refine lv_null hx hb dJ12_init_2 ?_
  obtain ⟨S1, hcS1, hf⟩ := bnd_some hf
  refine xr_callIC (rest := []) B hX (c_J12_init_2 l D S o p0 none hcS1) q765 q766 q130 q767 hd_J12_init_2 rfl ⟨Nat.le_of_ble_eq_true rfl, Nat.le_of_ble_eq_true rfl⟩ rfl hl.1 rfl (Nat.le_of_ble_eq_true rfl) dJ12_init_3 (fun H locs hX => ?_)
  cases hf
  exact hret _ _ _ _ hX dJ12_init_6
def f_J11_toString (S : XS) (o : Nat) : Option (Nat × XS) :=
  chk (xz S < xL S ∧ xu S + 4 ≤ xU S) <| bd (xz S) fun a3 => bd (n_c S 21 0 4) fun S2 => bnd (f_J12_init S2 a3 o) fun S6 => some (a3, S6)
set_option maxHeartbeats 4000000 in
set_option maxRecDepth 100000 in
theorem c_J11_toString (l : Launch) (D : XD) (S : XS) (o : Nat) {r : Nat} {S' : XS} (hf : f_J11_toString S o = some (r, S')) : x_Met l yJ11_toString cJ11_toString 1 (Option.some (Jvm.ClassFile.FieldType.object "java/lang/String")) 5 151 D [.ref o] S (some (.ref r)) S' := by
  refine x_metA RJ11 (by decide) rfl (Nat.le_of_ble_eq_true rfl) (Or.inl ⟨_, rfl⟩) (fun p e s m args below meth c Q B hnm hret H locs hX ls hl => ?_)
  have hx := B.1
  have hb := B.2.1
  have hml := B.2.2.1
  have hown := B.2.2.2.1
  have hts := B.2.2.2.2
  have hl : lv_has ls 1 [(0, .ref o)] := hl
  unfold f_J11_toString at hf
  obtain ⟨hr1, hf⟩ := chk_some hf
  obtain ⟨a3, ea3, hf⟩ := bd_some hf
  obtain ⟨S2, eS2, hf⟩ := bd_some hf
  have hk4 := ks_new eS2 ea3
  have hw5 := kw_new hX eS2 ea3
  refine xr_new (q := (RJ12, TJ12, 2)) (N := 4) (ty0 := tyJ12) B hX 21 rfl (by decide) (fun i h => tyJ12_ok i (Nat.lt_of_lt_of_le h (by decide))) xd_21 q760 q761 q130 hr1 eS2 dJ11_toString_0 (fun H hX => ?_)
  refine W.eq (g2 := F0 m 3 ls [.ref a3]) (by rw [ea3]; first | done | rfl) ?_
  refine lv_dup hx hb dJ11_toString_3 rfl ?_
  refine lv_aload_n hx hb dJ11_toString_4 rfl (lv_at hl 0 rfl) ?_
  obtain ⟨S6, hcS6, hf⟩ := bnd_some hf
  refine xr_callIC (rest := [.ref a3]) B hX (c_J12_init l D S2 a3 o hcS6) q762 q763 q130 q764 hd_J12_init rfl ⟨Nat.le_of_ble_eq_true rfl, Nat.le_of_ble_eq_true rfl⟩ rfl hl.1 rfl (Nat.le_of_ble_eq_true rfl) dJ11_toString_5 (fun H locs hX => ?_)
  cases hf
  exact hret _ _ _ _ hX dJ11_toString_8
def f_J7_checkIndex_J9_2 (p2 : Option Nat)  : Option Int32 :=
  (oc (p2) (none) fun b5 => none)
def f_J7_checkIndex (p0 : Int32) (p1 : Int32) (p2 : Option Nat) : Option Int32 :=
  (if p0 < 0 then f_J7_checkIndex_J9_2 p2 else (if p0 < p1 then some p0 else f_J7_checkIndex_J9_2 p2))
abbrev r_J7_checkIndex : Room := { frames := 0, cells := 0, slots := 0, locals := 0 }
set_option maxHeartbeats 4000000 in
set_option maxRecDepth 100000 in
theorem c_J7_checkIndex (l : Launch) (p0 : Int32) (p1 : Int32) (p2 : Option Nat) {r : Int32} (hf : f_J7_checkIndex p0 p1 p2 = some r) : p_Met l yJ7_checkIndex cJ7_checkIndex 3 (Option.some Jvm.ClassFile.FieldType.int) r_J7_checkIndex [.int p0, .int p1, va_rf p2] (some (.int r)) := by
  refine p_metI (F := 0) (L := 0) RJ7 (by decide) rfl (by cases p2 <;> exact Nat.le_of_ble_eq_true rfl) (fun p e s m args below meth c Q B hret ls hl => ?_)
  have hx := B.1
  have hb := B.2.1
  have hml := B.2.2.1
  have hown := B.2.2.2.1
  have hts := B.2.2.2.2
  have hl : lv_has ls 3 [(0, .int p0), (1, .int p1), (2, va_rf p2)] := hl
  unfold f_J7_checkIndex at hf
  refine lv_iload_n hx hb dJ7_checkIndex_0 rfl (lv_at hl 0 rfl) ?_
  have j2 : f_J7_checkIndex_J9_2 p2 = some r → ∀ (ls : Array Slot), lv_has ls 3 [(0, .int p0), (1, .int p1), (2, va_rf p2)] → W p l e r_J7_checkIndex s m args below meth c s.heap [] 0 0 Q (F0 m 9 ls []) := by
    intro hf
    intro ls hl
    unfold f_J7_checkIndex_J9_2 at hf
    rcases ho5 : p2 with _ | b5
    · have hf := oc_none ho5 hf
      rw [ho5] at hl
      refine lv_aload_nN hx hb dJ7_checkIndex_9 rfl (lv_at hl 2 rfl) ?_
      refine lv_iload_n hx hb dJ7_checkIndex_10 rfl (lv_at hl 0 rfl) ?_
      refine lv_iload_n hx hb dJ7_checkIndex_11 rfl (lv_at hl 1 rfl) ?_
      cases hf
    · have hf := oc_some ho5 hf
      rw [ho5] at hl
      refine lv_aload_n hx hb dJ7_checkIndex_9 rfl (lv_at hl 2 rfl) ?_
      refine lv_iload_n hx hb dJ7_checkIndex_10 rfl (lv_at hl 0 rfl) ?_
      refine lv_iload_n hx hb dJ7_checkIndex_11 rfl (lv_at hl 1 rfl) ?_
      cases hf
  refine lv_if_lt (tgt := 9) hx hb dJ7_checkIndex_1 (by decide) (fun c1 => ?_) (fun c1 => ?_)
  · have hf := it_pos c1 hf
    exact j2  hf _ (lv_sub hl [0, 1, 2] rfl)
  · have hf := it_neg c1 hf
    refine lv_iload_n hx hb dJ7_checkIndex_4 rfl (lv_at hl 0 rfl) ?_
    refine lv_iload_n hx hb dJ7_checkIndex_5 rfl (lv_at hl 1 rfl) ?_
    refine lv_icmp_lt (tgt := 16) hx hb dJ7_checkIndex_6 (by decide) (fun c3 => ?_) (fun c3 => ?_)
    · have hf := it_pos c3 hf
      refine lv_iload_n hx hb dJ7_checkIndex_16 rfl (lv_at hl 0 rfl) ?_
      cases hf
      exact hret _ _ rfl dJ7_checkIndex_17
    · have hf := it_neg c3 hf
      exact j2  hf _ (lv_sub hl [0, 1, 2] rfl)
def f_J12_checkIndex (S : XS) (p0 : Int32) (p1 : Int32) : Option Unit :=
  bnd (f_J7_checkIndex p0 p1 (xs S 17)) fun r1 => some ()
set_option maxHeartbeats 4000000 in
set_option maxRecDepth 100000 in
theorem c_J12_checkIndex (l : Launch) (D : XD) (S : XS) (p0 : Int32) (p1 : Int32) {r : Unit} (hf : f_J12_checkIndex S p0 p1 = some r) : x_Met l yJ12_checkIndex cJ12_checkIndex 2 (Option.none : Option Jvm.ClassFile.FieldType) 1 22 D [.int p0, .int p1] S none S := by
  refine x_metV RJ12 (by decide) rfl (Nat.le_of_ble_eq_true rfl) (fun p e s m args below meth c Q B hnm hret H locs hX ls hl => ?_)
  have hx := B.1
  have hb := B.2.1
  have hml := B.2.2.1
  have hown := B.2.2.2.1
  have hts := B.2.2.2.2
  have hl : lv_has ls 2 [(0, .int p0), (1, .int p1)] := hl
  unfold f_J12_checkIndex at hf
  refine lv_iload_n hx hb dJ12_checkIndex_0 rfl (lv_at hl 0 rfl) ?_
  refine lv_iload_n hx hb dJ12_checkIndex_1 rfl (lv_at hl 1 rfl) ?_
  refine xr_gets B hX (x_stat hX 17 rfl) q732 dJ12_checkIndex_2 ?_
  obtain ⟨r1, hcr1, hf⟩ := bnd_some hf
  refine pr_callS (rest := []) B (c_J7_checkIndex l p0 p1 (xs S 17) hcr1) (va_cwS 3 hts (lw_S q755 q531 q120 q532) rfl rfl rfl hd_J7_checkIndex ⟨Nat.le_of_ble_eq_true rfl, Nat.le_of_ble_eq_true rfl⟩) rfl hl.1 rfl (Nat.le_of_ble_eq_true rfl) dJ12_checkIndex_5 (x_room0 hX) ?_
  refine lv_pop hx hb dJ12_checkIndex_8 rfl ?_
  cases hf
  exact hret _ _ _ _ hX dJ12_checkIndex_9
def f_J14_equals_L9 (p0 : Nat) (p1 : Nat) (S : XS) (x4 : Int32) : Option ((Int32) ⊕ ((Unit) ⊕ (Unit))) :=
  (if (nI (xn S p0)) ≤ x4 then some (.inr (.inr ())) else ald (xn S p0) (xi S 51 p0) x4 fun v6 => ald (xn S p1) (xi S 51 p1) x4 fun v7 => (if v6 = v7 then bd (x4 + nI 1) fun x9 => some (.inl x9) else some (.inr (.inl ()))))
def f_J14_equals (S : XS) (p0 : Nat) (p1 : Nat) : Option Int32 :=
  chk (xk S p0 = 51) <| chk (xk S p1 = 51) <| (if (nI (xn S p0)) = (nI (xn S p1)) then bnd (wO (fun t : Int32 => f_J14_equals_L9 p0 p1 S t) fu (nI 0)) (Sum.elim (fun _ => some (nI 0)) (fun _ => some (nI 1))) else some (nI 0))
set_option maxHeartbeats 4000000 in
set_option maxRecDepth 100000 in
theorem c_J14_equals (l : Launch) (D : XD) (S : XS) (p0 : Nat) (p1 : Nat) {r : Int32} (hf : f_J14_equals S p0 p1 = some r) : x_Met l yJ14_equals cJ14_equals 3 (Option.some Jvm.ClassFile.FieldType.boolean) 0 0 D [.ref p0, .ref p1] S (some (.int r)) S := by
  refine x_metI RJ14 (by decide) rfl (Nat.le_of_ble_eq_true rfl) (fun p e s m args below meth c Q B hnm hret H locs hX ls hl => ?_)
  have hx := B.1
  have hb := B.2.1
  have hml := B.2.2.1
  have hown := B.2.2.2.1
  have hts := B.2.2.2.2
  have hl : lv_has ls 3 [(0, .ref p0), (1, .ref p1)] := hl
  unfold f_J14_equals at hf
  refine lv_aload_n hx hb dJ14_equals_0 rfl (lv_at hl 0 rfl) ?_
  obtain ⟨hk1, hf⟩ := chk_some hf
  refine xr_alen B hX hk1 rfl (by decide) dJ14_equals_1 ?_
  refine lv_aload_n hx hb dJ14_equals_2 rfl (lv_at hl 1 rfl) ?_
  obtain ⟨hk2, hf⟩ := chk_some hf
  refine xr_alen B hX hk2 rfl (by decide) dJ14_equals_3 ?_
  refine lv_icmp_ne (tgt := 34) hx hb dJ14_equals_4 (by decide) (fun c3 => ?_) (fun c3 => ?_)
  · have hf := it_neg c3 hf
    refine lv_iconst (v := nI 0) hx hb dJ14_equals_34 ic0 ?_
    cases hf
    exact hret _ _ _ _ rfl hX dJ14_equals_35
  · have hf := it_pos c3 hf
    refine lv_iconst (v := nI 0) hx hb dJ14_equals_7 ic0 ?_
    refine lv_istore_n (lv' := [(2, .int (nI 0)), (0, .ref p0), (1, .ref p1)]) hx hb dJ14_equals_8 rfl hl (by decide) rfl (fun ls hl => ?_)
    obtain ⟨y11, hxy11, hf⟩ := bnd_some hf
    have hy11 : (Sum.elim (fun t : Unit => ∀ (H : Heap) (locs : List Loc) (ls : Array Slot), x_I D S s H locs S → lv_has ls 3 [] → W p l e (x_R 0 0 S) s m args below meth c H locs (xz S - xz S) (xu S - xu S) Q (F0 m 24 ls [])) (fun t : Unit => ∀ (H : Heap) (locs : List Loc) (ls : Array Slot), x_I D S s H locs S → lv_has ls 3 [] → W p l e (x_R 0 0 S) s m args below meth c H locs (xz S - xz S) (xu S - xu S) Q (F0 m 32 ls []))) y11 := by
      rcases y11 with _ | _
      · have hf := el_l hf
        intro H locs ls hX hl
        refine lv_iconst (v := nI 0) hx hb dJ14_equals_24 ic0 ?_
        cases hf
        exact hret _ _ _ _ rfl hX dJ14_equals_25
      · have hf := el_r hf
        intro H locs ls hX hl
        refine lv_iconst (v := nI 1) hx hb dJ14_equals_32 ic1 ?_
        cases hf
        exact hret _ _ _ _ rfl hX dJ14_equals_33
    refine lp_W (step := (fun t : Int32 => f_J14_equals_L9 p0 p1 S t)) (fun t : Int32 => ∀ (H : Heap) (locs : List Loc) (ls : Array Slot), x_I D S s H locs S → lv_has ls 3 [(0, .ref p0), (1, .ref p1), (2, .int t)] → W p l e (x_R 0 0 S) s m args below meth c H locs (xz S - xz S) (xu S - xu S) Q (F0 m 9 ls [])) (Sum.elim (fun t : Unit => ∀ (H : Heap) (locs : List Loc) (ls : Array Slot), x_I D S s H locs S → lv_has ls 3 [] → W p l e (x_R 0 0 S) s m args below meth c H locs (xz S - xz S) (xu S - xu S) Q (F0 m 24 ls [])) (fun t : Unit => ∀ (H : Heap) (locs : List Loc) (ls : Array Slot), x_I D S s H locs S → lv_has ls 3 [] → W p l e (x_R 0 0 S) s m args below meth c H locs (xz S - xz S) (xu S - xu S) Q (F0 m 32 ls []))) ?_ fu (nI 0) y11 hxy11 hy11 _ _ _ hX (lv_sub hl [1, 2, 0] rfl)
    clear hf hxy11 hy11
    rintro x4 oo (hf : f_J14_equals_L9 p0 p1 S x4 = some oo) hk
    intro H locs ls hX hl
    unfold f_J14_equals_L9 at hf
    refine lv_iload_n hx hb dJ14_equals_9 rfl (lv_at hl 2 rfl) ?_
    refine lv_aload_n hx hb dJ14_equals_10 rfl (lv_at hl 0 rfl) ?_
    refine xr_alen B hX hk1 rfl (by decide) dJ14_equals_11 ?_
    refine lv_icmp_ge (tgt := 32) hx hb dJ14_equals_12 (by decide) (fun c5 => ?_) (fun c5 => ?_)
    · have hf := it_pos c5 hf
      cases hf
      exact hk _ _ _ hX (lv_sub hl [] rfl)
    · have hf := it_neg c5 hf
      refine lv_aload_n hx hb dJ14_equals_15 rfl (lv_at hl 0 rfl) ?_
      refine lv_iload_n hx hb dJ14_equals_16 rfl (lv_at hl 2 rfl) ?_
      obtain ⟨v6, ev6, hiv6, hf⟩ := ald_some hf
      refine xr_bald B hX hk1 hiv6 ev6 dJ14_equals_17 ?_
      refine lv_aload_n hx hb dJ14_equals_18 rfl (lv_at hl 1 rfl) ?_
      refine lv_iload_n hx hb dJ14_equals_19 rfl (lv_at hl 2 rfl) ?_
      obtain ⟨v7, ev7, hiv7, hf⟩ := ald_some hf
      refine xr_bald B hX hk2 hiv7 ev7 dJ14_equals_20 ?_
      refine lv_icmp_eq (tgt := 26) hx hb dJ14_equals_21 (by decide) (fun c8 => ?_) (fun c8 => ?_)
      · have hf := it_pos c8 hf
        obtain ⟨x9, ex9, hf⟩ := bd_some hf
        refine lv_iinc (v := x9) (lv' := [(2, .int x9), (0, .ref p0), (1, .ref p1)]) hx hb dJ14_equals_26 hl (k := 2) rfl (by rw [ex9]; first | done | rfl) (by decide) rfl (fun ls hl => ?_)
        refine lv_goto (tgt := 9) hx hb dJ14_equals_29 (by decide) ?_
        cases hf
        exact hk _ _ _ hX (lv_sub hl [1, 2, 0] rfl)
      · have hf := it_neg c8 hf
        cases hf
        exact hk _ _ _ hX (lv_sub hl [] rfl)
def f_J12_equals (S : XS) (o : Nat) (p0 : Nat) : Option Int32 :=
  (if (some o : Option Nat) = some p0 then some (nI 1) else chk (xk S p0 = 21) <| chk (xk S o = 21) <| (if (xi S 2101 o 0) = (xi S 2101 p0 0) then bnd (xr S 2100 o 0) fun b7 => bnd (xr S 2100 p0 0) fun b8 => bnd (f_J14_equals S b7 b8) fun r9 => (if r9 = 0 then some (nI 0) else some (nI 1)) else some (nI 0)))
set_option maxHeartbeats 4000000 in
set_option maxRecDepth 100000 in
theorem c_J12_equals (l : Launch) (D : XD) (S : XS) (o : Nat) (p0 : Nat) {r : Int32} (hf : f_J12_equals S o p0 = some r) : x_Met l yJ12_equals cJ12_equals 3 (Option.some Jvm.ClassFile.FieldType.boolean) 1 22 D [.ref o, .ref p0] S (some (.int r)) S := by
  refine x_metI RJ12 (by decide) rfl (Nat.le_of_ble_eq_true rfl) (fun p e s m args below meth c Q B hnm hret H locs hX ls hl => ?_)
  have hx := B.1
  have hb := B.2.1
  have hml := B.2.2.1
  have hown := B.2.2.2.1
  have hts := B.2.2.2.2
  have hl : lv_has ls 3 [(0, .ref o), (1, .ref p0)] := hl
  unfold f_J12_equals at hf
  refine lv_aload_n hx hb dJ12_equals_0 rfl (lv_at hl 0 rfl) ?_
  refine lv_aload_n hx hb dJ12_equals_1 rfl (lv_at hl 1 rfl) ?_
  refine lv_acmp_ne (rx := some o) (ry := some p0) (tgt := 7) hx hb dJ12_equals_2 (by decide) (fun c1 => ?_) (fun c1 => ?_)
  · have hf := it_neg c1 hf
    refine lv_aload_n hx hb dJ12_equals_7 rfl (lv_at hl 1 rfl) ?_
    obtain ⟨hk2, hf⟩ := chk_some hf
    refine xr_instY (q := (RJ12, TJ12, 2)) B hX hk2 rfl (by decide) q945 (Or.inr ⟨rfl, by decide⟩) dJ12_equals_8 ?_
    refine lv_if_eq (tgt := 54) hx hb dJ12_equals_11 (by decide) (fun c3 => ?_) (fun c3 => ?_)
    · exact absurd c3 (by decide)
    · refine lv_aload_n hx hb dJ12_equals_14 rfl (lv_at hl 1 rfl) ?_
      refine xr_castY (q := (RJ12, TJ12, 2)) B hX hk2 rfl (by decide) q945 (Or.inr ⟨rfl, by decide⟩) dJ12_equals_15 ?_
      refine lv_astore_n (lv' := [(2, .ref p0), (0, .ref o), (1, .ref p0)]) hx hb dJ12_equals_18 rfl hl (by decide) rfl (fun ls hl => ?_)
      refine xr_gets B hX (v := .int (nI 1)) hX.2.2.2.2.2.2.2.2.1 q785 dJ12_equals_19 ?_
      refine lv_if_eq (tgt := 36) hx hb dJ12_equals_22 (by decide) (fun c4 => ?_) (fun c4 => ?_)
      · exact absurd c4 (by decide)
      · refine lv_aload_n hx hb dJ12_equals_25 rfl (lv_at hl 1 rfl) ?_
        obtain ⟨hk5, hf⟩ := chk_some hf
        refine xr_get (q := (RJ12, TJ12, 2)) B hX 1 hk5 rfl (by decide) (by decide) (x_Vi rfl (by decide)) q800 (fun _ h => h) dJ12_equals_26 ?_
        refine lv_aload_n hx hb dJ12_equals_29 rfl (lv_at hl 0 rfl) ?_
        refine xr_get (q := (RJ12, TJ12, 2)) B hX 1 hk2 rfl (by decide) (by decide) (x_Vi rfl (by decide)) q800 (fun _ h => h) dJ12_equals_30 ?_
        refine lv_icmp_ne (tgt := 54) hx hb dJ12_equals_33 (by decide) (fun c6 => ?_) (fun c6 => ?_)
        · have hf := it_neg c6 hf
          refine lv_iconst (v := nI 0) hx hb dJ12_equals_54 ic0 ?_
          cases hf
          exact hret _ _ _ _ rfl hX dJ12_equals_55
        · have hf := it_pos c6 hf
          refine lv_aload_n hx hb dJ12_equals_36 rfl (lv_at hl 1 rfl) ?_
          obtain ⟨b7, hb7, hf⟩ := bnd_some hf
          refine xr_get (q := (RJ12, TJ12, 2)) B hX 0 hk5 rfl (by decide) (by decide) (v := .ref b7) (x_Vr (c := 21) (j := 0) rfl (by decide) hb7) q799 (fun _ h => h) dJ12_equals_37 ?_
          refine lv_aload_n hx hb dJ12_equals_40 rfl (lv_at hl 0 rfl) ?_
          obtain ⟨b8, hb8, hf⟩ := bnd_some hf
          refine xr_get (q := (RJ12, TJ12, 2)) B hX 0 hk2 rfl (by decide) (by decide) (v := .ref b8) (x_Vr (c := 21) (j := 0) rfl (by decide) hb8) q799 (fun _ h => h) dJ12_equals_41 ?_
          obtain ⟨r9, hcr9, hf⟩ := bnd_some hf
          refine xr_callSC (rest := []) B hX (c_J14_equals l D S b7 b8 hcr9) q946 q947 q132 q948 hd_J14_equals ⟨Nat.le_of_ble_eq_true rfl, Nat.le_of_ble_eq_true rfl⟩ rfl hl.1 rfl (Nat.le_of_ble_eq_true rfl) dJ12_equals_44 (fun H locs hX => ?_)
          refine lv_if_eq (tgt := 54) hx hb dJ12_equals_47 (by decide) (fun c10 => ?_) (fun c10 => ?_)
          · have hf := it_pos c10 hf
            refine lv_iconst (v := nI 0) hx hb dJ12_equals_54 ic0 ?_
            cases hf
            exact hret _ _ _ _ rfl hX dJ12_equals_55
          · have hf := it_neg c10 hf
            refine lv_iconst (v := nI 1) hx hb dJ12_equals_50 ic1 ?_
            refine lv_goto (tgt := 55) hx hb dJ12_equals_51 (by decide) ?_
            cases hf
            exact hret _ _ _ _ rfl hX dJ12_equals_55
  · have hf := it_pos c1 hf
    refine lv_iconst (v := nI 1) hx hb dJ12_equals_5 ic1 ?_
    cases hf
    exact hret _ _ _ _ rfl hX dJ12_equals_6
def f_J12_coder (S : XS) (o : Nat) : Option Int32 :=
  chk (xk S o = 21) <| chk (vp_nar .byte (xi S 2101 o 0) = (xi S 2101 o 0)) <| some (xi S 2101 o 0)
set_option maxHeartbeats 4000000 in
set_option maxRecDepth 100000 in
theorem c_J12_coder (l : Launch) (D : XD) (S : XS) (o : Nat) {r : Int32} (hf : f_J12_coder S o = some r) : x_Met l yJ12_coder cJ12_coder 1 (Option.some Jvm.ClassFile.FieldType.byte) 0 0 D [.ref o] S (some (.int r)) S := by
  refine x_metI RJ12 (by decide) rfl (Nat.le_of_ble_eq_true rfl) (fun p e s m args below meth c Q B hnm hret H locs hX ls hl => ?_)
  have hx := B.1
  have hb := B.2.1
  have hml := B.2.2.1
  have hown := B.2.2.2.1
  have hts := B.2.2.2.2
  have hl : lv_has ls 1 [(0, .ref o)] := hl
  unfold f_J12_coder at hf
  refine xr_gets B hX (v := .int (nI 1)) hX.2.2.2.2.2.2.2.2.1 q785 dJ12_coder_0 ?_
  refine lv_if_eq (tgt := 13) hx hb dJ12_coder_3 (by decide) (fun c1 => ?_) (fun c1 => ?_)
  · exact absurd c1 (by decide)
  · refine lv_aload_n hx hb dJ12_coder_6 rfl (lv_at hl 0 rfl) ?_
    obtain ⟨hk2, hf⟩ := chk_some hf
    refine xr_get (q := (RJ12, TJ12, 2)) B hX 1 hk2 rfl (by decide) (by decide) (x_Vi rfl (by decide)) q800 (fun _ h => h) dJ12_coder_7 ?_
    refine lv_goto (tgt := 14) hx hb dJ12_coder_10 (by decide) ?_
    obtain ⟨hb3, hf⟩ := chk_some hf
    cases hf
    exact hret _ _ _ _ (nar_b hb3) hX dJ12_coder_14
def f_J12_length (S : XS) (o : Nat) : Option Int32 :=
  chk (xk S o = 21) <| bnd (xr S 2100 o 0) fun b2 => chk (xk S b2 = 51) <| bnd (f_J12_coder S o) fun r4 => some ((nI (xn S b2)) >>> (r4 &&& 31))
set_option maxHeartbeats 4000000 in
set_option maxRecDepth 100000 in
theorem c_J12_length (l : Launch) (D : XD) (S : XS) (o : Nat) {r : Int32} (hf : f_J12_length S o = some r) : x_Met l yJ12_length cJ12_length 1 (Option.some Jvm.ClassFile.FieldType.int) 1 20 D [.ref o] S (some (.int r)) S := by
  refine x_metI RJ12 (by decide) rfl (Nat.le_of_ble_eq_true rfl) (fun p e s m args below meth c Q B hnm hret H locs hX ls hl => ?_)
  have hx := B.1
  have hb := B.2.1
  have hml := B.2.2.1
  have hown := B.2.2.2.1
  have hts := B.2.2.2.2
  have hl : lv_has ls 1 [(0, .ref o)] := hl
  unfold f_J12_length at hf
  refine lv_aload_n hx hb dJ12_length_0 rfl (lv_at hl 0 rfl) ?_
  obtain ⟨hk1, hf⟩ := chk_some hf
  obtain ⟨b2, hb2, hf⟩ := bnd_some hf
  refine xr_get (q := (RJ12, TJ12, 2)) B hX 0 hk1 rfl (by decide) (by decide) (v := .ref b2) (x_Vr (c := 21) (j := 0) rfl (by decide) hb2) q799 (fun _ h => h) dJ12_length_1 ?_
  obtain ⟨hk3, hf⟩ := chk_some hf
  refine xr_alen B hX hk3 rfl (by decide) dJ12_length_4 ?_
  refine lv_aload_n hx hb dJ12_length_5 rfl (lv_at hl 0 rfl) ?_
  obtain ⟨r4, hcr4, hf⟩ := bnd_some hf
  refine xr_callVC (rest := [.int (nI (xn S b2))]) (q := (RJ12, TJ12, 2)) B hX (c_J12_coder l D S o hcr4) hk1 rfl (by decide) q986 q987 (Or.inl q988) q130 q989 hd_J12_coder ⟨Nat.le_of_ble_eq_true rfl, Nat.le_of_ble_eq_true rfl⟩ rfl hl.1 rfl (Nat.le_of_ble_eq_true rfl) dJ12_length_6 (fun H locs hX => ?_)
  refine lv_ishr hx hb dJ12_length_9 ?_
  cases hf
  exact hret _ _ _ _ rfl hX dJ12_length_10
def f_J12_isLatin1 (S : XS) (o : Nat) : Option Int32 :=
  chk (xk S o = 21) <| (if (xi S 2101 o 0) = 0 then some (nI 1) else some (nI 0))
set_option maxHeartbeats 4000000 in
set_option maxRecDepth 100000 in
theorem c_J12_isLatin1 (l : Launch) (D : XD) (S : XS) (o : Nat) {r : Int32} (hf : f_J12_isLatin1 S o = some r) : x_Met l yJ12_isLatin1 cJ12_isLatin1 1 (Option.some Jvm.ClassFile.FieldType.boolean) 0 0 D [.ref o] S (some (.int r)) S := by
  refine x_metI RJ12 (by decide) rfl (Nat.le_of_ble_eq_true rfl) (fun p e s m args below meth c Q B hnm hret H locs hX ls hl => ?_)
  have hx := B.1
  have hb := B.2.1
  have hml := B.2.2.1
  have hown := B.2.2.2.1
  have hts := B.2.2.2.2
  have hl : lv_has ls 1 [(0, .ref o)] := hl
  unfold f_J12_isLatin1 at hf
  refine xr_gets B hX (v := .int (nI 1)) hX.2.2.2.2.2.2.2.2.1 q785 dJ12_isLatin1_0 ?_
  refine lv_if_eq (tgt := 17) hx hb dJ12_isLatin1_3 (by decide) (fun c1 => ?_) (fun c1 => ?_)
  · exact absurd c1 (by decide)
  · refine lv_aload_n hx hb dJ12_isLatin1_6 rfl (lv_at hl 0 rfl) ?_
    obtain ⟨hk2, hf⟩ := chk_some hf
    refine xr_get (q := (RJ12, TJ12, 2)) B hX 1 hk2 rfl (by decide) (by decide) (x_Vi rfl (by decide)) q800 (fun _ h => h) dJ12_isLatin1_7 ?_
    refine lv_if_ne (tgt := 17) hx hb dJ12_isLatin1_10 (by decide) (fun c3 => ?_) (fun c3 => ?_)
    · have hf := it_neg c3 hf
      refine lv_iconst (v := nI 0) hx hb dJ12_isLatin1_17 ic0 ?_
      cases hf
      exact hret _ _ _ _ rfl hX dJ12_isLatin1_18
    · have hf := it_pos c3 hf
      refine lv_iconst (v := nI 1) hx hb dJ12_isLatin1_13 ic1 ?_
      refine lv_goto (tgt := 18) hx hb dJ12_isLatin1_14 (by decide) ?_
      cases hf
      exact hret _ _ _ _ rfl hX dJ12_isLatin1_18
def f_J14_charAt (S : XS) (p0 : Nat) (p1 : Int32) : Option Int32 :=
  chk (xk S p0 = 51) <| bnd (f_J12_checkIndex S p1 (nI (xn S p0))) fun r2 => ald (xn S p0) (xi S 51 p0) p1 fun v3 => chk (vp_nar .char (((v3 &&& nI 255).toUInt32 % 65536).toInt32) = ((v3 &&& nI 255).toUInt32 % 65536).toInt32) <| some (((v3 &&& nI 255).toUInt32 % 65536).toInt32)
set_option maxHeartbeats 4000000 in
set_option maxRecDepth 100000 in
theorem c_J14_charAt (l : Launch) (D : XD) (S : XS) (p0 : Nat) (p1 : Int32) {r : Int32} (hf : f_J14_charAt S p0 p1 = some r) : x_Met l yJ14_charAt cJ14_charAt 2 (Option.some Jvm.ClassFile.FieldType.char) 2 43 D [.ref p0, .int p1] S (some (.int r)) S := by
  refine x_metI RJ14 (by decide) rfl (Nat.le_of_ble_eq_true rfl) (fun p e s m args below meth c Q B hnm hret H locs hX ls hl => ?_)
  have hx := B.1
  have hb := B.2.1
  have hml := B.2.2.1
  have hown := B.2.2.2.1
  have hts := B.2.2.2.2
  have hl : lv_has ls 2 [(0, .ref p0), (1, .int p1)] := hl
  unfold f_J14_charAt at hf
  refine lv_iload_n hx hb dJ14_charAt_0 rfl (lv_at hl 1 rfl) ?_
  refine lv_aload_n hx hb dJ14_charAt_1 rfl (lv_at hl 0 rfl) ?_
  obtain ⟨hk1, hf⟩ := chk_some hf
  refine xr_alen B hX hk1 rfl (by decide) dJ14_charAt_2 ?_
  obtain ⟨r2, hcr2, hf⟩ := bnd_some hf
  refine xr_callSC (rest := []) B hX (c_J12_checkIndex l D S p1 (nI (xn S p0)) hcr2) q1001 q753 q130 q754 hd_J12_checkIndex ⟨Nat.le_of_ble_eq_true rfl, Nat.le_of_ble_eq_true rfl⟩ rfl hl.1 rfl (Nat.le_of_ble_eq_true rfl) dJ14_charAt_3 (fun H locs hX => ?_)
  refine lv_aload_n hx hb dJ14_charAt_6 rfl (lv_at hl 0 rfl) ?_
  refine lv_iload_n hx hb dJ14_charAt_7 rfl (lv_at hl 1 rfl) ?_
  obtain ⟨v3, ev3, hiv3, hf⟩ := ald_some hf
  refine xr_bald B hX hk1 hiv3 ev3 dJ14_charAt_8 ?_
  refine lv_sipush (v := nI 255) hx hb dJ14_charAt_9 sp255 ?_
  refine lv_iand hx hb dJ14_charAt_12 ?_
  refine lv_i2c (v := ((v3 &&& nI 255).toUInt32 % 65536).toInt32) hx hb dJ14_charAt_13 rfl ?_
  obtain ⟨hb4, hf⟩ := chk_some hf
  cases hf
  exact hret _ _ _ _ (nar_c hb4) hX dJ14_charAt_14
def f_J12_charAt (S : XS) (o : Nat) (p0 : Int32) : Option Int32 :=
  chk (xk S o = 21) <| bnd (f_J12_isLatin1 S o) fun r1 => (if r1 = 0 then bnd (xr S 2100 o 0) fun b4 => none else bnd (xr S 2100 o 0) fun b5 => bnd (f_J14_charAt S b5 p0) fun r6 => chk (vp_nar .char r6 = r6) <| some r6)
set_option maxHeartbeats 4000000 in
set_option maxRecDepth 100000 in
theorem c_J12_charAt (l : Launch) (D : XD) (S : XS) (o : Nat) (p0 : Int32) {r : Int32} (hf : f_J12_charAt S o p0 = some r) : x_Met l yJ12_charAt cJ12_charAt 2 (Option.some Jvm.ClassFile.FieldType.char) 3 64 D [.ref o, .int p0] S (some (.int r)) S := by
  refine x_metI RJ12 (by decide) rfl (Nat.le_of_ble_eq_true rfl) (fun p e s m args below meth c Q B hnm hret H locs hX ls hl => ?_)
  have hx := B.1
  have hb := B.2.1
  have hml := B.2.2.1
  have hown := B.2.2.2.1
  have hts := B.2.2.2.2
  have hl : lv_has ls 2 [(0, .ref o), (1, .int p0)] := hl
  unfold f_J12_charAt at hf
  refine lv_aload_n hx hb dJ12_charAt_0 rfl (lv_at hl 0 rfl) ?_
  obtain ⟨hk2, hf⟩ := chk_some hf
  obtain ⟨r1, hcr1, hf⟩ := bnd_some hf
  refine xr_callVC (rest := []) (q := (RJ12, TJ12, 2)) B hX (c_J12_isLatin1 l D S o hcr1) hk2 rfl (by decide) q994 q995 (Or.inl q996) q130 q997 hd_J12_isLatin1 ⟨Nat.le_of_ble_eq_true rfl, Nat.le_of_ble_eq_true rfl⟩ rfl hl.1 rfl (Nat.le_of_ble_eq_true rfl) dJ12_charAt_1 (fun H locs hX => ?_)
  refine lv_if_eq (tgt := 16) hx hb dJ12_charAt_4 (by decide) (fun c3 => ?_) (fun c3 => ?_)
  · have hf := it_pos c3 hf
    refine lv_aload_n hx hb dJ12_charAt_16 rfl (lv_at hl 0 rfl) ?_
    obtain ⟨b4, hb4, hf⟩ := bnd_some hf
    refine xr_get (q := (RJ12, TJ12, 2)) B hX 0 hk2 rfl (by decide) (by decide) (v := .ref b4) (x_Vr (c := 21) (j := 0) rfl (by decide) hb4) q799 (fun _ h => h) dJ12_charAt_17 ?_
    refine lv_iload_n hx hb dJ12_charAt_20 rfl (lv_at hl 1 rfl) ?_
    cases hf
  · have hf := it_neg c3 hf
    refine lv_aload_n hx hb dJ12_charAt_7 rfl (lv_at hl 0 rfl) ?_
    obtain ⟨b5, hb5, hf⟩ := bnd_some hf
    refine xr_get (q := (RJ12, TJ12, 2)) B hX 0 hk2 rfl (by decide) (by decide) (v := .ref b5) (x_Vr (c := 21) (j := 0) rfl (by decide) hb5) q799 (fun _ h => h) dJ12_charAt_8 ?_
    refine lv_iload_n hx hb dJ12_charAt_11 rfl (lv_at hl 1 rfl) ?_
    obtain ⟨r6, hcr6, hf⟩ := bnd_some hf
    refine xr_callSC (rest := []) B hX (c_J14_charAt l D S b5 p0 hcr6) q998 q999 q132 q1000 hd_J14_charAt ⟨Nat.le_of_ble_eq_true rfl, Nat.le_of_ble_eq_true rfl⟩ rfl hl.1 rfl (Nat.le_of_ble_eq_true rfl) dJ12_charAt_12 (fun H locs hX => ?_)
    obtain ⟨hb7, hf⟩ := chk_some hf
    cases hf
    exact hret _ _ _ _ (nar_c hb7) hX dJ12_charAt_15
def f_J14_canEncode_2 (p0 : Int32) : Option Int32 :=
  (if p0 < 0 then some (nI 0) else (if nI 255 < p0 then some (nI 0) else some (nI 1)))
abbrev r_J14_canEncode_2 : Room := { frames := 0, cells := 0, slots := 0, locals := 0 }
set_option maxHeartbeats 4000000 in
set_option maxRecDepth 100000 in
theorem c_J14_canEncode_2 (l : Launch) (p0 : Int32) {r : Int32} (hf : f_J14_canEncode_2 p0 = some r) : p_Met l yJ14_canEncode_2 cJ14_canEncode_2 1 (Option.some Jvm.ClassFile.FieldType.boolean) r_J14_canEncode_2 [.int p0] (some (.int r)) := by
  refine p_metI (F := 0) (L := 0) RJ14 (by decide) rfl (Nat.le_of_ble_eq_true rfl) (fun p e s m args below meth c Q B hret ls hl => ?_)
  have hx := B.1
  have hb := B.2.1
  have hml := B.2.2.1
  have hown := B.2.2.2.1
  have hts := B.2.2.2.2
  have hl : lv_has ls 1 [(0, .int p0)] := hl
  unfold f_J14_canEncode_2 at hf
  refine lv_iload_n hx hb dJ14_canEncode_2_0 rfl (lv_at hl 0 rfl) ?_
  refine lv_if_lt (tgt := 15) hx hb dJ14_canEncode_2_1 (by decide) (fun c1 => ?_) (fun c1 => ?_)
  · have hf := it_pos c1 hf
    refine lv_iconst (v := nI 0) hx hb dJ14_canEncode_2_15 ic0 ?_
    cases hf
    exact hret _ _ rfl dJ14_canEncode_2_16
  · have hf := it_neg c1 hf
    refine lv_iload_n hx hb dJ14_canEncode_2_4 rfl (lv_at hl 0 rfl) ?_
    refine lv_sipush (v := nI 255) hx hb dJ14_canEncode_2_5 sp255 ?_
    refine lv_icmp_gt (tgt := 15) hx hb dJ14_canEncode_2_8 (by decide) (fun c2 => ?_) (fun c2 => ?_)
    · have hf := it_pos c2 hf
      refine lv_iconst (v := nI 0) hx hb dJ14_canEncode_2_15 ic0 ?_
      cases hf
      exact hret _ _ rfl dJ14_canEncode_2_16
    · have hf := it_neg c2 hf
      refine lv_iconst (v := nI 1) hx hb dJ14_canEncode_2_11 ic1 ?_
      refine lv_goto (tgt := 16) hx hb dJ14_canEncode_2_12 (by decide) ?_
      cases hf
      exact hret _ _ rfl dJ14_canEncode_2_16
def f_J14_indexOfChar_L7 (p0 : Nat) (p1 : Int32) (p3 : Int32) (S : XS) (x1 : Int32) : Option ((Int32) ⊕ ((Int32) ⊕ (Unit))) :=
  (if p3 ≤ x1 then some (.inr (.inr ())) else chk (xk S p0 = 51) <| ald (xn S p0) (xi S 51 p0) x1 fun v4 => (if v4 = p1.toInt8.toInt32 then some (.inr (.inl x1)) else bd (x1 + nI 1) fun x6 => some (.inl x6)))
def f_J14_indexOfChar (S : XS) (p0 : Nat) (p1 : Int32) (p2 : Int32) (p3 : Int32) : Option Int32 :=
  bnd (wO (fun t : Int32 => f_J14_indexOfChar_L7 p0 p1 p3 S t) fu p2) (Sum.elim (fun x9 => some x9) (fun _ => some (-1)))
set_option maxHeartbeats 4000000 in
set_option maxRecDepth 100000 in
theorem c_J14_indexOfChar (l : Launch) (D : XD) (S : XS) (p0 : Nat) (p1 : Int32) (p2 : Int32) (p3 : Int32) {r : Int32} (hf : f_J14_indexOfChar S p0 p1 p2 p3 = some r) : x_Met l yJ14_indexOfChar cJ14_indexOfChar 6 (Option.some Jvm.ClassFile.FieldType.int) 0 0 D [.ref p0, .int p1, .int p2, .int p3] S (some (.int r)) S := by
  refine x_metI RJ14 (by decide) rfl (Nat.le_of_ble_eq_true rfl) (fun p e s m args below meth c Q B hnm hret H locs hX ls hl => ?_)
  have hx := B.1
  have hb := B.2.1
  have hml := B.2.2.1
  have hown := B.2.2.2.1
  have hts := B.2.2.2.2
  have hl : lv_has ls 6 [(0, .ref p0), (1, .int p1), (2, .int p2), (3, .int p3)] := hl
  unfold f_J14_indexOfChar at hf
  refine lv_iload_n hx hb dJ14_indexOfChar_0 rfl (lv_at hl 1 rfl) ?_
  refine lv_i2b (v := p1.toInt8.toInt32) hx hb dJ14_indexOfChar_1 rfl ?_
  refine lv_istore (lv' := [(4, .int p1.toInt8.toInt32), (0, .ref p0), (1, .int p1), (2, .int p2), (3, .int p3)]) hx hb dJ14_indexOfChar_2 hl (by decide) rfl (fun ls hl => ?_)
  refine lv_iload_n hx hb dJ14_indexOfChar_4 rfl (lv_at hl 3 rfl) ?_
  refine lv_istore (lv' := [(5, .int p2), (4, .int p1.toInt8.toInt32), (0, .ref p0), (1, .int p1), (2, .int p2), (3, .int p3)]) hx hb dJ14_indexOfChar_5 hl (by decide) rfl (fun ls hl => ?_)
  obtain ⟨y8, hxy8, hf⟩ := bnd_some hf
  have hy8 : (Sum.elim (fun t : Int32 => ∀ (H : Heap) (locs : List Loc) (ls : Array Slot), x_I D S s H locs S → lv_has ls 6 [(5, .int t)] → W p l e (x_R 0 0 S) s m args below meth c H locs (xz S - xz S) (xu S - xu S) Q (F0 m 22 ls [])) (fun t : Unit => ∀ (H : Heap) (locs : List Loc) (ls : Array Slot), x_I D S s H locs S → lv_has ls 6 [] → W p l e (x_R 0 0 S) s m args below meth c H locs (xz S - xz S) (xu S - xu S) Q (F0 m 31 ls []))) y8 := by
    rcases y8 with x9 | _
    · have hf := el_l hf
      intro H locs ls hX hl
      refine lv_iload hx hb dJ14_indexOfChar_22 (lv_at hl 0 rfl) ?_
      cases hf
      exact hret _ _ _ _ rfl hX dJ14_indexOfChar_24
    · have hf := el_r hf
      intro H locs ls hX hl
      refine lv_iconst (v := (-1)) hx hb dJ14_indexOfChar_31 icm1 ?_
      cases hf
      exact hret _ _ _ _ rfl hX dJ14_indexOfChar_32
  refine lp_W (step := (fun t : Int32 => f_J14_indexOfChar_L7 p0 p1 p3 S t)) (fun t : Int32 => ∀ (H : Heap) (locs : List Loc) (ls : Array Slot), x_I D S s H locs S → lv_has ls 6 [(0, .ref p0), (3, .int p3), (4, .int p1.toInt8.toInt32), (5, .int t)] → W p l e (x_R 0 0 S) s m args below meth c H locs (xz S - xz S) (xu S - xu S) Q (F0 m 7 ls [])) (Sum.elim (fun t : Int32 => ∀ (H : Heap) (locs : List Loc) (ls : Array Slot), x_I D S s H locs S → lv_has ls 6 [(5, .int t)] → W p l e (x_R 0 0 S) s m args below meth c H locs (xz S - xz S) (xu S - xu S) Q (F0 m 22 ls [])) (fun t : Unit => ∀ (H : Heap) (locs : List Loc) (ls : Array Slot), x_I D S s H locs S → lv_has ls 6 [] → W p l e (x_R 0 0 S) s m args below meth c H locs (xz S - xz S) (xu S - xu S) Q (F0 m 31 ls []))) ?_ fu p2 y8 hxy8 hy8 _ _ _ hX (lv_sub hl [2, 5, 1, 0] rfl)
  clear hf hxy8 hy8
  rintro x1 oo (hf : f_J14_indexOfChar_L7 p0 p1 p3 S x1 = some oo) hk
  intro H locs ls hX hl
  unfold f_J14_indexOfChar_L7 at hf
  refine lv_iload hx hb dJ14_indexOfChar_7 (lv_at hl 3 rfl) ?_
  refine lv_iload_n hx hb dJ14_indexOfChar_9 rfl (lv_at hl 1 rfl) ?_
  refine lv_icmp_ge (tgt := 31) hx hb dJ14_indexOfChar_10 (by decide) (fun c2 => ?_) (fun c2 => ?_)
  · have hf := it_pos c2 hf
    cases hf
    exact hk _ _ _ hX (lv_sub hl [] rfl)
  · have hf := it_neg c2 hf
    refine lv_aload_n hx hb dJ14_indexOfChar_13 rfl (lv_at hl 0 rfl) ?_
    refine lv_iload hx hb dJ14_indexOfChar_14 (lv_at hl 3 rfl) ?_
    obtain ⟨hk3, hf⟩ := chk_some hf
    obtain ⟨v4, ev4, hiv4, hf⟩ := ald_some hf
    refine xr_bald B hX hk3 hiv4 ev4 dJ14_indexOfChar_16 ?_
    refine lv_iload hx hb dJ14_indexOfChar_17 (lv_at hl 2 rfl) ?_
    refine lv_icmp_ne (tgt := 25) hx hb dJ14_indexOfChar_19 (by decide) (fun c5 => ?_) (fun c5 => ?_)
    · have hf := it_neg c5 hf
      obtain ⟨x6, ex6, hf⟩ := bd_some hf
      refine lv_iinc (v := x6) (lv' := [(5, .int x6), (0, .ref p0), (3, .int p3), (4, .int p1.toInt8.toInt32)]) hx hb dJ14_indexOfChar_25 hl (k := 3) rfl (by rw [ex6]; first | done | rfl) (by decide) rfl (fun ls hl => ?_)
      refine lv_goto (tgt := 7) hx hb dJ14_indexOfChar_28 (by decide) ?_
      cases hf
      exact hk _ _ _ hX (lv_sub hl [1, 2, 3, 0] rfl)
    · have hf := it_pos c5 hf
      cases hf
      exact hk _ _ _ hX (lv_sub hl [3] rfl)
def f_J14_indexOf (S : XS) (p0 : Nat) (p1 : Int32) (p2 : Int32) (p3 : Int32) : Option Int32 :=
  bnd (f_J14_canEncode_2 p1) fun r1 => (if r1 = 0 then some (-1) else bd (if p2 < nI 0 then nI 0 else p2) fun x3 => chk (xk S p0 = 51) <| bd (if (nI (xn S p0)) < p3 then (nI (xn S p0)) else p3) fun x5 => (if x3 < x5 then bnd (f_J14_indexOfChar S p0 p1 x3 x5) fun r7 => some r7 else some (-1)))
set_option maxHeartbeats 4000000 in
set_option maxRecDepth 100000 in
theorem c_J14_indexOf (l : Launch) (D : XD) (S : XS) (p0 : Nat) (p1 : Int32) (p2 : Int32) (p3 : Int32) {r : Int32} (hf : f_J14_indexOf S p0 p1 p2 p3 = some r) : x_Met l yJ14_indexOf cJ14_indexOf 4 (Option.some Jvm.ClassFile.FieldType.int) 1 60 D [.ref p0, .int p1, .int p2, .int p3] S (some (.int r)) S := by
  refine x_metI RJ14 (by decide) rfl (Nat.le_of_ble_eq_true rfl) (fun p e s m args below meth c Q B hnm hret H locs hX ls hl => ?_)
  have hx := B.1
  have hb := B.2.1
  have hml := B.2.2.1
  have hown := B.2.2.2.1
  have hts := B.2.2.2.2
  have hl : lv_has ls 4 [(0, .ref p0), (1, .int p1), (2, .int p2), (3, .int p3)] := hl
  unfold f_J14_indexOf at hf
  refine lv_iload_n hx hb dJ14_indexOf_0 rfl (lv_at hl 1 rfl) ?_
  obtain ⟨r1, hcr1, hf⟩ := bnd_some hf
  refine pr_callS (rest := []) B (c_J14_canEncode_2 l p1 hcr1) (va_cwS 1 hts (lw_S q1017 q1018 q132 q1019) rfl rfl rfl hd_J14_canEncode_2 ⟨Nat.le_of_ble_eq_true rfl, Nat.le_of_ble_eq_true rfl⟩) rfl hl.1 rfl (Nat.le_of_ble_eq_true rfl) dJ14_indexOf_1 (x_room0 hX) ?_
  refine lv_if_ne (tgt := 9) hx hb dJ14_indexOf_4 (by decide) (fun c2 => ?_) (fun c2 => ?_)
  · have hf := it_neg c2 hf
    refine lv_iload_n hx hb dJ14_indexOf_9 rfl (lv_at hl 2 rfl) ?_
    refine lv_iconst (v := nI 0) hx hb dJ14_indexOf_10 ic0 ?_
    refine va_mmax (rest := []) hx hb (hml.trans hl.1.symm) hown (hts _ q1020) (hts _ q454) (hts _ q116) (hts _ q455) (Nat.le_of_ble_eq_true rfl) (Nat.le_of_ble_eq_true rfl) (x_room0 hX).1 (x_room0 hX).2 dJ14_indexOf_11 ?_
    refine lv_topi (fun x3 ex3 => ?_)
    have hf := bd_at ex3 hf
    refine lv_istore_n (lv' := [(2, .int x3), (0, .ref p0), (1, .int p1), (3, .int p3)]) hx hb dJ14_indexOf_14 rfl hl (by decide) rfl (fun ls hl => ?_)
    refine lv_iload_n hx hb dJ14_indexOf_15 rfl (lv_at hl 3 rfl) ?_
    refine lv_aload_n hx hb dJ14_indexOf_16 rfl (lv_at hl 1 rfl) ?_
    obtain ⟨hk4, hf⟩ := chk_some hf
    refine xr_alen B hX hk4 rfl (by decide) dJ14_indexOf_17 ?_
    refine va_mmin (rest := []) hx hb (hml.trans hl.1.symm) hown (hts _ q1021) (hts _ q504) (hts _ q116) (hts _ q505) (Nat.le_of_ble_eq_true rfl) (Nat.le_of_ble_eq_true rfl) (x_room0 hX).1 (x_room0 hX).2 dJ14_indexOf_18 ?_
    refine lv_topi (fun x5 ex5 => ?_)
    have hf := bd_at ex5 hf
    refine lv_istore_n (lv' := [(3, .int x5), (2, .int x3), (0, .ref p0), (1, .int p1)]) hx hb dJ14_indexOf_21 rfl hl (by decide) rfl (fun ls hl => ?_)
    refine lv_iload_n hx hb dJ14_indexOf_22 rfl (lv_at hl 1 rfl) ?_
    refine lv_iload_n hx hb dJ14_indexOf_23 rfl (lv_at hl 0 rfl) ?_
    refine lv_icmp_lt (tgt := 29) hx hb dJ14_indexOf_24 (by decide) (fun c6 => ?_) (fun c6 => ?_)
    · have hf := it_pos c6 hf
      refine lv_aload_n hx hb dJ14_indexOf_29 rfl (lv_at hl 2 rfl) ?_
      refine lv_iload_n hx hb dJ14_indexOf_30 rfl (lv_at hl 3 rfl) ?_
      refine lv_iload_n hx hb dJ14_indexOf_31 rfl (lv_at hl 1 rfl) ?_
      refine lv_iload_n hx hb dJ14_indexOf_32 rfl (lv_at hl 0 rfl) ?_
      obtain ⟨r7, hcr7, hf⟩ := bnd_some hf
      refine xr_callSC (rest := []) B hX (c_J14_indexOfChar l D S p0 p1 x3 x5 hcr7) q1022 q1023 q132 q1024 hd_J14_indexOfChar ⟨Nat.le_of_ble_eq_true rfl, Nat.le_of_ble_eq_true rfl⟩ rfl hl.1 rfl (Nat.le_of_ble_eq_true rfl) dJ14_indexOf_33 (fun H locs hX => ?_)
      cases hf
      exact hret _ _ _ _ rfl hX dJ14_indexOf_36
    · have hf := it_neg c6 hf
      refine lv_iconst (v := (-1)) hx hb dJ14_indexOf_27 icm1 ?_
      cases hf
      exact hret _ _ _ _ rfl hX dJ14_indexOf_28
  · have hf := it_pos c2 hf
    refine lv_iconst (v := (-1)) hx hb dJ14_indexOf_7 icm1 ?_
    cases hf
    exact hret _ _ _ _ rfl hX dJ14_indexOf_8
def f_J12_indexOf_2 (S : XS) (o : Nat) (p0 : Int32) (p1 : Int32) : Option Int32 :=
  chk (xk S o = 21) <| bnd (f_J12_isLatin1 S o) fun r1 => (if r1 = 0 then bnd (xr S 2100 o 0) fun b4 => bnd (f_J12_length S o) fun r5 => none else bnd (xr S 2100 o 0) fun b6 => bnd (f_J12_length S o) fun r7 => bnd (f_J14_indexOf S b6 p0 p1 r7) fun r8 => some r8)
set_option maxHeartbeats 4000000 in
set_option maxRecDepth 100000 in
theorem c_J12_indexOf_2 (l : Launch) (D : XD) (S : XS) (o : Nat) (p0 : Int32) (p1 : Int32) {r : Int32} (hf : f_J12_indexOf_2 S o p0 p1 = some r) : x_Met l yJ12_indexOf_2 cJ12_indexOf_2 3 (Option.some Jvm.ClassFile.FieldType.int) 2 83 D [.ref o, .int p0, .int p1] S (some (.int r)) S := by
  refine x_metI RJ12 (by decide) rfl (Nat.le_of_ble_eq_true rfl) (fun p e s m args below meth c Q B hnm hret H locs hX ls hl => ?_)
  have hx := B.1
  have hb := B.2.1
  have hml := B.2.2.1
  have hown := B.2.2.2.1
  have hts := B.2.2.2.2
  have hl : lv_has ls 3 [(0, .ref o), (1, .int p0), (2, .int p1)] := hl
  unfold f_J12_indexOf_2 at hf
  refine lv_aload_n hx hb dJ12_indexOf_2_0 rfl (lv_at hl 0 rfl) ?_
  obtain ⟨hk2, hf⟩ := chk_some hf
  obtain ⟨r1, hcr1, hf⟩ := bnd_some hf
  refine xr_callVC (rest := []) (q := (RJ12, TJ12, 2)) B hX (c_J12_isLatin1 l D S o hcr1) hk2 rfl (by decide) q994 q995 (Or.inl q996) q130 q997 hd_J12_isLatin1 ⟨Nat.le_of_ble_eq_true rfl, Nat.le_of_ble_eq_true rfl⟩ rfl hl.1 rfl (Nat.le_of_ble_eq_true rfl) dJ12_indexOf_2_1 (fun H locs hX => ?_)
  refine lv_if_eq (tgt := 23) hx hb dJ12_indexOf_2_4 (by decide) (fun c3 => ?_) (fun c3 => ?_)
  · have hf := it_pos c3 hf
    refine lv_aload_n hx hb dJ12_indexOf_2_23 rfl (lv_at hl 0 rfl) ?_
    obtain ⟨b4, hb4, hf⟩ := bnd_some hf
    refine xr_get (q := (RJ12, TJ12, 2)) B hX 0 hk2 rfl (by decide) (by decide) (v := .ref b4) (x_Vr (c := 21) (j := 0) rfl (by decide) hb4) q799 (fun _ h => h) dJ12_indexOf_2_24 ?_
    refine lv_iload_n hx hb dJ12_indexOf_2_27 rfl (lv_at hl 1 rfl) ?_
    refine lv_iload_n hx hb dJ12_indexOf_2_28 rfl (lv_at hl 2 rfl) ?_
    refine lv_aload_n hx hb dJ12_indexOf_2_29 rfl (lv_at hl 0 rfl) ?_
    obtain ⟨r5, hcr5, hf⟩ := bnd_some hf
    refine xr_callVC (rest := [.int p1, .int p0, .ref b4]) (q := (RJ12, TJ12, 2)) B hX (c_J12_length l D S o hcr5) hk2 rfl (by decide) q1013 q983 (Or.inl q984) q130 q985 hd_J12_length ⟨Nat.le_of_ble_eq_true rfl, Nat.le_of_ble_eq_true rfl⟩ rfl hl.1 rfl (Nat.le_of_ble_eq_true rfl) dJ12_indexOf_2_30 (fun H locs hX => ?_)
    cases hf
  · have hf := it_neg c3 hf
    refine lv_aload_n hx hb dJ12_indexOf_2_7 rfl (lv_at hl 0 rfl) ?_
    obtain ⟨b6, hb6, hf⟩ := bnd_some hf
    refine xr_get (q := (RJ12, TJ12, 2)) B hX 0 hk2 rfl (by decide) (by decide) (v := .ref b6) (x_Vr (c := 21) (j := 0) rfl (by decide) hb6) q799 (fun _ h => h) dJ12_indexOf_2_8 ?_
    refine lv_iload_n hx hb dJ12_indexOf_2_11 rfl (lv_at hl 1 rfl) ?_
    refine lv_iload_n hx hb dJ12_indexOf_2_12 rfl (lv_at hl 2 rfl) ?_
    refine lv_aload_n hx hb dJ12_indexOf_2_13 rfl (lv_at hl 0 rfl) ?_
    obtain ⟨r7, hcr7, hf⟩ := bnd_some hf
    refine xr_callVC (rest := [.int p1, .int p0, .ref b6]) (q := (RJ12, TJ12, 2)) B hX (c_J12_length l D S o hcr7) hk2 rfl (by decide) q1013 q983 (Or.inl q984) q130 q985 hd_J12_length ⟨Nat.le_of_ble_eq_true rfl, Nat.le_of_ble_eq_true rfl⟩ rfl hl.1 rfl (Nat.le_of_ble_eq_true rfl) dJ12_indexOf_2_14 (fun H locs hX => ?_)
    obtain ⟨r8, hcr8, hf⟩ := bnd_some hf
    refine xr_callSC (rest := []) B hX (c_J14_indexOf l D S b6 p0 p1 r7 hcr8) q1014 q1015 q132 q1016 hd_J14_indexOf ⟨Nat.le_of_ble_eq_true rfl, Nat.le_of_ble_eq_true rfl⟩ rfl hl.1 rfl (Nat.le_of_ble_eq_true rfl) dJ12_indexOf_2_17 (fun H locs hX => ?_)
    refine lv_goto (tgt := 36) hx hb dJ12_indexOf_2_20 (by decide) ?_
    cases hf
    exact hret _ _ _ _ rfl hX dJ12_indexOf_2_36
def f_J12_indexOf (S : XS) (o : Nat) (p0 : Int32) : Option Int32 :=
  chk (xk S o = 21) <| bnd (f_J12_indexOf_2 S o p0 (nI 0)) fun r1 => some r1
set_option maxHeartbeats 4000000 in
set_option maxRecDepth 100000 in
theorem c_J12_indexOf (l : Launch) (D : XD) (S : XS) (o : Nat) (p0 : Int32) {r : Int32} (hf : f_J12_indexOf S o p0 = some r) : x_Met l yJ12_indexOf cJ12_indexOf 2 (Option.some Jvm.ClassFile.FieldType.int) 3 105 D [.ref o, .int p0] S (some (.int r)) S := by
  refine x_metI RJ12 (by decide) rfl (Nat.le_of_ble_eq_true rfl) (fun p e s m args below meth c Q B hnm hret H locs hX ls hl => ?_)
  have hx := B.1
  have hb := B.2.1
  have hml := B.2.2.1
  have hown := B.2.2.2.1
  have hts := B.2.2.2.2
  have hl : lv_has ls 2 [(0, .ref o), (1, .int p0)] := hl
  unfold f_J12_indexOf at hf
  refine lv_aload_n hx hb dJ12_indexOf_0 rfl (lv_at hl 0 rfl) ?_
  refine lv_iload_n hx hb dJ12_indexOf_1 rfl (lv_at hl 1 rfl) ?_
  refine lv_iconst (v := nI 0) hx hb dJ12_indexOf_2 ic0 ?_
  obtain ⟨hk2, hf⟩ := chk_some hf
  obtain ⟨r1, hcr1, hf⟩ := bnd_some hf
  refine xr_callVC (rest := []) (q := (RJ12, TJ12, 2)) B hX (c_J12_indexOf_2 l D S o p0 (nI 0) hcr1) hk2 rfl (by decide) q1009 q1010 (Or.inl q1011) q130 q1012 hd_J12_indexOf_2 ⟨Nat.le_of_ble_eq_true rfl, Nat.le_of_ble_eq_true rfl⟩ rfl hl.1 rfl (Nat.le_of_ble_eq_true rfl) dJ12_indexOf_3 (fun H locs hX => ?_)
  cases hf
  exact hret _ _ _ _ rfl hX dJ12_indexOf_6
def f_J8_init (S : XS) (o : Nat) : Option Unit :=
  some ()
set_option maxHeartbeats 4000000 in
set_option maxRecDepth 100000 in
theorem c_J8_init (l : Launch) (D : XD) (S : XS) (o : Nat) {r : Unit} (hf : f_J8_init S o = some r) : x_Met l yJ8_init cJ8_init 1 (Option.none : Option Jvm.ClassFile.FieldType) 1 60 D [.ref o] S none S := by
  refine x_metV RJ8 (by decide) rfl (Nat.le_of_ble_eq_true rfl) (fun p e s m args below meth c Q B hnm hret H locs hX ls hl => ?_)
  have hx := B.1
  have hb := B.2.1
  have hml := B.2.2.1
  have hown := B.2.2.2.1
  have hts := B.2.2.2.2
  have hl : lv_has ls 1 [(0, .ref o)] := hl
  unfold f_J8_init at hf
  refine lv_aload_n hx hb dJ8_init_0 rfl (lv_at hl 0 rfl) ?_
  refine W.objInit hx hb hown (hts _ q1375) (hts _ q154) (hts _ q155) rfl (by rw [hml]; exact hl.1) rfl dJ8_init_1 (Nat.le_of_ble_eq_true rfl) (Nat.le_of_ble_eq_true rfl) ?_
  refine W.eq (g2 := F0 m 4 ls []) rfl ?_
  cases hf
  exact hret _ _ _ _ hX dJ8_init_4
