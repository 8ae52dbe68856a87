set_option maxRecDepth 100000
def f_X0_fact (S : XS) (o : Nat) (p0 : Int32) (p1 : Int32) (p2 : Int32) : Option Int32 :=
  chk (xk S o = 1) <| bnd (f_X0_land S o) fun b1 => chk (xk S b1 = 3) <| bnd (f_X2_fact S b1 p0 p1 p2) fun r3 => (if r3 = (-1) then some (-1) else bnd (f_X0_isHere S o r3) fun r6 => (if r6 = 0 then some (nI 0) else some (nI 1)))
set_option maxHeartbeats 4000000 in
set_option maxRecDepth 100000 in
theorem c_X0_fact (l : Launch) (D : XD) (S : XS) (o : Nat) (p0 : Int32) (p1 : Int32) (p2 : Int32) {r : Int32} (hf : f_X0_fact S o p0 p1 p2 = some r) : x_Met l yX0_fact cX0_fact 5 (Option.some Jvm.ClassFile.FieldType.int) 8 170 D [.ref o, .int p0, .int p1, .int p2] S (some (.int r)) S := by
  refine x_metI RX0 (by decide) rfl (Nat.le_of_ble_eq_true rfl) (fun p e s m args below meth c Q B hnm hret H locs hX ls hl => ?_)
  have hx := B.1
  have hb := B.2.1
  have hml := B.2.2.1
  have hown := B.2.2.2.1
  have hts := B.2.2.2.2
  have hl : lv_has ls 5 [(0, .ref o), (1, .int p0), (2, .int p1), (3, .int p2)] := hl
  unfold f_X0_fact at hf
  refine lv_aload_n hx hb dX0_fact_0 rfl (lv_at hl 0 rfl) ?_
  obtain ⟨hk2, hf⟩ := chk_some hf
  obtain ⟨b1, hcb1, hf⟩ := bnd_some hf
  refine xr_callVC (rest := []) (q := (RX0, TX0, 14)) B hX (c_X0_land l D S o hcb1) hk2 rfl (by decide) q393 q395 (Or.inl qs0) q103 q396 hd_X0_land ⟨Nat.le_of_ble_eq_true rfl, Nat.le_of_ble_eq_true rfl⟩ rfl hl.1 rfl (Nat.le_of_ble_eq_true rfl) dX0_fact_1 (fun H locs hX => ?_)
  refine lv_iload_n hx hb dX0_fact_4 rfl (lv_at hl 1 rfl) ?_
  refine lv_iload_n hx hb dX0_fact_5 rfl (lv_at hl 2 rfl) ?_
  refine lv_iload_n hx hb dX0_fact_6 rfl (lv_at hl 3 rfl) ?_
  obtain ⟨hk4, hf⟩ := chk_some hf
  obtain ⟨r3, hcr3, hf⟩ := bnd_some hf
  refine xr_callVC (rest := []) (q := (RX2, TX2, 2)) B hX (c_X2_fact l D S b1 p0 p1 p2 hcr3) hk4 rfl (by decide) q546 q547 (Or.inl q548) q105 q549 hd_X2_fact ⟨Nat.le_of_ble_eq_true rfl, Nat.le_of_ble_eq_true rfl⟩ rfl hl.1 rfl (Nat.le_of_ble_eq_true rfl) dX0_fact_7 (fun H locs hX => ?_)
  refine lv_istore (lv' := [(4, .int r3), (0, .ref o), (1, .int p0), (2, .int p1), (3, .int p2)]) hx hb dX0_fact_10 hl (by decide) rfl (fun ls hl => ?_)
  refine lv_iload hx hb dX0_fact_12 (lv_at hl 0 rfl) ?_
  refine lv_iconst (v := (-1)) hx hb dX0_fact_14 icm1 ?_
  refine lv_icmp_ne (tgt := 22) hx hb dX0_fact_15 (by decide) (fun c5 => ?_) (fun c5 => ?_)
  · have hf := it_neg c5 hf
    refine lv_aload_n hx hb dX0_fact_22 rfl (lv_at hl 1 rfl) ?_
    refine lv_iload hx hb dX0_fact_23 (lv_at hl 0 rfl) ?_
    obtain ⟨r6, hcr6, hf⟩ := bnd_some hf
    refine xr_callVC (rest := []) (q := (RX0, TX0, 14)) B hX (c_X0_isHere l D S o r3 hcr6) hk2 rfl (by decide) q555 q557 (Or.inl qs5) q103 q558 hd_X0_isHere ⟨Nat.le_of_ble_eq_true rfl, Nat.le_of_ble_eq_true rfl⟩ rfl hl.1 rfl (Nat.le_of_ble_eq_true rfl) dX0_fact_25 (fun H locs hX => ?_)
    refine lv_if_eq (tgt := 35) hx hb dX0_fact_28 (by decide) (fun c7 => ?_) (fun c7 => ?_)
    · have hf := it_pos c7 hf
      refine lv_iconst (v := nI 0) hx hb dX0_fact_35 ic0 ?_
      cases hf
      exact hret _ _ _ _ rfl hX dX0_fact_36
    · have hf := it_neg c7 hf
      refine lv_iconst (v := nI 1) hx hb dX0_fact_31 ic1 ?_
      refine lv_goto (tgt := 36) hx hb dX0_fact_32 (by decide) ?_
      cases hf
      exact hret _ _ _ _ rfl hX dX0_fact_36
  · have hf := it_pos c5 hf
    refine lv_iconst (v := (-1)) hx hb dX0_fact_18 icm1 ?_
    refine lv_goto (tgt := 36) hx hb dX0_fact_19 (by decide) ?_
    cases hf
    exact hret _ _ _ _ rfl hX dX0_fact_36
def f_X9_init (S : XS) (o : Nat) (p0 : Int32) (p1 : Int32) (p2 : Int32) (p3 : Int32) (p4 : Int32) : Option XS :=
  chk (xk S o = 6) <| chk (xb S ≤ o) <| bd (s_i S 600 o 0 p0) fun S3 => bd (s_i S3 601 o 0 p1) fun S4 => bd (s_i S4 602 o 0 p2) fun S5 => chk (p3 = 0 ∨ p3 = 1) <| bd (s_i S5 604 o 0 p3) fun S6 => bd (s_i S6 603 o 0 p4) fun S8 => some S8
set_option maxHeartbeats 4000000 in
set_option maxRecDepth 100000 in
theorem c_X9_init (l : Launch) (D : XD) (S : XS) (o : Nat) (p0 : Int32) (p1 : Int32) (p2 : Int32) (p3 : Int32) (p4 : Int32) {S' : XS} (hf : f_X9_init S o p0 p1 p2 p3 p4 = some S') : x_Met l yX9_init cX9_init 6 (Option.none : Option Jvm.ClassFile.FieldType) 1 60 D [.ref o, .int p0, .int p1, .int p2, .int p3, .int p4] S none S' := by
  refine x_metV RX9 (by decide) rfl (Nat.le_of_ble_eq_true rfl) (fun p e s m args below meth c Q B hnm hret H locs hX ls hl => ?_)
  have hx := B.1
  have hb := B.2.1
  have hml := B.2.2.1
  have hown := B.2.2.2.1
  have hts := B.2.2.2.2
  have hl : lv_has ls 6 [(0, .ref o), (1, .int p0), (2, .int p1), (3, .int p2), (4, .int p3), (5, .int p4)] := hl
  unfold f_X9_init at hf
  refine lv_aload_n hx hb dX9_init_0 rfl (lv_at hl 0 rfl) ?_
  refine W.objInit hx hb hown (hts _ q580) (hts _ q154) (hts _ q155) rfl (by rw [hml]; exact hl.1) rfl dX9_init_1 (Nat.le_of_ble_eq_true rfl) (Nat.le_of_ble_eq_true rfl) ?_
  refine W.eq (g2 := F0 m 4 ls []) rfl ?_
  refine lv_aload_n hx hb dX9_init_4 rfl (lv_at hl 0 rfl) ?_
  refine lv_iload_n hx hb dX9_init_5 rfl (lv_at hl 1 rfl) ?_
  obtain ⟨hk1, hf⟩ := chk_some hf
  obtain ⟨hw2, hf⟩ := chk_some hf
  obtain ⟨S3, eS3, hf⟩ := bd_some hf
  refine xr_putF (S' := S3) (q := (RX9, TX9, 5)) (v := .int p0) (ty0 := tyX9) B hnm hX 0 hk1 rfl (by decide) hw2 (by decide) (by rw [eS3]; exact x_Vup_i (k := 6) (j := 0) rfl (by decide)) tyX9_ok (fun i h1 h2 => nmX9 i (Nat.lt_of_lt_of_le h1 (by decide)) 0 (by decide) h2) rfl rfl rfl rfl q581 (fun _ h => h) dX9_init_6 (fun H locs hX => ?_)
  refine w_i eS3 ?_
  have hk1 := ks_i eS3 hk1
  have hw2 := kw_i eS3 hw2
  refine lv_aload_n hx hb dX9_init_9 rfl (lv_at hl 0 rfl) ?_
  refine lv_iload_n hx hb dX9_init_10 rfl (lv_at hl 2 rfl) ?_
  obtain ⟨S4, eS4, hf⟩ := bd_some hf
  refine xr_putF (S' := S4) (q := (RX9, TX9, 5)) (v := .int p1) (ty0 := tyX9) B hnm hX 1 hk1 rfl (by decide) hw2 (by decide) (by rw [eS4]; exact x_Vup_i (k := 6) (j := 1) rfl (by decide)) tyX9_ok (fun i h1 h2 => nmX9 i (Nat.lt_of_lt_of_le h1 (by decide)) 1 (by decide) h2) rfl rfl rfl rfl q583 (fun _ h => h) dX9_init_11 (fun H locs hX => ?_)
  refine w_i eS4 ?_
  have hk1 := ks_i eS4 hk1
  have hw2 := kw_i eS4 hw2
  refine lv_aload_n hx hb dX9_init_14 rfl (lv_at hl 0 rfl) ?_
  refine lv_iload_n hx hb dX9_init_15 rfl (lv_at hl 3 rfl) ?_
  obtain ⟨S5, eS5, hf⟩ := bd_some hf
  refine xr_putF (S' := S5) (q := (RX9, TX9, 5)) (v := .int p2) (ty0 := tyX9) B hnm hX 2 hk1 rfl (by decide) hw2 (by decide) (by rw [eS5]; exact x_Vup_i (k := 6) (j := 2) rfl (by decide)) tyX9_ok (fun i h1 h2 => nmX9 i (Nat.lt_of_lt_of_le h1 (by decide)) 2 (by decide) h2) rfl rfl rfl rfl q585 (fun _ h => h) dX9_init_16 (fun H locs hX => ?_)
  refine w_i eS5 ?_
  have hk1 := ks_i eS5 hk1
  have hw2 := kw_i eS5 hw2
  refine lv_aload_n hx hb dX9_init_19 rfl (lv_at hl 0 rfl) ?_
  refine lv_iload hx hb dX9_init_20 (lv_at hl 4 rfl) ?_
  obtain ⟨hb7, hf⟩ := chk_some hf
  obtain ⟨S6, eS6, hf⟩ := bd_some hf
  refine xr_putF (S' := S6) (q := (RX9, TX9, 5)) (v := .int p3) (ty0 := tyX9) B hnm hX 4 hk1 rfl (by decide) hw2 (by decide) (by rw [eS6]; exact x_Vup_i (k := 6) (j := 4) rfl (by decide)) tyX9_ok (fun i h1 h2 => nmX9 i (Nat.lt_of_lt_of_le h1 (by decide)) 4 (by decide) h2) rfl rfl (by rcases hb7 with q | q <;> (rw [q]; rfl)) (by rcases hb7 with q | q <;> (rw [q]; rfl)) q589 (fun _ h => h) dX9_init_22 (fun H locs hX => ?_)
  refine w_i eS6 ?_
  have hk1 := ks_i eS6 hk1
  have hw2 := kw_i eS6 hw2
  refine lv_aload_n hx hb dX9_init_25 rfl (lv_at hl 0 rfl) ?_
  refine lv_iload hx hb dX9_init_26 (lv_at hl 5 rfl) ?_
  obtain ⟨S8, eS8, hf⟩ := bd_some hf
  refine xr_putF (S' := S8) (q := (RX9, TX9, 5)) (v := .int p4) (ty0 := tyX9) B hnm hX 3 hk1 rfl (by decide) hw2 (by decide) (by rw [eS8]; exact x_Vup_i (k := 6) (j := 3) rfl (by decide)) tyX9_ok (fun i h1 h2 => nmX9 i (Nat.lt_of_lt_of_le h1 (by decide)) 3 (by decide) h2) rfl rfl rfl rfl q587 (fun _ h => h) dX9_init_28 (fun H locs hX => ?_)
  refine w_i eS8 ?_
  have hk1 := ks_i eS8 hk1
  have hw2 := kw_i eS8 hw2
  cases hf
  exact hret _ _ _ _ hX dX9_init_31
def f_X0_known_J72_22 (o : Nat) (p0 : Int32) (p1 : Int32) (p2 : Int32) (p3 : Int32) (S : XS) (r20 : Int32)  : Option (Int32 × XS) :=
  bnd (xr S 100 o 0) fun b25 => chk (xk S b25 = 2) <| bnd (xr S 212 b25 0) fun b27 => chk (xz S < xL S ∧ xu S + 5 ≤ xU S) <| bd (xz S) fun a30 => bd (n_c S 6 0 5) fun S29 => bd (if r20 = 0 then p2 else nI 0) fun x35 => bnd (xr S29 100 o 0) fun b36 => chk (xk S29 b36 = 2) <| bnd (f_X9_init S29 a30 p0 p1 x35 p3 (xi S29 204 b36 0)) fun S38 => chk (xk S38 b27 = 19) <| bnd (f_J2_add S38 b27 a30) <| u2 fun r39 S40 => some (nI 1, S40)
def f_X0_known (S : XS) (o : Nat) (p0 : Int32) (p1 : Int32) (p2 : Int32) (p3 : Int32) : Option (Int32 × XS) :=
  chk (xk S o = 1) <| bnd (xr S 100 o 0) fun b2 => chk (xk S b2 = 2) <| bnd (xr S 212 b2 0) fun b4 => chk (xk S b4 = 19) <| bnd (f_J2_size S b4) fun r5 => (if r5 = nI 40 then some (nI 0, S) else bnd (f_X0_land S o) fun b8 => chk (xk S b8 = 3) <| bnd (f_X2_isRelation S b8 p0) fun r9 => (if r9 = 0 then some (nI 0, S) else bnd (f_X0_isIn p1 (nI 0) (nI 2)) fun r12 => (if r12 = 0 then some (nI 0, S) else bnd (f_X0_land S o) fun b14 => chk (xk S b14 = 3) <| bnd (xr S 301 b14 0) fun b16 => chk (xk S b16 = 19) <| bnd (f_J2_get S b16 p0) fun b17 => chk (xk S b17 = 5) <| bnd (f_X8_isOfOne S b17) fun r20 => (if r20 = 0 then bnd (f_X0_isIn p2 (nI 0) (nI 2)) fun r23 => (if r23 = 0 then some (nI 0, S) else f_X0_known_J72_22 o p0 p1 p2 p3 S r20) else f_X0_known_J72_22 o p0 p1 p2 p3 S r20))))
set_option maxHeartbeats 4000000 in
set_option maxRecDepth 100000 in
theorem c_X0_known (l : Launch) (D : XD) (S : XS) (o : Nat) (p0 : Int32) (p1 : Int32) (p2 : Int32) (p3 : Int32) {r : Int32} {S' : XS} (hf : f_X0_known S o p0 p1 p2 p3 = some (r, S')) : x_Met l yX0_known cX0_known 6 (Option.some Jvm.ClassFile.FieldType.boolean) 7 191 D [.ref o, .int p0, .int p1, .int p2, .int p3] S (some (.int r)) S' := by
  refine x_metI RX0 (by decide) rfl (Nat.le_of_ble_eq_true rfl) (fun p e s m args below meth c Q B hnm hret H locs hX ls hl => ?_)
  have hx := B.1
  have hb := B.2.1
  have hml := B.2.2.1
  have hown := B.2.2.2.1
  have hts := B.2.2.2.2
  have hl : lv_has ls 6 [(0, .ref o), (1, .int p0), (2, .int p1), (3, .int p2), (4, .int p3)] := hl
  unfold f_X0_known at hf
  refine lv_aload_n hx hb dX0_known_0 rfl (lv_at hl 0 rfl) ?_
  obtain ⟨hk1, hf⟩ := chk_some hf
  obtain ⟨b2, hb2, hf⟩ := bnd_some hf
  refine xr_get (q := (RX0, TX0, 14)) B hX 0 hk1 rfl (by decide) (by decide) (v := .ref b2) (x_Vr (c := 1) (j := 0) rfl (by decide) hb2) q339 (fun _ h => h) dX0_known_1 ?_
  obtain ⟨hk3, hf⟩ := chk_some hf
  obtain ⟨b4, hb4, hf⟩ := bnd_some hf
  refine xr_getN (q := (RX1, TX1, 14)) B hX 12 hk3 rfl (by decide) (by decide) (v := .ref b4) (x_Vr (c := 2) (j := 12) rfl (by decide) hb4) nq243 (fun _ h => h) dX0_known_4 ?_
  obtain ⟨hk6, hf⟩ := chk_some hf
  obtain ⟨r5, hcr5, hf⟩ := bnd_some hf
  refine xr_callVC (rest := []) (q := (RJ2, TJ2, 3)) B hX (c_J2_size l D S b4 hcr5) hk6 rfl (by decide) q409 q410 (Or.inl q411) q108 q412 hd_J2_size ⟨Nat.le_of_ble_eq_true rfl, Nat.le_of_ble_eq_true rfl⟩ rfl hl.1 rfl (Nat.le_of_ble_eq_true rfl) dX0_known_7 (fun H locs hX => ?_)
  refine lv_bipush (v := nI 40) hx hb dX0_known_10 bp40 ?_
  refine lv_icmp_eq (tgt := 35) hx hb dX0_known_12 (by decide) (fun c7 => ?_) (fun c7 => ?_)
  · have hf := it_pos c7 hf
    refine lv_iconst (v := nI 0) hx hb dX0_known_35 ic0 ?_
    cases hf
    exact hret _ _ _ _ rfl hX dX0_known_36
  · have hf := it_neg c7 hf
    refine lv_aload_n hx hb dX0_known_15 rfl (lv_at hl 0 rfl) ?_
    obtain ⟨b8, hcb8, hf⟩ := bnd_some hf
    refine xr_callVC (rest := []) (q := (RX0, TX0, 14)) B hX (c_X0_land l D S o hcb8) hk1 rfl (by decide) q393 q395 (Or.inl qs0) q103 q396 hd_X0_land ⟨Nat.le_of_ble_eq_true rfl, Nat.le_of_ble_eq_true rfl⟩ rfl hl.1 rfl (Nat.le_of_ble_eq_true rfl) dX0_known_16 (fun H locs hX => ?_)
    refine lv_iload_n hx hb dX0_known_19 rfl (lv_at hl 1 rfl) ?_
    obtain ⟨hk10, hf⟩ := chk_some hf
    obtain ⟨r9, hcr9, hf⟩ := bnd_some hf
    refine xr_callVC (rest := []) (q := (RX2, TX2, 2)) B hX (c_X2_isRelation l D S b8 p0 hcr9) hk10 rfl (by decide) q572 q551 (Or.inl q552) q105 q553 hd_X2_isRelation ⟨Nat.le_of_ble_eq_true rfl, Nat.le_of_ble_eq_true rfl⟩ rfl hl.1 rfl (Nat.le_of_ble_eq_true rfl) dX0_known_20 (fun H locs hX => ?_)
    refine lv_if_eq (tgt := 35) hx hb dX0_known_23 (by decide) (fun c11 => ?_) (fun c11 => ?_)
    · have hf := it_pos c11 hf
      refine lv_iconst (v := nI 0) hx hb dX0_known_35 ic0 ?_
      cases hf
      exact hret _ _ _ _ rfl hX dX0_known_36
    · have hf := it_neg c11 hf
      refine lv_iload_n hx hb dX0_known_26 rfl (lv_at hl 2 rfl) ?_
      refine lv_iconst (v := nI 0) hx hb dX0_known_27 ic0 ?_
      refine lv_iconst (v := nI 2) hx hb dX0_known_28 ic2 ?_
      obtain ⟨r12, hcr12, hf⟩ := bnd_some hf
      refine pr_callS (rest := []) B (c_X0_isIn l p1 (nI 0) (nI 2) hcr12) (va_cwS 3 hts (lw_S q390 q391 q103 q392) rfl rfl rfl hd_X0_isIn ⟨Nat.le_of_ble_eq_true rfl, Nat.le_of_ble_eq_true rfl⟩) rfl hl.1 rfl (Nat.le_of_ble_eq_true rfl) dX0_known_29 (x_room0 hX) ?_
      refine lv_if_ne (tgt := 37) hx hb dX0_known_32 (by decide) (fun c13 => ?_) (fun c13 => ?_)
      · have hf := it_neg c13 hf
        refine lv_aload_n hx hb dX0_known_37 rfl (lv_at hl 0 rfl) ?_
        obtain ⟨b14, hcb14, hf⟩ := bnd_some hf
        refine xr_callVC (rest := []) (q := (RX0, TX0, 14)) B hX (c_X0_land l D S o hcb14) hk1 rfl (by decide) q393 q395 (Or.inl qs0) q103 q396 hd_X0_land ⟨Nat.le_of_ble_eq_true rfl, Nat.le_of_ble_eq_true rfl⟩ rfl hl.1 rfl (Nat.le_of_ble_eq_true rfl) dX0_known_38 (fun H locs hX => ?_)
        obtain ⟨hk15, hf⟩ := chk_some hf
        obtain ⟨b16, hb16, hf⟩ := bnd_some hf
        refine xr_getN (q := (RX2, TX2, 2)) B hX 1 hk15 rfl (by decide) (by decide) (v := .ref b16) (x_Vr (c := 3) (j := 1) rfl (by decide) hb16) nq204 (fun _ h => h) dX0_known_41 ?_
        refine lv_iload_n hx hb dX0_known_44 rfl (lv_at hl 1 rfl) ?_
        obtain ⟨hk18, hf⟩ := chk_some hf
        obtain ⟨b17, hcb17, hf⟩ := bnd_some hf
        refine xr_callVC (rest := []) (q := (RJ2, TJ2, 3)) B hX (c_J2_get l D S b16 p0 hcb17) hk18 rfl (by decide) q573 q524 (Or.inl q525) q108 q526 hd_J2_get ⟨Nat.le_of_ble_eq_true rfl, Nat.le_of_ble_eq_true rfl⟩ rfl hl.1 rfl (Nat.le_of_ble_eq_true rfl) dX0_known_45 (fun H locs hX => ?_)
        obtain ⟨hk19, hf⟩ := chk_some hf
        refine xr_castY (q := (RX8, TX8, 2)) B hX hk19 rfl (by decide) q413 (Or.inr ⟨rfl, by decide⟩) dX0_known_48 ?_
        obtain ⟨r20, hcr20, hf⟩ := bnd_some hf
        refine xr_callVC (rest := []) (q := (RX8, TX8, 2)) B hX (c_X8_isOfOne l D S b17 hcr20) hk19 rfl (by decide) q574 q539 (Or.inl q540) q114 q541 hd_X8_isOfOne ⟨Nat.le_of_ble_eq_true rfl, Nat.le_of_ble_eq_true rfl⟩ rfl hl.1 rfl (Nat.le_of_ble_eq_true rfl) dX0_known_51 (fun H locs hX => ?_)
        refine lv_istore (lv' := [(5, .int r20), (0, .ref o), (1, .int p0), (2, .int p1), (3, .int p2), (4, .int p3)]) hx hb dX0_known_54 hl (by decide) rfl (fun ls hl => ?_)
        refine lv_iload hx hb dX0_known_56 (lv_at hl 0 rfl) ?_
        have j22 : f_X0_known_J72_22 o p0 p1 p2 p3 S r20 = some (r, S') → ∀ (H : Heap) (locs : List Loc) (ls : Array Slot), x_I D S s H locs S → lv_has ls 6 [(0, .ref o), (1, .int p0), (2, .int p1), (3, .int p2), (4, .int p3), (5, .int r20)] → W p l e (x_R 7 191 S) s m args below meth c H locs (xz S - xz S) (xu S - xu S) Q (F0 m 72 ls []) := by
          intro hf
          intro H locs ls hX hl
          unfold f_X0_known_J72_22 at hf
          refine lv_aload_n hx hb dX0_known_72 rfl (lv_at hl 0 rfl) ?_
          obtain ⟨b25, hb25, hf⟩ := bnd_some hf
          refine xr_get (q := (RX0, TX0, 14)) B hX 0 hk1 rfl (by decide) (by decide) (v := .ref b25) (x_Vr (c := 1) (j := 0) rfl (by decide) hb25) q339 (fun _ h => h) dX0_known_73 ?_
          obtain ⟨hk26, hf⟩ := chk_some hf
          obtain ⟨b27, hb27, hf⟩ := bnd_some hf
          refine xr_getN (q := (RX1, TX1, 14)) B hX 12 hk26 rfl (by decide) (by decide) (v := .ref b27) (x_Vr (c := 2) (j := 12) rfl (by decide) hb27) nq243 (fun _ h => h) dX0_known_76 ?_
          obtain ⟨hr28, hf⟩ := chk_some hf
          obtain ⟨a30, ea30, hf⟩ := bd_some hf
          obtain ⟨S29, eS29, hf⟩ := bd_some hf
          have hk1 := ks_n hX eS29 (by decide) hk1
          have hk3 := ks_n hX eS29 (by decide) hk3
          have hk6 := ks_n hX eS29 (by decide) hk6
          have hk10 := ks_n hX eS29 (by decide) hk10
          have hk15 := ks_n hX eS29 (by decide) hk15
          have hk18 := ks_n hX eS29 (by decide) hk18
          have hk19 := ks_n hX eS29 (by decide) hk19
          have hk26 := ks_n hX eS29 (by decide) hk26
          have hk31 := ks_new eS29 ea30
          have hw32 := kw_new hX eS29 ea30
          refine xr_new (q := (RX9, TX9, 5)) (N := 5) (ty0 := tyX9) B hX 6 rfl (by decide) tyX9_ok xd_6 q575 q576 q121 hr28 eS29 dX0_known_79 (fun H hX => ?_)
          refine W.eq (g2 := F0 m 82 ls [.ref a30, .ref b27]) (by rw [ea30]; first | done | rfl) ?_
          refine lv_dup hx hb dX0_known_82 rfl ?_
          refine lv_iload_n hx hb dX0_known_83 rfl (lv_at hl 1 rfl) ?_
          refine lv_iload_n hx hb dX0_known_84 rfl (lv_at hl 2 rfl) ?_
          refine lv_iload hx hb dX0_known_85 (lv_at hl 5 rfl) ?_
          obtain ⟨x35, ex35, hf⟩ := bd_some hf
          have jx35 : W p l e (x_R 7 191 S) s m args below meth c H locs (xz S29 - xz S) (xu S29 - xu S) Q (F0 m 95 ls [.int x35, .int p1, .int p0, .ref a30, .ref a30, .ref b27]) := by
            refine lv_iload hx hb dX0_known_95 (lv_at hl 4 rfl) ?_
            refine lv_aload_n hx hb dX0_known_97 rfl (lv_at hl 0 rfl) ?_
            obtain ⟨b36, hb36, hf⟩ := bnd_some hf
            refine xr_get (q := (RX0, TX0, 14)) B hX 0 hk1 rfl (by decide) (by decide) (v := .ref b36) (x_Vr (c := 1) (j := 0) rfl (by decide) hb36) q339 (fun _ h => h) dX0_known_98 ?_
            obtain ⟨hk37, hf⟩ := chk_some hf
            refine xr_getN (q := (RX1, TX1, 14)) B hX 4 hk37 rfl (by decide) (by decide) (x_Vi rfl (by decide)) nq226 (fun _ h => h) dX0_known_101 ?_
            obtain ⟨S38, hcS38, hf⟩ := bnd_some hf
            refine xr_callIC (rest := [.ref a30, .ref b27]) B hX (c_X9_init l D S29 a30 p0 p1 x35 p3 (xi S29 204 b36 0) hcS38) q577 q578 q121 q579 hd_X9_init rfl ⟨Nat.le_of_ble_eq_true rfl, Nat.le_of_ble_eq_true rfl⟩ rfl hl.1 rfl (Nat.le_of_ble_eq_true rfl) dX0_known_104 (fun H locs hX => ?_)
            obtain ⟨hk41, hf⟩ := chk_some hf
            obtain ⟨⟨r39, S40⟩, hcr39, hf⟩ := bnd_some hf
            have hf := u2_at hf
            refine xr_callVC (rest := []) (q := (RJ2, TJ2, 3)) B hX (c_J2_add l D S38 b27 a30 hcr39) hk41 rfl (by decide) q434 q435 (Or.inl q436) q108 q437 hd_J2_add ⟨Nat.le_of_ble_eq_true rfl, Nat.le_of_ble_eq_true rfl⟩ rfl hl.1 rfl (Nat.le_of_ble_eq_true rfl) dX0_known_107 (fun H locs hX => ?_)
            refine lv_pop hx hb dX0_known_110 rfl ?_
            refine lv_iconst (v := nI 1) hx hb dX0_known_111 ic1 ?_
            cases hf
            exact hret _ _ _ _ rfl hX dX0_known_112
          refine lv_if_eq (tgt := 94) hx hb dX0_known_87 (by decide) (fun c33 => ?_) (fun c33 => ?_)
          · refine lv_iload_n hx hb dX0_known_94 rfl (lv_at hl 3 rfl) ?_
            exact js (ex35.trans (if_pos c33)) jx35
          · refine lv_iconst (v := nI 0) hx hb dX0_known_90 ic0 ?_
            refine lv_goto (tgt := 95) hx hb dX0_known_91 (by decide) ?_
            exact js (ex35.trans (if_neg c33)) jx35
        refine lv_if_ne (tgt := 72) hx hb dX0_known_58 (by decide) (fun c21 => ?_) (fun c21 => ?_)
        · have hf := it_neg c21 hf
          exact j22  hf _ _ _ hX (lv_sub hl [1, 2, 3, 4, 5, 0] rfl)
        · have hf := it_pos c21 hf
          refine lv_iload_n hx hb dX0_known_61 rfl (lv_at hl 4 rfl) ?_
          refine lv_iconst (v := nI 0) hx hb dX0_known_62 ic0 ?_
          refine lv_iconst (v := nI 2) hx hb dX0_known_63 ic2 ?_
          obtain ⟨r23, hcr23, hf⟩ := bnd_some hf
          refine pr_callS (rest := []) B (c_X0_isIn l p2 (nI 0) (nI 2) hcr23) (va_cwS 3 hts (lw_S q390 q391 q103 q392) rfl rfl rfl hd_X0_isIn ⟨Nat.le_of_ble_eq_true rfl, Nat.le_of_ble_eq_true rfl⟩) rfl hl.1 rfl (Nat.le_of_ble_eq_true rfl) dX0_known_64 (x_room0 hX) ?_
          refine lv_if_ne (tgt := 72) hx hb dX0_known_67 (by decide) (fun c24 => ?_) (fun c24 => ?_)
          · have hf := it_neg c24 hf
            exact j22  hf _ _ _ hX (lv_sub hl [1, 2, 3, 4, 5, 0] rfl)
          · have hf := it_pos c24 hf
            refine lv_iconst (v := nI 0) hx hb dX0_known_70 ic0 ?_
            cases hf
            exact hret _ _ _ _ rfl hX dX0_known_71
      · have hf := it_pos c13 hf
        refine lv_iconst (v := nI 0) hx hb dX0_known_35 ic0 ?_
        cases hf
        exact hret _ _ _ _ rfl hX dX0_known_36
def f_X0_feed_L21 (o : Nat) (p0 : Int32) (p1 : Int32) (p2 : Int32) (p3 : Int32) (p4 : Int32) (x5 : Int32) (S6 : XS) : Option ((Int32 × XS) ⊕ ((XS))) :=
  (if nI 20 ≤ x5 then some (.inr S6) else bd (if nI 4 ≤ x5 then (if nI 8 ≤ x5 then (if nI 12 ≤ x5 then (if nI 16 ≤ x5 then p4 else p3) else p2) else p1) else p0) fun x13 => chk (xk S6 o = 1) <| bnd (xr S6 100 o 0) fun b15 => chk (xk S6 b15 = 2) <| bnd (xr S6 200 b15 0) fun b17 => bnd (xr S6 100 o 0) fun b18 => chk (xk S6 b18 = 2) <| chk (xk S6 b17 = 51) <| chk (xb S6 ≤ b17) <| ast (xn S6 b17) (xi S6 201 b18 0) (s_i S6 51 b17 (xi S6 201 b18 0).toNatClampNeg (vp_nar .byte ((x13 >>> ((nI 24 - (nI 8 * (x5 &&& nI 3))) &&& 31)).toInt8.toInt32))) fun S22 => bnd (xr S22 100 o 0) fun b23 => chk (xk S22 b23 = 2) <| chk (xb S22 ≤ b23) <| bd (s_i S22 201 b23 0 ((xi S22 201 b23 0) + nI 1)) fun S26 => bd (x5 + nI 1) fun x27 => some (.inl (x27, S26)))
def f_X0_feed (S : XS) (o : Nat) (p0 : Int32) (p1 : Int32) (p2 : Int32) (p3 : Int32) (p4 : Int32) : Option (Int32 × XS) :=
  chk (xk S o = 1) <| bnd (xr S 100 o 0) fun b2 => chk (xk S b2 = 2) <| (if ((xi S 201 b2 0) + nI 20) ≤ nI 400 then bnd (wO (fun t : Int32 × XS => f_X0_feed_L21 o p0 p1 p2 p3 p4 t.1 t.2) fu (nI 0, S)) <| fun S30 => chk (xk S30 o = 1) <| bnd (xr S30 100 o 0) fun b32 => chk (xk S30 b32 = 2) <| some ((xi S30 201 b32 0), S30) else some ((-1), S))
set_option maxHeartbeats 4000000 in
set_option maxRecDepth 100000 in
theorem c_X0_feed (l : Launch) (D : XD) (S : XS) (o : Nat) (p0 : Int32) (p1 : Int32) (p2 : Int32) (p3 : Int32) (p4 : Int32) {r : Int32} {S' : XS} (hf : f_X0_feed S o p0 p1 p2 p3 p4 = some (r, S')) : x_Met l yX0_feed cX0_feed 8 (Option.some Jvm.ClassFile.FieldType.int) 0 0 D [.ref o, .int p0, .int p1, .int p2, .int p3, .int p4] S (some (.int r)) S' := by
  refine x_metI RX0 (by decide) rfl (Nat.le_of_ble_eq_true rfl) (fun p e s m args below meth c Q B hnm hret H locs hX ls hl => ?_)
  have hx := B.1
  have hb := B.2.1
  have hml := B.2.2.1
  have hown := B.2.2.2.1
  have hts := B.2.2.2.2
  have hl : lv_has ls 8 [(0, .ref o), (1, .int p0), (2, .int p1), (3, .int p2), (4, .int p3), (5, .int p4)] := hl
  unfold f_X0_feed at hf
  refine lv_aload_n hx hb dX0_feed_0 rfl (lv_at hl 0 rfl) ?_
  obtain ⟨hk1, hf⟩ := chk_some hf
  obtain ⟨b2, hb2, hf⟩ := bnd_some hf
  refine xr_get (q := (RX0, TX0, 14)) B hX 0 hk1 rfl (by decide) (by decide) (v := .ref b2) (x_Vr (c := 1) (j := 0) rfl (by decide) hb2) q339 (fun _ h => h) dX0_feed_1 ?_
  obtain ⟨hk3, hf⟩ := chk_some hf
  refine xr_getN (q := (RX1, TX1, 14)) B hX 1 hk3 rfl (by decide) (by decide) (x_Vi rfl (by decide)) nq220 (fun _ h => h) dX0_feed_4 ?_
  refine lv_bipush (v := nI 20) hx hb dX0_feed_7 bp20 ?_
  refine lv_iadd hx hb dX0_feed_9 ?_
  refine lv_sipush (v := nI 400) hx hb dX0_feed_10 sp400 ?_
  refine lv_icmp_le (tgt := 18) hx hb dX0_feed_13 (by decide) (fun c4 => ?_) (fun c4 => ?_)
  · have hf := it_pos c4 hf
    refine lv_iconst (v := nI 0) hx hb dX0_feed_18 ic0 ?_
    refine lv_istore (lv' := [(6, .int (nI 0)), (0, .ref o), (1, .int p0), (2, .int p1), (3, .int p2), (4, .int p3), (5, .int p4)]) hx hb dX0_feed_19 hl (by decide) rfl (fun ls hl => ?_)
    obtain ⟨y29, hxy29, hf⟩ := bnd_some hf
    have hy29 : (fun t : XS => ∀ (H : Heap) (locs : List Loc) (ls : Array Slot), x_I D S s H locs t → lv_has ls 8 [(0, .ref o)] → W p l e (x_R 0 0 S) s m args below meth c H locs (xz t - xz S) (xu t - xu S) Q (F0 m 124 ls [])) y29 := by
      obtain ⟨S30, rfl⟩ : ∃ z, z = y29 := ⟨_, rfl⟩
      intro H locs ls hX hl
      refine lv_aload_n hx hb dX0_feed_124 rfl (lv_at hl 0 rfl) ?_
      obtain ⟨hk31, hf⟩ := chk_some hf
      obtain ⟨b32, hb32, hf⟩ := bnd_some hf
      refine xr_get (q := (RX0, TX0, 14)) B hX 0 hk31 rfl (by decide) (by decide) (v := .ref b32) (x_Vr (c := 1) (j := 0) rfl (by decide) hb32) q339 (fun _ h => h) dX0_feed_125 ?_
      obtain ⟨hk33, hf⟩ := chk_some hf
      refine xr_getN (q := (RX1, TX1, 14)) B hX 1 hk33 rfl (by decide) (by decide) (x_Vi rfl (by decide)) nq220 (fun _ h => h) dX0_feed_128 ?_
      cases hf
      exact hret _ _ _ _ rfl hX dX0_feed_131
    refine lp_W (step := (fun t : Int32 × XS => f_X0_feed_L21 o p0 p1 p2 p3 p4 t.1 t.2)) (fun t : Int32 × XS => ∀ (H : Heap) (locs : List Loc) (ls : Array Slot), x_I D S s H locs t.2 → lv_has ls 8 [(0, .ref o), (1, .int p0), (2, .int p1), (3, .int p2), (4, .int p3), (5, .int p4), (6, .int t.1)] → W p l e (x_R 0 0 S) s m args below meth c H locs (xz t.2 - xz S) (xu t.2 - xu S) Q (F0 m 21 ls [])) (fun t : XS => ∀ (H : Heap) (locs : List Loc) (ls : Array Slot), x_I D S s H locs t → lv_has ls 8 [(0, .ref o)] → W p l e (x_R 0 0 S) s m args below meth c H locs (xz t - xz S) (xu t - xu S) Q (F0 m 124 ls [])) ?_ fu (nI 0, S) y29 hxy29 hy29 _ _ _ hX (lv_sub hl [1, 2, 3, 4, 5, 6, 0] rfl)
    clear hf hxy29 hy29
    rintro ⟨x5, S6⟩ oo (hf : f_X0_feed_L21 o p0 p1 p2 p3 p4 x5 S6 = some oo) hk
    intro H locs ls hX hl
    unfold f_X0_feed_L21 at hf
    refine lv_iload hx hb dX0_feed_21 (lv_at hl 6 rfl) ?_
    refine lv_bipush (v := nI 20) hx hb dX0_feed_23 bp20 ?_
    refine lv_icmp_ge (tgt := 124) hx hb dX0_feed_25 (by decide) (fun c7 => ?_) (fun c7 => ?_)
    · have hf := it_pos c7 hf
      cases hf
      exact hk _ _ _ hX (lv_sub hl [0] rfl)
    · have hf := it_neg c7 hf
      refine lv_iload hx hb dX0_feed_28 (lv_at hl 6 rfl) ?_
      refine lv_iconst (v := nI 4) hx hb dX0_feed_30 ic4 ?_
      obtain ⟨x13, ex13, hf⟩ := bd_some hf
      have jx13 : W p l e (x_R 0 0 S) s m args below meth c H locs (xz S6 - xz S) (xu S6 - xu S) Q (F0 m 74 ls [.int x13]) := by
        refine lv_istore (lv' := [(7, .int x13), (0, .ref o), (1, .int p0), (2, .int p1), (3, .int p2), (4, .int p3), (5, .int p4), (6, .int x5)]) hx hb dX0_feed_74 hl (by decide) rfl (fun ls hl => ?_)
        refine lv_aload_n hx hb dX0_feed_76 rfl (lv_at hl 1 rfl) ?_
        obtain ⟨hk14, hf⟩ := chk_some hf
        obtain ⟨b15, hb15, hf⟩ := bnd_some hf
        refine xr_get (q := (RX0, TX0, 14)) B hX 0 hk14 rfl (by decide) (by decide) (v := .ref b15) (x_Vr (c := 1) (j := 0) rfl (by decide) hb15) q339 (fun _ h => h) dX0_feed_77 ?_
        obtain ⟨hk16, hf⟩ := chk_some hf
        obtain ⟨b17, hb17, hf⟩ := bnd_some hf
        refine xr_getN (q := (RX1, TX1, 14)) B hX 0 hk16 rfl (by decide) (by decide) (v := .ref b17) (x_Vr (c := 2) (j := 0) rfl (by decide) hb17) nq218 (fun _ h => h) dX0_feed_80 ?_
        refine lv_aload_n hx hb dX0_feed_83 rfl (lv_at hl 1 rfl) ?_
        obtain ⟨b18, hb18, hf⟩ := bnd_some hf
        refine xr_get (q := (RX0, TX0, 14)) B hX 0 hk14 rfl (by decide) (by decide) (v := .ref b18) (x_Vr (c := 1) (j := 0) rfl (by decide) hb18) q339 (fun _ h => h) dX0_feed_84 ?_
        obtain ⟨hk19, hf⟩ := chk_some hf
        refine xr_getN (q := (RX1, TX1, 14)) B hX 1 hk19 rfl (by decide) (by decide) (x_Vi rfl (by decide)) nq220 (fun _ h => h) dX0_feed_87 ?_
        refine lv_iload hx hb dX0_feed_90 (lv_at hl 0 rfl) ?_
        refine lv_bipush (v := nI 24) hx hb dX0_feed_92 bp24 ?_
        refine lv_bipush (v := nI 8) hx hb dX0_feed_94 bp8 ?_
        refine lv_iload hx hb dX0_feed_96 (lv_at hl 7 rfl) ?_
        refine lv_iconst (v := nI 3) hx hb dX0_feed_98 ic3 ?_
        refine lv_iand hx hb dX0_feed_99 ?_
        refine lv_imul hx hb dX0_feed_100 ?_
        refine lv_isub hx hb dX0_feed_101 ?_
        refine lv_ishr hx hb dX0_feed_102 ?_
        refine lv_i2b (v := (x13 >>> ((nI 24 - (nI 8 * (x5 &&& nI 3))) &&& 31)).toInt8.toInt32) hx hb dX0_feed_103 rfl ?_
        obtain ⟨hk20, hf⟩ := chk_some hf
        obtain ⟨hw21, hf⟩ := chk_some hf
        obtain ⟨S22, eS22, hiS22, hf⟩ := ast_some hf
        refine xr_bast B hX hk20 hw21 hiS22 eS22 dX0_feed_104 (fun H locs hX => ?_)
        refine w_i eS22 ?_
        have hk14 := ks_i eS22 hk14
        have hk16 := ks_i eS22 hk16
        have hk19 := ks_i eS22 hk19
        have hk20 := ks_i eS22 hk20
        have hw21 := kw_i eS22 hw21
        refine lv_aload_n hx hb dX0_feed_105 rfl (lv_at hl 1 rfl) ?_
        obtain ⟨b23, hb23, hf⟩ := bnd_some hf
        refine xr_get (q := (RX0, TX0, 14)) B hX 0 hk14 rfl (by decide) (by decide) (v := .ref b23) (x_Vr (c := 1) (j := 0) rfl (by decide) hb23) q339 (fun _ h => h) dX0_feed_106 ?_
        refine lv_dup hx hb dX0_feed_109 rfl ?_
        obtain ⟨hk24, hf⟩ := chk_some hf
        refine xr_getN (q := (RX1, TX1, 14)) B hX 1 hk24 rfl (by decide) (by decide) (x_Vi rfl (by decide)) nq220 (fun _ h => h) dX0_feed_110 ?_
        refine lv_iconst (v := nI 1) hx hb dX0_feed_113 ic1 ?_
        refine lv_iadd hx hb dX0_feed_114 ?_
        obtain ⟨hw25, hf⟩ := chk_some hf
        obtain ⟨S26, eS26, hf⟩ := bd_some hf
        refine xr_putN (S' := S26) (q := (RX1, TX1, 14)) (v := .int ((xi S22 201 b23 0) + nI 1)) (ty0 := tyX1) B hX 1 hk24 rfl (by decide) hw25 (by decide) (by rw [eS26]; exact x_Vup_i (k := 2) (j := 1) rfl (by decide)) tyX1_ok (fun i h1 h2 => nmX1 i (Nat.lt_of_lt_of_le h1 (by decide)) 1 (by decide) h2) rfl rfl rfl nq220 (fun _ h => h) dX0_feed_115 (fun H locs hX => ?_)
        refine w_i eS26 ?_
        have hk14 := ks_i eS26 hk14
        have hk16 := ks_i eS26 hk16
        have hk19 := ks_i eS26 hk19
        have hk20 := ks_i eS26 hk20
        have hw21 := kw_i eS26 hw21
        have hk24 := ks_i eS26 hk24
        have hw25 := kw_i eS26 hw25
        obtain ⟨x27, ex27, hf⟩ := bd_some hf
        refine lv_iinc (v := x27) (lv' := [(6, .int x27), (7, .int x13), (0, .ref o), (1, .int p0), (2, .int p1), (3, .int p2), (4, .int p3), (5, .int p4)]) hx hb dX0_feed_118 hl (k := 7) rfl (by rw [ex27]; first | done | rfl) (by decide) rfl (fun ls hl => ?_)
        refine lv_goto (tgt := 21) hx hb dX0_feed_121 (by decide) ?_
        cases hf
        exact hk _ _ _ hX (lv_sub hl [2, 3, 4, 5, 6, 7, 0] rfl)
      refine lv_icmp_ge (tgt := 38) hx hb dX0_feed_31 (by decide) (fun c8 => ?_) (fun c8 => ?_)
      · refine lv_iload hx hb dX0_feed_38 (lv_at hl 6 rfl) ?_
        refine lv_bipush (v := nI 8) hx hb dX0_feed_40 bp8 ?_
        refine lv_icmp_ge (tgt := 49) hx hb dX0_feed_42 (by decide) (fun c10 => ?_) (fun c10 => ?_)
        · refine lv_iload hx hb dX0_feed_49 (lv_at hl 6 rfl) ?_
          refine lv_bipush (v := nI 12) hx hb dX0_feed_51 bp12 ?_
          refine lv_icmp_ge (tgt := 60) hx hb dX0_feed_53 (by decide) (fun c11 => ?_) (fun c11 => ?_)
          · refine lv_iload hx hb dX0_feed_60 (lv_at hl 6 rfl) ?_
            refine lv_bipush (v := nI 16) hx hb dX0_feed_62 bp16 ?_
            refine lv_icmp_ge (tgt := 72) hx hb dX0_feed_64 (by decide) (fun c12 => ?_) (fun c12 => ?_)
            · refine lv_iload hx hb dX0_feed_72 (lv_at hl 5 rfl) ?_
              exact js ((((ex13.trans (if_pos c8)).trans (if_pos c10)).trans (if_pos c11)).trans (if_pos c12)) jx13
            · refine lv_iload hx hb dX0_feed_67 (lv_at hl 4 rfl) ?_
              refine lv_goto (tgt := 74) hx hb dX0_feed_69 (by decide) ?_
              exact js ((((ex13.trans (if_pos c8)).trans (if_pos c10)).trans (if_pos c11)).trans (if_neg c12)) jx13
          · refine lv_iload_n hx hb dX0_feed_56 rfl (lv_at hl 3 rfl) ?_
            refine lv_goto (tgt := 74) hx hb dX0_feed_57 (by decide) ?_
            exact js (((ex13.trans (if_pos c8)).trans (if_pos c10)).trans (if_neg c11)) jx13
        · refine lv_iload_n hx hb dX0_feed_45 rfl (lv_at hl 2 rfl) ?_
          refine lv_goto (tgt := 74) hx hb dX0_feed_46 (by decide) ?_
          exact js ((ex13.trans (if_pos c8)).trans (if_neg c10)) jx13
      · refine lv_iload_n hx hb dX0_feed_34 rfl (lv_at hl 1 rfl) ?_
        refine lv_goto (tgt := 74) hx hb dX0_feed_35 (by decide) ?_
        exact js (ex13.trans (if_neg c8)) jx13
  · have hf := it_neg c4 hf
    refine lv_iconst (v := (-1)) hx hb dX0_feed_16 icm1 ?_
    cases hf
    exact hret _ _ _ _ rfl hX dX0_feed_17
def f_X0_end (S : XS) (o : Nat) (p0 : Int32) : Option (Int32 × XS) :=
  (if p0 < 0 then some ((-1), S) else chk (xk S o = 1) <| bnd (xr S 100 o 0) fun b3 => chk (xk S b3 = 2) <| (if p0 ≤ (xi S 201 b3 0) then bnd (xr S 100 o 0) fun b6 => chk (xk S b6 = 2) <| chk (xb S ≤ b6) <| bd (s_i S 201 b6 0 p0) fun S9 => some (p0, S9) else some ((-1), S)))
set_option maxHeartbeats 4000000 in
set_option maxRecDepth 100000 in
theorem c_X0_end (l : Launch) (D : XD) (S : XS) (o : Nat) (p0 : Int32) {r : Int32} {S' : XS} (hf : f_X0_end S o p0 = some (r, S')) : x_Met l yX0_end cX0_end 2 (Option.some Jvm.ClassFile.FieldType.int) 0 0 D [.ref o, .int p0] S (some (.int r)) S' := by
  refine x_metI RX0 (by decide) rfl (Nat.le_of_ble_eq_true rfl) (fun p e s m args below meth c Q B hnm hret H locs hX ls hl => ?_)
  have hx := B.1
  have hb := B.2.1
  have hml := B.2.2.1
  have hown := B.2.2.2.1
  have hts := B.2.2.2.2
  have hl : lv_has ls 2 [(0, .ref o), (1, .int p0)] := hl
  unfold f_X0_end at hf
  refine lv_iload_n hx hb dX0_end_0 rfl (lv_at hl 1 rfl) ?_
  refine lv_if_lt (tgt := 15) hx hb dX0_end_1 (by decide) (fun c1 => ?_) (fun c1 => ?_)
  · have hf := it_pos c1 hf
    refine lv_iconst (v := (-1)) hx hb dX0_end_15 icm1 ?_
    cases hf
    exact hret _ _ _ _ rfl hX dX0_end_16
  · have hf := it_neg c1 hf
    refine lv_iload_n hx hb dX0_end_4 rfl (lv_at hl 1 rfl) ?_
    refine lv_aload_n hx hb dX0_end_5 rfl (lv_at hl 0 rfl) ?_
    obtain ⟨hk2, hf⟩ := chk_some hf
    obtain ⟨b3, hb3, hf⟩ := bnd_some hf
    refine xr_get (q := (RX0, TX0, 14)) B hX 0 hk2 rfl (by decide) (by decide) (v := .ref b3) (x_Vr (c := 1) (j := 0) rfl (by decide) hb3) q339 (fun _ h => h) dX0_end_6 ?_
    obtain ⟨hk4, hf⟩ := chk_some hf
    refine xr_getN (q := (RX1, TX1, 14)) B hX 1 hk4 rfl (by decide) (by decide) (x_Vi rfl (by decide)) nq220 (fun _ h => h) dX0_end_9 ?_
    refine lv_icmp_le (tgt := 17) hx hb dX0_end_12 (by decide) (fun c5 => ?_) (fun c5 => ?_)
    · have hf := it_pos c5 hf
      refine lv_aload_n hx hb dX0_end_17 rfl (lv_at hl 0 rfl) ?_
      obtain ⟨b6, hb6, hf⟩ := bnd_some hf
      refine xr_get (q := (RX0, TX0, 14)) B hX 0 hk2 rfl (by decide) (by decide) (v := .ref b6) (x_Vr (c := 1) (j := 0) rfl (by decide) hb6) q339 (fun _ h => h) dX0_end_18 ?_
      refine lv_iload_n hx hb dX0_end_21 rfl (lv_at hl 1 rfl) ?_
      obtain ⟨hk7, hf⟩ := chk_some hf
      obtain ⟨hw8, hf⟩ := chk_some hf
      obtain ⟨S9, eS9, hf⟩ := bd_some hf
      refine xr_putN (S' := S9) (q := (RX1, TX1, 14)) (v := .int p0) (ty0 := tyX1) B hX 1 hk7 rfl (by decide) hw8 (by decide) (by rw [eS9]; exact x_Vup_i (k := 2) (j := 1) rfl (by decide)) tyX1_ok (fun i h1 h2 => nmX1 i (Nat.lt_of_lt_of_le h1 (by decide)) 1 (by decide) h2) rfl rfl rfl nq220 (fun _ h => h) dX0_end_22 (fun H locs hX => ?_)
      refine w_i eS9 ?_
      have hk2 := ks_i eS9 hk2
      have hk4 := ks_i eS9 hk4
      have hk7 := ks_i eS9 hk7
      have hw8 := kw_i eS9 hw8
      refine lv_iload_n hx hb dX0_end_25 rfl (lv_at hl 1 rfl) ?_
      cases hf
      exact hret _ _ _ _ rfl hX dX0_end_26
    · have hf := it_neg c5 hf
      refine lv_iconst (v := (-1)) hx hb dX0_end_15 icm1 ?_
      cases hf
      exact hret _ _ _ _ rfl hX dX0_end_16
def f_X0_begins (S : XS) (o : Nat) : Option (Int32 × XS) :=
  chk (xk S o = 1) <| bnd (xr S 100 o 0) fun b2 => chk (xk S b2 = 2) <| bd (xi S 201 b2 0) fun x4 => bnd (xr S 100 o 0) fun b5 => chk (xk S b5 = 2) <| chk (xb S ≤ b5) <| bd (s_i S 201 b5 0 (nI 0)) fun S8 => bnd (xr S8 100 o 0) fun b9 => chk (xk S8 b9 = 2) <| chk (xb S8 ≤ b9) <| bd (s_i S8 202 b9 0 (nI 0)) fun S12 => bnd (xr S12 100 o 0) fun b13 => chk (xk S12 b13 = 2) <| chk (xb S12 ≤ b13) <| bd (s_i S12 203 b13 0 (-1)) fun S16 => some (x4, S16)
set_option maxHeartbeats 4000000 in
set_option maxRecDepth 100000 in
theorem c_X0_begins (l : Launch) (D : XD) (S : XS) (o : Nat) {r : Int32} {S' : XS} (hf : f_X0_begins S o = some (r, S')) : x_Met l yX0_begins cX0_begins 2 (Option.some Jvm.ClassFile.FieldType.int) 0 0 D [.ref o] S (some (.int r)) S' := by
  refine x_metI RX0 (by decide) rfl (Nat.le_of_ble_eq_true rfl) (fun p e s m args below meth c Q B hnm hret H locs hX ls hl => ?_)
  have hx := B.1
  have hb := B.2.1
  have hml := B.2.2.1
  have hown := B.2.2.2.1
  have hts := B.2.2.2.2
  have hl : lv_has ls 2 [(0, .ref o)] := hl
  unfold f_X0_begins at hf
  refine lv_aload_n hx hb dX0_begins_0 rfl (lv_at hl 0 rfl) ?_
  obtain ⟨hk1, hf⟩ := chk_some hf
  obtain ⟨b2, hb2, hf⟩ := bnd_some hf
  refine xr_get (q := (RX0, TX0, 14)) B hX 0 hk1 rfl (by decide) (by decide) (v := .ref b2) (x_Vr (c := 1) (j := 0) rfl (by decide) hb2) q339 (fun _ h => h) dX0_begins_1 ?_
  obtain ⟨hk3, hf⟩ := chk_some hf
  refine xr_getN (q := (RX1, TX1, 14)) B hX 1 hk3 rfl (by decide) (by decide) (x_Vi rfl (by decide)) nq220 (fun _ h => h) dX0_begins_4 ?_
  refine lv_topi (fun x4 ex4 => ?_)
  have hf := bd_at ex4 hf
  refine lv_istore_n (lv' := [(1, .int x4), (0, .ref o)]) hx hb dX0_begins_7 rfl hl (by decide) rfl (fun ls hl => ?_)
  refine lv_aload_n hx hb dX0_begins_8 rfl (lv_at hl 1 rfl) ?_
  obtain ⟨b5, hb5, hf⟩ := bnd_some hf
  refine xr_get (q := (RX0, TX0, 14)) B hX 0 hk1 rfl (by decide) (by decide) (v := .ref b5) (x_Vr (c := 1) (j := 0) rfl (by decide) hb5) q339 (fun _ h => h) dX0_begins_9 ?_
  refine lv_iconst (v := nI 0) hx hb dX0_begins_12 ic0 ?_
  obtain ⟨hk6, hf⟩ := chk_some hf
  obtain ⟨hw7, hf⟩ := chk_some hf
  obtain ⟨S8, eS8, hf⟩ := bd_some hf
  refine xr_putN (S' := S8) (q := (RX1, TX1, 14)) (v := .int (nI 0)) (ty0 := tyX1) B hX 1 hk6 rfl (by decide) hw7 (by decide) (by rw [eS8]; exact x_Vup_i (k := 2) (j := 1) rfl (by decide)) tyX1_ok (fun i h1 h2 => nmX1 i (Nat.lt_of_lt_of_le h1 (by decide)) 1 (by decide) h2) rfl rfl rfl nq220 (fun _ h => h) dX0_begins_13 (fun H locs hX => ?_)
  refine w_i eS8 ?_
  have hk1 := ks_i eS8 hk1
  have hk3 := ks_i eS8 hk3
  have hk6 := ks_i eS8 hk6
  have hw7 := kw_i eS8 hw7
  refine lv_aload_n hx hb dX0_begins_16 rfl (lv_at hl 1 rfl) ?_
  obtain ⟨b9, hb9, hf⟩ := bnd_some hf
  refine xr_get (q := (RX0, TX0, 14)) B hX 0 hk1 rfl (by decide) (by decide) (v := .ref b9) (x_Vr (c := 1) (j := 0) rfl (by decide) hb9) q339 (fun _ h => h) dX0_begins_17 ?_
  refine lv_iconst (v := nI 0) hx hb dX0_begins_20 ic0 ?_
  obtain ⟨hk10, hf⟩ := chk_some hf
  obtain ⟨hw11, hf⟩ := chk_some hf
  obtain ⟨S12, eS12, hf⟩ := bd_some hf
  refine xr_putN (S' := S12) (q := (RX1, TX1, 14)) (v := .int (nI 0)) (ty0 := tyX1) B hX 2 hk10 rfl (by decide) hw11 (by decide) (by rw [eS12]; exact x_Vup_i (k := 2) (j := 2) rfl (by decide)) tyX1_ok (fun i h1 h2 => nmX1 i (Nat.lt_of_lt_of_le h1 (by decide)) 2 (by decide) h2) rfl rfl rfl nq222 (fun _ h => h) dX0_begins_21 (fun H locs hX => ?_)
  refine w_i eS12 ?_
  have hk1 := ks_i eS12 hk1
  have hk3 := ks_i eS12 hk3
  have hk6 := ks_i eS12 hk6
  have hw7 := kw_i eS12 hw7
  have hk10 := ks_i eS12 hk10
  have hw11 := kw_i eS12 hw11
  refine lv_aload_n hx hb dX0_begins_24 rfl (lv_at hl 1 rfl) ?_
  obtain ⟨b13, hb13, hf⟩ := bnd_some hf
  refine xr_get (q := (RX0, TX0, 14)) B hX 0 hk1 rfl (by decide) (by decide) (v := .ref b13) (x_Vr (c := 1) (j := 0) rfl (by decide) hb13) q339 (fun _ h => h) dX0_begins_25 ?_
  refine lv_iconst (v := (-1)) hx hb dX0_begins_28 icm1 ?_
  obtain ⟨hk14, hf⟩ := chk_some hf
  obtain ⟨hw15, hf⟩ := chk_some hf
  obtain ⟨S16, eS16, hf⟩ := bd_some hf
  refine xr_putN (S' := S16) (q := (RX1, TX1, 14)) (v := .int (-1)) (ty0 := tyX1) B hX 3 hk14 rfl (by decide) hw15 (by decide) (by rw [eS16]; exact x_Vup_i (k := 2) (j := 3) rfl (by decide)) tyX1_ok (fun i h1 h2 => nmX1 i (Nat.lt_of_lt_of_le h1 (by decide)) 3 (by decide) h2) rfl rfl rfl nq224 (fun _ h => h) dX0_begins_29 (fun H locs hX => ?_)
  refine w_i eS16 ?_
  have hk1 := ks_i eS16 hk1
  have hk3 := ks_i eS16 hk3
  have hk6 := ks_i eS16 hk6
  have hw7 := kw_i eS16 hw7
  have hk10 := ks_i eS16 hk10
  have hw11 := kw_i eS16 hw11
  have hk14 := ks_i eS16 hk14
  have hw15 := kw_i eS16 hw15
  refine lv_iload_n hx hb dX0_begins_32 rfl (lv_at hl 0 rfl) ?_
  cases hf
  exact hret _ _ _ _ rfl hX dX0_begins_33
def f_X0_fails (S : XS) (o : Nat) (p0 : Nat) : Option (Int32 × XS) :=
  chk (xk S o = 1) <| bnd (xr S 100 o 0) fun b2 => chk (xk S p0 = 9) <| chk (xk S b2 = 2) <| chk (xb S ≤ b2) <| bd (s_i S 202 b2 0 (xi S 906 p0 0)) fun S6 => bnd (xr S6 100 o 0) fun b7 => chk (xk S6 b7 = 2) <| chk (xb S6 ≤ b7) <| bd (s_i S6 203 b7 0 (xi S6 907 p0 0)) fun S10 => some ((-1), S10)
set_option maxHeartbeats 4000000 in
set_option maxRecDepth 100000 in
theorem c_X0_fails (l : Launch) (D : XD) (S : XS) (o : Nat) (p0 : Nat) {r : Int32} {S' : XS} (hf : f_X0_fails S o p0 = some (r, S')) : x_Met l yX0_fails cX0_fails 2 (Option.some Jvm.ClassFile.FieldType.int) 0 0 D [.ref o, .ref p0] S (some (.int r)) S' := by
  refine x_metI RX0 (by decide) rfl (Nat.le_of_ble_eq_true rfl) (fun p e s m args below meth c Q B hnm hret H locs hX ls hl => ?_)
  have hx := B.1
  have hb := B.2.1
  have hml := B.2.2.1
  have hown := B.2.2.2.1
  have hts := B.2.2.2.2
  have hl : lv_has ls 2 [(0, .ref o), (1, .ref p0)] := hl
  unfold f_X0_fails at hf
  refine lv_aload_n hx hb dX0_fails_0 rfl (lv_at hl 0 rfl) ?_
  obtain ⟨hk1, hf⟩ := chk_some hf
  obtain ⟨b2, hb2, hf⟩ := bnd_some hf
  refine xr_get (q := (RX0, TX0, 14)) B hX 0 hk1 rfl (by decide) (by decide) (v := .ref b2) (x_Vr (c := 1) (j := 0) rfl (by decide) hb2) q339 (fun _ h => h) dX0_fails_1 ?_
  refine lv_aload_n hx hb dX0_fails_4 rfl (lv_at hl 1 rfl) ?_
  obtain ⟨hk3, hf⟩ := chk_some hf
  refine xr_getN (q := (RX12, TX12, 8)) B hX 6 hk3 rfl (by decide) (by decide) (x_Vi rfl (by decide)) nq915 (fun _ h => h) dX0_fails_5 ?_
  obtain ⟨hk4, hf⟩ := chk_some hf
  obtain ⟨hw5, hf⟩ := chk_some hf
  obtain ⟨S6, eS6, hf⟩ := bd_some hf
  refine xr_putN (S' := S6) (q := (RX1, TX1, 14)) (v := .int (xi S 906 p0 0)) (ty0 := tyX1) B hX 2 hk4 rfl (by decide) hw5 (by decide) (by rw [eS6]; exact x_Vup_i (k := 2) (j := 2) rfl (by decide)) tyX1_ok (fun i h1 h2 => nmX1 i (Nat.lt_of_lt_of_le h1 (by decide)) 2 (by decide) h2) rfl rfl rfl nq222 (fun _ h => h) dX0_fails_8 (fun H locs hX => ?_)
  refine w_i eS6 ?_
  have hk1 := ks_i eS6 hk1
  have hk3 := ks_i eS6 hk3
  have hk4 := ks_i eS6 hk4
  have hw5 := kw_i eS6 hw5
  refine lv_aload_n hx hb dX0_fails_11 rfl (lv_at hl 0 rfl) ?_
  obtain ⟨b7, hb7, hf⟩ := bnd_some hf
  refine xr_get (q := (RX0, TX0, 14)) B hX 0 hk1 rfl (by decide) (by decide) (v := .ref b7) (x_Vr (c := 1) (j := 0) rfl (by decide) hb7) q339 (fun _ h => h) dX0_fails_12 ?_
  refine lv_aload_n hx hb dX0_fails_15 rfl (lv_at hl 1 rfl) ?_
  refine xr_getN (q := (RX12, TX12, 8)) B hX 7 hk3 rfl (by decide) (by decide) (x_Vi rfl (by decide)) nq918 (fun _ h => h) dX0_fails_16 ?_
  obtain ⟨hk8, hf⟩ := chk_some hf
  obtain ⟨hw9, hf⟩ := chk_some hf
  obtain ⟨S10, eS10, hf⟩ := bd_some hf
  refine xr_putN (S' := S10) (q := (RX1, TX1, 14)) (v := .int (xi S6 907 p0 0)) (ty0 := tyX1) B hX 3 hk8 rfl (by decide) hw9 (by decide) (by rw [eS10]; exact x_Vup_i (k := 2) (j := 3) rfl (by decide)) tyX1_ok (fun i h1 h2 => nmX1 i (Nat.lt_of_lt_of_le h1 (by decide)) 3 (by decide) h2) rfl rfl rfl nq224 (fun _ h => h) dX0_fails_19 (fun H locs hX => ?_)
  refine w_i eS10 ?_
  have hk1 := ks_i eS10 hk1
  have hk3 := ks_i eS10 hk3
  have hk4 := ks_i eS10 hk4
  have hw5 := kw_i eS10 hw5
  have hk8 := ks_i eS10 hk8
  have hw9 := kw_i eS10 hw9
  refine lv_iconst (v := (-1)) hx hb dX0_fails_22 icm1 ?_
  cases hf
  exact hret _ _ _ _ rfl hX dX0_fails_23
def f_X10_init (S : XS) (o : Nat) (p0 : Nat) (p1 : Int32) : Option XS :=
  chk (xk S o = 7) <| chk (xb S ≤ o) <| bd (s_i S 702 o 0 (-1)) fun S3 => bd (s_r S3 700 o 0 (some p0)) fun S4 => bd (s_i S4 701 o 0 p1) fun S5 => some S5
set_option maxHeartbeats 4000000 in
set_option maxRecDepth 100000 in
theorem c_X10_init (l : Launch) (D : XD) (S : XS) (o : Nat) (p0 : Nat) (p1 : Int32) {S' : XS} (hf : f_X10_init S o p0 p1 = some S') : x_Met l yX10_init cX10_init 3 (Option.none : Option Jvm.ClassFile.FieldType) 1 60 D [.ref o, .ref p0, .int p1] S none S' := by
  refine x_metV RX10 (by decide) rfl (Nat.le_of_ble_eq_true rfl) (fun p e s m args below meth c Q B hnm hret H locs hX ls hl => ?_)
  have hx := B.1
  have hb := B.2.1
  have hml := B.2.2.1
  have hown := B.2.2.2.1
  have hts := B.2.2.2.2
  have hl : lv_has ls 3 [(0, .ref o), (1, .ref p0), (2, .int p1)] := hl
  unfold f_X10_init at hf
  refine lv_aload_n hx hb dX10_init_0 rfl (lv_at hl 0 rfl) ?_
  refine W.objInit hx hb hown (hts _ q1206) (hts _ q154) (hts _ q155) rfl (by rw [hml]; exact hl.1) rfl dX10_init_1 (Nat.le_of_ble_eq_true rfl) (Nat.le_of_ble_eq_true rfl) ?_
  refine W.eq (g2 := F0 m 4 ls []) rfl ?_
  refine lv_aload_n hx hb dX10_init_4 rfl (lv_at hl 0 rfl) ?_
  refine lv_iconst (v := (-1)) hx hb dX10_init_5 icm1 ?_
  obtain ⟨hk1, hf⟩ := chk_some hf
  obtain ⟨hw2, hf⟩ := chk_some hf
  obtain ⟨S3, eS3, hf⟩ := bd_some hf
  refine xr_put (S' := S3) (q := (RX10, TX10, 3)) (v := .int (-1)) (ty0 := tyX10) B hX 2 hk1 rfl (by decide) hw2 (by decide) (by rw [eS3]; exact x_Vup_i (k := 7) (j := 2) rfl (by decide)) tyX10_ok (fun i h1 h2 => nmX10 i (Nat.lt_of_lt_of_le h1 (by decide)) 2 (by decide) h2) rfl rfl rfl q1211 (fun _ h => h) dX10_init_6 (fun H locs hX => ?_)
  refine w_i eS3 ?_
  have hk1 := ks_i eS3 hk1
  have hw2 := kw_i eS3 hw2
  refine lv_aload_n hx hb dX10_init_9 rfl (lv_at hl 0 rfl) ?_
  refine lv_aload_n hx hb dX10_init_10 rfl (lv_at hl 1 rfl) ?_
  obtain ⟨S4, eS4, hf⟩ := bd_some hf
  refine xr_putF (S' := S4) (q := (RX10, TX10, 3)) (v := va_rf (some p0)) (ty0 := tyX10) B hnm hX 0 hk1 rfl (by decide) hw2 (by decide) (by rw [eS4]; exact x_Vup_r (k := 7) (j := 0) rfl (by decide)) tyX10_ok (fun i h1 h2 => nmX10 i (Nat.lt_of_lt_of_le h1 (by decide)) 0 (by decide) h2) rfl rfl rfl rfl q1207 (fun _ h => h) dX10_init_11 (fun H locs hX => ?_)
  refine w_r eS4 ?_
  have hk1 := ks_r eS4 hk1
  have hw2 := kw_r eS4 hw2
  refine lv_aload_n hx hb dX10_init_14 rfl (lv_at hl 0 rfl) ?_
  refine lv_iload_n hx hb dX10_init_15 rfl (lv_at hl 2 rfl) ?_
  obtain ⟨S5, eS5, hf⟩ := bd_some hf
  refine xr_putF (S' := S5) (q := (RX10, TX10, 3)) (v := .int p1) (ty0 := tyX10) B hnm hX 1 hk1 rfl (by decide) hw2 (by decide) (by rw [eS5]; exact x_Vup_i (k := 7) (j := 1) rfl (by decide)) tyX10_ok (fun i h1 h2 => nmX10 i (Nat.lt_of_lt_of_le h1 (by decide)) 1 (by decide) h2) rfl rfl rfl rfl q1209 (fun _ h => h) dX10_init_16 (fun H locs hX => ?_)
  refine w_i eS5 ?_
  have hk1 := ks_i eS5 hk1
  have hw2 := kw_i eS5 hw2
  cases hf
  exact hret _ _ _ _ hX dX10_init_19
def f_X11_at (S : XS) (o : Nat) (p0 : Int32) : Option Int32 :=
  chk (xk S o = 8) <| (if (xi S 801 o 0) ≤ p0 then some (-1) else bnd (xr S 800 o 0) fun b3 => chk (xk S b3 = 51) <| ald (xn S b3) (xi S 51 b3) p0 fun v5 => some (v5 &&& nI 255))
set_option maxHeartbeats 4000000 in
set_option maxRecDepth 100000 in
theorem c_X11_at (l : Launch) (D : XD) (S : XS) (o : Nat) (p0 : Int32) {r : Int32} (hf : f_X11_at S o p0 = some r) : x_Met l yX11_at cX11_at 2 (Option.some Jvm.ClassFile.FieldType.int) 0 0 D [.ref o, .int p0] S (some (.int r)) S := by
  refine x_metI RX11 (by decide) rfl (Nat.le_of_ble_eq_true rfl) (fun p e s m args below meth c Q B hnm hret H locs hX ls hl => ?_)
  have hx := B.1
  have hb := B.2.1
  have hml := B.2.2.1
  have hown := B.2.2.2.1
  have hts := B.2.2.2.2
  have hl : lv_has ls 2 [(0, .ref o), (1, .int p0)] := hl
  unfold f_X11_at at hf
  refine lv_iload_n hx hb dX11_at_0 rfl (lv_at hl 1 rfl) ?_
  refine lv_aload_n hx hb dX11_at_1 rfl (lv_at hl 0 rfl) ?_
  obtain ⟨hk1, hf⟩ := chk_some hf
  refine xr_get (q := (RX11, TX11, 12)) B hX 1 hk1 rfl (by decide) (by decide) (x_Vi rfl (by decide)) q820 (fun _ h => h) dX11_at_2 ?_
  refine lv_icmp_ge (tgt := 21) hx hb dX11_at_5 (by decide) (fun c2 => ?_) (fun c2 => ?_)
  · have hf := it_pos c2 hf
    refine lv_iconst (v := (-1)) hx hb dX11_at_21 icm1 ?_
    cases hf
    exact hret _ _ _ _ rfl hX dX11_at_22
  · have hf := it_neg c2 hf
    refine lv_aload_n hx hb dX11_at_8 rfl (lv_at hl 0 rfl) ?_
    obtain ⟨b3, hb3, hf⟩ := bnd_some hf
    refine xr_get (q := (RX11, TX11, 12)) B hX 0 hk1 rfl (by decide) (by decide) (v := .ref b3) (x_Vr (c := 8) (j := 0) rfl (by decide) hb3) q819 (fun _ h => h) dX11_at_9 ?_
    refine lv_iload_n hx hb dX11_at_12 rfl (lv_at hl 1 rfl) ?_
    obtain ⟨hk4, hf⟩ := chk_some hf
    obtain ⟨v5, ev5, hiv5, hf⟩ := ald_some hf
    refine xr_bald B hX hk4 hiv5 ev5 dX11_at_13 ?_
    refine lv_sipush (v := nI 255) hx hb dX11_at_14 sp255 ?_
    refine lv_iand hx hb dX11_at_17 ?_
    refine lv_goto (tgt := 22) hx hb dX11_at_18 (by decide) ?_
    cases hf
    exact hret _ _ _ _ rfl hX dX11_at_22
def f_X11_isDigit (p0 : Int32) : Option Int32 :=
  (if p0 < nI 48 then some (nI 0) else (if nI 57 < p0 then some (nI 0) else some (nI 1)))
abbrev r_X11_isDigit : Room := { frames := 0, cells := 0, slots := 0, locals := 0 }
set_option maxHeartbeats 4000000 in
set_option maxRecDepth 100000 in
theorem c_X11_isDigit (l : Launch) (p0 : Int32) {r : Int32} (hf : f_X11_isDigit p0 = some r) : p_Met l yX11_isDigit cX11_isDigit 1 (Option.some Jvm.ClassFile.FieldType.boolean) r_X11_isDigit [.int p0] (some (.int r)) := by
  refine p_metI (F := 0) (L := 0) RX11 (by decide) rfl (Nat.le_of_ble_eq_true rfl) (fun p e s m args below meth c Q B hret ls hl => ?_)
  have hx := B.1
  have hb := B.2.1
  have hml := B.2.2.1
  have hown := B.2.2.2.1
  have hts := B.2.2.2.2
  have hl : lv_has ls 1 [(0, .int p0)] := hl
  unfold f_X11_isDigit at hf
  refine lv_iload_n hx hb dX11_isDigit_0 rfl (lv_at hl 0 rfl) ?_
  refine lv_bipush (v := nI 48) hx hb dX11_isDigit_1 bp48 ?_
  refine lv_icmp_lt (tgt := 16) hx hb dX11_isDigit_3 (by decide) (fun c1 => ?_) (fun c1 => ?_)
  · have hf := it_pos c1 hf
    refine lv_iconst (v := nI 0) hx hb dX11_isDigit_16 ic0 ?_
    cases hf
    exact hret _ _ rfl dX11_isDigit_17
  · have hf := it_neg c1 hf
    refine lv_iload_n hx hb dX11_isDigit_6 rfl (lv_at hl 0 rfl) ?_
    refine lv_bipush (v := nI 57) hx hb dX11_isDigit_7 bp57 ?_
    refine lv_icmp_gt (tgt := 16) hx hb dX11_isDigit_9 (by decide) (fun c2 => ?_) (fun c2 => ?_)
    · have hf := it_pos c2 hf
      refine lv_iconst (v := nI 0) hx hb dX11_isDigit_16 ic0 ?_
      cases hf
      exact hret _ _ rfl dX11_isDigit_17
    · have hf := it_neg c2 hf
      refine lv_iconst (v := nI 1) hx hb dX11_isDigit_12 ic1 ?_
      refine lv_goto (tgt := 17) hx hb dX11_isDigit_13 (by decide) ?_
      cases hf
      exact hret _ _ rfl dX11_isDigit_17
def f_X11_isLetter (p0 : Int32) : Option Int32 :=
  (if p0 < nI 97 then some (nI 0) else (if nI 122 < p0 then some (nI 0) else some (nI 1)))
abbrev r_X11_isLetter : Room := { frames := 0, cells := 0, slots := 0, locals := 0 }
set_option maxHeartbeats 4000000 in
set_option maxRecDepth 100000 in
theorem c_X11_isLetter (l : Launch) (p0 : Int32) {r : Int32} (hf : f_X11_isLetter p0 = some r) : p_Met l yX11_isLetter cX11_isLetter 1 (Option.some Jvm.ClassFile.FieldType.boolean) r_X11_isLetter [.int p0] (some (.int r)) := by
  refine p_metI (F := 0) (L := 0) RX11 (by decide) rfl (Nat.le_of_ble_eq_true rfl) (fun p e s m args below meth c Q B hret ls hl => ?_)
  have hx := B.1
  have hb := B.2.1
  have hml := B.2.2.1
  have hown := B.2.2.2.1
  have hts := B.2.2.2.2
  have hl : lv_has ls 1 [(0, .int p0)] := hl
  unfold f_X11_isLetter at hf
  refine lv_iload_n hx hb dX11_isLetter_0 rfl (lv_at hl 0 rfl) ?_
  refine lv_bipush (v := nI 97) hx hb dX11_isLetter_1 bp97 ?_
  refine lv_icmp_lt (tgt := 16) hx hb dX11_isLetter_3 (by decide) (fun c1 => ?_) (fun c1 => ?_)
  · have hf := it_pos c1 hf
    refine lv_iconst (v := nI 0) hx hb dX11_isLetter_16 ic0 ?_
    cases hf
    exact hret _ _ rfl dX11_isLetter_17
  · have hf := it_neg c1 hf
    refine lv_iload_n hx hb dX11_isLetter_6 rfl (lv_at hl 0 rfl) ?_
    refine lv_bipush (v := nI 122) hx hb dX11_isLetter_7 bp122 ?_
    refine lv_icmp_gt (tgt := 16) hx hb dX11_isLetter_9 (by decide) (fun c2 => ?_) (fun c2 => ?_)
    · have hf := it_pos c2 hf
      refine lv_iconst (v := nI 0) hx hb dX11_isLetter_16 ic0 ?_
      cases hf
      exact hret _ _ rfl dX11_isLetter_17
    · have hf := it_neg c2 hf
      refine lv_iconst (v := nI 1) hx hb dX11_isLetter_12 ic1 ?_
      refine lv_goto (tgt := 17) hx hb dX11_isLetter_13 (by decide) ?_
      cases hf
      exact hret _ _ rfl dX11_isLetter_17
def f_X11_step_J26_5 (o : Nat) (S1 : XS)  : Option ((XS) ⊕ ((XS))) :=
  chk (xb S1 ≤ o) <| bd (s_i S1 803 o 0 ((xi S1 803 o 0) + nI 1)) fun S9 => some (.inl S9)
def f_X11_step_L0 (o : Nat) (S1 : XS) : Option ((XS) ⊕ ((XS))) :=
  chk (xk S1 o = 8) <| bnd (f_X11_at S1 o (xi S1 803 o 0)) fun r3 => (if r3 = nI 10 then f_X11_step_J26_5 o S1 else bnd (f_X11_at S1 o (xi S1 803 o 0)) fun r6 => (if r6 = nI 32 then f_X11_step_J26_5 o S1 else some (.inr S1)))
def f_X11_step_J218_32 (o : Nat) (S36 : XS) : Option ((XS) ⊕ ((XS))) :=
  chk (xk S36 o = 8) <| chk (xb S36 ≤ o) <| bd (s_i S36 803 o 0 ((xi S36 803 o 0) + nI 1)) fun S39 => some (.inl S39)
def f_X11_step_L168 (o : Nat) (S26 : XS) : Option ((XS) ⊕ ((XS))) :=
  chk (xk S26 o = 8) <| bnd (f_X11_at S26 o (xi S26 803 o 0)) fun r28 => bnd (f_X11_isDigit r28) fun r29 => (if r29 = 0 then some (.inr S26) else (if nI 4 ≤ ((xi S26 803 o 0) - (xi S26 804 o 0)) then f_X11_step_J218_32 o S26 else bnd (f_X11_at S26 o (xi S26 803 o 0)) fun r33 => chk (xb S26 ≤ o) <| bd (s_i S26 805 o 0 (((nI 10 * (xi S26 805 o 0)) + r33) - nI 48)) fun S35 => f_X11_step_J218_32 o S35))
def f_X11_step_J125_65 (o : Nat) (S69 : XS) : Option ((XS) ⊕ ((XS))) :=
  chk (xk S69 o = 8) <| chk (xb S69 ≤ o) <| bd (s_i S69 803 o 0 ((xi S69 803 o 0) + nI 1)) fun S72 => some (.inl S72)
def f_X11_step_L88 (o : Nat) (a53 : Nat) (S57 : XS) : Option ((XS) ⊕ ((XS))) :=
  chk (xk S57 o = 8) <| bnd (f_X11_at S57 o (xi S57 803 o 0)) fun r59 => bnd (f_X11_isLetter r59) fun r60 => (if r60 = 0 then some (.inr S57) else chk (xk S57 a53 = 20) <| bnd (f_J11_length S57 a53) fun r62 => (if nI 7 ≤ r62 then f_X11_step_J125_65 o S57 else bnd (f_X11_at S57 o (xi S57 803 o 0)) fun r66 => bnd (f_J11_append S57 a53 ((r66.toUInt32 % 65536).toInt32)) <| u2 fun b67 S68 => f_X11_step_J125_65 o S68))
def f_X11_step (S : XS) (o : Nat) : Option XS :=
  bnd (wO (fun t : XS => f_X11_step_L0 o t) fu S) <| fun S12 => chk (xk S12 o = 8) <| chk (xb S12 ≤ o) <| bd (s_i S12 804 o 0 (xi S12 803 o 0)) fun S15 => bnd (f_X11_at S15 o (xi S15 803 o 0)) fun r16 => (if r16 = (-1) then bnd (xs S15 10) fun b84 => bd (s_r S15 808 o 0 (some b84)) fun S85 => some S85 else bnd (f_X11_isLetter r16) fun r18 => (if r18 = 0 then bnd (f_X11_isDigit r16) fun r20 => (if r20 = 0 then bd (s_i S15 803 o 0 ((xi S15 803 o 0) + nI 1)) fun S22 => bnd (xs S22 12) fun b23 => bd (s_r S22 808 o 0 (some b23)) fun S24 => some S24 else bd (s_i S15 805 o 0 (nI 0)) fun S25 => bnd (wO (fun t : XS => f_X11_step_L168 o t) fu S25) <| fun S42 => chk (xk S42 o = 8) <| (if ((xi S42 803 o 0) - (xi S42 804 o 0)) ≤ nI 4 then bnd (xs S42 13) fun b45 => chk (xb S42 ≤ o) <| bd (s_r S42 808 o 0 (some b45)) fun S47 => some S47 else bnd (xs S42 12) fun b48 => chk (xb S42 ≤ o) <| bd (s_r S42 808 o 0 (some b48)) fun S50 => some S50)) else chk (xz S15 < xL S15 ∧ xu S15 + 4 ≤ xU S15) <| bd (xz S15) fun a53 => bd (n_c S15 20 0 4) fun S52 => bnd (f_J11_init S52 a53 (nI 7)) fun S56 => bnd (wO (fun t : XS => f_X11_step_L88 o a53 t) fu S56) <| fun S75 => chk (xk S75 a53 = 20) <| bnd (f_J11_toString S75 a53) <| u2 fun b76 S77 => chk (xk S77 o = 8) <| chk (xb S77 ≤ o) <| bd (s_r S77 809 o 0 (some b76)) fun S81 => bnd (xs S81 11) fun b82 => bd (s_r S81 808 o 0 (some b82)) fun S83 => some S83))
set_option maxHeartbeats 4000000 in
set_option maxRecDepth 100000 in
theorem c_X11_step (l : Launch) (D : XD) (S : XS) (o : Nat) {S' : XS} (hf : f_X11_step S o = some S') : x_Met l yX11_step cX11_step 3 (Option.none : Option Jvm.ClassFile.FieldType) 6 171 D [.ref o] S none S' := by
  refine x_metV RX11 (by decide) rfl (Nat.le_of_ble_eq_true rfl) (fun p e s m args below meth c Q B hnm hret H locs hX ls hl => ?_)
  have hx := B.1
  have hb := B.2.1
  have hml := B.2.2.1
  have hown := B.2.2.2.1
  have hts := B.2.2.2.2
  have hl : lv_has ls 3 [(0, .ref o)] := hl
  unfold f_X11_step at hf
  obtain ⟨y11, hxy11, hf⟩ := bnd_some hf
  have hy11 : (fun t : XS => ∀ (H : Heap) (locs : List Loc) (ls : Array Slot), x_I D S s H locs t → lv_has ls 3 [(0, .ref o)] → W p l e (x_R 6 171 S) s m args below meth c H locs (xz t - xz S) (xu t - xu S) Q (F0 m 39 ls [])) y11 := by
    obtain ⟨S12, rfl⟩ : ∃ z, z = y11 := ⟨_, rfl⟩
    intro H locs ls hX hl
    refine lv_aload_n hx hb dX11_step_39 rfl (lv_at hl 0 rfl) ?_
    refine lv_aload_n hx hb dX11_step_40 rfl (lv_at hl 0 rfl) ?_
    obtain ⟨hk13, hf⟩ := chk_some hf
    refine xr_get (q := (RX11, TX11, 12)) B hX 3 hk13 rfl (by decide) (by decide) (x_Vi rfl (by decide)) q822 (fun _ h => h) dX11_step_41 ?_
    obtain ⟨hw14, hf⟩ := chk_some hf
    obtain ⟨S15, eS15, hf⟩ := bd_some hf
    refine xr_put (S' := S15) (q := (RX11, TX11, 12)) (v := .int (xi S12 803 o 0)) (ty0 := tyX11) B hX 4 hk13 rfl (by decide) hw14 (by decide) (by rw [eS15]; exact x_Vup_i (k := 8) (j := 4) rfl (by decide)) tyX11_ok (fun i h1 h2 => nmX11 i (Nat.lt_of_lt_of_le h1 (by decide)) 4 (by decide) h2) rfl rfl rfl q823 (fun _ h => h) dX11_step_44 (fun H locs hX => ?_)
    refine w_i eS15 ?_
    have hk13 := ks_i eS15 hk13
    have hw14 := kw_i eS15 hw14
    refine lv_aload_n hx hb dX11_step_47 rfl (lv_at hl 0 rfl) ?_
    refine lv_aload_n hx hb dX11_step_48 rfl (lv_at hl 0 rfl) ?_
    refine xr_get (q := (RX11, TX11, 12)) B hX 3 hk13 rfl (by decide) (by decide) (x_Vi rfl (by decide)) q822 (fun _ h => h) dX11_step_49 ?_
    obtain ⟨r16, hcr16, hf⟩ := bnd_some hf
    refine xr_callVC (rest := []) (q := (RX11, TX11, 12)) B hX (c_X11_at l D S15 o (xi S15 803 o 0) hcr16) hk13 rfl (by decide) q631 q633 (Or.inl qs9) q125 q634 hd_X11_at ⟨Nat.le_of_ble_eq_true rfl, Nat.le_of_ble_eq_true rfl⟩ rfl hl.1 rfl (Nat.le_of_ble_eq_true rfl) dX11_step_52 (fun H locs hX => ?_)
    refine lv_istore_n (lv' := [(1, .int r16), (0, .ref o)]) hx hb dX11_step_55 rfl hl (by decide) rfl (fun ls hl => ?_)
    refine lv_iload_n hx hb dX11_step_56 rfl (lv_at hl 0 rfl) ?_
    refine lv_iconst (v := (-1)) hx hb dX11_step_57 icm1 ?_
    refine lv_icmp_ne (tgt := 71) hx hb dX11_step_58 (by decide) (fun c17 => ?_) (fun c17 => ?_)
    · have hf := it_neg c17 hf
      refine lv_iload_n hx hb dX11_step_71 rfl (lv_at hl 0 rfl) ?_
      obtain ⟨r18, hcr18, hf⟩ := bnd_some hf
      refine pr_callS (rest := []) B (c_X11_isLetter l r16 hcr18) (va_cwS 1 hts (lw_S q637 q638 q125 q639) rfl rfl rfl hd_X11_isLetter ⟨Nat.le_of_ble_eq_true rfl, Nat.le_of_ble_eq_true rfl⟩) rfl hl.1 rfl (Nat.le_of_ble_eq_true rfl) dX11_step_72 (x_room0 hX) ?_
      refine lv_if_eq (tgt := 156) hx hb dX11_step_75 (by decide) (fun c19 => ?_) (fun c19 => ?_)
      · have hf := it_pos c19 hf
        refine lv_iload_n hx hb dX11_step_156 rfl (lv_at hl 0 rfl) ?_
        obtain ⟨r20, hcr20, hf⟩ := bnd_some hf
        refine pr_callS (rest := []) B (c_X11_isDigit l r16 hcr20) (va_cwS 1 hts (lw_S q812 q813 q125 q814) rfl rfl rfl hd_X11_isDigit ⟨Nat.le_of_ble_eq_true rfl, Nat.le_of_ble_eq_true rfl⟩) rfl hl.1 rfl (Nat.le_of_ble_eq_true rfl) dX11_step_157 (x_room0 hX) ?_
        refine lv_if_eq (tgt := 260) hx hb dX11_step_160 (by decide) (fun c21 => ?_) (fun c21 => ?_)
        · have hf := it_pos c21 hf
          refine lv_aload_n hx hb dX11_step_260 rfl (lv_at hl 1 rfl) ?_
          refine lv_dup hx hb dX11_step_261 rfl ?_
          refine xr_get (q := (RX11, TX11, 12)) B hX 3 hk13 rfl (by decide) (by decide) (x_Vi rfl (by decide)) q822 (fun _ h => h) dX11_step_262 ?_
          refine lv_iconst (v := nI 1) hx hb dX11_step_265 ic1 ?_
          refine lv_iadd hx hb dX11_step_266 ?_
          obtain ⟨S22, eS22, hf⟩ := bd_some hf
          refine xr_put (S' := S22) (q := (RX11, TX11, 12)) (v := .int ((xi S15 803 o 0) + nI 1)) (ty0 := tyX11) B hX 3 hk13 rfl (by decide) hw14 (by decide) (by rw [eS22]; exact x_Vup_i (k := 8) (j := 3) rfl (by decide)) tyX11_ok (fun i h1 h2 => nmX11 i (Nat.lt_of_lt_of_le h1 (by decide)) 3 (by decide) h2) rfl rfl rfl q822 (fun _ h => h) dX11_step_267 (fun H locs hX => ?_)
          refine w_i eS22 ?_
          have hk13 := ks_i eS22 hk13
          have hw14 := kw_i eS22 hw14
          refine lv_aload_n hx hb dX11_step_270 rfl (lv_at hl 1 rfl) ?_
          obtain ⟨b23, hb23, hf⟩ := bnd_some hf
          refine xr_gets B hX (v := .ref b23) (x_statR hX 12 rfl hb23) q815 dX11_step_271 ?_
          obtain ⟨S24, eS24, hf⟩ := bd_some hf
          refine xr_put (S' := S24) (q := (RX11, TX11, 12)) (v := va_rf (some b23)) (ty0 := tyX11) B hX 8 hk13 rfl (by decide) hw14 (by decide) (by rw [eS24]; exact x_Vup_r (k := 8) (j := 8) rfl (by decide)) tyX11_ok (fun i h1 h2 => nmX11 i (Nat.lt_of_lt_of_le h1 (by decide)) 8 (by decide) h2) rfl rfl rfl q828 (fun _ h => h) dX11_step_274 (fun H locs hX => ?_)
          refine w_r eS24 ?_
          have hk13 := ks_r eS24 hk13
          have hw14 := kw_r eS24 hw14
          cases hf
          exact hret _ _ _ _ hX dX11_step_277
        · have hf := it_neg c21 hf
          refine lv_aload_n hx hb dX11_step_163 rfl (lv_at hl 1 rfl) ?_
          refine lv_iconst (v := nI 0) hx hb dX11_step_164 ic0 ?_
          obtain ⟨S25, eS25, hf⟩ := bd_some hf
          refine xr_put (S' := S25) (q := (RX11, TX11, 12)) (v := .int (nI 0)) (ty0 := tyX11) B hX 5 hk13 rfl (by decide) hw14 (by decide) (by rw [eS25]; exact x_Vup_i (k := 8) (j := 5) rfl (by decide)) tyX11_ok (fun i h1 h2 => nmX11 i (Nat.lt_of_lt_of_le h1 (by decide)) 5 (by decide) h2) rfl rfl rfl q824 (fun _ h => h) dX11_step_165 (fun H locs hX => ?_)
          refine w_i eS25 ?_
          have hk13 := ks_i eS25 hk13
          have hw14 := kw_i eS25 hw14
          obtain ⟨y41, hxy41, hf⟩ := bnd_some hf
          have hy41 : (fun t : XS => ∀ (H : Heap) (locs : List Loc) (ls : Array Slot), x_I D S s H locs t → lv_has ls 3 [(0, .ref o)] → W p l e (x_R 6 171 S) s m args below meth c H locs (xz t - xz S) (xu t - xu S) Q (F0 m 231 ls [])) y41 := by
            obtain ⟨S42, rfl⟩ : ∃ z, z = y41 := ⟨_, rfl⟩
            intro H locs ls hX hl
            refine lv_aload_n hx hb dX11_step_231 rfl (lv_at hl 0 rfl) ?_
            refine lv_aload_n hx hb dX11_step_232 rfl (lv_at hl 0 rfl) ?_
            obtain ⟨hk43, hf⟩ := chk_some hf
            refine xr_get (q := (RX11, TX11, 12)) B hX 3 hk43 rfl (by decide) (by decide) (x_Vi rfl (by decide)) q822 (fun _ h => h) dX11_step_233 ?_
            refine lv_aload_n hx hb dX11_step_236 rfl (lv_at hl 0 rfl) ?_
            refine xr_get (q := (RX11, TX11, 12)) B hX 4 hk43 rfl (by decide) (by decide) (x_Vi rfl (by decide)) q823 (fun _ h => h) dX11_step_237 ?_
            refine lv_isub hx hb dX11_step_240 ?_
            refine lv_iconst (v := nI 4) hx hb dX11_step_241 ic4 ?_
            refine lv_icmp_le (tgt := 251) hx hb dX11_step_242 (by decide) (fun c44 => ?_) (fun c44 => ?_)
            · have hf := it_pos c44 hf
              obtain ⟨b45, hb45, hf⟩ := bnd_some hf
              refine xr_gets B hX (v := .ref b45) (x_statR hX 13 rfl hb45) q817 dX11_step_251 ?_
              obtain ⟨hw46, hf⟩ := chk_some hf
              obtain ⟨S47, eS47, hf⟩ := bd_some hf
              refine xr_put (S' := S47) (q := (RX11, TX11, 12)) (v := va_rf (some b45)) (ty0 := tyX11) B hX 8 hk43 rfl (by decide) hw46 (by decide) (by rw [eS47]; exact x_Vup_r (k := 8) (j := 8) rfl (by decide)) tyX11_ok (fun i h1 h2 => nmX11 i (Nat.lt_of_lt_of_le h1 (by decide)) 8 (by decide) h2) rfl rfl rfl q828 (fun _ h => h) dX11_step_254 (fun H locs hX => ?_)
              refine w_r eS47 ?_
              have hk43 := ks_r eS47 hk43
              have hw46 := kw_r eS47 hw46
              refine lv_goto (tgt := 277) hx hb dX11_step_257 (by decide) ?_
              cases hf
              exact hret _ _ _ _ hX dX11_step_277
            · have hf := it_neg c44 hf
              obtain ⟨b48, hb48, hf⟩ := bnd_some hf
              refine xr_gets B hX (v := .ref b48) (x_statR hX 12 rfl hb48) q815 dX11_step_245 ?_
              refine lv_goto (tgt := 254) hx hb dX11_step_248 (by decide) ?_
              obtain ⟨hw49, hf⟩ := chk_some hf
              obtain ⟨S50, eS50, hf⟩ := bd_some hf
              refine xr_put (S' := S50) (q := (RX11, TX11, 12)) (v := va_rf (some b48)) (ty0 := tyX11) B hX 8 hk43 rfl (by decide) hw49 (by decide) (by rw [eS50]; exact x_Vup_r (k := 8) (j := 8) rfl (by decide)) tyX11_ok (fun i h1 h2 => nmX11 i (Nat.lt_of_lt_of_le h1 (by decide)) 8 (by decide) h2) rfl rfl rfl q828 (fun _ h => h) dX11_step_254 (fun H locs hX => ?_)
              refine w_r eS50 ?_
              have hk43 := ks_r eS50 hk43
              have hw49 := kw_r eS50 hw49
              refine lv_goto (tgt := 277) hx hb dX11_step_257 (by decide) ?_
              cases hf
              exact hret _ _ _ _ hX dX11_step_277
          refine lp_W (step := (fun t : XS => f_X11_step_L168 o t)) (fun t : XS => ∀ (H : Heap) (locs : List Loc) (ls : Array Slot), x_I D S s H locs t → lv_has ls 3 [(0, .ref o)] → W p l e (x_R 6 171 S) s m args below meth c H locs (xz t - xz S) (xu t - xu S) Q (F0 m 168 ls [])) (fun t : XS => ∀ (H : Heap) (locs : List Loc) (ls : Array Slot), x_I D S s H locs t → lv_has ls 3 [(0, .ref o)] → W p l e (x_R 6 171 S) s m args below meth c H locs (xz t - xz S) (xu t - xu S) Q (F0 m 231 ls [])) ?_ fu S25 y41 hxy41 hy41 _ _ _ hX (lv_sub hl [1] rfl)
          clear hf hxy41 hy41
          rintro S26 oo (hf : f_X11_step_L168 o S26 = some oo) hk
          intro H locs ls hX hl
          unfold f_X11_step_L168 at hf
          refine lv_aload_n hx hb dX11_step_168 rfl (lv_at hl 0 rfl) ?_
          refine lv_aload_n hx hb dX11_step_169 rfl (lv_at hl 0 rfl) ?_
          obtain ⟨hk27, hf⟩ := chk_some hf
          refine xr_get (q := (RX11, TX11, 12)) B hX 3 hk27 rfl (by decide) (by decide) (x_Vi rfl (by decide)) q822 (fun _ h => h) dX11_step_170 ?_
          obtain ⟨r28, hcr28, hf⟩ := bnd_some hf
          refine xr_callVC (rest := []) (q := (RX11, TX11, 12)) B hX (c_X11_at l D S26 o (xi S26 803 o 0) hcr28) hk27 rfl (by decide) q631 q633 (Or.inl qs9) q125 q634 hd_X11_at ⟨Nat.le_of_ble_eq_true rfl, Nat.le_of_ble_eq_true rfl⟩ rfl hl.1 rfl (Nat.le_of_ble_eq_true rfl) dX11_step_173 (fun H locs hX => ?_)
          obtain ⟨r29, hcr29, hf⟩ := bnd_some hf
          refine pr_callS (rest := []) B (c_X11_isDigit l r28 hcr29) (va_cwS 1 hts (lw_S q812 q813 q125 q814) rfl rfl rfl hd_X11_isDigit ⟨Nat.le_of_ble_eq_true rfl, Nat.le_of_ble_eq_true rfl⟩) rfl hl.1 rfl (Nat.le_of_ble_eq_true rfl) dX11_step_176 (x_room0 hX) ?_
          refine lv_if_eq (tgt := 231) hx hb dX11_step_179 (by decide) (fun c30 => ?_) (fun c30 => ?_)
          · have hf := it_pos c30 hf
            cases hf
            exact hk _ _ _ hX (lv_sub hl [0] rfl)
          · have hf := it_neg c30 hf
            refine lv_aload_n hx hb dX11_step_182 rfl (lv_at hl 0 rfl) ?_
            refine xr_get (q := (RX11, TX11, 12)) B hX 3 hk27 rfl (by decide) (by decide) (x_Vi rfl (by decide)) q822 (fun _ h => h) dX11_step_183 ?_
            refine lv_aload_n hx hb dX11_step_186 rfl (lv_at hl 0 rfl) ?_
            refine xr_get (q := (RX11, TX11, 12)) B hX 4 hk27 rfl (by decide) (by decide) (x_Vi rfl (by decide)) q823 (fun _ h => h) dX11_step_187 ?_
            refine lv_isub hx hb dX11_step_190 ?_
            refine lv_iconst (v := nI 4) hx hb dX11_step_191 ic4 ?_
            have j32 : ∀ (S36 : XS), f_X11_step_J218_32 o S36 = some oo → ∀ (H : Heap) (locs : List Loc) (ls : Array Slot), x_I D S s H locs S36 → lv_has ls 3 [(0, .ref o)] → W p l e (x_R 6 171 S) s m args below meth c H locs (xz S36 - xz S) (xu S36 - xu S) Q (F0 m 218 ls []) := by
              intro S36 hf
              intro H locs ls hX hl
              unfold f_X11_step_J218_32 at hf
              refine lv_aload_n hx hb dX11_step_218 rfl (lv_at hl 0 rfl) ?_
              refine lv_dup hx hb dX11_step_219 rfl ?_
              obtain ⟨hk37, hf⟩ := chk_some hf
              refine xr_get (q := (RX11, TX11, 12)) B hX 3 hk37 rfl (by decide) (by decide) (x_Vi rfl (by decide)) q822 (fun _ h => h) dX11_step_220 ?_
              refine lv_iconst (v := nI 1) hx hb dX11_step_223 ic1 ?_
              refine lv_iadd hx hb dX11_step_224 ?_
              obtain ⟨hw38, hf⟩ := chk_some hf
              obtain ⟨S39, eS39, hf⟩ := bd_some hf
              refine xr_put (S' := S39) (q := (RX11, TX11, 12)) (v := .int ((xi S36 803 o 0) + nI 1)) (ty0 := tyX11) B hX 3 hk37 rfl (by decide) hw38 (by decide) (by rw [eS39]; exact x_Vup_i (k := 8) (j := 3) rfl (by decide)) tyX11_ok (fun i h1 h2 => nmX11 i (Nat.lt_of_lt_of_le h1 (by decide)) 3 (by decide) h2) rfl rfl rfl q822 (fun _ h => h) dX11_step_225 (fun H locs hX => ?_)
              refine w_i eS39 ?_
              have hk37 := ks_i eS39 hk37
              have hw38 := kw_i eS39 hw38
              refine lv_goto (tgt := 168) hx hb dX11_step_228 (by decide) ?_
              cases hf
              exact hk _ _ _ hX (lv_sub hl [0] rfl)
            refine lv_icmp_ge (tgt := 218) hx hb dX11_step_192 (by decide) (fun c31 => ?_) (fun c31 => ?_)
            · have hf := it_pos c31 hf
              exact j32 S26 hf _ _ _ hX (lv_sub hl [0] rfl)
            · have hf := it_neg c31 hf
              refine lv_aload_n hx hb dX11_step_195 rfl (lv_at hl 0 rfl) ?_
              refine lv_bipush (v := nI 10) hx hb dX11_step_196 bp10 ?_
              refine lv_aload_n hx hb dX11_step_198 rfl (lv_at hl 0 rfl) ?_
              refine xr_get (q := (RX11, TX11, 12)) B hX 5 hk27 rfl (by decide) (by decide) (x_Vi rfl (by decide)) q824 (fun _ h => h) dX11_step_199 ?_
              refine lv_imul hx hb dX11_step_202 ?_
              refine lv_aload_n hx hb dX11_step_203 rfl (lv_at hl 0 rfl) ?_
              refine lv_aload_n hx hb dX11_step_204 rfl (lv_at hl 0 rfl) ?_
              refine xr_get (q := (RX11, TX11, 12)) B hX 3 hk27 rfl (by decide) (by decide) (x_Vi rfl (by decide)) q822 (fun _ h => h) dX11_step_205 ?_
              obtain ⟨r33, hcr33, hf⟩ := bnd_some hf
              refine xr_callVC (rest := [.int (nI 10 * (xi S26 805 o 0)), .ref o]) (q := (RX11, TX11, 12)) B hX (c_X11_at l D S26 o (xi S26 803 o 0) hcr33) hk27 rfl (by decide) q631 q633 (Or.inl qs9) q125 q634 hd_X11_at ⟨Nat.le_of_ble_eq_true rfl, Nat.le_of_ble_eq_true rfl⟩ rfl hl.1 rfl (Nat.le_of_ble_eq_true rfl) dX11_step_208 (fun H locs hX => ?_)
              refine lv_iadd hx hb dX11_step_211 ?_
              refine lv_bipush (v := nI 48) hx hb dX11_step_212 bp48 ?_
              refine lv_isub hx hb dX11_step_214 ?_
              obtain ⟨hw34, hf⟩ := chk_some hf
              obtain ⟨S35, eS35, hf⟩ := bd_some hf
              refine xr_put (S' := S35) (q := (RX11, TX11, 12)) (v := .int (((nI 10 * (xi S26 805 o 0)) + r33) - nI 48)) (ty0 := tyX11) B hX 5 hk27 rfl (by decide) hw34 (by decide) (by rw [eS35]; exact x_Vup_i (k := 8) (j := 5) rfl (by decide)) tyX11_ok (fun i h1 h2 => nmX11 i (Nat.lt_of_lt_of_le h1 (by decide)) 5 (by decide) h2) rfl rfl rfl q824 (fun _ h => h) dX11_step_215 (fun H locs hX => ?_)
              refine w_i eS35 ?_
              have hk27 := ks_i eS35 hk27
              have hw34 := kw_i eS35 hw34
              exact j32 S35 hf _ _ _ hX (lv_sub hl [0] rfl)
      · have hf := it_neg c19 hf
        obtain ⟨hr51, hf⟩ := chk_some hf
        obtain ⟨a53, ea53, hf⟩ := bd_some hf
        obtain ⟨S52, eS52, hf⟩ := bd_some hf
        have hk13 := ks_n hX eS52 (by decide) hk13
        have hw14 := kw_n eS52 hw14
        have hk54 := ks_new eS52 ea53
        have hw55 := kw_new hX eS52 ea53
        refine xr_new (q := (RJ11, TJ11, 4)) (N := 4) (ty0 := tyJ11) B hX 20 rfl (by decide) tyJ11_ok xd_20 q640 q641 q129 hr51 eS52 dX11_step_78 (fun H hX => ?_)
        refine W.eq (g2 := F0 m 81 ls [.ref a53]) (by rw [ea53]; first | done | rfl) ?_
        refine lv_dup hx hb dX11_step_81 rfl ?_
        refine lv_bipush (v := nI 7) hx hb dX11_step_82 bp7 ?_
        obtain ⟨S56, hcS56, hf⟩ := bnd_some hf
        refine xr_callIC (rest := [.ref a53]) B hX (c_J11_init l D S52 a53 (nI 7) hcS56) q642 q643 q129 q644 hd_J11_init rfl ⟨Nat.le_of_ble_eq_true rfl, Nat.le_of_ble_eq_true rfl⟩ rfl hl.1 rfl (Nat.le_of_ble_eq_true rfl) dX11_step_84 (fun H locs hX => ?_)
        refine lv_astore_n (lv' := [(2, .ref a53), (1, .int r16), (0, .ref o)]) hx hb dX11_step_87 rfl hl (by decide) rfl (fun ls hl => ?_)
        obtain ⟨y74, hxy74, hf⟩ := bnd_some hf
        have hy74 : (fun t : XS => ∀ (H : Heap) (locs : List Loc) (ls : Array Slot), x_I D S s H locs t → lv_has ls 3 [(0, .ref o), (2, .ref a53)] → W p l e (x_R 6 171 S) s m args below meth c H locs (xz t - xz S) (xu t - xu S) Q (F0 m 138 ls [])) y74 := by
          obtain ⟨S75, rfl⟩ : ∃ z, z = y74 := ⟨_, rfl⟩
          intro H locs ls hX hl
          refine lv_aload_n hx hb dX11_step_138 rfl (lv_at hl 0 rfl) ?_
          refine lv_aload_n hx hb dX11_step_139 rfl (lv_at hl 1 rfl) ?_
          obtain ⟨hk78, hf⟩ := chk_some hf
          obtain ⟨⟨b76, S77⟩, hcb76, hf⟩ := bnd_some hf
          have hf := u2_at hf
          refine xr_callVC (rest := [.ref o]) (q := (RJ11, TJ11, 4)) B hX (c_J11_toString l D S75 a53 hcb76) hk78 rfl (by decide) q756 q757 (Or.inl q758) q129 q759 hd_J11_toString ⟨Nat.le_of_ble_eq_true rfl, Nat.le_of_ble_eq_true rfl⟩ rfl hl.1 rfl (Nat.le_of_ble_eq_true rfl) dX11_step_140 (fun H locs hX => ?_)
          obtain ⟨hk79, hf⟩ := chk_some hf
          obtain ⟨hw80, hf⟩ := chk_some hf
          obtain ⟨S81, eS81, hf⟩ := bd_some hf
          refine xr_put (S' := S81) (q := (RX11, TX11, 12)) (v := va_rf (some b76)) (ty0 := tyX11) B hX 9 hk79 rfl (by decide) hw80 (by decide) (by rw [eS81]; exact x_Vup_r (k := 8) (j := 9) rfl (by decide)) tyX11_ok (fun i h1 h2 => nmX11 i (Nat.lt_of_lt_of_le h1 (by decide)) 9 (by decide) h2) rfl rfl rfl q829 (fun _ h => h) dX11_step_143 (fun H locs hX => ?_)
          refine w_r eS81 ?_
          have hk79 := ks_r eS81 hk79
          have hw80 := kw_r eS81 hw80
          refine lv_aload_n hx hb dX11_step_146 rfl (lv_at hl 0 rfl) ?_
          obtain ⟨b82, hb82, hf⟩ := bnd_some hf
          refine xr_gets B hX (v := .ref b82) (x_statR hX 11 rfl hb82) q810 dX11_step_147 ?_
          obtain ⟨S83, eS83, hf⟩ := bd_some hf
          refine xr_put (S' := S83) (q := (RX11, TX11, 12)) (v := va_rf (some b82)) (ty0 := tyX11) B hX 8 hk79 rfl (by decide) hw80 (by decide) (by rw [eS83]; exact x_Vup_r (k := 8) (j := 8) rfl (by decide)) tyX11_ok (fun i h1 h2 => nmX11 i (Nat.lt_of_lt_of_le h1 (by decide)) 8 (by decide) h2) rfl rfl rfl q828 (fun _ h => h) dX11_step_150 (fun H locs hX => ?_)
          refine w_r eS83 ?_
          have hk79 := ks_r eS83 hk79
          have hw80 := kw_r eS83 hw80
          refine lv_goto (tgt := 277) hx hb dX11_step_153 (by decide) ?_
          cases hf
          exact hret _ _ _ _ hX dX11_step_277
        refine lp_W (step := (fun t : XS => f_X11_step_L88 o a53 t)) (fun t : XS => ∀ (H : Heap) (locs : List Loc) (ls : Array Slot), x_I D S s H locs t → lv_has ls 3 [(0, .ref o), (2, .ref a53)] → W p l e (x_R 6 171 S) s m args below meth c H locs (xz t - xz S) (xu t - xu S) Q (F0 m 88 ls [])) (fun t : XS => ∀ (H : Heap) (locs : List Loc) (ls : Array Slot), x_I D S s H locs t → lv_has ls 3 [(0, .ref o), (2, .ref a53)] → W p l e (x_R 6 171 S) s m args below meth c H locs (xz t - xz S) (xu t - xu S) Q (F0 m 138 ls [])) ?_ fu S56 y74 hxy74 hy74 _ _ _ hX (lv_sub hl [2, 0] rfl)
        clear hf hxy74 hy74
        rintro S57 oo (hf : f_X11_step_L88 o a53 S57 = some oo) hk
        intro H locs ls hX hl
        unfold f_X11_step_L88 at hf
        refine lv_aload_n hx hb dX11_step_88 rfl (lv_at hl 0 rfl) ?_
        refine lv_aload_n hx hb dX11_step_89 rfl (lv_at hl 0 rfl) ?_
        obtain ⟨hk58, hf⟩ := chk_some hf
        refine xr_get (q := (RX11, TX11, 12)) B hX 3 hk58 rfl (by decide) (by decide) (x_Vi rfl (by decide)) q822 (fun _ h => h) dX11_step_90 ?_
        obtain ⟨r59, hcr59, hf⟩ := bnd_some hf
        refine xr_callVC (rest := []) (q := (RX11, TX11, 12)) B hX (c_X11_at l D S57 o (xi S57 803 o 0) hcr59) hk58 rfl (by decide) q631 q633 (Or.inl qs9) q125 q634 hd_X11_at ⟨Nat.le_of_ble_eq_true rfl, Nat.le_of_ble_eq_true rfl⟩ rfl hl.1 rfl (Nat.le_of_ble_eq_true rfl) dX11_step_93 (fun H locs hX => ?_)
        obtain ⟨r60, hcr60, hf⟩ := bnd_some hf
        refine pr_callS (rest := []) B (c_X11_isLetter l r59 hcr60) (va_cwS 1 hts (lw_S q637 q638 q125 q639) rfl rfl rfl hd_X11_isLetter ⟨Nat.le_of_ble_eq_true rfl, Nat.le_of_ble_eq_true rfl⟩) rfl hl.1 rfl (Nat.le_of_ble_eq_true rfl) dX11_step_96 (x_room0 hX) ?_
        refine lv_if_eq (tgt := 138) hx hb dX11_step_99 (by decide) (fun c61 => ?_) (fun c61 => ?_)
        · have hf := it_pos c61 hf
          cases hf
          exact hk _ _ _ hX (lv_sub hl [0, 1] rfl)
        · have hf := it_neg c61 hf
          refine lv_aload_n hx hb dX11_step_102 rfl (lv_at hl 1 rfl) ?_
          obtain ⟨hk63, hf⟩ := chk_some hf
          obtain ⟨r62, hcr62, hf⟩ := bnd_some hf
          refine xr_callVC (rest := []) (q := (RJ11, TJ11, 4)) B hX (c_J11_length l D S57 a53 hcr62) hk63 rfl (by decide) q671 q672 (Or.inl q673) q129 q674 hd_J11_length ⟨Nat.le_of_ble_eq_true rfl, Nat.le_of_ble_eq_true rfl⟩ rfl hl.1 rfl (Nat.le_of_ble_eq_true rfl) dX11_step_103 (fun H locs hX => ?_)
          refine lv_bipush (v := nI 7) hx hb dX11_step_106 bp7 ?_
          have j65 : ∀ (S69 : XS), f_X11_step_J125_65 o S69 = some oo → ∀ (H : Heap) (locs : List Loc) (ls : Array Slot), x_I D S s H locs S69 → lv_has ls 3 [(0, .ref o), (2, .ref a53)] → W p l e (x_R 6 171 S) s m args below meth c H locs (xz S69 - xz S) (xu S69 - xu S) Q (F0 m 125 ls []) := by
            intro S69 hf
            intro H locs ls hX hl
            unfold f_X11_step_J125_65 at hf
            refine lv_aload_n hx hb dX11_step_125 rfl (lv_at hl 0 rfl) ?_
            refine lv_dup hx hb dX11_step_126 rfl ?_
            obtain ⟨hk70, hf⟩ := chk_some hf
            refine xr_get (q := (RX11, TX11, 12)) B hX 3 hk70 rfl (by decide) (by decide) (x_Vi rfl (by decide)) q822 (fun _ h => h) dX11_step_127 ?_
            refine lv_iconst (v := nI 1) hx hb dX11_step_130 ic1 ?_
            refine lv_iadd hx hb dX11_step_131 ?_
            obtain ⟨hw71, hf⟩ := chk_some hf
            obtain ⟨S72, eS72, hf⟩ := bd_some hf
            refine xr_put (S' := S72) (q := (RX11, TX11, 12)) (v := .int ((xi S69 803 o 0) + nI 1)) (ty0 := tyX11) B hX 3 hk70 rfl (by decide) hw71 (by decide) (by rw [eS72]; exact x_Vup_i (k := 8) (j := 3) rfl (by decide)) tyX11_ok (fun i h1 h2 => nmX11 i (Nat.lt_of_lt_of_le h1 (by decide)) 3 (by decide) h2) rfl rfl rfl q822 (fun _ h => h) dX11_step_132 (fun H locs hX => ?_)
            refine w_i eS72 ?_
            have hk70 := ks_i eS72 hk70
            have hw71 := kw_i eS72 hw71
            refine lv_goto (tgt := 88) hx hb dX11_step_135 (by decide) ?_
            cases hf
            exact hk _ _ _ hX (lv_sub hl [0, 1] rfl)
          refine lv_icmp_ge (tgt := 125) hx hb dX11_step_108 (by decide) (fun c64 => ?_) (fun c64 => ?_)
          · have hf := it_pos c64 hf
            exact j65 S57 hf _ _ _ hX (lv_sub hl [0, 1] rfl)
          · have hf := it_neg c64 hf
            refine lv_aload_n hx hb dX11_step_111 rfl (lv_at hl 1 rfl) ?_
            refine lv_aload_n hx hb dX11_step_112 rfl (lv_at hl 0 rfl) ?_
            refine lv_aload_n hx hb dX11_step_113 rfl (lv_at hl 0 rfl) ?_
            refine xr_get (q := (RX11, TX11, 12)) B hX 3 hk58 rfl (by decide) (by decide) (x_Vi rfl (by decide)) q822 (fun _ h => h) dX11_step_114 ?_
            obtain ⟨r66, hcr66, hf⟩ := bnd_some hf
            refine xr_callVC (rest := [.ref a53]) (q := (RX11, TX11, 12)) B hX (c_X11_at l D S57 o (xi S57 803 o 0) hcr66) hk58 rfl (by decide) q631 q633 (Or.inl qs9) q125 q634 hd_X11_at ⟨Nat.le_of_ble_eq_true rfl, Nat.le_of_ble_eq_true rfl⟩ rfl hl.1 rfl (Nat.le_of_ble_eq_true rfl) dX11_step_117 (fun H locs hX => ?_)
            refine lv_i2c (v := (r66.toUInt32 % 65536).toInt32) hx hb dX11_step_120 rfl ?_
            obtain ⟨⟨b67, S68⟩, hcb67, hf⟩ := bnd_some hf
            have hf := u2_at hf
            refine xr_callVC (rest := []) (q := (RJ11, TJ11, 4)) B hX (c_J11_append l D S57 a53 ((r66.toUInt32 % 65536).toInt32) hcb67) hk63 rfl (by decide) q678 q679 (Or.inl q680) q129 q681 hd_J11_append ⟨Nat.le_of_ble_eq_true rfl, Nat.le_of_ble_eq_true rfl⟩ rfl hl.1 rfl (Nat.le_of_ble_eq_true rfl) dX11_step_121 (fun H locs hX => ?_)
            refine lv_pop hx hb dX11_step_124 rfl ?_
            exact j65 S68 hf _ _ _ hX (lv_sub hl [0, 1] rfl)
    · have hf := it_pos c17 hf
      refine lv_aload_n hx hb dX11_step_61 rfl (lv_at hl 1 rfl) ?_
      obtain ⟨b84, hb84, hf⟩ := bnd_some hf
      refine xr_gets B hX (v := .ref b84) (x_statR hX 10 rfl hb84) q635 dX11_step_62 ?_
      obtain ⟨S85, eS85, hf⟩ := bd_some hf
      refine xr_put (S' := S85) (q := (RX11, TX11, 12)) (v := va_rf (some b84)) (ty0 := tyX11) B hX 8 hk13 rfl (by decide) hw14 (by decide) (by rw [eS85]; exact x_Vup_r (k := 8) (j := 8) rfl (by decide)) tyX11_ok (fun i h1 h2 => nmX11 i (Nat.lt_of_lt_of_le h1 (by decide)) 8 (by decide) h2) rfl rfl rfl q828 (fun _ h => h) dX11_step_65 (fun H locs hX => ?_)
      refine w_r eS85 ?_
      have hk13 := ks_r eS85 hk13
      have hw14 := kw_r eS85 hw14
      refine lv_goto (tgt := 277) hx hb dX11_step_68 (by decide) ?_
      cases hf
      exact hret _ _ _ _ hX dX11_step_277
  refine lp_W (step := (fun t : XS => f_X11_step_L0 o t)) (fun t : XS => ∀ (H : Heap) (locs : List Loc) (ls : Array Slot), x_I D S s H locs t → lv_has ls 3 [(0, .ref o)] → W p l e (x_R 6 171 S) s m args below meth c H locs (xz t - xz S) (xu t - xu S) Q (F0 m 0 ls [])) (fun t : XS => ∀ (H : Heap) (locs : List Loc) (ls : Array Slot), x_I D S s H locs t → lv_has ls 3 [(0, .ref o)] → W p l e (x_R 6 171 S) s m args below meth c H locs (xz t - xz S) (xu t - xu S) Q (F0 m 39 ls [])) ?_ fu S y11 hxy11 hy11 _ _ _ hX (lv_sub hl [0] rfl)
  clear hf hxy11 hy11
  rintro S1 oo (hf : f_X11_step_L0 o S1 = some oo) hk
  intro H locs ls hX hl
  unfold f_X11_step_L0 at hf
  refine lv_aload_n hx hb dX11_step_0 rfl (lv_at hl 0 rfl) ?_
  refine lv_aload_n hx hb dX11_step_1 rfl (lv_at hl 0 rfl) ?_
  obtain ⟨hk2, hf⟩ := chk_some hf
  refine xr_get (q := (RX11, TX11, 12)) B hX 3 hk2 rfl (by decide) (by decide) (x_Vi rfl (by decide)) q822 (fun _ h => h) dX11_step_2 ?_
  obtain ⟨r3, hcr3, hf⟩ := bnd_some hf
  refine xr_callVC (rest := []) (q := (RX11, TX11, 12)) B hX (c_X11_at l D S1 o (xi S1 803 o 0) hcr3) hk2 rfl (by decide) q631 q633 (Or.inl qs9) q125 q634 hd_X11_at ⟨Nat.le_of_ble_eq_true rfl, Nat.le_of_ble_eq_true rfl⟩ rfl hl.1 rfl (Nat.le_of_ble_eq_true rfl) dX11_step_5 (fun H locs hX => ?_)
  refine lv_bipush (v := nI 10) hx hb dX11_step_8 bp10 ?_
  have j5 : f_X11_step_J26_5 o S1 = some oo → ∀ (H : Heap) (locs : List Loc) (ls : Array Slot), x_I D S s H locs S1 → lv_has ls 3 [(0, .ref o)] → W p l e (x_R 6 171 S) s m args below meth c H locs (xz S1 - xz S) (xu S1 - xu S) Q (F0 m 26 ls []) := by
    intro hf
    intro H locs ls hX hl
    unfold f_X11_step_J26_5 at hf
    refine lv_aload_n hx hb dX11_step_26 rfl (lv_at hl 0 rfl) ?_
    refine lv_dup hx hb dX11_step_27 rfl ?_
    refine xr_get (q := (RX11, TX11, 12)) B hX 3 hk2 rfl (by decide) (by decide) (x_Vi rfl (by decide)) q822 (fun _ h => h) dX11_step_28 ?_
    refine lv_iconst (v := nI 1) hx hb dX11_step_31 ic1 ?_
    refine lv_iadd hx hb dX11_step_32 ?_
    obtain ⟨hw8, hf⟩ := chk_some hf
    obtain ⟨S9, eS9, hf⟩ := bd_some hf
    refine xr_put (S' := S9) (q := (RX11, TX11, 12)) (v := .int ((xi S1 803 o 0) + nI 1)) (ty0 := tyX11) B hX 3 hk2 rfl (by decide) hw8 (by decide) (by rw [eS9]; exact x_Vup_i (k := 8) (j := 3) rfl (by decide)) tyX11_ok (fun i h1 h2 => nmX11 i (Nat.lt_of_lt_of_le h1 (by decide)) 3 (by decide) h2) rfl rfl rfl q822 (fun _ h => h) dX11_step_33 (fun H locs hX => ?_)
    refine w_i eS9 ?_
    have hk2 := ks_i eS9 hk2
    have hw8 := kw_i eS9 hw8
    refine lv_goto (tgt := 0) hx hb dX11_step_36 (by decide) ?_
    cases hf
    exact hk _ _ _ hX (lv_sub hl [0] rfl)
  refine lv_icmp_eq (tgt := 26) hx hb dX11_step_10 (by decide) (fun c4 => ?_) (fun c4 => ?_)
  · have hf := it_pos c4 hf
    exact j5  hf _ _ _ hX (lv_sub hl [0] rfl)
  · have hf := it_neg c4 hf
    refine lv_aload_n hx hb dX11_step_13 rfl (lv_at hl 0 rfl) ?_
    refine lv_aload_n hx hb dX11_step_14 rfl (lv_at hl 0 rfl) ?_
    refine xr_get (q := (RX11, TX11, 12)) B hX 3 hk2 rfl (by decide) (by decide) (x_Vi rfl (by decide)) q822 (fun _ h => h) dX11_step_15 ?_
    obtain ⟨r6, hcr6, hf⟩ := bnd_some hf
    refine xr_callVC (rest := []) (q := (RX11, TX11, 12)) B hX (c_X11_at l D S1 o (xi S1 803 o 0) hcr6) hk2 rfl (by decide) q631 q633 (Or.inl qs9) q125 q634 hd_X11_at ⟨Nat.le_of_ble_eq_true rfl, Nat.le_of_ble_eq_true rfl⟩ rfl hl.1 rfl (Nat.le_of_ble_eq_true rfl) dX11_step_18 (fun H locs hX => ?_)
    refine lv_bipush (v := nI 32) hx hb dX11_step_21 bp32 ?_
    refine lv_icmp_ne (tgt := 39) hx hb dX11_step_23 (by decide) (fun c7 => ?_) (fun c7 => ?_)
    · have hf := it_neg c7 hf
      cases hf
      exact hk _ _ _ hX (lv_sub hl [0] rfl)
    · have hf := it_pos c7 hf
      exact j5  hf _ _ _ hX (lv_sub hl [0] rfl)
