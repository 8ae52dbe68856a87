set_option maxRecDepth 100000
def f_J18_init (S : XS) (o : Nat) (p0 : Int32) : Option XS :=
  bnd (f_J8_init S o) fun r1 => chk (xk S o = 22) <| chk (xb S ≤ o) <| bd (s_i S 2200 o 0 p0) fun S4 => some S4
set_option maxHeartbeats 4000000 in
set_option maxRecDepth 100000 in
theorem c_J18_init (l : Launch) (D : XD) (S : XS) (o : Nat) (p0 : Int32) {S' : XS} (hf : f_J18_init S o p0 = some S') : x_Met l yJ18_init cJ18_init 2 (Option.none : Option Jvm.ClassFile.FieldType) 2 80 D [.ref o, .int p0] S none S' := by
  refine x_metV RJ18 (by decide) rfl (Nat.le_of_ble_eq_true rfl) (fun p e s m args below meth c Q B hnm hret H locs hX ls hl => ?_)
  have hx := B.1
  have hb := B.2.1
  have hml := B.2.2.1
  have hown := B.2.2.2.1
  have hts := B.2.2.2.2
  have hl : lv_has ls 2 [(0, .ref o), (1, .int p0)] := hl
  unfold f_J18_init at hf
  refine lv_aload_n hx hb dJ18_init_0 rfl (lv_at hl 0 rfl) ?_
  obtain ⟨r1, hcr1, hf⟩ := bnd_some hf
  refine xr_callIC (rest := []) B hX (c_J8_init l D S o hcr1) q1372 q1373 q122 q1374 hd_J8_init rfl ⟨Nat.le_of_ble_eq_true rfl, Nat.le_of_ble_eq_true rfl⟩ rfl hl.1 rfl (Nat.le_of_ble_eq_true rfl) dJ18_init_1 (fun H locs hX => ?_)
  refine lv_aload_n hx hb dJ18_init_4 rfl (lv_at hl 0 rfl) ?_
  refine lv_iload_n hx hb dJ18_init_5 rfl (lv_at hl 1 rfl) ?_
  obtain ⟨hk2, hf⟩ := chk_some hf
  obtain ⟨hw3, hf⟩ := chk_some hf
  obtain ⟨S4, eS4, hf⟩ := bd_some hf
  refine xr_putF (S' := S4) (q := (RJ18, TJ18, 1)) (v := .int p0) (ty0 := tyJ18) B hnm hX 0 hk2 rfl (by decide) hw3 (by decide) (by rw [eS4]; exact x_Vup_i (k := 22) (j := 0) rfl (by decide)) tyJ18_ok (fun i h1 h2 => nmJ18 i (Nat.lt_of_lt_of_le h1 (by decide)) 0 (by decide) h2) rfl rfl rfl rfl q1376 (fun _ h => h) dJ18_init_6 (fun H locs hX => ?_)
  refine w_i eS4 ?_
  have hk2 := ks_i eS4 hk2
  have hw3 := kw_i eS4 hw3
  cases hf
  exact hret _ _ _ _ hX dJ18_init_9
def f_J18_valueOf_J23_2 (p0 : Int32) (S : XS)  : Option (Nat × XS) :=
  chk (xz S < xL S ∧ xu S + 1 ≤ xU S) <| bd (xz S) fun a10 => bd (n_c S 22 0 1) fun S9 => bnd (f_J18_init S9 a10 p0) fun S13 => some (a10, S13)
def f_J18_valueOf (S : XS) (p0 : Int32) : Option (Nat × XS) :=
  (if p0 < (-128) then f_J18_valueOf_J23_2 p0 S else (if nI 127 < p0 then f_J18_valueOf_J23_2 p0 S else bnd (xs S 14) fun b4 => chk (xk S b4 = 61) <| ald (xn S b4) (xr S 61 b4) (p0 + nI 128) fun q6 => bnd q6 fun b7 => some (b7, S)))
set_option maxHeartbeats 4000000 in
set_option maxRecDepth 100000 in
theorem c_J18_valueOf (l : Launch) (D : XD) (S : XS) (p0 : Int32) {r : Nat} {S' : XS} (hf : f_J18_valueOf S p0 = some (r, S')) : x_Met l yJ18_valueOf cJ18_valueOf 1 (Option.some (Jvm.ClassFile.FieldType.object "java/lang/Integer")) 3 101 D [.int p0] S (some (.ref r)) S' := by
  refine x_metA RJ18 (by decide) rfl (Nat.le_of_ble_eq_true rfl) (Or.inl ⟨_, rfl⟩) (fun p e s m args below meth c Q B hnm hret H locs hX ls hl => ?_)
  have hx := B.1
  have hb := B.2.1
  have hml := B.2.2.1
  have hown := B.2.2.2.1
  have hts := B.2.2.2.2
  have hl : lv_has ls 1 [(0, .int p0)] := hl
  unfold f_J18_valueOf at hf
  refine lv_iload_n hx hb dJ18_valueOf_0 rfl (lv_at hl 0 rfl) ?_
  refine lv_bipush (v := (-128)) hx hb dJ18_valueOf_1 bpm128 ?_
  have j2 : f_J18_valueOf_J23_2 p0 S = some (r, S') → ∀ (H : Heap) (locs : List Loc) (ls : Array Slot), x_I D S s H locs S → lv_has ls 1 [(0, .int p0)] → W p l e (x_R 3 101 S) s m args below meth c H locs (xz S - xz S) (xu S - xu S) Q (F0 m 23 ls []) := by
    intro hf
    intro H locs ls hX hl
    unfold f_J18_valueOf_J23_2 at hf
    obtain ⟨hr8, hf⟩ := chk_some hf
    obtain ⟨a10, ea10, hf⟩ := bd_some hf
    obtain ⟨S9, eS9, hf⟩ := bd_some hf
    have hk11 := ks_new eS9 ea10
    have hw12 := kw_new hX eS9 ea10
    refine xr_new (q := (RJ18, TJ18, 1)) (N := 1) (ty0 := tyJ18) B hX 22 rfl (by decide) tyJ18_ok xd_22 q1367 q1368 q146 hr8 eS9 dJ18_valueOf_23 (fun H hX => ?_)
    refine W.eq (g2 := F0 m 26 ls [.ref a10]) (by rw [ea10]; first | done | rfl) ?_
    refine lv_dup hx hb dJ18_valueOf_26 rfl ?_
    refine lv_iload_n hx hb dJ18_valueOf_27 rfl (lv_at hl 0 rfl) ?_
    obtain ⟨S13, hcS13, hf⟩ := bnd_some hf
    refine xr_callIC (rest := [.ref a10]) B hX (c_J18_init l D S9 a10 p0 hcS13) q1369 q1370 q146 q1371 hd_J18_init rfl ⟨Nat.le_of_ble_eq_true rfl, Nat.le_of_ble_eq_true rfl⟩ rfl hl.1 rfl (Nat.le_of_ble_eq_true rfl) dJ18_valueOf_28 (fun H locs hX => ?_)
    cases hf
    exact hret _ _ _ _ hX dJ18_valueOf_31
  refine lv_icmp_lt (tgt := 23) hx hb dJ18_valueOf_3 (by decide) (fun c1 => ?_) (fun c1 => ?_)
  · have hf := it_pos c1 hf
    exact j2  hf _ _ _ hX (lv_sub hl [0] rfl)
  · have hf := it_neg c1 hf
    refine lv_iload_n hx hb dJ18_valueOf_6 rfl (lv_at hl 0 rfl) ?_
    refine xr_gets B hX (v := .int (nI 127)) hX.2.2.2.2.2.2.2.2.2.1 q1363 dJ18_valueOf_7 ?_
    refine lv_icmp_gt (tgt := 23) hx hb dJ18_valueOf_10 (by decide) (fun c3 => ?_) (fun c3 => ?_)
    · have hf := it_pos c3 hf
      exact j2  hf _ _ _ hX (lv_sub hl [0] rfl)
    · have hf := it_neg c3 hf
      obtain ⟨b4, hb4, hf⟩ := bnd_some hf
      refine xr_gets B hX (v := .ref b4) (x_statR hX 14 rfl hb4) q1365 dJ18_valueOf_13 ?_
      refine lv_iload_n hx hb dJ18_valueOf_16 rfl (lv_at hl 0 rfl) ?_
      refine lv_sipush (v := nI 128) hx hb dJ18_valueOf_17 sp128 ?_
      refine lv_iadd hx hb dJ18_valueOf_20 ?_
      obtain ⟨hk5, hf⟩ := chk_some hf
      obtain ⟨q6, eq6, hiq6, hf⟩ := ald_some hf
      obtain ⟨b7, hb7, hf⟩ := bnd_some hf
      rw [hb7] at eq6
      refine xr_aald B hX hk5 rfl (by decide) rfl hiq6 eq6 dJ18_valueOf_21 ?_
      refine W.eq (g2 := F0 m 22 ls [.ref b7]) rfl ?_
      cases hf
      exact hret _ _ _ _ hX dJ18_valueOf_22
def f_J18_intValue (S : XS) (o : Nat) : Option Int32 :=
  chk (xk S o = 22) <| some (xi S 2200 o 0)
set_option maxHeartbeats 4000000 in
set_option maxRecDepth 100000 in
theorem c_J18_intValue (l : Launch) (D : XD) (S : XS) (o : Nat) {r : Int32} (hf : f_J18_intValue S o = some r) : x_Met l yJ18_intValue cJ18_intValue 1 (Option.some Jvm.ClassFile.FieldType.int) 0 0 D [.ref o] S (some (.int r)) S := by
  refine x_metI RJ18 (by decide) rfl (Nat.le_of_ble_eq_true rfl) (fun p e s m args below meth c Q B hnm hret H locs hX ls hl => ?_)
  have hx := B.1
  have hb := B.2.1
  have hml := B.2.2.1
  have hown := B.2.2.2.1
  have hts := B.2.2.2.2
  have hl : lv_has ls 1 [(0, .ref o)] := hl
  unfold f_J18_intValue at hf
  refine lv_aload_n hx hb dJ18_intValue_0 rfl (lv_at hl 0 rfl) ?_
  obtain ⟨hk1, hf⟩ := chk_some hf
  refine xr_get (q := (RJ18, TJ18, 1)) B hX 0 hk1 rfl (by decide) (by decide) (x_Vi rfl (by decide)) q1376 (fun _ h => h) dJ18_intValue_1 ?_
  cases hf
  exact hret _ _ _ _ rfl hX dJ18_intValue_4
def f_J18_bitCount (p0 : Int32) : Option Int32 :=
  bd (p0 - ((p0.toUInt32 >>> ((nI 1).toUInt32 &&& Int32.toUInt32 31)).toInt32 &&& nI 1431655765)) fun x1 => bd ((x1 &&& nI 858993459) + ((x1.toUInt32 >>> ((nI 2).toUInt32 &&& Int32.toUInt32 31)).toInt32 &&& nI 858993459)) fun x2 => bd ((x2 + (x2.toUInt32 >>> ((nI 4).toUInt32 &&& Int32.toUInt32 31)).toInt32) &&& nI 252645135) fun x3 => bd (x3 + (x3.toUInt32 >>> ((nI 8).toUInt32 &&& Int32.toUInt32 31)).toInt32) fun x4 => bd (x4 + (x4.toUInt32 >>> ((nI 16).toUInt32 &&& Int32.toUInt32 31)).toInt32) fun x5 => some (x5 &&& nI 63)
abbrev r_J18_bitCount : Room := { frames := 0, cells := 0, slots := 0, locals := 0 }
set_option maxHeartbeats 4000000 in
set_option maxRecDepth 100000 in
theorem c_J18_bitCount (l : Launch) (p0 : Int32) {r : Int32} (hf : f_J18_bitCount p0 = some r) : p_Met l yJ18_bitCount cJ18_bitCount 1 (Option.some Jvm.ClassFile.FieldType.int) r_J18_bitCount [.int p0] (some (.int r)) := by
  refine p_metI (F := 0) (L := 0) RJ18 (by decide) rfl (Nat.le_of_ble_eq_true rfl) (fun p e s m args below meth c Q B hret ls hl => ?_)
  have hx := B.1
  have hb := B.2.1
  have hml := B.2.2.1
  have hown := B.2.2.2.1
  have hts := B.2.2.2.2
  have hl : lv_has ls 1 [(0, .int p0)] := hl
  unfold f_J18_bitCount at hf
  refine lv_iload_n hx hb dJ18_bitCount_0 rfl (lv_at hl 0 rfl) ?_
  refine lv_iload_n hx hb dJ18_bitCount_1 rfl (lv_at hl 0 rfl) ?_
  refine lv_iconst (v := nI 1) hx hb dJ18_bitCount_2 ic1 ?_
  refine lv_iushr (v := (p0.toUInt32 >>> ((nI 1).toUInt32 &&& Int32.toUInt32 31)).toInt32) hx hb dJ18_bitCount_3 rfl ?_
  refine lv_ldcw (v := nI 1431655765) hx hb hown (hts _ q1542) dJ18_bitCount_4 ?_
  refine lv_iand hx hb dJ18_bitCount_7 ?_
  refine lv_isub hx hb dJ18_bitCount_8 ?_
  refine lv_topi (fun x1 ex1 => ?_)
  have hf := bd_at ex1 hf
  refine lv_istore_n (lv' := [(0, .int x1)]) hx hb dJ18_bitCount_9 rfl hl (by decide) rfl (fun ls hl => ?_)
  refine lv_iload_n hx hb dJ18_bitCount_10 rfl (lv_at hl 0 rfl) ?_
  refine lv_ldcw (v := nI 858993459) hx hb hown (hts _ q1543) dJ18_bitCount_11 ?_
  refine lv_iand hx hb dJ18_bitCount_14 ?_
  refine lv_iload_n hx hb dJ18_bitCount_15 rfl (lv_at hl 0 rfl) ?_
  refine lv_iconst (v := nI 2) hx hb dJ18_bitCount_16 ic2 ?_
  refine lv_iushr (v := (x1.toUInt32 >>> ((nI 2).toUInt32 &&& Int32.toUInt32 31)).toInt32) hx hb dJ18_bitCount_17 rfl ?_
  refine lv_ldcw (v := nI 858993459) hx hb hown (hts _ q1543) dJ18_bitCount_18 ?_
  refine lv_iand hx hb dJ18_bitCount_21 ?_
  refine lv_iadd hx hb dJ18_bitCount_22 ?_
  refine lv_topi (fun x2 ex2 => ?_)
  have hf := bd_at ex2 hf
  refine lv_istore_n (lv' := [(0, .int x2)]) hx hb dJ18_bitCount_23 rfl hl (by decide) rfl (fun ls hl => ?_)
  refine lv_iload_n hx hb dJ18_bitCount_24 rfl (lv_at hl 0 rfl) ?_
  refine lv_iload_n hx hb dJ18_bitCount_25 rfl (lv_at hl 0 rfl) ?_
  refine lv_iconst (v := nI 4) hx hb dJ18_bitCount_26 ic4 ?_
  refine lv_iushr (v := (x2.toUInt32 >>> ((nI 4).toUInt32 &&& Int32.toUInt32 31)).toInt32) hx hb dJ18_bitCount_27 rfl ?_
  refine lv_iadd hx hb dJ18_bitCount_28 ?_
  refine lv_ldcw (v := nI 252645135) hx hb hown (hts _ q1544) dJ18_bitCount_29 ?_
  refine lv_iand hx hb dJ18_bitCount_32 ?_
  refine lv_topi (fun x3 ex3 => ?_)
  have hf := bd_at ex3 hf
  refine lv_istore_n (lv' := [(0, .int x3)]) hx hb dJ18_bitCount_33 rfl hl (by decide) rfl (fun ls hl => ?_)
  refine lv_iload_n hx hb dJ18_bitCount_34 rfl (lv_at hl 0 rfl) ?_
  refine lv_iload_n hx hb dJ18_bitCount_35 rfl (lv_at hl 0 rfl) ?_
  refine lv_bipush (v := nI 8) hx hb dJ18_bitCount_36 bp8 ?_
  refine lv_iushr (v := (x3.toUInt32 >>> ((nI 8).toUInt32 &&& Int32.toUInt32 31)).toInt32) hx hb dJ18_bitCount_38 rfl ?_
  refine lv_iadd hx hb dJ18_bitCount_39 ?_
  refine lv_topi (fun x4 ex4 => ?_)
  have hf := bd_at ex4 hf
  refine lv_istore_n (lv' := [(0, .int x4)]) hx hb dJ18_bitCount_40 rfl hl (by decide) rfl (fun ls hl => ?_)
  refine lv_iload_n hx hb dJ18_bitCount_41 rfl (lv_at hl 0 rfl) ?_
  refine lv_iload_n hx hb dJ18_bitCount_42 rfl (lv_at hl 0 rfl) ?_
  refine lv_bipush (v := nI 16) hx hb dJ18_bitCount_43 bp16 ?_
  refine lv_iushr (v := (x4.toUInt32 >>> ((nI 16).toUInt32 &&& Int32.toUInt32 31)).toInt32) hx hb dJ18_bitCount_45 rfl ?_
  refine lv_iadd hx hb dJ18_bitCount_46 ?_
  refine lv_topi (fun x5 ex5 => ?_)
  have hf := bd_at ex5 hf
  refine lv_istore_n (lv' := [(0, .int x5)]) hx hb dJ18_bitCount_47 rfl hl (by decide) rfl (fun ls hl => ?_)
  refine lv_iload_n hx hb dJ18_bitCount_48 rfl (lv_at hl 0 rfl) ?_
  refine lv_bipush (v := nI 63) hx hb dJ18_bitCount_49 bp63 ?_
  refine lv_iand hx hb dJ18_bitCount_51 ?_
  cases hf
  exact hret _ _ rfl dJ18_bitCount_52
def f_J18_numberOfTrailingZeros_J74_22  (x25 : Int32) (x26 : Int32) : Option Int32 :=
  some (x26 + (x25.toUInt32 >>> ((nI 1).toUInt32 &&& Int32.toUInt32 31)).toInt32)
def f_J18_numberOfTrailingZeros_J62_16  (x19 : Int32) (x20 : Int32) : Option Int32 :=
  (if x19 ≤ nI 4 then f_J18_numberOfTrailingZeros_J74_22 x19 x20 else bd (x20 + nI 2) fun x23 => bd ((x19.toUInt32 >>> ((nI 2).toUInt32 &&& Int32.toUInt32 31)).toInt32) fun x24 => f_J18_numberOfTrailingZeros_J74_22 x24 x23)
def f_J18_numberOfTrailingZeros_J49_10  (x13 : Int32) (x14 : Int32) : Option Int32 :=
  (if x13 ≤ nI 16 then f_J18_numberOfTrailingZeros_J62_16 x13 x14 else bd (x14 + nI 4) fun x17 => bd ((x13.toUInt32 >>> ((nI 4).toUInt32 &&& Int32.toUInt32 31)).toInt32) fun x18 => f_J18_numberOfTrailingZeros_J62_16 x18 x17)
def f_J18_numberOfTrailingZeros_J34_4  (x7 : Int32) (x8 : Int32) : Option Int32 :=
  (if x7 ≤ nI 256 then f_J18_numberOfTrailingZeros_J49_10 x7 x8 else bd (x8 + nI 8) fun x11 => bd ((x7.toUInt32 >>> ((nI 8).toUInt32 &&& Int32.toUInt32 31)).toInt32) fun x12 => f_J18_numberOfTrailingZeros_J49_10 x12 x11)
def f_J18_numberOfTrailingZeros (p0 : Int32) : Option Int32 :=
  bd ((p0 ^^^ (-1)) &&& (p0 - nI 1)) fun x1 => (if 0 < x1 then (if x1 ≤ nI 65536 then f_J18_numberOfTrailingZeros_J34_4 x1 (nI 1) else bd (nI 1 + nI 16) fun x5 => bd ((x1.toUInt32 >>> ((nI 16).toUInt32 &&& Int32.toUInt32 31)).toInt32) fun x6 => f_J18_numberOfTrailingZeros_J34_4 x6 x5) else some (x1 &&& nI 32))
abbrev r_J18_numberOfTrailingZeros : Room := { frames := 0, cells := 0, slots := 0, locals := 0 }
set_option maxHeartbeats 4000000 in
set_option maxRecDepth 100000 in
theorem c_J18_numberOfTrailingZeros (l : Launch) (p0 : Int32) {r : Int32} (hf : f_J18_numberOfTrailingZeros p0 = some r) : p_Met l yJ18_numberOfTrailingZeros cJ18_numberOfTrailingZeros 2 (Option.some Jvm.ClassFile.FieldType.int) r_J18_numberOfTrailingZeros [.int p0] (some (.int r)) := by
  refine p_metI (F := 0) (L := 0) RJ18 (by decide) rfl (Nat.le_of_ble_eq_true rfl) (fun p e s m args below meth c Q B hret ls hl => ?_)
  have hx := B.1
  have hb := B.2.1
  have hml := B.2.2.1
  have hown := B.2.2.2.1
  have hts := B.2.2.2.2
  have hl : lv_has ls 2 [(0, .int p0)] := hl
  unfold f_J18_numberOfTrailingZeros at hf
  refine lv_iload_n hx hb dJ18_numberOfTrailingZeros_0 rfl (lv_at hl 0 rfl) ?_
  refine lv_iconst (v := (-1)) hx hb dJ18_numberOfTrailingZeros_1 icm1 ?_
  refine lv_ixor hx hb dJ18_numberOfTrailingZeros_2 ?_
  refine lv_iload_n hx hb dJ18_numberOfTrailingZeros_3 rfl (lv_at hl 0 rfl) ?_
  refine lv_iconst (v := nI 1) hx hb dJ18_numberOfTrailingZeros_4 ic1 ?_
  refine lv_isub hx hb dJ18_numberOfTrailingZeros_5 ?_
  refine lv_iand hx hb dJ18_numberOfTrailingZeros_6 ?_
  refine lv_topi (fun x1 ex1 => ?_)
  have hf := bd_at ex1 hf
  refine lv_istore_n (lv' := [(0, .int x1)]) hx hb dJ18_numberOfTrailingZeros_7 rfl hl (by decide) rfl (fun ls hl => ?_)
  refine lv_iload_n hx hb dJ18_numberOfTrailingZeros_8 rfl (lv_at hl 0 rfl) ?_
  refine lv_if_gt (tgt := 17) hx hb dJ18_numberOfTrailingZeros_9 (by decide) (fun c2 => ?_) (fun c2 => ?_)
  · have hf := it_pos c2 hf
    refine lv_iconst (v := nI 1) hx hb dJ18_numberOfTrailingZeros_17 ic1 ?_
    refine lv_istore_n (lv' := [(1, .int (nI 1)), (0, .int x1)]) hx hb dJ18_numberOfTrailingZeros_18 rfl hl (by decide) rfl (fun ls hl => ?_)
    refine lv_iload_n hx hb dJ18_numberOfTrailingZeros_19 rfl (lv_at hl 1 rfl) ?_
    refine lv_ldcw (v := nI 65536) hx hb hown (hts _ q1558) dJ18_numberOfTrailingZeros_20 ?_
    have j4 : ∀ (x7 : Int32) (x8 : Int32), f_J18_numberOfTrailingZeros_J34_4 x7 x8 = some r → ∀ (ls : Array Slot), lv_has ls 2 [(0, .int x7), (1, .int x8)] → W p l e r_J18_numberOfTrailingZeros s m args below meth c s.heap [] 0 0 Q (F0 m 34 ls []) := by
      intro x7 x8 hf
      intro ls hl
      unfold f_J18_numberOfTrailingZeros_J34_4 at hf
      refine lv_iload_n hx hb dJ18_numberOfTrailingZeros_34 rfl (lv_at hl 0 rfl) ?_
      refine lv_sipush (v := nI 256) hx hb dJ18_numberOfTrailingZeros_35 sp256 ?_
      have j10 : ∀ (x13 : Int32) (x14 : Int32), f_J18_numberOfTrailingZeros_J49_10 x13 x14 = some r → ∀ (ls : Array Slot), lv_has ls 2 [(0, .int x13), (1, .int x14)] → W p l e r_J18_numberOfTrailingZeros s m args below meth c s.heap [] 0 0 Q (F0 m 49 ls []) := by
        intro x13 x14 hf
        intro ls hl
        unfold f_J18_numberOfTrailingZeros_J49_10 at hf
        refine lv_iload_n hx hb dJ18_numberOfTrailingZeros_49 rfl (lv_at hl 0 rfl) ?_
        refine lv_bipush (v := nI 16) hx hb dJ18_numberOfTrailingZeros_50 bp16 ?_
        have j16 : ∀ (x19 : Int32) (x20 : Int32), f_J18_numberOfTrailingZeros_J62_16 x19 x20 = some r → ∀ (ls : Array Slot), lv_has ls 2 [(0, .int x19), (1, .int x20)] → W p l e r_J18_numberOfTrailingZeros s m args below meth c s.heap [] 0 0 Q (F0 m 62 ls []) := by
          intro x19 x20 hf
          intro ls hl
          unfold f_J18_numberOfTrailingZeros_J62_16 at hf
          refine lv_iload_n hx hb dJ18_numberOfTrailingZeros_62 rfl (lv_at hl 0 rfl) ?_
          refine lv_iconst (v := nI 4) hx hb dJ18_numberOfTrailingZeros_63 ic4 ?_
          have j22 : ∀ (x25 : Int32) (x26 : Int32), f_J18_numberOfTrailingZeros_J74_22 x25 x26 = some r → ∀ (ls : Array Slot), lv_has ls 2 [(0, .int x25), (1, .int x26)] → W p l e r_J18_numberOfTrailingZeros s m args below meth c s.heap [] 0 0 Q (F0 m 74 ls []) := by
            intro x25 x26 hf
            intro ls hl
            unfold f_J18_numberOfTrailingZeros_J74_22 at hf
            refine lv_iload_n hx hb dJ18_numberOfTrailingZeros_74 rfl (lv_at hl 1 rfl) ?_
            refine lv_iload_n hx hb dJ18_numberOfTrailingZeros_75 rfl (lv_at hl 0 rfl) ?_
            refine lv_iconst (v := nI 1) hx hb dJ18_numberOfTrailingZeros_76 ic1 ?_
            refine lv_iushr (v := (x25.toUInt32 >>> ((nI 1).toUInt32 &&& Int32.toUInt32 31)).toInt32) hx hb dJ18_numberOfTrailingZeros_77 rfl ?_
            refine lv_iadd hx hb dJ18_numberOfTrailingZeros_78 ?_
            cases hf
            exact hret _ _ rfl dJ18_numberOfTrailingZeros_79
          refine lv_icmp_le (tgt := 74) hx hb dJ18_numberOfTrailingZeros_64 (by decide) (fun c21 => ?_) (fun c21 => ?_)
          · have hf := it_pos c21 hf
            exact j22 x19 x20 hf _ (lv_sub hl [0, 1] rfl)
          · have hf := it_neg c21 hf
            obtain ⟨x23, ex23, hf⟩ := bd_some hf
            refine lv_iinc (v := x23) (lv' := [(1, .int x23), (0, .int x19)]) hx hb dJ18_numberOfTrailingZeros_67 hl (k := 1) rfl (by rw [ex23]; first | done | rfl) (by decide) rfl (fun ls hl => ?_)
            refine lv_iload_n hx hb dJ18_numberOfTrailingZeros_70 rfl (lv_at hl 1 rfl) ?_
            refine lv_iconst (v := nI 2) hx hb dJ18_numberOfTrailingZeros_71 ic2 ?_
            refine lv_iushr (v := (x19.toUInt32 >>> ((nI 2).toUInt32 &&& Int32.toUInt32 31)).toInt32) hx hb dJ18_numberOfTrailingZeros_72 rfl ?_
            refine lv_topi (fun x24 ex24 => ?_)
            have hf := bd_at ex24 hf
            refine lv_istore_n (lv' := [(0, .int x24), (1, .int x23)]) hx hb dJ18_numberOfTrailingZeros_73 rfl hl (by decide) rfl (fun ls hl => ?_)
            exact j22 x24 x23 hf _ (lv_sub hl [0, 1] rfl)
        refine lv_icmp_le (tgt := 62) hx hb dJ18_numberOfTrailingZeros_52 (by decide) (fun c15 => ?_) (fun c15 => ?_)
        · have hf := it_pos c15 hf
          exact j16 x13 x14 hf _ (lv_sub hl [0, 1] rfl)
        · have hf := it_neg c15 hf
          obtain ⟨x17, ex17, hf⟩ := bd_some hf
          refine lv_iinc (v := x17) (lv' := [(1, .int x17), (0, .int x13)]) hx hb dJ18_numberOfTrailingZeros_55 hl (k := 1) rfl (by rw [ex17]; first | done | rfl) (by decide) rfl (fun ls hl => ?_)
          refine lv_iload_n hx hb dJ18_numberOfTrailingZeros_58 rfl (lv_at hl 1 rfl) ?_
          refine lv_iconst (v := nI 4) hx hb dJ18_numberOfTrailingZeros_59 ic4 ?_
          refine lv_iushr (v := (x13.toUInt32 >>> ((nI 4).toUInt32 &&& Int32.toUInt32 31)).toInt32) hx hb dJ18_numberOfTrailingZeros_60 rfl ?_
          refine lv_topi (fun x18 ex18 => ?_)
          have hf := bd_at ex18 hf
          refine lv_istore_n (lv' := [(0, .int x18), (1, .int x17)]) hx hb dJ18_numberOfTrailingZeros_61 rfl hl (by decide) rfl (fun ls hl => ?_)
          exact j16 x18 x17 hf _ (lv_sub hl [0, 1] rfl)
      refine lv_icmp_le (tgt := 49) hx hb dJ18_numberOfTrailingZeros_38 (by decide) (fun c9 => ?_) (fun c9 => ?_)
      · have hf := it_pos c9 hf
        exact j10 x7 x8 hf _ (lv_sub hl [0, 1] rfl)
      · have hf := it_neg c9 hf
        obtain ⟨x11, ex11, hf⟩ := bd_some hf
        refine lv_iinc (v := x11) (lv' := [(1, .int x11), (0, .int x7)]) hx hb dJ18_numberOfTrailingZeros_41 hl (k := 1) rfl (by rw [ex11]; first | done | rfl) (by decide) rfl (fun ls hl => ?_)
        refine lv_iload_n hx hb dJ18_numberOfTrailingZeros_44 rfl (lv_at hl 1 rfl) ?_
        refine lv_bipush (v := nI 8) hx hb dJ18_numberOfTrailingZeros_45 bp8 ?_
        refine lv_iushr (v := (x7.toUInt32 >>> ((nI 8).toUInt32 &&& Int32.toUInt32 31)).toInt32) hx hb dJ18_numberOfTrailingZeros_47 rfl ?_
        refine lv_topi (fun x12 ex12 => ?_)
        have hf := bd_at ex12 hf
        refine lv_istore_n (lv' := [(0, .int x12), (1, .int x11)]) hx hb dJ18_numberOfTrailingZeros_48 rfl hl (by decide) rfl (fun ls hl => ?_)
        exact j10 x12 x11 hf _ (lv_sub hl [0, 1] rfl)
    refine lv_icmp_le (tgt := 34) hx hb dJ18_numberOfTrailingZeros_23 (by decide) (fun c3 => ?_) (fun c3 => ?_)
    · have hf := it_pos c3 hf
      exact j4 x1 (nI 1) hf _ (lv_sub hl [1, 0] rfl)
    · have hf := it_neg c3 hf
      obtain ⟨x5, ex5, hf⟩ := bd_some hf
      refine lv_iinc (v := x5) (lv' := [(1, .int x5), (0, .int x1)]) hx hb dJ18_numberOfTrailingZeros_26 hl (k := 0) rfl (by rw [ex5]; first | done | rfl) (by decide) rfl (fun ls hl => ?_)
      refine lv_iload_n hx hb dJ18_numberOfTrailingZeros_29 rfl (lv_at hl 1 rfl) ?_
      refine lv_bipush (v := nI 16) hx hb dJ18_numberOfTrailingZeros_30 bp16 ?_
      refine lv_iushr (v := (x1.toUInt32 >>> ((nI 16).toUInt32 &&& Int32.toUInt32 31)).toInt32) hx hb dJ18_numberOfTrailingZeros_32 rfl ?_
      refine lv_topi (fun x6 ex6 => ?_)
      have hf := bd_at ex6 hf
      refine lv_istore_n (lv' := [(0, .int x6), (1, .int x5)]) hx hb dJ18_numberOfTrailingZeros_33 rfl hl (by decide) rfl (fun ls hl => ?_)
      exact j4 x6 x5 hf _ (lv_sub hl [0, 1] rfl)
  · have hf := it_neg c2 hf
    refine lv_iload_n hx hb dJ18_numberOfTrailingZeros_12 rfl (lv_at hl 0 rfl) ?_
    refine lv_bipush (v := nI 32) hx hb dJ18_numberOfTrailingZeros_13 bp32 ?_
    refine lv_iand hx hb dJ18_numberOfTrailingZeros_15 ?_
    cases hf
    exact hret _ _ rfl dJ18_numberOfTrailingZeros_16
def f_J2_init (S : XS) (o : Nat) (p0 : Int32) : Option XS :=
  bnd (f_J1_init S o) fun S1 => (if p0 ≤ 0 then (if p0 = 0 then bnd (xs S1 0) fun b4 => chk (xk S1 o = 19) <| chk (xb S1 ≤ o) <| bd (s_r S1 1901 o 0 (some b4)) fun S7 => some S7 else none) else chk (0 ≤ p0 ∧ p0.toNatClampNeg ≤ 60000000) <| chk (xz S1 < xL S1 ∧ xu S1 + p0.toNatClampNeg ≤ xU S1) <| bd (xz S1) fun a10 => bd (n_c S1 55 p0.toNatClampNeg p0.toNatClampNeg) fun S9 => chk (xk S9 o = 19) <| chk (xb S9 ≤ o) <| bd (s_r S9 1901 o 0 (some a10)) fun S15 => some S15)
set_option maxHeartbeats 4000000 in
set_option maxRecDepth 100000 in
theorem c_J2_init (l : Launch) (D : XD) (S : XS) (o : Nat) (p0 : Int32) {S' : XS} (hf : f_J2_init S o p0 = some S') : x_Met l yJ2_init cJ2_init 2 (Option.none : Option Jvm.ClassFile.FieldType) 3 100 D [.ref o, .int p0] S none S' := by
  refine x_metV RJ2 (by decide) rfl (Nat.le_of_ble_eq_true rfl) (fun p e s m args below meth c Q B hnm hret H locs hX ls hl => ?_)
  have hx := B.1
  have hb := B.2.1
  have hml := B.2.2.1
  have hown := B.2.2.2.1
  have hts := B.2.2.2.2
  have hl : lv_has ls 2 [(0, .ref o), (1, .int p0)] := hl
  unfold f_J2_init at hf
  refine lv_aload_n hx hb dJ2_init_0 rfl (lv_at hl 0 rfl) ?_
  obtain ⟨S1, hcS1, hf⟩ := bnd_some hf
  refine xr_callIC (rest := []) B hX (c_J1_init l D S o hcS1) q173 q174 q107 q175 hd_J1_init rfl ⟨Nat.le_of_ble_eq_true rfl, Nat.le_of_ble_eq_true rfl⟩ rfl hl.1 rfl (Nat.le_of_ble_eq_true rfl) dJ2_init_1 (fun H locs hX => ?_)
  refine lv_iload_n hx hb dJ2_init_4 rfl (lv_at hl 1 rfl) ?_
  refine lv_if_le (tgt := 19) hx hb dJ2_init_5 (by decide) (fun c2 => ?_) (fun c2 => ?_)
  · have hf := it_pos c2 hf
    refine lv_iload_n hx hb dJ2_init_19 rfl (lv_at hl 1 rfl) ?_
    refine lv_if_ne (tgt := 33) hx hb dJ2_init_20 (by decide) (fun c3 => ?_) (fun c3 => ?_)
    · have hf := it_neg c3 hf
      cases hf
    · have hf := it_pos c3 hf
      refine lv_aload_n hx hb dJ2_init_23 rfl (lv_at hl 0 rfl) ?_
      obtain ⟨b4, hb4, hf⟩ := bnd_some hf
      refine xr_gets B hX (v := .ref b4) (x_statR hX 0 rfl hb4) q182 dJ2_init_24 ?_
      obtain ⟨hk5, hf⟩ := chk_some hf
      obtain ⟨hw6, hf⟩ := chk_some hf
      obtain ⟨S7, eS7, hf⟩ := bd_some hf
      refine xr_put (S' := S7) (q := (RJ2, TJ2, 3)) (v := va_rf (some b4)) (ty0 := tyJ2) B hX 1 hk5 rfl (by decide) hw6 (by decide) (by rw [eS7]; exact x_Vup_r (k := 19) (j := 1) rfl (by decide)) tyJ2_ok (fun i h1 h2 => nmJ2 i (Nat.lt_of_lt_of_le h1 (by decide)) 1 (by decide) h2) rfl rfl rfl q184 (fun _ h => h) dJ2_init_27 (fun H locs hX => ?_)
      refine w_r eS7 ?_
      have hk5 := ks_r eS7 hk5
      have hw6 := kw_r eS7 hw6
      refine lv_goto (tgt := 60) hx hb dJ2_init_30 (by decide) ?_
      cases hf
      exact hret _ _ _ _ hX dJ2_init_60
  · have hf := it_neg c2 hf
    refine lv_aload_n hx hb dJ2_init_8 rfl (lv_at hl 0 rfl) ?_
    refine lv_iload_n hx hb dJ2_init_9 rfl (lv_at hl 1 rfl) ?_
    obtain ⟨h010, hf⟩ := chk_some hf
    obtain ⟨hr8, hf⟩ := chk_some hf
    obtain ⟨a10, ea10, hf⟩ := bd_some hf
    obtain ⟨S9, eS9, hf⟩ := bd_some hf
    have hk11 := ks_new eS9 ea10
    have hw12 := kw_new hX eS9 ea10
    refine xr_anew B hX 55 (by decide) rfl (Int32.not_lt.mpr h010.1) (xn_by4 h010.2) q180 nq181 hr8 eS9 dJ2_init_10 (fun H hX => ?_)
    refine W.eq (g2 := F0 m 13 ls [.ref a10, .ref o]) (by rw [ea10]; first | done | rfl) ?_
    obtain ⟨hk13, hf⟩ := chk_some hf
    obtain ⟨hw14, hf⟩ := chk_some hf
    obtain ⟨S15, eS15, hf⟩ := bd_some hf
    refine xr_put (S' := S15) (q := (RJ2, TJ2, 3)) (v := va_rf (some a10)) (ty0 := tyJ2) B hX 1 hk13 rfl (by decide) hw14 (by decide) (by rw [eS15]; exact x_Vup_r (k := 19) (j := 1) rfl (by decide)) tyJ2_ok (fun i h1 h2 => nmJ2 i (Nat.lt_of_lt_of_le h1 (by decide)) 1 (by decide) h2) rfl rfl rfl q184 (fun _ h => h) dJ2_init_13 (fun H locs hX => ?_)
    refine w_r eS15 ?_
    have hk11 := ks_r eS15 hk11
    have hw12 := kw_r eS15 hw12
    have hk13 := ks_r eS15 hk13
    have hw14 := kw_r eS15 hw14
    refine lv_goto (tgt := 60) hx hb dJ2_init_16 (by decide) ?_
    cases hf
    exact hret _ _ _ _ hX dJ2_init_60
def f_J2_init_2 (S : XS) (o : Nat) : Option XS :=
  bnd (f_J1_init S o) fun S1 => bnd (xs S1 1) fun b2 => chk (xk S1 o = 19) <| chk (xb S1 ≤ o) <| bd (s_r S1 1901 o 0 (some b2)) fun S5 => some S5
set_option maxHeartbeats 4000000 in
set_option maxRecDepth 100000 in
theorem c_J2_init_2 (l : Launch) (D : XD) (S : XS) (o : Nat) {S' : XS} (hf : f_J2_init_2 S o = some S') : x_Met l yJ2_init_2 cJ2_init_2 1 (Option.none : Option Jvm.ClassFile.FieldType) 3 100 D [.ref o] S none S' := by
  refine x_metV RJ2 (by decide) rfl (Nat.le_of_ble_eq_true rfl) (fun p e s m args below meth c Q B hnm hret H locs hX ls hl => ?_)
  have hx := B.1
  have hb := B.2.1
  have hml := B.2.2.1
  have hown := B.2.2.2.1
  have hts := B.2.2.2.2
  have hl : lv_has ls 1 [(0, .ref o)] := hl
  unfold f_J2_init_2 at hf
  refine lv_aload_n hx hb dJ2_init_2_0 rfl (lv_at hl 0 rfl) ?_
  obtain ⟨S1, hcS1, hf⟩ := bnd_some hf
  refine xr_callIC (rest := []) B hX (c_J1_init l D S o hcS1) q173 q174 q107 q175 hd_J1_init rfl ⟨Nat.le_of_ble_eq_true rfl, Nat.le_of_ble_eq_true rfl⟩ rfl hl.1 rfl (Nat.le_of_ble_eq_true rfl) dJ2_init_2_1 (fun H locs hX => ?_)
  refine lv_aload_n hx hb dJ2_init_2_4 rfl (lv_at hl 0 rfl) ?_
  obtain ⟨b2, hb2, hf⟩ := bnd_some hf
  refine xr_gets B hX (v := .ref b2) (x_statR hX 1 rfl hb2) q215 dJ2_init_2_5 ?_
  obtain ⟨hk3, hf⟩ := chk_some hf
  obtain ⟨hw4, hf⟩ := chk_some hf
  obtain ⟨S5, eS5, hf⟩ := bd_some hf
  refine xr_put (S' := S5) (q := (RJ2, TJ2, 3)) (v := va_rf (some b2)) (ty0 := tyJ2) B hX 1 hk3 rfl (by decide) hw4 (by decide) (by rw [eS5]; exact x_Vup_r (k := 19) (j := 1) rfl (by decide)) tyJ2_ok (fun i h1 h2 => nmJ2 i (Nat.lt_of_lt_of_le h1 (by decide)) 1 (by decide) h2) rfl rfl rfl q184 (fun _ h => h) dJ2_init_2_8 (fun H locs hX => ?_)
  refine w_r eS5 ?_
  have hk3 := ks_r eS5 hk3
  have hw4 := kw_r eS5 hw4
  cases hf
  exact hret _ _ _ _ hX dJ2_init_2_11
def f_J2_size (S : XS) (o : Nat) : Option Int32 :=
  chk (xk S o = 19) <| some (xi S 1902 o 0)
set_option maxHeartbeats 4000000 in
set_option maxRecDepth 100000 in
theorem c_J2_size (l : Launch) (D : XD) (S : XS) (o : Nat) {r : Int32} (hf : f_J2_size S o = some r) : x_Met l yJ2_size cJ2_size 1 (Option.some Jvm.ClassFile.FieldType.int) 0 0 D [.ref o] S (some (.int r)) S := by
  refine x_metI RJ2 (by decide) rfl (Nat.le_of_ble_eq_true rfl) (fun p e s m args below meth c Q B hnm hret H locs hX ls hl => ?_)
  have hx := B.1
  have hb := B.2.1
  have hml := B.2.2.1
  have hown := B.2.2.2.1
  have hts := B.2.2.2.2
  have hl : lv_has ls 1 [(0, .ref o)] := hl
  unfold f_J2_size at hf
  refine lv_aload_n hx hb dJ2_size_0 rfl (lv_at hl 0 rfl) ?_
  obtain ⟨hk1, hf⟩ := chk_some hf
  refine xr_get (q := (RJ2, TJ2, 3)) B hX 2 hk1 rfl (by decide) (by decide) (x_Vi rfl (by decide)) q185 (fun _ h => h) dJ2_size_1 ?_
  cases hf
  exact hret _ _ _ _ rfl hX dJ2_size_4
def f_J3_newLength_J21_3   : Option Int32 :=
  none
def f_J3_newLength (p0 : Int32) (p1 : Int32) (p2 : Int32) : Option Int32 :=
  bd (p0 + (if p1 < p2 then p2 else p1)) fun x1 => (if x1 ≤ nI 0 then f_J3_newLength_J21_3 else (if nI 2147483639 < x1 then f_J3_newLength_J21_3 else some x1))
abbrev r_J3_newLength : Room := { frames := 1, cells := 0, slots := 0, locals := 60 }
set_option maxHeartbeats 4000000 in
set_option maxRecDepth 100000 in
theorem c_J3_newLength (l : Launch) (p0 : Int32) (p1 : Int32) (p2 : Int32) {r : Int32} (hf : f_J3_newLength p0 p1 p2 = some r) : p_Met l yJ3_newLength cJ3_newLength 4 (Option.some Jvm.ClassFile.FieldType.int) r_J3_newLength [.int p0, .int p1, .int p2] (some (.int r)) := by
  refine p_metI (F := 1) (L := 60) RJ3 (by decide) rfl (Nat.le_of_ble_eq_true rfl) (fun p e s m args below meth c Q B hret ls hl => ?_)
  have hx := B.1
  have hb := B.2.1
  have hml := B.2.2.1
  have hown := B.2.2.2.1
  have hts := B.2.2.2.2
  have hl : lv_has ls 4 [(0, .int p0), (1, .int p1), (2, .int p2)] := hl
  unfold f_J3_newLength at hf
  refine lv_iload_n hx hb dJ3_newLength_0 rfl (lv_at hl 0 rfl) ?_
  refine lv_iload_n hx hb dJ3_newLength_1 rfl (lv_at hl 1 rfl) ?_
  refine lv_iload_n hx hb dJ3_newLength_2 rfl (lv_at hl 2 rfl) ?_
  refine va_mmax (rest := [.int p0]) hx hb (hml.trans hl.1.symm) hown (hts _ q453) (hts _ q454) (hts _ q116) (hts _ q455) (Nat.le_of_ble_eq_true rfl) (Nat.le_of_ble_eq_true rfl) (Nat.zero_le _) (Nat.zero_le _) dJ3_newLength_3 ?_
  refine lv_iadd hx hb dJ3_newLength_6 ?_
  refine lv_topi (fun x1 ex1 => ?_)
  have hf := bd_at ex1 hf
  refine lv_istore_n (lv' := [(3, .int x1), (0, .int p0), (1, .int p1), (2, .int p2)]) hx hb dJ3_newLength_7 rfl hl (by decide) rfl (fun ls hl => ?_)
  refine lv_iconst (v := nI 0) hx hb dJ3_newLength_8 ic0 ?_
  refine lv_iload_n hx hb dJ3_newLength_9 rfl (lv_at hl 0 rfl) ?_
  have j3 : f_J3_newLength_J21_3 = some r → ∀ (ls : Array Slot), lv_has ls 4 [(0, .int p0), (1, .int p1)] → W p l e r_J3_newLength s m args below meth c s.heap [] 0 0 Q (F0 m 21 ls []) := by
    intro hf
    intro ls hl
    unfold f_J3_newLength_J21_3 at hf
    refine lv_iload_n hx hb dJ3_newLength_21 rfl (lv_at hl 0 rfl) ?_
    refine lv_iload_n hx hb dJ3_newLength_22 rfl (lv_at hl 1 rfl) ?_
    cases hf
  refine lv_icmp_ge (tgt := 21) hx hb dJ3_newLength_10 (by decide) (fun c2 => ?_) (fun c2 => ?_)
  · have hf := it_pos c2 hf
    exact j3  hf _ (lv_sub hl [1, 2] rfl)
  · have hf := it_neg c2 hf
    refine lv_iload_n hx hb dJ3_newLength_13 rfl (lv_at hl 0 rfl) ?_
    refine lv_ldc (v := nI 2147483639) hx hb hown (hts _ q456) dJ3_newLength_14 ?_
    refine lv_icmp_gt (tgt := 21) hx hb dJ3_newLength_16 (by decide) (fun c4 => ?_) (fun c4 => ?_)
    · have hf := it_pos c4 hf
      exact j3  hf _ (lv_sub hl [1, 2] rfl)
    · have hf := it_neg c4 hf
      refine lv_iload_n hx hb dJ3_newLength_19 rfl (lv_at hl 0 rfl) ?_
      cases hf
      exact hret _ _ rfl dJ3_newLength_20
def f_J5_copyOf_2 (S : XS) (p0 : Nat) (p1 : Int32) (p2 : Nat) : Option (Nat × XS) :=
  bnd (xs S 40) fun b1 => (if (some p2 : Option Nat) = some b1 then chk (0 ≤ p1 ∧ p1.toNatClampNeg ≤ 60000000) <| chk (xz S < xL S ∧ xu S + p1.toNatClampNeg ≤ xU S) <| bd (xz S) fun a6 => bd (n_c S 55 p1.toNatClampNeg p1.toNatClampNeg) fun S5 => chk (xk S5 p0 = 55) <| chk (0 ≤ nI 0 ∧ 0 ≤ nI 0 ∧ 0 ≤ (if p1 < (nI (xn S5 p0)) then p1 else (nI (xn S5 p0))) ∧ (nI 0).toNatClampNeg + (if p1 < (nI (xn S5 p0)) then p1 else (nI (xn S5 p0))).toNatClampNeg ≤ xn S5 p0 ∧ (nI 0).toNatClampNeg + (if p1 < (nI (xn S5 p0)) then p1 else (nI (xn S5 p0))).toNatClampNeg ≤ xn S5 a6) <| chk (∀ i, i < (if p1 < (nI (xn S5 p0)) then p1 else (nI (xn S5 p0))).toNatClampNeg → x_okQ S5 (xr S5 55 p0 ((nI 0).toNatClampNeg + i)) = true) <| bd (s_cp S5 55 p0 (nI 0).toNatClampNeg a6 (nI 0).toNatClampNeg (if p1 < (nI (xn S5 p0)) then p1 else (nI (xn S5 p0))).toNatClampNeg) fun S12 => some (a6, S12) else none)
set_option maxHeartbeats 4000000 in
set_option maxRecDepth 100000 in
theorem c_J5_copyOf_2 (l : Launch) (D : XD) (S : XS) (p0 : Nat) (p1 : Int32) (p2 : Nat) {r : Nat} {S' : XS} (hf : f_J5_copyOf_2 S p0 p1 p2 = some (r, S')) : x_Met l yJ5_copyOf_2 cJ5_copyOf_2 4 (Option.some (Jvm.ClassFile.FieldType.array (Jvm.ClassFile.FieldType.object "java/lang/Object"))) 1 60 D [.ref p0, .int p1, .ref p2] S (some (.ref r)) S' := by
  refine x_metA RJ5 (by decide) rfl (Nat.le_of_ble_eq_true rfl) (Or.inr ⟨_, rfl⟩) (fun p e s m args below meth c Q B hnm hret H locs hX ls hl => ?_)
  have hx := B.1
  have hb := B.2.1
  have hml := B.2.2.1
  have hown := B.2.2.2.1
  have hts := B.2.2.2.2
  have hl : lv_has ls 4 [(0, .ref p0), (1, .int p1), (2, .ref p2)] := hl
  unfold f_J5_copyOf_2 at hf
  refine lv_aload_n hx hb dJ5_copyOf_2_0 rfl (lv_at hl 2 rfl) ?_
  obtain ⟨b1, hb1, hf⟩ := bnd_some hf
  refine xr_ldcM B hX hb1 q501 dJ5_copyOf_2_1 ?_
  refine lv_acmp_ne (rx := some p2) (ry := some b1) (tgt := 13) hx hb dJ5_copyOf_2_3 (by decide) (fun c2 => ?_) (fun c2 => ?_)
  · have hf := it_neg c2 hf
    refine lv_aload_n hx hb dJ5_copyOf_2_13 rfl (lv_at hl 2 rfl) ?_
    cases hf
  · have hf := it_pos c2 hf
    refine lv_iload_n hx hb dJ5_copyOf_2_6 rfl (lv_at hl 1 rfl) ?_
    obtain ⟨h06, hf⟩ := chk_some hf
    obtain ⟨hr4, hf⟩ := chk_some hf
    obtain ⟨a6, ea6, hf⟩ := bd_some hf
    obtain ⟨S5, eS5, hf⟩ := bd_some hf
    have hk7 := ks_new eS5 ea6
    have hw8 := kw_new hX eS5 ea6
    refine xr_anew B hX 55 (by decide) rfl (Int32.not_lt.mpr h06.1) (xn_by4 h06.2) q502 nq181 hr4 eS5 dJ5_copyOf_2_7 (fun H hX => ?_)
    refine W.eq (g2 := F0 m 10 ls [.ref a6]) (by rw [ea6]; first | done | rfl) ?_
    refine lv_goto (tgt := 24) hx hb dJ5_copyOf_2_10 (by decide) ?_
    refine lv_astore_n (lv' := [(3, .ref a6), (0, .ref p0), (1, .int p1), (2, .ref p2)]) hx hb dJ5_copyOf_2_24 rfl hl (by decide) rfl (fun ls hl => ?_)
    refine lv_aload_n hx hb dJ5_copyOf_2_25 rfl (lv_at hl 1 rfl) ?_
    refine lv_iconst (v := nI 0) hx hb dJ5_copyOf_2_26 ic0 ?_
    refine lv_aload_n hx hb dJ5_copyOf_2_27 rfl (lv_at hl 0 rfl) ?_
    refine lv_iconst (v := nI 0) hx hb dJ5_copyOf_2_28 ic0 ?_
    refine lv_aload_n hx hb dJ5_copyOf_2_29 rfl (lv_at hl 1 rfl) ?_
    obtain ⟨hk9, hf⟩ := chk_some hf
    refine xr_alen B hX hk9 rfl (by decide) dJ5_copyOf_2_30 ?_
    refine lv_iload_n hx hb dJ5_copyOf_2_31 rfl (lv_at hl 2 rfl) ?_
    refine va_mmin (rest := [.int (nI 0), .ref a6, .int (nI 0), .ref p0]) hx hb (hml.trans hl.1.symm) hown (hts _ q503) (hts _ q504) (hts _ q116) (hts _ q505) (Nat.le_of_ble_eq_true rfl) (Nat.le_of_ble_eq_true rfl) (x_room0 hX).1 (x_room0 hX).2 dJ5_copyOf_2_32 ?_
    obtain ⟨hr10, hf⟩ := chk_some hf
    obtain ⟨hv11, hf⟩ := chk_some hf
    obtain ⟨S12, eS12, hf⟩ := bd_some hf
    refine xr_copy (rest := []) B hX hk9 hk7 hw8 (by decide) rfl hr10 (x_vals55 hv11) eS12 hl.1 q506 q508 q507 q118 (Nat.le_of_ble_eq_true rfl) (Nat.le_of_ble_eq_true rfl) dJ5_copyOf_2_35 (fun H locs hX => ?_)
    refine w_c eS12 ?_
    have hk7 := ks_c eS12 hk7
    have hw8 := kw_c eS12 hw8
    have hk9 := ks_c eS12 hk9
    refine lv_aload_n hx hb dJ5_copyOf_2_38 rfl (lv_at hl 0 rfl) ?_
    cases hf
    exact hret _ _ _ _ hX dJ5_copyOf_2_39
def f_J5_copyOf (S : XS) (p0 : Nat) (p1 : Int32) : Option (Nat × XS) :=
  chk (xk S p0 = 55) <| bnd (xs S 40) fun b2 => bnd (f_J5_copyOf_2 S p0 p1 b2) <| u2 fun b3 S4 => some (b3, S4)
set_option maxHeartbeats 4000000 in
set_option maxRecDepth 100000 in
theorem c_J5_copyOf (l : Launch) (D : XD) (S : XS) (p0 : Nat) (p1 : Int32) {r : Nat} {S' : XS} (hf : f_J5_copyOf S p0 p1 = some (r, S')) : x_Met l yJ5_copyOf cJ5_copyOf 2 (Option.some (Jvm.ClassFile.FieldType.array (Jvm.ClassFile.FieldType.object "java/lang/Object"))) 2 83 D [.ref p0, .int p1] S (some (.ref r)) S' := by
  refine x_metA RJ5 (by decide) rfl (Nat.le_of_ble_eq_true rfl) (Or.inr ⟨_, rfl⟩) (fun p e s m args below meth c Q B hnm hret H locs hX ls hl => ?_)
  have hx := B.1
  have hb := B.2.1
  have hml := B.2.2.1
  have hown := B.2.2.2.1
  have hts := B.2.2.2.2
  have hl : lv_has ls 2 [(0, .ref p0), (1, .int p1)] := hl
  unfold f_J5_copyOf at hf
  refine lv_aload_n hx hb dJ5_copyOf_0 rfl (lv_at hl 0 rfl) ?_
  refine lv_iload_n hx hb dJ5_copyOf_1 rfl (lv_at hl 1 rfl) ?_
  refine lv_aload_n hx hb dJ5_copyOf_2 rfl (lv_at hl 0 rfl) ?_
  obtain ⟨hk1, hf⟩ := chk_some hf
  obtain ⟨b2, hb2, hf⟩ := bnd_some hf
  refine xr_getC (rest := [.int p1, .ref p0]) B hX hk1 hb2 hl.1 q463 nq2300 q2299 q464 q497 (Nat.le_of_ble_eq_true rfl) (Nat.le_of_ble_eq_true rfl) dJ5_copyOf_3 ?_
  obtain ⟨⟨b3, S4⟩, hcb3, hf⟩ := bnd_some hf
  have hf := u2_at hf
  refine xr_callSC (rest := []) B hX (c_J5_copyOf_2 l D S p0 p1 b2 hcb3) q498 q499 q117 q500 hd_J5_copyOf_2 ⟨Nat.le_of_ble_eq_true rfl, Nat.le_of_ble_eq_true rfl⟩ rfl hl.1 rfl (Nat.le_of_ble_eq_true rfl) dJ5_copyOf_6 (fun H locs hX => ?_)
  cases hf
  exact hret _ _ _ _ hX dJ5_copyOf_9
def f_J2_grow_2_J20_6 (o : Nat) (p0 : Int32) (S : XS) (x4 : Int32)  : Option (Nat × XS) :=
  bnd (f_J3_newLength x4 (p0 - x4) (x4 >>> (nI 1 &&& 31))) fun r17 => bnd (xr S 1901 o 0) fun b18 => bnd (f_J5_copyOf S b18 r17) <| u2 fun b19 S20 => chk (xk S20 o = 19) <| chk (xb S20 ≤ o) <| bd (s_r S20 1901 o 0 (some b19)) fun S23 => some (b19, S23)
def f_J2_grow_2 (S : XS) (o : Nat) (p0 : Int32) : Option (Nat × XS) :=
  chk (xk S o = 19) <| bnd (xr S 1901 o 0) fun b2 => chk (xk S b2 = 55) <| bd (nI (xn S b2)) fun x4 => (if 0 < x4 then f_J2_grow_2_J20_6 o p0 S x4 else bnd (xr S 1901 o 0) fun b7 => bnd (xs S 1) fun b8 => (if (some b7 : Option Nat) = some b8 then chk (0 ≤ (if nI 10 < p0 then p0 else nI 10) ∧ (if nI 10 < p0 then p0 else nI 10).toNatClampNeg ≤ 60000000) <| chk (xz S < xL S ∧ xu S + (if nI 10 < p0 then p0 else nI 10).toNatClampNeg ≤ xU S) <| bd (xz S) fun a12 => bd (n_c S 55 (if nI 10 < p0 then p0 else nI 10).toNatClampNeg (if nI 10 < p0 then p0 else nI 10).toNatClampNeg) fun S11 => chk (xb S11 ≤ o) <| bd (s_r S11 1901 o 0 (some a12)) fun S16 => some (a12, S16) else f_J2_grow_2_J20_6 o p0 S x4))
set_option maxHeartbeats 4000000 in
set_option maxRecDepth 100000 in
theorem c_J2_grow_2 (l : Launch) (D : XD) (S : XS) (o : Nat) (p0 : Int32) {r : Nat} {S' : XS} (hf : f_J2_grow_2 S o p0 = some (r, S')) : x_Met l yJ2_grow_2 cJ2_grow_2 4 (Option.some (Jvm.ClassFile.FieldType.array (Jvm.ClassFile.FieldType.object "java/lang/Object"))) 3 104 D [.ref o, .int p0] S (some (.ref r)) S' := by
  refine x_metA RJ2 (by decide) rfl (Nat.le_of_ble_eq_true rfl) (Or.inr ⟨_, rfl⟩) (fun p e s m args below meth c Q B hnm hret H locs hX ls hl => ?_)
  have hx := B.1
  have hb := B.2.1
  have hml := B.2.2.1
  have hown := B.2.2.2.1
  have hts := B.2.2.2.2
  have hl : lv_has ls 4 [(0, .ref o), (1, .int p0)] := hl
  unfold f_J2_grow_2 at hf
  refine lv_aload_n hx hb dJ2_grow_2_0 rfl (lv_at hl 0 rfl) ?_
  obtain ⟨hk1, hf⟩ := chk_some hf
  obtain ⟨b2, hb2, hf⟩ := bnd_some hf
  refine xr_get (q := (RJ2, TJ2, 3)) B hX 1 hk1 rfl (by decide) (by decide) (v := .ref b2) (x_Vr (c := 19) (j := 1) rfl (by decide) hb2) q184 (fun _ h => h) dJ2_grow_2_1 ?_
  obtain ⟨hk3, hf⟩ := chk_some hf
  refine xr_alen B hX hk3 rfl (by decide) dJ2_grow_2_4 ?_
  refine lv_topi (fun x4 ex4 => ?_)
  have hf := bd_at ex4 hf
  refine lv_istore_n (lv' := [(2, .int x4), (0, .ref o), (1, .int p0)]) hx hb dJ2_grow_2_5 rfl hl (by decide) rfl (fun ls hl => ?_)
  refine lv_iload_n hx hb dJ2_grow_2_6 rfl (lv_at hl 0 rfl) ?_
  have j6 : f_J2_grow_2_J20_6 o p0 S x4 = some (r, S') → ∀ (H : Heap) (locs : List Loc) (ls : Array Slot), x_I D S s H locs S → lv_has ls 4 [(0, .ref o), (1, .int p0), (2, .int x4)] → W p l e (x_R 3 104 S) s m args below meth c H locs (xz S - xz S) (xu S - xu S) Q (F0 m 20 ls []) := by
    intro hf
    intro H locs ls hX hl
    unfold f_J2_grow_2_J20_6 at hf
    refine lv_iload_n hx hb dJ2_grow_2_20 rfl (lv_at hl 2 rfl) ?_
    refine lv_iload_n hx hb dJ2_grow_2_21 rfl (lv_at hl 1 rfl) ?_
    refine lv_iload_n hx hb dJ2_grow_2_22 rfl (lv_at hl 2 rfl) ?_
    refine lv_isub hx hb dJ2_grow_2_23 ?_
    refine lv_iload_n hx hb dJ2_grow_2_24 rfl (lv_at hl 2 rfl) ?_
    refine lv_iconst (v := nI 1) hx hb dJ2_grow_2_25 ic1 ?_
    refine lv_ishr hx hb dJ2_grow_2_26 ?_
    obtain ⟨r17, hcr17, hf⟩ := bnd_some hf
    refine pr_callS (rest := []) B (c_J3_newLength l x4 (p0 - x4) (x4 >>> (nI 1 &&& 31)) hcr17) (va_cwS 3 hts (lw_S q450 q451 q115 q452) rfl rfl rfl hd_J3_newLength ⟨Nat.le_of_ble_eq_true rfl, Nat.le_of_ble_eq_true rfl⟩) rfl hl.1 rfl (Nat.le_of_ble_eq_true rfl) dJ2_grow_2_27 (x_room0 hX) ?_
    refine lv_istore_n (lv' := [(3, .int r17), (0, .ref o), (1, .int p0), (2, .int x4)]) hx hb dJ2_grow_2_30 rfl hl (by decide) rfl (fun ls hl => ?_)
    refine lv_aload_n hx hb dJ2_grow_2_31 rfl (lv_at hl 1 rfl) ?_
    refine lv_aload_n hx hb dJ2_grow_2_32 rfl (lv_at hl 1 rfl) ?_
    obtain ⟨b18, hb18, hf⟩ := bnd_some hf
    refine xr_get (q := (RJ2, TJ2, 3)) B hX 1 hk1 rfl (by decide) (by decide) (v := .ref b18) (x_Vr (c := 19) (j := 1) rfl (by decide) hb18) q184 (fun _ h => h) dJ2_grow_2_33 ?_
    refine lv_iload_n hx hb dJ2_grow_2_36 rfl (lv_at hl 0 rfl) ?_
    obtain ⟨⟨b19, S20⟩, hcb19, hf⟩ := bnd_some hf
    have hf := u2_at hf
    refine xr_callSC (rest := [.ref o]) B hX (c_J5_copyOf l D S b18 r17 hcb19) q460 q461 q117 q462 hd_J5_copyOf ⟨Nat.le_of_ble_eq_true rfl, Nat.le_of_ble_eq_true rfl⟩ rfl hl.1 rfl (Nat.le_of_ble_eq_true rfl) dJ2_grow_2_37 (fun H locs hX => ?_)
    refine lv_dup_x1 hx hb dJ2_grow_2_40 rfl rfl ?_
    obtain ⟨hk21, hf⟩ := chk_some hf
    obtain ⟨hw22, hf⟩ := chk_some hf
    obtain ⟨S23, eS23, hf⟩ := bd_some hf
    refine xr_put (S' := S23) (q := (RJ2, TJ2, 3)) (v := va_rf (some b19)) (ty0 := tyJ2) B hX 1 hk21 rfl (by decide) hw22 (by decide) (by rw [eS23]; exact x_Vup_r (k := 19) (j := 1) rfl (by decide)) tyJ2_ok (fun i h1 h2 => nmJ2 i (Nat.lt_of_lt_of_le h1 (by decide)) 1 (by decide) h2) rfl rfl rfl q184 (fun _ h => h) dJ2_grow_2_41 (fun H locs hX => ?_)
    refine w_r eS23 ?_
    have hk21 := ks_r eS23 hk21
    have hw22 := kw_r eS23 hw22
    cases hf
    exact hret _ _ _ _ hX dJ2_grow_2_44
  refine lv_if_gt (tgt := 20) hx hb dJ2_grow_2_7 (by decide) (fun c5 => ?_) (fun c5 => ?_)
  · have hf := it_pos c5 hf
    exact j6  hf _ _ _ hX (lv_sub hl [1, 2, 0] rfl)
  · have hf := it_neg c5 hf
    refine lv_aload_n hx hb dJ2_grow_2_10 rfl (lv_at hl 1 rfl) ?_
    obtain ⟨b7, hb7, hf⟩ := bnd_some hf
    refine xr_get (q := (RJ2, TJ2, 3)) B hX 1 hk1 rfl (by decide) (by decide) (v := .ref b7) (x_Vr (c := 19) (j := 1) rfl (by decide) hb7) q184 (fun _ h => h) dJ2_grow_2_11 ?_
    obtain ⟨b8, hb8, hf⟩ := bnd_some hf
    refine xr_gets B hX (v := .ref b8) (x_statR hX 1 rfl hb8) q215 dJ2_grow_2_14 ?_
    refine lv_acmp_eq (rx := some b7) (ry := some b8) (tgt := 45) hx hb dJ2_grow_2_17 (by decide) (fun c9 => ?_) (fun c9 => ?_)
    · have hf := it_pos c9 hf
      refine lv_aload_n hx hb dJ2_grow_2_45 rfl (lv_at hl 1 rfl) ?_
      refine lv_bipush (v := nI 10) hx hb dJ2_grow_2_46 bp10 ?_
      refine lv_iload_n hx hb dJ2_grow_2_48 rfl (lv_at hl 2 rfl) ?_
      refine va_mmax (rest := [.ref o]) hx hb (hml.trans hl.1.symm) hown (hts _ q509) (hts _ q454) (hts _ q116) (hts _ q455) (Nat.le_of_ble_eq_true rfl) (Nat.le_of_ble_eq_true rfl) (x_room0 hX).1 (x_room0 hX).2 dJ2_grow_2_49 ?_
      obtain ⟨h012, hf⟩ := chk_some hf
      obtain ⟨hr10, hf⟩ := chk_some hf
      obtain ⟨a12, ea12, hf⟩ := bd_some hf
      obtain ⟨S11, eS11, hf⟩ := bd_some hf
      have hk1 := ks_n hX eS11 (by decide) hk1
      have hk3 := ks_n hX eS11 (by decide) hk3
      have hk13 := ks_new eS11 ea12
      have hw14 := kw_new hX eS11 ea12
      refine xr_anew B hX 55 (by decide) rfl (Int32.not_lt.mpr h012.1) (xn_by4 h012.2) q180 nq181 hr10 eS11 dJ2_grow_2_52 (fun H hX => ?_)
      refine W.eq (g2 := F0 m 55 ls [.ref a12, .ref o]) (by rw [ea12]; first | done | rfl) ?_
      refine lv_dup_x1 hx hb dJ2_grow_2_55 rfl rfl ?_
      obtain ⟨hw15, hf⟩ := chk_some hf
      obtain ⟨S16, eS16, hf⟩ := bd_some hf
      refine xr_put (S' := S16) (q := (RJ2, TJ2, 3)) (v := va_rf (some a12)) (ty0 := tyJ2) B hX 1 hk1 rfl (by decide) hw15 (by decide) (by rw [eS16]; exact x_Vup_r (k := 19) (j := 1) rfl (by decide)) tyJ2_ok (fun i h1 h2 => nmJ2 i (Nat.lt_of_lt_of_le h1 (by decide)) 1 (by decide) h2) rfl rfl rfl q184 (fun _ h => h) dJ2_grow_2_56 (fun H locs hX => ?_)
      refine w_r eS16 ?_
      have hk1 := ks_r eS16 hk1
      have hk3 := ks_r eS16 hk3
      have hk13 := ks_r eS16 hk13
      have hw14 := kw_r eS16 hw14
      have hw15 := kw_r eS16 hw15
      cases hf
      exact hret _ _ _ _ hX dJ2_grow_2_59
    · have hf := it_neg c9 hf
      exact j6  hf _ _ _ hX (lv_sub hl [1, 2, 0] rfl)
def f_J2_grow (S : XS) (o : Nat) : Option (Nat × XS) :=
  chk (xk S o = 19) <| bnd (f_J2_grow_2 S o ((xi S 1902 o 0) + nI 1)) <| u2 fun b2 S3 => some (b2, S3)
set_option maxHeartbeats 4000000 in
set_option maxRecDepth 100000 in
theorem c_J2_grow (l : Launch) (D : XD) (S : XS) (o : Nat) {r : Nat} {S' : XS} (hf : f_J2_grow S o = some (r, S')) : x_Met l yJ2_grow cJ2_grow 1 (Option.some (Jvm.ClassFile.FieldType.array (Jvm.ClassFile.FieldType.object "java/lang/Object"))) 4 127 D [.ref o] S (some (.ref r)) S' := by
  refine x_metA RJ2 (by decide) rfl (Nat.le_of_ble_eq_true rfl) (Or.inr ⟨_, rfl⟩) (fun p e s m args below meth c Q B hnm hret H locs hX ls hl => ?_)
  have hx := B.1
  have hb := B.2.1
  have hml := B.2.2.1
  have hown := B.2.2.2.1
  have hts := B.2.2.2.2
  have hl : lv_has ls 1 [(0, .ref o)] := hl
  unfold f_J2_grow at hf
  refine lv_aload_n hx hb dJ2_grow_0 rfl (lv_at hl 0 rfl) ?_
  refine lv_aload_n hx hb dJ2_grow_1 rfl (lv_at hl 0 rfl) ?_
  obtain ⟨hk1, hf⟩ := chk_some hf
  refine xr_get (q := (RJ2, TJ2, 3)) B hX 2 hk1 rfl (by decide) (by decide) (x_Vi rfl (by decide)) q185 (fun _ h => h) dJ2_grow_2 ?_
  refine lv_iconst (v := nI 1) hx hb dJ2_grow_5 ic1 ?_
  refine lv_iadd hx hb dJ2_grow_6 ?_
  obtain ⟨⟨b2, S3⟩, hcb2, hf⟩ := bnd_some hf
  have hf := u2_at hf
  refine xr_callVC (rest := []) (q := (RJ2, TJ2, 3)) B hX (c_J2_grow_2 l D S o ((xi S 1902 o 0) + nI 1) hcb2) hk1 rfl (by decide) q446 q448 (Or.inl qs4) q108 q449 hd_J2_grow_2 ⟨Nat.le_of_ble_eq_true rfl, Nat.le_of_ble_eq_true rfl⟩ rfl hl.1 rfl (Nat.le_of_ble_eq_true rfl) dJ2_grow_7 (fun H locs hX => ?_)
  cases hf
  exact hret _ _ _ _ hX dJ2_grow_10
def f_J2_add_2_J11_3 (o : Nat) (p0 : Nat) (p2 : Int32) (x7 : Nat) (S8 : XS) : Option XS :=
  chk (xk S8 x7 = 55) <| chk (xb S8 ≤ x7) <| chk (x_okO S8 p0 = true) <| ast (xn S8 x7) p2 (s_r S8 55 x7 p2.toNatClampNeg (some p0)) fun S11 => chk (xk S11 o = 19) <| chk (xb S11 ≤ o) <| bd (s_i S11 1902 o 0 (p2 + nI 1)) fun S15 => some S15
def f_J2_add_2 (S : XS) (o : Nat) (p0 : Nat) (p1 : Nat) (p2 : Int32) : Option XS :=
  chk (xk S p1 = 55) <| (if p2 = (nI (xn S p1)) then chk (xk S o = 19) <| bnd (f_J2_grow S o) <| u2 fun b4 S5 => f_J2_add_2_J11_3 o p0 p2 b4 S5 else f_J2_add_2_J11_3 o p0 p2 p1 S)
set_option maxHeartbeats 4000000 in
set_option maxRecDepth 100000 in
theorem c_J2_add_2 (l : Launch) (D : XD) (S : XS) (o : Nat) (p0 : Nat) (p1 : Nat) (p2 : Int32) {S' : XS} (hf : f_J2_add_2 S o p0 p1 p2 = some S') : x_Met l yJ2_add_2 cJ2_add_2 4 (Option.none : Option Jvm.ClassFile.FieldType) 5 147 D [.ref o, .ref p0, .ref p1, .int p2] S none S' := by
  refine x_metV RJ2 (by decide) rfl (Nat.le_of_ble_eq_true rfl) (fun p e s m args below meth c Q B hnm hret H locs hX ls hl => ?_)
  have hx := B.1
  have hb := B.2.1
  have hml := B.2.2.1
  have hown := B.2.2.2.1
  have hts := B.2.2.2.2
  have hl : lv_has ls 4 [(0, .ref o), (1, .ref p0), (2, .ref p1), (3, .int p2)] := hl
  unfold f_J2_add_2 at hf
  refine lv_iload_n hx hb dJ2_add_2_0 rfl (lv_at hl 3 rfl) ?_
  refine lv_aload_n hx hb dJ2_add_2_1 rfl (lv_at hl 2 rfl) ?_
  obtain ⟨hk1, hf⟩ := chk_some hf
  refine xr_alen B hX hk1 rfl (by decide) dJ2_add_2_2 ?_
  have j3 : ∀ (x7 : Nat) (S8 : XS), f_J2_add_2_J11_3 o p0 p2 x7 S8 = some S' → ∀ (H : Heap) (locs : List Loc) (ls : Array Slot), x_I D S s H locs S8 → lv_has ls 4 [(0, .ref o), (1, .ref p0), (2, .ref x7), (3, .int p2)] → W p l e (x_R 5 147 S) s m args below meth c H locs (xz S8 - xz S) (xu S8 - xu S) Q (F0 m 11 ls []) := by
    intro x7 S8 hf
    intro H locs ls hX hl
    unfold f_J2_add_2_J11_3 at hf
    refine lv_aload_n hx hb dJ2_add_2_11 rfl (lv_at hl 2 rfl) ?_
    refine lv_iload_n hx hb dJ2_add_2_12 rfl (lv_at hl 3 rfl) ?_
    refine lv_aload_n hx hb dJ2_add_2_13 rfl (lv_at hl 1 rfl) ?_
    obtain ⟨hk9, hf⟩ := chk_some hf
    obtain ⟨hw10, hf⟩ := chk_some hf
    obtain ⟨hk12, hf⟩ := chk_some hf
    obtain ⟨S11, eS11, hiS11, hf⟩ := ast_some hf
    refine xr_aastO B hX hk9 hw10 hk12 hiS11 eS11 dJ2_add_2_14 (fun H locs hX => ?_)
    refine w_r eS11 ?_
    have hk9 := ks_r eS11 hk9
    have hw10 := kw_r eS11 hw10
    refine lv_aload_n hx hb dJ2_add_2_15 rfl (lv_at hl 0 rfl) ?_
    refine lv_iload_n hx hb dJ2_add_2_16 rfl (lv_at hl 3 rfl) ?_
    refine lv_iconst (v := nI 1) hx hb dJ2_add_2_17 ic1 ?_
    refine lv_iadd hx hb dJ2_add_2_18 ?_
    obtain ⟨hk13, hf⟩ := chk_some hf
    obtain ⟨hw14, hf⟩ := chk_some hf
    obtain ⟨S15, eS15, hf⟩ := bd_some hf
    refine xr_put (S' := S15) (q := (RJ2, TJ2, 3)) (v := .int (p2 + nI 1)) (ty0 := tyJ2) B hX 2 hk13 rfl (by decide) hw14 (by decide) (by rw [eS15]; exact x_Vup_i (k := 19) (j := 2) rfl (by decide)) tyJ2_ok (fun i h1 h2 => nmJ2 i (Nat.lt_of_lt_of_le h1 (by decide)) 2 (by decide) h2) rfl rfl rfl q185 (fun _ h => h) dJ2_add_2_19 (fun H locs hX => ?_)
    refine w_i eS15 ?_
    have hk9 := ks_i eS15 hk9
    have hw10 := kw_i eS15 hw10
    have hk13 := ks_i eS15 hk13
    have hw14 := kw_i eS15 hw14
    cases hf
    exact hret _ _ _ _ hX dJ2_add_2_22
  refine lv_icmp_ne (tgt := 11) hx hb dJ2_add_2_3 (by decide) (fun c2 => ?_) (fun c2 => ?_)
  · have hf := it_neg c2 hf
    exact j3 p1 S hf _ _ _ hX (lv_sub hl [0, 1, 2, 3] rfl)
  · have hf := it_pos c2 hf
    refine lv_aload_n hx hb dJ2_add_2_6 rfl (lv_at hl 0 rfl) ?_
    obtain ⟨hk6, hf⟩ := chk_some hf
    obtain ⟨⟨b4, S5⟩, hcb4, hf⟩ := bnd_some hf
    have hf := u2_at hf
    refine xr_callVC (rest := []) (q := (RJ2, TJ2, 3)) B hX (c_J2_grow l D S o hcb4) hk6 rfl (by decide) q442 q444 (Or.inl qs3) q108 q445 hd_J2_grow ⟨Nat.le_of_ble_eq_true rfl, Nat.le_of_ble_eq_true rfl⟩ rfl hl.1 rfl (Nat.le_of_ble_eq_true rfl) dJ2_add_2_7 (fun H locs hX => ?_)
    refine lv_astore_n (lv' := [(2, .ref b4), (0, .ref o), (1, .ref p0), (3, .int p2)]) hx hb dJ2_add_2_10 rfl hl (by decide) rfl (fun ls hl => ?_)
    exact j3 b4 S5 hf _ _ _ hX (lv_sub hl [1, 2, 0, 3] rfl)
def f_J2_add (S : XS) (o : Nat) (p0 : Nat) : Option (Int32 × XS) :=
  chk (xk S o = 19) <| chk (xb S ≤ o) <| bd (s_i S 1900 o 0 ((xi S 1900 o 0) + nI 1)) fun S3 => bnd (xr S3 1901 o 0) fun b4 => bnd (f_J2_add_2 S3 o p0 b4 (xi S3 1902 o 0)) fun S5 => some (nI 1, S5)
set_option maxHeartbeats 4000000 in
set_option maxRecDepth 100000 in
theorem c_J2_add (l : Launch) (D : XD) (S : XS) (o : Nat) (p0 : Nat) {r : Int32} {S' : XS} (hf : f_J2_add S o p0 = some (r, S')) : x_Met l yJ2_add cJ2_add 2 (Option.some Jvm.ClassFile.FieldType.boolean) 6 170 D [.ref o, .ref p0] S (some (.int r)) S' := by
  refine x_metI RJ2 (by decide) rfl (Nat.le_of_ble_eq_true rfl) (fun p e s m args below meth c Q B hnm hret H locs hX ls hl => ?_)
  have hx := B.1
  have hb := B.2.1
  have hml := B.2.2.1
  have hown := B.2.2.2.1
  have hts := B.2.2.2.2
  have hl : lv_has ls 2 [(0, .ref o), (1, .ref p0)] := hl
  unfold f_J2_add at hf
  refine lv_aload_n hx hb dJ2_add_0 rfl (lv_at hl 0 rfl) ?_
  refine lv_dup hx hb dJ2_add_1 rfl ?_
  obtain ⟨hk1, hf⟩ := chk_some hf
  refine xr_get (q := (RJ2, TJ2, 3)) B hX 0 hk1 rfl (by decide) (by decide) (x_Vi rfl (by decide)) q187 (fun x h => u_same (hts _ q188) x h) dJ2_add_2 ?_
  refine lv_iconst (v := nI 1) hx hb dJ2_add_5 ic1 ?_
  refine lv_iadd hx hb dJ2_add_6 ?_
  obtain ⟨hw2, hf⟩ := chk_some hf
  obtain ⟨S3, eS3, hf⟩ := bd_some hf
  refine xr_put (S' := S3) (q := (RJ2, TJ2, 3)) (v := .int ((xi S 1900 o 0) + nI 1)) (ty0 := tyJ2) B hX 0 hk1 rfl (by decide) hw2 (by decide) (by rw [eS3]; exact x_Vup_i (k := 19) (j := 0) rfl (by decide)) tyJ2_ok (fun i h1 h2 => nmJ2 i (Nat.lt_of_lt_of_le h1 (by decide)) 0 (by decide) h2) rfl rfl rfl q187 (fun x h => u_same (hts _ q188) x h) dJ2_add_7 (fun H locs hX => ?_)
  refine w_i eS3 ?_
  have hk1 := ks_i eS3 hk1
  have hw2 := kw_i eS3 hw2
  refine lv_aload_n hx hb dJ2_add_10 rfl (lv_at hl 0 rfl) ?_
  refine lv_aload_n hx hb dJ2_add_11 rfl (lv_at hl 1 rfl) ?_
  refine lv_aload_n hx hb dJ2_add_12 rfl (lv_at hl 0 rfl) ?_
  obtain ⟨b4, hb4, hf⟩ := bnd_some hf
  refine xr_get (q := (RJ2, TJ2, 3)) B hX 1 hk1 rfl (by decide) (by decide) (v := .ref b4) (x_Vr (c := 19) (j := 1) rfl (by decide) hb4) q184 (fun _ h => h) dJ2_add_13 ?_
  refine lv_aload_n hx hb dJ2_add_16 rfl (lv_at hl 0 rfl) ?_
  refine xr_get (q := (RJ2, TJ2, 3)) B hX 2 hk1 rfl (by decide) (by decide) (x_Vi rfl (by decide)) q185 (fun _ h => h) dJ2_add_17 ?_
  obtain ⟨S5, hcS5, hf⟩ := bnd_some hf
  refine xr_callVC (rest := []) (q := (RJ2, TJ2, 3)) B hX (c_J2_add_2 l D S3 o p0 b4 (xi S3 1902 o 0) hcS5) hk1 rfl (by decide) q438 q440 (Or.inl qs2) q108 q441 hd_J2_add_2 ⟨Nat.le_of_ble_eq_true rfl, Nat.le_of_ble_eq_true rfl⟩ rfl hl.1 rfl (Nat.le_of_ble_eq_true rfl) dJ2_add_20 (fun H locs hX => ?_)
  refine lv_iconst (v := nI 1) hx hb dJ2_add_23 ic1 ?_
  cases hf
  exact hret _ _ _ _ rfl hX dJ2_add_24
def f_J2_elementData (S : XS) (o : Nat) (p0 : Int32) : Option Nat :=
  chk (xk S o = 19) <| bnd (xr S 1901 o 0) fun b2 => chk (xk S b2 = 55) <| ald (xn S b2) (xr S 55 b2) p0 fun q4 => bnd q4 fun b5 => some b5
set_option maxHeartbeats 4000000 in
set_option maxRecDepth 100000 in
theorem c_J2_elementData (l : Launch) (D : XD) (S : XS) (o : Nat) (p0 : Int32) {r : Nat} (hf : f_J2_elementData S o p0 = some r) : x_Met l yJ2_elementData cJ2_elementData 2 (Option.some (Jvm.ClassFile.FieldType.object "java/lang/Object")) 0 0 D [.ref o, .int p0] S (some (.ref r)) S := by
  refine x_metA RJ2 (by decide) rfl (Nat.le_of_ble_eq_true rfl) (Or.inl ⟨_, rfl⟩) (fun p e s m args below meth c Q B hnm hret H locs hX ls hl => ?_)
  have hx := B.1
  have hb := B.2.1
  have hml := B.2.2.1
  have hown := B.2.2.2.1
  have hts := B.2.2.2.2
  have hl : lv_has ls 2 [(0, .ref o), (1, .int p0)] := hl
  unfold f_J2_elementData at hf
  refine lv_aload_n hx hb dJ2_elementData_0 rfl (lv_at hl 0 rfl) ?_
  obtain ⟨hk1, hf⟩ := chk_some hf
  obtain ⟨b2, hb2, hf⟩ := bnd_some hf
  refine xr_get (q := (RJ2, TJ2, 3)) B hX 1 hk1 rfl (by decide) (by decide) (v := .ref b2) (x_Vr (c := 19) (j := 1) rfl (by decide) hb2) q184 (fun _ h => h) dJ2_elementData_1 ?_
  refine lv_iload_n hx hb dJ2_elementData_4 rfl (lv_at hl 1 rfl) ?_
  obtain ⟨hk3, hf⟩ := chk_some hf
  obtain ⟨q4, eq4, hiq4, hf⟩ := ald_some hf
  obtain ⟨b5, hb5, hf⟩ := bnd_some hf
  rw [hb5] at eq4
  refine xr_aald B hX hk3 rfl (by decide) rfl hiq4 eq4 dJ2_elementData_5 ?_
  refine W.eq (g2 := F0 m 6 ls [.ref b5]) rfl ?_
  cases hf
  exact hret _ _ _ _ hX dJ2_elementData_6
def f_J6_checkIndex (p0 : Int32) (p1 : Int32) : Option Int32 :=
  bnd (f_J7_checkIndex p0 p1 none) fun r1 => some r1
abbrev r_J6_checkIndex : Room := { frames := 1, cells := 0, slots := 0, locals := 22 }
set_option maxHeartbeats 4000000 in
set_option maxRecDepth 100000 in
theorem c_J6_checkIndex (l : Launch) (p0 : Int32) (p1 : Int32) {r : Int32} (hf : f_J6_checkIndex p0 p1 = some r) : p_Met l yJ6_checkIndex cJ6_checkIndex 2 (Option.some Jvm.ClassFile.FieldType.int) r_J6_checkIndex [.int p0, .int p1] (some (.int r)) := by
  refine p_metI (F := 1) (L := 22) RJ6 (by decide) rfl (Nat.le_of_ble_eq_true rfl) (fun p e s m args below meth c Q B hret ls hl => ?_)
  have hx := B.1
  have hb := B.2.1
  have hml := B.2.2.1
  have hown := B.2.2.2.1
  have hts := B.2.2.2.2
  have hl : lv_has ls 2 [(0, .int p0), (1, .int p1)] := hl
  unfold f_J6_checkIndex at hf
  refine lv_iload_n hx hb dJ6_checkIndex_0 rfl (lv_at hl 0 rfl) ?_
  refine lv_iload_n hx hb dJ6_checkIndex_1 rfl (lv_at hl 1 rfl) ?_
  refine lv_null hx hb dJ6_checkIndex_2 ?_
  obtain ⟨r1, hcr1, hf⟩ := bnd_some hf
  refine pr_callS (rest := []) B (c_J7_checkIndex l p0 p1 none hcr1) (va_cwS 3 hts (lw_S q530 q531 q120 q532) rfl rfl rfl hd_J7_checkIndex ⟨Nat.le_of_ble_eq_true rfl, Nat.le_of_ble_eq_true rfl⟩) rfl hl.1 rfl (Nat.le_of_ble_eq_true rfl) dJ6_checkIndex_3 ⟨Nat.zero_le _, Nat.zero_le _⟩ ?_
  cases hf
  exact hret _ _ rfl dJ6_checkIndex_6
def f_J2_get (S : XS) (o : Nat) (p0 : Int32) : Option Nat :=
  chk (xk S o = 19) <| bnd (f_J6_checkIndex p0 (xi S 1902 o 0)) fun r2 => bnd (f_J2_elementData S o p0) fun b3 => some b3
set_option maxHeartbeats 4000000 in
set_option maxRecDepth 100000 in
theorem c_J2_get (l : Launch) (D : XD) (S : XS) (o : Nat) (p0 : Int32) {r : Nat} (hf : f_J2_get S o p0 = some r) : x_Met l yJ2_get cJ2_get 2 (Option.some (Jvm.ClassFile.FieldType.object "java/lang/Object")) 2 43 D [.ref o, .int p0] S (some (.ref r)) S := by
  refine x_metA RJ2 (by decide) rfl (Nat.le_of_ble_eq_true rfl) (Or.inl ⟨_, rfl⟩) (fun p e s m args below meth c Q B hnm hret H locs hX ls hl => ?_)
  have hx := B.1
  have hb := B.2.1
  have hml := B.2.2.1
  have hown := B.2.2.2.1
  have hts := B.2.2.2.2
  have hl : lv_has ls 2 [(0, .ref o), (1, .int p0)] := hl
  unfold f_J2_get at hf
  refine lv_iload_n hx hb dJ2_get_0 rfl (lv_at hl 1 rfl) ?_
  refine lv_aload_n hx hb dJ2_get_1 rfl (lv_at hl 0 rfl) ?_
  obtain ⟨hk1, hf⟩ := chk_some hf
  refine xr_get (q := (RJ2, TJ2, 3)) B hX 2 hk1 rfl (by decide) (by decide) (x_Vi rfl (by decide)) q185 (fun _ h => h) dJ2_get_2 ?_
  obtain ⟨r2, hcr2, hf⟩ := bnd_some hf
  refine pr_callS (rest := []) B (c_J6_checkIndex l p0 (xi S 1902 o 0) hcr2) (va_cwS 2 hts (lw_S q527 q528 q119 q529) rfl rfl rfl hd_J6_checkIndex ⟨Nat.le_of_ble_eq_true rfl, Nat.le_of_ble_eq_true rfl⟩) rfl hl.1 rfl (Nat.le_of_ble_eq_true rfl) dJ2_get_5 (x_room0 hX) ?_
  refine lv_pop hx hb dJ2_get_8 rfl ?_
  refine lv_aload_n hx hb dJ2_get_9 rfl (lv_at hl 0 rfl) ?_
  refine lv_iload_n hx hb dJ2_get_10 rfl (lv_at hl 1 rfl) ?_
  obtain ⟨b3, hcb3, hf⟩ := bnd_some hf
  refine xr_callVC (rest := []) (q := (RJ2, TJ2, 3)) B hX (c_J2_elementData l D S o p0 hcb3) hk1 rfl (by decide) q533 q534 (Or.inl q535) q108 q536 hd_J2_elementData ⟨Nat.le_of_ble_eq_true rfl, Nat.le_of_ble_eq_true rfl⟩ rfl hl.1 rfl (Nat.le_of_ble_eq_true rfl) dJ2_get_11 (fun H locs hX => ?_)
  cases hf
  exact hret _ _ _ _ hX dJ2_get_14
def f_J2_clear_L27 (b4 : Nat) (x5 : Int32) (x7 : Int32) (S8 : XS) : Option ((Int32 × XS) ⊕ ((XS))) :=
  (if x5 ≤ x7 then some (.inr S8) else chk (xk S8 b4 = 55) <| chk (xb S8 ≤ b4) <| ast (xn S8 b4) x7 (s_r S8 55 b4 x7.toNatClampNeg none) fun S12 => bd (x7 + nI 1) fun x13 => some (.inl (x13, S12)))
def f_J2_clear (S : XS) (o : Nat) : Option XS :=
  chk (xk S o = 19) <| chk (xb S ≤ o) <| bd (s_i S 1900 o 0 ((xi S 1900 o 0) + nI 1)) fun S3 => bnd (xr S3 1901 o 0) fun b4 => bd (xi S3 1902 o 0) fun x5 => bd (s_i S3 1902 o 0 (nI 0)) fun S6 => bnd (wO (fun t : Int32 × XS => f_J2_clear_L27 b4 x5 t.1 t.2) fu (nI 0, S6)) <| fun S16 => some S16
set_option maxHeartbeats 4000000 in
set_option maxRecDepth 100000 in
theorem c_J2_clear (l : Launch) (D : XD) (S : XS) (o : Nat) {S' : XS} (hf : f_J2_clear S o = some S') : x_Met l yJ2_clear cJ2_clear 4 (Option.none : Option Jvm.ClassFile.FieldType) 0 0 D [.ref o] S none S' := by
  refine x_metV RJ2 (by decide) rfl (Nat.le_of_ble_eq_true rfl) (fun p e s m args below meth c Q B hnm hret H locs hX ls hl => ?_)
  have hx := B.1
  have hb := B.2.1
  have hml := B.2.2.1
  have hown := B.2.2.2.1
  have hts := B.2.2.2.2
  have hl : lv_has ls 4 [(0, .ref o)] := hl
  unfold f_J2_clear at hf
  refine lv_aload_n hx hb dJ2_clear_0 rfl (lv_at hl 0 rfl) ?_
  refine lv_dup hx hb dJ2_clear_1 rfl ?_
  obtain ⟨hk1, hf⟩ := chk_some hf
  refine xr_get (q := (RJ2, TJ2, 3)) B hX 0 hk1 rfl (by decide) (by decide) (x_Vi rfl (by decide)) q187 (fun x h => u_same (hts _ q188) x h) dJ2_clear_2 ?_
  refine lv_iconst (v := nI 1) hx hb dJ2_clear_5 ic1 ?_
  refine lv_iadd hx hb dJ2_clear_6 ?_
  obtain ⟨hw2, hf⟩ := chk_some hf
  obtain ⟨S3, eS3, hf⟩ := bd_some hf
  refine xr_put (S' := S3) (q := (RJ2, TJ2, 3)) (v := .int ((xi S 1900 o 0) + nI 1)) (ty0 := tyJ2) B hX 0 hk1 rfl (by decide) hw2 (by decide) (by rw [eS3]; exact x_Vup_i (k := 19) (j := 0) rfl (by decide)) tyJ2_ok (fun i h1 h2 => nmJ2 i (Nat.lt_of_lt_of_le h1 (by decide)) 0 (by decide) h2) rfl rfl rfl q187 (fun x h => u_same (hts _ q188) x h) dJ2_clear_7 (fun H locs hX => ?_)
  refine w_i eS3 ?_
  have hk1 := ks_i eS3 hk1
  have hw2 := kw_i eS3 hw2
  refine lv_aload_n hx hb dJ2_clear_10 rfl (lv_at hl 0 rfl) ?_
  obtain ⟨b4, hb4, hf⟩ := bnd_some hf
  refine xr_get (q := (RJ2, TJ2, 3)) B hX 1 hk1 rfl (by decide) (by decide) (v := .ref b4) (x_Vr (c := 19) (j := 1) rfl (by decide) hb4) q184 (fun _ h => h) dJ2_clear_11 ?_
  refine lv_astore_n (lv' := [(1, .ref b4), (0, .ref o)]) hx hb dJ2_clear_14 rfl hl (by decide) rfl (fun ls hl => ?_)
  refine lv_aload_n hx hb dJ2_clear_15 rfl (lv_at hl 1 rfl) ?_
  refine xr_get (q := (RJ2, TJ2, 3)) B hX 2 hk1 rfl (by decide) (by decide) (x_Vi rfl (by decide)) q185 (fun _ h => h) dJ2_clear_16 ?_
  refine lv_topi (fun x5 ex5 => ?_)
  have hf := bd_at ex5 hf
  refine lv_istore_n (lv' := [(2, .int x5), (1, .ref b4), (0, .ref o)]) hx hb dJ2_clear_19 rfl hl (by decide) rfl (fun ls hl => ?_)
  refine lv_aload_n hx hb dJ2_clear_20 rfl (lv_at hl 2 rfl) ?_
  refine lv_iconst (v := nI 0) hx hb dJ2_clear_21 ic0 ?_
  refine lv_dup_x1 hx hb dJ2_clear_22 rfl rfl ?_
  obtain ⟨S6, eS6, hf⟩ := bd_some hf
  refine xr_put (S' := S6) (q := (RJ2, TJ2, 3)) (v := .int (nI 0)) (ty0 := tyJ2) B hX 2 hk1 rfl (by decide) hw2 (by decide) (by rw [eS6]; exact x_Vup_i (k := 19) (j := 2) rfl (by decide)) tyJ2_ok (fun i h1 h2 => nmJ2 i (Nat.lt_of_lt_of_le h1 (by decide)) 2 (by decide) h2) rfl rfl rfl q185 (fun _ h => h) dJ2_clear_23 (fun H locs hX => ?_)
  refine w_i eS6 ?_
  have hk1 := ks_i eS6 hk1
  have hw2 := kw_i eS6 hw2
  refine lv_istore_n (lv' := [(3, .int (nI 0)), (2, .int x5), (1, .ref b4), (0, .ref o)]) hx hb dJ2_clear_26 rfl hl (by decide) rfl (fun ls hl => ?_)
  obtain ⟨y15, hxy15, hf⟩ := bnd_some hf
  have hy15 : (fun t : XS => ∀ (H : Heap) (locs : List Loc) (ls : Array Slot), x_I D S s H locs t → lv_has ls 4 [] → W p l e (x_R 0 0 S) s m args below meth c H locs (xz t - xz S) (xu t - xu S) Q (F0 m 42 ls [])) y15 := by
    obtain ⟨S16, rfl⟩ : ∃ z, z = y15 := ⟨_, rfl⟩
    intro H locs ls hX hl
    cases hf
    exact hret _ _ _ _ hX dJ2_clear_42
  refine lp_W (step := (fun t : Int32 × XS => f_J2_clear_L27 b4 x5 t.1 t.2)) (fun t : Int32 × XS => ∀ (H : Heap) (locs : List Loc) (ls : Array Slot), x_I D S s H locs t.2 → lv_has ls 4 [(1, .ref b4), (2, .int x5), (3, .int t.1)] → W p l e (x_R 0 0 S) s m args below meth c H locs (xz t.2 - xz S) (xu t.2 - xu S) Q (F0 m 27 ls [])) (fun t : XS => ∀ (H : Heap) (locs : List Loc) (ls : Array Slot), x_I D S s H locs t → lv_has ls 4 [] → W p l e (x_R 0 0 S) s m args below meth c H locs (xz t - xz S) (xu t - xu S) Q (F0 m 42 ls [])) ?_ fu (nI 0, S6) y15 hxy15 hy15 _ _ _ hX (lv_sub hl [2, 1, 0] rfl)
  clear hf hxy15 hy15
  rintro ⟨x7, S8⟩ oo (hf : f_J2_clear_L27 b4 x5 x7 S8 = some oo) hk
  intro H locs ls hX hl
  unfold f_J2_clear_L27 at hf
  refine lv_iload_n hx hb dJ2_clear_27 rfl (lv_at hl 2 rfl) ?_
  refine lv_iload_n hx hb dJ2_clear_28 rfl (lv_at hl 1 rfl) ?_
  refine lv_icmp_ge (tgt := 42) hx hb dJ2_clear_29 (by decide) (fun c9 => ?_) (fun c9 => ?_)
  · have hf := it_pos c9 hf
    cases hf
    exact hk _ _ _ hX (lv_sub hl [] rfl)
  · have hf := it_neg c9 hf
    refine lv_aload_n hx hb dJ2_clear_32 rfl (lv_at hl 0 rfl) ?_
    refine lv_iload_n hx hb dJ2_clear_33 rfl (lv_at hl 2 rfl) ?_
    refine lv_null hx hb dJ2_clear_34 ?_
    obtain ⟨hk10, hf⟩ := chk_some hf
    obtain ⟨hw11, hf⟩ := chk_some hf
    obtain ⟨S12, eS12, hiS12, hf⟩ := ast_some hf
    refine xr_aastN B hX hk10 rfl (by decide) hw11 hiS12 eS12 dJ2_clear_35 (fun H locs hX => ?_)
    refine w_r eS12 ?_
    have hk10 := ks_r eS12 hk10
    have hw11 := kw_r eS12 hw11
    obtain ⟨x13, ex13, hf⟩ := bd_some hf
    refine lv_iinc (v := x13) (lv' := [(3, .int x13), (1, .ref b4), (2, .int x5)]) hx hb dJ2_clear_36 hl (k := 2) rfl (by rw [ex13]; first | done | rfl) (by decide) rfl (fun ls hl => ?_)
    refine lv_goto (tgt := 27) hx hb dJ2_clear_39 (by decide) ?_
    cases hf
    exact hk _ _ _ hX (lv_sub hl [1, 2, 0] rfl)
def f_J2_fastRemove_J34_6 (o : Nat) (p0 : Nat) (x4 : Int32) (S12 : XS) : Option XS :=
  chk (xk S12 o = 19) <| chk (xb S12 ≤ o) <| bd (s_i S12 1902 o 0 x4) fun S15 => chk (xk S15 p0 = 55) <| chk (xb S15 ≤ p0) <| ast (xn S15 p0) x4 (s_r S15 55 p0 x4.toNatClampNeg none) fun S18 => some S18
def f_J2_fastRemove (S : XS) (o : Nat) (p0 : Nat) (p1 : Int32) : Option XS :=
  chk (xk S o = 19) <| chk (xb S ≤ o) <| bd (s_i S 1900 o 0 ((xi S 1900 o 0) + nI 1)) fun S3 => bd ((xi S3 1902 o 0) - nI 1) fun x4 => (if ((xi S3 1902 o 0) - nI 1) ≤ p1 then f_J2_fastRemove_J34_6 o p0 x4 S3 else chk (xk S3 p0 = 55) <| chk (xb S3 ≤ p0) <| chk (0 ≤ (p1 + nI 1) ∧ 0 ≤ p1 ∧ 0 ≤ (x4 - p1) ∧ (p1 + nI 1).toNatClampNeg + (x4 - p1).toNatClampNeg ≤ xn S3 p0 ∧ p1.toNatClampNeg + (x4 - p1).toNatClampNeg ≤ xn S3 p0) <| chk (∀ i, i < (x4 - p1).toNatClampNeg → x_okQ S3 (xr S3 55 p0 ((p1 + nI 1).toNatClampNeg + i)) = true) <| bd (s_cp S3 55 p0 (p1 + nI 1).toNatClampNeg p0 p1.toNatClampNeg (x4 - p1).toNatClampNeg) fun S11 => f_J2_fastRemove_J34_6 o p0 x4 S11)
set_option maxHeartbeats 4000000 in
set_option maxRecDepth 100000 in
theorem c_J2_fastRemove (l : Launch) (D : XD) (S : XS) (o : Nat) (p0 : Nat) (p1 : Int32) {S' : XS} (hf : f_J2_fastRemove S o p0 p1 = some S') : x_Met l yJ2_fastRemove cJ2_fastRemove 4 (Option.none : Option Jvm.ClassFile.FieldType) 1 60 D [.ref o, .ref p0, .int p1] S none S' := by
  refine x_metV RJ2 (by decide) rfl (Nat.le_of_ble_eq_true rfl) (fun p e s m args below meth c Q B hnm hret H locs hX ls hl => ?_)
  have hx := B.1
  have hb := B.2.1
  have hml := B.2.2.1
  have hown := B.2.2.2.1
  have hts := B.2.2.2.2
  have hl : lv_has ls 4 [(0, .ref o), (1, .ref p0), (2, .int p1)] := hl
  unfold f_J2_fastRemove at hf
  refine lv_aload_n hx hb dJ2_fastRemove_0 rfl (lv_at hl 0 rfl) ?_
  refine lv_dup hx hb dJ2_fastRemove_1 rfl ?_
  obtain ⟨hk1, hf⟩ := chk_some hf
  refine xr_get (q := (RJ2, TJ2, 3)) B hX 0 hk1 rfl (by decide) (by decide) (x_Vi rfl (by decide)) q187 (fun x h => u_same (hts _ q188) x h) dJ2_fastRemove_2 ?_
  refine lv_iconst (v := nI 1) hx hb dJ2_fastRemove_5 ic1 ?_
  refine lv_iadd hx hb dJ2_fastRemove_6 ?_
  obtain ⟨hw2, hf⟩ := chk_some hf
  obtain ⟨S3, eS3, hf⟩ := bd_some hf
  refine xr_put (S' := S3) (q := (RJ2, TJ2, 3)) (v := .int ((xi S 1900 o 0) + nI 1)) (ty0 := tyJ2) B hX 0 hk1 rfl (by decide) hw2 (by decide) (by rw [eS3]; exact x_Vup_i (k := 19) (j := 0) rfl (by decide)) tyJ2_ok (fun i h1 h2 => nmJ2 i (Nat.lt_of_lt_of_le h1 (by decide)) 0 (by decide) h2) rfl rfl rfl q187 (fun x h => u_same (hts _ q188) x h) dJ2_fastRemove_7 (fun H locs hX => ?_)
  refine w_i eS3 ?_
  have hk1 := ks_i eS3 hk1
  have hw2 := kw_i eS3 hw2
  refine lv_aload_n hx hb dJ2_fastRemove_10 rfl (lv_at hl 0 rfl) ?_
  refine xr_get (q := (RJ2, TJ2, 3)) B hX 2 hk1 rfl (by decide) (by decide) (x_Vi rfl (by decide)) q185 (fun _ h => h) dJ2_fastRemove_11 ?_
  refine lv_iconst (v := nI 1) hx hb dJ2_fastRemove_14 ic1 ?_
  refine lv_isub hx hb dJ2_fastRemove_15 ?_
  refine lv_dup hx hb dJ2_fastRemove_16 rfl ?_
  refine lv_topi (fun x4 ex4 => ?_)
  have hf := bd_at ex4 hf
  refine lv_istore_n (lv' := [(3, .int x4), (0, .ref o), (1, .ref p0), (2, .int p1)]) hx hb dJ2_fastRemove_17 rfl hl (by decide) rfl (fun ls hl => ?_)
  refine lv_iload_n hx hb dJ2_fastRemove_18 rfl (lv_at hl 3 rfl) ?_
  have j6 : ∀ (S12 : XS), f_J2_fastRemove_J34_6 o p0 x4 S12 = some S' → ∀ (H : Heap) (locs : List Loc) (ls : Array Slot), x_I D S s H locs S12 → lv_has ls 4 [(0, .ref o), (1, .ref p0), (3, .int x4)] → W p l e (x_R 1 60 S) s m args below meth c H locs (xz S12 - xz S) (xu S12 - xu S) Q (F0 m 34 ls []) := by
    intro S12 hf
    intro H locs ls hX hl
    unfold f_J2_fastRemove_J34_6 at hf
    refine lv_aload_n hx hb dJ2_fastRemove_34 rfl (lv_at hl 1 rfl) ?_
    refine lv_aload_n hx hb dJ2_fastRemove_35 rfl (lv_at hl 0 rfl) ?_
    refine lv_iload_n hx hb dJ2_fastRemove_36 rfl (lv_at hl 2 rfl) ?_
    refine lv_dup_x1 hx hb dJ2_fastRemove_37 rfl rfl ?_
    obtain ⟨hk13, hf⟩ := chk_some hf
    obtain ⟨hw14, hf⟩ := chk_some hf
    obtain ⟨S15, eS15, hf⟩ := bd_some hf
    refine xr_put (S' := S15) (q := (RJ2, TJ2, 3)) (v := .int x4) (ty0 := tyJ2) B hX 2 hk13 rfl (by decide) hw14 (by decide) (by rw [eS15]; exact x_Vup_i (k := 19) (j := 2) rfl (by decide)) tyJ2_ok (fun i h1 h2 => nmJ2 i (Nat.lt_of_lt_of_le h1 (by decide)) 2 (by decide) h2) rfl rfl rfl q185 (fun _ h => h) dJ2_fastRemove_38 (fun H locs hX => ?_)
    refine w_i eS15 ?_
    have hk13 := ks_i eS15 hk13
    have hw14 := kw_i eS15 hw14
    refine lv_null hx hb dJ2_fastRemove_41 ?_
    obtain ⟨hk16, hf⟩ := chk_some hf
    obtain ⟨hw17, hf⟩ := chk_some hf
    obtain ⟨S18, eS18, hiS18, hf⟩ := ast_some hf
    refine xr_aastN B hX hk16 rfl (by decide) hw17 hiS18 eS18 dJ2_fastRemove_42 (fun H locs hX => ?_)
    refine w_r eS18 ?_
    have hk13 := ks_r eS18 hk13
    have hw14 := kw_r eS18 hw14
    have hk16 := ks_r eS18 hk16
    have hw17 := kw_r eS18 hw17
    cases hf
    exact hret _ _ _ _ hX dJ2_fastRemove_43
  refine lv_icmp_le (tgt := 34) hx hb dJ2_fastRemove_19 (by decide) (fun c5 => ?_) (fun c5 => ?_)
  · have hf := it_pos c5 hf
    exact j6 S3 hf _ _ _ hX (lv_sub hl [1, 2, 0] rfl)
  · have hf := it_neg c5 hf
    refine lv_aload_n hx hb dJ2_fastRemove_22 rfl (lv_at hl 2 rfl) ?_
    refine lv_iload_n hx hb dJ2_fastRemove_23 rfl (lv_at hl 3 rfl) ?_
    refine lv_iconst (v := nI 1) hx hb dJ2_fastRemove_24 ic1 ?_
    refine lv_iadd hx hb dJ2_fastRemove_25 ?_
    refine lv_aload_n hx hb dJ2_fastRemove_26 rfl (lv_at hl 2 rfl) ?_
    refine lv_iload_n hx hb dJ2_fastRemove_27 rfl (lv_at hl 3 rfl) ?_
    refine lv_iload_n hx hb dJ2_fastRemove_28 rfl (lv_at hl 0 rfl) ?_
    refine lv_iload_n hx hb dJ2_fastRemove_29 rfl (lv_at hl 3 rfl) ?_
    refine lv_isub hx hb dJ2_fastRemove_30 ?_
    obtain ⟨hk7, hf⟩ := chk_some hf
    obtain ⟨hw8, hf⟩ := chk_some hf
    obtain ⟨hr9, hf⟩ := chk_some hf
    obtain ⟨hv10, hf⟩ := chk_some hf
    obtain ⟨S11, eS11, hf⟩ := bd_some hf
    refine xr_copy (rest := []) B hX hk7 hk7 hw8 (by decide) rfl hr9 (x_vals55 hv10) eS11 hl.1 q1388 q508 q507 q118 (Nat.le_of_ble_eq_true rfl) (Nat.le_of_ble_eq_true rfl) dJ2_fastRemove_31 (fun H locs hX => ?_)
    refine w_c eS11 ?_
    have hk1 := ks_c eS11 hk1
    have hw2 := kw_c eS11 hw2
    have hk7 := ks_c eS11 hk7
    have hw8 := kw_c eS11 hw8
    exact j6 S11 hf _ _ _ hX (lv_sub hl [1, 2, 0] rfl)
def f_J2_remove (S : XS) (o : Nat) (p0 : Int32) : Option (Nat × XS) :=
  chk (xk S o = 19) <| bnd (f_J6_checkIndex p0 (xi S 1902 o 0)) fun r2 => bnd (xr S 1901 o 0) fun b3 => chk (xk S b3 = 55) <| ald (xn S b3) (xr S 55 b3) p0 fun q5 => bnd q5 fun b6 => bnd (f_J2_fastRemove S o b3 p0) fun S7 => some (b6, S7)
set_option maxHeartbeats 4000000 in
set_option maxRecDepth 100000 in
theorem c_J2_remove (l : Launch) (D : XD) (S : XS) (o : Nat) (p0 : Int32) {r : Nat} {S' : XS} (hf : f_J2_remove S o p0 = some (r, S')) : x_Met l yJ2_remove cJ2_remove 4 (Option.some (Jvm.ClassFile.FieldType.object "java/lang/Object")) 2 83 D [.ref o, .int p0] S (some (.ref r)) S' := by
  refine x_metA RJ2 (by decide) rfl (Nat.le_of_ble_eq_true rfl) (Or.inl ⟨_, rfl⟩) (fun p e s m args below meth c Q B hnm hret H locs hX ls hl => ?_)
  have hx := B.1
  have hb := B.2.1
  have hml := B.2.2.1
  have hown := B.2.2.2.1
  have hts := B.2.2.2.2
  have hl : lv_has ls 4 [(0, .ref o), (1, .int p0)] := hl
  unfold f_J2_remove at hf
  refine lv_iload_n hx hb dJ2_remove_0 rfl (lv_at hl 1 rfl) ?_
  refine lv_aload_n hx hb dJ2_remove_1 rfl (lv_at hl 0 rfl) ?_
  obtain ⟨hk1, hf⟩ := chk_some hf
  refine xr_get (q := (RJ2, TJ2, 3)) B hX 2 hk1 rfl (by decide) (by decide) (x_Vi rfl (by decide)) q185 (fun _ h => h) dJ2_remove_2 ?_
  obtain ⟨r2, hcr2, hf⟩ := bnd_some hf
  refine pr_callS (rest := []) B (c_J6_checkIndex l p0 (xi S 1902 o 0) hcr2) (va_cwS 2 hts (lw_S q527 q528 q119 q529) rfl rfl rfl hd_J6_checkIndex ⟨Nat.le_of_ble_eq_true rfl, Nat.le_of_ble_eq_true rfl⟩) rfl hl.1 rfl (Nat.le_of_ble_eq_true rfl) dJ2_remove_5 (x_room0 hX) ?_
  refine lv_pop hx hb dJ2_remove_8 rfl ?_
  refine lv_aload_n hx hb dJ2_remove_9 rfl (lv_at hl 0 rfl) ?_
  obtain ⟨b3, hb3, hf⟩ := bnd_some hf
  refine xr_get (q := (RJ2, TJ2, 3)) B hX 1 hk1 rfl (by decide) (by decide) (v := .ref b3) (x_Vr (c := 19) (j := 1) rfl (by decide) hb3) q184 (fun _ h => h) dJ2_remove_10 ?_
  refine lv_astore_n (lv' := [(2, .ref b3), (0, .ref o), (1, .int p0)]) hx hb dJ2_remove_13 rfl hl (by decide) rfl (fun ls hl => ?_)
  refine lv_aload_n hx hb dJ2_remove_14 rfl (lv_at hl 0 rfl) ?_
  refine lv_iload_n hx hb dJ2_remove_15 rfl (lv_at hl 2 rfl) ?_
  obtain ⟨hk4, hf⟩ := chk_some hf
  obtain ⟨q5, eq5, hiq5, hf⟩ := ald_some hf
  obtain ⟨b6, hb6, hf⟩ := bnd_some hf
  rw [hb6] at eq5
  refine xr_aald B hX hk4 rfl (by decide) rfl hiq5 eq5 dJ2_remove_16 ?_
  refine W.eq (g2 := F0 m 17 ls [.ref b6]) rfl ?_
  refine lv_astore_n (lv' := [(3, .ref b6), (2, .ref b3), (0, .ref o), (1, .int p0)]) hx hb dJ2_remove_17 rfl hl (by decide) rfl (fun ls hl => ?_)
  refine lv_aload_n hx hb dJ2_remove_18 rfl (lv_at hl 2 rfl) ?_
  refine lv_aload_n hx hb dJ2_remove_19 rfl (lv_at hl 1 rfl) ?_
  refine lv_iload_n hx hb dJ2_remove_20 rfl (lv_at hl 3 rfl) ?_
  obtain ⟨S7, hcS7, hf⟩ := bnd_some hf
  refine xr_callVC (rest := []) (q := (RJ2, TJ2, 3)) B hX (c_J2_fastRemove l D S o b3 p0 hcS7) hk1 rfl (by decide) q1384 q1386 (Or.inl qs28) q108 q1387 hd_J2_fastRemove ⟨Nat.le_of_ble_eq_true rfl, Nat.le_of_ble_eq_true rfl⟩ rfl hl.1 rfl (Nat.le_of_ble_eq_true rfl) dJ2_remove_21 (fun H locs hX => ?_)
  refine lv_aload_n hx hb dJ2_remove_24 rfl (lv_at hl 0 rfl) ?_
  cases hf
  exact hret _ _ _ _ hX dJ2_remove_25
def f_J2_toArray (S : XS) (o : Nat) : Option (Nat × XS) :=
  chk (xk S o = 19) <| bnd (xr S 1901 o 0) fun b2 => bnd (f_J5_copyOf S b2 (xi S 1902 o 0)) <| u2 fun b3 S4 => some (b3, S4)
set_option maxHeartbeats 4000000 in
set_option maxRecDepth 100000 in
theorem c_J2_toArray (l : Launch) (D : XD) (S : XS) (o : Nat) {r : Nat} {S' : XS} (hf : f_J2_toArray S o = some (r, S')) : x_Met l yJ2_toArray cJ2_toArray 1 (Option.some (Jvm.ClassFile.FieldType.array (Jvm.ClassFile.FieldType.object "java/lang/Object"))) 3 104 D [.ref o] S (some (.ref r)) S' := by
  refine x_metA RJ2 (by decide) rfl (Nat.le_of_ble_eq_true rfl) (Or.inr ⟨_, rfl⟩) (fun p e s m args below meth c Q B hnm hret H locs hX ls hl => ?_)
  have hx := B.1
  have hb := B.2.1
  have hml := B.2.2.1
  have hown := B.2.2.2.1
  have hts := B.2.2.2.2
  have hl : lv_has ls 1 [(0, .ref o)] := hl
  unfold f_J2_toArray at hf
  refine lv_aload_n hx hb dJ2_toArray_0 rfl (lv_at hl 0 rfl) ?_
  obtain ⟨hk1, hf⟩ := chk_some hf
  obtain ⟨b2, hb2, hf⟩ := bnd_some hf
  refine xr_get (q := (RJ2, TJ2, 3)) B hX 1 hk1 rfl (by decide) (by decide) (v := .ref b2) (x_Vr (c := 19) (j := 1) rfl (by decide) hb2) q184 (fun _ h => h) dJ2_toArray_1 ?_
  refine lv_aload_n hx hb dJ2_toArray_4 rfl (lv_at hl 0 rfl) ?_
  refine xr_get (q := (RJ2, TJ2, 3)) B hX 2 hk1 rfl (by decide) (by decide) (x_Vi rfl (by decide)) q185 (fun _ h => h) dJ2_toArray_5 ?_
  obtain ⟨⟨b3, S4⟩, hcb3, hf⟩ := bnd_some hf
  have hf := u2_at hf
  refine xr_callSC (rest := []) B hX (c_J5_copyOf l D S b2 (xi S 1902 o 0) hcb3) q460 q461 q117 q462 hd_J5_copyOf ⟨Nat.le_of_ble_eq_true rfl, Nat.le_of_ble_eq_true rfl⟩ rfl hl.1 rfl (Nat.le_of_ble_eq_true rfl) dJ2_toArray_8 (fun H locs hX => ?_)
  cases hf
  exact hret _ _ _ _ hX dJ2_toArray_11
def f_J2_addAll_J56_14 (o : Nat) (b2 : Nat) (x8 : Int32) (x12 : Int32) (x17 : Nat) (S18 : XS) : Option (Int32 × XS) :=
  chk (xk S18 b2 = 55) <| chk (xk S18 x17 = 55) <| chk (xb S18 ≤ x17) <| chk (0 ≤ nI 0 ∧ 0 ≤ x12 ∧ 0 ≤ x8 ∧ (nI 0).toNatClampNeg + x8.toNatClampNeg ≤ xn S18 b2 ∧ x12.toNatClampNeg + x8.toNatClampNeg ≤ xn S18 x17) <| chk (∀ i, i < x8.toNatClampNeg → x_okQ S18 (xr S18 55 b2 ((nI 0).toNatClampNeg + i)) = true) <| bd (s_cp S18 55 b2 (nI 0).toNatClampNeg x17 x12.toNatClampNeg x8.toNatClampNeg) fun S24 => chk (xk S24 o = 19) <| chk (xb S24 ≤ o) <| bd (s_i S24 1902 o 0 (x12 + x8)) fun S27 => some (nI 1, S27)
def f_J2_addAll (S : XS) (o : Nat) (p0 : Nat) : Option (Int32 × XS) :=
  chk (xk S p0 = 19) <| bnd (f_J2_toArray S p0) <| u2 fun b2 S3 => chk (xk S3 o = 19) <| chk (xb S3 ≤ o) <| bd (s_i S3 1900 o 0 ((xi S3 1900 o 0) + nI 1)) fun S6 => chk (xk S6 b2 = 55) <| bd (nI (xn S6 b2)) fun x8 => (if x8 = 0 then some (nI 0, S6) else bnd (xr S6 1901 o 0) fun b10 => chk (xk S6 b10 = 55) <| bd (xi S6 1902 o 0) fun x12 => (if x8 ≤ ((nI (xn S6 b10)) - (xi S6 1902 o 0)) then f_J2_addAll_J56_14 o b2 x8 x12 b10 S6 else bnd (f_J2_grow_2 S6 o (x12 + x8)) <| u2 fun b15 S16 => f_J2_addAll_J56_14 o b2 x8 x12 b15 S16))
set_option maxHeartbeats 4000000 in
set_option maxRecDepth 100000 in
theorem c_J2_addAll (l : Launch) (D : XD) (S : XS) (o : Nat) (p0 : Nat) {r : Int32} {S' : XS} (hf : f_J2_addAll S o p0 = some (r, S')) : x_Met l yJ2_addAll cJ2_addAll 6 (Option.some Jvm.ClassFile.FieldType.boolean) 4 127 D [.ref o, .ref p0] S (some (.int r)) S' := by
  refine x_metI RJ2 (by decide) rfl (Nat.le_of_ble_eq_true rfl) (fun p e s m args below meth c Q B hnm hret H locs hX ls hl => ?_)
  have hx := B.1
  have hb := B.2.1
  have hml := B.2.2.1
  have hown := B.2.2.2.1
  have hts := B.2.2.2.2
  have hl : lv_has ls 6 [(0, .ref o), (1, .ref p0)] := hl
  unfold f_J2_addAll at hf
  refine lv_aload_n hx hb dJ2_addAll_0 rfl (lv_at hl 1 rfl) ?_
  obtain ⟨hk1, hf⟩ := chk_some hf
  obtain ⟨⟨b2, S3⟩, hcb2, hf⟩ := bnd_some hf
  have hf := u2_at hf
  refine xr_toArray (rest := []) B hX (c_J2_toArray l D S p0 hcb2) hk1 q1512 q1518 q1516 q108 q1520 ⟨Nat.le_of_ble_eq_true rfl, Nat.le_of_ble_eq_true rfl⟩ hl.1 (Nat.le_of_ble_eq_true rfl) dJ2_addAll_1 (fun H locs hX => ?_)
  refine lv_astore_n (lv' := [(2, .ref b2), (0, .ref o), (1, .ref p0)]) hx hb dJ2_addAll_6 rfl hl (by decide) rfl (fun ls hl => ?_)
  refine lv_aload_n hx hb dJ2_addAll_7 rfl (lv_at hl 1 rfl) ?_
  refine lv_dup hx hb dJ2_addAll_8 rfl ?_
  obtain ⟨hk4, hf⟩ := chk_some hf
  refine xr_get (q := (RJ2, TJ2, 3)) B hX 0 hk4 rfl (by decide) (by decide) (x_Vi rfl (by decide)) q187 (fun x h => u_same (hts _ q188) x h) dJ2_addAll_9 ?_
  refine lv_iconst (v := nI 1) hx hb dJ2_addAll_12 ic1 ?_
  refine lv_iadd hx hb dJ2_addAll_13 ?_
  obtain ⟨hw5, hf⟩ := chk_some hf
  obtain ⟨S6, eS6, hf⟩ := bd_some hf
  refine xr_put (S' := S6) (q := (RJ2, TJ2, 3)) (v := .int ((xi S3 1900 o 0) + nI 1)) (ty0 := tyJ2) B hX 0 hk4 rfl (by decide) hw5 (by decide) (by rw [eS6]; exact x_Vup_i (k := 19) (j := 0) rfl (by decide)) tyJ2_ok (fun i h1 h2 => nmJ2 i (Nat.lt_of_lt_of_le h1 (by decide)) 0 (by decide) h2) rfl rfl rfl q187 (fun x h => u_same (hts _ q188) x h) dJ2_addAll_14 (fun H locs hX => ?_)
  refine w_i eS6 ?_
  have hk4 := ks_i eS6 hk4
  have hw5 := kw_i eS6 hw5
  refine lv_aload_n hx hb dJ2_addAll_17 rfl (lv_at hl 0 rfl) ?_
  obtain ⟨hk7, hf⟩ := chk_some hf
  refine xr_alen B hX hk7 rfl (by decide) dJ2_addAll_18 ?_
  refine lv_topi (fun x8 ex8 => ?_)
  have hf := bd_at ex8 hf
  refine lv_istore_n (lv' := [(3, .int x8), (2, .ref b2), (0, .ref o), (1, .ref p0)]) hx hb dJ2_addAll_19 rfl hl (by decide) rfl (fun ls hl => ?_)
  refine lv_iload_n hx hb dJ2_addAll_20 rfl (lv_at hl 0 rfl) ?_
  refine lv_if_ne (tgt := 26) hx hb dJ2_addAll_21 (by decide) (fun c9 => ?_) (fun c9 => ?_)
  · have hf := it_neg c9 hf
    refine lv_iload_n hx hb dJ2_addAll_26 rfl (lv_at hl 0 rfl) ?_
    refine lv_aload_n hx hb dJ2_addAll_27 rfl (lv_at hl 2 rfl) ?_
    obtain ⟨b10, hb10, hf⟩ := bnd_some hf
    refine xr_get (q := (RJ2, TJ2, 3)) B hX 1 hk4 rfl (by decide) (by decide) (v := .ref b10) (x_Vr (c := 19) (j := 1) rfl (by decide) hb10) q184 (fun _ h => h) dJ2_addAll_28 ?_
    refine lv_dup hx hb dJ2_addAll_31 rfl ?_
    refine lv_astore (lv' := [(4, .ref b10), (3, .int x8), (2, .ref b2), (0, .ref o), (1, .ref p0)]) hx hb dJ2_addAll_32 hl (by decide) rfl (fun ls hl => ?_)
    obtain ⟨hk11, hf⟩ := chk_some hf
    refine xr_alen B hX hk11 rfl (by decide) dJ2_addAll_34 ?_
    refine lv_aload_n hx hb dJ2_addAll_35 rfl (lv_at hl 3 rfl) ?_
    refine xr_get (q := (RJ2, TJ2, 3)) B hX 2 hk4 rfl (by decide) (by decide) (x_Vi rfl (by decide)) q185 (fun _ h => h) dJ2_addAll_36 ?_
    refine lv_dup hx hb dJ2_addAll_39 rfl ?_
    refine lv_topi (fun x12 ex12 => ?_)
    have hf := bd_at ex12 hf
    refine lv_istore (lv' := [(5, .int x12), (4, .ref b10), (3, .int x8), (2, .ref b2), (0, .ref o), (1, .ref p0)]) hx hb dJ2_addAll_40 hl (by decide) rfl (fun ls hl => ?_)
    refine lv_isub hx hb dJ2_addAll_42 ?_
    have j14 : ∀ (x17 : Nat) (S18 : XS), f_J2_addAll_J56_14 o b2 x8 x12 x17 S18 = some (r, S') → ∀ (H : Heap) (locs : List Loc) (ls : Array Slot), x_I D S s H locs S18 → lv_has ls 6 [(0, .ref o), (2, .ref b2), (3, .int x8), (4, .ref x17), (5, .int x12)] → W p l e (x_R 4 127 S) s m args below meth c H locs (xz S18 - xz S) (xu S18 - xu S) Q (F0 m 56 ls []) := by
      intro x17 S18 hf
      intro H locs ls hX hl
      unfold f_J2_addAll_J56_14 at hf
      refine lv_aload_n hx hb dJ2_addAll_56 rfl (lv_at hl 1 rfl) ?_
      refine lv_iconst (v := nI 0) hx hb dJ2_addAll_57 ic0 ?_
      refine lv_aload hx hb dJ2_addAll_58 (lv_at hl 3 rfl) ?_
      refine lv_iload hx hb dJ2_addAll_60 (lv_at hl 4 rfl) ?_
      refine lv_iload_n hx hb dJ2_addAll_62 rfl (lv_at hl 2 rfl) ?_
      obtain ⟨hk19, hf⟩ := chk_some hf
      obtain ⟨hk20, hf⟩ := chk_some hf
      obtain ⟨hw21, hf⟩ := chk_some hf
      obtain ⟨hr22, hf⟩ := chk_some hf
      obtain ⟨hv23, hf⟩ := chk_some hf
      obtain ⟨S24, eS24, hf⟩ := bd_some hf
      refine xr_copy (rest := []) B hX hk19 hk20 hw21 (by decide) rfl hr22 (x_vals55 hv23) eS24 hl.1 q1388 q508 q507 q118 (Nat.le_of_ble_eq_true rfl) (Nat.le_of_ble_eq_true rfl) dJ2_addAll_63 (fun H locs hX => ?_)
      refine w_c eS24 ?_
      have hk19 := ks_c eS24 hk19
      have hk20 := ks_c eS24 hk20
      have hw21 := kw_c eS24 hw21
      refine lv_aload_n hx hb dJ2_addAll_66 rfl (lv_at hl 0 rfl) ?_
      refine lv_iload hx hb dJ2_addAll_67 (lv_at hl 4 rfl) ?_
      refine lv_iload_n hx hb dJ2_addAll_69 rfl (lv_at hl 2 rfl) ?_
      refine lv_iadd hx hb dJ2_addAll_70 ?_
      obtain ⟨hk25, hf⟩ := chk_some hf
      obtain ⟨hw26, hf⟩ := chk_some hf
      obtain ⟨S27, eS27, hf⟩ := bd_some hf
      refine xr_put (S' := S27) (q := (RJ2, TJ2, 3)) (v := .int (x12 + x8)) (ty0 := tyJ2) B hX 2 hk25 rfl (by decide) hw26 (by decide) (by rw [eS27]; exact x_Vup_i (k := 19) (j := 2) rfl (by decide)) tyJ2_ok (fun i h1 h2 => nmJ2 i (Nat.lt_of_lt_of_le h1 (by decide)) 2 (by decide) h2) rfl rfl rfl q185 (fun _ h => h) dJ2_addAll_71 (fun H locs hX => ?_)
      refine w_i eS27 ?_
      have hk19 := ks_i eS27 hk19
      have hk20 := ks_i eS27 hk20
      have hw21 := kw_i eS27 hw21
      have hk25 := ks_i eS27 hk25
      have hw26 := kw_i eS27 hw26
      refine lv_iconst (v := nI 1) hx hb dJ2_addAll_74 ic1 ?_
      cases hf
      exact hret _ _ _ _ rfl hX dJ2_addAll_75
    refine lv_icmp_le (tgt := 56) hx hb dJ2_addAll_43 (by decide) (fun c13 => ?_) (fun c13 => ?_)
    · have hf := it_pos c13 hf
      exact j14 b10 S6 hf _ _ _ hX (lv_sub hl [4, 3, 2, 1, 0] rfl)
    · have hf := it_neg c13 hf
      refine lv_aload_n hx hb dJ2_addAll_46 rfl (lv_at hl 4 rfl) ?_
      refine lv_iload hx hb dJ2_addAll_47 (lv_at hl 0 rfl) ?_
      refine lv_iload_n hx hb dJ2_addAll_49 rfl (lv_at hl 2 rfl) ?_
      refine lv_iadd hx hb dJ2_addAll_50 ?_
      obtain ⟨⟨b15, S16⟩, hcb15, hf⟩ := bnd_some hf
      have hf := u2_at hf
      refine xr_callVC (rest := []) (q := (RJ2, TJ2, 3)) B hX (c_J2_grow_2 l D S6 o (x12 + x8) hcb15) hk4 rfl (by decide) q446 q448 (Or.inl qs4) q108 q449 hd_J2_grow_2 ⟨Nat.le_of_ble_eq_true rfl, Nat.le_of_ble_eq_true rfl⟩ rfl hl.1 rfl (Nat.le_of_ble_eq_true rfl) dJ2_addAll_51 (fun H locs hX => ?_)
      refine lv_astore (lv' := [(4, .ref b15), (5, .int x12), (3, .int x8), (2, .ref b2), (0, .ref o), (1, .ref p0)]) hx hb dJ2_addAll_54 hl (by decide) rfl (fun ls hl => ?_)
      exact j14 b15 S16 hf _ _ _ hX (lv_sub hl [4, 3, 2, 0, 1] rfl)
  · have hf := it_pos c9 hf
    refine lv_iconst (v := nI 0) hx hb dJ2_addAll_24 ic0 ?_
    cases hf
    exact hret _ _ _ _ rfl hX dJ2_addAll_25
