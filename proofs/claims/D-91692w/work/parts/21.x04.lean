set_option maxRecDepth 100000
def f_X11_init (S : XS) (o : Nat) (p0 : Nat) (p1 : Int32) (p2 : Nat) : Option XS :=
  chk (0 ≤ nI 4 ∧ (nI 4).toNatClampNeg ≤ 60000000) <| chk (xz S < xL S ∧ xu S + (nI 4).toNatClampNeg ≤ xU S) <| bd (xz S) fun a3 => bd (n_c S 52 (nI 4).toNatClampNeg (nI 4).toNatClampNeg) fun S2 => ast (xn S2 a3) (nI 0) (s_i S2 52 a3 (nI 0).toNatClampNeg (-1)) fun S6 => ast (xn S6 a3) (nI 1) (s_i S6 52 a3 (nI 1).toNatClampNeg (-1)) fun S7 => ast (xn S7 a3) (nI 2) (s_i S7 52 a3 (nI 2).toNatClampNeg (-1)) fun S8 => ast (xn S8 a3) (nI 3) (s_i S8 52 a3 (nI 3).toNatClampNeg (-1)) fun S9 => chk (xk S9 o = 8) <| chk (xb S9 ≤ o) <| bd (s_r S9 810 o 0 (some a3)) fun S12 => bd (s_r S12 800 o 0 (some p0)) fun S13 => bd (s_i S13 801 o 0 p1) fun S14 => bd (s_r S14 802 o 0 (some p2)) fun S15 => bnd (f_X11_step S15 o) fun S16 => some S16
set_option maxHeartbeats 4000000 in
set_option maxRecDepth 100000 in
theorem c_X11_init (l : Launch) (D : XD) (S : XS) (o : Nat) (p0 : Nat) (p1 : Int32) (p2 : Nat) {S' : XS} (hf : f_X11_init S o p0 p1 p2 = some S') : x_Met l yX11_init cX11_init 4 (Option.none : Option Jvm.ClassFile.FieldType) 7 193 D [.ref o, .ref p0, .int p1, .ref p2] S none S' := by
  refine x_metV RX11 (by decide) rfl (Nat.le_of_ble_eq_true rfl) (fun p e s m args below meth c Q B hnm hret H locs hX ls hl => ?_)
  have hx := B.1
  have hb := B.2.1
  have hml := B.2.2.1
  have hown := B.2.2.2.1
  have hts := B.2.2.2.2
  have hl : lv_has ls 4 [(0, .ref o), (1, .ref p0), (2, .int p1), (3, .ref p2)] := hl
  unfold f_X11_init at hf
  refine lv_aload_n hx hb dX11_init_0 rfl (lv_at hl 0 rfl) ?_
  refine W.objInit hx hb hown (hts _ q626) (hts _ q154) (hts _ q155) rfl (by rw [hml]; exact hl.1) rfl dX11_init_1 (Nat.le_of_ble_eq_true rfl) (Nat.le_of_ble_eq_true rfl) ?_
  refine W.eq (g2 := F0 m 4 ls []) rfl ?_
  refine lv_aload_n hx hb dX11_init_4 rfl (lv_at hl 0 rfl) ?_
  refine lv_iconst (v := nI 4) hx hb dX11_init_5 ic4 ?_
  obtain ⟨h03, hf⟩ := chk_some hf
  obtain ⟨hr1, hf⟩ := chk_some hf
  obtain ⟨a3, ea3, hf⟩ := bd_some hf
  obtain ⟨S2, eS2, hf⟩ := bd_some hf
  have hk4 := ks_new eS2 ea3
  have hw5 := kw_new hX eS2 ea3
  refine xr_newa (atype := .int) B hX 52 (by decide) rfl rfl (by decide) (fun _ => Iff.rfl) (Int32.not_lt.mpr h03.1) (xn_by h03.2 (by decide)) q198 hr1 eS2 dX11_init_6 (fun H hX => ?_)
  refine W.eq (g2 := F0 m 8 ls [.ref a3, .ref o]) (by rw [ea3]; first | done | rfl) ?_
  refine lv_dup hx hb dX11_init_8 rfl ?_
  refine lv_iconst (v := nI 0) hx hb dX11_init_9 ic0 ?_
  refine lv_iconst (v := (-1)) hx hb dX11_init_10 icm1 ?_
  obtain ⟨S6, eS6, hiS6, hf⟩ := ast_some hf
  refine xr_iast B hX hk4 hw5 hiS6 eS6 dX11_init_11 (fun H locs hX => ?_)
  refine w_i eS6 ?_
  have hk4 := ks_i eS6 hk4
  have hw5 := kw_i eS6 hw5
  refine lv_dup hx hb dX11_init_12 rfl ?_
  refine lv_iconst (v := nI 1) hx hb dX11_init_13 ic1 ?_
  refine lv_iconst (v := (-1)) hx hb dX11_init_14 icm1 ?_
  obtain ⟨S7, eS7, hiS7, hf⟩ := ast_some hf
  refine xr_iast B hX hk4 hw5 hiS7 eS7 dX11_init_15 (fun H locs hX => ?_)
  refine w_i eS7 ?_
  have hk4 := ks_i eS7 hk4
  have hw5 := kw_i eS7 hw5
  refine lv_dup hx hb dX11_init_16 rfl ?_
  refine lv_iconst (v := nI 2) hx hb dX11_init_17 ic2 ?_
  refine lv_iconst (v := (-1)) hx hb dX11_init_18 icm1 ?_
  obtain ⟨S8, eS8, hiS8, hf⟩ := ast_some hf
  refine xr_iast B hX hk4 hw5 hiS8 eS8 dX11_init_19 (fun H locs hX => ?_)
  refine w_i eS8 ?_
  have hk4 := ks_i eS8 hk4
  have hw5 := kw_i eS8 hw5
  refine lv_dup hx hb dX11_init_20 rfl ?_
  refine lv_iconst (v := nI 3) hx hb dX11_init_21 ic3 ?_
  refine lv_iconst (v := (-1)) hx hb dX11_init_22 icm1 ?_
  obtain ⟨S9, eS9, hiS9, hf⟩ := ast_some hf
  refine xr_iast B hX hk4 hw5 hiS9 eS9 dX11_init_23 (fun H locs hX => ?_)
  refine w_i eS9 ?_
  have hk4 := ks_i eS9 hk4
  have hw5 := kw_i eS9 hw5
  obtain ⟨hk10, hf⟩ := chk_some hf
  obtain ⟨hw11, hf⟩ := chk_some hf
  obtain ⟨S12, eS12, hf⟩ := bd_some hf
  refine xr_putF (S' := S12) (q := (RX11, TX11, 12)) (v := va_rf (some a3)) (ty0 := tyX11) B hnm hX 10 hk10 rfl (by decide) hw11 (by decide) (by rw [eS12]; exact x_Vup_r (k := 8) (j := 10) rfl (by decide)) tyX11_ok (fun i h1 h2 => nmX11 i (Nat.lt_of_lt_of_le h1 (by decide)) 10 (by decide) h2) rfl rfl rfl rfl q830 (fun _ h => h) dX11_init_24 (fun H locs hX => ?_)
  refine w_r eS12 ?_
  have hk4 := ks_r eS12 hk4
  have hw5 := kw_r eS12 hw5
  have hk10 := ks_r eS12 hk10
  have hw11 := kw_r eS12 hw11
  refine lv_aload_n hx hb dX11_init_27 rfl (lv_at hl 0 rfl) ?_
  refine lv_aload_n hx hb dX11_init_28 rfl (lv_at hl 1 rfl) ?_
  obtain ⟨S13, eS13, hf⟩ := bd_some hf
  refine xr_putF (S' := S13) (q := (RX11, TX11, 12)) (v := va_rf (some p0)) (ty0 := tyX11) B hnm hX 0 hk10 rfl (by decide) hw11 (by decide) (by rw [eS13]; exact x_Vup_r (k := 8) (j := 0) rfl (by decide)) tyX11_ok (fun i h1 h2 => nmX11 i (Nat.lt_of_lt_of_le h1 (by decide)) 0 (by decide) h2) rfl rfl rfl rfl q819 (fun _ h => h) dX11_init_29 (fun H locs hX => ?_)
  refine w_r eS13 ?_
  have hk4 := ks_r eS13 hk4
  have hw5 := kw_r eS13 hw5
  have hk10 := ks_r eS13 hk10
  have hw11 := kw_r eS13 hw11
  refine lv_aload_n hx hb dX11_init_32 rfl (lv_at hl 0 rfl) ?_
  refine lv_iload_n hx hb dX11_init_33 rfl (lv_at hl 2 rfl) ?_
  obtain ⟨S14, eS14, hf⟩ := bd_some hf
  refine xr_putF (S' := S14) (q := (RX11, TX11, 12)) (v := .int p1) (ty0 := tyX11) B hnm hX 1 hk10 rfl (by decide) hw11 (by decide) (by rw [eS14]; exact x_Vup_i (k := 8) (j := 1) rfl (by decide)) tyX11_ok (fun i h1 h2 => nmX11 i (Nat.lt_of_lt_of_le h1 (by decide)) 1 (by decide) h2) rfl rfl rfl rfl q820 (fun _ h => h) dX11_init_34 (fun H locs hX => ?_)
  refine w_i eS14 ?_
  have hk4 := ks_i eS14 hk4
  have hw5 := kw_i eS14 hw5
  have hk10 := ks_i eS14 hk10
  have hw11 := kw_i eS14 hw11
  refine lv_aload_n hx hb dX11_init_37 rfl (lv_at hl 0 rfl) ?_
  refine lv_aload_n hx hb dX11_init_38 rfl (lv_at hl 3 rfl) ?_
  obtain ⟨S15, eS15, hf⟩ := bd_some hf
  refine xr_putF (S' := S15) (q := (RX11, TX11, 12)) (v := va_rf (some p2)) (ty0 := tyX11) B hnm hX 2 hk10 rfl (by decide) hw11 (by decide) (by rw [eS15]; exact x_Vup_r (k := 8) (j := 2) rfl (by decide)) tyX11_ok (fun i h1 h2 => nmX11 i (Nat.lt_of_lt_of_le h1 (by decide)) 2 (by decide) h2) rfl rfl rfl rfl q821 (fun _ h => h) dX11_init_39 (fun H locs hX => ?_)
  refine w_r eS15 ?_
  have hk4 := ks_r eS15 hk4
  have hw5 := kw_r eS15 hw5
  have hk10 := ks_r eS15 hk10
  have hw11 := kw_r eS15 hw11
  refine lv_aload_n hx hb dX11_init_42 rfl (lv_at hl 0 rfl) ?_
  obtain ⟨S16, hcS16, hf⟩ := bnd_some hf
  refine xr_callVC (rest := []) (q := (RX11, TX11, 12)) B hX (c_X11_step l D S15 o hcS16) hk10 rfl (by decide) q627 q629 (Or.inl qs8) q125 q630 hd_X11_step ⟨Nat.le_of_ble_eq_true rfl, Nat.le_of_ble_eq_true rfl⟩ rfl hl.1 rfl (Nat.le_of_ble_eq_true rfl) dX11_init_43 (fun H locs hX => ?_)
  cases hf
  exact hret _ _ _ _ hX dX11_init_46
def f_X11_letter_J37_10 (p1 : Int32) (x16 : Int32) : Option Int32 :=
  (if p1 ≤ x16 then some (-1) else some x16)
def f_X11_letter (S : XS) (o : Nat) (p0 : Nat) (p1 : Int32) : Option Int32 :=
  chk (xk S o = 8) <| bnd (xr S 808 o 0) fun b2 => bnd (xs S 11) fun b3 => (if (some b2 : Option Nat) = some b3 then bnd (xr S 809 o 0) fun b6 => chk (xk S b6 = 21) <| bnd (f_J12_length S b6) fun r7 => (if r7 = nI 1 then bnd (xr S 809 o 0) fun b11 => chk (xk S b11 = 21) <| bnd (f_J12_charAt S b11 (nI 0)) fun r12 => chk (xk S p0 = 21) <| bnd (f_J12_indexOf S p0 r12) fun r14 => f_X11_letter_J37_10 p1 r14 else f_X11_letter_J37_10 p1 (-1)) else (if p1 ≤ (-1) then some (-1) else some (-1)))
set_option maxHeartbeats 4000000 in
set_option maxRecDepth 100000 in
theorem c_X11_letter (l : Launch) (D : XD) (S : XS) (o : Nat) (p0 : Nat) (p1 : Int32) {r : Int32} (hf : f_X11_letter S o p0 p1 = some r) : x_Met l yX11_letter cX11_letter 4 (Option.some Jvm.ClassFile.FieldType.int) 4 126 D [.ref o, .ref p0, .int p1] S (some (.int r)) S := by
  refine x_metI RX11 (by decide) rfl (Nat.le_of_ble_eq_true rfl) (fun p e s m args below meth c Q B hnm hret H locs hX ls hl => ?_)
  have hx := B.1
  have hb := B.2.1
  have hml := B.2.2.1
  have hown := B.2.2.2.1
  have hts := B.2.2.2.2
  have hl : lv_has ls 4 [(0, .ref o), (1, .ref p0), (2, .int p1)] := hl
  unfold f_X11_letter at hf
  refine lv_aload_n hx hb dX11_letter_0 rfl (lv_at hl 0 rfl) ?_
  obtain ⟨hk1, hf⟩ := chk_some hf
  obtain ⟨b2, hb2, hf⟩ := bnd_some hf
  refine xr_get (q := (RX11, TX11, 12)) B hX 8 hk1 rfl (by decide) (by decide) (v := .ref b2) (x_Vr (c := 8) (j := 8) rfl (by decide) hb2) q828 (fun _ h => h) dX11_letter_1 ?_
  obtain ⟨b3, hb3, hf⟩ := bnd_some hf
  refine xr_gets B hX (v := .ref b3) (x_statR hX 11 rfl hb3) q810 dX11_letter_4 ?_
  refine lv_acmp_ne (rx := some b2) (ry := some b3) (tgt := 36) hx hb dX11_letter_7 (by decide) (fun c4 => ?_) (fun c4 => ?_)
  · have hf := it_neg c4 hf
    refine lv_iconst (v := (-1)) hx hb dX11_letter_36 icm1 ?_
    refine lv_istore_n (lv' := [(3, .int (-1)), (0, .ref o), (1, .ref p0), (2, .int p1)]) hx hb dX11_letter_37 rfl hl (by decide) rfl (fun ls hl => ?_)
    refine lv_iload_n hx hb dX11_letter_38 rfl (lv_at hl 0 rfl) ?_
    refine lv_iload_n hx hb dX11_letter_39 rfl (lv_at hl 3 rfl) ?_
    refine lv_icmp_ge (tgt := 47) hx hb dX11_letter_40 (by decide) (fun c5 => ?_) (fun c5 => ?_)
    · have hf := it_pos c5 hf
      refine lv_iconst (v := (-1)) hx hb dX11_letter_47 icm1 ?_
      cases hf
      exact hret _ _ _ _ rfl hX dX11_letter_48
    · have hf := it_neg c5 hf
      refine lv_iload_n hx hb dX11_letter_43 rfl (lv_at hl 0 rfl) ?_
      refine lv_goto (tgt := 48) hx hb dX11_letter_44 (by decide) ?_
      cases hf
      exact hret _ _ _ _ rfl hX dX11_letter_48
  · have hf := it_pos c4 hf
    refine lv_aload_n hx hb dX11_letter_10 rfl (lv_at hl 0 rfl) ?_
    obtain ⟨b6, hb6, hf⟩ := bnd_some hf
    refine xr_get (q := (RX11, TX11, 12)) B hX 9 hk1 rfl (by decide) (by decide) (v := .ref b6) (x_Vr (c := 8) (j := 9) rfl (by decide) hb6) q829 (fun _ h => h) dX11_letter_11 ?_
    obtain ⟨hk8, hf⟩ := chk_some hf
    obtain ⟨r7, hcr7, hf⟩ := bnd_some hf
    refine xr_callVC (rest := []) (q := (RJ12, TJ12, 2)) B hX (c_J12_length l D S b6 hcr7) hk8 rfl (by decide) q982 q983 (Or.inl q984) q130 q985 hd_J12_length ⟨Nat.le_of_ble_eq_true rfl, Nat.le_of_ble_eq_true rfl⟩ rfl hl.1 rfl (Nat.le_of_ble_eq_true rfl) dX11_letter_14 (fun H locs hX => ?_)
    refine lv_iconst (v := nI 1) hx hb dX11_letter_17 ic1 ?_
    have j10 : ∀ (x16 : Int32), f_X11_letter_J37_10 p1 x16 = some r → ∀ (H : Heap) (locs : List Loc) (ls : Array Slot), x_I D S s H locs S → lv_has ls 4 [(2, .int p1)] → W p l e (x_R 4 126 S) s m args below meth c H locs (xz S - xz S) (xu S - xu S) Q (F0 m 37 ls [.int x16]) := by
      intro x16 hf
      intro H locs ls hX hl
      unfold f_X11_letter_J37_10 at hf
      refine lv_istore_n (lv' := [(3, .int x16), (2, .int p1)]) hx hb dX11_letter_37 rfl hl (by decide) rfl (fun ls hl => ?_)
      refine lv_iload_n hx hb dX11_letter_38 rfl (lv_at hl 0 rfl) ?_
      refine lv_iload_n hx hb dX11_letter_39 rfl (lv_at hl 1 rfl) ?_
      refine lv_icmp_ge (tgt := 47) hx hb dX11_letter_40 (by decide) (fun c17 => ?_) (fun c17 => ?_)
      · have hf := it_pos c17 hf
        refine lv_iconst (v := (-1)) hx hb dX11_letter_47 icm1 ?_
        cases hf
        exact hret _ _ _ _ rfl hX dX11_letter_48
      · have hf := it_neg c17 hf
        refine lv_iload_n hx hb dX11_letter_43 rfl (lv_at hl 0 rfl) ?_
        refine lv_goto (tgt := 48) hx hb dX11_letter_44 (by decide) ?_
        cases hf
        exact hret _ _ _ _ rfl hX dX11_letter_48
    refine lv_icmp_ne (tgt := 36) hx hb dX11_letter_18 (by decide) (fun c9 => ?_) (fun c9 => ?_)
    · have hf := it_neg c9 hf
      refine lv_iconst (v := (-1)) hx hb dX11_letter_36 icm1 ?_
      exact j10 (-1) hf _ _ _ hX (lv_sub hl [2] rfl)
    · have hf := it_pos c9 hf
      refine lv_aload_n hx hb dX11_letter_21 rfl (lv_at hl 1 rfl) ?_
      refine lv_aload_n hx hb dX11_letter_22 rfl (lv_at hl 0 rfl) ?_
      obtain ⟨b11, hb11, hf⟩ := bnd_some hf
      refine xr_get (q := (RX11, TX11, 12)) B hX 9 hk1 rfl (by decide) (by decide) (v := .ref b11) (x_Vr (c := 8) (j := 9) rfl (by decide) hb11) q829 (fun _ h => h) dX11_letter_23 ?_
      refine lv_iconst (v := nI 0) hx hb dX11_letter_26 ic0 ?_
      obtain ⟨hk13, hf⟩ := chk_some hf
      obtain ⟨r12, hcr12, hf⟩ := bnd_some hf
      refine xr_callVC (rest := [.ref p0]) (q := (RJ12, TJ12, 2)) B hX (c_J12_charAt l D S b11 (nI 0) hcr12) hk13 rfl (by decide) q990 q991 (Or.inl q992) q130 q993 hd_J12_charAt ⟨Nat.le_of_ble_eq_true rfl, Nat.le_of_ble_eq_true rfl⟩ rfl hl.1 rfl (Nat.le_of_ble_eq_true rfl) dX11_letter_27 (fun H locs hX => ?_)
      obtain ⟨hk15, hf⟩ := chk_some hf
      obtain ⟨r14, hcr14, hf⟩ := bnd_some hf
      refine xr_callVC (rest := []) (q := (RJ12, TJ12, 2)) B hX (c_J12_indexOf l D S p0 r12 hcr14) hk15 rfl (by decide) q1005 q1006 (Or.inl q1007) q130 q1008 hd_J12_indexOf ⟨Nat.le_of_ble_eq_true rfl, Nat.le_of_ble_eq_true rfl⟩ rfl hl.1 rfl (Nat.le_of_ble_eq_true rfl) dX11_letter_30 (fun H locs hX => ?_)
      refine lv_goto (tgt := 37) hx hb dX11_letter_33 (by decide) ?_
      exact j10 r14 hf _ _ _ hX (lv_sub hl [2] rfl)
def f_X11_takes (S : XS) (o : Nat) (p0 : Nat) : Option (Int32 × XS) :=
  chk (xk S o = 8) <| bnd (xr S 808 o 0) fun b2 => bnd (xs S 11) fun b3 => (if (some b2 : Option Nat) = some b3 then bnd (xr S 809 o 0) fun b5 => chk (xk S b5 = 21) <| bnd (f_J12_equals S b5 p0) fun r6 => (if r6 = 0 then some (nI 0, S) else bnd (f_X11_step S o) fun S9 => some (nI 1, S9)) else some (nI 0, S))
set_option maxHeartbeats 4000000 in
set_option maxRecDepth 100000 in
theorem c_X11_takes (l : Launch) (D : XD) (S : XS) (o : Nat) (p0 : Nat) {r : Int32} {S' : XS} (hf : f_X11_takes S o p0 = some (r, S')) : x_Met l yX11_takes cX11_takes 2 (Option.some Jvm.ClassFile.FieldType.boolean) 7 193 D [.ref o, .ref p0] S (some (.int r)) S' := by
  refine x_metI RX11 (by decide) rfl (Nat.le_of_ble_eq_true rfl) (fun p e s m args below meth c Q B hnm hret H locs hX ls hl => ?_)
  have hx := B.1
  have hb := B.2.1
  have hml := B.2.2.1
  have hown := B.2.2.2.1
  have hts := B.2.2.2.2
  have hl : lv_has ls 2 [(0, .ref o), (1, .ref p0)] := hl
  unfold f_X11_takes at hf
  refine lv_aload_n hx hb dX11_takes_0 rfl (lv_at hl 0 rfl) ?_
  obtain ⟨hk1, hf⟩ := chk_some hf
  obtain ⟨b2, hb2, hf⟩ := bnd_some hf
  refine xr_get (q := (RX11, TX11, 12)) B hX 8 hk1 rfl (by decide) (by decide) (v := .ref b2) (x_Vr (c := 8) (j := 8) rfl (by decide) hb2) q828 (fun _ h => h) dX11_takes_1 ?_
  obtain ⟨b3, hb3, hf⟩ := bnd_some hf
  refine xr_gets B hX (v := .ref b3) (x_statR hX 11 rfl hb3) q810 dX11_takes_4 ?_
  refine lv_acmp_ne (rx := some b2) (ry := some b3) (tgt := 21) hx hb dX11_takes_7 (by decide) (fun c4 => ?_) (fun c4 => ?_)
  · have hf := it_neg c4 hf
    refine lv_iconst (v := nI 0) hx hb dX11_takes_21 ic0 ?_
    cases hf
    exact hret _ _ _ _ rfl hX dX11_takes_22
  · have hf := it_pos c4 hf
    refine lv_aload_n hx hb dX11_takes_10 rfl (lv_at hl 0 rfl) ?_
    obtain ⟨b5, hb5, hf⟩ := bnd_some hf
    refine xr_get (q := (RX11, TX11, 12)) B hX 9 hk1 rfl (by decide) (by decide) (v := .ref b5) (x_Vr (c := 8) (j := 9) rfl (by decide) hb5) q829 (fun _ h => h) dX11_takes_11 ?_
    refine lv_aload_n hx hb dX11_takes_14 rfl (lv_at hl 1 rfl) ?_
    obtain ⟨hk7, hf⟩ := chk_some hf
    obtain ⟨r6, hcr6, hf⟩ := bnd_some hf
    refine xr_callVC (rest := []) (q := (RJ12, TJ12, 2)) B hX (c_J12_equals l D S b5 p0 hcr6) hk7 rfl (by decide) q941 q942 (Or.inl q943) q130 q944 hd_J12_equals ⟨Nat.le_of_ble_eq_true rfl, Nat.le_of_ble_eq_true rfl⟩ rfl hl.1 rfl (Nat.le_of_ble_eq_true rfl) dX11_takes_15 (fun H locs hX => ?_)
    refine lv_if_ne (tgt := 23) hx hb dX11_takes_18 (by decide) (fun c8 => ?_) (fun c8 => ?_)
    · have hf := it_neg c8 hf
      refine lv_aload_n hx hb dX11_takes_23 rfl (lv_at hl 0 rfl) ?_
      obtain ⟨S9, hcS9, hf⟩ := bnd_some hf
      refine xr_callVC (rest := []) (q := (RX11, TX11, 12)) B hX (c_X11_step l D S o hcS9) hk1 rfl (by decide) q627 q629 (Or.inl qs8) q125 q630 hd_X11_step ⟨Nat.le_of_ble_eq_true rfl, Nat.le_of_ble_eq_true rfl⟩ rfl hl.1 rfl (Nat.le_of_ble_eq_true rfl) dX11_takes_24 (fun H locs hX => ?_)
      refine lv_iconst (v := nI 1) hx hb dX11_takes_27 ic1 ?_
      cases hf
      exact hret _ _ _ _ rfl hX dX11_takes_28
    · have hf := it_pos c8 hf
      refine lv_iconst (v := nI 0) hx hb dX11_takes_21 ic0 ?_
      cases hf
      exact hret _ _ _ _ rfl hX dX11_takes_22
def f_X13_hasNumber (S : XS) (o : Nat) : Option Int32 :=
  bnd (xs S 7) fun b1 => (if (some o : Option Nat) = some b1 then some (nI 1) else bnd (xs S 8) fun b3 => (if (some o : Option Nat) = some b3 then some (nI 1) else some (nI 0)))
set_option maxHeartbeats 4000000 in
set_option maxRecDepth 100000 in
theorem c_X13_hasNumber (l : Launch) (D : XD) (S : XS) (o : Nat) {r : Int32} (hf : f_X13_hasNumber S o = some r) : x_Met l yX13_hasNumber cX13_hasNumber 1 (Option.some Jvm.ClassFile.FieldType.boolean) 0 0 D [.ref o] S (some (.int r)) S := by
  refine x_metI RX13 (by decide) rfl (Nat.le_of_ble_eq_true rfl) (fun p e s m args below meth c Q B hnm hret H locs hX ls hl => ?_)
  have hx := B.1
  have hb := B.2.1
  have hml := B.2.2.1
  have hown := B.2.2.2.1
  have hts := B.2.2.2.2
  have hl : lv_has ls 1 [(0, .ref o)] := hl
  unfold f_X13_hasNumber at hf
  refine lv_aload_n hx hb dX13_hasNumber_0 rfl (lv_at hl 0 rfl) ?_
  obtain ⟨b1, hb1, hf⟩ := bnd_some hf
  refine xr_gets B hX (v := .ref b1) (x_statR hX 7 rfl hb1) q961 dX13_hasNumber_1 ?_
  refine lv_acmp_eq (rx := some o) (ry := some b1) (tgt := 14) hx hb dX13_hasNumber_4 (by decide) (fun c2 => ?_) (fun c2 => ?_)
  · have hf := it_pos c2 hf
    refine lv_iconst (v := nI 1) hx hb dX13_hasNumber_14 ic1 ?_
    refine lv_goto (tgt := 19) hx hb dX13_hasNumber_15 (by decide) ?_
    cases hf
    exact hret _ _ _ _ rfl hX dX13_hasNumber_19
  · have hf := it_neg c2 hf
    refine lv_aload_n hx hb dX13_hasNumber_7 rfl (lv_at hl 0 rfl) ?_
    obtain ⟨b3, hb3, hf⟩ := bnd_some hf
    refine xr_gets B hX (v := .ref b3) (x_statR hX 8 rfl hb3) q963 dX13_hasNumber_8 ?_
    refine lv_acmp_ne (rx := some o) (ry := some b3) (tgt := 18) hx hb dX13_hasNumber_11 (by decide) (fun c4 => ?_) (fun c4 => ?_)
    · have hf := it_neg c4 hf
      refine lv_iconst (v := nI 0) hx hb dX13_hasNumber_18 ic0 ?_
      cases hf
      exact hret _ _ _ _ rfl hX dX13_hasNumber_19
    · have hf := it_pos c4 hf
      refine lv_iconst (v := nI 1) hx hb dX13_hasNumber_14 ic1 ?_
      refine lv_goto (tgt := 19) hx hb dX13_hasNumber_15 (by decide) ?_
      cases hf
      exact hret _ _ _ _ rfl hX dX13_hasNumber_19
def f_X14_init (S : XS) (o : Nat) : Option Unit :=
  some ()
set_option maxHeartbeats 4000000 in
set_option maxRecDepth 100000 in
theorem c_X14_init (l : Launch) (D : XD) (S : XS) (o : Nat) {r : Unit} (hf : f_X14_init S o = some r) : x_Met l yX14_init cX14_init 1 (Option.none : Option Jvm.ClassFile.FieldType) 1 60 D [.ref o] S none S := by
  refine x_metV RX14 (by decide) rfl (Nat.le_of_ble_eq_true rfl) (fun p e s m args below meth c Q B hnm hret H locs hX ls hl => ?_)
  have hx := B.1
  have hb := B.2.1
  have hml := B.2.2.1
  have hown := B.2.2.2.1
  have hts := B.2.2.2.2
  have hl : lv_has ls 1 [(0, .ref o)] := hl
  unfold f_X14_init at hf
  refine lv_aload_n hx hb dX14_init_0 rfl (lv_at hl 0 rfl) ?_
  refine W.objInit hx hb hown (hts _ q1074) (hts _ q154) (hts _ q155) rfl (by rw [hml]; exact hl.1) rfl dX14_init_1 (Nat.le_of_ble_eq_true rfl) (Nat.le_of_ble_eq_true rfl) ?_
  refine W.eq (g2 := F0 m 4 ls []) rfl ?_
  cases hf
  exact hret _ _ _ _ hX dX14_init_4
def f_X15_init (S : XS) (o : Nat) (p0 : Nat) (p1 : Int32) (p2 : Int32) (p3 : Int32) (p4 : Nat) : Option XS :=
  bnd (f_X14_init S o) fun r1 => chk (xk S o = 10) <| chk (xb S ≤ o) <| bd (s_r S 1000 o 0 (some p0)) fun S4 => bd (s_i S4 1001 o 0 p1) fun S5 => bd (s_i S5 1002 o 0 p2) fun S6 => bd (s_i S6 1003 o 0 p3) fun S7 => bd (s_r S7 1004 o 0 (some p4)) fun S8 => some S8
set_option maxHeartbeats 4000000 in
set_option maxRecDepth 100000 in
theorem c_X15_init (l : Launch) (D : XD) (S : XS) (o : Nat) (p0 : Nat) (p1 : Int32) (p2 : Int32) (p3 : Int32) (p4 : Nat) {S' : XS} (hf : f_X15_init S o p0 p1 p2 p3 p4 = some S') : x_Met l yX15_init cX15_init 6 (Option.none : Option Jvm.ClassFile.FieldType) 2 80 D [.ref o, .ref p0, .int p1, .int p2, .int p3, .ref p4] S none S' := by
  refine x_metV RX15 (by decide) rfl (Nat.le_of_ble_eq_true rfl) (fun p e s m args below meth c Q B hnm hret H locs hX ls hl => ?_)
  have hx := B.1
  have hb := B.2.1
  have hml := B.2.2.1
  have hown := B.2.2.2.1
  have hts := B.2.2.2.2
  have hl : lv_has ls 6 [(0, .ref o), (1, .ref p0), (2, .int p1), (3, .int p2), (4, .int p3), (5, .ref p4)] := hl
  unfold f_X15_init at hf
  refine lv_aload_n hx hb dX15_init_0 rfl (lv_at hl 0 rfl) ?_
  obtain ⟨r1, hcr1, hf⟩ := bnd_some hf
  refine xr_callIN (rest := []) B hX (c_X14_init l D S o hcr1) nq1071 q1072 q138 q1073 hd_X14_init rfl ⟨Nat.le_of_ble_eq_true rfl, Nat.le_of_ble_eq_true rfl⟩ rfl hl.1 rfl (Nat.le_of_ble_eq_true rfl) dX15_init_1 (fun H locs hX => ?_)
  refine lv_aload_n hx hb dX15_init_4 rfl (lv_at hl 0 rfl) ?_
  refine lv_aload_n hx hb dX15_init_5 rfl (lv_at hl 1 rfl) ?_
  obtain ⟨hk2, hf⟩ := chk_some hf
  obtain ⟨hw3, hf⟩ := chk_some hf
  obtain ⟨S4, eS4, hf⟩ := bd_some hf
  refine xr_putF (S' := S4) (q := (RX15, TX15, 5)) (v := va_rf (some p0)) (ty0 := tyX15) B hnm hX 0 hk2 rfl (by decide) hw3 (by decide) (by rw [eS4]; exact x_Vup_r (k := 10) (j := 0) rfl (by decide)) tyX15_ok (fun i h1 h2 => nmX15 i (Nat.lt_of_lt_of_le h1 (by decide)) 0 (by decide) h2) rfl rfl rfl rfl q1075 (fun _ h => h) dX15_init_6 (fun H locs hX => ?_)
  refine w_r eS4 ?_
  have hk2 := ks_r eS4 hk2
  have hw3 := kw_r eS4 hw3
  refine lv_aload_n hx hb dX15_init_9 rfl (lv_at hl 0 rfl) ?_
  refine lv_iload_n hx hb dX15_init_10 rfl (lv_at hl 2 rfl) ?_
  obtain ⟨S5, eS5, hf⟩ := bd_some hf
  refine xr_putF (S' := S5) (q := (RX15, TX15, 5)) (v := .int p1) (ty0 := tyX15) B hnm hX 1 hk2 rfl (by decide) hw3 (by decide) (by rw [eS5]; exact x_Vup_i (k := 10) (j := 1) rfl (by decide)) tyX15_ok (fun i h1 h2 => nmX15 i (Nat.lt_of_lt_of_le h1 (by decide)) 1 (by decide) h2) rfl rfl rfl rfl q1077 (fun _ h => h) dX15_init_11 (fun H locs hX => ?_)
  refine w_i eS5 ?_
  have hk2 := ks_i eS5 hk2
  have hw3 := kw_i eS5 hw3
  refine lv_aload_n hx hb dX15_init_14 rfl (lv_at hl 0 rfl) ?_
  refine lv_iload_n hx hb dX15_init_15 rfl (lv_at hl 3 rfl) ?_
  obtain ⟨S6, eS6, hf⟩ := bd_some hf
  refine xr_putF (S' := S6) (q := (RX15, TX15, 5)) (v := .int p2) (ty0 := tyX15) B hnm hX 2 hk2 rfl (by decide) hw3 (by decide) (by rw [eS6]; exact x_Vup_i (k := 10) (j := 2) rfl (by decide)) tyX15_ok (fun i h1 h2 => nmX15 i (Nat.lt_of_lt_of_le h1 (by decide)) 2 (by decide) h2) rfl rfl rfl rfl q1078 (fun _ h => h) dX15_init_16 (fun H locs hX => ?_)
  refine w_i eS6 ?_
  have hk2 := ks_i eS6 hk2
  have hw3 := kw_i eS6 hw3
  refine lv_aload_n hx hb dX15_init_19 rfl (lv_at hl 0 rfl) ?_
  refine lv_iload hx hb dX15_init_20 (lv_at hl 4 rfl) ?_
  obtain ⟨S7, eS7, hf⟩ := bd_some hf
  refine xr_putF (S' := S7) (q := (RX15, TX15, 5)) (v := .int p3) (ty0 := tyX15) B hnm hX 3 hk2 rfl (by decide) hw3 (by decide) (by rw [eS7]; exact x_Vup_i (k := 10) (j := 3) rfl (by decide)) tyX15_ok (fun i h1 h2 => nmX15 i (Nat.lt_of_lt_of_le h1 (by decide)) 3 (by decide) h2) rfl rfl rfl rfl q1080 (fun _ h => h) dX15_init_22 (fun H locs hX => ?_)
  refine w_i eS7 ?_
  have hk2 := ks_i eS7 hk2
  have hw3 := kw_i eS7 hw3
  refine lv_aload_n hx hb dX15_init_25 rfl (lv_at hl 0 rfl) ?_
  refine lv_aload hx hb dX15_init_26 (lv_at hl 5 rfl) ?_
  obtain ⟨S8, eS8, hf⟩ := bd_some hf
  refine xr_putF (S' := S8) (q := (RX15, TX15, 5)) (v := va_rf (some p4)) (ty0 := tyX15) B hnm hX 4 hk2 rfl (by decide) hw3 (by decide) (by rw [eS8]; exact x_Vup_r (k := 10) (j := 4) rfl (by decide)) tyX15_ok (fun i h1 h2 => nmX15 i (Nat.lt_of_lt_of_le h1 (by decide)) 4 (by decide) h2) rfl rfl rfl rfl q1082 (fun _ h => h) dX15_init_28 (fun H locs hX => ?_)
  refine w_r eS8 ?_
  have hk2 := ks_r eS8 hk2
  have hw3 := kw_r eS8 hw3
  cases hf
  exact hret _ _ _ _ hX dX15_init_31
def f_X8_isWithin (S : XS) (o : Nat) : Option Int32 :=
  chk (xk S o = 5) <| (if (xi S 500 o 0) = (xi S 501 o 0) then some (nI 1) else some (nI 0))
set_option maxHeartbeats 4000000 in
set_option maxRecDepth 100000 in
theorem c_X8_isWithin (l : Launch) (D : XD) (S : XS) (o : Nat) {r : Int32} (hf : f_X8_isWithin S o = some r) : x_Met l yX8_isWithin cX8_isWithin 1 (Option.some Jvm.ClassFile.FieldType.boolean) 0 0 D [.ref o] S (some (.int r)) S := by
  refine x_metI RX8 (by decide) rfl (Nat.le_of_ble_eq_true rfl) (fun p e s m args below meth c Q B hnm hret H locs hX ls hl => ?_)
  have hx := B.1
  have hb := B.2.1
  have hml := B.2.2.1
  have hown := B.2.2.2.1
  have hts := B.2.2.2.2
  have hl : lv_has ls 1 [(0, .ref o)] := hl
  unfold f_X8_isWithin at hf
  refine lv_aload_n hx hb dX8_isWithin_0 rfl (lv_at hl 0 rfl) ?_
  obtain ⟨hk1, hf⟩ := chk_some hf
  refine xr_get (q := (RX8, TX8, 2)) B hX 0 hk1 rfl (by decide) (by decide) (x_Vi rfl (by decide)) q419 (fun _ h => h) dX8_isWithin_1 ?_
  refine lv_aload_n hx hb dX8_isWithin_4 rfl (lv_at hl 0 rfl) ?_
  refine xr_get (q := (RX8, TX8, 2)) B hX 1 hk1 rfl (by decide) (by decide) (x_Vi rfl (by decide)) q425 (fun _ h => h) dX8_isWithin_5 ?_
  refine lv_icmp_ne (tgt := 15) hx hb dX8_isWithin_8 (by decide) (fun c2 => ?_) (fun c2 => ?_)
  · have hf := it_neg c2 hf
    refine lv_iconst (v := nI 0) hx hb dX8_isWithin_15 ic0 ?_
    cases hf
    exact hret _ _ _ _ rfl hX dX8_isWithin_16
  · have hf := it_pos c2 hf
    refine lv_iconst (v := nI 1) hx hb dX8_isWithin_11 ic1 ?_
    refine lv_goto (tgt := 16) hx hb dX8_isWithin_12 (by decide) ?_
    cases hf
    exact hret _ _ _ _ rfl hX dX8_isWithin_16
def f_X16_init (S : XS) (o : Nat) (p0 : Nat) (p1 : Nat) (p2 : Nat) : Option XS :=
  bnd (f_X14_init S o) fun r1 => chk (xk S o = 11) <| chk (xb S ≤ o) <| bd (s_r S 1100 o 0 (some p0)) fun S4 => bd (s_r S4 1101 o 0 (some p1)) fun S5 => bd (s_r S5 1102 o 0 (some p2)) fun S6 => some S6
set_option maxHeartbeats 4000000 in
set_option maxRecDepth 100000 in
theorem c_X16_init (l : Launch) (D : XD) (S : XS) (o : Nat) (p0 : Nat) (p1 : Nat) (p2 : Nat) {S' : XS} (hf : f_X16_init S o p0 p1 p2 = some S') : x_Met l yX16_init cX16_init 4 (Option.none : Option Jvm.ClassFile.FieldType) 2 80 D [.ref o, .ref p0, .ref p1, .ref p2] S none S' := by
  refine x_metV RX16 (by decide) rfl (Nat.le_of_ble_eq_true rfl) (fun p e s m args below meth c Q B hnm hret H locs hX ls hl => ?_)
  have hx := B.1
  have hb := B.2.1
  have hml := B.2.2.1
  have hown := B.2.2.2.1
  have hts := B.2.2.2.2
  have hl : lv_has ls 4 [(0, .ref o), (1, .ref p0), (2, .ref p1), (3, .ref p2)] := hl
  unfold f_X16_init at hf
  refine lv_aload_n hx hb dX16_init_0 rfl (lv_at hl 0 rfl) ?_
  obtain ⟨r1, hcr1, hf⟩ := bnd_some hf
  refine xr_callIN (rest := []) B hX (c_X14_init l D S o hcr1) nq1102 q1072 q138 q1073 hd_X14_init rfl ⟨Nat.le_of_ble_eq_true rfl, Nat.le_of_ble_eq_true rfl⟩ rfl hl.1 rfl (Nat.le_of_ble_eq_true rfl) dX16_init_1 (fun H locs hX => ?_)
  refine lv_aload_n hx hb dX16_init_4 rfl (lv_at hl 0 rfl) ?_
  refine lv_aload_n hx hb dX16_init_5 rfl (lv_at hl 1 rfl) ?_
  obtain ⟨hk2, hf⟩ := chk_some hf
  obtain ⟨hw3, hf⟩ := chk_some hf
  obtain ⟨S4, eS4, hf⟩ := bd_some hf
  refine xr_putF (S' := S4) (q := (RX16, TX16, 3)) (v := va_rf (some p0)) (ty0 := tyX16) B hnm hX 0 hk2 rfl (by decide) hw3 (by decide) (by rw [eS4]; exact x_Vup_r (k := 11) (j := 0) rfl (by decide)) tyX16_ok (fun i h1 h2 => nmX16 i (Nat.lt_of_lt_of_le h1 (by decide)) 0 (by decide) h2) rfl rfl rfl rfl q1103 (fun _ h => h) dX16_init_6 (fun H locs hX => ?_)
  refine w_r eS4 ?_
  have hk2 := ks_r eS4 hk2
  have hw3 := kw_r eS4 hw3
  refine lv_aload_n hx hb dX16_init_9 rfl (lv_at hl 0 rfl) ?_
  refine lv_aload_n hx hb dX16_init_10 rfl (lv_at hl 2 rfl) ?_
  obtain ⟨S5, eS5, hf⟩ := bd_some hf
  refine xr_putF (S' := S5) (q := (RX16, TX16, 3)) (v := va_rf (some p1)) (ty0 := tyX16) B hnm hX 1 hk2 rfl (by decide) hw3 (by decide) (by rw [eS5]; exact x_Vup_r (k := 11) (j := 1) rfl (by decide)) tyX16_ok (fun i h1 h2 => nmX16 i (Nat.lt_of_lt_of_le h1 (by decide)) 1 (by decide) h2) rfl rfl rfl rfl q1104 (fun _ h => h) dX16_init_11 (fun H locs hX => ?_)
  refine w_r eS5 ?_
  have hk2 := ks_r eS5 hk2
  have hw3 := kw_r eS5 hw3
  refine lv_aload_n hx hb dX16_init_14 rfl (lv_at hl 0 rfl) ?_
  refine lv_aload_n hx hb dX16_init_15 rfl (lv_at hl 3 rfl) ?_
  obtain ⟨S6, eS6, hf⟩ := bd_some hf
  refine xr_putF (S' := S6) (q := (RX16, TX16, 3)) (v := va_rf (some p2)) (ty0 := tyX16) B hnm hX 2 hk2 rfl (by decide) hw3 (by decide) (by rw [eS6]; exact x_Vup_r (k := 11) (j := 2) rfl (by decide)) tyX16_ok (fun i h1 h2 => nmX16 i (Nat.lt_of_lt_of_le h1 (by decide)) 2 (by decide) h2) rfl rfl rfl rfl q1105 (fun _ h => h) dX16_init_16 (fun H locs hX => ?_)
  refine w_r eS6 ?_
  have hk2 := ks_r eS6 hk2
  have hw3 := kw_r eS6 hw3
  cases hf
  exact hret _ _ _ _ hX dX16_init_19
def f_X17_init (S : XS) (o : Nat) (p0 : Nat) : Option XS :=
  bnd (f_X14_init S o) fun r1 => chk (xk S o = 12) <| chk (xb S ≤ o) <| bd (s_r S 1200 o 0 (some p0)) fun S4 => some S4
set_option maxHeartbeats 4000000 in
set_option maxRecDepth 100000 in
theorem c_X17_init (l : Launch) (D : XD) (S : XS) (o : Nat) (p0 : Nat) {S' : XS} (hf : f_X17_init S o p0 = some S') : x_Met l yX17_init cX17_init 2 (Option.none : Option Jvm.ClassFile.FieldType) 2 80 D [.ref o, .ref p0] S none S' := by
  refine x_metV RX17 (by decide) rfl (Nat.le_of_ble_eq_true rfl) (fun p e s m args below meth c Q B hnm hret H locs hX ls hl => ?_)
  have hx := B.1
  have hb := B.2.1
  have hml := B.2.2.1
  have hown := B.2.2.2.1
  have hts := B.2.2.2.2
  have hl : lv_has ls 2 [(0, .ref o), (1, .ref p0)] := hl
  unfold f_X17_init at hf
  refine lv_aload_n hx hb dX17_init_0 rfl (lv_at hl 0 rfl) ?_
  obtain ⟨r1, hcr1, hf⟩ := bnd_some hf
  refine xr_callIN (rest := []) B hX (c_X14_init l D S o hcr1) nq1119 q1072 q138 q1073 hd_X14_init rfl ⟨Nat.le_of_ble_eq_true rfl, Nat.le_of_ble_eq_true rfl⟩ rfl hl.1 rfl (Nat.le_of_ble_eq_true rfl) dX17_init_1 (fun H locs hX => ?_)
  refine lv_aload_n hx hb dX17_init_4 rfl (lv_at hl 0 rfl) ?_
  refine lv_aload_n hx hb dX17_init_5 rfl (lv_at hl 1 rfl) ?_
  obtain ⟨hk2, hf⟩ := chk_some hf
  obtain ⟨hw3, hf⟩ := chk_some hf
  obtain ⟨S4, eS4, hf⟩ := bd_some hf
  refine xr_putF (S' := S4) (q := (RX17, TX17, 1)) (v := va_rf (some p0)) (ty0 := tyX17) B hnm hX 0 hk2 rfl (by decide) hw3 (by decide) (by rw [eS4]; exact x_Vup_r (k := 12) (j := 0) rfl (by decide)) tyX17_ok (fun i h1 h2 => nmX17 i (Nat.lt_of_lt_of_le h1 (by decide)) 0 (by decide) h2) rfl rfl rfl rfl q1120 (fun _ h => h) dX17_init_6 (fun H locs hX => ?_)
  refine w_r eS4 ?_
  have hk2 := ks_r eS4 hk2
  have hw3 := kw_r eS4 hw3
  cases hf
  exact hret _ _ _ _ hX dX17_init_9
def f_X18_init (S : XS) (o : Nat) (p0 : Int32) (p1 : Int32) : Option XS :=
  bnd (f_X14_init S o) fun r1 => chk (xk S o = 13) <| chk (xb S ≤ o) <| bd (s_i S 1300 o 0 p0) fun S4 => bd (s_i S4 1301 o 0 p1) fun S5 => some S5
set_option maxHeartbeats 4000000 in
set_option maxRecDepth 100000 in
theorem c_X18_init (l : Launch) (D : XD) (S : XS) (o : Nat) (p0 : Int32) (p1 : Int32) {S' : XS} (hf : f_X18_init S o p0 p1 = some S') : x_Met l yX18_init cX18_init 3 (Option.none : Option Jvm.ClassFile.FieldType) 2 80 D [.ref o, .int p0, .int p1] S none S' := by
  refine x_metV RX18 (by decide) rfl (Nat.le_of_ble_eq_true rfl) (fun p e s m args below meth c Q B hnm hret H locs hX ls hl => ?_)
  have hx := B.1
  have hb := B.2.1
  have hml := B.2.2.1
  have hown := B.2.2.2.1
  have hts := B.2.2.2.2
  have hl : lv_has ls 3 [(0, .ref o), (1, .int p0), (2, .int p1)] := hl
  unfold f_X18_init at hf
  refine lv_aload_n hx hb dX18_init_0 rfl (lv_at hl 0 rfl) ?_
  obtain ⟨r1, hcr1, hf⟩ := bnd_some hf
  refine xr_callIN (rest := []) B hX (c_X14_init l D S o hcr1) nq1134 q1072 q138 q1073 hd_X14_init rfl ⟨Nat.le_of_ble_eq_true rfl, Nat.le_of_ble_eq_true rfl⟩ rfl hl.1 rfl (Nat.le_of_ble_eq_true rfl) dX18_init_1 (fun H locs hX => ?_)
  refine lv_aload_n hx hb dX18_init_4 rfl (lv_at hl 0 rfl) ?_
  refine lv_iload_n hx hb dX18_init_5 rfl (lv_at hl 1 rfl) ?_
  obtain ⟨hk2, hf⟩ := chk_some hf
  obtain ⟨hw3, hf⟩ := chk_some hf
  obtain ⟨S4, eS4, hf⟩ := bd_some hf
  refine xr_putF (S' := S4) (q := (RX18, TX18, 2)) (v := .int p0) (ty0 := tyX18) B hnm hX 0 hk2 rfl (by decide) hw3 (by decide) (by rw [eS4]; exact x_Vup_i (k := 13) (j := 0) rfl (by decide)) tyX18_ok (fun i h1 h2 => nmX18 i (Nat.lt_of_lt_of_le h1 (by decide)) 0 (by decide) h2) rfl rfl rfl rfl q1135 (fun _ h => h) dX18_init_6 (fun H locs hX => ?_)
  refine w_i eS4 ?_
  have hk2 := ks_i eS4 hk2
  have hw3 := kw_i eS4 hw3
  refine lv_aload_n hx hb dX18_init_9 rfl (lv_at hl 0 rfl) ?_
  refine lv_iload_n hx hb dX18_init_10 rfl (lv_at hl 2 rfl) ?_
  obtain ⟨S5, eS5, hf⟩ := bd_some hf
  refine xr_putF (S' := S5) (q := (RX18, TX18, 2)) (v := .int p1) (ty0 := tyX18) B hnm hX 1 hk2 rfl (by decide) hw3 (by decide) (by rw [eS5]; exact x_Vup_i (k := 13) (j := 1) rfl (by decide)) tyX18_ok (fun i h1 h2 => nmX18 i (Nat.lt_of_lt_of_le h1 (by decide)) 1 (by decide) h2) rfl rfl rfl rfl q1136 (fun _ h => h) dX18_init_11 (fun H locs hX => ?_)
  refine w_i eS5 ?_
  have hk2 := ks_i eS5 hk2
  have hw3 := kw_i eS5 hw3
  cases hf
  exact hret _ _ _ _ hX dX18_init_14
def f_X19_init (S : XS) (o : Nat) (p0 : Int32) (p1 : Int32) (p2 : Int32) : Option XS :=
  bnd (f_X14_init S o) fun r1 => chk (xk S o = 14) <| chk (xb S ≤ o) <| bd (s_i S 1400 o 0 p0) fun S4 => bd (s_i S4 1401 o 0 p1) fun S5 => bd (s_i S5 1402 o 0 p2) fun S6 => some S6
set_option maxHeartbeats 4000000 in
set_option maxRecDepth 100000 in
theorem c_X19_init (l : Launch) (D : XD) (S : XS) (o : Nat) (p0 : Int32) (p1 : Int32) (p2 : Int32) {S' : XS} (hf : f_X19_init S o p0 p1 p2 = some S') : x_Met l yX19_init cX19_init 4 (Option.none : Option Jvm.ClassFile.FieldType) 2 80 D [.ref o, .int p0, .int p1, .int p2] S none S' := by
  refine x_metV RX19 (by decide) rfl (Nat.le_of_ble_eq_true rfl) (fun p e s m args below meth c Q B hnm hret H locs hX ls hl => ?_)
  have hx := B.1
  have hb := B.2.1
  have hml := B.2.2.1
  have hown := B.2.2.2.1
  have hts := B.2.2.2.2
  have hl : lv_has ls 4 [(0, .ref o), (1, .int p0), (2, .int p1), (3, .int p2)] := hl
  unfold f_X19_init at hf
  refine lv_aload_n hx hb dX19_init_0 rfl (lv_at hl 0 rfl) ?_
  obtain ⟨r1, hcr1, hf⟩ := bnd_some hf
  refine xr_callIN (rest := []) B hX (c_X14_init l D S o hcr1) nq1164 q1072 q138 q1073 hd_X14_init rfl ⟨Nat.le_of_ble_eq_true rfl, Nat.le_of_ble_eq_true rfl⟩ rfl hl.1 rfl (Nat.le_of_ble_eq_true rfl) dX19_init_1 (fun H locs hX => ?_)
  refine lv_aload_n hx hb dX19_init_4 rfl (lv_at hl 0 rfl) ?_
  refine lv_iload_n hx hb dX19_init_5 rfl (lv_at hl 1 rfl) ?_
  obtain ⟨hk2, hf⟩ := chk_some hf
  obtain ⟨hw3, hf⟩ := chk_some hf
  obtain ⟨S4, eS4, hf⟩ := bd_some hf
  refine xr_putF (S' := S4) (q := (RX19, TX19, 3)) (v := .int p0) (ty0 := tyX19) B hnm hX 0 hk2 rfl (by decide) hw3 (by decide) (by rw [eS4]; exact x_Vup_i (k := 14) (j := 0) rfl (by decide)) tyX19_ok (fun i h1 h2 => nmX19 i (Nat.lt_of_lt_of_le h1 (by decide)) 0 (by decide) h2) rfl rfl rfl rfl q1165 (fun _ h => h) dX19_init_6 (fun H locs hX => ?_)
  refine w_i eS4 ?_
  have hk2 := ks_i eS4 hk2
  have hw3 := kw_i eS4 hw3
  refine lv_aload_n hx hb dX19_init_9 rfl (lv_at hl 0 rfl) ?_
  refine lv_iload_n hx hb dX19_init_10 rfl (lv_at hl 2 rfl) ?_
  obtain ⟨S5, eS5, hf⟩ := bd_some hf
  refine xr_putF (S' := S5) (q := (RX19, TX19, 3)) (v := .int p1) (ty0 := tyX19) B hnm hX 1 hk2 rfl (by decide) hw3 (by decide) (by rw [eS5]; exact x_Vup_i (k := 14) (j := 1) rfl (by decide)) tyX19_ok (fun i h1 h2 => nmX19 i (Nat.lt_of_lt_of_le h1 (by decide)) 1 (by decide) h2) rfl rfl rfl rfl q1166 (fun _ h => h) dX19_init_11 (fun H locs hX => ?_)
  refine w_i eS5 ?_
  have hk2 := ks_i eS5 hk2
  have hw3 := kw_i eS5 hw3
  refine lv_aload_n hx hb dX19_init_14 rfl (lv_at hl 0 rfl) ?_
  refine lv_iload_n hx hb dX19_init_15 rfl (lv_at hl 3 rfl) ?_
  obtain ⟨S6, eS6, hf⟩ := bd_some hf
  refine xr_putF (S' := S6) (q := (RX19, TX19, 3)) (v := .int p2) (ty0 := tyX19) B hnm hX 2 hk2 rfl (by decide) hw3 (by decide) (by rw [eS6]; exact x_Vup_i (k := 14) (j := 2) rfl (by decide)) tyX19_ok (fun i h1 h2 => nmX19 i (Nat.lt_of_lt_of_le h1 (by decide)) 2 (by decide) h2) rfl rfl rfl rfl q1167 (fun _ h => h) dX19_init_16 (fun H locs hX => ?_)
  refine w_i eS6 ?_
  have hk2 := ks_i eS6 hk2
  have hw3 := kw_i eS6 hw3
  cases hf
  exact hret _ _ _ _ hX dX19_init_19
def f_X20_init (S : XS) (o : Nat) (p0 : Int32) : Option XS :=
  bnd (f_X14_init S o) fun r1 => chk (xk S o = 15) <| chk (xb S ≤ o) <| bd (s_i S 1500 o 0 p0) fun S4 => some S4
set_option maxHeartbeats 4000000 in
set_option maxRecDepth 100000 in
theorem c_X20_init (l : Launch) (D : XD) (S : XS) (o : Nat) (p0 : Int32) {S' : XS} (hf : f_X20_init S o p0 = some S') : x_Met l yX20_init cX20_init 2 (Option.none : Option Jvm.ClassFile.FieldType) 2 80 D [.ref o, .int p0] S none S' := by
  refine x_metV RX20 (by decide) rfl (Nat.le_of_ble_eq_true rfl) (fun p e s m args below meth c Q B hnm hret H locs hX ls hl => ?_)
  have hx := B.1
  have hb := B.2.1
  have hml := B.2.2.1
  have hown := B.2.2.2.1
  have hts := B.2.2.2.2
  have hl : lv_has ls 2 [(0, .ref o), (1, .int p0)] := hl
  unfold f_X20_init at hf
  refine lv_aload_n hx hb dX20_init_0 rfl (lv_at hl 0 rfl) ?_
  obtain ⟨r1, hcr1, hf⟩ := bnd_some hf
  refine xr_callIN (rest := []) B hX (c_X14_init l D S o hcr1) nq1181 q1072 q138 q1073 hd_X14_init rfl ⟨Nat.le_of_ble_eq_true rfl, Nat.le_of_ble_eq_true rfl⟩ rfl hl.1 rfl (Nat.le_of_ble_eq_true rfl) dX20_init_1 (fun H locs hX => ?_)
  refine lv_aload_n hx hb dX20_init_4 rfl (lv_at hl 0 rfl) ?_
  refine lv_iload_n hx hb dX20_init_5 rfl (lv_at hl 1 rfl) ?_
  obtain ⟨hk2, hf⟩ := chk_some hf
  obtain ⟨hw3, hf⟩ := chk_some hf
  obtain ⟨S4, eS4, hf⟩ := bd_some hf
  refine xr_putF (S' := S4) (q := (RX20, TX20, 1)) (v := .int p0) (ty0 := tyX20) B hnm hX 0 hk2 rfl (by decide) hw3 (by decide) (by rw [eS4]; exact x_Vup_i (k := 15) (j := 0) rfl (by decide)) tyX20_ok (fun i h1 h2 => nmX20 i (Nat.lt_of_lt_of_le h1 (by decide)) 0 (by decide) h2) rfl rfl rfl rfl q1182 (fun _ h => h) dX20_init_6 (fun H locs hX => ?_)
  refine w_i eS4 ?_
  have hk2 := ks_i eS4 hk2
  have hw3 := kw_i eS4 hw3
  cases hf
  exact hret _ _ _ _ hX dX20_init_9
def f_X21_init (S : XS) (o : Nat) (p0 : Int32) (p1 : Int32) (p2 : Int32) : Option XS :=
  bnd (f_X14_init S o) fun r1 => chk (xk S o = 16) <| chk (xb S ≤ o) <| bd (s_i S 1600 o 0 p0) fun S4 => bd (s_i S4 1601 o 0 p1) fun S5 => bd (s_i S5 1602 o 0 p2) fun S6 => some S6
set_option maxHeartbeats 4000000 in
set_option maxRecDepth 100000 in
theorem c_X21_init (l : Launch) (D : XD) (S : XS) (o : Nat) (p0 : Int32) (p1 : Int32) (p2 : Int32) {S' : XS} (hf : f_X21_init S o p0 p1 p2 = some S') : x_Met l yX21_init cX21_init 4 (Option.none : Option Jvm.ClassFile.FieldType) 2 80 D [.ref o, .int p0, .int p1, .int p2] S none S' := by
  refine x_metV RX21 (by decide) rfl (Nat.le_of_ble_eq_true rfl) (fun p e s m args below meth c Q B hnm hret H locs hX ls hl => ?_)
  have hx := B.1
  have hb := B.2.1
  have hml := B.2.2.1
  have hown := B.2.2.2.1
  have hts := B.2.2.2.2
  have hl : lv_has ls 4 [(0, .ref o), (1, .int p0), (2, .int p1), (3, .int p2)] := hl
  unfold f_X21_init at hf
  refine lv_aload_n hx hb dX21_init_0 rfl (lv_at hl 0 rfl) ?_
  obtain ⟨r1, hcr1, hf⟩ := bnd_some hf
  refine xr_callIN (rest := []) B hX (c_X14_init l D S o hcr1) nq1192 q1072 q138 q1073 hd_X14_init rfl ⟨Nat.le_of_ble_eq_true rfl, Nat.le_of_ble_eq_true rfl⟩ rfl hl.1 rfl (Nat.le_of_ble_eq_true rfl) dX21_init_1 (fun H locs hX => ?_)
  refine lv_aload_n hx hb dX21_init_4 rfl (lv_at hl 0 rfl) ?_
  refine lv_iload_n hx hb dX21_init_5 rfl (lv_at hl 1 rfl) ?_
  obtain ⟨hk2, hf⟩ := chk_some hf
  obtain ⟨hw3, hf⟩ := chk_some hf
  obtain ⟨S4, eS4, hf⟩ := bd_some hf
  refine xr_putF (S' := S4) (q := (RX21, TX21, 3)) (v := .int p0) (ty0 := tyX21) B hnm hX 0 hk2 rfl (by decide) hw3 (by decide) (by rw [eS4]; exact x_Vup_i (k := 16) (j := 0) rfl (by decide)) tyX21_ok (fun i h1 h2 => nmX21 i (Nat.lt_of_lt_of_le h1 (by decide)) 0 (by decide) h2) rfl rfl rfl rfl q1193 (fun _ h => h) dX21_init_6 (fun H locs hX => ?_)
  refine w_i eS4 ?_
  have hk2 := ks_i eS4 hk2
  have hw3 := kw_i eS4 hw3
  refine lv_aload_n hx hb dX21_init_9 rfl (lv_at hl 0 rfl) ?_
  refine lv_iload_n hx hb dX21_init_10 rfl (lv_at hl 2 rfl) ?_
  obtain ⟨S5, eS5, hf⟩ := bd_some hf
  refine xr_putF (S' := S5) (q := (RX21, TX21, 3)) (v := .int p1) (ty0 := tyX21) B hnm hX 1 hk2 rfl (by decide) hw3 (by decide) (by rw [eS5]; exact x_Vup_i (k := 16) (j := 1) rfl (by decide)) tyX21_ok (fun i h1 h2 => nmX21 i (Nat.lt_of_lt_of_le h1 (by decide)) 1 (by decide) h2) rfl rfl rfl rfl q1194 (fun _ h => h) dX21_init_11 (fun H locs hX => ?_)
  refine w_i eS5 ?_
  have hk2 := ks_i eS5 hk2
  have hw3 := kw_i eS5 hw3
  refine lv_aload_n hx hb dX21_init_14 rfl (lv_at hl 0 rfl) ?_
  refine lv_iload_n hx hb dX21_init_15 rfl (lv_at hl 3 rfl) ?_
  obtain ⟨S6, eS6, hf⟩ := bd_some hf
  refine xr_putF (S' := S6) (q := (RX21, TX21, 3)) (v := .int p2) (ty0 := tyX21) B hnm hX 2 hk2 rfl (by decide) hw3 (by decide) (by rw [eS6]; exact x_Vup_i (k := 16) (j := 2) rfl (by decide)) tyX21_ok (fun i h1 h2 => nmX21 i (Nat.lt_of_lt_of_le h1 (by decide)) 2 (by decide) h2) rfl rfl rfl rfl q1195 (fun _ h => h) dX21_init_16 (fun H locs hX => ?_)
  refine w_i eS6 ?_
  have hk2 := ks_i eS6 hk2
  have hw3 := kw_i eS6 hw3
  cases hf
  exact hret _ _ _ _ hX dX21_init_19
def f_X0_fault (S : XS) (o : Nat) (p0 : Int32) : Option Int32 :=
  (if p0 = 0 then chk (xk S o = 1) <| bnd (xr S 100 o 0) fun b7 => chk (xk S b7 = 2) <| some (xi S 202 b7 0) else (if p0 = nI 1 then chk (xk S o = 1) <| bnd (xr S 100 o 0) fun b4 => chk (xk S b4 = 2) <| some (xi S 203 b4 0) else some (-1)))
set_option maxHeartbeats 4000000 in
set_option maxRecDepth 100000 in
theorem c_X0_fault (l : Launch) (D : XD) (S : XS) (o : Nat) (p0 : Int32) {r : Int32} (hf : f_X0_fault S o p0 = some r) : x_Met l yX0_fault cX0_fault 2 (Option.some Jvm.ClassFile.FieldType.int) 0 0 D [.ref o, .int p0] S (some (.int r)) S := by
  refine x_metI RX0 (by decide) rfl (Nat.le_of_ble_eq_true rfl) (fun p e s m args below meth c Q B hnm hret H locs hX ls hl => ?_)
  have hx := B.1
  have hb := B.2.1
  have hml := B.2.2.1
  have hown := B.2.2.2.1
  have hts := B.2.2.2.2
  have hl : lv_has ls 2 [(0, .ref o), (1, .int p0)] := hl
  unfold f_X0_fault at hf
  refine lv_iload_n hx hb dX0_fault_0 rfl (lv_at hl 1 rfl) ?_
  refine lv_if_ne (tgt := 14) hx hb dX0_fault_1 (by decide) (fun c1 => ?_) (fun c1 => ?_)
  · have hf := it_neg c1 hf
    refine lv_iload_n hx hb dX0_fault_14 rfl (lv_at hl 1 rfl) ?_
    refine lv_iconst (v := nI 1) hx hb dX0_fault_15 ic1 ?_
    refine lv_icmp_ne (tgt := 29) hx hb dX0_fault_16 (by decide) (fun c2 => ?_) (fun c2 => ?_)
    · have hf := it_neg c2 hf
      refine lv_iconst (v := (-1)) hx hb dX0_fault_29 icm1 ?_
      cases hf
      exact hret _ _ _ _ rfl hX dX0_fault_30
    · have hf := it_pos c2 hf
      refine lv_aload_n hx hb dX0_fault_19 rfl (lv_at hl 0 rfl) ?_
      obtain ⟨hk3, hf⟩ := chk_some hf
      obtain ⟨b4, hb4, hf⟩ := bnd_some hf
      refine xr_get (q := (RX0, TX0, 14)) B hX 0 hk3 rfl (by decide) (by decide) (v := .ref b4) (x_Vr (c := 1) (j := 0) rfl (by decide) hb4) q339 (fun _ h => h) dX0_fault_20 ?_
      obtain ⟨hk5, hf⟩ := chk_some hf
      refine xr_getN (q := (RX1, TX1, 14)) B hX 3 hk5 rfl (by decide) (by decide) (x_Vi rfl (by decide)) nq224 (fun _ h => h) dX0_fault_23 ?_
      refine lv_goto (tgt := 30) hx hb dX0_fault_26 (by decide) ?_
      cases hf
      exact hret _ _ _ _ rfl hX dX0_fault_30
  · have hf := it_pos c1 hf
    refine lv_aload_n hx hb dX0_fault_4 rfl (lv_at hl 0 rfl) ?_
    obtain ⟨hk6, hf⟩ := chk_some hf
    obtain ⟨b7, hb7, hf⟩ := bnd_some hf
    refine xr_get (q := (RX0, TX0, 14)) B hX 0 hk6 rfl (by decide) (by decide) (v := .ref b7) (x_Vr (c := 1) (j := 0) rfl (by decide) hb7) q339 (fun _ h => h) dX0_fault_5 ?_
    obtain ⟨hk8, hf⟩ := chk_some hf
    refine xr_getN (q := (RX1, TX1, 14)) B hX 2 hk8 rfl (by decide) (by decide) (x_Vi rfl (by decide)) nq222 (fun _ h => h) dX0_fault_8 ?_
    refine lv_goto (tgt := 30) hx hb dX0_fault_11 (by decide) ?_
    cases hf
    exact hret _ _ _ _ rfl hX dX0_fault_30
def f_X0_isStory (S : XS) (o : Nat) (p0 : Int32) : Option Int32 :=
  chk (xk S o = 1) <| bnd (xr S 100 o 0) fun b2 => chk (xk S b2 = 2) <| bnd (xr S 211 b2 0) fun b4 => chk (xk S b4 = 19) <| bnd (f_J2_size S b4) fun r5 => bnd (f_X0_isIn p0 (nI 0) (r5 - nI 1)) fun r7 => chk (r7 = 0 ∨ r7 = 1) <| some r7
set_option maxHeartbeats 4000000 in
set_option maxRecDepth 100000 in
theorem c_X0_isStory (l : Launch) (D : XD) (S : XS) (o : Nat) (p0 : Int32) {r : Int32} (hf : f_X0_isStory S o p0 = some r) : x_Met l yX0_isStory cX0_isStory 2 (Option.some Jvm.ClassFile.FieldType.boolean) 1 22 D [.ref o, .int p0] S (some (.int r)) S := by
  refine x_metI RX0 (by decide) rfl (Nat.le_of_ble_eq_true rfl) (fun p e s m args below meth c Q B hnm hret H locs hX ls hl => ?_)
  have hx := B.1
  have hb := B.2.1
  have hml := B.2.2.1
  have hown := B.2.2.2.1
  have hts := B.2.2.2.2
  have hl : lv_has ls 2 [(0, .ref o), (1, .int p0)] := hl
  unfold f_X0_isStory at hf
  refine lv_iload_n hx hb dX0_isStory_0 rfl (lv_at hl 1 rfl) ?_
  refine lv_iconst (v := nI 0) hx hb dX0_isStory_1 ic0 ?_
  refine lv_aload_n hx hb dX0_isStory_2 rfl (lv_at hl 0 rfl) ?_
  obtain ⟨hk1, hf⟩ := chk_some hf
  obtain ⟨b2, hb2, hf⟩ := bnd_some hf
  refine xr_get (q := (RX0, TX0, 14)) B hX 0 hk1 rfl (by decide) (by decide) (v := .ref b2) (x_Vr (c := 1) (j := 0) rfl (by decide) hb2) q339 (fun _ h => h) dX0_isStory_3 ?_
  obtain ⟨hk3, hf⟩ := chk_some hf
  obtain ⟨b4, hb4, hf⟩ := bnd_some hf
  refine xr_getN (q := (RX1, TX1, 14)) B hX 11 hk3 rfl (by decide) (by decide) (v := .ref b4) (x_Vr (c := 2) (j := 11) rfl (by decide) hb4) nq241 (fun _ h => h) dX0_isStory_6 ?_
  obtain ⟨hk6, hf⟩ := chk_some hf
  obtain ⟨r5, hcr5, hf⟩ := bnd_some hf
  refine xr_callVC (rest := [.int (nI 0), .int p0]) (q := (RJ2, TJ2, 3)) B hX (c_J2_size l D S b4 hcr5) hk6 rfl (by decide) q409 q410 (Or.inl q411) q108 q412 hd_J2_size ⟨Nat.le_of_ble_eq_true rfl, Nat.le_of_ble_eq_true rfl⟩ rfl hl.1 rfl (Nat.le_of_ble_eq_true rfl) dX0_isStory_9 (fun H locs hX => ?_)
  refine lv_iconst (v := nI 1) hx hb dX0_isStory_12 ic1 ?_
  refine lv_isub hx hb dX0_isStory_13 ?_
  obtain ⟨r7, hcr7, hf⟩ := bnd_some hf
  refine pr_callS (rest := []) B (c_X0_isIn l p0 (nI 0) (r5 - nI 1) hcr7) (va_cwS 3 hts (lw_S q390 q391 q103 q392) rfl rfl rfl hd_X0_isIn ⟨Nat.le_of_ble_eq_true rfl, Nat.le_of_ble_eq_true rfl⟩) rfl hl.1 rfl (Nat.le_of_ble_eq_true rfl) dX0_isStory_14 (x_room0 hX) ?_
  obtain ⟨hb8, hf⟩ := chk_some hf
  cases hf
  exact hret _ _ _ _ (by rcases hb8 with q | q <;> (rw [q]; rfl)) hX dX0_isStory_17
def f_X0_story_2 (S : XS) (o : Nat) (p0 : Int32) : Option Nat :=
  chk (xk S o = 1) <| bnd (xr S 100 o 0) fun b2 => chk (xk S b2 = 2) <| bnd (xr S 211 b2 0) fun b4 => chk (xk S b4 = 19) <| bnd (f_J2_get S b4 p0) fun b5 => chk (xk S b5 = 7) <| some b5
set_option maxHeartbeats 4000000 in
set_option maxRecDepth 100000 in
theorem c_X0_story_2 (l : Launch) (D : XD) (S : XS) (o : Nat) (p0 : Int32) {r : Nat} (hf : f_X0_story_2 S o p0 = some r) : x_Met l yX0_story_2 cX0_story_2 2 (Option.some (Jvm.ClassFile.FieldType.object "VillageStories$Story")) 3 64 D [.ref o, .int p0] S (some (.ref r)) S := by
  refine x_metA RX0 (by decide) rfl (Nat.le_of_ble_eq_true rfl) (Or.inl ⟨_, rfl⟩) (fun p e s m args below meth c Q B hnm hret H locs hX ls hl => ?_)
  have hx := B.1
  have hb := B.2.1
  have hml := B.2.2.1
  have hown := B.2.2.2.1
  have hts := B.2.2.2.2
  have hl : lv_has ls 2 [(0, .ref o), (1, .int p0)] := hl
  unfold f_X0_story_2 at hf
  refine lv_aload_n hx hb dX0_story_2_0 rfl (lv_at hl 0 rfl) ?_
  obtain ⟨hk1, hf⟩ := chk_some hf
  obtain ⟨b2, hb2, hf⟩ := bnd_some hf
  refine xr_get (q := (RX0, TX0, 14)) B hX 0 hk1 rfl (by decide) (by decide) (v := .ref b2) (x_Vr (c := 1) (j := 0) rfl (by decide) hb2) q339 (fun _ h => h) dX0_story_2_1 ?_
  obtain ⟨hk3, hf⟩ := chk_some hf
  obtain ⟨b4, hb4, hf⟩ := bnd_some hf
  refine xr_getN (q := (RX1, TX1, 14)) B hX 11 hk3 rfl (by decide) (by decide) (v := .ref b4) (x_Vr (c := 2) (j := 11) rfl (by decide) hb4) nq241 (fun _ h => h) dX0_story_2_4 ?_
  refine lv_iload_n hx hb dX0_story_2_7 rfl (lv_at hl 1 rfl) ?_
  obtain ⟨hk6, hf⟩ := chk_some hf
  obtain ⟨b5, hcb5, hf⟩ := bnd_some hf
  refine xr_callVC (rest := []) (q := (RJ2, TJ2, 3)) B hX (c_J2_get l D S b4 p0 hcb5) hk6 rfl (by decide) q573 q524 (Or.inl q525) q108 q526 hd_J2_get ⟨Nat.le_of_ble_eq_true rfl, Nat.le_of_ble_eq_true rfl⟩ rfl hl.1 rfl (Nat.le_of_ble_eq_true rfl) dX0_story_2_8 (fun H locs hX => ?_)
  obtain ⟨hk7, hf⟩ := chk_some hf
  refine xr_castY (q := (RX10, TX10, 3)) B hX hk7 rfl (by decide) q619 (Or.inr ⟨rfl, by decide⟩) dX0_story_2_11 ?_
  cases hf
  exact hret _ _ _ _ hX dX0_story_2_14
def f_X0_strike (S : XS) (o : Nat) (p0 : Int32) : Option (Int32 × XS) :=
  chk (xk S o = 1) <| bnd (f_X0_isStory S o p0) fun r1 => (if r1 = 0 then some (nI 0, S) else bnd (f_X0_story_2 S o p0) fun b4 => chk (xk S b4 = 7) <| (if (xi S 702 b4 0) = (-1) then bnd (f_X0_story_2 S o p0) fun b7 => bnd (xr S 100 o 0) fun b8 => chk (xk S b8 = 2) <| chk (xk S b7 = 7) <| chk (xb S ≤ b7) <| bd (s_i S 702 b7 0 (xi S 204 b8 0)) fun S12 => some (nI 1, S12) else some (nI 0, S)))
set_option maxHeartbeats 4000000 in
set_option maxRecDepth 100000 in
theorem c_X0_strike (l : Launch) (D : XD) (S : XS) (o : Nat) (p0 : Int32) {r : Int32} {S' : XS} (hf : f_X0_strike S o p0 = some (r, S')) : x_Met l yX0_strike cX0_strike 2 (Option.some Jvm.ClassFile.FieldType.boolean) 4 85 D [.ref o, .int p0] S (some (.int r)) S' := by
  refine x_metI RX0 (by decide) rfl (Nat.le_of_ble_eq_true rfl) (fun p e s m args below meth c Q B hnm hret H locs hX ls hl => ?_)
  have hx := B.1
  have hb := B.2.1
  have hml := B.2.2.1
  have hown := B.2.2.2.1
  have hts := B.2.2.2.2
  have hl : lv_has ls 2 [(0, .ref o), (1, .int p0)] := hl
  unfold f_X0_strike at hf
  refine lv_aload_n hx hb dX0_strike_0 rfl (lv_at hl 0 rfl) ?_
  refine lv_iload_n hx hb dX0_strike_1 rfl (lv_at hl 1 rfl) ?_
  obtain ⟨hk2, hf⟩ := chk_some hf
  obtain ⟨r1, hcr1, hf⟩ := bnd_some hf
  refine xr_callVC (rest := []) (q := (RX0, TX0, 14)) B hX (c_X0_isStory l D S o p0 hcr1) hk2 rfl (by decide) q1236 q1238 (Or.inl qs24) q103 q1239 hd_X0_isStory ⟨Nat.le_of_ble_eq_true rfl, Nat.le_of_ble_eq_true rfl⟩ rfl hl.1 rfl (Nat.le_of_ble_eq_true rfl) dX0_strike_2 (fun H locs hX => ?_)
  refine lv_if_eq (tgt := 20) hx hb dX0_strike_5 (by decide) (fun c3 => ?_) (fun c3 => ?_)
  · have hf := it_pos c3 hf
    refine lv_iconst (v := nI 0) hx hb dX0_strike_20 ic0 ?_
    cases hf
    exact hret _ _ _ _ rfl hX dX0_strike_21
  · have hf := it_neg c3 hf
    refine lv_aload_n hx hb dX0_strike_8 rfl (lv_at hl 0 rfl) ?_
    refine lv_iload_n hx hb dX0_strike_9 rfl (lv_at hl 1 rfl) ?_
    obtain ⟨b4, hcb4, hf⟩ := bnd_some hf
    refine xr_callVC (rest := []) (q := (RX0, TX0, 14)) B hX (c_X0_story_2 l D S o p0 hcb4) hk2 rfl (by decide) q1240 q1242 (Or.inl qs25) q103 q1243 hd_X0_story_2 ⟨Nat.le_of_ble_eq_true rfl, Nat.le_of_ble_eq_true rfl⟩ rfl hl.1 rfl (Nat.le_of_ble_eq_true rfl) dX0_strike_10 (fun H locs hX => ?_)
    obtain ⟨hk5, hf⟩ := chk_some hf
    refine xr_getN (q := (RX10, TX10, 3)) B hX 2 hk5 rfl (by decide) (by decide) (x_Vi rfl (by decide)) nq1212 (fun _ h => h) dX0_strike_13 ?_
    refine lv_iconst (v := (-1)) hx hb dX0_strike_16 icm1 ?_
    refine lv_icmp_eq (tgt := 22) hx hb dX0_strike_17 (by decide) (fun c6 => ?_) (fun c6 => ?_)
    · have hf := it_pos c6 hf
      refine lv_aload_n hx hb dX0_strike_22 rfl (lv_at hl 0 rfl) ?_
      refine lv_iload_n hx hb dX0_strike_23 rfl (lv_at hl 1 rfl) ?_
      obtain ⟨b7, hcb7, hf⟩ := bnd_some hf
      refine xr_callVC (rest := []) (q := (RX0, TX0, 14)) B hX (c_X0_story_2 l D S o p0 hcb7) hk2 rfl (by decide) q1240 q1242 (Or.inl qs25) q103 q1243 hd_X0_story_2 ⟨Nat.le_of_ble_eq_true rfl, Nat.le_of_ble_eq_true rfl⟩ rfl hl.1 rfl (Nat.le_of_ble_eq_true rfl) dX0_strike_24 (fun H locs hX => ?_)
      refine lv_aload_n hx hb dX0_strike_27 rfl (lv_at hl 0 rfl) ?_
      obtain ⟨b8, hb8, hf⟩ := bnd_some hf
      refine xr_get (q := (RX0, TX0, 14)) B hX 0 hk2 rfl (by decide) (by decide) (v := .ref b8) (x_Vr (c := 1) (j := 0) rfl (by decide) hb8) q339 (fun _ h => h) dX0_strike_28 ?_
      obtain ⟨hk9, hf⟩ := chk_some hf
      refine xr_getN (q := (RX1, TX1, 14)) B hX 4 hk9 rfl (by decide) (by decide) (x_Vi rfl (by decide)) nq226 (fun _ h => h) dX0_strike_31 ?_
      obtain ⟨hk10, hf⟩ := chk_some hf
      obtain ⟨hw11, hf⟩ := chk_some hf
      obtain ⟨S12, eS12, hf⟩ := bd_some hf
      refine xr_putN (S' := S12) (q := (RX10, TX10, 3)) (v := .int (xi S 204 b8 0)) (ty0 := tyX10) B hX 2 hk10 rfl (by decide) hw11 (by decide) (by rw [eS12]; exact x_Vup_i (k := 7) (j := 2) rfl (by decide)) tyX10_ok (fun i h1 h2 => nmX10 i (Nat.lt_of_lt_of_le h1 (by decide)) 2 (by decide) h2) rfl rfl rfl nq1212 (fun _ h => h) dX0_strike_34 (fun H locs hX => ?_)
      refine w_i eS12 ?_
      have hk2 := ks_i eS12 hk2
      have hk5 := ks_i eS12 hk5
      have hk9 := ks_i eS12 hk9
      have hk10 := ks_i eS12 hk10
      have hw11 := kw_i eS12 hw11
      refine lv_iconst (v := nI 1) hx hb dX0_strike_37 ic1 ?_
      cases hf
      exact hret _ _ _ _ rfl hX dX0_strike_38
    · have hf := it_neg c6 hf
      refine lv_iconst (v := nI 0) hx hb dX0_strike_20 ic0 ?_
      cases hf
      exact hret _ _ _ _ rfl hX dX0_strike_21
def f_X0_day (S : XS) (o : Nat) (p0 : Int32) : Option (Int32 × XS) :=
  chk (xk S o = 1) <| bnd (xr S 100 o 0) fun b2 => chk (xk S b2 = 2) <| bnd (f_X0_isIn p0 (xi S 204 b2 0) (nI 999)) fun r4 => (if r4 = 0 then some (nI 0, S) else bnd (xr S 100 o 0) fun b6 => chk (xk S b6 = 2) <| chk (xb S ≤ b6) <| bd (s_i S 204 b6 0 p0) fun S9 => some (nI 1, S9))
set_option maxHeartbeats 4000000 in
set_option maxRecDepth 100000 in
theorem c_X0_day (l : Launch) (D : XD) (S : XS) (o : Nat) (p0 : Int32) {r : Int32} {S' : XS} (hf : f_X0_day S o p0 = some (r, S')) : x_Met l yX0_day cX0_day 2 (Option.some Jvm.ClassFile.FieldType.boolean) 1 22 D [.ref o, .int p0] S (some (.int r)) S' := by
  refine x_metI RX0 (by decide) rfl (Nat.le_of_ble_eq_true rfl) (fun p e s m args below meth c Q B hnm hret H locs hX ls hl => ?_)
  have hx := B.1
  have hb := B.2.1
  have hml := B.2.2.1
  have hown := B.2.2.2.1
  have hts := B.2.2.2.2
  have hl : lv_has ls 2 [(0, .ref o), (1, .int p0)] := hl
  unfold f_X0_day at hf
  refine lv_iload_n hx hb dX0_day_0 rfl (lv_at hl 1 rfl) ?_
  refine lv_aload_n hx hb dX0_day_1 rfl (lv_at hl 0 rfl) ?_
  obtain ⟨hk1, hf⟩ := chk_some hf
  obtain ⟨b2, hb2, hf⟩ := bnd_some hf
  refine xr_get (q := (RX0, TX0, 14)) B hX 0 hk1 rfl (by decide) (by decide) (v := .ref b2) (x_Vr (c := 1) (j := 0) rfl (by decide) hb2) q339 (fun _ h => h) dX0_day_2 ?_
  obtain ⟨hk3, hf⟩ := chk_some hf
  refine xr_getN (q := (RX1, TX1, 14)) B hX 4 hk3 rfl (by decide) (by decide) (x_Vi rfl (by decide)) nq226 (fun _ h => h) dX0_day_5 ?_
  refine lv_sipush (v := nI 999) hx hb dX0_day_8 sp999 ?_
  obtain ⟨r4, hcr4, hf⟩ := bnd_some hf
  refine pr_callS (rest := []) B (c_X0_isIn l p0 (xi S 204 b2 0) (nI 999) hcr4) (va_cwS 3 hts (lw_S q390 q391 q103 q392) rfl rfl rfl hd_X0_isIn ⟨Nat.le_of_ble_eq_true rfl, Nat.le_of_ble_eq_true rfl⟩) rfl hl.1 rfl (Nat.le_of_ble_eq_true rfl) dX0_day_11 (x_room0 hX) ?_
  refine lv_if_ne (tgt := 19) hx hb dX0_day_14 (by decide) (fun c5 => ?_) (fun c5 => ?_)
  · have hf := it_neg c5 hf
    refine lv_aload_n hx hb dX0_day_19 rfl (lv_at hl 0 rfl) ?_
    obtain ⟨b6, hb6, hf⟩ := bnd_some hf
    refine xr_get (q := (RX0, TX0, 14)) B hX 0 hk1 rfl (by decide) (by decide) (v := .ref b6) (x_Vr (c := 1) (j := 0) rfl (by decide) hb6) q339 (fun _ h => h) dX0_day_20 ?_
    refine lv_iload_n hx hb dX0_day_23 rfl (lv_at hl 1 rfl) ?_
    obtain ⟨hk7, hf⟩ := chk_some hf
    obtain ⟨hw8, hf⟩ := chk_some hf
    obtain ⟨S9, eS9, hf⟩ := bd_some hf
    refine xr_putN (S' := S9) (q := (RX1, TX1, 14)) (v := .int p0) (ty0 := tyX1) B hX 4 hk7 rfl (by decide) hw8 (by decide) (by rw [eS9]; exact x_Vup_i (k := 2) (j := 4) rfl (by decide)) tyX1_ok (fun i h1 h2 => nmX1 i (Nat.lt_of_lt_of_le h1 (by decide)) 4 (by decide) h2) rfl rfl rfl nq226 (fun _ h => h) dX0_day_24 (fun H locs hX => ?_)
    refine w_i eS9 ?_
    have hk1 := ks_i eS9 hk1
    have hk3 := ks_i eS9 hk3
    have hk7 := ks_i eS9 hk7
    have hw8 := kw_i eS9 hw8
    refine lv_iconst (v := nI 1) hx hb dX0_day_27 ic1 ?_
    cases hf
    exact hret _ _ _ _ rfl hX dX0_day_28
  · have hf := it_pos c5 hf
    refine lv_iconst (v := nI 0) hx hb dX0_day_17 ic0 ?_
    cases hf
    exact hret _ _ _ _ rfl hX dX0_day_18
def f_X0_view_J22_2 (o : Nat) (p0 : Int32) (S : XS)  : Option (Int32 × XS) :=
  chk (xk S o = 1) <| bnd (xr S 100 o 0) fun b9 => chk (xk S b9 = 2) <| chk (xb S ≤ b9) <| bd (s_i S 205 b9 0 p0) fun S12 => some (nI 1, S12)
def f_X0_view (S : XS) (o : Nat) (p0 : Int32) : Option (Int32 × XS) :=
  (if p0 = (-1) then f_X0_view_J22_2 o p0 S else chk (xk S o = 1) <| bnd (xr S 100 o 0) fun b4 => chk (xk S b4 = 2) <| bnd (f_X0_isIn p0 (nI 0) (xi S 204 b4 0)) fun r6 => (if r6 = 0 then some (nI 0, S) else f_X0_view_J22_2 o p0 S))
set_option maxHeartbeats 4000000 in
set_option maxRecDepth 100000 in
theorem c_X0_view (l : Launch) (D : XD) (S : XS) (o : Nat) (p0 : Int32) {r : Int32} {S' : XS} (hf : f_X0_view S o p0 = some (r, S')) : x_Met l yX0_view cX0_view 2 (Option.some Jvm.ClassFile.FieldType.boolean) 1 22 D [.ref o, .int p0] S (some (.int r)) S' := by
  refine x_metI RX0 (by decide) rfl (Nat.le_of_ble_eq_true rfl) (fun p e s m args below meth c Q B hnm hret H locs hX ls hl => ?_)
  have hx := B.1
  have hb := B.2.1
  have hml := B.2.2.1
  have hown := B.2.2.2.1
  have hts := B.2.2.2.2
  have hl : lv_has ls 2 [(0, .ref o), (1, .int p0)] := hl
  unfold f_X0_view at hf
  refine lv_iload_n hx hb dX0_view_0 rfl (lv_at hl 1 rfl) ?_
  refine lv_iconst (v := (-1)) hx hb dX0_view_1 icm1 ?_
  have j2 : f_X0_view_J22_2 o p0 S = some (r, S') → ∀ (H : Heap) (locs : List Loc) (ls : Array Slot), x_I D S s H locs S → lv_has ls 2 [(0, .ref o), (1, .int p0)] → W p l e (x_R 1 22 S) s m args below meth c H locs (xz S - xz S) (xu S - xu S) Q (F0 m 22 ls []) := by
    intro hf
    intro H locs ls hX hl
    unfold f_X0_view_J22_2 at hf
    refine lv_aload_n hx hb dX0_view_22 rfl (lv_at hl 0 rfl) ?_
    obtain ⟨hk8, hf⟩ := chk_some hf
    obtain ⟨b9, hb9, hf⟩ := bnd_some hf
    refine xr_get (q := (RX0, TX0, 14)) B hX 0 hk8 rfl (by decide) (by decide) (v := .ref b9) (x_Vr (c := 1) (j := 0) rfl (by decide) hb9) q339 (fun _ h => h) dX0_view_23 ?_
    refine lv_iload_n hx hb dX0_view_26 rfl (lv_at hl 1 rfl) ?_
    obtain ⟨hk10, hf⟩ := chk_some hf
    obtain ⟨hw11, hf⟩ := chk_some hf
    obtain ⟨S12, eS12, hf⟩ := bd_some hf
    refine xr_putN (S' := S12) (q := (RX1, TX1, 14)) (v := .int p0) (ty0 := tyX1) B hX 5 hk10 rfl (by decide) hw11 (by decide) (by rw [eS12]; exact x_Vup_i (k := 2) (j := 5) rfl (by decide)) tyX1_ok (fun i h1 h2 => nmX1 i (Nat.lt_of_lt_of_le h1 (by decide)) 5 (by decide) h2) rfl rfl rfl nq228 (fun _ h => h) dX0_view_27 (fun H locs hX => ?_)
    refine w_i eS12 ?_
    have hk8 := ks_i eS12 hk8
    have hk10 := ks_i eS12 hk10
    have hw11 := kw_i eS12 hw11
    refine lv_iconst (v := nI 1) hx hb dX0_view_30 ic1 ?_
    cases hf
    exact hret _ _ _ _ rfl hX dX0_view_31
  refine lv_icmp_eq (tgt := 22) hx hb dX0_view_2 (by decide) (fun c1 => ?_) (fun c1 => ?_)
  · have hf := it_pos c1 hf
    exact j2  hf _ _ _ hX (lv_sub hl [0, 1] rfl)
  · have hf := it_neg c1 hf
    refine lv_iload_n hx hb dX0_view_5 rfl (lv_at hl 1 rfl) ?_
    refine lv_iconst (v := nI 0) hx hb dX0_view_6 ic0 ?_
    refine lv_aload_n hx hb dX0_view_7 rfl (lv_at hl 0 rfl) ?_
    obtain ⟨hk3, hf⟩ := chk_some hf
    obtain ⟨b4, hb4, hf⟩ := bnd_some hf
    refine xr_get (q := (RX0, TX0, 14)) B hX 0 hk3 rfl (by decide) (by decide) (v := .ref b4) (x_Vr (c := 1) (j := 0) rfl (by decide) hb4) q339 (fun _ h => h) dX0_view_8 ?_
    obtain ⟨hk5, hf⟩ := chk_some hf
    refine xr_getN (q := (RX1, TX1, 14)) B hX 4 hk5 rfl (by decide) (by decide) (x_Vi rfl (by decide)) nq226 (fun _ h => h) dX0_view_11 ?_
    obtain ⟨r6, hcr6, hf⟩ := bnd_some hf
    refine pr_callS (rest := []) B (c_X0_isIn l p0 (nI 0) (xi S 204 b4 0) hcr6) (va_cwS 3 hts (lw_S q390 q391 q103 q392) rfl rfl rfl hd_X0_isIn ⟨Nat.le_of_ble_eq_true rfl, Nat.le_of_ble_eq_true rfl⟩) rfl hl.1 rfl (Nat.le_of_ble_eq_true rfl) dX0_view_14 (x_room0 hX) ?_
    refine lv_if_ne (tgt := 22) hx hb dX0_view_17 (by decide) (fun c7 => ?_) (fun c7 => ?_)
    · have hf := it_neg c7 hf
      exact j2  hf _ _ _ hX (lv_sub hl [0, 1] rfl)
    · have hf := it_pos c7 hf
      refine lv_iconst (v := nI 0) hx hb dX0_view_20 ic0 ?_
      cases hf
      exact hret _ _ _ _ rfl hX dX0_view_21
def f_X25_is (S : XS) (o : Nat) (p0 : Int32) (p1 : Int32) (p2 : Int32) : Option Int32 :=
  (if p0 = p1 then some (nI 1) else some (nI 0))
set_option maxHeartbeats 4000000 in
set_option maxRecDepth 100000 in
theorem c_X25_is (l : Launch) (D : XD) (S : XS) (o : Nat) (p0 : Int32) (p1 : Int32) (p2 : Int32) {r : Int32} (hf : f_X25_is S o p0 p1 p2 = some r) : x_Bod l yX25_is cX25_is 4 (Option.some Jvm.ClassFile.FieldType.boolean) [] 0 0 D [.ref o, .int p0, .int p1, .int p2] S (.inr (some (.int r))) S := by
  refine x_bodI RX25 rfl (fun p e s m args below meth c Q B hnm hret H locs hX ls hl => ?_)
  have hx := B.1
  have hb := B.2.1
  have hml := B.2.2.1
  have hown := B.2.2.2.1
  have hts := B.2.2.2.2
  have hl : lv_has ls 4 [(0, .ref o), (1, .int p0), (2, .int p1), (3, .int p2)] := hl
  unfold f_X25_is at hf
  refine lv_iload_n hx hb dX25_is_0 rfl (lv_at hl 1 rfl) ?_
  refine lv_iload_n hx hb dX25_is_1 rfl (lv_at hl 2 rfl) ?_
  refine lv_icmp_ne (tgt := 9) hx hb dX25_is_2 (by decide) (fun c1 => ?_) (fun c1 => ?_)
  · have hf := it_neg c1 hf
    refine lv_iconst (v := nI 0) hx hb dX25_is_9 ic0 ?_
    cases hf
    exact hret _ _ _ _ rfl hX dX25_is_10
  · have hf := it_pos c1 hf
    refine lv_iconst (v := nI 1) hx hb dX25_is_5 ic1 ?_
    refine lv_goto (tgt := 10) hx hb dX25_is_6 (by decide) ?_
    cases hf
    exact hret _ _ _ _ rfl hX dX25_is_10
def f_X26_is (S : XS) (o : Nat) (p0 : Int32) (p1 : Int32) (p2 : Int32) : Option Int32 :=
  (if p0 ≤ 0 then some (nI 0) else some (nI 1))
set_option maxHeartbeats 4000000 in
set_option maxRecDepth 100000 in
theorem c_X26_is (l : Launch) (D : XD) (S : XS) (o : Nat) (p0 : Int32) (p1 : Int32) (p2 : Int32) {r : Int32} (hf : f_X26_is S o p0 p1 p2 = some r) : x_Bod l yX26_is cX26_is 4 (Option.some Jvm.ClassFile.FieldType.boolean) [] 0 0 D [.ref o, .int p0, .int p1, .int p2] S (.inr (some (.int r))) S := by
  refine x_bodI RX26 rfl (fun p e s m args below meth c Q B hnm hret H locs hX ls hl => ?_)
  have hx := B.1
  have hb := B.2.1
  have hml := B.2.2.1
  have hown := B.2.2.2.1
  have hts := B.2.2.2.2
  have hl : lv_has ls 4 [(0, .ref o), (1, .int p0), (2, .int p1), (3, .int p2)] := hl
  unfold f_X26_is at hf
  refine lv_iload_n hx hb dX26_is_0 rfl (lv_at hl 1 rfl) ?_
  refine lv_if_le (tgt := 8) hx hb dX26_is_1 (by decide) (fun c1 => ?_) (fun c1 => ?_)
  · have hf := it_pos c1 hf
    refine lv_iconst (v := nI 0) hx hb dX26_is_8 ic0 ?_
    cases hf
    exact hret _ _ _ _ rfl hX dX26_is_9
  · have hf := it_neg c1 hf
    refine lv_iconst (v := nI 1) hx hb dX26_is_4 ic1 ?_
    refine lv_goto (tgt := 9) hx hb dX26_is_5 (by decide) ?_
    cases hf
    exact hret _ _ _ _ rfl hX dX26_is_9
def f_X27_is (S : XS) (o : Nat) (p0 : Int32) (p1 : Int32) (p2 : Int32) : Option Int32 :=
  (if p0 < p2 then some (nI 0) else some (nI 1))
set_option maxHeartbeats 4000000 in
set_option maxRecDepth 100000 in
theorem c_X27_is (l : Launch) (D : XD) (S : XS) (o : Nat) (p0 : Int32) (p1 : Int32) (p2 : Int32) {r : Int32} (hf : f_X27_is S o p0 p1 p2 = some r) : x_Bod l yX27_is cX27_is 4 (Option.some Jvm.ClassFile.FieldType.boolean) [] 0 0 D [.ref o, .int p0, .int p1, .int p2] S (.inr (some (.int r))) S := by
  refine x_bodI RX27 rfl (fun p e s m args below meth c Q B hnm hret H locs hX ls hl => ?_)
  have hx := B.1
  have hb := B.2.1
  have hml := B.2.2.1
  have hown := B.2.2.2.1
  have hts := B.2.2.2.2
  have hl : lv_has ls 4 [(0, .ref o), (1, .int p0), (2, .int p1), (3, .int p2)] := hl
  unfold f_X27_is at hf
  refine lv_iload_n hx hb dX27_is_0 rfl (lv_at hl 1 rfl) ?_
  refine lv_iload_n hx hb dX27_is_1 rfl (lv_at hl 3 rfl) ?_
  refine lv_icmp_lt (tgt := 9) hx hb dX27_is_2 (by decide) (fun c1 => ?_) (fun c1 => ?_)
  · have hf := it_pos c1 hf
    refine lv_iconst (v := nI 0) hx hb dX27_is_9 ic0 ?_
    cases hf
    exact hret _ _ _ _ rfl hX dX27_is_10
  · have hf := it_neg c1 hf
    refine lv_iconst (v := nI 1) hx hb dX27_is_5 ic1 ?_
    refine lv_goto (tgt := 10) hx hb dX27_is_6 (by decide) ?_
    cases hf
    exact hret _ _ _ _ rfl hX dX27_is_10
def f_X28_is (S : XS) (o : Nat) (p0 : Int32) (p1 : Int32) (p2 : Int32) : Option Int32 :=
  (if p2 < p0 then some (nI 0) else some (nI 1))
set_option maxHeartbeats 4000000 in
set_option maxRecDepth 100000 in
theorem c_X28_is (l : Launch) (D : XD) (S : XS) (o : Nat) (p0 : Int32) (p1 : Int32) (p2 : Int32) {r : Int32} (hf : f_X28_is S o p0 p1 p2 = some r) : x_Bod l yX28_is cX28_is 4 (Option.some Jvm.ClassFile.FieldType.boolean) [] 0 0 D [.ref o, .int p0, .int p1, .int p2] S (.inr (some (.int r))) S := by
  refine x_bodI RX28 rfl (fun p e s m args below meth c Q B hnm hret H locs hX ls hl => ?_)
  have hx := B.1
  have hb := B.2.1
  have hml := B.2.2.1
  have hown := B.2.2.2.1
  have hts := B.2.2.2.2
  have hl : lv_has ls 4 [(0, .ref o), (1, .int p0), (2, .int p1), (3, .int p2)] := hl
  unfold f_X28_is at hf
  refine lv_iload_n hx hb dX28_is_0 rfl (lv_at hl 1 rfl) ?_
  refine lv_iload_n hx hb dX28_is_1 rfl (lv_at hl 3 rfl) ?_
  refine lv_icmp_gt (tgt := 9) hx hb dX28_is_2 (by decide) (fun c1 => ?_) (fun c1 => ?_)
  · have hf := it_pos c1 hf
    refine lv_iconst (v := nI 0) hx hb dX28_is_9 ic0 ?_
    cases hf
    exact hret _ _ _ _ rfl hX dX28_is_10
  · have hf := it_neg c1 hf
    refine lv_iconst (v := nI 1) hx hb dX28_is_5 ic1 ?_
    refine lv_goto (tgt := 10) hx hb dX28_is_6 (by decide) ?_
    cases hf
    exact hret _ _ _ _ rfl hX dX28_is_10
def f_X18_isSo (S : XS) (o : Nat) (p0 : Nat) : Option Int32 :=
  chk (xk S p0 = 4) <| bnd (xr S 403 p0 0) fun b2 => chk (xk S o = 13) <| chk (xk S b2 = 52) <| ald (xn S b2) (xi S 52 b2) (xi S 1300 o 0) fun v5 => bnd (xr S 403 p0 0) fun b6 => chk (xk S b6 = 52) <| ald (xn S b6) (xi S 52 b6) (xi S 1301 o 0) fun v8 => (if v5 = v8 then some (nI 1) else some (nI 0))
set_option maxHeartbeats 4000000 in
set_option maxRecDepth 100000 in
theorem c_X18_isSo (l : Launch) (D : XD) (S : XS) (o : Nat) (p0 : Nat) {r : Int32} (hf : f_X18_isSo S o p0 = some r) : x_Met l yX18_isSo cX18_isSo 2 (Option.some Jvm.ClassFile.FieldType.boolean) 0 0 D [.ref o, .ref p0] S (some (.int r)) S := by
  refine x_metI RX18 (by decide) rfl (Nat.le_of_ble_eq_true rfl) (fun p e s m args below meth c Q B hnm hret H locs hX ls hl => ?_)
  have hx := B.1
  have hb := B.2.1
  have hml := B.2.2.1
  have hown := B.2.2.2.1
  have hts := B.2.2.2.2
  have hl : lv_has ls 2 [(0, .ref o), (1, .ref p0)] := hl
  unfold f_X18_isSo at hf
  refine lv_aload_n hx hb dX18_isSo_0 rfl (lv_at hl 1 rfl) ?_
  obtain ⟨hk1, hf⟩ := chk_some hf
  obtain ⟨b2, hb2, hf⟩ := bnd_some hf
  refine xr_getN (q := (RX3, TX3, 4)) B hX 3 hk1 rfl (by decide) (by decide) (v := .ref b2) (x_Vr (c := 4) (j := 3) rfl (by decide) hb2) nq290 (fun _ h => h) dX18_isSo_1 ?_
  refine lv_aload_n hx hb dX18_isSo_4 rfl (lv_at hl 0 rfl) ?_
  obtain ⟨hk3, hf⟩ := chk_some hf
  refine xr_get (q := (RX18, TX18, 2)) B hX 0 hk3 rfl (by decide) (by decide) (x_Vi rfl (by decide)) q1135 (fun _ h => h) dX18_isSo_5 ?_
  obtain ⟨hk4, hf⟩ := chk_some hf
  obtain ⟨v5, ev5, hiv5, hf⟩ := ald_some hf
  refine xr_iald B hX hk4 hiv5 ev5 dX18_isSo_8 ?_
  refine lv_aload_n hx hb dX18_isSo_9 rfl (lv_at hl 1 rfl) ?_
  obtain ⟨b6, hb6, hf⟩ := bnd_some hf
  refine xr_getN (q := (RX3, TX3, 4)) B hX 3 hk1 rfl (by decide) (by decide) (v := .ref b6) (x_Vr (c := 4) (j := 3) rfl (by decide) hb6) nq290 (fun _ h => h) dX18_isSo_10 ?_
  refine lv_aload_n hx hb dX18_isSo_13 rfl (lv_at hl 0 rfl) ?_
  refine xr_get (q := (RX18, TX18, 2)) B hX 1 hk3 rfl (by decide) (by decide) (x_Vi rfl (by decide)) q1136 (fun _ h => h) dX18_isSo_14 ?_
  obtain ⟨hk7, hf⟩ := chk_some hf
  obtain ⟨v8, ev8, hiv8, hf⟩ := ald_some hf
  refine xr_iald B hX hk7 hiv8 ev8 dX18_isSo_17 ?_
  refine lv_icmp_ne (tgt := 25) hx hb dX18_isSo_18 (by decide) (fun c9 => ?_) (fun c9 => ?_)
  · have hf := it_neg c9 hf
    refine lv_iconst (v := nI 0) hx hb dX18_isSo_25 ic0 ?_
    cases hf
    exact hret _ _ _ _ rfl hX dX18_isSo_26
  · have hf := it_pos c9 hf
    refine lv_iconst (v := nI 1) hx hb dX18_isSo_21 ic1 ?_
    refine lv_goto (tgt := 26) hx hb dX18_isSo_22 (by decide) ?_
    cases hf
    exact hret _ _ _ _ rfl hX dX18_isSo_26
def f_X0_has (p0 : Int32) (p1 : Int32) : Option Int32 :=
  (if ((p0 >>> (p1 &&& 31)) &&& nI 1) = nI 1 then some (nI 1) else some (nI 0))
abbrev r_X0_has : Room := { frames := 0, cells := 0, slots := 0, locals := 0 }
set_option maxHeartbeats 4000000 in
set_option maxRecDepth 100000 in
theorem c_X0_has (l : Launch) (p0 : Int32) (p1 : Int32) {r : Int32} (hf : f_X0_has p0 p1 = some r) : p_Met l yX0_has cX0_has 2 (Option.some Jvm.ClassFile.FieldType.boolean) r_X0_has [.int p0, .int p1] (some (.int r)) := by
  refine p_metI (F := 0) (L := 0) RX0 (by decide) rfl (Nat.le_of_ble_eq_true rfl) (fun p e s m args below meth c Q B hret ls hl => ?_)
  have hx := B.1
  have hb := B.2.1
  have hml := B.2.2.1
  have hown := B.2.2.2.1
  have hts := B.2.2.2.2
  have hl : lv_has ls 2 [(0, .int p0), (1, .int p1)] := hl
  unfold f_X0_has at hf
  refine lv_iload_n hx hb dX0_has_0 rfl (lv_at hl 0 rfl) ?_
  refine lv_iload_n hx hb dX0_has_1 rfl (lv_at hl 1 rfl) ?_
  refine lv_ishr hx hb dX0_has_2 ?_
  refine lv_iconst (v := nI 1) hx hb dX0_has_3 ic1 ?_
  refine lv_iand hx hb dX0_has_4 ?_
  refine lv_iconst (v := nI 1) hx hb dX0_has_5 ic1 ?_
  refine lv_icmp_ne (tgt := 13) hx hb dX0_has_6 (by decide) (fun c1 => ?_) (fun c1 => ?_)
  · have hf := it_neg c1 hf
    refine lv_iconst (v := nI 0) hx hb dX0_has_13 ic0 ?_
    cases hf
    exact hret _ _ rfl dX0_has_14
  · have hf := it_pos c1 hf
    refine lv_iconst (v := nI 1) hx hb dX0_has_9 ic1 ?_
    refine lv_goto (tgt := 14) hx hb dX0_has_10 (by decide) ?_
    cases hf
    exact hret _ _ rfl dX0_has_14
def f_X3_isSo (S : XS) (o : Nat) (p0 : Int32) (p1 : Int32) (p2 : Int32) : Option Int32 :=
  chk (xk S o = 4) <| bnd (xr S 400 o 0) fun b2 => chk (xk S b2 = 3) <| bnd (f_X2_fact S b2 p0 p1 p2) fun r3 => (if (lg_cmp (((xl S 401 o 0) >>> ((((xi S 402 o 0) - nI 1) - r3).toInt64 &&& 63)) &&& (1 : Int64)) (1 : Int64)) = 0 then some (nI 1) else some (nI 0))
set_option maxHeartbeats 4000000 in
set_option maxRecDepth 100000 in
theorem c_X3_isSo (l : Launch) (D : XD) (S : XS) (o : Nat) (p0 : Int32) (p1 : Int32) (p2 : Int32) {r : Int32} (hf : f_X3_isSo S o p0 p1 p2 = some r) : x_Met l yX3_isSo cX3_isSo 4 (Option.some Jvm.ClassFile.FieldType.boolean) 5 112 D [.ref o, .int p0, .int p1, .int p2] S (some (.int r)) S := by
  refine x_metI RX3 (by decide) rfl (Nat.le_of_ble_eq_true rfl) (fun p e s m args below meth c Q B hnm hret H locs hX ls hl => ?_)
  have hx := B.1
  have hb := B.2.1
  have hml := B.2.2.1
  have hown := B.2.2.2.1
  have hts := B.2.2.2.2
  have hl : lv_has ls 4 [(0, .ref o), (1, .int p0), (2, .int p1), (3, .int p2)] := hl
  unfold f_X3_isSo at hf
  refine lv_aload_n hx hb dX3_isSo_0 rfl (lv_at hl 0 rfl) ?_
  obtain ⟨hk1, hf⟩ := chk_some hf
  refine xr_get (q := (RX3, TX3, 4)) B hX 1 hk1 rfl (by decide) (by decide) (x_Vl rfl (by decide)) q286 (fun _ h => h) dX3_isSo_1 ?_
  refine lv_aload_n hx hb dX3_isSo_4 rfl (lv_at hl 0 rfl) ?_
  refine xr_get (q := (RX3, TX3, 4)) B hX 2 hk1 rfl (by decide) (by decide) (x_Vi rfl (by decide)) q287 (fun _ h => h) dX3_isSo_5 ?_
  refine lv_iconst (v := nI 1) hx hb dX3_isSo_8 ic1 ?_
  refine lv_isub hx hb dX3_isSo_9 ?_
  refine lv_aload_n hx hb dX3_isSo_10 rfl (lv_at hl 0 rfl) ?_
  obtain ⟨b2, hb2, hf⟩ := bnd_some hf
  refine xr_get (q := (RX3, TX3, 4)) B hX 0 hk1 rfl (by decide) (by decide) (v := .ref b2) (x_Vr (c := 4) (j := 0) rfl (by decide) hb2) q283 (fun _ h => h) dX3_isSo_11 ?_
  refine lv_iload_n hx hb dX3_isSo_14 rfl (lv_at hl 1 rfl) ?_
  refine lv_iload_n hx hb dX3_isSo_15 rfl (lv_at hl 2 rfl) ?_
  refine lv_iload_n hx hb dX3_isSo_16 rfl (lv_at hl 3 rfl) ?_
  obtain ⟨hk4, hf⟩ := chk_some hf
  obtain ⟨r3, hcr3, hf⟩ := bnd_some hf
  refine xr_callVC (rest := [.int ((xi S 402 o 0) - nI 1), .long (xl S 401 o 0)]) (q := (RX2, TX2, 2)) B hX (c_X2_fact l D S b2 p0 p1 p2 hcr3) hk4 rfl (by decide) q1288 q547 (Or.inl q548) q105 q549 hd_X2_fact ⟨Nat.le_of_ble_eq_true rfl, Nat.le_of_ble_eq_true rfl⟩ rfl hl.1 rfl (Nat.le_of_ble_eq_true rfl) dX3_isSo_17 (fun H locs hX => ?_)
  refine lv_isub hx hb dX3_isSo_20 ?_
  refine lv_lshr (v := ((xl S 401 o 0) >>> ((((xi S 402 o 0) - nI 1) - r3).toInt64 &&& 63))) hx hb dX3_isSo_21 rfl ?_
  refine lv_lconst (v := 1) hx hb dX3_isSo_22 (by decide) ?_
  refine lv_land hx hb dX3_isSo_23 ?_
  refine lv_lconst (v := 1) hx hb dX3_isSo_24 (by decide) ?_
  refine W.lcmp hx hb dX3_isSo_25 ?_
  refine lv_if_ne (tgt := 33) hx hb dX3_isSo_26 (by decide) (fun c5 => ?_) (fun c5 => ?_)
  · have hf := it_neg c5 hf
    refine lv_iconst (v := nI 0) hx hb dX3_isSo_33 ic0 ?_
    cases hf
    exact hret _ _ _ _ rfl hX dX3_isSo_34
  · have hf := it_pos c5 hf
    refine lv_iconst (v := nI 1) hx hb dX3_isSo_29 ic1 ?_
    refine lv_goto (tgt := 34) hx hb dX3_isSo_30 (by decide) ?_
    cases hf
    exact hret _ _ _ _ rfl hX dX3_isSo_34
