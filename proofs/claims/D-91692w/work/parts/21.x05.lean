set_option maxRecDepth 100000
def f_X3_reached_L49 (o : Nat) (p0 : Int32) (p1 : Int32) (S : XS) (r9 : Int32) (x15 : Int32) (x17 : Int32) (x18 : Int32) : Option ((Int32 × Int32) ⊕ ((Int32))) :=
  (if r9 ≤ x18 then some (.inr x17) else (if x15 = p1 then bnd (f_X3_isSo S o p0 x15 x18) fun r21 => (if r21 = 0 then bd (x18 + nI 1) fun x23 => some (.inl (x17, x23)) else bd (x17 ||| (nI 1 <<< (x18 &&& 31))) fun x24 => bd (x18 + nI 1) fun x25 => some (.inl (x24, x25))) else bnd (f_X0_has x17 x15) fun r26 => (if r26 = 0 then bd (x18 + nI 1) fun x28 => some (.inl (x17, x28)) else bnd (f_X3_isSo S o p0 x15 x18) fun r29 => (if r29 = 0 then bd (x18 + nI 1) fun x31 => some (.inl (x17, x31)) else bd (x17 ||| (nI 1 <<< (x18 &&& 31))) fun x32 => bd (x18 + nI 1) fun x33 => some (.inl (x32, x33))))))
def f_X3_reached_L40 (o : Nat) (p0 : Int32) (p1 : Int32) (S : XS) (r9 : Int32) (x14 : Int32) (x15 : Int32) : Option ((Int32 × Int32) ⊕ ((Int32))) :=
  (if r9 ≤ x15 then some (.inr x14) else bnd (wO (fun t : Int32 × Int32 => f_X3_reached_L49 o p0 p1 S r9 x15 t.1 t.2) fu (x14, nI 0)) <| fun x36 => bd (x15 + nI 1) fun x37 => some (.inl (x36, x37)))
def f_X3_reached_L31 (o : Nat) (p0 : Int32) (p1 : Int32) (S : XS) (r9 : Int32) (x11 : Int32) (x12 : Int32) : Option ((Int32 × Int32) ⊕ ((Int32))) :=
  (if r9 ≤ x12 then some (.inr x11) else bnd (wO (fun t : Int32 × Int32 => f_X3_reached_L40 o p0 p1 S r9 t.1 t.2) fu (x11, nI 0)) <| fun x40 => bd (x12 + nI 1) fun x41 => some (.inl (x40, x41)))
def f_X3_reached (S : XS) (o : Nat) (p0 : Int32) (p1 : Int32) : Option Int32 :=
  chk (xk S o = 4) <| bnd (xr S 400 o 0) fun b2 => bnd (xr S 400 o 0) fun b3 => chk (xk S b3 = 3) <| bnd (xr S 301 b3 0) fun b5 => chk (xk S b5 = 19) <| bnd (f_J2_get S b5 p0) fun b6 => chk (xk S b6 = 5) <| chk (xk S b2 = 3) <| bnd (f_X2_size S b2 (xi S 500 b6 0)) fun r9 => bnd (wO (fun t : Int32 × Int32 => f_X3_reached_L31 o p0 p1 S r9 t.1 t.2) fu (nI 0, nI 0)) <| fun x44 => some x44
set_option maxHeartbeats 4000000 in
set_option maxRecDepth 100000 in
theorem c_X3_reached (l : Launch) (D : XD) (S : XS) (o : Nat) (p0 : Int32) (p1 : Int32) {r : Int32} (hf : f_X3_reached S o p0 p1 = some r) : x_Met l yX3_reached cX3_reached 8 (Option.some Jvm.ClassFile.FieldType.int) 6 135 D [.ref o, .int p0, .int p1] S (some (.int r)) S := by
  refine x_metI RX3 (by decide) rfl (Nat.le_of_ble_eq_true rfl) (fun p e s m args below meth c Q B hnm hret H locs hX ls hl => ?_)
  have hx := B.1
  have hb := B.2.1
  have hml := B.2.2.1
  have hown := B.2.2.2.1
  have hts := B.2.2.2.2
  have hl : lv_has ls 8 [(0, .ref o), (1, .int p0), (2, .int p1)] := hl
  unfold f_X3_reached at hf
  refine lv_aload_n hx hb dX3_reached_0 rfl (lv_at hl 0 rfl) ?_
  obtain ⟨hk1, hf⟩ := chk_some hf
  obtain ⟨b2, hb2, hf⟩ := bnd_some hf
  refine xr_get (q := (RX3, TX3, 4)) B hX 0 hk1 rfl (by decide) (by decide) (v := .ref b2) (x_Vr (c := 4) (j := 0) rfl (by decide) hb2) q283 (fun _ h => h) dX3_reached_1 ?_
  refine lv_aload_n hx hb dX3_reached_4 rfl (lv_at hl 0 rfl) ?_
  obtain ⟨b3, hb3, hf⟩ := bnd_some hf
  refine xr_get (q := (RX3, TX3, 4)) B hX 0 hk1 rfl (by decide) (by decide) (v := .ref b3) (x_Vr (c := 4) (j := 0) rfl (by decide) hb3) q283 (fun _ h => h) dX3_reached_5 ?_
  obtain ⟨hk4, hf⟩ := chk_some hf
  obtain ⟨b5, hb5, hf⟩ := bnd_some hf
  refine xr_getN (q := (RX2, TX2, 2)) B hX 1 hk4 rfl (by decide) (by decide) (v := .ref b5) (x_Vr (c := 3) (j := 1) rfl (by decide) hb5) nq203 (fun _ h => h) dX3_reached_8 ?_
  refine lv_iload_n hx hb dX3_reached_11 rfl (lv_at hl 1 rfl) ?_
  obtain ⟨hk7, hf⟩ := chk_some hf
  obtain ⟨b6, hcb6, hf⟩ := bnd_some hf
  refine xr_callVC (rest := [.ref b2]) (q := (RJ2, TJ2, 3)) B hX (c_J2_get l D S b5 p0 hcb6) hk7 rfl (by decide) q1298 q524 (Or.inl q525) q108 q526 hd_J2_get ⟨Nat.le_of_ble_eq_true rfl, Nat.le_of_ble_eq_true rfl⟩ rfl hl.1 rfl (Nat.le_of_ble_eq_true rfl) dX3_reached_12 (fun H locs hX => ?_)
  obtain ⟨hk8, hf⟩ := chk_some hf
  refine xr_castY (q := (RX8, TX8, 2)) B hX hk8 rfl (by decide) q1299 (Or.inr ⟨rfl, by decide⟩) dX3_reached_15 ?_
  refine xr_getN (q := (RX8, TX8, 2)) B hX 0 hk8 rfl (by decide) (by decide) (x_Vi rfl (by decide)) nq421 (fun _ h => h) dX3_reached_18 ?_
  obtain ⟨hk10, hf⟩ := chk_some hf
  obtain ⟨r9, hcr9, hf⟩ := bnd_some hf
  refine xr_callVC (rest := []) (q := (RX2, TX2, 2)) B hX (c_X2_size l D S b2 (xi S 500 b6 0) hcr9) hk10 rfl (by decide) q1300 q398 (Or.inl q399) q105 q400 hd_X2_size ⟨Nat.le_of_ble_eq_true rfl, Nat.le_of_ble_eq_true rfl⟩ rfl hl.1 rfl (Nat.le_of_ble_eq_true rfl) dX3_reached_21 (fun H locs hX => ?_)
  refine lv_istore_n (lv' := [(3, .int r9), (0, .ref o), (1, .int p0), (2, .int p1)]) hx hb dX3_reached_24 rfl hl (by decide) rfl (fun ls hl => ?_)
  refine lv_iconst (v := nI 0) hx hb dX3_reached_25 ic0 ?_
  refine lv_istore (lv' := [(4, .int (nI 0)), (3, .int r9), (0, .ref o), (1, .int p0), (2, .int p1)]) hx hb dX3_reached_26 hl (by decide) rfl (fun ls hl => ?_)
  refine lv_iconst (v := nI 0) hx hb dX3_reached_28 ic0 ?_
  refine lv_istore (lv' := [(5, .int (nI 0)), (4, .int (nI 0)), (3, .int r9), (0, .ref o), (1, .int p0), (2, .int p1)]) hx hb dX3_reached_29 hl (by decide) rfl (fun ls hl => ?_)
  obtain ⟨y43, hxy43, hf⟩ := bnd_some hf
  have hy43 : (fun t : Int32 => ∀ (H : Heap) (locs : List Loc) (ls : Array Slot), x_I D S s H locs S → lv_has ls 8 [(4, .int t)] → W p l e (x_R 6 135 S) s m args below meth c H locs (xz S - xz S) (xu S - xu S) Q (F0 m 110 ls [])) y43 := by
    obtain ⟨x44, rfl⟩ : ∃ z, z = y43 := ⟨_, rfl⟩
    intro H locs ls hX hl
    refine lv_iload hx hb dX3_reached_110 (lv_at hl 0 rfl) ?_
    cases hf
    exact hret _ _ _ _ rfl hX dX3_reached_112
  refine lp_W (step := (fun t : Int32 × Int32 => f_X3_reached_L31 o p0 p1 S r9 t.1 t.2)) (fun t : Int32 × Int32 => ∀ (H : Heap) (locs : List Loc) (ls : Array Slot), x_I D S s H locs S → lv_has ls 8 [(0, .ref o), (1, .int p0), (2, .int p1), (3, .int r9), (4, .int t.1), (5, .int t.2)] → W p l e (x_R 6 135 S) s m args below meth c H locs (xz S - xz S) (xu S - xu S) Q (F0 m 31 ls [])) (fun t : Int32 => ∀ (H : Heap) (locs : List Loc) (ls : Array Slot), x_I D S s H locs S → lv_has ls 8 [(4, .int t)] → W p l e (x_R 6 135 S) s m args below meth c H locs (xz S - xz S) (xu S - xu S) Q (F0 m 110 ls [])) ?_ fu (nI 0, nI 0) y43 hxy43 hy43 _ _ _ hX (lv_sub hl [3, 4, 5, 2, 1, 0] rfl)
  clear hf hxy43 hy43
  rintro ⟨x11, x12⟩ oo (hf : f_X3_reached_L31 o p0 p1 S r9 x11 x12 = some oo) hk
  intro H locs ls hX hl
  unfold f_X3_reached_L31 at hf
  refine lv_iload hx hb dX3_reached_31 (lv_at hl 5 rfl) ?_
  refine lv_iload_n hx hb dX3_reached_33 rfl (lv_at hl 3 rfl) ?_
  refine lv_icmp_ge (tgt := 110) hx hb dX3_reached_34 (by decide) (fun c13 => ?_) (fun c13 => ?_)
  · have hf := it_pos c13 hf
    cases hf
    exact hk _ _ _ hX (lv_sub hl [4] rfl)
  · have hf := it_neg c13 hf
    refine lv_iconst (v := nI 0) hx hb dX3_reached_37 ic0 ?_
    refine lv_istore (lv' := [(6, .int (nI 0)), (0, .ref o), (1, .int p0), (2, .int p1), (3, .int r9), (4, .int x11), (5, .int x12)]) hx hb dX3_reached_38 hl (by decide) rfl (fun ls hl => ?_)
    obtain ⟨y39, hxy39, hf⟩ := bnd_some hf
    have hy39 : (fun t : Int32 => ∀ (H : Heap) (locs : List Loc) (ls : Array Slot), x_I D S s H locs S → lv_has ls 8 [(0, .ref o), (1, .int p0), (2, .int p1), (3, .int r9), (4, .int t), (5, .int x12)] → W p l e (x_R 6 135 S) s m args below meth c H locs (xz S - xz S) (xu S - xu S) Q (F0 m 104 ls [])) y39 := by
      obtain ⟨x40, rfl⟩ : ∃ z, z = y39 := ⟨_, rfl⟩
      intro H locs ls hX hl
      obtain ⟨x41, ex41, hf⟩ := bd_some hf
      refine lv_iinc (v := x41) (lv' := [(5, .int x41), (0, .ref o), (1, .int p0), (2, .int p1), (3, .int r9), (4, .int x40)]) hx hb dX3_reached_104 hl (k := 5) rfl (by rw [ex41]; first | done | rfl) (by decide) rfl (fun ls hl => ?_)
      refine lv_goto (tgt := 31) hx hb dX3_reached_107 (by decide) ?_
      cases hf
      exact hk _ _ _ hX (lv_sub hl [1, 2, 3, 4, 5, 0] rfl)
    refine lp_W (step := (fun t : Int32 × Int32 => f_X3_reached_L40 o p0 p1 S r9 t.1 t.2)) (fun t : Int32 × Int32 => ∀ (H : Heap) (locs : List Loc) (ls : Array Slot), x_I D S s H locs S → lv_has ls 8 [(0, .ref o), (1, .int p0), (2, .int p1), (3, .int r9), (4, .int t.1), (5, .int x12), (6, .int t.2)] → W p l e (x_R 6 135 S) s m args below meth c H locs (xz S - xz S) (xu S - xu S) Q (F0 m 40 ls [])) (fun t : Int32 => ∀ (H : Heap) (locs : List Loc) (ls : Array Slot), x_I D S s H locs S → lv_has ls 8 [(0, .ref o), (1, .int p0), (2, .int p1), (3, .int r9), (4, .int t), (5, .int x12)] → W p l e (x_R 6 135 S) s m args below meth c H locs (xz S - xz S) (xu S - xu S) Q (F0 m 104 ls [])) ?_ fu (x11, nI 0) y39 hxy39 hy39 _ _ _ hX (lv_sub hl [1, 2, 3, 4, 5, 6, 0] rfl)
    clear hf hxy39 hy39
    rintro ⟨x14, x15⟩ oo (hf : f_X3_reached_L40 o p0 p1 S r9 x14 x15 = some oo) hk
    intro H locs ls hX hl
    unfold f_X3_reached_L40 at hf
    refine lv_iload hx hb dX3_reached_40 (lv_at hl 6 rfl) ?_
    refine lv_iload_n hx hb dX3_reached_42 rfl (lv_at hl 3 rfl) ?_
    refine lv_icmp_ge (tgt := 104) hx hb dX3_reached_43 (by decide) (fun c16 => ?_) (fun c16 => ?_)
    · have hf := it_pos c16 hf
      cases hf
      exact hk _ _ _ hX (lv_sub hl [0, 1, 2, 3, 4, 5] rfl)
    · have hf := it_neg c16 hf
      refine lv_iconst (v := nI 0) hx hb dX3_reached_46 ic0 ?_
      refine lv_istore (lv' := [(7, .int (nI 0)), (0, .ref o), (1, .int p0), (2, .int p1), (3, .int r9), (4, .int x14), (5, .int x12), (6, .int x15)]) hx hb dX3_reached_47 hl (by decide) rfl (fun ls hl => ?_)
      obtain ⟨y35, hxy35, hf⟩ := bnd_some hf
      have hy35 : (fun t : Int32 => ∀ (H : Heap) (locs : List Loc) (ls : Array Slot), x_I D S s H locs S → lv_has ls 8 [(0, .ref o), (1, .int p0), (2, .int p1), (3, .int r9), (4, .int t), (5, .int x12), (6, .int x15)] → W p l e (x_R 6 135 S) s m args below meth c H locs (xz S - xz S) (xu S - xu S) Q (F0 m 98 ls [])) y35 := by
        obtain ⟨x36, rfl⟩ : ∃ z, z = y35 := ⟨_, rfl⟩
        intro H locs ls hX hl
        obtain ⟨x37, ex37, hf⟩ := bd_some hf
        refine lv_iinc (v := x37) (lv' := [(6, .int x37), (0, .ref o), (1, .int p0), (2, .int p1), (3, .int r9), (4, .int x36), (5, .int x12)]) hx hb dX3_reached_98 hl (k := 6) rfl (by rw [ex37]; first | done | rfl) (by decide) rfl (fun ls hl => ?_)
        refine lv_goto (tgt := 40) hx hb dX3_reached_101 (by decide) ?_
        cases hf
        exact hk _ _ _ hX (lv_sub hl [1, 2, 3, 4, 5, 6, 0] rfl)
      refine lp_W (step := (fun t : Int32 × Int32 => f_X3_reached_L49 o p0 p1 S r9 x15 t.1 t.2)) (fun t : Int32 × Int32 => ∀ (H : Heap) (locs : List Loc) (ls : Array Slot), x_I D S s H locs S → lv_has ls 8 [(0, .ref o), (1, .int p0), (2, .int p1), (3, .int r9), (4, .int t.1), (5, .int x12), (6, .int x15), (7, .int t.2)] → W p l e (x_R 6 135 S) s m args below meth c H locs (xz S - xz S) (xu S - xu S) Q (F0 m 49 ls [])) (fun t : Int32 => ∀ (H : Heap) (locs : List Loc) (ls : Array Slot), x_I D S s H locs S → lv_has ls 8 [(0, .ref o), (1, .int p0), (2, .int p1), (3, .int r9), (4, .int t), (5, .int x12), (6, .int x15)] → W p l e (x_R 6 135 S) s m args below meth c H locs (xz S - xz S) (xu S - xu S) Q (F0 m 98 ls [])) ?_ fu (x14, nI 0) y35 hxy35 hy35 _ _ _ hX (lv_sub hl [1, 2, 3, 4, 5, 6, 7, 0] rfl)
      clear hf hxy35 hy35
      rintro ⟨x17, x18⟩ oo (hf : f_X3_reached_L49 o p0 p1 S r9 x15 x17 x18 = some oo) hk
      intro H locs ls hX hl
      unfold f_X3_reached_L49 at hf
      refine lv_iload hx hb dX3_reached_49 (lv_at hl 7 rfl) ?_
      refine lv_iload_n hx hb dX3_reached_51 rfl (lv_at hl 3 rfl) ?_
      refine lv_icmp_ge (tgt := 98) hx hb dX3_reached_52 (by decide) (fun c19 => ?_) (fun c19 => ?_)
      · have hf := it_pos c19 hf
        cases hf
        exact hk _ _ _ hX (lv_sub hl [0, 1, 2, 3, 4, 5, 6] rfl)
      · have hf := it_neg c19 hf
        refine lv_iload hx hb dX3_reached_55 (lv_at hl 6 rfl) ?_
        refine lv_iload_n hx hb dX3_reached_57 rfl (lv_at hl 2 rfl) ?_
        refine lv_icmp_eq (tgt := 71) hx hb dX3_reached_58 (by decide) (fun c20 => ?_) (fun c20 => ?_)
        · have hf := it_pos c20 hf
          refine lv_aload_n hx hb dX3_reached_71 rfl (lv_at hl 0 rfl) ?_
          refine lv_iload_n hx hb dX3_reached_72 rfl (lv_at hl 1 rfl) ?_
          refine lv_iload hx hb dX3_reached_73 (lv_at hl 6 rfl) ?_
          refine lv_iload hx hb dX3_reached_75 (lv_at hl 7 rfl) ?_
          obtain ⟨r21, hcr21, hf⟩ := bnd_some hf
          refine xr_callVC (rest := []) (q := (RX3, TX3, 4)) B hX (c_X3_isSo l D S o p0 x15 x18 hcr21) hk1 rfl (by decide) q1304 q1285 (Or.inl q1286) q109 q1287 hd_X3_isSo ⟨Nat.le_of_ble_eq_true rfl, Nat.le_of_ble_eq_true rfl⟩ rfl hl.1 rfl (Nat.le_of_ble_eq_true rfl) dX3_reached_77 (fun H locs hX => ?_)
          refine lv_if_eq (tgt := 92) hx hb dX3_reached_80 (by decide) (fun c22 => ?_) (fun c22 => ?_)
          · have hf := it_pos c22 hf
            obtain ⟨x23, ex23, hf⟩ := bd_some hf
            refine lv_iinc (v := x23) (lv' := [(7, .int x23), (0, .ref o), (1, .int p0), (2, .int p1), (3, .int r9), (4, .int x17), (5, .int x12), (6, .int x15)]) hx hb dX3_reached_92 hl (k := 7) rfl (by rw [ex23]; first | done | rfl) (by decide) rfl (fun ls hl => ?_)
            refine lv_goto (tgt := 49) hx hb dX3_reached_95 (by decide) ?_
            cases hf
            exact hk _ _ _ hX (lv_sub hl [1, 2, 3, 4, 5, 6, 7, 0] rfl)
          · have hf := it_neg c22 hf
            refine lv_iload hx hb dX3_reached_83 (lv_at hl 4 rfl) ?_
            refine lv_iconst (v := nI 1) hx hb dX3_reached_85 ic1 ?_
            refine lv_iload hx hb dX3_reached_86 (lv_at hl 7 rfl) ?_
            refine lv_ishl hx hb dX3_reached_88 ?_
            refine lv_ior hx hb dX3_reached_89 ?_
            refine lv_topi (fun x24 ex24 => ?_)
            have hf := bd_at ex24 hf
            refine lv_istore (lv' := [(4, .int x24), (0, .ref o), (1, .int p0), (2, .int p1), (3, .int r9), (5, .int x12), (6, .int x15), (7, .int x18)]) hx hb dX3_reached_90 hl (by decide) rfl (fun ls hl => ?_)
            obtain ⟨x25, ex25, hf⟩ := bd_some hf
            refine lv_iinc (v := x25) (lv' := [(7, .int x25), (4, .int x24), (0, .ref o), (1, .int p0), (2, .int p1), (3, .int r9), (5, .int x12), (6, .int x15)]) hx hb dX3_reached_92 hl (k := 7) rfl (by rw [ex25]; first | done | rfl) (by decide) rfl (fun ls hl => ?_)
            refine lv_goto (tgt := 49) hx hb dX3_reached_95 (by decide) ?_
            cases hf
            exact hk _ _ _ hX (lv_sub hl [2, 3, 4, 5, 1, 6, 7, 0] rfl)
        · have hf := it_neg c20 hf
          refine lv_iload hx hb dX3_reached_61 (lv_at hl 4 rfl) ?_
          refine lv_iload hx hb dX3_reached_63 (lv_at hl 6 rfl) ?_
          obtain ⟨r26, hcr26, hf⟩ := bnd_some hf
          refine pr_callSN (rest := []) B (c_X0_has l x17 x15 hcr26) (hX.2.2.1.use nq1301 rfl) q1302 q103 q1303 hd_X0_has ⟨Nat.le_of_ble_eq_true rfl, Nat.le_of_ble_eq_true rfl⟩ rfl hl.1 rfl (Nat.le_of_ble_eq_true rfl) dX3_reached_65 (x_room0 hX) ?_
          refine lv_if_eq (tgt := 92) hx hb dX3_reached_68 (by decide) (fun c27 => ?_) (fun c27 => ?_)
          · have hf := it_pos c27 hf
            obtain ⟨x28, ex28, hf⟩ := bd_some hf
            refine lv_iinc (v := x28) (lv' := [(7, .int x28), (0, .ref o), (1, .int p0), (2, .int p1), (3, .int r9), (4, .int x17), (5, .int x12), (6, .int x15)]) hx hb dX3_reached_92 hl (k := 7) rfl (by rw [ex28]; first | done | rfl) (by decide) rfl (fun ls hl => ?_)
            refine lv_goto (tgt := 49) hx hb dX3_reached_95 (by decide) ?_
            cases hf
            exact hk _ _ _ hX (lv_sub hl [1, 2, 3, 4, 5, 6, 7, 0] rfl)
          · have hf := it_neg c27 hf
            refine lv_aload_n hx hb dX3_reached_71 rfl (lv_at hl 0 rfl) ?_
            refine lv_iload_n hx hb dX3_reached_72 rfl (lv_at hl 1 rfl) ?_
            refine lv_iload hx hb dX3_reached_73 (lv_at hl 6 rfl) ?_
            refine lv_iload hx hb dX3_reached_75 (lv_at hl 7 rfl) ?_
            obtain ⟨r29, hcr29, hf⟩ := bnd_some hf
            refine xr_callVC (rest := []) (q := (RX3, TX3, 4)) B hX (c_X3_isSo l D S o p0 x15 x18 hcr29) hk1 rfl (by decide) q1304 q1285 (Or.inl q1286) q109 q1287 hd_X3_isSo ⟨Nat.le_of_ble_eq_true rfl, Nat.le_of_ble_eq_true rfl⟩ rfl hl.1 rfl (Nat.le_of_ble_eq_true rfl) dX3_reached_77 (fun H locs hX => ?_)
            refine lv_if_eq (tgt := 92) hx hb dX3_reached_80 (by decide) (fun c30 => ?_) (fun c30 => ?_)
            · have hf := it_pos c30 hf
              obtain ⟨x31, ex31, hf⟩ := bd_some hf
              refine lv_iinc (v := x31) (lv' := [(7, .int x31), (0, .ref o), (1, .int p0), (2, .int p1), (3, .int r9), (4, .int x17), (5, .int x12), (6, .int x15)]) hx hb dX3_reached_92 hl (k := 7) rfl (by rw [ex31]; first | done | rfl) (by decide) rfl (fun ls hl => ?_)
              refine lv_goto (tgt := 49) hx hb dX3_reached_95 (by decide) ?_
              cases hf
              exact hk _ _ _ hX (lv_sub hl [1, 2, 3, 4, 5, 6, 7, 0] rfl)
            · have hf := it_neg c30 hf
              refine lv_iload hx hb dX3_reached_83 (lv_at hl 4 rfl) ?_
              refine lv_iconst (v := nI 1) hx hb dX3_reached_85 ic1 ?_
              refine lv_iload hx hb dX3_reached_86 (lv_at hl 7 rfl) ?_
              refine lv_ishl hx hb dX3_reached_88 ?_
              refine lv_ior hx hb dX3_reached_89 ?_
              refine lv_topi (fun x32 ex32 => ?_)
              have hf := bd_at ex32 hf
              refine lv_istore (lv' := [(4, .int x32), (0, .ref o), (1, .int p0), (2, .int p1), (3, .int r9), (5, .int x12), (6, .int x15), (7, .int x18)]) hx hb dX3_reached_90 hl (by decide) rfl (fun ls hl => ?_)
              obtain ⟨x33, ex33, hf⟩ := bd_some hf
              refine lv_iinc (v := x33) (lv' := [(7, .int x33), (4, .int x32), (0, .ref o), (1, .int p0), (2, .int p1), (3, .int r9), (5, .int x12), (6, .int x15)]) hx hb dX3_reached_92 hl (k := 7) rfl (by rw [ex33]; first | done | rfl) (by decide) rfl (fun ls hl => ?_)
              refine lv_goto (tgt := 49) hx hb dX3_reached_95 (by decide) ?_
              cases hf
              exact hk _ _ _ hX (lv_sub hl [2, 3, 4, 5, 1, 6, 7, 0] rfl)
def f_X19_isSo (S : XS) (o : Nat) (p0 : Nat) : Option Int32 :=
  chk (xk S o = 14) <| chk (xk S p0 = 4) <| bnd (xr S 403 p0 0) fun b3 => chk (xk S b3 = 52) <| ald (xn S b3) (xi S 52 b3) (xi S 1401 o 0) fun v5 => bnd (f_X3_reached S p0 (xi S 1400 o 0) v5) fun r6 => bnd (xr S 403 p0 0) fun b7 => chk (xk S b7 = 52) <| ald (xn S b7) (xi S 52 b7) (xi S 1402 o 0) fun v9 => bnd (f_X0_has r6 v9) fun r10 => chk (r10 = 0 ∨ r10 = 1) <| some r10
set_option maxHeartbeats 4000000 in
set_option maxRecDepth 100000 in
theorem c_X19_isSo (l : Launch) (D : XD) (S : XS) (o : Nat) (p0 : Nat) {r : Int32} (hf : f_X19_isSo S o p0 = some r) : x_Met l yX19_isSo cX19_isSo 2 (Option.some Jvm.ClassFile.FieldType.boolean) 7 162 D [.ref o, .ref p0] S (some (.int r)) S := by
  refine x_metI RX19 (by decide) rfl (Nat.le_of_ble_eq_true rfl) (fun p e s m args below meth c Q B hnm hret H locs hX ls hl => ?_)
  have hx := B.1
  have hb := B.2.1
  have hml := B.2.2.1
  have hown := B.2.2.2.1
  have hts := B.2.2.2.2
  have hl : lv_has ls 2 [(0, .ref o), (1, .ref p0)] := hl
  unfold f_X19_isSo at hf
  refine lv_aload_n hx hb dX19_isSo_0 rfl (lv_at hl 1 rfl) ?_
  refine lv_aload_n hx hb dX19_isSo_1 rfl (lv_at hl 0 rfl) ?_
  obtain ⟨hk1, hf⟩ := chk_some hf
  refine xr_get (q := (RX19, TX19, 3)) B hX 0 hk1 rfl (by decide) (by decide) (x_Vi rfl (by decide)) q1165 (fun _ h => h) dX19_isSo_2 ?_
  refine lv_aload_n hx hb dX19_isSo_5 rfl (lv_at hl 1 rfl) ?_
  obtain ⟨hk2, hf⟩ := chk_some hf
  obtain ⟨b3, hb3, hf⟩ := bnd_some hf
  refine xr_getN (q := (RX3, TX3, 4)) B hX 3 hk2 rfl (by decide) (by decide) (v := .ref b3) (x_Vr (c := 4) (j := 3) rfl (by decide) hb3) nq292 (fun _ h => h) dX19_isSo_6 ?_
  refine lv_aload_n hx hb dX19_isSo_9 rfl (lv_at hl 0 rfl) ?_
  refine xr_get (q := (RX19, TX19, 3)) B hX 1 hk1 rfl (by decide) (by decide) (x_Vi rfl (by decide)) q1166 (fun _ h => h) dX19_isSo_10 ?_
  obtain ⟨hk4, hf⟩ := chk_some hf
  obtain ⟨v5, ev5, hiv5, hf⟩ := ald_some hf
  refine xr_iald B hX hk4 hiv5 ev5 dX19_isSo_13 ?_
  obtain ⟨r6, hcr6, hf⟩ := bnd_some hf
  refine xr_callVC (rest := []) (q := (RX3, TX3, 4)) B hX (c_X3_reached l D S p0 (xi S 1400 o 0) v5 hcr6) hk2 rfl (by decide) q1294 q1295 (Or.inl q1296) q109 q1297 hd_X3_reached ⟨Nat.le_of_ble_eq_true rfl, Nat.le_of_ble_eq_true rfl⟩ rfl hl.1 rfl (Nat.le_of_ble_eq_true rfl) dX19_isSo_14 (fun H locs hX => ?_)
  refine lv_aload_n hx hb dX19_isSo_17 rfl (lv_at hl 1 rfl) ?_
  obtain ⟨b7, hb7, hf⟩ := bnd_some hf
  refine xr_getN (q := (RX3, TX3, 4)) B hX 3 hk2 rfl (by decide) (by decide) (v := .ref b7) (x_Vr (c := 4) (j := 3) rfl (by decide) hb7) nq292 (fun _ h => h) dX19_isSo_18 ?_
  refine lv_aload_n hx hb dX19_isSo_21 rfl (lv_at hl 0 rfl) ?_
  refine xr_get (q := (RX19, TX19, 3)) B hX 2 hk1 rfl (by decide) (by decide) (x_Vi rfl (by decide)) q1167 (fun _ h => h) dX19_isSo_22 ?_
  obtain ⟨hk8, hf⟩ := chk_some hf
  obtain ⟨v9, ev9, hiv9, hf⟩ := ald_some hf
  refine xr_iald B hX hk8 hiv9 ev9 dX19_isSo_25 ?_
  obtain ⟨r10, hcr10, hf⟩ := bnd_some hf
  refine pr_callSN (rest := []) B (c_X0_has l r6 v9 hcr10) (hX.2.2.1.use nq1305 rfl) q1302 q103 q1303 hd_X0_has ⟨Nat.le_of_ble_eq_true rfl, Nat.le_of_ble_eq_true rfl⟩ rfl hl.1 rfl (Nat.le_of_ble_eq_true rfl) dX19_isSo_26 (x_room0 hX) ?_
  obtain ⟨hb11, hf⟩ := chk_some hf
  cases hf
  exact hret _ _ _ _ (by rcases hb11 with q | q <;> (rw [q]; rfl)) hX dX19_isSo_29
def f_X20_isSo_L41 (o : Nat) (p0 : Nat) (S : XS) (r10 : Int32) (x12 : Int32) (x14 : Int32) (x15 : Int32) : Option ((Int32 × Int32) ⊕ ((Int32))) :=
  (if r10 ≤ x15 then some (.inr x14) else bnd (f_X3_isSo S p0 (xi S 1500 o 0) x12 x15) fun r17 => (if r17 = 0 then bd (x14 + nI 0) fun x19 => bd (x15 + nI 1) fun x20 => some (.inl (x19, x20)) else bd (x14 + nI 1) fun x21 => bd (x15 + nI 1) fun x22 => some (.inl (x21, x22))))
def f_X20_isSo_L30 (o : Nat) (p0 : Nat) (S : XS) (r10 : Int32) (x12 : Int32) : Option ((Int32) ⊕ ((Unit) ⊕ (Unit))) :=
  (if r10 ≤ x12 then some (.inr (.inr ())) else bnd (wO (fun t : Int32 × Int32 => f_X20_isSo_L41 o p0 S r10 x12 t.1 t.2) fu (nI 0, nI 0)) <| fun x25 => (if nI 1 < x25 then some (.inr (.inl ())) else bnd (f_X3_reached S p0 (xi S 1500 o 0) x12) fun r27 => bnd (f_X0_has r27 x12) fun r28 => (if r28 = 0 then bd (x12 + nI 1) fun x30 => some (.inl x30) else some (.inr (.inl ())))))
def f_X20_isSo (S : XS) (o : Nat) (p0 : Nat) : Option Int32 :=
  chk (xk S p0 = 4) <| bnd (xr S 400 p0 0) fun b2 => bnd (xr S 400 p0 0) fun b3 => chk (xk S b3 = 3) <| bnd (xr S 301 b3 0) fun b5 => chk (xk S o = 15) <| chk (xk S b5 = 19) <| bnd (f_J2_get S b5 (xi S 1500 o 0)) fun b7 => chk (xk S b7 = 5) <| chk (xk S b2 = 3) <| bnd (f_X2_size S b2 (xi S 500 b7 0)) fun r10 => bnd (wO (fun t : Int32 => f_X20_isSo_L30 o p0 S r10 t) fu (nI 0)) (Sum.elim (fun _ => some (nI 0)) (fun _ => some (nI 1)))
set_option maxHeartbeats 4000000 in
set_option maxRecDepth 100000 in
theorem c_X20_isSo (l : Launch) (D : XD) (S : XS) (o : Nat) (p0 : Nat) {r : Int32} (hf : f_X20_isSo S o p0 = some r) : x_Met l yX20_isSo cX20_isSo 6 (Option.some Jvm.ClassFile.FieldType.boolean) 7 162 D [.ref o, .ref p0] S (some (.int r)) S := by
  refine x_metI RX20 (by decide) rfl (Nat.le_of_ble_eq_true rfl) (fun p e s m args below meth c Q B hnm hret H locs hX ls hl => ?_)
  have hx := B.1
  have hb := B.2.1
  have hml := B.2.2.1
  have hown := B.2.2.2.1
  have hts := B.2.2.2.2
  have hl : lv_has ls 6 [(0, .ref o), (1, .ref p0)] := hl
  unfold f_X20_isSo at hf
  refine lv_aload_n hx hb dX20_isSo_0 rfl (lv_at hl 1 rfl) ?_
  obtain ⟨hk1, hf⟩ := chk_some hf
  obtain ⟨b2, hb2, hf⟩ := bnd_some hf
  refine xr_getN (q := (RX3, TX3, 4)) B hX 0 hk1 rfl (by decide) (by decide) (v := .ref b2) (x_Vr (c := 4) (j := 0) rfl (by decide) hb2) nq282 (fun _ h => h) dX20_isSo_1 ?_
  refine lv_aload_n hx hb dX20_isSo_4 rfl (lv_at hl 1 rfl) ?_
  obtain ⟨b3, hb3, hf⟩ := bnd_some hf
  refine xr_getN (q := (RX3, TX3, 4)) B hX 0 hk1 rfl (by decide) (by decide) (v := .ref b3) (x_Vr (c := 4) (j := 0) rfl (by decide) hb3) nq282 (fun _ h => h) dX20_isSo_5 ?_
  obtain ⟨hk4, hf⟩ := chk_some hf
  obtain ⟨b5, hb5, hf⟩ := bnd_some hf
  refine xr_getN (q := (RX2, TX2, 2)) B hX 1 hk4 rfl (by decide) (by decide) (v := .ref b5) (x_Vr (c := 3) (j := 1) rfl (by decide) hb5) nq202 (fun _ h => h) dX20_isSo_8 ?_
  refine lv_aload_n hx hb dX20_isSo_11 rfl (lv_at hl 0 rfl) ?_
  obtain ⟨hk6, hf⟩ := chk_some hf
  refine xr_get (q := (RX20, TX20, 1)) B hX 0 hk6 rfl (by decide) (by decide) (x_Vi rfl (by decide)) q1182 (fun _ h => h) dX20_isSo_12 ?_
  obtain ⟨hk8, hf⟩ := chk_some hf
  obtain ⟨b7, hcb7, hf⟩ := bnd_some hf
  refine xr_callVC (rest := [.ref b2]) (q := (RJ2, TJ2, 3)) B hX (c_J2_get l D S b5 (xi S 1500 o 0) hcb7) hk8 rfl (by decide) q1310 q524 (Or.inl q525) q108 q526 hd_J2_get ⟨Nat.le_of_ble_eq_true rfl, Nat.le_of_ble_eq_true rfl⟩ rfl hl.1 rfl (Nat.le_of_ble_eq_true rfl) dX20_isSo_15 (fun H locs hX => ?_)
  obtain ⟨hk9, hf⟩ := chk_some hf
  refine xr_castY (q := (RX8, TX8, 2)) B hX hk9 rfl (by decide) q1311 (Or.inr ⟨rfl, by decide⟩) dX20_isSo_18 ?_
  refine xr_getN (q := (RX8, TX8, 2)) B hX 0 hk9 rfl (by decide) (by decide) (x_Vi rfl (by decide)) nq420 (fun _ h => h) dX20_isSo_21 ?_
  obtain ⟨hk11, hf⟩ := chk_some hf
  obtain ⟨r10, hcr10, hf⟩ := bnd_some hf
  refine xr_callVC (rest := []) (q := (RX2, TX2, 2)) B hX (c_X2_size l D S b2 (xi S 500 b7 0) hcr10) hk11 rfl (by decide) q1312 q398 (Or.inl q399) q105 q400 hd_X2_size ⟨Nat.le_of_ble_eq_true rfl, Nat.le_of_ble_eq_true rfl⟩ rfl hl.1 rfl (Nat.le_of_ble_eq_true rfl) dX20_isSo_24 (fun H locs hX => ?_)
  refine lv_istore_n (lv' := [(2, .int r10), (0, .ref o), (1, .ref p0)]) hx hb dX20_isSo_27 rfl hl (by decide) rfl (fun ls hl => ?_)
  refine lv_iconst (v := nI 0) hx hb dX20_isSo_28 ic0 ?_
  refine lv_istore_n (lv' := [(3, .int (nI 0)), (2, .int r10), (0, .ref o), (1, .ref p0)]) hx hb dX20_isSo_29 rfl hl (by decide) rfl (fun ls hl => ?_)
  obtain ⟨y32, hxy32, hf⟩ := bnd_some hf
  have hy32 : (Sum.elim (fun t : Unit => ∀ (H : Heap) (locs : List Loc) (ls : Array Slot), x_I D S s H locs S → lv_has ls 6 [] → W p l e (x_R 7 162 S) s m args below meth c H locs (xz S - xz S) (xu S - xu S) Q (F0 m 99 ls [])) (fun t : Unit => ∀ (H : Heap) (locs : List Loc) (ls : Array Slot), x_I D S s H locs S → lv_has ls 6 [] → W p l e (x_R 7 162 S) s m args below meth c H locs (xz S - xz S) (xu S - xu S) Q (F0 m 107 ls []))) y32 := by
    rcases y32 with _ | _
    · have hf := el_l hf
      intro H locs ls hX hl
      refine lv_iconst (v := nI 0) hx hb dX20_isSo_99 ic0 ?_
      cases hf
      exact hret _ _ _ _ rfl hX dX20_isSo_100
    · have hf := el_r hf
      intro H locs ls hX hl
      refine lv_iconst (v := nI 1) hx hb dX20_isSo_107 ic1 ?_
      cases hf
      exact hret _ _ _ _ rfl hX dX20_isSo_108
  refine lp_W (step := (fun t : Int32 => f_X20_isSo_L30 o p0 S r10 t)) (fun t : Int32 => ∀ (H : Heap) (locs : List Loc) (ls : Array Slot), x_I D S s H locs S → lv_has ls 6 [(0, .ref o), (1, .ref p0), (2, .int r10), (3, .int t)] → W p l e (x_R 7 162 S) s m args below meth c H locs (xz S - xz S) (xu S - xu S) Q (F0 m 30 ls [])) (Sum.elim (fun t : Unit => ∀ (H : Heap) (locs : List Loc) (ls : Array Slot), x_I D S s H locs S → lv_has ls 6 [] → W p l e (x_R 7 162 S) s m args below meth c H locs (xz S - xz S) (xu S - xu S) Q (F0 m 99 ls [])) (fun t : Unit => ∀ (H : Heap) (locs : List Loc) (ls : Array Slot), x_I D S s H locs S → lv_has ls 6 [] → W p l e (x_R 7 162 S) s m args below meth c H locs (xz S - xz S) (xu S - xu S) Q (F0 m 107 ls []))) ?_ fu (nI 0) y32 hxy32 hy32 _ _ _ hX (lv_sub hl [2, 3, 1, 0] rfl)
  clear hf hxy32 hy32
  rintro x12 oo (hf : f_X20_isSo_L30 o p0 S r10 x12 = some oo) hk
  intro H locs ls hX hl
  unfold f_X20_isSo_L30 at hf
  refine lv_iload_n hx hb dX20_isSo_30 rfl (lv_at hl 3 rfl) ?_
  refine lv_iload_n hx hb dX20_isSo_31 rfl (lv_at hl 2 rfl) ?_
  refine lv_icmp_ge (tgt := 107) hx hb dX20_isSo_32 (by decide) (fun c13 => ?_) (fun c13 => ?_)
  · have hf := it_pos c13 hf
    cases hf
    exact hk _ _ _ hX (lv_sub hl [] rfl)
  · have hf := it_neg c13 hf
    refine lv_iconst (v := nI 0) hx hb dX20_isSo_35 ic0 ?_
    refine lv_istore (lv' := [(4, .int (nI 0)), (0, .ref o), (1, .ref p0), (2, .int r10), (3, .int x12)]) hx hb dX20_isSo_36 hl (by decide) rfl (fun ls hl => ?_)
    refine lv_iconst (v := nI 0) hx hb dX20_isSo_38 ic0 ?_
    refine lv_istore (lv' := [(5, .int (nI 0)), (4, .int (nI 0)), (0, .ref o), (1, .ref p0), (2, .int r10), (3, .int x12)]) hx hb dX20_isSo_39 hl (by decide) rfl (fun ls hl => ?_)
    obtain ⟨y24, hxy24, hf⟩ := bnd_some hf
    have hy24 : (fun t : Int32 => ∀ (H : Heap) (locs : List Loc) (ls : Array Slot), x_I D S s H locs S → lv_has ls 6 [(0, .ref o), (1, .ref p0), (2, .int r10), (3, .int x12), (4, .int t)] → W p l e (x_R 7 162 S) s m args below meth c H locs (xz S - xz S) (xu S - xu S) Q (F0 m 77 ls [])) y24 := by
      obtain ⟨x25, rfl⟩ : ∃ z, z = y24 := ⟨_, rfl⟩
      intro H locs ls hX hl
      refine lv_iload hx hb dX20_isSo_77 (lv_at hl 4 rfl) ?_
      refine lv_iconst (v := nI 1) hx hb dX20_isSo_79 ic1 ?_
      refine lv_icmp_gt (tgt := 99) hx hb dX20_isSo_80 (by decide) (fun c26 => ?_) (fun c26 => ?_)
      · have hf := it_pos c26 hf
        cases hf
        exact hk _ _ _ hX (lv_sub hl [] rfl)
      · have hf := it_neg c26 hf
        refine lv_aload_n hx hb dX20_isSo_83 rfl (lv_at hl 1 rfl) ?_
        refine lv_aload_n hx hb dX20_isSo_84 rfl (lv_at hl 0 rfl) ?_
        refine xr_get (q := (RX20, TX20, 1)) B hX 0 hk6 rfl (by decide) (by decide) (x_Vi rfl (by decide)) q1182 (fun _ h => h) dX20_isSo_85 ?_
        refine lv_iload_n hx hb dX20_isSo_88 rfl (lv_at hl 3 rfl) ?_
        obtain ⟨r27, hcr27, hf⟩ := bnd_some hf
        refine xr_callVC (rest := []) (q := (RX3, TX3, 4)) B hX (c_X3_reached l D S p0 (xi S 1500 o 0) x12 hcr27) hk1 rfl (by decide) q1314 q1295 (Or.inl q1296) q109 q1297 hd_X3_reached ⟨Nat.le_of_ble_eq_true rfl, Nat.le_of_ble_eq_true rfl⟩ rfl hl.1 rfl (Nat.le_of_ble_eq_true rfl) dX20_isSo_89 (fun H locs hX => ?_)
        refine lv_iload_n hx hb dX20_isSo_92 rfl (lv_at hl 3 rfl) ?_
        obtain ⟨r28, hcr28, hf⟩ := bnd_some hf
        refine pr_callSN (rest := []) B (c_X0_has l r27 x12 hcr28) (hX.2.2.1.use nq1315 rfl) q1302 q103 q1303 hd_X0_has ⟨Nat.le_of_ble_eq_true rfl, Nat.le_of_ble_eq_true rfl⟩ rfl hl.1 rfl (Nat.le_of_ble_eq_true rfl) dX20_isSo_93 (x_room0 hX) ?_
        refine lv_if_eq (tgt := 101) hx hb dX20_isSo_96 (by decide) (fun c29 => ?_) (fun c29 => ?_)
        · have hf := it_pos c29 hf
          obtain ⟨x30, ex30, hf⟩ := bd_some hf
          refine lv_iinc (v := x30) (lv' := [(3, .int x30), (0, .ref o), (1, .ref p0), (2, .int r10), (4, .int x25)]) hx hb dX20_isSo_101 hl (k := 3) rfl (by rw [ex30]; first | done | rfl) (by decide) rfl (fun ls hl => ?_)
          refine lv_goto (tgt := 30) hx hb dX20_isSo_104 (by decide) ?_
          cases hf
          exact hk _ _ _ hX (lv_sub hl [1, 2, 3, 0] rfl)
        · have hf := it_neg c29 hf
          cases hf
          exact hk _ _ _ hX (lv_sub hl [] rfl)
    refine lp_W (step := (fun t : Int32 × Int32 => f_X20_isSo_L41 o p0 S r10 x12 t.1 t.2)) (fun t : Int32 × Int32 => ∀ (H : Heap) (locs : List Loc) (ls : Array Slot), x_I D S s H locs S → lv_has ls 6 [(0, .ref o), (1, .ref p0), (2, .int r10), (3, .int x12), (4, .int t.1), (5, .int t.2)] → W p l e (x_R 7 162 S) s m args below meth c H locs (xz S - xz S) (xu S - xu S) Q (F0 m 41 ls [])) (fun t : Int32 => ∀ (H : Heap) (locs : List Loc) (ls : Array Slot), x_I D S s H locs S → lv_has ls 6 [(0, .ref o), (1, .ref p0), (2, .int r10), (3, .int x12), (4, .int t)] → W p l e (x_R 7 162 S) s m args below meth c H locs (xz S - xz S) (xu S - xu S) Q (F0 m 77 ls [])) ?_ fu (nI 0, nI 0) y24 hxy24 hy24 _ _ _ hX (lv_sub hl [2, 3, 4, 5, 1, 0] rfl)
    clear hf hxy24 hy24
    rintro ⟨x14, x15⟩ oo (hf : f_X20_isSo_L41 o p0 S r10 x12 x14 x15 = some oo) hk
    intro H locs ls hX hl
    unfold f_X20_isSo_L41 at hf
    refine lv_iload hx hb dX20_isSo_41 (lv_at hl 5 rfl) ?_
    refine lv_iload_n hx hb dX20_isSo_43 rfl (lv_at hl 2 rfl) ?_
    refine lv_icmp_ge (tgt := 77) hx hb dX20_isSo_44 (by decide) (fun c16 => ?_) (fun c16 => ?_)
    · have hf := it_pos c16 hf
      cases hf
      exact hk _ _ _ hX (lv_sub hl [0, 1, 2, 3, 4] rfl)
    · have hf := it_neg c16 hf
      refine lv_iload hx hb dX20_isSo_47 (lv_at hl 4 rfl) ?_
      refine lv_aload_n hx hb dX20_isSo_49 rfl (lv_at hl 1 rfl) ?_
      refine lv_aload_n hx hb dX20_isSo_50 rfl (lv_at hl 0 rfl) ?_
      refine xr_get (q := (RX20, TX20, 1)) B hX 0 hk6 rfl (by decide) (by decide) (x_Vi rfl (by decide)) q1182 (fun _ h => h) dX20_isSo_51 ?_
      refine lv_iload_n hx hb dX20_isSo_54 rfl (lv_at hl 3 rfl) ?_
      refine lv_iload hx hb dX20_isSo_55 (lv_at hl 5 rfl) ?_
      obtain ⟨r17, hcr17, hf⟩ := bnd_some hf
      refine xr_callVC (rest := [.int x14]) (q := (RX3, TX3, 4)) B hX (c_X3_isSo l D S p0 (xi S 1500 o 0) x12 x15 hcr17) hk1 rfl (by decide) q1313 q1285 (Or.inl q1286) q109 q1287 hd_X3_isSo ⟨Nat.le_of_ble_eq_true rfl, Nat.le_of_ble_eq_true rfl⟩ rfl hl.1 rfl (Nat.le_of_ble_eq_true rfl) dX20_isSo_57 (fun H locs hX => ?_)
      refine lv_if_eq (tgt := 67) hx hb dX20_isSo_60 (by decide) (fun c18 => ?_) (fun c18 => ?_)
      · have hf := it_pos c18 hf
        refine lv_iconst (v := nI 0) hx hb dX20_isSo_67 ic0 ?_
        refine lv_iadd hx hb dX20_isSo_68 ?_
        refine lv_topi (fun x19 ex19 => ?_)
        have hf := bd_at ex19 hf
        refine lv_istore (lv' := [(4, .int x19), (0, .ref o), (1, .ref p0), (2, .int r10), (3, .int x12), (5, .int x15)]) hx hb dX20_isSo_69 hl (by decide) rfl (fun ls hl => ?_)
        obtain ⟨x20, ex20, hf⟩ := bd_some hf
        refine lv_iinc (v := x20) (lv' := [(5, .int x20), (4, .int x19), (0, .ref o), (1, .ref p0), (2, .int r10), (3, .int x12)]) hx hb dX20_isSo_71 hl (k := 5) rfl (by rw [ex20]; first | done | rfl) (by decide) rfl (fun ls hl => ?_)
        refine lv_goto (tgt := 41) hx hb dX20_isSo_74 (by decide) ?_
        cases hf
        exact hk _ _ _ hX (lv_sub hl [2, 3, 4, 5, 1, 0] rfl)
      · have hf := it_neg c18 hf
        refine lv_iconst (v := nI 1) hx hb dX20_isSo_63 ic1 ?_
        refine lv_goto (tgt := 68) hx hb dX20_isSo_64 (by decide) ?_
        refine lv_iadd hx hb dX20_isSo_68 ?_
        refine lv_topi (fun x21 ex21 => ?_)
        have hf := bd_at ex21 hf
        refine lv_istore (lv' := [(4, .int x21), (0, .ref o), (1, .ref p0), (2, .int r10), (3, .int x12), (5, .int x15)]) hx hb dX20_isSo_69 hl (by decide) rfl (fun ls hl => ?_)
        obtain ⟨x22, ex22, hf⟩ := bd_some hf
        refine lv_iinc (v := x22) (lv' := [(5, .int x22), (4, .int x21), (0, .ref o), (1, .ref p0), (2, .int r10), (3, .int x12)]) hx hb dX20_isSo_71 hl (k := 5) rfl (by rw [ex22]; first | done | rfl) (by decide) rfl (fun ls hl => ?_)
        refine lv_goto (tgt := 41) hx hb dX20_isSo_74 (by decide) ?_
        cases hf
        exact hk _ _ _ hX (lv_sub hl [2, 3, 4, 5, 1, 0] rfl)
def f_X21_isSo_J35_7 (o : Nat) (p0 : Nat) (S : XS) (v5 : Int32) (x11 : Int32) : Option Int32 :=
  bnd (f_X3_isSo S p0 (xi S 1600 o 0) v5 x11) fun r12 => chk (r12 = 0 ∨ r12 = 1) <| some r12
def f_X21_isSo (S : XS) (o : Nat) (p0 : Nat) : Option Int32 :=
  chk (xk S o = 16) <| chk (xk S p0 = 4) <| bnd (xr S 403 p0 0) fun b3 => chk (xk S b3 = 52) <| ald (xn S b3) (xi S 52 b3) (xi S 1601 o 0) fun v5 => (if (xi S 1602 o 0) = (-1) then f_X21_isSo_J35_7 o p0 S v5 (nI 0) else bnd (xr S 403 p0 0) fun b8 => chk (xk S b8 = 52) <| ald (xn S b8) (xi S 52 b8) (xi S 1602 o 0) fun v10 => f_X21_isSo_J35_7 o p0 S v5 v10)
set_option maxHeartbeats 4000000 in
set_option maxRecDepth 100000 in
theorem c_X21_isSo (l : Launch) (D : XD) (S : XS) (o : Nat) (p0 : Nat) {r : Int32} (hf : f_X21_isSo S o p0 = some r) : x_Met l yX21_isSo cX21_isSo 2 (Option.some Jvm.ClassFile.FieldType.boolean) 6 135 D [.ref o, .ref p0] S (some (.int r)) S := by
  refine x_metI RX21 (by decide) rfl (Nat.le_of_ble_eq_true rfl) (fun p e s m args below meth c Q B hnm hret H locs hX ls hl => ?_)
  have hx := B.1
  have hb := B.2.1
  have hml := B.2.2.1
  have hown := B.2.2.2.1
  have hts := B.2.2.2.2
  have hl : lv_has ls 2 [(0, .ref o), (1, .ref p0)] := hl
  unfold f_X21_isSo at hf
  refine lv_aload_n hx hb dX21_isSo_0 rfl (lv_at hl 1 rfl) ?_
  refine lv_aload_n hx hb dX21_isSo_1 rfl (lv_at hl 0 rfl) ?_
  obtain ⟨hk1, hf⟩ := chk_some hf
  refine xr_get (q := (RX21, TX21, 3)) B hX 0 hk1 rfl (by decide) (by decide) (x_Vi rfl (by decide)) q1193 (fun _ h => h) dX21_isSo_2 ?_
  refine lv_aload_n hx hb dX21_isSo_5 rfl (lv_at hl 1 rfl) ?_
  obtain ⟨hk2, hf⟩ := chk_some hf
  obtain ⟨b3, hb3, hf⟩ := bnd_some hf
  refine xr_getN (q := (RX3, TX3, 4)) B hX 3 hk2 rfl (by decide) (by decide) (v := .ref b3) (x_Vr (c := 4) (j := 3) rfl (by decide) hb3) nq291 (fun _ h => h) dX21_isSo_6 ?_
  refine lv_aload_n hx hb dX21_isSo_9 rfl (lv_at hl 0 rfl) ?_
  refine xr_get (q := (RX21, TX21, 3)) B hX 1 hk1 rfl (by decide) (by decide) (x_Vi rfl (by decide)) q1194 (fun _ h => h) dX21_isSo_10 ?_
  obtain ⟨hk4, hf⟩ := chk_some hf
  obtain ⟨v5, ev5, hiv5, hf⟩ := ald_some hf
  refine xr_iald B hX hk4 hiv5 ev5 dX21_isSo_13 ?_
  refine lv_aload_n hx hb dX21_isSo_14 rfl (lv_at hl 0 rfl) ?_
  refine xr_get (q := (RX21, TX21, 3)) B hX 2 hk1 rfl (by decide) (by decide) (x_Vi rfl (by decide)) q1195 (fun _ h => h) dX21_isSo_15 ?_
  refine lv_iconst (v := (-1)) hx hb dX21_isSo_18 icm1 ?_
  have j7 : ∀ (x11 : Int32), f_X21_isSo_J35_7 o p0 S v5 x11 = some r → ∀ (H : Heap) (locs : List Loc) (ls : Array Slot), x_I D S s H locs S → lv_has ls 2 [] → W p l e (x_R 6 135 S) s m args below meth c H locs (xz S - xz S) (xu S - xu S) Q (F0 m 35 ls [.int x11, .int v5, .int (xi S 1600 o 0), .ref p0]) := by
    intro x11 hf
    intro H locs ls hX hl
    unfold f_X21_isSo_J35_7 at hf
    obtain ⟨r12, hcr12, hf⟩ := bnd_some hf
    refine xr_callVC (rest := []) (q := (RX3, TX3, 4)) B hX (c_X3_isSo l D S p0 (xi S 1600 o 0) v5 x11 hcr12) hk2 rfl (by decide) q1284 q1285 (Or.inl q1286) q109 q1287 hd_X3_isSo ⟨Nat.le_of_ble_eq_true rfl, Nat.le_of_ble_eq_true rfl⟩ rfl hl.1 rfl (Nat.le_of_ble_eq_true rfl) dX21_isSo_35 (fun H locs hX => ?_)
    obtain ⟨hb13, hf⟩ := chk_some hf
    cases hf
    exact hret _ _ _ _ (by rcases hb13 with q | q <;> (rw [q]; rfl)) hX dX21_isSo_38
  refine lv_icmp_ne (tgt := 26) hx hb dX21_isSo_19 (by decide) (fun c6 => ?_) (fun c6 => ?_)
  · have hf := it_neg c6 hf
    refine lv_aload_n hx hb dX21_isSo_26 rfl (lv_at hl 1 rfl) ?_
    obtain ⟨b8, hb8, hf⟩ := bnd_some hf
    refine xr_getN (q := (RX3, TX3, 4)) B hX 3 hk2 rfl (by decide) (by decide) (v := .ref b8) (x_Vr (c := 4) (j := 3) rfl (by decide) hb8) nq291 (fun _ h => h) dX21_isSo_27 ?_
    refine lv_aload_n hx hb dX21_isSo_30 rfl (lv_at hl 0 rfl) ?_
    refine xr_get (q := (RX21, TX21, 3)) B hX 2 hk1 rfl (by decide) (by decide) (x_Vi rfl (by decide)) q1195 (fun _ h => h) dX21_isSo_31 ?_
    obtain ⟨hk9, hf⟩ := chk_some hf
    obtain ⟨v10, ev10, hiv10, hf⟩ := ald_some hf
    refine xr_iald B hX hk9 hiv10 ev10 dX21_isSo_34 ?_
    exact j7 v10 hf _ _ _ hX (lv_sub hl [] rfl)
  · have hf := it_pos c6 hf
    refine lv_iconst (v := nI 0) hx hb dX21_isSo_22 ic0 ?_
    refine lv_goto (tgt := 35) hx hb dX21_isSo_23 (by decide) ?_
    exact j7 (nI 0) hf _ _ _ hX (lv_sub hl [] rfl)
def f_X3_is (S : XS) (o : Nat) (p0 : Nat) (p1 : Int64) : Option XS :=
  chk (xk S o = 4) <| chk (xb S ≤ o) <| bd (s_r S 400 o 0 (some p0)) fun S3 => bd (s_l S3 401 o 0 p1) fun S4 => chk (xk S4 p0 = 3) <| bnd (f_X2_facts S4 p0) fun r5 => bd (s_i S4 402 o 0 r5) fun S7 => some S7
set_option maxHeartbeats 4000000 in
set_option maxRecDepth 100000 in
theorem c_X3_is (l : Launch) (D : XD) (S : XS) (o : Nat) (p0 : Nat) (p1 : Int64) {S' : XS} (hf : f_X3_is S o p0 p1 = some S') : x_Met l yX3_is cX3_is 4 (Option.none : Option Jvm.ClassFile.FieldType) 5 108 D [.ref o, .ref p0, .long p1] S none S' := by
  refine x_metV RX3 (by decide) rfl (Nat.le_of_ble_eq_true rfl) (fun p e s m args below meth c Q B hnm hret H locs hX ls hl => ?_)
  have hx := B.1
  have hb := B.2.1
  have hml := B.2.2.1
  have hown := B.2.2.2.1
  have hts := B.2.2.2.2
  have hl : lv_has ls 4 [(0, .ref o), (1, .ref p0), (2, .long p1)] := hl
  unfold f_X3_is at hf
  refine lv_aload_n hx hb dX3_is_0 rfl (lv_at hl 0 rfl) ?_
  refine lv_aload_n hx hb dX3_is_1 rfl (lv_at hl 1 rfl) ?_
  obtain ⟨hk1, hf⟩ := chk_some hf
  obtain ⟨hw2, hf⟩ := chk_some hf
  obtain ⟨S3, eS3, hf⟩ := bd_some hf
  refine xr_put (S' := S3) (q := (RX3, TX3, 4)) (v := va_rf (some p0)) (ty0 := tyX3) B hX 0 hk1 rfl (by decide) hw2 (by decide) (by rw [eS3]; exact x_Vup_r (k := 4) (j := 0) rfl (by decide)) tyX3_ok (fun i h1 h2 => nmX3 i (Nat.lt_of_lt_of_le h1 (by decide)) 0 (by decide) h2) rfl rfl rfl q283 (fun _ h => h) dX3_is_2 (fun H locs hX => ?_)
  refine w_r eS3 ?_
  have hk1 := ks_r eS3 hk1
  have hw2 := kw_r eS3 hw2
  refine lv_aload_n hx hb dX3_is_5 rfl (lv_at hl 0 rfl) ?_
  refine lv_lload_n hx hb dX3_is_6 rfl (lv_at hl 2 rfl) ?_
  obtain ⟨S4, eS4, hf⟩ := bd_some hf
  refine xr_put (S' := S4) (q := (RX3, TX3, 4)) (v := .long p1) (ty0 := tyX3) B hX 1 hk1 rfl (by decide) hw2 (by decide) (by rw [eS4]; exact x_Vup_l (k := 4) (j := 1) rfl (by decide)) tyX3_ok (fun i h1 h2 => nmX3 i (Nat.lt_of_lt_of_le h1 (by decide)) 1 (by decide) h2) rfl rfl rfl q286 (fun _ h => h) dX3_is_7 (fun H locs hX => ?_)
  refine w_l eS4 ?_
  have hk1 := ks_l eS4 hk1
  have hw2 := kw_l eS4 hw2
  refine lv_aload_n hx hb dX3_is_10 rfl (lv_at hl 0 rfl) ?_
  refine lv_aload_n hx hb dX3_is_11 rfl (lv_at hl 1 rfl) ?_
  obtain ⟨hk6, hf⟩ := chk_some hf
  obtain ⟨r5, hcr5, hf⟩ := bnd_some hf
  refine xr_callVC (rest := [.ref o]) (q := (RX2, TX2, 2)) B hX (c_X2_facts l D S4 p0 hcr5) hk6 rfl (by decide) q1264 q515 (Or.inl q516) q105 q517 hd_X2_facts ⟨Nat.le_of_ble_eq_true rfl, Nat.le_of_ble_eq_true rfl⟩ rfl hl.1 rfl (Nat.le_of_ble_eq_true rfl) dX3_is_12 (fun H locs hX => ?_)
  obtain ⟨S7, eS7, hf⟩ := bd_some hf
  refine xr_put (S' := S7) (q := (RX3, TX3, 4)) (v := .int r5) (ty0 := tyX3) B hX 2 hk1 rfl (by decide) hw2 (by decide) (by rw [eS7]; exact x_Vup_i (k := 4) (j := 2) rfl (by decide)) tyX3_ok (fun i h1 h2 => nmX3 i (Nat.lt_of_lt_of_le h1 (by decide)) 2 (by decide) h2) rfl rfl rfl q287 (fun _ h => h) dX3_is_15 (fun H locs hX => ?_)
  refine w_i eS7 ?_
  have hk1 := ks_i eS7 hk1
  have hw2 := kw_i eS7 hw2
  have hk6 := ks_i eS7 hk6
  cases hf
  exact hret _ _ _ _ hX dX3_is_18
def f_X0_isPlace (p0 : Int32) : Option Int32 :=
  bnd (f_X0_isIn p0 (nI 0) (nI 3)) fun r1 => chk (r1 = 0 ∨ r1 = 1) <| some r1
abbrev r_X0_isPlace : Room := { frames := 1, cells := 0, slots := 0, locals := 22 }
set_option maxHeartbeats 4000000 in
set_option maxRecDepth 100000 in
theorem c_X0_isPlace (l : Launch) (p0 : Int32) {r : Int32} (hf : f_X0_isPlace p0 = some r) : p_Met l yX0_isPlace cX0_isPlace 1 (Option.some Jvm.ClassFile.FieldType.boolean) r_X0_isPlace [.int p0] (some (.int r)) := by
  refine p_metI (F := 1) (L := 22) RX0 (by decide) rfl (Nat.le_of_ble_eq_true rfl) (fun p e s m args below meth c Q B hret ls hl => ?_)
  have hx := B.1
  have hb := B.2.1
  have hml := B.2.2.1
  have hown := B.2.2.2.1
  have hts := B.2.2.2.2
  have hl : lv_has ls 1 [(0, .int p0)] := hl
  unfold f_X0_isPlace at hf
  refine lv_iload_n hx hb dX0_isPlace_0 rfl (lv_at hl 0 rfl) ?_
  refine lv_iconst (v := nI 0) hx hb dX0_isPlace_1 ic0 ?_
  refine lv_iconst (v := nI 3) hx hb dX0_isPlace_2 ic3 ?_
  obtain ⟨r1, hcr1, hf⟩ := bnd_some hf
  refine pr_callS (rest := []) B (c_X0_isIn l p0 (nI 0) (nI 3) hcr1) (va_cwS 3 hts (lw_S q390 q391 q103 q392) rfl rfl rfl hd_X0_isIn ⟨Nat.le_of_ble_eq_true rfl, Nat.le_of_ble_eq_true rfl⟩) rfl hl.1 rfl (Nat.le_of_ble_eq_true rfl) dX0_isPlace_3 ⟨Nat.zero_le _, Nat.zero_le _⟩ ?_
  obtain ⟨hb2, hf⟩ := chk_some hf
  cases hf
  exact hret _ _ (by rcases hb2 with q | q <;> (rw [q]; rfl)) dX0_isPlace_6
def f_X0_keep (S : XS) (o : Nat) (p0 : Int32) : Option (Int32 × XS) :=
  bnd (f_X0_isPlace p0) fun r1 => (if r1 = 0 then some (nI 0, S) else chk (xk S o = 1) <| bnd (xr S 100 o 0) fun b4 => chk (xk S b4 = 2) <| bnd (xr S 208 b4 0) fun b6 => bnd (xr S 100 o 0) fun b7 => chk (xk S b7 = 2) <| chk (xk S b6 = 53) <| chk (xb S ≤ b6) <| ast (xn S b6) p0 (s_l S 53 b6 p0.toNatClampNeg (xl S 207 b7 0)) fun S11 => bnd (xr S11 100 o 0) fun b12 => chk (xk S11 b12 = 2) <| chk (xb S11 ≤ b12) <| bd (s_i S11 209 b12 0 ((xi S11 209 b12 0) ||| (nI 1 <<< (p0 &&& 31)))) fun S15 => some (nI 1, S15))
set_option maxHeartbeats 4000000 in
set_option maxRecDepth 100000 in
theorem c_X0_keep (l : Launch) (D : XD) (S : XS) (o : Nat) (p0 : Int32) {r : Int32} {S' : XS} (hf : f_X0_keep S o p0 = some (r, S')) : x_Met l yX0_keep cX0_keep 2 (Option.some Jvm.ClassFile.FieldType.boolean) 2 42 D [.ref o, .int p0] S (some (.int r)) S' := by
  refine x_metI RX0 (by decide) rfl (Nat.le_of_ble_eq_true rfl) (fun p e s m args below meth c Q B hnm hret H locs hX ls hl => ?_)
  have hx := B.1
  have hb := B.2.1
  have hml := B.2.2.1
  have hown := B.2.2.2.1
  have hts := B.2.2.2.2
  have hl : lv_has ls 2 [(0, .ref o), (1, .int p0)] := hl
  unfold f_X0_keep at hf
  refine lv_iload_n hx hb dX0_keep_0 rfl (lv_at hl 1 rfl) ?_
  obtain ⟨r1, hcr1, hf⟩ := bnd_some hf
  refine pr_callS (rest := []) B (c_X0_isPlace l p0 hcr1) (va_cwS 1 hts (lw_S q1398 q1399 q103 q1400) rfl rfl rfl hd_X0_isPlace ⟨Nat.le_of_ble_eq_true rfl, Nat.le_of_ble_eq_true rfl⟩) rfl hl.1 rfl (Nat.le_of_ble_eq_true rfl) dX0_keep_1 (x_room0 hX) ?_
  refine lv_if_ne (tgt := 9) hx hb dX0_keep_4 (by decide) (fun c2 => ?_) (fun c2 => ?_)
  · have hf := it_neg c2 hf
    refine lv_aload_n hx hb dX0_keep_9 rfl (lv_at hl 0 rfl) ?_
    obtain ⟨hk3, hf⟩ := chk_some hf
    obtain ⟨b4, hb4, hf⟩ := bnd_some hf
    refine xr_get (q := (RX0, TX0, 14)) B hX 0 hk3 rfl (by decide) (by decide) (v := .ref b4) (x_Vr (c := 1) (j := 0) rfl (by decide) hb4) q339 (fun _ h => h) dX0_keep_10 ?_
    obtain ⟨hk5, hf⟩ := chk_some hf
    obtain ⟨b6, hb6, hf⟩ := bnd_some hf
    refine xr_getN (q := (RX1, TX1, 14)) B hX 8 hk5 rfl (by decide) (by decide) (v := .ref b6) (x_Vr (c := 2) (j := 8) rfl (by decide) hb6) nq235 (fun _ h => h) dX0_keep_13 ?_
    refine lv_iload_n hx hb dX0_keep_16 rfl (lv_at hl 1 rfl) ?_
    refine lv_aload_n hx hb dX0_keep_17 rfl (lv_at hl 0 rfl) ?_
    obtain ⟨b7, hb7, hf⟩ := bnd_some hf
    refine xr_get (q := (RX0, TX0, 14)) B hX 0 hk3 rfl (by decide) (by decide) (v := .ref b7) (x_Vr (c := 1) (j := 0) rfl (by decide) hb7) q339 (fun _ h => h) dX0_keep_18 ?_
    obtain ⟨hk8, hf⟩ := chk_some hf
    refine xr_getN (q := (RX1, TX1, 14)) B hX 7 hk8 rfl (by decide) (by decide) (x_Vl rfl (by decide)) nq233 (fun _ h => h) dX0_keep_21 ?_
    obtain ⟨hk9, hf⟩ := chk_some hf
    obtain ⟨hw10, hf⟩ := chk_some hf
    obtain ⟨S11, eS11, hiS11, hf⟩ := ast_some hf
    refine xr_last B hX hk9 hw10 hiS11 eS11 dX0_keep_24 (fun H locs hX => ?_)
    refine w_l eS11 ?_
    have hk3 := ks_l eS11 hk3
    have hk5 := ks_l eS11 hk5
    have hk8 := ks_l eS11 hk8
    have hk9 := ks_l eS11 hk9
    have hw10 := kw_l eS11 hw10
    refine lv_aload_n hx hb dX0_keep_25 rfl (lv_at hl 0 rfl) ?_
    obtain ⟨b12, hb12, hf⟩ := bnd_some hf
    refine xr_get (q := (RX0, TX0, 14)) B hX 0 hk3 rfl (by decide) (by decide) (v := .ref b12) (x_Vr (c := 1) (j := 0) rfl (by decide) hb12) q339 (fun _ h => h) dX0_keep_26 ?_
    refine lv_dup hx hb dX0_keep_29 rfl ?_
    obtain ⟨hk13, hf⟩ := chk_some hf
    refine xr_getN (q := (RX1, TX1, 14)) B hX 9 hk13 rfl (by decide) (by decide) (x_Vi rfl (by decide)) nq237 (fun _ h => h) dX0_keep_30 ?_
    refine lv_iconst (v := nI 1) hx hb dX0_keep_33 ic1 ?_
    refine lv_iload_n hx hb dX0_keep_34 rfl (lv_at hl 1 rfl) ?_
    refine lv_ishl hx hb dX0_keep_35 ?_
    refine lv_ior hx hb dX0_keep_36 ?_
    obtain ⟨hw14, hf⟩ := chk_some hf
    obtain ⟨S15, eS15, hf⟩ := bd_some hf
    refine xr_putN (S' := S15) (q := (RX1, TX1, 14)) (v := .int ((xi S11 209 b12 0) ||| (nI 1 <<< (p0 &&& 31)))) (ty0 := tyX1) B hX 9 hk13 rfl (by decide) hw14 (by decide) (by rw [eS15]; exact x_Vup_i (k := 2) (j := 9) rfl (by decide)) tyX1_ok (fun i h1 h2 => nmX1 i (Nat.lt_of_lt_of_le h1 (by decide)) 9 (by decide) h2) rfl rfl rfl nq237 (fun _ h => h) dX0_keep_37 (fun H locs hX => ?_)
    refine w_i eS15 ?_
    have hk3 := ks_i eS15 hk3
    have hk5 := ks_i eS15 hk5
    have hk8 := ks_i eS15 hk8
    have hk9 := ks_i eS15 hk9
    have hw10 := kw_i eS15 hw10
    have hk13 := ks_i eS15 hk13
    have hw14 := kw_i eS15 hw14
    refine lv_iconst (v := nI 1) hx hb dX0_keep_40 ic1 ?_
    cases hf
    exact hret _ _ _ _ rfl hX dX0_keep_41
  · have hf := it_pos c2 hf
    refine lv_iconst (v := nI 0) hx hb dX0_keep_7 ic0 ?_
    cases hf
    exact hret _ _ _ _ rfl hX dX0_keep_8
def f_X0_isTold (S : XS) (o : Nat) : Option Int32 :=
  chk (xk S o = 1) <| bnd (f_X0_facts S o) fun r1 => (if nI 12 < r1 then some (nI 0) else some (nI 1))
set_option maxHeartbeats 4000000 in
set_option maxRecDepth 100000 in
theorem c_X0_isTold (l : Launch) (D : XD) (S : XS) (o : Nat) {r : Int32} (hf : f_X0_isTold S o = some r) : x_Met l yX0_isTold cX0_isTold 1 (Option.some Jvm.ClassFile.FieldType.boolean) 6 128 D [.ref o] S (some (.int r)) S := by
  refine x_metI RX0 (by decide) rfl (Nat.le_of_ble_eq_true rfl) (fun p e s m args below meth c Q B hnm hret H locs hX ls hl => ?_)
  have hx := B.1
  have hb := B.2.1
  have hml := B.2.2.1
  have hown := B.2.2.2.1
  have hts := B.2.2.2.2
  have hl : lv_has ls 1 [(0, .ref o)] := hl
  unfold f_X0_isTold at hf
  refine lv_aload_n hx hb dX0_isTold_0 rfl (lv_at hl 0 rfl) ?_
  obtain ⟨hk2, hf⟩ := chk_some hf
  obtain ⟨r1, hcr1, hf⟩ := bnd_some hf
  refine xr_callVC (rest := []) (q := (RX0, TX0, 14)) B hX (c_X0_facts l D S o hcr1) hk2 rfl (by decide) q563 q511 (Or.inl q512) q103 q513 hd_X0_facts ⟨Nat.le_of_ble_eq_true rfl, Nat.le_of_ble_eq_true rfl⟩ rfl hl.1 rfl (Nat.le_of_ble_eq_true rfl) dX0_isTold_1 (fun H locs hX => ?_)
  refine lv_bipush (v := nI 12) hx hb dX0_isTold_4 bp12 ?_
  refine lv_icmp_gt (tgt := 13) hx hb dX0_isTold_6 (by decide) (fun c3 => ?_) (fun c3 => ?_)
  · have hf := it_pos c3 hf
    refine lv_iconst (v := nI 0) hx hb dX0_isTold_13 ic0 ?_
    cases hf
    exact hret _ _ _ _ rfl hX dX0_isTold_14
  · have hf := it_neg c3 hf
    refine lv_iconst (v := nI 1) hx hb dX0_isTold_9 ic1 ?_
    refine lv_goto (tgt := 14) hx hb dX0_isTold_10 (by decide) ?_
    cases hf
    exact hret _ _ _ _ rfl hX dX0_isTold_14
def f_X0_turned (S : XS) (p0 : Int32) (p1 : Int32) (p2 : Int32) : Option Int32 :=
  (if p0 = nI 2 then (if p1 = 0 then some p2 else some (nI 1 - p2)) else bnd (xs S 6) fun b2 => chk (xk S b2 = 60) <| ald (xn S b2) (xr S 60 b2) p1 fun q4 => bnd q4 fun b5 => chk (xk S b5 = 52) <| ald (xn S b5) (xi S 52 b5) p2 fun v7 => some v7)
set_option maxHeartbeats 4000000 in
set_option maxRecDepth 100000 in
theorem c_X0_turned (l : Launch) (D : XD) (S : XS) (p0 : Int32) (p1 : Int32) (p2 : Int32) {r : Int32} (hf : f_X0_turned S p0 p1 p2 = some r) : x_Met l yX0_turned cX0_turned 3 (Option.some Jvm.ClassFile.FieldType.int) 0 0 D [.int p0, .int p1, .int p2] S (some (.int r)) S := by
  refine x_metI RX0 (by decide) rfl (Nat.le_of_ble_eq_true rfl) (fun p e s m args below meth c Q B hnm hret H locs hX ls hl => ?_)
  have hx := B.1
  have hb := B.2.1
  have hml := B.2.2.1
  have hown := B.2.2.2.1
  have hts := B.2.2.2.2
  have hl : lv_has ls 3 [(0, .int p0), (1, .int p1), (2, .int p2)] := hl
  unfold f_X0_turned at hf
  refine lv_iload_n hx hb dX0_turned_0 rfl (lv_at hl 0 rfl) ?_
  refine lv_iconst (v := nI 2) hx hb dX0_turned_1 ic2 ?_
  refine lv_icmp_ne (tgt := 19) hx hb dX0_turned_2 (by decide) (fun c1 => ?_) (fun c1 => ?_)
  · have hf := it_neg c1 hf
    obtain ⟨b2, hb2, hf⟩ := bnd_some hf
    refine xr_gets B hX (v := .ref b2) (x_statR hX 6 rfl hb2) q1428 dX0_turned_19 ?_
    refine lv_iload_n hx hb dX0_turned_22 rfl (lv_at hl 1 rfl) ?_
    obtain ⟨hk3, hf⟩ := chk_some hf
    obtain ⟨q4, eq4, hiq4, hf⟩ := ald_some hf
    obtain ⟨b5, hb5, hf⟩ := bnd_some hf
    rw [hb5] at eq4
    refine xr_aald B hX hk3 rfl (by decide) rfl hiq4 eq4 dX0_turned_23 ?_
    refine W.eq (g2 := F0 m 24 ls [.ref b5]) rfl ?_
    refine lv_iload_n hx hb dX0_turned_24 rfl (lv_at hl 2 rfl) ?_
    obtain ⟨hk6, hf⟩ := chk_some hf
    obtain ⟨v7, ev7, hiv7, hf⟩ := ald_some hf
    refine xr_iald B hX hk6 hiv7 ev7 dX0_turned_25 ?_
    cases hf
    exact hret _ _ _ _ rfl hX dX0_turned_26
  · have hf := it_pos c1 hf
    refine lv_iload_n hx hb dX0_turned_5 rfl (lv_at hl 1 rfl) ?_
    refine lv_if_ne (tgt := 13) hx hb dX0_turned_6 (by decide) (fun c8 => ?_) (fun c8 => ?_)
    · have hf := it_neg c8 hf
      refine lv_iconst (v := nI 1) hx hb dX0_turned_13 ic1 ?_
      refine lv_iload_n hx hb dX0_turned_14 rfl (lv_at hl 2 rfl) ?_
      refine lv_isub hx hb dX0_turned_15 ?_
      refine lv_goto (tgt := 26) hx hb dX0_turned_16 (by decide) ?_
      cases hf
      exact hret _ _ _ _ rfl hX dX0_turned_26
    · have hf := it_pos c8 hf
      refine lv_iload_n hx hb dX0_turned_9 rfl (lv_at hl 2 rfl) ?_
      refine lv_goto (tgt := 26) hx hb dX0_turned_10 (by decide) ?_
      cases hf
      exact hret _ _ _ _ rfl hX dX0_turned_26
def f_X0_renamed_J163_46 (o : Nat) (S : XS) (x4 : Int32) (x32 : Int64) (x33 : Int32) (x34 : Int32) (b40 : Nat) (r43 : Int32) (x49 : Int32) : Option ((Int64 × Int32 × Int32) ⊕ ((Int64 × Int32))) :=
  chk (xk S b40 = 3) <| bnd (f_X2_fact S b40 x4 r43 x49) fun r50 => bnd (f_X0_bit S o r50) fun r52 => bd (x32 ||| r52) fun x53 => bd (x33 + nI 1) fun x54 => bd (x34 + nI 1) fun x55 => some (.inl (x53, x54, x55))
def f_X0_renamed_L94 (o : Nat) (p0 : Int64) (p1 : Nat) (S : XS) (x4 : Int32) (b15 : Nat) (r19 : Int32) (x27 : Int32) (x30 : Int32) (x32 : Int64) (x33 : Int32) (x34 : Int32) : Option ((Int64 × Int32 × Int32) ⊕ ((Int64 × Int32))) :=
  (if x27 ≤ x34 then some (.inr (x32, x33)) else bnd (f_X0_bit S o x33) fun r36 => (if (lg_cmp (p0 &&& r36) (0 : Int64)) = 0 then bd (x33 + nI 1) fun x38 => bd (x34 + nI 1) fun x39 => some (.inl (x32, x38, x39)) else bnd (f_X0_land S o) fun b40 => chk (xk S p1 = 52) <| ald (xn S p1) (xi S 52 p1) (xi S 500 b15 0) fun v42 => bnd (f_X0_turned S r19 v42 x30) fun r43 => bnd (f_X8_isOfOne S b15) fun r44 => (if r44 = 0 then ald (xn S p1) (xi S 52 p1) (xi S 501 b15 0) fun v47 => bnd (f_X0_turned S x27 v47 x34) fun r48 => f_X0_renamed_J163_46 o S x4 x32 x33 x34 b40 r43 r48 else f_X0_renamed_J163_46 o S x4 x32 x33 x34 b40 r43 (nI 0))))
def f_X0_renamed_L84 (o : Nat) (p0 : Int64) (p1 : Nat) (S : XS) (x4 : Int32) (b15 : Nat) (r19 : Int32) (x27 : Int32) (x28 : Int64) (x29 : Int32) (x30 : Int32) : Option ((Int64 × Int32 × Int32) ⊕ ((Int64 × Int32))) :=
  (if r19 ≤ x30 then some (.inr (x28, x29)) else bnd (wO (fun t : Int64 × Int32 × Int32 => f_X0_renamed_L94 o p0 p1 S x4 b15 r19 x27 x30 t.1 t.2.1 t.2.2) fu (x28, x29, nI 0)) <| u2 fun x58 x59 => bd (x30 + nI 1) fun x60 => some (.inl (x58, x59, x60)))
def f_X0_renamed_J79_23 (o : Nat) (p0 : Int64) (p1 : Nat) (S : XS) (x2 : Int64) (x3 : Int32) (x4 : Int32) (b15 : Nat) (r19 : Int32) (x27 : Int32) : Option ((Int64 × Int32 × Int32) ⊕ ((Int64))) :=
  bnd (wO (fun t : Int64 × Int32 × Int32 => f_X0_renamed_L84 o p0 p1 S x4 b15 r19 x27 t.1 t.2.1 t.2.2) fu (x2, x3, nI 0)) <| u2 fun x63 x64 => bd (x4 + nI 1) fun x65 => some (.inl (x63, x64, x65))
def f_X0_renamed_L9 (o : Nat) (p0 : Int64) (p1 : Nat) (S : XS) (x2 : Int64) (x3 : Int32) (x4 : Int32) : Option ((Int64 × Int32 × Int32) ⊕ ((Int64))) :=
  chk (xk S o = 1) <| bnd (f_X0_land S o) fun b5 => chk (xk S b5 = 3) <| bnd (xr S 301 b5 0) fun b8 => chk (xk S b8 = 19) <| bnd (f_J2_size S b8) fun r9 => (if r9 ≤ x4 then some (.inr x2) else bnd (f_X0_land S o) fun b12 => chk (xk S b12 = 3) <| bnd (xr S 301 b12 0) fun b14 => chk (xk S b14 = 19) <| bnd (f_J2_get S b14 x4) fun b15 => chk (xk S b15 = 5) <| bnd (f_X0_land S o) fun b18 => chk (xk S b18 = 3) <| bnd (f_X2_size S b18 (xi S 500 b15 0)) fun r19 => bnd (f_X8_isOfOne S b15) fun r21 => (if r21 = 0 then bnd (f_X0_land S o) fun b24 => chk (xk S b24 = 3) <| bnd (f_X2_size S b24 (xi S 501 b15 0)) fun r25 => f_X0_renamed_J79_23 o p0 p1 S x2 x3 x4 b15 r19 r25 else f_X0_renamed_J79_23 o p0 p1 S x2 x3 x4 b15 r19 (nI 1)))
def f_X0_renamed (S : XS) (o : Nat) (p0 : Int64) (p1 : Nat) : Option Int64 :=
  bd (0 : Int64) fun x1 => bnd (wO (fun t : Int64 × Int32 × Int32 => f_X0_renamed_L9 o p0 p1 S t.1 t.2.1 t.2.2) fu (x1, nI 0, nI 0)) <| fun x68 => some x68
set_option maxHeartbeats 4000000 in
set_option maxRecDepth 100000 in
theorem c_X0_renamed (l : Launch) (D : XD) (S : XS) (o : Nat) (p0 : Int64) (p1 : Nat) {r : Int64} (hf : f_X0_renamed S o p0 p1 = some r) : x_Met l yX0_renamed cX0_renamed 13 (Option.some Jvm.ClassFile.FieldType.long) 7 149 D [.ref o, .long p0, .ref p1] S (some (.long r)) S := by
  refine x_metL RX0 (by decide) rfl (Nat.le_of_ble_eq_true rfl) (fun p e s m args below meth c Q B hnm hret H locs hX ls hl => ?_)
  have hx := B.1
  have hb := B.2.1
  have hml := B.2.2.1
  have hown := B.2.2.2.1
  have hts := B.2.2.2.2
  have hl : lv_has ls 13 [(0, .ref o), (1, .long p0), (3, .ref p1)] := hl
  unfold f_X0_renamed at hf
  refine lv_lconst (v := 0) hx hb dX0_renamed_0 (by decide) ?_
  refine lv_topl (fun x1 ex1 => ?_)
  have hf := bd_at ex1 hf
  refine lv_lstore (lv' := [(4, .long x1), (0, .ref o), (1, .long p0), (3, .ref p1)]) hx hb dX0_renamed_1 hl (by decide) rfl (fun ls hl => ?_)
  refine lv_iconst (v := nI 0) hx hb dX0_renamed_3 ic0 ?_
  refine lv_istore (lv' := [(6, .int (nI 0)), (4, .long x1), (0, .ref o), (1, .long p0), (3, .ref p1)]) hx hb dX0_renamed_4 hl (by decide) rfl (fun ls hl => ?_)
  refine lv_iconst (v := nI 0) hx hb dX0_renamed_6 ic0 ?_
  refine lv_istore (lv' := [(7, .int (nI 0)), (6, .int (nI 0)), (4, .long x1), (0, .ref o), (1, .long p0), (3, .ref p1)]) hx hb dX0_renamed_7 hl (by decide) rfl (fun ls hl => ?_)
  obtain ⟨y67, hxy67, hf⟩ := bnd_some hf
  have hy67 : (fun t : Int64 => ∀ (H : Heap) (locs : List Loc) (ls : Array Slot), x_I D S s H locs S → lv_has ls 13 [(4, .long t)] → W p l e (x_R 7 149 S) s m args below meth c H locs (xz S - xz S) (xu S - xu S) Q (F0 m 193 ls [])) y67 := by
    obtain ⟨x68, rfl⟩ : ∃ z, z = y67 := ⟨_, rfl⟩
    intro H locs ls hX hl
    refine lv_lload hx hb dX0_renamed_193 (lv_at hl 0 rfl) ?_
    cases hf
    exact hret _ _ _ _ hX dX0_renamed_195
  refine lp_W (step := (fun t : Int64 × Int32 × Int32 => f_X0_renamed_L9 o p0 p1 S t.1 t.2.1 t.2.2)) (fun t : Int64 × Int32 × Int32 => ∀ (H : Heap) (locs : List Loc) (ls : Array Slot), x_I D S s H locs S → lv_has ls 13 [(0, .ref o), (1, .long p0), (3, .ref p1), (4, .long t.1), (6, .int t.2.1), (7, .int t.2.2)] → W p l e (x_R 7 149 S) s m args below meth c H locs (xz S - xz S) (xu S - xu S) Q (F0 m 9 ls [])) (fun t : Int64 => ∀ (H : Heap) (locs : List Loc) (ls : Array Slot), x_I D S s H locs S → lv_has ls 13 [(4, .long t)] → W p l e (x_R 7 149 S) s m args below meth c H locs (xz S - xz S) (xu S - xu S) Q (F0 m 193 ls [])) ?_ fu (x1, nI 0, nI 0) y67 hxy67 hy67 _ _ _ hX (lv_sub hl [3, 4, 5, 2, 1, 0] rfl)
  clear hf hxy67 hy67
  rintro ⟨x2, x3, x4⟩ oo (hf : f_X0_renamed_L9 o p0 p1 S x2 x3 x4 = some oo) hk
  intro H locs ls hX hl
  unfold f_X0_renamed_L9 at hf
  refine lv_iload hx hb dX0_renamed_9 (lv_at hl 5 rfl) ?_
  refine lv_aload_n hx hb dX0_renamed_11 rfl (lv_at hl 0 rfl) ?_
  obtain ⟨hk6, hf⟩ := chk_some hf
  obtain ⟨b5, hcb5, hf⟩ := bnd_some hf
  refine xr_callVC (rest := [.int x4]) (q := (RX0, TX0, 14)) B hX (c_X0_land l D S o hcb5) hk6 rfl (by decide) q393 q395 (Or.inl qs0) q103 q396 hd_X0_land ⟨Nat.le_of_ble_eq_true rfl, Nat.le_of_ble_eq_true rfl⟩ rfl hl.1 rfl (Nat.le_of_ble_eq_true rfl) dX0_renamed_12 (fun H locs hX => ?_)
  obtain ⟨hk7, hf⟩ := chk_some hf
  obtain ⟨b8, hb8, hf⟩ := bnd_some hf
  refine xr_getN (q := (RX2, TX2, 2)) B hX 1 hk7 rfl (by decide) (by decide) (v := .ref b8) (x_Vr (c := 3) (j := 1) rfl (by decide) hb8) nq204 (fun _ h => h) dX0_renamed_15 ?_
  obtain ⟨hk10, hf⟩ := chk_some hf
  obtain ⟨r9, hcr9, hf⟩ := bnd_some hf
  refine xr_callVC (rest := [.int x4]) (q := (RJ2, TJ2, 3)) B hX (c_J2_size l D S b8 hcr9) hk10 rfl (by decide) q409 q410 (Or.inl q411) q108 q412 hd_J2_size ⟨Nat.le_of_ble_eq_true rfl, Nat.le_of_ble_eq_true rfl⟩ rfl hl.1 rfl (Nat.le_of_ble_eq_true rfl) dX0_renamed_18 (fun H locs hX => ?_)
  refine lv_icmp_ge (tgt := 193) hx hb dX0_renamed_21 (by decide) (fun c11 => ?_) (fun c11 => ?_)
  · have hf := it_pos c11 hf
    cases hf
    exact hk _ _ _ hX (lv_sub hl [3] rfl)
  · have hf := it_neg c11 hf
    refine lv_aload_n hx hb dX0_renamed_24 rfl (lv_at hl 0 rfl) ?_
    obtain ⟨b12, hcb12, hf⟩ := bnd_some hf
    refine xr_callVC (rest := []) (q := (RX0, TX0, 14)) B hX (c_X0_land l D S o hcb12) hk6 rfl (by decide) q393 q395 (Or.inl qs0) q103 q396 hd_X0_land ⟨Nat.le_of_ble_eq_true rfl, Nat.le_of_ble_eq_true rfl⟩ rfl hl.1 rfl (Nat.le_of_ble_eq_true rfl) dX0_renamed_25 (fun H locs hX => ?_)
    obtain ⟨hk13, hf⟩ := chk_some hf
    obtain ⟨b14, hb14, hf⟩ := bnd_some hf
    refine xr_getN (q := (RX2, TX2, 2)) B hX 1 hk13 rfl (by decide) (by decide) (v := .ref b14) (x_Vr (c := 3) (j := 1) rfl (by decide) hb14) nq204 (fun _ h => h) dX0_renamed_28 ?_
    refine lv_iload hx hb dX0_renamed_31 (lv_at hl 5 rfl) ?_
    obtain ⟨hk16, hf⟩ := chk_some hf
    obtain ⟨b15, hcb15, hf⟩ := bnd_some hf
    refine xr_callVC (rest := []) (q := (RJ2, TJ2, 3)) B hX (c_J2_get l D S b14 x4 hcb15) hk16 rfl (by decide) q573 q524 (Or.inl q525) q108 q526 hd_J2_get ⟨Nat.le_of_ble_eq_true rfl, Nat.le_of_ble_eq_true rfl⟩ rfl hl.1 rfl (Nat.le_of_ble_eq_true rfl) dX0_renamed_33 (fun H locs hX => ?_)
    obtain ⟨hk17, hf⟩ := chk_some hf
    refine xr_castY (q := (RX8, TX8, 2)) B hX hk17 rfl (by decide) q413 (Or.inr ⟨rfl, by decide⟩) dX0_renamed_36 ?_
    refine lv_astore (lv' := [(8, .ref b15), (0, .ref o), (1, .long p0), (3, .ref p1), (4, .long x2), (6, .int x3), (7, .int x4)]) hx hb dX0_renamed_39 hl (by decide) rfl (fun ls hl => ?_)
    refine lv_aload_n hx hb dX0_renamed_41 rfl (lv_at hl 1 rfl) ?_
    obtain ⟨b18, hcb18, hf⟩ := bnd_some hf
    refine xr_callVC (rest := []) (q := (RX0, TX0, 14)) B hX (c_X0_land l D S o hcb18) hk6 rfl (by decide) q393 q395 (Or.inl qs0) q103 q396 hd_X0_land ⟨Nat.le_of_ble_eq_true rfl, Nat.le_of_ble_eq_true rfl⟩ rfl hl.1 rfl (Nat.le_of_ble_eq_true rfl) dX0_renamed_42 (fun H locs hX => ?_)
    refine lv_aload hx hb dX0_renamed_45 (lv_at hl 0 rfl) ?_
    refine xr_getN (q := (RX8, TX8, 2)) B hX 0 hk17 rfl (by decide) (by decide) (x_Vi rfl (by decide)) nq424 (fun _ h => h) dX0_renamed_47 ?_
    obtain ⟨hk20, hf⟩ := chk_some hf
    obtain ⟨r19, hcr19, hf⟩ := bnd_some hf
    refine xr_callVC (rest := []) (q := (RX2, TX2, 2)) B hX (c_X2_size l D S b18 (xi S 500 b15 0) hcr19) hk20 rfl (by decide) q397 q398 (Or.inl q399) q105 q400 hd_X2_size ⟨Nat.le_of_ble_eq_true rfl, Nat.le_of_ble_eq_true rfl⟩ rfl hl.1 rfl (Nat.le_of_ble_eq_true rfl) dX0_renamed_50 (fun H locs hX => ?_)
    refine lv_istore (lv' := [(9, .int r19), (8, .ref b15), (0, .ref o), (1, .long p0), (3, .ref p1), (4, .long x2), (6, .int x3), (7, .int x4)]) hx hb dX0_renamed_53 hl (by decide) rfl (fun ls hl => ?_)
    refine lv_aload hx hb dX0_renamed_55 (lv_at hl 1 rfl) ?_
    obtain ⟨r21, hcr21, hf⟩ := bnd_some hf
    refine xr_callVC (rest := []) (q := (RX8, TX8, 2)) B hX (c_X8_isOfOne l D S b15 hcr21) hk17 rfl (by decide) q574 q539 (Or.inl q540) q114 q541 hd_X8_isOfOne ⟨Nat.le_of_ble_eq_true rfl, Nat.le_of_ble_eq_true rfl⟩ rfl hl.1 rfl (Nat.le_of_ble_eq_true rfl) dX0_renamed_57 (fun H locs hX => ?_)
    have j23 : ∀ (x27 : Int32), f_X0_renamed_J79_23 o p0 p1 S x2 x3 x4 b15 r19 x27 = some oo → ∀ (H : Heap) (locs : List Loc) (ls : Array Slot), x_I D S s H locs S → lv_has ls 13 [(0, .ref o), (1, .long p0), (3, .ref p1), (4, .long x2), (6, .int x3), (7, .int x4), (8, .ref b15), (9, .int r19)] → W p l e (x_R 7 149 S) s m args below meth c H locs (xz S - xz S) (xu S - xu S) Q (F0 m 79 ls [.int x27]) := by
      intro x27 hf
      intro H locs ls hX hl
      unfold f_X0_renamed_J79_23 at hf
      refine lv_istore (lv' := [(10, .int x27), (0, .ref o), (1, .long p0), (3, .ref p1), (4, .long x2), (6, .int x3), (7, .int x4), (8, .ref b15), (9, .int r19)]) hx hb dX0_renamed_79 hl (by decide) rfl (fun ls hl => ?_)
      refine lv_iconst (v := nI 0) hx hb dX0_renamed_81 ic0 ?_
      refine lv_istore (lv' := [(11, .int (nI 0)), (10, .int x27), (0, .ref o), (1, .long p0), (3, .ref p1), (4, .long x2), (6, .int x3), (7, .int x4), (8, .ref b15), (9, .int r19)]) hx hb dX0_renamed_82 hl (by decide) rfl (fun ls hl => ?_)
      obtain ⟨y62, hxy62, hf⟩ := bnd_some hf
      have hy62 : (fun t : Int64 × Int32 => ∀ (H : Heap) (locs : List Loc) (ls : Array Slot), x_I D S s H locs S → lv_has ls 13 [(0, .ref o), (1, .long p0), (3, .ref p1), (4, .long t.1), (6, .int t.2), (7, .int x4)] → W p l e (x_R 7 149 S) s m args below meth c H locs (xz S - xz S) (xu S - xu S) Q (F0 m 187 ls [])) y62 := by
        rcases y62 with ⟨x63, x64⟩
        have hf := u2_at hf
        intro H locs ls hX hl
        obtain ⟨x65, ex65, hf⟩ := bd_some hf
        refine lv_iinc (v := x65) (lv' := [(7, .int x65), (0, .ref o), (1, .long p0), (3, .ref p1), (4, .long x63), (6, .int x64)]) hx hb dX0_renamed_187 hl (k := 5) rfl (by rw [ex65]; first | done | rfl) (by decide) rfl (fun ls hl => ?_)
        refine lv_goto (tgt := 9) hx hb dX0_renamed_190 (by decide) ?_
        cases hf
        exact hk _ _ _ hX (lv_sub hl [1, 2, 3, 4, 5, 0] rfl)
      refine lp_W (step := (fun t : Int64 × Int32 × Int32 => f_X0_renamed_L84 o p0 p1 S x4 b15 r19 x27 t.1 t.2.1 t.2.2)) (fun t : Int64 × Int32 × Int32 => ∀ (H : Heap) (locs : List Loc) (ls : Array Slot), x_I D S s H locs S → lv_has ls 13 [(0, .ref o), (1, .long p0), (3, .ref p1), (4, .long t.1), (6, .int t.2.1), (7, .int x4), (8, .ref b15), (9, .int r19), (10, .int x27), (11, .int t.2.2)] → W p l e (x_R 7 149 S) s m args below meth c H locs (xz S - xz S) (xu S - xu S) Q (F0 m 84 ls [])) (fun t : Int64 × Int32 => ∀ (H : Heap) (locs : List Loc) (ls : Array Slot), x_I D S s H locs S → lv_has ls 13 [(0, .ref o), (1, .long p0), (3, .ref p1), (4, .long t.1), (6, .int t.2), (7, .int x4)] → W p l e (x_R 7 149 S) s m args below meth c H locs (xz S - xz S) (xu S - xu S) Q (F0 m 187 ls [])) ?_ fu (x2, x3, nI 0) y62 hxy62 hy62 _ _ _ hX (lv_sub hl [2, 3, 4, 5, 6, 7, 8, 9, 1, 0] rfl)
      clear hf hxy62 hy62
      rintro ⟨x28, x29, x30⟩ oo (hf : f_X0_renamed_L84 o p0 p1 S x4 b15 r19 x27 x28 x29 x30 = some oo) hk
      intro H locs ls hX hl
      unfold f_X0_renamed_L84 at hf
      refine lv_iload hx hb dX0_renamed_84 (lv_at hl 9 rfl) ?_
      refine lv_iload hx hb dX0_renamed_86 (lv_at hl 7 rfl) ?_
      refine lv_icmp_ge (tgt := 187) hx hb dX0_renamed_88 (by decide) (fun c31 => ?_) (fun c31 => ?_)
      · have hf := it_pos c31 hf
        cases hf
        exact hk _ _ _ hX (lv_sub hl [0, 1, 2, 3, 4, 5] rfl)
      · have hf := it_neg c31 hf
        refine lv_iconst (v := nI 0) hx hb dX0_renamed_91 ic0 ?_
        refine lv_istore (lv' := [(12, .int (nI 0)), (0, .ref o), (1, .long p0), (3, .ref p1), (4, .long x28), (6, .int x29), (7, .int x4), (8, .ref b15), (9, .int r19), (10, .int x27), (11, .int x30)]) hx hb dX0_renamed_92 hl (by decide) rfl (fun ls hl => ?_)
        obtain ⟨y57, hxy57, hf⟩ := bnd_some hf
        have hy57 : (fun t : Int64 × Int32 => ∀ (H : Heap) (locs : List Loc) (ls : Array Slot), x_I D S s H locs S → lv_has ls 13 [(0, .ref o), (1, .long p0), (3, .ref p1), (4, .long t.1), (6, .int t.2), (7, .int x4), (8, .ref b15), (9, .int r19), (10, .int x27), (11, .int x30)] → W p l e (x_R 7 149 S) s m args below meth c H locs (xz S - xz S) (xu S - xu S) Q (F0 m 181 ls [])) y57 := by
          rcases y57 with ⟨x58, x59⟩
          have hf := u2_at hf
          intro H locs ls hX hl
          obtain ⟨x60, ex60, hf⟩ := bd_some hf
          refine lv_iinc (v := x60) (lv' := [(11, .int x60), (0, .ref o), (1, .long p0), (3, .ref p1), (4, .long x58), (6, .int x59), (7, .int x4), (8, .ref b15), (9, .int r19), (10, .int x27)]) hx hb dX0_renamed_181 hl (k := 9) rfl (by rw [ex60]; first | done | rfl) (by decide) rfl (fun ls hl => ?_)
          refine lv_goto (tgt := 84) hx hb dX0_renamed_184 (by decide) ?_
          cases hf
          exact hk _ _ _ hX (lv_sub hl [1, 2, 3, 4, 5, 6, 7, 8, 9, 0] rfl)
        refine lp_W (step := (fun t : Int64 × Int32 × Int32 => f_X0_renamed_L94 o p0 p1 S x4 b15 r19 x27 x30 t.1 t.2.1 t.2.2)) (fun t : Int64 × Int32 × Int32 => ∀ (H : Heap) (locs : List Loc) (ls : Array Slot), x_I D S s H locs S → lv_has ls 13 [(0, .ref o), (1, .long p0), (3, .ref p1), (4, .long t.1), (6, .int t.2.1), (7, .int x4), (8, .ref b15), (9, .int r19), (10, .int x27), (11, .int x30), (12, .int t.2.2)] → W p l e (x_R 7 149 S) s m args below meth c H locs (xz S - xz S) (xu S - xu S) Q (F0 m 94 ls [])) (fun t : Int64 × Int32 => ∀ (H : Heap) (locs : List Loc) (ls : Array Slot), x_I D S s H locs S → lv_has ls 13 [(0, .ref o), (1, .long p0), (3, .ref p1), (4, .long t.1), (6, .int t.2), (7, .int x4), (8, .ref b15), (9, .int r19), (10, .int x27), (11, .int x30)] → W p l e (x_R 7 149 S) s m args below meth c H locs (xz S - xz S) (xu S - xu S) Q (F0 m 181 ls [])) ?_ fu (x28, x29, nI 0) y57 hxy57 hy57 _ _ _ hX (lv_sub hl [1, 2, 3, 4, 5, 6, 7, 8, 9, 10, 0] rfl)
        clear hf hxy57 hy57
        rintro ⟨x32, x33, x34⟩ oo (hf : f_X0_renamed_L94 o p0 p1 S x4 b15 r19 x27 x30 x32 x33 x34 = some oo) hk
        intro H locs ls hX hl
        unfold f_X0_renamed_L94 at hf
        refine lv_iload hx hb dX0_renamed_94 (lv_at hl 10 rfl) ?_
        refine lv_iload hx hb dX0_renamed_96 (lv_at hl 8 rfl) ?_
        refine lv_icmp_ge (tgt := 181) hx hb dX0_renamed_98 (by decide) (fun c35 => ?_) (fun c35 => ?_)
        · have hf := it_pos c35 hf
          cases hf
          exact hk _ _ _ hX (lv_sub hl [0, 1, 2, 3, 4, 5, 6, 7, 8, 9] rfl)
        · have hf := it_neg c35 hf
          refine lv_lload_n hx hb dX0_renamed_101 rfl (lv_at hl 1 rfl) ?_
          refine lv_aload_n hx hb dX0_renamed_102 rfl (lv_at hl 0 rfl) ?_
          refine lv_iload hx hb dX0_renamed_103 (lv_at hl 4 rfl) ?_
          obtain ⟨r36, hcr36, hf⟩ := bnd_some hf
          refine xr_callVC (rest := [.long p0]) (q := (RX0, TX0, 14)) B hX (c_X0_bit l D S o x33 hcr36) hk6 rfl (by decide) q559 q561 (Or.inl qs6) q103 q562 hd_X0_bit ⟨Nat.le_of_ble_eq_true rfl, Nat.le_of_ble_eq_true rfl⟩ rfl hl.1 rfl (Nat.le_of_ble_eq_true rfl) dX0_renamed_105 (fun H locs hX => ?_)
          refine lv_land hx hb dX0_renamed_108 ?_
          refine lv_lconst (v := 0) hx hb dX0_renamed_109 (by decide) ?_
          refine W.lcmp hx hb dX0_renamed_110 ?_
          refine lv_if_eq (tgt := 172) hx hb dX0_renamed_111 (by decide) (fun c37 => ?_) (fun c37 => ?_)
          · have hf := it_pos c37 hf
            obtain ⟨x38, ex38, hf⟩ := bd_some hf
            refine lv_iinc (v := x38) (lv' := [(6, .int x38), (0, .ref o), (1, .long p0), (3, .ref p1), (4, .long x32), (7, .int x4), (8, .ref b15), (9, .int r19), (10, .int x27), (11, .int x30), (12, .int x34)]) hx hb dX0_renamed_172 hl (k := 4) rfl (by rw [ex38]; first | done | rfl) (by decide) rfl (fun ls hl => ?_)
            obtain ⟨x39, ex39, hf⟩ := bd_some hf
            refine lv_iinc (v := x39) (lv' := [(12, .int x39), (6, .int x38), (0, .ref o), (1, .long p0), (3, .ref p1), (4, .long x32), (7, .int x4), (8, .ref b15), (9, .int r19), (10, .int x27), (11, .int x30)]) hx hb dX0_renamed_175 hl (k := 10) rfl (by rw [ex39]; first | done | rfl) (by decide) rfl (fun ls hl => ?_)
            refine lv_goto (tgt := 94) hx hb dX0_renamed_178 (by decide) ?_
            cases hf
            exact hk _ _ _ hX (lv_sub hl [2, 3, 4, 5, 1, 6, 7, 8, 9, 10, 0] rfl)
          · have hf := it_neg c37 hf
            refine lv_lload hx hb dX0_renamed_114 (lv_at hl 3 rfl) ?_
            refine lv_aload_n hx hb dX0_renamed_116 rfl (lv_at hl 0 rfl) ?_
            refine lv_aload_n hx hb dX0_renamed_117 rfl (lv_at hl 0 rfl) ?_
            obtain ⟨b40, hcb40, hf⟩ := bnd_some hf
            refine xr_callVC (rest := [.ref o, .long x32]) (q := (RX0, TX0, 14)) B hX (c_X0_land l D S o hcb40) hk6 rfl (by decide) q393 q395 (Or.inl qs0) q103 q396 hd_X0_land ⟨Nat.le_of_ble_eq_true rfl, Nat.le_of_ble_eq_true rfl⟩ rfl hl.1 rfl (Nat.le_of_ble_eq_true rfl) dX0_renamed_118 (fun H locs hX => ?_)
            refine lv_iload hx hb dX0_renamed_121 (lv_at hl 5 rfl) ?_
            refine lv_iload hx hb dX0_renamed_123 (lv_at hl 7 rfl) ?_
            refine lv_aload_n hx hb dX0_renamed_125 rfl (lv_at hl 2 rfl) ?_
            refine lv_aload hx hb dX0_renamed_126 (lv_at hl 6 rfl) ?_
            refine xr_getN (q := (RX8, TX8, 2)) B hX 0 hk17 rfl (by decide) (by decide) (x_Vi rfl (by decide)) nq424 (fun _ h => h) dX0_renamed_128 ?_
            obtain ⟨hk41, hf⟩ := chk_some hf
            obtain ⟨v42, ev42, hiv42, hf⟩ := ald_some hf
            refine xr_iald B hX hk41 hiv42 ev42 dX0_renamed_131 ?_
            refine lv_iload hx hb dX0_renamed_132 (lv_at hl 9 rfl) ?_
            obtain ⟨r43, hcr43, hf⟩ := bnd_some hf
            refine xr_callSC (rest := [.int x4, .ref b40, .ref o, .long x32]) B hX (c_X0_turned l D S r19 v42 x30 hcr43) q1425 q1426 q103 q1427 hd_X0_turned ⟨Nat.le_of_ble_eq_true rfl, Nat.le_of_ble_eq_true rfl⟩ rfl hl.1 rfl (Nat.le_of_ble_eq_true rfl) dX0_renamed_134 (fun H locs hX => ?_)
            refine lv_aload hx hb dX0_renamed_137 (lv_at hl 6 rfl) ?_
            obtain ⟨r44, hcr44, hf⟩ := bnd_some hf
            refine xr_callVC (rest := [.int r43, .int x4, .ref b40, .ref o, .long x32]) (q := (RX8, TX8, 2)) B hX (c_X8_isOfOne l D S b15 hcr44) hk17 rfl (by decide) q574 q539 (Or.inl q540) q114 q541 hd_X8_isOfOne ⟨Nat.le_of_ble_eq_true rfl, Nat.le_of_ble_eq_true rfl⟩ rfl hl.1 rfl (Nat.le_of_ble_eq_true rfl) dX0_renamed_139 (fun H locs hX => ?_)
            have j46 : ∀ (x49 : Int32), f_X0_renamed_J163_46 o S x4 x32 x33 x34 b40 r43 x49 = some oo → ∀ (H : Heap) (locs : List Loc) (ls : Array Slot), x_I D S s H locs S → lv_has ls 13 [(0, .ref o), (1, .long p0), (3, .ref p1), (6, .int x33), (7, .int x4), (8, .ref b15), (9, .int r19), (10, .int x27), (11, .int x30), (12, .int x34)] → W p l e (x_R 7 149 S) s m args below meth c H locs (xz S - xz S) (xu S - xu S) Q (F0 m 163 ls [.int x49, .int r43, .int x4, .ref b40, .ref o, .long x32]) := by
              intro x49 hf
              intro H locs ls hX hl
              unfold f_X0_renamed_J163_46 at hf
              obtain ⟨hk51, hf⟩ := chk_some hf
              obtain ⟨r50, hcr50, hf⟩ := bnd_some hf
              refine xr_callVC (rest := [.ref o, .long x32]) (q := (RX2, TX2, 2)) B hX (c_X2_fact l D S b40 x4 r43 x49 hcr50) hk51 rfl (by decide) q546 q547 (Or.inl q548) q105 q549 hd_X2_fact ⟨Nat.le_of_ble_eq_true rfl, Nat.le_of_ble_eq_true rfl⟩ rfl hl.1 rfl (Nat.le_of_ble_eq_true rfl) dX0_renamed_163 (fun H locs hX => ?_)
              obtain ⟨r52, hcr52, hf⟩ := bnd_some hf
              refine xr_callVC (rest := [.long x32]) (q := (RX0, TX0, 14)) B hX (c_X0_bit l D S o r50 hcr52) hk6 rfl (by decide) q559 q561 (Or.inl qs6) q103 q562 hd_X0_bit ⟨Nat.le_of_ble_eq_true rfl, Nat.le_of_ble_eq_true rfl⟩ rfl hl.1 rfl (Nat.le_of_ble_eq_true rfl) dX0_renamed_166 (fun H locs hX => ?_)
              refine lv_lor hx hb dX0_renamed_169 ?_
              refine lv_topl (fun x53 ex53 => ?_)
              have hf := bd_at ex53 hf
              refine lv_lstore (lv' := [(4, .long x53), (0, .ref o), (1, .long p0), (3, .ref p1), (6, .int x33), (7, .int x4), (8, .ref b15), (9, .int r19), (10, .int x27), (11, .int x30), (12, .int x34)]) hx hb dX0_renamed_170 hl (by decide) rfl (fun ls hl => ?_)
              obtain ⟨x54, ex54, hf⟩ := bd_some hf
              refine lv_iinc (v := x54) (lv' := [(6, .int x54), (4, .long x53), (0, .ref o), (1, .long p0), (3, .ref p1), (7, .int x4), (8, .ref b15), (9, .int r19), (10, .int x27), (11, .int x30), (12, .int x34)]) hx hb dX0_renamed_172 hl (k := 4) rfl (by rw [ex54]; first | done | rfl) (by decide) rfl (fun ls hl => ?_)
              obtain ⟨x55, ex55, hf⟩ := bd_some hf
              refine lv_iinc (v := x55) (lv' := [(12, .int x55), (6, .int x54), (4, .long x53), (0, .ref o), (1, .long p0), (3, .ref p1), (7, .int x4), (8, .ref b15), (9, .int r19), (10, .int x27), (11, .int x30)]) hx hb dX0_renamed_175 hl (k := 10) rfl (by rw [ex55]; first | done | rfl) (by decide) rfl (fun ls hl => ?_)
              refine lv_goto (tgt := 94) hx hb dX0_renamed_178 (by decide) ?_
              cases hf
              exact hk _ _ _ hX (lv_sub hl [3, 4, 5, 2, 1, 6, 7, 8, 9, 10, 0] rfl)
            refine lv_if_eq (tgt := 149) hx hb dX0_renamed_142 (by decide) (fun c45 => ?_) (fun c45 => ?_)
            · have hf := it_pos c45 hf
              refine lv_iload hx hb dX0_renamed_149 (lv_at hl 8 rfl) ?_
              refine lv_aload_n hx hb dX0_renamed_151 rfl (lv_at hl 2 rfl) ?_
              refine lv_aload hx hb dX0_renamed_152 (lv_at hl 6 rfl) ?_
              refine xr_getN (q := (RX8, TX8, 2)) B hX 1 hk17 rfl (by decide) (by decide) (x_Vi rfl (by decide)) nq428 (fun _ h => h) dX0_renamed_154 ?_
              obtain ⟨v47, ev47, hiv47, hf⟩ := ald_some hf
              refine xr_iald B hX hk41 hiv47 ev47 dX0_renamed_157 ?_
              refine lv_iload hx hb dX0_renamed_158 (lv_at hl 10 rfl) ?_
              obtain ⟨r48, hcr48, hf⟩ := bnd_some hf
              refine xr_callSC (rest := [.int r43, .int x4, .ref b40, .ref o, .long x32]) B hX (c_X0_turned l D S x27 v47 x34 hcr48) q1425 q1426 q103 q1427 hd_X0_turned ⟨Nat.le_of_ble_eq_true rfl, Nat.le_of_ble_eq_true rfl⟩ rfl hl.1 rfl (Nat.le_of_ble_eq_true rfl) dX0_renamed_160 (fun H locs hX => ?_)
              exact j46 r48 hf _ _ _ hX (lv_sub hl [0, 1, 2, 4, 5, 6, 7, 8, 9, 10] rfl)
            · have hf := it_neg c45 hf
              refine lv_iconst (v := nI 0) hx hb dX0_renamed_145 ic0 ?_
              refine lv_goto (tgt := 163) hx hb dX0_renamed_146 (by decide) ?_
              exact j46 (nI 0) hf _ _ _ hX (lv_sub hl [0, 1, 2, 4, 5, 6, 7, 8, 9, 10] rfl)
    refine lv_if_eq (tgt := 67) hx hb dX0_renamed_60 (by decide) (fun c22 => ?_) (fun c22 => ?_)
    · have hf := it_pos c22 hf
      refine lv_aload_n hx hb dX0_renamed_67 rfl (lv_at hl 2 rfl) ?_
      obtain ⟨b24, hcb24, hf⟩ := bnd_some hf
      refine xr_callVC (rest := []) (q := (RX0, TX0, 14)) B hX (c_X0_land l D S o hcb24) hk6 rfl (by decide) q393 q395 (Or.inl qs0) q103 q396 hd_X0_land ⟨Nat.le_of_ble_eq_true rfl, Nat.le_of_ble_eq_true rfl⟩ rfl hl.1 rfl (Nat.le_of_ble_eq_true rfl) dX0_renamed_68 (fun H locs hX => ?_)
      refine lv_aload hx hb dX0_renamed_71 (lv_at hl 1 rfl) ?_
      refine xr_getN (q := (RX8, TX8, 2)) B hX 1 hk17 rfl (by decide) (by decide) (x_Vi rfl (by decide)) nq428 (fun _ h => h) dX0_renamed_73 ?_
      obtain ⟨hk26, hf⟩ := chk_some hf
      obtain ⟨r25, hcr25, hf⟩ := bnd_some hf
      refine xr_callVC (rest := []) (q := (RX2, TX2, 2)) B hX (c_X2_size l D S b24 (xi S 501 b15 0) hcr25) hk26 rfl (by decide) q397 q398 (Or.inl q399) q105 q400 hd_X2_size ⟨Nat.le_of_ble_eq_true rfl, Nat.le_of_ble_eq_true rfl⟩ rfl hl.1 rfl (Nat.le_of_ble_eq_true rfl) dX0_renamed_76 (fun H locs hX => ?_)
      exact j23 r25 hf _ _ _ hX (lv_sub hl [2, 3, 4, 5, 6, 7, 1, 0] rfl)
    · have hf := it_neg c22 hf
      refine lv_iconst (v := nI 1) hx hb dX0_renamed_63 ic1 ?_
      refine lv_goto (tgt := 79) hx hb dX0_renamed_64 (by decide) ?_
      exact j23 (nI 1) hf _ _ _ hX (lv_sub hl [2, 3, 4, 5, 6, 7, 1, 0] rfl)
def f_X6_worth (S : XS) (o : Nat) (p0 : Int64) : Option Int64 :=
  chk (xk S o = 18) <| bnd (xr S 1802 o 0) fun b2 => chk (xk S b2 = 1) <| bnd (xr S 100 b2 0) fun b4 => chk (xk S b4 = 2) <| bnd (f_J9_bitCount (p0 ^^^ (xl S 207 b4 0))) fun r6 => some r6.toInt64
set_option maxHeartbeats 4000000 in
set_option maxRecDepth 100000 in
theorem c_X6_worth (l : Launch) (D : XD) (S : XS) (o : Nat) (p0 : Int64) {r : Int64} (hf : f_X6_worth S o p0 = some r) : x_Met l yX6_worth cX6_worth 3 (Option.some Jvm.ClassFile.FieldType.long) 1 21 D [.ref o, .long p0] S (some (.long r)) S := by
  refine x_metL RX6 (by decide) rfl (Nat.le_of_ble_eq_true rfl) (fun p e s m args below meth c Q B hnm hret H locs hX ls hl => ?_)
  have hx := B.1
  have hb := B.2.1
  have hml := B.2.2.1
  have hown := B.2.2.2.1
  have hts := B.2.2.2.2
  have hl : lv_has ls 3 [(0, .ref o), (1, .long p0)] := hl
  unfold f_X6_worth at hf
  refine lv_lload_n hx hb dX6_worth_0 rfl (lv_at hl 1 rfl) ?_
  refine lv_aload_n hx hb dX6_worth_1 rfl (lv_at hl 0 rfl) ?_
  obtain ⟨hk1, hf⟩ := chk_some hf
  obtain ⟨b2, hb2, hf⟩ := bnd_some hf
  refine xr_get (q := (RX6, TX6, 3)) B hX 2 hk1 rfl (by decide) (by decide) (v := .ref b2) (x_Vr (c := 18) (j := 2) rfl (by decide) hb2) q330 (fun _ h => h) dX6_worth_2 ?_
  obtain ⟨hk3, hf⟩ := chk_some hf
  obtain ⟨b4, hb4, hf⟩ := bnd_some hf
  refine xr_getN (q := (RX0, TX0, 14)) B hX 0 hk3 rfl (by decide) (by decide) (v := .ref b4) (x_Vr (c := 1) (j := 0) rfl (by decide) hb4) nq338 (fun _ h => h) dX6_worth_5 ?_
  obtain ⟨hk5, hf⟩ := chk_some hf
  refine xr_getN (q := (RX1, TX1, 14)) B hX 7 hk5 rfl (by decide) (by decide) (x_Vl rfl (by decide)) nq231 (fun _ h => h) dX6_worth_8 ?_
  refine lv_lxor hx hb dX6_worth_11 ?_
  obtain ⟨r6, hcr6, hf⟩ := bnd_some hf
  refine pr_callS (rest := []) B (c_J9_bitCount l (p0 ^^^ (xl S 207 b4 0)) hcr6) (va_cwS 1 hts (lw_S q1439 q1440 q123 q1441) rfl rfl rfl hd_J9_bitCount ⟨Nat.le_of_ble_eq_true rfl, Nat.le_of_ble_eq_true rfl⟩) rfl hl.1 rfl (Nat.le_of_ble_eq_true rfl) dX6_worth_12 (x_room0 hX) ?_
  refine lv_i2l (v := r6.toInt64) hx hb dX6_worth_15 rfl ?_
  cases hf
  exact hret _ _ _ _ hX dX6_worth_16
