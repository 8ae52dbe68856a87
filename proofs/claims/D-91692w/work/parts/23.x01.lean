set_option maxRecDepth 100000
def f_X11_part_L35 (o : Nat) (x10 : Int32) (S11 : XS) : Option ((Int32 × XS) ⊕ ((Int32 × XS) ⊕ (XS))) :=
  bnd (xs S11 2) fun b12 => chk (xk S11 b12 = 57) <| (if (nI (xn S11 b12)) ≤ x10 then some (.inr (.inr S11)) else bnd (xs S11 2) fun b15 => chk (xk S11 b15 = 57) <| ald (xn S11 b15) (xr S11 57 b15) x10 fun q17 => bnd q17 fun b18 => chk (23 ≤ xk S11 b18 ∧ xk S11 b18 ≤ 26) <| bnd (xr S11 2300 b18 0) fun b20 => chk (xk S11 o = 8) <| bnd (f_X11_takes S11 o b20) <| u2 fun r21 S22 => (if r21 = 0 then bd (x10 + nI 1) fun x25 => some (.inl (x25, S22)) else some (.inr (.inl (x10, S22)))))
def f_X11_part_L77 (o : Nat) (x40 : Int32) (S41 : XS) : Option ((Int32 × XS) ⊕ ((Int32 × XS) ⊕ (XS))) :=
  bnd (xs S41 4) fun b42 => chk (xk S41 b42 = 58) <| (if (nI (xn S41 b42)) ≤ x40 then some (.inr (.inr S41)) else bnd (xs S41 4) fun b45 => chk (xk S41 b45 = 58) <| ald (xn S41 b45) (xr S41 58 b45) x40 fun q47 => bnd q47 fun b48 => chk (27 ≤ xk S41 b48 ∧ xk S41 b48 ≤ 29) <| bnd (xr S41 2700 b48 0) fun b50 => chk (xk S41 o = 8) <| bnd (f_X11_takes S41 o b50) <| u2 fun r51 S52 => (if r51 = 0 then bd (x40 + nI 1) fun x55 => some (.inl (x55, S52)) else some (.inr (.inl (x40, S52)))))
def f_X11_part_J344_127 (r105 : Int32) (r114 : Int32) (a117 : Nat) (x136 : Int32) (S137 : XS) : Option ((Nat ⊕ Nat) × XS) :=
  bnd (f_X21_init S137 a117 r105 r114 x136) fun S138 => some (.inr a117, S138)
def f_X11_part_J28_5 (rec : XS → Nat → Option ((Nat ⊕ Nat) × XS)) (o : Nat) (S7 : XS) : Option ((Nat ⊕ Nat) × XS) :=
  chk (xk S7 o = 8) <| bd (xi S7 804 o 0) fun x9 => bnd (wO (fun t : Int32 × XS => f_X11_part_L35 o t.1 t.2) fu (nI 0, S7)) (Sum.elim (u2 fun x28 S29 => bnd (xs S29 2) fun b30 => chk (xk S29 b30 = 57) <| ald (xn S29 b30) (xr S29 57 b30) x28 fun q32 => bnd q32 fun b33 => chk (xk S29 o = 8) <| bnd (f_X11_each rec S29 o b33 x9) <| u2 fun q35 S36 => (sc q35 (fun a37 => some (.inl a37, S36)) fun b38 => some (.inr b38, S36))) (fun S39 => bnd (wO (fun t : Int32 × XS => f_X11_part_L77 o t.1 t.2) fu (nI 0, S39)) (Sum.elim (u2 fun x58 S59 => chk (xk S59 o = 8) <| bnd (rec S59 o) <| u2 fun q61 S62 => (sc q61 (fun a63 => some (.inl a63, S62)) fun b64 => chk (xz S62 < xL S62 ∧ xu S62 + 3 ≤ xU S62) <| bd (xz S62) fun a67 => bd (n_c S62 11 0 3) fun S66 => bnd (xs S66 4) fun b70 => chk (xk S66 b70 = 58) <| ald (xn S66 b70) (xr S66 58 b70) x58 fun q72 => bnd q72 fun b73 => chk (xk S66 o = 8) <| bnd (rec S66 o) <| u2 fun q75 S76 => (sc q75 (fun a77 => some (.inl a77, S76)) fun b78 => bnd (f_X16_init S76 a67 b73 b64 b78) fun S79 => some (.inr a67, S79)))) (fun S80 => bnd (xs S80 52) fun b81 => chk (xk S80 o = 8) <| bnd (f_X11_takes S80 o b81) <| u2 fun r82 S83 => (if r82 = 0 then bnd (xs S83 53) fun b86 => chk (xk S83 o = 8) <| bnd (f_X11_takes S83 o b86) <| u2 fun r87 S88 => (if r87 = 0 then bnd (xs S88 54) fun b91 => chk (xk S88 o = 8) <| bnd (f_X11_takes S88 o b91) <| u2 fun r92 S93 => (if r92 = 0 then bnd (xs S93 55) fun b96 => chk (xk S93 o = 8) <| bnd (f_X11_takes S93 o b96) <| u2 fun r97 S98 => (if r97 = 0 then chk (xk S98 o = 8) <| bnd (f_X11_relation S98 o) <| u2 fun q102 S103 => (sc q102 (fun a104 => some (.inl a104, S103)) fun r105 => chk (xk S103 o = 8) <| bnd (xr S103 802 o 0) fun b107 => chk (xk S103 b107 = 19) <| bnd (f_J2_get S103 b107 r105) fun b108 => chk (xk S103 b108 = 5) <| bnd (f_X11_bound S103 o (xi S103 500 b108 0)) <| u2 fun q111 S112 => (sc q111 (fun a113 => some (.inl a113, S112)) fun r114 => chk (xz S112 < xL S112 ∧ xu S112 + 3 ≤ xU S112) <| bd (xz S112) fun a117 => bd (n_c S112 16 0 3) fun S116 => chk (xk S116 o = 8) <| bnd (xr S116 802 o 0) fun b121 => chk (xk S116 b121 = 19) <| bnd (f_J2_get S116 b121 r105) fun b122 => chk (xk S116 b122 = 5) <| bnd (f_X8_isOfOne S116 b122) fun r125 => (if r125 = 0 then bnd (xr S116 802 o 0) fun b128 => chk (xk S116 b128 = 19) <| bnd (f_J2_get S116 b128 r105) fun b129 => chk (xk S116 b129 = 5) <| bnd (f_X11_bound S116 o (xi S116 501 b129 0)) <| u2 fun q132 S133 => (sc q132 (fun a134 => some (.inl a134, S133)) fun r135 => f_X11_part_J344_127 r105 r114 a117 r135 S133) else f_X11_part_J344_127 r105 r114 a117 (-1) S116))) else chk (xk S98 o = 8) <| bd (xi S98 804 o 0) fun x140 => bnd (f_X11_relation S98 o) <| u2 fun q141 S142 => (sc q141 (fun a143 => some (.inl a143, S142)) fun r144 => chk (xk S142 o = 8) <| bnd (f_X11_leads S142 o r144 x140) <| u2 fun r145 S146 => chk (xz S146 < xL S146 ∧ xu S146 + 1 ≤ xU S146) <| bd (xz S146) fun a150 => bd (n_c S146 15 0 1) fun S149 => bnd (f_X20_init S149 a150 r144) fun S153 => some (.inr a150, S153))) else chk (xk S93 o = 8) <| bd (xi S93 804 o 0) fun x155 => bnd (f_X11_relation S93 o) <| u2 fun q156 S157 => (sc q156 (fun a158 => some (.inl a158, S157)) fun r159 => chk (xk S157 o = 8) <| bnd (f_X11_leads S157 o r159 x155) <| u2 fun r160 S161 => chk (xk S161 o = 8) <| bnd (f_X11_bound S161 o r160) <| u2 fun q164 S165 => (sc q164 (fun a166 => some (.inl a166, S165)) fun r167 => chk (xz S165 < xL S165 ∧ xu S165 + 3 ≤ xU S165) <| bd (xz S165) fun a170 => bd (n_c S165 14 0 3) fun S169 => chk (xk S169 o = 8) <| bnd (f_X11_bound S169 o r160) <| u2 fun q174 S175 => (sc q174 (fun a176 => some (.inl a176, S175)) fun r177 => bnd (f_X19_init S175 a170 r159 r167 r177) fun S178 => some (.inr a170, S178))))) else chk (xk S88 o = 8) <| bnd (f_X11_bound S88 o (-1)) <| u2 fun q180 S181 => (sc q180 (fun a182 => some (.inl a182, S181)) fun r183 => chk (xz S181 < xL S181 ∧ xu S181 + 2 ≤ xU S181) <| bd (xz S181) fun a186 => bd (n_c S181 13 0 2) fun S185 => chk (xk S185 o = 8) <| bnd (xr S185 810 o 0) fun b190 => chk (xk S185 b190 = 52) <| ald (xn S185 b190) (xi S185 52 b190) r183 fun v192 => bnd (f_X11_bound S185 o v192) <| u2 fun q193 S194 => (sc q193 (fun a195 => some (.inl a195, S194)) fun r196 => bnd (f_X18_init S194 a186 r183 r196) fun S197 => some (.inr a186, S197)))) else chk (xz S83 < xL S83 ∧ xu S83 + 1 ≤ xU S83) <| bd (xz S83) fun a200 => bd (n_c S83 12 0 1) fun S199 => chk (xk S199 o = 8) <| bnd (rec S199 o) <| u2 fun q204 S205 => (sc q204 (fun a206 => some (.inl a206, S205)) fun b207 => bnd (f_X17_init S205 a200 b207) fun S208 => some (.inr a200, S208)))))))
def f_X11_part (rec : XS → Nat → Option ((Nat ⊕ Nat) × XS)) (S : XS) (o : Nat) : Option ((Nat ⊕ Nat) × XS) :=
  chk (xk S o = 8) <| chk (xb S ≤ o) <| bd (s_i S 806 o 0 ((xi S 806 o 0) + nI 1)) fun S3 => (if (xi S3 806 o 0) = nI 41 then bnd (f_X11_also S3 o (nI 4) (xi S3 804 o 0)) fun S6 => f_X11_part_J28_5 rec o S6 else f_X11_part_J28_5 rec o S3)
set_option maxHeartbeats 4000000 in
set_option maxRecDepth 100000 in
theorem c_X11_part (l : Launch) (hfl : l.flags = flags0) (D : XD) {rF rL : Nat} {rec : XS → Nat → Option ((Nat ⊕ Nat) × XS)} (hro : 20 ≤ rF ∧ 400 ≤ rL) (hrec : x_R_part l D rF rL rec) (S : XS) (o : Nat) {res : Nat ⊕ Nat} {S' : XS} (hf : f_X11_part rec S o = some (res, S')) : x_Bod l yX11_part cX11_part 6 (Option.some (Jvm.ClassFile.FieldType.object "VillageStories$Part")) [] (rF + 2) (rL + 120) D [.ref o] S (x_ra res) S' := by
  refine x_bodXA RX11 rfl (Or.inl ⟨_, rfl⟩) (fun p e s m args below meth c Q B hnm hret hthr hthw H locs hX ls hl => ?_)
  have hx := B.1
  have hb := B.2.1
  have hml := B.2.2.1
  have hown := B.2.2.2.1
  have hts := B.2.2.2.2
  have hl : lv_has ls 6 [(0, .ref o)] := hl
  unfold f_X11_part at hf
  refine lv_aload_n hx hb dX11_part_0 rfl (lv_at hl 0 rfl) ?_
  refine lv_dup hx hb dX11_part_1 rfl ?_
  obtain ⟨hk1, hf⟩ := chk_some hf
  refine xr_get (q := (RX11, TX11, 12)) B hX 6 hk1 rfl (by decide) (by decide) (x_Vi rfl (by decide)) q825 (fun _ h => h) dX11_part_2 ?_
  refine lv_iconst (v := nI 1) hx hb dX11_part_5 ic1 ?_
  refine lv_iadd hx hb dX11_part_6 ?_
  obtain ⟨hw2, hf⟩ := chk_some hf
  obtain ⟨S3, eS3, hf⟩ := bd_some hf
  refine xr_put (S' := S3) (q := (RX11, TX11, 12)) (v := .int ((xi S 806 o 0) + nI 1)) (ty0 := tyX11) B hX 6 hk1 rfl (by decide) hw2 (by decide) (by rw [eS3]; exact x_Vup_i (k := 8) (j := 6) rfl (by decide)) tyX11_ok (fun i h1 h2 => nmX11 i (Nat.lt_of_lt_of_le h1 (by decide)) 6 (by decide) h2) rfl rfl rfl q825 (fun _ h => h) dX11_part_7 (fun H locs hX => ?_)
  refine w_i eS3 ?_
  have hk1 := ks_i eS3 hk1
  have hw2 := kw_i eS3 hw2
  refine lv_aload_n hx hb dX11_part_10 rfl (lv_at hl 0 rfl) ?_
  refine xr_get (q := (RX11, TX11, 12)) B hX 6 hk1 rfl (by decide) (by decide) (x_Vi rfl (by decide)) q825 (fun _ h => h) dX11_part_11 ?_
  refine lv_bipush (v := nI 41) hx hb dX11_part_14 bp41 ?_
  have j5 : ∀ (S7 : XS), f_X11_part_J28_5 rec o S7 = some (res, S') → ∀ (H : Heap) (locs : List Loc) (ls : Array Slot), x_I D S s H locs S7 → lv_has ls 6 [(0, .ref o)] → W p l e (x_R (rF + 2) (rL + 120) S) s m args below meth c H locs (xz S7 - xz S) (xu S7 - xu S) Q (F0 m 28 ls []) := by
    intro S7 hf
    intro H locs ls hX hl
    unfold f_X11_part_J28_5 at hf
    refine lv_aload_n hx hb dX11_part_28 rfl (lv_at hl 0 rfl) ?_
    obtain ⟨hk8, hf⟩ := chk_some hf
    refine xr_get (q := (RX11, TX11, 12)) B hX 4 hk8 rfl (by decide) (by decide) (x_Vi rfl (by decide)) q823 (fun _ h => h) dX11_part_29 ?_
    refine lv_topi (fun x9 ex9 => ?_)
    have hf := bd_at ex9 hf
    refine lv_istore_n (lv' := [(1, .int x9), (0, .ref o)]) hx hb dX11_part_32 rfl hl (by decide) rfl (fun ls hl => ?_)
    refine lv_iconst (v := nI 0) hx hb dX11_part_33 ic0 ?_
    refine lv_istore_n (lv' := [(2, .int (nI 0)), (1, .int x9), (0, .ref o)]) hx hb dX11_part_34 rfl hl (by decide) rfl (fun ls hl => ?_)
    obtain ⟨y27, hxy27, hf⟩ := bnd_some hf
    have hy27 : (Sum.elim (fun t : Int32 × XS => ∀ (H : Heap) (locs : List Loc) (ls : Array Slot), x_I D S s H locs t.2 → lv_has ls 6 [(0, .ref o), (1, .int x9), (2, .int t.1)] → W p l e (x_R (rF + 2) (rL + 120) S) s m args below meth c H locs (xz t.2 - xz S) (xu t.2 - xu S) Q (F0 m 58 ls [])) (fun t : XS => ∀ (H : Heap) (locs : List Loc) (ls : Array Slot), x_I D S s H locs t → lv_has ls 6 [(0, .ref o)] → W p l e (x_R (rF + 2) (rL + 120) S) s m args below meth c H locs (xz t - xz S) (xu t - xu S) Q (F0 m 75 ls []))) y27 := by
      rcases y27 with ⟨x28, S29⟩ | S39
      · have hf := el_l hf
        have hf := u2_at hf
        intro H locs ls hX hl
        refine lv_aload_n hx hb dX11_part_58 rfl (lv_at hl 0 rfl) ?_
        obtain ⟨b30, hb30, hf⟩ := bnd_some hf
        refine xr_getsN B hX (v := .ref b30) (x_statR hX 2 rfl hb30) nq935 dX11_part_59 ?_
        refine lv_iload_n hx hb dX11_part_62 rfl (lv_at hl 2 rfl) ?_
        obtain ⟨hk31, hf⟩ := chk_some hf
        obtain ⟨q32, eq32, hiq32, hf⟩ := ald_some hf
        obtain ⟨b33, hb33, hf⟩ := bnd_some hf
        rw [hb33] at eq32
        refine xr_aald B hX hk31 rfl (by decide) rfl hiq32 eq32 dX11_part_63 ?_
        refine W.eq (g2 := F0 m 64 ls [.ref b33, .ref o]) rfl ?_
        refine lv_iload_n hx hb dX11_part_64 rfl (lv_at hl 1 rfl) ?_
        obtain ⟨hk34, hf⟩ := chk_some hf
        obtain ⟨⟨q35, S36⟩, hcq35, hf⟩ := bnd_some hf
        have hf := u2_at hf
        rcases q35 with a37 | b38
        · have hf := sc_l hf
          refine xr_callT (rest := []) (q := (RX11, TX11, 12)) B hX (c_X11_each l hfl D hro hrec S29 o b33 x9 hcq35) (by decide) (Nat.le_of_ble_eq_true rfl) hk34 rfl (by decide) q949 q951 qs14 q952 hd_X11_each ⟨by omega, by omega⟩ rfl hl.1 rfl (Nat.le_of_ble_eq_true rfl) dX11_part_65 (fun H locs hX => ?_)
          cases hf
          exact hthw _ rfl _ _ _ _ _ hX
        · have hf := sc_r hf
          refine xr_callR (rest := []) (q := (RX11, TX11, 12)) B hX (c_X11_each l hfl D hro hrec S29 o b33 x9 hcq35) (by decide) (Nat.le_of_ble_eq_true rfl) hk34 rfl (by decide) q949 q951 qs14 q952 hd_X11_each ⟨by omega, by omega⟩ rfl hl.1 rfl (Nat.le_of_ble_eq_true rfl) dX11_part_65 (fun H locs hX => ?_)
          cases hf
          exact hret _ rfl _ _ _ _ hX dX11_part_68
      · have hf := el_r hf
        intro H locs ls hX hl
        refine lv_iconst (v := nI 0) hx hb dX11_part_75 ic0 ?_
        refine lv_istore_n (lv' := [(2, .int (nI 0)), (0, .ref o)]) hx hb dX11_part_76 rfl hl (by decide) rfl (fun ls hl => ?_)
        obtain ⟨y57, hxy57, hf⟩ := bnd_some hf
        have hy57 : (Sum.elim (fun t : Int32 × XS => ∀ (H : Heap) (locs : List Loc) (ls : Array Slot), x_I D S s H locs t.2 → lv_has ls 6 [(0, .ref o), (2, .int t.1)] → W p l e (x_R (rF + 2) (rL + 120) S) s m args below meth c H locs (xz t.2 - xz S) (xu t.2 - xu S) Q (F0 m 103 ls [])) (fun t : XS => ∀ (H : Heap) (locs : List Loc) (ls : Array Slot), x_I D S s H locs t → lv_has ls 6 [(0, .ref o)] → W p l e (x_R (rF + 2) (rL + 120) S) s m args below meth c H locs (xz t - xz S) (xu t - xu S) Q (F0 m 132 ls []))) y57 := by
          rcases y57 with ⟨x58, S59⟩ | S80
          · have hf := el_l hf
            have hf := u2_at hf
            intro H locs ls hX hl
            refine lv_aload_n hx hb dX11_part_103 rfl (lv_at hl 0 rfl) ?_
            obtain ⟨hk60, hf⟩ := chk_some hf
            obtain ⟨⟨q61, S62⟩, hcq61, hf⟩ := bnd_some hf
            have hf := u2_at hf
            rcases q61 with a63 | b64
            · have hf := sc_l hf
              refine xr_callT (rest := []) (q := (RX11, TX11, 12)) B hX (hrec _ _ _ _ hcq61) (by decide) (Nat.le_of_ble_eq_true rfl) hk60 rfl (by decide) q861 q863 qs10 q864 hd_X11_part ⟨by omega, by omega⟩ rfl hl.1 rfl (Nat.le_of_ble_eq_true rfl) dX11_part_104 (fun H locs hX => ?_)
              cases hf
              exact hthw _ rfl _ _ _ _ _ hX
            · have hf := sc_r hf
              refine xr_callR (rest := []) (q := (RX11, TX11, 12)) B hX (hrec _ _ _ _ hcq61) (by decide) (Nat.le_of_ble_eq_true rfl) hk60 rfl (by decide) q861 q863 qs10 q864 hd_X11_part ⟨by omega, by omega⟩ rfl hl.1 rfl (Nat.le_of_ble_eq_true rfl) dX11_part_104 (fun H locs hX => ?_)
              refine lv_astore_n (lv' := [(3, .ref b64), (0, .ref o), (2, .int x58)]) hx hb dX11_part_107 rfl hl (by decide) rfl (fun ls hl => ?_)
              obtain ⟨hr65, hf⟩ := chk_some hf
              obtain ⟨a67, ea67, hf⟩ := bd_some hf
              obtain ⟨S66, eS66, hf⟩ := bd_some hf
              have hk68 := ks_new eS66 ea67
              have hw69 := kw_new hX eS66 ea67
              refine xr_new (q := (RX16, TX16, 3)) (N := 3) (ty0 := tyX16) B hX 11 rfl (by decide) tyX16_ok xd_11 q1097 q1098 q140 hr65 eS66 dX11_part_108 (fun H hX => ?_)
              refine W.eq (g2 := F0 m 111 ls [.ref a67]) (by rw [ea67]; first | done | rfl) ?_
              refine lv_dup hx hb dX11_part_111 rfl ?_
              obtain ⟨b70, hb70, hf⟩ := bnd_some hf
              refine xr_getsN B hX (v := .ref b70) (x_statR hX 4 rfl hb70) nq1095 dX11_part_112 ?_
              refine lv_iload_n hx hb dX11_part_115 rfl (lv_at hl 2 rfl) ?_
              obtain ⟨hk71, hf⟩ := chk_some hf
              obtain ⟨q72, eq72, hiq72, hf⟩ := ald_some hf
              obtain ⟨b73, hb73, hf⟩ := bnd_some hf
              rw [hb73] at eq72
              refine xr_aald B hX hk71 rfl (by decide) rfl hiq72 eq72 dX11_part_116 ?_
              refine W.eq (g2 := F0 m 117 ls [.ref b73, .ref a67, .ref a67]) rfl ?_
              refine lv_aload_n hx hb dX11_part_117 rfl (lv_at hl 0 rfl) ?_
              refine lv_aload_n hx hb dX11_part_118 rfl (lv_at hl 1 rfl) ?_
              obtain ⟨hk74, hf⟩ := chk_some hf
              obtain ⟨⟨q75, S76⟩, hcq75, hf⟩ := bnd_some hf
              have hf := u2_at hf
              rcases q75 with a77 | b78
              · have hf := sc_l hf
                refine xr_callT (rest := [.ref b64, .ref b73, .ref a67, .ref a67]) (q := (RX11, TX11, 12)) B hX (hrec _ _ _ _ hcq75) (by decide) (Nat.le_of_ble_eq_true rfl) hk74 rfl (by decide) q861 q863 qs10 q864 hd_X11_part ⟨by omega, by omega⟩ rfl hl.1 rfl (Nat.le_of_ble_eq_true rfl) dX11_part_119 (fun H locs hX => ?_)
                cases hf
                exact hthw _ rfl _ _ _ _ _ hX
              · have hf := sc_r hf
                refine xr_callR (rest := [.ref b64, .ref b73, .ref a67, .ref a67]) (q := (RX11, TX11, 12)) B hX (hrec _ _ _ _ hcq75) (by decide) (Nat.le_of_ble_eq_true rfl) hk74 rfl (by decide) q861 q863 qs10 q864 hd_X11_part ⟨by omega, by omega⟩ rfl hl.1 rfl (Nat.le_of_ble_eq_true rfl) dX11_part_119 (fun H locs hX => ?_)
                obtain ⟨S79, hcS79, hf⟩ := bnd_some hf
                refine xr_callIC (rest := [.ref a67]) B hX (c_X16_init l D S76 a67 b73 b64 b78 hcS79) q1099 q1100 q140 q1101 hd_X16_init rfl ⟨by omega, by omega⟩ rfl hl.1 rfl (Nat.le_of_ble_eq_true rfl) dX11_part_122 (fun H locs hX => ?_)
                cases hf
                exact hret _ rfl _ _ _ _ hX dX11_part_125
          · have hf := el_r hf
            intro H locs ls hX hl
            refine lv_aload_n hx hb dX11_part_132 rfl (lv_at hl 0 rfl) ?_
            obtain ⟨b81, hb81, hf⟩ := bnd_some hf
            refine xr_ldcS B hX 2 rfl hb81 dX11_part_133 ?_
            obtain ⟨hk84, hf⟩ := chk_some hf
            obtain ⟨⟨r82, S83⟩, hcr82, hf⟩ := bnd_some hf
            have hf := u2_at hf
            refine xr_callVC (rest := []) (q := (RX11, TX11, 12)) B hX (c_X11_takes l D S80 o b81 hcr82) hk84 rfl (by decide) q937 q939 (Or.inl qs13) q125 q940 hd_X11_takes ⟨by omega, by omega⟩ rfl hl.1 rfl (Nat.le_of_ble_eq_true rfl) dX11_part_135 (fun H locs hX => ?_)
            refine lv_if_eq (tgt := 153) hx hb dX11_part_138 (by decide) (fun c85 => ?_) (fun c85 => ?_)
            · have hf := it_pos c85 hf
              refine lv_aload_n hx hb dX11_part_153 rfl (lv_at hl 0 rfl) ?_
              obtain ⟨b86, hb86, hf⟩ := bnd_some hf
              refine xr_ldcS B hX 3 rfl hb86 dX11_part_154 ?_
              obtain ⟨hk89, hf⟩ := chk_some hf
              obtain ⟨⟨r87, S88⟩, hcr87, hf⟩ := bnd_some hf
              have hf := u2_at hf
              refine xr_callVC (rest := []) (q := (RX11, TX11, 12)) B hX (c_X11_takes l D S83 o b86 hcr87) hk89 rfl (by decide) q937 q939 (Or.inl qs13) q125 q940 hd_X11_takes ⟨by omega, by omega⟩ rfl hl.1 rfl (Nat.le_of_ble_eq_true rfl) dX11_part_156 (fun H locs hX => ?_)
              refine lv_if_eq (tgt := 187) hx hb dX11_part_159 (by decide) (fun c90 => ?_) (fun c90 => ?_)
              · have hf := it_pos c90 hf
                refine lv_aload_n hx hb dX11_part_187 rfl (lv_at hl 0 rfl) ?_
                obtain ⟨b91, hb91, hf⟩ := bnd_some hf
                refine xr_ldcS B hX 4 rfl hb91 dX11_part_188 ?_
                obtain ⟨hk94, hf⟩ := chk_some hf
                obtain ⟨⟨r92, S93⟩, hcr92, hf⟩ := bnd_some hf
                have hf := u2_at hf
                refine xr_callVC (rest := []) (q := (RX11, TX11, 12)) B hX (c_X11_takes l D S88 o b91 hcr92) hk94 rfl (by decide) q937 q939 (Or.inl qs13) q125 q940 hd_X11_takes ⟨by omega, by omega⟩ rfl hl.1 rfl (Nat.le_of_ble_eq_true rfl) dX11_part_190 (fun H locs hX => ?_)
                refine lv_if_eq (tgt := 239) hx hb dX11_part_193 (by decide) (fun c95 => ?_) (fun c95 => ?_)
                · have hf := it_pos c95 hf
                  refine lv_aload_n hx hb dX11_part_239 rfl (lv_at hl 0 rfl) ?_
                  obtain ⟨b96, hb96, hf⟩ := bnd_some hf
                  refine xr_ldcS B hX 5 rfl hb96 dX11_part_240 ?_
                  obtain ⟨hk99, hf⟩ := chk_some hf
                  obtain ⟨⟨r97, S98⟩, hcr97, hf⟩ := bnd_some hf
                  have hf := u2_at hf
                  refine xr_callVC (rest := []) (q := (RX11, TX11, 12)) B hX (c_X11_takes l D S93 o b96 hcr97) hk99 rfl (by decide) q937 q939 (Or.inl qs13) q125 q940 hd_X11_takes ⟨by omega, by omega⟩ rfl hl.1 rfl (Nat.le_of_ble_eq_true rfl) dX11_part_242 (fun H locs hX => ?_)
                  refine lv_if_eq (tgt := 275) hx hb dX11_part_245 (by decide) (fun c100 => ?_) (fun c100 => ?_)
                  · have hf := it_pos c100 hf
                    refine lv_aload_n hx hb dX11_part_275 rfl (lv_at hl 0 rfl) ?_
                    obtain ⟨hk101, hf⟩ := chk_some hf
                    obtain ⟨⟨q102, S103⟩, hcq102, hf⟩ := bnd_some hf
                    have hf := u2_at hf
                    rcases q102 with a104 | r105
                    · have hf := sc_l hf
                      refine xr_callT (rest := []) (q := (RX11, TX11, 12)) B hX (c_X11_relation l hfl D S98 o hcq102) (by decide) (Nat.le_of_ble_eq_true rfl) hk101 rfl (by decide) q1143 q1145 qs21 q1146 hd_X11_relation ⟨by omega, by omega⟩ rfl hl.1 rfl (Nat.le_of_ble_eq_true rfl) dX11_part_276 (fun H locs hX => ?_)
                      cases hf
                      exact hthw _ rfl _ _ _ _ _ hX
                    · have hf := sc_r hf
                      refine xr_callR (rest := []) (q := (RX11, TX11, 12)) B hX (c_X11_relation l hfl D S98 o hcq102) (by decide) (Nat.le_of_ble_eq_true rfl) hk101 rfl (by decide) q1143 q1145 qs21 q1146 hd_X11_relation ⟨by omega, by omega⟩ rfl hl.1 rfl (Nat.le_of_ble_eq_true rfl) dX11_part_276 (fun H locs hX => ?_)
                      refine lv_istore_n (lv' := [(2, .int r105), (0, .ref o)]) hx hb dX11_part_279 rfl hl (by decide) rfl (fun ls hl => ?_)
                      refine lv_aload_n hx hb dX11_part_280 rfl (lv_at hl 1 rfl) ?_
                      refine lv_aload_n hx hb dX11_part_281 rfl (lv_at hl 1 rfl) ?_
                      obtain ⟨hk106, hf⟩ := chk_some hf
                      obtain ⟨b107, hb107, hf⟩ := bnd_some hf
                      refine xr_get (q := (RX11, TX11, 12)) B hX 2 hk106 rfl (by decide) (by decide) (v := .ref b107) (x_Vr (c := 8) (j := 2) rfl (by decide) hb107) q821 (fun _ h => h) dX11_part_282 ?_
                      refine lv_iload_n hx hb dX11_part_285 rfl (lv_at hl 0 rfl) ?_
                      obtain ⟨hk109, hf⟩ := chk_some hf
                      obtain ⟨b108, hcb108, hf⟩ := bnd_some hf
                      refine xr_callVC (rest := [.ref o]) (q := (RJ2, TJ2, 3)) B hX (c_J2_get l D S103 b107 r105 hcb108) hk109 rfl (by decide) q1153 q524 (Or.inl q525) q108 q526 hd_J2_get ⟨by omega, by omega⟩ rfl hl.1 rfl (Nat.le_of_ble_eq_true rfl) dX11_part_286 (fun H locs hX => ?_)
                      obtain ⟨hk110, hf⟩ := chk_some hf
                      refine xr_castY (q := (RX8, TX8, 2)) B hX hk110 rfl (by decide) q1154 (Or.inr ⟨rfl, by decide⟩) dX11_part_289 ?_
                      refine xr_getN (q := (RX8, TX8, 2)) B hX 0 hk110 rfl (by decide) (by decide) (x_Vi rfl (by decide)) nq423 (fun _ h => h) dX11_part_292 ?_
                      obtain ⟨⟨q111, S112⟩, hcq111, hf⟩ := bnd_some hf
                      have hf := u2_at hf
                      rcases q111 with a113 | r114
                      · have hf := sc_l hf
                        refine xr_callT (rest := []) (q := (RX11, TX11, 12)) B hX (c_X11_bound l hfl D S103 o (xi S103 500 b108 0) hcq111) (by decide) (Nat.le_of_ble_eq_true rfl) hk106 rfl (by decide) q1125 q1127 qs20 q1128 hd_X11_bound ⟨by omega, by omega⟩ rfl hl.1 rfl (Nat.le_of_ble_eq_true rfl) dX11_part_295 (fun H locs hX => ?_)
                        cases hf
                        exact hthw _ rfl _ _ _ _ _ hX
                      · have hf := sc_r hf
                        refine xr_callR (rest := []) (q := (RX11, TX11, 12)) B hX (c_X11_bound l hfl D S103 o (xi S103 500 b108 0) hcq111) (by decide) (Nat.le_of_ble_eq_true rfl) hk106 rfl (by decide) q1125 q1127 qs20 q1128 hd_X11_bound ⟨by omega, by omega⟩ rfl hl.1 rfl (Nat.le_of_ble_eq_true rfl) dX11_part_295 (fun H locs hX => ?_)
                        refine lv_istore_n (lv' := [(3, .int r114), (2, .int r105), (0, .ref o)]) hx hb dX11_part_298 rfl hl (by decide) rfl (fun ls hl => ?_)
                        obtain ⟨hr115, hf⟩ := chk_some hf
                        obtain ⟨a117, ea117, hf⟩ := bd_some hf
                        obtain ⟨S116, eS116, hf⟩ := bd_some hf
                        have hk118 := ks_new eS116 ea117
                        have hw119 := kw_new hX eS116 ea117
                        refine xr_new (q := (RX21, TX21, 3)) (N := 3) (ty0 := tyX21) B hX 16 rfl (by decide) tyX21_ok xd_16 q1186 q1187 q145 hr115 eS116 dX11_part_299 (fun H hX => ?_)
                        refine W.eq (g2 := F0 m 302 ls [.ref a117]) (by rw [ea117]; first | done | rfl) ?_
                        refine lv_dup hx hb dX11_part_302 rfl ?_
                        refine lv_iload_n hx hb dX11_part_303 rfl (lv_at hl 1 rfl) ?_
                        refine lv_iload_n hx hb dX11_part_304 rfl (lv_at hl 0 rfl) ?_
                        refine lv_aload_n hx hb dX11_part_305 rfl (lv_at hl 2 rfl) ?_
                        obtain ⟨hk120, hf⟩ := chk_some hf
                        obtain ⟨b121, hb121, hf⟩ := bnd_some hf
                        refine xr_get (q := (RX11, TX11, 12)) B hX 2 hk120 rfl (by decide) (by decide) (v := .ref b121) (x_Vr (c := 8) (j := 2) rfl (by decide) hb121) q821 (fun _ h => h) dX11_part_306 ?_
                        refine lv_iload_n hx hb dX11_part_309 rfl (lv_at hl 1 rfl) ?_
                        obtain ⟨hk123, hf⟩ := chk_some hf
                        obtain ⟨b122, hcb122, hf⟩ := bnd_some hf
                        refine xr_callVC (rest := [.int r114, .int r105, .ref a117, .ref a117]) (q := (RJ2, TJ2, 3)) B hX (c_J2_get l D S116 b121 r105 hcb122) hk123 rfl (by decide) q1153 q524 (Or.inl q525) q108 q526 hd_J2_get ⟨by omega, by omega⟩ rfl hl.1 rfl (Nat.le_of_ble_eq_true rfl) dX11_part_310 (fun H locs hX => ?_)
                        obtain ⟨hk124, hf⟩ := chk_some hf
                        refine xr_castY (q := (RX8, TX8, 2)) B hX hk124 rfl (by decide) q1154 (Or.inr ⟨rfl, by decide⟩) dX11_part_313 ?_
                        obtain ⟨r125, hcr125, hf⟩ := bnd_some hf
                        refine xr_callVC (rest := [.int r114, .int r105, .ref a117, .ref a117]) (q := (RX8, TX8, 2)) B hX (c_X8_isOfOne l D S116 b122 hcr125) hk124 rfl (by decide) q1188 q539 (Or.inl q540) q114 q541 hd_X8_isOfOne ⟨by omega, by omega⟩ rfl hl.1 rfl (Nat.le_of_ble_eq_true rfl) dX11_part_316 (fun H locs hX => ?_)
                        have j127 : ∀ (x136 : Int32) (S137 : XS), f_X11_part_J344_127 r105 r114 a117 x136 S137 = some (res, S') → ∀ (H : Heap) (locs : List Loc) (ls : Array Slot), x_I D S s H locs S137 → lv_has ls 6 [] → W p l e (x_R (rF + 2) (rL + 120) S) s m args below meth c H locs (xz S137 - xz S) (xu S137 - xu S) Q (F0 m 344 ls [.int x136, .int r114, .int r105, .ref a117, .ref a117]) := by
                          intro x136 S137 hf
                          intro H locs ls hX hl
                          unfold f_X11_part_J344_127 at hf
                          obtain ⟨S138, hcS138, hf⟩ := bnd_some hf
                          refine xr_callIC (rest := [.ref a117]) B hX (c_X21_init l D S137 a117 r105 r114 x136 hcS138) q1189 q1190 q145 q1191 hd_X21_init rfl ⟨by omega, by omega⟩ rfl hl.1 rfl (Nat.le_of_ble_eq_true rfl) dX11_part_344 (fun H locs hX => ?_)
                          cases hf
                          exact hret _ rfl _ _ _ _ hX dX11_part_347
                        refine lv_if_eq (tgt := 326) hx hb dX11_part_319 (by decide) (fun c126 => ?_) (fun c126 => ?_)
                        · have hf := it_pos c126 hf
                          refine lv_aload_n hx hb dX11_part_326 rfl (lv_at hl 2 rfl) ?_
                          refine lv_aload_n hx hb dX11_part_327 rfl (lv_at hl 2 rfl) ?_
                          obtain ⟨b128, hb128, hf⟩ := bnd_some hf
                          refine xr_get (q := (RX11, TX11, 12)) B hX 2 hk120 rfl (by decide) (by decide) (v := .ref b128) (x_Vr (c := 8) (j := 2) rfl (by decide) hb128) q821 (fun _ h => h) dX11_part_328 ?_
                          refine lv_iload_n hx hb dX11_part_331 rfl (lv_at hl 1 rfl) ?_
                          obtain ⟨hk130, hf⟩ := chk_some hf
                          obtain ⟨b129, hcb129, hf⟩ := bnd_some hf
                          refine xr_callVC (rest := [.ref o, .int r114, .int r105, .ref a117, .ref a117]) (q := (RJ2, TJ2, 3)) B hX (c_J2_get l D S116 b128 r105 hcb129) hk130 rfl (by decide) q1153 q524 (Or.inl q525) q108 q526 hd_J2_get ⟨by omega, by omega⟩ rfl hl.1 rfl (Nat.le_of_ble_eq_true rfl) dX11_part_332 (fun H locs hX => ?_)
                          obtain ⟨hk131, hf⟩ := chk_some hf
                          refine xr_castY (q := (RX8, TX8, 2)) B hX hk131 rfl (by decide) q1154 (Or.inr ⟨rfl, by decide⟩) dX11_part_335 ?_
                          refine xr_getN (q := (RX8, TX8, 2)) B hX 1 hk131 rfl (by decide) (by decide) (x_Vi rfl (by decide)) nq427 (fun _ h => h) dX11_part_338 ?_
                          obtain ⟨⟨q132, S133⟩, hcq132, hf⟩ := bnd_some hf
                          have hf := u2_at hf
                          rcases q132 with a134 | r135
                          · have hf := sc_l hf
                            refine xr_callT (rest := [.int r114, .int r105, .ref a117, .ref a117]) (q := (RX11, TX11, 12)) B hX (c_X11_bound l hfl D S116 o (xi S116 501 b129 0) hcq132) (by decide) (Nat.le_of_ble_eq_true rfl) hk120 rfl (by decide) q1125 q1127 qs20 q1128 hd_X11_bound ⟨by omega, by omega⟩ rfl hl.1 rfl (Nat.le_of_ble_eq_true rfl) dX11_part_341 (fun H locs hX => ?_)
                            cases hf
                            exact hthw _ rfl _ _ _ _ _ hX
                          · have hf := sc_r hf
                            refine xr_callR (rest := [.int r114, .int r105, .ref a117, .ref a117]) (q := (RX11, TX11, 12)) B hX (c_X11_bound l hfl D S116 o (xi S116 501 b129 0) hcq132) (by decide) (Nat.le_of_ble_eq_true rfl) hk120 rfl (by decide) q1125 q1127 qs20 q1128 hd_X11_bound ⟨by omega, by omega⟩ rfl hl.1 rfl (Nat.le_of_ble_eq_true rfl) dX11_part_341 (fun H locs hX => ?_)
                            exact j127 r135 S133 hf _ _ _ hX (lv_sub hl [] rfl)
                        · have hf := it_neg c126 hf
                          refine lv_iconst (v := (-1)) hx hb dX11_part_322 icm1 ?_
                          refine lv_goto (tgt := 344) hx hb dX11_part_323 (by decide) ?_
                          exact j127 (-1) S116 hf _ _ _ hX (lv_sub hl [] rfl)
                  · have hf := it_neg c100 hf
                    refine lv_aload_n hx hb dX11_part_248 rfl (lv_at hl 0 rfl) ?_
                    obtain ⟨hk139, hf⟩ := chk_some hf
                    refine xr_get (q := (RX11, TX11, 12)) B hX 4 hk139 rfl (by decide) (by decide) (x_Vi rfl (by decide)) q823 (fun _ h => h) dX11_part_249 ?_
                    refine lv_topi (fun x140 ex140 => ?_)
                    have hf := bd_at ex140 hf
                    refine lv_istore_n (lv' := [(2, .int x140), (0, .ref o)]) hx hb dX11_part_252 rfl hl (by decide) rfl (fun ls hl => ?_)
                    refine lv_aload_n hx hb dX11_part_253 rfl (lv_at hl 1 rfl) ?_
                    obtain ⟨⟨q141, S142⟩, hcq141, hf⟩ := bnd_some hf
                    have hf := u2_at hf
                    rcases q141 with a143 | r144
                    · have hf := sc_l hf
                      refine xr_callT (rest := []) (q := (RX11, TX11, 12)) B hX (c_X11_relation l hfl D S98 o hcq141) (by decide) (Nat.le_of_ble_eq_true rfl) hk139 rfl (by decide) q1143 q1145 qs21 q1146 hd_X11_relation ⟨by omega, by omega⟩ rfl hl.1 rfl (Nat.le_of_ble_eq_true rfl) dX11_part_254 (fun H locs hX => ?_)
                      cases hf
                      exact hthw _ rfl _ _ _ _ _ hX
                    · have hf := sc_r hf
                      refine xr_callR (rest := []) (q := (RX11, TX11, 12)) B hX (c_X11_relation l hfl D S98 o hcq141) (by decide) (Nat.le_of_ble_eq_true rfl) hk139 rfl (by decide) q1143 q1145 qs21 q1146 hd_X11_relation ⟨by omega, by omega⟩ rfl hl.1 rfl (Nat.le_of_ble_eq_true rfl) dX11_part_254 (fun H locs hX => ?_)
                      refine lv_istore_n (lv' := [(3, .int r144), (2, .int x140), (0, .ref o)]) hx hb dX11_part_257 rfl hl (by decide) rfl (fun ls hl => ?_)
                      refine lv_aload_n hx hb dX11_part_258 rfl (lv_at hl 2 rfl) ?_
                      refine lv_iload_n hx hb dX11_part_259 rfl (lv_at hl 0 rfl) ?_
                      refine lv_iload_n hx hb dX11_part_260 rfl (lv_at hl 1 rfl) ?_
                      obtain ⟨hk147, hf⟩ := chk_some hf
                      obtain ⟨⟨r145, S146⟩, hcr145, hf⟩ := bnd_some hf
                      have hf := u2_at hf
                      refine xr_callVC (rest := []) (q := (RX11, TX11, 12)) B hX (c_X11_leads l hfl D S142 o r144 x140 hcr145) hk147 rfl (by decide) q1149 q1151 (Or.inl qs22) q125 q1152 hd_X11_leads ⟨by omega, by omega⟩ rfl hl.1 rfl (Nat.le_of_ble_eq_true rfl) dX11_part_261 (fun H locs hX => ?_)
                      refine lv_istore (lv' := [(4, .int r145), (3, .int r144), (2, .int x140), (0, .ref o)]) hx hb dX11_part_264 hl (by decide) rfl (fun ls hl => ?_)
                      obtain ⟨hr148, hf⟩ := chk_some hf
                      obtain ⟨a150, ea150, hf⟩ := bd_some hf
                      obtain ⟨S149, eS149, hf⟩ := bd_some hf
                      have hk151 := ks_new eS149 ea150
                      have hw152 := kw_new hX eS149 ea150
                      refine xr_new (q := (RX20, TX20, 1)) (N := 1) (ty0 := tyX20) B hX 15 rfl (by decide) tyX20_ok xd_15 q1176 q1177 q144 hr148 eS149 dX11_part_266 (fun H hX => ?_)
                      refine W.eq (g2 := F0 m 269 ls [.ref a150]) (by rw [ea150]; first | done | rfl) ?_
                      refine lv_dup hx hb dX11_part_269 rfl ?_
                      refine lv_iload_n hx hb dX11_part_270 rfl (lv_at hl 1 rfl) ?_
                      obtain ⟨S153, hcS153, hf⟩ := bnd_some hf
                      refine xr_callIC (rest := [.ref a150]) B hX (c_X20_init l D S149 a150 r144 hcS153) q1178 q1179 q144 q1180 hd_X20_init rfl ⟨by omega, by omega⟩ rfl hl.1 rfl (Nat.le_of_ble_eq_true rfl) dX11_part_271 (fun H locs hX => ?_)
                      cases hf
                      exact hret _ rfl _ _ _ _ hX dX11_part_274
                · have hf := it_neg c95 hf
                  refine lv_aload_n hx hb dX11_part_196 rfl (lv_at hl 0 rfl) ?_
                  obtain ⟨hk154, hf⟩ := chk_some hf
                  refine xr_get (q := (RX11, TX11, 12)) B hX 4 hk154 rfl (by decide) (by decide) (x_Vi rfl (by decide)) q823 (fun _ h => h) dX11_part_197 ?_
                  refine lv_topi (fun x155 ex155 => ?_)
                  have hf := bd_at ex155 hf
                  refine lv_istore_n (lv' := [(2, .int x155), (0, .ref o)]) hx hb dX11_part_200 rfl hl (by decide) rfl (fun ls hl => ?_)
                  refine lv_aload_n hx hb dX11_part_201 rfl (lv_at hl 1 rfl) ?_
                  obtain ⟨⟨q156, S157⟩, hcq156, hf⟩ := bnd_some hf
                  have hf := u2_at hf
                  rcases q156 with a158 | r159
                  · have hf := sc_l hf
                    refine xr_callT (rest := []) (q := (RX11, TX11, 12)) B hX (c_X11_relation l hfl D S93 o hcq156) (by decide) (Nat.le_of_ble_eq_true rfl) hk154 rfl (by decide) q1143 q1145 qs21 q1146 hd_X11_relation ⟨by omega, by omega⟩ rfl hl.1 rfl (Nat.le_of_ble_eq_true rfl) dX11_part_202 (fun H locs hX => ?_)
                    cases hf
                    exact hthw _ rfl _ _ _ _ _ hX
                  · have hf := sc_r hf
                    refine xr_callR (rest := []) (q := (RX11, TX11, 12)) B hX (c_X11_relation l hfl D S93 o hcq156) (by decide) (Nat.le_of_ble_eq_true rfl) hk154 rfl (by decide) q1143 q1145 qs21 q1146 hd_X11_relation ⟨by omega, by omega⟩ rfl hl.1 rfl (Nat.le_of_ble_eq_true rfl) dX11_part_202 (fun H locs hX => ?_)
                    refine lv_istore_n (lv' := [(3, .int r159), (2, .int x155), (0, .ref o)]) hx hb dX11_part_205 rfl hl (by decide) rfl (fun ls hl => ?_)
                    refine lv_aload_n hx hb dX11_part_206 rfl (lv_at hl 2 rfl) ?_
                    refine lv_iload_n hx hb dX11_part_207 rfl (lv_at hl 0 rfl) ?_
                    refine lv_iload_n hx hb dX11_part_208 rfl (lv_at hl 1 rfl) ?_
                    obtain ⟨hk162, hf⟩ := chk_some hf
                    obtain ⟨⟨r160, S161⟩, hcr160, hf⟩ := bnd_some hf
                    have hf := u2_at hf
                    refine xr_callVC (rest := []) (q := (RX11, TX11, 12)) B hX (c_X11_leads l hfl D S157 o r159 x155 hcr160) hk162 rfl (by decide) q1149 q1151 (Or.inl qs22) q125 q1152 hd_X11_leads ⟨by omega, by omega⟩ rfl hl.1 rfl (Nat.le_of_ble_eq_true rfl) dX11_part_209 (fun H locs hX => ?_)
                    refine lv_istore (lv' := [(4, .int r160), (3, .int r159), (2, .int x155), (0, .ref o)]) hx hb dX11_part_212 hl (by decide) rfl (fun ls hl => ?_)
                    refine lv_aload_n hx hb dX11_part_214 rfl (lv_at hl 3 rfl) ?_
                    refine lv_iload hx hb dX11_part_215 (lv_at hl 0 rfl) ?_
                    obtain ⟨hk163, hf⟩ := chk_some hf
                    obtain ⟨⟨q164, S165⟩, hcq164, hf⟩ := bnd_some hf
                    have hf := u2_at hf
                    rcases q164 with a166 | r167
                    · have hf := sc_l hf
                      refine xr_callT (rest := []) (q := (RX11, TX11, 12)) B hX (c_X11_bound l hfl D S161 o r160 hcq164) (by decide) (Nat.le_of_ble_eq_true rfl) hk163 rfl (by decide) q1125 q1127 qs20 q1128 hd_X11_bound ⟨by omega, by omega⟩ rfl hl.1 rfl (Nat.le_of_ble_eq_true rfl) dX11_part_217 (fun H locs hX => ?_)
                      cases hf
                      exact hthw _ rfl _ _ _ _ _ hX
                    · have hf := sc_r hf
                      refine xr_callR (rest := []) (q := (RX11, TX11, 12)) B hX (c_X11_bound l hfl D S161 o r160 hcq164) (by decide) (Nat.le_of_ble_eq_true rfl) hk163 rfl (by decide) q1125 q1127 qs20 q1128 hd_X11_bound ⟨by omega, by omega⟩ rfl hl.1 rfl (Nat.le_of_ble_eq_true rfl) dX11_part_217 (fun H locs hX => ?_)
                      refine lv_istore (lv' := [(5, .int r167), (4, .int r160), (3, .int r159), (2, .int x155), (0, .ref o)]) hx hb dX11_part_220 hl (by decide) rfl (fun ls hl => ?_)
                      obtain ⟨hr168, hf⟩ := chk_some hf
                      obtain ⟨a170, ea170, hf⟩ := bd_some hf
                      obtain ⟨S169, eS169, hf⟩ := bd_some hf
                      have hk171 := ks_new eS169 ea170
                      have hw172 := kw_new hX eS169 ea170
                      refine xr_new (q := (RX19, TX19, 3)) (N := 3) (ty0 := tyX19) B hX 14 rfl (by decide) tyX19_ok xd_14 q1159 q1160 q143 hr168 eS169 dX11_part_222 (fun H hX => ?_)
                      refine W.eq (g2 := F0 m 225 ls [.ref a170]) (by rw [ea170]; first | done | rfl) ?_
                      refine lv_dup hx hb dX11_part_225 rfl ?_
                      refine lv_iload_n hx hb dX11_part_226 rfl (lv_at hl 2 rfl) ?_
                      refine lv_iload hx hb dX11_part_227 (lv_at hl 0 rfl) ?_
                      refine lv_aload_n hx hb dX11_part_229 rfl (lv_at hl 4 rfl) ?_
                      refine lv_iload hx hb dX11_part_230 (lv_at hl 1 rfl) ?_
                      obtain ⟨hk173, hf⟩ := chk_some hf
                      obtain ⟨⟨q174, S175⟩, hcq174, hf⟩ := bnd_some hf
                      have hf := u2_at hf
                      rcases q174 with a176 | r177
                      · have hf := sc_l hf
                        refine xr_callT (rest := [.int r167, .int r159, .ref a170, .ref a170]) (q := (RX11, TX11, 12)) B hX (c_X11_bound l hfl D S169 o r160 hcq174) (by decide) (Nat.le_of_ble_eq_true rfl) hk173 rfl (by decide) q1125 q1127 qs20 q1128 hd_X11_bound ⟨by omega, by omega⟩ rfl hl.1 rfl (Nat.le_of_ble_eq_true rfl) dX11_part_232 (fun H locs hX => ?_)
                        cases hf
                        exact hthw _ rfl _ _ _ _ _ hX
                      · have hf := sc_r hf
                        refine xr_callR (rest := [.int r167, .int r159, .ref a170, .ref a170]) (q := (RX11, TX11, 12)) B hX (c_X11_bound l hfl D S169 o r160 hcq174) (by decide) (Nat.le_of_ble_eq_true rfl) hk173 rfl (by decide) q1125 q1127 qs20 q1128 hd_X11_bound ⟨by omega, by omega⟩ rfl hl.1 rfl (Nat.le_of_ble_eq_true rfl) dX11_part_232 (fun H locs hX => ?_)
                        obtain ⟨S178, hcS178, hf⟩ := bnd_some hf
                        refine xr_callIC (rest := [.ref a170]) B hX (c_X19_init l D S175 a170 r159 r167 r177 hcS178) q1161 q1162 q143 q1163 hd_X19_init rfl ⟨by omega, by omega⟩ rfl hl.1 rfl (Nat.le_of_ble_eq_true rfl) dX11_part_235 (fun H locs hX => ?_)
                        cases hf
                        exact hret _ rfl _ _ _ _ hX dX11_part_238
              · have hf := it_neg c90 hf
                refine lv_aload_n hx hb dX11_part_162 rfl (lv_at hl 0 rfl) ?_
                refine lv_iconst (v := (-1)) hx hb dX11_part_163 icm1 ?_
                obtain ⟨hk179, hf⟩ := chk_some hf
                obtain ⟨⟨q180, S181⟩, hcq180, hf⟩ := bnd_some hf
                have hf := u2_at hf
                rcases q180 with a182 | r183
                · have hf := sc_l hf
                  refine xr_callT (rest := []) (q := (RX11, TX11, 12)) B hX (c_X11_bound l hfl D S88 o (-1) hcq180) (by decide) (Nat.le_of_ble_eq_true rfl) hk179 rfl (by decide) q1125 q1127 qs20 q1128 hd_X11_bound ⟨by omega, by omega⟩ rfl hl.1 rfl (Nat.le_of_ble_eq_true rfl) dX11_part_164 (fun H locs hX => ?_)
                  cases hf
                  exact hthw _ rfl _ _ _ _ _ hX
                · have hf := sc_r hf
                  refine xr_callR (rest := []) (q := (RX11, TX11, 12)) B hX (c_X11_bound l hfl D S88 o (-1) hcq180) (by decide) (Nat.le_of_ble_eq_true rfl) hk179 rfl (by decide) q1125 q1127 qs20 q1128 hd_X11_bound ⟨by omega, by omega⟩ rfl hl.1 rfl (Nat.le_of_ble_eq_true rfl) dX11_part_164 (fun H locs hX => ?_)
                  refine lv_istore_n (lv' := [(2, .int r183), (0, .ref o)]) hx hb dX11_part_167 rfl hl (by decide) rfl (fun ls hl => ?_)
                  obtain ⟨hr184, hf⟩ := chk_some hf
                  obtain ⟨a186, ea186, hf⟩ := bd_some hf
                  obtain ⟨S185, eS185, hf⟩ := bd_some hf
                  have hk187 := ks_new eS185 ea186
                  have hw188 := kw_new hX eS185 ea186
                  refine xr_new (q := (RX18, TX18, 2)) (N := 2) (ty0 := tyX18) B hX 13 rfl (by decide) tyX18_ok xd_13 q1129 q1130 q142 hr184 eS185 dX11_part_168 (fun H hX => ?_)
                  refine W.eq (g2 := F0 m 171 ls [.ref a186]) (by rw [ea186]; first | done | rfl) ?_
                  refine lv_dup hx hb dX11_part_171 rfl ?_
                  refine lv_iload_n hx hb dX11_part_172 rfl (lv_at hl 0 rfl) ?_
                  refine lv_aload_n hx hb dX11_part_173 rfl (lv_at hl 1 rfl) ?_
                  refine lv_aload_n hx hb dX11_part_174 rfl (lv_at hl 1 rfl) ?_
                  obtain ⟨hk189, hf⟩ := chk_some hf
                  obtain ⟨b190, hb190, hf⟩ := bnd_some hf
                  refine xr_get (q := (RX11, TX11, 12)) B hX 10 hk189 rfl (by decide) (by decide) (v := .ref b190) (x_Vr (c := 8) (j := 10) rfl (by decide) hb190) q830 (fun _ h => h) dX11_part_175 ?_
                  refine lv_iload_n hx hb dX11_part_178 rfl (lv_at hl 0 rfl) ?_
                  obtain ⟨hk191, hf⟩ := chk_some hf
                  obtain ⟨v192, ev192, hiv192, hf⟩ := ald_some hf
                  refine xr_iald B hX hk191 hiv192 ev192 dX11_part_179 ?_
                  obtain ⟨⟨q193, S194⟩, hcq193, hf⟩ := bnd_some hf
                  have hf := u2_at hf
                  rcases q193 with a195 | r196
                  · have hf := sc_l hf
                    refine xr_callT (rest := [.int r183, .ref a186, .ref a186]) (q := (RX11, TX11, 12)) B hX (c_X11_bound l hfl D S185 o v192 hcq193) (by decide) (Nat.le_of_ble_eq_true rfl) hk189 rfl (by decide) q1125 q1127 qs20 q1128 hd_X11_bound ⟨by omega, by omega⟩ rfl hl.1 rfl (Nat.le_of_ble_eq_true rfl) dX11_part_180 (fun H locs hX => ?_)
                    cases hf
                    exact hthw _ rfl _ _ _ _ _ hX
                  · have hf := sc_r hf
                    refine xr_callR (rest := [.int r183, .ref a186, .ref a186]) (q := (RX11, TX11, 12)) B hX (c_X11_bound l hfl D S185 o v192 hcq193) (by decide) (Nat.le_of_ble_eq_true rfl) hk189 rfl (by decide) q1125 q1127 qs20 q1128 hd_X11_bound ⟨by omega, by omega⟩ rfl hl.1 rfl (Nat.le_of_ble_eq_true rfl) dX11_part_180 (fun H locs hX => ?_)
                    obtain ⟨S197, hcS197, hf⟩ := bnd_some hf
                    refine xr_callIC (rest := [.ref a186]) B hX (c_X18_init l D S194 a186 r183 r196 hcS197) q1131 q1132 q142 q1133 hd_X18_init rfl ⟨by omega, by omega⟩ rfl hl.1 rfl (Nat.le_of_ble_eq_true rfl) dX11_part_183 (fun H locs hX => ?_)
                    cases hf
                    exact hret _ rfl _ _ _ _ hX dX11_part_186
            · have hf := it_neg c85 hf
              obtain ⟨hr198, hf⟩ := chk_some hf
              obtain ⟨a200, ea200, hf⟩ := bd_some hf
              obtain ⟨S199, eS199, hf⟩ := bd_some hf
              have hk201 := ks_new eS199 ea200
              have hw202 := kw_new hX eS199 ea200
              refine xr_new (q := (RX17, TX17, 1)) (N := 1) (ty0 := tyX17) B hX 12 rfl (by decide) tyX17_ok xd_12 q1114 q1115 q141 hr198 eS199 dX11_part_141 (fun H hX => ?_)
              refine W.eq (g2 := F0 m 144 ls [.ref a200]) (by rw [ea200]; first | done | rfl) ?_
              refine lv_dup hx hb dX11_part_144 rfl ?_
              refine lv_aload_n hx hb dX11_part_145 rfl (lv_at hl 0 rfl) ?_
              obtain ⟨hk203, hf⟩ := chk_some hf
              obtain ⟨⟨q204, S205⟩, hcq204, hf⟩ := bnd_some hf
              have hf := u2_at hf
              rcases q204 with a206 | b207
              · have hf := sc_l hf
                refine xr_callT (rest := [.ref a200, .ref a200]) (q := (RX11, TX11, 12)) B hX (hrec _ _ _ _ hcq204) (by decide) (Nat.le_of_ble_eq_true rfl) hk203 rfl (by decide) q861 q863 qs10 q864 hd_X11_part ⟨by omega, by omega⟩ rfl hl.1 rfl (Nat.le_of_ble_eq_true rfl) dX11_part_146 (fun H locs hX => ?_)
                cases hf
                exact hthw _ rfl _ _ _ _ _ hX
              · have hf := sc_r hf
                refine xr_callR (rest := [.ref a200, .ref a200]) (q := (RX11, TX11, 12)) B hX (hrec _ _ _ _ hcq204) (by decide) (Nat.le_of_ble_eq_true rfl) hk203 rfl (by decide) q861 q863 qs10 q864 hd_X11_part ⟨by omega, by omega⟩ rfl hl.1 rfl (Nat.le_of_ble_eq_true rfl) dX11_part_146 (fun H locs hX => ?_)
                obtain ⟨S208, hcS208, hf⟩ := bnd_some hf
                refine xr_callIC (rest := [.ref a200]) B hX (c_X17_init l D S205 a200 b207 hcS208) q1116 q1117 q141 q1118 hd_X17_init rfl ⟨by omega, by omega⟩ rfl hl.1 rfl (Nat.le_of_ble_eq_true rfl) dX11_part_149 (fun H locs hX => ?_)
                cases hf
                exact hret _ rfl _ _ _ _ hX dX11_part_152
        refine lp_W (step := (fun t : Int32 × XS => f_X11_part_L77 o t.1 t.2)) (fun t : Int32 × XS => ∀ (H : Heap) (locs : List Loc) (ls : Array Slot), x_I D S s H locs t.2 → lv_has ls 6 [(0, .ref o), (2, .int t.1)] → W p l e (x_R (rF + 2) (rL + 120) S) s m args below meth c H locs (xz t.2 - xz S) (xu t.2 - xu S) Q (F0 m 77 ls [])) (Sum.elim (fun t : Int32 × XS => ∀ (H : Heap) (locs : List Loc) (ls : Array Slot), x_I D S s H locs t.2 → lv_has ls 6 [(0, .ref o), (2, .int t.1)] → W p l e (x_R (rF + 2) (rL + 120) S) s m args below meth c H locs (xz t.2 - xz S) (xu t.2 - xu S) Q (F0 m 103 ls [])) (fun t : XS => ∀ (H : Heap) (locs : List Loc) (ls : Array Slot), x_I D S s H locs t → lv_has ls 6 [(0, .ref o)] → W p l e (x_R (rF + 2) (rL + 120) S) s m args below meth c H locs (xz t - xz S) (xu t - xu S) Q (F0 m 132 ls []))) ?_ fu (nI 0, S39) y57 hxy57 hy57 _ _ _ hX (lv_sub hl [1, 0] rfl)
        clear hf hxy57 hy57
        rintro ⟨x40, S41⟩ oo (hf : f_X11_part_L77 o x40 S41 = some oo) hk
        intro H locs ls hX hl
        unfold f_X11_part_L77 at hf
        refine lv_iload_n hx hb dX11_part_77 rfl (lv_at hl 1 rfl) ?_
        obtain ⟨b42, hb42, hf⟩ := bnd_some hf
        refine xr_getsN B hX (v := .ref b42) (x_statR hX 4 rfl hb42) nq1095 dX11_part_78 ?_
        obtain ⟨hk43, hf⟩ := chk_some hf
        refine xr_alen B hX hk43 rfl (by decide) dX11_part_81 ?_
        refine lv_icmp_ge (tgt := 132) hx hb dX11_part_82 (by decide) (fun c44 => ?_) (fun c44 => ?_)
        · have hf := it_pos c44 hf
          cases hf
          exact hk _ _ _ hX (lv_sub hl [0] rfl)
        · have hf := it_neg c44 hf
          refine lv_aload_n hx hb dX11_part_85 rfl (lv_at hl 0 rfl) ?_
          obtain ⟨b45, hb45, hf⟩ := bnd_some hf
          refine xr_getsN B hX (v := .ref b45) (x_statR hX 4 rfl hb45) nq1095 dX11_part_86 ?_
          refine lv_iload_n hx hb dX11_part_89 rfl (lv_at hl 1 rfl) ?_
          obtain ⟨hk46, hf⟩ := chk_some hf
          obtain ⟨q47, eq47, hiq47, hf⟩ := ald_some hf
          obtain ⟨b48, hb48, hf⟩ := bnd_some hf
          rw [hb48] at eq47
          refine xr_aald B hX hk46 rfl (by decide) rfl hiq47 eq47 dX11_part_90 ?_
          refine W.eq (g2 := F0 m 91 ls [.ref b48, .ref o]) rfl ?_
          obtain ⟨hk49, hf⟩ := chk_some hf
          obtain ⟨b50, hb50, hf⟩ := bnd_some hf
          refine xr_getJ B hX hk49 hb50 nq2312 rfl dX11_part_91 ?_
          obtain ⟨hk53, hf⟩ := chk_some hf
          obtain ⟨⟨r51, S52⟩, hcr51, hf⟩ := bnd_some hf
          have hf := u2_at hf
          refine xr_callVC (rest := []) (q := (RX11, TX11, 12)) B hX (c_X11_takes l D S41 o b50 hcr51) hk53 rfl (by decide) q937 q939 (Or.inl qs13) q125 q940 hd_X11_takes ⟨by omega, by omega⟩ rfl hl.1 rfl (Nat.le_of_ble_eq_true rfl) dX11_part_94 (fun H locs hX => ?_)
          refine lv_if_ne (tgt := 103) hx hb dX11_part_97 (by decide) (fun c54 => ?_) (fun c54 => ?_)
          · have hf := it_neg c54 hf
            cases hf
            exact hk _ _ _ hX (lv_sub hl [0, 1] rfl)
          · have hf := it_pos c54 hf
            refine lv_goto (tgt := 126) hx hb dX11_part_100 (by decide) ?_
            obtain ⟨x55, ex55, hf⟩ := bd_some hf
            refine lv_iinc (v := x55) (lv' := [(2, .int x55), (0, .ref o)]) hx hb dX11_part_126 hl (k := 1) rfl (by rw [ex55]; first | done | rfl) (by decide) rfl (fun ls hl => ?_)
            refine lv_goto (tgt := 77) hx hb dX11_part_129 (by decide) ?_
            cases hf
            exact hk _ _ _ hX (lv_sub hl [1, 0] rfl)
    refine lp_W (step := (fun t : Int32 × XS => f_X11_part_L35 o t.1 t.2)) (fun t : Int32 × XS => ∀ (H : Heap) (locs : List Loc) (ls : Array Slot), x_I D S s H locs t.2 → lv_has ls 6 [(0, .ref o), (1, .int x9), (2, .int t.1)] → W p l e (x_R (rF + 2) (rL + 120) S) s m args below meth c H locs (xz t.2 - xz S) (xu t.2 - xu S) Q (F0 m 35 ls [])) (Sum.elim (fun t : Int32 × XS => ∀ (H : Heap) (locs : List Loc) (ls : Array Slot), x_I D S s H locs t.2 → lv_has ls 6 [(0, .ref o), (1, .int x9), (2, .int t.1)] → W p l e (x_R (rF + 2) (rL + 120) S) s m args below meth c H locs (xz t.2 - xz S) (xu t.2 - xu S) Q (F0 m 58 ls [])) (fun t : XS => ∀ (H : Heap) (locs : List Loc) (ls : Array Slot), x_I D S s H locs t → lv_has ls 6 [(0, .ref o)] → W p l e (x_R (rF + 2) (rL + 120) S) s m args below meth c H locs (xz t - xz S) (xu t - xu S) Q (F0 m 75 ls []))) ?_ fu (nI 0, S7) y27 hxy27 hy27 _ _ _ hX (lv_sub hl [2, 1, 0] rfl)
    clear hf hxy27 hy27
    rintro ⟨x10, S11⟩ oo (hf : f_X11_part_L35 o x10 S11 = some oo) hk
    intro H locs ls hX hl
    unfold f_X11_part_L35 at hf
    refine lv_iload_n hx hb dX11_part_35 rfl (lv_at hl 2 rfl) ?_
    obtain ⟨b12, hb12, hf⟩ := bnd_some hf
    refine xr_getsN B hX (v := .ref b12) (x_statR hX 2 rfl hb12) nq935 dX11_part_36 ?_
    obtain ⟨hk13, hf⟩ := chk_some hf
    refine xr_alen B hX hk13 rfl (by decide) dX11_part_39 ?_
    refine lv_icmp_ge (tgt := 75) hx hb dX11_part_40 (by decide) (fun c14 => ?_) (fun c14 => ?_)
    · have hf := it_pos c14 hf
      cases hf
      exact hk _ _ _ hX (lv_sub hl [0] rfl)
    · have hf := it_neg c14 hf
      refine lv_aload_n hx hb dX11_part_43 rfl (lv_at hl 0 rfl) ?_
      obtain ⟨b15, hb15, hf⟩ := bnd_some hf
      refine xr_getsN B hX (v := .ref b15) (x_statR hX 2 rfl hb15) nq935 dX11_part_44 ?_
      refine lv_iload_n hx hb dX11_part_47 rfl (lv_at hl 2 rfl) ?_
      obtain ⟨hk16, hf⟩ := chk_some hf
      obtain ⟨q17, eq17, hiq17, hf⟩ := ald_some hf
      obtain ⟨b18, hb18, hf⟩ := bnd_some hf
      rw [hb18] at eq17
      refine xr_aald B hX hk16 rfl (by decide) rfl hiq17 eq17 dX11_part_48 ?_
      refine W.eq (g2 := F0 m 49 ls [.ref b18, .ref o]) rfl ?_
      obtain ⟨hk19, hf⟩ := chk_some hf
      obtain ⟨b20, hb20, hf⟩ := bnd_some hf
      refine xr_getO B hX hk19 hb20 nq2311 rfl dX11_part_49 ?_
      obtain ⟨hk23, hf⟩ := chk_some hf
      obtain ⟨⟨r21, S22⟩, hcr21, hf⟩ := bnd_some hf
      have hf := u2_at hf
      refine xr_callVC (rest := []) (q := (RX11, TX11, 12)) B hX (c_X11_takes l D S11 o b20 hcr21) hk23 rfl (by decide) q937 q939 (Or.inl qs13) q125 q940 hd_X11_takes ⟨by omega, by omega⟩ rfl hl.1 rfl (Nat.le_of_ble_eq_true rfl) dX11_part_52 (fun H locs hX => ?_)
      refine lv_if_eq (tgt := 69) hx hb dX11_part_55 (by decide) (fun c24 => ?_) (fun c24 => ?_)
      · have hf := it_pos c24 hf
        obtain ⟨x25, ex25, hf⟩ := bd_some hf
        refine lv_iinc (v := x25) (lv' := [(2, .int x25), (0, .ref o), (1, .int x9)]) hx hb dX11_part_69 hl (k := 2) rfl (by rw [ex25]; first | done | rfl) (by decide) rfl (fun ls hl => ?_)
        refine lv_goto (tgt := 35) hx hb dX11_part_72 (by decide) ?_
        cases hf
        exact hk _ _ _ hX (lv_sub hl [1, 2, 0] rfl)
      · have hf := it_neg c24 hf
        cases hf
        exact hk _ _ _ hX (lv_sub hl [0, 1, 2] rfl)
  refine lv_icmp_ne (tgt := 28) hx hb dX11_part_16 (by decide) (fun c4 => ?_) (fun c4 => ?_)
  · have hf := it_neg c4 hf
    exact j5 S3 hf _ _ _ hX (lv_sub hl [0] rfl)
  · have hf := it_pos c4 hf
    refine lv_aload_n hx hb dX11_part_19 rfl (lv_at hl 0 rfl) ?_
    refine lv_iconst (v := nI 4) hx hb dX11_part_20 ic4 ?_
    refine lv_aload_n hx hb dX11_part_21 rfl (lv_at hl 0 rfl) ?_
    refine xr_get (q := (RX11, TX11, 12)) B hX 4 hk1 rfl (by decide) (by decide) (x_Vi rfl (by decide)) q823 (fun _ h => h) dX11_part_22 ?_
    obtain ⟨S6, hcS6, hf⟩ := bnd_some hf
    refine xr_callVC (rest := []) (q := (RX11, TX11, 12)) B hX (c_X11_also l hfl D S3 o (nI 4) (xi S3 804 o 0) hcS6) hk1 rfl (by decide) q865 q867 (Or.inl qs11) q125 q868 hd_X11_also ⟨by omega, by omega⟩ rfl hl.1 rfl (Nat.le_of_ble_eq_true rfl) dX11_part_25 (fun H locs hX => ?_)
    exact j5 S6 hf _ _ _ hX (lv_sub hl [0] rfl)
def g_part : Nat → XS → Nat → Option ((Nat ⊕ Nat) × XS)
  | 0 => fun _ _ => none
  | n + 1 => fun S o => f_X11_part (g_part n) S o
theorem k_part (l : Launch) (hfl : l.flags = flags0) (D : XD) : ∀ n, x_R_part l D (20 + 2 * n) (400 + 120 * n) (g_part n)
  | 0 => fun S o res S' hf => by cases hf
  | n + 1 => fun S o res S' hf => by
    rw [g_part] at hf
    exact c_X11_part l hfl D ⟨by omega, by omega⟩ (k_part l hfl D n) S o hf
def f_X11_whole (S : XS) (o : Nat) : Option ((Nat ⊕ Nat) × XS) :=
  chk (xk S o = 8) <| bnd (g_part 202 S o) <| u2 fun q2 S3 => (sc q2 (fun a4 => some (.inl a4, S3)) fun b5 => chk (xk S3 o = 8) <| bnd (xr S3 808 o 0) fun b7 => bnd (xs S3 10) fun b8 => (if (some b7 : Option Nat) = some b8 then (oc (xr S3 811 o 0) (some (.inr b5, S3)) fun b10 => bnd (xr S3 811 o 0) fun b12 => some (.inl b12, S3)) else bnd (f_X11_wrong S3 o) <| u2 fun b13 S14 => some (.inl b13, S14)))
set_option maxHeartbeats 4000000 in
set_option maxRecDepth 100000 in
theorem c_X11_whole (l : Launch) (hfl : l.flags = flags0) (D : XD) (S : XS) (o : Nat) {res : Nat ⊕ Nat} {S' : XS} (hf : f_X11_whole S o = some (res, S')) : x_Bod l yX11_whole cX11_whole 2 (Option.some (Jvm.ClassFile.FieldType.object "VillageStories$Part")) [] 425 24665 D [.ref o] S (x_ra res) S' := by
  refine x_bodXA RX11 rfl (Or.inl ⟨_, rfl⟩) (fun p e s m args below meth c Q B hnm hret hthr hthw H locs hX ls hl => ?_)
  have hx := B.1
  have hb := B.2.1
  have hml := B.2.2.1
  have hown := B.2.2.2.1
  have hts := B.2.2.2.2
  have hl : lv_has ls 2 [(0, .ref o)] := hl
  unfold f_X11_whole at hf
  refine lv_aload_n hx hb dX11_whole_0 rfl (lv_at hl 0 rfl) ?_
  obtain ⟨hk1, hf⟩ := chk_some hf
  obtain ⟨⟨q2, S3⟩, hcq2, hf⟩ := bnd_some hf
  have hf := u2_at hf
  rcases q2 with a4 | b5
  · have hf := sc_l hf
    refine xr_callT (rest := []) (q := (RX11, TX11, 12)) B hX (k_part l hfl D 202 _ _ _ _ hcq2) (by decide) (Nat.le_of_ble_eq_true rfl) hk1 rfl (by decide) q861 q863 qs10 q864 hd_X11_part ⟨Nat.le_of_ble_eq_true rfl, Nat.le_of_ble_eq_true rfl⟩ rfl hl.1 rfl (Nat.le_of_ble_eq_true rfl) dX11_whole_1 (fun H locs hX => ?_)
    cases hf
    exact hthw _ rfl _ _ _ _ _ hX
  · have hf := sc_r hf
    refine xr_callR (rest := []) (q := (RX11, TX11, 12)) B hX (k_part l hfl D 202 _ _ _ _ hcq2) (by decide) (Nat.le_of_ble_eq_true rfl) hk1 rfl (by decide) q861 q863 qs10 q864 hd_X11_part ⟨Nat.le_of_ble_eq_true rfl, Nat.le_of_ble_eq_true rfl⟩ rfl hl.1 rfl (Nat.le_of_ble_eq_true rfl) dX11_whole_1 (fun H locs hX => ?_)
    refine lv_astore_n (lv' := [(1, .ref b5), (0, .ref o)]) hx hb dX11_whole_4 rfl hl (by decide) rfl (fun ls hl => ?_)
    refine lv_aload_n hx hb dX11_whole_5 rfl (lv_at hl 1 rfl) ?_
    obtain ⟨hk6, hf⟩ := chk_some hf
    obtain ⟨b7, hb7, hf⟩ := bnd_some hf
    refine xr_get (q := (RX11, TX11, 12)) B hX 8 hk6 rfl (by decide) (by decide) (v := .ref b7) (x_Vr (c := 8) (j := 8) rfl (by decide) hb7) q828 (fun _ h => h) dX11_whole_6 ?_
    obtain ⟨b8, hb8, hf⟩ := bnd_some hf
    refine xr_gets B hX (v := .ref b8) (x_statR hX 10 rfl hb8) q635 dX11_whole_9 ?_
    refine lv_acmp_eq (rx := some b7) (ry := some b8) (tgt := 20) hx hb dX11_whole_12 (by decide) (fun c9 => ?_) (fun c9 => ?_)
    · have hf := it_pos c9 hf
      refine lv_aload_n hx hb dX11_whole_20 rfl (lv_at hl 1 rfl) ?_
      rcases ho11 : xr S3 811 o 0 with _ | b10
      · have hf := oc_none ho11 hf
        refine xr_get (q := (RX11, TX11, 12)) B hX 11 hk6 rfl (by decide) (by decide) (v := .null) (x_Vr (c := 8) (j := 11) rfl (by decide) ho11) q831 (fun _ h => h) dX11_whole_21 ?_
        refine lv_ifnullN (tgt := 32) hx hb dX11_whole_24 (by decide) ?_
        refine lv_aload_n hx hb dX11_whole_32 rfl (lv_at hl 0 rfl) ?_
        cases hf
        exact hret _ rfl _ _ _ _ hX dX11_whole_33
      · have hf := oc_some ho11 hf
        refine xr_get (q := (RX11, TX11, 12)) B hX 11 hk6 rfl (by decide) (by decide) (v := .ref b10) (x_Vr (c := 8) (j := 11) rfl (by decide) ho11) q831 (fun _ h => h) dX11_whole_21 ?_
        refine lv_ifnull hx hb dX11_whole_24 ?_
        refine lv_aload_n hx hb dX11_whole_27 rfl (lv_at hl 1 rfl) ?_
        obtain ⟨b12, hb12, hf⟩ := bnd_some hf
        refine xr_get (q := (RX11, TX11, 12)) B hX 11 hk6 rfl (by decide) (by decide) (v := .ref b12) (x_Vr (c := 8) (j := 11) rfl (by decide) hb12) q831 (fun _ h => h) dX11_whole_28 ?_
        cases hf
        exact hthr _ rfl _ _ _ _ _ hX dX11_whole_31
    · have hf := it_neg c9 hf
      refine lv_aload_n hx hb dX11_whole_15 rfl (lv_at hl 1 rfl) ?_
      obtain ⟨⟨b13, S14⟩, hcb13, hf⟩ := bnd_some hf
      have hf := u2_at hf
      refine xr_callVC (rest := []) (q := (RX11, TX11, 12)) B hX (c_X11_wrong l hfl D S3 o hcb13) hk6 rfl (by decide) q969 q971 (Or.inl qs16) q125 q972 hd_X11_wrong ⟨Nat.le_of_ble_eq_true rfl, Nat.le_of_ble_eq_true rfl⟩ rfl hl.1 rfl (Nat.le_of_ble_eq_true rfl) dX11_whole_16 (fun H locs hX => ?_)
      cases hf
      exact hthr _ rfl _ _ _ _ _ hX dX11_whole_19
