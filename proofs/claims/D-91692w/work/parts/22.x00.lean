set_option maxRecDepth 100000
def yn_oftenIs : MethodName := ⟨"VillageStories$Often", "is", "(III)Z"⟩
theorem hdn_oftenIs : "VillageStories$Often" ≠ "java/lang/invoke/MethodHandle" ∧ "VillageStories$Often" ≠ "java/lang/invoke/VarHandle" ∧ (parseMethodDescriptor yn_oftenIs.desc).map (fun d => d.parameters.length) = some 3 := by decide +kernel
def d_oftenIs (S : XS) (o : Nat) (a b c : Int32) : Option Int32 :=
  if xk S o = 23 then f_X25_is S o a b c else if xk S o = 24 then f_X26_is S o a b c else if xk S o = 25 then f_X27_is S o a b c else if xk S o = 26 then f_X28_is S o a b c else none
theorem xr_oftenIs {p : Program} {l : Launch} {e : Env} {s : State} {m : MethodId} {args : Array Value} {below : List Frame} {meth : Method} {c : Code} {H : Heap} {locs : List Loc} {Q : State → Prop} {cc : ByteArray} {pc nL F Lo index : Nat} {ls : Array Slot} {rest st : List Value} {D : XD} {S0 S : XS} {own : String} (B : CallFix p m c cc nL s args lw_all own) (hX : x_I D S0 s H locs S) {o : Nat} {a b c3 r : Int32} (hf : d_oftenIs S o a b c3 = some r) (hlink : Cond.methodLink own index yn_oftenIs ∈ lw_all) (hR : 1 ≤ F ∧ 23 ≤ Lo) (hls : ls.size = nL) (hst : st = [.int c3, .int b, .int a] ++ .ref o :: rest) (hro : (rest.map fun v => v.category).sum ≤ 8) (hdg : decode cc pc = .ok (.invokevirtual index, 3)) (kk : ∀ (H : Heap) (locs : List Loc), x_I D S0 s H locs S → W p l e (x_R F Lo S0) s m args below meth c H locs (xz S - xz S0) (xu S - xu S0) Q (F0 m (pc + 3) ls (.int r :: rest))) : W p l e (x_R F Lo S0) s m args below meth c H locs (xz S - xz S0) (xu S - xu S0) Q (F0 m pc ls st) := by
  unfold d_oftenIs at hf
  by_cases h23 : xk S o = 23
  · have hf := it_pos h23 hf
    exact xr_callUB (rest := rest) (q := ("VillageStories$Often$1", Tk23, 1)) (x := yn_oftenIs) (owner := "VillageStories$Often") B hX (c_X25_is l D S o a b c3 hf) (by decide) (Nat.le_of_ble_eq_true rfl) h23 rfl (by decide) hlink q1318 (va_Decl.abs (hX.2.2.1.1 _ nq1317)) q1320 q1319 q1321 hdn_oftenIs ⟨by omega, by omega⟩ rfl hls hst hro hdg kk
  have hf := it_neg h23 hf
  by_cases h24 : xk S o = 24
  · have hf := it_pos h24 hf
    exact xr_callUB (rest := rest) (q := ("VillageStories$Often$2", Tk24, 1)) (x := yn_oftenIs) (owner := "VillageStories$Often") B hX (c_X26_is l D S o a b c3 hf) (by decide) (Nat.le_of_ble_eq_true rfl) h24 rfl (by decide) hlink q1318 (va_Decl.abs (hX.2.2.1.1 _ nq1317)) q1323 q1322 q1324 hdn_oftenIs ⟨by omega, by omega⟩ rfl hls hst hro hdg kk
  have hf := it_neg h24 hf
  by_cases h25 : xk S o = 25
  · have hf := it_pos h25 hf
    exact xr_callUB (rest := rest) (q := ("VillageStories$Often$3", Tk25, 1)) (x := yn_oftenIs) (owner := "VillageStories$Often") B hX (c_X27_is l D S o a b c3 hf) (by decide) (Nat.le_of_ble_eq_true rfl) h25 rfl (by decide) hlink q1318 (va_Decl.abs (hX.2.2.1.1 _ nq1317)) q1326 q1325 q1327 hdn_oftenIs ⟨by omega, by omega⟩ rfl hls hst hro hdg kk
  have hf := it_neg h25 hf
  by_cases h26 : xk S o = 26
  · have hf := it_pos h26 hf
    exact xr_callUB (rest := rest) (q := ("VillageStories$Often$4", Tk26, 1)) (x := yn_oftenIs) (owner := "VillageStories$Often") B hX (c_X28_is l D S o a b c3 hf) (by decide) (Nat.le_of_ble_eq_true rfl) h26 rfl (by decide) hlink q1318 (va_Decl.abs (hX.2.2.1.1 _ nq1317)) q1329 q1328 q1330 hdn_oftenIs ⟨by omega, by omega⟩ rfl hls hst hro hdg kk
  have hf := it_neg h26 hf
  cases hf
def yn_isSo : MethodName := ⟨"VillageStories$Part", "isSo", "(LVillageStories$World;)Z"⟩
theorem hdn_isSo : "VillageStories$Part" ≠ "java/lang/invoke/MethodHandle" ∧ "VillageStories$Part" ≠ "java/lang/invoke/VarHandle" ∧ (parseMethodDescriptor yn_isSo.desc).map (fun d => d.parameters.length) = some 1 := by decide +kernel
def x_R_isSo (l : Launch) (D : XD) (F Lo : Nat) (rec : XS → Nat → Nat → Option (Int32 × XS)) : Prop := ∀ S a w r S', rec S a w = some (r, S') →
  (xk S a = 10 ∧ ∃ F' L', F' ≤ F ∧ L' ≤ Lo ∧ x_Met l yX15_isSo cX15_isSo 5 (Option.some Jvm.ClassFile.FieldType.boolean) F' L' D [.ref a, .ref w] S (some (.int r)) S') ∨ (xk S a = 11 ∧ ∃ F' L', F' ≤ F ∧ L' ≤ Lo ∧ x_Met l yX16_isSo cX16_isSo 2 (Option.some Jvm.ClassFile.FieldType.boolean) F' L' D [.ref a, .ref w] S (some (.int r)) S') ∨ (xk S a = 12 ∧ ∃ F' L', F' ≤ F ∧ L' ≤ Lo ∧ x_Met l yX17_isSo cX17_isSo 2 (Option.some Jvm.ClassFile.FieldType.boolean) F' L' D [.ref a, .ref w] S (some (.int r)) S') ∨ (xk S a = 13 ∧ ∃ F' L', F' ≤ F ∧ L' ≤ Lo ∧ x_Met l yX18_isSo cX18_isSo 2 (Option.some Jvm.ClassFile.FieldType.boolean) F' L' D [.ref a, .ref w] S (some (.int r)) S') ∨ (xk S a = 14 ∧ ∃ F' L', F' ≤ F ∧ L' ≤ Lo ∧ x_Met l yX19_isSo cX19_isSo 2 (Option.some Jvm.ClassFile.FieldType.boolean) F' L' D [.ref a, .ref w] S (some (.int r)) S') ∨ (xk S a = 15 ∧ ∃ F' L', F' ≤ F ∧ L' ≤ Lo ∧ x_Met l yX20_isSo cX20_isSo 6 (Option.some Jvm.ClassFile.FieldType.boolean) F' L' D [.ref a, .ref w] S (some (.int r)) S') ∨ (xk S a = 16 ∧ ∃ F' L', F' ≤ F ∧ L' ≤ Lo ∧ x_Met l yX21_isSo cX21_isSo 2 (Option.some Jvm.ClassFile.FieldType.boolean) F' L' D [.ref a, .ref w] S (some (.int r)) S')
theorem xr_isSo {p : Program} {l : Launch} {e : Env} {s : State} {m : MethodId} {args : Array Value} {below : List Frame} {meth : Method} {c : Code} {H : Heap} {locs : List Loc} {Q : State → Prop} {cc : ByteArray} {pc nL F Lo index : Nat} {ls : Array Slot} {rest st : List Value} {D : XD} {S0 S S' : XS} {own : String} {rF rL : Nat} {rec : XS → Nat → Nat → Option (Int32 × XS)} (B : CallFix p m c cc nL s args lw_all own) (hX : x_I D S0 s H locs S) (hrec : x_R_isSo l D rF rL rec) {a w : Nat} {r : Int32} (hf : rec S a w = some (r, S')) (hlink : Cond.methodLink own index yn_isSo ∈ lw_all) (hR : rF + 1 ≤ F ∧ 8 + (6 + 11) + rL ≤ Lo) (hls : ls.size = nL) (hst : st = [.ref w] ++ .ref a :: rest) (hro : (rest.map fun v => v.category).sum ≤ 8) (hdg : decode cc pc = .ok (.invokevirtual index, 3)) (kk : ∀ (H : Heap) (locs : List Loc), x_I D S0 s H locs S' → W p l e (x_R F Lo S0) s m args below meth c H locs (xz S' - xz S0) (xu S' - xu S0) Q (F0 m (pc + 3) ls (.int r :: rest))) : W p l e (x_R F Lo S0) s m args below meth c H locs (xz S - xz S0) (xu S - xu S0) Q (F0 m pc ls st) := by
  rcases hrec _ _ _ _ _ hf with ⟨hk, F', L', h1, h2, hc⟩ | ⟨hk, F', L', h1, h2, hc⟩ | ⟨hk, F', L', h1, h2, hc⟩ | ⟨hk, F', L', h1, h2, hc⟩ | ⟨hk, F', L', h1, h2, hc⟩ | ⟨hk, F', L', h1, h2, hc⟩ | ⟨hk, F', L', h1, h2, hc⟩
  · exact xr_callU (rest := rest) (q := (RX15, TX15, 5)) (x := yn_isSo) (owner := "VillageStories$Part") B hX hc hk rfl (by decide) hlink q1267 (va_Decl.abs (hX.2.2.1.1 _ nq1266)) q1278 q1339 q139 q1279 hdn_isSo ⟨by omega, by omega⟩ rfl hls hst hro hdg kk
  · exact xr_callU (rest := rest) (q := (RX16, TX16, 3)) (x := yn_isSo) (owner := "VillageStories$Part") B hX hc hk rfl (by decide) hlink q1267 (va_Decl.abs (hX.2.2.1.1 _ nq1266)) q1269 q1268 q140 q1270 hdn_isSo ⟨by omega, by omega⟩ rfl hls hst hro hdg kk
  · exact xr_callU (rest := rest) (q := (RX17, TX17, 1)) (x := yn_isSo) (owner := "VillageStories$Part") B hX hc hk rfl (by decide) hlink q1267 (va_Decl.abs (hX.2.2.1.1 _ nq1266)) q1289 q1341 q141 q1290 hdn_isSo ⟨by omega, by omega⟩ rfl hls hst hro hdg kk
  · exact xr_callU (rest := rest) (q := (RX18, TX18, 2)) (x := yn_isSo) (owner := "VillageStories$Part") B hX hc hk rfl (by decide) hlink q1267 (va_Decl.abs (hX.2.2.1.1 _ nq1266)) q1306 q1343 q142 q1307 hdn_isSo ⟨by omega, by omega⟩ rfl hls hst hro hdg kk
  · exact xr_callU (rest := rest) (q := (RX19, TX19, 3)) (x := yn_isSo) (owner := "VillageStories$Part") B hX hc hk rfl (by decide) hlink q1267 (va_Decl.abs (hX.2.2.1.1 _ nq1266)) q1292 q1342 q143 q1293 hdn_isSo ⟨by omega, by omega⟩ rfl hls hst hro hdg kk
  · exact xr_callU (rest := rest) (q := (RX20, TX20, 1)) (x := yn_isSo) (owner := "VillageStories$Part") B hX hc hk rfl (by decide) hlink q1267 (va_Decl.abs (hX.2.2.1.1 _ nq1266)) q1308 q1344 q144 q1309 hdn_isSo ⟨by omega, by omega⟩ rfl hls hst hro hdg kk
  · exact xr_callU (rest := rest) (q := (RX21, TX21, 3)) (x := yn_isSo) (owner := "VillageStories$Part") B hX hc hk rfl (by decide) hlink q1267 (va_Decl.abs (hX.2.2.1.1 _ nq1266)) q1282 q1340 q145 q1283 hdn_isSo ⟨by omega, by omega⟩ rfl hls hst hro hdg kk
def f_X15_isSo_L15 (rec : XS → Nat → Nat → Option (Int32 × XS)) (o : Nat) (p0 : Nat) (x6 : Int32) (x7 : Int32) (S8 : XS) : Option ((Int32 × Int32 × XS) ⊕ ((Int32 × XS))) :=
  chk (xk S8 p0 = 4) <| bnd (xr S8 400 p0 0) fun b10 => chk (xk S8 o = 10) <| chk (xk S8 b10 = 3) <| bnd (f_X2_size S8 b10 (xi S8 1003 o 0)) fun r12 => (if r12 ≤ x7 then some (.inr (x6, S8)) else bnd (xr S8 403 p0 0) fun b15 => chk (xk S8 b15 = 52) <| chk (xb S8 ≤ b15) <| ast (xn S8 b15) (xi S8 1002 o 0) (s_i S8 52 b15 (xi S8 1002 o 0).toNatClampNeg x7) fun S18 => bnd (xr S18 1004 o 0) fun b19 => bnd (rec S18 b19 p0) <| u2 fun r20 S21 => (if r20 = 0 then bd (x6 + nI 0) fun x23 => bd (x7 + nI 1) fun x24 => some (.inl (x23, x24, S21)) else bd (x6 + nI 1) fun x25 => bd (x7 + nI 1) fun x26 => some (.inl (x25, x26, S21))))
def f_X15_isSo (rec : XS → Nat → Nat → Option (Int32 × XS)) (S : XS) (o : Nat) (p0 : Nat) : Option (Int32 × XS) :=
  chk (xk S p0 = 4) <| bnd (xr S 403 p0 0) fun b2 => chk (xk S o = 10) <| chk (xk S b2 = 52) <| ald (xn S b2) (xi S 52 b2) (xi S 1002 o 0) fun v5 => bnd (wO (fun t : Int32 × Int32 × XS => f_X15_isSo_L15 rec o p0 t.1 t.2.1 t.2.2) fu (nI 0, nI 0, S)) <| u2 fun x29 S30 => chk (xk S30 p0 = 4) <| bnd (xr S30 403 p0 0) fun b32 => chk (xk S30 o = 10) <| chk (xk S30 b32 = 52) <| chk (xb S30 ≤ b32) <| ast (xn S30 b32) (xi S30 1002 o 0) (s_i S30 52 b32 (xi S30 1002 o 0).toNatClampNeg v5) fun S36 => bnd (xr S36 1000 o 0) fun b37 => bnd (xr S36 400 p0 0) fun b38 => chk (xk S36 b38 = 3) <| bnd (f_X2_size S36 b38 (xi S36 1003 o 0)) fun r39 => bnd (d_oftenIs S36 b37 x29 r39 (xi S36 1001 o 0)) fun r41 => chk (r41 = 0 ∨ r41 = 1) <| some (r41, S36)
set_option maxHeartbeats 4000000 in
set_option maxRecDepth 100000 in
theorem c_X15_isSo (l : Launch) (D : XD) {rF rL : Nat} {rec : XS → Nat → Nat → Option (Int32 × XS)} (hro : 20 ≤ rF ∧ 400 ≤ rL) (hrec : x_R_isSo l D rF rL rec) (S : XS) (o : Nat) (p0 : Nat) {r : Int32} {S' : XS} (hf : f_X15_isSo rec S o p0 = some (r, S')) : x_Met l yX15_isSo cX15_isSo 5 (Option.some Jvm.ClassFile.FieldType.boolean) (rF + 1) (rL + 25) D [.ref o, .ref p0] S (some (.int r)) S' := by
  refine x_metI RX15 (by decide) rfl (Nat.le_of_ble_eq_true rfl) (fun p e s m args below meth c Q B hnm hret H locs hX ls hl => ?_)
  have hx := B.1
  have hb := B.2.1
  have hml := B.2.2.1
  have hown := B.2.2.2.1
  have hts := B.2.2.2.2
  have hl : lv_has ls 5 [(0, .ref o), (1, .ref p0)] := hl
  unfold f_X15_isSo at hf
  refine lv_aload_n hx hb dX15_isSo_0 rfl (lv_at hl 1 rfl) ?_
  obtain ⟨hk1, hf⟩ := chk_some hf
  obtain ⟨b2, hb2, hf⟩ := bnd_some hf
  refine xr_getN (q := (RX3, TX3, 4)) B hX 3 hk1 rfl (by decide) (by decide) (v := .ref b2) (x_Vr (c := 4) (j := 3) rfl (by decide) hb2) nq289 (fun _ h => h) dX15_isSo_1 ?_
  refine lv_aload_n hx hb dX15_isSo_4 rfl (lv_at hl 0 rfl) ?_
  obtain ⟨hk3, hf⟩ := chk_some hf
  refine xr_get (q := (RX15, TX15, 5)) B hX 2 hk3 rfl (by decide) (by decide) (x_Vi rfl (by decide)) q1078 (fun _ h => h) dX15_isSo_5 ?_
  obtain ⟨hk4, hf⟩ := chk_some hf
  obtain ⟨v5, ev5, hiv5, hf⟩ := ald_some hf
  refine xr_iald B hX hk4 hiv5 ev5 dX15_isSo_8 ?_
  refine lv_istore_n (lv' := [(2, .int v5), (0, .ref o), (1, .ref p0)]) hx hb dX15_isSo_9 rfl hl (by decide) rfl (fun ls hl => ?_)
  refine lv_iconst (v := nI 0) hx hb dX15_isSo_10 ic0 ?_
  refine lv_istore_n (lv' := [(3, .int (nI 0)), (2, .int v5), (0, .ref o), (1, .ref p0)]) hx hb dX15_isSo_11 rfl hl (by decide) rfl (fun ls hl => ?_)
  refine lv_iconst (v := nI 0) hx hb dX15_isSo_12 ic0 ?_
  refine lv_istore (lv' := [(4, .int (nI 0)), (3, .int (nI 0)), (2, .int v5), (0, .ref o), (1, .ref p0)]) hx hb dX15_isSo_13 hl (by decide) rfl (fun ls hl => ?_)
  obtain ⟨y28, hxy28, hf⟩ := bnd_some hf
  have hy28 : (fun t : Int32 × XS => ∀ (H : Heap) (locs : List Loc) (ls : Array Slot), x_I D S s H locs t.2 → lv_has ls 5 [(0, .ref o), (1, .ref p0), (2, .int v5), (3, .int t.1)] → W p l e (x_R (rF + 1) (rL + 25) S) s m args below meth c H locs (xz t.2 - xz S) (xu t.2 - xu S) Q (F0 m 67 ls [])) y28 := by
    rcases y28 with ⟨x29, S30⟩
    have hf := u2_at hf
    intro H locs ls hX hl
    refine lv_aload_n hx hb dX15_isSo_67 rfl (lv_at hl 1 rfl) ?_
    obtain ⟨hk31, hf⟩ := chk_some hf
    obtain ⟨b32, hb32, hf⟩ := bnd_some hf
    refine xr_getN (q := (RX3, TX3, 4)) B hX 3 hk31 rfl (by decide) (by decide) (v := .ref b32) (x_Vr (c := 4) (j := 3) rfl (by decide) hb32) nq289 (fun _ h => h) dX15_isSo_68 ?_
    refine lv_aload_n hx hb dX15_isSo_71 rfl (lv_at hl 0 rfl) ?_
    obtain ⟨hk33, hf⟩ := chk_some hf
    refine xr_get (q := (RX15, TX15, 5)) B hX 2 hk33 rfl (by decide) (by decide) (x_Vi rfl (by decide)) q1078 (fun _ h => h) dX15_isSo_72 ?_
    refine lv_iload_n hx hb dX15_isSo_75 rfl (lv_at hl 2 rfl) ?_
    obtain ⟨hk34, hf⟩ := chk_some hf
    obtain ⟨hw35, hf⟩ := chk_some hf
    obtain ⟨S36, eS36, hiS36, hf⟩ := ast_some hf
    refine xr_iast B hX hk34 hw35 hiS36 eS36 dX15_isSo_76 (fun H locs hX => ?_)
    refine w_i eS36 ?_
    have hk31 := ks_i eS36 hk31
    have hk33 := ks_i eS36 hk33
    have hk34 := ks_i eS36 hk34
    have hw35 := kw_i eS36 hw35
    refine lv_aload_n hx hb dX15_isSo_77 rfl (lv_at hl 0 rfl) ?_
    obtain ⟨b37, hb37, hf⟩ := bnd_some hf
    refine xr_get (q := (RX15, TX15, 5)) B hX 0 hk33 rfl (by decide) (by decide) (v := .ref b37) (x_Vr (c := 10) (j := 0) rfl (by decide) hb37) q1075 (fun _ h => h) dX15_isSo_78 ?_
    refine lv_iload_n hx hb dX15_isSo_81 rfl (lv_at hl 3 rfl) ?_
    refine lv_aload_n hx hb dX15_isSo_82 rfl (lv_at hl 1 rfl) ?_
    obtain ⟨b38, hb38, hf⟩ := bnd_some hf
    refine xr_getN (q := (RX3, TX3, 4)) B hX 0 hk31 rfl (by decide) (by decide) (v := .ref b38) (x_Vr (c := 4) (j := 0) rfl (by decide) hb38) nq284 (fun _ h => h) dX15_isSo_83 ?_
    refine lv_aload_n hx hb dX15_isSo_86 rfl (lv_at hl 0 rfl) ?_
    refine xr_get (q := (RX15, TX15, 5)) B hX 3 hk33 rfl (by decide) (by decide) (x_Vi rfl (by decide)) q1080 (fun _ h => h) dX15_isSo_87 ?_
    obtain ⟨hk40, hf⟩ := chk_some hf
    obtain ⟨r39, hcr39, hf⟩ := bnd_some hf
    refine xr_callVC (rest := [.int x29, .ref b37]) (q := (RX2, TX2, 2)) B hX (c_X2_size l D S36 b38 (xi S36 1003 o 0) hcr39) hk40 rfl (by decide) q1280 q398 (Or.inl q399) q105 q400 hd_X2_size ⟨by omega, by omega⟩ rfl hl.1 rfl (Nat.le_of_ble_eq_true rfl) dX15_isSo_90 (fun H locs hX => ?_)
    refine lv_aload_n hx hb dX15_isSo_93 rfl (lv_at hl 0 rfl) ?_
    refine xr_get (q := (RX15, TX15, 5)) B hX 1 hk33 rfl (by decide) (by decide) (x_Vi rfl (by decide)) q1077 (fun _ h => h) dX15_isSo_94 ?_
    obtain ⟨r41, hcr41, hf⟩ := bnd_some hf
    refine xr_oftenIs (rest := []) B hX  hcr41 q1316 ⟨by omega, by omega⟩ hl.1 rfl (Nat.le_of_ble_eq_true rfl) dX15_isSo_97 (fun H locs hX => ?_)
    obtain ⟨hb42, hf⟩ := chk_some hf
    cases hf
    exact hret _ _ _ _ (by rcases hb42 with q | q <;> (rw [q]; rfl)) hX dX15_isSo_100
  refine lp_W (step := (fun t : Int32 × Int32 × XS => f_X15_isSo_L15 rec o p0 t.1 t.2.1 t.2.2)) (fun t : Int32 × Int32 × XS => ∀ (H : Heap) (locs : List Loc) (ls : Array Slot), x_I D S s H locs t.2.2 → lv_has ls 5 [(0, .ref o), (1, .ref p0), (2, .int v5), (3, .int t.1), (4, .int t.2.1)] → W p l e (x_R (rF + 1) (rL + 25) S) s m args below meth c H locs (xz t.2.2 - xz S) (xu t.2.2 - xu S) Q (F0 m 15 ls [])) (fun t : Int32 × XS => ∀ (H : Heap) (locs : List Loc) (ls : Array Slot), x_I D S s H locs t.2 → lv_has ls 5 [(0, .ref o), (1, .ref p0), (2, .int v5), (3, .int t.1)] → W p l e (x_R (rF + 1) (rL + 25) S) s m args below meth c H locs (xz t.2 - xz S) (xu t.2 - xu S) Q (F0 m 67 ls [])) ?_ fu (nI 0, nI 0, S) y28 hxy28 hy28 _ _ _ hX (lv_sub hl [3, 4, 2, 1, 0] rfl)
  clear hf hxy28 hy28
  rintro ⟨x6, x7, S8⟩ oo (hf : f_X15_isSo_L15 rec o p0 x6 x7 S8 = some oo) hk
  intro H locs ls hX hl
  unfold f_X15_isSo_L15 at hf
  refine lv_iload hx hb dX15_isSo_15 (lv_at hl 4 rfl) ?_
  refine lv_aload_n hx hb dX15_isSo_17 rfl (lv_at hl 1 rfl) ?_
  obtain ⟨hk9, hf⟩ := chk_some hf
  obtain ⟨b10, hb10, hf⟩ := bnd_some hf
  refine xr_getN (q := (RX3, TX3, 4)) B hX 0 hk9 rfl (by decide) (by decide) (v := .ref b10) (x_Vr (c := 4) (j := 0) rfl (by decide) hb10) nq284 (fun _ h => h) dX15_isSo_18 ?_
  refine lv_aload_n hx hb dX15_isSo_21 rfl (lv_at hl 0 rfl) ?_
  obtain ⟨hk11, hf⟩ := chk_some hf
  refine xr_get (q := (RX15, TX15, 5)) B hX 3 hk11 rfl (by decide) (by decide) (x_Vi rfl (by decide)) q1080 (fun _ h => h) dX15_isSo_22 ?_
  obtain ⟨hk13, hf⟩ := chk_some hf
  obtain ⟨r12, hcr12, hf⟩ := bnd_some hf
  refine xr_callVC (rest := [.int x7]) (q := (RX2, TX2, 2)) B hX (c_X2_size l D S8 b10 (xi S8 1003 o 0) hcr12) hk13 rfl (by decide) q1280 q398 (Or.inl q399) q105 q400 hd_X2_size ⟨by omega, by omega⟩ rfl hl.1 rfl (Nat.le_of_ble_eq_true rfl) dX15_isSo_25 (fun H locs hX => ?_)
  refine lv_icmp_ge (tgt := 67) hx hb dX15_isSo_28 (by decide) (fun c14 => ?_) (fun c14 => ?_)
  · have hf := it_pos c14 hf
    cases hf
    exact hk _ _ _ hX (lv_sub hl [0, 1, 2, 3] rfl)
  · have hf := it_neg c14 hf
    refine lv_aload_n hx hb dX15_isSo_31 rfl (lv_at hl 1 rfl) ?_
    obtain ⟨b15, hb15, hf⟩ := bnd_some hf
    refine xr_getN (q := (RX3, TX3, 4)) B hX 3 hk9 rfl (by decide) (by decide) (v := .ref b15) (x_Vr (c := 4) (j := 3) rfl (by decide) hb15) nq289 (fun _ h => h) dX15_isSo_32 ?_
    refine lv_aload_n hx hb dX15_isSo_35 rfl (lv_at hl 0 rfl) ?_
    refine xr_get (q := (RX15, TX15, 5)) B hX 2 hk11 rfl (by decide) (by decide) (x_Vi rfl (by decide)) q1078 (fun _ h => h) dX15_isSo_36 ?_
    refine lv_iload hx hb dX15_isSo_39 (lv_at hl 4 rfl) ?_
    obtain ⟨hk16, hf⟩ := chk_some hf
    obtain ⟨hw17, hf⟩ := chk_some hf
    obtain ⟨S18, eS18, hiS18, hf⟩ := ast_some hf
    refine xr_iast B hX hk16 hw17 hiS18 eS18 dX15_isSo_41 (fun H locs hX => ?_)
    refine w_i eS18 ?_
    have hk9 := ks_i eS18 hk9
    have hk11 := ks_i eS18 hk11
    have hk13 := ks_i eS18 hk13
    have hk16 := ks_i eS18 hk16
    have hw17 := kw_i eS18 hw17
    refine lv_iload_n hx hb dX15_isSo_42 rfl (lv_at hl 3 rfl) ?_
    refine lv_aload_n hx hb dX15_isSo_43 rfl (lv_at hl 0 rfl) ?_
    obtain ⟨b19, hb19, hf⟩ := bnd_some hf
    refine xr_get (q := (RX15, TX15, 5)) B hX 4 hk11 rfl (by decide) (by decide) (v := .ref b19) (x_Vr (c := 10) (j := 4) rfl (by decide) hb19) q1082 (fun _ h => h) dX15_isSo_44 ?_
    refine lv_aload_n hx hb dX15_isSo_47 rfl (lv_at hl 1 rfl) ?_
    obtain ⟨⟨r20, S21⟩, hcr20, hf⟩ := bnd_some hf
    have hf := u2_at hf
    refine xr_isSo (rest := [.int x6]) B hX hrec hcr20 q1281 ⟨by omega, by omega⟩ hl.1 rfl (Nat.le_of_ble_eq_true rfl) dX15_isSo_48 (fun H locs hX => ?_)
    refine lv_if_eq (tgt := 58) hx hb dX15_isSo_51 (by decide) (fun c22 => ?_) (fun c22 => ?_)
    · have hf := it_pos c22 hf
      refine lv_iconst (v := nI 0) hx hb dX15_isSo_58 ic0 ?_
      refine lv_iadd hx hb dX15_isSo_59 ?_
      refine lv_topi (fun x23 ex23 => ?_)
      have hf := bd_at ex23 hf
      refine lv_istore_n (lv' := [(3, .int x23), (0, .ref o), (1, .ref p0), (2, .int v5), (4, .int x7)]) hx hb dX15_isSo_60 rfl hl (by decide) rfl (fun ls hl => ?_)
      obtain ⟨x24, ex24, hf⟩ := bd_some hf
      refine lv_iinc (v := x24) (lv' := [(4, .int x24), (3, .int x23), (0, .ref o), (1, .ref p0), (2, .int v5)]) hx hb dX15_isSo_61 hl (k := 4) rfl (by rw [ex24]; first | done | rfl) (by decide) rfl (fun ls hl => ?_)
      refine lv_goto (tgt := 15) hx hb dX15_isSo_64 (by decide) ?_
      cases hf
      exact hk _ _ _ hX (lv_sub hl [2, 3, 4, 1, 0] rfl)
    · have hf := it_neg c22 hf
      refine lv_iconst (v := nI 1) hx hb dX15_isSo_54 ic1 ?_
      refine lv_goto (tgt := 59) hx hb dX15_isSo_55 (by decide) ?_
      refine lv_iadd hx hb dX15_isSo_59 ?_
      refine lv_topi (fun x25 ex25 => ?_)
      have hf := bd_at ex25 hf
      refine lv_istore_n (lv' := [(3, .int x25), (0, .ref o), (1, .ref p0), (2, .int v5), (4, .int x7)]) hx hb dX15_isSo_60 rfl hl (by decide) rfl (fun ls hl => ?_)
      obtain ⟨x26, ex26, hf⟩ := bd_some hf
      refine lv_iinc (v := x26) (lv' := [(4, .int x26), (3, .int x25), (0, .ref o), (1, .ref p0), (2, .int v5)]) hx hb dX15_isSo_61 hl (k := 4) rfl (by rw [ex26]; first | done | rfl) (by decide) rfl (fun ls hl => ?_)
      refine lv_goto (tgt := 15) hx hb dX15_isSo_64 (by decide) ?_
      cases hf
      exact hk _ _ _ hX (lv_sub hl [2, 3, 4, 1, 0] rfl)
def f_X22_is (rec : XS → Nat → Nat → Option (Int32 × XS)) (S : XS) (o : Nat) (p0 : Nat) (p1 : Nat) (p2 : Nat) : Option (Int32 × XS) :=
  bnd (rec S p0 p2) <| u2 fun r1 S2 => (if r1 = 0 then some (nI 0, S2) else bnd (rec S2 p1 p2) <| u2 fun r4 S5 => (if r4 = 0 then some (nI 0, S5) else some (nI 1, S5)))
set_option maxHeartbeats 4000000 in
set_option maxRecDepth 100000 in
theorem c_X22_is (l : Launch) (D : XD) {rF rL : Nat} {rec : XS → Nat → Nat → Option (Int32 × XS)} (hro : 20 ≤ rF ∧ 400 ≤ rL) (hrec : x_R_isSo l D rF rL rec) (S : XS) (o : Nat) (p0 : Nat) (p1 : Nat) (p2 : Nat) {r : Int32} {S' : XS} (hf : f_X22_is rec S o p0 p1 p2 = some (r, S')) : x_Bod l yX22_is cX22_is 4 (Option.some Jvm.ClassFile.FieldType.boolean) [] (rF + 1) (rL + 25) D [.ref o, .ref p0, .ref p1, .ref p2] S (.inr (some (.int r))) S' := by
  refine x_bodI RX22 rfl (fun p e s m args below meth c Q B hnm hret H locs hX ls hl => ?_)
  have hx := B.1
  have hb := B.2.1
  have hml := B.2.2.1
  have hown := B.2.2.2.1
  have hts := B.2.2.2.2
  have hl : lv_has ls 4 [(0, .ref o), (1, .ref p0), (2, .ref p1), (3, .ref p2)] := hl
  unfold f_X22_is at hf
  refine lv_aload_n hx hb dX22_is_0 rfl (lv_at hl 1 rfl) ?_
  refine lv_aload_n hx hb dX22_is_1 rfl (lv_at hl 3 rfl) ?_
  obtain ⟨⟨r1, S2⟩, hcr1, hf⟩ := bnd_some hf
  have hf := u2_at hf
  refine xr_isSo (rest := []) B hX hrec hcr1 q1277 ⟨by omega, by omega⟩ hl.1 rfl (Nat.le_of_ble_eq_true rfl) dX22_is_2 (fun H locs hX => ?_)
  refine lv_if_eq (tgt := 20) hx hb dX22_is_5 (by decide) (fun c3 => ?_) (fun c3 => ?_)
  · have hf := it_pos c3 hf
    refine lv_iconst (v := nI 0) hx hb dX22_is_20 ic0 ?_
    cases hf
    exact hret _ _ _ _ rfl hX dX22_is_21
  · have hf := it_neg c3 hf
    refine lv_aload_n hx hb dX22_is_8 rfl (lv_at hl 2 rfl) ?_
    refine lv_aload_n hx hb dX22_is_9 rfl (lv_at hl 3 rfl) ?_
    obtain ⟨⟨r4, S5⟩, hcr4, hf⟩ := bnd_some hf
    have hf := u2_at hf
    refine xr_isSo (rest := []) B hX hrec hcr4 q1277 ⟨by omega, by omega⟩ hl.1 rfl (Nat.le_of_ble_eq_true rfl) dX22_is_10 (fun H locs hX => ?_)
    refine lv_if_eq (tgt := 20) hx hb dX22_is_13 (by decide) (fun c6 => ?_) (fun c6 => ?_)
    · have hf := it_pos c6 hf
      refine lv_iconst (v := nI 0) hx hb dX22_is_20 ic0 ?_
      cases hf
      exact hret _ _ _ _ rfl hX dX22_is_21
    · have hf := it_neg c6 hf
      refine lv_iconst (v := nI 1) hx hb dX22_is_16 ic1 ?_
      refine lv_goto (tgt := 21) hx hb dX22_is_17 (by decide) ?_
      cases hf
      exact hret _ _ _ _ rfl hX dX22_is_21
def f_X23_is (rec : XS → Nat → Nat → Option (Int32 × XS)) (S : XS) (o : Nat) (p0 : Nat) (p1 : Nat) (p2 : Nat) : Option (Int32 × XS) :=
  bnd (rec S p0 p2) <| u2 fun r1 S2 => (if r1 = 0 then bnd (rec S2 p1 p2) <| u2 fun r4 S5 => (if r4 = 0 then some (nI 0, S5) else some (nI 1, S5)) else some (nI 1, S2))
set_option maxHeartbeats 4000000 in
set_option maxRecDepth 100000 in
theorem c_X23_is (l : Launch) (D : XD) {rF rL : Nat} {rec : XS → Nat → Nat → Option (Int32 × XS)} (hro : 20 ≤ rF ∧ 400 ≤ rL) (hrec : x_R_isSo l D rF rL rec) (S : XS) (o : Nat) (p0 : Nat) (p1 : Nat) (p2 : Nat) {r : Int32} {S' : XS} (hf : f_X23_is rec S o p0 p1 p2 = some (r, S')) : x_Bod l yX23_is cX23_is 4 (Option.some Jvm.ClassFile.FieldType.boolean) [] (rF + 1) (rL + 25) D [.ref o, .ref p0, .ref p1, .ref p2] S (.inr (some (.int r))) S' := by
  refine x_bodI RX23 rfl (fun p e s m args below meth c Q B hnm hret H locs hX ls hl => ?_)
  have hx := B.1
  have hb := B.2.1
  have hml := B.2.2.1
  have hown := B.2.2.2.1
  have hts := B.2.2.2.2
  have hl : lv_has ls 4 [(0, .ref o), (1, .ref p0), (2, .ref p1), (3, .ref p2)] := hl
  unfold f_X23_is at hf
  refine lv_aload_n hx hb dX23_is_0 rfl (lv_at hl 1 rfl) ?_
  refine lv_aload_n hx hb dX23_is_1 rfl (lv_at hl 3 rfl) ?_
  obtain ⟨⟨r1, S2⟩, hcr1, hf⟩ := bnd_some hf
  have hf := u2_at hf
  refine xr_isSo (rest := []) B hX hrec hcr1 q1334 ⟨by omega, by omega⟩ hl.1 rfl (Nat.le_of_ble_eq_true rfl) dX23_is_2 (fun H locs hX => ?_)
  refine lv_if_ne (tgt := 16) hx hb dX23_is_5 (by decide) (fun c3 => ?_) (fun c3 => ?_)
  · have hf := it_neg c3 hf
    refine lv_iconst (v := nI 1) hx hb dX23_is_16 ic1 ?_
    refine lv_goto (tgt := 21) hx hb dX23_is_17 (by decide) ?_
    cases hf
    exact hret _ _ _ _ rfl hX dX23_is_21
  · have hf := it_pos c3 hf
    refine lv_aload_n hx hb dX23_is_8 rfl (lv_at hl 2 rfl) ?_
    refine lv_aload_n hx hb dX23_is_9 rfl (lv_at hl 3 rfl) ?_
    obtain ⟨⟨r4, S5⟩, hcr4, hf⟩ := bnd_some hf
    have hf := u2_at hf
    refine xr_isSo (rest := []) B hX hrec hcr4 q1334 ⟨by omega, by omega⟩ hl.1 rfl (Nat.le_of_ble_eq_true rfl) dX23_is_10 (fun H locs hX => ?_)
    refine lv_if_eq (tgt := 20) hx hb dX23_is_13 (by decide) (fun c6 => ?_) (fun c6 => ?_)
    · have hf := it_pos c6 hf
      refine lv_iconst (v := nI 0) hx hb dX23_is_20 ic0 ?_
      cases hf
      exact hret _ _ _ _ rfl hX dX23_is_21
    · have hf := it_neg c6 hf
      refine lv_iconst (v := nI 1) hx hb dX23_is_16 ic1 ?_
      refine lv_goto (tgt := 21) hx hb dX23_is_17 (by decide) ?_
      cases hf
      exact hret _ _ _ _ rfl hX dX23_is_21
def f_X24_is (rec : XS → Nat → Nat → Option (Int32 × XS)) (S : XS) (o : Nat) (p0 : Nat) (p1 : Nat) (p2 : Nat) : Option (Int32 × XS) :=
  bnd (rec S p0 p2) <| u2 fun r1 S2 => (if r1 = 0 then some (nI 1, S2) else bnd (rec S2 p1 p2) <| u2 fun r4 S5 => (if r4 = 0 then some (nI 0, S5) else some (nI 1, S5)))
set_option maxHeartbeats 4000000 in
set_option maxRecDepth 100000 in
theorem c_X24_is (l : Launch) (D : XD) {rF rL : Nat} {rec : XS → Nat → Nat → Option (Int32 × XS)} (hro : 20 ≤ rF ∧ 400 ≤ rL) (hrec : x_R_isSo l D rF rL rec) (S : XS) (o : Nat) (p0 : Nat) (p1 : Nat) (p2 : Nat) {r : Int32} {S' : XS} (hf : f_X24_is rec S o p0 p1 p2 = some (r, S')) : x_Bod l yX24_is cX24_is 4 (Option.some Jvm.ClassFile.FieldType.boolean) [] (rF + 1) (rL + 25) D [.ref o, .ref p0, .ref p1, .ref p2] S (.inr (some (.int r))) S' := by
  refine x_bodI RX24 rfl (fun p e s m args below meth c Q B hnm hret H locs hX ls hl => ?_)
  have hx := B.1
  have hb := B.2.1
  have hml := B.2.2.1
  have hown := B.2.2.2.1
  have hts := B.2.2.2.2
  have hl : lv_has ls 4 [(0, .ref o), (1, .ref p0), (2, .ref p1), (3, .ref p2)] := hl
  unfold f_X24_is at hf
  refine lv_aload_n hx hb dX24_is_0 rfl (lv_at hl 1 rfl) ?_
  refine lv_aload_n hx hb dX24_is_1 rfl (lv_at hl 3 rfl) ?_
  obtain ⟨⟨r1, S2⟩, hcr1, hf⟩ := bnd_some hf
  have hf := u2_at hf
  refine xr_isSo (rest := []) B hX hrec hcr1 q1338 ⟨by omega, by omega⟩ hl.1 rfl (Nat.le_of_ble_eq_true rfl) dX24_is_2 (fun H locs hX => ?_)
  refine lv_if_eq (tgt := 16) hx hb dX24_is_5 (by decide) (fun c3 => ?_) (fun c3 => ?_)
  · have hf := it_pos c3 hf
    refine lv_iconst (v := nI 1) hx hb dX24_is_16 ic1 ?_
    refine lv_goto (tgt := 21) hx hb dX24_is_17 (by decide) ?_
    cases hf
    exact hret _ _ _ _ rfl hX dX24_is_21
  · have hf := it_neg c3 hf
    refine lv_aload_n hx hb dX24_is_8 rfl (lv_at hl 2 rfl) ?_
    refine lv_aload_n hx hb dX24_is_9 rfl (lv_at hl 3 rfl) ?_
    obtain ⟨⟨r4, S5⟩, hcr4, hf⟩ := bnd_some hf
    have hf := u2_at hf
    refine xr_isSo (rest := []) B hX hrec hcr4 q1338 ⟨by omega, by omega⟩ hl.1 rfl (Nat.le_of_ble_eq_true rfl) dX24_is_10 (fun H locs hX => ?_)
    refine lv_if_eq (tgt := 20) hx hb dX24_is_13 (by decide) (fun c6 => ?_) (fun c6 => ?_)
    · have hf := it_pos c6 hf
      refine lv_iconst (v := nI 0) hx hb dX24_is_20 ic0 ?_
      cases hf
      exact hret _ _ _ _ rfl hX dX24_is_21
    · have hf := it_neg c6 hf
      refine lv_iconst (v := nI 1) hx hb dX24_is_16 ic1 ?_
      refine lv_goto (tgt := 21) hx hb dX24_is_17 (by decide) ?_
      cases hf
      exact hret _ _ _ _ rfl hX dX24_is_21
def yn_joinIs : MethodName := ⟨"VillageStories$Join", "is", "(LVillageStories$Part;LVillageStories$Part;LVillageStories$World;)Z"⟩
theorem hdn_joinIs : "VillageStories$Join" ≠ "java/lang/invoke/MethodHandle" ∧ "VillageStories$Join" ≠ "java/lang/invoke/VarHandle" ∧ (parseMethodDescriptor yn_joinIs.desc).map (fun d => d.parameters.length) = some 3 := by decide +kernel
def d_joinIs (rec : XS → Nat → Nat → Option (Int32 × XS)) (S : XS) (o a b w : Nat) : Option (Int32 × XS) :=
  if xk S o = 27 then f_X22_is rec S o a b w else if xk S o = 28 then f_X23_is rec S o a b w else if xk S o = 29 then f_X24_is rec S o a b w else none
theorem xr_joinIs {p : Program} {l : Launch} {e : Env} {s : State} {m : MethodId} {args : Array Value} {below : List Frame} {meth : Method} {c : Code} {H : Heap} {locs : List Loc} {Q : State → Prop} {cc : ByteArray} {pc nL F Lo index : Nat} {ls : Array Slot} {rest st : List Value} {D : XD} {S0 S S' : XS} {own : String} {rF rL : Nat} {rec : XS → Nat → Nat → Option (Int32 × XS)} (B : CallFix p m c cc nL s args lw_all own) (hX : x_I D S0 s H locs S) (hr0 : 20 ≤ rF ∧ 400 ≤ rL) (hrec : x_R_isSo l D rF rL rec) {o a b w : Nat} {r : Int32} (hf : d_joinIs rec S o a b w = some (r, S')) (hlink : Cond.methodLink own index yn_joinIs ∈ lw_all) (hR : rF + 2 ≤ F ∧ rL + 25 + 23 ≤ Lo) (hls : ls.size = nL) (hst : st = [.ref w, .ref b, .ref a] ++ .ref o :: rest) (hro : (rest.map fun v => v.category).sum ≤ 8) (hdg : decode cc pc = .ok (.invokevirtual index, 3)) (kk : ∀ (H : Heap) (locs : List Loc), x_I D S0 s H locs S' → W p l e (x_R F Lo S0) s m args below meth c H locs (xz S' - xz S0) (xu S' - xu S0) Q (F0 m (pc + 3) ls (.int r :: rest))) : W p l e (x_R F Lo S0) s m args below meth c H locs (xz S - xz S0) (xu S - xu S0) Q (F0 m pc ls st) := by
  unfold d_joinIs at hf
  by_cases h27 : xk S o = 27
  · have hf := it_pos h27 hf
    exact xr_callUB (rest := rest) (q := ("VillageStories$Join$1", Tk27, 1)) (x := yn_joinIs) (owner := "VillageStories$Join") B hX (c_X22_is l D hr0 hrec S o a b w hf) (by decide) (Nat.le_of_ble_eq_true rfl) h27 rfl (by decide) hlink q1273 (va_Decl.abs (hX.2.2.1.1 _ nq1272)) q1275 q1274 q1276 hdn_joinIs ⟨by omega, by omega⟩ rfl hls hst hro hdg kk
  have hf := it_neg h27 hf
  by_cases h28 : xk S o = 28
  · have hf := it_pos h28 hf
    exact xr_callUB (rest := rest) (q := ("VillageStories$Join$2", Tk28, 1)) (x := yn_joinIs) (owner := "VillageStories$Join") B hX (c_X23_is l D hr0 hrec S o a b w hf) (by decide) (Nat.le_of_ble_eq_true rfl) h28 rfl (by decide) hlink q1273 (va_Decl.abs (hX.2.2.1.1 _ nq1272)) q1332 q1331 q1333 hdn_joinIs ⟨by omega, by omega⟩ rfl hls hst hro hdg kk
  have hf := it_neg h28 hf
  by_cases h29 : xk S o = 29
  · have hf := it_pos h29 hf
    exact xr_callUB (rest := rest) (q := ("VillageStories$Join$3", Tk29, 1)) (x := yn_joinIs) (owner := "VillageStories$Join") B hX (c_X24_is l D hr0 hrec S o a b w hf) (by decide) (Nat.le_of_ble_eq_true rfl) h29 rfl (by decide) hlink q1273 (va_Decl.abs (hX.2.2.1.1 _ nq1272)) q1336 q1335 q1337 hdn_joinIs ⟨by omega, by omega⟩ rfl hls hst hro hdg kk
  have hf := it_neg h29 hf
  cases hf
def f_X16_isSo (rec : XS → Nat → Nat → Option (Int32 × XS)) (S : XS) (o : Nat) (p0 : Nat) : Option (Int32 × XS) :=
  chk (xk S o = 11) <| bnd (xr S 1100 o 0) fun b2 => bnd (xr S 1101 o 0) fun b3 => bnd (xr S 1102 o 0) fun b4 => bnd (d_joinIs rec S b2 b3 b4 p0) <| u2 fun r5 S6 => chk (r5 = 0 ∨ r5 = 1) <| some (r5, S6)
set_option maxHeartbeats 4000000 in
set_option maxRecDepth 100000 in
theorem c_X16_isSo (l : Launch) (D : XD) {rF rL : Nat} {rec : XS → Nat → Nat → Option (Int32 × XS)} (hro : 20 ≤ rF ∧ 400 ≤ rL) (hrec : x_R_isSo l D rF rL rec) (S : XS) (o : Nat) (p0 : Nat) {r : Int32} {S' : XS} (hf : f_X16_isSo rec S o p0 = some (r, S')) : x_Met l yX16_isSo cX16_isSo 2 (Option.some Jvm.ClassFile.FieldType.boolean) (rF + 2) (rL + 48) D [.ref o, .ref p0] S (some (.int r)) S' := by
  refine x_metI RX16 (by decide) rfl (Nat.le_of_ble_eq_true rfl) (fun p e s m args below meth c Q B hnm hret H locs hX ls hl => ?_)
  have hx := B.1
  have hb := B.2.1
  have hml := B.2.2.1
  have hown := B.2.2.2.1
  have hts := B.2.2.2.2
  have hl : lv_has ls 2 [(0, .ref o), (1, .ref p0)] := hl
  unfold f_X16_isSo at hf
  refine lv_aload_n hx hb dX16_isSo_0 rfl (lv_at hl 0 rfl) ?_
  obtain ⟨hk1, hf⟩ := chk_some hf
  obtain ⟨b2, hb2, hf⟩ := bnd_some hf
  refine xr_get (q := (RX16, TX16, 3)) B hX 0 hk1 rfl (by decide) (by decide) (v := .ref b2) (x_Vr (c := 11) (j := 0) rfl (by decide) hb2) q1103 (fun _ h => h) dX16_isSo_1 ?_
  refine lv_aload_n hx hb dX16_isSo_4 rfl (lv_at hl 0 rfl) ?_
  obtain ⟨b3, hb3, hf⟩ := bnd_some hf
  refine xr_get (q := (RX16, TX16, 3)) B hX 1 hk1 rfl (by decide) (by decide) (v := .ref b3) (x_Vr (c := 11) (j := 1) rfl (by decide) hb3) q1104 (fun _ h => h) dX16_isSo_5 ?_
  refine lv_aload_n hx hb dX16_isSo_8 rfl (lv_at hl 0 rfl) ?_
  obtain ⟨b4, hb4, hf⟩ := bnd_some hf
  refine xr_get (q := (RX16, TX16, 3)) B hX 2 hk1 rfl (by decide) (by decide) (v := .ref b4) (x_Vr (c := 11) (j := 2) rfl (by decide) hb4) q1105 (fun _ h => h) dX16_isSo_9 ?_
  refine lv_aload_n hx hb dX16_isSo_12 rfl (lv_at hl 1 rfl) ?_
  obtain ⟨⟨r5, S6⟩, hcr5, hf⟩ := bnd_some hf
  have hf := u2_at hf
  refine xr_joinIs (rest := []) B hX hro hrec hcr5 q1271 ⟨by omega, by omega⟩ hl.1 rfl (Nat.le_of_ble_eq_true rfl) dX16_isSo_13 (fun H locs hX => ?_)
  obtain ⟨hb7, hf⟩ := chk_some hf
  cases hf
  exact hret _ _ _ _ (by rcases hb7 with q | q <;> (rw [q]; rfl)) hX dX16_isSo_16
def f_X17_isSo (rec : XS → Nat → Nat → Option (Int32 × XS)) (S : XS) (o : Nat) (p0 : Nat) : Option (Int32 × XS) :=
  chk (xk S o = 12) <| bnd (xr S 1200 o 0) fun b2 => bnd (rec S b2 p0) <| u2 fun r3 S4 => (if r3 = 0 then some (nI 1, S4) else some (nI 0, S4))
set_option maxHeartbeats 4000000 in
set_option maxRecDepth 100000 in
theorem c_X17_isSo (l : Launch) (D : XD) {rF rL : Nat} {rec : XS → Nat → Nat → Option (Int32 × XS)} (hro : 20 ≤ rF ∧ 400 ≤ rL) (hrec : x_R_isSo l D rF rL rec) (S : XS) (o : Nat) (p0 : Nat) {r : Int32} {S' : XS} (hf : f_X17_isSo rec S o p0 = some (r, S')) : x_Met l yX17_isSo cX17_isSo 2 (Option.some Jvm.ClassFile.FieldType.boolean) (rF + 1) (rL + 25) D [.ref o, .ref p0] S (some (.int r)) S' := by
  refine x_metI RX17 (by decide) rfl (Nat.le_of_ble_eq_true rfl) (fun p e s m args below meth c Q B hnm hret H locs hX ls hl => ?_)
  have hx := B.1
  have hb := B.2.1
  have hml := B.2.2.1
  have hown := B.2.2.2.1
  have hts := B.2.2.2.2
  have hl : lv_has ls 2 [(0, .ref o), (1, .ref p0)] := hl
  unfold f_X17_isSo at hf
  refine lv_aload_n hx hb dX17_isSo_0 rfl (lv_at hl 0 rfl) ?_
  obtain ⟨hk1, hf⟩ := chk_some hf
  obtain ⟨b2, hb2, hf⟩ := bnd_some hf
  refine xr_get (q := (RX17, TX17, 1)) B hX 0 hk1 rfl (by decide) (by decide) (v := .ref b2) (x_Vr (c := 12) (j := 0) rfl (by decide) hb2) q1120 (fun _ h => h) dX17_isSo_1 ?_
  refine lv_aload_n hx hb dX17_isSo_4 rfl (lv_at hl 1 rfl) ?_
  obtain ⟨⟨r3, S4⟩, hcr3, hf⟩ := bnd_some hf
  have hf := u2_at hf
  refine xr_isSo (rest := []) B hX hrec hcr3 q1291 ⟨by omega, by omega⟩ hl.1 rfl (Nat.le_of_ble_eq_true rfl) dX17_isSo_5 (fun H locs hX => ?_)
  refine lv_if_ne (tgt := 15) hx hb dX17_isSo_8 (by decide) (fun c5 => ?_) (fun c5 => ?_)
  · have hf := it_neg c5 hf
    refine lv_iconst (v := nI 0) hx hb dX17_isSo_15 ic0 ?_
    cases hf
    exact hret _ _ _ _ rfl hX dX17_isSo_16
  · have hf := it_pos c5 hf
    refine lv_iconst (v := nI 1) hx hb dX17_isSo_11 ic1 ?_
    refine lv_goto (tgt := 16) hx hb dX17_isSo_12 (by decide) ?_
    cases hf
    exact hret _ _ _ _ rfl hX dX17_isSo_16
def g_isSo : Nat → XS → Nat → Nat → Option (Int32 × XS)
  | 0 => fun _ _ _ => none
  | n + 1 => fun S a w => if xk S a = 10 then f_X15_isSo (g_isSo n) S a w else if xk S a = 11 then f_X16_isSo (g_isSo n) S a w else if xk S a = 12 then f_X17_isSo (g_isSo n) S a w else if xk S a = 13 then (bnd (f_X18_isSo S a w) fun r => some (r, S)) else if xk S a = 14 then (bnd (f_X19_isSo S a w) fun r => some (r, S)) else if xk S a = 15 then (bnd (f_X20_isSo S a w) fun r => some (r, S)) else if xk S a = 16 then (bnd (f_X21_isSo S a w) fun r => some (r, S)) else none
theorem k_isSo (l : Launch) (D : XD) : ∀ n, x_R_isSo l D (20 + 2 * n) (400 + 48 * n) (g_isSo n)
  | 0 => fun S a w r S' hf => by cases hf
  | n + 1 => fun S a w r S' hf => by
    have hrec := k_isSo l D n
    rw [g_isSo] at hf
    by_cases h10 : xk S a = 10
    · have hf := it_pos h10 hf
      exact (Or.inl ⟨h10, _, _, by omega, by omega, c_X15_isSo l D ⟨by omega, by omega⟩ hrec S a w hf⟩)
    have hf := it_neg h10 hf
    by_cases h11 : xk S a = 11
    · have hf := it_pos h11 hf
      exact (Or.inr (Or.inl ⟨h11, _, _, by omega, by omega, c_X16_isSo l D ⟨by omega, by omega⟩ hrec S a w hf⟩))
    have hf := it_neg h11 hf
    by_cases h12 : xk S a = 12
    · have hf := it_pos h12 hf
      exact (Or.inr (Or.inr (Or.inl ⟨h12, _, _, by omega, by omega, c_X17_isSo l D ⟨by omega, by omega⟩ hrec S a w hf⟩)))
    have hf := it_neg h12 hf
    by_cases h13 : xk S a = 13
    · have hf := it_pos h13 hf
      obtain ⟨r1, hc, hf⟩ := bnd_some hf
      cases hf
      exact (Or.inr (Or.inr (Or.inr (Or.inl ⟨h13, _, _, by omega, by omega, c_X18_isSo l D S a w hc⟩))))
    have hf := it_neg h13 hf
    by_cases h14 : xk S a = 14
    · have hf := it_pos h14 hf
      obtain ⟨r1, hc, hf⟩ := bnd_some hf
      cases hf
      exact (Or.inr (Or.inr (Or.inr (Or.inr (Or.inl ⟨h14, _, _, by omega, by omega, c_X19_isSo l D S a w hc⟩)))))
    have hf := it_neg h14 hf
    by_cases h15 : xk S a = 15
    · have hf := it_pos h15 hf
      obtain ⟨r1, hc, hf⟩ := bnd_some hf
      cases hf
      exact (Or.inr (Or.inr (Or.inr (Or.inr (Or.inr (Or.inl ⟨h15, _, _, by omega, by omega, c_X20_isSo l D S a w hc⟩))))))
    have hf := it_neg h15 hf
    by_cases h16 : xk S a = 16
    · have hf := it_pos h16 hf
      obtain ⟨r1, hc, hf⟩ := bnd_some hf
      cases hf
      exact (Or.inr (Or.inr (Or.inr (Or.inr (Or.inr (Or.inr ⟨h16, _, _, by omega, by omega, c_X21_isSo l D S a w hc⟩))))))
    have hf := it_neg h16 hf
    cases hf
abbrev pf : Nat := 48
def f_X0_isSoIn (S : XS) (o : Nat) (p0 : Nat) (p1 : Nat) (p2 : Int64) : Option (Int32 × XS) :=
  chk (xk S o = 1) <| bnd (xr S 102 o 0) fun b2 => chk (xk S b2 = 4) <| bnd (f_X3_is S b2 p1 p2) fun S3 => chk (xk S3 o = 1) <| bnd (xr S3 102 o 0) fun b6 => bnd (g_isSo 48 S3 p0 b6) <| u2 fun r7 S8 => chk (r7 = 0 ∨ r7 = 1) <| some (r7, S8)
set_option maxHeartbeats 4000000 in
set_option maxRecDepth 100000 in
theorem c_X0_isSoIn (l : Launch) (D : XD) (S : XS) (o : Nat) (p0 : Nat) (p1 : Nat) (p2 : Int64) {r : Int32} {S' : XS} (hf : f_X0_isSoIn S o p0 p1 p2 = some (r, S')) : x_Met l yX0_isSoIn cX0_isSoIn 5 (Option.some Jvm.ClassFile.FieldType.boolean) 117 2729 D [.ref o, .ref p0, .ref p1, .long p2] S (some (.int r)) S' := by
  refine x_metI RX0 (by decide) rfl (Nat.le_of_ble_eq_true rfl) (fun p e s m args below meth c Q B hnm hret H locs hX ls hl => ?_)
  have hx := B.1
  have hb := B.2.1
  have hml := B.2.2.1
  have hown := B.2.2.2.1
  have hts := B.2.2.2.2
  have hl : lv_has ls 5 [(0, .ref o), (1, .ref p0), (2, .ref p1), (3, .long p2)] := hl
  unfold f_X0_isSoIn at hf
  refine lv_aload_n hx hb dX0_isSoIn_0 rfl (lv_at hl 0 rfl) ?_
  obtain ⟨hk1, hf⟩ := chk_some hf
  obtain ⟨b2, hb2, hf⟩ := bnd_some hf
  refine xr_get (q := (RX0, TX0, 14)) B hX 2 hk1 rfl (by decide) (by decide) (v := .ref b2) (x_Vr (c := 1) (j := 2) rfl (by decide) hb2) q341 (fun _ h => h) dX0_isSoIn_1 ?_
  refine lv_aload_n hx hb dX0_isSoIn_4 rfl (lv_at hl 2 rfl) ?_
  refine lv_lload_n hx hb dX0_isSoIn_5 rfl (lv_at hl 3 rfl) ?_
  obtain ⟨hk4, hf⟩ := chk_some hf
  obtain ⟨S3, hcS3, hf⟩ := bnd_some hf
  refine xr_callVC (rest := []) (q := (RX3, TX3, 4)) B hX (c_X3_is l D S b2 p1 p2 hcS3) hk4 rfl (by decide) q1260 q1261 (Or.inl q1262) q109 q1263 hd_X3_is ⟨Nat.le_of_ble_eq_true rfl, Nat.le_of_ble_eq_true rfl⟩ rfl hl.1 rfl (Nat.le_of_ble_eq_true rfl) dX0_isSoIn_6 (fun H locs hX => ?_)
  refine lv_aload_n hx hb dX0_isSoIn_9 rfl (lv_at hl 1 rfl) ?_
  refine lv_aload_n hx hb dX0_isSoIn_10 rfl (lv_at hl 0 rfl) ?_
  obtain ⟨hk5, hf⟩ := chk_some hf
  obtain ⟨b6, hb6, hf⟩ := bnd_some hf
  refine xr_get (q := (RX0, TX0, 14)) B hX 2 hk5 rfl (by decide) (by decide) (v := .ref b6) (x_Vr (c := 1) (j := 2) rfl (by decide) hb6) q341 (fun _ h => h) dX0_isSoIn_11 ?_
  obtain ⟨⟨r7, S8⟩, hcr7, hf⟩ := bnd_some hf
  have hf := u2_at hf
  refine xr_isSo (rest := []) B hX (k_isSo l D 48) hcr7 q1265 ⟨Nat.le_of_ble_eq_true rfl, Nat.le_of_ble_eq_true rfl⟩ hl.1 rfl (Nat.le_of_ble_eq_true rfl) dX0_isSoIn_14 (fun H locs hX => ?_)
  obtain ⟨hb9, hf⟩ := chk_some hf
  cases hf
  exact hret _ _ _ _ (by rcases hb9 with q | q <;> (rw [q]; rfl)) hX dX0_isSoIn_17
def f_X0_so (S : XS) (o : Nat) (p0 : Int32) : Option (Int32 × XS) :=
  chk (xk S o = 1) <| bnd (f_X0_isStory S o p0) fun r1 => (if r1 = 0 then (if p0 = (-1) then bnd (xr S 100 o 0) fun b19 => chk (xk S b19 = 2) <| (oc (xr S 213 b19 0) (some ((-1), S)) fun b21 => bnd (f_X0_land S o) fun b23 => bnd (xr S 100 o 0) fun b24 => chk (xk S b24 = 2) <| bnd (f_X0_isSoIn S o b21 b23 (xl S 207 b24 0)) <| u2 fun r26 S27 => (if r26 = 0 then some (nI 0, S27) else some (nI 1, S27))) else some ((-1), S)) else bnd (f_X0_story_2 S o p0) fun b29 => chk (xk S b29 = 7) <| bnd (xr S 700 b29 0) fun b31 => bnd (f_X0_land S o) fun b32 => bnd (xr S 100 o 0) fun b33 => chk (xk S b33 = 2) <| bnd (f_X0_isSoIn S o b31 b32 (xl S 207 b33 0)) <| u2 fun r35 S36 => (if r35 = 0 then some (nI 0, S36) else some (nI 1, S36)))
set_option maxHeartbeats 4000000 in
set_option maxRecDepth 100000 in
theorem c_X0_so (l : Launch) (D : XD) (S : XS) (o : Nat) (p0 : Int32) {r : Int32} {S' : XS} (hf : f_X0_so S o p0 = some (r, S')) : x_Met l yX0_so cX0_so 3 (Option.some Jvm.ClassFile.FieldType.int) 118 2753 D [.ref o, .int p0] S (some (.int r)) S' := by
  refine x_metI RX0 (by decide) rfl (Nat.le_of_ble_eq_true rfl) (fun p e s m args below meth c Q B hnm hret H locs hX ls hl => ?_)
  have hx := B.1
  have hb := B.2.1
  have hml := B.2.2.1
  have hown := B.2.2.2.1
  have hts := B.2.2.2.2
  have hl : lv_has ls 3 [(0, .ref o), (1, .int p0)] := hl
  unfold f_X0_so at hf
  refine lv_aload_n hx hb dX0_so_0 rfl (lv_at hl 0 rfl) ?_
  refine lv_iload_n hx hb dX0_so_1 rfl (lv_at hl 1 rfl) ?_
  obtain ⟨hk2, hf⟩ := chk_some hf
  obtain ⟨r1, hcr1, hf⟩ := bnd_some hf
  refine xr_callVC (rest := []) (q := (RX0, TX0, 14)) B hX (c_X0_isStory l D S o p0 hcr1) hk2 rfl (by decide) q1236 q1238 (Or.inl qs24) q103 q1239 hd_X0_isStory ⟨Nat.le_of_ble_eq_true rfl, Nat.le_of_ble_eq_true rfl⟩ rfl hl.1 rfl (Nat.le_of_ble_eq_true rfl) dX0_so_2 (fun H locs hX => ?_)
  refine lv_if_eq (tgt := 19) hx hb dX0_so_5 (by decide) (fun c3 => ?_) (fun c3 => ?_)
  · have hf := it_pos c3 hf
    refine lv_iload_n hx hb dX0_so_19 rfl (lv_at hl 1 rfl) ?_
    refine lv_iconst (v := (-1)) hx hb dX0_so_20 icm1 ?_
    refine lv_icmp_ne (tgt := 34) hx hb dX0_so_21 (by decide) (fun c13 => ?_) (fun c13 => ?_)
    · have hf := it_neg c13 hf
      refine lv_null hx hb dX0_so_34 ?_
      refine lv_astore_nN (lv' := [(2, .null), (0, .ref o), (1, .int p0)]) hx hb dX0_so_35 rfl hl (by decide) rfl (fun ls hl => ?_)
      refine lv_aload_nN hx hb dX0_so_36 rfl (lv_at hl 0 rfl) ?_
      refine lv_ifnonnullN hx hb dX0_so_37 ?_
      refine lv_iconst (v := (-1)) hx hb dX0_so_40 icm1 ?_
      refine lv_goto (tgt := 68) hx hb dX0_so_41 (by decide) ?_
      cases hf
      exact hret _ _ _ _ rfl hX dX0_so_68
    · have hf := it_pos c13 hf
      refine lv_aload_n hx hb dX0_so_24 rfl (lv_at hl 0 rfl) ?_
      obtain ⟨b19, hb19, hf⟩ := bnd_some hf
      refine xr_get (q := (RX0, TX0, 14)) B hX 0 hk2 rfl (by decide) (by decide) (v := .ref b19) (x_Vr (c := 1) (j := 0) rfl (by decide) hb19) q339 (fun _ h => h) dX0_so_25 ?_
      obtain ⟨hk20, hf⟩ := chk_some hf
      rcases ho22 : xr S 213 b19 0 with _ | b21
      · have hf := oc_none ho22 hf
        refine xr_getN (q := (RX1, TX1, 14)) B hX 13 hk20 rfl (by decide) (by decide) (v := .null) (x_Vr (c := 2) (j := 13) rfl (by decide) ho22) nq245 (fun _ h => h) dX0_so_28 ?_
        refine lv_goto (tgt := 35) hx hb dX0_so_31 (by decide) ?_
        refine lv_astore_nN (lv' := [(2, .null), (0, .ref o), (1, .int p0)]) hx hb dX0_so_35 rfl hl (by decide) rfl (fun ls hl => ?_)
        refine lv_aload_nN hx hb dX0_so_36 rfl (lv_at hl 0 rfl) ?_
        refine lv_ifnonnullN hx hb dX0_so_37 ?_
        refine lv_iconst (v := (-1)) hx hb dX0_so_40 icm1 ?_
        refine lv_goto (tgt := 68) hx hb dX0_so_41 (by decide) ?_
        cases hf
        exact hret _ _ _ _ rfl hX dX0_so_68
      · have hf := oc_some ho22 hf
        refine xr_getN (q := (RX1, TX1, 14)) B hX 13 hk20 rfl (by decide) (by decide) (v := .ref b21) (x_Vr (c := 2) (j := 13) rfl (by decide) ho22) nq245 (fun _ h => h) dX0_so_28 ?_
        refine lv_goto (tgt := 35) hx hb dX0_so_31 (by decide) ?_
        refine lv_astore_n (lv' := [(2, .ref b21), (0, .ref o), (1, .int p0)]) hx hb dX0_so_35 rfl hl (by decide) rfl (fun ls hl => ?_)
        refine lv_aload_n hx hb dX0_so_36 rfl (lv_at hl 0 rfl) ?_
        refine lv_ifnonnull (tgt := 44) hx hb dX0_so_37 (by decide) ?_
        refine lv_aload_n hx hb dX0_so_44 rfl (lv_at hl 1 rfl) ?_
        refine lv_aload_n hx hb dX0_so_45 rfl (lv_at hl 0 rfl) ?_
        refine lv_aload_n hx hb dX0_so_46 rfl (lv_at hl 1 rfl) ?_
        obtain ⟨b23, hcb23, hf⟩ := bnd_some hf
        refine xr_callVC (rest := [.ref b21, .ref o]) (q := (RX0, TX0, 14)) B hX (c_X0_land l D S o hcb23) hk2 rfl (by decide) q393 q395 (Or.inl qs0) q103 q396 hd_X0_land ⟨Nat.le_of_ble_eq_true rfl, Nat.le_of_ble_eq_true rfl⟩ rfl hl.1 rfl (Nat.le_of_ble_eq_true rfl) dX0_so_47 (fun H locs hX => ?_)
        refine lv_aload_n hx hb dX0_so_50 rfl (lv_at hl 1 rfl) ?_
        obtain ⟨b24, hb24, hf⟩ := bnd_some hf
        refine xr_get (q := (RX0, TX0, 14)) B hX 0 hk2 rfl (by decide) (by decide) (v := .ref b24) (x_Vr (c := 1) (j := 0) rfl (by decide) hb24) q339 (fun _ h => h) dX0_so_51 ?_
        obtain ⟨hk25, hf⟩ := chk_some hf
        refine xr_getN (q := (RX1, TX1, 14)) B hX 7 hk25 rfl (by decide) (by decide) (x_Vl rfl (by decide)) nq233 (fun _ h => h) dX0_so_54 ?_
        obtain ⟨⟨r26, S27⟩, hcr26, hf⟩ := bnd_some hf
        have hf := u2_at hf
        refine xr_callVC (rest := []) (q := (RX0, TX0, 14)) B hX (c_X0_isSoIn l D S o b21 b23 (xl S 207 b24 0) hcr26) hk2 rfl (by decide) q1256 q1258 (Or.inl qs26) q103 q1259 hd_X0_isSoIn ⟨Nat.le_of_ble_eq_true rfl, Nat.le_of_ble_eq_true rfl⟩ rfl hl.1 rfl (Nat.le_of_ble_eq_true rfl) dX0_so_57 (fun H locs hX => ?_)
        refine lv_if_eq (tgt := 67) hx hb dX0_so_60 (by decide) (fun c28 => ?_) (fun c28 => ?_)
        · have hf := it_pos c28 hf
          refine lv_iconst (v := nI 0) hx hb dX0_so_67 ic0 ?_
          cases hf
          exact hret _ _ _ _ rfl hX dX0_so_68
        · have hf := it_neg c28 hf
          refine lv_iconst (v := nI 1) hx hb dX0_so_63 ic1 ?_
          refine lv_goto (tgt := 68) hx hb dX0_so_64 (by decide) ?_
          cases hf
          exact hret _ _ _ _ rfl hX dX0_so_68
  · have hf := it_neg c3 hf
    refine lv_aload_n hx hb dX0_so_8 rfl (lv_at hl 0 rfl) ?_
    refine lv_iload_n hx hb dX0_so_9 rfl (lv_at hl 1 rfl) ?_
    obtain ⟨b29, hcb29, hf⟩ := bnd_some hf
    refine xr_callVC (rest := []) (q := (RX0, TX0, 14)) B hX (c_X0_story_2 l D S o p0 hcb29) hk2 rfl (by decide) q1240 q1242 (Or.inl qs25) q103 q1243 hd_X0_story_2 ⟨Nat.le_of_ble_eq_true rfl, Nat.le_of_ble_eq_true rfl⟩ rfl hl.1 rfl (Nat.le_of_ble_eq_true rfl) dX0_so_10 (fun H locs hX => ?_)
    obtain ⟨hk30, hf⟩ := chk_some hf
    obtain ⟨b31, hb31, hf⟩ := bnd_some hf
    refine xr_getN (q := (RX10, TX10, 3)) B hX 0 hk30 rfl (by decide) (by decide) (v := .ref b31) (x_Vr (c := 7) (j := 0) rfl (by decide) hb31) nq1208 (fun _ h => h) dX0_so_13 ?_
    refine lv_goto (tgt := 35) hx hb dX0_so_16 (by decide) ?_
    refine lv_astore_n (lv' := [(2, .ref b31), (0, .ref o), (1, .int p0)]) hx hb dX0_so_35 rfl hl (by decide) rfl (fun ls hl => ?_)
    refine lv_aload_n hx hb dX0_so_36 rfl (lv_at hl 0 rfl) ?_
    refine lv_ifnonnull (tgt := 44) hx hb dX0_so_37 (by decide) ?_
    refine lv_aload_n hx hb dX0_so_44 rfl (lv_at hl 1 rfl) ?_
    refine lv_aload_n hx hb dX0_so_45 rfl (lv_at hl 0 rfl) ?_
    refine lv_aload_n hx hb dX0_so_46 rfl (lv_at hl 1 rfl) ?_
    obtain ⟨b32, hcb32, hf⟩ := bnd_some hf
    refine xr_callVC (rest := [.ref b31, .ref o]) (q := (RX0, TX0, 14)) B hX (c_X0_land l D S o hcb32) hk2 rfl (by decide) q393 q395 (Or.inl qs0) q103 q396 hd_X0_land ⟨Nat.le_of_ble_eq_true rfl, Nat.le_of_ble_eq_true rfl⟩ rfl hl.1 rfl (Nat.le_of_ble_eq_true rfl) dX0_so_47 (fun H locs hX => ?_)
    refine lv_aload_n hx hb dX0_so_50 rfl (lv_at hl 1 rfl) ?_
    obtain ⟨b33, hb33, hf⟩ := bnd_some hf
    refine xr_get (q := (RX0, TX0, 14)) B hX 0 hk2 rfl (by decide) (by decide) (v := .ref b33) (x_Vr (c := 1) (j := 0) rfl (by decide) hb33) q339 (fun _ h => h) dX0_so_51 ?_
    obtain ⟨hk34, hf⟩ := chk_some hf
    refine xr_getN (q := (RX1, TX1, 14)) B hX 7 hk34 rfl (by decide) (by decide) (x_Vl rfl (by decide)) nq233 (fun _ h => h) dX0_so_54 ?_
    obtain ⟨⟨r35, S36⟩, hcr35, hf⟩ := bnd_some hf
    have hf := u2_at hf
    refine xr_callVC (rest := []) (q := (RX0, TX0, 14)) B hX (c_X0_isSoIn l D S o b31 b32 (xl S 207 b33 0) hcr35) hk2 rfl (by decide) q1256 q1258 (Or.inl qs26) q103 q1259 hd_X0_isSoIn ⟨Nat.le_of_ble_eq_true rfl, Nat.le_of_ble_eq_true rfl⟩ rfl hl.1 rfl (Nat.le_of_ble_eq_true rfl) dX0_so_57 (fun H locs hX => ?_)
    refine lv_if_eq (tgt := 67) hx hb dX0_so_60 (by decide) (fun c37 => ?_) (fun c37 => ?_)
    · have hf := it_pos c37 hf
      refine lv_iconst (v := nI 0) hx hb dX0_so_67 ic0 ?_
      cases hf
      exact hret _ _ _ _ rfl hX dX0_so_68
    · have hf := it_neg c37 hf
      refine lv_iconst (v := nI 1) hx hb dX0_so_63 ic1 ?_
      refine lv_goto (tgt := 68) hx hb dX0_so_64 (by decide) ?_
      cases hf
      exact hret _ _ _ _ rfl hX dX0_so_68
def x_R_breaksAt (l : Launch) (D : XD) (F Lo : Nat) (rec : XS → Nat → Nat → Option (Int32 × XS)) : Prop := ∀ S o a r S', rec S o a = some (r, S') → x_Met l yX0_breaksAt cX0_breaksAt 5 (Option.some Jvm.ClassFile.FieldType.boolean) F Lo D [.ref o, .ref a] S (some (.int r)) S'
def f_X0_breaksAt_L58 (rec : XS → Nat → Nat → Option (Int32 × XS)) (o : Nat) (p0 : Nat) (x12 : Int32) (S13 : XS) : Option ((Int32 × XS) ⊕ ((XS) ⊕ (XS))) :=
  chk (xk S13 o = 1) <| bnd (xr S13 102 o 0) fun b15 => chk (xk S13 b15 = 4) <| bnd (xr S13 400 b15 0) fun b17 => chk (xk S13 p0 = 10) <| chk (xk S13 b17 = 3) <| bnd (f_X2_size S13 b17 (xi S13 1003 p0 0)) fun r19 => (if r19 ≤ x12 then some (.inr (.inr S13)) else bnd (xr S13 102 o 0) fun b22 => chk (xk S13 b22 = 4) <| bnd (xr S13 403 b22 0) fun b24 => chk (xk S13 b24 = 52) <| chk (xb S13 ≤ b24) <| ast (xn S13 b24) (xi S13 1002 p0 0) (s_i S13 52 b24 (xi S13 1002 p0 0).toNatClampNeg x12) fun S27 => bnd (xr S27 103 o 0) fun b28 => bnd (f_J18_valueOf S27 x12) <| u2 fun b29 S30 => chk (xk S30 b28 = 19) <| bnd (f_J2_add S30 b28 b29) <| u2 fun r31 S32 => chk (xk S32 p0 = 10) <| bnd (xr S32 1004 p0 0) fun b35 => chk (xk S32 o = 1) <| bnd (rec S32 o b35) <| u2 fun r36 S37 => (if r36 = 0 then chk (xk S37 o = 1) <| bnd (xr S37 103 o 0) fun b41 => bnd (xr S37 103 o 0) fun b42 => chk (xk S37 b42 = 19) <| bnd (f_J2_size S37 b42) fun r43 => chk (xk S37 b41 = 19) <| bnd (f_J2_remove S37 b41 (r43 - nI 1)) <| u2 fun b45 S46 => bd (x12 + nI 1) fun x48 => some (.inl (x48, S46)) else some (.inr (.inl S37))))
def f_X0_breaksAt (rec : XS → Nat → Nat → Option (Int32 × XS)) (S : XS) (o : Nat) (p0 : Nat) : Option (Int32 × XS) :=
  (if xk S p0 = 10 then bnd (xr S 1000 p0 0) fun b3 => bnd (xs S 9) fun b4 => (if (some b3 : Option Nat) = some b4 then chk (xk S o = 1) <| bnd (xr S 102 o 0) fun b7 => chk (xk S b7 = 4) <| bnd (xr S 403 b7 0) fun b9 => chk (xk S b9 = 52) <| ald (xn S b9) (xi S 52 b9) (xi S 1002 p0 0) fun v11 => bnd (wO (fun t : Int32 × XS => f_X0_breaksAt_L58 rec o p0 t.1 t.2) fu (nI 0, S)) (Sum.elim (fun S51 => some (nI 1, S51)) (fun S52 => chk (xk S52 o = 1) <| bnd (xr S52 102 o 0) fun b54 => chk (xk S52 b54 = 4) <| bnd (xr S52 403 b54 0) fun b56 => chk (xk S52 p0 = 10) <| chk (xk S52 b56 = 52) <| chk (xb S52 ≤ b56) <| ast (xn S52 b56) (xi S52 1002 p0 0) (s_i S52 52 b56 (xi S52 1002 p0 0).toNatClampNeg v11) fun S60 => some (nI 0, S60))) else chk (xk S o = 1) <| bnd (xr S 102 o 0) fun b62 => bnd (g_isSo 48 S p0 b62) <| u2 fun r63 S64 => (if r63 = 0 then some (nI 1, S64) else some (nI 0, S64))) else chk (11 ≤ xk S p0 ∧ xk S p0 ≤ 16) <| chk (xk S o = 1) <| bnd (xr S 102 o 0) fun b68 => bnd (g_isSo 48 S p0 b68) <| u2 fun r69 S70 => (if r69 = 0 then some (nI 1, S70) else some (nI 0, S70)))
set_option maxHeartbeats 4000000 in
set_option maxRecDepth 100000 in
theorem c_X0_breaksAt (l : Launch) (D : XD) {rF rL : Nat} {rec : XS → Nat → Nat → Option (Int32 × XS)} (hro : 200 ≤ rF ∧ 10000 ≤ rL) (hrec : x_R_breaksAt l D rF rL rec) (S : XS) (o : Nat) (p0 : Nat) {r : Int32} {S' : XS} (hf : f_X0_breaksAt rec S o p0 = some (r, S')) : x_Met l yX0_breaksAt cX0_breaksAt 5 (Option.some Jvm.ClassFile.FieldType.boolean) (rF + 1) (rL + 24) D [.ref o, .ref p0] S (some (.int r)) S' := by
  refine x_metI RX0 (by decide) rfl (Nat.le_of_ble_eq_true rfl) (fun p e s m args below meth c Q B hnm hret H locs hX ls hl => ?_)
  have hx := B.1
  have hb := B.2.1
  have hml := B.2.2.1
  have hown := B.2.2.2.1
  have hts := B.2.2.2.2
  have hl : lv_has ls 5 [(0, .ref o), (1, .ref p0)] := hl
  unfold f_X0_breaksAt at hf
  refine lv_aload_n hx hb dX0_breaksAt_0 rfl (lv_at hl 1 rfl) ?_
  by_cases c1 : xk S p0 = 10
  · have hf := it_pos c1 hf
    refine xr_instY (q := (RX15, TX15, 5)) B hX c1 rfl (by decide) q1357 (Or.inr ⟨rfl, by decide⟩) dX0_breaksAt_1 ?_
    refine lv_if_eq (tgt := 20) hx hb dX0_breaksAt_4 (by decide) (fun c2 => ?_) (fun c2 => ?_)
    · exact absurd c2 (by decide)
    · refine lv_aload_n hx hb dX0_breaksAt_7 rfl (lv_at hl 1 rfl) ?_
      refine xr_castY (q := (RX15, TX15, 5)) B hX c1 rfl (by decide) q1357 (Or.inr ⟨rfl, by decide⟩) dX0_breaksAt_8 ?_
      obtain ⟨b3, hb3, hf⟩ := bnd_some hf
      refine xr_getN (q := (RX15, TX15, 5)) B hX 0 c1 rfl (by decide) (by decide) (v := .ref b3) (x_Vr (c := 10) (j := 0) rfl (by decide) hb3) nq1076 (fun _ h => h) dX0_breaksAt_11 ?_
      obtain ⟨b4, hb4, hf⟩ := bnd_some hf
      refine xr_gets B hX (v := .ref b4) (x_statR hX 9 rfl hb4) q1358 dX0_breaksAt_14 ?_
      refine lv_acmp_eq (rx := some b3) (ry := some b4) (tgt := 37) hx hb dX0_breaksAt_17 (by decide) (fun c5 => ?_) (fun c5 => ?_)
      · have hf := it_pos c5 hf
        refine lv_aload_n hx hb dX0_breaksAt_37 rfl (lv_at hl 1 rfl) ?_
        refine xr_castY (q := (RX15, TX15, 5)) B hX c1 rfl (by decide) q1357 (Or.inr ⟨rfl, by decide⟩) dX0_breaksAt_38 ?_
        refine lv_astore_n (lv' := [(2, .ref p0), (0, .ref o), (1, .ref p0)]) hx hb dX0_breaksAt_41 rfl hl (by decide) rfl (fun ls hl => ?_)
        refine lv_aload_n hx hb dX0_breaksAt_42 rfl (lv_at hl 1 rfl) ?_
        obtain ⟨hk6, hf⟩ := chk_some hf
        obtain ⟨b7, hb7, hf⟩ := bnd_some hf
        refine xr_get (q := (RX0, TX0, 14)) B hX 2 hk6 rfl (by decide) (by decide) (v := .ref b7) (x_Vr (c := 1) (j := 2) rfl (by decide) hb7) q341 (fun _ h => h) dX0_breaksAt_43 ?_
        obtain ⟨hk8, hf⟩ := chk_some hf
        obtain ⟨b9, hb9, hf⟩ := bnd_some hf
        refine xr_getN (q := (RX3, TX3, 4)) B hX 3 hk8 rfl (by decide) (by decide) (v := .ref b9) (x_Vr (c := 4) (j := 3) rfl (by decide) hb9) nq293 (fun _ h => h) dX0_breaksAt_46 ?_
        refine lv_aload_n hx hb dX0_breaksAt_49 rfl (lv_at hl 0 rfl) ?_
        refine xr_getN (q := (RX15, TX15, 5)) B hX 2 c1 rfl (by decide) (by decide) (x_Vi rfl (by decide)) nq1079 (fun _ h => h) dX0_breaksAt_50 ?_
        obtain ⟨hk10, hf⟩ := chk_some hf
        obtain ⟨v11, ev11, hiv11, hf⟩ := ald_some hf
        refine xr_iald B hX hk10 hiv11 ev11 dX0_breaksAt_53 ?_
        refine lv_istore_n (lv' := [(3, .int v11), (2, .ref p0), (0, .ref o), (1, .ref p0)]) hx hb dX0_breaksAt_54 rfl hl (by decide) rfl (fun ls hl => ?_)
        refine lv_iconst (v := nI 0) hx hb dX0_breaksAt_55 ic0 ?_
        refine lv_istore (lv' := [(4, .int (nI 0)), (3, .int v11), (2, .ref p0), (0, .ref o), (1, .ref p0)]) hx hb dX0_breaksAt_56 hl (by decide) rfl (fun ls hl => ?_)
        obtain ⟨y50, hxy50, hf⟩ := bnd_some hf
        have hy50 : (Sum.elim (fun t : XS => ∀ (H : Heap) (locs : List Loc) (ls : Array Slot), x_I D S s H locs t → lv_has ls 5 [] → W p l e (x_R (rF + 1) (rL + 24) S) s m args below meth c H locs (xz t - xz S) (xu t - xu S) Q (F0 m 115 ls [])) (fun t : XS => ∀ (H : Heap) (locs : List Loc) (ls : Array Slot), x_I D S s H locs t → lv_has ls 5 [(0, .ref o), (2, .ref p0), (3, .int v11)] → W p l e (x_R (rF + 1) (rL + 24) S) s m args below meth c H locs (xz t - xz S) (xu t - xu S) Q (F0 m 140 ls []))) y50 := by
          rcases y50 with S51 | S52
          · have hf := el_l hf
            intro H locs ls hX hl
            refine lv_iconst (v := nI 1) hx hb dX0_breaksAt_115 ic1 ?_
            cases hf
            exact hret _ _ _ _ rfl hX dX0_breaksAt_116
          · have hf := el_r hf
            intro H locs ls hX hl
            refine lv_aload_n hx hb dX0_breaksAt_140 rfl (lv_at hl 0 rfl) ?_
            obtain ⟨hk53, hf⟩ := chk_some hf
            obtain ⟨b54, hb54, hf⟩ := bnd_some hf
            refine xr_get (q := (RX0, TX0, 14)) B hX 2 hk53 rfl (by decide) (by decide) (v := .ref b54) (x_Vr (c := 1) (j := 2) rfl (by decide) hb54) q341 (fun _ h => h) dX0_breaksAt_141 ?_
            obtain ⟨hk55, hf⟩ := chk_some hf
            obtain ⟨b56, hb56, hf⟩ := bnd_some hf
            refine xr_getN (q := (RX3, TX3, 4)) B hX 3 hk55 rfl (by decide) (by decide) (v := .ref b56) (x_Vr (c := 4) (j := 3) rfl (by decide) hb56) nq293 (fun _ h => h) dX0_breaksAt_144 ?_
            refine lv_aload_n hx hb dX0_breaksAt_147 rfl (lv_at hl 1 rfl) ?_
            obtain ⟨hk57, hf⟩ := chk_some hf
            refine xr_getN (q := (RX15, TX15, 5)) B hX 2 hk57 rfl (by decide) (by decide) (x_Vi rfl (by decide)) nq1079 (fun _ h => h) dX0_breaksAt_148 ?_
            refine lv_iload_n hx hb dX0_breaksAt_151 rfl (lv_at hl 2 rfl) ?_
            obtain ⟨hk58, hf⟩ := chk_some hf
            obtain ⟨hw59, hf⟩ := chk_some hf
            obtain ⟨S60, eS60, hiS60, hf⟩ := ast_some hf
            refine xr_iast B hX hk58 hw59 hiS60 eS60 dX0_breaksAt_152 (fun H locs hX => ?_)
            refine w_i eS60 ?_
            have hk53 := ks_i eS60 hk53
            have hk55 := ks_i eS60 hk55
            have hk57 := ks_i eS60 hk57
            have hk58 := ks_i eS60 hk58
            have hw59 := kw_i eS60 hw59
            refine lv_iconst (v := nI 0) hx hb dX0_breaksAt_153 ic0 ?_
            cases hf
            exact hret _ _ _ _ rfl hX dX0_breaksAt_154
        refine lp_W (step := (fun t : Int32 × XS => f_X0_breaksAt_L58 rec o p0 t.1 t.2)) (fun t : Int32 × XS => ∀ (H : Heap) (locs : List Loc) (ls : Array Slot), x_I D S s H locs t.2 → lv_has ls 5 [(0, .ref o), (2, .ref p0), (3, .int v11), (4, .int t.1)] → W p l e (x_R (rF + 1) (rL + 24) S) s m args below meth c H locs (xz t.2 - xz S) (xu t.2 - xu S) Q (F0 m 58 ls [])) (Sum.elim (fun t : XS => ∀ (H : Heap) (locs : List Loc) (ls : Array Slot), x_I D S s H locs t → lv_has ls 5 [] → W p l e (x_R (rF + 1) (rL + 24) S) s m args below meth c H locs (xz t - xz S) (xu t - xu S) Q (F0 m 115 ls [])) (fun t : XS => ∀ (H : Heap) (locs : List Loc) (ls : Array Slot), x_I D S s H locs t → lv_has ls 5 [(0, .ref o), (2, .ref p0), (3, .int v11)] → W p l e (x_R (rF + 1) (rL + 24) S) s m args below meth c H locs (xz t - xz S) (xu t - xu S) Q (F0 m 140 ls []))) ?_ fu (nI 0, S) y50 hxy50 hy50 _ _ _ hX (lv_sub hl [3, 2, 1, 0] rfl)
        clear hf hxy50 hy50
        rintro ⟨x12, S13⟩ oo (hf : f_X0_breaksAt_L58 rec o p0 x12 S13 = some oo) hk
        intro H locs ls hX hl
        unfold f_X0_breaksAt_L58 at hf
        refine lv_iload hx hb dX0_breaksAt_58 (lv_at hl 3 rfl) ?_
        refine lv_aload_n hx hb dX0_breaksAt_60 rfl (lv_at hl 0 rfl) ?_
        obtain ⟨hk14, hf⟩ := chk_some hf
        obtain ⟨b15, hb15, hf⟩ := bnd_some hf
        refine xr_get (q := (RX0, TX0, 14)) B hX 2 hk14 rfl (by decide) (by decide) (v := .ref b15) (x_Vr (c := 1) (j := 2) rfl (by decide) hb15) q341 (fun _ h => h) dX0_breaksAt_61 ?_
        obtain ⟨hk16, hf⟩ := chk_some hf
        obtain ⟨b17, hb17, hf⟩ := bnd_some hf
        refine xr_getN (q := (RX3, TX3, 4)) B hX 0 hk16 rfl (by decide) (by decide) (v := .ref b17) (x_Vr (c := 4) (j := 0) rfl (by decide) hb17) nq285 (fun _ h => h) dX0_breaksAt_64 ?_
        refine lv_aload_n hx hb dX0_breaksAt_67 rfl (lv_at hl 1 rfl) ?_
        obtain ⟨hk18, hf⟩ := chk_some hf
        refine xr_getN (q := (RX15, TX15, 5)) B hX 3 hk18 rfl (by decide) (by decide) (x_Vi rfl (by decide)) nq1081 (fun _ h => h) dX0_breaksAt_68 ?_
        obtain ⟨hk20, hf⟩ := chk_some hf
        obtain ⟨r19, hcr19, hf⟩ := bnd_some hf
        refine xr_callVC (rest := [.int x12]) (q := (RX2, TX2, 2)) B hX (c_X2_size l D S13 b17 (xi S13 1003 p0 0) hcr19) hk20 rfl (by decide) q397 q398 (Or.inl q399) q105 q400 hd_X2_size ⟨by omega, by omega⟩ rfl hl.1 rfl (Nat.le_of_ble_eq_true rfl) dX0_breaksAt_71 (fun H locs hX => ?_)
        refine lv_icmp_ge (tgt := 140) hx hb dX0_breaksAt_74 (by decide) (fun c21 => ?_) (fun c21 => ?_)
        · have hf := it_pos c21 hf
          cases hf
          exact hk _ _ _ hX (lv_sub hl [0, 1, 2] rfl)
        · have hf := it_neg c21 hf
          refine lv_aload_n hx hb dX0_breaksAt_77 rfl (lv_at hl 0 rfl) ?_
          obtain ⟨b22, hb22, hf⟩ := bnd_some hf
          refine xr_get (q := (RX0, TX0, 14)) B hX 2 hk14 rfl (by decide) (by decide) (v := .ref b22) (x_Vr (c := 1) (j := 2) rfl (by decide) hb22) q341 (fun _ h => h) dX0_breaksAt_78 ?_
          obtain ⟨hk23, hf⟩ := chk_some hf
          obtain ⟨b24, hb24, hf⟩ := bnd_some hf
          refine xr_getN (q := (RX3, TX3, 4)) B hX 3 hk23 rfl (by decide) (by decide) (v := .ref b24) (x_Vr (c := 4) (j := 3) rfl (by decide) hb24) nq293 (fun _ h => h) dX0_breaksAt_81 ?_
          refine lv_aload_n hx hb dX0_breaksAt_84 rfl (lv_at hl 1 rfl) ?_
          refine xr_getN (q := (RX15, TX15, 5)) B hX 2 hk18 rfl (by decide) (by decide) (x_Vi rfl (by decide)) nq1079 (fun _ h => h) dX0_breaksAt_85 ?_
          refine lv_iload hx hb dX0_breaksAt_88 (lv_at hl 3 rfl) ?_
          obtain ⟨hk25, hf⟩ := chk_some hf
          obtain ⟨hw26, hf⟩ := chk_some hf
          obtain ⟨S27, eS27, hiS27, hf⟩ := ast_some hf
          refine xr_iast B hX hk25 hw26 hiS27 eS27 dX0_breaksAt_90 (fun H locs hX => ?_)
          refine w_i eS27 ?_
          have hk14 := ks_i eS27 hk14
          have hk16 := ks_i eS27 hk16
          have hk18 := ks_i eS27 hk18
          have hk20 := ks_i eS27 hk20
          have hk23 := ks_i eS27 hk23
          have hk25 := ks_i eS27 hk25
          have hw26 := kw_i eS27 hw26
          refine lv_aload_n hx hb dX0_breaksAt_91 rfl (lv_at hl 0 rfl) ?_
          obtain ⟨b28, hb28, hf⟩ := bnd_some hf
          refine xr_get (q := (RX0, TX0, 14)) B hX 3 hk14 rfl (by decide) (by decide) (v := .ref b28) (x_Vr (c := 1) (j := 3) rfl (by decide) hb28) q342 (fun _ h => h) dX0_breaksAt_92 ?_
          refine lv_iload hx hb dX0_breaksAt_95 (lv_at hl 3 rfl) ?_
          obtain ⟨⟨b29, S30⟩, hcb29, hf⟩ := bnd_some hf
          have hf := u2_at hf
          refine xr_callSC (rest := [.ref b28]) B hX (c_J18_valueOf l D S27 x12 hcb29) q1360 q1361 q146 q1362 hd_J18_valueOf ⟨by omega, by omega⟩ rfl hl.1 rfl (Nat.le_of_ble_eq_true rfl) dX0_breaksAt_97 (fun H locs hX => ?_)
          obtain ⟨hk33, hf⟩ := chk_some hf
          obtain ⟨⟨r31, S32⟩, hcr31, hf⟩ := bnd_some hf
          have hf := u2_at hf
          refine xr_callVC (rest := []) (q := (RJ2, TJ2, 3)) B hX (c_J2_add l D S30 b28 b29 hcr31) hk33 rfl (by decide) q434 q435 (Or.inl q436) q108 q437 hd_J2_add ⟨by omega, by omega⟩ rfl hl.1 rfl (Nat.le_of_ble_eq_true rfl) dX0_breaksAt_100 (fun H locs hX => ?_)
          refine lv_pop hx hb dX0_breaksAt_103 rfl ?_
          refine lv_aload_n hx hb dX0_breaksAt_104 rfl (lv_at hl 0 rfl) ?_
          refine lv_aload_n hx hb dX0_breaksAt_105 rfl (lv_at hl 1 rfl) ?_
          obtain ⟨hk34, hf⟩ := chk_some hf
          obtain ⟨b35, hb35, hf⟩ := bnd_some hf
          refine xr_getN (q := (RX15, TX15, 5)) B hX 4 hk34 rfl (by decide) (by decide) (v := .ref b35) (x_Vr (c := 10) (j := 4) rfl (by decide) hb35) nq1083 (fun _ h => h) dX0_breaksAt_106 ?_
          obtain ⟨hk38, hf⟩ := chk_some hf
          obtain ⟨⟨r36, S37⟩, hcr36, hf⟩ := bnd_some hf
          have hf := u2_at hf
          refine xr_callVC (rest := []) (q := (RX0, TX0, 14)) B hX (hrec _ _ _ _ _ hcr36) hk38 rfl (by decide) q1353 q1355 (Or.inl qs27) q103 q1356 hd_X0_breaksAt ⟨by omega, by omega⟩ rfl hl.1 rfl (Nat.le_of_ble_eq_true rfl) dX0_breaksAt_109 (fun H locs hX => ?_)
          refine lv_if_eq (tgt := 117) hx hb dX0_breaksAt_112 (by decide) (fun c39 => ?_) (fun c39 => ?_)
          · have hf := it_pos c39 hf
            refine lv_aload_n hx hb dX0_breaksAt_117 rfl (lv_at hl 0 rfl) ?_
            obtain ⟨hk40, hf⟩ := chk_some hf
            obtain ⟨b41, hb41, hf⟩ := bnd_some hf
            refine xr_get (q := (RX0, TX0, 14)) B hX 3 hk40 rfl (by decide) (by decide) (v := .ref b41) (x_Vr (c := 1) (j := 3) rfl (by decide) hb41) q342 (fun _ h => h) dX0_breaksAt_118 ?_
            refine lv_aload_n hx hb dX0_breaksAt_121 rfl (lv_at hl 0 rfl) ?_
            obtain ⟨b42, hb42, hf⟩ := bnd_some hf
            refine xr_get (q := (RX0, TX0, 14)) B hX 3 hk40 rfl (by decide) (by decide) (v := .ref b42) (x_Vr (c := 1) (j := 3) rfl (by decide) hb42) q342 (fun _ h => h) dX0_breaksAt_122 ?_
            obtain ⟨hk44, hf⟩ := chk_some hf
            obtain ⟨r43, hcr43, hf⟩ := bnd_some hf
            refine xr_callVC (rest := [.ref b41]) (q := (RJ2, TJ2, 3)) B hX (c_J2_size l D S37 b42 hcr43) hk44 rfl (by decide) q409 q410 (Or.inl q411) q108 q412 hd_J2_size ⟨by omega, by omega⟩ rfl hl.1 rfl (Nat.le_of_ble_eq_true rfl) dX0_breaksAt_125 (fun H locs hX => ?_)
            refine lv_iconst (v := nI 1) hx hb dX0_breaksAt_128 ic1 ?_
            refine lv_isub hx hb dX0_breaksAt_129 ?_
            obtain ⟨hk47, hf⟩ := chk_some hf
            obtain ⟨⟨b45, S46⟩, hcb45, hf⟩ := bnd_some hf
            have hf := u2_at hf
            refine xr_callVC (rest := []) (q := (RJ2, TJ2, 3)) B hX (c_J2_remove l D S37 b41 (r43 - nI 1) hcb45) hk47 rfl (by decide) q1380 q1381 (Or.inl q1382) q108 q1383 hd_J2_remove ⟨by omega, by omega⟩ rfl hl.1 rfl (Nat.le_of_ble_eq_true rfl) dX0_breaksAt_130 (fun H locs hX => ?_)
            refine lv_pop hx hb dX0_breaksAt_133 rfl ?_
            obtain ⟨x48, ex48, hf⟩ := bd_some hf
            refine lv_iinc (v := x48) (lv' := [(4, .int x48), (0, .ref o), (2, .ref p0), (3, .int v11)]) hx hb dX0_breaksAt_134 hl (k := 3) rfl (by rw [ex48]; first | done | rfl) (by decide) rfl (fun ls hl => ?_)
            refine lv_goto (tgt := 58) hx hb dX0_breaksAt_137 (by decide) ?_
            cases hf
            exact hk _ _ _ hX (lv_sub hl [1, 2, 3, 0] rfl)
          · have hf := it_neg c39 hf
            cases hf
            exact hk _ _ _ hX (lv_sub hl [] rfl)
      · have hf := it_neg c5 hf
        refine lv_aload_n hx hb dX0_breaksAt_20 rfl (lv_at hl 1 rfl) ?_
        refine lv_aload_n hx hb dX0_breaksAt_21 rfl (lv_at hl 0 rfl) ?_
        obtain ⟨hk61, hf⟩ := chk_some hf
        obtain ⟨b62, hb62, hf⟩ := bnd_some hf
        refine xr_get (q := (RX0, TX0, 14)) B hX 2 hk61 rfl (by decide) (by decide) (v := .ref b62) (x_Vr (c := 1) (j := 2) rfl (by decide) hb62) q341 (fun _ h => h) dX0_breaksAt_22 ?_
        obtain ⟨⟨r63, S64⟩, hcr63, hf⟩ := bnd_some hf
        have hf := u2_at hf
        refine xr_isSo (rest := []) B hX (k_isSo l D 48) hcr63 q1265 ⟨by omega, by omega⟩ hl.1 rfl (Nat.le_of_ble_eq_true rfl) dX0_breaksAt_25 (fun H locs hX => ?_)
        refine lv_if_ne (tgt := 35) hx hb dX0_breaksAt_28 (by decide) (fun c65 => ?_) (fun c65 => ?_)
        · have hf := it_neg c65 hf
          refine lv_iconst (v := nI 0) hx hb dX0_breaksAt_35 ic0 ?_
          cases hf
          exact hret _ _ _ _ rfl hX dX0_breaksAt_36
        · have hf := it_pos c65 hf
          refine lv_iconst (v := nI 1) hx hb dX0_breaksAt_31 ic1 ?_
          refine lv_goto (tgt := 36) hx hb dX0_breaksAt_32 (by decide) ?_
          cases hf
          exact hret _ _ _ _ rfl hX dX0_breaksAt_36
  · have hf := it_neg c1 hf
    obtain ⟨hk72, hf⟩ := chk_some hf
    refine xr_instP B hX hk72 q1357 dX0_breaksAt_1 ?_
    refine lv_if_eq (tgt := 20) hx hb dX0_breaksAt_4 (by decide) (fun c66 => ?_) (fun c66 => ?_)
    · refine lv_aload_n hx hb dX0_breaksAt_20 rfl (lv_at hl 1 rfl) ?_
      refine lv_aload_n hx hb dX0_breaksAt_21 rfl (lv_at hl 0 rfl) ?_
      obtain ⟨hk67, hf⟩ := chk_some hf
      obtain ⟨b68, hb68, hf⟩ := bnd_some hf
      refine xr_get (q := (RX0, TX0, 14)) B hX 2 hk67 rfl (by decide) (by decide) (v := .ref b68) (x_Vr (c := 1) (j := 2) rfl (by decide) hb68) q341 (fun _ h => h) dX0_breaksAt_22 ?_
      obtain ⟨⟨r69, S70⟩, hcr69, hf⟩ := bnd_some hf
      have hf := u2_at hf
      refine xr_isSo (rest := []) B hX (k_isSo l D 48) hcr69 q1265 ⟨by omega, by omega⟩ hl.1 rfl (Nat.le_of_ble_eq_true rfl) dX0_breaksAt_25 (fun H locs hX => ?_)
      refine lv_if_ne (tgt := 35) hx hb dX0_breaksAt_28 (by decide) (fun c71 => ?_) (fun c71 => ?_)
      · have hf := it_neg c71 hf
        refine lv_iconst (v := nI 0) hx hb dX0_breaksAt_35 ic0 ?_
        cases hf
        exact hret _ _ _ _ rfl hX dX0_breaksAt_36
      · have hf := it_pos c71 hf
        refine lv_iconst (v := nI 1) hx hb dX0_breaksAt_31 ic1 ?_
        refine lv_goto (tgt := 36) hx hb dX0_breaksAt_32 (by decide) ?_
        cases hf
        exact hret _ _ _ _ rfl hX dX0_breaksAt_36
    · exact absurd c66 (by decide)
def g_breaksAt : Nat → XS → Nat → Nat → Option (Int32 × XS)
  | 0 => fun _ _ _ => none
  | n + 1 => fun S o a => f_X0_breaksAt (g_breaksAt n) S o a
theorem k_breaksAt (l : Launch) (D : XD) : ∀ n, x_R_breaksAt l D (200 + 1 * n) (10000 + 24 * n) (g_breaksAt n)
  | 0 => fun S o a r S' hf => by cases hf
  | n + 1 => fun S o a r S' hf => by
    rw [g_breaksAt] at hf
    exact c_X0_breaksAt l D ⟨by omega, by omega⟩ (k_breaksAt l D n) S o a hf
def f_X0_breaks (S : XS) (o : Nat) (p0 : Int32) (p1 : Int32) : Option (Int32 × XS) :=
  chk (xk S o = 1) <| bnd (f_X0_isStory S o p0) fun r1 => (if r1 = 0 then some ((-1), S) else bnd (xr S 102 o 0) fun b4 => bnd (f_X0_land S o) fun b5 => bnd (xr S 100 o 0) fun b6 => chk (xk S b6 = 2) <| chk (xk S b4 = 4) <| bnd (f_X3_is S b4 b5 (xl S 207 b6 0)) fun S8 => chk (xk S8 o = 1) <| bnd (xr S8 103 o 0) fun b11 => chk (xk S8 b11 = 19) <| bnd (f_J2_clear S8 b11) fun S12 => chk (xk S12 o = 1) <| bnd (f_X0_story_2 S12 o p0) fun b14 => chk (xk S12 b14 = 7) <| bnd (xr S12 700 b14 0) fun b17 => bnd (g_breaksAt 8 S12 o b17) <| u2 fun r18 S19 => chk (xk S19 o = 1) <| bnd (xr S19 103 o 0) fun b21 => chk (xk S19 b21 = 19) <| bnd (f_J2_size S19 b21) fun r22 => bnd (f_X0_isIn p1 (nI 0) (r22 - nI 1)) fun r24 => (if r24 = 0 then some ((-1), S19) else bnd (xr S19 103 o 0) fun b26 => chk (xk S19 b26 = 19) <| bnd (f_J2_get S19 b26 p1) fun b27 => chk (xk S19 b27 = 22) <| bnd (f_J18_intValue S19 b27) fun r30 => some (r30, S19)))
set_option maxHeartbeats 4000000 in
set_option maxRecDepth 100000 in
theorem c_X0_breaks (l : Launch) (D : XD) (S : XS) (o : Nat) (p0 : Int32) (p1 : Int32) {r : Int32} {S' : XS} (hf : f_X0_breaks S o p0 p1 = some (r, S')) : x_Met l yX0_breaks cX0_breaks 4 (Option.some Jvm.ClassFile.FieldType.int) 209 10216 D [.ref o, .int p0, .int p1] S (some (.int r)) S' := by
  refine x_metI RX0 (by decide) rfl (Nat.le_of_ble_eq_true rfl) (fun p e s m args below meth c Q B hnm hret H locs hX ls hl => ?_)
  have hx := B.1
  have hb := B.2.1
  have hml := B.2.2.1
  have hown := B.2.2.2.1
  have hts := B.2.2.2.2
  have hl : lv_has ls 4 [(0, .ref o), (1, .int p0), (2, .int p1)] := hl
  unfold f_X0_breaks at hf
  refine lv_aload_n hx hb dX0_breaks_0 rfl (lv_at hl 0 rfl) ?_
  refine lv_iload_n hx hb dX0_breaks_1 rfl (lv_at hl 1 rfl) ?_
  obtain ⟨hk2, hf⟩ := chk_some hf
  obtain ⟨r1, hcr1, hf⟩ := bnd_some hf
  refine xr_callVC (rest := []) (q := (RX0, TX0, 14)) B hX (c_X0_isStory l D S o p0 hcr1) hk2 rfl (by decide) q1236 q1238 (Or.inl qs24) q103 q1239 hd_X0_isStory ⟨Nat.le_of_ble_eq_true rfl, Nat.le_of_ble_eq_true rfl⟩ rfl hl.1 rfl (Nat.le_of_ble_eq_true rfl) dX0_breaks_2 (fun H locs hX => ?_)
  refine lv_if_ne (tgt := 10) hx hb dX0_breaks_5 (by decide) (fun c3 => ?_) (fun c3 => ?_)
  · have hf := it_neg c3 hf
    refine lv_aload_n hx hb dX0_breaks_10 rfl (lv_at hl 0 rfl) ?_
    obtain ⟨b4, hb4, hf⟩ := bnd_some hf
    refine xr_get (q := (RX0, TX0, 14)) B hX 2 hk2 rfl (by decide) (by decide) (v := .ref b4) (x_Vr (c := 1) (j := 2) rfl (by decide) hb4) q341 (fun _ h => h) dX0_breaks_11 ?_
    refine lv_aload_n hx hb dX0_breaks_14 rfl (lv_at hl 0 rfl) ?_
    obtain ⟨b5, hcb5, hf⟩ := bnd_some hf
    refine xr_callVC (rest := [.ref b4]) (q := (RX0, TX0, 14)) B hX (c_X0_land l D S o hcb5) hk2 rfl (by decide) q393 q395 (Or.inl qs0) q103 q396 hd_X0_land ⟨Nat.le_of_ble_eq_true rfl, Nat.le_of_ble_eq_true rfl⟩ rfl hl.1 rfl (Nat.le_of_ble_eq_true rfl) dX0_breaks_15 (fun H locs hX => ?_)
    refine lv_aload_n hx hb dX0_breaks_18 rfl (lv_at hl 0 rfl) ?_
    obtain ⟨b6, hb6, hf⟩ := bnd_some hf
    refine xr_get (q := (RX0, TX0, 14)) B hX 0 hk2 rfl (by decide) (by decide) (v := .ref b6) (x_Vr (c := 1) (j := 0) rfl (by decide) hb6) q339 (fun _ h => h) dX0_breaks_19 ?_
    obtain ⟨hk7, hf⟩ := chk_some hf
    refine xr_getN (q := (RX1, TX1, 14)) B hX 7 hk7 rfl (by decide) (by decide) (x_Vl rfl (by decide)) nq233 (fun _ h => h) dX0_breaks_22 ?_
    obtain ⟨hk9, hf⟩ := chk_some hf
    obtain ⟨S8, hcS8, hf⟩ := bnd_some hf
    refine xr_callVC (rest := []) (q := (RX3, TX3, 4)) B hX (c_X3_is l D S b4 b5 (xl S 207 b6 0) hcS8) hk9 rfl (by decide) q1260 q1261 (Or.inl q1262) q109 q1263 hd_X3_is ⟨Nat.le_of_ble_eq_true rfl, Nat.le_of_ble_eq_true rfl⟩ rfl hl.1 rfl (Nat.le_of_ble_eq_true rfl) dX0_breaks_25 (fun H locs hX => ?_)
    refine lv_aload_n hx hb dX0_breaks_28 rfl (lv_at hl 0 rfl) ?_
    obtain ⟨hk10, hf⟩ := chk_some hf
    obtain ⟨b11, hb11, hf⟩ := bnd_some hf
    refine xr_get (q := (RX0, TX0, 14)) B hX 3 hk10 rfl (by decide) (by decide) (v := .ref b11) (x_Vr (c := 1) (j := 3) rfl (by decide) hb11) q342 (fun _ h => h) dX0_breaks_29 ?_
    obtain ⟨hk13, hf⟩ := chk_some hf
    obtain ⟨S12, hcS12, hf⟩ := bnd_some hf
    refine xr_callVC (rest := []) (q := (RJ2, TJ2, 3)) B hX (c_J2_clear l D S8 b11 hcS12) hk13 rfl (by decide) q1349 q1350 (Or.inl q1351) q108 q1352 hd_J2_clear ⟨Nat.le_of_ble_eq_true rfl, Nat.le_of_ble_eq_true rfl⟩ rfl hl.1 rfl (Nat.le_of_ble_eq_true rfl) dX0_breaks_32 (fun H locs hX => ?_)
    refine lv_aload_n hx hb dX0_breaks_35 rfl (lv_at hl 0 rfl) ?_
    refine lv_aload_n hx hb dX0_breaks_36 rfl (lv_at hl 0 rfl) ?_
    refine lv_iload_n hx hb dX0_breaks_37 rfl (lv_at hl 1 rfl) ?_
    obtain ⟨hk15, hf⟩ := chk_some hf
    obtain ⟨b14, hcb14, hf⟩ := bnd_some hf
    refine xr_callVC (rest := [.ref o]) (q := (RX0, TX0, 14)) B hX (c_X0_story_2 l D S12 o p0 hcb14) hk15 rfl (by decide) q1240 q1242 (Or.inl qs25) q103 q1243 hd_X0_story_2 ⟨Nat.le_of_ble_eq_true rfl, Nat.le_of_ble_eq_true rfl⟩ rfl hl.1 rfl (Nat.le_of_ble_eq_true rfl) dX0_breaks_38 (fun H locs hX => ?_)
    obtain ⟨hk16, hf⟩ := chk_some hf
    obtain ⟨b17, hb17, hf⟩ := bnd_some hf
    refine xr_getN (q := (RX10, TX10, 3)) B hX 0 hk16 rfl (by decide) (by decide) (v := .ref b17) (x_Vr (c := 7) (j := 0) rfl (by decide) hb17) nq1208 (fun _ h => h) dX0_breaks_41 ?_
    obtain ⟨⟨r18, S19⟩, hcr18, hf⟩ := bnd_some hf
    have hf := u2_at hf
    refine xr_callVC (rest := []) (q := (RX0, TX0, 14)) B hX (k_breaksAt l D 8 _ _ _ _ _ hcr18) hk15 rfl (by decide) q1353 q1355 (Or.inl qs27) q103 q1356 hd_X0_breaksAt ⟨Nat.le_of_ble_eq_true rfl, Nat.le_of_ble_eq_true rfl⟩ rfl hl.1 rfl (Nat.le_of_ble_eq_true rfl) dX0_breaks_44 (fun H locs hX => ?_)
    refine lv_istore_n (lv' := [(3, .int r18), (0, .ref o), (1, .int p0), (2, .int p1)]) hx hb dX0_breaks_47 rfl hl (by decide) rfl (fun ls hl => ?_)
    refine lv_iload_n hx hb dX0_breaks_48 rfl (lv_at hl 3 rfl) ?_
    refine lv_iconst (v := nI 0) hx hb dX0_breaks_49 ic0 ?_
    refine lv_aload_n hx hb dX0_breaks_50 rfl (lv_at hl 1 rfl) ?_
    obtain ⟨hk20, hf⟩ := chk_some hf
    obtain ⟨b21, hb21, hf⟩ := bnd_some hf
    refine xr_get (q := (RX0, TX0, 14)) B hX 3 hk20 rfl (by decide) (by decide) (v := .ref b21) (x_Vr (c := 1) (j := 3) rfl (by decide) hb21) q342 (fun _ h => h) dX0_breaks_51 ?_
    obtain ⟨hk23, hf⟩ := chk_some hf
    obtain ⟨r22, hcr22, hf⟩ := bnd_some hf
    refine xr_callVC (rest := [.int (nI 0), .int p1]) (q := (RJ2, TJ2, 3)) B hX (c_J2_size l D S19 b21 hcr22) hk23 rfl (by decide) q409 q410 (Or.inl q411) q108 q412 hd_J2_size ⟨Nat.le_of_ble_eq_true rfl, Nat.le_of_ble_eq_true rfl⟩ rfl hl.1 rfl (Nat.le_of_ble_eq_true rfl) dX0_breaks_54 (fun H locs hX => ?_)
    refine lv_iconst (v := nI 1) hx hb dX0_breaks_57 ic1 ?_
    refine lv_isub hx hb dX0_breaks_58 ?_
    obtain ⟨r24, hcr24, hf⟩ := bnd_some hf
    refine pr_callS (rest := []) B (c_X0_isIn l p1 (nI 0) (r22 - nI 1) hcr24) (va_cwS 3 hts (lw_S q390 q391 q103 q392) rfl rfl rfl hd_X0_isIn ⟨Nat.le_of_ble_eq_true rfl, Nat.le_of_ble_eq_true rfl⟩) rfl hl.1 rfl (Nat.le_of_ble_eq_true rfl) dX0_breaks_59 (x_room0 hX) ?_
    refine lv_if_eq (tgt := 82) hx hb dX0_breaks_62 (by decide) (fun c25 => ?_) (fun c25 => ?_)
    · have hf := it_pos c25 hf
      refine lv_iconst (v := (-1)) hx hb dX0_breaks_82 icm1 ?_
      cases hf
      exact hret _ _ _ _ rfl hX dX0_breaks_83
    · have hf := it_neg c25 hf
      refine lv_aload_n hx hb dX0_breaks_65 rfl (lv_at hl 1 rfl) ?_
      obtain ⟨b26, hb26, hf⟩ := bnd_some hf
      refine xr_get (q := (RX0, TX0, 14)) B hX 3 hk20 rfl (by decide) (by decide) (v := .ref b26) (x_Vr (c := 1) (j := 3) rfl (by decide) hb26) q342 (fun _ h => h) dX0_breaks_66 ?_
      refine lv_iload_n hx hb dX0_breaks_69 rfl (lv_at hl 3 rfl) ?_
      obtain ⟨hk28, hf⟩ := chk_some hf
      obtain ⟨b27, hcb27, hf⟩ := bnd_some hf
      refine xr_callVC (rest := []) (q := (RJ2, TJ2, 3)) B hX (c_J2_get l D S19 b26 p1 hcb27) hk28 rfl (by decide) q573 q524 (Or.inl q525) q108 q526 hd_J2_get ⟨Nat.le_of_ble_eq_true rfl, Nat.le_of_ble_eq_true rfl⟩ rfl hl.1 rfl (Nat.le_of_ble_eq_true rfl) dX0_breaks_70 (fun H locs hX => ?_)
      obtain ⟨hk29, hf⟩ := chk_some hf
      refine xr_castY (q := (RJ18, TJ18, 1)) B hX hk29 rfl (by decide) q1389 (Or.inr ⟨rfl, by decide⟩) dX0_breaks_73 ?_
      obtain ⟨r30, hcr30, hf⟩ := bnd_some hf
      refine xr_callVC (rest := []) (q := (RJ18, TJ18, 1)) B hX (c_J18_intValue l D S19 b27 hcr30) hk29 rfl (by decide) q1390 q1391 (Or.inl q1392) q146 q1393 hd_J18_intValue ⟨Nat.le_of_ble_eq_true rfl, Nat.le_of_ble_eq_true rfl⟩ rfl hl.1 rfl (Nat.le_of_ble_eq_true rfl) dX0_breaks_76 (fun H locs hX => ?_)
      refine lv_goto (tgt := 83) hx hb dX0_breaks_79 (by decide) ?_
      cases hf
      exact hret _ _ _ _ rfl hX dX0_breaks_83
  · have hf := it_pos c3 hf
    refine lv_iconst (v := (-1)) hx hb dX0_breaks_8 icm1 ?_
    cases hf
    exact hret _ _ _ _ rfl hX dX0_breaks_9
