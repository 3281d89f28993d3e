/-! Texts are read: the walks (gen/thr.py) -/
set_option maxRecDepth 100000
set_option maxHeartbeats 4000000 in
theorem k_X0_isWord_24 {p : Program} {l : Launch} {e : Env} {s : State} {m : MethodId} {args : Array Value} {below : List Frame} {meth : Method} {c : Code} {D : va_G} {A : Nat → Prop} {i q v : Nat} (X : zCx p s m args meth c D A (zEs A i q v) cX0_isWord 4 RX0 (Option.some FieldType.boolean)) (res : Int32 × zT) : ∀ (n : Nat), ∀ (h : zT) (a0 : Nat) (i2 : Int32) (i3 : Int32) (H : Heap) (locs : List Loc) (ls : Array Slot), f_X0_isWord_24 i n h a0 i2 i3 = some res → zWh D A s H h locs → lv_has ls 4 [(0, .ref a0), (1, .ref q), (2, .int i2), (3, .int i3)] → W p l e rm_X0_isWord s m args below meth c H locs 0 0 (MQ below (zQW D A (some (.int res.1)) res.2) args s 0 0 A) (F0 m 24 ls []) := by
  have hx := X.1.1
  have hb := X.1.2.1
  have hown := X.1.2.2.2.1
  have hts := X.1.2.2.2.2
  intro n
  induction n with
  | zero =>
    intro h a0 i2 i3 H locs ls hf hw hl
    cases hf
  | succ n ih =>
    intro h a0 i2 i3 H locs ls hf hw hl
    unfold f_X0_isWord_24 at hf
    refine lv_iload_n hx hb dX0_isWord_24 rfl (lv_at hl 3 rfl) ?_
    refine lv_aload_n hx hb dX0_isWord_25 rfl (lv_at hl 1 rfl) ?_
    refine zw_slen X hw hl.1 q374 hf (Nat.le_of_ble_eq_true rfl) (Nat.le_of_ble_eq_true rfl) (Nat.le_of_ble_eq_true rfl) dX0_isWord_26 ⟨Nat.le_of_ble_eq_true rfl, Nat.le_of_ble_eq_true rfl⟩ (fun x1 H locs hf hw => ?_)
    refine zw_icmp_ge (tgt := 67) hx hb hf dX0_isWord_29 (by decide) (fun hf => ?_) (fun hf => ?_)
    · refine lv_iload_n hx hb dX0_isWord_67 rfl (lv_at hl 2 rfl) ?_
      exact zw_zret X hw hf (Nat.le_of_ble_eq_true rfl) (Nat.le_of_ble_eq_true rfl) dX0_isWord_68
    · refine lv_iload_n hx hb dX0_isWord_32 rfl (lv_at hl 2 rfl) ?_
      refine zw_if_eq (tgt := 67) hx hb hf dX0_isWord_33 (by decide) (fun hf => ?_) (fun hf => ?_)
      · refine lv_iload_n hx hb dX0_isWord_67 rfl (lv_at hl 2 rfl) ?_
        exact zw_zret X hw hf (Nat.le_of_ble_eq_true rfl) (Nat.le_of_ble_eq_true rfl) dX0_isWord_68
      · refine lv_aload_n hx hb dX0_isWord_36 rfl (lv_at hl 0 rfl) ?_
        refine zw_getR X hw fs_X0_6 q258 rfl hf dX0_isWord_37 (fun v2 hf => ?_)
        refine lv_aload_n hx hb dX0_isWord_40 rfl (lv_at hl 0 rfl) ?_
        refine zw_getI X hw fs_X0_9 q261 rfl hf dX0_isWord_41 (fun v3 hf => ?_)
        refine lv_iload_n hx hb dX0_isWord_44 rfl (lv_at hl 3 rfl) ?_
        refine lv_iadd hx hb dX0_isWord_45 ?_
        refine zw_baload X hw hf dX0_isWord_46 (fun v4 hf => ?_)
        refine lv_aload_n hx hb dX0_isWord_47 rfl (lv_at hl 1 rfl) ?_
        refine lv_iload_n hx hb dX0_isWord_48 rfl (lv_at hl 3 rfl) ?_
        refine zw_sch X hw hl.1 q384 hf (Nat.le_of_ble_eq_true rfl) (Nat.le_of_ble_eq_true rfl) (Nat.le_of_ble_eq_true rfl) dX0_isWord_49 ⟨Nat.le_of_ble_eq_true rfl, Nat.le_of_ble_eq_true rfl⟩ (fun x5 H locs hf hw => ?_)
        refine zw_icmp_ne (tgt := 59) hx hb hf dX0_isWord_52 (by decide) (fun hf => ?_) (fun hf => ?_)
        · refine lv_iconst (v := (0 : Int32)) hx hb dX0_isWord_59 (by decide) ?_
          refine lv_istore_n (lv' := [(2, .int (0 : Int32)), (0, .ref a0), (1, .ref q), (3, .int i3)]) hx hb dX0_isWord_60 rfl hl (by decide) rfl (fun ls hl => ?_)
          refine zw_nmS hf (fun v6 ev6 hf => ?_)
          refine lv_iinc (k := 3) (v := v6) (lv' := [(3, .int v6), (2, .int (0 : Int32)), (0, .ref a0), (1, .ref q)]) hx hb dX0_isWord_61 hl rfl (by rw [ev6]; rfl) (by decide) rfl (fun ls hl => ?_)
          refine lv_goto (tgt := 24) hx hb dX0_isWord_64 (by decide) ?_
          exact ih h a0 (0 : Int32) v6 _ _ _ hf hw (lv_sub hl [2, 3, 1, 0] rfl)
        · refine lv_iconst (v := (1 : Int32)) hx hb dX0_isWord_55 (by decide) ?_
          refine lv_goto (tgt := 60) hx hb dX0_isWord_56 (by decide) ?_
          refine lv_istore_n (lv' := [(2, .int (1 : Int32)), (0, .ref a0), (1, .ref q), (3, .int i3)]) hx hb dX0_isWord_60 rfl hl (by decide) rfl (fun ls hl => ?_)
          refine zw_nmS hf (fun v7 ev7 hf => ?_)
          refine lv_iinc (k := 3) (v := v7) (lv' := [(3, .int v7), (2, .int (1 : Int32)), (0, .ref a0), (1, .ref q)]) hx hb dX0_isWord_61 hl rfl (by rw [ev7]; rfl) (by decide) rfl (fun ls hl => ?_)
          refine lv_goto (tgt := 24) hx hb dX0_isWord_64 (by decide) ?_
          exact ih h a0 (1 : Int32) v7 _ _ _ hf hw (lv_sub hl [2, 3, 1, 0] rfl)
set_option maxHeartbeats 4000000 in
theorem mt_X0_isWord (l : Launch) (D : va_G) (A : Nat → Prop) (i q v : Nat) (h : zT) (a0 : Nat) (res : Int32 × zT) (hf : f_X0_isWord i h a0 = some res) : Met l yX0_isWord (ws_ yX0_isWord cX0_isWord 4 (Option.some FieldType.boolean)) rm_X0_isWord (zPW D A (zEs A i q v) h [.ref a0, .ref q]) (zQW D A (some (.int res.1)) res.2) 0 0 A := by
  refine zmt (zEs_ok A i q v) (by decide) (Nat.le_of_ble_eq_true rfl) ?_
  intro p e s m below meth c ls hmn X hw hl
  have hl : lv_has ls 4 [(0, .ref a0), (1, .ref q)] := hl
  have hx := X.1.1
  have hb := X.1.2.1
  have hown := X.1.2.2.2.1
  have hts := X.1.2.2.2.2
  unfold f_X0_isWord at hf
  refine lv_aload_n hx hb dX0_isWord_0 rfl (lv_at hl 0 rfl) ?_
  refine zw_getI X hw fs_X0_10 q262 rfl hf dX0_isWord_1 (fun v1 hf => ?_)
  refine lv_aload_n hx hb dX0_isWord_4 rfl (lv_at hl 0 rfl) ?_
  refine zw_getI X hw fs_X0_9 q261 rfl hf dX0_isWord_5 (fun v2 hf => ?_)
  refine lv_isub hx hb dX0_isWord_8 ?_
  refine lv_aload_n hx hb dX0_isWord_9 rfl (lv_at hl 1 rfl) ?_
  refine zw_slen X hw hl.1 q374 hf (Nat.le_of_ble_eq_true rfl) (Nat.le_of_ble_eq_true rfl) (Nat.le_of_ble_eq_true rfl) dX0_isWord_10 ⟨Nat.le_of_ble_eq_true rfl, Nat.le_of_ble_eq_true rfl⟩ (fun x3 H locs hf hw => ?_)
  refine zw_icmp_ne (tgt := 20) hx hb hf dX0_isWord_13 (by decide) (fun hf => ?_) (fun hf => ?_)
  · refine lv_iconst (v := (0 : Int32)) hx hb dX0_isWord_20 (by decide) ?_
    refine lv_istore_n (lv' := [(2, .int (0 : Int32)), (0, .ref a0), (1, .ref q)]) hx hb dX0_isWord_21 rfl hl (by decide) rfl (fun ls hl => ?_)
    refine lv_iconst (v := (0 : Int32)) hx hb dX0_isWord_22 (by decide) ?_
    refine lv_istore_n (lv' := [(3, .int (0 : Int32)), (2, .int (0 : Int32)), (0, .ref a0), (1, .ref q)]) hx hb dX0_isWord_23 rfl hl (by decide) rfl (fun ls hl => ?_)
    exact k_X0_isWord_24 X _ 4096 h a0 (0 : Int32) (0 : Int32) _ _ _ hf hw (lv_sub hl [2, 3, 1, 0] rfl)
  · refine lv_iconst (v := (1 : Int32)) hx hb dX0_isWord_16 (by decide) ?_
    refine lv_goto (tgt := 21) hx hb dX0_isWord_17 (by decide) ?_
    refine lv_istore_n (lv' := [(2, .int (1 : Int32)), (0, .ref a0), (1, .ref q)]) hx hb dX0_isWord_21 rfl hl (by decide) rfl (fun ls hl => ?_)
    refine lv_iconst (v := (0 : Int32)) hx hb dX0_isWord_22 (by decide) ?_
    refine lv_istore_n (lv' := [(3, .int (0 : Int32)), (2, .int (1 : Int32)), (0, .ref a0), (1, .ref q)]) hx hb dX0_isWord_23 rfl hl (by decide) rfl (fun ls hl => ?_)
    exact k_X0_isWord_24 X _ 4096 h a0 (1 : Int32) (0 : Int32) _ _ _ hf hw (lv_sub hl [2, 3, 1, 0] rfl)
set_option maxHeartbeats 4000000 in
theorem k_X0_key_40 {p : Program} {l : Launch} {e : Env} {s : State} {m : MethodId} {args : Array Value} {below : List Frame} {meth : Method} {c : Code} {D : va_G} {A : Nat → Prop} (X : zCx p s m args meth c D A (zEv A) cX0_key 2 RX0 (Option.some FieldType.int)) (htb : zTbl c []) (res : (Nat ⊕ Int32) × zT) : ∀ (h : zT) (a0 : Nat) (s0 : Int32) (H : Heap) (locs : List Loc) (ls : Array Slot), f_X0_key_40 h a0 s0 = some res → zWh D A s H h locs → lv_has ls 2 [(0, .ref a0)] → W p l e rm_X0_key s m args below meth c H locs 0 0 (zMQ below (zQX D A (zoI res.1) res.2) args s 0 0 A) (F0 m 40 ls [.int s0]) := by
  have hx := X.1.1
  have hb := X.1.2.1
  have hown := X.1.2.2.2.1
  have hts := X.1.2.2.2.2
  obtain ⟨adK, adV, hStr⟩ := X.2.2.2.2.2.2.2.2.2.2.2.2.1
  have hN := X.2.2.2.2.2.2.1
  have hDW := X.2.2.2.2.2.2.2.1
  have hAO := X.2.2.2.2.2.2.2.2.1
  have hNC := X.2.2.2.2.2.2.2.2.2.1
  intro h a0 s0 H locs ls hf hw hl
  unfold f_X0_key_40 at hf
  refine lv_istore_n (lv' := [(1, .int s0), (0, .ref a0)]) hx hb dX0_key_40 rfl hl (by decide) rfl (fun ls hl => ?_)
  refine lv_iload_n hx hb dX0_key_41 rfl (lv_at hl 0 rfl) ?_
  refine lv_iconst (v := (-1 : Int32)) hx hb dX0_key_42 (by decide) ?_
  refine zw_icmp_ne (tgt := 50) hx hb hf dX0_key_43 (by decide) (fun hf => ?_) (fun hf => ?_)
  · refine lv_aload_n hx hb dX0_key_50 rfl (lv_at hl 1 rfl) ?_
    refine zw_kC hf (fun fs hfs hf => ?_)
    refine zx_callV (rest := []) (fun _ => rfl) X hw hf (fun r hr => zrtV (C := RX0) (As := []) (rest := []) X.1 (mx_X0_goes l D A h a0 r hr) (hts _ q351) (hts _ q353) (hts _ qs3) (zCode.code (hts _ q354)) cd_X0_goes (by decide) rfl rfl ⟨Nat.le_of_ble_eq_true rfl, Nat.le_of_ble_eq_true rfl⟩ (zpreV (ci := 0) X hw hfs rfl _) rfl rfl hl.1 rfl (lv_room (Nat.le_of_ble_eq_true rfl)) dX0_key_51 ⟨Nat.le_of_ble_eq_true rfl, Nat.le_of_ble_eq_true rfl⟩) htb (by simp) (Nat.le_of_ble_eq_true rfl) (Nat.le_of_ble_eq_true rfl) (fun h1 H locs hf hw => ?_)
    refine lv_iload_n hx hb dX0_key_54 rfl (lv_at hl 0 rfl) ?_
    exact zx_iret X hw hf (Nat.le_of_ble_eq_true rfl) (Nat.le_of_ble_eq_true rfl) dX0_key_55
  · refine lv_aload_n hx hb dX0_key_46 rfl (lv_at hl 1 rfl) ?_
    refine zw_kC hf (fun fs hfs hf => ?_)
    refine zx_callV (rest := []) (fun _ => rfl) X hw hf (fun r hr => zrtV (C := RX0) (As := []) (rest := []) X.1 (mx_X0_wrong l D A h a0 r hr) (hts _ q361) (hts _ q363) (hts _ qs4) (zCode.code (hts _ q364)) cd_X0_wrong (by decide) rfl rfl ⟨Nat.le_of_ble_eq_true rfl, Nat.le_of_ble_eq_true rfl⟩ (zpreV (ci := 0) X hw hfs rfl _) rfl rfl hl.1 rfl (lv_room (Nat.le_of_ble_eq_true rfl)) dX0_key_47 ⟨Nat.le_of_ble_eq_true rfl, Nat.le_of_ble_eq_true rfl⟩) htb (by simp) (Nat.le_of_ble_eq_true rfl) (Nat.le_of_ble_eq_true rfl) (fun h3 H locs hf hw => ?_)
    refine lv_aload_n hx hb dX0_key_50 rfl (lv_at hl 1 rfl) ?_
    refine zw_kC hf (fun fs hfs hf => ?_)
    refine zx_callV (rest := []) (fun _ => rfl) X hw hf (fun r hr => zrtV (C := RX0) (As := []) (rest := []) X.1 (mx_X0_goes l D A h3 a0 r hr) (hts _ q351) (hts _ q353) (hts _ qs3) (zCode.code (hts _ q354)) cd_X0_goes (by decide) rfl rfl ⟨Nat.le_of_ble_eq_true rfl, Nat.le_of_ble_eq_true rfl⟩ (zpreV (ci := 0) X hw hfs rfl _) rfl rfl hl.1 rfl (lv_room (Nat.le_of_ble_eq_true rfl)) dX0_key_51 ⟨Nat.le_of_ble_eq_true rfl, Nat.le_of_ble_eq_true rfl⟩) htb (by simp) (Nat.le_of_ble_eq_true rfl) (Nat.le_of_ble_eq_true rfl) (fun h5 H locs hf hw => ?_)
    refine lv_iload_n hx hb dX0_key_54 rfl (lv_at hl 0 rfl) ?_
    exact zx_iret X hw hf (Nat.le_of_ble_eq_true rfl) (Nat.le_of_ble_eq_true rfl) dX0_key_55
set_option maxHeartbeats 4000000 in
theorem mx_X0_key (l : Launch) (D : va_G) (A : Nat → Prop) (h : zT) (a0 : Nat) (res : (Nat ⊕ Int32) × zT) (hf : f_X0_key h a0 = some res) : zMt l yX0_key cX0_key 2 (Option.some FieldType.int) [] rm_X0_key (zPW D A (zEv A) h [.ref a0]) (zQX D A (zoI res.1) res.2) 0 0 A := by
  refine zmtX (zEv_ok A) (Nat.le_of_ble_eq_true rfl) ?_
  intro p e s m below meth c ls htb hmn X hw hl
  have hl : lv_has ls 2 [(0, .ref a0)] := hl
  have hx := X.1.1
  have hb := X.1.2.1
  have hown := X.1.2.2.2.1
  have hts := X.1.2.2.2.2
  obtain ⟨adK, adV, hStr⟩ := X.2.2.2.2.2.2.2.2.2.2.2.2.1
  have hN := X.2.2.2.2.2.2.1
  have hDW := X.2.2.2.2.2.2.2.1
  have hAO := X.2.2.2.2.2.2.2.2.1
  have hNC := X.2.2.2.2.2.2.2.2.2.1
  unfold f_X0_key at hf
  refine lv_aload_n hx hb dX0_key_0 rfl (lv_at hl 0 rfl) ?_
  refine va_ldcS hx hb hown hStr.2.1 dX0_key_1 ?_
  refine zw_kC hf (fun fs hfs hf => ?_)
  refine zw_goZ (rest := []) hw hf (fun r hr => va_runV (C := RX0) (As := [.ref (adK 0)]) (rest := []) X.1 (mt_X0_isWord l D A 0 (adK 0) (adV 0) h a0 r hr) (cwV 1 hts (lw_V q370 q372 qs6 q81 q373) rfl rfl rfl ⟨rfl, cd_X0_isWord⟩ ⟨Nat.le_of_ble_eq_true rfl, Nat.le_of_ble_eq_true rfl⟩) (zpreV (ci := 0) (X.es (hStr.1.1 0 (by decide))) hw hfs rfl _) rfl rfl hl.1 rfl (lv_room (Nat.le_of_ble_eq_true rfl)) dX0_key_3 ⟨Nat.le_of_ble_eq_true rfl, Nat.le_of_ble_eq_true rfl⟩) (fun r1 H locs hf hw => ?_)
  refine zw_if_eq (tgt := 13) hx hb hf dX0_key_6 (by decide) (fun hf => ?_) (fun hf => ?_)
  · refine lv_aload_n hx hb dX0_key_13 rfl (lv_at hl 0 rfl) ?_
    refine va_ldcS hx hb hown hStr.2.2.1 dX0_key_14 ?_
    refine zw_kC hf (fun fs hfs hf => ?_)
    refine zw_goZ (rest := []) hw hf (fun r hr => va_runV (C := RX0) (As := [.ref (adK 1)]) (rest := []) X.1 (mt_X0_isWord l D A 1 (adK 1) (adV 1) r1.2 a0 r hr) (cwV 1 hts (lw_V q370 q372 qs6 q81 q373) rfl rfl rfl ⟨rfl, cd_X0_isWord⟩ ⟨Nat.le_of_ble_eq_true rfl, Nat.le_of_ble_eq_true rfl⟩) (zpreV (ci := 0) (X.es (hStr.1.1 1 (by decide))) hw hfs rfl _) rfl rfl hl.1 rfl (lv_room (Nat.le_of_ble_eq_true rfl)) dX0_key_16 ⟨Nat.le_of_ble_eq_true rfl, Nat.le_of_ble_eq_true rfl⟩) (fun r2 H locs hf hw => ?_)
    refine zw_if_eq (tgt := 26) hx hb hf dX0_key_19 (by decide) (fun hf => ?_) (fun hf => ?_)
    · refine lv_aload_n hx hb dX0_key_26 rfl (lv_at hl 0 rfl) ?_
      refine va_ldcS hx hb hown hStr.2.2.2 dX0_key_27 ?_
      refine zw_kC hf (fun fs hfs hf => ?_)
      refine zw_goZ (rest := []) hw hf (fun r hr => va_runV (C := RX0) (As := [.ref (adK 2)]) (rest := []) X.1 (mt_X0_isWord l D A 2 (adK 2) (adV 2) r2.2 a0 r hr) (cwV 1 hts (lw_V q370 q372 qs6 q81 q373) rfl rfl rfl ⟨rfl, cd_X0_isWord⟩ ⟨Nat.le_of_ble_eq_true rfl, Nat.le_of_ble_eq_true rfl⟩) (zpreV (ci := 0) (X.es (hStr.1.1 2 (by decide))) hw hfs rfl _) rfl rfl hl.1 rfl (lv_room (Nat.le_of_ble_eq_true rfl)) dX0_key_29 ⟨Nat.le_of_ble_eq_true rfl, Nat.le_of_ble_eq_true rfl⟩) (fun r3 H locs hf hw => ?_)
      refine zw_if_eq (tgt := 39) hx hb hf dX0_key_32 (by decide) (fun hf => ?_) (fun hf => ?_)
      · refine lv_iconst (v := (-1 : Int32)) hx hb dX0_key_39 (by decide) ?_
        exact k_X0_key_40 X htb _ r3.2 a0 (-1 : Int32) _ _ _ hf hw (lv_sub hl [0] rfl)
      · refine lv_iconst (v := (2 : Int32)) hx hb dX0_key_35 (by decide) ?_
        refine lv_goto (tgt := 40) hx hb dX0_key_36 (by decide) ?_
        exact k_X0_key_40 X htb _ r3.2 a0 (2 : Int32) _ _ _ hf hw (lv_sub hl [0] rfl)
    · refine lv_iconst (v := (1 : Int32)) hx hb dX0_key_22 (by decide) ?_
      refine lv_goto (tgt := 40) hx hb dX0_key_23 (by decide) ?_
      exact k_X0_key_40 X htb _ r2.2 a0 (1 : Int32) _ _ _ hf hw (lv_sub hl [0] rfl)
  · refine lv_iconst (v := (0 : Int32)) hx hb dX0_key_9 (by decide) ?_
    refine lv_goto (tgt := 40) hx hb dX0_key_10 (by decide) ?_
    exact k_X0_key_40 X htb _ r1.2 a0 (0 : Int32) _ _ _ hf hw (lv_sub hl [0] rfl)
set_option maxHeartbeats 4000000 in
theorem k_X0_textRead_60 {p : Program} {l : Launch} {e : Env} {s : State} {m : MethodId} {args : Array Value} {below : List Frame} {meth : Method} {c : Code} {D : va_G} {A : Nat → Prop} (X : zCx p s m args meth c D A (zEv A) cX0_textRead 2 RX0 (Option.some (FieldType.object "StoneSheets$Text"))) (htb : zTbl c []) (res : (Nat ⊕ Nat) × zT) : ∀ (h : zT) (a0 : Nat) (a1 : Nat) (H : Heap) (locs : List Loc) (ls : Array Slot), f_X0_textRead_60 h a0 a1 = some res → zWh D A s H h locs → lv_has ls 2 [(0, .ref a0), (1, .ref a1)] → W p l e rm_X0_textRead s m args below meth c H locs 3 195 (zMQ below (zQX D A (zoR res.1) res.2) args s 4 198 A) (F0 m 60 ls []) := by
  have hx := X.1.1
  have hb := X.1.2.1
  have hown := X.1.2.2.2.1
  have hts := X.1.2.2.2.2
  have hN := X.2.2.2.2.2.2.1
  have hDW := X.2.2.2.2.2.2.2.1
  have hAO := X.2.2.2.2.2.2.2.2.1
  have hNC := X.2.2.2.2.2.2.2.2.2.1
  intro h a0 a1 H locs ls hf hw hl
  unfold f_X0_textRead_60 at hf
  refine zw_new (N := 3) X hw zcf13 q487 q488 q105 zdf13 hf (Nat.le_of_ble_eq_true rfl) (Nat.le_of_ble_eq_true rfl) dX0_textRead_60 (fun r1 H hf hw => ?_)
  refine lv_dup hx hb dX0_textRead_63 rfl ?_
  refine lv_aload_n hx hb dX0_textRead_64 rfl (lv_at hl 0 rfl) ?_
  refine zw_getI X hw fs_X0_15 q267 rfl hf dX0_textRead_65 (fun v2 hf => ?_)
  refine lv_aload_n hx hb dX0_textRead_68 rfl (lv_at hl 1 rfl) ?_
  refine lv_aload_n hx hb dX0_textRead_69 rfl (lv_at hl 0 rfl) ?_
  refine zw_getI X hw fs_X0_14 q266 rfl hf dX0_textRead_70 (fun v3 hf => ?_)
  refine zw_goV (rest := [.ref r1.1]) hw hf (fun r hr => va_runI (As := [.int v2, .ref a1, .int v3]) (rest := [.ref r1.1]) X.1 (mt_X13_init l D A r1.2 r1.1 v2 a1 v3 r hr) (cwI 3 hts (lw_meth q491) rfl rfl rfl (hts _ q105) (hts _ q489) (hts _ q490) rfl cd_X13_init ⟨Nat.le_of_ble_eq_true rfl, Nat.le_of_ble_eq_true rfl⟩) (zpreS X hw _) rfl rfl hl.1 rfl (lv_room (Nat.le_of_ble_eq_true rfl)) dX0_textRead_73 ⟨Nat.le_of_ble_eq_true rfl, Nat.le_of_ble_eq_true rfl⟩) (fun r4 H locs hf hw => ?_)
  exact zx_aret X (Or.inl ⟨_, rfl⟩) hw hf (Nat.le_of_ble_eq_true rfl) (Nat.le_of_ble_eq_true rfl) dX0_textRead_76
set_option maxHeartbeats 4000000 in
theorem mx_X0_textRead (l : Launch) (D : va_G) (A : Nat → Prop) (h : zT) (a0 : Nat) (res : (Nat ⊕ Nat) × zT) (hf : f_X0_textRead h a0 = some res) : zMt l yX0_textRead cX0_textRead 2 (Option.some (FieldType.object "StoneSheets$Text")) [] rm_X0_textRead (zPW D A (zEv A) h [.ref a0]) (zQX D A (zoR res.1) res.2) 4 198 A := by
  refine zmtX (zEv_ok A) (Nat.le_of_ble_eq_true rfl) ?_
  intro p e s m below meth c ls htb hmn X hw hl
  have hl : lv_has ls 2 [(0, .ref a0)] := hl
  have hx := X.1.1
  have hb := X.1.2.1
  have hown := X.1.2.2.2.1
  have hts := X.1.2.2.2.2
  have hN := X.2.2.2.2.2.2.1
  have hDW := X.2.2.2.2.2.2.2.1
  have hAO := X.2.2.2.2.2.2.2.2.1
  have hNC := X.2.2.2.2.2.2.2.2.2.1
  unfold f_X0_textRead at hf
  refine lv_aload_n hx hb dX0_textRead_0 rfl (lv_at hl 0 rfl) ?_
  refine lv_aload_n hx hb dX0_textRead_1 rfl (lv_at hl 0 rfl) ?_
  refine zw_getI X hw fs_X0_7 q259 rfl hf dX0_textRead_2 (fun v1 hf => ?_)
  refine zw_put X hw fs_X0_11 q263 rfl rfl rfl rfl hf dX0_textRead_5 (fun h2 H locs hf hw => ?_)
  refine lv_aload_n hx hb dX0_textRead_8 rfl (lv_at hl 0 rfl) ?_
  refine lv_iconst (v := (0 : Int32)) hx hb dX0_textRead_9 (by decide) ?_
  refine zw_put X hw fs_X0_10 q262 rfl rfl rfl rfl hf dX0_textRead_10 (fun h3 H locs hf hw => ?_)
  refine lv_aload_n hx hb dX0_textRead_13 rfl (lv_at hl 0 rfl) ?_
  refine lv_iconst (v := (0 : Int32)) hx hb dX0_textRead_14 (by decide) ?_
  refine zw_put X hw fs_X0_12 q264 rfl rfl rfl rfl hf dX0_textRead_15 (fun h4 H locs hf hw => ?_)
  refine lv_aload_n hx hb dX0_textRead_18 rfl (lv_at hl 0 rfl) ?_
  refine lv_iconst (v := (0 : Int32)) hx hb dX0_textRead_19 (by decide) ?_
  refine zw_put X hw fs_X0_13 q265 rfl rfl rfl rfl hf dX0_textRead_20 (fun h5 H locs hf hw => ?_)
  refine lv_aload_n hx hb dX0_textRead_23 rfl (lv_at hl 0 rfl) ?_
  refine lv_iconst (v := (0 : Int32)) hx hb dX0_textRead_24 (by decide) ?_
  refine zw_put X hw fs_X0_14 q266 rfl rfl rfl rfl hf dX0_textRead_25 (fun h6 H locs hf hw => ?_)
  refine lv_aload_n hx hb dX0_textRead_28 rfl (lv_at hl 0 rfl) ?_
  refine zw_kC hf (fun fs hfs hf => ?_)
  refine zx_callV (rest := []) (fun _ => rfl) X hw hf (fun r hr => zrtV (C := RX0) (As := []) (rest := []) X.1 (mx_X0_goes l D A h6 a0 r hr) (hts _ q351) (hts _ q353) (hts _ qs3) (zCode.code (hts _ q354)) cd_X0_goes (by decide) rfl rfl ⟨Nat.le_of_ble_eq_true rfl, Nat.le_of_ble_eq_true rfl⟩ (zpreV (ci := 0) X hw hfs rfl _) rfl rfl hl.1 rfl (lv_room (Nat.le_of_ble_eq_true rfl)) dX0_textRead_29 ⟨Nat.le_of_ble_eq_true rfl, Nat.le_of_ble_eq_true rfl⟩) htb (by simp) (Nat.le_of_ble_eq_true rfl) (Nat.le_of_ble_eq_true rfl) (fun h7 H locs hf hw => ?_)
  refine lv_aload_n hx hb dX0_textRead_32 rfl (lv_at hl 0 rfl) ?_
  refine lv_aload_n hx hb dX0_textRead_33 rfl (lv_at hl 0 rfl) ?_
  refine zw_kC hf (fun fs hfs hf => ?_)
  refine zx_callI (rest := [.ref a0]) (fun _ => rfl) X hw hf (fun r hr => zrtV (C := RX0) (As := []) (rest := [.ref a0]) X.1 (mx_X0_key l D A h7 a0 r hr) (hts _ q365) (hts _ q367) (hts _ qs5) (zCode.code (hts _ q368)) cd_X0_key (by decide) rfl rfl ⟨Nat.le_of_ble_eq_true rfl, Nat.le_of_ble_eq_true rfl⟩ (zpreV (ci := 0) X hw hfs rfl _) rfl rfl hl.1 rfl (lv_room (Nat.le_of_ble_eq_true rfl)) dX0_textRead_34 ⟨Nat.le_of_ble_eq_true rfl, Nat.le_of_ble_eq_true rfl⟩) htb (by simp) (Nat.le_of_ble_eq_true rfl) (Nat.le_of_ble_eq_true rfl) (fun v10 h9 H locs hf hw => ?_)
  refine zw_put X hw fs_X0_15 q267 rfl rfl rfl rfl hf dX0_textRead_37 (fun h11 H locs hf hw => ?_)
  refine lv_aload_n hx hb dX0_textRead_40 rfl (lv_at hl 0 rfl) ?_
  refine zw_kC hf (fun fs hfs hf => ?_)
  refine zx_callR (rest := []) (fun _ => rfl) X hw hf (fun r hr => zrtV (C := RX0) (As := []) (rest := []) X.1 (mx_X0_expression l D A h11 a0 r hr) (hts _ q424) (hts _ q426) (hts _ qs7) (zCode.code (hts _ q427)) cd_X0_expression (by decide) rfl rfl ⟨Nat.le_of_ble_eq_true rfl, Nat.le_of_ble_eq_true rfl⟩ (zpreV (ci := 0) X hw hfs rfl _) rfl rfl hl.1 rfl (lv_room (Nat.le_of_ble_eq_true rfl)) dX0_textRead_41 ⟨Nat.le_of_ble_eq_true rfl, Nat.le_of_ble_eq_true rfl⟩) htb (by simp) (Nat.le_of_ble_eq_true rfl) (Nat.le_of_ble_eq_true rfl) (fun v13 h12 H locs hf hw => ?_)
  refine lv_astore_n (lv' := [(1, .ref v13), (0, .ref a0)]) hx hb dX0_textRead_44 rfl hl (by decide) rfl (fun ls hl => ?_)
  refine lv_aload_n hx hb dX0_textRead_45 rfl (lv_at hl 1 rfl) ?_
  refine zw_getI X hw fs_X0_9 q261 rfl hf dX0_textRead_46 (fun v14 hf => ?_)
  refine lv_aload_n hx hb dX0_textRead_49 rfl (lv_at hl 1 rfl) ?_
  refine zw_getI X hw fs_X0_11 q263 rfl hf dX0_textRead_50 (fun v15 hf => ?_)
  refine zw_icmp_ge (tgt := 60) hx hb hf dX0_textRead_53 (by decide) (fun hf => ?_) (fun hf => ?_)
  · refine W.widen (k := 3) (n := 195) (by omega) (by omega) ?_
    exact k_X0_textRead_60 X htb _ h12 a0 v13 _ _ _ hf hw (lv_sub hl [1, 0] rfl)
  · refine lv_aload_n hx hb dX0_textRead_56 rfl (lv_at hl 1 rfl) ?_
    refine zw_kC hf (fun fs hfs hf => ?_)
    refine zx_callV (rest := []) (fun _ => rfl) X hw hf (fun r hr => zrtV (C := RX0) (As := []) (rest := []) X.1 (mx_X0_wrong l D A h12 a0 r hr) (hts _ q361) (hts _ q363) (hts _ qs4) (zCode.code (hts _ q364)) cd_X0_wrong (by decide) rfl rfl ⟨Nat.le_of_ble_eq_true rfl, Nat.le_of_ble_eq_true rfl⟩ (zpreV (ci := 0) X hw hfs rfl _) rfl rfl hl.1 rfl (lv_room (Nat.le_of_ble_eq_true rfl)) dX0_textRead_57 ⟨Nat.le_of_ble_eq_true rfl, Nat.le_of_ble_eq_true rfl⟩) htb (by simp) (Nat.le_of_ble_eq_true rfl) (Nat.le_of_ble_eq_true rfl) (fun h16 H locs hf hw => ?_)
    refine W.widen (k := 3) (n := 195) (by omega) (by omega) ?_
    exact k_X0_textRead_60 X htb _ h16 a0 v13 _ _ _ hf hw (lv_sub hl [1, 0] rfl)
set_option maxHeartbeats 4000000 in
theorem mx_X0_text (l : Launch) (D : va_G) (A : Nat → Prop) (h : zT) (a0 : Nat) (res : (Nat ⊕ Int32) × zT) (hf : f_X0_text h a0 = some res) : zMt l yX0_text cX0_text 4 (Option.some FieldType.int) [(0, 20, 73, 73), (27, 66, 73, 73), (0, 20, 89, 0), (27, 66, 89, 0), (73, 82, 89, 0)] rm_X0_text (zPW D A (zEv A) h [.ref a0]) (zQX D A (zoI res.1) res.2) 4 198 A := by
  refine zmtX (zEv_ok A) (Nat.le_of_ble_eq_true rfl) ?_
  intro p e s m below meth c ls htb hmn X hw hl
  have hl : lv_has ls 4 [(0, .ref a0)] := hl
  have hx := X.1.1
  have hb := X.1.2.1
  have hown := X.1.2.2.2.1
  have hts := X.1.2.2.2.2
  have hN := X.2.2.2.2.2.2.1
  have hDW := X.2.2.2.2.2.2.2.1
  have hAO := X.2.2.2.2.2.2.2.2.1
  have hNC := X.2.2.2.2.2.2.2.2.2.1
  unfold f_X0_text at hf
  refine lv_aload_n hx hb dX0_text_0 rfl (lv_at hl 0 rfl) ?_
  refine zw_kC hf (fun fs hfs hf => ?_)
  refine zx_callC (rest := []) hw hf (fun r hr => zrtV (C := RX0) (As := []) (rest := []) X.1 (mx_X0_textRead l D A h a0 r hr) (hts _ q347) (hts _ q349) (hts _ qs2) (zCode.code (hts _ q350)) cd_X0_textRead (by decide) rfl rfl ⟨Nat.le_of_ble_eq_true rfl, Nat.le_of_ble_eq_true rfl⟩ (zpreV (ci := 0) X hw hfs rfl _) rfl rfl hl.1 rfl (lv_room (Nat.le_of_ble_eq_true rfl)) dX0_text_1 ⟨Nat.le_of_ble_eq_true rfl, Nat.le_of_ble_eq_true rfl⟩) (fun x4 h3 H locs hf hw => ?_) (fun v2 h1 H locs hf hw => ?_)
  · refine zw_kC hf (fun fs2 hfs2 hf => ?_)
    refine zw_caught (ci := 2) X hw htb hfs2 rfl 0 rfl (by decide) (by decide) (by decide) q160 ?_
    refine lv_astore_n (lv' := [(1, .ref x4), (0, .ref a0)]) hx hb dX0_text_73 rfl hl (by decide) rfl (fun ls hl => ?_)
    refine lv_bipush (v := (-100 : Int32)) hx hb dX0_text_74 (by decide) ?_
    refine lv_aload_n hx hb dX0_text_76 rfl (lv_at hl 0 rfl) ?_
    refine zw_getIN X hw fs_X2_6 (hN _ nq211) rfl hf dX0_text_77 (fun v5 hf => ?_)
    refine lv_isub hx hb dX0_text_80 ?_
    refine zw_nmI hf (fun v6 hf => ?_)
    refine lv_istore_n (lv' := [(2, .int v6), (1, .ref x4), (0, .ref a0)]) hx hb dX0_text_81 rfl hl (by decide) rfl (fun ls hl => ?_)
    refine lv_aload_n hx hb dX0_text_82 rfl (lv_at hl 2 rfl) ?_
    refine lv_iconst (v := (0 : Int32)) hx hb dX0_text_83 (by decide) ?_
    refine zw_put X hw fs_X0_7 q259 rfl rfl rfl rfl hf dX0_text_84 (fun h7 H locs hf hw => ?_)
    refine lv_iload_n hx hb dX0_text_87 rfl (lv_at hl 0 rfl) ?_
    exact zx_iret X hw hf (Nat.le_of_ble_eq_true rfl) (Nat.le_of_ble_eq_true rfl) dX0_text_88
  · refine lv_astore_n (lv' := [(1, .ref v2), (0, .ref a0)]) hx hb dX0_text_4 rfl hl (by decide) rfl (fun ls hl => ?_)
    refine lv_aload_n hx hb dX0_text_5 rfl (lv_at hl 1 rfl) ?_
    refine zw_getR X hw fs_X0_0 q252 rfl hf dX0_text_6 (fun v8 hf => ?_)
    refine zw_getIN X hw fs_X1_6 (hN _ nq139) rfl hf dX0_text_9 (fun v9 hf => ?_)
    refine lv_bipush (v := (14 : Int32)) hx hb dX0_text_12 (by decide) ?_
    refine zw_icmp_ne (tgt := 27) hx hb hf dX0_text_14 (by decide) (fun hf => ?_) (fun hf => ?_)
    · refine lv_aload_n hx hb dX0_text_27 rfl (lv_at hl 1 rfl) ?_
      refine zw_getR X hw fs_X0_0 q252 rfl hf dX0_text_28 (fun v10 hf => ?_)
      refine zw_getRN X hw fs_X1_7 (hN _ nq141) rfl hf dX0_text_31 (fun v11 hf => ?_)
      refine lv_aload_n hx hb dX0_text_34 rfl (lv_at hl 1 rfl) ?_
      refine zw_getR X hw fs_X0_0 q252 rfl hf dX0_text_35 (fun v12 hf => ?_)
      refine zw_getIN X hw fs_X1_6 (hN _ nq139) rfl hf dX0_text_38 (fun v13 hf => ?_)
      refine lv_aload_n hx hb dX0_text_41 rfl (lv_at hl 0 rfl) ?_
      refine zw_aastore X hw (zcast13 X) hf dX0_text_42 (fun h14 H locs hf hw => ?_)
      refine lv_aload_n hx hb dX0_text_43 rfl (lv_at hl 1 rfl) ?_
      refine zw_getR X hw fs_X0_0 q252 rfl hf dX0_text_44 (fun v15 hf => ?_)
      refine lv_dup hx hb dX0_text_47 rfl ?_
      refine zw_getIN X hw fs_X1_6 (hN _ nq139) rfl hf dX0_text_48 (fun v16 hf => ?_)
      refine lv_iconst (v := (1 : Int32)) hx hb dX0_text_51 (by decide) ?_
      refine lv_iadd hx hb dX0_text_52 ?_
      refine zw_putN X hw fs_X1_6 (hN _ nq139) rfl rfl rfl rfl hf dX0_text_53 (fun h17 H locs hf hw => ?_)
      refine lv_aload_n hx hb dX0_text_56 rfl (lv_at hl 1 rfl) ?_
      refine zw_getR X hw fs_X0_0 q252 rfl hf dX0_text_57 (fun v18 hf => ?_)
      refine zw_getIN X hw fs_X1_6 (hN _ nq139) rfl hf dX0_text_60 (fun v19 hf => ?_)
      refine lv_iconst (v := (1 : Int32)) hx hb dX0_text_63 (by decide) ?_
      refine lv_isub hx hb dX0_text_64 ?_
      refine zw_nmI hf (fun v20 hf => ?_)
      refine lv_istore_n (lv' := [(2, .int v20), (1, .ref v2), (0, .ref a0)]) hx hb dX0_text_65 rfl hl (by decide) rfl (fun ls hl => ?_)
      refine lv_aload_n hx hb dX0_text_66 rfl (lv_at hl 2 rfl) ?_
      refine lv_iconst (v := (0 : Int32)) hx hb dX0_text_67 (by decide) ?_
      refine zw_put X hw fs_X0_7 q259 rfl rfl rfl rfl hf dX0_text_68 (fun h21 H locs hf hw => ?_)
      refine lv_iload_n hx hb dX0_text_71 rfl (lv_at hl 0 rfl) ?_
      exact zx_iret X hw hf (Nat.le_of_ble_eq_true rfl) (Nat.le_of_ble_eq_true rfl) dX0_text_72
    · refine lv_ldc (v := (-1000000003 : Int32)) hx hb hown (hts _ q330) dX0_text_17 ?_
      refine lv_istore_n (lv' := [(2, .int (-1000000003 : Int32)), (1, .ref v2), (0, .ref a0)]) hx hb dX0_text_19 rfl hl (by decide) rfl (fun ls hl => ?_)
      refine lv_aload_n hx hb dX0_text_20 rfl (lv_at hl 2 rfl) ?_
      refine lv_iconst (v := (0 : Int32)) hx hb dX0_text_21 (by decide) ?_
      refine zw_put X hw fs_X0_7 q259 rfl rfl rfl rfl hf dX0_text_22 (fun h22 H locs hf hw => ?_)
      refine lv_iload_n hx hb dX0_text_25 rfl (lv_at hl 0 rfl) ?_
      exact zx_iret X hw hf (Nat.le_of_ble_eq_true rfl) (Nat.le_of_ble_eq_true rfl) dX0_text_26
