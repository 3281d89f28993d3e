/-! StoneSheetsModel: the walks (gen/model.py) -/
set_option maxRecDepth 100000
set_option maxHeartbeats 4000000 in
theorem k_X5_feed_47 {p : Program} {l : Launch} {e : Env} {s : State} {m : MethodId} {args : Array Value} {below : List Frame} {meth : Method} {c : Code} {D : va_G} {A : Nat → Prop} {E : State → Prop} (X : zCx p s m args meth c D A E cX5_feed 6 RX5 (Option.some FieldType.int)) (res : Int32 × zT) (K18 : zT → Nat → Int32 → Int32 → Int32 → Int32 → Option (Int32 × zT)) (hK18 : ∀ (h : zT) (a0 : Nat) (i1 : Int32) (i2 : Int32) (i3 : Int32) (i4 : Int32) (H : Heap) (locs : List Loc) (ls : Array Slot), K18 h a0 i1 i2 i3 i4 = some res → zWh D A s H h locs → lv_has ls 6 [(0, .ref a0), (1, .int i1), (2, .int i2), (3, .int i3), (4, .int i4)] → W p l e rm_X5_feed s m args below meth c H locs 0 0 (MQ below (zQW D A (some (.int res.1)) res.2) args s 0 0 A) (F0 m 18 ls [])) : ∀ (h : zT) (a0 : Nat) (i1 : Int32) (i2 : Int32) (i3 : Int32) (i4 : Int32) (s0 : Int32) (H : Heap) (locs : List Loc) (ls : Array Slot), f_X5_feed_47 K18 h a0 i1 i2 i3 i4 s0 = some res → zWh D A s H h locs → lv_has ls 6 [(0, .ref a0), (1, .int i1), (2, .int i2), (3, .int i3), (4, .int i4)] → W p l e rm_X5_feed s m args below meth c H locs 0 0 (MQ below (zQW D A (some (.int res.1)) res.2) args s 0 0 A) (F0 m 47 ls [.int s0]) := by
  have hx := X.1.1
  have hb := X.1.2.1
  have hown := X.1.2.2.2.1
  have hts := X.1.2.2.2.2
  intro h a0 i1 i2 i3 i4 s0 H locs ls hf hw hl
  unfold f_X5_feed_47 at hf
  refine lv_istore (lv' := [(5, .int s0), (0, .ref a0), (1, .int i1), (2, .int i2), (3, .int i3), (4, .int i4)]) hx hb dX5_feed_47 hl (by decide) rfl (fun ls hl => ?_)
  refine lv_aload_n hx hb dX5_feed_49 rfl (lv_at hl 1 rfl) ?_
  refine zw_getR X hw fs_X5_14 q1284 rfl hf dX5_feed_50 (fun v1 hf => ?_)
  refine lv_aload_n hx hb dX5_feed_53 rfl (lv_at hl 1 rfl) ?_
  refine zw_getI X hw fs_X5_15 q1285 rfl hf dX5_feed_54 (fun v2 hf => ?_)
  refine lv_iload hx hb dX5_feed_57 (lv_at hl 0 rfl) ?_
  refine lv_bipush (v := (24 : Int32)) hx hb dX5_feed_59 (by decide) ?_
  refine lv_bipush (v := (8 : Int32)) hx hb dX5_feed_61 (by decide) ?_
  refine lv_iload hx hb dX5_feed_63 (lv_at hl 5 rfl) ?_
  refine lv_iconst (v := (4 : Int32)) hx hb dX5_feed_65 (by decide) ?_
  refine lv_irem hx hb dX5_feed_66 (by decide) ?_
  refine lv_imul hx hb dX5_feed_67 ?_
  refine lv_isub hx hb dX5_feed_68 ?_
  refine lv_ishr hx hb dX5_feed_69 ?_
  refine lv_sipush (v := (255 : Int32)) hx hb dX5_feed_70 (by decide) ?_
  refine lv_iand hx hb dX5_feed_73 ?_
  refine zw_iastore X hw hf dX5_feed_74 (fun h3 H locs hf hw => ?_)
  refine lv_aload_n hx hb dX5_feed_75 rfl (lv_at hl 1 rfl) ?_
  refine lv_dup hx hb dX5_feed_76 rfl ?_
  refine zw_getI X hw fs_X5_15 q1285 rfl hf dX5_feed_77 (fun v4 hf => ?_)
  refine lv_iconst (v := (1 : Int32)) hx hb dX5_feed_80 (by decide) ?_
  refine lv_iadd hx hb dX5_feed_81 ?_
  refine zw_put X hw fs_X5_15 q1285 rfl rfl rfl rfl hf dX5_feed_82 (fun h5 H locs hf hw => ?_)
  refine zw_nmS hf (fun v6 ev6 hf => ?_)
  refine lv_iinc (k := 5) (v := v6) (lv' := [(4, .int v6), (5, .int s0), (0, .ref a0), (1, .int i1), (2, .int i2), (3, .int i3)]) hx hb dX5_feed_85 hl rfl (by rw [ev6]; rfl) (by decide) rfl (fun ls hl => ?_)
  refine lv_goto (tgt := 18) hx hb dX5_feed_88 (by decide) ?_
  exact hK18 h5 a0 i1 i2 i3 v6 _ _ _ hf hw (lv_sub hl [2, 3, 4, 5, 0] rfl)
set_option maxHeartbeats 4000000 in
theorem k_X5_feed_18 {p : Program} {l : Launch} {e : Env} {s : State} {m : MethodId} {args : Array Value} {below : List Frame} {meth : Method} {c : Code} {D : va_G} {A : Nat → Prop} {E : State → Prop} (X : zCx p s m args meth c D A E cX5_feed 6 RX5 (Option.some FieldType.int)) (res : Int32 × zT) : ∀ (n : Nat), ∀ (h : zT) (a0 : Nat) (i1 : Int32) (i2 : Int32) (i3 : Int32) (i4 : Int32) (H : Heap) (locs : List Loc) (ls : Array Slot), f_X5_feed_18 n h a0 i1 i2 i3 i4 = some res → zWh D A s H h locs → lv_has ls 6 [(0, .ref a0), (1, .int i1), (2, .int i2), (3, .int i3), (4, .int i4)] → W p l e rm_X5_feed s m args below meth c H locs 0 0 (MQ below (zQW D A (some (.int res.1)) res.2) args s 0 0 A) (F0 m 18 ls []) := by
  have hx := X.1.1
  have hb := X.1.2.1
  have hown := X.1.2.2.2.1
  have hts := X.1.2.2.2.2
  intro n
  induction n with
  | zero =>
    intro h a0 i1 i2 i3 i4 H locs ls hf hw hl
    cases hf
  | succ n ih =>
    intro h a0 i1 i2 i3 i4 H locs ls hf hw hl
    unfold f_X5_feed_18 at hf
    refine lv_iload hx hb dX5_feed_18 (lv_at hl 4 rfl) ?_
    refine lv_bipush (v := (12 : Int32)) hx hb dX5_feed_20 (by decide) ?_
    refine zw_icmp_ge (tgt := 91) hx hb hf dX5_feed_22 (by decide) (fun hf => ?_) (fun hf => ?_)
    · refine lv_aload_n hx hb dX5_feed_91 rfl (lv_at hl 0 rfl) ?_
      refine zw_getI X hw fs_X5_15 q1285 rfl hf dX5_feed_92 (fun v1 hf => ?_)
      exact zw_iret X hw hf (Nat.le_of_ble_eq_true rfl) (Nat.le_of_ble_eq_true rfl) dX5_feed_95
    · refine lv_iload hx hb dX5_feed_25 (lv_at hl 4 rfl) ?_
      refine lv_iconst (v := (4 : Int32)) hx hb dX5_feed_27 (by decide) ?_
      refine zw_icmp_ge (tgt := 35) hx hb hf dX5_feed_28 (by decide) (fun hf => ?_) (fun hf => ?_)
      · refine lv_iload hx hb dX5_feed_35 (lv_at hl 4 rfl) ?_
        refine lv_bipush (v := (8 : Int32)) hx hb dX5_feed_37 (by decide) ?_
        refine zw_icmp_ge (tgt := 46) hx hb hf dX5_feed_39 (by decide) (fun hf => ?_) (fun hf => ?_)
        · refine lv_iload_n hx hb dX5_feed_46 rfl (lv_at hl 3 rfl) ?_
          exact k_X5_feed_47 X _ (f_X5_feed_18 n) ih h a0 i1 i2 i3 i4 i3 _ _ _ hf hw (lv_sub hl [0, 1, 2, 3, 4] rfl)
        · refine lv_iload_n hx hb dX5_feed_42 rfl (lv_at hl 2 rfl) ?_
          refine lv_goto (tgt := 47) hx hb dX5_feed_43 (by decide) ?_
          exact k_X5_feed_47 X _ (f_X5_feed_18 n) ih h a0 i1 i2 i3 i4 i2 _ _ _ hf hw (lv_sub hl [0, 1, 2, 3, 4] rfl)
      · refine lv_iload_n hx hb dX5_feed_31 rfl (lv_at hl 1 rfl) ?_
        refine lv_goto (tgt := 47) hx hb dX5_feed_32 (by decide) ?_
        exact k_X5_feed_47 X _ (f_X5_feed_18 n) ih h a0 i1 i2 i3 i4 i1 _ _ _ hf hw (lv_sub hl [0, 1, 2, 3, 4] rfl)
set_option maxHeartbeats 4000000 in
theorem mt_X5_feed (l : Launch) (D : va_G) (A : Nat → Prop) (E : State → Prop) (hE : zEok A E) (h : zT) (a0 : Nat) (i1 : Int32) (i2 : Int32) (i3 : Int32) (res : Int32 × zT) (hf : f_X5_feed h a0 i1 i2 i3 = some res) : Met l yX5_feed (ws_ yX5_feed cX5_feed 6 (Option.some FieldType.int)) rm_X5_feed (zPW D A E h [.ref a0, .int i1, .int i2, .int i3]) (zQW D A (some (.int res.1)) res.2) 0 0 A := by
  refine zmt hE (by decide) (Nat.le_of_ble_eq_true rfl) ?_
  intro p e s m below meth c ls hmn X hw hl
  have hl : lv_has ls 6 [(0, .ref a0), (1, .int i1), (2, .int i2), (3, .int i3)] := hl
  have hx := X.1.1
  have hb := X.1.2.1
  have hown := X.1.2.2.2.1
  have hts := X.1.2.2.2.2
  unfold f_X5_feed at hf
  refine lv_aload_n hx hb dX5_feed_0 rfl (lv_at hl 0 rfl) ?_
  refine zw_getI X hw fs_X5_15 q1285 rfl hf dX5_feed_1 (fun v1 hf => ?_)
  refine lv_bipush (v := (12 : Int32)) hx hb dX5_feed_4 (by decide) ?_
  refine lv_iadd hx hb dX5_feed_6 ?_
  refine lv_bipush (v := (96 : Int32)) hx hb dX5_feed_7 (by decide) ?_
  refine zw_icmp_le (tgt := 15) hx hb hf dX5_feed_9 (by decide) (fun hf => ?_) (fun hf => ?_)
  · refine lv_iconst (v := (0 : Int32)) hx hb dX5_feed_15 (by decide) ?_
    refine lv_istore (lv' := [(4, .int (0 : Int32)), (0, .ref a0), (1, .int i1), (2, .int i2), (3, .int i3)]) hx hb dX5_feed_16 hl (by decide) rfl (fun ls hl => ?_)
    exact k_X5_feed_18 X _ 4096 h a0 i1 i2 i3 (0 : Int32) _ _ _ hf hw (lv_sub hl [1, 2, 3, 4, 0] rfl)
  · refine lv_ldc (v := (-1000000003 : Int32)) hx hb hown (hts _ q1378) dX5_feed_12 ?_
    exact zw_iret X hw hf (Nat.le_of_ble_eq_true rfl) (Nat.le_of_ble_eq_true rfl) dX5_feed_14
set_option maxHeartbeats 4000000 in
theorem mt_X5_trim (l : Launch) (D : va_G) (A : Nat → Prop) (E : State → Prop) (hE : zEok A E) (h : zT) (a0 : Nat) (i1 : Int32) (res : Int32 × zT) (hf : f_X5_trim h a0 i1 = some res) : Met l yX5_trim (ws_ yX5_trim cX5_trim 2 (Option.some FieldType.int)) rm_X5_trim (zPW D A E h [.ref a0, .int i1]) (zQW D A (some (.int res.1)) res.2) 0 0 A := by
  refine zmt hE (by decide) (Nat.le_of_ble_eq_true rfl) ?_
  intro p e s m below meth c ls hmn X hw hl
  have hl : lv_has ls 2 [(0, .ref a0), (1, .int i1)] := hl
  have hx := X.1.1
  have hb := X.1.2.1
  have hown := X.1.2.2.2.1
  have hts := X.1.2.2.2.2
  unfold f_X5_trim at hf
  refine lv_iload_n hx hb dX5_trim_0 rfl (lv_at hl 1 rfl) ?_
  refine lv_i2l hx hb dX5_trim_1 rfl ?_
  refine lv_lconst (v := (0 : Int64)) hx hb dX5_trim_2 (by decide) ?_
  refine lv_aload_n hx hb dX5_trim_3 rfl (lv_at hl 0 rfl) ?_
  refine zw_getI X hw fs_X5_15 q1285 rfl hf dX5_trim_4 (fun v1 hf => ?_)
  refine lv_i2l hx hb dX5_trim_7 rfl ?_
  refine zw_cSZ (rest := []) [.long i1.toInt64, .long (0 : Int64), .long v1.toInt64] X hw hl.1 hf (fun r hr => mt_X5_isIn l D A E X.2.2.2.2.2.1 h i1.toInt64 (0 : Int64) v1.toInt64 r hr) (lw_S q1372 q1373 q89 q1374) cd_X5_isIn ⟨rfl, rfl⟩ ⟨Nat.le_of_ble_eq_true rfl, Nat.le_of_ble_eq_true rfl⟩ rfl rfl (Nat.le_of_ble_eq_true rfl) dX5_trim_8 ⟨Nat.le_of_ble_eq_true rfl, Nat.le_of_ble_eq_true rfl⟩ (fun r2 H locs hf hw => ?_)
  refine zw_if_ne (tgt := 17) hx hb hf dX5_trim_11 (by decide) (fun hf => ?_) (fun hf => ?_)
  · refine lv_aload_n hx hb dX5_trim_17 rfl (lv_at hl 0 rfl) ?_
    refine lv_iload_n hx hb dX5_trim_18 rfl (lv_at hl 1 rfl) ?_
    refine zw_put X hw fs_X5_15 q1285 rfl rfl rfl rfl hf dX5_trim_19 (fun h3 H locs hf hw => ?_)
    refine lv_iload_n hx hb dX5_trim_22 rfl (lv_at hl 1 rfl) ?_
    exact zw_iret X hw hf (Nat.le_of_ble_eq_true rfl) (Nat.le_of_ble_eq_true rfl) dX5_trim_23
  · refine lv_ldc (v := (-1000000001 : Int32)) hx hb hown (hts _ q1377) dX5_trim_14 ?_
    exact zw_iret X hw hf (Nat.le_of_ble_eq_true rfl) (Nat.le_of_ble_eq_true rfl) dX5_trim_16
set_option maxHeartbeats 4000000 in
theorem k_X5_isWordAt_10 {p : Program} {l : Launch} {e : Env} {s : State} {m : MethodId} {args : Array Value} {below : List Frame} {meth : Method} {c : Code} {D : va_G} {A : Nat → Prop} {E : State → Prop} (X : zCx p s m args meth c D A E cX5_isWordAt 6 RX5 (Option.some FieldType.boolean)) (res : Int32 × zT) : ∀ (h : zT) (a0 : Nat) (i1 : Int32) (i2 : Int32) (i3 : Int32) (i4 : Int32) (s0 : Int32) (H : Heap) (locs : List Loc) (ls : Array Slot), f_X5_isWordAt_10 h a0 i1 i2 i3 i4 s0 = some res → zWh D A s H h locs → lv_has ls 6 [(0, .ref a0), (1, .int i1), (2, .int i2), (3, .int i3), (4, .int i4)] → W p l e rm_X5_isWordAt s m args below meth c H locs 0 0 (MQ below (zQW D A (some (.int res.1)) res.2) args s 0 0 A) (F0 m 10 ls [.int s0]) := by
  have hx := X.1.1
  have hb := X.1.2.1
  have hown := X.1.2.2.2.1
  have hts := X.1.2.2.2.2
  intro h a0 i1 i2 i3 i4 s0 H locs ls hf hw hl
  unfold f_X5_isWordAt_10 at hf
  refine lv_istore (lv' := [(5, .int s0), (0, .ref a0), (1, .int i1), (2, .int i2), (3, .int i3), (4, .int i4)]) hx hb dX5_isWordAt_10 hl (by decide) rfl (fun ls hl => ?_)
  refine lv_aload_n hx hb dX5_isWordAt_12 rfl (lv_at hl 1 rfl) ?_
  refine zw_getI X hw fs_X5_18 q1288 rfl hf dX5_isWordAt_13 (fun v1 hf => ?_)
  refine lv_iconst (v := (1 : Int32)) hx hb dX5_isWordAt_16 (by decide) ?_
  refine zw_icmp_ne (tgt := 102) hx hb hf dX5_isWordAt_17 (by decide) (fun hf => ?_) (fun hf => ?_)
  · refine lv_iconst (v := (0 : Int32)) hx hb dX5_isWordAt_102 (by decide) ?_
    exact zw_zret X hw hf (Nat.le_of_ble_eq_true rfl) (Nat.le_of_ble_eq_true rfl) dX5_isWordAt_103
  · refine lv_aload_n hx hb dX5_isWordAt_20 rfl (lv_at hl 1 rfl) ?_
    refine zw_getI X hw fs_X5_17 q1287 rfl hf dX5_isWordAt_21 (fun v2 hf => ?_)
    refine lv_aload_n hx hb dX5_isWordAt_24 rfl (lv_at hl 1 rfl) ?_
    refine zw_getI X hw fs_X5_16 q1286 rfl hf dX5_isWordAt_25 (fun v3 hf => ?_)
    refine lv_isub hx hb dX5_isWordAt_28 ?_
    refine lv_iload hx hb dX5_isWordAt_29 (lv_at hl 0 rfl) ?_
    refine zw_icmp_ne (tgt := 102) hx hb hf dX5_isWordAt_31 (by decide) (fun hf => ?_) (fun hf => ?_)
    · refine lv_iconst (v := (0 : Int32)) hx hb dX5_isWordAt_102 (by decide) ?_
      exact zw_zret X hw hf (Nat.le_of_ble_eq_true rfl) (Nat.le_of_ble_eq_true rfl) dX5_isWordAt_103
    · refine lv_aload_n hx hb dX5_isWordAt_34 rfl (lv_at hl 1 rfl) ?_
      refine zw_getR X hw fs_X5_14 q1284 rfl hf dX5_isWordAt_35 (fun v4 hf => ?_)
      refine lv_aload_n hx hb dX5_isWordAt_38 rfl (lv_at hl 1 rfl) ?_
      refine zw_getI X hw fs_X5_16 q1286 rfl hf dX5_isWordAt_39 (fun v5 hf => ?_)
      refine zw_ialoadR X hw hf dX5_isWordAt_42 (fun v6 hf => ?_)
      refine lv_iload_n hx hb dX5_isWordAt_43 rfl (lv_at hl 2 rfl) ?_
      refine zw_icmp_ne (tgt := 102) hx hb hf dX5_isWordAt_44 (by decide) (fun hf => ?_) (fun hf => ?_)
      · refine lv_iconst (v := (0 : Int32)) hx hb dX5_isWordAt_102 (by decide) ?_
        exact zw_zret X hw hf (Nat.le_of_ble_eq_true rfl) (Nat.le_of_ble_eq_true rfl) dX5_isWordAt_103
      · refine lv_aload_n hx hb dX5_isWordAt_47 rfl (lv_at hl 1 rfl) ?_
        refine zw_getR X hw fs_X5_14 q1284 rfl hf dX5_isWordAt_48 (fun v7 hf => ?_)
        refine lv_aload_n hx hb dX5_isWordAt_51 rfl (lv_at hl 1 rfl) ?_
        refine zw_getI X hw fs_X5_16 q1286 rfl hf dX5_isWordAt_52 (fun v8 hf => ?_)
        refine lv_iconst (v := (1 : Int32)) hx hb dX5_isWordAt_55 (by decide) ?_
        refine lv_iadd hx hb dX5_isWordAt_56 ?_
        refine zw_ialoadR X hw hf dX5_isWordAt_57 (fun v9 hf => ?_)
        refine lv_iload_n hx hb dX5_isWordAt_58 rfl (lv_at hl 3 rfl) ?_
        refine zw_icmp_ne (tgt := 102) hx hb hf dX5_isWordAt_59 (by decide) (fun hf => ?_) (fun hf => ?_)
        · refine lv_iconst (v := (0 : Int32)) hx hb dX5_isWordAt_102 (by decide) ?_
          exact zw_zret X hw hf (Nat.le_of_ble_eq_true rfl) (Nat.le_of_ble_eq_true rfl) dX5_isWordAt_103
        · refine lv_aload_n hx hb dX5_isWordAt_62 rfl (lv_at hl 1 rfl) ?_
          refine zw_getR X hw fs_X5_14 q1284 rfl hf dX5_isWordAt_63 (fun v10 hf => ?_)
          refine lv_aload_n hx hb dX5_isWordAt_66 rfl (lv_at hl 1 rfl) ?_
          refine zw_getI X hw fs_X5_16 q1286 rfl hf dX5_isWordAt_67 (fun v11 hf => ?_)
          refine lv_iconst (v := (2 : Int32)) hx hb dX5_isWordAt_70 (by decide) ?_
          refine lv_iadd hx hb dX5_isWordAt_71 ?_
          refine zw_ialoadR X hw hf dX5_isWordAt_72 (fun v12 hf => ?_)
          refine lv_iload_n hx hb dX5_isWordAt_73 rfl (lv_at hl 4 rfl) ?_
          refine zw_icmp_ne (tgt := 102) hx hb hf dX5_isWordAt_74 (by decide) (fun hf => ?_) (fun hf => ?_)
          · refine lv_iconst (v := (0 : Int32)) hx hb dX5_isWordAt_102 (by decide) ?_
            exact zw_zret X hw hf (Nat.le_of_ble_eq_true rfl) (Nat.le_of_ble_eq_true rfl) dX5_isWordAt_103
          · refine lv_iload hx hb dX5_isWordAt_77 (lv_at hl 5 rfl) ?_
            refine zw_if_eq (tgt := 98) hx hb hf dX5_isWordAt_79 (by decide) (fun hf => ?_) (fun hf => ?_)
            · refine lv_iconst (v := (1 : Int32)) hx hb dX5_isWordAt_98 (by decide) ?_
              refine lv_goto (tgt := 103) hx hb dX5_isWordAt_99 (by decide) ?_
              exact zw_zret X hw hf (Nat.le_of_ble_eq_true rfl) (Nat.le_of_ble_eq_true rfl) dX5_isWordAt_103
            · refine lv_aload_n hx hb dX5_isWordAt_82 rfl (lv_at hl 1 rfl) ?_
              refine zw_getR X hw fs_X5_14 q1284 rfl hf dX5_isWordAt_83 (fun v13 hf => ?_)
              refine lv_aload_n hx hb dX5_isWordAt_86 rfl (lv_at hl 1 rfl) ?_
              refine zw_getI X hw fs_X5_16 q1286 rfl hf dX5_isWordAt_87 (fun v14 hf => ?_)
              refine lv_iconst (v := (3 : Int32)) hx hb dX5_isWordAt_90 (by decide) ?_
              refine lv_iadd hx hb dX5_isWordAt_91 ?_
              refine zw_ialoadR X hw hf dX5_isWordAt_92 (fun v15 hf => ?_)
              refine lv_iload hx hb dX5_isWordAt_93 (lv_at hl 5 rfl) ?_
              refine zw_icmp_ne (tgt := 102) hx hb hf dX5_isWordAt_95 (by decide) (fun hf => ?_) (fun hf => ?_)
              · refine lv_iconst (v := (0 : Int32)) hx hb dX5_isWordAt_102 (by decide) ?_
                exact zw_zret X hw hf (Nat.le_of_ble_eq_true rfl) (Nat.le_of_ble_eq_true rfl) dX5_isWordAt_103
              · refine lv_iconst (v := (1 : Int32)) hx hb dX5_isWordAt_98 (by decide) ?_
                refine lv_goto (tgt := 103) hx hb dX5_isWordAt_99 (by decide) ?_
                exact zw_zret X hw hf (Nat.le_of_ble_eq_true rfl) (Nat.le_of_ble_eq_true rfl) dX5_isWordAt_103
set_option maxHeartbeats 4000000 in
theorem mt_X5_isWordAt (l : Launch) (D : va_G) (A : Nat → Prop) (E : State → Prop) (hE : zEok A E) (h : zT) (a0 : Nat) (i1 : Int32) (i2 : Int32) (i3 : Int32) (i4 : Int32) (res : Int32 × zT) (hf : f_X5_isWordAt h a0 i1 i2 i3 i4 = some res) : Met l yX5_isWordAt (ws_ yX5_isWordAt cX5_isWordAt 6 (Option.some FieldType.boolean)) rm_X5_isWordAt (zPW D A E h [.ref a0, .int i1, .int i2, .int i3, .int i4]) (zQW D A (some (.int res.1)) res.2) 0 0 A := by
  refine zmt hE (by decide) (Nat.le_of_ble_eq_true rfl) ?_
  intro p e s m below meth c ls hmn X hw hl
  have hl : lv_has ls 6 [(0, .ref a0), (1, .int i1), (2, .int i2), (3, .int i3), (4, .int i4)] := hl
  have hx := X.1.1
  have hb := X.1.2.1
  have hown := X.1.2.2.2.1
  have hts := X.1.2.2.2.2
  unfold f_X5_isWordAt at hf
  refine lv_iload hx hb dX5_isWordAt_0 (lv_at hl 4 rfl) ?_
  refine zw_if_ne (tgt := 9) hx hb hf dX5_isWordAt_2 (by decide) (fun hf => ?_) (fun hf => ?_)
  · refine lv_iconst (v := (4 : Int32)) hx hb dX5_isWordAt_9 (by decide) ?_
    exact k_X5_isWordAt_10 X _ h a0 i1 i2 i3 i4 (4 : Int32) _ _ _ hf hw (lv_sub hl [0, 1, 2, 3, 4] rfl)
  · refine lv_iconst (v := (3 : Int32)) hx hb dX5_isWordAt_5 (by decide) ?_
    refine lv_goto (tgt := 10) hx hb dX5_isWordAt_6 (by decide) ?_
    exact k_X5_isWordAt_10 X _ h a0 i1 i2 i3 i4 (3 : Int32) _ _ _ hf hw (lv_sub hl [0, 1, 2, 3, 4] rfl)
set_option maxHeartbeats 4000000 in
theorem mt_X5_key (l : Launch) (D : va_G) (A : Nat → Prop) (E : State → Prop) (hE : zEok A E) (h : zT) (a0 : Nat) (res : Int32 × zT) (hf : f_X5_key h a0 = some res) : Met l yX5_key (ws_ yX5_key cX5_key 1 (Option.some FieldType.int)) rm_X5_key (zPW D A E h [.ref a0]) (zQW D A (some (.int res.1)) res.2) 0 0 A := by
  refine zmt hE (by decide) (Nat.le_of_ble_eq_true rfl) ?_
  intro p e s m below meth c ls hmn X hw hl
  have hl : lv_has ls 1 [(0, .ref a0)] := hl
  have hx := X.1.1
  have hb := X.1.2.1
  have hown := X.1.2.2.2.1
  have hts := X.1.2.2.2.2
  unfold f_X5_key at hf
  refine lv_aload_n hx hb dX5_key_0 rfl (lv_at hl 0 rfl) ?_
  refine lv_bipush (v := (103 : Int32)) hx hb dX5_key_1 (by decide) ?_
  refine lv_bipush (v := (97 : Int32)) hx hb dX5_key_3 (by decide) ?_
  refine lv_bipush (v := (105 : Int32)) hx hb dX5_key_5 (by decide) ?_
  refine lv_bipush (v := (110 : Int32)) hx hb dX5_key_7 (by decide) ?_
  refine zw_cVZ (rest := []) [.int (103 : Int32), .int (97 : Int32), .int (105 : Int32), .int (110 : Int32)] X hw hl.1 hf rfl rfl (fun r hr => mt_X5_isWordAt l D A E X.2.2.2.2.2.1 h a0 (103 : Int32) (97 : Int32) (105 : Int32) (110 : Int32) r hr) (lw_V q1654 q1656 qs69 q89 q1657) cd_X5_isWordAt ⟨rfl, rfl⟩ ⟨Nat.le_of_ble_eq_true rfl, Nat.le_of_ble_eq_true rfl⟩ rfl rfl (Nat.le_of_ble_eq_true rfl) dX5_key_9 ⟨Nat.le_of_ble_eq_true rfl, Nat.le_of_ble_eq_true rfl⟩ (fun r1 H locs hf hw => ?_)
  refine zw_if_eq (tgt := 17) hx hb hf dX5_key_12 (by decide) (fun hf => ?_) (fun hf => ?_)
  · refine lv_aload_n hx hb dX5_key_17 rfl (lv_at hl 0 rfl) ?_
    refine lv_bipush (v := (102 : Int32)) hx hb dX5_key_18 (by decide) ?_
    refine lv_bipush (v := (101 : Int32)) hx hb dX5_key_20 (by decide) ?_
    refine lv_bipush (v := (101 : Int32)) hx hb dX5_key_22 (by decide) ?_
    refine lv_iconst (v := (0 : Int32)) hx hb dX5_key_24 (by decide) ?_
    refine zw_cVZ (rest := []) [.int (102 : Int32), .int (101 : Int32), .int (101 : Int32), .int (0 : Int32)] X hw hl.1 hf rfl rfl (fun r hr => mt_X5_isWordAt l D A E X.2.2.2.2.2.1 r1.2 a0 (102 : Int32) (101 : Int32) (101 : Int32) (0 : Int32) r hr) (lw_V q1654 q1656 qs69 q89 q1657) cd_X5_isWordAt ⟨rfl, rfl⟩ ⟨Nat.le_of_ble_eq_true rfl, Nat.le_of_ble_eq_true rfl⟩ rfl rfl (Nat.le_of_ble_eq_true rfl) dX5_key_25 ⟨Nat.le_of_ble_eq_true rfl, Nat.le_of_ble_eq_true rfl⟩ (fun r2 H locs hf hw => ?_)
    refine zw_if_eq (tgt := 33) hx hb hf dX5_key_28 (by decide) (fun hf => ?_) (fun hf => ?_)
    · refine lv_aload_n hx hb dX5_key_33 rfl (lv_at hl 0 rfl) ?_
      refine lv_bipush (v := (102 : Int32)) hx hb dX5_key_34 (by decide) ?_
      refine lv_bipush (v := (105 : Int32)) hx hb dX5_key_36 (by decide) ?_
      refine lv_bipush (v := (110 : Int32)) hx hb dX5_key_38 (by decide) ?_
      refine lv_bipush (v := (101 : Int32)) hx hb dX5_key_40 (by decide) ?_
      refine zw_cVZ (rest := []) [.int (102 : Int32), .int (105 : Int32), .int (110 : Int32), .int (101 : Int32)] X hw hl.1 hf rfl rfl (fun r hr => mt_X5_isWordAt l D A E X.2.2.2.2.2.1 r2.2 a0 (102 : Int32) (105 : Int32) (110 : Int32) (101 : Int32) r hr) (lw_V q1654 q1656 qs69 q89 q1657) cd_X5_isWordAt ⟨rfl, rfl⟩ ⟨Nat.le_of_ble_eq_true rfl, Nat.le_of_ble_eq_true rfl⟩ rfl rfl (Nat.le_of_ble_eq_true rfl) dX5_key_42 ⟨Nat.le_of_ble_eq_true rfl, Nat.le_of_ble_eq_true rfl⟩ (fun r3 H locs hf hw => ?_)
      refine zw_if_eq (tgt := 52) hx hb hf dX5_key_45 (by decide) (fun hf => ?_) (fun hf => ?_)
      · refine lv_iconst (v := (-1 : Int32)) hx hb dX5_key_52 (by decide) ?_
        exact zw_iret X hw hf (Nat.le_of_ble_eq_true rfl) (Nat.le_of_ble_eq_true rfl) dX5_key_53
      · refine lv_iconst (v := (2 : Int32)) hx hb dX5_key_48 (by decide) ?_
        refine lv_goto (tgt := 53) hx hb dX5_key_49 (by decide) ?_
        exact zw_iret X hw hf (Nat.le_of_ble_eq_true rfl) (Nat.le_of_ble_eq_true rfl) dX5_key_53
    · refine lv_iconst (v := (1 : Int32)) hx hb dX5_key_31 (by decide) ?_
      exact zw_iret X hw hf (Nat.le_of_ble_eq_true rfl) (Nat.le_of_ble_eq_true rfl) dX5_key_32
  · refine lv_iconst (v := (0 : Int32)) hx hb dX5_key_15 (by decide) ?_
    exact zw_iret X hw hf (Nat.le_of_ble_eq_true rfl) (Nat.le_of_ble_eq_true rfl) dX5_key_16
set_option maxHeartbeats 4000000 in
theorem k_X5_parse_111 {p : Program} {l : Launch} {e : Env} {s : State} {m : MethodId} {args : Array Value} {below : List Frame} {meth : Method} {c : Code} {D : va_G} {A : Nat → Prop} {E : State → Prop} (X : zCx p s m args meth c D A E cX5_parse 3 RX5 (Option.some FieldType.int)) (res : Int32 × zT) : ∀ (h : zT) (a0 : Nat) (i1 : Int32) (i2 : Int32) (H : Heap) (locs : List Loc) (ls : Array Slot), f_X5_parse_111 h a0 i1 i2 = some res → zWh D A s H h locs → lv_has ls 3 [(0, .ref a0), (1, .int i1), (2, .int i2)] → W p l e rm_X5_parse s m args below meth c H locs 0 0 (MQ below (zQW D A (some (.int res.1)) res.2) args s 0 0 A) (F0 m 111 ls []) := by
  have hx := X.1.1
  have hb := X.1.2.1
  have hown := X.1.2.2.2.1
  have hts := X.1.2.2.2.2
  intro h a0 i1 i2 H locs ls hf hw hl
  unfold f_X5_parse_111 at hf
  refine lv_aload_n hx hb dX5_parse_111 rfl (lv_at hl 0 rfl) ?_
  refine lv_iconst (v := (0 : Int32)) hx hb dX5_parse_112 (by decide) ?_
  refine zw_put X hw fs_X5_15 q1285 rfl rfl rfl rfl hf dX5_parse_113 (fun h1 H locs hf hw => ?_)
  refine lv_iload_n hx hb dX5_parse_116 rfl (lv_at hl 2 rfl) ?_
  refine zw_if_eq (tgt := 124) hx hb hf dX5_parse_117 (by decide) (fun hf => ?_) (fun hf => ?_)
  · refine lv_iconst (v := (-1 : Int32)) hx hb dX5_parse_124 (by decide) ?_
    exact zw_iret X hw hf (Nat.le_of_ble_eq_true rfl) (Nat.le_of_ble_eq_true rfl) dX5_parse_125
  · refine lv_iload_n hx hb dX5_parse_120 rfl (lv_at hl 1 rfl) ?_
    refine lv_goto (tgt := 125) hx hb dX5_parse_121 (by decide) ?_
    exact zw_iret X hw hf (Nat.le_of_ble_eq_true rfl) (Nat.le_of_ble_eq_true rfl) dX5_parse_125
set_option maxHeartbeats 4000000 in
theorem k_X5_parse_81 {p : Program} {l : Launch} {e : Env} {s : State} {m : MethodId} {args : Array Value} {below : List Frame} {meth : Method} {c : Code} {D : va_G} {A : Nat → Prop} {E : State → Prop} (X : zCx p s m args meth c D A E cX5_parse 3 RX5 (Option.some FieldType.int)) (res : Int32 × zT) : ∀ (h : zT) (a0 : Nat) (i1 : Int32) (s0 : Int32) (H : Heap) (locs : List Loc) (ls : Array Slot), f_X5_parse_81 h a0 i1 s0 = some res → zWh D A s H h locs → lv_has ls 3 [(0, .ref a0), (1, .int i1)] → W p l e rm_X5_parse s m args below meth c H locs 0 0 (MQ below (zQW D A (some (.int res.1)) res.2) args s 0 0 A) (F0 m 81 ls [.int s0]) := by
  have hx := X.1.1
  have hb := X.1.2.1
  have hown := X.1.2.2.2.1
  have hts := X.1.2.2.2.2
  intro h a0 i1 s0 H locs ls hf hw hl
  unfold f_X5_parse_81 at hf
  refine lv_istore_n (lv' := [(2, .int s0), (0, .ref a0), (1, .int i1)]) hx hb dX5_parse_81 rfl hl (by decide) rfl (fun ls hl => ?_)
  refine lv_iload_n hx hb dX5_parse_82 rfl (lv_at hl 0 rfl) ?_
  refine zw_if_eq (tgt := 111) hx hb hf dX5_parse_83 (by decide) (fun hf => ?_) (fun hf => ?_)
  · exact k_X5_parse_111 X _ h a0 i1 s0 _ _ _ hf hw (lv_sub hl [1, 2, 0] rfl)
  · refine lv_aload_n hx hb dX5_parse_86 rfl (lv_at hl 1 rfl) ?_
    refine zw_cVV (rest := []) [] X hw hl.1 hf rfl rfl (fun r hr => mt_X5_nextToken l D A E X.2.2.2.2.2.1 h a0 r hr) (lw_V q1634 q1636 qs65 q89 q1637) cd_X5_nextToken ⟨rfl, rfl⟩ ⟨Nat.le_of_ble_eq_true rfl, Nat.le_of_ble_eq_true rfl⟩ rfl rfl (Nat.le_of_ble_eq_true rfl) dX5_parse_87 ⟨Nat.le_of_ble_eq_true rfl, Nat.le_of_ble_eq_true rfl⟩ (fun r1 H locs hf hw => ?_)
    refine lv_aload_n hx hb dX5_parse_90 rfl (lv_at hl 1 rfl) ?_
    refine lv_iload_n hx hb dX5_parse_91 rfl (lv_at hl 2 rfl) ?_
    refine zw_cVZ (rest := []) [.int i1] X hw hl.1 hf rfl rfl (fun r hr => mt_X5_either l D A E X.2.2.2.2.2.1 (f_X5_part0 40) 40 (mt_X5_part0 l D A E X.2.2.2.2.2.1 40) r1 a0 i1 r hr) (lw_V q1658 q1660 qs70 q89 q1661) cd_X5_either ⟨rfl, rfl⟩ ⟨Nat.le_of_ble_eq_true rfl, Nat.le_of_ble_eq_true rfl⟩ rfl rfl (Nat.le_of_ble_eq_true rfl) dX5_parse_92 ⟨Nat.le_of_ble_eq_true rfl, Nat.le_of_ble_eq_true rfl⟩ (fun r2 H locs hf hw => ?_)
    refine zw_if_eq (tgt := 109) hx hb hf dX5_parse_95 (by decide) (fun hf => ?_) (fun hf => ?_)
    · refine lv_iconst (v := (0 : Int32)) hx hb dX5_parse_109 (by decide) ?_
      refine lv_istore_n (lv' := [(2, .int (0 : Int32)), (0, .ref a0), (1, .int i1)]) hx hb dX5_parse_110 rfl hl (by decide) rfl (fun ls hl => ?_)
      exact k_X5_parse_111 X _ r2.2 a0 i1 (0 : Int32) _ _ _ hf hw (lv_sub hl [1, 2, 0] rfl)
    · refine lv_aload_n hx hb dX5_parse_98 rfl (lv_at hl 1 rfl) ?_
      refine zw_getI X hw fs_X5_18 q1288 rfl hf dX5_parse_99 (fun v3 hf => ?_)
      refine zw_if_ne (tgt := 109) hx hb hf dX5_parse_102 (by decide) (fun hf => ?_) (fun hf => ?_)
      · refine lv_iconst (v := (0 : Int32)) hx hb dX5_parse_109 (by decide) ?_
        refine lv_istore_n (lv' := [(2, .int (0 : Int32)), (0, .ref a0), (1, .int i1)]) hx hb dX5_parse_110 rfl hl (by decide) rfl (fun ls hl => ?_)
        exact k_X5_parse_111 X _ r2.2 a0 i1 (0 : Int32) _ _ _ hf hw (lv_sub hl [1, 2, 0] rfl)
      · refine lv_iconst (v := (1 : Int32)) hx hb dX5_parse_105 (by decide) ?_
        refine lv_goto (tgt := 110) hx hb dX5_parse_106 (by decide) ?_
        refine lv_istore_n (lv' := [(2, .int (1 : Int32)), (0, .ref a0), (1, .int i1)]) hx hb dX5_parse_110 rfl hl (by decide) rfl (fun ls hl => ?_)
        exact k_X5_parse_111 X _ r2.2 a0 i1 (1 : Int32) _ _ _ hf hw (lv_sub hl [1, 2, 0] rfl)
set_option maxHeartbeats 4000000 in
theorem k_X5_parse_60 {p : Program} {l : Launch} {e : Env} {s : State} {m : MethodId} {args : Array Value} {below : List Frame} {meth : Method} {c : Code} {D : va_G} {A : Nat → Prop} {E : State → Prop} (X : zCx p s m args meth c D A E cX5_parse 3 RX5 (Option.some FieldType.int)) (res : Int32 × zT) : ∀ (h : zT) (a0 : Nat) (s0 : Int32) (s1 : Nat) (H : Heap) (locs : List Loc) (ls : Array Slot), f_X5_parse_60 h a0 s0 s1 = some res → zWh D A s H h locs → lv_has ls 3 [(0, .ref a0)] → W p l e rm_X5_parse s m args below meth c H locs 0 0 (MQ below (zQW D A (some (.int res.1)) res.2) args s 0 0 A) (F0 m 60 ls [.int s0, .ref s1]) := by
  have hx := X.1.1
  have hb := X.1.2.1
  have hown := X.1.2.2.2.1
  have hts := X.1.2.2.2.2
  intro h a0 s0 s1 H locs ls hf hw hl
  unfold f_X5_parse_60 at hf
  refine zw_put X hw fs_X5_24 q1294 rfl rfl rfl rfl hf dX5_parse_60 (fun h1 H locs hf hw => ?_)
  refine lv_aload_n hx hb dX5_parse_63 rfl (lv_at hl 0 rfl) ?_
  refine zw_cVV (rest := []) [] X hw hl.1 hf rfl rfl (fun r hr => mt_X5_nextToken l D A E X.2.2.2.2.2.1 h1 a0 r hr) (lw_V q1634 q1636 qs65 q89 q1637) cd_X5_nextToken ⟨rfl, rfl⟩ ⟨Nat.le_of_ble_eq_true rfl, Nat.le_of_ble_eq_true rfl⟩ rfl rfl (Nat.le_of_ble_eq_true rfl) dX5_parse_64 ⟨Nat.le_of_ble_eq_true rfl, Nat.le_of_ble_eq_true rfl⟩ (fun r2 H locs hf hw => ?_)
  refine lv_aload_n hx hb dX5_parse_67 rfl (lv_at hl 0 rfl) ?_
  refine zw_cVI (rest := []) [] X hw hl.1 hf rfl rfl (fun r hr => mt_X5_key l D A E X.2.2.2.2.2.1 r2 a0 r hr) (lw_V q1650 q1652 qs68 q89 q1653) cd_X5_key ⟨rfl, rfl⟩ ⟨Nat.le_of_ble_eq_true rfl, Nat.le_of_ble_eq_true rfl⟩ rfl rfl (Nat.le_of_ble_eq_true rfl) dX5_parse_68 ⟨Nat.le_of_ble_eq_true rfl, Nat.le_of_ble_eq_true rfl⟩ (fun r3 H locs hf hw => ?_)
  refine lv_istore_n (lv' := [(1, .int r3.1), (0, .ref a0)]) hx hb dX5_parse_71 rfl hl (by decide) rfl (fun ls hl => ?_)
  refine lv_iload_n hx hb dX5_parse_72 rfl (lv_at hl 0 rfl) ?_
  refine zw_if_lt (tgt := 80) hx hb hf dX5_parse_73 (by decide) (fun hf => ?_) (fun hf => ?_)
  · refine lv_iconst (v := (0 : Int32)) hx hb dX5_parse_80 (by decide) ?_
    exact k_X5_parse_81 X _ r3.2 a0 r3.1 (0 : Int32) _ _ _ hf hw (lv_sub hl [1, 0] rfl)
  · refine lv_iconst (v := (1 : Int32)) hx hb dX5_parse_76 (by decide) ?_
    refine lv_goto (tgt := 81) hx hb dX5_parse_77 (by decide) ?_
    exact k_X5_parse_81 X _ r3.2 a0 r3.1 (1 : Int32) _ _ _ hf hw (lv_sub hl [1, 0] rfl)
set_option maxHeartbeats 4000000 in
theorem mt_X5_parse (l : Launch) (D : va_G) (A : Nat → Prop) (E : State → Prop) (hE : zEok A E) (h : zT) (a0 : Nat) (res : Int32 × zT) (hf : f_X5_parse h a0 = some res) : Met l yX5_parse (ws_ yX5_parse cX5_parse 3 (Option.some FieldType.int)) rm_X5_parse (zPW D A E h [.ref a0]) (zQW D A (some (.int res.1)) res.2) 0 0 A := by
  refine zmt hE (by decide) (Nat.le_of_ble_eq_true rfl) ?_
  intro p e s m below meth c ls hmn X hw hl
  have hl : lv_has ls 3 [(0, .ref a0)] := hl
  have hx := X.1.1
  have hb := X.1.2.1
  have hown := X.1.2.2.2.1
  have hts := X.1.2.2.2.2
  unfold f_X5_parse at hf
  refine lv_aload_n hx hb dX5_parse_0 rfl (lv_at hl 0 rfl) ?_
  refine lv_iconst (v := (0 : Int32)) hx hb dX5_parse_1 (by decide) ?_
  refine zw_put X hw fs_X5_17 q1287 rfl rfl rfl rfl hf dX5_parse_2 (fun h1 H locs hf hw => ?_)
  refine lv_aload_n hx hb dX5_parse_5 rfl (lv_at hl 0 rfl) ?_
  refine lv_iconst (v := (3 : Int32)) hx hb dX5_parse_6 (by decide) ?_
  refine zw_put X hw fs_X5_18 q1288 rfl rfl rfl rfl hf dX5_parse_7 (fun h2 H locs hf hw => ?_)
  refine lv_aload_n hx hb dX5_parse_10 rfl (lv_at hl 0 rfl) ?_
  refine lv_iconst (v := (0 : Int32)) hx hb dX5_parse_11 (by decide) ?_
  refine zw_put X hw fs_X5_21 q1291 rfl rfl rfl rfl hf dX5_parse_12 (fun h3 H locs hf hw => ?_)
  refine lv_aload_n hx hb dX5_parse_15 rfl (lv_at hl 0 rfl) ?_
  refine lv_iconst (v := (0 : Int32)) hx hb dX5_parse_16 (by decide) ?_
  refine zw_put X hw fs_X5_22 q1292 rfl rfl rfl rfl hf dX5_parse_17 (fun h4 H locs hf hw => ?_)
  refine lv_aload_n hx hb dX5_parse_20 rfl (lv_at hl 0 rfl) ?_
  refine lv_iconst (v := (0 : Int32)) hx hb dX5_parse_21 (by decide) ?_
  refine zw_put X hw fs_X5_23 q1293 rfl rfl rfl rfl hf dX5_parse_22 (fun h5 H locs hf hw => ?_)
  refine lv_aload_n hx hb dX5_parse_25 rfl (lv_at hl 0 rfl) ?_
  refine lv_iconst (v := (0 : Int32)) hx hb dX5_parse_26 (by decide) ?_
  refine zw_put X hw fs_X5_25 q1295 rfl rfl rfl rfl hf dX5_parse_27 (fun h6 H locs hf hw => ?_)
  refine lv_aload_n hx hb dX5_parse_30 rfl (lv_at hl 0 rfl) ?_
  refine lv_aload_n hx hb dX5_parse_31 rfl (lv_at hl 0 rfl) ?_
  refine zw_getR X hw fs_X5_0 q1270 rfl hf dX5_parse_32 (fun v7 hf => ?_)
  refine lv_iconst (v := (1 : Int32)) hx hb dX5_parse_35 (by decide) ?_
  refine zw_ialoadR X hw hf dX5_parse_36 (fun v8 hf => ?_)
  refine lv_bipush (v := (14 : Int32)) hx hb dX5_parse_37 (by decide) ?_
  refine zw_icmp_ge (tgt := 57) hx hb hf dX5_parse_39 (by decide) (fun hf => ?_) (fun hf => ?_)
  · refine lv_sipush (v := (2875 : Int32)) hx hb dX5_parse_57 (by decide) ?_
    exact k_X5_parse_60 X _ h6 a0 (2875 : Int32) a0 _ _ _ hf hw (lv_sub hl [0] rfl)
  · refine lv_aload_n hx hb dX5_parse_42 rfl (lv_at hl 0 rfl) ?_
    refine lv_aload_n hx hb dX5_parse_43 rfl (lv_at hl 0 rfl) ?_
    refine zw_getR X hw fs_X5_0 q1270 rfl hf dX5_parse_44 (fun v9 hf => ?_)
    refine lv_iconst (v := (1 : Int32)) hx hb dX5_parse_47 (by decide) ?_
    refine zw_ialoadR X hw hf dX5_parse_48 (fun v10 hf => ?_)
    refine zw_cVI (rest := [.ref a0]) [.int v10] X hw hl.1 hf rfl rfl (fun r hr => mt_X5_textAt l D A E X.2.2.2.2.2.1 h6 a0 v10 r hr) (lw_V q1416 q1418 qs44 q89 q1419) cd_X5_textAt ⟨rfl, rfl⟩ ⟨Nat.le_of_ble_eq_true rfl, Nat.le_of_ble_eq_true rfl⟩ rfl rfl (Nat.le_of_ble_eq_true rfl) dX5_parse_49 ⟨Nat.le_of_ble_eq_true rfl, Nat.le_of_ble_eq_true rfl⟩ (fun r11 H locs hf hw => ?_)
    refine lv_iconst (v := (4 : Int32)) hx hb dX5_parse_52 (by decide) ?_
    refine lv_iadd hx hb dX5_parse_53 ?_
    refine lv_goto (tgt := 60) hx hb dX5_parse_54 (by decide) ?_
    exact k_X5_parse_60 X _ r11.2 a0 (r11.1 + (4 : Int32)) a0 _ _ _ hf hw (lv_sub hl [0] rfl)
set_option maxHeartbeats 4000000 in
theorem mt_X5_text (l : Launch) (D : va_G) (A : Nat → Prop) (E : State → Prop) (hE : zEok A E) (h : zT) (a0 : Nat) (res : Int32 × zT) (hf : f_X5_text h a0 = some res) : Met l yX5_text (ws_ yX5_text cX5_text 3 (Option.some FieldType.int)) rm_X5_text (zPW D A E h [.ref a0]) (zQW D A (some (.int res.1)) res.2) 0 0 A := by
  refine zmt hE (by decide) (Nat.le_of_ble_eq_true rfl) ?_
  intro p e s m below meth c ls hmn X hw hl
  have hl : lv_has ls 3 [(0, .ref a0)] := hl
  have hx := X.1.1
  have hb := X.1.2.1
  have hown := X.1.2.2.2.1
  have hts := X.1.2.2.2.2
  unfold f_X5_text at hf
  refine lv_aload_n hx hb dX5_text_0 rfl (lv_at hl 0 rfl) ?_
  refine zw_cVI (rest := []) [] X hw hl.1 hf rfl rfl (fun r hr => mt_X5_parse l D A E X.2.2.2.2.2.1 h a0 r hr) (lw_V q1630 q1632 qs64 q89 q1633) cd_X5_parse ⟨rfl, rfl⟩ ⟨Nat.le_of_ble_eq_true rfl, Nat.le_of_ble_eq_true rfl⟩ rfl rfl (Nat.le_of_ble_eq_true rfl) dX5_text_1 ⟨Nat.le_of_ble_eq_true rfl, Nat.le_of_ble_eq_true rfl⟩ (fun r1 H locs hf hw => ?_)
  refine lv_istore_n (lv' := [(1, .int r1.1), (0, .ref a0)]) hx hb dX5_text_4 rfl hl (by decide) rfl (fun ls hl => ?_)
  refine lv_iload_n hx hb dX5_text_5 rfl (lv_at hl 0 rfl) ?_
  refine zw_if_ge (tgt := 17) hx hb hf dX5_text_6 (by decide) (fun hf => ?_) (fun hf => ?_)
  · refine lv_aload_n hx hb dX5_text_17 rfl (lv_at hl 1 rfl) ?_
    refine zw_getR X hw fs_X5_0 q1270 rfl hf dX5_text_18 (fun v2 hf => ?_)
    refine lv_iconst (v := (1 : Int32)) hx hb dX5_text_21 (by decide) ?_
    refine zw_ialoadR X hw hf dX5_text_22 (fun v3 hf => ?_)
    refine lv_bipush (v := (14 : Int32)) hx hb dX5_text_23 (by decide) ?_
    refine zw_icmp_ne (tgt := 31) hx hb hf dX5_text_25 (by decide) (fun hf => ?_) (fun hf => ?_)
    · refine lv_aload_n hx hb dX5_text_31 rfl (lv_at hl 1 rfl) ?_
      refine lv_aload_n hx hb dX5_text_32 rfl (lv_at hl 1 rfl) ?_
      refine zw_getR X hw fs_X5_0 q1270 rfl hf dX5_text_33 (fun v4 hf => ?_)
      refine lv_iconst (v := (1 : Int32)) hx hb dX5_text_36 (by decide) ?_
      refine zw_ialoadR X hw hf dX5_text_37 (fun v5 hf => ?_)
      refine zw_cVI (rest := []) [.int v5] X hw hl.1 hf rfl rfl (fun r hr => mt_X5_textAt l D A E X.2.2.2.2.2.1 r1.2 a0 v5 r hr) (lw_V q1416 q1418 qs44 q89 q1419) cd_X5_textAt ⟨rfl, rfl⟩ ⟨Nat.le_of_ble_eq_true rfl, Nat.le_of_ble_eq_true rfl⟩ rfl rfl (Nat.le_of_ble_eq_true rfl) dX5_text_38 ⟨Nat.le_of_ble_eq_true rfl, Nat.le_of_ble_eq_true rfl⟩ (fun r6 H locs hf hw => ?_)
      refine lv_istore_n (lv' := [(2, .int r6.1), (1, .int r1.1), (0, .ref a0)]) hx hb dX5_text_41 rfl hl (by decide) rfl (fun ls hl => ?_)
      refine lv_aload_n hx hb dX5_text_42 rfl (lv_at hl 2 rfl) ?_
      refine zw_getR X hw fs_X5_0 q1270 rfl hf dX5_text_43 (fun v7 hf => ?_)
      refine lv_iload_n hx hb dX5_text_46 rfl (lv_at hl 0 rfl) ?_
      refine lv_iconst (v := (0 : Int32)) hx hb dX5_text_47 (by decide) ?_
      refine lv_iadd hx hb dX5_text_48 ?_
      refine lv_iload_n hx hb dX5_text_49 rfl (lv_at hl 1 rfl) ?_
      refine zw_iastore X hw hf dX5_text_50 (fun h8 H locs hf hw => ?_)
      refine lv_aload_n hx hb dX5_text_51 rfl (lv_at hl 2 rfl) ?_
      refine zw_getR X hw fs_X5_0 q1270 rfl hf dX5_text_52 (fun v9 hf => ?_)
      refine lv_iload_n hx hb dX5_text_55 rfl (lv_at hl 0 rfl) ?_
      refine lv_iconst (v := (1 : Int32)) hx hb dX5_text_56 (by decide) ?_
      refine lv_iadd hx hb dX5_text_57 ?_
      refine lv_aload_n hx hb dX5_text_58 rfl (lv_at hl 2 rfl) ?_
      refine zw_getI X hw fs_X5_25 q1295 rfl hf dX5_text_59 (fun v10 hf => ?_)
      refine zw_iastore X hw hf dX5_text_62 (fun h11 H locs hf hw => ?_)
      refine lv_aload_n hx hb dX5_text_63 rfl (lv_at hl 2 rfl) ?_
      refine zw_getR X hw fs_X5_0 q1270 rfl hf dX5_text_64 (fun v12 hf => ?_)
      refine lv_iload_n hx hb dX5_text_67 rfl (lv_at hl 0 rfl) ?_
      refine lv_iconst (v := (2 : Int32)) hx hb dX5_text_68 (by decide) ?_
      refine lv_iadd hx hb dX5_text_69 ?_
      refine lv_aload_n hx hb dX5_text_70 rfl (lv_at hl 2 rfl) ?_
      refine zw_getI X hw fs_X5_23 q1293 rfl hf dX5_text_71 (fun v13 hf => ?_)
      refine zw_iastore X hw hf dX5_text_74 (fun h14 H locs hf hw => ?_)
      refine lv_aload_n hx hb dX5_text_75 rfl (lv_at hl 2 rfl) ?_
      refine zw_getR X hw fs_X5_0 q1270 rfl hf dX5_text_76 (fun v15 hf => ?_)
      refine lv_iconst (v := (1 : Int32)) hx hb dX5_text_79 (by decide) ?_
      refine lv_dup2_11 hx hb dX5_text_80 rfl rfl ?_
      refine zw_ialoadR X hw hf dX5_text_81 (fun v16 hf => ?_)
      refine lv_iconst (v := (1 : Int32)) hx hb dX5_text_82 (by decide) ?_
      refine lv_iadd hx hb dX5_text_83 ?_
      refine zw_iastore X hw hf dX5_text_84 (fun h17 H locs hf hw => ?_)
      refine lv_aload_n hx hb dX5_text_85 rfl (lv_at hl 2 rfl) ?_
      refine zw_getR X hw fs_X5_0 q1270 rfl hf dX5_text_86 (fun v18 hf => ?_)
      refine lv_iconst (v := (1 : Int32)) hx hb dX5_text_89 (by decide) ?_
      refine zw_ialoadR X hw hf dX5_text_90 (fun v19 hf => ?_)
      refine lv_iconst (v := (1 : Int32)) hx hb dX5_text_91 (by decide) ?_
      refine lv_isub hx hb dX5_text_92 ?_
      exact zw_iret X hw hf (Nat.le_of_ble_eq_true rfl) (Nat.le_of_ble_eq_true rfl) dX5_text_93
    · refine lv_ldc (v := (-1000000003 : Int32)) hx hb hown (hts _ q1378) dX5_text_28 ?_
      exact zw_iret X hw hf (Nat.le_of_ble_eq_true rfl) (Nat.le_of_ble_eq_true rfl) dX5_text_30
  · refine lv_bipush (v := (-100 : Int32)) hx hb dX5_text_9 (by decide) ?_
    refine lv_aload_n hx hb dX5_text_11 rfl (lv_at hl 1 rfl) ?_
    refine zw_getI X hw fs_X5_16 q1286 rfl hf dX5_text_12 (fun v20 hf => ?_)
    refine lv_isub hx hb dX5_text_15 ?_
    exact zw_iret X hw hf (Nat.le_of_ble_eq_true rfl) (Nat.le_of_ble_eq_true rfl) dX5_text_16
set_option maxHeartbeats 4000000 in
theorem mt_X5_isText (l : Launch) (D : va_G) (A : Nat → Prop) (E : State → Prop) (hE : zEok A E) (h : zT) (a0 : Nat) (i1 : Int32) (res : Int32 × zT) (hf : f_X5_isText h a0 i1 = some res) : Met l yX5_isText (ws_ yX5_isText cX5_isText 2 (Option.some FieldType.boolean)) rm_X5_isText (zPW D A E h [.ref a0, .int i1]) (zQW D A (some (.int res.1)) res.2) 0 0 A := by
  refine zmt hE (by decide) (Nat.le_of_ble_eq_true rfl) ?_
  intro p e s m below meth c ls hmn X hw hl
  have hl : lv_has ls 2 [(0, .ref a0), (1, .int i1)] := hl
  have hx := X.1.1
  have hb := X.1.2.1
  have hown := X.1.2.2.2.1
  have hts := X.1.2.2.2.2
  unfold f_X5_isText at hf
  refine lv_iload_n hx hb dX5_isText_0 rfl (lv_at hl 1 rfl) ?_
  refine lv_i2l hx hb dX5_isText_1 rfl ?_
  refine lv_lconst (v := (0 : Int64)) hx hb dX5_isText_2 (by decide) ?_
  refine lv_aload_n hx hb dX5_isText_3 rfl (lv_at hl 0 rfl) ?_
  refine zw_getR X hw fs_X5_0 q1270 rfl hf dX5_isText_4 (fun v1 hf => ?_)
  refine lv_iconst (v := (1 : Int32)) hx hb dX5_isText_7 (by decide) ?_
  refine zw_ialoadR X hw hf dX5_isText_8 (fun v2 hf => ?_)
  refine lv_iconst (v := (1 : Int32)) hx hb dX5_isText_9 (by decide) ?_
  refine lv_isub hx hb dX5_isText_10 ?_
  refine lv_i2l hx hb dX5_isText_11 rfl ?_
  refine zw_cSZ (rest := []) [.long i1.toInt64, .long (0 : Int64), .long ((v2 - (1 : Int32)).toInt64)] X hw hl.1 hf (fun r hr => mt_X5_isIn l D A E X.2.2.2.2.2.1 h i1.toInt64 (0 : Int64) ((v2 - (1 : Int32)).toInt64) r hr) (lw_S q1372 q1373 q89 q1374) cd_X5_isIn ⟨rfl, rfl⟩ ⟨Nat.le_of_ble_eq_true rfl, Nat.le_of_ble_eq_true rfl⟩ rfl rfl (Nat.le_of_ble_eq_true rfl) dX5_isText_12 ⟨Nat.le_of_ble_eq_true rfl, Nat.le_of_ble_eq_true rfl⟩ (fun r3 H locs hf hw => ?_)
  exact zw_zret X hw hf (Nat.le_of_ble_eq_true rfl) (Nat.le_of_ble_eq_true rfl) dX5_isText_15
set_option maxHeartbeats 4000000 in
theorem mt_X5_textTold (l : Launch) (D : va_G) (A : Nat → Prop) (E : State → Prop) (hE : zEok A E) (h : zT) (a0 : Nat) (i1 : Int32) (i2 : Int32) (res : Int32 × zT) (hf : f_X5_textTold h a0 i1 i2 = some res) : Met l yX5_textTold (ws_ yX5_textTold cX5_textTold 3 (Option.some FieldType.int)) rm_X5_textTold (zPW D A E h [.ref a0, .int i1, .int i2]) (zQW D A (some (.int res.1)) res.2) 0 0 A := by
  refine zmt hE (by decide) (Nat.le_of_ble_eq_true rfl) ?_
  intro p e s m below meth c ls hmn X hw hl
  have hl : lv_has ls 3 [(0, .ref a0), (1, .int i1), (2, .int i2)] := hl
  have hx := X.1.1
  have hb := X.1.2.1
  have hown := X.1.2.2.2.1
  have hts := X.1.2.2.2.2
  unfold f_X5_textTold at hf
  refine lv_aload_n hx hb dX5_textTold_0 rfl (lv_at hl 0 rfl) ?_
  refine lv_iload_n hx hb dX5_textTold_1 rfl (lv_at hl 1 rfl) ?_
  refine zw_cVZ (rest := []) [.int i1] X hw hl.1 hf rfl rfl (fun r hr => mt_X5_isText l D A E X.2.2.2.2.2.1 h a0 i1 r hr) (lw_V q1697 q1699 qs78 q89 q1700) cd_X5_isText ⟨rfl, rfl⟩ ⟨Nat.le_of_ble_eq_true rfl, Nat.le_of_ble_eq_true rfl⟩ rfl rfl (Nat.le_of_ble_eq_true rfl) dX5_textTold_2 ⟨Nat.le_of_ble_eq_true rfl, Nat.le_of_ble_eq_true rfl⟩ (fun r1 H locs hf hw => ?_)
  refine zw_if_eq (tgt := 18) hx hb hf dX5_textTold_5 (by decide) (fun hf => ?_) (fun hf => ?_)
  · refine lv_ldc (v := (-1000000001 : Int32)) hx hb hown (hts _ q1377) dX5_textTold_18 ?_
    exact zw_iret X hw hf (Nat.le_of_ble_eq_true rfl) (Nat.le_of_ble_eq_true rfl) dX5_textTold_20
  · refine lv_iload_n hx hb dX5_textTold_8 rfl (lv_at hl 2 rfl) ?_
    refine lv_i2l hx hb dX5_textTold_9 rfl ?_
    refine lv_lconst (v := (0 : Int64)) hx hb dX5_textTold_10 (by decide) ?_
    refine lv_lconst (v := (1 : Int64)) hx hb dX5_textTold_11 (by decide) ?_
    refine zw_cSZ (rest := []) [.long i2.toInt64, .long (0 : Int64), .long (1 : Int64)] X hw hl.1 hf (fun r hr => mt_X5_isIn l D A E X.2.2.2.2.2.1 r1.2 i2.toInt64 (0 : Int64) (1 : Int64) r hr) (lw_S q1372 q1373 q89 q1374) cd_X5_isIn ⟨rfl, rfl⟩ ⟨Nat.le_of_ble_eq_true rfl, Nat.le_of_ble_eq_true rfl⟩ rfl rfl (Nat.le_of_ble_eq_true rfl) dX5_textTold_12 ⟨Nat.le_of_ble_eq_true rfl, Nat.le_of_ble_eq_true rfl⟩ (fun r2 H locs hf hw => ?_)
    refine zw_if_ne (tgt := 21) hx hb hf dX5_textTold_15 (by decide) (fun hf => ?_) (fun hf => ?_)
    · refine lv_aload_n hx hb dX5_textTold_21 rfl (lv_at hl 0 rfl) ?_
      refine zw_getR X hw fs_X5_0 q1270 rfl hf dX5_textTold_22 (fun v3 hf => ?_)
      refine lv_aload_n hx hb dX5_textTold_25 rfl (lv_at hl 0 rfl) ?_
      refine lv_iload_n hx hb dX5_textTold_26 rfl (lv_at hl 1 rfl) ?_
      refine zw_cVI (rest := [.ref v3]) [.int i1] X hw hl.1 hf rfl rfl (fun r hr => mt_X5_textAt l D A E X.2.2.2.2.2.1 r2.2 a0 i1 r hr) (lw_V q1416 q1418 qs44 q89 q1419) cd_X5_textAt ⟨rfl, rfl⟩ ⟨Nat.le_of_ble_eq_true rfl, Nat.le_of_ble_eq_true rfl⟩ rfl rfl (Nat.le_of_ble_eq_true rfl) dX5_textTold_27 ⟨Nat.le_of_ble_eq_true rfl, Nat.le_of_ble_eq_true rfl⟩ (fun r4 H locs hf hw => ?_)
      refine lv_iload_n hx hb dX5_textTold_30 rfl (lv_at hl 2 rfl) ?_
      refine lv_iadd hx hb dX5_textTold_31 ?_
      refine zw_ialoadR X hw hf dX5_textTold_32 (fun v5 hf => ?_)
      exact zw_iret X hw hf (Nat.le_of_ble_eq_true rfl) (Nat.le_of_ble_eq_true rfl) dX5_textTold_33
    · refine lv_ldc (v := (-1000000001 : Int32)) hx hb hown (hts _ q1377) dX5_textTold_18 ?_
      exact zw_iret X hw hf (Nat.le_of_ble_eq_true rfl) (Nat.le_of_ble_eq_true rfl) dX5_textTold_20
set_option maxHeartbeats 4000000 in
theorem mt_X5_why (l : Launch) (D : va_G) (A : Nat → Prop) (E : State → Prop) (hE : zEok A E) (h : zT) (a0 : Nat) (i1 : Int32) (res : Int32 × zT) (hf : f_X5_why h a0 i1 = some res) : Met l yX5_why (ws_ yX5_why cX5_why 2 (Option.some FieldType.int)) rm_X5_why (zPW D A E h [.ref a0, .int i1]) (zQW D A (some (.int res.1)) res.2) 0 0 A := by
  refine zmt hE (by decide) (Nat.le_of_ble_eq_true rfl) ?_
  intro p e s m below meth c ls hmn X hw hl
  have hl : lv_has ls 2 [(0, .ref a0), (1, .int i1)] := hl
  have hx := X.1.1
  have hb := X.1.2.1
  have hown := X.1.2.2.2.1
  have hts := X.1.2.2.2.2
  unfold f_X5_why at hf
  refine lv_iload_n hx hb dX5_why_0 rfl (lv_at hl 1 rfl) ?_
  refine lv_i2l hx hb dX5_why_1 rfl ?_
  refine lv_lconst (v := (0 : Int64)) hx hb dX5_why_2 (by decide) ?_
  refine lv_ldc2 (v := (2 : Int64)) hx hb hown (hts _ q1705) dX5_why_3 ?_
  refine zw_cSZ (rest := []) [.long i1.toInt64, .long (0 : Int64), .long (2 : Int64)] X hw hl.1 hf (fun r hr => mt_X5_isIn l D A E X.2.2.2.2.2.1 h i1.toInt64 (0 : Int64) (2 : Int64) r hr) (lw_S q1372 q1373 q89 q1374) cd_X5_isIn ⟨rfl, rfl⟩ ⟨Nat.le_of_ble_eq_true rfl, Nat.le_of_ble_eq_true rfl⟩ rfl rfl (Nat.le_of_ble_eq_true rfl) dX5_why_6 ⟨Nat.le_of_ble_eq_true rfl, Nat.le_of_ble_eq_true rfl⟩ (fun r1 H locs hf hw => ?_)
  refine zw_if_eq (tgt := 23) hx hb hf dX5_why_9 (by decide) (fun hf => ?_) (fun hf => ?_)
  · refine lv_ldc (v := (-1000000001 : Int32)) hx hb hown (hts _ q1377) dX5_why_23 ?_
    exact zw_iret X hw hf (Nat.le_of_ble_eq_true rfl) (Nat.le_of_ble_eq_true rfl) dX5_why_25
  · refine lv_aload_n hx hb dX5_why_12 rfl (lv_at hl 0 rfl) ?_
    refine lv_iload_n hx hb dX5_why_13 rfl (lv_at hl 1 rfl) ?_
    refine zw_cVI (rest := []) [.int i1] X hw hl.1 hf rfl rfl (fun r hr => mt_X5_counts l D A E X.2.2.2.2.2.1 r1.2 a0 i1 r hr) (lw_V q1412 q1414 qs43 q89 q1415) cd_X5_counts ⟨rfl, rfl⟩ ⟨Nat.le_of_ble_eq_true rfl, Nat.le_of_ble_eq_true rfl⟩ rfl rfl (Nat.le_of_ble_eq_true rfl) dX5_why_14 ⟨Nat.le_of_ble_eq_true rfl, Nat.le_of_ble_eq_true rfl⟩ (fun r2 H locs hf hw => ?_)
    refine zw_cSI (rest := []) [.int r2.1] X hw hl.1 hf (fun r hr => mt_X5_orNone l D A E X.2.2.2.2.2.1 r2.2 r2.1 r hr) (lw_S q1597 q1598 q89 q1599) cd_X5_orNone ⟨rfl, rfl⟩ ⟨Nat.le_of_ble_eq_true rfl, Nat.le_of_ble_eq_true rfl⟩ rfl rfl (Nat.le_of_ble_eq_true rfl) dX5_why_17 ⟨Nat.le_of_ble_eq_true rfl, Nat.le_of_ble_eq_true rfl⟩ (fun r3 H locs hf hw => ?_)
    refine lv_goto (tgt := 25) hx hb dX5_why_20 (by decide) ?_
    exact zw_iret X hw hf (Nat.le_of_ble_eq_true rfl) (Nat.le_of_ble_eq_true rfl) dX5_why_25
set_option maxHeartbeats 4000000 in
theorem mt_X5_isSheet (l : Launch) (D : va_G) (A : Nat → Prop) (E : State → Prop) (hE : zEok A E) (h : zT) (i0 : Int32) (res : Int32 × zT) (hf : f_X5_isSheet h i0 = some res) : Met l yX5_isSheet (ws_ yX5_isSheet cX5_isSheet 1 (Option.some FieldType.boolean)) rm_X5_isSheet (zPW D A E h [.int i0]) (zQW D A (some (.int res.1)) res.2) 0 0 A := by
  refine zmt hE (by decide) (Nat.le_of_ble_eq_true rfl) ?_
  intro p e s m below meth c ls hmn X hw hl
  have hl : lv_has ls 1 [(0, .int i0)] := hl
  have hx := X.1.1
  have hb := X.1.2.1
  have hown := X.1.2.2.2.1
  have hts := X.1.2.2.2.2
  unfold f_X5_isSheet at hf
  refine lv_iload_n hx hb dX5_isSheet_0 rfl (lv_at hl 0 rfl) ?_
  refine lv_i2l hx hb dX5_isSheet_1 rfl ?_
  refine lv_lconst (v := (0 : Int64)) hx hb dX5_isSheet_2 (by decide) ?_
  refine lv_ldc2 (v := (3 : Int64)) hx hb hown (hts _ q1477) dX5_isSheet_3 ?_
  refine zw_cSZ (rest := []) [.long i0.toInt64, .long (0 : Int64), .long (3 : Int64)] X hw hl.1 hf (fun r hr => mt_X5_isIn l D A E X.2.2.2.2.2.1 h i0.toInt64 (0 : Int64) (3 : Int64) r hr) (lw_S q1372 q1373 q89 q1374) cd_X5_isIn ⟨rfl, rfl⟩ ⟨Nat.le_of_ble_eq_true rfl, Nat.le_of_ble_eq_true rfl⟩ rfl rfl (Nat.le_of_ble_eq_true rfl) dX5_isSheet_6 ⟨Nat.le_of_ble_eq_true rfl, Nat.le_of_ble_eq_true rfl⟩ (fun r1 H locs hf hw => ?_)
  exact zw_zret X hw hf (Nat.le_of_ble_eq_true rfl) (Nat.le_of_ble_eq_true rfl) dX5_isSheet_9
set_option maxHeartbeats 4000000 in
theorem k_X5_sheet_69 {p : Program} {l : Launch} {e : Env} {s : State} {m : MethodId} {args : Array Value} {below : List Frame} {meth : Method} {c : Code} {D : va_G} {A : Nat → Prop} {E : State → Prop} (X : zCx p s m args meth c D A E cX5_sheet 5 RX5 (Option.some FieldType.int)) (res : Int32 × zT) : ∀ (n : Nat), ∀ (h : zT) (a0 : Nat) (i1 : Int32) (i4 : Int32) (H : Heap) (locs : List Loc) (ls : Array Slot), f_X5_sheet_69 n h a0 i1 i4 = some res → zWh D A s H h locs → lv_has ls 5 [(0, .ref a0), (1, .int i1), (4, .int i4)] → W p l e rm_X5_sheet s m args below meth c H locs 0 0 (MQ below (zQW D A (some (.int res.1)) res.2) args s 0 0 A) (F0 m 69 ls []) := by
  have hx := X.1.1
  have hb := X.1.2.1
  have hown := X.1.2.2.2.1
  have hts := X.1.2.2.2.2
  intro n
  induction n with
  | zero =>
    intro h a0 i1 i4 H locs ls hf hw hl
    cases hf
  | succ n ih =>
    intro h a0 i1 i4 H locs ls hf hw hl
    unfold f_X5_sheet_69 at hf
    refine lv_iload hx hb dX5_sheet_69 (lv_at hl 2 rfl) ?_
    refine lv_bipush (v := (24 : Int32)) hx hb dX5_sheet_71 (by decide) ?_
    refine zw_icmp_ge (tgt := 95) hx hb hf dX5_sheet_73 (by decide) (fun hf => ?_) (fun hf => ?_)
    · refine lv_aload_n hx hb dX5_sheet_95 rfl (lv_at hl 0 rfl) ?_
      refine zw_getR X hw fs_X5_5 q1275 rfl hf dX5_sheet_96 (fun v1 hf => ?_)
      refine lv_iload_n hx hb dX5_sheet_99 rfl (lv_at hl 1 rfl) ?_
      refine zw_ialoadR X hw hf dX5_sheet_100 (fun v2 hf => ?_)
      exact zw_iret X hw hf (Nat.le_of_ble_eq_true rfl) (Nat.le_of_ble_eq_true rfl) dX5_sheet_101
    · refine lv_aload_n hx hb dX5_sheet_76 rfl (lv_at hl 0 rfl) ?_
      refine zw_getR X hw fs_X5_6 q1276 rfl hf dX5_sheet_77 (fun v3 hf => ?_)
      refine lv_bipush (v := (24 : Int32)) hx hb dX5_sheet_80 (by decide) ?_
      refine lv_iload_n hx hb dX5_sheet_82 rfl (lv_at hl 1 rfl) ?_
      refine lv_imul hx hb dX5_sheet_83 ?_
      refine lv_iload hx hb dX5_sheet_84 (lv_at hl 2 rfl) ?_
      refine lv_iadd hx hb dX5_sheet_86 ?_
      refine lv_iconst (v := (0 : Int32)) hx hb dX5_sheet_87 (by decide) ?_
      refine zw_iastore X hw hf dX5_sheet_88 (fun h4 H locs hf hw => ?_)
      refine zw_nmS hf (fun v5 ev5 hf => ?_)
      refine lv_iinc (k := 2) (v := v5) (lv' := [(4, .int v5), (0, .ref a0), (1, .int i1)]) hx hb dX5_sheet_89 hl rfl (by rw [ev5]; rfl) (by decide) rfl (fun ls hl => ?_)
      refine lv_goto (tgt := 69) hx hb dX5_sheet_92 (by decide) ?_
      exact ih h4 a0 i1 v5 _ _ _ hf hw (lv_sub hl [1, 2, 0] rfl)
set_option maxHeartbeats 4000000 in
theorem k_X5_sheet_44 {p : Program} {l : Launch} {e : Env} {s : State} {m : MethodId} {args : Array Value} {below : List Frame} {meth : Method} {c : Code} {D : va_G} {A : Nat → Prop} {E : State → Prop} (X : zCx p s m args meth c D A E cX5_sheet 5 RX5 (Option.some FieldType.int)) (res : Int32 × zT) : ∀ (h : zT) (a0 : Nat) (i1 : Int32) (i2 : Int32) (i3 : Int32) (H : Heap) (locs : List Loc) (ls : Array Slot), f_X5_sheet_44 h a0 i1 i2 i3 = some res → zWh D A s H h locs → lv_has ls 5 [(0, .ref a0), (1, .int i1), (2, .int i2), (3, .int i3)] → W p l e rm_X5_sheet s m args below meth c H locs 0 0 (MQ below (zQW D A (some (.int res.1)) res.2) args s 0 0 A) (F0 m 44 ls []) := by
  have hx := X.1.1
  have hb := X.1.2.1
  have hown := X.1.2.2.2.1
  have hts := X.1.2.2.2.2
  intro h a0 i1 i2 i3 H locs ls hf hw hl
  unfold f_X5_sheet_44 at hf
  refine lv_aload_n hx hb dX5_sheet_44 rfl (lv_at hl 0 rfl) ?_
  refine zw_getR X hw fs_X5_4 q1274 rfl hf dX5_sheet_45 (fun v1 hf => ?_)
  refine lv_iload_n hx hb dX5_sheet_48 rfl (lv_at hl 1 rfl) ?_
  refine lv_iload_n hx hb dX5_sheet_49 rfl (lv_at hl 2 rfl) ?_
  refine zw_iastore X hw hf dX5_sheet_50 (fun h2 H locs hf hw => ?_)
  refine lv_aload_n hx hb dX5_sheet_51 rfl (lv_at hl 0 rfl) ?_
  refine zw_getR X hw fs_X5_5 q1275 rfl hf dX5_sheet_52 (fun v3 hf => ?_)
  refine lv_iload_n hx hb dX5_sheet_55 rfl (lv_at hl 1 rfl) ?_
  refine lv_iload_n hx hb dX5_sheet_56 rfl (lv_at hl 2 rfl) ?_
  refine zw_if_ge (tgt := 64) hx hb hf dX5_sheet_57 (by decide) (fun hf => ?_) (fun hf => ?_)
  · refine lv_iload_n hx hb dX5_sheet_64 rfl (lv_at hl 3 rfl) ?_
    refine zw_iastore X hw hf dX5_sheet_65 (fun h4 H locs hf hw => ?_)
    refine lv_iconst (v := (0 : Int32)) hx hb dX5_sheet_66 (by decide) ?_
    refine lv_istore (lv' := [(4, .int (0 : Int32)), (0, .ref a0), (1, .int i1), (2, .int i2), (3, .int i3)]) hx hb dX5_sheet_67 hl (by decide) rfl (fun ls hl => ?_)
    exact k_X5_sheet_69 X _ 4096 h4 a0 i1 (0 : Int32) _ _ _ hf hw (lv_sub hl [1, 2, 0] rfl)
  · refine lv_iconst (v := (0 : Int32)) hx hb dX5_sheet_60 (by decide) ?_
    refine lv_goto (tgt := 65) hx hb dX5_sheet_61 (by decide) ?_
    refine zw_iastore X hw hf dX5_sheet_65 (fun h5 H locs hf hw => ?_)
    refine lv_iconst (v := (0 : Int32)) hx hb dX5_sheet_66 (by decide) ?_
    refine lv_istore (lv' := [(4, .int (0 : Int32)), (0, .ref a0), (1, .int i1), (2, .int i2), (3, .int i3)]) hx hb dX5_sheet_67 hl (by decide) rfl (fun ls hl => ?_)
    exact k_X5_sheet_69 X _ 4096 h5 a0 i1 (0 : Int32) _ _ _ hf hw (lv_sub hl [1, 2, 0] rfl)
set_option maxHeartbeats 4000000 in
theorem k_X5_sheet_32 {p : Program} {l : Launch} {e : Env} {s : State} {m : MethodId} {args : Array Value} {below : List Frame} {meth : Method} {c : Code} {D : va_G} {A : Nat → Prop} {E : State → Prop} (X : zCx p s m args meth c D A E cX5_sheet 5 RX5 (Option.some FieldType.int)) (res : Int32 × zT) : ∀ (h : zT) (a0 : Nat) (i1 : Int32) (i2 : Int32) (i3 : Int32) (H : Heap) (locs : List Loc) (ls : Array Slot), f_X5_sheet_32 h a0 i1 i2 i3 = some res → zWh D A s H h locs → lv_has ls 5 [(0, .ref a0), (1, .int i1), (2, .int i2), (3, .int i3)] → W p l e rm_X5_sheet s m args below meth c H locs 0 0 (MQ below (zQW D A (some (.int res.1)) res.2) args s 0 0 A) (F0 m 32 ls []) := by
  have hx := X.1.1
  have hb := X.1.2.1
  have hown := X.1.2.2.2.1
  have hts := X.1.2.2.2.2
  intro h a0 i1 i2 i3 H locs ls hf hw hl
  unfold f_X5_sheet_32 at hf
  refine lv_iload_n hx hb dX5_sheet_32 rfl (lv_at hl 2 rfl) ?_
  refine zw_if_lt (tgt := 44) hx hb hf dX5_sheet_33 (by decide) (fun hf => ?_) (fun hf => ?_)
  · exact k_X5_sheet_44 X _ h a0 i1 i2 i3 _ _ _ hf hw (lv_sub hl [0, 1, 2, 3] rfl)
  · refine lv_iload_n hx hb dX5_sheet_36 rfl (lv_at hl 3 rfl) ?_
    refine zw_if_ge (tgt := 44) hx hb hf dX5_sheet_37 (by decide) (fun hf => ?_) (fun hf => ?_)
    · exact k_X5_sheet_44 X _ h a0 i1 i2 i3 _ _ _ hf hw (lv_sub hl [0, 1, 2, 3] rfl)
    · refine lv_ldcw (v := (-1000000014 : Int32)) hx hb hown (hts _ q1714) dX5_sheet_40 ?_
      exact zw_iret X hw hf (Nat.le_of_ble_eq_true rfl) (Nat.le_of_ble_eq_true rfl) dX5_sheet_43
set_option maxHeartbeats 4000000 in
theorem mt_X5_sheet (l : Launch) (D : va_G) (A : Nat → Prop) (E : State → Prop) (hE : zEok A E) (h : zT) (a0 : Nat) (i1 : Int32) (i2 : Int32) (i3 : Int32) (res : Int32 × zT) (hf : f_X5_sheet h a0 i1 i2 i3 = some res) : Met l yX5_sheet (ws_ yX5_sheet cX5_sheet 5 (Option.some FieldType.int)) rm_X5_sheet (zPW D A E h [.ref a0, .int i1, .int i2, .int i3]) (zQW D A (some (.int res.1)) res.2) 0 0 A := by
  refine zmt hE (by decide) (Nat.le_of_ble_eq_true rfl) ?_
  intro p e s m below meth c ls hmn X hw hl
  have hl : lv_has ls 5 [(0, .ref a0), (1, .int i1), (2, .int i2), (3, .int i3)] := hl
  have hx := X.1.1
  have hb := X.1.2.1
  have hown := X.1.2.2.2.1
  have hts := X.1.2.2.2.2
  unfold f_X5_sheet at hf
  refine lv_iload_n hx hb dX5_sheet_0 rfl (lv_at hl 1 rfl) ?_
  refine zw_cSZ (rest := []) [.int i1] X hw hl.1 hf (fun r hr => mt_X5_isSheet l D A E X.2.2.2.2.2.1 h i1 r hr) (lw_S q1710 q1711 q89 q1712) cd_X5_isSheet ⟨rfl, rfl⟩ ⟨Nat.le_of_ble_eq_true rfl, Nat.le_of_ble_eq_true rfl⟩ rfl rfl (Nat.le_of_ble_eq_true rfl) dX5_sheet_1 ⟨Nat.le_of_ble_eq_true rfl, Nat.le_of_ble_eq_true rfl⟩ (fun r1 H locs hf hw => ?_)
  refine zw_if_eq (tgt := 29) hx hb hf dX5_sheet_4 (by decide) (fun hf => ?_) (fun hf => ?_)
  · refine lv_ldc (v := (-1000000001 : Int32)) hx hb hown (hts _ q1377) dX5_sheet_29 ?_
    exact zw_iret X hw hf (Nat.le_of_ble_eq_true rfl) (Nat.le_of_ble_eq_true rfl) dX5_sheet_31
  · refine lv_iload_n hx hb dX5_sheet_7 rfl (lv_at hl 2 rfl) ?_
    refine lv_i2l hx hb dX5_sheet_8 rfl ?_
    refine lv_ldc2 (v := (-1 : Int64)) hx hb hown (hts _ q1713) dX5_sheet_9 ?_
    refine lv_lconst (v := (1 : Int64)) hx hb dX5_sheet_12 (by decide) ?_
    refine zw_cSZ (rest := []) [.long i2.toInt64, .long (-1 : Int64), .long (1 : Int64)] X hw hl.1 hf (fun r hr => mt_X5_isIn l D A E X.2.2.2.2.2.1 r1.2 i2.toInt64 (-1 : Int64) (1 : Int64) r hr) (lw_S q1372 q1373 q89 q1374) cd_X5_isIn ⟨rfl, rfl⟩ ⟨Nat.le_of_ble_eq_true rfl, Nat.le_of_ble_eq_true rfl⟩ rfl rfl (Nat.le_of_ble_eq_true rfl) dX5_sheet_13 ⟨Nat.le_of_ble_eq_true rfl, Nat.le_of_ble_eq_true rfl⟩ (fun r2 H locs hf hw => ?_)
    refine zw_if_eq (tgt := 29) hx hb hf dX5_sheet_16 (by decide) (fun hf => ?_) (fun hf => ?_)
    · refine lv_ldc (v := (-1000000001 : Int32)) hx hb hown (hts _ q1377) dX5_sheet_29 ?_
      exact zw_iret X hw hf (Nat.le_of_ble_eq_true rfl) (Nat.le_of_ble_eq_true rfl) dX5_sheet_31
    · refine lv_iload_n hx hb dX5_sheet_19 rfl (lv_at hl 2 rfl) ?_
      refine zw_if_lt (tgt := 32) hx hb hf dX5_sheet_20 (by decide) (fun hf => ?_) (fun hf => ?_)
      · exact k_X5_sheet_32 X _ r2.2 a0 i1 i2 i3 _ _ _ hf hw (lv_sub hl [0, 1, 2, 3] rfl)
      · refine lv_iload_n hx hb dX5_sheet_23 rfl (lv_at hl 3 rfl) ?_
        refine lv_bipush (v := (24 : Int32)) hx hb dX5_sheet_24 (by decide) ?_
        refine zw_icmp_le (tgt := 32) hx hb hf dX5_sheet_26 (by decide) (fun hf => ?_) (fun hf => ?_)
        · exact k_X5_sheet_32 X _ r2.2 a0 i1 i2 i3 _ _ _ hf hw (lv_sub hl [0, 1, 2, 3] rfl)
        · refine lv_ldc (v := (-1000000001 : Int32)) hx hb hown (hts _ q1377) dX5_sheet_29 ?_
          exact zw_iret X hw hf (Nat.le_of_ble_eq_true rfl) (Nat.le_of_ble_eq_true rfl) dX5_sheet_31
set_option maxHeartbeats 4000000 in
theorem k_X5_mark_96 {p : Program} {l : Launch} {e : Env} {s : State} {m : MethodId} {args : Array Value} {below : List Frame} {meth : Method} {c : Code} {D : va_G} {A : Nat → Prop} {E : State → Prop} (X : zCx p s m args meth c D A E cX5_mark 4 RX5 (Option.some FieldType.int)) (res : Int32 × zT) : ∀ (h : zT) (a0 : Nat) (i1 : Int32) (i2 : Int32) (i3 : Int32) (H : Heap) (locs : List Loc) (ls : Array Slot), f_X5_mark_96 h a0 i1 i2 i3 = some res → zWh D A s H h locs → lv_has ls 4 [(0, .ref a0), (1, .int i1), (2, .int i2), (3, .int i3)] → W p l e rm_X5_mark s m args below meth c H locs 0 0 (MQ below (zQW D A (some (.int res.1)) res.2) args s 0 0 A) (F0 m 96 ls []) := by
  have hx := X.1.1
  have hb := X.1.2.1
  have hown := X.1.2.2.2.1
  have hts := X.1.2.2.2.2
  intro h a0 i1 i2 i3 H locs ls hf hw hl
  unfold f_X5_mark_96 at hf
  refine lv_aload_n hx hb dX5_mark_96 rfl (lv_at hl 0 rfl) ?_
  refine zw_getR X hw fs_X5_6 q1276 rfl hf dX5_mark_97 (fun v1 hf => ?_)
  refine lv_bipush (v := (24 : Int32)) hx hb dX5_mark_100 (by decide) ?_
  refine lv_iload_n hx hb dX5_mark_102 rfl (lv_at hl 1 rfl) ?_
  refine lv_imul hx hb dX5_mark_103 ?_
  refine lv_iload_n hx hb dX5_mark_104 rfl (lv_at hl 2 rfl) ?_
  refine lv_iadd hx hb dX5_mark_105 ?_
  refine lv_aload_n hx hb dX5_mark_106 rfl (lv_at hl 0 rfl) ?_
  refine zw_getR X hw fs_X5_4 q1274 rfl hf dX5_mark_107 (fun v2 hf => ?_)
  refine lv_iload_n hx hb dX5_mark_110 rfl (lv_at hl 1 rfl) ?_
  refine zw_ialoadR X hw hf dX5_mark_111 (fun v3 hf => ?_)
  refine zw_if_ne (tgt := 125) hx hb hf dX5_mark_112 (by decide) (fun hf => ?_) (fun hf => ?_)
  · refine lv_iload_n hx hb dX5_mark_125 rfl (lv_at hl 3 rfl) ?_
    refine zw_iastore X hw hf dX5_mark_126 (fun h4 H locs hf hw => ?_)
    refine lv_iconst (v := (1 : Int32)) hx hb dX5_mark_127 (by decide) ?_
    exact zw_iret X hw hf (Nat.le_of_ble_eq_true rfl) (Nat.le_of_ble_eq_true rfl) dX5_mark_128
  · refine lv_iload_n hx hb dX5_mark_115 rfl (lv_at hl 3 rfl) ?_
    refine lv_bipush (v := (16 : Int32)) hx hb dX5_mark_116 (by decide) ?_
    refine lv_ishl hx hb dX5_mark_118 ?_
    refine lv_bipush (v := (16 : Int32)) hx hb dX5_mark_119 (by decide) ?_
    refine lv_ishr hx hb dX5_mark_121 ?_
    refine lv_goto (tgt := 126) hx hb dX5_mark_122 (by decide) ?_
    refine zw_iastore X hw hf dX5_mark_126 (fun h5 H locs hf hw => ?_)
    refine lv_iconst (v := (1 : Int32)) hx hb dX5_mark_127 (by decide) ?_
    exact zw_iret X hw hf (Nat.le_of_ble_eq_true rfl) (Nat.le_of_ble_eq_true rfl) dX5_mark_128
set_option maxHeartbeats 4000000 in
theorem k_X5_mark_63 {p : Program} {l : Launch} {e : Env} {s : State} {m : MethodId} {args : Array Value} {below : List Frame} {meth : Method} {c : Code} {D : va_G} {A : Nat → Prop} {E : State → Prop} (X : zCx p s m args meth c D A E cX5_mark 4 RX5 (Option.some FieldType.int)) (res : Int32 × zT) : ∀ (h : zT) (a0 : Nat) (i1 : Int32) (i2 : Int32) (i3 : Int32) (H : Heap) (locs : List Loc) (ls : Array Slot), f_X5_mark_63 h a0 i1 i2 i3 = some res → zWh D A s H h locs → lv_has ls 4 [(0, .ref a0), (1, .int i1), (2, .int i2), (3, .int i3)] → W p l e rm_X5_mark s m args below meth c H locs 0 0 (MQ below (zQW D A (some (.int res.1)) res.2) args s 0 0 A) (F0 m 63 ls []) := by
  have hx := X.1.1
  have hb := X.1.2.1
  have hown := X.1.2.2.2.1
  have hts := X.1.2.2.2.2
  intro h a0 i1 i2 i3 H locs ls hf hw hl
  unfold f_X5_mark_63 at hf
  refine lv_aload_n hx hb dX5_mark_63 rfl (lv_at hl 0 rfl) ?_
  refine zw_getR X hw fs_X5_4 q1274 rfl hf dX5_mark_64 (fun v1 hf => ?_)
  refine lv_iload_n hx hb dX5_mark_67 rfl (lv_at hl 1 rfl) ?_
  refine zw_ialoadR X hw hf dX5_mark_68 (fun v2 hf => ?_)
  refine lv_iconst (v := (1 : Int32)) hx hb dX5_mark_69 (by decide) ?_
  refine zw_icmp_ne (tgt := 96) hx hb hf dX5_mark_70 (by decide) (fun hf => ?_) (fun hf => ?_)
  · exact k_X5_mark_96 X _ h a0 i1 i2 i3 _ _ _ hf hw (lv_sub hl [0, 1, 2, 3] rfl)
  · refine lv_iload_n hx hb dX5_mark_73 rfl (lv_at hl 3 rfl) ?_
    refine lv_ldc (v := (-1000000005 : Int32)) hx hb hown (hts _ q1600) dX5_mark_74 ?_
    refine zw_icmp_eq (tgt := 96) hx hb hf dX5_mark_76 (by decide) (fun hf => ?_) (fun hf => ?_)
    · exact k_X5_mark_96 X _ h a0 i1 i2 i3 _ _ _ hf hw (lv_sub hl [0, 1, 2, 3] rfl)
    · refine lv_iload_n hx hb dX5_mark_79 rfl (lv_at hl 3 rfl) ?_
      refine lv_i2l hx hb dX5_mark_80 rfl ?_
      refine lv_ldc2 (v := (-99999 : Int64)) hx hb hown (hts _ q1721) dX5_mark_81 ?_
      refine lv_ldc2 (v := (99999 : Int64)) hx hb hown (hts _ q1722) dX5_mark_84 ?_
      refine zw_cSZ (rest := []) [.long i3.toInt64, .long (-99999 : Int64), .long (99999 : Int64)] X hw hl.1 hf (fun r hr => mt_X5_isIn l D A E X.2.2.2.2.2.1 h i3.toInt64 (-99999 : Int64) (99999 : Int64) r hr) (lw_S q1372 q1373 q89 q1374) cd_X5_isIn ⟨rfl, rfl⟩ ⟨Nat.le_of_ble_eq_true rfl, Nat.le_of_ble_eq_true rfl⟩ rfl rfl (Nat.le_of_ble_eq_true rfl) dX5_mark_87 ⟨Nat.le_of_ble_eq_true rfl, Nat.le_of_ble_eq_true rfl⟩ (fun r3 H locs hf hw => ?_)
      refine zw_if_ne (tgt := 96) hx hb hf dX5_mark_90 (by decide) (fun hf => ?_) (fun hf => ?_)
      · exact k_X5_mark_96 X _ r3.2 a0 i1 i2 i3 _ _ _ hf hw (lv_sub hl [0, 1, 2, 3] rfl)
      · refine lv_ldc (v := (-1000000001 : Int32)) hx hb hown (hts _ q1377) dX5_mark_93 ?_
        exact zw_iret X hw hf (Nat.le_of_ble_eq_true rfl) (Nat.le_of_ble_eq_true rfl) dX5_mark_95
set_option maxHeartbeats 4000000 in
theorem mt_X5_mark (l : Launch) (D : va_G) (A : Nat → Prop) (E : State → Prop) (hE : zEok A E) (h : zT) (a0 : Nat) (i1 : Int32) (i2 : Int32) (i3 : Int32) (res : Int32 × zT) (hf : f_X5_mark h a0 i1 i2 i3 = some res) : Met l yX5_mark (ws_ yX5_mark cX5_mark 4 (Option.some FieldType.int)) rm_X5_mark (zPW D A E h [.ref a0, .int i1, .int i2, .int i3]) (zQW D A (some (.int res.1)) res.2) 0 0 A := by
  refine zmt hE (by decide) (Nat.le_of_ble_eq_true rfl) ?_
  intro p e s m below meth c ls hmn X hw hl
  have hl : lv_has ls 4 [(0, .ref a0), (1, .int i1), (2, .int i2), (3, .int i3)] := hl
  have hx := X.1.1
  have hb := X.1.2.1
  have hown := X.1.2.2.2.1
  have hts := X.1.2.2.2.2
  unfold f_X5_mark at hf
  refine lv_iload_n hx hb dX5_mark_0 rfl (lv_at hl 1 rfl) ?_
  refine zw_cSZ (rest := []) [.int i1] X hw hl.1 hf (fun r hr => mt_X5_isSheet l D A E X.2.2.2.2.2.1 h i1 r hr) (lw_S q1710 q1711 q89 q1712) cd_X5_isSheet ⟨rfl, rfl⟩ ⟨Nat.le_of_ble_eq_true rfl, Nat.le_of_ble_eq_true rfl⟩ rfl rfl (Nat.le_of_ble_eq_true rfl) dX5_mark_1 ⟨Nat.le_of_ble_eq_true rfl, Nat.le_of_ble_eq_true rfl⟩ (fun r1 H locs hf hw => ?_)
  refine zw_if_ne (tgt := 10) hx hb hf dX5_mark_4 (by decide) (fun hf => ?_) (fun hf => ?_)
  · refine lv_aload_n hx hb dX5_mark_10 rfl (lv_at hl 0 rfl) ?_
    refine zw_getR X hw fs_X5_4 q1274 rfl hf dX5_mark_11 (fun v2 hf => ?_)
    refine lv_iload_n hx hb dX5_mark_14 rfl (lv_at hl 1 rfl) ?_
    refine zw_ialoadR X hw hf dX5_mark_15 (fun v3 hf => ?_)
    refine zw_if_ge (tgt := 23) hx hb hf dX5_mark_16 (by decide) (fun hf => ?_) (fun hf => ?_)
    · refine lv_iload_n hx hb dX5_mark_23 rfl (lv_at hl 2 rfl) ?_
      refine lv_i2l hx hb dX5_mark_24 rfl ?_
      refine lv_lconst (v := (0 : Int64)) hx hb dX5_mark_25 (by decide) ?_
      refine lv_aload_n hx hb dX5_mark_26 rfl (lv_at hl 0 rfl) ?_
      refine zw_getR X hw fs_X5_5 q1275 rfl hf dX5_mark_27 (fun v4 hf => ?_)
      refine lv_iload_n hx hb dX5_mark_30 rfl (lv_at hl 1 rfl) ?_
      refine zw_ialoadR X hw hf dX5_mark_31 (fun v5 hf => ?_)
      refine lv_iconst (v := (1 : Int32)) hx hb dX5_mark_32 (by decide) ?_
      refine lv_isub hx hb dX5_mark_33 ?_
      refine lv_i2l hx hb dX5_mark_34 rfl ?_
      refine zw_cSZ (rest := []) [.long i2.toInt64, .long (0 : Int64), .long ((v5 - (1 : Int32)).toInt64)] X hw hl.1 hf (fun r hr => mt_X5_isIn l D A E X.2.2.2.2.2.1 r1.2 i2.toInt64 (0 : Int64) ((v5 - (1 : Int32)).toInt64) r hr) (lw_S q1372 q1373 q89 q1374) cd_X5_isIn ⟨rfl, rfl⟩ ⟨Nat.le_of_ble_eq_true rfl, Nat.le_of_ble_eq_true rfl⟩ rfl rfl (Nat.le_of_ble_eq_true rfl) dX5_mark_35 ⟨Nat.le_of_ble_eq_true rfl, Nat.le_of_ble_eq_true rfl⟩ (fun r6 H locs hf hw => ?_)
      refine zw_if_ne (tgt := 45) hx hb hf dX5_mark_38 (by decide) (fun hf => ?_) (fun hf => ?_)
      · refine lv_aload_n hx hb dX5_mark_45 rfl (lv_at hl 0 rfl) ?_
        refine zw_getR X hw fs_X5_4 q1274 rfl hf dX5_mark_46 (fun v7 hf => ?_)
        refine lv_iload_n hx hb dX5_mark_49 rfl (lv_at hl 1 rfl) ?_
        refine zw_ialoadR X hw hf dX5_mark_50 (fun v8 hf => ?_)
        refine zw_if_ne (tgt := 63) hx hb hf dX5_mark_51 (by decide) (fun hf => ?_) (fun hf => ?_)
        · exact k_X5_mark_63 X _ r6.2 a0 i1 i2 i3 _ _ _ hf hw (lv_sub hl [0, 1, 2, 3] rfl)
        · refine lv_iload_n hx hb dX5_mark_54 rfl (lv_at hl 3 rfl) ?_
          refine lv_ldc (v := (-1000000005 : Int32)) hx hb hown (hts _ q1600) dX5_mark_55 ?_
          refine zw_icmp_ne (tgt := 63) hx hb hf dX5_mark_57 (by decide) (fun hf => ?_) (fun hf => ?_)
          · exact k_X5_mark_63 X _ r6.2 a0 i1 i2 i3 _ _ _ hf hw (lv_sub hl [0, 1, 2, 3] rfl)
          · refine lv_ldc (v := (-1000000012 : Int32)) hx hb hown (hts _ q1456) dX5_mark_60 ?_
            exact zw_iret X hw hf (Nat.le_of_ble_eq_true rfl) (Nat.le_of_ble_eq_true rfl) dX5_mark_62
      · refine lv_ldcw (v := (-1000000013 : Int32)) hx hb hown (hts _ q1720) dX5_mark_41 ?_
        exact zw_iret X hw hf (Nat.le_of_ble_eq_true rfl) (Nat.le_of_ble_eq_true rfl) dX5_mark_44
    · refine lv_ldcw (v := (-1000000011 : Int32)) hx hb hown (hts _ q1719) dX5_mark_19 ?_
      exact zw_iret X hw hf (Nat.le_of_ble_eq_true rfl) (Nat.le_of_ble_eq_true rfl) dX5_mark_22
  · refine lv_ldc (v := (-1000000001 : Int32)) hx hb hown (hts _ q1377) dX5_mark_7 ?_
    exact zw_iret X hw hf (Nat.le_of_ble_eq_true rfl) (Nat.le_of_ble_eq_true rfl) dX5_mark_9
set_option maxHeartbeats 4000000 in
theorem k_X5_pour_80 {p : Program} {l : Launch} {e : Env} {s : State} {m : MethodId} {args : Array Value} {below : List Frame} {meth : Method} {c : Code} {D : va_G} {A : Nat → Prop} {E : State → Prop} (X : zCx p s m args meth c D A E cX5_pour 6 RX5 (Option.some FieldType.int)) (res : Int32 × zT) (K27 : zT → Nat → Int32 → Int32 → Int32 → Option (Int32 × zT)) (hK27 : ∀ (h : zT) (a0 : Nat) (i1 : Int32) (i2 : Int32) (i3 : Int32) (H : Heap) (locs : List Loc) (ls : Array Slot), K27 h a0 i1 i2 i3 = some res → zWh D A s H h locs → lv_has ls 6 [(0, .ref a0), (1, .int i1), (2, .int i2), (3, .int i3)] → W p l e rm_X5_pour s m args below meth c H locs 0 0 (MQ below (zQW D A (some (.int res.1)) res.2) args s 0 0 A) (F0 m 27 ls [])) : ∀ (h : zT) (a0 : Nat) (i1 : Int32) (i2 : Int32) (i3 : Int32) (s0 : Int32) (H : Heap) (locs : List Loc) (ls : Array Slot), f_X5_pour_80 K27 h a0 i1 i2 i3 s0 = some res → zWh D A s H h locs → lv_has ls 6 [(0, .ref a0), (1, .int i1), (2, .int i2), (3, .int i3)] → W p l e rm_X5_pour s m args below meth c H locs 0 0 (MQ below (zQW D A (some (.int res.1)) res.2) args s 0 0 A) (F0 m 80 ls [.int s0]) := by
  have hx := X.1.1
  have hb := X.1.2.1
  have hown := X.1.2.2.2.1
  have hts := X.1.2.2.2.2
  intro h a0 i1 i2 i3 s0 H locs ls hf hw hl
  unfold f_X5_pour_80 at hf
  refine lv_istore (lv' := [(5, .int s0), (0, .ref a0), (1, .int i1), (2, .int i2), (3, .int i3)]) hx hb dX5_pour_80 hl (by decide) rfl (fun ls hl => ?_)
  refine lv_iload_n hx hb dX5_pour_82 rfl (lv_at hl 3 rfl) ?_
  refine lv_iload hx hb dX5_pour_83 (lv_at hl 0 rfl) ?_
  refine lv_aload_n hx hb dX5_pour_85 rfl (lv_at hl 1 rfl) ?_
  refine lv_iconst (v := (5 : Int32)) hx hb dX5_pour_86 (by decide) ?_
  refine lv_iload_n hx hb dX5_pour_87 rfl (lv_at hl 4 rfl) ?_
  refine lv_iadd hx hb dX5_pour_88 ?_
  refine lv_iload hx hb dX5_pour_89 (lv_at hl 0 rfl) ?_
  refine zw_cVI (rest := [.int s0, .int i2]) [.int ((5 : Int32) + i3), .int s0] X hw hl.1 hf rfl rfl (fun r hr => mt_X5_becomes l D A E X.2.2.2.2.2.1 h a0 ((5 : Int32) + i3) s0 r hr) (lw_V q1461 q1463 qs49 q89 q1464) cd_X5_becomes ⟨rfl, rfl⟩ ⟨Nat.le_of_ble_eq_true rfl, Nat.le_of_ble_eq_true rfl⟩ rfl rfl (Nat.le_of_ble_eq_true rfl) dX5_pour_91 ⟨Nat.le_of_ble_eq_true rfl, Nat.le_of_ble_eq_true rfl⟩ (fun r1 H locs hf hw => ?_)
  refine zw_icmp_ne (tgt := 101) hx hb hf dX5_pour_94 (by decide) (fun hf => ?_) (fun hf => ?_)
  · refine lv_iconst (v := (1 : Int32)) hx hb dX5_pour_101 (by decide) ?_
    refine lv_iadd hx hb dX5_pour_102 ?_
    refine zw_nmI hf (fun v2 hf => ?_)
    refine lv_istore_n (lv' := [(2, .int v2), (5, .int s0), (0, .ref a0), (1, .int i1), (3, .int i3)]) hx hb dX5_pour_103 rfl hl (by decide) rfl (fun ls hl => ?_)
    refine zw_nmS hf (fun v3 ev3 hf => ?_)
    refine lv_iinc (k := 4) (v := v3) (lv' := [(3, .int v3), (2, .int v2), (5, .int s0), (0, .ref a0), (1, .int i1)]) hx hb dX5_pour_104 hl rfl (by rw [ev3]; rfl) (by decide) rfl (fun ls hl => ?_)
    refine lv_goto (tgt := 27) hx hb dX5_pour_107 (by decide) ?_
    exact hK27 r1.2 a0 i1 v2 v3 _ _ _ hf hw (lv_sub hl [3, 4, 1, 0] rfl)
  · refine lv_iconst (v := (0 : Int32)) hx hb dX5_pour_97 (by decide) ?_
    refine lv_goto (tgt := 102) hx hb dX5_pour_98 (by decide) ?_
    refine lv_iadd hx hb dX5_pour_102 ?_
    refine zw_nmI hf (fun v4 hf => ?_)
    refine lv_istore_n (lv' := [(2, .int v4), (5, .int s0), (0, .ref a0), (1, .int i1), (3, .int i3)]) hx hb dX5_pour_103 rfl hl (by decide) rfl (fun ls hl => ?_)
    refine zw_nmS hf (fun v5 ev5 hf => ?_)
    refine lv_iinc (k := 4) (v := v5) (lv' := [(3, .int v5), (2, .int v4), (5, .int s0), (0, .ref a0), (1, .int i1)]) hx hb dX5_pour_104 hl rfl (by rw [ev5]; rfl) (by decide) rfl (fun ls hl => ?_)
    refine lv_goto (tgt := 27) hx hb dX5_pour_107 (by decide) ?_
    exact hK27 r1.2 a0 i1 v4 v5 _ _ _ hf hw (lv_sub hl [3, 4, 1, 0] rfl)
set_option maxHeartbeats 4000000 in
theorem k_X5_pour_27 {p : Program} {l : Launch} {e : Env} {s : State} {m : MethodId} {args : Array Value} {below : List Frame} {meth : Method} {c : Code} {D : va_G} {A : Nat → Prop} {E : State → Prop} (X : zCx p s m args meth c D A E cX5_pour 6 RX5 (Option.some FieldType.int)) (res : Int32 × zT) : ∀ (n : Nat), ∀ (h : zT) (a0 : Nat) (i1 : Int32) (i2 : Int32) (i3 : Int32) (H : Heap) (locs : List Loc) (ls : Array Slot), f_X5_pour_27 n h a0 i1 i2 i3 = some res → zWh D A s H h locs → lv_has ls 6 [(0, .ref a0), (1, .int i1), (2, .int i2), (3, .int i3)] → W p l e rm_X5_pour s m args below meth c H locs 0 0 (MQ below (zQW D A (some (.int res.1)) res.2) args s 0 0 A) (F0 m 27 ls []) := by
  have hx := X.1.1
  have hb := X.1.2.1
  have hown := X.1.2.2.2.1
  have hts := X.1.2.2.2.2
  intro n
  induction n with
  | zero =>
    intro h a0 i1 i2 i3 H locs ls hf hw hl
    cases hf
  | succ n ih =>
    intro h a0 i1 i2 i3 H locs ls hf hw hl
    unfold f_X5_pour_27 at hf
    refine lv_iload_n hx hb dX5_pour_27 rfl (lv_at hl 3 rfl) ?_
    refine lv_aload_n hx hb dX5_pour_28 rfl (lv_at hl 0 rfl) ?_
    refine zw_getR X hw fs_X5_5 q1275 rfl hf dX5_pour_29 (fun v1 hf => ?_)
    refine lv_iload_n hx hb dX5_pour_32 rfl (lv_at hl 1 rfl) ?_
    refine zw_ialoadR X hw hf dX5_pour_33 (fun v2 hf => ?_)
    refine zw_icmp_ge (tgt := 110) hx hb hf dX5_pour_34 (by decide) (fun hf => ?_) (fun hf => ?_)
    · refine lv_iload_n hx hb dX5_pour_110 rfl (lv_at hl 2 rfl) ?_
      exact zw_iret X hw hf (Nat.le_of_ble_eq_true rfl) (Nat.le_of_ble_eq_true rfl) dX5_pour_111
    · refine lv_iload_n hx hb dX5_pour_37 rfl (lv_at hl 3 rfl) ?_
      refine lv_bipush (v := (16 : Int32)) hx hb dX5_pour_38 (by decide) ?_
      refine zw_icmp_ge (tgt := 110) hx hb hf dX5_pour_40 (by decide) (fun hf => ?_) (fun hf => ?_)
      · refine lv_iload_n hx hb dX5_pour_110 rfl (lv_at hl 2 rfl) ?_
        exact zw_iret X hw hf (Nat.le_of_ble_eq_true rfl) (Nat.le_of_ble_eq_true rfl) dX5_pour_111
      · refine lv_aload_n hx hb dX5_pour_43 rfl (lv_at hl 0 rfl) ?_
        refine zw_getR X hw fs_X5_6 q1276 rfl hf dX5_pour_44 (fun v3 hf => ?_)
        refine lv_bipush (v := (24 : Int32)) hx hb dX5_pour_47 (by decide) ?_
        refine lv_iload_n hx hb dX5_pour_49 rfl (lv_at hl 1 rfl) ?_
        refine lv_imul hx hb dX5_pour_50 ?_
        refine lv_iload_n hx hb dX5_pour_51 rfl (lv_at hl 3 rfl) ?_
        refine lv_iadd hx hb dX5_pour_52 ?_
        refine zw_ialoadR X hw hf dX5_pour_53 (fun v4 hf => ?_)
        refine lv_istore (lv' := [(4, .int v4), (0, .ref a0), (1, .int i1), (2, .int i2), (3, .int i3)]) hx hb dX5_pour_54 hl (by decide) rfl (fun ls hl => ?_)
        refine lv_iload hx hb dX5_pour_56 (lv_at hl 0 rfl) ?_
        refine lv_ldc (v := (-1000000005 : Int32)) hx hb hown (hts _ q1600) dX5_pour_58 ?_
        refine zw_icmp_ne (tgt := 74) hx hb hf dX5_pour_60 (by decide) (fun hf => ?_) (fun hf => ?_)
        · refine lv_iload hx hb dX5_pour_74 (lv_at hl 0 rfl) ?_
          refine lv_iconst (v := (3 : Int32)) hx hb dX5_pour_76 (by decide) ?_
          refine zw_cSI (rest := []) [.int v4, .int (3 : Int32)] X hw hl.1 hf (fun r hr => mt_X5_within l D A E X.2.2.2.2.2.1 h v4 (3 : Int32) r hr) (lw_S q1427 q1428 q89 q1429) cd_X5_within ⟨rfl, rfl⟩ ⟨Nat.le_of_ble_eq_true rfl, Nat.le_of_ble_eq_true rfl⟩ rfl rfl (Nat.le_of_ble_eq_true rfl) dX5_pour_77 ⟨Nat.le_of_ble_eq_true rfl, Nat.le_of_ble_eq_true rfl⟩ (fun r5 H locs hf hw => ?_)
          exact k_X5_pour_80 X _ (f_X5_pour_27 n) ih r5.2 a0 i1 i2 i3 r5.1 _ _ _ hf hw (lv_sub hl [1, 2, 3, 4] rfl)
        · refine lv_aload_n hx hb dX5_pour_63 rfl (lv_at hl 1 rfl) ?_
          refine zw_getR X hw fs_X5_0 q1270 rfl hf dX5_pour_64 (fun v6 hf => ?_)
          refine lv_iconst (v := (5 : Int32)) hx hb dX5_pour_67 (by decide) ?_
          refine lv_iload_n hx hb dX5_pour_68 rfl (lv_at hl 4 rfl) ?_
          refine lv_iadd hx hb dX5_pour_69 ?_
          refine zw_ialoadR X hw hf dX5_pour_70 (fun v7 hf => ?_)
          refine lv_goto (tgt := 80) hx hb dX5_pour_71 (by decide) ?_
          exact k_X5_pour_80 X _ (f_X5_pour_27 n) ih h a0 i1 i2 i3 v7 _ _ _ hf hw (lv_sub hl [1, 2, 3, 4] rfl)
set_option maxHeartbeats 4000000 in
theorem mt_X5_pour (l : Launch) (D : va_G) (A : Nat → Prop) (E : State → Prop) (hE : zEok A E) (h : zT) (a0 : Nat) (i1 : Int32) (res : Int32 × zT) (hf : f_X5_pour h a0 i1 = some res) : Met l yX5_pour (ws_ yX5_pour cX5_pour 6 (Option.some FieldType.int)) rm_X5_pour (zPW D A E h [.ref a0, .int i1]) (zQW D A (some (.int res.1)) res.2) 0 0 A := by
  refine zmt hE (by decide) (Nat.le_of_ble_eq_true rfl) ?_
  intro p e s m below meth c ls hmn X hw hl
  have hl : lv_has ls 6 [(0, .ref a0), (1, .int i1)] := hl
  have hx := X.1.1
  have hb := X.1.2.1
  have hown := X.1.2.2.2.1
  have hts := X.1.2.2.2.2
  unfold f_X5_pour at hf
  refine lv_iload_n hx hb dX5_pour_0 rfl (lv_at hl 1 rfl) ?_
  refine zw_cSZ (rest := []) [.int i1] X hw hl.1 hf (fun r hr => mt_X5_isSheet l D A E X.2.2.2.2.2.1 h i1 r hr) (lw_S q1710 q1711 q89 q1712) cd_X5_isSheet ⟨rfl, rfl⟩ ⟨Nat.le_of_ble_eq_true rfl, Nat.le_of_ble_eq_true rfl⟩ rfl rfl (Nat.le_of_ble_eq_true rfl) dX5_pour_1 ⟨Nat.le_of_ble_eq_true rfl, Nat.le_of_ble_eq_true rfl⟩ (fun r1 H locs hf hw => ?_)
  refine zw_if_ne (tgt := 10) hx hb hf dX5_pour_4 (by decide) (fun hf => ?_) (fun hf => ?_)
  · refine lv_aload_n hx hb dX5_pour_10 rfl (lv_at hl 0 rfl) ?_
    refine zw_getR X hw fs_X5_4 q1274 rfl hf dX5_pour_11 (fun v2 hf => ?_)
    refine lv_iload_n hx hb dX5_pour_14 rfl (lv_at hl 1 rfl) ?_
    refine zw_ialoadR X hw hf dX5_pour_15 (fun v3 hf => ?_)
    refine zw_if_ge (tgt := 23) hx hb hf dX5_pour_16 (by decide) (fun hf => ?_) (fun hf => ?_)
    · refine lv_iconst (v := (0 : Int32)) hx hb dX5_pour_23 (by decide) ?_
      refine lv_istore_n (lv' := [(2, .int (0 : Int32)), (0, .ref a0), (1, .int i1)]) hx hb dX5_pour_24 rfl hl (by decide) rfl (fun ls hl => ?_)
      refine lv_iconst (v := (0 : Int32)) hx hb dX5_pour_25 (by decide) ?_
      refine lv_istore_n (lv' := [(3, .int (0 : Int32)), (2, .int (0 : Int32)), (0, .ref a0), (1, .int i1)]) hx hb dX5_pour_26 rfl hl (by decide) rfl (fun ls hl => ?_)
      exact k_X5_pour_27 X _ 4096 r1.2 a0 i1 (0 : Int32) (0 : Int32) _ _ _ hf hw (lv_sub hl [2, 3, 1, 0] rfl)
    · refine lv_ldcw (v := (-1000000011 : Int32)) hx hb hown (hts _ q1719) dX5_pour_19 ?_
      exact zw_iret X hw hf (Nat.le_of_ble_eq_true rfl) (Nat.le_of_ble_eq_true rfl) dX5_pour_22
  · refine lv_ldc (v := (-1000000001 : Int32)) hx hb hown (hts _ q1377) dX5_pour_7 ?_
    exact zw_iret X hw hf (Nat.le_of_ble_eq_true rfl) (Nat.le_of_ble_eq_true rfl) dX5_pour_9
set_option maxHeartbeats 4000000 in
theorem k_X5_reads_25 {p : Program} {l : Launch} {e : Env} {s : State} {m : MethodId} {args : Array Value} {below : List Frame} {meth : Method} {c : Code} {D : va_G} {A : Nat → Prop} {E : State → Prop} (X : zCx p s m args meth c D A E cX5_reads 4 RX5 (Option.some FieldType.int)) (res : Int32 × zT) : ∀ (n : Nat), ∀ (h : zT) (a0 : Nat) (i1 : Int32) (i2 : Int32) (H : Heap) (locs : List Loc) (ls : Array Slot), f_X5_reads_25 n h a0 i1 i2 = some res → zWh D A s H h locs → lv_has ls 4 [(0, .ref a0), (1, .int i1), (2, .int i2)] → W p l e rm_X5_reads s m args below meth c H locs 0 0 (MQ below (zQW D A (some (.int res.1)) res.2) args s 0 0 A) (F0 m 25 ls []) := by
  have hx := X.1.1
  have hb := X.1.2.1
  have hown := X.1.2.2.2.1
  have hts := X.1.2.2.2.2
  intro n
  induction n with
  | zero =>
    intro h a0 i1 i2 H locs ls hf hw hl
    cases hf
  | succ n ih =>
    intro h a0 i1 i2 H locs ls hf hw hl
    unfold f_X5_reads_25 at hf
    refine lv_iload_n hx hb dX5_reads_25 rfl (lv_at hl 2 rfl) ?_
    refine lv_aload_n hx hb dX5_reads_26 rfl (lv_at hl 0 rfl) ?_
    refine zw_getR X hw fs_X5_5 q1275 rfl hf dX5_reads_27 (fun v1 hf => ?_)
    refine lv_iload_n hx hb dX5_reads_30 rfl (lv_at hl 1 rfl) ?_
    refine zw_ialoadR X hw hf dX5_reads_31 (fun v2 hf => ?_)
    refine zw_icmp_ge (tgt := 81) hx hb hf dX5_reads_32 (by decide) (fun hf => ?_) (fun hf => ?_)
    · refine lv_ldc (v := (-1000000005 : Int32)) hx hb hown (hts _ q1600) dX5_reads_81 ?_
      exact zw_iret X hw hf (Nat.le_of_ble_eq_true rfl) (Nat.le_of_ble_eq_true rfl) dX5_reads_83
    · refine lv_aload_n hx hb dX5_reads_35 rfl (lv_at hl 0 rfl) ?_
      refine zw_getR X hw fs_X5_6 q1276 rfl hf dX5_reads_36 (fun v3 hf => ?_)
      refine lv_bipush (v := (24 : Int32)) hx hb dX5_reads_39 (by decide) ?_
      refine lv_iload_n hx hb dX5_reads_41 rfl (lv_at hl 1 rfl) ?_
      refine lv_imul hx hb dX5_reads_42 ?_
      refine lv_iload_n hx hb dX5_reads_43 rfl (lv_at hl 2 rfl) ?_
      refine lv_iadd hx hb dX5_reads_44 ?_
      refine zw_ialoadR X hw hf dX5_reads_45 (fun v4 hf => ?_)
      refine lv_istore_n (lv' := [(3, .int v4), (0, .ref a0), (1, .int i1), (2, .int i2)]) hx hb dX5_reads_46 rfl hl (by decide) rfl (fun ls hl => ?_)
      refine lv_iload_n hx hb dX5_reads_47 rfl (lv_at hl 0 rfl) ?_
      refine lv_ldc (v := (-1000000005 : Int32)) hx hb hown (hts _ q1600) dX5_reads_48 ?_
      refine zw_icmp_eq (tgt := 75) hx hb hf dX5_reads_50 (by decide) (fun hf => ?_) (fun hf => ?_)
      · refine zw_nmS hf (fun v5 ev5 hf => ?_)
        refine lv_iinc (k := 3) (v := v5) (lv' := [(2, .int v5), (3, .int v4), (0, .ref a0), (1, .int i1)]) hx hb dX5_reads_75 hl rfl (by rw [ev5]; rfl) (by decide) rfl (fun ls hl => ?_)
        refine lv_goto (tgt := 25) hx hb dX5_reads_78 (by decide) ?_
        exact ih h a0 i1 v5 _ _ _ hf hw (lv_sub hl [2, 3, 0] rfl)
      · refine lv_iload_n hx hb dX5_reads_53 rfl (lv_at hl 3 rfl) ?_
        refine lv_aload_n hx hb dX5_reads_54 rfl (lv_at hl 1 rfl) ?_
        refine zw_getR X hw fs_X5_0 q1270 rfl hf dX5_reads_55 (fun v6 hf => ?_)
        refine lv_iconst (v := (0 : Int32)) hx hb dX5_reads_58 (by decide) ?_
        refine zw_ialoadR X hw hf dX5_reads_59 (fun v7 hf => ?_)
        refine zw_icmp_ge (tgt := 73) hx hb hf dX5_reads_60 (by decide) (fun hf => ?_) (fun hf => ?_)
        · refine lv_iload_n hx hb dX5_reads_73 rfl (lv_at hl 3 rfl) ?_
          exact zw_iret X hw hf (Nat.le_of_ble_eq_true rfl) (Nat.le_of_ble_eq_true rfl) dX5_reads_74
        · refine lv_iload_n hx hb dX5_reads_63 rfl (lv_at hl 0 rfl) ?_
          refine lv_aload_n hx hb dX5_reads_64 rfl (lv_at hl 1 rfl) ?_
          refine lv_iload_n hx hb dX5_reads_65 rfl (lv_at hl 3 rfl) ?_
          refine lv_iconst (v := (5 : Int32)) hx hb dX5_reads_66 (by decide) ?_
          refine zw_cVI (rest := [.int v4]) [.int i2, .int (5 : Int32)] X hw hl.1 hf rfl rfl (fun r hr => mt_X5_of l D A E X.2.2.2.2.2.1 h a0 i2 (5 : Int32) r hr) (lw_V q1395 q1397 qs39 q89 q1398) cd_X5_of ⟨rfl, rfl⟩ ⟨Nat.le_of_ble_eq_true rfl, Nat.le_of_ble_eq_true rfl⟩ rfl rfl (Nat.le_of_ble_eq_true rfl) dX5_reads_67 ⟨Nat.le_of_ble_eq_true rfl, Nat.le_of_ble_eq_true rfl⟩ (fun r8 H locs hf hw => ?_)
          refine zw_icmp_eq (tgt := 75) hx hb hf dX5_reads_70 (by decide) (fun hf => ?_) (fun hf => ?_)
          · refine zw_nmS hf (fun v9 ev9 hf => ?_)
            refine lv_iinc (k := 3) (v := v9) (lv' := [(2, .int v9), (3, .int v4), (0, .ref a0), (1, .int i1)]) hx hb dX5_reads_75 hl rfl (by rw [ev9]; rfl) (by decide) rfl (fun ls hl => ?_)
            refine lv_goto (tgt := 25) hx hb dX5_reads_78 (by decide) ?_
            exact ih r8.2 a0 i1 v9 _ _ _ hf hw (lv_sub hl [2, 3, 0] rfl)
          · refine lv_iload_n hx hb dX5_reads_73 rfl (lv_at hl 3 rfl) ?_
            exact zw_iret X hw hf (Nat.le_of_ble_eq_true rfl) (Nat.le_of_ble_eq_true rfl) dX5_reads_74
set_option maxHeartbeats 4000000 in
theorem mt_X5_reads (l : Launch) (D : va_G) (A : Nat → Prop) (E : State → Prop) (hE : zEok A E) (h : zT) (a0 : Nat) (i1 : Int32) (res : Int32 × zT) (hf : f_X5_reads h a0 i1 = some res) : Met l yX5_reads (ws_ yX5_reads cX5_reads 4 (Option.some FieldType.int)) rm_X5_reads (zPW D A E h [.ref a0, .int i1]) (zQW D A (some (.int res.1)) res.2) 0 0 A := by
  refine zmt hE (by decide) (Nat.le_of_ble_eq_true rfl) ?_
  intro p e s m below meth c ls hmn X hw hl
  have hl : lv_has ls 4 [(0, .ref a0), (1, .int i1)] := hl
  have hx := X.1.1
  have hb := X.1.2.1
  have hown := X.1.2.2.2.1
  have hts := X.1.2.2.2.2
  unfold f_X5_reads at hf
  refine lv_iload_n hx hb dX5_reads_0 rfl (lv_at hl 1 rfl) ?_
  refine zw_cSZ (rest := []) [.int i1] X hw hl.1 hf (fun r hr => mt_X5_isSheet l D A E X.2.2.2.2.2.1 h i1 r hr) (lw_S q1710 q1711 q89 q1712) cd_X5_isSheet ⟨rfl, rfl⟩ ⟨Nat.le_of_ble_eq_true rfl, Nat.le_of_ble_eq_true rfl⟩ rfl rfl (Nat.le_of_ble_eq_true rfl) dX5_reads_1 ⟨Nat.le_of_ble_eq_true rfl, Nat.le_of_ble_eq_true rfl⟩ (fun r1 H locs hf hw => ?_)
  refine zw_if_ne (tgt := 10) hx hb hf dX5_reads_4 (by decide) (fun hf => ?_) (fun hf => ?_)
  · refine lv_aload_n hx hb dX5_reads_10 rfl (lv_at hl 0 rfl) ?_
    refine zw_getR X hw fs_X5_4 q1274 rfl hf dX5_reads_11 (fun v2 hf => ?_)
    refine lv_iload_n hx hb dX5_reads_14 rfl (lv_at hl 1 rfl) ?_
    refine zw_ialoadR X hw hf dX5_reads_15 (fun v3 hf => ?_)
    refine zw_if_ge (tgt := 23) hx hb hf dX5_reads_16 (by decide) (fun hf => ?_) (fun hf => ?_)
    · refine lv_iconst (v := (0 : Int32)) hx hb dX5_reads_23 (by decide) ?_
      refine lv_istore_n (lv' := [(2, .int (0 : Int32)), (0, .ref a0), (1, .int i1)]) hx hb dX5_reads_24 rfl hl (by decide) rfl (fun ls hl => ?_)
      exact k_X5_reads_25 X _ 4096 r1.2 a0 i1 (0 : Int32) _ _ _ hf hw (lv_sub hl [1, 2, 0] rfl)
    · refine lv_ldcw (v := (-1000000011 : Int32)) hx hb hown (hts _ q1719) dX5_reads_19 ?_
      exact zw_iret X hw hf (Nat.le_of_ble_eq_true rfl) (Nat.le_of_ble_eq_true rfl) dX5_reads_22
  · refine lv_ldc (v := (-1000000001 : Int32)) hx hb hown (hts _ q1377) dX5_reads_7 ?_
    exact zw_iret X hw hf (Nat.le_of_ble_eq_true rfl) (Nat.le_of_ble_eq_true rfl) dX5_reads_9
set_option maxHeartbeats 4000000 in
theorem mt_X5_off (l : Launch) (D : va_G) (A : Nat → Prop) (E : State → Prop) (hE : zEok A E) (h : zT) (i0 : Int32) (i1 : Int32) (res : Int32 × zT) (hf : f_X5_off h i0 i1 = some res) : Met l yX5_off (ws_ yX5_off cX5_off 2 (Option.some FieldType.int)) rm_X5_off (zPW D A E h [.int i0, .int i1]) (zQW D A (some (.int res.1)) res.2) 0 0 A := by
  refine zmt hE (by decide) (Nat.le_of_ble_eq_true rfl) ?_
  intro p e s m below meth c ls hmn X hw hl
  have hl : lv_has ls 2 [(0, .int i0), (1, .int i1)] := hl
  have hx := X.1.1
  have hb := X.1.2.1
  have hown := X.1.2.2.2.1
  have hts := X.1.2.2.2.2
  unfold f_X5_off at hf
  refine lv_iload_n hx hb dX5_off_0 rfl (lv_at hl 0 rfl) ?_
  refine lv_iload_n hx hb dX5_off_1 rfl (lv_at hl 1 rfl) ?_
  refine zw_icmp_ge (tgt := 11) hx hb hf dX5_off_2 (by decide) (fun hf => ?_) (fun hf => ?_)
  · refine lv_iload_n hx hb dX5_off_11 rfl (lv_at hl 0 rfl) ?_
    refine lv_iload_n hx hb dX5_off_12 rfl (lv_at hl 1 rfl) ?_
    refine lv_isub hx hb dX5_off_13 ?_
    exact zw_iret X hw hf (Nat.le_of_ble_eq_true rfl) (Nat.le_of_ble_eq_true rfl) dX5_off_14
  · refine lv_iload_n hx hb dX5_off_5 rfl (lv_at hl 1 rfl) ?_
    refine lv_iload_n hx hb dX5_off_6 rfl (lv_at hl 0 rfl) ?_
    refine lv_isub hx hb dX5_off_7 ?_
    refine lv_goto (tgt := 14) hx hb dX5_off_8 (by decide) ?_
    exact zw_iret X hw hf (Nat.le_of_ble_eq_true rfl) (Nat.le_of_ble_eq_true rfl) dX5_off_14
set_option maxHeartbeats 4000000 in
theorem k_X5_whose_58 {p : Program} {l : Launch} {e : Env} {s : State} {m : MethodId} {args : Array Value} {below : List Frame} {meth : Method} {c : Code} {D : va_G} {A : Nat → Prop} {E : State → Prop} (X : zCx p s m args meth c D A E cX5_whose 9 RX5 (Option.some FieldType.int)) (res : Int32 × zT) (K41 : zT → Nat → Int32 → Int32 → Int32 → Int32 → Int32 → Option (Int32 × zT)) (hK41 : ∀ (h : zT) (a0 : Nat) (i1 : Int32) (i2 : Int32) (i3 : Int32) (i4 : Int32) (i5 : Int32) (H : Heap) (locs : List Loc) (ls : Array Slot), K41 h a0 i1 i2 i3 i4 i5 = some res → zWh D A s H h locs → lv_has ls 9 [(0, .ref a0), (1, .int i1), (2, .int i2), (3, .int i3), (4, .int i4), (5, .int i5)] → W p l e rm_X5_whose s m args below meth c H locs 0 0 (MQ below (zQW D A (some (.int res.1)) res.2) args s 0 0 A) (F0 m 41 ls [])) : ∀ (n : Nat), ∀ (h : zT) (a0 : Nat) (i1 : Int32) (i2 : Int32) (i3 : Int32) (i4 : Int32) (i5 : Int32) (i6 : Int32) (i7 : Int32) (H : Heap) (locs : List Loc) (ls : Array Slot), f_X5_whose_58 K41 n h a0 i1 i2 i3 i4 i5 i6 i7 = some res → zWh D A s H h locs → lv_has ls 9 [(0, .ref a0), (1, .int i1), (2, .int i2), (3, .int i3), (4, .int i4), (5, .int i5), (6, .int i6), (7, .int i7)] → W p l e rm_X5_whose s m args below meth c H locs 0 0 (MQ below (zQW D A (some (.int res.1)) res.2) args s 0 0 A) (F0 m 58 ls []) := by
  have hx := X.1.1
  have hb := X.1.2.1
  have hown := X.1.2.2.2.1
  have hts := X.1.2.2.2.2
  intro n
  induction n with
  | zero =>
    intro h a0 i1 i2 i3 i4 i5 i6 i7 H locs ls hf hw hl
    cases hf
  | succ n ih =>
    intro h a0 i1 i2 i3 i4 i5 i6 i7 H locs ls hf hw hl
    unfold f_X5_whose_58 at hf
    refine lv_iload hx hb dX5_whose_58 (lv_at hl 7 rfl) ?_
    refine lv_aload_n hx hb dX5_whose_60 rfl (lv_at hl 0 rfl) ?_
    refine zw_getR X hw fs_X5_5 q1275 rfl hf dX5_whose_61 (fun v1 hf => ?_)
    refine lv_iload_n hx hb dX5_whose_64 rfl (lv_at hl 1 rfl) ?_
    refine zw_ialoadR X hw hf dX5_whose_65 (fun v2 hf => ?_)
    refine zw_icmp_ge (tgt := 134) hx hb hf dX5_whose_66 (by decide) (fun hf => ?_) (fun hf => ?_)
    · refine lv_iload_n hx hb dX5_whose_134 rfl (lv_at hl 3 rfl) ?_
      refine zw_if_lt (tgt := 145) hx hb hf dX5_whose_135 (by decide) (fun hf => ?_) (fun hf => ?_)
      · refine lv_iload hx hb dX5_whose_145 (lv_at hl 5 rfl) ?_
        refine lv_istore_n (lv' := [(3, .int i5), (0, .ref a0), (1, .int i1), (2, .int i2), (4, .int i4), (5, .int i5), (6, .int i6), (7, .int i7)]) hx hb dX5_whose_147 rfl hl (by decide) rfl (fun ls hl => ?_)
        refine lv_iload hx hb dX5_whose_148 (lv_at hl 6 rfl) ?_
        refine lv_istore (lv' := [(4, .int i6), (3, .int i5), (0, .ref a0), (1, .int i1), (2, .int i2), (5, .int i5), (6, .int i6), (7, .int i7)]) hx hb dX5_whose_150 hl (by decide) rfl (fun ls hl => ?_)
        refine zw_nmS hf (fun v3 ev3 hf => ?_)
        refine lv_iinc (k := 5) (v := v3) (lv' := [(5, .int v3), (4, .int i6), (3, .int i5), (0, .ref a0), (1, .int i1), (2, .int i2), (6, .int i6), (7, .int i7)]) hx hb dX5_whose_152 hl rfl (by rw [ev3]; rfl) (by decide) rfl (fun ls hl => ?_)
        refine lv_goto (tgt := 41) hx hb dX5_whose_155 (by decide) ?_
        exact hK41 h a0 i1 i2 i5 i6 v3 _ _ _ hf hw (lv_sub hl [3, 4, 5, 2, 1, 0] rfl)
      · refine lv_iload hx hb dX5_whose_138 (lv_at hl 6 rfl) ?_
        refine lv_iload hx hb dX5_whose_140 (lv_at hl 4 rfl) ?_
        refine zw_icmp_ge (tgt := 152) hx hb hf dX5_whose_142 (by decide) (fun hf => ?_) (fun hf => ?_)
        · refine zw_nmS hf (fun v4 ev4 hf => ?_)
          refine lv_iinc (k := 5) (v := v4) (lv' := [(5, .int v4), (0, .ref a0), (1, .int i1), (2, .int i2), (3, .int i3), (4, .int i4), (6, .int i6), (7, .int i7)]) hx hb dX5_whose_152 hl rfl (by rw [ev4]; rfl) (by decide) rfl (fun ls hl => ?_)
          refine lv_goto (tgt := 41) hx hb dX5_whose_155 (by decide) ?_
          exact hK41 h a0 i1 i2 i3 i4 v4 _ _ _ hf hw (lv_sub hl [1, 2, 3, 4, 5, 0] rfl)
        · refine lv_iload hx hb dX5_whose_145 (lv_at hl 5 rfl) ?_
          refine lv_istore_n (lv' := [(3, .int i5), (0, .ref a0), (1, .int i1), (2, .int i2), (4, .int i4), (5, .int i5), (6, .int i6), (7, .int i7)]) hx hb dX5_whose_147 rfl hl (by decide) rfl (fun ls hl => ?_)
          refine lv_iload hx hb dX5_whose_148 (lv_at hl 6 rfl) ?_
          refine lv_istore (lv' := [(4, .int i6), (3, .int i5), (0, .ref a0), (1, .int i1), (2, .int i2), (5, .int i5), (6, .int i6), (7, .int i7)]) hx hb dX5_whose_150 hl (by decide) rfl (fun ls hl => ?_)
          refine zw_nmS hf (fun v5 ev5 hf => ?_)
          refine lv_iinc (k := 5) (v := v5) (lv' := [(5, .int v5), (4, .int i6), (3, .int i5), (0, .ref a0), (1, .int i1), (2, .int i2), (6, .int i6), (7, .int i7)]) hx hb dX5_whose_152 hl rfl (by rw [ev5]; rfl) (by decide) rfl (fun ls hl => ?_)
          refine lv_goto (tgt := 41) hx hb dX5_whose_155 (by decide) ?_
          exact hK41 h a0 i1 i2 i5 i6 v5 _ _ _ hf hw (lv_sub hl [3, 4, 5, 2, 1, 0] rfl)
    · refine lv_aload_n hx hb dX5_whose_69 rfl (lv_at hl 0 rfl) ?_
      refine zw_getR X hw fs_X5_6 q1276 rfl hf dX5_whose_70 (fun v6 hf => ?_)
      refine lv_bipush (v := (24 : Int32)) hx hb dX5_whose_73 (by decide) ?_
      refine lv_iload_n hx hb dX5_whose_75 rfl (lv_at hl 1 rfl) ?_
      refine lv_imul hx hb dX5_whose_76 ?_
      refine lv_iload hx hb dX5_whose_77 (lv_at hl 7 rfl) ?_
      refine lv_iadd hx hb dX5_whose_79 ?_
      refine zw_ialoadR X hw hf dX5_whose_80 (fun v7 hf => ?_)
      refine lv_istore (lv' := [(8, .int v7), (0, .ref a0), (1, .int i1), (2, .int i2), (3, .int i3), (4, .int i4), (5, .int i5), (6, .int i6), (7, .int i7)]) hx hb dX5_whose_81 hl (by decide) rfl (fun ls hl => ?_)
      refine lv_iload hx hb dX5_whose_83 (lv_at hl 7 rfl) ?_
      refine lv_iload hx hb dX5_whose_85 (lv_at hl 0 rfl) ?_
      refine lv_ldc (v := (-1000000005 : Int32)) hx hb hown (hts _ q1600) dX5_whose_87 ?_
      refine zw_icmp_ne (tgt := 96) hx hb hf dX5_whose_89 (by decide) (fun hf => ?_) (fun hf => ?_)
      · refine lv_iload hx hb dX5_whose_96 (lv_at hl 0 rfl) ?_
        refine lv_iload hx hb dX5_whose_98 (lv_at hl 8 rfl) ?_
        refine lv_aload_n hx hb dX5_whose_100 rfl (lv_at hl 1 rfl) ?_
        refine lv_iload hx hb dX5_whose_101 (lv_at hl 6 rfl) ?_
        refine lv_iconst (v := (2 : Int32)) hx hb dX5_whose_103 (by decide) ?_
        refine zw_cVI (rest := [.int i7, .int v7, .int i6]) [.int i5, .int (2 : Int32)] X hw hl.1 hf rfl rfl (fun r hr => mt_X5_of l D A E X.2.2.2.2.2.1 h a0 i5 (2 : Int32) r hr) (lw_V q1395 q1397 qs39 q89 q1398) cd_X5_of ⟨rfl, rfl⟩ ⟨Nat.le_of_ble_eq_true rfl, Nat.le_of_ble_eq_true rfl⟩ rfl rfl (Nat.le_of_ble_eq_true rfl) dX5_whose_104 ⟨Nat.le_of_ble_eq_true rfl, Nat.le_of_ble_eq_true rfl⟩ (fun r8 H locs hf hw => ?_)
        refine zw_icmp_ge (tgt := 121) hx hb hf dX5_whose_107 (by decide) (fun hf => ?_) (fun hf => ?_)
        · refine lv_iconst (v := (0 : Int32)) hx hb dX5_whose_121 (by decide) ?_
          refine zw_cSI (rest := [.int i6]) [.int v7, .int (0 : Int32)] X hw hl.1 hf (fun r hr => mt_X5_off l D A E X.2.2.2.2.2.1 r8.2 v7 (0 : Int32) r hr) (lw_S q1735 q1736 q89 q1737) cd_X5_off ⟨rfl, rfl⟩ ⟨Nat.le_of_ble_eq_true rfl, Nat.le_of_ble_eq_true rfl⟩ rfl rfl (Nat.le_of_ble_eq_true rfl) dX5_whose_122 ⟨Nat.le_of_ble_eq_true rfl, Nat.le_of_ble_eq_true rfl⟩ (fun r9 H locs hf hw => ?_)
          refine lv_iadd hx hb dX5_whose_125 ?_
          refine zw_nmI hf (fun v10 hf => ?_)
          refine lv_istore (lv' := [(6, .int v10), (8, .int v7), (0, .ref a0), (1, .int i1), (2, .int i2), (3, .int i3), (4, .int i4), (5, .int i5), (7, .int i7)]) hx hb dX5_whose_126 hl (by decide) rfl (fun ls hl => ?_)
          refine zw_nmS hf (fun v11 ev11 hf => ?_)
          refine lv_iinc (k := 8) (v := v11) (lv' := [(7, .int v11), (6, .int v10), (8, .int v7), (0, .ref a0), (1, .int i1), (2, .int i2), (3, .int i3), (4, .int i4), (5, .int i5)]) hx hb dX5_whose_128 hl rfl (by rw [ev11]; rfl) (by decide) rfl (fun ls hl => ?_)
          refine lv_goto (tgt := 58) hx hb dX5_whose_131 (by decide) ?_
          exact ih r9.2 a0 i1 i2 i3 i4 i5 v10 v11 _ _ _ hf hw (lv_sub hl [3, 4, 5, 6, 7, 8, 1, 0] rfl)
        · refine lv_aload_n hx hb dX5_whose_110 rfl (lv_at hl 1 rfl) ?_
          refine lv_iload hx hb dX5_whose_111 (lv_at hl 6 rfl) ?_
          refine lv_iload hx hb dX5_whose_113 (lv_at hl 8 rfl) ?_
          refine zw_cVI (rest := [.int v7, .int i6]) [.int i5, .int i7] X hw hl.1 hf rfl rfl (fun r hr => mt_X5_saysAt l D A E X.2.2.2.2.2.1 r8.2 a0 i5 i7 r hr) (lw_V q1442 q1444 qs48 q89 q1445) cd_X5_saysAt ⟨rfl, rfl⟩ ⟨Nat.le_of_ble_eq_true rfl, Nat.le_of_ble_eq_true rfl⟩ rfl rfl (Nat.le_of_ble_eq_true rfl) dX5_whose_115 ⟨Nat.le_of_ble_eq_true rfl, Nat.le_of_ble_eq_true rfl⟩ (fun r12 H locs hf hw => ?_)
          refine lv_goto (tgt := 122) hx hb dX5_whose_118 (by decide) ?_
          refine zw_cSI (rest := [.int i6]) [.int v7, .int r12.1] X hw hl.1 hf (fun r hr => mt_X5_off l D A E X.2.2.2.2.2.1 r12.2 v7 r12.1 r hr) (lw_S q1735 q1736 q89 q1737) cd_X5_off ⟨rfl, rfl⟩ ⟨Nat.le_of_ble_eq_true rfl, Nat.le_of_ble_eq_true rfl⟩ rfl rfl (Nat.le_of_ble_eq_true rfl) dX5_whose_122 ⟨Nat.le_of_ble_eq_true rfl, Nat.le_of_ble_eq_true rfl⟩ (fun r13 H locs hf hw => ?_)
          refine lv_iadd hx hb dX5_whose_125 ?_
          refine zw_nmI hf (fun v14 hf => ?_)
          refine lv_istore (lv' := [(6, .int v14), (8, .int v7), (0, .ref a0), (1, .int i1), (2, .int i2), (3, .int i3), (4, .int i4), (5, .int i5), (7, .int i7)]) hx hb dX5_whose_126 hl (by decide) rfl (fun ls hl => ?_)
          refine zw_nmS hf (fun v15 ev15 hf => ?_)
          refine lv_iinc (k := 8) (v := v15) (lv' := [(7, .int v15), (6, .int v14), (8, .int v7), (0, .ref a0), (1, .int i1), (2, .int i2), (3, .int i3), (4, .int i4), (5, .int i5)]) hx hb dX5_whose_128 hl rfl (by rw [ev15]; rfl) (by decide) rfl (fun ls hl => ?_)
          refine lv_goto (tgt := 58) hx hb dX5_whose_131 (by decide) ?_
          exact ih r13.2 a0 i1 i2 i3 i4 i5 v14 v15 _ _ _ hf hw (lv_sub hl [3, 4, 5, 6, 7, 8, 1, 0] rfl)
      · refine lv_iconst (v := (0 : Int32)) hx hb dX5_whose_92 (by decide) ?_
        refine lv_goto (tgt := 125) hx hb dX5_whose_93 (by decide) ?_
        refine lv_iadd hx hb dX5_whose_125 ?_
        refine zw_nmI hf (fun v16 hf => ?_)
        refine lv_istore (lv' := [(6, .int v16), (8, .int v7), (0, .ref a0), (1, .int i1), (2, .int i2), (3, .int i3), (4, .int i4), (5, .int i5), (7, .int i7)]) hx hb dX5_whose_126 hl (by decide) rfl (fun ls hl => ?_)
        refine zw_nmS hf (fun v17 ev17 hf => ?_)
        refine lv_iinc (k := 8) (v := v17) (lv' := [(7, .int v17), (6, .int v16), (8, .int v7), (0, .ref a0), (1, .int i1), (2, .int i2), (3, .int i3), (4, .int i4), (5, .int i5)]) hx hb dX5_whose_128 hl rfl (by rw [ev17]; rfl) (by decide) rfl (fun ls hl => ?_)
        refine lv_goto (tgt := 58) hx hb dX5_whose_131 (by decide) ?_
        exact ih h a0 i1 i2 i3 i4 i5 v16 v17 _ _ _ hf hw (lv_sub hl [3, 4, 5, 6, 7, 8, 1, 0] rfl)
set_option maxHeartbeats 4000000 in
theorem k_X5_whose_41 {p : Program} {l : Launch} {e : Env} {s : State} {m : MethodId} {args : Array Value} {below : List Frame} {meth : Method} {c : Code} {D : va_G} {A : Nat → Prop} {E : State → Prop} (X : zCx p s m args meth c D A E cX5_whose 9 RX5 (Option.some FieldType.int)) (res : Int32 × zT) : ∀ (n : Nat), ∀ (h : zT) (a0 : Nat) (i1 : Int32) (i2 : Int32) (i3 : Int32) (i4 : Int32) (i5 : Int32) (H : Heap) (locs : List Loc) (ls : Array Slot), f_X5_whose_41 n h a0 i1 i2 i3 i4 i5 = some res → zWh D A s H h locs → lv_has ls 9 [(0, .ref a0), (1, .int i1), (2, .int i2), (3, .int i3), (4, .int i4), (5, .int i5)] → W p l e rm_X5_whose s m args below meth c H locs 0 0 (MQ below (zQW D A (some (.int res.1)) res.2) args s 0 0 A) (F0 m 41 ls []) := by
  have hx := X.1.1
  have hb := X.1.2.1
  have hown := X.1.2.2.2.1
  have hts := X.1.2.2.2.2
  intro n
  induction n with
  | zero =>
    intro h a0 i1 i2 i3 i4 i5 H locs ls hf hw hl
    cases hf
  | succ n ih =>
    intro h a0 i1 i2 i3 i4 i5 H locs ls hf hw hl
    unfold f_X5_whose_41 at hf
    refine lv_iload hx hb dX5_whose_41 (lv_at hl 5 rfl) ?_
    refine lv_aload_n hx hb dX5_whose_43 rfl (lv_at hl 0 rfl) ?_
    refine zw_getR X hw fs_X5_0 q1270 rfl hf dX5_whose_44 (fun v1 hf => ?_)
    refine lv_iconst (v := (0 : Int32)) hx hb dX5_whose_47 (by decide) ?_
    refine zw_ialoadR X hw hf dX5_whose_48 (fun v2 hf => ?_)
    refine zw_icmp_ge (tgt := 158) hx hb hf dX5_whose_49 (by decide) (fun hf => ?_) (fun hf => ?_)
    · refine lv_iload_n hx hb dX5_whose_158 rfl (lv_at hl 3 rfl) ?_
      refine zw_if_ge (tgt := 167) hx hb hf dX5_whose_159 (by decide) (fun hf => ?_) (fun hf => ?_)
      · refine lv_iload_n hx hb dX5_whose_167 rfl (lv_at hl 2 rfl) ?_
        refine zw_if_ne (tgt := 175) hx hb hf dX5_whose_168 (by decide) (fun hf => ?_) (fun hf => ?_)
        · refine lv_iload hx hb dX5_whose_175 (lv_at hl 4 rfl) ?_
          exact zw_iret X hw hf (Nat.le_of_ble_eq_true rfl) (Nat.le_of_ble_eq_true rfl) dX5_whose_177
        · refine lv_iload_n hx hb dX5_whose_171 rfl (lv_at hl 3 rfl) ?_
          refine lv_goto (tgt := 177) hx hb dX5_whose_172 (by decide) ?_
          exact zw_iret X hw hf (Nat.le_of_ble_eq_true rfl) (Nat.le_of_ble_eq_true rfl) dX5_whose_177
      · refine lv_ldc (v := (-1000000005 : Int32)) hx hb hown (hts _ q1600) dX5_whose_162 ?_
        refine lv_goto (tgt := 177) hx hb dX5_whose_164 (by decide) ?_
        exact zw_iret X hw hf (Nat.le_of_ble_eq_true rfl) (Nat.le_of_ble_eq_true rfl) dX5_whose_177
    · refine lv_iconst (v := (0 : Int32)) hx hb dX5_whose_52 (by decide) ?_
      refine lv_istore (lv' := [(6, .int (0 : Int32)), (0, .ref a0), (1, .int i1), (2, .int i2), (3, .int i3), (4, .int i4), (5, .int i5)]) hx hb dX5_whose_53 hl (by decide) rfl (fun ls hl => ?_)
      refine lv_iconst (v := (0 : Int32)) hx hb dX5_whose_55 (by decide) ?_
      refine lv_istore (lv' := [(7, .int (0 : Int32)), (6, .int (0 : Int32)), (0, .ref a0), (1, .int i1), (2, .int i2), (3, .int i3), (4, .int i4), (5, .int i5)]) hx hb dX5_whose_56 hl (by decide) rfl (fun ls hl => ?_)
      exact k_X5_whose_58 X _ (f_X5_whose_41 n) ih 4096 h a0 i1 i2 i3 i4 i5 (0 : Int32) (0 : Int32) _ _ _ hf hw (lv_sub hl [2, 3, 4, 5, 6, 7, 1, 0] rfl)
set_option maxHeartbeats 4000000 in
theorem mt_X5_whose (l : Launch) (D : va_G) (A : Nat → Prop) (E : State → Prop) (hE : zEok A E) (h : zT) (a0 : Nat) (i1 : Int32) (i2 : Int32) (res : Int32 × zT) (hf : f_X5_whose h a0 i1 i2 = some res) : Met l yX5_whose (ws_ yX5_whose cX5_whose 9 (Option.some FieldType.int)) rm_X5_whose (zPW D A E h [.ref a0, .int i1, .int i2]) (zQW D A (some (.int res.1)) res.2) 0 0 A := by
  refine zmt hE (by decide) (Nat.le_of_ble_eq_true rfl) ?_
  intro p e s m below meth c ls hmn X hw hl
  have hl : lv_has ls 9 [(0, .ref a0), (1, .int i1), (2, .int i2)] := hl
  have hx := X.1.1
  have hb := X.1.2.1
  have hown := X.1.2.2.2.1
  have hts := X.1.2.2.2.2
  unfold f_X5_whose at hf
  refine lv_iload_n hx hb dX5_whose_0 rfl (lv_at hl 1 rfl) ?_
  refine zw_cSZ (rest := []) [.int i1] X hw hl.1 hf (fun r hr => mt_X5_isSheet l D A E X.2.2.2.2.2.1 h i1 r hr) (lw_S q1710 q1711 q89 q1712) cd_X5_isSheet ⟨rfl, rfl⟩ ⟨Nat.le_of_ble_eq_true rfl, Nat.le_of_ble_eq_true rfl⟩ rfl rfl (Nat.le_of_ble_eq_true rfl) dX5_whose_1 ⟨Nat.le_of_ble_eq_true rfl, Nat.le_of_ble_eq_true rfl⟩ (fun r1 H locs hf hw => ?_)
  refine zw_if_eq (tgt := 17) hx hb hf dX5_whose_4 (by decide) (fun hf => ?_) (fun hf => ?_)
  · refine lv_ldc (v := (-1000000001 : Int32)) hx hb hown (hts _ q1377) dX5_whose_17 ?_
    exact zw_iret X hw hf (Nat.le_of_ble_eq_true rfl) (Nat.le_of_ble_eq_true rfl) dX5_whose_19
  · refine lv_iload_n hx hb dX5_whose_7 rfl (lv_at hl 2 rfl) ?_
    refine lv_i2l hx hb dX5_whose_8 rfl ?_
    refine lv_lconst (v := (0 : Int64)) hx hb dX5_whose_9 (by decide) ?_
    refine lv_lconst (v := (1 : Int64)) hx hb dX5_whose_10 (by decide) ?_
    refine zw_cSZ (rest := []) [.long i2.toInt64, .long (0 : Int64), .long (1 : Int64)] X hw hl.1 hf (fun r hr => mt_X5_isIn l D A E X.2.2.2.2.2.1 r1.2 i2.toInt64 (0 : Int64) (1 : Int64) r hr) (lw_S q1372 q1373 q89 q1374) cd_X5_isIn ⟨rfl, rfl⟩ ⟨Nat.le_of_ble_eq_true rfl, Nat.le_of_ble_eq_true rfl⟩ rfl rfl (Nat.le_of_ble_eq_true rfl) dX5_whose_11 ⟨Nat.le_of_ble_eq_true rfl, Nat.le_of_ble_eq_true rfl⟩ (fun r2 H locs hf hw => ?_)
    refine zw_if_ne (tgt := 20) hx hb hf dX5_whose_14 (by decide) (fun hf => ?_) (fun hf => ?_)
    · refine lv_aload_n hx hb dX5_whose_20 rfl (lv_at hl 0 rfl) ?_
      refine zw_getR X hw fs_X5_4 q1274 rfl hf dX5_whose_21 (fun v3 hf => ?_)
      refine lv_iload_n hx hb dX5_whose_24 rfl (lv_at hl 1 rfl) ?_
      refine zw_ialoadR X hw hf dX5_whose_25 (fun v4 hf => ?_)
      refine zw_if_ge (tgt := 33) hx hb hf dX5_whose_26 (by decide) (fun hf => ?_) (fun hf => ?_)
      · refine lv_iconst (v := (-1 : Int32)) hx hb dX5_whose_33 (by decide) ?_
        refine lv_istore_n (lv' := [(3, .int (-1 : Int32)), (0, .ref a0), (1, .int i1), (2, .int i2)]) hx hb dX5_whose_34 rfl hl (by decide) rfl (fun ls hl => ?_)
        refine lv_iconst (v := (0 : Int32)) hx hb dX5_whose_35 (by decide) ?_
        refine lv_istore (lv' := [(4, .int (0 : Int32)), (3, .int (-1 : Int32)), (0, .ref a0), (1, .int i1), (2, .int i2)]) hx hb dX5_whose_36 hl (by decide) rfl (fun ls hl => ?_)
        refine lv_iconst (v := (0 : Int32)) hx hb dX5_whose_38 (by decide) ?_
        refine lv_istore (lv' := [(5, .int (0 : Int32)), (4, .int (0 : Int32)), (3, .int (-1 : Int32)), (0, .ref a0), (1, .int i1), (2, .int i2)]) hx hb dX5_whose_39 hl (by decide) rfl (fun ls hl => ?_)
        exact k_X5_whose_41 X _ 4096 r2.2 a0 i1 i2 (-1 : Int32) (0 : Int32) (0 : Int32) _ _ _ hf hw (lv_sub hl [3, 4, 5, 2, 1, 0] rfl)
      · refine lv_ldcw (v := (-1000000011 : Int32)) hx hb hown (hts _ q1719) dX5_whose_29 ?_
        exact zw_iret X hw hf (Nat.le_of_ble_eq_true rfl) (Nat.le_of_ble_eq_true rfl) dX5_whose_32
    · refine lv_ldc (v := (-1000000001 : Int32)) hx hb hown (hts _ q1377) dX5_whose_17 ?_
      exact zw_iret X hw hf (Nat.le_of_ble_eq_true rfl) (Nat.le_of_ble_eq_true rfl) dX5_whose_19
set_option maxHeartbeats 4000000 in
theorem k_X5_copy_150 {p : Program} {l : Launch} {e : Env} {s : State} {m : MethodId} {args : Array Value} {below : List Frame} {meth : Method} {c : Code} {D : va_G} {A : Nat → Prop} {E : State → Prop} (X : zCx p s m args meth c D A E cX5_copy 7 RX5 (Option.some FieldType.int)) (res : Int32 × zT) : ∀ (n : Nat), ∀ (h : zT) (a0 : Nat) (i3 : Int32) (i4 : Int32) (i5 : Int32) (i6 : Int32) (H : Heap) (locs : List Loc) (ls : Array Slot), f_X5_copy_150 n h a0 i3 i4 i5 i6 = some res → zWh D A s H h locs → lv_has ls 7 [(0, .ref a0), (3, .int i3), (4, .int i4), (5, .int i5), (6, .int i6)] → W p l e rm_X5_copy s m args below meth c H locs 0 0 (MQ below (zQW D A (some (.int res.1)) res.2) args s 0 0 A) (F0 m 150 ls []) := by
  have hx := X.1.1
  have hb := X.1.2.1
  have hown := X.1.2.2.2.1
  have hts := X.1.2.2.2.2
  intro n
  induction n with
  | zero =>
    intro h a0 i3 i4 i5 i6 H locs ls hf hw hl
    cases hf
  | succ n ih =>
    intro h a0 i3 i4 i5 i6 H locs ls hf hw hl
    unfold f_X5_copy_150 at hf
    refine lv_iload hx hb dX5_copy_150 (lv_at hl 4 rfl) ?_
    refine lv_iload hx hb dX5_copy_152 (lv_at hl 3 rfl) ?_
    refine zw_icmp_ge (tgt := 185) hx hb hf dX5_copy_154 (by decide) (fun hf => ?_) (fun hf => ?_)
    · refine lv_iload hx hb dX5_copy_185 (lv_at hl 3 rfl) ?_
      exact zw_iret X hw hf (Nat.le_of_ble_eq_true rfl) (Nat.le_of_ble_eq_true rfl) dX5_copy_187
    · refine lv_aload_n hx hb dX5_copy_157 rfl (lv_at hl 0 rfl) ?_
      refine zw_getR X hw fs_X5_6 q1276 rfl hf dX5_copy_158 (fun v1 hf => ?_)
      refine lv_bipush (v := (24 : Int32)) hx hb dX5_copy_161 (by decide) ?_
      refine lv_iload_n hx hb dX5_copy_163 rfl (lv_at hl 1 rfl) ?_
      refine lv_imul hx hb dX5_copy_164 ?_
      refine lv_iload hx hb dX5_copy_165 (lv_at hl 2 rfl) ?_
      refine lv_iadd hx hb dX5_copy_167 ?_
      refine lv_iload hx hb dX5_copy_168 (lv_at hl 4 rfl) ?_
      refine lv_iadd hx hb dX5_copy_170 ?_
      refine lv_aload_n hx hb dX5_copy_171 rfl (lv_at hl 0 rfl) ?_
      refine zw_getR X hw fs_X5_28 q1298 rfl hf dX5_copy_172 (fun v2 hf => ?_)
      refine lv_iload hx hb dX5_copy_175 (lv_at hl 4 rfl) ?_
      refine zw_ialoadR X hw hf dX5_copy_177 (fun v3 hf => ?_)
      refine zw_iastore X hw hf dX5_copy_178 (fun h4 H locs hf hw => ?_)
      refine zw_nmS hf (fun v5 ev5 hf => ?_)
      refine lv_iinc (k := 4) (v := v5) (lv' := [(6, .int v5), (0, .ref a0), (3, .int i3), (4, .int i4), (5, .int i5)]) hx hb dX5_copy_179 hl rfl (by rw [ev5]; rfl) (by decide) rfl (fun ls hl => ?_)
      refine lv_goto (tgt := 150) hx hb dX5_copy_182 (by decide) ?_
      exact ih h4 a0 i3 i4 i5 v5 _ _ _ hf hw (lv_sub hl [1, 2, 3, 4, 0] rfl)
set_option maxHeartbeats 4000000 in
theorem k_X5_copy_113 {p : Program} {l : Launch} {e : Env} {s : State} {m : MethodId} {args : Array Value} {below : List Frame} {meth : Method} {c : Code} {D : va_G} {A : Nat → Prop} {E : State → Prop} (X : zCx p s m args meth c D A E cX5_copy 7 RX5 (Option.some FieldType.int)) (res : Int32 × zT) : ∀ (n : Nat), ∀ (h : zT) (a0 : Nat) (i1 : Int32) (i2 : Int32) (i3 : Int32) (i4 : Int32) (i5 : Int32) (i6 : Int32) (H : Heap) (locs : List Loc) (ls : Array Slot), f_X5_copy_113 n h a0 i1 i2 i3 i4 i5 i6 = some res → zWh D A s H h locs → lv_has ls 7 [(0, .ref a0), (1, .int i1), (2, .int i2), (3, .int i3), (4, .int i4), (5, .int i5), (6, .int i6)] → W p l e rm_X5_copy s m args below meth c H locs 0 0 (MQ below (zQW D A (some (.int res.1)) res.2) args s 0 0 A) (F0 m 113 ls []) := by
  have hx := X.1.1
  have hb := X.1.2.1
  have hown := X.1.2.2.2.1
  have hts := X.1.2.2.2.2
  intro n
  induction n with
  | zero =>
    intro h a0 i1 i2 i3 i4 i5 i6 H locs ls hf hw hl
    cases hf
  | succ n ih =>
    intro h a0 i1 i2 i3 i4 i5 i6 H locs ls hf hw hl
    unfold f_X5_copy_113 at hf
    refine lv_iload hx hb dX5_copy_113 (lv_at hl 6 rfl) ?_
    refine lv_iload hx hb dX5_copy_115 (lv_at hl 5 rfl) ?_
    refine zw_icmp_ge (tgt := 147) hx hb hf dX5_copy_117 (by decide) (fun hf => ?_) (fun hf => ?_)
    · refine lv_iconst (v := (0 : Int32)) hx hb dX5_copy_147 (by decide) ?_
      refine lv_istore (lv' := [(6, .int (0 : Int32)), (0, .ref a0), (1, .int i1), (2, .int i2), (3, .int i3), (4, .int i4), (5, .int i5)]) hx hb dX5_copy_148 hl (by decide) rfl (fun ls hl => ?_)
      exact k_X5_copy_150 X _ 4096 h a0 i3 i4 i5 (0 : Int32) _ _ _ hf hw (lv_sub hl [1, 4, 5, 6, 0] rfl)
    · refine lv_aload_n hx hb dX5_copy_120 rfl (lv_at hl 0 rfl) ?_
      refine zw_getR X hw fs_X5_28 q1298 rfl hf dX5_copy_121 (fun v1 hf => ?_)
      refine lv_iload hx hb dX5_copy_124 (lv_at hl 6 rfl) ?_
      refine lv_aload_n hx hb dX5_copy_126 rfl (lv_at hl 0 rfl) ?_
      refine zw_getR X hw fs_X5_6 q1276 rfl hf dX5_copy_127 (fun v2 hf => ?_)
      refine lv_bipush (v := (24 : Int32)) hx hb dX5_copy_130 (by decide) ?_
      refine lv_iload_n hx hb dX5_copy_132 rfl (lv_at hl 1 rfl) ?_
      refine lv_imul hx hb dX5_copy_133 ?_
      refine lv_iload_n hx hb dX5_copy_134 rfl (lv_at hl 2 rfl) ?_
      refine lv_iadd hx hb dX5_copy_135 ?_
      refine lv_iload hx hb dX5_copy_136 (lv_at hl 6 rfl) ?_
      refine lv_iadd hx hb dX5_copy_138 ?_
      refine zw_ialoadR X hw hf dX5_copy_139 (fun v3 hf => ?_)
      refine zw_iastore X hw hf dX5_copy_140 (fun h4 H locs hf hw => ?_)
      refine zw_nmS hf (fun v5 ev5 hf => ?_)
      refine lv_iinc (k := 6) (v := v5) (lv' := [(6, .int v5), (0, .ref a0), (1, .int i1), (2, .int i2), (3, .int i3), (4, .int i4), (5, .int i5)]) hx hb dX5_copy_141 hl rfl (by rw [ev5]; rfl) (by decide) rfl (fun ls hl => ?_)
      refine lv_goto (tgt := 113) hx hb dX5_copy_144 (by decide) ?_
      exact ih h4 a0 i1 i2 i3 i4 i5 v5 _ _ _ hf hw (lv_sub hl [1, 2, 3, 4, 5, 6, 0] rfl)
set_option maxHeartbeats 4000000 in
theorem mt_X5_copy (l : Launch) (D : va_G) (A : Nat → Prop) (E : State → Prop) (hE : zEok A E) (h : zT) (a0 : Nat) (i1 : Int32) (i2 : Int32) (i3 : Int32) (i4 : Int32) (i5 : Int32) (res : Int32 × zT) (hf : f_X5_copy h a0 i1 i2 i3 i4 i5 = some res) : Met l yX5_copy (ws_ yX5_copy cX5_copy 7 (Option.some FieldType.int)) rm_X5_copy (zPW D A E h [.ref a0, .int i1, .int i2, .int i3, .int i4, .int i5]) (zQW D A (some (.int res.1)) res.2) 0 0 A := by
  refine zmt hE (by decide) (Nat.le_of_ble_eq_true rfl) ?_
  intro p e s m below meth c ls hmn X hw hl
  have hl : lv_has ls 7 [(0, .ref a0), (1, .int i1), (2, .int i2), (3, .int i3), (4, .int i4), (5, .int i5)] := hl
  have hx := X.1.1
  have hb := X.1.2.1
  have hown := X.1.2.2.2.1
  have hts := X.1.2.2.2.2
  unfold f_X5_copy at hf
  refine lv_iload_n hx hb dX5_copy_0 rfl (lv_at hl 1 rfl) ?_
  refine zw_cSZ (rest := []) [.int i1] X hw hl.1 hf (fun r hr => mt_X5_isSheet l D A E X.2.2.2.2.2.1 h i1 r hr) (lw_S q1710 q1711 q89 q1712) cd_X5_isSheet ⟨rfl, rfl⟩ ⟨Nat.le_of_ble_eq_true rfl, Nat.le_of_ble_eq_true rfl⟩ rfl rfl (Nat.le_of_ble_eq_true rfl) dX5_copy_1 ⟨Nat.le_of_ble_eq_true rfl, Nat.le_of_ble_eq_true rfl⟩ (fun r1 H locs hf hw => ?_)
  refine zw_if_eq (tgt := 14) hx hb hf dX5_copy_4 (by decide) (fun hf => ?_) (fun hf => ?_)
  · refine lv_ldc (v := (-1000000001 : Int32)) hx hb hown (hts _ q1377) dX5_copy_14 ?_
    exact zw_iret X hw hf (Nat.le_of_ble_eq_true rfl) (Nat.le_of_ble_eq_true rfl) dX5_copy_16
  · refine lv_iload_n hx hb dX5_copy_7 rfl (lv_at hl 3 rfl) ?_
    refine zw_cSZ (rest := []) [.int i3] X hw hl.1 hf (fun r hr => mt_X5_isSheet l D A E X.2.2.2.2.2.1 r1.2 i3 r hr) (lw_S q1710 q1711 q89 q1712) cd_X5_isSheet ⟨rfl, rfl⟩ ⟨Nat.le_of_ble_eq_true rfl, Nat.le_of_ble_eq_true rfl⟩ rfl rfl (Nat.le_of_ble_eq_true rfl) dX5_copy_8 ⟨Nat.le_of_ble_eq_true rfl, Nat.le_of_ble_eq_true rfl⟩ (fun r2 H locs hf hw => ?_)
    refine zw_if_ne (tgt := 17) hx hb hf dX5_copy_11 (by decide) (fun hf => ?_) (fun hf => ?_)
    · refine lv_aload_n hx hb dX5_copy_17 rfl (lv_at hl 0 rfl) ?_
      refine zw_getR X hw fs_X5_4 q1274 rfl hf dX5_copy_18 (fun v3 hf => ?_)
      refine lv_iload_n hx hb dX5_copy_21 rfl (lv_at hl 1 rfl) ?_
      refine zw_ialoadR X hw hf dX5_copy_22 (fun v4 hf => ?_)
      refine zw_if_lt (tgt := 35) hx hb hf dX5_copy_23 (by decide) (fun hf => ?_) (fun hf => ?_)
      · refine lv_ldcw (v := (-1000000011 : Int32)) hx hb hown (hts _ q1719) dX5_copy_35 ?_
        exact zw_iret X hw hf (Nat.le_of_ble_eq_true rfl) (Nat.le_of_ble_eq_true rfl) dX5_copy_38
      · refine lv_aload_n hx hb dX5_copy_26 rfl (lv_at hl 0 rfl) ?_
        refine zw_getR X hw fs_X5_4 q1274 rfl hf dX5_copy_27 (fun v5 hf => ?_)
        refine lv_iload_n hx hb dX5_copy_30 rfl (lv_at hl 3 rfl) ?_
        refine zw_ialoadR X hw hf dX5_copy_31 (fun v6 hf => ?_)
        refine zw_if_ge (tgt := 39) hx hb hf dX5_copy_32 (by decide) (fun hf => ?_) (fun hf => ?_)
        · refine lv_aload_n hx hb dX5_copy_39 rfl (lv_at hl 0 rfl) ?_
          refine zw_getR X hw fs_X5_4 q1274 rfl hf dX5_copy_40 (fun v7 hf => ?_)
          refine lv_iload_n hx hb dX5_copy_43 rfl (lv_at hl 1 rfl) ?_
          refine zw_ialoadR X hw hf dX5_copy_44 (fun v8 hf => ?_)
          refine lv_aload_n hx hb dX5_copy_45 rfl (lv_at hl 0 rfl) ?_
          refine zw_getR X hw fs_X5_4 q1274 rfl hf dX5_copy_46 (fun v9 hf => ?_)
          refine lv_iload_n hx hb dX5_copy_49 rfl (lv_at hl 3 rfl) ?_
          refine zw_ialoadR X hw hf dX5_copy_50 (fun v10 hf => ?_)
          refine zw_icmp_eq (tgt := 57) hx hb hf dX5_copy_51 (by decide) (fun hf => ?_) (fun hf => ?_)
          · refine lv_iload_n hx hb dX5_copy_57 rfl (lv_at hl 2 rfl) ?_
            refine zw_if_lt (tgt := 106) hx hb hf dX5_copy_58 (by decide) (fun hf => ?_) (fun hf => ?_)
            · refine lv_ldcw (v := (-1000000013 : Int32)) hx hb hown (hts _ q1720) dX5_copy_106 ?_
              exact zw_iret X hw hf (Nat.le_of_ble_eq_true rfl) (Nat.le_of_ble_eq_true rfl) dX5_copy_109
            · refine lv_iload hx hb dX5_copy_61 (lv_at hl 4 rfl) ?_
              refine zw_if_lt (tgt := 106) hx hb hf dX5_copy_63 (by decide) (fun hf => ?_) (fun hf => ?_)
              · refine lv_ldcw (v := (-1000000013 : Int32)) hx hb hown (hts _ q1720) dX5_copy_106 ?_
                exact zw_iret X hw hf (Nat.le_of_ble_eq_true rfl) (Nat.le_of_ble_eq_true rfl) dX5_copy_109
              · refine lv_iload hx hb dX5_copy_66 (lv_at hl 5 rfl) ?_
                refine zw_if_lt (tgt := 106) hx hb hf dX5_copy_68 (by decide) (fun hf => ?_) (fun hf => ?_)
                · refine lv_ldcw (v := (-1000000013 : Int32)) hx hb hown (hts _ q1720) dX5_copy_106 ?_
                  exact zw_iret X hw hf (Nat.le_of_ble_eq_true rfl) (Nat.le_of_ble_eq_true rfl) dX5_copy_109
                · refine lv_iload_n hx hb dX5_copy_71 rfl (lv_at hl 2 rfl) ?_
                  refine lv_i2l hx hb dX5_copy_72 rfl ?_
                  refine lv_iload hx hb dX5_copy_73 (lv_at hl 5 rfl) ?_
                  refine lv_i2l hx hb dX5_copy_75 rfl ?_
                  refine lv_ladd hx hb dX5_copy_76 ?_
                  refine lv_aload_n hx hb dX5_copy_77 rfl (lv_at hl 0 rfl) ?_
                  refine zw_getR X hw fs_X5_5 q1275 rfl hf dX5_copy_78 (fun v11 hf => ?_)
                  refine lv_iload_n hx hb dX5_copy_81 rfl (lv_at hl 1 rfl) ?_
                  refine zw_ialoadR X hw hf dX5_copy_82 (fun v12 hf => ?_)
                  refine lv_i2l hx hb dX5_copy_83 rfl ?_
                  refine W.lcmp hx hb dX5_copy_84 ?_
                  refine zw_if_gt (tgt := 106) hx hb hf dX5_copy_85 (by decide) (fun hf => ?_) (fun hf => ?_)
                  · refine lv_ldcw (v := (-1000000013 : Int32)) hx hb hown (hts _ q1720) dX5_copy_106 ?_
                    exact zw_iret X hw hf (Nat.le_of_ble_eq_true rfl) (Nat.le_of_ble_eq_true rfl) dX5_copy_109
                  · refine lv_iload hx hb dX5_copy_88 (lv_at hl 4 rfl) ?_
                    refine lv_i2l hx hb dX5_copy_90 rfl ?_
                    refine lv_iload hx hb dX5_copy_91 (lv_at hl 5 rfl) ?_
                    refine lv_i2l hx hb dX5_copy_93 rfl ?_
                    refine lv_ladd hx hb dX5_copy_94 ?_
                    refine lv_aload_n hx hb dX5_copy_95 rfl (lv_at hl 0 rfl) ?_
                    refine zw_getR X hw fs_X5_5 q1275 rfl hf dX5_copy_96 (fun v13 hf => ?_)
                    refine lv_iload_n hx hb dX5_copy_99 rfl (lv_at hl 3 rfl) ?_
                    refine zw_ialoadR X hw hf dX5_copy_100 (fun v14 hf => ?_)
                    refine lv_i2l hx hb dX5_copy_101 rfl ?_
                    refine W.lcmp hx hb dX5_copy_102 ?_
                    refine zw_if_le (tgt := 110) hx hb hf dX5_copy_103 (by decide) (fun hf => ?_) (fun hf => ?_)
                    · refine lv_iconst (v := (0 : Int32)) hx hb dX5_copy_110 (by decide) ?_
                      refine lv_istore (lv' := [(6, .int (0 : Int32)), (0, .ref a0), (1, .int i1), (2, .int i2), (3, .int i3), (4, .int i4), (5, .int i5)]) hx hb dX5_copy_111 hl (by decide) rfl (fun ls hl => ?_)
                      exact k_X5_copy_113 X _ 4096 r2.2 a0 i1 i2 i3 i4 i5 (0 : Int32) _ _ _ hf hw (lv_sub hl [1, 2, 3, 4, 5, 6, 0] rfl)
                    · refine lv_ldcw (v := (-1000000013 : Int32)) hx hb hown (hts _ q1720) dX5_copy_106 ?_
                      exact zw_iret X hw hf (Nat.le_of_ble_eq_true rfl) (Nat.le_of_ble_eq_true rfl) dX5_copy_109
          · refine lv_ldc (v := (-1000000012 : Int32)) hx hb hown (hts _ q1456) dX5_copy_54 ?_
            exact zw_iret X hw hf (Nat.le_of_ble_eq_true rfl) (Nat.le_of_ble_eq_true rfl) dX5_copy_56
        · refine lv_ldcw (v := (-1000000011 : Int32)) hx hb hown (hts _ q1719) dX5_copy_35 ?_
          exact zw_iret X hw hf (Nat.le_of_ble_eq_true rfl) (Nat.le_of_ble_eq_true rfl) dX5_copy_38
    · refine lv_ldc (v := (-1000000001 : Int32)) hx hb hown (hts _ q1377) dX5_copy_14 ?_
      exact zw_iret X hw hf (Nat.le_of_ble_eq_true rfl) (Nat.le_of_ble_eq_true rfl) dX5_copy_16
set_option maxHeartbeats 4000000 in
theorem mt_X5_isSlot (l : Launch) (D : va_G) (A : Nat → Prop) (E : State → Prop) (hE : zEok A E) (h : zT) (i0 : Int32) (res : Int32 × zT) (hf : f_X5_isSlot h i0 = some res) : Met l yX5_isSlot (ws_ yX5_isSlot cX5_isSlot 1 (Option.some FieldType.boolean)) rm_X5_isSlot (zPW D A E h [.int i0]) (zQW D A (some (.int res.1)) res.2) 0 0 A := by
  refine zmt hE (by decide) (Nat.le_of_ble_eq_true rfl) ?_
  intro p e s m below meth c ls hmn X hw hl
  have hl : lv_has ls 1 [(0, .int i0)] := hl
  have hx := X.1.1
  have hb := X.1.2.1
  have hown := X.1.2.2.2.1
  have hts := X.1.2.2.2.2
  unfold f_X5_isSlot at hf
  refine lv_iload_n hx hb dX5_isSlot_0 rfl (lv_at hl 0 rfl) ?_
  refine lv_i2l hx hb dX5_isSlot_1 rfl ?_
  refine lv_lconst (v := (0 : Int64)) hx hb dX5_isSlot_2 (by decide) ?_
  refine lv_ldc2 (v := (4 : Int64)) hx hb hown (hts _ q1749) dX5_isSlot_3 ?_
  refine zw_cSZ (rest := []) [.long i0.toInt64, .long (0 : Int64), .long (4 : Int64)] X hw hl.1 hf (fun r hr => mt_X5_isIn l D A E X.2.2.2.2.2.1 h i0.toInt64 (0 : Int64) (4 : Int64) r hr) (lw_S q1372 q1373 q89 q1374) cd_X5_isIn ⟨rfl, rfl⟩ ⟨Nat.le_of_ble_eq_true rfl, Nat.le_of_ble_eq_true rfl⟩ rfl rfl (Nat.le_of_ble_eq_true rfl) dX5_isSlot_6 ⟨Nat.le_of_ble_eq_true rfl, Nat.le_of_ble_eq_true rfl⟩ (fun r1 H locs hf hw => ?_)
  exact zw_zret X hw hf (Nat.le_of_ble_eq_true rfl) (Nat.le_of_ble_eq_true rfl) dX5_isSlot_9
set_option maxHeartbeats 4000000 in
theorem k_X5_lay_150 {p : Program} {l : Launch} {e : Env} {s : State} {m : MethodId} {args : Array Value} {below : List Frame} {meth : Method} {c : Code} {D : va_G} {A : Nat → Prop} {E : State → Prop} (X : zCx p s m args meth c D A E cX5_lay 7 RX5 (Option.some FieldType.int)) (res : Int32 × zT) : ∀ (n : Nat), ∀ (h : zT) (a0 : Nat) (i1 : Int32) (i3 : Int32) (i5 : Int32) (i6 : Int32) (H : Heap) (locs : List Loc) (ls : Array Slot), f_X5_lay_150 n h a0 i1 i3 i5 i6 = some res → zWh D A s H h locs → lv_has ls 7 [(0, .ref a0), (1, .int i1), (3, .int i3), (5, .int i5), (6, .int i6)] → W p l e rm_X5_lay s m args below meth c H locs 0 0 (MQ below (zQW D A (some (.int res.1)) res.2) args s 0 0 A) (F0 m 150 ls []) := by
  have hx := X.1.1
  have hb := X.1.2.1
  have hown := X.1.2.2.2.1
  have hts := X.1.2.2.2.2
  intro n
  induction n with
  | zero =>
    intro h a0 i1 i3 i5 i6 H locs ls hf hw hl
    cases hf
  | succ n ih =>
    intro h a0 i1 i3 i5 i6 H locs ls hf hw hl
    unfold f_X5_lay_150 at hf
    refine lv_iload hx hb dX5_lay_150 (lv_at hl 4 rfl) ?_
    refine lv_bipush (v := (24 : Int32)) hx hb dX5_lay_152 (by decide) ?_
    refine zw_icmp_ge (tgt := 187) hx hb hf dX5_lay_154 (by decide) (fun hf => ?_) (fun hf => ?_)
    · refine lv_iload hx hb dX5_lay_187 (lv_at hl 3 rfl) ?_
      exact zw_iret X hw hf (Nat.le_of_ble_eq_true rfl) (Nat.le_of_ble_eq_true rfl) dX5_lay_189
    · refine lv_aload_n hx hb dX5_lay_157 rfl (lv_at hl 0 rfl) ?_
      refine zw_getR X hw fs_X5_11 q1281 rfl hf dX5_lay_158 (fun v1 hf => ?_)
      refine lv_bipush (v := (24 : Int32)) hx hb dX5_lay_161 (by decide) ?_
      refine lv_iload_n hx hb dX5_lay_163 rfl (lv_at hl 1 rfl) ?_
      refine lv_imul hx hb dX5_lay_164 ?_
      refine lv_iload hx hb dX5_lay_165 (lv_at hl 4 rfl) ?_
      refine lv_iadd hx hb dX5_lay_167 ?_
      refine lv_aload_n hx hb dX5_lay_168 rfl (lv_at hl 0 rfl) ?_
      refine zw_getR X hw fs_X5_6 q1276 rfl hf dX5_lay_169 (fun v2 hf => ?_)
      refine lv_bipush (v := (24 : Int32)) hx hb dX5_lay_172 (by decide) ?_
      refine lv_iload_n hx hb dX5_lay_174 rfl (lv_at hl 2 rfl) ?_
      refine lv_imul hx hb dX5_lay_175 ?_
      refine lv_iload hx hb dX5_lay_176 (lv_at hl 4 rfl) ?_
      refine lv_iadd hx hb dX5_lay_178 ?_
      refine zw_ialoadR X hw hf dX5_lay_179 (fun v3 hf => ?_)
      refine zw_iastore X hw hf dX5_lay_180 (fun h4 H locs hf hw => ?_)
      refine zw_nmS hf (fun v5 ev5 hf => ?_)
      refine lv_iinc (k := 4) (v := v5) (lv' := [(6, .int v5), (0, .ref a0), (1, .int i1), (3, .int i3), (5, .int i5)]) hx hb dX5_lay_181 hl rfl (by rw [ev5]; rfl) (by decide) rfl (fun ls hl => ?_)
      refine lv_goto (tgt := 150) hx hb dX5_lay_184 (by decide) ?_
      exact ih h4 a0 i1 i3 i5 v5 _ _ _ hf hw (lv_sub hl [1, 2, 3, 4, 0] rfl)
set_option maxHeartbeats 4000000 in
theorem k_X5_lay_129 {p : Program} {l : Launch} {e : Env} {s : State} {m : MethodId} {args : Array Value} {below : List Frame} {meth : Method} {c : Code} {D : va_G} {A : Nat → Prop} {E : State → Prop} (X : zCx p s m args meth c D A E cX5_lay 7 RX5 (Option.some FieldType.int)) (res : Int32 × zT) : ∀ (h : zT) (a0 : Nat) (i1 : Int32) (i2 : Int32) (i3 : Int32) (i5 : Int32) (s0 : Int32) (s1 : Int32) (s2 : Nat) (H : Heap) (locs : List Loc) (ls : Array Slot), f_X5_lay_129 h a0 i1 i2 i3 i5 s0 s1 s2 = some res → zWh D A s H h locs → lv_has ls 7 [(0, .ref a0), (1, .int i1), (2, .int i2), (3, .int i3), (5, .int i5)] → W p l e rm_X5_lay s m args below meth c H locs 0 0 (MQ below (zQW D A (some (.int res.1)) res.2) args s 0 0 A) (F0 m 129 ls [.int s0, .int s1, .ref s2]) := by
  have hx := X.1.1
  have hb := X.1.2.1
  have hown := X.1.2.2.2.1
  have hts := X.1.2.2.2.2
  intro h a0 i1 i2 i3 i5 s0 s1 s2 H locs ls hf hw hl
  unfold f_X5_lay_129 at hf
  refine zw_iastore X hw hf dX5_lay_129 (fun h1 H locs hf hw => ?_)
  refine lv_iload_n hx hb dX5_lay_130 rfl (lv_at hl 2 rfl) ?_
  refine lv_iconst (v := (2 : Int32)) hx hb dX5_lay_131 (by decide) ?_
  refine zw_icmp_ne (tgt := 187) hx hb hf dX5_lay_132 (by decide) (fun hf => ?_) (fun hf => ?_)
  · refine lv_iload hx hb dX5_lay_187 (lv_at hl 4 rfl) ?_
    exact zw_iret X hw hf (Nat.le_of_ble_eq_true rfl) (Nat.le_of_ble_eq_true rfl) dX5_lay_189
  · refine lv_aload_n hx hb dX5_lay_135 rfl (lv_at hl 0 rfl) ?_
    refine zw_getR X hw fs_X5_10 q1280 rfl hf dX5_lay_136 (fun v2 hf => ?_)
    refine lv_iload_n hx hb dX5_lay_139 rfl (lv_at hl 1 rfl) ?_
    refine lv_aload_n hx hb dX5_lay_140 rfl (lv_at hl 0 rfl) ?_
    refine zw_getR X hw fs_X5_5 q1275 rfl hf dX5_lay_141 (fun v3 hf => ?_)
    refine lv_iload_n hx hb dX5_lay_144 rfl (lv_at hl 3 rfl) ?_
    refine zw_ialoadR X hw hf dX5_lay_145 (fun v4 hf => ?_)
    refine zw_iastore X hw hf dX5_lay_146 (fun h5 H locs hf hw => ?_)
    refine lv_iconst (v := (0 : Int32)) hx hb dX5_lay_147 (by decide) ?_
    refine lv_istore (lv' := [(6, .int (0 : Int32)), (0, .ref a0), (1, .int i1), (2, .int i2), (3, .int i3), (5, .int i5)]) hx hb dX5_lay_148 hl (by decide) rfl (fun ls hl => ?_)
    exact k_X5_lay_150 X _ 4096 h5 a0 i1 i3 i5 (0 : Int32) _ _ _ hf hw (lv_sub hl [1, 2, 4, 5, 0] rfl)
set_option maxHeartbeats 4000000 in
theorem k_X5_lay_109 {p : Program} {l : Launch} {e : Env} {s : State} {m : MethodId} {args : Array Value} {below : List Frame} {meth : Method} {c : Code} {D : va_G} {A : Nat → Prop} {E : State → Prop} (X : zCx p s m args meth c D A E cX5_lay 7 RX5 (Option.some FieldType.int)) (res : Int32 × zT) : ∀ (h : zT) (a0 : Nat) (i1 : Int32) (i2 : Int32) (i3 : Int32) (i5 : Int32) (s0 : Int32) (s1 : Int32) (s2 : Nat) (H : Heap) (locs : List Loc) (ls : Array Slot), f_X5_lay_109 h a0 i1 i2 i3 i5 s0 s1 s2 = some res → zWh D A s H h locs → lv_has ls 7 [(0, .ref a0), (1, .int i1), (2, .int i2), (3, .int i3), (5, .int i5)] → W p l e rm_X5_lay s m args below meth c H locs 0 0 (MQ below (zQW D A (some (.int res.1)) res.2) args s 0 0 A) (F0 m 109 ls [.int s0, .int s1, .ref s2]) := by
  have hx := X.1.1
  have hb := X.1.2.1
  have hown := X.1.2.2.2.1
  have hts := X.1.2.2.2.2
  intro h a0 i1 i2 i3 i5 s0 s1 s2 H locs ls hf hw hl
  unfold f_X5_lay_109 at hf
  refine zw_iastore X hw hf dX5_lay_109 (fun h1 H locs hf hw => ?_)
  refine lv_aload_n hx hb dX5_lay_110 rfl (lv_at hl 0 rfl) ?_
  refine zw_getR X hw fs_X5_9 q1279 rfl hf dX5_lay_111 (fun v2 hf => ?_)
  refine lv_iload_n hx hb dX5_lay_114 rfl (lv_at hl 1 rfl) ?_
  refine lv_iload_n hx hb dX5_lay_115 rfl (lv_at hl 2 rfl) ?_
  refine lv_iconst (v := (1 : Int32)) hx hb dX5_lay_116 (by decide) ?_
  refine zw_icmp_ne (tgt := 128) hx hb hf dX5_lay_117 (by decide) (fun hf => ?_) (fun hf => ?_)
  · refine lv_iconst (v := (0 : Int32)) hx hb dX5_lay_128 (by decide) ?_
    exact k_X5_lay_129 X _ h1 a0 i1 i2 i3 i5 (0 : Int32) i1 v2 _ _ _ hf hw (lv_sub hl [0, 1, 2, 3, 4] rfl)
  · refine lv_aload_n hx hb dX5_lay_120 rfl (lv_at hl 0 rfl) ?_
    refine lv_iload_n hx hb dX5_lay_121 rfl (lv_at hl 3 rfl) ?_
    refine zw_cVI (rest := [.int i1, .ref v2]) [.int i3] X hw hl.1 hf rfl rfl (fun r hr => mt_X5_worth l D A E X.2.2.2.2.2.1 h1 a0 i3 r hr) (lw_V q1434 q1436 qs47 q89 q1437) cd_X5_worth ⟨rfl, rfl⟩ ⟨Nat.le_of_ble_eq_true rfl, Nat.le_of_ble_eq_true rfl⟩ rfl rfl (Nat.le_of_ble_eq_true rfl) dX5_lay_122 ⟨Nat.le_of_ble_eq_true rfl, Nat.le_of_ble_eq_true rfl⟩ (fun r3 H locs hf hw => ?_)
    refine lv_goto (tgt := 129) hx hb dX5_lay_125 (by decide) ?_
    exact k_X5_lay_129 X _ r3.2 a0 i1 i2 i3 i5 r3.1 i1 v2 _ _ _ hf hw (lv_sub hl [0, 1, 2, 3, 4] rfl)
set_option maxHeartbeats 4000000 in
theorem k_X5_lay_74 {p : Program} {l : Launch} {e : Env} {s : State} {m : MethodId} {args : Array Value} {below : List Frame} {meth : Method} {c : Code} {D : va_G} {A : Nat → Prop} {E : State → Prop} (X : zCx p s m args meth c D A E cX5_lay 7 RX5 (Option.some FieldType.int)) (res : Int32 × zT) : ∀ (h : zT) (a0 : Nat) (i1 : Int32) (i2 : Int32) (i3 : Int32) (H : Heap) (locs : List Loc) (ls : Array Slot), f_X5_lay_74 h a0 i1 i2 i3 = some res → zWh D A s H h locs → lv_has ls 7 [(0, .ref a0), (1, .int i1), (2, .int i2), (3, .int i3)] → W p l e rm_X5_lay s m args below meth c H locs 0 0 (MQ below (zQW D A (some (.int res.1)) res.2) args s 0 0 A) (F0 m 74 ls []) := by
  have hx := X.1.1
  have hb := X.1.2.1
  have hown := X.1.2.2.2.1
  have hts := X.1.2.2.2.2
  intro h a0 i1 i2 i3 H locs ls hf hw hl
  unfold f_X5_lay_74 at hf
  refine lv_aload_n hx hb dX5_lay_74 rfl (lv_at hl 0 rfl) ?_
  refine zw_getR X hw fs_X5_7 q1277 rfl hf dX5_lay_75 (fun v1 hf => ?_)
  refine lv_iload_n hx hb dX5_lay_78 rfl (lv_at hl 1 rfl) ?_
  refine zw_ialoadR X hw hf dX5_lay_79 (fun v2 hf => ?_)
  refine lv_istore (lv' := [(5, .int v2), (0, .ref a0), (1, .int i1), (2, .int i2), (3, .int i3)]) hx hb dX5_lay_80 hl (by decide) rfl (fun ls hl => ?_)
  refine lv_aload_n hx hb dX5_lay_82 rfl (lv_at hl 1 rfl) ?_
  refine zw_getR X hw fs_X5_7 q1277 rfl hf dX5_lay_83 (fun v3 hf => ?_)
  refine lv_iload_n hx hb dX5_lay_86 rfl (lv_at hl 2 rfl) ?_
  refine lv_iload_n hx hb dX5_lay_87 rfl (lv_at hl 3 rfl) ?_
  refine zw_iastore X hw hf dX5_lay_88 (fun h4 H locs hf hw => ?_)
  refine lv_aload_n hx hb dX5_lay_89 rfl (lv_at hl 1 rfl) ?_
  refine zw_getR X hw fs_X5_8 q1278 rfl hf dX5_lay_90 (fun v5 hf => ?_)
  refine lv_iload_n hx hb dX5_lay_93 rfl (lv_at hl 2 rfl) ?_
  refine lv_iload_n hx hb dX5_lay_94 rfl (lv_at hl 3 rfl) ?_
  refine lv_iconst (v := (1 : Int32)) hx hb dX5_lay_95 (by decide) ?_
  refine zw_icmp_ne (tgt := 108) hx hb hf dX5_lay_96 (by decide) (fun hf => ?_) (fun hf => ?_)
  · refine lv_iload_n hx hb dX5_lay_108 rfl (lv_at hl 4 rfl) ?_
    exact k_X5_lay_109 X _ h4 a0 i1 i2 i3 v2 i3 i1 v5 _ _ _ hf hw (lv_sub hl [1, 2, 3, 4, 0] rfl)
  · refine lv_aload_n hx hb dX5_lay_99 rfl (lv_at hl 1 rfl) ?_
    refine lv_iload_n hx hb dX5_lay_100 rfl (lv_at hl 4 rfl) ?_
    refine lv_iconst (v := (0 : Int32)) hx hb dX5_lay_101 (by decide) ?_
    refine zw_cVI (rest := [.int i1, .ref v5]) [.int i3, .int (0 : Int32)] X hw hl.1 hf rfl rfl (fun r hr => mt_X5_of l D A E X.2.2.2.2.2.1 h4 a0 i3 (0 : Int32) r hr) (lw_V q1395 q1397 qs39 q89 q1398) cd_X5_of ⟨rfl, rfl⟩ ⟨Nat.le_of_ble_eq_true rfl, Nat.le_of_ble_eq_true rfl⟩ rfl rfl (Nat.le_of_ble_eq_true rfl) dX5_lay_102 ⟨Nat.le_of_ble_eq_true rfl, Nat.le_of_ble_eq_true rfl⟩ (fun r6 H locs hf hw => ?_)
    refine lv_goto (tgt := 109) hx hb dX5_lay_105 (by decide) ?_
    exact k_X5_lay_109 X _ r6.2 a0 i1 i2 i3 v2 r6.1 i1 v5 _ _ _ hf hw (lv_sub hl [1, 2, 3, 4, 0] rfl)
set_option maxHeartbeats 4000000 in
theorem k_X5_lay_39 {p : Program} {l : Launch} {e : Env} {s : State} {m : MethodId} {args : Array Value} {below : List Frame} {meth : Method} {c : Code} {D : va_G} {A : Nat → Prop} {E : State → Prop} (X : zCx p s m args meth c D A E cX5_lay 7 RX5 (Option.some FieldType.int)) (res : Int32 × zT) : ∀ (h : zT) (a0 : Nat) (i1 : Int32) (i2 : Int32) (i3 : Int32) (s0 : Int32) (H : Heap) (locs : List Loc) (ls : Array Slot), f_X5_lay_39 h a0 i1 i2 i3 s0 = some res → zWh D A s H h locs → lv_has ls 7 [(0, .ref a0), (1, .int i1), (2, .int i2), (3, .int i3)] → W p l e rm_X5_lay s m args below meth c H locs 0 0 (MQ below (zQW D A (some (.int res.1)) res.2) args s 0 0 A) (F0 m 39 ls [.int s0]) := by
  have hx := X.1.1
  have hb := X.1.2.1
  have hown := X.1.2.2.2.1
  have hts := X.1.2.2.2.2
  intro h a0 i1 i2 i3 s0 H locs ls hf hw hl
  unfold f_X5_lay_39 at hf
  refine lv_istore (lv' := [(4, .int s0), (0, .ref a0), (1, .int i1), (2, .int i2), (3, .int i3)]) hx hb dX5_lay_39 hl (by decide) rfl (fun ls hl => ?_)
  refine lv_iload_n hx hb dX5_lay_41 rfl (lv_at hl 2 rfl) ?_
  refine zw_cSZ (rest := []) [.int i1] X hw hl.1 hf (fun r hr => mt_X5_isSlot l D A E X.2.2.2.2.2.1 h i1 r hr) (lw_S q1746 q1747 q89 q1748) cd_X5_isSlot ⟨rfl, rfl⟩ ⟨Nat.le_of_ble_eq_true rfl, Nat.le_of_ble_eq_true rfl⟩ rfl rfl (Nat.le_of_ble_eq_true rfl) dX5_lay_42 ⟨Nat.le_of_ble_eq_true rfl, Nat.le_of_ble_eq_true rfl⟩ (fun r1 H locs hf hw => ?_)
  refine zw_if_eq (tgt := 53) hx hb hf dX5_lay_45 (by decide) (fun hf => ?_) (fun hf => ?_)
  · refine lv_ldc (v := (-1000000001 : Int32)) hx hb hown (hts _ q1377) dX5_lay_53 ?_
    exact zw_iret X hw hf (Nat.le_of_ble_eq_true rfl) (Nat.le_of_ble_eq_true rfl) dX5_lay_55
  · refine lv_iload hx hb dX5_lay_48 (lv_at hl 0 rfl) ?_
    refine zw_if_ne (tgt := 56) hx hb hf dX5_lay_50 (by decide) (fun hf => ?_) (fun hf => ?_)
    · refine lv_iload_n hx hb dX5_lay_56 rfl (lv_at hl 3 rfl) ?_
      refine lv_iconst (v := (2 : Int32)) hx hb dX5_lay_57 (by decide) ?_
      refine zw_icmp_ne (tgt := 74) hx hb hf dX5_lay_58 (by decide) (fun hf => ?_) (fun hf => ?_)
      · exact k_X5_lay_74 X _ r1.2 a0 i1 i2 i3 _ _ _ hf hw (lv_sub hl [1, 2, 3, 4] rfl)
      · refine lv_aload_n hx hb dX5_lay_61 rfl (lv_at hl 1 rfl) ?_
        refine zw_getR X hw fs_X5_4 q1274 rfl hf dX5_lay_62 (fun v2 hf => ?_)
        refine lv_iload_n hx hb dX5_lay_65 rfl (lv_at hl 4 rfl) ?_
        refine zw_ialoadR X hw hf dX5_lay_66 (fun v3 hf => ?_)
        refine zw_if_ge (tgt := 74) hx hb hf dX5_lay_67 (by decide) (fun hf => ?_) (fun hf => ?_)
        · exact k_X5_lay_74 X _ r1.2 a0 i1 i2 i3 _ _ _ hf hw (lv_sub hl [1, 2, 3, 4] rfl)
        · refine lv_ldcw (v := (-1000000011 : Int32)) hx hb hown (hts _ q1719) dX5_lay_70 ?_
          exact zw_iret X hw hf (Nat.le_of_ble_eq_true rfl) (Nat.le_of_ble_eq_true rfl) dX5_lay_73
    · refine lv_ldc (v := (-1000000001 : Int32)) hx hb hown (hts _ q1377) dX5_lay_53 ?_
      exact zw_iret X hw hf (Nat.le_of_ble_eq_true rfl) (Nat.le_of_ble_eq_true rfl) dX5_lay_55
set_option maxHeartbeats 4000000 in
theorem k_X5_lay_22 {p : Program} {l : Launch} {e : Env} {s : State} {m : MethodId} {args : Array Value} {below : List Frame} {meth : Method} {c : Code} {D : va_G} {A : Nat → Prop} {E : State → Prop} (X : zCx p s m args meth c D A E cX5_lay 7 RX5 (Option.some FieldType.int)) (res : Int32 × zT) : ∀ (h : zT) (a0 : Nat) (i1 : Int32) (i2 : Int32) (i3 : Int32) (H : Heap) (locs : List Loc) (ls : Array Slot), f_X5_lay_22 h a0 i1 i2 i3 = some res → zWh D A s H h locs → lv_has ls 7 [(0, .ref a0), (1, .int i1), (2, .int i2), (3, .int i3)] → W p l e rm_X5_lay s m args below meth c H locs 0 0 (MQ below (zQW D A (some (.int res.1)) res.2) args s 0 0 A) (F0 m 22 ls []) := by
  have hx := X.1.1
  have hb := X.1.2.1
  have hown := X.1.2.2.2.1
  have hts := X.1.2.2.2.2
  intro h a0 i1 i2 i3 H locs ls hf hw hl
  unfold f_X5_lay_22 at hf
  refine lv_iload_n hx hb dX5_lay_22 rfl (lv_at hl 2 rfl) ?_
  refine lv_iconst (v := (2 : Int32)) hx hb dX5_lay_23 (by decide) ?_
  refine zw_icmp_ne (tgt := 38) hx hb hf dX5_lay_24 (by decide) (fun hf => ?_) (fun hf => ?_)
  · refine lv_iconst (v := (0 : Int32)) hx hb dX5_lay_38 (by decide) ?_
    exact k_X5_lay_39 X _ h a0 i1 i2 i3 (0 : Int32) _ _ _ hf hw (lv_sub hl [0, 1, 2, 3] rfl)
  · refine lv_iload_n hx hb dX5_lay_27 rfl (lv_at hl 3 rfl) ?_
    refine zw_cSZ (rest := []) [.int i3] X hw hl.1 hf (fun r hr => mt_X5_isSheet l D A E X.2.2.2.2.2.1 h i3 r hr) (lw_S q1710 q1711 q89 q1712) cd_X5_isSheet ⟨rfl, rfl⟩ ⟨Nat.le_of_ble_eq_true rfl, Nat.le_of_ble_eq_true rfl⟩ rfl rfl (Nat.le_of_ble_eq_true rfl) dX5_lay_28 ⟨Nat.le_of_ble_eq_true rfl, Nat.le_of_ble_eq_true rfl⟩ (fun r1 H locs hf hw => ?_)
    refine zw_if_eq (tgt := 38) hx hb hf dX5_lay_31 (by decide) (fun hf => ?_) (fun hf => ?_)
    · refine lv_iconst (v := (0 : Int32)) hx hb dX5_lay_38 (by decide) ?_
      exact k_X5_lay_39 X _ r1.2 a0 i1 i2 i3 (0 : Int32) _ _ _ hf hw (lv_sub hl [0, 1, 2, 3] rfl)
    · refine lv_iconst (v := (1 : Int32)) hx hb dX5_lay_34 (by decide) ?_
      refine lv_goto (tgt := 39) hx hb dX5_lay_35 (by decide) ?_
      exact k_X5_lay_39 X _ r1.2 a0 i1 i2 i3 (1 : Int32) _ _ _ hf hw (lv_sub hl [0, 1, 2, 3] rfl)
set_option maxHeartbeats 4000000 in
theorem mt_X5_lay (l : Launch) (D : va_G) (A : Nat → Prop) (E : State → Prop) (hE : zEok A E) (h : zT) (a0 : Nat) (i1 : Int32) (i2 : Int32) (i3 : Int32) (res : Int32 × zT) (hf : f_X5_lay h a0 i1 i2 i3 = some res) : Met l yX5_lay (ws_ yX5_lay cX5_lay 7 (Option.some FieldType.int)) rm_X5_lay (zPW D A E h [.ref a0, .int i1, .int i2, .int i3]) (zQW D A (some (.int res.1)) res.2) 0 0 A := by
  refine zmt hE (by decide) (Nat.le_of_ble_eq_true rfl) ?_
  intro p e s m below meth c ls hmn X hw hl
  have hl : lv_has ls 7 [(0, .ref a0), (1, .int i1), (2, .int i2), (3, .int i3)] := hl
  have hx := X.1.1
  have hb := X.1.2.1
  have hown := X.1.2.2.2.1
  have hts := X.1.2.2.2.2
  unfold f_X5_lay at hf
  refine lv_iload_n hx hb dX5_lay_0 rfl (lv_at hl 2 rfl) ?_
  refine zw_if_eq (tgt := 34) hx hb hf dX5_lay_1 (by decide) (fun hf => ?_) (fun hf => ?_)
  · refine lv_iconst (v := (1 : Int32)) hx hb dX5_lay_34 (by decide) ?_
    refine lv_goto (tgt := 39) hx hb dX5_lay_35 (by decide) ?_
    exact k_X5_lay_39 X _ h a0 i1 i2 i3 (1 : Int32) _ _ _ hf hw (lv_sub hl [0, 1, 2, 3] rfl)
  · refine lv_iload_n hx hb dX5_lay_4 rfl (lv_at hl 2 rfl) ?_
    refine lv_iconst (v := (3 : Int32)) hx hb dX5_lay_5 (by decide) ?_
    refine zw_icmp_eq (tgt := 34) hx hb hf dX5_lay_6 (by decide) (fun hf => ?_) (fun hf => ?_)
    · refine lv_iconst (v := (1 : Int32)) hx hb dX5_lay_34 (by decide) ?_
      refine lv_goto (tgt := 39) hx hb dX5_lay_35 (by decide) ?_
      exact k_X5_lay_39 X _ h a0 i1 i2 i3 (1 : Int32) _ _ _ hf hw (lv_sub hl [0, 1, 2, 3] rfl)
    · refine lv_iload_n hx hb dX5_lay_9 rfl (lv_at hl 2 rfl) ?_
      refine lv_iconst (v := (1 : Int32)) hx hb dX5_lay_10 (by decide) ?_
      refine zw_icmp_ne (tgt := 22) hx hb hf dX5_lay_11 (by decide) (fun hf => ?_) (fun hf => ?_)
      · exact k_X5_lay_22 X _ h a0 i1 i2 i3 _ _ _ hf hw (lv_sub hl [0, 1, 2, 3] rfl)
      · refine lv_aload_n hx hb dX5_lay_14 rfl (lv_at hl 0 rfl) ?_
        refine lv_iload_n hx hb dX5_lay_15 rfl (lv_at hl 3 rfl) ?_
        refine zw_cVZ (rest := []) [.int i3] X hw hl.1 hf rfl rfl (fun r hr => mt_X5_isRubbing l D A E X.2.2.2.2.2.1 h a0 i3 r hr) (lw_V q1391 q1393 qs38 q89 q1394) cd_X5_isRubbing ⟨rfl, rfl⟩ ⟨Nat.le_of_ble_eq_true rfl, Nat.le_of_ble_eq_true rfl⟩ rfl rfl (Nat.le_of_ble_eq_true rfl) dX5_lay_16 ⟨Nat.le_of_ble_eq_true rfl, Nat.le_of_ble_eq_true rfl⟩ (fun r1 H locs hf hw => ?_)
        refine zw_if_ne (tgt := 34) hx hb hf dX5_lay_19 (by decide) (fun hf => ?_) (fun hf => ?_)
        · refine lv_iconst (v := (1 : Int32)) hx hb dX5_lay_34 (by decide) ?_
          refine lv_goto (tgt := 39) hx hb dX5_lay_35 (by decide) ?_
          exact k_X5_lay_39 X _ r1.2 a0 i1 i2 i3 (1 : Int32) _ _ _ hf hw (lv_sub hl [0, 1, 2, 3] rfl)
        · exact k_X5_lay_22 X _ r1.2 a0 i1 i2 i3 _ _ _ hf hw (lv_sub hl [0, 1, 2, 3] rfl)
set_option maxHeartbeats 4000000 in
theorem mt_X5_ask (l : Launch) (D : va_G) (A : Nat → Prop) (E : State → Prop) (hE : zEok A E) (h : zT) (a0 : Nat) (i1 : Int32) (i2 : Int32) (res : Int32 × zT) (hf : f_X5_ask h a0 i1 i2 = some res) : Met l yX5_ask (ws_ yX5_ask cX5_ask 3 (Option.some FieldType.int)) rm_X5_ask (zPW D A E h [.ref a0, .int i1, .int i2]) (zQW D A (some (.int res.1)) res.2) 0 0 A := by
  refine zmt hE (by decide) (Nat.le_of_ble_eq_true rfl) ?_
  intro p e s m below meth c ls hmn X hw hl
  have hl : lv_has ls 3 [(0, .ref a0), (1, .int i1), (2, .int i2)] := hl
  have hx := X.1.1
  have hb := X.1.2.1
  have hown := X.1.2.2.2.1
  have hts := X.1.2.2.2.2
  unfold f_X5_ask at hf
  refine lv_iload_n hx hb dX5_ask_0 rfl (lv_at hl 1 rfl) ?_
  refine zw_cSZ (rest := []) [.int i1] X hw hl.1 hf (fun r hr => mt_X5_isSlot l D A E X.2.2.2.2.2.1 h i1 r hr) (lw_S q1746 q1747 q89 q1748) cd_X5_isSlot ⟨rfl, rfl⟩ ⟨Nat.le_of_ble_eq_true rfl, Nat.le_of_ble_eq_true rfl⟩ rfl rfl (Nat.le_of_ble_eq_true rfl) dX5_ask_1 ⟨Nat.le_of_ble_eq_true rfl, Nat.le_of_ble_eq_true rfl⟩ (fun r1 H locs hf hw => ?_)
  refine zw_if_eq (tgt := 19) hx hb hf dX5_ask_4 (by decide) (fun hf => ?_) (fun hf => ?_)
  · refine lv_ldc (v := (-1000000001 : Int32)) hx hb hown (hts _ q1377) dX5_ask_19 ?_
    exact zw_iret X hw hf (Nat.le_of_ble_eq_true rfl) (Nat.le_of_ble_eq_true rfl) dX5_ask_21
  · refine lv_iload_n hx hb dX5_ask_7 rfl (lv_at hl 2 rfl) ?_
    refine lv_i2l hx hb dX5_ask_8 rfl ?_
    refine lv_lconst (v := (0 : Int64)) hx hb dX5_ask_9 (by decide) ?_
    refine lv_ldc2 (v := (5 : Int64)) hx hb hown (hts _ q1371) dX5_ask_10 ?_
    refine zw_cSZ (rest := []) [.long i2.toInt64, .long (0 : Int64), .long (5 : Int64)] X hw hl.1 hf (fun r hr => mt_X5_isIn l D A E X.2.2.2.2.2.1 r1.2 i2.toInt64 (0 : Int64) (5 : Int64) r hr) (lw_S q1372 q1373 q89 q1374) cd_X5_isIn ⟨rfl, rfl⟩ ⟨Nat.le_of_ble_eq_true rfl, Nat.le_of_ble_eq_true rfl⟩ rfl rfl (Nat.le_of_ble_eq_true rfl) dX5_ask_13 ⟨Nat.le_of_ble_eq_true rfl, Nat.le_of_ble_eq_true rfl⟩ (fun r2 H locs hf hw => ?_)
    refine zw_if_ne (tgt := 22) hx hb hf dX5_ask_16 (by decide) (fun hf => ?_) (fun hf => ?_)
    · refine lv_aload_n hx hb dX5_ask_22 rfl (lv_at hl 0 rfl) ?_
      refine zw_getR X hw fs_X5_7 q1277 rfl hf dX5_ask_23 (fun v3 hf => ?_)
      refine lv_iload_n hx hb dX5_ask_26 rfl (lv_at hl 1 rfl) ?_
      refine zw_ialoadR X hw hf dX5_ask_27 (fun v4 hf => ?_)
      refine zw_if_ne (tgt := 35) hx hb hf dX5_ask_28 (by decide) (fun hf => ?_) (fun hf => ?_)
      · refine lv_aload_n hx hb dX5_ask_35 rfl (lv_at hl 0 rfl) ?_
        refine zw_getR X hw fs_X5_7 q1277 rfl hf dX5_ask_36 (fun v5 hf => ?_)
        refine lv_iload_n hx hb dX5_ask_39 rfl (lv_at hl 1 rfl) ?_
        refine zw_ialoadR X hw hf dX5_ask_40 (fun v6 hf => ?_)
        refine lv_iconst (v := (1 : Int32)) hx hb dX5_ask_41 (by decide) ?_
        refine zw_icmp_ne (tgt := 67) hx hb hf dX5_ask_42 (by decide) (fun hf => ?_) (fun hf => ?_)
        · refine lv_ldc (v := (-1000000012 : Int32)) hx hb hown (hts _ q1456) dX5_ask_67 ?_
          exact zw_iret X hw hf (Nat.le_of_ble_eq_true rfl) (Nat.le_of_ble_eq_true rfl) dX5_ask_69
        · refine lv_aload_n hx hb dX5_ask_45 rfl (lv_at hl 0 rfl) ?_
          refine zw_getR X hw fs_X5_8 q1278 rfl hf dX5_ask_46 (fun v7 hf => ?_)
          refine lv_iload_n hx hb dX5_ask_49 rfl (lv_at hl 1 rfl) ?_
          refine zw_ialoadR X hw hf dX5_ask_50 (fun v8 hf => ?_)
          refine lv_iload_n hx hb dX5_ask_51 rfl (lv_at hl 2 rfl) ?_
          refine zw_cSZ (rest := []) [.int v8, .int i2] X hw hl.1 hf (fun r hr => mt_X5_isOf l D A E X.2.2.2.2.2.1 r2.2 v8 i2 r hr) (lw_S q1453 q1454 q89 q1455) cd_X5_isOf ⟨rfl, rfl⟩ ⟨Nat.le_of_ble_eq_true rfl, Nat.le_of_ble_eq_true rfl⟩ rfl rfl (Nat.le_of_ble_eq_true rfl) dX5_ask_52 ⟨Nat.le_of_ble_eq_true rfl, Nat.le_of_ble_eq_true rfl⟩ (fun r9 H locs hf hw => ?_)
          refine zw_if_eq (tgt := 67) hx hb hf dX5_ask_55 (by decide) (fun hf => ?_) (fun hf => ?_)
          · refine lv_ldc (v := (-1000000012 : Int32)) hx hb hown (hts _ q1456) dX5_ask_67 ?_
            exact zw_iret X hw hf (Nat.le_of_ble_eq_true rfl) (Nat.le_of_ble_eq_true rfl) dX5_ask_69
          · refine lv_aload_n hx hb dX5_ask_58 rfl (lv_at hl 0 rfl) ?_
            refine zw_getR X hw fs_X5_9 q1279 rfl hf dX5_ask_59 (fun v10 hf => ?_)
            refine lv_iload_n hx hb dX5_ask_62 rfl (lv_at hl 1 rfl) ?_
            refine zw_ialoadR X hw hf dX5_ask_63 (fun v11 hf => ?_)
            refine lv_goto (tgt := 69) hx hb dX5_ask_64 (by decide) ?_
            exact zw_iret X hw hf (Nat.le_of_ble_eq_true rfl) (Nat.le_of_ble_eq_true rfl) dX5_ask_69
      · refine lv_ldcw (v := (-1000000011 : Int32)) hx hb hown (hts _ q1719) dX5_ask_31 ?_
        exact zw_iret X hw hf (Nat.le_of_ble_eq_true rfl) (Nat.le_of_ble_eq_true rfl) dX5_ask_34
    · refine lv_ldc (v := (-1000000001 : Int32)) hx hb hown (hts _ q1377) dX5_ask_19 ?_
      exact zw_iret X hw hf (Nat.le_of_ble_eq_true rfl) (Nat.le_of_ble_eq_true rfl) dX5_ask_21
set_option maxHeartbeats 4000000 in
theorem mt_X5_item (l : Launch) (D : va_G) (A : Nat → Prop) (E : State → Prop) (hE : zEok A E) (h : zT) (a0 : Nat) (i1 : Int32) (i2 : Int32) (res : Int32 × zT) (hf : f_X5_item h a0 i1 i2 = some res) : Met l yX5_item (ws_ yX5_item cX5_item 4 (Option.some FieldType.int)) rm_X5_item (zPW D A E h [.ref a0, .int i1, .int i2]) (zQW D A (some (.int res.1)) res.2) 0 0 A := by
  refine zmt hE (by decide) (Nat.le_of_ble_eq_true rfl) ?_
  intro p e s m below meth c ls hmn X hw hl
  have hl : lv_has ls 4 [(0, .ref a0), (1, .int i1), (2, .int i2)] := hl
  have hx := X.1.1
  have hb := X.1.2.1
  have hown := X.1.2.2.2.1
  have hts := X.1.2.2.2.2
  unfold f_X5_item at hf
  refine lv_iload_n hx hb dX5_item_0 rfl (lv_at hl 1 rfl) ?_
  refine zw_cSZ (rest := []) [.int i1] X hw hl.1 hf (fun r hr => mt_X5_isSlot l D A E X.2.2.2.2.2.1 h i1 r hr) (lw_S q1746 q1747 q89 q1748) cd_X5_isSlot ⟨rfl, rfl⟩ ⟨Nat.le_of_ble_eq_true rfl, Nat.le_of_ble_eq_true rfl⟩ rfl rfl (Nat.le_of_ble_eq_true rfl) dX5_item_1 ⟨Nat.le_of_ble_eq_true rfl, Nat.le_of_ble_eq_true rfl⟩ (fun r1 H locs hf hw => ?_)
  refine zw_if_ne (tgt := 10) hx hb hf dX5_item_4 (by decide) (fun hf => ?_) (fun hf => ?_)
  · refine lv_aload_n hx hb dX5_item_10 rfl (lv_at hl 0 rfl) ?_
    refine zw_getR X hw fs_X5_7 q1277 rfl hf dX5_item_11 (fun v2 hf => ?_)
    refine lv_iload_n hx hb dX5_item_14 rfl (lv_at hl 1 rfl) ?_
    refine zw_ialoadR X hw hf dX5_item_15 (fun v3 hf => ?_)
    refine lv_iconst (v := (2 : Int32)) hx hb dX5_item_16 (by decide) ?_
    refine zw_icmp_eq (tgt := 38) hx hb hf dX5_item_17 (by decide) (fun hf => ?_) (fun hf => ?_)
    · refine lv_iload_n hx hb dX5_item_38 rfl (lv_at hl 2 rfl) ?_
      refine lv_i2l hx hb dX5_item_39 rfl ?_
      refine lv_lconst (v := (0 : Int64)) hx hb dX5_item_40 (by decide) ?_
      refine lv_aload_n hx hb dX5_item_41 rfl (lv_at hl 0 rfl) ?_
      refine zw_getR X hw fs_X5_10 q1280 rfl hf dX5_item_42 (fun v4 hf => ?_)
      refine lv_iload_n hx hb dX5_item_45 rfl (lv_at hl 1 rfl) ?_
      refine zw_ialoadR X hw hf dX5_item_46 (fun v5 hf => ?_)
      refine lv_iconst (v := (1 : Int32)) hx hb dX5_item_47 (by decide) ?_
      refine lv_isub hx hb dX5_item_48 ?_
      refine lv_i2l hx hb dX5_item_49 rfl ?_
      refine zw_cSZ (rest := []) [.long i2.toInt64, .long (0 : Int64), .long ((v5 - (1 : Int32)).toInt64)] X hw hl.1 hf (fun r hr => mt_X5_isIn l D A E X.2.2.2.2.2.1 r1.2 i2.toInt64 (0 : Int64) ((v5 - (1 : Int32)).toInt64) r hr) (lw_S q1372 q1373 q89 q1374) cd_X5_isIn ⟨rfl, rfl⟩ ⟨Nat.le_of_ble_eq_true rfl, Nat.le_of_ble_eq_true rfl⟩ rfl rfl (Nat.le_of_ble_eq_true rfl) dX5_item_50 ⟨Nat.le_of_ble_eq_true rfl, Nat.le_of_ble_eq_true rfl⟩ (fun r6 H locs hf hw => ?_)
      refine zw_if_ne (tgt := 60) hx hb hf dX5_item_53 (by decide) (fun hf => ?_) (fun hf => ?_)
      · refine lv_aload_n hx hb dX5_item_60 rfl (lv_at hl 0 rfl) ?_
        refine zw_getR X hw fs_X5_11 q1281 rfl hf dX5_item_61 (fun v7 hf => ?_)
        refine lv_bipush (v := (24 : Int32)) hx hb dX5_item_64 (by decide) ?_
        refine lv_iload_n hx hb dX5_item_66 rfl (lv_at hl 1 rfl) ?_
        refine lv_imul hx hb dX5_item_67 ?_
        refine lv_iload_n hx hb dX5_item_68 rfl (lv_at hl 2 rfl) ?_
        refine lv_iadd hx hb dX5_item_69 ?_
        refine zw_ialoadR X hw hf dX5_item_70 (fun v8 hf => ?_)
        refine lv_istore_n (lv' := [(3, .int v8), (0, .ref a0), (1, .int i1), (2, .int i2)]) hx hb dX5_item_71 rfl hl (by decide) rfl (fun ls hl => ?_)
        refine lv_iload_n hx hb dX5_item_72 rfl (lv_at hl 0 rfl) ?_
        refine lv_ldc (v := (-1000000005 : Int32)) hx hb hown (hts _ q1600) dX5_item_73 ?_
        refine zw_icmp_ne (tgt := 83) hx hb hf dX5_item_75 (by decide) (fun hf => ?_) (fun hf => ?_)
        · refine lv_iload_n hx hb dX5_item_83 rfl (lv_at hl 0 rfl) ?_
          exact zw_iret X hw hf (Nat.le_of_ble_eq_true rfl) (Nat.le_of_ble_eq_true rfl) dX5_item_84
        · refine lv_ldc (v := (-1000000012 : Int32)) hx hb hown (hts _ q1456) dX5_item_78 ?_
          refine lv_goto (tgt := 84) hx hb dX5_item_80 (by decide) ?_
          exact zw_iret X hw hf (Nat.le_of_ble_eq_true rfl) (Nat.le_of_ble_eq_true rfl) dX5_item_84
      · refine lv_ldcw (v := (-1000000013 : Int32)) hx hb hown (hts _ q1720) dX5_item_56 ?_
        exact zw_iret X hw hf (Nat.le_of_ble_eq_true rfl) (Nat.le_of_ble_eq_true rfl) dX5_item_59
    · refine lv_aload_n hx hb dX5_item_20 rfl (lv_at hl 0 rfl) ?_
      refine zw_getR X hw fs_X5_7 q1277 rfl hf dX5_item_21 (fun v9 hf => ?_)
      refine lv_iload_n hx hb dX5_item_24 rfl (lv_at hl 1 rfl) ?_
      refine zw_ialoadR X hw hf dX5_item_25 (fun v10 hf => ?_)
      refine zw_if_ne (tgt := 35) hx hb hf dX5_item_26 (by decide) (fun hf => ?_) (fun hf => ?_)
      · refine lv_ldc (v := (-1000000012 : Int32)) hx hb hown (hts _ q1456) dX5_item_35 ?_
        exact zw_iret X hw hf (Nat.le_of_ble_eq_true rfl) (Nat.le_of_ble_eq_true rfl) dX5_item_37
      · refine lv_ldcw (v := (-1000000011 : Int32)) hx hb hown (hts _ q1719) dX5_item_29 ?_
        refine lv_goto (tgt := 37) hx hb dX5_item_32 (by decide) ?_
        exact zw_iret X hw hf (Nat.le_of_ble_eq_true rfl) (Nat.le_of_ble_eq_true rfl) dX5_item_37
  · refine lv_ldc (v := (-1000000001 : Int32)) hx hb hown (hts _ q1377) dX5_item_7 ?_
    exact zw_iret X hw hf (Nat.le_of_ble_eq_true rfl) (Nat.le_of_ble_eq_true rfl) dX5_item_9
set_option maxHeartbeats 4000000 in
theorem mt_X5_rest (l : Launch) (D : va_G) (A : Nat → Prop) (E : State → Prop) (hE : zEok A E) (h : zT) (a0 : Nat) (i1 : Int32) (i2 : Int32) (res : Int32 × zT) (hf : f_X5_rest h a0 i1 i2 = some res) : Met l yX5_rest (ws_ yX5_rest cX5_rest 3 (Option.some FieldType.int)) rm_X5_rest (zPW D A E h [.ref a0, .int i1, .int i2]) (zQW D A (some (.int res.1)) res.2) 0 0 A := by
  refine zmt hE (by decide) (Nat.le_of_ble_eq_true rfl) ?_
  intro p e s m below meth c ls hmn X hw hl
  have hl : lv_has ls 3 [(0, .ref a0), (1, .int i1), (2, .int i2)] := hl
  have hx := X.1.1
  have hb := X.1.2.1
  have hown := X.1.2.2.2.1
  have hts := X.1.2.2.2.2
  unfold f_X5_rest at hf
  refine lv_iload_n hx hb dX5_rest_0 rfl (lv_at hl 1 rfl) ?_
  refine zw_cSZ (rest := []) [.int i1] X hw hl.1 hf (fun r hr => mt_X5_isSlot l D A E X.2.2.2.2.2.1 h i1 r hr) (lw_S q1746 q1747 q89 q1748) cd_X5_isSlot ⟨rfl, rfl⟩ ⟨Nat.le_of_ble_eq_true rfl, Nat.le_of_ble_eq_true rfl⟩ rfl rfl (Nat.le_of_ble_eq_true rfl) dX5_rest_1 ⟨Nat.le_of_ble_eq_true rfl, Nat.le_of_ble_eq_true rfl⟩ (fun r1 H locs hf hw => ?_)
  refine zw_if_ne (tgt := 10) hx hb hf dX5_rest_4 (by decide) (fun hf => ?_) (fun hf => ?_)
  · refine lv_aload_n hx hb dX5_rest_10 rfl (lv_at hl 0 rfl) ?_
    refine zw_getR X hw fs_X5_7 q1277 rfl hf dX5_rest_11 (fun v2 hf => ?_)
    refine lv_iload_n hx hb dX5_rest_14 rfl (lv_at hl 1 rfl) ?_
    refine zw_ialoadR X hw hf dX5_rest_15 (fun v3 hf => ?_)
    refine lv_iconst (v := (3 : Int32)) hx hb dX5_rest_16 (by decide) ?_
    refine zw_icmp_eq (tgt := 38) hx hb hf dX5_rest_17 (by decide) (fun hf => ?_) (fun hf => ?_)
    · refine lv_iload_n hx hb dX5_rest_38 rfl (lv_at hl 2 rfl) ?_
      refine zw_if_ne (tgt := 48) hx hb hf dX5_rest_39 (by decide) (fun hf => ?_) (fun hf => ?_)
      · refine lv_aload_n hx hb dX5_rest_48 rfl (lv_at hl 0 rfl) ?_
        refine zw_getR X hw fs_X5_8 q1278 rfl hf dX5_rest_49 (fun v4 hf => ?_)
        refine lv_iload_n hx hb dX5_rest_52 rfl (lv_at hl 1 rfl) ?_
        refine zw_ialoadR X hw hf dX5_rest_53 (fun v5 hf => ?_)
        refine lv_iload_n hx hb dX5_rest_54 rfl (lv_at hl 2 rfl) ?_
        refine zw_ne0 hf (fun hne hf => ?_)
        refine lv_irem hx hb dX5_rest_55 hne ?_
        exact zw_iret X hw hf (Nat.le_of_ble_eq_true rfl) (Nat.le_of_ble_eq_true rfl) dX5_rest_56
      · refine lv_ldcw (v := (-1000000002 : Int32)) hx hb hown (hts _ q1762) dX5_rest_42 ?_
        refine lv_goto (tgt := 56) hx hb dX5_rest_45 (by decide) ?_
        exact zw_iret X hw hf (Nat.le_of_ble_eq_true rfl) (Nat.le_of_ble_eq_true rfl) dX5_rest_56
    · refine lv_aload_n hx hb dX5_rest_20 rfl (lv_at hl 0 rfl) ?_
      refine zw_getR X hw fs_X5_7 q1277 rfl hf dX5_rest_21 (fun v6 hf => ?_)
      refine lv_iload_n hx hb dX5_rest_24 rfl (lv_at hl 1 rfl) ?_
      refine zw_ialoadR X hw hf dX5_rest_25 (fun v7 hf => ?_)
      refine zw_if_ne (tgt := 35) hx hb hf dX5_rest_26 (by decide) (fun hf => ?_) (fun hf => ?_)
      · refine lv_ldc (v := (-1000000012 : Int32)) hx hb hown (hts _ q1456) dX5_rest_35 ?_
        exact zw_iret X hw hf (Nat.le_of_ble_eq_true rfl) (Nat.le_of_ble_eq_true rfl) dX5_rest_37
      · refine lv_ldcw (v := (-1000000011 : Int32)) hx hb hown (hts _ q1719) dX5_rest_29 ?_
        refine lv_goto (tgt := 37) hx hb dX5_rest_32 (by decide) ?_
        exact zw_iret X hw hf (Nat.le_of_ble_eq_true rfl) (Nat.le_of_ble_eq_true rfl) dX5_rest_37
  · refine lv_ldc (v := (-1000000001 : Int32)) hx hb hown (hts _ q1377) dX5_rest_7 ?_
    exact zw_iret X hw hf (Nat.le_of_ble_eq_true rfl) (Nat.le_of_ble_eq_true rfl) dX5_rest_9
