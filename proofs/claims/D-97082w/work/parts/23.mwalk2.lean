/-! StoneSheetsModel: the walks (gen/model.py) -/
set_option maxRecDepth 100000
set_option maxHeartbeats 4000000 in
theorem k_X5_findClashing_21 {p : Program} {l : Launch} {e : Env} {s : State} {m : MethodId} {args : Array Value} {below : List Frame} {meth : Method} {c : Code} {D : va_G} {A : Nat → Prop} {E : State → Prop} (X : zCx p s m args meth c D A E cX5_findClashing 3 RX5 (Option.none : Option FieldType)) (res : zT) (K2 : zT → Nat → Int32 → Option (zT)) (hK2 : ∀ (h : zT) (a0 : Nat) (i1 : Int32) (H : Heap) (locs : List Loc) (ls : Array Slot), K2 h a0 i1 = some res → zWh D A s H h locs → lv_has ls 3 [(0, .ref a0), (1, .int i1)] → W p l e rm_X5_findClashing s m args below meth c H locs 0 0 (MQ below (zQW D A none res) args s 0 0 A) (F0 m 2 ls [])) : ∀ (n : Nat), ∀ (h : zT) (a0 : Nat) (i1 : Int32) (i2 : Int32) (H : Heap) (locs : List Loc) (ls : Array Slot), f_X5_findClashing_21 K2 n h a0 i1 i2 = some res → zWh D A s H h locs → lv_has ls 3 [(0, .ref a0), (1, .int i1), (2, .int i2)] → W p l e rm_X5_findClashing s m args below meth c H locs 0 0 (MQ below (zQW D A none res) args s 0 0 A) (F0 m 21 ls []) := by
  have hx := X.1.1
  have hb := X.1.2.1
  have hown := X.1.2.2.2.1
  have hts := X.1.2.2.2.2
  intro n
  induction n with
  | zero =>
    intro h a0 i1 i2 H locs ls hf hw hl
    cases hf
  | succ n ih =>
    intro h a0 i1 i2 H locs ls hf hw hl
    unfold f_X5_findClashing_21 at hf
    refine lv_iload_n hx hb dX5_findClashing_21 rfl (lv_at hl 2 rfl) ?_
    refine lv_aload_n hx hb dX5_findClashing_22 rfl (lv_at hl 0 rfl) ?_
    refine zw_getR X hw fs_X5_0 q1270 rfl hf dX5_findClashing_23 (fun v1 hf => ?_)
    refine lv_iconst (v := (0 : Int32)) hx hb dX5_findClashing_26 (by decide) ?_
    refine zw_ialoadR X hw hf dX5_findClashing_27 (fun v2 hf => ?_)
    refine zw_icmp_ge (tgt := 67) hx hb hf dX5_findClashing_28 (by decide) (fun hf => ?_) (fun hf => ?_)
    · refine zw_nmS hf (fun v3 ev3 hf => ?_)
      refine lv_iinc (k := 1) (v := v3) (lv' := [(1, .int v3), (0, .ref a0), (2, .int i2)]) hx hb dX5_findClashing_67 hl rfl (by rw [ev3]; rfl) (by decide) rfl (fun ls hl => ?_)
      refine lv_goto (tgt := 2) hx hb dX5_findClashing_70 (by decide) ?_
      exact hK2 h a0 v3 _ _ _ hf hw (lv_sub hl [1, 0] rfl)
    · refine lv_aload_n hx hb dX5_findClashing_31 rfl (lv_at hl 0 rfl) ?_
      refine zw_getR X hw fs_X5_12 q1282 rfl hf dX5_findClashing_32 (fun v4 hf => ?_)
      refine lv_iload_n hx hb dX5_findClashing_35 rfl (lv_at hl 1 rfl) ?_
      refine lv_dup2_11 hx hb dX5_findClashing_36 rfl rfl ?_
      refine zw_ialoadR X hw hf dX5_findClashing_37 (fun v5 hf => ?_)
      refine lv_iload_n hx hb dX5_findClashing_38 rfl (lv_at hl 2 rfl) ?_
      refine lv_iload_n hx hb dX5_findClashing_39 rfl (lv_at hl 1 rfl) ?_
      refine zw_icmp_eq (tgt := 58) hx hb hf dX5_findClashing_40 (by decide) (fun hf => ?_) (fun hf => ?_)
      · refine lv_iconst (v := (0 : Int32)) hx hb dX5_findClashing_58 (by decide) ?_
        refine lv_ior hx hb dX5_findClashing_59 ?_
        refine zw_iastore X hw hf dX5_findClashing_60 (fun h6 H locs hf hw => ?_)
        refine zw_nmS hf (fun v7 ev7 hf => ?_)
        refine lv_iinc (k := 2) (v := v7) (lv' := [(2, .int v7), (0, .ref a0), (1, .int i1)]) hx hb dX5_findClashing_61 hl rfl (by rw [ev7]; rfl) (by decide) rfl (fun ls hl => ?_)
        refine lv_goto (tgt := 21) hx hb dX5_findClashing_64 (by decide) ?_
        exact ih h6 a0 i1 v7 _ _ _ hf hw (lv_sub hl [1, 2, 0] rfl)
      · refine lv_aload_n hx hb dX5_findClashing_43 rfl (lv_at hl 0 rfl) ?_
        refine lv_iload_n hx hb dX5_findClashing_44 rfl (lv_at hl 1 rfl) ?_
        refine lv_iload_n hx hb dX5_findClashing_45 rfl (lv_at hl 2 rfl) ?_
        refine zw_cVZ (rest := [.int v5, .int i1, .ref v4]) [.int i1, .int i2] X hw hl.1 hf rfl rfl (fun r hr => mt_X5_doClash l D A E X.2.2.2.2.2.1 h a0 i1 i2 r hr) (lw_V q1521 q1523 qs53 q89 q1524) cd_X5_doClash ⟨rfl, rfl⟩ ⟨Nat.le_of_ble_eq_true rfl, Nat.le_of_ble_eq_true rfl⟩ rfl rfl (Nat.le_of_ble_eq_true rfl) dX5_findClashing_46 ⟨Nat.le_of_ble_eq_true rfl, Nat.le_of_ble_eq_true rfl⟩ (fun r8 H locs hf hw => ?_)
        refine zw_if_eq (tgt := 58) hx hb hf dX5_findClashing_49 (by decide) (fun hf => ?_) (fun hf => ?_)
        · refine lv_iconst (v := (0 : Int32)) hx hb dX5_findClashing_58 (by decide) ?_
          refine lv_ior hx hb dX5_findClashing_59 ?_
          refine zw_iastore X hw hf dX5_findClashing_60 (fun h9 H locs hf hw => ?_)
          refine zw_nmS hf (fun v10 ev10 hf => ?_)
          refine lv_iinc (k := 2) (v := v10) (lv' := [(2, .int v10), (0, .ref a0), (1, .int i1)]) hx hb dX5_findClashing_61 hl rfl (by rw [ev10]; rfl) (by decide) rfl (fun ls hl => ?_)
          refine lv_goto (tgt := 21) hx hb dX5_findClashing_64 (by decide) ?_
          exact ih h9 a0 i1 v10 _ _ _ hf hw (lv_sub hl [1, 2, 0] rfl)
        · refine lv_iconst (v := (1 : Int32)) hx hb dX5_findClashing_52 (by decide) ?_
          refine lv_iload_n hx hb dX5_findClashing_53 rfl (lv_at hl 2 rfl) ?_
          refine lv_ishl hx hb dX5_findClashing_54 ?_
          refine lv_goto (tgt := 59) hx hb dX5_findClashing_55 (by decide) ?_
          refine lv_ior hx hb dX5_findClashing_59 ?_
          refine zw_iastore X hw hf dX5_findClashing_60 (fun h11 H locs hf hw => ?_)
          refine zw_nmS hf (fun v12 ev12 hf => ?_)
          refine lv_iinc (k := 2) (v := v12) (lv' := [(2, .int v12), (0, .ref a0), (1, .int i1)]) hx hb dX5_findClashing_61 hl rfl (by rw [ev12]; rfl) (by decide) rfl (fun ls hl => ?_)
          refine lv_goto (tgt := 21) hx hb dX5_findClashing_64 (by decide) ?_
          exact ih h11 a0 i1 v12 _ _ _ hf hw (lv_sub hl [1, 2, 0] rfl)
set_option maxHeartbeats 4000000 in
theorem k_X5_findClashing_2 {p : Program} {l : Launch} {e : Env} {s : State} {m : MethodId} {args : Array Value} {below : List Frame} {meth : Method} {c : Code} {D : va_G} {A : Nat → Prop} {E : State → Prop} (X : zCx p s m args meth c D A E cX5_findClashing 3 RX5 (Option.none : Option FieldType)) (res : zT) : ∀ (n : Nat), ∀ (h : zT) (a0 : Nat) (i1 : Int32) (H : Heap) (locs : List Loc) (ls : Array Slot), f_X5_findClashing_2 n h a0 i1 = some res → zWh D A s H h locs → lv_has ls 3 [(0, .ref a0), (1, .int i1)] → W p l e rm_X5_findClashing s m args below meth c H locs 0 0 (MQ below (zQW D A none res) args s 0 0 A) (F0 m 2 ls []) := by
  have hx := X.1.1
  have hb := X.1.2.1
  have hown := X.1.2.2.2.1
  have hts := X.1.2.2.2.2
  intro n
  induction n with
  | zero =>
    intro h a0 i1 H locs ls hf hw hl
    cases hf
  | succ n ih =>
    intro h a0 i1 H locs ls hf hw hl
    unfold f_X5_findClashing_2 at hf
    refine lv_iload_n hx hb dX5_findClashing_2 rfl (lv_at hl 1 rfl) ?_
    refine lv_aload_n hx hb dX5_findClashing_3 rfl (lv_at hl 0 rfl) ?_
    refine zw_getR X hw fs_X5_0 q1270 rfl hf dX5_findClashing_4 (fun v1 hf => ?_)
    refine lv_iconst (v := (0 : Int32)) hx hb dX5_findClashing_7 (by decide) ?_
    refine zw_ialoadR X hw hf dX5_findClashing_8 (fun v2 hf => ?_)
    refine zw_icmp_ge (tgt := 73) hx hb hf dX5_findClashing_9 (by decide) (fun hf => ?_) (fun hf => ?_)
    · exact zw_vret X hw hf (Nat.le_of_ble_eq_true rfl) (Nat.le_of_ble_eq_true rfl) dX5_findClashing_73
    · refine lv_aload_n hx hb dX5_findClashing_12 rfl (lv_at hl 0 rfl) ?_
      refine zw_getR X hw fs_X5_12 q1282 rfl hf dX5_findClashing_13 (fun v3 hf => ?_)
      refine lv_iload_n hx hb dX5_findClashing_16 rfl (lv_at hl 1 rfl) ?_
      refine lv_iconst (v := (0 : Int32)) hx hb dX5_findClashing_17 (by decide) ?_
      refine zw_iastore X hw hf dX5_findClashing_18 (fun h4 H locs hf hw => ?_)
      refine lv_iconst (v := (0 : Int32)) hx hb dX5_findClashing_19 (by decide) ?_
      refine lv_istore_n (lv' := [(2, .int (0 : Int32)), (0, .ref a0), (1, .int i1)]) hx hb dX5_findClashing_20 rfl hl (by decide) rfl (fun ls hl => ?_)
      exact k_X5_findClashing_21 X _ (f_X5_findClashing_2 n) ih 4096 h4 a0 i1 (0 : Int32) _ _ _ hf hw (lv_sub hl [1, 2, 0] rfl)
set_option maxHeartbeats 4000000 in
theorem mt_X5_findClashing (l : Launch) (D : va_G) (A : Nat → Prop) (E : State → Prop) (hE : zEok A E) (h : zT) (a0 : Nat) (res : zT) (hf : f_X5_findClashing h a0 = some res) : Met l yX5_findClashing (ws_ yX5_findClashing cX5_findClashing 3 (Option.none : Option FieldType)) rm_X5_findClashing (zPW D A E h [.ref a0]) (zQW D A none res) 0 0 A := by
  refine zmt hE (by decide) (Nat.le_of_ble_eq_true rfl) ?_
  intro p e s m below meth c ls hmn X hw hl
  have hl : lv_has ls 3 [(0, .ref a0)] := hl
  have hx := X.1.1
  have hb := X.1.2.1
  have hown := X.1.2.2.2.1
  have hts := X.1.2.2.2.2
  unfold f_X5_findClashing at hf
  refine lv_iconst (v := (0 : Int32)) hx hb dX5_findClashing_0 (by decide) ?_
  refine lv_istore_n (lv' := [(1, .int (0 : Int32)), (0, .ref a0)]) hx hb dX5_findClashing_1 rfl hl (by decide) rfl (fun ls hl => ?_)
  exact k_X5_findClashing_2 X _ 4096 h a0 (0 : Int32) _ _ _ hf hw (lv_sub hl [1, 0] rfl)
set_option maxHeartbeats 4000000 in
theorem k_X5_laidOnes_4 {p : Program} {l : Launch} {e : Env} {s : State} {m : MethodId} {args : Array Value} {below : List Frame} {meth : Method} {c : Code} {D : va_G} {A : Nat → Prop} {E : State → Prop} (X : zCx p s m args meth c D A E cX5_laidOnes 3 RX5 (Option.some FieldType.int)) (res : Int32 × zT) : ∀ (n : Nat), ∀ (h : zT) (a0 : Nat) (i1 : Int32) (i2 : Int32) (H : Heap) (locs : List Loc) (ls : Array Slot), f_X5_laidOnes_4 n h a0 i1 i2 = some res → zWh D A s H h locs → lv_has ls 3 [(0, .ref a0), (1, .int i1), (2, .int i2)] → W p l e rm_X5_laidOnes s m args below meth c H locs 0 0 (MQ below (zQW D A (some (.int res.1)) res.2) args s 0 0 A) (F0 m 4 ls []) := by
  have hx := X.1.1
  have hb := X.1.2.1
  have hown := X.1.2.2.2.1
  have hts := X.1.2.2.2.2
  intro n
  induction n with
  | zero =>
    intro h a0 i1 i2 H locs ls hf hw hl
    cases hf
  | succ n ih =>
    intro h a0 i1 i2 H locs ls hf hw hl
    unfold f_X5_laidOnes_4 at hf
    refine lv_iload_n hx hb dX5_laidOnes_4 rfl (lv_at hl 2 rfl) ?_
    refine lv_aload_n hx hb dX5_laidOnes_5 rfl (lv_at hl 0 rfl) ?_
    refine zw_getR X hw fs_X5_0 q1270 rfl hf dX5_laidOnes_6 (fun v1 hf => ?_)
    refine lv_iconst (v := (0 : Int32)) hx hb dX5_laidOnes_9 (by decide) ?_
    refine zw_ialoadR X hw hf dX5_laidOnes_10 (fun v2 hf => ?_)
    refine zw_icmp_ge (tgt := 41) hx hb hf dX5_laidOnes_11 (by decide) (fun hf => ?_) (fun hf => ?_)
    · refine lv_iload_n hx hb dX5_laidOnes_41 rfl (lv_at hl 1 rfl) ?_
      exact zw_iret X hw hf (Nat.le_of_ble_eq_true rfl) (Nat.le_of_ble_eq_true rfl) dX5_laidOnes_42
    · refine lv_iload_n hx hb dX5_laidOnes_14 rfl (lv_at hl 1 rfl) ?_
      refine lv_aload_n hx hb dX5_laidOnes_15 rfl (lv_at hl 0 rfl) ?_
      refine lv_iload_n hx hb dX5_laidOnes_16 rfl (lv_at hl 2 rfl) ?_
      refine lv_iconst (v := (4 : Int32)) hx hb dX5_laidOnes_17 (by decide) ?_
      refine zw_cVI (rest := [.int i1]) [.int i2, .int (4 : Int32)] X hw hl.1 hf rfl rfl (fun r hr => mt_X5_of l D A E X.2.2.2.2.2.1 h a0 i2 (4 : Int32) r hr) (lw_V q1395 q1397 qs39 q89 q1398) cd_X5_of ⟨rfl, rfl⟩ ⟨Nat.le_of_ble_eq_true rfl, Nat.le_of_ble_eq_true rfl⟩ rfl rfl (Nat.le_of_ble_eq_true rfl) dX5_laidOnes_18 ⟨Nat.le_of_ble_eq_true rfl, Nat.le_of_ble_eq_true rfl⟩ (fun r3 H locs hf hw => ?_)
      refine lv_bipush (v := (16 : Int32)) hx hb dX5_laidOnes_21 (by decide) ?_
      refine zw_icmp_ge (tgt := 32) hx hb hf dX5_laidOnes_23 (by decide) (fun hf => ?_) (fun hf => ?_)
      · refine lv_iconst (v := (0 : Int32)) hx hb dX5_laidOnes_32 (by decide) ?_
        refine lv_ior hx hb dX5_laidOnes_33 ?_
        refine zw_nmI hf (fun v4 hf => ?_)
        refine lv_istore_n (lv' := [(1, .int v4), (0, .ref a0), (2, .int i2)]) hx hb dX5_laidOnes_34 rfl hl (by decide) rfl (fun ls hl => ?_)
        refine zw_nmS hf (fun v5 ev5 hf => ?_)
        refine lv_iinc (k := 2) (v := v5) (lv' := [(2, .int v5), (1, .int v4), (0, .ref a0)]) hx hb dX5_laidOnes_35 hl rfl (by rw [ev5]; rfl) (by decide) rfl (fun ls hl => ?_)
        refine lv_goto (tgt := 4) hx hb dX5_laidOnes_38 (by decide) ?_
        exact ih r3.2 a0 v4 v5 _ _ _ hf hw (lv_sub hl [2, 1, 0] rfl)
      · refine lv_iconst (v := (1 : Int32)) hx hb dX5_laidOnes_26 (by decide) ?_
        refine lv_iload_n hx hb dX5_laidOnes_27 rfl (lv_at hl 2 rfl) ?_
        refine lv_ishl hx hb dX5_laidOnes_28 ?_
        refine lv_goto (tgt := 33) hx hb dX5_laidOnes_29 (by decide) ?_
        refine lv_ior hx hb dX5_laidOnes_33 ?_
        refine zw_nmI hf (fun v6 hf => ?_)
        refine lv_istore_n (lv' := [(1, .int v6), (0, .ref a0), (2, .int i2)]) hx hb dX5_laidOnes_34 rfl hl (by decide) rfl (fun ls hl => ?_)
        refine zw_nmS hf (fun v7 ev7 hf => ?_)
        refine lv_iinc (k := 2) (v := v7) (lv' := [(2, .int v7), (1, .int v6), (0, .ref a0)]) hx hb dX5_laidOnes_35 hl rfl (by rw [ev7]; rfl) (by decide) rfl (fun ls hl => ?_)
        refine lv_goto (tgt := 4) hx hb dX5_laidOnes_38 (by decide) ?_
        exact ih r3.2 a0 v6 v7 _ _ _ hf hw (lv_sub hl [2, 1, 0] rfl)
set_option maxHeartbeats 4000000 in
theorem mt_X5_laidOnes (l : Launch) (D : va_G) (A : Nat → Prop) (E : State → Prop) (hE : zEok A E) (h : zT) (a0 : Nat) (res : Int32 × zT) (hf : f_X5_laidOnes h a0 = some res) : Met l yX5_laidOnes (ws_ yX5_laidOnes cX5_laidOnes 3 (Option.some FieldType.int)) rm_X5_laidOnes (zPW D A E h [.ref a0]) (zQW D A (some (.int res.1)) res.2) 0 0 A := by
  refine zmt hE (by decide) (Nat.le_of_ble_eq_true rfl) ?_
  intro p e s m below meth c ls hmn X hw hl
  have hl : lv_has ls 3 [(0, .ref a0)] := hl
  have hx := X.1.1
  have hb := X.1.2.1
  have hown := X.1.2.2.2.1
  have hts := X.1.2.2.2.2
  unfold f_X5_laidOnes at hf
  refine lv_iconst (v := (0 : Int32)) hx hb dX5_laidOnes_0 (by decide) ?_
  refine lv_istore_n (lv' := [(1, .int (0 : Int32)), (0, .ref a0)]) hx hb dX5_laidOnes_1 rfl hl (by decide) rfl (fun ls hl => ?_)
  refine lv_iconst (v := (0 : Int32)) hx hb dX5_laidOnes_2 (by decide) ?_
  refine lv_istore_n (lv' := [(2, .int (0 : Int32)), (1, .int (0 : Int32)), (0, .ref a0)]) hx hb dX5_laidOnes_3 rfl hl (by decide) rfl (fun ls hl => ?_)
  exact k_X5_laidOnes_4 X _ 4096 h a0 (0 : Int32) (0 : Int32) _ _ _ hf hw (lv_sub hl [2, 1, 0] rfl)
set_option maxHeartbeats 4000000 in
theorem k_X5_manyIn_4 {p : Program} {l : Launch} {e : Env} {s : State} {m : MethodId} {args : Array Value} {below : List Frame} {meth : Method} {c : Code} {D : va_G} {A : Nat → Prop} {E : State → Prop} (X : zCx p s m args meth c D A E cX5_manyIn 3 RX5 (Option.some FieldType.int)) (res : Int32 × zT) : ∀ (n : Nat), ∀ (h : zT) (i1 : Int32) (i2 : Int32) (H : Heap) (locs : List Loc) (ls : Array Slot), f_X5_manyIn_4 n h i1 i2 = some res → zWh D A s H h locs → lv_has ls 3 [(1, .int i1), (2, .int i2)] → W p l e rm_X5_manyIn s m args below meth c H locs 0 0 (MQ below (zQW D A (some (.int res.1)) res.2) args s 0 0 A) (F0 m 4 ls []) := by
  have hx := X.1.1
  have hb := X.1.2.1
  have hown := X.1.2.2.2.1
  have hts := X.1.2.2.2.2
  intro n
  induction n with
  | zero =>
    intro h i1 i2 H locs ls hf hw hl
    cases hf
  | succ n ih =>
    intro h i1 i2 H locs ls hf hw hl
    unfold f_X5_manyIn_4 at hf
    refine lv_iload_n hx hb dX5_manyIn_4 rfl (lv_at hl 1 rfl) ?_
    refine zw_if_eq (tgt := 20) hx hb hf dX5_manyIn_5 (by decide) (fun hf => ?_) (fun hf => ?_)
    · refine lv_iload_n hx hb dX5_manyIn_20 rfl (lv_at hl 0 rfl) ?_
      exact zw_iret X hw hf (Nat.le_of_ble_eq_true rfl) (Nat.le_of_ble_eq_true rfl) dX5_manyIn_21
    · refine zw_nmS hf (fun v1 ev1 hf => ?_)
      refine lv_iinc (k := 0) (v := v1) (lv' := [(1, .int v1), (2, .int i2)]) hx hb dX5_manyIn_8 hl rfl (by rw [ev1]; rfl) (by decide) rfl (fun ls hl => ?_)
      refine lv_iload_n hx hb dX5_manyIn_11 rfl (lv_at hl 1 rfl) ?_
      refine lv_iload_n hx hb dX5_manyIn_12 rfl (lv_at hl 1 rfl) ?_
      refine lv_iconst (v := (1 : Int32)) hx hb dX5_manyIn_13 (by decide) ?_
      refine lv_isub hx hb dX5_manyIn_14 ?_
      refine lv_iand hx hb dX5_manyIn_15 ?_
      refine zw_nmI hf (fun v2 hf => ?_)
      refine lv_istore_n (lv' := [(2, .int v2), (1, .int v1)]) hx hb dX5_manyIn_16 rfl hl (by decide) rfl (fun ls hl => ?_)
      refine lv_goto (tgt := 4) hx hb dX5_manyIn_17 (by decide) ?_
      exact ih h v1 v2 _ _ _ hf hw (lv_sub hl [1, 0] rfl)
set_option maxHeartbeats 4000000 in
theorem mt_X5_manyIn (l : Launch) (D : va_G) (A : Nat → Prop) (E : State → Prop) (hE : zEok A E) (h : zT) (i0 : Int32) (res : Int32 × zT) (hf : f_X5_manyIn h i0 = some res) : Met l yX5_manyIn (ws_ yX5_manyIn cX5_manyIn 3 (Option.some FieldType.int)) rm_X5_manyIn (zPW D A E h [.int i0]) (zQW D A (some (.int res.1)) res.2) 0 0 A := by
  refine zmt hE (by decide) (Nat.le_of_ble_eq_true rfl) ?_
  intro p e s m below meth c ls hmn X hw hl
  have hl : lv_has ls 3 [(0, .int i0)] := hl
  have hx := X.1.1
  have hb := X.1.2.1
  have hown := X.1.2.2.2.1
  have hts := X.1.2.2.2.2
  unfold f_X5_manyIn at hf
  refine lv_iconst (v := (0 : Int32)) hx hb dX5_manyIn_0 (by decide) ?_
  refine lv_istore_n (lv' := [(1, .int (0 : Int32)), (0, .int i0)]) hx hb dX5_manyIn_1 rfl hl (by decide) rfl (fun ls hl => ?_)
  refine lv_iload_n hx hb dX5_manyIn_2 rfl (lv_at hl 1 rfl) ?_
  refine lv_istore_n (lv' := [(2, .int i0), (1, .int (0 : Int32)), (0, .int i0)]) hx hb dX5_manyIn_3 rfl hl (by decide) rfl (fun ls hl => ?_)
  exact k_X5_manyIn_4 X _ 4096 h (0 : Int32) i0 _ _ _ hf hw (lv_sub hl [1, 0] rfl)
set_option maxHeartbeats 4000000 in
theorem k_X5_undone_41 {p : Program} {l : Launch} {e : Env} {s : State} {m : MethodId} {args : Array Value} {below : List Frame} {meth : Method} {c : Code} {D : va_G} {A : Nat → Prop} {E : State → Prop} (X : zCx p s m args meth c D A E cX5_undone 5 RX5 (Option.some FieldType.int)) (res : Int32 × zT) (K13 : zT → Nat → Int32 → Int32 → Int32 → Option (Int32 × zT)) (hK13 : ∀ (h : zT) (a0 : Nat) (i1 : Int32) (i2 : Int32) (i3 : Int32) (H : Heap) (locs : List Loc) (ls : Array Slot), K13 h a0 i1 i2 i3 = some res → zWh D A s H h locs → lv_has ls 5 [(0, .ref a0), (1, .int i1), (2, .int i2), (3, .int i3)] → W p l e rm_X5_undone s m args below meth c H locs 0 0 (MQ below (zQW D A (some (.int res.1)) res.2) args s 0 0 A) (F0 m 13 ls [])) : ∀ (h : zT) (a0 : Nat) (i1 : Int32) (i2 : Int32) (i3 : Int32) (s0 : Int32) (H : Heap) (locs : List Loc) (ls : Array Slot), f_X5_undone_41 K13 h a0 i1 i2 i3 s0 = some res → zWh D A s H h locs → lv_has ls 5 [(0, .ref a0), (1, .int i1), (2, .int i2), (3, .int i3)] → W p l e rm_X5_undone s m args below meth c H locs 0 0 (MQ below (zQW D A (some (.int res.1)) res.2) args s 0 0 A) (F0 m 41 ls [.int s0]) := by
  have hx := X.1.1
  have hb := X.1.2.1
  have hown := X.1.2.2.2.1
  have hts := X.1.2.2.2.2
  intro h a0 i1 i2 i3 s0 H locs ls hf hw hl
  unfold f_X5_undone_41 at hf
  refine lv_istore (lv' := [(4, .int s0), (0, .ref a0), (1, .int i1), (2, .int i2), (3, .int i3)]) hx hb dX5_undone_41 hl (by decide) rfl (fun ls hl => ?_)
  refine lv_iload hx hb dX5_undone_43 (lv_at hl 0 rfl) ?_
  refine zw_if_eq (tgt := 64) hx hb hf dX5_undone_45 (by decide) (fun hf => ?_) (fun hf => ?_)
  · refine lv_iload_n hx hb dX5_undone_64 rfl (lv_at hl 3 rfl) ?_
    refine lv_istore_n (lv' := [(2, .int i2), (4, .int s0), (0, .ref a0), (1, .int i1), (3, .int i3)]) hx hb dX5_undone_65 rfl hl (by decide) rfl (fun ls hl => ?_)
    refine zw_nmS hf (fun v1 ev1 hf => ?_)
    refine lv_iinc (k := 4) (v := v1) (lv' := [(3, .int v1), (2, .int i2), (4, .int s0), (0, .ref a0), (1, .int i1)]) hx hb dX5_undone_66 hl rfl (by rw [ev1]; rfl) (by decide) rfl (fun ls hl => ?_)
    refine lv_goto (tgt := 13) hx hb dX5_undone_69 (by decide) ?_
    exact hK13 h a0 i1 i2 v1 _ _ _ hf hw (lv_sub hl [3, 4, 1, 0] rfl)
  · refine lv_aload_n hx hb dX5_undone_48 rfl (lv_at hl 1 rfl) ?_
    refine lv_iload_n hx hb dX5_undone_49 rfl (lv_at hl 2 rfl) ?_
    refine lv_iload_n hx hb dX5_undone_50 rfl (lv_at hl 4 rfl) ?_
    refine lv_iconst (v := (-1 : Int32)) hx hb dX5_undone_51 (by decide) ?_
    refine lv_ixor hx hb dX5_undone_52 ?_
    refine lv_iand hx hb dX5_undone_53 ?_
    refine zw_cVZ (rest := []) [.int (i1 &&& (i3 ^^^ (-1 : Int32)))] X hw hl.1 hf rfl rfl (fun r hr => mt_X5_areAtPeace l D A E X.2.2.2.2.2.1 h a0 (i1 &&& (i3 ^^^ (-1 : Int32))) r hr) (lw_V q1540 q1542 qs56 q89 q1543) cd_X5_areAtPeace ⟨rfl, rfl⟩ ⟨Nat.le_of_ble_eq_true rfl, Nat.le_of_ble_eq_true rfl⟩ rfl rfl (Nat.le_of_ble_eq_true rfl) dX5_undone_54 ⟨Nat.le_of_ble_eq_true rfl, Nat.le_of_ble_eq_true rfl⟩ (fun r2 H locs hf hw => ?_)
    refine zw_if_eq (tgt := 64) hx hb hf dX5_undone_57 (by decide) (fun hf => ?_) (fun hf => ?_)
    · refine lv_iload_n hx hb dX5_undone_64 rfl (lv_at hl 3 rfl) ?_
      refine lv_istore_n (lv' := [(2, .int i2), (4, .int s0), (0, .ref a0), (1, .int i1), (3, .int i3)]) hx hb dX5_undone_65 rfl hl (by decide) rfl (fun ls hl => ?_)
      refine zw_nmS hf (fun v3 ev3 hf => ?_)
      refine lv_iinc (k := 4) (v := v3) (lv' := [(3, .int v3), (2, .int i2), (4, .int s0), (0, .ref a0), (1, .int i1)]) hx hb dX5_undone_66 hl rfl (by rw [ev3]; rfl) (by decide) rfl (fun ls hl => ?_)
      refine lv_goto (tgt := 13) hx hb dX5_undone_69 (by decide) ?_
      exact hK13 r2.2 a0 i1 i2 v3 _ _ _ hf hw (lv_sub hl [3, 4, 1, 0] rfl)
    · refine lv_iload_n hx hb dX5_undone_60 rfl (lv_at hl 4 rfl) ?_
      refine lv_goto (tgt := 65) hx hb dX5_undone_61 (by decide) ?_
      refine lv_istore_n (lv' := [(2, .int i3), (4, .int s0), (0, .ref a0), (1, .int i1), (3, .int i3)]) hx hb dX5_undone_65 rfl hl (by decide) rfl (fun ls hl => ?_)
      refine zw_nmS hf (fun v4 ev4 hf => ?_)
      refine lv_iinc (k := 4) (v := v4) (lv' := [(3, .int v4), (2, .int i3), (4, .int s0), (0, .ref a0), (1, .int i1)]) hx hb dX5_undone_66 hl rfl (by rw [ev4]; rfl) (by decide) rfl (fun ls hl => ?_)
      refine lv_goto (tgt := 13) hx hb dX5_undone_69 (by decide) ?_
      exact hK13 r2.2 a0 i1 i3 v4 _ _ _ hf hw (lv_sub hl [3, 4, 1, 0] rfl)
set_option maxHeartbeats 4000000 in
theorem k_X5_undone_13 {p : Program} {l : Launch} {e : Env} {s : State} {m : MethodId} {args : Array Value} {below : List Frame} {meth : Method} {c : Code} {D : va_G} {A : Nat → Prop} {E : State → Prop} (X : zCx p s m args meth c D A E cX5_undone 5 RX5 (Option.some FieldType.int)) (res : Int32 × zT) : ∀ (n : Nat), ∀ (h : zT) (a0 : Nat) (i1 : Int32) (i2 : Int32) (i3 : Int32) (H : Heap) (locs : List Loc) (ls : Array Slot), f_X5_undone_13 n h a0 i1 i2 i3 = some res → zWh D A s H h locs → lv_has ls 5 [(0, .ref a0), (1, .int i1), (2, .int i2), (3, .int i3)] → W p l e rm_X5_undone s m args below meth c H locs 0 0 (MQ below (zQW D A (some (.int res.1)) res.2) args s 0 0 A) (F0 m 13 ls []) := by
  have hx := X.1.1
  have hb := X.1.2.1
  have hown := X.1.2.2.2.1
  have hts := X.1.2.2.2.2
  intro n
  induction n with
  | zero =>
    intro h a0 i1 i2 i3 H locs ls hf hw hl
    cases hf
  | succ n ih =>
    intro h a0 i1 i2 i3 H locs ls hf hw hl
    unfold f_X5_undone_13 at hf
    refine lv_iload_n hx hb dX5_undone_13 rfl (lv_at hl 3 rfl) ?_
    refine zw_if_lt (tgt := 72) hx hb hf dX5_undone_14 (by decide) (fun hf => ?_) (fun hf => ?_)
    · refine lv_iload_n hx hb dX5_undone_72 rfl (lv_at hl 2 rfl) ?_
      exact zw_iret X hw hf (Nat.le_of_ble_eq_true rfl) (Nat.le_of_ble_eq_true rfl) dX5_undone_73
    · refine lv_iload_n hx hb dX5_undone_17 rfl (lv_at hl 3 rfl) ?_
      refine lv_iload_n hx hb dX5_undone_18 rfl (lv_at hl 1 rfl) ?_
      refine lv_iconst (v := (-1 : Int32)) hx hb dX5_undone_19 (by decide) ?_
      refine lv_ixor hx hb dX5_undone_20 ?_
      refine lv_iand hx hb dX5_undone_21 ?_
      refine zw_if_ne (tgt := 40) hx hb hf dX5_undone_22 (by decide) (fun hf => ?_) (fun hf => ?_)
      · refine lv_iconst (v := (0 : Int32)) hx hb dX5_undone_40 (by decide) ?_
        exact k_X5_undone_41 X _ (f_X5_undone_13 n) ih h a0 i1 i2 i3 (0 : Int32) _ _ _ hf hw (lv_sub hl [0, 1, 2, 3] rfl)
      · refine lv_iload_n hx hb dX5_undone_25 rfl (lv_at hl 3 rfl) ?_
        refine zw_cSI (rest := []) [.int i3] X hw hl.1 hf (fun r hr => mt_X5_manyIn l D A E X.2.2.2.2.2.1 h i3 r hr) (lw_S q1537 q1538 q89 q1539) cd_X5_manyIn ⟨rfl, rfl⟩ ⟨Nat.le_of_ble_eq_true rfl, Nat.le_of_ble_eq_true rfl⟩ rfl rfl (Nat.le_of_ble_eq_true rfl) dX5_undone_26 ⟨Nat.le_of_ble_eq_true rfl, Nat.le_of_ble_eq_true rfl⟩ (fun r1 H locs hf hw => ?_)
        refine lv_iload_n hx hb dX5_undone_29 rfl (lv_at hl 2 rfl) ?_
        refine zw_cSI (rest := [.int r1.1]) [.int i2] X hw hl.1 hf (fun r hr => mt_X5_manyIn l D A E X.2.2.2.2.2.1 r1.2 i2 r hr) (lw_S q1537 q1538 q89 q1539) cd_X5_manyIn ⟨rfl, rfl⟩ ⟨Nat.le_of_ble_eq_true rfl, Nat.le_of_ble_eq_true rfl⟩ rfl rfl (Nat.le_of_ble_eq_true rfl) dX5_undone_30 ⟨Nat.le_of_ble_eq_true rfl, Nat.le_of_ble_eq_true rfl⟩ (fun r2 H locs hf hw => ?_)
        refine zw_icmp_gt (tgt := 40) hx hb hf dX5_undone_33 (by decide) (fun hf => ?_) (fun hf => ?_)
        · refine lv_iconst (v := (0 : Int32)) hx hb dX5_undone_40 (by decide) ?_
          exact k_X5_undone_41 X _ (f_X5_undone_13 n) ih r2.2 a0 i1 i2 i3 (0 : Int32) _ _ _ hf hw (lv_sub hl [0, 1, 2, 3] rfl)
        · refine lv_iconst (v := (1 : Int32)) hx hb dX5_undone_36 (by decide) ?_
          refine lv_goto (tgt := 41) hx hb dX5_undone_37 (by decide) ?_
          exact k_X5_undone_41 X _ (f_X5_undone_13 n) ih r2.2 a0 i1 i2 i3 (1 : Int32) _ _ _ hf hw (lv_sub hl [0, 1, 2, 3] rfl)
set_option maxHeartbeats 4000000 in
theorem mt_X5_undone (l : Launch) (D : va_G) (A : Nat → Prop) (E : State → Prop) (hE : zEok A E) (h : zT) (a0 : Nat) (res : Int32 × zT) (hf : f_X5_undone h a0 = some res) : Met l yX5_undone (ws_ yX5_undone cX5_undone 5 (Option.some FieldType.int)) rm_X5_undone (zPW D A E h [.ref a0]) (zQW D A (some (.int res.1)) res.2) 0 0 A := by
  refine zmt hE (by decide) (Nat.le_of_ble_eq_true rfl) ?_
  intro p e s m below meth c ls hmn X hw hl
  have hl : lv_has ls 5 [(0, .ref a0)] := hl
  have hx := X.1.1
  have hb := X.1.2.1
  have hown := X.1.2.2.2.1
  have hts := X.1.2.2.2.2
  unfold f_X5_undone at hf
  refine lv_aload_n hx hb dX5_undone_0 rfl (lv_at hl 0 rfl) ?_
  refine zw_cVV (rest := []) [] X hw hl.1 hf rfl rfl (fun r hr => mt_X5_findClashing l D A E X.2.2.2.2.2.1 h a0 r hr) (lw_V q1529 q1531 qs54 q89 q1532) cd_X5_findClashing ⟨rfl, rfl⟩ ⟨Nat.le_of_ble_eq_true rfl, Nat.le_of_ble_eq_true rfl⟩ rfl rfl (Nat.le_of_ble_eq_true rfl) dX5_undone_1 ⟨Nat.le_of_ble_eq_true rfl, Nat.le_of_ble_eq_true rfl⟩ (fun r1 H locs hf hw => ?_)
  refine lv_aload_n hx hb dX5_undone_4 rfl (lv_at hl 0 rfl) ?_
  refine zw_cVI (rest := []) [] X hw hl.1 hf rfl rfl (fun r hr => mt_X5_laidOnes l D A E X.2.2.2.2.2.1 r1 a0 r hr) (lw_V q1533 q1535 qs55 q89 q1536) cd_X5_laidOnes ⟨rfl, rfl⟩ ⟨Nat.le_of_ble_eq_true rfl, Nat.le_of_ble_eq_true rfl⟩ rfl rfl (Nat.le_of_ble_eq_true rfl) dX5_undone_5 ⟨Nat.le_of_ble_eq_true rfl, Nat.le_of_ble_eq_true rfl⟩ (fun r2 H locs hf hw => ?_)
  refine lv_istore_n (lv' := [(1, .int r2.1), (0, .ref a0)]) hx hb dX5_undone_8 rfl hl (by decide) rfl (fun ls hl => ?_)
  refine lv_iload_n hx hb dX5_undone_9 rfl (lv_at hl 0 rfl) ?_
  refine lv_istore_n (lv' := [(2, .int r2.1), (1, .int r2.1), (0, .ref a0)]) hx hb dX5_undone_10 rfl hl (by decide) rfl (fun ls hl => ?_)
  refine lv_iload_n hx hb dX5_undone_11 rfl (lv_at hl 1 rfl) ?_
  refine lv_istore_n (lv' := [(3, .int r2.1), (2, .int r2.1), (1, .int r2.1), (0, .ref a0)]) hx hb dX5_undone_12 rfl hl (by decide) rfl (fun ls hl => ?_)
  exact k_X5_undone_13 X _ 4096 r2.2 a0 r2.1 r2.1 r2.1 _ _ _ hf hw (lv_sub hl [3, 2, 1, 0] rfl)
set_option maxHeartbeats 4000000 in
theorem k_X5_coveredBy_4 {p : Program} {l : Launch} {e : Env} {s : State} {m : MethodId} {args : Array Value} {below : List Frame} {meth : Method} {c : Code} {D : va_G} {A : Nat → Prop} {E : State → Prop} (X : zCx p s m args meth c D A E cX5_coveredBy 4 RX5 (Option.some FieldType.int)) (res : Int32 × zT) : ∀ (n : Nat), ∀ (h : zT) (a0 : Nat) (i1 : Int32) (i2 : Int32) (i3 : Int32) (H : Heap) (locs : List Loc) (ls : Array Slot), f_X5_coveredBy_4 n h a0 i1 i2 i3 = some res → zWh D A s H h locs → lv_has ls 4 [(0, .ref a0), (1, .int i1), (2, .int i2), (3, .int i3)] → W p l e rm_X5_coveredBy s m args below meth c H locs 0 0 (MQ below (zQW D A (some (.int res.1)) res.2) args s 0 0 A) (F0 m 4 ls []) := by
  have hx := X.1.1
  have hb := X.1.2.1
  have hown := X.1.2.2.2.1
  have hts := X.1.2.2.2.2
  intro n
  induction n with
  | zero =>
    intro h a0 i1 i2 i3 H locs ls hf hw hl
    cases hf
  | succ n ih =>
    intro h a0 i1 i2 i3 H locs ls hf hw hl
    unfold f_X5_coveredBy_4 at hf
    refine lv_iload_n hx hb dX5_coveredBy_4 rfl (lv_at hl 3 rfl) ?_
    refine lv_aload_n hx hb dX5_coveredBy_5 rfl (lv_at hl 0 rfl) ?_
    refine zw_getR X hw fs_X5_0 q1270 rfl hf dX5_coveredBy_6 (fun v1 hf => ?_)
    refine lv_iconst (v := (0 : Int32)) hx hb dX5_coveredBy_9 (by decide) ?_
    refine zw_ialoadR X hw hf dX5_coveredBy_10 (fun v2 hf => ?_)
    refine zw_icmp_ge (tgt := 41) hx hb hf dX5_coveredBy_11 (by decide) (fun hf => ?_) (fun hf => ?_)
    · refine lv_iload_n hx hb dX5_coveredBy_41 rfl (lv_at hl 2 rfl) ?_
      exact zw_iret X hw hf (Nat.le_of_ble_eq_true rfl) (Nat.le_of_ble_eq_true rfl) dX5_coveredBy_42
    · refine lv_iload_n hx hb dX5_coveredBy_14 rfl (lv_at hl 2 rfl) ?_
      refine lv_iload_n hx hb dX5_coveredBy_15 rfl (lv_at hl 1 rfl) ?_
      refine lv_iload_n hx hb dX5_coveredBy_16 rfl (lv_at hl 3 rfl) ?_
      refine lv_ishr hx hb dX5_coveredBy_17 ?_
      refine lv_iconst (v := (1 : Int32)) hx hb dX5_coveredBy_18 (by decide) ?_
      refine lv_iand hx hb dX5_coveredBy_19 ?_
      refine lv_iconst (v := (1 : Int32)) hx hb dX5_coveredBy_20 (by decide) ?_
      refine zw_icmp_ne (tgt := 32) hx hb hf dX5_coveredBy_21 (by decide) (fun hf => ?_) (fun hf => ?_)
      · refine lv_iconst (v := (0 : Int32)) hx hb dX5_coveredBy_32 (by decide) ?_
        refine lv_ior hx hb dX5_coveredBy_33 ?_
        refine zw_nmI hf (fun v3 hf => ?_)
        refine lv_istore_n (lv' := [(2, .int v3), (0, .ref a0), (1, .int i1), (3, .int i3)]) hx hb dX5_coveredBy_34 rfl hl (by decide) rfl (fun ls hl => ?_)
        refine zw_nmS hf (fun v4 ev4 hf => ?_)
        refine lv_iinc (k := 3) (v := v4) (lv' := [(3, .int v4), (2, .int v3), (0, .ref a0), (1, .int i1)]) hx hb dX5_coveredBy_35 hl rfl (by rw [ev4]; rfl) (by decide) rfl (fun ls hl => ?_)
        refine lv_goto (tgt := 4) hx hb dX5_coveredBy_38 (by decide) ?_
        exact ih h a0 i1 v3 v4 _ _ _ hf hw (lv_sub hl [2, 3, 1, 0] rfl)
      · refine lv_aload_n hx hb dX5_coveredBy_24 rfl (lv_at hl 0 rfl) ?_
        refine lv_iload_n hx hb dX5_coveredBy_25 rfl (lv_at hl 3 rfl) ?_
        refine zw_cVI (rest := [.int i2]) [.int i3] X hw hl.1 hf rfl rfl (fun r hr => mt_X5_covers l D A E X.2.2.2.2.2.1 h a0 i3 r hr) (lw_V q1399 q1401 qs40 q89 q1402) cd_X5_covers ⟨rfl, rfl⟩ ⟨Nat.le_of_ble_eq_true rfl, Nat.le_of_ble_eq_true rfl⟩ rfl rfl (Nat.le_of_ble_eq_true rfl) dX5_coveredBy_26 ⟨Nat.le_of_ble_eq_true rfl, Nat.le_of_ble_eq_true rfl⟩ (fun r5 H locs hf hw => ?_)
        refine lv_goto (tgt := 33) hx hb dX5_coveredBy_29 (by decide) ?_
        refine lv_ior hx hb dX5_coveredBy_33 ?_
        refine zw_nmI hf (fun v6 hf => ?_)
        refine lv_istore_n (lv' := [(2, .int v6), (0, .ref a0), (1, .int i1), (3, .int i3)]) hx hb dX5_coveredBy_34 rfl hl (by decide) rfl (fun ls hl => ?_)
        refine zw_nmS hf (fun v7 ev7 hf => ?_)
        refine lv_iinc (k := 3) (v := v7) (lv' := [(3, .int v7), (2, .int v6), (0, .ref a0), (1, .int i1)]) hx hb dX5_coveredBy_35 hl rfl (by rw [ev7]; rfl) (by decide) rfl (fun ls hl => ?_)
        refine lv_goto (tgt := 4) hx hb dX5_coveredBy_38 (by decide) ?_
        exact ih r5.2 a0 i1 v6 v7 _ _ _ hf hw (lv_sub hl [2, 3, 1, 0] rfl)
set_option maxHeartbeats 4000000 in
theorem mt_X5_coveredBy (l : Launch) (D : va_G) (A : Nat → Prop) (E : State → Prop) (hE : zEok A E) (h : zT) (a0 : Nat) (i1 : Int32) (res : Int32 × zT) (hf : f_X5_coveredBy h a0 i1 = some res) : Met l yX5_coveredBy (ws_ yX5_coveredBy cX5_coveredBy 4 (Option.some FieldType.int)) rm_X5_coveredBy (zPW D A E h [.ref a0, .int i1]) (zQW D A (some (.int res.1)) res.2) 0 0 A := by
  refine zmt hE (by decide) (Nat.le_of_ble_eq_true rfl) ?_
  intro p e s m below meth c ls hmn X hw hl
  have hl : lv_has ls 4 [(0, .ref a0), (1, .int i1)] := hl
  have hx := X.1.1
  have hb := X.1.2.1
  have hown := X.1.2.2.2.1
  have hts := X.1.2.2.2.2
  unfold f_X5_coveredBy at hf
  refine lv_iconst (v := (0 : Int32)) hx hb dX5_coveredBy_0 (by decide) ?_
  refine lv_istore_n (lv' := [(2, .int (0 : Int32)), (0, .ref a0), (1, .int i1)]) hx hb dX5_coveredBy_1 rfl hl (by decide) rfl (fun ls hl => ?_)
  refine lv_iconst (v := (0 : Int32)) hx hb dX5_coveredBy_2 (by decide) ?_
  refine lv_istore_n (lv' := [(3, .int (0 : Int32)), (2, .int (0 : Int32)), (0, .ref a0), (1, .int i1)]) hx hb dX5_coveredBy_3 rfl hl (by decide) rfl (fun ls hl => ?_)
  exact k_X5_coveredBy_4 X _ 4096 h a0 i1 (0 : Int32) (0 : Int32) _ _ _ hf hw (lv_sub hl [2, 3, 1, 0] rfl)
set_option maxHeartbeats 4000000 in
theorem k_X5_borne_47 {p : Program} {l : Launch} {e : Env} {s : State} {m : MethodId} {args : Array Value} {below : List Frame} {meth : Method} {c : Code} {D : va_G} {A : Nat → Prop} {E : State → Prop} (X : zCx p s m args meth c D A E cX5_borne 6 RX5 (Option.some FieldType.int)) (res : Int32 × zT) (K16 : zT → Nat → Int32 → Int32 → Int32 → Int32 → Option (Int32 × zT)) (hK16 : ∀ (h : zT) (a0 : Nat) (i1 : Int32) (i2 : Int32) (i3 : Int32) (i4 : Int32) (H : Heap) (locs : List Loc) (ls : Array Slot), K16 h a0 i1 i2 i3 i4 = some res → zWh D A s H h locs → lv_has ls 6 [(0, .ref a0), (1, .int i1), (2, .int i2), (3, .int i3), (4, .int i4)] → W p l e rm_X5_borne s m args below meth c H locs 0 0 (MQ below (zQW D A (some (.int res.1)) res.2) args s 0 0 A) (F0 m 16 ls [])) : ∀ (h : zT) (a0 : Nat) (i1 : Int32) (i2 : Int32) (i3 : Int32) (i4 : Int32) (s0 : Int32) (H : Heap) (locs : List Loc) (ls : Array Slot), f_X5_borne_47 K16 h a0 i1 i2 i3 i4 s0 = some res → zWh D A s H h locs → lv_has ls 6 [(0, .ref a0), (1, .int i1), (2, .int i2), (3, .int i3), (4, .int i4)] → W p l e rm_X5_borne s m args below meth c H locs 0 0 (MQ below (zQW D A (some (.int res.1)) res.2) args s 0 0 A) (F0 m 47 ls [.int s0]) := by
  have hx := X.1.1
  have hb := X.1.2.1
  have hown := X.1.2.2.2.1
  have hts := X.1.2.2.2.2
  intro h a0 i1 i2 i3 i4 s0 H locs ls hf hw hl
  unfold f_X5_borne_47 at hf
  refine lv_istore (lv' := [(5, .int s0), (0, .ref a0), (1, .int i1), (2, .int i2), (3, .int i3), (4, .int i4)]) hx hb dX5_borne_47 hl (by decide) rfl (fun ls hl => ?_)
  refine lv_iload hx hb dX5_borne_49 (lv_at hl 0 rfl) ?_
  refine zw_if_eq (tgt := 69) hx hb hf dX5_borne_51 (by decide) (fun hf => ?_) (fun hf => ?_)
  · refine lv_iload_n hx hb dX5_borne_69 rfl (lv_at hl 4 rfl) ?_
    refine lv_istore_n (lv' := [(3, .int i3), (5, .int s0), (0, .ref a0), (1, .int i1), (2, .int i2), (4, .int i4)]) hx hb dX5_borne_70 rfl hl (by decide) rfl (fun ls hl => ?_)
    refine zw_nmS hf (fun v1 ev1 hf => ?_)
    refine lv_iinc (k := 5) (v := v1) (lv' := [(4, .int v1), (3, .int i3), (5, .int s0), (0, .ref a0), (1, .int i1), (2, .int i2)]) hx hb dX5_borne_71 hl rfl (by rw [ev1]; rfl) (by decide) rfl (fun ls hl => ?_)
    refine lv_goto (tgt := 16) hx hb dX5_borne_74 (by decide) ?_
    exact hK16 h a0 i1 i2 i3 v1 _ _ _ hf hw (lv_sub hl [3, 4, 5, 1, 0] rfl)
  · refine lv_aload_n hx hb dX5_borne_54 rfl (lv_at hl 1 rfl) ?_
    refine lv_iload hx hb dX5_borne_55 (lv_at hl 5 rfl) ?_
    refine zw_cVI (rest := []) [.int i4] X hw hl.1 hf rfl rfl (fun r hr => mt_X5_coveredBy l D A E X.2.2.2.2.2.1 h a0 i4 r hr) (lw_V q1548 q1550 qs57 q89 q1551) cd_X5_coveredBy ⟨rfl, rfl⟩ ⟨Nat.le_of_ble_eq_true rfl, Nat.le_of_ble_eq_true rfl⟩ rfl rfl (Nat.le_of_ble_eq_true rfl) dX5_borne_57 ⟨Nat.le_of_ble_eq_true rfl, Nat.le_of_ble_eq_true rfl⟩ (fun r2 H locs hf hw => ?_)
    refine lv_iload_n hx hb dX5_borne_60 rfl (lv_at hl 3 rfl) ?_
    refine zw_icmp_ne (tgt := 69) hx hb hf dX5_borne_61 (by decide) (fun hf => ?_) (fun hf => ?_)
    · refine lv_iload_n hx hb dX5_borne_69 rfl (lv_at hl 4 rfl) ?_
      refine lv_istore_n (lv' := [(3, .int i3), (5, .int s0), (0, .ref a0), (1, .int i1), (2, .int i2), (4, .int i4)]) hx hb dX5_borne_70 rfl hl (by decide) rfl (fun ls hl => ?_)
      refine zw_nmS hf (fun v3 ev3 hf => ?_)
      refine lv_iinc (k := 5) (v := v3) (lv' := [(4, .int v3), (3, .int i3), (5, .int s0), (0, .ref a0), (1, .int i1), (2, .int i2)]) hx hb dX5_borne_71 hl rfl (by rw [ev3]; rfl) (by decide) rfl (fun ls hl => ?_)
      refine lv_goto (tgt := 16) hx hb dX5_borne_74 (by decide) ?_
      exact hK16 r2.2 a0 i1 i2 i3 v3 _ _ _ hf hw (lv_sub hl [3, 4, 5, 1, 0] rfl)
    · refine lv_iload hx hb dX5_borne_64 (lv_at hl 5 rfl) ?_
      refine lv_goto (tgt := 70) hx hb dX5_borne_66 (by decide) ?_
      refine lv_istore_n (lv' := [(3, .int i4), (5, .int s0), (0, .ref a0), (1, .int i1), (2, .int i2), (4, .int i4)]) hx hb dX5_borne_70 rfl hl (by decide) rfl (fun ls hl => ?_)
      refine zw_nmS hf (fun v4 ev4 hf => ?_)
      refine lv_iinc (k := 5) (v := v4) (lv' := [(4, .int v4), (3, .int i4), (5, .int s0), (0, .ref a0), (1, .int i1), (2, .int i2)]) hx hb dX5_borne_71 hl rfl (by rw [ev4]; rfl) (by decide) rfl (fun ls hl => ?_)
      refine lv_goto (tgt := 16) hx hb dX5_borne_74 (by decide) ?_
      exact hK16 r2.2 a0 i1 i2 i4 v4 _ _ _ hf hw (lv_sub hl [3, 4, 5, 1, 0] rfl)
set_option maxHeartbeats 4000000 in
theorem k_X5_borne_16 {p : Program} {l : Launch} {e : Env} {s : State} {m : MethodId} {args : Array Value} {below : List Frame} {meth : Method} {c : Code} {D : va_G} {A : Nat → Prop} {E : State → Prop} (X : zCx p s m args meth c D A E cX5_borne 6 RX5 (Option.some FieldType.int)) (res : Int32 × zT) : ∀ (n : Nat), ∀ (h : zT) (a0 : Nat) (i1 : Int32) (i2 : Int32) (i3 : Int32) (i4 : Int32) (H : Heap) (locs : List Loc) (ls : Array Slot), f_X5_borne_16 n h a0 i1 i2 i3 i4 = some res → zWh D A s H h locs → lv_has ls 6 [(0, .ref a0), (1, .int i1), (2, .int i2), (3, .int i3), (4, .int i4)] → W p l e rm_X5_borne s m args below meth c H locs 0 0 (MQ below (zQW D A (some (.int res.1)) res.2) args s 0 0 A) (F0 m 16 ls []) := by
  have hx := X.1.1
  have hb := X.1.2.1
  have hown := X.1.2.2.2.1
  have hts := X.1.2.2.2.2
  intro n
  induction n with
  | zero =>
    intro h a0 i1 i2 i3 i4 H locs ls hf hw hl
    cases hf
  | succ n ih =>
    intro h a0 i1 i2 i3 i4 H locs ls hf hw hl
    unfold f_X5_borne_16 at hf
    refine lv_iload hx hb dX5_borne_16 (lv_at hl 4 rfl) ?_
    refine zw_if_lt (tgt := 77) hx hb hf dX5_borne_18 (by decide) (fun hf => ?_) (fun hf => ?_)
    · refine lv_iload_n hx hb dX5_borne_77 rfl (lv_at hl 3 rfl) ?_
      exact zw_iret X hw hf (Nat.le_of_ble_eq_true rfl) (Nat.le_of_ble_eq_true rfl) dX5_borne_78
    · refine lv_iload hx hb dX5_borne_21 (lv_at hl 4 rfl) ?_
      refine lv_iload_n hx hb dX5_borne_23 rfl (lv_at hl 1 rfl) ?_
      refine lv_iconst (v := (-1 : Int32)) hx hb dX5_borne_24 (by decide) ?_
      refine lv_ixor hx hb dX5_borne_25 ?_
      refine lv_iand hx hb dX5_borne_26 ?_
      refine zw_if_ne (tgt := 46) hx hb hf dX5_borne_27 (by decide) (fun hf => ?_) (fun hf => ?_)
      · refine lv_iconst (v := (0 : Int32)) hx hb dX5_borne_46 (by decide) ?_
        exact k_X5_borne_47 X _ (f_X5_borne_16 n) ih h a0 i1 i2 i3 i4 (0 : Int32) _ _ _ hf hw (lv_sub hl [0, 1, 2, 3, 4] rfl)
      · refine lv_iload hx hb dX5_borne_30 (lv_at hl 4 rfl) ?_
        refine zw_cSI (rest := []) [.int i4] X hw hl.1 hf (fun r hr => mt_X5_manyIn l D A E X.2.2.2.2.2.1 h i4 r hr) (lw_S q1537 q1538 q89 q1539) cd_X5_manyIn ⟨rfl, rfl⟩ ⟨Nat.le_of_ble_eq_true rfl, Nat.le_of_ble_eq_true rfl⟩ rfl rfl (Nat.le_of_ble_eq_true rfl) dX5_borne_32 ⟨Nat.le_of_ble_eq_true rfl, Nat.le_of_ble_eq_true rfl⟩ (fun r1 H locs hf hw => ?_)
        refine lv_iload_n hx hb dX5_borne_35 rfl (lv_at hl 3 rfl) ?_
        refine zw_cSI (rest := [.int r1.1]) [.int i3] X hw hl.1 hf (fun r hr => mt_X5_manyIn l D A E X.2.2.2.2.2.1 r1.2 i3 r hr) (lw_S q1537 q1538 q89 q1539) cd_X5_manyIn ⟨rfl, rfl⟩ ⟨Nat.le_of_ble_eq_true rfl, Nat.le_of_ble_eq_true rfl⟩ rfl rfl (Nat.le_of_ble_eq_true rfl) dX5_borne_36 ⟨Nat.le_of_ble_eq_true rfl, Nat.le_of_ble_eq_true rfl⟩ (fun r2 H locs hf hw => ?_)
        refine zw_icmp_gt (tgt := 46) hx hb hf dX5_borne_39 (by decide) (fun hf => ?_) (fun hf => ?_)
        · refine lv_iconst (v := (0 : Int32)) hx hb dX5_borne_46 (by decide) ?_
          exact k_X5_borne_47 X _ (f_X5_borne_16 n) ih r2.2 a0 i1 i2 i3 i4 (0 : Int32) _ _ _ hf hw (lv_sub hl [0, 1, 2, 3, 4] rfl)
        · refine lv_iconst (v := (1 : Int32)) hx hb dX5_borne_42 (by decide) ?_
          refine lv_goto (tgt := 47) hx hb dX5_borne_43 (by decide) ?_
          exact k_X5_borne_47 X _ (f_X5_borne_16 n) ih r2.2 a0 i1 i2 i3 i4 (1 : Int32) _ _ _ hf hw (lv_sub hl [0, 1, 2, 3, 4] rfl)
set_option maxHeartbeats 4000000 in
theorem mt_X5_borne (l : Launch) (D : va_G) (A : Nat → Prop) (E : State → Prop) (hE : zEok A E) (h : zT) (a0 : Nat) (res : Int32 × zT) (hf : f_X5_borne h a0 = some res) : Met l yX5_borne (ws_ yX5_borne cX5_borne 6 (Option.some FieldType.int)) rm_X5_borne (zPW D A E h [.ref a0]) (zQW D A (some (.int res.1)) res.2) 0 0 A := by
  refine zmt hE (by decide) (Nat.le_of_ble_eq_true rfl) ?_
  intro p e s m below meth c ls hmn X hw hl
  have hl : lv_has ls 6 [(0, .ref a0)] := hl
  have hx := X.1.1
  have hb := X.1.2.1
  have hown := X.1.2.2.2.1
  have hts := X.1.2.2.2.2
  unfold f_X5_borne at hf
  refine lv_aload_n hx hb dX5_borne_0 rfl (lv_at hl 0 rfl) ?_
  refine zw_cVI (rest := []) [] X hw hl.1 hf rfl rfl (fun r hr => mt_X5_laidOnes l D A E X.2.2.2.2.2.1 h a0 r hr) (lw_V q1533 q1535 qs55 q89 q1536) cd_X5_laidOnes ⟨rfl, rfl⟩ ⟨Nat.le_of_ble_eq_true rfl, Nat.le_of_ble_eq_true rfl⟩ rfl rfl (Nat.le_of_ble_eq_true rfl) dX5_borne_1 ⟨Nat.le_of_ble_eq_true rfl, Nat.le_of_ble_eq_true rfl⟩ (fun r1 H locs hf hw => ?_)
  refine lv_istore_n (lv' := [(1, .int r1.1), (0, .ref a0)]) hx hb dX5_borne_4 rfl hl (by decide) rfl (fun ls hl => ?_)
  refine lv_aload_n hx hb dX5_borne_5 rfl (lv_at hl 1 rfl) ?_
  refine lv_iload_n hx hb dX5_borne_6 rfl (lv_at hl 0 rfl) ?_
  refine zw_cVI (rest := []) [.int r1.1] X hw hl.1 hf rfl rfl (fun r hr => mt_X5_coveredBy l D A E X.2.2.2.2.2.1 r1.2 a0 r1.1 r hr) (lw_V q1548 q1550 qs57 q89 q1551) cd_X5_coveredBy ⟨rfl, rfl⟩ ⟨Nat.le_of_ble_eq_true rfl, Nat.le_of_ble_eq_true rfl⟩ rfl rfl (Nat.le_of_ble_eq_true rfl) dX5_borne_7 ⟨Nat.le_of_ble_eq_true rfl, Nat.le_of_ble_eq_true rfl⟩ (fun r2 H locs hf hw => ?_)
  refine lv_istore_n (lv' := [(2, .int r2.1), (1, .int r1.1), (0, .ref a0)]) hx hb dX5_borne_10 rfl hl (by decide) rfl (fun ls hl => ?_)
  refine lv_iload_n hx hb dX5_borne_11 rfl (lv_at hl 1 rfl) ?_
  refine lv_istore_n (lv' := [(3, .int r1.1), (2, .int r2.1), (1, .int r1.1), (0, .ref a0)]) hx hb dX5_borne_12 rfl hl (by decide) rfl (fun ls hl => ?_)
  refine lv_iload_n hx hb dX5_borne_13 rfl (lv_at hl 2 rfl) ?_
  refine lv_istore (lv' := [(4, .int r1.1), (3, .int r1.1), (2, .int r2.1), (1, .int r1.1), (0, .ref a0)]) hx hb dX5_borne_14 hl (by decide) rfl (fun ls hl => ?_)
  exact k_X5_borne_16 X _ 4096 r2.2 a0 r1.1 r2.1 r1.1 r1.1 _ _ _ hf hw (lv_sub hl [4, 3, 2, 1, 0] rfl)
set_option maxHeartbeats 4000000 in
theorem k_X5_otherwiseAt_4 {p : Program} {l : Launch} {e : Env} {s : State} {m : MethodId} {args : Array Value} {below : List Frame} {meth : Method} {c : Code} {D : va_G} {A : Nat → Prop} {E : State → Prop} (X : zCx p s m args meth c D A E cX5_otherwiseAt 4 RX5 (Option.some FieldType.int)) (res : Int32 × zT) : ∀ (n : Nat), ∀ (h : zT) (a0 : Nat) (i1 : Int32) (i2 : Int32) (i3 : Int32) (H : Heap) (locs : List Loc) (ls : Array Slot), f_X5_otherwiseAt_4 n h a0 i1 i2 i3 = some res → zWh D A s H h locs → lv_has ls 4 [(0, .ref a0), (1, .int i1), (2, .int i2), (3, .int i3)] → W p l e rm_X5_otherwiseAt s m args below meth c H locs 0 0 (MQ below (zQW D A (some (.int res.1)) res.2) args s 0 0 A) (F0 m 4 ls []) := by
  have hx := X.1.1
  have hb := X.1.2.1
  have hown := X.1.2.2.2.1
  have hts := X.1.2.2.2.2
  intro n
  induction n with
  | zero =>
    intro h a0 i1 i2 i3 H locs ls hf hw hl
    cases hf
  | succ n ih =>
    intro h a0 i1 i2 i3 H locs ls hf hw hl
    unfold f_X5_otherwiseAt_4 at hf
    refine lv_iload_n hx hb dX5_otherwiseAt_4 rfl (lv_at hl 3 rfl) ?_
    refine lv_aload_n hx hb dX5_otherwiseAt_5 rfl (lv_at hl 0 rfl) ?_
    refine zw_getR X hw fs_X5_0 q1270 rfl hf dX5_otherwiseAt_6 (fun v1 hf => ?_)
    refine lv_iconst (v := (0 : Int32)) hx hb dX5_otherwiseAt_9 (by decide) ?_
    refine zw_ialoadR X hw hf dX5_otherwiseAt_10 (fun v2 hf => ?_)
    refine zw_icmp_ge (tgt := 65) hx hb hf dX5_otherwiseAt_11 (by decide) (fun hf => ?_) (fun hf => ?_)
    · refine lv_iload_n hx hb dX5_otherwiseAt_65 rfl (lv_at hl 2 rfl) ?_
      exact zw_iret X hw hf (Nat.le_of_ble_eq_true rfl) (Nat.le_of_ble_eq_true rfl) dX5_otherwiseAt_66
    · refine lv_iload_n hx hb dX5_otherwiseAt_14 rfl (lv_at hl 2 rfl) ?_
      refine lv_aload_n hx hb dX5_otherwiseAt_15 rfl (lv_at hl 0 rfl) ?_
      refine lv_iload_n hx hb dX5_otherwiseAt_16 rfl (lv_at hl 3 rfl) ?_
      refine zw_cVI (rest := [.int i2]) [.int i3] X hw hl.1 hf rfl rfl (fun r hr => mt_X5_covers l D A E X.2.2.2.2.2.1 h a0 i3 r hr) (lw_V q1399 q1401 qs40 q89 q1402) cd_X5_covers ⟨rfl, rfl⟩ ⟨Nat.le_of_ble_eq_true rfl, Nat.le_of_ble_eq_true rfl⟩ rfl rfl (Nat.le_of_ble_eq_true rfl) dX5_otherwiseAt_17 ⟨Nat.le_of_ble_eq_true rfl, Nat.le_of_ble_eq_true rfl⟩ (fun r3 H locs hf hw => ?_)
      refine lv_iload_n hx hb dX5_otherwiseAt_20 rfl (lv_at hl 1 rfl) ?_
      refine lv_ishr hx hb dX5_otherwiseAt_21 ?_
      refine lv_iconst (v := (1 : Int32)) hx hb dX5_otherwiseAt_22 (by decide) ?_
      refine lv_iand hx hb dX5_otherwiseAt_23 ?_
      refine lv_iconst (v := (1 : Int32)) hx hb dX5_otherwiseAt_24 (by decide) ?_
      refine zw_icmp_ne (tgt := 56) hx hb hf dX5_otherwiseAt_25 (by decide) (fun hf => ?_) (fun hf => ?_)
      · refine lv_iconst (v := (0 : Int32)) hx hb dX5_otherwiseAt_56 (by decide) ?_
        refine lv_iadd hx hb dX5_otherwiseAt_57 ?_
        refine zw_nmI hf (fun v4 hf => ?_)
        refine lv_istore_n (lv' := [(2, .int v4), (0, .ref a0), (1, .int i1), (3, .int i3)]) hx hb dX5_otherwiseAt_58 rfl hl (by decide) rfl (fun ls hl => ?_)
        refine zw_nmS hf (fun v5 ev5 hf => ?_)
        refine lv_iinc (k := 3) (v := v5) (lv' := [(3, .int v5), (2, .int v4), (0, .ref a0), (1, .int i1)]) hx hb dX5_otherwiseAt_59 hl rfl (by rw [ev5]; rfl) (by decide) rfl (fun ls hl => ?_)
        refine lv_goto (tgt := 4) hx hb dX5_otherwiseAt_62 (by decide) ?_
        exact ih r3.2 a0 i1 v4 v5 _ _ _ hf hw (lv_sub hl [2, 3, 1, 0] rfl)
      · refine lv_aload_n hx hb dX5_otherwiseAt_28 rfl (lv_at hl 0 rfl) ?_
        refine lv_iload_n hx hb dX5_otherwiseAt_29 rfl (lv_at hl 3 rfl) ?_
        refine lv_iload_n hx hb dX5_otherwiseAt_30 rfl (lv_at hl 1 rfl) ?_
        refine lv_aload_n hx hb dX5_otherwiseAt_31 rfl (lv_at hl 0 rfl) ?_
        refine lv_iload_n hx hb dX5_otherwiseAt_32 rfl (lv_at hl 3 rfl) ?_
        refine lv_iconst (v := (4 : Int32)) hx hb dX5_otherwiseAt_33 (by decide) ?_
        refine zw_cVI (rest := [.int i1, .int i3, .ref a0, .int i2]) [.int i3, .int (4 : Int32)] X hw hl.1 hf rfl rfl (fun r hr => mt_X5_of l D A E X.2.2.2.2.2.1 r3.2 a0 i3 (4 : Int32) r hr) (lw_V q1395 q1397 qs39 q89 q1398) cd_X5_of ⟨rfl, rfl⟩ ⟨Nat.le_of_ble_eq_true rfl, Nat.le_of_ble_eq_true rfl⟩ rfl rfl (Nat.le_of_ble_eq_true rfl) dX5_otherwiseAt_34 ⟨Nat.le_of_ble_eq_true rfl, Nat.le_of_ble_eq_true rfl⟩ (fun r6 H locs hf hw => ?_)
        refine lv_isub hx hb dX5_otherwiseAt_37 ?_
        refine zw_cVI (rest := [.int i2]) [.int i3, .int (i1 - r6.1)] X hw hl.1 hf rfl rfl (fun r hr => mt_X5_saysAt l D A E X.2.2.2.2.2.1 r6.2 a0 i3 (i1 - r6.1) r hr) (lw_V q1442 q1444 qs48 q89 q1445) cd_X5_saysAt ⟨rfl, rfl⟩ ⟨Nat.le_of_ble_eq_true rfl, Nat.le_of_ble_eq_true rfl⟩ rfl rfl (Nat.le_of_ble_eq_true rfl) dX5_otherwiseAt_38 ⟨Nat.le_of_ble_eq_true rfl, Nat.le_of_ble_eq_true rfl⟩ (fun r7 H locs hf hw => ?_)
        refine lv_aload_n hx hb dX5_otherwiseAt_41 rfl (lv_at hl 0 rfl) ?_
        refine zw_getR X hw fs_X5_0 q1270 rfl hf dX5_otherwiseAt_42 (fun v8 hf => ?_)
        refine lv_iconst (v := (5 : Int32)) hx hb dX5_otherwiseAt_45 (by decide) ?_
        refine lv_iload_n hx hb dX5_otherwiseAt_46 rfl (lv_at hl 1 rfl) ?_
        refine lv_iadd hx hb dX5_otherwiseAt_47 ?_
        refine zw_ialoadR X hw hf dX5_otherwiseAt_48 (fun v9 hf => ?_)
        refine zw_icmp_eq (tgt := 56) hx hb hf dX5_otherwiseAt_49 (by decide) (fun hf => ?_) (fun hf => ?_)
        · refine lv_iconst (v := (0 : Int32)) hx hb dX5_otherwiseAt_56 (by decide) ?_
          refine lv_iadd hx hb dX5_otherwiseAt_57 ?_
          refine zw_nmI hf (fun v10 hf => ?_)
          refine lv_istore_n (lv' := [(2, .int v10), (0, .ref a0), (1, .int i1), (3, .int i3)]) hx hb dX5_otherwiseAt_58 rfl hl (by decide) rfl (fun ls hl => ?_)
          refine zw_nmS hf (fun v11 ev11 hf => ?_)
          refine lv_iinc (k := 3) (v := v11) (lv' := [(3, .int v11), (2, .int v10), (0, .ref a0), (1, .int i1)]) hx hb dX5_otherwiseAt_59 hl rfl (by rw [ev11]; rfl) (by decide) rfl (fun ls hl => ?_)
          refine lv_goto (tgt := 4) hx hb dX5_otherwiseAt_62 (by decide) ?_
          exact ih r7.2 a0 i1 v10 v11 _ _ _ hf hw (lv_sub hl [2, 3, 1, 0] rfl)
        · refine lv_iconst (v := (1 : Int32)) hx hb dX5_otherwiseAt_52 (by decide) ?_
          refine lv_goto (tgt := 57) hx hb dX5_otherwiseAt_53 (by decide) ?_
          refine lv_iadd hx hb dX5_otherwiseAt_57 ?_
          refine zw_nmI hf (fun v12 hf => ?_)
          refine lv_istore_n (lv' := [(2, .int v12), (0, .ref a0), (1, .int i1), (3, .int i3)]) hx hb dX5_otherwiseAt_58 rfl hl (by decide) rfl (fun ls hl => ?_)
          refine zw_nmS hf (fun v13 ev13 hf => ?_)
          refine lv_iinc (k := 3) (v := v13) (lv' := [(3, .int v13), (2, .int v12), (0, .ref a0), (1, .int i1)]) hx hb dX5_otherwiseAt_59 hl rfl (by rw [ev13]; rfl) (by decide) rfl (fun ls hl => ?_)
          refine lv_goto (tgt := 4) hx hb dX5_otherwiseAt_62 (by decide) ?_
          exact ih r7.2 a0 i1 v12 v13 _ _ _ hf hw (lv_sub hl [2, 3, 1, 0] rfl)
set_option maxHeartbeats 4000000 in
theorem mt_X5_otherwiseAt (l : Launch) (D : va_G) (A : Nat → Prop) (E : State → Prop) (hE : zEok A E) (h : zT) (a0 : Nat) (i1 : Int32) (res : Int32 × zT) (hf : f_X5_otherwiseAt h a0 i1 = some res) : Met l yX5_otherwiseAt (ws_ yX5_otherwiseAt cX5_otherwiseAt 4 (Option.some FieldType.int)) rm_X5_otherwiseAt (zPW D A E h [.ref a0, .int i1]) (zQW D A (some (.int res.1)) res.2) 0 0 A := by
  refine zmt hE (by decide) (Nat.le_of_ble_eq_true rfl) ?_
  intro p e s m below meth c ls hmn X hw hl
  have hl : lv_has ls 4 [(0, .ref a0), (1, .int i1)] := hl
  have hx := X.1.1
  have hb := X.1.2.1
  have hown := X.1.2.2.2.1
  have hts := X.1.2.2.2.2
  unfold f_X5_otherwiseAt at hf
  refine lv_iconst (v := (0 : Int32)) hx hb dX5_otherwiseAt_0 (by decide) ?_
  refine lv_istore_n (lv' := [(2, .int (0 : Int32)), (0, .ref a0), (1, .int i1)]) hx hb dX5_otherwiseAt_1 rfl hl (by decide) rfl (fun ls hl => ?_)
  refine lv_iconst (v := (0 : Int32)) hx hb dX5_otherwiseAt_2 (by decide) ?_
  refine lv_istore_n (lv' := [(3, .int (0 : Int32)), (2, .int (0 : Int32)), (0, .ref a0), (1, .int i1)]) hx hb dX5_otherwiseAt_3 rfl hl (by decide) rfl (fun ls hl => ?_)
  exact k_X5_otherwiseAt_4 X _ 4096 h a0 i1 (0 : Int32) (0 : Int32) _ _ _ hf hw (lv_sub hl [2, 3, 1, 0] rfl)
set_option maxHeartbeats 4000000 in
theorem k_X5_look_17 {p : Program} {l : Launch} {e : Env} {s : State} {m : MethodId} {args : Array Value} {below : List Frame} {meth : Method} {c : Code} {D : va_G} {A : Nat → Prop} {E : State → Prop} (X : zCx p s m args meth c D A E cX5_look 4 RX5 (Option.some FieldType.int)) (res : Int32 × zT) : ∀ (n : Nat), ∀ (h : zT) (a0 : Nat) (i1 : Int32) (i2 : Int32) (i3 : Int32) (H : Heap) (locs : List Loc) (ls : Array Slot), f_X5_look_17 n h a0 i1 i2 i3 = some res → zWh D A s H h locs → lv_has ls 4 [(0, .ref a0), (1, .int i1), (2, .int i2), (3, .int i3)] → W p l e rm_X5_look s m args below meth c H locs 0 0 (MQ below (zQW D A (some (.int res.1)) res.2) args s 0 0 A) (F0 m 17 ls []) := by
  have hx := X.1.1
  have hb := X.1.2.1
  have hown := X.1.2.2.2.1
  have hts := X.1.2.2.2.2
  intro n
  induction n with
  | zero =>
    intro h a0 i1 i2 i3 H locs ls hf hw hl
    cases hf
  | succ n ih =>
    intro h a0 i1 i2 i3 H locs ls hf hw hl
    unfold f_X5_look_17 at hf
    refine lv_iload_n hx hb dX5_look_17 rfl (lv_at hl 3 rfl) ?_
    refine lv_bipush (v := (16 : Int32)) hx hb dX5_look_18 (by decide) ?_
    refine zw_icmp_ge (tgt := 48) hx hb hf dX5_look_20 (by decide) (fun hf => ?_) (fun hf => ?_)
    · refine lv_iload_n hx hb dX5_look_48 rfl (lv_at hl 1 rfl) ?_
      refine zw_if_ne (tgt := 56) hx hb hf dX5_look_49 (by decide) (fun hf => ?_) (fun hf => ?_)
      · refine lv_aload_n hx hb dX5_look_56 rfl (lv_at hl 0 rfl) ?_
        refine lv_iload_n hx hb dX5_look_57 rfl (lv_at hl 2 rfl) ?_
        refine zw_cVI (rest := []) [.int i2] X hw hl.1 hf rfl rfl (fun r hr => mt_X5_otherwiseAt l D A E X.2.2.2.2.2.1 h a0 i2 r hr) (lw_V q1556 q1558 qs58 q89 q1559) cd_X5_otherwiseAt ⟨rfl, rfl⟩ ⟨Nat.le_of_ble_eq_true rfl, Nat.le_of_ble_eq_true rfl⟩ rfl rfl (Nat.le_of_ble_eq_true rfl) dX5_look_58 ⟨Nat.le_of_ble_eq_true rfl, Nat.le_of_ble_eq_true rfl⟩ (fun r1 H locs hf hw => ?_)
        exact zw_iret X hw hf (Nat.le_of_ble_eq_true rfl) (Nat.le_of_ble_eq_true rfl) dX5_look_61
      · refine lv_iload_n hx hb dX5_look_52 rfl (lv_at hl 2 rfl) ?_
        refine lv_goto (tgt := 61) hx hb dX5_look_53 (by decide) ?_
        exact zw_iret X hw hf (Nat.le_of_ble_eq_true rfl) (Nat.le_of_ble_eq_true rfl) dX5_look_61
    · refine lv_aload_n hx hb dX5_look_23 rfl (lv_at hl 0 rfl) ?_
      refine lv_iload_n hx hb dX5_look_24 rfl (lv_at hl 3 rfl) ?_
      refine zw_cVI (rest := []) [.int i3] X hw hl.1 hf rfl rfl (fun r hr => mt_X5_otherwiseAt l D A E X.2.2.2.2.2.1 h a0 i3 r hr) (lw_V q1556 q1558 qs58 q89 q1559) cd_X5_otherwiseAt ⟨rfl, rfl⟩ ⟨Nat.le_of_ble_eq_true rfl, Nat.le_of_ble_eq_true rfl⟩ rfl rfl (Nat.le_of_ble_eq_true rfl) dX5_look_25 ⟨Nat.le_of_ble_eq_true rfl, Nat.le_of_ble_eq_true rfl⟩ (fun r2 H locs hf hw => ?_)
      refine lv_aload_n hx hb dX5_look_28 rfl (lv_at hl 0 rfl) ?_
      refine lv_iload_n hx hb dX5_look_29 rfl (lv_at hl 2 rfl) ?_
      refine zw_cVI (rest := [.int r2.1]) [.int i2] X hw hl.1 hf rfl rfl (fun r hr => mt_X5_otherwiseAt l D A E X.2.2.2.2.2.1 r2.2 a0 i2 r hr) (lw_V q1556 q1558 qs58 q89 q1559) cd_X5_otherwiseAt ⟨rfl, rfl⟩ ⟨Nat.le_of_ble_eq_true rfl, Nat.le_of_ble_eq_true rfl⟩ rfl rfl (Nat.le_of_ble_eq_true rfl) dX5_look_30 ⟨Nat.le_of_ble_eq_true rfl, Nat.le_of_ble_eq_true rfl⟩ (fun r3 H locs hf hw => ?_)
      refine zw_icmp_le (tgt := 40) hx hb hf dX5_look_33 (by decide) (fun hf => ?_) (fun hf => ?_)
      · refine lv_iload_n hx hb dX5_look_40 rfl (lv_at hl 2 rfl) ?_
        refine lv_istore_n (lv' := [(2, .int i2), (0, .ref a0), (1, .int i1), (3, .int i3)]) hx hb dX5_look_41 rfl hl (by decide) rfl (fun ls hl => ?_)
        refine zw_nmS hf (fun v4 ev4 hf => ?_)
        refine lv_iinc (k := 3) (v := v4) (lv' := [(3, .int v4), (2, .int i2), (0, .ref a0), (1, .int i1)]) hx hb dX5_look_42 hl rfl (by rw [ev4]; rfl) (by decide) rfl (fun ls hl => ?_)
        refine lv_goto (tgt := 17) hx hb dX5_look_45 (by decide) ?_
        exact ih r3.2 a0 i1 i2 v4 _ _ _ hf hw (lv_sub hl [2, 3, 1, 0] rfl)
      · refine lv_iload_n hx hb dX5_look_36 rfl (lv_at hl 3 rfl) ?_
        refine lv_goto (tgt := 41) hx hb dX5_look_37 (by decide) ?_
        refine lv_istore_n (lv' := [(2, .int i3), (0, .ref a0), (1, .int i1), (3, .int i3)]) hx hb dX5_look_41 rfl hl (by decide) rfl (fun ls hl => ?_)
        refine zw_nmS hf (fun v5 ev5 hf => ?_)
        refine lv_iinc (k := 3) (v := v5) (lv' := [(3, .int v5), (2, .int i3), (0, .ref a0), (1, .int i1)]) hx hb dX5_look_42 hl rfl (by rw [ev5]; rfl) (by decide) rfl (fun ls hl => ?_)
        refine lv_goto (tgt := 17) hx hb dX5_look_45 (by decide) ?_
        exact ih r3.2 a0 i1 i3 v5 _ _ _ hf hw (lv_sub hl [2, 3, 1, 0] rfl)
set_option maxHeartbeats 4000000 in
theorem mt_X5_look (l : Launch) (D : va_G) (A : Nat → Prop) (E : State → Prop) (hE : zEok A E) (h : zT) (a0 : Nat) (i1 : Int32) (res : Int32 × zT) (hf : f_X5_look h a0 i1 = some res) : Met l yX5_look (ws_ yX5_look cX5_look 4 (Option.some FieldType.int)) rm_X5_look (zPW D A E h [.ref a0, .int i1]) (zQW D A (some (.int res.1)) res.2) 0 0 A := by
  refine zmt hE (by decide) (Nat.le_of_ble_eq_true rfl) ?_
  intro p e s m below meth c ls hmn X hw hl
  have hl : lv_has ls 4 [(0, .ref a0), (1, .int i1)] := hl
  have hx := X.1.1
  have hb := X.1.2.1
  have hown := X.1.2.2.2.1
  have hts := X.1.2.2.2.2
  unfold f_X5_look at hf
  refine lv_iload_n hx hb dX5_look_0 rfl (lv_at hl 1 rfl) ?_
  refine lv_i2l hx hb dX5_look_1 rfl ?_
  refine lv_lconst (v := (0 : Int64)) hx hb dX5_look_2 (by decide) ?_
  refine lv_lconst (v := (1 : Int64)) hx hb dX5_look_3 (by decide) ?_
  refine zw_cSZ (rest := []) [.long i1.toInt64, .long (0 : Int64), .long (1 : Int64)] X hw hl.1 hf (fun r hr => mt_X5_isIn l D A E X.2.2.2.2.2.1 h i1.toInt64 (0 : Int64) (1 : Int64) r hr) (lw_S q1372 q1373 q89 q1374) cd_X5_isIn ⟨rfl, rfl⟩ ⟨Nat.le_of_ble_eq_true rfl, Nat.le_of_ble_eq_true rfl⟩ rfl rfl (Nat.le_of_ble_eq_true rfl) dX5_look_4 ⟨Nat.le_of_ble_eq_true rfl, Nat.le_of_ble_eq_true rfl⟩ (fun r1 H locs hf hw => ?_)
  refine zw_if_ne (tgt := 13) hx hb hf dX5_look_7 (by decide) (fun hf => ?_) (fun hf => ?_)
  · refine lv_iconst (v := (0 : Int32)) hx hb dX5_look_13 (by decide) ?_
    refine lv_istore_n (lv' := [(2, .int (0 : Int32)), (0, .ref a0), (1, .int i1)]) hx hb dX5_look_14 rfl hl (by decide) rfl (fun ls hl => ?_)
    refine lv_iconst (v := (1 : Int32)) hx hb dX5_look_15 (by decide) ?_
    refine lv_istore_n (lv' := [(3, .int (1 : Int32)), (2, .int (0 : Int32)), (0, .ref a0), (1, .int i1)]) hx hb dX5_look_16 rfl hl (by decide) rfl (fun ls hl => ?_)
    exact k_X5_look_17 X _ 4096 r1.2 a0 i1 (0 : Int32) (1 : Int32) _ _ _ hf hw (lv_sub hl [2, 3, 1, 0] rfl)
  · refine lv_ldc (v := (-1000000001 : Int32)) hx hb hown (hts _ q1377) dX5_look_10 ?_
    exact zw_iret X hw hf (Nat.le_of_ble_eq_true rfl) (Nat.le_of_ble_eq_true rfl) dX5_look_12
set_option maxHeartbeats 4000000 in
theorem k_X5_goesOn_87 {p : Program} {l : Launch} {e : Env} {s : State} {m : MethodId} {args : Array Value} {below : List Frame} {meth : Method} {c : Code} {D : va_G} {A : Nat → Prop} {E : State → Prop} (X : zCx p s m args meth c D A E cX5_goesOn 5 RX5 (Option.none : Option FieldType)) (res : zT) (K10 : zT → Nat → Int32 → Int32 → Option (zT)) (hK10 : ∀ (h : zT) (a0 : Nat) (i1 : Int32) (i2 : Int32) (H : Heap) (locs : List Loc) (ls : Array Slot), K10 h a0 i1 i2 = some res → zWh D A s H h locs → lv_has ls 5 [(0, .ref a0), (1, .int i1), (2, .int i2)] → W p l e rm_X5_goesOn s m args below meth c H locs 0 0 (MQ below (zQW D A none res) args s 0 0 A) (F0 m 10 ls [])) : ∀ (h : zT) (a0 : Nat) (i1 : Int32) (i2 : Int32) (i3 : Int32) (s0 : Int32) (s1 : Int32) (H : Heap) (locs : List Loc) (ls : Array Slot), f_X5_goesOn_87 K10 h a0 i1 i2 i3 s0 s1 = some res → zWh D A s H h locs → lv_has ls 5 [(0, .ref a0), (1, .int i1), (2, .int i2), (3, .int i3)] → W p l e rm_X5_goesOn s m args below meth c H locs 0 0 (MQ below (zQW D A none res) args s 0 0 A) (F0 m 87 ls [.int s0, .int s1]) := by
  have hx := X.1.1
  have hb := X.1.2.1
  have hown := X.1.2.2.2.1
  have hts := X.1.2.2.2.2
  intro h a0 i1 i2 i3 s0 s1 H locs ls hf hw hl
  unfold f_X5_goesOn_87 at hf
  refine lv_iadd hx hb dX5_goesOn_87 ?_
  refine zw_nmI hf (fun v1 hf => ?_)
  refine lv_istore (lv' := [(4, .int v1), (0, .ref a0), (1, .int i1), (2, .int i2), (3, .int i3)]) hx hb dX5_goesOn_88 hl (by decide) rfl (fun ls hl => ?_)
  refine lv_aload_n hx hb dX5_goesOn_90 rfl (lv_at hl 1 rfl) ?_
  refine lv_iload_n hx hb dX5_goesOn_91 rfl (lv_at hl 3 rfl) ?_
  refine lv_iconst (v := (5 : Int32)) hx hb dX5_goesOn_92 (by decide) ?_
  refine lv_iload hx hb dX5_goesOn_93 (lv_at hl 0 rfl) ?_
  refine lv_bipush (v := (99 : Int32)) hx hb dX5_goesOn_95 (by decide) ?_
  refine zw_cSI (rest := [.int (5 : Int32), .int i2, .ref a0]) [.int v1, .int (99 : Int32)] X hw hl.1 hf (fun r hr => mt_X5_within l D A E X.2.2.2.2.2.1 h v1 (99 : Int32) r hr) (lw_S q1427 q1428 q89 q1429) cd_X5_within ⟨rfl, rfl⟩ ⟨Nat.le_of_ble_eq_true rfl, Nat.le_of_ble_eq_true rfl⟩ rfl rfl (Nat.le_of_ble_eq_true rfl) dX5_goesOn_97 ⟨Nat.le_of_ble_eq_true rfl, Nat.le_of_ble_eq_true rfl⟩ (fun r2 H locs hf hw => ?_)
  refine zw_cVV (rest := []) [.int i2, .int (5 : Int32), .int r2.1] X hw hl.1 hf rfl rfl (fun r hr => mt_X5_sets l D A E X.2.2.2.2.2.1 r2.2 a0 i2 (5 : Int32) r2.1 r hr) (lw_V q1383 q1385 qs37 q89 q1386) cd_X5_sets ⟨rfl, rfl⟩ ⟨Nat.le_of_ble_eq_true rfl, Nat.le_of_ble_eq_true rfl⟩ rfl rfl (Nat.le_of_ble_eq_true rfl) dX5_goesOn_100 ⟨Nat.le_of_ble_eq_true rfl, Nat.le_of_ble_eq_true rfl⟩ (fun r3 H locs hf hw => ?_)
  refine lv_iload_n hx hb dX5_goesOn_103 rfl (lv_at hl 4 rfl) ?_
  refine zw_if_ne (tgt := 130) hx hb hf dX5_goesOn_104 (by decide) (fun hf => ?_) (fun hf => ?_)
  · refine zw_nmS hf (fun v4 ev4 hf => ?_)
    refine lv_iinc (k := 3) (v := v4) (lv' := [(2, .int v4), (4, .int v1), (0, .ref a0), (1, .int i1), (3, .int i3)]) hx hb dX5_goesOn_130 hl rfl (by rw [ev4]; rfl) (by decide) rfl (fun ls hl => ?_)
    refine lv_goto (tgt := 10) hx hb dX5_goesOn_133 (by decide) ?_
    exact hK10 r3 a0 i1 v4 _ _ _ hf hw (lv_sub hl [2, 3, 0] rfl)
  · refine lv_iload hx hb dX5_goesOn_107 (lv_at hl 0 rfl) ?_
    refine zw_if_gt (tgt := 130) hx hb hf dX5_goesOn_109 (by decide) (fun hf => ?_) (fun hf => ?_)
    · refine zw_nmS hf (fun v5 ev5 hf => ?_)
      refine lv_iinc (k := 3) (v := v5) (lv' := [(2, .int v5), (4, .int v1), (0, .ref a0), (1, .int i1), (3, .int i3)]) hx hb dX5_goesOn_130 hl rfl (by rw [ev5]; rfl) (by decide) rfl (fun ls hl => ?_)
      refine lv_goto (tgt := 10) hx hb dX5_goesOn_133 (by decide) ?_
      exact hK10 r3 a0 i1 v5 _ _ _ hf hw (lv_sub hl [2, 3, 0] rfl)
    · refine lv_aload_n hx hb dX5_goesOn_112 rfl (lv_at hl 1 rfl) ?_
      refine lv_iload_n hx hb dX5_goesOn_113 rfl (lv_at hl 3 rfl) ?_
      refine lv_iconst (v := (4 : Int32)) hx hb dX5_goesOn_114 (by decide) ?_
      refine lv_bipush (v := (16 : Int32)) hx hb dX5_goesOn_115 (by decide) ?_
      refine zw_cVV (rest := []) [.int i2, .int (4 : Int32), .int (16 : Int32)] X hw hl.1 hf rfl rfl (fun r hr => mt_X5_sets l D A E X.2.2.2.2.2.1 r3 a0 i2 (4 : Int32) (16 : Int32) r hr) (lw_V q1383 q1385 qs37 q89 q1386) cd_X5_sets ⟨rfl, rfl⟩ ⟨Nat.le_of_ble_eq_true rfl, Nat.le_of_ble_eq_true rfl⟩ rfl rfl (Nat.le_of_ble_eq_true rfl) dX5_goesOn_117 ⟨Nat.le_of_ble_eq_true rfl, Nat.le_of_ble_eq_true rfl⟩ (fun r6 H locs hf hw => ?_)
      refine lv_aload_n hx hb dX5_goesOn_120 rfl (lv_at hl 1 rfl) ?_
      refine zw_getR X hw fs_X5_0 q1270 rfl hf dX5_goesOn_121 (fun v7 hf => ?_)
      refine lv_iconst (v := (3 : Int32)) hx hb dX5_goesOn_124 (by decide) ?_
      refine lv_dup2_11 hx hb dX5_goesOn_125 rfl rfl ?_
      refine zw_ialoadR X hw hf dX5_goesOn_126 (fun v8 hf => ?_)
      refine lv_iconst (v := (1 : Int32)) hx hb dX5_goesOn_127 (by decide) ?_
      refine lv_iadd hx hb dX5_goesOn_128 ?_
      refine zw_iastore X hw hf dX5_goesOn_129 (fun h9 H locs hf hw => ?_)
      refine zw_nmS hf (fun v10 ev10 hf => ?_)
      refine lv_iinc (k := 3) (v := v10) (lv' := [(2, .int v10), (4, .int v1), (0, .ref a0), (1, .int i1), (3, .int i3)]) hx hb dX5_goesOn_130 hl rfl (by rw [ev10]; rfl) (by decide) rfl (fun ls hl => ?_)
      refine lv_goto (tgt := 10) hx hb dX5_goesOn_133 (by decide) ?_
      exact hK10 h9 a0 i1 v10 _ _ _ hf hw (lv_sub hl [2, 3, 0] rfl)
set_option maxHeartbeats 4000000 in
theorem k_X5_goesOn_62 {p : Program} {l : Launch} {e : Env} {s : State} {m : MethodId} {args : Array Value} {below : List Frame} {meth : Method} {c : Code} {D : va_G} {A : Nat → Prop} {E : State → Prop} (X : zCx p s m args meth c D A E cX5_goesOn 5 RX5 (Option.none : Option FieldType)) (res : zT) (K10 : zT → Nat → Int32 → Int32 → Option (zT)) (hK10 : ∀ (h : zT) (a0 : Nat) (i1 : Int32) (i2 : Int32) (H : Heap) (locs : List Loc) (ls : Array Slot), K10 h a0 i1 i2 = some res → zWh D A s H h locs → lv_has ls 5 [(0, .ref a0), (1, .int i1), (2, .int i2)] → W p l e rm_X5_goesOn s m args below meth c H locs 0 0 (MQ below (zQW D A none res) args s 0 0 A) (F0 m 10 ls [])) : ∀ (h : zT) (a0 : Nat) (i1 : Int32) (i2 : Int32) (s0 : Int32) (H : Heap) (locs : List Loc) (ls : Array Slot), f_X5_goesOn_62 K10 h a0 i1 i2 s0 = some res → zWh D A s H h locs → lv_has ls 5 [(0, .ref a0), (1, .int i1), (2, .int i2)] → W p l e rm_X5_goesOn s m args below meth c H locs 0 0 (MQ below (zQW D A none res) args s 0 0 A) (F0 m 62 ls [.int s0]) := by
  have hx := X.1.1
  have hb := X.1.2.1
  have hown := X.1.2.2.2.1
  have hts := X.1.2.2.2.2
  intro h a0 i1 i2 s0 H locs ls hf hw hl
  unfold f_X5_goesOn_62 at hf
  refine lv_istore_n (lv' := [(3, .int s0), (0, .ref a0), (1, .int i1), (2, .int i2)]) hx hb dX5_goesOn_62 rfl hl (by decide) rfl (fun ls hl => ?_)
  refine lv_aload_n hx hb dX5_goesOn_63 rfl (lv_at hl 1 rfl) ?_
  refine lv_iload_n hx hb dX5_goesOn_64 rfl (lv_at hl 3 rfl) ?_
  refine lv_iconst (v := (5 : Int32)) hx hb dX5_goesOn_65 (by decide) ?_
  refine zw_cVI (rest := []) [.int i2, .int (5 : Int32)] X hw hl.1 hf rfl rfl (fun r hr => mt_X5_of l D A E X.2.2.2.2.2.1 h a0 i2 (5 : Int32) r hr) (lw_V q1395 q1397 qs39 q89 q1398) cd_X5_of ⟨rfl, rfl⟩ ⟨Nat.le_of_ble_eq_true rfl, Nat.le_of_ble_eq_true rfl⟩ rfl rfl (Nat.le_of_ble_eq_true rfl) dX5_goesOn_66 ⟨Nat.le_of_ble_eq_true rfl, Nat.le_of_ble_eq_true rfl⟩ (fun r1 H locs hf hw => ?_)
  refine lv_iload_n hx hb dX5_goesOn_69 rfl (lv_at hl 0 rfl) ?_
  refine zw_if_eq (tgt := 81) hx hb hf dX5_goesOn_70 (by decide) (fun hf => ?_) (fun hf => ?_)
  · refine lv_aload_n hx hb dX5_goesOn_81 rfl (lv_at hl 1 rfl) ?_
    refine lv_iload_n hx hb dX5_goesOn_82 rfl (lv_at hl 3 rfl) ?_
    refine zw_cVI (rest := [.int r1.1]) [.int i2] X hw hl.1 hf rfl rfl (fun r hr => mt_X5_loses l D A E X.2.2.2.2.2.1 r1.2 a0 i2 r hr) (lw_V q1430 q1432 qs46 q89 q1433) cd_X5_loses ⟨rfl, rfl⟩ ⟨Nat.le_of_ble_eq_true rfl, Nat.le_of_ble_eq_true rfl⟩ rfl rfl (Nat.le_of_ble_eq_true rfl) dX5_goesOn_83 ⟨Nat.le_of_ble_eq_true rfl, Nat.le_of_ble_eq_true rfl⟩ (fun r2 H locs hf hw => ?_)
    refine lv_ineg hx hb dX5_goesOn_86 ?_
    exact k_X5_goesOn_87 X _ K10 hK10 r2.2 a0 i1 i2 s0 (-r2.1) r1.1 _ _ _ hf hw (lv_sub hl [1, 2, 3, 0] rfl)
  · refine lv_aload_n hx hb dX5_goesOn_73 rfl (lv_at hl 1 rfl) ?_
    refine lv_iload_n hx hb dX5_goesOn_74 rfl (lv_at hl 3 rfl) ?_
    refine zw_cVI (rest := [.int r1.1]) [.int i2] X hw hl.1 hf rfl rfl (fun r hr => mt_X5_gains l D A E X.2.2.2.2.2.1 r1.2 a0 i2 r hr) (lw_V q1408 q1410 qs42 q89 q1411) cd_X5_gains ⟨rfl, rfl⟩ ⟨Nat.le_of_ble_eq_true rfl, Nat.le_of_ble_eq_true rfl⟩ rfl rfl (Nat.le_of_ble_eq_true rfl) dX5_goesOn_75 ⟨Nat.le_of_ble_eq_true rfl, Nat.le_of_ble_eq_true rfl⟩ (fun r3 H locs hf hw => ?_)
    refine lv_goto (tgt := 87) hx hb dX5_goesOn_78 (by decide) ?_
    exact k_X5_goesOn_87 X _ K10 hK10 r3.2 a0 i1 i2 s0 r3.1 r1.1 _ _ _ hf hw (lv_sub hl [1, 2, 3, 0] rfl)
set_option maxHeartbeats 4000000 in
theorem k_X5_goesOn_10 {p : Program} {l : Launch} {e : Env} {s : State} {m : MethodId} {args : Array Value} {below : List Frame} {meth : Method} {c : Code} {D : va_G} {A : Nat → Prop} {E : State → Prop} (X : zCx p s m args meth c D A E cX5_goesOn 5 RX5 (Option.none : Option FieldType)) (res : zT) : ∀ (n : Nat), ∀ (h : zT) (a0 : Nat) (i1 : Int32) (i2 : Int32) (H : Heap) (locs : List Loc) (ls : Array Slot), f_X5_goesOn_10 n h a0 i1 i2 = some res → zWh D A s H h locs → lv_has ls 5 [(0, .ref a0), (1, .int i1), (2, .int i2)] → W p l e rm_X5_goesOn s m args below meth c H locs 0 0 (MQ below (zQW D A none res) args s 0 0 A) (F0 m 10 ls []) := by
  have hx := X.1.1
  have hb := X.1.2.1
  have hown := X.1.2.2.2.1
  have hts := X.1.2.2.2.2
  intro n
  induction n with
  | zero =>
    intro h a0 i1 i2 H locs ls hf hw hl
    cases hf
  | succ n ih =>
    intro h a0 i1 i2 H locs ls hf hw hl
    unfold f_X5_goesOn_10 at hf
    refine lv_iload_n hx hb dX5_goesOn_10 rfl (lv_at hl 2 rfl) ?_
    refine lv_aload_n hx hb dX5_goesOn_11 rfl (lv_at hl 0 rfl) ?_
    refine zw_getR X hw fs_X5_0 q1270 rfl hf dX5_goesOn_12 (fun v1 hf => ?_)
    refine lv_iconst (v := (0 : Int32)) hx hb dX5_goesOn_15 (by decide) ?_
    refine zw_ialoadR X hw hf dX5_goesOn_16 (fun v2 hf => ?_)
    refine zw_icmp_ge (tgt := 136) hx hb hf dX5_goesOn_17 (by decide) (fun hf => ?_) (fun hf => ?_)
    · refine lv_aload_n hx hb dX5_goesOn_136 rfl (lv_at hl 0 rfl) ?_
      refine zw_getR X hw fs_X5_0 q1270 rfl hf dX5_goesOn_137 (fun v3 hf => ?_)
      refine lv_iconst (v := (2 : Int32)) hx hb dX5_goesOn_140 (by decide) ?_
      refine lv_dup2_11 hx hb dX5_goesOn_141 rfl rfl ?_
      refine zw_ialoadR X hw hf dX5_goesOn_142 (fun v4 hf => ?_)
      refine lv_iconst (v := (1 : Int32)) hx hb dX5_goesOn_143 (by decide) ?_
      refine lv_iadd hx hb dX5_goesOn_144 ?_
      refine zw_iastore X hw hf dX5_goesOn_145 (fun h5 H locs hf hw => ?_)
      exact zw_vret X hw hf (Nat.le_of_ble_eq_true rfl) (Nat.le_of_ble_eq_true rfl) dX5_goesOn_146
    · refine lv_aload_n hx hb dX5_goesOn_20 rfl (lv_at hl 0 rfl) ?_
      refine lv_iload_n hx hb dX5_goesOn_21 rfl (lv_at hl 2 rfl) ?_
      refine zw_cVI (rest := []) [.int i2] X hw hl.1 hf rfl rfl (fun r hr => mt_X5_covers l D A E X.2.2.2.2.2.1 h a0 i2 r hr) (lw_V q1399 q1401 qs40 q89 q1402) cd_X5_covers ⟨rfl, rfl⟩ ⟨Nat.le_of_ble_eq_true rfl, Nat.le_of_ble_eq_true rfl⟩ rfl rfl (Nat.le_of_ble_eq_true rfl) dX5_goesOn_22 ⟨Nat.le_of_ble_eq_true rfl, Nat.le_of_ble_eq_true rfl⟩ (fun r6 H locs hf hw => ?_)
      refine lv_iload_n hx hb dX5_goesOn_25 rfl (lv_at hl 1 rfl) ?_
      refine lv_ishr hx hb dX5_goesOn_26 ?_
      refine lv_iconst (v := (1 : Int32)) hx hb dX5_goesOn_27 (by decide) ?_
      refine lv_iand hx hb dX5_goesOn_28 ?_
      refine lv_iconst (v := (1 : Int32)) hx hb dX5_goesOn_29 (by decide) ?_
      refine zw_icmp_ne (tgt := 130) hx hb hf dX5_goesOn_30 (by decide) (fun hf => ?_) (fun hf => ?_)
      · refine zw_nmS hf (fun v7 ev7 hf => ?_)
        refine lv_iinc (k := 2) (v := v7) (lv' := [(2, .int v7), (0, .ref a0), (1, .int i1)]) hx hb dX5_goesOn_130 hl rfl (by rw [ev7]; rfl) (by decide) rfl (fun ls hl => ?_)
        refine lv_goto (tgt := 10) hx hb dX5_goesOn_133 (by decide) ?_
        exact ih r6.2 a0 i1 v7 _ _ _ hf hw (lv_sub hl [1, 2, 0] rfl)
      · refine lv_aload_n hx hb dX5_goesOn_33 rfl (lv_at hl 0 rfl) ?_
        refine lv_iload_n hx hb dX5_goesOn_34 rfl (lv_at hl 2 rfl) ?_
        refine lv_iload_n hx hb dX5_goesOn_35 rfl (lv_at hl 1 rfl) ?_
        refine lv_aload_n hx hb dX5_goesOn_36 rfl (lv_at hl 0 rfl) ?_
        refine lv_iload_n hx hb dX5_goesOn_37 rfl (lv_at hl 2 rfl) ?_
        refine lv_iconst (v := (4 : Int32)) hx hb dX5_goesOn_38 (by decide) ?_
        refine zw_cVI (rest := [.int i1, .int i2, .ref a0]) [.int i2, .int (4 : Int32)] X hw hl.1 hf rfl rfl (fun r hr => mt_X5_of l D A E X.2.2.2.2.2.1 r6.2 a0 i2 (4 : Int32) r hr) (lw_V q1395 q1397 qs39 q89 q1398) cd_X5_of ⟨rfl, rfl⟩ ⟨Nat.le_of_ble_eq_true rfl, Nat.le_of_ble_eq_true rfl⟩ rfl rfl (Nat.le_of_ble_eq_true rfl) dX5_goesOn_39 ⟨Nat.le_of_ble_eq_true rfl, Nat.le_of_ble_eq_true rfl⟩ (fun r8 H locs hf hw => ?_)
        refine lv_isub hx hb dX5_goesOn_42 ?_
        refine zw_cVI (rest := []) [.int i2, .int (i1 - r8.1)] X hw hl.1 hf rfl rfl (fun r hr => mt_X5_saysAt l D A E X.2.2.2.2.2.1 r8.2 a0 i2 (i1 - r8.1) r hr) (lw_V q1442 q1444 qs48 q89 q1445) cd_X5_saysAt ⟨rfl, rfl⟩ ⟨Nat.le_of_ble_eq_true rfl, Nat.le_of_ble_eq_true rfl⟩ rfl rfl (Nat.le_of_ble_eq_true rfl) dX5_goesOn_43 ⟨Nat.le_of_ble_eq_true rfl, Nat.le_of_ble_eq_true rfl⟩ (fun r9 H locs hf hw => ?_)
        refine lv_aload_n hx hb dX5_goesOn_46 rfl (lv_at hl 0 rfl) ?_
        refine zw_getR X hw fs_X5_0 q1270 rfl hf dX5_goesOn_47 (fun v10 hf => ?_)
        refine lv_iconst (v := (5 : Int32)) hx hb dX5_goesOn_50 (by decide) ?_
        refine lv_iload_n hx hb dX5_goesOn_51 rfl (lv_at hl 1 rfl) ?_
        refine lv_iadd hx hb dX5_goesOn_52 ?_
        refine zw_ialoadR X hw hf dX5_goesOn_53 (fun v11 hf => ?_)
        refine zw_icmp_ne (tgt := 61) hx hb hf dX5_goesOn_54 (by decide) (fun hf => ?_) (fun hf => ?_)
        · refine lv_iconst (v := (0 : Int32)) hx hb dX5_goesOn_61 (by decide) ?_
          exact k_X5_goesOn_62 X _ (f_X5_goesOn_10 n) ih r9.2 a0 i1 i2 (0 : Int32) _ _ _ hf hw (lv_sub hl [0, 1, 2] rfl)
        · refine lv_iconst (v := (1 : Int32)) hx hb dX5_goesOn_57 (by decide) ?_
          refine lv_goto (tgt := 62) hx hb dX5_goesOn_58 (by decide) ?_
          exact k_X5_goesOn_62 X _ (f_X5_goesOn_10 n) ih r9.2 a0 i1 i2 (1 : Int32) _ _ _ hf hw (lv_sub hl [0, 1, 2] rfl)
set_option maxHeartbeats 4000000 in
theorem mt_X5_goesOn (l : Launch) (D : va_G) (A : Nat → Prop) (E : State → Prop) (hE : zEok A E) (h : zT) (a0 : Nat) (res : zT) (hf : f_X5_goesOn h a0 = some res) : Met l yX5_goesOn (ws_ yX5_goesOn cX5_goesOn 5 (Option.none : Option FieldType)) rm_X5_goesOn (zPW D A E h [.ref a0]) (zQW D A none res) 0 0 A := by
  refine zmt hE (by decide) (Nat.le_of_ble_eq_true rfl) ?_
  intro p e s m below meth c ls hmn X hw hl
  have hl : lv_has ls 5 [(0, .ref a0)] := hl
  have hx := X.1.1
  have hb := X.1.2.1
  have hown := X.1.2.2.2.1
  have hts := X.1.2.2.2.2
  unfold f_X5_goesOn at hf
  refine lv_aload_n hx hb dX5_goesOn_0 rfl (lv_at hl 0 rfl) ?_
  refine zw_cVI (rest := []) [] X hw hl.1 hf rfl rfl (fun r hr => mt_X5_drawn l D A E X.2.2.2.2.2.1 h a0 r hr) (lw_V q1487 q1489 qs50 q89 q1490) cd_X5_drawn ⟨rfl, rfl⟩ ⟨Nat.le_of_ble_eq_true rfl, Nat.le_of_ble_eq_true rfl⟩ rfl rfl (Nat.le_of_ble_eq_true rfl) dX5_goesOn_1 ⟨Nat.le_of_ble_eq_true rfl, Nat.le_of_ble_eq_true rfl⟩ (fun r1 H locs hf hw => ?_)
  refine lv_bipush (v := (16 : Int32)) hx hb dX5_goesOn_4 (by decide) ?_
  refine lv_irem hx hb dX5_goesOn_6 (by decide) ?_
  refine zw_nmI hf (fun v2 hf => ?_)
  refine lv_istore_n (lv' := [(1, .int v2), (0, .ref a0)]) hx hb dX5_goesOn_7 rfl hl (by decide) rfl (fun ls hl => ?_)
  refine lv_iconst (v := (0 : Int32)) hx hb dX5_goesOn_8 (by decide) ?_
  refine lv_istore_n (lv' := [(2, .int (0 : Int32)), (1, .int v2), (0, .ref a0)]) hx hb dX5_goesOn_9 rfl hl (by decide) rfl (fun ls hl => ?_)
  exact k_X5_goesOn_10 X _ 4096 r1.2 a0 v2 (0 : Int32) _ _ _ hf hw (lv_sub hl [2, 1, 0] rfl)
set_option maxHeartbeats 4000000 in
theorem k_X5_tides_24 {p : Program} {l : Launch} {e : Env} {s : State} {m : MethodId} {args : Array Value} {below : List Frame} {meth : Method} {c : Code} {D : va_G} {A : Nat → Prop} {E : State → Prop} (X : zCx p s m args meth c D A E cX5_tides 4 RX5 (Option.some FieldType.int)) (res : Int32 × zT) : ∀ (n : Nat), ∀ (h : zT) (a0 : Nat) (i1 : Int32) (i2 : Int32) (i3 : Int32) (H : Heap) (locs : List Loc) (ls : Array Slot), f_X5_tides_24 n h a0 i1 i2 i3 = some res → zWh D A s H h locs → lv_has ls 4 [(0, .ref a0), (1, .int i1), (2, .int i2), (3, .int i3)] → W p l e rm_X5_tides s m args below meth c H locs 0 0 (MQ below (zQW D A (some (.int res.1)) res.2) args s 0 0 A) (F0 m 24 ls []) := by
  have hx := X.1.1
  have hb := X.1.2.1
  have hown := X.1.2.2.2.1
  have hts := X.1.2.2.2.2
  intro n
  induction n with
  | zero =>
    intro h a0 i1 i2 i3 H locs ls hf hw hl
    cases hf
  | succ n ih =>
    intro h a0 i1 i2 i3 H locs ls hf hw hl
    unfold f_X5_tides_24 at hf
    refine lv_iload_n hx hb dX5_tides_24 rfl (lv_at hl 3 rfl) ?_
    refine lv_iload_n hx hb dX5_tides_25 rfl (lv_at hl 1 rfl) ?_
    refine zw_icmp_ge (tgt := 51) hx hb hf dX5_tides_26 (by decide) (fun hf => ?_) (fun hf => ?_)
    · refine lv_aload_n hx hb dX5_tides_51 rfl (lv_at hl 0 rfl) ?_
      refine zw_getR X hw fs_X5_0 q1270 rfl hf dX5_tides_52 (fun v1 hf => ?_)
      refine lv_iconst (v := (3 : Int32)) hx hb dX5_tides_55 (by decide) ?_
      refine zw_ialoadR X hw hf dX5_tides_56 (fun v2 hf => ?_)
      refine lv_iload_n hx hb dX5_tides_57 rfl (lv_at hl 2 rfl) ?_
      refine lv_isub hx hb dX5_tides_58 ?_
      exact zw_iret X hw hf (Nat.le_of_ble_eq_true rfl) (Nat.le_of_ble_eq_true rfl) dX5_tides_59
    · refine lv_aload_n hx hb dX5_tides_29 rfl (lv_at hl 0 rfl) ?_
      refine zw_getR X hw fs_X5_0 q1270 rfl hf dX5_tides_30 (fun v3 hf => ?_)
      refine lv_iconst (v := (2 : Int32)) hx hb dX5_tides_33 (by decide) ?_
      refine zw_ialoadR X hw hf dX5_tides_34 (fun v4 hf => ?_)
      refine lv_sipush (v := (9999 : Int32)) hx hb dX5_tides_35 (by decide) ?_
      refine zw_icmp_ge (tgt := 51) hx hb hf dX5_tides_38 (by decide) (fun hf => ?_) (fun hf => ?_)
      · refine lv_aload_n hx hb dX5_tides_51 rfl (lv_at hl 0 rfl) ?_
        refine zw_getR X hw fs_X5_0 q1270 rfl hf dX5_tides_52 (fun v5 hf => ?_)
        refine lv_iconst (v := (3 : Int32)) hx hb dX5_tides_55 (by decide) ?_
        refine zw_ialoadR X hw hf dX5_tides_56 (fun v6 hf => ?_)
        refine lv_iload_n hx hb dX5_tides_57 rfl (lv_at hl 2 rfl) ?_
        refine lv_isub hx hb dX5_tides_58 ?_
        exact zw_iret X hw hf (Nat.le_of_ble_eq_true rfl) (Nat.le_of_ble_eq_true rfl) dX5_tides_59
      · refine lv_aload_n hx hb dX5_tides_41 rfl (lv_at hl 0 rfl) ?_
        refine zw_cVV (rest := []) [] X hw hl.1 hf rfl rfl (fun r hr => mt_X5_goesOn l D A E X.2.2.2.2.2.1 h a0 r hr) (lw_V q1565 q1567 qs59 q89 q1568) cd_X5_goesOn ⟨rfl, rfl⟩ ⟨Nat.le_of_ble_eq_true rfl, Nat.le_of_ble_eq_true rfl⟩ rfl rfl (Nat.le_of_ble_eq_true rfl) dX5_tides_42 ⟨Nat.le_of_ble_eq_true rfl, Nat.le_of_ble_eq_true rfl⟩ (fun r7 H locs hf hw => ?_)
        refine zw_nmS hf (fun v8 ev8 hf => ?_)
        refine lv_iinc (k := 3) (v := v8) (lv' := [(3, .int v8), (0, .ref a0), (1, .int i1), (2, .int i2)]) hx hb dX5_tides_45 hl rfl (by rw [ev8]; rfl) (by decide) rfl (fun ls hl => ?_)
        refine lv_goto (tgt := 24) hx hb dX5_tides_48 (by decide) ?_
        exact ih r7 a0 i1 i2 v8 _ _ _ hf hw (lv_sub hl [1, 2, 3, 0] rfl)
set_option maxHeartbeats 4000000 in
theorem mt_X5_tides (l : Launch) (D : va_G) (A : Nat → Prop) (E : State → Prop) (hE : zEok A E) (h : zT) (a0 : Nat) (i1 : Int32) (res : Int32 × zT) (hf : f_X5_tides h a0 i1 = some res) : Met l yX5_tides (ws_ yX5_tides cX5_tides 4 (Option.some FieldType.int)) rm_X5_tides (zPW D A E h [.ref a0, .int i1]) (zQW D A (some (.int res.1)) res.2) 0 0 A := by
  refine zmt hE (by decide) (Nat.le_of_ble_eq_true rfl) ?_
  intro p e s m below meth c ls hmn X hw hl
  have hl : lv_has ls 4 [(0, .ref a0), (1, .int i1)] := hl
  have hx := X.1.1
  have hb := X.1.2.1
  have hown := X.1.2.2.2.1
  have hts := X.1.2.2.2.2
  unfold f_X5_tides at hf
  refine lv_iload_n hx hb dX5_tides_0 rfl (lv_at hl 1 rfl) ?_
  refine lv_i2l hx hb dX5_tides_1 rfl ?_
  refine lv_lconst (v := (1 : Int64)) hx hb dX5_tides_2 (by decide) ?_
  refine lv_ldc2 (v := (100 : Int64)) hx hb hown (hts _ q1564) dX5_tides_3 ?_
  refine zw_cSZ (rest := []) [.long i1.toInt64, .long (1 : Int64), .long (100 : Int64)] X hw hl.1 hf (fun r hr => mt_X5_isIn l D A E X.2.2.2.2.2.1 h i1.toInt64 (1 : Int64) (100 : Int64) r hr) (lw_S q1372 q1373 q89 q1374) cd_X5_isIn ⟨rfl, rfl⟩ ⟨Nat.le_of_ble_eq_true rfl, Nat.le_of_ble_eq_true rfl⟩ rfl rfl (Nat.le_of_ble_eq_true rfl) dX5_tides_6 ⟨Nat.le_of_ble_eq_true rfl, Nat.le_of_ble_eq_true rfl⟩ (fun r1 H locs hf hw => ?_)
  refine zw_if_ne (tgt := 15) hx hb hf dX5_tides_9 (by decide) (fun hf => ?_) (fun hf => ?_)
  · refine lv_aload_n hx hb dX5_tides_15 rfl (lv_at hl 0 rfl) ?_
    refine zw_getR X hw fs_X5_0 q1270 rfl hf dX5_tides_16 (fun v2 hf => ?_)
    refine lv_iconst (v := (3 : Int32)) hx hb dX5_tides_19 (by decide) ?_
    refine zw_ialoadR X hw hf dX5_tides_20 (fun v3 hf => ?_)
    refine lv_istore_n (lv' := [(2, .int v3), (0, .ref a0), (1, .int i1)]) hx hb dX5_tides_21 rfl hl (by decide) rfl (fun ls hl => ?_)
    refine lv_iconst (v := (0 : Int32)) hx hb dX5_tides_22 (by decide) ?_
    refine lv_istore_n (lv' := [(3, .int (0 : Int32)), (2, .int v3), (0, .ref a0), (1, .int i1)]) hx hb dX5_tides_23 rfl hl (by decide) rfl (fun ls hl => ?_)
    exact k_X5_tides_24 X _ 4096 r1.2 a0 i1 v3 (0 : Int32) _ _ _ hf hw (lv_sub hl [2, 3, 1, 0] rfl)
  · refine lv_ldc (v := (-1000000001 : Int32)) hx hb hown (hts _ q1377) dX5_tides_12 ?_
    exact zw_iret X hw hf (Nat.le_of_ble_eq_true rfl) (Nat.le_of_ble_eq_true rfl) dX5_tides_14
set_option maxHeartbeats 4000000 in
theorem k_X5_allTrust_4 {p : Program} {l : Launch} {e : Env} {s : State} {m : MethodId} {args : Array Value} {below : List Frame} {meth : Method} {c : Code} {D : va_G} {A : Nat → Prop} {E : State → Prop} (X : zCx p s m args meth c D A E cX5_allTrust 3 RX5 (Option.some FieldType.int)) (res : Int32 × zT) : ∀ (n : Nat), ∀ (h : zT) (a0 : Nat) (i1 : Int32) (i2 : Int32) (H : Heap) (locs : List Loc) (ls : Array Slot), f_X5_allTrust_4 n h a0 i1 i2 = some res → zWh D A s H h locs → lv_has ls 3 [(0, .ref a0), (1, .int i1), (2, .int i2)] → W p l e rm_X5_allTrust s m args below meth c H locs 0 0 (MQ below (zQW D A (some (.int res.1)) res.2) args s 0 0 A) (F0 m 4 ls []) := by
  have hx := X.1.1
  have hb := X.1.2.1
  have hown := X.1.2.2.2.1
  have hts := X.1.2.2.2.2
  intro n
  induction n with
  | zero =>
    intro h a0 i1 i2 H locs ls hf hw hl
    cases hf
  | succ n ih =>
    intro h a0 i1 i2 H locs ls hf hw hl
    unfold f_X5_allTrust_4 at hf
    refine lv_iload_n hx hb dX5_allTrust_4 rfl (lv_at hl 2 rfl) ?_
    refine lv_aload_n hx hb dX5_allTrust_5 rfl (lv_at hl 0 rfl) ?_
    refine zw_getR X hw fs_X5_0 q1270 rfl hf dX5_allTrust_6 (fun v1 hf => ?_)
    refine lv_iconst (v := (0 : Int32)) hx hb dX5_allTrust_9 (by decide) ?_
    refine zw_ialoadR X hw hf dX5_allTrust_10 (fun v2 hf => ?_)
    refine zw_icmp_ge (tgt := 29) hx hb hf dX5_allTrust_11 (by decide) (fun hf => ?_) (fun hf => ?_)
    · refine lv_iload_n hx hb dX5_allTrust_29 rfl (lv_at hl 1 rfl) ?_
      exact zw_iret X hw hf (Nat.le_of_ble_eq_true rfl) (Nat.le_of_ble_eq_true rfl) dX5_allTrust_30
    · refine lv_iload_n hx hb dX5_allTrust_14 rfl (lv_at hl 1 rfl) ?_
      refine lv_aload_n hx hb dX5_allTrust_15 rfl (lv_at hl 0 rfl) ?_
      refine lv_iload_n hx hb dX5_allTrust_16 rfl (lv_at hl 2 rfl) ?_
      refine lv_iconst (v := (5 : Int32)) hx hb dX5_allTrust_17 (by decide) ?_
      refine zw_cVI (rest := [.int i1]) [.int i2, .int (5 : Int32)] X hw hl.1 hf rfl rfl (fun r hr => mt_X5_of l D A E X.2.2.2.2.2.1 h a0 i2 (5 : Int32) r hr) (lw_V q1395 q1397 qs39 q89 q1398) cd_X5_of ⟨rfl, rfl⟩ ⟨Nat.le_of_ble_eq_true rfl, Nat.le_of_ble_eq_true rfl⟩ rfl rfl (Nat.le_of_ble_eq_true rfl) dX5_allTrust_18 ⟨Nat.le_of_ble_eq_true rfl, Nat.le_of_ble_eq_true rfl⟩ (fun r3 H locs hf hw => ?_)
      refine lv_iadd hx hb dX5_allTrust_21 ?_
      refine zw_nmI hf (fun v4 hf => ?_)
      refine lv_istore_n (lv' := [(1, .int v4), (0, .ref a0), (2, .int i2)]) hx hb dX5_allTrust_22 rfl hl (by decide) rfl (fun ls hl => ?_)
      refine zw_nmS hf (fun v5 ev5 hf => ?_)
      refine lv_iinc (k := 2) (v := v5) (lv' := [(2, .int v5), (1, .int v4), (0, .ref a0)]) hx hb dX5_allTrust_23 hl rfl (by rw [ev5]; rfl) (by decide) rfl (fun ls hl => ?_)
      refine lv_goto (tgt := 4) hx hb dX5_allTrust_26 (by decide) ?_
      exact ih r3.2 a0 v4 v5 _ _ _ hf hw (lv_sub hl [2, 1, 0] rfl)
set_option maxHeartbeats 4000000 in
theorem mt_X5_allTrust (l : Launch) (D : va_G) (A : Nat → Prop) (E : State → Prop) (hE : zEok A E) (h : zT) (a0 : Nat) (res : Int32 × zT) (hf : f_X5_allTrust h a0 = some res) : Met l yX5_allTrust (ws_ yX5_allTrust cX5_allTrust 3 (Option.some FieldType.int)) rm_X5_allTrust (zPW D A E h [.ref a0]) (zQW D A (some (.int res.1)) res.2) 0 0 A := by
  refine zmt hE (by decide) (Nat.le_of_ble_eq_true rfl) ?_
  intro p e s m below meth c ls hmn X hw hl
  have hl : lv_has ls 3 [(0, .ref a0)] := hl
  have hx := X.1.1
  have hb := X.1.2.1
  have hown := X.1.2.2.2.1
  have hts := X.1.2.2.2.2
  unfold f_X5_allTrust at hf
  refine lv_iconst (v := (0 : Int32)) hx hb dX5_allTrust_0 (by decide) ?_
  refine lv_istore_n (lv' := [(1, .int (0 : Int32)), (0, .ref a0)]) hx hb dX5_allTrust_1 rfl hl (by decide) rfl (fun ls hl => ?_)
  refine lv_iconst (v := (0 : Int32)) hx hb dX5_allTrust_2 (by decide) ?_
  refine lv_istore_n (lv' := [(2, .int (0 : Int32)), (1, .int (0 : Int32)), (0, .ref a0)]) hx hb dX5_allTrust_3 rfl hl (by decide) rfl (fun ls hl => ?_)
  exact k_X5_allTrust_4 X _ 4096 h a0 (0 : Int32) (0 : Int32) _ _ _ hf hw (lv_sub hl [2, 1, 0] rfl)
set_option maxHeartbeats 4000000 in
theorem mt_X5_book (l : Launch) (D : va_G) (A : Nat → Prop) (E : State → Prop) (hE : zEok A E) (h : zT) (a0 : Nat) (i1 : Int32) (res : Int32 × zT) (hf : f_X5_book h a0 i1 = some res) : Met l yX5_book (ws_ yX5_book cX5_book 2 (Option.some FieldType.int)) rm_X5_book (zPW D A E h [.ref a0, .int i1]) (zQW D A (some (.int res.1)) res.2) 0 0 A := by
  refine zmt hE (by decide) (Nat.le_of_ble_eq_true rfl) ?_
  intro p e s m below meth c ls hmn X hw hl
  have hl : lv_has ls 2 [(0, .ref a0), (1, .int i1)] := hl
  have hx := X.1.1
  have hb := X.1.2.1
  have hown := X.1.2.2.2.1
  have hts := X.1.2.2.2.2
  unfold f_X5_book at hf
  refine lv_iload_n hx hb dX5_book_0 rfl (lv_at hl 1 rfl) ?_
  refine zw_case hf (fun c1000 hf => ?_) (fun c1000 hf => ?_)
  · refine zw_tableIn (off := 31) (tgt := 32) hx hb c1000 dX5_book_1 (by decide) (by decide) rfl (by decide) ?_
    refine lv_aload_n hx hb dX5_book_32 rfl (lv_at hl 0 rfl) ?_
    refine zw_getR X hw fs_X5_0 q1270 rfl hf dX5_book_33 (fun v1 hf => ?_)
    refine lv_iconst (v := (3 : Int32)) hx hb dX5_book_36 (by decide) ?_
    refine zw_ialoadR X hw hf dX5_book_37 (fun v2 hf => ?_)
    exact zw_iret X hw hf (Nat.le_of_ble_eq_true rfl) (Nat.le_of_ble_eq_true rfl) dX5_book_38
  · refine zw_case hf (fun c1001 hf => ?_) (fun c1001 hf => ?_)
    · refine zw_tableIn (off := 38) (tgt := 39) hx hb c1001 dX5_book_1 (by decide) (by decide) rfl (by decide) ?_
      refine lv_aload_n hx hb dX5_book_39 rfl (lv_at hl 0 rfl) ?_
      refine zw_cVI (rest := []) [] X hw hl.1 hf rfl rfl (fun r hr => mt_X5_allTrust l D A E X.2.2.2.2.2.1 h a0 r hr) (lw_V q1573 q1575 qs60 q89 q1576) cd_X5_allTrust ⟨rfl, rfl⟩ ⟨Nat.le_of_ble_eq_true rfl, Nat.le_of_ble_eq_true rfl⟩ rfl rfl (Nat.le_of_ble_eq_true rfl) dX5_book_40 ⟨Nat.le_of_ble_eq_true rfl, Nat.le_of_ble_eq_true rfl⟩ (fun r3 H locs hf hw => ?_)
      exact zw_iret X hw hf (Nat.le_of_ble_eq_true rfl) (Nat.le_of_ble_eq_true rfl) dX5_book_43
    · refine zw_case hf (fun c1002 hf => ?_) (fun c1002 hf => ?_)
      · refine zw_tableIn (off := 43) (tgt := 44) hx hb c1002 dX5_book_1 (by decide) (by decide) rfl (by decide) ?_
        refine lv_aload_n hx hb dX5_book_44 rfl (lv_at hl 0 rfl) ?_
        refine zw_cVI (rest := []) [] X hw hl.1 hf rfl rfl (fun r hr => mt_X5_laidOnes l D A E X.2.2.2.2.2.1 h a0 r hr) (lw_V q1533 q1535 qs55 q89 q1536) cd_X5_laidOnes ⟨rfl, rfl⟩ ⟨Nat.le_of_ble_eq_true rfl, Nat.le_of_ble_eq_true rfl⟩ rfl rfl (Nat.le_of_ble_eq_true rfl) dX5_book_45 ⟨Nat.le_of_ble_eq_true rfl, Nat.le_of_ble_eq_true rfl⟩ (fun r4 H locs hf hw => ?_)
        exact zw_iret X hw hf (Nat.le_of_ble_eq_true rfl) (Nat.le_of_ble_eq_true rfl) dX5_book_48
      · refine zw_case hf (fun c1003 hf => ?_) (fun c1003 hf => ?_)
        · refine zw_tableIn (off := 48) (tgt := 49) hx hb c1003 dX5_book_1 (by decide) (by decide) rfl (by decide) ?_
          refine lv_ldc (v := (65535 : Int32)) hx hb hown (hts _ q1407) dX5_book_49 ?_
          refine lv_aload_n hx hb dX5_book_51 rfl (lv_at hl 0 rfl) ?_
          refine lv_aload_n hx hb dX5_book_52 rfl (lv_at hl 0 rfl) ?_
          refine zw_cVI (rest := [.ref a0, .int (65535 : Int32)]) [] X hw hl.1 hf rfl rfl (fun r hr => mt_X5_laidOnes l D A E X.2.2.2.2.2.1 h a0 r hr) (lw_V q1533 q1535 qs55 q89 q1536) cd_X5_laidOnes ⟨rfl, rfl⟩ ⟨Nat.le_of_ble_eq_true rfl, Nat.le_of_ble_eq_true rfl⟩ rfl rfl (Nat.le_of_ble_eq_true rfl) dX5_book_53 ⟨Nat.le_of_ble_eq_true rfl, Nat.le_of_ble_eq_true rfl⟩ (fun r5 H locs hf hw => ?_)
          refine zw_cVI (rest := [.int (65535 : Int32)]) [.int r5.1] X hw hl.1 hf rfl rfl (fun r hr => mt_X5_coveredBy l D A E X.2.2.2.2.2.1 r5.2 a0 r5.1 r hr) (lw_V q1548 q1550 qs57 q89 q1551) cd_X5_coveredBy ⟨rfl, rfl⟩ ⟨Nat.le_of_ble_eq_true rfl, Nat.le_of_ble_eq_true rfl⟩ rfl rfl (Nat.le_of_ble_eq_true rfl) dX5_book_56 ⟨Nat.le_of_ble_eq_true rfl, Nat.le_of_ble_eq_true rfl⟩ (fun r6 H locs hf hw => ?_)
          refine lv_iconst (v := (-1 : Int32)) hx hb dX5_book_59 (by decide) ?_
          refine lv_ixor hx hb dX5_book_60 ?_
          refine lv_iand hx hb dX5_book_61 ?_
          exact zw_iret X hw hf (Nat.le_of_ble_eq_true rfl) (Nat.le_of_ble_eq_true rfl) dX5_book_62
        · refine lv_tableOut (tgt := 63) hx hb dX5_book_1 (by have := lv_neT c1000 (a := 0) (by decide); have := lv_neT c1001 (a := 1) (by decide); have := lv_neT c1002 (a := 2) (by decide); have := lv_neT c1003 (a := 3) (by decide); omega) (by decide) ?_
          refine lv_ldc (v := (-1000000001 : Int32)) hx hb hown (hts _ q1377) dX5_book_63 ?_
          exact zw_iret X hw hf (Nat.le_of_ble_eq_true rfl) (Nat.le_of_ble_eq_true rfl) dX5_book_65
set_option maxHeartbeats 4000000 in
theorem k_X5_goesOnMany_2 {p : Program} {l : Launch} {e : Env} {s : State} {m : MethodId} {args : Array Value} {below : List Frame} {meth : Method} {c : Code} {D : va_G} {A : Nat → Prop} {E : State → Prop} (X : zCx p s m args meth c D A E cX5_goesOnMany 3 RX5 (Option.none : Option FieldType)) (res : zT) : ∀ (n : Nat), ∀ (h : zT) (a0 : Nat) (i1 : Int32) (i2 : Int32) (H : Heap) (locs : List Loc) (ls : Array Slot), f_X5_goesOnMany_2 n h a0 i1 i2 = some res → zWh D A s H h locs → lv_has ls 3 [(0, .ref a0), (1, .int i1), (2, .int i2)] → W p l e rm_X5_goesOnMany s m args below meth c H locs 0 0 (MQ below (zQW D A none res) args s 0 0 A) (F0 m 2 ls []) := by
  have hx := X.1.1
  have hb := X.1.2.1
  have hown := X.1.2.2.2.1
  have hts := X.1.2.2.2.2
  intro n
  induction n with
  | zero =>
    intro h a0 i1 i2 H locs ls hf hw hl
    cases hf
  | succ n ih =>
    intro h a0 i1 i2 H locs ls hf hw hl
    unfold f_X5_goesOnMany_2 at hf
    refine lv_iload_n hx hb dX5_goesOnMany_2 rfl (lv_at hl 2 rfl) ?_
    refine lv_iload_n hx hb dX5_goesOnMany_3 rfl (lv_at hl 1 rfl) ?_
    refine zw_icmp_ge (tgt := 17) hx hb hf dX5_goesOnMany_4 (by decide) (fun hf => ?_) (fun hf => ?_)
    · exact zw_vret X hw hf (Nat.le_of_ble_eq_true rfl) (Nat.le_of_ble_eq_true rfl) dX5_goesOnMany_17
    · refine lv_aload_n hx hb dX5_goesOnMany_7 rfl (lv_at hl 0 rfl) ?_
      refine zw_cVV (rest := []) [] X hw hl.1 hf rfl rfl (fun r hr => mt_X5_goesOn l D A E X.2.2.2.2.2.1 h a0 r hr) (lw_V q1565 q1567 qs59 q89 q1568) cd_X5_goesOn ⟨rfl, rfl⟩ ⟨Nat.le_of_ble_eq_true rfl, Nat.le_of_ble_eq_true rfl⟩ rfl rfl (Nat.le_of_ble_eq_true rfl) dX5_goesOnMany_8 ⟨Nat.le_of_ble_eq_true rfl, Nat.le_of_ble_eq_true rfl⟩ (fun r1 H locs hf hw => ?_)
      refine zw_nmS hf (fun v2 ev2 hf => ?_)
      refine lv_iinc (k := 2) (v := v2) (lv' := [(2, .int v2), (0, .ref a0), (1, .int i1)]) hx hb dX5_goesOnMany_11 hl rfl (by rw [ev2]; rfl) (by decide) rfl (fun ls hl => ?_)
      refine lv_goto (tgt := 2) hx hb dX5_goesOnMany_14 (by decide) ?_
      exact ih r1 a0 i1 v2 _ _ _ hf hw (lv_sub hl [1, 2, 0] rfl)
set_option maxHeartbeats 4000000 in
theorem mt_X5_goesOnMany (l : Launch) (D : va_G) (A : Nat → Prop) (E : State → Prop) (hE : zEok A E) (h : zT) (a0 : Nat) (i1 : Int32) (res : zT) (hf : f_X5_goesOnMany h a0 i1 = some res) : Met l yX5_goesOnMany (ws_ yX5_goesOnMany cX5_goesOnMany 3 (Option.none : Option FieldType)) rm_X5_goesOnMany (zPW D A E h [.ref a0, .int i1]) (zQW D A none res) 0 0 A := by
  refine zmt hE (by decide) (Nat.le_of_ble_eq_true rfl) ?_
  intro p e s m below meth c ls hmn X hw hl
  have hl : lv_has ls 3 [(0, .ref a0), (1, .int i1)] := hl
  have hx := X.1.1
  have hb := X.1.2.1
  have hown := X.1.2.2.2.1
  have hts := X.1.2.2.2.2
  unfold f_X5_goesOnMany at hf
  refine lv_iconst (v := (0 : Int32)) hx hb dX5_goesOnMany_0 (by decide) ?_
  refine lv_istore_n (lv' := [(2, .int (0 : Int32)), (0, .ref a0), (1, .int i1)]) hx hb dX5_goesOnMany_1 rfl hl (by decide) rfl (fun ls hl => ?_)
  exact k_X5_goesOnMany_2 X _ 4096 h a0 i1 (0 : Int32) _ _ _ hf hw (lv_sub hl [1, 2, 0] rfl)
set_option maxHeartbeats 4000000 in
theorem k_X5_laysBack_2 {p : Program} {l : Launch} {e : Env} {s : State} {m : MethodId} {args : Array Value} {below : List Frame} {meth : Method} {c : Code} {D : va_G} {A : Nat → Prop} {E : State → Prop} (X : zCx p s m args meth c D A E cX5_laysBack 2 RX5 (Option.none : Option FieldType)) (res : zT) : ∀ (n : Nat), ∀ (h : zT) (a0 : Nat) (i1 : Int32) (H : Heap) (locs : List Loc) (ls : Array Slot), f_X5_laysBack_2 n h a0 i1 = some res → zWh D A s H h locs → lv_has ls 2 [(0, .ref a0), (1, .int i1)] → W p l e rm_X5_laysBack s m args below meth c H locs 0 0 (MQ below (zQW D A none res) args s 0 0 A) (F0 m 2 ls []) := by
  have hx := X.1.1
  have hb := X.1.2.1
  have hown := X.1.2.2.2.1
  have hts := X.1.2.2.2.2
  intro n
  induction n with
  | zero =>
    intro h a0 i1 H locs ls hf hw hl
    cases hf
  | succ n ih =>
    intro h a0 i1 H locs ls hf hw hl
    unfold f_X5_laysBack_2 at hf
    refine lv_iload_n hx hb dX5_laysBack_2 rfl (lv_at hl 1 rfl) ?_
    refine lv_bipush (v := (75 : Int32)) hx hb dX5_laysBack_3 (by decide) ?_
    refine zw_icmp_ge (tgt := 26) hx hb hf dX5_laysBack_5 (by decide) (fun hf => ?_) (fun hf => ?_)
    · exact zw_vret X hw hf (Nat.le_of_ble_eq_true rfl) (Nat.le_of_ble_eq_true rfl) dX5_laysBack_26
    · refine lv_aload_n hx hb dX5_laysBack_8 rfl (lv_at hl 0 rfl) ?_
      refine zw_getR X hw fs_X5_0 q1270 rfl hf dX5_laysBack_9 (fun v1 hf => ?_)
      refine lv_iload_n hx hb dX5_laysBack_12 rfl (lv_at hl 1 rfl) ?_
      refine lv_aload_n hx hb dX5_laysBack_13 rfl (lv_at hl 0 rfl) ?_
      refine zw_getR X hw fs_X5_13 q1283 rfl hf dX5_laysBack_14 (fun v2 hf => ?_)
      refine lv_iload_n hx hb dX5_laysBack_17 rfl (lv_at hl 1 rfl) ?_
      refine zw_ialoadR X hw hf dX5_laysBack_18 (fun v3 hf => ?_)
      refine zw_iastore X hw hf dX5_laysBack_19 (fun h4 H locs hf hw => ?_)
      refine zw_nmS hf (fun v5 ev5 hf => ?_)
      refine lv_iinc (k := 1) (v := v5) (lv' := [(1, .int v5), (0, .ref a0)]) hx hb dX5_laysBack_20 hl rfl (by rw [ev5]; rfl) (by decide) rfl (fun ls hl => ?_)
      refine lv_goto (tgt := 2) hx hb dX5_laysBack_23 (by decide) ?_
      exact ih h4 a0 v5 _ _ _ hf hw (lv_sub hl [1, 0] rfl)
set_option maxHeartbeats 4000000 in
theorem mt_X5_laysBack (l : Launch) (D : va_G) (A : Nat → Prop) (E : State → Prop) (hE : zEok A E) (h : zT) (a0 : Nat) (res : zT) (hf : f_X5_laysBack h a0 = some res) : Met l yX5_laysBack (ws_ yX5_laysBack cX5_laysBack 2 (Option.none : Option FieldType)) rm_X5_laysBack (zPW D A E h [.ref a0]) (zQW D A none res) 0 0 A := by
  refine zmt hE (by decide) (Nat.le_of_ble_eq_true rfl) ?_
  intro p e s m below meth c ls hmn X hw hl
  have hl : lv_has ls 2 [(0, .ref a0)] := hl
  have hx := X.1.1
  have hb := X.1.2.1
  have hown := X.1.2.2.2.1
  have hts := X.1.2.2.2.2
  unfold f_X5_laysBack at hf
  refine lv_iconst (v := (0 : Int32)) hx hb dX5_laysBack_0 (by decide) ?_
  refine lv_istore_n (lv' := [(1, .int (0 : Int32)), (0, .ref a0)]) hx hb dX5_laysBack_1 rfl hl (by decide) rfl (fun ls hl => ?_)
  exact k_X5_laysBack_2 X _ 4096 h a0 (0 : Int32) _ _ _ hf hw (lv_sub hl [1, 0] rfl)
set_option maxHeartbeats 4000000 in
theorem k_X5_laysBy_2 {p : Program} {l : Launch} {e : Env} {s : State} {m : MethodId} {args : Array Value} {below : List Frame} {meth : Method} {c : Code} {D : va_G} {A : Nat → Prop} {E : State → Prop} (X : zCx p s m args meth c D A E cX5_laysBy 2 RX5 (Option.none : Option FieldType)) (res : zT) : ∀ (n : Nat), ∀ (h : zT) (a0 : Nat) (i1 : Int32) (H : Heap) (locs : List Loc) (ls : Array Slot), f_X5_laysBy_2 n h a0 i1 = some res → zWh D A s H h locs → lv_has ls 2 [(0, .ref a0), (1, .int i1)] → W p l e rm_X5_laysBy s m args below meth c H locs 0 0 (MQ below (zQW D A none res) args s 0 0 A) (F0 m 2 ls []) := by
  have hx := X.1.1
  have hb := X.1.2.1
  have hown := X.1.2.2.2.1
  have hts := X.1.2.2.2.2
  intro n
  induction n with
  | zero =>
    intro h a0 i1 H locs ls hf hw hl
    cases hf
  | succ n ih =>
    intro h a0 i1 H locs ls hf hw hl
    unfold f_X5_laysBy_2 at hf
    refine lv_iload_n hx hb dX5_laysBy_2 rfl (lv_at hl 1 rfl) ?_
    refine lv_bipush (v := (75 : Int32)) hx hb dX5_laysBy_3 (by decide) ?_
    refine zw_icmp_ge (tgt := 26) hx hb hf dX5_laysBy_5 (by decide) (fun hf => ?_) (fun hf => ?_)
    · exact zw_vret X hw hf (Nat.le_of_ble_eq_true rfl) (Nat.le_of_ble_eq_true rfl) dX5_laysBy_26
    · refine lv_aload_n hx hb dX5_laysBy_8 rfl (lv_at hl 0 rfl) ?_
      refine zw_getR X hw fs_X5_13 q1283 rfl hf dX5_laysBy_9 (fun v1 hf => ?_)
      refine lv_iload_n hx hb dX5_laysBy_12 rfl (lv_at hl 1 rfl) ?_
      refine lv_aload_n hx hb dX5_laysBy_13 rfl (lv_at hl 0 rfl) ?_
      refine zw_getR X hw fs_X5_0 q1270 rfl hf dX5_laysBy_14 (fun v2 hf => ?_)
      refine lv_iload_n hx hb dX5_laysBy_17 rfl (lv_at hl 1 rfl) ?_
      refine zw_ialoadR X hw hf dX5_laysBy_18 (fun v3 hf => ?_)
      refine zw_iastore X hw hf dX5_laysBy_19 (fun h4 H locs hf hw => ?_)
      refine zw_nmS hf (fun v5 ev5 hf => ?_)
      refine lv_iinc (k := 1) (v := v5) (lv' := [(1, .int v5), (0, .ref a0)]) hx hb dX5_laysBy_20 hl rfl (by rw [ev5]; rfl) (by decide) rfl (fun ls hl => ?_)
      refine lv_goto (tgt := 2) hx hb dX5_laysBy_23 (by decide) ?_
      exact ih h4 a0 v5 _ _ _ hf hw (lv_sub hl [1, 0] rfl)
set_option maxHeartbeats 4000000 in
theorem mt_X5_laysBy (l : Launch) (D : va_G) (A : Nat → Prop) (E : State → Prop) (hE : zEok A E) (h : zT) (a0 : Nat) (res : zT) (hf : f_X5_laysBy h a0 = some res) : Met l yX5_laysBy (ws_ yX5_laysBy cX5_laysBy 2 (Option.none : Option FieldType)) rm_X5_laysBy (zPW D A E h [.ref a0]) (zQW D A none res) 0 0 A := by
  refine zmt hE (by decide) (Nat.le_of_ble_eq_true rfl) ?_
  intro p e s m below meth c ls hmn X hw hl
  have hl : lv_has ls 2 [(0, .ref a0)] := hl
  have hx := X.1.1
  have hb := X.1.2.1
  have hown := X.1.2.2.2.1
  have hts := X.1.2.2.2.2
  unfold f_X5_laysBy at hf
  refine lv_iconst (v := (0 : Int32)) hx hb dX5_laysBy_0 (by decide) ?_
  refine lv_istore_n (lv' := [(1, .int (0 : Int32)), (0, .ref a0)]) hx hb dX5_laysBy_1 rfl hl (by decide) rfl (fun ls hl => ?_)
  exact k_X5_laysBy_2 X _ 4096 h a0 (0 : Int32) _ _ _ hf hw (lv_sub hl [1, 0] rfl)
set_option maxHeartbeats 4000000 in
theorem mt_X5_behind (l : Launch) (D : va_G) (A : Nat → Prop) (E : State → Prop) (hE : zEok A E) (h : zT) (a0 : Nat) (i1 : Int32) (i2 : Int32) (res : Int32 × zT) (hf : f_X5_behind h a0 i1 i2 = some res) : Met l yX5_behind (ws_ yX5_behind cX5_behind 4 (Option.some FieldType.int)) rm_X5_behind (zPW D A E h [.ref a0, .int i1, .int i2]) (zQW D A (some (.int res.1)) res.2) 0 0 A := by
  refine zmt hE (by decide) (Nat.le_of_ble_eq_true rfl) ?_
  intro p e s m below meth c ls hmn X hw hl
  have hl : lv_has ls 4 [(0, .ref a0), (1, .int i1), (2, .int i2)] := hl
  have hx := X.1.1
  have hb := X.1.2.1
  have hown := X.1.2.2.2.1
  have hts := X.1.2.2.2.2
  unfold f_X5_behind at hf
  refine lv_iload_n hx hb dX5_behind_0 rfl (lv_at hl 1 rfl) ?_
  refine lv_i2l hx hb dX5_behind_1 rfl ?_
  refine lv_lconst (v := (0 : Int64)) hx hb dX5_behind_2 (by decide) ?_
  refine lv_ldc2 (v := (100 : Int64)) hx hb hown (hts _ q1564) dX5_behind_3 ?_
  refine zw_cSZ (rest := []) [.long i1.toInt64, .long (0 : Int64), .long (100 : Int64)] X hw hl.1 hf (fun r hr => mt_X5_isIn l D A E X.2.2.2.2.2.1 h i1.toInt64 (0 : Int64) (100 : Int64) r hr) (lw_S q1372 q1373 q89 q1374) cd_X5_isIn ⟨rfl, rfl⟩ ⟨Nat.le_of_ble_eq_true rfl, Nat.le_of_ble_eq_true rfl⟩ rfl rfl (Nat.le_of_ble_eq_true rfl) dX5_behind_6 ⟨Nat.le_of_ble_eq_true rfl, Nat.le_of_ble_eq_true rfl⟩ (fun r1 H locs hf hw => ?_)
  refine zw_if_eq (tgt := 30) hx hb hf dX5_behind_9 (by decide) (fun hf => ?_) (fun hf => ?_)
  · refine lv_ldc (v := (-1000000001 : Int32)) hx hb hown (hts _ q1377) dX5_behind_30 ?_
    exact zw_iret X hw hf (Nat.le_of_ble_eq_true rfl) (Nat.le_of_ble_eq_true rfl) dX5_behind_32
  · refine lv_iload_n hx hb dX5_behind_12 rfl (lv_at hl 2 rfl) ?_
    refine lv_i2l hx hb dX5_behind_13 rfl ?_
    refine lv_lconst (v := (0 : Int64)) hx hb dX5_behind_14 (by decide) ?_
    refine lv_iconst (v := (2 : Int32)) hx hb dX5_behind_15 (by decide) ?_
    refine lv_aload_n hx hb dX5_behind_16 rfl (lv_at hl 0 rfl) ?_
    refine zw_getR X hw fs_X5_0 q1270 rfl hf dX5_behind_17 (fun v2 hf => ?_)
    refine lv_iconst (v := (0 : Int32)) hx hb dX5_behind_20 (by decide) ?_
    refine zw_ialoadR X hw hf dX5_behind_21 (fun v3 hf => ?_)
    refine lv_iadd hx hb dX5_behind_22 ?_
    refine lv_i2l hx hb dX5_behind_23 rfl ?_
    refine zw_cSZ (rest := []) [.long i2.toInt64, .long (0 : Int64), .long (((2 : Int32) + v3).toInt64)] X hw hl.1 hf (fun r hr => mt_X5_isIn l D A E X.2.2.2.2.2.1 r1.2 i2.toInt64 (0 : Int64) (((2 : Int32) + v3).toInt64) r hr) (lw_S q1372 q1373 q89 q1374) cd_X5_isIn ⟨rfl, rfl⟩ ⟨Nat.le_of_ble_eq_true rfl, Nat.le_of_ble_eq_true rfl⟩ rfl rfl (Nat.le_of_ble_eq_true rfl) dX5_behind_24 ⟨Nat.le_of_ble_eq_true rfl, Nat.le_of_ble_eq_true rfl⟩ (fun r4 H locs hf hw => ?_)
    refine zw_if_ne (tgt := 33) hx hb hf dX5_behind_27 (by decide) (fun hf => ?_) (fun hf => ?_)
    · refine lv_aload_n hx hb dX5_behind_33 rfl (lv_at hl 0 rfl) ?_
      refine zw_cVV (rest := []) [] X hw hl.1 hf rfl rfl (fun r hr => mt_X5_laysBy l D A E X.2.2.2.2.2.1 r4.2 a0 r hr) (lw_V q1581 q1583 qs61 q89 q1584) cd_X5_laysBy ⟨rfl, rfl⟩ ⟨Nat.le_of_ble_eq_true rfl, Nat.le_of_ble_eq_true rfl⟩ rfl rfl (Nat.le_of_ble_eq_true rfl) dX5_behind_34 ⟨Nat.le_of_ble_eq_true rfl, Nat.le_of_ble_eq_true rfl⟩ (fun r5 H locs hf hw => ?_)
      refine lv_aload_n hx hb dX5_behind_37 rfl (lv_at hl 0 rfl) ?_
      refine lv_iload_n hx hb dX5_behind_38 rfl (lv_at hl 1 rfl) ?_
      refine zw_cVV (rest := []) [.int i1] X hw hl.1 hf rfl rfl (fun r hr => mt_X5_goesOnMany l D A E X.2.2.2.2.2.1 r5 a0 i1 r hr) (lw_V q1585 q1587 qs62 q89 q1588) cd_X5_goesOnMany ⟨rfl, rfl⟩ ⟨Nat.le_of_ble_eq_true rfl, Nat.le_of_ble_eq_true rfl⟩ rfl rfl (Nat.le_of_ble_eq_true rfl) dX5_behind_39 ⟨Nat.le_of_ble_eq_true rfl, Nat.le_of_ble_eq_true rfl⟩ (fun r6 H locs hf hw => ?_)
      refine lv_iload_n hx hb dX5_behind_42 rfl (lv_at hl 2 rfl) ?_
      refine zw_if_ne (tgt := 53) hx hb hf dX5_behind_43 (by decide) (fun hf => ?_) (fun hf => ?_)
      · refine lv_iload_n hx hb dX5_behind_53 rfl (lv_at hl 2 rfl) ?_
        refine lv_iconst (v := (1 : Int32)) hx hb dX5_behind_54 (by decide) ?_
        refine zw_icmp_ne (tgt := 65) hx hb hf dX5_behind_55 (by decide) (fun hf => ?_) (fun hf => ?_)
        · refine lv_iload_n hx hb dX5_behind_65 rfl (lv_at hl 2 rfl) ?_
          refine lv_iconst (v := (2 : Int32)) hx hb dX5_behind_66 (by decide) ?_
          refine zw_icmp_ne (tgt := 79) hx hb hf dX5_behind_67 (by decide) (fun hf => ?_) (fun hf => ?_)
          · refine lv_aload_n hx hb dX5_behind_79 rfl (lv_at hl 0 rfl) ?_
            refine lv_iload_n hx hb dX5_behind_80 rfl (lv_at hl 2 rfl) ?_
            refine lv_iconst (v := (3 : Int32)) hx hb dX5_behind_81 (by decide) ?_
            refine lv_isub hx hb dX5_behind_82 ?_
            refine lv_iconst (v := (5 : Int32)) hx hb dX5_behind_83 (by decide) ?_
            refine zw_cVI (rest := []) [.int (i2 - (3 : Int32)), .int (5 : Int32)] X hw hl.1 hf rfl rfl (fun r hr => mt_X5_of l D A E X.2.2.2.2.2.1 r6 a0 (i2 - (3 : Int32)) (5 : Int32) r hr) (lw_V q1395 q1397 qs39 q89 q1398) cd_X5_of ⟨rfl, rfl⟩ ⟨Nat.le_of_ble_eq_true rfl, Nat.le_of_ble_eq_true rfl⟩ rfl rfl (Nat.le_of_ble_eq_true rfl) dX5_behind_84 ⟨Nat.le_of_ble_eq_true rfl, Nat.le_of_ble_eq_true rfl⟩ (fun r7 H locs hf hw => ?_)
            refine lv_istore_n (lv' := [(3, .int r7.1), (0, .ref a0), (1, .int i1), (2, .int i2)]) hx hb dX5_behind_87 rfl hl (by decide) rfl (fun ls hl => ?_)
            refine lv_aload_n hx hb dX5_behind_88 rfl (lv_at hl 1 rfl) ?_
            refine zw_cVV (rest := []) [] X hw hl.1 hf rfl rfl (fun r hr => mt_X5_laysBack l D A E X.2.2.2.2.2.1 r7.2 a0 r hr) (lw_V q1589 q1591 qs63 q89 q1592) cd_X5_laysBack ⟨rfl, rfl⟩ ⟨Nat.le_of_ble_eq_true rfl, Nat.le_of_ble_eq_true rfl⟩ rfl rfl (Nat.le_of_ble_eq_true rfl) dX5_behind_89 ⟨Nat.le_of_ble_eq_true rfl, Nat.le_of_ble_eq_true rfl⟩ (fun r8 H locs hf hw => ?_)
            refine lv_iload_n hx hb dX5_behind_92 rfl (lv_at hl 0 rfl) ?_
            exact zw_iret X hw hf (Nat.le_of_ble_eq_true rfl) (Nat.le_of_ble_eq_true rfl) dX5_behind_93
          · refine lv_aload_n hx hb dX5_behind_70 rfl (lv_at hl 0 rfl) ?_
            refine zw_getR X hw fs_X5_0 q1270 rfl hf dX5_behind_71 (fun v9 hf => ?_)
            refine lv_iconst (v := (3 : Int32)) hx hb dX5_behind_74 (by decide) ?_
            refine zw_ialoadR X hw hf dX5_behind_75 (fun v10 hf => ?_)
            refine lv_goto (tgt := 87) hx hb dX5_behind_76 (by decide) ?_
            refine lv_istore_n (lv' := [(3, .int v10), (0, .ref a0), (1, .int i1), (2, .int i2)]) hx hb dX5_behind_87 rfl hl (by decide) rfl (fun ls hl => ?_)
            refine lv_aload_n hx hb dX5_behind_88 rfl (lv_at hl 1 rfl) ?_
            refine zw_cVV (rest := []) [] X hw hl.1 hf rfl rfl (fun r hr => mt_X5_laysBack l D A E X.2.2.2.2.2.1 r6 a0 r hr) (lw_V q1589 q1591 qs63 q89 q1592) cd_X5_laysBack ⟨rfl, rfl⟩ ⟨Nat.le_of_ble_eq_true rfl, Nat.le_of_ble_eq_true rfl⟩ rfl rfl (Nat.le_of_ble_eq_true rfl) dX5_behind_89 ⟨Nat.le_of_ble_eq_true rfl, Nat.le_of_ble_eq_true rfl⟩ (fun r11 H locs hf hw => ?_)
            refine lv_iload_n hx hb dX5_behind_92 rfl (lv_at hl 0 rfl) ?_
            exact zw_iret X hw hf (Nat.le_of_ble_eq_true rfl) (Nat.le_of_ble_eq_true rfl) dX5_behind_93
        · refine lv_aload_n hx hb dX5_behind_58 rfl (lv_at hl 0 rfl) ?_
          refine zw_cVI (rest := []) [] X hw hl.1 hf rfl rfl (fun r hr => mt_X5_laidOnes l D A E X.2.2.2.2.2.1 r6 a0 r hr) (lw_V q1533 q1535 qs55 q89 q1536) cd_X5_laidOnes ⟨rfl, rfl⟩ ⟨Nat.le_of_ble_eq_true rfl, Nat.le_of_ble_eq_true rfl⟩ rfl rfl (Nat.le_of_ble_eq_true rfl) dX5_behind_59 ⟨Nat.le_of_ble_eq_true rfl, Nat.le_of_ble_eq_true rfl⟩ (fun r12 H locs hf hw => ?_)
          refine lv_goto (tgt := 87) hx hb dX5_behind_62 (by decide) ?_
          refine lv_istore_n (lv' := [(3, .int r12.1), (0, .ref a0), (1, .int i1), (2, .int i2)]) hx hb dX5_behind_87 rfl hl (by decide) rfl (fun ls hl => ?_)
          refine lv_aload_n hx hb dX5_behind_88 rfl (lv_at hl 1 rfl) ?_
          refine zw_cVV (rest := []) [] X hw hl.1 hf rfl rfl (fun r hr => mt_X5_laysBack l D A E X.2.2.2.2.2.1 r12.2 a0 r hr) (lw_V q1589 q1591 qs63 q89 q1592) cd_X5_laysBack ⟨rfl, rfl⟩ ⟨Nat.le_of_ble_eq_true rfl, Nat.le_of_ble_eq_true rfl⟩ rfl rfl (Nat.le_of_ble_eq_true rfl) dX5_behind_89 ⟨Nat.le_of_ble_eq_true rfl, Nat.le_of_ble_eq_true rfl⟩ (fun r13 H locs hf hw => ?_)
          refine lv_iload_n hx hb dX5_behind_92 rfl (lv_at hl 0 rfl) ?_
          exact zw_iret X hw hf (Nat.le_of_ble_eq_true rfl) (Nat.le_of_ble_eq_true rfl) dX5_behind_93
      · refine lv_aload_n hx hb dX5_behind_46 rfl (lv_at hl 0 rfl) ?_
        refine zw_cVI (rest := []) [] X hw hl.1 hf rfl rfl (fun r hr => mt_X5_allTrust l D A E X.2.2.2.2.2.1 r6 a0 r hr) (lw_V q1573 q1575 qs60 q89 q1576) cd_X5_allTrust ⟨rfl, rfl⟩ ⟨Nat.le_of_ble_eq_true rfl, Nat.le_of_ble_eq_true rfl⟩ rfl rfl (Nat.le_of_ble_eq_true rfl) dX5_behind_47 ⟨Nat.le_of_ble_eq_true rfl, Nat.le_of_ble_eq_true rfl⟩ (fun r14 H locs hf hw => ?_)
        refine lv_goto (tgt := 87) hx hb dX5_behind_50 (by decide) ?_
        refine lv_istore_n (lv' := [(3, .int r14.1), (0, .ref a0), (1, .int i1), (2, .int i2)]) hx hb dX5_behind_87 rfl hl (by decide) rfl (fun ls hl => ?_)
        refine lv_aload_n hx hb dX5_behind_88 rfl (lv_at hl 1 rfl) ?_
        refine zw_cVV (rest := []) [] X hw hl.1 hf rfl rfl (fun r hr => mt_X5_laysBack l D A E X.2.2.2.2.2.1 r14.2 a0 r hr) (lw_V q1589 q1591 qs63 q89 q1592) cd_X5_laysBack ⟨rfl, rfl⟩ ⟨Nat.le_of_ble_eq_true rfl, Nat.le_of_ble_eq_true rfl⟩ rfl rfl (Nat.le_of_ble_eq_true rfl) dX5_behind_89 ⟨Nat.le_of_ble_eq_true rfl, Nat.le_of_ble_eq_true rfl⟩ (fun r15 H locs hf hw => ?_)
        refine lv_iload_n hx hb dX5_behind_92 rfl (lv_at hl 0 rfl) ?_
        exact zw_iret X hw hf (Nat.le_of_ble_eq_true rfl) (Nat.le_of_ble_eq_true rfl) dX5_behind_93
    · refine lv_ldc (v := (-1000000001 : Int32)) hx hb hown (hts _ q1377) dX5_behind_30 ?_
      exact zw_iret X hw hf (Nat.le_of_ble_eq_true rfl) (Nat.le_of_ble_eq_true rfl) dX5_behind_32
set_option maxHeartbeats 4000000 in
theorem mt_X5_orNone (l : Launch) (D : va_G) (A : Nat → Prop) (E : State → Prop) (hE : zEok A E) (h : zT) (i0 : Int32) (res : Int32 × zT) (hf : f_X5_orNone h i0 = some res) : Met l yX5_orNone (ws_ yX5_orNone cX5_orNone 1 (Option.some FieldType.int)) rm_X5_orNone (zPW D A E h [.int i0]) (zQW D A (some (.int res.1)) res.2) 0 0 A := by
  refine zmt hE (by decide) (Nat.le_of_ble_eq_true rfl) ?_
  intro p e s m below meth c ls hmn X hw hl
  have hl : lv_has ls 1 [(0, .int i0)] := hl
  have hx := X.1.1
  have hb := X.1.2.1
  have hown := X.1.2.2.2.1
  have hts := X.1.2.2.2.2
  unfold f_X5_orNone at hf
  refine lv_iload_n hx hb dX5_orNone_0 rfl (lv_at hl 0 rfl) ?_
  refine zw_if_ge (tgt := 9) hx hb hf dX5_orNone_1 (by decide) (fun hf => ?_) (fun hf => ?_)
  · refine lv_iload_n hx hb dX5_orNone_9 rfl (lv_at hl 0 rfl) ?_
    exact zw_iret X hw hf (Nat.le_of_ble_eq_true rfl) (Nat.le_of_ble_eq_true rfl) dX5_orNone_10
  · refine lv_ldc (v := (-1000000005 : Int32)) hx hb hown (hts _ q1600) dX5_orNone_4 ?_
    refine lv_goto (tgt := 10) hx hb dX5_orNone_6 (by decide) ?_
    exact zw_iret X hw hf (Nat.le_of_ble_eq_true rfl) (Nat.le_of_ble_eq_true rfl) dX5_orNone_10
set_option maxHeartbeats 4000000 in
theorem k_X5_lasts_42 {p : Program} {l : Launch} {e : Env} {s : State} {m : MethodId} {args : Array Value} {below : List Frame} {meth : Method} {c : Code} {D : va_G} {A : Nat → Prop} {E : State → Prop} (X : zCx p s m args meth c D A E cX5_lasts 3 RX5 (Option.some FieldType.int)) (res : Int32 × zT) : ∀ (h : zT) (a0 : Nat) (i1 : Int32) (H : Heap) (locs : List Loc) (ls : Array Slot), f_X5_lasts_42 h a0 i1 = some res → zWh D A s H h locs → lv_has ls 3 [(0, .ref a0), (1, .int i1)] → W p l e rm_X5_lasts s m args below meth c H locs 0 0 (MQ below (zQW D A (some (.int res.1)) res.2) args s 0 0 A) (F0 m 42 ls []) := by
  have hx := X.1.1
  have hb := X.1.2.1
  have hown := X.1.2.2.2.1
  have hts := X.1.2.2.2.2
  intro h a0 i1 H locs ls hf hw hl
  unfold f_X5_lasts_42 at hf
  refine lv_aload_n hx hb dX5_lasts_42 rfl (lv_at hl 0 rfl) ?_
  refine zw_cVV (rest := []) [] X hw hl.1 hf rfl rfl (fun r hr => mt_X5_laysBack l D A E X.2.2.2.2.2.1 h a0 r hr) (lw_V q1589 q1591 qs63 q89 q1592) cd_X5_laysBack ⟨rfl, rfl⟩ ⟨Nat.le_of_ble_eq_true rfl, Nat.le_of_ble_eq_true rfl⟩ rfl rfl (Nat.le_of_ble_eq_true rfl) dX5_lasts_43 ⟨Nat.le_of_ble_eq_true rfl, Nat.le_of_ble_eq_true rfl⟩ (fun r1 H locs hf hw => ?_)
  refine lv_iload_n hx hb dX5_lasts_46 rfl (lv_at hl 1 rfl) ?_
  refine zw_cSI (rest := []) [.int i1] X hw hl.1 hf (fun r hr => mt_X5_orNone l D A E X.2.2.2.2.2.1 r1 i1 r hr) (lw_S q1597 q1598 q89 q1599) cd_X5_orNone ⟨rfl, rfl⟩ ⟨Nat.le_of_ble_eq_true rfl, Nat.le_of_ble_eq_true rfl⟩ rfl rfl (Nat.le_of_ble_eq_true rfl) dX5_lasts_47 ⟨Nat.le_of_ble_eq_true rfl, Nat.le_of_ble_eq_true rfl⟩ (fun r2 H locs hf hw => ?_)
  exact zw_iret X hw hf (Nat.le_of_ble_eq_true rfl) (Nat.le_of_ble_eq_true rfl) dX5_lasts_50
set_option maxHeartbeats 4000000 in
theorem k_X5_lasts_8 {p : Program} {l : Launch} {e : Env} {s : State} {m : MethodId} {args : Array Value} {below : List Frame} {meth : Method} {c : Code} {D : va_G} {A : Nat → Prop} {E : State → Prop} (X : zCx p s m args meth c D A E cX5_lasts 3 RX5 (Option.some FieldType.int)) (res : Int32 × zT) : ∀ (n : Nat), ∀ (h : zT) (a0 : Nat) (i1 : Int32) (i2 : Int32) (H : Heap) (locs : List Loc) (ls : Array Slot), f_X5_lasts_8 n h a0 i1 i2 = some res → zWh D A s H h locs → lv_has ls 3 [(0, .ref a0), (1, .int i1), (2, .int i2)] → W p l e rm_X5_lasts s m args below meth c H locs 0 0 (MQ below (zQW D A (some (.int res.1)) res.2) args s 0 0 A) (F0 m 8 ls []) := by
  have hx := X.1.1
  have hb := X.1.2.1
  have hown := X.1.2.2.2.1
  have hts := X.1.2.2.2.2
  intro n
  induction n with
  | zero =>
    intro h a0 i1 i2 H locs ls hf hw hl
    cases hf
  | succ n ih =>
    intro h a0 i1 i2 H locs ls hf hw hl
    unfold f_X5_lasts_8 at hf
    refine lv_iload_n hx hb dX5_lasts_8 rfl (lv_at hl 2 rfl) ?_
    refine lv_sipush (v := (300 : Int32)) hx hb dX5_lasts_9 (by decide) ?_
    refine zw_icmp_gt (tgt := 42) hx hb hf dX5_lasts_12 (by decide) (fun hf => ?_) (fun hf => ?_)
    · exact k_X5_lasts_42 X _ h a0 i1 _ _ _ hf hw (lv_sub hl [0, 1] rfl)
    · refine lv_iload_n hx hb dX5_lasts_15 rfl (lv_at hl 1 rfl) ?_
      refine zw_if_ge (tgt := 42) hx hb hf dX5_lasts_16 (by decide) (fun hf => ?_) (fun hf => ?_)
      · exact k_X5_lasts_42 X _ h a0 i1 _ _ _ hf hw (lv_sub hl [0, 1] rfl)
      · refine lv_aload_n hx hb dX5_lasts_19 rfl (lv_at hl 0 rfl) ?_
        refine zw_cVI (rest := []) [] X hw hl.1 hf rfl rfl (fun r hr => mt_X5_laidOnes l D A E X.2.2.2.2.2.1 h a0 r hr) (lw_V q1533 q1535 qs55 q89 q1536) cd_X5_laidOnes ⟨rfl, rfl⟩ ⟨Nat.le_of_ble_eq_true rfl, Nat.le_of_ble_eq_true rfl⟩ rfl rfl (Nat.le_of_ble_eq_true rfl) dX5_lasts_20 ⟨Nat.le_of_ble_eq_true rfl, Nat.le_of_ble_eq_true rfl⟩ (fun r1 H locs hf hw => ?_)
        refine zw_if_ne (tgt := 30) hx hb hf dX5_lasts_23 (by decide) (fun hf => ?_) (fun hf => ?_)
        · refine lv_iconst (v := (-1 : Int32)) hx hb dX5_lasts_30 (by decide) ?_
          refine lv_istore_n (lv' := [(1, .int (-1 : Int32)), (0, .ref a0), (2, .int i2)]) hx hb dX5_lasts_31 rfl hl (by decide) rfl (fun ls hl => ?_)
          refine lv_aload_n hx hb dX5_lasts_32 rfl (lv_at hl 1 rfl) ?_
          refine zw_cVV (rest := []) [] X hw hl.1 hf rfl rfl (fun r hr => mt_X5_goesOn l D A E X.2.2.2.2.2.1 r1.2 a0 r hr) (lw_V q1565 q1567 qs59 q89 q1568) cd_X5_goesOn ⟨rfl, rfl⟩ ⟨Nat.le_of_ble_eq_true rfl, Nat.le_of_ble_eq_true rfl⟩ rfl rfl (Nat.le_of_ble_eq_true rfl) dX5_lasts_33 ⟨Nat.le_of_ble_eq_true rfl, Nat.le_of_ble_eq_true rfl⟩ (fun r2 H locs hf hw => ?_)
          refine zw_nmS hf (fun v3 ev3 hf => ?_)
          refine lv_iinc (k := 2) (v := v3) (lv' := [(2, .int v3), (1, .int (-1 : Int32)), (0, .ref a0)]) hx hb dX5_lasts_36 hl rfl (by rw [ev3]; rfl) (by decide) rfl (fun ls hl => ?_)
          refine lv_goto (tgt := 8) hx hb dX5_lasts_39 (by decide) ?_
          exact ih r2 a0 (-1 : Int32) v3 _ _ _ hf hw (lv_sub hl [2, 1, 0] rfl)
        · refine lv_iload_n hx hb dX5_lasts_26 rfl (lv_at hl 2 rfl) ?_
          refine lv_goto (tgt := 31) hx hb dX5_lasts_27 (by decide) ?_
          refine lv_istore_n (lv' := [(1, .int i2), (0, .ref a0), (2, .int i2)]) hx hb dX5_lasts_31 rfl hl (by decide) rfl (fun ls hl => ?_)
          refine lv_aload_n hx hb dX5_lasts_32 rfl (lv_at hl 1 rfl) ?_
          refine zw_cVV (rest := []) [] X hw hl.1 hf rfl rfl (fun r hr => mt_X5_goesOn l D A E X.2.2.2.2.2.1 r1.2 a0 r hr) (lw_V q1565 q1567 qs59 q89 q1568) cd_X5_goesOn ⟨rfl, rfl⟩ ⟨Nat.le_of_ble_eq_true rfl, Nat.le_of_ble_eq_true rfl⟩ rfl rfl (Nat.le_of_ble_eq_true rfl) dX5_lasts_33 ⟨Nat.le_of_ble_eq_true rfl, Nat.le_of_ble_eq_true rfl⟩ (fun r4 H locs hf hw => ?_)
          refine zw_nmS hf (fun v5 ev5 hf => ?_)
          refine lv_iinc (k := 2) (v := v5) (lv' := [(2, .int v5), (1, .int i2), (0, .ref a0)]) hx hb dX5_lasts_36 hl rfl (by rw [ev5]; rfl) (by decide) rfl (fun ls hl => ?_)
          refine lv_goto (tgt := 8) hx hb dX5_lasts_39 (by decide) ?_
          exact ih r4 a0 i2 v5 _ _ _ hf hw (lv_sub hl [2, 1, 0] rfl)
set_option maxHeartbeats 4000000 in
theorem mt_X5_lasts (l : Launch) (D : va_G) (A : Nat → Prop) (E : State → Prop) (hE : zEok A E) (h : zT) (a0 : Nat) (res : Int32 × zT) (hf : f_X5_lasts h a0 = some res) : Met l yX5_lasts (ws_ yX5_lasts cX5_lasts 3 (Option.some FieldType.int)) rm_X5_lasts (zPW D A E h [.ref a0]) (zQW D A (some (.int res.1)) res.2) 0 0 A := by
  refine zmt hE (by decide) (Nat.le_of_ble_eq_true rfl) ?_
  intro p e s m below meth c ls hmn X hw hl
  have hl : lv_has ls 3 [(0, .ref a0)] := hl
  have hx := X.1.1
  have hb := X.1.2.1
  have hown := X.1.2.2.2.1
  have hts := X.1.2.2.2.2
  unfold f_X5_lasts at hf
  refine lv_aload_n hx hb dX5_lasts_0 rfl (lv_at hl 0 rfl) ?_
  refine zw_cVV (rest := []) [] X hw hl.1 hf rfl rfl (fun r hr => mt_X5_laysBy l D A E X.2.2.2.2.2.1 h a0 r hr) (lw_V q1581 q1583 qs61 q89 q1584) cd_X5_laysBy ⟨rfl, rfl⟩ ⟨Nat.le_of_ble_eq_true rfl, Nat.le_of_ble_eq_true rfl⟩ rfl rfl (Nat.le_of_ble_eq_true rfl) dX5_lasts_1 ⟨Nat.le_of_ble_eq_true rfl, Nat.le_of_ble_eq_true rfl⟩ (fun r1 H locs hf hw => ?_)
  refine lv_iconst (v := (-1 : Int32)) hx hb dX5_lasts_4 (by decide) ?_
  refine lv_istore_n (lv' := [(1, .int (-1 : Int32)), (0, .ref a0)]) hx hb dX5_lasts_5 rfl hl (by decide) rfl (fun ls hl => ?_)
  refine lv_iconst (v := (0 : Int32)) hx hb dX5_lasts_6 (by decide) ?_
  refine lv_istore_n (lv' := [(2, .int (0 : Int32)), (1, .int (-1 : Int32)), (0, .ref a0)]) hx hb dX5_lasts_7 rfl hl (by decide) rfl (fun ls hl => ?_)
  exact k_X5_lasts_8 X _ 4096 r1 a0 (-1 : Int32) (0 : Int32) _ _ _ hf hw (lv_sub hl [2, 1, 0] rfl)
set_option maxHeartbeats 4000000 in
theorem k_X5_best_92 {p : Program} {l : Launch} {e : Env} {s : State} {m : MethodId} {args : Array Value} {below : List Frame} {meth : Method} {c : Code} {D : va_G} {A : Nat → Prop} {E : State → Prop} (X : zCx p s m args meth c D A E cX5_best 8 RX5 (Option.some FieldType.int)) (res : Int32 × zT) (K46 : zT → Nat → Int32 → Int32 → Int32 → Int32 → Int32 → Int32 → Option (Int32 × zT)) (hK46 : ∀ (h : zT) (a0 : Nat) (i1 : Int32) (i2 : Int32) (i3 : Int32) (i4 : Int32) (i5 : Int32) (i6 : Int32) (H : Heap) (locs : List Loc) (ls : Array Slot), K46 h a0 i1 i2 i3 i4 i5 i6 = some res → zWh D A s H h locs → lv_has ls 8 [(0, .ref a0), (1, .int i1), (2, .int i2), (3, .int i3), (4, .int i4), (5, .int i5), (6, .int i6)] → W p l e rm_X5_best s m args below meth c H locs 0 0 (MQ below (zQW D A (some (.int res.1)) res.2) args s 0 0 A) (F0 m 46 ls [])) : ∀ (h : zT) (a0 : Nat) (i1 : Int32) (i2 : Int32) (i3 : Int32) (i5 : Int32) (i6 : Int32) (i7 : Int32) (s0 : Int32) (H : Heap) (locs : List Loc) (ls : Array Slot), f_X5_best_92 K46 h a0 i1 i2 i3 i5 i6 i7 s0 = some res → zWh D A s H h locs → lv_has ls 8 [(0, .ref a0), (1, .int i1), (2, .int i2), (3, .int i3), (5, .int i5), (6, .int i6), (7, .int i7)] → W p l e rm_X5_best s m args below meth c H locs 0 0 (MQ below (zQW D A (some (.int res.1)) res.2) args s 0 0 A) (F0 m 92 ls [.int s0]) := by
  have hx := X.1.1
  have hb := X.1.2.1
  have hown := X.1.2.2.2.1
  have hts := X.1.2.2.2.2
  intro h a0 i1 i2 i3 i5 i6 i7 s0 H locs ls hf hw hl
  unfold f_X5_best_92 at hf
  refine lv_istore (lv' := [(4, .int s0), (0, .ref a0), (1, .int i1), (2, .int i2), (3, .int i3), (5, .int i5), (6, .int i6), (7, .int i7)]) hx hb dX5_best_92 hl (by decide) rfl (fun ls hl => ?_)
  refine lv_iload hx hb dX5_best_94 (lv_at hl 7 rfl) ?_
  refine lv_iload hx hb dX5_best_96 (lv_at hl 5 rfl) ?_
  refine zw_icmp_le (tgt := 106) hx hb hf dX5_best_98 (by decide) (fun hf => ?_) (fun hf => ?_)
  · refine lv_iload hx hb dX5_best_106 (lv_at hl 5 rfl) ?_
    refine lv_istore (lv' := [(5, .int i5), (4, .int s0), (0, .ref a0), (1, .int i1), (2, .int i2), (3, .int i3), (6, .int i6), (7, .int i7)]) hx hb dX5_best_108 hl (by decide) rfl (fun ls hl => ?_)
    refine zw_nmS hf (fun v1 ev1 hf => ?_)
    refine lv_iinc (k := 6) (v := v1) (lv' := [(6, .int v1), (5, .int i5), (4, .int s0), (0, .ref a0), (1, .int i1), (2, .int i2), (3, .int i3), (7, .int i7)]) hx hb dX5_best_110 hl rfl (by rw [ev1]; rfl) (by decide) rfl (fun ls hl => ?_)
    refine lv_goto (tgt := 46) hx hb dX5_best_113 (by decide) ?_
    exact hK46 h a0 i1 i2 i3 s0 i5 v1 _ _ _ hf hw (lv_sub hl [3, 4, 5, 6, 2, 1, 0] rfl)
  · refine lv_iload hx hb dX5_best_101 (lv_at hl 7 rfl) ?_
    refine lv_goto (tgt := 108) hx hb dX5_best_103 (by decide) ?_
    refine lv_istore (lv' := [(5, .int i7), (4, .int s0), (0, .ref a0), (1, .int i1), (2, .int i2), (3, .int i3), (6, .int i6), (7, .int i7)]) hx hb dX5_best_108 hl (by decide) rfl (fun ls hl => ?_)
    refine zw_nmS hf (fun v2 ev2 hf => ?_)
    refine lv_iinc (k := 6) (v := v2) (lv' := [(6, .int v2), (5, .int i7), (4, .int s0), (0, .ref a0), (1, .int i1), (2, .int i2), (3, .int i3), (7, .int i7)]) hx hb dX5_best_110 hl rfl (by rw [ev2]; rfl) (by decide) rfl (fun ls hl => ?_)
    refine lv_goto (tgt := 46) hx hb dX5_best_113 (by decide) ?_
    exact hK46 h a0 i1 i2 i3 s0 i7 v2 _ _ _ hf hw (lv_sub hl [3, 4, 5, 6, 2, 1, 0] rfl)
set_option maxHeartbeats 4000000 in
theorem k_X5_best_46 {p : Program} {l : Launch} {e : Env} {s : State} {m : MethodId} {args : Array Value} {below : List Frame} {meth : Method} {c : Code} {D : va_G} {A : Nat → Prop} {E : State → Prop} (X : zCx p s m args meth c D A E cX5_best 8 RX5 (Option.some FieldType.int)) (res : Int32 × zT) : ∀ (n : Nat), ∀ (h : zT) (a0 : Nat) (i1 : Int32) (i2 : Int32) (i3 : Int32) (i4 : Int32) (i5 : Int32) (i6 : Int32) (H : Heap) (locs : List Loc) (ls : Array Slot), f_X5_best_46 n h a0 i1 i2 i3 i4 i5 i6 = some res → zWh D A s H h locs → lv_has ls 8 [(0, .ref a0), (1, .int i1), (2, .int i2), (3, .int i3), (4, .int i4), (5, .int i5), (6, .int i6)] → W p l e rm_X5_best s m args below meth c H locs 0 0 (MQ below (zQW D A (some (.int res.1)) res.2) args s 0 0 A) (F0 m 46 ls []) := by
  have hx := X.1.1
  have hb := X.1.2.1
  have hown := X.1.2.2.2.1
  have hts := X.1.2.2.2.2
  intro n
  induction n with
  | zero =>
    intro h a0 i1 i2 i3 i4 i5 i6 H locs ls hf hw hl
    cases hf
  | succ n ih =>
    intro h a0 i1 i2 i3 i4 i5 i6 H locs ls hf hw hl
    unfold f_X5_best_46 at hf
    refine lv_iload hx hb dX5_best_46 (lv_at hl 6 rfl) ?_
    refine lv_bipush (v := (16 : Int32)) hx hb dX5_best_48 (by decide) ?_
    refine zw_icmp_ge (tgt := 116) hx hb hf dX5_best_50 (by decide) (fun hf => ?_) (fun hf => ?_)
    · refine lv_iload_n hx hb dX5_best_116 rfl (lv_at hl 3 rfl) ?_
      refine zw_if_ne (tgt := 125) hx hb hf dX5_best_117 (by decide) (fun hf => ?_) (fun hf => ?_)
      · refine lv_iload hx hb dX5_best_125 (lv_at hl 5 rfl) ?_
        exact zw_iret X hw hf (Nat.le_of_ble_eq_true rfl) (Nat.le_of_ble_eq_true rfl) dX5_best_127
      · refine lv_iload hx hb dX5_best_120 (lv_at hl 4 rfl) ?_
        refine lv_goto (tgt := 127) hx hb dX5_best_122 (by decide) ?_
        exact zw_iret X hw hf (Nat.le_of_ble_eq_true rfl) (Nat.le_of_ble_eq_true rfl) dX5_best_127
    · refine lv_aload_n hx hb dX5_best_53 rfl (lv_at hl 0 rfl) ?_
      refine lv_iload_n hx hb dX5_best_54 rfl (lv_at hl 1 rfl) ?_
      refine lv_iconst (v := (4 : Int32)) hx hb dX5_best_55 (by decide) ?_
      refine lv_iload hx hb dX5_best_56 (lv_at hl 6 rfl) ?_
      refine zw_cVV (rest := []) [.int i1, .int (4 : Int32), .int i6] X hw hl.1 hf rfl rfl (fun r hr => mt_X5_sets l D A E X.2.2.2.2.2.1 h a0 i1 (4 : Int32) i6 r hr) (lw_V q1383 q1385 qs37 q89 q1386) cd_X5_sets ⟨rfl, rfl⟩ ⟨Nat.le_of_ble_eq_true rfl, Nat.le_of_ble_eq_true rfl⟩ rfl rfl (Nat.le_of_ble_eq_true rfl) dX5_best_58 ⟨Nat.le_of_ble_eq_true rfl, Nat.le_of_ble_eq_true rfl⟩ (fun r1 H locs hf hw => ?_)
      refine lv_aload_n hx hb dX5_best_61 rfl (lv_at hl 0 rfl) ?_
      refine lv_iload_n hx hb dX5_best_62 rfl (lv_at hl 2 rfl) ?_
      refine zw_cVV (rest := []) [.int i2] X hw hl.1 hf rfl rfl (fun r hr => mt_X5_goesOnMany l D A E X.2.2.2.2.2.1 r1 a0 i2 r hr) (lw_V q1585 q1587 qs62 q89 q1588) cd_X5_goesOnMany ⟨rfl, rfl⟩ ⟨Nat.le_of_ble_eq_true rfl, Nat.le_of_ble_eq_true rfl⟩ rfl rfl (Nat.le_of_ble_eq_true rfl) dX5_best_63 ⟨Nat.le_of_ble_eq_true rfl, Nat.le_of_ble_eq_true rfl⟩ (fun r2 H locs hf hw => ?_)
      refine lv_aload_n hx hb dX5_best_66 rfl (lv_at hl 0 rfl) ?_
      refine lv_iload_n hx hb dX5_best_67 rfl (lv_at hl 1 rfl) ?_
      refine lv_iconst (v := (5 : Int32)) hx hb dX5_best_68 (by decide) ?_
      refine zw_cVI (rest := []) [.int i1, .int (5 : Int32)] X hw hl.1 hf rfl rfl (fun r hr => mt_X5_of l D A E X.2.2.2.2.2.1 r2 a0 i1 (5 : Int32) r hr) (lw_V q1395 q1397 qs39 q89 q1398) cd_X5_of ⟨rfl, rfl⟩ ⟨Nat.le_of_ble_eq_true rfl, Nat.le_of_ble_eq_true rfl⟩ rfl rfl (Nat.le_of_ble_eq_true rfl) dX5_best_69 ⟨Nat.le_of_ble_eq_true rfl, Nat.le_of_ble_eq_true rfl⟩ (fun r3 H locs hf hw => ?_)
      refine lv_istore (lv' := [(7, .int r3.1), (0, .ref a0), (1, .int i1), (2, .int i2), (3, .int i3), (4, .int i4), (5, .int i5), (6, .int i6)]) hx hb dX5_best_72 hl (by decide) rfl (fun ls hl => ?_)
      refine lv_aload_n hx hb dX5_best_74 rfl (lv_at hl 1 rfl) ?_
      refine zw_cVV (rest := []) [] X hw hl.1 hf rfl rfl (fun r hr => mt_X5_laysBack l D A E X.2.2.2.2.2.1 r3.2 a0 r hr) (lw_V q1589 q1591 qs63 q89 q1592) cd_X5_laysBack ⟨rfl, rfl⟩ ⟨Nat.le_of_ble_eq_true rfl, Nat.le_of_ble_eq_true rfl⟩ rfl rfl (Nat.le_of_ble_eq_true rfl) dX5_best_75 ⟨Nat.le_of_ble_eq_true rfl, Nat.le_of_ble_eq_true rfl⟩ (fun r4 H locs hf hw => ?_)
      refine lv_iload hx hb dX5_best_78 (lv_at hl 0 rfl) ?_
      refine lv_iload hx hb dX5_best_80 (lv_at hl 6 rfl) ?_
      refine zw_icmp_le (tgt := 90) hx hb hf dX5_best_82 (by decide) (fun hf => ?_) (fun hf => ?_)
      · refine lv_iload hx hb dX5_best_90 (lv_at hl 5 rfl) ?_
        exact k_X5_best_92 X _ (f_X5_best_46 n) ih r4 a0 i1 i2 i3 i5 i6 r3.1 i4 _ _ _ hf hw (lv_sub hl [1, 2, 3, 4, 6, 7, 0] rfl)
      · refine lv_iload hx hb dX5_best_85 (lv_at hl 7 rfl) ?_
        refine lv_goto (tgt := 92) hx hb dX5_best_87 (by decide) ?_
        exact k_X5_best_92 X _ (f_X5_best_46 n) ih r4 a0 i1 i2 i3 i5 i6 r3.1 i6 _ _ _ hf hw (lv_sub hl [1, 2, 3, 4, 6, 7, 0] rfl)
set_option maxHeartbeats 4000000 in
theorem mt_X5_best (l : Launch) (D : va_G) (A : Nat → Prop) (E : State → Prop) (hE : zEok A E) (h : zT) (a0 : Nat) (i1 : Int32) (i2 : Int32) (i3 : Int32) (res : Int32 × zT) (hf : f_X5_best h a0 i1 i2 i3 = some res) : Met l yX5_best (ws_ yX5_best cX5_best 8 (Option.some FieldType.int)) rm_X5_best (zPW D A E h [.ref a0, .int i1, .int i2, .int i3]) (zQW D A (some (.int res.1)) res.2) 0 0 A := by
  refine zmt hE (by decide) (Nat.le_of_ble_eq_true rfl) ?_
  intro p e s m below meth c ls hmn X hw hl
  have hl : lv_has ls 8 [(0, .ref a0), (1, .int i1), (2, .int i2), (3, .int i3)] := hl
  have hx := X.1.1
  have hb := X.1.2.1
  have hown := X.1.2.2.2.1
  have hts := X.1.2.2.2.2
  unfold f_X5_best at hf
  refine lv_aload_n hx hb dX5_best_0 rfl (lv_at hl 0 rfl) ?_
  refine lv_iload_n hx hb dX5_best_1 rfl (lv_at hl 1 rfl) ?_
  refine zw_cVZ (rest := []) [.int i1] X hw hl.1 hf rfl rfl (fun r hr => mt_X5_isRubbing l D A E X.2.2.2.2.2.1 h a0 i1 r hr) (lw_V q1391 q1393 qs38 q89 q1394) cd_X5_isRubbing ⟨rfl, rfl⟩ ⟨Nat.le_of_ble_eq_true rfl, Nat.le_of_ble_eq_true rfl⟩ rfl rfl (Nat.le_of_ble_eq_true rfl) dX5_best_2 ⟨Nat.le_of_ble_eq_true rfl, Nat.le_of_ble_eq_true rfl⟩ (fun r1 H locs hf hw => ?_)
  refine zw_if_eq (tgt := 30) hx hb hf dX5_best_5 (by decide) (fun hf => ?_) (fun hf => ?_)
  · refine lv_ldc (v := (-1000000001 : Int32)) hx hb hown (hts _ q1377) dX5_best_30 ?_
    exact zw_iret X hw hf (Nat.le_of_ble_eq_true rfl) (Nat.le_of_ble_eq_true rfl) dX5_best_32
  · refine lv_iload_n hx hb dX5_best_8 rfl (lv_at hl 2 rfl) ?_
    refine lv_i2l hx hb dX5_best_9 rfl ?_
    refine lv_lconst (v := (1 : Int64)) hx hb dX5_best_10 (by decide) ?_
    refine lv_ldc2 (v := (60 : Int64)) hx hb hown (hts _ q1605) dX5_best_11 ?_
    refine zw_cSZ (rest := []) [.long i2.toInt64, .long (1 : Int64), .long (60 : Int64)] X hw hl.1 hf (fun r hr => mt_X5_isIn l D A E X.2.2.2.2.2.1 r1.2 i2.toInt64 (1 : Int64) (60 : Int64) r hr) (lw_S q1372 q1373 q89 q1374) cd_X5_isIn ⟨rfl, rfl⟩ ⟨Nat.le_of_ble_eq_true rfl, Nat.le_of_ble_eq_true rfl⟩ rfl rfl (Nat.le_of_ble_eq_true rfl) dX5_best_14 ⟨Nat.le_of_ble_eq_true rfl, Nat.le_of_ble_eq_true rfl⟩ (fun r2 H locs hf hw => ?_)
    refine zw_if_eq (tgt := 30) hx hb hf dX5_best_17 (by decide) (fun hf => ?_) (fun hf => ?_)
    · refine lv_ldc (v := (-1000000001 : Int32)) hx hb hown (hts _ q1377) dX5_best_30 ?_
      exact zw_iret X hw hf (Nat.le_of_ble_eq_true rfl) (Nat.le_of_ble_eq_true rfl) dX5_best_32
    · refine lv_iload_n hx hb dX5_best_20 rfl (lv_at hl 3 rfl) ?_
      refine lv_i2l hx hb dX5_best_21 rfl ?_
      refine lv_lconst (v := (0 : Int64)) hx hb dX5_best_22 (by decide) ?_
      refine lv_lconst (v := (1 : Int64)) hx hb dX5_best_23 (by decide) ?_
      refine zw_cSZ (rest := []) [.long i3.toInt64, .long (0 : Int64), .long (1 : Int64)] X hw hl.1 hf (fun r hr => mt_X5_isIn l D A E X.2.2.2.2.2.1 r2.2 i3.toInt64 (0 : Int64) (1 : Int64) r hr) (lw_S q1372 q1373 q89 q1374) cd_X5_isIn ⟨rfl, rfl⟩ ⟨Nat.le_of_ble_eq_true rfl, Nat.le_of_ble_eq_true rfl⟩ rfl rfl (Nat.le_of_ble_eq_true rfl) dX5_best_24 ⟨Nat.le_of_ble_eq_true rfl, Nat.le_of_ble_eq_true rfl⟩ (fun r3 H locs hf hw => ?_)
      refine zw_if_ne (tgt := 33) hx hb hf dX5_best_27 (by decide) (fun hf => ?_) (fun hf => ?_)
      · refine lv_aload_n hx hb dX5_best_33 rfl (lv_at hl 0 rfl) ?_
        refine zw_cVV (rest := []) [] X hw hl.1 hf rfl rfl (fun r hr => mt_X5_laysBy l D A E X.2.2.2.2.2.1 r3.2 a0 r hr) (lw_V q1581 q1583 qs61 q89 q1584) cd_X5_laysBy ⟨rfl, rfl⟩ ⟨Nat.le_of_ble_eq_true rfl, Nat.le_of_ble_eq_true rfl⟩ rfl rfl (Nat.le_of_ble_eq_true rfl) dX5_best_34 ⟨Nat.le_of_ble_eq_true rfl, Nat.le_of_ble_eq_true rfl⟩ (fun r4 H locs hf hw => ?_)
        refine lv_iconst (v := (0 : Int32)) hx hb dX5_best_37 (by decide) ?_
        refine lv_istore (lv' := [(4, .int (0 : Int32)), (0, .ref a0), (1, .int i1), (2, .int i2), (3, .int i3)]) hx hb dX5_best_38 hl (by decide) rfl (fun ls hl => ?_)
        refine lv_iconst (v := (-1 : Int32)) hx hb dX5_best_40 (by decide) ?_
        refine lv_istore (lv' := [(5, .int (-1 : Int32)), (4, .int (0 : Int32)), (0, .ref a0), (1, .int i1), (2, .int i2), (3, .int i3)]) hx hb dX5_best_41 hl (by decide) rfl (fun ls hl => ?_)
        refine lv_iconst (v := (0 : Int32)) hx hb dX5_best_43 (by decide) ?_
        refine lv_istore (lv' := [(6, .int (0 : Int32)), (5, .int (-1 : Int32)), (4, .int (0 : Int32)), (0, .ref a0), (1, .int i1), (2, .int i2), (3, .int i3)]) hx hb dX5_best_44 hl (by decide) rfl (fun ls hl => ?_)
        exact k_X5_best_46 X _ 4096 r4 a0 i1 i2 i3 (0 : Int32) (-1 : Int32) (0 : Int32) _ _ _ hf hw (lv_sub hl [3, 4, 5, 6, 2, 1, 0] rfl)
      · refine lv_ldc (v := (-1000000001 : Int32)) hx hb hown (hts _ q1377) dX5_best_30 ?_
        exact zw_iret X hw hf (Nat.le_of_ble_eq_true rfl) (Nat.le_of_ble_eq_true rfl) dX5_best_32
set_option maxHeartbeats 4000000 in
theorem k_X5_taught_94 {p : Program} {l : Launch} {e : Env} {s : State} {m : MethodId} {args : Array Value} {below : List Frame} {meth : Method} {c : Code} {D : va_G} {A : Nat → Prop} {E : State → Prop} (X : zCx p s m args meth c D A E cX5_taught 7 RX5 (Option.some FieldType.int)) (res : Int32 × zT) (K37 : zT → Nat → Int32 → Int32 → Int32 → Int32 → Int32 → Option (Int32 × zT)) (hK37 : ∀ (h : zT) (a0 : Nat) (i1 : Int32) (i2 : Int32) (i3 : Int32) (i4 : Int32) (i5 : Int32) (H : Heap) (locs : List Loc) (ls : Array Slot), K37 h a0 i1 i2 i3 i4 i5 = some res → zWh D A s H h locs → lv_has ls 7 [(0, .ref a0), (1, .int i1), (2, .int i2), (3, .int i3), (4, .int i4), (5, .int i5)] → W p l e rm_X5_taught s m args below meth c H locs 0 0 (MQ below (zQW D A (some (.int res.1)) res.2) args s 0 0 A) (F0 m 37 ls [])) : ∀ (h : zT) (a0 : Nat) (i1 : Int32) (i2 : Int32) (i4 : Int32) (i5 : Int32) (i6 : Int32) (s0 : Int32) (H : Heap) (locs : List Loc) (ls : Array Slot), f_X5_taught_94 K37 h a0 i1 i2 i4 i5 i6 s0 = some res → zWh D A s H h locs → lv_has ls 7 [(0, .ref a0), (1, .int i1), (2, .int i2), (4, .int i4), (5, .int i5), (6, .int i6)] → W p l e rm_X5_taught s m args below meth c H locs 0 0 (MQ below (zQW D A (some (.int res.1)) res.2) args s 0 0 A) (F0 m 94 ls [.int s0]) := by
  have hx := X.1.1
  have hb := X.1.2.1
  have hown := X.1.2.2.2.1
  have hts := X.1.2.2.2.2
  intro h a0 i1 i2 i4 i5 i6 s0 H locs ls hf hw hl
  unfold f_X5_taught_94 at hf
  refine lv_istore_n (lv' := [(3, .int s0), (0, .ref a0), (1, .int i1), (2, .int i2), (4, .int i4), (5, .int i5), (6, .int i6)]) hx hb dX5_taught_94 rfl hl (by decide) rfl (fun ls hl => ?_)
  refine lv_iload hx hb dX5_taught_95 (lv_at hl 6 rfl) ?_
  refine lv_iload hx hb dX5_taught_97 (lv_at hl 4 rfl) ?_
  refine zw_icmp_le (tgt := 107) hx hb hf dX5_taught_99 (by decide) (fun hf => ?_) (fun hf => ?_)
  · refine lv_iload hx hb dX5_taught_107 (lv_at hl 4 rfl) ?_
    refine lv_istore (lv' := [(4, .int i4), (3, .int s0), (0, .ref a0), (1, .int i1), (2, .int i2), (5, .int i5), (6, .int i6)]) hx hb dX5_taught_109 hl (by decide) rfl (fun ls hl => ?_)
    refine zw_nmS hf (fun v1 ev1 hf => ?_)
    refine lv_iinc (k := 5) (v := v1) (lv' := [(5, .int v1), (4, .int i4), (3, .int s0), (0, .ref a0), (1, .int i1), (2, .int i2), (6, .int i6)]) hx hb dX5_taught_111 hl rfl (by rw [ev1]; rfl) (by decide) rfl (fun ls hl => ?_)
    refine lv_goto (tgt := 37) hx hb dX5_taught_114 (by decide) ?_
    exact hK37 h a0 i1 i2 s0 i4 v1 _ _ _ hf hw (lv_sub hl [3, 4, 5, 2, 1, 0] rfl)
  · refine lv_iload hx hb dX5_taught_102 (lv_at hl 6 rfl) ?_
    refine lv_goto (tgt := 109) hx hb dX5_taught_104 (by decide) ?_
    refine lv_istore (lv' := [(4, .int i6), (3, .int s0), (0, .ref a0), (1, .int i1), (2, .int i2), (5, .int i5), (6, .int i6)]) hx hb dX5_taught_109 hl (by decide) rfl (fun ls hl => ?_)
    refine zw_nmS hf (fun v2 ev2 hf => ?_)
    refine lv_iinc (k := 5) (v := v2) (lv' := [(5, .int v2), (4, .int i6), (3, .int s0), (0, .ref a0), (1, .int i1), (2, .int i2), (6, .int i6)]) hx hb dX5_taught_111 hl rfl (by rw [ev2]; rfl) (by decide) rfl (fun ls hl => ?_)
    refine lv_goto (tgt := 37) hx hb dX5_taught_114 (by decide) ?_
    exact hK37 h a0 i1 i2 s0 i6 v2 _ _ _ hf hw (lv_sub hl [3, 4, 5, 2, 1, 0] rfl)
set_option maxHeartbeats 4000000 in
theorem k_X5_taught_37 {p : Program} {l : Launch} {e : Env} {s : State} {m : MethodId} {args : Array Value} {below : List Frame} {meth : Method} {c : Code} {D : va_G} {A : Nat → Prop} {E : State → Prop} (X : zCx p s m args meth c D A E cX5_taught 7 RX5 (Option.some FieldType.int)) (res : Int32 × zT) : ∀ (n : Nat), ∀ (h : zT) (a0 : Nat) (i1 : Int32) (i2 : Int32) (i3 : Int32) (i4 : Int32) (i5 : Int32) (H : Heap) (locs : List Loc) (ls : Array Slot), f_X5_taught_37 n h a0 i1 i2 i3 i4 i5 = some res → zWh D A s H h locs → lv_has ls 7 [(0, .ref a0), (1, .int i1), (2, .int i2), (3, .int i3), (4, .int i4), (5, .int i5)] → W p l e rm_X5_taught s m args below meth c H locs 0 0 (MQ below (zQW D A (some (.int res.1)) res.2) args s 0 0 A) (F0 m 37 ls []) := by
  have hx := X.1.1
  have hb := X.1.2.1
  have hown := X.1.2.2.2.1
  have hts := X.1.2.2.2.2
  intro n
  induction n with
  | zero =>
    intro h a0 i1 i2 i3 i4 i5 H locs ls hf hw hl
    cases hf
  | succ n ih =>
    intro h a0 i1 i2 i3 i4 i5 H locs ls hf hw hl
    unfold f_X5_taught_37 at hf
    refine lv_iload hx hb dX5_taught_37 (lv_at hl 5 rfl) ?_
    refine lv_bipush (v := (16 : Int32)) hx hb dX5_taught_39 (by decide) ?_
    refine zw_icmp_ge (tgt := 117) hx hb hf dX5_taught_41 (by decide) (fun hf => ?_) (fun hf => ?_)
    · refine lv_iload_n hx hb dX5_taught_117 rfl (lv_at hl 2 rfl) ?_
      refine zw_if_ne (tgt := 125) hx hb hf dX5_taught_118 (by decide) (fun hf => ?_) (fun hf => ?_)
      · refine lv_iload hx hb dX5_taught_125 (lv_at hl 4 rfl) ?_
        exact zw_iret X hw hf (Nat.le_of_ble_eq_true rfl) (Nat.le_of_ble_eq_true rfl) dX5_taught_127
      · refine lv_iload_n hx hb dX5_taught_121 rfl (lv_at hl 3 rfl) ?_
        refine lv_goto (tgt := 127) hx hb dX5_taught_122 (by decide) ?_
        exact zw_iret X hw hf (Nat.le_of_ble_eq_true rfl) (Nat.le_of_ble_eq_true rfl) dX5_taught_127
    · refine lv_aload_n hx hb dX5_taught_44 rfl (lv_at hl 0 rfl) ?_
      refine zw_getR X hw fs_X5_0 q1270 rfl hf dX5_taught_45 (fun v1 hf => ?_)
      refine lv_iconst (v := (5 : Int32)) hx hb dX5_taught_48 (by decide) ?_
      refine lv_iload hx hb dX5_taught_49 (lv_at hl 5 rfl) ?_
      refine lv_iadd hx hb dX5_taught_51 ?_
      refine lv_aload_n hx hb dX5_taught_52 rfl (lv_at hl 0 rfl) ?_
      refine zw_getR X hw fs_X5_0 q1270 rfl hf dX5_taught_53 (fun v2 hf => ?_)
      refine lv_iconst (v := (5 : Int32)) hx hb dX5_taught_56 (by decide) ?_
      refine lv_iload hx hb dX5_taught_57 (lv_at hl 5 rfl) ?_
      refine lv_iadd hx hb dX5_taught_59 ?_
      refine zw_ialoadR X hw hf dX5_taught_60 (fun v3 hf => ?_)
      refine lv_iconst (v := (1 : Int32)) hx hb dX5_taught_61 (by decide) ?_
      refine lv_iadd hx hb dX5_taught_62 ?_
      refine lv_iconst (v := (4 : Int32)) hx hb dX5_taught_63 (by decide) ?_
      refine lv_irem hx hb dX5_taught_64 (by decide) ?_
      refine zw_iastore X hw hf dX5_taught_65 (fun h4 H locs hf hw => ?_)
      refine lv_aload_n hx hb dX5_taught_66 rfl (lv_at hl 0 rfl) ?_
      refine lv_iload_n hx hb dX5_taught_67 rfl (lv_at hl 1 rfl) ?_
      refine zw_cVV (rest := []) [.int i1] X hw hl.1 hf rfl rfl (fun r hr => mt_X5_goesOnMany l D A E X.2.2.2.2.2.1 h4 a0 i1 r hr) (lw_V q1585 q1587 qs62 q89 q1588) cd_X5_goesOnMany ⟨rfl, rfl⟩ ⟨Nat.le_of_ble_eq_true rfl, Nat.le_of_ble_eq_true rfl⟩ rfl rfl (Nat.le_of_ble_eq_true rfl) dX5_taught_68 ⟨Nat.le_of_ble_eq_true rfl, Nat.le_of_ble_eq_true rfl⟩ (fun r5 H locs hf hw => ?_)
      refine lv_aload_n hx hb dX5_taught_71 rfl (lv_at hl 0 rfl) ?_
      refine zw_cVI (rest := []) [] X hw hl.1 hf rfl rfl (fun r hr => mt_X5_allTrust l D A E X.2.2.2.2.2.1 r5 a0 r hr) (lw_V q1573 q1575 qs60 q89 q1576) cd_X5_allTrust ⟨rfl, rfl⟩ ⟨Nat.le_of_ble_eq_true rfl, Nat.le_of_ble_eq_true rfl⟩ rfl rfl (Nat.le_of_ble_eq_true rfl) dX5_taught_72 ⟨Nat.le_of_ble_eq_true rfl, Nat.le_of_ble_eq_true rfl⟩ (fun r6 H locs hf hw => ?_)
      refine lv_istore (lv' := [(6, .int r6.1), (0, .ref a0), (1, .int i1), (2, .int i2), (3, .int i3), (4, .int i4), (5, .int i5)]) hx hb dX5_taught_75 hl (by decide) rfl (fun ls hl => ?_)
      refine lv_aload_n hx hb dX5_taught_77 rfl (lv_at hl 1 rfl) ?_
      refine zw_cVV (rest := []) [] X hw hl.1 hf rfl rfl (fun r hr => mt_X5_laysBack l D A E X.2.2.2.2.2.1 r6.2 a0 r hr) (lw_V q1589 q1591 qs63 q89 q1592) cd_X5_laysBack ⟨rfl, rfl⟩ ⟨Nat.le_of_ble_eq_true rfl, Nat.le_of_ble_eq_true rfl⟩ rfl rfl (Nat.le_of_ble_eq_true rfl) dX5_taught_78 ⟨Nat.le_of_ble_eq_true rfl, Nat.le_of_ble_eq_true rfl⟩ (fun r7 H locs hf hw => ?_)
      refine lv_iload hx hb dX5_taught_81 (lv_at hl 0 rfl) ?_
      refine lv_iload hx hb dX5_taught_83 (lv_at hl 5 rfl) ?_
      refine zw_icmp_le (tgt := 93) hx hb hf dX5_taught_85 (by decide) (fun hf => ?_) (fun hf => ?_)
      · refine lv_iload_n hx hb dX5_taught_93 rfl (lv_at hl 4 rfl) ?_
        exact k_X5_taught_94 X _ (f_X5_taught_37 n) ih r7 a0 i1 i2 i4 i5 r6.1 i3 _ _ _ hf hw (lv_sub hl [1, 2, 3, 5, 6, 0] rfl)
      · refine lv_iload hx hb dX5_taught_88 (lv_at hl 6 rfl) ?_
        refine lv_goto (tgt := 94) hx hb dX5_taught_90 (by decide) ?_
        exact k_X5_taught_94 X _ (f_X5_taught_37 n) ih r7 a0 i1 i2 i4 i5 r6.1 i5 _ _ _ hf hw (lv_sub hl [1, 2, 3, 5, 6, 0] rfl)
set_option maxHeartbeats 4000000 in
theorem mt_X5_taught (l : Launch) (D : va_G) (A : Nat → Prop) (E : State → Prop) (hE : zEok A E) (h : zT) (a0 : Nat) (i1 : Int32) (i2 : Int32) (res : Int32 × zT) (hf : f_X5_taught h a0 i1 i2 = some res) : Met l yX5_taught (ws_ yX5_taught cX5_taught 7 (Option.some FieldType.int)) rm_X5_taught (zPW D A E h [.ref a0, .int i1, .int i2]) (zQW D A (some (.int res.1)) res.2) 0 0 A := by
  refine zmt hE (by decide) (Nat.le_of_ble_eq_true rfl) ?_
  intro p e s m below meth c ls hmn X hw hl
  have hl : lv_has ls 7 [(0, .ref a0), (1, .int i1), (2, .int i2)] := hl
  have hx := X.1.1
  have hb := X.1.2.1
  have hown := X.1.2.2.2.1
  have hts := X.1.2.2.2.2
  unfold f_X5_taught at hf
  refine lv_iload_n hx hb dX5_taught_0 rfl (lv_at hl 1 rfl) ?_
  refine lv_i2l hx hb dX5_taught_1 rfl ?_
  refine lv_lconst (v := (1 : Int64)) hx hb dX5_taught_2 (by decide) ?_
  refine lv_ldc2 (v := (60 : Int64)) hx hb hown (hts _ q1605) dX5_taught_3 ?_
  refine zw_cSZ (rest := []) [.long i1.toInt64, .long (1 : Int64), .long (60 : Int64)] X hw hl.1 hf (fun r hr => mt_X5_isIn l D A E X.2.2.2.2.2.1 h i1.toInt64 (1 : Int64) (60 : Int64) r hr) (lw_S q1372 q1373 q89 q1374) cd_X5_isIn ⟨rfl, rfl⟩ ⟨Nat.le_of_ble_eq_true rfl, Nat.le_of_ble_eq_true rfl⟩ rfl rfl (Nat.le_of_ble_eq_true rfl) dX5_taught_6 ⟨Nat.le_of_ble_eq_true rfl, Nat.le_of_ble_eq_true rfl⟩ (fun r1 H locs hf hw => ?_)
  refine zw_if_eq (tgt := 22) hx hb hf dX5_taught_9 (by decide) (fun hf => ?_) (fun hf => ?_)
  · refine lv_ldc (v := (-1000000001 : Int32)) hx hb hown (hts _ q1377) dX5_taught_22 ?_
    exact zw_iret X hw hf (Nat.le_of_ble_eq_true rfl) (Nat.le_of_ble_eq_true rfl) dX5_taught_24
  · refine lv_iload_n hx hb dX5_taught_12 rfl (lv_at hl 2 rfl) ?_
    refine lv_i2l hx hb dX5_taught_13 rfl ?_
    refine lv_lconst (v := (0 : Int64)) hx hb dX5_taught_14 (by decide) ?_
    refine lv_lconst (v := (1 : Int64)) hx hb dX5_taught_15 (by decide) ?_
    refine zw_cSZ (rest := []) [.long i2.toInt64, .long (0 : Int64), .long (1 : Int64)] X hw hl.1 hf (fun r hr => mt_X5_isIn l D A E X.2.2.2.2.2.1 r1.2 i2.toInt64 (0 : Int64) (1 : Int64) r hr) (lw_S q1372 q1373 q89 q1374) cd_X5_isIn ⟨rfl, rfl⟩ ⟨Nat.le_of_ble_eq_true rfl, Nat.le_of_ble_eq_true rfl⟩ rfl rfl (Nat.le_of_ble_eq_true rfl) dX5_taught_16 ⟨Nat.le_of_ble_eq_true rfl, Nat.le_of_ble_eq_true rfl⟩ (fun r2 H locs hf hw => ?_)
    refine zw_if_ne (tgt := 25) hx hb hf dX5_taught_19 (by decide) (fun hf => ?_) (fun hf => ?_)
    · refine lv_aload_n hx hb dX5_taught_25 rfl (lv_at hl 0 rfl) ?_
      refine zw_cVV (rest := []) [] X hw hl.1 hf rfl rfl (fun r hr => mt_X5_laysBy l D A E X.2.2.2.2.2.1 r2.2 a0 r hr) (lw_V q1581 q1583 qs61 q89 q1584) cd_X5_laysBy ⟨rfl, rfl⟩ ⟨Nat.le_of_ble_eq_true rfl, Nat.le_of_ble_eq_true rfl⟩ rfl rfl (Nat.le_of_ble_eq_true rfl) dX5_taught_26 ⟨Nat.le_of_ble_eq_true rfl, Nat.le_of_ble_eq_true rfl⟩ (fun r3 H locs hf hw => ?_)
      refine lv_iconst (v := (0 : Int32)) hx hb dX5_taught_29 (by decide) ?_
      refine lv_istore_n (lv' := [(3, .int (0 : Int32)), (0, .ref a0), (1, .int i1), (2, .int i2)]) hx hb dX5_taught_30 rfl hl (by decide) rfl (fun ls hl => ?_)
      refine lv_iconst (v := (-1 : Int32)) hx hb dX5_taught_31 (by decide) ?_
      refine lv_istore (lv' := [(4, .int (-1 : Int32)), (3, .int (0 : Int32)), (0, .ref a0), (1, .int i1), (2, .int i2)]) hx hb dX5_taught_32 hl (by decide) rfl (fun ls hl => ?_)
      refine lv_iconst (v := (0 : Int32)) hx hb dX5_taught_34 (by decide) ?_
      refine lv_istore (lv' := [(5, .int (0 : Int32)), (4, .int (-1 : Int32)), (3, .int (0 : Int32)), (0, .ref a0), (1, .int i1), (2, .int i2)]) hx hb dX5_taught_35 hl (by decide) rfl (fun ls hl => ?_)
      exact k_X5_taught_37 X _ 4096 r3 a0 i1 i2 (0 : Int32) (-1 : Int32) (0 : Int32) _ _ _ hf hw (lv_sub hl [3, 4, 5, 2, 1, 0] rfl)
    · refine lv_ldc (v := (-1000000001 : Int32)) hx hb hown (hts _ q1377) dX5_taught_22 ?_
      exact zw_iret X hw hf (Nat.le_of_ble_eq_true rfl) (Nat.le_of_ble_eq_true rfl) dX5_taught_24
set_option maxHeartbeats 4000000 in
theorem mt_X5_fee (l : Launch) (D : va_G) (A : Nat → Prop) (E : State → Prop) (hE : zEok A E) (h : zT) (a0 : Nat) (res : Int32 × zT) (hf : f_X5_fee h a0 = some res) : Met l yX5_fee (ws_ yX5_fee cX5_fee 2 (Option.some FieldType.int)) rm_X5_fee (zPW D A E h [.ref a0]) (zQW D A (some (.int res.1)) res.2) 0 0 A := by
  refine zmt hE (by decide) (Nat.le_of_ble_eq_true rfl) ?_
  intro p e s m below meth c ls hmn X hw hl
  have hl : lv_has ls 2 [(0, .ref a0)] := hl
  have hx := X.1.1
  have hb := X.1.2.1
  have hown := X.1.2.2.2.1
  have hts := X.1.2.2.2.2
  unfold f_X5_fee at hf
  refine lv_aload_n hx hb dX5_fee_0 rfl (lv_at hl 0 rfl) ?_
  refine lv_iconst (v := (1 : Int32)) hx hb dX5_fee_1 (by decide) ?_
  refine zw_cVI (rest := []) [.int (1 : Int32)] X hw hl.1 hf rfl rfl (fun r hr => mt_X5_counts l D A E X.2.2.2.2.2.1 h a0 (1 : Int32) r hr) (lw_V q1412 q1414 qs43 q89 q1415) cd_X5_counts ⟨rfl, rfl⟩ ⟨Nat.le_of_ble_eq_true rfl, Nat.le_of_ble_eq_true rfl⟩ rfl rfl (Nat.le_of_ble_eq_true rfl) dX5_fee_2 ⟨Nat.le_of_ble_eq_true rfl, Nat.le_of_ble_eq_true rfl⟩ (fun r1 H locs hf hw => ?_)
  refine lv_istore_n (lv' := [(1, .int r1.1), (0, .ref a0)]) hx hb dX5_fee_5 rfl hl (by decide) rfl (fun ls hl => ?_)
  refine lv_iload_n hx hb dX5_fee_6 rfl (lv_at hl 0 rfl) ?_
  refine zw_if_ge (tgt := 17) hx hb hf dX5_fee_7 (by decide) (fun hf => ?_) (fun hf => ?_)
  · refine lv_aload_n hx hb dX5_fee_17 rfl (lv_at hl 1 rfl) ?_
    refine zw_getR X hw fs_X5_26 q1296 rfl hf dX5_fee_18 (fun v2 hf => ?_)
    refine lv_bipush (v := (110 : Int32)) hx hb dX5_fee_21 (by decide) ?_
    refine lv_aload_n hx hb dX5_fee_23 rfl (lv_at hl 1 rfl) ?_
    refine zw_getR X hw fs_X5_0 q1270 rfl hf dX5_fee_24 (fun v3 hf => ?_)
    refine lv_iconst (v := (2 : Int32)) hx hb dX5_fee_27 (by decide) ?_
    refine zw_ialoadR X hw hf dX5_fee_28 (fun v4 hf => ?_)
    refine zw_iastore X hw hf dX5_fee_29 (fun h5 H locs hf hw => ?_)
    refine lv_aload_n hx hb dX5_fee_30 rfl (lv_at hl 1 rfl) ?_
    refine zw_getR X hw fs_X5_26 q1296 rfl hf dX5_fee_31 (fun v6 hf => ?_)
    refine lv_bipush (v := (102 : Int32)) hx hb dX5_fee_34 (by decide) ?_
    refine lv_aload_n hx hb dX5_fee_36 rfl (lv_at hl 1 rfl) ?_
    refine zw_getR X hw fs_X5_0 q1270 rfl hf dX5_fee_37 (fun v7 hf => ?_)
    refine lv_iconst (v := (3 : Int32)) hx hb dX5_fee_40 (by decide) ?_
    refine zw_ialoadR X hw hf dX5_fee_41 (fun v8 hf => ?_)
    refine zw_iastore X hw hf dX5_fee_42 (fun h9 H locs hf hw => ?_)
    refine lv_aload_n hx hb dX5_fee_43 rfl (lv_at hl 1 rfl) ?_
    refine lv_iload_n hx hb dX5_fee_44 rfl (lv_at hl 0 rfl) ?_
    refine zw_cVI (rest := []) [.int r1.1] X hw hl.1 hf rfl rfl (fun r hr => mt_X5_worked l D A E X.2.2.2.2.2.1 h9 a0 r1.1 r hr) (lw_V q1420 q1422 qs45 q89 q1423) cd_X5_worked ⟨rfl, rfl⟩ ⟨Nat.le_of_ble_eq_true rfl, Nat.le_of_ble_eq_true rfl⟩ rfl rfl (Nat.le_of_ble_eq_true rfl) dX5_fee_45 ⟨Nat.le_of_ble_eq_true rfl, Nat.le_of_ble_eq_true rfl⟩ (fun r10 H locs hf hw => ?_)
    exact zw_iret X hw hf (Nat.le_of_ble_eq_true rfl) (Nat.le_of_ble_eq_true rfl) dX5_fee_48
  · refine lv_aload_n hx hb dX5_fee_10 rfl (lv_at hl 1 rfl) ?_
    refine zw_getR X hw fs_X5_0 q1270 rfl hf dX5_fee_11 (fun v11 hf => ?_)
    refine lv_iconst (v := (3 : Int32)) hx hb dX5_fee_14 (by decide) ?_
    refine zw_ialoadR X hw hf dX5_fee_15 (fun v12 hf => ?_)
    exact zw_iret X hw hf (Nat.le_of_ble_eq_true rfl) (Nat.le_of_ble_eq_true rfl) dX5_fee_16
set_option maxHeartbeats 4000000 in
theorem mt_X5_fine (l : Launch) (D : va_G) (A : Nat → Prop) (E : State → Prop) (hE : zEok A E) (h : zT) (a0 : Nat) (i1 : Int32) (res : Int32 × zT) (hf : f_X5_fine h a0 i1 = some res) : Met l yX5_fine (ws_ yX5_fine cX5_fine 3 (Option.some FieldType.int)) rm_X5_fine (zPW D A E h [.ref a0, .int i1]) (zQW D A (some (.int res.1)) res.2) 0 0 A := by
  refine zmt hE (by decide) (Nat.le_of_ble_eq_true rfl) ?_
  intro p e s m below meth c ls hmn X hw hl
  have hl : lv_has ls 3 [(0, .ref a0), (1, .int i1)] := hl
  have hx := X.1.1
  have hb := X.1.2.1
  have hown := X.1.2.2.2.1
  have hts := X.1.2.2.2.2
  unfold f_X5_fine at hf
  refine lv_aload_n hx hb dX5_fine_0 rfl (lv_at hl 0 rfl) ?_
  refine lv_iload_n hx hb dX5_fine_1 rfl (lv_at hl 1 rfl) ?_
  refine zw_cVZ (rest := []) [.int i1] X hw hl.1 hf rfl rfl (fun r hr => mt_X5_isRubbing l D A E X.2.2.2.2.2.1 h a0 i1 r hr) (lw_V q1391 q1393 qs38 q89 q1394) cd_X5_isRubbing ⟨rfl, rfl⟩ ⟨Nat.le_of_ble_eq_true rfl, Nat.le_of_ble_eq_true rfl⟩ rfl rfl (Nat.le_of_ble_eq_true rfl) dX5_fine_2 ⟨Nat.le_of_ble_eq_true rfl, Nat.le_of_ble_eq_true rfl⟩ (fun r1 H locs hf hw => ?_)
  refine zw_if_ne (tgt := 11) hx hb hf dX5_fine_5 (by decide) (fun hf => ?_) (fun hf => ?_)
  · refine lv_aload_n hx hb dX5_fine_11 rfl (lv_at hl 0 rfl) ?_
    refine lv_iconst (v := (2 : Int32)) hx hb dX5_fine_12 (by decide) ?_
    refine zw_cVI (rest := []) [.int (2 : Int32)] X hw hl.1 hf rfl rfl (fun r hr => mt_X5_counts l D A E X.2.2.2.2.2.1 r1.2 a0 (2 : Int32) r hr) (lw_V q1412 q1414 qs43 q89 q1415) cd_X5_counts ⟨rfl, rfl⟩ ⟨Nat.le_of_ble_eq_true rfl, Nat.le_of_ble_eq_true rfl⟩ rfl rfl (Nat.le_of_ble_eq_true rfl) dX5_fine_13 ⟨Nat.le_of_ble_eq_true rfl, Nat.le_of_ble_eq_true rfl⟩ (fun r2 H locs hf hw => ?_)
    refine lv_istore_n (lv' := [(2, .int r2.1), (0, .ref a0), (1, .int i1)]) hx hb dX5_fine_16 rfl hl (by decide) rfl (fun ls hl => ?_)
    refine lv_iload_n hx hb dX5_fine_17 rfl (lv_at hl 0 rfl) ?_
    refine zw_if_ge (tgt := 28) hx hb hf dX5_fine_18 (by decide) (fun hf => ?_) (fun hf => ?_)
    · refine lv_aload_n hx hb dX5_fine_28 rfl (lv_at hl 1 rfl) ?_
      refine zw_getR X hw fs_X5_26 q1296 rfl hf dX5_fine_29 (fun v3 hf => ?_)
      refine lv_bipush (v := (116 : Int32)) hx hb dX5_fine_32 (by decide) ?_
      refine lv_aload_n hx hb dX5_fine_34 rfl (lv_at hl 1 rfl) ?_
      refine lv_iload_n hx hb dX5_fine_35 rfl (lv_at hl 2 rfl) ?_
      refine lv_iconst (v := (5 : Int32)) hx hb dX5_fine_36 (by decide) ?_
      refine zw_cVI (rest := [.int (116 : Int32), .ref v3]) [.int i1, .int (5 : Int32)] X hw hl.1 hf rfl rfl (fun r hr => mt_X5_of l D A E X.2.2.2.2.2.1 r2.2 a0 i1 (5 : Int32) r hr) (lw_V q1395 q1397 qs39 q89 q1398) cd_X5_of ⟨rfl, rfl⟩ ⟨Nat.le_of_ble_eq_true rfl, Nat.le_of_ble_eq_true rfl⟩ rfl rfl (Nat.le_of_ble_eq_true rfl) dX5_fine_37 ⟨Nat.le_of_ble_eq_true rfl, Nat.le_of_ble_eq_true rfl⟩ (fun r4 H locs hf hw => ?_)
      refine zw_iastore X hw hf dX5_fine_40 (fun h5 H locs hf hw => ?_)
      refine lv_aload_n hx hb dX5_fine_41 rfl (lv_at hl 1 rfl) ?_
      refine zw_getR X hw fs_X5_26 q1296 rfl hf dX5_fine_42 (fun v6 hf => ?_)
      refine lv_bipush (v := (115 : Int32)) hx hb dX5_fine_45 (by decide) ?_
      refine lv_aload_n hx hb dX5_fine_47 rfl (lv_at hl 1 rfl) ?_
      refine lv_iload_n hx hb dX5_fine_48 rfl (lv_at hl 2 rfl) ?_
      refine lv_iconst (v := (2 : Int32)) hx hb dX5_fine_49 (by decide) ?_
      refine zw_cVI (rest := [.int (115 : Int32), .ref v6]) [.int i1, .int (2 : Int32)] X hw hl.1 hf rfl rfl (fun r hr => mt_X5_of l D A E X.2.2.2.2.2.1 h5 a0 i1 (2 : Int32) r hr) (lw_V q1395 q1397 qs39 q89 q1398) cd_X5_of ⟨rfl, rfl⟩ ⟨Nat.le_of_ble_eq_true rfl, Nat.le_of_ble_eq_true rfl⟩ rfl rfl (Nat.le_of_ble_eq_true rfl) dX5_fine_50 ⟨Nat.le_of_ble_eq_true rfl, Nat.le_of_ble_eq_true rfl⟩ (fun r7 H locs hf hw => ?_)
      refine zw_iastore X hw hf dX5_fine_53 (fun h8 H locs hf hw => ?_)
      refine lv_aload_n hx hb dX5_fine_54 rfl (lv_at hl 1 rfl) ?_
      refine lv_iload_n hx hb dX5_fine_55 rfl (lv_at hl 0 rfl) ?_
      refine zw_cVI (rest := []) [.int r2.1] X hw hl.1 hf rfl rfl (fun r hr => mt_X5_worked l D A E X.2.2.2.2.2.1 h8 a0 r2.1 r hr) (lw_V q1420 q1422 qs45 q89 q1423) cd_X5_worked ⟨rfl, rfl⟩ ⟨Nat.le_of_ble_eq_true rfl, Nat.le_of_ble_eq_true rfl⟩ rfl rfl (Nat.le_of_ble_eq_true rfl) dX5_fine_56 ⟨Nat.le_of_ble_eq_true rfl, Nat.le_of_ble_eq_true rfl⟩ (fun r9 H locs hf hw => ?_)
      exact zw_iret X hw hf (Nat.le_of_ble_eq_true rfl) (Nat.le_of_ble_eq_true rfl) dX5_fine_59
    · refine lv_aload_n hx hb dX5_fine_21 rfl (lv_at hl 1 rfl) ?_
      refine lv_iload_n hx hb dX5_fine_22 rfl (lv_at hl 2 rfl) ?_
      refine lv_iconst (v := (5 : Int32)) hx hb dX5_fine_23 (by decide) ?_
      refine zw_cVI (rest := []) [.int i1, .int (5 : Int32)] X hw hl.1 hf rfl rfl (fun r hr => mt_X5_of l D A E X.2.2.2.2.2.1 r2.2 a0 i1 (5 : Int32) r hr) (lw_V q1395 q1397 qs39 q89 q1398) cd_X5_of ⟨rfl, rfl⟩ ⟨Nat.le_of_ble_eq_true rfl, Nat.le_of_ble_eq_true rfl⟩ rfl rfl (Nat.le_of_ble_eq_true rfl) dX5_fine_24 ⟨Nat.le_of_ble_eq_true rfl, Nat.le_of_ble_eq_true rfl⟩ (fun r10 H locs hf hw => ?_)
      exact zw_iret X hw hf (Nat.le_of_ble_eq_true rfl) (Nat.le_of_ble_eq_true rfl) dX5_fine_27
  · refine lv_ldc (v := (-1000000001 : Int32)) hx hb hown (hts _ q1377) dX5_fine_8 ?_
    exact zw_iret X hw hf (Nat.le_of_ble_eq_true rfl) (Nat.le_of_ble_eq_true rfl) dX5_fine_10
