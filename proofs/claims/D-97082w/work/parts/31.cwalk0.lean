/-! The component: the walks (gen/comp.py) -/
set_option maxRecDepth 100000
set_option maxHeartbeats 4000000 in
theorem mt_J6_bitCount (l : Launch) (D : va_G) (A : Nat → Prop) (h : zT) (i0 : Int32) (res : Int32 × zT) (hf : f_J6_bitCount h i0 = some res) : Met l yJ6_bitCount (ws_ yJ6_bitCount cJ6_bitCount 1 (Option.some FieldType.int)) rm_J6_bitCount (zPW D A (zEv A) h [.int i0]) (zQW D A (some (.int res.1)) res.2) 0 0 A := by
  refine zmt (zEv_ok A) (by decide) (Nat.le_of_ble_eq_true rfl) ?_
  intro p e s m below meth c ls hmn X hw hl
  have hl : lv_has ls 1 [(0, .int i0)] := hl
  have hx := X.1.1
  have hb := X.1.2.1
  have hown := X.1.2.2.2.1
  have hts := X.1.2.2.2.2
  have hN := X.2.2.2.2.2.2.1
  have hDW := X.2.2.2.2.2.2.2.1
  have hAO := X.2.2.2.2.2.2.2.2.1
  have hNC := X.2.2.2.2.2.2.2.2.2.1
  unfold f_J6_bitCount at hf
  refine lv_iload_n hx hb dJ6_bitCount_0 rfl (lv_at hl 0 rfl) ?_
  refine lv_iload_n hx hb dJ6_bitCount_1 rfl (lv_at hl 0 rfl) ?_
  refine lv_iconst (v := (1 : Int32)) hx hb dJ6_bitCount_2 (by decide) ?_
  refine lv_iushr hx hb dJ6_bitCount_3 rfl ?_
  refine lv_ldcw (v := (1431655765 : Int32)) hx hb hown (hts _ q929) dJ6_bitCount_4 ?_
  refine lv_iand hx hb dJ6_bitCount_7 ?_
  refine lv_isub hx hb dJ6_bitCount_8 ?_
  refine zw_nmI hf (fun v1 hf => ?_)
  refine lv_istore_n (lv' := [(0, .int v1)]) hx hb dJ6_bitCount_9 rfl hl (by decide) rfl (fun ls hl => ?_)
  refine lv_iload_n hx hb dJ6_bitCount_10 rfl (lv_at hl 0 rfl) ?_
  refine lv_ldcw (v := (858993459 : Int32)) hx hb hown (hts _ q930) dJ6_bitCount_11 ?_
  refine lv_iand hx hb dJ6_bitCount_14 ?_
  refine lv_iload_n hx hb dJ6_bitCount_15 rfl (lv_at hl 0 rfl) ?_
  refine lv_iconst (v := (2 : Int32)) hx hb dJ6_bitCount_16 (by decide) ?_
  refine lv_iushr hx hb dJ6_bitCount_17 rfl ?_
  refine lv_ldcw (v := (858993459 : Int32)) hx hb hown (hts _ q930) dJ6_bitCount_18 ?_
  refine lv_iand hx hb dJ6_bitCount_21 ?_
  refine lv_iadd hx hb dJ6_bitCount_22 ?_
  refine zw_nmI hf (fun v2 hf => ?_)
  refine lv_istore_n (lv' := [(0, .int v2)]) hx hb dJ6_bitCount_23 rfl hl (by decide) rfl (fun ls hl => ?_)
  refine lv_iload_n hx hb dJ6_bitCount_24 rfl (lv_at hl 0 rfl) ?_
  refine lv_iload_n hx hb dJ6_bitCount_25 rfl (lv_at hl 0 rfl) ?_
  refine lv_iconst (v := (4 : Int32)) hx hb dJ6_bitCount_26 (by decide) ?_
  refine lv_iushr hx hb dJ6_bitCount_27 rfl ?_
  refine lv_iadd hx hb dJ6_bitCount_28 ?_
  refine lv_ldcw (v := (252645135 : Int32)) hx hb hown (hts _ q931) dJ6_bitCount_29 ?_
  refine lv_iand hx hb dJ6_bitCount_32 ?_
  refine zw_nmI hf (fun v3 hf => ?_)
  refine lv_istore_n (lv' := [(0, .int v3)]) hx hb dJ6_bitCount_33 rfl hl (by decide) rfl (fun ls hl => ?_)
  refine lv_iload_n hx hb dJ6_bitCount_34 rfl (lv_at hl 0 rfl) ?_
  refine lv_iload_n hx hb dJ6_bitCount_35 rfl (lv_at hl 0 rfl) ?_
  refine lv_bipush (v := (8 : Int32)) hx hb dJ6_bitCount_36 (by decide) ?_
  refine lv_iushr hx hb dJ6_bitCount_38 rfl ?_
  refine lv_iadd hx hb dJ6_bitCount_39 ?_
  refine zw_nmI hf (fun v4 hf => ?_)
  refine lv_istore_n (lv' := [(0, .int v4)]) hx hb dJ6_bitCount_40 rfl hl (by decide) rfl (fun ls hl => ?_)
  refine lv_iload_n hx hb dJ6_bitCount_41 rfl (lv_at hl 0 rfl) ?_
  refine lv_iload_n hx hb dJ6_bitCount_42 rfl (lv_at hl 0 rfl) ?_
  refine lv_bipush (v := (16 : Int32)) hx hb dJ6_bitCount_43 (by decide) ?_
  refine lv_iushr hx hb dJ6_bitCount_45 rfl ?_
  refine lv_iadd hx hb dJ6_bitCount_46 ?_
  refine zw_nmI hf (fun v5 hf => ?_)
  refine lv_istore_n (lv' := [(0, .int v5)]) hx hb dJ6_bitCount_47 rfl hl (by decide) rfl (fun ls hl => ?_)
  refine lv_iload_n hx hb dJ6_bitCount_48 rfl (lv_at hl 0 rfl) ?_
  refine lv_bipush (v := (63 : Int32)) hx hb dJ6_bitCount_49 (by decide) ?_
  refine lv_iand hx hb dJ6_bitCount_51 ?_
  exact zw_iret X hw hf (Nat.le_of_ble_eq_true rfl) (Nat.le_of_ble_eq_true rfl) dJ6_bitCount_52
set_option maxHeartbeats 4000000 in
theorem mt_X1_init (l : Launch) (D : va_G) (A : Nat → Prop) (h : zT) (a0 : Nat) (res : zT) (hf : f_X1_init h a0 = some res) : Met l yX1_init (ws_ yX1_init cX1_init 1 (Option.none : Option FieldType)) rm_X1_init (zPW D A (zEv A) h [.ref a0]) (zQW D A none res) 3 39 A := by
  refine zmt (zEv_ok A) (by decide) (Nat.le_of_ble_eq_true rfl) ?_
  intro p e s m below meth c ls hmn X hw hl
  have hl : lv_has ls 1 [(0, .ref a0)] := hl
  have hx := X.1.1
  have hb := X.1.2.1
  have hown := X.1.2.2.2.1
  have hts := X.1.2.2.2.2
  have hN := X.2.2.2.2.2.2.1
  have hDW := X.2.2.2.2.2.2.2.1
  have hAO := X.2.2.2.2.2.2.2.2.1
  have hNC := X.2.2.2.2.2.2.2.2.2.1
  have hin : meth.name = "<init>" := hmn
  unfold f_X1_init at hf
  refine lv_aload_n hx hb dX1_init_0 rfl (lv_at hl 0 rfl) ?_
  refine W.objInit hx hb hown (hts _ q121) (hts _ q114) (hts _ q115) rfl (by rw [X.1.2.2.1]; exact hl.1) rfl dX1_init_1 (Nat.le_of_ble_eq_true rfl) (Nat.le_of_ble_eq_true rfl) ?_
  refine W.eq (g2 := F0 m 4 ls []) rfl ?_
  refine lv_aload_n hx hb dX1_init_4 rfl (lv_at hl 0 rfl) ?_
  refine lv_iconst (v := (1 : Int32)) hx hb dX1_init_5 (by decide) ?_
  refine zw_put X hw fs_X1_0 q126 rfl rfl rfl rfl hf dX1_init_6 (fun h1 H locs hf hw => ?_)
  refine lv_aload_n hx hb dX1_init_9 rfl (lv_at hl 0 rfl) ?_
  refine lv_bipush (v := (9 : Int32)) hx hb dX1_init_10 (by decide) ?_
  refine zw_newq (N := 9) X hw q122 (hAO _ (by decide)) hf rfl (Nat.le_of_ble_eq_true rfl) (Nat.le_of_ble_eq_true rfl) (Nat.le_of_ble_eq_true rfl) dX1_init_12 (fun r2 H hf hw => ?_)
  refine zw_putF X hin hw fs_X1_2 q130 rfl rfl rfl rfl rfl hf dX1_init_15 (fun h3 H locs hf hw => ?_)
  refine lv_aload_n hx hb dX1_init_18 rfl (lv_at hl 0 rfl) ?_
  refine lv_bipush (v := (16 : Int32)) hx hb dX1_init_19 (by decide) ?_
  refine zw_newa (N := 16) X hw q159 hf rfl (Nat.le_of_ble_eq_true rfl) (Nat.le_of_ble_eq_true rfl) (Nat.le_of_ble_eq_true rfl) dX1_init_21 (fun r4 H hf hw => ?_)
  refine zw_putF X hin hw fs_X1_3 q132 rfl rfl rfl rfl rfl hf dX1_init_23 (fun h5 H locs hf hw => ?_)
  refine lv_aload_n hx hb dX1_init_26 rfl (lv_at hl 0 rfl) ?_
  refine lv_bipush (v := (14 : Int32)) hx hb dX1_init_27 (by decide) ?_
  refine zw_newq (N := 14) X hw q124 (hAO _ (by decide)) hf rfl (Nat.le_of_ble_eq_true rfl) (Nat.le_of_ble_eq_true rfl) (Nat.le_of_ble_eq_true rfl) dX1_init_29 (fun r6 H hf hw => ?_)
  refine zw_putF X hin hw fs_X1_7 q140 rfl rfl rfl rfl rfl hf dX1_init_32 (fun h7 H locs hf hw => ?_)
  exact zw_vret X hw hf (Nat.le_of_ble_eq_true rfl) (Nat.le_of_ble_eq_true rfl) dX1_init_35
set_option maxHeartbeats 4000000 in
theorem mt_X1_draw (l : Launch) (D : va_G) (A : Nat → Prop) (h : zT) (a0 : Nat) (res : Int32 × zT) (hf : f_X1_draw h a0 = some res) : Met l yX1_draw (ws_ yX1_draw cX1_draw 1 (Option.some FieldType.int)) rm_X1_draw (zPW D A (zEv A) h [.ref a0]) (zQW D A (some (.int res.1)) res.2) 0 0 A := by
  refine zmt (zEv_ok A) (by decide) (Nat.le_of_ble_eq_true rfl) ?_
  intro p e s m below meth c ls hmn X hw hl
  have hl : lv_has ls 1 [(0, .ref a0)] := hl
  have hx := X.1.1
  have hb := X.1.2.1
  have hown := X.1.2.2.2.1
  have hts := X.1.2.2.2.2
  have hN := X.2.2.2.2.2.2.1
  have hDW := X.2.2.2.2.2.2.2.1
  have hAO := X.2.2.2.2.2.2.2.2.1
  have hNC := X.2.2.2.2.2.2.2.2.2.1
  unfold f_X1_draw at hf
  refine lv_aload_n hx hb dX1_draw_0 rfl (lv_at hl 0 rfl) ?_
  refine lv_aload_n hx hb dX1_draw_1 rfl (lv_at hl 0 rfl) ?_
  refine zw_getI X hw fs_X1_0 q126 rfl hf dX1_draw_2 (fun v1 hf => ?_)
  refine lv_ldc (v := (1103515245 : Int32)) hx hb hown (hts _ q873) dX1_draw_5 ?_
  refine lv_imul hx hb dX1_draw_7 ?_
  refine lv_sipush (v := (12345 : Int32)) hx hb dX1_draw_8 (by decide) ?_
  refine lv_iadd hx hb dX1_draw_11 ?_
  refine zw_put X hw fs_X1_0 q126 rfl rfl rfl rfl hf dX1_draw_12 (fun h2 H locs hf hw => ?_)
  refine lv_aload_n hx hb dX1_draw_15 rfl (lv_at hl 0 rfl) ?_
  refine zw_getI X hw fs_X1_0 q126 rfl hf dX1_draw_16 (fun v3 hf => ?_)
  refine lv_bipush (v := (8 : Int32)) hx hb dX1_draw_19 (by decide) ?_
  refine lv_iushr hx hb dX1_draw_21 rfl ?_
  exact zw_iret X hw hf (Nat.le_of_ble_eq_true rfl) (Nat.le_of_ble_eq_true rfl) dX1_draw_22
set_option maxHeartbeats 4000000 in
theorem k_X1_laid_4 {p : Program} {l : Launch} {e : Env} {s : State} {m : MethodId} {args : Array Value} {below : List Frame} {meth : Method} {c : Code} {D : va_G} {A : Nat → Prop} (X : zCx p s m args meth c D A (zEv A) cX1_laid 3 RX1 (Option.some FieldType.int)) (res : Int32 × zT) : ∀ (n : Nat), ∀ (h : zT) (a0 : Nat) (i1 : Int32) (i2 : Int32) (H : Heap) (locs : List Loc) (ls : Array Slot), f_X1_laid_4 n h a0 i1 i2 = some res → zWh D A s H h locs → lv_has ls 3 [(0, .ref a0), (1, .int i1), (2, .int i2)] → W p l e rm_X1_laid s m args below meth c H locs 0 0 (MQ below (zQW D A (some (.int res.1)) res.2) args s 0 0 A) (F0 m 4 ls []) := by
  have hx := X.1.1
  have hb := X.1.2.1
  have hown := X.1.2.2.2.1
  have hts := X.1.2.2.2.2
  have hN := X.2.2.2.2.2.2.1
  have hDW := X.2.2.2.2.2.2.2.1
  have hAO := X.2.2.2.2.2.2.2.2.1
  have hNC := X.2.2.2.2.2.2.2.2.2.1
  intro n
  induction n with
  | zero =>
    intro h a0 i1 i2 H locs ls hf hw hl
    cases hf
  | succ n ih =>
    intro h a0 i1 i2 H locs ls hf hw hl
    unfold f_X1_laid_4 at hf
    refine lv_iload_n hx hb dX1_laid_4 rfl (lv_at hl 2 rfl) ?_
    refine lv_aload_n hx hb dX1_laid_5 rfl (lv_at hl 0 rfl) ?_
    refine zw_getI X hw fs_X1_1 q128 rfl hf dX1_laid_6 (fun v1 hf => ?_)
    refine zw_icmp_ge (tgt := 42) hx hb hf dX1_laid_9 (by decide) (fun hf => ?_) (fun hf => ?_)
    · refine lv_iload_n hx hb dX1_laid_42 rfl (lv_at hl 1 rfl) ?_
      exact zw_iret X hw hf (Nat.le_of_ble_eq_true rfl) (Nat.le_of_ble_eq_true rfl) dX1_laid_43
    · refine lv_iload_n hx hb dX1_laid_12 rfl (lv_at hl 1 rfl) ?_
      refine lv_aload_n hx hb dX1_laid_13 rfl (lv_at hl 0 rfl) ?_
      refine zw_getR X hw fs_X1_2 q130 rfl hf dX1_laid_14 (fun v2 hf => ?_)
      refine lv_iload_n hx hb dX1_laid_17 rfl (lv_at hl 2 rfl) ?_
      refine zw_aaloadR X hw hf dX1_laid_18 (fun v3 hf => ?_)
      refine zw_getI X hw fs_X6_3 q552 rfl hf dX1_laid_19 (fun v4 hf => ?_)
      refine lv_bipush (v := (16 : Int32)) hx hb dX1_laid_22 (by decide) ?_
      refine zw_icmp_ne (tgt := 31) hx hb hf dX1_laid_24 (by decide) (fun hf => ?_) (fun hf => ?_)
      · refine lv_iconst (v := (1 : Int32)) hx hb dX1_laid_31 (by decide) ?_
        refine lv_iload_n hx hb dX1_laid_32 rfl (lv_at hl 2 rfl) ?_
        refine lv_ishl hx hb dX1_laid_33 ?_
        refine lv_ior hx hb dX1_laid_34 ?_
        refine zw_nmI hf (fun v5 hf => ?_)
        refine lv_istore_n (lv' := [(1, .int v5), (0, .ref a0), (2, .int i2)]) hx hb dX1_laid_35 rfl hl (by decide) rfl (fun ls hl => ?_)
        refine zw_nmS hf (fun v6 ev6 hf => ?_)
        refine lv_iinc (k := 2) (v := v6) (lv' := [(2, .int v6), (1, .int v5), (0, .ref a0)]) hx hb dX1_laid_36 hl rfl (by rw [ev6]; rfl) (by decide) rfl (fun ls hl => ?_)
        refine lv_goto (tgt := 4) hx hb dX1_laid_39 (by decide) ?_
        exact ih h a0 v5 v6 _ _ _ hf hw (lv_sub hl [2, 1, 0] rfl)
      · refine lv_iconst (v := (0 : Int32)) hx hb dX1_laid_27 (by decide) ?_
        refine lv_goto (tgt := 34) hx hb dX1_laid_28 (by decide) ?_
        refine lv_ior hx hb dX1_laid_34 ?_
        refine zw_nmI hf (fun v7 hf => ?_)
        refine lv_istore_n (lv' := [(1, .int v7), (0, .ref a0), (2, .int i2)]) hx hb dX1_laid_35 rfl hl (by decide) rfl (fun ls hl => ?_)
        refine zw_nmS hf (fun v8 ev8 hf => ?_)
        refine lv_iinc (k := 2) (v := v8) (lv' := [(2, .int v8), (1, .int v7), (0, .ref a0)]) hx hb dX1_laid_36 hl rfl (by rw [ev8]; rfl) (by decide) rfl (fun ls hl => ?_)
        refine lv_goto (tgt := 4) hx hb dX1_laid_39 (by decide) ?_
        exact ih h a0 v7 v8 _ _ _ hf hw (lv_sub hl [2, 1, 0] rfl)
set_option maxHeartbeats 4000000 in
theorem mt_X1_laid (l : Launch) (D : va_G) (A : Nat → Prop) (h : zT) (a0 : Nat) (res : Int32 × zT) (hf : f_X1_laid h a0 = some res) : Met l yX1_laid (ws_ yX1_laid cX1_laid 3 (Option.some FieldType.int)) rm_X1_laid (zPW D A (zEv A) h [.ref a0]) (zQW D A (some (.int res.1)) res.2) 0 0 A := by
  refine zmt (zEv_ok A) (by decide) (Nat.le_of_ble_eq_true rfl) ?_
  intro p e s m below meth c ls hmn X hw hl
  have hl : lv_has ls 3 [(0, .ref a0)] := hl
  have hx := X.1.1
  have hb := X.1.2.1
  have hown := X.1.2.2.2.1
  have hts := X.1.2.2.2.2
  have hN := X.2.2.2.2.2.2.1
  have hDW := X.2.2.2.2.2.2.2.1
  have hAO := X.2.2.2.2.2.2.2.2.1
  have hNC := X.2.2.2.2.2.2.2.2.2.1
  unfold f_X1_laid at hf
  refine lv_iconst (v := (0 : Int32)) hx hb dX1_laid_0 (by decide) ?_
  refine lv_istore_n (lv' := [(1, .int (0 : Int32)), (0, .ref a0)]) hx hb dX1_laid_1 rfl hl (by decide) rfl (fun ls hl => ?_)
  refine lv_iconst (v := (0 : Int32)) hx hb dX1_laid_2 (by decide) ?_
  refine lv_istore_n (lv' := [(2, .int (0 : Int32)), (1, .int (0 : Int32)), (0, .ref a0)]) hx hb dX1_laid_3 rfl hl (by decide) rfl (fun ls hl => ?_)
  exact k_X1_laid_4 X _ 4096 h a0 (0 : Int32) (0 : Int32) _ _ _ hf hw (lv_sub hl [2, 1, 0] rfl)
set_option maxHeartbeats 4000000 in
theorem mt_X6_covered (l : Launch) (D : va_G) (A : Nat → Prop) (h : zT) (a0 : Nat) (res : Int32 × zT) (hf : f_X6_covered h a0 = some res) : Met l yX6_covered (ws_ yX6_covered cX6_covered 1 (Option.some FieldType.int)) rm_X6_covered (zPW D A (zEv A) h [.ref a0]) (zQW D A (some (.int res.1)) res.2) 0 0 A := by
  refine zmt (zEv_ok A) (by decide) (Nat.le_of_ble_eq_true rfl) ?_
  intro p e s m below meth c ls hmn X hw hl
  have hl : lv_has ls 1 [(0, .ref a0)] := hl
  have hx := X.1.1
  have hb := X.1.2.1
  have hown := X.1.2.2.2.1
  have hts := X.1.2.2.2.2
  have hN := X.2.2.2.2.2.2.1
  have hDW := X.2.2.2.2.2.2.2.1
  have hAO := X.2.2.2.2.2.2.2.2.1
  have hNC := X.2.2.2.2.2.2.2.2.2.1
  unfold f_X6_covered at hf
  refine lv_aload_n hx hb dX6_covered_0 rfl (lv_at hl 0 rfl) ?_
  refine zw_getI X hw fs_X6_3 q551 rfl hf dX6_covered_1 (fun v1 hf => ?_)
  refine lv_bipush (v := (16 : Int32)) hx hb dX6_covered_4 (by decide) ?_
  refine zw_icmp_ne (tgt := 13) hx hb hf dX6_covered_6 (by decide) (fun hf => ?_) (fun hf => ?_)
  · refine lv_iconst (v := (1 : Int32)) hx hb dX6_covered_13 (by decide) ?_
    refine lv_aload_n hx hb dX6_covered_14 rfl (lv_at hl 0 rfl) ?_
    refine zw_getI X hw fs_X6_1 q547 rfl hf dX6_covered_15 (fun v2 hf => ?_)
    refine lv_ishl hx hb dX6_covered_18 ?_
    refine lv_iconst (v := (1 : Int32)) hx hb dX6_covered_19 (by decide) ?_
    refine lv_isub hx hb dX6_covered_20 ?_
    refine lv_aload_n hx hb dX6_covered_21 rfl (lv_at hl 0 rfl) ?_
    refine zw_getI X hw fs_X6_3 q551 rfl hf dX6_covered_22 (fun v3 hf => ?_)
    refine lv_ishl hx hb dX6_covered_25 ?_
    refine lv_ldc (v := (65535 : Int32)) hx hb hown (hts _ q665) dX6_covered_26 ?_
    refine lv_iand hx hb dX6_covered_28 ?_
    exact zw_iret X hw hf (Nat.le_of_ble_eq_true rfl) (Nat.le_of_ble_eq_true rfl) dX6_covered_29
  · refine lv_iconst (v := (0 : Int32)) hx hb dX6_covered_9 (by decide) ?_
    refine lv_goto (tgt := 29) hx hb dX6_covered_10 (by decide) ?_
    exact zw_iret X hw hf (Nat.le_of_ble_eq_true rfl) (Nat.le_of_ble_eq_true rfl) dX6_covered_29
set_option maxHeartbeats 4000000 in
theorem vd_X1_72 {p : Program} {l : Launch} {e : Env} {R : Room} {s : State} {m : MethodId} {args : Array Value} {below : List Frame} {meth : Method} {c : Code} {H : Heap} {locs : List Loc} {cells slots : Nat} {Q : State → Prop} {D : va_G} {A : Nat → Prop} {cc : ByteArray} {nL : Nat} {ret : Option FieldType} {pc : Nat} {ls : Array Slot} {rest : List Value} {β : Type} {res : β} {K : Int32 × zT → Option β} {st0 : List Value} (h : zT) (b : Nat) (X : zCx p s m args meth c D A (zEv A) cc nL RX1 ret) (hw : zWh D A s H h locs) (hl : ls.size = nL) (hf : (fd_covered h b).bind K = some res) (hRf : 8 ≤ R.frames) (hRl : 200 ≤ R.locals) (hrest : (rest.map fun v => v.category).sum ≤ 8) (hstk : st0 = ([] : List Value).reverse ++ .ref b :: rest) (hdg : decode cc pc = .ok (.invokevirtual 72, 3)) (hc : cells + 0 ≤ R.cells ∧ slots + 0 ≤ R.slots) (kk : ∀ (r : Int32 × zT) (H1 : Heap) (locs1 : List Loc), K r = some res → zWh D A s H1 (r.2) locs1 → W p l e R s m args below meth c H1 locs1 (cells + 0) (slots + 0) Q (F0 m (pc + 3) ls (.int r.1 :: rest))) : W p l e R s m args below meth c H locs cells slots Q (F0 m pc ls st0) := by
  have hts := X.1.2.2.2.2
  have hN := X.2.2.2.2.2.2.1
  have hDW := X.2.2.2.2.2.2.2.1
  obtain ⟨r, h1, hf⟩ := zbd hf
  unfold fd_covered at h1
  obtain ⟨⟨ci, fs⟩, ho, h1⟩ := zbd h1
  have ho := zh_O_eq ho
  dsimp only at h1
  by_cases c6 : ci = 6
  · subst c6
    rw [if_pos rfl] at h1
    exact zw_call (va_runV (C := RX6) (As := []) (rest := rest) X.1 (mt_X6_covered l D A h b r h1) (cwV 0 hts (lw_V q944 q656 q657 q90 q664) rfl rfl rfl ⟨rfl, cd_X6_covered⟩ ⟨Nat.le_trans (Nat.le_of_ble_eq_true rfl) hRf, Nat.le_trans (Nat.le_of_ble_eq_true rfl) hRl⟩) (zpreV (ci := 6) X hw ho rfl _) rfl rfl hl hstk (lv_room hrest) hdg hc) hw (fun H1 locs1 hw1 => kk r H1 locs1 hf hw1)
  rw [if_neg c6] at h1
  by_cases c7 : ci = 7
  · subst c7
    rw [if_pos rfl] at h1
    exact zw_call (va_runU (C := RX7) (owner := RX6) (x := yX6_covered) (As := []) (rest := rest) X.1 (mt_X6_covered l D A h b r h1) (va_cwU 0 hts (zlw_U q944 q658 q659 q656 q90 q664) rfl rfl rfl rfl cd_X6_covered ⟨Nat.le_trans (Nat.le_of_ble_eq_true rfl) hRf, Nat.le_trans (Nat.le_of_ble_eq_true rfl) hRl⟩) (zpreV (ci := 7) X hw ho rfl _) rfl rfl hl hstk (lv_room hrest) hdg hc) hw (fun H1 locs1 hw1 => kk r H1 locs1 hf hw1)
  rw [if_neg c7] at h1
  by_cases c8 : ci = 8
  · subst c8
    rw [if_pos rfl] at h1
    exact zw_call (va_runU (C := RX8) (owner := RX6) (x := yX6_covered) (As := []) (rest := rest) X.1 (mt_X6_covered l D A h b r h1) (va_cwU 0 hts (zlw_U q944 q658 q661 q656 q90 q664) rfl rfl rfl rfl cd_X6_covered ⟨Nat.le_trans (Nat.le_of_ble_eq_true rfl) hRf, Nat.le_trans (Nat.le_of_ble_eq_true rfl) hRl⟩) (zpreV (ci := 8) X hw ho rfl _) rfl rfl hl hstk (lv_room hrest) hdg hc) hw (fun H1 locs1 hw1 => kk r H1 locs1 hf hw1)
  rw [if_neg c8] at h1
  by_cases c9 : ci = 9
  · subst c9
    rw [if_pos rfl] at h1
    exact zw_call (va_runU (C := RX9) (owner := RX6) (x := yX6_covered) (As := []) (rest := rest) X.1 (mt_X6_covered l D A h b r h1) (va_cwU 0 hts (zlw_U q944 q658 q663 q656 q90 q664) rfl rfl rfl rfl cd_X6_covered ⟨Nat.le_trans (Nat.le_of_ble_eq_true rfl) hRf, Nat.le_trans (Nat.le_of_ble_eq_true rfl) hRl⟩) (zpreV (ci := 9) X hw ho rfl _) rfl rfl hl hstk (lv_room hrest) hdg hc) hw (fun H1 locs1 hw1 => kk r H1 locs1 hf hw1)
  rw [if_neg c9] at h1
  by_cases c10 : ci = 10
  · subst c10
    rw [if_pos rfl] at h1
    exact zw_call (va_runU (C := RX10) (owner := RX6) (x := yX6_covered) (As := []) (rest := rest) X.1 (mt_X6_covered l D A h b r h1) (va_cwU 0 hts (zlw_U q944 q658 q660 q656 q90 q664) rfl rfl rfl rfl cd_X6_covered ⟨Nat.le_trans (Nat.le_of_ble_eq_true rfl) hRf, Nat.le_trans (Nat.le_of_ble_eq_true rfl) hRl⟩) (zpreV (ci := 10) X hw ho rfl _) rfl rfl hl hstk (lv_room hrest) hdg hc) hw (fun H1 locs1 hw1 => kk r H1 locs1 hf hw1)
  rw [if_neg c10] at h1
  by_cases c11 : ci = 11
  · subst c11
    rw [if_pos rfl] at h1
    exact zw_call (va_runU (C := RX11) (owner := RX6) (x := yX6_covered) (As := []) (rest := rest) X.1 (mt_X6_covered l D A h b r h1) (va_cwU 0 hts (zlw_U q944 q658 q662 q656 q90 q664) rfl rfl rfl rfl cd_X6_covered ⟨Nat.le_trans (Nat.le_of_ble_eq_true rfl) hRf, Nat.le_trans (Nat.le_of_ble_eq_true rfl) hRl⟩) (zpreV (ci := 11) X hw ho rfl _) rfl rfl hl hstk (lv_room hrest) hdg hc) hw (fun H1 locs1 hw1 => kk r H1 locs1 hf hw1)
  rw [if_neg c11] at h1
  cases h1
set_option maxHeartbeats 4000000 in
theorem k_X1_coveredBy_4 {p : Program} {l : Launch} {e : Env} {s : State} {m : MethodId} {args : Array Value} {below : List Frame} {meth : Method} {c : Code} {D : va_G} {A : Nat → Prop} (X : zCx p s m args meth c D A (zEv A) cX1_coveredBy 4 RX1 (Option.some FieldType.int)) (res : Int32 × zT) : ∀ (n : Nat), ∀ (h : zT) (a0 : Nat) (i1 : Int32) (i2 : Int32) (i3 : Int32) (H : Heap) (locs : List Loc) (ls : Array Slot), f_X1_coveredBy_4 n h a0 i1 i2 i3 = some res → zWh D A s H h locs → lv_has ls 4 [(0, .ref a0), (1, .int i1), (2, .int i2), (3, .int i3)] → W p l e rm_X1_coveredBy s m args below meth c H locs 0 0 (MQ below (zQW D A (some (.int res.1)) res.2) args s 0 0 A) (F0 m 4 ls []) := by
  have hx := X.1.1
  have hb := X.1.2.1
  have hown := X.1.2.2.2.1
  have hts := X.1.2.2.2.2
  have hN := X.2.2.2.2.2.2.1
  have hDW := X.2.2.2.2.2.2.2.1
  have hAO := X.2.2.2.2.2.2.2.2.1
  have hNC := X.2.2.2.2.2.2.2.2.2.1
  intro n
  induction n with
  | zero =>
    intro h a0 i1 i2 i3 H locs ls hf hw hl
    cases hf
  | succ n ih =>
    intro h a0 i1 i2 i3 H locs ls hf hw hl
    unfold f_X1_coveredBy_4 at hf
    refine lv_iload_n hx hb dX1_coveredBy_4 rfl (lv_at hl 3 rfl) ?_
    refine lv_aload_n hx hb dX1_coveredBy_5 rfl (lv_at hl 0 rfl) ?_
    refine zw_getI X hw fs_X1_1 q128 rfl hf dX1_coveredBy_6 (fun v1 hf => ?_)
    refine zw_icmp_ge (tgt := 43) hx hb hf dX1_coveredBy_9 (by decide) (fun hf => ?_) (fun hf => ?_)
    · refine lv_iload_n hx hb dX1_coveredBy_43 rfl (lv_at hl 2 rfl) ?_
      exact zw_iret X hw hf (Nat.le_of_ble_eq_true rfl) (Nat.le_of_ble_eq_true rfl) dX1_coveredBy_44
    · refine lv_iload_n hx hb dX1_coveredBy_12 rfl (lv_at hl 2 rfl) ?_
      refine lv_iload_n hx hb dX1_coveredBy_13 rfl (lv_at hl 1 rfl) ?_
      refine lv_iload_n hx hb dX1_coveredBy_14 rfl (lv_at hl 3 rfl) ?_
      refine lv_ishr hx hb dX1_coveredBy_15 ?_
      refine lv_iconst (v := (1 : Int32)) hx hb dX1_coveredBy_16 (by decide) ?_
      refine lv_iand hx hb dX1_coveredBy_17 ?_
      refine lv_iconst (v := (1 : Int32)) hx hb dX1_coveredBy_18 (by decide) ?_
      refine zw_icmp_ne (tgt := 34) hx hb hf dX1_coveredBy_19 (by decide) (fun hf => ?_) (fun hf => ?_)
      · refine lv_iconst (v := (0 : Int32)) hx hb dX1_coveredBy_34 (by decide) ?_
        refine lv_ior hx hb dX1_coveredBy_35 ?_
        refine zw_nmI hf (fun v2 hf => ?_)
        refine lv_istore_n (lv' := [(2, .int v2), (0, .ref a0), (1, .int i1), (3, .int i3)]) hx hb dX1_coveredBy_36 rfl hl (by decide) rfl (fun ls hl => ?_)
        refine zw_nmS hf (fun v3 ev3 hf => ?_)
        refine lv_iinc (k := 3) (v := v3) (lv' := [(3, .int v3), (2, .int v2), (0, .ref a0), (1, .int i1)]) hx hb dX1_coveredBy_37 hl rfl (by rw [ev3]; rfl) (by decide) rfl (fun ls hl => ?_)
        refine lv_goto (tgt := 4) hx hb dX1_coveredBy_40 (by decide) ?_
        exact ih h a0 i1 v2 v3 _ _ _ hf hw (lv_sub hl [2, 3, 1, 0] rfl)
      · refine lv_aload_n hx hb dX1_coveredBy_22 rfl (lv_at hl 0 rfl) ?_
        refine zw_getR X hw fs_X1_2 q130 rfl hf dX1_coveredBy_23 (fun v4 hf => ?_)
        refine lv_iload_n hx hb dX1_coveredBy_26 rfl (lv_at hl 3 rfl) ?_
        refine zw_aaloadR X hw hf dX1_coveredBy_27 (fun v5 hf => ?_)
        refine vd_X1_72 (rest := [.int i2]) h v5 X hw hl.1 hf (Nat.le_of_ble_eq_true rfl) (Nat.le_of_ble_eq_true rfl) (Nat.le_of_ble_eq_true rfl) rfl dX1_coveredBy_28 ⟨Nat.le_of_ble_eq_true rfl, Nat.le_of_ble_eq_true rfl⟩ (fun r6 H locs hf hw => ?_)
        refine lv_goto (tgt := 35) hx hb dX1_coveredBy_31 (by decide) ?_
        refine lv_ior hx hb dX1_coveredBy_35 ?_
        refine zw_nmI hf (fun v7 hf => ?_)
        refine lv_istore_n (lv' := [(2, .int v7), (0, .ref a0), (1, .int i1), (3, .int i3)]) hx hb dX1_coveredBy_36 rfl hl (by decide) rfl (fun ls hl => ?_)
        refine zw_nmS hf (fun v8 ev8 hf => ?_)
        refine lv_iinc (k := 3) (v := v8) (lv' := [(3, .int v8), (2, .int v7), (0, .ref a0), (1, .int i1)]) hx hb dX1_coveredBy_37 hl rfl (by rw [ev8]; rfl) (by decide) rfl (fun ls hl => ?_)
        refine lv_goto (tgt := 4) hx hb dX1_coveredBy_40 (by decide) ?_
        exact ih r6.2 a0 i1 v7 v8 _ _ _ hf hw (lv_sub hl [2, 3, 1, 0] rfl)
set_option maxHeartbeats 4000000 in
theorem mt_X1_coveredBy (l : Launch) (D : va_G) (A : Nat → Prop) (h : zT) (a0 : Nat) (i1 : Int32) (res : Int32 × zT) (hf : f_X1_coveredBy h a0 i1 = some res) : Met l yX1_coveredBy (ws_ yX1_coveredBy cX1_coveredBy 4 (Option.some FieldType.int)) rm_X1_coveredBy (zPW D A (zEv A) h [.ref a0, .int i1]) (zQW D A (some (.int res.1)) res.2) 0 0 A := by
  refine zmt (zEv_ok A) (by decide) (Nat.le_of_ble_eq_true rfl) ?_
  intro p e s m below meth c ls hmn X hw hl
  have hl : lv_has ls 4 [(0, .ref a0), (1, .int i1)] := hl
  have hx := X.1.1
  have hb := X.1.2.1
  have hown := X.1.2.2.2.1
  have hts := X.1.2.2.2.2
  have hN := X.2.2.2.2.2.2.1
  have hDW := X.2.2.2.2.2.2.2.1
  have hAO := X.2.2.2.2.2.2.2.2.1
  have hNC := X.2.2.2.2.2.2.2.2.2.1
  unfold f_X1_coveredBy at hf
  refine lv_iconst (v := (0 : Int32)) hx hb dX1_coveredBy_0 (by decide) ?_
  refine lv_istore_n (lv' := [(2, .int (0 : Int32)), (0, .ref a0), (1, .int i1)]) hx hb dX1_coveredBy_1 rfl hl (by decide) rfl (fun ls hl => ?_)
  refine lv_iconst (v := (0 : Int32)) hx hb dX1_coveredBy_2 (by decide) ?_
  refine lv_istore_n (lv' := [(3, .int (0 : Int32)), (2, .int (0 : Int32)), (0, .ref a0), (1, .int i1)]) hx hb dX1_coveredBy_3 rfl hl (by decide) rfl (fun ls hl => ?_)
  exact k_X1_coveredBy_4 X _ 4096 h a0 i1 (0 : Int32) (0 : Int32) _ _ _ hf hw (lv_sub hl [2, 3, 1, 0] rfl)
set_option maxHeartbeats 4000000 in
theorem mt_X0_isIn (l : Launch) (D : va_G) (A : Nat → Prop) (h : zT) (i0 : Int32) (i1 : Int32) (i2 : Int32) (res : Int32 × zT) (hf : f_X0_isIn h i0 i1 i2 = some res) : Met l yX0_isIn (ws_ yX0_isIn cX0_isIn 3 (Option.some FieldType.boolean)) rm_X0_isIn (zPW D A (zEv A) h [.int i0, .int i1, .int i2]) (zQW D A (some (.int res.1)) res.2) 0 0 A := by
  refine zmt (zEv_ok A) (by decide) (Nat.le_of_ble_eq_true rfl) ?_
  intro p e s m below meth c ls hmn X hw hl
  have hl : lv_has ls 3 [(0, .int i0), (1, .int i1), (2, .int i2)] := hl
  have hx := X.1.1
  have hb := X.1.2.1
  have hown := X.1.2.2.2.1
  have hts := X.1.2.2.2.2
  have hN := X.2.2.2.2.2.2.1
  have hDW := X.2.2.2.2.2.2.2.1
  have hAO := X.2.2.2.2.2.2.2.2.1
  have hNC := X.2.2.2.2.2.2.2.2.2.1
  unfold f_X0_isIn at hf
  refine lv_iload_n hx hb dX0_isIn_0 rfl (lv_at hl 0 rfl) ?_
  refine lv_iload_n hx hb dX0_isIn_1 rfl (lv_at hl 1 rfl) ?_
  refine zw_icmp_lt (tgt := 14) hx hb hf dX0_isIn_2 (by decide) (fun hf => ?_) (fun hf => ?_)
  · refine lv_iconst (v := (0 : Int32)) hx hb dX0_isIn_14 (by decide) ?_
    exact zw_zret X hw hf (Nat.le_of_ble_eq_true rfl) (Nat.le_of_ble_eq_true rfl) dX0_isIn_15
  · refine lv_iload_n hx hb dX0_isIn_5 rfl (lv_at hl 0 rfl) ?_
    refine lv_iload_n hx hb dX0_isIn_6 rfl (lv_at hl 2 rfl) ?_
    refine zw_icmp_gt (tgt := 14) hx hb hf dX0_isIn_7 (by decide) (fun hf => ?_) (fun hf => ?_)
    · refine lv_iconst (v := (0 : Int32)) hx hb dX0_isIn_14 (by decide) ?_
      exact zw_zret X hw hf (Nat.le_of_ble_eq_true rfl) (Nat.le_of_ble_eq_true rfl) dX0_isIn_15
    · refine lv_iconst (v := (1 : Int32)) hx hb dX0_isIn_10 (by decide) ?_
      refine lv_goto (tgt := 15) hx hb dX0_isIn_11 (by decide) ?_
      exact zw_zret X hw hf (Nat.le_of_ble_eq_true rfl) (Nat.le_of_ble_eq_true rfl) dX0_isIn_15
set_option maxHeartbeats 4000000 in
theorem mt_X6_covers (l : Launch) (D : va_G) (A : Nat → Prop) (h : zT) (a0 : Nat) (i1 : Int32) (res : Int32 × zT) (hf : f_X6_covers h a0 i1 = some res) : Met l yX6_covers (ws_ yX6_covers cX6_covers 2 (Option.some FieldType.boolean)) rm_X6_covers (zPW D A (zEv A) h [.ref a0, .int i1]) (zQW D A (some (.int res.1)) res.2) 0 0 A := by
  refine zmt (zEv_ok A) (by decide) (Nat.le_of_ble_eq_true rfl) ?_
  intro p e s m below meth c ls hmn X hw hl
  have hl : lv_has ls 2 [(0, .ref a0), (1, .int i1)] := hl
  have hx := X.1.1
  have hb := X.1.2.1
  have hown := X.1.2.2.2.1
  have hts := X.1.2.2.2.2
  have hN := X.2.2.2.2.2.2.1
  have hDW := X.2.2.2.2.2.2.2.1
  have hAO := X.2.2.2.2.2.2.2.2.1
  have hNC := X.2.2.2.2.2.2.2.2.2.1
  unfold f_X6_covers at hf
  refine lv_aload_n hx hb dX6_covers_0 rfl (lv_at hl 0 rfl) ?_
  refine zw_getI X hw fs_X6_3 q551 rfl hf dX6_covers_1 (fun v1 hf => ?_)
  refine lv_bipush (v := (16 : Int32)) hx hb dX6_covers_4 (by decide) ?_
  refine zw_icmp_eq (tgt := 35) hx hb hf dX6_covers_6 (by decide) (fun hf => ?_) (fun hf => ?_)
  · refine lv_iconst (v := (0 : Int32)) hx hb dX6_covers_35 (by decide) ?_
    exact zw_zret X hw hf (Nat.le_of_ble_eq_true rfl) (Nat.le_of_ble_eq_true rfl) dX6_covers_36
  · refine lv_iload_n hx hb dX6_covers_9 rfl (lv_at hl 1 rfl) ?_
    refine lv_aload_n hx hb dX6_covers_10 rfl (lv_at hl 0 rfl) ?_
    refine zw_getI X hw fs_X6_3 q551 rfl hf dX6_covers_11 (fun v2 hf => ?_)
    refine lv_aload_n hx hb dX6_covers_14 rfl (lv_at hl 0 rfl) ?_
    refine zw_getI X hw fs_X6_3 q551 rfl hf dX6_covers_15 (fun v3 hf => ?_)
    refine lv_aload_n hx hb dX6_covers_18 rfl (lv_at hl 0 rfl) ?_
    refine zw_getI X hw fs_X6_1 q547 rfl hf dX6_covers_19 (fun v4 hf => ?_)
    refine lv_iadd hx hb dX6_covers_22 ?_
    refine lv_iconst (v := (1 : Int32)) hx hb dX6_covers_23 (by decide) ?_
    refine lv_isub hx hb dX6_covers_24 ?_
    refine zw_goZ (rest := []) hw hf (fun r hr => va_runSN (As := [.int i1, .int v2, .int ((v3 + v4) - (1 : Int32))]) (rest := []) X.1 (mt_X0_isIn l D A h i1 v2 ((v3 + v4) - (1 : Int32)) r hr) ⟨va_cnB 3 hts (lw_meth q341) rfl rfl rfl (hN _ nq967) (hts _ q81) cd_X0_isIn ⟨Nat.le_of_ble_eq_true rfl, Nat.le_of_ble_eq_true rfl⟩, hts _ q340, trivial⟩ (zpreS X hw _) rfl rfl hl.1 rfl (lv_room (Nat.le_of_ble_eq_true rfl)) dX6_covers_25 ⟨Nat.le_of_ble_eq_true rfl, Nat.le_of_ble_eq_true rfl⟩) (fun r5 H locs hf hw => ?_)
    refine zw_if_eq (tgt := 35) hx hb hf dX6_covers_28 (by decide) (fun hf => ?_) (fun hf => ?_)
    · refine lv_iconst (v := (0 : Int32)) hx hb dX6_covers_35 (by decide) ?_
      exact zw_zret X hw hf (Nat.le_of_ble_eq_true rfl) (Nat.le_of_ble_eq_true rfl) dX6_covers_36
    · refine lv_iconst (v := (1 : Int32)) hx hb dX6_covers_31 (by decide) ?_
      refine lv_goto (tgt := 36) hx hb dX6_covers_32 (by decide) ?_
      exact zw_zret X hw hf (Nat.le_of_ble_eq_true rfl) (Nat.le_of_ble_eq_true rfl) dX6_covers_36
set_option maxHeartbeats 4000000 in
theorem mt_X7_bolder (l : Launch) (D : va_G) (A : Nat → Prop) (h : zT) (i0 : Int32) (res : Int32 × zT) (hf : f_X7_bolder h i0 = some res) : Met l yX7_bolder (ws_ yX7_bolder cX7_bolder 1 (Option.some FieldType.int)) rm_X7_bolder (zPW D A (zEv A) h [.int i0]) (zQW D A (some (.int res.1)) res.2) 0 0 A := by
  refine zmt (zEv_ok A) (by decide) (Nat.le_of_ble_eq_true rfl) ?_
  intro p e s m below meth c ls hmn X hw hl
  have hl : lv_has ls 1 [(0, .int i0)] := hl
  have hx := X.1.1
  have hb := X.1.2.1
  have hown := X.1.2.2.2.1
  have hts := X.1.2.2.2.2
  have hN := X.2.2.2.2.2.2.1
  have hDW := X.2.2.2.2.2.2.2.1
  have hAO := X.2.2.2.2.2.2.2.2.1
  have hNC := X.2.2.2.2.2.2.2.2.2.1
  unfold f_X7_bolder at hf
  refine lv_iload_n hx hb dX7_bolder_0 rfl (lv_at hl 0 rfl) ?_
  refine zw_if_ne (tgt := 8) hx hb hf dX7_bolder_1 (by decide) (fun hf => ?_) (fun hf => ?_)
  · refine lv_iconst (v := (3 : Int32)) hx hb dX7_bolder_8 (by decide) ?_
    refine lv_iload_n hx hb dX7_bolder_9 rfl (lv_at hl 0 rfl) ?_
    refine lv_iconst (v := (1 : Int32)) hx hb dX7_bolder_10 (by decide) ?_
    refine lv_iadd hx hb dX7_bolder_11 ?_
    refine va_mmin (rest := []) hx hb (by rw [X.1.2.2.1]; exact hl.1.symm) hown (hts _ q774) (hts _ q700) (hts _ q96) (hts _ q701) (Nat.le_of_ble_eq_true rfl) (Nat.le_of_ble_eq_true rfl) (Nat.le_of_ble_eq_true rfl) (Nat.le_of_ble_eq_true rfl) dX7_bolder_12 ?_
    refine zw_nmI hf (fun v1 hf => ?_)
    exact zw_iret X hw hf (Nat.le_of_ble_eq_true rfl) (Nat.le_of_ble_eq_true rfl) dX7_bolder_15
  · refine lv_iconst (v := (0 : Int32)) hx hb dX7_bolder_4 (by decide) ?_
    refine lv_goto (tgt := 15) hx hb dX7_bolder_5 (by decide) ?_
    exact zw_iret X hw hf (Nat.le_of_ble_eq_true rfl) (Nat.le_of_ble_eq_true rfl) dX7_bolder_15
set_option maxHeartbeats 4000000 in
theorem mt_X7_says (l : Launch) (D : va_G) (A : Nat → Prop) (h : zT) (a0 : Nat) (i1 : Int32) (i2 : Int32) (res : Int32 × zT) (hf : f_X7_says h a0 i1 i2 = some res) : Met l yX7_says (ws_ yX7_says cX7_says 3 (Option.some FieldType.int)) rm_X7_says (zPW D A (zEv A) h [.ref a0, .int i1, .int i2]) (zQW D A (some (.int res.1)) res.2) 0 0 A := by
  refine zmt (zEv_ok A) (by decide) (Nat.le_of_ble_eq_true rfl) ?_
  intro p e s m below meth c ls hmn X hw hl
  have hl : lv_has ls 3 [(0, .ref a0), (1, .int i1), (2, .int i2)] := hl
  have hx := X.1.1
  have hb := X.1.2.1
  have hown := X.1.2.2.2.1
  have hts := X.1.2.2.2.2
  have hN := X.2.2.2.2.2.2.1
  have hDW := X.2.2.2.2.2.2.2.1
  have hAO := X.2.2.2.2.2.2.2.2.1
  have hNC := X.2.2.2.2.2.2.2.2.2.1
  unfold f_X7_says at hf
  refine lv_aload_n hx hb dX7_says_0 rfl (lv_at hl 0 rfl) ?_
  refine lv_iload_n hx hb dX7_says_1 rfl (lv_at hl 1 rfl) ?_
  refine lv_iload_n hx hb dX7_says_2 rfl (lv_at hl 2 rfl) ?_
  refine zw_kS hf (fun ci fs hci hfs hf => ?_)
  obtain ⟨qq, hqq⟩ := zclS ci hci
  refine zw_goI (rest := []) hw hf (fun r hr => by cases hr; exact zrunSD (n := 2) (y := yX16_says) (owner := "StoneSheets$Says") (x := ⟨"StoneSheets$Rubbing", "says", "(II)I"⟩) (As := [.int i1, .int i2]) (rest := []) (X.2.2.2.1.1 ci qq hqq).2 X.1 (zbk (v := i1) X.1.1 (hts _ q770) (by decide) dX16_says_0 dX16_says_1 (fun m => rfl) ⟨Nat.le_of_ble_eq_true rfl, Nat.le_of_ble_eq_true rfl⟩) (va_Nw.use rfl (hDW _ zdw6)) (va_Nw.use rfl (hDW _ zdw5)) (hts _ q567) X.2.2.2.2.2.2.2.2.2.2.2.1 rfl (hts _ q769) (va_Decl.abs (hN _ nq765)) (by decide +kernel) (zpreV X hw hfs hqq _) rfl rfl hl.1 rfl (lv_room (Nat.le_of_ble_eq_true rfl)) dX7_says_3 ⟨Nat.le_of_ble_eq_true rfl, Nat.le_of_ble_eq_true rfl⟩) (fun r1 H locs hf hw => ?_)
  refine zw_goI (rest := []) hw hf (fun r hr => va_runS (As := [.int r1.1]) (rest := []) X.1 (mt_X7_bolder l D A r1.2 r1.1 r hr) (va_cwS 1 hts (lw_S q771 q772 q91 q773) rfl rfl rfl cd_X7_bolder ⟨Nat.le_of_ble_eq_true rfl, Nat.le_of_ble_eq_true rfl⟩) (zpreS X hw _) rfl rfl hl.1 rfl (lv_room (Nat.le_of_ble_eq_true rfl)) dX7_says_6 ⟨Nat.le_of_ble_eq_true rfl, Nat.le_of_ble_eq_true rfl⟩) (fun r2 H locs hf hw => ?_)
  exact zw_iret X hw hf (Nat.le_of_ble_eq_true rfl) (Nat.le_of_ble_eq_true rfl) dX7_says_9
set_option maxHeartbeats 4000000 in
theorem mt_X8_says (l : Launch) (D : va_G) (A : Nat → Prop) (h : zT) (a0 : Nat) (i1 : Int32) (i2 : Int32) (res : Int32 × zT) (hf : f_X8_says h a0 i1 i2 = some res) : Met l yX8_says (ws_ yX8_says cX8_says 3 (Option.some FieldType.int)) rm_X8_says (zPW D A (zEv A) h [.ref a0, .int i1, .int i2]) (zQW D A (some (.int res.1)) res.2) 0 0 A := by
  refine zmt (zEv_ok A) (by decide) (Nat.le_of_ble_eq_true rfl) ?_
  intro p e s m below meth c ls hmn X hw hl
  have hl : lv_has ls 3 [(0, .ref a0), (1, .int i1), (2, .int i2)] := hl
  have hx := X.1.1
  have hb := X.1.2.1
  have hown := X.1.2.2.2.1
  have hts := X.1.2.2.2.2
  have hN := X.2.2.2.2.2.2.1
  have hDW := X.2.2.2.2.2.2.2.1
  have hAO := X.2.2.2.2.2.2.2.2.1
  have hNC := X.2.2.2.2.2.2.2.2.2.1
  unfold f_X8_says at hf
  refine lv_iconst (v := (0 : Int32)) hx hb dX8_says_0 (by decide) ?_
  refine lv_aload_n hx hb dX8_says_1 rfl (lv_at hl 0 rfl) ?_
  refine lv_iload_n hx hb dX8_says_2 rfl (lv_at hl 1 rfl) ?_
  refine lv_iload_n hx hb dX8_says_3 rfl (lv_at hl 2 rfl) ?_
  refine zw_kS hf (fun ci fs hci hfs hf => ?_)
  obtain ⟨qq, hqq⟩ := zclS ci hci
  refine zw_goI (rest := [.int (0 : Int32)]) hw hf (fun r hr => by cases hr; exact zrunSD (n := 2) (y := yX16_says) (owner := "StoneSheets$Says") (x := ⟨"StoneSheets$Rubbing", "says", "(II)I"⟩) (As := [.int i1, .int i2]) (rest := [.int (0 : Int32)]) (X.2.2.2.1.1 ci qq hqq).2 X.1 (zbk (v := i1) X.1.1 (hts _ q770) (by decide) dX16_says_0 dX16_says_1 (fun m => rfl) ⟨Nat.le_of_ble_eq_true rfl, Nat.le_of_ble_eq_true rfl⟩) (va_Nw.use rfl (hDW _ zdw7)) (va_Nw.use rfl (hDW _ zdw5)) (hts _ q579) X.2.2.2.2.2.2.2.2.2.2.2.1 rfl (hts _ q769) (va_Decl.abs (hN _ nq765)) (by decide +kernel) (zpreV X hw hfs hqq _) rfl rfl hl.1 rfl (lv_room (Nat.le_of_ble_eq_true rfl)) dX8_says_4 ⟨Nat.le_of_ble_eq_true rfl, Nat.le_of_ble_eq_true rfl⟩) (fun r1 H locs hf hw => ?_)
  refine lv_iconst (v := (1 : Int32)) hx hb dX8_says_7 (by decide) ?_
  refine lv_isub hx hb dX8_says_8 ?_
  refine va_mmax (rest := []) hx hb (by rw [X.1.2.2.1]; exact hl.1.symm) hown (hts _ q781) (hts _ q703) (hts _ q96) (hts _ q704) (Nat.le_of_ble_eq_true rfl) (Nat.le_of_ble_eq_true rfl) (Nat.le_of_ble_eq_true rfl) (Nat.le_of_ble_eq_true rfl) dX8_says_9 ?_
  refine zw_nmI hf (fun v2 hf => ?_)
  exact zw_iret X hw hf (Nat.le_of_ble_eq_true rfl) (Nat.le_of_ble_eq_true rfl) dX8_says_12
set_option maxHeartbeats 4000000 in
theorem mt_X9_says (l : Launch) (D : va_G) (A : Nat → Prop) (h : zT) (a0 : Nat) (i1 : Int32) (i2 : Int32) (res : Int32 × zT) (hf : f_X9_says h a0 i1 i2 = some res) : Met l yX9_says (ws_ yX9_says cX9_says 3 (Option.some FieldType.int)) rm_X9_says (zPW D A (zEv A) h [.ref a0, .int i1, .int i2]) (zQW D A (some (.int res.1)) res.2) 0 0 A := by
  refine zmt (zEv_ok A) (by decide) (Nat.le_of_ble_eq_true rfl) ?_
  intro p e s m below meth c ls hmn X hw hl
  have hl : lv_has ls 3 [(0, .ref a0), (1, .int i1), (2, .int i2)] := hl
  have hx := X.1.1
  have hb := X.1.2.1
  have hown := X.1.2.2.2.1
  have hts := X.1.2.2.2.2
  have hN := X.2.2.2.2.2.2.1
  have hDW := X.2.2.2.2.2.2.2.1
  have hAO := X.2.2.2.2.2.2.2.2.1
  have hNC := X.2.2.2.2.2.2.2.2.2.1
  unfold f_X9_says at hf
  refine lv_aload_n hx hb dX9_says_0 rfl (lv_at hl 0 rfl) ?_
  refine lv_iload_n hx hb dX9_says_1 rfl (lv_at hl 1 rfl) ?_
  refine lv_iload_n hx hb dX9_says_2 rfl (lv_at hl 2 rfl) ?_
  refine zw_kS hf (fun ci fs hci hfs hf => ?_)
  obtain ⟨qq, hqq⟩ := zclS ci hci
  refine zw_goI (rest := []) hw hf (fun r hr => va_runSU (As := [.int i1, .int i2]) (rest := []) (X.2.2.2.1.1 ci qq hqq).2 X.1 (mt_X7_says l D A h a0 i1 i2 r hr) (va_cwSU 2 hts (zlw_SU q790 q1796 q591 q767 q91 q768) rfl rfl rfl (by decide +kernel) ⟨Nat.le_of_ble_eq_true rfl, Nat.le_of_ble_eq_true rfl⟩) (zpreV X hw hfs hqq _) rfl rfl hl.1 rfl (lv_room (Nat.le_of_ble_eq_true rfl)) dX9_says_3 ⟨Nat.le_of_ble_eq_true rfl, Nat.le_of_ble_eq_true rfl⟩) (fun r1 H locs hf hw => ?_)
  refine zw_goI (rest := []) hw hf (fun r hr => zrunSS (n := 1) (owner := "StoneSheets$BoldRubbing") (x := ⟨"StoneSheets$TwiceRubbing", "bolder", "(I)I"⟩) (As := [.int r1.1]) (rest := []) X.1 (mt_X7_bolder l D A r1.2 r1.1 r hr) (lw_meth q773) rfl rfl rfl ⟨Nat.le_of_ble_eq_true rfl, Nat.le_of_ble_eq_true rfl⟩ (hts _ q791) (hts _ q792) rfl (hts _ q772) (hts _ q91) (by decide +kernel) (zpreS X hw _) rfl rfl hl.1 rfl (lv_room (Nat.le_of_ble_eq_true rfl)) dX9_says_6 ⟨Nat.le_of_ble_eq_true rfl, Nat.le_of_ble_eq_true rfl⟩) (fun r2 H locs hf hw => ?_)
  exact zw_iret X hw hf (Nat.le_of_ble_eq_true rfl) (Nat.le_of_ble_eq_true rfl) dX9_says_9
set_option maxHeartbeats 4000000 in
theorem mt_X10_says (l : Launch) (D : va_G) (A : Nat → Prop) (h : zT) (a0 : Nat) (i1 : Int32) (i2 : Int32) (res : Int32 × zT) (hf : f_X10_says h a0 i1 i2 = some res) : Met l yX10_says (ws_ yX10_says cX10_says 3 (Option.some FieldType.int)) rm_X10_says (zPW D A (zEv A) h [.ref a0, .int i1, .int i2]) (zQW D A (some (.int res.1)) res.2) 0 0 A := by
  refine zmt (zEv_ok A) (by decide) (Nat.le_of_ble_eq_true rfl) ?_
  intro p e s m below meth c ls hmn X hw hl
  have hl : lv_has ls 3 [(0, .ref a0), (1, .int i1), (2, .int i2)] := hl
  have hx := X.1.1
  have hb := X.1.2.1
  have hown := X.1.2.2.2.1
  have hts := X.1.2.2.2.2
  have hN := X.2.2.2.2.2.2.1
  have hDW := X.2.2.2.2.2.2.2.1
  have hAO := X.2.2.2.2.2.2.2.2.1
  have hNC := X.2.2.2.2.2.2.2.2.2.1
  unfold f_X10_says at hf
  refine lv_iload_n hx hb dX10_says_0 rfl (lv_at hl 2 rfl) ?_
  refine lv_aload_n hx hb dX10_says_1 rfl (lv_at hl 0 rfl) ?_
  refine zw_getIS X hw fs_X6_1 q545 q546 hf dX10_says_2 (fun v1 hf => ?_)
  refine lv_iconst (v := (2 : Int32)) hx hb dX10_says_5 (by decide) ?_
  refine lv_idiv hx hb dX10_says_6 (by decide) ?_
  refine zw_icmp_ne (tgt := 14) hx hb hf dX10_says_7 (by decide) (fun hf => ?_) (fun hf => ?_)
  · refine lv_aload_n hx hb dX10_says_14 rfl (lv_at hl 0 rfl) ?_
    refine lv_iload_n hx hb dX10_says_15 rfl (lv_at hl 1 rfl) ?_
    refine lv_iload_n hx hb dX10_says_16 rfl (lv_at hl 2 rfl) ?_
    refine zw_kS hf (fun ci fs hci hfs hf => ?_)
    obtain ⟨qq, hqq⟩ := zclS ci hci
    refine zw_goI (rest := []) hw hf (fun r hr => va_runSU (As := [.int i1, .int i2]) (rest := []) (X.2.2.2.1.1 ci qq hqq).2 X.1 (mt_X8_says l D A h a0 i1 i2 r hr) (va_cwSU 2 hts (zlw_SU q778 q1795 q603 q779 q92 q780) rfl rfl rfl (by decide +kernel) ⟨Nat.le_of_ble_eq_true rfl, Nat.le_of_ble_eq_true rfl⟩) (zpreV X hw hfs hqq _) rfl rfl hl.1 rfl (lv_room (Nat.le_of_ble_eq_true rfl)) dX10_says_17 ⟨Nat.le_of_ble_eq_true rfl, Nat.le_of_ble_eq_true rfl⟩) (fun r2 H locs hf hw => ?_)
    exact zw_iret X hw hf (Nat.le_of_ble_eq_true rfl) (Nat.le_of_ble_eq_true rfl) dX10_says_20
  · refine lv_iconst (v := (3 : Int32)) hx hb dX10_says_10 (by decide) ?_
    refine lv_goto (tgt := 20) hx hb dX10_says_11 (by decide) ?_
    exact zw_iret X hw hf (Nat.le_of_ble_eq_true rfl) (Nat.le_of_ble_eq_true rfl) dX10_says_20
set_option maxHeartbeats 4000000 in
theorem mt_X11_says (l : Launch) (D : va_G) (A : Nat → Prop) (h : zT) (a0 : Nat) (i1 : Int32) (i2 : Int32) (res : Int32 × zT) (hf : f_X11_says h a0 i1 i2 = some res) : Met l yX11_says (ws_ yX11_says cX11_says 3 (Option.some FieldType.int)) rm_X11_says (zPW D A (zEv A) h [.ref a0, .int i1, .int i2]) (zQW D A (some (.int res.1)) res.2) 0 0 A := by
  refine zmt (zEv_ok A) (by decide) (Nat.le_of_ble_eq_true rfl) ?_
  intro p e s m below meth c ls hmn X hw hl
  have hl : lv_has ls 3 [(0, .ref a0), (1, .int i1), (2, .int i2)] := hl
  have hx := X.1.1
  have hb := X.1.2.1
  have hown := X.1.2.2.2.1
  have hts := X.1.2.2.2.2
  have hN := X.2.2.2.2.2.2.1
  have hDW := X.2.2.2.2.2.2.2.1
  have hAO := X.2.2.2.2.2.2.2.2.1
  have hNC := X.2.2.2.2.2.2.2.2.2.1
  unfold f_X11_says at hf
  refine lv_iconst (v := (2 : Int32)) hx hb dX11_says_0 (by decide) ?_
  exact zw_iret X hw hf (Nat.le_of_ble_eq_true rfl) (Nat.le_of_ble_eq_true rfl) dX11_says_1
set_option maxHeartbeats 4000000 in
theorem vd_X6_37 {p : Program} {l : Launch} {e : Env} {R : Room} {s : State} {m : MethodId} {args : Array Value} {below : List Frame} {meth : Method} {c : Code} {H : Heap} {locs : List Loc} {cells slots : Nat} {Q : State → Prop} {D : va_G} {A : Nat → Prop} {cc : ByteArray} {nL : Nat} {ret : Option FieldType} {pc : Nat} {ls : Array Slot} {rest : List Value} {β : Type} {res : β} {K : Int32 × zT → Option β} {st0 : List Value} (h : zT) (b : Nat) (i1 : Int32) (i2 : Int32) (X : zCx p s m args meth c D A (zEv A) cc nL RX6 ret) (hw : zWh D A s H h locs) (hl : ls.size = nL) (hf : (fd_says h b i1 i2).bind K = some res) (hRf : 8 ≤ R.frames) (hRl : 200 ≤ R.locals) (hrest : (rest.map fun v => v.category).sum ≤ 8) (hstk : st0 = ([.int i1, .int i2] : List Value).reverse ++ .ref b :: rest) (hdg : decode cc pc = .ok (.invokevirtual 37, 3)) (hc : cells + 0 ≤ R.cells ∧ slots + 0 ≤ R.slots) (kk : ∀ (r : Int32 × zT) (H1 : Heap) (locs1 : List Loc), K r = some res → zWh D A s H1 (r.2) locs1 → W p l e R s m args below meth c H1 locs1 (cells + 0) (slots + 0) Q (F0 m (pc + 3) ls (.int r.1 :: rest))) : W p l e R s m args below meth c H locs cells slots Q (F0 m pc ls st0) := by
  have hts := X.1.2.2.2.2
  have hN := X.2.2.2.2.2.2.1
  have hDW := X.2.2.2.2.2.2.2.1
  obtain ⟨r, h1, hf⟩ := zbd hf
  unfold fd_says at h1
  obtain ⟨⟨ci, fs⟩, ho, h1⟩ := zbd h1
  have ho := zh_O_eq ho
  dsimp only at h1
  by_cases c6 : ci = 6
  · subst c6
    rw [if_pos rfl] at h1
    cases h1
    exact zw_call (zrunVD (n := 2) (C := RX6) (y := yX16_says) (owner := "StoneSheets$Says") (x := ⟨"StoneSheets$Rubbing", "says", "(II)I"⟩) (As := [.int i1, .int i2]) (rest := rest) X.1 (zbk (v := i1) X.1.1 (hts _ q770) (by decide) dX16_says_0 dX16_says_1 (fun m => rfl) ⟨Nat.le_trans (Nat.le_of_ble_eq_true rfl) hRf, Nat.le_trans (Nat.le_of_ble_eq_true rfl) hRl⟩) (va_Nw.use rfl (hDW _ zdw4)) (va_Nw.use rfl (hDW _ zdw5)) (va_Decl.abs (hN _ nq765)) X.2.2.2.2.2.2.2.2.2.2.2.1 (hts _ q769) (by decide +kernel) (zpreV (ci := 6) X hw ho rfl _) rfl rfl hl hstk (lv_room hrest) hdg hc) hw (fun H1 locs1 hw1 => kk _ H1 locs1 hf hw1)
  rw [if_neg c6] at h1
  by_cases c7 : ci = 7
  · subst c7
    rw [if_pos rfl] at h1
    exact zw_call (va_runU (C := RX7) (owner := "StoneSheets$Says") (x := ⟨"StoneSheets$Rubbing", "says", "(II)I"⟩) (As := [.int i1, .int i2]) (rest := rest) X.1 (mt_X7_says l D A h b i1 i2 r h1) (zcwD 2 hts (lw_meth q768) rfl rfl rfl (va_Nw.use rfl (hDW _ zdw4)) (va_Nw.use rfl (hDW _ zdw5)) (va_Decl.abs (hN _ nq765)) (hts _ q766) (hts _ q767) (hts _ q91) (by decide +kernel) ⟨Nat.le_trans (Nat.le_of_ble_eq_true rfl) hRf, Nat.le_trans (Nat.le_of_ble_eq_true rfl) hRl⟩) (zpreV (ci := 7) X hw ho rfl _) rfl rfl hl hstk (lv_room hrest) hdg hc) hw (fun H1 locs1 hw1 => kk r H1 locs1 hf hw1)
  rw [if_neg c7] at h1
  by_cases c8 : ci = 8
  · subst c8
    rw [if_pos rfl] at h1
    exact zw_call (va_runU (C := RX8) (owner := "StoneSheets$Says") (x := ⟨"StoneSheets$Rubbing", "says", "(II)I"⟩) (As := [.int i1, .int i2]) (rest := rest) X.1 (mt_X8_says l D A h b i1 i2 r h1) (zcwD 2 hts (lw_meth q780) rfl rfl rfl (va_Nw.use rfl (hDW _ zdw4)) (va_Nw.use rfl (hDW _ zdw5)) (va_Decl.abs (hN _ nq765)) (hts _ q782) (hts _ q779) (hts _ q92) (by decide +kernel) ⟨Nat.le_trans (Nat.le_of_ble_eq_true rfl) hRf, Nat.le_trans (Nat.le_of_ble_eq_true rfl) hRl⟩) (zpreV (ci := 8) X hw ho rfl _) rfl rfl hl hstk (lv_room hrest) hdg hc) hw (fun H1 locs1 hw1 => kk r H1 locs1 hf hw1)
  rw [if_neg c8] at h1
  by_cases c9 : ci = 9
  · subst c9
    rw [if_pos rfl] at h1
    exact zw_call (va_runU (C := RX9) (owner := "StoneSheets$Says") (x := ⟨"StoneSheets$Rubbing", "says", "(II)I"⟩) (As := [.int i1, .int i2]) (rest := rest) X.1 (mt_X9_says l D A h b i1 i2 r h1) (zcwD 2 hts (lw_meth q789) rfl rfl rfl (va_Nw.use rfl (hDW _ zdw4)) (va_Nw.use rfl (hDW _ zdw5)) (va_Decl.abs (hN _ nq765)) (hts _ q787) (hts _ q788) (hts _ q93) (by decide +kernel) ⟨Nat.le_trans (Nat.le_of_ble_eq_true rfl) hRf, Nat.le_trans (Nat.le_of_ble_eq_true rfl) hRl⟩) (zpreV (ci := 9) X hw ho rfl _) rfl rfl hl hstk (lv_room hrest) hdg hc) hw (fun H1 locs1 hw1 => kk r H1 locs1 hf hw1)
  rw [if_neg c9] at h1
  by_cases c10 : ci = 10
  · subst c10
    rw [if_pos rfl] at h1
    exact zw_call (va_runU (C := RX10) (owner := "StoneSheets$Says") (x := ⟨"StoneSheets$Rubbing", "says", "(II)I"⟩) (As := [.int i1, .int i2]) (rest := rest) X.1 (mt_X10_says l D A h b i1 i2 r h1) (zcwD 2 hts (lw_meth q777) rfl rfl rfl (va_Nw.use rfl (hDW _ zdw4)) (va_Nw.use rfl (hDW _ zdw5)) (va_Decl.abs (hN _ nq765)) (hts _ q775) (hts _ q776) (hts _ q94) (by decide +kernel) ⟨Nat.le_trans (Nat.le_of_ble_eq_true rfl) hRf, Nat.le_trans (Nat.le_of_ble_eq_true rfl) hRl⟩) (zpreV (ci := 10) X hw ho rfl _) rfl rfl hl hstk (lv_room hrest) hdg hc) hw (fun H1 locs1 hw1 => kk r H1 locs1 hf hw1)
  rw [if_neg c10] at h1
  by_cases c11 : ci = 11
  · subst c11
    rw [if_pos rfl] at h1
    exact zw_call (va_runU (C := RX11) (owner := "StoneSheets$Says") (x := ⟨"StoneSheets$Rubbing", "says", "(II)I"⟩) (As := [.int i1, .int i2]) (rest := rest) X.1 (mt_X11_says l D A h b i1 i2 r h1) (zcwD 2 hts (lw_meth q785) rfl rfl rfl (va_Nw.use rfl (hDW _ zdw4)) (va_Nw.use rfl (hDW _ zdw5)) (va_Decl.abs (hN _ nq765)) (hts _ q783) (hts _ q784) (hts _ q95) (by decide +kernel) ⟨Nat.le_trans (Nat.le_of_ble_eq_true rfl) hRf, Nat.le_trans (Nat.le_of_ble_eq_true rfl) hRl⟩) (zpreV (ci := 11) X hw ho rfl _) rfl rfl hl hstk (lv_room hrest) hdg hc) hw (fun H1 locs1 hw1 => kk r H1 locs1 hf hw1)
  rw [if_neg c11] at h1
  cases h1
set_option maxHeartbeats 4000000 in
theorem k_X6_saysAt_25 {p : Program} {l : Launch} {e : Env} {s : State} {m : MethodId} {args : Array Value} {below : List Frame} {meth : Method} {c : Code} {D : va_G} {A : Nat → Prop} (X : zCx p s m args meth c D A (zEv A) cX6_saysAt 2 RX6 (Option.some FieldType.int)) (res : Int32 × zT) : ∀ (h : zT) (i1 : Int32) (s0 : Int32) (s1 : Int32) (s2 : Int32) (s3 : Nat) (H : Heap) (locs : List Loc) (ls : Array Slot), f_X6_saysAt_25 h i1 s0 s1 s2 s3 = some res → zWh D A s H h locs → lv_has ls 2 [(1, .int i1)] → W p l e rm_X6_saysAt s m args below meth c H locs 0 0 (MQ below (zQW D A (some (.int res.1)) res.2) args s 0 0 A) (F0 m 25 ls [.int s0, .int s1, .int s2, .ref s3]) := by
  have hx := X.1.1
  have hb := X.1.2.1
  have hown := X.1.2.2.2.1
  have hts := X.1.2.2.2.2
  have hN := X.2.2.2.2.2.2.1
  have hDW := X.2.2.2.2.2.2.2.1
  have hAO := X.2.2.2.2.2.2.2.2.1
  have hNC := X.2.2.2.2.2.2.2.2.2.1
  intro h i1 s0 s1 s2 s3 H locs ls hf hw hl
  unfold f_X6_saysAt_25 at hf
  refine lv_imul hx hb dX6_saysAt_25 ?_
  refine lv_ishr hx hb dX6_saysAt_26 ?_
  refine lv_iconst (v := (3 : Int32)) hx hb dX6_saysAt_27 (by decide) ?_
  refine lv_iand hx hb dX6_saysAt_28 ?_
  refine lv_iload_n hx hb dX6_saysAt_29 rfl (lv_at hl 0 rfl) ?_
  refine vd_X6_37 (rest := []) h s3 ((s2 >>> ((s1 * s0) &&& 31)) &&& (3 : Int32)) i1 X hw hl.1 hf (Nat.le_of_ble_eq_true rfl) (Nat.le_of_ble_eq_true rfl) (Nat.le_of_ble_eq_true rfl) rfl dX6_saysAt_30 ⟨Nat.le_of_ble_eq_true rfl, Nat.le_of_ble_eq_true rfl⟩ (fun r1 H locs hf hw => ?_)
  exact zw_iret X hw hf (Nat.le_of_ble_eq_true rfl) (Nat.le_of_ble_eq_true rfl) dX6_saysAt_33
set_option maxHeartbeats 4000000 in
theorem mt_X6_saysAt (l : Launch) (D : va_G) (A : Nat → Prop) (h : zT) (a0 : Nat) (i1 : Int32) (res : Int32 × zT) (hf : f_X6_saysAt h a0 i1 = some res) : Met l yX6_saysAt (ws_ yX6_saysAt cX6_saysAt 2 (Option.some FieldType.int)) rm_X6_saysAt (zPW D A (zEv A) h [.ref a0, .int i1]) (zQW D A (some (.int res.1)) res.2) 0 0 A := by
  refine zmt (zEv_ok A) (by decide) (Nat.le_of_ble_eq_true rfl) ?_
  intro p e s m below meth c ls hmn X hw hl
  have hl : lv_has ls 2 [(0, .ref a0), (1, .int i1)] := hl
  have hx := X.1.1
  have hb := X.1.2.1
  have hown := X.1.2.2.2.1
  have hts := X.1.2.2.2.2
  have hN := X.2.2.2.2.2.2.1
  have hDW := X.2.2.2.2.2.2.2.1
  have hAO := X.2.2.2.2.2.2.2.2.1
  have hNC := X.2.2.2.2.2.2.2.2.2.1
  unfold f_X6_saysAt at hf
  refine lv_aload_n hx hb dX6_saysAt_0 rfl (lv_at hl 0 rfl) ?_
  refine lv_aload_n hx hb dX6_saysAt_1 rfl (lv_at hl 0 rfl) ?_
  refine zw_getI X hw fs_X6_0 q543 rfl hf dX6_saysAt_2 (fun v1 hf => ?_)
  refine lv_iconst (v := (2 : Int32)) hx hb dX6_saysAt_5 (by decide) ?_
  refine lv_aload_n hx hb dX6_saysAt_6 rfl (lv_at hl 0 rfl) ?_
  refine zw_getI X hw fs_X6_2 q549 rfl hf dX6_saysAt_7 (fun v2 hf => ?_)
  refine zw_if_eq (tgt := 24) hx hb hf dX6_saysAt_10 (by decide) (fun hf => ?_) (fun hf => ?_)
  · refine lv_iload_n hx hb dX6_saysAt_24 rfl (lv_at hl 1 rfl) ?_
    exact k_X6_saysAt_25 X _ h i1 i1 (2 : Int32) v1 a0 _ _ _ hf hw (lv_sub hl [1] rfl)
  · refine lv_aload_n hx hb dX6_saysAt_13 rfl (lv_at hl 0 rfl) ?_
    refine zw_getI X hw fs_X6_1 q547 rfl hf dX6_saysAt_14 (fun v3 hf => ?_)
    refine lv_iconst (v := (1 : Int32)) hx hb dX6_saysAt_17 (by decide) ?_
    refine lv_isub hx hb dX6_saysAt_18 ?_
    refine lv_iload_n hx hb dX6_saysAt_19 rfl (lv_at hl 1 rfl) ?_
    refine lv_isub hx hb dX6_saysAt_20 ?_
    refine lv_goto (tgt := 25) hx hb dX6_saysAt_21 (by decide) ?_
    exact k_X6_saysAt_25 X _ h i1 ((v3 - (1 : Int32)) - i1) (2 : Int32) v1 a0 _ _ _ hf hw (lv_sub hl [1] rfl)
set_option maxHeartbeats 4000000 in
theorem vd_X1_75 {p : Program} {l : Launch} {e : Env} {R : Room} {s : State} {m : MethodId} {args : Array Value} {below : List Frame} {meth : Method} {c : Code} {H : Heap} {locs : List Loc} {cells slots : Nat} {Q : State → Prop} {D : va_G} {A : Nat → Prop} {cc : ByteArray} {nL : Nat} {ret : Option FieldType} {pc : Nat} {ls : Array Slot} {rest : List Value} {β : Type} {res : β} {K : Int32 × zT → Option β} {st0 : List Value} (h : zT) (b : Nat) (i1 : Int32) (X : zCx p s m args meth c D A (zEv A) cc nL RX1 ret) (hw : zWh D A s H h locs) (hl : ls.size = nL) (hf : (fd_covers h b i1).bind K = some res) (hRf : 8 ≤ R.frames) (hRl : 200 ≤ R.locals) (hrest : (rest.map fun v => v.category).sum ≤ 8) (hstk : st0 = ([.int i1] : List Value).reverse ++ .ref b :: rest) (hdg : decode cc pc = .ok (.invokevirtual 75, 3)) (hc : cells + 0 ≤ R.cells ∧ slots + 0 ≤ R.slots) (kk : ∀ (r : Int32 × zT) (H1 : Heap) (locs1 : List Loc), K r = some res → zWh D A s H1 (r.2) locs1 → W p l e R s m args below meth c H1 locs1 (cells + 0) (slots + 0) Q (F0 m (pc + 3) ls (.int r.1 :: rest))) : W p l e R s m args below meth c H locs cells slots Q (F0 m pc ls st0) := by
  have hts := X.1.2.2.2.2
  have hN := X.2.2.2.2.2.2.1
  have hDW := X.2.2.2.2.2.2.2.1
  obtain ⟨r, h1, hf⟩ := zbd hf
  unfold fd_covers at h1
  obtain ⟨⟨ci, fs⟩, ho, h1⟩ := zbd h1
  have ho := zh_O_eq ho
  dsimp only at h1
  by_cases c6 : ci = 6
  · subst c6
    rw [if_pos rfl] at h1
    exact zw_call (va_runV (C := RX6) (As := [.int i1]) (rest := rest) X.1 (mt_X6_covers l D A h b i1 r h1) (cwV 1 hts (lw_V q957 q958 q959 q90 q966) rfl rfl rfl ⟨rfl, cd_X6_covers⟩ ⟨Nat.le_trans (Nat.le_of_ble_eq_true rfl) hRf, Nat.le_trans (Nat.le_of_ble_eq_true rfl) hRl⟩) (zpreV (ci := 6) X hw ho rfl _) rfl rfl hl hstk (lv_room hrest) hdg hc) hw (fun H1 locs1 hw1 => kk r H1 locs1 hf hw1)
  rw [if_neg c6] at h1
  by_cases c7 : ci = 7
  · subst c7
    rw [if_pos rfl] at h1
    exact zw_call (va_runU (C := RX7) (owner := RX6) (x := yX6_covers) (As := [.int i1]) (rest := rest) X.1 (mt_X6_covers l D A h b i1 r h1) (va_cwU 1 hts (zlw_U q957 q960 q961 q958 q90 q966) rfl rfl rfl rfl cd_X6_covers ⟨Nat.le_trans (Nat.le_of_ble_eq_true rfl) hRf, Nat.le_trans (Nat.le_of_ble_eq_true rfl) hRl⟩) (zpreV (ci := 7) X hw ho rfl _) rfl rfl hl hstk (lv_room hrest) hdg hc) hw (fun H1 locs1 hw1 => kk r H1 locs1 hf hw1)
  rw [if_neg c7] at h1
  by_cases c8 : ci = 8
  · subst c8
    rw [if_pos rfl] at h1
    exact zw_call (va_runU (C := RX8) (owner := RX6) (x := yX6_covers) (As := [.int i1]) (rest := rest) X.1 (mt_X6_covers l D A h b i1 r h1) (va_cwU 1 hts (zlw_U q957 q960 q963 q958 q90 q966) rfl rfl rfl rfl cd_X6_covers ⟨Nat.le_trans (Nat.le_of_ble_eq_true rfl) hRf, Nat.le_trans (Nat.le_of_ble_eq_true rfl) hRl⟩) (zpreV (ci := 8) X hw ho rfl _) rfl rfl hl hstk (lv_room hrest) hdg hc) hw (fun H1 locs1 hw1 => kk r H1 locs1 hf hw1)
  rw [if_neg c8] at h1
  by_cases c9 : ci = 9
  · subst c9
    rw [if_pos rfl] at h1
    exact zw_call (va_runU (C := RX9) (owner := RX6) (x := yX6_covers) (As := [.int i1]) (rest := rest) X.1 (mt_X6_covers l D A h b i1 r h1) (va_cwU 1 hts (zlw_U q957 q960 q965 q958 q90 q966) rfl rfl rfl rfl cd_X6_covers ⟨Nat.le_trans (Nat.le_of_ble_eq_true rfl) hRf, Nat.le_trans (Nat.le_of_ble_eq_true rfl) hRl⟩) (zpreV (ci := 9) X hw ho rfl _) rfl rfl hl hstk (lv_room hrest) hdg hc) hw (fun H1 locs1 hw1 => kk r H1 locs1 hf hw1)
  rw [if_neg c9] at h1
  by_cases c10 : ci = 10
  · subst c10
    rw [if_pos rfl] at h1
    exact zw_call (va_runU (C := RX10) (owner := RX6) (x := yX6_covers) (As := [.int i1]) (rest := rest) X.1 (mt_X6_covers l D A h b i1 r h1) (va_cwU 1 hts (zlw_U q957 q960 q962 q958 q90 q966) rfl rfl rfl rfl cd_X6_covers ⟨Nat.le_trans (Nat.le_of_ble_eq_true rfl) hRf, Nat.le_trans (Nat.le_of_ble_eq_true rfl) hRl⟩) (zpreV (ci := 10) X hw ho rfl _) rfl rfl hl hstk (lv_room hrest) hdg hc) hw (fun H1 locs1 hw1 => kk r H1 locs1 hf hw1)
  rw [if_neg c10] at h1
  by_cases c11 : ci = 11
  · subst c11
    rw [if_pos rfl] at h1
    exact zw_call (va_runU (C := RX11) (owner := RX6) (x := yX6_covers) (As := [.int i1]) (rest := rest) X.1 (mt_X6_covers l D A h b i1 r h1) (va_cwU 1 hts (zlw_U q957 q960 q964 q958 q90 q966) rfl rfl rfl rfl cd_X6_covers ⟨Nat.le_trans (Nat.le_of_ble_eq_true rfl) hRf, Nat.le_trans (Nat.le_of_ble_eq_true rfl) hRl⟩) (zpreV (ci := 11) X hw ho rfl _) rfl rfl hl hstk (lv_room hrest) hdg hc) hw (fun H1 locs1 hw1 => kk r H1 locs1 hf hw1)
  rw [if_neg c11] at h1
  cases h1
set_option maxHeartbeats 4000000 in
theorem vd_X1_79 {p : Program} {l : Launch} {e : Env} {R : Room} {s : State} {m : MethodId} {args : Array Value} {below : List Frame} {meth : Method} {c : Code} {H : Heap} {locs : List Loc} {cells slots : Nat} {Q : State → Prop} {D : va_G} {A : Nat → Prop} {cc : ByteArray} {nL : Nat} {ret : Option FieldType} {pc : Nat} {ls : Array Slot} {rest : List Value} {β : Type} {res : β} {K : Int32 × zT → Option β} {st0 : List Value} (h : zT) (b : Nat) (i1 : Int32) (X : zCx p s m args meth c D A (zEv A) cc nL RX1 ret) (hw : zWh D A s H h locs) (hl : ls.size = nL) (hf : (fd_saysAt h b i1).bind K = some res) (hRf : 10 ≤ R.frames) (hRl : 300 ≤ R.locals) (hrest : (rest.map fun v => v.category).sum ≤ 8) (hstk : st0 = ([.int i1] : List Value).reverse ++ .ref b :: rest) (hdg : decode cc pc = .ok (.invokevirtual 79, 3)) (hc : cells + 0 ≤ R.cells ∧ slots + 0 ≤ R.slots) (kk : ∀ (r : Int32 × zT) (H1 : Heap) (locs1 : List Loc), K r = some res → zWh D A s H1 (r.2) locs1 → W p l e R s m args below meth c H1 locs1 (cells + 0) (slots + 0) Q (F0 m (pc + 3) ls (.int r.1 :: rest))) : W p l e R s m args below meth c H locs cells slots Q (F0 m pc ls st0) := by
  have hts := X.1.2.2.2.2
  have hN := X.2.2.2.2.2.2.1
  have hDW := X.2.2.2.2.2.2.2.1
  obtain ⟨r, h1, hf⟩ := zbd hf
  unfold fd_saysAt at h1
  obtain ⟨⟨ci, fs⟩, ho, h1⟩ := zbd h1
  have ho := zh_O_eq ho
  dsimp only at h1
  by_cases c6 : ci = 6
  · subst c6
    rw [if_pos rfl] at h1
    exact zw_call (va_runV (C := RX6) (As := [.int i1]) (rest := rest) X.1 (mt_X6_saysAt l D A h b i1 r h1) (cwV 1 hts (lw_V q968 q756 q757 q90 q764) rfl rfl rfl ⟨rfl, cd_X6_saysAt⟩ ⟨Nat.le_trans (Nat.le_of_ble_eq_true rfl) hRf, Nat.le_trans (Nat.le_of_ble_eq_true rfl) hRl⟩) (zpreV (ci := 6) X hw ho rfl _) rfl rfl hl hstk (lv_room hrest) hdg hc) hw (fun H1 locs1 hw1 => kk r H1 locs1 hf hw1)
  rw [if_neg c6] at h1
  by_cases c7 : ci = 7
  · subst c7
    rw [if_pos rfl] at h1
    exact zw_call (va_runU (C := RX7) (owner := RX6) (x := yX6_saysAt) (As := [.int i1]) (rest := rest) X.1 (mt_X6_saysAt l D A h b i1 r h1) (va_cwU 1 hts (zlw_U q968 q758 q759 q756 q90 q764) rfl rfl rfl rfl cd_X6_saysAt ⟨Nat.le_trans (Nat.le_of_ble_eq_true rfl) hRf, Nat.le_trans (Nat.le_of_ble_eq_true rfl) hRl⟩) (zpreV (ci := 7) X hw ho rfl _) rfl rfl hl hstk (lv_room hrest) hdg hc) hw (fun H1 locs1 hw1 => kk r H1 locs1 hf hw1)
  rw [if_neg c7] at h1
  by_cases c8 : ci = 8
  · subst c8
    rw [if_pos rfl] at h1
    exact zw_call (va_runU (C := RX8) (owner := RX6) (x := yX6_saysAt) (As := [.int i1]) (rest := rest) X.1 (mt_X6_saysAt l D A h b i1 r h1) (va_cwU 1 hts (zlw_U q968 q758 q761 q756 q90 q764) rfl rfl rfl rfl cd_X6_saysAt ⟨Nat.le_trans (Nat.le_of_ble_eq_true rfl) hRf, Nat.le_trans (Nat.le_of_ble_eq_true rfl) hRl⟩) (zpreV (ci := 8) X hw ho rfl _) rfl rfl hl hstk (lv_room hrest) hdg hc) hw (fun H1 locs1 hw1 => kk r H1 locs1 hf hw1)
  rw [if_neg c8] at h1
  by_cases c9 : ci = 9
  · subst c9
    rw [if_pos rfl] at h1
    exact zw_call (va_runU (C := RX9) (owner := RX6) (x := yX6_saysAt) (As := [.int i1]) (rest := rest) X.1 (mt_X6_saysAt l D A h b i1 r h1) (va_cwU 1 hts (zlw_U q968 q758 q763 q756 q90 q764) rfl rfl rfl rfl cd_X6_saysAt ⟨Nat.le_trans (Nat.le_of_ble_eq_true rfl) hRf, Nat.le_trans (Nat.le_of_ble_eq_true rfl) hRl⟩) (zpreV (ci := 9) X hw ho rfl _) rfl rfl hl hstk (lv_room hrest) hdg hc) hw (fun H1 locs1 hw1 => kk r H1 locs1 hf hw1)
  rw [if_neg c9] at h1
  by_cases c10 : ci = 10
  · subst c10
    rw [if_pos rfl] at h1
    exact zw_call (va_runU (C := RX10) (owner := RX6) (x := yX6_saysAt) (As := [.int i1]) (rest := rest) X.1 (mt_X6_saysAt l D A h b i1 r h1) (va_cwU 1 hts (zlw_U q968 q758 q760 q756 q90 q764) rfl rfl rfl rfl cd_X6_saysAt ⟨Nat.le_trans (Nat.le_of_ble_eq_true rfl) hRf, Nat.le_trans (Nat.le_of_ble_eq_true rfl) hRl⟩) (zpreV (ci := 10) X hw ho rfl _) rfl rfl hl hstk (lv_room hrest) hdg hc) hw (fun H1 locs1 hw1 => kk r H1 locs1 hf hw1)
  rw [if_neg c10] at h1
  by_cases c11 : ci = 11
  · subst c11
    rw [if_pos rfl] at h1
    exact zw_call (va_runU (C := RX11) (owner := RX6) (x := yX6_saysAt) (As := [.int i1]) (rest := rest) X.1 (mt_X6_saysAt l D A h b i1 r h1) (va_cwU 1 hts (zlw_U q968 q758 q762 q756 q90 q764) rfl rfl rfl rfl cd_X6_saysAt ⟨Nat.le_trans (Nat.le_of_ble_eq_true rfl) hRf, Nat.le_trans (Nat.le_of_ble_eq_true rfl) hRl⟩) (zpreV (ci := 11) X hw ho rfl _) rfl rfl hl hstk (lv_room hrest) hdg hc) hw (fun H1 locs1 hw1 => kk r H1 locs1 hf hw1)
  rw [if_neg c11] at h1
  cases h1
set_option maxHeartbeats 4000000 in
theorem mt_X1_isFalse (l : Launch) (D : va_G) (A : Nat → Prop) (h : zT) (a0 : Nat) (i1 : Int32) (i2 : Int32) (res : Int32 × zT) (hf : f_X1_isFalse h a0 i1 i2 = some res) : Met l yX1_isFalse (ws_ yX1_isFalse cX1_isFalse 4 (Option.some FieldType.boolean)) rm_X1_isFalse (zPW D A (zEv A) h [.ref a0, .int i1, .int i2]) (zQW D A (some (.int res.1)) res.2) 0 0 A := by
  refine zmt (zEv_ok A) (by decide) (Nat.le_of_ble_eq_true rfl) ?_
  intro p e s m below meth c ls hmn X hw hl
  have hl : lv_has ls 4 [(0, .ref a0), (1, .int i1), (2, .int i2)] := hl
  have hx := X.1.1
  have hb := X.1.2.1
  have hown := X.1.2.2.2.1
  have hts := X.1.2.2.2.2
  have hN := X.2.2.2.2.2.2.1
  have hDW := X.2.2.2.2.2.2.2.1
  have hAO := X.2.2.2.2.2.2.2.2.1
  have hNC := X.2.2.2.2.2.2.2.2.2.1
  unfold f_X1_isFalse at hf
  refine lv_aload_n hx hb dX1_isFalse_0 rfl (lv_at hl 0 rfl) ?_
  refine zw_getR X hw fs_X1_2 q130 rfl hf dX1_isFalse_1 (fun v1 hf => ?_)
  refine lv_iload_n hx hb dX1_isFalse_4 rfl (lv_at hl 1 rfl) ?_
  refine zw_aaloadR X hw hf dX1_isFalse_5 (fun v2 hf => ?_)
  refine lv_astore_n (lv' := [(3, .ref v2), (0, .ref a0), (1, .int i1), (2, .int i2)]) hx hb dX1_isFalse_6 rfl hl (by decide) rfl (fun ls hl => ?_)
  refine lv_aload_n hx hb dX1_isFalse_7 rfl (lv_at hl 0 rfl) ?_
  refine lv_iload_n hx hb dX1_isFalse_8 rfl (lv_at hl 3 rfl) ?_
  refine vd_X1_75 (rest := []) h v2 i2 X hw hl.1 hf (Nat.le_of_ble_eq_true rfl) (Nat.le_of_ble_eq_true rfl) (Nat.le_of_ble_eq_true rfl) rfl dX1_isFalse_9 ⟨Nat.le_of_ble_eq_true rfl, Nat.le_of_ble_eq_true rfl⟩ (fun r3 H locs hf hw => ?_)
  refine zw_if_eq (tgt := 38) hx hb hf dX1_isFalse_12 (by decide) (fun hf => ?_) (fun hf => ?_)
  · refine lv_iconst (v := (0 : Int32)) hx hb dX1_isFalse_38 (by decide) ?_
    exact zw_zret X hw hf (Nat.le_of_ble_eq_true rfl) (Nat.le_of_ble_eq_true rfl) dX1_isFalse_39
  · refine lv_aload_n hx hb dX1_isFalse_15 rfl (lv_at hl 0 rfl) ?_
    refine lv_iload_n hx hb dX1_isFalse_16 rfl (lv_at hl 3 rfl) ?_
    refine lv_aload_n hx hb dX1_isFalse_17 rfl (lv_at hl 0 rfl) ?_
    refine zw_getI X hw fs_X6_3 q552 rfl hf dX1_isFalse_18 (fun v4 hf => ?_)
    refine lv_isub hx hb dX1_isFalse_21 ?_
    refine vd_X1_79 (rest := []) r3.2 v2 (i2 - v4) X hw hl.1 hf (Nat.le_of_ble_eq_true rfl) (Nat.le_of_ble_eq_true rfl) (Nat.le_of_ble_eq_true rfl) rfl dX1_isFalse_22 ⟨Nat.le_of_ble_eq_true rfl, Nat.le_of_ble_eq_true rfl⟩ (fun r5 H locs hf hw => ?_)
    refine lv_aload_n hx hb dX1_isFalse_25 rfl (lv_at hl 1 rfl) ?_
    refine zw_getR X hw fs_X1_3 q132 rfl hf dX1_isFalse_26 (fun v6 hf => ?_)
    refine lv_iload_n hx hb dX1_isFalse_29 rfl (lv_at hl 3 rfl) ?_
    refine zw_ialoadR X hw hf dX1_isFalse_30 (fun v7 hf => ?_)
    refine zw_icmp_eq (tgt := 38) hx hb hf dX1_isFalse_31 (by decide) (fun hf => ?_) (fun hf => ?_)
    · refine lv_iconst (v := (0 : Int32)) hx hb dX1_isFalse_38 (by decide) ?_
      exact zw_zret X hw hf (Nat.le_of_ble_eq_true rfl) (Nat.le_of_ble_eq_true rfl) dX1_isFalse_39
    · refine lv_iconst (v := (1 : Int32)) hx hb dX1_isFalse_34 (by decide) ?_
      refine lv_goto (tgt := 39) hx hb dX1_isFalse_35 (by decide) ?_
      exact zw_zret X hw hf (Nat.le_of_ble_eq_true rfl) (Nat.le_of_ble_eq_true rfl) dX1_isFalse_39
set_option maxHeartbeats 4000000 in
theorem k_X1_trust_4 {p : Program} {l : Launch} {e : Env} {s : State} {m : MethodId} {args : Array Value} {below : List Frame} {meth : Method} {c : Code} {D : va_G} {A : Nat → Prop} (X : zCx p s m args meth c D A (zEv A) cX1_trust 3 RX1 (Option.some FieldType.int)) (res : Int32 × zT) : ∀ (n : Nat), ∀ (h : zT) (a0 : Nat) (i1 : Int32) (i2 : Int32) (H : Heap) (locs : List Loc) (ls : Array Slot), f_X1_trust_4 n h a0 i1 i2 = some res → zWh D A s H h locs → lv_has ls 3 [(0, .ref a0), (1, .int i1), (2, .int i2)] → W p l e rm_X1_trust s m args below meth c H locs 0 0 (MQ below (zQW D A (some (.int res.1)) res.2) args s 0 0 A) (F0 m 4 ls []) := by
  have hx := X.1.1
  have hb := X.1.2.1
  have hown := X.1.2.2.2.1
  have hts := X.1.2.2.2.2
  have hN := X.2.2.2.2.2.2.1
  have hDW := X.2.2.2.2.2.2.2.1
  have hAO := X.2.2.2.2.2.2.2.2.1
  have hNC := X.2.2.2.2.2.2.2.2.2.1
  intro n
  induction n with
  | zero =>
    intro h a0 i1 i2 H locs ls hf hw hl
    cases hf
  | succ n ih =>
    intro h a0 i1 i2 H locs ls hf hw hl
    unfold f_X1_trust_4 at hf
    refine lv_iload_n hx hb dX1_trust_4 rfl (lv_at hl 2 rfl) ?_
    refine lv_aload_n hx hb dX1_trust_5 rfl (lv_at hl 0 rfl) ?_
    refine zw_getI X hw fs_X1_1 q128 rfl hf dX1_trust_6 (fun v1 hf => ?_)
    refine zw_icmp_ge (tgt := 30) hx hb hf dX1_trust_9 (by decide) (fun hf => ?_) (fun hf => ?_)
    · refine lv_iload_n hx hb dX1_trust_30 rfl (lv_at hl 1 rfl) ?_
      exact zw_iret X hw hf (Nat.le_of_ble_eq_true rfl) (Nat.le_of_ble_eq_true rfl) dX1_trust_31
    · refine lv_iload_n hx hb dX1_trust_12 rfl (lv_at hl 1 rfl) ?_
      refine lv_aload_n hx hb dX1_trust_13 rfl (lv_at hl 0 rfl) ?_
      refine zw_getR X hw fs_X1_2 q130 rfl hf dX1_trust_14 (fun v2 hf => ?_)
      refine lv_iload_n hx hb dX1_trust_17 rfl (lv_at hl 2 rfl) ?_
      refine zw_aaloadR X hw hf dX1_trust_18 (fun v3 hf => ?_)
      refine zw_getI X hw fs_X6_4 q555 rfl hf dX1_trust_19 (fun v4 hf => ?_)
      refine lv_iadd hx hb dX1_trust_22 ?_
      refine zw_nmI hf (fun v5 hf => ?_)
      refine lv_istore_n (lv' := [(1, .int v5), (0, .ref a0), (2, .int i2)]) hx hb dX1_trust_23 rfl hl (by decide) rfl (fun ls hl => ?_)
      refine zw_nmS hf (fun v6 ev6 hf => ?_)
      refine lv_iinc (k := 2) (v := v6) (lv' := [(2, .int v6), (1, .int v5), (0, .ref a0)]) hx hb dX1_trust_24 hl rfl (by rw [ev6]; rfl) (by decide) rfl (fun ls hl => ?_)
      refine lv_goto (tgt := 4) hx hb dX1_trust_27 (by decide) ?_
      exact ih h a0 v5 v6 _ _ _ hf hw (lv_sub hl [2, 1, 0] rfl)
set_option maxHeartbeats 4000000 in
theorem mt_X1_trust (l : Launch) (D : va_G) (A : Nat → Prop) (h : zT) (a0 : Nat) (res : Int32 × zT) (hf : f_X1_trust h a0 = some res) : Met l yX1_trust (ws_ yX1_trust cX1_trust 3 (Option.some FieldType.int)) rm_X1_trust (zPW D A (zEv A) h [.ref a0]) (zQW D A (some (.int res.1)) res.2) 0 0 A := by
  refine zmt (zEv_ok A) (by decide) (Nat.le_of_ble_eq_true rfl) ?_
  intro p e s m below meth c ls hmn X hw hl
  have hl : lv_has ls 3 [(0, .ref a0)] := hl
  have hx := X.1.1
  have hb := X.1.2.1
  have hown := X.1.2.2.2.1
  have hts := X.1.2.2.2.2
  have hN := X.2.2.2.2.2.2.1
  have hDW := X.2.2.2.2.2.2.2.1
  have hAO := X.2.2.2.2.2.2.2.2.1
  have hNC := X.2.2.2.2.2.2.2.2.2.1
  unfold f_X1_trust at hf
  refine lv_iconst (v := (0 : Int32)) hx hb dX1_trust_0 (by decide) ?_
  refine lv_istore_n (lv' := [(1, .int (0 : Int32)), (0, .ref a0)]) hx hb dX1_trust_1 rfl hl (by decide) rfl (fun ls hl => ?_)
  refine lv_iconst (v := (0 : Int32)) hx hb dX1_trust_2 (by decide) ?_
  refine lv_istore_n (lv' := [(2, .int (0 : Int32)), (1, .int (0 : Int32)), (0, .ref a0)]) hx hb dX1_trust_3 rfl hl (by decide) rfl (fun ls hl => ?_)
  exact k_X1_trust_4 X _ 4096 h a0 (0 : Int32) (0 : Int32) _ _ _ hf hw (lv_sub hl [2, 1, 0] rfl)
set_option maxHeartbeats 4000000 in
theorem mt_X6_kind (l : Launch) (D : va_G) (A : Nat → Prop) (h : zT) (a0 : Nat) (res : Int32 × zT) (hf : f_X6_kind h a0 = some res) : Met l yX6_kind (ws_ yX6_kind cX6_kind 1 (Option.some FieldType.int)) rm_X6_kind (zPW D A (zEv A) h [.ref a0]) (zQW D A (some (.int res.1)) res.2) 0 0 A := by
  refine zmt (zEv_ok A) (by decide) (Nat.le_of_ble_eq_true rfl) ?_
  intro p e s m below meth c ls hmn X hw hl
  have hl : lv_has ls 1 [(0, .ref a0)] := hl
  have hx := X.1.1
  have hb := X.1.2.1
  have hown := X.1.2.2.2.1
  have hts := X.1.2.2.2.2
  have hN := X.2.2.2.2.2.2.1
  have hDW := X.2.2.2.2.2.2.2.1
  have hAO := X.2.2.2.2.2.2.2.2.1
  have hNC := X.2.2.2.2.2.2.2.2.2.1
  unfold f_X6_kind at hf
  refine lv_iconst (v := (0 : Int32)) hx hb dX6_kind_0 (by decide) ?_
  exact zw_iret X hw hf (Nat.le_of_ble_eq_true rfl) (Nat.le_of_ble_eq_true rfl) dX6_kind_1
set_option maxHeartbeats 4000000 in
theorem mt_X7_kind (l : Launch) (D : va_G) (A : Nat → Prop) (h : zT) (a0 : Nat) (res : Int32 × zT) (hf : f_X7_kind h a0 = some res) : Met l yX7_kind (ws_ yX7_kind cX7_kind 1 (Option.some FieldType.int)) rm_X7_kind (zPW D A (zEv A) h [.ref a0]) (zQW D A (some (.int res.1)) res.2) 0 0 A := by
  refine zmt (zEv_ok A) (by decide) (Nat.le_of_ble_eq_true rfl) ?_
  intro p e s m below meth c ls hmn X hw hl
  have hl : lv_has ls 1 [(0, .ref a0)] := hl
  have hx := X.1.1
  have hb := X.1.2.1
  have hown := X.1.2.2.2.1
  have hts := X.1.2.2.2.2
  have hN := X.2.2.2.2.2.2.1
  have hDW := X.2.2.2.2.2.2.2.1
  have hAO := X.2.2.2.2.2.2.2.2.1
  have hNC := X.2.2.2.2.2.2.2.2.2.1
  unfold f_X7_kind at hf
  refine lv_iconst (v := (1 : Int32)) hx hb dX7_kind_0 (by decide) ?_
  exact zw_iret X hw hf (Nat.le_of_ble_eq_true rfl) (Nat.le_of_ble_eq_true rfl) dX7_kind_1
set_option maxHeartbeats 4000000 in
theorem mt_X8_kind (l : Launch) (D : va_G) (A : Nat → Prop) (h : zT) (a0 : Nat) (res : Int32 × zT) (hf : f_X8_kind h a0 = some res) : Met l yX8_kind (ws_ yX8_kind cX8_kind 1 (Option.some FieldType.int)) rm_X8_kind (zPW D A (zEv A) h [.ref a0]) (zQW D A (some (.int res.1)) res.2) 0 0 A := by
  refine zmt (zEv_ok A) (by decide) (Nat.le_of_ble_eq_true rfl) ?_
  intro p e s m below meth c ls hmn X hw hl
  have hl : lv_has ls 1 [(0, .ref a0)] := hl
  have hx := X.1.1
  have hb := X.1.2.1
  have hown := X.1.2.2.2.1
  have hts := X.1.2.2.2.2
  have hN := X.2.2.2.2.2.2.1
  have hDW := X.2.2.2.2.2.2.2.1
  have hAO := X.2.2.2.2.2.2.2.2.1
  have hNC := X.2.2.2.2.2.2.2.2.2.1
  unfold f_X8_kind at hf
  refine lv_iconst (v := (2 : Int32)) hx hb dX8_kind_0 (by decide) ?_
  exact zw_iret X hw hf (Nat.le_of_ble_eq_true rfl) (Nat.le_of_ble_eq_true rfl) dX8_kind_1
set_option maxHeartbeats 4000000 in
theorem mt_X9_kind (l : Launch) (D : va_G) (A : Nat → Prop) (h : zT) (a0 : Nat) (res : Int32 × zT) (hf : f_X9_kind h a0 = some res) : Met l yX9_kind (ws_ yX9_kind cX9_kind 1 (Option.some FieldType.int)) rm_X9_kind (zPW D A (zEv A) h [.ref a0]) (zQW D A (some (.int res.1)) res.2) 0 0 A := by
  refine zmt (zEv_ok A) (by decide) (Nat.le_of_ble_eq_true rfl) ?_
  intro p e s m below meth c ls hmn X hw hl
  have hl : lv_has ls 1 [(0, .ref a0)] := hl
  have hx := X.1.1
  have hb := X.1.2.1
  have hown := X.1.2.2.2.1
  have hts := X.1.2.2.2.2
  have hN := X.2.2.2.2.2.2.1
  have hDW := X.2.2.2.2.2.2.2.1
  have hAO := X.2.2.2.2.2.2.2.2.1
  have hNC := X.2.2.2.2.2.2.2.2.2.1
  unfold f_X9_kind at hf
  refine lv_aload_n hx hb dX9_kind_0 rfl (lv_at hl 0 rfl) ?_
  refine zw_kS hf (fun ci fs hci hfs hf => ?_)
  obtain ⟨qq, hqq⟩ := zclS ci hci
  refine zw_goI (rest := []) hw hf (fun r hr => va_runSU (As := []) (rest := []) (X.2.2.2.1.1 ci qq hqq).2 X.1 (mt_X7_kind l D A h a0 r hr) (va_cwSU 0 hts (zlw_SU q653 q1790 q591 q638 q91 q639) rfl rfl rfl (by decide +kernel) ⟨Nat.le_of_ble_eq_true rfl, Nat.le_of_ble_eq_true rfl⟩) (zpreV X hw hfs hqq _) rfl rfl hl.1 rfl (lv_room (Nat.le_of_ble_eq_true rfl)) dX9_kind_1 ⟨Nat.le_of_ble_eq_true rfl, Nat.le_of_ble_eq_true rfl⟩) (fun r1 H locs hf hw => ?_)
  refine lv_iconst (v := (2 : Int32)) hx hb dX9_kind_4 (by decide) ?_
  refine lv_iadd hx hb dX9_kind_5 ?_
  exact zw_iret X hw hf (Nat.le_of_ble_eq_true rfl) (Nat.le_of_ble_eq_true rfl) dX9_kind_6
set_option maxHeartbeats 4000000 in
theorem mt_X10_kind (l : Launch) (D : va_G) (A : Nat → Prop) (h : zT) (a0 : Nat) (res : Int32 × zT) (hf : f_X10_kind h a0 = some res) : Met l yX10_kind (ws_ yX10_kind cX10_kind 1 (Option.some FieldType.int)) rm_X10_kind (zPW D A (zEv A) h [.ref a0]) (zQW D A (some (.int res.1)) res.2) 0 0 A := by
  refine zmt (zEv_ok A) (by decide) (Nat.le_of_ble_eq_true rfl) ?_
  intro p e s m below meth c ls hmn X hw hl
  have hl : lv_has ls 1 [(0, .ref a0)] := hl
  have hx := X.1.1
  have hb := X.1.2.1
  have hown := X.1.2.2.2.1
  have hts := X.1.2.2.2.2
  have hN := X.2.2.2.2.2.2.1
  have hDW := X.2.2.2.2.2.2.2.1
  have hAO := X.2.2.2.2.2.2.2.2.1
  have hNC := X.2.2.2.2.2.2.2.2.2.1
  unfold f_X10_kind at hf
  refine lv_aload_n hx hb dX10_kind_0 rfl (lv_at hl 0 rfl) ?_
  refine zw_kS hf (fun ci fs hci hfs hf => ?_)
  obtain ⟨qq, hqq⟩ := zclS ci hci
  refine zw_goI (rest := []) hw hf (fun r hr => va_runSU (As := []) (rest := []) (X.2.2.2.1.1 ci qq hqq).2 X.1 (mt_X8_kind l D A h a0 r hr) (va_cwSU 0 hts (zlw_SU q643 q1789 q603 q644 q92 q645) rfl rfl rfl (by decide +kernel) ⟨Nat.le_of_ble_eq_true rfl, Nat.le_of_ble_eq_true rfl⟩) (zpreV X hw hfs hqq _) rfl rfl hl.1 rfl (lv_room (Nat.le_of_ble_eq_true rfl)) dX10_kind_1 ⟨Nat.le_of_ble_eq_true rfl, Nat.le_of_ble_eq_true rfl⟩) (fun r1 H locs hf hw => ?_)
  refine lv_iconst (v := (2 : Int32)) hx hb dX10_kind_4 (by decide) ?_
  refine lv_iadd hx hb dX10_kind_5 ?_
  exact zw_iret X hw hf (Nat.le_of_ble_eq_true rfl) (Nat.le_of_ble_eq_true rfl) dX10_kind_6
set_option maxHeartbeats 4000000 in
theorem mt_X11_kind (l : Launch) (D : va_G) (A : Nat → Prop) (h : zT) (a0 : Nat) (res : Int32 × zT) (hf : f_X11_kind h a0 = some res) : Met l yX11_kind (ws_ yX11_kind cX11_kind 1 (Option.some FieldType.int)) rm_X11_kind (zPW D A (zEv A) h [.ref a0]) (zQW D A (some (.int res.1)) res.2) 0 0 A := by
  refine zmt (zEv_ok A) (by decide) (Nat.le_of_ble_eq_true rfl) ?_
  intro p e s m below meth c ls hmn X hw hl
  have hl : lv_has ls 1 [(0, .ref a0)] := hl
  have hx := X.1.1
  have hb := X.1.2.1
  have hown := X.1.2.2.2.1
  have hts := X.1.2.2.2.2
  have hN := X.2.2.2.2.2.2.1
  have hDW := X.2.2.2.2.2.2.2.1
  have hAO := X.2.2.2.2.2.2.2.2.1
  have hNC := X.2.2.2.2.2.2.2.2.2.1
  unfold f_X11_kind at hf
  refine lv_iconst (v := (5 : Int32)) hx hb dX11_kind_0 (by decide) ?_
  exact zw_iret X hw hf (Nat.le_of_ble_eq_true rfl) (Nat.le_of_ble_eq_true rfl) dX11_kind_1
set_option maxHeartbeats 4000000 in
theorem mt_X6_init (l : Launch) (D : va_G) (A : Nat → Prop) (h : zT) (a0 : Nat) (res : zT) (hf : f_X6_init h a0 = some res) : Met l yX6_init (ws_ yX6_init cX6_init 1 (Option.none : Option FieldType)) rm_X6_init (zPW D A (zEv A) h [.ref a0]) (zQW D A none res) 0 0 A := by
  refine zmt (zEv_ok A) (by decide) (Nat.le_of_ble_eq_true rfl) ?_
  intro p e s m below meth c ls hmn X hw hl
  have hl : lv_has ls 1 [(0, .ref a0)] := hl
  have hx := X.1.1
  have hb := X.1.2.1
  have hown := X.1.2.2.2.1
  have hts := X.1.2.2.2.2
  have hN := X.2.2.2.2.2.2.1
  have hDW := X.2.2.2.2.2.2.2.1
  have hAO := X.2.2.2.2.2.2.2.2.1
  have hNC := X.2.2.2.2.2.2.2.2.2.1
  have hin : meth.name = "<init>" := hmn
  unfold f_X6_init at hf
  refine lv_aload_n hx hb dX6_init_0 rfl (lv_at hl 0 rfl) ?_
  refine W.objInit hx hb hown (hts _ q542) (hts _ q114) (hts _ q115) rfl (by rw [X.1.2.2.1]; exact hl.1) rfl dX6_init_1 (Nat.le_of_ble_eq_true rfl) (Nat.le_of_ble_eq_true rfl) ?_
  refine W.eq (g2 := F0 m 4 ls []) rfl ?_
  refine lv_aload_n hx hb dX6_init_4 rfl (lv_at hl 0 rfl) ?_
  refine lv_bipush (v := (16 : Int32)) hx hb dX6_init_5 (by decide) ?_
  refine zw_put X hw fs_X6_3 q551 rfl rfl rfl rfl hf dX6_init_7 (fun h1 H locs hf hw => ?_)
  refine lv_aload_n hx hb dX6_init_10 rfl (lv_at hl 0 rfl) ?_
  refine lv_bipush (v := (50 : Int32)) hx hb dX6_init_11 (by decide) ?_
  refine zw_put X hw fs_X6_4 q554 rfl rfl rfl rfl hf dX6_init_13 (fun h2 H locs hf hw => ?_)
  exact zw_vret X hw hf (Nat.le_of_ble_eq_true rfl) (Nat.le_of_ble_eq_true rfl) dX6_init_16
set_option maxHeartbeats 4000000 in
theorem mt_X6_another (l : Launch) (D : va_G) (A : Nat → Prop) (h : zT) (a0 : Nat) (res : Nat × zT) (hf : f_X6_another h a0 = some res) : Met l yX6_another (ws_ yX6_another cX6_another 1 (Option.some (FieldType.object "StoneSheets$Rubbing"))) rm_X6_another (zPW D A (zEv A) h [.ref a0]) (zQW D A (some (.ref res.1)) res.2) 1 5 A := by
  refine zmt (zEv_ok A) (by decide) (Nat.le_of_ble_eq_true rfl) ?_
  intro p e s m below meth c ls hmn X hw hl
  have hl : lv_has ls 1 [(0, .ref a0)] := hl
  have hx := X.1.1
  have hb := X.1.2.1
  have hown := X.1.2.2.2.1
  have hts := X.1.2.2.2.2
  have hN := X.2.2.2.2.2.2.1
  have hDW := X.2.2.2.2.2.2.2.1
  have hAO := X.2.2.2.2.2.2.2.2.1
  have hNC := X.2.2.2.2.2.2.2.2.2.1
  unfold f_X6_another at hf
  refine zw_new (N := 5) X hw zcf6 q1033 q617 q90 zdf6 hf (Nat.le_of_ble_eq_true rfl) (Nat.le_of_ble_eq_true rfl) dX6_another_0 (fun r1 H hf hw => ?_)
  refine lv_dup hx hb dX6_another_3 rfl ?_
  refine zw_goV (rest := [.ref r1.1]) hw hf (fun r hr => va_runI (As := []) (rest := [.ref r1.1]) X.1 (mt_X6_init l D A r1.2 r1.1 r hr) (cwI 0 hts (lw_meth q541) rfl rfl rfl (hts _ q90) (hts _ q1034) (hts _ q540) rfl cd_X6_init ⟨Nat.le_of_ble_eq_true rfl, Nat.le_of_ble_eq_true rfl⟩) (zpreS X hw _) rfl rfl hl.1 rfl (lv_room (Nat.le_of_ble_eq_true rfl)) dX6_another_4 ⟨Nat.le_of_ble_eq_true rfl, Nat.le_of_ble_eq_true rfl⟩) (fun r2 H locs hf hw => ?_)
  exact zw_aretR X (Or.inl ⟨_, rfl⟩) hw hf (Nat.le_of_ble_eq_true rfl) (Nat.le_of_ble_eq_true rfl) dX6_another_7
set_option maxHeartbeats 4000000 in
theorem mt_X7_init (l : Launch) (D : va_G) (A : Nat → Prop) (h : zT) (a0 : Nat) (res : zT) (hf : f_X7_init h a0 = some res) : Met l yX7_init (ws_ yX7_init cX7_init 1 (Option.none : Option FieldType)) rm_X7_init (zPW D A (zEv A) h [.ref a0]) (zQW D A none res) 0 0 A := by
  refine zmt (zEv_ok A) (by decide) (Nat.le_of_ble_eq_true rfl) ?_
  intro p e s m below meth c ls hmn X hw hl
  have hl : lv_has ls 1 [(0, .ref a0)] := hl
  have hx := X.1.1
  have hb := X.1.2.1
  have hown := X.1.2.2.2.1
  have hts := X.1.2.2.2.2
  have hN := X.2.2.2.2.2.2.1
  have hDW := X.2.2.2.2.2.2.2.1
  have hAO := X.2.2.2.2.2.2.2.2.1
  have hNC := X.2.2.2.2.2.2.2.2.2.1
  have hin : meth.name = "<init>" := hmn
  unfold f_X7_init at hf
  refine lv_aload_n hx hb dX7_init_0 rfl (lv_at hl 0 rfl) ?_
  refine zw_goV (rest := []) hw hf (fun r hr => va_runIN (As := []) (rest := []) X.1 (mt_X6_init l D A h a0 r hr) ⟨va_cnB 0 hts (lw_meth q541) rfl rfl rfl (hN _ nq539) (hts _ q90) cd_X6_init ⟨Nat.le_of_ble_eq_true rfl, Nat.le_of_ble_eq_true rfl⟩, rfl, hts _ q540⟩ (zpreS X hw _) rfl rfl hl.1 rfl (lv_room (Nat.le_of_ble_eq_true rfl)) dX7_init_1 ⟨Nat.le_of_ble_eq_true rfl, Nat.le_of_ble_eq_true rfl⟩) (fun r1 H locs hf hw => ?_)
  exact zw_vret X hw hf (Nat.le_of_ble_eq_true rfl) (Nat.le_of_ble_eq_true rfl) dX7_init_4
set_option maxHeartbeats 4000000 in
theorem mt_X7_another (l : Launch) (D : va_G) (A : Nat → Prop) (h : zT) (a0 : Nat) (res : Nat × zT) (hf : f_X7_another h a0 = some res) : Met l yX7_another (ws_ yX7_another cX7_another 1 (Option.some (FieldType.object "StoneSheets$Rubbing"))) rm_X7_another (zPW D A (zEv A) h [.ref a0]) (zQW D A (some (.ref res.1)) res.2) 1 5 A := by
  refine zmt (zEv_ok A) (by decide) (Nat.le_of_ble_eq_true rfl) ?_
  intro p e s m below meth c ls hmn X hw hl
  have hl : lv_has ls 1 [(0, .ref a0)] := hl
  have hx := X.1.1
  have hb := X.1.2.1
  have hown := X.1.2.2.2.1
  have hts := X.1.2.2.2.2
  have hN := X.2.2.2.2.2.2.1
  have hDW := X.2.2.2.2.2.2.2.1
  have hAO := X.2.2.2.2.2.2.2.2.1
  have hNC := X.2.2.2.2.2.2.2.2.2.1
  unfold f_X7_another at hf
  refine zw_new (N := 5) X hw zcf7 q1010 q535 q91 zdf7 hf (Nat.le_of_ble_eq_true rfl) (Nat.le_of_ble_eq_true rfl) dX7_another_0 (fun r1 H hf hw => ?_)
  refine lv_dup hx hb dX7_another_3 rfl ?_
  refine zw_goV (rest := [.ref r1.1]) hw hf (fun r hr => va_runI (As := []) (rest := [.ref r1.1]) X.1 (mt_X7_init l D A r1.2 r1.1 r hr) (cwI 0 hts (lw_meth q538) rfl rfl rfl (hts _ q91) (hts _ q1011) (hts _ q537) rfl cd_X7_init ⟨Nat.le_of_ble_eq_true rfl, Nat.le_of_ble_eq_true rfl⟩) (zpreS X hw _) rfl rfl hl.1 rfl (lv_room (Nat.le_of_ble_eq_true rfl)) dX7_another_4 ⟨Nat.le_of_ble_eq_true rfl, Nat.le_of_ble_eq_true rfl⟩) (fun r2 H locs hf hw => ?_)
  exact zw_aretR X (Or.inl ⟨_, rfl⟩) hw hf (Nat.le_of_ble_eq_true rfl) (Nat.le_of_ble_eq_true rfl) dX7_another_7
set_option maxHeartbeats 4000000 in
theorem mt_X8_init (l : Launch) (D : va_G) (A : Nat → Prop) (h : zT) (a0 : Nat) (res : zT) (hf : f_X8_init h a0 = some res) : Met l yX8_init (ws_ yX8_init cX8_init 1 (Option.none : Option FieldType)) rm_X8_init (zPW D A (zEv A) h [.ref a0]) (zQW D A none res) 0 0 A := by
  refine zmt (zEv_ok A) (by decide) (Nat.le_of_ble_eq_true rfl) ?_
  intro p e s m below meth c ls hmn X hw hl
  have hl : lv_has ls 1 [(0, .ref a0)] := hl
  have hx := X.1.1
  have hb := X.1.2.1
  have hown := X.1.2.2.2.1
  have hts := X.1.2.2.2.2
  have hN := X.2.2.2.2.2.2.1
  have hDW := X.2.2.2.2.2.2.2.1
  have hAO := X.2.2.2.2.2.2.2.2.1
  have hNC := X.2.2.2.2.2.2.2.2.2.1
  have hin : meth.name = "<init>" := hmn
  unfold f_X8_init at hf
  refine lv_aload_n hx hb dX8_init_0 rfl (lv_at hl 0 rfl) ?_
  refine zw_goV (rest := []) hw hf (fun r hr => va_runIN (As := []) (rest := []) X.1 (mt_X6_init l D A h a0 r hr) ⟨va_cnB 0 hts (lw_meth q541) rfl rfl rfl (hN _ nq573) (hts _ q90) cd_X6_init ⟨Nat.le_of_ble_eq_true rfl, Nat.le_of_ble_eq_true rfl⟩, rfl, hts _ q540⟩ (zpreS X hw _) rfl rfl hl.1 rfl (lv_room (Nat.le_of_ble_eq_true rfl)) dX8_init_1 ⟨Nat.le_of_ble_eq_true rfl, Nat.le_of_ble_eq_true rfl⟩) (fun r1 H locs hf hw => ?_)
  exact zw_vret X hw hf (Nat.le_of_ble_eq_true rfl) (Nat.le_of_ble_eq_true rfl) dX8_init_4
set_option maxHeartbeats 4000000 in
theorem mt_X8_another (l : Launch) (D : va_G) (A : Nat → Prop) (h : zT) (a0 : Nat) (res : Nat × zT) (hf : f_X8_another h a0 = some res) : Met l yX8_another (ws_ yX8_another cX8_another 1 (Option.some (FieldType.object "StoneSheets$Rubbing"))) rm_X8_another (zPW D A (zEv A) h [.ref a0]) (zQW D A (some (.ref res.1)) res.2) 1 5 A := by
  refine zmt (zEv_ok A) (by decide) (Nat.le_of_ble_eq_true rfl) ?_
  intro p e s m below meth c ls hmn X hw hl
  have hl : lv_has ls 1 [(0, .ref a0)] := hl
  have hx := X.1.1
  have hb := X.1.2.1
  have hown := X.1.2.2.2.1
  have hts := X.1.2.2.2.2
  have hN := X.2.2.2.2.2.2.1
  have hDW := X.2.2.2.2.2.2.2.1
  have hAO := X.2.2.2.2.2.2.2.2.1
  have hNC := X.2.2.2.2.2.2.2.2.2.1
  unfold f_X8_another at hf
  refine zw_new (N := 5) X hw zcf8 q1020 q569 q92 zdf8 hf (Nat.le_of_ble_eq_true rfl) (Nat.le_of_ble_eq_true rfl) dX8_another_0 (fun r1 H hf hw => ?_)
  refine lv_dup hx hb dX8_another_3 rfl ?_
  refine zw_goV (rest := [.ref r1.1]) hw hf (fun r hr => va_runI (As := []) (rest := [.ref r1.1]) X.1 (mt_X8_init l D A r1.2 r1.1 r hr) (cwI 0 hts (lw_meth q572) rfl rfl rfl (hts _ q92) (hts _ q1021) (hts _ q571) rfl cd_X8_init ⟨Nat.le_of_ble_eq_true rfl, Nat.le_of_ble_eq_true rfl⟩) (zpreS X hw _) rfl rfl hl.1 rfl (lv_room (Nat.le_of_ble_eq_true rfl)) dX8_another_4 ⟨Nat.le_of_ble_eq_true rfl, Nat.le_of_ble_eq_true rfl⟩) (fun r2 H locs hf hw => ?_)
  exact zw_aretR X (Or.inl ⟨_, rfl⟩) hw hf (Nat.le_of_ble_eq_true rfl) (Nat.le_of_ble_eq_true rfl) dX8_another_7
set_option maxHeartbeats 4000000 in
theorem mt_X9_init (l : Launch) (D : va_G) (A : Nat → Prop) (h : zT) (a0 : Nat) (res : zT) (hf : f_X9_init h a0 = some res) : Met l yX9_init (ws_ yX9_init cX9_init 1 (Option.none : Option FieldType)) rm_X9_init (zPW D A (zEv A) h [.ref a0]) (zQW D A none res) 0 0 A := by
  refine zmt (zEv_ok A) (by decide) (Nat.le_of_ble_eq_true rfl) ?_
  intro p e s m below meth c ls hmn X hw hl
  have hl : lv_has ls 1 [(0, .ref a0)] := hl
  have hx := X.1.1
  have hb := X.1.2.1
  have hown := X.1.2.2.2.1
  have hts := X.1.2.2.2.2
  have hN := X.2.2.2.2.2.2.1
  have hDW := X.2.2.2.2.2.2.2.1
  have hAO := X.2.2.2.2.2.2.2.2.1
  have hNC := X.2.2.2.2.2.2.2.2.2.1
  have hin : meth.name = "<init>" := hmn
  unfold f_X9_init at hf
  refine lv_aload_n hx hb dX9_init_0 rfl (lv_at hl 0 rfl) ?_
  refine zw_goV (rest := []) hw hf (fun r hr => va_runIN (As := []) (rest := []) X.1 (mt_X7_init l D A h a0 r hr) ⟨va_cnB 0 hts (lw_meth q538) rfl rfl rfl (hN _ nq585) (hts _ q91) cd_X7_init ⟨Nat.le_of_ble_eq_true rfl, Nat.le_of_ble_eq_true rfl⟩, rfl, hts _ q537⟩ (zpreS X hw _) rfl rfl hl.1 rfl (lv_room (Nat.le_of_ble_eq_true rfl)) dX9_init_1 ⟨Nat.le_of_ble_eq_true rfl, Nat.le_of_ble_eq_true rfl⟩) (fun r1 H locs hf hw => ?_)
  exact zw_vret X hw hf (Nat.le_of_ble_eq_true rfl) (Nat.le_of_ble_eq_true rfl) dX9_init_4
set_option maxHeartbeats 4000000 in
theorem mt_X9_another (l : Launch) (D : va_G) (A : Nat → Prop) (h : zT) (a0 : Nat) (res : Nat × zT) (hf : f_X9_another h a0 = some res) : Met l yX9_another (ws_ yX9_another cX9_another 1 (Option.some (FieldType.object "StoneSheets$Rubbing"))) rm_X9_another (zPW D A (zEv A) h [.ref a0]) (zQW D A (some (.ref res.1)) res.2) 1 5 A := by
  refine zmt (zEv_ok A) (by decide) (Nat.le_of_ble_eq_true rfl) ?_
  intro p e s m below meth c ls hmn X hw hl
  have hl : lv_has ls 1 [(0, .ref a0)] := hl
  have hx := X.1.1
  have hb := X.1.2.1
  have hown := X.1.2.2.2.1
  have hts := X.1.2.2.2.2
  have hN := X.2.2.2.2.2.2.1
  have hDW := X.2.2.2.2.2.2.2.1
  have hAO := X.2.2.2.2.2.2.2.2.1
  have hNC := X.2.2.2.2.2.2.2.2.2.1
  unfold f_X9_another at hf
  refine zw_new (N := 5) X hw zcf9 q1030 q581 q93 zdf9 hf (Nat.le_of_ble_eq_true rfl) (Nat.le_of_ble_eq_true rfl) dX9_another_0 (fun r1 H hf hw => ?_)
  refine lv_dup hx hb dX9_another_3 rfl ?_
  refine zw_goV (rest := [.ref r1.1]) hw hf (fun r hr => va_runI (As := []) (rest := [.ref r1.1]) X.1 (mt_X9_init l D A r1.2 r1.1 r hr) (cwI 0 hts (lw_meth q584) rfl rfl rfl (hts _ q93) (hts _ q1031) (hts _ q583) rfl cd_X9_init ⟨Nat.le_of_ble_eq_true rfl, Nat.le_of_ble_eq_true rfl⟩) (zpreS X hw _) rfl rfl hl.1 rfl (lv_room (Nat.le_of_ble_eq_true rfl)) dX9_another_4 ⟨Nat.le_of_ble_eq_true rfl, Nat.le_of_ble_eq_true rfl⟩) (fun r2 H locs hf hw => ?_)
  exact zw_aretR X (Or.inl ⟨_, rfl⟩) hw hf (Nat.le_of_ble_eq_true rfl) (Nat.le_of_ble_eq_true rfl) dX9_another_7
set_option maxHeartbeats 4000000 in
theorem mt_X10_init (l : Launch) (D : va_G) (A : Nat → Prop) (h : zT) (a0 : Nat) (res : zT) (hf : f_X10_init h a0 = some res) : Met l yX10_init (ws_ yX10_init cX10_init 1 (Option.none : Option FieldType)) rm_X10_init (zPW D A (zEv A) h [.ref a0]) (zQW D A none res) 0 0 A := by
  refine zmt (zEv_ok A) (by decide) (Nat.le_of_ble_eq_true rfl) ?_
  intro p e s m below meth c ls hmn X hw hl
  have hl : lv_has ls 1 [(0, .ref a0)] := hl
  have hx := X.1.1
  have hb := X.1.2.1
  have hown := X.1.2.2.2.1
  have hts := X.1.2.2.2.2
  have hN := X.2.2.2.2.2.2.1
  have hDW := X.2.2.2.2.2.2.2.1
  have hAO := X.2.2.2.2.2.2.2.2.1
  have hNC := X.2.2.2.2.2.2.2.2.2.1
  have hin : meth.name = "<init>" := hmn
  unfold f_X10_init at hf
  refine lv_aload_n hx hb dX10_init_0 rfl (lv_at hl 0 rfl) ?_
  refine zw_goV (rest := []) hw hf (fun r hr => va_runIN (As := []) (rest := []) X.1 (mt_X8_init l D A h a0 r hr) ⟨va_cnB 0 hts (lw_meth q572) rfl rfl rfl (hN _ nq597) (hts _ q92) cd_X8_init ⟨Nat.le_of_ble_eq_true rfl, Nat.le_of_ble_eq_true rfl⟩, rfl, hts _ q571⟩ (zpreS X hw _) rfl rfl hl.1 rfl (lv_room (Nat.le_of_ble_eq_true rfl)) dX10_init_1 ⟨Nat.le_of_ble_eq_true rfl, Nat.le_of_ble_eq_true rfl⟩) (fun r1 H locs hf hw => ?_)
  exact zw_vret X hw hf (Nat.le_of_ble_eq_true rfl) (Nat.le_of_ble_eq_true rfl) dX10_init_4
set_option maxHeartbeats 4000000 in
theorem mt_X10_another (l : Launch) (D : va_G) (A : Nat → Prop) (h : zT) (a0 : Nat) (res : Nat × zT) (hf : f_X10_another h a0 = some res) : Met l yX10_another (ws_ yX10_another cX10_another 1 (Option.some (FieldType.object "StoneSheets$Rubbing"))) rm_X10_another (zPW D A (zEv A) h [.ref a0]) (zQW D A (some (.ref res.1)) res.2) 1 5 A := by
  refine zmt (zEv_ok A) (by decide) (Nat.le_of_ble_eq_true rfl) ?_
  intro p e s m below meth c ls hmn X hw hl
  have hl : lv_has ls 1 [(0, .ref a0)] := hl
  have hx := X.1.1
  have hb := X.1.2.1
  have hown := X.1.2.2.2.1
  have hts := X.1.2.2.2.2
  have hN := X.2.2.2.2.2.2.1
  have hDW := X.2.2.2.2.2.2.2.1
  have hAO := X.2.2.2.2.2.2.2.2.1
  have hNC := X.2.2.2.2.2.2.2.2.2.1
  unfold f_X10_another at hf
  refine zw_new (N := 5) X hw zcf10 q1015 q593 q94 zdf10 hf (Nat.le_of_ble_eq_true rfl) (Nat.le_of_ble_eq_true rfl) dX10_another_0 (fun r1 H hf hw => ?_)
  refine lv_dup hx hb dX10_another_3 rfl ?_
  refine zw_goV (rest := [.ref r1.1]) hw hf (fun r hr => va_runI (As := []) (rest := [.ref r1.1]) X.1 (mt_X10_init l D A r1.2 r1.1 r hr) (cwI 0 hts (lw_meth q596) rfl rfl rfl (hts _ q94) (hts _ q1016) (hts _ q595) rfl cd_X10_init ⟨Nat.le_of_ble_eq_true rfl, Nat.le_of_ble_eq_true rfl⟩) (zpreS X hw _) rfl rfl hl.1 rfl (lv_room (Nat.le_of_ble_eq_true rfl)) dX10_another_4 ⟨Nat.le_of_ble_eq_true rfl, Nat.le_of_ble_eq_true rfl⟩) (fun r2 H locs hf hw => ?_)
  exact zw_aretR X (Or.inl ⟨_, rfl⟩) hw hf (Nat.le_of_ble_eq_true rfl) (Nat.le_of_ble_eq_true rfl) dX10_another_7
set_option maxHeartbeats 4000000 in
theorem mt_X11_init (l : Launch) (D : va_G) (A : Nat → Prop) (h : zT) (a0 : Nat) (res : zT) (hf : f_X11_init h a0 = some res) : Met l yX11_init (ws_ yX11_init cX11_init 1 (Option.none : Option FieldType)) rm_X11_init (zPW D A (zEv A) h [.ref a0]) (zQW D A none res) 0 0 A := by
  refine zmt (zEv_ok A) (by decide) (Nat.le_of_ble_eq_true rfl) ?_
  intro p e s m below meth c ls hmn X hw hl
  have hl : lv_has ls 1 [(0, .ref a0)] := hl
  have hx := X.1.1
  have hb := X.1.2.1
  have hown := X.1.2.2.2.1
  have hts := X.1.2.2.2.2
  have hN := X.2.2.2.2.2.2.1
  have hDW := X.2.2.2.2.2.2.2.1
  have hAO := X.2.2.2.2.2.2.2.2.1
  have hNC := X.2.2.2.2.2.2.2.2.2.1
  have hin : meth.name = "<init>" := hmn
  unfold f_X11_init at hf
  refine lv_aload_n hx hb dX11_init_0 rfl (lv_at hl 0 rfl) ?_
  refine zw_goV (rest := []) hw hf (fun r hr => va_runIN (As := []) (rest := []) X.1 (mt_X6_init l D A h a0 r hr) ⟨va_cnB 0 hts (lw_meth q541) rfl rfl rfl (hN _ nq609) (hts _ q90) cd_X6_init ⟨Nat.le_of_ble_eq_true rfl, Nat.le_of_ble_eq_true rfl⟩, rfl, hts _ q540⟩ (zpreS X hw _) rfl rfl hl.1 rfl (lv_room (Nat.le_of_ble_eq_true rfl)) dX11_init_1 ⟨Nat.le_of_ble_eq_true rfl, Nat.le_of_ble_eq_true rfl⟩) (fun r1 H locs hf hw => ?_)
  exact zw_vret X hw hf (Nat.le_of_ble_eq_true rfl) (Nat.le_of_ble_eq_true rfl) dX11_init_4
set_option maxHeartbeats 4000000 in
theorem mt_X11_another (l : Launch) (D : va_G) (A : Nat → Prop) (h : zT) (a0 : Nat) (res : Nat × zT) (hf : f_X11_another h a0 = some res) : Met l yX11_another (ws_ yX11_another cX11_another 1 (Option.some (FieldType.object "StoneSheets$Rubbing"))) rm_X11_another (zPW D A (zEv A) h [.ref a0]) (zQW D A (some (.ref res.1)) res.2) 1 5 A := by
  refine zmt (zEv_ok A) (by decide) (Nat.le_of_ble_eq_true rfl) ?_
  intro p e s m below meth c ls hmn X hw hl
  have hl : lv_has ls 1 [(0, .ref a0)] := hl
  have hx := X.1.1
  have hb := X.1.2.1
  have hown := X.1.2.2.2.1
  have hts := X.1.2.2.2.2
  have hN := X.2.2.2.2.2.2.1
  have hDW := X.2.2.2.2.2.2.2.1
  have hAO := X.2.2.2.2.2.2.2.2.1
  have hNC := X.2.2.2.2.2.2.2.2.2.1
  unfold f_X11_another at hf
  refine zw_new (N := 5) X hw zcf11 q1025 q605 q95 zdf11 hf (Nat.le_of_ble_eq_true rfl) (Nat.le_of_ble_eq_true rfl) dX11_another_0 (fun r1 H hf hw => ?_)
  refine lv_dup hx hb dX11_another_3 rfl ?_
  refine zw_goV (rest := [.ref r1.1]) hw hf (fun r hr => va_runI (As := []) (rest := [.ref r1.1]) X.1 (mt_X11_init l D A r1.2 r1.1 r hr) (cwI 0 hts (lw_meth q608) rfl rfl rfl (hts _ q95) (hts _ q1026) (hts _ q607) rfl cd_X11_init ⟨Nat.le_of_ble_eq_true rfl, Nat.le_of_ble_eq_true rfl⟩) (zpreS X hw _) rfl rfl hl.1 rfl (lv_room (Nat.le_of_ble_eq_true rfl)) dX11_another_4 ⟨Nat.le_of_ble_eq_true rfl, Nat.le_of_ble_eq_true rfl⟩) (fun r2 H locs hf hw => ?_)
  exact zw_aretR X (Or.inl ⟨_, rfl⟩) hw hf (Nat.le_of_ble_eq_true rfl) (Nat.le_of_ble_eq_true rfl) dX11_another_7
set_option maxHeartbeats 4000000 in
theorem mt_X6_takes (l : Launch) (D : va_G) (A : Nat → Prop) (h : zT) (a0 : Nat) (a1 : Nat) (res : zT) (hf : f_X6_takes h a0 a1 = some res) : Met l yX6_takes (ws_ yX6_takes cX6_takes 2 (Option.none : Option FieldType)) rm_X6_takes (zPW D A (zEv A) h [.ref a0, .ref a1]) (zQW D A none res) 0 0 A := by
  refine zmt (zEv_ok A) (by decide) (Nat.le_of_ble_eq_true rfl) ?_
  intro p e s m below meth c ls hmn X hw hl
  have hl : lv_has ls 2 [(0, .ref a0), (1, .ref a1)] := hl
  have hx := X.1.1
  have hb := X.1.2.1
  have hown := X.1.2.2.2.1
  have hts := X.1.2.2.2.2
  have hN := X.2.2.2.2.2.2.1
  have hDW := X.2.2.2.2.2.2.2.1
  have hAO := X.2.2.2.2.2.2.2.2.1
  have hNC := X.2.2.2.2.2.2.2.2.2.1
  unfold f_X6_takes at hf
  refine lv_aload_n hx hb dX6_takes_0 rfl (lv_at hl 0 rfl) ?_
  refine lv_aload_n hx hb dX6_takes_1 rfl (lv_at hl 1 rfl) ?_
  refine zw_getI X hw fs_X6_0 q543 rfl hf dX6_takes_2 (fun v1 hf => ?_)
  refine zw_put X hw fs_X6_0 q543 rfl rfl rfl rfl hf dX6_takes_5 (fun h2 H locs hf hw => ?_)
  refine lv_aload_n hx hb dX6_takes_8 rfl (lv_at hl 0 rfl) ?_
  refine lv_aload_n hx hb dX6_takes_9 rfl (lv_at hl 1 rfl) ?_
  refine zw_getI X hw fs_X6_1 q547 rfl hf dX6_takes_10 (fun v3 hf => ?_)
  refine zw_put X hw fs_X6_1 q547 rfl rfl rfl rfl hf dX6_takes_13 (fun h4 H locs hf hw => ?_)
  refine lv_aload_n hx hb dX6_takes_16 rfl (lv_at hl 0 rfl) ?_
  refine lv_aload_n hx hb dX6_takes_17 rfl (lv_at hl 1 rfl) ?_
  refine zw_getI X hw fs_X6_2 q549 rfl hf dX6_takes_18 (fun v5 hf => ?_)
  refine zw_bool hf (fun hz hf => ?_)
  refine zw_put X hw fs_X6_2 q549 rfl rfl (zz_nar hz) (zz_fit hz) hf dX6_takes_21 (fun h6 H locs hf hw => ?_)
  refine lv_aload_n hx hb dX6_takes_24 rfl (lv_at hl 0 rfl) ?_
  refine lv_aload_n hx hb dX6_takes_25 rfl (lv_at hl 1 rfl) ?_
  refine zw_getI X hw fs_X6_3 q551 rfl hf dX6_takes_26 (fun v7 hf => ?_)
  refine zw_put X hw fs_X6_3 q551 rfl rfl rfl rfl hf dX6_takes_29 (fun h8 H locs hf hw => ?_)
  refine lv_aload_n hx hb dX6_takes_32 rfl (lv_at hl 0 rfl) ?_
  refine lv_aload_n hx hb dX6_takes_33 rfl (lv_at hl 1 rfl) ?_
  refine zw_getI X hw fs_X6_4 q554 rfl hf dX6_takes_34 (fun v9 hf => ?_)
  refine zw_put X hw fs_X6_4 q554 rfl rfl rfl rfl hf dX6_takes_37 (fun h10 H locs hf hw => ?_)
  exact zw_vret X hw hf (Nat.le_of_ble_eq_true rfl) (Nat.le_of_ble_eq_true rfl) dX6_takes_40
set_option maxHeartbeats 4000000 in
theorem mt_X0_copyRow (l : Launch) (D : va_G) (A : Nat → Prop) (h : zT) (a0 : Nat) (a1 : Nat) (res : zT) (hf : f_X0_copyRow h a0 a1 = some res) : Met l yX0_copyRow (ws_ yX0_copyRow cX0_copyRow 2 (Option.none : Option FieldType)) rm_X0_copyRow (zPW D A (zEv A) h [.ref a0, .ref a1]) (zQW D A none res) 0 0 A := by
  refine zmt (zEv_ok A) (by decide) (Nat.le_of_ble_eq_true rfl) ?_
  intro p e s m below meth c ls hmn X hw hl
  have hl : lv_has ls 2 [(0, .ref a0), (1, .ref a1)] := hl
  have hx := X.1.1
  have hb := X.1.2.1
  have hown := X.1.2.2.2.1
  have hts := X.1.2.2.2.2
  have hN := X.2.2.2.2.2.2.1
  have hDW := X.2.2.2.2.2.2.2.1
  have hAO := X.2.2.2.2.2.2.2.2.1
  have hNC := X.2.2.2.2.2.2.2.2.2.1
  unfold f_X0_copyRow at hf
  refine lv_aload_n hx hb dX0_copyRow_0 rfl (lv_at hl 0 rfl) ?_
  refine lv_iconst (v := (0 : Int32)) hx hb dX0_copyRow_1 (by decide) ?_
  refine lv_aload_n hx hb dX0_copyRow_2 rfl (lv_at hl 1 rfl) ?_
  refine lv_iconst (v := (0 : Int32)) hx hb dX0_copyRow_3 (by decide) ?_
  refine lv_aload_n hx hb dX0_copyRow_4 rfl (lv_at hl 1 rfl) ?_
  refine zw_alen X hw hf dX0_copyRow_5 (fun v1 hf => ?_)
  refine zw_copyI (ty := .int) (rest := []) X hw hl.1 rfl q1039 q1041 q1040 q100 hf (Nat.le_of_ble_eq_true rfl) (by decide) dX0_copyRow_6 (fun h2 H locs hf hw => ?_)
  exact zw_vret X hw hf (Nat.le_of_ble_eq_true rfl) (Nat.le_of_ble_eq_true rfl) dX0_copyRow_9
set_option maxHeartbeats 4000000 in
theorem vd_X1_34 {p : Program} {l : Launch} {e : Env} {R : Room} {s : State} {m : MethodId} {args : Array Value} {below : List Frame} {meth : Method} {c : Code} {H : Heap} {locs : List Loc} {cells slots : Nat} {Q : State → Prop} {D : va_G} {A : Nat → Prop} {cc : ByteArray} {nL : Nat} {ret : Option FieldType} {pc : Nat} {ls : Array Slot} {rest : List Value} {β : Type} {res : β} {K : Int32 × zT → Option β} {st0 : List Value} (h : zT) (b : Nat) (X : zCx p s m args meth c D A (zEv A) cc nL RX1 ret) (hw : zWh D A s H h locs) (hl : ls.size = nL) (hf : (fd_kind h b).bind K = some res) (hRf : 8 ≤ R.frames) (hRl : 200 ≤ R.locals) (hrest : (rest.map fun v => v.category).sum ≤ 8) (hstk : st0 = ([] : List Value).reverse ++ .ref b :: rest) (hdg : decode cc pc = .ok (.invokevirtual 34, 3)) (hc : cells + 0 ≤ R.cells ∧ slots + 0 ≤ R.slots) (kk : ∀ (r : Int32 × zT) (H1 : Heap) (locs1 : List Loc), K r = some res → zWh D A s H1 (r.2) locs1 → W p l e R s m args below meth c H1 locs1 (cells + 0) (slots + 0) Q (F0 m (pc + 3) ls (.int r.1 :: rest))) : W p l e R s m args below meth c H locs cells slots Q (F0 m pc ls st0) := by
  have hts := X.1.2.2.2.2
  have hN := X.2.2.2.2.2.2.1
  have hDW := X.2.2.2.2.2.2.2.1
  obtain ⟨r, h1, hf⟩ := zbd hf
  unfold fd_kind at h1
  obtain ⟨⟨ci, fs⟩, ho, h1⟩ := zbd h1
  have ho := zh_O_eq ho
  dsimp only at h1
  by_cases c6 : ci = 6
  · subst c6
    rw [if_pos rfl] at h1
    exact zw_call (va_runV (C := RX6) (As := []) (rest := rest) X.1 (mt_X6_kind l D A h b r h1) (cwV 0 hts (lw_V q1002 q634 q635 q90 q654) rfl rfl rfl ⟨rfl, cd_X6_kind⟩ ⟨Nat.le_trans (Nat.le_of_ble_eq_true rfl) hRf, Nat.le_trans (Nat.le_of_ble_eq_true rfl) hRl⟩) (zpreV (ci := 6) X hw ho rfl _) rfl rfl hl hstk (lv_room hrest) hdg hc) hw (fun H1 locs1 hw1 => kk r H1 locs1 hf hw1)
  rw [if_neg c6] at h1
  by_cases c7 : ci = 7
  · subst c7
    rw [if_pos rfl] at h1
    exact zw_call (va_runU (C := RX7) (owner := RX6) (x := yX6_kind) (As := []) (rest := rest) X.1 (mt_X7_kind l D A h b r h1) (va_cwO 0 hts (zlw_O q1002 q636 q634 q637 q638 q91 q639) rfl rfl rfl q654 cd_X6_kind ⟨Nat.le_trans (Nat.le_of_ble_eq_true rfl) hRf, Nat.le_trans (Nat.le_of_ble_eq_true rfl) hRl⟩) (zpreV (ci := 7) X hw ho rfl _) rfl rfl hl hstk (lv_room hrest) hdg hc) hw (fun H1 locs1 hw1 => kk r H1 locs1 hf hw1)
  rw [if_neg c7] at h1
  by_cases c8 : ci = 8
  · subst c8
    rw [if_pos rfl] at h1
    exact zw_call (va_runU (C := RX8) (owner := RX6) (x := yX6_kind) (As := []) (rest := rest) X.1 (mt_X8_kind l D A h b r h1) (va_cwO 0 hts (zlw_O q1002 q636 q634 q646 q644 q92 q645) rfl rfl rfl q654 cd_X6_kind ⟨Nat.le_trans (Nat.le_of_ble_eq_true rfl) hRf, Nat.le_trans (Nat.le_of_ble_eq_true rfl) hRl⟩) (zpreV (ci := 8) X hw ho rfl _) rfl rfl hl hstk (lv_room hrest) hdg hc) hw (fun H1 locs1 hw1 => kk r H1 locs1 hf hw1)
  rw [if_neg c8] at h1
  by_cases c9 : ci = 9
  · subst c9
    rw [if_pos rfl] at h1
    exact zw_call (va_runU (C := RX9) (owner := RX6) (x := yX6_kind) (As := []) (rest := rest) X.1 (mt_X9_kind l D A h b r h1) (va_cwO 0 hts (zlw_O q1002 q636 q634 q650 q651 q93 q652) rfl rfl rfl q654 cd_X6_kind ⟨Nat.le_trans (Nat.le_of_ble_eq_true rfl) hRf, Nat.le_trans (Nat.le_of_ble_eq_true rfl) hRl⟩) (zpreV (ci := 9) X hw ho rfl _) rfl rfl hl hstk (lv_room hrest) hdg hc) hw (fun H1 locs1 hw1 => kk r H1 locs1 hf hw1)
  rw [if_neg c9] at h1
  by_cases c10 : ci = 10
  · subst c10
    rw [if_pos rfl] at h1
    exact zw_call (va_runU (C := RX10) (owner := RX6) (x := yX6_kind) (As := []) (rest := rest) X.1 (mt_X10_kind l D A h b r h1) (va_cwO 0 hts (zlw_O q1002 q636 q634 q640 q641 q94 q642) rfl rfl rfl q654 cd_X6_kind ⟨Nat.le_trans (Nat.le_of_ble_eq_true rfl) hRf, Nat.le_trans (Nat.le_of_ble_eq_true rfl) hRl⟩) (zpreV (ci := 10) X hw ho rfl _) rfl rfl hl hstk (lv_room hrest) hdg hc) hw (fun H1 locs1 hw1 => kk r H1 locs1 hf hw1)
  rw [if_neg c10] at h1
  by_cases c11 : ci = 11
  · subst c11
    rw [if_pos rfl] at h1
    exact zw_call (va_runU (C := RX11) (owner := RX6) (x := yX6_kind) (As := []) (rest := rest) X.1 (mt_X11_kind l D A h b r h1) (va_cwO 0 hts (zlw_O q1002 q636 q634 q647 q648 q95 q649) rfl rfl rfl q654 cd_X6_kind ⟨Nat.le_trans (Nat.le_of_ble_eq_true rfl) hRf, Nat.le_trans (Nat.le_of_ble_eq_true rfl) hRl⟩) (zpreV (ci := 11) X hw ho rfl _) rfl rfl hl hstk (lv_room hrest) hdg hc) hw (fun H1 locs1 hw1 => kk r H1 locs1 hf hw1)
  rw [if_neg c11] at h1
  cases h1
set_option maxHeartbeats 4000000 in
theorem vd_X1_38 {p : Program} {l : Launch} {e : Env} {R : Room} {s : State} {m : MethodId} {args : Array Value} {below : List Frame} {meth : Method} {c : Code} {H : Heap} {locs : List Loc} {cells slots : Nat} {Q : State → Prop} {D : va_G} {A : Nat → Prop} {cc : ByteArray} {nL : Nat} {ret : Option FieldType} {pc : Nat} {ls : Array Slot} {rest : List Value} {β : Type} {res : β} {K : Nat × zT → Option β} {st0 : List Value} (h : zT) (b : Nat) (X : zCx p s m args meth c D A (zEv A) cc nL RX1 ret) (hw : zWh D A s H h locs) (hl : ls.size = nL) (hf : (fd_another h b).bind K = some res) (hRf : 8 ≤ R.frames) (hRl : 200 ≤ R.locals) (hrest : (rest.map fun v => v.category).sum ≤ 8) (hstk : st0 = ([] : List Value).reverse ++ .ref b :: rest) (hdg : decode cc pc = .ok (.invokevirtual 38, 3)) (hc : cells + 1 ≤ R.cells ∧ slots + 5 ≤ R.slots) (kk : ∀ (r : Nat × zT) (H1 : Heap) (locs1 : List Loc), K r = some res → zWh D A s H1 (r.2) locs1 → W p l e R s m args below meth c H1 locs1 (cells + 1) (slots + 5) Q (F0 m (pc + 3) ls (.ref r.1 :: rest))) : W p l e R s m args below meth c H locs cells slots Q (F0 m pc ls st0) := by
  have hts := X.1.2.2.2.2
  have hN := X.2.2.2.2.2.2.1
  have hDW := X.2.2.2.2.2.2.2.1
  obtain ⟨r, h1, hf⟩ := zbd hf
  unfold fd_another at h1
  obtain ⟨⟨ci, fs⟩, ho, h1⟩ := zbd h1
  have ho := zh_O_eq ho
  dsimp only at h1
  by_cases c6 : ci = 6
  · subst c6
    rw [if_pos rfl] at h1
    exact zw_call (va_runV (C := RX6) (As := []) (rest := rest) X.1 (mt_X6_another l D A h b r h1) (cwV 0 hts (lw_V q1003 q1004 q1005 q90 q1032) rfl rfl rfl ⟨rfl, cd_X6_another⟩ ⟨Nat.le_trans (Nat.le_of_ble_eq_true rfl) hRf, Nat.le_trans (Nat.le_of_ble_eq_true rfl) hRl⟩) (zpreV (ci := 6) X hw ho rfl _) rfl rfl hl hstk (lv_room hrest) hdg hc) hw (fun H1 locs1 hw1 => kk r H1 locs1 hf hw1)
  rw [if_neg c6] at h1
  by_cases c7 : ci = 7
  · subst c7
    rw [if_pos rfl] at h1
    exact zw_call (va_runU (C := RX7) (owner := RX6) (x := yX6_another) (As := []) (rest := rest) X.1 (mt_X7_another l D A h b r h1) (va_cwO 0 hts (zlw_O q1003 q1006 q1004 q1007 q1008 q91 q1009) rfl rfl rfl q1032 cd_X6_another ⟨Nat.le_trans (Nat.le_of_ble_eq_true rfl) hRf, Nat.le_trans (Nat.le_of_ble_eq_true rfl) hRl⟩) (zpreV (ci := 7) X hw ho rfl _) rfl rfl hl hstk (lv_room hrest) hdg hc) hw (fun H1 locs1 hw1 => kk r H1 locs1 hf hw1)
  rw [if_neg c7] at h1
  by_cases c8 : ci = 8
  · subst c8
    rw [if_pos rfl] at h1
    exact zw_call (va_runU (C := RX8) (owner := RX6) (x := yX6_another) (As := []) (rest := rest) X.1 (mt_X8_another l D A h b r h1) (va_cwO 0 hts (zlw_O q1003 q1006 q1004 q1017 q1018 q92 q1019) rfl rfl rfl q1032 cd_X6_another ⟨Nat.le_trans (Nat.le_of_ble_eq_true rfl) hRf, Nat.le_trans (Nat.le_of_ble_eq_true rfl) hRl⟩) (zpreV (ci := 8) X hw ho rfl _) rfl rfl hl hstk (lv_room hrest) hdg hc) hw (fun H1 locs1 hw1 => kk r H1 locs1 hf hw1)
  rw [if_neg c8] at h1
  by_cases c9 : ci = 9
  · subst c9
    rw [if_pos rfl] at h1
    exact zw_call (va_runU (C := RX9) (owner := RX6) (x := yX6_another) (As := []) (rest := rest) X.1 (mt_X9_another l D A h b r h1) (va_cwO 0 hts (zlw_O q1003 q1006 q1004 q1027 q1028 q93 q1029) rfl rfl rfl q1032 cd_X6_another ⟨Nat.le_trans (Nat.le_of_ble_eq_true rfl) hRf, Nat.le_trans (Nat.le_of_ble_eq_true rfl) hRl⟩) (zpreV (ci := 9) X hw ho rfl _) rfl rfl hl hstk (lv_room hrest) hdg hc) hw (fun H1 locs1 hw1 => kk r H1 locs1 hf hw1)
  rw [if_neg c9] at h1
  by_cases c10 : ci = 10
  · subst c10
    rw [if_pos rfl] at h1
    exact zw_call (va_runU (C := RX10) (owner := RX6) (x := yX6_another) (As := []) (rest := rest) X.1 (mt_X10_another l D A h b r h1) (va_cwO 0 hts (zlw_O q1003 q1006 q1004 q1012 q1013 q94 q1014) rfl rfl rfl q1032 cd_X6_another ⟨Nat.le_trans (Nat.le_of_ble_eq_true rfl) hRf, Nat.le_trans (Nat.le_of_ble_eq_true rfl) hRl⟩) (zpreV (ci := 10) X hw ho rfl _) rfl rfl hl hstk (lv_room hrest) hdg hc) hw (fun H1 locs1 hw1 => kk r H1 locs1 hf hw1)
  rw [if_neg c10] at h1
  by_cases c11 : ci = 11
  · subst c11
    rw [if_pos rfl] at h1
    exact zw_call (va_runU (C := RX11) (owner := RX6) (x := yX6_another) (As := []) (rest := rest) X.1 (mt_X11_another l D A h b r h1) (va_cwO 0 hts (zlw_O q1003 q1006 q1004 q1022 q1023 q95 q1024) rfl rfl rfl q1032 cd_X6_another ⟨Nat.le_trans (Nat.le_of_ble_eq_true rfl) hRf, Nat.le_trans (Nat.le_of_ble_eq_true rfl) hRl⟩) (zpreV (ci := 11) X hw ho rfl _) rfl rfl hl hstk (lv_room hrest) hdg hc) hw (fun H1 locs1 hw1 => kk r H1 locs1 hf hw1)
  rw [if_neg c11] at h1
  cases h1
set_option maxHeartbeats 4000000 in
theorem vd_X1_42 {p : Program} {l : Launch} {e : Env} {R : Room} {s : State} {m : MethodId} {args : Array Value} {below : List Frame} {meth : Method} {c : Code} {H : Heap} {locs : List Loc} {cells slots : Nat} {Q : State → Prop} {D : va_G} {A : Nat → Prop} {cc : ByteArray} {nL : Nat} {ret : Option FieldType} {pc : Nat} {ls : Array Slot} {rest : List Value} {β : Type} {res : β} {K : zT → Option β} {st0 : List Value} (h : zT) (b : Nat) (a1 : Nat) (X : zCx p s m args meth c D A (zEv A) cc nL RX1 ret) (hw : zWh D A s H h locs) (hl : ls.size = nL) (hf : (fd_takes h b a1).bind K = some res) (hRf : 8 ≤ R.frames) (hRl : 200 ≤ R.locals) (hrest : (rest.map fun v => v.category).sum ≤ 8) (hstk : st0 = ([.ref a1] : List Value).reverse ++ .ref b :: rest) (hdg : decode cc pc = .ok (.invokevirtual 42, 3)) (hc : cells + 0 ≤ R.cells ∧ slots + 0 ≤ R.slots) (kk : ∀ (r : zT) (H1 : Heap) (locs1 : List Loc), K r = some res → zWh D A s H1 (r) locs1 → W p l e R s m args below meth c H1 locs1 (cells + 0) (slots + 0) Q (F0 m (pc + 3) ls (rest))) : W p l e R s m args below meth c H locs cells slots Q (F0 m pc ls st0) := by
  have hts := X.1.2.2.2.2
  have hN := X.2.2.2.2.2.2.1
  have hDW := X.2.2.2.2.2.2.2.1
  obtain ⟨r, h1, hf⟩ := zbd hf
  unfold fd_takes at h1
  obtain ⟨⟨ci, fs⟩, ho, h1⟩ := zbd h1
  have ho := zh_O_eq ho
  dsimp only at h1
  by_cases c6 : ci = 6
  · subst c6
    rw [if_pos rfl] at h1
    exact zw_call (va_runV (C := RX6) (As := [.ref a1]) (rest := rest) X.1 (mt_X6_takes l D A h b a1 r h1) (cwV 1 hts (lw_V q1035 q834 q835 q90 q842) rfl rfl rfl ⟨rfl, cd_X6_takes⟩ ⟨Nat.le_trans (Nat.le_of_ble_eq_true rfl) hRf, Nat.le_trans (Nat.le_of_ble_eq_true rfl) hRl⟩) (zpreV (ci := 6) X hw ho rfl _) rfl rfl hl hstk (lv_room hrest) hdg hc) hw (fun H1 locs1 hw1 => kk r H1 locs1 hf hw1)
  rw [if_neg c6] at h1
  by_cases c7 : ci = 7
  · subst c7
    rw [if_pos rfl] at h1
    exact zw_call (va_runU (C := RX7) (owner := RX6) (x := yX6_takes) (As := [.ref a1]) (rest := rest) X.1 (mt_X6_takes l D A h b a1 r h1) (va_cwU 1 hts (zlw_U q1035 q836 q837 q834 q90 q842) rfl rfl rfl rfl cd_X6_takes ⟨Nat.le_trans (Nat.le_of_ble_eq_true rfl) hRf, Nat.le_trans (Nat.le_of_ble_eq_true rfl) hRl⟩) (zpreV (ci := 7) X hw ho rfl _) rfl rfl hl hstk (lv_room hrest) hdg hc) hw (fun H1 locs1 hw1 => kk r H1 locs1 hf hw1)
  rw [if_neg c7] at h1
  by_cases c8 : ci = 8
  · subst c8
    rw [if_pos rfl] at h1
    exact zw_call (va_runU (C := RX8) (owner := RX6) (x := yX6_takes) (As := [.ref a1]) (rest := rest) X.1 (mt_X6_takes l D A h b a1 r h1) (va_cwU 1 hts (zlw_U q1035 q836 q839 q834 q90 q842) rfl rfl rfl rfl cd_X6_takes ⟨Nat.le_trans (Nat.le_of_ble_eq_true rfl) hRf, Nat.le_trans (Nat.le_of_ble_eq_true rfl) hRl⟩) (zpreV (ci := 8) X hw ho rfl _) rfl rfl hl hstk (lv_room hrest) hdg hc) hw (fun H1 locs1 hw1 => kk r H1 locs1 hf hw1)
  rw [if_neg c8] at h1
  by_cases c9 : ci = 9
  · subst c9
    rw [if_pos rfl] at h1
    exact zw_call (va_runU (C := RX9) (owner := RX6) (x := yX6_takes) (As := [.ref a1]) (rest := rest) X.1 (mt_X6_takes l D A h b a1 r h1) (va_cwU 1 hts (zlw_U q1035 q836 q841 q834 q90 q842) rfl rfl rfl rfl cd_X6_takes ⟨Nat.le_trans (Nat.le_of_ble_eq_true rfl) hRf, Nat.le_trans (Nat.le_of_ble_eq_true rfl) hRl⟩) (zpreV (ci := 9) X hw ho rfl _) rfl rfl hl hstk (lv_room hrest) hdg hc) hw (fun H1 locs1 hw1 => kk r H1 locs1 hf hw1)
  rw [if_neg c9] at h1
  by_cases c10 : ci = 10
  · subst c10
    rw [if_pos rfl] at h1
    exact zw_call (va_runU (C := RX10) (owner := RX6) (x := yX6_takes) (As := [.ref a1]) (rest := rest) X.1 (mt_X6_takes l D A h b a1 r h1) (va_cwU 1 hts (zlw_U q1035 q836 q838 q834 q90 q842) rfl rfl rfl rfl cd_X6_takes ⟨Nat.le_trans (Nat.le_of_ble_eq_true rfl) hRf, Nat.le_trans (Nat.le_of_ble_eq_true rfl) hRl⟩) (zpreV (ci := 10) X hw ho rfl _) rfl rfl hl hstk (lv_room hrest) hdg hc) hw (fun H1 locs1 hw1 => kk r H1 locs1 hf hw1)
  rw [if_neg c10] at h1
  by_cases c11 : ci = 11
  · subst c11
    rw [if_pos rfl] at h1
    exact zw_call (va_runU (C := RX11) (owner := RX6) (x := yX6_takes) (As := [.ref a1]) (rest := rest) X.1 (mt_X6_takes l D A h b a1 r h1) (va_cwU 1 hts (zlw_U q1035 q836 q840 q834 q90 q842) rfl rfl rfl rfl cd_X6_takes ⟨Nat.le_trans (Nat.le_of_ble_eq_true rfl) hRf, Nat.le_trans (Nat.le_of_ble_eq_true rfl) hRl⟩) (zpreV (ci := 11) X hw ho rfl _) rfl rfl hl hstk (lv_room hrest) hdg hc) hw (fun H1 locs1 hw1 => kk r H1 locs1 hf hw1)
  rw [if_neg c11] at h1
  cases h1
set_option maxHeartbeats 4000000 in
theorem k_X1_copyOf_71 {p : Program} {l : Launch} {e : Env} {s : State} {m : MethodId} {args : Array Value} {below : List Frame} {meth : Method} {c : Code} {D : va_G} {A : Nat → Prop} (X : zCx p s m args meth c D A (zEv A) cX1_copyOf 3 RX1 (Option.none : Option FieldType)) (res : zT) (cb sb : Nat) (hcb : cb + 1 ≤ 10) (hsb : sb + 5 ≤ 50) (K18 : zT → Nat → Nat → Int32 → Option (zT)) (hK18 : ∀ (h : zT) (a0 : Nat) (a1 : Nat) (i2 : Int32) (H : Heap) (locs : List Loc) (ls : Array Slot), K18 h a0 a1 i2 = some res → zWh D A s H h locs → lv_has ls 3 [(0, .ref a0), (1, .ref a1), (2, .int i2)] → W p l e rm_X1_copyOf s m args below meth c H locs (cb + 1) (sb + 5) (MQ below (zQW D A none res) args s 10 50 A) (F0 m 18 ls [])) : ∀ (h : zT) (a0 : Nat) (a1 : Nat) (i2 : Int32) (H : Heap) (locs : List Loc) (ls : Array Slot), f_X1_copyOf_71 K18 h a0 a1 i2 = some res → zWh D A s H h locs → lv_has ls 3 [(0, .ref a0), (1, .ref a1), (2, .int i2)] → W p l e rm_X1_copyOf s m args below meth c H locs (cb + 1) (sb + 5) (MQ below (zQW D A none res) args s 10 50 A) (F0 m 71 ls []) := by
  have hx := X.1.1
  have hb := X.1.2.1
  have hown := X.1.2.2.2.1
  have hts := X.1.2.2.2.2
  have hN := X.2.2.2.2.2.2.1
  have hDW := X.2.2.2.2.2.2.2.1
  have hAO := X.2.2.2.2.2.2.2.2.1
  have hNC := X.2.2.2.2.2.2.2.2.2.1
  intro h a0 a1 i2 H locs ls hf hw hl
  unfold f_X1_copyOf_71 at hf
  refine lv_aload_n hx hb dX1_copyOf_71 rfl (lv_at hl 0 rfl) ?_
  refine zw_getR X hw fs_X1_2 q130 rfl hf dX1_copyOf_72 (fun v1 hf => ?_)
  refine lv_iload_n hx hb dX1_copyOf_75 rfl (lv_at hl 2 rfl) ?_
  refine zw_aaloadR X hw hf dX1_copyOf_76 (fun v2 hf => ?_)
  refine lv_aload_n hx hb dX1_copyOf_77 rfl (lv_at hl 1 rfl) ?_
  refine zw_getR X hw fs_X1_2 q130 rfl hf dX1_copyOf_78 (fun v3 hf => ?_)
  refine lv_iload_n hx hb dX1_copyOf_81 rfl (lv_at hl 2 rfl) ?_
  refine zw_aaloadR X hw hf dX1_copyOf_82 (fun v4 hf => ?_)
  refine vd_X1_42 (rest := []) h v2 v4 X hw hl.1 hf (Nat.le_of_ble_eq_true rfl) (Nat.le_of_ble_eq_true rfl) (Nat.le_of_ble_eq_true rfl) rfl dX1_copyOf_83 ⟨by show _ ≤ (10 : Nat); omega, by show _ ≤ (50 : Nat); omega⟩ (fun r5 H locs hf hw => ?_)
  refine zw_nmS hf (fun v6 ev6 hf => ?_)
  refine lv_iinc (k := 2) (v := v6) (lv' := [(2, .int v6), (0, .ref a0), (1, .ref a1)]) hx hb dX1_copyOf_86 hl rfl (by rw [ev6]; rfl) (by decide) rfl (fun ls hl => ?_)
  refine lv_goto (tgt := 18) hx hb dX1_copyOf_89 (by decide) ?_
  refine W.widen (k := cb + 1) (n := sb + 5) (by omega) (by omega) ?_
  exact hK18 r5 a0 a1 v6 _ _ _ hf hw (lv_sub hl [1, 2, 0] rfl)
set_option maxHeartbeats 4000000 in
theorem k_X1_copyOf_56 {p : Program} {l : Launch} {e : Env} {s : State} {m : MethodId} {args : Array Value} {below : List Frame} {meth : Method} {c : Code} {D : va_G} {A : Nat → Prop} (X : zCx p s m args meth c D A (zEv A) cX1_copyOf 3 RX1 (Option.none : Option FieldType)) (res : zT) (cb sb : Nat) (hcb : cb + 1 ≤ 10) (hsb : sb + 5 ≤ 50) (K18 : zT → Nat → Nat → Int32 → Option (zT)) (hK18 : ∀ (h : zT) (a0 : Nat) (a1 : Nat) (i2 : Int32) (H : Heap) (locs : List Loc) (ls : Array Slot), K18 h a0 a1 i2 = some res → zWh D A s H h locs → lv_has ls 3 [(0, .ref a0), (1, .ref a1), (2, .int i2)] → W p l e rm_X1_copyOf s m args below meth c H locs (cb + 1) (sb + 5) (MQ below (zQW D A none res) args s 10 50 A) (F0 m 18 ls [])) : ∀ (h : zT) (a0 : Nat) (a1 : Nat) (i2 : Int32) (H : Heap) (locs : List Loc) (ls : Array Slot), f_X1_copyOf_56 K18 h a0 a1 i2 = some res → zWh D A s H h locs → lv_has ls 3 [(0, .ref a0), (1, .ref a1), (2, .int i2)] → W p l e rm_X1_copyOf s m args below meth c H locs (cb + 0) (sb + 0) (MQ below (zQW D A none res) args s 10 50 A) (F0 m 56 ls []) := by
  have hx := X.1.1
  have hb := X.1.2.1
  have hown := X.1.2.2.2.1
  have hts := X.1.2.2.2.2
  have hN := X.2.2.2.2.2.2.1
  have hDW := X.2.2.2.2.2.2.2.1
  have hAO := X.2.2.2.2.2.2.2.2.1
  have hNC := X.2.2.2.2.2.2.2.2.2.1
  intro h a0 a1 i2 H locs ls hf hw hl
  unfold f_X1_copyOf_56 at hf
  refine lv_aload_n hx hb dX1_copyOf_56 rfl (lv_at hl 0 rfl) ?_
  refine zw_getR X hw fs_X1_2 q130 rfl hf dX1_copyOf_57 (fun v1 hf => ?_)
  refine lv_iload_n hx hb dX1_copyOf_60 rfl (lv_at hl 2 rfl) ?_
  refine lv_aload_n hx hb dX1_copyOf_61 rfl (lv_at hl 1 rfl) ?_
  refine zw_getR X hw fs_X1_2 q130 rfl hf dX1_copyOf_62 (fun v2 hf => ?_)
  refine lv_iload_n hx hb dX1_copyOf_65 rfl (lv_at hl 2 rfl) ?_
  refine zw_aaloadR X hw hf dX1_copyOf_66 (fun v3 hf => ?_)
  refine vd_X1_38 (rest := [.int i2, .ref v1]) h v3 X hw hl.1 hf (Nat.le_of_ble_eq_true rfl) (Nat.le_of_ble_eq_true rfl) (Nat.le_of_ble_eq_true rfl) rfl dX1_copyOf_67 ⟨by show _ ≤ (10 : Nat); omega, by show _ ≤ (50 : Nat); omega⟩ (fun r4 H locs hf hw => ?_)
  refine zw_aastore X hw (zcastR X) hf dX1_copyOf_70 (fun h5 H locs hf hw => ?_)
  refine W.widen (k := cb + 1) (n := sb + 5) (by omega) (by omega) ?_
  exact k_X1_copyOf_71 X _ cb sb (by omega) (by omega) K18 hK18 h5 a0 a1 i2 _ _ _ hf hw (lv_sub hl [0, 1, 2] rfl)
set_option maxHeartbeats 4000000 in
theorem k_X1_copyOf_18 {p : Program} {l : Launch} {e : Env} {s : State} {m : MethodId} {args : Array Value} {below : List Frame} {meth : Method} {c : Code} {D : va_G} {A : Nat → Prop} (X : zCx p s m args meth c D A (zEv A) cX1_copyOf 3 RX1 (Option.none : Option FieldType)) (res : zT) : ∀ (n cb sb : Nat), cb + n * 1 ≤ 10 → sb + n * 5 ≤ 50 → ∀ (h : zT) (a0 : Nat) (a1 : Nat) (i2 : Int32) (H : Heap) (locs : List Loc) (ls : Array Slot), f_X1_copyOf_18 n h a0 a1 i2 = some res → zWh D A s H h locs → lv_has ls 3 [(0, .ref a0), (1, .ref a1), (2, .int i2)] → W p l e rm_X1_copyOf s m args below meth c H locs cb sb (MQ below (zQW D A none res) args s 10 50 A) (F0 m 18 ls []) := by
  have hx := X.1.1
  have hb := X.1.2.1
  have hown := X.1.2.2.2.1
  have hts := X.1.2.2.2.2
  have hN := X.2.2.2.2.2.2.1
  have hDW := X.2.2.2.2.2.2.2.1
  have hAO := X.2.2.2.2.2.2.2.2.1
  have hNC := X.2.2.2.2.2.2.2.2.2.1
  intro n
  induction n with
  | zero =>
    intro cb sb hcb hsb h a0 a1 i2 H locs ls hf hw hl
    cases hf
  | succ n ih =>
    intro cb sb hcb hsb h a0 a1 i2 H locs ls hf hw hl
    unfold f_X1_copyOf_18 at hf
    refine lv_iload_n hx hb dX1_copyOf_18 rfl (lv_at hl 2 rfl) ?_
    refine lv_aload_n hx hb dX1_copyOf_19 rfl (lv_at hl 0 rfl) ?_
    refine zw_getI X hw fs_X1_1 q128 rfl hf dX1_copyOf_20 (fun v1 hf => ?_)
    refine zw_icmp_ge (tgt := 92) hx hb hf dX1_copyOf_23 (by decide) (fun hf => ?_) (fun hf => ?_)
    · refine lv_aload_n hx hb dX1_copyOf_92 rfl (lv_at hl 1 rfl) ?_
      refine zw_getR X hw fs_X1_3 q132 rfl hf dX1_copyOf_93 (fun v2 hf => ?_)
      refine lv_aload_n hx hb dX1_copyOf_96 rfl (lv_at hl 0 rfl) ?_
      refine zw_getR X hw fs_X1_3 q132 rfl hf dX1_copyOf_97 (fun v3 hf => ?_)
      refine zw_goV (rest := []) hw hf (fun r hr => va_runSN (As := [.ref v2, .ref v3]) (rest := []) X.1 (mt_X0_copyRow l D A h v2 v3 r hr) ⟨va_cnB 2 hts (lw_meth q1038) rfl rfl rfl (hN _ nq1036) (hts _ q81) cd_X0_copyRow ⟨Nat.le_of_ble_eq_true rfl, Nat.le_of_ble_eq_true rfl⟩, hts _ q1037, trivial⟩ (zpreS X hw _) rfl rfl hl.1 rfl (lv_room (Nat.le_of_ble_eq_true rfl)) dX1_copyOf_100 ⟨by show _ ≤ (10 : Nat); omega, by show _ ≤ (50 : Nat); omega⟩) (fun r4 H locs hf hw => ?_)
      refine lv_aload_n hx hb dX1_copyOf_103 rfl (lv_at hl 0 rfl) ?_
      refine lv_aload_n hx hb dX1_copyOf_104 rfl (lv_at hl 1 rfl) ?_
      refine zw_getI X hw fs_X1_4 q134 rfl hf dX1_copyOf_105 (fun v5 hf => ?_)
      refine zw_put X hw fs_X1_4 q134 rfl rfl rfl rfl hf dX1_copyOf_108 (fun h6 H locs hf hw => ?_)
      refine lv_aload_n hx hb dX1_copyOf_111 rfl (lv_at hl 0 rfl) ?_
      refine lv_aload_n hx hb dX1_copyOf_112 rfl (lv_at hl 1 rfl) ?_
      refine zw_getI X hw fs_X1_5 q136 rfl hf dX1_copyOf_113 (fun v7 hf => ?_)
      refine zw_put X hw fs_X1_5 q136 rfl rfl rfl rfl hf dX1_copyOf_116 (fun h8 H locs hf hw => ?_)
      refine lv_aload_n hx hb dX1_copyOf_119 rfl (lv_at hl 0 rfl) ?_
      refine lv_aload_n hx hb dX1_copyOf_120 rfl (lv_at hl 1 rfl) ?_
      refine zw_getI X hw fs_X1_6 q138 rfl hf dX1_copyOf_121 (fun v9 hf => ?_)
      refine zw_put X hw fs_X1_6 q138 rfl rfl rfl rfl hf dX1_copyOf_124 (fun h10 H locs hf hw => ?_)
      refine lv_aload_n hx hb dX1_copyOf_127 rfl (lv_at hl 1 rfl) ?_
      refine zw_getR X hw fs_X1_7 q140 rfl hf dX1_copyOf_128 (fun v11 hf => ?_)
      refine lv_iconst (v := (0 : Int32)) hx hb dX1_copyOf_131 (by decide) ?_
      refine lv_aload_n hx hb dX1_copyOf_132 rfl (lv_at hl 0 rfl) ?_
      refine zw_getR X hw fs_X1_7 q140 rfl hf dX1_copyOf_133 (fun v12 hf => ?_)
      refine lv_iconst (v := (0 : Int32)) hx hb dX1_copyOf_136 (by decide) ?_
      refine lv_bipush (v := (14 : Int32)) hx hb dX1_copyOf_137 (by decide) ?_
      refine zw_copyQ (ci := 13) (rest := []) X hw hl.1 rfl rfl q1042 q1041 q1040 q100 hf (Nat.le_of_ble_eq_true rfl) (by decide) dX1_copyOf_139 (fun h13 H locs hf hw => ?_)
      exact zw_vret X hw hf (by omega) (by omega) dX1_copyOf_142
    · refine lv_aload_n hx hb dX1_copyOf_26 rfl (lv_at hl 0 rfl) ?_
      refine zw_getR X hw fs_X1_2 q130 rfl hf dX1_copyOf_27 (fun v14 hf => ?_)
      refine lv_iload_n hx hb dX1_copyOf_30 rfl (lv_at hl 2 rfl) ?_
      refine zw_aaloadQ X hw hf dX1_copyOf_31 (fun v15 hf => ?_)
      refine zw_ifnull (tgt := 56) hx hb hf dX1_copyOf_32 (by decide) (fun hf => ?_) (fun hf => ?_)
      · refine W.widen (k := cb + 0) (n := sb + 0) (by omega) (by omega) ?_
        exact k_X1_copyOf_56 X _ cb sb (by omega) (by omega) (f_X1_copyOf_18 n) (fun h a0 a1 i2 H locs ls hf hw hl => ih (cb + 1) (sb + 5) (by omega) (by omega) h a0 a1 i2 H locs ls hf hw hl) h a0 a1 i2 _ _ _ hf hw (lv_sub hl [0, 1, 2] rfl)
      · refine lv_aload_n hx hb dX1_copyOf_35 rfl (lv_at hl 0 rfl) ?_
        refine zw_getR X hw fs_X1_2 q130 rfl hf dX1_copyOf_36 (fun v16 hf => ?_)
        refine lv_iload_n hx hb dX1_copyOf_39 rfl (lv_at hl 2 rfl) ?_
        refine zw_aaloadR X hw hf dX1_copyOf_40 (fun v17 hf => ?_)
        refine vd_X1_34 (rest := []) h v17 X hw hl.1 hf (Nat.le_of_ble_eq_true rfl) (Nat.le_of_ble_eq_true rfl) (Nat.le_of_ble_eq_true rfl) rfl dX1_copyOf_41 ⟨by show _ ≤ (10 : Nat); omega, by show _ ≤ (50 : Nat); omega⟩ (fun r18 H locs hf hw => ?_)
        refine lv_aload_n hx hb dX1_copyOf_44 rfl (lv_at hl 1 rfl) ?_
        refine zw_getR X hw fs_X1_2 q130 rfl hf dX1_copyOf_45 (fun v19 hf => ?_)
        refine lv_iload_n hx hb dX1_copyOf_48 rfl (lv_at hl 2 rfl) ?_
        refine zw_aaloadR X hw hf dX1_copyOf_49 (fun v20 hf => ?_)
        refine vd_X1_34 (rest := [.int r18.1]) r18.2 v20 X hw hl.1 hf (Nat.le_of_ble_eq_true rfl) (Nat.le_of_ble_eq_true rfl) (Nat.le_of_ble_eq_true rfl) rfl dX1_copyOf_50 ⟨by show _ ≤ (10 : Nat); omega, by show _ ≤ (50 : Nat); omega⟩ (fun r21 H locs hf hw => ?_)
        refine zw_icmp_eq (tgt := 71) hx hb hf dX1_copyOf_53 (by decide) (fun hf => ?_) (fun hf => ?_)
        · refine W.widen (k := cb + 1) (n := sb + 5) (by omega) (by omega) ?_
          exact k_X1_copyOf_71 X _ cb sb (by omega) (by omega) (f_X1_copyOf_18 n) (fun h a0 a1 i2 H locs ls hf hw hl => ih (cb + 1) (sb + 5) (by omega) (by omega) h a0 a1 i2 H locs ls hf hw hl) r21.2 a0 a1 i2 _ _ _ hf hw (lv_sub hl [0, 1, 2] rfl)
        · refine W.widen (k := cb + 0) (n := sb + 0) (by omega) (by omega) ?_
          exact k_X1_copyOf_56 X _ cb sb (by omega) (by omega) (f_X1_copyOf_18 n) (fun h a0 a1 i2 H locs ls hf hw hl => ih (cb + 1) (sb + 5) (by omega) (by omega) h a0 a1 i2 H locs ls hf hw hl) r21.2 a0 a1 i2 _ _ _ hf hw (lv_sub hl [0, 1, 2] rfl)
set_option maxHeartbeats 4000000 in
theorem mt_X1_copyOf (l : Launch) (D : va_G) (A : Nat → Prop) (h : zT) (a0 : Nat) (a1 : Nat) (res : zT) (hf : f_X1_copyOf h a0 a1 = some res) : Met l yX1_copyOf (ws_ yX1_copyOf cX1_copyOf 3 (Option.none : Option FieldType)) rm_X1_copyOf (zPW D A (zEv A) h [.ref a0, .ref a1]) (zQW D A none res) 10 50 A := by
  refine zmt (zEv_ok A) (by decide) (Nat.le_of_ble_eq_true rfl) ?_
  intro p e s m below meth c ls hmn X hw hl
  have hl : lv_has ls 3 [(0, .ref a0), (1, .ref a1)] := hl
  have hx := X.1.1
  have hb := X.1.2.1
  have hown := X.1.2.2.2.1
  have hts := X.1.2.2.2.2
  have hN := X.2.2.2.2.2.2.1
  have hDW := X.2.2.2.2.2.2.2.1
  have hAO := X.2.2.2.2.2.2.2.2.1
  have hNC := X.2.2.2.2.2.2.2.2.2.1
  unfold f_X1_copyOf at hf
  refine lv_aload_n hx hb dX1_copyOf_0 rfl (lv_at hl 0 rfl) ?_
  refine lv_aload_n hx hb dX1_copyOf_1 rfl (lv_at hl 1 rfl) ?_
  refine zw_getI X hw fs_X1_0 q126 rfl hf dX1_copyOf_2 (fun v1 hf => ?_)
  refine zw_put X hw fs_X1_0 q126 rfl rfl rfl rfl hf dX1_copyOf_5 (fun h2 H locs hf hw => ?_)
  refine lv_aload_n hx hb dX1_copyOf_8 rfl (lv_at hl 0 rfl) ?_
  refine lv_aload_n hx hb dX1_copyOf_9 rfl (lv_at hl 1 rfl) ?_
  refine zw_getI X hw fs_X1_1 q128 rfl hf dX1_copyOf_10 (fun v3 hf => ?_)
  refine zw_put X hw fs_X1_1 q128 rfl rfl rfl rfl hf dX1_copyOf_13 (fun h4 H locs hf hw => ?_)
  refine lv_iconst (v := (0 : Int32)) hx hb dX1_copyOf_16 (by decide) ?_
  refine lv_istore_n (lv' := [(2, .int (0 : Int32)), (0, .ref a0), (1, .ref a1)]) hx hb dX1_copyOf_17 rfl hl (by decide) rfl (fun ls hl => ?_)
  exact k_X1_copyOf_18 X _ 10 0 0 (by omega) (by omega) h4 a0 a1 (0 : Int32) _ _ _ hf hw (lv_sub hl [1, 2, 0] rfl)
set_option maxHeartbeats 4000000 in
theorem mt_X8_gains (l : Launch) (D : va_G) (A : Nat → Prop) (h : zT) (a0 : Nat) (i1 : Int32) (res : Int32 × zT) (hf : f_X8_gains h a0 i1 = some res) : Met l yX8_gains (ws_ yX8_gains cX8_gains 2 (Option.some FieldType.int)) rm_X8_gains (zPW D A (zEv A) h [.ref a0, .int i1]) (zQW D A (some (.int res.1)) res.2) 0 0 A := by
  refine zmt (zEv_ok A) (by decide) (Nat.le_of_ble_eq_true rfl) ?_
  intro p e s m below meth c ls hmn X hw hl
  have hl : lv_has ls 2 [(0, .ref a0), (1, .int i1)] := hl
  have hx := X.1.1
  have hb := X.1.2.1
  have hown := X.1.2.2.2.1
  have hts := X.1.2.2.2.2
  have hN := X.2.2.2.2.2.2.1
  have hDW := X.2.2.2.2.2.2.2.1
  have hAO := X.2.2.2.2.2.2.2.2.1
  have hNC := X.2.2.2.2.2.2.2.2.2.1
  unfold f_X8_gains at hf
  refine lv_aload_n hx hb dX8_gains_0 rfl (lv_at hl 0 rfl) ?_
  refine lv_iload_n hx hb dX8_gains_1 rfl (lv_at hl 1 rfl) ?_
  refine zw_kS hf (fun ci fs hci hfs hf => ?_)
  obtain ⟨qq, hqq⟩ := zclS ci hci
  refine zw_goI (rest := []) hw hf (fun r hr => by cases hr; exact zrunSD (n := 1) (y := yX15_gains) (owner := "StoneSheets$Trusted") (x := ⟨"StoneSheets$Rubbing", "gains", "(I)I"⟩) (As := [.int i1]) (rest := []) (X.2.2.2.1.1 ci qq hqq).2 X.1 (zbk (v := i1) X.1.1 (hts _ q675) (by decide) dX15_gains_0 dX15_gains_1 (fun m => rfl) ⟨Nat.le_of_ble_eq_true rfl, Nat.le_of_ble_eq_true rfl⟩) (va_Nw.use rfl (hDW _ zdw3)) (va_Nw.use rfl (hDW _ zdw1)) (hts _ q579) X.2.2.2.2.2.2.2.2.2.2.1 rfl (hts _ q674) (va_Decl.abs (hN _ nq670)) (by decide +kernel) (zpreV X hw hfs hqq _) rfl rfl hl.1 rfl (lv_room (Nat.le_of_ble_eq_true rfl)) dX8_gains_2 ⟨Nat.le_of_ble_eq_true rfl, Nat.le_of_ble_eq_true rfl⟩) (fun r1 H locs hf hw => ?_)
  refine lv_iconst (v := (2 : Int32)) hx hb dX8_gains_5 (by decide) ?_
  refine lv_idiv hx hb dX8_gains_6 (by decide) ?_
  exact zw_iret X hw hf (Nat.le_of_ble_eq_true rfl) (Nat.le_of_ble_eq_true rfl) dX8_gains_7
set_option maxHeartbeats 4000000 in
theorem mt_X10_gains (l : Launch) (D : va_G) (A : Nat → Prop) (h : zT) (a0 : Nat) (i1 : Int32) (res : Int32 × zT) (hf : f_X10_gains h a0 i1 = some res) : Met l yX10_gains (ws_ yX10_gains cX10_gains 2 (Option.some FieldType.int)) rm_X10_gains (zPW D A (zEv A) h [.ref a0, .int i1]) (zQW D A (some (.int res.1)) res.2) 0 0 A := by
  refine zmt (zEv_ok A) (by decide) (Nat.le_of_ble_eq_true rfl) ?_
  intro p e s m below meth c ls hmn X hw hl
  have hl : lv_has ls 2 [(0, .ref a0), (1, .int i1)] := hl
  have hx := X.1.1
  have hb := X.1.2.1
  have hown := X.1.2.2.2.1
  have hts := X.1.2.2.2.2
  have hN := X.2.2.2.2.2.2.1
  have hDW := X.2.2.2.2.2.2.2.1
  have hAO := X.2.2.2.2.2.2.2.2.1
  have hNC := X.2.2.2.2.2.2.2.2.2.1
  unfold f_X10_gains at hf
  refine lv_aload_n hx hb dX10_gains_0 rfl (lv_at hl 0 rfl) ?_
  refine lv_iload_n hx hb dX10_gains_1 rfl (lv_at hl 1 rfl) ?_
  refine zw_kS hf (fun ci fs hci hfs hf => ?_)
  obtain ⟨qq, hqq⟩ := zclS ci hci
  refine zw_goI (rest := []) hw hf (fun r hr => va_runSU (As := [.int i1]) (rest := []) (X.2.2.2.1.1 ci qq hqq).2 X.1 (mt_X8_gains l D A h a0 i1 r hr) (va_cwSU 1 hts (zlw_SU q679 q1791 q603 q680 q92 q681) rfl rfl rfl (by decide +kernel) ⟨Nat.le_of_ble_eq_true rfl, Nat.le_of_ble_eq_true rfl⟩) (zpreV X hw hfs hqq _) rfl rfl hl.1 rfl (lv_room (Nat.le_of_ble_eq_true rfl)) dX10_gains_2 ⟨Nat.le_of_ble_eq_true rfl, Nat.le_of_ble_eq_true rfl⟩) (fun r1 H locs hf hw => ?_)
  refine lv_iconst (v := (2 : Int32)) hx hb dX10_gains_5 (by decide) ?_
  refine lv_iadd hx hb dX10_gains_6 ?_
  exact zw_iret X hw hf (Nat.le_of_ble_eq_true rfl) (Nat.le_of_ble_eq_true rfl) dX10_gains_7
set_option maxHeartbeats 4000000 in
theorem mt_X6_worth (l : Launch) (D : va_G) (A : Nat → Prop) (h : zT) (a0 : Nat) (res : Int32 × zT) (hf : f_X6_worth h a0 = some res) : Met l yX6_worth (ws_ yX6_worth cX6_worth 1 (Option.some FieldType.int)) rm_X6_worth (zPW D A (zEv A) h [.ref a0]) (zQW D A (some (.int res.1)) res.2) 0 0 A := by
  refine zmt (zEv_ok A) (by decide) (Nat.le_of_ble_eq_true rfl) ?_
  intro p e s m below meth c ls hmn X hw hl
  have hl : lv_has ls 1 [(0, .ref a0)] := hl
  have hx := X.1.1
  have hb := X.1.2.1
  have hown := X.1.2.2.2.1
  have hts := X.1.2.2.2.2
  have hN := X.2.2.2.2.2.2.1
  have hDW := X.2.2.2.2.2.2.2.1
  have hAO := X.2.2.2.2.2.2.2.2.1
  have hNC := X.2.2.2.2.2.2.2.2.2.1
  unfold f_X6_worth at hf
  refine lv_aload_n hx hb dX6_worth_0 rfl (lv_at hl 0 rfl) ?_
  refine zw_getI X hw fs_X6_4 q554 rfl hf dX6_worth_1 (fun v1 hf => ?_)
  exact zw_iret X hw hf (Nat.le_of_ble_eq_true rfl) (Nat.le_of_ble_eq_true rfl) dX6_worth_4
set_option maxHeartbeats 4000000 in
theorem mt_X8_worth (l : Launch) (D : va_G) (A : Nat → Prop) (h : zT) (a0 : Nat) (res : Int32 × zT) (hf : f_X8_worth h a0 = some res) : Met l yX8_worth (ws_ yX8_worth cX8_worth 1 (Option.some FieldType.int)) rm_X8_worth (zPW D A (zEv A) h [.ref a0]) (zQW D A (some (.int res.1)) res.2) 0 0 A := by
  refine zmt (zEv_ok A) (by decide) (Nat.le_of_ble_eq_true rfl) ?_
  intro p e s m below meth c ls hmn X hw hl
  have hl : lv_has ls 1 [(0, .ref a0)] := hl
  have hx := X.1.1
  have hb := X.1.2.1
  have hown := X.1.2.2.2.1
  have hts := X.1.2.2.2.2
  have hN := X.2.2.2.2.2.2.1
  have hDW := X.2.2.2.2.2.2.2.1
  have hAO := X.2.2.2.2.2.2.2.2.1
  have hNC := X.2.2.2.2.2.2.2.2.2.1
  unfold f_X8_worth at hf
  refine lv_bipush (v := (99 : Int32)) hx hb dX8_worth_0 (by decide) ?_
  refine lv_aload_n hx hb dX8_worth_2 rfl (lv_at hl 0 rfl) ?_
  refine zw_kS hf (fun ci fs hci hfs hf => ?_)
  obtain ⟨qq, hqq⟩ := zclS ci hci
  refine zw_goI (rest := [.int (99 : Int32)]) hw hf (fun r hr => va_runSU (As := []) (rest := [.int (99 : Int32)]) (X.2.2.2.1.1 ci qq hqq).2 X.1 (mt_X6_worth l D A h a0 r hr) (va_cwSU 0 hts (zlw_SU q741 q730 q579 q728 q90 q750) rfl rfl rfl (by decide +kernel) ⟨Nat.le_of_ble_eq_true rfl, Nat.le_of_ble_eq_true rfl⟩) (zpreV X hw hfs hqq _) rfl rfl hl.1 rfl (lv_room (Nat.le_of_ble_eq_true rfl)) dX8_worth_3 ⟨Nat.le_of_ble_eq_true rfl, Nat.le_of_ble_eq_true rfl⟩) (fun r1 H locs hf hw => ?_)
  refine lv_isub hx hb dX8_worth_6 ?_
  exact zw_iret X hw hf (Nat.le_of_ble_eq_true rfl) (Nat.le_of_ble_eq_true rfl) dX8_worth_7
set_option maxHeartbeats 4000000 in
theorem mt_X10_worth (l : Launch) (D : va_G) (A : Nat → Prop) (h : zT) (a0 : Nat) (res : Int32 × zT) (hf : f_X10_worth h a0 = some res) : Met l yX10_worth (ws_ yX10_worth cX10_worth 1 (Option.some FieldType.int)) rm_X10_worth (zPW D A (zEv A) h [.ref a0]) (zQW D A (some (.int res.1)) res.2) 0 0 A := by
  refine zmt (zEv_ok A) (by decide) (Nat.le_of_ble_eq_true rfl) ?_
  intro p e s m below meth c ls hmn X hw hl
  have hl : lv_has ls 1 [(0, .ref a0)] := hl
  have hx := X.1.1
  have hb := X.1.2.1
  have hown := X.1.2.2.2.1
  have hts := X.1.2.2.2.2
  have hN := X.2.2.2.2.2.2.1
  have hDW := X.2.2.2.2.2.2.2.1
  have hAO := X.2.2.2.2.2.2.2.2.1
  have hNC := X.2.2.2.2.2.2.2.2.2.1
  unfold f_X10_worth at hf
  refine lv_aload_n hx hb dX10_worth_0 rfl (lv_at hl 0 rfl) ?_
  refine zw_kS hf (fun ci fs hci hfs hf => ?_)
  obtain ⟨qq, hqq⟩ := zclS ci hci
  refine zw_goI (rest := []) hw hf (fun r hr => va_runSU (As := []) (rest := []) (X.2.2.2.1.1 ci qq hqq).2 X.1 (mt_X8_worth l D A h a0 r hr) (va_cwSU 0 hts (zlw_SU q738 q1793 q603 q739 q92 q740) rfl rfl rfl (by decide +kernel) ⟨Nat.le_of_ble_eq_true rfl, Nat.le_of_ble_eq_true rfl⟩) (zpreV X hw hfs hqq _) rfl rfl hl.1 rfl (lv_room (Nat.le_of_ble_eq_true rfl)) dX10_worth_1 ⟨Nat.le_of_ble_eq_true rfl, Nat.le_of_ble_eq_true rfl⟩) (fun r1 H locs hf hw => ?_)
  refine lv_bipush (v := (6 : Int32)) hx hb dX10_worth_4 (by decide) ?_
  refine lv_isub hx hb dX10_worth_6 ?_
  exact zw_iret X hw hf (Nat.le_of_ble_eq_true rfl) (Nat.le_of_ble_eq_true rfl) dX10_worth_7
set_option maxHeartbeats 4000000 in
theorem mt_X11_gains (l : Launch) (D : va_G) (A : Nat → Prop) (h : zT) (a0 : Nat) (i1 : Int32) (res : Int32 × zT) (hf : f_X11_gains h a0 i1 = some res) : Met l yX11_gains (ws_ yX11_gains cX11_gains 2 (Option.some FieldType.int)) rm_X11_gains (zPW D A (zEv A) h [.ref a0, .int i1]) (zQW D A (some (.int res.1)) res.2) 0 0 A := by
  refine zmt (zEv_ok A) (by decide) (Nat.le_of_ble_eq_true rfl) ?_
  intro p e s m below meth c ls hmn X hw hl
  have hl : lv_has ls 2 [(0, .ref a0), (1, .int i1)] := hl
  have hx := X.1.1
  have hb := X.1.2.1
  have hown := X.1.2.2.2.1
  have hts := X.1.2.2.2.2
  have hN := X.2.2.2.2.2.2.1
  have hDW := X.2.2.2.2.2.2.2.1
  have hAO := X.2.2.2.2.2.2.2.2.1
  have hNC := X.2.2.2.2.2.2.2.2.2.1
  unfold f_X11_gains at hf
  refine lv_iconst (v := (0 : Int32)) hx hb dX11_gains_0 (by decide) ?_
  exact zw_iret X hw hf (Nat.le_of_ble_eq_true rfl) (Nat.le_of_ble_eq_true rfl) dX11_gains_1
set_option maxHeartbeats 4000000 in
theorem mt_X6_loses (l : Launch) (D : va_G) (A : Nat → Prop) (h : zT) (a0 : Nat) (res : Int32 × zT) (hf : f_X6_loses h a0 = some res) : Met l yX6_loses (ws_ yX6_loses cX6_loses 1 (Option.some FieldType.int)) rm_X6_loses (zPW D A (zEv A) h [.ref a0]) (zQW D A (some (.int res.1)) res.2) 0 0 A := by
  refine zmt (zEv_ok A) (by decide) (Nat.le_of_ble_eq_true rfl) ?_
  intro p e s m below meth c ls hmn X hw hl
  have hl : lv_has ls 1 [(0, .ref a0)] := hl
  have hx := X.1.1
  have hb := X.1.2.1
  have hown := X.1.2.2.2.1
  have hts := X.1.2.2.2.2
  have hN := X.2.2.2.2.2.2.1
  have hDW := X.2.2.2.2.2.2.2.1
  have hAO := X.2.2.2.2.2.2.2.2.1
  have hNC := X.2.2.2.2.2.2.2.2.2.1
  unfold f_X6_loses at hf
  refine lv_iconst (v := (5 : Int32)) hx hb dX6_loses_0 (by decide) ?_
  exact zw_iret X hw hf (Nat.le_of_ble_eq_true rfl) (Nat.le_of_ble_eq_true rfl) dX6_loses_1
set_option maxHeartbeats 4000000 in
theorem mt_X11_loses (l : Launch) (D : va_G) (A : Nat → Prop) (h : zT) (a0 : Nat) (res : Int32 × zT) (hf : f_X11_loses h a0 = some res) : Met l yX11_loses (ws_ yX11_loses cX11_loses 1 (Option.some FieldType.int)) rm_X11_loses (zPW D A (zEv A) h [.ref a0]) (zQW D A (some (.int res.1)) res.2) 0 0 A := by
  refine zmt (zEv_ok A) (by decide) (Nat.le_of_ble_eq_true rfl) ?_
  intro p e s m below meth c ls hmn X hw hl
  have hl : lv_has ls 1 [(0, .ref a0)] := hl
  have hx := X.1.1
  have hb := X.1.2.1
  have hown := X.1.2.2.2.1
  have hts := X.1.2.2.2.2
  have hN := X.2.2.2.2.2.2.1
  have hDW := X.2.2.2.2.2.2.2.1
  have hAO := X.2.2.2.2.2.2.2.2.1
  have hNC := X.2.2.2.2.2.2.2.2.2.1
  unfold f_X11_loses at hf
  refine lv_iconst (v := (4 : Int32)) hx hb dX11_loses_0 (by decide) ?_
  refine lv_aload_n hx hb dX11_loses_1 rfl (lv_at hl 0 rfl) ?_
  refine zw_kS hf (fun ci fs hci hfs hf => ?_)
  obtain ⟨qq, hqq⟩ := zclS ci hci
  refine zw_goI (rest := [.int (4 : Int32)]) hw hf (fun r hr => va_runSU (As := []) (rest := [.int (4 : Int32)]) (X.2.2.2.1.1 ci qq hqq).2 X.1 (mt_X6_loses l D A h a0 r hr) (va_cwSU 0 hts (zlw_SU q721 q708 q615 q706 q90 q726) rfl rfl rfl (by decide +kernel) ⟨Nat.le_of_ble_eq_true rfl, Nat.le_of_ble_eq_true rfl⟩) (zpreV X hw hfs hqq _) rfl rfl hl.1 rfl (lv_room (Nat.le_of_ble_eq_true rfl)) dX11_loses_2 ⟨Nat.le_of_ble_eq_true rfl, Nat.le_of_ble_eq_true rfl⟩) (fun r1 H locs hf hw => ?_)
  refine lv_imul hx hb dX11_loses_5 ?_
  exact zw_iret X hw hf (Nat.le_of_ble_eq_true rfl) (Nat.le_of_ble_eq_true rfl) dX11_loses_6
set_option maxHeartbeats 4000000 in
theorem mt_X11_worth (l : Launch) (D : va_G) (A : Nat → Prop) (h : zT) (a0 : Nat) (res : Int32 × zT) (hf : f_X11_worth h a0 = some res) : Met l yX11_worth (ws_ yX11_worth cX11_worth 1 (Option.some FieldType.int)) rm_X11_worth (zPW D A (zEv A) h [.ref a0]) (zQW D A (some (.int res.1)) res.2) 0 0 A := by
  refine zmt (zEv_ok A) (by decide) (Nat.le_of_ble_eq_true rfl) ?_
  intro p e s m below meth c ls hmn X hw hl
  have hl : lv_has ls 1 [(0, .ref a0)] := hl
  have hx := X.1.1
  have hb := X.1.2.1
  have hown := X.1.2.2.2.1
  have hts := X.1.2.2.2.2
  have hN := X.2.2.2.2.2.2.1
  have hDW := X.2.2.2.2.2.2.2.1
  have hAO := X.2.2.2.2.2.2.2.2.1
  have hNC := X.2.2.2.2.2.2.2.2.2.1
  unfold f_X11_worth at hf
  refine lv_iconst (v := (1 : Int32)) hx hb dX11_worth_0 (by decide) ?_
  exact zw_iret X hw hf (Nat.le_of_ble_eq_true rfl) (Nat.le_of_ble_eq_true rfl) dX11_worth_1
set_option maxHeartbeats 4000000 in
theorem mt_X12_init (l : Launch) (D : va_G) (A : Nat → Prop) (h : zT) (a0 : Nat) (res : zT) (hf : f_X12_init h a0 = some res) : Met l yX12_init (ws_ yX12_init cX12_init 1 (Option.none : Option FieldType)) rm_X12_init (zPW D A (zEv A) h [.ref a0]) (zQW D A none res) 2 192 A := by
  refine zmt (zEv_ok A) (by decide) (Nat.le_of_ble_eq_true rfl) ?_
  intro p e s m below meth c ls hmn X hw hl
  have hl : lv_has ls 1 [(0, .ref a0)] := hl
  have hx := X.1.1
  have hb := X.1.2.1
  have hown := X.1.2.2.2.1
  have hts := X.1.2.2.2.2
  have hN := X.2.2.2.2.2.2.1
  have hDW := X.2.2.2.2.2.2.2.1
  have hAO := X.2.2.2.2.2.2.2.2.1
  have hNC := X.2.2.2.2.2.2.2.2.2.1
  have hin : meth.name = "<init>" := hmn
  unfold f_X12_init at hf
  refine lv_aload_n hx hb dX12_init_0 rfl (lv_at hl 0 rfl) ?_
  refine W.objInit hx hb hown (hts _ q433) (hts _ q114) (hts _ q115) rfl (by rw [X.1.2.2.1]; exact hl.1) rfl dX12_init_1 (Nat.le_of_ble_eq_true rfl) (Nat.le_of_ble_eq_true rfl) ?_
  refine W.eq (g2 := F0 m 4 ls []) rfl ?_
  refine lv_aload_n hx hb dX12_init_4 rfl (lv_at hl 0 rfl) ?_
  refine lv_bipush (v := (96 : Int32)) hx hb dX12_init_5 (by decide) ?_
  refine zw_newa (N := 96) X hw q159 hf rfl (Nat.le_of_ble_eq_true rfl) (Nat.le_of_ble_eq_true rfl) (Nat.le_of_ble_eq_true rfl) dX12_init_7 (fun r1 H hf hw => ?_)
  refine zw_putF X hin hw fs_X12_0 q434 rfl rfl rfl rfl rfl hf dX12_init_9 (fun h2 H locs hf hw => ?_)
  refine lv_aload_n hx hb dX12_init_12 rfl (lv_at hl 0 rfl) ?_
  refine lv_bipush (v := (96 : Int32)) hx hb dX12_init_13 (by decide) ?_
  refine zw_newa (N := 96) X hw q159 hf rfl (Nat.le_of_ble_eq_true rfl) (Nat.le_of_ble_eq_true rfl) (Nat.le_of_ble_eq_true rfl) dX12_init_15 (fun r3 H hf hw => ?_)
  refine zw_putF X hin hw fs_X12_1 q436 rfl rfl rfl rfl rfl hf dX12_init_17 (fun h4 H locs hf hw => ?_)
  exact zw_vret X hw hf (Nat.le_of_ble_eq_true rfl) (Nat.le_of_ble_eq_true rfl) dX12_init_20
set_option maxHeartbeats 4000000 in
theorem mt_X12_add (l : Launch) (D : va_G) (A : Nat → Prop) (h : zT) (a0 : Nat) (i1 : Int32) (i2 : Int32) (res : zT) (hf : f_X12_add h a0 i1 i2 = some res) : Met l yX12_add (ws_ yX12_add cX12_add 3 (Option.none : Option FieldType)) rm_X12_add (zPW D A (zEv A) h [.ref a0, .int i1, .int i2]) (zQW D A none res) 0 0 A := by
  refine zmt (zEv_ok A) (by decide) (Nat.le_of_ble_eq_true rfl) ?_
  intro p e s m below meth c ls hmn X hw hl
  have hl : lv_has ls 3 [(0, .ref a0), (1, .int i1), (2, .int i2)] := hl
  have hx := X.1.1
  have hb := X.1.2.1
  have hown := X.1.2.2.2.1
  have hts := X.1.2.2.2.2
  have hN := X.2.2.2.2.2.2.1
  have hDW := X.2.2.2.2.2.2.2.1
  have hAO := X.2.2.2.2.2.2.2.2.1
  have hNC := X.2.2.2.2.2.2.2.2.2.1
  unfold f_X12_add at hf
  refine lv_aload_n hx hb dX12_add_0 rfl (lv_at hl 0 rfl) ?_
  refine zw_getR X hw fs_X12_0 q434 rfl hf dX12_add_1 (fun v1 hf => ?_)
  refine lv_aload_n hx hb dX12_add_4 rfl (lv_at hl 0 rfl) ?_
  refine zw_getI X hw fs_X12_2 q438 rfl hf dX12_add_5 (fun v2 hf => ?_)
  refine lv_iload_n hx hb dX12_add_8 rfl (lv_at hl 1 rfl) ?_
  refine zw_iastore X hw hf dX12_add_9 (fun h3 H locs hf hw => ?_)
  refine lv_aload_n hx hb dX12_add_10 rfl (lv_at hl 0 rfl) ?_
  refine zw_getR X hw fs_X12_1 q436 rfl hf dX12_add_11 (fun v4 hf => ?_)
  refine lv_aload_n hx hb dX12_add_14 rfl (lv_at hl 0 rfl) ?_
  refine zw_getI X hw fs_X12_2 q438 rfl hf dX12_add_15 (fun v5 hf => ?_)
  refine lv_iload_n hx hb dX12_add_18 rfl (lv_at hl 2 rfl) ?_
  refine zw_iastore X hw hf dX12_add_19 (fun h6 H locs hf hw => ?_)
  refine lv_aload_n hx hb dX12_add_20 rfl (lv_at hl 0 rfl) ?_
  refine lv_dup hx hb dX12_add_21 rfl ?_
  refine zw_getI X hw fs_X12_2 q438 rfl hf dX12_add_22 (fun v7 hf => ?_)
  refine lv_iconst (v := (1 : Int32)) hx hb dX12_add_25 (by decide) ?_
  refine lv_iadd hx hb dX12_add_26 ?_
  refine zw_put X hw fs_X12_2 q438 rfl rfl rfl rfl hf dX12_add_27 (fun h8 H locs hf hw => ?_)
  exact zw_vret X hw hf (Nat.le_of_ble_eq_true rfl) (Nat.le_of_ble_eq_true rfl) dX12_add_30
set_option maxHeartbeats 4000000 in
theorem mt_X13_init (l : Launch) (D : va_G) (A : Nat → Prop) (h : zT) (a0 : Nat) (i1 : Int32) (a2 : Nat) (i3 : Int32) (res : zT) (hf : f_X13_init h a0 i1 a2 i3 = some res) : Met l yX13_init (ws_ yX13_init cX13_init 4 (Option.none : Option FieldType)) rm_X13_init (zPW D A (zEv A) h [.ref a0, .int i1, .ref a2, .int i3]) (zQW D A none res) 0 0 A := by
  refine zmt (zEv_ok A) (by decide) (Nat.le_of_ble_eq_true rfl) ?_
  intro p e s m below meth c ls hmn X hw hl
  have hl : lv_has ls 4 [(0, .ref a0), (1, .int i1), (2, .ref a2), (3, .int i3)] := hl
  have hx := X.1.1
  have hb := X.1.2.1
  have hown := X.1.2.2.2.1
  have hts := X.1.2.2.2.2
  have hN := X.2.2.2.2.2.2.1
  have hDW := X.2.2.2.2.2.2.2.1
  have hAO := X.2.2.2.2.2.2.2.2.1
  have hNC := X.2.2.2.2.2.2.2.2.2.1
  have hin : meth.name = "<init>" := hmn
  unfold f_X13_init at hf
  refine lv_aload_n hx hb dX13_init_0 rfl (lv_at hl 0 rfl) ?_
  refine W.objInit hx hb hown (hts _ q492) (hts _ q114) (hts _ q115) rfl (by rw [X.1.2.2.1]; exact hl.1) rfl dX13_init_1 (Nat.le_of_ble_eq_true rfl) (Nat.le_of_ble_eq_true rfl) ?_
  refine W.eq (g2 := F0 m 4 ls []) rfl ?_
  refine lv_aload_n hx hb dX13_init_4 rfl (lv_at hl 0 rfl) ?_
  refine lv_iload_n hx hb dX13_init_5 rfl (lv_at hl 1 rfl) ?_
  refine zw_putF X hin hw fs_X13_0 q493 rfl rfl rfl rfl rfl hf dX13_init_6 (fun h1 H locs hf hw => ?_)
  refine lv_aload_n hx hb dX13_init_9 rfl (lv_at hl 0 rfl) ?_
  refine lv_aload_n hx hb dX13_init_10 rfl (lv_at hl 2 rfl) ?_
  refine zw_putF X hin hw fs_X13_1 q495 rfl rfl rfl rfl rfl hf dX13_init_11 (fun h2 H locs hf hw => ?_)
  refine lv_aload_n hx hb dX13_init_14 rfl (lv_at hl 0 rfl) ?_
  refine lv_iload_n hx hb dX13_init_15 rfl (lv_at hl 3 rfl) ?_
  refine zw_putF X hin hw fs_X13_2 q497 rfl rfl rfl rfl rfl hf dX13_init_16 (fun h3 H locs hf hw => ?_)
  exact zw_vret X hw hf (Nat.le_of_ble_eq_true rfl) (Nat.le_of_ble_eq_true rfl) dX13_init_19
set_option maxHeartbeats 4000000 in
theorem mt_X14_init (l : Launch) (D : va_G) (A : Nat → Prop) (h : zT) (a0 : Nat) (i1 : Int32) (res : zT) (hf : f_X14_init h a0 i1 = some res) : Met l yX14_init (ws_ yX14_init cX14_init 2 (Option.none : Option FieldType)) rm_X14_init (zPW D A (zEv A) h [.ref a0, .int i1]) (zQW D A none res) 0 0 A := by
  refine zmt (zEv_ok A) (by decide) (Nat.le_of_ble_eq_true rfl) ?_
  intro p e s m below meth c ls hmn X hw hl
  have hl : lv_has ls 2 [(0, .ref a0), (1, .int i1)] := hl
  have hx := X.1.1
  have hb := X.1.2.1
  have hown := X.1.2.2.2.1
  have hts := X.1.2.2.2.2
  have hN := X.2.2.2.2.2.2.1
  have hDW := X.2.2.2.2.2.2.2.1
  have hAO := X.2.2.2.2.2.2.2.2.1
  have hNC := X.2.2.2.2.2.2.2.2.2.1
  have hin : meth.name = "<init>" := hmn
  unfold f_X14_init at hf
  refine lv_aload_n hx hb dX14_init_0 rfl (lv_at hl 0 rfl) ?_
  refine W.objInit hx hb hown (hts _ q1193) (hts _ q114) (hts _ q115) rfl (by rw [X.1.2.2.1]; exact hl.1) rfl dX14_init_1 (Nat.le_of_ble_eq_true rfl) (Nat.le_of_ble_eq_true rfl) ?_
  refine W.eq (g2 := F0 m 4 ls []) rfl ?_
  refine lv_aload_n hx hb dX14_init_4 rfl (lv_at hl 0 rfl) ?_
  refine lv_iload_n hx hb dX14_init_5 rfl (lv_at hl 1 rfl) ?_
  refine zw_putF X hin hw fs_X14_0 q1194 rfl rfl rfl rfl rfl hf dX14_init_6 (fun h1 H locs hf hw => ?_)
  exact zw_vret X hw hf (Nat.le_of_ble_eq_true rfl) (Nat.le_of_ble_eq_true rfl) dX14_init_9
set_option maxHeartbeats 4000000 in
theorem mt_X3_init (l : Launch) (D : va_G) (A : Nat → Prop) (h : zT) (a0 : Nat) (res : zT) (hf : f_X3_init h a0 = some res) : Met l yX3_init (ws_ yX3_init cX3_init 1 (Option.none : Option FieldType)) rm_X3_init (zPW D A (zEv A) h [.ref a0]) (zQW D A none res) 0 0 A := by
  refine zmt (zEv_ok A) (by decide) (Nat.le_of_ble_eq_true rfl) ?_
  intro p e s m below meth c ls hmn X hw hl
  have hl : lv_has ls 1 [(0, .ref a0)] := hl
  have hx := X.1.1
  have hb := X.1.2.1
  have hown := X.1.2.2.2.1
  have hts := X.1.2.2.2.2
  have hN := X.2.2.2.2.2.2.1
  have hDW := X.2.2.2.2.2.2.2.1
  have hAO := X.2.2.2.2.2.2.2.2.1
  have hNC := X.2.2.2.2.2.2.2.2.2.1
  have hin : meth.name = "<init>" := hmn
  unfold f_X3_init at hf
  refine lv_aload_n hx hb dX3_init_0 rfl (lv_at hl 0 rfl) ?_
  refine W.objInit hx hb hown (hts _ q234) (hts _ q114) (hts _ q115) rfl (by rw [X.1.2.2.1]; exact hl.1) rfl dX3_init_1 (Nat.le_of_ble_eq_true rfl) (Nat.le_of_ble_eq_true rfl) ?_
  refine W.eq (g2 := F0 m 4 ls []) rfl ?_
  exact zw_vret X hw hf (Nat.le_of_ble_eq_true rfl) (Nat.le_of_ble_eq_true rfl) dX3_init_4
set_option maxHeartbeats 4000000 in
theorem mt_X3_isThere (l : Launch) (D : va_G) (A : Nat → Prop) (h : zT) (a0 : Nat) (res : Int32 × zT) (hf : f_X3_isThere h a0 = some res) : Met l yX3_isThere (ws_ yX3_isThere cX3_isThere 1 (Option.some FieldType.boolean)) rm_X3_isThere (zPW D A (zEv A) h [.ref a0]) (zQW D A (some (.int res.1)) res.2) 0 0 A := by
  refine zmt (zEv_ok A) (by decide) (Nat.le_of_ble_eq_true rfl) ?_
  intro p e s m below meth c ls hmn X hw hl
  have hl : lv_has ls 1 [(0, .ref a0)] := hl
  have hx := X.1.1
  have hb := X.1.2.1
  have hown := X.1.2.2.2.1
  have hts := X.1.2.2.2.2
  have hN := X.2.2.2.2.2.2.1
  have hDW := X.2.2.2.2.2.2.2.1
  have hAO := X.2.2.2.2.2.2.2.2.1
  have hNC := X.2.2.2.2.2.2.2.2.2.1
  unfold f_X3_isThere at hf
  refine lv_aload_n hx hb dX3_isThere_0 rfl (lv_at hl 0 rfl) ?_
  refine zw_getQ X hw fs_X3_0 q235 rfl hf dX3_isThere_1 (fun v1 hf => ?_)
  refine zw_ifnull (tgt := 11) hx hb hf dX3_isThere_4 (by decide) (fun hf => ?_) (fun hf => ?_)
  · refine lv_iconst (v := (0 : Int32)) hx hb dX3_isThere_11 (by decide) ?_
    exact zw_zret X hw hf (Nat.le_of_ble_eq_true rfl) (Nat.le_of_ble_eq_true rfl) dX3_isThere_12
  · refine lv_iconst (v := (1 : Int32)) hx hb dX3_isThere_7 (by decide) ?_
    refine lv_goto (tgt := 12) hx hb dX3_isThere_8 (by decide) ?_
    exact zw_zret X hw hf (Nat.le_of_ble_eq_true rfl) (Nat.le_of_ble_eq_true rfl) dX3_isThere_12
set_option maxHeartbeats 4000000 in
theorem mt_X3_isFloats (l : Launch) (D : va_G) (A : Nat → Prop) (h : zT) (a0 : Nat) (res : Int32 × zT) (hf : f_X3_isFloats h a0 = some res) : Met l yX3_isFloats (ws_ yX3_isFloats cX3_isFloats 1 (Option.some FieldType.boolean)) rm_X3_isFloats (zPW D A (zEv A) h [.ref a0]) (zQW D A (some (.int res.1)) res.2) 0 0 A := by
  refine zmt (zEv_ok A) (by decide) (Nat.le_of_ble_eq_true rfl) ?_
  intro p e s m below meth c ls hmn X hw hl
  have hl : lv_has ls 1 [(0, .ref a0)] := hl
  have hx := X.1.1
  have hb := X.1.2.1
  have hown := X.1.2.2.2.1
  have hts := X.1.2.2.2.2
  have hN := X.2.2.2.2.2.2.1
  have hDW := X.2.2.2.2.2.2.2.1
  have hAO := X.2.2.2.2.2.2.2.2.1
  have hNC := X.2.2.2.2.2.2.2.2.2.1
  unfold f_X3_isFloats at hf
  refine lv_aload_n hx hb dX3_isFloats_0 rfl (lv_at hl 0 rfl) ?_
  refine zw_getQ X hw fs_X3_0 q235 rfl hf dX3_isFloats_1 (fun v1 hf => ?_)
  refine zw_instF (x := v1) X hw q1110 (hNC ("[S", "[F") (by decide)) hf dX3_isFloats_4 (fun v2 hf => ?_)
  exact zw_zret X hw hf (Nat.le_of_ble_eq_true rfl) (Nat.le_of_ble_eq_true rfl) dX3_isFloats_7
set_option maxHeartbeats 4000000 in
theorem mt_X3_size (l : Launch) (D : va_G) (A : Nat → Prop) (h : zT) (a0 : Nat) (res : Int32 × zT) (hf : f_X3_size h a0 = some res) : Met l yX3_size (ws_ yX3_size cX3_size 1 (Option.some FieldType.int)) rm_X3_size (zPW D A (zEv A) h [.ref a0]) (zQW D A (some (.int res.1)) res.2) 0 0 A := by
  refine zmt (zEv_ok A) (by decide) (Nat.le_of_ble_eq_true rfl) ?_
  intro p e s m below meth c ls hmn X hw hl
  have hl : lv_has ls 1 [(0, .ref a0)] := hl
  have hx := X.1.1
  have hb := X.1.2.1
  have hown := X.1.2.2.2.1
  have hts := X.1.2.2.2.2
  have hN := X.2.2.2.2.2.2.1
  have hDW := X.2.2.2.2.2.2.2.1
  have hAO := X.2.2.2.2.2.2.2.2.1
  have hNC := X.2.2.2.2.2.2.2.2.2.1
  unfold f_X3_size at hf
  refine lv_aload_n hx hb dX3_size_0 rfl (lv_at hl 0 rfl) ?_
  refine zw_kC hf (fun fs hfs hf => ?_)
  refine zw_goZ (rest := []) hw hf (fun r hr => va_runV (C := RX3) (As := []) (rest := []) X.1 (mt_X3_isFloats l D A h a0 r hr) (cwV 0 hts (lw_V q1106 q1107 q1108 q87 q1109) rfl rfl rfl ⟨rfl, cd_X3_isFloats⟩ ⟨Nat.le_of_ble_eq_true rfl, Nat.le_of_ble_eq_true rfl⟩) (zpreV (ci := 3) X hw hfs rfl _) rfl rfl hl.1 rfl (lv_room (Nat.le_of_ble_eq_true rfl)) dX3_size_1 ⟨Nat.le_of_ble_eq_true rfl, Nat.le_of_ble_eq_true rfl⟩) (fun r1 H locs hf hw => ?_)
  refine zw_if_eq (tgt := 18) hx hb hf dX3_size_4 (by decide) (fun hf => ?_) (fun hf => ?_)
  · refine lv_aload_n hx hb dX3_size_18 rfl (lv_at hl 0 rfl) ?_
    refine zw_getQ X hw fs_X3_0 q235 rfl hf dX3_size_19 (fun v2 hf => ?_)
    refine zw_nn hf (fun b3 e9 hf9 => ?_)
    subst e9
    have hf := hf9
    refine zw_castA (t := .short) X hw q1111 znm_S hf dX3_size_22 (fun hf => ?_)
    refine zw_alen X hw hf dX3_size_25 (fun v4 hf => ?_)
    exact zw_iret X hw hf (Nat.le_of_ble_eq_true rfl) (Nat.le_of_ble_eq_true rfl) dX3_size_26
  · refine lv_aload_n hx hb dX3_size_7 rfl (lv_at hl 0 rfl) ?_
    refine zw_getQ X hw fs_X3_0 q235 rfl hf dX3_size_8 (fun v5 hf => ?_)
    refine zw_nn hf (fun b6 e9 hf9 => ?_)
    subst e9
    have hf := hf9
    refine zw_castA (t := .float) X hw q1110 znm_F hf dX3_size_11 (fun hf => ?_)
    refine zw_alen X hw hf dX3_size_14 (fun v7 hf => ?_)
    refine lv_goto (tgt := 26) hx hb dX3_size_15 (by decide) ?_
    exact zw_iret X hw hf (Nat.le_of_ble_eq_true rfl) (Nat.le_of_ble_eq_true rfl) dX3_size_26
set_option maxHeartbeats 4000000 in
theorem mt_X3_put (l : Launch) (D : va_G) (A : Nat → Prop) (h : zT) (a0 : Nat) (i1 : Int32) (i2 : Int32) (res : zT) (hf : f_X3_put h a0 i1 i2 = some res) : Met l yX3_put (ws_ yX3_put cX3_put 3 (Option.none : Option FieldType)) rm_X3_put (zPW D A (zEv A) h [.ref a0, .int i1, .int i2]) (zQW D A none res) 0 0 A := by
  refine zmt (zEv_ok A) (by decide) (Nat.le_of_ble_eq_true rfl) ?_
  intro p e s m below meth c ls hmn X hw hl
  have hl : lv_has ls 3 [(0, .ref a0), (1, .int i1), (2, .int i2)] := hl
  have hx := X.1.1
  have hb := X.1.2.1
  have hown := X.1.2.2.2.1
  have hts := X.1.2.2.2.2
  have hN := X.2.2.2.2.2.2.1
  have hDW := X.2.2.2.2.2.2.2.1
  have hAO := X.2.2.2.2.2.2.2.2.1
  have hNC := X.2.2.2.2.2.2.2.2.2.1
  unfold f_X3_put at hf
  refine lv_aload_n hx hb dX3_put_0 rfl (lv_at hl 0 rfl) ?_
  refine zw_kC hf (fun fs hfs hf => ?_)
  refine zw_goZ (rest := []) hw hf (fun r hr => va_runV (C := RX3) (As := []) (rest := []) X.1 (mt_X3_isFloats l D A h a0 r hr) (cwV 0 hts (lw_V q1106 q1107 q1108 q87 q1109) rfl rfl rfl ⟨rfl, cd_X3_isFloats⟩ ⟨Nat.le_of_ble_eq_true rfl, Nat.le_of_ble_eq_true rfl⟩) (zpreV (ci := 3) X hw hfs rfl _) rfl rfl hl.1 rfl (lv_room (Nat.le_of_ble_eq_true rfl)) dX3_put_1 ⟨Nat.le_of_ble_eq_true rfl, Nat.le_of_ble_eq_true rfl⟩) (fun r1 H locs hf hw => ?_)
  refine zw_if_eq (tgt := 21) hx hb hf dX3_put_4 (by decide) (fun hf => ?_) (fun hf => ?_)
  · refine lv_aload_n hx hb dX3_put_21 rfl (lv_at hl 0 rfl) ?_
    refine zw_getQ X hw fs_X3_0 q235 rfl hf dX3_put_22 (fun v2 hf => ?_)
    refine zw_nn hf (fun b3 e9 hf9 => ?_)
    subst e9
    have hf := hf9
    refine zw_castA (t := .short) X hw q1111 znm_S hf dX3_put_25 (fun hf => ?_)
    refine lv_iload_n hx hb dX3_put_28 rfl (lv_at hl 1 rfl) ?_
    refine lv_iload_n hx hb dX3_put_29 rfl (lv_at hl 2 rfl) ?_
    refine lv_i2s hx hb dX3_put_30 rfl ?_
    refine zw_sastore X hw hf dX3_put_31 (fun h4 H locs hf hw => ?_)
    exact zw_vret X hw hf (Nat.le_of_ble_eq_true rfl) (Nat.le_of_ble_eq_true rfl) dX3_put_32
  · refine lv_aload_n hx hb dX3_put_7 rfl (lv_at hl 0 rfl) ?_
    refine zw_getQ X hw fs_X3_0 q235 rfl hf dX3_put_8 (fun v5 hf => ?_)
    refine zw_nn hf (fun b6 e9 hf9 => ?_)
    subst e9
    have hf := hf9
    refine zw_castA (t := .float) X hw q1110 znm_F hf dX3_put_11 (fun hf => ?_)
    refine lv_iload_n hx hb dX3_put_14 rfl (lv_at hl 1 rfl) ?_
    refine lv_iload_n hx hb dX3_put_15 rfl (lv_at hl 2 rfl) ?_
    refine lv_i2f hx hb dX3_put_16 ?_
    refine zw_fastore X hw hf dX3_put_17 (fun h7 H locs hf hw => ?_)
    refine lv_goto (tgt := 32) hx hb dX3_put_18 (by decide) ?_
    exact zw_vret X hw hf (Nat.le_of_ble_eq_true rfl) (Nat.le_of_ble_eq_true rfl) dX3_put_32
set_option maxHeartbeats 4000000 in
theorem mt_X3_isNumber (l : Launch) (D : va_G) (A : Nat → Prop) (h : zT) (a0 : Nat) (i1 : Int32) (res : Int32 × zT) (hf : f_X3_isNumber h a0 i1 = some res) : Met l yX3_isNumber (ws_ yX3_isNumber cX3_isNumber 2 (Option.some FieldType.boolean)) rm_X3_isNumber (zPW D A (zEv A) h [.ref a0, .int i1]) (zQW D A (some (.int res.1)) res.2) 0 0 A := by
  refine zmt (zEv_ok A) (by decide) (Nat.le_of_ble_eq_true rfl) ?_
  intro p e s m below meth c ls hmn X hw hl
  have hl : lv_has ls 2 [(0, .ref a0), (1, .int i1)] := hl
  have hx := X.1.1
  have hb := X.1.2.1
  have hown := X.1.2.2.2.1
  have hts := X.1.2.2.2.2
  have hN := X.2.2.2.2.2.2.1
  have hDW := X.2.2.2.2.2.2.2.1
  have hAO := X.2.2.2.2.2.2.2.2.1
  have hNC := X.2.2.2.2.2.2.2.2.2.1
  unfold f_X3_isNumber at hf
  refine lv_aload_n hx hb dX3_isNumber_0 rfl (lv_at hl 0 rfl) ?_
  refine zw_kC hf (fun fs hfs hf => ?_)
  refine zw_goZ (rest := []) hw hf (fun r hr => va_runV (C := RX3) (As := []) (rest := []) X.1 (mt_X3_isFloats l D A h a0 r hr) (cwV 0 hts (lw_V q1106 q1107 q1108 q87 q1109) rfl rfl rfl ⟨rfl, cd_X3_isFloats⟩ ⟨Nat.le_of_ble_eq_true rfl, Nat.le_of_ble_eq_true rfl⟩) (zpreV (ci := 3) X hw hfs rfl _) rfl rfl hl.1 rfl (lv_room (Nat.le_of_ble_eq_true rfl)) dX3_isNumber_1 ⟨Nat.le_of_ble_eq_true rfl, Nat.le_of_ble_eq_true rfl⟩) (fun r1 H locs hf hw => ?_)
  refine zw_if_eq (tgt := 29) hx hb hf dX3_isNumber_4 (by decide) (fun hf => ?_) (fun hf => ?_)
  · refine lv_iconst (v := (1 : Int32)) hx hb dX3_isNumber_29 (by decide) ?_
    refine lv_goto (tgt := 34) hx hb dX3_isNumber_30 (by decide) ?_
    exact zw_zret X hw hf (Nat.le_of_ble_eq_true rfl) (Nat.le_of_ble_eq_true rfl) dX3_isNumber_34
  · refine lv_aload_n hx hb dX3_isNumber_7 rfl (lv_at hl 0 rfl) ?_
    refine zw_getQ X hw fs_X3_0 q235 rfl hf dX3_isNumber_8 (fun v2 hf => ?_)
    refine zw_nn hf (fun b3 e9 hf9 => ?_)
    subst e9
    have hf := hf9
    refine zw_castA (t := .float) X hw q1110 znm_F hf dX3_isNumber_11 (fun hf => ?_)
    refine lv_iload_n hx hb dX3_isNumber_14 rfl (lv_at hl 1 rfl) ?_
    refine zw_faload X hw hf dX3_isNumber_15 (fun v4 hf => ?_)
    refine lv_aload_n hx hb dX3_isNumber_16 rfl (lv_at hl 0 rfl) ?_
    refine zw_getQ X hw fs_X3_0 q235 rfl hf dX3_isNumber_17 (fun v5 hf => ?_)
    refine zw_nn hf (fun b6 e9 hf9 => ?_)
    subst e9
    have hf := hf9
    refine zw_castA (t := .float) X hw q1110 znm_F hf dX3_isNumber_20 (fun hf => ?_)
    refine lv_iload_n hx hb dX3_isNumber_23 rfl (lv_at hl 1 rfl) ?_
    refine zw_faload X hw hf dX3_isNumber_24 (fun v7 hf => ?_)
    refine lv_fcmp hx hb dX3_isNumber_25 ?_
    refine zw_if_ne (tgt := 33) hx hb hf dX3_isNumber_26 (by decide) (fun hf => ?_) (fun hf => ?_)
    · refine lv_iconst (v := (0 : Int32)) hx hb dX3_isNumber_33 (by decide) ?_
      exact zw_zret X hw hf (Nat.le_of_ble_eq_true rfl) (Nat.le_of_ble_eq_true rfl) dX3_isNumber_34
    · refine lv_iconst (v := (1 : Int32)) hx hb dX3_isNumber_29 (by decide) ?_
      refine lv_goto (tgt := 34) hx hb dX3_isNumber_30 (by decide) ?_
      exact zw_zret X hw hf (Nat.le_of_ble_eq_true rfl) (Nat.le_of_ble_eq_true rfl) dX3_isNumber_34
