/-! StoneSheetsModel: the walks (gen/model.py) -/
set_option maxRecDepth 100000
set_option maxHeartbeats 4000000 in
theorem k_X5_worked_4 {p : Program} {l : Launch} {e : Env} {s : State} {m : MethodId} {args : Array Value} {below : List Frame} {meth : Method} {c : Code} {D : va_G} {A : Nat → Prop} {E : State → Prop} (X : zCx p s m args meth c D A E cX5_worked 6 RX5 (Option.some FieldType.int)) (res : Int32 × zT) : ∀ (n : Nat), ∀ (h : zT) (a0 : Nat) (i1 : Int32) (i2 : Int32) (i3 : Int32) (H : Heap) (locs : List Loc) (ls : Array Slot), f_X5_worked_4 n h a0 i1 i2 i3 = some res → zWh D A s H h locs → lv_has ls 6 [(0, .ref a0), (1, .int i1), (2, .int i2), (3, .int i3)] → W p l e rm_X5_worked s m args below meth c H locs 0 0 (MQ below (zQW D A (some (.int res.1)) res.2) args s 0 0 A) (F0 m 4 ls []) := by
  have hx := X.1.1
  have hb := X.1.2.1
  have hown := X.1.2.2.2.1
  have hts := X.1.2.2.2.2
  intro n
  induction n with
  | zero =>
    intro h a0 i1 i2 i3 H locs ls hf hw hl
    cases hf
  | succ n ih =>
    intro h a0 i1 i2 i3 H locs ls hf hw hl
    unfold f_X5_worked_4 at hf
    refine lv_iload_n hx hb dX5_worked_4 rfl (lv_at hl 3 rfl) ?_
    refine lv_aload_n hx hb dX5_worked_5 rfl (lv_at hl 0 rfl) ?_
    refine zw_getR X hw fs_X5_0 q1270 rfl hf dX5_worked_6 (fun v1 hf => ?_)
    refine lv_aload_n hx hb dX5_worked_9 rfl (lv_at hl 0 rfl) ?_
    refine lv_iload_n hx hb dX5_worked_10 rfl (lv_at hl 1 rfl) ?_
    refine zw_cVI (rest := [.ref v1, .int i3]) [.int i1] X hw hl.1 hf rfl rfl (fun r hr => mt_X5_textAt l D A E X.2.2.2.2.2.1 h a0 i1 r hr) (lw_V q1416 q1418 qs44 q89 q1419) cd_X5_textAt ⟨rfl, rfl⟩ ⟨Nat.le_of_ble_eq_true rfl, Nat.le_of_ble_eq_true rfl⟩ rfl rfl (Nat.le_of_ble_eq_true rfl) dX5_worked_11 ⟨Nat.le_of_ble_eq_true rfl, Nat.le_of_ble_eq_true rfl⟩ (fun r2 H locs hf hw => ?_)
    refine lv_iconst (v := (2 : Int32)) hx hb dX5_worked_14 (by decide) ?_
    refine lv_iadd hx hb dX5_worked_15 ?_
    refine zw_ialoadR X hw hf dX5_worked_16 (fun v3 hf => ?_)
    refine zw_icmp_ge (tgt := 163) hx hb hf dX5_worked_17 (by decide) (fun hf => ?_) (fun hf => ?_)
    · refine lv_aload_n hx hb dX5_worked_163 rfl (lv_at hl 0 rfl) ?_
      refine zw_getR X hw fs_X5_27 q1297 rfl hf dX5_worked_164 (fun v4 hf => ?_)
      refine lv_iconst (v := (0 : Int32)) hx hb dX5_worked_167 (by decide) ?_
      refine zw_ialoadR X hw hf dX5_worked_168 (fun v5 hf => ?_)
      exact zw_iret X hw hf (Nat.le_of_ble_eq_true rfl) (Nat.le_of_ble_eq_true rfl) dX5_worked_169
    · refine lv_aload_n hx hb dX5_worked_20 rfl (lv_at hl 0 rfl) ?_
      refine zw_getR X hw fs_X5_0 q1270 rfl hf dX5_worked_21 (fun v6 hf => ?_)
      refine lv_aload_n hx hb dX5_worked_24 rfl (lv_at hl 0 rfl) ?_
      refine lv_iload_n hx hb dX5_worked_25 rfl (lv_at hl 1 rfl) ?_
      refine zw_cVI (rest := [.ref v6]) [.int i1] X hw hl.1 hf rfl rfl (fun r hr => mt_X5_textAt l D A E X.2.2.2.2.2.1 r2.2 a0 i1 r hr) (lw_V q1416 q1418 qs44 q89 q1419) cd_X5_textAt ⟨rfl, rfl⟩ ⟨Nat.le_of_ble_eq_true rfl, Nat.le_of_ble_eq_true rfl⟩ rfl rfl (Nat.le_of_ble_eq_true rfl) dX5_worked_26 ⟨Nat.le_of_ble_eq_true rfl, Nat.le_of_ble_eq_true rfl⟩ (fun r7 H locs hf hw => ?_)
      refine lv_iconst (v := (4 : Int32)) hx hb dX5_worked_29 (by decide) ?_
      refine lv_iadd hx hb dX5_worked_30 ?_
      refine lv_iconst (v := (2 : Int32)) hx hb dX5_worked_31 (by decide) ?_
      refine lv_iload_n hx hb dX5_worked_32 rfl (lv_at hl 3 rfl) ?_
      refine lv_imul hx hb dX5_worked_33 ?_
      refine lv_iadd hx hb dX5_worked_34 ?_
      refine zw_ialoadR X hw hf dX5_worked_35 (fun v8 hf => ?_)
      refine lv_istore (lv' := [(4, .int v8), (0, .ref a0), (1, .int i1), (2, .int i2), (3, .int i3)]) hx hb dX5_worked_36 hl (by decide) rfl (fun ls hl => ?_)
      refine lv_aload_n hx hb dX5_worked_38 rfl (lv_at hl 1 rfl) ?_
      refine zw_getR X hw fs_X5_0 q1270 rfl hf dX5_worked_39 (fun v9 hf => ?_)
      refine lv_aload_n hx hb dX5_worked_42 rfl (lv_at hl 1 rfl) ?_
      refine lv_iload_n hx hb dX5_worked_43 rfl (lv_at hl 2 rfl) ?_
      refine zw_cVI (rest := [.ref v9]) [.int i1] X hw hl.1 hf rfl rfl (fun r hr => mt_X5_textAt l D A E X.2.2.2.2.2.1 r7.2 a0 i1 r hr) (lw_V q1416 q1418 qs44 q89 q1419) cd_X5_textAt ⟨rfl, rfl⟩ ⟨Nat.le_of_ble_eq_true rfl, Nat.le_of_ble_eq_true rfl⟩ rfl rfl (Nat.le_of_ble_eq_true rfl) dX5_worked_44 ⟨Nat.le_of_ble_eq_true rfl, Nat.le_of_ble_eq_true rfl⟩ (fun r10 H locs hf hw => ?_)
      refine lv_iconst (v := (4 : Int32)) hx hb dX5_worked_47 (by decide) ?_
      refine lv_iadd hx hb dX5_worked_48 ?_
      refine lv_iconst (v := (2 : Int32)) hx hb dX5_worked_49 (by decide) ?_
      refine lv_iload_n hx hb dX5_worked_50 rfl (lv_at hl 4 rfl) ?_
      refine lv_imul hx hb dX5_worked_51 ?_
      refine lv_iadd hx hb dX5_worked_52 ?_
      refine lv_iconst (v := (1 : Int32)) hx hb dX5_worked_53 (by decide) ?_
      refine lv_iadd hx hb dX5_worked_54 ?_
      refine zw_ialoadR X hw hf dX5_worked_55 (fun v11 hf => ?_)
      refine lv_istore (lv' := [(5, .int v11), (4, .int v8), (0, .ref a0), (1, .int i1), (2, .int i2), (3, .int i3)]) hx hb dX5_worked_56 hl (by decide) rfl (fun ls hl => ?_)
      refine lv_iload hx hb dX5_worked_58 (lv_at hl 1 rfl) ?_
      refine lv_iconst (v := (2 : Int32)) hx hb dX5_worked_60 (by decide) ?_
      refine zw_icmp_eq (tgt := 93) hx hb hf dX5_worked_61 (by decide) (fun hf => ?_) (fun hf => ?_)
      · refine lv_iload hx hb dX5_worked_93 (lv_at hl 0 rfl) ?_
        refine lv_bipush (v := (33 : Int32)) hx hb dX5_worked_95 (by decide) ?_
        refine zw_icmp_ne (tgt := 127) hx hb hf dX5_worked_97 (by decide) (fun hf => ?_) (fun hf => ?_)
        · refine zw_nmS hf (fun v12 ev12 hf => ?_)
          refine lv_iinc (k := 4) (v := v12) (lv' := [(2, .int v12), (5, .int v11), (4, .int v8), (0, .ref a0), (1, .int i1), (3, .int i3)]) hx hb dX5_worked_127 hl rfl (by rw [ev12]; rfl) (by decide) rfl (fun ls hl => ?_)
          refine lv_aload_n hx hb dX5_worked_130 rfl (lv_at hl 3 rfl) ?_
          refine zw_getR X hw fs_X5_27 q1297 rfl hf dX5_worked_131 (fun v13 hf => ?_)
          refine lv_iload_n hx hb dX5_worked_134 rfl (lv_at hl 0 rfl) ?_
          refine lv_iconst (v := (1 : Int32)) hx hb dX5_worked_135 (by decide) ?_
          refine lv_isub hx hb dX5_worked_136 ?_
          refine lv_iload hx hb dX5_worked_137 (lv_at hl 1 rfl) ?_
          refine lv_aload_n hx hb dX5_worked_139 rfl (lv_at hl 3 rfl) ?_
          refine zw_getR X hw fs_X5_27 q1297 rfl hf dX5_worked_140 (fun v14 hf => ?_)
          refine lv_iload_n hx hb dX5_worked_143 rfl (lv_at hl 0 rfl) ?_
          refine lv_iconst (v := (1 : Int32)) hx hb dX5_worked_144 (by decide) ?_
          refine lv_isub hx hb dX5_worked_145 ?_
          refine zw_ialoadR X hw hf dX5_worked_146 (fun v15 hf => ?_)
          refine lv_aload_n hx hb dX5_worked_147 rfl (lv_at hl 3 rfl) ?_
          refine zw_getR X hw fs_X5_27 q1297 rfl hf dX5_worked_148 (fun v16 hf => ?_)
          refine lv_iload_n hx hb dX5_worked_151 rfl (lv_at hl 0 rfl) ?_
          refine zw_ialoadR X hw hf dX5_worked_152 (fun v17 hf => ?_)
          refine zw_cSI (rest := [.int (v12 - (1 : Int32)), .ref v13]) [.int v11, .int v15, .int v17] X hw hl.1 hf (fun r hr => mt_X5_joined l D A E X.2.2.2.2.2.1 r10.2 v11 v15 v17 r hr) (lw_S q1424 q1425 q89 q1426) cd_X5_joined ⟨rfl, rfl⟩ ⟨Nat.le_of_ble_eq_true rfl, Nat.le_of_ble_eq_true rfl⟩ rfl rfl (Nat.le_of_ble_eq_true rfl) dX5_worked_153 ⟨Nat.le_of_ble_eq_true rfl, Nat.le_of_ble_eq_true rfl⟩ (fun r18 H locs hf hw => ?_)
          refine zw_iastore X hw hf dX5_worked_156 (fun h19 H locs hf hw => ?_)
          refine zw_nmS hf (fun v20 ev20 hf => ?_)
          refine lv_iinc (k := 5) (v := v20) (lv' := [(3, .int v20), (2, .int v12), (5, .int v11), (4, .int v8), (0, .ref a0), (1, .int i1)]) hx hb dX5_worked_157 hl rfl (by rw [ev20]; rfl) (by decide) rfl (fun ls hl => ?_)
          refine lv_goto (tgt := 4) hx hb dX5_worked_160 (by decide) ?_
          exact ih h19 a0 i1 v12 v20 _ _ _ hf hw (lv_sub hl [4, 5, 1, 0] rfl)
        · refine lv_aload_n hx hb dX5_worked_100 rfl (lv_at hl 2 rfl) ?_
          refine zw_getR X hw fs_X5_27 q1297 rfl hf dX5_worked_101 (fun v21 hf => ?_)
          refine lv_iload_n hx hb dX5_worked_104 rfl (lv_at hl 4 rfl) ?_
          refine lv_iconst (v := (1 : Int32)) hx hb dX5_worked_105 (by decide) ?_
          refine lv_isub hx hb dX5_worked_106 ?_
          refine lv_aload_n hx hb dX5_worked_107 rfl (lv_at hl 2 rfl) ?_
          refine zw_getR X hw fs_X5_27 q1297 rfl hf dX5_worked_108 (fun v22 hf => ?_)
          refine lv_iload_n hx hb dX5_worked_111 rfl (lv_at hl 4 rfl) ?_
          refine lv_iconst (v := (1 : Int32)) hx hb dX5_worked_112 (by decide) ?_
          refine lv_isub hx hb dX5_worked_113 ?_
          refine zw_ialoadR X hw hf dX5_worked_114 (fun v23 hf => ?_)
          refine zw_if_ne (tgt := 122) hx hb hf dX5_worked_115 (by decide) (fun hf => ?_) (fun hf => ?_)
          · refine lv_iconst (v := (0 : Int32)) hx hb dX5_worked_122 (by decide) ?_
            refine zw_iastore X hw hf dX5_worked_123 (fun h24 H locs hf hw => ?_)
            refine lv_goto (tgt := 157) hx hb dX5_worked_124 (by decide) ?_
            refine zw_nmS hf (fun v25 ev25 hf => ?_)
            refine lv_iinc (k := 5) (v := v25) (lv' := [(3, .int v25), (5, .int v11), (4, .int v8), (0, .ref a0), (1, .int i1), (2, .int i2)]) hx hb dX5_worked_157 hl rfl (by rw [ev25]; rfl) (by decide) rfl (fun ls hl => ?_)
            refine lv_goto (tgt := 4) hx hb dX5_worked_160 (by decide) ?_
            exact ih h24 a0 i1 i2 v25 _ _ _ hf hw (lv_sub hl [3, 4, 5, 0] rfl)
          · refine lv_iconst (v := (1 : Int32)) hx hb dX5_worked_118 (by decide) ?_
            refine lv_goto (tgt := 123) hx hb dX5_worked_119 (by decide) ?_
            refine zw_iastore X hw hf dX5_worked_123 (fun h26 H locs hf hw => ?_)
            refine lv_goto (tgt := 157) hx hb dX5_worked_124 (by decide) ?_
            refine zw_nmS hf (fun v27 ev27 hf => ?_)
            refine lv_iinc (k := 5) (v := v27) (lv' := [(3, .int v27), (5, .int v11), (4, .int v8), (0, .ref a0), (1, .int i1), (2, .int i2)]) hx hb dX5_worked_157 hl rfl (by rw [ev27]; rfl) (by decide) rfl (fun ls hl => ?_)
            refine lv_goto (tgt := 4) hx hb dX5_worked_160 (by decide) ?_
            exact ih h26 a0 i1 i2 v27 _ _ _ hf hw (lv_sub hl [3, 4, 5, 0] rfl)
      · refine lv_aload_n hx hb dX5_worked_64 rfl (lv_at hl 2 rfl) ?_
        refine zw_getR X hw fs_X5_27 q1297 rfl hf dX5_worked_65 (fun v28 hf => ?_)
        refine lv_iload_n hx hb dX5_worked_68 rfl (lv_at hl 4 rfl) ?_
        refine lv_iload hx hb dX5_worked_69 (lv_at hl 1 rfl) ?_
        refine zw_if_ne (tgt := 79) hx hb hf dX5_worked_71 (by decide) (fun hf => ?_) (fun hf => ?_)
        · refine lv_aload_n hx hb dX5_worked_79 rfl (lv_at hl 2 rfl) ?_
          refine zw_getR X hw fs_X5_26 q1296 rfl hf dX5_worked_80 (fun v29 hf => ?_)
          refine lv_iload hx hb dX5_worked_83 (lv_at hl 0 rfl) ?_
          refine zw_ialoadR X hw hf dX5_worked_85 (fun v30 hf => ?_)
          refine zw_iastore X hw hf dX5_worked_86 (fun h31 H locs hf hw => ?_)
          refine zw_nmS hf (fun v32 ev32 hf => ?_)
          refine lv_iinc (k := 4) (v := v32) (lv' := [(2, .int v32), (5, .int v11), (4, .int v8), (0, .ref a0), (1, .int i1), (3, .int i3)]) hx hb dX5_worked_87 hl rfl (by rw [ev32]; rfl) (by decide) rfl (fun ls hl => ?_)
          refine lv_goto (tgt := 157) hx hb dX5_worked_90 (by decide) ?_
          refine zw_nmS hf (fun v33 ev33 hf => ?_)
          refine lv_iinc (k := 5) (v := v33) (lv' := [(3, .int v33), (2, .int v32), (5, .int v11), (4, .int v8), (0, .ref a0), (1, .int i1)]) hx hb dX5_worked_157 hl rfl (by rw [ev33]; rfl) (by decide) rfl (fun ls hl => ?_)
          refine lv_goto (tgt := 4) hx hb dX5_worked_160 (by decide) ?_
          exact ih h31 a0 i1 v32 v33 _ _ _ hf hw (lv_sub hl [4, 5, 1, 0] rfl)
        · refine lv_iload hx hb dX5_worked_74 (lv_at hl 0 rfl) ?_
          refine lv_goto (tgt := 86) hx hb dX5_worked_76 (by decide) ?_
          refine zw_iastore X hw hf dX5_worked_86 (fun h34 H locs hf hw => ?_)
          refine zw_nmS hf (fun v35 ev35 hf => ?_)
          refine lv_iinc (k := 4) (v := v35) (lv' := [(2, .int v35), (5, .int v11), (4, .int v8), (0, .ref a0), (1, .int i1), (3, .int i3)]) hx hb dX5_worked_87 hl rfl (by rw [ev35]; rfl) (by decide) rfl (fun ls hl => ?_)
          refine lv_goto (tgt := 157) hx hb dX5_worked_90 (by decide) ?_
          refine zw_nmS hf (fun v36 ev36 hf => ?_)
          refine lv_iinc (k := 5) (v := v36) (lv' := [(3, .int v36), (2, .int v35), (5, .int v11), (4, .int v8), (0, .ref a0), (1, .int i1)]) hx hb dX5_worked_157 hl rfl (by rw [ev36]; rfl) (by decide) rfl (fun ls hl => ?_)
          refine lv_goto (tgt := 4) hx hb dX5_worked_160 (by decide) ?_
          exact ih h34 a0 i1 v35 v36 _ _ _ hf hw (lv_sub hl [4, 5, 1, 0] rfl)
set_option maxHeartbeats 4000000 in
theorem mt_X5_worked (l : Launch) (D : va_G) (A : Nat → Prop) (E : State → Prop) (hE : zEok A E) (h : zT) (a0 : Nat) (i1 : Int32) (res : Int32 × zT) (hf : f_X5_worked h a0 i1 = some res) : Met l yX5_worked (ws_ yX5_worked cX5_worked 6 (Option.some FieldType.int)) rm_X5_worked (zPW D A E h [.ref a0, .int i1]) (zQW D A (some (.int res.1)) res.2) 0 0 A := by
  refine zmt hE (by decide) (Nat.le_of_ble_eq_true rfl) ?_
  intro p e s m below meth c ls hmn X hw hl
  have hl : lv_has ls 6 [(0, .ref a0), (1, .int i1)] := hl
  have hx := X.1.1
  have hb := X.1.2.1
  have hown := X.1.2.2.2.1
  have hts := X.1.2.2.2.2
  unfold f_X5_worked at hf
  refine lv_iconst (v := (0 : Int32)) hx hb dX5_worked_0 (by decide) ?_
  refine lv_istore_n (lv' := [(2, .int (0 : Int32)), (0, .ref a0), (1, .int i1)]) hx hb dX5_worked_1 rfl hl (by decide) rfl (fun ls hl => ?_)
  refine lv_iconst (v := (0 : Int32)) hx hb dX5_worked_2 (by decide) ?_
  refine lv_istore_n (lv' := [(3, .int (0 : Int32)), (2, .int (0 : Int32)), (0, .ref a0), (1, .int i1)]) hx hb dX5_worked_3 rfl hl (by decide) rfl (fun ls hl => ?_)
  exact k_X5_worked_4 X _ 4096 h a0 i1 (0 : Int32) (0 : Int32) _ _ _ hf hw (lv_sub hl [2, 3, 1, 0] rfl)
set_option maxHeartbeats 4000000 in
theorem k_X5_gains_62 {p : Program} {l : Launch} {e : Env} {s : State} {m : MethodId} {args : Array Value} {below : List Frame} {meth : Method} {c : Code} {D : va_G} {A : Nat → Prop} {E : State → Prop} (X : zCx p s m args meth c D A E cX5_gains 4 RX5 (Option.some FieldType.int)) (res : Int32 × zT) : ∀ (h : zT) (a0 : Nat) (i1 : Int32) (i2 : Int32) (H : Heap) (locs : List Loc) (ls : Array Slot), f_X5_gains_62 h a0 i1 i2 = some res → zWh D A s H h locs → lv_has ls 4 [(0, .ref a0), (1, .int i1), (2, .int i2)] → W p l e rm_X5_gains s m args below meth c H locs 0 0 (MQ below (zQW D A (some (.int res.1)) res.2) args s 0 0 A) (F0 m 62 ls []) := by
  have hx := X.1.1
  have hb := X.1.2.1
  have hown := X.1.2.2.2.1
  have hts := X.1.2.2.2.2
  intro h a0 i1 i2 H locs ls hf hw hl
  unfold f_X5_gains_62 at hf
  refine lv_aload_n hx hb dX5_gains_62 rfl (lv_at hl 0 rfl) ?_
  refine lv_iload_n hx hb dX5_gains_63 rfl (lv_at hl 1 rfl) ?_
  refine lv_iconst (v := (0 : Int32)) hx hb dX5_gains_64 (by decide) ?_
  refine zw_cVI (rest := []) [.int i1, .int (0 : Int32)] X hw hl.1 hf rfl rfl (fun r hr => mt_X5_of l D A E X.2.2.2.2.2.1 h a0 i1 (0 : Int32) r hr) (lw_V q1395 q1397 qs39 q89 q1398) cd_X5_of ⟨rfl, rfl⟩ ⟨Nat.le_of_ble_eq_true rfl, Nat.le_of_ble_eq_true rfl⟩ rfl rfl (Nat.le_of_ble_eq_true rfl) dX5_gains_65 ⟨Nat.le_of_ble_eq_true rfl, Nat.le_of_ble_eq_true rfl⟩ (fun r1 H locs hf hw => ?_)
  refine zw_case hf (fun c1001 hf => ?_) (fun c1001 hf => ?_)
  · refine zw_tableIn (off := 36) (tgt := 104) hx hb c1001 dX5_gains_68 (by decide) (by decide) rfl (by decide) ?_
    refine lv_iload_n hx hb dX5_gains_104 rfl (lv_at hl 2 rfl) ?_
    refine lv_iconst (v := (1 : Int32)) hx hb dX5_gains_105 (by decide) ?_
    refine lv_iadd hx hb dX5_gains_106 ?_
    exact zw_iret X hw hf (Nat.le_of_ble_eq_true rfl) (Nat.le_of_ble_eq_true rfl) dX5_gains_107
  · refine zw_case hf (fun c1002 hf => ?_) (fun c1002 hf => ?_)
    · refine zw_tableIn (off := 40) (tgt := 108) hx hb c1002 dX5_gains_68 (by decide) (by decide) rfl (by decide) ?_
      refine lv_iload_n hx hb dX5_gains_108 rfl (lv_at hl 2 rfl) ?_
      refine lv_iconst (v := (2 : Int32)) hx hb dX5_gains_109 (by decide) ?_
      refine lv_idiv hx hb dX5_gains_110 (by decide) ?_
      exact zw_iret X hw hf (Nat.le_of_ble_eq_true rfl) (Nat.le_of_ble_eq_true rfl) dX5_gains_111
    · refine zw_case hf (fun c1003 hf => ?_) (fun c1003 hf => ?_)
      · refine zw_tableIn (off := 36) (tgt := 104) hx hb c1003 dX5_gains_68 (by decide) (by decide) rfl (by decide) ?_
        refine lv_iload_n hx hb dX5_gains_104 rfl (lv_at hl 2 rfl) ?_
        refine lv_iconst (v := (1 : Int32)) hx hb dX5_gains_105 (by decide) ?_
        refine lv_iadd hx hb dX5_gains_106 ?_
        exact zw_iret X hw hf (Nat.le_of_ble_eq_true rfl) (Nat.le_of_ble_eq_true rfl) dX5_gains_107
      · refine zw_case hf (fun c1004 hf => ?_) (fun c1004 hf => ?_)
        · refine zw_tableIn (off := 44) (tgt := 112) hx hb c1004 dX5_gains_68 (by decide) (by decide) rfl (by decide) ?_
          refine lv_iload_n hx hb dX5_gains_112 rfl (lv_at hl 2 rfl) ?_
          refine lv_iconst (v := (2 : Int32)) hx hb dX5_gains_113 (by decide) ?_
          refine lv_idiv hx hb dX5_gains_114 (by decide) ?_
          refine lv_iconst (v := (2 : Int32)) hx hb dX5_gains_115 (by decide) ?_
          refine lv_iadd hx hb dX5_gains_116 ?_
          exact zw_iret X hw hf (Nat.le_of_ble_eq_true rfl) (Nat.le_of_ble_eq_true rfl) dX5_gains_117
        · refine zw_case hf (fun c1005 hf => ?_) (fun c1005 hf => ?_)
          · refine zw_tableIn (off := 50) (tgt := 118) hx hb c1005 dX5_gains_68 (by decide) (by decide) rfl (by decide) ?_
            refine lv_iconst (v := (0 : Int32)) hx hb dX5_gains_118 (by decide) ?_
            exact zw_iret X hw hf (Nat.le_of_ble_eq_true rfl) (Nat.le_of_ble_eq_true rfl) dX5_gains_119
          · refine lv_tableOut (tgt := 120) hx hb dX5_gains_68 (by have := lv_neT c1001 (a := 1) (by decide); have := lv_neT c1002 (a := 2) (by decide); have := lv_neT c1003 (a := 3) (by decide); have := lv_neT c1004 (a := 4) (by decide); have := lv_neT c1005 (a := 5) (by decide); omega) (by decide) ?_
            refine lv_iload_n hx hb dX5_gains_120 rfl (lv_at hl 2 rfl) ?_
            exact zw_iret X hw hf (Nat.le_of_ble_eq_true rfl) (Nat.le_of_ble_eq_true rfl) dX5_gains_121
set_option maxHeartbeats 4000000 in
theorem mt_X5_gains (l : Launch) (D : va_G) (A : Nat → Prop) (E : State → Prop) (hE : zEok A E) (h : zT) (a0 : Nat) (i1 : Int32) (res : Int32 × zT) (hf : f_X5_gains h a0 i1 = some res) : Met l yX5_gains (ws_ yX5_gains cX5_gains 4 (Option.some FieldType.int)) rm_X5_gains (zPW D A E h [.ref a0, .int i1]) (zQW D A (some (.int res.1)) res.2) 0 0 A := by
  refine zmt hE (by decide) (Nat.le_of_ble_eq_true rfl) ?_
  intro p e s m below meth c ls hmn X hw hl
  have hl : lv_has ls 4 [(0, .ref a0), (1, .int i1)] := hl
  have hx := X.1.1
  have hb := X.1.2.1
  have hown := X.1.2.2.2.1
  have hts := X.1.2.2.2.2
  unfold f_X5_gains at hf
  refine lv_iconst (v := (3 : Int32)) hx hb dX5_gains_0 (by decide) ?_
  refine lv_istore_n (lv' := [(2, .int (3 : Int32)), (0, .ref a0), (1, .int i1)]) hx hb dX5_gains_1 rfl hl (by decide) rfl (fun ls hl => ?_)
  refine lv_aload_n hx hb dX5_gains_2 rfl (lv_at hl 1 rfl) ?_
  refine lv_iconst (v := (0 : Int32)) hx hb dX5_gains_3 (by decide) ?_
  refine zw_cVI (rest := []) [.int (0 : Int32)] X hw hl.1 hf rfl rfl (fun r hr => mt_X5_counts l D A E X.2.2.2.2.2.1 h a0 (0 : Int32) r hr) (lw_V q1412 q1414 qs43 q89 q1415) cd_X5_counts ⟨rfl, rfl⟩ ⟨Nat.le_of_ble_eq_true rfl, Nat.le_of_ble_eq_true rfl⟩ rfl rfl (Nat.le_of_ble_eq_true rfl) dX5_gains_4 ⟨Nat.le_of_ble_eq_true rfl, Nat.le_of_ble_eq_true rfl⟩ (fun r1 H locs hf hw => ?_)
  refine lv_istore_n (lv' := [(3, .int r1.1), (2, .int (3 : Int32)), (0, .ref a0), (1, .int i1)]) hx hb dX5_gains_7 rfl hl (by decide) rfl (fun ls hl => ?_)
  refine lv_iload_n hx hb dX5_gains_8 rfl (lv_at hl 0 rfl) ?_
  refine zw_if_lt (tgt := 62) hx hb hf dX5_gains_9 (by decide) (fun hf => ?_) (fun hf => ?_)
  · exact k_X5_gains_62 X _ r1.2 a0 i1 (3 : Int32) _ _ _ hf hw (lv_sub hl [2, 3, 1] rfl)
  · refine lv_aload_n hx hb dX5_gains_12 rfl (lv_at hl 2 rfl) ?_
    refine zw_getR X hw fs_X5_26 q1296 rfl hf dX5_gains_13 (fun v2 hf => ?_)
    refine lv_bipush (v := (116 : Int32)) hx hb dX5_gains_16 (by decide) ?_
    refine lv_aload_n hx hb dX5_gains_18 rfl (lv_at hl 2 rfl) ?_
    refine lv_iload_n hx hb dX5_gains_19 rfl (lv_at hl 3 rfl) ?_
    refine lv_iconst (v := (5 : Int32)) hx hb dX5_gains_20 (by decide) ?_
    refine zw_cVI (rest := [.int (116 : Int32), .ref v2]) [.int i1, .int (5 : Int32)] X hw hl.1 hf rfl rfl (fun r hr => mt_X5_of l D A E X.2.2.2.2.2.1 r1.2 a0 i1 (5 : Int32) r hr) (lw_V q1395 q1397 qs39 q89 q1398) cd_X5_of ⟨rfl, rfl⟩ ⟨Nat.le_of_ble_eq_true rfl, Nat.le_of_ble_eq_true rfl⟩ rfl rfl (Nat.le_of_ble_eq_true rfl) dX5_gains_21 ⟨Nat.le_of_ble_eq_true rfl, Nat.le_of_ble_eq_true rfl⟩ (fun r3 H locs hf hw => ?_)
    refine zw_iastore X hw hf dX5_gains_24 (fun h4 H locs hf hw => ?_)
    refine lv_aload_n hx hb dX5_gains_25 rfl (lv_at hl 2 rfl) ?_
    refine zw_getR X hw fs_X5_26 q1296 rfl hf dX5_gains_26 (fun v5 hf => ?_)
    refine lv_bipush (v := (115 : Int32)) hx hb dX5_gains_29 (by decide) ?_
    refine lv_aload_n hx hb dX5_gains_31 rfl (lv_at hl 2 rfl) ?_
    refine lv_iload_n hx hb dX5_gains_32 rfl (lv_at hl 3 rfl) ?_
    refine lv_iconst (v := (2 : Int32)) hx hb dX5_gains_33 (by decide) ?_
    refine zw_cVI (rest := [.int (115 : Int32), .ref v5]) [.int i1, .int (2 : Int32)] X hw hl.1 hf rfl rfl (fun r hr => mt_X5_of l D A E X.2.2.2.2.2.1 h4 a0 i1 (2 : Int32) r hr) (lw_V q1395 q1397 qs39 q89 q1398) cd_X5_of ⟨rfl, rfl⟩ ⟨Nat.le_of_ble_eq_true rfl, Nat.le_of_ble_eq_true rfl⟩ rfl rfl (Nat.le_of_ble_eq_true rfl) dX5_gains_34 ⟨Nat.le_of_ble_eq_true rfl, Nat.le_of_ble_eq_true rfl⟩ (fun r6 H locs hf hw => ?_)
    refine zw_iastore X hw hf dX5_gains_37 (fun h7 H locs hf hw => ?_)
    refine lv_aload_n hx hb dX5_gains_38 rfl (lv_at hl 2 rfl) ?_
    refine zw_getR X hw fs_X5_26 q1296 rfl hf dX5_gains_39 (fun v8 hf => ?_)
    refine lv_bipush (v := (108 : Int32)) hx hb dX5_gains_42 (by decide) ?_
    refine lv_aload_n hx hb dX5_gains_44 rfl (lv_at hl 2 rfl) ?_
    refine lv_iload_n hx hb dX5_gains_45 rfl (lv_at hl 3 rfl) ?_
    refine lv_iconst (v := (4 : Int32)) hx hb dX5_gains_46 (by decide) ?_
    refine zw_cVI (rest := [.int (108 : Int32), .ref v8]) [.int i1, .int (4 : Int32)] X hw hl.1 hf rfl rfl (fun r hr => mt_X5_of l D A E X.2.2.2.2.2.1 h7 a0 i1 (4 : Int32) r hr) (lw_V q1395 q1397 qs39 q89 q1398) cd_X5_of ⟨rfl, rfl⟩ ⟨Nat.le_of_ble_eq_true rfl, Nat.le_of_ble_eq_true rfl⟩ rfl rfl (Nat.le_of_ble_eq_true rfl) dX5_gains_47 ⟨Nat.le_of_ble_eq_true rfl, Nat.le_of_ble_eq_true rfl⟩ (fun r9 H locs hf hw => ?_)
    refine zw_iastore X hw hf dX5_gains_50 (fun h10 H locs hf hw => ?_)
    refine lv_aload_n hx hb dX5_gains_51 rfl (lv_at hl 2 rfl) ?_
    refine lv_iload_n hx hb dX5_gains_52 rfl (lv_at hl 0 rfl) ?_
    refine zw_cVI (rest := []) [.int r1.1] X hw hl.1 hf rfl rfl (fun r hr => mt_X5_worked l D A E X.2.2.2.2.2.1 h10 a0 r1.1 r hr) (lw_V q1420 q1422 qs45 q89 q1423) cd_X5_worked ⟨rfl, rfl⟩ ⟨Nat.le_of_ble_eq_true rfl, Nat.le_of_ble_eq_true rfl⟩ rfl rfl (Nat.le_of_ble_eq_true rfl) dX5_gains_53 ⟨Nat.le_of_ble_eq_true rfl, Nat.le_of_ble_eq_true rfl⟩ (fun r11 H locs hf hw => ?_)
    refine lv_bipush (v := (99 : Int32)) hx hb dX5_gains_56 (by decide) ?_
    refine zw_cSI (rest := []) [.int r11.1, .int (99 : Int32)] X hw hl.1 hf (fun r hr => mt_X5_within l D A E X.2.2.2.2.2.1 r11.2 r11.1 (99 : Int32) r hr) (lw_S q1427 q1428 q89 q1429) cd_X5_within ⟨rfl, rfl⟩ ⟨Nat.le_of_ble_eq_true rfl, Nat.le_of_ble_eq_true rfl⟩ rfl rfl (Nat.le_of_ble_eq_true rfl) dX5_gains_58 ⟨Nat.le_of_ble_eq_true rfl, Nat.le_of_ble_eq_true rfl⟩ (fun r12 H locs hf hw => ?_)
    refine lv_istore_n (lv' := [(2, .int r12.1), (3, .int r1.1), (0, .ref a0), (1, .int i1)]) hx hb dX5_gains_61 rfl hl (by decide) rfl (fun ls hl => ?_)
    exact k_X5_gains_62 X _ r12.2 a0 i1 r12.1 _ _ _ hf hw (lv_sub hl [2, 3, 0] rfl)
set_option maxHeartbeats 4000000 in
theorem mt_X5_isRubbing (l : Launch) (D : va_G) (A : Nat → Prop) (E : State → Prop) (hE : zEok A E) (h : zT) (a0 : Nat) (i1 : Int32) (res : Int32 × zT) (hf : f_X5_isRubbing h a0 i1 = some res) : Met l yX5_isRubbing (ws_ yX5_isRubbing cX5_isRubbing 2 (Option.some FieldType.boolean)) rm_X5_isRubbing (zPW D A E h [.ref a0, .int i1]) (zQW D A (some (.int res.1)) res.2) 0 0 A := by
  refine zmt hE (by decide) (Nat.le_of_ble_eq_true rfl) ?_
  intro p e s m below meth c ls hmn X hw hl
  have hl : lv_has ls 2 [(0, .ref a0), (1, .int i1)] := hl
  have hx := X.1.1
  have hb := X.1.2.1
  have hown := X.1.2.2.2.1
  have hts := X.1.2.2.2.2
  unfold f_X5_isRubbing at hf
  refine lv_iload_n hx hb dX5_isRubbing_0 rfl (lv_at hl 1 rfl) ?_
  refine lv_i2l hx hb dX5_isRubbing_1 rfl ?_
  refine lv_lconst (v := (0 : Int64)) hx hb dX5_isRubbing_2 (by decide) ?_
  refine lv_aload_n hx hb dX5_isRubbing_3 rfl (lv_at hl 0 rfl) ?_
  refine zw_getR X hw fs_X5_0 q1270 rfl hf dX5_isRubbing_4 (fun v1 hf => ?_)
  refine lv_iconst (v := (0 : Int32)) hx hb dX5_isRubbing_7 (by decide) ?_
  refine zw_ialoadR X hw hf dX5_isRubbing_8 (fun v2 hf => ?_)
  refine lv_iconst (v := (1 : Int32)) hx hb dX5_isRubbing_9 (by decide) ?_
  refine lv_isub hx hb dX5_isRubbing_10 ?_
  refine lv_i2l hx hb dX5_isRubbing_11 rfl ?_
  refine zw_cSZ (rest := []) [.long i1.toInt64, .long (0 : Int64), .long ((v2 - (1 : Int32)).toInt64)] X hw hl.1 hf (fun r hr => mt_X5_isIn l D A E X.2.2.2.2.2.1 h i1.toInt64 (0 : Int64) ((v2 - (1 : Int32)).toInt64) r hr) (lw_S q1372 q1373 q89 q1374) cd_X5_isIn ⟨rfl, rfl⟩ ⟨Nat.le_of_ble_eq_true rfl, Nat.le_of_ble_eq_true rfl⟩ rfl rfl (Nat.le_of_ble_eq_true rfl) dX5_isRubbing_12 ⟨Nat.le_of_ble_eq_true rfl, Nat.le_of_ble_eq_true rfl⟩ (fun r3 H locs hf hw => ?_)
  exact zw_zret X hw hf (Nat.le_of_ble_eq_true rfl) (Nat.le_of_ble_eq_true rfl) dX5_isRubbing_15
set_option maxHeartbeats 4000000 in
theorem mt_X5_loses (l : Launch) (D : va_G) (A : Nat → Prop) (E : State → Prop) (hE : zEok A E) (h : zT) (a0 : Nat) (i1 : Int32) (res : Int32 × zT) (hf : f_X5_loses h a0 i1 = some res) : Met l yX5_loses (ws_ yX5_loses cX5_loses 2 (Option.some FieldType.int)) rm_X5_loses (zPW D A E h [.ref a0, .int i1]) (zQW D A (some (.int res.1)) res.2) 0 0 A := by
  refine zmt hE (by decide) (Nat.le_of_ble_eq_true rfl) ?_
  intro p e s m below meth c ls hmn X hw hl
  have hl : lv_has ls 2 [(0, .ref a0), (1, .int i1)] := hl
  have hx := X.1.1
  have hb := X.1.2.1
  have hown := X.1.2.2.2.1
  have hts := X.1.2.2.2.2
  unfold f_X5_loses at hf
  refine lv_aload_n hx hb dX5_loses_0 rfl (lv_at hl 0 rfl) ?_
  refine lv_iload_n hx hb dX5_loses_1 rfl (lv_at hl 1 rfl) ?_
  refine lv_iconst (v := (0 : Int32)) hx hb dX5_loses_2 (by decide) ?_
  refine zw_cVI (rest := []) [.int i1, .int (0 : Int32)] X hw hl.1 hf rfl rfl (fun r hr => mt_X5_of l D A E X.2.2.2.2.2.1 h a0 i1 (0 : Int32) r hr) (lw_V q1395 q1397 qs39 q89 q1398) cd_X5_of ⟨rfl, rfl⟩ ⟨Nat.le_of_ble_eq_true rfl, Nat.le_of_ble_eq_true rfl⟩ rfl rfl (Nat.le_of_ble_eq_true rfl) dX5_loses_3 ⟨Nat.le_of_ble_eq_true rfl, Nat.le_of_ble_eq_true rfl⟩ (fun r1 H locs hf hw => ?_)
  refine zw_case hf (fun c1001 hf => ?_) (fun c1001 hf => ?_)
  · refine zw_tableIn (off := 34) (tgt := 40) hx hb c1001 dX5_loses_6 (by decide) (by decide) rfl (by decide) ?_
    refine lv_bipush (v := (7 : Int32)) hx hb dX5_loses_40 (by decide) ?_
    exact zw_iret X hw hf (Nat.le_of_ble_eq_true rfl) (Nat.le_of_ble_eq_true rfl) dX5_loses_42
  · refine zw_case hf (fun c1002 hf => ?_) (fun c1002 hf => ?_)
    · refine zw_tableIn (off := 37) (tgt := 43) hx hb c1002 dX5_loses_6 (by decide) (by decide) rfl (by decide) ?_
      refine lv_iconst (v := (3 : Int32)) hx hb dX5_loses_43 (by decide) ?_
      exact zw_iret X hw hf (Nat.le_of_ble_eq_true rfl) (Nat.le_of_ble_eq_true rfl) dX5_loses_44
    · refine zw_case hf (fun c1003 hf => ?_) (fun c1003 hf => ?_)
      · refine zw_tableIn (off := 39) (tgt := 45) hx hb c1003 dX5_loses_6 (by decide) (by decide) rfl (by decide) ?_
        refine lv_bipush (v := (14 : Int32)) hx hb dX5_loses_45 (by decide) ?_
        exact zw_iret X hw hf (Nat.le_of_ble_eq_true rfl) (Nat.le_of_ble_eq_true rfl) dX5_loses_47
      · refine zw_case hf (fun c1004 hf => ?_) (fun c1004 hf => ?_)
        · refine zw_tableIn (off := 37) (tgt := 43) hx hb c1004 dX5_loses_6 (by decide) (by decide) rfl (by decide) ?_
          refine lv_iconst (v := (3 : Int32)) hx hb dX5_loses_43 (by decide) ?_
          exact zw_iret X hw hf (Nat.le_of_ble_eq_true rfl) (Nat.le_of_ble_eq_true rfl) dX5_loses_44
        · refine zw_case hf (fun c1005 hf => ?_) (fun c1005 hf => ?_)
          · refine zw_tableIn (off := 42) (tgt := 48) hx hb c1005 dX5_loses_6 (by decide) (by decide) rfl (by decide) ?_
            refine lv_bipush (v := (20 : Int32)) hx hb dX5_loses_48 (by decide) ?_
            exact zw_iret X hw hf (Nat.le_of_ble_eq_true rfl) (Nat.le_of_ble_eq_true rfl) dX5_loses_50
          · refine lv_tableOut (tgt := 51) hx hb dX5_loses_6 (by have := lv_neT c1001 (a := 1) (by decide); have := lv_neT c1002 (a := 2) (by decide); have := lv_neT c1003 (a := 3) (by decide); have := lv_neT c1004 (a := 4) (by decide); have := lv_neT c1005 (a := 5) (by decide); omega) (by decide) ?_
            refine lv_iconst (v := (5 : Int32)) hx hb dX5_loses_51 (by decide) ?_
            exact zw_iret X hw hf (Nat.le_of_ble_eq_true rfl) (Nat.le_of_ble_eq_true rfl) dX5_loses_52
set_option maxHeartbeats 4000000 in
theorem mt_X5_worth (l : Launch) (D : va_G) (A : Nat → Prop) (E : State → Prop) (hE : zEok A E) (h : zT) (a0 : Nat) (i1 : Int32) (res : Int32 × zT) (hf : f_X5_worth h a0 i1 = some res) : Met l yX5_worth (ws_ yX5_worth cX5_worth 3 (Option.some FieldType.int)) rm_X5_worth (zPW D A E h [.ref a0, .int i1]) (zQW D A (some (.int res.1)) res.2) 0 0 A := by
  refine zmt hE (by decide) (Nat.le_of_ble_eq_true rfl) ?_
  intro p e s m below meth c ls hmn X hw hl
  have hl : lv_has ls 3 [(0, .ref a0), (1, .int i1)] := hl
  have hx := X.1.1
  have hb := X.1.2.1
  have hown := X.1.2.2.2.1
  have hts := X.1.2.2.2.2
  unfold f_X5_worth at hf
  refine lv_aload_n hx hb dX5_worth_0 rfl (lv_at hl 0 rfl) ?_
  refine lv_iload_n hx hb dX5_worth_1 rfl (lv_at hl 1 rfl) ?_
  refine lv_iconst (v := (5 : Int32)) hx hb dX5_worth_2 (by decide) ?_
  refine zw_cVI (rest := []) [.int i1, .int (5 : Int32)] X hw hl.1 hf rfl rfl (fun r hr => mt_X5_of l D A E X.2.2.2.2.2.1 h a0 i1 (5 : Int32) r hr) (lw_V q1395 q1397 qs39 q89 q1398) cd_X5_of ⟨rfl, rfl⟩ ⟨Nat.le_of_ble_eq_true rfl, Nat.le_of_ble_eq_true rfl⟩ rfl rfl (Nat.le_of_ble_eq_true rfl) dX5_worth_3 ⟨Nat.le_of_ble_eq_true rfl, Nat.le_of_ble_eq_true rfl⟩ (fun r1 H locs hf hw => ?_)
  refine lv_istore_n (lv' := [(2, .int r1.1), (0, .ref a0), (1, .int i1)]) hx hb dX5_worth_6 rfl hl (by decide) rfl (fun ls hl => ?_)
  refine lv_aload_n hx hb dX5_worth_7 rfl (lv_at hl 1 rfl) ?_
  refine lv_iload_n hx hb dX5_worth_8 rfl (lv_at hl 2 rfl) ?_
  refine lv_iconst (v := (0 : Int32)) hx hb dX5_worth_9 (by decide) ?_
  refine zw_cVI (rest := []) [.int i1, .int (0 : Int32)] X hw hl.1 hf rfl rfl (fun r hr => mt_X5_of l D A E X.2.2.2.2.2.1 r1.2 a0 i1 (0 : Int32) r hr) (lw_V q1395 q1397 qs39 q89 q1398) cd_X5_of ⟨rfl, rfl⟩ ⟨Nat.le_of_ble_eq_true rfl, Nat.le_of_ble_eq_true rfl⟩ rfl rfl (Nat.le_of_ble_eq_true rfl) dX5_worth_10 ⟨Nat.le_of_ble_eq_true rfl, Nat.le_of_ble_eq_true rfl⟩ (fun r2 H locs hf hw => ?_)
  refine zw_case hf (fun c1001 hf => ?_) (fun c1001 hf => ?_)
  · refine zw_tableIn (off := 35) (tgt := 48) hx hb c1001 dX5_worth_13 (by decide) (by decide) rfl (by decide) ?_
    refine lv_iload_n hx hb dX5_worth_48 rfl (lv_at hl 0 rfl) ?_
    refine lv_iconst (v := (5 : Int32)) hx hb dX5_worth_49 (by decide) ?_
    refine lv_iadd hx hb dX5_worth_50 ?_
    exact zw_iret X hw hf (Nat.le_of_ble_eq_true rfl) (Nat.le_of_ble_eq_true rfl) dX5_worth_51
  · refine zw_case hf (fun c1002 hf => ?_) (fun c1002 hf => ?_)
    · refine zw_tableIn (off := 39) (tgt := 52) hx hb c1002 dX5_worth_13 (by decide) (by decide) rfl (by decide) ?_
      refine lv_bipush (v := (99 : Int32)) hx hb dX5_worth_52 (by decide) ?_
      refine lv_iload_n hx hb dX5_worth_54 rfl (lv_at hl 0 rfl) ?_
      refine lv_isub hx hb dX5_worth_55 ?_
      exact zw_iret X hw hf (Nat.le_of_ble_eq_true rfl) (Nat.le_of_ble_eq_true rfl) dX5_worth_56
    · refine zw_case hf (fun c1003 hf => ?_) (fun c1003 hf => ?_)
      · refine zw_tableIn (off := 44) (tgt := 57) hx hb c1003 dX5_worth_13 (by decide) (by decide) rfl (by decide) ?_
        refine lv_iconst (v := (2 : Int32)) hx hb dX5_worth_57 (by decide) ?_
        refine lv_iload_n hx hb dX5_worth_58 rfl (lv_at hl 0 rfl) ?_
        refine lv_iconst (v := (5 : Int32)) hx hb dX5_worth_59 (by decide) ?_
        refine lv_iadd hx hb dX5_worth_60 ?_
        refine lv_imul hx hb dX5_worth_61 ?_
        exact zw_iret X hw hf (Nat.le_of_ble_eq_true rfl) (Nat.le_of_ble_eq_true rfl) dX5_worth_62
      · refine zw_case hf (fun c1004 hf => ?_) (fun c1004 hf => ?_)
        · refine zw_tableIn (off := 50) (tgt := 63) hx hb c1004 dX5_worth_13 (by decide) (by decide) rfl (by decide) ?_
          refine lv_bipush (v := (93 : Int32)) hx hb dX5_worth_63 (by decide) ?_
          refine lv_iload_n hx hb dX5_worth_65 rfl (lv_at hl 0 rfl) ?_
          refine lv_isub hx hb dX5_worth_66 ?_
          exact zw_iret X hw hf (Nat.le_of_ble_eq_true rfl) (Nat.le_of_ble_eq_true rfl) dX5_worth_67
        · refine zw_case hf (fun c1005 hf => ?_) (fun c1005 hf => ?_)
          · refine zw_tableIn (off := 55) (tgt := 68) hx hb c1005 dX5_worth_13 (by decide) (by decide) rfl (by decide) ?_
            refine lv_iconst (v := (1 : Int32)) hx hb dX5_worth_68 (by decide) ?_
            exact zw_iret X hw hf (Nat.le_of_ble_eq_true rfl) (Nat.le_of_ble_eq_true rfl) dX5_worth_69
          · refine lv_tableOut (tgt := 70) hx hb dX5_worth_13 (by have := lv_neT c1001 (a := 1) (by decide); have := lv_neT c1002 (a := 2) (by decide); have := lv_neT c1003 (a := 3) (by decide); have := lv_neT c1004 (a := 4) (by decide); have := lv_neT c1005 (a := 5) (by decide); omega) (by decide) ?_
            refine lv_iload_n hx hb dX5_worth_70 rfl (lv_at hl 0 rfl) ?_
            exact zw_iret X hw hf (Nat.le_of_ble_eq_true rfl) (Nat.le_of_ble_eq_true rfl) dX5_worth_71
set_option maxHeartbeats 4000000 in
theorem mt_X5_told (l : Launch) (D : va_G) (A : Nat → Prop) (E : State → Prop) (hE : zEok A E) (h : zT) (a0 : Nat) (i1 : Int32) (i2 : Int32) (res : Int32 × zT) (hf : f_X5_told h a0 i1 i2 = some res) : Met l yX5_told (ws_ yX5_told cX5_told 3 (Option.some FieldType.int)) rm_X5_told (zPW D A E h [.ref a0, .int i1, .int i2]) (zQW D A (some (.int res.1)) res.2) 0 0 A := by
  refine zmt hE (by decide) (Nat.le_of_ble_eq_true rfl) ?_
  intro p e s m below meth c ls hmn X hw hl
  have hl : lv_has ls 3 [(0, .ref a0), (1, .int i1), (2, .int i2)] := hl
  have hx := X.1.1
  have hb := X.1.2.1
  have hown := X.1.2.2.2.1
  have hts := X.1.2.2.2.2
  unfold f_X5_told at hf
  refine lv_aload_n hx hb dX5_told_0 rfl (lv_at hl 0 rfl) ?_
  refine lv_iload_n hx hb dX5_told_1 rfl (lv_at hl 1 rfl) ?_
  refine zw_cVZ (rest := []) [.int i1] X hw hl.1 hf rfl rfl (fun r hr => mt_X5_isRubbing l D A E X.2.2.2.2.2.1 h a0 i1 r hr) (lw_V q1391 q1393 qs38 q89 q1394) cd_X5_isRubbing ⟨rfl, rfl⟩ ⟨Nat.le_of_ble_eq_true rfl, Nat.le_of_ble_eq_true rfl⟩ rfl rfl (Nat.le_of_ble_eq_true rfl) dX5_told_2 ⟨Nat.le_of_ble_eq_true rfl, Nat.le_of_ble_eq_true rfl⟩ (fun r1 H locs hf hw => ?_)
  refine zw_if_ne (tgt := 11) hx hb hf dX5_told_5 (by decide) (fun hf => ?_) (fun hf => ?_)
  · refine lv_iload_n hx hb dX5_told_11 rfl (lv_at hl 2 rfl) ?_
    refine zw_case hf (fun c1000 hf => ?_) (fun c1000 hf => ?_)
    · refine zw_tableIn (off := 56) (tgt := 68) hx hb c1000 dX5_told_12 (by decide) (by decide) rfl (by decide) ?_
      refine lv_aload_n hx hb dX5_told_68 rfl (lv_at hl 0 rfl) ?_
      refine lv_iload_n hx hb dX5_told_69 rfl (lv_at hl 1 rfl) ?_
      refine lv_iload_n hx hb dX5_told_70 rfl (lv_at hl 2 rfl) ?_
      refine zw_cVI (rest := []) [.int i1, .int i2] X hw hl.1 hf rfl rfl (fun r hr => mt_X5_of l D A E X.2.2.2.2.2.1 r1.2 a0 i1 i2 r hr) (lw_V q1395 q1397 qs39 q89 q1398) cd_X5_of ⟨rfl, rfl⟩ ⟨Nat.le_of_ble_eq_true rfl, Nat.le_of_ble_eq_true rfl⟩ rfl rfl (Nat.le_of_ble_eq_true rfl) dX5_told_71 ⟨Nat.le_of_ble_eq_true rfl, Nat.le_of_ble_eq_true rfl⟩ (fun r2 H locs hf hw => ?_)
      exact zw_iret X hw hf (Nat.le_of_ble_eq_true rfl) (Nat.le_of_ble_eq_true rfl) dX5_told_74
    · refine zw_case hf (fun c1001 hf => ?_) (fun c1001 hf => ?_)
      · refine zw_tableIn (off := 56) (tgt := 68) hx hb c1001 dX5_told_12 (by decide) (by decide) rfl (by decide) ?_
        refine lv_aload_n hx hb dX5_told_68 rfl (lv_at hl 0 rfl) ?_
        refine lv_iload_n hx hb dX5_told_69 rfl (lv_at hl 1 rfl) ?_
        refine lv_iload_n hx hb dX5_told_70 rfl (lv_at hl 2 rfl) ?_
        refine zw_cVI (rest := []) [.int i1, .int i2] X hw hl.1 hf rfl rfl (fun r hr => mt_X5_of l D A E X.2.2.2.2.2.1 r1.2 a0 i1 i2 r hr) (lw_V q1395 q1397 qs39 q89 q1398) cd_X5_of ⟨rfl, rfl⟩ ⟨Nat.le_of_ble_eq_true rfl, Nat.le_of_ble_eq_true rfl⟩ rfl rfl (Nat.le_of_ble_eq_true rfl) dX5_told_71 ⟨Nat.le_of_ble_eq_true rfl, Nat.le_of_ble_eq_true rfl⟩ (fun r3 H locs hf hw => ?_)
        exact zw_iret X hw hf (Nat.le_of_ble_eq_true rfl) (Nat.le_of_ble_eq_true rfl) dX5_told_74
      · refine zw_case hf (fun c1002 hf => ?_) (fun c1002 hf => ?_)
        · refine zw_tableIn (off := 56) (tgt := 68) hx hb c1002 dX5_told_12 (by decide) (by decide) rfl (by decide) ?_
          refine lv_aload_n hx hb dX5_told_68 rfl (lv_at hl 0 rfl) ?_
          refine lv_iload_n hx hb dX5_told_69 rfl (lv_at hl 1 rfl) ?_
          refine lv_iload_n hx hb dX5_told_70 rfl (lv_at hl 2 rfl) ?_
          refine zw_cVI (rest := []) [.int i1, .int i2] X hw hl.1 hf rfl rfl (fun r hr => mt_X5_of l D A E X.2.2.2.2.2.1 r1.2 a0 i1 i2 r hr) (lw_V q1395 q1397 qs39 q89 q1398) cd_X5_of ⟨rfl, rfl⟩ ⟨Nat.le_of_ble_eq_true rfl, Nat.le_of_ble_eq_true rfl⟩ rfl rfl (Nat.le_of_ble_eq_true rfl) dX5_told_71 ⟨Nat.le_of_ble_eq_true rfl, Nat.le_of_ble_eq_true rfl⟩ (fun r4 H locs hf hw => ?_)
          exact zw_iret X hw hf (Nat.le_of_ble_eq_true rfl) (Nat.le_of_ble_eq_true rfl) dX5_told_74
        · refine zw_case hf (fun c1003 hf => ?_) (fun c1003 hf => ?_)
          · refine zw_tableIn (off := 56) (tgt := 68) hx hb c1003 dX5_told_12 (by decide) (by decide) rfl (by decide) ?_
            refine lv_aload_n hx hb dX5_told_68 rfl (lv_at hl 0 rfl) ?_
            refine lv_iload_n hx hb dX5_told_69 rfl (lv_at hl 1 rfl) ?_
            refine lv_iload_n hx hb dX5_told_70 rfl (lv_at hl 2 rfl) ?_
            refine zw_cVI (rest := []) [.int i1, .int i2] X hw hl.1 hf rfl rfl (fun r hr => mt_X5_of l D A E X.2.2.2.2.2.1 r1.2 a0 i1 i2 r hr) (lw_V q1395 q1397 qs39 q89 q1398) cd_X5_of ⟨rfl, rfl⟩ ⟨Nat.le_of_ble_eq_true rfl, Nat.le_of_ble_eq_true rfl⟩ rfl rfl (Nat.le_of_ble_eq_true rfl) dX5_told_71 ⟨Nat.le_of_ble_eq_true rfl, Nat.le_of_ble_eq_true rfl⟩ (fun r5 H locs hf hw => ?_)
            exact zw_iret X hw hf (Nat.le_of_ble_eq_true rfl) (Nat.le_of_ble_eq_true rfl) dX5_told_74
          · refine zw_case hf (fun c1004 hf => ?_) (fun c1004 hf => ?_)
            · refine zw_tableIn (off := 56) (tgt := 68) hx hb c1004 dX5_told_12 (by decide) (by decide) rfl (by decide) ?_
              refine lv_aload_n hx hb dX5_told_68 rfl (lv_at hl 0 rfl) ?_
              refine lv_iload_n hx hb dX5_told_69 rfl (lv_at hl 1 rfl) ?_
              refine lv_iload_n hx hb dX5_told_70 rfl (lv_at hl 2 rfl) ?_
              refine zw_cVI (rest := []) [.int i1, .int i2] X hw hl.1 hf rfl rfl (fun r hr => mt_X5_of l D A E X.2.2.2.2.2.1 r1.2 a0 i1 i2 r hr) (lw_V q1395 q1397 qs39 q89 q1398) cd_X5_of ⟨rfl, rfl⟩ ⟨Nat.le_of_ble_eq_true rfl, Nat.le_of_ble_eq_true rfl⟩ rfl rfl (Nat.le_of_ble_eq_true rfl) dX5_told_71 ⟨Nat.le_of_ble_eq_true rfl, Nat.le_of_ble_eq_true rfl⟩ (fun r6 H locs hf hw => ?_)
              exact zw_iret X hw hf (Nat.le_of_ble_eq_true rfl) (Nat.le_of_ble_eq_true rfl) dX5_told_74
            · refine zw_case hf (fun c1005 hf => ?_) (fun c1005 hf => ?_)
              · refine zw_tableIn (off := 56) (tgt := 68) hx hb c1005 dX5_told_12 (by decide) (by decide) rfl (by decide) ?_
                refine lv_aload_n hx hb dX5_told_68 rfl (lv_at hl 0 rfl) ?_
                refine lv_iload_n hx hb dX5_told_69 rfl (lv_at hl 1 rfl) ?_
                refine lv_iload_n hx hb dX5_told_70 rfl (lv_at hl 2 rfl) ?_
                refine zw_cVI (rest := []) [.int i1, .int i2] X hw hl.1 hf rfl rfl (fun r hr => mt_X5_of l D A E X.2.2.2.2.2.1 r1.2 a0 i1 i2 r hr) (lw_V q1395 q1397 qs39 q89 q1398) cd_X5_of ⟨rfl, rfl⟩ ⟨Nat.le_of_ble_eq_true rfl, Nat.le_of_ble_eq_true rfl⟩ rfl rfl (Nat.le_of_ble_eq_true rfl) dX5_told_71 ⟨Nat.le_of_ble_eq_true rfl, Nat.le_of_ble_eq_true rfl⟩ (fun r7 H locs hf hw => ?_)
                exact zw_iret X hw hf (Nat.le_of_ble_eq_true rfl) (Nat.le_of_ble_eq_true rfl) dX5_told_74
              · refine zw_case hf (fun c1006 hf => ?_) (fun c1006 hf => ?_)
                · refine zw_tableIn (off := 63) (tgt := 75) hx hb c1006 dX5_told_12 (by decide) (by decide) rfl (by decide) ?_
                  refine lv_aload_n hx hb dX5_told_75 rfl (lv_at hl 0 rfl) ?_
                  refine lv_iload_n hx hb dX5_told_76 rfl (lv_at hl 1 rfl) ?_
                  refine zw_cVI (rest := []) [.int i1] X hw hl.1 hf rfl rfl (fun r hr => mt_X5_covers l D A E X.2.2.2.2.2.1 r1.2 a0 i1 r hr) (lw_V q1399 q1401 qs40 q89 q1402) cd_X5_covers ⟨rfl, rfl⟩ ⟨Nat.le_of_ble_eq_true rfl, Nat.le_of_ble_eq_true rfl⟩ rfl rfl (Nat.le_of_ble_eq_true rfl) dX5_told_77 ⟨Nat.le_of_ble_eq_true rfl, Nat.le_of_ble_eq_true rfl⟩ (fun r8 H locs hf hw => ?_)
                  exact zw_iret X hw hf (Nat.le_of_ble_eq_true rfl) (Nat.le_of_ble_eq_true rfl) dX5_told_80
                · refine zw_case hf (fun c1007 hf => ?_) (fun c1007 hf => ?_)
                  · refine zw_tableIn (off := 69) (tgt := 81) hx hb c1007 dX5_told_12 (by decide) (by decide) rfl (by decide) ?_
                    refine lv_aload_n hx hb dX5_told_81 rfl (lv_at hl 0 rfl) ?_
                    refine lv_iload_n hx hb dX5_told_82 rfl (lv_at hl 1 rfl) ?_
                    refine zw_cVI (rest := []) [.int i1] X hw hl.1 hf rfl rfl (fun r hr => mt_X5_gains l D A E X.2.2.2.2.2.1 r1.2 a0 i1 r hr) (lw_V q1408 q1410 qs42 q89 q1411) cd_X5_gains ⟨rfl, rfl⟩ ⟨Nat.le_of_ble_eq_true rfl, Nat.le_of_ble_eq_true rfl⟩ rfl rfl (Nat.le_of_ble_eq_true rfl) dX5_told_83 ⟨Nat.le_of_ble_eq_true rfl, Nat.le_of_ble_eq_true rfl⟩ (fun r9 H locs hf hw => ?_)
                    exact zw_iret X hw hf (Nat.le_of_ble_eq_true rfl) (Nat.le_of_ble_eq_true rfl) dX5_told_86
                  · refine zw_case hf (fun c1008 hf => ?_) (fun c1008 hf => ?_)
                    · refine zw_tableIn (off := 75) (tgt := 87) hx hb c1008 dX5_told_12 (by decide) (by decide) rfl (by decide) ?_
                      refine lv_aload_n hx hb dX5_told_87 rfl (lv_at hl 0 rfl) ?_
                      refine lv_iload_n hx hb dX5_told_88 rfl (lv_at hl 1 rfl) ?_
                      refine zw_cVI (rest := []) [.int i1] X hw hl.1 hf rfl rfl (fun r hr => mt_X5_loses l D A E X.2.2.2.2.2.1 r1.2 a0 i1 r hr) (lw_V q1430 q1432 qs46 q89 q1433) cd_X5_loses ⟨rfl, rfl⟩ ⟨Nat.le_of_ble_eq_true rfl, Nat.le_of_ble_eq_true rfl⟩ rfl rfl (Nat.le_of_ble_eq_true rfl) dX5_told_89 ⟨Nat.le_of_ble_eq_true rfl, Nat.le_of_ble_eq_true rfl⟩ (fun r10 H locs hf hw => ?_)
                      exact zw_iret X hw hf (Nat.le_of_ble_eq_true rfl) (Nat.le_of_ble_eq_true rfl) dX5_told_92
                    · refine zw_case hf (fun c1009 hf => ?_) (fun c1009 hf => ?_)
                      · refine zw_tableIn (off := 81) (tgt := 93) hx hb c1009 dX5_told_12 (by decide) (by decide) rfl (by decide) ?_
                        refine lv_aload_n hx hb dX5_told_93 rfl (lv_at hl 0 rfl) ?_
                        refine lv_iload_n hx hb dX5_told_94 rfl (lv_at hl 1 rfl) ?_
                        refine zw_cVI (rest := []) [.int i1] X hw hl.1 hf rfl rfl (fun r hr => mt_X5_worth l D A E X.2.2.2.2.2.1 r1.2 a0 i1 r hr) (lw_V q1434 q1436 qs47 q89 q1437) cd_X5_worth ⟨rfl, rfl⟩ ⟨Nat.le_of_ble_eq_true rfl, Nat.le_of_ble_eq_true rfl⟩ rfl rfl (Nat.le_of_ble_eq_true rfl) dX5_told_95 ⟨Nat.le_of_ble_eq_true rfl, Nat.le_of_ble_eq_true rfl⟩ (fun r11 H locs hf hw => ?_)
                        exact zw_iret X hw hf (Nat.le_of_ble_eq_true rfl) (Nat.le_of_ble_eq_true rfl) dX5_told_98
                      · refine lv_tableOut (tgt := 99) hx hb dX5_told_12 (by have := lv_neT c1000 (a := 0) (by decide); have := lv_neT c1001 (a := 1) (by decide); have := lv_neT c1002 (a := 2) (by decide); have := lv_neT c1003 (a := 3) (by decide); have := lv_neT c1004 (a := 4) (by decide); have := lv_neT c1005 (a := 5) (by decide); have := lv_neT c1006 (a := 6) (by decide); have := lv_neT c1007 (a := 7) (by decide); have := lv_neT c1008 (a := 8) (by decide); have := lv_neT c1009 (a := 9) (by decide); omega) (by decide) ?_
                        refine lv_ldc (v := (-1000000001 : Int32)) hx hb hown (hts _ q1377) dX5_told_99 ?_
                        exact zw_iret X hw hf (Nat.le_of_ble_eq_true rfl) (Nat.le_of_ble_eq_true rfl) dX5_told_101
  · refine lv_ldc (v := (-1000000001 : Int32)) hx hb hown (hts _ q1377) dX5_told_8 ?_
    exact zw_iret X hw hf (Nat.le_of_ble_eq_true rfl) (Nat.le_of_ble_eq_true rfl) dX5_told_10
set_option maxHeartbeats 4000000 in
theorem mt_X5_bolder (l : Launch) (D : va_G) (A : Nat → Prop) (E : State → Prop) (hE : zEok A E) (h : zT) (i0 : Int32) (res : Int32 × zT) (hf : f_X5_bolder h i0 = some res) : Met l yX5_bolder (ws_ yX5_bolder cX5_bolder 1 (Option.some FieldType.int)) rm_X5_bolder (zPW D A E h [.int i0]) (zQW D A (some (.int res.1)) res.2) 0 0 A := by
  refine zmt hE (by decide) (Nat.le_of_ble_eq_true rfl) ?_
  intro p e s m below meth c ls hmn X hw hl
  have hl : lv_has ls 1 [(0, .int i0)] := hl
  have hx := X.1.1
  have hb := X.1.2.1
  have hown := X.1.2.2.2.1
  have hts := X.1.2.2.2.2
  unfold f_X5_bolder at hf
  refine lv_iload_n hx hb dX5_bolder_0 rfl (lv_at hl 0 rfl) ?_
  refine zw_if_le (tgt := 15) hx hb hf dX5_bolder_1 (by decide) (fun hf => ?_) (fun hf => ?_)
  · refine lv_iload_n hx hb dX5_bolder_15 rfl (lv_at hl 0 rfl) ?_
    exact zw_iret X hw hf (Nat.le_of_ble_eq_true rfl) (Nat.le_of_ble_eq_true rfl) dX5_bolder_16
  · refine lv_iload_n hx hb dX5_bolder_4 rfl (lv_at hl 0 rfl) ?_
    refine lv_iconst (v := (3 : Int32)) hx hb dX5_bolder_5 (by decide) ?_
    refine zw_icmp_ge (tgt := 15) hx hb hf dX5_bolder_6 (by decide) (fun hf => ?_) (fun hf => ?_)
    · refine lv_iload_n hx hb dX5_bolder_15 rfl (lv_at hl 0 rfl) ?_
      exact zw_iret X hw hf (Nat.le_of_ble_eq_true rfl) (Nat.le_of_ble_eq_true rfl) dX5_bolder_16
    · refine lv_iload_n hx hb dX5_bolder_9 rfl (lv_at hl 0 rfl) ?_
      refine lv_iconst (v := (1 : Int32)) hx hb dX5_bolder_10 (by decide) ?_
      refine lv_iadd hx hb dX5_bolder_11 ?_
      refine lv_goto (tgt := 16) hx hb dX5_bolder_12 (by decide) ?_
      exact zw_iret X hw hf (Nat.le_of_ble_eq_true rfl) (Nat.le_of_ble_eq_true rfl) dX5_bolder_16
set_option maxHeartbeats 4000000 in
theorem k_X5_saysAt_52 {p : Program} {l : Launch} {e : Env} {s : State} {m : MethodId} {args : Array Value} {below : List Frame} {meth : Method} {c : Code} {D : va_G} {A : Nat → Prop} {E : State → Prop} (X : zCx p s m args meth c D A E cX5_saysAt 6 RX5 (Option.some FieldType.int)) (res : Int32 × zT) : ∀ (h : zT) (a0 : Nat) (i1 : Int32) (i2 : Int32) (i4 : Int32) (s0 : Int32) (H : Heap) (locs : List Loc) (ls : Array Slot), f_X5_saysAt_52 h a0 i1 i2 i4 s0 = some res → zWh D A s H h locs → lv_has ls 6 [(0, .ref a0), (1, .int i1), (2, .int i2), (4, .int i4)] → W p l e rm_X5_saysAt s m args below meth c H locs 0 0 (MQ below (zQW D A (some (.int res.1)) res.2) args s 0 0 A) (F0 m 52 ls [.int s0]) := by
  have hx := X.1.1
  have hb := X.1.2.1
  have hown := X.1.2.2.2.1
  have hts := X.1.2.2.2.2
  intro h a0 i1 i2 i4 s0 H locs ls hf hw hl
  unfold f_X5_saysAt_52 at hf
  refine lv_istore (lv' := [(5, .int s0), (0, .ref a0), (1, .int i1), (2, .int i2), (4, .int i4)]) hx hb dX5_saysAt_52 hl (by decide) rfl (fun ls hl => ?_)
  refine lv_aload_n hx hb dX5_saysAt_54 rfl (lv_at hl 1 rfl) ?_
  refine lv_iload_n hx hb dX5_saysAt_55 rfl (lv_at hl 2 rfl) ?_
  refine lv_iconst (v := (0 : Int32)) hx hb dX5_saysAt_56 (by decide) ?_
  refine zw_cVI (rest := []) [.int i1, .int (0 : Int32)] X hw hl.1 hf rfl rfl (fun r hr => mt_X5_of l D A E X.2.2.2.2.2.1 h a0 i1 (0 : Int32) r hr) (lw_V q1395 q1397 qs39 q89 q1398) cd_X5_of ⟨rfl, rfl⟩ ⟨Nat.le_of_ble_eq_true rfl, Nat.le_of_ble_eq_true rfl⟩ rfl rfl (Nat.le_of_ble_eq_true rfl) dX5_saysAt_57 ⟨Nat.le_of_ble_eq_true rfl, Nat.le_of_ble_eq_true rfl⟩ (fun r1 H locs hf hw => ?_)
  refine zw_case hf (fun c1001 hf => ?_) (fun c1001 hf => ?_)
  · refine zw_tableIn (off := 36) (tgt := 96) hx hb c1001 dX5_saysAt_60 (by decide) (by decide) rfl (by decide) ?_
    refine lv_iload hx hb dX5_saysAt_96 (lv_at hl 4 rfl) ?_
    refine zw_cSI (rest := []) [.int i4] X hw hl.1 hf (fun r hr => mt_X5_bolder l D A E X.2.2.2.2.2.1 r1.2 i4 r hr) (lw_S q1446 q1447 q89 q1448) cd_X5_bolder ⟨rfl, rfl⟩ ⟨Nat.le_of_ble_eq_true rfl, Nat.le_of_ble_eq_true rfl⟩ rfl rfl (Nat.le_of_ble_eq_true rfl) dX5_saysAt_98 ⟨Nat.le_of_ble_eq_true rfl, Nat.le_of_ble_eq_true rfl⟩ (fun r2 H locs hf hw => ?_)
    exact zw_iret X hw hf (Nat.le_of_ble_eq_true rfl) (Nat.le_of_ble_eq_true rfl) dX5_saysAt_101
  · refine zw_case hf (fun c1002 hf => ?_) (fun c1002 hf => ?_)
    · refine zw_tableIn (off := 42) (tgt := 102) hx hb c1002 dX5_saysAt_60 (by decide) (by decide) rfl (by decide) ?_
      refine lv_iload hx hb dX5_saysAt_102 (lv_at hl 0 rfl) ?_
      exact zw_iret X hw hf (Nat.le_of_ble_eq_true rfl) (Nat.le_of_ble_eq_true rfl) dX5_saysAt_104
    · refine zw_case hf (fun c1003 hf => ?_) (fun c1003 hf => ?_)
      · refine zw_tableIn (off := 45) (tgt := 105) hx hb c1003 dX5_saysAt_60 (by decide) (by decide) rfl (by decide) ?_
        refine lv_iload hx hb dX5_saysAt_105 (lv_at hl 4 rfl) ?_
        refine zw_cSI (rest := []) [.int i4] X hw hl.1 hf (fun r hr => mt_X5_bolder l D A E X.2.2.2.2.2.1 r1.2 i4 r hr) (lw_S q1446 q1447 q89 q1448) cd_X5_bolder ⟨rfl, rfl⟩ ⟨Nat.le_of_ble_eq_true rfl, Nat.le_of_ble_eq_true rfl⟩ rfl rfl (Nat.le_of_ble_eq_true rfl) dX5_saysAt_107 ⟨Nat.le_of_ble_eq_true rfl, Nat.le_of_ble_eq_true rfl⟩ (fun r3 H locs hf hw => ?_)
        refine zw_cSI (rest := []) [.int r3.1] X hw hl.1 hf (fun r hr => mt_X5_bolder l D A E X.2.2.2.2.2.1 r3.2 r3.1 r hr) (lw_S q1446 q1447 q89 q1448) cd_X5_bolder ⟨rfl, rfl⟩ ⟨Nat.le_of_ble_eq_true rfl, Nat.le_of_ble_eq_true rfl⟩ rfl rfl (Nat.le_of_ble_eq_true rfl) dX5_saysAt_110 ⟨Nat.le_of_ble_eq_true rfl, Nat.le_of_ble_eq_true rfl⟩ (fun r4 H locs hf hw => ?_)
        exact zw_iret X hw hf (Nat.le_of_ble_eq_true rfl) (Nat.le_of_ble_eq_true rfl) dX5_saysAt_113
      · refine zw_case hf (fun c1004 hf => ?_) (fun c1004 hf => ?_)
        · refine zw_tableIn (off := 54) (tgt := 114) hx hb c1004 dX5_saysAt_60 (by decide) (by decide) rfl (by decide) ?_
          refine lv_iload_n hx hb dX5_saysAt_114 rfl (lv_at hl 3 rfl) ?_
          refine lv_aload_n hx hb dX5_saysAt_115 rfl (lv_at hl 1 rfl) ?_
          refine lv_iload_n hx hb dX5_saysAt_116 rfl (lv_at hl 2 rfl) ?_
          refine lv_iconst (v := (2 : Int32)) hx hb dX5_saysAt_117 (by decide) ?_
          refine zw_cVI (rest := [.int i2]) [.int i1, .int (2 : Int32)] X hw hl.1 hf rfl rfl (fun r hr => mt_X5_of l D A E X.2.2.2.2.2.1 r1.2 a0 i1 (2 : Int32) r hr) (lw_V q1395 q1397 qs39 q89 q1398) cd_X5_of ⟨rfl, rfl⟩ ⟨Nat.le_of_ble_eq_true rfl, Nat.le_of_ble_eq_true rfl⟩ rfl rfl (Nat.le_of_ble_eq_true rfl) dX5_saysAt_118 ⟨Nat.le_of_ble_eq_true rfl, Nat.le_of_ble_eq_true rfl⟩ (fun r5 H locs hf hw => ?_)
          refine lv_iconst (v := (2 : Int32)) hx hb dX5_saysAt_121 (by decide) ?_
          refine lv_idiv hx hb dX5_saysAt_122 (by decide) ?_
          refine zw_icmp_ne (tgt := 130) hx hb hf dX5_saysAt_123 (by decide) (fun hf => ?_) (fun hf => ?_)
          · refine lv_iload hx hb dX5_saysAt_130 (lv_at hl 0 rfl) ?_
            exact zw_iret X hw hf (Nat.le_of_ble_eq_true rfl) (Nat.le_of_ble_eq_true rfl) dX5_saysAt_132
          · refine lv_iconst (v := (3 : Int32)) hx hb dX5_saysAt_126 (by decide) ?_
            refine lv_goto (tgt := 132) hx hb dX5_saysAt_127 (by decide) ?_
            exact zw_iret X hw hf (Nat.le_of_ble_eq_true rfl) (Nat.le_of_ble_eq_true rfl) dX5_saysAt_132
        · refine zw_case hf (fun c1005 hf => ?_) (fun c1005 hf => ?_)
          · refine zw_tableIn (off := 73) (tgt := 133) hx hb c1005 dX5_saysAt_60 (by decide) (by decide) rfl (by decide) ?_
            refine lv_iconst (v := (2 : Int32)) hx hb dX5_saysAt_133 (by decide) ?_
            exact zw_iret X hw hf (Nat.le_of_ble_eq_true rfl) (Nat.le_of_ble_eq_true rfl) dX5_saysAt_134
          · refine lv_tableOut (tgt := 135) hx hb dX5_saysAt_60 (by have := lv_neT c1001 (a := 1) (by decide); have := lv_neT c1002 (a := 2) (by decide); have := lv_neT c1003 (a := 3) (by decide); have := lv_neT c1004 (a := 4) (by decide); have := lv_neT c1005 (a := 5) (by decide); omega) (by decide) ?_
            refine lv_iload hx hb dX5_saysAt_135 (lv_at hl 4 rfl) ?_
            exact zw_iret X hw hf (Nat.le_of_ble_eq_true rfl) (Nat.le_of_ble_eq_true rfl) dX5_saysAt_137
set_option maxHeartbeats 4000000 in
theorem k_X5_saysAt_24 {p : Program} {l : Launch} {e : Env} {s : State} {m : MethodId} {args : Array Value} {below : List Frame} {meth : Method} {c : Code} {D : va_G} {A : Nat → Prop} {E : State → Prop} (X : zCx p s m args meth c D A E cX5_saysAt 6 RX5 (Option.some FieldType.int)) (res : Int32 × zT) : ∀ (h : zT) (a0 : Nat) (i1 : Int32) (i2 : Int32) (s0 : Int32) (H : Heap) (locs : List Loc) (ls : Array Slot), f_X5_saysAt_24 h a0 i1 i2 s0 = some res → zWh D A s H h locs → lv_has ls 6 [(0, .ref a0), (1, .int i1), (2, .int i2)] → W p l e rm_X5_saysAt s m args below meth c H locs 0 0 (MQ below (zQW D A (some (.int res.1)) res.2) args s 0 0 A) (F0 m 24 ls [.int s0]) := by
  have hx := X.1.1
  have hb := X.1.2.1
  have hown := X.1.2.2.2.1
  have hts := X.1.2.2.2.2
  intro h a0 i1 i2 s0 H locs ls hf hw hl
  unfold f_X5_saysAt_24 at hf
  refine lv_istore_n (lv' := [(3, .int s0), (0, .ref a0), (1, .int i1), (2, .int i2)]) hx hb dX5_saysAt_24 rfl hl (by decide) rfl (fun ls hl => ?_)
  refine lv_aload_n hx hb dX5_saysAt_25 rfl (lv_at hl 1 rfl) ?_
  refine lv_iload_n hx hb dX5_saysAt_26 rfl (lv_at hl 2 rfl) ?_
  refine lv_iconst (v := (1 : Int32)) hx hb dX5_saysAt_27 (by decide) ?_
  refine zw_cVI (rest := []) [.int i1, .int (1 : Int32)] X hw hl.1 hf rfl rfl (fun r hr => mt_X5_of l D A E X.2.2.2.2.2.1 h a0 i1 (1 : Int32) r hr) (lw_V q1395 q1397 qs39 q89 q1398) cd_X5_of ⟨rfl, rfl⟩ ⟨Nat.le_of_ble_eq_true rfl, Nat.le_of_ble_eq_true rfl⟩ rfl rfl (Nat.le_of_ble_eq_true rfl) dX5_saysAt_28 ⟨Nat.le_of_ble_eq_true rfl, Nat.le_of_ble_eq_true rfl⟩ (fun r1 H locs hf hw => ?_)
  refine lv_iconst (v := (2 : Int32)) hx hb dX5_saysAt_31 (by decide) ?_
  refine lv_iload_n hx hb dX5_saysAt_32 rfl (lv_at hl 0 rfl) ?_
  refine lv_imul hx hb dX5_saysAt_33 ?_
  refine lv_ishr hx hb dX5_saysAt_34 ?_
  refine lv_iconst (v := (3 : Int32)) hx hb dX5_saysAt_35 (by decide) ?_
  refine lv_iand hx hb dX5_saysAt_36 ?_
  refine zw_nmI hf (fun v2 hf => ?_)
  refine lv_istore (lv' := [(4, .int v2), (3, .int s0), (0, .ref a0), (1, .int i1), (2, .int i2)]) hx hb dX5_saysAt_37 hl (by decide) rfl (fun ls hl => ?_)
  refine lv_iload hx hb dX5_saysAt_39 (lv_at hl 0 rfl) ?_
  refine zw_if_le (tgt := 51) hx hb hf dX5_saysAt_41 (by decide) (fun hf => ?_) (fun hf => ?_)
  · refine lv_iconst (v := (0 : Int32)) hx hb dX5_saysAt_51 (by decide) ?_
    exact k_X5_saysAt_52 X _ r1.2 a0 i1 i2 v2 (0 : Int32) _ _ _ hf hw (lv_sub hl [2, 3, 4, 0] rfl)
  · refine lv_iload hx hb dX5_saysAt_44 (lv_at hl 0 rfl) ?_
    refine lv_iconst (v := (1 : Int32)) hx hb dX5_saysAt_46 (by decide) ?_
    refine lv_isub hx hb dX5_saysAt_47 ?_
    refine lv_goto (tgt := 52) hx hb dX5_saysAt_48 (by decide) ?_
    exact k_X5_saysAt_52 X _ r1.2 a0 i1 i2 v2 (v2 - (1 : Int32)) _ _ _ hf hw (lv_sub hl [2, 3, 4, 0] rfl)
set_option maxHeartbeats 4000000 in
theorem mt_X5_saysAt (l : Launch) (D : va_G) (A : Nat → Prop) (E : State → Prop) (hE : zEok A E) (h : zT) (a0 : Nat) (i1 : Int32) (i2 : Int32) (res : Int32 × zT) (hf : f_X5_saysAt h a0 i1 i2 = some res) : Met l yX5_saysAt (ws_ yX5_saysAt cX5_saysAt 6 (Option.some FieldType.int)) rm_X5_saysAt (zPW D A E h [.ref a0, .int i1, .int i2]) (zQW D A (some (.int res.1)) res.2) 0 0 A := by
  refine zmt hE (by decide) (Nat.le_of_ble_eq_true rfl) ?_
  intro p e s m below meth c ls hmn X hw hl
  have hl : lv_has ls 6 [(0, .ref a0), (1, .int i1), (2, .int i2)] := hl
  have hx := X.1.1
  have hb := X.1.2.1
  have hown := X.1.2.2.2.1
  have hts := X.1.2.2.2.2
  unfold f_X5_saysAt at hf
  refine lv_aload_n hx hb dX5_saysAt_0 rfl (lv_at hl 0 rfl) ?_
  refine lv_iload_n hx hb dX5_saysAt_1 rfl (lv_at hl 1 rfl) ?_
  refine lv_iconst (v := (3 : Int32)) hx hb dX5_saysAt_2 (by decide) ?_
  refine zw_cVI (rest := []) [.int i1, .int (3 : Int32)] X hw hl.1 hf rfl rfl (fun r hr => mt_X5_of l D A E X.2.2.2.2.2.1 h a0 i1 (3 : Int32) r hr) (lw_V q1395 q1397 qs39 q89 q1398) cd_X5_of ⟨rfl, rfl⟩ ⟨Nat.le_of_ble_eq_true rfl, Nat.le_of_ble_eq_true rfl⟩ rfl rfl (Nat.le_of_ble_eq_true rfl) dX5_saysAt_3 ⟨Nat.le_of_ble_eq_true rfl, Nat.le_of_ble_eq_true rfl⟩ (fun r1 H locs hf hw => ?_)
  refine lv_iconst (v := (1 : Int32)) hx hb dX5_saysAt_6 (by decide) ?_
  refine zw_icmp_ne (tgt := 23) hx hb hf dX5_saysAt_7 (by decide) (fun hf => ?_) (fun hf => ?_)
  · refine lv_iload_n hx hb dX5_saysAt_23 rfl (lv_at hl 2 rfl) ?_
    exact k_X5_saysAt_24 X _ r1.2 a0 i1 i2 i2 _ _ _ hf hw (lv_sub hl [0, 1, 2] rfl)
  · refine lv_aload_n hx hb dX5_saysAt_10 rfl (lv_at hl 0 rfl) ?_
    refine lv_iload_n hx hb dX5_saysAt_11 rfl (lv_at hl 1 rfl) ?_
    refine lv_iconst (v := (2 : Int32)) hx hb dX5_saysAt_12 (by decide) ?_
    refine zw_cVI (rest := []) [.int i1, .int (2 : Int32)] X hw hl.1 hf rfl rfl (fun r hr => mt_X5_of l D A E X.2.2.2.2.2.1 r1.2 a0 i1 (2 : Int32) r hr) (lw_V q1395 q1397 qs39 q89 q1398) cd_X5_of ⟨rfl, rfl⟩ ⟨Nat.le_of_ble_eq_true rfl, Nat.le_of_ble_eq_true rfl⟩ rfl rfl (Nat.le_of_ble_eq_true rfl) dX5_saysAt_13 ⟨Nat.le_of_ble_eq_true rfl, Nat.le_of_ble_eq_true rfl⟩ (fun r2 H locs hf hw => ?_)
    refine lv_iconst (v := (1 : Int32)) hx hb dX5_saysAt_16 (by decide) ?_
    refine lv_isub hx hb dX5_saysAt_17 ?_
    refine lv_iload_n hx hb dX5_saysAt_18 rfl (lv_at hl 2 rfl) ?_
    refine lv_isub hx hb dX5_saysAt_19 ?_
    refine lv_goto (tgt := 24) hx hb dX5_saysAt_20 (by decide) ?_
    exact k_X5_saysAt_24 X _ r2.2 a0 i1 i2 ((r2.1 - (1 : Int32)) - i2) _ _ _ hf hw (lv_sub hl [0, 1, 2] rfl)
set_option maxHeartbeats 4000000 in
theorem mt_X5_says (l : Launch) (D : va_G) (A : Nat → Prop) (E : State → Prop) (hE : zEok A E) (h : zT) (a0 : Nat) (i1 : Int32) (i2 : Int32) (res : Int32 × zT) (hf : f_X5_says h a0 i1 i2 = some res) : Met l yX5_says (ws_ yX5_says cX5_says 3 (Option.some FieldType.int)) rm_X5_says (zPW D A E h [.ref a0, .int i1, .int i2]) (zQW D A (some (.int res.1)) res.2) 0 0 A := by
  refine zmt hE (by decide) (Nat.le_of_ble_eq_true rfl) ?_
  intro p e s m below meth c ls hmn X hw hl
  have hl : lv_has ls 3 [(0, .ref a0), (1, .int i1), (2, .int i2)] := hl
  have hx := X.1.1
  have hb := X.1.2.1
  have hown := X.1.2.2.2.1
  have hts := X.1.2.2.2.2
  unfold f_X5_says at hf
  refine lv_aload_n hx hb dX5_says_0 rfl (lv_at hl 0 rfl) ?_
  refine lv_iload_n hx hb dX5_says_1 rfl (lv_at hl 1 rfl) ?_
  refine zw_cVZ (rest := []) [.int i1] X hw hl.1 hf rfl rfl (fun r hr => mt_X5_isRubbing l D A E X.2.2.2.2.2.1 h a0 i1 r hr) (lw_V q1391 q1393 qs38 q89 q1394) cd_X5_isRubbing ⟨rfl, rfl⟩ ⟨Nat.le_of_ble_eq_true rfl, Nat.le_of_ble_eq_true rfl⟩ rfl rfl (Nat.le_of_ble_eq_true rfl) dX5_says_2 ⟨Nat.le_of_ble_eq_true rfl, Nat.le_of_ble_eq_true rfl⟩ (fun r1 H locs hf hw => ?_)
  refine zw_if_eq (tgt := 35) hx hb hf dX5_says_5 (by decide) (fun hf => ?_) (fun hf => ?_)
  · refine lv_ldc (v := (-1000000001 : Int32)) hx hb hown (hts _ q1377) dX5_says_35 ?_
    exact zw_iret X hw hf (Nat.le_of_ble_eq_true rfl) (Nat.le_of_ble_eq_true rfl) dX5_says_37
  · refine lv_iload_n hx hb dX5_says_8 rfl (lv_at hl 2 rfl) ?_
    refine lv_i2l hx hb dX5_says_9 rfl ?_
    refine lv_lconst (v := (0 : Int64)) hx hb dX5_says_10 (by decide) ?_
    refine lv_aload_n hx hb dX5_says_11 rfl (lv_at hl 0 rfl) ?_
    refine lv_iload_n hx hb dX5_says_12 rfl (lv_at hl 1 rfl) ?_
    refine lv_iconst (v := (2 : Int32)) hx hb dX5_says_13 (by decide) ?_
    refine zw_cVI (rest := [.long (0 : Int64), .long i2.toInt64]) [.int i1, .int (2 : Int32)] X hw hl.1 hf rfl rfl (fun r hr => mt_X5_of l D A E X.2.2.2.2.2.1 r1.2 a0 i1 (2 : Int32) r hr) (lw_V q1395 q1397 qs39 q89 q1398) cd_X5_of ⟨rfl, rfl⟩ ⟨Nat.le_of_ble_eq_true rfl, Nat.le_of_ble_eq_true rfl⟩ rfl rfl (Nat.le_of_ble_eq_true rfl) dX5_says_14 ⟨Nat.le_of_ble_eq_true rfl, Nat.le_of_ble_eq_true rfl⟩ (fun r2 H locs hf hw => ?_)
    refine lv_iconst (v := (1 : Int32)) hx hb dX5_says_17 (by decide) ?_
    refine lv_isub hx hb dX5_says_18 ?_
    refine lv_i2l hx hb dX5_says_19 rfl ?_
    refine zw_cSZ (rest := []) [.long i2.toInt64, .long (0 : Int64), .long ((r2.1 - (1 : Int32)).toInt64)] X hw hl.1 hf (fun r hr => mt_X5_isIn l D A E X.2.2.2.2.2.1 r2.2 i2.toInt64 (0 : Int64) ((r2.1 - (1 : Int32)).toInt64) r hr) (lw_S q1372 q1373 q89 q1374) cd_X5_isIn ⟨rfl, rfl⟩ ⟨Nat.le_of_ble_eq_true rfl, Nat.le_of_ble_eq_true rfl⟩ rfl rfl (Nat.le_of_ble_eq_true rfl) dX5_says_20 ⟨Nat.le_of_ble_eq_true rfl, Nat.le_of_ble_eq_true rfl⟩ (fun r3 H locs hf hw => ?_)
    refine zw_if_eq (tgt := 35) hx hb hf dX5_says_23 (by decide) (fun hf => ?_) (fun hf => ?_)
    · refine lv_ldc (v := (-1000000001 : Int32)) hx hb hown (hts _ q1377) dX5_says_35 ?_
      exact zw_iret X hw hf (Nat.le_of_ble_eq_true rfl) (Nat.le_of_ble_eq_true rfl) dX5_says_37
    · refine lv_aload_n hx hb dX5_says_26 rfl (lv_at hl 0 rfl) ?_
      refine lv_iload_n hx hb dX5_says_27 rfl (lv_at hl 1 rfl) ?_
      refine lv_iload_n hx hb dX5_says_28 rfl (lv_at hl 2 rfl) ?_
      refine zw_cVI (rest := []) [.int i1, .int i2] X hw hl.1 hf rfl rfl (fun r hr => mt_X5_saysAt l D A E X.2.2.2.2.2.1 r3.2 a0 i1 i2 r hr) (lw_V q1442 q1444 qs48 q89 q1445) cd_X5_saysAt ⟨rfl, rfl⟩ ⟨Nat.le_of_ble_eq_true rfl, Nat.le_of_ble_eq_true rfl⟩ rfl rfl (Nat.le_of_ble_eq_true rfl) dX5_says_29 ⟨Nat.le_of_ble_eq_true rfl, Nat.le_of_ble_eq_true rfl⟩ (fun r4 H locs hf hw => ?_)
      refine lv_goto (tgt := 37) hx hb dX5_says_32 (by decide) ?_
      exact zw_iret X hw hf (Nat.le_of_ble_eq_true rfl) (Nat.le_of_ble_eq_true rfl) dX5_says_37
set_option maxHeartbeats 4000000 in
theorem k_X5_isOf_19 {p : Program} {l : Launch} {e : Env} {s : State} {m : MethodId} {args : Array Value} {below : List Frame} {meth : Method} {c : Code} {D : va_G} {A : Nat → Prop} {E : State → Prop} (X : zCx p s m args meth c D A E cX5_isOf 2 RX5 (Option.some FieldType.boolean)) (res : Int32 × zT) : ∀ (h : zT) (i0 : Int32) (i1 : Int32) (H : Heap) (locs : List Loc) (ls : Array Slot), f_X5_isOf_19 h i0 i1 = some res → zWh D A s H h locs → lv_has ls 2 [(0, .int i0), (1, .int i1)] → W p l e rm_X5_isOf s m args below meth c H locs 0 0 (MQ below (zQW D A (some (.int res.1)) res.2) args s 0 0 A) (F0 m 19 ls []) := by
  have hx := X.1.1
  have hb := X.1.2.1
  have hown := X.1.2.2.2.1
  have hts := X.1.2.2.2.2
  intro h i0 i1 H locs ls hf hw hl
  unfold f_X5_isOf_19 at hf
  refine lv_iload_n hx hb dX5_isOf_19 rfl (lv_at hl 1 rfl) ?_
  refine lv_iconst (v := (2 : Int32)) hx hb dX5_isOf_20 (by decide) ?_
  refine zw_icmp_ne (tgt := 33) hx hb hf dX5_isOf_21 (by decide) (fun hf => ?_) (fun hf => ?_)
  · refine lv_iconst (v := (0 : Int32)) hx hb dX5_isOf_33 (by decide) ?_
    exact zw_zret X hw hf (Nat.le_of_ble_eq_true rfl) (Nat.le_of_ble_eq_true rfl) dX5_isOf_34
  · refine lv_iload_n hx hb dX5_isOf_24 rfl (lv_at hl 0 rfl) ?_
    refine lv_iconst (v := (4 : Int32)) hx hb dX5_isOf_25 (by decide) ?_
    refine zw_icmp_ne (tgt := 33) hx hb hf dX5_isOf_26 (by decide) (fun hf => ?_) (fun hf => ?_)
    · refine lv_iconst (v := (0 : Int32)) hx hb dX5_isOf_33 (by decide) ?_
      exact zw_zret X hw hf (Nat.le_of_ble_eq_true rfl) (Nat.le_of_ble_eq_true rfl) dX5_isOf_34
    · refine lv_iconst (v := (1 : Int32)) hx hb dX5_isOf_29 (by decide) ?_
      refine lv_goto (tgt := 34) hx hb dX5_isOf_30 (by decide) ?_
      exact zw_zret X hw hf (Nat.le_of_ble_eq_true rfl) (Nat.le_of_ble_eq_true rfl) dX5_isOf_34
set_option maxHeartbeats 4000000 in
theorem mt_X5_isOf (l : Launch) (D : va_G) (A : Nat → Prop) (E : State → Prop) (hE : zEok A E) (h : zT) (i0 : Int32) (i1 : Int32) (res : Int32 × zT) (hf : f_X5_isOf h i0 i1 = some res) : Met l yX5_isOf (ws_ yX5_isOf cX5_isOf 2 (Option.some FieldType.boolean)) rm_X5_isOf (zPW D A E h [.int i0, .int i1]) (zQW D A (some (.int res.1)) res.2) 0 0 A := by
  refine zmt hE (by decide) (Nat.le_of_ble_eq_true rfl) ?_
  intro p e s m below meth c ls hmn X hw hl
  have hl : lv_has ls 2 [(0, .int i0), (1, .int i1)] := hl
  have hx := X.1.1
  have hb := X.1.2.1
  have hown := X.1.2.2.2.1
  have hts := X.1.2.2.2.2
  unfold f_X5_isOf at hf
  refine lv_iload_n hx hb dX5_isOf_0 rfl (lv_at hl 0 rfl) ?_
  refine lv_iload_n hx hb dX5_isOf_1 rfl (lv_at hl 1 rfl) ?_
  refine zw_icmp_eq (tgt := 29) hx hb hf dX5_isOf_2 (by decide) (fun hf => ?_) (fun hf => ?_)
  · refine lv_iconst (v := (1 : Int32)) hx hb dX5_isOf_29 (by decide) ?_
    refine lv_goto (tgt := 34) hx hb dX5_isOf_30 (by decide) ?_
    exact zw_zret X hw hf (Nat.le_of_ble_eq_true rfl) (Nat.le_of_ble_eq_true rfl) dX5_isOf_34
  · refine lv_iload_n hx hb dX5_isOf_5 rfl (lv_at hl 1 rfl) ?_
    refine zw_if_eq (tgt := 29) hx hb hf dX5_isOf_6 (by decide) (fun hf => ?_) (fun hf => ?_)
    · refine lv_iconst (v := (1 : Int32)) hx hb dX5_isOf_29 (by decide) ?_
      refine lv_goto (tgt := 34) hx hb dX5_isOf_30 (by decide) ?_
      exact zw_zret X hw hf (Nat.le_of_ble_eq_true rfl) (Nat.le_of_ble_eq_true rfl) dX5_isOf_34
    · refine lv_iload_n hx hb dX5_isOf_9 rfl (lv_at hl 1 rfl) ?_
      refine lv_iconst (v := (1 : Int32)) hx hb dX5_isOf_10 (by decide) ?_
      refine zw_icmp_ne (tgt := 19) hx hb hf dX5_isOf_11 (by decide) (fun hf => ?_) (fun hf => ?_)
      · exact k_X5_isOf_19 X _ h i0 i1 _ _ _ hf hw (lv_sub hl [0, 1] rfl)
      · refine lv_iload_n hx hb dX5_isOf_14 rfl (lv_at hl 0 rfl) ?_
        refine lv_iconst (v := (3 : Int32)) hx hb dX5_isOf_15 (by decide) ?_
        refine zw_icmp_eq (tgt := 29) hx hb hf dX5_isOf_16 (by decide) (fun hf => ?_) (fun hf => ?_)
        · refine lv_iconst (v := (1 : Int32)) hx hb dX5_isOf_29 (by decide) ?_
          refine lv_goto (tgt := 34) hx hb dX5_isOf_30 (by decide) ?_
          exact zw_zret X hw hf (Nat.le_of_ble_eq_true rfl) (Nat.le_of_ble_eq_true rfl) dX5_isOf_34
        · exact k_X5_isOf_19 X _ h i0 i1 _ _ _ hf hw (lv_sub hl [0, 1] rfl)
set_option maxHeartbeats 4000000 in
theorem mt_X5_as (l : Launch) (D : va_G) (A : Nat → Prop) (E : State → Prop) (hE : zEok A E) (h : zT) (a0 : Nat) (i1 : Int32) (i2 : Int32) (res : Int32 × zT) (hf : f_X5_as h a0 i1 i2 = some res) : Met l yX5_as (ws_ yX5_as cX5_as 3 (Option.some FieldType.int)) rm_X5_as (zPW D A E h [.ref a0, .int i1, .int i2]) (zQW D A (some (.int res.1)) res.2) 0 0 A := by
  refine zmt hE (by decide) (Nat.le_of_ble_eq_true rfl) ?_
  intro p e s m below meth c ls hmn X hw hl
  have hl : lv_has ls 3 [(0, .ref a0), (1, .int i1), (2, .int i2)] := hl
  have hx := X.1.1
  have hb := X.1.2.1
  have hown := X.1.2.2.2.1
  have hts := X.1.2.2.2.2
  unfold f_X5_as at hf
  refine lv_aload_n hx hb dX5_as_0 rfl (lv_at hl 0 rfl) ?_
  refine lv_iload_n hx hb dX5_as_1 rfl (lv_at hl 1 rfl) ?_
  refine zw_cVZ (rest := []) [.int i1] X hw hl.1 hf rfl rfl (fun r hr => mt_X5_isRubbing l D A E X.2.2.2.2.2.1 h a0 i1 r hr) (lw_V q1391 q1393 qs38 q89 q1394) cd_X5_isRubbing ⟨rfl, rfl⟩ ⟨Nat.le_of_ble_eq_true rfl, Nat.le_of_ble_eq_true rfl⟩ rfl rfl (Nat.le_of_ble_eq_true rfl) dX5_as_2 ⟨Nat.le_of_ble_eq_true rfl, Nat.le_of_ble_eq_true rfl⟩ (fun r1 H locs hf hw => ?_)
  refine zw_if_eq (tgt := 20) hx hb hf dX5_as_5 (by decide) (fun hf => ?_) (fun hf => ?_)
  · refine lv_ldc (v := (-1000000001 : Int32)) hx hb hown (hts _ q1377) dX5_as_20 ?_
    exact zw_iret X hw hf (Nat.le_of_ble_eq_true rfl) (Nat.le_of_ble_eq_true rfl) dX5_as_22
  · refine lv_iload_n hx hb dX5_as_8 rfl (lv_at hl 2 rfl) ?_
    refine lv_i2l hx hb dX5_as_9 rfl ?_
    refine lv_lconst (v := (0 : Int64)) hx hb dX5_as_10 (by decide) ?_
    refine lv_ldc2 (v := (5 : Int64)) hx hb hown (hts _ q1371) dX5_as_11 ?_
    refine zw_cSZ (rest := []) [.long i2.toInt64, .long (0 : Int64), .long (5 : Int64)] X hw hl.1 hf (fun r hr => mt_X5_isIn l D A E X.2.2.2.2.2.1 r1.2 i2.toInt64 (0 : Int64) (5 : Int64) r hr) (lw_S q1372 q1373 q89 q1374) cd_X5_isIn ⟨rfl, rfl⟩ ⟨Nat.le_of_ble_eq_true rfl, Nat.le_of_ble_eq_true rfl⟩ rfl rfl (Nat.le_of_ble_eq_true rfl) dX5_as_14 ⟨Nat.le_of_ble_eq_true rfl, Nat.le_of_ble_eq_true rfl⟩ (fun r2 H locs hf hw => ?_)
    refine zw_if_ne (tgt := 23) hx hb hf dX5_as_17 (by decide) (fun hf => ?_) (fun hf => ?_)
    · refine lv_aload_n hx hb dX5_as_23 rfl (lv_at hl 0 rfl) ?_
      refine lv_iload_n hx hb dX5_as_24 rfl (lv_at hl 1 rfl) ?_
      refine lv_iconst (v := (0 : Int32)) hx hb dX5_as_25 (by decide) ?_
      refine zw_cVI (rest := []) [.int i1, .int (0 : Int32)] X hw hl.1 hf rfl rfl (fun r hr => mt_X5_of l D A E X.2.2.2.2.2.1 r2.2 a0 i1 (0 : Int32) r hr) (lw_V q1395 q1397 qs39 q89 q1398) cd_X5_of ⟨rfl, rfl⟩ ⟨Nat.le_of_ble_eq_true rfl, Nat.le_of_ble_eq_true rfl⟩ rfl rfl (Nat.le_of_ble_eq_true rfl) dX5_as_26 ⟨Nat.le_of_ble_eq_true rfl, Nat.le_of_ble_eq_true rfl⟩ (fun r3 H locs hf hw => ?_)
      refine lv_iload_n hx hb dX5_as_29 rfl (lv_at hl 2 rfl) ?_
      refine zw_cSZ (rest := []) [.int r3.1, .int i2] X hw hl.1 hf (fun r hr => mt_X5_isOf l D A E X.2.2.2.2.2.1 r3.2 r3.1 i2 r hr) (lw_S q1453 q1454 q89 q1455) cd_X5_isOf ⟨rfl, rfl⟩ ⟨Nat.le_of_ble_eq_true rfl, Nat.le_of_ble_eq_true rfl⟩ rfl rfl (Nat.le_of_ble_eq_true rfl) dX5_as_30 ⟨Nat.le_of_ble_eq_true rfl, Nat.le_of_ble_eq_true rfl⟩ (fun r4 H locs hf hw => ?_)
      refine zw_if_eq (tgt := 45) hx hb hf dX5_as_33 (by decide) (fun hf => ?_) (fun hf => ?_)
      · refine lv_ldc (v := (-1000000012 : Int32)) hx hb hown (hts _ q1456) dX5_as_45 ?_
        exact zw_iret X hw hf (Nat.le_of_ble_eq_true rfl) (Nat.le_of_ble_eq_true rfl) dX5_as_47
      · refine lv_aload_n hx hb dX5_as_36 rfl (lv_at hl 0 rfl) ?_
        refine lv_iload_n hx hb dX5_as_37 rfl (lv_at hl 1 rfl) ?_
        refine lv_iconst (v := (2 : Int32)) hx hb dX5_as_38 (by decide) ?_
        refine zw_cVI (rest := []) [.int i1, .int (2 : Int32)] X hw hl.1 hf rfl rfl (fun r hr => mt_X5_of l D A E X.2.2.2.2.2.1 r4.2 a0 i1 (2 : Int32) r hr) (lw_V q1395 q1397 qs39 q89 q1398) cd_X5_of ⟨rfl, rfl⟩ ⟨Nat.le_of_ble_eq_true rfl, Nat.le_of_ble_eq_true rfl⟩ rfl rfl (Nat.le_of_ble_eq_true rfl) dX5_as_39 ⟨Nat.le_of_ble_eq_true rfl, Nat.le_of_ble_eq_true rfl⟩ (fun r5 H locs hf hw => ?_)
        refine lv_goto (tgt := 47) hx hb dX5_as_42 (by decide) ?_
        exact zw_iret X hw hf (Nat.le_of_ble_eq_true rfl) (Nat.le_of_ble_eq_true rfl) dX5_as_47
    · refine lv_ldc (v := (-1000000001 : Int32)) hx hb hown (hts _ q1377) dX5_as_20 ?_
      exact zw_iret X hw hf (Nat.le_of_ble_eq_true rfl) (Nat.le_of_ble_eq_true rfl) dX5_as_22
set_option maxHeartbeats 4000000 in
theorem mt_X5_becomes (l : Launch) (D : va_G) (A : Nat → Prop) (E : State → Prop) (hE : zEok A E) (h : zT) (a0 : Nat) (i1 : Int32) (i2 : Int32) (res : Int32 × zT) (hf : f_X5_becomes h a0 i1 i2 = some res) : Met l yX5_becomes (ws_ yX5_becomes cX5_becomes 4 (Option.some FieldType.int)) rm_X5_becomes (zPW D A E h [.ref a0, .int i1, .int i2]) (zQW D A (some (.int res.1)) res.2) 0 0 A := by
  refine zmt hE (by decide) (Nat.le_of_ble_eq_true rfl) ?_
  intro p e s m below meth c ls hmn X hw hl
  have hl : lv_has ls 4 [(0, .ref a0), (1, .int i1), (2, .int i2)] := hl
  have hx := X.1.1
  have hb := X.1.2.1
  have hown := X.1.2.2.2.1
  have hts := X.1.2.2.2.2
  unfold f_X5_becomes at hf
  refine lv_aload_n hx hb dX5_becomes_0 rfl (lv_at hl 0 rfl) ?_
  refine zw_getR X hw fs_X5_0 q1270 rfl hf dX5_becomes_1 (fun v1 hf => ?_)
  refine lv_iload_n hx hb dX5_becomes_4 rfl (lv_at hl 1 rfl) ?_
  refine zw_ialoadR X hw hf dX5_becomes_5 (fun v2 hf => ?_)
  refine lv_istore_n (lv' := [(3, .int v2), (0, .ref a0), (1, .int i1), (2, .int i2)]) hx hb dX5_becomes_6 rfl hl (by decide) rfl (fun ls hl => ?_)
  refine lv_aload_n hx hb dX5_becomes_7 rfl (lv_at hl 1 rfl) ?_
  refine zw_getR X hw fs_X5_0 q1270 rfl hf dX5_becomes_8 (fun v3 hf => ?_)
  refine lv_iload_n hx hb dX5_becomes_11 rfl (lv_at hl 2 rfl) ?_
  refine lv_iload_n hx hb dX5_becomes_12 rfl (lv_at hl 3 rfl) ?_
  refine zw_iastore X hw hf dX5_becomes_13 (fun h4 H locs hf hw => ?_)
  refine lv_iload_n hx hb dX5_becomes_14 rfl (lv_at hl 0 rfl) ?_
  exact zw_iret X hw hf (Nat.le_of_ble_eq_true rfl) (Nat.le_of_ble_eq_true rfl) dX5_becomes_15
set_option maxHeartbeats 4000000 in
theorem mt_X5_turns (l : Launch) (D : va_G) (A : Nat → Prop) (E : State → Prop) (hE : zEok A E) (h : zT) (a0 : Nat) (i1 : Int32) (i2 : Int32) (res : Int32 × zT) (hf : f_X5_turns h a0 i1 i2 = some res) : Met l yX5_turns (ws_ yX5_turns cX5_turns 3 (Option.some FieldType.int)) rm_X5_turns (zPW D A E h [.ref a0, .int i1, .int i2]) (zQW D A (some (.int res.1)) res.2) 0 0 A := by
  refine zmt hE (by decide) (Nat.le_of_ble_eq_true rfl) ?_
  intro p e s m below meth c ls hmn X hw hl
  have hl : lv_has ls 3 [(0, .ref a0), (1, .int i1), (2, .int i2)] := hl
  have hx := X.1.1
  have hb := X.1.2.1
  have hown := X.1.2.2.2.1
  have hts := X.1.2.2.2.2
  unfold f_X5_turns at hf
  refine lv_aload_n hx hb dX5_turns_0 rfl (lv_at hl 0 rfl) ?_
  refine lv_iload_n hx hb dX5_turns_1 rfl (lv_at hl 1 rfl) ?_
  refine zw_cVZ (rest := []) [.int i1] X hw hl.1 hf rfl rfl (fun r hr => mt_X5_isRubbing l D A E X.2.2.2.2.2.1 h a0 i1 r hr) (lw_V q1391 q1393 qs38 q89 q1394) cd_X5_isRubbing ⟨rfl, rfl⟩ ⟨Nat.le_of_ble_eq_true rfl, Nat.le_of_ble_eq_true rfl⟩ rfl rfl (Nat.le_of_ble_eq_true rfl) dX5_turns_2 ⟨Nat.le_of_ble_eq_true rfl, Nat.le_of_ble_eq_true rfl⟩ (fun r1 H locs hf hw => ?_)
  refine zw_if_eq (tgt := 35) hx hb hf dX5_turns_5 (by decide) (fun hf => ?_) (fun hf => ?_)
  · refine lv_ldc (v := (-1000000001 : Int32)) hx hb hown (hts _ q1377) dX5_turns_35 ?_
    exact zw_iret X hw hf (Nat.le_of_ble_eq_true rfl) (Nat.le_of_ble_eq_true rfl) dX5_turns_37
  · refine lv_iload_n hx hb dX5_turns_8 rfl (lv_at hl 2 rfl) ?_
    refine lv_i2l hx hb dX5_turns_9 rfl ?_
    refine lv_lconst (v := (0 : Int64)) hx hb dX5_turns_10 (by decide) ?_
    refine lv_ldc2 (v := (5 : Int64)) hx hb hown (hts _ q1371) dX5_turns_11 ?_
    refine zw_cSZ (rest := []) [.long i2.toInt64, .long (0 : Int64), .long (5 : Int64)] X hw hl.1 hf (fun r hr => mt_X5_isIn l D A E X.2.2.2.2.2.1 r1.2 i2.toInt64 (0 : Int64) (5 : Int64) r hr) (lw_S q1372 q1373 q89 q1374) cd_X5_isIn ⟨rfl, rfl⟩ ⟨Nat.le_of_ble_eq_true rfl, Nat.le_of_ble_eq_true rfl⟩ rfl rfl (Nat.le_of_ble_eq_true rfl) dX5_turns_14 ⟨Nat.le_of_ble_eq_true rfl, Nat.le_of_ble_eq_true rfl⟩ (fun r2 H locs hf hw => ?_)
    refine zw_if_eq (tgt := 35) hx hb hf dX5_turns_17 (by decide) (fun hf => ?_) (fun hf => ?_)
    · refine lv_ldc (v := (-1000000001 : Int32)) hx hb hown (hts _ q1377) dX5_turns_35 ?_
      exact zw_iret X hw hf (Nat.le_of_ble_eq_true rfl) (Nat.le_of_ble_eq_true rfl) dX5_turns_37
    · refine lv_aload_n hx hb dX5_turns_20 rfl (lv_at hl 0 rfl) ?_
      refine lv_bipush (v := (21 : Int32)) hx hb dX5_turns_21 (by decide) ?_
      refine lv_bipush (v := (6 : Int32)) hx hb dX5_turns_23 (by decide) ?_
      refine lv_iload_n hx hb dX5_turns_25 rfl (lv_at hl 1 rfl) ?_
      refine lv_imul hx hb dX5_turns_26 ?_
      refine lv_iadd hx hb dX5_turns_27 ?_
      refine lv_iload_n hx hb dX5_turns_28 rfl (lv_at hl 2 rfl) ?_
      refine zw_cVI (rest := []) [.int ((21 : Int32) + ((6 : Int32) * i1)), .int i2] X hw hl.1 hf rfl rfl (fun r hr => mt_X5_becomes l D A E X.2.2.2.2.2.1 r2.2 a0 ((21 : Int32) + ((6 : Int32) * i1)) i2 r hr) (lw_V q1461 q1463 qs49 q89 q1464) cd_X5_becomes ⟨rfl, rfl⟩ ⟨Nat.le_of_ble_eq_true rfl, Nat.le_of_ble_eq_true rfl⟩ rfl rfl (Nat.le_of_ble_eq_true rfl) dX5_turns_29 ⟨Nat.le_of_ble_eq_true rfl, Nat.le_of_ble_eq_true rfl⟩ (fun r3 H locs hf hw => ?_)
      refine lv_goto (tgt := 37) hx hb dX5_turns_32 (by decide) ?_
      exact zw_iret X hw hf (Nat.le_of_ble_eq_true rfl) (Nat.le_of_ble_eq_true rfl) dX5_turns_37
set_option maxHeartbeats 4000000 in
theorem mt_X5_mostOf (l : Launch) (D : va_G) (A : Nat → Prop) (E : State → Prop) (hE : zEok A E) (h : zT) (i0 : Int32) (res : Int32 × zT) (hf : f_X5_mostOf h i0 = some res) : Met l yX5_mostOf (ws_ yX5_mostOf cX5_mostOf 1 (Option.some FieldType.int)) rm_X5_mostOf (zPW D A E h [.int i0]) (zQW D A (some (.int res.1)) res.2) 0 0 A := by
  refine zmt hE (by decide) (Nat.le_of_ble_eq_true rfl) ?_
  intro p e s m below meth c ls hmn X hw hl
  have hl : lv_has ls 1 [(0, .int i0)] := hl
  have hx := X.1.1
  have hb := X.1.2.1
  have hown := X.1.2.2.2.1
  have hts := X.1.2.2.2.2
  unfold f_X5_mostOf at hf
  refine lv_iload_n hx hb dX5_mostOf_0 rfl (lv_at hl 0 rfl) ?_
  refine zw_case hf (fun c1001 hf => ?_) (fun c1001 hf => ?_)
  · refine zw_tableIn (off := 31) (tgt := 32) hx hb c1001 dX5_mostOf_1 (by decide) (by decide) rfl (by decide) ?_
    refine lv_ldc (v := (65535 : Int32)) hx hb hown (hts _ q1407) dX5_mostOf_32 ?_
    exact zw_iret X hw hf (Nat.le_of_ble_eq_true rfl) (Nat.le_of_ble_eq_true rfl) dX5_mostOf_34
  · refine zw_case hf (fun c1002 hf => ?_) (fun c1002 hf => ?_)
    · refine zw_tableIn (off := 34) (tgt := 35) hx hb c1002 dX5_mostOf_1 (by decide) (by decide) rfl (by decide) ?_
      refine lv_bipush (v := (8 : Int32)) hx hb dX5_mostOf_35 (by decide) ?_
      exact zw_iret X hw hf (Nat.le_of_ble_eq_true rfl) (Nat.le_of_ble_eq_true rfl) dX5_mostOf_37
    · refine zw_case hf (fun c1003 hf => ?_) (fun c1003 hf => ?_)
      · refine zw_tableIn (off := 37) (tgt := 38) hx hb c1003 dX5_mostOf_1 (by decide) (by decide) rfl (by decide) ?_
        refine lv_iconst (v := (1 : Int32)) hx hb dX5_mostOf_38 (by decide) ?_
        exact zw_iret X hw hf (Nat.le_of_ble_eq_true rfl) (Nat.le_of_ble_eq_true rfl) dX5_mostOf_39
      · refine zw_case hf (fun c1004 hf => ?_) (fun c1004 hf => ?_)
        · refine zw_tableIn (off := 39) (tgt := 40) hx hb c1004 dX5_mostOf_1 (by decide) (by decide) rfl (by decide) ?_
          refine lv_bipush (v := (16 : Int32)) hx hb dX5_mostOf_40 (by decide) ?_
          exact zw_iret X hw hf (Nat.le_of_ble_eq_true rfl) (Nat.le_of_ble_eq_true rfl) dX5_mostOf_42
        · refine lv_tableOut (tgt := 43) hx hb dX5_mostOf_1 (by have := lv_neT c1001 (a := 1) (by decide); have := lv_neT c1002 (a := 2) (by decide); have := lv_neT c1003 (a := 3) (by decide); have := lv_neT c1004 (a := 4) (by decide); omega) (by decide) ?_
          refine lv_bipush (v := (99 : Int32)) hx hb dX5_mostOf_43 (by decide) ?_
          exact zw_iret X hw hf (Nat.le_of_ble_eq_true rfl) (Nat.le_of_ble_eq_true rfl) dX5_mostOf_45
set_option maxHeartbeats 4000000 in
theorem k_X5_set_32 {p : Program} {l : Launch} {e : Env} {s : State} {m : MethodId} {args : Array Value} {below : List Frame} {meth : Method} {c : Code} {D : va_G} {A : Nat → Prop} {E : State → Prop} (X : zCx p s m args meth c D A E cX5_set 4 RX5 (Option.some FieldType.int)) (res : Int32 × zT) : ∀ (h : zT) (a0 : Nat) (i1 : Int32) (i2 : Int32) (i3 : Int32) (s0 : Int64) (s1 : Int64) (H : Heap) (locs : List Loc) (ls : Array Slot), f_X5_set_32 h a0 i1 i2 i3 s0 s1 = some res → zWh D A s H h locs → lv_has ls 4 [(0, .ref a0), (1, .int i1), (2, .int i2), (3, .int i3)] → W p l e rm_X5_set s m args below meth c H locs 0 0 (MQ below (zQW D A (some (.int res.1)) res.2) args s 0 0 A) (F0 m 32 ls [.long s0, .long s1]) := by
  have hx := X.1.1
  have hb := X.1.2.1
  have hown := X.1.2.2.2.1
  have hts := X.1.2.2.2.2
  intro h a0 i1 i2 i3 s0 s1 H locs ls hf hw hl
  unfold f_X5_set_32 at hf
  refine lv_iload_n hx hb dX5_set_32 rfl (lv_at hl 2 rfl) ?_
  refine zw_cSI (rest := [.long s0, .long s1]) [.int i2] X hw hl.1 hf (fun r hr => mt_X5_mostOf l D A E X.2.2.2.2.2.1 h i2 r hr) (lw_S q1469 q1470 q89 q1471) cd_X5_mostOf ⟨rfl, rfl⟩ ⟨Nat.le_of_ble_eq_true rfl, Nat.le_of_ble_eq_true rfl⟩ rfl rfl (Nat.le_of_ble_eq_true rfl) dX5_set_33 ⟨Nat.le_of_ble_eq_true rfl, Nat.le_of_ble_eq_true rfl⟩ (fun r1 H locs hf hw => ?_)
  refine lv_i2l hx hb dX5_set_36 rfl ?_
  refine zw_cSZ (rest := []) [.long s1, .long s0, .long r1.1.toInt64] X hw hl.1 hf (fun r hr => mt_X5_isIn l D A E X.2.2.2.2.2.1 r1.2 s1 s0 r1.1.toInt64 r hr) (lw_S q1372 q1373 q89 q1374) cd_X5_isIn ⟨rfl, rfl⟩ ⟨Nat.le_of_ble_eq_true rfl, Nat.le_of_ble_eq_true rfl⟩ rfl rfl (Nat.le_of_ble_eq_true rfl) dX5_set_37 ⟨Nat.le_of_ble_eq_true rfl, Nat.le_of_ble_eq_true rfl⟩ (fun r2 H locs hf hw => ?_)
  refine zw_if_ne (tgt := 46) hx hb hf dX5_set_40 (by decide) (fun hf => ?_) (fun hf => ?_)
  · refine lv_aload_n hx hb dX5_set_46 rfl (lv_at hl 0 rfl) ?_
    refine lv_bipush (v := (21 : Int32)) hx hb dX5_set_47 (by decide) ?_
    refine lv_bipush (v := (6 : Int32)) hx hb dX5_set_49 (by decide) ?_
    refine lv_iload_n hx hb dX5_set_51 rfl (lv_at hl 1 rfl) ?_
    refine lv_imul hx hb dX5_set_52 ?_
    refine lv_iadd hx hb dX5_set_53 ?_
    refine lv_iload_n hx hb dX5_set_54 rfl (lv_at hl 2 rfl) ?_
    refine lv_iadd hx hb dX5_set_55 ?_
    refine lv_iload_n hx hb dX5_set_56 rfl (lv_at hl 3 rfl) ?_
    refine zw_cVI (rest := []) [.int (((21 : Int32) + ((6 : Int32) * i1)) + i2), .int i3] X hw hl.1 hf rfl rfl (fun r hr => mt_X5_becomes l D A E X.2.2.2.2.2.1 r2.2 a0 (((21 : Int32) + ((6 : Int32) * i1)) + i2) i3 r hr) (lw_V q1461 q1463 qs49 q89 q1464) cd_X5_becomes ⟨rfl, rfl⟩ ⟨Nat.le_of_ble_eq_true rfl, Nat.le_of_ble_eq_true rfl⟩ rfl rfl (Nat.le_of_ble_eq_true rfl) dX5_set_57 ⟨Nat.le_of_ble_eq_true rfl, Nat.le_of_ble_eq_true rfl⟩ (fun r3 H locs hf hw => ?_)
    exact zw_iret X hw hf (Nat.le_of_ble_eq_true rfl) (Nat.le_of_ble_eq_true rfl) dX5_set_60
  · refine lv_ldc (v := (-1000000001 : Int32)) hx hb hown (hts _ q1377) dX5_set_43 ?_
    exact zw_iret X hw hf (Nat.le_of_ble_eq_true rfl) (Nat.le_of_ble_eq_true rfl) dX5_set_45
set_option maxHeartbeats 4000000 in
theorem mt_X5_set (l : Launch) (D : va_G) (A : Nat → Prop) (E : State → Prop) (hE : zEok A E) (h : zT) (a0 : Nat) (i1 : Int32) (i2 : Int32) (i3 : Int32) (res : Int32 × zT) (hf : f_X5_set h a0 i1 i2 i3 = some res) : Met l yX5_set (ws_ yX5_set cX5_set 4 (Option.some FieldType.int)) rm_X5_set (zPW D A E h [.ref a0, .int i1, .int i2, .int i3]) (zQW D A (some (.int res.1)) res.2) 0 0 A := by
  refine zmt hE (by decide) (Nat.le_of_ble_eq_true rfl) ?_
  intro p e s m below meth c ls hmn X hw hl
  have hl : lv_has ls 4 [(0, .ref a0), (1, .int i1), (2, .int i2), (3, .int i3)] := hl
  have hx := X.1.1
  have hb := X.1.2.1
  have hown := X.1.2.2.2.1
  have hts := X.1.2.2.2.2
  unfold f_X5_set at hf
  refine lv_aload_n hx hb dX5_set_0 rfl (lv_at hl 0 rfl) ?_
  refine lv_iload_n hx hb dX5_set_1 rfl (lv_at hl 1 rfl) ?_
  refine zw_cVZ (rest := []) [.int i1] X hw hl.1 hf rfl rfl (fun r hr => mt_X5_isRubbing l D A E X.2.2.2.2.2.1 h a0 i1 r hr) (lw_V q1391 q1393 qs38 q89 q1394) cd_X5_isRubbing ⟨rfl, rfl⟩ ⟨Nat.le_of_ble_eq_true rfl, Nat.le_of_ble_eq_true rfl⟩ rfl rfl (Nat.le_of_ble_eq_true rfl) dX5_set_2 ⟨Nat.le_of_ble_eq_true rfl, Nat.le_of_ble_eq_true rfl⟩ (fun r1 H locs hf hw => ?_)
  refine zw_if_eq (tgt := 43) hx hb hf dX5_set_5 (by decide) (fun hf => ?_) (fun hf => ?_)
  · refine lv_ldc (v := (-1000000001 : Int32)) hx hb hown (hts _ q1377) dX5_set_43 ?_
    exact zw_iret X hw hf (Nat.le_of_ble_eq_true rfl) (Nat.le_of_ble_eq_true rfl) dX5_set_45
  · refine lv_iload_n hx hb dX5_set_8 rfl (lv_at hl 2 rfl) ?_
    refine lv_i2l hx hb dX5_set_9 rfl ?_
    refine lv_lconst (v := (1 : Int64)) hx hb dX5_set_10 (by decide) ?_
    refine lv_ldc2 (v := (5 : Int64)) hx hb hown (hts _ q1371) dX5_set_11 ?_
    refine zw_cSZ (rest := []) [.long i2.toInt64, .long (1 : Int64), .long (5 : Int64)] X hw hl.1 hf (fun r hr => mt_X5_isIn l D A E X.2.2.2.2.2.1 r1.2 i2.toInt64 (1 : Int64) (5 : Int64) r hr) (lw_S q1372 q1373 q89 q1374) cd_X5_isIn ⟨rfl, rfl⟩ ⟨Nat.le_of_ble_eq_true rfl, Nat.le_of_ble_eq_true rfl⟩ rfl rfl (Nat.le_of_ble_eq_true rfl) dX5_set_14 ⟨Nat.le_of_ble_eq_true rfl, Nat.le_of_ble_eq_true rfl⟩ (fun r2 H locs hf hw => ?_)
    refine zw_if_eq (tgt := 43) hx hb hf dX5_set_17 (by decide) (fun hf => ?_) (fun hf => ?_)
    · refine lv_ldc (v := (-1000000001 : Int32)) hx hb hown (hts _ q1377) dX5_set_43 ?_
      exact zw_iret X hw hf (Nat.le_of_ble_eq_true rfl) (Nat.le_of_ble_eq_true rfl) dX5_set_45
    · refine lv_iload_n hx hb dX5_set_20 rfl (lv_at hl 3 rfl) ?_
      refine lv_i2l hx hb dX5_set_21 rfl ?_
      refine lv_iload_n hx hb dX5_set_22 rfl (lv_at hl 2 rfl) ?_
      refine lv_iconst (v := (2 : Int32)) hx hb dX5_set_23 (by decide) ?_
      refine zw_icmp_ne (tgt := 31) hx hb hf dX5_set_24 (by decide) (fun hf => ?_) (fun hf => ?_)
      · refine lv_lconst (v := (0 : Int64)) hx hb dX5_set_31 (by decide) ?_
        exact k_X5_set_32 X _ r2.2 a0 i1 i2 i3 (0 : Int64) i3.toInt64 _ _ _ hf hw (lv_sub hl [0, 1, 2, 3] rfl)
      · refine lv_lconst (v := (1 : Int64)) hx hb dX5_set_27 (by decide) ?_
        refine lv_goto (tgt := 32) hx hb dX5_set_28 (by decide) ?_
        exact k_X5_set_32 X _ r2.2 a0 i1 i2 i3 (1 : Int64) i3.toInt64 _ _ _ hf hw (lv_sub hl [0, 1, 2, 3] rfl)
set_option maxHeartbeats 4000000 in
theorem mt_X5_carve (l : Launch) (D : va_G) (A : Nat → Prop) (E : State → Prop) (hE : zEok A E) (h : zT) (a0 : Nat) (i1 : Int32) (i2 : Int32) (res : Int32 × zT) (hf : f_X5_carve h a0 i1 i2 = some res) : Met l yX5_carve (ws_ yX5_carve cX5_carve 3 (Option.some FieldType.int)) rm_X5_carve (zPW D A E h [.ref a0, .int i1, .int i2]) (zQW D A (some (.int res.1)) res.2) 0 0 A := by
  refine zmt hE (by decide) (Nat.le_of_ble_eq_true rfl) ?_
  intro p e s m below meth c ls hmn X hw hl
  have hl : lv_has ls 3 [(0, .ref a0), (1, .int i1), (2, .int i2)] := hl
  have hx := X.1.1
  have hb := X.1.2.1
  have hown := X.1.2.2.2.1
  have hts := X.1.2.2.2.2
  unfold f_X5_carve at hf
  refine lv_iload_n hx hb dX5_carve_0 rfl (lv_at hl 1 rfl) ?_
  refine lv_i2l hx hb dX5_carve_1 rfl ?_
  refine lv_lconst (v := (0 : Int64)) hx hb dX5_carve_2 (by decide) ?_
  refine lv_ldc2 (v := (15 : Int64)) hx hb hown (hts _ q1476) dX5_carve_3 ?_
  refine zw_cSZ (rest := []) [.long i1.toInt64, .long (0 : Int64), .long (15 : Int64)] X hw hl.1 hf (fun r hr => mt_X5_isIn l D A E X.2.2.2.2.2.1 h i1.toInt64 (0 : Int64) (15 : Int64) r hr) (lw_S q1372 q1373 q89 q1374) cd_X5_isIn ⟨rfl, rfl⟩ ⟨Nat.le_of_ble_eq_true rfl, Nat.le_of_ble_eq_true rfl⟩ rfl rfl (Nat.le_of_ble_eq_true rfl) dX5_carve_6 ⟨Nat.le_of_ble_eq_true rfl, Nat.le_of_ble_eq_true rfl⟩ (fun r1 H locs hf hw => ?_)
  refine zw_if_eq (tgt := 35) hx hb hf dX5_carve_9 (by decide) (fun hf => ?_) (fun hf => ?_)
  · refine lv_ldc (v := (-1000000001 : Int32)) hx hb hown (hts _ q1377) dX5_carve_35 ?_
    exact zw_iret X hw hf (Nat.le_of_ble_eq_true rfl) (Nat.le_of_ble_eq_true rfl) dX5_carve_37
  · refine lv_iload_n hx hb dX5_carve_12 rfl (lv_at hl 2 rfl) ?_
    refine lv_i2l hx hb dX5_carve_13 rfl ?_
    refine lv_lconst (v := (0 : Int64)) hx hb dX5_carve_14 (by decide) ?_
    refine lv_ldc2 (v := (3 : Int64)) hx hb hown (hts _ q1477) dX5_carve_15 ?_
    refine zw_cSZ (rest := []) [.long i2.toInt64, .long (0 : Int64), .long (3 : Int64)] X hw hl.1 hf (fun r hr => mt_X5_isIn l D A E X.2.2.2.2.2.1 r1.2 i2.toInt64 (0 : Int64) (3 : Int64) r hr) (lw_S q1372 q1373 q89 q1374) cd_X5_isIn ⟨rfl, rfl⟩ ⟨Nat.le_of_ble_eq_true rfl, Nat.le_of_ble_eq_true rfl⟩ rfl rfl (Nat.le_of_ble_eq_true rfl) dX5_carve_18 ⟨Nat.le_of_ble_eq_true rfl, Nat.le_of_ble_eq_true rfl⟩ (fun r2 H locs hf hw => ?_)
    refine zw_if_eq (tgt := 35) hx hb hf dX5_carve_21 (by decide) (fun hf => ?_) (fun hf => ?_)
    · refine lv_ldc (v := (-1000000001 : Int32)) hx hb hown (hts _ q1377) dX5_carve_35 ?_
      exact zw_iret X hw hf (Nat.le_of_ble_eq_true rfl) (Nat.le_of_ble_eq_true rfl) dX5_carve_37
    · refine lv_aload_n hx hb dX5_carve_24 rfl (lv_at hl 0 rfl) ?_
      refine lv_iconst (v := (5 : Int32)) hx hb dX5_carve_25 (by decide) ?_
      refine lv_iload_n hx hb dX5_carve_26 rfl (lv_at hl 1 rfl) ?_
      refine lv_iadd hx hb dX5_carve_27 ?_
      refine lv_iload_n hx hb dX5_carve_28 rfl (lv_at hl 2 rfl) ?_
      refine zw_cVI (rest := []) [.int ((5 : Int32) + i1), .int i2] X hw hl.1 hf rfl rfl (fun r hr => mt_X5_becomes l D A E X.2.2.2.2.2.1 r2.2 a0 ((5 : Int32) + i1) i2 r hr) (lw_V q1461 q1463 qs49 q89 q1464) cd_X5_becomes ⟨rfl, rfl⟩ ⟨Nat.le_of_ble_eq_true rfl, Nat.le_of_ble_eq_true rfl⟩ rfl rfl (Nat.le_of_ble_eq_true rfl) dX5_carve_29 ⟨Nat.le_of_ble_eq_true rfl, Nat.le_of_ble_eq_true rfl⟩ (fun r3 H locs hf hw => ?_)
      refine lv_goto (tgt := 37) hx hb dX5_carve_32 (by decide) ?_
      exact zw_iret X hw hf (Nat.le_of_ble_eq_true rfl) (Nat.le_of_ble_eq_true rfl) dX5_carve_37
set_option maxHeartbeats 4000000 in
theorem mt_X5_carved (l : Launch) (D : va_G) (A : Nat → Prop) (E : State → Prop) (hE : zEok A E) (h : zT) (a0 : Nat) (i1 : Int32) (res : Int32 × zT) (hf : f_X5_carved h a0 i1 = some res) : Met l yX5_carved (ws_ yX5_carved cX5_carved 2 (Option.some FieldType.int)) rm_X5_carved (zPW D A E h [.ref a0, .int i1]) (zQW D A (some (.int res.1)) res.2) 0 0 A := by
  refine zmt hE (by decide) (Nat.le_of_ble_eq_true rfl) ?_
  intro p e s m below meth c ls hmn X hw hl
  have hl : lv_has ls 2 [(0, .ref a0), (1, .int i1)] := hl
  have hx := X.1.1
  have hb := X.1.2.1
  have hown := X.1.2.2.2.1
  have hts := X.1.2.2.2.2
  unfold f_X5_carved at hf
  refine lv_iload_n hx hb dX5_carved_0 rfl (lv_at hl 1 rfl) ?_
  refine lv_i2l hx hb dX5_carved_1 rfl ?_
  refine lv_lconst (v := (0 : Int64)) hx hb dX5_carved_2 (by decide) ?_
  refine lv_ldc2 (v := (15 : Int64)) hx hb hown (hts _ q1476) dX5_carved_3 ?_
  refine zw_cSZ (rest := []) [.long i1.toInt64, .long (0 : Int64), .long (15 : Int64)] X hw hl.1 hf (fun r hr => mt_X5_isIn l D A E X.2.2.2.2.2.1 h i1.toInt64 (0 : Int64) (15 : Int64) r hr) (lw_S q1372 q1373 q89 q1374) cd_X5_isIn ⟨rfl, rfl⟩ ⟨Nat.le_of_ble_eq_true rfl, Nat.le_of_ble_eq_true rfl⟩ rfl rfl (Nat.le_of_ble_eq_true rfl) dX5_carved_6 ⟨Nat.le_of_ble_eq_true rfl, Nat.le_of_ble_eq_true rfl⟩ (fun r1 H locs hf hw => ?_)
  refine zw_if_eq (tgt := 23) hx hb hf dX5_carved_9 (by decide) (fun hf => ?_) (fun hf => ?_)
  · refine lv_ldc (v := (-1000000001 : Int32)) hx hb hown (hts _ q1377) dX5_carved_23 ?_
    exact zw_iret X hw hf (Nat.le_of_ble_eq_true rfl) (Nat.le_of_ble_eq_true rfl) dX5_carved_25
  · refine lv_aload_n hx hb dX5_carved_12 rfl (lv_at hl 0 rfl) ?_
    refine zw_getR X hw fs_X5_0 q1270 rfl hf dX5_carved_13 (fun v2 hf => ?_)
    refine lv_iconst (v := (5 : Int32)) hx hb dX5_carved_16 (by decide) ?_
    refine lv_iload_n hx hb dX5_carved_17 rfl (lv_at hl 1 rfl) ?_
    refine lv_iadd hx hb dX5_carved_18 ?_
    refine zw_ialoadR X hw hf dX5_carved_19 (fun v3 hf => ?_)
    refine lv_goto (tgt := 25) hx hb dX5_carved_20 (by decide) ?_
    exact zw_iret X hw hf (Nat.le_of_ble_eq_true rfl) (Nat.le_of_ble_eq_true rfl) dX5_carved_25
set_option maxHeartbeats 4000000 in
theorem mt_X5_drawn (l : Launch) (D : va_G) (A : Nat → Prop) (E : State → Prop) (hE : zEok A E) (h : zT) (a0 : Nat) (res : Int32 × zT) (hf : f_X5_drawn h a0 = some res) : Met l yX5_drawn (ws_ yX5_drawn cX5_drawn 1 (Option.some FieldType.int)) rm_X5_drawn (zPW D A E h [.ref a0]) (zQW D A (some (.int res.1)) res.2) 0 0 A := by
  refine zmt hE (by decide) (Nat.le_of_ble_eq_true rfl) ?_
  intro p e s m below meth c ls hmn X hw hl
  have hl : lv_has ls 1 [(0, .ref a0)] := hl
  have hx := X.1.1
  have hb := X.1.2.1
  have hown := X.1.2.2.2.1
  have hts := X.1.2.2.2.2
  unfold f_X5_drawn at hf
  refine lv_aload_n hx hb dX5_drawn_0 rfl (lv_at hl 0 rfl) ?_
  refine zw_getR X hw fs_X5_0 q1270 rfl hf dX5_drawn_1 (fun v1 hf => ?_)
  refine lv_iconst (v := (4 : Int32)) hx hb dX5_drawn_4 (by decide) ?_
  refine lv_aload_n hx hb dX5_drawn_5 rfl (lv_at hl 0 rfl) ?_
  refine zw_getR X hw fs_X5_0 q1270 rfl hf dX5_drawn_6 (fun v2 hf => ?_)
  refine lv_iconst (v := (4 : Int32)) hx hb dX5_drawn_9 (by decide) ?_
  refine zw_ialoadR X hw hf dX5_drawn_10 (fun v3 hf => ?_)
  refine lv_ldc (v := (1103515245 : Int32)) hx hb hown (hts _ q1491) dX5_drawn_11 ?_
  refine lv_imul hx hb dX5_drawn_13 ?_
  refine lv_sipush (v := (12345 : Int32)) hx hb dX5_drawn_14 (by decide) ?_
  refine lv_iadd hx hb dX5_drawn_17 ?_
  refine zw_iastore X hw hf dX5_drawn_18 (fun h4 H locs hf hw => ?_)
  refine lv_aload_n hx hb dX5_drawn_19 rfl (lv_at hl 0 rfl) ?_
  refine zw_getR X hw fs_X5_0 q1270 rfl hf dX5_drawn_20 (fun v5 hf => ?_)
  refine lv_iconst (v := (4 : Int32)) hx hb dX5_drawn_23 (by decide) ?_
  refine zw_ialoadR X hw hf dX5_drawn_24 (fun v6 hf => ?_)
  refine lv_bipush (v := (8 : Int32)) hx hb dX5_drawn_25 (by decide) ?_
  refine lv_iushr hx hb dX5_drawn_27 rfl ?_
  exact zw_iret X hw hf (Nat.le_of_ble_eq_true rfl) (Nat.le_of_ble_eq_true rfl) dX5_drawn_28
set_option maxHeartbeats 4000000 in
theorem k_X5_deal_17 {p : Program} {l : Launch} {e : Env} {s : State} {m : MethodId} {args : Array Value} {below : List Frame} {meth : Method} {c : Code} {D : va_G} {A : Nat → Prop} {E : State → Prop} (X : zCx p s m args meth c D A E cX5_deal 5 RX5 (Option.some FieldType.int)) (res : Int32 × zT) : ∀ (n : Nat), ∀ (h : zT) (a0 : Nat) (i1 : Int32) (i2 : Int32) (H : Heap) (locs : List Loc) (ls : Array Slot), f_X5_deal_17 n h a0 i1 i2 = some res → zWh D A s H h locs → lv_has ls 5 [(0, .ref a0), (1, .int i1), (2, .int i2)] → W p l e rm_X5_deal s m args below meth c H locs 0 0 (MQ below (zQW D A (some (.int res.1)) res.2) args s 0 0 A) (F0 m 17 ls []) := by
  have hx := X.1.1
  have hb := X.1.2.1
  have hown := X.1.2.2.2.1
  have hts := X.1.2.2.2.2
  intro n
  induction n with
  | zero =>
    intro h a0 i1 i2 H locs ls hf hw hl
    cases hf
  | succ n ih =>
    intro h a0 i1 i2 H locs ls hf hw hl
    unfold f_X5_deal_17 at hf
    refine lv_iload_n hx hb dX5_deal_17 rfl (lv_at hl 2 rfl) ?_
    refine lv_iload_n hx hb dX5_deal_18 rfl (lv_at hl 1 rfl) ?_
    refine zw_icmp_ge (tgt := 72) hx hb hf dX5_deal_19 (by decide) (fun hf => ?_) (fun hf => ?_)
    · refine lv_iload_n hx hb dX5_deal_72 rfl (lv_at hl 2 rfl) ?_
      exact zw_iret X hw hf (Nat.le_of_ble_eq_true rfl) (Nat.le_of_ble_eq_true rfl) dX5_deal_73
    · refine lv_aload_n hx hb dX5_deal_22 rfl (lv_at hl 0 rfl) ?_
      refine zw_getR X hw fs_X5_0 q1270 rfl hf dX5_deal_23 (fun v1 hf => ?_)
      refine lv_iconst (v := (0 : Int32)) hx hb dX5_deal_26 (by decide) ?_
      refine zw_ialoadR X hw hf dX5_deal_27 (fun v2 hf => ?_)
      refine lv_bipush (v := (9 : Int32)) hx hb dX5_deal_28 (by decide) ?_
      refine zw_icmp_ge (tgt := 72) hx hb hf dX5_deal_30 (by decide) (fun hf => ?_) (fun hf => ?_)
      · refine lv_iload_n hx hb dX5_deal_72 rfl (lv_at hl 2 rfl) ?_
        exact zw_iret X hw hf (Nat.le_of_ble_eq_true rfl) (Nat.le_of_ble_eq_true rfl) dX5_deal_73
      · refine lv_aload_n hx hb dX5_deal_33 rfl (lv_at hl 0 rfl) ?_
        refine zw_cVI (rest := []) [] X hw hl.1 hf rfl rfl (fun r hr => mt_X5_drawn l D A E X.2.2.2.2.2.1 h a0 r hr) (lw_V q1487 q1489 qs50 q89 q1490) cd_X5_drawn ⟨rfl, rfl⟩ ⟨Nat.le_of_ble_eq_true rfl, Nat.le_of_ble_eq_true rfl⟩ rfl rfl (Nat.le_of_ble_eq_true rfl) dX5_deal_34 ⟨Nat.le_of_ble_eq_true rfl, Nat.le_of_ble_eq_true rfl⟩ (fun r3 H locs hf hw => ?_)
        refine lv_bipush (v := (6 : Int32)) hx hb dX5_deal_37 (by decide) ?_
        refine lv_irem hx hb dX5_deal_39 (by decide) ?_
        refine zw_nmI hf (fun v4 hf => ?_)
        refine lv_istore_n (lv' := [(3, .int v4), (0, .ref a0), (1, .int i1), (2, .int i2)]) hx hb dX5_deal_40 rfl hl (by decide) rfl (fun ls hl => ?_)
        refine lv_aload_n hx hb dX5_deal_41 rfl (lv_at hl 1 rfl) ?_
        refine zw_cVI (rest := []) [] X hw hl.1 hf rfl rfl (fun r hr => mt_X5_drawn l D A E X.2.2.2.2.2.1 r3.2 a0 r hr) (lw_V q1487 q1489 qs50 q89 q1490) cd_X5_drawn ⟨rfl, rfl⟩ ⟨Nat.le_of_ble_eq_true rfl, Nat.le_of_ble_eq_true rfl⟩ rfl rfl (Nat.le_of_ble_eq_true rfl) dX5_deal_42 ⟨Nat.le_of_ble_eq_true rfl, Nat.le_of_ble_eq_true rfl⟩ (fun r5 H locs hf hw => ?_)
        refine lv_ldc (v := (65536 : Int32)) hx hb hown (hts _ q1492) dX5_deal_45 ?_
        refine lv_irem hx hb dX5_deal_47 (by decide) ?_
        refine zw_nmI hf (fun v6 hf => ?_)
        refine lv_istore (lv' := [(4, .int v6), (3, .int v4), (0, .ref a0), (1, .int i1), (2, .int i2)]) hx hb dX5_deal_48 hl (by decide) rfl (fun ls hl => ?_)
        refine lv_aload_n hx hb dX5_deal_50 rfl (lv_at hl 2 rfl) ?_
        refine lv_iload_n hx hb dX5_deal_51 rfl (lv_at hl 1 rfl) ?_
        refine lv_iload hx hb dX5_deal_52 (lv_at hl 0 rfl) ?_
        refine lv_iconst (v := (1 : Int32)) hx hb dX5_deal_54 (by decide) ?_
        refine lv_aload_n hx hb dX5_deal_55 rfl (lv_at hl 2 rfl) ?_
        refine zw_cVI (rest := [.int (1 : Int32), .int v6, .int v4, .ref a0]) [] X hw hl.1 hf rfl rfl (fun r hr => mt_X5_drawn l D A E X.2.2.2.2.2.1 r5.2 a0 r hr) (lw_V q1487 q1489 qs50 q89 q1490) cd_X5_drawn ⟨rfl, rfl⟩ ⟨Nat.le_of_ble_eq_true rfl, Nat.le_of_ble_eq_true rfl⟩ rfl rfl (Nat.le_of_ble_eq_true rfl) dX5_deal_56 ⟨Nat.le_of_ble_eq_true rfl, Nat.le_of_ble_eq_true rfl⟩ (fun r7 H locs hf hw => ?_)
        refine lv_bipush (v := (8 : Int32)) hx hb dX5_deal_59 (by decide) ?_
        refine lv_irem hx hb dX5_deal_61 (by decide) ?_
        refine lv_iadd hx hb dX5_deal_62 ?_
        refine zw_cVV (rest := []) [.int v4, .int v6, .int ((1 : Int32) + (r7.1 - r7.1 / (8 : Int32) * (8 : Int32)))] X hw hl.1 hf rfl rfl (fun r hr => mt_X5_comes l D A E X.2.2.2.2.2.1 r7.2 a0 v4 v6 ((1 : Int32) + (r7.1 - r7.1 / (8 : Int32) * (8 : Int32))) r hr) (lw_V q1379 q1381 qs36 q89 q1382) cd_X5_comes ⟨rfl, rfl⟩ ⟨Nat.le_of_ble_eq_true rfl, Nat.le_of_ble_eq_true rfl⟩ rfl rfl (Nat.le_of_ble_eq_true rfl) dX5_deal_63 ⟨Nat.le_of_ble_eq_true rfl, Nat.le_of_ble_eq_true rfl⟩ (fun r8 H locs hf hw => ?_)
        refine zw_nmS hf (fun v9 ev9 hf => ?_)
        refine lv_iinc (k := 4) (v := v9) (lv' := [(2, .int v9), (4, .int v6), (3, .int v4), (0, .ref a0), (1, .int i1)]) hx hb dX5_deal_66 hl rfl (by rw [ev9]; rfl) (by decide) rfl (fun ls hl => ?_)
        refine lv_goto (tgt := 17) hx hb dX5_deal_69 (by decide) ?_
        exact ih r8 a0 i1 v9 _ _ _ hf hw (lv_sub hl [3, 4, 0] rfl)
set_option maxHeartbeats 4000000 in
theorem mt_X5_deal (l : Launch) (D : va_G) (A : Nat → Prop) (E : State → Prop) (hE : zEok A E) (h : zT) (a0 : Nat) (i1 : Int32) (res : Int32 × zT) (hf : f_X5_deal h a0 i1 = some res) : Met l yX5_deal (ws_ yX5_deal cX5_deal 5 (Option.some FieldType.int)) rm_X5_deal (zPW D A E h [.ref a0, .int i1]) (zQW D A (some (.int res.1)) res.2) 0 0 A := by
  refine zmt hE (by decide) (Nat.le_of_ble_eq_true rfl) ?_
  intro p e s m below meth c ls hmn X hw hl
  have hl : lv_has ls 5 [(0, .ref a0), (1, .int i1)] := hl
  have hx := X.1.1
  have hb := X.1.2.1
  have hown := X.1.2.2.2.1
  have hts := X.1.2.2.2.2
  unfold f_X5_deal at hf
  refine lv_iload_n hx hb dX5_deal_0 rfl (lv_at hl 1 rfl) ?_
  refine lv_i2l hx hb dX5_deal_1 rfl ?_
  refine lv_lconst (v := (1 : Int64)) hx hb dX5_deal_2 (by decide) ?_
  refine lv_ldc2 (v := (9 : Int64)) hx hb hown (hts _ q1486) dX5_deal_3 ?_
  refine zw_cSZ (rest := []) [.long i1.toInt64, .long (1 : Int64), .long (9 : Int64)] X hw hl.1 hf (fun r hr => mt_X5_isIn l D A E X.2.2.2.2.2.1 h i1.toInt64 (1 : Int64) (9 : Int64) r hr) (lw_S q1372 q1373 q89 q1374) cd_X5_isIn ⟨rfl, rfl⟩ ⟨Nat.le_of_ble_eq_true rfl, Nat.le_of_ble_eq_true rfl⟩ rfl rfl (Nat.le_of_ble_eq_true rfl) dX5_deal_6 ⟨Nat.le_of_ble_eq_true rfl, Nat.le_of_ble_eq_true rfl⟩ (fun r1 H locs hf hw => ?_)
  refine zw_if_ne (tgt := 15) hx hb hf dX5_deal_9 (by decide) (fun hf => ?_) (fun hf => ?_)
  · refine lv_iconst (v := (0 : Int32)) hx hb dX5_deal_15 (by decide) ?_
    refine lv_istore_n (lv' := [(2, .int (0 : Int32)), (0, .ref a0), (1, .int i1)]) hx hb dX5_deal_16 rfl hl (by decide) rfl (fun ls hl => ?_)
    exact k_X5_deal_17 X _ 4096 r1.2 a0 i1 (0 : Int32) _ _ _ hf hw (lv_sub hl [1, 2, 0] rfl)
  · refine lv_ldc (v := (-1000000001 : Int32)) hx hb hown (hts _ q1377) dX5_deal_12 ?_
    exact zw_iret X hw hf (Nat.le_of_ble_eq_true rfl) (Nat.le_of_ble_eq_true rfl) dX5_deal_14
set_option maxHeartbeats 4000000 in
theorem mt_X5_seed (l : Launch) (D : va_G) (A : Nat → Prop) (E : State → Prop) (hE : zEok A E) (h : zT) (a0 : Nat) (i1 : Int32) (res : Int32 × zT) (hf : f_X5_seed h a0 i1 = some res) : Met l yX5_seed (ws_ yX5_seed cX5_seed 2 (Option.some FieldType.int)) rm_X5_seed (zPW D A E h [.ref a0, .int i1]) (zQW D A (some (.int res.1)) res.2) 0 0 A := by
  refine zmt hE (by decide) (Nat.le_of_ble_eq_true rfl) ?_
  intro p e s m below meth c ls hmn X hw hl
  have hl : lv_has ls 2 [(0, .ref a0), (1, .int i1)] := hl
  have hx := X.1.1
  have hb := X.1.2.1
  have hown := X.1.2.2.2.1
  have hts := X.1.2.2.2.2
  unfold f_X5_seed at hf
  refine lv_aload_n hx hb dX5_seed_0 rfl (lv_at hl 0 rfl) ?_
  refine lv_iconst (v := (4 : Int32)) hx hb dX5_seed_1 (by decide) ?_
  refine lv_iload_n hx hb dX5_seed_2 rfl (lv_at hl 1 rfl) ?_
  refine zw_cVI (rest := []) [.int (4 : Int32), .int i1] X hw hl.1 hf rfl rfl (fun r hr => mt_X5_becomes l D A E X.2.2.2.2.2.1 h a0 (4 : Int32) i1 r hr) (lw_V q1461 q1463 qs49 q89 q1464) cd_X5_becomes ⟨rfl, rfl⟩ ⟨Nat.le_of_ble_eq_true rfl, Nat.le_of_ble_eq_true rfl⟩ rfl rfl (Nat.le_of_ble_eq_true rfl) dX5_seed_3 ⟨Nat.le_of_ble_eq_true rfl, Nat.le_of_ble_eq_true rfl⟩ (fun r1 H locs hf hw => ?_)
  exact zw_iret X hw hf (Nat.le_of_ble_eq_true rfl) (Nat.le_of_ble_eq_true rfl) dX5_seed_6
set_option maxHeartbeats 4000000 in
theorem k_X5_falseOf_5 {p : Program} {l : Launch} {e : Env} {s : State} {m : MethodId} {args : Array Value} {below : List Frame} {meth : Method} {c : Code} {D : va_G} {A : Nat → Prop} {E : State → Prop} (X : zCx p s m args meth c D A E cX5_falseOf 5 RX5 (Option.some FieldType.int)) (res : Int32 × zT) : ∀ (n : Nat), ∀ (h : zT) (a0 : Nat) (i1 : Int32) (i2 : Int32) (i3 : Int32) (i4 : Int32) (H : Heap) (locs : List Loc) (ls : Array Slot), f_X5_falseOf_5 n h a0 i1 i2 i3 i4 = some res → zWh D A s H h locs → lv_has ls 5 [(0, .ref a0), (1, .int i1), (2, .int i2), (3, .int i3), (4, .int i4)] → W p l e rm_X5_falseOf s m args below meth c H locs 0 0 (MQ below (zQW D A (some (.int res.1)) res.2) args s 0 0 A) (F0 m 5 ls []) := by
  have hx := X.1.1
  have hb := X.1.2.1
  have hown := X.1.2.2.2.1
  have hts := X.1.2.2.2.2
  intro n
  induction n with
  | zero =>
    intro h a0 i1 i2 i3 i4 H locs ls hf hw hl
    cases hf
  | succ n ih =>
    intro h a0 i1 i2 i3 i4 H locs ls hf hw hl
    unfold f_X5_falseOf_5 at hf
    refine lv_iload hx hb dX5_falseOf_5 (lv_at hl 4 rfl) ?_
    refine lv_aload_n hx hb dX5_falseOf_7 rfl (lv_at hl 0 rfl) ?_
    refine lv_iload_n hx hb dX5_falseOf_8 rfl (lv_at hl 1 rfl) ?_
    refine lv_iconst (v := (2 : Int32)) hx hb dX5_falseOf_9 (by decide) ?_
    refine zw_cVI (rest := [.int i4]) [.int i1, .int (2 : Int32)] X hw hl.1 hf rfl rfl (fun r hr => mt_X5_of l D A E X.2.2.2.2.2.1 h a0 i1 (2 : Int32) r hr) (lw_V q1395 q1397 qs39 q89 q1398) cd_X5_of ⟨rfl, rfl⟩ ⟨Nat.le_of_ble_eq_true rfl, Nat.le_of_ble_eq_true rfl⟩ rfl rfl (Nat.le_of_ble_eq_true rfl) dX5_falseOf_10 ⟨Nat.le_of_ble_eq_true rfl, Nat.le_of_ble_eq_true rfl⟩ (fun r1 H locs hf hw => ?_)
    refine zw_icmp_ge (tgt := 60) hx hb hf dX5_falseOf_13 (by decide) (fun hf => ?_) (fun hf => ?_)
    · refine lv_iload_n hx hb dX5_falseOf_60 rfl (lv_at hl 3 rfl) ?_
      exact zw_iret X hw hf (Nat.le_of_ble_eq_true rfl) (Nat.le_of_ble_eq_true rfl) dX5_falseOf_61
    · refine lv_iload_n hx hb dX5_falseOf_16 rfl (lv_at hl 2 rfl) ?_
      refine lv_iload hx hb dX5_falseOf_17 (lv_at hl 4 rfl) ?_
      refine lv_iadd hx hb dX5_falseOf_19 ?_
      refine lv_bipush (v := (16 : Int32)) hx hb dX5_falseOf_20 (by decide) ?_
      refine zw_icmp_ge (tgt := 60) hx hb hf dX5_falseOf_22 (by decide) (fun hf => ?_) (fun hf => ?_)
      · refine lv_iload_n hx hb dX5_falseOf_60 rfl (lv_at hl 3 rfl) ?_
        exact zw_iret X hw hf (Nat.le_of_ble_eq_true rfl) (Nat.le_of_ble_eq_true rfl) dX5_falseOf_61
      · refine lv_iload_n hx hb dX5_falseOf_25 rfl (lv_at hl 3 rfl) ?_
        refine lv_aload_n hx hb dX5_falseOf_26 rfl (lv_at hl 0 rfl) ?_
        refine lv_iload_n hx hb dX5_falseOf_27 rfl (lv_at hl 1 rfl) ?_
        refine lv_iload hx hb dX5_falseOf_28 (lv_at hl 4 rfl) ?_
        refine zw_cVI (rest := [.int i3]) [.int i1, .int i4] X hw hl.1 hf rfl rfl (fun r hr => mt_X5_saysAt l D A E X.2.2.2.2.2.1 r1.2 a0 i1 i4 r hr) (lw_V q1442 q1444 qs48 q89 q1445) cd_X5_saysAt ⟨rfl, rfl⟩ ⟨Nat.le_of_ble_eq_true rfl, Nat.le_of_ble_eq_true rfl⟩ rfl rfl (Nat.le_of_ble_eq_true rfl) dX5_falseOf_30 ⟨Nat.le_of_ble_eq_true rfl, Nat.le_of_ble_eq_true rfl⟩ (fun r2 H locs hf hw => ?_)
        refine lv_aload_n hx hb dX5_falseOf_33 rfl (lv_at hl 0 rfl) ?_
        refine zw_getR X hw fs_X5_0 q1270 rfl hf dX5_falseOf_34 (fun v3 hf => ?_)
        refine lv_iconst (v := (5 : Int32)) hx hb dX5_falseOf_37 (by decide) ?_
        refine lv_iload_n hx hb dX5_falseOf_38 rfl (lv_at hl 2 rfl) ?_
        refine lv_iadd hx hb dX5_falseOf_39 ?_
        refine lv_iload hx hb dX5_falseOf_40 (lv_at hl 4 rfl) ?_
        refine lv_iadd hx hb dX5_falseOf_42 ?_
        refine zw_ialoadR X hw hf dX5_falseOf_43 (fun v4 hf => ?_)
        refine zw_icmp_ne (tgt := 51) hx hb hf dX5_falseOf_44 (by decide) (fun hf => ?_) (fun hf => ?_)
        · refine lv_iconst (v := (1 : Int32)) hx hb dX5_falseOf_51 (by decide) ?_
          refine lv_iadd hx hb dX5_falseOf_52 ?_
          refine zw_nmI hf (fun v5 hf => ?_)
          refine lv_istore_n (lv' := [(3, .int v5), (0, .ref a0), (1, .int i1), (2, .int i2), (4, .int i4)]) hx hb dX5_falseOf_53 rfl hl (by decide) rfl (fun ls hl => ?_)
          refine zw_nmS hf (fun v6 ev6 hf => ?_)
          refine lv_iinc (k := 4) (v := v6) (lv' := [(4, .int v6), (3, .int v5), (0, .ref a0), (1, .int i1), (2, .int i2)]) hx hb dX5_falseOf_54 hl rfl (by rw [ev6]; rfl) (by decide) rfl (fun ls hl => ?_)
          refine lv_goto (tgt := 5) hx hb dX5_falseOf_57 (by decide) ?_
          exact ih r2.2 a0 i1 i2 v5 v6 _ _ _ hf hw (lv_sub hl [2, 3, 4, 1, 0] rfl)
        · refine lv_iconst (v := (0 : Int32)) hx hb dX5_falseOf_47 (by decide) ?_
          refine lv_goto (tgt := 52) hx hb dX5_falseOf_48 (by decide) ?_
          refine lv_iadd hx hb dX5_falseOf_52 ?_
          refine zw_nmI hf (fun v7 hf => ?_)
          refine lv_istore_n (lv' := [(3, .int v7), (0, .ref a0), (1, .int i1), (2, .int i2), (4, .int i4)]) hx hb dX5_falseOf_53 rfl hl (by decide) rfl (fun ls hl => ?_)
          refine zw_nmS hf (fun v8 ev8 hf => ?_)
          refine lv_iinc (k := 4) (v := v8) (lv' := [(4, .int v8), (3, .int v7), (0, .ref a0), (1, .int i1), (2, .int i2)]) hx hb dX5_falseOf_54 hl rfl (by rw [ev8]; rfl) (by decide) rfl (fun ls hl => ?_)
          refine lv_goto (tgt := 5) hx hb dX5_falseOf_57 (by decide) ?_
          exact ih r2.2 a0 i1 i2 v7 v8 _ _ _ hf hw (lv_sub hl [2, 3, 4, 1, 0] rfl)
set_option maxHeartbeats 4000000 in
theorem mt_X5_falseOf (l : Launch) (D : va_G) (A : Nat → Prop) (E : State → Prop) (hE : zEok A E) (h : zT) (a0 : Nat) (i1 : Int32) (i2 : Int32) (res : Int32 × zT) (hf : f_X5_falseOf h a0 i1 i2 = some res) : Met l yX5_falseOf (ws_ yX5_falseOf cX5_falseOf 5 (Option.some FieldType.int)) rm_X5_falseOf (zPW D A E h [.ref a0, .int i1, .int i2]) (zQW D A (some (.int res.1)) res.2) 0 0 A := by
  refine zmt hE (by decide) (Nat.le_of_ble_eq_true rfl) ?_
  intro p e s m below meth c ls hmn X hw hl
  have hl : lv_has ls 5 [(0, .ref a0), (1, .int i1), (2, .int i2)] := hl
  have hx := X.1.1
  have hb := X.1.2.1
  have hown := X.1.2.2.2.1
  have hts := X.1.2.2.2.2
  unfold f_X5_falseOf at hf
  refine lv_iconst (v := (0 : Int32)) hx hb dX5_falseOf_0 (by decide) ?_
  refine lv_istore_n (lv' := [(3, .int (0 : Int32)), (0, .ref a0), (1, .int i1), (2, .int i2)]) hx hb dX5_falseOf_1 rfl hl (by decide) rfl (fun ls hl => ?_)
  refine lv_iconst (v := (0 : Int32)) hx hb dX5_falseOf_2 (by decide) ?_
  refine lv_istore (lv' := [(4, .int (0 : Int32)), (3, .int (0 : Int32)), (0, .ref a0), (1, .int i1), (2, .int i2)]) hx hb dX5_falseOf_3 hl (by decide) rfl (fun ls hl => ?_)
  exact k_X5_falseOf_5 X _ 4096 h a0 i1 i2 (0 : Int32) (0 : Int32) _ _ _ hf hw (lv_sub hl [2, 3, 4, 1, 0] rfl)
set_option maxHeartbeats 4000000 in
theorem mt_X5_falseAt (l : Launch) (D : va_G) (A : Nat → Prop) (E : State → Prop) (hE : zEok A E) (h : zT) (a0 : Nat) (i1 : Int32) (i2 : Int32) (res : Int32 × zT) (hf : f_X5_falseAt h a0 i1 i2 = some res) : Met l yX5_falseAt (ws_ yX5_falseAt cX5_falseAt 3 (Option.some FieldType.int)) rm_X5_falseAt (zPW D A E h [.ref a0, .int i1, .int i2]) (zQW D A (some (.int res.1)) res.2) 0 0 A := by
  refine zmt hE (by decide) (Nat.le_of_ble_eq_true rfl) ?_
  intro p e s m below meth c ls hmn X hw hl
  have hl : lv_has ls 3 [(0, .ref a0), (1, .int i1), (2, .int i2)] := hl
  have hx := X.1.1
  have hb := X.1.2.1
  have hown := X.1.2.2.2.1
  have hts := X.1.2.2.2.2
  unfold f_X5_falseAt at hf
  refine lv_aload_n hx hb dX5_falseAt_0 rfl (lv_at hl 0 rfl) ?_
  refine lv_iload_n hx hb dX5_falseAt_1 rfl (lv_at hl 1 rfl) ?_
  refine zw_cVZ (rest := []) [.int i1] X hw hl.1 hf rfl rfl (fun r hr => mt_X5_isRubbing l D A E X.2.2.2.2.2.1 h a0 i1 r hr) (lw_V q1391 q1393 qs38 q89 q1394) cd_X5_isRubbing ⟨rfl, rfl⟩ ⟨Nat.le_of_ble_eq_true rfl, Nat.le_of_ble_eq_true rfl⟩ rfl rfl (Nat.le_of_ble_eq_true rfl) dX5_falseAt_2 ⟨Nat.le_of_ble_eq_true rfl, Nat.le_of_ble_eq_true rfl⟩ (fun r1 H locs hf hw => ?_)
  refine zw_if_eq (tgt := 29) hx hb hf dX5_falseAt_5 (by decide) (fun hf => ?_) (fun hf => ?_)
  · refine lv_ldc (v := (-1000000001 : Int32)) hx hb hown (hts _ q1377) dX5_falseAt_29 ?_
    exact zw_iret X hw hf (Nat.le_of_ble_eq_true rfl) (Nat.le_of_ble_eq_true rfl) dX5_falseAt_31
  · refine lv_iload_n hx hb dX5_falseAt_8 rfl (lv_at hl 2 rfl) ?_
    refine lv_i2l hx hb dX5_falseAt_9 rfl ?_
    refine lv_lconst (v := (0 : Int64)) hx hb dX5_falseAt_10 (by decide) ?_
    refine lv_ldc2 (v := (15 : Int64)) hx hb hown (hts _ q1476) dX5_falseAt_11 ?_
    refine zw_cSZ (rest := []) [.long i2.toInt64, .long (0 : Int64), .long (15 : Int64)] X hw hl.1 hf (fun r hr => mt_X5_isIn l D A E X.2.2.2.2.2.1 r1.2 i2.toInt64 (0 : Int64) (15 : Int64) r hr) (lw_S q1372 q1373 q89 q1374) cd_X5_isIn ⟨rfl, rfl⟩ ⟨Nat.le_of_ble_eq_true rfl, Nat.le_of_ble_eq_true rfl⟩ rfl rfl (Nat.le_of_ble_eq_true rfl) dX5_falseAt_14 ⟨Nat.le_of_ble_eq_true rfl, Nat.le_of_ble_eq_true rfl⟩ (fun r2 H locs hf hw => ?_)
    refine zw_if_eq (tgt := 29) hx hb hf dX5_falseAt_17 (by decide) (fun hf => ?_) (fun hf => ?_)
    · refine lv_ldc (v := (-1000000001 : Int32)) hx hb hown (hts _ q1377) dX5_falseAt_29 ?_
      exact zw_iret X hw hf (Nat.le_of_ble_eq_true rfl) (Nat.le_of_ble_eq_true rfl) dX5_falseAt_31
    · refine lv_aload_n hx hb dX5_falseAt_20 rfl (lv_at hl 0 rfl) ?_
      refine lv_iload_n hx hb dX5_falseAt_21 rfl (lv_at hl 1 rfl) ?_
      refine lv_iload_n hx hb dX5_falseAt_22 rfl (lv_at hl 2 rfl) ?_
      refine zw_cVI (rest := []) [.int i1, .int i2] X hw hl.1 hf rfl rfl (fun r hr => mt_X5_falseOf l D A E X.2.2.2.2.2.1 r2.2 a0 i1 i2 r hr) (lw_V q1501 q1503 qs51 q89 q1504) cd_X5_falseOf ⟨rfl, rfl⟩ ⟨Nat.le_of_ble_eq_true rfl, Nat.le_of_ble_eq_true rfl⟩ rfl rfl (Nat.le_of_ble_eq_true rfl) dX5_falseAt_23 ⟨Nat.le_of_ble_eq_true rfl, Nat.le_of_ble_eq_true rfl⟩ (fun r3 H locs hf hw => ?_)
      refine lv_goto (tgt := 31) hx hb dX5_falseAt_26 (by decide) ?_
      exact zw_iret X hw hf (Nat.le_of_ble_eq_true rfl) (Nat.le_of_ble_eq_true rfl) dX5_falseAt_31
set_option maxHeartbeats 4000000 in
theorem k_X5_fits_26 {p : Program} {l : Launch} {e : Env} {s : State} {m : MethodId} {args : Array Value} {below : List Frame} {meth : Method} {c : Code} {D : va_G} {A : Nat → Prop} {E : State → Prop} (X : zCx p s m args meth c D A E cX5_fits 5 RX5 (Option.some FieldType.int)) (res : Int32 × zT) : ∀ (n : Nat), ∀ (h : zT) (a0 : Nat) (i1 : Int32) (i2 : Int32) (i3 : Int32) (i4 : Int32) (H : Heap) (locs : List Loc) (ls : Array Slot), f_X5_fits_26 n h a0 i1 i2 i3 i4 = some res → zWh D A s H h locs → lv_has ls 5 [(0, .ref a0), (1, .int i1), (2, .int i2), (3, .int i3), (4, .int i4)] → W p l e rm_X5_fits s m args below meth c H locs 0 0 (MQ below (zQW D A (some (.int res.1)) res.2) args s 0 0 A) (F0 m 26 ls []) := by
  have hx := X.1.1
  have hb := X.1.2.1
  have hown := X.1.2.2.2.1
  have hts := X.1.2.2.2.2
  intro n
  induction n with
  | zero =>
    intro h a0 i1 i2 i3 i4 H locs ls hf hw hl
    cases hf
  | succ n ih =>
    intro h a0 i1 i2 i3 i4 H locs ls hf hw hl
    unfold f_X5_fits_26 at hf
    refine lv_iload hx hb dX5_fits_26 (lv_at hl 4 rfl) ?_
    refine lv_bipush (v := (16 : Int32)) hx hb dX5_fits_28 (by decide) ?_
    refine lv_aload_n hx hb dX5_fits_30 rfl (lv_at hl 0 rfl) ?_
    refine lv_iload_n hx hb dX5_fits_31 rfl (lv_at hl 1 rfl) ?_
    refine lv_iconst (v := (2 : Int32)) hx hb dX5_fits_32 (by decide) ?_
    refine zw_cVI (rest := [.int (16 : Int32), .int i4]) [.int i1, .int (2 : Int32)] X hw hl.1 hf rfl rfl (fun r hr => mt_X5_of l D A E X.2.2.2.2.2.1 h a0 i1 (2 : Int32) r hr) (lw_V q1395 q1397 qs39 q89 q1398) cd_X5_of ⟨rfl, rfl⟩ ⟨Nat.le_of_ble_eq_true rfl, Nat.le_of_ble_eq_true rfl⟩ rfl rfl (Nat.le_of_ble_eq_true rfl) dX5_fits_33 ⟨Nat.le_of_ble_eq_true rfl, Nat.le_of_ble_eq_true rfl⟩ (fun r1 H locs hf hw => ?_)
    refine lv_isub hx hb dX5_fits_36 ?_
    refine zw_icmp_gt (tgt := 69) hx hb hf dX5_fits_37 (by decide) (fun hf => ?_) (fun hf => ?_)
    · refine lv_iload_n hx hb dX5_fits_69 rfl (lv_at hl 2 rfl) ?_
      refine zw_if_ne (tgt := 77) hx hb hf dX5_fits_70 (by decide) (fun hf => ?_) (fun hf => ?_)
      · refine lv_aload_n hx hb dX5_fits_77 rfl (lv_at hl 0 rfl) ?_
        refine lv_iload_n hx hb dX5_fits_78 rfl (lv_at hl 1 rfl) ?_
        refine lv_iload_n hx hb dX5_fits_79 rfl (lv_at hl 3 rfl) ?_
        refine zw_cVI (rest := []) [.int i1, .int i3] X hw hl.1 hf rfl rfl (fun r hr => mt_X5_falseOf l D A E X.2.2.2.2.2.1 r1.2 a0 i1 i3 r hr) (lw_V q1501 q1503 qs51 q89 q1504) cd_X5_falseOf ⟨rfl, rfl⟩ ⟨Nat.le_of_ble_eq_true rfl, Nat.le_of_ble_eq_true rfl⟩ rfl rfl (Nat.le_of_ble_eq_true rfl) dX5_fits_80 ⟨Nat.le_of_ble_eq_true rfl, Nat.le_of_ble_eq_true rfl⟩ (fun r2 H locs hf hw => ?_)
        exact zw_iret X hw hf (Nat.le_of_ble_eq_true rfl) (Nat.le_of_ble_eq_true rfl) dX5_fits_83
      · refine lv_iload_n hx hb dX5_fits_73 rfl (lv_at hl 3 rfl) ?_
        refine lv_goto (tgt := 83) hx hb dX5_fits_74 (by decide) ?_
        exact zw_iret X hw hf (Nat.le_of_ble_eq_true rfl) (Nat.le_of_ble_eq_true rfl) dX5_fits_83
    · refine lv_aload_n hx hb dX5_fits_40 rfl (lv_at hl 0 rfl) ?_
      refine lv_iload_n hx hb dX5_fits_41 rfl (lv_at hl 1 rfl) ?_
      refine lv_iload hx hb dX5_fits_42 (lv_at hl 4 rfl) ?_
      refine zw_cVI (rest := []) [.int i1, .int i4] X hw hl.1 hf rfl rfl (fun r hr => mt_X5_falseOf l D A E X.2.2.2.2.2.1 r1.2 a0 i1 i4 r hr) (lw_V q1501 q1503 qs51 q89 q1504) cd_X5_falseOf ⟨rfl, rfl⟩ ⟨Nat.le_of_ble_eq_true rfl, Nat.le_of_ble_eq_true rfl⟩ rfl rfl (Nat.le_of_ble_eq_true rfl) dX5_fits_44 ⟨Nat.le_of_ble_eq_true rfl, Nat.le_of_ble_eq_true rfl⟩ (fun r3 H locs hf hw => ?_)
      refine lv_aload_n hx hb dX5_fits_47 rfl (lv_at hl 0 rfl) ?_
      refine lv_iload_n hx hb dX5_fits_48 rfl (lv_at hl 1 rfl) ?_
      refine lv_iload_n hx hb dX5_fits_49 rfl (lv_at hl 3 rfl) ?_
      refine zw_cVI (rest := [.int r3.1]) [.int i1, .int i3] X hw hl.1 hf rfl rfl (fun r hr => mt_X5_falseOf l D A E X.2.2.2.2.2.1 r3.2 a0 i1 i3 r hr) (lw_V q1501 q1503 qs51 q89 q1504) cd_X5_falseOf ⟨rfl, rfl⟩ ⟨Nat.le_of_ble_eq_true rfl, Nat.le_of_ble_eq_true rfl⟩ rfl rfl (Nat.le_of_ble_eq_true rfl) dX5_fits_50 ⟨Nat.le_of_ble_eq_true rfl, Nat.le_of_ble_eq_true rfl⟩ (fun r4 H locs hf hw => ?_)
      refine zw_icmp_ge (tgt := 61) hx hb hf dX5_fits_53 (by decide) (fun hf => ?_) (fun hf => ?_)
      · refine lv_iload_n hx hb dX5_fits_61 rfl (lv_at hl 3 rfl) ?_
        refine lv_istore_n (lv' := [(3, .int i3), (0, .ref a0), (1, .int i1), (2, .int i2), (4, .int i4)]) hx hb dX5_fits_62 rfl hl (by decide) rfl (fun ls hl => ?_)
        refine zw_nmS hf (fun v5 ev5 hf => ?_)
        refine lv_iinc (k := 4) (v := v5) (lv' := [(4, .int v5), (3, .int i3), (0, .ref a0), (1, .int i1), (2, .int i2)]) hx hb dX5_fits_63 hl rfl (by rw [ev5]; rfl) (by decide) rfl (fun ls hl => ?_)
        refine lv_goto (tgt := 26) hx hb dX5_fits_66 (by decide) ?_
        exact ih r4.2 a0 i1 i2 i3 v5 _ _ _ hf hw (lv_sub hl [2, 3, 4, 1, 0] rfl)
      · refine lv_iload hx hb dX5_fits_56 (lv_at hl 4 rfl) ?_
        refine lv_goto (tgt := 62) hx hb dX5_fits_58 (by decide) ?_
        refine lv_istore_n (lv' := [(3, .int i4), (0, .ref a0), (1, .int i1), (2, .int i2), (4, .int i4)]) hx hb dX5_fits_62 rfl hl (by decide) rfl (fun ls hl => ?_)
        refine zw_nmS hf (fun v6 ev6 hf => ?_)
        refine lv_iinc (k := 4) (v := v6) (lv' := [(4, .int v6), (3, .int i4), (0, .ref a0), (1, .int i1), (2, .int i2)]) hx hb dX5_fits_63 hl rfl (by rw [ev6]; rfl) (by decide) rfl (fun ls hl => ?_)
        refine lv_goto (tgt := 26) hx hb dX5_fits_66 (by decide) ?_
        exact ih r4.2 a0 i1 i2 i4 v6 _ _ _ hf hw (lv_sub hl [2, 3, 4, 1, 0] rfl)
set_option maxHeartbeats 4000000 in
theorem mt_X5_fits (l : Launch) (D : va_G) (A : Nat → Prop) (E : State → Prop) (hE : zEok A E) (h : zT) (a0 : Nat) (i1 : Int32) (i2 : Int32) (res : Int32 × zT) (hf : f_X5_fits h a0 i1 i2 = some res) : Met l yX5_fits (ws_ yX5_fits cX5_fits 5 (Option.some FieldType.int)) rm_X5_fits (zPW D A E h [.ref a0, .int i1, .int i2]) (zQW D A (some (.int res.1)) res.2) 0 0 A := by
  refine zmt hE (by decide) (Nat.le_of_ble_eq_true rfl) ?_
  intro p e s m below meth c ls hmn X hw hl
  have hl : lv_has ls 5 [(0, .ref a0), (1, .int i1), (2, .int i2)] := hl
  have hx := X.1.1
  have hb := X.1.2.1
  have hown := X.1.2.2.2.1
  have hts := X.1.2.2.2.2
  unfold f_X5_fits at hf
  refine lv_aload_n hx hb dX5_fits_0 rfl (lv_at hl 0 rfl) ?_
  refine lv_iload_n hx hb dX5_fits_1 rfl (lv_at hl 1 rfl) ?_
  refine zw_cVZ (rest := []) [.int i1] X hw hl.1 hf rfl rfl (fun r hr => mt_X5_isRubbing l D A E X.2.2.2.2.2.1 h a0 i1 r hr) (lw_V q1391 q1393 qs38 q89 q1394) cd_X5_isRubbing ⟨rfl, rfl⟩ ⟨Nat.le_of_ble_eq_true rfl, Nat.le_of_ble_eq_true rfl⟩ rfl rfl (Nat.le_of_ble_eq_true rfl) dX5_fits_2 ⟨Nat.le_of_ble_eq_true rfl, Nat.le_of_ble_eq_true rfl⟩ (fun r1 H locs hf hw => ?_)
  refine zw_if_eq (tgt := 18) hx hb hf dX5_fits_5 (by decide) (fun hf => ?_) (fun hf => ?_)
  · refine lv_ldc (v := (-1000000001 : Int32)) hx hb hown (hts _ q1377) dX5_fits_18 ?_
    exact zw_iret X hw hf (Nat.le_of_ble_eq_true rfl) (Nat.le_of_ble_eq_true rfl) dX5_fits_20
  · refine lv_iload_n hx hb dX5_fits_8 rfl (lv_at hl 2 rfl) ?_
    refine lv_i2l hx hb dX5_fits_9 rfl ?_
    refine lv_lconst (v := (0 : Int64)) hx hb dX5_fits_10 (by decide) ?_
    refine lv_lconst (v := (1 : Int64)) hx hb dX5_fits_11 (by decide) ?_
    refine zw_cSZ (rest := []) [.long i2.toInt64, .long (0 : Int64), .long (1 : Int64)] X hw hl.1 hf (fun r hr => mt_X5_isIn l D A E X.2.2.2.2.2.1 r1.2 i2.toInt64 (0 : Int64) (1 : Int64) r hr) (lw_S q1372 q1373 q89 q1374) cd_X5_isIn ⟨rfl, rfl⟩ ⟨Nat.le_of_ble_eq_true rfl, Nat.le_of_ble_eq_true rfl⟩ rfl rfl (Nat.le_of_ble_eq_true rfl) dX5_fits_12 ⟨Nat.le_of_ble_eq_true rfl, Nat.le_of_ble_eq_true rfl⟩ (fun r2 H locs hf hw => ?_)
    refine zw_if_ne (tgt := 21) hx hb hf dX5_fits_15 (by decide) (fun hf => ?_) (fun hf => ?_)
    · refine lv_iconst (v := (0 : Int32)) hx hb dX5_fits_21 (by decide) ?_
      refine lv_istore_n (lv' := [(3, .int (0 : Int32)), (0, .ref a0), (1, .int i1), (2, .int i2)]) hx hb dX5_fits_22 rfl hl (by decide) rfl (fun ls hl => ?_)
      refine lv_iconst (v := (1 : Int32)) hx hb dX5_fits_23 (by decide) ?_
      refine lv_istore (lv' := [(4, .int (1 : Int32)), (3, .int (0 : Int32)), (0, .ref a0), (1, .int i1), (2, .int i2)]) hx hb dX5_fits_24 hl (by decide) rfl (fun ls hl => ?_)
      exact k_X5_fits_26 X _ 4096 r2.2 a0 i1 i2 (0 : Int32) (1 : Int32) _ _ _ hf hw (lv_sub hl [2, 3, 4, 1, 0] rfl)
    · refine lv_ldc (v := (-1000000001 : Int32)) hx hb hown (hts _ q1377) dX5_fits_18 ?_
      exact zw_iret X hw hf (Nat.le_of_ble_eq_true rfl) (Nat.le_of_ble_eq_true rfl) dX5_fits_20
set_option maxHeartbeats 4000000 in
theorem k_X5_joinBy_6 {p : Program} {l : Launch} {e : Env} {s : State} {m : MethodId} {args : Array Value} {below : List Frame} {meth : Method} {c : Code} {D : va_G} {A : Nat → Prop} {E : State → Prop} (X : zCx p s m args meth c D A E cX5_joinBy 6 RX5 (Option.some FieldType.int)) (res : Int32 × zT) : ∀ (n : Nat), ∀ (h : zT) (a0 : Nat) (i1 : Int32) (i2 : Int32) (i3 : Int32) (i4 : Int32) (i5 : Int32) (H : Heap) (locs : List Loc) (ls : Array Slot), f_X5_joinBy_6 n h a0 i1 i2 i3 i4 i5 = some res → zWh D A s H h locs → lv_has ls 6 [(0, .ref a0), (1, .int i1), (2, .int i2), (3, .int i3), (4, .int i4), (5, .int i5)] → W p l e rm_X5_joinBy s m args below meth c H locs 0 0 (MQ below (zQW D A (some (.int res.1)) res.2) args s 0 0 A) (F0 m 6 ls []) := by
  have hx := X.1.1
  have hb := X.1.2.1
  have hown := X.1.2.2.2.1
  have hts := X.1.2.2.2.2
  intro n
  induction n with
  | zero =>
    intro h a0 i1 i2 i3 i4 i5 H locs ls hf hw hl
    cases hf
  | succ n ih =>
    intro h a0 i1 i2 i3 i4 i5 H locs ls hf hw hl
    unfold f_X5_joinBy_6 at hf
    refine lv_iload hx hb dX5_joinBy_6 (lv_at hl 5 rfl) ?_
    refine lv_aload_n hx hb dX5_joinBy_8 rfl (lv_at hl 0 rfl) ?_
    refine lv_iload_n hx hb dX5_joinBy_9 rfl (lv_at hl 1 rfl) ?_
    refine lv_iconst (v := (2 : Int32)) hx hb dX5_joinBy_10 (by decide) ?_
    refine zw_cVI (rest := [.int i5]) [.int i1, .int (2 : Int32)] X hw hl.1 hf rfl rfl (fun r hr => mt_X5_of l D A E X.2.2.2.2.2.1 h a0 i1 (2 : Int32) r hr) (lw_V q1395 q1397 qs39 q89 q1398) cd_X5_of ⟨rfl, rfl⟩ ⟨Nat.le_of_ble_eq_true rfl, Nat.le_of_ble_eq_true rfl⟩ rfl rfl (Nat.le_of_ble_eq_true rfl) dX5_joinBy_11 ⟨Nat.le_of_ble_eq_true rfl, Nat.le_of_ble_eq_true rfl⟩ (fun r1 H locs hf hw => ?_)
    refine zw_icmp_ge (tgt := 66) hx hb hf dX5_joinBy_14 (by decide) (fun hf => ?_) (fun hf => ?_)
    · refine lv_iload hx hb dX5_joinBy_66 (lv_at hl 4 rfl) ?_
      exact zw_iret X hw hf (Nat.le_of_ble_eq_true rfl) (Nat.le_of_ble_eq_true rfl) dX5_joinBy_68
    · refine lv_iload hx hb dX5_joinBy_17 (lv_at hl 5 rfl) ?_
      refine lv_iload_n hx hb dX5_joinBy_19 rfl (lv_at hl 3 rfl) ?_
      refine lv_isub hx hb dX5_joinBy_20 ?_
      refine lv_aload_n hx hb dX5_joinBy_21 rfl (lv_at hl 0 rfl) ?_
      refine lv_iload_n hx hb dX5_joinBy_22 rfl (lv_at hl 2 rfl) ?_
      refine lv_iconst (v := (2 : Int32)) hx hb dX5_joinBy_23 (by decide) ?_
      refine zw_cVI (rest := [.int (i5 - i3)]) [.int i2, .int (2 : Int32)] X hw hl.1 hf rfl rfl (fun r hr => mt_X5_of l D A E X.2.2.2.2.2.1 r1.2 a0 i2 (2 : Int32) r hr) (lw_V q1395 q1397 qs39 q89 q1398) cd_X5_of ⟨rfl, rfl⟩ ⟨Nat.le_of_ble_eq_true rfl, Nat.le_of_ble_eq_true rfl⟩ rfl rfl (Nat.le_of_ble_eq_true rfl) dX5_joinBy_24 ⟨Nat.le_of_ble_eq_true rfl, Nat.le_of_ble_eq_true rfl⟩ (fun r2 H locs hf hw => ?_)
      refine zw_icmp_ge (tgt := 66) hx hb hf dX5_joinBy_27 (by decide) (fun hf => ?_) (fun hf => ?_)
      · refine lv_iload hx hb dX5_joinBy_66 (lv_at hl 4 rfl) ?_
        exact zw_iret X hw hf (Nat.le_of_ble_eq_true rfl) (Nat.le_of_ble_eq_true rfl) dX5_joinBy_68
      · refine lv_iload hx hb dX5_joinBy_30 (lv_at hl 4 rfl) ?_
        refine lv_aload_n hx hb dX5_joinBy_32 rfl (lv_at hl 0 rfl) ?_
        refine lv_iload_n hx hb dX5_joinBy_33 rfl (lv_at hl 1 rfl) ?_
        refine lv_iload hx hb dX5_joinBy_34 (lv_at hl 5 rfl) ?_
        refine zw_cVI (rest := [.int i4]) [.int i1, .int i5] X hw hl.1 hf rfl rfl (fun r hr => mt_X5_saysAt l D A E X.2.2.2.2.2.1 r2.2 a0 i1 i5 r hr) (lw_V q1442 q1444 qs48 q89 q1445) cd_X5_saysAt ⟨rfl, rfl⟩ ⟨Nat.le_of_ble_eq_true rfl, Nat.le_of_ble_eq_true rfl⟩ rfl rfl (Nat.le_of_ble_eq_true rfl) dX5_joinBy_36 ⟨Nat.le_of_ble_eq_true rfl, Nat.le_of_ble_eq_true rfl⟩ (fun r3 H locs hf hw => ?_)
        refine lv_aload_n hx hb dX5_joinBy_39 rfl (lv_at hl 0 rfl) ?_
        refine lv_iload_n hx hb dX5_joinBy_40 rfl (lv_at hl 2 rfl) ?_
        refine lv_iload hx hb dX5_joinBy_41 (lv_at hl 5 rfl) ?_
        refine lv_iload_n hx hb dX5_joinBy_43 rfl (lv_at hl 3 rfl) ?_
        refine lv_isub hx hb dX5_joinBy_44 ?_
        refine zw_cVI (rest := [.int r3.1, .int i4]) [.int i2, .int (i5 - i3)] X hw hl.1 hf rfl rfl (fun r hr => mt_X5_saysAt l D A E X.2.2.2.2.2.1 r3.2 a0 i2 (i5 - i3) r hr) (lw_V q1442 q1444 qs48 q89 q1445) cd_X5_saysAt ⟨rfl, rfl⟩ ⟨Nat.le_of_ble_eq_true rfl, Nat.le_of_ble_eq_true rfl⟩ rfl rfl (Nat.le_of_ble_eq_true rfl) dX5_joinBy_45 ⟨Nat.le_of_ble_eq_true rfl, Nat.le_of_ble_eq_true rfl⟩ (fun r4 H locs hf hw => ?_)
        refine zw_icmp_ne (tgt := 55) hx hb hf dX5_joinBy_48 (by decide) (fun hf => ?_) (fun hf => ?_)
        · refine lv_bipush (v := (-2 : Int32)) hx hb dX5_joinBy_55 (by decide) ?_
          refine lv_iadd hx hb dX5_joinBy_57 ?_
          refine zw_nmI hf (fun v5 hf => ?_)
          refine lv_istore (lv' := [(4, .int v5), (0, .ref a0), (1, .int i1), (2, .int i2), (3, .int i3), (5, .int i5)]) hx hb dX5_joinBy_58 hl (by decide) rfl (fun ls hl => ?_)
          refine zw_nmS hf (fun v6 ev6 hf => ?_)
          refine lv_iinc (k := 5) (v := v6) (lv' := [(5, .int v6), (4, .int v5), (0, .ref a0), (1, .int i1), (2, .int i2), (3, .int i3)]) hx hb dX5_joinBy_60 hl rfl (by rw [ev6]; rfl) (by decide) rfl (fun ls hl => ?_)
          refine lv_goto (tgt := 6) hx hb dX5_joinBy_63 (by decide) ?_
          exact ih r4.2 a0 i1 i2 i3 v5 v6 _ _ _ hf hw (lv_sub hl [2, 3, 4, 5, 1, 0] rfl)
        · refine lv_iconst (v := (1 : Int32)) hx hb dX5_joinBy_51 (by decide) ?_
          refine lv_goto (tgt := 57) hx hb dX5_joinBy_52 (by decide) ?_
          refine lv_iadd hx hb dX5_joinBy_57 ?_
          refine zw_nmI hf (fun v7 hf => ?_)
          refine lv_istore (lv' := [(4, .int v7), (0, .ref a0), (1, .int i1), (2, .int i2), (3, .int i3), (5, .int i5)]) hx hb dX5_joinBy_58 hl (by decide) rfl (fun ls hl => ?_)
          refine zw_nmS hf (fun v8 ev8 hf => ?_)
          refine lv_iinc (k := 5) (v := v8) (lv' := [(5, .int v8), (4, .int v7), (0, .ref a0), (1, .int i1), (2, .int i2), (3, .int i3)]) hx hb dX5_joinBy_60 hl rfl (by rw [ev8]; rfl) (by decide) rfl (fun ls hl => ?_)
          refine lv_goto (tgt := 6) hx hb dX5_joinBy_63 (by decide) ?_
          exact ih r4.2 a0 i1 i2 i3 v7 v8 _ _ _ hf hw (lv_sub hl [2, 3, 4, 5, 1, 0] rfl)
set_option maxHeartbeats 4000000 in
theorem mt_X5_joinBy (l : Launch) (D : va_G) (A : Nat → Prop) (E : State → Prop) (hE : zEok A E) (h : zT) (a0 : Nat) (i1 : Int32) (i2 : Int32) (i3 : Int32) (res : Int32 × zT) (hf : f_X5_joinBy h a0 i1 i2 i3 = some res) : Met l yX5_joinBy (ws_ yX5_joinBy cX5_joinBy 6 (Option.some FieldType.int)) rm_X5_joinBy (zPW D A E h [.ref a0, .int i1, .int i2, .int i3]) (zQW D A (some (.int res.1)) res.2) 0 0 A := by
  refine zmt hE (by decide) (Nat.le_of_ble_eq_true rfl) ?_
  intro p e s m below meth c ls hmn X hw hl
  have hl : lv_has ls 6 [(0, .ref a0), (1, .int i1), (2, .int i2), (3, .int i3)] := hl
  have hx := X.1.1
  have hb := X.1.2.1
  have hown := X.1.2.2.2.1
  have hts := X.1.2.2.2.2
  unfold f_X5_joinBy at hf
  refine lv_iconst (v := (0 : Int32)) hx hb dX5_joinBy_0 (by decide) ?_
  refine lv_istore (lv' := [(4, .int (0 : Int32)), (0, .ref a0), (1, .int i1), (2, .int i2), (3, .int i3)]) hx hb dX5_joinBy_1 hl (by decide) rfl (fun ls hl => ?_)
  refine lv_iload_n hx hb dX5_joinBy_3 rfl (lv_at hl 4 rfl) ?_
  refine lv_istore (lv' := [(5, .int i3), (4, .int (0 : Int32)), (0, .ref a0), (1, .int i1), (2, .int i2), (3, .int i3)]) hx hb dX5_joinBy_4 hl (by decide) rfl (fun ls hl => ?_)
  exact k_X5_joinBy_6 X _ 4096 h a0 i1 i2 i3 (0 : Int32) i3 _ _ _ hf hw (lv_sub hl [2, 3, 4, 5, 1, 0] rfl)
set_option maxHeartbeats 4000000 in
theorem k_X5_join_40 {p : Program} {l : Launch} {e : Env} {s : State} {m : MethodId} {args : Array Value} {below : List Frame} {meth : Method} {c : Code} {D : va_G} {A : Nat → Prop} {E : State → Prop} (X : zCx p s m args meth c D A E cX5_join 6 RX5 (Option.some FieldType.int)) (res : Int32 × zT) : ∀ (n : Nat), ∀ (h : zT) (a0 : Nat) (i1 : Int32) (i2 : Int32) (i3 : Int32) (i4 : Int32) (i5 : Int32) (H : Heap) (locs : List Loc) (ls : Array Slot), f_X5_join_40 n h a0 i1 i2 i3 i4 i5 = some res → zWh D A s H h locs → lv_has ls 6 [(0, .ref a0), (1, .int i1), (2, .int i2), (3, .int i3), (4, .int i4), (5, .int i5)] → W p l e rm_X5_join s m args below meth c H locs 0 0 (MQ below (zQW D A (some (.int res.1)) res.2) args s 0 0 A) (F0 m 40 ls []) := by
  have hx := X.1.1
  have hb := X.1.2.1
  have hown := X.1.2.2.2.1
  have hts := X.1.2.2.2.2
  intro n
  induction n with
  | zero =>
    intro h a0 i1 i2 i3 i4 i5 H locs ls hf hw hl
    cases hf
  | succ n ih =>
    intro h a0 i1 i2 i3 i4 i5 H locs ls hf hw hl
    unfold f_X5_join_40 at hf
    refine lv_iload hx hb dX5_join_40 (lv_at hl 5 rfl) ?_
    refine lv_aload_n hx hb dX5_join_42 rfl (lv_at hl 0 rfl) ?_
    refine lv_iload_n hx hb dX5_join_43 rfl (lv_at hl 1 rfl) ?_
    refine lv_iconst (v := (2 : Int32)) hx hb dX5_join_44 (by decide) ?_
    refine zw_cVI (rest := [.int i5]) [.int i1, .int (2 : Int32)] X hw hl.1 hf rfl rfl (fun r hr => mt_X5_of l D A E X.2.2.2.2.2.1 h a0 i1 (2 : Int32) r hr) (lw_V q1395 q1397 qs39 q89 q1398) cd_X5_of ⟨rfl, rfl⟩ ⟨Nat.le_of_ble_eq_true rfl, Nat.le_of_ble_eq_true rfl⟩ rfl rfl (Nat.le_of_ble_eq_true rfl) dX5_join_45 ⟨Nat.le_of_ble_eq_true rfl, Nat.le_of_ble_eq_true rfl⟩ (fun r1 H locs hf hw => ?_)
    refine zw_icmp_ge (tgt := 85) hx hb hf dX5_join_48 (by decide) (fun hf => ?_) (fun hf => ?_)
    · refine lv_iload_n hx hb dX5_join_85 rfl (lv_at hl 3 rfl) ?_
      refine zw_if_ne (tgt := 94) hx hb hf dX5_join_86 (by decide) (fun hf => ?_) (fun hf => ?_)
      · refine lv_aload_n hx hb dX5_join_94 rfl (lv_at hl 0 rfl) ?_
        refine lv_iload_n hx hb dX5_join_95 rfl (lv_at hl 1 rfl) ?_
        refine lv_iload_n hx hb dX5_join_96 rfl (lv_at hl 2 rfl) ?_
        refine lv_iload hx hb dX5_join_97 (lv_at hl 4 rfl) ?_
        refine zw_cVI (rest := []) [.int i1, .int i2, .int i4] X hw hl.1 hf rfl rfl (fun r hr => mt_X5_joinBy l D A E X.2.2.2.2.2.1 r1.2 a0 i1 i2 i4 r hr) (lw_V q1513 q1515 qs52 q89 q1516) cd_X5_joinBy ⟨rfl, rfl⟩ ⟨Nat.le_of_ble_eq_true rfl, Nat.le_of_ble_eq_true rfl⟩ rfl rfl (Nat.le_of_ble_eq_true rfl) dX5_join_99 ⟨Nat.le_of_ble_eq_true rfl, Nat.le_of_ble_eq_true rfl⟩ (fun r2 H locs hf hw => ?_)
        exact zw_iret X hw hf (Nat.le_of_ble_eq_true rfl) (Nat.le_of_ble_eq_true rfl) dX5_join_102
      · refine lv_iload hx hb dX5_join_89 (lv_at hl 4 rfl) ?_
        refine lv_goto (tgt := 102) hx hb dX5_join_91 (by decide) ?_
        exact zw_iret X hw hf (Nat.le_of_ble_eq_true rfl) (Nat.le_of_ble_eq_true rfl) dX5_join_102
    · refine lv_aload_n hx hb dX5_join_51 rfl (lv_at hl 0 rfl) ?_
      refine lv_iload_n hx hb dX5_join_52 rfl (lv_at hl 1 rfl) ?_
      refine lv_iload_n hx hb dX5_join_53 rfl (lv_at hl 2 rfl) ?_
      refine lv_iload hx hb dX5_join_54 (lv_at hl 5 rfl) ?_
      refine zw_cVI (rest := []) [.int i1, .int i2, .int i5] X hw hl.1 hf rfl rfl (fun r hr => mt_X5_joinBy l D A E X.2.2.2.2.2.1 r1.2 a0 i1 i2 i5 r hr) (lw_V q1513 q1515 qs52 q89 q1516) cd_X5_joinBy ⟨rfl, rfl⟩ ⟨Nat.le_of_ble_eq_true rfl, Nat.le_of_ble_eq_true rfl⟩ rfl rfl (Nat.le_of_ble_eq_true rfl) dX5_join_56 ⟨Nat.le_of_ble_eq_true rfl, Nat.le_of_ble_eq_true rfl⟩ (fun r3 H locs hf hw => ?_)
      refine lv_aload_n hx hb dX5_join_59 rfl (lv_at hl 0 rfl) ?_
      refine lv_iload_n hx hb dX5_join_60 rfl (lv_at hl 1 rfl) ?_
      refine lv_iload_n hx hb dX5_join_61 rfl (lv_at hl 2 rfl) ?_
      refine lv_iload hx hb dX5_join_62 (lv_at hl 4 rfl) ?_
      refine zw_cVI (rest := [.int r3.1]) [.int i1, .int i2, .int i4] X hw hl.1 hf rfl rfl (fun r hr => mt_X5_joinBy l D A E X.2.2.2.2.2.1 r3.2 a0 i1 i2 i4 r hr) (lw_V q1513 q1515 qs52 q89 q1516) cd_X5_joinBy ⟨rfl, rfl⟩ ⟨Nat.le_of_ble_eq_true rfl, Nat.le_of_ble_eq_true rfl⟩ rfl rfl (Nat.le_of_ble_eq_true rfl) dX5_join_64 ⟨Nat.le_of_ble_eq_true rfl, Nat.le_of_ble_eq_true rfl⟩ (fun r4 H locs hf hw => ?_)
      refine zw_icmp_le (tgt := 75) hx hb hf dX5_join_67 (by decide) (fun hf => ?_) (fun hf => ?_)
      · refine lv_iload hx hb dX5_join_75 (lv_at hl 4 rfl) ?_
        refine lv_istore (lv' := [(4, .int i4), (0, .ref a0), (1, .int i1), (2, .int i2), (3, .int i3), (5, .int i5)]) hx hb dX5_join_77 hl (by decide) rfl (fun ls hl => ?_)
        refine zw_nmS hf (fun v5 ev5 hf => ?_)
        refine lv_iinc (k := 5) (v := v5) (lv' := [(5, .int v5), (4, .int i4), (0, .ref a0), (1, .int i1), (2, .int i2), (3, .int i3)]) hx hb dX5_join_79 hl rfl (by rw [ev5]; rfl) (by decide) rfl (fun ls hl => ?_)
        refine lv_goto (tgt := 40) hx hb dX5_join_82 (by decide) ?_
        exact ih r4.2 a0 i1 i2 i3 i4 v5 _ _ _ hf hw (lv_sub hl [2, 3, 4, 5, 1, 0] rfl)
      · refine lv_iload hx hb dX5_join_70 (lv_at hl 5 rfl) ?_
        refine lv_goto (tgt := 77) hx hb dX5_join_72 (by decide) ?_
        refine lv_istore (lv' := [(4, .int i5), (0, .ref a0), (1, .int i1), (2, .int i2), (3, .int i3), (5, .int i5)]) hx hb dX5_join_77 hl (by decide) rfl (fun ls hl => ?_)
        refine zw_nmS hf (fun v6 ev6 hf => ?_)
        refine lv_iinc (k := 5) (v := v6) (lv' := [(5, .int v6), (4, .int i5), (0, .ref a0), (1, .int i1), (2, .int i2), (3, .int i3)]) hx hb dX5_join_79 hl rfl (by rw [ev6]; rfl) (by decide) rfl (fun ls hl => ?_)
        refine lv_goto (tgt := 40) hx hb dX5_join_82 (by decide) ?_
        exact ih r4.2 a0 i1 i2 i3 i5 v6 _ _ _ hf hw (lv_sub hl [2, 3, 4, 5, 1, 0] rfl)
set_option maxHeartbeats 4000000 in
theorem mt_X5_join (l : Launch) (D : va_G) (A : Nat → Prop) (E : State → Prop) (hE : zEok A E) (h : zT) (a0 : Nat) (i1 : Int32) (i2 : Int32) (i3 : Int32) (res : Int32 × zT) (hf : f_X5_join h a0 i1 i2 i3 = some res) : Met l yX5_join (ws_ yX5_join cX5_join 6 (Option.some FieldType.int)) rm_X5_join (zPW D A E h [.ref a0, .int i1, .int i2, .int i3]) (zQW D A (some (.int res.1)) res.2) 0 0 A := by
  refine zmt hE (by decide) (Nat.le_of_ble_eq_true rfl) ?_
  intro p e s m below meth c ls hmn X hw hl
  have hl : lv_has ls 6 [(0, .ref a0), (1, .int i1), (2, .int i2), (3, .int i3)] := hl
  have hx := X.1.1
  have hb := X.1.2.1
  have hown := X.1.2.2.2.1
  have hts := X.1.2.2.2.2
  unfold f_X5_join at hf
  refine lv_aload_n hx hb dX5_join_0 rfl (lv_at hl 0 rfl) ?_
  refine lv_iload_n hx hb dX5_join_1 rfl (lv_at hl 1 rfl) ?_
  refine zw_cVZ (rest := []) [.int i1] X hw hl.1 hf rfl rfl (fun r hr => mt_X5_isRubbing l D A E X.2.2.2.2.2.1 h a0 i1 r hr) (lw_V q1391 q1393 qs38 q89 q1394) cd_X5_isRubbing ⟨rfl, rfl⟩ ⟨Nat.le_of_ble_eq_true rfl, Nat.le_of_ble_eq_true rfl⟩ rfl rfl (Nat.le_of_ble_eq_true rfl) dX5_join_2 ⟨Nat.le_of_ble_eq_true rfl, Nat.le_of_ble_eq_true rfl⟩ (fun r1 H locs hf hw => ?_)
  refine zw_if_eq (tgt := 31) hx hb hf dX5_join_5 (by decide) (fun hf => ?_) (fun hf => ?_)
  · refine lv_ldc (v := (-1000000001 : Int32)) hx hb hown (hts _ q1377) dX5_join_31 ?_
    exact zw_iret X hw hf (Nat.le_of_ble_eq_true rfl) (Nat.le_of_ble_eq_true rfl) dX5_join_33
  · refine lv_aload_n hx hb dX5_join_8 rfl (lv_at hl 0 rfl) ?_
    refine lv_iload_n hx hb dX5_join_9 rfl (lv_at hl 2 rfl) ?_
    refine zw_cVZ (rest := []) [.int i2] X hw hl.1 hf rfl rfl (fun r hr => mt_X5_isRubbing l D A E X.2.2.2.2.2.1 r1.2 a0 i2 r hr) (lw_V q1391 q1393 qs38 q89 q1394) cd_X5_isRubbing ⟨rfl, rfl⟩ ⟨Nat.le_of_ble_eq_true rfl, Nat.le_of_ble_eq_true rfl⟩ rfl rfl (Nat.le_of_ble_eq_true rfl) dX5_join_10 ⟨Nat.le_of_ble_eq_true rfl, Nat.le_of_ble_eq_true rfl⟩ (fun r2 H locs hf hw => ?_)
    refine zw_if_eq (tgt := 31) hx hb hf dX5_join_13 (by decide) (fun hf => ?_) (fun hf => ?_)
    · refine lv_ldc (v := (-1000000001 : Int32)) hx hb hown (hts _ q1377) dX5_join_31 ?_
      exact zw_iret X hw hf (Nat.le_of_ble_eq_true rfl) (Nat.le_of_ble_eq_true rfl) dX5_join_33
    · refine lv_iload_n hx hb dX5_join_16 rfl (lv_at hl 1 rfl) ?_
      refine lv_iload_n hx hb dX5_join_17 rfl (lv_at hl 2 rfl) ?_
      refine zw_icmp_eq (tgt := 31) hx hb hf dX5_join_18 (by decide) (fun hf => ?_) (fun hf => ?_)
      · refine lv_ldc (v := (-1000000001 : Int32)) hx hb hown (hts _ q1377) dX5_join_31 ?_
        exact zw_iret X hw hf (Nat.le_of_ble_eq_true rfl) (Nat.le_of_ble_eq_true rfl) dX5_join_33
      · refine lv_iload_n hx hb dX5_join_21 rfl (lv_at hl 3 rfl) ?_
        refine lv_i2l hx hb dX5_join_22 rfl ?_
        refine lv_lconst (v := (0 : Int64)) hx hb dX5_join_23 (by decide) ?_
        refine lv_lconst (v := (1 : Int64)) hx hb dX5_join_24 (by decide) ?_
        refine zw_cSZ (rest := []) [.long i3.toInt64, .long (0 : Int64), .long (1 : Int64)] X hw hl.1 hf (fun r hr => mt_X5_isIn l D A E X.2.2.2.2.2.1 r2.2 i3.toInt64 (0 : Int64) (1 : Int64) r hr) (lw_S q1372 q1373 q89 q1374) cd_X5_isIn ⟨rfl, rfl⟩ ⟨Nat.le_of_ble_eq_true rfl, Nat.le_of_ble_eq_true rfl⟩ rfl rfl (Nat.le_of_ble_eq_true rfl) dX5_join_25 ⟨Nat.le_of_ble_eq_true rfl, Nat.le_of_ble_eq_true rfl⟩ (fun r3 H locs hf hw => ?_)
        refine zw_if_ne (tgt := 34) hx hb hf dX5_join_28 (by decide) (fun hf => ?_) (fun hf => ?_)
        · refine lv_iconst (v := (0 : Int32)) hx hb dX5_join_34 (by decide) ?_
          refine lv_istore (lv' := [(4, .int (0 : Int32)), (0, .ref a0), (1, .int i1), (2, .int i2), (3, .int i3)]) hx hb dX5_join_35 hl (by decide) rfl (fun ls hl => ?_)
          refine lv_iconst (v := (1 : Int32)) hx hb dX5_join_37 (by decide) ?_
          refine lv_istore (lv' := [(5, .int (1 : Int32)), (4, .int (0 : Int32)), (0, .ref a0), (1, .int i1), (2, .int i2), (3, .int i3)]) hx hb dX5_join_38 hl (by decide) rfl (fun ls hl => ?_)
          exact k_X5_join_40 X _ 4096 r3.2 a0 i1 i2 i3 (0 : Int32) (1 : Int32) _ _ _ hf hw (lv_sub hl [2, 3, 4, 5, 1, 0] rfl)
        · refine lv_ldc (v := (-1000000001 : Int32)) hx hb hown (hts _ q1377) dX5_join_31 ?_
          exact zw_iret X hw hf (Nat.le_of_ble_eq_true rfl) (Nat.le_of_ble_eq_true rfl) dX5_join_33
set_option maxHeartbeats 4000000 in
theorem k_X5_doClash_15 {p : Program} {l : Launch} {e : Env} {s : State} {m : MethodId} {args : Array Value} {below : List Frame} {meth : Method} {c : Code} {D : va_G} {A : Nat → Prop} {E : State → Prop} (X : zCx p s m args meth c D A E cX5_doClash 5 RX5 (Option.some FieldType.boolean)) (res : Int32 × zT) : ∀ (n : Nat), ∀ (h : zT) (a0 : Nat) (i1 : Int32) (i2 : Int32) (i3 : Int32) (i4 : Int32) (H : Heap) (locs : List Loc) (ls : Array Slot), f_X5_doClash_15 n h a0 i1 i2 i3 i4 = some res → zWh D A s H h locs → lv_has ls 5 [(0, .ref a0), (1, .int i1), (2, .int i2), (3, .int i3), (4, .int i4)] → W p l e rm_X5_doClash s m args below meth c H locs 0 0 (MQ below (zQW D A (some (.int res.1)) res.2) args s 0 0 A) (F0 m 15 ls []) := by
  have hx := X.1.1
  have hb := X.1.2.1
  have hown := X.1.2.2.2.1
  have hts := X.1.2.2.2.2
  intro n
  induction n with
  | zero =>
    intro h a0 i1 i2 i3 i4 H locs ls hf hw hl
    cases hf
  | succ n ih =>
    intro h a0 i1 i2 i3 i4 H locs ls hf hw hl
    unfold f_X5_doClash_15 at hf
    refine lv_iload hx hb dX5_doClash_15 (lv_at hl 4 rfl) ?_
    refine lv_bipush (v := (16 : Int32)) hx hb dX5_doClash_17 (by decide) ?_
    refine zw_icmp_ge (tgt := 71) hx hb hf dX5_doClash_19 (by decide) (fun hf => ?_) (fun hf => ?_)
    · refine lv_iconst (v := (0 : Int32)) hx hb dX5_doClash_71 (by decide) ?_
      exact zw_zret X hw hf (Nat.le_of_ble_eq_true rfl) (Nat.le_of_ble_eq_true rfl) dX5_doClash_72
    · refine lv_iload_n hx hb dX5_doClash_22 rfl (lv_at hl 3 rfl) ?_
      refine lv_iload hx hb dX5_doClash_23 (lv_at hl 4 rfl) ?_
      refine lv_ishr hx hb dX5_doClash_25 ?_
      refine lv_iconst (v := (1 : Int32)) hx hb dX5_doClash_26 (by decide) ?_
      refine lv_iand hx hb dX5_doClash_27 ?_
      refine lv_iconst (v := (1 : Int32)) hx hb dX5_doClash_28 (by decide) ?_
      refine zw_icmp_ne (tgt := 65) hx hb hf dX5_doClash_29 (by decide) (fun hf => ?_) (fun hf => ?_)
      · refine zw_nmS hf (fun v1 ev1 hf => ?_)
        refine lv_iinc (k := 4) (v := v1) (lv' := [(4, .int v1), (0, .ref a0), (1, .int i1), (2, .int i2), (3, .int i3)]) hx hb dX5_doClash_65 hl rfl (by rw [ev1]; rfl) (by decide) rfl (fun ls hl => ?_)
        refine lv_goto (tgt := 15) hx hb dX5_doClash_68 (by decide) ?_
        exact ih h a0 i1 i2 i3 v1 _ _ _ hf hw (lv_sub hl [1, 2, 3, 4, 0] rfl)
      · refine lv_aload_n hx hb dX5_doClash_32 rfl (lv_at hl 0 rfl) ?_
        refine lv_iload_n hx hb dX5_doClash_33 rfl (lv_at hl 1 rfl) ?_
        refine lv_iload hx hb dX5_doClash_34 (lv_at hl 4 rfl) ?_
        refine lv_aload_n hx hb dX5_doClash_36 rfl (lv_at hl 0 rfl) ?_
        refine lv_iload_n hx hb dX5_doClash_37 rfl (lv_at hl 1 rfl) ?_
        refine lv_iconst (v := (4 : Int32)) hx hb dX5_doClash_38 (by decide) ?_
        refine zw_cVI (rest := [.int i4, .int i1, .ref a0]) [.int i1, .int (4 : Int32)] X hw hl.1 hf rfl rfl (fun r hr => mt_X5_of l D A E X.2.2.2.2.2.1 h a0 i1 (4 : Int32) r hr) (lw_V q1395 q1397 qs39 q89 q1398) cd_X5_of ⟨rfl, rfl⟩ ⟨Nat.le_of_ble_eq_true rfl, Nat.le_of_ble_eq_true rfl⟩ rfl rfl (Nat.le_of_ble_eq_true rfl) dX5_doClash_39 ⟨Nat.le_of_ble_eq_true rfl, Nat.le_of_ble_eq_true rfl⟩ (fun r2 H locs hf hw => ?_)
        refine lv_isub hx hb dX5_doClash_42 ?_
        refine zw_cVI (rest := []) [.int i1, .int (i4 - r2.1)] X hw hl.1 hf rfl rfl (fun r hr => mt_X5_saysAt l D A E X.2.2.2.2.2.1 r2.2 a0 i1 (i4 - r2.1) r hr) (lw_V q1442 q1444 qs48 q89 q1445) cd_X5_saysAt ⟨rfl, rfl⟩ ⟨Nat.le_of_ble_eq_true rfl, Nat.le_of_ble_eq_true rfl⟩ rfl rfl (Nat.le_of_ble_eq_true rfl) dX5_doClash_43 ⟨Nat.le_of_ble_eq_true rfl, Nat.le_of_ble_eq_true rfl⟩ (fun r3 H locs hf hw => ?_)
        refine lv_aload_n hx hb dX5_doClash_46 rfl (lv_at hl 0 rfl) ?_
        refine lv_iload_n hx hb dX5_doClash_47 rfl (lv_at hl 2 rfl) ?_
        refine lv_iload hx hb dX5_doClash_48 (lv_at hl 4 rfl) ?_
        refine lv_aload_n hx hb dX5_doClash_50 rfl (lv_at hl 0 rfl) ?_
        refine lv_iload_n hx hb dX5_doClash_51 rfl (lv_at hl 2 rfl) ?_
        refine lv_iconst (v := (4 : Int32)) hx hb dX5_doClash_52 (by decide) ?_
        refine zw_cVI (rest := [.int i4, .int i2, .ref a0, .int r3.1]) [.int i2, .int (4 : Int32)] X hw hl.1 hf rfl rfl (fun r hr => mt_X5_of l D A E X.2.2.2.2.2.1 r3.2 a0 i2 (4 : Int32) r hr) (lw_V q1395 q1397 qs39 q89 q1398) cd_X5_of ⟨rfl, rfl⟩ ⟨Nat.le_of_ble_eq_true rfl, Nat.le_of_ble_eq_true rfl⟩ rfl rfl (Nat.le_of_ble_eq_true rfl) dX5_doClash_53 ⟨Nat.le_of_ble_eq_true rfl, Nat.le_of_ble_eq_true rfl⟩ (fun r4 H locs hf hw => ?_)
        refine lv_isub hx hb dX5_doClash_56 ?_
        refine zw_cVI (rest := [.int r3.1]) [.int i2, .int (i4 - r4.1)] X hw hl.1 hf rfl rfl (fun r hr => mt_X5_saysAt l D A E X.2.2.2.2.2.1 r4.2 a0 i2 (i4 - r4.1) r hr) (lw_V q1442 q1444 qs48 q89 q1445) cd_X5_saysAt ⟨rfl, rfl⟩ ⟨Nat.le_of_ble_eq_true rfl, Nat.le_of_ble_eq_true rfl⟩ rfl rfl (Nat.le_of_ble_eq_true rfl) dX5_doClash_57 ⟨Nat.le_of_ble_eq_true rfl, Nat.le_of_ble_eq_true rfl⟩ (fun r5 H locs hf hw => ?_)
        refine zw_icmp_eq (tgt := 65) hx hb hf dX5_doClash_60 (by decide) (fun hf => ?_) (fun hf => ?_)
        · refine zw_nmS hf (fun v6 ev6 hf => ?_)
          refine lv_iinc (k := 4) (v := v6) (lv' := [(4, .int v6), (0, .ref a0), (1, .int i1), (2, .int i2), (3, .int i3)]) hx hb dX5_doClash_65 hl rfl (by rw [ev6]; rfl) (by decide) rfl (fun ls hl => ?_)
          refine lv_goto (tgt := 15) hx hb dX5_doClash_68 (by decide) ?_
          exact ih r5.2 a0 i1 i2 i3 v6 _ _ _ hf hw (lv_sub hl [1, 2, 3, 4, 0] rfl)
        · refine lv_iconst (v := (1 : Int32)) hx hb dX5_doClash_63 (by decide) ?_
          exact zw_zret X hw hf (Nat.le_of_ble_eq_true rfl) (Nat.le_of_ble_eq_true rfl) dX5_doClash_64
set_option maxHeartbeats 4000000 in
theorem mt_X5_doClash (l : Launch) (D : va_G) (A : Nat → Prop) (E : State → Prop) (hE : zEok A E) (h : zT) (a0 : Nat) (i1 : Int32) (i2 : Int32) (res : Int32 × zT) (hf : f_X5_doClash h a0 i1 i2 = some res) : Met l yX5_doClash (ws_ yX5_doClash cX5_doClash 5 (Option.some FieldType.boolean)) rm_X5_doClash (zPW D A E h [.ref a0, .int i1, .int i2]) (zQW D A (some (.int res.1)) res.2) 0 0 A := by
  refine zmt hE (by decide) (Nat.le_of_ble_eq_true rfl) ?_
  intro p e s m below meth c ls hmn X hw hl
  have hl : lv_has ls 5 [(0, .ref a0), (1, .int i1), (2, .int i2)] := hl
  have hx := X.1.1
  have hb := X.1.2.1
  have hown := X.1.2.2.2.1
  have hts := X.1.2.2.2.2
  unfold f_X5_doClash at hf
  refine lv_aload_n hx hb dX5_doClash_0 rfl (lv_at hl 0 rfl) ?_
  refine lv_iload_n hx hb dX5_doClash_1 rfl (lv_at hl 1 rfl) ?_
  refine zw_cVI (rest := []) [.int i1] X hw hl.1 hf rfl rfl (fun r hr => mt_X5_covers l D A E X.2.2.2.2.2.1 h a0 i1 r hr) (lw_V q1399 q1401 qs40 q89 q1402) cd_X5_covers ⟨rfl, rfl⟩ ⟨Nat.le_of_ble_eq_true rfl, Nat.le_of_ble_eq_true rfl⟩ rfl rfl (Nat.le_of_ble_eq_true rfl) dX5_doClash_2 ⟨Nat.le_of_ble_eq_true rfl, Nat.le_of_ble_eq_true rfl⟩ (fun r1 H locs hf hw => ?_)
  refine lv_aload_n hx hb dX5_doClash_5 rfl (lv_at hl 0 rfl) ?_
  refine lv_iload_n hx hb dX5_doClash_6 rfl (lv_at hl 2 rfl) ?_
  refine zw_cVI (rest := [.int r1.1]) [.int i2] X hw hl.1 hf rfl rfl (fun r hr => mt_X5_covers l D A E X.2.2.2.2.2.1 r1.2 a0 i2 r hr) (lw_V q1399 q1401 qs40 q89 q1402) cd_X5_covers ⟨rfl, rfl⟩ ⟨Nat.le_of_ble_eq_true rfl, Nat.le_of_ble_eq_true rfl⟩ rfl rfl (Nat.le_of_ble_eq_true rfl) dX5_doClash_7 ⟨Nat.le_of_ble_eq_true rfl, Nat.le_of_ble_eq_true rfl⟩ (fun r2 H locs hf hw => ?_)
  refine lv_iand hx hb dX5_doClash_10 ?_
  refine zw_nmI hf (fun v3 hf => ?_)
  refine lv_istore_n (lv' := [(3, .int v3), (0, .ref a0), (1, .int i1), (2, .int i2)]) hx hb dX5_doClash_11 rfl hl (by decide) rfl (fun ls hl => ?_)
  refine lv_iconst (v := (0 : Int32)) hx hb dX5_doClash_12 (by decide) ?_
  refine lv_istore (lv' := [(4, .int (0 : Int32)), (3, .int v3), (0, .ref a0), (1, .int i1), (2, .int i2)]) hx hb dX5_doClash_13 hl (by decide) rfl (fun ls hl => ?_)
  exact k_X5_doClash_15 X _ 4096 r2.2 a0 i1 i2 v3 (0 : Int32) _ _ _ hf hw (lv_sub hl [2, 3, 4, 1, 0] rfl)
set_option maxHeartbeats 4000000 in
theorem mt_X5_clash (l : Launch) (D : va_G) (A : Nat → Prop) (E : State → Prop) (hE : zEok A E) (h : zT) (a0 : Nat) (i1 : Int32) (i2 : Int32) (res : Int32 × zT) (hf : f_X5_clash h a0 i1 i2 = some res) : Met l yX5_clash (ws_ yX5_clash cX5_clash 3 (Option.some FieldType.int)) rm_X5_clash (zPW D A E h [.ref a0, .int i1, .int i2]) (zQW D A (some (.int res.1)) res.2) 0 0 A := by
  refine zmt hE (by decide) (Nat.le_of_ble_eq_true rfl) ?_
  intro p e s m below meth c ls hmn X hw hl
  have hl : lv_has ls 3 [(0, .ref a0), (1, .int i1), (2, .int i2)] := hl
  have hx := X.1.1
  have hb := X.1.2.1
  have hown := X.1.2.2.2.1
  have hts := X.1.2.2.2.2
  unfold f_X5_clash at hf
  refine lv_aload_n hx hb dX5_clash_0 rfl (lv_at hl 0 rfl) ?_
  refine lv_iload_n hx hb dX5_clash_1 rfl (lv_at hl 1 rfl) ?_
  refine zw_cVZ (rest := []) [.int i1] X hw hl.1 hf rfl rfl (fun r hr => mt_X5_isRubbing l D A E X.2.2.2.2.2.1 h a0 i1 r hr) (lw_V q1391 q1393 qs38 q89 q1394) cd_X5_isRubbing ⟨rfl, rfl⟩ ⟨Nat.le_of_ble_eq_true rfl, Nat.le_of_ble_eq_true rfl⟩ rfl rfl (Nat.le_of_ble_eq_true rfl) dX5_clash_2 ⟨Nat.le_of_ble_eq_true rfl, Nat.le_of_ble_eq_true rfl⟩ (fun r1 H locs hf hw => ?_)
  refine zw_if_eq (tgt := 21) hx hb hf dX5_clash_5 (by decide) (fun hf => ?_) (fun hf => ?_)
  · refine lv_ldc (v := (-1000000001 : Int32)) hx hb hown (hts _ q1377) dX5_clash_21 ?_
    exact zw_iret X hw hf (Nat.le_of_ble_eq_true rfl) (Nat.le_of_ble_eq_true rfl) dX5_clash_23
  · refine lv_aload_n hx hb dX5_clash_8 rfl (lv_at hl 0 rfl) ?_
    refine lv_iload_n hx hb dX5_clash_9 rfl (lv_at hl 2 rfl) ?_
    refine zw_cVZ (rest := []) [.int i2] X hw hl.1 hf rfl rfl (fun r hr => mt_X5_isRubbing l D A E X.2.2.2.2.2.1 r1.2 a0 i2 r hr) (lw_V q1391 q1393 qs38 q89 q1394) cd_X5_isRubbing ⟨rfl, rfl⟩ ⟨Nat.le_of_ble_eq_true rfl, Nat.le_of_ble_eq_true rfl⟩ rfl rfl (Nat.le_of_ble_eq_true rfl) dX5_clash_10 ⟨Nat.le_of_ble_eq_true rfl, Nat.le_of_ble_eq_true rfl⟩ (fun r2 H locs hf hw => ?_)
    refine zw_if_eq (tgt := 21) hx hb hf dX5_clash_13 (by decide) (fun hf => ?_) (fun hf => ?_)
    · refine lv_ldc (v := (-1000000001 : Int32)) hx hb hown (hts _ q1377) dX5_clash_21 ?_
      exact zw_iret X hw hf (Nat.le_of_ble_eq_true rfl) (Nat.le_of_ble_eq_true rfl) dX5_clash_23
    · refine lv_iload_n hx hb dX5_clash_16 rfl (lv_at hl 1 rfl) ?_
      refine lv_iload_n hx hb dX5_clash_17 rfl (lv_at hl 2 rfl) ?_
      refine zw_icmp_ne (tgt := 24) hx hb hf dX5_clash_18 (by decide) (fun hf => ?_) (fun hf => ?_)
      · refine lv_aload_n hx hb dX5_clash_24 rfl (lv_at hl 0 rfl) ?_
        refine lv_iload_n hx hb dX5_clash_25 rfl (lv_at hl 1 rfl) ?_
        refine lv_iload_n hx hb dX5_clash_26 rfl (lv_at hl 2 rfl) ?_
        refine zw_cVZ (rest := []) [.int i1, .int i2] X hw hl.1 hf rfl rfl (fun r hr => mt_X5_doClash l D A E X.2.2.2.2.2.1 r2.2 a0 i1 i2 r hr) (lw_V q1521 q1523 qs53 q89 q1524) cd_X5_doClash ⟨rfl, rfl⟩ ⟨Nat.le_of_ble_eq_true rfl, Nat.le_of_ble_eq_true rfl⟩ rfl rfl (Nat.le_of_ble_eq_true rfl) dX5_clash_27 ⟨Nat.le_of_ble_eq_true rfl, Nat.le_of_ble_eq_true rfl⟩ (fun r3 H locs hf hw => ?_)
        refine zw_if_eq (tgt := 37) hx hb hf dX5_clash_30 (by decide) (fun hf => ?_) (fun hf => ?_)
        · refine lv_iconst (v := (0 : Int32)) hx hb dX5_clash_37 (by decide) ?_
          exact zw_iret X hw hf (Nat.le_of_ble_eq_true rfl) (Nat.le_of_ble_eq_true rfl) dX5_clash_38
        · refine lv_iconst (v := (1 : Int32)) hx hb dX5_clash_33 (by decide) ?_
          refine lv_goto (tgt := 38) hx hb dX5_clash_34 (by decide) ?_
          exact zw_iret X hw hf (Nat.le_of_ble_eq_true rfl) (Nat.le_of_ble_eq_true rfl) dX5_clash_38
      · refine lv_ldc (v := (-1000000001 : Int32)) hx hb hown (hts _ q1377) dX5_clash_21 ?_
        exact zw_iret X hw hf (Nat.le_of_ble_eq_true rfl) (Nat.le_of_ble_eq_true rfl) dX5_clash_23
set_option maxHeartbeats 4000000 in
theorem k_X5_areAtPeace_2 {p : Program} {l : Launch} {e : Env} {s : State} {m : MethodId} {args : Array Value} {below : List Frame} {meth : Method} {c : Code} {D : va_G} {A : Nat → Prop} {E : State → Prop} (X : zCx p s m args meth c D A E cX5_areAtPeace 3 RX5 (Option.some FieldType.boolean)) (res : Int32 × zT) : ∀ (n : Nat), ∀ (h : zT) (a0 : Nat) (i1 : Int32) (i2 : Int32) (H : Heap) (locs : List Loc) (ls : Array Slot), f_X5_areAtPeace_2 n h a0 i1 i2 = some res → zWh D A s H h locs → lv_has ls 3 [(0, .ref a0), (1, .int i1), (2, .int i2)] → W p l e rm_X5_areAtPeace s m args below meth c H locs 0 0 (MQ below (zQW D A (some (.int res.1)) res.2) args s 0 0 A) (F0 m 2 ls []) := by
  have hx := X.1.1
  have hb := X.1.2.1
  have hown := X.1.2.2.2.1
  have hts := X.1.2.2.2.2
  intro n
  induction n with
  | zero =>
    intro h a0 i1 i2 H locs ls hf hw hl
    cases hf
  | succ n ih =>
    intro h a0 i1 i2 H locs ls hf hw hl
    unfold f_X5_areAtPeace_2 at hf
    refine lv_iload_n hx hb dX5_areAtPeace_2 rfl (lv_at hl 2 rfl) ?_
    refine lv_aload_n hx hb dX5_areAtPeace_3 rfl (lv_at hl 0 rfl) ?_
    refine zw_getR X hw fs_X5_0 q1270 rfl hf dX5_areAtPeace_4 (fun v1 hf => ?_)
    refine lv_iconst (v := (0 : Int32)) hx hb dX5_areAtPeace_7 (by decide) ?_
    refine zw_ialoadR X hw hf dX5_areAtPeace_8 (fun v2 hf => ?_)
    refine zw_icmp_ge (tgt := 40) hx hb hf dX5_areAtPeace_9 (by decide) (fun hf => ?_) (fun hf => ?_)
    · refine lv_iconst (v := (1 : Int32)) hx hb dX5_areAtPeace_40 (by decide) ?_
      exact zw_zret X hw hf (Nat.le_of_ble_eq_true rfl) (Nat.le_of_ble_eq_true rfl) dX5_areAtPeace_41
    · refine lv_iload_n hx hb dX5_areAtPeace_12 rfl (lv_at hl 1 rfl) ?_
      refine lv_iload_n hx hb dX5_areAtPeace_13 rfl (lv_at hl 2 rfl) ?_
      refine lv_ishr hx hb dX5_areAtPeace_14 ?_
      refine lv_iconst (v := (1 : Int32)) hx hb dX5_areAtPeace_15 (by decide) ?_
      refine lv_iand hx hb dX5_areAtPeace_16 ?_
      refine lv_iconst (v := (1 : Int32)) hx hb dX5_areAtPeace_17 (by decide) ?_
      refine zw_icmp_ne (tgt := 34) hx hb hf dX5_areAtPeace_18 (by decide) (fun hf => ?_) (fun hf => ?_)
      · refine zw_nmS hf (fun v3 ev3 hf => ?_)
        refine lv_iinc (k := 2) (v := v3) (lv' := [(2, .int v3), (0, .ref a0), (1, .int i1)]) hx hb dX5_areAtPeace_34 hl rfl (by rw [ev3]; rfl) (by decide) rfl (fun ls hl => ?_)
        refine lv_goto (tgt := 2) hx hb dX5_areAtPeace_37 (by decide) ?_
        exact ih h a0 i1 v3 _ _ _ hf hw (lv_sub hl [1, 2, 0] rfl)
      · refine lv_aload_n hx hb dX5_areAtPeace_21 rfl (lv_at hl 0 rfl) ?_
        refine zw_getR X hw fs_X5_12 q1282 rfl hf dX5_areAtPeace_22 (fun v4 hf => ?_)
        refine lv_iload_n hx hb dX5_areAtPeace_25 rfl (lv_at hl 2 rfl) ?_
        refine zw_ialoadR X hw hf dX5_areAtPeace_26 (fun v5 hf => ?_)
        refine lv_iload_n hx hb dX5_areAtPeace_27 rfl (lv_at hl 1 rfl) ?_
        refine lv_iand hx hb dX5_areAtPeace_28 ?_
        refine zw_if_eq (tgt := 34) hx hb hf dX5_areAtPeace_29 (by decide) (fun hf => ?_) (fun hf => ?_)
        · refine zw_nmS hf (fun v6 ev6 hf => ?_)
          refine lv_iinc (k := 2) (v := v6) (lv' := [(2, .int v6), (0, .ref a0), (1, .int i1)]) hx hb dX5_areAtPeace_34 hl rfl (by rw [ev6]; rfl) (by decide) rfl (fun ls hl => ?_)
          refine lv_goto (tgt := 2) hx hb dX5_areAtPeace_37 (by decide) ?_
          exact ih h a0 i1 v6 _ _ _ hf hw (lv_sub hl [1, 2, 0] rfl)
        · refine lv_iconst (v := (0 : Int32)) hx hb dX5_areAtPeace_32 (by decide) ?_
          exact zw_zret X hw hf (Nat.le_of_ble_eq_true rfl) (Nat.le_of_ble_eq_true rfl) dX5_areAtPeace_33
set_option maxHeartbeats 4000000 in
theorem mt_X5_areAtPeace (l : Launch) (D : va_G) (A : Nat → Prop) (E : State → Prop) (hE : zEok A E) (h : zT) (a0 : Nat) (i1 : Int32) (res : Int32 × zT) (hf : f_X5_areAtPeace h a0 i1 = some res) : Met l yX5_areAtPeace (ws_ yX5_areAtPeace cX5_areAtPeace 3 (Option.some FieldType.boolean)) rm_X5_areAtPeace (zPW D A E h [.ref a0, .int i1]) (zQW D A (some (.int res.1)) res.2) 0 0 A := by
  refine zmt hE (by decide) (Nat.le_of_ble_eq_true rfl) ?_
  intro p e s m below meth c ls hmn X hw hl
  have hl : lv_has ls 3 [(0, .ref a0), (1, .int i1)] := hl
  have hx := X.1.1
  have hb := X.1.2.1
  have hown := X.1.2.2.2.1
  have hts := X.1.2.2.2.2
  unfold f_X5_areAtPeace at hf
  refine lv_iconst (v := (0 : Int32)) hx hb dX5_areAtPeace_0 (by decide) ?_
  refine lv_istore_n (lv' := [(2, .int (0 : Int32)), (0, .ref a0), (1, .int i1)]) hx hb dX5_areAtPeace_1 rfl hl (by decide) rfl (fun ls hl => ?_)
  exact k_X5_areAtPeace_2 X _ 4096 h a0 i1 (0 : Int32) _ _ _ hf hw (lv_sub hl [1, 2, 0] rfl)
