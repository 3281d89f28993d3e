/-! StoneSheetsModel: the walks (gen/model.py) -/
set_option maxRecDepth 100000
set_option maxHeartbeats 4000000 in
theorem mt_X5_tell (l : Launch) (D : va_G) (A : Nat → Prop) (E : State → Prop) (hE : zEok A E) (h : zT) (a0 : Nat) (i1 : Int32) (res : Int32 × zT) (hf : f_X5_tell h a0 i1 = some res) : Met l yX5_tell (ws_ yX5_tell cX5_tell 2 (Option.some FieldType.int)) rm_X5_tell (zPW D A E h [.ref a0, .int i1]) (zQW D A (some (.int res.1)) res.2) 0 0 A := by
  refine zmt hE (by decide) (Nat.le_of_ble_eq_true rfl) ?_
  intro p e s m below meth c ls hmn X hw hl
  have hl : lv_has ls 2 [(0, .ref a0), (1, .int i1)] := hl
  have hx := X.1.1
  have hb := X.1.2.1
  have hown := X.1.2.2.2.1
  have hts := X.1.2.2.2.2
  unfold f_X5_tell at hf
  refine lv_aload_n hx hb dX5_tell_0 rfl (lv_at hl 0 rfl) ?_
  refine zw_getI X hw fs_X5_30 q1300 rfl hf dX5_tell_1 (fun v1 hf => ?_)
  refine lv_bipush (v := (60 : Int32)) hx hb dX5_tell_4 (by decide) ?_
  refine zw_icmp_ne (tgt := 12) hx hb hf dX5_tell_6 (by decide) (fun hf => ?_) (fun hf => ?_)
  · refine lv_aload_n hx hb dX5_tell_12 rfl (lv_at hl 0 rfl) ?_
    refine zw_getR X hw fs_X5_29 q1299 rfl hf dX5_tell_13 (fun v2 hf => ?_)
    refine lv_aload_n hx hb dX5_tell_16 rfl (lv_at hl 0 rfl) ?_
    refine zw_getI X hw fs_X5_30 q1300 rfl hf dX5_tell_17 (fun v3 hf => ?_)
    refine lv_iload_n hx hb dX5_tell_20 rfl (lv_at hl 1 rfl) ?_
    refine zw_iastore X hw hf dX5_tell_21 (fun h4 H locs hf hw => ?_)
    refine lv_aload_n hx hb dX5_tell_22 rfl (lv_at hl 0 rfl) ?_
    refine lv_dup hx hb dX5_tell_23 rfl ?_
    refine zw_getI X hw fs_X5_30 q1300 rfl hf dX5_tell_24 (fun v5 hf => ?_)
    refine lv_iconst (v := (1 : Int32)) hx hb dX5_tell_27 (by decide) ?_
    refine lv_iadd hx hb dX5_tell_28 ?_
    refine zw_put X hw fs_X5_30 q1300 rfl rfl rfl rfl hf dX5_tell_29 (fun h6 H locs hf hw => ?_)
    refine lv_aload_n hx hb dX5_tell_32 rfl (lv_at hl 0 rfl) ?_
    refine zw_getI X hw fs_X5_30 q1300 rfl hf dX5_tell_33 (fun v7 hf => ?_)
    exact zw_iret X hw hf (Nat.le_of_ble_eq_true rfl) (Nat.le_of_ble_eq_true rfl) dX5_tell_36
  · refine lv_ldc (v := (-1000000003 : Int32)) hx hb hown (hts _ q1378) dX5_tell_9 ?_
    exact zw_iret X hw hf (Nat.le_of_ble_eq_true rfl) (Nat.le_of_ble_eq_true rfl) dX5_tell_11
set_option maxHeartbeats 4000000 in
theorem k_X5_setAside_2 {p : Program} {l : Launch} {e : Env} {s : State} {m : MethodId} {args : Array Value} {below : List Frame} {meth : Method} {c : Code} {D : va_G} {A : Nat → Prop} {E : State → Prop} (X : zCx p s m args meth c D A E cX5_setAside 4 RX5 (Option.none : Option FieldType)) (res : zT) : ∀ (n : Nat), ∀ (h : zT) (a1 : Nat) (a2 : Nat) (i3 : Int32) (H : Heap) (locs : List Loc) (ls : Array Slot), f_X5_setAside_2 n h a1 a2 i3 = some res → zWh D A s H h locs → lv_has ls 4 [(1, .ref a1), (2, .ref a2), (3, .int i3)] → W p l e rm_X5_setAside s m args below meth c H locs 0 0 (MQ below (zQW D A none res) args s 0 0 A) (F0 m 2 ls []) := by
  have hx := X.1.1
  have hb := X.1.2.1
  have hown := X.1.2.2.2.1
  have hts := X.1.2.2.2.2
  intro n
  induction n with
  | zero =>
    intro h a1 a2 i3 H locs ls hf hw hl
    cases hf
  | succ n ih =>
    intro h a1 a2 i3 H locs ls hf hw hl
    unfold f_X5_setAside_2 at hf
    refine lv_iload_n hx hb dX5_setAside_2 rfl (lv_at hl 2 rfl) ?_
    refine lv_sipush (v := (2875 : Int32)) hx hb dX5_setAside_3 (by decide) ?_
    refine zw_icmp_ge (tgt := 21) hx hb hf dX5_setAside_6 (by decide) (fun hf => ?_) (fun hf => ?_)
    · exact zw_vret X hw hf (Nat.le_of_ble_eq_true rfl) (Nat.le_of_ble_eq_true rfl) dX5_setAside_21
    · refine lv_aload_n hx hb dX5_setAside_9 rfl (lv_at hl 1 rfl) ?_
      refine lv_iload_n hx hb dX5_setAside_10 rfl (lv_at hl 2 rfl) ?_
      refine lv_aload_n hx hb dX5_setAside_11 rfl (lv_at hl 0 rfl) ?_
      refine lv_iload_n hx hb dX5_setAside_12 rfl (lv_at hl 2 rfl) ?_
      refine zw_ialoadR X hw hf dX5_setAside_13 (fun v1 hf => ?_)
      refine zw_iastore X hw hf dX5_setAside_14 (fun h2 H locs hf hw => ?_)
      refine zw_nmS hf (fun v3 ev3 hf => ?_)
      refine lv_iinc (k := 2) (v := v3) (lv' := [(3, .int v3), (1, .ref a1), (2, .ref a2)]) hx hb dX5_setAside_15 hl rfl (by rw [ev3]; rfl) (by decide) rfl (fun ls hl => ?_)
      refine lv_goto (tgt := 2) hx hb dX5_setAside_18 (by decide) ?_
      exact ih h2 a1 a2 v3 _ _ _ hf hw (lv_sub hl [1, 2, 0] rfl)
set_option maxHeartbeats 4000000 in
theorem mt_X5_setAside (l : Launch) (D : va_G) (A : Nat → Prop) (E : State → Prop) (hE : zEok A E) (h : zT) (a0 : Nat) (a1 : Nat) (a2 : Nat) (res : zT) (hf : f_X5_setAside h a0 a1 a2 = some res) : Met l yX5_setAside (ws_ yX5_setAside cX5_setAside 4 (Option.none : Option FieldType)) rm_X5_setAside (zPW D A E h [.ref a0, .ref a1, .ref a2]) (zQW D A none res) 0 0 A := by
  refine zmt hE (by decide) (Nat.le_of_ble_eq_true rfl) ?_
  intro p e s m below meth c ls hmn X hw hl
  have hl : lv_has ls 4 [(0, .ref a0), (1, .ref a1), (2, .ref a2)] := hl
  have hx := X.1.1
  have hb := X.1.2.1
  have hown := X.1.2.2.2.1
  have hts := X.1.2.2.2.2
  unfold f_X5_setAside at hf
  refine lv_iconst (v := (0 : Int32)) hx hb dX5_setAside_0 (by decide) ?_
  refine lv_istore_n (lv' := [(3, .int (0 : Int32)), (0, .ref a0), (1, .ref a1), (2, .ref a2)]) hx hb dX5_setAside_1 rfl hl (by decide) rfl (fun ls hl => ?_)
  exact k_X5_setAside_2 X _ 4096 h a1 a2 (0 : Int32) _ _ _ hf hw (lv_sub hl [2, 3, 0] rfl)
set_option maxHeartbeats 4000000 in
theorem k_X5_check_171 {p : Program} {l : Launch} {e : Env} {s : State} {m : MethodId} {args : Array Value} {below : List Frame} {meth : Method} {c : Code} {D : va_G} {A : Nat → Prop} {E : State → Prop} (X : zCx p s m args meth c D A E cX5_check 5 RX5 (Option.some FieldType.int)) (res : Int32 × zT) : ∀ (h : zT) (i2 : Int32) (i3 : Int32) (i4 : Int32) (H : Heap) (locs : List Loc) (ls : Array Slot), f_X5_check_171 h i2 i3 i4 = some res → zWh D A s H h locs → lv_has ls 5 [(2, .int i2), (3, .int i3), (4, .int i4)] → W p l e rm_X5_check s m args below meth c H locs 0 0 (MQ below (zQW D A (some (.int res.1)) res.2) args s 0 0 A) (F0 m 171 ls []) := by
  have hx := X.1.1
  have hb := X.1.2.1
  have hown := X.1.2.2.2.1
  have hts := X.1.2.2.2.2
  intro h i2 i3 i4 H locs ls hf hw hl
  unfold f_X5_check_171 at hf
  refine lv_iload hx hb dX5_check_171 (lv_at hl 2 rfl) ?_
  refine lv_iload_n hx hb dX5_check_173 rfl (lv_at hl 0 rfl) ?_
  refine zw_icmp_ne (tgt := 187) hx hb hf dX5_check_174 (by decide) (fun hf => ?_) (fun hf => ?_)
  · refine lv_iconst (v := (1 : Int32)) hx hb dX5_check_187 (by decide) ?_
    refine lv_iload hx hb dX5_check_188 (lv_at hl 2 rfl) ?_
    refine lv_iadd hx hb dX5_check_190 ?_
    exact zw_iret X hw hf (Nat.le_of_ble_eq_true rfl) (Nat.le_of_ble_eq_true rfl) dX5_check_191
  · refine lv_iload hx hb dX5_check_177 (lv_at hl 2 rfl) ?_
    refine lv_iload_n hx hb dX5_check_179 rfl (lv_at hl 1 rfl) ?_
    refine zw_icmp_ne (tgt := 187) hx hb hf dX5_check_180 (by decide) (fun hf => ?_) (fun hf => ?_)
    · refine lv_iconst (v := (1 : Int32)) hx hb dX5_check_187 (by decide) ?_
      refine lv_iload hx hb dX5_check_188 (lv_at hl 2 rfl) ?_
      refine lv_iadd hx hb dX5_check_190 ?_
      exact zw_iret X hw hf (Nat.le_of_ble_eq_true rfl) (Nat.le_of_ble_eq_true rfl) dX5_check_191
    · refine lv_iconst (v := (0 : Int32)) hx hb dX5_check_183 (by decide) ?_
      refine lv_goto (tgt := 191) hx hb dX5_check_184 (by decide) ?_
      exact zw_iret X hw hf (Nat.le_of_ble_eq_true rfl) (Nat.le_of_ble_eq_true rfl) dX5_check_191
set_option maxHeartbeats 4000000 in
theorem k_X5_check_136 {p : Program} {l : Launch} {e : Env} {s : State} {m : MethodId} {args : Array Value} {below : List Frame} {meth : Method} {c : Code} {D : va_G} {A : Nat → Prop} {E : State → Prop} (X : zCx p s m args meth c D A E cX5_check 5 RX5 (Option.some FieldType.int)) (res : Int32 × zT) : ∀ (n : Nat), ∀ (h : zT) (a0 : Nat) (i2 : Int32) (i3 : Int32) (i4 : Int32) (H : Heap) (locs : List Loc) (ls : Array Slot), f_X5_check_136 n h a0 i2 i3 i4 = some res → zWh D A s H h locs → lv_has ls 5 [(0, .ref a0), (2, .int i2), (3, .int i3), (4, .int i4)] → W p l e rm_X5_check s m args below meth c H locs 0 0 (MQ below (zQW D A (some (.int res.1)) res.2) args s 0 0 A) (F0 m 136 ls []) := by
  have hx := X.1.1
  have hb := X.1.2.1
  have hown := X.1.2.2.2.1
  have hts := X.1.2.2.2.2
  intro n
  induction n with
  | zero =>
    intro h a0 i2 i3 i4 H locs ls hf hw hl
    cases hf
  | succ n ih =>
    intro h a0 i2 i3 i4 H locs ls hf hw hl
    unfold f_X5_check_136 at hf
    refine lv_iload hx hb dX5_check_136 (lv_at hl 3 rfl) ?_
    refine lv_iload_n hx hb dX5_check_138 rfl (lv_at hl 1 rfl) ?_
    refine zw_icmp_ge (tgt := 171) hx hb hf dX5_check_139 (by decide) (fun hf => ?_) (fun hf => ?_)
    · exact k_X5_check_171 X _ h i2 i3 i4 _ _ _ hf hw (lv_sub hl [1, 2, 3] rfl)
    · refine lv_iload hx hb dX5_check_142 (lv_at hl 3 rfl) ?_
      refine lv_iload_n hx hb dX5_check_144 rfl (lv_at hl 2 rfl) ?_
      refine zw_icmp_ge (tgt := 171) hx hb hf dX5_check_145 (by decide) (fun hf => ?_) (fun hf => ?_)
      · exact k_X5_check_171 X _ h i2 i3 i4 _ _ _ hf hw (lv_sub hl [1, 2, 3] rfl)
      · refine lv_aload_n hx hb dX5_check_148 rfl (lv_at hl 0 rfl) ?_
        refine zw_getR X hw fs_X5_29 q1299 rfl hf dX5_check_149 (fun v1 hf => ?_)
        refine lv_iload hx hb dX5_check_152 (lv_at hl 3 rfl) ?_
        refine zw_ialoadR X hw hf dX5_check_154 (fun v2 hf => ?_)
        refine lv_aload_n hx hb dX5_check_155 rfl (lv_at hl 0 rfl) ?_
        refine zw_getR X hw fs_X5_31 q1301 rfl hf dX5_check_156 (fun v3 hf => ?_)
        refine lv_iload hx hb dX5_check_159 (lv_at hl 3 rfl) ?_
        refine zw_ialoadR X hw hf dX5_check_161 (fun v4 hf => ?_)
        refine zw_icmp_ne (tgt := 171) hx hb hf dX5_check_162 (by decide) (fun hf => ?_) (fun hf => ?_)
        · exact k_X5_check_171 X _ h i2 i3 i4 _ _ _ hf hw (lv_sub hl [1, 2, 3] rfl)
        · refine zw_nmS hf (fun v5 ev5 hf => ?_)
          refine lv_iinc (k := 3) (v := v5) (lv' := [(4, .int v5), (0, .ref a0), (2, .int i2), (3, .int i3)]) hx hb dX5_check_165 hl rfl (by rw [ev5]; rfl) (by decide) rfl (fun ls hl => ?_)
          refine lv_goto (tgt := 136) hx hb dX5_check_168 (by decide) ?_
          exact ih h a0 i2 i3 v5 _ _ _ hf hw (lv_sub hl [1, 2, 3, 0] rfl)
set_option maxHeartbeats 4000000 in
theorem k_X5_check_121 {p : Program} {l : Launch} {e : Env} {s : State} {m : MethodId} {args : Array Value} {below : List Frame} {meth : Method} {c : Code} {D : va_G} {A : Nat → Prop} {E : State → Prop} (X : zCx p s m args meth c D A E cX5_check 5 RX5 (Option.some FieldType.int)) (res : Int32 × zT) : ∀ (h : zT) (a0 : Nat) (i2 : Int32) (i3 : Int32) (H : Heap) (locs : List Loc) (ls : Array Slot), f_X5_check_121 h a0 i2 i3 = some res → zWh D A s H h locs → lv_has ls 5 [(0, .ref a0), (2, .int i2), (3, .int i3)] → W p l e rm_X5_check s m args below meth c H locs 0 0 (MQ below (zQW D A (some (.int res.1)) res.2) args s 0 0 A) (F0 m 121 ls []) := by
  have hx := X.1.1
  have hb := X.1.2.1
  have hown := X.1.2.2.2.1
  have hts := X.1.2.2.2.2
  intro h a0 i2 i3 H locs ls hf hw hl
  unfold f_X5_check_121 at hf
  refine lv_aload_n hx hb dX5_check_121 rfl (lv_at hl 0 rfl) ?_
  refine lv_aload_n hx hb dX5_check_122 rfl (lv_at hl 0 rfl) ?_
  refine zw_getR X hw fs_X5_2 q1272 rfl hf dX5_check_123 (fun v1 hf => ?_)
  refine lv_aload_n hx hb dX5_check_126 rfl (lv_at hl 0 rfl) ?_
  refine zw_getR X hw fs_X5_0 q1270 rfl hf dX5_check_127 (fun v2 hf => ?_)
  refine zw_cVV (rest := []) [.ref v1, .ref v2] X hw hl.1 hf rfl rfl (fun r hr => mt_X5_setAside l D A E X.2.2.2.2.2.1 h a0 v1 v2 r hr) (lw_V q1772 q1774 qs79 q89 q1775) cd_X5_setAside ⟨rfl, rfl⟩ ⟨Nat.le_of_ble_eq_true rfl, Nat.le_of_ble_eq_true rfl⟩ rfl rfl (Nat.le_of_ble_eq_true rfl) dX5_check_130 ⟨Nat.le_of_ble_eq_true rfl, Nat.le_of_ble_eq_true rfl⟩ (fun r3 H locs hf hw => ?_)
  refine lv_iconst (v := (0 : Int32)) hx hb dX5_check_133 (by decide) ?_
  refine lv_istore (lv' := [(4, .int (0 : Int32)), (0, .ref a0), (2, .int i2), (3, .int i3)]) hx hb dX5_check_134 hl (by decide) rfl (fun ls hl => ?_)
  exact k_X5_check_136 X _ 4096 r3 a0 i2 i3 (0 : Int32) _ _ _ hf hw (lv_sub hl [1, 2, 3, 0] rfl)
set_option maxHeartbeats 4000000 in
theorem k_X5_check_65 {p : Program} {l : Launch} {e : Env} {s : State} {m : MethodId} {args : Array Value} {below : List Frame} {meth : Method} {c : Code} {D : va_G} {A : Nat → Prop} {E : State → Prop} (X : zCx p s m args meth c D A E cX5_check 5 RX5 (Option.some FieldType.int)) (res : Int32 × zT) : ∀ (n : Nat), ∀ (h : zT) (a0 : Nat) (i1 : Int32) (i2 : Int32) (i3 : Int32) (i4 : Int32) (H : Heap) (locs : List Loc) (ls : Array Slot), f_X5_check_65 n h a0 i1 i2 i3 i4 = some res → zWh D A s H h locs → lv_has ls 5 [(0, .ref a0), (1, .int i1), (2, .int i2), (3, .int i3), (4, .int i4)] → W p l e rm_X5_check s m args below meth c H locs 0 0 (MQ below (zQW D A (some (.int res.1)) res.2) args s 0 0 A) (F0 m 65 ls []) := by
  have hx := X.1.1
  have hb := X.1.2.1
  have hown := X.1.2.2.2.1
  have hts := X.1.2.2.2.2
  intro n
  induction n with
  | zero =>
    intro h a0 i1 i2 i3 i4 H locs ls hf hw hl
    cases hf
  | succ n ih =>
    intro h a0 i1 i2 i3 i4 H locs ls hf hw hl
    unfold f_X5_check_65 at hf
    refine lv_iload hx hb dX5_check_65 (lv_at hl 4 rfl) ?_
    refine lv_iload_n hx hb dX5_check_67 rfl (lv_at hl 1 rfl) ?_
    refine zw_icmp_ge (tgt := 121) hx hb hf dX5_check_68 (by decide) (fun hf => ?_) (fun hf => ?_)
    · exact k_X5_check_121 X _ h a0 i2 i3 _ _ _ hf hw (lv_sub hl [0, 2, 3] rfl)
    · refine lv_aload_n hx hb dX5_check_71 rfl (lv_at hl 0 rfl) ?_
      refine zw_getR X hw fs_X5_0 q1270 rfl hf dX5_check_72 (fun v1 hf => ?_)
      refine lv_iconst (v := (2 : Int32)) hx hb dX5_check_75 (by decide) ?_
      refine zw_ialoadR X hw hf dX5_check_76 (fun v2 hf => ?_)
      refine lv_sipush (v := (9999 : Int32)) hx hb dX5_check_77 (by decide) ?_
      refine zw_icmp_ge (tgt := 121) hx hb hf dX5_check_80 (by decide) (fun hf => ?_) (fun hf => ?_)
      · exact k_X5_check_121 X _ h a0 i2 i3 _ _ _ hf hw (lv_sub hl [0, 2, 3] rfl)
      · refine lv_aload_n hx hb dX5_check_83 rfl (lv_at hl 0 rfl) ?_
        refine zw_cVV (rest := []) [] X hw hl.1 hf rfl rfl (fun r hr => mt_X5_goesOn l D A E X.2.2.2.2.2.1 h a0 r hr) (lw_V q1565 q1567 qs59 q89 q1568) cd_X5_goesOn ⟨rfl, rfl⟩ ⟨Nat.le_of_ble_eq_true rfl, Nat.le_of_ble_eq_true rfl⟩ rfl rfl (Nat.le_of_ble_eq_true rfl) dX5_check_84 ⟨Nat.le_of_ble_eq_true rfl, Nat.le_of_ble_eq_true rfl⟩ (fun r3 H locs hf hw => ?_)
        refine lv_aload_n hx hb dX5_check_87 rfl (lv_at hl 0 rfl) ?_
        refine zw_getR X hw fs_X5_31 q1301 rfl hf dX5_check_88 (fun v4 hf => ?_)
        refine lv_iload_n hx hb dX5_check_91 rfl (lv_at hl 3 rfl) ?_
        refine lv_aload_n hx hb dX5_check_92 rfl (lv_at hl 0 rfl) ?_
        refine zw_cVI (rest := [.int i3, .ref v4]) [] X hw hl.1 hf rfl rfl (fun r hr => mt_X5_allTrust l D A E X.2.2.2.2.2.1 r3 a0 r hr) (lw_V q1573 q1575 qs60 q89 q1576) cd_X5_allTrust ⟨rfl, rfl⟩ ⟨Nat.le_of_ble_eq_true rfl, Nat.le_of_ble_eq_true rfl⟩ rfl rfl (Nat.le_of_ble_eq_true rfl) dX5_check_93 ⟨Nat.le_of_ble_eq_true rfl, Nat.le_of_ble_eq_true rfl⟩ (fun r5 H locs hf hw => ?_)
        refine zw_iastore X hw hf dX5_check_96 (fun h6 H locs hf hw => ?_)
        refine lv_aload_n hx hb dX5_check_97 rfl (lv_at hl 0 rfl) ?_
        refine zw_getR X hw fs_X5_31 q1301 rfl hf dX5_check_98 (fun v7 hf => ?_)
        refine lv_iload_n hx hb dX5_check_101 rfl (lv_at hl 3 rfl) ?_
        refine lv_iconst (v := (1 : Int32)) hx hb dX5_check_102 (by decide) ?_
        refine lv_iadd hx hb dX5_check_103 ?_
        refine lv_aload_n hx hb dX5_check_104 rfl (lv_at hl 0 rfl) ?_
        refine zw_cVI (rest := [.int (i3 + (1 : Int32)), .ref v7]) [] X hw hl.1 hf rfl rfl (fun r hr => mt_X5_laidOnes l D A E X.2.2.2.2.2.1 h6 a0 r hr) (lw_V q1533 q1535 qs55 q89 q1536) cd_X5_laidOnes ⟨rfl, rfl⟩ ⟨Nat.le_of_ble_eq_true rfl, Nat.le_of_ble_eq_true rfl⟩ rfl rfl (Nat.le_of_ble_eq_true rfl) dX5_check_105 ⟨Nat.le_of_ble_eq_true rfl, Nat.le_of_ble_eq_true rfl⟩ (fun r8 H locs hf hw => ?_)
        refine zw_cSI (rest := [.int (i3 + (1 : Int32)), .ref v7]) [.int r8.1] X hw hl.1 hf (fun r hr => mt_X5_manyIn l D A E X.2.2.2.2.2.1 r8.2 r8.1 r hr) (lw_S q1537 q1538 q89 q1539) cd_X5_manyIn ⟨rfl, rfl⟩ ⟨Nat.le_of_ble_eq_true rfl, Nat.le_of_ble_eq_true rfl⟩ rfl rfl (Nat.le_of_ble_eq_true rfl) dX5_check_108 ⟨Nat.le_of_ble_eq_true rfl, Nat.le_of_ble_eq_true rfl⟩ (fun r9 H locs hf hw => ?_)
        refine zw_iastore X hw hf dX5_check_111 (fun h10 H locs hf hw => ?_)
        refine zw_nmS hf (fun v11 ev11 hf => ?_)
        refine lv_iinc (k := 3) (v := v11) (lv' := [(3, .int v11), (0, .ref a0), (1, .int i1), (2, .int i2), (4, .int i4)]) hx hb dX5_check_112 hl rfl (by rw [ev11]; rfl) (by decide) rfl (fun ls hl => ?_)
        refine zw_nmS hf (fun v12 ev12 hf => ?_)
        refine lv_iinc (k := 4) (v := v12) (lv' := [(4, .int v12), (3, .int v11), (0, .ref a0), (1, .int i1), (2, .int i2)]) hx hb dX5_check_115 hl rfl (by rw [ev12]; rfl) (by decide) rfl (fun ls hl => ?_)
        refine lv_goto (tgt := 65) hx hb dX5_check_118 (by decide) ?_
        exact ih h10 a0 i1 i2 v11 v12 _ _ _ hf hw (lv_sub hl [2, 3, 4, 1, 0] rfl)
set_option maxHeartbeats 4000000 in
theorem mt_X5_check (l : Launch) (D : va_G) (A : Nat → Prop) (E : State → Prop) (hE : zEok A E) (h : zT) (a0 : Nat) (i1 : Int32) (res : Int32 × zT) (hf : f_X5_check h a0 i1 = some res) : Met l yX5_check (ws_ yX5_check cX5_check 5 (Option.some FieldType.int)) rm_X5_check (zPW D A E h [.ref a0, .int i1]) (zQW D A (some (.int res.1)) res.2) 0 0 A := by
  refine zmt hE (by decide) (Nat.le_of_ble_eq_true rfl) ?_
  intro p e s m below meth c ls hmn X hw hl
  have hl : lv_has ls 5 [(0, .ref a0), (1, .int i1)] := hl
  have hx := X.1.1
  have hb := X.1.2.1
  have hown := X.1.2.2.2.1
  have hts := X.1.2.2.2.2
  unfold f_X5_check at hf
  refine lv_aload_n hx hb dX5_check_0 rfl (lv_at hl 0 rfl) ?_
  refine zw_getI X hw fs_X5_30 q1300 rfl hf dX5_check_1 (fun v1 hf => ?_)
  refine lv_istore_n (lv' := [(2, .int v1), (0, .ref a0), (1, .int i1)]) hx hb dX5_check_4 rfl hl (by decide) rfl (fun ls hl => ?_)
  refine lv_aload_n hx hb dX5_check_5 rfl (lv_at hl 1 rfl) ?_
  refine lv_iconst (v := (0 : Int32)) hx hb dX5_check_6 (by decide) ?_
  refine zw_put X hw fs_X5_30 q1300 rfl rfl rfl rfl hf dX5_check_7 (fun h2 H locs hf hw => ?_)
  refine lv_iload_n hx hb dX5_check_10 rfl (lv_at hl 2 rfl) ?_
  refine lv_i2l hx hb dX5_check_11 rfl ?_
  refine lv_lconst (v := (1 : Int64)) hx hb dX5_check_12 (by decide) ?_
  refine lv_ldc2 (v := (30 : Int64)) hx hb hown (hts _ q1771) dX5_check_13 ?_
  refine zw_cSZ (rest := []) [.long i1.toInt64, .long (1 : Int64), .long (30 : Int64)] X hw hl.1 hf (fun r hr => mt_X5_isIn l D A E X.2.2.2.2.2.1 h2 i1.toInt64 (1 : Int64) (30 : Int64) r hr) (lw_S q1372 q1373 q89 q1374) cd_X5_isIn ⟨rfl, rfl⟩ ⟨Nat.le_of_ble_eq_true rfl, Nat.le_of_ble_eq_true rfl⟩ rfl rfl (Nat.le_of_ble_eq_true rfl) dX5_check_16 ⟨Nat.le_of_ble_eq_true rfl, Nat.le_of_ble_eq_true rfl⟩ (fun r3 H locs hf hw => ?_)
  refine zw_if_ne (tgt := 25) hx hb hf dX5_check_19 (by decide) (fun hf => ?_) (fun hf => ?_)
  · refine lv_aload_n hx hb dX5_check_25 rfl (lv_at hl 1 rfl) ?_
    refine zw_getI X hw fs_X5_3 q1273 rfl hf dX5_check_26 (fun v4 hf => ?_)
    refine zw_if_ne (tgt := 36) hx hb hf dX5_check_29 (by decide) (fun hf => ?_) (fun hf => ?_)
    · refine lv_aload_n hx hb dX5_check_36 rfl (lv_at hl 1 rfl) ?_
      refine lv_aload_n hx hb dX5_check_37 rfl (lv_at hl 1 rfl) ?_
      refine zw_getR X hw fs_X5_0 q1270 rfl hf dX5_check_38 (fun v5 hf => ?_)
      refine lv_aload_n hx hb dX5_check_41 rfl (lv_at hl 1 rfl) ?_
      refine zw_getR X hw fs_X5_2 q1272 rfl hf dX5_check_42 (fun v6 hf => ?_)
      refine zw_cVV (rest := []) [.ref v5, .ref v6] X hw hl.1 hf rfl rfl (fun r hr => mt_X5_setAside l D A E X.2.2.2.2.2.1 r3.2 a0 v5 v6 r hr) (lw_V q1772 q1774 qs79 q89 q1775) cd_X5_setAside ⟨rfl, rfl⟩ ⟨Nat.le_of_ble_eq_true rfl, Nat.le_of_ble_eq_true rfl⟩ rfl rfl (Nat.le_of_ble_eq_true rfl) dX5_check_45 ⟨Nat.le_of_ble_eq_true rfl, Nat.le_of_ble_eq_true rfl⟩ (fun r7 H locs hf hw => ?_)
      refine lv_aload_n hx hb dX5_check_48 rfl (lv_at hl 1 rfl) ?_
      refine lv_aload_n hx hb dX5_check_49 rfl (lv_at hl 1 rfl) ?_
      refine zw_getR X hw fs_X5_1 q1271 rfl hf dX5_check_50 (fun v8 hf => ?_)
      refine lv_aload_n hx hb dX5_check_53 rfl (lv_at hl 1 rfl) ?_
      refine zw_getR X hw fs_X5_0 q1270 rfl hf dX5_check_54 (fun v9 hf => ?_)
      refine zw_cVV (rest := []) [.ref v8, .ref v9] X hw hl.1 hf rfl rfl (fun r hr => mt_X5_setAside l D A E X.2.2.2.2.2.1 r7 a0 v8 v9 r hr) (lw_V q1772 q1774 qs79 q89 q1775) cd_X5_setAside ⟨rfl, rfl⟩ ⟨Nat.le_of_ble_eq_true rfl, Nat.le_of_ble_eq_true rfl⟩ rfl rfl (Nat.le_of_ble_eq_true rfl) dX5_check_57 ⟨Nat.le_of_ble_eq_true rfl, Nat.le_of_ble_eq_true rfl⟩ (fun r10 H locs hf hw => ?_)
      refine lv_iconst (v := (0 : Int32)) hx hb dX5_check_60 (by decide) ?_
      refine lv_istore_n (lv' := [(3, .int (0 : Int32)), (2, .int v1), (0, .ref a0), (1, .int i1)]) hx hb dX5_check_61 rfl hl (by decide) rfl (fun ls hl => ?_)
      refine lv_iconst (v := (0 : Int32)) hx hb dX5_check_62 (by decide) ?_
      refine lv_istore (lv' := [(4, .int (0 : Int32)), (3, .int (0 : Int32)), (2, .int v1), (0, .ref a0), (1, .int i1)]) hx hb dX5_check_63 hl (by decide) rfl (fun ls hl => ?_)
      exact k_X5_check_65 X _ 4096 r10 a0 i1 v1 (0 : Int32) (0 : Int32) _ _ _ hf hw (lv_sub hl [3, 4, 2, 1, 0] rfl)
    · refine lv_ldcw (v := (-1000000002 : Int32)) hx hb hown (hts _ q1762) dX5_check_32 ?_
      exact zw_iret X hw hf (Nat.le_of_ble_eq_true rfl) (Nat.le_of_ble_eq_true rfl) dX5_check_35
  · refine lv_ldc (v := (-1000000001 : Int32)) hx hb hown (hts _ q1377) dX5_check_22 ?_
    exact zw_iret X hw hf (Nat.le_of_ble_eq_true rfl) (Nat.le_of_ble_eq_true rfl) dX5_check_24
set_option maxHeartbeats 4000000 in
theorem mt_X5_keep (l : Launch) (D : va_G) (A : Nat → Prop) (E : State → Prop) (hE : zEok A E) (h : zT) (a0 : Nat) (res : Int32 × zT) (hf : f_X5_keep h a0 = some res) : Met l yX5_keep (ws_ yX5_keep cX5_keep 1 (Option.some FieldType.int)) rm_X5_keep (zPW D A E h [.ref a0]) (zQW D A (some (.int res.1)) res.2) 0 0 A := by
  refine zmt hE (by decide) (Nat.le_of_ble_eq_true rfl) ?_
  intro p e s m below meth c ls hmn X hw hl
  have hl : lv_has ls 1 [(0, .ref a0)] := hl
  have hx := X.1.1
  have hb := X.1.2.1
  have hown := X.1.2.2.2.1
  have hts := X.1.2.2.2.2
  unfold f_X5_keep at hf
  refine lv_aload_n hx hb dX5_keep_0 rfl (lv_at hl 0 rfl) ?_
  refine lv_iconst (v := (1 : Int32)) hx hb dX5_keep_1 (by decide) ?_
  refine zw_put X hw fs_X5_3 q1273 rfl rfl rfl rfl hf dX5_keep_2 (fun h1 H locs hf hw => ?_)
  refine lv_aload_n hx hb dX5_keep_5 rfl (lv_at hl 0 rfl) ?_
  refine lv_aload_n hx hb dX5_keep_6 rfl (lv_at hl 0 rfl) ?_
  refine zw_getR X hw fs_X5_0 q1270 rfl hf dX5_keep_7 (fun v2 hf => ?_)
  refine lv_aload_n hx hb dX5_keep_10 rfl (lv_at hl 0 rfl) ?_
  refine zw_getR X hw fs_X5_1 q1271 rfl hf dX5_keep_11 (fun v3 hf => ?_)
  refine zw_cVV (rest := []) [.ref v2, .ref v3] X hw hl.1 hf rfl rfl (fun r hr => mt_X5_setAside l D A E X.2.2.2.2.2.1 h1 a0 v2 v3 r hr) (lw_V q1772 q1774 qs79 q89 q1775) cd_X5_setAside ⟨rfl, rfl⟩ ⟨Nat.le_of_ble_eq_true rfl, Nat.le_of_ble_eq_true rfl⟩ rfl rfl (Nat.le_of_ble_eq_true rfl) dX5_keep_14 ⟨Nat.le_of_ble_eq_true rfl, Nat.le_of_ble_eq_true rfl⟩ (fun r4 H locs hf hw => ?_)
  refine lv_aload_n hx hb dX5_keep_17 rfl (lv_at hl 0 rfl) ?_
  refine zw_getR X hw fs_X5_0 q1270 rfl hf dX5_keep_18 (fun v5 hf => ?_)
  refine lv_iconst (v := (0 : Int32)) hx hb dX5_keep_21 (by decide) ?_
  refine zw_ialoadR X hw hf dX5_keep_22 (fun v6 hf => ?_)
  exact zw_iret X hw hf (Nat.le_of_ble_eq_true rfl) (Nat.le_of_ble_eq_true rfl) dX5_keep_23
set_option maxHeartbeats 4000000 in
theorem mt_X5_back (l : Launch) (D : va_G) (A : Nat → Prop) (E : State → Prop) (hE : zEok A E) (h : zT) (a0 : Nat) (res : Int32 × zT) (hf : f_X5_back h a0 = some res) : Met l yX5_back (ws_ yX5_back cX5_back 1 (Option.some FieldType.int)) rm_X5_back (zPW D A E h [.ref a0]) (zQW D A (some (.int res.1)) res.2) 0 0 A := by
  refine zmt hE (by decide) (Nat.le_of_ble_eq_true rfl) ?_
  intro p e s m below meth c ls hmn X hw hl
  have hl : lv_has ls 1 [(0, .ref a0)] := hl
  have hx := X.1.1
  have hb := X.1.2.1
  have hown := X.1.2.2.2.1
  have hts := X.1.2.2.2.2
  unfold f_X5_back at hf
  refine lv_aload_n hx hb dX5_back_0 rfl (lv_at hl 0 rfl) ?_
  refine zw_getI X hw fs_X5_3 q1273 rfl hf dX5_back_1 (fun v1 hf => ?_)
  refine zw_if_ne (tgt := 11) hx hb hf dX5_back_4 (by decide) (fun hf => ?_) (fun hf => ?_)
  · refine lv_aload_n hx hb dX5_back_11 rfl (lv_at hl 0 rfl) ?_
    refine lv_aload_n hx hb dX5_back_12 rfl (lv_at hl 0 rfl) ?_
    refine zw_getR X hw fs_X5_1 q1271 rfl hf dX5_back_13 (fun v2 hf => ?_)
    refine lv_aload_n hx hb dX5_back_16 rfl (lv_at hl 0 rfl) ?_
    refine zw_getR X hw fs_X5_0 q1270 rfl hf dX5_back_17 (fun v3 hf => ?_)
    refine zw_cVV (rest := []) [.ref v2, .ref v3] X hw hl.1 hf rfl rfl (fun r hr => mt_X5_setAside l D A E X.2.2.2.2.2.1 h a0 v2 v3 r hr) (lw_V q1772 q1774 qs79 q89 q1775) cd_X5_setAside ⟨rfl, rfl⟩ ⟨Nat.le_of_ble_eq_true rfl, Nat.le_of_ble_eq_true rfl⟩ rfl rfl (Nat.le_of_ble_eq_true rfl) dX5_back_20 ⟨Nat.le_of_ble_eq_true rfl, Nat.le_of_ble_eq_true rfl⟩ (fun r4 H locs hf hw => ?_)
    refine lv_aload_n hx hb dX5_back_23 rfl (lv_at hl 0 rfl) ?_
    refine zw_getR X hw fs_X5_0 q1270 rfl hf dX5_back_24 (fun v5 hf => ?_)
    refine lv_iconst (v := (0 : Int32)) hx hb dX5_back_27 (by decide) ?_
    refine zw_ialoadR X hw hf dX5_back_28 (fun v6 hf => ?_)
    exact zw_iret X hw hf (Nat.le_of_ble_eq_true rfl) (Nat.le_of_ble_eq_true rfl) dX5_back_29
  · refine lv_ldcw (v := (-1000000002 : Int32)) hx hb hown (hts _ q1762) dX5_back_7 ?_
    exact zw_iret X hw hf (Nat.le_of_ble_eq_true rfl) (Nat.le_of_ble_eq_true rfl) dX5_back_10
set_option maxHeartbeats 4000000 in
theorem mt_X5_count (l : Launch) (D : va_G) (A : Nat → Prop) (E : State → Prop) (hE : zEok A E) (h : zT) (a0 : Nat) (i1 : Int32) (res : Int32 × zT) (hf : f_X5_count h a0 i1 = some res) : Met l yX5_count (ws_ yX5_count cX5_count 2 (Option.some FieldType.int)) rm_X5_count (zPW D A E h [.ref a0, .int i1]) (zQW D A (some (.int res.1)) res.2) 0 0 A := by
  refine zmt hE (by decide) (Nat.le_of_ble_eq_true rfl) ?_
  intro p e s m below meth c ls hmn X hw hl
  have hl : lv_has ls 2 [(0, .ref a0), (1, .int i1)] := hl
  have hx := X.1.1
  have hb := X.1.2.1
  have hown := X.1.2.2.2.1
  have hts := X.1.2.2.2.2
  unfold f_X5_count at hf
  refine lv_iload_n hx hb dX5_count_0 rfl (lv_at hl 1 rfl) ?_
  refine zw_case hf (fun c1000 hf => ?_) (fun c1000 hf => ?_)
  · refine zw_tableIn (off := 43) (tgt := 44) hx hb c1000 dX5_count_1 (by decide) (by decide) rfl (by decide) ?_
    refine lv_aload_n hx hb dX5_count_44 rfl (lv_at hl 0 rfl) ?_
    refine zw_getR X hw fs_X5_0 q1270 rfl hf dX5_count_45 (fun v1 hf => ?_)
    refine lv_iconst (v := (0 : Int32)) hx hb dX5_count_48 (by decide) ?_
    refine zw_ialoadR X hw hf dX5_count_49 (fun v2 hf => ?_)
    exact zw_iret X hw hf (Nat.le_of_ble_eq_true rfl) (Nat.le_of_ble_eq_true rfl) dX5_count_50
  · refine zw_case hf (fun c1001 hf => ?_) (fun c1001 hf => ?_)
    · refine zw_tableIn (off := 50) (tgt := 51) hx hb c1001 dX5_count_1 (by decide) (by decide) rfl (by decide) ?_
      refine lv_aload_n hx hb dX5_count_51 rfl (lv_at hl 0 rfl) ?_
      refine zw_getR X hw fs_X5_0 q1270 rfl hf dX5_count_52 (fun v3 hf => ?_)
      refine lv_iconst (v := (2 : Int32)) hx hb dX5_count_55 (by decide) ?_
      refine zw_ialoadR X hw hf dX5_count_56 (fun v4 hf => ?_)
      exact zw_iret X hw hf (Nat.le_of_ble_eq_true rfl) (Nat.le_of_ble_eq_true rfl) dX5_count_57
    · refine zw_case hf (fun c1002 hf => ?_) (fun c1002 hf => ?_)
      · refine zw_tableIn (off := 57) (tgt := 58) hx hb c1002 dX5_count_1 (by decide) (by decide) rfl (by decide) ?_
        refine lv_aload_n hx hb dX5_count_58 rfl (lv_at hl 0 rfl) ?_
        refine zw_cVI (rest := []) [] X hw hl.1 hf rfl rfl (fun r hr => mt_X5_laidOnes l D A E X.2.2.2.2.2.1 h a0 r hr) (lw_V q1533 q1535 qs55 q89 q1536) cd_X5_laidOnes ⟨rfl, rfl⟩ ⟨Nat.le_of_ble_eq_true rfl, Nat.le_of_ble_eq_true rfl⟩ rfl rfl (Nat.le_of_ble_eq_true rfl) dX5_count_59 ⟨Nat.le_of_ble_eq_true rfl, Nat.le_of_ble_eq_true rfl⟩ (fun r5 H locs hf hw => ?_)
        refine zw_cSI (rest := []) [.int r5.1] X hw hl.1 hf (fun r hr => mt_X5_manyIn l D A E X.2.2.2.2.2.1 r5.2 r5.1 r hr) (lw_S q1537 q1538 q89 q1539) cd_X5_manyIn ⟨rfl, rfl⟩ ⟨Nat.le_of_ble_eq_true rfl, Nat.le_of_ble_eq_true rfl⟩ rfl rfl (Nat.le_of_ble_eq_true rfl) dX5_count_62 ⟨Nat.le_of_ble_eq_true rfl, Nat.le_of_ble_eq_true rfl⟩ (fun r6 H locs hf hw => ?_)
        exact zw_iret X hw hf (Nat.le_of_ble_eq_true rfl) (Nat.le_of_ble_eq_true rfl) dX5_count_65
      · refine zw_case hf (fun c1003 hf => ?_) (fun c1003 hf => ?_)
        · refine zw_tableIn (off := 65) (tgt := 66) hx hb c1003 dX5_count_1 (by decide) (by decide) rfl (by decide) ?_
          refine lv_aload_n hx hb dX5_count_66 rfl (lv_at hl 0 rfl) ?_
          refine zw_getR X hw fs_X5_0 q1270 rfl hf dX5_count_67 (fun v7 hf => ?_)
          refine lv_iconst (v := (1 : Int32)) hx hb dX5_count_70 (by decide) ?_
          refine zw_ialoadR X hw hf dX5_count_71 (fun v8 hf => ?_)
          exact zw_iret X hw hf (Nat.le_of_ble_eq_true rfl) (Nat.le_of_ble_eq_true rfl) dX5_count_72
        · refine zw_case hf (fun c1004 hf => ?_) (fun c1004 hf => ?_)
          · refine zw_tableIn (off := 72) (tgt := 73) hx hb c1004 dX5_count_1 (by decide) (by decide) rfl (by decide) ?_
            refine lv_aload_n hx hb dX5_count_73 rfl (lv_at hl 0 rfl) ?_
            refine zw_getI X hw fs_X5_30 q1300 rfl hf dX5_count_74 (fun v9 hf => ?_)
            exact zw_iret X hw hf (Nat.le_of_ble_eq_true rfl) (Nat.le_of_ble_eq_true rfl) dX5_count_77
          · refine zw_case hf (fun c1005 hf => ?_) (fun c1005 hf => ?_)
            · refine zw_tableIn (off := 77) (tgt := 78) hx hb c1005 dX5_count_1 (by decide) (by decide) rfl (by decide) ?_
              refine lv_aload_n hx hb dX5_count_78 rfl (lv_at hl 0 rfl) ?_
              refine zw_getI X hw fs_X5_15 q1285 rfl hf dX5_count_79 (fun v10 hf => ?_)
              exact zw_iret X hw hf (Nat.le_of_ble_eq_true rfl) (Nat.le_of_ble_eq_true rfl) dX5_count_82
            · refine zw_case hf (fun c1006 hf => ?_) (fun c1006 hf => ?_)
              · refine zw_tableIn (off := 82) (tgt := 83) hx hb c1006 dX5_count_1 (by decide) (by decide) rfl (by decide) ?_
                refine lv_aload_n hx hb dX5_count_83 rfl (lv_at hl 0 rfl) ?_
                refine zw_getR X hw fs_X5_0 q1270 rfl hf dX5_count_84 (fun v11 hf => ?_)
                refine lv_iconst (v := (4 : Int32)) hx hb dX5_count_87 (by decide) ?_
                refine zw_ialoadR X hw hf dX5_count_88 (fun v12 hf => ?_)
                exact zw_iret X hw hf (Nat.le_of_ble_eq_true rfl) (Nat.le_of_ble_eq_true rfl) dX5_count_89
              · refine lv_tableOut (tgt := 90) hx hb dX5_count_1 (by have := lv_neT c1000 (a := 0) (by decide); have := lv_neT c1001 (a := 1) (by decide); have := lv_neT c1002 (a := 2) (by decide); have := lv_neT c1003 (a := 3) (by decide); have := lv_neT c1004 (a := 4) (by decide); have := lv_neT c1005 (a := 5) (by decide); have := lv_neT c1006 (a := 6) (by decide); omega) (by decide) ?_
                refine lv_ldc (v := (-1000000001 : Int32)) hx hb hown (hts _ q1377) dX5_count_90 ?_
                exact zw_iret X hw hf (Nat.le_of_ble_eq_true rfl) (Nat.le_of_ble_eq_true rfl) dX5_count_92
