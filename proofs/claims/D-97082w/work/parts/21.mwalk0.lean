/-! StoneSheetsModel: the walks (gen/model.py) -/
set_option maxRecDepth 100000
set_option maxHeartbeats 4000000 in
theorem mt_X5_isSign (l : Launch) (D : va_G) (A : Nat → Prop) (E : State → Prop) (hE : zEok A E) (h : zT) (a0 : Nat) (i1 : Int32) (res : Int32 × zT) (hf : f_X5_isSign h a0 i1 = some res) : Met l yX5_isSign (ws_ yX5_isSign cX5_isSign 2 (Option.some FieldType.boolean)) rm_X5_isSign (zPW D A E h [.ref a0, .int i1]) (zQW D A (some (.int res.1)) res.2) 0 0 A := by
  refine zmt hE (by decide) (Nat.le_of_ble_eq_true rfl) ?_
  intro p e s m below meth c ls hmn X hw hl
  have hl : lv_has ls 2 [(0, .ref a0), (1, .int i1)] := hl
  have hx := X.1.1
  have hb := X.1.2.1
  have hown := X.1.2.2.2.1
  have hts := X.1.2.2.2.2
  unfold f_X5_isSign at hf
  refine lv_aload_n hx hb dX5_isSign_0 rfl (lv_at hl 0 rfl) ?_
  refine zw_getI X hw fs_X5_18 q1288 rfl hf dX5_isSign_1 (fun v1 hf => ?_)
  refine lv_iconst (v := (3 : Int32)) hx hb dX5_isSign_4 (by decide) ?_
  refine zw_icmp_ne (tgt := 20) hx hb hf dX5_isSign_5 (by decide) (fun hf => ?_) (fun hf => ?_)
  · refine lv_iconst (v := (0 : Int32)) hx hb dX5_isSign_20 (by decide) ?_
    exact zw_zret X hw hf (Nat.le_of_ble_eq_true rfl) (Nat.le_of_ble_eq_true rfl) dX5_isSign_21
  · refine lv_aload_n hx hb dX5_isSign_8 rfl (lv_at hl 0 rfl) ?_
    refine zw_getI X hw fs_X5_20 q1290 rfl hf dX5_isSign_9 (fun v2 hf => ?_)
    refine lv_iload_n hx hb dX5_isSign_12 rfl (lv_at hl 1 rfl) ?_
    refine zw_icmp_ne (tgt := 20) hx hb hf dX5_isSign_13 (by decide) (fun hf => ?_) (fun hf => ?_)
    · refine lv_iconst (v := (0 : Int32)) hx hb dX5_isSign_20 (by decide) ?_
      exact zw_zret X hw hf (Nat.le_of_ble_eq_true rfl) (Nat.le_of_ble_eq_true rfl) dX5_isSign_21
    · refine lv_iconst (v := (1 : Int32)) hx hb dX5_isSign_16 (by decide) ?_
      refine lv_goto (tgt := 21) hx hb dX5_isSign_17 (by decide) ?_
      exact zw_zret X hw hf (Nat.le_of_ble_eq_true rfl) (Nat.le_of_ble_eq_true rfl) dX5_isSign_21
set_option maxHeartbeats 4000000 in
theorem mt_X5_isIn (l : Launch) (D : va_G) (A : Nat → Prop) (E : State → Prop) (hE : zEok A E) (h : zT) (l0 : Int64) (l2 : Int64) (l4 : Int64) (res : Int32 × zT) (hf : f_X5_isIn h l0 l2 l4 = some res) : Met l yX5_isIn (ws_ yX5_isIn cX5_isIn 6 (Option.some FieldType.boolean)) rm_X5_isIn (zPW D A E h [.long l0, .long l2, .long l4]) (zQW D A (some (.int res.1)) res.2) 0 0 A := by
  refine zmt hE (by decide) (Nat.le_of_ble_eq_true rfl) ?_
  intro p e s m below meth c ls hmn X hw hl
  have hl : lv_has ls 6 [(0, .long l0), (2, .long l2), (4, .long l4)] := hl
  have hx := X.1.1
  have hb := X.1.2.1
  have hown := X.1.2.2.2.1
  have hts := X.1.2.2.2.2
  unfold f_X5_isIn at hf
  refine lv_lload_n hx hb dX5_isIn_0 rfl (lv_at hl 0 rfl) ?_
  refine lv_lload_n hx hb dX5_isIn_1 rfl (lv_at hl 1 rfl) ?_
  refine W.lcmp hx hb dX5_isIn_2 ?_
  refine zw_if_lt (tgt := 17) hx hb hf dX5_isIn_3 (by decide) (fun hf => ?_) (fun hf => ?_)
  · refine lv_iconst (v := (0 : Int32)) hx hb dX5_isIn_17 (by decide) ?_
    exact zw_zret X hw hf (Nat.le_of_ble_eq_true rfl) (Nat.le_of_ble_eq_true rfl) dX5_isIn_18
  · refine lv_lload_n hx hb dX5_isIn_6 rfl (lv_at hl 0 rfl) ?_
    refine lv_lload hx hb dX5_isIn_7 (lv_at hl 2 rfl) ?_
    refine W.lcmp hx hb dX5_isIn_9 ?_
    refine zw_if_gt (tgt := 17) hx hb hf dX5_isIn_10 (by decide) (fun hf => ?_) (fun hf => ?_)
    · refine lv_iconst (v := (0 : Int32)) hx hb dX5_isIn_17 (by decide) ?_
      exact zw_zret X hw hf (Nat.le_of_ble_eq_true rfl) (Nat.le_of_ble_eq_true rfl) dX5_isIn_18
    · refine lv_iconst (v := (1 : Int32)) hx hb dX5_isIn_13 (by decide) ?_
      refine lv_goto (tgt := 18) hx hb dX5_isIn_14 (by decide) ?_
      exact zw_zret X hw hf (Nat.le_of_ble_eq_true rfl) (Nat.le_of_ble_eq_true rfl) dX5_isIn_18
set_option maxHeartbeats 4000000 in
theorem mt_X5_isDigit (l : Launch) (D : va_G) (A : Nat → Prop) (E : State → Prop) (hE : zEok A E) (h : zT) (a0 : Nat) (i1 : Int32) (res : Int32 × zT) (hf : f_X5_isDigit h a0 i1 = some res) : Met l yX5_isDigit (ws_ yX5_isDigit cX5_isDigit 2 (Option.some FieldType.boolean)) rm_X5_isDigit (zPW D A E h [.ref a0, .int i1]) (zQW D A (some (.int res.1)) res.2) 0 0 A := by
  refine zmt hE (by decide) (Nat.le_of_ble_eq_true rfl) ?_
  intro p e s m below meth c ls hmn X hw hl
  have hl : lv_has ls 2 [(0, .ref a0), (1, .int i1)] := hl
  have hx := X.1.1
  have hb := X.1.2.1
  have hown := X.1.2.2.2.1
  have hts := X.1.2.2.2.2
  unfold f_X5_isDigit at hf
  refine lv_iload_n hx hb dX5_isDigit_0 rfl (lv_at hl 1 rfl) ?_
  refine lv_aload_n hx hb dX5_isDigit_1 rfl (lv_at hl 0 rfl) ?_
  refine zw_getI X hw fs_X5_15 q1285 rfl hf dX5_isDigit_2 (fun v1 hf => ?_)
  refine zw_icmp_ge (tgt := 31) hx hb hf dX5_isDigit_5 (by decide) (fun hf => ?_) (fun hf => ?_)
  · refine lv_iconst (v := (0 : Int32)) hx hb dX5_isDigit_31 (by decide) ?_
    exact zw_zret X hw hf (Nat.le_of_ble_eq_true rfl) (Nat.le_of_ble_eq_true rfl) dX5_isDigit_32
  · refine lv_aload_n hx hb dX5_isDigit_8 rfl (lv_at hl 0 rfl) ?_
    refine zw_getR X hw fs_X5_14 q1284 rfl hf dX5_isDigit_9 (fun v2 hf => ?_)
    refine lv_iload_n hx hb dX5_isDigit_12 rfl (lv_at hl 1 rfl) ?_
    refine zw_ialoadR X hw hf dX5_isDigit_13 (fun v3 hf => ?_)
    refine lv_i2l hx hb dX5_isDigit_14 rfl ?_
    refine lv_ldc2 (v := (48 : Int64)) hx hb hown (hts _ q1648) dX5_isDigit_15 ?_
    refine lv_ldc2 (v := (57 : Int64)) hx hb hown (hts _ q1649) dX5_isDigit_18 ?_
    refine zw_cSZ (rest := []) [.long v3.toInt64, .long (48 : Int64), .long (57 : Int64)] X hw hl.1 hf (fun r hr => mt_X5_isIn l D A E X.2.2.2.2.2.1 h v3.toInt64 (48 : Int64) (57 : Int64) r hr) (lw_S q1372 q1373 q89 q1374) cd_X5_isIn ⟨rfl, rfl⟩ ⟨Nat.le_of_ble_eq_true rfl, Nat.le_of_ble_eq_true rfl⟩ rfl rfl (Nat.le_of_ble_eq_true rfl) dX5_isDigit_21 ⟨Nat.le_of_ble_eq_true rfl, Nat.le_of_ble_eq_true rfl⟩ (fun r4 H locs hf hw => ?_)
    refine zw_if_eq (tgt := 31) hx hb hf dX5_isDigit_24 (by decide) (fun hf => ?_) (fun hf => ?_)
    · refine lv_iconst (v := (0 : Int32)) hx hb dX5_isDigit_31 (by decide) ?_
      exact zw_zret X hw hf (Nat.le_of_ble_eq_true rfl) (Nat.le_of_ble_eq_true rfl) dX5_isDigit_32
    · refine lv_iconst (v := (1 : Int32)) hx hb dX5_isDigit_27 (by decide) ?_
      refine lv_goto (tgt := 32) hx hb dX5_isDigit_28 (by decide) ?_
      exact zw_zret X hw hf (Nat.le_of_ble_eq_true rfl) (Nat.le_of_ble_eq_true rfl) dX5_isDigit_32
set_option maxHeartbeats 4000000 in
theorem mt_X5_isLetter (l : Launch) (D : va_G) (A : Nat → Prop) (E : State → Prop) (hE : zEok A E) (h : zT) (a0 : Nat) (i1 : Int32) (res : Int32 × zT) (hf : f_X5_isLetter h a0 i1 = some res) : Met l yX5_isLetter (ws_ yX5_isLetter cX5_isLetter 2 (Option.some FieldType.boolean)) rm_X5_isLetter (zPW D A E h [.ref a0, .int i1]) (zQW D A (some (.int res.1)) res.2) 0 0 A := by
  refine zmt hE (by decide) (Nat.le_of_ble_eq_true rfl) ?_
  intro p e s m below meth c ls hmn X hw hl
  have hl : lv_has ls 2 [(0, .ref a0), (1, .int i1)] := hl
  have hx := X.1.1
  have hb := X.1.2.1
  have hown := X.1.2.2.2.1
  have hts := X.1.2.2.2.2
  unfold f_X5_isLetter at hf
  refine lv_iload_n hx hb dX5_isLetter_0 rfl (lv_at hl 1 rfl) ?_
  refine lv_aload_n hx hb dX5_isLetter_1 rfl (lv_at hl 0 rfl) ?_
  refine zw_getI X hw fs_X5_15 q1285 rfl hf dX5_isLetter_2 (fun v1 hf => ?_)
  refine zw_icmp_ge (tgt := 31) hx hb hf dX5_isLetter_5 (by decide) (fun hf => ?_) (fun hf => ?_)
  · refine lv_iconst (v := (0 : Int32)) hx hb dX5_isLetter_31 (by decide) ?_
    exact zw_zret X hw hf (Nat.le_of_ble_eq_true rfl) (Nat.le_of_ble_eq_true rfl) dX5_isLetter_32
  · refine lv_aload_n hx hb dX5_isLetter_8 rfl (lv_at hl 0 rfl) ?_
    refine zw_getR X hw fs_X5_14 q1284 rfl hf dX5_isLetter_9 (fun v2 hf => ?_)
    refine lv_iload_n hx hb dX5_isLetter_12 rfl (lv_at hl 1 rfl) ?_
    refine zw_ialoadR X hw hf dX5_isLetter_13 (fun v3 hf => ?_)
    refine lv_i2l hx hb dX5_isLetter_14 rfl ?_
    refine lv_ldc2 (v := (97 : Int64)) hx hb hown (hts _ q1642) dX5_isLetter_15 ?_
    refine lv_ldc2 (v := (122 : Int64)) hx hb hown (hts _ q1643) dX5_isLetter_18 ?_
    refine zw_cSZ (rest := []) [.long v3.toInt64, .long (97 : Int64), .long (122 : Int64)] X hw hl.1 hf (fun r hr => mt_X5_isIn l D A E X.2.2.2.2.2.1 h v3.toInt64 (97 : Int64) (122 : Int64) r hr) (lw_S q1372 q1373 q89 q1374) cd_X5_isIn ⟨rfl, rfl⟩ ⟨Nat.le_of_ble_eq_true rfl, Nat.le_of_ble_eq_true rfl⟩ rfl rfl (Nat.le_of_ble_eq_true rfl) dX5_isLetter_21 ⟨Nat.le_of_ble_eq_true rfl, Nat.le_of_ble_eq_true rfl⟩ (fun r4 H locs hf hw => ?_)
    refine zw_if_eq (tgt := 31) hx hb hf dX5_isLetter_24 (by decide) (fun hf => ?_) (fun hf => ?_)
    · refine lv_iconst (v := (0 : Int32)) hx hb dX5_isLetter_31 (by decide) ?_
      exact zw_zret X hw hf (Nat.le_of_ble_eq_true rfl) (Nat.le_of_ble_eq_true rfl) dX5_isLetter_32
    · refine lv_iconst (v := (1 : Int32)) hx hb dX5_isLetter_27 (by decide) ?_
      refine lv_goto (tgt := 32) hx hb dX5_isLetter_28 (by decide) ?_
      exact zw_zret X hw hf (Nat.le_of_ble_eq_true rfl) (Nat.le_of_ble_eq_true rfl) dX5_isLetter_32
set_option maxHeartbeats 4000000 in
theorem k_X5_nextToken_162 {p : Program} {l : Launch} {e : Env} {s : State} {m : MethodId} {args : Array Value} {below : List Frame} {meth : Method} {c : Code} {D : va_G} {A : Nat → Prop} {E : State → Prop} (X : zCx p s m args meth c D A E cX5_nextToken 3 RX5 (Option.none : Option FieldType)) (res : zT) : ∀ (h : zT) (a0 : Nat) (s0 : Int32) (s1 : Nat) (H : Heap) (locs : List Loc) (ls : Array Slot), f_X5_nextToken_162 h a0 s0 s1 = some res → zWh D A s H h locs → lv_has ls 3 [(0, .ref a0)] → W p l e rm_X5_nextToken s m args below meth c H locs 0 0 (MQ below (zQW D A none res) args s 0 0 A) (F0 m 162 ls [.int s0, .ref s1]) := by
  have hx := X.1.1
  have hb := X.1.2.1
  have hown := X.1.2.2.2.1
  have hts := X.1.2.2.2.2
  intro h a0 s0 s1 H locs ls hf hw hl
  unfold f_X5_nextToken_162 at hf
  refine zw_put X hw fs_X5_18 q1288 rfl rfl rfl rfl hf dX5_nextToken_162 (fun h1 H locs hf hw => ?_)
  refine lv_aload_n hx hb dX5_nextToken_165 rfl (lv_at hl 0 rfl) ?_
  refine lv_aload_n hx hb dX5_nextToken_166 rfl (lv_at hl 0 rfl) ?_
  refine zw_getI X hw fs_X5_17 q1287 rfl hf dX5_nextToken_167 (fun v2 hf => ?_)
  refine lv_aload_n hx hb dX5_nextToken_170 rfl (lv_at hl 0 rfl) ?_
  refine zw_getI X hw fs_X5_16 q1286 rfl hf dX5_nextToken_171 (fun v3 hf => ?_)
  refine lv_isub hx hb dX5_nextToken_174 ?_
  refine lv_iconst (v := (1 : Int32)) hx hb dX5_nextToken_175 (by decide) ?_
  refine zw_icmp_ne (tgt := 191) hx hb hf dX5_nextToken_176 (by decide) (fun hf => ?_) (fun hf => ?_)
  · refine lv_iconst (v := (0 : Int32)) hx hb dX5_nextToken_191 (by decide) ?_
    refine zw_put X hw fs_X5_20 q1290 rfl rfl rfl rfl hf dX5_nextToken_192 (fun h4 H locs hf hw => ?_)
    refine lv_goto (tgt := 339) hx hb dX5_nextToken_195 (by decide) ?_
    exact zw_vret X hw hf (Nat.le_of_ble_eq_true rfl) (Nat.le_of_ble_eq_true rfl) dX5_nextToken_339
  · refine lv_aload_n hx hb dX5_nextToken_179 rfl (lv_at hl 0 rfl) ?_
    refine zw_getR X hw fs_X5_14 q1284 rfl hf dX5_nextToken_180 (fun v5 hf => ?_)
    refine lv_aload_n hx hb dX5_nextToken_183 rfl (lv_at hl 0 rfl) ?_
    refine zw_getI X hw fs_X5_16 q1286 rfl hf dX5_nextToken_184 (fun v6 hf => ?_)
    refine zw_ialoadR X hw hf dX5_nextToken_187 (fun v7 hf => ?_)
    refine lv_goto (tgt := 192) hx hb dX5_nextToken_188 (by decide) ?_
    refine zw_put X hw fs_X5_20 q1290 rfl rfl rfl rfl hf dX5_nextToken_192 (fun h8 H locs hf hw => ?_)
    refine lv_goto (tgt := 339) hx hb dX5_nextToken_195 (by decide) ?_
    exact zw_vret X hw hf (Nat.le_of_ble_eq_true rfl) (Nat.le_of_ble_eq_true rfl) dX5_nextToken_339
set_option maxHeartbeats 4000000 in
theorem k_X5_nextToken_128 {p : Program} {l : Launch} {e : Env} {s : State} {m : MethodId} {args : Array Value} {below : List Frame} {meth : Method} {c : Code} {D : va_G} {A : Nat → Prop} {E : State → Prop} (X : zCx p s m args meth c D A E cX5_nextToken 3 RX5 (Option.none : Option FieldType)) (res : zT) : ∀ (n : Nat), ∀ (h : zT) (a0 : Nat) (i1 : Int32) (H : Heap) (locs : List Loc) (ls : Array Slot), f_X5_nextToken_128 n h a0 i1 = some res → zWh D A s H h locs → lv_has ls 3 [(0, .ref a0), (1, .int i1)] → W p l e rm_X5_nextToken s m args below meth c H locs 0 0 (MQ below (zQW D A none res) args s 0 0 A) (F0 m 128 ls []) := by
  have hx := X.1.1
  have hb := X.1.2.1
  have hown := X.1.2.2.2.1
  have hts := X.1.2.2.2.2
  intro n
  induction n with
  | zero =>
    intro h a0 i1 H locs ls hf hw hl
    cases hf
  | succ n ih =>
    intro h a0 i1 H locs ls hf hw hl
    unfold f_X5_nextToken_128 at hf
    refine lv_aload_n hx hb dX5_nextToken_128 rfl (lv_at hl 0 rfl) ?_
    refine lv_aload_n hx hb dX5_nextToken_129 rfl (lv_at hl 0 rfl) ?_
    refine zw_getI X hw fs_X5_17 q1287 rfl hf dX5_nextToken_130 (fun v1 hf => ?_)
    refine zw_cVZ (rest := []) [.int v1] X hw hl.1 hf rfl rfl (fun r hr => mt_X5_isLetter l D A E X.2.2.2.2.2.1 h a0 v1 r hr) (lw_V q1638 q1640 qs66 q89 q1641) cd_X5_isLetter ⟨rfl, rfl⟩ ⟨Nat.le_of_ble_eq_true rfl, Nat.le_of_ble_eq_true rfl⟩ rfl rfl (Nat.le_of_ble_eq_true rfl) dX5_nextToken_133 ⟨Nat.le_of_ble_eq_true rfl, Nat.le_of_ble_eq_true rfl⟩ (fun r2 H locs hf hw => ?_)
    refine zw_if_eq (tgt := 152) hx hb hf dX5_nextToken_136 (by decide) (fun hf => ?_) (fun hf => ?_)
    · refine lv_aload_n hx hb dX5_nextToken_152 rfl (lv_at hl 0 rfl) ?_
      refine lv_iload_n hx hb dX5_nextToken_153 rfl (lv_at hl 1 rfl) ?_
      refine zw_if_eq (tgt := 161) hx hb hf dX5_nextToken_154 (by decide) (fun hf => ?_) (fun hf => ?_)
      · refine lv_iconst (v := (1 : Int32)) hx hb dX5_nextToken_161 (by decide) ?_
        exact k_X5_nextToken_162 X _ r2.2 a0 (1 : Int32) a0 _ _ _ hf hw (lv_sub hl [0] rfl)
      · refine lv_iconst (v := (4 : Int32)) hx hb dX5_nextToken_157 (by decide) ?_
        refine lv_goto (tgt := 162) hx hb dX5_nextToken_158 (by decide) ?_
        exact k_X5_nextToken_162 X _ r2.2 a0 (4 : Int32) a0 _ _ _ hf hw (lv_sub hl [0] rfl)
    · refine lv_aload_n hx hb dX5_nextToken_139 rfl (lv_at hl 0 rfl) ?_
      refine lv_dup hx hb dX5_nextToken_140 rfl ?_
      refine zw_getI X hw fs_X5_17 q1287 rfl hf dX5_nextToken_141 (fun v3 hf => ?_)
      refine lv_iconst (v := (1 : Int32)) hx hb dX5_nextToken_144 (by decide) ?_
      refine lv_iadd hx hb dX5_nextToken_145 ?_
      refine zw_put X hw fs_X5_17 q1287 rfl rfl rfl rfl hf dX5_nextToken_146 (fun h4 H locs hf hw => ?_)
      refine lv_goto (tgt := 128) hx hb dX5_nextToken_149 (by decide) ?_
      exact ih h4 a0 i1 _ _ _ hf hw (lv_sub hl [0, 1] rfl)
set_option maxHeartbeats 4000000 in
theorem k_X5_nextToken_214 {p : Program} {l : Launch} {e : Env} {s : State} {m : MethodId} {args : Array Value} {below : List Frame} {meth : Method} {c : Code} {D : va_G} {A : Nat → Prop} {E : State → Prop} (X : zCx p s m args meth c D A E cX5_nextToken 3 RX5 (Option.none : Option FieldType)) (res : zT) : ∀ (n : Nat), ∀ (h : zT) (a0 : Nat) (i1 : Int32) (H : Heap) (locs : List Loc) (ls : Array Slot), f_X5_nextToken_214 n h a0 i1 = some res → zWh D A s H h locs → lv_has ls 3 [(0, .ref a0), (1, .int i1)] → W p l e rm_X5_nextToken s m args below meth c H locs 0 0 (MQ below (zQW D A none res) args s 0 0 A) (F0 m 214 ls []) := by
  have hx := X.1.1
  have hb := X.1.2.1
  have hown := X.1.2.2.2.1
  have hts := X.1.2.2.2.2
  intro n
  induction n with
  | zero =>
    intro h a0 i1 H locs ls hf hw hl
    cases hf
  | succ n ih =>
    intro h a0 i1 H locs ls hf hw hl
    unfold f_X5_nextToken_214 at hf
    refine lv_aload_n hx hb dX5_nextToken_214 rfl (lv_at hl 0 rfl) ?_
    refine lv_aload_n hx hb dX5_nextToken_215 rfl (lv_at hl 0 rfl) ?_
    refine zw_getI X hw fs_X5_17 q1287 rfl hf dX5_nextToken_216 (fun v1 hf => ?_)
    refine zw_cVZ (rest := []) [.int v1] X hw hl.1 hf rfl rfl (fun r hr => mt_X5_isDigit l D A E X.2.2.2.2.2.1 h a0 v1 r hr) (lw_V q1644 q1646 qs67 q89 q1647) cd_X5_isDigit ⟨rfl, rfl⟩ ⟨Nat.le_of_ble_eq_true rfl, Nat.le_of_ble_eq_true rfl⟩ rfl rfl (Nat.le_of_ble_eq_true rfl) dX5_nextToken_219 ⟨Nat.le_of_ble_eq_true rfl, Nat.le_of_ble_eq_true rfl⟩ (fun r2 H locs hf hw => ?_)
    refine zw_if_eq (tgt := 282) hx hb hf dX5_nextToken_222 (by decide) (fun hf => ?_) (fun hf => ?_)
    · refine lv_aload_n hx hb dX5_nextToken_282 rfl (lv_at hl 0 rfl) ?_
      refine lv_iload_n hx hb dX5_nextToken_283 rfl (lv_at hl 1 rfl) ?_
      refine zw_if_ne (tgt := 300) hx hb hf dX5_nextToken_284 (by decide) (fun hf => ?_) (fun hf => ?_)
      · refine lv_iconst (v := (4 : Int32)) hx hb dX5_nextToken_300 (by decide) ?_
        refine lv_goto (tgt := 305) hx hb dX5_nextToken_301 (by decide) ?_
        refine zw_put X hw fs_X5_18 q1288 rfl rfl rfl rfl hf dX5_nextToken_305 (fun h3 H locs hf hw => ?_)
        refine lv_goto (tgt := 339) hx hb dX5_nextToken_308 (by decide) ?_
        exact zw_vret X hw hf (Nat.le_of_ble_eq_true rfl) (Nat.le_of_ble_eq_true rfl) dX5_nextToken_339
      · refine lv_aload_n hx hb dX5_nextToken_287 rfl (lv_at hl 0 rfl) ?_
        refine zw_getI X hw fs_X5_17 q1287 rfl hf dX5_nextToken_288 (fun v4 hf => ?_)
        refine lv_aload_n hx hb dX5_nextToken_291 rfl (lv_at hl 0 rfl) ?_
        refine zw_getI X hw fs_X5_16 q1286 rfl hf dX5_nextToken_292 (fun v5 hf => ?_)
        refine lv_isub hx hb dX5_nextToken_295 ?_
        refine lv_iconst (v := (4 : Int32)) hx hb dX5_nextToken_296 (by decide) ?_
        refine zw_icmp_le (tgt := 304) hx hb hf dX5_nextToken_297 (by decide) (fun hf => ?_) (fun hf => ?_)
        · refine lv_iconst (v := (2 : Int32)) hx hb dX5_nextToken_304 (by decide) ?_
          refine zw_put X hw fs_X5_18 q1288 rfl rfl rfl rfl hf dX5_nextToken_305 (fun h6 H locs hf hw => ?_)
          refine lv_goto (tgt := 339) hx hb dX5_nextToken_308 (by decide) ?_
          exact zw_vret X hw hf (Nat.le_of_ble_eq_true rfl) (Nat.le_of_ble_eq_true rfl) dX5_nextToken_339
        · refine lv_iconst (v := (4 : Int32)) hx hb dX5_nextToken_300 (by decide) ?_
          refine lv_goto (tgt := 305) hx hb dX5_nextToken_301 (by decide) ?_
          refine zw_put X hw fs_X5_18 q1288 rfl rfl rfl rfl hf dX5_nextToken_305 (fun h7 H locs hf hw => ?_)
          refine lv_goto (tgt := 339) hx hb dX5_nextToken_308 (by decide) ?_
          exact zw_vret X hw hf (Nat.le_of_ble_eq_true rfl) (Nat.le_of_ble_eq_true rfl) dX5_nextToken_339
    · refine lv_aload_n hx hb dX5_nextToken_225 rfl (lv_at hl 0 rfl) ?_
      refine lv_aload_n hx hb dX5_nextToken_226 rfl (lv_at hl 0 rfl) ?_
      refine zw_getI X hw fs_X5_17 q1287 rfl hf dX5_nextToken_227 (fun v8 hf => ?_)
      refine lv_aload_n hx hb dX5_nextToken_230 rfl (lv_at hl 0 rfl) ?_
      refine zw_getI X hw fs_X5_16 q1286 rfl hf dX5_nextToken_231 (fun v9 hf => ?_)
      refine lv_isub hx hb dX5_nextToken_234 ?_
      refine lv_iconst (v := (4 : Int32)) hx hb dX5_nextToken_235 (by decide) ?_
      refine zw_icmp_ge (tgt := 262) hx hb hf dX5_nextToken_236 (by decide) (fun hf => ?_) (fun hf => ?_)
      · refine lv_aload_n hx hb dX5_nextToken_262 rfl (lv_at hl 0 rfl) ?_
        refine zw_getI X hw fs_X5_19 q1289 rfl hf dX5_nextToken_263 (fun v10 hf => ?_)
        refine zw_put X hw fs_X5_19 q1289 rfl rfl rfl rfl hf dX5_nextToken_266 (fun h11 H locs hf hw => ?_)
        refine lv_aload_n hx hb dX5_nextToken_269 rfl (lv_at hl 0 rfl) ?_
        refine lv_dup hx hb dX5_nextToken_270 rfl ?_
        refine zw_getI X hw fs_X5_17 q1287 rfl hf dX5_nextToken_271 (fun v12 hf => ?_)
        refine lv_iconst (v := (1 : Int32)) hx hb dX5_nextToken_274 (by decide) ?_
        refine lv_iadd hx hb dX5_nextToken_275 ?_
        refine zw_put X hw fs_X5_17 q1287 rfl rfl rfl rfl hf dX5_nextToken_276 (fun h13 H locs hf hw => ?_)
        refine lv_goto (tgt := 214) hx hb dX5_nextToken_279 (by decide) ?_
        exact ih h13 a0 i1 _ _ _ hf hw (lv_sub hl [0, 1] rfl)
      · refine lv_bipush (v := (10 : Int32)) hx hb dX5_nextToken_239 (by decide) ?_
        refine lv_aload_n hx hb dX5_nextToken_241 rfl (lv_at hl 0 rfl) ?_
        refine zw_getI X hw fs_X5_19 q1289 rfl hf dX5_nextToken_242 (fun v14 hf => ?_)
        refine lv_imul hx hb dX5_nextToken_245 ?_
        refine lv_aload_n hx hb dX5_nextToken_246 rfl (lv_at hl 0 rfl) ?_
        refine zw_getR X hw fs_X5_14 q1284 rfl hf dX5_nextToken_247 (fun v15 hf => ?_)
        refine lv_aload_n hx hb dX5_nextToken_250 rfl (lv_at hl 0 rfl) ?_
        refine zw_getI X hw fs_X5_17 q1287 rfl hf dX5_nextToken_251 (fun v16 hf => ?_)
        refine zw_ialoadR X hw hf dX5_nextToken_254 (fun v17 hf => ?_)
        refine lv_iadd hx hb dX5_nextToken_255 ?_
        refine lv_bipush (v := (48 : Int32)) hx hb dX5_nextToken_256 (by decide) ?_
        refine lv_isub hx hb dX5_nextToken_258 ?_
        refine lv_goto (tgt := 266) hx hb dX5_nextToken_259 (by decide) ?_
        refine zw_put X hw fs_X5_19 q1289 rfl rfl rfl rfl hf dX5_nextToken_266 (fun h18 H locs hf hw => ?_)
        refine lv_aload_n hx hb dX5_nextToken_269 rfl (lv_at hl 0 rfl) ?_
        refine lv_dup hx hb dX5_nextToken_270 rfl ?_
        refine zw_getI X hw fs_X5_17 q1287 rfl hf dX5_nextToken_271 (fun v19 hf => ?_)
        refine lv_iconst (v := (1 : Int32)) hx hb dX5_nextToken_274 (by decide) ?_
        refine lv_iadd hx hb dX5_nextToken_275 ?_
        refine zw_put X hw fs_X5_17 q1287 rfl rfl rfl rfl hf dX5_nextToken_276 (fun h20 H locs hf hw => ?_)
        refine lv_goto (tgt := 214) hx hb dX5_nextToken_279 (by decide) ?_
        exact ih h20 a0 i1 _ _ _ hf hw (lv_sub hl [0, 1] rfl)
set_option maxHeartbeats 4000000 in
theorem k_X5_nextToken_89 {p : Program} {l : Launch} {e : Env} {s : State} {m : MethodId} {args : Array Value} {below : List Frame} {meth : Method} {c : Code} {D : va_G} {A : Nat → Prop} {E : State → Prop} (X : zCx p s m args meth c D A E cX5_nextToken 3 RX5 (Option.none : Option FieldType)) (res : zT) : ∀ (h : zT) (a0 : Nat) (s0 : Int32) (H : Heap) (locs : List Loc) (ls : Array Slot), f_X5_nextToken_89 h a0 s0 = some res → zWh D A s H h locs → lv_has ls 3 [(0, .ref a0)] → W p l e rm_X5_nextToken s m args below meth c H locs 0 0 (MQ below (zQW D A none res) args s 0 0 A) (F0 m 89 ls [.int s0]) := by
  have hx := X.1.1
  have hb := X.1.2.1
  have hown := X.1.2.2.2.1
  have hts := X.1.2.2.2.2
  intro h a0 s0 H locs ls hf hw hl
  unfold f_X5_nextToken_89 at hf
  refine lv_istore_n (lv' := [(1, .int s0), (0, .ref a0)]) hx hb dX5_nextToken_89 rfl hl (by decide) rfl (fun ls hl => ?_)
  refine lv_aload_n hx hb dX5_nextToken_90 rfl (lv_at hl 1 rfl) ?_
  refine lv_aload_n hx hb dX5_nextToken_91 rfl (lv_at hl 1 rfl) ?_
  refine zw_getI X hw fs_X5_17 q1287 rfl hf dX5_nextToken_92 (fun v1 hf => ?_)
  refine zw_put X hw fs_X5_16 q1286 rfl rfl rfl rfl hf dX5_nextToken_95 (fun h2 H locs hf hw => ?_)
  refine lv_aload_n hx hb dX5_nextToken_98 rfl (lv_at hl 1 rfl) ?_
  refine zw_getI X hw fs_X5_16 q1286 rfl hf dX5_nextToken_99 (fun v3 hf => ?_)
  refine lv_aload_n hx hb dX5_nextToken_102 rfl (lv_at hl 1 rfl) ?_
  refine zw_getI X hw fs_X5_15 q1285 rfl hf dX5_nextToken_103 (fun v4 hf => ?_)
  refine zw_icmp_ne (tgt := 117) hx hb hf dX5_nextToken_106 (by decide) (fun hf => ?_) (fun hf => ?_)
  · refine lv_aload_n hx hb dX5_nextToken_117 rfl (lv_at hl 1 rfl) ?_
    refine lv_aload_n hx hb dX5_nextToken_118 rfl (lv_at hl 1 rfl) ?_
    refine zw_getI X hw fs_X5_16 q1286 rfl hf dX5_nextToken_119 (fun v5 hf => ?_)
    refine zw_cVZ (rest := []) [.int v5] X hw hl.1 hf rfl rfl (fun r hr => mt_X5_isLetter l D A E X.2.2.2.2.2.1 h2 a0 v5 r hr) (lw_V q1638 q1640 qs66 q89 q1641) cd_X5_isLetter ⟨rfl, rfl⟩ ⟨Nat.le_of_ble_eq_true rfl, Nat.le_of_ble_eq_true rfl⟩ rfl rfl (Nat.le_of_ble_eq_true rfl) dX5_nextToken_122 ⟨Nat.le_of_ble_eq_true rfl, Nat.le_of_ble_eq_true rfl⟩ (fun r6 H locs hf hw => ?_)
    refine zw_if_eq (tgt := 198) hx hb hf dX5_nextToken_125 (by decide) (fun hf => ?_) (fun hf => ?_)
    · refine lv_aload_n hx hb dX5_nextToken_198 rfl (lv_at hl 1 rfl) ?_
      refine lv_aload_n hx hb dX5_nextToken_199 rfl (lv_at hl 1 rfl) ?_
      refine zw_getI X hw fs_X5_16 q1286 rfl hf dX5_nextToken_200 (fun v7 hf => ?_)
      refine zw_cVZ (rest := []) [.int v7] X hw hl.1 hf rfl rfl (fun r hr => mt_X5_isDigit l D A E X.2.2.2.2.2.1 r6.2 a0 v7 r hr) (lw_V q1644 q1646 qs67 q89 q1647) cd_X5_isDigit ⟨rfl, rfl⟩ ⟨Nat.le_of_ble_eq_true rfl, Nat.le_of_ble_eq_true rfl⟩ rfl rfl (Nat.le_of_ble_eq_true rfl) dX5_nextToken_203 ⟨Nat.le_of_ble_eq_true rfl, Nat.le_of_ble_eq_true rfl⟩ (fun r8 H locs hf hw => ?_)
      refine zw_if_eq (tgt := 311) hx hb hf dX5_nextToken_206 (by decide) (fun hf => ?_) (fun hf => ?_)
      · refine lv_aload_n hx hb dX5_nextToken_311 rfl (lv_at hl 1 rfl) ?_
        refine lv_iconst (v := (3 : Int32)) hx hb dX5_nextToken_312 (by decide) ?_
        refine zw_put X hw fs_X5_18 q1288 rfl rfl rfl rfl hf dX5_nextToken_313 (fun h9 H locs hf hw => ?_)
        refine lv_aload_n hx hb dX5_nextToken_316 rfl (lv_at hl 1 rfl) ?_
        refine lv_aload_n hx hb dX5_nextToken_317 rfl (lv_at hl 1 rfl) ?_
        refine zw_getR X hw fs_X5_14 q1284 rfl hf dX5_nextToken_318 (fun v10 hf => ?_)
        refine lv_aload_n hx hb dX5_nextToken_321 rfl (lv_at hl 1 rfl) ?_
        refine zw_getI X hw fs_X5_16 q1286 rfl hf dX5_nextToken_322 (fun v11 hf => ?_)
        refine zw_ialoadR X hw hf dX5_nextToken_325 (fun v12 hf => ?_)
        refine zw_put X hw fs_X5_20 q1290 rfl rfl rfl rfl hf dX5_nextToken_326 (fun h13 H locs hf hw => ?_)
        refine lv_aload_n hx hb dX5_nextToken_329 rfl (lv_at hl 1 rfl) ?_
        refine lv_dup hx hb dX5_nextToken_330 rfl ?_
        refine zw_getI X hw fs_X5_17 q1287 rfl hf dX5_nextToken_331 (fun v14 hf => ?_)
        refine lv_iconst (v := (1 : Int32)) hx hb dX5_nextToken_334 (by decide) ?_
        refine lv_iadd hx hb dX5_nextToken_335 ?_
        refine zw_put X hw fs_X5_17 q1287 rfl rfl rfl rfl hf dX5_nextToken_336 (fun h15 H locs hf hw => ?_)
        exact zw_vret X hw hf (Nat.le_of_ble_eq_true rfl) (Nat.le_of_ble_eq_true rfl) dX5_nextToken_339
      · refine lv_aload_n hx hb dX5_nextToken_209 rfl (lv_at hl 1 rfl) ?_
        refine lv_iconst (v := (0 : Int32)) hx hb dX5_nextToken_210 (by decide) ?_
        refine zw_put X hw fs_X5_19 q1289 rfl rfl rfl rfl hf dX5_nextToken_211 (fun h16 H locs hf hw => ?_)
        exact k_X5_nextToken_214 X _ 4096 h16 a0 s0 _ _ _ hf hw (lv_sub hl [1, 0] rfl)
    · exact k_X5_nextToken_128 X _ 4096 r6.2 a0 s0 _ _ _ hf hw (lv_sub hl [1, 0] rfl)
  · refine lv_aload_n hx hb dX5_nextToken_109 rfl (lv_at hl 1 rfl) ?_
    refine lv_iconst (v := (0 : Int32)) hx hb dX5_nextToken_110 (by decide) ?_
    refine zw_put X hw fs_X5_18 q1288 rfl rfl rfl rfl hf dX5_nextToken_111 (fun h17 H locs hf hw => ?_)
    refine lv_goto (tgt := 339) hx hb dX5_nextToken_114 (by decide) ?_
    exact zw_vret X hw hf (Nat.le_of_ble_eq_true rfl) (Nat.le_of_ble_eq_true rfl) dX5_nextToken_339
set_option maxHeartbeats 4000000 in
theorem k_X5_nextToken_72 {p : Program} {l : Launch} {e : Env} {s : State} {m : MethodId} {args : Array Value} {below : List Frame} {meth : Method} {c : Code} {D : va_G} {A : Nat → Prop} {E : State → Prop} (X : zCx p s m args meth c D A E cX5_nextToken 3 RX5 (Option.none : Option FieldType)) (res : zT) : ∀ (h : zT) (a0 : Nat) (i1 : Int32) (i2 : Int32) (H : Heap) (locs : List Loc) (ls : Array Slot), f_X5_nextToken_72 h a0 i1 i2 = some res → zWh D A s H h locs → lv_has ls 3 [(0, .ref a0), (1, .int i1), (2, .int i2)] → W p l e rm_X5_nextToken s m args below meth c H locs 0 0 (MQ below (zQW D A none res) args s 0 0 A) (F0 m 72 ls []) := by
  have hx := X.1.1
  have hb := X.1.2.1
  have hown := X.1.2.2.2.1
  have hts := X.1.2.2.2.2
  intro h a0 i1 i2 H locs ls hf hw hl
  unfold f_X5_nextToken_72 at hf
  refine lv_iload_n hx hb dX5_nextToken_72 rfl (lv_at hl 1 rfl) ?_
  refine zw_if_eq (tgt := 88) hx hb hf dX5_nextToken_73 (by decide) (fun hf => ?_) (fun hf => ?_)
  · refine lv_iconst (v := (0 : Int32)) hx hb dX5_nextToken_88 (by decide) ?_
    exact k_X5_nextToken_89 X _ h a0 (0 : Int32) _ _ _ hf hw (lv_sub hl [0] rfl)
  · refine lv_iload_n hx hb dX5_nextToken_76 rfl (lv_at hl 2 rfl) ?_
    refine lv_aload_n hx hb dX5_nextToken_77 rfl (lv_at hl 0 rfl) ?_
    refine zw_getI X hw fs_X5_17 q1287 rfl hf dX5_nextToken_78 (fun v1 hf => ?_)
    refine zw_icmp_ne (tgt := 88) hx hb hf dX5_nextToken_81 (by decide) (fun hf => ?_) (fun hf => ?_)
    · refine lv_iconst (v := (0 : Int32)) hx hb dX5_nextToken_88 (by decide) ?_
      exact k_X5_nextToken_89 X _ h a0 (0 : Int32) _ _ _ hf hw (lv_sub hl [0] rfl)
    · refine lv_iconst (v := (1 : Int32)) hx hb dX5_nextToken_84 (by decide) ?_
      refine lv_goto (tgt := 89) hx hb dX5_nextToken_85 (by decide) ?_
      exact k_X5_nextToken_89 X _ h a0 (1 : Int32) _ _ _ hf hw (lv_sub hl [0] rfl)
set_option maxHeartbeats 4000000 in
theorem k_X5_nextToken_34 {p : Program} {l : Launch} {e : Env} {s : State} {m : MethodId} {args : Array Value} {below : List Frame} {meth : Method} {c : Code} {D : va_G} {A : Nat → Prop} {E : State → Prop} (X : zCx p s m args meth c D A E cX5_nextToken 3 RX5 (Option.none : Option FieldType)) (res : zT) : ∀ (n : Nat), ∀ (h : zT) (a0 : Nat) (i1 : Int32) (i2 : Int32) (H : Heap) (locs : List Loc) (ls : Array Slot), f_X5_nextToken_34 n h a0 i1 i2 = some res → zWh D A s H h locs → lv_has ls 3 [(0, .ref a0), (1, .int i1), (2, .int i2)] → W p l e rm_X5_nextToken s m args below meth c H locs 0 0 (MQ below (zQW D A none res) args s 0 0 A) (F0 m 34 ls []) := by
  have hx := X.1.1
  have hb := X.1.2.1
  have hown := X.1.2.2.2.1
  have hts := X.1.2.2.2.2
  intro n
  induction n with
  | zero =>
    intro h a0 i1 i2 H locs ls hf hw hl
    cases hf
  | succ n ih =>
    intro h a0 i1 i2 H locs ls hf hw hl
    unfold f_X5_nextToken_34 at hf
    refine lv_aload_n hx hb dX5_nextToken_34 rfl (lv_at hl 0 rfl) ?_
    refine zw_getI X hw fs_X5_17 q1287 rfl hf dX5_nextToken_35 (fun v1 hf => ?_)
    refine lv_aload_n hx hb dX5_nextToken_38 rfl (lv_at hl 0 rfl) ?_
    refine zw_getI X hw fs_X5_15 q1285 rfl hf dX5_nextToken_39 (fun v2 hf => ?_)
    refine zw_icmp_ge (tgt := 72) hx hb hf dX5_nextToken_42 (by decide) (fun hf => ?_) (fun hf => ?_)
    · exact k_X5_nextToken_72 X _ h a0 i1 i2 _ _ _ hf hw (lv_sub hl [0, 1, 2] rfl)
    · refine lv_aload_n hx hb dX5_nextToken_45 rfl (lv_at hl 0 rfl) ?_
      refine zw_getR X hw fs_X5_14 q1284 rfl hf dX5_nextToken_46 (fun v3 hf => ?_)
      refine lv_aload_n hx hb dX5_nextToken_49 rfl (lv_at hl 0 rfl) ?_
      refine zw_getI X hw fs_X5_17 q1287 rfl hf dX5_nextToken_50 (fun v4 hf => ?_)
      refine zw_ialoadR X hw hf dX5_nextToken_53 (fun v5 hf => ?_)
      refine lv_bipush (v := (32 : Int32)) hx hb dX5_nextToken_54 (by decide) ?_
      refine zw_icmp_ne (tgt := 72) hx hb hf dX5_nextToken_56 (by decide) (fun hf => ?_) (fun hf => ?_)
      · exact k_X5_nextToken_72 X _ h a0 i1 i2 _ _ _ hf hw (lv_sub hl [0, 1, 2] rfl)
      · refine lv_aload_n hx hb dX5_nextToken_59 rfl (lv_at hl 0 rfl) ?_
        refine lv_dup hx hb dX5_nextToken_60 rfl ?_
        refine zw_getI X hw fs_X5_17 q1287 rfl hf dX5_nextToken_61 (fun v6 hf => ?_)
        refine lv_iconst (v := (1 : Int32)) hx hb dX5_nextToken_64 (by decide) ?_
        refine lv_iadd hx hb dX5_nextToken_65 ?_
        refine zw_put X hw fs_X5_17 q1287 rfl rfl rfl rfl hf dX5_nextToken_66 (fun h7 H locs hf hw => ?_)
        refine lv_goto (tgt := 34) hx hb dX5_nextToken_69 (by decide) ?_
        exact ih h7 a0 i1 i2 _ _ _ hf hw (lv_sub hl [0, 1, 2] rfl)
set_option maxHeartbeats 4000000 in
theorem mt_X5_nextToken (l : Launch) (D : va_G) (A : Nat → Prop) (E : State → Prop) (hE : zEok A E) (h : zT) (a0 : Nat) (res : zT) (hf : f_X5_nextToken h a0 = some res) : Met l yX5_nextToken (ws_ yX5_nextToken cX5_nextToken 3 (Option.none : Option FieldType)) rm_X5_nextToken (zPW D A E h [.ref a0]) (zQW D A none res) 0 0 A := by
  refine zmt hE (by decide) (Nat.le_of_ble_eq_true rfl) ?_
  intro p e s m below meth c ls hmn X hw hl
  have hl : lv_has ls 3 [(0, .ref a0)] := hl
  have hx := X.1.1
  have hb := X.1.2.1
  have hown := X.1.2.2.2.1
  have hts := X.1.2.2.2.2
  unfold f_X5_nextToken at hf
  refine lv_aload_n hx hb dX5_nextToken_0 rfl (lv_at hl 0 rfl) ?_
  refine zw_getI X hw fs_X5_17 q1287 rfl hf dX5_nextToken_1 (fun v1 hf => ?_)
  refine zw_if_le (tgt := 27) hx hb hf dX5_nextToken_4 (by decide) (fun hf => ?_) (fun hf => ?_)
  · refine lv_iconst (v := (0 : Int32)) hx hb dX5_nextToken_27 (by decide) ?_
    refine lv_istore_n (lv' := [(1, .int (0 : Int32)), (0, .ref a0)]) hx hb dX5_nextToken_28 rfl hl (by decide) rfl (fun ls hl => ?_)
    refine lv_aload_n hx hb dX5_nextToken_29 rfl (lv_at hl 1 rfl) ?_
    refine zw_getI X hw fs_X5_17 q1287 rfl hf dX5_nextToken_30 (fun v2 hf => ?_)
    refine lv_istore_n (lv' := [(2, .int v2), (1, .int (0 : Int32)), (0, .ref a0)]) hx hb dX5_nextToken_33 rfl hl (by decide) rfl (fun ls hl => ?_)
    exact k_X5_nextToken_34 X _ 4096 h a0 (0 : Int32) v2 _ _ _ hf hw (lv_sub hl [2, 1, 0] rfl)
  · refine lv_aload_n hx hb dX5_nextToken_7 rfl (lv_at hl 0 rfl) ?_
    refine zw_getI X hw fs_X5_18 q1288 rfl hf dX5_nextToken_8 (fun v3 hf => ?_)
    refine lv_iconst (v := (1 : Int32)) hx hb dX5_nextToken_11 (by decide) ?_
    refine zw_icmp_eq (tgt := 23) hx hb hf dX5_nextToken_12 (by decide) (fun hf => ?_) (fun hf => ?_)
    · refine lv_iconst (v := (1 : Int32)) hx hb dX5_nextToken_23 (by decide) ?_
      refine lv_goto (tgt := 28) hx hb dX5_nextToken_24 (by decide) ?_
      refine lv_istore_n (lv' := [(1, .int (1 : Int32)), (0, .ref a0)]) hx hb dX5_nextToken_28 rfl hl (by decide) rfl (fun ls hl => ?_)
      refine lv_aload_n hx hb dX5_nextToken_29 rfl (lv_at hl 1 rfl) ?_
      refine zw_getI X hw fs_X5_17 q1287 rfl hf dX5_nextToken_30 (fun v4 hf => ?_)
      refine lv_istore_n (lv' := [(2, .int v4), (1, .int (1 : Int32)), (0, .ref a0)]) hx hb dX5_nextToken_33 rfl hl (by decide) rfl (fun ls hl => ?_)
      exact k_X5_nextToken_34 X _ 4096 h a0 (1 : Int32) v4 _ _ _ hf hw (lv_sub hl [2, 1, 0] rfl)
    · refine lv_aload_n hx hb dX5_nextToken_15 rfl (lv_at hl 0 rfl) ?_
      refine zw_getI X hw fs_X5_18 q1288 rfl hf dX5_nextToken_16 (fun v5 hf => ?_)
      refine lv_iconst (v := (2 : Int32)) hx hb dX5_nextToken_19 (by decide) ?_
      refine zw_icmp_ne (tgt := 27) hx hb hf dX5_nextToken_20 (by decide) (fun hf => ?_) (fun hf => ?_)
      · refine lv_iconst (v := (0 : Int32)) hx hb dX5_nextToken_27 (by decide) ?_
        refine lv_istore_n (lv' := [(1, .int (0 : Int32)), (0, .ref a0)]) hx hb dX5_nextToken_28 rfl hl (by decide) rfl (fun ls hl => ?_)
        refine lv_aload_n hx hb dX5_nextToken_29 rfl (lv_at hl 1 rfl) ?_
        refine zw_getI X hw fs_X5_17 q1287 rfl hf dX5_nextToken_30 (fun v6 hf => ?_)
        refine lv_istore_n (lv' := [(2, .int v6), (1, .int (0 : Int32)), (0, .ref a0)]) hx hb dX5_nextToken_33 rfl hl (by decide) rfl (fun ls hl => ?_)
        exact k_X5_nextToken_34 X _ 4096 h a0 (0 : Int32) v6 _ _ _ hf hw (lv_sub hl [2, 1, 0] rfl)
      · refine lv_iconst (v := (1 : Int32)) hx hb dX5_nextToken_23 (by decide) ?_
        refine lv_goto (tgt := 28) hx hb dX5_nextToken_24 (by decide) ?_
        refine lv_istore_n (lv' := [(1, .int (1 : Int32)), (0, .ref a0)]) hx hb dX5_nextToken_28 rfl hl (by decide) rfl (fun ls hl => ?_)
        refine lv_aload_n hx hb dX5_nextToken_29 rfl (lv_at hl 1 rfl) ?_
        refine zw_getI X hw fs_X5_17 q1287 rfl hf dX5_nextToken_30 (fun v7 hf => ?_)
        refine lv_istore_n (lv' := [(2, .int v7), (1, .int (1 : Int32)), (0, .ref a0)]) hx hb dX5_nextToken_33 rfl hl (by decide) rfl (fun ls hl => ?_)
        exact k_X5_nextToken_34 X _ 4096 h a0 (1 : Int32) v7 _ _ _ hf hw (lv_sub hl [2, 1, 0] rfl)
set_option maxHeartbeats 4000000 in
theorem mt_X5_step (l : Launch) (D : va_G) (A : Nat → Prop) (E : State → Prop) (hE : zEok A E) (h : zT) (a0 : Nat) (i1 : Int32) (i2 : Int32) (res : zT) (hf : f_X5_step h a0 i1 i2 = some res) : Met l yX5_step (ws_ yX5_step cX5_step 3 (Option.none : Option FieldType)) rm_X5_step (zPW D A E h [.ref a0, .int i1, .int i2]) (zQW D A none res) 0 0 A := by
  refine zmt hE (by decide) (Nat.le_of_ble_eq_true rfl) ?_
  intro p e s m below meth c ls hmn X hw hl
  have hl : lv_has ls 3 [(0, .ref a0), (1, .int i1), (2, .int i2)] := hl
  have hx := X.1.1
  have hb := X.1.2.1
  have hown := X.1.2.2.2.1
  have hts := X.1.2.2.2.2
  unfold f_X5_step at hf
  refine lv_aload_n hx hb dX5_step_0 rfl (lv_at hl 0 rfl) ?_
  refine zw_getR X hw fs_X5_0 q1270 rfl hf dX5_step_1 (fun v1 hf => ?_)
  refine lv_aload_n hx hb dX5_step_4 rfl (lv_at hl 0 rfl) ?_
  refine zw_getI X hw fs_X5_24 q1294 rfl hf dX5_step_5 (fun v2 hf => ?_)
  refine lv_iconst (v := (2 : Int32)) hx hb dX5_step_8 (by decide) ?_
  refine lv_aload_n hx hb dX5_step_9 rfl (lv_at hl 0 rfl) ?_
  refine zw_getI X hw fs_X5_23 q1293 rfl hf dX5_step_10 (fun v3 hf => ?_)
  refine lv_imul hx hb dX5_step_13 ?_
  refine lv_iadd hx hb dX5_step_14 ?_
  refine lv_iload_n hx hb dX5_step_15 rfl (lv_at hl 1 rfl) ?_
  refine zw_iastore X hw hf dX5_step_16 (fun h4 H locs hf hw => ?_)
  refine lv_aload_n hx hb dX5_step_17 rfl (lv_at hl 0 rfl) ?_
  refine zw_getR X hw fs_X5_0 q1270 rfl hf dX5_step_18 (fun v5 hf => ?_)
  refine lv_aload_n hx hb dX5_step_21 rfl (lv_at hl 0 rfl) ?_
  refine zw_getI X hw fs_X5_24 q1294 rfl hf dX5_step_22 (fun v6 hf => ?_)
  refine lv_iconst (v := (2 : Int32)) hx hb dX5_step_25 (by decide) ?_
  refine lv_aload_n hx hb dX5_step_26 rfl (lv_at hl 0 rfl) ?_
  refine zw_getI X hw fs_X5_23 q1293 rfl hf dX5_step_27 (fun v7 hf => ?_)
  refine lv_imul hx hb dX5_step_30 ?_
  refine lv_iadd hx hb dX5_step_31 ?_
  refine lv_iconst (v := (1 : Int32)) hx hb dX5_step_32 (by decide) ?_
  refine lv_iadd hx hb dX5_step_33 ?_
  refine lv_iload_n hx hb dX5_step_34 rfl (lv_at hl 2 rfl) ?_
  refine zw_iastore X hw hf dX5_step_35 (fun h8 H locs hf hw => ?_)
  refine lv_aload_n hx hb dX5_step_36 rfl (lv_at hl 0 rfl) ?_
  refine lv_dup hx hb dX5_step_37 rfl ?_
  refine zw_getI X hw fs_X5_23 q1293 rfl hf dX5_step_38 (fun v9 hf => ?_)
  refine lv_iconst (v := (1 : Int32)) hx hb dX5_step_41 (by decide) ?_
  refine lv_iadd hx hb dX5_step_42 ?_
  refine zw_put X hw fs_X5_23 q1293 rfl rfl rfl rfl hf dX5_step_43 (fun h10 H locs hf hw => ?_)
  exact zw_vret X hw hf (Nat.le_of_ble_eq_true rfl) (Nat.le_of_ble_eq_true rfl) dX5_step_46
set_option maxHeartbeats 4000000 in
theorem k_X5_term_28 {p : Program} {l : Launch} {e : Env} {s : State} {m : MethodId} {args : Array Value} {below : List Frame} {meth : Method} {c : Code} {D : va_G} {A : Nat → Prop} {E : State → Prop} (X : zCx p s m args meth c D A E cX5_term 3 RX5 (Option.some FieldType.boolean)) (P : zT → Nat → Int32 → Option (Int32 × zT)) (d : Nat) (hP : ∀ (h : zT) (a0 : Nat) (i1 : Int32) (res : Int32 × zT), P h a0 i1 = some res → Met l yX5_part0 (ws_ yX5_part0 cX5_part0 2 (Option.some FieldType.boolean)) (rm_X5_part0 d) (zPW D A E h [.ref a0, .int i1]) (zQW D A (some (.int res.1)) res.2) 0 0 A) (res : Int32 × zT) (K10 : zT → Nat → Int32 → Option (Int32 × zT)) (hK10 : ∀ (h : zT) (a0 : Nat) (i1 : Int32) (H : Heap) (locs : List Loc) (ls : Array Slot), K10 h a0 i1 = some res → zWh D A s H h locs → lv_has ls 3 [(0, .ref a0), (1, .int i1)] → W p l e (rm_X5_term d) s m args below meth c H locs 0 0 (MQ below (zQW D A (some (.int res.1)) res.2) args s 0 0 A) (F0 m 10 ls [])) : ∀ (h : zT) (a0 : Nat) (i1 : Int32) (H : Heap) (locs : List Loc) (ls : Array Slot), f_X5_term_28 P K10 h a0 i1 = some res → zWh D A s H h locs → lv_has ls 3 [(0, .ref a0), (1, .int i1)] → W p l e (rm_X5_term d) s m args below meth c H locs 0 0 (MQ below (zQW D A (some (.int res.1)) res.2) args s 0 0 A) (F0 m 28 ls []) := by
  have hx := X.1.1
  have hb := X.1.2.1
  have hown := X.1.2.2.2.1
  have hts := X.1.2.2.2.2
  intro h a0 i1 H locs ls hf hw hl
  unfold f_X5_term_28 at hf
  refine lv_aload_n hx hb dX5_term_28 rfl (lv_at hl 0 rfl) ?_
  refine zw_getI X hw fs_X5_20 q1290 rfl hf dX5_term_29 (fun v1 hf => ?_)
  refine lv_istore_n (lv' := [(2, .int v1), (0, .ref a0), (1, .int i1)]) hx hb dX5_term_32 rfl hl (by decide) rfl (fun ls hl => ?_)
  refine lv_aload_n hx hb dX5_term_33 rfl (lv_at hl 1 rfl) ?_
  refine zw_cVV (rest := []) [] X hw hl.1 hf rfl rfl (fun r hr => mt_X5_nextToken l D A E X.2.2.2.2.2.1 h a0 r hr) (lw_V q1634 q1636 qs65 q89 q1637) cd_X5_nextToken ⟨rfl, rfl⟩ ⟨by dsimp only; omega, by dsimp only; omega⟩ rfl rfl (Nat.le_of_ble_eq_true rfl) dX5_term_34 ⟨Nat.le_of_ble_eq_true rfl, Nat.le_of_ble_eq_true rfl⟩ (fun r2 H locs hf hw => ?_)
  refine lv_aload_n hx hb dX5_term_37 rfl (lv_at hl 1 rfl) ?_
  refine lv_iload_n hx hb dX5_term_38 rfl (lv_at hl 2 rfl) ?_
  refine zw_cVZ (rest := []) [.int i1] X hw hl.1 hf rfl rfl (fun r hr => hP r2 a0 i1 r hr) (lw_V q1678 q1680 qs75 q89 q1681) cd_X5_part0 ⟨rfl, rfl⟩ ⟨by dsimp only; omega, by dsimp only; omega⟩ rfl rfl (Nat.le_of_ble_eq_true rfl) dX5_term_39 ⟨Nat.le_of_ble_eq_true rfl, Nat.le_of_ble_eq_true rfl⟩ (fun r3 H locs hf hw => ?_)
  refine zw_if_ne (tgt := 47) hx hb hf dX5_term_42 (by decide) (fun hf => ?_) (fun hf => ?_)
  · refine lv_aload_n hx hb dX5_term_47 rfl (lv_at hl 1 rfl) ?_
    refine lv_iconst (v := (2 : Int32)) hx hb dX5_term_48 (by decide) ?_
    refine lv_iload_n hx hb dX5_term_49 rfl (lv_at hl 0 rfl) ?_
    refine zw_cVV (rest := []) [.int (2 : Int32), .int v1] X hw hl.1 hf rfl rfl (fun r hr => mt_X5_step l D A E X.2.2.2.2.2.1 r3.2 a0 (2 : Int32) v1 r hr) (lw_V q1682 q1684 qs76 q89 q1685) cd_X5_step ⟨rfl, rfl⟩ ⟨by dsimp only; omega, by dsimp only; omega⟩ rfl rfl (Nat.le_of_ble_eq_true rfl) dX5_term_50 ⟨Nat.le_of_ble_eq_true rfl, Nat.le_of_ble_eq_true rfl⟩ (fun r4 H locs hf hw => ?_)
    refine lv_goto (tgt := 10) hx hb dX5_term_53 (by decide) ?_
    exact hK10 r4 a0 i1 _ _ _ hf hw (lv_sub hl [1, 2] rfl)
  · refine lv_iconst (v := (0 : Int32)) hx hb dX5_term_45 (by decide) ?_
    exact zw_zret X hw hf (Nat.le_of_ble_eq_true rfl) (Nat.le_of_ble_eq_true rfl) dX5_term_46
set_option maxHeartbeats 4000000 in
theorem k_X5_term_10 {p : Program} {l : Launch} {e : Env} {s : State} {m : MethodId} {args : Array Value} {below : List Frame} {meth : Method} {c : Code} {D : va_G} {A : Nat → Prop} {E : State → Prop} (X : zCx p s m args meth c D A E cX5_term 3 RX5 (Option.some FieldType.boolean)) (P : zT → Nat → Int32 → Option (Int32 × zT)) (d : Nat) (hP : ∀ (h : zT) (a0 : Nat) (i1 : Int32) (res : Int32 × zT), P h a0 i1 = some res → Met l yX5_part0 (ws_ yX5_part0 cX5_part0 2 (Option.some FieldType.boolean)) (rm_X5_part0 d) (zPW D A E h [.ref a0, .int i1]) (zQW D A (some (.int res.1)) res.2) 0 0 A) (res : Int32 × zT) : ∀ (n : Nat), ∀ (h : zT) (a0 : Nat) (i1 : Int32) (H : Heap) (locs : List Loc) (ls : Array Slot), f_X5_term_10 P n h a0 i1 = some res → zWh D A s H h locs → lv_has ls 3 [(0, .ref a0), (1, .int i1)] → W p l e (rm_X5_term d) s m args below meth c H locs 0 0 (MQ below (zQW D A (some (.int res.1)) res.2) args s 0 0 A) (F0 m 10 ls []) := by
  have hx := X.1.1
  have hb := X.1.2.1
  have hown := X.1.2.2.2.1
  have hts := X.1.2.2.2.2
  intro n
  induction n with
  | zero =>
    intro h a0 i1 H locs ls hf hw hl
    cases hf
  | succ n ih =>
    intro h a0 i1 H locs ls hf hw hl
    unfold f_X5_term_10 at hf
    refine lv_aload_n hx hb dX5_term_10 rfl (lv_at hl 0 rfl) ?_
    refine lv_bipush (v := (42 : Int32)) hx hb dX5_term_11 (by decide) ?_
    refine zw_cVZ (rest := []) [.int (42 : Int32)] X hw hl.1 hf rfl rfl (fun r hr => mt_X5_isSign l D A E X.2.2.2.2.2.1 h a0 (42 : Int32) r hr) (lw_V q1689 q1691 qs77 q89 q1692) cd_X5_isSign ⟨rfl, rfl⟩ ⟨by dsimp only; omega, by dsimp only; omega⟩ rfl rfl (Nat.le_of_ble_eq_true rfl) dX5_term_13 ⟨Nat.le_of_ble_eq_true rfl, Nat.le_of_ble_eq_true rfl⟩ (fun r1 H locs hf hw => ?_)
    refine zw_if_ne (tgt := 28) hx hb hf dX5_term_16 (by decide) (fun hf => ?_) (fun hf => ?_)
    · exact k_X5_term_28 X P d hP _ (f_X5_term_10 P n) ih r1.2 a0 i1 _ _ _ hf hw (lv_sub hl [0, 1] rfl)
    · refine lv_aload_n hx hb dX5_term_19 rfl (lv_at hl 0 rfl) ?_
      refine lv_bipush (v := (47 : Int32)) hx hb dX5_term_20 (by decide) ?_
      refine zw_cVZ (rest := []) [.int (47 : Int32)] X hw hl.1 hf rfl rfl (fun r hr => mt_X5_isSign l D A E X.2.2.2.2.2.1 r1.2 a0 (47 : Int32) r hr) (lw_V q1689 q1691 qs77 q89 q1692) cd_X5_isSign ⟨rfl, rfl⟩ ⟨by dsimp only; omega, by dsimp only; omega⟩ rfl rfl (Nat.le_of_ble_eq_true rfl) dX5_term_22 ⟨Nat.le_of_ble_eq_true rfl, Nat.le_of_ble_eq_true rfl⟩ (fun r2 H locs hf hw => ?_)
      refine zw_if_eq (tgt := 56) hx hb hf dX5_term_25 (by decide) (fun hf => ?_) (fun hf => ?_)
      · refine lv_iconst (v := (1 : Int32)) hx hb dX5_term_56 (by decide) ?_
        exact zw_zret X hw hf (Nat.le_of_ble_eq_true rfl) (Nat.le_of_ble_eq_true rfl) dX5_term_57
      · exact k_X5_term_28 X P d hP _ (f_X5_term_10 P n) ih r2.2 a0 i1 _ _ _ hf hw (lv_sub hl [0, 1] rfl)
set_option maxHeartbeats 4000000 in
theorem mt_X5_term (l : Launch) (D : va_G) (A : Nat → Prop) (E : State → Prop) (hE : zEok A E) (P : zT → Nat → Int32 → Option (Int32 × zT)) (d : Nat) (hP : ∀ (h : zT) (a0 : Nat) (i1 : Int32) (res : Int32 × zT), P h a0 i1 = some res → Met l yX5_part0 (ws_ yX5_part0 cX5_part0 2 (Option.some FieldType.boolean)) (rm_X5_part0 d) (zPW D A E h [.ref a0, .int i1]) (zQW D A (some (.int res.1)) res.2) 0 0 A) (h : zT) (a0 : Nat) (i1 : Int32) (res : Int32 × zT) (hf : f_X5_term P h a0 i1 = some res) : Met l yX5_term (ws_ yX5_term cX5_term 3 (Option.some FieldType.boolean)) (rm_X5_term d) (zPW D A E h [.ref a0, .int i1]) (zQW D A (some (.int res.1)) res.2) 0 0 A := by
  refine zmt hE (by decide) (Nat.le_of_ble_eq_true rfl) ?_
  intro p e s m below meth c ls hmn X hw hl
  have hl : lv_has ls 3 [(0, .ref a0), (1, .int i1)] := hl
  have hx := X.1.1
  have hb := X.1.2.1
  have hown := X.1.2.2.2.1
  have hts := X.1.2.2.2.2
  unfold f_X5_term at hf
  refine lv_aload_n hx hb dX5_term_0 rfl (lv_at hl 0 rfl) ?_
  refine lv_iload_n hx hb dX5_term_1 rfl (lv_at hl 1 rfl) ?_
  refine zw_cVZ (rest := []) [.int i1] X hw hl.1 hf rfl rfl (fun r hr => hP h a0 i1 r hr) (lw_V q1678 q1680 qs75 q89 q1681) cd_X5_part0 ⟨rfl, rfl⟩ ⟨by dsimp only; omega, by dsimp only; omega⟩ rfl rfl (Nat.le_of_ble_eq_true rfl) dX5_term_2 ⟨Nat.le_of_ble_eq_true rfl, Nat.le_of_ble_eq_true rfl⟩ (fun r1 H locs hf hw => ?_)
  refine zw_if_ne (tgt := 10) hx hb hf dX5_term_5 (by decide) (fun hf => ?_) (fun hf => ?_)
  · exact k_X5_term_10 X P d hP _ 4096 r1.2 a0 i1 _ _ _ hf hw (lv_sub hl [0, 1] rfl)
  · refine lv_iconst (v := (0 : Int32)) hx hb dX5_term_8 (by decide) ?_
    exact zw_zret X hw hf (Nat.le_of_ble_eq_true rfl) (Nat.le_of_ble_eq_true rfl) dX5_term_9
set_option maxHeartbeats 4000000 in
theorem k_X5_sum_28 {p : Program} {l : Launch} {e : Env} {s : State} {m : MethodId} {args : Array Value} {below : List Frame} {meth : Method} {c : Code} {D : va_G} {A : Nat → Prop} {E : State → Prop} (X : zCx p s m args meth c D A E cX5_sum 3 RX5 (Option.some FieldType.boolean)) (P : zT → Nat → Int32 → Option (Int32 × zT)) (d : Nat) (hP : ∀ (h : zT) (a0 : Nat) (i1 : Int32) (res : Int32 × zT), P h a0 i1 = some res → Met l yX5_part0 (ws_ yX5_part0 cX5_part0 2 (Option.some FieldType.boolean)) (rm_X5_part0 d) (zPW D A E h [.ref a0, .int i1]) (zQW D A (some (.int res.1)) res.2) 0 0 A) (res : Int32 × zT) (K10 : zT → Nat → Int32 → Option (Int32 × zT)) (hK10 : ∀ (h : zT) (a0 : Nat) (i1 : Int32) (H : Heap) (locs : List Loc) (ls : Array Slot), K10 h a0 i1 = some res → zWh D A s H h locs → lv_has ls 3 [(0, .ref a0), (1, .int i1)] → W p l e (rm_X5_sum d) s m args below meth c H locs 0 0 (MQ below (zQW D A (some (.int res.1)) res.2) args s 0 0 A) (F0 m 10 ls [])) : ∀ (h : zT) (a0 : Nat) (i1 : Int32) (H : Heap) (locs : List Loc) (ls : Array Slot), f_X5_sum_28 P K10 h a0 i1 = some res → zWh D A s H h locs → lv_has ls 3 [(0, .ref a0), (1, .int i1)] → W p l e (rm_X5_sum d) s m args below meth c H locs 0 0 (MQ below (zQW D A (some (.int res.1)) res.2) args s 0 0 A) (F0 m 28 ls []) := by
  have hx := X.1.1
  have hb := X.1.2.1
  have hown := X.1.2.2.2.1
  have hts := X.1.2.2.2.2
  intro h a0 i1 H locs ls hf hw hl
  unfold f_X5_sum_28 at hf
  refine lv_aload_n hx hb dX5_sum_28 rfl (lv_at hl 0 rfl) ?_
  refine zw_getI X hw fs_X5_20 q1290 rfl hf dX5_sum_29 (fun v1 hf => ?_)
  refine lv_istore_n (lv' := [(2, .int v1), (0, .ref a0), (1, .int i1)]) hx hb dX5_sum_32 rfl hl (by decide) rfl (fun ls hl => ?_)
  refine lv_aload_n hx hb dX5_sum_33 rfl (lv_at hl 1 rfl) ?_
  refine zw_cVV (rest := []) [] X hw hl.1 hf rfl rfl (fun r hr => mt_X5_nextToken l D A E X.2.2.2.2.2.1 h a0 r hr) (lw_V q1634 q1636 qs65 q89 q1637) cd_X5_nextToken ⟨rfl, rfl⟩ ⟨by dsimp only; omega, by dsimp only; omega⟩ rfl rfl (Nat.le_of_ble_eq_true rfl) dX5_sum_34 ⟨Nat.le_of_ble_eq_true rfl, Nat.le_of_ble_eq_true rfl⟩ (fun r2 H locs hf hw => ?_)
  refine lv_aload_n hx hb dX5_sum_37 rfl (lv_at hl 1 rfl) ?_
  refine lv_iload_n hx hb dX5_sum_38 rfl (lv_at hl 2 rfl) ?_
  refine zw_cVZ (rest := []) [.int i1] X hw hl.1 hf rfl rfl (fun r hr => mt_X5_term l D A E X.2.2.2.2.2.1 P d hP r2 a0 i1 r hr) (lw_V q1674 q1676 qs74 q89 q1677) cd_X5_term ⟨rfl, rfl⟩ ⟨by dsimp only; omega, by dsimp only; omega⟩ rfl rfl (Nat.le_of_ble_eq_true rfl) dX5_sum_39 ⟨Nat.le_of_ble_eq_true rfl, Nat.le_of_ble_eq_true rfl⟩ (fun r3 H locs hf hw => ?_)
  refine zw_if_ne (tgt := 47) hx hb hf dX5_sum_42 (by decide) (fun hf => ?_) (fun hf => ?_)
  · refine lv_aload_n hx hb dX5_sum_47 rfl (lv_at hl 1 rfl) ?_
    refine lv_iconst (v := (2 : Int32)) hx hb dX5_sum_48 (by decide) ?_
    refine lv_iload_n hx hb dX5_sum_49 rfl (lv_at hl 0 rfl) ?_
    refine zw_cVV (rest := []) [.int (2 : Int32), .int v1] X hw hl.1 hf rfl rfl (fun r hr => mt_X5_step l D A E X.2.2.2.2.2.1 r3.2 a0 (2 : Int32) v1 r hr) (lw_V q1682 q1684 qs76 q89 q1685) cd_X5_step ⟨rfl, rfl⟩ ⟨by dsimp only; omega, by dsimp only; omega⟩ rfl rfl (Nat.le_of_ble_eq_true rfl) dX5_sum_50 ⟨Nat.le_of_ble_eq_true rfl, Nat.le_of_ble_eq_true rfl⟩ (fun r4 H locs hf hw => ?_)
    refine lv_goto (tgt := 10) hx hb dX5_sum_53 (by decide) ?_
    exact hK10 r4 a0 i1 _ _ _ hf hw (lv_sub hl [1, 2] rfl)
  · refine lv_iconst (v := (0 : Int32)) hx hb dX5_sum_45 (by decide) ?_
    exact zw_zret X hw hf (Nat.le_of_ble_eq_true rfl) (Nat.le_of_ble_eq_true rfl) dX5_sum_46
set_option maxHeartbeats 4000000 in
theorem k_X5_sum_10 {p : Program} {l : Launch} {e : Env} {s : State} {m : MethodId} {args : Array Value} {below : List Frame} {meth : Method} {c : Code} {D : va_G} {A : Nat → Prop} {E : State → Prop} (X : zCx p s m args meth c D A E cX5_sum 3 RX5 (Option.some FieldType.boolean)) (P : zT → Nat → Int32 → Option (Int32 × zT)) (d : Nat) (hP : ∀ (h : zT) (a0 : Nat) (i1 : Int32) (res : Int32 × zT), P h a0 i1 = some res → Met l yX5_part0 (ws_ yX5_part0 cX5_part0 2 (Option.some FieldType.boolean)) (rm_X5_part0 d) (zPW D A E h [.ref a0, .int i1]) (zQW D A (some (.int res.1)) res.2) 0 0 A) (res : Int32 × zT) : ∀ (n : Nat), ∀ (h : zT) (a0 : Nat) (i1 : Int32) (H : Heap) (locs : List Loc) (ls : Array Slot), f_X5_sum_10 P n h a0 i1 = some res → zWh D A s H h locs → lv_has ls 3 [(0, .ref a0), (1, .int i1)] → W p l e (rm_X5_sum d) s m args below meth c H locs 0 0 (MQ below (zQW D A (some (.int res.1)) res.2) args s 0 0 A) (F0 m 10 ls []) := by
  have hx := X.1.1
  have hb := X.1.2.1
  have hown := X.1.2.2.2.1
  have hts := X.1.2.2.2.2
  intro n
  induction n with
  | zero =>
    intro h a0 i1 H locs ls hf hw hl
    cases hf
  | succ n ih =>
    intro h a0 i1 H locs ls hf hw hl
    unfold f_X5_sum_10 at hf
    refine lv_aload_n hx hb dX5_sum_10 rfl (lv_at hl 0 rfl) ?_
    refine lv_bipush (v := (43 : Int32)) hx hb dX5_sum_11 (by decide) ?_
    refine zw_cVZ (rest := []) [.int (43 : Int32)] X hw hl.1 hf rfl rfl (fun r hr => mt_X5_isSign l D A E X.2.2.2.2.2.1 h a0 (43 : Int32) r hr) (lw_V q1689 q1691 qs77 q89 q1692) cd_X5_isSign ⟨rfl, rfl⟩ ⟨by dsimp only; omega, by dsimp only; omega⟩ rfl rfl (Nat.le_of_ble_eq_true rfl) dX5_sum_13 ⟨Nat.le_of_ble_eq_true rfl, Nat.le_of_ble_eq_true rfl⟩ (fun r1 H locs hf hw => ?_)
    refine zw_if_ne (tgt := 28) hx hb hf dX5_sum_16 (by decide) (fun hf => ?_) (fun hf => ?_)
    · exact k_X5_sum_28 X P d hP _ (f_X5_sum_10 P n) ih r1.2 a0 i1 _ _ _ hf hw (lv_sub hl [0, 1] rfl)
    · refine lv_aload_n hx hb dX5_sum_19 rfl (lv_at hl 0 rfl) ?_
      refine lv_bipush (v := (45 : Int32)) hx hb dX5_sum_20 (by decide) ?_
      refine zw_cVZ (rest := []) [.int (45 : Int32)] X hw hl.1 hf rfl rfl (fun r hr => mt_X5_isSign l D A E X.2.2.2.2.2.1 r1.2 a0 (45 : Int32) r hr) (lw_V q1689 q1691 qs77 q89 q1692) cd_X5_isSign ⟨rfl, rfl⟩ ⟨by dsimp only; omega, by dsimp only; omega⟩ rfl rfl (Nat.le_of_ble_eq_true rfl) dX5_sum_22 ⟨Nat.le_of_ble_eq_true rfl, Nat.le_of_ble_eq_true rfl⟩ (fun r2 H locs hf hw => ?_)
      refine zw_if_eq (tgt := 56) hx hb hf dX5_sum_25 (by decide) (fun hf => ?_) (fun hf => ?_)
      · refine lv_iconst (v := (1 : Int32)) hx hb dX5_sum_56 (by decide) ?_
        exact zw_zret X hw hf (Nat.le_of_ble_eq_true rfl) (Nat.le_of_ble_eq_true rfl) dX5_sum_57
      · exact k_X5_sum_28 X P d hP _ (f_X5_sum_10 P n) ih r2.2 a0 i1 _ _ _ hf hw (lv_sub hl [0, 1] rfl)
set_option maxHeartbeats 4000000 in
theorem mt_X5_sum (l : Launch) (D : va_G) (A : Nat → Prop) (E : State → Prop) (hE : zEok A E) (P : zT → Nat → Int32 → Option (Int32 × zT)) (d : Nat) (hP : ∀ (h : zT) (a0 : Nat) (i1 : Int32) (res : Int32 × zT), P h a0 i1 = some res → Met l yX5_part0 (ws_ yX5_part0 cX5_part0 2 (Option.some FieldType.boolean)) (rm_X5_part0 d) (zPW D A E h [.ref a0, .int i1]) (zQW D A (some (.int res.1)) res.2) 0 0 A) (h : zT) (a0 : Nat) (i1 : Int32) (res : Int32 × zT) (hf : f_X5_sum P h a0 i1 = some res) : Met l yX5_sum (ws_ yX5_sum cX5_sum 3 (Option.some FieldType.boolean)) (rm_X5_sum d) (zPW D A E h [.ref a0, .int i1]) (zQW D A (some (.int res.1)) res.2) 0 0 A := by
  refine zmt hE (by decide) (Nat.le_of_ble_eq_true rfl) ?_
  intro p e s m below meth c ls hmn X hw hl
  have hl : lv_has ls 3 [(0, .ref a0), (1, .int i1)] := hl
  have hx := X.1.1
  have hb := X.1.2.1
  have hown := X.1.2.2.2.1
  have hts := X.1.2.2.2.2
  unfold f_X5_sum at hf
  refine lv_aload_n hx hb dX5_sum_0 rfl (lv_at hl 0 rfl) ?_
  refine lv_iload_n hx hb dX5_sum_1 rfl (lv_at hl 1 rfl) ?_
  refine zw_cVZ (rest := []) [.int i1] X hw hl.1 hf rfl rfl (fun r hr => mt_X5_term l D A E X.2.2.2.2.2.1 P d hP h a0 i1 r hr) (lw_V q1674 q1676 qs74 q89 q1677) cd_X5_term ⟨rfl, rfl⟩ ⟨by dsimp only; omega, by dsimp only; omega⟩ rfl rfl (Nat.le_of_ble_eq_true rfl) dX5_sum_2 ⟨Nat.le_of_ble_eq_true rfl, Nat.le_of_ble_eq_true rfl⟩ (fun r1 H locs hf hw => ?_)
  refine zw_if_ne (tgt := 10) hx hb hf dX5_sum_5 (by decide) (fun hf => ?_) (fun hf => ?_)
  · exact k_X5_sum_10 X P d hP _ 4096 r1.2 a0 i1 _ _ _ hf hw (lv_sub hl [0, 1] rfl)
  · refine lv_iconst (v := (0 : Int32)) hx hb dX5_sum_8 (by decide) ?_
    exact zw_zret X hw hf (Nat.le_of_ble_eq_true rfl) (Nat.le_of_ble_eq_true rfl) dX5_sum_9
set_option maxHeartbeats 4000000 in
theorem k_X5_test_37 {p : Program} {l : Launch} {e : Env} {s : State} {m : MethodId} {args : Array Value} {below : List Frame} {meth : Method} {c : Code} {D : va_G} {A : Nat → Prop} {E : State → Prop} (X : zCx p s m args meth c D A E cX5_test 3 RX5 (Option.some FieldType.boolean)) (P : zT → Nat → Int32 → Option (Int32 × zT)) (d : Nat) (hP : ∀ (h : zT) (a0 : Nat) (i1 : Int32) (res : Int32 × zT), P h a0 i1 = some res → Met l yX5_part0 (ws_ yX5_part0 cX5_part0 2 (Option.some FieldType.boolean)) (rm_X5_part0 d) (zPW D A E h [.ref a0, .int i1]) (zQW D A (some (.int res.1)) res.2) 0 0 A) (res : Int32 × zT) : ∀ (h : zT) (a0 : Nat) (i1 : Int32) (H : Heap) (locs : List Loc) (ls : Array Slot), f_X5_test_37 P h a0 i1 = some res → zWh D A s H h locs → lv_has ls 3 [(0, .ref a0), (1, .int i1)] → W p l e (rm_X5_test d) s m args below meth c H locs 0 0 (MQ below (zQW D A (some (.int res.1)) res.2) args s 0 0 A) (F0 m 37 ls []) := by
  have hx := X.1.1
  have hb := X.1.2.1
  have hown := X.1.2.2.2.1
  have hts := X.1.2.2.2.2
  intro h a0 i1 H locs ls hf hw hl
  unfold f_X5_test_37 at hf
  refine lv_aload_n hx hb dX5_test_37 rfl (lv_at hl 0 rfl) ?_
  refine zw_getI X hw fs_X5_20 q1290 rfl hf dX5_test_38 (fun v1 hf => ?_)
  refine lv_istore_n (lv' := [(2, .int v1), (0, .ref a0), (1, .int i1)]) hx hb dX5_test_41 rfl hl (by decide) rfl (fun ls hl => ?_)
  refine lv_aload_n hx hb dX5_test_42 rfl (lv_at hl 1 rfl) ?_
  refine zw_cVV (rest := []) [] X hw hl.1 hf rfl rfl (fun r hr => mt_X5_nextToken l D A E X.2.2.2.2.2.1 h a0 r hr) (lw_V q1634 q1636 qs65 q89 q1637) cd_X5_nextToken ⟨rfl, rfl⟩ ⟨by dsimp only; omega, by dsimp only; omega⟩ rfl rfl (Nat.le_of_ble_eq_true rfl) dX5_test_43 ⟨Nat.le_of_ble_eq_true rfl, Nat.le_of_ble_eq_true rfl⟩ (fun r2 H locs hf hw => ?_)
  refine lv_aload_n hx hb dX5_test_46 rfl (lv_at hl 1 rfl) ?_
  refine lv_iload_n hx hb dX5_test_47 rfl (lv_at hl 2 rfl) ?_
  refine zw_cVZ (rest := []) [.int i1] X hw hl.1 hf rfl rfl (fun r hr => mt_X5_sum l D A E X.2.2.2.2.2.1 P d hP r2 a0 i1 r hr) (lw_V q1670 q1672 qs73 q89 q1673) cd_X5_sum ⟨rfl, rfl⟩ ⟨by dsimp only; omega, by dsimp only; omega⟩ rfl rfl (Nat.le_of_ble_eq_true rfl) dX5_test_48 ⟨Nat.le_of_ble_eq_true rfl, Nat.le_of_ble_eq_true rfl⟩ (fun r3 H locs hf hw => ?_)
  refine zw_if_ne (tgt := 56) hx hb hf dX5_test_51 (by decide) (fun hf => ?_) (fun hf => ?_)
  · refine lv_aload_n hx hb dX5_test_56 rfl (lv_at hl 1 rfl) ?_
    refine lv_iconst (v := (2 : Int32)) hx hb dX5_test_57 (by decide) ?_
    refine lv_iload_n hx hb dX5_test_58 rfl (lv_at hl 0 rfl) ?_
    refine zw_cVV (rest := []) [.int (2 : Int32), .int v1] X hw hl.1 hf rfl rfl (fun r hr => mt_X5_step l D A E X.2.2.2.2.2.1 r3.2 a0 (2 : Int32) v1 r hr) (lw_V q1682 q1684 qs76 q89 q1685) cd_X5_step ⟨rfl, rfl⟩ ⟨by dsimp only; omega, by dsimp only; omega⟩ rfl rfl (Nat.le_of_ble_eq_true rfl) dX5_test_59 ⟨Nat.le_of_ble_eq_true rfl, Nat.le_of_ble_eq_true rfl⟩ (fun r4 H locs hf hw => ?_)
    refine lv_iconst (v := (1 : Int32)) hx hb dX5_test_62 (by decide) ?_
    exact zw_zret X hw hf (Nat.le_of_ble_eq_true rfl) (Nat.le_of_ble_eq_true rfl) dX5_test_63
  · refine lv_iconst (v := (0 : Int32)) hx hb dX5_test_54 (by decide) ?_
    exact zw_zret X hw hf (Nat.le_of_ble_eq_true rfl) (Nat.le_of_ble_eq_true rfl) dX5_test_55
set_option maxHeartbeats 4000000 in
theorem mt_X5_test (l : Launch) (D : va_G) (A : Nat → Prop) (E : State → Prop) (hE : zEok A E) (P : zT → Nat → Int32 → Option (Int32 × zT)) (d : Nat) (hP : ∀ (h : zT) (a0 : Nat) (i1 : Int32) (res : Int32 × zT), P h a0 i1 = some res → Met l yX5_part0 (ws_ yX5_part0 cX5_part0 2 (Option.some FieldType.boolean)) (rm_X5_part0 d) (zPW D A E h [.ref a0, .int i1]) (zQW D A (some (.int res.1)) res.2) 0 0 A) (h : zT) (a0 : Nat) (i1 : Int32) (res : Int32 × zT) (hf : f_X5_test P h a0 i1 = some res) : Met l yX5_test (ws_ yX5_test cX5_test 3 (Option.some FieldType.boolean)) (rm_X5_test d) (zPW D A E h [.ref a0, .int i1]) (zQW D A (some (.int res.1)) res.2) 0 0 A := by
  refine zmt hE (by decide) (Nat.le_of_ble_eq_true rfl) ?_
  intro p e s m below meth c ls hmn X hw hl
  have hl : lv_has ls 3 [(0, .ref a0), (1, .int i1)] := hl
  have hx := X.1.1
  have hb := X.1.2.1
  have hown := X.1.2.2.2.1
  have hts := X.1.2.2.2.2
  unfold f_X5_test at hf
  refine lv_aload_n hx hb dX5_test_0 rfl (lv_at hl 0 rfl) ?_
  refine lv_iload_n hx hb dX5_test_1 rfl (lv_at hl 1 rfl) ?_
  refine zw_cVZ (rest := []) [.int i1] X hw hl.1 hf rfl rfl (fun r hr => mt_X5_sum l D A E X.2.2.2.2.2.1 P d hP h a0 i1 r hr) (lw_V q1670 q1672 qs73 q89 q1673) cd_X5_sum ⟨rfl, rfl⟩ ⟨by dsimp only; omega, by dsimp only; omega⟩ rfl rfl (Nat.le_of_ble_eq_true rfl) dX5_test_2 ⟨Nat.le_of_ble_eq_true rfl, Nat.le_of_ble_eq_true rfl⟩ (fun r1 H locs hf hw => ?_)
  refine zw_if_ne (tgt := 10) hx hb hf dX5_test_5 (by decide) (fun hf => ?_) (fun hf => ?_)
  · refine lv_aload_n hx hb dX5_test_10 rfl (lv_at hl 0 rfl) ?_
    refine lv_bipush (v := (60 : Int32)) hx hb dX5_test_11 (by decide) ?_
    refine zw_cVZ (rest := []) [.int (60 : Int32)] X hw hl.1 hf rfl rfl (fun r hr => mt_X5_isSign l D A E X.2.2.2.2.2.1 r1.2 a0 (60 : Int32) r hr) (lw_V q1689 q1691 qs77 q89 q1692) cd_X5_isSign ⟨rfl, rfl⟩ ⟨by dsimp only; omega, by dsimp only; omega⟩ rfl rfl (Nat.le_of_ble_eq_true rfl) dX5_test_13 ⟨Nat.le_of_ble_eq_true rfl, Nat.le_of_ble_eq_true rfl⟩ (fun r2 H locs hf hw => ?_)
    refine zw_if_ne (tgt := 37) hx hb hf dX5_test_16 (by decide) (fun hf => ?_) (fun hf => ?_)
    · exact k_X5_test_37 X P d hP _ r2.2 a0 i1 _ _ _ hf hw (lv_sub hl [0, 1] rfl)
    · refine lv_aload_n hx hb dX5_test_19 rfl (lv_at hl 0 rfl) ?_
      refine lv_bipush (v := (61 : Int32)) hx hb dX5_test_20 (by decide) ?_
      refine zw_cVZ (rest := []) [.int (61 : Int32)] X hw hl.1 hf rfl rfl (fun r hr => mt_X5_isSign l D A E X.2.2.2.2.2.1 r2.2 a0 (61 : Int32) r hr) (lw_V q1689 q1691 qs77 q89 q1692) cd_X5_isSign ⟨rfl, rfl⟩ ⟨by dsimp only; omega, by dsimp only; omega⟩ rfl rfl (Nat.le_of_ble_eq_true rfl) dX5_test_22 ⟨Nat.le_of_ble_eq_true rfl, Nat.le_of_ble_eq_true rfl⟩ (fun r3 H locs hf hw => ?_)
      refine zw_if_ne (tgt := 37) hx hb hf dX5_test_25 (by decide) (fun hf => ?_) (fun hf => ?_)
      · exact k_X5_test_37 X P d hP _ r3.2 a0 i1 _ _ _ hf hw (lv_sub hl [0, 1] rfl)
      · refine lv_aload_n hx hb dX5_test_28 rfl (lv_at hl 0 rfl) ?_
        refine lv_bipush (v := (62 : Int32)) hx hb dX5_test_29 (by decide) ?_
        refine zw_cVZ (rest := []) [.int (62 : Int32)] X hw hl.1 hf rfl rfl (fun r hr => mt_X5_isSign l D A E X.2.2.2.2.2.1 r3.2 a0 (62 : Int32) r hr) (lw_V q1689 q1691 qs77 q89 q1692) cd_X5_isSign ⟨rfl, rfl⟩ ⟨by dsimp only; omega, by dsimp only; omega⟩ rfl rfl (Nat.le_of_ble_eq_true rfl) dX5_test_31 ⟨Nat.le_of_ble_eq_true rfl, Nat.le_of_ble_eq_true rfl⟩ (fun r4 H locs hf hw => ?_)
        refine zw_if_eq (tgt := 62) hx hb hf dX5_test_34 (by decide) (fun hf => ?_) (fun hf => ?_)
        · refine lv_iconst (v := (1 : Int32)) hx hb dX5_test_62 (by decide) ?_
          exact zw_zret X hw hf (Nat.le_of_ble_eq_true rfl) (Nat.le_of_ble_eq_true rfl) dX5_test_63
        · exact k_X5_test_37 X P d hP _ r4.2 a0 i1 _ _ _ hf hw (lv_sub hl [0, 1] rfl)
  · refine lv_iconst (v := (0 : Int32)) hx hb dX5_test_8 (by decide) ?_
    exact zw_zret X hw hf (Nat.le_of_ble_eq_true rfl) (Nat.le_of_ble_eq_true rfl) dX5_test_9
set_option maxHeartbeats 4000000 in
theorem k_X5_both_10 {p : Program} {l : Launch} {e : Env} {s : State} {m : MethodId} {args : Array Value} {below : List Frame} {meth : Method} {c : Code} {D : va_G} {A : Nat → Prop} {E : State → Prop} (X : zCx p s m args meth c D A E cX5_both 2 RX5 (Option.some FieldType.boolean)) (P : zT → Nat → Int32 → Option (Int32 × zT)) (d : Nat) (hP : ∀ (h : zT) (a0 : Nat) (i1 : Int32) (res : Int32 × zT), P h a0 i1 = some res → Met l yX5_part0 (ws_ yX5_part0 cX5_part0 2 (Option.some FieldType.boolean)) (rm_X5_part0 d) (zPW D A E h [.ref a0, .int i1]) (zQW D A (some (.int res.1)) res.2) 0 0 A) (res : Int32 × zT) : ∀ (n : Nat), ∀ (h : zT) (a0 : Nat) (i1 : Int32) (H : Heap) (locs : List Loc) (ls : Array Slot), f_X5_both_10 P n h a0 i1 = some res → zWh D A s H h locs → lv_has ls 2 [(0, .ref a0), (1, .int i1)] → W p l e (rm_X5_both d) s m args below meth c H locs 0 0 (MQ below (zQW D A (some (.int res.1)) res.2) args s 0 0 A) (F0 m 10 ls []) := by
  have hx := X.1.1
  have hb := X.1.2.1
  have hown := X.1.2.2.2.1
  have hts := X.1.2.2.2.2
  intro n
  induction n with
  | zero =>
    intro h a0 i1 H locs ls hf hw hl
    cases hf
  | succ n ih =>
    intro h a0 i1 H locs ls hf hw hl
    unfold f_X5_both_10 at hf
    refine lv_aload_n hx hb dX5_both_10 rfl (lv_at hl 0 rfl) ?_
    refine lv_bipush (v := (38 : Int32)) hx hb dX5_both_11 (by decide) ?_
    refine zw_cVZ (rest := []) [.int (38 : Int32)] X hw hl.1 hf rfl rfl (fun r hr => mt_X5_isSign l D A E X.2.2.2.2.2.1 h a0 (38 : Int32) r hr) (lw_V q1689 q1691 qs77 q89 q1692) cd_X5_isSign ⟨rfl, rfl⟩ ⟨by dsimp only; omega, by dsimp only; omega⟩ rfl rfl (Nat.le_of_ble_eq_true rfl) dX5_both_13 ⟨Nat.le_of_ble_eq_true rfl, Nat.le_of_ble_eq_true rfl⟩ (fun r1 H locs hf hw => ?_)
    refine zw_if_eq (tgt := 43) hx hb hf dX5_both_16 (by decide) (fun hf => ?_) (fun hf => ?_)
    · refine lv_iconst (v := (1 : Int32)) hx hb dX5_both_43 (by decide) ?_
      exact zw_zret X hw hf (Nat.le_of_ble_eq_true rfl) (Nat.le_of_ble_eq_true rfl) dX5_both_44
    · refine lv_aload_n hx hb dX5_both_19 rfl (lv_at hl 0 rfl) ?_
      refine zw_cVV (rest := []) [] X hw hl.1 hf rfl rfl (fun r hr => mt_X5_nextToken l D A E X.2.2.2.2.2.1 r1.2 a0 r hr) (lw_V q1634 q1636 qs65 q89 q1637) cd_X5_nextToken ⟨rfl, rfl⟩ ⟨by dsimp only; omega, by dsimp only; omega⟩ rfl rfl (Nat.le_of_ble_eq_true rfl) dX5_both_20 ⟨Nat.le_of_ble_eq_true rfl, Nat.le_of_ble_eq_true rfl⟩ (fun r2 H locs hf hw => ?_)
      refine lv_aload_n hx hb dX5_both_23 rfl (lv_at hl 0 rfl) ?_
      refine lv_iload_n hx hb dX5_both_24 rfl (lv_at hl 1 rfl) ?_
      refine zw_cVZ (rest := []) [.int i1] X hw hl.1 hf rfl rfl (fun r hr => mt_X5_test l D A E X.2.2.2.2.2.1 P d hP r2 a0 i1 r hr) (lw_V q1666 q1668 qs72 q89 q1669) cd_X5_test ⟨rfl, rfl⟩ ⟨by dsimp only; omega, by dsimp only; omega⟩ rfl rfl (Nat.le_of_ble_eq_true rfl) dX5_both_25 ⟨Nat.le_of_ble_eq_true rfl, Nat.le_of_ble_eq_true rfl⟩ (fun r3 H locs hf hw => ?_)
      refine zw_if_ne (tgt := 33) hx hb hf dX5_both_28 (by decide) (fun hf => ?_) (fun hf => ?_)
      · refine lv_aload_n hx hb dX5_both_33 rfl (lv_at hl 0 rfl) ?_
        refine lv_iconst (v := (2 : Int32)) hx hb dX5_both_34 (by decide) ?_
        refine lv_bipush (v := (38 : Int32)) hx hb dX5_both_35 (by decide) ?_
        refine zw_cVV (rest := []) [.int (2 : Int32), .int (38 : Int32)] X hw hl.1 hf rfl rfl (fun r hr => mt_X5_step l D A E X.2.2.2.2.2.1 r3.2 a0 (2 : Int32) (38 : Int32) r hr) (lw_V q1682 q1684 qs76 q89 q1685) cd_X5_step ⟨rfl, rfl⟩ ⟨by dsimp only; omega, by dsimp only; omega⟩ rfl rfl (Nat.le_of_ble_eq_true rfl) dX5_both_37 ⟨Nat.le_of_ble_eq_true rfl, Nat.le_of_ble_eq_true rfl⟩ (fun r4 H locs hf hw => ?_)
        refine lv_goto (tgt := 10) hx hb dX5_both_40 (by decide) ?_
        exact ih r4 a0 i1 _ _ _ hf hw (lv_sub hl [0, 1] rfl)
      · refine lv_iconst (v := (0 : Int32)) hx hb dX5_both_31 (by decide) ?_
        exact zw_zret X hw hf (Nat.le_of_ble_eq_true rfl) (Nat.le_of_ble_eq_true rfl) dX5_both_32
set_option maxHeartbeats 4000000 in
theorem mt_X5_both (l : Launch) (D : va_G) (A : Nat → Prop) (E : State → Prop) (hE : zEok A E) (P : zT → Nat → Int32 → Option (Int32 × zT)) (d : Nat) (hP : ∀ (h : zT) (a0 : Nat) (i1 : Int32) (res : Int32 × zT), P h a0 i1 = some res → Met l yX5_part0 (ws_ yX5_part0 cX5_part0 2 (Option.some FieldType.boolean)) (rm_X5_part0 d) (zPW D A E h [.ref a0, .int i1]) (zQW D A (some (.int res.1)) res.2) 0 0 A) (h : zT) (a0 : Nat) (i1 : Int32) (res : Int32 × zT) (hf : f_X5_both P h a0 i1 = some res) : Met l yX5_both (ws_ yX5_both cX5_both 2 (Option.some FieldType.boolean)) (rm_X5_both d) (zPW D A E h [.ref a0, .int i1]) (zQW D A (some (.int res.1)) res.2) 0 0 A := by
  refine zmt hE (by decide) (Nat.le_of_ble_eq_true rfl) ?_
  intro p e s m below meth c ls hmn X hw hl
  have hl : lv_has ls 2 [(0, .ref a0), (1, .int i1)] := hl
  have hx := X.1.1
  have hb := X.1.2.1
  have hown := X.1.2.2.2.1
  have hts := X.1.2.2.2.2
  unfold f_X5_both at hf
  refine lv_aload_n hx hb dX5_both_0 rfl (lv_at hl 0 rfl) ?_
  refine lv_iload_n hx hb dX5_both_1 rfl (lv_at hl 1 rfl) ?_
  refine zw_cVZ (rest := []) [.int i1] X hw hl.1 hf rfl rfl (fun r hr => mt_X5_test l D A E X.2.2.2.2.2.1 P d hP h a0 i1 r hr) (lw_V q1666 q1668 qs72 q89 q1669) cd_X5_test ⟨rfl, rfl⟩ ⟨by dsimp only; omega, by dsimp only; omega⟩ rfl rfl (Nat.le_of_ble_eq_true rfl) dX5_both_2 ⟨Nat.le_of_ble_eq_true rfl, Nat.le_of_ble_eq_true rfl⟩ (fun r1 H locs hf hw => ?_)
  refine zw_if_ne (tgt := 10) hx hb hf dX5_both_5 (by decide) (fun hf => ?_) (fun hf => ?_)
  · exact k_X5_both_10 X P d hP _ 4096 r1.2 a0 i1 _ _ _ hf hw (lv_sub hl [0, 1] rfl)
  · refine lv_iconst (v := (0 : Int32)) hx hb dX5_both_8 (by decide) ?_
    exact zw_zret X hw hf (Nat.le_of_ble_eq_true rfl) (Nat.le_of_ble_eq_true rfl) dX5_both_9
set_option maxHeartbeats 4000000 in
theorem k_X5_either_10 {p : Program} {l : Launch} {e : Env} {s : State} {m : MethodId} {args : Array Value} {below : List Frame} {meth : Method} {c : Code} {D : va_G} {A : Nat → Prop} {E : State → Prop} (X : zCx p s m args meth c D A E cX5_either 2 RX5 (Option.some FieldType.boolean)) (P : zT → Nat → Int32 → Option (Int32 × zT)) (d : Nat) (hP : ∀ (h : zT) (a0 : Nat) (i1 : Int32) (res : Int32 × zT), P h a0 i1 = some res → Met l yX5_part0 (ws_ yX5_part0 cX5_part0 2 (Option.some FieldType.boolean)) (rm_X5_part0 d) (zPW D A E h [.ref a0, .int i1]) (zQW D A (some (.int res.1)) res.2) 0 0 A) (res : Int32 × zT) : ∀ (n : Nat), ∀ (h : zT) (a0 : Nat) (i1 : Int32) (H : Heap) (locs : List Loc) (ls : Array Slot), f_X5_either_10 P n h a0 i1 = some res → zWh D A s H h locs → lv_has ls 2 [(0, .ref a0), (1, .int i1)] → W p l e (rm_X5_either d) s m args below meth c H locs 0 0 (MQ below (zQW D A (some (.int res.1)) res.2) args s 0 0 A) (F0 m 10 ls []) := by
  have hx := X.1.1
  have hb := X.1.2.1
  have hown := X.1.2.2.2.1
  have hts := X.1.2.2.2.2
  intro n
  induction n with
  | zero =>
    intro h a0 i1 H locs ls hf hw hl
    cases hf
  | succ n ih =>
    intro h a0 i1 H locs ls hf hw hl
    unfold f_X5_either_10 at hf
    refine lv_aload_n hx hb dX5_either_10 rfl (lv_at hl 0 rfl) ?_
    refine lv_bipush (v := (124 : Int32)) hx hb dX5_either_11 (by decide) ?_
    refine zw_cVZ (rest := []) [.int (124 : Int32)] X hw hl.1 hf rfl rfl (fun r hr => mt_X5_isSign l D A E X.2.2.2.2.2.1 h a0 (124 : Int32) r hr) (lw_V q1689 q1691 qs77 q89 q1692) cd_X5_isSign ⟨rfl, rfl⟩ ⟨by dsimp only; omega, by dsimp only; omega⟩ rfl rfl (Nat.le_of_ble_eq_true rfl) dX5_either_13 ⟨Nat.le_of_ble_eq_true rfl, Nat.le_of_ble_eq_true rfl⟩ (fun r1 H locs hf hw => ?_)
    refine zw_if_eq (tgt := 43) hx hb hf dX5_either_16 (by decide) (fun hf => ?_) (fun hf => ?_)
    · refine lv_iconst (v := (1 : Int32)) hx hb dX5_either_43 (by decide) ?_
      exact zw_zret X hw hf (Nat.le_of_ble_eq_true rfl) (Nat.le_of_ble_eq_true rfl) dX5_either_44
    · refine lv_aload_n hx hb dX5_either_19 rfl (lv_at hl 0 rfl) ?_
      refine zw_cVV (rest := []) [] X hw hl.1 hf rfl rfl (fun r hr => mt_X5_nextToken l D A E X.2.2.2.2.2.1 r1.2 a0 r hr) (lw_V q1634 q1636 qs65 q89 q1637) cd_X5_nextToken ⟨rfl, rfl⟩ ⟨by dsimp only; omega, by dsimp only; omega⟩ rfl rfl (Nat.le_of_ble_eq_true rfl) dX5_either_20 ⟨Nat.le_of_ble_eq_true rfl, Nat.le_of_ble_eq_true rfl⟩ (fun r2 H locs hf hw => ?_)
      refine lv_aload_n hx hb dX5_either_23 rfl (lv_at hl 0 rfl) ?_
      refine lv_iload_n hx hb dX5_either_24 rfl (lv_at hl 1 rfl) ?_
      refine zw_cVZ (rest := []) [.int i1] X hw hl.1 hf rfl rfl (fun r hr => mt_X5_both l D A E X.2.2.2.2.2.1 P d hP r2 a0 i1 r hr) (lw_V q1662 q1664 qs71 q89 q1665) cd_X5_both ⟨rfl, rfl⟩ ⟨by dsimp only; omega, by dsimp only; omega⟩ rfl rfl (Nat.le_of_ble_eq_true rfl) dX5_either_25 ⟨Nat.le_of_ble_eq_true rfl, Nat.le_of_ble_eq_true rfl⟩ (fun r3 H locs hf hw => ?_)
      refine zw_if_ne (tgt := 33) hx hb hf dX5_either_28 (by decide) (fun hf => ?_) (fun hf => ?_)
      · refine lv_aload_n hx hb dX5_either_33 rfl (lv_at hl 0 rfl) ?_
        refine lv_iconst (v := (2 : Int32)) hx hb dX5_either_34 (by decide) ?_
        refine lv_bipush (v := (124 : Int32)) hx hb dX5_either_35 (by decide) ?_
        refine zw_cVV (rest := []) [.int (2 : Int32), .int (124 : Int32)] X hw hl.1 hf rfl rfl (fun r hr => mt_X5_step l D A E X.2.2.2.2.2.1 r3.2 a0 (2 : Int32) (124 : Int32) r hr) (lw_V q1682 q1684 qs76 q89 q1685) cd_X5_step ⟨rfl, rfl⟩ ⟨by dsimp only; omega, by dsimp only; omega⟩ rfl rfl (Nat.le_of_ble_eq_true rfl) dX5_either_37 ⟨Nat.le_of_ble_eq_true rfl, Nat.le_of_ble_eq_true rfl⟩ (fun r4 H locs hf hw => ?_)
        refine lv_goto (tgt := 10) hx hb dX5_either_40 (by decide) ?_
        exact ih r4 a0 i1 _ _ _ hf hw (lv_sub hl [0, 1] rfl)
      · refine lv_iconst (v := (0 : Int32)) hx hb dX5_either_31 (by decide) ?_
        exact zw_zret X hw hf (Nat.le_of_ble_eq_true rfl) (Nat.le_of_ble_eq_true rfl) dX5_either_32
set_option maxHeartbeats 4000000 in
theorem mt_X5_either (l : Launch) (D : va_G) (A : Nat → Prop) (E : State → Prop) (hE : zEok A E) (P : zT → Nat → Int32 → Option (Int32 × zT)) (d : Nat) (hP : ∀ (h : zT) (a0 : Nat) (i1 : Int32) (res : Int32 × zT), P h a0 i1 = some res → Met l yX5_part0 (ws_ yX5_part0 cX5_part0 2 (Option.some FieldType.boolean)) (rm_X5_part0 d) (zPW D A E h [.ref a0, .int i1]) (zQW D A (some (.int res.1)) res.2) 0 0 A) (h : zT) (a0 : Nat) (i1 : Int32) (res : Int32 × zT) (hf : f_X5_either P h a0 i1 = some res) : Met l yX5_either (ws_ yX5_either cX5_either 2 (Option.some FieldType.boolean)) (rm_X5_either d) (zPW D A E h [.ref a0, .int i1]) (zQW D A (some (.int res.1)) res.2) 0 0 A := by
  refine zmt hE (by decide) (Nat.le_of_ble_eq_true rfl) ?_
  intro p e s m below meth c ls hmn X hw hl
  have hl : lv_has ls 2 [(0, .ref a0), (1, .int i1)] := hl
  have hx := X.1.1
  have hb := X.1.2.1
  have hown := X.1.2.2.2.1
  have hts := X.1.2.2.2.2
  unfold f_X5_either at hf
  refine lv_aload_n hx hb dX5_either_0 rfl (lv_at hl 0 rfl) ?_
  refine lv_iload_n hx hb dX5_either_1 rfl (lv_at hl 1 rfl) ?_
  refine zw_cVZ (rest := []) [.int i1] X hw hl.1 hf rfl rfl (fun r hr => mt_X5_both l D A E X.2.2.2.2.2.1 P d hP h a0 i1 r hr) (lw_V q1662 q1664 qs71 q89 q1665) cd_X5_both ⟨rfl, rfl⟩ ⟨by dsimp only; omega, by dsimp only; omega⟩ rfl rfl (Nat.le_of_ble_eq_true rfl) dX5_either_2 ⟨Nat.le_of_ble_eq_true rfl, Nat.le_of_ble_eq_true rfl⟩ (fun r1 H locs hf hw => ?_)
  refine zw_if_ne (tgt := 10) hx hb hf dX5_either_5 (by decide) (fun hf => ?_) (fun hf => ?_)
  · exact k_X5_either_10 X P d hP _ 4096 r1.2 a0 i1 _ _ _ hf hw (lv_sub hl [0, 1] rfl)
  · refine lv_iconst (v := (0 : Int32)) hx hb dX5_either_8 (by decide) ?_
    exact zw_zret X hw hf (Nat.le_of_ble_eq_true rfl) (Nat.le_of_ble_eq_true rfl) dX5_either_9
set_option maxHeartbeats 4000000 in
theorem mt_X5_isName (l : Launch) (D : va_G) (A : Nat → Prop) (E : State → Prop) (hE : zEok A E) (h : zT) (i0 : Int32) (i1 : Int32) (res : Int32 × zT) (hf : f_X5_isName h i0 i1 = some res) : Met l yX5_isName (ws_ yX5_isName cX5_isName 2 (Option.some FieldType.boolean)) rm_X5_isName (zPW D A E h [.int i0, .int i1]) (zQW D A (some (.int res.1)) res.2) 0 0 A := by
  refine zmt hE (by decide) (Nat.le_of_ble_eq_true rfl) ?_
  intro p e s m below meth c ls hmn X hw hl
  have hl : lv_has ls 2 [(0, .int i0), (1, .int i1)] := hl
  have hx := X.1.1
  have hb := X.1.2.1
  have hown := X.1.2.2.2.1
  have hts := X.1.2.2.2.2
  unfold f_X5_isName at hf
  refine lv_iload_n hx hb dX5_isName_0 rfl (lv_at hl 0 rfl) ?_
  refine zw_case hf (fun c1000 hf => ?_) (fun c1000 hf => ?_)
  · refine zw_lookIn (off := 27) (tgt := 28) hx hb c1000 dX5_isName_1 rfl rfl (by decide) ?_
    refine lv_iload_n hx hb dX5_isName_28 rfl (lv_at hl 1 rfl) ?_
    refine lv_bipush (v := (116 : Int32)) hx hb dX5_isName_29 (by decide) ?_
    refine zw_icmp_eq (tgt := 46) hx hb hf dX5_isName_31 (by decide) (fun hf => ?_) (fun hf => ?_)
    · refine lv_iconst (v := (1 : Int32)) hx hb dX5_isName_46 (by decide) ?_
      refine lv_goto (tgt := 51) hx hb dX5_isName_47 (by decide) ?_
      exact zw_zret X hw hf (Nat.le_of_ble_eq_true rfl) (Nat.le_of_ble_eq_true rfl) dX5_isName_51
    · refine lv_iload_n hx hb dX5_isName_34 rfl (lv_at hl 1 rfl) ?_
      refine lv_bipush (v := (115 : Int32)) hx hb dX5_isName_35 (by decide) ?_
      refine zw_icmp_eq (tgt := 46) hx hb hf dX5_isName_37 (by decide) (fun hf => ?_) (fun hf => ?_)
      · refine lv_iconst (v := (1 : Int32)) hx hb dX5_isName_46 (by decide) ?_
        refine lv_goto (tgt := 51) hx hb dX5_isName_47 (by decide) ?_
        exact zw_zret X hw hf (Nat.le_of_ble_eq_true rfl) (Nat.le_of_ble_eq_true rfl) dX5_isName_51
      · refine lv_iload_n hx hb dX5_isName_40 rfl (lv_at hl 1 rfl) ?_
        refine lv_bipush (v := (108 : Int32)) hx hb dX5_isName_41 (by decide) ?_
        refine zw_icmp_ne (tgt := 50) hx hb hf dX5_isName_43 (by decide) (fun hf => ?_) (fun hf => ?_)
        · refine lv_iconst (v := (0 : Int32)) hx hb dX5_isName_50 (by decide) ?_
          exact zw_zret X hw hf (Nat.le_of_ble_eq_true rfl) (Nat.le_of_ble_eq_true rfl) dX5_isName_51
        · refine lv_iconst (v := (1 : Int32)) hx hb dX5_isName_46 (by decide) ?_
          refine lv_goto (tgt := 51) hx hb dX5_isName_47 (by decide) ?_
          exact zw_zret X hw hf (Nat.le_of_ble_eq_true rfl) (Nat.le_of_ble_eq_true rfl) dX5_isName_51
  · refine zw_case hf (fun c1001 hf => ?_) (fun c1001 hf => ?_)
    · refine zw_lookIn (off := 51) (tgt := 52) hx hb c1001 dX5_isName_1 rfl rfl (by decide) ?_
      refine lv_iload_n hx hb dX5_isName_52 rfl (lv_at hl 1 rfl) ?_
      refine lv_bipush (v := (110 : Int32)) hx hb dX5_isName_53 (by decide) ?_
      refine zw_icmp_eq (tgt := 64) hx hb hf dX5_isName_55 (by decide) (fun hf => ?_) (fun hf => ?_)
      · refine lv_iconst (v := (1 : Int32)) hx hb dX5_isName_64 (by decide) ?_
        refine lv_goto (tgt := 69) hx hb dX5_isName_65 (by decide) ?_
        exact zw_zret X hw hf (Nat.le_of_ble_eq_true rfl) (Nat.le_of_ble_eq_true rfl) dX5_isName_69
      · refine lv_iload_n hx hb dX5_isName_58 rfl (lv_at hl 1 rfl) ?_
        refine lv_bipush (v := (102 : Int32)) hx hb dX5_isName_59 (by decide) ?_
        refine zw_icmp_ne (tgt := 68) hx hb hf dX5_isName_61 (by decide) (fun hf => ?_) (fun hf => ?_)
        · refine lv_iconst (v := (0 : Int32)) hx hb dX5_isName_68 (by decide) ?_
          exact zw_zret X hw hf (Nat.le_of_ble_eq_true rfl) (Nat.le_of_ble_eq_true rfl) dX5_isName_69
        · refine lv_iconst (v := (1 : Int32)) hx hb dX5_isName_64 (by decide) ?_
          refine lv_goto (tgt := 69) hx hb dX5_isName_65 (by decide) ?_
          exact zw_zret X hw hf (Nat.le_of_ble_eq_true rfl) (Nat.le_of_ble_eq_true rfl) dX5_isName_69
    · refine lv_lookup (off := 69) (tgt := 70) hx hb dX5_isName_1 rfl ((lv_osw c1000 (by decide)).trans ((lv_osw c1001 (by decide)).trans rfl)) (by decide) ?_
      refine lv_iload_n hx hb dX5_isName_70 rfl (lv_at hl 1 rfl) ?_
      refine lv_bipush (v := (116 : Int32)) hx hb dX5_isName_71 (by decide) ?_
      refine zw_icmp_eq (tgt := 82) hx hb hf dX5_isName_73 (by decide) (fun hf => ?_) (fun hf => ?_)
      · refine lv_iconst (v := (1 : Int32)) hx hb dX5_isName_82 (by decide) ?_
        refine lv_goto (tgt := 87) hx hb dX5_isName_83 (by decide) ?_
        exact zw_zret X hw hf (Nat.le_of_ble_eq_true rfl) (Nat.le_of_ble_eq_true rfl) dX5_isName_87
      · refine lv_iload_n hx hb dX5_isName_76 rfl (lv_at hl 1 rfl) ?_
        refine lv_bipush (v := (115 : Int32)) hx hb dX5_isName_77 (by decide) ?_
        refine zw_icmp_ne (tgt := 86) hx hb hf dX5_isName_79 (by decide) (fun hf => ?_) (fun hf => ?_)
        · refine lv_iconst (v := (0 : Int32)) hx hb dX5_isName_86 (by decide) ?_
          exact zw_zret X hw hf (Nat.le_of_ble_eq_true rfl) (Nat.le_of_ble_eq_true rfl) dX5_isName_87
        · refine lv_iconst (v := (1 : Int32)) hx hb dX5_isName_82 (by decide) ?_
          refine lv_goto (tgt := 87) hx hb dX5_isName_83 (by decide) ?_
          exact zw_zret X hw hf (Nat.le_of_ble_eq_true rfl) (Nat.le_of_ble_eq_true rfl) dX5_isName_87
set_option maxHeartbeats 4000000 in
theorem k_X5_part0_145 {p : Program} {l : Launch} {e : Env} {s : State} {m : MethodId} {args : Array Value} {below : List Frame} {meth : Method} {c : Code} {D : va_G} {A : Nat → Prop} {E : State → Prop} (X : zCx p s m args meth c D A E cX5_part0 2 RX5 (Option.some FieldType.boolean)) (P : zT → Nat → Int32 → Option (Int32 × zT)) (d : Nat) (hP : ∀ (h : zT) (a0 : Nat) (i1 : Int32) (res : Int32 × zT), P h a0 i1 = some res → Met l yX5_part0 (ws_ yX5_part0 cX5_part0 2 (Option.some FieldType.boolean)) (rm_X5_part0 d) (zPW D A E h [.ref a0, .int i1]) (zQW D A (some (.int res.1)) res.2) 0 0 A) (res : Int32 × zT) : ∀ (h : zT) (a0 : Nat) (i1 : Int32) (H : Heap) (locs : List Loc) (ls : Array Slot), f_X5_part0_145 P h a0 i1 = some res → zWh D A s H h locs → lv_has ls 2 [(0, .ref a0), (1, .int i1)] → W p l e (rm_X5_part0 (d + 1)) s m args below meth c H locs 0 0 (MQ below (zQW D A (some (.int res.1)) res.2) args s 0 0 A) (F0 m 145 ls []) := by
  have hx := X.1.1
  have hb := X.1.2.1
  have hown := X.1.2.2.2.1
  have hts := X.1.2.2.2.2
  intro h a0 i1 H locs ls hf hw hl
  unfold f_X5_part0_145 at hf
  refine lv_aload_n hx hb dX5_part0_145 rfl (lv_at hl 0 rfl) ?_
  refine lv_bipush (v := (40 : Int32)) hx hb dX5_part0_146 (by decide) ?_
  refine zw_cVZ (rest := []) [.int (40 : Int32)] X hw hl.1 hf rfl rfl (fun r hr => mt_X5_isSign l D A E X.2.2.2.2.2.1 h a0 (40 : Int32) r hr) (lw_V q1689 q1691 qs77 q89 q1692) cd_X5_isSign ⟨rfl, rfl⟩ ⟨by dsimp only; omega, by dsimp only; omega⟩ rfl rfl (Nat.le_of_ble_eq_true rfl) dX5_part0_148 ⟨Nat.le_of_ble_eq_true rfl, Nat.le_of_ble_eq_true rfl⟩ (fun r1 H locs hf hw => ?_)
  refine zw_if_eq (tgt := 163) hx hb hf dX5_part0_151 (by decide) (fun hf => ?_) (fun hf => ?_)
  · refine lv_iconst (v := (0 : Int32)) hx hb dX5_part0_163 (by decide) ?_
    exact zw_zret X hw hf (Nat.le_of_ble_eq_true rfl) (Nat.le_of_ble_eq_true rfl) dX5_part0_164
  · refine lv_aload_n hx hb dX5_part0_154 rfl (lv_at hl 0 rfl) ?_
    refine zw_getI X hw fs_X5_21 q1291 rfl hf dX5_part0_155 (fun v2 hf => ?_)
    refine lv_bipush (v := (8 : Int32)) hx hb dX5_part0_158 (by decide) ?_
    refine zw_icmp_ne (tgt := 165) hx hb hf dX5_part0_160 (by decide) (fun hf => ?_) (fun hf => ?_)
    · refine lv_aload_n hx hb dX5_part0_165 rfl (lv_at hl 0 rfl) ?_
      refine lv_dup hx hb dX5_part0_166 rfl ?_
      refine zw_getI X hw fs_X5_21 q1291 rfl hf dX5_part0_167 (fun v3 hf => ?_)
      refine lv_iconst (v := (1 : Int32)) hx hb dX5_part0_170 (by decide) ?_
      refine lv_iadd hx hb dX5_part0_171 ?_
      refine zw_put X hw fs_X5_21 q1291 rfl rfl rfl rfl hf dX5_part0_172 (fun h4 H locs hf hw => ?_)
      refine lv_aload_n hx hb dX5_part0_175 rfl (lv_at hl 0 rfl) ?_
      refine zw_cVV (rest := []) [] X hw hl.1 hf rfl rfl (fun r hr => mt_X5_nextToken l D A E X.2.2.2.2.2.1 h4 a0 r hr) (lw_V q1634 q1636 qs65 q89 q1637) cd_X5_nextToken ⟨rfl, rfl⟩ ⟨by dsimp only; omega, by dsimp only; omega⟩ rfl rfl (Nat.le_of_ble_eq_true rfl) dX5_part0_176 ⟨Nat.le_of_ble_eq_true rfl, Nat.le_of_ble_eq_true rfl⟩ (fun r5 H locs hf hw => ?_)
      refine lv_aload_n hx hb dX5_part0_179 rfl (lv_at hl 0 rfl) ?_
      refine lv_iload_n hx hb dX5_part0_180 rfl (lv_at hl 1 rfl) ?_
      refine zw_cVZ (rest := []) [.int i1] X hw hl.1 hf rfl rfl (fun r hr => mt_X5_either l D A E X.2.2.2.2.2.1 P d hP r5 a0 i1 r hr) (lw_V q1658 q1660 qs70 q89 q1661) cd_X5_either ⟨rfl, rfl⟩ ⟨by dsimp only; omega, by dsimp only; omega⟩ rfl rfl (Nat.le_of_ble_eq_true rfl) dX5_part0_181 ⟨Nat.le_of_ble_eq_true rfl, Nat.le_of_ble_eq_true rfl⟩ (fun r6 H locs hf hw => ?_)
      refine zw_if_eq (tgt := 196) hx hb hf dX5_part0_184 (by decide) (fun hf => ?_) (fun hf => ?_)
      · refine lv_iconst (v := (0 : Int32)) hx hb dX5_part0_196 (by decide) ?_
        exact zw_zret X hw hf (Nat.le_of_ble_eq_true rfl) (Nat.le_of_ble_eq_true rfl) dX5_part0_197
      · refine lv_aload_n hx hb dX5_part0_187 rfl (lv_at hl 0 rfl) ?_
        refine lv_bipush (v := (41 : Int32)) hx hb dX5_part0_188 (by decide) ?_
        refine zw_cVZ (rest := []) [.int (41 : Int32)] X hw hl.1 hf rfl rfl (fun r hr => mt_X5_isSign l D A E X.2.2.2.2.2.1 r6.2 a0 (41 : Int32) r hr) (lw_V q1689 q1691 qs77 q89 q1692) cd_X5_isSign ⟨rfl, rfl⟩ ⟨by dsimp only; omega, by dsimp only; omega⟩ rfl rfl (Nat.le_of_ble_eq_true rfl) dX5_part0_190 ⟨Nat.le_of_ble_eq_true rfl, Nat.le_of_ble_eq_true rfl⟩ (fun r7 H locs hf hw => ?_)
        refine zw_if_ne (tgt := 198) hx hb hf dX5_part0_193 (by decide) (fun hf => ?_) (fun hf => ?_)
        · refine lv_aload_n hx hb dX5_part0_198 rfl (lv_at hl 0 rfl) ?_
          refine lv_dup hx hb dX5_part0_199 rfl ?_
          refine zw_getI X hw fs_X5_21 q1291 rfl hf dX5_part0_200 (fun v8 hf => ?_)
          refine lv_iconst (v := (1 : Int32)) hx hb dX5_part0_203 (by decide) ?_
          refine lv_isub hx hb dX5_part0_204 ?_
          refine zw_put X hw fs_X5_21 q1291 rfl rfl rfl rfl hf dX5_part0_205 (fun h9 H locs hf hw => ?_)
          refine lv_aload_n hx hb dX5_part0_208 rfl (lv_at hl 0 rfl) ?_
          refine zw_cVV (rest := []) [] X hw hl.1 hf rfl rfl (fun r hr => mt_X5_nextToken l D A E X.2.2.2.2.2.1 h9 a0 r hr) (lw_V q1634 q1636 qs65 q89 q1637) cd_X5_nextToken ⟨rfl, rfl⟩ ⟨by dsimp only; omega, by dsimp only; omega⟩ rfl rfl (Nat.le_of_ble_eq_true rfl) dX5_part0_209 ⟨Nat.le_of_ble_eq_true rfl, Nat.le_of_ble_eq_true rfl⟩ (fun r10 H locs hf hw => ?_)
          refine lv_iconst (v := (1 : Int32)) hx hb dX5_part0_212 (by decide) ?_
          exact zw_zret X hw hf (Nat.le_of_ble_eq_true rfl) (Nat.le_of_ble_eq_true rfl) dX5_part0_213
        · refine lv_iconst (v := (0 : Int32)) hx hb dX5_part0_196 (by decide) ?_
          exact zw_zret X hw hf (Nat.le_of_ble_eq_true rfl) (Nat.le_of_ble_eq_true rfl) dX5_part0_197
    · refine lv_iconst (v := (0 : Int32)) hx hb dX5_part0_163 (by decide) ?_
      exact zw_zret X hw hf (Nat.le_of_ble_eq_true rfl) (Nat.le_of_ble_eq_true rfl) dX5_part0_164
set_option maxHeartbeats 4000000 in
theorem k_X5_part0_84 {p : Program} {l : Launch} {e : Env} {s : State} {m : MethodId} {args : Array Value} {below : List Frame} {meth : Method} {c : Code} {D : va_G} {A : Nat → Prop} {E : State → Prop} (X : zCx p s m args meth c D A E cX5_part0 2 RX5 (Option.some FieldType.boolean)) (P : zT → Nat → Int32 → Option (Int32 × zT)) (d : Nat) (hP : ∀ (h : zT) (a0 : Nat) (i1 : Int32) (res : Int32 × zT), P h a0 i1 = some res → Met l yX5_part0 (ws_ yX5_part0 cX5_part0 2 (Option.some FieldType.boolean)) (rm_X5_part0 d) (zPW D A E h [.ref a0, .int i1]) (zQW D A (some (.int res.1)) res.2) 0 0 A) (res : Int32 × zT) : ∀ (h : zT) (a0 : Nat) (i1 : Int32) (H : Heap) (locs : List Loc) (ls : Array Slot), f_X5_part0_84 P h a0 i1 = some res → zWh D A s H h locs → lv_has ls 2 [(0, .ref a0), (1, .int i1)] → W p l e (rm_X5_part0 (d + 1)) s m args below meth c H locs 0 0 (MQ below (zQW D A (some (.int res.1)) res.2) args s 0 0 A) (F0 m 84 ls []) := by
  have hx := X.1.1
  have hb := X.1.2.1
  have hown := X.1.2.2.2.1
  have hts := X.1.2.2.2.2
  intro h a0 i1 H locs ls hf hw hl
  unfold f_X5_part0_84 at hf
  refine lv_aload_n hx hb dX5_part0_84 rfl (lv_at hl 0 rfl) ?_
  refine lv_bipush (v := (33 : Int32)) hx hb dX5_part0_85 (by decide) ?_
  refine zw_cVZ (rest := []) [.int (33 : Int32)] X hw hl.1 hf rfl rfl (fun r hr => mt_X5_isSign l D A E X.2.2.2.2.2.1 h a0 (33 : Int32) r hr) (lw_V q1689 q1691 qs77 q89 q1692) cd_X5_isSign ⟨rfl, rfl⟩ ⟨by dsimp only; omega, by dsimp only; omega⟩ rfl rfl (Nat.le_of_ble_eq_true rfl) dX5_part0_87 ⟨Nat.le_of_ble_eq_true rfl, Nat.le_of_ble_eq_true rfl⟩ (fun r1 H locs hf hw => ?_)
  refine zw_if_eq (tgt := 145) hx hb hf dX5_part0_90 (by decide) (fun hf => ?_) (fun hf => ?_)
  · exact k_X5_part0_145 X P d hP _ r1.2 a0 i1 _ _ _ hf hw (lv_sub hl [0, 1] rfl)
  · refine lv_aload_n hx hb dX5_part0_93 rfl (lv_at hl 0 rfl) ?_
    refine zw_getI X hw fs_X5_22 q1292 rfl hf dX5_part0_94 (fun v2 hf => ?_)
    refine lv_bipush (v := (8 : Int32)) hx hb dX5_part0_97 (by decide) ?_
    refine zw_icmp_ge (tgt := 145) hx hb hf dX5_part0_99 (by decide) (fun hf => ?_) (fun hf => ?_)
    · exact k_X5_part0_145 X P d hP _ r1.2 a0 i1 _ _ _ hf hw (lv_sub hl [0, 1] rfl)
    · refine lv_aload_n hx hb dX5_part0_102 rfl (lv_at hl 0 rfl) ?_
      refine lv_dup hx hb dX5_part0_103 rfl ?_
      refine zw_getI X hw fs_X5_22 q1292 rfl hf dX5_part0_104 (fun v3 hf => ?_)
      refine lv_iconst (v := (1 : Int32)) hx hb dX5_part0_107 (by decide) ?_
      refine lv_iadd hx hb dX5_part0_108 ?_
      refine zw_put X hw fs_X5_22 q1292 rfl rfl rfl rfl hf dX5_part0_109 (fun h4 H locs hf hw => ?_)
      refine lv_aload_n hx hb dX5_part0_112 rfl (lv_at hl 0 rfl) ?_
      refine zw_cVV (rest := []) [] X hw hl.1 hf rfl rfl (fun r hr => mt_X5_nextToken l D A E X.2.2.2.2.2.1 h4 a0 r hr) (lw_V q1634 q1636 qs65 q89 q1637) cd_X5_nextToken ⟨rfl, rfl⟩ ⟨by dsimp only; omega, by dsimp only; omega⟩ rfl rfl (Nat.le_of_ble_eq_true rfl) dX5_part0_113 ⟨Nat.le_of_ble_eq_true rfl, Nat.le_of_ble_eq_true rfl⟩ (fun r5 H locs hf hw => ?_)
      refine lv_aload_n hx hb dX5_part0_116 rfl (lv_at hl 0 rfl) ?_
      refine lv_iload_n hx hb dX5_part0_117 rfl (lv_at hl 1 rfl) ?_
      refine zw_cVZ (rest := []) [.int i1] X hw hl.1 hf rfl rfl (fun r hr => hP r5 a0 i1 r hr) (lw_V q1678 q1680 qs75 q89 q1681) cd_X5_part0 ⟨rfl, rfl⟩ ⟨by dsimp only; omega, by dsimp only; omega⟩ rfl rfl (Nat.le_of_ble_eq_true rfl) dX5_part0_118 ⟨Nat.le_of_ble_eq_true rfl, Nat.le_of_ble_eq_true rfl⟩ (fun r6 H locs hf hw => ?_)
      refine zw_if_ne (tgt := 126) hx hb hf dX5_part0_121 (by decide) (fun hf => ?_) (fun hf => ?_)
      · refine lv_aload_n hx hb dX5_part0_126 rfl (lv_at hl 0 rfl) ?_
        refine lv_dup hx hb dX5_part0_127 rfl ?_
        refine zw_getI X hw fs_X5_22 q1292 rfl hf dX5_part0_128 (fun v7 hf => ?_)
        refine lv_iconst (v := (1 : Int32)) hx hb dX5_part0_131 (by decide) ?_
        refine lv_isub hx hb dX5_part0_132 ?_
        refine zw_put X hw fs_X5_22 q1292 rfl rfl rfl rfl hf dX5_part0_133 (fun h8 H locs hf hw => ?_)
        refine lv_aload_n hx hb dX5_part0_136 rfl (lv_at hl 0 rfl) ?_
        refine lv_iconst (v := (2 : Int32)) hx hb dX5_part0_137 (by decide) ?_
        refine lv_bipush (v := (33 : Int32)) hx hb dX5_part0_138 (by decide) ?_
        refine zw_cVV (rest := []) [.int (2 : Int32), .int (33 : Int32)] X hw hl.1 hf rfl rfl (fun r hr => mt_X5_step l D A E X.2.2.2.2.2.1 h8 a0 (2 : Int32) (33 : Int32) r hr) (lw_V q1682 q1684 qs76 q89 q1685) cd_X5_step ⟨rfl, rfl⟩ ⟨by dsimp only; omega, by dsimp only; omega⟩ rfl rfl (Nat.le_of_ble_eq_true rfl) dX5_part0_140 ⟨Nat.le_of_ble_eq_true rfl, Nat.le_of_ble_eq_true rfl⟩ (fun r9 H locs hf hw => ?_)
        refine lv_iconst (v := (1 : Int32)) hx hb dX5_part0_143 (by decide) ?_
        exact zw_zret X hw hf (Nat.le_of_ble_eq_true rfl) (Nat.le_of_ble_eq_true rfl) dX5_part0_144
      · refine lv_iconst (v := (0 : Int32)) hx hb dX5_part0_124 (by decide) ?_
        exact zw_zret X hw hf (Nat.le_of_ble_eq_true rfl) (Nat.le_of_ble_eq_true rfl) dX5_part0_125
set_option maxHeartbeats 4000000 in
theorem mt_X5_part0B (l : Launch) (D : va_G) (A : Nat → Prop) (E : State → Prop) (hE : zEok A E) (P : zT → Nat → Int32 → Option (Int32 × zT)) (d : Nat) (hP : ∀ (h : zT) (a0 : Nat) (i1 : Int32) (res : Int32 × zT), P h a0 i1 = some res → Met l yX5_part0 (ws_ yX5_part0 cX5_part0 2 (Option.some FieldType.boolean)) (rm_X5_part0 d) (zPW D A E h [.ref a0, .int i1]) (zQW D A (some (.int res.1)) res.2) 0 0 A) (h : zT) (a0 : Nat) (i1 : Int32) (res : Int32 × zT) (hf : f_X5_part0B P h a0 i1 = some res) : Met l yX5_part0 (ws_ yX5_part0 cX5_part0 2 (Option.some FieldType.boolean)) (rm_X5_part0 (d + 1)) (zPW D A E h [.ref a0, .int i1]) (zQW D A (some (.int res.1)) res.2) 0 0 A := by
  refine zmt hE (by decide) (Nat.le_of_ble_eq_true rfl) ?_
  intro p e s m below meth c ls hmn X hw hl
  have hl : lv_has ls 2 [(0, .ref a0), (1, .int i1)] := hl
  have hx := X.1.1
  have hb := X.1.2.1
  have hown := X.1.2.2.2.1
  have hts := X.1.2.2.2.2
  unfold f_X5_part0B at hf
  refine lv_aload_n hx hb dX5_part0_0 rfl (lv_at hl 0 rfl) ?_
  refine zw_getI X hw fs_X5_18 q1288 rfl hf dX5_part0_1 (fun v1 hf => ?_)
  refine lv_iconst (v := (2 : Int32)) hx hb dX5_part0_4 (by decide) ?_
  refine zw_icmp_ne (tgt := 33) hx hb hf dX5_part0_5 (by decide) (fun hf => ?_) (fun hf => ?_)
  · refine lv_aload_n hx hb dX5_part0_33 rfl (lv_at hl 0 rfl) ?_
    refine zw_getI X hw fs_X5_18 q1288 rfl hf dX5_part0_34 (fun v2 hf => ?_)
    refine lv_iconst (v := (1 : Int32)) hx hb dX5_part0_37 (by decide) ?_
    refine zw_icmp_ne (tgt := 84) hx hb hf dX5_part0_38 (by decide) (fun hf => ?_) (fun hf => ?_)
    · exact k_X5_part0_84 X P d hP _ h a0 i1 _ _ _ hf hw (lv_sub hl [0, 1] rfl)
    · refine lv_aload_n hx hb dX5_part0_41 rfl (lv_at hl 0 rfl) ?_
      refine zw_getI X hw fs_X5_20 q1290 rfl hf dX5_part0_42 (fun v3 hf => ?_)
      refine zw_if_eq (tgt := 84) hx hb hf dX5_part0_45 (by decide) (fun hf => ?_) (fun hf => ?_)
      · exact k_X5_part0_84 X P d hP _ h a0 i1 _ _ _ hf hw (lv_sub hl [0, 1] rfl)
      · refine lv_iload_n hx hb dX5_part0_48 rfl (lv_at hl 1 rfl) ?_
        refine lv_aload_n hx hb dX5_part0_49 rfl (lv_at hl 0 rfl) ?_
        refine zw_getI X hw fs_X5_20 q1290 rfl hf dX5_part0_50 (fun v4 hf => ?_)
        refine zw_cSZ (rest := []) [.int i1, .int v4] X hw hl.1 hf (fun r hr => mt_X5_isName l D A E X.2.2.2.2.2.1 h i1 v4 r hr) (lw_S q1686 q1687 q89 q1688) cd_X5_isName ⟨rfl, rfl⟩ ⟨by dsimp only; omega, by dsimp only; omega⟩ rfl rfl (Nat.le_of_ble_eq_true rfl) dX5_part0_53 ⟨Nat.le_of_ble_eq_true rfl, Nat.le_of_ble_eq_true rfl⟩ (fun r5 H locs hf hw => ?_)
        refine zw_if_eq (tgt := 84) hx hb hf dX5_part0_56 (by decide) (fun hf => ?_) (fun hf => ?_)
        · exact k_X5_part0_84 X P d hP _ r5.2 a0 i1 _ _ _ hf hw (lv_sub hl [0, 1] rfl)
        · refine lv_aload_n hx hb dX5_part0_59 rfl (lv_at hl 0 rfl) ?_
          refine lv_iconst (v := (1 : Int32)) hx hb dX5_part0_60 (by decide) ?_
          refine lv_aload_n hx hb dX5_part0_61 rfl (lv_at hl 0 rfl) ?_
          refine zw_getI X hw fs_X5_20 q1290 rfl hf dX5_part0_62 (fun v6 hf => ?_)
          refine zw_cVV (rest := []) [.int (1 : Int32), .int v6] X hw hl.1 hf rfl rfl (fun r hr => mt_X5_step l D A E X.2.2.2.2.2.1 r5.2 a0 (1 : Int32) v6 r hr) (lw_V q1682 q1684 qs76 q89 q1685) cd_X5_step ⟨rfl, rfl⟩ ⟨by dsimp only; omega, by dsimp only; omega⟩ rfl rfl (Nat.le_of_ble_eq_true rfl) dX5_part0_65 ⟨Nat.le_of_ble_eq_true rfl, Nat.le_of_ble_eq_true rfl⟩ (fun r7 H locs hf hw => ?_)
          refine lv_aload_n hx hb dX5_part0_68 rfl (lv_at hl 0 rfl) ?_
          refine lv_dup hx hb dX5_part0_69 rfl ?_
          refine zw_getI X hw fs_X5_25 q1295 rfl hf dX5_part0_70 (fun v8 hf => ?_)
          refine lv_iconst (v := (1 : Int32)) hx hb dX5_part0_73 (by decide) ?_
          refine lv_iadd hx hb dX5_part0_74 ?_
          refine zw_put X hw fs_X5_25 q1295 rfl rfl rfl rfl hf dX5_part0_75 (fun h9 H locs hf hw => ?_)
          refine lv_aload_n hx hb dX5_part0_78 rfl (lv_at hl 0 rfl) ?_
          refine zw_cVV (rest := []) [] X hw hl.1 hf rfl rfl (fun r hr => mt_X5_nextToken l D A E X.2.2.2.2.2.1 h9 a0 r hr) (lw_V q1634 q1636 qs65 q89 q1637) cd_X5_nextToken ⟨rfl, rfl⟩ ⟨by dsimp only; omega, by dsimp only; omega⟩ rfl rfl (Nat.le_of_ble_eq_true rfl) dX5_part0_79 ⟨Nat.le_of_ble_eq_true rfl, Nat.le_of_ble_eq_true rfl⟩ (fun r10 H locs hf hw => ?_)
          refine lv_iconst (v := (1 : Int32)) hx hb dX5_part0_82 (by decide) ?_
          exact zw_zret X hw hf (Nat.le_of_ble_eq_true rfl) (Nat.le_of_ble_eq_true rfl) dX5_part0_83
  · refine lv_aload_n hx hb dX5_part0_8 rfl (lv_at hl 0 rfl) ?_
    refine lv_iconst (v := (0 : Int32)) hx hb dX5_part0_9 (by decide) ?_
    refine lv_aload_n hx hb dX5_part0_10 rfl (lv_at hl 0 rfl) ?_
    refine zw_getI X hw fs_X5_19 q1289 rfl hf dX5_part0_11 (fun v11 hf => ?_)
    refine zw_cVV (rest := []) [.int (0 : Int32), .int v11] X hw hl.1 hf rfl rfl (fun r hr => mt_X5_step l D A E X.2.2.2.2.2.1 h a0 (0 : Int32) v11 r hr) (lw_V q1682 q1684 qs76 q89 q1685) cd_X5_step ⟨rfl, rfl⟩ ⟨by dsimp only; omega, by dsimp only; omega⟩ rfl rfl (Nat.le_of_ble_eq_true rfl) dX5_part0_14 ⟨Nat.le_of_ble_eq_true rfl, Nat.le_of_ble_eq_true rfl⟩ (fun r12 H locs hf hw => ?_)
    refine lv_aload_n hx hb dX5_part0_17 rfl (lv_at hl 0 rfl) ?_
    refine lv_dup hx hb dX5_part0_18 rfl ?_
    refine zw_getI X hw fs_X5_25 q1295 rfl hf dX5_part0_19 (fun v13 hf => ?_)
    refine lv_iconst (v := (1 : Int32)) hx hb dX5_part0_22 (by decide) ?_
    refine lv_iadd hx hb dX5_part0_23 ?_
    refine zw_put X hw fs_X5_25 q1295 rfl rfl rfl rfl hf dX5_part0_24 (fun h14 H locs hf hw => ?_)
    refine lv_aload_n hx hb dX5_part0_27 rfl (lv_at hl 0 rfl) ?_
    refine zw_cVV (rest := []) [] X hw hl.1 hf rfl rfl (fun r hr => mt_X5_nextToken l D A E X.2.2.2.2.2.1 h14 a0 r hr) (lw_V q1634 q1636 qs65 q89 q1637) cd_X5_nextToken ⟨rfl, rfl⟩ ⟨by dsimp only; omega, by dsimp only; omega⟩ rfl rfl (Nat.le_of_ble_eq_true rfl) dX5_part0_28 ⟨Nat.le_of_ble_eq_true rfl, Nat.le_of_ble_eq_true rfl⟩ (fun r15 H locs hf hw => ?_)
    refine lv_iconst (v := (1 : Int32)) hx hb dX5_part0_31 (by decide) ?_
    exact zw_zret X hw hf (Nat.le_of_ble_eq_true rfl) (Nat.le_of_ble_eq_true rfl) dX5_part0_32
theorem mt_X5_part0 (l : Launch) (D : va_G) (A : Nat → Prop) (E : State → Prop) (hE : zEok A E) : ∀ (d : Nat) (h : zT) (a0 : Nat) (i1 : Int32) (res : Int32 × zT), f_X5_part0 d h a0 i1 = some res → Met l yX5_part0 (ws_ yX5_part0 cX5_part0 2 (Option.some FieldType.boolean)) (rm_X5_part0 d) (zPW D A E h [.ref a0, .int i1]) (zQW D A (some (.int res.1)) res.2) 0 0 A := by
  intro d
  induction d with
  | zero =>
    intro h a0 i1 res hf
    cases hf
  | succ d ih =>
    intro h a0 i1 res hf
    exact mt_X5_part0B l D A E hE (f_X5_part0 d) d ih h a0 i1 res hf
set_option maxHeartbeats 4000000 in
theorem k_X5_init_163 {p : Program} {l : Launch} {e : Env} {s : State} {m : MethodId} {args : Array Value} {below : List Frame} {meth : Method} {c : Code} {D : va_G} {A : Nat → Prop} {E : State → Prop} (X : zCx p s m args meth c D A E cX5_init 2 RX5 (Option.none : Option FieldType)) (res : zT) (hin : meth.name = "<init>") : ∀ (n : Nat), ∀ (h : zT) (a0 : Nat) (i1 : Int32) (H : Heap) (locs : List Loc) (ls : Array Slot), f_X5_init_163 n h a0 i1 = some res → zWh D A s H h locs → lv_has ls 2 [(0, .ref a0), (1, .int i1)] → W p l e rm_X5_init s m args below meth c H locs 19 10021 (MQ below (zQW D A none res) args s 19 10021 A) (F0 m 163 ls []) := by
  have hx := X.1.1
  have hb := X.1.2.1
  have hown := X.1.2.2.2.1
  have hts := X.1.2.2.2.2
  intro n
  induction n with
  | zero =>
    intro h a0 i1 H locs ls hf hw hl
    cases hf
  | succ n ih =>
    intro h a0 i1 H locs ls hf hw hl
    unfold f_X5_init_163 at hf
    refine lv_iload_n hx hb dX5_init_163 rfl (lv_at hl 1 rfl) ?_
    refine lv_iconst (v := (4 : Int32)) hx hb dX5_init_164 (by decide) ?_
    refine zw_icmp_ge (tgt := 181) hx hb hf dX5_init_165 (by decide) (fun hf => ?_) (fun hf => ?_)
    · exact zw_vret X hw hf (Nat.le_of_ble_eq_true rfl) (Nat.le_of_ble_eq_true rfl) dX5_init_181
    · refine lv_aload_n hx hb dX5_init_168 rfl (lv_at hl 0 rfl) ?_
      refine zw_getR X hw fs_X5_4 q1274 rfl hf dX5_init_169 (fun v1 hf => ?_)
      refine lv_iload_n hx hb dX5_init_172 rfl (lv_at hl 1 rfl) ?_
      refine lv_iconst (v := (-1 : Int32)) hx hb dX5_init_173 (by decide) ?_
      refine zw_iastore X hw hf dX5_init_174 (fun h2 H locs hf hw => ?_)
      refine zw_nmS hf (fun v3 ev3 hf => ?_)
      refine lv_iinc (k := 1) (v := v3) (lv' := [(1, .int v3), (0, .ref a0)]) hx hb dX5_init_175 hl rfl (by rw [ev3]; rfl) (by decide) rfl (fun ls hl => ?_)
      refine lv_goto (tgt := 163) hx hb dX5_init_178 (by decide) ?_
      exact ih h2 a0 v3 _ _ _ hf hw (lv_sub hl [1, 0] rfl)
set_option maxHeartbeats 4000000 in
theorem mt_X5_init (l : Launch) (D : va_G) (A : Nat → Prop) (E : State → Prop) (hE : zEok A E) (h : zT) (a0 : Nat) (res : zT) (hf : f_X5_init h a0 = some res) : Met l yX5_init (ws_ yX5_init cX5_init 2 (Option.none : Option FieldType)) rm_X5_init (zPW D A E h [.ref a0]) (zQW D A none res) 19 10021 A := by
  refine zmt hE (by decide) (Nat.le_of_ble_eq_true rfl) ?_
  intro p e s m below meth c ls hmn X hw hl
  have hl : lv_has ls 2 [(0, .ref a0)] := hl
  have hx := X.1.1
  have hb := X.1.2.1
  have hown := X.1.2.2.2.1
  have hts := X.1.2.2.2.2
  have hin : meth.name = "<init>" := hmn
  unfold f_X5_init at hf
  refine lv_aload_n hx hb dX5_init_0 rfl (lv_at hl 0 rfl) ?_
  refine W.objInit hx hb hown (hts _ q1269) (hts _ q114) (hts _ q115) rfl (by rw [X.1.2.2.1]; exact hl.1) rfl dX5_init_1 (Nat.le_of_ble_eq_true rfl) (Nat.le_of_ble_eq_true rfl) ?_
  refine W.eq (g2 := F0 m 4 ls []) rfl ?_
  refine lv_aload_n hx hb dX5_init_4 rfl (lv_at hl 0 rfl) ?_
  refine lv_sipush (v := (3075 : Int32)) hx hb dX5_init_5 (by decide) ?_
  refine zw_newa (N := 3075) X hw q159 hf rfl (Nat.le_of_ble_eq_true rfl) (Nat.le_of_ble_eq_true rfl) (Nat.le_of_ble_eq_true rfl) dX5_init_8 (fun r1 H hf hw => ?_)
  refine zw_putF X hin hw fs_X5_0 q1270 rfl rfl rfl rfl rfl hf dX5_init_10 (fun h2 H locs hf hw => ?_)
  refine lv_aload_n hx hb dX5_init_13 rfl (lv_at hl 0 rfl) ?_
  refine lv_sipush (v := (3075 : Int32)) hx hb dX5_init_14 (by decide) ?_
  refine zw_newa (N := 3075) X hw q159 hf rfl (Nat.le_of_ble_eq_true rfl) (Nat.le_of_ble_eq_true rfl) (Nat.le_of_ble_eq_true rfl) dX5_init_17 (fun r3 H hf hw => ?_)
  refine zw_putF X hin hw fs_X5_1 q1271 rfl rfl rfl rfl rfl hf dX5_init_19 (fun h4 H locs hf hw => ?_)
  refine lv_aload_n hx hb dX5_init_22 rfl (lv_at hl 0 rfl) ?_
  refine lv_sipush (v := (3075 : Int32)) hx hb dX5_init_23 (by decide) ?_
  refine zw_newa (N := 3075) X hw q159 hf rfl (Nat.le_of_ble_eq_true rfl) (Nat.le_of_ble_eq_true rfl) (Nat.le_of_ble_eq_true rfl) dX5_init_26 (fun r5 H hf hw => ?_)
  refine zw_putF X hin hw fs_X5_2 q1272 rfl rfl rfl rfl rfl hf dX5_init_28 (fun h6 H locs hf hw => ?_)
  refine lv_aload_n hx hb dX5_init_31 rfl (lv_at hl 0 rfl) ?_
  refine lv_iconst (v := (4 : Int32)) hx hb dX5_init_32 (by decide) ?_
  refine zw_newa (N := 4) X hw q159 hf rfl (Nat.le_of_ble_eq_true rfl) (Nat.le_of_ble_eq_true rfl) (Nat.le_of_ble_eq_true rfl) dX5_init_33 (fun r7 H hf hw => ?_)
  refine zw_putF X hin hw fs_X5_4 q1274 rfl rfl rfl rfl rfl hf dX5_init_35 (fun h8 H locs hf hw => ?_)
  refine lv_aload_n hx hb dX5_init_38 rfl (lv_at hl 0 rfl) ?_
  refine lv_iconst (v := (4 : Int32)) hx hb dX5_init_39 (by decide) ?_
  refine zw_newa (N := 4) X hw q159 hf rfl (Nat.le_of_ble_eq_true rfl) (Nat.le_of_ble_eq_true rfl) (Nat.le_of_ble_eq_true rfl) dX5_init_40 (fun r9 H hf hw => ?_)
  refine zw_putF X hin hw fs_X5_5 q1275 rfl rfl rfl rfl rfl hf dX5_init_42 (fun h10 H locs hf hw => ?_)
  refine lv_aload_n hx hb dX5_init_45 rfl (lv_at hl 0 rfl) ?_
  refine lv_bipush (v := (96 : Int32)) hx hb dX5_init_46 (by decide) ?_
  refine zw_newa (N := 96) X hw q159 hf rfl (Nat.le_of_ble_eq_true rfl) (Nat.le_of_ble_eq_true rfl) (Nat.le_of_ble_eq_true rfl) dX5_init_48 (fun r11 H hf hw => ?_)
  refine zw_putF X hin hw fs_X5_6 q1276 rfl rfl rfl rfl rfl hf dX5_init_50 (fun h12 H locs hf hw => ?_)
  refine lv_aload_n hx hb dX5_init_53 rfl (lv_at hl 0 rfl) ?_
  refine lv_iconst (v := (5 : Int32)) hx hb dX5_init_54 (by decide) ?_
  refine zw_newa (N := 5) X hw q159 hf rfl (Nat.le_of_ble_eq_true rfl) (Nat.le_of_ble_eq_true rfl) (Nat.le_of_ble_eq_true rfl) dX5_init_55 (fun r13 H hf hw => ?_)
  refine zw_putF X hin hw fs_X5_7 q1277 rfl rfl rfl rfl rfl hf dX5_init_57 (fun h14 H locs hf hw => ?_)
  refine lv_aload_n hx hb dX5_init_60 rfl (lv_at hl 0 rfl) ?_
  refine lv_iconst (v := (5 : Int32)) hx hb dX5_init_61 (by decide) ?_
  refine zw_newa (N := 5) X hw q159 hf rfl (Nat.le_of_ble_eq_true rfl) (Nat.le_of_ble_eq_true rfl) (Nat.le_of_ble_eq_true rfl) dX5_init_62 (fun r15 H hf hw => ?_)
  refine zw_putF X hin hw fs_X5_8 q1278 rfl rfl rfl rfl rfl hf dX5_init_64 (fun h16 H locs hf hw => ?_)
  refine lv_aload_n hx hb dX5_init_67 rfl (lv_at hl 0 rfl) ?_
  refine lv_iconst (v := (5 : Int32)) hx hb dX5_init_68 (by decide) ?_
  refine zw_newa (N := 5) X hw q159 hf rfl (Nat.le_of_ble_eq_true rfl) (Nat.le_of_ble_eq_true rfl) (Nat.le_of_ble_eq_true rfl) dX5_init_69 (fun r17 H hf hw => ?_)
  refine zw_putF X hin hw fs_X5_9 q1279 rfl rfl rfl rfl rfl hf dX5_init_71 (fun h18 H locs hf hw => ?_)
  refine lv_aload_n hx hb dX5_init_74 rfl (lv_at hl 0 rfl) ?_
  refine lv_iconst (v := (5 : Int32)) hx hb dX5_init_75 (by decide) ?_
  refine zw_newa (N := 5) X hw q159 hf rfl (Nat.le_of_ble_eq_true rfl) (Nat.le_of_ble_eq_true rfl) (Nat.le_of_ble_eq_true rfl) dX5_init_76 (fun r19 H hf hw => ?_)
  refine zw_putF X hin hw fs_X5_10 q1280 rfl rfl rfl rfl rfl hf dX5_init_78 (fun h20 H locs hf hw => ?_)
  refine lv_aload_n hx hb dX5_init_81 rfl (lv_at hl 0 rfl) ?_
  refine lv_bipush (v := (120 : Int32)) hx hb dX5_init_82 (by decide) ?_
  refine zw_newa (N := 120) X hw q159 hf rfl (Nat.le_of_ble_eq_true rfl) (Nat.le_of_ble_eq_true rfl) (Nat.le_of_ble_eq_true rfl) dX5_init_84 (fun r21 H hf hw => ?_)
  refine zw_putF X hin hw fs_X5_11 q1281 rfl rfl rfl rfl rfl hf dX5_init_86 (fun h22 H locs hf hw => ?_)
  refine lv_aload_n hx hb dX5_init_89 rfl (lv_at hl 0 rfl) ?_
  refine lv_bipush (v := (9 : Int32)) hx hb dX5_init_90 (by decide) ?_
  refine zw_newa (N := 9) X hw q159 hf rfl (Nat.le_of_ble_eq_true rfl) (Nat.le_of_ble_eq_true rfl) (Nat.le_of_ble_eq_true rfl) dX5_init_92 (fun r23 H hf hw => ?_)
  refine zw_putF X hin hw fs_X5_12 q1282 rfl rfl rfl rfl rfl hf dX5_init_94 (fun h24 H locs hf hw => ?_)
  refine lv_aload_n hx hb dX5_init_97 rfl (lv_at hl 0 rfl) ?_
  refine lv_bipush (v := (75 : Int32)) hx hb dX5_init_98 (by decide) ?_
  refine zw_newa (N := 75) X hw q159 hf rfl (Nat.le_of_ble_eq_true rfl) (Nat.le_of_ble_eq_true rfl) (Nat.le_of_ble_eq_true rfl) dX5_init_100 (fun r25 H hf hw => ?_)
  refine zw_putF X hin hw fs_X5_13 q1283 rfl rfl rfl rfl rfl hf dX5_init_102 (fun h26 H locs hf hw => ?_)
  refine lv_aload_n hx hb dX5_init_105 rfl (lv_at hl 0 rfl) ?_
  refine lv_bipush (v := (96 : Int32)) hx hb dX5_init_106 (by decide) ?_
  refine zw_newa (N := 96) X hw q159 hf rfl (Nat.le_of_ble_eq_true rfl) (Nat.le_of_ble_eq_true rfl) (Nat.le_of_ble_eq_true rfl) dX5_init_108 (fun r27 H hf hw => ?_)
  refine zw_putF X hin hw fs_X5_14 q1284 rfl rfl rfl rfl rfl hf dX5_init_110 (fun h28 H locs hf hw => ?_)
  refine lv_aload_n hx hb dX5_init_113 rfl (lv_at hl 0 rfl) ?_
  refine lv_sipush (v := (128 : Int32)) hx hb dX5_init_114 (by decide) ?_
  refine zw_newa (N := 128) X hw q159 hf rfl (Nat.le_of_ble_eq_true rfl) (Nat.le_of_ble_eq_true rfl) (Nat.le_of_ble_eq_true rfl) dX5_init_117 (fun r29 H hf hw => ?_)
  refine zw_putF X hin hw fs_X5_26 q1296 rfl rfl rfl rfl rfl hf dX5_init_119 (fun h30 H locs hf hw => ?_)
  refine lv_aload_n hx hb dX5_init_122 rfl (lv_at hl 0 rfl) ?_
  refine lv_bipush (v := (100 : Int32)) hx hb dX5_init_123 (by decide) ?_
  refine zw_newa (N := 100) X hw q159 hf rfl (Nat.le_of_ble_eq_true rfl) (Nat.le_of_ble_eq_true rfl) (Nat.le_of_ble_eq_true rfl) dX5_init_125 (fun r31 H hf hw => ?_)
  refine zw_putF X hin hw fs_X5_27 q1297 rfl rfl rfl rfl rfl hf dX5_init_127 (fun h32 H locs hf hw => ?_)
  refine lv_aload_n hx hb dX5_init_130 rfl (lv_at hl 0 rfl) ?_
  refine lv_bipush (v := (24 : Int32)) hx hb dX5_init_131 (by decide) ?_
  refine zw_newa (N := 24) X hw q159 hf rfl (Nat.le_of_ble_eq_true rfl) (Nat.le_of_ble_eq_true rfl) (Nat.le_of_ble_eq_true rfl) dX5_init_133 (fun r33 H hf hw => ?_)
  refine zw_putF X hin hw fs_X5_28 q1298 rfl rfl rfl rfl rfl hf dX5_init_135 (fun h34 H locs hf hw => ?_)
  refine lv_aload_n hx hb dX5_init_138 rfl (lv_at hl 0 rfl) ?_
  refine lv_bipush (v := (60 : Int32)) hx hb dX5_init_139 (by decide) ?_
  refine zw_newa (N := 60) X hw q159 hf rfl (Nat.le_of_ble_eq_true rfl) (Nat.le_of_ble_eq_true rfl) (Nat.le_of_ble_eq_true rfl) dX5_init_141 (fun r35 H hf hw => ?_)
  refine zw_putF X hin hw fs_X5_29 q1299 rfl rfl rfl rfl rfl hf dX5_init_143 (fun h36 H locs hf hw => ?_)
  refine lv_aload_n hx hb dX5_init_146 rfl (lv_at hl 0 rfl) ?_
  refine lv_bipush (v := (60 : Int32)) hx hb dX5_init_147 (by decide) ?_
  refine zw_newa (N := 60) X hw q159 hf rfl (Nat.le_of_ble_eq_true rfl) (Nat.le_of_ble_eq_true rfl) (Nat.le_of_ble_eq_true rfl) dX5_init_149 (fun r37 H hf hw => ?_)
  refine zw_putF X hin hw fs_X5_31 q1301 rfl rfl rfl rfl rfl hf dX5_init_151 (fun h38 H locs hf hw => ?_)
  refine lv_aload_n hx hb dX5_init_154 rfl (lv_at hl 0 rfl) ?_
  refine zw_getR X hw fs_X5_0 q1270 rfl hf dX5_init_155 (fun v39 hf => ?_)
  refine lv_iconst (v := (4 : Int32)) hx hb dX5_init_158 (by decide) ?_
  refine lv_iconst (v := (1 : Int32)) hx hb dX5_init_159 (by decide) ?_
  refine zw_iastore X hw hf dX5_init_160 (fun h40 H locs hf hw => ?_)
  refine lv_iconst (v := (0 : Int32)) hx hb dX5_init_161 (by decide) ?_
  refine lv_istore_n (lv' := [(1, .int (0 : Int32)), (0, .ref a0)]) hx hb dX5_init_162 rfl hl (by decide) rfl (fun ls hl => ?_)
  exact k_X5_init_163 X _ hin 4096 h40 a0 (0 : Int32) _ _ _ hf hw (lv_sub hl [1, 0] rfl)
set_option maxHeartbeats 4000000 in
theorem mt_X5_sets (l : Launch) (D : va_G) (A : Nat → Prop) (E : State → Prop) (hE : zEok A E) (h : zT) (a0 : Nat) (i1 : Int32) (i2 : Int32) (i3 : Int32) (res : zT) (hf : f_X5_sets h a0 i1 i2 i3 = some res) : Met l yX5_sets (ws_ yX5_sets cX5_sets 4 (Option.none : Option FieldType)) rm_X5_sets (zPW D A E h [.ref a0, .int i1, .int i2, .int i3]) (zQW D A none res) 0 0 A := by
  refine zmt hE (by decide) (Nat.le_of_ble_eq_true rfl) ?_
  intro p e s m below meth c ls hmn X hw hl
  have hl : lv_has ls 4 [(0, .ref a0), (1, .int i1), (2, .int i2), (3, .int i3)] := hl
  have hx := X.1.1
  have hb := X.1.2.1
  have hown := X.1.2.2.2.1
  have hts := X.1.2.2.2.2
  unfold f_X5_sets at hf
  refine lv_aload_n hx hb dX5_sets_0 rfl (lv_at hl 0 rfl) ?_
  refine zw_getR X hw fs_X5_0 q1270 rfl hf dX5_sets_1 (fun v1 hf => ?_)
  refine lv_bipush (v := (21 : Int32)) hx hb dX5_sets_4 (by decide) ?_
  refine lv_bipush (v := (6 : Int32)) hx hb dX5_sets_6 (by decide) ?_
  refine lv_iload_n hx hb dX5_sets_8 rfl (lv_at hl 1 rfl) ?_
  refine lv_imul hx hb dX5_sets_9 ?_
  refine lv_iadd hx hb dX5_sets_10 ?_
  refine lv_iload_n hx hb dX5_sets_11 rfl (lv_at hl 2 rfl) ?_
  refine lv_iadd hx hb dX5_sets_12 ?_
  refine lv_iload_n hx hb dX5_sets_13 rfl (lv_at hl 3 rfl) ?_
  refine zw_iastore X hw hf dX5_sets_14 (fun h2 H locs hf hw => ?_)
  exact zw_vret X hw hf (Nat.le_of_ble_eq_true rfl) (Nat.le_of_ble_eq_true rfl) dX5_sets_15
set_option maxHeartbeats 4000000 in
theorem mt_X5_comes (l : Launch) (D : va_G) (A : Nat → Prop) (E : State → Prop) (hE : zEok A E) (h : zT) (a0 : Nat) (i1 : Int32) (i2 : Int32) (i3 : Int32) (res : zT) (hf : f_X5_comes h a0 i1 i2 i3 = some res) : Met l yX5_comes (ws_ yX5_comes cX5_comes 5 (Option.none : Option FieldType)) rm_X5_comes (zPW D A E h [.ref a0, .int i1, .int i2, .int i3]) (zQW D A none res) 0 0 A := by
  refine zmt hE (by decide) (Nat.le_of_ble_eq_true rfl) ?_
  intro p e s m below meth c ls hmn X hw hl
  have hl : lv_has ls 5 [(0, .ref a0), (1, .int i1), (2, .int i2), (3, .int i3)] := hl
  have hx := X.1.1
  have hb := X.1.2.1
  have hown := X.1.2.2.2.1
  have hts := X.1.2.2.2.2
  unfold f_X5_comes at hf
  refine lv_aload_n hx hb dX5_comes_0 rfl (lv_at hl 0 rfl) ?_
  refine zw_getR X hw fs_X5_0 q1270 rfl hf dX5_comes_1 (fun v1 hf => ?_)
  refine lv_iconst (v := (0 : Int32)) hx hb dX5_comes_4 (by decide) ?_
  refine zw_ialoadR X hw hf dX5_comes_5 (fun v2 hf => ?_)
  refine lv_istore (lv' := [(4, .int v2), (0, .ref a0), (1, .int i1), (2, .int i2), (3, .int i3)]) hx hb dX5_comes_6 hl (by decide) rfl (fun ls hl => ?_)
  refine lv_aload_n hx hb dX5_comes_8 rfl (lv_at hl 1 rfl) ?_
  refine zw_getR X hw fs_X5_0 q1270 rfl hf dX5_comes_9 (fun v3 hf => ?_)
  refine lv_iconst (v := (0 : Int32)) hx hb dX5_comes_12 (by decide) ?_
  refine lv_dup2_11 hx hb dX5_comes_13 rfl rfl ?_
  refine zw_ialoadR X hw hf dX5_comes_14 (fun v4 hf => ?_)
  refine lv_iconst (v := (1 : Int32)) hx hb dX5_comes_15 (by decide) ?_
  refine lv_iadd hx hb dX5_comes_16 ?_
  refine zw_iastore X hw hf dX5_comes_17 (fun h5 H locs hf hw => ?_)
  refine lv_aload_n hx hb dX5_comes_18 rfl (lv_at hl 1 rfl) ?_
  refine lv_iload hx hb dX5_comes_19 (lv_at hl 0 rfl) ?_
  refine lv_iconst (v := (0 : Int32)) hx hb dX5_comes_21 (by decide) ?_
  refine lv_iload_n hx hb dX5_comes_22 rfl (lv_at hl 2 rfl) ?_
  refine zw_cVV (rest := []) [.int v2, .int (0 : Int32), .int i1] X hw hl.1 hf rfl rfl (fun r hr => mt_X5_sets l D A E X.2.2.2.2.2.1 h5 a0 v2 (0 : Int32) i1 r hr) (lw_V q1383 q1385 qs37 q89 q1386) cd_X5_sets ⟨rfl, rfl⟩ ⟨Nat.le_of_ble_eq_true rfl, Nat.le_of_ble_eq_true rfl⟩ rfl rfl (Nat.le_of_ble_eq_true rfl) dX5_comes_23 ⟨Nat.le_of_ble_eq_true rfl, Nat.le_of_ble_eq_true rfl⟩ (fun r6 H locs hf hw => ?_)
  refine lv_aload_n hx hb dX5_comes_26 rfl (lv_at hl 1 rfl) ?_
  refine lv_iload hx hb dX5_comes_27 (lv_at hl 0 rfl) ?_
  refine lv_iconst (v := (1 : Int32)) hx hb dX5_comes_29 (by decide) ?_
  refine lv_iload_n hx hb dX5_comes_30 rfl (lv_at hl 3 rfl) ?_
  refine zw_cVV (rest := []) [.int v2, .int (1 : Int32), .int i2] X hw hl.1 hf rfl rfl (fun r hr => mt_X5_sets l D A E X.2.2.2.2.2.1 r6 a0 v2 (1 : Int32) i2 r hr) (lw_V q1383 q1385 qs37 q89 q1386) cd_X5_sets ⟨rfl, rfl⟩ ⟨Nat.le_of_ble_eq_true rfl, Nat.le_of_ble_eq_true rfl⟩ rfl rfl (Nat.le_of_ble_eq_true rfl) dX5_comes_31 ⟨Nat.le_of_ble_eq_true rfl, Nat.le_of_ble_eq_true rfl⟩ (fun r7 H locs hf hw => ?_)
  refine lv_aload_n hx hb dX5_comes_34 rfl (lv_at hl 1 rfl) ?_
  refine lv_iload hx hb dX5_comes_35 (lv_at hl 0 rfl) ?_
  refine lv_iconst (v := (2 : Int32)) hx hb dX5_comes_37 (by decide) ?_
  refine lv_iload_n hx hb dX5_comes_38 rfl (lv_at hl 4 rfl) ?_
  refine zw_cVV (rest := []) [.int v2, .int (2 : Int32), .int i3] X hw hl.1 hf rfl rfl (fun r hr => mt_X5_sets l D A E X.2.2.2.2.2.1 r7 a0 v2 (2 : Int32) i3 r hr) (lw_V q1383 q1385 qs37 q89 q1386) cd_X5_sets ⟨rfl, rfl⟩ ⟨Nat.le_of_ble_eq_true rfl, Nat.le_of_ble_eq_true rfl⟩ rfl rfl (Nat.le_of_ble_eq_true rfl) dX5_comes_39 ⟨Nat.le_of_ble_eq_true rfl, Nat.le_of_ble_eq_true rfl⟩ (fun r8 H locs hf hw => ?_)
  refine lv_aload_n hx hb dX5_comes_42 rfl (lv_at hl 1 rfl) ?_
  refine lv_iload hx hb dX5_comes_43 (lv_at hl 0 rfl) ?_
  refine lv_iconst (v := (3 : Int32)) hx hb dX5_comes_45 (by decide) ?_
  refine lv_iconst (v := (0 : Int32)) hx hb dX5_comes_46 (by decide) ?_
  refine zw_cVV (rest := []) [.int v2, .int (3 : Int32), .int (0 : Int32)] X hw hl.1 hf rfl rfl (fun r hr => mt_X5_sets l D A E X.2.2.2.2.2.1 r8 a0 v2 (3 : Int32) (0 : Int32) r hr) (lw_V q1383 q1385 qs37 q89 q1386) cd_X5_sets ⟨rfl, rfl⟩ ⟨Nat.le_of_ble_eq_true rfl, Nat.le_of_ble_eq_true rfl⟩ rfl rfl (Nat.le_of_ble_eq_true rfl) dX5_comes_47 ⟨Nat.le_of_ble_eq_true rfl, Nat.le_of_ble_eq_true rfl⟩ (fun r9 H locs hf hw => ?_)
  refine lv_aload_n hx hb dX5_comes_50 rfl (lv_at hl 1 rfl) ?_
  refine lv_iload hx hb dX5_comes_51 (lv_at hl 0 rfl) ?_
  refine lv_iconst (v := (4 : Int32)) hx hb dX5_comes_53 (by decide) ?_
  refine lv_bipush (v := (16 : Int32)) hx hb dX5_comes_54 (by decide) ?_
  refine zw_cVV (rest := []) [.int v2, .int (4 : Int32), .int (16 : Int32)] X hw hl.1 hf rfl rfl (fun r hr => mt_X5_sets l D A E X.2.2.2.2.2.1 r9 a0 v2 (4 : Int32) (16 : Int32) r hr) (lw_V q1383 q1385 qs37 q89 q1386) cd_X5_sets ⟨rfl, rfl⟩ ⟨Nat.le_of_ble_eq_true rfl, Nat.le_of_ble_eq_true rfl⟩ rfl rfl (Nat.le_of_ble_eq_true rfl) dX5_comes_56 ⟨Nat.le_of_ble_eq_true rfl, Nat.le_of_ble_eq_true rfl⟩ (fun r10 H locs hf hw => ?_)
  refine lv_aload_n hx hb dX5_comes_59 rfl (lv_at hl 1 rfl) ?_
  refine lv_iload hx hb dX5_comes_60 (lv_at hl 0 rfl) ?_
  refine lv_iconst (v := (5 : Int32)) hx hb dX5_comes_62 (by decide) ?_
  refine lv_bipush (v := (50 : Int32)) hx hb dX5_comes_63 (by decide) ?_
  refine zw_cVV (rest := []) [.int v2, .int (5 : Int32), .int (50 : Int32)] X hw hl.1 hf rfl rfl (fun r hr => mt_X5_sets l D A E X.2.2.2.2.2.1 r10 a0 v2 (5 : Int32) (50 : Int32) r hr) (lw_V q1383 q1385 qs37 q89 q1386) cd_X5_sets ⟨rfl, rfl⟩ ⟨Nat.le_of_ble_eq_true rfl, Nat.le_of_ble_eq_true rfl⟩ rfl rfl (Nat.le_of_ble_eq_true rfl) dX5_comes_65 ⟨Nat.le_of_ble_eq_true rfl, Nat.le_of_ble_eq_true rfl⟩ (fun r11 H locs hf hw => ?_)
  exact zw_vret X hw hf (Nat.le_of_ble_eq_true rfl) (Nat.le_of_ble_eq_true rfl) dX5_comes_68
set_option maxHeartbeats 4000000 in
theorem mt_X5_rubbing (l : Launch) (D : va_G) (A : Nat → Prop) (E : State → Prop) (hE : zEok A E) (h : zT) (a0 : Nat) (i1 : Int32) (i2 : Int32) (i3 : Int32) (res : Int32 × zT) (hf : f_X5_rubbing h a0 i1 i2 i3 = some res) : Met l yX5_rubbing (ws_ yX5_rubbing cX5_rubbing 4 (Option.some FieldType.int)) rm_X5_rubbing (zPW D A E h [.ref a0, .int i1, .int i2, .int i3]) (zQW D A (some (.int res.1)) res.2) 0 0 A := by
  refine zmt hE (by decide) (Nat.le_of_ble_eq_true rfl) ?_
  intro p e s m below meth c ls hmn X hw hl
  have hl : lv_has ls 4 [(0, .ref a0), (1, .int i1), (2, .int i2), (3, .int i3)] := hl
  have hx := X.1.1
  have hb := X.1.2.1
  have hown := X.1.2.2.2.1
  have hts := X.1.2.2.2.2
  unfold f_X5_rubbing at hf
  refine lv_iload_n hx hb dX5_rubbing_0 rfl (lv_at hl 1 rfl) ?_
  refine lv_i2l hx hb dX5_rubbing_1 rfl ?_
  refine lv_lconst (v := (0 : Int64)) hx hb dX5_rubbing_2 (by decide) ?_
  refine lv_ldc2 (v := (5 : Int64)) hx hb hown (hts _ q1371) dX5_rubbing_3 ?_
  refine zw_cSZ (rest := []) [.long i1.toInt64, .long (0 : Int64), .long (5 : Int64)] X hw hl.1 hf (fun r hr => mt_X5_isIn l D A E X.2.2.2.2.2.1 h i1.toInt64 (0 : Int64) (5 : Int64) r hr) (lw_S q1372 q1373 q89 q1374) cd_X5_isIn ⟨rfl, rfl⟩ ⟨Nat.le_of_ble_eq_true rfl, Nat.le_of_ble_eq_true rfl⟩ rfl rfl (Nat.le_of_ble_eq_true rfl) dX5_rubbing_6 ⟨Nat.le_of_ble_eq_true rfl, Nat.le_of_ble_eq_true rfl⟩ (fun r1 H locs hf hw => ?_)
  refine zw_if_eq (tgt := 36) hx hb hf dX5_rubbing_9 (by decide) (fun hf => ?_) (fun hf => ?_)
  · refine lv_ldc (v := (-1000000001 : Int32)) hx hb hown (hts _ q1377) dX5_rubbing_36 ?_
    exact zw_iret X hw hf (Nat.le_of_ble_eq_true rfl) (Nat.le_of_ble_eq_true rfl) dX5_rubbing_38
  · refine lv_iload_n hx hb dX5_rubbing_12 rfl (lv_at hl 2 rfl) ?_
    refine lv_i2l hx hb dX5_rubbing_13 rfl ?_
    refine lv_lconst (v := (0 : Int64)) hx hb dX5_rubbing_14 (by decide) ?_
    refine lv_ldc2 (v := (65535 : Int64)) hx hb hown (hts _ q1375) dX5_rubbing_15 ?_
    refine zw_cSZ (rest := []) [.long i2.toInt64, .long (0 : Int64), .long (65535 : Int64)] X hw hl.1 hf (fun r hr => mt_X5_isIn l D A E X.2.2.2.2.2.1 r1.2 i2.toInt64 (0 : Int64) (65535 : Int64) r hr) (lw_S q1372 q1373 q89 q1374) cd_X5_isIn ⟨rfl, rfl⟩ ⟨Nat.le_of_ble_eq_true rfl, Nat.le_of_ble_eq_true rfl⟩ rfl rfl (Nat.le_of_ble_eq_true rfl) dX5_rubbing_18 ⟨Nat.le_of_ble_eq_true rfl, Nat.le_of_ble_eq_true rfl⟩ (fun r2 H locs hf hw => ?_)
    refine zw_if_eq (tgt := 36) hx hb hf dX5_rubbing_21 (by decide) (fun hf => ?_) (fun hf => ?_)
    · refine lv_ldc (v := (-1000000001 : Int32)) hx hb hown (hts _ q1377) dX5_rubbing_36 ?_
      exact zw_iret X hw hf (Nat.le_of_ble_eq_true rfl) (Nat.le_of_ble_eq_true rfl) dX5_rubbing_38
    · refine lv_iload_n hx hb dX5_rubbing_24 rfl (lv_at hl 3 rfl) ?_
      refine lv_i2l hx hb dX5_rubbing_25 rfl ?_
      refine lv_lconst (v := (1 : Int64)) hx hb dX5_rubbing_26 (by decide) ?_
      refine lv_ldc2 (v := (8 : Int64)) hx hb hown (hts _ q1376) dX5_rubbing_27 ?_
      refine zw_cSZ (rest := []) [.long i3.toInt64, .long (1 : Int64), .long (8 : Int64)] X hw hl.1 hf (fun r hr => mt_X5_isIn l D A E X.2.2.2.2.2.1 r2.2 i3.toInt64 (1 : Int64) (8 : Int64) r hr) (lw_S q1372 q1373 q89 q1374) cd_X5_isIn ⟨rfl, rfl⟩ ⟨Nat.le_of_ble_eq_true rfl, Nat.le_of_ble_eq_true rfl⟩ rfl rfl (Nat.le_of_ble_eq_true rfl) dX5_rubbing_30 ⟨Nat.le_of_ble_eq_true rfl, Nat.le_of_ble_eq_true rfl⟩ (fun r3 H locs hf hw => ?_)
      refine zw_if_ne (tgt := 39) hx hb hf dX5_rubbing_33 (by decide) (fun hf => ?_) (fun hf => ?_)
      · refine lv_aload_n hx hb dX5_rubbing_39 rfl (lv_at hl 0 rfl) ?_
        refine zw_getR X hw fs_X5_0 q1270 rfl hf dX5_rubbing_40 (fun v4 hf => ?_)
        refine lv_iconst (v := (0 : Int32)) hx hb dX5_rubbing_43 (by decide) ?_
        refine zw_ialoadR X hw hf dX5_rubbing_44 (fun v5 hf => ?_)
        refine lv_bipush (v := (9 : Int32)) hx hb dX5_rubbing_45 (by decide) ?_
        refine zw_icmp_ne (tgt := 53) hx hb hf dX5_rubbing_47 (by decide) (fun hf => ?_) (fun hf => ?_)
        · refine lv_aload_n hx hb dX5_rubbing_53 rfl (lv_at hl 0 rfl) ?_
          refine lv_iload_n hx hb dX5_rubbing_54 rfl (lv_at hl 1 rfl) ?_
          refine lv_iload_n hx hb dX5_rubbing_55 rfl (lv_at hl 2 rfl) ?_
          refine lv_iload_n hx hb dX5_rubbing_56 rfl (lv_at hl 3 rfl) ?_
          refine zw_cVV (rest := []) [.int i1, .int i2, .int i3] X hw hl.1 hf rfl rfl (fun r hr => mt_X5_comes l D A E X.2.2.2.2.2.1 r3.2 a0 i1 i2 i3 r hr) (lw_V q1379 q1381 qs36 q89 q1382) cd_X5_comes ⟨rfl, rfl⟩ ⟨Nat.le_of_ble_eq_true rfl, Nat.le_of_ble_eq_true rfl⟩ rfl rfl (Nat.le_of_ble_eq_true rfl) dX5_rubbing_57 ⟨Nat.le_of_ble_eq_true rfl, Nat.le_of_ble_eq_true rfl⟩ (fun r6 H locs hf hw => ?_)
          refine lv_aload_n hx hb dX5_rubbing_60 rfl (lv_at hl 0 rfl) ?_
          refine zw_getR X hw fs_X5_0 q1270 rfl hf dX5_rubbing_61 (fun v7 hf => ?_)
          refine lv_iconst (v := (0 : Int32)) hx hb dX5_rubbing_64 (by decide) ?_
          refine zw_ialoadR X hw hf dX5_rubbing_65 (fun v8 hf => ?_)
          refine lv_iconst (v := (1 : Int32)) hx hb dX5_rubbing_66 (by decide) ?_
          refine lv_isub hx hb dX5_rubbing_67 ?_
          exact zw_iret X hw hf (Nat.le_of_ble_eq_true rfl) (Nat.le_of_ble_eq_true rfl) dX5_rubbing_68
        · refine lv_ldc (v := (-1000000003 : Int32)) hx hb hown (hts _ q1378) dX5_rubbing_50 ?_
          exact zw_iret X hw hf (Nat.le_of_ble_eq_true rfl) (Nat.le_of_ble_eq_true rfl) dX5_rubbing_52
      · refine lv_ldc (v := (-1000000001 : Int32)) hx hb hown (hts _ q1377) dX5_rubbing_36 ?_
        exact zw_iret X hw hf (Nat.le_of_ble_eq_true rfl) (Nat.le_of_ble_eq_true rfl) dX5_rubbing_38
set_option maxHeartbeats 4000000 in
theorem mt_X5_of (l : Launch) (D : va_G) (A : Nat → Prop) (E : State → Prop) (hE : zEok A E) (h : zT) (a0 : Nat) (i1 : Int32) (i2 : Int32) (res : Int32 × zT) (hf : f_X5_of h a0 i1 i2 = some res) : Met l yX5_of (ws_ yX5_of cX5_of 3 (Option.some FieldType.int)) rm_X5_of (zPW D A E h [.ref a0, .int i1, .int i2]) (zQW D A (some (.int res.1)) res.2) 0 0 A := by
  refine zmt hE (by decide) (Nat.le_of_ble_eq_true rfl) ?_
  intro p e s m below meth c ls hmn X hw hl
  have hl : lv_has ls 3 [(0, .ref a0), (1, .int i1), (2, .int i2)] := hl
  have hx := X.1.1
  have hb := X.1.2.1
  have hown := X.1.2.2.2.1
  have hts := X.1.2.2.2.2
  unfold f_X5_of at hf
  refine lv_aload_n hx hb dX5_of_0 rfl (lv_at hl 0 rfl) ?_
  refine zw_getR X hw fs_X5_0 q1270 rfl hf dX5_of_1 (fun v1 hf => ?_)
  refine lv_bipush (v := (21 : Int32)) hx hb dX5_of_4 (by decide) ?_
  refine lv_bipush (v := (6 : Int32)) hx hb dX5_of_6 (by decide) ?_
  refine lv_iload_n hx hb dX5_of_8 rfl (lv_at hl 1 rfl) ?_
  refine lv_imul hx hb dX5_of_9 ?_
  refine lv_iadd hx hb dX5_of_10 ?_
  refine lv_iload_n hx hb dX5_of_11 rfl (lv_at hl 2 rfl) ?_
  refine lv_iadd hx hb dX5_of_12 ?_
  refine zw_ialoadR X hw hf dX5_of_13 (fun v2 hf => ?_)
  exact zw_iret X hw hf (Nat.le_of_ble_eq_true rfl) (Nat.le_of_ble_eq_true rfl) dX5_of_14
set_option maxHeartbeats 4000000 in
theorem mt_X5_coversFrom (l : Launch) (D : va_G) (A : Nat → Prop) (E : State → Prop) (hE : zEok A E) (h : zT) (a0 : Nat) (i1 : Int32) (i2 : Int32) (res : Int32 × zT) (hf : f_X5_coversFrom h a0 i1 i2 = some res) : Met l yX5_coversFrom (ws_ yX5_coversFrom cX5_coversFrom 3 (Option.some FieldType.int)) rm_X5_coversFrom (zPW D A E h [.ref a0, .int i1, .int i2]) (zQW D A (some (.int res.1)) res.2) 0 0 A := by
  refine zmt hE (by decide) (Nat.le_of_ble_eq_true rfl) ?_
  intro p e s m below meth c ls hmn X hw hl
  have hl : lv_has ls 3 [(0, .ref a0), (1, .int i1), (2, .int i2)] := hl
  have hx := X.1.1
  have hb := X.1.2.1
  have hown := X.1.2.2.2.1
  have hts := X.1.2.2.2.2
  unfold f_X5_coversFrom at hf
  refine lv_iconst (v := (1 : Int32)) hx hb dX5_coversFrom_0 (by decide) ?_
  refine lv_aload_n hx hb dX5_coversFrom_1 rfl (lv_at hl 0 rfl) ?_
  refine lv_iload_n hx hb dX5_coversFrom_2 rfl (lv_at hl 1 rfl) ?_
  refine lv_iconst (v := (2 : Int32)) hx hb dX5_coversFrom_3 (by decide) ?_
  refine zw_cVI (rest := [.int (1 : Int32)]) [.int i1, .int (2 : Int32)] X hw hl.1 hf rfl rfl (fun r hr => mt_X5_of l D A E X.2.2.2.2.2.1 h a0 i1 (2 : Int32) r hr) (lw_V q1395 q1397 qs39 q89 q1398) cd_X5_of ⟨rfl, rfl⟩ ⟨Nat.le_of_ble_eq_true rfl, Nat.le_of_ble_eq_true rfl⟩ rfl rfl (Nat.le_of_ble_eq_true rfl) dX5_coversFrom_4 ⟨Nat.le_of_ble_eq_true rfl, Nat.le_of_ble_eq_true rfl⟩ (fun r1 H locs hf hw => ?_)
  refine lv_ishl hx hb dX5_coversFrom_7 ?_
  refine lv_iconst (v := (1 : Int32)) hx hb dX5_coversFrom_8 (by decide) ?_
  refine lv_isub hx hb dX5_coversFrom_9 ?_
  refine lv_iload_n hx hb dX5_coversFrom_10 rfl (lv_at hl 2 rfl) ?_
  refine lv_ishl hx hb dX5_coversFrom_11 ?_
  refine lv_ldc (v := (65535 : Int32)) hx hb hown (hts _ q1407) dX5_coversFrom_12 ?_
  refine lv_iand hx hb dX5_coversFrom_14 ?_
  exact zw_iret X hw hf (Nat.le_of_ble_eq_true rfl) (Nat.le_of_ble_eq_true rfl) dX5_coversFrom_15
set_option maxHeartbeats 4000000 in
theorem mt_X5_covers (l : Launch) (D : va_G) (A : Nat → Prop) (E : State → Prop) (hE : zEok A E) (h : zT) (a0 : Nat) (i1 : Int32) (res : Int32 × zT) (hf : f_X5_covers h a0 i1 = some res) : Met l yX5_covers (ws_ yX5_covers cX5_covers 2 (Option.some FieldType.int)) rm_X5_covers (zPW D A E h [.ref a0, .int i1]) (zQW D A (some (.int res.1)) res.2) 0 0 A := by
  refine zmt hE (by decide) (Nat.le_of_ble_eq_true rfl) ?_
  intro p e s m below meth c ls hmn X hw hl
  have hl : lv_has ls 2 [(0, .ref a0), (1, .int i1)] := hl
  have hx := X.1.1
  have hb := X.1.2.1
  have hown := X.1.2.2.2.1
  have hts := X.1.2.2.2.2
  unfold f_X5_covers at hf
  refine lv_aload_n hx hb dX5_covers_0 rfl (lv_at hl 0 rfl) ?_
  refine lv_iload_n hx hb dX5_covers_1 rfl (lv_at hl 1 rfl) ?_
  refine lv_aload_n hx hb dX5_covers_2 rfl (lv_at hl 0 rfl) ?_
  refine lv_iload_n hx hb dX5_covers_3 rfl (lv_at hl 1 rfl) ?_
  refine lv_iconst (v := (4 : Int32)) hx hb dX5_covers_4 (by decide) ?_
  refine zw_cVI (rest := [.int i1, .ref a0]) [.int i1, .int (4 : Int32)] X hw hl.1 hf rfl rfl (fun r hr => mt_X5_of l D A E X.2.2.2.2.2.1 h a0 i1 (4 : Int32) r hr) (lw_V q1395 q1397 qs39 q89 q1398) cd_X5_of ⟨rfl, rfl⟩ ⟨Nat.le_of_ble_eq_true rfl, Nat.le_of_ble_eq_true rfl⟩ rfl rfl (Nat.le_of_ble_eq_true rfl) dX5_covers_5 ⟨Nat.le_of_ble_eq_true rfl, Nat.le_of_ble_eq_true rfl⟩ (fun r1 H locs hf hw => ?_)
  refine zw_cVI (rest := []) [.int i1, .int r1.1] X hw hl.1 hf rfl rfl (fun r hr => mt_X5_coversFrom l D A E X.2.2.2.2.2.1 r1.2 a0 i1 r1.1 r hr) (lw_V q1403 q1405 qs41 q89 q1406) cd_X5_coversFrom ⟨rfl, rfl⟩ ⟨Nat.le_of_ble_eq_true rfl, Nat.le_of_ble_eq_true rfl⟩ rfl rfl (Nat.le_of_ble_eq_true rfl) dX5_covers_8 ⟨Nat.le_of_ble_eq_true rfl, Nat.le_of_ble_eq_true rfl⟩ (fun r2 H locs hf hw => ?_)
  exact zw_iret X hw hf (Nat.le_of_ble_eq_true rfl) (Nat.le_of_ble_eq_true rfl) dX5_covers_11
set_option maxHeartbeats 4000000 in
theorem mt_X5_textAt (l : Launch) (D : va_G) (A : Nat → Prop) (E : State → Prop) (hE : zEok A E) (h : zT) (a0 : Nat) (i1 : Int32) (res : Int32 × zT) (hf : f_X5_textAt h a0 i1 = some res) : Met l yX5_textAt (ws_ yX5_textAt cX5_textAt 2 (Option.some FieldType.int)) rm_X5_textAt (zPW D A E h [.ref a0, .int i1]) (zQW D A (some (.int res.1)) res.2) 0 0 A := by
  refine zmt hE (by decide) (Nat.le_of_ble_eq_true rfl) ?_
  intro p e s m below meth c ls hmn X hw hl
  have hl : lv_has ls 2 [(0, .ref a0), (1, .int i1)] := hl
  have hx := X.1.1
  have hb := X.1.2.1
  have hown := X.1.2.2.2.1
  have hts := X.1.2.2.2.2
  unfold f_X5_textAt at hf
  refine lv_bipush (v := (75 : Int32)) hx hb dX5_textAt_0 (by decide) ?_
  refine lv_sipush (v := (200 : Int32)) hx hb dX5_textAt_2 (by decide) ?_
  refine lv_iload_n hx hb dX5_textAt_5 rfl (lv_at hl 1 rfl) ?_
  refine lv_imul hx hb dX5_textAt_6 ?_
  refine lv_iadd hx hb dX5_textAt_7 ?_
  exact zw_iret X hw hf (Nat.le_of_ble_eq_true rfl) (Nat.le_of_ble_eq_true rfl) dX5_textAt_8
set_option maxHeartbeats 4000000 in
theorem k_X5_counts_4 {p : Program} {l : Launch} {e : Env} {s : State} {m : MethodId} {args : Array Value} {below : List Frame} {meth : Method} {c : Code} {D : va_G} {A : Nat → Prop} {E : State → Prop} (X : zCx p s m args meth c D A E cX5_counts 4 RX5 (Option.some FieldType.int)) (res : Int32 × zT) : ∀ (n : Nat), ∀ (h : zT) (a0 : Nat) (i1 : Int32) (i2 : Int32) (i3 : Int32) (H : Heap) (locs : List Loc) (ls : Array Slot), f_X5_counts_4 n h a0 i1 i2 i3 = some res → zWh D A s H h locs → lv_has ls 4 [(0, .ref a0), (1, .int i1), (2, .int i2), (3, .int i3)] → W p l e rm_X5_counts s m args below meth c H locs 0 0 (MQ below (zQW D A (some (.int res.1)) res.2) args s 0 0 A) (F0 m 4 ls []) := by
  have hx := X.1.1
  have hb := X.1.2.1
  have hown := X.1.2.2.2.1
  have hts := X.1.2.2.2.2
  intro n
  induction n with
  | zero =>
    intro h a0 i1 i2 i3 H locs ls hf hw hl
    cases hf
  | succ n ih =>
    intro h a0 i1 i2 i3 H locs ls hf hw hl
    unfold f_X5_counts_4 at hf
    refine lv_iload_n hx hb dX5_counts_4 rfl (lv_at hl 3 rfl) ?_
    refine lv_aload_n hx hb dX5_counts_5 rfl (lv_at hl 0 rfl) ?_
    refine zw_getR X hw fs_X5_0 q1270 rfl hf dX5_counts_6 (fun v1 hf => ?_)
    refine lv_iconst (v := (1 : Int32)) hx hb dX5_counts_9 (by decide) ?_
    refine zw_ialoadR X hw hf dX5_counts_10 (fun v2 hf => ?_)
    refine zw_icmp_ge (tgt := 40) hx hb hf dX5_counts_11 (by decide) (fun hf => ?_) (fun hf => ?_)
    · refine lv_iload_n hx hb dX5_counts_40 rfl (lv_at hl 2 rfl) ?_
      exact zw_iret X hw hf (Nat.le_of_ble_eq_true rfl) (Nat.le_of_ble_eq_true rfl) dX5_counts_41
    · refine lv_aload_n hx hb dX5_counts_14 rfl (lv_at hl 0 rfl) ?_
      refine zw_getR X hw fs_X5_0 q1270 rfl hf dX5_counts_15 (fun v3 hf => ?_)
      refine lv_aload_n hx hb dX5_counts_18 rfl (lv_at hl 0 rfl) ?_
      refine lv_iload_n hx hb dX5_counts_19 rfl (lv_at hl 3 rfl) ?_
      refine zw_cVI (rest := [.ref v3]) [.int i3] X hw hl.1 hf rfl rfl (fun r hr => mt_X5_textAt l D A E X.2.2.2.2.2.1 h a0 i3 r hr) (lw_V q1416 q1418 qs44 q89 q1419) cd_X5_textAt ⟨rfl, rfl⟩ ⟨Nat.le_of_ble_eq_true rfl, Nat.le_of_ble_eq_true rfl⟩ rfl rfl (Nat.le_of_ble_eq_true rfl) dX5_counts_20 ⟨Nat.le_of_ble_eq_true rfl, Nat.le_of_ble_eq_true rfl⟩ (fun r4 H locs hf hw => ?_)
      refine zw_ialoadR X hw hf dX5_counts_23 (fun v5 hf => ?_)
      refine lv_iload_n hx hb dX5_counts_24 rfl (lv_at hl 1 rfl) ?_
      refine zw_icmp_ne (tgt := 32) hx hb hf dX5_counts_25 (by decide) (fun hf => ?_) (fun hf => ?_)
      · refine lv_iload_n hx hb dX5_counts_32 rfl (lv_at hl 2 rfl) ?_
        refine lv_istore_n (lv' := [(2, .int i2), (0, .ref a0), (1, .int i1), (3, .int i3)]) hx hb dX5_counts_33 rfl hl (by decide) rfl (fun ls hl => ?_)
        refine zw_nmS hf (fun v6 ev6 hf => ?_)
        refine lv_iinc (k := 3) (v := v6) (lv' := [(3, .int v6), (2, .int i2), (0, .ref a0), (1, .int i1)]) hx hb dX5_counts_34 hl rfl (by rw [ev6]; rfl) (by decide) rfl (fun ls hl => ?_)
        refine lv_goto (tgt := 4) hx hb dX5_counts_37 (by decide) ?_
        exact ih r4.2 a0 i1 i2 v6 _ _ _ hf hw (lv_sub hl [2, 3, 1, 0] rfl)
      · refine lv_iload_n hx hb dX5_counts_28 rfl (lv_at hl 3 rfl) ?_
        refine lv_goto (tgt := 33) hx hb dX5_counts_29 (by decide) ?_
        refine lv_istore_n (lv' := [(2, .int i3), (0, .ref a0), (1, .int i1), (3, .int i3)]) hx hb dX5_counts_33 rfl hl (by decide) rfl (fun ls hl => ?_)
        refine zw_nmS hf (fun v7 ev7 hf => ?_)
        refine lv_iinc (k := 3) (v := v7) (lv' := [(3, .int v7), (2, .int i3), (0, .ref a0), (1, .int i1)]) hx hb dX5_counts_34 hl rfl (by rw [ev7]; rfl) (by decide) rfl (fun ls hl => ?_)
        refine lv_goto (tgt := 4) hx hb dX5_counts_37 (by decide) ?_
        exact ih r4.2 a0 i1 i3 v7 _ _ _ hf hw (lv_sub hl [2, 3, 1, 0] rfl)
set_option maxHeartbeats 4000000 in
theorem mt_X5_counts (l : Launch) (D : va_G) (A : Nat → Prop) (E : State → Prop) (hE : zEok A E) (h : zT) (a0 : Nat) (i1 : Int32) (res : Int32 × zT) (hf : f_X5_counts h a0 i1 = some res) : Met l yX5_counts (ws_ yX5_counts cX5_counts 4 (Option.some FieldType.int)) rm_X5_counts (zPW D A E h [.ref a0, .int i1]) (zQW D A (some (.int res.1)) res.2) 0 0 A := by
  refine zmt hE (by decide) (Nat.le_of_ble_eq_true rfl) ?_
  intro p e s m below meth c ls hmn X hw hl
  have hl : lv_has ls 4 [(0, .ref a0), (1, .int i1)] := hl
  have hx := X.1.1
  have hb := X.1.2.1
  have hown := X.1.2.2.2.1
  have hts := X.1.2.2.2.2
  unfold f_X5_counts at hf
  refine lv_iconst (v := (-1 : Int32)) hx hb dX5_counts_0 (by decide) ?_
  refine lv_istore_n (lv' := [(2, .int (-1 : Int32)), (0, .ref a0), (1, .int i1)]) hx hb dX5_counts_1 rfl hl (by decide) rfl (fun ls hl => ?_)
  refine lv_iconst (v := (0 : Int32)) hx hb dX5_counts_2 (by decide) ?_
  refine lv_istore_n (lv' := [(3, .int (0 : Int32)), (2, .int (-1 : Int32)), (0, .ref a0), (1, .int i1)]) hx hb dX5_counts_3 rfl hl (by decide) rfl (fun ls hl => ?_)
  exact k_X5_counts_4 X _ 4096 h a0 i1 (-1 : Int32) (0 : Int32) _ _ _ hf hw (lv_sub hl [2, 3, 1, 0] rfl)
set_option maxHeartbeats 4000000 in
theorem mt_X5_within (l : Launch) (D : va_G) (A : Nat → Prop) (E : State → Prop) (hE : zEok A E) (h : zT) (i0 : Int32) (i1 : Int32) (res : Int32 × zT) (hf : f_X5_within h i0 i1 = some res) : Met l yX5_within (ws_ yX5_within cX5_within 2 (Option.some FieldType.int)) rm_X5_within (zPW D A E h [.int i0, .int i1]) (zQW D A (some (.int res.1)) res.2) 0 0 A := by
  refine zmt hE (by decide) (Nat.le_of_ble_eq_true rfl) ?_
  intro p e s m below meth c ls hmn X hw hl
  have hl : lv_has ls 2 [(0, .int i0), (1, .int i1)] := hl
  have hx := X.1.1
  have hb := X.1.2.1
  have hown := X.1.2.2.2.1
  have hts := X.1.2.2.2.2
  unfold f_X5_within at hf
  refine lv_iload_n hx hb dX5_within_0 rfl (lv_at hl 0 rfl) ?_
  refine zw_if_ge (tgt := 8) hx hb hf dX5_within_1 (by decide) (fun hf => ?_) (fun hf => ?_)
  · refine lv_iload_n hx hb dX5_within_8 rfl (lv_at hl 0 rfl) ?_
    refine lv_iload_n hx hb dX5_within_9 rfl (lv_at hl 1 rfl) ?_
    refine zw_icmp_le (tgt := 17) hx hb hf dX5_within_10 (by decide) (fun hf => ?_) (fun hf => ?_)
    · refine lv_iload_n hx hb dX5_within_17 rfl (lv_at hl 0 rfl) ?_
      exact zw_iret X hw hf (Nat.le_of_ble_eq_true rfl) (Nat.le_of_ble_eq_true rfl) dX5_within_18
    · refine lv_iload_n hx hb dX5_within_13 rfl (lv_at hl 1 rfl) ?_
      refine lv_goto (tgt := 18) hx hb dX5_within_14 (by decide) ?_
      exact zw_iret X hw hf (Nat.le_of_ble_eq_true rfl) (Nat.le_of_ble_eq_true rfl) dX5_within_18
  · refine lv_iconst (v := (0 : Int32)) hx hb dX5_within_4 (by decide) ?_
    refine lv_goto (tgt := 18) hx hb dX5_within_5 (by decide) ?_
    exact zw_iret X hw hf (Nat.le_of_ble_eq_true rfl) (Nat.le_of_ble_eq_true rfl) dX5_within_18
set_option maxHeartbeats 4000000 in
theorem mt_X5_joined (l : Launch) (D : va_G) (A : Nat → Prop) (E : State → Prop) (hE : zEok A E) (h : zT) (i0 : Int32) (i1 : Int32) (i2 : Int32) (res : Int32 × zT) (hf : f_X5_joined h i0 i1 i2 = some res) : Met l yX5_joined (ws_ yX5_joined cX5_joined 3 (Option.some FieldType.int)) rm_X5_joined (zPW D A E h [.int i0, .int i1, .int i2]) (zQW D A (some (.int res.1)) res.2) 0 0 A := by
  refine zmt hE (by decide) (Nat.le_of_ble_eq_true rfl) ?_
  intro p e s m below meth c ls hmn X hw hl
  have hl : lv_has ls 3 [(0, .int i0), (1, .int i1), (2, .int i2)] := hl
  have hx := X.1.1
  have hb := X.1.2.1
  have hown := X.1.2.2.2.1
  have hts := X.1.2.2.2.2
  unfold f_X5_joined at hf
  refine lv_iload_n hx hb dX5_joined_0 rfl (lv_at hl 0 rfl) ?_
  refine zw_case hf (fun c1038 hf => ?_) (fun c1038 hf => ?_)
  · refine zw_tableIn (off := 182) (tgt := 183) hx hb c1038 dX5_joined_1 (by decide) (by decide) rfl (by decide) ?_
    refine lv_iload_n hx hb dX5_joined_183 rfl (lv_at hl 1 rfl) ?_
    refine zw_if_eq (tgt := 195) hx hb hf dX5_joined_184 (by decide) (fun hf => ?_) (fun hf => ?_)
    · refine lv_iconst (v := (0 : Int32)) hx hb dX5_joined_195 (by decide) ?_
      exact zw_iret X hw hf (Nat.le_of_ble_eq_true rfl) (Nat.le_of_ble_eq_true rfl) dX5_joined_196
    · refine lv_iload_n hx hb dX5_joined_187 rfl (lv_at hl 2 rfl) ?_
      refine zw_if_eq (tgt := 195) hx hb hf dX5_joined_188 (by decide) (fun hf => ?_) (fun hf => ?_)
      · refine lv_iconst (v := (0 : Int32)) hx hb dX5_joined_195 (by decide) ?_
        exact zw_iret X hw hf (Nat.le_of_ble_eq_true rfl) (Nat.le_of_ble_eq_true rfl) dX5_joined_196
      · refine lv_iconst (v := (1 : Int32)) hx hb dX5_joined_191 (by decide) ?_
        refine lv_goto (tgt := 196) hx hb dX5_joined_192 (by decide) ?_
        exact zw_iret X hw hf (Nat.le_of_ble_eq_true rfl) (Nat.le_of_ble_eq_true rfl) dX5_joined_196
  · refine zw_case hf (fun c1039 hf => ?_) (fun c1039 hf => ?_)
    · refine zw_tableIn (off := 196) (tgt := 197) hx hb c1039 dX5_joined_1 (by decide) (by decide) rfl (by decide) ?_
      refine lv_iload_n hx hb dX5_joined_197 rfl (lv_at hl 1 rfl) ?_
      refine zw_if_ne (tgt := 205) hx hb hf dX5_joined_198 (by decide) (fun hf => ?_) (fun hf => ?_)
      · refine lv_iconst (v := (1 : Int32)) hx hb dX5_joined_205 (by decide) ?_
        refine lv_goto (tgt := 210) hx hb dX5_joined_206 (by decide) ?_
        exact zw_iret X hw hf (Nat.le_of_ble_eq_true rfl) (Nat.le_of_ble_eq_true rfl) dX5_joined_210
      · refine lv_iload_n hx hb dX5_joined_201 rfl (lv_at hl 2 rfl) ?_
        refine zw_if_eq (tgt := 209) hx hb hf dX5_joined_202 (by decide) (fun hf => ?_) (fun hf => ?_)
        · refine lv_iconst (v := (0 : Int32)) hx hb dX5_joined_209 (by decide) ?_
          exact zw_iret X hw hf (Nat.le_of_ble_eq_true rfl) (Nat.le_of_ble_eq_true rfl) dX5_joined_210
        · refine lv_iconst (v := (1 : Int32)) hx hb dX5_joined_205 (by decide) ?_
          refine lv_goto (tgt := 210) hx hb dX5_joined_206 (by decide) ?_
          exact zw_iret X hw hf (Nat.le_of_ble_eq_true rfl) (Nat.le_of_ble_eq_true rfl) dX5_joined_210
    · refine zw_case hf (fun c1040 hf => ?_) (fun c1040 hf => ?_)
      · refine zw_tableIn (off := 196) (tgt := 197) hx hb c1040 dX5_joined_1 (by decide) (by decide) rfl (by decide) ?_
        refine lv_iload_n hx hb dX5_joined_197 rfl (lv_at hl 1 rfl) ?_
        refine zw_if_ne (tgt := 205) hx hb hf dX5_joined_198 (by decide) (fun hf => ?_) (fun hf => ?_)
        · refine lv_iconst (v := (1 : Int32)) hx hb dX5_joined_205 (by decide) ?_
          refine lv_goto (tgt := 210) hx hb dX5_joined_206 (by decide) ?_
          exact zw_iret X hw hf (Nat.le_of_ble_eq_true rfl) (Nat.le_of_ble_eq_true rfl) dX5_joined_210
        · refine lv_iload_n hx hb dX5_joined_201 rfl (lv_at hl 2 rfl) ?_
          refine zw_if_eq (tgt := 209) hx hb hf dX5_joined_202 (by decide) (fun hf => ?_) (fun hf => ?_)
          · refine lv_iconst (v := (0 : Int32)) hx hb dX5_joined_209 (by decide) ?_
            exact zw_iret X hw hf (Nat.le_of_ble_eq_true rfl) (Nat.le_of_ble_eq_true rfl) dX5_joined_210
          · refine lv_iconst (v := (1 : Int32)) hx hb dX5_joined_205 (by decide) ?_
            refine lv_goto (tgt := 210) hx hb dX5_joined_206 (by decide) ?_
            exact zw_iret X hw hf (Nat.le_of_ble_eq_true rfl) (Nat.le_of_ble_eq_true rfl) dX5_joined_210
      · refine zw_case hf (fun c1041 hf => ?_) (fun c1041 hf => ?_)
        · refine zw_tableIn (off := 196) (tgt := 197) hx hb c1041 dX5_joined_1 (by decide) (by decide) rfl (by decide) ?_
          refine lv_iload_n hx hb dX5_joined_197 rfl (lv_at hl 1 rfl) ?_
          refine zw_if_ne (tgt := 205) hx hb hf dX5_joined_198 (by decide) (fun hf => ?_) (fun hf => ?_)
          · refine lv_iconst (v := (1 : Int32)) hx hb dX5_joined_205 (by decide) ?_
            refine lv_goto (tgt := 210) hx hb dX5_joined_206 (by decide) ?_
            exact zw_iret X hw hf (Nat.le_of_ble_eq_true rfl) (Nat.le_of_ble_eq_true rfl) dX5_joined_210
          · refine lv_iload_n hx hb dX5_joined_201 rfl (lv_at hl 2 rfl) ?_
            refine zw_if_eq (tgt := 209) hx hb hf dX5_joined_202 (by decide) (fun hf => ?_) (fun hf => ?_)
            · refine lv_iconst (v := (0 : Int32)) hx hb dX5_joined_209 (by decide) ?_
              exact zw_iret X hw hf (Nat.le_of_ble_eq_true rfl) (Nat.le_of_ble_eq_true rfl) dX5_joined_210
            · refine lv_iconst (v := (1 : Int32)) hx hb dX5_joined_205 (by decide) ?_
              refine lv_goto (tgt := 210) hx hb dX5_joined_206 (by decide) ?_
              exact zw_iret X hw hf (Nat.le_of_ble_eq_true rfl) (Nat.le_of_ble_eq_true rfl) dX5_joined_210
        · refine zw_case hf (fun c1042 hf => ?_) (fun c1042 hf => ?_)
          · refine zw_tableIn (off := 123) (tgt := 124) hx hb c1042 dX5_joined_1 (by decide) (by decide) rfl (by decide) ?_
            refine lv_iload_n hx hb dX5_joined_124 rfl (lv_at hl 1 rfl) ?_
            refine lv_iload_n hx hb dX5_joined_125 rfl (lv_at hl 2 rfl) ?_
            refine lv_imul hx hb dX5_joined_126 ?_
            exact zw_iret X hw hf (Nat.le_of_ble_eq_true rfl) (Nat.le_of_ble_eq_true rfl) dX5_joined_127
          · refine zw_case hf (fun c1043 hf => ?_) (fun c1043 hf => ?_)
            · refine zw_tableIn (off := 115) (tgt := 116) hx hb c1043 dX5_joined_1 (by decide) (by decide) rfl (by decide) ?_
              refine lv_iload_n hx hb dX5_joined_116 rfl (lv_at hl 1 rfl) ?_
              refine lv_iload_n hx hb dX5_joined_117 rfl (lv_at hl 2 rfl) ?_
              refine lv_iadd hx hb dX5_joined_118 ?_
              exact zw_iret X hw hf (Nat.le_of_ble_eq_true rfl) (Nat.le_of_ble_eq_true rfl) dX5_joined_119
            · refine zw_case hf (fun c1044 hf => ?_) (fun c1044 hf => ?_)
              · refine zw_tableIn (off := 196) (tgt := 197) hx hb c1044 dX5_joined_1 (by decide) (by decide) rfl (by decide) ?_
                refine lv_iload_n hx hb dX5_joined_197 rfl (lv_at hl 1 rfl) ?_
                refine zw_if_ne (tgt := 205) hx hb hf dX5_joined_198 (by decide) (fun hf => ?_) (fun hf => ?_)
                · refine lv_iconst (v := (1 : Int32)) hx hb dX5_joined_205 (by decide) ?_
                  refine lv_goto (tgt := 210) hx hb dX5_joined_206 (by decide) ?_
                  exact zw_iret X hw hf (Nat.le_of_ble_eq_true rfl) (Nat.le_of_ble_eq_true rfl) dX5_joined_210
                · refine lv_iload_n hx hb dX5_joined_201 rfl (lv_at hl 2 rfl) ?_
                  refine zw_if_eq (tgt := 209) hx hb hf dX5_joined_202 (by decide) (fun hf => ?_) (fun hf => ?_)
                  · refine lv_iconst (v := (0 : Int32)) hx hb dX5_joined_209 (by decide) ?_
                    exact zw_iret X hw hf (Nat.le_of_ble_eq_true rfl) (Nat.le_of_ble_eq_true rfl) dX5_joined_210
                  · refine lv_iconst (v := (1 : Int32)) hx hb dX5_joined_205 (by decide) ?_
                    refine lv_goto (tgt := 210) hx hb dX5_joined_206 (by decide) ?_
                    exact zw_iret X hw hf (Nat.le_of_ble_eq_true rfl) (Nat.le_of_ble_eq_true rfl) dX5_joined_210
              · refine zw_case hf (fun c1045 hf => ?_) (fun c1045 hf => ?_)
                · refine zw_tableIn (off := 119) (tgt := 120) hx hb c1045 dX5_joined_1 (by decide) (by decide) rfl (by decide) ?_
                  refine lv_iload_n hx hb dX5_joined_120 rfl (lv_at hl 1 rfl) ?_
                  refine lv_iload_n hx hb dX5_joined_121 rfl (lv_at hl 2 rfl) ?_
                  refine lv_isub hx hb dX5_joined_122 ?_
                  exact zw_iret X hw hf (Nat.le_of_ble_eq_true rfl) (Nat.le_of_ble_eq_true rfl) dX5_joined_123
                · refine zw_case hf (fun c1046 hf => ?_) (fun c1046 hf => ?_)
                  · refine zw_tableIn (off := 196) (tgt := 197) hx hb c1046 dX5_joined_1 (by decide) (by decide) rfl (by decide) ?_
                    refine lv_iload_n hx hb dX5_joined_197 rfl (lv_at hl 1 rfl) ?_
                    refine zw_if_ne (tgt := 205) hx hb hf dX5_joined_198 (by decide) (fun hf => ?_) (fun hf => ?_)
                    · refine lv_iconst (v := (1 : Int32)) hx hb dX5_joined_205 (by decide) ?_
                      refine lv_goto (tgt := 210) hx hb dX5_joined_206 (by decide) ?_
                      exact zw_iret X hw hf (Nat.le_of_ble_eq_true rfl) (Nat.le_of_ble_eq_true rfl) dX5_joined_210
                    · refine lv_iload_n hx hb dX5_joined_201 rfl (lv_at hl 2 rfl) ?_
                      refine zw_if_eq (tgt := 209) hx hb hf dX5_joined_202 (by decide) (fun hf => ?_) (fun hf => ?_)
                      · refine lv_iconst (v := (0 : Int32)) hx hb dX5_joined_209 (by decide) ?_
                        exact zw_iret X hw hf (Nat.le_of_ble_eq_true rfl) (Nat.le_of_ble_eq_true rfl) dX5_joined_210
                      · refine lv_iconst (v := (1 : Int32)) hx hb dX5_joined_205 (by decide) ?_
                        refine lv_goto (tgt := 210) hx hb dX5_joined_206 (by decide) ?_
                        exact zw_iret X hw hf (Nat.le_of_ble_eq_true rfl) (Nat.le_of_ble_eq_true rfl) dX5_joined_210
                  · refine zw_case hf (fun c1047 hf => ?_) (fun c1047 hf => ?_)
                    · refine zw_tableIn (off := 127) (tgt := 128) hx hb c1047 dX5_joined_1 (by decide) (by decide) rfl (by decide) ?_
                      refine lv_iload_n hx hb dX5_joined_128 rfl (lv_at hl 2 rfl) ?_
                      refine zw_if_ne (tgt := 136) hx hb hf dX5_joined_129 (by decide) (fun hf => ?_) (fun hf => ?_)
                      · refine lv_iload_n hx hb dX5_joined_136 rfl (lv_at hl 2 rfl) ?_
                        refine lv_iconst (v := (-1 : Int32)) hx hb dX5_joined_137 (by decide) ?_
                        refine zw_icmp_ne (tgt := 146) hx hb hf dX5_joined_138 (by decide) (fun hf => ?_) (fun hf => ?_)
                        · refine lv_iload_n hx hb dX5_joined_146 rfl (lv_at hl 1 rfl) ?_
                          refine lv_iload_n hx hb dX5_joined_147 rfl (lv_at hl 2 rfl) ?_
                          refine zw_ne0 hf (fun hne hf => ?_)
                          refine lv_idiv hx hb dX5_joined_148 hne ?_
                          exact zw_iret X hw hf (Nat.le_of_ble_eq_true rfl) (Nat.le_of_ble_eq_true rfl) dX5_joined_149
                        · refine lv_iload_n hx hb dX5_joined_141 rfl (lv_at hl 1 rfl) ?_
                          refine lv_ineg hx hb dX5_joined_142 ?_
                          refine lv_goto (tgt := 149) hx hb dX5_joined_143 (by decide) ?_
                          exact zw_iret X hw hf (Nat.le_of_ble_eq_true rfl) (Nat.le_of_ble_eq_true rfl) dX5_joined_149
                      · refine lv_iconst (v := (0 : Int32)) hx hb dX5_joined_132 (by decide) ?_
                        refine lv_goto (tgt := 149) hx hb dX5_joined_133 (by decide) ?_
                        exact zw_iret X hw hf (Nat.le_of_ble_eq_true rfl) (Nat.le_of_ble_eq_true rfl) dX5_joined_149
                    · refine zw_case hf (fun c1048 hf => ?_) (fun c1048 hf => ?_)
                      · refine zw_tableIn (off := 196) (tgt := 197) hx hb c1048 dX5_joined_1 (by decide) (by decide) rfl (by decide) ?_
                        refine lv_iload_n hx hb dX5_joined_197 rfl (lv_at hl 1 rfl) ?_
                        refine zw_if_ne (tgt := 205) hx hb hf dX5_joined_198 (by decide) (fun hf => ?_) (fun hf => ?_)
                        · refine lv_iconst (v := (1 : Int32)) hx hb dX5_joined_205 (by decide) ?_
                          refine lv_goto (tgt := 210) hx hb dX5_joined_206 (by decide) ?_
                          exact zw_iret X hw hf (Nat.le_of_ble_eq_true rfl) (Nat.le_of_ble_eq_true rfl) dX5_joined_210
                        · refine lv_iload_n hx hb dX5_joined_201 rfl (lv_at hl 2 rfl) ?_
                          refine zw_if_eq (tgt := 209) hx hb hf dX5_joined_202 (by decide) (fun hf => ?_) (fun hf => ?_)
                          · refine lv_iconst (v := (0 : Int32)) hx hb dX5_joined_209 (by decide) ?_
                            exact zw_iret X hw hf (Nat.le_of_ble_eq_true rfl) (Nat.le_of_ble_eq_true rfl) dX5_joined_210
                          · refine lv_iconst (v := (1 : Int32)) hx hb dX5_joined_205 (by decide) ?_
                            refine lv_goto (tgt := 210) hx hb dX5_joined_206 (by decide) ?_
                            exact zw_iret X hw hf (Nat.le_of_ble_eq_true rfl) (Nat.le_of_ble_eq_true rfl) dX5_joined_210
                      · refine zw_case hf (fun c1049 hf => ?_) (fun c1049 hf => ?_)
                        · refine zw_tableIn (off := 196) (tgt := 197) hx hb c1049 dX5_joined_1 (by decide) (by decide) rfl (by decide) ?_
                          refine lv_iload_n hx hb dX5_joined_197 rfl (lv_at hl 1 rfl) ?_
                          refine zw_if_ne (tgt := 205) hx hb hf dX5_joined_198 (by decide) (fun hf => ?_) (fun hf => ?_)
                          · refine lv_iconst (v := (1 : Int32)) hx hb dX5_joined_205 (by decide) ?_
                            refine lv_goto (tgt := 210) hx hb dX5_joined_206 (by decide) ?_
                            exact zw_iret X hw hf (Nat.le_of_ble_eq_true rfl) (Nat.le_of_ble_eq_true rfl) dX5_joined_210
                          · refine lv_iload_n hx hb dX5_joined_201 rfl (lv_at hl 2 rfl) ?_
                            refine zw_if_eq (tgt := 209) hx hb hf dX5_joined_202 (by decide) (fun hf => ?_) (fun hf => ?_)
                            · refine lv_iconst (v := (0 : Int32)) hx hb dX5_joined_209 (by decide) ?_
                              exact zw_iret X hw hf (Nat.le_of_ble_eq_true rfl) (Nat.le_of_ble_eq_true rfl) dX5_joined_210
                            · refine lv_iconst (v := (1 : Int32)) hx hb dX5_joined_205 (by decide) ?_
                              refine lv_goto (tgt := 210) hx hb dX5_joined_206 (by decide) ?_
                              exact zw_iret X hw hf (Nat.le_of_ble_eq_true rfl) (Nat.le_of_ble_eq_true rfl) dX5_joined_210
                        · refine zw_case hf (fun c1050 hf => ?_) (fun c1050 hf => ?_)
                          · refine zw_tableIn (off := 196) (tgt := 197) hx hb c1050 dX5_joined_1 (by decide) (by decide) rfl (by decide) ?_
                            refine lv_iload_n hx hb dX5_joined_197 rfl (lv_at hl 1 rfl) ?_
                            refine zw_if_ne (tgt := 205) hx hb hf dX5_joined_198 (by decide) (fun hf => ?_) (fun hf => ?_)
                            · refine lv_iconst (v := (1 : Int32)) hx hb dX5_joined_205 (by decide) ?_
                              refine lv_goto (tgt := 210) hx hb dX5_joined_206 (by decide) ?_
                              exact zw_iret X hw hf (Nat.le_of_ble_eq_true rfl) (Nat.le_of_ble_eq_true rfl) dX5_joined_210
                            · refine lv_iload_n hx hb dX5_joined_201 rfl (lv_at hl 2 rfl) ?_
                              refine zw_if_eq (tgt := 209) hx hb hf dX5_joined_202 (by decide) (fun hf => ?_) (fun hf => ?_)
                              · refine lv_iconst (v := (0 : Int32)) hx hb dX5_joined_209 (by decide) ?_
                                exact zw_iret X hw hf (Nat.le_of_ble_eq_true rfl) (Nat.le_of_ble_eq_true rfl) dX5_joined_210
                              · refine lv_iconst (v := (1 : Int32)) hx hb dX5_joined_205 (by decide) ?_
                                refine lv_goto (tgt := 210) hx hb dX5_joined_206 (by decide) ?_
                                exact zw_iret X hw hf (Nat.le_of_ble_eq_true rfl) (Nat.le_of_ble_eq_true rfl) dX5_joined_210
                          · refine zw_case hf (fun c1051 hf => ?_) (fun c1051 hf => ?_)
                            · refine zw_tableIn (off := 196) (tgt := 197) hx hb c1051 dX5_joined_1 (by decide) (by decide) rfl (by decide) ?_
                              refine lv_iload_n hx hb dX5_joined_197 rfl (lv_at hl 1 rfl) ?_
                              refine zw_if_ne (tgt := 205) hx hb hf dX5_joined_198 (by decide) (fun hf => ?_) (fun hf => ?_)
                              · refine lv_iconst (v := (1 : Int32)) hx hb dX5_joined_205 (by decide) ?_
                                refine lv_goto (tgt := 210) hx hb dX5_joined_206 (by decide) ?_
                                exact zw_iret X hw hf (Nat.le_of_ble_eq_true rfl) (Nat.le_of_ble_eq_true rfl) dX5_joined_210
                              · refine lv_iload_n hx hb dX5_joined_201 rfl (lv_at hl 2 rfl) ?_
                                refine zw_if_eq (tgt := 209) hx hb hf dX5_joined_202 (by decide) (fun hf => ?_) (fun hf => ?_)
                                · refine lv_iconst (v := (0 : Int32)) hx hb dX5_joined_209 (by decide) ?_
                                  exact zw_iret X hw hf (Nat.le_of_ble_eq_true rfl) (Nat.le_of_ble_eq_true rfl) dX5_joined_210
                                · refine lv_iconst (v := (1 : Int32)) hx hb dX5_joined_205 (by decide) ?_
                                  refine lv_goto (tgt := 210) hx hb dX5_joined_206 (by decide) ?_
                                  exact zw_iret X hw hf (Nat.le_of_ble_eq_true rfl) (Nat.le_of_ble_eq_true rfl) dX5_joined_210
                            · refine zw_case hf (fun c1052 hf => ?_) (fun c1052 hf => ?_)
                              · refine zw_tableIn (off := 196) (tgt := 197) hx hb c1052 dX5_joined_1 (by decide) (by decide) rfl (by decide) ?_
                                refine lv_iload_n hx hb dX5_joined_197 rfl (lv_at hl 1 rfl) ?_
                                refine zw_if_ne (tgt := 205) hx hb hf dX5_joined_198 (by decide) (fun hf => ?_) (fun hf => ?_)
                                · refine lv_iconst (v := (1 : Int32)) hx hb dX5_joined_205 (by decide) ?_
                                  refine lv_goto (tgt := 210) hx hb dX5_joined_206 (by decide) ?_
                                  exact zw_iret X hw hf (Nat.le_of_ble_eq_true rfl) (Nat.le_of_ble_eq_true rfl) dX5_joined_210
                                · refine lv_iload_n hx hb dX5_joined_201 rfl (lv_at hl 2 rfl) ?_
                                  refine zw_if_eq (tgt := 209) hx hb hf dX5_joined_202 (by decide) (fun hf => ?_) (fun hf => ?_)
                                  · refine lv_iconst (v := (0 : Int32)) hx hb dX5_joined_209 (by decide) ?_
                                    exact zw_iret X hw hf (Nat.le_of_ble_eq_true rfl) (Nat.le_of_ble_eq_true rfl) dX5_joined_210
                                  · refine lv_iconst (v := (1 : Int32)) hx hb dX5_joined_205 (by decide) ?_
                                    refine lv_goto (tgt := 210) hx hb dX5_joined_206 (by decide) ?_
                                    exact zw_iret X hw hf (Nat.le_of_ble_eq_true rfl) (Nat.le_of_ble_eq_true rfl) dX5_joined_210
                              · refine zw_case hf (fun c1053 hf => ?_) (fun c1053 hf => ?_)
                                · refine zw_tableIn (off := 196) (tgt := 197) hx hb c1053 dX5_joined_1 (by decide) (by decide) rfl (by decide) ?_
                                  refine lv_iload_n hx hb dX5_joined_197 rfl (lv_at hl 1 rfl) ?_
                                  refine zw_if_ne (tgt := 205) hx hb hf dX5_joined_198 (by decide) (fun hf => ?_) (fun hf => ?_)
                                  · refine lv_iconst (v := (1 : Int32)) hx hb dX5_joined_205 (by decide) ?_
                                    refine lv_goto (tgt := 210) hx hb dX5_joined_206 (by decide) ?_
                                    exact zw_iret X hw hf (Nat.le_of_ble_eq_true rfl) (Nat.le_of_ble_eq_true rfl) dX5_joined_210
                                  · refine lv_iload_n hx hb dX5_joined_201 rfl (lv_at hl 2 rfl) ?_
                                    refine zw_if_eq (tgt := 209) hx hb hf dX5_joined_202 (by decide) (fun hf => ?_) (fun hf => ?_)
                                    · refine lv_iconst (v := (0 : Int32)) hx hb dX5_joined_209 (by decide) ?_
                                      exact zw_iret X hw hf (Nat.le_of_ble_eq_true rfl) (Nat.le_of_ble_eq_true rfl) dX5_joined_210
                                    · refine lv_iconst (v := (1 : Int32)) hx hb dX5_joined_205 (by decide) ?_
                                      refine lv_goto (tgt := 210) hx hb dX5_joined_206 (by decide) ?_
                                      exact zw_iret X hw hf (Nat.le_of_ble_eq_true rfl) (Nat.le_of_ble_eq_true rfl) dX5_joined_210
                                · refine zw_case hf (fun c1054 hf => ?_) (fun c1054 hf => ?_)
                                  · refine zw_tableIn (off := 196) (tgt := 197) hx hb c1054 dX5_joined_1 (by decide) (by decide) rfl (by decide) ?_
                                    refine lv_iload_n hx hb dX5_joined_197 rfl (lv_at hl 1 rfl) ?_
                                    refine zw_if_ne (tgt := 205) hx hb hf dX5_joined_198 (by decide) (fun hf => ?_) (fun hf => ?_)
                                    · refine lv_iconst (v := (1 : Int32)) hx hb dX5_joined_205 (by decide) ?_
                                      refine lv_goto (tgt := 210) hx hb dX5_joined_206 (by decide) ?_
                                      exact zw_iret X hw hf (Nat.le_of_ble_eq_true rfl) (Nat.le_of_ble_eq_true rfl) dX5_joined_210
                                    · refine lv_iload_n hx hb dX5_joined_201 rfl (lv_at hl 2 rfl) ?_
                                      refine zw_if_eq (tgt := 209) hx hb hf dX5_joined_202 (by decide) (fun hf => ?_) (fun hf => ?_)
                                      · refine lv_iconst (v := (0 : Int32)) hx hb dX5_joined_209 (by decide) ?_
                                        exact zw_iret X hw hf (Nat.le_of_ble_eq_true rfl) (Nat.le_of_ble_eq_true rfl) dX5_joined_210
                                      · refine lv_iconst (v := (1 : Int32)) hx hb dX5_joined_205 (by decide) ?_
                                        refine lv_goto (tgt := 210) hx hb dX5_joined_206 (by decide) ?_
                                        exact zw_iret X hw hf (Nat.le_of_ble_eq_true rfl) (Nat.le_of_ble_eq_true rfl) dX5_joined_210
                                  · refine zw_case hf (fun c1055 hf => ?_) (fun c1055 hf => ?_)
                                    · refine zw_tableIn (off := 196) (tgt := 197) hx hb c1055 dX5_joined_1 (by decide) (by decide) rfl (by decide) ?_
                                      refine lv_iload_n hx hb dX5_joined_197 rfl (lv_at hl 1 rfl) ?_
                                      refine zw_if_ne (tgt := 205) hx hb hf dX5_joined_198 (by decide) (fun hf => ?_) (fun hf => ?_)
                                      · refine lv_iconst (v := (1 : Int32)) hx hb dX5_joined_205 (by decide) ?_
                                        refine lv_goto (tgt := 210) hx hb dX5_joined_206 (by decide) ?_
                                        exact zw_iret X hw hf (Nat.le_of_ble_eq_true rfl) (Nat.le_of_ble_eq_true rfl) dX5_joined_210
                                      · refine lv_iload_n hx hb dX5_joined_201 rfl (lv_at hl 2 rfl) ?_
                                        refine zw_if_eq (tgt := 209) hx hb hf dX5_joined_202 (by decide) (fun hf => ?_) (fun hf => ?_)
                                        · refine lv_iconst (v := (0 : Int32)) hx hb dX5_joined_209 (by decide) ?_
                                          exact zw_iret X hw hf (Nat.le_of_ble_eq_true rfl) (Nat.le_of_ble_eq_true rfl) dX5_joined_210
                                        · refine lv_iconst (v := (1 : Int32)) hx hb dX5_joined_205 (by decide) ?_
                                          refine lv_goto (tgt := 210) hx hb dX5_joined_206 (by decide) ?_
                                          exact zw_iret X hw hf (Nat.le_of_ble_eq_true rfl) (Nat.le_of_ble_eq_true rfl) dX5_joined_210
                                    · refine zw_case hf (fun c1056 hf => ?_) (fun c1056 hf => ?_)
                                      · refine zw_tableIn (off := 196) (tgt := 197) hx hb c1056 dX5_joined_1 (by decide) (by decide) rfl (by decide) ?_
                                        refine lv_iload_n hx hb dX5_joined_197 rfl (lv_at hl 1 rfl) ?_
                                        refine zw_if_ne (tgt := 205) hx hb hf dX5_joined_198 (by decide) (fun hf => ?_) (fun hf => ?_)
                                        · refine lv_iconst (v := (1 : Int32)) hx hb dX5_joined_205 (by decide) ?_
                                          refine lv_goto (tgt := 210) hx hb dX5_joined_206 (by decide) ?_
                                          exact zw_iret X hw hf (Nat.le_of_ble_eq_true rfl) (Nat.le_of_ble_eq_true rfl) dX5_joined_210
                                        · refine lv_iload_n hx hb dX5_joined_201 rfl (lv_at hl 2 rfl) ?_
                                          refine zw_if_eq (tgt := 209) hx hb hf dX5_joined_202 (by decide) (fun hf => ?_) (fun hf => ?_)
                                          · refine lv_iconst (v := (0 : Int32)) hx hb dX5_joined_209 (by decide) ?_
                                            exact zw_iret X hw hf (Nat.le_of_ble_eq_true rfl) (Nat.le_of_ble_eq_true rfl) dX5_joined_210
                                          · refine lv_iconst (v := (1 : Int32)) hx hb dX5_joined_205 (by decide) ?_
                                            refine lv_goto (tgt := 210) hx hb dX5_joined_206 (by decide) ?_
                                            exact zw_iret X hw hf (Nat.le_of_ble_eq_true rfl) (Nat.le_of_ble_eq_true rfl) dX5_joined_210
                                      · refine zw_case hf (fun c1057 hf => ?_) (fun c1057 hf => ?_)
                                        · refine zw_tableIn (off := 196) (tgt := 197) hx hb c1057 dX5_joined_1 (by decide) (by decide) rfl (by decide) ?_
                                          refine lv_iload_n hx hb dX5_joined_197 rfl (lv_at hl 1 rfl) ?_
                                          refine zw_if_ne (tgt := 205) hx hb hf dX5_joined_198 (by decide) (fun hf => ?_) (fun hf => ?_)
                                          · refine lv_iconst (v := (1 : Int32)) hx hb dX5_joined_205 (by decide) ?_
                                            refine lv_goto (tgt := 210) hx hb dX5_joined_206 (by decide) ?_
                                            exact zw_iret X hw hf (Nat.le_of_ble_eq_true rfl) (Nat.le_of_ble_eq_true rfl) dX5_joined_210
                                          · refine lv_iload_n hx hb dX5_joined_201 rfl (lv_at hl 2 rfl) ?_
                                            refine zw_if_eq (tgt := 209) hx hb hf dX5_joined_202 (by decide) (fun hf => ?_) (fun hf => ?_)
                                            · refine lv_iconst (v := (0 : Int32)) hx hb dX5_joined_209 (by decide) ?_
                                              exact zw_iret X hw hf (Nat.le_of_ble_eq_true rfl) (Nat.le_of_ble_eq_true rfl) dX5_joined_210
                                            · refine lv_iconst (v := (1 : Int32)) hx hb dX5_joined_205 (by decide) ?_
                                              refine lv_goto (tgt := 210) hx hb dX5_joined_206 (by decide) ?_
                                              exact zw_iret X hw hf (Nat.le_of_ble_eq_true rfl) (Nat.le_of_ble_eq_true rfl) dX5_joined_210
                                        · refine zw_case hf (fun c1058 hf => ?_) (fun c1058 hf => ?_)
                                          · refine zw_tableIn (off := 196) (tgt := 197) hx hb c1058 dX5_joined_1 (by decide) (by decide) rfl (by decide) ?_
                                            refine lv_iload_n hx hb dX5_joined_197 rfl (lv_at hl 1 rfl) ?_
                                            refine zw_if_ne (tgt := 205) hx hb hf dX5_joined_198 (by decide) (fun hf => ?_) (fun hf => ?_)
                                            · refine lv_iconst (v := (1 : Int32)) hx hb dX5_joined_205 (by decide) ?_
                                              refine lv_goto (tgt := 210) hx hb dX5_joined_206 (by decide) ?_
                                              exact zw_iret X hw hf (Nat.le_of_ble_eq_true rfl) (Nat.le_of_ble_eq_true rfl) dX5_joined_210
                                            · refine lv_iload_n hx hb dX5_joined_201 rfl (lv_at hl 2 rfl) ?_
                                              refine zw_if_eq (tgt := 209) hx hb hf dX5_joined_202 (by decide) (fun hf => ?_) (fun hf => ?_)
                                              · refine lv_iconst (v := (0 : Int32)) hx hb dX5_joined_209 (by decide) ?_
                                                exact zw_iret X hw hf (Nat.le_of_ble_eq_true rfl) (Nat.le_of_ble_eq_true rfl) dX5_joined_210
                                              · refine lv_iconst (v := (1 : Int32)) hx hb dX5_joined_205 (by decide) ?_
                                                refine lv_goto (tgt := 210) hx hb dX5_joined_206 (by decide) ?_
                                                exact zw_iret X hw hf (Nat.le_of_ble_eq_true rfl) (Nat.le_of_ble_eq_true rfl) dX5_joined_210
                                          · refine zw_case hf (fun c1059 hf => ?_) (fun c1059 hf => ?_)
                                            · refine zw_tableIn (off := 196) (tgt := 197) hx hb c1059 dX5_joined_1 (by decide) (by decide) rfl (by decide) ?_
                                              refine lv_iload_n hx hb dX5_joined_197 rfl (lv_at hl 1 rfl) ?_
                                              refine zw_if_ne (tgt := 205) hx hb hf dX5_joined_198 (by decide) (fun hf => ?_) (fun hf => ?_)
                                              · refine lv_iconst (v := (1 : Int32)) hx hb dX5_joined_205 (by decide) ?_
                                                refine lv_goto (tgt := 210) hx hb dX5_joined_206 (by decide) ?_
                                                exact zw_iret X hw hf (Nat.le_of_ble_eq_true rfl) (Nat.le_of_ble_eq_true rfl) dX5_joined_210
                                              · refine lv_iload_n hx hb dX5_joined_201 rfl (lv_at hl 2 rfl) ?_
                                                refine zw_if_eq (tgt := 209) hx hb hf dX5_joined_202 (by decide) (fun hf => ?_) (fun hf => ?_)
                                                · refine lv_iconst (v := (0 : Int32)) hx hb dX5_joined_209 (by decide) ?_
                                                  exact zw_iret X hw hf (Nat.le_of_ble_eq_true rfl) (Nat.le_of_ble_eq_true rfl) dX5_joined_210
                                                · refine lv_iconst (v := (1 : Int32)) hx hb dX5_joined_205 (by decide) ?_
                                                  refine lv_goto (tgt := 210) hx hb dX5_joined_206 (by decide) ?_
                                                  exact zw_iret X hw hf (Nat.le_of_ble_eq_true rfl) (Nat.le_of_ble_eq_true rfl) dX5_joined_210
                                            · refine zw_case hf (fun c1060 hf => ?_) (fun c1060 hf => ?_)
                                              · refine zw_tableIn (off := 149) (tgt := 150) hx hb c1060 dX5_joined_1 (by decide) (by decide) rfl (by decide) ?_
                                                refine lv_iload_n hx hb dX5_joined_150 rfl (lv_at hl 1 rfl) ?_
                                                refine lv_iload_n hx hb dX5_joined_151 rfl (lv_at hl 2 rfl) ?_
                                                refine zw_icmp_ge (tgt := 159) hx hb hf dX5_joined_152 (by decide) (fun hf => ?_) (fun hf => ?_)
                                                · refine lv_iconst (v := (0 : Int32)) hx hb dX5_joined_159 (by decide) ?_
                                                  exact zw_iret X hw hf (Nat.le_of_ble_eq_true rfl) (Nat.le_of_ble_eq_true rfl) dX5_joined_160
                                                · refine lv_iconst (v := (1 : Int32)) hx hb dX5_joined_155 (by decide) ?_
                                                  refine lv_goto (tgt := 160) hx hb dX5_joined_156 (by decide) ?_
                                                  exact zw_iret X hw hf (Nat.le_of_ble_eq_true rfl) (Nat.le_of_ble_eq_true rfl) dX5_joined_160
                                              · refine zw_case hf (fun c1061 hf => ?_) (fun c1061 hf => ?_)
                                                · refine zw_tableIn (off := 171) (tgt := 172) hx hb c1061 dX5_joined_1 (by decide) (by decide) rfl (by decide) ?_
                                                  refine lv_iload_n hx hb dX5_joined_172 rfl (lv_at hl 1 rfl) ?_
                                                  refine lv_iload_n hx hb dX5_joined_173 rfl (lv_at hl 2 rfl) ?_
                                                  refine zw_icmp_ne (tgt := 181) hx hb hf dX5_joined_174 (by decide) (fun hf => ?_) (fun hf => ?_)
                                                  · refine lv_iconst (v := (0 : Int32)) hx hb dX5_joined_181 (by decide) ?_
                                                    exact zw_iret X hw hf (Nat.le_of_ble_eq_true rfl) (Nat.le_of_ble_eq_true rfl) dX5_joined_182
                                                  · refine lv_iconst (v := (1 : Int32)) hx hb dX5_joined_177 (by decide) ?_
                                                    refine lv_goto (tgt := 182) hx hb dX5_joined_178 (by decide) ?_
                                                    exact zw_iret X hw hf (Nat.le_of_ble_eq_true rfl) (Nat.le_of_ble_eq_true rfl) dX5_joined_182
                                                · refine zw_case hf (fun c1062 hf => ?_) (fun c1062 hf => ?_)
                                                  · refine zw_tableIn (off := 160) (tgt := 161) hx hb c1062 dX5_joined_1 (by decide) (by decide) rfl (by decide) ?_
                                                    refine lv_iload_n hx hb dX5_joined_161 rfl (lv_at hl 1 rfl) ?_
                                                    refine lv_iload_n hx hb dX5_joined_162 rfl (lv_at hl 2 rfl) ?_
                                                    refine zw_icmp_le (tgt := 170) hx hb hf dX5_joined_163 (by decide) (fun hf => ?_) (fun hf => ?_)
                                                    · refine lv_iconst (v := (0 : Int32)) hx hb dX5_joined_170 (by decide) ?_
                                                      exact zw_iret X hw hf (Nat.le_of_ble_eq_true rfl) (Nat.le_of_ble_eq_true rfl) dX5_joined_171
                                                    · refine lv_iconst (v := (1 : Int32)) hx hb dX5_joined_166 (by decide) ?_
                                                      refine lv_goto (tgt := 171) hx hb dX5_joined_167 (by decide) ?_
                                                      exact zw_iret X hw hf (Nat.le_of_ble_eq_true rfl) (Nat.le_of_ble_eq_true rfl) dX5_joined_171
                                                  · refine lv_tableOut (tgt := 197) hx hb dX5_joined_1 (by have := lv_neT c1038 (a := 38) (by decide); have := lv_neT c1039 (a := 39) (by decide); have := lv_neT c1040 (a := 40) (by decide); have := lv_neT c1041 (a := 41) (by decide); have := lv_neT c1042 (a := 42) (by decide); have := lv_neT c1043 (a := 43) (by decide); have := lv_neT c1044 (a := 44) (by decide); have := lv_neT c1045 (a := 45) (by decide); have := lv_neT c1046 (a := 46) (by decide); have := lv_neT c1047 (a := 47) (by decide); have := lv_neT c1048 (a := 48) (by decide); have := lv_neT c1049 (a := 49) (by decide); have := lv_neT c1050 (a := 50) (by decide); have := lv_neT c1051 (a := 51) (by decide); have := lv_neT c1052 (a := 52) (by decide); have := lv_neT c1053 (a := 53) (by decide); have := lv_neT c1054 (a := 54) (by decide); have := lv_neT c1055 (a := 55) (by decide); have := lv_neT c1056 (a := 56) (by decide); have := lv_neT c1057 (a := 57) (by decide); have := lv_neT c1058 (a := 58) (by decide); have := lv_neT c1059 (a := 59) (by decide); have := lv_neT c1060 (a := 60) (by decide); have := lv_neT c1061 (a := 61) (by decide); have := lv_neT c1062 (a := 62) (by decide); omega) (by decide) ?_
                                                    refine lv_iload_n hx hb dX5_joined_197 rfl (lv_at hl 1 rfl) ?_
                                                    refine zw_if_ne (tgt := 205) hx hb hf dX5_joined_198 (by decide) (fun hf => ?_) (fun hf => ?_)
                                                    · refine lv_iconst (v := (1 : Int32)) hx hb dX5_joined_205 (by decide) ?_
                                                      refine lv_goto (tgt := 210) hx hb dX5_joined_206 (by decide) ?_
                                                      exact zw_iret X hw hf (Nat.le_of_ble_eq_true rfl) (Nat.le_of_ble_eq_true rfl) dX5_joined_210
                                                    · refine lv_iload_n hx hb dX5_joined_201 rfl (lv_at hl 2 rfl) ?_
                                                      refine zw_if_eq (tgt := 209) hx hb hf dX5_joined_202 (by decide) (fun hf => ?_) (fun hf => ?_)
                                                      · refine lv_iconst (v := (0 : Int32)) hx hb dX5_joined_209 (by decide) ?_
                                                        exact zw_iret X hw hf (Nat.le_of_ble_eq_true rfl) (Nat.le_of_ble_eq_true rfl) dX5_joined_210
                                                      · refine lv_iconst (v := (1 : Int32)) hx hb dX5_joined_205 (by decide) ?_
                                                        refine lv_goto (tgt := 210) hx hb dX5_joined_206 (by decide) ?_
                                                        exact zw_iret X hw hf (Nat.le_of_ble_eq_true rfl) (Nat.le_of_ble_eq_true rfl) dX5_joined_210
