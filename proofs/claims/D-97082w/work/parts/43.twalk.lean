/-! The parser: the walks (gen/thr.py) -/
set_option maxRecDepth 100000
set_option maxHeartbeats 4000000 in
theorem mx_X0_wrong (l : Launch) (D : va_G) (A : Nat → Prop) (h : zT) (a0 : Nat) (res : (Nat ⊕ Unit) × zT) (hf : f_X0_wrong h a0 = some res) : zMt l yX0_wrong cX0_wrong 1 (Option.none : Option FieldType) [] rm_X0_wrong (zPW D A (zEv A) h [.ref a0]) (zQX D A (zoV res.1) res.2) 0 0 A := by
  refine zmtX (zEv_ok A) (Nat.le_of_ble_eq_true rfl) ?_
  intro p e s m below meth c ls htb hmn X hw hl
  have hl : lv_has ls 1 [(0, .ref a0)] := hl
  have hx := X.1.1
  have hb := X.1.2.1
  have hown := X.1.2.2.2.1
  have hts := X.1.2.2.2.2
  have hN := X.2.2.2.2.2.2.1
  have hDW := X.2.2.2.2.2.2.2.1
  have hAO := X.2.2.2.2.2.2.2.2.1
  have hNC := X.2.2.2.2.2.2.2.2.2.1
  unfold f_X0_wrong at hf
  refine lv_aload_n hx hb dX0_wrong_0 rfl (lv_at hl 0 rfl) ?_
  refine zw_getR X hw fs_X0_8 q260 rfl hf dX0_wrong_1 (fun v1 hf => ?_)
  refine lv_aload_n hx hb dX0_wrong_4 rfl (lv_at hl 0 rfl) ?_
  refine zw_getI X hw fs_X0_9 q261 rfl hf dX0_wrong_5 (fun v2 hf => ?_)
  refine zw_putN X hw fs_X2_6 (hN _ nq211) rfl rfl rfl rfl hf dX0_wrong_8 (fun h3 H locs hf hw => ?_)
  refine lv_aload_n hx hb dX0_wrong_11 rfl (lv_at hl 0 rfl) ?_
  refine zw_getR X hw fs_X0_8 q260 rfl hf dX0_wrong_12 (fun v4 hf => ?_)
  exact zx_throw (fun _ => rfl) X hw hf htb (by simp) (Nat.le_of_ble_eq_true rfl) (Nat.le_of_ble_eq_true rfl) dX0_wrong_15
set_option maxHeartbeats 4000000 in
theorem k_X0_goes_275 {p : Program} {l : Launch} {e : Env} {s : State} {m : MethodId} {args : Array Value} {below : List Frame} {meth : Method} {c : Code} {D : va_G} {A : Nat → Prop} (X : zCx p s m args meth c D A (zEv A) cX0_goes 5 RX0 (Option.none : Option FieldType)) (htb : zTbl c []) (res : (Nat ⊕ Unit) × zT) : ∀ (h : zT) (a0 : Nat) (i2 : Int32) (i3 : Int32) (s0 : Int32) (H : Heap) (locs : List Loc) (ls : Array Slot), f_X0_goes_275 h a0 i2 i3 s0 = some res → zWh D A s H h locs → lv_has ls 5 [(0, .ref a0), (2, .int i2), (3, .int i3)] → W p l e rm_X0_goes s m args below meth c H locs 0 0 (zMQ below (zQX D A (zoV res.1) res.2) args s 0 0 A) (F0 m 275 ls [.int s0]) := by
  have hx := X.1.1
  have hb := X.1.2.1
  have hown := X.1.2.2.2.1
  have hts := X.1.2.2.2.2
  have hN := X.2.2.2.2.2.2.1
  have hDW := X.2.2.2.2.2.2.2.1
  have hAO := X.2.2.2.2.2.2.2.2.1
  have hNC := X.2.2.2.2.2.2.2.2.2.1
  intro h a0 i2 i3 s0 H locs ls hf hw hl
  unfold f_X0_goes_275 at hf
  refine lv_istore (lv' := [(4, .int s0), (0, .ref a0), (2, .int i2), (3, .int i3)]) hx hb dX0_goes_275 hl (by decide) rfl (fun ls hl => ?_)
  refine lv_iload hx hb dX0_goes_277 (lv_at hl 0 rfl) ?_
  refine zw_if_eq (tgt := 294) hx hb hf dX0_goes_279 (by decide) (fun hf => ?_) (fun hf => ?_)
  · exact zx_vret X hw hf (Nat.le_of_ble_eq_true rfl) (Nat.le_of_ble_eq_true rfl) dX0_goes_294
  · refine lv_iload_n hx hb dX0_goes_282 rfl (lv_at hl 2 rfl) ?_
    refine zw_if_ne (tgt := 290) hx hb hf dX0_goes_283 (by decide) (fun hf => ?_) (fun hf => ?_)
    · refine lv_aload_n hx hb dX0_goes_290 rfl (lv_at hl 1 rfl) ?_
      refine zw_kC hf (fun fs hfs hf => ?_)
      refine zx_callV (rest := []) (fun _ => rfl) X hw hf (fun r hr => zrtV (C := RX0) (As := []) (rest := []) X.1 (mx_X0_wrong l D A h a0 r hr) (hts _ q361) (hts _ q363) (hts _ qs4) (zCode.code (hts _ q364)) cd_X0_wrong (by decide) rfl rfl ⟨Nat.le_of_ble_eq_true rfl, Nat.le_of_ble_eq_true rfl⟩ (zpreV (ci := 0) X hw hfs rfl _) rfl rfl hl.1 rfl (lv_room (Nat.le_of_ble_eq_true rfl)) dX0_goes_291 ⟨Nat.le_of_ble_eq_true rfl, Nat.le_of_ble_eq_true rfl⟩) htb (by simp) (Nat.le_of_ble_eq_true rfl) (Nat.le_of_ble_eq_true rfl) (fun h1 H locs hf hw => ?_)
      exact zx_vret X hw hf (Nat.le_of_ble_eq_true rfl) (Nat.le_of_ble_eq_true rfl) dX0_goes_294
    · refine lv_iload_n hx hb dX0_goes_286 rfl (lv_at hl 3 rfl) ?_
      refine zw_if_eq (tgt := 294) hx hb hf dX0_goes_287 (by decide) (fun hf => ?_) (fun hf => ?_)
      · exact zx_vret X hw hf (Nat.le_of_ble_eq_true rfl) (Nat.le_of_ble_eq_true rfl) dX0_goes_294
      · refine lv_aload_n hx hb dX0_goes_290 rfl (lv_at hl 1 rfl) ?_
        refine zw_kC hf (fun fs hfs hf => ?_)
        refine zx_callV (rest := []) (fun _ => rfl) X hw hf (fun r hr => zrtV (C := RX0) (As := []) (rest := []) X.1 (mx_X0_wrong l D A h a0 r hr) (hts _ q361) (hts _ q363) (hts _ qs4) (zCode.code (hts _ q364)) cd_X0_wrong (by decide) rfl rfl ⟨Nat.le_of_ble_eq_true rfl, Nat.le_of_ble_eq_true rfl⟩ (zpreV (ci := 0) X hw hfs rfl _) rfl rfl hl.1 rfl (lv_room (Nat.le_of_ble_eq_true rfl)) dX0_goes_291 ⟨Nat.le_of_ble_eq_true rfl, Nat.le_of_ble_eq_true rfl⟩) htb (by simp) (Nat.le_of_ble_eq_true rfl) (Nat.le_of_ble_eq_true rfl) (fun h3 H locs hf hw => ?_)
        exact zx_vret X hw hf (Nat.le_of_ble_eq_true rfl) (Nat.le_of_ble_eq_true rfl) dX0_goes_294
set_option maxHeartbeats 4000000 in
theorem k_X0_goes_230 {p : Program} {l : Launch} {e : Env} {s : State} {m : MethodId} {args : Array Value} {below : List Frame} {meth : Method} {c : Code} {D : va_G} {A : Nat → Prop} (X : zCx p s m args meth c D A (zEv A) cX0_goes 5 RX0 (Option.none : Option FieldType)) (htb : zTbl c []) (res : (Nat ⊕ Unit) × zT) : ∀ (h : zT) (a0 : Nat) (i1 : Int32) (i2 : Int32) (i3 : Int32) (H : Heap) (locs : List Loc) (ls : Array Slot), f_X0_goes_230 h a0 i1 i2 i3 = some res → zWh D A s H h locs → lv_has ls 5 [(0, .ref a0), (1, .int i1), (2, .int i2), (3, .int i3)] → W p l e rm_X0_goes s m args below meth c H locs 0 0 (zMQ below (zQX D A (zoV res.1) res.2) args s 0 0 A) (F0 m 230 ls []) := by
  have hx := X.1.1
  have hb := X.1.2.1
  have hown := X.1.2.2.2.1
  have hts := X.1.2.2.2.2
  have hN := X.2.2.2.2.2.2.1
  have hDW := X.2.2.2.2.2.2.2.1
  have hAO := X.2.2.2.2.2.2.2.2.1
  have hNC := X.2.2.2.2.2.2.2.2.2.1
  intro h a0 i1 i2 i3 H locs ls hf hw hl
  unfold f_X0_goes_230 at hf
  refine lv_aload_n hx hb dX0_goes_230 rfl (lv_at hl 0 rfl) ?_
  refine zw_getI X hw fs_X0_9 q261 rfl hf dX0_goes_231 (fun v1 hf => ?_)
  refine lv_iload_n hx hb dX0_goes_234 rfl (lv_at hl 1 rfl) ?_
  refine zw_icmp_ne (tgt := 274) hx hb hf dX0_goes_235 (by decide) (fun hf => ?_) (fun hf => ?_)
  · refine lv_iconst (v := (0 : Int32)) hx hb dX0_goes_274 (by decide) ?_
    exact k_X0_goes_275 X htb _ h a0 i2 i3 (0 : Int32) _ _ _ hf hw (lv_sub hl [0, 2, 3] rfl)
  · refine lv_iload_n hx hb dX0_goes_238 rfl (lv_at hl 1 rfl) ?_
    refine zw_if_le (tgt := 274) hx hb hf dX0_goes_239 (by decide) (fun hf => ?_) (fun hf => ?_)
    · refine lv_iconst (v := (0 : Int32)) hx hb dX0_goes_274 (by decide) ?_
      exact k_X0_goes_275 X htb _ h a0 i2 i3 (0 : Int32) _ _ _ hf hw (lv_sub hl [0, 2, 3] rfl)
    · refine lv_aload_n hx hb dX0_goes_242 rfl (lv_at hl 0 rfl) ?_
      refine zw_getR X hw fs_X0_6 q258 rfl hf dX0_goes_243 (fun v2 hf => ?_)
      refine lv_iload_n hx hb dX0_goes_246 rfl (lv_at hl 1 rfl) ?_
      refine lv_iconst (v := (1 : Int32)) hx hb dX0_goes_247 (by decide) ?_
      refine lv_isub hx hb dX0_goes_248 ?_
      refine zw_baload X hw hf dX0_goes_249 (fun v3 hf => ?_)
      refine zw_goZ (rest := []) hw hf (fun r hr => va_runS (As := [.int v3]) (rest := []) X.1 (mt_X0_isLetter l D A h v3 r hr) (va_cwS 1 hts (lw_S q355 q356 q81 q357) rfl rfl rfl cd_X0_isLetter ⟨Nat.le_of_ble_eq_true rfl, Nat.le_of_ble_eq_true rfl⟩) (zpreS X hw _) rfl rfl hl.1 rfl (lv_room (Nat.le_of_ble_eq_true rfl)) dX0_goes_250 ⟨Nat.le_of_ble_eq_true rfl, Nat.le_of_ble_eq_true rfl⟩) (fun r4 H locs hf hw => ?_)
      refine zw_if_ne (tgt := 270) hx hb hf dX0_goes_253 (by decide) (fun hf => ?_) (fun hf => ?_)
      · refine lv_iconst (v := (1 : Int32)) hx hb dX0_goes_270 (by decide) ?_
        refine lv_goto (tgt := 275) hx hb dX0_goes_271 (by decide) ?_
        exact k_X0_goes_275 X htb _ r4.2 a0 i2 i3 (1 : Int32) _ _ _ hf hw (lv_sub hl [0, 2, 3] rfl)
      · refine lv_aload_n hx hb dX0_goes_256 rfl (lv_at hl 0 rfl) ?_
        refine zw_getR X hw fs_X0_6 q258 rfl hf dX0_goes_257 (fun v5 hf => ?_)
        refine lv_iload_n hx hb dX0_goes_260 rfl (lv_at hl 1 rfl) ?_
        refine lv_iconst (v := (1 : Int32)) hx hb dX0_goes_261 (by decide) ?_
        refine lv_isub hx hb dX0_goes_262 ?_
        refine zw_baload X hw hf dX0_goes_263 (fun v6 hf => ?_)
        refine zw_goZ (rest := []) hw hf (fun r hr => va_runS (As := [.int v6]) (rest := []) X.1 (mt_X0_isDigit l D A r4.2 v6 r hr) (va_cwS 1 hts (lw_S q358 q359 q81 q360) rfl rfl rfl cd_X0_isDigit ⟨Nat.le_of_ble_eq_true rfl, Nat.le_of_ble_eq_true rfl⟩) (zpreS X hw _) rfl rfl hl.1 rfl (lv_room (Nat.le_of_ble_eq_true rfl)) dX0_goes_264 ⟨Nat.le_of_ble_eq_true rfl, Nat.le_of_ble_eq_true rfl⟩) (fun r7 H locs hf hw => ?_)
        refine zw_if_eq (tgt := 274) hx hb hf dX0_goes_267 (by decide) (fun hf => ?_) (fun hf => ?_)
        · refine lv_iconst (v := (0 : Int32)) hx hb dX0_goes_274 (by decide) ?_
          exact k_X0_goes_275 X htb _ r7.2 a0 i2 i3 (0 : Int32) _ _ _ hf hw (lv_sub hl [0, 2, 3] rfl)
        · refine lv_iconst (v := (1 : Int32)) hx hb dX0_goes_270 (by decide) ?_
          refine lv_goto (tgt := 275) hx hb dX0_goes_271 (by decide) ?_
          exact k_X0_goes_275 X htb _ r7.2 a0 i2 i3 (1 : Int32) _ _ _ hf hw (lv_sub hl [0, 2, 3] rfl)
set_option maxHeartbeats 4000000 in
theorem k_X0_goes_127 {p : Program} {l : Launch} {e : Env} {s : State} {m : MethodId} {args : Array Value} {below : List Frame} {meth : Method} {c : Code} {D : va_G} {A : Nat → Prop} (X : zCx p s m args meth c D A (zEv A) cX0_goes 5 RX0 (Option.none : Option FieldType)) (htb : zTbl c []) (res : (Nat ⊕ Unit) × zT) : ∀ (n : Nat), ∀ (h : zT) (a0 : Nat) (i1 : Int32) (i2 : Int32) (i3 : Int32) (H : Heap) (locs : List Loc) (ls : Array Slot), f_X0_goes_127 n h a0 i1 i2 i3 = some res → zWh D A s H h locs → lv_has ls 5 [(0, .ref a0), (1, .int i1), (2, .int i2), (3, .int i3)] → W p l e rm_X0_goes s m args below meth c H locs 0 0 (zMQ below (zQX D A (zoV res.1) res.2) args s 0 0 A) (F0 m 127 ls []) := by
  have hx := X.1.1
  have hb := X.1.2.1
  have hown := X.1.2.2.2.1
  have hts := X.1.2.2.2.2
  have hN := X.2.2.2.2.2.2.1
  have hDW := X.2.2.2.2.2.2.2.1
  have hAO := X.2.2.2.2.2.2.2.2.1
  have hNC := X.2.2.2.2.2.2.2.2.2.1
  intro n
  induction n with
  | zero =>
    intro h a0 i1 i2 i3 H locs ls hf hw hl
    cases hf
  | succ n ih =>
    intro h a0 i1 i2 i3 H locs ls hf hw hl
    unfold f_X0_goes_127 at hf
    refine lv_aload_n hx hb dX0_goes_127 rfl (lv_at hl 0 rfl) ?_
    refine zw_getI X hw fs_X0_10 q262 rfl hf dX0_goes_128 (fun v1 hf => ?_)
    refine lv_aload_n hx hb dX0_goes_131 rfl (lv_at hl 0 rfl) ?_
    refine zw_getI X hw fs_X0_11 q263 rfl hf dX0_goes_132 (fun v2 hf => ?_)
    refine zw_icmp_ge (tgt := 230) hx hb hf dX0_goes_135 (by decide) (fun hf => ?_) (fun hf => ?_)
    · exact k_X0_goes_230 X htb _ h a0 i1 i2 i3 _ _ _ hf hw (lv_sub hl [0, 1, 2, 3] rfl)
    · refine lv_aload_n hx hb dX0_goes_138 rfl (lv_at hl 0 rfl) ?_
      refine zw_getR X hw fs_X0_6 q258 rfl hf dX0_goes_139 (fun v3 hf => ?_)
      refine lv_aload_n hx hb dX0_goes_142 rfl (lv_at hl 0 rfl) ?_
      refine zw_getI X hw fs_X0_10 q262 rfl hf dX0_goes_143 (fun v4 hf => ?_)
      refine zw_baload X hw hf dX0_goes_146 (fun v5 hf => ?_)
      refine zw_goZ (rest := []) hw hf (fun r hr => va_runS (As := [.int v5]) (rest := []) X.1 (mt_X0_isLetter l D A h v5 r hr) (va_cwS 1 hts (lw_S q355 q356 q81 q357) rfl rfl rfl cd_X0_isLetter ⟨Nat.le_of_ble_eq_true rfl, Nat.le_of_ble_eq_true rfl⟩) (zpreS X hw _) rfl rfl hl.1 rfl (lv_room (Nat.le_of_ble_eq_true rfl)) dX0_goes_147 ⟨Nat.le_of_ble_eq_true rfl, Nat.le_of_ble_eq_true rfl⟩) (fun r6 H locs hf hw => ?_)
      refine zw_if_eq (tgt := 230) hx hb hf dX0_goes_150 (by decide) (fun hf => ?_) (fun hf => ?_)
      · exact k_X0_goes_230 X htb _ r6.2 a0 i1 i2 i3 _ _ _ hf hw (lv_sub hl [0, 1, 2, 3] rfl)
      · refine lv_aload_n hx hb dX0_goes_153 rfl (lv_at hl 0 rfl) ?_
        refine lv_dup hx hb dX0_goes_154 rfl ?_
        refine zw_getI X hw fs_X0_10 q262 rfl hf dX0_goes_155 (fun v7 hf => ?_)
        refine lv_iconst (v := (1 : Int32)) hx hb dX0_goes_158 (by decide) ?_
        refine lv_iadd hx hb dX0_goes_159 ?_
        refine zw_put X hw fs_X0_10 q262 rfl rfl rfl rfl hf dX0_goes_160 (fun h8 H locs hf hw => ?_)
        refine lv_goto (tgt := 127) hx hb dX0_goes_163 (by decide) ?_
        exact ih h8 a0 i1 i2 i3 _ _ _ hf hw (lv_sub hl [0, 1, 2, 3] rfl)
set_option maxHeartbeats 4000000 in
theorem k_X0_goes_170 {p : Program} {l : Launch} {e : Env} {s : State} {m : MethodId} {args : Array Value} {below : List Frame} {meth : Method} {c : Code} {D : va_G} {A : Nat → Prop} (X : zCx p s m args meth c D A (zEv A) cX0_goes 5 RX0 (Option.none : Option FieldType)) (htb : zTbl c []) (res : (Nat ⊕ Unit) × zT) : ∀ (n : Nat), ∀ (h : zT) (a0 : Nat) (i1 : Int32) (i2 : Int32) (i3 : Int32) (H : Heap) (locs : List Loc) (ls : Array Slot), f_X0_goes_170 n h a0 i1 i2 i3 = some res → zWh D A s H h locs → lv_has ls 5 [(0, .ref a0), (1, .int i1), (2, .int i2), (3, .int i3)] → W p l e rm_X0_goes s m args below meth c H locs 0 0 (zMQ below (zQX D A (zoV res.1) res.2) args s 0 0 A) (F0 m 170 ls []) := by
  have hx := X.1.1
  have hb := X.1.2.1
  have hown := X.1.2.2.2.1
  have hts := X.1.2.2.2.2
  have hN := X.2.2.2.2.2.2.1
  have hDW := X.2.2.2.2.2.2.2.1
  have hAO := X.2.2.2.2.2.2.2.2.1
  have hNC := X.2.2.2.2.2.2.2.2.2.1
  intro n
  induction n with
  | zero =>
    intro h a0 i1 i2 i3 H locs ls hf hw hl
    cases hf
  | succ n ih =>
    intro h a0 i1 i2 i3 H locs ls hf hw hl
    unfold f_X0_goes_170 at hf
    refine lv_aload_n hx hb dX0_goes_170 rfl (lv_at hl 0 rfl) ?_
    refine zw_getI X hw fs_X0_10 q262 rfl hf dX0_goes_171 (fun v1 hf => ?_)
    refine lv_aload_n hx hb dX0_goes_174 rfl (lv_at hl 0 rfl) ?_
    refine zw_getI X hw fs_X0_11 q263 rfl hf dX0_goes_175 (fun v2 hf => ?_)
    refine zw_icmp_ge (tgt := 230) hx hb hf dX0_goes_178 (by decide) (fun hf => ?_) (fun hf => ?_)
    · exact k_X0_goes_230 X htb _ h a0 i1 i2 i3 _ _ _ hf hw (lv_sub hl [0, 1, 2, 3] rfl)
    · refine lv_aload_n hx hb dX0_goes_181 rfl (lv_at hl 0 rfl) ?_
      refine zw_getR X hw fs_X0_6 q258 rfl hf dX0_goes_182 (fun v3 hf => ?_)
      refine lv_aload_n hx hb dX0_goes_185 rfl (lv_at hl 0 rfl) ?_
      refine zw_getI X hw fs_X0_10 q262 rfl hf dX0_goes_186 (fun v4 hf => ?_)
      refine zw_baload X hw hf dX0_goes_189 (fun v5 hf => ?_)
      refine zw_goZ (rest := []) hw hf (fun r hr => va_runS (As := [.int v5]) (rest := []) X.1 (mt_X0_isDigit l D A h v5 r hr) (va_cwS 1 hts (lw_S q358 q359 q81 q360) rfl rfl rfl cd_X0_isDigit ⟨Nat.le_of_ble_eq_true rfl, Nat.le_of_ble_eq_true rfl⟩) (zpreS X hw _) rfl rfl hl.1 rfl (lv_room (Nat.le_of_ble_eq_true rfl)) dX0_goes_190 ⟨Nat.le_of_ble_eq_true rfl, Nat.le_of_ble_eq_true rfl⟩) (fun r6 H locs hf hw => ?_)
      refine zw_if_eq (tgt := 230) hx hb hf dX0_goes_193 (by decide) (fun hf => ?_) (fun hf => ?_)
      · exact k_X0_goes_230 X htb _ r6.2 a0 i1 i2 i3 _ _ _ hf hw (lv_sub hl [0, 1, 2, 3] rfl)
      · refine lv_aload_n hx hb dX0_goes_196 rfl (lv_at hl 0 rfl) ?_
        refine lv_dup hx hb dX0_goes_197 rfl ?_
        refine zw_getI X hw fs_X0_10 q262 rfl hf dX0_goes_198 (fun v7 hf => ?_)
        refine lv_iconst (v := (1 : Int32)) hx hb dX0_goes_201 (by decide) ?_
        refine lv_iadd hx hb dX0_goes_202 ?_
        refine zw_put X hw fs_X0_10 q262 rfl rfl rfl rfl hf dX0_goes_203 (fun h8 H locs hf hw => ?_)
        refine lv_goto (tgt := 170) hx hb dX0_goes_206 (by decide) ?_
        exact ih h8 a0 i1 i2 i3 _ _ _ hf hw (lv_sub hl [0, 1, 2, 3] rfl)
set_option maxHeartbeats 4000000 in
theorem k_X0_goes_122 {p : Program} {l : Launch} {e : Env} {s : State} {m : MethodId} {args : Array Value} {below : List Frame} {meth : Method} {c : Code} {D : va_G} {A : Nat → Prop} (X : zCx p s m args meth c D A (zEv A) cX0_goes 5 RX0 (Option.none : Option FieldType)) (htb : zTbl c []) (res : (Nat ⊕ Unit) × zT) : ∀ (h : zT) (a0 : Nat) (i1 : Int32) (i2 : Int32) (s0 : Int32) (H : Heap) (locs : List Loc) (ls : Array Slot), f_X0_goes_122 h a0 i1 i2 s0 = some res → zWh D A s H h locs → lv_has ls 5 [(0, .ref a0), (1, .int i1), (2, .int i2)] → W p l e rm_X0_goes s m args below meth c H locs 0 0 (zMQ below (zQX D A (zoV res.1) res.2) args s 0 0 A) (F0 m 122 ls [.int s0]) := by
  have hx := X.1.1
  have hb := X.1.2.1
  have hown := X.1.2.2.2.1
  have hts := X.1.2.2.2.2
  have hN := X.2.2.2.2.2.2.1
  have hDW := X.2.2.2.2.2.2.2.1
  have hAO := X.2.2.2.2.2.2.2.2.1
  have hNC := X.2.2.2.2.2.2.2.2.2.1
  intro h a0 i1 i2 s0 H locs ls hf hw hl
  unfold f_X0_goes_122 at hf
  refine lv_istore_n (lv' := [(3, .int s0), (0, .ref a0), (1, .int i1), (2, .int i2)]) hx hb dX0_goes_122 rfl hl (by decide) rfl (fun ls hl => ?_)
  refine lv_iload_n hx hb dX0_goes_123 rfl (lv_at hl 3 rfl) ?_
  refine zw_if_eq (tgt := 166) hx hb hf dX0_goes_124 (by decide) (fun hf => ?_) (fun hf => ?_)
  · refine lv_iload_n hx hb dX0_goes_166 rfl (lv_at hl 0 rfl) ?_
    refine zw_if_eq (tgt := 209) hx hb hf dX0_goes_167 (by decide) (fun hf => ?_) (fun hf => ?_)
    · refine lv_aload_n hx hb dX0_goes_209 rfl (lv_at hl 1 rfl) ?_
      refine zw_getI X hw fs_X0_9 q261 rfl hf dX0_goes_210 (fun v1 hf => ?_)
      refine lv_aload_n hx hb dX0_goes_213 rfl (lv_at hl 1 rfl) ?_
      refine zw_getI X hw fs_X0_11 q263 rfl hf dX0_goes_214 (fun v2 hf => ?_)
      refine zw_icmp_ge (tgt := 230) hx hb hf dX0_goes_217 (by decide) (fun hf => ?_) (fun hf => ?_)
      · exact k_X0_goes_230 X htb _ h a0 i1 i2 s0 _ _ _ hf hw (lv_sub hl [1, 2, 3, 0] rfl)
      · refine lv_aload_n hx hb dX0_goes_220 rfl (lv_at hl 1 rfl) ?_
        refine lv_dup hx hb dX0_goes_221 rfl ?_
        refine zw_getI X hw fs_X0_10 q262 rfl hf dX0_goes_222 (fun v3 hf => ?_)
        refine lv_iconst (v := (1 : Int32)) hx hb dX0_goes_225 (by decide) ?_
        refine lv_iadd hx hb dX0_goes_226 ?_
        refine zw_put X hw fs_X0_10 q262 rfl rfl rfl rfl hf dX0_goes_227 (fun h4 H locs hf hw => ?_)
        exact k_X0_goes_230 X htb _ h4 a0 i1 i2 s0 _ _ _ hf hw (lv_sub hl [1, 2, 3, 0] rfl)
    · exact k_X0_goes_170 X htb _ 4096 h a0 i1 i2 s0 _ _ _ hf hw (lv_sub hl [1, 2, 3, 0] rfl)
  · exact k_X0_goes_127 X htb _ 4096 h a0 i1 i2 s0 _ _ _ hf hw (lv_sub hl [1, 2, 3, 0] rfl)
set_option maxHeartbeats 4000000 in
theorem k_X0_goes_90 {p : Program} {l : Launch} {e : Env} {s : State} {m : MethodId} {args : Array Value} {below : List Frame} {meth : Method} {c : Code} {D : va_G} {A : Nat → Prop} (X : zCx p s m args meth c D A (zEv A) cX0_goes 5 RX0 (Option.none : Option FieldType)) (htb : zTbl c []) (res : (Nat ⊕ Unit) × zT) : ∀ (h : zT) (a0 : Nat) (i1 : Int32) (s0 : Int32) (H : Heap) (locs : List Loc) (ls : Array Slot), f_X0_goes_90 h a0 i1 s0 = some res → zWh D A s H h locs → lv_has ls 5 [(0, .ref a0), (1, .int i1)] → W p l e rm_X0_goes s m args below meth c H locs 0 0 (zMQ below (zQX D A (zoV res.1) res.2) args s 0 0 A) (F0 m 90 ls [.int s0]) := by
  have hx := X.1.1
  have hb := X.1.2.1
  have hown := X.1.2.2.2.1
  have hts := X.1.2.2.2.2
  have hN := X.2.2.2.2.2.2.1
  have hDW := X.2.2.2.2.2.2.2.1
  have hAO := X.2.2.2.2.2.2.2.2.1
  have hNC := X.2.2.2.2.2.2.2.2.2.1
  intro h a0 i1 s0 H locs ls hf hw hl
  unfold f_X0_goes_90 at hf
  refine lv_istore_n (lv' := [(2, .int s0), (0, .ref a0), (1, .int i1)]) hx hb dX0_goes_90 rfl hl (by decide) rfl (fun ls hl => ?_)
  refine lv_aload_n hx hb dX0_goes_91 rfl (lv_at hl 1 rfl) ?_
  refine zw_getI X hw fs_X0_9 q261 rfl hf dX0_goes_92 (fun v1 hf => ?_)
  refine lv_aload_n hx hb dX0_goes_95 rfl (lv_at hl 1 rfl) ?_
  refine zw_getI X hw fs_X0_11 q263 rfl hf dX0_goes_96 (fun v2 hf => ?_)
  refine zw_icmp_ge (tgt := 121) hx hb hf dX0_goes_99 (by decide) (fun hf => ?_) (fun hf => ?_)
  · refine lv_iconst (v := (0 : Int32)) hx hb dX0_goes_121 (by decide) ?_
    exact k_X0_goes_122 X htb _ h a0 i1 s0 (0 : Int32) _ _ _ hf hw (lv_sub hl [1, 2, 0] rfl)
  · refine lv_aload_n hx hb dX0_goes_102 rfl (lv_at hl 1 rfl) ?_
    refine zw_getR X hw fs_X0_6 q258 rfl hf dX0_goes_103 (fun v3 hf => ?_)
    refine lv_aload_n hx hb dX0_goes_106 rfl (lv_at hl 1 rfl) ?_
    refine zw_getI X hw fs_X0_9 q261 rfl hf dX0_goes_107 (fun v4 hf => ?_)
    refine zw_baload X hw hf dX0_goes_110 (fun v5 hf => ?_)
    refine zw_goZ (rest := []) hw hf (fun r hr => va_runS (As := [.int v5]) (rest := []) X.1 (mt_X0_isDigit l D A h v5 r hr) (va_cwS 1 hts (lw_S q358 q359 q81 q360) rfl rfl rfl cd_X0_isDigit ⟨Nat.le_of_ble_eq_true rfl, Nat.le_of_ble_eq_true rfl⟩) (zpreS X hw _) rfl rfl hl.1 rfl (lv_room (Nat.le_of_ble_eq_true rfl)) dX0_goes_111 ⟨Nat.le_of_ble_eq_true rfl, Nat.le_of_ble_eq_true rfl⟩) (fun r6 H locs hf hw => ?_)
    refine zw_if_eq (tgt := 121) hx hb hf dX0_goes_114 (by decide) (fun hf => ?_) (fun hf => ?_)
    · refine lv_iconst (v := (0 : Int32)) hx hb dX0_goes_121 (by decide) ?_
      exact k_X0_goes_122 X htb _ r6.2 a0 i1 s0 (0 : Int32) _ _ _ hf hw (lv_sub hl [1, 2, 0] rfl)
    · refine lv_iconst (v := (1 : Int32)) hx hb dX0_goes_117 (by decide) ?_
      refine lv_goto (tgt := 122) hx hb dX0_goes_118 (by decide) ?_
      exact k_X0_goes_122 X htb _ r6.2 a0 i1 s0 (1 : Int32) _ _ _ hf hw (lv_sub hl [1, 2, 0] rfl)
set_option maxHeartbeats 4000000 in
theorem k_X0_goes_51 {p : Program} {l : Launch} {e : Env} {s : State} {m : MethodId} {args : Array Value} {below : List Frame} {meth : Method} {c : Code} {D : va_G} {A : Nat → Prop} (X : zCx p s m args meth c D A (zEv A) cX0_goes 5 RX0 (Option.none : Option FieldType)) (htb : zTbl c []) (res : (Nat ⊕ Unit) × zT) : ∀ (h : zT) (a0 : Nat) (i1 : Int32) (H : Heap) (locs : List Loc) (ls : Array Slot), f_X0_goes_51 h a0 i1 = some res → zWh D A s H h locs → lv_has ls 5 [(0, .ref a0), (1, .int i1)] → W p l e rm_X0_goes s m args below meth c H locs 0 0 (zMQ below (zQX D A (zoV res.1) res.2) args s 0 0 A) (F0 m 51 ls []) := by
  have hx := X.1.1
  have hb := X.1.2.1
  have hown := X.1.2.2.2.1
  have hts := X.1.2.2.2.2
  have hN := X.2.2.2.2.2.2.1
  have hDW := X.2.2.2.2.2.2.2.1
  have hAO := X.2.2.2.2.2.2.2.2.1
  have hNC := X.2.2.2.2.2.2.2.2.2.1
  intro h a0 i1 H locs ls hf hw hl
  unfold f_X0_goes_51 at hf
  refine lv_aload_n hx hb dX0_goes_51 rfl (lv_at hl 0 rfl) ?_
  refine lv_aload_n hx hb dX0_goes_52 rfl (lv_at hl 0 rfl) ?_
  refine zw_getI X hw fs_X0_9 q261 rfl hf dX0_goes_53 (fun v1 hf => ?_)
  refine zw_put X hw fs_X0_10 q262 rfl rfl rfl rfl hf dX0_goes_56 (fun h2 H locs hf hw => ?_)
  refine lv_aload_n hx hb dX0_goes_59 rfl (lv_at hl 0 rfl) ?_
  refine zw_getI X hw fs_X0_9 q261 rfl hf dX0_goes_60 (fun v3 hf => ?_)
  refine lv_aload_n hx hb dX0_goes_63 rfl (lv_at hl 0 rfl) ?_
  refine zw_getI X hw fs_X0_11 q263 rfl hf dX0_goes_64 (fun v4 hf => ?_)
  refine zw_icmp_ge (tgt := 89) hx hb hf dX0_goes_67 (by decide) (fun hf => ?_) (fun hf => ?_)
  · refine lv_iconst (v := (0 : Int32)) hx hb dX0_goes_89 (by decide) ?_
    exact k_X0_goes_90 X htb _ h2 a0 i1 (0 : Int32) _ _ _ hf hw (lv_sub hl [0, 1] rfl)
  · refine lv_aload_n hx hb dX0_goes_70 rfl (lv_at hl 0 rfl) ?_
    refine zw_getR X hw fs_X0_6 q258 rfl hf dX0_goes_71 (fun v5 hf => ?_)
    refine lv_aload_n hx hb dX0_goes_74 rfl (lv_at hl 0 rfl) ?_
    refine zw_getI X hw fs_X0_9 q261 rfl hf dX0_goes_75 (fun v6 hf => ?_)
    refine zw_baload X hw hf dX0_goes_78 (fun v7 hf => ?_)
    refine zw_goZ (rest := []) hw hf (fun r hr => va_runS (As := [.int v7]) (rest := []) X.1 (mt_X0_isLetter l D A h2 v7 r hr) (va_cwS 1 hts (lw_S q355 q356 q81 q357) rfl rfl rfl cd_X0_isLetter ⟨Nat.le_of_ble_eq_true rfl, Nat.le_of_ble_eq_true rfl⟩) (zpreS X hw _) rfl rfl hl.1 rfl (lv_room (Nat.le_of_ble_eq_true rfl)) dX0_goes_79 ⟨Nat.le_of_ble_eq_true rfl, Nat.le_of_ble_eq_true rfl⟩) (fun r8 H locs hf hw => ?_)
    refine zw_if_eq (tgt := 89) hx hb hf dX0_goes_82 (by decide) (fun hf => ?_) (fun hf => ?_)
    · refine lv_iconst (v := (0 : Int32)) hx hb dX0_goes_89 (by decide) ?_
      exact k_X0_goes_90 X htb _ r8.2 a0 i1 (0 : Int32) _ _ _ hf hw (lv_sub hl [0, 1] rfl)
    · refine lv_iconst (v := (1 : Int32)) hx hb dX0_goes_85 (by decide) ?_
      refine lv_goto (tgt := 90) hx hb dX0_goes_86 (by decide) ?_
      exact k_X0_goes_90 X htb _ r8.2 a0 i1 (1 : Int32) _ _ _ hf hw (lv_sub hl [0, 1] rfl)
set_option maxHeartbeats 4000000 in
theorem k_X0_goes_13 {p : Program} {l : Launch} {e : Env} {s : State} {m : MethodId} {args : Array Value} {below : List Frame} {meth : Method} {c : Code} {D : va_G} {A : Nat → Prop} (X : zCx p s m args meth c D A (zEv A) cX0_goes 5 RX0 (Option.none : Option FieldType)) (htb : zTbl c []) (res : (Nat ⊕ Unit) × zT) : ∀ (n : Nat), ∀ (h : zT) (a0 : Nat) (i1 : Int32) (H : Heap) (locs : List Loc) (ls : Array Slot), f_X0_goes_13 n h a0 i1 = some res → zWh D A s H h locs → lv_has ls 5 [(0, .ref a0), (1, .int i1)] → W p l e rm_X0_goes s m args below meth c H locs 0 0 (zMQ below (zQX D A (zoV res.1) res.2) args s 0 0 A) (F0 m 13 ls []) := by
  have hx := X.1.1
  have hb := X.1.2.1
  have hown := X.1.2.2.2.1
  have hts := X.1.2.2.2.2
  have hN := X.2.2.2.2.2.2.1
  have hDW := X.2.2.2.2.2.2.2.1
  have hAO := X.2.2.2.2.2.2.2.2.1
  have hNC := X.2.2.2.2.2.2.2.2.2.1
  intro n
  induction n with
  | zero =>
    intro h a0 i1 H locs ls hf hw hl
    cases hf
  | succ n ih =>
    intro h a0 i1 H locs ls hf hw hl
    unfold f_X0_goes_13 at hf
    refine lv_aload_n hx hb dX0_goes_13 rfl (lv_at hl 0 rfl) ?_
    refine zw_getI X hw fs_X0_9 q261 rfl hf dX0_goes_14 (fun v1 hf => ?_)
    refine lv_aload_n hx hb dX0_goes_17 rfl (lv_at hl 0 rfl) ?_
    refine zw_getI X hw fs_X0_11 q263 rfl hf dX0_goes_18 (fun v2 hf => ?_)
    refine zw_icmp_ge (tgt := 51) hx hb hf dX0_goes_21 (by decide) (fun hf => ?_) (fun hf => ?_)
    · exact k_X0_goes_51 X htb _ h a0 i1 _ _ _ hf hw (lv_sub hl [0, 1] rfl)
    · refine lv_aload_n hx hb dX0_goes_24 rfl (lv_at hl 0 rfl) ?_
      refine zw_getR X hw fs_X0_6 q258 rfl hf dX0_goes_25 (fun v3 hf => ?_)
      refine lv_aload_n hx hb dX0_goes_28 rfl (lv_at hl 0 rfl) ?_
      refine zw_getI X hw fs_X0_9 q261 rfl hf dX0_goes_29 (fun v4 hf => ?_)
      refine zw_baload X hw hf dX0_goes_32 (fun v5 hf => ?_)
      refine lv_bipush (v := (32 : Int32)) hx hb dX0_goes_33 (by decide) ?_
      refine zw_icmp_ne (tgt := 51) hx hb hf dX0_goes_35 (by decide) (fun hf => ?_) (fun hf => ?_)
      · exact k_X0_goes_51 X htb _ h a0 i1 _ _ _ hf hw (lv_sub hl [0, 1] rfl)
      · refine lv_aload_n hx hb dX0_goes_38 rfl (lv_at hl 0 rfl) ?_
        refine lv_dup hx hb dX0_goes_39 rfl ?_
        refine zw_getI X hw fs_X0_9 q261 rfl hf dX0_goes_40 (fun v6 hf => ?_)
        refine lv_iconst (v := (1 : Int32)) hx hb dX0_goes_43 (by decide) ?_
        refine lv_iadd hx hb dX0_goes_44 ?_
        refine zw_put X hw fs_X0_9 q261 rfl rfl rfl rfl hf dX0_goes_45 (fun h7 H locs hf hw => ?_)
        refine lv_goto (tgt := 13) hx hb dX0_goes_48 (by decide) ?_
        exact ih h7 a0 i1 _ _ _ hf hw (lv_sub hl [0, 1] rfl)
set_option maxHeartbeats 4000000 in
theorem mx_X0_goes (l : Launch) (D : va_G) (A : Nat → Prop) (h : zT) (a0 : Nat) (res : (Nat ⊕ Unit) × zT) (hf : f_X0_goes h a0 = some res) : zMt l yX0_goes cX0_goes 5 (Option.none : Option FieldType) [] rm_X0_goes (zPW D A (zEv A) h [.ref a0]) (zQX D A (zoV res.1) res.2) 0 0 A := by
  refine zmtX (zEv_ok A) (Nat.le_of_ble_eq_true rfl) ?_
  intro p e s m below meth c ls htb hmn X hw hl
  have hl : lv_has ls 5 [(0, .ref a0)] := hl
  have hx := X.1.1
  have hb := X.1.2.1
  have hown := X.1.2.2.2.1
  have hts := X.1.2.2.2.2
  have hN := X.2.2.2.2.2.2.1
  have hDW := X.2.2.2.2.2.2.2.1
  have hAO := X.2.2.2.2.2.2.2.2.1
  have hNC := X.2.2.2.2.2.2.2.2.2.1
  unfold f_X0_goes at hf
  refine lv_aload_n hx hb dX0_goes_0 rfl (lv_at hl 0 rfl) ?_
  refine zw_getI X hw fs_X0_10 q262 rfl hf dX0_goes_1 (fun v1 hf => ?_)
  refine lv_istore_n (lv' := [(1, .int v1), (0, .ref a0)]) hx hb dX0_goes_4 rfl hl (by decide) rfl (fun ls hl => ?_)
  refine lv_aload_n hx hb dX0_goes_5 rfl (lv_at hl 1 rfl) ?_
  refine lv_aload_n hx hb dX0_goes_6 rfl (lv_at hl 1 rfl) ?_
  refine zw_getI X hw fs_X0_10 q262 rfl hf dX0_goes_7 (fun v2 hf => ?_)
  refine zw_put X hw fs_X0_9 q261 rfl rfl rfl rfl hf dX0_goes_10 (fun h3 H locs hf hw => ?_)
  exact k_X0_goes_13 X htb _ 4096 h3 a0 v1 _ _ _ hf hw (lv_sub hl [1, 0] rfl)
set_option maxHeartbeats 4000000 in
theorem k_X0_number_50 {p : Program} {l : Launch} {e : Env} {s : State} {m : MethodId} {args : Array Value} {below : List Frame} {meth : Method} {c : Code} {D : va_G} {A : Nat → Prop} (X : zCx p s m args meth c D A (zEv A) cX0_number 3 RX0 (Option.some FieldType.int)) (htb : zTbl c []) (res : (Nat ⊕ Int32) × zT) : ∀ (n : Nat), ∀ (h : zT) (a0 : Nat) (i1 : Int32) (i2 : Int32) (H : Heap) (locs : List Loc) (ls : Array Slot), f_X0_number_50 n h a0 i1 i2 = some res → zWh D A s H h locs → lv_has ls 3 [(0, .ref a0), (1, .int i1), (2, .int i2)] → W p l e rm_X0_number s m args below meth c H locs 0 0 (zMQ below (zQX D A (zoI res.1) res.2) args s 0 0 A) (F0 m 50 ls []) := by
  have hx := X.1.1
  have hb := X.1.2.1
  have hown := X.1.2.2.2.1
  have hts := X.1.2.2.2.2
  have hN := X.2.2.2.2.2.2.1
  have hDW := X.2.2.2.2.2.2.2.1
  have hAO := X.2.2.2.2.2.2.2.2.1
  have hNC := X.2.2.2.2.2.2.2.2.2.1
  intro n
  induction n with
  | zero =>
    intro h a0 i1 i2 H locs ls hf hw hl
    cases hf
  | succ n ih =>
    intro h a0 i1 i2 H locs ls hf hw hl
    unfold f_X0_number_50 at hf
    refine lv_iload_n hx hb dX0_number_50 rfl (lv_at hl 2 rfl) ?_
    refine lv_aload_n hx hb dX0_number_51 rfl (lv_at hl 0 rfl) ?_
    refine zw_getI X hw fs_X0_10 q262 rfl hf dX0_number_52 (fun v1 hf => ?_)
    refine zw_icmp_ge (tgt := 79) hx hb hf dX0_number_55 (by decide) (fun hf => ?_) (fun hf => ?_)
    · refine lv_aload_n hx hb dX0_number_79 rfl (lv_at hl 0 rfl) ?_
      refine zw_kC hf (fun fs hfs hf => ?_)
      refine zx_callV (rest := []) (fun _ => rfl) X hw hf (fun r hr => zrtV (C := RX0) (As := []) (rest := []) X.1 (mx_X0_goes l D A h a0 r hr) (hts _ q351) (hts _ q353) (hts _ qs3) (zCode.code (hts _ q354)) cd_X0_goes (by decide) rfl rfl ⟨Nat.le_of_ble_eq_true rfl, Nat.le_of_ble_eq_true rfl⟩ (zpreV (ci := 0) X hw hfs rfl _) rfl rfl hl.1 rfl (lv_room (Nat.le_of_ble_eq_true rfl)) dX0_number_80 ⟨Nat.le_of_ble_eq_true rfl, Nat.le_of_ble_eq_true rfl⟩) htb (by simp) (Nat.le_of_ble_eq_true rfl) (Nat.le_of_ble_eq_true rfl) (fun h2 H locs hf hw => ?_)
      refine lv_iload_n hx hb dX0_number_83 rfl (lv_at hl 1 rfl) ?_
      exact zx_iret X hw hf (Nat.le_of_ble_eq_true rfl) (Nat.le_of_ble_eq_true rfl) dX0_number_84
    · refine lv_bipush (v := (10 : Int32)) hx hb dX0_number_58 (by decide) ?_
      refine lv_iload_n hx hb dX0_number_60 rfl (lv_at hl 1 rfl) ?_
      refine lv_imul hx hb dX0_number_61 ?_
      refine lv_aload_n hx hb dX0_number_62 rfl (lv_at hl 0 rfl) ?_
      refine zw_getR X hw fs_X0_6 q258 rfl hf dX0_number_63 (fun v4 hf => ?_)
      refine lv_iload_n hx hb dX0_number_66 rfl (lv_at hl 2 rfl) ?_
      refine zw_baload X hw hf dX0_number_67 (fun v5 hf => ?_)
      refine lv_iadd hx hb dX0_number_68 ?_
      refine lv_bipush (v := (48 : Int32)) hx hb dX0_number_69 (by decide) ?_
      refine lv_isub hx hb dX0_number_71 ?_
      refine zw_nmI hf (fun v6 hf => ?_)
      refine lv_istore_n (lv' := [(1, .int v6), (0, .ref a0), (2, .int i2)]) hx hb dX0_number_72 rfl hl (by decide) rfl (fun ls hl => ?_)
      refine zw_nmS hf (fun v7 ev7 hf => ?_)
      refine lv_iinc (k := 2) (v := v7) (lv' := [(2, .int v7), (1, .int v6), (0, .ref a0)]) hx hb dX0_number_73 hl rfl (by rw [ev7]; rfl) (by decide) rfl (fun ls hl => ?_)
      refine lv_goto (tgt := 50) hx hb dX0_number_76 (by decide) ?_
      exact ih h a0 v6 v7 _ _ _ hf hw (lv_sub hl [2, 1, 0] rfl)
set_option maxHeartbeats 4000000 in
theorem k_X0_number_39 {p : Program} {l : Launch} {e : Env} {s : State} {m : MethodId} {args : Array Value} {below : List Frame} {meth : Method} {c : Code} {D : va_G} {A : Nat → Prop} (X : zCx p s m args meth c D A (zEv A) cX0_number 3 RX0 (Option.some FieldType.int)) (htb : zTbl c []) (res : (Nat ⊕ Int32) × zT) : ∀ (h : zT) (a0 : Nat) (H : Heap) (locs : List Loc) (ls : Array Slot), f_X0_number_39 h a0 = some res → zWh D A s H h locs → lv_has ls 3 [(0, .ref a0)] → W p l e rm_X0_number s m args below meth c H locs 0 0 (zMQ below (zQX D A (zoI res.1) res.2) args s 0 0 A) (F0 m 39 ls []) := by
  have hx := X.1.1
  have hb := X.1.2.1
  have hown := X.1.2.2.2.1
  have hts := X.1.2.2.2.2
  have hN := X.2.2.2.2.2.2.1
  have hDW := X.2.2.2.2.2.2.2.1
  have hAO := X.2.2.2.2.2.2.2.2.1
  have hNC := X.2.2.2.2.2.2.2.2.2.1
  intro h a0 H locs ls hf hw hl
  unfold f_X0_number_39 at hf
  refine lv_aload_n hx hb dX0_number_39 rfl (lv_at hl 0 rfl) ?_
  refine zw_kC hf (fun fs hfs hf => ?_)
  refine zx_callV (rest := []) (fun _ => rfl) X hw hf (fun r hr => zrtV (C := RX0) (As := []) (rest := []) X.1 (mx_X0_wrong l D A h a0 r hr) (hts _ q361) (hts _ q363) (hts _ qs4) (zCode.code (hts _ q364)) cd_X0_wrong (by decide) rfl rfl ⟨Nat.le_of_ble_eq_true rfl, Nat.le_of_ble_eq_true rfl⟩ (zpreV (ci := 0) X hw hfs rfl _) rfl rfl hl.1 rfl (lv_room (Nat.le_of_ble_eq_true rfl)) dX0_number_40 ⟨Nat.le_of_ble_eq_true rfl, Nat.le_of_ble_eq_true rfl⟩) htb (by simp) (Nat.le_of_ble_eq_true rfl) (Nat.le_of_ble_eq_true rfl) (fun h1 H locs hf hw => ?_)
  refine lv_iconst (v := (0 : Int32)) hx hb dX0_number_43 (by decide) ?_
  refine lv_istore_n (lv' := [(1, .int (0 : Int32)), (0, .ref a0)]) hx hb dX0_number_44 rfl hl (by decide) rfl (fun ls hl => ?_)
  refine lv_aload_n hx hb dX0_number_45 rfl (lv_at hl 1 rfl) ?_
  refine zw_getI X hw fs_X0_9 q261 rfl hf dX0_number_46 (fun v3 hf => ?_)
  refine lv_istore_n (lv' := [(2, .int v3), (1, .int (0 : Int32)), (0, .ref a0)]) hx hb dX0_number_49 rfl hl (by decide) rfl (fun ls hl => ?_)
  exact k_X0_number_50 X htb _ 4096 h1 a0 (0 : Int32) v3 _ _ _ hf hw (lv_sub hl [2, 1, 0] rfl)
set_option maxHeartbeats 4000000 in
theorem mx_X0_number (l : Launch) (D : va_G) (A : Nat → Prop) (h : zT) (a0 : Nat) (res : (Nat ⊕ Int32) × zT) (hf : f_X0_number h a0 = some res) : zMt l yX0_number cX0_number 3 (Option.some FieldType.int) [] rm_X0_number (zPW D A (zEv A) h [.ref a0]) (zQX D A (zoI res.1) res.2) 0 0 A := by
  refine zmtX (zEv_ok A) (Nat.le_of_ble_eq_true rfl) ?_
  intro p e s m below meth c ls htb hmn X hw hl
  have hl : lv_has ls 3 [(0, .ref a0)] := hl
  have hx := X.1.1
  have hb := X.1.2.1
  have hown := X.1.2.2.2.1
  have hts := X.1.2.2.2.2
  have hN := X.2.2.2.2.2.2.1
  have hDW := X.2.2.2.2.2.2.2.1
  have hAO := X.2.2.2.2.2.2.2.2.1
  have hNC := X.2.2.2.2.2.2.2.2.2.1
  unfold f_X0_number at hf
  refine lv_aload_n hx hb dX0_number_0 rfl (lv_at hl 0 rfl) ?_
  refine zw_getI X hw fs_X0_9 q261 rfl hf dX0_number_1 (fun v1 hf => ?_)
  refine lv_aload_n hx hb dX0_number_4 rfl (lv_at hl 0 rfl) ?_
  refine zw_getI X hw fs_X0_11 q263 rfl hf dX0_number_5 (fun v2 hf => ?_)
  refine zw_icmp_eq (tgt := 39) hx hb hf dX0_number_8 (by decide) (fun hf => ?_) (fun hf => ?_)
  · exact k_X0_number_39 X htb _ h a0 _ _ _ hf hw (lv_sub hl [0] rfl)
  · refine lv_aload_n hx hb dX0_number_11 rfl (lv_at hl 0 rfl) ?_
    refine zw_getR X hw fs_X0_6 q258 rfl hf dX0_number_12 (fun v3 hf => ?_)
    refine lv_aload_n hx hb dX0_number_15 rfl (lv_at hl 0 rfl) ?_
    refine zw_getI X hw fs_X0_9 q261 rfl hf dX0_number_16 (fun v4 hf => ?_)
    refine zw_baload X hw hf dX0_number_19 (fun v5 hf => ?_)
    refine zw_goZ (rest := []) hw hf (fun r hr => va_runS (As := [.int v5]) (rest := []) X.1 (mt_X0_isDigit l D A h v5 r hr) (va_cwS 1 hts (lw_S q358 q359 q81 q360) rfl rfl rfl cd_X0_isDigit ⟨Nat.le_of_ble_eq_true rfl, Nat.le_of_ble_eq_true rfl⟩) (zpreS X hw _) rfl rfl hl.1 rfl (lv_room (Nat.le_of_ble_eq_true rfl)) dX0_number_20 ⟨Nat.le_of_ble_eq_true rfl, Nat.le_of_ble_eq_true rfl⟩) (fun r6 H locs hf hw => ?_)
    refine zw_if_eq (tgt := 39) hx hb hf dX0_number_23 (by decide) (fun hf => ?_) (fun hf => ?_)
    · exact k_X0_number_39 X htb _ r6.2 a0 _ _ _ hf hw (lv_sub hl [0] rfl)
    · refine lv_aload_n hx hb dX0_number_26 rfl (lv_at hl 0 rfl) ?_
      refine zw_getI X hw fs_X0_10 q262 rfl hf dX0_number_27 (fun v7 hf => ?_)
      refine lv_aload_n hx hb dX0_number_30 rfl (lv_at hl 0 rfl) ?_
      refine zw_getI X hw fs_X0_9 q261 rfl hf dX0_number_31 (fun v8 hf => ?_)
      refine lv_isub hx hb dX0_number_34 ?_
      refine lv_iconst (v := (4 : Int32)) hx hb dX0_number_35 (by decide) ?_
      refine zw_icmp_le (tgt := 43) hx hb hf dX0_number_36 (by decide) (fun hf => ?_) (fun hf => ?_)
      · refine lv_iconst (v := (0 : Int32)) hx hb dX0_number_43 (by decide) ?_
        refine lv_istore_n (lv' := [(1, .int (0 : Int32)), (0, .ref a0)]) hx hb dX0_number_44 rfl hl (by decide) rfl (fun ls hl => ?_)
        refine lv_aload_n hx hb dX0_number_45 rfl (lv_at hl 1 rfl) ?_
        refine zw_getI X hw fs_X0_9 q261 rfl hf dX0_number_46 (fun v9 hf => ?_)
        refine lv_istore_n (lv' := [(2, .int v9), (1, .int (0 : Int32)), (0, .ref a0)]) hx hb dX0_number_49 rfl hl (by decide) rfl (fun ls hl => ?_)
        exact k_X0_number_50 X htb _ 4096 r6.2 a0 (0 : Int32) v9 _ _ _ hf hw (lv_sub hl [2, 1, 0] rfl)
      · exact k_X0_number_39 X htb _ r6.2 a0 _ _ _ hf hw (lv_sub hl [0] rfl)
set_option maxHeartbeats 4000000 in
theorem k_X0_term_38 {p : Program} {l : Launch} {e : Env} {s : State} {m : MethodId} {args : Array Value} {below : List Frame} {meth : Method} {c : Code} {D : va_G} {A : Nat → Prop} (X : zCx p s m args meth c D A (zEv A) cX0_term 3 RX0 (Option.none : Option FieldType)) (htb : zTbl c []) (P : zT → Nat → Nat → Option ((Nat ⊕ Unit) × zT)) (d : Nat) (hP : ∀ (h : zT) (a0 a1 : Nat) (res : (Nat ⊕ Unit) × zT), P h a0 a1 = some res → zMt l yX0_piece cX0_piece 2 none [] (rm_X0_piece d) (zPW D A (zEv A) h [.ref a0, .ref a1]) (zQX D A (zoV res.1) res.2) 0 0 A) (res : (Nat ⊕ Unit) × zT) (K5 : zT → Nat → Nat → Option ((Nat ⊕ Unit) × zT)) (hK5 : ∀ (h : zT) (a0 : Nat) (a1 : Nat) (H : Heap) (locs : List Loc) (ls : Array Slot), K5 h a0 a1 = some res → zWh D A s H h locs → lv_has ls 3 [(0, .ref a0), (1, .ref a1)] → W p l e (rm_X0_term d) s m args below meth c H locs 0 0 (zMQ below (zQX D A (zoV res.1) res.2) args s 0 0 A) (F0 m 5 ls [])) : ∀ (h : zT) (a0 : Nat) (a1 : Nat) (s0 : Int32) (H : Heap) (locs : List Loc) (ls : Array Slot), f_X0_term_38 P K5 h a0 a1 s0 = some res → zWh D A s H h locs → lv_has ls 3 [(0, .ref a0), (1, .ref a1)] → W p l e (rm_X0_term d) s m args below meth c H locs 0 0 (zMQ below (zQX D A (zoV res.1) res.2) args s 0 0 A) (F0 m 38 ls [.int s0]) := by
  have hx := X.1.1
  have hb := X.1.2.1
  have hown := X.1.2.2.2.1
  have hts := X.1.2.2.2.2
  have hN := X.2.2.2.2.2.2.1
  have hDW := X.2.2.2.2.2.2.2.1
  have hAO := X.2.2.2.2.2.2.2.2.1
  have hNC := X.2.2.2.2.2.2.2.2.2.1
  intro h a0 a1 s0 H locs ls hf hw hl
  unfold f_X0_term_38 at hf
  refine lv_istore_n (lv' := [(2, .int s0), (0, .ref a0), (1, .ref a1)]) hx hb dX0_term_38 rfl hl (by decide) rfl (fun ls hl => ?_)
  refine lv_aload_n hx hb dX0_term_39 rfl (lv_at hl 1 rfl) ?_
  refine zw_kC hf (fun fs hfs hf => ?_)
  refine zx_callV (rest := []) (fun _ => rfl) X hw hf (fun r hr => zrtV (C := RX0) (As := []) (rest := []) X.1 (mx_X0_goes l D A h a0 r hr) (hts _ q351) (hts _ q353) (hts _ qs3) (zCode.code (hts _ q354)) cd_X0_goes (by decide) rfl rfl ⟨by dsimp only; omega, by dsimp only; omega⟩ (zpreV (ci := 0) X hw hfs rfl _) rfl rfl hl.1 rfl (lv_room (Nat.le_of_ble_eq_true rfl)) dX0_term_40 ⟨Nat.le_of_ble_eq_true rfl, Nat.le_of_ble_eq_true rfl⟩) htb (by simp) (Nat.le_of_ble_eq_true rfl) (Nat.le_of_ble_eq_true rfl) (fun h1 H locs hf hw => ?_)
  refine lv_aload_n hx hb dX0_term_43 rfl (lv_at hl 1 rfl) ?_
  refine lv_aload_n hx hb dX0_term_44 rfl (lv_at hl 2 rfl) ?_
  refine zw_kC hf (fun fs hfs hf => ?_)
  refine zx_callV (rest := []) (fun _ => rfl) X hw hf (fun r hr => zrtV (C := RX0) (As := [.ref a1]) (rest := []) X.1 (hP h1 a0 a1 r hr) (hts _ q467) (hts _ q469) (hts _ qs13) (zCode.code (hts _ q470)) cd_X0_piece (by decide) rfl rfl ⟨by dsimp only; omega, by dsimp only; omega⟩ (zpreV (ci := 0) X hw hfs rfl _) rfl rfl hl.1 rfl (lv_room (Nat.le_of_ble_eq_true rfl)) dX0_term_45 ⟨Nat.le_of_ble_eq_true rfl, Nat.le_of_ble_eq_true rfl⟩) htb (by simp) (Nat.le_of_ble_eq_true rfl) (Nat.le_of_ble_eq_true rfl) (fun h3 H locs hf hw => ?_)
  refine lv_aload_n hx hb dX0_term_48 rfl (lv_at hl 2 rfl) ?_
  refine lv_iload_n hx hb dX0_term_49 rfl (lv_at hl 0 rfl) ?_
  refine lv_iconst (v := (0 : Int32)) hx hb dX0_term_50 (by decide) ?_
  refine zw_kC hf (fun fs hfs hf => ?_)
  refine zw_goV (rest := []) hw hf (fun r hr => va_runV (C := RX12) (As := [.int s0, .int (0 : Int32)]) (rest := []) X.1 (mt_X12_add l D A h3 a1 s0 (0 : Int32) r hr) (cwV 2 hts (lw_V q475 q476 q477 q104 q478) rfl rfl rfl ⟨rfl, cd_X12_add⟩ ⟨by dsimp only; omega, by dsimp only; omega⟩) (zpreV (ci := 12) X hw hfs rfl _) rfl rfl hl.1 rfl (lv_room (Nat.le_of_ble_eq_true rfl)) dX0_term_51 ⟨Nat.le_of_ble_eq_true rfl, Nat.le_of_ble_eq_true rfl⟩) (fun r5 H locs hf hw => ?_)
  refine lv_goto (tgt := 5) hx hb dX0_term_54 (by decide) ?_
  exact hK5 r5 a0 a1 _ _ _ hf hw (lv_sub hl [1, 2] rfl)
set_option maxHeartbeats 4000000 in
theorem k_X0_term_23 {p : Program} {l : Launch} {e : Env} {s : State} {m : MethodId} {args : Array Value} {below : List Frame} {meth : Method} {c : Code} {D : va_G} {A : Nat → Prop} (X : zCx p s m args meth c D A (zEv A) cX0_term 3 RX0 (Option.none : Option FieldType)) (htb : zTbl c []) (P : zT → Nat → Nat → Option ((Nat ⊕ Unit) × zT)) (d : Nat) (hP : ∀ (h : zT) (a0 a1 : Nat) (res : (Nat ⊕ Unit) × zT), P h a0 a1 = some res → zMt l yX0_piece cX0_piece 2 none [] (rm_X0_piece d) (zPW D A (zEv A) h [.ref a0, .ref a1]) (zQX D A (zoV res.1) res.2) 0 0 A) (res : (Nat ⊕ Unit) × zT) (K5 : zT → Nat → Nat → Option ((Nat ⊕ Unit) × zT)) (hK5 : ∀ (h : zT) (a0 : Nat) (a1 : Nat) (H : Heap) (locs : List Loc) (ls : Array Slot), K5 h a0 a1 = some res → zWh D A s H h locs → lv_has ls 3 [(0, .ref a0), (1, .ref a1)] → W p l e (rm_X0_term d) s m args below meth c H locs 0 0 (zMQ below (zQX D A (zoV res.1) res.2) args s 0 0 A) (F0 m 5 ls [])) : ∀ (h : zT) (a0 : Nat) (a1 : Nat) (H : Heap) (locs : List Loc) (ls : Array Slot), f_X0_term_23 P K5 h a0 a1 = some res → zWh D A s H h locs → lv_has ls 3 [(0, .ref a0), (1, .ref a1)] → W p l e (rm_X0_term d) s m args below meth c H locs 0 0 (zMQ below (zQX D A (zoV res.1) res.2) args s 0 0 A) (F0 m 23 ls []) := by
  have hx := X.1.1
  have hb := X.1.2.1
  have hown := X.1.2.2.2.1
  have hts := X.1.2.2.2.2
  have hN := X.2.2.2.2.2.2.1
  have hDW := X.2.2.2.2.2.2.2.1
  have hAO := X.2.2.2.2.2.2.2.2.1
  have hNC := X.2.2.2.2.2.2.2.2.2.1
  intro h a0 a1 H locs ls hf hw hl
  unfold f_X0_term_23 at hf
  refine lv_aload_n hx hb dX0_term_23 rfl (lv_at hl 0 rfl) ?_
  refine lv_bipush (v := (42 : Int32)) hx hb dX0_term_24 (by decide) ?_
  refine zw_kC hf (fun fs hfs hf => ?_)
  refine zw_goZ (rest := []) hw hf (fun r hr => va_runV (C := RX0) (As := [.int (42 : Int32)]) (rest := []) X.1 (mt_X0_isSign l D A h a0 (42 : Int32) r hr) (cwV 1 hts (lw_V q471 q473 qs14 q81 q474) rfl rfl rfl ⟨rfl, cd_X0_isSign⟩ ⟨by dsimp only; omega, by dsimp only; omega⟩) (zpreV (ci := 0) X hw hfs rfl _) rfl rfl hl.1 rfl (lv_room (Nat.le_of_ble_eq_true rfl)) dX0_term_26 ⟨Nat.le_of_ble_eq_true rfl, Nat.le_of_ble_eq_true rfl⟩) (fun r1 H locs hf hw => ?_)
  refine zw_if_eq (tgt := 36) hx hb hf dX0_term_29 (by decide) (fun hf => ?_) (fun hf => ?_)
  · refine lv_bipush (v := (12 : Int32)) hx hb dX0_term_36 (by decide) ?_
    exact k_X0_term_38 X htb P d hP _ K5 hK5 r1.2 a0 a1 (12 : Int32) _ _ _ hf hw (lv_sub hl [0, 1] rfl)
  · refine lv_iconst (v := (4 : Int32)) hx hb dX0_term_32 (by decide) ?_
    refine lv_goto (tgt := 38) hx hb dX0_term_33 (by decide) ?_
    exact k_X0_term_38 X htb P d hP _ K5 hK5 r1.2 a0 a1 (4 : Int32) _ _ _ hf hw (lv_sub hl [0, 1] rfl)
set_option maxHeartbeats 4000000 in
theorem k_X0_term_5 {p : Program} {l : Launch} {e : Env} {s : State} {m : MethodId} {args : Array Value} {below : List Frame} {meth : Method} {c : Code} {D : va_G} {A : Nat → Prop} (X : zCx p s m args meth c D A (zEv A) cX0_term 3 RX0 (Option.none : Option FieldType)) (htb : zTbl c []) (P : zT → Nat → Nat → Option ((Nat ⊕ Unit) × zT)) (d : Nat) (hP : ∀ (h : zT) (a0 a1 : Nat) (res : (Nat ⊕ Unit) × zT), P h a0 a1 = some res → zMt l yX0_piece cX0_piece 2 none [] (rm_X0_piece d) (zPW D A (zEv A) h [.ref a0, .ref a1]) (zQX D A (zoV res.1) res.2) 0 0 A) (res : (Nat ⊕ Unit) × zT) : ∀ (n : Nat), ∀ (h : zT) (a0 : Nat) (a1 : Nat) (H : Heap) (locs : List Loc) (ls : Array Slot), f_X0_term_5 P n h a0 a1 = some res → zWh D A s H h locs → lv_has ls 3 [(0, .ref a0), (1, .ref a1)] → W p l e (rm_X0_term d) s m args below meth c H locs 0 0 (zMQ below (zQX D A (zoV res.1) res.2) args s 0 0 A) (F0 m 5 ls []) := by
  have hx := X.1.1
  have hb := X.1.2.1
  have hown := X.1.2.2.2.1
  have hts := X.1.2.2.2.2
  have hN := X.2.2.2.2.2.2.1
  have hDW := X.2.2.2.2.2.2.2.1
  have hAO := X.2.2.2.2.2.2.2.2.1
  have hNC := X.2.2.2.2.2.2.2.2.2.1
  intro n
  induction n with
  | zero =>
    intro h a0 a1 H locs ls hf hw hl
    cases hf
  | succ n ih =>
    intro h a0 a1 H locs ls hf hw hl
    unfold f_X0_term_5 at hf
    refine lv_aload_n hx hb dX0_term_5 rfl (lv_at hl 0 rfl) ?_
    refine lv_bipush (v := (42 : Int32)) hx hb dX0_term_6 (by decide) ?_
    refine zw_kC hf (fun fs hfs hf => ?_)
    refine zw_goZ (rest := []) hw hf (fun r hr => va_runV (C := RX0) (As := [.int (42 : Int32)]) (rest := []) X.1 (mt_X0_isSign l D A h a0 (42 : Int32) r hr) (cwV 1 hts (lw_V q471 q473 qs14 q81 q474) rfl rfl rfl ⟨rfl, cd_X0_isSign⟩ ⟨by dsimp only; omega, by dsimp only; omega⟩) (zpreV (ci := 0) X hw hfs rfl _) rfl rfl hl.1 rfl (lv_room (Nat.le_of_ble_eq_true rfl)) dX0_term_8 ⟨Nat.le_of_ble_eq_true rfl, Nat.le_of_ble_eq_true rfl⟩) (fun r1 H locs hf hw => ?_)
    refine zw_if_ne (tgt := 23) hx hb hf dX0_term_11 (by decide) (fun hf => ?_) (fun hf => ?_)
    · exact k_X0_term_23 X htb P d hP _ (f_X0_term_5 P n) ih r1.2 a0 a1 _ _ _ hf hw (lv_sub hl [0, 1] rfl)
    · refine lv_aload_n hx hb dX0_term_14 rfl (lv_at hl 0 rfl) ?_
      refine lv_bipush (v := (47 : Int32)) hx hb dX0_term_15 (by decide) ?_
      refine zw_kC hf (fun fs hfs hf => ?_)
      refine zw_goZ (rest := []) hw hf (fun r hr => va_runV (C := RX0) (As := [.int (47 : Int32)]) (rest := []) X.1 (mt_X0_isSign l D A r1.2 a0 (47 : Int32) r hr) (cwV 1 hts (lw_V q471 q473 qs14 q81 q474) rfl rfl rfl ⟨rfl, cd_X0_isSign⟩ ⟨by dsimp only; omega, by dsimp only; omega⟩) (zpreV (ci := 0) X hw hfs rfl _) rfl rfl hl.1 rfl (lv_room (Nat.le_of_ble_eq_true rfl)) dX0_term_17 ⟨Nat.le_of_ble_eq_true rfl, Nat.le_of_ble_eq_true rfl⟩) (fun r2 H locs hf hw => ?_)
      refine zw_if_eq (tgt := 57) hx hb hf dX0_term_20 (by decide) (fun hf => ?_) (fun hf => ?_)
      · exact zx_vret X hw hf (Nat.le_of_ble_eq_true rfl) (Nat.le_of_ble_eq_true rfl) dX0_term_57
      · exact k_X0_term_23 X htb P d hP _ (f_X0_term_5 P n) ih r2.2 a0 a1 _ _ _ hf hw (lv_sub hl [0, 1] rfl)
set_option maxHeartbeats 4000000 in
theorem mx_X0_term (l : Launch) (D : va_G) (A : Nat → Prop) (P : zT → Nat → Nat → Option ((Nat ⊕ Unit) × zT)) (d : Nat) (hP : ∀ (h : zT) (a0 a1 : Nat) (res : (Nat ⊕ Unit) × zT), P h a0 a1 = some res → zMt l yX0_piece cX0_piece 2 none [] (rm_X0_piece d) (zPW D A (zEv A) h [.ref a0, .ref a1]) (zQX D A (zoV res.1) res.2) 0 0 A) (h : zT) (a0 : Nat) (a1 : Nat) (res : (Nat ⊕ Unit) × zT) (hf : f_X0_term P h a0 a1 = some res) : zMt l yX0_term cX0_term 3 (Option.none : Option FieldType) [] (rm_X0_term d) (zPW D A (zEv A) h [.ref a0, .ref a1]) (zQX D A (zoV res.1) res.2) 0 0 A := by
  refine zmtX (zEv_ok A) (Nat.le_of_ble_eq_true rfl) ?_
  intro p e s m below meth c ls htb hmn X hw hl
  have hl : lv_has ls 3 [(0, .ref a0), (1, .ref a1)] := hl
  have hx := X.1.1
  have hb := X.1.2.1
  have hown := X.1.2.2.2.1
  have hts := X.1.2.2.2.2
  have hN := X.2.2.2.2.2.2.1
  have hDW := X.2.2.2.2.2.2.2.1
  have hAO := X.2.2.2.2.2.2.2.2.1
  have hNC := X.2.2.2.2.2.2.2.2.2.1
  unfold f_X0_term at hf
  refine lv_aload_n hx hb dX0_term_0 rfl (lv_at hl 0 rfl) ?_
  refine lv_aload_n hx hb dX0_term_1 rfl (lv_at hl 1 rfl) ?_
  refine zw_kC hf (fun fs hfs hf => ?_)
  refine zx_callV (rest := []) (fun _ => rfl) X hw hf (fun r hr => zrtV (C := RX0) (As := [.ref a1]) (rest := []) X.1 (hP h a0 a1 r hr) (hts _ q467) (hts _ q469) (hts _ qs13) (zCode.code (hts _ q470)) cd_X0_piece (by decide) rfl rfl ⟨by dsimp only; omega, by dsimp only; omega⟩ (zpreV (ci := 0) X hw hfs rfl _) rfl rfl hl.1 rfl (lv_room (Nat.le_of_ble_eq_true rfl)) dX0_term_2 ⟨Nat.le_of_ble_eq_true rfl, Nat.le_of_ble_eq_true rfl⟩) htb (by simp) (Nat.le_of_ble_eq_true rfl) (Nat.le_of_ble_eq_true rfl) (fun h1 H locs hf hw => ?_)
  exact k_X0_term_5 X htb P d hP _ 4096 h1 a0 a1 _ _ _ hf hw (lv_sub hl [0, 1] rfl)
set_option maxHeartbeats 4000000 in
theorem k_X0_sum_38 {p : Program} {l : Launch} {e : Env} {s : State} {m : MethodId} {args : Array Value} {below : List Frame} {meth : Method} {c : Code} {D : va_G} {A : Nat → Prop} (X : zCx p s m args meth c D A (zEv A) cX0_sum 3 RX0 (Option.none : Option FieldType)) (htb : zTbl c []) (P : zT → Nat → Nat → Option ((Nat ⊕ Unit) × zT)) (d : Nat) (hP : ∀ (h : zT) (a0 a1 : Nat) (res : (Nat ⊕ Unit) × zT), P h a0 a1 = some res → zMt l yX0_piece cX0_piece 2 none [] (rm_X0_piece d) (zPW D A (zEv A) h [.ref a0, .ref a1]) (zQX D A (zoV res.1) res.2) 0 0 A) (res : (Nat ⊕ Unit) × zT) (K5 : zT → Nat → Nat → Option ((Nat ⊕ Unit) × zT)) (hK5 : ∀ (h : zT) (a0 : Nat) (a1 : Nat) (H : Heap) (locs : List Loc) (ls : Array Slot), K5 h a0 a1 = some res → zWh D A s H h locs → lv_has ls 3 [(0, .ref a0), (1, .ref a1)] → W p l e (rm_X0_sum d) s m args below meth c H locs 0 0 (zMQ below (zQX D A (zoV res.1) res.2) args s 0 0 A) (F0 m 5 ls [])) : ∀ (h : zT) (a0 : Nat) (a1 : Nat) (s0 : Int32) (H : Heap) (locs : List Loc) (ls : Array Slot), f_X0_sum_38 P K5 h a0 a1 s0 = some res → zWh D A s H h locs → lv_has ls 3 [(0, .ref a0), (1, .ref a1)] → W p l e (rm_X0_sum d) s m args below meth c H locs 0 0 (zMQ below (zQX D A (zoV res.1) res.2) args s 0 0 A) (F0 m 38 ls [.int s0]) := by
  have hx := X.1.1
  have hb := X.1.2.1
  have hown := X.1.2.2.2.1
  have hts := X.1.2.2.2.2
  have hN := X.2.2.2.2.2.2.1
  have hDW := X.2.2.2.2.2.2.2.1
  have hAO := X.2.2.2.2.2.2.2.2.1
  have hNC := X.2.2.2.2.2.2.2.2.2.1
  intro h a0 a1 s0 H locs ls hf hw hl
  unfold f_X0_sum_38 at hf
  refine lv_istore_n (lv' := [(2, .int s0), (0, .ref a0), (1, .ref a1)]) hx hb dX0_sum_38 rfl hl (by decide) rfl (fun ls hl => ?_)
  refine lv_aload_n hx hb dX0_sum_39 rfl (lv_at hl 1 rfl) ?_
  refine zw_kC hf (fun fs hfs hf => ?_)
  refine zx_callV (rest := []) (fun _ => rfl) X hw hf (fun r hr => zrtV (C := RX0) (As := []) (rest := []) X.1 (mx_X0_goes l D A h a0 r hr) (hts _ q351) (hts _ q353) (hts _ qs3) (zCode.code (hts _ q354)) cd_X0_goes (by decide) rfl rfl ⟨by dsimp only; omega, by dsimp only; omega⟩ (zpreV (ci := 0) X hw hfs rfl _) rfl rfl hl.1 rfl (lv_room (Nat.le_of_ble_eq_true rfl)) dX0_sum_40 ⟨Nat.le_of_ble_eq_true rfl, Nat.le_of_ble_eq_true rfl⟩) htb (by simp) (Nat.le_of_ble_eq_true rfl) (Nat.le_of_ble_eq_true rfl) (fun h1 H locs hf hw => ?_)
  refine lv_aload_n hx hb dX0_sum_43 rfl (lv_at hl 1 rfl) ?_
  refine lv_aload_n hx hb dX0_sum_44 rfl (lv_at hl 2 rfl) ?_
  refine zw_kC hf (fun fs hfs hf => ?_)
  refine zx_callV (rest := []) (fun _ => rfl) X hw hf (fun r hr => zrtV (C := RX0) (As := [.ref a1]) (rest := []) X.1 (mx_X0_term l D A P d hP h1 a0 a1 r hr) (hts _ q463) (hts _ q465) (hts _ qs12) (zCode.code (hts _ q466)) cd_X0_term (by decide) rfl rfl ⟨by dsimp only; omega, by dsimp only; omega⟩ (zpreV (ci := 0) X hw hfs rfl _) rfl rfl hl.1 rfl (lv_room (Nat.le_of_ble_eq_true rfl)) dX0_sum_45 ⟨Nat.le_of_ble_eq_true rfl, Nat.le_of_ble_eq_true rfl⟩) htb (by simp) (Nat.le_of_ble_eq_true rfl) (Nat.le_of_ble_eq_true rfl) (fun h3 H locs hf hw => ?_)
  refine lv_aload_n hx hb dX0_sum_48 rfl (lv_at hl 2 rfl) ?_
  refine lv_iload_n hx hb dX0_sum_49 rfl (lv_at hl 0 rfl) ?_
  refine lv_iconst (v := (0 : Int32)) hx hb dX0_sum_50 (by decide) ?_
  refine zw_kC hf (fun fs hfs hf => ?_)
  refine zw_goV (rest := []) hw hf (fun r hr => va_runV (C := RX12) (As := [.int s0, .int (0 : Int32)]) (rest := []) X.1 (mt_X12_add l D A h3 a1 s0 (0 : Int32) r hr) (cwV 2 hts (lw_V q475 q476 q477 q104 q478) rfl rfl rfl ⟨rfl, cd_X12_add⟩ ⟨by dsimp only; omega, by dsimp only; omega⟩) (zpreV (ci := 12) X hw hfs rfl _) rfl rfl hl.1 rfl (lv_room (Nat.le_of_ble_eq_true rfl)) dX0_sum_51 ⟨Nat.le_of_ble_eq_true rfl, Nat.le_of_ble_eq_true rfl⟩) (fun r5 H locs hf hw => ?_)
  refine lv_goto (tgt := 5) hx hb dX0_sum_54 (by decide) ?_
  exact hK5 r5 a0 a1 _ _ _ hf hw (lv_sub hl [1, 2] rfl)
set_option maxHeartbeats 4000000 in
theorem k_X0_sum_23 {p : Program} {l : Launch} {e : Env} {s : State} {m : MethodId} {args : Array Value} {below : List Frame} {meth : Method} {c : Code} {D : va_G} {A : Nat → Prop} (X : zCx p s m args meth c D A (zEv A) cX0_sum 3 RX0 (Option.none : Option FieldType)) (htb : zTbl c []) (P : zT → Nat → Nat → Option ((Nat ⊕ Unit) × zT)) (d : Nat) (hP : ∀ (h : zT) (a0 a1 : Nat) (res : (Nat ⊕ Unit) × zT), P h a0 a1 = some res → zMt l yX0_piece cX0_piece 2 none [] (rm_X0_piece d) (zPW D A (zEv A) h [.ref a0, .ref a1]) (zQX D A (zoV res.1) res.2) 0 0 A) (res : (Nat ⊕ Unit) × zT) (K5 : zT → Nat → Nat → Option ((Nat ⊕ Unit) × zT)) (hK5 : ∀ (h : zT) (a0 : Nat) (a1 : Nat) (H : Heap) (locs : List Loc) (ls : Array Slot), K5 h a0 a1 = some res → zWh D A s H h locs → lv_has ls 3 [(0, .ref a0), (1, .ref a1)] → W p l e (rm_X0_sum d) s m args below meth c H locs 0 0 (zMQ below (zQX D A (zoV res.1) res.2) args s 0 0 A) (F0 m 5 ls [])) : ∀ (h : zT) (a0 : Nat) (a1 : Nat) (H : Heap) (locs : List Loc) (ls : Array Slot), f_X0_sum_23 P K5 h a0 a1 = some res → zWh D A s H h locs → lv_has ls 3 [(0, .ref a0), (1, .ref a1)] → W p l e (rm_X0_sum d) s m args below meth c H locs 0 0 (zMQ below (zQX D A (zoV res.1) res.2) args s 0 0 A) (F0 m 23 ls []) := by
  have hx := X.1.1
  have hb := X.1.2.1
  have hown := X.1.2.2.2.1
  have hts := X.1.2.2.2.2
  have hN := X.2.2.2.2.2.2.1
  have hDW := X.2.2.2.2.2.2.2.1
  have hAO := X.2.2.2.2.2.2.2.2.1
  have hNC := X.2.2.2.2.2.2.2.2.2.1
  intro h a0 a1 H locs ls hf hw hl
  unfold f_X0_sum_23 at hf
  refine lv_aload_n hx hb dX0_sum_23 rfl (lv_at hl 0 rfl) ?_
  refine lv_bipush (v := (43 : Int32)) hx hb dX0_sum_24 (by decide) ?_
  refine zw_kC hf (fun fs hfs hf => ?_)
  refine zw_goZ (rest := []) hw hf (fun r hr => va_runV (C := RX0) (As := [.int (43 : Int32)]) (rest := []) X.1 (mt_X0_isSign l D A h a0 (43 : Int32) r hr) (cwV 1 hts (lw_V q471 q473 qs14 q81 q474) rfl rfl rfl ⟨rfl, cd_X0_isSign⟩ ⟨by dsimp only; omega, by dsimp only; omega⟩) (zpreV (ci := 0) X hw hfs rfl _) rfl rfl hl.1 rfl (lv_room (Nat.le_of_ble_eq_true rfl)) dX0_sum_26 ⟨Nat.le_of_ble_eq_true rfl, Nat.le_of_ble_eq_true rfl⟩) (fun r1 H locs hf hw => ?_)
  refine zw_if_eq (tgt := 36) hx hb hf dX0_sum_29 (by decide) (fun hf => ?_) (fun hf => ?_)
  · refine lv_bipush (v := (6 : Int32)) hx hb dX0_sum_36 (by decide) ?_
    exact k_X0_sum_38 X htb P d hP _ K5 hK5 r1.2 a0 a1 (6 : Int32) _ _ _ hf hw (lv_sub hl [0, 1] rfl)
  · refine lv_iconst (v := (5 : Int32)) hx hb dX0_sum_32 (by decide) ?_
    refine lv_goto (tgt := 38) hx hb dX0_sum_33 (by decide) ?_
    exact k_X0_sum_38 X htb P d hP _ K5 hK5 r1.2 a0 a1 (5 : Int32) _ _ _ hf hw (lv_sub hl [0, 1] rfl)
set_option maxHeartbeats 4000000 in
theorem k_X0_sum_5 {p : Program} {l : Launch} {e : Env} {s : State} {m : MethodId} {args : Array Value} {below : List Frame} {meth : Method} {c : Code} {D : va_G} {A : Nat → Prop} (X : zCx p s m args meth c D A (zEv A) cX0_sum 3 RX0 (Option.none : Option FieldType)) (htb : zTbl c []) (P : zT → Nat → Nat → Option ((Nat ⊕ Unit) × zT)) (d : Nat) (hP : ∀ (h : zT) (a0 a1 : Nat) (res : (Nat ⊕ Unit) × zT), P h a0 a1 = some res → zMt l yX0_piece cX0_piece 2 none [] (rm_X0_piece d) (zPW D A (zEv A) h [.ref a0, .ref a1]) (zQX D A (zoV res.1) res.2) 0 0 A) (res : (Nat ⊕ Unit) × zT) : ∀ (n : Nat), ∀ (h : zT) (a0 : Nat) (a1 : Nat) (H : Heap) (locs : List Loc) (ls : Array Slot), f_X0_sum_5 P n h a0 a1 = some res → zWh D A s H h locs → lv_has ls 3 [(0, .ref a0), (1, .ref a1)] → W p l e (rm_X0_sum d) s m args below meth c H locs 0 0 (zMQ below (zQX D A (zoV res.1) res.2) args s 0 0 A) (F0 m 5 ls []) := by
  have hx := X.1.1
  have hb := X.1.2.1
  have hown := X.1.2.2.2.1
  have hts := X.1.2.2.2.2
  have hN := X.2.2.2.2.2.2.1
  have hDW := X.2.2.2.2.2.2.2.1
  have hAO := X.2.2.2.2.2.2.2.2.1
  have hNC := X.2.2.2.2.2.2.2.2.2.1
  intro n
  induction n with
  | zero =>
    intro h a0 a1 H locs ls hf hw hl
    cases hf
  | succ n ih =>
    intro h a0 a1 H locs ls hf hw hl
    unfold f_X0_sum_5 at hf
    refine lv_aload_n hx hb dX0_sum_5 rfl (lv_at hl 0 rfl) ?_
    refine lv_bipush (v := (43 : Int32)) hx hb dX0_sum_6 (by decide) ?_
    refine zw_kC hf (fun fs hfs hf => ?_)
    refine zw_goZ (rest := []) hw hf (fun r hr => va_runV (C := RX0) (As := [.int (43 : Int32)]) (rest := []) X.1 (mt_X0_isSign l D A h a0 (43 : Int32) r hr) (cwV 1 hts (lw_V q471 q473 qs14 q81 q474) rfl rfl rfl ⟨rfl, cd_X0_isSign⟩ ⟨by dsimp only; omega, by dsimp only; omega⟩) (zpreV (ci := 0) X hw hfs rfl _) rfl rfl hl.1 rfl (lv_room (Nat.le_of_ble_eq_true rfl)) dX0_sum_8 ⟨Nat.le_of_ble_eq_true rfl, Nat.le_of_ble_eq_true rfl⟩) (fun r1 H locs hf hw => ?_)
    refine zw_if_ne (tgt := 23) hx hb hf dX0_sum_11 (by decide) (fun hf => ?_) (fun hf => ?_)
    · exact k_X0_sum_23 X htb P d hP _ (f_X0_sum_5 P n) ih r1.2 a0 a1 _ _ _ hf hw (lv_sub hl [0, 1] rfl)
    · refine lv_aload_n hx hb dX0_sum_14 rfl (lv_at hl 0 rfl) ?_
      refine lv_bipush (v := (45 : Int32)) hx hb dX0_sum_15 (by decide) ?_
      refine zw_kC hf (fun fs hfs hf => ?_)
      refine zw_goZ (rest := []) hw hf (fun r hr => va_runV (C := RX0) (As := [.int (45 : Int32)]) (rest := []) X.1 (mt_X0_isSign l D A r1.2 a0 (45 : Int32) r hr) (cwV 1 hts (lw_V q471 q473 qs14 q81 q474) rfl rfl rfl ⟨rfl, cd_X0_isSign⟩ ⟨by dsimp only; omega, by dsimp only; omega⟩) (zpreV (ci := 0) X hw hfs rfl _) rfl rfl hl.1 rfl (lv_room (Nat.le_of_ble_eq_true rfl)) dX0_sum_17 ⟨Nat.le_of_ble_eq_true rfl, Nat.le_of_ble_eq_true rfl⟩) (fun r2 H locs hf hw => ?_)
      refine zw_if_eq (tgt := 57) hx hb hf dX0_sum_20 (by decide) (fun hf => ?_) (fun hf => ?_)
      · exact zx_vret X hw hf (Nat.le_of_ble_eq_true rfl) (Nat.le_of_ble_eq_true rfl) dX0_sum_57
      · exact k_X0_sum_23 X htb P d hP _ (f_X0_sum_5 P n) ih r2.2 a0 a1 _ _ _ hf hw (lv_sub hl [0, 1] rfl)
set_option maxHeartbeats 4000000 in
theorem mx_X0_sum (l : Launch) (D : va_G) (A : Nat → Prop) (P : zT → Nat → Nat → Option ((Nat ⊕ Unit) × zT)) (d : Nat) (hP : ∀ (h : zT) (a0 a1 : Nat) (res : (Nat ⊕ Unit) × zT), P h a0 a1 = some res → zMt l yX0_piece cX0_piece 2 none [] (rm_X0_piece d) (zPW D A (zEv A) h [.ref a0, .ref a1]) (zQX D A (zoV res.1) res.2) 0 0 A) (h : zT) (a0 : Nat) (a1 : Nat) (res : (Nat ⊕ Unit) × zT) (hf : f_X0_sum P h a0 a1 = some res) : zMt l yX0_sum cX0_sum 3 (Option.none : Option FieldType) [] (rm_X0_sum d) (zPW D A (zEv A) h [.ref a0, .ref a1]) (zQX D A (zoV res.1) res.2) 0 0 A := by
  refine zmtX (zEv_ok A) (Nat.le_of_ble_eq_true rfl) ?_
  intro p e s m below meth c ls htb hmn X hw hl
  have hl : lv_has ls 3 [(0, .ref a0), (1, .ref a1)] := hl
  have hx := X.1.1
  have hb := X.1.2.1
  have hown := X.1.2.2.2.1
  have hts := X.1.2.2.2.2
  have hN := X.2.2.2.2.2.2.1
  have hDW := X.2.2.2.2.2.2.2.1
  have hAO := X.2.2.2.2.2.2.2.2.1
  have hNC := X.2.2.2.2.2.2.2.2.2.1
  unfold f_X0_sum at hf
  refine lv_aload_n hx hb dX0_sum_0 rfl (lv_at hl 0 rfl) ?_
  refine lv_aload_n hx hb dX0_sum_1 rfl (lv_at hl 1 rfl) ?_
  refine zw_kC hf (fun fs hfs hf => ?_)
  refine zx_callV (rest := []) (fun _ => rfl) X hw hf (fun r hr => zrtV (C := RX0) (As := [.ref a1]) (rest := []) X.1 (mx_X0_term l D A P d hP h a0 a1 r hr) (hts _ q463) (hts _ q465) (hts _ qs12) (zCode.code (hts _ q466)) cd_X0_term (by decide) rfl rfl ⟨by dsimp only; omega, by dsimp only; omega⟩ (zpreV (ci := 0) X hw hfs rfl _) rfl rfl hl.1 rfl (lv_room (Nat.le_of_ble_eq_true rfl)) dX0_sum_2 ⟨Nat.le_of_ble_eq_true rfl, Nat.le_of_ble_eq_true rfl⟩) htb (by simp) (Nat.le_of_ble_eq_true rfl) (Nat.le_of_ble_eq_true rfl) (fun h1 H locs hf hw => ?_)
  exact k_X0_sum_5 X htb P d hP _ 4096 h1 a0 a1 _ _ _ hf hw (lv_sub hl [0, 1] rfl)
set_option maxHeartbeats 4000000 in
theorem k_X0_test_48 {p : Program} {l : Launch} {e : Env} {s : State} {m : MethodId} {args : Array Value} {below : List Frame} {meth : Method} {c : Code} {D : va_G} {A : Nat → Prop} (X : zCx p s m args meth c D A (zEv A) cX0_test 3 RX0 (Option.none : Option FieldType)) (htb : zTbl c []) (P : zT → Nat → Nat → Option ((Nat ⊕ Unit) × zT)) (d : Nat) (hP : ∀ (h : zT) (a0 a1 : Nat) (res : (Nat ⊕ Unit) × zT), P h a0 a1 = some res → zMt l yX0_piece cX0_piece 2 none [] (rm_X0_piece d) (zPW D A (zEv A) h [.ref a0, .ref a1]) (zQX D A (zoV res.1) res.2) 0 0 A) (res : (Nat ⊕ Unit) × zT) : ∀ (h : zT) (a0 : Nat) (a1 : Nat) (s0 : Int32) (H : Heap) (locs : List Loc) (ls : Array Slot), f_X0_test_48 P h a0 a1 s0 = some res → zWh D A s H h locs → lv_has ls 3 [(0, .ref a0), (1, .ref a1)] → W p l e (rm_X0_test d) s m args below meth c H locs 0 0 (zMQ below (zQX D A (zoV res.1) res.2) args s 0 0 A) (F0 m 48 ls [.int s0]) := by
  have hx := X.1.1
  have hb := X.1.2.1
  have hown := X.1.2.2.2.1
  have hts := X.1.2.2.2.2
  have hN := X.2.2.2.2.2.2.1
  have hDW := X.2.2.2.2.2.2.2.1
  have hAO := X.2.2.2.2.2.2.2.2.1
  have hNC := X.2.2.2.2.2.2.2.2.2.1
  intro h a0 a1 s0 H locs ls hf hw hl
  unfold f_X0_test_48 at hf
  refine lv_istore_n (lv' := [(2, .int s0), (0, .ref a0), (1, .ref a1)]) hx hb dX0_test_48 rfl hl (by decide) rfl (fun ls hl => ?_)
  refine lv_iload_n hx hb dX0_test_49 rfl (lv_at hl 0 rfl) ?_
  refine zw_if_eq (tgt := 68) hx hb hf dX0_test_50 (by decide) (fun hf => ?_) (fun hf => ?_)
  · exact zx_vret X hw hf (Nat.le_of_ble_eq_true rfl) (Nat.le_of_ble_eq_true rfl) dX0_test_68
  · refine lv_aload_n hx hb dX0_test_53 rfl (lv_at hl 1 rfl) ?_
    refine zw_kC hf (fun fs hfs hf => ?_)
    refine zx_callV (rest := []) (fun _ => rfl) X hw hf (fun r hr => zrtV (C := RX0) (As := []) (rest := []) X.1 (mx_X0_goes l D A h a0 r hr) (hts _ q351) (hts _ q353) (hts _ qs3) (zCode.code (hts _ q354)) cd_X0_goes (by decide) rfl rfl ⟨by dsimp only; omega, by dsimp only; omega⟩ (zpreV (ci := 0) X hw hfs rfl _) rfl rfl hl.1 rfl (lv_room (Nat.le_of_ble_eq_true rfl)) dX0_test_54 ⟨Nat.le_of_ble_eq_true rfl, Nat.le_of_ble_eq_true rfl⟩) htb (by simp) (Nat.le_of_ble_eq_true rfl) (Nat.le_of_ble_eq_true rfl) (fun h1 H locs hf hw => ?_)
    refine lv_aload_n hx hb dX0_test_57 rfl (lv_at hl 1 rfl) ?_
    refine lv_aload_n hx hb dX0_test_58 rfl (lv_at hl 2 rfl) ?_
    refine zw_kC hf (fun fs hfs hf => ?_)
    refine zx_callV (rest := []) (fun _ => rfl) X hw hf (fun r hr => zrtV (C := RX0) (As := [.ref a1]) (rest := []) X.1 (mx_X0_sum l D A P d hP h1 a0 a1 r hr) (hts _ q459) (hts _ q461) (hts _ qs11) (zCode.code (hts _ q462)) cd_X0_sum (by decide) rfl rfl ⟨by dsimp only; omega, by dsimp only; omega⟩ (zpreV (ci := 0) X hw hfs rfl _) rfl rfl hl.1 rfl (lv_room (Nat.le_of_ble_eq_true rfl)) dX0_test_59 ⟨Nat.le_of_ble_eq_true rfl, Nat.le_of_ble_eq_true rfl⟩) htb (by simp) (Nat.le_of_ble_eq_true rfl) (Nat.le_of_ble_eq_true rfl) (fun h3 H locs hf hw => ?_)
    refine lv_aload_n hx hb dX0_test_62 rfl (lv_at hl 2 rfl) ?_
    refine lv_iload_n hx hb dX0_test_63 rfl (lv_at hl 0 rfl) ?_
    refine lv_iconst (v := (0 : Int32)) hx hb dX0_test_64 (by decide) ?_
    refine zw_kC hf (fun fs hfs hf => ?_)
    refine zw_goV (rest := []) hw hf (fun r hr => va_runV (C := RX12) (As := [.int s0, .int (0 : Int32)]) (rest := []) X.1 (mt_X12_add l D A h3 a1 s0 (0 : Int32) r hr) (cwV 2 hts (lw_V q475 q476 q477 q104 q478) rfl rfl rfl ⟨rfl, cd_X12_add⟩ ⟨by dsimp only; omega, by dsimp only; omega⟩) (zpreV (ci := 12) X hw hfs rfl _) rfl rfl hl.1 rfl (lv_room (Nat.le_of_ble_eq_true rfl)) dX0_test_65 ⟨Nat.le_of_ble_eq_true rfl, Nat.le_of_ble_eq_true rfl⟩) (fun r5 H locs hf hw => ?_)
    exact zx_vret X hw hf (Nat.le_of_ble_eq_true rfl) (Nat.le_of_ble_eq_true rfl) dX0_test_68
set_option maxHeartbeats 4000000 in
theorem mx_X0_test (l : Launch) (D : va_G) (A : Nat → Prop) (P : zT → Nat → Nat → Option ((Nat ⊕ Unit) × zT)) (d : Nat) (hP : ∀ (h : zT) (a0 a1 : Nat) (res : (Nat ⊕ Unit) × zT), P h a0 a1 = some res → zMt l yX0_piece cX0_piece 2 none [] (rm_X0_piece d) (zPW D A (zEv A) h [.ref a0, .ref a1]) (zQX D A (zoV res.1) res.2) 0 0 A) (h : zT) (a0 : Nat) (a1 : Nat) (res : (Nat ⊕ Unit) × zT) (hf : f_X0_test P h a0 a1 = some res) : zMt l yX0_test cX0_test 3 (Option.none : Option FieldType) [] (rm_X0_test d) (zPW D A (zEv A) h [.ref a0, .ref a1]) (zQX D A (zoV res.1) res.2) 0 0 A := by
  refine zmtX (zEv_ok A) (Nat.le_of_ble_eq_true rfl) ?_
  intro p e s m below meth c ls htb hmn X hw hl
  have hl : lv_has ls 3 [(0, .ref a0), (1, .ref a1)] := hl
  have hx := X.1.1
  have hb := X.1.2.1
  have hown := X.1.2.2.2.1
  have hts := X.1.2.2.2.2
  have hN := X.2.2.2.2.2.2.1
  have hDW := X.2.2.2.2.2.2.2.1
  have hAO := X.2.2.2.2.2.2.2.2.1
  have hNC := X.2.2.2.2.2.2.2.2.2.1
  unfold f_X0_test at hf
  refine lv_aload_n hx hb dX0_test_0 rfl (lv_at hl 0 rfl) ?_
  refine lv_aload_n hx hb dX0_test_1 rfl (lv_at hl 1 rfl) ?_
  refine zw_kC hf (fun fs hfs hf => ?_)
  refine zx_callV (rest := []) (fun _ => rfl) X hw hf (fun r hr => zrtV (C := RX0) (As := [.ref a1]) (rest := []) X.1 (mx_X0_sum l D A P d hP h a0 a1 r hr) (hts _ q459) (hts _ q461) (hts _ qs11) (zCode.code (hts _ q462)) cd_X0_sum (by decide) rfl rfl ⟨by dsimp only; omega, by dsimp only; omega⟩ (zpreV (ci := 0) X hw hfs rfl _) rfl rfl hl.1 rfl (lv_room (Nat.le_of_ble_eq_true rfl)) dX0_test_2 ⟨Nat.le_of_ble_eq_true rfl, Nat.le_of_ble_eq_true rfl⟩) htb (by simp) (Nat.le_of_ble_eq_true rfl) (Nat.le_of_ble_eq_true rfl) (fun h1 H locs hf hw => ?_)
  refine lv_aload_n hx hb dX0_test_5 rfl (lv_at hl 0 rfl) ?_
  refine lv_bipush (v := (60 : Int32)) hx hb dX0_test_6 (by decide) ?_
  refine zw_kC hf (fun fs hfs hf => ?_)
  refine zw_goZ (rest := []) hw hf (fun r hr => va_runV (C := RX0) (As := [.int (60 : Int32)]) (rest := []) X.1 (mt_X0_isSign l D A h1 a0 (60 : Int32) r hr) (cwV 1 hts (lw_V q471 q473 qs14 q81 q474) rfl rfl rfl ⟨rfl, cd_X0_isSign⟩ ⟨by dsimp only; omega, by dsimp only; omega⟩) (zpreV (ci := 0) X hw hfs rfl _) rfl rfl hl.1 rfl (lv_room (Nat.le_of_ble_eq_true rfl)) dX0_test_8 ⟨Nat.le_of_ble_eq_true rfl, Nat.le_of_ble_eq_true rfl⟩) (fun r3 H locs hf hw => ?_)
  refine zw_if_eq (tgt := 19) hx hb hf dX0_test_11 (by decide) (fun hf => ?_) (fun hf => ?_)
  · refine lv_aload_n hx hb dX0_test_19 rfl (lv_at hl 0 rfl) ?_
    refine lv_bipush (v := (61 : Int32)) hx hb dX0_test_20 (by decide) ?_
    refine zw_kC hf (fun fs hfs hf => ?_)
    refine zw_goZ (rest := []) hw hf (fun r hr => va_runV (C := RX0) (As := [.int (61 : Int32)]) (rest := []) X.1 (mt_X0_isSign l D A r3.2 a0 (61 : Int32) r hr) (cwV 1 hts (lw_V q471 q473 qs14 q81 q474) rfl rfl rfl ⟨rfl, cd_X0_isSign⟩ ⟨by dsimp only; omega, by dsimp only; omega⟩) (zpreV (ci := 0) X hw hfs rfl _) rfl rfl hl.1 rfl (lv_room (Nat.le_of_ble_eq_true rfl)) dX0_test_22 ⟨Nat.le_of_ble_eq_true rfl, Nat.le_of_ble_eq_true rfl⟩) (fun r4 H locs hf hw => ?_)
    refine zw_if_eq (tgt := 33) hx hb hf dX0_test_25 (by decide) (fun hf => ?_) (fun hf => ?_)
    · refine lv_aload_n hx hb dX0_test_33 rfl (lv_at hl 0 rfl) ?_
      refine lv_bipush (v := (62 : Int32)) hx hb dX0_test_34 (by decide) ?_
      refine zw_kC hf (fun fs hfs hf => ?_)
      refine zw_goZ (rest := []) hw hf (fun r hr => va_runV (C := RX0) (As := [.int (62 : Int32)]) (rest := []) X.1 (mt_X0_isSign l D A r4.2 a0 (62 : Int32) r hr) (cwV 1 hts (lw_V q471 q473 qs14 q81 q474) rfl rfl rfl ⟨rfl, cd_X0_isSign⟩ ⟨by dsimp only; omega, by dsimp only; omega⟩) (zpreV (ci := 0) X hw hfs rfl _) rfl rfl hl.1 rfl (lv_room (Nat.le_of_ble_eq_true rfl)) dX0_test_36 ⟨Nat.le_of_ble_eq_true rfl, Nat.le_of_ble_eq_true rfl⟩) (fun r5 H locs hf hw => ?_)
      refine zw_if_eq (tgt := 47) hx hb hf dX0_test_39 (by decide) (fun hf => ?_) (fun hf => ?_)
      · refine lv_iconst (v := (0 : Int32)) hx hb dX0_test_47 (by decide) ?_
        exact k_X0_test_48 X htb P d hP _ r5.2 a0 a1 (0 : Int32) _ _ _ hf hw (lv_sub hl [0, 1] rfl)
      · refine lv_bipush (v := (9 : Int32)) hx hb dX0_test_42 (by decide) ?_
        refine lv_goto (tgt := 48) hx hb dX0_test_44 (by decide) ?_
        exact k_X0_test_48 X htb P d hP _ r5.2 a0 a1 (9 : Int32) _ _ _ hf hw (lv_sub hl [0, 1] rfl)
    · refine lv_bipush (v := (8 : Int32)) hx hb dX0_test_28 (by decide) ?_
      refine lv_goto (tgt := 48) hx hb dX0_test_30 (by decide) ?_
      exact k_X0_test_48 X htb P d hP _ r4.2 a0 a1 (8 : Int32) _ _ _ hf hw (lv_sub hl [0, 1] rfl)
  · refine lv_bipush (v := (7 : Int32)) hx hb dX0_test_14 (by decide) ?_
    refine lv_goto (tgt := 48) hx hb dX0_test_16 (by decide) ?_
    exact k_X0_test_48 X htb P d hP _ r3.2 a0 a1 (7 : Int32) _ _ _ hf hw (lv_sub hl [0, 1] rfl)
set_option maxHeartbeats 4000000 in
theorem k_X0_and_5 {p : Program} {l : Launch} {e : Env} {s : State} {m : MethodId} {args : Array Value} {below : List Frame} {meth : Method} {c : Code} {D : va_G} {A : Nat → Prop} (X : zCx p s m args meth c D A (zEv A) cX0_and 2 RX0 (Option.none : Option FieldType)) (htb : zTbl c []) (P : zT → Nat → Nat → Option ((Nat ⊕ Unit) × zT)) (d : Nat) (hP : ∀ (h : zT) (a0 a1 : Nat) (res : (Nat ⊕ Unit) × zT), P h a0 a1 = some res → zMt l yX0_piece cX0_piece 2 none [] (rm_X0_piece d) (zPW D A (zEv A) h [.ref a0, .ref a1]) (zQX D A (zoV res.1) res.2) 0 0 A) (res : (Nat ⊕ Unit) × zT) : ∀ (n : Nat), ∀ (h : zT) (a0 : Nat) (a1 : Nat) (H : Heap) (locs : List Loc) (ls : Array Slot), f_X0_and_5 P n h a0 a1 = some res → zWh D A s H h locs → lv_has ls 2 [(0, .ref a0), (1, .ref a1)] → W p l e (rm_X0_and d) s m args below meth c H locs 0 0 (zMQ below (zQX D A (zoV res.1) res.2) args s 0 0 A) (F0 m 5 ls []) := by
  have hx := X.1.1
  have hb := X.1.2.1
  have hown := X.1.2.2.2.1
  have hts := X.1.2.2.2.2
  have hN := X.2.2.2.2.2.2.1
  have hDW := X.2.2.2.2.2.2.2.1
  have hAO := X.2.2.2.2.2.2.2.2.1
  have hNC := X.2.2.2.2.2.2.2.2.2.1
  intro n
  induction n with
  | zero =>
    intro h a0 a1 H locs ls hf hw hl
    cases hf
  | succ n ih =>
    intro h a0 a1 H locs ls hf hw hl
    unfold f_X0_and_5 at hf
    refine lv_aload_n hx hb dX0_and_5 rfl (lv_at hl 0 rfl) ?_
    refine lv_bipush (v := (38 : Int32)) hx hb dX0_and_6 (by decide) ?_
    refine zw_kC hf (fun fs hfs hf => ?_)
    refine zw_goZ (rest := []) hw hf (fun r hr => va_runV (C := RX0) (As := [.int (38 : Int32)]) (rest := []) X.1 (mt_X0_isSign l D A h a0 (38 : Int32) r hr) (cwV 1 hts (lw_V q471 q473 qs14 q81 q474) rfl rfl rfl ⟨rfl, cd_X0_isSign⟩ ⟨by dsimp only; omega, by dsimp only; omega⟩) (zpreV (ci := 0) X hw hfs rfl _) rfl rfl hl.1 rfl (lv_room (Nat.le_of_ble_eq_true rfl)) dX0_and_8 ⟨Nat.le_of_ble_eq_true rfl, Nat.le_of_ble_eq_true rfl⟩) (fun r1 H locs hf hw => ?_)
    refine zw_if_eq (tgt := 33) hx hb hf dX0_and_11 (by decide) (fun hf => ?_) (fun hf => ?_)
    · exact zx_vret X hw hf (Nat.le_of_ble_eq_true rfl) (Nat.le_of_ble_eq_true rfl) dX0_and_33
    · refine lv_aload_n hx hb dX0_and_14 rfl (lv_at hl 0 rfl) ?_
      refine zw_kC hf (fun fs hfs hf => ?_)
      refine zx_callV (rest := []) (fun _ => rfl) X hw hf (fun r hr => zrtV (C := RX0) (As := []) (rest := []) X.1 (mx_X0_goes l D A r1.2 a0 r hr) (hts _ q351) (hts _ q353) (hts _ qs3) (zCode.code (hts _ q354)) cd_X0_goes (by decide) rfl rfl ⟨by dsimp only; omega, by dsimp only; omega⟩ (zpreV (ci := 0) X hw hfs rfl _) rfl rfl hl.1 rfl (lv_room (Nat.le_of_ble_eq_true rfl)) dX0_and_15 ⟨Nat.le_of_ble_eq_true rfl, Nat.le_of_ble_eq_true rfl⟩) htb (by simp) (Nat.le_of_ble_eq_true rfl) (Nat.le_of_ble_eq_true rfl) (fun h2 H locs hf hw => ?_)
      refine lv_aload_n hx hb dX0_and_18 rfl (lv_at hl 0 rfl) ?_
      refine lv_aload_n hx hb dX0_and_19 rfl (lv_at hl 1 rfl) ?_
      refine zw_kC hf (fun fs hfs hf => ?_)
      refine zx_callV (rest := []) (fun _ => rfl) X hw hf (fun r hr => zrtV (C := RX0) (As := [.ref a1]) (rest := []) X.1 (mx_X0_test l D A P d hP h2 a0 a1 r hr) (hts _ q455) (hts _ q457) (hts _ qs10) (zCode.code (hts _ q458)) cd_X0_test (by decide) rfl rfl ⟨by dsimp only; omega, by dsimp only; omega⟩ (zpreV (ci := 0) X hw hfs rfl _) rfl rfl hl.1 rfl (lv_room (Nat.le_of_ble_eq_true rfl)) dX0_and_20 ⟨Nat.le_of_ble_eq_true rfl, Nat.le_of_ble_eq_true rfl⟩) htb (by simp) (Nat.le_of_ble_eq_true rfl) (Nat.le_of_ble_eq_true rfl) (fun h4 H locs hf hw => ?_)
      refine lv_aload_n hx hb dX0_and_23 rfl (lv_at hl 1 rfl) ?_
      refine lv_bipush (v := (10 : Int32)) hx hb dX0_and_24 (by decide) ?_
      refine lv_iconst (v := (0 : Int32)) hx hb dX0_and_26 (by decide) ?_
      refine zw_kC hf (fun fs hfs hf => ?_)
      refine zw_goV (rest := []) hw hf (fun r hr => va_runV (C := RX12) (As := [.int (10 : Int32), .int (0 : Int32)]) (rest := []) X.1 (mt_X12_add l D A h4 a1 (10 : Int32) (0 : Int32) r hr) (cwV 2 hts (lw_V q475 q476 q477 q104 q478) rfl rfl rfl ⟨rfl, cd_X12_add⟩ ⟨by dsimp only; omega, by dsimp only; omega⟩) (zpreV (ci := 12) X hw hfs rfl _) rfl rfl hl.1 rfl (lv_room (Nat.le_of_ble_eq_true rfl)) dX0_and_27 ⟨Nat.le_of_ble_eq_true rfl, Nat.le_of_ble_eq_true rfl⟩) (fun r6 H locs hf hw => ?_)
      refine lv_goto (tgt := 5) hx hb dX0_and_30 (by decide) ?_
      exact ih r6 a0 a1 _ _ _ hf hw (lv_sub hl [0, 1] rfl)
set_option maxHeartbeats 4000000 in
theorem mx_X0_and (l : Launch) (D : va_G) (A : Nat → Prop) (P : zT → Nat → Nat → Option ((Nat ⊕ Unit) × zT)) (d : Nat) (hP : ∀ (h : zT) (a0 a1 : Nat) (res : (Nat ⊕ Unit) × zT), P h a0 a1 = some res → zMt l yX0_piece cX0_piece 2 none [] (rm_X0_piece d) (zPW D A (zEv A) h [.ref a0, .ref a1]) (zQX D A (zoV res.1) res.2) 0 0 A) (h : zT) (a0 : Nat) (a1 : Nat) (res : (Nat ⊕ Unit) × zT) (hf : f_X0_and P h a0 a1 = some res) : zMt l yX0_and cX0_and 2 (Option.none : Option FieldType) [] (rm_X0_and d) (zPW D A (zEv A) h [.ref a0, .ref a1]) (zQX D A (zoV res.1) res.2) 0 0 A := by
  refine zmtX (zEv_ok A) (Nat.le_of_ble_eq_true rfl) ?_
  intro p e s m below meth c ls htb hmn X hw hl
  have hl : lv_has ls 2 [(0, .ref a0), (1, .ref a1)] := hl
  have hx := X.1.1
  have hb := X.1.2.1
  have hown := X.1.2.2.2.1
  have hts := X.1.2.2.2.2
  have hN := X.2.2.2.2.2.2.1
  have hDW := X.2.2.2.2.2.2.2.1
  have hAO := X.2.2.2.2.2.2.2.2.1
  have hNC := X.2.2.2.2.2.2.2.2.2.1
  unfold f_X0_and at hf
  refine lv_aload_n hx hb dX0_and_0 rfl (lv_at hl 0 rfl) ?_
  refine lv_aload_n hx hb dX0_and_1 rfl (lv_at hl 1 rfl) ?_
  refine zw_kC hf (fun fs hfs hf => ?_)
  refine zx_callV (rest := []) (fun _ => rfl) X hw hf (fun r hr => zrtV (C := RX0) (As := [.ref a1]) (rest := []) X.1 (mx_X0_test l D A P d hP h a0 a1 r hr) (hts _ q455) (hts _ q457) (hts _ qs10) (zCode.code (hts _ q458)) cd_X0_test (by decide) rfl rfl ⟨by dsimp only; omega, by dsimp only; omega⟩ (zpreV (ci := 0) X hw hfs rfl _) rfl rfl hl.1 rfl (lv_room (Nat.le_of_ble_eq_true rfl)) dX0_and_2 ⟨Nat.le_of_ble_eq_true rfl, Nat.le_of_ble_eq_true rfl⟩) htb (by simp) (Nat.le_of_ble_eq_true rfl) (Nat.le_of_ble_eq_true rfl) (fun h1 H locs hf hw => ?_)
  exact k_X0_and_5 X htb P d hP _ 4096 h1 a0 a1 _ _ _ hf hw (lv_sub hl [0, 1] rfl)
set_option maxHeartbeats 4000000 in
theorem k_X0_or_5 {p : Program} {l : Launch} {e : Env} {s : State} {m : MethodId} {args : Array Value} {below : List Frame} {meth : Method} {c : Code} {D : va_G} {A : Nat → Prop} (X : zCx p s m args meth c D A (zEv A) cX0_or 2 RX0 (Option.none : Option FieldType)) (htb : zTbl c []) (P : zT → Nat → Nat → Option ((Nat ⊕ Unit) × zT)) (d : Nat) (hP : ∀ (h : zT) (a0 a1 : Nat) (res : (Nat ⊕ Unit) × zT), P h a0 a1 = some res → zMt l yX0_piece cX0_piece 2 none [] (rm_X0_piece d) (zPW D A (zEv A) h [.ref a0, .ref a1]) (zQX D A (zoV res.1) res.2) 0 0 A) (res : (Nat ⊕ Unit) × zT) : ∀ (n : Nat), ∀ (h : zT) (a0 : Nat) (a1 : Nat) (H : Heap) (locs : List Loc) (ls : Array Slot), f_X0_or_5 P n h a0 a1 = some res → zWh D A s H h locs → lv_has ls 2 [(0, .ref a0), (1, .ref a1)] → W p l e (rm_X0_or d) s m args below meth c H locs 0 0 (zMQ below (zQX D A (zoV res.1) res.2) args s 0 0 A) (F0 m 5 ls []) := by
  have hx := X.1.1
  have hb := X.1.2.1
  have hown := X.1.2.2.2.1
  have hts := X.1.2.2.2.2
  have hN := X.2.2.2.2.2.2.1
  have hDW := X.2.2.2.2.2.2.2.1
  have hAO := X.2.2.2.2.2.2.2.2.1
  have hNC := X.2.2.2.2.2.2.2.2.2.1
  intro n
  induction n with
  | zero =>
    intro h a0 a1 H locs ls hf hw hl
    cases hf
  | succ n ih =>
    intro h a0 a1 H locs ls hf hw hl
    unfold f_X0_or_5 at hf
    refine lv_aload_n hx hb dX0_or_5 rfl (lv_at hl 0 rfl) ?_
    refine lv_bipush (v := (124 : Int32)) hx hb dX0_or_6 (by decide) ?_
    refine zw_kC hf (fun fs hfs hf => ?_)
    refine zw_goZ (rest := []) hw hf (fun r hr => va_runV (C := RX0) (As := [.int (124 : Int32)]) (rest := []) X.1 (mt_X0_isSign l D A h a0 (124 : Int32) r hr) (cwV 1 hts (lw_V q471 q473 qs14 q81 q474) rfl rfl rfl ⟨rfl, cd_X0_isSign⟩ ⟨by dsimp only; omega, by dsimp only; omega⟩) (zpreV (ci := 0) X hw hfs rfl _) rfl rfl hl.1 rfl (lv_room (Nat.le_of_ble_eq_true rfl)) dX0_or_8 ⟨Nat.le_of_ble_eq_true rfl, Nat.le_of_ble_eq_true rfl⟩) (fun r1 H locs hf hw => ?_)
    refine zw_if_eq (tgt := 33) hx hb hf dX0_or_11 (by decide) (fun hf => ?_) (fun hf => ?_)
    · exact zx_vret X hw hf (Nat.le_of_ble_eq_true rfl) (Nat.le_of_ble_eq_true rfl) dX0_or_33
    · refine lv_aload_n hx hb dX0_or_14 rfl (lv_at hl 0 rfl) ?_
      refine zw_kC hf (fun fs hfs hf => ?_)
      refine zx_callV (rest := []) (fun _ => rfl) X hw hf (fun r hr => zrtV (C := RX0) (As := []) (rest := []) X.1 (mx_X0_goes l D A r1.2 a0 r hr) (hts _ q351) (hts _ q353) (hts _ qs3) (zCode.code (hts _ q354)) cd_X0_goes (by decide) rfl rfl ⟨by dsimp only; omega, by dsimp only; omega⟩ (zpreV (ci := 0) X hw hfs rfl _) rfl rfl hl.1 rfl (lv_room (Nat.le_of_ble_eq_true rfl)) dX0_or_15 ⟨Nat.le_of_ble_eq_true rfl, Nat.le_of_ble_eq_true rfl⟩) htb (by simp) (Nat.le_of_ble_eq_true rfl) (Nat.le_of_ble_eq_true rfl) (fun h2 H locs hf hw => ?_)
      refine lv_aload_n hx hb dX0_or_18 rfl (lv_at hl 0 rfl) ?_
      refine lv_aload_n hx hb dX0_or_19 rfl (lv_at hl 1 rfl) ?_
      refine zw_kC hf (fun fs hfs hf => ?_)
      refine zx_callV (rest := []) (fun _ => rfl) X hw hf (fun r hr => zrtV (C := RX0) (As := [.ref a1]) (rest := []) X.1 (mx_X0_and l D A P d hP h2 a0 a1 r hr) (hts _ q451) (hts _ q453) (hts _ qs9) (zCode.code (hts _ q454)) cd_X0_and (by decide) rfl rfl ⟨by dsimp only; omega, by dsimp only; omega⟩ (zpreV (ci := 0) X hw hfs rfl _) rfl rfl hl.1 rfl (lv_room (Nat.le_of_ble_eq_true rfl)) dX0_or_20 ⟨Nat.le_of_ble_eq_true rfl, Nat.le_of_ble_eq_true rfl⟩) htb (by simp) (Nat.le_of_ble_eq_true rfl) (Nat.le_of_ble_eq_true rfl) (fun h4 H locs hf hw => ?_)
      refine lv_aload_n hx hb dX0_or_23 rfl (lv_at hl 1 rfl) ?_
      refine lv_bipush (v := (11 : Int32)) hx hb dX0_or_24 (by decide) ?_
      refine lv_iconst (v := (0 : Int32)) hx hb dX0_or_26 (by decide) ?_
      refine zw_kC hf (fun fs hfs hf => ?_)
      refine zw_goV (rest := []) hw hf (fun r hr => va_runV (C := RX12) (As := [.int (11 : Int32), .int (0 : Int32)]) (rest := []) X.1 (mt_X12_add l D A h4 a1 (11 : Int32) (0 : Int32) r hr) (cwV 2 hts (lw_V q475 q476 q477 q104 q478) rfl rfl rfl ⟨rfl, cd_X12_add⟩ ⟨by dsimp only; omega, by dsimp only; omega⟩) (zpreV (ci := 12) X hw hfs rfl _) rfl rfl hl.1 rfl (lv_room (Nat.le_of_ble_eq_true rfl)) dX0_or_27 ⟨Nat.le_of_ble_eq_true rfl, Nat.le_of_ble_eq_true rfl⟩) (fun r6 H locs hf hw => ?_)
      refine lv_goto (tgt := 5) hx hb dX0_or_30 (by decide) ?_
      exact ih r6 a0 a1 _ _ _ hf hw (lv_sub hl [0, 1] rfl)
set_option maxHeartbeats 4000000 in
theorem mx_X0_or (l : Launch) (D : va_G) (A : Nat → Prop) (P : zT → Nat → Nat → Option ((Nat ⊕ Unit) × zT)) (d : Nat) (hP : ∀ (h : zT) (a0 a1 : Nat) (res : (Nat ⊕ Unit) × zT), P h a0 a1 = some res → zMt l yX0_piece cX0_piece 2 none [] (rm_X0_piece d) (zPW D A (zEv A) h [.ref a0, .ref a1]) (zQX D A (zoV res.1) res.2) 0 0 A) (h : zT) (a0 : Nat) (a1 : Nat) (res : (Nat ⊕ Unit) × zT) (hf : f_X0_or P h a0 a1 = some res) : zMt l yX0_or cX0_or 2 (Option.none : Option FieldType) [] (rm_X0_or d) (zPW D A (zEv A) h [.ref a0, .ref a1]) (zQX D A (zoV res.1) res.2) 0 0 A := by
  refine zmtX (zEv_ok A) (Nat.le_of_ble_eq_true rfl) ?_
  intro p e s m below meth c ls htb hmn X hw hl
  have hl : lv_has ls 2 [(0, .ref a0), (1, .ref a1)] := hl
  have hx := X.1.1
  have hb := X.1.2.1
  have hown := X.1.2.2.2.1
  have hts := X.1.2.2.2.2
  have hN := X.2.2.2.2.2.2.1
  have hDW := X.2.2.2.2.2.2.2.1
  have hAO := X.2.2.2.2.2.2.2.2.1
  have hNC := X.2.2.2.2.2.2.2.2.2.1
  unfold f_X0_or at hf
  refine lv_aload_n hx hb dX0_or_0 rfl (lv_at hl 0 rfl) ?_
  refine lv_aload_n hx hb dX0_or_1 rfl (lv_at hl 1 rfl) ?_
  refine zw_kC hf (fun fs hfs hf => ?_)
  refine zx_callV (rest := []) (fun _ => rfl) X hw hf (fun r hr => zrtV (C := RX0) (As := [.ref a1]) (rest := []) X.1 (mx_X0_and l D A P d hP h a0 a1 r hr) (hts _ q451) (hts _ q453) (hts _ qs9) (zCode.code (hts _ q454)) cd_X0_and (by decide) rfl rfl ⟨by dsimp only; omega, by dsimp only; omega⟩ (zpreV (ci := 0) X hw hfs rfl _) rfl rfl hl.1 rfl (lv_room (Nat.le_of_ble_eq_true rfl)) dX0_or_2 ⟨Nat.le_of_ble_eq_true rfl, Nat.le_of_ble_eq_true rfl⟩) htb (by simp) (Nat.le_of_ble_eq_true rfl) (Nat.le_of_ble_eq_true rfl) (fun h1 H locs hf hw => ?_)
  exact k_X0_or_5 X htb P d hP _ 4096 h1 a0 a1 _ _ _ hf hw (lv_sub hl [0, 1] rfl)
set_option maxHeartbeats 4000000 in
theorem k_X0_piece_22 {p : Program} {l : Launch} {e : Env} {s : State} {m : MethodId} {args : Array Value} {below : List Frame} {meth : Method} {c : Code} {D : va_G} {A : Nat → Prop} (X : zCx p s m args meth c D A (zEv A) cX0_piece 2 RX0 (Option.none : Option FieldType)) (htb : zTbl c []) (P : zT → Nat → Nat → Option ((Nat ⊕ Unit) × zT)) (d : Nat) (hP : ∀ (h : zT) (a0 a1 : Nat) (res : (Nat ⊕ Unit) × zT), P h a0 a1 = some res → zMt l yX0_piece cX0_piece 2 none [] (rm_X0_piece d) (zPW D A (zEv A) h [.ref a0, .ref a1]) (zQX D A (zoV res.1) res.2) 0 0 A) (res : (Nat ⊕ Unit) × zT) : ∀ (h : zT) (a0 : Nat) (a1 : Nat) (H : Heap) (locs : List Loc) (ls : Array Slot), f_X0_piece_22 P h a0 a1 = some res → zWh D A s H h locs → lv_has ls 2 [(0, .ref a0), (1, .ref a1)] → W p l e (rm_X0_piece (d + 1)) s m args below meth c H locs 0 0 (zMQ below (zQX D A (zoV res.1) res.2) args s 0 0 A) (F0 m 22 ls []) := by
  have hx := X.1.1
  have hb := X.1.2.1
  have hown := X.1.2.2.2.1
  have hts := X.1.2.2.2.2
  have hN := X.2.2.2.2.2.2.1
  have hDW := X.2.2.2.2.2.2.2.1
  have hAO := X.2.2.2.2.2.2.2.2.1
  have hNC := X.2.2.2.2.2.2.2.2.2.1
  intro h a0 a1 H locs ls hf hw hl
  unfold f_X0_piece_22 at hf
  refine lv_aload_n hx hb dX0_piece_22 rfl (lv_at hl 0 rfl) ?_
  refine lv_dup hx hb dX0_piece_23 rfl ?_
  refine zw_getI X hw fs_X0_13 q265 rfl hf dX0_piece_24 (fun v1 hf => ?_)
  refine lv_iconst (v := (1 : Int32)) hx hb dX0_piece_27 (by decide) ?_
  refine lv_iadd hx hb dX0_piece_28 ?_
  refine zw_put X hw fs_X0_13 q265 rfl rfl rfl rfl hf dX0_piece_29 (fun h2 H locs hf hw => ?_)
  refine lv_aload_n hx hb dX0_piece_32 rfl (lv_at hl 0 rfl) ?_
  refine zw_kC hf (fun fs hfs hf => ?_)
  refine zx_callV (rest := []) (fun _ => rfl) X hw hf (fun r hr => zrtV (C := RX0) (As := []) (rest := []) X.1 (mx_X0_goes l D A h2 a0 r hr) (hts _ q351) (hts _ q353) (hts _ qs3) (zCode.code (hts _ q354)) cd_X0_goes (by decide) rfl rfl ⟨by dsimp only; omega, by dsimp only; omega⟩ (zpreV (ci := 0) X hw hfs rfl _) rfl rfl hl.1 rfl (lv_room (Nat.le_of_ble_eq_true rfl)) dX0_piece_33 ⟨Nat.le_of_ble_eq_true rfl, Nat.le_of_ble_eq_true rfl⟩) htb (by simp) (Nat.le_of_ble_eq_true rfl) (Nat.le_of_ble_eq_true rfl) (fun h3 H locs hf hw => ?_)
  refine lv_aload_n hx hb dX0_piece_36 rfl (lv_at hl 0 rfl) ?_
  refine lv_aload_n hx hb dX0_piece_37 rfl (lv_at hl 1 rfl) ?_
  refine zw_kC hf (fun fs hfs hf => ?_)
  refine zx_callV (rest := []) (fun _ => rfl) X hw hf (fun r hr => zrtV (C := RX0) (As := [.ref a1]) (rest := []) X.1 (hP h3 a0 a1 r hr) (hts _ q467) (hts _ q469) (hts _ qs13) (zCode.code (hts _ q470)) cd_X0_piece (by decide) rfl rfl ⟨by dsimp only; omega, by dsimp only; omega⟩ (zpreV (ci := 0) X hw hfs rfl _) rfl rfl hl.1 rfl (lv_room (Nat.le_of_ble_eq_true rfl)) dX0_piece_38 ⟨Nat.le_of_ble_eq_true rfl, Nat.le_of_ble_eq_true rfl⟩) htb (by simp) (Nat.le_of_ble_eq_true rfl) (Nat.le_of_ble_eq_true rfl) (fun h5 H locs hf hw => ?_)
  refine lv_aload_n hx hb dX0_piece_41 rfl (lv_at hl 1 rfl) ?_
  refine lv_iconst (v := (3 : Int32)) hx hb dX0_piece_42 (by decide) ?_
  refine lv_iconst (v := (0 : Int32)) hx hb dX0_piece_43 (by decide) ?_
  refine zw_kC hf (fun fs hfs hf => ?_)
  refine zw_goV (rest := []) hw hf (fun r hr => va_runV (C := RX12) (As := [.int (3 : Int32), .int (0 : Int32)]) (rest := []) X.1 (mt_X12_add l D A h5 a1 (3 : Int32) (0 : Int32) r hr) (cwV 2 hts (lw_V q475 q476 q477 q104 q478) rfl rfl rfl ⟨rfl, cd_X12_add⟩ ⟨by dsimp only; omega, by dsimp only; omega⟩) (zpreV (ci := 12) X hw hfs rfl _) rfl rfl hl.1 rfl (lv_room (Nat.le_of_ble_eq_true rfl)) dX0_piece_44 ⟨Nat.le_of_ble_eq_true rfl, Nat.le_of_ble_eq_true rfl⟩) (fun r7 H locs hf hw => ?_)
  refine lv_aload_n hx hb dX0_piece_47 rfl (lv_at hl 0 rfl) ?_
  refine lv_dup hx hb dX0_piece_48 rfl ?_
  refine zw_getI X hw fs_X0_13 q265 rfl hf dX0_piece_49 (fun v8 hf => ?_)
  refine lv_iconst (v := (1 : Int32)) hx hb dX0_piece_52 (by decide) ?_
  refine lv_isub hx hb dX0_piece_53 ?_
  refine zw_put X hw fs_X0_13 q265 rfl rfl rfl rfl hf dX0_piece_54 (fun h9 H locs hf hw => ?_)
  refine lv_goto (tgt := 251) hx hb dX0_piece_57 (by decide) ?_
  exact zx_vret X hw hf (Nat.le_of_ble_eq_true rfl) (Nat.le_of_ble_eq_true rfl) dX0_piece_251
set_option maxHeartbeats 4000000 in
theorem k_X0_piece_114 {p : Program} {l : Launch} {e : Env} {s : State} {m : MethodId} {args : Array Value} {below : List Frame} {meth : Method} {c : Code} {D : va_G} {A : Nat → Prop} (X : zCx p s m args meth c D A (zEv A) cX0_piece 2 RX0 (Option.none : Option FieldType)) (htb : zTbl c []) (P : zT → Nat → Nat → Option ((Nat ⊕ Unit) × zT)) (d : Nat) (hP : ∀ (h : zT) (a0 a1 : Nat) (res : (Nat ⊕ Unit) × zT), P h a0 a1 = some res → zMt l yX0_piece cX0_piece 2 none [] (rm_X0_piece d) (zPW D A (zEv A) h [.ref a0, .ref a1]) (zQX D A (zoV res.1) res.2) 0 0 A) (res : (Nat ⊕ Unit) × zT) : ∀ (h : zT) (a0 : Nat) (H : Heap) (locs : List Loc) (ls : Array Slot), f_X0_piece_114 P h a0 = some res → zWh D A s H h locs → lv_has ls 2 [(0, .ref a0)] → W p l e (rm_X0_piece (d + 1)) s m args below meth c H locs 0 0 (zMQ below (zQX D A (zoV res.1) res.2) args s 0 0 A) (F0 m 114 ls []) := by
  have hx := X.1.1
  have hb := X.1.2.1
  have hown := X.1.2.2.2.1
  have hts := X.1.2.2.2.2
  have hN := X.2.2.2.2.2.2.1
  have hDW := X.2.2.2.2.2.2.2.1
  have hAO := X.2.2.2.2.2.2.2.2.1
  have hNC := X.2.2.2.2.2.2.2.2.2.1
  intro h a0 H locs ls hf hw hl
  unfold f_X0_piece_114 at hf
  refine lv_aload_n hx hb dX0_piece_114 rfl (lv_at hl 0 rfl) ?_
  refine zw_kC hf (fun fs hfs hf => ?_)
  refine zx_callV (rest := []) (fun _ => rfl) X hw hf (fun r hr => zrtV (C := RX0) (As := []) (rest := []) X.1 (mx_X0_goes l D A h a0 r hr) (hts _ q351) (hts _ q353) (hts _ qs3) (zCode.code (hts _ q354)) cd_X0_goes (by decide) rfl rfl ⟨by dsimp only; omega, by dsimp only; omega⟩ (zpreV (ci := 0) X hw hfs rfl _) rfl rfl hl.1 rfl (lv_room (Nat.le_of_ble_eq_true rfl)) dX0_piece_115 ⟨Nat.le_of_ble_eq_true rfl, Nat.le_of_ble_eq_true rfl⟩) htb (by simp) (Nat.le_of_ble_eq_true rfl) (Nat.le_of_ble_eq_true rfl) (fun h1 H locs hf hw => ?_)
  refine lv_aload_n hx hb dX0_piece_118 rfl (lv_at hl 0 rfl) ?_
  refine lv_dup hx hb dX0_piece_119 rfl ?_
  refine zw_getI X hw fs_X0_12 q264 rfl hf dX0_piece_120 (fun v3 hf => ?_)
  refine lv_iconst (v := (1 : Int32)) hx hb dX0_piece_123 (by decide) ?_
  refine lv_isub hx hb dX0_piece_124 ?_
  refine zw_put X hw fs_X0_12 q264 rfl rfl rfl rfl hf dX0_piece_125 (fun h4 H locs hf hw => ?_)
  refine lv_goto (tgt := 251) hx hb dX0_piece_128 (by decide) ?_
  exact zx_vret X hw hf (Nat.le_of_ble_eq_true rfl) (Nat.le_of_ble_eq_true rfl) dX0_piece_251
set_option maxHeartbeats 4000000 in
theorem k_X0_piece_82 {p : Program} {l : Launch} {e : Env} {s : State} {m : MethodId} {args : Array Value} {below : List Frame} {meth : Method} {c : Code} {D : va_G} {A : Nat → Prop} (X : zCx p s m args meth c D A (zEv A) cX0_piece 2 RX0 (Option.none : Option FieldType)) (htb : zTbl c []) (P : zT → Nat → Nat → Option ((Nat ⊕ Unit) × zT)) (d : Nat) (hP : ∀ (h : zT) (a0 a1 : Nat) (res : (Nat ⊕ Unit) × zT), P h a0 a1 = some res → zMt l yX0_piece cX0_piece 2 none [] (rm_X0_piece d) (zPW D A (zEv A) h [.ref a0, .ref a1]) (zQX D A (zoV res.1) res.2) 0 0 A) (res : (Nat ⊕ Unit) × zT) : ∀ (h : zT) (a0 : Nat) (a1 : Nat) (H : Heap) (locs : List Loc) (ls : Array Slot), f_X0_piece_82 P h a0 a1 = some res → zWh D A s H h locs → lv_has ls 2 [(0, .ref a0), (1, .ref a1)] → W p l e (rm_X0_piece (d + 1)) s m args below meth c H locs 0 0 (zMQ below (zQX D A (zoV res.1) res.2) args s 0 0 A) (F0 m 82 ls []) := by
  have hx := X.1.1
  have hb := X.1.2.1
  have hown := X.1.2.2.2.1
  have hts := X.1.2.2.2.2
  have hN := X.2.2.2.2.2.2.1
  have hDW := X.2.2.2.2.2.2.2.1
  have hAO := X.2.2.2.2.2.2.2.2.1
  have hNC := X.2.2.2.2.2.2.2.2.2.1
  intro h a0 a1 H locs ls hf hw hl
  unfold f_X0_piece_82 at hf
  refine lv_aload_n hx hb dX0_piece_82 rfl (lv_at hl 0 rfl) ?_
  refine lv_dup hx hb dX0_piece_83 rfl ?_
  refine zw_getI X hw fs_X0_12 q264 rfl hf dX0_piece_84 (fun v1 hf => ?_)
  refine lv_iconst (v := (1 : Int32)) hx hb dX0_piece_87 (by decide) ?_
  refine lv_iadd hx hb dX0_piece_88 ?_
  refine zw_put X hw fs_X0_12 q264 rfl rfl rfl rfl hf dX0_piece_89 (fun h2 H locs hf hw => ?_)
  refine lv_aload_n hx hb dX0_piece_92 rfl (lv_at hl 0 rfl) ?_
  refine zw_kC hf (fun fs hfs hf => ?_)
  refine zx_callV (rest := []) (fun _ => rfl) X hw hf (fun r hr => zrtV (C := RX0) (As := []) (rest := []) X.1 (mx_X0_goes l D A h2 a0 r hr) (hts _ q351) (hts _ q353) (hts _ qs3) (zCode.code (hts _ q354)) cd_X0_goes (by decide) rfl rfl ⟨by dsimp only; omega, by dsimp only; omega⟩ (zpreV (ci := 0) X hw hfs rfl _) rfl rfl hl.1 rfl (lv_room (Nat.le_of_ble_eq_true rfl)) dX0_piece_93 ⟨Nat.le_of_ble_eq_true rfl, Nat.le_of_ble_eq_true rfl⟩) htb (by simp) (Nat.le_of_ble_eq_true rfl) (Nat.le_of_ble_eq_true rfl) (fun h3 H locs hf hw => ?_)
  refine lv_aload_n hx hb dX0_piece_96 rfl (lv_at hl 0 rfl) ?_
  refine lv_aload_n hx hb dX0_piece_97 rfl (lv_at hl 1 rfl) ?_
  refine zw_kC hf (fun fs hfs hf => ?_)
  refine zx_callV (rest := []) (fun _ => rfl) X hw hf (fun r hr => zrtV (C := RX0) (As := [.ref a1]) (rest := []) X.1 (mx_X0_or l D A P d hP h3 a0 a1 r hr) (hts _ q447) (hts _ q449) (hts _ qs8) (zCode.code (hts _ q450)) cd_X0_or (by decide) rfl rfl ⟨by dsimp only; omega, by dsimp only; omega⟩ (zpreV (ci := 0) X hw hfs rfl _) rfl rfl hl.1 rfl (lv_room (Nat.le_of_ble_eq_true rfl)) dX0_piece_98 ⟨Nat.le_of_ble_eq_true rfl, Nat.le_of_ble_eq_true rfl⟩) htb (by simp) (Nat.le_of_ble_eq_true rfl) (Nat.le_of_ble_eq_true rfl) (fun h5 H locs hf hw => ?_)
  refine lv_aload_n hx hb dX0_piece_101 rfl (lv_at hl 0 rfl) ?_
  refine lv_bipush (v := (41 : Int32)) hx hb dX0_piece_102 (by decide) ?_
  refine zw_kC hf (fun fs hfs hf => ?_)
  refine zw_goZ (rest := []) hw hf (fun r hr => va_runV (C := RX0) (As := [.int (41 : Int32)]) (rest := []) X.1 (mt_X0_isSign l D A h5 a0 (41 : Int32) r hr) (cwV 1 hts (lw_V q471 q473 qs14 q81 q474) rfl rfl rfl ⟨rfl, cd_X0_isSign⟩ ⟨by dsimp only; omega, by dsimp only; omega⟩) (zpreV (ci := 0) X hw hfs rfl _) rfl rfl hl.1 rfl (lv_room (Nat.le_of_ble_eq_true rfl)) dX0_piece_104 ⟨Nat.le_of_ble_eq_true rfl, Nat.le_of_ble_eq_true rfl⟩) (fun r7 H locs hf hw => ?_)
  refine zw_if_ne (tgt := 114) hx hb hf dX0_piece_107 (by decide) (fun hf => ?_) (fun hf => ?_)
  · exact k_X0_piece_114 X htb P d hP _ r7.2 a0 _ _ _ hf hw (lv_sub hl [0] rfl)
  · refine lv_aload_n hx hb dX0_piece_110 rfl (lv_at hl 0 rfl) ?_
    refine zw_kC hf (fun fs hfs hf => ?_)
    refine zx_callV (rest := []) (fun _ => rfl) X hw hf (fun r hr => zrtV (C := RX0) (As := []) (rest := []) X.1 (mx_X0_wrong l D A r7.2 a0 r hr) (hts _ q361) (hts _ q363) (hts _ qs4) (zCode.code (hts _ q364)) cd_X0_wrong (by decide) rfl rfl ⟨by dsimp only; omega, by dsimp only; omega⟩ (zpreV (ci := 0) X hw hfs rfl _) rfl rfl hl.1 rfl (lv_room (Nat.le_of_ble_eq_true rfl)) dX0_piece_111 ⟨Nat.le_of_ble_eq_true rfl, Nat.le_of_ble_eq_true rfl⟩) htb (by simp) (Nat.le_of_ble_eq_true rfl) (Nat.le_of_ble_eq_true rfl) (fun h8 H locs hf hw => ?_)
    exact k_X0_piece_114 X htb P d hP _ h8 a0 _ _ _ hf hw (lv_sub hl [0] rfl)
set_option maxHeartbeats 4000000 in
theorem k_X0_piece_223 {p : Program} {l : Launch} {e : Env} {s : State} {m : MethodId} {args : Array Value} {below : List Frame} {meth : Method} {c : Code} {D : va_G} {A : Nat → Prop} (X : zCx p s m args meth c D A (zEv A) cX0_piece 2 RX0 (Option.none : Option FieldType)) (htb : zTbl c []) (P : zT → Nat → Nat → Option ((Nat ⊕ Unit) × zT)) (d : Nat) (hP : ∀ (h : zT) (a0 a1 : Nat) (res : (Nat ⊕ Unit) × zT), P h a0 a1 = some res → zMt l yX0_piece cX0_piece 2 none [] (rm_X0_piece d) (zPW D A (zEv A) h [.ref a0, .ref a1]) (zQX D A (zoV res.1) res.2) 0 0 A) (res : (Nat ⊕ Unit) × zT) : ∀ (h : zT) (a0 : Nat) (a1 : Nat) (H : Heap) (locs : List Loc) (ls : Array Slot), f_X0_piece_223 P h a0 a1 = some res → zWh D A s H h locs → lv_has ls 2 [(0, .ref a0), (1, .ref a1)] → W p l e (rm_X0_piece (d + 1)) s m args below meth c H locs 0 0 (zMQ below (zQX D A (zoV res.1) res.2) args s 0 0 A) (F0 m 223 ls []) := by
  have hx := X.1.1
  have hb := X.1.2.1
  have hown := X.1.2.2.2.1
  have hts := X.1.2.2.2.2
  have hN := X.2.2.2.2.2.2.1
  have hDW := X.2.2.2.2.2.2.2.1
  have hAO := X.2.2.2.2.2.2.2.2.1
  have hNC := X.2.2.2.2.2.2.2.2.2.1
  intro h a0 a1 H locs ls hf hw hl
  unfold f_X0_piece_223 at hf
  refine lv_aload_n hx hb dX0_piece_223 rfl (lv_at hl 0 rfl) ?_
  refine lv_dup hx hb dX0_piece_224 rfl ?_
  refine zw_getI X hw fs_X0_14 q266 rfl hf dX0_piece_225 (fun v1 hf => ?_)
  refine lv_iconst (v := (1 : Int32)) hx hb dX0_piece_228 (by decide) ?_
  refine lv_iadd hx hb dX0_piece_229 ?_
  refine zw_put X hw fs_X0_14 q266 rfl rfl rfl rfl hf dX0_piece_230 (fun h2 H locs hf hw => ?_)
  refine lv_aload_n hx hb dX0_piece_233 rfl (lv_at hl 1 rfl) ?_
  refine lv_iconst (v := (2 : Int32)) hx hb dX0_piece_234 (by decide) ?_
  refine lv_aload_n hx hb dX0_piece_235 rfl (lv_at hl 0 rfl) ?_
  refine zw_getR X hw fs_X0_6 q258 rfl hf dX0_piece_236 (fun v3 hf => ?_)
  refine lv_aload_n hx hb dX0_piece_239 rfl (lv_at hl 0 rfl) ?_
  refine zw_getI X hw fs_X0_9 q261 rfl hf dX0_piece_240 (fun v4 hf => ?_)
  refine zw_baload X hw hf dX0_piece_243 (fun v5 hf => ?_)
  refine zw_kC hf (fun fs hfs hf => ?_)
  refine zw_goV (rest := []) hw hf (fun r hr => va_runV (C := RX12) (As := [.int (2 : Int32), .int v5]) (rest := []) X.1 (mt_X12_add l D A h2 a1 (2 : Int32) v5 r hr) (cwV 2 hts (lw_V q475 q476 q477 q104 q478) rfl rfl rfl ⟨rfl, cd_X12_add⟩ ⟨by dsimp only; omega, by dsimp only; omega⟩) (zpreV (ci := 12) X hw hfs rfl _) rfl rfl hl.1 rfl (lv_room (Nat.le_of_ble_eq_true rfl)) dX0_piece_244 ⟨Nat.le_of_ble_eq_true rfl, Nat.le_of_ble_eq_true rfl⟩) (fun r6 H locs hf hw => ?_)
  refine lv_aload_n hx hb dX0_piece_247 rfl (lv_at hl 0 rfl) ?_
  refine zw_kC hf (fun fs hfs hf => ?_)
  refine zx_callV (rest := []) (fun _ => rfl) X hw hf (fun r hr => zrtV (C := RX0) (As := []) (rest := []) X.1 (mx_X0_goes l D A r6 a0 r hr) (hts _ q351) (hts _ q353) (hts _ qs3) (zCode.code (hts _ q354)) cd_X0_goes (by decide) rfl rfl ⟨by dsimp only; omega, by dsimp only; omega⟩ (zpreV (ci := 0) X hw hfs rfl _) rfl rfl hl.1 rfl (lv_room (Nat.le_of_ble_eq_true rfl)) dX0_piece_248 ⟨Nat.le_of_ble_eq_true rfl, Nat.le_of_ble_eq_true rfl⟩) htb (by simp) (Nat.le_of_ble_eq_true rfl) (Nat.le_of_ble_eq_true rfl) (fun h7 H locs hf hw => ?_)
  exact zx_vret X hw hf (Nat.le_of_ble_eq_true rfl) (Nat.le_of_ble_eq_true rfl) dX0_piece_251
set_option maxHeartbeats 4000000 in
theorem k_X0_piece_179 {p : Program} {l : Launch} {e : Env} {s : State} {m : MethodId} {args : Array Value} {below : List Frame} {meth : Method} {c : Code} {D : va_G} {A : Nat → Prop} (X : zCx p s m args meth c D A (zEv A) cX0_piece 2 RX0 (Option.none : Option FieldType)) (htb : zTbl c []) (P : zT → Nat → Nat → Option ((Nat ⊕ Unit) × zT)) (d : Nat) (hP : ∀ (h : zT) (a0 a1 : Nat) (res : (Nat ⊕ Unit) × zT), P h a0 a1 = some res → zMt l yX0_piece cX0_piece 2 none [] (rm_X0_piece d) (zPW D A (zEv A) h [.ref a0, .ref a1]) (zQX D A (zoV res.1) res.2) 0 0 A) (res : (Nat ⊕ Unit) × zT) : ∀ (h : zT) (a0 : Nat) (a1 : Nat) (H : Heap) (locs : List Loc) (ls : Array Slot), f_X0_piece_179 P h a0 a1 = some res → zWh D A s H h locs → lv_has ls 2 [(0, .ref a0), (1, .ref a1)] → W p l e (rm_X0_piece (d + 1)) s m args below meth c H locs 0 0 (zMQ below (zQX D A (zoV res.1) res.2) args s 0 0 A) (F0 m 179 ls []) := by
  have hx := X.1.1
  have hb := X.1.2.1
  have hown := X.1.2.2.2.1
  have hts := X.1.2.2.2.2
  have hN := X.2.2.2.2.2.2.1
  have hDW := X.2.2.2.2.2.2.2.1
  have hAO := X.2.2.2.2.2.2.2.2.1
  have hNC := X.2.2.2.2.2.2.2.2.2.1
  intro h a0 a1 H locs ls hf hw hl
  unfold f_X0_piece_179 at hf
  refine lv_aload_n hx hb dX0_piece_179 rfl (lv_at hl 0 rfl) ?_
  refine zw_getI X hw fs_X0_9 q261 rfl hf dX0_piece_180 (fun v1 hf => ?_)
  refine lv_aload_n hx hb dX0_piece_183 rfl (lv_at hl 0 rfl) ?_
  refine zw_getI X hw fs_X0_11 q263 rfl hf dX0_piece_184 (fun v2 hf => ?_)
  refine zw_icmp_eq (tgt := 219) hx hb hf dX0_piece_187 (by decide) (fun hf => ?_) (fun hf => ?_)
  · refine lv_aload_n hx hb dX0_piece_219 rfl (lv_at hl 0 rfl) ?_
    refine zw_kC hf (fun fs hfs hf => ?_)
    refine zx_callV (rest := []) (fun _ => rfl) X hw hf (fun r hr => zrtV (C := RX0) (As := []) (rest := []) X.1 (mx_X0_wrong l D A h a0 r hr) (hts _ q361) (hts _ q363) (hts _ qs4) (zCode.code (hts _ q364)) cd_X0_wrong (by decide) rfl rfl ⟨by dsimp only; omega, by dsimp only; omega⟩ (zpreV (ci := 0) X hw hfs rfl _) rfl rfl hl.1 rfl (lv_room (Nat.le_of_ble_eq_true rfl)) dX0_piece_220 ⟨Nat.le_of_ble_eq_true rfl, Nat.le_of_ble_eq_true rfl⟩) htb (by simp) (Nat.le_of_ble_eq_true rfl) (Nat.le_of_ble_eq_true rfl) (fun h3 H locs hf hw => ?_)
    exact k_X0_piece_223 X htb P d hP _ h3 a0 a1 _ _ _ hf hw (lv_sub hl [0, 1] rfl)
  · refine lv_aload_n hx hb dX0_piece_190 rfl (lv_at hl 0 rfl) ?_
    refine zw_getI X hw fs_X0_10 q262 rfl hf dX0_piece_191 (fun v5 hf => ?_)
    refine lv_aload_n hx hb dX0_piece_194 rfl (lv_at hl 0 rfl) ?_
    refine zw_getI X hw fs_X0_9 q261 rfl hf dX0_piece_195 (fun v6 hf => ?_)
    refine lv_isub hx hb dX0_piece_198 ?_
    refine lv_iconst (v := (1 : Int32)) hx hb dX0_piece_199 (by decide) ?_
    refine zw_icmp_ne (tgt := 219) hx hb hf dX0_piece_200 (by decide) (fun hf => ?_) (fun hf => ?_)
    · refine lv_aload_n hx hb dX0_piece_219 rfl (lv_at hl 0 rfl) ?_
      refine zw_kC hf (fun fs hfs hf => ?_)
      refine zx_callV (rest := []) (fun _ => rfl) X hw hf (fun r hr => zrtV (C := RX0) (As := []) (rest := []) X.1 (mx_X0_wrong l D A h a0 r hr) (hts _ q361) (hts _ q363) (hts _ qs4) (zCode.code (hts _ q364)) cd_X0_wrong (by decide) rfl rfl ⟨by dsimp only; omega, by dsimp only; omega⟩ (zpreV (ci := 0) X hw hfs rfl _) rfl rfl hl.1 rfl (lv_room (Nat.le_of_ble_eq_true rfl)) dX0_piece_220 ⟨Nat.le_of_ble_eq_true rfl, Nat.le_of_ble_eq_true rfl⟩) htb (by simp) (Nat.le_of_ble_eq_true rfl) (Nat.le_of_ble_eq_true rfl) (fun h7 H locs hf hw => ?_)
      exact k_X0_piece_223 X htb P d hP _ h7 a0 a1 _ _ _ hf hw (lv_sub hl [0, 1] rfl)
    · refine lv_aload_n hx hb dX0_piece_203 rfl (lv_at hl 0 rfl) ?_
      refine lv_aload_n hx hb dX0_piece_204 rfl (lv_at hl 0 rfl) ?_
      refine zw_getR X hw fs_X0_6 q258 rfl hf dX0_piece_205 (fun v9 hf => ?_)
      refine lv_aload_n hx hb dX0_piece_208 rfl (lv_at hl 0 rfl) ?_
      refine zw_getI X hw fs_X0_9 q261 rfl hf dX0_piece_209 (fun v10 hf => ?_)
      refine zw_baload X hw hf dX0_piece_212 (fun v11 hf => ?_)
      refine zw_kC hf (fun fs hfs hf => ?_)
      refine zw_goZ (rest := []) hw hf (fun r hr => va_runV (C := RX0) (As := [.int v11]) (rest := []) X.1 (mt_X0_isName l D A h a0 v11 r hr) (cwV 1 hts (lw_V q483 q485 qs16 q81 q486) rfl rfl rfl ⟨rfl, cd_X0_isName⟩ ⟨by dsimp only; omega, by dsimp only; omega⟩) (zpreV (ci := 0) X hw hfs rfl _) rfl rfl hl.1 rfl (lv_room (Nat.le_of_ble_eq_true rfl)) dX0_piece_213 ⟨Nat.le_of_ble_eq_true rfl, Nat.le_of_ble_eq_true rfl⟩) (fun r12 H locs hf hw => ?_)
      refine zw_if_ne (tgt := 223) hx hb hf dX0_piece_216 (by decide) (fun hf => ?_) (fun hf => ?_)
      · exact k_X0_piece_223 X htb P d hP _ r12.2 a0 a1 _ _ _ hf hw (lv_sub hl [0, 1] rfl)
      · refine lv_aload_n hx hb dX0_piece_219 rfl (lv_at hl 0 rfl) ?_
        refine zw_kC hf (fun fs hfs hf => ?_)
        refine zx_callV (rest := []) (fun _ => rfl) X hw hf (fun r hr => zrtV (C := RX0) (As := []) (rest := []) X.1 (mx_X0_wrong l D A r12.2 a0 r hr) (hts _ q361) (hts _ q363) (hts _ qs4) (zCode.code (hts _ q364)) cd_X0_wrong (by decide) rfl rfl ⟨by dsimp only; omega, by dsimp only; omega⟩ (zpreV (ci := 0) X hw hfs rfl _) rfl rfl hl.1 rfl (lv_room (Nat.le_of_ble_eq_true rfl)) dX0_piece_220 ⟨Nat.le_of_ble_eq_true rfl, Nat.le_of_ble_eq_true rfl⟩) htb (by simp) (Nat.le_of_ble_eq_true rfl) (Nat.le_of_ble_eq_true rfl) (fun h13 H locs hf hw => ?_)
        exact k_X0_piece_223 X htb P d hP _ h13 a0 a1 _ _ _ hf hw (lv_sub hl [0, 1] rfl)
set_option maxHeartbeats 4000000 in
theorem mx_X0_pieceB (l : Launch) (D : va_G) (A : Nat → Prop) (P : zT → Nat → Nat → Option ((Nat ⊕ Unit) × zT)) (d : Nat) (hP : ∀ (h : zT) (a0 a1 : Nat) (res : (Nat ⊕ Unit) × zT), P h a0 a1 = some res → zMt l yX0_piece cX0_piece 2 none [] (rm_X0_piece d) (zPW D A (zEv A) h [.ref a0, .ref a1]) (zQX D A (zoV res.1) res.2) 0 0 A) (h : zT) (a0 : Nat) (a1 : Nat) (res : (Nat ⊕ Unit) × zT) (hf : f_X0_pieceB P h a0 a1 = some res) : zMt l yX0_piece cX0_piece 2 (Option.none : Option FieldType) [] (rm_X0_piece (d + 1)) (zPW D A (zEv A) h [.ref a0, .ref a1]) (zQX D A (zoV res.1) res.2) 0 0 A := by
  refine zmtX (zEv_ok A) (Nat.le_of_ble_eq_true rfl) ?_
  intro p e s m below meth c ls htb hmn X hw hl
  have hl : lv_has ls 2 [(0, .ref a0), (1, .ref a1)] := hl
  have hx := X.1.1
  have hb := X.1.2.1
  have hown := X.1.2.2.2.1
  have hts := X.1.2.2.2.2
  have hN := X.2.2.2.2.2.2.1
  have hDW := X.2.2.2.2.2.2.2.1
  have hAO := X.2.2.2.2.2.2.2.2.1
  have hNC := X.2.2.2.2.2.2.2.2.2.1
  unfold f_X0_pieceB at hf
  refine lv_aload_n hx hb dX0_piece_0 rfl (lv_at hl 0 rfl) ?_
  refine lv_bipush (v := (33 : Int32)) hx hb dX0_piece_1 (by decide) ?_
  refine zw_kC hf (fun fs hfs hf => ?_)
  refine zw_goZ (rest := []) hw hf (fun r hr => va_runV (C := RX0) (As := [.int (33 : Int32)]) (rest := []) X.1 (mt_X0_isSign l D A h a0 (33 : Int32) r hr) (cwV 1 hts (lw_V q471 q473 qs14 q81 q474) rfl rfl rfl ⟨rfl, cd_X0_isSign⟩ ⟨by dsimp only; omega, by dsimp only; omega⟩) (zpreV (ci := 0) X hw hfs rfl _) rfl rfl hl.1 rfl (lv_room (Nat.le_of_ble_eq_true rfl)) dX0_piece_3 ⟨Nat.le_of_ble_eq_true rfl, Nat.le_of_ble_eq_true rfl⟩) (fun r1 H locs hf hw => ?_)
  refine zw_if_eq (tgt := 60) hx hb hf dX0_piece_6 (by decide) (fun hf => ?_) (fun hf => ?_)
  · refine lv_aload_n hx hb dX0_piece_60 rfl (lv_at hl 0 rfl) ?_
    refine lv_bipush (v := (40 : Int32)) hx hb dX0_piece_61 (by decide) ?_
    refine zw_kC hf (fun fs hfs hf => ?_)
    refine zw_goZ (rest := []) hw hf (fun r hr => va_runV (C := RX0) (As := [.int (40 : Int32)]) (rest := []) X.1 (mt_X0_isSign l D A r1.2 a0 (40 : Int32) r hr) (cwV 1 hts (lw_V q471 q473 qs14 q81 q474) rfl rfl rfl ⟨rfl, cd_X0_isSign⟩ ⟨by dsimp only; omega, by dsimp only; omega⟩) (zpreV (ci := 0) X hw hfs rfl _) rfl rfl hl.1 rfl (lv_room (Nat.le_of_ble_eq_true rfl)) dX0_piece_63 ⟨Nat.le_of_ble_eq_true rfl, Nat.le_of_ble_eq_true rfl⟩) (fun r2 H locs hf hw => ?_)
    refine zw_if_eq (tgt := 131) hx hb hf dX0_piece_66 (by decide) (fun hf => ?_) (fun hf => ?_)
    · refine lv_aload_n hx hb dX0_piece_131 rfl (lv_at hl 0 rfl) ?_
      refine zw_getI X hw fs_X0_9 q261 rfl hf dX0_piece_132 (fun v3 hf => ?_)
      refine lv_aload_n hx hb dX0_piece_135 rfl (lv_at hl 0 rfl) ?_
      refine zw_getI X hw fs_X0_11 q263 rfl hf dX0_piece_136 (fun v4 hf => ?_)
      refine zw_icmp_ge (tgt := 179) hx hb hf dX0_piece_139 (by decide) (fun hf => ?_) (fun hf => ?_)
      · exact k_X0_piece_179 X htb P d hP _ r2.2 a0 a1 _ _ _ hf hw (lv_sub hl [0, 1] rfl)
      · refine lv_aload_n hx hb dX0_piece_142 rfl (lv_at hl 0 rfl) ?_
        refine zw_getR X hw fs_X0_6 q258 rfl hf dX0_piece_143 (fun v5 hf => ?_)
        refine lv_aload_n hx hb dX0_piece_146 rfl (lv_at hl 0 rfl) ?_
        refine zw_getI X hw fs_X0_9 q261 rfl hf dX0_piece_147 (fun v6 hf => ?_)
        refine zw_baload X hw hf dX0_piece_150 (fun v7 hf => ?_)
        refine zw_goZ (rest := []) hw hf (fun r hr => va_runS (As := [.int v7]) (rest := []) X.1 (mt_X0_isDigit l D A r2.2 v7 r hr) (va_cwS 1 hts (lw_S q358 q359 q81 q360) rfl rfl rfl cd_X0_isDigit ⟨by dsimp only; omega, by dsimp only; omega⟩) (zpreS X hw _) rfl rfl hl.1 rfl (lv_room (Nat.le_of_ble_eq_true rfl)) dX0_piece_151 ⟨Nat.le_of_ble_eq_true rfl, Nat.le_of_ble_eq_true rfl⟩) (fun r8 H locs hf hw => ?_)
        refine zw_if_eq (tgt := 179) hx hb hf dX0_piece_154 (by decide) (fun hf => ?_) (fun hf => ?_)
        · exact k_X0_piece_179 X htb P d hP _ r8.2 a0 a1 _ _ _ hf hw (lv_sub hl [0, 1] rfl)
        · refine lv_aload_n hx hb dX0_piece_157 rfl (lv_at hl 0 rfl) ?_
          refine lv_dup hx hb dX0_piece_158 rfl ?_
          refine zw_getI X hw fs_X0_14 q266 rfl hf dX0_piece_159 (fun v9 hf => ?_)
          refine lv_iconst (v := (1 : Int32)) hx hb dX0_piece_162 (by decide) ?_
          refine lv_iadd hx hb dX0_piece_163 ?_
          refine zw_put X hw fs_X0_14 q266 rfl rfl rfl rfl hf dX0_piece_164 (fun h10 H locs hf hw => ?_)
          refine lv_aload_n hx hb dX0_piece_167 rfl (lv_at hl 1 rfl) ?_
          refine lv_iconst (v := (1 : Int32)) hx hb dX0_piece_168 (by decide) ?_
          refine lv_aload_n hx hb dX0_piece_169 rfl (lv_at hl 0 rfl) ?_
          refine zw_kC hf (fun fs hfs hf => ?_)
          refine zx_callI (rest := [.int (1 : Int32), .ref a1]) (fun _ => rfl) X hw hf (fun r hr => zrtV (C := RX0) (As := []) (rest := [.int (1 : Int32), .ref a1]) X.1 (mx_X0_number l D A h10 a0 r hr) (hts _ q479) (hts _ q481) (hts _ qs15) (zCode.code (hts _ q482)) cd_X0_number (by decide) rfl rfl ⟨by dsimp only; omega, by dsimp only; omega⟩ (zpreV (ci := 0) X hw hfs rfl _) rfl rfl hl.1 rfl (lv_room (Nat.le_of_ble_eq_true rfl)) dX0_piece_170 ⟨Nat.le_of_ble_eq_true rfl, Nat.le_of_ble_eq_true rfl⟩) htb (by simp) (Nat.le_of_ble_eq_true rfl) (Nat.le_of_ble_eq_true rfl) (fun v12 h11 H locs hf hw => ?_)
          refine zw_kC hf (fun fs hfs hf => ?_)
          refine zw_goV (rest := []) hw hf (fun r hr => va_runV (C := RX12) (As := [.int (1 : Int32), .int v12]) (rest := []) X.1 (mt_X12_add l D A h11 a1 (1 : Int32) v12 r hr) (cwV 2 hts (lw_V q475 q476 q477 q104 q478) rfl rfl rfl ⟨rfl, cd_X12_add⟩ ⟨by dsimp only; omega, by dsimp only; omega⟩) (zpreV (ci := 12) X hw hfs rfl _) rfl rfl hl.1 rfl (lv_room (Nat.le_of_ble_eq_true rfl)) dX0_piece_173 ⟨Nat.le_of_ble_eq_true rfl, Nat.le_of_ble_eq_true rfl⟩) (fun r13 H locs hf hw => ?_)
          refine lv_goto (tgt := 251) hx hb dX0_piece_176 (by decide) ?_
          exact zx_vret X hw hf (Nat.le_of_ble_eq_true rfl) (Nat.le_of_ble_eq_true rfl) dX0_piece_251
    · refine lv_aload_n hx hb dX0_piece_69 rfl (lv_at hl 0 rfl) ?_
      refine zw_getI X hw fs_X0_12 q264 rfl hf dX0_piece_70 (fun v14 hf => ?_)
      refine lv_bipush (v := (8 : Int32)) hx hb dX0_piece_73 (by decide) ?_
      refine zw_icmp_ne (tgt := 82) hx hb hf dX0_piece_75 (by decide) (fun hf => ?_) (fun hf => ?_)
      · exact k_X0_piece_82 X htb P d hP _ r2.2 a0 a1 _ _ _ hf hw (lv_sub hl [0, 1] rfl)
      · refine lv_aload_n hx hb dX0_piece_78 rfl (lv_at hl 0 rfl) ?_
        refine zw_kC hf (fun fs hfs hf => ?_)
        refine zx_callV (rest := []) (fun _ => rfl) X hw hf (fun r hr => zrtV (C := RX0) (As := []) (rest := []) X.1 (mx_X0_wrong l D A r2.2 a0 r hr) (hts _ q361) (hts _ q363) (hts _ qs4) (zCode.code (hts _ q364)) cd_X0_wrong (by decide) rfl rfl ⟨by dsimp only; omega, by dsimp only; omega⟩ (zpreV (ci := 0) X hw hfs rfl _) rfl rfl hl.1 rfl (lv_room (Nat.le_of_ble_eq_true rfl)) dX0_piece_79 ⟨Nat.le_of_ble_eq_true rfl, Nat.le_of_ble_eq_true rfl⟩) htb (by simp) (Nat.le_of_ble_eq_true rfl) (Nat.le_of_ble_eq_true rfl) (fun h15 H locs hf hw => ?_)
        exact k_X0_piece_82 X htb P d hP _ h15 a0 a1 _ _ _ hf hw (lv_sub hl [0, 1] rfl)
  · refine lv_aload_n hx hb dX0_piece_9 rfl (lv_at hl 0 rfl) ?_
    refine zw_getI X hw fs_X0_13 q265 rfl hf dX0_piece_10 (fun v17 hf => ?_)
    refine lv_bipush (v := (8 : Int32)) hx hb dX0_piece_13 (by decide) ?_
    refine zw_icmp_ne (tgt := 22) hx hb hf dX0_piece_15 (by decide) (fun hf => ?_) (fun hf => ?_)
    · exact k_X0_piece_22 X htb P d hP _ r1.2 a0 a1 _ _ _ hf hw (lv_sub hl [0, 1] rfl)
    · refine lv_aload_n hx hb dX0_piece_18 rfl (lv_at hl 0 rfl) ?_
      refine zw_kC hf (fun fs hfs hf => ?_)
      refine zx_callV (rest := []) (fun _ => rfl) X hw hf (fun r hr => zrtV (C := RX0) (As := []) (rest := []) X.1 (mx_X0_wrong l D A r1.2 a0 r hr) (hts _ q361) (hts _ q363) (hts _ qs4) (zCode.code (hts _ q364)) cd_X0_wrong (by decide) rfl rfl ⟨by dsimp only; omega, by dsimp only; omega⟩ (zpreV (ci := 0) X hw hfs rfl _) rfl rfl hl.1 rfl (lv_room (Nat.le_of_ble_eq_true rfl)) dX0_piece_19 ⟨Nat.le_of_ble_eq_true rfl, Nat.le_of_ble_eq_true rfl⟩) htb (by simp) (Nat.le_of_ble_eq_true rfl) (Nat.le_of_ble_eq_true rfl) (fun h18 H locs hf hw => ?_)
      exact k_X0_piece_22 X htb P d hP _ h18 a0 a1 _ _ _ hf hw (lv_sub hl [0, 1] rfl)
theorem mx_X0_piece (l : Launch) (D : va_G) (A : Nat → Prop) : ∀ (d : Nat) (h : zT) (a0 a1 : Nat) (res : (Nat ⊕ Unit) × zT), f_X0_piece d h a0 a1 = some res → zMt l yX0_piece cX0_piece 2 none [] (rm_X0_piece d) (zPW D A (zEv A) h [.ref a0, .ref a1]) (zQX D A (zoV res.1) res.2) 0 0 A := by
  intro d
  induction d with
  | zero =>
    intro h a0 a1 res hf
    cases hf
  | succ d ih =>
    intro h a0 a1 res hf
    exact mx_X0_pieceB l D A (f_X0_piece d) d ih h a0 a1 res hf
set_option maxHeartbeats 4000000 in
theorem mx_X0_expression (l : Launch) (D : va_G) (A : Nat → Prop) (h : zT) (a0 : Nat) (res : (Nat ⊕ Nat) × zT) (hf : f_X0_expression h a0 = some res) : zMt l yX0_expression cX0_expression 2 (Option.some (FieldType.object "StoneSheets$Words")) [] rm_X0_expression (zPW D A (zEv A) h [.ref a0]) (zQX D A (zoR res.1) res.2) 3 195 A := by
  refine zmtX (zEv_ok A) (Nat.le_of_ble_eq_true rfl) ?_
  intro p e s m below meth c ls htb hmn X hw hl
  have hl : lv_has ls 2 [(0, .ref a0)] := hl
  have hx := X.1.1
  have hb := X.1.2.1
  have hown := X.1.2.2.2.1
  have hts := X.1.2.2.2.2
  have hN := X.2.2.2.2.2.2.1
  have hDW := X.2.2.2.2.2.2.2.1
  have hAO := X.2.2.2.2.2.2.2.2.1
  have hNC := X.2.2.2.2.2.2.2.2.2.1
  unfold f_X0_expression at hf
  refine zw_new (N := 3) X hw zcf12 q428 q429 q104 zdf12 hf (Nat.le_of_ble_eq_true rfl) (Nat.le_of_ble_eq_true rfl) dX0_expression_0 (fun r1 H hf hw => ?_)
  refine lv_dup hx hb dX0_expression_3 rfl ?_
  refine zw_goV (rest := [.ref r1.1]) hw hf (fun r hr => va_runIN (As := []) (rest := [.ref r1.1]) X.1 (mt_X12_init l D A r1.2 r1.1 r hr) ⟨va_cnB 0 hts (lw_meth q432) rfl rfl rfl (hN _ nq430) (hts _ q104) cd_X12_init ⟨Nat.le_of_ble_eq_true rfl, Nat.le_of_ble_eq_true rfl⟩, rfl, hts _ q431⟩ (zpreS X hw _) rfl rfl hl.1 rfl (lv_room (Nat.le_of_ble_eq_true rfl)) dX0_expression_4 ⟨Nat.le_of_ble_eq_true rfl, Nat.le_of_ble_eq_true rfl⟩) (fun r2 H locs hf hw => ?_)
  refine lv_astore_n (lv' := [(1, .ref r1.1), (0, .ref a0)]) hx hb dX0_expression_7 rfl hl (by decide) rfl (fun ls hl => ?_)
  refine lv_aload_n hx hb dX0_expression_8 rfl (lv_at hl 1 rfl) ?_
  refine lv_aload_n hx hb dX0_expression_9 rfl (lv_at hl 0 rfl) ?_
  refine zw_kC hf (fun fs hfs hf => ?_)
  refine zx_callV (rest := []) (fun _ => rfl) X hw hf (fun r hr => zrtV (C := RX0) (As := [.ref r1.1]) (rest := []) X.1 (mx_X0_or l D A (f_X0_piece 20) 20 (mx_X0_piece l D A 20) r2 a0 r1.1 r hr) (hts _ q447) (hts _ q449) (hts _ qs8) (zCode.code (hts _ q450)) cd_X0_or (by decide) rfl rfl ⟨Nat.le_of_ble_eq_true rfl, Nat.le_of_ble_eq_true rfl⟩ (zpreV (ci := 0) X hw hfs rfl _) rfl rfl hl.1 rfl (lv_room (Nat.le_of_ble_eq_true rfl)) dX0_expression_10 ⟨Nat.le_of_ble_eq_true rfl, Nat.le_of_ble_eq_true rfl⟩) htb (by simp) (Nat.le_of_ble_eq_true rfl) (Nat.le_of_ble_eq_true rfl) (fun h3 H locs hf hw => ?_)
  refine lv_aload_n hx hb dX0_expression_13 rfl (lv_at hl 0 rfl) ?_
  exact zx_aret X (Or.inl ⟨_, rfl⟩) hw hf (Nat.le_of_ble_eq_true rfl) (Nat.le_of_ble_eq_true rfl) dX0_expression_14
