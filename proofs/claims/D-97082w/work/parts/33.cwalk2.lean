/-! The component: the walks (gen/comp.py) -/
set_option maxRecDepth 100000
set_option maxHeartbeats 4000000 in
theorem mt_X0_says (l : Launch) (D : va_G) (A : Nat → Prop) (h : zT) (a0 : Nat) (i1 : Int32) (i2 : Int32) (res : Int32 × zT) (hf : f_X0_says h a0 i1 i2 = some res) : Met l yX0_says (ws_ yX0_says cX0_says 3 (Option.some FieldType.int)) rm_X0_says (zPW D A (zEv A) h [.ref a0, .int i1, .int i2]) (zQW D A (some (.int res.1)) res.2) 0 0 A := by
  refine zmt (zEv_ok A) (by decide) (Nat.le_of_ble_eq_true rfl) ?_
  intro p e s m below meth c ls hmn X hw hl
  have hl : lv_has ls 3 [(0, .ref a0), (1, .int i1), (2, .int i2)] := hl
  have hx := X.1.1
  have hb := X.1.2.1
  have hown := X.1.2.2.2.1
  have hts := X.1.2.2.2.2
  have hN := X.2.2.2.2.2.2.1
  have hDW := X.2.2.2.2.2.2.2.1
  have hAO := X.2.2.2.2.2.2.2.2.1
  have hNC := X.2.2.2.2.2.2.2.2.2.1
  unfold f_X0_says at hf
  refine lv_aload_n hx hb dX0_says_0 rfl (lv_at hl 0 rfl) ?_
  refine lv_iload_n hx hb dX0_says_1 rfl (lv_at hl 1 rfl) ?_
  refine zw_kC hf (fun fs hfs hf => ?_)
  refine zw_goZ (rest := []) hw hf (fun r hr => va_runV (C := RX0) (As := [.int i1]) (rest := []) X.1 (mt_X0_isRubbing l D A h a0 i1 r hr) (cwV 1 hts (lw_V q629 q631 qs19 q81 q632) rfl rfl rfl ⟨rfl, cd_X0_isRubbing⟩ ⟨Nat.le_of_ble_eq_true rfl, Nat.le_of_ble_eq_true rfl⟩) (zpreV (ci := 0) X hw hfs rfl _) rfl rfl hl.1 rfl (lv_room (Nat.le_of_ble_eq_true rfl)) dX0_says_2 ⟨Nat.le_of_ble_eq_true rfl, Nat.le_of_ble_eq_true rfl⟩) (fun r1 H locs hf hw => ?_)
  refine zw_if_eq (tgt := 46) hx hb hf dX0_says_5 (by decide) (fun hf => ?_) (fun hf => ?_)
  · refine lv_ldc (v := (-1000000001 : Int32)) hx hb hown (hts _ q342) dX0_says_46 ?_
    exact zw_iret X hw hf (Nat.le_of_ble_eq_true rfl) (Nat.le_of_ble_eq_true rfl) dX0_says_48
  · refine lv_iload_n hx hb dX0_says_8 rfl (lv_at hl 2 rfl) ?_
    refine lv_iconst (v := (0 : Int32)) hx hb dX0_says_9 (by decide) ?_
    refine lv_aload_n hx hb dX0_says_10 rfl (lv_at hl 0 rfl) ?_
    refine zw_getR X hw fs_X0_0 q252 rfl hf dX0_says_11 (fun v2 hf => ?_)
    refine zw_getRN X hw fs_X1_2 (hN _ nq131) rfl hf dX0_says_14 (fun v3 hf => ?_)
    refine lv_iload_n hx hb dX0_says_17 rfl (lv_at hl 1 rfl) ?_
    refine zw_aaloadR X hw hf dX0_says_18 (fun v4 hf => ?_)
    refine zw_getI X hw fs_X6_1 q548 rfl hf dX0_says_19 (fun v5 hf => ?_)
    refine lv_iconst (v := (1 : Int32)) hx hb dX0_says_22 (by decide) ?_
    refine lv_isub hx hb dX0_says_23 ?_
    refine zw_goZ (rest := []) hw hf (fun r hr => va_runS (As := [.int i2, .int (0 : Int32), .int (v5 - (1 : Int32))]) (rest := []) X.1 (mt_X0_isIn l D A r1.2 i2 (0 : Int32) (v5 - (1 : Int32)) r hr) (va_cwS 3 hts (lw_S q339 q340 q81 q341) rfl rfl rfl cd_X0_isIn ⟨Nat.le_of_ble_eq_true rfl, Nat.le_of_ble_eq_true rfl⟩) (zpreS X hw _) rfl rfl hl.1 rfl (lv_room (Nat.le_of_ble_eq_true rfl)) dX0_says_24 ⟨Nat.le_of_ble_eq_true rfl, Nat.le_of_ble_eq_true rfl⟩) (fun r6 H locs hf hw => ?_)
    refine zw_if_eq (tgt := 46) hx hb hf dX0_says_27 (by decide) (fun hf => ?_) (fun hf => ?_)
    · refine lv_ldc (v := (-1000000001 : Int32)) hx hb hown (hts _ q342) dX0_says_46 ?_
      exact zw_iret X hw hf (Nat.le_of_ble_eq_true rfl) (Nat.le_of_ble_eq_true rfl) dX0_says_48
    · refine lv_aload_n hx hb dX0_says_30 rfl (lv_at hl 0 rfl) ?_
      refine zw_getR X hw fs_X0_0 q252 rfl hf dX0_says_31 (fun v7 hf => ?_)
      refine zw_getRN X hw fs_X1_2 (hN _ nq131) rfl hf dX0_says_34 (fun v8 hf => ?_)
      refine lv_iload_n hx hb dX0_says_37 rfl (lv_at hl 1 rfl) ?_
      refine zw_aaloadR X hw hf dX0_says_38 (fun v9 hf => ?_)
      refine lv_iload_n hx hb dX0_says_39 rfl (lv_at hl 2 rfl) ?_
      refine vd_X0_323 (rest := []) r6.2 v9 i2 X hw hl.1 hf (Nat.le_of_ble_eq_true rfl) (Nat.le_of_ble_eq_true rfl) (Nat.le_of_ble_eq_true rfl) rfl dX0_says_40 ⟨Nat.le_of_ble_eq_true rfl, Nat.le_of_ble_eq_true rfl⟩ (fun r10 H locs hf hw => ?_)
      refine lv_goto (tgt := 48) hx hb dX0_says_43 (by decide) ?_
      exact zw_iret X hw hf (Nat.le_of_ble_eq_true rfl) (Nat.le_of_ble_eq_true rfl) dX0_says_48
set_option maxHeartbeats 4000000 in
theorem vd_X0_333 {p : Program} {l : Launch} {e : Env} {R : Room} {s : State} {m : MethodId} {args : Array Value} {below : List Frame} {meth : Method} {c : Code} {H : Heap} {locs : List Loc} {cells slots : Nat} {Q : State → Prop} {D : va_G} {A : Nat → Prop} {cc : ByteArray} {nL : Nat} {ret : Option FieldType} {pc : Nat} {ls : Array Slot} {rest : List Value} {β : Type} {res : β} {K : zT → Option β} {st0 : List Value} (h : zT) (b : Nat) (a1 : Nat) (X : zCx p s m args meth c D A (zEv A) cc nL RX0 ret) (hw : zWh D A s H h locs) (hl : ls.size = nL) (hf : (fd_takes h b a1).bind K = some res) (hRf : 8 ≤ R.frames) (hRl : 200 ≤ R.locals) (hrest : (rest.map fun v => v.category).sum ≤ 8) (hstk : st0 = ([.ref a1] : List Value).reverse ++ .ref b :: rest) (hdg : decode cc pc = .ok (.invokevirtual 333, 3)) (hc : cells + 0 ≤ R.cells ∧ slots + 0 ≤ R.slots) (kk : ∀ (r : zT) (H1 : Heap) (locs1 : List Loc), K r = some res → zWh D A s H1 (r) locs1 → W p l e R s m args below meth c H1 locs1 (cells + 0) (slots + 0) Q (F0 m (pc + 3) ls (rest))) : W p l e R s m args below meth c H locs cells slots Q (F0 m pc ls st0) := by
  have hts := X.1.2.2.2.2
  have hN := X.2.2.2.2.2.2.1
  have hDW := X.2.2.2.2.2.2.2.1
  obtain ⟨r, h1, hf⟩ := zbd hf
  unfold fd_takes at h1
  obtain ⟨⟨ci, fs⟩, ho, h1⟩ := zbd h1
  have ho := zh_O_eq ho
  dsimp only at h1
  by_cases c6 : ci = 6
  · subst c6
    rw [if_pos rfl] at h1
    exact zw_call (va_runV (C := RX6) (As := [.ref a1]) (rest := rest) X.1 (mt_X6_takes l D A h b a1 r h1) (cwV 1 hts (lw_V q833 q834 q835 q90 q842) rfl rfl rfl ⟨rfl, cd_X6_takes⟩ ⟨Nat.le_trans (Nat.le_of_ble_eq_true rfl) hRf, Nat.le_trans (Nat.le_of_ble_eq_true rfl) hRl⟩) (zpreV (ci := 6) X hw ho rfl _) rfl rfl hl hstk (lv_room hrest) hdg hc) hw (fun H1 locs1 hw1 => kk r H1 locs1 hf hw1)
  rw [if_neg c6] at h1
  by_cases c7 : ci = 7
  · subst c7
    rw [if_pos rfl] at h1
    exact zw_call (va_runU (C := RX7) (owner := RX6) (x := yX6_takes) (As := [.ref a1]) (rest := rest) X.1 (mt_X6_takes l D A h b a1 r h1) (va_cwU 1 hts (zlw_U q833 q836 q837 q834 q90 q842) rfl rfl rfl rfl cd_X6_takes ⟨Nat.le_trans (Nat.le_of_ble_eq_true rfl) hRf, Nat.le_trans (Nat.le_of_ble_eq_true rfl) hRl⟩) (zpreV (ci := 7) X hw ho rfl _) rfl rfl hl hstk (lv_room hrest) hdg hc) hw (fun H1 locs1 hw1 => kk r H1 locs1 hf hw1)
  rw [if_neg c7] at h1
  by_cases c8 : ci = 8
  · subst c8
    rw [if_pos rfl] at h1
    exact zw_call (va_runU (C := RX8) (owner := RX6) (x := yX6_takes) (As := [.ref a1]) (rest := rest) X.1 (mt_X6_takes l D A h b a1 r h1) (va_cwU 1 hts (zlw_U q833 q836 q839 q834 q90 q842) rfl rfl rfl rfl cd_X6_takes ⟨Nat.le_trans (Nat.le_of_ble_eq_true rfl) hRf, Nat.le_trans (Nat.le_of_ble_eq_true rfl) hRl⟩) (zpreV (ci := 8) X hw ho rfl _) rfl rfl hl hstk (lv_room hrest) hdg hc) hw (fun H1 locs1 hw1 => kk r H1 locs1 hf hw1)
  rw [if_neg c8] at h1
  by_cases c9 : ci = 9
  · subst c9
    rw [if_pos rfl] at h1
    exact zw_call (va_runU (C := RX9) (owner := RX6) (x := yX6_takes) (As := [.ref a1]) (rest := rest) X.1 (mt_X6_takes l D A h b a1 r h1) (va_cwU 1 hts (zlw_U q833 q836 q841 q834 q90 q842) rfl rfl rfl rfl cd_X6_takes ⟨Nat.le_trans (Nat.le_of_ble_eq_true rfl) hRf, Nat.le_trans (Nat.le_of_ble_eq_true rfl) hRl⟩) (zpreV (ci := 9) X hw ho rfl _) rfl rfl hl hstk (lv_room hrest) hdg hc) hw (fun H1 locs1 hw1 => kk r H1 locs1 hf hw1)
  rw [if_neg c9] at h1
  by_cases c10 : ci = 10
  · subst c10
    rw [if_pos rfl] at h1
    exact zw_call (va_runU (C := RX10) (owner := RX6) (x := yX6_takes) (As := [.ref a1]) (rest := rest) X.1 (mt_X6_takes l D A h b a1 r h1) (va_cwU 1 hts (zlw_U q833 q836 q838 q834 q90 q842) rfl rfl rfl rfl cd_X6_takes ⟨Nat.le_trans (Nat.le_of_ble_eq_true rfl) hRf, Nat.le_trans (Nat.le_of_ble_eq_true rfl) hRl⟩) (zpreV (ci := 10) X hw ho rfl _) rfl rfl hl hstk (lv_room hrest) hdg hc) hw (fun H1 locs1 hw1 => kk r H1 locs1 hf hw1)
  rw [if_neg c10] at h1
  by_cases c11 : ci = 11
  · subst c11
    rw [if_pos rfl] at h1
    exact zw_call (va_runU (C := RX11) (owner := RX6) (x := yX6_takes) (As := [.ref a1]) (rest := rest) X.1 (mt_X6_takes l D A h b a1 r h1) (va_cwU 1 hts (zlw_U q833 q836 q840 q834 q90 q842) rfl rfl rfl rfl cd_X6_takes ⟨Nat.le_trans (Nat.le_of_ble_eq_true rfl) hRf, Nat.le_trans (Nat.le_of_ble_eq_true rfl) hRl⟩) (zpreV (ci := 11) X hw ho rfl _) rfl rfl hl hstk (lv_room hrest) hdg hc) hw (fun H1 locs1 hw1 => kk r H1 locs1 hf hw1)
  rw [if_neg c11] at h1
  cases h1
set_option maxHeartbeats 4000000 in
theorem mt_X0_turns (l : Launch) (D : va_G) (A : Nat → Prop) (h : zT) (a0 : Nat) (i1 : Int32) (i2 : Int32) (res : Int32 × zT) (hf : f_X0_turns h a0 i1 i2 = some res) : Met l yX0_turns (ws_ yX0_turns cX0_turns 4 (Option.some FieldType.int)) rm_X0_turns (zPW D A (zEv A) h [.ref a0, .int i1, .int i2]) (zQW D A (some (.int res.1)) res.2) 1 5 A := by
  refine zmt (zEv_ok A) (by decide) (Nat.le_of_ble_eq_true rfl) ?_
  intro p e s m below meth c ls hmn X hw hl
  have hl : lv_has ls 4 [(0, .ref a0), (1, .int i1), (2, .int i2)] := hl
  have hx := X.1.1
  have hb := X.1.2.1
  have hown := X.1.2.2.2.1
  have hts := X.1.2.2.2.2
  have hN := X.2.2.2.2.2.2.1
  have hDW := X.2.2.2.2.2.2.2.1
  have hAO := X.2.2.2.2.2.2.2.2.1
  have hNC := X.2.2.2.2.2.2.2.2.2.1
  unfold f_X0_turns at hf
  refine lv_aload_n hx hb dX0_turns_0 rfl (lv_at hl 0 rfl) ?_
  refine lv_iload_n hx hb dX0_turns_1 rfl (lv_at hl 1 rfl) ?_
  refine zw_kC hf (fun fs hfs hf => ?_)
  refine zw_goZ (rest := []) hw hf (fun r hr => va_runV (C := RX0) (As := [.int i1]) (rest := []) X.1 (mt_X0_isRubbing l D A h a0 i1 r hr) (cwV 1 hts (lw_V q629 q631 qs19 q81 q632) rfl rfl rfl ⟨rfl, cd_X0_isRubbing⟩ ⟨Nat.le_of_ble_eq_true rfl, Nat.le_of_ble_eq_true rfl⟩) (zpreV (ci := 0) X hw hfs rfl _) rfl rfl hl.1 rfl (lv_room (Nat.le_of_ble_eq_true rfl)) dX0_turns_2 ⟨Nat.le_of_ble_eq_true rfl, Nat.le_of_ble_eq_true rfl⟩) (fun r1 H locs hf hw => ?_)
  refine zw_if_eq (tgt := 17) hx hb hf dX0_turns_5 (by decide) (fun hf => ?_) (fun hf => ?_)
  · refine lv_ldc (v := (-1000000001 : Int32)) hx hb hown (hts _ q342) dX0_turns_17 ?_
    exact zw_iret X hw hf (Nat.le_of_ble_eq_true rfl) (Nat.le_of_ble_eq_true rfl) dX0_turns_19
  · refine lv_iload_n hx hb dX0_turns_8 rfl (lv_at hl 2 rfl) ?_
    refine lv_iconst (v := (0 : Int32)) hx hb dX0_turns_9 (by decide) ?_
    refine lv_iconst (v := (5 : Int32)) hx hb dX0_turns_10 (by decide) ?_
    refine zw_goZ (rest := []) hw hf (fun r hr => va_runS (As := [.int i2, .int (0 : Int32), .int (5 : Int32)]) (rest := []) X.1 (mt_X0_isIn l D A r1.2 i2 (0 : Int32) (5 : Int32) r hr) (va_cwS 3 hts (lw_S q339 q340 q81 q341) rfl rfl rfl cd_X0_isIn ⟨Nat.le_of_ble_eq_true rfl, Nat.le_of_ble_eq_true rfl⟩) (zpreS X hw _) rfl rfl hl.1 rfl (lv_room (Nat.le_of_ble_eq_true rfl)) dX0_turns_11 ⟨Nat.le_of_ble_eq_true rfl, Nat.le_of_ble_eq_true rfl⟩) (fun r2 H locs hf hw => ?_)
    refine zw_if_ne (tgt := 20) hx hb hf dX0_turns_14 (by decide) (fun hf => ?_) (fun hf => ?_)
    · refine lv_aload_n hx hb dX0_turns_20 rfl (lv_at hl 0 rfl) ?_
      refine zw_getR X hw fs_X0_0 q252 rfl hf dX0_turns_21 (fun v3 hf => ?_)
      refine zw_getRN X hw fs_X1_2 (hN _ nq131) rfl hf dX0_turns_24 (fun v4 hf => ?_)
      refine lv_iload_n hx hb dX0_turns_27 rfl (lv_at hl 1 rfl) ?_
      refine zw_aaloadR X hw hf dX0_turns_28 (fun v5 hf => ?_)
      refine lv_astore_n (lv' := [(3, .ref v5), (0, .ref a0), (1, .int i1), (2, .int i2)]) hx hb dX0_turns_29 rfl hl (by decide) rfl (fun ls hl => ?_)
      refine lv_aload_n hx hb dX0_turns_30 rfl (lv_at hl 1 rfl) ?_
      refine zw_getR X hw fs_X0_0 q252 rfl hf dX0_turns_31 (fun v6 hf => ?_)
      refine zw_getRN X hw fs_X1_2 (hN _ nq131) rfl hf dX0_turns_34 (fun v7 hf => ?_)
      refine lv_iload_n hx hb dX0_turns_37 rfl (lv_at hl 2 rfl) ?_
      refine lv_iload_n hx hb dX0_turns_38 rfl (lv_at hl 3 rfl) ?_
      refine zw_goR (rest := [.int i1, .ref v7]) hw hf (fun r hr => va_runS (As := [.int i2]) (rest := [.int i1, .ref v7]) X.1 (mt_X0_rubbingOf l D A r2.2 i2 r hr) (va_cwS 1 hts (lw_S q531 q532 q81 q533) rfl rfl rfl cd_X0_rubbingOf ⟨Nat.le_of_ble_eq_true rfl, Nat.le_of_ble_eq_true rfl⟩) (zpreS X hw _) rfl rfl hl.1 rfl (lv_room (Nat.le_of_ble_eq_true rfl)) dX0_turns_39 ⟨Nat.le_of_ble_eq_true rfl, Nat.le_of_ble_eq_true rfl⟩) (fun r8 H locs hf hw => ?_)
      refine zw_aastore X hw (zcastR X) hf dX0_turns_42 (fun h9 H locs hf hw => ?_)
      refine lv_aload_n hx hb dX0_turns_43 rfl (lv_at hl 1 rfl) ?_
      refine zw_getR X hw fs_X0_0 q252 rfl hf dX0_turns_44 (fun v10 hf => ?_)
      refine zw_getRN X hw fs_X1_2 (hN _ nq131) rfl hf dX0_turns_47 (fun v11 hf => ?_)
      refine lv_iload_n hx hb dX0_turns_50 rfl (lv_at hl 2 rfl) ?_
      refine zw_aaloadR X hw hf dX0_turns_51 (fun v12 hf => ?_)
      refine lv_aload_n hx hb dX0_turns_52 rfl (lv_at hl 0 rfl) ?_
      refine vd_X0_333 (rest := []) h9 v12 v5 X hw hl.1 hf (Nat.le_of_ble_eq_true rfl) (Nat.le_of_ble_eq_true rfl) (Nat.le_of_ble_eq_true rfl) rfl dX0_turns_53 ⟨Nat.le_of_ble_eq_true rfl, Nat.le_of_ble_eq_true rfl⟩ (fun r13 H locs hf hw => ?_)
      refine lv_aload_n hx hb dX0_turns_56 rfl (lv_at hl 0 rfl) ?_
      refine vd_X0_303 (rest := []) r13 v5 X hw hl.1 hf (Nat.le_of_ble_eq_true rfl) (Nat.le_of_ble_eq_true rfl) (Nat.le_of_ble_eq_true rfl) rfl dX0_turns_57 ⟨Nat.le_of_ble_eq_true rfl, Nat.le_of_ble_eq_true rfl⟩ (fun r14 H locs hf hw => ?_)
      exact zw_iret X hw hf (Nat.le_of_ble_eq_true rfl) (Nat.le_of_ble_eq_true rfl) dX0_turns_60
    · refine lv_ldc (v := (-1000000001 : Int32)) hx hb hown (hts _ q342) dX0_turns_17 ?_
      exact zw_iret X hw hf (Nat.le_of_ble_eq_true rfl) (Nat.le_of_ble_eq_true rfl) dX0_turns_19
set_option maxHeartbeats 4000000 in
theorem k_X0_isOf_11 {p : Program} {l : Launch} {e : Env} {s : State} {m : MethodId} {args : Array Value} {below : List Frame} {meth : Method} {c : Code} {D : va_G} {A : Nat → Prop} (X : zCx p s m args meth c D A (zEv A) cX0_isOf 2 RX0 (Option.some FieldType.boolean)) (res : Int32 × zT) : ∀ (h : zT) (i0 : Int32) (s0 : Int32) (s1 : Int32) (H : Heap) (locs : List Loc) (ls : Array Slot), f_X0_isOf_11 h i0 s0 s1 = some res → zWh D A s H h locs → lv_has ls 2 [(0, .int i0)] → W p l e rm_X0_isOf s m args below meth c H locs 0 0 (MQ below (zQW D A (some (.int res.1)) res.2) args s 0 0 A) (F0 m 11 ls [.int s0, .int s1]) := by
  have hx := X.1.1
  have hb := X.1.2.1
  have hown := X.1.2.2.2.1
  have hts := X.1.2.2.2.2
  have hN := X.2.2.2.2.2.2.1
  have hDW := X.2.2.2.2.2.2.2.1
  have hAO := X.2.2.2.2.2.2.2.2.1
  have hNC := X.2.2.2.2.2.2.2.2.2.1
  intro h i0 s0 s1 H locs ls hf hw hl
  unfold f_X0_isOf_11 at hf
  refine lv_iload_n hx hb dX0_isOf_11 rfl (lv_at hl 0 rfl) ?_
  refine lv_iconst (v := (1 : Int32)) hx hb dX0_isOf_12 (by decide) ?_
  refine zw_icmp_ne (tgt := 22) hx hb hf dX0_isOf_13 (by decide) (fun hf => ?_) (fun hf => ?_)
  · refine lv_iload_n hx hb dX0_isOf_22 rfl (lv_at hl 0 rfl) ?_
    refine lv_iconst (v := (2 : Int32)) hx hb dX0_isOf_23 (by decide) ?_
    refine zw_icmp_ne (tgt := 32) hx hb hf dX0_isOf_24 (by decide) (fun hf => ?_) (fun hf => ?_)
    · refine lv_iload_n hx hb dX0_isOf_32 rfl (lv_at hl 0 rfl) ?_
      refine lv_iconst (v := (3 : Int32)) hx hb dX0_isOf_33 (by decide) ?_
      refine zw_icmp_ne (tgt := 41) hx hb hf dX0_isOf_34 (by decide) (fun hf => ?_) (fun hf => ?_)
      · refine lv_iload_n hx hb dX0_isOf_41 rfl (lv_at hl 0 rfl) ?_
        refine lv_iconst (v := (4 : Int32)) hx hb dX0_isOf_42 (by decide) ?_
        refine zw_icmp_ne (tgt := 51) hx hb hf dX0_isOf_43 (by decide) (fun hf => ?_) (fun hf => ?_)
        · refine lv_bipush (v := (99 : Int32)) hx hb dX0_isOf_51 (by decide) ?_
          refine zw_goZ (rest := []) hw hf (fun r hr => va_runS (As := [.int s1, .int s0, .int (99 : Int32)]) (rest := []) X.1 (mt_X0_isIn l D A h s1 s0 (99 : Int32) r hr) (va_cwS 3 hts (lw_S q339 q340 q81 q341) rfl rfl rfl cd_X0_isIn ⟨Nat.le_of_ble_eq_true rfl, Nat.le_of_ble_eq_true rfl⟩) (zpreS X hw _) rfl rfl hl.1 rfl (lv_room (Nat.le_of_ble_eq_true rfl)) dX0_isOf_53 ⟨Nat.le_of_ble_eq_true rfl, Nat.le_of_ble_eq_true rfl⟩) (fun r1 H locs hf hw => ?_)
          exact zw_zret X hw hf (Nat.le_of_ble_eq_true rfl) (Nat.le_of_ble_eq_true rfl) dX0_isOf_56
        · refine lv_bipush (v := (16 : Int32)) hx hb dX0_isOf_46 (by decide) ?_
          refine lv_goto (tgt := 53) hx hb dX0_isOf_48 (by decide) ?_
          refine zw_goZ (rest := []) hw hf (fun r hr => va_runS (As := [.int s1, .int s0, .int (16 : Int32)]) (rest := []) X.1 (mt_X0_isIn l D A h s1 s0 (16 : Int32) r hr) (va_cwS 3 hts (lw_S q339 q340 q81 q341) rfl rfl rfl cd_X0_isIn ⟨Nat.le_of_ble_eq_true rfl, Nat.le_of_ble_eq_true rfl⟩) (zpreS X hw _) rfl rfl hl.1 rfl (lv_room (Nat.le_of_ble_eq_true rfl)) dX0_isOf_53 ⟨Nat.le_of_ble_eq_true rfl, Nat.le_of_ble_eq_true rfl⟩) (fun r2 H locs hf hw => ?_)
          exact zw_zret X hw hf (Nat.le_of_ble_eq_true rfl) (Nat.le_of_ble_eq_true rfl) dX0_isOf_56
      · refine lv_iconst (v := (1 : Int32)) hx hb dX0_isOf_37 (by decide) ?_
        refine lv_goto (tgt := 53) hx hb dX0_isOf_38 (by decide) ?_
        refine zw_goZ (rest := []) hw hf (fun r hr => va_runS (As := [.int s1, .int s0, .int (1 : Int32)]) (rest := []) X.1 (mt_X0_isIn l D A h s1 s0 (1 : Int32) r hr) (va_cwS 3 hts (lw_S q339 q340 q81 q341) rfl rfl rfl cd_X0_isIn ⟨Nat.le_of_ble_eq_true rfl, Nat.le_of_ble_eq_true rfl⟩) (zpreS X hw _) rfl rfl hl.1 rfl (lv_room (Nat.le_of_ble_eq_true rfl)) dX0_isOf_53 ⟨Nat.le_of_ble_eq_true rfl, Nat.le_of_ble_eq_true rfl⟩) (fun r3 H locs hf hw => ?_)
        exact zw_zret X hw hf (Nat.le_of_ble_eq_true rfl) (Nat.le_of_ble_eq_true rfl) dX0_isOf_56
    · refine lv_bipush (v := (8 : Int32)) hx hb dX0_isOf_27 (by decide) ?_
      refine lv_goto (tgt := 53) hx hb dX0_isOf_29 (by decide) ?_
      refine zw_goZ (rest := []) hw hf (fun r hr => va_runS (As := [.int s1, .int s0, .int (8 : Int32)]) (rest := []) X.1 (mt_X0_isIn l D A h s1 s0 (8 : Int32) r hr) (va_cwS 3 hts (lw_S q339 q340 q81 q341) rfl rfl rfl cd_X0_isIn ⟨Nat.le_of_ble_eq_true rfl, Nat.le_of_ble_eq_true rfl⟩) (zpreS X hw _) rfl rfl hl.1 rfl (lv_room (Nat.le_of_ble_eq_true rfl)) dX0_isOf_53 ⟨Nat.le_of_ble_eq_true rfl, Nat.le_of_ble_eq_true rfl⟩) (fun r4 H locs hf hw => ?_)
      exact zw_zret X hw hf (Nat.le_of_ble_eq_true rfl) (Nat.le_of_ble_eq_true rfl) dX0_isOf_56
  · refine lv_ldcw (v := (65535 : Int32)) hx hb hown (hts _ q526) dX0_isOf_16 ?_
    refine lv_goto (tgt := 53) hx hb dX0_isOf_19 (by decide) ?_
    refine zw_goZ (rest := []) hw hf (fun r hr => va_runS (As := [.int s1, .int s0, .int (65535 : Int32)]) (rest := []) X.1 (mt_X0_isIn l D A h s1 s0 (65535 : Int32) r hr) (va_cwS 3 hts (lw_S q339 q340 q81 q341) rfl rfl rfl cd_X0_isIn ⟨Nat.le_of_ble_eq_true rfl, Nat.le_of_ble_eq_true rfl⟩) (zpreS X hw _) rfl rfl hl.1 rfl (lv_room (Nat.le_of_ble_eq_true rfl)) dX0_isOf_53 ⟨Nat.le_of_ble_eq_true rfl, Nat.le_of_ble_eq_true rfl⟩) (fun r5 H locs hf hw => ?_)
    exact zw_zret X hw hf (Nat.le_of_ble_eq_true rfl) (Nat.le_of_ble_eq_true rfl) dX0_isOf_56
set_option maxHeartbeats 4000000 in
theorem mt_X0_isOf (l : Launch) (D : va_G) (A : Nat → Prop) (h : zT) (i0 : Int32) (i1 : Int32) (res : Int32 × zT) (hf : f_X0_isOf h i0 i1 = some res) : Met l yX0_isOf (ws_ yX0_isOf cX0_isOf 2 (Option.some FieldType.boolean)) rm_X0_isOf (zPW D A (zEv A) h [.int i0, .int i1]) (zQW D A (some (.int res.1)) res.2) 0 0 A := by
  refine zmt (zEv_ok A) (by decide) (Nat.le_of_ble_eq_true rfl) ?_
  intro p e s m below meth c ls hmn X hw hl
  have hl : lv_has ls 2 [(0, .int i0), (1, .int i1)] := hl
  have hx := X.1.1
  have hb := X.1.2.1
  have hown := X.1.2.2.2.1
  have hts := X.1.2.2.2.2
  have hN := X.2.2.2.2.2.2.1
  have hDW := X.2.2.2.2.2.2.2.1
  have hAO := X.2.2.2.2.2.2.2.2.1
  have hNC := X.2.2.2.2.2.2.2.2.2.1
  unfold f_X0_isOf at hf
  refine lv_iload_n hx hb dX0_isOf_0 rfl (lv_at hl 1 rfl) ?_
  refine lv_iload_n hx hb dX0_isOf_1 rfl (lv_at hl 0 rfl) ?_
  refine lv_iconst (v := (2 : Int32)) hx hb dX0_isOf_2 (by decide) ?_
  refine zw_icmp_ne (tgt := 10) hx hb hf dX0_isOf_3 (by decide) (fun hf => ?_) (fun hf => ?_)
  · refine lv_iconst (v := (0 : Int32)) hx hb dX0_isOf_10 (by decide) ?_
    exact k_X0_isOf_11 X _ h i0 (0 : Int32) i1 _ _ _ hf hw (lv_sub hl [0] rfl)
  · refine lv_iconst (v := (1 : Int32)) hx hb dX0_isOf_6 (by decide) ?_
    refine lv_goto (tgt := 11) hx hb dX0_isOf_7 (by decide) ?_
    exact k_X0_isOf_11 X _ h i0 (1 : Int32) i1 _ _ _ hf hw (lv_sub hl [0] rfl)
set_option maxHeartbeats 4000000 in
theorem k_X0_becomes_68 {p : Program} {l : Launch} {e : Env} {s : State} {m : MethodId} {args : Array Value} {below : List Frame} {meth : Method} {c : Code} {D : va_G} {A : Nat → Prop} (X : zCx p s m args meth c D A (zEv A) cX0_becomes 4 RX0 (Option.some FieldType.int)) (res : Int32 × zT) : ∀ (h : zT) (a0 : Nat) (i2 : Int32) (s0 : Int32) (H : Heap) (locs : List Loc) (ls : Array Slot), f_X0_becomes_68 h a0 i2 s0 = some res → zWh D A s H h locs → lv_has ls 4 [(0, .ref a0), (2, .int i2)] → W p l e rm_X0_becomes s m args below meth c H locs 0 0 (MQ below (zQW D A (some (.int res.1)) res.2) args s 0 0 A) (F0 m 68 ls [.int s0]) := by
  have hx := X.1.1
  have hb := X.1.2.1
  have hown := X.1.2.2.2.1
  have hts := X.1.2.2.2.2
  have hN := X.2.2.2.2.2.2.1
  have hDW := X.2.2.2.2.2.2.2.1
  have hAO := X.2.2.2.2.2.2.2.2.1
  have hNC := X.2.2.2.2.2.2.2.2.2.1
  intro h a0 i2 s0 H locs ls hf hw hl
  unfold f_X0_becomes_68 at hf
  refine lv_istore_n (lv' := [(3, .int s0), (0, .ref a0), (2, .int i2)]) hx hb dX0_becomes_68 rfl hl (by decide) rfl (fun ls hl => ?_)
  refine lv_aload_n hx hb dX0_becomes_69 rfl (lv_at hl 1 rfl) ?_
  refine lv_iload_n hx hb dX0_becomes_70 rfl (lv_at hl 2 rfl) ?_
  refine lv_iconst (v := (1 : Int32)) hx hb dX0_becomes_71 (by decide) ?_
  refine zw_icmp_ne (tgt := 79) hx hb hf dX0_becomes_72 (by decide) (fun hf => ?_) (fun hf => ?_)
  · refine lv_iconst (v := (0 : Int32)) hx hb dX0_becomes_79 (by decide) ?_
    refine zw_put X hw fs_X6_2 q550 rfl rfl rfl rfl hf dX0_becomes_80 (fun h1 H locs hf hw => ?_)
    refine lv_iload_n hx hb dX0_becomes_83 rfl (lv_at hl 0 rfl) ?_
    exact zw_iret X hw hf (Nat.le_of_ble_eq_true rfl) (Nat.le_of_ble_eq_true rfl) dX0_becomes_84
  · refine lv_iconst (v := (1 : Int32)) hx hb dX0_becomes_75 (by decide) ?_
    refine lv_goto (tgt := 80) hx hb dX0_becomes_76 (by decide) ?_
    refine zw_put X hw fs_X6_2 q550 rfl rfl rfl rfl hf dX0_becomes_80 (fun h2 H locs hf hw => ?_)
    refine lv_iload_n hx hb dX0_becomes_83 rfl (lv_at hl 0 rfl) ?_
    exact zw_iret X hw hf (Nat.le_of_ble_eq_true rfl) (Nat.le_of_ble_eq_true rfl) dX0_becomes_84
set_option maxHeartbeats 4000000 in
theorem mt_X0_becomes (l : Launch) (D : va_G) (A : Nat → Prop) (h : zT) (a0 : Nat) (i1 : Int32) (i2 : Int32) (res : Int32 × zT) (hf : f_X0_becomes h a0 i1 i2 = some res) : Met l yX0_becomes (ws_ yX0_becomes cX0_becomes 4 (Option.some FieldType.int)) rm_X0_becomes (zPW D A (zEv A) h [.ref a0, .int i1, .int i2]) (zQW D A (some (.int res.1)) res.2) 0 0 A := by
  refine zmt (zEv_ok A) (by decide) (Nat.le_of_ble_eq_true rfl) ?_
  intro p e s m below meth c ls hmn X hw hl
  have hl : lv_has ls 4 [(0, .ref a0), (1, .int i1), (2, .int i2)] := hl
  have hx := X.1.1
  have hb := X.1.2.1
  have hown := X.1.2.2.2.1
  have hts := X.1.2.2.2.2
  have hN := X.2.2.2.2.2.2.1
  have hDW := X.2.2.2.2.2.2.2.1
  have hAO := X.2.2.2.2.2.2.2.2.1
  have hNC := X.2.2.2.2.2.2.2.2.2.1
  unfold f_X0_becomes at hf
  refine lv_iload_n hx hb dX0_becomes_0 rfl (lv_at hl 1 rfl) ?_
  refine zw_case hf (fun c1001 hf => ?_) (fun c1001 hf => ?_)
  · refine zw_tableIn (off := 31) (tgt := 32) hx hb c1001 dX0_becomes_1 (by decide) (by decide) rfl (by decide) ?_
    refine lv_aload_n hx hb dX0_becomes_32 rfl (lv_at hl 0 rfl) ?_
    refine zw_getI X hw fs_X6_0 q544 rfl hf dX0_becomes_33 (fun v1 hf => ?_)
    refine lv_istore_n (lv' := [(3, .int v1), (0, .ref a0), (1, .int i1), (2, .int i2)]) hx hb dX0_becomes_36 rfl hl (by decide) rfl (fun ls hl => ?_)
    refine lv_aload_n hx hb dX0_becomes_37 rfl (lv_at hl 1 rfl) ?_
    refine lv_iload_n hx hb dX0_becomes_38 rfl (lv_at hl 3 rfl) ?_
    refine zw_put X hw fs_X6_0 q544 rfl rfl rfl rfl hf dX0_becomes_39 (fun h2 H locs hf hw => ?_)
    refine lv_iload_n hx hb dX0_becomes_42 rfl (lv_at hl 0 rfl) ?_
    exact zw_iret X hw hf (Nat.le_of_ble_eq_true rfl) (Nat.le_of_ble_eq_true rfl) dX0_becomes_43
  · refine zw_case hf (fun c1002 hf => ?_) (fun c1002 hf => ?_)
    · refine zw_tableIn (off := 43) (tgt := 44) hx hb c1002 dX0_becomes_1 (by decide) (by decide) rfl (by decide) ?_
      refine lv_aload_n hx hb dX0_becomes_44 rfl (lv_at hl 0 rfl) ?_
      refine zw_getI X hw fs_X6_1 q548 rfl hf dX0_becomes_45 (fun v3 hf => ?_)
      refine lv_istore_n (lv' := [(3, .int v3), (0, .ref a0), (1, .int i1), (2, .int i2)]) hx hb dX0_becomes_48 rfl hl (by decide) rfl (fun ls hl => ?_)
      refine lv_aload_n hx hb dX0_becomes_49 rfl (lv_at hl 1 rfl) ?_
      refine lv_iload_n hx hb dX0_becomes_50 rfl (lv_at hl 3 rfl) ?_
      refine zw_put X hw fs_X6_1 q548 rfl rfl rfl rfl hf dX0_becomes_51 (fun h4 H locs hf hw => ?_)
      refine lv_iload_n hx hb dX0_becomes_54 rfl (lv_at hl 0 rfl) ?_
      exact zw_iret X hw hf (Nat.le_of_ble_eq_true rfl) (Nat.le_of_ble_eq_true rfl) dX0_becomes_55
    · refine zw_case hf (fun c1003 hf => ?_) (fun c1003 hf => ?_)
      · refine zw_tableIn (off := 55) (tgt := 56) hx hb c1003 dX0_becomes_1 (by decide) (by decide) rfl (by decide) ?_
        refine lv_aload_n hx hb dX0_becomes_56 rfl (lv_at hl 0 rfl) ?_
        refine zw_getI X hw fs_X6_2 q550 rfl hf dX0_becomes_57 (fun v5 hf => ?_)
        refine zw_if_eq (tgt := 67) hx hb hf dX0_becomes_60 (by decide) (fun hf => ?_) (fun hf => ?_)
        · refine lv_iconst (v := (0 : Int32)) hx hb dX0_becomes_67 (by decide) ?_
          exact k_X0_becomes_68 X _ h a0 i2 (0 : Int32) _ _ _ hf hw (lv_sub hl [0, 2] rfl)
        · refine lv_iconst (v := (1 : Int32)) hx hb dX0_becomes_63 (by decide) ?_
          refine lv_goto (tgt := 68) hx hb dX0_becomes_64 (by decide) ?_
          exact k_X0_becomes_68 X _ h a0 i2 (1 : Int32) _ _ _ hf hw (lv_sub hl [0, 2] rfl)
      · refine zw_case hf (fun c1004 hf => ?_) (fun c1004 hf => ?_)
        · refine zw_tableIn (off := 84) (tgt := 85) hx hb c1004 dX0_becomes_1 (by decide) (by decide) rfl (by decide) ?_
          refine lv_aload_n hx hb dX0_becomes_85 rfl (lv_at hl 0 rfl) ?_
          refine zw_getI X hw fs_X6_3 q553 rfl hf dX0_becomes_86 (fun v6 hf => ?_)
          refine lv_istore_n (lv' := [(3, .int v6), (0, .ref a0), (1, .int i1), (2, .int i2)]) hx hb dX0_becomes_89 rfl hl (by decide) rfl (fun ls hl => ?_)
          refine lv_aload_n hx hb dX0_becomes_90 rfl (lv_at hl 1 rfl) ?_
          refine lv_iload_n hx hb dX0_becomes_91 rfl (lv_at hl 3 rfl) ?_
          refine zw_put X hw fs_X6_3 q553 rfl rfl rfl rfl hf dX0_becomes_92 (fun h7 H locs hf hw => ?_)
          refine lv_iload_n hx hb dX0_becomes_95 rfl (lv_at hl 0 rfl) ?_
          exact zw_iret X hw hf (Nat.le_of_ble_eq_true rfl) (Nat.le_of_ble_eq_true rfl) dX0_becomes_96
        · refine lv_tableOut (tgt := 97) hx hb dX0_becomes_1 (by have := lv_neT c1001 (a := 1) (by decide); have := lv_neT c1002 (a := 2) (by decide); have := lv_neT c1003 (a := 3) (by decide); have := lv_neT c1004 (a := 4) (by decide); omega) (by decide) ?_
          refine lv_aload_n hx hb dX0_becomes_97 rfl (lv_at hl 0 rfl) ?_
          refine zw_getI X hw fs_X6_4 q556 rfl hf dX0_becomes_98 (fun v8 hf => ?_)
          refine lv_istore_n (lv' := [(3, .int v8), (0, .ref a0), (1, .int i1), (2, .int i2)]) hx hb dX0_becomes_101 rfl hl (by decide) rfl (fun ls hl => ?_)
          refine lv_aload_n hx hb dX0_becomes_102 rfl (lv_at hl 1 rfl) ?_
          refine lv_iload_n hx hb dX0_becomes_103 rfl (lv_at hl 3 rfl) ?_
          refine zw_put X hw fs_X6_4 q556 rfl rfl rfl rfl hf dX0_becomes_104 (fun h9 H locs hf hw => ?_)
          refine lv_iload_n hx hb dX0_becomes_107 rfl (lv_at hl 0 rfl) ?_
          exact zw_iret X hw hf (Nat.le_of_ble_eq_true rfl) (Nat.le_of_ble_eq_true rfl) dX0_becomes_108
set_option maxHeartbeats 4000000 in
theorem mt_X0_set (l : Launch) (D : va_G) (A : Nat → Prop) (h : zT) (a0 : Nat) (i1 : Int32) (i2 : Int32) (i3 : Int32) (res : Int32 × zT) (hf : f_X0_set h a0 i1 i2 i3 = some res) : Met l yX0_set (ws_ yX0_set cX0_set 4 (Option.some FieldType.int)) rm_X0_set (zPW D A (zEv A) h [.ref a0, .int i1, .int i2, .int i3]) (zQW D A (some (.int res.1)) res.2) 0 0 A := by
  refine zmt (zEv_ok A) (by decide) (Nat.le_of_ble_eq_true rfl) ?_
  intro p e s m below meth c ls hmn X hw hl
  have hl : lv_has ls 4 [(0, .ref a0), (1, .int i1), (2, .int i2), (3, .int i3)] := hl
  have hx := X.1.1
  have hb := X.1.2.1
  have hown := X.1.2.2.2.1
  have hts := X.1.2.2.2.2
  have hN := X.2.2.2.2.2.2.1
  have hDW := X.2.2.2.2.2.2.2.1
  have hAO := X.2.2.2.2.2.2.2.2.1
  have hNC := X.2.2.2.2.2.2.2.2.2.1
  unfold f_X0_set at hf
  refine lv_aload_n hx hb dX0_set_0 rfl (lv_at hl 0 rfl) ?_
  refine lv_iload_n hx hb dX0_set_1 rfl (lv_at hl 1 rfl) ?_
  refine zw_kC hf (fun fs hfs hf => ?_)
  refine zw_goZ (rest := []) hw hf (fun r hr => va_runV (C := RX0) (As := [.int i1]) (rest := []) X.1 (mt_X0_isRubbing l D A h a0 i1 r hr) (cwV 1 hts (lw_V q629 q631 qs19 q81 q632) rfl rfl rfl ⟨rfl, cd_X0_isRubbing⟩ ⟨Nat.le_of_ble_eq_true rfl, Nat.le_of_ble_eq_true rfl⟩) (zpreV (ci := 0) X hw hfs rfl _) rfl rfl hl.1 rfl (lv_room (Nat.le_of_ble_eq_true rfl)) dX0_set_2 ⟨Nat.le_of_ble_eq_true rfl, Nat.le_of_ble_eq_true rfl⟩) (fun r1 H locs hf hw => ?_)
  refine zw_if_eq (tgt := 42) hx hb hf dX0_set_5 (by decide) (fun hf => ?_) (fun hf => ?_)
  · refine lv_ldc (v := (-1000000001 : Int32)) hx hb hown (hts _ q342) dX0_set_42 ?_
    exact zw_iret X hw hf (Nat.le_of_ble_eq_true rfl) (Nat.le_of_ble_eq_true rfl) dX0_set_44
  · refine lv_iload_n hx hb dX0_set_8 rfl (lv_at hl 2 rfl) ?_
    refine lv_iconst (v := (1 : Int32)) hx hb dX0_set_9 (by decide) ?_
    refine lv_iconst (v := (5 : Int32)) hx hb dX0_set_10 (by decide) ?_
    refine zw_goZ (rest := []) hw hf (fun r hr => va_runS (As := [.int i2, .int (1 : Int32), .int (5 : Int32)]) (rest := []) X.1 (mt_X0_isIn l D A r1.2 i2 (1 : Int32) (5 : Int32) r hr) (va_cwS 3 hts (lw_S q339 q340 q81 q341) rfl rfl rfl cd_X0_isIn ⟨Nat.le_of_ble_eq_true rfl, Nat.le_of_ble_eq_true rfl⟩) (zpreS X hw _) rfl rfl hl.1 rfl (lv_room (Nat.le_of_ble_eq_true rfl)) dX0_set_11 ⟨Nat.le_of_ble_eq_true rfl, Nat.le_of_ble_eq_true rfl⟩) (fun r2 H locs hf hw => ?_)
    refine zw_if_eq (tgt := 42) hx hb hf dX0_set_14 (by decide) (fun hf => ?_) (fun hf => ?_)
    · refine lv_ldc (v := (-1000000001 : Int32)) hx hb hown (hts _ q342) dX0_set_42 ?_
      exact zw_iret X hw hf (Nat.le_of_ble_eq_true rfl) (Nat.le_of_ble_eq_true rfl) dX0_set_44
    · refine lv_iload_n hx hb dX0_set_17 rfl (lv_at hl 2 rfl) ?_
      refine lv_iload_n hx hb dX0_set_18 rfl (lv_at hl 3 rfl) ?_
      refine zw_goZ (rest := []) hw hf (fun r hr => va_runS (As := [.int i2, .int i3]) (rest := []) X.1 (mt_X0_isOf l D A r2.2 i2 i3 r hr) (va_cwS 2 hts (lw_S q847 q848 q81 q849) rfl rfl rfl cd_X0_isOf ⟨Nat.le_of_ble_eq_true rfl, Nat.le_of_ble_eq_true rfl⟩) (zpreS X hw _) rfl rfl hl.1 rfl (lv_room (Nat.le_of_ble_eq_true rfl)) dX0_set_19 ⟨Nat.le_of_ble_eq_true rfl, Nat.le_of_ble_eq_true rfl⟩) (fun r3 H locs hf hw => ?_)
      refine zw_if_eq (tgt := 42) hx hb hf dX0_set_22 (by decide) (fun hf => ?_) (fun hf => ?_)
      · refine lv_ldc (v := (-1000000001 : Int32)) hx hb hown (hts _ q342) dX0_set_42 ?_
        exact zw_iret X hw hf (Nat.le_of_ble_eq_true rfl) (Nat.le_of_ble_eq_true rfl) dX0_set_44
      · refine lv_aload_n hx hb dX0_set_25 rfl (lv_at hl 0 rfl) ?_
        refine zw_getR X hw fs_X0_0 q252 rfl hf dX0_set_26 (fun v4 hf => ?_)
        refine zw_getRN X hw fs_X1_2 (hN _ nq131) rfl hf dX0_set_29 (fun v5 hf => ?_)
        refine lv_iload_n hx hb dX0_set_32 rfl (lv_at hl 1 rfl) ?_
        refine zw_aaloadR X hw hf dX0_set_33 (fun v6 hf => ?_)
        refine lv_iload_n hx hb dX0_set_34 rfl (lv_at hl 2 rfl) ?_
        refine lv_iload_n hx hb dX0_set_35 rfl (lv_at hl 3 rfl) ?_
        refine zw_goI (rest := []) hw hf (fun r hr => va_runS (As := [.ref v6, .int i2, .int i3]) (rest := []) X.1 (mt_X0_becomes l D A r3.2 v6 i2 i3 r hr) (va_cwS 3 hts (lw_S q850 q851 q81 q852) rfl rfl rfl cd_X0_becomes ⟨Nat.le_of_ble_eq_true rfl, Nat.le_of_ble_eq_true rfl⟩) (zpreS X hw _) rfl rfl hl.1 rfl (lv_room (Nat.le_of_ble_eq_true rfl)) dX0_set_36 ⟨Nat.le_of_ble_eq_true rfl, Nat.le_of_ble_eq_true rfl⟩) (fun r7 H locs hf hw => ?_)
        refine lv_goto (tgt := 44) hx hb dX0_set_39 (by decide) ?_
        exact zw_iret X hw hf (Nat.le_of_ble_eq_true rfl) (Nat.le_of_ble_eq_true rfl) dX0_set_44
set_option maxHeartbeats 4000000 in
theorem mt_X0_cuts (l : Launch) (D : va_G) (A : Nat → Prop) (h : zT) (a0 : Nat) (i1 : Int32) (i2 : Int32) (res : Int32 × zT) (hf : f_X0_cuts h a0 i1 i2 = some res) : Met l yX0_cuts (ws_ yX0_cuts cX0_cuts 4 (Option.some FieldType.int)) rm_X0_cuts (zPW D A (zEv A) h [.ref a0, .int i1, .int i2]) (zQW D A (some (.int res.1)) res.2) 0 0 A := by
  refine zmt (zEv_ok A) (by decide) (Nat.le_of_ble_eq_true rfl) ?_
  intro p e s m below meth c ls hmn X hw hl
  have hl : lv_has ls 4 [(0, .ref a0), (1, .int i1), (2, .int i2)] := hl
  have hx := X.1.1
  have hb := X.1.2.1
  have hown := X.1.2.2.2.1
  have hts := X.1.2.2.2.2
  have hN := X.2.2.2.2.2.2.1
  have hDW := X.2.2.2.2.2.2.2.1
  have hAO := X.2.2.2.2.2.2.2.2.1
  have hNC := X.2.2.2.2.2.2.2.2.2.1
  unfold f_X0_cuts at hf
  refine lv_aload_n hx hb dX0_cuts_0 rfl (lv_at hl 0 rfl) ?_
  refine zw_getR X hw fs_X0_0 q252 rfl hf dX0_cuts_1 (fun v1 hf => ?_)
  refine zw_getRN X hw fs_X1_3 (hN _ nq133) rfl hf dX0_cuts_4 (fun v2 hf => ?_)
  refine lv_iload_n hx hb dX0_cuts_7 rfl (lv_at hl 1 rfl) ?_
  refine zw_ialoadR X hw hf dX0_cuts_8 (fun v3 hf => ?_)
  refine lv_istore_n (lv' := [(3, .int v3), (0, .ref a0), (1, .int i1), (2, .int i2)]) hx hb dX0_cuts_9 rfl hl (by decide) rfl (fun ls hl => ?_)
  refine lv_aload_n hx hb dX0_cuts_10 rfl (lv_at hl 1 rfl) ?_
  refine zw_getR X hw fs_X0_0 q252 rfl hf dX0_cuts_11 (fun v4 hf => ?_)
  refine zw_getRN X hw fs_X1_3 (hN _ nq133) rfl hf dX0_cuts_14 (fun v5 hf => ?_)
  refine lv_iload_n hx hb dX0_cuts_17 rfl (lv_at hl 2 rfl) ?_
  refine lv_iload_n hx hb dX0_cuts_18 rfl (lv_at hl 3 rfl) ?_
  refine zw_iastore X hw hf dX0_cuts_19 (fun h6 H locs hf hw => ?_)
  refine lv_iload_n hx hb dX0_cuts_20 rfl (lv_at hl 0 rfl) ?_
  exact zw_iret X hw hf (Nat.le_of_ble_eq_true rfl) (Nat.le_of_ble_eq_true rfl) dX0_cuts_21
set_option maxHeartbeats 4000000 in
theorem mt_X0_carve (l : Launch) (D : va_G) (A : Nat → Prop) (h : zT) (a0 : Nat) (i1 : Int32) (i2 : Int32) (res : Int32 × zT) (hf : f_X0_carve h a0 i1 i2 = some res) : Met l yX0_carve (ws_ yX0_carve cX0_carve 3 (Option.some FieldType.int)) rm_X0_carve (zPW D A (zEv A) h [.ref a0, .int i1, .int i2]) (zQW D A (some (.int res.1)) res.2) 0 0 A := by
  refine zmt (zEv_ok A) (by decide) (Nat.le_of_ble_eq_true rfl) ?_
  intro p e s m below meth c ls hmn X hw hl
  have hl : lv_has ls 3 [(0, .ref a0), (1, .int i1), (2, .int i2)] := hl
  have hx := X.1.1
  have hb := X.1.2.1
  have hown := X.1.2.2.2.1
  have hts := X.1.2.2.2.2
  have hN := X.2.2.2.2.2.2.1
  have hDW := X.2.2.2.2.2.2.2.1
  have hAO := X.2.2.2.2.2.2.2.2.1
  have hNC := X.2.2.2.2.2.2.2.2.2.1
  unfold f_X0_carve at hf
  refine lv_iload_n hx hb dX0_carve_0 rfl (lv_at hl 1 rfl) ?_
  refine lv_iconst (v := (0 : Int32)) hx hb dX0_carve_1 (by decide) ?_
  refine lv_bipush (v := (15 : Int32)) hx hb dX0_carve_2 (by decide) ?_
  refine zw_goZ (rest := []) hw hf (fun r hr => va_runS (As := [.int i1, .int (0 : Int32), .int (15 : Int32)]) (rest := []) X.1 (mt_X0_isIn l D A h i1 (0 : Int32) (15 : Int32) r hr) (va_cwS 3 hts (lw_S q339 q340 q81 q341) rfl rfl rfl cd_X0_isIn ⟨Nat.le_of_ble_eq_true rfl, Nat.le_of_ble_eq_true rfl⟩) (zpreS X hw _) rfl rfl hl.1 rfl (lv_room (Nat.le_of_ble_eq_true rfl)) dX0_carve_4 ⟨Nat.le_of_ble_eq_true rfl, Nat.le_of_ble_eq_true rfl⟩) (fun r1 H locs hf hw => ?_)
  refine zw_if_eq (tgt := 28) hx hb hf dX0_carve_7 (by decide) (fun hf => ?_) (fun hf => ?_)
  · refine lv_ldc (v := (-1000000001 : Int32)) hx hb hown (hts _ q342) dX0_carve_28 ?_
    exact zw_iret X hw hf (Nat.le_of_ble_eq_true rfl) (Nat.le_of_ble_eq_true rfl) dX0_carve_30
  · refine lv_iload_n hx hb dX0_carve_10 rfl (lv_at hl 2 rfl) ?_
    refine lv_iconst (v := (0 : Int32)) hx hb dX0_carve_11 (by decide) ?_
    refine lv_iconst (v := (3 : Int32)) hx hb dX0_carve_12 (by decide) ?_
    refine zw_goZ (rest := []) hw hf (fun r hr => va_runS (As := [.int i2, .int (0 : Int32), .int (3 : Int32)]) (rest := []) X.1 (mt_X0_isIn l D A r1.2 i2 (0 : Int32) (3 : Int32) r hr) (va_cwS 3 hts (lw_S q339 q340 q81 q341) rfl rfl rfl cd_X0_isIn ⟨Nat.le_of_ble_eq_true rfl, Nat.le_of_ble_eq_true rfl⟩) (zpreS X hw _) rfl rfl hl.1 rfl (lv_room (Nat.le_of_ble_eq_true rfl)) dX0_carve_13 ⟨Nat.le_of_ble_eq_true rfl, Nat.le_of_ble_eq_true rfl⟩) (fun r2 H locs hf hw => ?_)
    refine zw_if_eq (tgt := 28) hx hb hf dX0_carve_16 (by decide) (fun hf => ?_) (fun hf => ?_)
    · refine lv_ldc (v := (-1000000001 : Int32)) hx hb hown (hts _ q342) dX0_carve_28 ?_
      exact zw_iret X hw hf (Nat.le_of_ble_eq_true rfl) (Nat.le_of_ble_eq_true rfl) dX0_carve_30
    · refine lv_aload_n hx hb dX0_carve_19 rfl (lv_at hl 0 rfl) ?_
      refine lv_iload_n hx hb dX0_carve_20 rfl (lv_at hl 1 rfl) ?_
      refine lv_iload_n hx hb dX0_carve_21 rfl (lv_at hl 2 rfl) ?_
      refine zw_kC hf (fun fs hfs hf => ?_)
      refine zw_goI (rest := []) hw hf (fun r hr => va_runV (C := RX0) (As := [.int i1, .int i2]) (rest := []) X.1 (mt_X0_cuts l D A r2.2 a0 i1 i2 r hr) (cwV 2 hts (lw_V q857 q859 qs22 q81 q860) rfl rfl rfl ⟨rfl, cd_X0_cuts⟩ ⟨Nat.le_of_ble_eq_true rfl, Nat.le_of_ble_eq_true rfl⟩) (zpreV (ci := 0) X hw hfs rfl _) rfl rfl hl.1 rfl (lv_room (Nat.le_of_ble_eq_true rfl)) dX0_carve_22 ⟨Nat.le_of_ble_eq_true rfl, Nat.le_of_ble_eq_true rfl⟩) (fun r3 H locs hf hw => ?_)
      refine lv_goto (tgt := 30) hx hb dX0_carve_25 (by decide) ?_
      exact zw_iret X hw hf (Nat.le_of_ble_eq_true rfl) (Nat.le_of_ble_eq_true rfl) dX0_carve_30
set_option maxHeartbeats 4000000 in
theorem mt_X0_carved (l : Launch) (D : va_G) (A : Nat → Prop) (h : zT) (a0 : Nat) (i1 : Int32) (res : Int32 × zT) (hf : f_X0_carved h a0 i1 = some res) : Met l yX0_carved (ws_ yX0_carved cX0_carved 2 (Option.some FieldType.int)) rm_X0_carved (zPW D A (zEv A) h [.ref a0, .int i1]) (zQW D A (some (.int res.1)) res.2) 0 0 A := by
  refine zmt (zEv_ok A) (by decide) (Nat.le_of_ble_eq_true rfl) ?_
  intro p e s m below meth c ls hmn X hw hl
  have hl : lv_has ls 2 [(0, .ref a0), (1, .int i1)] := hl
  have hx := X.1.1
  have hb := X.1.2.1
  have hown := X.1.2.2.2.1
  have hts := X.1.2.2.2.2
  have hN := X.2.2.2.2.2.2.1
  have hDW := X.2.2.2.2.2.2.2.1
  have hAO := X.2.2.2.2.2.2.2.2.1
  have hNC := X.2.2.2.2.2.2.2.2.2.1
  unfold f_X0_carved at hf
  refine lv_iload_n hx hb dX0_carved_0 rfl (lv_at hl 1 rfl) ?_
  refine lv_iconst (v := (0 : Int32)) hx hb dX0_carved_1 (by decide) ?_
  refine lv_bipush (v := (15 : Int32)) hx hb dX0_carved_2 (by decide) ?_
  refine zw_goZ (rest := []) hw hf (fun r hr => va_runS (As := [.int i1, .int (0 : Int32), .int (15 : Int32)]) (rest := []) X.1 (mt_X0_isIn l D A h i1 (0 : Int32) (15 : Int32) r hr) (va_cwS 3 hts (lw_S q339 q340 q81 q341) rfl rfl rfl cd_X0_isIn ⟨Nat.le_of_ble_eq_true rfl, Nat.le_of_ble_eq_true rfl⟩) (zpreS X hw _) rfl rfl hl.1 rfl (lv_room (Nat.le_of_ble_eq_true rfl)) dX0_carved_4 ⟨Nat.le_of_ble_eq_true rfl, Nat.le_of_ble_eq_true rfl⟩) (fun r1 H locs hf hw => ?_)
  refine zw_if_eq (tgt := 22) hx hb hf dX0_carved_7 (by decide) (fun hf => ?_) (fun hf => ?_)
  · refine lv_ldc (v := (-1000000001 : Int32)) hx hb hown (hts _ q342) dX0_carved_22 ?_
    exact zw_iret X hw hf (Nat.le_of_ble_eq_true rfl) (Nat.le_of_ble_eq_true rfl) dX0_carved_24
  · refine lv_aload_n hx hb dX0_carved_10 rfl (lv_at hl 0 rfl) ?_
    refine zw_getR X hw fs_X0_0 q252 rfl hf dX0_carved_11 (fun v2 hf => ?_)
    refine zw_getRN X hw fs_X1_3 (hN _ nq133) rfl hf dX0_carved_14 (fun v3 hf => ?_)
    refine lv_iload_n hx hb dX0_carved_17 rfl (lv_at hl 1 rfl) ?_
    refine zw_ialoadR X hw hf dX0_carved_18 (fun v4 hf => ?_)
    refine lv_goto (tgt := 24) hx hb dX0_carved_19 (by decide) ?_
    exact zw_iret X hw hf (Nat.le_of_ble_eq_true rfl) (Nat.le_of_ble_eq_true rfl) dX0_carved_24
set_option maxHeartbeats 4000000 in
theorem k_X0_deal_15 {p : Program} {l : Launch} {e : Env} {s : State} {m : MethodId} {args : Array Value} {below : List Frame} {meth : Method} {c : Code} {D : va_G} {A : Nat → Prop} (X : zCx p s m args meth c D A (zEv A) cX0_deal 6 RX0 (Option.some FieldType.int)) (res : Int32 × zT) : ∀ (n cb sb : Nat), cb + n * 1 ≤ 10 → sb + n * 5 ≤ 50 → ∀ (h : zT) (a0 : Nat) (i1 : Int32) (i2 : Int32) (H : Heap) (locs : List Loc) (ls : Array Slot), f_X0_deal_15 n h a0 i1 i2 = some res → zWh D A s H h locs → lv_has ls 6 [(0, .ref a0), (1, .int i1), (2, .int i2)] → W p l e rm_X0_deal s m args below meth c H locs cb sb (MQ below (zQW D A (some (.int res.1)) res.2) args s 10 50 A) (F0 m 15 ls []) := by
  have hx := X.1.1
  have hb := X.1.2.1
  have hown := X.1.2.2.2.1
  have hts := X.1.2.2.2.2
  have hN := X.2.2.2.2.2.2.1
  have hDW := X.2.2.2.2.2.2.2.1
  have hAO := X.2.2.2.2.2.2.2.2.1
  have hNC := X.2.2.2.2.2.2.2.2.2.1
  intro n
  induction n with
  | zero =>
    intro cb sb hcb hsb h a0 i1 i2 H locs ls hf hw hl
    cases hf
  | succ n ih =>
    intro cb sb hcb hsb h a0 i1 i2 H locs ls hf hw hl
    unfold f_X0_deal_15 at hf
    refine lv_iload_n hx hb dX0_deal_15 rfl (lv_at hl 2 rfl) ?_
    refine lv_iload_n hx hb dX0_deal_16 rfl (lv_at hl 1 rfl) ?_
    refine zw_icmp_ge (tgt := 83) hx hb hf dX0_deal_17 (by decide) (fun hf => ?_) (fun hf => ?_)
    · refine lv_iload_n hx hb dX0_deal_83 rfl (lv_at hl 2 rfl) ?_
      exact zw_iret X hw hf (by omega) (by omega) dX0_deal_84
    · refine lv_aload_n hx hb dX0_deal_20 rfl (lv_at hl 0 rfl) ?_
      refine zw_getR X hw fs_X0_0 q252 rfl hf dX0_deal_21 (fun v1 hf => ?_)
      refine zw_getIN X hw fs_X1_1 (hN _ nq129) rfl hf dX0_deal_24 (fun v2 hf => ?_)
      refine lv_bipush (v := (9 : Int32)) hx hb dX0_deal_27 (by decide) ?_
      refine zw_icmp_ge (tgt := 83) hx hb hf dX0_deal_29 (by decide) (fun hf => ?_) (fun hf => ?_)
      · refine lv_iload_n hx hb dX0_deal_83 rfl (lv_at hl 2 rfl) ?_
        exact zw_iret X hw hf (by omega) (by omega) dX0_deal_84
      · refine lv_aload_n hx hb dX0_deal_32 rfl (lv_at hl 0 rfl) ?_
        refine zw_getR X hw fs_X0_0 q252 rfl hf dX0_deal_33 (fun v3 hf => ?_)
        refine zw_kC hf (fun fs hfs hf => ?_)
        refine zw_goI (rest := []) hw hf (fun r hr => va_runV (C := RX1) (As := []) (rest := []) X.1 (mt_X1_draw l D A h v3 r hr) (cwV 0 hts (lw_V q869 q870 q871 q82 q872) rfl rfl rfl ⟨rfl, cd_X1_draw⟩ ⟨Nat.le_of_ble_eq_true rfl, Nat.le_of_ble_eq_true rfl⟩) (zpreV (ci := 1) X hw hfs rfl _) rfl rfl hl.1 rfl (lv_room (Nat.le_of_ble_eq_true rfl)) dX0_deal_36 ⟨by show _ ≤ (10 : Nat); omega, by show _ ≤ (50 : Nat); omega⟩) (fun r4 H locs hf hw => ?_)
        refine lv_bipush (v := (6 : Int32)) hx hb dX0_deal_39 (by decide) ?_
        refine lv_irem hx hb dX0_deal_41 (by decide) ?_
        refine zw_nmI hf (fun v5 hf => ?_)
        refine lv_istore_n (lv' := [(3, .int v5), (0, .ref a0), (1, .int i1), (2, .int i2)]) hx hb dX0_deal_42 rfl hl (by decide) rfl (fun ls hl => ?_)
        refine lv_aload_n hx hb dX0_deal_43 rfl (lv_at hl 1 rfl) ?_
        refine zw_getR X hw fs_X0_0 q252 rfl hf dX0_deal_44 (fun v6 hf => ?_)
        refine zw_kC hf (fun fs hfs hf => ?_)
        refine zw_goI (rest := []) hw hf (fun r hr => va_runV (C := RX1) (As := []) (rest := []) X.1 (mt_X1_draw l D A r4.2 v6 r hr) (cwV 0 hts (lw_V q869 q870 q871 q82 q872) rfl rfl rfl ⟨rfl, cd_X1_draw⟩ ⟨Nat.le_of_ble_eq_true rfl, Nat.le_of_ble_eq_true rfl⟩) (zpreV (ci := 1) X hw hfs rfl _) rfl rfl hl.1 rfl (lv_room (Nat.le_of_ble_eq_true rfl)) dX0_deal_47 ⟨by show _ ≤ (10 : Nat); omega, by show _ ≤ (50 : Nat); omega⟩) (fun r7 H locs hf hw => ?_)
        refine lv_ldcw (v := (65536 : Int32)) hx hb hown (hts _ q874) dX0_deal_50 ?_
        refine lv_irem hx hb dX0_deal_53 (by decide) ?_
        refine zw_nmI hf (fun v8 hf => ?_)
        refine lv_istore (lv' := [(4, .int v8), (3, .int v5), (0, .ref a0), (1, .int i1), (2, .int i2)]) hx hb dX0_deal_54 hl (by decide) rfl (fun ls hl => ?_)
        refine lv_aload_n hx hb dX0_deal_56 rfl (lv_at hl 2 rfl) ?_
        refine lv_iload_n hx hb dX0_deal_57 rfl (lv_at hl 1 rfl) ?_
        refine lv_iload hx hb dX0_deal_58 (lv_at hl 0 rfl) ?_
        refine lv_iconst (v := (1 : Int32)) hx hb dX0_deal_60 (by decide) ?_
        refine lv_aload_n hx hb dX0_deal_61 rfl (lv_at hl 2 rfl) ?_
        refine zw_getR X hw fs_X0_0 q252 rfl hf dX0_deal_62 (fun v9 hf => ?_)
        refine zw_kC hf (fun fs hfs hf => ?_)
        refine zw_goI (rest := [.int (1 : Int32), .int v8, .int v5, .ref a0]) hw hf (fun r hr => va_runV (C := RX1) (As := []) (rest := [.int (1 : Int32), .int v8, .int v5, .ref a0]) X.1 (mt_X1_draw l D A r7.2 v9 r hr) (cwV 0 hts (lw_V q869 q870 q871 q82 q872) rfl rfl rfl ⟨rfl, cd_X1_draw⟩ ⟨Nat.le_of_ble_eq_true rfl, Nat.le_of_ble_eq_true rfl⟩) (zpreV (ci := 1) X hw hfs rfl _) rfl rfl hl.1 rfl (lv_room (Nat.le_of_ble_eq_true rfl)) dX0_deal_65 ⟨by show _ ≤ (10 : Nat); omega, by show _ ≤ (50 : Nat); omega⟩) (fun r10 H locs hf hw => ?_)
        refine lv_bipush (v := (8 : Int32)) hx hb dX0_deal_68 (by decide) ?_
        refine lv_irem hx hb dX0_deal_70 (by decide) ?_
        refine lv_iadd hx hb dX0_deal_71 ?_
        refine zw_kC hf (fun fs hfs hf => ?_)
        refine zw_goI (rest := []) hw hf (fun r hr => va_runV (C := RX0) (As := [.int v5, .int v8, .int ((1 : Int32) + (r10.1 - r10.1 / (8 : Int32) * (8 : Int32)))]) (rest := []) X.1 (mt_X0_comes l D A r10.2 a0 v5 v8 ((1 : Int32) + (r10.1 - r10.1 / (8 : Int32) * (8 : Int32))) r hr) (cwV 3 hts (lw_V q527 q529 qs18 q81 q530) rfl rfl rfl ⟨rfl, cd_X0_comes⟩ ⟨Nat.le_of_ble_eq_true rfl, Nat.le_of_ble_eq_true rfl⟩) (zpreV (ci := 0) X hw hfs rfl _) rfl rfl hl.1 rfl (lv_room (Nat.le_of_ble_eq_true rfl)) dX0_deal_72 ⟨by show _ ≤ (10 : Nat); omega, by show _ ≤ (50 : Nat); omega⟩) (fun r11 H locs hf hw => ?_)
        refine lv_istore (lv' := [(5, .int r11.1), (4, .int v8), (3, .int v5), (0, .ref a0), (1, .int i1), (2, .int i2)]) hx hb dX0_deal_75 hl (by decide) rfl (fun ls hl => ?_)
        refine zw_nmS hf (fun v12 ev12 hf => ?_)
        refine lv_iinc (k := 5) (v := v12) (lv' := [(2, .int v12), (5, .int r11.1), (4, .int v8), (3, .int v5), (0, .ref a0), (1, .int i1)]) hx hb dX0_deal_77 hl rfl (by rw [ev12]; rfl) (by decide) rfl (fun ls hl => ?_)
        refine lv_goto (tgt := 15) hx hb dX0_deal_80 (by decide) ?_
        refine W.widen (k := cb + 1) (n := sb + 5) (by omega) (by omega) ?_
        exact ih (cb + 1) (sb + 5) (by omega) (by omega) r11.2 a0 i1 v12 _ _ _ hf hw (lv_sub hl [4, 5, 0] rfl)
set_option maxHeartbeats 4000000 in
theorem mt_X0_deal (l : Launch) (D : va_G) (A : Nat → Prop) (h : zT) (a0 : Nat) (i1 : Int32) (res : Int32 × zT) (hf : f_X0_deal h a0 i1 = some res) : Met l yX0_deal (ws_ yX0_deal cX0_deal 6 (Option.some FieldType.int)) rm_X0_deal (zPW D A (zEv A) h [.ref a0, .int i1]) (zQW D A (some (.int res.1)) res.2) 10 50 A := by
  refine zmt (zEv_ok A) (by decide) (Nat.le_of_ble_eq_true rfl) ?_
  intro p e s m below meth c ls hmn X hw hl
  have hl : lv_has ls 6 [(0, .ref a0), (1, .int i1)] := hl
  have hx := X.1.1
  have hb := X.1.2.1
  have hown := X.1.2.2.2.1
  have hts := X.1.2.2.2.2
  have hN := X.2.2.2.2.2.2.1
  have hDW := X.2.2.2.2.2.2.2.1
  have hAO := X.2.2.2.2.2.2.2.2.1
  have hNC := X.2.2.2.2.2.2.2.2.2.1
  unfold f_X0_deal at hf
  refine lv_iload_n hx hb dX0_deal_0 rfl (lv_at hl 1 rfl) ?_
  refine lv_iconst (v := (1 : Int32)) hx hb dX0_deal_1 (by decide) ?_
  refine lv_bipush (v := (9 : Int32)) hx hb dX0_deal_2 (by decide) ?_
  refine zw_goZ (rest := []) hw hf (fun r hr => va_runS (As := [.int i1, .int (1 : Int32), .int (9 : Int32)]) (rest := []) X.1 (mt_X0_isIn l D A h i1 (1 : Int32) (9 : Int32) r hr) (va_cwS 3 hts (lw_S q339 q340 q81 q341) rfl rfl rfl cd_X0_isIn ⟨Nat.le_of_ble_eq_true rfl, Nat.le_of_ble_eq_true rfl⟩) (zpreS X hw _) rfl rfl hl.1 rfl (lv_room (Nat.le_of_ble_eq_true rfl)) dX0_deal_4 ⟨Nat.le_of_ble_eq_true rfl, Nat.le_of_ble_eq_true rfl⟩) (fun r1 H locs hf hw => ?_)
  refine zw_if_ne (tgt := 13) hx hb hf dX0_deal_7 (by decide) (fun hf => ?_) (fun hf => ?_)
  · refine lv_iconst (v := (0 : Int32)) hx hb dX0_deal_13 (by decide) ?_
    refine lv_istore_n (lv' := [(2, .int (0 : Int32)), (0, .ref a0), (1, .int i1)]) hx hb dX0_deal_14 rfl hl (by decide) rfl (fun ls hl => ?_)
    exact k_X0_deal_15 X _ 10 0 0 (by omega) (by omega) r1.2 a0 i1 (0 : Int32) _ _ _ hf hw (lv_sub hl [1, 2, 0] rfl)
  · refine lv_ldc (v := (-1000000001 : Int32)) hx hb hown (hts _ q342) dX0_deal_10 ?_
    exact zw_iret X hw hf (Nat.le_of_ble_eq_true rfl) (Nat.le_of_ble_eq_true rfl) dX0_deal_12
set_option maxHeartbeats 4000000 in
theorem mt_X0_seed (l : Launch) (D : va_G) (A : Nat → Prop) (h : zT) (a0 : Nat) (i1 : Int32) (res : Int32 × zT) (hf : f_X0_seed h a0 i1 = some res) : Met l yX0_seed (ws_ yX0_seed cX0_seed 3 (Option.some FieldType.int)) rm_X0_seed (zPW D A (zEv A) h [.ref a0, .int i1]) (zQW D A (some (.int res.1)) res.2) 0 0 A := by
  refine zmt (zEv_ok A) (by decide) (Nat.le_of_ble_eq_true rfl) ?_
  intro p e s m below meth c ls hmn X hw hl
  have hl : lv_has ls 3 [(0, .ref a0), (1, .int i1)] := hl
  have hx := X.1.1
  have hb := X.1.2.1
  have hown := X.1.2.2.2.1
  have hts := X.1.2.2.2.2
  have hN := X.2.2.2.2.2.2.1
  have hDW := X.2.2.2.2.2.2.2.1
  have hAO := X.2.2.2.2.2.2.2.2.1
  have hNC := X.2.2.2.2.2.2.2.2.2.1
  unfold f_X0_seed at hf
  refine lv_aload_n hx hb dX0_seed_0 rfl (lv_at hl 0 rfl) ?_
  refine zw_getR X hw fs_X0_0 q252 rfl hf dX0_seed_1 (fun v1 hf => ?_)
  refine zw_getIN X hw fs_X1_0 (hN _ nq127) rfl hf dX0_seed_4 (fun v2 hf => ?_)
  refine lv_istore_n (lv' := [(2, .int v2), (0, .ref a0), (1, .int i1)]) hx hb dX0_seed_7 rfl hl (by decide) rfl (fun ls hl => ?_)
  refine lv_aload_n hx hb dX0_seed_8 rfl (lv_at hl 1 rfl) ?_
  refine zw_getR X hw fs_X0_0 q252 rfl hf dX0_seed_9 (fun v3 hf => ?_)
  refine lv_iload_n hx hb dX0_seed_12 rfl (lv_at hl 2 rfl) ?_
  refine zw_putN X hw fs_X1_0 (hN _ nq127) rfl rfl rfl rfl hf dX0_seed_13 (fun h4 H locs hf hw => ?_)
  refine lv_iload_n hx hb dX0_seed_16 rfl (lv_at hl 0 rfl) ?_
  exact zw_iret X hw hf (Nat.le_of_ble_eq_true rfl) (Nat.le_of_ble_eq_true rfl) dX0_seed_17
set_option maxHeartbeats 4000000 in
theorem k_X0_wrongAt_5 {p : Program} {l : Launch} {e : Env} {s : State} {m : MethodId} {args : Array Value} {below : List Frame} {meth : Method} {c : Code} {D : va_G} {A : Nat → Prop} (X : zCx p s m args meth c D A (zEv A) cX0_wrongAt 5 RX0 (Option.some FieldType.int)) (res : Int32 × zT) : ∀ (n : Nat), ∀ (h : zT) (a0 : Nat) (a1 : Nat) (i2 : Int32) (i3 : Int32) (i4 : Int32) (H : Heap) (locs : List Loc) (ls : Array Slot), f_X0_wrongAt_5 n h a0 a1 i2 i3 i4 = some res → zWh D A s H h locs → lv_has ls 5 [(0, .ref a0), (1, .ref a1), (2, .int i2), (3, .int i3), (4, .int i4)] → W p l e rm_X0_wrongAt s m args below meth c H locs 0 0 (MQ below (zQW D A (some (.int res.1)) res.2) args s 0 0 A) (F0 m 5 ls []) := by
  have hx := X.1.1
  have hb := X.1.2.1
  have hown := X.1.2.2.2.1
  have hts := X.1.2.2.2.2
  have hN := X.2.2.2.2.2.2.1
  have hDW := X.2.2.2.2.2.2.2.1
  have hAO := X.2.2.2.2.2.2.2.2.1
  have hNC := X.2.2.2.2.2.2.2.2.2.1
  intro n
  induction n with
  | zero =>
    intro h a0 a1 i2 i3 i4 H locs ls hf hw hl
    cases hf
  | succ n ih =>
    intro h a0 a1 i2 i3 i4 H locs ls hf hw hl
    unfold f_X0_wrongAt_5 at hf
    refine lv_iload hx hb dX0_wrongAt_5 (lv_at hl 4 rfl) ?_
    refine lv_aload_n hx hb dX0_wrongAt_7 rfl (lv_at hl 1 rfl) ?_
    refine zw_getI X hw fs_X6_1 q548 rfl hf dX0_wrongAt_8 (fun v1 hf => ?_)
    refine zw_icmp_ge (tgt := 58) hx hb hf dX0_wrongAt_11 (by decide) (fun hf => ?_) (fun hf => ?_)
    · refine lv_iload_n hx hb dX0_wrongAt_58 rfl (lv_at hl 3 rfl) ?_
      exact zw_iret X hw hf (Nat.le_of_ble_eq_true rfl) (Nat.le_of_ble_eq_true rfl) dX0_wrongAt_59
    · refine lv_iload_n hx hb dX0_wrongAt_14 rfl (lv_at hl 2 rfl) ?_
      refine lv_iload hx hb dX0_wrongAt_15 (lv_at hl 4 rfl) ?_
      refine lv_iadd hx hb dX0_wrongAt_17 ?_
      refine lv_bipush (v := (16 : Int32)) hx hb dX0_wrongAt_18 (by decide) ?_
      refine zw_icmp_ge (tgt := 58) hx hb hf dX0_wrongAt_20 (by decide) (fun hf => ?_) (fun hf => ?_)
      · refine lv_iload_n hx hb dX0_wrongAt_58 rfl (lv_at hl 3 rfl) ?_
        exact zw_iret X hw hf (Nat.le_of_ble_eq_true rfl) (Nat.le_of_ble_eq_true rfl) dX0_wrongAt_59
      · refine lv_iload_n hx hb dX0_wrongAt_23 rfl (lv_at hl 3 rfl) ?_
        refine lv_aload_n hx hb dX0_wrongAt_24 rfl (lv_at hl 1 rfl) ?_
        refine lv_iload hx hb dX0_wrongAt_25 (lv_at hl 4 rfl) ?_
        refine vd_X0_323 (rest := [.int i3]) h a1 i4 X hw hl.1 hf (Nat.le_of_ble_eq_true rfl) (Nat.le_of_ble_eq_true rfl) (Nat.le_of_ble_eq_true rfl) rfl dX0_wrongAt_27 ⟨Nat.le_of_ble_eq_true rfl, Nat.le_of_ble_eq_true rfl⟩ (fun r2 H locs hf hw => ?_)
        refine lv_aload_n hx hb dX0_wrongAt_30 rfl (lv_at hl 0 rfl) ?_
        refine zw_getR X hw fs_X0_0 q252 rfl hf dX0_wrongAt_31 (fun v3 hf => ?_)
        refine zw_getRN X hw fs_X1_3 (hN _ nq133) rfl hf dX0_wrongAt_34 (fun v4 hf => ?_)
        refine lv_iload_n hx hb dX0_wrongAt_37 rfl (lv_at hl 2 rfl) ?_
        refine lv_iload hx hb dX0_wrongAt_38 (lv_at hl 4 rfl) ?_
        refine lv_iadd hx hb dX0_wrongAt_40 ?_
        refine zw_ialoadR X hw hf dX0_wrongAt_41 (fun v5 hf => ?_)
        refine zw_icmp_ne (tgt := 49) hx hb hf dX0_wrongAt_42 (by decide) (fun hf => ?_) (fun hf => ?_)
        · refine lv_iconst (v := (1 : Int32)) hx hb dX0_wrongAt_49 (by decide) ?_
          refine lv_iadd hx hb dX0_wrongAt_50 ?_
          refine zw_nmI hf (fun v6 hf => ?_)
          refine lv_istore_n (lv' := [(3, .int v6), (0, .ref a0), (1, .ref a1), (2, .int i2), (4, .int i4)]) hx hb dX0_wrongAt_51 rfl hl (by decide) rfl (fun ls hl => ?_)
          refine zw_nmS hf (fun v7 ev7 hf => ?_)
          refine lv_iinc (k := 4) (v := v7) (lv' := [(4, .int v7), (3, .int v6), (0, .ref a0), (1, .ref a1), (2, .int i2)]) hx hb dX0_wrongAt_52 hl rfl (by rw [ev7]; rfl) (by decide) rfl (fun ls hl => ?_)
          refine lv_goto (tgt := 5) hx hb dX0_wrongAt_55 (by decide) ?_
          exact ih r2.2 a0 a1 i2 v6 v7 _ _ _ hf hw (lv_sub hl [2, 3, 4, 1, 0] rfl)
        · refine lv_iconst (v := (0 : Int32)) hx hb dX0_wrongAt_45 (by decide) ?_
          refine lv_goto (tgt := 50) hx hb dX0_wrongAt_46 (by decide) ?_
          refine lv_iadd hx hb dX0_wrongAt_50 ?_
          refine zw_nmI hf (fun v8 hf => ?_)
          refine lv_istore_n (lv' := [(3, .int v8), (0, .ref a0), (1, .ref a1), (2, .int i2), (4, .int i4)]) hx hb dX0_wrongAt_51 rfl hl (by decide) rfl (fun ls hl => ?_)
          refine zw_nmS hf (fun v9 ev9 hf => ?_)
          refine lv_iinc (k := 4) (v := v9) (lv' := [(4, .int v9), (3, .int v8), (0, .ref a0), (1, .ref a1), (2, .int i2)]) hx hb dX0_wrongAt_52 hl rfl (by rw [ev9]; rfl) (by decide) rfl (fun ls hl => ?_)
          refine lv_goto (tgt := 5) hx hb dX0_wrongAt_55 (by decide) ?_
          exact ih r2.2 a0 a1 i2 v8 v9 _ _ _ hf hw (lv_sub hl [2, 3, 4, 1, 0] rfl)
set_option maxHeartbeats 4000000 in
theorem mt_X0_wrongAt (l : Launch) (D : va_G) (A : Nat → Prop) (h : zT) (a0 : Nat) (a1 : Nat) (i2 : Int32) (res : Int32 × zT) (hf : f_X0_wrongAt h a0 a1 i2 = some res) : Met l yX0_wrongAt (ws_ yX0_wrongAt cX0_wrongAt 5 (Option.some FieldType.int)) rm_X0_wrongAt (zPW D A (zEv A) h [.ref a0, .ref a1, .int i2]) (zQW D A (some (.int res.1)) res.2) 0 0 A := by
  refine zmt (zEv_ok A) (by decide) (Nat.le_of_ble_eq_true rfl) ?_
  intro p e s m below meth c ls hmn X hw hl
  have hl : lv_has ls 5 [(0, .ref a0), (1, .ref a1), (2, .int i2)] := hl
  have hx := X.1.1
  have hb := X.1.2.1
  have hown := X.1.2.2.2.1
  have hts := X.1.2.2.2.2
  have hN := X.2.2.2.2.2.2.1
  have hDW := X.2.2.2.2.2.2.2.1
  have hAO := X.2.2.2.2.2.2.2.2.1
  have hNC := X.2.2.2.2.2.2.2.2.2.1
  unfold f_X0_wrongAt at hf
  refine lv_iconst (v := (0 : Int32)) hx hb dX0_wrongAt_0 (by decide) ?_
  refine lv_istore_n (lv' := [(3, .int (0 : Int32)), (0, .ref a0), (1, .ref a1), (2, .int i2)]) hx hb dX0_wrongAt_1 rfl hl (by decide) rfl (fun ls hl => ?_)
  refine lv_iconst (v := (0 : Int32)) hx hb dX0_wrongAt_2 (by decide) ?_
  refine lv_istore (lv' := [(4, .int (0 : Int32)), (3, .int (0 : Int32)), (0, .ref a0), (1, .ref a1), (2, .int i2)]) hx hb dX0_wrongAt_3 hl (by decide) rfl (fun ls hl => ?_)
  exact k_X0_wrongAt_5 X _ 4096 h a0 a1 i2 (0 : Int32) (0 : Int32) _ _ _ hf hw (lv_sub hl [2, 3, 4, 1, 0] rfl)
set_option maxHeartbeats 4000000 in
theorem mt_X0_falseAt (l : Launch) (D : va_G) (A : Nat → Prop) (h : zT) (a0 : Nat) (i1 : Int32) (i2 : Int32) (res : Int32 × zT) (hf : f_X0_falseAt h a0 i1 i2 = some res) : Met l yX0_falseAt (ws_ yX0_falseAt cX0_falseAt 3 (Option.some FieldType.int)) rm_X0_falseAt (zPW D A (zEv A) h [.ref a0, .int i1, .int i2]) (zQW D A (some (.int res.1)) res.2) 0 0 A := by
  refine zmt (zEv_ok A) (by decide) (Nat.le_of_ble_eq_true rfl) ?_
  intro p e s m below meth c ls hmn X hw hl
  have hl : lv_has ls 3 [(0, .ref a0), (1, .int i1), (2, .int i2)] := hl
  have hx := X.1.1
  have hb := X.1.2.1
  have hown := X.1.2.2.2.1
  have hts := X.1.2.2.2.2
  have hN := X.2.2.2.2.2.2.1
  have hDW := X.2.2.2.2.2.2.2.1
  have hAO := X.2.2.2.2.2.2.2.2.1
  have hNC := X.2.2.2.2.2.2.2.2.2.1
  unfold f_X0_falseAt at hf
  refine lv_aload_n hx hb dX0_falseAt_0 rfl (lv_at hl 0 rfl) ?_
  refine lv_iload_n hx hb dX0_falseAt_1 rfl (lv_at hl 1 rfl) ?_
  refine zw_kC hf (fun fs hfs hf => ?_)
  refine zw_goZ (rest := []) hw hf (fun r hr => va_runV (C := RX0) (As := [.int i1]) (rest := []) X.1 (mt_X0_isRubbing l D A h a0 i1 r hr) (cwV 1 hts (lw_V q629 q631 qs19 q81 q632) rfl rfl rfl ⟨rfl, cd_X0_isRubbing⟩ ⟨Nat.le_of_ble_eq_true rfl, Nat.le_of_ble_eq_true rfl⟩) (zpreV (ci := 0) X hw hfs rfl _) rfl rfl hl.1 rfl (lv_room (Nat.le_of_ble_eq_true rfl)) dX0_falseAt_2 ⟨Nat.le_of_ble_eq_true rfl, Nat.le_of_ble_eq_true rfl⟩) (fun r1 H locs hf hw => ?_)
  refine zw_if_eq (tgt := 35) hx hb hf dX0_falseAt_5 (by decide) (fun hf => ?_) (fun hf => ?_)
  · refine lv_ldc (v := (-1000000001 : Int32)) hx hb hown (hts _ q342) dX0_falseAt_35 ?_
    exact zw_iret X hw hf (Nat.le_of_ble_eq_true rfl) (Nat.le_of_ble_eq_true rfl) dX0_falseAt_37
  · refine lv_iload_n hx hb dX0_falseAt_8 rfl (lv_at hl 2 rfl) ?_
    refine lv_iconst (v := (0 : Int32)) hx hb dX0_falseAt_9 (by decide) ?_
    refine lv_bipush (v := (15 : Int32)) hx hb dX0_falseAt_10 (by decide) ?_
    refine zw_goZ (rest := []) hw hf (fun r hr => va_runS (As := [.int i2, .int (0 : Int32), .int (15 : Int32)]) (rest := []) X.1 (mt_X0_isIn l D A r1.2 i2 (0 : Int32) (15 : Int32) r hr) (va_cwS 3 hts (lw_S q339 q340 q81 q341) rfl rfl rfl cd_X0_isIn ⟨Nat.le_of_ble_eq_true rfl, Nat.le_of_ble_eq_true rfl⟩) (zpreS X hw _) rfl rfl hl.1 rfl (lv_room (Nat.le_of_ble_eq_true rfl)) dX0_falseAt_12 ⟨Nat.le_of_ble_eq_true rfl, Nat.le_of_ble_eq_true rfl⟩) (fun r2 H locs hf hw => ?_)
    refine zw_if_eq (tgt := 35) hx hb hf dX0_falseAt_15 (by decide) (fun hf => ?_) (fun hf => ?_)
    · refine lv_ldc (v := (-1000000001 : Int32)) hx hb hown (hts _ q342) dX0_falseAt_35 ?_
      exact zw_iret X hw hf (Nat.le_of_ble_eq_true rfl) (Nat.le_of_ble_eq_true rfl) dX0_falseAt_37
    · refine lv_aload_n hx hb dX0_falseAt_18 rfl (lv_at hl 0 rfl) ?_
      refine lv_aload_n hx hb dX0_falseAt_19 rfl (lv_at hl 0 rfl) ?_
      refine zw_getR X hw fs_X0_0 q252 rfl hf dX0_falseAt_20 (fun v3 hf => ?_)
      refine zw_getRN X hw fs_X1_2 (hN _ nq131) rfl hf dX0_falseAt_23 (fun v4 hf => ?_)
      refine lv_iload_n hx hb dX0_falseAt_26 rfl (lv_at hl 1 rfl) ?_
      refine zw_aaloadR X hw hf dX0_falseAt_27 (fun v5 hf => ?_)
      refine lv_iload_n hx hb dX0_falseAt_28 rfl (lv_at hl 2 rfl) ?_
      refine zw_kC hf (fun fs hfs hf => ?_)
      refine zw_goI (rest := []) hw hf (fun r hr => va_runV (C := RX0) (As := [.ref v5, .int i2]) (rest := []) X.1 (mt_X0_wrongAt l D A r2.2 a0 v5 i2 r hr) (cwV 2 hts (lw_V q883 q885 qs23 q81 q886) rfl rfl rfl ⟨rfl, cd_X0_wrongAt⟩ ⟨Nat.le_of_ble_eq_true rfl, Nat.le_of_ble_eq_true rfl⟩) (zpreV (ci := 0) X hw hfs rfl _) rfl rfl hl.1 rfl (lv_room (Nat.le_of_ble_eq_true rfl)) dX0_falseAt_29 ⟨Nat.le_of_ble_eq_true rfl, Nat.le_of_ble_eq_true rfl⟩) (fun r6 H locs hf hw => ?_)
      refine lv_goto (tgt := 37) hx hb dX0_falseAt_32 (by decide) ?_
      exact zw_iret X hw hf (Nat.le_of_ble_eq_true rfl) (Nat.le_of_ble_eq_true rfl) dX0_falseAt_37
set_option maxHeartbeats 4000000 in
theorem k_X0_fits_76 {p : Program} {l : Launch} {e : Env} {s : State} {m : MethodId} {args : Array Value} {below : List Frame} {meth : Method} {c : Code} {D : va_G} {A : Nat → Prop} (X : zCx p s m args meth c D A (zEv A) cX0_fits 8 RX0 (Option.some FieldType.int)) (res : Int32 × zT) (K41 : zT → Nat → Int32 → Nat → Int32 → Int32 → Int32 → Option (Int32 × zT)) (hK41 : ∀ (h : zT) (a0 : Nat) (i2 : Int32) (a3 : Nat) (i4 : Int32) (i5 : Int32) (i6 : Int32) (H : Heap) (locs : List Loc) (ls : Array Slot), K41 h a0 i2 a3 i4 i5 i6 = some res → zWh D A s H h locs → lv_has ls 8 [(0, .ref a0), (2, .int i2), (3, .ref a3), (4, .int i4), (5, .int i5), (6, .int i6)] → W p l e rm_X0_fits s m args below meth c H locs 0 0 (MQ below (zQW D A (some (.int res.1)) res.2) args s 0 0 A) (F0 m 41 ls [])) : ∀ (h : zT) (a0 : Nat) (i2 : Int32) (a3 : Nat) (i5 : Int32) (i6 : Int32) (i7 : Int32) (s0 : Int32) (H : Heap) (locs : List Loc) (ls : Array Slot), f_X0_fits_76 K41 h a0 i2 a3 i5 i6 i7 s0 = some res → zWh D A s H h locs → lv_has ls 8 [(0, .ref a0), (2, .int i2), (3, .ref a3), (5, .int i5), (6, .int i6), (7, .int i7)] → W p l e rm_X0_fits s m args below meth c H locs 0 0 (MQ below (zQW D A (some (.int res.1)) res.2) args s 0 0 A) (F0 m 76 ls [.int s0]) := by
  have hx := X.1.1
  have hb := X.1.2.1
  have hown := X.1.2.2.2.1
  have hts := X.1.2.2.2.2
  have hN := X.2.2.2.2.2.2.1
  have hDW := X.2.2.2.2.2.2.2.1
  have hAO := X.2.2.2.2.2.2.2.2.1
  have hNC := X.2.2.2.2.2.2.2.2.2.1
  intro h a0 i2 a3 i5 i6 i7 s0 H locs ls hf hw hl
  unfold f_X0_fits_76 at hf
  refine lv_istore (lv' := [(4, .int s0), (0, .ref a0), (2, .int i2), (3, .ref a3), (5, .int i5), (6, .int i6), (7, .int i7)]) hx hb dX0_fits_76 hl (by decide) rfl (fun ls hl => ?_)
  refine lv_iload hx hb dX0_fits_78 (lv_at hl 4 rfl) ?_
  refine lv_iload hx hb dX0_fits_80 (lv_at hl 6 rfl) ?_
  refine va_mmin (rest := []) hx hb (by rw [X.1.2.2.1]; exact hl.1.symm) hown (hts _ q699) (hts _ q700) (hts _ q96) (hts _ q701) (Nat.le_of_ble_eq_true rfl) (Nat.le_of_ble_eq_true rfl) (Nat.le_of_ble_eq_true rfl) (Nat.le_of_ble_eq_true rfl) dX0_fits_82 ?_
  refine zw_nmI hf (fun v1 hf => ?_)
  refine lv_istore (lv' := [(5, .int v1), (4, .int s0), (0, .ref a0), (2, .int i2), (3, .ref a3), (6, .int i6), (7, .int i7)]) hx hb dX0_fits_85 hl (by decide) rfl (fun ls hl => ?_)
  refine zw_nmS hf (fun v2 ev2 hf => ?_)
  refine lv_iinc (k := 5) (v := v2) (lv' := [(6, .int v2), (5, .int v1), (4, .int s0), (0, .ref a0), (2, .int i2), (3, .ref a3), (7, .int i7)]) hx hb dX0_fits_87 hl rfl (by rw [ev2]; rfl) (by decide) rfl (fun ls hl => ?_)
  refine lv_goto (tgt := 41) hx hb dX0_fits_90 (by decide) ?_
  exact hK41 h a0 i2 a3 s0 v1 v2 _ _ _ hf hw (lv_sub hl [3, 4, 5, 2, 1, 0] rfl)
set_option maxHeartbeats 4000000 in
theorem k_X0_fits_41 {p : Program} {l : Launch} {e : Env} {s : State} {m : MethodId} {args : Array Value} {below : List Frame} {meth : Method} {c : Code} {D : va_G} {A : Nat → Prop} (X : zCx p s m args meth c D A (zEv A) cX0_fits 8 RX0 (Option.some FieldType.int)) (res : Int32 × zT) : ∀ (n : Nat), ∀ (h : zT) (a0 : Nat) (i2 : Int32) (a3 : Nat) (i4 : Int32) (i5 : Int32) (i6 : Int32) (H : Heap) (locs : List Loc) (ls : Array Slot), f_X0_fits_41 n h a0 i2 a3 i4 i5 i6 = some res → zWh D A s H h locs → lv_has ls 8 [(0, .ref a0), (2, .int i2), (3, .ref a3), (4, .int i4), (5, .int i5), (6, .int i6)] → W p l e rm_X0_fits s m args below meth c H locs 0 0 (MQ below (zQW D A (some (.int res.1)) res.2) args s 0 0 A) (F0 m 41 ls []) := by
  have hx := X.1.1
  have hb := X.1.2.1
  have hown := X.1.2.2.2.1
  have hts := X.1.2.2.2.2
  have hN := X.2.2.2.2.2.2.1
  have hDW := X.2.2.2.2.2.2.2.1
  have hAO := X.2.2.2.2.2.2.2.2.1
  have hNC := X.2.2.2.2.2.2.2.2.2.1
  intro n
  induction n with
  | zero =>
    intro h a0 i2 a3 i4 i5 i6 H locs ls hf hw hl
    cases hf
  | succ n ih =>
    intro h a0 i2 a3 i4 i5 i6 H locs ls hf hw hl
    unfold f_X0_fits_41 at hf
    refine lv_iload hx hb dX0_fits_41 (lv_at hl 5 rfl) ?_
    refine lv_bipush (v := (16 : Int32)) hx hb dX0_fits_43 (by decide) ?_
    refine lv_aload_n hx hb dX0_fits_45 rfl (lv_at hl 2 rfl) ?_
    refine zw_getI X hw fs_X6_1 q548 rfl hf dX0_fits_46 (fun v1 hf => ?_)
    refine lv_isub hx hb dX0_fits_49 ?_
    refine zw_icmp_gt (tgt := 93) hx hb hf dX0_fits_50 (by decide) (fun hf => ?_) (fun hf => ?_)
    · refine lv_iload_n hx hb dX0_fits_93 rfl (lv_at hl 1 rfl) ?_
      refine zw_if_ne (tgt := 102) hx hb hf dX0_fits_94 (by decide) (fun hf => ?_) (fun hf => ?_)
      · refine lv_iload hx hb dX0_fits_102 (lv_at hl 4 rfl) ?_
        exact zw_iret X hw hf (Nat.le_of_ble_eq_true rfl) (Nat.le_of_ble_eq_true rfl) dX0_fits_104
      · refine lv_iload hx hb dX0_fits_97 (lv_at hl 3 rfl) ?_
        refine lv_goto (tgt := 104) hx hb dX0_fits_99 (by decide) ?_
        exact zw_iret X hw hf (Nat.le_of_ble_eq_true rfl) (Nat.le_of_ble_eq_true rfl) dX0_fits_104
    · refine lv_aload_n hx hb dX0_fits_53 rfl (lv_at hl 0 rfl) ?_
      refine lv_aload_n hx hb dX0_fits_54 rfl (lv_at hl 2 rfl) ?_
      refine lv_iload hx hb dX0_fits_55 (lv_at hl 5 rfl) ?_
      refine zw_kC hf (fun fs hfs hf => ?_)
      refine zw_goI (rest := []) hw hf (fun r hr => va_runV (C := RX0) (As := [.ref a3, .int i6]) (rest := []) X.1 (mt_X0_wrongAt l D A h a0 a3 i6 r hr) (cwV 2 hts (lw_V q883 q885 qs23 q81 q886) rfl rfl rfl ⟨rfl, cd_X0_wrongAt⟩ ⟨Nat.le_of_ble_eq_true rfl, Nat.le_of_ble_eq_true rfl⟩) (zpreV (ci := 0) X hw hfs rfl _) rfl rfl hl.1 rfl (lv_room (Nat.le_of_ble_eq_true rfl)) dX0_fits_57 ⟨Nat.le_of_ble_eq_true rfl, Nat.le_of_ble_eq_true rfl⟩) (fun r2 H locs hf hw => ?_)
      refine lv_istore (lv' := [(7, .int r2.1), (0, .ref a0), (2, .int i2), (3, .ref a3), (4, .int i4), (5, .int i5), (6, .int i6)]) hx hb dX0_fits_60 hl (by decide) rfl (fun ls hl => ?_)
      refine lv_iload hx hb dX0_fits_62 (lv_at hl 0 rfl) ?_
      refine lv_iload hx hb dX0_fits_64 (lv_at hl 5 rfl) ?_
      refine zw_icmp_ge (tgt := 74) hx hb hf dX0_fits_66 (by decide) (fun hf => ?_) (fun hf => ?_)
      · refine lv_iload hx hb dX0_fits_74 (lv_at hl 4 rfl) ?_
        exact k_X0_fits_76 X _ (f_X0_fits_41 n) ih r2.2 a0 i2 a3 i5 i6 r2.1 i4 _ _ _ hf hw (lv_sub hl [1, 2, 3, 5, 6, 0] rfl)
      · refine lv_iload hx hb dX0_fits_69 (lv_at hl 6 rfl) ?_
        refine lv_goto (tgt := 76) hx hb dX0_fits_71 (by decide) ?_
        exact k_X0_fits_76 X _ (f_X0_fits_41 n) ih r2.2 a0 i2 a3 i5 i6 r2.1 i6 _ _ _ hf hw (lv_sub hl [1, 2, 3, 5, 6, 0] rfl)
set_option maxHeartbeats 4000000 in
theorem mt_X0_fits (l : Launch) (D : va_G) (A : Nat → Prop) (h : zT) (a0 : Nat) (i1 : Int32) (i2 : Int32) (res : Int32 × zT) (hf : f_X0_fits h a0 i1 i2 = some res) : Met l yX0_fits (ws_ yX0_fits cX0_fits 8 (Option.some FieldType.int)) rm_X0_fits (zPW D A (zEv A) h [.ref a0, .int i1, .int i2]) (zQW D A (some (.int res.1)) res.2) 0 0 A := by
  refine zmt (zEv_ok A) (by decide) (Nat.le_of_ble_eq_true rfl) ?_
  intro p e s m below meth c ls hmn X hw hl
  have hl : lv_has ls 8 [(0, .ref a0), (1, .int i1), (2, .int i2)] := hl
  have hx := X.1.1
  have hb := X.1.2.1
  have hown := X.1.2.2.2.1
  have hts := X.1.2.2.2.2
  have hN := X.2.2.2.2.2.2.1
  have hDW := X.2.2.2.2.2.2.2.1
  have hAO := X.2.2.2.2.2.2.2.2.1
  have hNC := X.2.2.2.2.2.2.2.2.2.1
  unfold f_X0_fits at hf
  refine lv_aload_n hx hb dX0_fits_0 rfl (lv_at hl 0 rfl) ?_
  refine lv_iload_n hx hb dX0_fits_1 rfl (lv_at hl 1 rfl) ?_
  refine zw_kC hf (fun fs hfs hf => ?_)
  refine zw_goZ (rest := []) hw hf (fun r hr => va_runV (C := RX0) (As := [.int i1]) (rest := []) X.1 (mt_X0_isRubbing l D A h a0 i1 r hr) (cwV 1 hts (lw_V q629 q631 qs19 q81 q632) rfl rfl rfl ⟨rfl, cd_X0_isRubbing⟩ ⟨Nat.le_of_ble_eq_true rfl, Nat.le_of_ble_eq_true rfl⟩) (zpreV (ci := 0) X hw hfs rfl _) rfl rfl hl.1 rfl (lv_room (Nat.le_of_ble_eq_true rfl)) dX0_fits_2 ⟨Nat.le_of_ble_eq_true rfl, Nat.le_of_ble_eq_true rfl⟩) (fun r1 H locs hf hw => ?_)
  refine zw_if_eq (tgt := 17) hx hb hf dX0_fits_5 (by decide) (fun hf => ?_) (fun hf => ?_)
  · refine lv_ldc (v := (-1000000001 : Int32)) hx hb hown (hts _ q342) dX0_fits_17 ?_
    exact zw_iret X hw hf (Nat.le_of_ble_eq_true rfl) (Nat.le_of_ble_eq_true rfl) dX0_fits_19
  · refine lv_iload_n hx hb dX0_fits_8 rfl (lv_at hl 2 rfl) ?_
    refine lv_iconst (v := (0 : Int32)) hx hb dX0_fits_9 (by decide) ?_
    refine lv_iconst (v := (1 : Int32)) hx hb dX0_fits_10 (by decide) ?_
    refine zw_goZ (rest := []) hw hf (fun r hr => va_runS (As := [.int i2, .int (0 : Int32), .int (1 : Int32)]) (rest := []) X.1 (mt_X0_isIn l D A r1.2 i2 (0 : Int32) (1 : Int32) r hr) (va_cwS 3 hts (lw_S q339 q340 q81 q341) rfl rfl rfl cd_X0_isIn ⟨Nat.le_of_ble_eq_true rfl, Nat.le_of_ble_eq_true rfl⟩) (zpreS X hw _) rfl rfl hl.1 rfl (lv_room (Nat.le_of_ble_eq_true rfl)) dX0_fits_11 ⟨Nat.le_of_ble_eq_true rfl, Nat.le_of_ble_eq_true rfl⟩) (fun r2 H locs hf hw => ?_)
    refine zw_if_ne (tgt := 20) hx hb hf dX0_fits_14 (by decide) (fun hf => ?_) (fun hf => ?_)
    · refine lv_aload_n hx hb dX0_fits_20 rfl (lv_at hl 0 rfl) ?_
      refine zw_getR X hw fs_X0_0 q252 rfl hf dX0_fits_21 (fun v3 hf => ?_)
      refine zw_getRN X hw fs_X1_2 (hN _ nq131) rfl hf dX0_fits_24 (fun v4 hf => ?_)
      refine lv_iload_n hx hb dX0_fits_27 rfl (lv_at hl 1 rfl) ?_
      refine zw_aaloadR X hw hf dX0_fits_28 (fun v5 hf => ?_)
      refine lv_astore_n (lv' := [(3, .ref v5), (0, .ref a0), (1, .int i1), (2, .int i2)]) hx hb dX0_fits_29 rfl hl (by decide) rfl (fun ls hl => ?_)
      refine lv_iconst (v := (0 : Int32)) hx hb dX0_fits_30 (by decide) ?_
      refine lv_istore (lv' := [(4, .int (0 : Int32)), (3, .ref v5), (0, .ref a0), (1, .int i1), (2, .int i2)]) hx hb dX0_fits_31 hl (by decide) rfl (fun ls hl => ?_)
      refine lv_ldcw (v := (99999 : Int32)) hx hb hown (hts _ q891) dX0_fits_33 ?_
      refine lv_istore (lv' := [(5, .int (99999 : Int32)), (4, .int (0 : Int32)), (3, .ref v5), (0, .ref a0), (1, .int i1), (2, .int i2)]) hx hb dX0_fits_36 hl (by decide) rfl (fun ls hl => ?_)
      refine lv_iconst (v := (0 : Int32)) hx hb dX0_fits_38 (by decide) ?_
      refine lv_istore (lv' := [(6, .int (0 : Int32)), (5, .int (99999 : Int32)), (4, .int (0 : Int32)), (3, .ref v5), (0, .ref a0), (1, .int i1), (2, .int i2)]) hx hb dX0_fits_39 hl (by decide) rfl (fun ls hl => ?_)
      exact k_X0_fits_41 X _ 4096 r2.2 a0 i2 v5 (0 : Int32) (99999 : Int32) (0 : Int32) _ _ _ hf hw (lv_sub hl [4, 6, 3, 2, 1, 0] rfl)
    · refine lv_ldc (v := (-1000000001 : Int32)) hx hb hown (hts _ q342) dX0_fits_17 ?_
      exact zw_iret X hw hf (Nat.le_of_ble_eq_true rfl) (Nat.le_of_ble_eq_true rfl) dX0_fits_19
set_option maxHeartbeats 4000000 in
theorem mt_X0_areTwo (l : Launch) (D : va_G) (A : Nat → Prop) (h : zT) (a0 : Nat) (i1 : Int32) (i2 : Int32) (res : Int32 × zT) (hf : f_X0_areTwo h a0 i1 i2 = some res) : Met l yX0_areTwo (ws_ yX0_areTwo cX0_areTwo 3 (Option.some FieldType.boolean)) rm_X0_areTwo (zPW D A (zEv A) h [.ref a0, .int i1, .int i2]) (zQW D A (some (.int res.1)) res.2) 0 0 A := by
  refine zmt (zEv_ok A) (by decide) (Nat.le_of_ble_eq_true rfl) ?_
  intro p e s m below meth c ls hmn X hw hl
  have hl : lv_has ls 3 [(0, .ref a0), (1, .int i1), (2, .int i2)] := hl
  have hx := X.1.1
  have hb := X.1.2.1
  have hown := X.1.2.2.2.1
  have hts := X.1.2.2.2.2
  have hN := X.2.2.2.2.2.2.1
  have hDW := X.2.2.2.2.2.2.2.1
  have hAO := X.2.2.2.2.2.2.2.2.1
  have hNC := X.2.2.2.2.2.2.2.2.2.1
  unfold f_X0_areTwo at hf
  refine lv_aload_n hx hb dX0_areTwo_0 rfl (lv_at hl 0 rfl) ?_
  refine lv_iload_n hx hb dX0_areTwo_1 rfl (lv_at hl 1 rfl) ?_
  refine zw_kC hf (fun fs hfs hf => ?_)
  refine zw_goZ (rest := []) hw hf (fun r hr => va_runV (C := RX0) (As := [.int i1]) (rest := []) X.1 (mt_X0_isRubbing l D A h a0 i1 r hr) (cwV 1 hts (lw_V q629 q631 qs19 q81 q632) rfl rfl rfl ⟨rfl, cd_X0_isRubbing⟩ ⟨Nat.le_of_ble_eq_true rfl, Nat.le_of_ble_eq_true rfl⟩) (zpreV (ci := 0) X hw hfs rfl _) rfl rfl hl.1 rfl (lv_room (Nat.le_of_ble_eq_true rfl)) dX0_areTwo_2 ⟨Nat.le_of_ble_eq_true rfl, Nat.le_of_ble_eq_true rfl⟩) (fun r1 H locs hf hw => ?_)
  refine zw_if_eq (tgt := 25) hx hb hf dX0_areTwo_5 (by decide) (fun hf => ?_) (fun hf => ?_)
  · refine lv_iconst (v := (0 : Int32)) hx hb dX0_areTwo_25 (by decide) ?_
    exact zw_zret X hw hf (Nat.le_of_ble_eq_true rfl) (Nat.le_of_ble_eq_true rfl) dX0_areTwo_26
  · refine lv_aload_n hx hb dX0_areTwo_8 rfl (lv_at hl 0 rfl) ?_
    refine lv_iload_n hx hb dX0_areTwo_9 rfl (lv_at hl 2 rfl) ?_
    refine zw_kC hf (fun fs hfs hf => ?_)
    refine zw_goZ (rest := []) hw hf (fun r hr => va_runV (C := RX0) (As := [.int i2]) (rest := []) X.1 (mt_X0_isRubbing l D A r1.2 a0 i2 r hr) (cwV 1 hts (lw_V q629 q631 qs19 q81 q632) rfl rfl rfl ⟨rfl, cd_X0_isRubbing⟩ ⟨Nat.le_of_ble_eq_true rfl, Nat.le_of_ble_eq_true rfl⟩) (zpreV (ci := 0) X hw hfs rfl _) rfl rfl hl.1 rfl (lv_room (Nat.le_of_ble_eq_true rfl)) dX0_areTwo_10 ⟨Nat.le_of_ble_eq_true rfl, Nat.le_of_ble_eq_true rfl⟩) (fun r2 H locs hf hw => ?_)
    refine zw_if_eq (tgt := 25) hx hb hf dX0_areTwo_13 (by decide) (fun hf => ?_) (fun hf => ?_)
    · refine lv_iconst (v := (0 : Int32)) hx hb dX0_areTwo_25 (by decide) ?_
      exact zw_zret X hw hf (Nat.le_of_ble_eq_true rfl) (Nat.le_of_ble_eq_true rfl) dX0_areTwo_26
    · refine lv_iload_n hx hb dX0_areTwo_16 rfl (lv_at hl 1 rfl) ?_
      refine lv_iload_n hx hb dX0_areTwo_17 rfl (lv_at hl 2 rfl) ?_
      refine zw_icmp_eq (tgt := 25) hx hb hf dX0_areTwo_18 (by decide) (fun hf => ?_) (fun hf => ?_)
      · refine lv_iconst (v := (0 : Int32)) hx hb dX0_areTwo_25 (by decide) ?_
        exact zw_zret X hw hf (Nat.le_of_ble_eq_true rfl) (Nat.le_of_ble_eq_true rfl) dX0_areTwo_26
      · refine lv_iconst (v := (1 : Int32)) hx hb dX0_areTwo_21 (by decide) ?_
        refine lv_goto (tgt := 26) hx hb dX0_areTwo_22 (by decide) ?_
        exact zw_zret X hw hf (Nat.le_of_ble_eq_true rfl) (Nat.le_of_ble_eq_true rfl) dX0_areTwo_26
set_option maxHeartbeats 4000000 in
theorem k_X0_alikeBy_5 {p : Program} {l : Launch} {e : Env} {s : State} {m : MethodId} {args : Array Value} {below : List Frame} {meth : Method} {c : Code} {D : va_G} {A : Nat → Prop} (X : zCx p s m args meth c D A (zEv A) cX0_alikeBy 5 RX0 (Option.some FieldType.int)) (res : Int32 × zT) : ∀ (n : Nat), ∀ (h : zT) (a0 : Nat) (a1 : Nat) (i2 : Int32) (i3 : Int32) (i4 : Int32) (H : Heap) (locs : List Loc) (ls : Array Slot), f_X0_alikeBy_5 n h a0 a1 i2 i3 i4 = some res → zWh D A s H h locs → lv_has ls 5 [(0, .ref a0), (1, .ref a1), (2, .int i2), (3, .int i3), (4, .int i4)] → W p l e rm_X0_alikeBy s m args below meth c H locs 0 0 (MQ below (zQW D A (some (.int res.1)) res.2) args s 0 0 A) (F0 m 5 ls []) := by
  have hx := X.1.1
  have hb := X.1.2.1
  have hown := X.1.2.2.2.1
  have hts := X.1.2.2.2.2
  have hN := X.2.2.2.2.2.2.1
  have hDW := X.2.2.2.2.2.2.2.1
  have hAO := X.2.2.2.2.2.2.2.2.1
  have hNC := X.2.2.2.2.2.2.2.2.2.1
  intro n
  induction n with
  | zero =>
    intro h a0 a1 i2 i3 i4 H locs ls hf hw hl
    cases hf
  | succ n ih =>
    intro h a0 a1 i2 i3 i4 H locs ls hf hw hl
    unfold f_X0_alikeBy_5 at hf
    refine lv_iload hx hb dX0_alikeBy_5 (lv_at hl 4 rfl) ?_
    refine lv_aload_n hx hb dX0_alikeBy_7 rfl (lv_at hl 0 rfl) ?_
    refine zw_getI X hw fs_X6_1 q548 rfl hf dX0_alikeBy_8 (fun v1 hf => ?_)
    refine zw_icmp_ge (tgt := 57) hx hb hf dX0_alikeBy_11 (by decide) (fun hf => ?_) (fun hf => ?_)
    · refine lv_iload_n hx hb dX0_alikeBy_57 rfl (lv_at hl 3 rfl) ?_
      exact zw_iret X hw hf (Nat.le_of_ble_eq_true rfl) (Nat.le_of_ble_eq_true rfl) dX0_alikeBy_58
    · refine lv_iload hx hb dX0_alikeBy_14 (lv_at hl 4 rfl) ?_
      refine lv_iload_n hx hb dX0_alikeBy_16 rfl (lv_at hl 2 rfl) ?_
      refine lv_isub hx hb dX0_alikeBy_17 ?_
      refine lv_aload_n hx hb dX0_alikeBy_18 rfl (lv_at hl 1 rfl) ?_
      refine zw_getI X hw fs_X6_1 q548 rfl hf dX0_alikeBy_19 (fun v2 hf => ?_)
      refine zw_icmp_ge (tgt := 57) hx hb hf dX0_alikeBy_22 (by decide) (fun hf => ?_) (fun hf => ?_)
      · refine lv_iload_n hx hb dX0_alikeBy_57 rfl (lv_at hl 3 rfl) ?_
        exact zw_iret X hw hf (Nat.le_of_ble_eq_true rfl) (Nat.le_of_ble_eq_true rfl) dX0_alikeBy_58
      · refine lv_iload_n hx hb dX0_alikeBy_25 rfl (lv_at hl 3 rfl) ?_
        refine lv_aload_n hx hb dX0_alikeBy_26 rfl (lv_at hl 0 rfl) ?_
        refine lv_iload hx hb dX0_alikeBy_27 (lv_at hl 4 rfl) ?_
        refine vd_X0_323 (rest := [.int i3]) h a0 i4 X hw hl.1 hf (Nat.le_of_ble_eq_true rfl) (Nat.le_of_ble_eq_true rfl) (Nat.le_of_ble_eq_true rfl) rfl dX0_alikeBy_29 ⟨Nat.le_of_ble_eq_true rfl, Nat.le_of_ble_eq_true rfl⟩ (fun r3 H locs hf hw => ?_)
        refine lv_aload_n hx hb dX0_alikeBy_32 rfl (lv_at hl 1 rfl) ?_
        refine lv_iload hx hb dX0_alikeBy_33 (lv_at hl 4 rfl) ?_
        refine lv_iload_n hx hb dX0_alikeBy_35 rfl (lv_at hl 2 rfl) ?_
        refine lv_isub hx hb dX0_alikeBy_36 ?_
        refine vd_X0_323 (rest := [.int r3.1, .int i3]) r3.2 a1 (i4 - i2) X hw hl.1 hf (Nat.le_of_ble_eq_true rfl) (Nat.le_of_ble_eq_true rfl) (Nat.le_of_ble_eq_true rfl) rfl dX0_alikeBy_37 ⟨Nat.le_of_ble_eq_true rfl, Nat.le_of_ble_eq_true rfl⟩ (fun r4 H locs hf hw => ?_)
        refine zw_icmp_ne (tgt := 47) hx hb hf dX0_alikeBy_40 (by decide) (fun hf => ?_) (fun hf => ?_)
        · refine lv_bipush (v := (-2 : Int32)) hx hb dX0_alikeBy_47 (by decide) ?_
          refine lv_iadd hx hb dX0_alikeBy_49 ?_
          refine zw_nmI hf (fun v5 hf => ?_)
          refine lv_istore_n (lv' := [(3, .int v5), (0, .ref a0), (1, .ref a1), (2, .int i2), (4, .int i4)]) hx hb dX0_alikeBy_50 rfl hl (by decide) rfl (fun ls hl => ?_)
          refine zw_nmS hf (fun v6 ev6 hf => ?_)
          refine lv_iinc (k := 4) (v := v6) (lv' := [(4, .int v6), (3, .int v5), (0, .ref a0), (1, .ref a1), (2, .int i2)]) hx hb dX0_alikeBy_51 hl rfl (by rw [ev6]; rfl) (by decide) rfl (fun ls hl => ?_)
          refine lv_goto (tgt := 5) hx hb dX0_alikeBy_54 (by decide) ?_
          exact ih r4.2 a0 a1 i2 v5 v6 _ _ _ hf hw (lv_sub hl [2, 3, 4, 1, 0] rfl)
        · refine lv_iconst (v := (1 : Int32)) hx hb dX0_alikeBy_43 (by decide) ?_
          refine lv_goto (tgt := 49) hx hb dX0_alikeBy_44 (by decide) ?_
          refine lv_iadd hx hb dX0_alikeBy_49 ?_
          refine zw_nmI hf (fun v7 hf => ?_)
          refine lv_istore_n (lv' := [(3, .int v7), (0, .ref a0), (1, .ref a1), (2, .int i2), (4, .int i4)]) hx hb dX0_alikeBy_50 rfl hl (by decide) rfl (fun ls hl => ?_)
          refine zw_nmS hf (fun v8 ev8 hf => ?_)
          refine lv_iinc (k := 4) (v := v8) (lv' := [(4, .int v8), (3, .int v7), (0, .ref a0), (1, .ref a1), (2, .int i2)]) hx hb dX0_alikeBy_51 hl rfl (by rw [ev8]; rfl) (by decide) rfl (fun ls hl => ?_)
          refine lv_goto (tgt := 5) hx hb dX0_alikeBy_54 (by decide) ?_
          exact ih r4.2 a0 a1 i2 v7 v8 _ _ _ hf hw (lv_sub hl [2, 3, 4, 1, 0] rfl)
set_option maxHeartbeats 4000000 in
theorem mt_X0_alikeBy (l : Launch) (D : va_G) (A : Nat → Prop) (h : zT) (a0 : Nat) (a1 : Nat) (i2 : Int32) (res : Int32 × zT) (hf : f_X0_alikeBy h a0 a1 i2 = some res) : Met l yX0_alikeBy (ws_ yX0_alikeBy cX0_alikeBy 5 (Option.some FieldType.int)) rm_X0_alikeBy (zPW D A (zEv A) h [.ref a0, .ref a1, .int i2]) (zQW D A (some (.int res.1)) res.2) 0 0 A := by
  refine zmt (zEv_ok A) (by decide) (Nat.le_of_ble_eq_true rfl) ?_
  intro p e s m below meth c ls hmn X hw hl
  have hl : lv_has ls 5 [(0, .ref a0), (1, .ref a1), (2, .int i2)] := hl
  have hx := X.1.1
  have hb := X.1.2.1
  have hown := X.1.2.2.2.1
  have hts := X.1.2.2.2.2
  have hN := X.2.2.2.2.2.2.1
  have hDW := X.2.2.2.2.2.2.2.1
  have hAO := X.2.2.2.2.2.2.2.2.1
  have hNC := X.2.2.2.2.2.2.2.2.2.1
  unfold f_X0_alikeBy at hf
  refine lv_iconst (v := (0 : Int32)) hx hb dX0_alikeBy_0 (by decide) ?_
  refine lv_istore_n (lv' := [(3, .int (0 : Int32)), (0, .ref a0), (1, .ref a1), (2, .int i2)]) hx hb dX0_alikeBy_1 rfl hl (by decide) rfl (fun ls hl => ?_)
  refine lv_iload_n hx hb dX0_alikeBy_2 rfl (lv_at hl 3 rfl) ?_
  refine lv_istore (lv' := [(4, .int i2), (3, .int (0 : Int32)), (0, .ref a0), (1, .ref a1), (2, .int i2)]) hx hb dX0_alikeBy_3 hl (by decide) rfl (fun ls hl => ?_)
  exact k_X0_alikeBy_5 X _ 4096 h a0 a1 i2 (0 : Int32) i2 _ _ _ hf hw (lv_sub hl [2, 3, 4, 1, 0] rfl)
set_option maxHeartbeats 4000000 in
theorem k_X0_join_97 {p : Program} {l : Launch} {e : Env} {s : State} {m : MethodId} {args : Array Value} {below : List Frame} {meth : Method} {c : Code} {D : va_G} {A : Nat → Prop} (X : zCx p s m args meth c D A (zEv A) cX0_join 9 RX0 (Option.some FieldType.int)) (res : Int32 × zT) (K55 : zT → Nat → Int32 → Int32 → Nat → Int32 → Int32 → Int32 → Option (Int32 × zT)) (hK55 : ∀ (h : zT) (a0 : Nat) (i2 : Int32) (i3 : Int32) (a4 : Nat) (i5 : Int32) (i6 : Int32) (i7 : Int32) (H : Heap) (locs : List Loc) (ls : Array Slot), K55 h a0 i2 i3 a4 i5 i6 i7 = some res → zWh D A s H h locs → lv_has ls 9 [(0, .ref a0), (2, .int i2), (3, .int i3), (4, .ref a4), (5, .int i5), (6, .int i6), (7, .int i7)] → W p l e rm_X0_join s m args below meth c H locs 0 0 (MQ below (zQW D A (some (.int res.1)) res.2) args s 0 0 A) (F0 m 55 ls [])) : ∀ (h : zT) (a0 : Nat) (i2 : Int32) (i3 : Int32) (a4 : Nat) (i6 : Int32) (i7 : Int32) (i8 : Int32) (s0 : Int32) (H : Heap) (locs : List Loc) (ls : Array Slot), f_X0_join_97 K55 h a0 i2 i3 a4 i6 i7 i8 s0 = some res → zWh D A s H h locs → lv_has ls 9 [(0, .ref a0), (2, .int i2), (3, .int i3), (4, .ref a4), (6, .int i6), (7, .int i7), (8, .int i8)] → W p l e rm_X0_join s m args below meth c H locs 0 0 (MQ below (zQW D A (some (.int res.1)) res.2) args s 0 0 A) (F0 m 97 ls [.int s0]) := by
  have hx := X.1.1
  have hb := X.1.2.1
  have hown := X.1.2.2.2.1
  have hts := X.1.2.2.2.2
  have hN := X.2.2.2.2.2.2.1
  have hDW := X.2.2.2.2.2.2.2.1
  have hAO := X.2.2.2.2.2.2.2.2.1
  have hNC := X.2.2.2.2.2.2.2.2.2.1
  intro h a0 i2 i3 a4 i6 i7 i8 s0 H locs ls hf hw hl
  unfold f_X0_join_97 at hf
  refine lv_istore (lv' := [(5, .int s0), (0, .ref a0), (2, .int i2), (3, .int i3), (4, .ref a4), (6, .int i6), (7, .int i7), (8, .int i8)]) hx hb dX0_join_97 hl (by decide) rfl (fun ls hl => ?_)
  refine lv_iload hx hb dX0_join_99 (lv_at hl 5 rfl) ?_
  refine lv_iload hx hb dX0_join_101 (lv_at hl 7 rfl) ?_
  refine va_mmax (rest := []) hx hb (by rw [X.1.2.2.1]; exact hl.1.symm) hown (hts _ q702) (hts _ q703) (hts _ q96) (hts _ q704) (Nat.le_of_ble_eq_true rfl) (Nat.le_of_ble_eq_true rfl) (Nat.le_of_ble_eq_true rfl) (Nat.le_of_ble_eq_true rfl) dX0_join_103 ?_
  refine zw_nmI hf (fun v1 hf => ?_)
  refine lv_istore (lv' := [(6, .int v1), (5, .int s0), (0, .ref a0), (2, .int i2), (3, .int i3), (4, .ref a4), (7, .int i7), (8, .int i8)]) hx hb dX0_join_106 hl (by decide) rfl (fun ls hl => ?_)
  refine zw_nmS hf (fun v2 ev2 hf => ?_)
  refine lv_iinc (k := 6) (v := v2) (lv' := [(7, .int v2), (6, .int v1), (5, .int s0), (0, .ref a0), (2, .int i2), (3, .int i3), (4, .ref a4), (8, .int i8)]) hx hb dX0_join_108 hl rfl (by rw [ev2]; rfl) (by decide) rfl (fun ls hl => ?_)
  refine lv_goto (tgt := 55) hx hb dX0_join_111 (by decide) ?_
  exact hK55 h a0 i2 i3 a4 s0 v1 v2 _ _ _ hf hw (lv_sub hl [3, 4, 5, 6, 2, 1, 0] rfl)
set_option maxHeartbeats 4000000 in
theorem k_X0_join_55 {p : Program} {l : Launch} {e : Env} {s : State} {m : MethodId} {args : Array Value} {below : List Frame} {meth : Method} {c : Code} {D : va_G} {A : Nat → Prop} (X : zCx p s m args meth c D A (zEv A) cX0_join 9 RX0 (Option.some FieldType.int)) (res : Int32 × zT) : ∀ (n : Nat), ∀ (h : zT) (a0 : Nat) (i2 : Int32) (i3 : Int32) (a4 : Nat) (i5 : Int32) (i6 : Int32) (i7 : Int32) (H : Heap) (locs : List Loc) (ls : Array Slot), f_X0_join_55 n h a0 i2 i3 a4 i5 i6 i7 = some res → zWh D A s H h locs → lv_has ls 9 [(0, .ref a0), (2, .int i2), (3, .int i3), (4, .ref a4), (5, .int i5), (6, .int i6), (7, .int i7)] → W p l e rm_X0_join s m args below meth c H locs 0 0 (MQ below (zQW D A (some (.int res.1)) res.2) args s 0 0 A) (F0 m 55 ls []) := by
  have hx := X.1.1
  have hb := X.1.2.1
  have hown := X.1.2.2.2.1
  have hts := X.1.2.2.2.2
  have hN := X.2.2.2.2.2.2.1
  have hDW := X.2.2.2.2.2.2.2.1
  have hAO := X.2.2.2.2.2.2.2.2.1
  have hNC := X.2.2.2.2.2.2.2.2.2.1
  intro n
  induction n with
  | zero =>
    intro h a0 i2 i3 a4 i5 i6 i7 H locs ls hf hw hl
    cases hf
  | succ n ih =>
    intro h a0 i2 i3 a4 i5 i6 i7 H locs ls hf hw hl
    unfold f_X0_join_55 at hf
    refine lv_iload hx hb dX0_join_55 (lv_at hl 6 rfl) ?_
    refine lv_aload hx hb dX0_join_57 (lv_at hl 3 rfl) ?_
    refine zw_getI X hw fs_X6_1 q548 rfl hf dX0_join_59 (fun v1 hf => ?_)
    refine zw_icmp_ge (tgt := 114) hx hb hf dX0_join_62 (by decide) (fun hf => ?_) (fun hf => ?_)
    · refine lv_iload_n hx hb dX0_join_114 rfl (lv_at hl 2 rfl) ?_
      refine zw_if_ne (tgt := 123) hx hb hf dX0_join_115 (by decide) (fun hf => ?_) (fun hf => ?_)
      · refine lv_iload hx hb dX0_join_123 (lv_at hl 5 rfl) ?_
        exact zw_iret X hw hf (Nat.le_of_ble_eq_true rfl) (Nat.le_of_ble_eq_true rfl) dX0_join_125
      · refine lv_iload hx hb dX0_join_118 (lv_at hl 4 rfl) ?_
        refine lv_goto (tgt := 125) hx hb dX0_join_120 (by decide) ?_
        exact zw_iret X hw hf (Nat.le_of_ble_eq_true rfl) (Nat.le_of_ble_eq_true rfl) dX0_join_125
    · refine lv_aload hx hb dX0_join_65 (lv_at hl 3 rfl) ?_
      refine lv_aload_n hx hb dX0_join_67 rfl (lv_at hl 0 rfl) ?_
      refine zw_getR X hw fs_X0_0 q252 rfl hf dX0_join_68 (fun v2 hf => ?_)
      refine zw_getRN X hw fs_X1_2 (hN _ nq131) rfl hf dX0_join_71 (fun v3 hf => ?_)
      refine lv_iload_n hx hb dX0_join_74 rfl (lv_at hl 1 rfl) ?_
      refine zw_aaloadR X hw hf dX0_join_75 (fun v4 hf => ?_)
      refine lv_iload hx hb dX0_join_76 (lv_at hl 6 rfl) ?_
      refine zw_goI (rest := []) hw hf (fun r hr => va_runS (As := [.ref a4, .ref v4, .int i7]) (rest := []) X.1 (mt_X0_alikeBy l D A h a4 v4 i7 r hr) (va_cwS 3 hts (lw_S q900 q901 q81 q902) rfl rfl rfl cd_X0_alikeBy ⟨Nat.le_of_ble_eq_true rfl, Nat.le_of_ble_eq_true rfl⟩) (zpreS X hw _) rfl rfl hl.1 rfl (lv_room (Nat.le_of_ble_eq_true rfl)) dX0_join_78 ⟨Nat.le_of_ble_eq_true rfl, Nat.le_of_ble_eq_true rfl⟩) (fun r5 H locs hf hw => ?_)
      refine lv_istore (lv' := [(8, .int r5.1), (0, .ref a0), (2, .int i2), (3, .int i3), (4, .ref a4), (5, .int i5), (6, .int i6), (7, .int i7)]) hx hb dX0_join_81 hl (by decide) rfl (fun ls hl => ?_)
      refine lv_iload hx hb dX0_join_83 (lv_at hl 0 rfl) ?_
      refine lv_iload hx hb dX0_join_85 (lv_at hl 6 rfl) ?_
      refine zw_icmp_le (tgt := 95) hx hb hf dX0_join_87 (by decide) (fun hf => ?_) (fun hf => ?_)
      · refine lv_iload hx hb dX0_join_95 (lv_at hl 5 rfl) ?_
        exact k_X0_join_97 X _ (f_X0_join_55 n) ih r5.2 a0 i2 i3 a4 i6 i7 r5.1 i5 _ _ _ hf hw (lv_sub hl [1, 2, 3, 4, 6, 7, 0] rfl)
      · refine lv_iload hx hb dX0_join_90 (lv_at hl 7 rfl) ?_
        refine lv_goto (tgt := 97) hx hb dX0_join_92 (by decide) ?_
        exact k_X0_join_97 X _ (f_X0_join_55 n) ih r5.2 a0 i2 i3 a4 i6 i7 r5.1 i7 _ _ _ hf hw (lv_sub hl [1, 2, 3, 4, 6, 7, 0] rfl)
set_option maxHeartbeats 4000000 in
theorem mt_X0_join (l : Launch) (D : va_G) (A : Nat → Prop) (h : zT) (a0 : Nat) (i1 : Int32) (i2 : Int32) (i3 : Int32) (res : Int32 × zT) (hf : f_X0_join h a0 i1 i2 i3 = some res) : Met l yX0_join (ws_ yX0_join cX0_join 9 (Option.some FieldType.int)) rm_X0_join (zPW D A (zEv A) h [.ref a0, .int i1, .int i2, .int i3]) (zQW D A (some (.int res.1)) res.2) 0 0 A := by
  refine zmt (zEv_ok A) (by decide) (Nat.le_of_ble_eq_true rfl) ?_
  intro p e s m below meth c ls hmn X hw hl
  have hl : lv_has ls 9 [(0, .ref a0), (1, .int i1), (2, .int i2), (3, .int i3)] := hl
  have hx := X.1.1
  have hb := X.1.2.1
  have hown := X.1.2.2.2.1
  have hts := X.1.2.2.2.2
  have hN := X.2.2.2.2.2.2.1
  have hDW := X.2.2.2.2.2.2.2.1
  have hAO := X.2.2.2.2.2.2.2.2.1
  have hNC := X.2.2.2.2.2.2.2.2.2.1
  unfold f_X0_join at hf
  refine lv_aload_n hx hb dX0_join_0 rfl (lv_at hl 0 rfl) ?_
  refine lv_iload_n hx hb dX0_join_1 rfl (lv_at hl 1 rfl) ?_
  refine lv_iload_n hx hb dX0_join_2 rfl (lv_at hl 2 rfl) ?_
  refine zw_kC hf (fun fs hfs hf => ?_)
  refine zw_goZ (rest := []) hw hf (fun r hr => va_runV (C := RX0) (As := [.int i1, .int i2]) (rest := []) X.1 (mt_X0_areTwo l D A h a0 i1 i2 r hr) (cwV 2 hts (lw_V q896 q898 qs24 q81 q899) rfl rfl rfl ⟨rfl, cd_X0_areTwo⟩ ⟨Nat.le_of_ble_eq_true rfl, Nat.le_of_ble_eq_true rfl⟩) (zpreV (ci := 0) X hw hfs rfl _) rfl rfl hl.1 rfl (lv_room (Nat.le_of_ble_eq_true rfl)) dX0_join_3 ⟨Nat.le_of_ble_eq_true rfl, Nat.le_of_ble_eq_true rfl⟩) (fun r1 H locs hf hw => ?_)
  refine zw_if_eq (tgt := 18) hx hb hf dX0_join_6 (by decide) (fun hf => ?_) (fun hf => ?_)
  · refine lv_ldc (v := (-1000000001 : Int32)) hx hb hown (hts _ q342) dX0_join_18 ?_
    exact zw_iret X hw hf (Nat.le_of_ble_eq_true rfl) (Nat.le_of_ble_eq_true rfl) dX0_join_20
  · refine lv_iload_n hx hb dX0_join_9 rfl (lv_at hl 3 rfl) ?_
    refine lv_iconst (v := (0 : Int32)) hx hb dX0_join_10 (by decide) ?_
    refine lv_iconst (v := (1 : Int32)) hx hb dX0_join_11 (by decide) ?_
    refine zw_goZ (rest := []) hw hf (fun r hr => va_runS (As := [.int i3, .int (0 : Int32), .int (1 : Int32)]) (rest := []) X.1 (mt_X0_isIn l D A r1.2 i3 (0 : Int32) (1 : Int32) r hr) (va_cwS 3 hts (lw_S q339 q340 q81 q341) rfl rfl rfl cd_X0_isIn ⟨Nat.le_of_ble_eq_true rfl, Nat.le_of_ble_eq_true rfl⟩) (zpreS X hw _) rfl rfl hl.1 rfl (lv_room (Nat.le_of_ble_eq_true rfl)) dX0_join_12 ⟨Nat.le_of_ble_eq_true rfl, Nat.le_of_ble_eq_true rfl⟩) (fun r2 H locs hf hw => ?_)
    refine zw_if_ne (tgt := 21) hx hb hf dX0_join_15 (by decide) (fun hf => ?_) (fun hf => ?_)
    · refine lv_aload_n hx hb dX0_join_21 rfl (lv_at hl 0 rfl) ?_
      refine zw_getR X hw fs_X0_0 q252 rfl hf dX0_join_22 (fun v3 hf => ?_)
      refine zw_getRN X hw fs_X1_2 (hN _ nq131) rfl hf dX0_join_25 (fun v4 hf => ?_)
      refine lv_iload_n hx hb dX0_join_28 rfl (lv_at hl 1 rfl) ?_
      refine zw_aaloadR X hw hf dX0_join_29 (fun v5 hf => ?_)
      refine lv_astore (lv' := [(4, .ref v5), (0, .ref a0), (1, .int i1), (2, .int i2), (3, .int i3)]) hx hb dX0_join_30 hl (by decide) rfl (fun ls hl => ?_)
      refine lv_iconst (v := (0 : Int32)) hx hb dX0_join_32 (by decide) ?_
      refine lv_istore (lv' := [(5, .int (0 : Int32)), (4, .ref v5), (0, .ref a0), (1, .int i1), (2, .int i2), (3, .int i3)]) hx hb dX0_join_33 hl (by decide) rfl (fun ls hl => ?_)
      refine lv_aload hx hb dX0_join_35 (lv_at hl 1 rfl) ?_
      refine lv_aload_n hx hb dX0_join_37 rfl (lv_at hl 2 rfl) ?_
      refine zw_getR X hw fs_X0_0 q252 rfl hf dX0_join_38 (fun v6 hf => ?_)
      refine zw_getRN X hw fs_X1_2 (hN _ nq131) rfl hf dX0_join_41 (fun v7 hf => ?_)
      refine lv_iload_n hx hb dX0_join_44 rfl (lv_at hl 4 rfl) ?_
      refine zw_aaloadR X hw hf dX0_join_45 (fun v8 hf => ?_)
      refine lv_iconst (v := (0 : Int32)) hx hb dX0_join_46 (by decide) ?_
      refine zw_goI (rest := []) hw hf (fun r hr => va_runS (As := [.ref v5, .ref v8, .int (0 : Int32)]) (rest := []) X.1 (mt_X0_alikeBy l D A r2.2 v5 v8 (0 : Int32) r hr) (va_cwS 3 hts (lw_S q900 q901 q81 q902) rfl rfl rfl cd_X0_alikeBy ⟨Nat.le_of_ble_eq_true rfl, Nat.le_of_ble_eq_true rfl⟩) (zpreS X hw _) rfl rfl hl.1 rfl (lv_room (Nat.le_of_ble_eq_true rfl)) dX0_join_47 ⟨Nat.le_of_ble_eq_true rfl, Nat.le_of_ble_eq_true rfl⟩) (fun r9 H locs hf hw => ?_)
      refine lv_istore (lv' := [(6, .int r9.1), (5, .int (0 : Int32)), (4, .ref v5), (0, .ref a0), (1, .int i1), (2, .int i2), (3, .int i3)]) hx hb dX0_join_50 hl (by decide) rfl (fun ls hl => ?_)
      refine lv_iconst (v := (1 : Int32)) hx hb dX0_join_52 (by decide) ?_
      refine lv_istore (lv' := [(7, .int (1 : Int32)), (6, .int r9.1), (5, .int (0 : Int32)), (4, .ref v5), (0, .ref a0), (1, .int i1), (2, .int i2), (3, .int i3)]) hx hb dX0_join_53 hl (by decide) rfl (fun ls hl => ?_)
      exact k_X0_join_55 X _ 4096 r9.2 a0 i2 i3 v5 (0 : Int32) r9.1 (1 : Int32) _ _ _ hf hw (lv_sub hl [4, 6, 7, 3, 2, 1, 0] rfl)
    · refine lv_ldc (v := (-1000000001 : Int32)) hx hb hown (hts _ q342) dX0_join_18 ?_
      exact zw_iret X hw hf (Nat.le_of_ble_eq_true rfl) (Nat.le_of_ble_eq_true rfl) dX0_join_20
set_option maxHeartbeats 4000000 in
theorem k_X0_isClash_36 {p : Program} {l : Launch} {e : Env} {s : State} {m : MethodId} {args : Array Value} {below : List Frame} {meth : Method} {c : Code} {D : va_G} {A : Nat → Prop} (X : zCx p s m args meth c D A (zEv A) cX0_isClash 7 RX0 (Option.some FieldType.boolean)) (res : Int32 × zT) : ∀ (n : Nat), ∀ (h : zT) (a3 : Nat) (a4 : Nat) (i5 : Int32) (i6 : Int32) (H : Heap) (locs : List Loc) (ls : Array Slot), f_X0_isClash_36 n h a3 a4 i5 i6 = some res → zWh D A s H h locs → lv_has ls 7 [(3, .ref a3), (4, .ref a4), (5, .int i5), (6, .int i6)] → W p l e rm_X0_isClash s m args below meth c H locs 0 0 (MQ below (zQW D A (some (.int res.1)) res.2) args s 0 0 A) (F0 m 36 ls []) := by
  have hx := X.1.1
  have hb := X.1.2.1
  have hown := X.1.2.2.2.1
  have hts := X.1.2.2.2.2
  have hN := X.2.2.2.2.2.2.1
  have hDW := X.2.2.2.2.2.2.2.1
  have hAO := X.2.2.2.2.2.2.2.2.1
  have hNC := X.2.2.2.2.2.2.2.2.2.1
  intro n
  induction n with
  | zero =>
    intro h a3 a4 i5 i6 H locs ls hf hw hl
    cases hf
  | succ n ih =>
    intro h a3 a4 i5 i6 H locs ls hf hw hl
    unfold f_X0_isClash_36 at hf
    refine lv_iload hx hb dX0_isClash_36 (lv_at hl 3 rfl) ?_
    refine lv_bipush (v := (16 : Int32)) hx hb dX0_isClash_38 (by decide) ?_
    refine zw_icmp_ge (tgt := 89) hx hb hf dX0_isClash_40 (by decide) (fun hf => ?_) (fun hf => ?_)
    · refine lv_iconst (v := (0 : Int32)) hx hb dX0_isClash_89 (by decide) ?_
      exact zw_zret X hw hf (Nat.le_of_ble_eq_true rfl) (Nat.le_of_ble_eq_true rfl) dX0_isClash_90
    · refine lv_iload hx hb dX0_isClash_43 (lv_at hl 2 rfl) ?_
      refine lv_iload hx hb dX0_isClash_45 (lv_at hl 3 rfl) ?_
      refine lv_ishr hx hb dX0_isClash_47 ?_
      refine lv_iconst (v := (1 : Int32)) hx hb dX0_isClash_48 (by decide) ?_
      refine lv_iand hx hb dX0_isClash_49 ?_
      refine lv_iconst (v := (1 : Int32)) hx hb dX0_isClash_50 (by decide) ?_
      refine zw_icmp_ne (tgt := 83) hx hb hf dX0_isClash_51 (by decide) (fun hf => ?_) (fun hf => ?_)
      · refine zw_nmS hf (fun v1 ev1 hf => ?_)
        refine lv_iinc (k := 3) (v := v1) (lv' := [(6, .int v1), (3, .ref a3), (4, .ref a4), (5, .int i5)]) hx hb dX0_isClash_83 hl rfl (by rw [ev1]; rfl) (by decide) rfl (fun ls hl => ?_)
        refine lv_goto (tgt := 36) hx hb dX0_isClash_86 (by decide) ?_
        exact ih h a3 a4 i5 v1 _ _ _ hf hw (lv_sub hl [1, 2, 3, 0] rfl)
      · refine lv_aload_n hx hb dX0_isClash_54 rfl (lv_at hl 0 rfl) ?_
        refine lv_iload hx hb dX0_isClash_55 (lv_at hl 3 rfl) ?_
        refine lv_aload_n hx hb dX0_isClash_57 rfl (lv_at hl 0 rfl) ?_
        refine zw_getI X hw fs_X6_3 q553 rfl hf dX0_isClash_58 (fun v2 hf => ?_)
        refine lv_isub hx hb dX0_isClash_61 ?_
        refine vd_X0_323 (rest := []) h a3 (i6 - v2) X hw hl.1 hf (Nat.le_of_ble_eq_true rfl) (Nat.le_of_ble_eq_true rfl) (Nat.le_of_ble_eq_true rfl) rfl dX0_isClash_62 ⟨Nat.le_of_ble_eq_true rfl, Nat.le_of_ble_eq_true rfl⟩ (fun r3 H locs hf hw => ?_)
        refine lv_aload hx hb dX0_isClash_65 (lv_at hl 1 rfl) ?_
        refine lv_iload hx hb dX0_isClash_67 (lv_at hl 3 rfl) ?_
        refine lv_aload hx hb dX0_isClash_69 (lv_at hl 1 rfl) ?_
        refine zw_getI X hw fs_X6_3 q553 rfl hf dX0_isClash_71 (fun v4 hf => ?_)
        refine lv_isub hx hb dX0_isClash_74 ?_
        refine vd_X0_323 (rest := [.int r3.1]) r3.2 a4 (i6 - v4) X hw hl.1 hf (Nat.le_of_ble_eq_true rfl) (Nat.le_of_ble_eq_true rfl) (Nat.le_of_ble_eq_true rfl) rfl dX0_isClash_75 ⟨Nat.le_of_ble_eq_true rfl, Nat.le_of_ble_eq_true rfl⟩ (fun r5 H locs hf hw => ?_)
        refine zw_icmp_eq (tgt := 83) hx hb hf dX0_isClash_78 (by decide) (fun hf => ?_) (fun hf => ?_)
        · refine zw_nmS hf (fun v6 ev6 hf => ?_)
          refine lv_iinc (k := 3) (v := v6) (lv' := [(6, .int v6), (3, .ref a3), (4, .ref a4), (5, .int i5)]) hx hb dX0_isClash_83 hl rfl (by rw [ev6]; rfl) (by decide) rfl (fun ls hl => ?_)
          refine lv_goto (tgt := 36) hx hb dX0_isClash_86 (by decide) ?_
          exact ih r5.2 a3 a4 i5 v6 _ _ _ hf hw (lv_sub hl [1, 2, 3, 0] rfl)
        · refine lv_iconst (v := (1 : Int32)) hx hb dX0_isClash_81 (by decide) ?_
          exact zw_zret X hw hf (Nat.le_of_ble_eq_true rfl) (Nat.le_of_ble_eq_true rfl) dX0_isClash_82
set_option maxHeartbeats 4000000 in
theorem mt_X0_isClash (l : Launch) (D : va_G) (A : Nat → Prop) (h : zT) (a0 : Nat) (i1 : Int32) (i2 : Int32) (res : Int32 × zT) (hf : f_X0_isClash h a0 i1 i2 = some res) : Met l yX0_isClash (ws_ yX0_isClash cX0_isClash 7 (Option.some FieldType.boolean)) rm_X0_isClash (zPW D A (zEv A) h [.ref a0, .int i1, .int i2]) (zQW D A (some (.int res.1)) res.2) 0 0 A := by
  refine zmt (zEv_ok A) (by decide) (Nat.le_of_ble_eq_true rfl) ?_
  intro p e s m below meth c ls hmn X hw hl
  have hl : lv_has ls 7 [(0, .ref a0), (1, .int i1), (2, .int i2)] := hl
  have hx := X.1.1
  have hb := X.1.2.1
  have hown := X.1.2.2.2.1
  have hts := X.1.2.2.2.2
  have hN := X.2.2.2.2.2.2.1
  have hDW := X.2.2.2.2.2.2.2.1
  have hAO := X.2.2.2.2.2.2.2.2.1
  have hNC := X.2.2.2.2.2.2.2.2.2.1
  unfold f_X0_isClash at hf
  refine lv_aload_n hx hb dX0_isClash_0 rfl (lv_at hl 0 rfl) ?_
  refine zw_getR X hw fs_X0_0 q252 rfl hf dX0_isClash_1 (fun v1 hf => ?_)
  refine zw_getRN X hw fs_X1_2 (hN _ nq131) rfl hf dX0_isClash_4 (fun v2 hf => ?_)
  refine lv_iload_n hx hb dX0_isClash_7 rfl (lv_at hl 1 rfl) ?_
  refine zw_aaloadR X hw hf dX0_isClash_8 (fun v3 hf => ?_)
  refine lv_astore_n (lv' := [(3, .ref v3), (0, .ref a0), (1, .int i1), (2, .int i2)]) hx hb dX0_isClash_9 rfl hl (by decide) rfl (fun ls hl => ?_)
  refine lv_aload_n hx hb dX0_isClash_10 rfl (lv_at hl 1 rfl) ?_
  refine zw_getR X hw fs_X0_0 q252 rfl hf dX0_isClash_11 (fun v4 hf => ?_)
  refine zw_getRN X hw fs_X1_2 (hN _ nq131) rfl hf dX0_isClash_14 (fun v5 hf => ?_)
  refine lv_iload_n hx hb dX0_isClash_17 rfl (lv_at hl 3 rfl) ?_
  refine zw_aaloadR X hw hf dX0_isClash_18 (fun v6 hf => ?_)
  refine lv_astore (lv' := [(4, .ref v6), (3, .ref v3), (0, .ref a0), (1, .int i1), (2, .int i2)]) hx hb dX0_isClash_19 hl (by decide) rfl (fun ls hl => ?_)
  refine lv_aload_n hx hb dX0_isClash_21 rfl (lv_at hl 1 rfl) ?_
  refine vd_X0_310 (rest := []) h v3 X hw hl.1 hf (Nat.le_of_ble_eq_true rfl) (Nat.le_of_ble_eq_true rfl) (Nat.le_of_ble_eq_true rfl) rfl dX0_isClash_22 ⟨Nat.le_of_ble_eq_true rfl, Nat.le_of_ble_eq_true rfl⟩ (fun r7 H locs hf hw => ?_)
  refine lv_aload hx hb dX0_isClash_25 (lv_at hl 0 rfl) ?_
  refine vd_X0_310 (rest := [.int r7.1]) r7.2 v6 X hw hl.1 hf (Nat.le_of_ble_eq_true rfl) (Nat.le_of_ble_eq_true rfl) (Nat.le_of_ble_eq_true rfl) rfl dX0_isClash_27 ⟨Nat.le_of_ble_eq_true rfl, Nat.le_of_ble_eq_true rfl⟩ (fun r8 H locs hf hw => ?_)
  refine lv_iand hx hb dX0_isClash_30 ?_
  refine zw_nmI hf (fun v9 hf => ?_)
  refine lv_istore (lv' := [(5, .int v9), (4, .ref v6), (3, .ref v3), (0, .ref a0), (1, .int i1), (2, .int i2)]) hx hb dX0_isClash_31 hl (by decide) rfl (fun ls hl => ?_)
  refine lv_iconst (v := (0 : Int32)) hx hb dX0_isClash_33 (by decide) ?_
  refine lv_istore (lv' := [(6, .int (0 : Int32)), (5, .int v9), (4, .ref v6), (3, .ref v3), (0, .ref a0), (1, .int i1), (2, .int i2)]) hx hb dX0_isClash_34 hl (by decide) rfl (fun ls hl => ?_)
  exact k_X0_isClash_36 X _ 4096 r8.2 v3 v6 v9 (0 : Int32) _ _ _ hf hw (lv_sub hl [3, 2, 1, 0] rfl)
set_option maxHeartbeats 4000000 in
theorem mt_X0_clash (l : Launch) (D : va_G) (A : Nat → Prop) (h : zT) (a0 : Nat) (i1 : Int32) (i2 : Int32) (res : Int32 × zT) (hf : f_X0_clash h a0 i1 i2 = some res) : Met l yX0_clash (ws_ yX0_clash cX0_clash 3 (Option.some FieldType.int)) rm_X0_clash (zPW D A (zEv A) h [.ref a0, .int i1, .int i2]) (zQW D A (some (.int res.1)) res.2) 0 0 A := by
  refine zmt (zEv_ok A) (by decide) (Nat.le_of_ble_eq_true rfl) ?_
  intro p e s m below meth c ls hmn X hw hl
  have hl : lv_has ls 3 [(0, .ref a0), (1, .int i1), (2, .int i2)] := hl
  have hx := X.1.1
  have hb := X.1.2.1
  have hown := X.1.2.2.2.1
  have hts := X.1.2.2.2.2
  have hN := X.2.2.2.2.2.2.1
  have hDW := X.2.2.2.2.2.2.2.1
  have hAO := X.2.2.2.2.2.2.2.2.1
  have hNC := X.2.2.2.2.2.2.2.2.2.1
  unfold f_X0_clash at hf
  refine lv_aload_n hx hb dX0_clash_0 rfl (lv_at hl 0 rfl) ?_
  refine lv_iload_n hx hb dX0_clash_1 rfl (lv_at hl 1 rfl) ?_
  refine lv_iload_n hx hb dX0_clash_2 rfl (lv_at hl 2 rfl) ?_
  refine zw_kC hf (fun fs hfs hf => ?_)
  refine zw_goZ (rest := []) hw hf (fun r hr => va_runV (C := RX0) (As := [.int i1, .int i2]) (rest := []) X.1 (mt_X0_areTwo l D A h a0 i1 i2 r hr) (cwV 2 hts (lw_V q896 q898 qs24 q81 q899) rfl rfl rfl ⟨rfl, cd_X0_areTwo⟩ ⟨Nat.le_of_ble_eq_true rfl, Nat.le_of_ble_eq_true rfl⟩) (zpreV (ci := 0) X hw hfs rfl _) rfl rfl hl.1 rfl (lv_room (Nat.le_of_ble_eq_true rfl)) dX0_clash_3 ⟨Nat.le_of_ble_eq_true rfl, Nat.le_of_ble_eq_true rfl⟩) (fun r1 H locs hf hw => ?_)
  refine zw_if_eq (tgt := 26) hx hb hf dX0_clash_6 (by decide) (fun hf => ?_) (fun hf => ?_)
  · refine lv_ldc (v := (-1000000001 : Int32)) hx hb hown (hts _ q342) dX0_clash_26 ?_
    exact zw_iret X hw hf (Nat.le_of_ble_eq_true rfl) (Nat.le_of_ble_eq_true rfl) dX0_clash_28
  · refine lv_aload_n hx hb dX0_clash_9 rfl (lv_at hl 0 rfl) ?_
    refine lv_iload_n hx hb dX0_clash_10 rfl (lv_at hl 1 rfl) ?_
    refine lv_iload_n hx hb dX0_clash_11 rfl (lv_at hl 2 rfl) ?_
    refine zw_kC hf (fun fs hfs hf => ?_)
    refine zw_goZ (rest := []) hw hf (fun r hr => va_runV (C := RX0) (As := [.int i1, .int i2]) (rest := []) X.1 (mt_X0_isClash l D A r1.2 a0 i1 i2 r hr) (cwV 2 hts (lw_V q907 q909 qs25 q81 q910) rfl rfl rfl ⟨rfl, cd_X0_isClash⟩ ⟨Nat.le_of_ble_eq_true rfl, Nat.le_of_ble_eq_true rfl⟩) (zpreV (ci := 0) X hw hfs rfl _) rfl rfl hl.1 rfl (lv_room (Nat.le_of_ble_eq_true rfl)) dX0_clash_12 ⟨Nat.le_of_ble_eq_true rfl, Nat.le_of_ble_eq_true rfl⟩) (fun r2 H locs hf hw => ?_)
    refine zw_if_eq (tgt := 22) hx hb hf dX0_clash_15 (by decide) (fun hf => ?_) (fun hf => ?_)
    · refine lv_iconst (v := (0 : Int32)) hx hb dX0_clash_22 (by decide) ?_
      refine lv_goto (tgt := 28) hx hb dX0_clash_23 (by decide) ?_
      exact zw_iret X hw hf (Nat.le_of_ble_eq_true rfl) (Nat.le_of_ble_eq_true rfl) dX0_clash_28
    · refine lv_iconst (v := (1 : Int32)) hx hb dX0_clash_18 (by decide) ?_
      refine lv_goto (tgt := 28) hx hb dX0_clash_19 (by decide) ?_
      exact zw_iret X hw hf (Nat.le_of_ble_eq_true rfl) (Nat.le_of_ble_eq_true rfl) dX0_clash_28
set_option maxHeartbeats 4000000 in
theorem k_X0_findClashes_22 {p : Program} {l : Launch} {e : Env} {s : State} {m : MethodId} {args : Array Value} {below : List Frame} {meth : Method} {c : Code} {D : va_G} {A : Nat → Prop} (X : zCx p s m args meth c D A (zEv A) cX0_findClashes 3 RX0 (Option.none : Option FieldType)) (res : zT) (K2 : zT → Nat → Int32 → Option (zT)) (hK2 : ∀ (h : zT) (a0 : Nat) (i1 : Int32) (H : Heap) (locs : List Loc) (ls : Array Slot), K2 h a0 i1 = some res → zWh D A s H h locs → lv_has ls 3 [(0, .ref a0), (1, .int i1)] → W p l e rm_X0_findClashes s m args below meth c H locs 0 0 (MQ below (zQW D A none res) args s 0 0 A) (F0 m 2 ls [])) : ∀ (n : Nat), ∀ (h : zT) (a0 : Nat) (i1 : Int32) (i2 : Int32) (H : Heap) (locs : List Loc) (ls : Array Slot), f_X0_findClashes_22 K2 n h a0 i1 i2 = some res → zWh D A s H h locs → lv_has ls 3 [(0, .ref a0), (1, .int i1), (2, .int i2)] → W p l e rm_X0_findClashes s m args below meth c H locs 0 0 (MQ below (zQW D A none res) args s 0 0 A) (F0 m 22 ls []) := by
  have hx := X.1.1
  have hb := X.1.2.1
  have hown := X.1.2.2.2.1
  have hts := X.1.2.2.2.2
  have hN := X.2.2.2.2.2.2.1
  have hDW := X.2.2.2.2.2.2.2.1
  have hAO := X.2.2.2.2.2.2.2.2.1
  have hNC := X.2.2.2.2.2.2.2.2.2.1
  intro n
  induction n with
  | zero =>
    intro h a0 i1 i2 H locs ls hf hw hl
    cases hf
  | succ n ih =>
    intro h a0 i1 i2 H locs ls hf hw hl
    unfold f_X0_findClashes_22 at hf
    refine lv_iload_n hx hb dX0_findClashes_22 rfl (lv_at hl 2 rfl) ?_
    refine lv_iload_n hx hb dX0_findClashes_23 rfl (lv_at hl 1 rfl) ?_
    refine zw_icmp_ge (tgt := 66) hx hb hf dX0_findClashes_24 (by decide) (fun hf => ?_) (fun hf => ?_)
    · refine zw_nmS hf (fun v1 ev1 hf => ?_)
      refine lv_iinc (k := 1) (v := v1) (lv' := [(1, .int v1), (0, .ref a0), (2, .int i2)]) hx hb dX0_findClashes_66 hl rfl (by rw [ev1]; rfl) (by decide) rfl (fun ls hl => ?_)
      refine lv_goto (tgt := 2) hx hb dX0_findClashes_69 (by decide) ?_
      exact hK2 h a0 v1 _ _ _ hf hw (lv_sub hl [1, 0] rfl)
    · refine lv_aload_n hx hb dX0_findClashes_27 rfl (lv_at hl 0 rfl) ?_
      refine lv_iload_n hx hb dX0_findClashes_28 rfl (lv_at hl 1 rfl) ?_
      refine lv_iload_n hx hb dX0_findClashes_29 rfl (lv_at hl 2 rfl) ?_
      refine zw_kC hf (fun fs hfs hf => ?_)
      refine zw_goZ (rest := []) hw hf (fun r hr => va_runV (C := RX0) (As := [.int i1, .int i2]) (rest := []) X.1 (mt_X0_isClash l D A h a0 i1 i2 r hr) (cwV 2 hts (lw_V q907 q909 qs25 q81 q910) rfl rfl rfl ⟨rfl, cd_X0_isClash⟩ ⟨Nat.le_of_ble_eq_true rfl, Nat.le_of_ble_eq_true rfl⟩) (zpreV (ci := 0) X hw hfs rfl _) rfl rfl hl.1 rfl (lv_room (Nat.le_of_ble_eq_true rfl)) dX0_findClashes_30 ⟨Nat.le_of_ble_eq_true rfl, Nat.le_of_ble_eq_true rfl⟩) (fun r2 H locs hf hw => ?_)
      refine zw_if_eq (tgt := 60) hx hb hf dX0_findClashes_33 (by decide) (fun hf => ?_) (fun hf => ?_)
      · refine zw_nmS hf (fun v3 ev3 hf => ?_)
        refine lv_iinc (k := 2) (v := v3) (lv' := [(2, .int v3), (0, .ref a0), (1, .int i1)]) hx hb dX0_findClashes_60 hl rfl (by rw [ev3]; rfl) (by decide) rfl (fun ls hl => ?_)
        refine lv_goto (tgt := 22) hx hb dX0_findClashes_63 (by decide) ?_
        exact ih r2.2 a0 i1 v3 _ _ _ hf hw (lv_sub hl [1, 2, 0] rfl)
      · refine lv_aload_n hx hb dX0_findClashes_36 rfl (lv_at hl 0 rfl) ?_
        refine zw_getR X hw fs_X0_17 q269 rfl hf dX0_findClashes_37 (fun v4 hf => ?_)
        refine lv_iload_n hx hb dX0_findClashes_40 rfl (lv_at hl 1 rfl) ?_
        refine lv_dup2_11 hx hb dX0_findClashes_41 rfl rfl ?_
        refine zw_ialoadR X hw hf dX0_findClashes_42 (fun v5 hf => ?_)
        refine lv_iconst (v := (1 : Int32)) hx hb dX0_findClashes_43 (by decide) ?_
        refine lv_iload_n hx hb dX0_findClashes_44 rfl (lv_at hl 2 rfl) ?_
        refine lv_ishl hx hb dX0_findClashes_45 ?_
        refine lv_ior hx hb dX0_findClashes_46 ?_
        refine zw_iastore X hw hf dX0_findClashes_47 (fun h6 H locs hf hw => ?_)
        refine lv_aload_n hx hb dX0_findClashes_48 rfl (lv_at hl 0 rfl) ?_
        refine zw_getR X hw fs_X0_17 q269 rfl hf dX0_findClashes_49 (fun v7 hf => ?_)
        refine lv_iload_n hx hb dX0_findClashes_52 rfl (lv_at hl 2 rfl) ?_
        refine lv_dup2_11 hx hb dX0_findClashes_53 rfl rfl ?_
        refine zw_ialoadR X hw hf dX0_findClashes_54 (fun v8 hf => ?_)
        refine lv_iconst (v := (1 : Int32)) hx hb dX0_findClashes_55 (by decide) ?_
        refine lv_iload_n hx hb dX0_findClashes_56 rfl (lv_at hl 1 rfl) ?_
        refine lv_ishl hx hb dX0_findClashes_57 ?_
        refine lv_ior hx hb dX0_findClashes_58 ?_
        refine zw_iastore X hw hf dX0_findClashes_59 (fun h9 H locs hf hw => ?_)
        refine zw_nmS hf (fun v10 ev10 hf => ?_)
        refine lv_iinc (k := 2) (v := v10) (lv' := [(2, .int v10), (0, .ref a0), (1, .int i1)]) hx hb dX0_findClashes_60 hl rfl (by rw [ev10]; rfl) (by decide) rfl (fun ls hl => ?_)
        refine lv_goto (tgt := 22) hx hb dX0_findClashes_63 (by decide) ?_
        exact ih h9 a0 i1 v10 _ _ _ hf hw (lv_sub hl [1, 2, 0] rfl)
set_option maxHeartbeats 4000000 in
theorem k_X0_findClashes_2 {p : Program} {l : Launch} {e : Env} {s : State} {m : MethodId} {args : Array Value} {below : List Frame} {meth : Method} {c : Code} {D : va_G} {A : Nat → Prop} (X : zCx p s m args meth c D A (zEv A) cX0_findClashes 3 RX0 (Option.none : Option FieldType)) (res : zT) : ∀ (n : Nat), ∀ (h : zT) (a0 : Nat) (i1 : Int32) (H : Heap) (locs : List Loc) (ls : Array Slot), f_X0_findClashes_2 n h a0 i1 = some res → zWh D A s H h locs → lv_has ls 3 [(0, .ref a0), (1, .int i1)] → W p l e rm_X0_findClashes s m args below meth c H locs 0 0 (MQ below (zQW D A none res) args s 0 0 A) (F0 m 2 ls []) := by
  have hx := X.1.1
  have hb := X.1.2.1
  have hown := X.1.2.2.2.1
  have hts := X.1.2.2.2.2
  have hN := X.2.2.2.2.2.2.1
  have hDW := X.2.2.2.2.2.2.2.1
  have hAO := X.2.2.2.2.2.2.2.2.1
  have hNC := X.2.2.2.2.2.2.2.2.2.1
  intro n
  induction n with
  | zero =>
    intro h a0 i1 H locs ls hf hw hl
    cases hf
  | succ n ih =>
    intro h a0 i1 H locs ls hf hw hl
    unfold f_X0_findClashes_2 at hf
    refine lv_iload_n hx hb dX0_findClashes_2 rfl (lv_at hl 1 rfl) ?_
    refine lv_aload_n hx hb dX0_findClashes_3 rfl (lv_at hl 0 rfl) ?_
    refine zw_getR X hw fs_X0_0 q252 rfl hf dX0_findClashes_4 (fun v1 hf => ?_)
    refine zw_getIN X hw fs_X1_1 (hN _ nq129) rfl hf dX0_findClashes_7 (fun v2 hf => ?_)
    refine zw_icmp_ge (tgt := 72) hx hb hf dX0_findClashes_10 (by decide) (fun hf => ?_) (fun hf => ?_)
    · exact zw_vret X hw hf (Nat.le_of_ble_eq_true rfl) (Nat.le_of_ble_eq_true rfl) dX0_findClashes_72
    · refine lv_aload_n hx hb dX0_findClashes_13 rfl (lv_at hl 0 rfl) ?_
      refine zw_getR X hw fs_X0_17 q269 rfl hf dX0_findClashes_14 (fun v3 hf => ?_)
      refine lv_iload_n hx hb dX0_findClashes_17 rfl (lv_at hl 1 rfl) ?_
      refine lv_iconst (v := (0 : Int32)) hx hb dX0_findClashes_18 (by decide) ?_
      refine zw_iastore X hw hf dX0_findClashes_19 (fun h4 H locs hf hw => ?_)
      refine lv_iconst (v := (0 : Int32)) hx hb dX0_findClashes_20 (by decide) ?_
      refine lv_istore_n (lv' := [(2, .int (0 : Int32)), (0, .ref a0), (1, .int i1)]) hx hb dX0_findClashes_21 rfl hl (by decide) rfl (fun ls hl => ?_)
      exact k_X0_findClashes_22 X _ (f_X0_findClashes_2 n) ih 4096 h4 a0 i1 (0 : Int32) _ _ _ hf hw (lv_sub hl [1, 2, 0] rfl)
set_option maxHeartbeats 4000000 in
theorem mt_X0_findClashes (l : Launch) (D : va_G) (A : Nat → Prop) (h : zT) (a0 : Nat) (res : zT) (hf : f_X0_findClashes h a0 = some res) : Met l yX0_findClashes (ws_ yX0_findClashes cX0_findClashes 3 (Option.none : Option FieldType)) rm_X0_findClashes (zPW D A (zEv A) h [.ref a0]) (zQW D A none res) 0 0 A := by
  refine zmt (zEv_ok A) (by decide) (Nat.le_of_ble_eq_true rfl) ?_
  intro p e s m below meth c ls hmn X hw hl
  have hl : lv_has ls 3 [(0, .ref a0)] := hl
  have hx := X.1.1
  have hb := X.1.2.1
  have hown := X.1.2.2.2.1
  have hts := X.1.2.2.2.2
  have hN := X.2.2.2.2.2.2.1
  have hDW := X.2.2.2.2.2.2.2.1
  have hAO := X.2.2.2.2.2.2.2.2.1
  have hNC := X.2.2.2.2.2.2.2.2.2.1
  unfold f_X0_findClashes at hf
  refine lv_iconst (v := (0 : Int32)) hx hb dX0_findClashes_0 (by decide) ?_
  refine lv_istore_n (lv' := [(1, .int (0 : Int32)), (0, .ref a0)]) hx hb dX0_findClashes_1 rfl hl (by decide) rfl (fun ls hl => ?_)
  exact k_X0_findClashes_2 X _ 4096 h a0 (0 : Int32) _ _ _ hf hw (lv_sub hl [1, 0] rfl)
set_option maxHeartbeats 4000000 in
theorem mt_X0_bits (l : Launch) (D : va_G) (A : Nat → Prop) (h : zT) (i0 : Int32) (res : Int32 × zT) (hf : f_X0_bits h i0 = some res) : Met l yX0_bits (ws_ yX0_bits cX0_bits 1 (Option.some FieldType.int)) rm_X0_bits (zPW D A (zEv A) h [.int i0]) (zQW D A (some (.int res.1)) res.2) 0 0 A := by
  refine zmt (zEv_ok A) (by decide) (Nat.le_of_ble_eq_true rfl) ?_
  intro p e s m below meth c ls hmn X hw hl
  have hl : lv_has ls 1 [(0, .int i0)] := hl
  have hx := X.1.1
  have hb := X.1.2.1
  have hown := X.1.2.2.2.1
  have hts := X.1.2.2.2.2
  have hN := X.2.2.2.2.2.2.1
  have hDW := X.2.2.2.2.2.2.2.1
  have hAO := X.2.2.2.2.2.2.2.2.1
  have hNC := X.2.2.2.2.2.2.2.2.2.1
  unfold f_X0_bits at hf
  refine lv_iload_n hx hb dX0_bits_0 rfl (lv_at hl 0 rfl) ?_
  refine zw_goI (rest := []) hw hf (fun r hr => va_runS (As := [.int i0]) (rest := []) X.1 (mt_J6_bitCount l D A h i0 r hr) (va_cwS 1 hts (lw_S q926 q927 q99 q928) rfl rfl rfl cd_J6_bitCount ⟨Nat.le_of_ble_eq_true rfl, Nat.le_of_ble_eq_true rfl⟩) (zpreS X hw _) rfl rfl hl.1 rfl (lv_room (Nat.le_of_ble_eq_true rfl)) dX0_bits_1 ⟨Nat.le_of_ble_eq_true rfl, Nat.le_of_ble_eq_true rfl⟩) (fun r1 H locs hf hw => ?_)
  exact zw_iret X hw hf (Nat.le_of_ble_eq_true rfl) (Nat.le_of_ble_eq_true rfl) dX0_bits_4
set_option maxHeartbeats 4000000 in
theorem k_X0_isPeace_4 {p : Program} {l : Launch} {e : Env} {s : State} {m : MethodId} {args : Array Value} {below : List Frame} {meth : Method} {c : Code} {D : va_G} {A : Nat → Prop} (X : zCx p s m args meth c D A (zEv A) cX0_isPeace 4 RX0 (Option.some FieldType.boolean)) (res : Int32 × zT) : ∀ (n : Nat), ∀ (h : zT) (a0 : Nat) (i1 : Int32) (i2 : Int32) (i3 : Int32) (H : Heap) (locs : List Loc) (ls : Array Slot), f_X0_isPeace_4 n h a0 i1 i2 i3 = some res → zWh D A s H h locs → lv_has ls 4 [(0, .ref a0), (1, .int i1), (2, .int i2), (3, .int i3)] → W p l e rm_X0_isPeace s m args below meth c H locs 0 0 (MQ below (zQW D A (some (.int res.1)) res.2) args s 0 0 A) (F0 m 4 ls []) := by
  have hx := X.1.1
  have hb := X.1.2.1
  have hown := X.1.2.2.2.1
  have hts := X.1.2.2.2.2
  have hN := X.2.2.2.2.2.2.1
  have hDW := X.2.2.2.2.2.2.2.1
  have hAO := X.2.2.2.2.2.2.2.2.1
  have hNC := X.2.2.2.2.2.2.2.2.2.1
  intro n
  induction n with
  | zero =>
    intro h a0 i1 i2 i3 H locs ls hf hw hl
    cases hf
  | succ n ih =>
    intro h a0 i1 i2 i3 H locs ls hf hw hl
    unfold f_X0_isPeace_4 at hf
    refine lv_iload_n hx hb dX0_isPeace_4 rfl (lv_at hl 3 rfl) ?_
    refine lv_aload_n hx hb dX0_isPeace_5 rfl (lv_at hl 0 rfl) ?_
    refine zw_getR X hw fs_X0_0 q252 rfl hf dX0_isPeace_6 (fun v1 hf => ?_)
    refine zw_getIN X hw fs_X1_1 (hN _ nq129) rfl hf dX0_isPeace_9 (fun v2 hf => ?_)
    refine zw_icmp_ge (tgt := 50) hx hb hf dX0_isPeace_12 (by decide) (fun hf => ?_) (fun hf => ?_)
    · refine lv_iload_n hx hb dX0_isPeace_50 rfl (lv_at hl 2 rfl) ?_
      exact zw_zret X hw hf (Nat.le_of_ble_eq_true rfl) (Nat.le_of_ble_eq_true rfl) dX0_isPeace_51
    · refine lv_iload_n hx hb dX0_isPeace_15 rfl (lv_at hl 2 rfl) ?_
      refine zw_if_eq (tgt := 42) hx hb hf dX0_isPeace_16 (by decide) (fun hf => ?_) (fun hf => ?_)
      · refine lv_iconst (v := (0 : Int32)) hx hb dX0_isPeace_42 (by decide) ?_
        refine lv_istore_n (lv' := [(2, .int (0 : Int32)), (0, .ref a0), (1, .int i1), (3, .int i3)]) hx hb dX0_isPeace_43 rfl hl (by decide) rfl (fun ls hl => ?_)
        refine zw_nmS hf (fun v3 ev3 hf => ?_)
        refine lv_iinc (k := 3) (v := v3) (lv' := [(3, .int v3), (2, .int (0 : Int32)), (0, .ref a0), (1, .int i1)]) hx hb dX0_isPeace_44 hl rfl (by rw [ev3]; rfl) (by decide) rfl (fun ls hl => ?_)
        refine lv_goto (tgt := 4) hx hb dX0_isPeace_47 (by decide) ?_
        exact ih h a0 i1 (0 : Int32) v3 _ _ _ hf hw (lv_sub hl [2, 3, 1, 0] rfl)
      · refine lv_iload_n hx hb dX0_isPeace_19 rfl (lv_at hl 1 rfl) ?_
        refine lv_iload_n hx hb dX0_isPeace_20 rfl (lv_at hl 3 rfl) ?_
        refine lv_ishr hx hb dX0_isPeace_21 ?_
        refine lv_iconst (v := (1 : Int32)) hx hb dX0_isPeace_22 (by decide) ?_
        refine lv_iand hx hb dX0_isPeace_23 ?_
        refine zw_if_eq (tgt := 38) hx hb hf dX0_isPeace_24 (by decide) (fun hf => ?_) (fun hf => ?_)
        · refine lv_iconst (v := (1 : Int32)) hx hb dX0_isPeace_38 (by decide) ?_
          refine lv_goto (tgt := 43) hx hb dX0_isPeace_39 (by decide) ?_
          refine lv_istore_n (lv' := [(2, .int (1 : Int32)), (0, .ref a0), (1, .int i1), (3, .int i3)]) hx hb dX0_isPeace_43 rfl hl (by decide) rfl (fun ls hl => ?_)
          refine zw_nmS hf (fun v4 ev4 hf => ?_)
          refine lv_iinc (k := 3) (v := v4) (lv' := [(3, .int v4), (2, .int (1 : Int32)), (0, .ref a0), (1, .int i1)]) hx hb dX0_isPeace_44 hl rfl (by rw [ev4]; rfl) (by decide) rfl (fun ls hl => ?_)
          refine lv_goto (tgt := 4) hx hb dX0_isPeace_47 (by decide) ?_
          exact ih h a0 i1 (1 : Int32) v4 _ _ _ hf hw (lv_sub hl [2, 3, 1, 0] rfl)
        · refine lv_aload_n hx hb dX0_isPeace_27 rfl (lv_at hl 0 rfl) ?_
          refine zw_getR X hw fs_X0_17 q269 rfl hf dX0_isPeace_28 (fun v5 hf => ?_)
          refine lv_iload_n hx hb dX0_isPeace_31 rfl (lv_at hl 3 rfl) ?_
          refine zw_ialoadR X hw hf dX0_isPeace_32 (fun v6 hf => ?_)
          refine lv_iload_n hx hb dX0_isPeace_33 rfl (lv_at hl 1 rfl) ?_
          refine lv_iand hx hb dX0_isPeace_34 ?_
          refine zw_if_ne (tgt := 42) hx hb hf dX0_isPeace_35 (by decide) (fun hf => ?_) (fun hf => ?_)
          · refine lv_iconst (v := (0 : Int32)) hx hb dX0_isPeace_42 (by decide) ?_
            refine lv_istore_n (lv' := [(2, .int (0 : Int32)), (0, .ref a0), (1, .int i1), (3, .int i3)]) hx hb dX0_isPeace_43 rfl hl (by decide) rfl (fun ls hl => ?_)
            refine zw_nmS hf (fun v7 ev7 hf => ?_)
            refine lv_iinc (k := 3) (v := v7) (lv' := [(3, .int v7), (2, .int (0 : Int32)), (0, .ref a0), (1, .int i1)]) hx hb dX0_isPeace_44 hl rfl (by rw [ev7]; rfl) (by decide) rfl (fun ls hl => ?_)
            refine lv_goto (tgt := 4) hx hb dX0_isPeace_47 (by decide) ?_
            exact ih h a0 i1 (0 : Int32) v7 _ _ _ hf hw (lv_sub hl [2, 3, 1, 0] rfl)
          · refine lv_iconst (v := (1 : Int32)) hx hb dX0_isPeace_38 (by decide) ?_
            refine lv_goto (tgt := 43) hx hb dX0_isPeace_39 (by decide) ?_
            refine lv_istore_n (lv' := [(2, .int (1 : Int32)), (0, .ref a0), (1, .int i1), (3, .int i3)]) hx hb dX0_isPeace_43 rfl hl (by decide) rfl (fun ls hl => ?_)
            refine zw_nmS hf (fun v8 ev8 hf => ?_)
            refine lv_iinc (k := 3) (v := v8) (lv' := [(3, .int v8), (2, .int (1 : Int32)), (0, .ref a0), (1, .int i1)]) hx hb dX0_isPeace_44 hl rfl (by rw [ev8]; rfl) (by decide) rfl (fun ls hl => ?_)
            refine lv_goto (tgt := 4) hx hb dX0_isPeace_47 (by decide) ?_
            exact ih h a0 i1 (1 : Int32) v8 _ _ _ hf hw (lv_sub hl [2, 3, 1, 0] rfl)
set_option maxHeartbeats 4000000 in
theorem mt_X0_isPeace (l : Launch) (D : va_G) (A : Nat → Prop) (h : zT) (a0 : Nat) (i1 : Int32) (res : Int32 × zT) (hf : f_X0_isPeace h a0 i1 = some res) : Met l yX0_isPeace (ws_ yX0_isPeace cX0_isPeace 4 (Option.some FieldType.boolean)) rm_X0_isPeace (zPW D A (zEv A) h [.ref a0, .int i1]) (zQW D A (some (.int res.1)) res.2) 0 0 A := by
  refine zmt (zEv_ok A) (by decide) (Nat.le_of_ble_eq_true rfl) ?_
  intro p e s m below meth c ls hmn X hw hl
  have hl : lv_has ls 4 [(0, .ref a0), (1, .int i1)] := hl
  have hx := X.1.1
  have hb := X.1.2.1
  have hown := X.1.2.2.2.1
  have hts := X.1.2.2.2.2
  have hN := X.2.2.2.2.2.2.1
  have hDW := X.2.2.2.2.2.2.2.1
  have hAO := X.2.2.2.2.2.2.2.2.1
  have hNC := X.2.2.2.2.2.2.2.2.2.1
  unfold f_X0_isPeace at hf
  refine lv_iconst (v := (1 : Int32)) hx hb dX0_isPeace_0 (by decide) ?_
  refine lv_istore_n (lv' := [(2, .int (1 : Int32)), (0, .ref a0), (1, .int i1)]) hx hb dX0_isPeace_1 rfl hl (by decide) rfl (fun ls hl => ?_)
  refine lv_iconst (v := (0 : Int32)) hx hb dX0_isPeace_2 (by decide) ?_
  refine lv_istore_n (lv' := [(3, .int (0 : Int32)), (2, .int (1 : Int32)), (0, .ref a0), (1, .int i1)]) hx hb dX0_isPeace_3 rfl hl (by decide) rfl (fun ls hl => ?_)
  exact k_X0_isPeace_4 X _ 4096 h a0 i1 (1 : Int32) (0 : Int32) _ _ _ hf hw (lv_sub hl [2, 3, 1, 0] rfl)
set_option maxHeartbeats 4000000 in
theorem k_X0_undone_16 {p : Program} {l : Launch} {e : Env} {s : State} {m : MethodId} {args : Array Value} {below : List Frame} {meth : Method} {c : Code} {D : va_G} {A : Nat → Prop} (X : zCx p s m args meth c D A (zEv A) cX0_undone 4 RX0 (Option.some FieldType.int)) (res : Int32 × zT) : ∀ (n : Nat), ∀ (h : zT) (a0 : Nat) (i1 : Int32) (i2 : Int32) (i3 : Int32) (H : Heap) (locs : List Loc) (ls : Array Slot), f_X0_undone_16 n h a0 i1 i2 i3 = some res → zWh D A s H h locs → lv_has ls 4 [(0, .ref a0), (1, .int i1), (2, .int i2), (3, .int i3)] → W p l e rm_X0_undone s m args below meth c H locs 0 0 (MQ below (zQW D A (some (.int res.1)) res.2) args s 0 0 A) (F0 m 16 ls []) := by
  have hx := X.1.1
  have hb := X.1.2.1
  have hown := X.1.2.2.2.1
  have hts := X.1.2.2.2.2
  have hN := X.2.2.2.2.2.2.1
  have hDW := X.2.2.2.2.2.2.2.1
  have hAO := X.2.2.2.2.2.2.2.2.1
  have hNC := X.2.2.2.2.2.2.2.2.2.1
  intro n
  induction n with
  | zero =>
    intro h a0 i1 i2 i3 H locs ls hf hw hl
    cases hf
  | succ n ih =>
    intro h a0 i1 i2 i3 H locs ls hf hw hl
    unfold f_X0_undone_16 at hf
    refine lv_iload_n hx hb dX0_undone_16 rfl (lv_at hl 3 rfl) ?_
    refine lv_iload_n hx hb dX0_undone_17 rfl (lv_at hl 1 rfl) ?_
    refine zw_icmp_gt (tgt := 67) hx hb hf dX0_undone_18 (by decide) (fun hf => ?_) (fun hf => ?_)
    · refine lv_iload_n hx hb dX0_undone_67 rfl (lv_at hl 2 rfl) ?_
      exact zw_iret X hw hf (Nat.le_of_ble_eq_true rfl) (Nat.le_of_ble_eq_true rfl) dX0_undone_68
    · refine lv_iload_n hx hb dX0_undone_21 rfl (lv_at hl 3 rfl) ?_
      refine lv_iload_n hx hb dX0_undone_22 rfl (lv_at hl 1 rfl) ?_
      refine lv_iconst (v := (-1 : Int32)) hx hb dX0_undone_23 (by decide) ?_
      refine lv_ixor hx hb dX0_undone_24 ?_
      refine lv_iand hx hb dX0_undone_25 ?_
      refine zw_if_ne (tgt := 61) hx hb hf dX0_undone_26 (by decide) (fun hf => ?_) (fun hf => ?_)
      · refine zw_nmS hf (fun v1 ev1 hf => ?_)
        refine lv_iinc (k := 3) (v := v1) (lv' := [(3, .int v1), (0, .ref a0), (1, .int i1), (2, .int i2)]) hx hb dX0_undone_61 hl rfl (by rw [ev1]; rfl) (by decide) rfl (fun ls hl => ?_)
        refine lv_goto (tgt := 16) hx hb dX0_undone_64 (by decide) ?_
        exact ih h a0 i1 i2 v1 _ _ _ hf hw (lv_sub hl [1, 2, 3, 0] rfl)
      · refine lv_iload_n hx hb dX0_undone_29 rfl (lv_at hl 3 rfl) ?_
        refine zw_goI (rest := []) hw hf (fun r hr => va_runS (As := [.int i3]) (rest := []) X.1 (mt_X0_bits l D A h i3 r hr) (va_cwS 1 hts (lw_S q923 q924 q81 q925) rfl rfl rfl cd_X0_bits ⟨Nat.le_of_ble_eq_true rfl, Nat.le_of_ble_eq_true rfl⟩) (zpreS X hw _) rfl rfl hl.1 rfl (lv_room (Nat.le_of_ble_eq_true rfl)) dX0_undone_30 ⟨Nat.le_of_ble_eq_true rfl, Nat.le_of_ble_eq_true rfl⟩) (fun r2 H locs hf hw => ?_)
        refine lv_iload_n hx hb dX0_undone_33 rfl (lv_at hl 2 rfl) ?_
        refine zw_goI (rest := [.int r2.1]) hw hf (fun r hr => va_runS (As := [.int i2]) (rest := [.int r2.1]) X.1 (mt_X0_bits l D A r2.2 i2 r hr) (va_cwS 1 hts (lw_S q923 q924 q81 q925) rfl rfl rfl cd_X0_bits ⟨Nat.le_of_ble_eq_true rfl, Nat.le_of_ble_eq_true rfl⟩) (zpreS X hw _) rfl rfl hl.1 rfl (lv_room (Nat.le_of_ble_eq_true rfl)) dX0_undone_34 ⟨Nat.le_of_ble_eq_true rfl, Nat.le_of_ble_eq_true rfl⟩) (fun r3 H locs hf hw => ?_)
        refine zw_icmp_lt (tgt := 43) hx hb hf dX0_undone_37 (by decide) (fun hf => ?_) (fun hf => ?_)
        · refine lv_aload_n hx hb dX0_undone_43 rfl (lv_at hl 0 rfl) ?_
          refine lv_iload_n hx hb dX0_undone_44 rfl (lv_at hl 1 rfl) ?_
          refine lv_iload_n hx hb dX0_undone_45 rfl (lv_at hl 3 rfl) ?_
          refine lv_iconst (v := (-1 : Int32)) hx hb dX0_undone_46 (by decide) ?_
          refine lv_ixor hx hb dX0_undone_47 ?_
          refine lv_iand hx hb dX0_undone_48 ?_
          refine zw_kC hf (fun fs hfs hf => ?_)
          refine zw_goZ (rest := []) hw hf (fun r hr => va_runV (C := RX0) (As := [.int (i1 &&& (i3 ^^^ (-1 : Int32)))]) (rest := []) X.1 (mt_X0_isPeace l D A r3.2 a0 (i1 &&& (i3 ^^^ (-1 : Int32))) r hr) (cwV 1 hts (lw_V q932 q934 qs27 q81 q935) rfl rfl rfl ⟨rfl, cd_X0_isPeace⟩ ⟨Nat.le_of_ble_eq_true rfl, Nat.le_of_ble_eq_true rfl⟩) (zpreV (ci := 0) X hw hfs rfl _) rfl rfl hl.1 rfl (lv_room (Nat.le_of_ble_eq_true rfl)) dX0_undone_49 ⟨Nat.le_of_ble_eq_true rfl, Nat.le_of_ble_eq_true rfl⟩) (fun r4 H locs hf hw => ?_)
          refine zw_if_eq (tgt := 59) hx hb hf dX0_undone_52 (by decide) (fun hf => ?_) (fun hf => ?_)
          · refine lv_iload_n hx hb dX0_undone_59 rfl (lv_at hl 2 rfl) ?_
            refine lv_istore_n (lv' := [(2, .int i2), (0, .ref a0), (1, .int i1), (3, .int i3)]) hx hb dX0_undone_60 rfl hl (by decide) rfl (fun ls hl => ?_)
            refine zw_nmS hf (fun v5 ev5 hf => ?_)
            refine lv_iinc (k := 3) (v := v5) (lv' := [(3, .int v5), (2, .int i2), (0, .ref a0), (1, .int i1)]) hx hb dX0_undone_61 hl rfl (by rw [ev5]; rfl) (by decide) rfl (fun ls hl => ?_)
            refine lv_goto (tgt := 16) hx hb dX0_undone_64 (by decide) ?_
            exact ih r4.2 a0 i1 i2 v5 _ _ _ hf hw (lv_sub hl [2, 3, 1, 0] rfl)
          · refine lv_iload_n hx hb dX0_undone_55 rfl (lv_at hl 3 rfl) ?_
            refine lv_goto (tgt := 60) hx hb dX0_undone_56 (by decide) ?_
            refine lv_istore_n (lv' := [(2, .int i3), (0, .ref a0), (1, .int i1), (3, .int i3)]) hx hb dX0_undone_60 rfl hl (by decide) rfl (fun ls hl => ?_)
            refine zw_nmS hf (fun v6 ev6 hf => ?_)
            refine lv_iinc (k := 3) (v := v6) (lv' := [(3, .int v6), (2, .int i3), (0, .ref a0), (1, .int i1)]) hx hb dX0_undone_61 hl rfl (by rw [ev6]; rfl) (by decide) rfl (fun ls hl => ?_)
            refine lv_goto (tgt := 16) hx hb dX0_undone_64 (by decide) ?_
            exact ih r4.2 a0 i1 i3 v6 _ _ _ hf hw (lv_sub hl [2, 3, 1, 0] rfl)
        · refine lv_goto (tgt := 61) hx hb dX0_undone_40 (by decide) ?_
          refine zw_nmS hf (fun v7 ev7 hf => ?_)
          refine lv_iinc (k := 3) (v := v7) (lv' := [(3, .int v7), (0, .ref a0), (1, .int i1), (2, .int i2)]) hx hb dX0_undone_61 hl rfl (by rw [ev7]; rfl) (by decide) rfl (fun ls hl => ?_)
          refine lv_goto (tgt := 16) hx hb dX0_undone_64 (by decide) ?_
          exact ih r3.2 a0 i1 i2 v7 _ _ _ hf hw (lv_sub hl [1, 2, 3, 0] rfl)
set_option maxHeartbeats 4000000 in
theorem mt_X0_undone (l : Launch) (D : va_G) (A : Nat → Prop) (h : zT) (a0 : Nat) (res : Int32 × zT) (hf : f_X0_undone h a0 = some res) : Met l yX0_undone (ws_ yX0_undone cX0_undone 4 (Option.some FieldType.int)) rm_X0_undone (zPW D A (zEv A) h [.ref a0]) (zQW D A (some (.int res.1)) res.2) 0 0 A := by
  refine zmt (zEv_ok A) (by decide) (Nat.le_of_ble_eq_true rfl) ?_
  intro p e s m below meth c ls hmn X hw hl
  have hl : lv_has ls 4 [(0, .ref a0)] := hl
  have hx := X.1.1
  have hb := X.1.2.1
  have hown := X.1.2.2.2.1
  have hts := X.1.2.2.2.2
  have hN := X.2.2.2.2.2.2.1
  have hDW := X.2.2.2.2.2.2.2.1
  have hAO := X.2.2.2.2.2.2.2.2.1
  have hNC := X.2.2.2.2.2.2.2.2.2.1
  unfold f_X0_undone at hf
  refine lv_aload_n hx hb dX0_undone_0 rfl (lv_at hl 0 rfl) ?_
  refine zw_kC hf (fun fs hfs hf => ?_)
  refine zw_goV (rest := []) hw hf (fun r hr => va_runV (C := RX0) (As := []) (rest := []) X.1 (mt_X0_findClashes l D A h a0 r hr) (cwV 0 hts (lw_V q915 q917 qs26 q81 q918) rfl rfl rfl ⟨rfl, cd_X0_findClashes⟩ ⟨Nat.le_of_ble_eq_true rfl, Nat.le_of_ble_eq_true rfl⟩) (zpreV (ci := 0) X hw hfs rfl _) rfl rfl hl.1 rfl (lv_room (Nat.le_of_ble_eq_true rfl)) dX0_undone_1 ⟨Nat.le_of_ble_eq_true rfl, Nat.le_of_ble_eq_true rfl⟩) (fun r1 H locs hf hw => ?_)
  refine lv_aload_n hx hb dX0_undone_4 rfl (lv_at hl 0 rfl) ?_
  refine zw_getR X hw fs_X0_0 q252 rfl hf dX0_undone_5 (fun v2 hf => ?_)
  refine zw_kC hf (fun fs hfs hf => ?_)
  refine zw_goI (rest := []) hw hf (fun r hr => va_runV (C := RX1) (As := []) (rest := []) X.1 (mt_X1_laid l D A r1 v2 r hr) (cwV 0 hts (lw_V q919 q920 q921 q82 q922) rfl rfl rfl ⟨rfl, cd_X1_laid⟩ ⟨Nat.le_of_ble_eq_true rfl, Nat.le_of_ble_eq_true rfl⟩) (zpreV (ci := 1) X hw hfs rfl _) rfl rfl hl.1 rfl (lv_room (Nat.le_of_ble_eq_true rfl)) dX0_undone_8 ⟨Nat.le_of_ble_eq_true rfl, Nat.le_of_ble_eq_true rfl⟩) (fun r3 H locs hf hw => ?_)
  refine lv_istore_n (lv' := [(1, .int r3.1), (0, .ref a0)]) hx hb dX0_undone_11 rfl hl (by decide) rfl (fun ls hl => ?_)
  refine lv_iload_n hx hb dX0_undone_12 rfl (lv_at hl 0 rfl) ?_
  refine lv_istore_n (lv' := [(2, .int r3.1), (1, .int r3.1), (0, .ref a0)]) hx hb dX0_undone_13 rfl hl (by decide) rfl (fun ls hl => ?_)
  refine lv_iconst (v := (0 : Int32)) hx hb dX0_undone_14 (by decide) ?_
  refine lv_istore_n (lv' := [(3, .int (0 : Int32)), (2, .int r3.1), (1, .int r3.1), (0, .ref a0)]) hx hb dX0_undone_15 rfl hl (by decide) rfl (fun ls hl => ?_)
  exact k_X0_undone_16 X _ 4096 r3.2 a0 r3.1 r3.1 (0 : Int32) _ _ _ hf hw (lv_sub hl [3, 2, 1, 0] rfl)
set_option maxHeartbeats 4000000 in
theorem k_X0_borne_22 {p : Program} {l : Launch} {e : Env} {s : State} {m : MethodId} {args : Array Value} {below : List Frame} {meth : Method} {c : Code} {D : va_G} {A : Nat → Prop} (X : zCx p s m args meth c D A (zEv A) cX0_borne 5 RX0 (Option.some FieldType.int)) (res : Int32 × zT) : ∀ (n : Nat), ∀ (h : zT) (a0 : Nat) (i1 : Int32) (i2 : Int32) (i3 : Int32) (i4 : Int32) (H : Heap) (locs : List Loc) (ls : Array Slot), f_X0_borne_22 n h a0 i1 i2 i3 i4 = some res → zWh D A s H h locs → lv_has ls 5 [(0, .ref a0), (1, .int i1), (2, .int i2), (3, .int i3), (4, .int i4)] → W p l e rm_X0_borne s m args below meth c H locs 0 0 (MQ below (zQW D A (some (.int res.1)) res.2) args s 0 0 A) (F0 m 22 ls []) := by
  have hx := X.1.1
  have hb := X.1.2.1
  have hown := X.1.2.2.2.1
  have hts := X.1.2.2.2.2
  have hN := X.2.2.2.2.2.2.1
  have hDW := X.2.2.2.2.2.2.2.1
  have hAO := X.2.2.2.2.2.2.2.2.1
  have hNC := X.2.2.2.2.2.2.2.2.2.1
  intro n
  induction n with
  | zero =>
    intro h a0 i1 i2 i3 i4 H locs ls hf hw hl
    cases hf
  | succ n ih =>
    intro h a0 i1 i2 i3 i4 H locs ls hf hw hl
    unfold f_X0_borne_22 at hf
    refine lv_iload hx hb dX0_borne_22 (lv_at hl 4 rfl) ?_
    refine lv_iload_n hx hb dX0_borne_24 rfl (lv_at hl 1 rfl) ?_
    refine zw_icmp_gt (tgt := 78) hx hb hf dX0_borne_25 (by decide) (fun hf => ?_) (fun hf => ?_)
    · refine lv_iload_n hx hb dX0_borne_78 rfl (lv_at hl 3 rfl) ?_
      exact zw_iret X hw hf (Nat.le_of_ble_eq_true rfl) (Nat.le_of_ble_eq_true rfl) dX0_borne_79
    · refine lv_iload hx hb dX0_borne_28 (lv_at hl 4 rfl) ?_
      refine lv_iload_n hx hb dX0_borne_30 rfl (lv_at hl 1 rfl) ?_
      refine lv_iconst (v := (-1 : Int32)) hx hb dX0_borne_31 (by decide) ?_
      refine lv_ixor hx hb dX0_borne_32 ?_
      refine lv_iand hx hb dX0_borne_33 ?_
      refine zw_if_ne (tgt := 72) hx hb hf dX0_borne_34 (by decide) (fun hf => ?_) (fun hf => ?_)
      · refine zw_nmS hf (fun v1 ev1 hf => ?_)
        refine lv_iinc (k := 4) (v := v1) (lv' := [(4, .int v1), (0, .ref a0), (1, .int i1), (2, .int i2), (3, .int i3)]) hx hb dX0_borne_72 hl rfl (by rw [ev1]; rfl) (by decide) rfl (fun ls hl => ?_)
        refine lv_goto (tgt := 22) hx hb dX0_borne_75 (by decide) ?_
        exact ih h a0 i1 i2 i3 v1 _ _ _ hf hw (lv_sub hl [1, 2, 3, 4, 0] rfl)
      · refine lv_iload hx hb dX0_borne_37 (lv_at hl 4 rfl) ?_
        refine zw_goI (rest := []) hw hf (fun r hr => va_runS (As := [.int i4]) (rest := []) X.1 (mt_X0_bits l D A h i4 r hr) (va_cwS 1 hts (lw_S q923 q924 q81 q925) rfl rfl rfl cd_X0_bits ⟨Nat.le_of_ble_eq_true rfl, Nat.le_of_ble_eq_true rfl⟩) (zpreS X hw _) rfl rfl hl.1 rfl (lv_room (Nat.le_of_ble_eq_true rfl)) dX0_borne_39 ⟨Nat.le_of_ble_eq_true rfl, Nat.le_of_ble_eq_true rfl⟩) (fun r2 H locs hf hw => ?_)
        refine lv_iload_n hx hb dX0_borne_42 rfl (lv_at hl 3 rfl) ?_
        refine zw_goI (rest := [.int r2.1]) hw hf (fun r hr => va_runS (As := [.int i3]) (rest := [.int r2.1]) X.1 (mt_X0_bits l D A r2.2 i3 r hr) (va_cwS 1 hts (lw_S q923 q924 q81 q925) rfl rfl rfl cd_X0_bits ⟨Nat.le_of_ble_eq_true rfl, Nat.le_of_ble_eq_true rfl⟩) (zpreS X hw _) rfl rfl hl.1 rfl (lv_room (Nat.le_of_ble_eq_true rfl)) dX0_borne_43 ⟨Nat.le_of_ble_eq_true rfl, Nat.le_of_ble_eq_true rfl⟩) (fun r3 H locs hf hw => ?_)
        refine zw_icmp_lt (tgt := 52) hx hb hf dX0_borne_46 (by decide) (fun hf => ?_) (fun hf => ?_)
        · refine lv_aload_n hx hb dX0_borne_52 rfl (lv_at hl 0 rfl) ?_
          refine zw_getR X hw fs_X0_0 q252 rfl hf dX0_borne_53 (fun v4 hf => ?_)
          refine lv_iload hx hb dX0_borne_56 (lv_at hl 4 rfl) ?_
          refine zw_kC hf (fun fs hfs hf => ?_)
          refine zw_goI (rest := []) hw hf (fun r hr => va_runV (C := RX1) (As := [.int i4]) (rest := []) X.1 (mt_X1_coveredBy l D A r3.2 v4 i4 r hr) (cwV 1 hts (lw_V q940 q941 q942 q82 q943) rfl rfl rfl ⟨rfl, cd_X1_coveredBy⟩ ⟨Nat.le_of_ble_eq_true rfl, Nat.le_of_ble_eq_true rfl⟩) (zpreV (ci := 1) X hw hfs rfl _) rfl rfl hl.1 rfl (lv_room (Nat.le_of_ble_eq_true rfl)) dX0_borne_58 ⟨Nat.le_of_ble_eq_true rfl, Nat.le_of_ble_eq_true rfl⟩) (fun r5 H locs hf hw => ?_)
          refine lv_iload_n hx hb dX0_borne_61 rfl (lv_at hl 2 rfl) ?_
          refine zw_icmp_ne (tgt := 70) hx hb hf dX0_borne_62 (by decide) (fun hf => ?_) (fun hf => ?_)
          · refine lv_iload_n hx hb dX0_borne_70 rfl (lv_at hl 3 rfl) ?_
            refine lv_istore_n (lv' := [(3, .int i3), (0, .ref a0), (1, .int i1), (2, .int i2), (4, .int i4)]) hx hb dX0_borne_71 rfl hl (by decide) rfl (fun ls hl => ?_)
            refine zw_nmS hf (fun v6 ev6 hf => ?_)
            refine lv_iinc (k := 4) (v := v6) (lv' := [(4, .int v6), (3, .int i3), (0, .ref a0), (1, .int i1), (2, .int i2)]) hx hb dX0_borne_72 hl rfl (by rw [ev6]; rfl) (by decide) rfl (fun ls hl => ?_)
            refine lv_goto (tgt := 22) hx hb dX0_borne_75 (by decide) ?_
            exact ih r5.2 a0 i1 i2 i3 v6 _ _ _ hf hw (lv_sub hl [2, 3, 4, 1, 0] rfl)
          · refine lv_iload hx hb dX0_borne_65 (lv_at hl 4 rfl) ?_
            refine lv_goto (tgt := 71) hx hb dX0_borne_67 (by decide) ?_
            refine lv_istore_n (lv' := [(3, .int i4), (0, .ref a0), (1, .int i1), (2, .int i2), (4, .int i4)]) hx hb dX0_borne_71 rfl hl (by decide) rfl (fun ls hl => ?_)
            refine zw_nmS hf (fun v7 ev7 hf => ?_)
            refine lv_iinc (k := 4) (v := v7) (lv' := [(4, .int v7), (3, .int i4), (0, .ref a0), (1, .int i1), (2, .int i2)]) hx hb dX0_borne_72 hl rfl (by rw [ev7]; rfl) (by decide) rfl (fun ls hl => ?_)
            refine lv_goto (tgt := 22) hx hb dX0_borne_75 (by decide) ?_
            exact ih r5.2 a0 i1 i2 i4 v7 _ _ _ hf hw (lv_sub hl [2, 3, 4, 1, 0] rfl)
        · refine lv_goto (tgt := 72) hx hb dX0_borne_49 (by decide) ?_
          refine zw_nmS hf (fun v8 ev8 hf => ?_)
          refine lv_iinc (k := 4) (v := v8) (lv' := [(4, .int v8), (0, .ref a0), (1, .int i1), (2, .int i2), (3, .int i3)]) hx hb dX0_borne_72 hl rfl (by rw [ev8]; rfl) (by decide) rfl (fun ls hl => ?_)
          refine lv_goto (tgt := 22) hx hb dX0_borne_75 (by decide) ?_
          exact ih r3.2 a0 i1 i2 i3 v8 _ _ _ hf hw (lv_sub hl [1, 2, 3, 4, 0] rfl)
set_option maxHeartbeats 4000000 in
theorem mt_X0_borne (l : Launch) (D : va_G) (A : Nat → Prop) (h : zT) (a0 : Nat) (res : Int32 × zT) (hf : f_X0_borne h a0 = some res) : Met l yX0_borne (ws_ yX0_borne cX0_borne 5 (Option.some FieldType.int)) rm_X0_borne (zPW D A (zEv A) h [.ref a0]) (zQW D A (some (.int res.1)) res.2) 0 0 A := by
  refine zmt (zEv_ok A) (by decide) (Nat.le_of_ble_eq_true rfl) ?_
  intro p e s m below meth c ls hmn X hw hl
  have hl : lv_has ls 5 [(0, .ref a0)] := hl
  have hx := X.1.1
  have hb := X.1.2.1
  have hown := X.1.2.2.2.1
  have hts := X.1.2.2.2.2
  have hN := X.2.2.2.2.2.2.1
  have hDW := X.2.2.2.2.2.2.2.1
  have hAO := X.2.2.2.2.2.2.2.2.1
  have hNC := X.2.2.2.2.2.2.2.2.2.1
  unfold f_X0_borne at hf
  refine lv_aload_n hx hb dX0_borne_0 rfl (lv_at hl 0 rfl) ?_
  refine zw_getR X hw fs_X0_0 q252 rfl hf dX0_borne_1 (fun v1 hf => ?_)
  refine zw_kC hf (fun fs hfs hf => ?_)
  refine zw_goI (rest := []) hw hf (fun r hr => va_runV (C := RX1) (As := []) (rest := []) X.1 (mt_X1_laid l D A h v1 r hr) (cwV 0 hts (lw_V q919 q920 q921 q82 q922) rfl rfl rfl ⟨rfl, cd_X1_laid⟩ ⟨Nat.le_of_ble_eq_true rfl, Nat.le_of_ble_eq_true rfl⟩) (zpreV (ci := 1) X hw hfs rfl _) rfl rfl hl.1 rfl (lv_room (Nat.le_of_ble_eq_true rfl)) dX0_borne_4 ⟨Nat.le_of_ble_eq_true rfl, Nat.le_of_ble_eq_true rfl⟩) (fun r2 H locs hf hw => ?_)
  refine lv_istore_n (lv' := [(1, .int r2.1), (0, .ref a0)]) hx hb dX0_borne_7 rfl hl (by decide) rfl (fun ls hl => ?_)
  refine lv_aload_n hx hb dX0_borne_8 rfl (lv_at hl 1 rfl) ?_
  refine zw_getR X hw fs_X0_0 q252 rfl hf dX0_borne_9 (fun v3 hf => ?_)
  refine lv_iload_n hx hb dX0_borne_12 rfl (lv_at hl 0 rfl) ?_
  refine zw_kC hf (fun fs hfs hf => ?_)
  refine zw_goI (rest := []) hw hf (fun r hr => va_runV (C := RX1) (As := [.int r2.1]) (rest := []) X.1 (mt_X1_coveredBy l D A r2.2 v3 r2.1 r hr) (cwV 1 hts (lw_V q940 q941 q942 q82 q943) rfl rfl rfl ⟨rfl, cd_X1_coveredBy⟩ ⟨Nat.le_of_ble_eq_true rfl, Nat.le_of_ble_eq_true rfl⟩) (zpreV (ci := 1) X hw hfs rfl _) rfl rfl hl.1 rfl (lv_room (Nat.le_of_ble_eq_true rfl)) dX0_borne_13 ⟨Nat.le_of_ble_eq_true rfl, Nat.le_of_ble_eq_true rfl⟩) (fun r4 H locs hf hw => ?_)
  refine lv_istore_n (lv' := [(2, .int r4.1), (1, .int r2.1), (0, .ref a0)]) hx hb dX0_borne_16 rfl hl (by decide) rfl (fun ls hl => ?_)
  refine lv_iload_n hx hb dX0_borne_17 rfl (lv_at hl 1 rfl) ?_
  refine lv_istore_n (lv' := [(3, .int r2.1), (2, .int r4.1), (1, .int r2.1), (0, .ref a0)]) hx hb dX0_borne_18 rfl hl (by decide) rfl (fun ls hl => ?_)
  refine lv_iconst (v := (0 : Int32)) hx hb dX0_borne_19 (by decide) ?_
  refine lv_istore (lv' := [(4, .int (0 : Int32)), (3, .int r2.1), (2, .int r4.1), (1, .int r2.1), (0, .ref a0)]) hx hb dX0_borne_20 hl (by decide) rfl (fun ls hl => ?_)
  exact k_X0_borne_22 X _ 4096 r4.2 a0 r2.1 r4.1 r2.1 (0 : Int32) _ _ _ hf hw (lv_sub hl [4, 3, 2, 1, 0] rfl)
set_option maxHeartbeats 4000000 in
theorem k_X0_falseOnes_4 {p : Program} {l : Launch} {e : Env} {s : State} {m : MethodId} {args : Array Value} {below : List Frame} {meth : Method} {c : Code} {D : va_G} {A : Nat → Prop} (X : zCx p s m args meth c D A (zEv A) cX0_falseOnes 4 RX0 (Option.some FieldType.int)) (res : Int32 × zT) : ∀ (n : Nat), ∀ (h : zT) (a0 : Nat) (i1 : Int32) (i2 : Int32) (i3 : Int32) (H : Heap) (locs : List Loc) (ls : Array Slot), f_X0_falseOnes_4 n h a0 i1 i2 i3 = some res → zWh D A s H h locs → lv_has ls 4 [(0, .ref a0), (1, .int i1), (2, .int i2), (3, .int i3)] → W p l e rm_X0_falseOnes s m args below meth c H locs 0 0 (MQ below (zQW D A (some (.int res.1)) res.2) args s 0 0 A) (F0 m 4 ls []) := by
  have hx := X.1.1
  have hb := X.1.2.1
  have hown := X.1.2.2.2.1
  have hts := X.1.2.2.2.2
  have hN := X.2.2.2.2.2.2.1
  have hDW := X.2.2.2.2.2.2.2.1
  have hAO := X.2.2.2.2.2.2.2.2.1
  have hNC := X.2.2.2.2.2.2.2.2.2.1
  intro n
  induction n with
  | zero =>
    intro h a0 i1 i2 i3 H locs ls hf hw hl
    cases hf
  | succ n ih =>
    intro h a0 i1 i2 i3 H locs ls hf hw hl
    unfold f_X0_falseOnes_4 at hf
    refine lv_iload_n hx hb dX0_falseOnes_4 rfl (lv_at hl 3 rfl) ?_
    refine lv_aload_n hx hb dX0_falseOnes_5 rfl (lv_at hl 0 rfl) ?_
    refine zw_getR X hw fs_X0_0 q252 rfl hf dX0_falseOnes_6 (fun v1 hf => ?_)
    refine zw_getIN X hw fs_X1_1 (hN _ nq129) rfl hf dX0_falseOnes_9 (fun v2 hf => ?_)
    refine zw_icmp_ge (tgt := 41) hx hb hf dX0_falseOnes_12 (by decide) (fun hf => ?_) (fun hf => ?_)
    · refine lv_iload_n hx hb dX0_falseOnes_41 rfl (lv_at hl 2 rfl) ?_
      exact zw_iret X hw hf (Nat.le_of_ble_eq_true rfl) (Nat.le_of_ble_eq_true rfl) dX0_falseOnes_42
    · refine lv_iload_n hx hb dX0_falseOnes_15 rfl (lv_at hl 2 rfl) ?_
      refine lv_aload_n hx hb dX0_falseOnes_16 rfl (lv_at hl 0 rfl) ?_
      refine zw_getR X hw fs_X0_0 q252 rfl hf dX0_falseOnes_17 (fun v3 hf => ?_)
      refine lv_iload_n hx hb dX0_falseOnes_20 rfl (lv_at hl 3 rfl) ?_
      refine lv_iload_n hx hb dX0_falseOnes_21 rfl (lv_at hl 1 rfl) ?_
      refine zw_kC hf (fun fs hfs hf => ?_)
      refine zw_goZ (rest := [.int i2]) hw hf (fun r hr => va_runV (C := RX1) (As := [.int i3, .int i1]) (rest := [.int i2]) X.1 (mt_X1_isFalse l D A h v3 i3 i1 r hr) (cwV 2 hts (lw_V q953 q954 q955 q82 q956) rfl rfl rfl ⟨rfl, cd_X1_isFalse⟩ ⟨Nat.le_of_ble_eq_true rfl, Nat.le_of_ble_eq_true rfl⟩) (zpreV (ci := 1) X hw hfs rfl _) rfl rfl hl.1 rfl (lv_room (Nat.le_of_ble_eq_true rfl)) dX0_falseOnes_22 ⟨Nat.le_of_ble_eq_true rfl, Nat.le_of_ble_eq_true rfl⟩) (fun r4 H locs hf hw => ?_)
      refine zw_if_eq (tgt := 32) hx hb hf dX0_falseOnes_25 (by decide) (fun hf => ?_) (fun hf => ?_)
      · refine lv_iconst (v := (0 : Int32)) hx hb dX0_falseOnes_32 (by decide) ?_
        refine lv_iadd hx hb dX0_falseOnes_33 ?_
        refine zw_nmI hf (fun v5 hf => ?_)
        refine lv_istore_n (lv' := [(2, .int v5), (0, .ref a0), (1, .int i1), (3, .int i3)]) hx hb dX0_falseOnes_34 rfl hl (by decide) rfl (fun ls hl => ?_)
        refine zw_nmS hf (fun v6 ev6 hf => ?_)
        refine lv_iinc (k := 3) (v := v6) (lv' := [(3, .int v6), (2, .int v5), (0, .ref a0), (1, .int i1)]) hx hb dX0_falseOnes_35 hl rfl (by rw [ev6]; rfl) (by decide) rfl (fun ls hl => ?_)
        refine lv_goto (tgt := 4) hx hb dX0_falseOnes_38 (by decide) ?_
        exact ih r4.2 a0 i1 v5 v6 _ _ _ hf hw (lv_sub hl [2, 3, 1, 0] rfl)
      · refine lv_iconst (v := (1 : Int32)) hx hb dX0_falseOnes_28 (by decide) ?_
        refine lv_goto (tgt := 33) hx hb dX0_falseOnes_29 (by decide) ?_
        refine lv_iadd hx hb dX0_falseOnes_33 ?_
        refine zw_nmI hf (fun v7 hf => ?_)
        refine lv_istore_n (lv' := [(2, .int v7), (0, .ref a0), (1, .int i1), (3, .int i3)]) hx hb dX0_falseOnes_34 rfl hl (by decide) rfl (fun ls hl => ?_)
        refine zw_nmS hf (fun v8 ev8 hf => ?_)
        refine lv_iinc (k := 3) (v := v8) (lv' := [(3, .int v8), (2, .int v7), (0, .ref a0), (1, .int i1)]) hx hb dX0_falseOnes_35 hl rfl (by rw [ev8]; rfl) (by decide) rfl (fun ls hl => ?_)
        refine lv_goto (tgt := 4) hx hb dX0_falseOnes_38 (by decide) ?_
        exact ih r4.2 a0 i1 v7 v8 _ _ _ hf hw (lv_sub hl [2, 3, 1, 0] rfl)
set_option maxHeartbeats 4000000 in
theorem mt_X0_falseOnes (l : Launch) (D : va_G) (A : Nat → Prop) (h : zT) (a0 : Nat) (i1 : Int32) (res : Int32 × zT) (hf : f_X0_falseOnes h a0 i1 = some res) : Met l yX0_falseOnes (ws_ yX0_falseOnes cX0_falseOnes 4 (Option.some FieldType.int)) rm_X0_falseOnes (zPW D A (zEv A) h [.ref a0, .int i1]) (zQW D A (some (.int res.1)) res.2) 0 0 A := by
  refine zmt (zEv_ok A) (by decide) (Nat.le_of_ble_eq_true rfl) ?_
  intro p e s m below meth c ls hmn X hw hl
  have hl : lv_has ls 4 [(0, .ref a0), (1, .int i1)] := hl
  have hx := X.1.1
  have hb := X.1.2.1
  have hown := X.1.2.2.2.1
  have hts := X.1.2.2.2.2
  have hN := X.2.2.2.2.2.2.1
  have hDW := X.2.2.2.2.2.2.2.1
  have hAO := X.2.2.2.2.2.2.2.2.1
  have hNC := X.2.2.2.2.2.2.2.2.2.1
  unfold f_X0_falseOnes at hf
  refine lv_iconst (v := (0 : Int32)) hx hb dX0_falseOnes_0 (by decide) ?_
  refine lv_istore_n (lv' := [(2, .int (0 : Int32)), (0, .ref a0), (1, .int i1)]) hx hb dX0_falseOnes_1 rfl hl (by decide) rfl (fun ls hl => ?_)
  refine lv_iconst (v := (0 : Int32)) hx hb dX0_falseOnes_2 (by decide) ?_
  refine lv_istore_n (lv' := [(3, .int (0 : Int32)), (2, .int (0 : Int32)), (0, .ref a0), (1, .int i1)]) hx hb dX0_falseOnes_3 rfl hl (by decide) rfl (fun ls hl => ?_)
  exact k_X0_falseOnes_4 X _ 4096 h a0 i1 (0 : Int32) (0 : Int32) _ _ _ hf hw (lv_sub hl [2, 3, 1, 0] rfl)
set_option maxHeartbeats 4000000 in
theorem k_X0_look_50 {p : Program} {l : Launch} {e : Env} {s : State} {m : MethodId} {args : Array Value} {below : List Frame} {meth : Method} {c : Code} {D : va_G} {A : Nat → Prop} (X : zCx p s m args meth c D A (zEv A) cX0_look 6 RX0 (Option.some FieldType.int)) (res : Int32 × zT) (K23 : zT → Nat → Int32 → Int32 → Int32 → Int32 → Option (Int32 × zT)) (hK23 : ∀ (h : zT) (a0 : Nat) (i1 : Int32) (i2 : Int32) (i3 : Int32) (i4 : Int32) (H : Heap) (locs : List Loc) (ls : Array Slot), K23 h a0 i1 i2 i3 i4 = some res → zWh D A s H h locs → lv_has ls 6 [(0, .ref a0), (1, .int i1), (2, .int i2), (3, .int i3), (4, .int i4)] → W p l e rm_X0_look s m args below meth c H locs 0 0 (MQ below (zQW D A (some (.int res.1)) res.2) args s 0 0 A) (F0 m 23 ls [])) : ∀ (h : zT) (a0 : Nat) (i1 : Int32) (i3 : Int32) (i4 : Int32) (i5 : Int32) (s0 : Int32) (H : Heap) (locs : List Loc) (ls : Array Slot), f_X0_look_50 K23 h a0 i1 i3 i4 i5 s0 = some res → zWh D A s H h locs → lv_has ls 6 [(0, .ref a0), (1, .int i1), (3, .int i3), (4, .int i4), (5, .int i5)] → W p l e rm_X0_look s m args below meth c H locs 0 0 (MQ below (zQW D A (some (.int res.1)) res.2) args s 0 0 A) (F0 m 50 ls [.int s0]) := by
  have hx := X.1.1
  have hb := X.1.2.1
  have hown := X.1.2.2.2.1
  have hts := X.1.2.2.2.2
  have hN := X.2.2.2.2.2.2.1
  have hDW := X.2.2.2.2.2.2.2.1
  have hAO := X.2.2.2.2.2.2.2.2.1
  have hNC := X.2.2.2.2.2.2.2.2.2.1
  intro h a0 i1 i3 i4 i5 s0 H locs ls hf hw hl
  unfold f_X0_look_50 at hf
  refine lv_istore_n (lv' := [(2, .int s0), (0, .ref a0), (1, .int i1), (3, .int i3), (4, .int i4), (5, .int i5)]) hx hb dX0_look_50 rfl hl (by decide) rfl (fun ls hl => ?_)
  refine lv_iload_n hx hb dX0_look_51 rfl (lv_at hl 3 rfl) ?_
  refine lv_iload hx hb dX0_look_52 (lv_at hl 5 rfl) ?_
  refine va_mmax (rest := []) hx hb (by rw [X.1.2.2.1]; exact hl.1.symm) hown (hts _ q702) (hts _ q703) (hts _ q96) (hts _ q704) (Nat.le_of_ble_eq_true rfl) (Nat.le_of_ble_eq_true rfl) (Nat.le_of_ble_eq_true rfl) (Nat.le_of_ble_eq_true rfl) dX0_look_54 ?_
  refine zw_nmI hf (fun v1 hf => ?_)
  refine lv_istore_n (lv' := [(3, .int v1), (2, .int s0), (0, .ref a0), (1, .int i1), (4, .int i4), (5, .int i5)]) hx hb dX0_look_57 rfl hl (by decide) rfl (fun ls hl => ?_)
  refine zw_nmS hf (fun v2 ev2 hf => ?_)
  refine lv_iinc (k := 4) (v := v2) (lv' := [(4, .int v2), (3, .int v1), (2, .int s0), (0, .ref a0), (1, .int i1), (5, .int i5)]) hx hb dX0_look_58 hl rfl (by rw [ev2]; rfl) (by decide) rfl (fun ls hl => ?_)
  refine lv_goto (tgt := 23) hx hb dX0_look_61 (by decide) ?_
  exact hK23 h a0 i1 s0 v1 v2 _ _ _ hf hw (lv_sub hl [3, 4, 2, 1, 0] rfl)
set_option maxHeartbeats 4000000 in
theorem k_X0_look_23 {p : Program} {l : Launch} {e : Env} {s : State} {m : MethodId} {args : Array Value} {below : List Frame} {meth : Method} {c : Code} {D : va_G} {A : Nat → Prop} (X : zCx p s m args meth c D A (zEv A) cX0_look 6 RX0 (Option.some FieldType.int)) (res : Int32 × zT) : ∀ (n : Nat), ∀ (h : zT) (a0 : Nat) (i1 : Int32) (i2 : Int32) (i3 : Int32) (i4 : Int32) (H : Heap) (locs : List Loc) (ls : Array Slot), f_X0_look_23 n h a0 i1 i2 i3 i4 = some res → zWh D A s H h locs → lv_has ls 6 [(0, .ref a0), (1, .int i1), (2, .int i2), (3, .int i3), (4, .int i4)] → W p l e rm_X0_look s m args below meth c H locs 0 0 (MQ below (zQW D A (some (.int res.1)) res.2) args s 0 0 A) (F0 m 23 ls []) := by
  have hx := X.1.1
  have hb := X.1.2.1
  have hown := X.1.2.2.2.1
  have hts := X.1.2.2.2.2
  have hN := X.2.2.2.2.2.2.1
  have hDW := X.2.2.2.2.2.2.2.1
  have hAO := X.2.2.2.2.2.2.2.2.1
  have hNC := X.2.2.2.2.2.2.2.2.2.1
  intro n
  induction n with
  | zero =>
    intro h a0 i1 i2 i3 i4 H locs ls hf hw hl
    cases hf
  | succ n ih =>
    intro h a0 i1 i2 i3 i4 H locs ls hf hw hl
    unfold f_X0_look_23 at hf
    refine lv_iload hx hb dX0_look_23 (lv_at hl 4 rfl) ?_
    refine lv_bipush (v := (16 : Int32)) hx hb dX0_look_25 (by decide) ?_
    refine zw_icmp_ge (tgt := 64) hx hb hf dX0_look_27 (by decide) (fun hf => ?_) (fun hf => ?_)
    · refine lv_iload_n hx hb dX0_look_64 rfl (lv_at hl 1 rfl) ?_
      refine zw_if_ne (tgt := 72) hx hb hf dX0_look_65 (by decide) (fun hf => ?_) (fun hf => ?_)
      · refine lv_iload_n hx hb dX0_look_72 rfl (lv_at hl 3 rfl) ?_
        exact zw_iret X hw hf (Nat.le_of_ble_eq_true rfl) (Nat.le_of_ble_eq_true rfl) dX0_look_73
      · refine lv_iload_n hx hb dX0_look_68 rfl (lv_at hl 2 rfl) ?_
        refine lv_goto (tgt := 73) hx hb dX0_look_69 (by decide) ?_
        exact zw_iret X hw hf (Nat.le_of_ble_eq_true rfl) (Nat.le_of_ble_eq_true rfl) dX0_look_73
    · refine lv_aload_n hx hb dX0_look_30 rfl (lv_at hl 0 rfl) ?_
      refine lv_iload hx hb dX0_look_31 (lv_at hl 4 rfl) ?_
      refine zw_kC hf (fun fs hfs hf => ?_)
      refine zw_goI (rest := []) hw hf (fun r hr => va_runV (C := RX0) (As := [.int i4]) (rest := []) X.1 (mt_X0_falseOnes l D A h a0 i4 r hr) (cwV 1 hts (lw_V q949 q951 qs28 q81 q952) rfl rfl rfl ⟨rfl, cd_X0_falseOnes⟩ ⟨Nat.le_of_ble_eq_true rfl, Nat.le_of_ble_eq_true rfl⟩) (zpreV (ci := 0) X hw hfs rfl _) rfl rfl hl.1 rfl (lv_room (Nat.le_of_ble_eq_true rfl)) dX0_look_33 ⟨Nat.le_of_ble_eq_true rfl, Nat.le_of_ble_eq_true rfl⟩) (fun r1 H locs hf hw => ?_)
      refine lv_istore (lv' := [(5, .int r1.1), (0, .ref a0), (1, .int i1), (2, .int i2), (3, .int i3), (4, .int i4)]) hx hb dX0_look_36 hl (by decide) rfl (fun ls hl => ?_)
      refine lv_iload hx hb dX0_look_38 (lv_at hl 0 rfl) ?_
      refine lv_iload_n hx hb dX0_look_40 rfl (lv_at hl 4 rfl) ?_
      refine zw_icmp_le (tgt := 49) hx hb hf dX0_look_41 (by decide) (fun hf => ?_) (fun hf => ?_)
      · refine lv_iload_n hx hb dX0_look_49 rfl (lv_at hl 3 rfl) ?_
        exact k_X0_look_50 X _ (f_X0_look_23 n) ih r1.2 a0 i1 i3 i4 r1.1 i2 _ _ _ hf hw (lv_sub hl [1, 2, 4, 5, 0] rfl)
      · refine lv_iload hx hb dX0_look_44 (lv_at hl 5 rfl) ?_
        refine lv_goto (tgt := 50) hx hb dX0_look_46 (by decide) ?_
        exact k_X0_look_50 X _ (f_X0_look_23 n) ih r1.2 a0 i1 i3 i4 r1.1 i4 _ _ _ hf hw (lv_sub hl [1, 2, 4, 5, 0] rfl)
set_option maxHeartbeats 4000000 in
theorem mt_X0_look (l : Launch) (D : va_G) (A : Nat → Prop) (h : zT) (a0 : Nat) (i1 : Int32) (res : Int32 × zT) (hf : f_X0_look h a0 i1 = some res) : Met l yX0_look (ws_ yX0_look cX0_look 6 (Option.some FieldType.int)) rm_X0_look (zPW D A (zEv A) h [.ref a0, .int i1]) (zQW D A (some (.int res.1)) res.2) 0 0 A := by
  refine zmt (zEv_ok A) (by decide) (Nat.le_of_ble_eq_true rfl) ?_
  intro p e s m below meth c ls hmn X hw hl
  have hl : lv_has ls 6 [(0, .ref a0), (1, .int i1)] := hl
  have hx := X.1.1
  have hb := X.1.2.1
  have hown := X.1.2.2.2.1
  have hts := X.1.2.2.2.2
  have hN := X.2.2.2.2.2.2.1
  have hDW := X.2.2.2.2.2.2.2.1
  have hAO := X.2.2.2.2.2.2.2.2.1
  have hNC := X.2.2.2.2.2.2.2.2.2.1
  unfold f_X0_look at hf
  refine lv_iload_n hx hb dX0_look_0 rfl (lv_at hl 1 rfl) ?_
  refine lv_iconst (v := (0 : Int32)) hx hb dX0_look_1 (by decide) ?_
  refine lv_iconst (v := (1 : Int32)) hx hb dX0_look_2 (by decide) ?_
  refine zw_goZ (rest := []) hw hf (fun r hr => va_runS (As := [.int i1, .int (0 : Int32), .int (1 : Int32)]) (rest := []) X.1 (mt_X0_isIn l D A h i1 (0 : Int32) (1 : Int32) r hr) (va_cwS 3 hts (lw_S q339 q340 q81 q341) rfl rfl rfl cd_X0_isIn ⟨Nat.le_of_ble_eq_true rfl, Nat.le_of_ble_eq_true rfl⟩) (zpreS X hw _) rfl rfl hl.1 rfl (lv_room (Nat.le_of_ble_eq_true rfl)) dX0_look_3 ⟨Nat.le_of_ble_eq_true rfl, Nat.le_of_ble_eq_true rfl⟩) (fun r1 H locs hf hw => ?_)
  refine zw_if_ne (tgt := 12) hx hb hf dX0_look_6 (by decide) (fun hf => ?_) (fun hf => ?_)
  · refine lv_iconst (v := (0 : Int32)) hx hb dX0_look_12 (by decide) ?_
    refine lv_istore_n (lv' := [(2, .int (0 : Int32)), (0, .ref a0), (1, .int i1)]) hx hb dX0_look_13 rfl hl (by decide) rfl (fun ls hl => ?_)
    refine lv_aload_n hx hb dX0_look_14 rfl (lv_at hl 1 rfl) ?_
    refine lv_iconst (v := (0 : Int32)) hx hb dX0_look_15 (by decide) ?_
    refine zw_kC hf (fun fs hfs hf => ?_)
    refine zw_goI (rest := []) hw hf (fun r hr => va_runV (C := RX0) (As := [.int (0 : Int32)]) (rest := []) X.1 (mt_X0_falseOnes l D A r1.2 a0 (0 : Int32) r hr) (cwV 1 hts (lw_V q949 q951 qs28 q81 q952) rfl rfl rfl ⟨rfl, cd_X0_falseOnes⟩ ⟨Nat.le_of_ble_eq_true rfl, Nat.le_of_ble_eq_true rfl⟩) (zpreV (ci := 0) X hw hfs rfl _) rfl rfl hl.1 rfl (lv_room (Nat.le_of_ble_eq_true rfl)) dX0_look_16 ⟨Nat.le_of_ble_eq_true rfl, Nat.le_of_ble_eq_true rfl⟩) (fun r2 H locs hf hw => ?_)
    refine lv_istore_n (lv' := [(3, .int r2.1), (2, .int (0 : Int32)), (0, .ref a0), (1, .int i1)]) hx hb dX0_look_19 rfl hl (by decide) rfl (fun ls hl => ?_)
    refine lv_iconst (v := (1 : Int32)) hx hb dX0_look_20 (by decide) ?_
    refine lv_istore (lv' := [(4, .int (1 : Int32)), (3, .int r2.1), (2, .int (0 : Int32)), (0, .ref a0), (1, .int i1)]) hx hb dX0_look_21 hl (by decide) rfl (fun ls hl => ?_)
    exact k_X0_look_23 X _ 4096 r2.2 a0 i1 (0 : Int32) r2.1 (1 : Int32) _ _ _ hf hw (lv_sub hl [3, 4, 2, 1, 0] rfl)
  · refine lv_ldc (v := (-1000000001 : Int32)) hx hb hown (hts _ q342) dX0_look_9 ?_
    exact zw_iret X hw hf (Nat.le_of_ble_eq_true rfl) (Nat.le_of_ble_eq_true rfl) dX0_look_11
