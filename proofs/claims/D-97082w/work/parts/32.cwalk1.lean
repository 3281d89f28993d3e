/-! The component: the walks (gen/comp.py) -/
set_option maxRecDepth 100000
set_option maxHeartbeats 4000000 in
theorem mt_X3_at (l : Launch) (D : va_G) (A : Nat → Prop) (h : zT) (a0 : Nat) (i1 : Int32) (res : Int32 × zT) (hf : f_X3_at h a0 i1 = some res) : Met l yX3_at (ws_ yX3_at cX3_at 2 (Option.some FieldType.int)) rm_X3_at (zPW D A (zEv A) h [.ref a0, .int i1]) (zQW D A (some (.int res.1)) res.2) 0 0 A := by
  refine zmt (zEv_ok A) (by decide) (Nat.le_of_ble_eq_true rfl) ?_
  intro p e s m below meth c ls hmn X hw hl
  have hl : lv_has ls 2 [(0, .ref a0), (1, .int i1)] := hl
  have hx := X.1.1
  have hb := X.1.2.1
  have hown := X.1.2.2.2.1
  have hts := X.1.2.2.2.2
  have hN := X.2.2.2.2.2.2.1
  have hDW := X.2.2.2.2.2.2.2.1
  have hAO := X.2.2.2.2.2.2.2.2.1
  have hNC := X.2.2.2.2.2.2.2.2.2.1
  unfold f_X3_at at hf
  refine lv_aload_n hx hb dX3_at_0 rfl (lv_at hl 0 rfl) ?_
  refine zw_kC hf (fun fs hfs hf => ?_)
  refine zw_goZ (rest := []) hw hf (fun r hr => va_runV (C := RX3) (As := []) (rest := []) X.1 (mt_X3_isFloats l D A h a0 r hr) (cwV 0 hts (lw_V q1106 q1107 q1108 q87 q1109) rfl rfl rfl ⟨rfl, cd_X3_isFloats⟩ ⟨Nat.le_of_ble_eq_true rfl, Nat.le_of_ble_eq_true rfl⟩) (zpreV (ci := 3) X hw hfs rfl _) rfl rfl hl.1 rfl (lv_room (Nat.le_of_ble_eq_true rfl)) dX3_at_1 ⟨Nat.le_of_ble_eq_true rfl, Nat.le_of_ble_eq_true rfl⟩) (fun r1 H locs hf hw => ?_)
  refine zw_if_eq (tgt := 20) hx hb hf dX3_at_4 (by decide) (fun hf => ?_) (fun hf => ?_)
  · refine lv_aload_n hx hb dX3_at_20 rfl (lv_at hl 0 rfl) ?_
    refine zw_getQ X hw fs_X3_0 q235 rfl hf dX3_at_21 (fun v2 hf => ?_)
    refine zw_nn hf (fun b3 e9 hf9 => ?_)
    subst e9
    have hf := hf9
    refine zw_castA (t := .short) X hw q1111 znm_S hf dX3_at_24 (fun hf => ?_)
    refine lv_iload_n hx hb dX3_at_27 rfl (lv_at hl 1 rfl) ?_
    refine zw_saload X hw hf dX3_at_28 (fun v4 hf => ?_)
    exact zw_iret X hw hf (Nat.le_of_ble_eq_true rfl) (Nat.le_of_ble_eq_true rfl) dX3_at_29
  · refine lv_aload_n hx hb dX3_at_7 rfl (lv_at hl 0 rfl) ?_
    refine zw_getQ X hw fs_X3_0 q235 rfl hf dX3_at_8 (fun v5 hf => ?_)
    refine zw_nn hf (fun b6 e9 hf9 => ?_)
    subst e9
    have hf := hf9
    refine zw_castA (t := .float) X hw q1110 znm_F hf dX3_at_11 (fun hf => ?_)
    refine lv_iload_n hx hb dX3_at_14 rfl (lv_at hl 1 rfl) ?_
    refine zw_faload X hw hf dX3_at_15 (fun v7 hf => ?_)
    refine lv_f2i hx hb dX3_at_16 ?_
    refine lv_goto (tgt := 29) hx hb dX3_at_17 (by decide) ?_
    exact zw_iret X hw hf (Nat.le_of_ble_eq_true rfl) (Nat.le_of_ble_eq_true rfl) dX3_at_29
set_option maxHeartbeats 4000000 in
theorem mt_X4_init (l : Launch) (D : va_G) (A : Nat → Prop) (h : zT) (a0 : Nat) (res : zT) (hf : f_X4_init h a0 = some res) : Met l yX4_init (ws_ yX4_init cX4_init 1 (Option.none : Option FieldType)) rm_X4_init (zPW D A (zEv A) h [.ref a0]) (zQW D A none res) 0 0 A := by
  refine zmt (zEv_ok A) (by decide) (Nat.le_of_ble_eq_true rfl) ?_
  intro p e s m below meth c ls hmn X hw hl
  have hl : lv_has ls 1 [(0, .ref a0)] := hl
  have hx := X.1.1
  have hb := X.1.2.1
  have hown := X.1.2.2.2.1
  have hts := X.1.2.2.2.2
  have hN := X.2.2.2.2.2.2.1
  have hDW := X.2.2.2.2.2.2.2.1
  have hAO := X.2.2.2.2.2.2.2.2.1
  have hNC := X.2.2.2.2.2.2.2.2.2.1
  have hin : meth.name = "<init>" := hmn
  unfold f_X4_init at hf
  refine lv_aload_n hx hb dX4_init_0 rfl (lv_at hl 0 rfl) ?_
  refine W.objInit hx hb hown (hts _ q246) (hts _ q114) (hts _ q115) rfl (by rw [X.1.2.2.1]; exact hl.1) rfl dX4_init_1 (Nat.le_of_ble_eq_true rfl) (Nat.le_of_ble_eq_true rfl) ?_
  refine W.eq (g2 := F0 m 4 ls []) rfl ?_
  exact zw_vret X hw hf (Nat.le_of_ble_eq_true rfl) (Nat.le_of_ble_eq_true rfl) dX4_init_4
set_option maxHeartbeats 4000000 in
theorem mt_X4_thing (l : Launch) (D : va_G) (A : Nat → Prop) (h : zT) (a0 : Nat) (res : Int32 × zT) (hf : f_X4_thing h a0 = some res) : Met l yX4_thing (ws_ yX4_thing cX4_thing 1 (Option.some FieldType.int)) rm_X4_thing (zPW D A (zEv A) h [.ref a0]) (zQW D A (some (.int res.1)) res.2) 0 0 A := by
  refine zmt (zEv_ok A) (by decide) (Nat.le_of_ble_eq_true rfl) ?_
  intro p e s m below meth c ls hmn X hw hl
  have hl : lv_has ls 1 [(0, .ref a0)] := hl
  have hx := X.1.1
  have hb := X.1.2.1
  have hown := X.1.2.2.2.1
  have hts := X.1.2.2.2.2
  have hN := X.2.2.2.2.2.2.1
  have hDW := X.2.2.2.2.2.2.2.1
  have hAO := X.2.2.2.2.2.2.2.2.1
  have hNC := X.2.2.2.2.2.2.2.2.2.1
  unfold f_X4_thing at hf
  refine lv_aload_n hx hb dX4_thing_0 rfl (lv_at hl 0 rfl) ?_
  refine zw_getQ X hw fs_X4_0 q247 rfl hf dX4_thing_1 (fun v1 hf => ?_)
  refine zw_ifnonnull (tgt := 11) hx hb hf dX4_thing_4 (by decide) (fun hf => ?_) (fun hf => ?_)
  · refine lv_aload_n hx hb dX4_thing_11 rfl (lv_at hl 0 rfl) ?_
    refine zw_getQ X hw fs_X4_0 q247 rfl hf dX4_thing_12 (fun v2 hf => ?_)
    refine zw_instO (t := 6) (x := v2) X hw (by decide) rfl rfl q1170 hf dX4_thing_15 (fun v3 hf => ?_)
    refine zw_if_eq (tgt := 25) hx hb hf dX4_thing_18 (by decide) (fun hf => ?_) (fun hf => ?_)
    · refine lv_aload_n hx hb dX4_thing_25 rfl (lv_at hl 0 rfl) ?_
      refine zw_getQ X hw fs_X4_0 q247 rfl hf dX4_thing_26 (fun v4 hf => ?_)
      refine zw_instO (t := 3) (x := v4) X hw (by decide) rfl rfl q1171 hf dX4_thing_29 (fun v5 hf => ?_)
      refine zw_if_eq (tgt := 39) hx hb hf dX4_thing_32 (by decide) (fun hf => ?_) (fun hf => ?_)
      · refine lv_iconst (v := (3 : Int32)) hx hb dX4_thing_39 (by decide) ?_
        exact zw_iret X hw hf (Nat.le_of_ble_eq_true rfl) (Nat.le_of_ble_eq_true rfl) dX4_thing_40
      · refine lv_iconst (v := (2 : Int32)) hx hb dX4_thing_35 (by decide) ?_
        refine lv_goto (tgt := 40) hx hb dX4_thing_36 (by decide) ?_
        exact zw_iret X hw hf (Nat.le_of_ble_eq_true rfl) (Nat.le_of_ble_eq_true rfl) dX4_thing_40
    · refine lv_iconst (v := (1 : Int32)) hx hb dX4_thing_21 (by decide) ?_
      refine lv_goto (tgt := 40) hx hb dX4_thing_22 (by decide) ?_
      exact zw_iret X hw hf (Nat.le_of_ble_eq_true rfl) (Nat.le_of_ble_eq_true rfl) dX4_thing_40
  · refine lv_iconst (v := (0 : Int32)) hx hb dX4_thing_7 (by decide) ?_
    refine lv_goto (tgt := 40) hx hb dX4_thing_8 (by decide) ?_
    exact zw_iret X hw hf (Nat.le_of_ble_eq_true rfl) (Nat.le_of_ble_eq_true rfl) dX4_thing_40
set_option maxHeartbeats 4000000 in
theorem vd_X6_29 {p : Program} {l : Launch} {e : Env} {R : Room} {s : State} {m : MethodId} {args : Array Value} {below : List Frame} {meth : Method} {c : Code} {H : Heap} {locs : List Loc} {cells slots : Nat} {Q : State → Prop} {D : va_G} {A : Nat → Prop} {cc : ByteArray} {nL : Nat} {ret : Option FieldType} {pc : Nat} {ls : Array Slot} {rest : List Value} {β : Type} {res : β} {K : Nat × zT → Option β} {st0 : List Value} (h : zT) (b : Nat) (X : zCx p s m args meth c D A (zEv A) cc nL RX6 ret) (hw : zWh D A s H h locs) (hl : ls.size = nL) (hf : (fd_another h b).bind K = some res) (hRf : 8 ≤ R.frames) (hRl : 200 ≤ R.locals) (hrest : (rest.map fun v => v.category).sum ≤ 8) (hstk : st0 = ([] : List Value).reverse ++ .ref b :: rest) (hdg : decode cc pc = .ok (.invokevirtual 29, 3)) (hc : cells + 1 ≤ R.cells ∧ slots + 5 ≤ R.slots) (kk : ∀ (r : Nat × zT) (H1 : Heap) (locs1 : List Loc), K r = some res → zWh D A s H1 (r.2) locs1 → W p l e R s m args below meth c H1 locs1 (cells + 1) (slots + 5) Q (F0 m (pc + 3) ls (.ref r.1 :: rest))) : W p l e R s m args below meth c H locs cells slots Q (F0 m pc ls st0) := by
  have hts := X.1.2.2.2.2
  have hN := X.2.2.2.2.2.2.1
  have hDW := X.2.2.2.2.2.2.2.1
  obtain ⟨r, h1, hf⟩ := zbd hf
  unfold fd_another at h1
  obtain ⟨⟨ci, fs⟩, ho, h1⟩ := zbd h1
  have ho := zh_O_eq ho
  dsimp only at h1
  by_cases c6 : ci = 6
  · subst c6
    rw [if_pos rfl] at h1
    exact zw_call (va_runV (C := RX6) (As := []) (rest := rest) X.1 (mt_X6_another l D A h b r h1) (cwV 0 hts (lw_V q1182 q1004 q1005 q90 q1032) rfl rfl rfl ⟨rfl, cd_X6_another⟩ ⟨Nat.le_trans (Nat.le_of_ble_eq_true rfl) hRf, Nat.le_trans (Nat.le_of_ble_eq_true rfl) hRl⟩) (zpreV (ci := 6) X hw ho rfl _) rfl rfl hl hstk (lv_room hrest) hdg hc) hw (fun H1 locs1 hw1 => kk r H1 locs1 hf hw1)
  rw [if_neg c6] at h1
  by_cases c7 : ci = 7
  · subst c7
    rw [if_pos rfl] at h1
    exact zw_call (va_runU (C := RX7) (owner := RX6) (x := yX6_another) (As := []) (rest := rest) X.1 (mt_X7_another l D A h b r h1) (va_cwO 0 hts (zlw_O q1182 q1006 q1004 q1007 q1008 q91 q1009) rfl rfl rfl q1032 cd_X6_another ⟨Nat.le_trans (Nat.le_of_ble_eq_true rfl) hRf, Nat.le_trans (Nat.le_of_ble_eq_true rfl) hRl⟩) (zpreV (ci := 7) X hw ho rfl _) rfl rfl hl hstk (lv_room hrest) hdg hc) hw (fun H1 locs1 hw1 => kk r H1 locs1 hf hw1)
  rw [if_neg c7] at h1
  by_cases c8 : ci = 8
  · subst c8
    rw [if_pos rfl] at h1
    exact zw_call (va_runU (C := RX8) (owner := RX6) (x := yX6_another) (As := []) (rest := rest) X.1 (mt_X8_another l D A h b r h1) (va_cwO 0 hts (zlw_O q1182 q1006 q1004 q1017 q1018 q92 q1019) rfl rfl rfl q1032 cd_X6_another ⟨Nat.le_trans (Nat.le_of_ble_eq_true rfl) hRf, Nat.le_trans (Nat.le_of_ble_eq_true rfl) hRl⟩) (zpreV (ci := 8) X hw ho rfl _) rfl rfl hl hstk (lv_room hrest) hdg hc) hw (fun H1 locs1 hw1 => kk r H1 locs1 hf hw1)
  rw [if_neg c8] at h1
  by_cases c9 : ci = 9
  · subst c9
    rw [if_pos rfl] at h1
    exact zw_call (va_runU (C := RX9) (owner := RX6) (x := yX6_another) (As := []) (rest := rest) X.1 (mt_X9_another l D A h b r h1) (va_cwO 0 hts (zlw_O q1182 q1006 q1004 q1027 q1028 q93 q1029) rfl rfl rfl q1032 cd_X6_another ⟨Nat.le_trans (Nat.le_of_ble_eq_true rfl) hRf, Nat.le_trans (Nat.le_of_ble_eq_true rfl) hRl⟩) (zpreV (ci := 9) X hw ho rfl _) rfl rfl hl hstk (lv_room hrest) hdg hc) hw (fun H1 locs1 hw1 => kk r H1 locs1 hf hw1)
  rw [if_neg c9] at h1
  by_cases c10 : ci = 10
  · subst c10
    rw [if_pos rfl] at h1
    exact zw_call (va_runU (C := RX10) (owner := RX6) (x := yX6_another) (As := []) (rest := rest) X.1 (mt_X10_another l D A h b r h1) (va_cwO 0 hts (zlw_O q1182 q1006 q1004 q1012 q1013 q94 q1014) rfl rfl rfl q1032 cd_X6_another ⟨Nat.le_trans (Nat.le_of_ble_eq_true rfl) hRf, Nat.le_trans (Nat.le_of_ble_eq_true rfl) hRl⟩) (zpreV (ci := 10) X hw ho rfl _) rfl rfl hl hstk (lv_room hrest) hdg hc) hw (fun H1 locs1 hw1 => kk r H1 locs1 hf hw1)
  rw [if_neg c10] at h1
  by_cases c11 : ci = 11
  · subst c11
    rw [if_pos rfl] at h1
    exact zw_call (va_runU (C := RX11) (owner := RX6) (x := yX6_another) (As := []) (rest := rest) X.1 (mt_X11_another l D A h b r h1) (va_cwO 0 hts (zlw_O q1182 q1006 q1004 q1022 q1023 q95 q1024) rfl rfl rfl q1032 cd_X6_another ⟨Nat.le_trans (Nat.le_of_ble_eq_true rfl) hRf, Nat.le_trans (Nat.le_of_ble_eq_true rfl) hRl⟩) (zpreV (ci := 11) X hw ho rfl _) rfl rfl hl hstk (lv_room hrest) hdg hc) hw (fun H1 locs1 hw1 => kk r H1 locs1 hf hw1)
  rw [if_neg c11] at h1
  cases h1
set_option maxHeartbeats 4000000 in
theorem vd_X6_33 {p : Program} {l : Launch} {e : Env} {R : Room} {s : State} {m : MethodId} {args : Array Value} {below : List Frame} {meth : Method} {c : Code} {H : Heap} {locs : List Loc} {cells slots : Nat} {Q : State → Prop} {D : va_G} {A : Nat → Prop} {cc : ByteArray} {nL : Nat} {ret : Option FieldType} {pc : Nat} {ls : Array Slot} {rest : List Value} {β : Type} {res : β} {K : zT → Option β} {st0 : List Value} (h : zT) (b : Nat) (a1 : Nat) (X : zCx p s m args meth c D A (zEv A) cc nL RX6 ret) (hw : zWh D A s H h locs) (hl : ls.size = nL) (hf : (fd_takes h b a1).bind K = some res) (hRf : 8 ≤ R.frames) (hRl : 200 ≤ R.locals) (hrest : (rest.map fun v => v.category).sum ≤ 8) (hstk : st0 = ([.ref a1] : List Value).reverse ++ .ref b :: rest) (hdg : decode cc pc = .ok (.invokevirtual 33, 3)) (hc : cells + 0 ≤ R.cells ∧ slots + 0 ≤ R.slots) (kk : ∀ (r : zT) (H1 : Heap) (locs1 : List Loc), K r = some res → zWh D A s H1 (r) locs1 → W p l e R s m args below meth c H1 locs1 (cells + 0) (slots + 0) Q (F0 m (pc + 3) ls (rest))) : W p l e R s m args below meth c H locs cells slots Q (F0 m pc ls st0) := by
  have hts := X.1.2.2.2.2
  have hN := X.2.2.2.2.2.2.1
  have hDW := X.2.2.2.2.2.2.2.1
  obtain ⟨r, h1, hf⟩ := zbd hf
  unfold fd_takes at h1
  obtain ⟨⟨ci, fs⟩, ho, h1⟩ := zbd h1
  have ho := zh_O_eq ho
  dsimp only at h1
  by_cases c6 : ci = 6
  · subst c6
    rw [if_pos rfl] at h1
    exact zw_call (va_runV (C := RX6) (As := [.ref a1]) (rest := rest) X.1 (mt_X6_takes l D A h b a1 r h1) (cwV 1 hts (lw_V q1183 q834 q835 q90 q842) rfl rfl rfl ⟨rfl, cd_X6_takes⟩ ⟨Nat.le_trans (Nat.le_of_ble_eq_true rfl) hRf, Nat.le_trans (Nat.le_of_ble_eq_true rfl) hRl⟩) (zpreV (ci := 6) X hw ho rfl _) rfl rfl hl hstk (lv_room hrest) hdg hc) hw (fun H1 locs1 hw1 => kk r H1 locs1 hf hw1)
  rw [if_neg c6] at h1
  by_cases c7 : ci = 7
  · subst c7
    rw [if_pos rfl] at h1
    exact zw_call (va_runU (C := RX7) (owner := RX6) (x := yX6_takes) (As := [.ref a1]) (rest := rest) X.1 (mt_X6_takes l D A h b a1 r h1) (va_cwU 1 hts (zlw_U q1183 q836 q837 q834 q90 q842) rfl rfl rfl rfl cd_X6_takes ⟨Nat.le_trans (Nat.le_of_ble_eq_true rfl) hRf, Nat.le_trans (Nat.le_of_ble_eq_true rfl) hRl⟩) (zpreV (ci := 7) X hw ho rfl _) rfl rfl hl hstk (lv_room hrest) hdg hc) hw (fun H1 locs1 hw1 => kk r H1 locs1 hf hw1)
  rw [if_neg c7] at h1
  by_cases c8 : ci = 8
  · subst c8
    rw [if_pos rfl] at h1
    exact zw_call (va_runU (C := RX8) (owner := RX6) (x := yX6_takes) (As := [.ref a1]) (rest := rest) X.1 (mt_X6_takes l D A h b a1 r h1) (va_cwU 1 hts (zlw_U q1183 q836 q839 q834 q90 q842) rfl rfl rfl rfl cd_X6_takes ⟨Nat.le_trans (Nat.le_of_ble_eq_true rfl) hRf, Nat.le_trans (Nat.le_of_ble_eq_true rfl) hRl⟩) (zpreV (ci := 8) X hw ho rfl _) rfl rfl hl hstk (lv_room hrest) hdg hc) hw (fun H1 locs1 hw1 => kk r H1 locs1 hf hw1)
  rw [if_neg c8] at h1
  by_cases c9 : ci = 9
  · subst c9
    rw [if_pos rfl] at h1
    exact zw_call (va_runU (C := RX9) (owner := RX6) (x := yX6_takes) (As := [.ref a1]) (rest := rest) X.1 (mt_X6_takes l D A h b a1 r h1) (va_cwU 1 hts (zlw_U q1183 q836 q841 q834 q90 q842) rfl rfl rfl rfl cd_X6_takes ⟨Nat.le_trans (Nat.le_of_ble_eq_true rfl) hRf, Nat.le_trans (Nat.le_of_ble_eq_true rfl) hRl⟩) (zpreV (ci := 9) X hw ho rfl _) rfl rfl hl hstk (lv_room hrest) hdg hc) hw (fun H1 locs1 hw1 => kk r H1 locs1 hf hw1)
  rw [if_neg c9] at h1
  by_cases c10 : ci = 10
  · subst c10
    rw [if_pos rfl] at h1
    exact zw_call (va_runU (C := RX10) (owner := RX6) (x := yX6_takes) (As := [.ref a1]) (rest := rest) X.1 (mt_X6_takes l D A h b a1 r h1) (va_cwU 1 hts (zlw_U q1183 q836 q838 q834 q90 q842) rfl rfl rfl rfl cd_X6_takes ⟨Nat.le_trans (Nat.le_of_ble_eq_true rfl) hRf, Nat.le_trans (Nat.le_of_ble_eq_true rfl) hRl⟩) (zpreV (ci := 10) X hw ho rfl _) rfl rfl hl hstk (lv_room hrest) hdg hc) hw (fun H1 locs1 hw1 => kk r H1 locs1 hf hw1)
  rw [if_neg c10] at h1
  by_cases c11 : ci = 11
  · subst c11
    rw [if_pos rfl] at h1
    exact zw_call (va_runU (C := RX11) (owner := RX6) (x := yX6_takes) (As := [.ref a1]) (rest := rest) X.1 (mt_X6_takes l D A h b a1 r h1) (va_cwU 1 hts (zlw_U q1183 q836 q840 q834 q90 q842) rfl rfl rfl rfl cd_X6_takes ⟨Nat.le_trans (Nat.le_of_ble_eq_true rfl) hRf, Nat.le_trans (Nat.le_of_ble_eq_true rfl) hRl⟩) (zpreV (ci := 11) X hw ho rfl _) rfl rfl hl hstk (lv_room hrest) hdg hc) hw (fun H1 locs1 hw1 => kk r H1 locs1 hf hw1)
  rw [if_neg c11] at h1
  cases h1
set_option maxHeartbeats 4000000 in
theorem mt_X6_copy (l : Launch) (D : va_G) (A : Nat → Prop) (h : zT) (a0 : Nat) (res : Nat × zT) (hf : f_X6_copy h a0 = some res) : Met l yX6_copy (ws_ yX6_copy cX6_copy 2 (Option.some (FieldType.object "StoneSheets$Rubbing"))) rm_X6_copy (zPW D A (zEv A) h [.ref a0]) (zQW D A (some (.ref res.1)) res.2) 1 5 A := by
  refine zmt (zEv_ok A) (by decide) (Nat.le_of_ble_eq_true rfl) ?_
  intro p e s m below meth c ls hmn X hw hl
  have hl : lv_has ls 2 [(0, .ref a0)] := hl
  have hx := X.1.1
  have hb := X.1.2.1
  have hown := X.1.2.2.2.1
  have hts := X.1.2.2.2.2
  have hN := X.2.2.2.2.2.2.1
  have hDW := X.2.2.2.2.2.2.2.1
  have hAO := X.2.2.2.2.2.2.2.2.1
  have hNC := X.2.2.2.2.2.2.2.2.2.1
  unfold f_X6_copy at hf
  refine lv_aload_n hx hb dX6_copy_0 rfl (lv_at hl 0 rfl) ?_
  refine vd_X6_29 (rest := []) h a0 X hw hl.1 hf (Nat.le_of_ble_eq_true rfl) (Nat.le_of_ble_eq_true rfl) (Nat.le_of_ble_eq_true rfl) rfl dX6_copy_1 ⟨Nat.le_of_ble_eq_true rfl, Nat.le_of_ble_eq_true rfl⟩ (fun r1 H locs hf hw => ?_)
  refine lv_astore_n (lv' := [(1, .ref r1.1), (0, .ref a0)]) hx hb dX6_copy_4 rfl hl (by decide) rfl (fun ls hl => ?_)
  refine lv_aload_n hx hb dX6_copy_5 rfl (lv_at hl 0 rfl) ?_
  refine lv_aload_n hx hb dX6_copy_6 rfl (lv_at hl 1 rfl) ?_
  refine vd_X6_33 (rest := []) r1.2 r1.1 a0 X hw hl.1 hf (Nat.le_of_ble_eq_true rfl) (Nat.le_of_ble_eq_true rfl) (Nat.le_of_ble_eq_true rfl) rfl dX6_copy_7 ⟨Nat.le_of_ble_eq_true rfl, Nat.le_of_ble_eq_true rfl⟩ (fun r2 H locs hf hw => ?_)
  refine lv_aload_n hx hb dX6_copy_10 rfl (lv_at hl 0 rfl) ?_
  exact zw_aretR X (Or.inl ⟨_, rfl⟩) hw hf (Nat.le_of_ble_eq_true rfl) (Nat.le_of_ble_eq_true rfl) dX6_copy_11
set_option maxHeartbeats 4000000 in
theorem mt_X7_gains (l : Launch) (D : va_G) (A : Nat → Prop) (h : zT) (a0 : Nat) (i1 : Int32) (res : Int32 × zT) (hf : f_X7_gains h a0 i1 = some res) : Met l yX7_gains (ws_ yX7_gains cX7_gains 2 (Option.some FieldType.int)) rm_X7_gains (zPW D A (zEv A) h [.ref a0, .int i1]) (zQW D A (some (.int res.1)) res.2) 0 0 A := by
  refine zmt (zEv_ok A) (by decide) (Nat.le_of_ble_eq_true rfl) ?_
  intro p e s m below meth c ls hmn X hw hl
  have hl : lv_has ls 2 [(0, .ref a0), (1, .int i1)] := hl
  have hx := X.1.1
  have hb := X.1.2.1
  have hown := X.1.2.2.2.1
  have hts := X.1.2.2.2.2
  have hN := X.2.2.2.2.2.2.1
  have hDW := X.2.2.2.2.2.2.2.1
  have hAO := X.2.2.2.2.2.2.2.2.1
  have hNC := X.2.2.2.2.2.2.2.2.2.1
  unfold f_X7_gains at hf
  refine lv_aload_n hx hb dX7_gains_0 rfl (lv_at hl 0 rfl) ?_
  refine lv_iload_n hx hb dX7_gains_1 rfl (lv_at hl 1 rfl) ?_
  refine zw_kS hf (fun ci fs hci hfs hf => ?_)
  obtain ⟨qq, hqq⟩ := zclS ci hci
  refine zw_goI (rest := []) hw hf (fun r hr => by cases hr; exact zrunSD (n := 1) (y := yX15_gains) (owner := "StoneSheets$Trusted") (x := ⟨"StoneSheets$Rubbing", "gains", "(I)I"⟩) (As := [.int i1]) (rest := []) (X.2.2.2.1.1 ci qq hqq).2 X.1 (zbk (v := i1) X.1.1 (hts _ q675) (by decide) dX15_gains_0 dX15_gains_1 (fun m => rfl) ⟨Nat.le_of_ble_eq_true rfl, Nat.le_of_ble_eq_true rfl⟩) (va_Nw.use rfl (hDW _ zdw2)) (va_Nw.use rfl (hDW _ zdw1)) (hts _ q567) X.2.2.2.2.2.2.2.2.2.2.1 rfl (hts _ q674) (va_Decl.abs (hN _ nq670)) (by decide +kernel) (zpreV X hw hfs hqq _) rfl rfl hl.1 rfl (lv_room (Nat.le_of_ble_eq_true rfl)) dX7_gains_2 ⟨Nat.le_of_ble_eq_true rfl, Nat.le_of_ble_eq_true rfl⟩) (fun r1 H locs hf hw => ?_)
  refine lv_iconst (v := (1 : Int32)) hx hb dX7_gains_5 (by decide) ?_
  refine lv_iadd hx hb dX7_gains_6 ?_
  exact zw_iret X hw hf (Nat.le_of_ble_eq_true rfl) (Nat.le_of_ble_eq_true rfl) dX7_gains_7
set_option maxHeartbeats 4000000 in
theorem mt_X7_loses (l : Launch) (D : va_G) (A : Nat → Prop) (h : zT) (a0 : Nat) (res : Int32 × zT) (hf : f_X7_loses h a0 = some res) : Met l yX7_loses (ws_ yX7_loses cX7_loses 1 (Option.some FieldType.int)) rm_X7_loses (zPW D A (zEv A) h [.ref a0]) (zQW D A (some (.int res.1)) res.2) 0 0 A := by
  refine zmt (zEv_ok A) (by decide) (Nat.le_of_ble_eq_true rfl) ?_
  intro p e s m below meth c ls hmn X hw hl
  have hl : lv_has ls 1 [(0, .ref a0)] := hl
  have hx := X.1.1
  have hb := X.1.2.1
  have hown := X.1.2.2.2.1
  have hts := X.1.2.2.2.2
  have hN := X.2.2.2.2.2.2.1
  have hDW := X.2.2.2.2.2.2.2.1
  have hAO := X.2.2.2.2.2.2.2.2.1
  have hNC := X.2.2.2.2.2.2.2.2.2.1
  unfold f_X7_loses at hf
  refine lv_aload_n hx hb dX7_loses_0 rfl (lv_at hl 0 rfl) ?_
  refine zw_kS hf (fun ci fs hci hfs hf => ?_)
  obtain ⟨qq, hqq⟩ := zclS ci hci
  refine zw_goI (rest := []) hw hf (fun r hr => va_runSU (As := []) (rest := []) (X.2.2.2.1.1 ci qq hqq).2 X.1 (mt_X6_loses l D A h a0 r hr) (va_cwSU 0 hts (zlw_SU q712 q708 q567 q706 q90 q726) rfl rfl rfl (by decide +kernel) ⟨Nat.le_of_ble_eq_true rfl, Nat.le_of_ble_eq_true rfl⟩) (zpreV X hw hfs hqq _) rfl rfl hl.1 rfl (lv_room (Nat.le_of_ble_eq_true rfl)) dX7_loses_1 ⟨Nat.le_of_ble_eq_true rfl, Nat.le_of_ble_eq_true rfl⟩) (fun r1 H locs hf hw => ?_)
  refine lv_iconst (v := (2 : Int32)) hx hb dX7_loses_4 (by decide) ?_
  refine lv_iadd hx hb dX7_loses_5 ?_
  exact zw_iret X hw hf (Nat.le_of_ble_eq_true rfl) (Nat.le_of_ble_eq_true rfl) dX7_loses_6
set_option maxHeartbeats 4000000 in
theorem mt_X7_worth (l : Launch) (D : va_G) (A : Nat → Prop) (h : zT) (a0 : Nat) (res : Int32 × zT) (hf : f_X7_worth h a0 = some res) : Met l yX7_worth (ws_ yX7_worth cX7_worth 1 (Option.some FieldType.int)) rm_X7_worth (zPW D A (zEv A) h [.ref a0]) (zQW D A (some (.int res.1)) res.2) 0 0 A := by
  refine zmt (zEv_ok A) (by decide) (Nat.le_of_ble_eq_true rfl) ?_
  intro p e s m below meth c ls hmn X hw hl
  have hl : lv_has ls 1 [(0, .ref a0)] := hl
  have hx := X.1.1
  have hb := X.1.2.1
  have hown := X.1.2.2.2.1
  have hts := X.1.2.2.2.2
  have hN := X.2.2.2.2.2.2.1
  have hDW := X.2.2.2.2.2.2.2.1
  have hAO := X.2.2.2.2.2.2.2.2.1
  have hNC := X.2.2.2.2.2.2.2.2.2.1
  unfold f_X7_worth at hf
  refine lv_aload_n hx hb dX7_worth_0 rfl (lv_at hl 0 rfl) ?_
  refine zw_kS hf (fun ci fs hci hfs hf => ?_)
  obtain ⟨qq, hqq⟩ := zclS ci hci
  refine zw_goI (rest := []) hw hf (fun r hr => va_runSU (As := []) (rest := []) (X.2.2.2.1.1 ci qq hqq).2 X.1 (mt_X6_worth l D A h a0 r hr) (va_cwSU 0 hts (zlw_SU q734 q730 q567 q728 q90 q750) rfl rfl rfl (by decide +kernel) ⟨Nat.le_of_ble_eq_true rfl, Nat.le_of_ble_eq_true rfl⟩) (zpreV X hw hfs hqq _) rfl rfl hl.1 rfl (lv_room (Nat.le_of_ble_eq_true rfl)) dX7_worth_1 ⟨Nat.le_of_ble_eq_true rfl, Nat.le_of_ble_eq_true rfl⟩) (fun r1 H locs hf hw => ?_)
  refine lv_iconst (v := (5 : Int32)) hx hb dX7_worth_4 (by decide) ?_
  refine lv_iadd hx hb dX7_worth_5 ?_
  exact zw_iret X hw hf (Nat.le_of_ble_eq_true rfl) (Nat.le_of_ble_eq_true rfl) dX7_worth_6
set_option maxHeartbeats 4000000 in
theorem mt_X8_loses (l : Launch) (D : va_G) (A : Nat → Prop) (h : zT) (a0 : Nat) (res : Int32 × zT) (hf : f_X8_loses h a0 = some res) : Met l yX8_loses (ws_ yX8_loses cX8_loses 1 (Option.some FieldType.int)) rm_X8_loses (zPW D A (zEv A) h [.ref a0]) (zQW D A (some (.int res.1)) res.2) 0 0 A := by
  refine zmt (zEv_ok A) (by decide) (Nat.le_of_ble_eq_true rfl) ?_
  intro p e s m below meth c ls hmn X hw hl
  have hl : lv_has ls 1 [(0, .ref a0)] := hl
  have hx := X.1.1
  have hb := X.1.2.1
  have hown := X.1.2.2.2.1
  have hts := X.1.2.2.2.2
  have hN := X.2.2.2.2.2.2.1
  have hDW := X.2.2.2.2.2.2.2.1
  have hAO := X.2.2.2.2.2.2.2.2.1
  have hNC := X.2.2.2.2.2.2.2.2.2.1
  unfold f_X8_loses at hf
  refine lv_aload_n hx hb dX8_loses_0 rfl (lv_at hl 0 rfl) ?_
  refine zw_kS hf (fun ci fs hci hfs hf => ?_)
  obtain ⟨qq, hqq⟩ := zclS ci hci
  refine zw_goI (rest := []) hw hf (fun r hr => va_runSU (As := []) (rest := []) (X.2.2.2.1.1 ci qq hqq).2 X.1 (mt_X6_loses l D A h a0 r hr) (va_cwSU 0 hts (zlw_SU q716 q708 q579 q706 q90 q726) rfl rfl rfl (by decide +kernel) ⟨Nat.le_of_ble_eq_true rfl, Nat.le_of_ble_eq_true rfl⟩) (zpreV X hw hfs hqq _) rfl rfl hl.1 rfl (lv_room (Nat.le_of_ble_eq_true rfl)) dX8_loses_1 ⟨Nat.le_of_ble_eq_true rfl, Nat.le_of_ble_eq_true rfl⟩) (fun r1 H locs hf hw => ?_)
  refine lv_iconst (v := (2 : Int32)) hx hb dX8_loses_4 (by decide) ?_
  refine lv_isub hx hb dX8_loses_5 ?_
  exact zw_iret X hw hf (Nat.le_of_ble_eq_true rfl) (Nat.le_of_ble_eq_true rfl) dX8_loses_6
set_option maxHeartbeats 4000000 in
theorem mt_X9_loses (l : Launch) (D : va_G) (A : Nat → Prop) (h : zT) (a0 : Nat) (res : Int32 × zT) (hf : f_X9_loses h a0 = some res) : Met l yX9_loses (ws_ yX9_loses cX9_loses 1 (Option.some FieldType.int)) rm_X9_loses (zPW D A (zEv A) h [.ref a0]) (zQW D A (some (.int res.1)) res.2) 0 0 A := by
  refine zmt (zEv_ok A) (by decide) (Nat.le_of_ble_eq_true rfl) ?_
  intro p e s m below meth c ls hmn X hw hl
  have hl : lv_has ls 1 [(0, .ref a0)] := hl
  have hx := X.1.1
  have hb := X.1.2.1
  have hown := X.1.2.2.2.1
  have hts := X.1.2.2.2.2
  have hN := X.2.2.2.2.2.2.1
  have hDW := X.2.2.2.2.2.2.2.1
  have hAO := X.2.2.2.2.2.2.2.2.1
  have hNC := X.2.2.2.2.2.2.2.2.2.1
  unfold f_X9_loses at hf
  refine lv_iconst (v := (2 : Int32)) hx hb dX9_loses_0 (by decide) ?_
  refine lv_aload_n hx hb dX9_loses_1 rfl (lv_at hl 0 rfl) ?_
  refine zw_kS hf (fun ci fs hci hfs hf => ?_)
  obtain ⟨qq, hqq⟩ := zclS ci hci
  refine zw_goI (rest := [.int (2 : Int32)]) hw hf (fun r hr => va_runSU (As := []) (rest := [.int (2 : Int32)]) (X.2.2.2.1.1 ci qq hqq).2 X.1 (mt_X7_loses l D A h a0 r hr) (va_cwSU 0 hts (zlw_SU q725 q1792 q591 q710 q91 q711) rfl rfl rfl (by decide +kernel) ⟨Nat.le_of_ble_eq_true rfl, Nat.le_of_ble_eq_true rfl⟩) (zpreV X hw hfs hqq _) rfl rfl hl.1 rfl (lv_room (Nat.le_of_ble_eq_true rfl)) dX9_loses_2 ⟨Nat.le_of_ble_eq_true rfl, Nat.le_of_ble_eq_true rfl⟩) (fun r1 H locs hf hw => ?_)
  refine lv_imul hx hb dX9_loses_5 ?_
  exact zw_iret X hw hf (Nat.le_of_ble_eq_true rfl) (Nat.le_of_ble_eq_true rfl) dX9_loses_6
set_option maxHeartbeats 4000000 in
theorem mt_X9_worth (l : Launch) (D : va_G) (A : Nat → Prop) (h : zT) (a0 : Nat) (res : Int32 × zT) (hf : f_X9_worth h a0 = some res) : Met l yX9_worth (ws_ yX9_worth cX9_worth 1 (Option.some FieldType.int)) rm_X9_worth (zPW D A (zEv A) h [.ref a0]) (zQW D A (some (.int res.1)) res.2) 0 0 A := by
  refine zmt (zEv_ok A) (by decide) (Nat.le_of_ble_eq_true rfl) ?_
  intro p e s m below meth c ls hmn X hw hl
  have hl : lv_has ls 1 [(0, .ref a0)] := hl
  have hx := X.1.1
  have hb := X.1.2.1
  have hown := X.1.2.2.2.1
  have hts := X.1.2.2.2.2
  have hN := X.2.2.2.2.2.2.1
  have hDW := X.2.2.2.2.2.2.2.1
  have hAO := X.2.2.2.2.2.2.2.2.1
  have hNC := X.2.2.2.2.2.2.2.2.2.1
  unfold f_X9_worth at hf
  refine lv_iconst (v := (2 : Int32)) hx hb dX9_worth_0 (by decide) ?_
  refine lv_aload_n hx hb dX9_worth_1 rfl (lv_at hl 0 rfl) ?_
  refine zw_kS hf (fun ci fs hci hfs hf => ?_)
  obtain ⟨qq, hqq⟩ := zclS ci hci
  refine zw_goI (rest := [.int (2 : Int32)]) hw hf (fun r hr => va_runSU (As := []) (rest := [.int (2 : Int32)]) (X.2.2.2.1.1 ci qq hqq).2 X.1 (mt_X7_worth l D A h a0 r hr) (va_cwSU 0 hts (zlw_SU q749 q1794 q591 q732 q91 q733) rfl rfl rfl (by decide +kernel) ⟨Nat.le_of_ble_eq_true rfl, Nat.le_of_ble_eq_true rfl⟩) (zpreV X hw hfs hqq _) rfl rfl hl.1 rfl (lv_room (Nat.le_of_ble_eq_true rfl)) dX9_worth_2 ⟨Nat.le_of_ble_eq_true rfl, Nat.le_of_ble_eq_true rfl⟩) (fun r1 H locs hf hw => ?_)
  refine lv_imul hx hb dX9_worth_5 ?_
  exact zw_iret X hw hf (Nat.le_of_ble_eq_true rfl) (Nat.le_of_ble_eq_true rfl) dX9_worth_6
set_option maxHeartbeats 4000000 in
theorem k_X0_four_3 {p : Program} {l : Launch} {e : Env} {s : State} {m : MethodId} {args : Array Value} {below : List Frame} {meth : Method} {c : Code} {D : va_G} {A : Nat → Prop} (X : zCx p s m args meth c D A (zEv A) cX0_four 3 RX0 (Option.none : Option FieldType)) (res : zT) : ∀ (n : Nat), ∀ (h : zT) (a0 : Nat) (i1 : Int32) (i2 : Int32) (H : Heap) (locs : List Loc) (ls : Array Slot), f_X0_four_3 n h a0 i1 i2 = some res → zWh D A s H h locs → lv_has ls 3 [(0, .ref a0), (1, .int i1), (2, .int i2)] → W p l e rm_X0_four s m args below meth c H locs 0 0 (MQ below (zQW D A none res) args s 0 0 A) (F0 m 3 ls []) := by
  have hx := X.1.1
  have hb := X.1.2.1
  have hown := X.1.2.2.2.1
  have hts := X.1.2.2.2.2
  have hN := X.2.2.2.2.2.2.1
  have hDW := X.2.2.2.2.2.2.2.1
  have hAO := X.2.2.2.2.2.2.2.2.1
  have hNC := X.2.2.2.2.2.2.2.2.2.1
  intro n
  induction n with
  | zero =>
    intro h a0 i1 i2 H locs ls hf hw hl
    cases hf
  | succ n ih =>
    intro h a0 i1 i2 H locs ls hf hw hl
    unfold f_X0_four_3 at hf
    refine lv_iload_n hx hb dX0_four_3 rfl (lv_at hl 2 rfl) ?_
    refine zw_if_lt (tgt := 36) hx hb hf dX0_four_4 (by decide) (fun hf => ?_) (fun hf => ?_)
    · exact zw_vret X hw hf (Nat.le_of_ble_eq_true rfl) (Nat.le_of_ble_eq_true rfl) dX0_four_36
    · refine lv_aload_n hx hb dX0_four_7 rfl (lv_at hl 0 rfl) ?_
      refine zw_getR X hw fs_X0_6 q258 rfl hf dX0_four_8 (fun v1 hf => ?_)
      refine lv_aload_n hx hb dX0_four_11 rfl (lv_at hl 0 rfl) ?_
      refine zw_getI X hw fs_X0_7 q259 rfl hf dX0_four_12 (fun v2 hf => ?_)
      refine lv_iload_n hx hb dX0_four_15 rfl (lv_at hl 1 rfl) ?_
      refine lv_iload_n hx hb dX0_four_16 rfl (lv_at hl 2 rfl) ?_
      refine lv_ishr hx hb dX0_four_17 ?_
      refine lv_i2b hx hb dX0_four_18 rfl ?_
      refine zw_bastore X hw hf dX0_four_19 (fun h3 H locs hf hw => ?_)
      refine lv_aload_n hx hb dX0_four_20 rfl (lv_at hl 0 rfl) ?_
      refine lv_dup hx hb dX0_four_21 rfl ?_
      refine zw_getI X hw fs_X0_7 q259 rfl hf dX0_four_22 (fun v4 hf => ?_)
      refine lv_iconst (v := (1 : Int32)) hx hb dX0_four_25 (by decide) ?_
      refine lv_iadd hx hb dX0_four_26 ?_
      refine zw_put X hw fs_X0_7 q259 rfl rfl rfl rfl hf dX0_four_27 (fun h5 H locs hf hw => ?_)
      refine zw_nmS hf (fun v6 ev6 hf => ?_)
      refine lv_iinc (k := 2) (v := v6) (lv' := [(2, .int v6), (0, .ref a0), (1, .int i1)]) hx hb dX0_four_30 hl rfl (by rw [ev6]; rfl) (by decide) rfl (fun ls hl => ?_)
      refine lv_goto (tgt := 3) hx hb dX0_four_33 (by decide) ?_
      exact ih h5 a0 i1 v6 _ _ _ hf hw (lv_sub hl [1, 2, 0] rfl)
set_option maxHeartbeats 4000000 in
theorem mt_X0_four (l : Launch) (D : va_G) (A : Nat → Prop) (h : zT) (a0 : Nat) (i1 : Int32) (res : zT) (hf : f_X0_four h a0 i1 = some res) : Met l yX0_four (ws_ yX0_four cX0_four 3 (Option.none : Option FieldType)) rm_X0_four (zPW D A (zEv A) h [.ref a0, .int i1]) (zQW D A none res) 0 0 A := by
  refine zmt (zEv_ok A) (by decide) (Nat.le_of_ble_eq_true rfl) ?_
  intro p e s m below meth c ls hmn X hw hl
  have hl : lv_has ls 3 [(0, .ref a0), (1, .int i1)] := hl
  have hx := X.1.1
  have hb := X.1.2.1
  have hown := X.1.2.2.2.1
  have hts := X.1.2.2.2.2
  have hN := X.2.2.2.2.2.2.1
  have hDW := X.2.2.2.2.2.2.2.1
  have hAO := X.2.2.2.2.2.2.2.2.1
  have hNC := X.2.2.2.2.2.2.2.2.2.1
  unfold f_X0_four at hf
  refine lv_bipush (v := (24 : Int32)) hx hb dX0_four_0 (by decide) ?_
  refine lv_istore_n (lv' := [(2, .int (24 : Int32)), (0, .ref a0), (1, .int i1)]) hx hb dX0_four_2 rfl hl (by decide) rfl (fun ls hl => ?_)
  exact k_X0_four_3 X _ 4096 h a0 i1 (24 : Int32) _ _ _ hf hw (lv_sub hl [1, 2, 0] rfl)
set_option maxHeartbeats 4000000 in
theorem mt_X0_feed (l : Launch) (D : va_G) (A : Nat → Prop) (h : zT) (a0 : Nat) (i1 : Int32) (i2 : Int32) (i3 : Int32) (res : Int32 × zT) (hf : f_X0_feed h a0 i1 i2 i3 = some res) : Met l yX0_feed (ws_ yX0_feed cX0_feed 4 (Option.some FieldType.int)) rm_X0_feed (zPW D A (zEv A) h [.ref a0, .int i1, .int i2, .int i3]) (zQW D A (some (.int res.1)) res.2) 0 0 A := by
  refine zmt (zEv_ok A) (by decide) (Nat.le_of_ble_eq_true rfl) ?_
  intro p e s m below meth c ls hmn X hw hl
  have hl : lv_has ls 4 [(0, .ref a0), (1, .int i1), (2, .int i2), (3, .int i3)] := hl
  have hx := X.1.1
  have hb := X.1.2.1
  have hown := X.1.2.2.2.1
  have hts := X.1.2.2.2.2
  have hN := X.2.2.2.2.2.2.1
  have hDW := X.2.2.2.2.2.2.2.1
  have hAO := X.2.2.2.2.2.2.2.2.1
  have hNC := X.2.2.2.2.2.2.2.2.2.1
  unfold f_X0_feed at hf
  refine lv_aload_n hx hb dX0_feed_0 rfl (lv_at hl 0 rfl) ?_
  refine zw_getI X hw fs_X0_7 q259 rfl hf dX0_feed_1 (fun v1 hf => ?_)
  refine lv_bipush (v := (12 : Int32)) hx hb dX0_feed_4 (by decide) ?_
  refine lv_iadd hx hb dX0_feed_6 ?_
  refine lv_bipush (v := (96 : Int32)) hx hb dX0_feed_7 (by decide) ?_
  refine zw_icmp_le (tgt := 15) hx hb hf dX0_feed_9 (by decide) (fun hf => ?_) (fun hf => ?_)
  · refine lv_aload_n hx hb dX0_feed_15 rfl (lv_at hl 0 rfl) ?_
    refine lv_iload_n hx hb dX0_feed_16 rfl (lv_at hl 1 rfl) ?_
    refine zw_kC hf (fun fs hfs hf => ?_)
    refine zw_goV (rest := []) hw hf (fun r hr => va_runV (C := RX0) (As := [.int i1]) (rest := []) X.1 (mt_X0_four l D A h a0 i1 r hr) (cwV 1 hts (lw_V q331 q333 qs1 q81 q334) rfl rfl rfl ⟨rfl, cd_X0_four⟩ ⟨Nat.le_of_ble_eq_true rfl, Nat.le_of_ble_eq_true rfl⟩) (zpreV (ci := 0) X hw hfs rfl _) rfl rfl hl.1 rfl (lv_room (Nat.le_of_ble_eq_true rfl)) dX0_feed_17 ⟨Nat.le_of_ble_eq_true rfl, Nat.le_of_ble_eq_true rfl⟩) (fun r2 H locs hf hw => ?_)
    refine lv_aload_n hx hb dX0_feed_20 rfl (lv_at hl 0 rfl) ?_
    refine lv_iload_n hx hb dX0_feed_21 rfl (lv_at hl 2 rfl) ?_
    refine zw_kC hf (fun fs hfs hf => ?_)
    refine zw_goV (rest := []) hw hf (fun r hr => va_runV (C := RX0) (As := [.int i2]) (rest := []) X.1 (mt_X0_four l D A r2 a0 i2 r hr) (cwV 1 hts (lw_V q331 q333 qs1 q81 q334) rfl rfl rfl ⟨rfl, cd_X0_four⟩ ⟨Nat.le_of_ble_eq_true rfl, Nat.le_of_ble_eq_true rfl⟩) (zpreV (ci := 0) X hw hfs rfl _) rfl rfl hl.1 rfl (lv_room (Nat.le_of_ble_eq_true rfl)) dX0_feed_22 ⟨Nat.le_of_ble_eq_true rfl, Nat.le_of_ble_eq_true rfl⟩) (fun r3 H locs hf hw => ?_)
    refine lv_aload_n hx hb dX0_feed_25 rfl (lv_at hl 0 rfl) ?_
    refine lv_iload_n hx hb dX0_feed_26 rfl (lv_at hl 3 rfl) ?_
    refine zw_kC hf (fun fs hfs hf => ?_)
    refine zw_goV (rest := []) hw hf (fun r hr => va_runV (C := RX0) (As := [.int i3]) (rest := []) X.1 (mt_X0_four l D A r3 a0 i3 r hr) (cwV 1 hts (lw_V q331 q333 qs1 q81 q334) rfl rfl rfl ⟨rfl, cd_X0_four⟩ ⟨Nat.le_of_ble_eq_true rfl, Nat.le_of_ble_eq_true rfl⟩) (zpreV (ci := 0) X hw hfs rfl _) rfl rfl hl.1 rfl (lv_room (Nat.le_of_ble_eq_true rfl)) dX0_feed_27 ⟨Nat.le_of_ble_eq_true rfl, Nat.le_of_ble_eq_true rfl⟩) (fun r4 H locs hf hw => ?_)
    refine lv_aload_n hx hb dX0_feed_30 rfl (lv_at hl 0 rfl) ?_
    refine zw_getI X hw fs_X0_7 q259 rfl hf dX0_feed_31 (fun v5 hf => ?_)
    exact zw_iret X hw hf (Nat.le_of_ble_eq_true rfl) (Nat.le_of_ble_eq_true rfl) dX0_feed_34
  · refine lv_ldc (v := (-1000000003 : Int32)) hx hb hown (hts _ q330) dX0_feed_12 ?_
    exact zw_iret X hw hf (Nat.le_of_ble_eq_true rfl) (Nat.le_of_ble_eq_true rfl) dX0_feed_14
set_option maxHeartbeats 4000000 in
theorem mt_X0_trim (l : Launch) (D : va_G) (A : Nat → Prop) (h : zT) (a0 : Nat) (i1 : Int32) (res : Int32 × zT) (hf : f_X0_trim h a0 i1 = some res) : Met l yX0_trim (ws_ yX0_trim cX0_trim 2 (Option.some FieldType.int)) rm_X0_trim (zPW D A (zEv A) h [.ref a0, .int i1]) (zQW D A (some (.int res.1)) res.2) 0 0 A := by
  refine zmt (zEv_ok A) (by decide) (Nat.le_of_ble_eq_true rfl) ?_
  intro p e s m below meth c ls hmn X hw hl
  have hl : lv_has ls 2 [(0, .ref a0), (1, .int i1)] := hl
  have hx := X.1.1
  have hb := X.1.2.1
  have hown := X.1.2.2.2.1
  have hts := X.1.2.2.2.2
  have hN := X.2.2.2.2.2.2.1
  have hDW := X.2.2.2.2.2.2.2.1
  have hAO := X.2.2.2.2.2.2.2.2.1
  have hNC := X.2.2.2.2.2.2.2.2.2.1
  unfold f_X0_trim at hf
  refine lv_iload_n hx hb dX0_trim_0 rfl (lv_at hl 1 rfl) ?_
  refine lv_iconst (v := (0 : Int32)) hx hb dX0_trim_1 (by decide) ?_
  refine lv_aload_n hx hb dX0_trim_2 rfl (lv_at hl 0 rfl) ?_
  refine zw_getI X hw fs_X0_7 q259 rfl hf dX0_trim_3 (fun v1 hf => ?_)
  refine zw_goZ (rest := []) hw hf (fun r hr => va_runS (As := [.int i1, .int (0 : Int32), .int v1]) (rest := []) X.1 (mt_X0_isIn l D A h i1 (0 : Int32) v1 r hr) (va_cwS 3 hts (lw_S q339 q340 q81 q341) rfl rfl rfl cd_X0_isIn ⟨Nat.le_of_ble_eq_true rfl, Nat.le_of_ble_eq_true rfl⟩) (zpreS X hw _) rfl rfl hl.1 rfl (lv_room (Nat.le_of_ble_eq_true rfl)) dX0_trim_6 ⟨Nat.le_of_ble_eq_true rfl, Nat.le_of_ble_eq_true rfl⟩) (fun r2 H locs hf hw => ?_)
  refine zw_if_ne (tgt := 15) hx hb hf dX0_trim_9 (by decide) (fun hf => ?_) (fun hf => ?_)
  · refine lv_aload_n hx hb dX0_trim_15 rfl (lv_at hl 0 rfl) ?_
    refine lv_iload_n hx hb dX0_trim_16 rfl (lv_at hl 1 rfl) ?_
    refine zw_put X hw fs_X0_7 q259 rfl rfl rfl rfl hf dX0_trim_17 (fun h3 H locs hf hw => ?_)
    refine lv_iload_n hx hb dX0_trim_20 rfl (lv_at hl 1 rfl) ?_
    exact zw_iret X hw hf (Nat.le_of_ble_eq_true rfl) (Nat.le_of_ble_eq_true rfl) dX0_trim_21
  · refine lv_ldc (v := (-1000000001 : Int32)) hx hb hown (hts _ q342) dX0_trim_12 ?_
    exact zw_iret X hw hf (Nat.le_of_ble_eq_true rfl) (Nat.le_of_ble_eq_true rfl) dX0_trim_14
set_option maxHeartbeats 4000000 in
theorem mt_X0_isLetter (l : Launch) (D : va_G) (A : Nat → Prop) (h : zT) (i0 : Int32) (res : Int32 × zT) (hf : f_X0_isLetter h i0 = some res) : Met l yX0_isLetter (ws_ yX0_isLetter cX0_isLetter 1 (Option.some FieldType.boolean)) rm_X0_isLetter (zPW D A (zEv A) h [.int i0]) (zQW D A (some (.int res.1)) res.2) 0 0 A := by
  refine zmt (zEv_ok A) (by decide) (Nat.le_of_ble_eq_true rfl) ?_
  intro p e s m below meth c ls hmn X hw hl
  have hl : lv_has ls 1 [(0, .int i0)] := hl
  have hx := X.1.1
  have hb := X.1.2.1
  have hown := X.1.2.2.2.1
  have hts := X.1.2.2.2.2
  have hN := X.2.2.2.2.2.2.1
  have hDW := X.2.2.2.2.2.2.2.1
  have hAO := X.2.2.2.2.2.2.2.2.1
  have hNC := X.2.2.2.2.2.2.2.2.2.1
  unfold f_X0_isLetter at hf
  refine lv_iload_n hx hb dX0_isLetter_0 rfl (lv_at hl 0 rfl) ?_
  refine lv_bipush (v := (97 : Int32)) hx hb dX0_isLetter_1 (by decide) ?_
  refine lv_bipush (v := (122 : Int32)) hx hb dX0_isLetter_3 (by decide) ?_
  refine zw_goZ (rest := []) hw hf (fun r hr => va_runS (As := [.int i0, .int (97 : Int32), .int (122 : Int32)]) (rest := []) X.1 (mt_X0_isIn l D A h i0 (97 : Int32) (122 : Int32) r hr) (va_cwS 3 hts (lw_S q339 q340 q81 q341) rfl rfl rfl cd_X0_isIn ⟨Nat.le_of_ble_eq_true rfl, Nat.le_of_ble_eq_true rfl⟩) (zpreS X hw _) rfl rfl hl.1 rfl (lv_room (Nat.le_of_ble_eq_true rfl)) dX0_isLetter_5 ⟨Nat.le_of_ble_eq_true rfl, Nat.le_of_ble_eq_true rfl⟩) (fun r1 H locs hf hw => ?_)
  exact zw_zret X hw hf (Nat.le_of_ble_eq_true rfl) (Nat.le_of_ble_eq_true rfl) dX0_isLetter_8
set_option maxHeartbeats 4000000 in
theorem mt_X0_isDigit (l : Launch) (D : va_G) (A : Nat → Prop) (h : zT) (i0 : Int32) (res : Int32 × zT) (hf : f_X0_isDigit h i0 = some res) : Met l yX0_isDigit (ws_ yX0_isDigit cX0_isDigit 1 (Option.some FieldType.boolean)) rm_X0_isDigit (zPW D A (zEv A) h [.int i0]) (zQW D A (some (.int res.1)) res.2) 0 0 A := by
  refine zmt (zEv_ok A) (by decide) (Nat.le_of_ble_eq_true rfl) ?_
  intro p e s m below meth c ls hmn X hw hl
  have hl : lv_has ls 1 [(0, .int i0)] := hl
  have hx := X.1.1
  have hb := X.1.2.1
  have hown := X.1.2.2.2.1
  have hts := X.1.2.2.2.2
  have hN := X.2.2.2.2.2.2.1
  have hDW := X.2.2.2.2.2.2.2.1
  have hAO := X.2.2.2.2.2.2.2.2.1
  have hNC := X.2.2.2.2.2.2.2.2.2.1
  unfold f_X0_isDigit at hf
  refine lv_iload_n hx hb dX0_isDigit_0 rfl (lv_at hl 0 rfl) ?_
  refine lv_bipush (v := (48 : Int32)) hx hb dX0_isDigit_1 (by decide) ?_
  refine lv_bipush (v := (57 : Int32)) hx hb dX0_isDigit_3 (by decide) ?_
  refine zw_goZ (rest := []) hw hf (fun r hr => va_runS (As := [.int i0, .int (48 : Int32), .int (57 : Int32)]) (rest := []) X.1 (mt_X0_isIn l D A h i0 (48 : Int32) (57 : Int32) r hr) (va_cwS 3 hts (lw_S q339 q340 q81 q341) rfl rfl rfl cd_X0_isIn ⟨Nat.le_of_ble_eq_true rfl, Nat.le_of_ble_eq_true rfl⟩) (zpreS X hw _) rfl rfl hl.1 rfl (lv_room (Nat.le_of_ble_eq_true rfl)) dX0_isDigit_5 ⟨Nat.le_of_ble_eq_true rfl, Nat.le_of_ble_eq_true rfl⟩) (fun r1 H locs hf hw => ?_)
  exact zw_zret X hw hf (Nat.le_of_ble_eq_true rfl) (Nat.le_of_ble_eq_true rfl) dX0_isDigit_8
set_option maxHeartbeats 4000000 in
theorem mt_X0_isSign (l : Launch) (D : va_G) (A : Nat → Prop) (h : zT) (a0 : Nat) (i1 : Int32) (res : Int32 × zT) (hf : f_X0_isSign h a0 i1 = some res) : Met l yX0_isSign (ws_ yX0_isSign cX0_isSign 2 (Option.some FieldType.boolean)) rm_X0_isSign (zPW D A (zEv A) h [.ref a0, .int i1]) (zQW D A (some (.int res.1)) res.2) 0 0 A := by
  refine zmt (zEv_ok A) (by decide) (Nat.le_of_ble_eq_true rfl) ?_
  intro p e s m below meth c ls hmn X hw hl
  have hl : lv_has ls 2 [(0, .ref a0), (1, .int i1)] := hl
  have hx := X.1.1
  have hb := X.1.2.1
  have hown := X.1.2.2.2.1
  have hts := X.1.2.2.2.2
  have hN := X.2.2.2.2.2.2.1
  have hDW := X.2.2.2.2.2.2.2.1
  have hAO := X.2.2.2.2.2.2.2.2.1
  have hNC := X.2.2.2.2.2.2.2.2.2.1
  unfold f_X0_isSign at hf
  refine lv_aload_n hx hb dX0_isSign_0 rfl (lv_at hl 0 rfl) ?_
  refine zw_getI X hw fs_X0_9 q261 rfl hf dX0_isSign_1 (fun v1 hf => ?_)
  refine lv_aload_n hx hb dX0_isSign_4 rfl (lv_at hl 0 rfl) ?_
  refine zw_getI X hw fs_X0_11 q263 rfl hf dX0_isSign_5 (fun v2 hf => ?_)
  refine zw_icmp_ge (tgt := 41) hx hb hf dX0_isSign_8 (by decide) (fun hf => ?_) (fun hf => ?_)
  · refine lv_iconst (v := (0 : Int32)) hx hb dX0_isSign_41 (by decide) ?_
    exact zw_zret X hw hf (Nat.le_of_ble_eq_true rfl) (Nat.le_of_ble_eq_true rfl) dX0_isSign_42
  · refine lv_aload_n hx hb dX0_isSign_11 rfl (lv_at hl 0 rfl) ?_
    refine zw_getI X hw fs_X0_10 q262 rfl hf dX0_isSign_12 (fun v3 hf => ?_)
    refine lv_aload_n hx hb dX0_isSign_15 rfl (lv_at hl 0 rfl) ?_
    refine zw_getI X hw fs_X0_9 q261 rfl hf dX0_isSign_16 (fun v4 hf => ?_)
    refine lv_isub hx hb dX0_isSign_19 ?_
    refine lv_iconst (v := (1 : Int32)) hx hb dX0_isSign_20 (by decide) ?_
    refine zw_icmp_ne (tgt := 41) hx hb hf dX0_isSign_21 (by decide) (fun hf => ?_) (fun hf => ?_)
    · refine lv_iconst (v := (0 : Int32)) hx hb dX0_isSign_41 (by decide) ?_
      exact zw_zret X hw hf (Nat.le_of_ble_eq_true rfl) (Nat.le_of_ble_eq_true rfl) dX0_isSign_42
    · refine lv_aload_n hx hb dX0_isSign_24 rfl (lv_at hl 0 rfl) ?_
      refine zw_getR X hw fs_X0_6 q258 rfl hf dX0_isSign_25 (fun v5 hf => ?_)
      refine lv_aload_n hx hb dX0_isSign_28 rfl (lv_at hl 0 rfl) ?_
      refine zw_getI X hw fs_X0_9 q261 rfl hf dX0_isSign_29 (fun v6 hf => ?_)
      refine zw_baload X hw hf dX0_isSign_32 (fun v7 hf => ?_)
      refine lv_iload_n hx hb dX0_isSign_33 rfl (lv_at hl 1 rfl) ?_
      refine zw_icmp_ne (tgt := 41) hx hb hf dX0_isSign_34 (by decide) (fun hf => ?_) (fun hf => ?_)
      · refine lv_iconst (v := (0 : Int32)) hx hb dX0_isSign_41 (by decide) ?_
        exact zw_zret X hw hf (Nat.le_of_ble_eq_true rfl) (Nat.le_of_ble_eq_true rfl) dX0_isSign_42
      · refine lv_iconst (v := (1 : Int32)) hx hb dX0_isSign_37 (by decide) ?_
        refine lv_goto (tgt := 42) hx hb dX0_isSign_38 (by decide) ?_
        exact zw_zret X hw hf (Nat.le_of_ble_eq_true rfl) (Nat.le_of_ble_eq_true rfl) dX0_isSign_42
set_option maxHeartbeats 4000000 in
theorem mt_X0_isName (l : Launch) (D : va_G) (A : Nat → Prop) (h : zT) (a0 : Nat) (i1 : Int32) (res : Int32 × zT) (hf : f_X0_isName h a0 i1 = some res) : Met l yX0_isName (ws_ yX0_isName cX0_isName 2 (Option.some FieldType.boolean)) rm_X0_isName (zPW D A (zEv A) h [.ref a0, .int i1]) (zQW D A (some (.int res.1)) res.2) 0 0 A := by
  refine zmt (zEv_ok A) (by decide) (Nat.le_of_ble_eq_true rfl) ?_
  intro p e s m below meth c ls hmn X hw hl
  have hl : lv_has ls 2 [(0, .ref a0), (1, .int i1)] := hl
  have hx := X.1.1
  have hb := X.1.2.1
  have hown := X.1.2.2.2.1
  have hts := X.1.2.2.2.2
  have hN := X.2.2.2.2.2.2.1
  have hDW := X.2.2.2.2.2.2.2.1
  have hAO := X.2.2.2.2.2.2.2.2.1
  have hNC := X.2.2.2.2.2.2.2.2.2.1
  unfold f_X0_isName at hf
  refine lv_iload_n hx hb dX0_isName_0 rfl (lv_at hl 1 rfl) ?_
  refine zw_case hf (fun c1102 hf => ?_) (fun c1102 hf => ?_)
  · refine zw_tableIn (off := 102) (tgt := 103) hx hb c1102 dX0_isName_1 (by decide) (by decide) rfl (by decide) ?_
    refine lv_aload_n hx hb dX0_isName_103 rfl (lv_at hl 0 rfl) ?_
    refine zw_getI X hw fs_X0_15 q267 rfl hf dX0_isName_104 (fun v1 hf => ?_)
    refine lv_iconst (v := (1 : Int32)) hx hb dX0_isName_107 (by decide) ?_
    refine zw_icmp_ne (tgt := 115) hx hb hf dX0_isName_108 (by decide) (fun hf => ?_) (fun hf => ?_)
    · refine lv_iconst (v := (0 : Int32)) hx hb dX0_isName_115 (by decide) ?_
      exact zw_zret X hw hf (Nat.le_of_ble_eq_true rfl) (Nat.le_of_ble_eq_true rfl) dX0_isName_116
    · refine lv_iconst (v := (1 : Int32)) hx hb dX0_isName_111 (by decide) ?_
      refine lv_goto (tgt := 116) hx hb dX0_isName_112 (by decide) ?_
      exact zw_zret X hw hf (Nat.le_of_ble_eq_true rfl) (Nat.le_of_ble_eq_true rfl) dX0_isName_116
  · refine zw_case hf (fun c1103 hf => ?_) (fun c1103 hf => ?_)
    · refine zw_tableIn (off := 116) (tgt := 117) hx hb c1103 dX0_isName_1 (by decide) (by decide) rfl (by decide) ?_
      refine lv_iconst (v := (0 : Int32)) hx hb dX0_isName_117 (by decide) ?_
      exact zw_zret X hw hf (Nat.le_of_ble_eq_true rfl) (Nat.le_of_ble_eq_true rfl) dX0_isName_118
    · refine zw_case hf (fun c1104 hf => ?_) (fun c1104 hf => ?_)
      · refine zw_tableIn (off := 116) (tgt := 117) hx hb c1104 dX0_isName_1 (by decide) (by decide) rfl (by decide) ?_
        refine lv_iconst (v := (0 : Int32)) hx hb dX0_isName_117 (by decide) ?_
        exact zw_zret X hw hf (Nat.le_of_ble_eq_true rfl) (Nat.le_of_ble_eq_true rfl) dX0_isName_118
      · refine zw_case hf (fun c1105 hf => ?_) (fun c1105 hf => ?_)
        · refine zw_tableIn (off := 116) (tgt := 117) hx hb c1105 dX0_isName_1 (by decide) (by decide) rfl (by decide) ?_
          refine lv_iconst (v := (0 : Int32)) hx hb dX0_isName_117 (by decide) ?_
          exact zw_zret X hw hf (Nat.le_of_ble_eq_true rfl) (Nat.le_of_ble_eq_true rfl) dX0_isName_118
        · refine zw_case hf (fun c1106 hf => ?_) (fun c1106 hf => ?_)
          · refine zw_tableIn (off := 116) (tgt := 117) hx hb c1106 dX0_isName_1 (by decide) (by decide) rfl (by decide) ?_
            refine lv_iconst (v := (0 : Int32)) hx hb dX0_isName_117 (by decide) ?_
            exact zw_zret X hw hf (Nat.le_of_ble_eq_true rfl) (Nat.le_of_ble_eq_true rfl) dX0_isName_118
          · refine zw_case hf (fun c1107 hf => ?_) (fun c1107 hf => ?_)
            · refine zw_tableIn (off := 116) (tgt := 117) hx hb c1107 dX0_isName_1 (by decide) (by decide) rfl (by decide) ?_
              refine lv_iconst (v := (0 : Int32)) hx hb dX0_isName_117 (by decide) ?_
              exact zw_zret X hw hf (Nat.le_of_ble_eq_true rfl) (Nat.le_of_ble_eq_true rfl) dX0_isName_118
            · refine zw_case hf (fun c1108 hf => ?_) (fun c1108 hf => ?_)
              · refine zw_tableIn (off := 89) (tgt := 90) hx hb c1108 dX0_isName_1 (by decide) (by decide) rfl (by decide) ?_
                refine lv_aload_n hx hb dX0_isName_90 rfl (lv_at hl 0 rfl) ?_
                refine zw_getI X hw fs_X0_15 q267 rfl hf dX0_isName_91 (fun v2 hf => ?_)
                refine zw_if_ne (tgt := 101) hx hb hf dX0_isName_94 (by decide) (fun hf => ?_) (fun hf => ?_)
                · refine lv_iconst (v := (0 : Int32)) hx hb dX0_isName_101 (by decide) ?_
                  exact zw_zret X hw hf (Nat.le_of_ble_eq_true rfl) (Nat.le_of_ble_eq_true rfl) dX0_isName_102
                · refine lv_iconst (v := (1 : Int32)) hx hb dX0_isName_97 (by decide) ?_
                  refine lv_goto (tgt := 102) hx hb dX0_isName_98 (by decide) ?_
                  exact zw_zret X hw hf (Nat.le_of_ble_eq_true rfl) (Nat.le_of_ble_eq_true rfl) dX0_isName_102
              · refine zw_case hf (fun c1109 hf => ?_) (fun c1109 hf => ?_)
                · refine zw_tableIn (off := 116) (tgt := 117) hx hb c1109 dX0_isName_1 (by decide) (by decide) rfl (by decide) ?_
                  refine lv_iconst (v := (0 : Int32)) hx hb dX0_isName_117 (by decide) ?_
                  exact zw_zret X hw hf (Nat.le_of_ble_eq_true rfl) (Nat.le_of_ble_eq_true rfl) dX0_isName_118
                · refine zw_case hf (fun c1110 hf => ?_) (fun c1110 hf => ?_)
                  · refine zw_tableIn (off := 102) (tgt := 103) hx hb c1110 dX0_isName_1 (by decide) (by decide) rfl (by decide) ?_
                    refine lv_aload_n hx hb dX0_isName_103 rfl (lv_at hl 0 rfl) ?_
                    refine zw_getI X hw fs_X0_15 q267 rfl hf dX0_isName_104 (fun v3 hf => ?_)
                    refine lv_iconst (v := (1 : Int32)) hx hb dX0_isName_107 (by decide) ?_
                    refine zw_icmp_ne (tgt := 115) hx hb hf dX0_isName_108 (by decide) (fun hf => ?_) (fun hf => ?_)
                    · refine lv_iconst (v := (0 : Int32)) hx hb dX0_isName_115 (by decide) ?_
                      exact zw_zret X hw hf (Nat.le_of_ble_eq_true rfl) (Nat.le_of_ble_eq_true rfl) dX0_isName_116
                    · refine lv_iconst (v := (1 : Int32)) hx hb dX0_isName_111 (by decide) ?_
                      refine lv_goto (tgt := 116) hx hb dX0_isName_112 (by decide) ?_
                      exact zw_zret X hw hf (Nat.le_of_ble_eq_true rfl) (Nat.le_of_ble_eq_true rfl) dX0_isName_116
                  · refine zw_case hf (fun c1111 hf => ?_) (fun c1111 hf => ?_)
                    · refine zw_tableIn (off := 116) (tgt := 117) hx hb c1111 dX0_isName_1 (by decide) (by decide) rfl (by decide) ?_
                      refine lv_iconst (v := (0 : Int32)) hx hb dX0_isName_117 (by decide) ?_
                      exact zw_zret X hw hf (Nat.le_of_ble_eq_true rfl) (Nat.le_of_ble_eq_true rfl) dX0_isName_118
                    · refine zw_case hf (fun c1112 hf => ?_) (fun c1112 hf => ?_)
                      · refine zw_tableIn (off := 116) (tgt := 117) hx hb c1112 dX0_isName_1 (by decide) (by decide) rfl (by decide) ?_
                        refine lv_iconst (v := (0 : Int32)) hx hb dX0_isName_117 (by decide) ?_
                        exact zw_zret X hw hf (Nat.le_of_ble_eq_true rfl) (Nat.le_of_ble_eq_true rfl) dX0_isName_118
                      · refine zw_case hf (fun c1113 hf => ?_) (fun c1113 hf => ?_)
                        · refine zw_tableIn (off := 116) (tgt := 117) hx hb c1113 dX0_isName_1 (by decide) (by decide) rfl (by decide) ?_
                          refine lv_iconst (v := (0 : Int32)) hx hb dX0_isName_117 (by decide) ?_
                          exact zw_zret X hw hf (Nat.le_of_ble_eq_true rfl) (Nat.le_of_ble_eq_true rfl) dX0_isName_118
                        · refine zw_case hf (fun c1114 hf => ?_) (fun c1114 hf => ?_)
                          · refine zw_tableIn (off := 116) (tgt := 117) hx hb c1114 dX0_isName_1 (by decide) (by decide) rfl (by decide) ?_
                            refine lv_iconst (v := (0 : Int32)) hx hb dX0_isName_117 (by decide) ?_
                            exact zw_zret X hw hf (Nat.le_of_ble_eq_true rfl) (Nat.le_of_ble_eq_true rfl) dX0_isName_118
                          · refine zw_case hf (fun c1115 hf => ?_) (fun c1115 hf => ?_)
                            · refine zw_tableIn (off := 75) (tgt := 76) hx hb c1115 dX0_isName_1 (by decide) (by decide) rfl (by decide) ?_
                              refine lv_aload_n hx hb dX0_isName_76 rfl (lv_at hl 0 rfl) ?_
                              refine zw_getI X hw fs_X0_15 q267 rfl hf dX0_isName_77 (fun v4 hf => ?_)
                              refine lv_iconst (v := (1 : Int32)) hx hb dX0_isName_80 (by decide) ?_
                              refine zw_icmp_eq (tgt := 88) hx hb hf dX0_isName_81 (by decide) (fun hf => ?_) (fun hf => ?_)
                              · refine lv_iconst (v := (0 : Int32)) hx hb dX0_isName_88 (by decide) ?_
                                exact zw_zret X hw hf (Nat.le_of_ble_eq_true rfl) (Nat.le_of_ble_eq_true rfl) dX0_isName_89
                              · refine lv_iconst (v := (1 : Int32)) hx hb dX0_isName_84 (by decide) ?_
                                refine lv_goto (tgt := 89) hx hb dX0_isName_85 (by decide) ?_
                                exact zw_zret X hw hf (Nat.le_of_ble_eq_true rfl) (Nat.le_of_ble_eq_true rfl) dX0_isName_89
                            · refine zw_case hf (fun c1116 hf => ?_) (fun c1116 hf => ?_)
                              · refine zw_tableIn (off := 75) (tgt := 76) hx hb c1116 dX0_isName_1 (by decide) (by decide) rfl (by decide) ?_
                                refine lv_aload_n hx hb dX0_isName_76 rfl (lv_at hl 0 rfl) ?_
                                refine zw_getI X hw fs_X0_15 q267 rfl hf dX0_isName_77 (fun v5 hf => ?_)
                                refine lv_iconst (v := (1 : Int32)) hx hb dX0_isName_80 (by decide) ?_
                                refine zw_icmp_eq (tgt := 88) hx hb hf dX0_isName_81 (by decide) (fun hf => ?_) (fun hf => ?_)
                                · refine lv_iconst (v := (0 : Int32)) hx hb dX0_isName_88 (by decide) ?_
                                  exact zw_zret X hw hf (Nat.le_of_ble_eq_true rfl) (Nat.le_of_ble_eq_true rfl) dX0_isName_89
                                · refine lv_iconst (v := (1 : Int32)) hx hb dX0_isName_84 (by decide) ?_
                                  refine lv_goto (tgt := 89) hx hb dX0_isName_85 (by decide) ?_
                                  exact zw_zret X hw hf (Nat.le_of_ble_eq_true rfl) (Nat.le_of_ble_eq_true rfl) dX0_isName_89
                              · refine lv_tableOut (tgt := 117) hx hb dX0_isName_1 (by have := lv_neT c1102 (a := 102) (by decide); have := lv_neT c1103 (a := 103) (by decide); have := lv_neT c1104 (a := 104) (by decide); have := lv_neT c1105 (a := 105) (by decide); have := lv_neT c1106 (a := 106) (by decide); have := lv_neT c1107 (a := 107) (by decide); have := lv_neT c1108 (a := 108) (by decide); have := lv_neT c1109 (a := 109) (by decide); have := lv_neT c1110 (a := 110) (by decide); have := lv_neT c1111 (a := 111) (by decide); have := lv_neT c1112 (a := 112) (by decide); have := lv_neT c1113 (a := 113) (by decide); have := lv_neT c1114 (a := 114) (by decide); have := lv_neT c1115 (a := 115) (by decide); have := lv_neT c1116 (a := 116) (by decide); omega) (by decide) ?_
                                refine lv_iconst (v := (0 : Int32)) hx hb dX0_isName_117 (by decide) ?_
                                exact zw_zret X hw hf (Nat.le_of_ble_eq_true rfl) (Nat.le_of_ble_eq_true rfl) dX0_isName_118
set_option maxHeartbeats 4000000 in
theorem mt_X0_textTold (l : Launch) (D : va_G) (A : Nat → Prop) (h : zT) (a0 : Nat) (i1 : Int32) (i2 : Int32) (res : Int32 × zT) (hf : f_X0_textTold h a0 i1 i2 = some res) : Met l yX0_textTold (ws_ yX0_textTold cX0_textTold 3 (Option.some FieldType.int)) rm_X0_textTold (zPW D A (zEv A) h [.ref a0, .int i1, .int i2]) (zQW D A (some (.int res.1)) res.2) 0 0 A := by
  refine zmt (zEv_ok A) (by decide) (Nat.le_of_ble_eq_true rfl) ?_
  intro p e s m below meth c ls hmn X hw hl
  have hl : lv_has ls 3 [(0, .ref a0), (1, .int i1), (2, .int i2)] := hl
  have hx := X.1.1
  have hb := X.1.2.1
  have hown := X.1.2.2.2.1
  have hts := X.1.2.2.2.2
  have hN := X.2.2.2.2.2.2.1
  have hDW := X.2.2.2.2.2.2.2.1
  have hAO := X.2.2.2.2.2.2.2.2.1
  have hNC := X.2.2.2.2.2.2.2.2.2.1
  unfold f_X0_textTold at hf
  refine lv_iload_n hx hb dX0_textTold_0 rfl (lv_at hl 1 rfl) ?_
  refine lv_iconst (v := (0 : Int32)) hx hb dX0_textTold_1 (by decide) ?_
  refine lv_aload_n hx hb dX0_textTold_2 rfl (lv_at hl 0 rfl) ?_
  refine zw_getR X hw fs_X0_0 q252 rfl hf dX0_textTold_3 (fun v1 hf => ?_)
  refine zw_getIN X hw fs_X1_6 (hN _ nq139) rfl hf dX0_textTold_6 (fun v2 hf => ?_)
  refine lv_iconst (v := (1 : Int32)) hx hb dX0_textTold_9 (by decide) ?_
  refine lv_isub hx hb dX0_textTold_10 ?_
  refine zw_goZ (rest := []) hw hf (fun r hr => va_runS (As := [.int i1, .int (0 : Int32), .int (v2 - (1 : Int32))]) (rest := []) X.1 (mt_X0_isIn l D A h i1 (0 : Int32) (v2 - (1 : Int32)) r hr) (va_cwS 3 hts (lw_S q339 q340 q81 q341) rfl rfl rfl cd_X0_isIn ⟨Nat.le_of_ble_eq_true rfl, Nat.le_of_ble_eq_true rfl⟩) (zpreS X hw _) rfl rfl hl.1 rfl (lv_room (Nat.le_of_ble_eq_true rfl)) dX0_textTold_11 ⟨Nat.le_of_ble_eq_true rfl, Nat.le_of_ble_eq_true rfl⟩) (fun r3 H locs hf hw => ?_)
  refine zw_if_eq (tgt := 26) hx hb hf dX0_textTold_14 (by decide) (fun hf => ?_) (fun hf => ?_)
  · refine lv_ldc (v := (-1000000001 : Int32)) hx hb hown (hts _ q342) dX0_textTold_26 ?_
    exact zw_iret X hw hf (Nat.le_of_ble_eq_true rfl) (Nat.le_of_ble_eq_true rfl) dX0_textTold_28
  · refine lv_iload_n hx hb dX0_textTold_17 rfl (lv_at hl 2 rfl) ?_
    refine lv_iconst (v := (0 : Int32)) hx hb dX0_textTold_18 (by decide) ?_
    refine lv_iconst (v := (1 : Int32)) hx hb dX0_textTold_19 (by decide) ?_
    refine zw_goZ (rest := []) hw hf (fun r hr => va_runS (As := [.int i2, .int (0 : Int32), .int (1 : Int32)]) (rest := []) X.1 (mt_X0_isIn l D A r3.2 i2 (0 : Int32) (1 : Int32) r hr) (va_cwS 3 hts (lw_S q339 q340 q81 q341) rfl rfl rfl cd_X0_isIn ⟨Nat.le_of_ble_eq_true rfl, Nat.le_of_ble_eq_true rfl⟩) (zpreS X hw _) rfl rfl hl.1 rfl (lv_room (Nat.le_of_ble_eq_true rfl)) dX0_textTold_20 ⟨Nat.le_of_ble_eq_true rfl, Nat.le_of_ble_eq_true rfl⟩) (fun r4 H locs hf hw => ?_)
    refine zw_if_ne (tgt := 29) hx hb hf dX0_textTold_23 (by decide) (fun hf => ?_) (fun hf => ?_)
    · refine lv_iload_n hx hb dX0_textTold_29 rfl (lv_at hl 2 rfl) ?_
      refine zw_if_ne (tgt := 48) hx hb hf dX0_textTold_30 (by decide) (fun hf => ?_) (fun hf => ?_)
      · refine lv_aload_n hx hb dX0_textTold_48 rfl (lv_at hl 0 rfl) ?_
        refine zw_getR X hw fs_X0_0 q252 rfl hf dX0_textTold_49 (fun v5 hf => ?_)
        refine zw_getRN X hw fs_X1_7 (hN _ nq141) rfl hf dX0_textTold_52 (fun v6 hf => ?_)
        refine lv_iload_n hx hb dX0_textTold_55 rfl (lv_at hl 1 rfl) ?_
        refine zw_aaloadR X hw hf dX0_textTold_56 (fun v7 hf => ?_)
        refine zw_getIN X hw fs_X13_2 (hN _ nq498) rfl hf dX0_textTold_57 (fun v8 hf => ?_)
        exact zw_iret X hw hf (Nat.le_of_ble_eq_true rfl) (Nat.le_of_ble_eq_true rfl) dX0_textTold_60
      · refine lv_aload_n hx hb dX0_textTold_33 rfl (lv_at hl 0 rfl) ?_
        refine zw_getR X hw fs_X0_0 q252 rfl hf dX0_textTold_34 (fun v9 hf => ?_)
        refine zw_getRN X hw fs_X1_7 (hN _ nq141) rfl hf dX0_textTold_37 (fun v10 hf => ?_)
        refine lv_iload_n hx hb dX0_textTold_40 rfl (lv_at hl 1 rfl) ?_
        refine zw_aaloadR X hw hf dX0_textTold_41 (fun v11 hf => ?_)
        refine zw_getIN X hw fs_X13_0 (hN _ nq494) rfl hf dX0_textTold_42 (fun v12 hf => ?_)
        refine lv_goto (tgt := 60) hx hb dX0_textTold_45 (by decide) ?_
        exact zw_iret X hw hf (Nat.le_of_ble_eq_true rfl) (Nat.le_of_ble_eq_true rfl) dX0_textTold_60
    · refine lv_ldc (v := (-1000000001 : Int32)) hx hb hown (hts _ q342) dX0_textTold_26 ?_
      exact zw_iret X hw hf (Nat.le_of_ble_eq_true rfl) (Nat.le_of_ble_eq_true rfl) dX0_textTold_28
set_option maxHeartbeats 4000000 in
theorem k_X0_counts_4 {p : Program} {l : Launch} {e : Env} {s : State} {m : MethodId} {args : Array Value} {below : List Frame} {meth : Method} {c : Code} {D : va_G} {A : Nat → Prop} (X : zCx p s m args meth c D A (zEv A) cX0_counts 4 RX0 (Option.some FieldType.int)) (res : Int32 × zT) : ∀ (n : Nat), ∀ (h : zT) (a0 : Nat) (i1 : Int32) (i2 : Int32) (i3 : Int32) (H : Heap) (locs : List Loc) (ls : Array Slot), f_X0_counts_4 n h a0 i1 i2 i3 = some res → zWh D A s H h locs → lv_has ls 4 [(0, .ref a0), (1, .int i1), (2, .int i2), (3, .int i3)] → W p l e rm_X0_counts s m args below meth c H locs 0 0 (MQ below (zQW D A (some (.int res.1)) res.2) args s 0 0 A) (F0 m 4 ls []) := by
  have hx := X.1.1
  have hb := X.1.2.1
  have hown := X.1.2.2.2.1
  have hts := X.1.2.2.2.2
  have hN := X.2.2.2.2.2.2.1
  have hDW := X.2.2.2.2.2.2.2.1
  have hAO := X.2.2.2.2.2.2.2.2.1
  have hNC := X.2.2.2.2.2.2.2.2.2.1
  intro n
  induction n with
  | zero =>
    intro h a0 i1 i2 i3 H locs ls hf hw hl
    cases hf
  | succ n ih =>
    intro h a0 i1 i2 i3 H locs ls hf hw hl
    unfold f_X0_counts_4 at hf
    refine lv_iload_n hx hb dX0_counts_4 rfl (lv_at hl 3 rfl) ?_
    refine lv_aload_n hx hb dX0_counts_5 rfl (lv_at hl 0 rfl) ?_
    refine zw_getR X hw fs_X0_0 q252 rfl hf dX0_counts_6 (fun v1 hf => ?_)
    refine zw_getIN X hw fs_X1_6 (hN _ nq139) rfl hf dX0_counts_9 (fun v2 hf => ?_)
    refine zw_icmp_ge (tgt := 43) hx hb hf dX0_counts_12 (by decide) (fun hf => ?_) (fun hf => ?_)
    · refine lv_iload_n hx hb dX0_counts_43 rfl (lv_at hl 2 rfl) ?_
      exact zw_iret X hw hf (Nat.le_of_ble_eq_true rfl) (Nat.le_of_ble_eq_true rfl) dX0_counts_44
    · refine lv_aload_n hx hb dX0_counts_15 rfl (lv_at hl 0 rfl) ?_
      refine zw_getR X hw fs_X0_0 q252 rfl hf dX0_counts_16 (fun v3 hf => ?_)
      refine zw_getRN X hw fs_X1_7 (hN _ nq141) rfl hf dX0_counts_19 (fun v4 hf => ?_)
      refine lv_iload_n hx hb dX0_counts_22 rfl (lv_at hl 3 rfl) ?_
      refine zw_aaloadR X hw hf dX0_counts_23 (fun v5 hf => ?_)
      refine zw_getIN X hw fs_X13_0 (hN _ nq494) rfl hf dX0_counts_24 (fun v6 hf => ?_)
      refine lv_iload_n hx hb dX0_counts_27 rfl (lv_at hl 1 rfl) ?_
      refine zw_icmp_ne (tgt := 35) hx hb hf dX0_counts_28 (by decide) (fun hf => ?_) (fun hf => ?_)
      · refine lv_iload_n hx hb dX0_counts_35 rfl (lv_at hl 2 rfl) ?_
        refine lv_istore_n (lv' := [(2, .int i2), (0, .ref a0), (1, .int i1), (3, .int i3)]) hx hb dX0_counts_36 rfl hl (by decide) rfl (fun ls hl => ?_)
        refine zw_nmS hf (fun v7 ev7 hf => ?_)
        refine lv_iinc (k := 3) (v := v7) (lv' := [(3, .int v7), (2, .int i2), (0, .ref a0), (1, .int i1)]) hx hb dX0_counts_37 hl rfl (by rw [ev7]; rfl) (by decide) rfl (fun ls hl => ?_)
        refine lv_goto (tgt := 4) hx hb dX0_counts_40 (by decide) ?_
        exact ih h a0 i1 i2 v7 _ _ _ hf hw (lv_sub hl [2, 3, 1, 0] rfl)
      · refine lv_iload_n hx hb dX0_counts_31 rfl (lv_at hl 3 rfl) ?_
        refine lv_goto (tgt := 36) hx hb dX0_counts_32 (by decide) ?_
        refine lv_istore_n (lv' := [(2, .int i3), (0, .ref a0), (1, .int i1), (3, .int i3)]) hx hb dX0_counts_36 rfl hl (by decide) rfl (fun ls hl => ?_)
        refine zw_nmS hf (fun v8 ev8 hf => ?_)
        refine lv_iinc (k := 3) (v := v8) (lv' := [(3, .int v8), (2, .int i3), (0, .ref a0), (1, .int i1)]) hx hb dX0_counts_37 hl rfl (by rw [ev8]; rfl) (by decide) rfl (fun ls hl => ?_)
        refine lv_goto (tgt := 4) hx hb dX0_counts_40 (by decide) ?_
        exact ih h a0 i1 i3 v8 _ _ _ hf hw (lv_sub hl [2, 3, 1, 0] rfl)
set_option maxHeartbeats 4000000 in
theorem mt_X0_counts (l : Launch) (D : va_G) (A : Nat → Prop) (h : zT) (a0 : Nat) (i1 : Int32) (res : Int32 × zT) (hf : f_X0_counts h a0 i1 = some res) : Met l yX0_counts (ws_ yX0_counts cX0_counts 4 (Option.some FieldType.int)) rm_X0_counts (zPW D A (zEv A) h [.ref a0, .int i1]) (zQW D A (some (.int res.1)) res.2) 0 0 A := by
  refine zmt (zEv_ok A) (by decide) (Nat.le_of_ble_eq_true rfl) ?_
  intro p e s m below meth c ls hmn X hw hl
  have hl : lv_has ls 4 [(0, .ref a0), (1, .int i1)] := hl
  have hx := X.1.1
  have hb := X.1.2.1
  have hown := X.1.2.2.2.1
  have hts := X.1.2.2.2.2
  have hN := X.2.2.2.2.2.2.1
  have hDW := X.2.2.2.2.2.2.2.1
  have hAO := X.2.2.2.2.2.2.2.2.1
  have hNC := X.2.2.2.2.2.2.2.2.2.1
  unfold f_X0_counts at hf
  refine lv_iconst (v := (-1 : Int32)) hx hb dX0_counts_0 (by decide) ?_
  refine lv_istore_n (lv' := [(2, .int (-1 : Int32)), (0, .ref a0), (1, .int i1)]) hx hb dX0_counts_1 rfl hl (by decide) rfl (fun ls hl => ?_)
  refine lv_iconst (v := (0 : Int32)) hx hb dX0_counts_2 (by decide) ?_
  refine lv_istore_n (lv' := [(3, .int (0 : Int32)), (2, .int (-1 : Int32)), (0, .ref a0), (1, .int i1)]) hx hb dX0_counts_3 rfl hl (by decide) rfl (fun ls hl => ?_)
  exact k_X0_counts_4 X _ 4096 h a0 i1 (-1 : Int32) (0 : Int32) _ _ _ hf hw (lv_sub hl [2, 3, 1, 0] rfl)
set_option maxHeartbeats 4000000 in
theorem mt_X0_orNone (l : Launch) (D : va_G) (A : Nat → Prop) (h : zT) (i0 : Int32) (res : Int32 × zT) (hf : f_X0_orNone h i0 = some res) : Met l yX0_orNone (ws_ yX0_orNone cX0_orNone 1 (Option.some FieldType.int)) rm_X0_orNone (zPW D A (zEv A) h [.int i0]) (zQW D A (some (.int res.1)) res.2) 0 0 A := by
  refine zmt (zEv_ok A) (by decide) (Nat.le_of_ble_eq_true rfl) ?_
  intro p e s m below meth c ls hmn X hw hl
  have hl : lv_has ls 1 [(0, .int i0)] := hl
  have hx := X.1.1
  have hb := X.1.2.1
  have hown := X.1.2.2.2.1
  have hts := X.1.2.2.2.2
  have hN := X.2.2.2.2.2.2.1
  have hDW := X.2.2.2.2.2.2.2.1
  have hAO := X.2.2.2.2.2.2.2.2.1
  have hNC := X.2.2.2.2.2.2.2.2.2.1
  unfold f_X0_orNone at hf
  refine lv_iload_n hx hb dX0_orNone_0 rfl (lv_at hl 0 rfl) ?_
  refine lv_iconst (v := (-1 : Int32)) hx hb dX0_orNone_1 (by decide) ?_
  refine zw_icmp_ne (tgt := 10) hx hb hf dX0_orNone_2 (by decide) (fun hf => ?_) (fun hf => ?_)
  · refine lv_iload_n hx hb dX0_orNone_10 rfl (lv_at hl 0 rfl) ?_
    exact zw_iret X hw hf (Nat.le_of_ble_eq_true rfl) (Nat.le_of_ble_eq_true rfl) dX0_orNone_11
  · refine lv_ldc (v := (-1000000005 : Int32)) hx hb hown (hts _ q521) dX0_orNone_5 ?_
    refine lv_goto (tgt := 11) hx hb dX0_orNone_7 (by decide) ?_
    exact zw_iret X hw hf (Nat.le_of_ble_eq_true rfl) (Nat.le_of_ble_eq_true rfl) dX0_orNone_11
set_option maxHeartbeats 4000000 in
theorem mt_X0_why (l : Launch) (D : va_G) (A : Nat → Prop) (h : zT) (a0 : Nat) (i1 : Int32) (res : Int32 × zT) (hf : f_X0_why h a0 i1 = some res) : Met l yX0_why (ws_ yX0_why cX0_why 2 (Option.some FieldType.int)) rm_X0_why (zPW D A (zEv A) h [.ref a0, .int i1]) (zQW D A (some (.int res.1)) res.2) 0 0 A := by
  refine zmt (zEv_ok A) (by decide) (Nat.le_of_ble_eq_true rfl) ?_
  intro p e s m below meth c ls hmn X hw hl
  have hl : lv_has ls 2 [(0, .ref a0), (1, .int i1)] := hl
  have hx := X.1.1
  have hb := X.1.2.1
  have hown := X.1.2.2.2.1
  have hts := X.1.2.2.2.2
  have hN := X.2.2.2.2.2.2.1
  have hDW := X.2.2.2.2.2.2.2.1
  have hAO := X.2.2.2.2.2.2.2.2.1
  have hNC := X.2.2.2.2.2.2.2.2.2.1
  unfold f_X0_why at hf
  refine lv_iload_n hx hb dX0_why_0 rfl (lv_at hl 1 rfl) ?_
  refine lv_iconst (v := (0 : Int32)) hx hb dX0_why_1 (by decide) ?_
  refine lv_iconst (v := (2 : Int32)) hx hb dX0_why_2 (by decide) ?_
  refine zw_goZ (rest := []) hw hf (fun r hr => va_runS (As := [.int i1, .int (0 : Int32), .int (2 : Int32)]) (rest := []) X.1 (mt_X0_isIn l D A h i1 (0 : Int32) (2 : Int32) r hr) (va_cwS 3 hts (lw_S q339 q340 q81 q341) rfl rfl rfl cd_X0_isIn ⟨Nat.le_of_ble_eq_true rfl, Nat.le_of_ble_eq_true rfl⟩) (zpreS X hw _) rfl rfl hl.1 rfl (lv_room (Nat.le_of_ble_eq_true rfl)) dX0_why_3 ⟨Nat.le_of_ble_eq_true rfl, Nat.le_of_ble_eq_true rfl⟩) (fun r1 H locs hf hw => ?_)
  refine zw_if_eq (tgt := 20) hx hb hf dX0_why_6 (by decide) (fun hf => ?_) (fun hf => ?_)
  · refine lv_ldc (v := (-1000000001 : Int32)) hx hb hown (hts _ q342) dX0_why_20 ?_
    exact zw_iret X hw hf (Nat.le_of_ble_eq_true rfl) (Nat.le_of_ble_eq_true rfl) dX0_why_22
  · refine lv_aload_n hx hb dX0_why_9 rfl (lv_at hl 0 rfl) ?_
    refine lv_iload_n hx hb dX0_why_10 rfl (lv_at hl 1 rfl) ?_
    refine zw_kC hf (fun fs hfs hf => ?_)
    refine zw_goI (rest := []) hw hf (fun r hr => va_runV (C := RX0) (As := [.int i1]) (rest := []) X.1 (mt_X0_counts l D A r1.2 a0 i1 r hr) (cwV 1 hts (lw_V q514 q516 qs17 q81 q517) rfl rfl rfl ⟨rfl, cd_X0_counts⟩ ⟨Nat.le_of_ble_eq_true rfl, Nat.le_of_ble_eq_true rfl⟩) (zpreV (ci := 0) X hw hfs rfl _) rfl rfl hl.1 rfl (lv_room (Nat.le_of_ble_eq_true rfl)) dX0_why_11 ⟨Nat.le_of_ble_eq_true rfl, Nat.le_of_ble_eq_true rfl⟩) (fun r2 H locs hf hw => ?_)
    refine zw_goI (rest := []) hw hf (fun r hr => va_runS (As := [.int r2.1]) (rest := []) X.1 (mt_X0_orNone l D A r2.2 r2.1 r hr) (va_cwS 1 hts (lw_S q518 q519 q81 q520) rfl rfl rfl cd_X0_orNone ⟨Nat.le_of_ble_eq_true rfl, Nat.le_of_ble_eq_true rfl⟩) (zpreS X hw _) rfl rfl hl.1 rfl (lv_room (Nat.le_of_ble_eq_true rfl)) dX0_why_14 ⟨Nat.le_of_ble_eq_true rfl, Nat.le_of_ble_eq_true rfl⟩) (fun r3 H locs hf hw => ?_)
    refine lv_goto (tgt := 22) hx hb dX0_why_17 (by decide) ?_
    exact zw_iret X hw hf (Nat.le_of_ble_eq_true rfl) (Nat.le_of_ble_eq_true rfl) dX0_why_22
set_option maxHeartbeats 4000000 in
theorem mt_X0_rubbingOf (l : Launch) (D : va_G) (A : Nat → Prop) (h : zT) (i0 : Int32) (res : Nat × zT) (hf : f_X0_rubbingOf h i0 = some res) : Met l yX0_rubbingOf (ws_ yX0_rubbingOf cX0_rubbingOf 1 (Option.some (FieldType.object "StoneSheets$Rubbing"))) rm_X0_rubbingOf (zPW D A (zEv A) h [.int i0]) (zQW D A (some (.ref res.1)) res.2) 1 5 A := by
  refine zmt (zEv_ok A) (by decide) (Nat.le_of_ble_eq_true rfl) ?_
  intro p e s m below meth c ls hmn X hw hl
  have hl : lv_has ls 1 [(0, .int i0)] := hl
  have hx := X.1.1
  have hb := X.1.2.1
  have hown := X.1.2.2.2.1
  have hts := X.1.2.2.2.2
  have hN := X.2.2.2.2.2.2.1
  have hDW := X.2.2.2.2.2.2.2.1
  have hAO := X.2.2.2.2.2.2.2.2.1
  have hNC := X.2.2.2.2.2.2.2.2.2.1
  unfold f_X0_rubbingOf at hf
  refine lv_iload_n hx hb dX0_rubbingOf_0 rfl (lv_at hl 0 rfl) ?_
  refine zw_case hf (fun c1001 hf => ?_) (fun c1001 hf => ?_)
  · refine zw_tableIn (off := 35) (tgt := 36) hx hb c1001 dX0_rubbingOf_1 (by decide) (by decide) rfl (by decide) ?_
    refine zw_new (N := 5) X hw zcf7 q534 q535 q91 zdf7 hf (Nat.le_of_ble_eq_true rfl) (Nat.le_of_ble_eq_true rfl) dX0_rubbingOf_36 (fun r1 H hf hw => ?_)
    refine lv_dup hx hb dX0_rubbingOf_39 rfl ?_
    refine zw_goV (rest := [.ref r1.1]) hw hf (fun r hr => va_runIN (As := []) (rest := [.ref r1.1]) X.1 (mt_X7_init l D A r1.2 r1.1 r hr) ⟨va_cnB 0 hts (lw_meth q538) rfl rfl rfl (hN _ nq536) (hts _ q91) cd_X7_init ⟨Nat.le_of_ble_eq_true rfl, Nat.le_of_ble_eq_true rfl⟩, rfl, hts _ q537⟩ (zpreS X hw _) rfl rfl hl.1 rfl (lv_room (Nat.le_of_ble_eq_true rfl)) dX0_rubbingOf_40 ⟨Nat.le_of_ble_eq_true rfl, Nat.le_of_ble_eq_true rfl⟩) (fun r2 H locs hf hw => ?_)
    exact zw_aretR X (Or.inl ⟨_, rfl⟩) hw hf (Nat.le_of_ble_eq_true rfl) (Nat.le_of_ble_eq_true rfl) dX0_rubbingOf_43
  · refine zw_case hf (fun c1002 hf => ?_) (fun c1002 hf => ?_)
    · refine zw_tableIn (off := 43) (tgt := 44) hx hb c1002 dX0_rubbingOf_1 (by decide) (by decide) rfl (by decide) ?_
      refine zw_new (N := 5) X hw zcf8 q568 q569 q92 zdf8 hf (Nat.le_of_ble_eq_true rfl) (Nat.le_of_ble_eq_true rfl) dX0_rubbingOf_44 (fun r3 H hf hw => ?_)
      refine lv_dup hx hb dX0_rubbingOf_47 rfl ?_
      refine zw_goV (rest := [.ref r3.1]) hw hf (fun r hr => va_runIN (As := []) (rest := [.ref r3.1]) X.1 (mt_X8_init l D A r3.2 r3.1 r hr) ⟨va_cnB 0 hts (lw_meth q572) rfl rfl rfl (hN _ nq570) (hts _ q92) cd_X8_init ⟨Nat.le_of_ble_eq_true rfl, Nat.le_of_ble_eq_true rfl⟩, rfl, hts _ q571⟩ (zpreS X hw _) rfl rfl hl.1 rfl (lv_room (Nat.le_of_ble_eq_true rfl)) dX0_rubbingOf_48 ⟨Nat.le_of_ble_eq_true rfl, Nat.le_of_ble_eq_true rfl⟩) (fun r4 H locs hf hw => ?_)
      exact zw_aretR X (Or.inl ⟨_, rfl⟩) hw hf (Nat.le_of_ble_eq_true rfl) (Nat.le_of_ble_eq_true rfl) dX0_rubbingOf_51
    · refine zw_case hf (fun c1003 hf => ?_) (fun c1003 hf => ?_)
      · refine zw_tableIn (off := 51) (tgt := 52) hx hb c1003 dX0_rubbingOf_1 (by decide) (by decide) rfl (by decide) ?_
        refine zw_new (N := 5) X hw zcf9 q580 q581 q93 zdf9 hf (Nat.le_of_ble_eq_true rfl) (Nat.le_of_ble_eq_true rfl) dX0_rubbingOf_52 (fun r5 H hf hw => ?_)
        refine lv_dup hx hb dX0_rubbingOf_55 rfl ?_
        refine zw_goV (rest := [.ref r5.1]) hw hf (fun r hr => va_runIN (As := []) (rest := [.ref r5.1]) X.1 (mt_X9_init l D A r5.2 r5.1 r hr) ⟨va_cnB 0 hts (lw_meth q584) rfl rfl rfl (hN _ nq582) (hts _ q93) cd_X9_init ⟨Nat.le_of_ble_eq_true rfl, Nat.le_of_ble_eq_true rfl⟩, rfl, hts _ q583⟩ (zpreS X hw _) rfl rfl hl.1 rfl (lv_room (Nat.le_of_ble_eq_true rfl)) dX0_rubbingOf_56 ⟨Nat.le_of_ble_eq_true rfl, Nat.le_of_ble_eq_true rfl⟩) (fun r6 H locs hf hw => ?_)
        exact zw_aretR X (Or.inl ⟨_, rfl⟩) hw hf (Nat.le_of_ble_eq_true rfl) (Nat.le_of_ble_eq_true rfl) dX0_rubbingOf_59
      · refine zw_case hf (fun c1004 hf => ?_) (fun c1004 hf => ?_)
        · refine zw_tableIn (off := 59) (tgt := 60) hx hb c1004 dX0_rubbingOf_1 (by decide) (by decide) rfl (by decide) ?_
          refine zw_new (N := 5) X hw zcf10 q592 q593 q94 zdf10 hf (Nat.le_of_ble_eq_true rfl) (Nat.le_of_ble_eq_true rfl) dX0_rubbingOf_60 (fun r7 H hf hw => ?_)
          refine lv_dup hx hb dX0_rubbingOf_63 rfl ?_
          refine zw_goV (rest := [.ref r7.1]) hw hf (fun r hr => va_runIN (As := []) (rest := [.ref r7.1]) X.1 (mt_X10_init l D A r7.2 r7.1 r hr) ⟨va_cnB 0 hts (lw_meth q596) rfl rfl rfl (hN _ nq594) (hts _ q94) cd_X10_init ⟨Nat.le_of_ble_eq_true rfl, Nat.le_of_ble_eq_true rfl⟩, rfl, hts _ q595⟩ (zpreS X hw _) rfl rfl hl.1 rfl (lv_room (Nat.le_of_ble_eq_true rfl)) dX0_rubbingOf_64 ⟨Nat.le_of_ble_eq_true rfl, Nat.le_of_ble_eq_true rfl⟩) (fun r8 H locs hf hw => ?_)
          exact zw_aretR X (Or.inl ⟨_, rfl⟩) hw hf (Nat.le_of_ble_eq_true rfl) (Nat.le_of_ble_eq_true rfl) dX0_rubbingOf_67
        · refine zw_case hf (fun c1005 hf => ?_) (fun c1005 hf => ?_)
          · refine zw_tableIn (off := 67) (tgt := 68) hx hb c1005 dX0_rubbingOf_1 (by decide) (by decide) rfl (by decide) ?_
            refine zw_new (N := 5) X hw zcf11 q604 q605 q95 zdf11 hf (Nat.le_of_ble_eq_true rfl) (Nat.le_of_ble_eq_true rfl) dX0_rubbingOf_68 (fun r9 H hf hw => ?_)
            refine lv_dup hx hb dX0_rubbingOf_71 rfl ?_
            refine zw_goV (rest := [.ref r9.1]) hw hf (fun r hr => va_runIN (As := []) (rest := [.ref r9.1]) X.1 (mt_X11_init l D A r9.2 r9.1 r hr) ⟨va_cnB 0 hts (lw_meth q608) rfl rfl rfl (hN _ nq606) (hts _ q95) cd_X11_init ⟨Nat.le_of_ble_eq_true rfl, Nat.le_of_ble_eq_true rfl⟩, rfl, hts _ q607⟩ (zpreS X hw _) rfl rfl hl.1 rfl (lv_room (Nat.le_of_ble_eq_true rfl)) dX0_rubbingOf_72 ⟨Nat.le_of_ble_eq_true rfl, Nat.le_of_ble_eq_true rfl⟩) (fun r10 H locs hf hw => ?_)
            exact zw_aretR X (Or.inl ⟨_, rfl⟩) hw hf (Nat.le_of_ble_eq_true rfl) (Nat.le_of_ble_eq_true rfl) dX0_rubbingOf_75
          · refine lv_tableOut (tgt := 76) hx hb dX0_rubbingOf_1 (by have := lv_neT c1001 (a := 1) (by decide); have := lv_neT c1002 (a := 2) (by decide); have := lv_neT c1003 (a := 3) (by decide); have := lv_neT c1004 (a := 4) (by decide); have := lv_neT c1005 (a := 5) (by decide); omega) (by decide) ?_
            refine zw_new (N := 5) X hw zcf6 q616 q617 q90 zdf6 hf (Nat.le_of_ble_eq_true rfl) (Nat.le_of_ble_eq_true rfl) dX0_rubbingOf_76 (fun r11 H hf hw => ?_)
            refine lv_dup hx hb dX0_rubbingOf_79 rfl ?_
            refine zw_goV (rest := [.ref r11.1]) hw hf (fun r hr => va_runIN (As := []) (rest := [.ref r11.1]) X.1 (mt_X6_init l D A r11.2 r11.1 r hr) ⟨va_cnB 0 hts (lw_meth q541) rfl rfl rfl (hN _ nq618) (hts _ q90) cd_X6_init ⟨Nat.le_of_ble_eq_true rfl, Nat.le_of_ble_eq_true rfl⟩, rfl, hts _ q540⟩ (zpreS X hw _) rfl rfl hl.1 rfl (lv_room (Nat.le_of_ble_eq_true rfl)) dX0_rubbingOf_80 ⟨Nat.le_of_ble_eq_true rfl, Nat.le_of_ble_eq_true rfl⟩) (fun r12 H locs hf hw => ?_)
            exact zw_aretR X (Or.inl ⟨_, rfl⟩) hw hf (Nat.le_of_ble_eq_true rfl) (Nat.le_of_ble_eq_true rfl) dX0_rubbingOf_83
set_option maxHeartbeats 4000000 in
theorem mt_X0_comes (l : Launch) (D : va_G) (A : Nat → Prop) (h : zT) (a0 : Nat) (i1 : Int32) (i2 : Int32) (i3 : Int32) (res : Int32 × zT) (hf : f_X0_comes h a0 i1 i2 i3 = some res) : Met l yX0_comes (ws_ yX0_comes cX0_comes 5 (Option.some FieldType.int)) rm_X0_comes (zPW D A (zEv A) h [.ref a0, .int i1, .int i2, .int i3]) (zQW D A (some (.int res.1)) res.2) 1 5 A := by
  refine zmt (zEv_ok A) (by decide) (Nat.le_of_ble_eq_true rfl) ?_
  intro p e s m below meth c ls hmn X hw hl
  have hl : lv_has ls 5 [(0, .ref a0), (1, .int i1), (2, .int i2), (3, .int i3)] := hl
  have hx := X.1.1
  have hb := X.1.2.1
  have hown := X.1.2.2.2.1
  have hts := X.1.2.2.2.2
  have hN := X.2.2.2.2.2.2.1
  have hDW := X.2.2.2.2.2.2.2.1
  have hAO := X.2.2.2.2.2.2.2.2.1
  have hNC := X.2.2.2.2.2.2.2.2.2.1
  unfold f_X0_comes at hf
  refine lv_aload_n hx hb dX0_comes_0 rfl (lv_at hl 0 rfl) ?_
  refine zw_getR X hw fs_X0_0 q252 rfl hf dX0_comes_1 (fun v1 hf => ?_)
  refine zw_getIN X hw fs_X1_1 (hN _ nq129) rfl hf dX0_comes_4 (fun v2 hf => ?_)
  refine lv_istore (lv' := [(4, .int v2), (0, .ref a0), (1, .int i1), (2, .int i2), (3, .int i3)]) hx hb dX0_comes_7 hl (by decide) rfl (fun ls hl => ?_)
  refine lv_aload_n hx hb dX0_comes_9 rfl (lv_at hl 1 rfl) ?_
  refine zw_getR X hw fs_X0_0 q252 rfl hf dX0_comes_10 (fun v3 hf => ?_)
  refine zw_getRN X hw fs_X1_2 (hN _ nq131) rfl hf dX0_comes_13 (fun v4 hf => ?_)
  refine lv_iload hx hb dX0_comes_16 (lv_at hl 0 rfl) ?_
  refine lv_iload_n hx hb dX0_comes_18 rfl (lv_at hl 2 rfl) ?_
  refine zw_goR (rest := [.int v2, .ref v4]) hw hf (fun r hr => va_runS (As := [.int i1]) (rest := [.int v2, .ref v4]) X.1 (mt_X0_rubbingOf l D A h i1 r hr) (va_cwS 1 hts (lw_S q531 q532 q81 q533) rfl rfl rfl cd_X0_rubbingOf ⟨Nat.le_of_ble_eq_true rfl, Nat.le_of_ble_eq_true rfl⟩) (zpreS X hw _) rfl rfl hl.1 rfl (lv_room (Nat.le_of_ble_eq_true rfl)) dX0_comes_19 ⟨Nat.le_of_ble_eq_true rfl, Nat.le_of_ble_eq_true rfl⟩) (fun r5 H locs hf hw => ?_)
  refine zw_aastore X hw (zcastR X) hf dX0_comes_22 (fun h6 H locs hf hw => ?_)
  refine lv_aload_n hx hb dX0_comes_23 rfl (lv_at hl 1 rfl) ?_
  refine zw_getR X hw fs_X0_0 q252 rfl hf dX0_comes_24 (fun v7 hf => ?_)
  refine zw_getRN X hw fs_X1_2 (hN _ nq131) rfl hf dX0_comes_27 (fun v8 hf => ?_)
  refine lv_iload hx hb dX0_comes_30 (lv_at hl 0 rfl) ?_
  refine zw_aaloadR X hw hf dX0_comes_32 (fun v9 hf => ?_)
  refine lv_iload_n hx hb dX0_comes_33 rfl (lv_at hl 3 rfl) ?_
  refine zw_put X hw fs_X6_0 q544 rfl rfl rfl rfl hf dX0_comes_34 (fun h10 H locs hf hw => ?_)
  refine lv_aload_n hx hb dX0_comes_37 rfl (lv_at hl 1 rfl) ?_
  refine zw_getR X hw fs_X0_0 q252 rfl hf dX0_comes_38 (fun v11 hf => ?_)
  refine zw_getRN X hw fs_X1_2 (hN _ nq131) rfl hf dX0_comes_41 (fun v12 hf => ?_)
  refine lv_iload hx hb dX0_comes_44 (lv_at hl 0 rfl) ?_
  refine zw_aaloadR X hw hf dX0_comes_46 (fun v13 hf => ?_)
  refine lv_iload_n hx hb dX0_comes_47 rfl (lv_at hl 4 rfl) ?_
  refine zw_put X hw fs_X6_1 q548 rfl rfl rfl rfl hf dX0_comes_48 (fun h14 H locs hf hw => ?_)
  refine lv_aload_n hx hb dX0_comes_51 rfl (lv_at hl 1 rfl) ?_
  refine zw_getR X hw fs_X0_0 q252 rfl hf dX0_comes_52 (fun v15 hf => ?_)
  refine lv_dup hx hb dX0_comes_55 rfl ?_
  refine zw_getIN X hw fs_X1_1 (hN _ nq129) rfl hf dX0_comes_56 (fun v16 hf => ?_)
  refine lv_iconst (v := (1 : Int32)) hx hb dX0_comes_59 (by decide) ?_
  refine lv_iadd hx hb dX0_comes_60 ?_
  refine zw_putN X hw fs_X1_1 (hN _ nq129) rfl rfl rfl rfl hf dX0_comes_61 (fun h17 H locs hf hw => ?_)
  refine lv_iload hx hb dX0_comes_64 (lv_at hl 0 rfl) ?_
  exact zw_iret X hw hf (Nat.le_of_ble_eq_true rfl) (Nat.le_of_ble_eq_true rfl) dX0_comes_66
set_option maxHeartbeats 4000000 in
theorem mt_X0_rubbing (l : Launch) (D : va_G) (A : Nat → Prop) (h : zT) (a0 : Nat) (i1 : Int32) (i2 : Int32) (i3 : Int32) (res : Int32 × zT) (hf : f_X0_rubbing h a0 i1 i2 i3 = some res) : Met l yX0_rubbing (ws_ yX0_rubbing cX0_rubbing 4 (Option.some FieldType.int)) rm_X0_rubbing (zPW D A (zEv A) h [.ref a0, .int i1, .int i2, .int i3]) (zQW D A (some (.int res.1)) res.2) 1 5 A := by
  refine zmt (zEv_ok A) (by decide) (Nat.le_of_ble_eq_true rfl) ?_
  intro p e s m below meth c ls hmn X hw hl
  have hl : lv_has ls 4 [(0, .ref a0), (1, .int i1), (2, .int i2), (3, .int i3)] := hl
  have hx := X.1.1
  have hb := X.1.2.1
  have hown := X.1.2.2.2.1
  have hts := X.1.2.2.2.2
  have hN := X.2.2.2.2.2.2.1
  have hDW := X.2.2.2.2.2.2.2.1
  have hAO := X.2.2.2.2.2.2.2.2.1
  have hNC := X.2.2.2.2.2.2.2.2.2.1
  unfold f_X0_rubbing at hf
  refine lv_iload_n hx hb dX0_rubbing_0 rfl (lv_at hl 1 rfl) ?_
  refine lv_iconst (v := (0 : Int32)) hx hb dX0_rubbing_1 (by decide) ?_
  refine lv_iconst (v := (5 : Int32)) hx hb dX0_rubbing_2 (by decide) ?_
  refine zw_goZ (rest := []) hw hf (fun r hr => va_runS (As := [.int i1, .int (0 : Int32), .int (5 : Int32)]) (rest := []) X.1 (mt_X0_isIn l D A h i1 (0 : Int32) (5 : Int32) r hr) (va_cwS 3 hts (lw_S q339 q340 q81 q341) rfl rfl rfl cd_X0_isIn ⟨Nat.le_of_ble_eq_true rfl, Nat.le_of_ble_eq_true rfl⟩) (zpreS X hw _) rfl rfl hl.1 rfl (lv_room (Nat.le_of_ble_eq_true rfl)) dX0_rubbing_3 ⟨Nat.le_of_ble_eq_true rfl, Nat.le_of_ble_eq_true rfl⟩) (fun r1 H locs hf hw => ?_)
  refine zw_if_eq (tgt := 30) hx hb hf dX0_rubbing_6 (by decide) (fun hf => ?_) (fun hf => ?_)
  · refine lv_ldc (v := (-1000000001 : Int32)) hx hb hown (hts _ q342) dX0_rubbing_30 ?_
    exact zw_iret X hw hf (Nat.le_of_ble_eq_true rfl) (Nat.le_of_ble_eq_true rfl) dX0_rubbing_32
  · refine lv_iload_n hx hb dX0_rubbing_9 rfl (lv_at hl 2 rfl) ?_
    refine lv_iconst (v := (0 : Int32)) hx hb dX0_rubbing_10 (by decide) ?_
    refine lv_ldcw (v := (65535 : Int32)) hx hb hown (hts _ q526) dX0_rubbing_11 ?_
    refine zw_goZ (rest := []) hw hf (fun r hr => va_runS (As := [.int i2, .int (0 : Int32), .int (65535 : Int32)]) (rest := []) X.1 (mt_X0_isIn l D A r1.2 i2 (0 : Int32) (65535 : Int32) r hr) (va_cwS 3 hts (lw_S q339 q340 q81 q341) rfl rfl rfl cd_X0_isIn ⟨Nat.le_of_ble_eq_true rfl, Nat.le_of_ble_eq_true rfl⟩) (zpreS X hw _) rfl rfl hl.1 rfl (lv_room (Nat.le_of_ble_eq_true rfl)) dX0_rubbing_14 ⟨Nat.le_of_ble_eq_true rfl, Nat.le_of_ble_eq_true rfl⟩) (fun r2 H locs hf hw => ?_)
    refine zw_if_eq (tgt := 30) hx hb hf dX0_rubbing_17 (by decide) (fun hf => ?_) (fun hf => ?_)
    · refine lv_ldc (v := (-1000000001 : Int32)) hx hb hown (hts _ q342) dX0_rubbing_30 ?_
      exact zw_iret X hw hf (Nat.le_of_ble_eq_true rfl) (Nat.le_of_ble_eq_true rfl) dX0_rubbing_32
    · refine lv_iload_n hx hb dX0_rubbing_20 rfl (lv_at hl 3 rfl) ?_
      refine lv_iconst (v := (1 : Int32)) hx hb dX0_rubbing_21 (by decide) ?_
      refine lv_bipush (v := (8 : Int32)) hx hb dX0_rubbing_22 (by decide) ?_
      refine zw_goZ (rest := []) hw hf (fun r hr => va_runS (As := [.int i3, .int (1 : Int32), .int (8 : Int32)]) (rest := []) X.1 (mt_X0_isIn l D A r2.2 i3 (1 : Int32) (8 : Int32) r hr) (va_cwS 3 hts (lw_S q339 q340 q81 q341) rfl rfl rfl cd_X0_isIn ⟨Nat.le_of_ble_eq_true rfl, Nat.le_of_ble_eq_true rfl⟩) (zpreS X hw _) rfl rfl hl.1 rfl (lv_room (Nat.le_of_ble_eq_true rfl)) dX0_rubbing_24 ⟨Nat.le_of_ble_eq_true rfl, Nat.le_of_ble_eq_true rfl⟩) (fun r3 H locs hf hw => ?_)
      refine zw_if_ne (tgt := 33) hx hb hf dX0_rubbing_27 (by decide) (fun hf => ?_) (fun hf => ?_)
      · refine lv_aload_n hx hb dX0_rubbing_33 rfl (lv_at hl 0 rfl) ?_
        refine zw_getR X hw fs_X0_0 q252 rfl hf dX0_rubbing_34 (fun v4 hf => ?_)
        refine zw_getIN X hw fs_X1_1 (hN _ nq129) rfl hf dX0_rubbing_37 (fun v5 hf => ?_)
        refine lv_bipush (v := (9 : Int32)) hx hb dX0_rubbing_40 (by decide) ?_
        refine zw_icmp_ne (tgt := 50) hx hb hf dX0_rubbing_42 (by decide) (fun hf => ?_) (fun hf => ?_)
        · refine lv_aload_n hx hb dX0_rubbing_50 rfl (lv_at hl 0 rfl) ?_
          refine lv_iload_n hx hb dX0_rubbing_51 rfl (lv_at hl 1 rfl) ?_
          refine lv_iload_n hx hb dX0_rubbing_52 rfl (lv_at hl 2 rfl) ?_
          refine lv_iload_n hx hb dX0_rubbing_53 rfl (lv_at hl 3 rfl) ?_
          refine zw_kC hf (fun fs hfs hf => ?_)
          refine zw_goI (rest := []) hw hf (fun r hr => va_runV (C := RX0) (As := [.int i1, .int i2, .int i3]) (rest := []) X.1 (mt_X0_comes l D A r3.2 a0 i1 i2 i3 r hr) (cwV 3 hts (lw_V q527 q529 qs18 q81 q530) rfl rfl rfl ⟨rfl, cd_X0_comes⟩ ⟨Nat.le_of_ble_eq_true rfl, Nat.le_of_ble_eq_true rfl⟩) (zpreV (ci := 0) X hw hfs rfl _) rfl rfl hl.1 rfl (lv_room (Nat.le_of_ble_eq_true rfl)) dX0_rubbing_54 ⟨Nat.le_of_ble_eq_true rfl, Nat.le_of_ble_eq_true rfl⟩) (fun r6 H locs hf hw => ?_)
          exact zw_iret X hw hf (Nat.le_of_ble_eq_true rfl) (Nat.le_of_ble_eq_true rfl) dX0_rubbing_57
        · refine lv_ldc (v := (-1000000003 : Int32)) hx hb hown (hts _ q330) dX0_rubbing_45 ?_
          refine lv_goto (tgt := 57) hx hb dX0_rubbing_47 (by decide) ?_
          exact zw_iret X hw hf (Nat.le_of_ble_eq_true rfl) (Nat.le_of_ble_eq_true rfl) dX0_rubbing_57
      · refine lv_ldc (v := (-1000000001 : Int32)) hx hb hown (hts _ q342) dX0_rubbing_30 ?_
        exact zw_iret X hw hf (Nat.le_of_ble_eq_true rfl) (Nat.le_of_ble_eq_true rfl) dX0_rubbing_32
set_option maxHeartbeats 4000000 in
theorem mt_X0_isRubbing (l : Launch) (D : va_G) (A : Nat → Prop) (h : zT) (a0 : Nat) (i1 : Int32) (res : Int32 × zT) (hf : f_X0_isRubbing h a0 i1 = some res) : Met l yX0_isRubbing (ws_ yX0_isRubbing cX0_isRubbing 2 (Option.some FieldType.boolean)) rm_X0_isRubbing (zPW D A (zEv A) h [.ref a0, .int i1]) (zQW D A (some (.int res.1)) res.2) 0 0 A := by
  refine zmt (zEv_ok A) (by decide) (Nat.le_of_ble_eq_true rfl) ?_
  intro p e s m below meth c ls hmn X hw hl
  have hl : lv_has ls 2 [(0, .ref a0), (1, .int i1)] := hl
  have hx := X.1.1
  have hb := X.1.2.1
  have hown := X.1.2.2.2.1
  have hts := X.1.2.2.2.2
  have hN := X.2.2.2.2.2.2.1
  have hDW := X.2.2.2.2.2.2.2.1
  have hAO := X.2.2.2.2.2.2.2.2.1
  have hNC := X.2.2.2.2.2.2.2.2.2.1
  unfold f_X0_isRubbing at hf
  refine lv_iload_n hx hb dX0_isRubbing_0 rfl (lv_at hl 1 rfl) ?_
  refine lv_iconst (v := (0 : Int32)) hx hb dX0_isRubbing_1 (by decide) ?_
  refine lv_aload_n hx hb dX0_isRubbing_2 rfl (lv_at hl 0 rfl) ?_
  refine zw_getR X hw fs_X0_0 q252 rfl hf dX0_isRubbing_3 (fun v1 hf => ?_)
  refine zw_getIN X hw fs_X1_1 (hN _ nq129) rfl hf dX0_isRubbing_6 (fun v2 hf => ?_)
  refine lv_iconst (v := (1 : Int32)) hx hb dX0_isRubbing_9 (by decide) ?_
  refine lv_isub hx hb dX0_isRubbing_10 ?_
  refine zw_goZ (rest := []) hw hf (fun r hr => va_runS (As := [.int i1, .int (0 : Int32), .int (v2 - (1 : Int32))]) (rest := []) X.1 (mt_X0_isIn l D A h i1 (0 : Int32) (v2 - (1 : Int32)) r hr) (va_cwS 3 hts (lw_S q339 q340 q81 q341) rfl rfl rfl cd_X0_isIn ⟨Nat.le_of_ble_eq_true rfl, Nat.le_of_ble_eq_true rfl⟩) (zpreS X hw _) rfl rfl hl.1 rfl (lv_room (Nat.le_of_ble_eq_true rfl)) dX0_isRubbing_11 ⟨Nat.le_of_ble_eq_true rfl, Nat.le_of_ble_eq_true rfl⟩) (fun r3 H locs hf hw => ?_)
  exact zw_zret X hw hf (Nat.le_of_ble_eq_true rfl) (Nat.le_of_ble_eq_true rfl) dX0_isRubbing_14
set_option maxHeartbeats 4000000 in
theorem mt_X0_both (l : Launch) (D : va_G) (A : Nat → Prop) (h : zT) (i0 : Int32) (i1 : Int32) (i2 : Int32) (res : Int32 × zT) (hf : f_X0_both h i0 i1 i2 = some res) : Met l yX0_both (ws_ yX0_both cX0_both 3 (Option.some FieldType.int)) rm_X0_both (zPW D A (zEv A) h [.int i0, .int i1, .int i2]) (zQW D A (some (.int res.1)) res.2) 0 0 A := by
  refine zmt (zEv_ok A) (by decide) (Nat.le_of_ble_eq_true rfl) ?_
  intro p e s m below meth c ls hmn X hw hl
  have hl : lv_has ls 3 [(0, .int i0), (1, .int i1), (2, .int i2)] := hl
  have hx := X.1.1
  have hb := X.1.2.1
  have hown := X.1.2.2.2.1
  have hts := X.1.2.2.2.2
  have hN := X.2.2.2.2.2.2.1
  have hDW := X.2.2.2.2.2.2.2.1
  have hAO := X.2.2.2.2.2.2.2.2.1
  have hNC := X.2.2.2.2.2.2.2.2.2.1
  unfold f_X0_both at hf
  refine lv_iload_n hx hb dX0_both_0 rfl (lv_at hl 0 rfl) ?_
  refine zw_case hf (fun c1004 hf => ?_) (fun c1004 hf => ?_)
  · refine zw_tableIn (off := 51) (tgt := 52) hx hb c1004 dX0_both_1 (by decide) (by decide) rfl (by decide) ?_
    refine lv_iload_n hx hb dX0_both_52 rfl (lv_at hl 1 rfl) ?_
    refine lv_iload_n hx hb dX0_both_53 rfl (lv_at hl 2 rfl) ?_
    refine lv_imul hx hb dX0_both_54 ?_
    exact zw_iret X hw hf (Nat.le_of_ble_eq_true rfl) (Nat.le_of_ble_eq_true rfl) dX0_both_55
  · refine zw_case hf (fun c1005 hf => ?_) (fun c1005 hf => ?_)
    · refine zw_tableIn (off := 67) (tgt := 68) hx hb c1005 dX0_both_1 (by decide) (by decide) rfl (by decide) ?_
      refine lv_iload_n hx hb dX0_both_68 rfl (lv_at hl 1 rfl) ?_
      refine lv_iload_n hx hb dX0_both_69 rfl (lv_at hl 2 rfl) ?_
      refine lv_iadd hx hb dX0_both_70 ?_
      exact zw_iret X hw hf (Nat.le_of_ble_eq_true rfl) (Nat.le_of_ble_eq_true rfl) dX0_both_71
    · refine zw_case hf (fun c1006 hf => ?_) (fun c1006 hf => ?_)
      · refine zw_tableIn (off := 71) (tgt := 72) hx hb c1006 dX0_both_1 (by decide) (by decide) rfl (by decide) ?_
        refine lv_iload_n hx hb dX0_both_72 rfl (lv_at hl 1 rfl) ?_
        refine lv_iload_n hx hb dX0_both_73 rfl (lv_at hl 2 rfl) ?_
        refine lv_isub hx hb dX0_both_74 ?_
        exact zw_iret X hw hf (Nat.le_of_ble_eq_true rfl) (Nat.le_of_ble_eq_true rfl) dX0_both_75
      · refine zw_case hf (fun c1007 hf => ?_) (fun c1007 hf => ?_)
        · refine zw_tableIn (off := 75) (tgt := 76) hx hb c1007 dX0_both_1 (by decide) (by decide) rfl (by decide) ?_
          refine lv_iload_n hx hb dX0_both_76 rfl (lv_at hl 1 rfl) ?_
          refine lv_iload_n hx hb dX0_both_77 rfl (lv_at hl 2 rfl) ?_
          refine zw_icmp_ge (tgt := 85) hx hb hf dX0_both_78 (by decide) (fun hf => ?_) (fun hf => ?_)
          · refine lv_iconst (v := (0 : Int32)) hx hb dX0_both_85 (by decide) ?_
            exact zw_iret X hw hf (Nat.le_of_ble_eq_true rfl) (Nat.le_of_ble_eq_true rfl) dX0_both_86
          · refine lv_iconst (v := (1 : Int32)) hx hb dX0_both_81 (by decide) ?_
            refine lv_goto (tgt := 86) hx hb dX0_both_82 (by decide) ?_
            exact zw_iret X hw hf (Nat.le_of_ble_eq_true rfl) (Nat.le_of_ble_eq_true rfl) dX0_both_86
        · refine zw_case hf (fun c1008 hf => ?_) (fun c1008 hf => ?_)
          · refine zw_tableIn (off := 86) (tgt := 87) hx hb c1008 dX0_both_1 (by decide) (by decide) rfl (by decide) ?_
            refine lv_iload_n hx hb dX0_both_87 rfl (lv_at hl 1 rfl) ?_
            refine lv_iload_n hx hb dX0_both_88 rfl (lv_at hl 2 rfl) ?_
            refine zw_icmp_ne (tgt := 96) hx hb hf dX0_both_89 (by decide) (fun hf => ?_) (fun hf => ?_)
            · refine lv_iconst (v := (0 : Int32)) hx hb dX0_both_96 (by decide) ?_
              exact zw_iret X hw hf (Nat.le_of_ble_eq_true rfl) (Nat.le_of_ble_eq_true rfl) dX0_both_97
            · refine lv_iconst (v := (1 : Int32)) hx hb dX0_both_92 (by decide) ?_
              refine lv_goto (tgt := 97) hx hb dX0_both_93 (by decide) ?_
              exact zw_iret X hw hf (Nat.le_of_ble_eq_true rfl) (Nat.le_of_ble_eq_true rfl) dX0_both_97
          · refine zw_case hf (fun c1009 hf => ?_) (fun c1009 hf => ?_)
            · refine zw_tableIn (off := 97) (tgt := 98) hx hb c1009 dX0_both_1 (by decide) (by decide) rfl (by decide) ?_
              refine lv_iload_n hx hb dX0_both_98 rfl (lv_at hl 1 rfl) ?_
              refine lv_iload_n hx hb dX0_both_99 rfl (lv_at hl 2 rfl) ?_
              refine zw_icmp_le (tgt := 107) hx hb hf dX0_both_100 (by decide) (fun hf => ?_) (fun hf => ?_)
              · refine lv_iconst (v := (0 : Int32)) hx hb dX0_both_107 (by decide) ?_
                exact zw_iret X hw hf (Nat.le_of_ble_eq_true rfl) (Nat.le_of_ble_eq_true rfl) dX0_both_108
              · refine lv_iconst (v := (1 : Int32)) hx hb dX0_both_103 (by decide) ?_
                refine lv_goto (tgt := 108) hx hb dX0_both_104 (by decide) ?_
                exact zw_iret X hw hf (Nat.le_of_ble_eq_true rfl) (Nat.le_of_ble_eq_true rfl) dX0_both_108
            · refine zw_case hf (fun c1010 hf => ?_) (fun c1010 hf => ?_)
              · refine zw_tableIn (off := 108) (tgt := 109) hx hb c1010 dX0_both_1 (by decide) (by decide) rfl (by decide) ?_
                refine lv_iload_n hx hb dX0_both_109 rfl (lv_at hl 1 rfl) ?_
                refine zw_if_eq (tgt := 121) hx hb hf dX0_both_110 (by decide) (fun hf => ?_) (fun hf => ?_)
                · refine lv_iconst (v := (0 : Int32)) hx hb dX0_both_121 (by decide) ?_
                  exact zw_iret X hw hf (Nat.le_of_ble_eq_true rfl) (Nat.le_of_ble_eq_true rfl) dX0_both_122
                · refine lv_iload_n hx hb dX0_both_113 rfl (lv_at hl 2 rfl) ?_
                  refine zw_if_eq (tgt := 121) hx hb hf dX0_both_114 (by decide) (fun hf => ?_) (fun hf => ?_)
                  · refine lv_iconst (v := (0 : Int32)) hx hb dX0_both_121 (by decide) ?_
                    exact zw_iret X hw hf (Nat.le_of_ble_eq_true rfl) (Nat.le_of_ble_eq_true rfl) dX0_both_122
                  · refine lv_iconst (v := (1 : Int32)) hx hb dX0_both_117 (by decide) ?_
                    refine lv_goto (tgt := 122) hx hb dX0_both_118 (by decide) ?_
                    exact zw_iret X hw hf (Nat.le_of_ble_eq_true rfl) (Nat.le_of_ble_eq_true rfl) dX0_both_122
              · refine zw_case hf (fun c1011 hf => ?_) (fun c1011 hf => ?_)
                · refine zw_tableIn (off := 122) (tgt := 123) hx hb c1011 dX0_both_1 (by decide) (by decide) rfl (by decide) ?_
                  refine lv_iload_n hx hb dX0_both_123 rfl (lv_at hl 1 rfl) ?_
                  refine zw_if_ne (tgt := 131) hx hb hf dX0_both_124 (by decide) (fun hf => ?_) (fun hf => ?_)
                  · refine lv_iconst (v := (1 : Int32)) hx hb dX0_both_131 (by decide) ?_
                    refine lv_goto (tgt := 136) hx hb dX0_both_132 (by decide) ?_
                    exact zw_iret X hw hf (Nat.le_of_ble_eq_true rfl) (Nat.le_of_ble_eq_true rfl) dX0_both_136
                  · refine lv_iload_n hx hb dX0_both_127 rfl (lv_at hl 2 rfl) ?_
                    refine zw_if_eq (tgt := 135) hx hb hf dX0_both_128 (by decide) (fun hf => ?_) (fun hf => ?_)
                    · refine lv_iconst (v := (0 : Int32)) hx hb dX0_both_135 (by decide) ?_
                      exact zw_iret X hw hf (Nat.le_of_ble_eq_true rfl) (Nat.le_of_ble_eq_true rfl) dX0_both_136
                    · refine lv_iconst (v := (1 : Int32)) hx hb dX0_both_131 (by decide) ?_
                      refine lv_goto (tgt := 136) hx hb dX0_both_132 (by decide) ?_
                      exact zw_iret X hw hf (Nat.le_of_ble_eq_true rfl) (Nat.le_of_ble_eq_true rfl) dX0_both_136
                · refine zw_case hf (fun c1012 hf => ?_) (fun c1012 hf => ?_)
                  · refine zw_tableIn (off := 55) (tgt := 56) hx hb c1012 dX0_both_1 (by decide) (by decide) rfl (by decide) ?_
                    refine lv_iload_n hx hb dX0_both_56 rfl (lv_at hl 2 rfl) ?_
                    refine zw_if_ne (tgt := 64) hx hb hf dX0_both_57 (by decide) (fun hf => ?_) (fun hf => ?_)
                    · refine lv_iload_n hx hb dX0_both_64 rfl (lv_at hl 1 rfl) ?_
                      refine lv_iload_n hx hb dX0_both_65 rfl (lv_at hl 2 rfl) ?_
                      refine zw_ne0 hf (fun hne hf => ?_)
                      refine lv_idiv hx hb dX0_both_66 hne ?_
                      exact zw_iret X hw hf (Nat.le_of_ble_eq_true rfl) (Nat.le_of_ble_eq_true rfl) dX0_both_67
                    · refine lv_iconst (v := (0 : Int32)) hx hb dX0_both_60 (by decide) ?_
                      refine lv_goto (tgt := 67) hx hb dX0_both_61 (by decide) ?_
                      exact zw_iret X hw hf (Nat.le_of_ble_eq_true rfl) (Nat.le_of_ble_eq_true rfl) dX0_both_67
                  · refine lv_tableOut (tgt := 123) hx hb dX0_both_1 (by have := lv_neT c1004 (a := 4) (by decide); have := lv_neT c1005 (a := 5) (by decide); have := lv_neT c1006 (a := 6) (by decide); have := lv_neT c1007 (a := 7) (by decide); have := lv_neT c1008 (a := 8) (by decide); have := lv_neT c1009 (a := 9) (by decide); have := lv_neT c1010 (a := 10) (by decide); have := lv_neT c1011 (a := 11) (by decide); have := lv_neT c1012 (a := 12) (by decide); omega) (by decide) ?_
                    refine lv_iload_n hx hb dX0_both_123 rfl (lv_at hl 1 rfl) ?_
                    refine zw_if_ne (tgt := 131) hx hb hf dX0_both_124 (by decide) (fun hf => ?_) (fun hf => ?_)
                    · refine lv_iconst (v := (1 : Int32)) hx hb dX0_both_131 (by decide) ?_
                      refine lv_goto (tgt := 136) hx hb dX0_both_132 (by decide) ?_
                      exact zw_iret X hw hf (Nat.le_of_ble_eq_true rfl) (Nat.le_of_ble_eq_true rfl) dX0_both_136
                    · refine lv_iload_n hx hb dX0_both_127 rfl (lv_at hl 2 rfl) ?_
                      refine zw_if_eq (tgt := 135) hx hb hf dX0_both_128 (by decide) (fun hf => ?_) (fun hf => ?_)
                      · refine lv_iconst (v := (0 : Int32)) hx hb dX0_both_135 (by decide) ?_
                        exact zw_iret X hw hf (Nat.le_of_ble_eq_true rfl) (Nat.le_of_ble_eq_true rfl) dX0_both_136
                      · refine lv_iconst (v := (1 : Int32)) hx hb dX0_both_131 (by decide) ?_
                        refine lv_goto (tgt := 136) hx hb dX0_both_132 (by decide) ?_
                        exact zw_iret X hw hf (Nat.le_of_ble_eq_true rfl) (Nat.le_of_ble_eq_true rfl) dX0_both_136
set_option maxHeartbeats 4000000 in
theorem k_X0_reckon_32 {p : Program} {l : Launch} {e : Env} {s : State} {m : MethodId} {args : Array Value} {below : List Frame} {meth : Method} {c : Code} {D : va_G} {A : Nat → Prop} (X : zCx p s m args meth c D A (zEv A) cX0_reckon 5 RX0 (Option.some FieldType.int)) (res : Int32 × zT) (K4 : zT → Nat → Nat → Int32 → Int32 → Option (Int32 × zT)) (hK4 : ∀ (h : zT) (a0 : Nat) (a1 : Nat) (i2 : Int32) (i3 : Int32) (H : Heap) (locs : List Loc) (ls : Array Slot), K4 h a0 a1 i2 i3 = some res → zWh D A s H h locs → lv_has ls 5 [(0, .ref a0), (1, .ref a1), (2, .int i2), (3, .int i3)] → W p l e rm_X0_reckon s m args below meth c H locs 0 0 (MQ below (zQW D A (some (.int res.1)) res.2) args s 0 0 A) (F0 m 4 ls [])) : ∀ (h : zT) (a0 : Nat) (a1 : Nat) (i2 : Int32) (i3 : Int32) (i4 : Int32) (H : Heap) (locs : List Loc) (ls : Array Slot), f_X0_reckon_32 K4 h a0 a1 i2 i3 i4 = some res → zWh D A s H h locs → lv_has ls 5 [(0, .ref a0), (1, .ref a1), (2, .int i2), (3, .int i3), (4, .int i4)] → W p l e rm_X0_reckon s m args below meth c H locs 0 0 (MQ below (zQW D A (some (.int res.1)) res.2) args s 0 0 A) (F0 m 32 ls []) := by
  have hx := X.1.1
  have hb := X.1.2.1
  have hown := X.1.2.2.2.1
  have hts := X.1.2.2.2.2
  have hN := X.2.2.2.2.2.2.1
  have hDW := X.2.2.2.2.2.2.2.1
  have hAO := X.2.2.2.2.2.2.2.2.1
  have hNC := X.2.2.2.2.2.2.2.2.2.1
  intro h a0 a1 i2 i3 i4 H locs ls hf hw hl
  unfold f_X0_reckon_32 at hf
  refine lv_aload_n hx hb dX0_reckon_32 rfl (lv_at hl 0 rfl) ?_
  refine zw_getR X hw fs_X0_5 q257 rfl hf dX0_reckon_33 (fun v1 hf => ?_)
  refine lv_iload_n hx hb dX0_reckon_36 rfl (lv_at hl 2 rfl) ?_
  refine lv_iload hx hb dX0_reckon_37 (lv_at hl 4 rfl) ?_
  refine lv_iconst (v := (1 : Int32)) hx hb dX0_reckon_39 (by decide) ?_
  refine zw_icmp_ne (tgt := 52) hx hb hf dX0_reckon_40 (by decide) (fun hf => ?_) (fun hf => ?_)
  · refine lv_aload_n hx hb dX0_reckon_52 rfl (lv_at hl 0 rfl) ?_
    refine zw_getR X hw fs_X0_16 q268 rfl hf dX0_reckon_53 (fun v2 hf => ?_)
    refine lv_aload_n hx hb dX0_reckon_56 rfl (lv_at hl 1 rfl) ?_
    refine zw_getRN X hw fs_X12_1 (hN _ nq437) rfl hf dX0_reckon_57 (fun v3 hf => ?_)
    refine lv_iload_n hx hb dX0_reckon_60 rfl (lv_at hl 3 rfl) ?_
    refine zw_ialoadR X hw hf dX0_reckon_61 (fun v4 hf => ?_)
    refine zw_ialoadR X hw hf dX0_reckon_62 (fun v5 hf => ?_)
    refine zw_iastore X hw hf dX0_reckon_63 (fun h6 H locs hf hw => ?_)
    refine zw_nmS hf (fun v7 ev7 hf => ?_)
    refine lv_iinc (k := 2) (v := v7) (lv' := [(2, .int v7), (0, .ref a0), (1, .ref a1), (3, .int i3), (4, .int i4)]) hx hb dX0_reckon_64 hl rfl (by rw [ev7]; rfl) (by decide) rfl (fun ls hl => ?_)
    refine lv_goto (tgt := 133) hx hb dX0_reckon_67 (by decide) ?_
    refine zw_nmS hf (fun v8 ev8 hf => ?_)
    refine lv_iinc (k := 3) (v := v8) (lv' := [(3, .int v8), (2, .int v7), (0, .ref a0), (1, .ref a1), (4, .int i4)]) hx hb dX0_reckon_133 hl rfl (by rw [ev8]; rfl) (by decide) rfl (fun ls hl => ?_)
    refine lv_goto (tgt := 4) hx hb dX0_reckon_136 (by decide) ?_
    exact hK4 h6 a0 a1 v7 v8 _ _ _ hf hw (lv_sub hl [2, 3, 1, 0] rfl)
  · refine lv_aload_n hx hb dX0_reckon_43 rfl (lv_at hl 1 rfl) ?_
    refine zw_getRN X hw fs_X12_1 (hN _ nq437) rfl hf dX0_reckon_44 (fun v9 hf => ?_)
    refine lv_iload_n hx hb dX0_reckon_47 rfl (lv_at hl 3 rfl) ?_
    refine zw_ialoadR X hw hf dX0_reckon_48 (fun v10 hf => ?_)
    refine lv_goto (tgt := 63) hx hb dX0_reckon_49 (by decide) ?_
    refine zw_iastore X hw hf dX0_reckon_63 (fun h11 H locs hf hw => ?_)
    refine zw_nmS hf (fun v12 ev12 hf => ?_)
    refine lv_iinc (k := 2) (v := v12) (lv' := [(2, .int v12), (0, .ref a0), (1, .ref a1), (3, .int i3), (4, .int i4)]) hx hb dX0_reckon_64 hl rfl (by rw [ev12]; rfl) (by decide) rfl (fun ls hl => ?_)
    refine lv_goto (tgt := 133) hx hb dX0_reckon_67 (by decide) ?_
    refine zw_nmS hf (fun v13 ev13 hf => ?_)
    refine lv_iinc (k := 3) (v := v13) (lv' := [(3, .int v13), (2, .int v12), (0, .ref a0), (1, .ref a1), (4, .int i4)]) hx hb dX0_reckon_133 hl rfl (by rw [ev13]; rfl) (by decide) rfl (fun ls hl => ?_)
    refine lv_goto (tgt := 4) hx hb dX0_reckon_136 (by decide) ?_
    exact hK4 h11 a0 a1 v12 v13 _ _ _ hf hw (lv_sub hl [2, 3, 1, 0] rfl)
set_option maxHeartbeats 4000000 in
theorem k_X0_reckon_4 {p : Program} {l : Launch} {e : Env} {s : State} {m : MethodId} {args : Array Value} {below : List Frame} {meth : Method} {c : Code} {D : va_G} {A : Nat → Prop} (X : zCx p s m args meth c D A (zEv A) cX0_reckon 5 RX0 (Option.some FieldType.int)) (res : Int32 × zT) : ∀ (n : Nat), ∀ (h : zT) (a0 : Nat) (a1 : Nat) (i2 : Int32) (i3 : Int32) (H : Heap) (locs : List Loc) (ls : Array Slot), f_X0_reckon_4 n h a0 a1 i2 i3 = some res → zWh D A s H h locs → lv_has ls 5 [(0, .ref a0), (1, .ref a1), (2, .int i2), (3, .int i3)] → W p l e rm_X0_reckon s m args below meth c H locs 0 0 (MQ below (zQW D A (some (.int res.1)) res.2) args s 0 0 A) (F0 m 4 ls []) := by
  have hx := X.1.1
  have hb := X.1.2.1
  have hown := X.1.2.2.2.1
  have hts := X.1.2.2.2.2
  have hN := X.2.2.2.2.2.2.1
  have hDW := X.2.2.2.2.2.2.2.1
  have hAO := X.2.2.2.2.2.2.2.2.1
  have hNC := X.2.2.2.2.2.2.2.2.2.1
  intro n
  induction n with
  | zero =>
    intro h a0 a1 i2 i3 H locs ls hf hw hl
    cases hf
  | succ n ih =>
    intro h a0 a1 i2 i3 H locs ls hf hw hl
    unfold f_X0_reckon_4 at hf
    refine lv_iload_n hx hb dX0_reckon_4 rfl (lv_at hl 3 rfl) ?_
    refine lv_aload_n hx hb dX0_reckon_5 rfl (lv_at hl 1 rfl) ?_
    refine zw_getIN X hw fs_X12_2 (hN _ nq439) rfl hf dX0_reckon_6 (fun v1 hf => ?_)
    refine zw_icmp_ge (tgt := 139) hx hb hf dX0_reckon_9 (by decide) (fun hf => ?_) (fun hf => ?_)
    · refine lv_aload_n hx hb dX0_reckon_139 rfl (lv_at hl 0 rfl) ?_
      refine zw_getR X hw fs_X0_5 q257 rfl hf dX0_reckon_140 (fun v2 hf => ?_)
      refine lv_iconst (v := (0 : Int32)) hx hb dX0_reckon_143 (by decide) ?_
      refine zw_ialoadR X hw hf dX0_reckon_144 (fun v3 hf => ?_)
      exact zw_iret X hw hf (Nat.le_of_ble_eq_true rfl) (Nat.le_of_ble_eq_true rfl) dX0_reckon_145
    · refine lv_aload_n hx hb dX0_reckon_12 rfl (lv_at hl 1 rfl) ?_
      refine zw_getRN X hw fs_X12_0 (hN _ nq435) rfl hf dX0_reckon_13 (fun v4 hf => ?_)
      refine lv_iload_n hx hb dX0_reckon_16 rfl (lv_at hl 3 rfl) ?_
      refine zw_ialoadR X hw hf dX0_reckon_17 (fun v5 hf => ?_)
      refine lv_istore (lv' := [(4, .int v5), (0, .ref a0), (1, .ref a1), (2, .int i2), (3, .int i3)]) hx hb dX0_reckon_18 hl (by decide) rfl (fun ls hl => ?_)
      refine lv_iload hx hb dX0_reckon_20 (lv_at hl 0 rfl) ?_
      refine lv_iconst (v := (1 : Int32)) hx hb dX0_reckon_22 (by decide) ?_
      refine zw_icmp_eq (tgt := 32) hx hb hf dX0_reckon_23 (by decide) (fun hf => ?_) (fun hf => ?_)
      · exact k_X0_reckon_32 X _ (f_X0_reckon_4 n) ih h a0 a1 i2 i3 v5 _ _ _ hf hw (lv_sub hl [1, 2, 3, 4, 0] rfl)
      · refine lv_iload hx hb dX0_reckon_26 (lv_at hl 0 rfl) ?_
        refine lv_iconst (v := (2 : Int32)) hx hb dX0_reckon_28 (by decide) ?_
        refine zw_icmp_ne (tgt := 70) hx hb hf dX0_reckon_29 (by decide) (fun hf => ?_) (fun hf => ?_)
        · refine lv_iload hx hb dX0_reckon_70 (lv_at hl 0 rfl) ?_
          refine lv_iconst (v := (3 : Int32)) hx hb dX0_reckon_72 (by decide) ?_
          refine zw_icmp_ne (tgt := 103) hx hb hf dX0_reckon_73 (by decide) (fun hf => ?_) (fun hf => ?_)
          · refine zw_nmS hf (fun v6 ev6 hf => ?_)
            refine lv_iinc (k := 3) (v := v6) (lv' := [(2, .int v6), (4, .int v5), (0, .ref a0), (1, .ref a1), (3, .int i3)]) hx hb dX0_reckon_103 hl rfl (by rw [ev6]; rfl) (by decide) rfl (fun ls hl => ?_)
            refine lv_aload_n hx hb dX0_reckon_106 rfl (lv_at hl 2 rfl) ?_
            refine zw_getR X hw fs_X0_5 q257 rfl hf dX0_reckon_107 (fun v7 hf => ?_)
            refine lv_iload_n hx hb dX0_reckon_110 rfl (lv_at hl 0 rfl) ?_
            refine lv_iconst (v := (1 : Int32)) hx hb dX0_reckon_111 (by decide) ?_
            refine lv_isub hx hb dX0_reckon_112 ?_
            refine lv_iload hx hb dX0_reckon_113 (lv_at hl 1 rfl) ?_
            refine lv_aload_n hx hb dX0_reckon_115 rfl (lv_at hl 2 rfl) ?_
            refine zw_getR X hw fs_X0_5 q257 rfl hf dX0_reckon_116 (fun v8 hf => ?_)
            refine lv_iload_n hx hb dX0_reckon_119 rfl (lv_at hl 0 rfl) ?_
            refine lv_iconst (v := (1 : Int32)) hx hb dX0_reckon_120 (by decide) ?_
            refine lv_isub hx hb dX0_reckon_121 ?_
            refine zw_ialoadR X hw hf dX0_reckon_122 (fun v9 hf => ?_)
            refine lv_aload_n hx hb dX0_reckon_123 rfl (lv_at hl 2 rfl) ?_
            refine zw_getR X hw fs_X0_5 q257 rfl hf dX0_reckon_124 (fun v10 hf => ?_)
            refine lv_iload_n hx hb dX0_reckon_127 rfl (lv_at hl 0 rfl) ?_
            refine zw_ialoadR X hw hf dX0_reckon_128 (fun v11 hf => ?_)
            refine zw_goI (rest := [.int (v6 - (1 : Int32)), .ref v7]) hw hf (fun r hr => va_runS (As := [.int v5, .int v9, .int v11]) (rest := [.int (v6 - (1 : Int32)), .ref v7]) X.1 (mt_X0_both l D A h v5 v9 v11 r hr) (va_cwS 3 hts (lw_S q693 q694 q81 q695) rfl rfl rfl cd_X0_both ⟨Nat.le_of_ble_eq_true rfl, Nat.le_of_ble_eq_true rfl⟩) (zpreS X hw _) rfl rfl hl.1 rfl (lv_room (Nat.le_of_ble_eq_true rfl)) dX0_reckon_129 ⟨Nat.le_of_ble_eq_true rfl, Nat.le_of_ble_eq_true rfl⟩) (fun r12 H locs hf hw => ?_)
            refine zw_iastore X hw hf dX0_reckon_132 (fun h13 H locs hf hw => ?_)
            refine zw_nmS hf (fun v14 ev14 hf => ?_)
            refine lv_iinc (k := 4) (v := v14) (lv' := [(3, .int v14), (2, .int v6), (4, .int v5), (0, .ref a0), (1, .ref a1)]) hx hb dX0_reckon_133 hl rfl (by rw [ev14]; rfl) (by decide) rfl (fun ls hl => ?_)
            refine lv_goto (tgt := 4) hx hb dX0_reckon_136 (by decide) ?_
            exact ih h13 a0 a1 v6 v14 _ _ _ hf hw (lv_sub hl [3, 4, 1, 0] rfl)
          · refine lv_aload_n hx hb dX0_reckon_76 rfl (lv_at hl 1 rfl) ?_
            refine zw_getR X hw fs_X0_5 q257 rfl hf dX0_reckon_77 (fun v15 hf => ?_)
            refine lv_iload_n hx hb dX0_reckon_80 rfl (lv_at hl 3 rfl) ?_
            refine lv_iconst (v := (1 : Int32)) hx hb dX0_reckon_81 (by decide) ?_
            refine lv_isub hx hb dX0_reckon_82 ?_
            refine lv_aload_n hx hb dX0_reckon_83 rfl (lv_at hl 1 rfl) ?_
            refine zw_getR X hw fs_X0_5 q257 rfl hf dX0_reckon_84 (fun v16 hf => ?_)
            refine lv_iload_n hx hb dX0_reckon_87 rfl (lv_at hl 3 rfl) ?_
            refine lv_iconst (v := (1 : Int32)) hx hb dX0_reckon_88 (by decide) ?_
            refine lv_isub hx hb dX0_reckon_89 ?_
            refine zw_ialoadR X hw hf dX0_reckon_90 (fun v17 hf => ?_)
            refine zw_if_ne (tgt := 98) hx hb hf dX0_reckon_91 (by decide) (fun hf => ?_) (fun hf => ?_)
            · refine lv_iconst (v := (0 : Int32)) hx hb dX0_reckon_98 (by decide) ?_
              refine zw_iastore X hw hf dX0_reckon_99 (fun h18 H locs hf hw => ?_)
              refine lv_goto (tgt := 133) hx hb dX0_reckon_100 (by decide) ?_
              refine zw_nmS hf (fun v19 ev19 hf => ?_)
              refine lv_iinc (k := 4) (v := v19) (lv' := [(3, .int v19), (4, .int v5), (0, .ref a0), (1, .ref a1), (2, .int i2)]) hx hb dX0_reckon_133 hl rfl (by rw [ev19]; rfl) (by decide) rfl (fun ls hl => ?_)
              refine lv_goto (tgt := 4) hx hb dX0_reckon_136 (by decide) ?_
              exact ih h18 a0 a1 i2 v19 _ _ _ hf hw (lv_sub hl [2, 3, 4, 0] rfl)
            · refine lv_iconst (v := (1 : Int32)) hx hb dX0_reckon_94 (by decide) ?_
              refine lv_goto (tgt := 99) hx hb dX0_reckon_95 (by decide) ?_
              refine zw_iastore X hw hf dX0_reckon_99 (fun h20 H locs hf hw => ?_)
              refine lv_goto (tgt := 133) hx hb dX0_reckon_100 (by decide) ?_
              refine zw_nmS hf (fun v21 ev21 hf => ?_)
              refine lv_iinc (k := 4) (v := v21) (lv' := [(3, .int v21), (4, .int v5), (0, .ref a0), (1, .ref a1), (2, .int i2)]) hx hb dX0_reckon_133 hl rfl (by rw [ev21]; rfl) (by decide) rfl (fun ls hl => ?_)
              refine lv_goto (tgt := 4) hx hb dX0_reckon_136 (by decide) ?_
              exact ih h20 a0 a1 i2 v21 _ _ _ hf hw (lv_sub hl [2, 3, 4, 0] rfl)
        · exact k_X0_reckon_32 X _ (f_X0_reckon_4 n) ih h a0 a1 i2 i3 v5 _ _ _ hf hw (lv_sub hl [1, 2, 3, 4, 0] rfl)
set_option maxHeartbeats 4000000 in
theorem mt_X0_reckon (l : Launch) (D : va_G) (A : Nat → Prop) (h : zT) (a0 : Nat) (a1 : Nat) (res : Int32 × zT) (hf : f_X0_reckon h a0 a1 = some res) : Met l yX0_reckon (ws_ yX0_reckon cX0_reckon 5 (Option.some FieldType.int)) rm_X0_reckon (zPW D A (zEv A) h [.ref a0, .ref a1]) (zQW D A (some (.int res.1)) res.2) 0 0 A := by
  refine zmt (zEv_ok A) (by decide) (Nat.le_of_ble_eq_true rfl) ?_
  intro p e s m below meth c ls hmn X hw hl
  have hl : lv_has ls 5 [(0, .ref a0), (1, .ref a1)] := hl
  have hx := X.1.1
  have hb := X.1.2.1
  have hown := X.1.2.2.2.1
  have hts := X.1.2.2.2.2
  have hN := X.2.2.2.2.2.2.1
  have hDW := X.2.2.2.2.2.2.2.1
  have hAO := X.2.2.2.2.2.2.2.2.1
  have hNC := X.2.2.2.2.2.2.2.2.2.1
  unfold f_X0_reckon at hf
  refine lv_iconst (v := (0 : Int32)) hx hb dX0_reckon_0 (by decide) ?_
  refine lv_istore_n (lv' := [(2, .int (0 : Int32)), (0, .ref a0), (1, .ref a1)]) hx hb dX0_reckon_1 rfl hl (by decide) rfl (fun ls hl => ?_)
  refine lv_iconst (v := (0 : Int32)) hx hb dX0_reckon_2 (by decide) ?_
  refine lv_istore_n (lv' := [(3, .int (0 : Int32)), (2, .int (0 : Int32)), (0, .ref a0), (1, .ref a1)]) hx hb dX0_reckon_3 rfl hl (by decide) rfl (fun ls hl => ?_)
  exact k_X0_reckon_4 X _ 4096 h a0 a1 (0 : Int32) (0 : Int32) _ _ _ hf hw (lv_sub hl [2, 3, 1, 0] rfl)
set_option maxHeartbeats 4000000 in
theorem mt_X0_within (l : Launch) (D : va_G) (A : Nat → Prop) (h : zT) (i0 : Int32) (i1 : Int32) (i2 : Int32) (res : Int32 × zT) (hf : f_X0_within h i0 i1 i2 = some res) : Met l yX0_within (ws_ yX0_within cX0_within 3 (Option.some FieldType.int)) rm_X0_within (zPW D A (zEv A) h [.int i0, .int i1, .int i2]) (zQW D A (some (.int res.1)) res.2) 0 0 A := by
  refine zmt (zEv_ok A) (by decide) (Nat.le_of_ble_eq_true rfl) ?_
  intro p e s m below meth c ls hmn X hw hl
  have hl : lv_has ls 3 [(0, .int i0), (1, .int i1), (2, .int i2)] := hl
  have hx := X.1.1
  have hb := X.1.2.1
  have hown := X.1.2.2.2.1
  have hts := X.1.2.2.2.2
  have hN := X.2.2.2.2.2.2.1
  have hDW := X.2.2.2.2.2.2.2.1
  have hAO := X.2.2.2.2.2.2.2.2.1
  have hNC := X.2.2.2.2.2.2.2.2.2.1
  unfold f_X0_within at hf
  refine lv_iload_n hx hb dX0_within_0 rfl (lv_at hl 1 rfl) ?_
  refine lv_iload_n hx hb dX0_within_1 rfl (lv_at hl 2 rfl) ?_
  refine lv_iload_n hx hb dX0_within_2 rfl (lv_at hl 0 rfl) ?_
  refine va_mmin (rest := [.int i1]) hx hb (by rw [X.1.2.2.1]; exact hl.1.symm) hown (hts _ q699) (hts _ q700) (hts _ q96) (hts _ q701) (Nat.le_of_ble_eq_true rfl) (Nat.le_of_ble_eq_true rfl) (Nat.le_of_ble_eq_true rfl) (Nat.le_of_ble_eq_true rfl) dX0_within_3 ?_
  refine zw_nmI hf (fun v1 hf => ?_)
  refine va_mmax (rest := []) hx hb (by rw [X.1.2.2.1]; exact hl.1.symm) hown (hts _ q702) (hts _ q703) (hts _ q96) (hts _ q704) (Nat.le_of_ble_eq_true rfl) (Nat.le_of_ble_eq_true rfl) (Nat.le_of_ble_eq_true rfl) (Nat.le_of_ble_eq_true rfl) dX0_within_6 ?_
  refine zw_nmI hf (fun v2 hf => ?_)
  exact zw_iret X hw hf (Nat.le_of_ble_eq_true rfl) (Nat.le_of_ble_eq_true rfl) dX0_within_9
set_option maxHeartbeats 4000000 in
theorem vd_X0_280 {p : Program} {l : Launch} {e : Env} {R : Room} {s : State} {m : MethodId} {args : Array Value} {below : List Frame} {meth : Method} {c : Code} {H : Heap} {locs : List Loc} {cells slots : Nat} {Q : State → Prop} {D : va_G} {A : Nat → Prop} {cc : ByteArray} {nL : Nat} {ret : Option FieldType} {pc : Nat} {ls : Array Slot} {rest : List Value} {β : Type} {res : β} {K : Int32 × zT → Option β} {st0 : List Value} (h : zT) (b : Nat) (i1 : Int32) (X : zCx p s m args meth c D A (zEv A) cc nL RX0 ret) (hw : zWh D A s H h locs) (hl : ls.size = nL) (hf : (fd_gains h b i1).bind K = some res) (hRf : 8 ≤ R.frames) (hRl : 200 ≤ R.locals) (hrest : (rest.map fun v => v.category).sum ≤ 8) (hstk : st0 = ([.int i1] : List Value).reverse ++ .ref b :: rest) (hdg : decode cc pc = .ok (.invokevirtual 280, 3)) (hc : cells + 0 ≤ R.cells ∧ slots + 0 ≤ R.slots) (kk : ∀ (r : Int32 × zT) (H1 : Heap) (locs1 : List Loc), K r = some res → zWh D A s H1 (r.2) locs1 → W p l e R s m args below meth c H1 locs1 (cells + 0) (slots + 0) Q (F0 m (pc + 3) ls (.int r.1 :: rest))) : W p l e R s m args below meth c H locs cells slots Q (F0 m pc ls st0) := by
  have hts := X.1.2.2.2.2
  have hN := X.2.2.2.2.2.2.1
  have hDW := X.2.2.2.2.2.2.2.1
  obtain ⟨r, h1, hf⟩ := zbd hf
  unfold fd_gains at h1
  obtain ⟨⟨ci, fs⟩, ho, h1⟩ := zbd h1
  have ho := zh_O_eq ho
  dsimp only at h1
  by_cases c6 : ci = 6
  · subst c6
    rw [if_pos rfl] at h1
    cases h1
    exact zw_call (zrunVD (n := 1) (C := RX6) (y := yX15_gains) (owner := "StoneSheets$Trusted") (x := ⟨"StoneSheets$Rubbing", "gains", "(I)I"⟩) (As := [.int i1]) (rest := rest) X.1 (zbk (v := i1) X.1.1 (hts _ q675) (by decide) dX15_gains_0 dX15_gains_1 (fun m => rfl) ⟨Nat.le_trans (Nat.le_of_ble_eq_true rfl) hRf, Nat.le_trans (Nat.le_of_ble_eq_true rfl) hRl⟩) (va_Nw.use rfl (hDW _ zdw0)) (va_Nw.use rfl (hDW _ zdw1)) (va_Decl.abs (hN _ nq670)) X.2.2.2.2.2.2.2.2.2.2.1 (hts _ q674) (by decide +kernel) (zpreV (ci := 6) X hw ho rfl _) rfl rfl hl hstk (lv_room hrest) hdg hc) hw (fun H1 locs1 hw1 => kk _ H1 locs1 hf hw1)
  rw [if_neg c6] at h1
  by_cases c7 : ci = 7
  · subst c7
    rw [if_pos rfl] at h1
    exact zw_call (va_runU (C := RX7) (owner := "StoneSheets$Trusted") (x := ⟨"StoneSheets$Rubbing", "gains", "(I)I"⟩) (As := [.int i1]) (rest := rest) X.1 (mt_X7_gains l D A h b i1 r h1) (zcwD 1 hts (lw_meth q673) rfl rfl rfl (va_Nw.use rfl (hDW _ zdw0)) (va_Nw.use rfl (hDW _ zdw1)) (va_Decl.abs (hN _ nq670)) (hts _ q671) (hts _ q672) (hts _ q91) (by decide +kernel) ⟨Nat.le_trans (Nat.le_of_ble_eq_true rfl) hRf, Nat.le_trans (Nat.le_of_ble_eq_true rfl) hRl⟩) (zpreV (ci := 7) X hw ho rfl _) rfl rfl hl hstk (lv_room hrest) hdg hc) hw (fun H1 locs1 hw1 => kk r H1 locs1 hf hw1)
  rw [if_neg c7] at h1
  by_cases c8 : ci = 8
  · subst c8
    rw [if_pos rfl] at h1
    exact zw_call (va_runU (C := RX8) (owner := "StoneSheets$Trusted") (x := ⟨"StoneSheets$Rubbing", "gains", "(I)I"⟩) (As := [.int i1]) (rest := rest) X.1 (mt_X8_gains l D A h b i1 r h1) (zcwD 1 hts (lw_meth q681) rfl rfl rfl (va_Nw.use rfl (hDW _ zdw0)) (va_Nw.use rfl (hDW _ zdw1)) (va_Decl.abs (hN _ nq670)) (hts _ q682) (hts _ q680) (hts _ q92) (by decide +kernel) ⟨Nat.le_trans (Nat.le_of_ble_eq_true rfl) hRf, Nat.le_trans (Nat.le_of_ble_eq_true rfl) hRl⟩) (zpreV (ci := 8) X hw ho rfl _) rfl rfl hl hstk (lv_room hrest) hdg hc) hw (fun H1 locs1 hw1 => kk r H1 locs1 hf hw1)
  rw [if_neg c8] at h1
  by_cases c9 : ci = 9
  · subst c9
    rw [if_pos rfl] at h1
    exact zw_call (va_runU (C := RX9) (owner := "StoneSheets$Trusted") (x := ⟨"StoneSheets$Rubbing", "gains", "(I)I"⟩) (As := [.int i1]) (rest := rest) X.1 (mt_X7_gains l D A h b i1 r h1) (zcwD 1 hts (lw_meth q673) rfl rfl rfl (va_Nw.use rfl (hDW _ zdw0)) (va_Nw.use rfl (hDW _ zdw1)) (va_Decl.abs (hN _ nq670)) (hts _ q687) (hts _ q672) (hts _ q91) (by decide +kernel) ⟨Nat.le_trans (Nat.le_of_ble_eq_true rfl) hRf, Nat.le_trans (Nat.le_of_ble_eq_true rfl) hRl⟩) (zpreV (ci := 9) X hw ho rfl _) rfl rfl hl hstk (lv_room hrest) hdg hc) hw (fun H1 locs1 hw1 => kk r H1 locs1 hf hw1)
  rw [if_neg c9] at h1
  by_cases c10 : ci = 10
  · subst c10
    rw [if_pos rfl] at h1
    exact zw_call (va_runU (C := RX10) (owner := "StoneSheets$Trusted") (x := ⟨"StoneSheets$Rubbing", "gains", "(I)I"⟩) (As := [.int i1]) (rest := rest) X.1 (mt_X10_gains l D A h b i1 r h1) (zcwD 1 hts (lw_meth q678) rfl rfl rfl (va_Nw.use rfl (hDW _ zdw0)) (va_Nw.use rfl (hDW _ zdw1)) (va_Decl.abs (hN _ nq670)) (hts _ q676) (hts _ q677) (hts _ q94) (by decide +kernel) ⟨Nat.le_trans (Nat.le_of_ble_eq_true rfl) hRf, Nat.le_trans (Nat.le_of_ble_eq_true rfl) hRl⟩) (zpreV (ci := 10) X hw ho rfl _) rfl rfl hl hstk (lv_room hrest) hdg hc) hw (fun H1 locs1 hw1 => kk r H1 locs1 hf hw1)
  rw [if_neg c10] at h1
  by_cases c11 : ci = 11
  · subst c11
    rw [if_pos rfl] at h1
    exact zw_call (va_runU (C := RX11) (owner := "StoneSheets$Trusted") (x := ⟨"StoneSheets$Rubbing", "gains", "(I)I"⟩) (As := [.int i1]) (rest := rest) X.1 (mt_X11_gains l D A h b i1 r h1) (zcwD 1 hts (lw_meth q685) rfl rfl rfl (va_Nw.use rfl (hDW _ zdw0)) (va_Nw.use rfl (hDW _ zdw1)) (va_Decl.abs (hN _ nq670)) (hts _ q683) (hts _ q684) (hts _ q95) (by decide +kernel) ⟨Nat.le_trans (Nat.le_of_ble_eq_true rfl) hRf, Nat.le_trans (Nat.le_of_ble_eq_true rfl) hRl⟩) (zpreV (ci := 11) X hw ho rfl _) rfl rfl hl hstk (lv_room hrest) hdg hc) hw (fun H1 locs1 hw1 => kk r H1 locs1 hf hw1)
  rw [if_neg c11] at h1
  cases h1
set_option maxHeartbeats 4000000 in
theorem mt_X0_gainOf (l : Launch) (D : va_G) (A : Nat → Prop) (h : zT) (a0 : Nat) (a1 : Nat) (res : Int32 × zT) (hf : f_X0_gainOf h a0 a1 = some res) : Met l yX0_gainOf (ws_ yX0_gainOf cX0_gainOf 3 (Option.some FieldType.int)) rm_X0_gainOf (zPW D A (zEv A) h [.ref a0, .ref a1]) (zQW D A (some (.int res.1)) res.2) 0 0 A := by
  refine zmt (zEv_ok A) (by decide) (Nat.le_of_ble_eq_true rfl) ?_
  intro p e s m below meth c ls hmn X hw hl
  have hl : lv_has ls 3 [(0, .ref a0), (1, .ref a1)] := hl
  have hx := X.1.1
  have hb := X.1.2.1
  have hown := X.1.2.2.2.1
  have hts := X.1.2.2.2.2
  have hN := X.2.2.2.2.2.2.1
  have hDW := X.2.2.2.2.2.2.2.1
  have hAO := X.2.2.2.2.2.2.2.2.1
  have hNC := X.2.2.2.2.2.2.2.2.2.1
  unfold f_X0_gainOf at hf
  refine lv_aload_n hx hb dX0_gainOf_0 rfl (lv_at hl 0 rfl) ?_
  refine lv_iconst (v := (0 : Int32)) hx hb dX0_gainOf_1 (by decide) ?_
  refine zw_kC hf (fun fs hfs hf => ?_)
  refine zw_goI (rest := []) hw hf (fun r hr => va_runV (C := RX0) (As := [.int (0 : Int32)]) (rest := []) X.1 (mt_X0_counts l D A h a0 (0 : Int32) r hr) (cwV 1 hts (lw_V q514 q516 qs17 q81 q517) rfl rfl rfl ⟨rfl, cd_X0_counts⟩ ⟨Nat.le_of_ble_eq_true rfl, Nat.le_of_ble_eq_true rfl⟩) (zpreV (ci := 0) X hw hfs rfl _) rfl rfl hl.1 rfl (lv_room (Nat.le_of_ble_eq_true rfl)) dX0_gainOf_2 ⟨Nat.le_of_ble_eq_true rfl, Nat.le_of_ble_eq_true rfl⟩) (fun r1 H locs hf hw => ?_)
  refine lv_istore_n (lv' := [(2, .int r1.1), (0, .ref a0), (1, .ref a1)]) hx hb dX0_gainOf_5 rfl hl (by decide) rfl (fun ls hl => ?_)
  refine lv_iload_n hx hb dX0_gainOf_6 rfl (lv_at hl 0 rfl) ?_
  refine lv_iconst (v := (-1 : Int32)) hx hb dX0_gainOf_7 (by decide) ?_
  refine zw_icmp_ne (tgt := 17) hx hb hf dX0_gainOf_8 (by decide) (fun hf => ?_) (fun hf => ?_)
  · refine lv_aload_n hx hb dX0_gainOf_17 rfl (lv_at hl 1 rfl) ?_
    refine zw_getR X hw fs_X0_16 q268 rfl hf dX0_gainOf_18 (fun v2 hf => ?_)
    refine lv_bipush (v := (116 : Int32)) hx hb dX0_gainOf_21 (by decide) ?_
    refine lv_aload_n hx hb dX0_gainOf_23 rfl (lv_at hl 2 rfl) ?_
    refine zw_getI X hw fs_X6_4 q556 rfl hf dX0_gainOf_24 (fun v3 hf => ?_)
    refine zw_iastore X hw hf dX0_gainOf_27 (fun h4 H locs hf hw => ?_)
    refine lv_aload_n hx hb dX0_gainOf_28 rfl (lv_at hl 1 rfl) ?_
    refine zw_getR X hw fs_X0_16 q268 rfl hf dX0_gainOf_29 (fun v5 hf => ?_)
    refine lv_bipush (v := (115 : Int32)) hx hb dX0_gainOf_32 (by decide) ?_
    refine lv_aload_n hx hb dX0_gainOf_34 rfl (lv_at hl 2 rfl) ?_
    refine zw_getI X hw fs_X6_1 q548 rfl hf dX0_gainOf_35 (fun v6 hf => ?_)
    refine zw_iastore X hw hf dX0_gainOf_38 (fun h7 H locs hf hw => ?_)
    refine lv_aload_n hx hb dX0_gainOf_39 rfl (lv_at hl 1 rfl) ?_
    refine zw_getR X hw fs_X0_16 q268 rfl hf dX0_gainOf_40 (fun v8 hf => ?_)
    refine lv_bipush (v := (108 : Int32)) hx hb dX0_gainOf_43 (by decide) ?_
    refine lv_aload_n hx hb dX0_gainOf_45 rfl (lv_at hl 2 rfl) ?_
    refine zw_getI X hw fs_X6_3 q553 rfl hf dX0_gainOf_46 (fun v9 hf => ?_)
    refine zw_iastore X hw hf dX0_gainOf_49 (fun h10 H locs hf hw => ?_)
    refine lv_aload_n hx hb dX0_gainOf_50 rfl (lv_at hl 2 rfl) ?_
    refine lv_aload_n hx hb dX0_gainOf_51 rfl (lv_at hl 1 rfl) ?_
    refine lv_aload_n hx hb dX0_gainOf_52 rfl (lv_at hl 1 rfl) ?_
    refine zw_getR X hw fs_X0_0 q252 rfl hf dX0_gainOf_53 (fun v11 hf => ?_)
    refine zw_getRN X hw fs_X1_7 (hN _ nq141) rfl hf dX0_gainOf_56 (fun v12 hf => ?_)
    refine lv_iload_n hx hb dX0_gainOf_59 rfl (lv_at hl 0 rfl) ?_
    refine zw_aaloadR X hw hf dX0_gainOf_60 (fun v13 hf => ?_)
    refine zw_getRN X hw fs_X13_1 (hN _ nq496) rfl hf dX0_gainOf_61 (fun v14 hf => ?_)
    refine zw_kC hf (fun fs hfs hf => ?_)
    refine zw_goI (rest := [.ref a1]) hw hf (fun r hr => va_runV (C := RX0) (As := [.ref v14]) (rest := [.ref a1]) X.1 (mt_X0_reckon l D A h10 a0 v14 r hr) (cwV 1 hts (lw_V q689 q691 qs21 q81 q692) rfl rfl rfl ⟨rfl, cd_X0_reckon⟩ ⟨Nat.le_of_ble_eq_true rfl, Nat.le_of_ble_eq_true rfl⟩) (zpreV (ci := 0) X hw hfs rfl _) rfl rfl hl.1 rfl (lv_room (Nat.le_of_ble_eq_true rfl)) dX0_gainOf_64 ⟨Nat.le_of_ble_eq_true rfl, Nat.le_of_ble_eq_true rfl⟩) (fun r15 H locs hf hw => ?_)
    refine lv_iconst (v := (0 : Int32)) hx hb dX0_gainOf_67 (by decide) ?_
    refine lv_bipush (v := (99 : Int32)) hx hb dX0_gainOf_68 (by decide) ?_
    refine zw_goI (rest := [.ref a1]) hw hf (fun r hr => va_runS (As := [.int r15.1, .int (0 : Int32), .int (99 : Int32)]) (rest := [.ref a1]) X.1 (mt_X0_within l D A r15.2 r15.1 (0 : Int32) (99 : Int32) r hr) (va_cwS 3 hts (lw_S q696 q697 q81 q698) rfl rfl rfl cd_X0_within ⟨Nat.le_of_ble_eq_true rfl, Nat.le_of_ble_eq_true rfl⟩) (zpreS X hw _) rfl rfl hl.1 rfl (lv_room (Nat.le_of_ble_eq_true rfl)) dX0_gainOf_70 ⟨Nat.le_of_ble_eq_true rfl, Nat.le_of_ble_eq_true rfl⟩) (fun r16 H locs hf hw => ?_)
    refine vd_X0_280 (rest := []) r16.2 a1 r16.1 X hw hl.1 hf (Nat.le_of_ble_eq_true rfl) (Nat.le_of_ble_eq_true rfl) (Nat.le_of_ble_eq_true rfl) rfl dX0_gainOf_73 ⟨Nat.le_of_ble_eq_true rfl, Nat.le_of_ble_eq_true rfl⟩ (fun r17 H locs hf hw => ?_)
    exact zw_iret X hw hf (Nat.le_of_ble_eq_true rfl) (Nat.le_of_ble_eq_true rfl) dX0_gainOf_76
  · refine lv_aload_n hx hb dX0_gainOf_11 rfl (lv_at hl 2 rfl) ?_
    refine lv_iconst (v := (3 : Int32)) hx hb dX0_gainOf_12 (by decide) ?_
    refine vd_X0_280 (rest := []) r1.2 a1 (3 : Int32) X hw hl.1 hf (Nat.le_of_ble_eq_true rfl) (Nat.le_of_ble_eq_true rfl) (Nat.le_of_ble_eq_true rfl) rfl dX0_gainOf_13 ⟨Nat.le_of_ble_eq_true rfl, Nat.le_of_ble_eq_true rfl⟩ (fun r18 H locs hf hw => ?_)
    exact zw_iret X hw hf (Nat.le_of_ble_eq_true rfl) (Nat.le_of_ble_eq_true rfl) dX0_gainOf_16
set_option maxHeartbeats 4000000 in
theorem vd_X0_303 {p : Program} {l : Launch} {e : Env} {R : Room} {s : State} {m : MethodId} {args : Array Value} {below : List Frame} {meth : Method} {c : Code} {H : Heap} {locs : List Loc} {cells slots : Nat} {Q : State → Prop} {D : va_G} {A : Nat → Prop} {cc : ByteArray} {nL : Nat} {ret : Option FieldType} {pc : Nat} {ls : Array Slot} {rest : List Value} {β : Type} {res : β} {K : Int32 × zT → Option β} {st0 : List Value} (h : zT) (b : Nat) (X : zCx p s m args meth c D A (zEv A) cc nL RX0 ret) (hw : zWh D A s H h locs) (hl : ls.size = nL) (hf : (fd_kind h b).bind K = some res) (hRf : 8 ≤ R.frames) (hRl : 200 ≤ R.locals) (hrest : (rest.map fun v => v.category).sum ≤ 8) (hstk : st0 = ([] : List Value).reverse ++ .ref b :: rest) (hdg : decode cc pc = .ok (.invokevirtual 303, 3)) (hc : cells + 0 ≤ R.cells ∧ slots + 0 ≤ R.slots) (kk : ∀ (r : Int32 × zT) (H1 : Heap) (locs1 : List Loc), K r = some res → zWh D A s H1 (r.2) locs1 → W p l e R s m args below meth c H1 locs1 (cells + 0) (slots + 0) Q (F0 m (pc + 3) ls (.int r.1 :: rest))) : W p l e R s m args below meth c H locs cells slots Q (F0 m pc ls st0) := by
  have hts := X.1.2.2.2.2
  have hN := X.2.2.2.2.2.2.1
  have hDW := X.2.2.2.2.2.2.2.1
  obtain ⟨r, h1, hf⟩ := zbd hf
  unfold fd_kind at h1
  obtain ⟨⟨ci, fs⟩, ho, h1⟩ := zbd h1
  have ho := zh_O_eq ho
  dsimp only at h1
  by_cases c6 : ci = 6
  · subst c6
    rw [if_pos rfl] at h1
    exact zw_call (va_runV (C := RX6) (As := []) (rest := rest) X.1 (mt_X6_kind l D A h b r h1) (cwV 0 hts (lw_V q633 q634 q635 q90 q654) rfl rfl rfl ⟨rfl, cd_X6_kind⟩ ⟨Nat.le_trans (Nat.le_of_ble_eq_true rfl) hRf, Nat.le_trans (Nat.le_of_ble_eq_true rfl) hRl⟩) (zpreV (ci := 6) X hw ho rfl _) rfl rfl hl hstk (lv_room hrest) hdg hc) hw (fun H1 locs1 hw1 => kk r H1 locs1 hf hw1)
  rw [if_neg c6] at h1
  by_cases c7 : ci = 7
  · subst c7
    rw [if_pos rfl] at h1
    exact zw_call (va_runU (C := RX7) (owner := RX6) (x := yX6_kind) (As := []) (rest := rest) X.1 (mt_X7_kind l D A h b r h1) (va_cwO 0 hts (zlw_O q633 q636 q634 q637 q638 q91 q639) rfl rfl rfl q654 cd_X6_kind ⟨Nat.le_trans (Nat.le_of_ble_eq_true rfl) hRf, Nat.le_trans (Nat.le_of_ble_eq_true rfl) hRl⟩) (zpreV (ci := 7) X hw ho rfl _) rfl rfl hl hstk (lv_room hrest) hdg hc) hw (fun H1 locs1 hw1 => kk r H1 locs1 hf hw1)
  rw [if_neg c7] at h1
  by_cases c8 : ci = 8
  · subst c8
    rw [if_pos rfl] at h1
    exact zw_call (va_runU (C := RX8) (owner := RX6) (x := yX6_kind) (As := []) (rest := rest) X.1 (mt_X8_kind l D A h b r h1) (va_cwO 0 hts (zlw_O q633 q636 q634 q646 q644 q92 q645) rfl rfl rfl q654 cd_X6_kind ⟨Nat.le_trans (Nat.le_of_ble_eq_true rfl) hRf, Nat.le_trans (Nat.le_of_ble_eq_true rfl) hRl⟩) (zpreV (ci := 8) X hw ho rfl _) rfl rfl hl hstk (lv_room hrest) hdg hc) hw (fun H1 locs1 hw1 => kk r H1 locs1 hf hw1)
  rw [if_neg c8] at h1
  by_cases c9 : ci = 9
  · subst c9
    rw [if_pos rfl] at h1
    exact zw_call (va_runU (C := RX9) (owner := RX6) (x := yX6_kind) (As := []) (rest := rest) X.1 (mt_X9_kind l D A h b r h1) (va_cwO 0 hts (zlw_O q633 q636 q634 q650 q651 q93 q652) rfl rfl rfl q654 cd_X6_kind ⟨Nat.le_trans (Nat.le_of_ble_eq_true rfl) hRf, Nat.le_trans (Nat.le_of_ble_eq_true rfl) hRl⟩) (zpreV (ci := 9) X hw ho rfl _) rfl rfl hl hstk (lv_room hrest) hdg hc) hw (fun H1 locs1 hw1 => kk r H1 locs1 hf hw1)
  rw [if_neg c9] at h1
  by_cases c10 : ci = 10
  · subst c10
    rw [if_pos rfl] at h1
    exact zw_call (va_runU (C := RX10) (owner := RX6) (x := yX6_kind) (As := []) (rest := rest) X.1 (mt_X10_kind l D A h b r h1) (va_cwO 0 hts (zlw_O q633 q636 q634 q640 q641 q94 q642) rfl rfl rfl q654 cd_X6_kind ⟨Nat.le_trans (Nat.le_of_ble_eq_true rfl) hRf, Nat.le_trans (Nat.le_of_ble_eq_true rfl) hRl⟩) (zpreV (ci := 10) X hw ho rfl _) rfl rfl hl hstk (lv_room hrest) hdg hc) hw (fun H1 locs1 hw1 => kk r H1 locs1 hf hw1)
  rw [if_neg c10] at h1
  by_cases c11 : ci = 11
  · subst c11
    rw [if_pos rfl] at h1
    exact zw_call (va_runU (C := RX11) (owner := RX6) (x := yX6_kind) (As := []) (rest := rest) X.1 (mt_X11_kind l D A h b r h1) (va_cwO 0 hts (zlw_O q633 q636 q634 q647 q648 q95 q649) rfl rfl rfl q654 cd_X6_kind ⟨Nat.le_trans (Nat.le_of_ble_eq_true rfl) hRf, Nat.le_trans (Nat.le_of_ble_eq_true rfl) hRl⟩) (zpreV (ci := 11) X hw ho rfl _) rfl rfl hl hstk (lv_room hrest) hdg hc) hw (fun H1 locs1 hw1 => kk r H1 locs1 hf hw1)
  rw [if_neg c11] at h1
  cases h1
set_option maxHeartbeats 4000000 in
theorem vd_X0_310 {p : Program} {l : Launch} {e : Env} {R : Room} {s : State} {m : MethodId} {args : Array Value} {below : List Frame} {meth : Method} {c : Code} {H : Heap} {locs : List Loc} {cells slots : Nat} {Q : State → Prop} {D : va_G} {A : Nat → Prop} {cc : ByteArray} {nL : Nat} {ret : Option FieldType} {pc : Nat} {ls : Array Slot} {rest : List Value} {β : Type} {res : β} {K : Int32 × zT → Option β} {st0 : List Value} (h : zT) (b : Nat) (X : zCx p s m args meth c D A (zEv A) cc nL RX0 ret) (hw : zWh D A s H h locs) (hl : ls.size = nL) (hf : (fd_covered h b).bind K = some res) (hRf : 8 ≤ R.frames) (hRl : 200 ≤ R.locals) (hrest : (rest.map fun v => v.category).sum ≤ 8) (hstk : st0 = ([] : List Value).reverse ++ .ref b :: rest) (hdg : decode cc pc = .ok (.invokevirtual 310, 3)) (hc : cells + 0 ≤ R.cells ∧ slots + 0 ≤ R.slots) (kk : ∀ (r : Int32 × zT) (H1 : Heap) (locs1 : List Loc), K r = some res → zWh D A s H1 (r.2) locs1 → W p l e R s m args below meth c H1 locs1 (cells + 0) (slots + 0) Q (F0 m (pc + 3) ls (.int r.1 :: rest))) : W p l e R s m args below meth c H locs cells slots Q (F0 m pc ls st0) := by
  have hts := X.1.2.2.2.2
  have hN := X.2.2.2.2.2.2.1
  have hDW := X.2.2.2.2.2.2.2.1
  obtain ⟨r, h1, hf⟩ := zbd hf
  unfold fd_covered at h1
  obtain ⟨⟨ci, fs⟩, ho, h1⟩ := zbd h1
  have ho := zh_O_eq ho
  dsimp only at h1
  by_cases c6 : ci = 6
  · subst c6
    rw [if_pos rfl] at h1
    exact zw_call (va_runV (C := RX6) (As := []) (rest := rest) X.1 (mt_X6_covered l D A h b r h1) (cwV 0 hts (lw_V q655 q656 q657 q90 q664) rfl rfl rfl ⟨rfl, cd_X6_covered⟩ ⟨Nat.le_trans (Nat.le_of_ble_eq_true rfl) hRf, Nat.le_trans (Nat.le_of_ble_eq_true rfl) hRl⟩) (zpreV (ci := 6) X hw ho rfl _) rfl rfl hl hstk (lv_room hrest) hdg hc) hw (fun H1 locs1 hw1 => kk r H1 locs1 hf hw1)
  rw [if_neg c6] at h1
  by_cases c7 : ci = 7
  · subst c7
    rw [if_pos rfl] at h1
    exact zw_call (va_runU (C := RX7) (owner := RX6) (x := yX6_covered) (As := []) (rest := rest) X.1 (mt_X6_covered l D A h b r h1) (va_cwU 0 hts (zlw_U q655 q658 q659 q656 q90 q664) rfl rfl rfl rfl cd_X6_covered ⟨Nat.le_trans (Nat.le_of_ble_eq_true rfl) hRf, Nat.le_trans (Nat.le_of_ble_eq_true rfl) hRl⟩) (zpreV (ci := 7) X hw ho rfl _) rfl rfl hl hstk (lv_room hrest) hdg hc) hw (fun H1 locs1 hw1 => kk r H1 locs1 hf hw1)
  rw [if_neg c7] at h1
  by_cases c8 : ci = 8
  · subst c8
    rw [if_pos rfl] at h1
    exact zw_call (va_runU (C := RX8) (owner := RX6) (x := yX6_covered) (As := []) (rest := rest) X.1 (mt_X6_covered l D A h b r h1) (va_cwU 0 hts (zlw_U q655 q658 q661 q656 q90 q664) rfl rfl rfl rfl cd_X6_covered ⟨Nat.le_trans (Nat.le_of_ble_eq_true rfl) hRf, Nat.le_trans (Nat.le_of_ble_eq_true rfl) hRl⟩) (zpreV (ci := 8) X hw ho rfl _) rfl rfl hl hstk (lv_room hrest) hdg hc) hw (fun H1 locs1 hw1 => kk r H1 locs1 hf hw1)
  rw [if_neg c8] at h1
  by_cases c9 : ci = 9
  · subst c9
    rw [if_pos rfl] at h1
    exact zw_call (va_runU (C := RX9) (owner := RX6) (x := yX6_covered) (As := []) (rest := rest) X.1 (mt_X6_covered l D A h b r h1) (va_cwU 0 hts (zlw_U q655 q658 q663 q656 q90 q664) rfl rfl rfl rfl cd_X6_covered ⟨Nat.le_trans (Nat.le_of_ble_eq_true rfl) hRf, Nat.le_trans (Nat.le_of_ble_eq_true rfl) hRl⟩) (zpreV (ci := 9) X hw ho rfl _) rfl rfl hl hstk (lv_room hrest) hdg hc) hw (fun H1 locs1 hw1 => kk r H1 locs1 hf hw1)
  rw [if_neg c9] at h1
  by_cases c10 : ci = 10
  · subst c10
    rw [if_pos rfl] at h1
    exact zw_call (va_runU (C := RX10) (owner := RX6) (x := yX6_covered) (As := []) (rest := rest) X.1 (mt_X6_covered l D A h b r h1) (va_cwU 0 hts (zlw_U q655 q658 q660 q656 q90 q664) rfl rfl rfl rfl cd_X6_covered ⟨Nat.le_trans (Nat.le_of_ble_eq_true rfl) hRf, Nat.le_trans (Nat.le_of_ble_eq_true rfl) hRl⟩) (zpreV (ci := 10) X hw ho rfl _) rfl rfl hl hstk (lv_room hrest) hdg hc) hw (fun H1 locs1 hw1 => kk r H1 locs1 hf hw1)
  rw [if_neg c10] at h1
  by_cases c11 : ci = 11
  · subst c11
    rw [if_pos rfl] at h1
    exact zw_call (va_runU (C := RX11) (owner := RX6) (x := yX6_covered) (As := []) (rest := rest) X.1 (mt_X6_covered l D A h b r h1) (va_cwU 0 hts (zlw_U q655 q658 q662 q656 q90 q664) rfl rfl rfl rfl cd_X6_covered ⟨Nat.le_trans (Nat.le_of_ble_eq_true rfl) hRf, Nat.le_trans (Nat.le_of_ble_eq_true rfl) hRl⟩) (zpreV (ci := 11) X hw ho rfl _) rfl rfl hl hstk (lv_room hrest) hdg hc) hw (fun H1 locs1 hw1 => kk r H1 locs1 hf hw1)
  rw [if_neg c11] at h1
  cases h1
set_option maxHeartbeats 4000000 in
theorem vd_X0_317 {p : Program} {l : Launch} {e : Env} {R : Room} {s : State} {m : MethodId} {args : Array Value} {below : List Frame} {meth : Method} {c : Code} {H : Heap} {locs : List Loc} {cells slots : Nat} {Q : State → Prop} {D : va_G} {A : Nat → Prop} {cc : ByteArray} {nL : Nat} {ret : Option FieldType} {pc : Nat} {ls : Array Slot} {rest : List Value} {β : Type} {res : β} {K : Int32 × zT → Option β} {st0 : List Value} (h : zT) (b : Nat) (X : zCx p s m args meth c D A (zEv A) cc nL RX0 ret) (hw : zWh D A s H h locs) (hl : ls.size = nL) (hf : (fd_loses h b).bind K = some res) (hRf : 8 ≤ R.frames) (hRl : 200 ≤ R.locals) (hrest : (rest.map fun v => v.category).sum ≤ 8) (hstk : st0 = ([] : List Value).reverse ++ .ref b :: rest) (hdg : decode cc pc = .ok (.invokevirtual 317, 3)) (hc : cells + 0 ≤ R.cells ∧ slots + 0 ≤ R.slots) (kk : ∀ (r : Int32 × zT) (H1 : Heap) (locs1 : List Loc), K r = some res → zWh D A s H1 (r.2) locs1 → W p l e R s m args below meth c H1 locs1 (cells + 0) (slots + 0) Q (F0 m (pc + 3) ls (.int r.1 :: rest))) : W p l e R s m args below meth c H locs cells slots Q (F0 m pc ls st0) := by
  have hts := X.1.2.2.2.2
  have hN := X.2.2.2.2.2.2.1
  have hDW := X.2.2.2.2.2.2.2.1
  obtain ⟨r, h1, hf⟩ := zbd hf
  unfold fd_loses at h1
  obtain ⟨⟨ci, fs⟩, ho, h1⟩ := zbd h1
  have ho := zh_O_eq ho
  dsimp only at h1
  by_cases c6 : ci = 6
  · subst c6
    rw [if_pos rfl] at h1
    exact zw_call (va_runV (C := RX6) (As := []) (rest := rest) X.1 (mt_X6_loses l D A h b r h1) (cwV 0 hts (lw_V q705 q706 q707 q90 q726) rfl rfl rfl ⟨rfl, cd_X6_loses⟩ ⟨Nat.le_trans (Nat.le_of_ble_eq_true rfl) hRf, Nat.le_trans (Nat.le_of_ble_eq_true rfl) hRl⟩) (zpreV (ci := 6) X hw ho rfl _) rfl rfl hl hstk (lv_room hrest) hdg hc) hw (fun H1 locs1 hw1 => kk r H1 locs1 hf hw1)
  rw [if_neg c6] at h1
  by_cases c7 : ci = 7
  · subst c7
    rw [if_pos rfl] at h1
    exact zw_call (va_runU (C := RX7) (owner := RX6) (x := yX6_loses) (As := []) (rest := rest) X.1 (mt_X7_loses l D A h b r h1) (va_cwO 0 hts (zlw_O q705 q708 q706 q709 q710 q91 q711) rfl rfl rfl q726 cd_X6_loses ⟨Nat.le_trans (Nat.le_of_ble_eq_true rfl) hRf, Nat.le_trans (Nat.le_of_ble_eq_true rfl) hRl⟩) (zpreV (ci := 7) X hw ho rfl _) rfl rfl hl hstk (lv_room hrest) hdg hc) hw (fun H1 locs1 hw1 => kk r H1 locs1 hf hw1)
  rw [if_neg c7] at h1
  by_cases c8 : ci = 8
  · subst c8
    rw [if_pos rfl] at h1
    exact zw_call (va_runU (C := RX8) (owner := RX6) (x := yX6_loses) (As := []) (rest := rest) X.1 (mt_X8_loses l D A h b r h1) (va_cwO 0 hts (zlw_O q705 q708 q706 q717 q714 q92 q715) rfl rfl rfl q726 cd_X6_loses ⟨Nat.le_trans (Nat.le_of_ble_eq_true rfl) hRf, Nat.le_trans (Nat.le_of_ble_eq_true rfl) hRl⟩) (zpreV (ci := 8) X hw ho rfl _) rfl rfl hl hstk (lv_room hrest) hdg hc) hw (fun H1 locs1 hw1 => kk r H1 locs1 hf hw1)
  rw [if_neg c8] at h1
  by_cases c9 : ci = 9
  · subst c9
    rw [if_pos rfl] at h1
    exact zw_call (va_runU (C := RX9) (owner := RX6) (x := yX6_loses) (As := []) (rest := rest) X.1 (mt_X9_loses l D A h b r h1) (va_cwO 0 hts (zlw_O q705 q708 q706 q722 q723 q93 q724) rfl rfl rfl q726 cd_X6_loses ⟨Nat.le_trans (Nat.le_of_ble_eq_true rfl) hRf, Nat.le_trans (Nat.le_of_ble_eq_true rfl) hRl⟩) (zpreV (ci := 9) X hw ho rfl _) rfl rfl hl hstk (lv_room hrest) hdg hc) hw (fun H1 locs1 hw1 => kk r H1 locs1 hf hw1)
  rw [if_neg c9] at h1
  by_cases c10 : ci = 10
  · subst c10
    rw [if_pos rfl] at h1
    exact zw_call (va_runU (C := RX10) (owner := RX6) (x := yX6_loses) (As := []) (rest := rest) X.1 (mt_X8_loses l D A h b r h1) (va_cwO 0 hts (zlw_O q705 q708 q706 q713 q714 q92 q715) rfl rfl rfl q726 cd_X6_loses ⟨Nat.le_trans (Nat.le_of_ble_eq_true rfl) hRf, Nat.le_trans (Nat.le_of_ble_eq_true rfl) hRl⟩) (zpreV (ci := 10) X hw ho rfl _) rfl rfl hl hstk (lv_room hrest) hdg hc) hw (fun H1 locs1 hw1 => kk r H1 locs1 hf hw1)
  rw [if_neg c10] at h1
  by_cases c11 : ci = 11
  · subst c11
    rw [if_pos rfl] at h1
    exact zw_call (va_runU (C := RX11) (owner := RX6) (x := yX6_loses) (As := []) (rest := rest) X.1 (mt_X11_loses l D A h b r h1) (va_cwO 0 hts (zlw_O q705 q708 q706 q718 q719 q95 q720) rfl rfl rfl q726 cd_X6_loses ⟨Nat.le_trans (Nat.le_of_ble_eq_true rfl) hRf, Nat.le_trans (Nat.le_of_ble_eq_true rfl) hRl⟩) (zpreV (ci := 11) X hw ho rfl _) rfl rfl hl hstk (lv_room hrest) hdg hc) hw (fun H1 locs1 hw1 => kk r H1 locs1 hf hw1)
  rw [if_neg c11] at h1
  cases h1
set_option maxHeartbeats 4000000 in
theorem vd_X0_320 {p : Program} {l : Launch} {e : Env} {R : Room} {s : State} {m : MethodId} {args : Array Value} {below : List Frame} {meth : Method} {c : Code} {H : Heap} {locs : List Loc} {cells slots : Nat} {Q : State → Prop} {D : va_G} {A : Nat → Prop} {cc : ByteArray} {nL : Nat} {ret : Option FieldType} {pc : Nat} {ls : Array Slot} {rest : List Value} {β : Type} {res : β} {K : Int32 × zT → Option β} {st0 : List Value} (h : zT) (b : Nat) (X : zCx p s m args meth c D A (zEv A) cc nL RX0 ret) (hw : zWh D A s H h locs) (hl : ls.size = nL) (hf : (fd_worth h b).bind K = some res) (hRf : 8 ≤ R.frames) (hRl : 200 ≤ R.locals) (hrest : (rest.map fun v => v.category).sum ≤ 8) (hstk : st0 = ([] : List Value).reverse ++ .ref b :: rest) (hdg : decode cc pc = .ok (.invokevirtual 320, 3)) (hc : cells + 0 ≤ R.cells ∧ slots + 0 ≤ R.slots) (kk : ∀ (r : Int32 × zT) (H1 : Heap) (locs1 : List Loc), K r = some res → zWh D A s H1 (r.2) locs1 → W p l e R s m args below meth c H1 locs1 (cells + 0) (slots + 0) Q (F0 m (pc + 3) ls (.int r.1 :: rest))) : W p l e R s m args below meth c H locs cells slots Q (F0 m pc ls st0) := by
  have hts := X.1.2.2.2.2
  have hN := X.2.2.2.2.2.2.1
  have hDW := X.2.2.2.2.2.2.2.1
  obtain ⟨r, h1, hf⟩ := zbd hf
  unfold fd_worth at h1
  obtain ⟨⟨ci, fs⟩, ho, h1⟩ := zbd h1
  have ho := zh_O_eq ho
  dsimp only at h1
  by_cases c6 : ci = 6
  · subst c6
    rw [if_pos rfl] at h1
    exact zw_call (va_runV (C := RX6) (As := []) (rest := rest) X.1 (mt_X6_worth l D A h b r h1) (cwV 0 hts (lw_V q727 q728 q729 q90 q750) rfl rfl rfl ⟨rfl, cd_X6_worth⟩ ⟨Nat.le_trans (Nat.le_of_ble_eq_true rfl) hRf, Nat.le_trans (Nat.le_of_ble_eq_true rfl) hRl⟩) (zpreV (ci := 6) X hw ho rfl _) rfl rfl hl hstk (lv_room hrest) hdg hc) hw (fun H1 locs1 hw1 => kk r H1 locs1 hf hw1)
  rw [if_neg c6] at h1
  by_cases c7 : ci = 7
  · subst c7
    rw [if_pos rfl] at h1
    exact zw_call (va_runU (C := RX7) (owner := RX6) (x := yX6_worth) (As := []) (rest := rest) X.1 (mt_X7_worth l D A h b r h1) (va_cwO 0 hts (zlw_O q727 q730 q728 q731 q732 q91 q733) rfl rfl rfl q750 cd_X6_worth ⟨Nat.le_trans (Nat.le_of_ble_eq_true rfl) hRf, Nat.le_trans (Nat.le_of_ble_eq_true rfl) hRl⟩) (zpreV (ci := 7) X hw ho rfl _) rfl rfl hl hstk (lv_room hrest) hdg hc) hw (fun H1 locs1 hw1 => kk r H1 locs1 hf hw1)
  rw [if_neg c7] at h1
  by_cases c8 : ci = 8
  · subst c8
    rw [if_pos rfl] at h1
    exact zw_call (va_runU (C := RX8) (owner := RX6) (x := yX6_worth) (As := []) (rest := rest) X.1 (mt_X8_worth l D A h b r h1) (va_cwO 0 hts (zlw_O q727 q730 q728 q742 q739 q92 q740) rfl rfl rfl q750 cd_X6_worth ⟨Nat.le_trans (Nat.le_of_ble_eq_true rfl) hRf, Nat.le_trans (Nat.le_of_ble_eq_true rfl) hRl⟩) (zpreV (ci := 8) X hw ho rfl _) rfl rfl hl hstk (lv_room hrest) hdg hc) hw (fun H1 locs1 hw1 => kk r H1 locs1 hf hw1)
  rw [if_neg c8] at h1
  by_cases c9 : ci = 9
  · subst c9
    rw [if_pos rfl] at h1
    exact zw_call (va_runU (C := RX9) (owner := RX6) (x := yX6_worth) (As := []) (rest := rest) X.1 (mt_X9_worth l D A h b r h1) (va_cwO 0 hts (zlw_O q727 q730 q728 q746 q747 q93 q748) rfl rfl rfl q750 cd_X6_worth ⟨Nat.le_trans (Nat.le_of_ble_eq_true rfl) hRf, Nat.le_trans (Nat.le_of_ble_eq_true rfl) hRl⟩) (zpreV (ci := 9) X hw ho rfl _) rfl rfl hl hstk (lv_room hrest) hdg hc) hw (fun H1 locs1 hw1 => kk r H1 locs1 hf hw1)
  rw [if_neg c9] at h1
  by_cases c10 : ci = 10
  · subst c10
    rw [if_pos rfl] at h1
    exact zw_call (va_runU (C := RX10) (owner := RX6) (x := yX6_worth) (As := []) (rest := rest) X.1 (mt_X10_worth l D A h b r h1) (va_cwO 0 hts (zlw_O q727 q730 q728 q735 q736 q94 q737) rfl rfl rfl q750 cd_X6_worth ⟨Nat.le_trans (Nat.le_of_ble_eq_true rfl) hRf, Nat.le_trans (Nat.le_of_ble_eq_true rfl) hRl⟩) (zpreV (ci := 10) X hw ho rfl _) rfl rfl hl hstk (lv_room hrest) hdg hc) hw (fun H1 locs1 hw1 => kk r H1 locs1 hf hw1)
  rw [if_neg c10] at h1
  by_cases c11 : ci = 11
  · subst c11
    rw [if_pos rfl] at h1
    exact zw_call (va_runU (C := RX11) (owner := RX6) (x := yX6_worth) (As := []) (rest := rest) X.1 (mt_X11_worth l D A h b r h1) (va_cwO 0 hts (zlw_O q727 q730 q728 q743 q744 q95 q745) rfl rfl rfl q750 cd_X6_worth ⟨Nat.le_trans (Nat.le_of_ble_eq_true rfl) hRf, Nat.le_trans (Nat.le_of_ble_eq_true rfl) hRl⟩) (zpreV (ci := 11) X hw ho rfl _) rfl rfl hl hstk (lv_room hrest) hdg hc) hw (fun H1 locs1 hw1 => kk r H1 locs1 hf hw1)
  rw [if_neg c11] at h1
  cases h1
set_option maxHeartbeats 4000000 in
theorem mt_X0_told (l : Launch) (D : va_G) (A : Nat → Prop) (h : zT) (a0 : Nat) (i1 : Int32) (i2 : Int32) (res : Int32 × zT) (hf : f_X0_told h a0 i1 i2 = some res) : Met l yX0_told (ws_ yX0_told cX0_told 4 (Option.some FieldType.int)) rm_X0_told (zPW D A (zEv A) h [.ref a0, .int i1, .int i2]) (zQW D A (some (.int res.1)) res.2) 0 0 A := by
  refine zmt (zEv_ok A) (by decide) (Nat.le_of_ble_eq_true rfl) ?_
  intro p e s m below meth c ls hmn X hw hl
  have hl : lv_has ls 4 [(0, .ref a0), (1, .int i1), (2, .int i2)] := hl
  have hx := X.1.1
  have hb := X.1.2.1
  have hown := X.1.2.2.2.1
  have hts := X.1.2.2.2.2
  have hN := X.2.2.2.2.2.2.1
  have hDW := X.2.2.2.2.2.2.2.1
  have hAO := X.2.2.2.2.2.2.2.2.1
  have hNC := X.2.2.2.2.2.2.2.2.2.1
  unfold f_X0_told at hf
  refine lv_aload_n hx hb dX0_told_0 rfl (lv_at hl 0 rfl) ?_
  refine lv_iload_n hx hb dX0_told_1 rfl (lv_at hl 1 rfl) ?_
  refine zw_kC hf (fun fs hfs hf => ?_)
  refine zw_goZ (rest := []) hw hf (fun r hr => va_runV (C := RX0) (As := [.int i1]) (rest := []) X.1 (mt_X0_isRubbing l D A h a0 i1 r hr) (cwV 1 hts (lw_V q629 q631 qs19 q81 q632) rfl rfl rfl ⟨rfl, cd_X0_isRubbing⟩ ⟨Nat.le_of_ble_eq_true rfl, Nat.le_of_ble_eq_true rfl⟩) (zpreV (ci := 0) X hw hfs rfl _) rfl rfl hl.1 rfl (lv_room (Nat.le_of_ble_eq_true rfl)) dX0_told_2 ⟨Nat.le_of_ble_eq_true rfl, Nat.le_of_ble_eq_true rfl⟩) (fun r1 H locs hf hw => ?_)
  refine zw_if_ne (tgt := 11) hx hb hf dX0_told_5 (by decide) (fun hf => ?_) (fun hf => ?_)
  · refine lv_aload_n hx hb dX0_told_11 rfl (lv_at hl 0 rfl) ?_
    refine zw_getR X hw fs_X0_0 q252 rfl hf dX0_told_12 (fun v2 hf => ?_)
    refine zw_getRN X hw fs_X1_2 (hN _ nq131) rfl hf dX0_told_15 (fun v3 hf => ?_)
    refine lv_iload_n hx hb dX0_told_18 rfl (lv_at hl 1 rfl) ?_
    refine zw_aaloadR X hw hf dX0_told_19 (fun v4 hf => ?_)
    refine lv_astore_n (lv' := [(3, .ref v4), (0, .ref a0), (1, .int i1), (2, .int i2)]) hx hb dX0_told_20 rfl hl (by decide) rfl (fun ls hl => ?_)
    refine lv_iload_n hx hb dX0_told_21 rfl (lv_at hl 3 rfl) ?_
    refine zw_case hf (fun c1000 hf => ?_) (fun c1000 hf => ?_)
    · refine zw_tableIn (off := 54) (tgt := 76) hx hb c1000 dX0_told_22 (by decide) (by decide) rfl (by decide) ?_
      refine lv_aload_n hx hb dX0_told_76 rfl (lv_at hl 0 rfl) ?_
      refine vd_X0_303 (rest := []) r1.2 v4 X hw hl.1 hf (Nat.le_of_ble_eq_true rfl) (Nat.le_of_ble_eq_true rfl) (Nat.le_of_ble_eq_true rfl) rfl dX0_told_77 ⟨Nat.le_of_ble_eq_true rfl, Nat.le_of_ble_eq_true rfl⟩ (fun r5 H locs hf hw => ?_)
      exact zw_iret X hw hf (Nat.le_of_ble_eq_true rfl) (Nat.le_of_ble_eq_true rfl) dX0_told_80
    · refine zw_case hf (fun c1001 hf => ?_) (fun c1001 hf => ?_)
      · refine zw_tableIn (off := 59) (tgt := 81) hx hb c1001 dX0_told_22 (by decide) (by decide) rfl (by decide) ?_
        refine lv_aload_n hx hb dX0_told_81 rfl (lv_at hl 0 rfl) ?_
        refine zw_getI X hw fs_X6_0 q544 rfl hf dX0_told_82 (fun v6 hf => ?_)
        exact zw_iret X hw hf (Nat.le_of_ble_eq_true rfl) (Nat.le_of_ble_eq_true rfl) dX0_told_85
      · refine zw_case hf (fun c1002 hf => ?_) (fun c1002 hf => ?_)
        · refine zw_tableIn (off := 64) (tgt := 86) hx hb c1002 dX0_told_22 (by decide) (by decide) rfl (by decide) ?_
          refine lv_aload_n hx hb dX0_told_86 rfl (lv_at hl 0 rfl) ?_
          refine zw_getI X hw fs_X6_1 q548 rfl hf dX0_told_87 (fun v7 hf => ?_)
          exact zw_iret X hw hf (Nat.le_of_ble_eq_true rfl) (Nat.le_of_ble_eq_true rfl) dX0_told_90
        · refine zw_case hf (fun c1003 hf => ?_) (fun c1003 hf => ?_)
          · refine zw_tableIn (off := 69) (tgt := 91) hx hb c1003 dX0_told_22 (by decide) (by decide) rfl (by decide) ?_
            refine lv_aload_n hx hb dX0_told_91 rfl (lv_at hl 0 rfl) ?_
            refine zw_getI X hw fs_X6_2 q550 rfl hf dX0_told_92 (fun v8 hf => ?_)
            refine zw_if_eq (tgt := 102) hx hb hf dX0_told_95 (by decide) (fun hf => ?_) (fun hf => ?_)
            · refine lv_iconst (v := (0 : Int32)) hx hb dX0_told_102 (by decide) ?_
              exact zw_iret X hw hf (Nat.le_of_ble_eq_true rfl) (Nat.le_of_ble_eq_true rfl) dX0_told_103
            · refine lv_iconst (v := (1 : Int32)) hx hb dX0_told_98 (by decide) ?_
              refine lv_goto (tgt := 103) hx hb dX0_told_99 (by decide) ?_
              exact zw_iret X hw hf (Nat.le_of_ble_eq_true rfl) (Nat.le_of_ble_eq_true rfl) dX0_told_103
          · refine zw_case hf (fun c1004 hf => ?_) (fun c1004 hf => ?_)
            · refine zw_tableIn (off := 82) (tgt := 104) hx hb c1004 dX0_told_22 (by decide) (by decide) rfl (by decide) ?_
              refine lv_aload_n hx hb dX0_told_104 rfl (lv_at hl 0 rfl) ?_
              refine zw_getI X hw fs_X6_3 q553 rfl hf dX0_told_105 (fun v9 hf => ?_)
              exact zw_iret X hw hf (Nat.le_of_ble_eq_true rfl) (Nat.le_of_ble_eq_true rfl) dX0_told_108
            · refine zw_case hf (fun c1005 hf => ?_) (fun c1005 hf => ?_)
              · refine zw_tableIn (off := 87) (tgt := 109) hx hb c1005 dX0_told_22 (by decide) (by decide) rfl (by decide) ?_
                refine lv_aload_n hx hb dX0_told_109 rfl (lv_at hl 0 rfl) ?_
                refine zw_getI X hw fs_X6_4 q556 rfl hf dX0_told_110 (fun v10 hf => ?_)
                exact zw_iret X hw hf (Nat.le_of_ble_eq_true rfl) (Nat.le_of_ble_eq_true rfl) dX0_told_113
              · refine zw_case hf (fun c1006 hf => ?_) (fun c1006 hf => ?_)
                · refine zw_tableIn (off := 92) (tgt := 114) hx hb c1006 dX0_told_22 (by decide) (by decide) rfl (by decide) ?_
                  refine lv_aload_n hx hb dX0_told_114 rfl (lv_at hl 0 rfl) ?_
                  refine vd_X0_310 (rest := []) r1.2 v4 X hw hl.1 hf (Nat.le_of_ble_eq_true rfl) (Nat.le_of_ble_eq_true rfl) (Nat.le_of_ble_eq_true rfl) rfl dX0_told_115 ⟨Nat.le_of_ble_eq_true rfl, Nat.le_of_ble_eq_true rfl⟩ (fun r11 H locs hf hw => ?_)
                  exact zw_iret X hw hf (Nat.le_of_ble_eq_true rfl) (Nat.le_of_ble_eq_true rfl) dX0_told_118
                · refine zw_case hf (fun c1007 hf => ?_) (fun c1007 hf => ?_)
                  · refine zw_tableIn (off := 97) (tgt := 119) hx hb c1007 dX0_told_22 (by decide) (by decide) rfl (by decide) ?_
                    refine lv_aload_n hx hb dX0_told_119 rfl (lv_at hl 1 rfl) ?_
                    refine lv_aload_n hx hb dX0_told_120 rfl (lv_at hl 0 rfl) ?_
                    refine zw_kC hf (fun fs hfs hf => ?_)
                    refine zw_goI (rest := []) hw hf (fun r hr => va_runV (C := RX0) (As := [.ref v4]) (rest := []) X.1 (mt_X0_gainOf l D A r1.2 a0 v4 r hr) (cwV 1 hts (lw_V q666 q668 qs20 q81 q669) rfl rfl rfl ⟨rfl, cd_X0_gainOf⟩ ⟨Nat.le_of_ble_eq_true rfl, Nat.le_of_ble_eq_true rfl⟩) (zpreV (ci := 0) X hw hfs rfl _) rfl rfl hl.1 rfl (lv_room (Nat.le_of_ble_eq_true rfl)) dX0_told_121 ⟨Nat.le_of_ble_eq_true rfl, Nat.le_of_ble_eq_true rfl⟩) (fun r12 H locs hf hw => ?_)
                    exact zw_iret X hw hf (Nat.le_of_ble_eq_true rfl) (Nat.le_of_ble_eq_true rfl) dX0_told_124
                  · refine zw_case hf (fun c1008 hf => ?_) (fun c1008 hf => ?_)
                    · refine zw_tableIn (off := 103) (tgt := 125) hx hb c1008 dX0_told_22 (by decide) (by decide) rfl (by decide) ?_
                      refine lv_aload_n hx hb dX0_told_125 rfl (lv_at hl 0 rfl) ?_
                      refine vd_X0_317 (rest := []) r1.2 v4 X hw hl.1 hf (Nat.le_of_ble_eq_true rfl) (Nat.le_of_ble_eq_true rfl) (Nat.le_of_ble_eq_true rfl) rfl dX0_told_126 ⟨Nat.le_of_ble_eq_true rfl, Nat.le_of_ble_eq_true rfl⟩ (fun r13 H locs hf hw => ?_)
                      exact zw_iret X hw hf (Nat.le_of_ble_eq_true rfl) (Nat.le_of_ble_eq_true rfl) dX0_told_129
                    · refine zw_case hf (fun c1009 hf => ?_) (fun c1009 hf => ?_)
                      · refine zw_tableIn (off := 108) (tgt := 130) hx hb c1009 dX0_told_22 (by decide) (by decide) rfl (by decide) ?_
                        refine lv_aload_n hx hb dX0_told_130 rfl (lv_at hl 0 rfl) ?_
                        refine vd_X0_320 (rest := []) r1.2 v4 X hw hl.1 hf (Nat.le_of_ble_eq_true rfl) (Nat.le_of_ble_eq_true rfl) (Nat.le_of_ble_eq_true rfl) rfl dX0_told_131 ⟨Nat.le_of_ble_eq_true rfl, Nat.le_of_ble_eq_true rfl⟩ (fun r14 H locs hf hw => ?_)
                        exact zw_iret X hw hf (Nat.le_of_ble_eq_true rfl) (Nat.le_of_ble_eq_true rfl) dX0_told_134
                      · refine lv_tableOut (tgt := 135) hx hb dX0_told_22 (by have := lv_neT c1000 (a := 0) (by decide); have := lv_neT c1001 (a := 1) (by decide); have := lv_neT c1002 (a := 2) (by decide); have := lv_neT c1003 (a := 3) (by decide); have := lv_neT c1004 (a := 4) (by decide); have := lv_neT c1005 (a := 5) (by decide); have := lv_neT c1006 (a := 6) (by decide); have := lv_neT c1007 (a := 7) (by decide); have := lv_neT c1008 (a := 8) (by decide); have := lv_neT c1009 (a := 9) (by decide); omega) (by decide) ?_
                        refine lv_ldc (v := (-1000000001 : Int32)) hx hb hown (hts _ q342) dX0_told_135 ?_
                        exact zw_iret X hw hf (Nat.le_of_ble_eq_true rfl) (Nat.le_of_ble_eq_true rfl) dX0_told_137
  · refine lv_ldc (v := (-1000000001 : Int32)) hx hb hown (hts _ q342) dX0_told_8 ?_
    exact zw_iret X hw hf (Nat.le_of_ble_eq_true rfl) (Nat.le_of_ble_eq_true rfl) dX0_told_10
set_option maxHeartbeats 4000000 in
theorem vd_X0_323 {p : Program} {l : Launch} {e : Env} {R : Room} {s : State} {m : MethodId} {args : Array Value} {below : List Frame} {meth : Method} {c : Code} {H : Heap} {locs : List Loc} {cells slots : Nat} {Q : State → Prop} {D : va_G} {A : Nat → Prop} {cc : ByteArray} {nL : Nat} {ret : Option FieldType} {pc : Nat} {ls : Array Slot} {rest : List Value} {β : Type} {res : β} {K : Int32 × zT → Option β} {st0 : List Value} (h : zT) (b : Nat) (i1 : Int32) (X : zCx p s m args meth c D A (zEv A) cc nL RX0 ret) (hw : zWh D A s H h locs) (hl : ls.size = nL) (hf : (fd_saysAt h b i1).bind K = some res) (hRf : 10 ≤ R.frames) (hRl : 300 ≤ R.locals) (hrest : (rest.map fun v => v.category).sum ≤ 8) (hstk : st0 = ([.int i1] : List Value).reverse ++ .ref b :: rest) (hdg : decode cc pc = .ok (.invokevirtual 323, 3)) (hc : cells + 0 ≤ R.cells ∧ slots + 0 ≤ R.slots) (kk : ∀ (r : Int32 × zT) (H1 : Heap) (locs1 : List Loc), K r = some res → zWh D A s H1 (r.2) locs1 → W p l e R s m args below meth c H1 locs1 (cells + 0) (slots + 0) Q (F0 m (pc + 3) ls (.int r.1 :: rest))) : W p l e R s m args below meth c H locs cells slots Q (F0 m pc ls st0) := by
  have hts := X.1.2.2.2.2
  have hN := X.2.2.2.2.2.2.1
  have hDW := X.2.2.2.2.2.2.2.1
  obtain ⟨r, h1, hf⟩ := zbd hf
  unfold fd_saysAt at h1
  obtain ⟨⟨ci, fs⟩, ho, h1⟩ := zbd h1
  have ho := zh_O_eq ho
  dsimp only at h1
  by_cases c6 : ci = 6
  · subst c6
    rw [if_pos rfl] at h1
    exact zw_call (va_runV (C := RX6) (As := [.int i1]) (rest := rest) X.1 (mt_X6_saysAt l D A h b i1 r h1) (cwV 1 hts (lw_V q755 q756 q757 q90 q764) rfl rfl rfl ⟨rfl, cd_X6_saysAt⟩ ⟨Nat.le_trans (Nat.le_of_ble_eq_true rfl) hRf, Nat.le_trans (Nat.le_of_ble_eq_true rfl) hRl⟩) (zpreV (ci := 6) X hw ho rfl _) rfl rfl hl hstk (lv_room hrest) hdg hc) hw (fun H1 locs1 hw1 => kk r H1 locs1 hf hw1)
  rw [if_neg c6] at h1
  by_cases c7 : ci = 7
  · subst c7
    rw [if_pos rfl] at h1
    exact zw_call (va_runU (C := RX7) (owner := RX6) (x := yX6_saysAt) (As := [.int i1]) (rest := rest) X.1 (mt_X6_saysAt l D A h b i1 r h1) (va_cwU 1 hts (zlw_U q755 q758 q759 q756 q90 q764) rfl rfl rfl rfl cd_X6_saysAt ⟨Nat.le_trans (Nat.le_of_ble_eq_true rfl) hRf, Nat.le_trans (Nat.le_of_ble_eq_true rfl) hRl⟩) (zpreV (ci := 7) X hw ho rfl _) rfl rfl hl hstk (lv_room hrest) hdg hc) hw (fun H1 locs1 hw1 => kk r H1 locs1 hf hw1)
  rw [if_neg c7] at h1
  by_cases c8 : ci = 8
  · subst c8
    rw [if_pos rfl] at h1
    exact zw_call (va_runU (C := RX8) (owner := RX6) (x := yX6_saysAt) (As := [.int i1]) (rest := rest) X.1 (mt_X6_saysAt l D A h b i1 r h1) (va_cwU 1 hts (zlw_U q755 q758 q761 q756 q90 q764) rfl rfl rfl rfl cd_X6_saysAt ⟨Nat.le_trans (Nat.le_of_ble_eq_true rfl) hRf, Nat.le_trans (Nat.le_of_ble_eq_true rfl) hRl⟩) (zpreV (ci := 8) X hw ho rfl _) rfl rfl hl hstk (lv_room hrest) hdg hc) hw (fun H1 locs1 hw1 => kk r H1 locs1 hf hw1)
  rw [if_neg c8] at h1
  by_cases c9 : ci = 9
  · subst c9
    rw [if_pos rfl] at h1
    exact zw_call (va_runU (C := RX9) (owner := RX6) (x := yX6_saysAt) (As := [.int i1]) (rest := rest) X.1 (mt_X6_saysAt l D A h b i1 r h1) (va_cwU 1 hts (zlw_U q755 q758 q763 q756 q90 q764) rfl rfl rfl rfl cd_X6_saysAt ⟨Nat.le_trans (Nat.le_of_ble_eq_true rfl) hRf, Nat.le_trans (Nat.le_of_ble_eq_true rfl) hRl⟩) (zpreV (ci := 9) X hw ho rfl _) rfl rfl hl hstk (lv_room hrest) hdg hc) hw (fun H1 locs1 hw1 => kk r H1 locs1 hf hw1)
  rw [if_neg c9] at h1
  by_cases c10 : ci = 10
  · subst c10
    rw [if_pos rfl] at h1
    exact zw_call (va_runU (C := RX10) (owner := RX6) (x := yX6_saysAt) (As := [.int i1]) (rest := rest) X.1 (mt_X6_saysAt l D A h b i1 r h1) (va_cwU 1 hts (zlw_U q755 q758 q760 q756 q90 q764) rfl rfl rfl rfl cd_X6_saysAt ⟨Nat.le_trans (Nat.le_of_ble_eq_true rfl) hRf, Nat.le_trans (Nat.le_of_ble_eq_true rfl) hRl⟩) (zpreV (ci := 10) X hw ho rfl _) rfl rfl hl hstk (lv_room hrest) hdg hc) hw (fun H1 locs1 hw1 => kk r H1 locs1 hf hw1)
  rw [if_neg c10] at h1
  by_cases c11 : ci = 11
  · subst c11
    rw [if_pos rfl] at h1
    exact zw_call (va_runU (C := RX11) (owner := RX6) (x := yX6_saysAt) (As := [.int i1]) (rest := rest) X.1 (mt_X6_saysAt l D A h b i1 r h1) (va_cwU 1 hts (zlw_U q755 q758 q762 q756 q90 q764) rfl rfl rfl rfl cd_X6_saysAt ⟨Nat.le_trans (Nat.le_of_ble_eq_true rfl) hRf, Nat.le_trans (Nat.le_of_ble_eq_true rfl) hRl⟩) (zpreV (ci := 11) X hw ho rfl _) rfl rfl hl hstk (lv_room hrest) hdg hc) hw (fun H1 locs1 hw1 => kk r H1 locs1 hf hw1)
  rw [if_neg c11] at h1
  cases h1
