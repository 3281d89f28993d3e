/-! The component: the walks (gen/comp.py) -/
set_option maxRecDepth 100000
set_option maxHeartbeats 4000000 in
theorem vd_X0_393 {p : Program} {l : Launch} {e : Env} {R : Room} {s : State} {m : MethodId} {args : Array Value} {below : List Frame} {meth : Method} {c : Code} {H : Heap} {locs : List Loc} {cells slots : Nat} {Q : State → Prop} {D : va_G} {A : Nat → Prop} {cc : ByteArray} {nL : Nat} {ret : Option FieldType} {pc : Nat} {ls : Array Slot} {rest : List Value} {β : Type} {res : β} {K : Int32 × zT → Option β} {st0 : List Value} (h : zT) (b : Nat) (i1 : Int32) (X : zCx p s m args meth c D A (zEv A) cc nL RX0 ret) (hw : zWh D A s H h locs) (hl : ls.size = nL) (hf : (fd_covers h b i1).bind K = some res) (hRf : 8 ≤ R.frames) (hRl : 200 ≤ R.locals) (hrest : (rest.map fun v => v.category).sum ≤ 8) (hstk : st0 = ([.int i1] : List Value).reverse ++ .ref b :: rest) (hdg : decode cc pc = .ok (.invokevirtual 393, 3)) (hc : cells + 0 ≤ R.cells ∧ slots + 0 ≤ R.slots) (kk : ∀ (r : Int32 × zT) (H1 : Heap) (locs1 : List Loc), K r = some res → zWh D A s H1 (r.2) locs1 → W p l e R s m args below meth c H1 locs1 (cells + 0) (slots + 0) Q (F0 m (pc + 3) ls (.int r.1 :: rest))) : W p l e R s m args below meth c H locs cells slots Q (F0 m pc ls st0) := by
  have hts := X.1.2.2.2.2
  have hN := X.2.2.2.2.2.2.1
  have hDW := X.2.2.2.2.2.2.2.1
  obtain ⟨r, h1, hf⟩ := zbd hf
  unfold fd_covers at h1
  obtain ⟨⟨ci, fs⟩, ho, h1⟩ := zbd h1
  have ho := zh_O_eq ho
  dsimp only at h1
  by_cases c6 : ci = 6
  · subst c6
    rw [if_pos rfl] at h1
    exact zw_call (va_runV (C := RX6) (As := [.int i1]) (rest := rest) X.1 (mt_X6_covers l D A h b i1 r h1) (cwV 1 hts (lw_V q981 q958 q959 q90 q966) rfl rfl rfl ⟨rfl, cd_X6_covers⟩ ⟨Nat.le_trans (Nat.le_of_ble_eq_true rfl) hRf, Nat.le_trans (Nat.le_of_ble_eq_true rfl) hRl⟩) (zpreV (ci := 6) X hw ho rfl _) rfl rfl hl hstk (lv_room hrest) hdg hc) hw (fun H1 locs1 hw1 => kk r H1 locs1 hf hw1)
  rw [if_neg c6] at h1
  by_cases c7 : ci = 7
  · subst c7
    rw [if_pos rfl] at h1
    exact zw_call (va_runU (C := RX7) (owner := RX6) (x := yX6_covers) (As := [.int i1]) (rest := rest) X.1 (mt_X6_covers l D A h b i1 r h1) (va_cwU 1 hts (zlw_U q981 q960 q961 q958 q90 q966) rfl rfl rfl rfl cd_X6_covers ⟨Nat.le_trans (Nat.le_of_ble_eq_true rfl) hRf, Nat.le_trans (Nat.le_of_ble_eq_true rfl) hRl⟩) (zpreV (ci := 7) X hw ho rfl _) rfl rfl hl hstk (lv_room hrest) hdg hc) hw (fun H1 locs1 hw1 => kk r H1 locs1 hf hw1)
  rw [if_neg c7] at h1
  by_cases c8 : ci = 8
  · subst c8
    rw [if_pos rfl] at h1
    exact zw_call (va_runU (C := RX8) (owner := RX6) (x := yX6_covers) (As := [.int i1]) (rest := rest) X.1 (mt_X6_covers l D A h b i1 r h1) (va_cwU 1 hts (zlw_U q981 q960 q963 q958 q90 q966) rfl rfl rfl rfl cd_X6_covers ⟨Nat.le_trans (Nat.le_of_ble_eq_true rfl) hRf, Nat.le_trans (Nat.le_of_ble_eq_true rfl) hRl⟩) (zpreV (ci := 8) X hw ho rfl _) rfl rfl hl hstk (lv_room hrest) hdg hc) hw (fun H1 locs1 hw1 => kk r H1 locs1 hf hw1)
  rw [if_neg c8] at h1
  by_cases c9 : ci = 9
  · subst c9
    rw [if_pos rfl] at h1
    exact zw_call (va_runU (C := RX9) (owner := RX6) (x := yX6_covers) (As := [.int i1]) (rest := rest) X.1 (mt_X6_covers l D A h b i1 r h1) (va_cwU 1 hts (zlw_U q981 q960 q965 q958 q90 q966) rfl rfl rfl rfl cd_X6_covers ⟨Nat.le_trans (Nat.le_of_ble_eq_true rfl) hRf, Nat.le_trans (Nat.le_of_ble_eq_true rfl) hRl⟩) (zpreV (ci := 9) X hw ho rfl _) rfl rfl hl hstk (lv_room hrest) hdg hc) hw (fun H1 locs1 hw1 => kk r H1 locs1 hf hw1)
  rw [if_neg c9] at h1
  by_cases c10 : ci = 10
  · subst c10
    rw [if_pos rfl] at h1
    exact zw_call (va_runU (C := RX10) (owner := RX6) (x := yX6_covers) (As := [.int i1]) (rest := rest) X.1 (mt_X6_covers l D A h b i1 r h1) (va_cwU 1 hts (zlw_U q981 q960 q962 q958 q90 q966) rfl rfl rfl rfl cd_X6_covers ⟨Nat.le_trans (Nat.le_of_ble_eq_true rfl) hRf, Nat.le_trans (Nat.le_of_ble_eq_true rfl) hRl⟩) (zpreV (ci := 10) X hw ho rfl _) rfl rfl hl hstk (lv_room hrest) hdg hc) hw (fun H1 locs1 hw1 => kk r H1 locs1 hf hw1)
  rw [if_neg c10] at h1
  by_cases c11 : ci = 11
  · subst c11
    rw [if_pos rfl] at h1
    exact zw_call (va_runU (C := RX11) (owner := RX6) (x := yX6_covers) (As := [.int i1]) (rest := rest) X.1 (mt_X6_covers l D A h b i1 r h1) (va_cwU 1 hts (zlw_U q981 q960 q964 q958 q90 q966) rfl rfl rfl rfl cd_X6_covers ⟨Nat.le_trans (Nat.le_of_ble_eq_true rfl) hRf, Nat.le_trans (Nat.le_of_ble_eq_true rfl) hRl⟩) (zpreV (ci := 11) X hw ho rfl _) rfl rfl hl hstk (lv_room hrest) hdg hc) hw (fun H1 locs1 hw1 => kk r H1 locs1 hf hw1)
  rw [if_neg c11] at h1
  cases h1
set_option maxHeartbeats 4000000 in
theorem k_X0_aTide_13 {p : Program} {l : Launch} {e : Env} {s : State} {m : MethodId} {args : Array Value} {below : List Frame} {meth : Method} {c : Code} {D : va_G} {A : Nat → Prop} (X : zCx p s m args meth c D A (zEv A) cX0_aTide 4 RX0 (Option.none : Option FieldType)) (res : zT) : ∀ (n : Nat), ∀ (h : zT) (a0 : Nat) (i1 : Int32) (i2 : Int32) (H : Heap) (locs : List Loc) (ls : Array Slot), f_X0_aTide_13 n h a0 i1 i2 = some res → zWh D A s H h locs → lv_has ls 4 [(0, .ref a0), (1, .int i1), (2, .int i2)] → W p l e rm_X0_aTide s m args below meth c H locs 0 0 (MQ below (zQW D A none res) args s 0 0 A) (F0 m 13 ls []) := by
  have hx := X.1.1
  have hb := X.1.2.1
  have hown := X.1.2.2.2.1
  have hts := X.1.2.2.2.2
  have hN := X.2.2.2.2.2.2.1
  have hDW := X.2.2.2.2.2.2.2.1
  have hAO := X.2.2.2.2.2.2.2.2.1
  have hNC := X.2.2.2.2.2.2.2.2.2.1
  intro n
  induction n with
  | zero =>
    intro h a0 i1 i2 H locs ls hf hw hl
    cases hf
  | succ n ih =>
    intro h a0 i1 i2 H locs ls hf hw hl
    unfold f_X0_aTide_13 at hf
    refine lv_iload_n hx hb dX0_aTide_13 rfl (lv_at hl 2 rfl) ?_
    refine lv_aload_n hx hb dX0_aTide_14 rfl (lv_at hl 0 rfl) ?_
    refine zw_getR X hw fs_X0_0 q252 rfl hf dX0_aTide_15 (fun v1 hf => ?_)
    refine zw_getIN X hw fs_X1_1 (hN _ nq129) rfl hf dX0_aTide_18 (fun v2 hf => ?_)
    refine zw_icmp_ge (tgt := 128) hx hb hf dX0_aTide_21 (by decide) (fun hf => ?_) (fun hf => ?_)
    · refine lv_aload_n hx hb dX0_aTide_128 rfl (lv_at hl 0 rfl) ?_
      refine zw_getR X hw fs_X0_0 q252 rfl hf dX0_aTide_129 (fun v3 hf => ?_)
      refine lv_dup hx hb dX0_aTide_132 rfl ?_
      refine zw_getIN X hw fs_X1_5 (hN _ nq137) rfl hf dX0_aTide_133 (fun v4 hf => ?_)
      refine lv_iconst (v := (1 : Int32)) hx hb dX0_aTide_136 (by decide) ?_
      refine lv_iadd hx hb dX0_aTide_137 ?_
      refine zw_putN X hw fs_X1_5 (hN _ nq137) rfl rfl rfl rfl hf dX0_aTide_138 (fun h5 H locs hf hw => ?_)
      exact zw_vret X hw hf (Nat.le_of_ble_eq_true rfl) (Nat.le_of_ble_eq_true rfl) dX0_aTide_141
    · refine lv_aload_n hx hb dX0_aTide_24 rfl (lv_at hl 0 rfl) ?_
      refine zw_getR X hw fs_X0_0 q252 rfl hf dX0_aTide_25 (fun v6 hf => ?_)
      refine zw_getRN X hw fs_X1_2 (hN _ nq131) rfl hf dX0_aTide_28 (fun v7 hf => ?_)
      refine lv_iload_n hx hb dX0_aTide_31 rfl (lv_at hl 2 rfl) ?_
      refine zw_aaloadR X hw hf dX0_aTide_32 (fun v8 hf => ?_)
      refine lv_astore_n (lv' := [(3, .ref v8), (0, .ref a0), (1, .int i1), (2, .int i2)]) hx hb dX0_aTide_33 rfl hl (by decide) rfl (fun ls hl => ?_)
      refine lv_aload_n hx hb dX0_aTide_34 rfl (lv_at hl 0 rfl) ?_
      refine lv_iload_n hx hb dX0_aTide_35 rfl (lv_at hl 2 rfl) ?_
      refine vd_X0_393 (rest := []) h v8 i1 X hw hl.1 hf (Nat.le_of_ble_eq_true rfl) (Nat.le_of_ble_eq_true rfl) (Nat.le_of_ble_eq_true rfl) rfl dX0_aTide_36 ⟨Nat.le_of_ble_eq_true rfl, Nat.le_of_ble_eq_true rfl⟩ (fun r9 H locs hf hw => ?_)
      refine zw_if_ne (tgt := 45) hx hb hf dX0_aTide_39 (by decide) (fun hf => ?_) (fun hf => ?_)
      · refine lv_aload_n hx hb dX0_aTide_45 rfl (lv_at hl 1 rfl) ?_
        refine zw_getR X hw fs_X0_0 q252 rfl hf dX0_aTide_46 (fun v10 hf => ?_)
        refine lv_iload_n hx hb dX0_aTide_49 rfl (lv_at hl 3 rfl) ?_
        refine lv_iload_n hx hb dX0_aTide_50 rfl (lv_at hl 2 rfl) ?_
        refine zw_kC hf (fun fs hfs hf => ?_)
        refine zw_goZ (rest := []) hw hf (fun r hr => va_runV (C := RX1) (As := [.int i2, .int i1]) (rest := []) X.1 (mt_X1_isFalse l D A r9.2 v10 i2 i1 r hr) (cwV 2 hts (lw_V q953 q954 q955 q82 q956) rfl rfl rfl ⟨rfl, cd_X1_isFalse⟩ ⟨Nat.le_of_ble_eq_true rfl, Nat.le_of_ble_eq_true rfl⟩) (zpreV (ci := 1) X hw hfs rfl _) rfl rfl hl.1 rfl (lv_room (Nat.le_of_ble_eq_true rfl)) dX0_aTide_51 ⟨Nat.le_of_ble_eq_true rfl, Nat.le_of_ble_eq_true rfl⟩) (fun r11 H locs hf hw => ?_)
        refine zw_if_ne (tgt := 79) hx hb hf dX0_aTide_54 (by decide) (fun hf => ?_) (fun hf => ?_)
        · refine lv_aload_n hx hb dX0_aTide_79 rfl (lv_at hl 0 rfl) ?_
          refine lv_iconst (v := (0 : Int32)) hx hb dX0_aTide_80 (by decide) ?_
          refine lv_aload_n hx hb dX0_aTide_81 rfl (lv_at hl 0 rfl) ?_
          refine zw_getI X hw fs_X6_4 q556 rfl hf dX0_aTide_82 (fun v12 hf => ?_)
          refine lv_aload_n hx hb dX0_aTide_85 rfl (lv_at hl 0 rfl) ?_
          refine vd_X0_317 (rest := [.int v12, .int (0 : Int32), .ref v8]) r11.2 v8 X hw hl.1 hf (Nat.le_of_ble_eq_true rfl) (Nat.le_of_ble_eq_true rfl) (Nat.le_of_ble_eq_true rfl) rfl dX0_aTide_86 ⟨Nat.le_of_ble_eq_true rfl, Nat.le_of_ble_eq_true rfl⟩ (fun r13 H locs hf hw => ?_)
          refine lv_isub hx hb dX0_aTide_89 ?_
          refine va_mmax (rest := [.ref v8]) hx hb (by rw [X.1.2.2.1]; exact hl.1.symm) hown (hts _ q702) (hts _ q703) (hts _ q96) (hts _ q704) (Nat.le_of_ble_eq_true rfl) (Nat.le_of_ble_eq_true rfl) (Nat.le_of_ble_eq_true rfl) (Nat.le_of_ble_eq_true rfl) dX0_aTide_90 ?_
          refine zw_nmI hf (fun v14 hf => ?_)
          refine zw_put X hw fs_X6_4 q556 rfl rfl rfl rfl hf dX0_aTide_93 (fun h15 H locs hf hw => ?_)
          refine lv_aload_n hx hb dX0_aTide_96 rfl (lv_at hl 0 rfl) ?_
          refine zw_getI X hw fs_X6_4 q556 rfl hf dX0_aTide_97 (fun v16 hf => ?_)
          refine zw_if_ne (tgt := 122) hx hb hf dX0_aTide_100 (by decide) (fun hf => ?_) (fun hf => ?_)
          · refine zw_nmS hf (fun v17 ev17 hf => ?_)
            refine lv_iinc (k := 3) (v := v17) (lv' := [(2, .int v17), (3, .ref v8), (0, .ref a0), (1, .int i1)]) hx hb dX0_aTide_122 hl rfl (by rw [ev17]; rfl) (by decide) rfl (fun ls hl => ?_)
            refine lv_goto (tgt := 13) hx hb dX0_aTide_125 (by decide) ?_
            exact ih h15 a0 i1 v17 _ _ _ hf hw (lv_sub hl [2, 3, 0] rfl)
          · refine lv_aload_n hx hb dX0_aTide_103 rfl (lv_at hl 0 rfl) ?_
            refine lv_bipush (v := (16 : Int32)) hx hb dX0_aTide_104 (by decide) ?_
            refine zw_put X hw fs_X6_3 q553 rfl rfl rfl rfl hf dX0_aTide_106 (fun h18 H locs hf hw => ?_)
            refine lv_aload_n hx hb dX0_aTide_109 rfl (lv_at hl 1 rfl) ?_
            refine zw_getR X hw fs_X0_0 q252 rfl hf dX0_aTide_110 (fun v19 hf => ?_)
            refine lv_dup hx hb dX0_aTide_113 rfl ?_
            refine zw_getIN X hw fs_X1_4 (hN _ nq135) rfl hf dX0_aTide_114 (fun v20 hf => ?_)
            refine lv_iconst (v := (1 : Int32)) hx hb dX0_aTide_117 (by decide) ?_
            refine lv_iadd hx hb dX0_aTide_118 ?_
            refine zw_putN X hw fs_X1_4 (hN _ nq135) rfl rfl rfl rfl hf dX0_aTide_119 (fun h21 H locs hf hw => ?_)
            refine zw_nmS hf (fun v22 ev22 hf => ?_)
            refine lv_iinc (k := 3) (v := v22) (lv' := [(2, .int v22), (3, .ref v8), (0, .ref a0), (1, .int i1)]) hx hb dX0_aTide_122 hl rfl (by rw [ev22]; rfl) (by decide) rfl (fun ls hl => ?_)
            refine lv_goto (tgt := 13) hx hb dX0_aTide_125 (by decide) ?_
            exact ih h21 a0 i1 v22 _ _ _ hf hw (lv_sub hl [2, 3, 0] rfl)
        · refine lv_aload_n hx hb dX0_aTide_57 rfl (lv_at hl 0 rfl) ?_
          refine lv_bipush (v := (99 : Int32)) hx hb dX0_aTide_58 (by decide) ?_
          refine lv_aload_n hx hb dX0_aTide_60 rfl (lv_at hl 0 rfl) ?_
          refine zw_getI X hw fs_X6_4 q556 rfl hf dX0_aTide_61 (fun v23 hf => ?_)
          refine lv_aload_n hx hb dX0_aTide_64 rfl (lv_at hl 1 rfl) ?_
          refine lv_aload_n hx hb dX0_aTide_65 rfl (lv_at hl 0 rfl) ?_
          refine zw_kC hf (fun fs hfs hf => ?_)
          refine zw_goI (rest := [.int v23, .int (99 : Int32), .ref v8]) hw hf (fun r hr => va_runV (C := RX0) (As := [.ref v8]) (rest := [.int v23, .int (99 : Int32), .ref v8]) X.1 (mt_X0_gainOf l D A r11.2 a0 v8 r hr) (cwV 1 hts (lw_V q666 q668 qs20 q81 q669) rfl rfl rfl ⟨rfl, cd_X0_gainOf⟩ ⟨Nat.le_of_ble_eq_true rfl, Nat.le_of_ble_eq_true rfl⟩) (zpreV (ci := 0) X hw hfs rfl _) rfl rfl hl.1 rfl (lv_room (Nat.le_of_ble_eq_true rfl)) dX0_aTide_66 ⟨Nat.le_of_ble_eq_true rfl, Nat.le_of_ble_eq_true rfl⟩) (fun r24 H locs hf hw => ?_)
          refine lv_iadd hx hb dX0_aTide_69 ?_
          refine va_mmin (rest := [.ref v8]) hx hb (by rw [X.1.2.2.1]; exact hl.1.symm) hown (hts _ q699) (hts _ q700) (hts _ q96) (hts _ q701) (Nat.le_of_ble_eq_true rfl) (Nat.le_of_ble_eq_true rfl) (Nat.le_of_ble_eq_true rfl) (Nat.le_of_ble_eq_true rfl) dX0_aTide_70 ?_
          refine zw_nmI hf (fun v25 hf => ?_)
          refine zw_put X hw fs_X6_4 q556 rfl rfl rfl rfl hf dX0_aTide_73 (fun h26 H locs hf hw => ?_)
          refine lv_goto (tgt := 122) hx hb dX0_aTide_76 (by decide) ?_
          refine zw_nmS hf (fun v27 ev27 hf => ?_)
          refine lv_iinc (k := 3) (v := v27) (lv' := [(2, .int v27), (3, .ref v8), (0, .ref a0), (1, .int i1)]) hx hb dX0_aTide_122 hl rfl (by rw [ev27]; rfl) (by decide) rfl (fun ls hl => ?_)
          refine lv_goto (tgt := 13) hx hb dX0_aTide_125 (by decide) ?_
          exact ih h26 a0 i1 v27 _ _ _ hf hw (lv_sub hl [2, 3, 0] rfl)
      · refine lv_goto (tgt := 122) hx hb dX0_aTide_42 (by decide) ?_
        refine zw_nmS hf (fun v28 ev28 hf => ?_)
        refine lv_iinc (k := 3) (v := v28) (lv' := [(2, .int v28), (3, .ref v8), (0, .ref a0), (1, .int i1)]) hx hb dX0_aTide_122 hl rfl (by rw [ev28]; rfl) (by decide) rfl (fun ls hl => ?_)
        refine lv_goto (tgt := 13) hx hb dX0_aTide_125 (by decide) ?_
        exact ih r9.2 a0 i1 v28 _ _ _ hf hw (lv_sub hl [2, 3, 0] rfl)
set_option maxHeartbeats 4000000 in
theorem mt_X0_aTide (l : Launch) (D : va_G) (A : Nat → Prop) (h : zT) (a0 : Nat) (res : zT) (hf : f_X0_aTide h a0 = some res) : Met l yX0_aTide (ws_ yX0_aTide cX0_aTide 4 (Option.none : Option FieldType)) rm_X0_aTide (zPW D A (zEv A) h [.ref a0]) (zQW D A none res) 0 0 A := by
  refine zmt (zEv_ok A) (by decide) (Nat.le_of_ble_eq_true rfl) ?_
  intro p e s m below meth c ls hmn X hw hl
  have hl : lv_has ls 4 [(0, .ref a0)] := hl
  have hx := X.1.1
  have hb := X.1.2.1
  have hown := X.1.2.2.2.1
  have hts := X.1.2.2.2.2
  have hN := X.2.2.2.2.2.2.1
  have hDW := X.2.2.2.2.2.2.2.1
  have hAO := X.2.2.2.2.2.2.2.2.1
  have hNC := X.2.2.2.2.2.2.2.2.2.1
  unfold f_X0_aTide at hf
  refine lv_aload_n hx hb dX0_aTide_0 rfl (lv_at hl 0 rfl) ?_
  refine zw_getR X hw fs_X0_0 q252 rfl hf dX0_aTide_1 (fun v1 hf => ?_)
  refine zw_kC hf (fun fs hfs hf => ?_)
  refine zw_goI (rest := []) hw hf (fun r hr => va_runV (C := RX1) (As := []) (rest := []) X.1 (mt_X1_draw l D A h v1 r hr) (cwV 0 hts (lw_V q869 q870 q871 q82 q872) rfl rfl rfl ⟨rfl, cd_X1_draw⟩ ⟨Nat.le_of_ble_eq_true rfl, Nat.le_of_ble_eq_true rfl⟩) (zpreV (ci := 1) X hw hfs rfl _) rfl rfl hl.1 rfl (lv_room (Nat.le_of_ble_eq_true rfl)) dX0_aTide_4 ⟨Nat.le_of_ble_eq_true rfl, Nat.le_of_ble_eq_true rfl⟩) (fun r2 H locs hf hw => ?_)
  refine lv_bipush (v := (16 : Int32)) hx hb dX0_aTide_7 (by decide) ?_
  refine lv_irem hx hb dX0_aTide_9 (by decide) ?_
  refine zw_nmI hf (fun v3 hf => ?_)
  refine lv_istore_n (lv' := [(1, .int v3), (0, .ref a0)]) hx hb dX0_aTide_10 rfl hl (by decide) rfl (fun ls hl => ?_)
  refine lv_iconst (v := (0 : Int32)) hx hb dX0_aTide_11 (by decide) ?_
  refine lv_istore_n (lv' := [(2, .int (0 : Int32)), (1, .int v3), (0, .ref a0)]) hx hb dX0_aTide_12 rfl hl (by decide) rfl (fun ls hl => ?_)
  exact k_X0_aTide_13 X _ 4096 r2.2 a0 v3 (0 : Int32) _ _ _ hf hw (lv_sub hl [2, 1, 0] rfl)
set_option maxHeartbeats 4000000 in
theorem k_X0_goesOn_2 {p : Program} {l : Launch} {e : Env} {s : State} {m : MethodId} {args : Array Value} {below : List Frame} {meth : Method} {c : Code} {D : va_G} {A : Nat → Prop} (X : zCx p s m args meth c D A (zEv A) cX0_goesOn 3 RX0 (Option.none : Option FieldType)) (res : zT) : ∀ (n : Nat), ∀ (h : zT) (a0 : Nat) (i1 : Int32) (i2 : Int32) (H : Heap) (locs : List Loc) (ls : Array Slot), f_X0_goesOn_2 n h a0 i1 i2 = some res → zWh D A s H h locs → lv_has ls 3 [(0, .ref a0), (1, .int i1), (2, .int i2)] → W p l e rm_X0_goesOn s m args below meth c H locs 0 0 (MQ below (zQW D A none res) args s 0 0 A) (F0 m 2 ls []) := by
  have hx := X.1.1
  have hb := X.1.2.1
  have hown := X.1.2.2.2.1
  have hts := X.1.2.2.2.2
  have hN := X.2.2.2.2.2.2.1
  have hDW := X.2.2.2.2.2.2.2.1
  have hAO := X.2.2.2.2.2.2.2.2.1
  have hNC := X.2.2.2.2.2.2.2.2.2.1
  intro n
  induction n with
  | zero =>
    intro h a0 i1 i2 H locs ls hf hw hl
    cases hf
  | succ n ih =>
    intro h a0 i1 i2 H locs ls hf hw hl
    unfold f_X0_goesOn_2 at hf
    refine lv_iload_n hx hb dX0_goesOn_2 rfl (lv_at hl 2 rfl) ?_
    refine lv_iload_n hx hb dX0_goesOn_3 rfl (lv_at hl 1 rfl) ?_
    refine zw_icmp_ge (tgt := 17) hx hb hf dX0_goesOn_4 (by decide) (fun hf => ?_) (fun hf => ?_)
    · exact zw_vret X hw hf (Nat.le_of_ble_eq_true rfl) (Nat.le_of_ble_eq_true rfl) dX0_goesOn_17
    · refine lv_aload_n hx hb dX0_goesOn_7 rfl (lv_at hl 0 rfl) ?_
      refine zw_kC hf (fun fs hfs hf => ?_)
      refine zw_goV (rest := []) hw hf (fun r hr => va_runV (C := RX0) (As := []) (rest := []) X.1 (mt_X0_aTide l D A h a0 r hr) (cwV 0 hts (lw_V q977 q979 qs30 q81 q980) rfl rfl rfl ⟨rfl, cd_X0_aTide⟩ ⟨Nat.le_of_ble_eq_true rfl, Nat.le_of_ble_eq_true rfl⟩) (zpreV (ci := 0) X hw hfs rfl _) rfl rfl hl.1 rfl (lv_room (Nat.le_of_ble_eq_true rfl)) dX0_goesOn_8 ⟨Nat.le_of_ble_eq_true rfl, Nat.le_of_ble_eq_true rfl⟩) (fun r1 H locs hf hw => ?_)
      refine zw_nmS hf (fun v2 ev2 hf => ?_)
      refine lv_iinc (k := 2) (v := v2) (lv' := [(2, .int v2), (0, .ref a0), (1, .int i1)]) hx hb dX0_goesOn_11 hl rfl (by rw [ev2]; rfl) (by decide) rfl (fun ls hl => ?_)
      refine lv_goto (tgt := 2) hx hb dX0_goesOn_14 (by decide) ?_
      exact ih r1 a0 i1 v2 _ _ _ hf hw (lv_sub hl [1, 2, 0] rfl)
set_option maxHeartbeats 4000000 in
theorem mt_X0_goesOn (l : Launch) (D : va_G) (A : Nat → Prop) (h : zT) (a0 : Nat) (i1 : Int32) (res : zT) (hf : f_X0_goesOn h a0 i1 = some res) : Met l yX0_goesOn (ws_ yX0_goesOn cX0_goesOn 3 (Option.none : Option FieldType)) rm_X0_goesOn (zPW D A (zEv A) h [.ref a0, .int i1]) (zQW D A none res) 0 0 A := by
  refine zmt (zEv_ok A) (by decide) (Nat.le_of_ble_eq_true rfl) ?_
  intro p e s m below meth c ls hmn X hw hl
  have hl : lv_has ls 3 [(0, .ref a0), (1, .int i1)] := hl
  have hx := X.1.1
  have hb := X.1.2.1
  have hown := X.1.2.2.2.1
  have hts := X.1.2.2.2.2
  have hN := X.2.2.2.2.2.2.1
  have hDW := X.2.2.2.2.2.2.2.1
  have hAO := X.2.2.2.2.2.2.2.2.1
  have hNC := X.2.2.2.2.2.2.2.2.2.1
  unfold f_X0_goesOn at hf
  refine lv_iconst (v := (0 : Int32)) hx hb dX0_goesOn_0 (by decide) ?_
  refine lv_istore_n (lv' := [(2, .int (0 : Int32)), (0, .ref a0), (1, .int i1)]) hx hb dX0_goesOn_1 rfl hl (by decide) rfl (fun ls hl => ?_)
  exact k_X0_goesOn_2 X _ 4096 h a0 i1 (0 : Int32) _ _ _ hf hw (lv_sub hl [1, 2, 0] rfl)
set_option maxHeartbeats 4000000 in
theorem mt_X0_tides (l : Launch) (D : va_G) (A : Nat → Prop) (h : zT) (a0 : Nat) (i1 : Int32) (res : Int32 × zT) (hf : f_X0_tides h a0 i1 = some res) : Met l yX0_tides (ws_ yX0_tides cX0_tides 3 (Option.some FieldType.int)) rm_X0_tides (zPW D A (zEv A) h [.ref a0, .int i1]) (zQW D A (some (.int res.1)) res.2) 0 0 A := by
  refine zmt (zEv_ok A) (by decide) (Nat.le_of_ble_eq_true rfl) ?_
  intro p e s m below meth c ls hmn X hw hl
  have hl : lv_has ls 3 [(0, .ref a0), (1, .int i1)] := hl
  have hx := X.1.1
  have hb := X.1.2.1
  have hown := X.1.2.2.2.1
  have hts := X.1.2.2.2.2
  have hN := X.2.2.2.2.2.2.1
  have hDW := X.2.2.2.2.2.2.2.1
  have hAO := X.2.2.2.2.2.2.2.2.1
  have hNC := X.2.2.2.2.2.2.2.2.2.1
  unfold f_X0_tides at hf
  refine lv_iload_n hx hb dX0_tides_0 rfl (lv_at hl 1 rfl) ?_
  refine lv_iconst (v := (1 : Int32)) hx hb dX0_tides_1 (by decide) ?_
  refine lv_bipush (v := (100 : Int32)) hx hb dX0_tides_2 (by decide) ?_
  refine zw_goZ (rest := []) hw hf (fun r hr => va_runS (As := [.int i1, .int (1 : Int32), .int (100 : Int32)]) (rest := []) X.1 (mt_X0_isIn l D A h i1 (1 : Int32) (100 : Int32) r hr) (va_cwS 3 hts (lw_S q339 q340 q81 q341) rfl rfl rfl cd_X0_isIn ⟨Nat.le_of_ble_eq_true rfl, Nat.le_of_ble_eq_true rfl⟩) (zpreS X hw _) rfl rfl hl.1 rfl (lv_room (Nat.le_of_ble_eq_true rfl)) dX0_tides_4 ⟨Nat.le_of_ble_eq_true rfl, Nat.le_of_ble_eq_true rfl⟩) (fun r1 H locs hf hw => ?_)
  refine zw_if_ne (tgt := 13) hx hb hf dX0_tides_7 (by decide) (fun hf => ?_) (fun hf => ?_)
  · refine lv_aload_n hx hb dX0_tides_13 rfl (lv_at hl 0 rfl) ?_
    refine zw_getR X hw fs_X0_0 q252 rfl hf dX0_tides_14 (fun v2 hf => ?_)
    refine zw_getIN X hw fs_X1_4 (hN _ nq135) rfl hf dX0_tides_17 (fun v3 hf => ?_)
    refine lv_istore_n (lv' := [(2, .int v3), (0, .ref a0), (1, .int i1)]) hx hb dX0_tides_20 rfl hl (by decide) rfl (fun ls hl => ?_)
    refine lv_aload_n hx hb dX0_tides_21 rfl (lv_at hl 1 rfl) ?_
    refine lv_iload_n hx hb dX0_tides_22 rfl (lv_at hl 2 rfl) ?_
    refine lv_sipush (v := (9999 : Int32)) hx hb dX0_tides_23 (by decide) ?_
    refine lv_aload_n hx hb dX0_tides_26 rfl (lv_at hl 1 rfl) ?_
    refine zw_getR X hw fs_X0_0 q252 rfl hf dX0_tides_27 (fun v4 hf => ?_)
    refine zw_getIN X hw fs_X1_5 (hN _ nq137) rfl hf dX0_tides_30 (fun v5 hf => ?_)
    refine lv_isub hx hb dX0_tides_33 ?_
    refine va_mmin (rest := [.ref a0]) hx hb (by rw [X.1.2.2.1]; exact hl.1.symm) hown (hts _ q699) (hts _ q700) (hts _ q96) (hts _ q701) (Nat.le_of_ble_eq_true rfl) (Nat.le_of_ble_eq_true rfl) (Nat.le_of_ble_eq_true rfl) (Nat.le_of_ble_eq_true rfl) dX0_tides_34 ?_
    refine zw_nmI hf (fun v6 hf => ?_)
    refine zw_kC hf (fun fs hfs hf => ?_)
    refine zw_goV (rest := []) hw hf (fun r hr => va_runV (C := RX0) (As := [.int v6]) (rest := []) X.1 (mt_X0_goesOn l D A r1.2 a0 v6 r hr) (cwV 1 hts (lw_V q973 q975 qs29 q81 q976) rfl rfl rfl ⟨rfl, cd_X0_goesOn⟩ ⟨Nat.le_of_ble_eq_true rfl, Nat.le_of_ble_eq_true rfl⟩) (zpreV (ci := 0) X hw hfs rfl _) rfl rfl hl.1 rfl (lv_room (Nat.le_of_ble_eq_true rfl)) dX0_tides_37 ⟨Nat.le_of_ble_eq_true rfl, Nat.le_of_ble_eq_true rfl⟩) (fun r7 H locs hf hw => ?_)
    refine lv_aload_n hx hb dX0_tides_40 rfl (lv_at hl 1 rfl) ?_
    refine zw_getR X hw fs_X0_0 q252 rfl hf dX0_tides_41 (fun v8 hf => ?_)
    refine zw_getIN X hw fs_X1_4 (hN _ nq135) rfl hf dX0_tides_44 (fun v9 hf => ?_)
    refine lv_iload_n hx hb dX0_tides_47 rfl (lv_at hl 0 rfl) ?_
    refine lv_isub hx hb dX0_tides_48 ?_
    exact zw_iret X hw hf (Nat.le_of_ble_eq_true rfl) (Nat.le_of_ble_eq_true rfl) dX0_tides_49
  · refine lv_ldc (v := (-1000000001 : Int32)) hx hb hown (hts _ q342) dX0_tides_10 ?_
    exact zw_iret X hw hf (Nat.le_of_ble_eq_true rfl) (Nat.le_of_ble_eq_true rfl) dX0_tides_12
set_option maxHeartbeats 4000000 in
theorem mt_X0_book (l : Launch) (D : va_G) (A : Nat → Prop) (h : zT) (a0 : Nat) (i1 : Int32) (res : Int32 × zT) (hf : f_X0_book h a0 i1 = some res) : Met l yX0_book (ws_ yX0_book cX0_book 2 (Option.some FieldType.int)) rm_X0_book (zPW D A (zEv A) h [.ref a0, .int i1]) (zQW D A (some (.int res.1)) res.2) 0 0 A := by
  refine zmt (zEv_ok A) (by decide) (Nat.le_of_ble_eq_true rfl) ?_
  intro p e s m below meth c ls hmn X hw hl
  have hl : lv_has ls 2 [(0, .ref a0), (1, .int i1)] := hl
  have hx := X.1.1
  have hb := X.1.2.1
  have hown := X.1.2.2.2.1
  have hts := X.1.2.2.2.2
  have hN := X.2.2.2.2.2.2.1
  have hDW := X.2.2.2.2.2.2.2.1
  have hAO := X.2.2.2.2.2.2.2.2.1
  have hNC := X.2.2.2.2.2.2.2.2.2.1
  unfold f_X0_book at hf
  refine lv_iload_n hx hb dX0_book_0 rfl (lv_at hl 1 rfl) ?_
  refine zw_case hf (fun c1000 hf => ?_) (fun c1000 hf => ?_)
  · refine zw_tableIn (off := 31) (tgt := 32) hx hb c1000 dX0_book_1 (by decide) (by decide) rfl (by decide) ?_
    refine lv_aload_n hx hb dX0_book_32 rfl (lv_at hl 0 rfl) ?_
    refine zw_getR X hw fs_X0_0 q252 rfl hf dX0_book_33 (fun v1 hf => ?_)
    refine zw_getIN X hw fs_X1_4 (hN _ nq135) rfl hf dX0_book_36 (fun v2 hf => ?_)
    exact zw_iret X hw hf (Nat.le_of_ble_eq_true rfl) (Nat.le_of_ble_eq_true rfl) dX0_book_39
  · refine zw_case hf (fun c1001 hf => ?_) (fun c1001 hf => ?_)
    · refine zw_tableIn (off := 39) (tgt := 40) hx hb c1001 dX0_book_1 (by decide) (by decide) rfl (by decide) ?_
      refine lv_aload_n hx hb dX0_book_40 rfl (lv_at hl 0 rfl) ?_
      refine zw_getR X hw fs_X0_0 q252 rfl hf dX0_book_41 (fun v3 hf => ?_)
      refine zw_kC hf (fun fs hfs hf => ?_)
      refine zw_goI (rest := []) hw hf (fun r hr => va_runV (C := RX1) (As := []) (rest := []) X.1 (mt_X1_trust l D A h v3 r hr) (cwV 0 hts (lw_V q986 q987 q988 q82 q989) rfl rfl rfl ⟨rfl, cd_X1_trust⟩ ⟨Nat.le_of_ble_eq_true rfl, Nat.le_of_ble_eq_true rfl⟩) (zpreV (ci := 1) X hw hfs rfl _) rfl rfl hl.1 rfl (lv_room (Nat.le_of_ble_eq_true rfl)) dX0_book_44 ⟨Nat.le_of_ble_eq_true rfl, Nat.le_of_ble_eq_true rfl⟩) (fun r4 H locs hf hw => ?_)
      exact zw_iret X hw hf (Nat.le_of_ble_eq_true rfl) (Nat.le_of_ble_eq_true rfl) dX0_book_47
    · refine zw_case hf (fun c1002 hf => ?_) (fun c1002 hf => ?_)
      · refine zw_tableIn (off := 47) (tgt := 48) hx hb c1002 dX0_book_1 (by decide) (by decide) rfl (by decide) ?_
        refine lv_aload_n hx hb dX0_book_48 rfl (lv_at hl 0 rfl) ?_
        refine zw_getR X hw fs_X0_0 q252 rfl hf dX0_book_49 (fun v5 hf => ?_)
        refine zw_kC hf (fun fs hfs hf => ?_)
        refine zw_goI (rest := []) hw hf (fun r hr => va_runV (C := RX1) (As := []) (rest := []) X.1 (mt_X1_laid l D A h v5 r hr) (cwV 0 hts (lw_V q919 q920 q921 q82 q922) rfl rfl rfl ⟨rfl, cd_X1_laid⟩ ⟨Nat.le_of_ble_eq_true rfl, Nat.le_of_ble_eq_true rfl⟩) (zpreV (ci := 1) X hw hfs rfl _) rfl rfl hl.1 rfl (lv_room (Nat.le_of_ble_eq_true rfl)) dX0_book_52 ⟨Nat.le_of_ble_eq_true rfl, Nat.le_of_ble_eq_true rfl⟩) (fun r6 H locs hf hw => ?_)
        exact zw_iret X hw hf (Nat.le_of_ble_eq_true rfl) (Nat.le_of_ble_eq_true rfl) dX0_book_55
      · refine zw_case hf (fun c1003 hf => ?_) (fun c1003 hf => ?_)
        · refine zw_tableIn (off := 55) (tgt := 56) hx hb c1003 dX0_book_1 (by decide) (by decide) rfl (by decide) ?_
          refine lv_ldcw (v := (65535 : Int32)) hx hb hown (hts _ q526) dX0_book_56 ?_
          refine lv_aload_n hx hb dX0_book_59 rfl (lv_at hl 0 rfl) ?_
          refine zw_getR X hw fs_X0_0 q252 rfl hf dX0_book_60 (fun v7 hf => ?_)
          refine lv_aload_n hx hb dX0_book_63 rfl (lv_at hl 0 rfl) ?_
          refine zw_getR X hw fs_X0_0 q252 rfl hf dX0_book_64 (fun v8 hf => ?_)
          refine zw_kC hf (fun fs hfs hf => ?_)
          refine zw_goI (rest := [.ref v7, .int (65535 : Int32)]) hw hf (fun r hr => va_runV (C := RX1) (As := []) (rest := [.ref v7, .int (65535 : Int32)]) X.1 (mt_X1_laid l D A h v8 r hr) (cwV 0 hts (lw_V q919 q920 q921 q82 q922) rfl rfl rfl ⟨rfl, cd_X1_laid⟩ ⟨Nat.le_of_ble_eq_true rfl, Nat.le_of_ble_eq_true rfl⟩) (zpreV (ci := 1) X hw hfs rfl _) rfl rfl hl.1 rfl (lv_room (Nat.le_of_ble_eq_true rfl)) dX0_book_67 ⟨Nat.le_of_ble_eq_true rfl, Nat.le_of_ble_eq_true rfl⟩) (fun r9 H locs hf hw => ?_)
          refine zw_kC hf (fun fs hfs hf => ?_)
          refine zw_goI (rest := [.int (65535 : Int32)]) hw hf (fun r hr => va_runV (C := RX1) (As := [.int r9.1]) (rest := [.int (65535 : Int32)]) X.1 (mt_X1_coveredBy l D A r9.2 v7 r9.1 r hr) (cwV 1 hts (lw_V q940 q941 q942 q82 q943) rfl rfl rfl ⟨rfl, cd_X1_coveredBy⟩ ⟨Nat.le_of_ble_eq_true rfl, Nat.le_of_ble_eq_true rfl⟩) (zpreV (ci := 1) X hw hfs rfl _) rfl rfl hl.1 rfl (lv_room (Nat.le_of_ble_eq_true rfl)) dX0_book_70 ⟨Nat.le_of_ble_eq_true rfl, Nat.le_of_ble_eq_true rfl⟩) (fun r10 H locs hf hw => ?_)
          refine lv_iconst (v := (-1 : Int32)) hx hb dX0_book_73 (by decide) ?_
          refine lv_ixor hx hb dX0_book_74 ?_
          refine lv_iand hx hb dX0_book_75 ?_
          exact zw_iret X hw hf (Nat.le_of_ble_eq_true rfl) (Nat.le_of_ble_eq_true rfl) dX0_book_76
        · refine lv_tableOut (tgt := 77) hx hb dX0_book_1 (by have := lv_neT c1000 (a := 0) (by decide); have := lv_neT c1001 (a := 1) (by decide); have := lv_neT c1002 (a := 2) (by decide); have := lv_neT c1003 (a := 3) (by decide); omega) (by decide) ?_
          refine lv_ldc (v := (-1000000001 : Int32)) hx hb hown (hts _ q342) dX0_book_77 ?_
          exact zw_iret X hw hf (Nat.le_of_ble_eq_true rfl) (Nat.le_of_ble_eq_true rfl) dX0_book_79
set_option maxHeartbeats 4000000 in
theorem mt_X0_thinks (l : Launch) (D : va_G) (A : Nat → Prop) (h : zT) (a0 : Nat) (res : zT) (hf : f_X0_thinks h a0 = some res) : Met l yX0_thinks (ws_ yX0_thinks cX0_thinks 1 (Option.none : Option FieldType)) rm_X0_thinks (zPW D A (zEv A) h [.ref a0]) (zQW D A none res) 10 50 A := by
  refine zmt (zEv_ok A) (by decide) (Nat.le_of_ble_eq_true rfl) ?_
  intro p e s m below meth c ls hmn X hw hl
  have hl : lv_has ls 1 [(0, .ref a0)] := hl
  have hx := X.1.1
  have hb := X.1.2.1
  have hown := X.1.2.2.2.1
  have hts := X.1.2.2.2.2
  have hN := X.2.2.2.2.2.2.1
  have hDW := X.2.2.2.2.2.2.2.1
  have hAO := X.2.2.2.2.2.2.2.2.1
  have hNC := X.2.2.2.2.2.2.2.2.2.1
  unfold f_X0_thinks at hf
  refine lv_aload_n hx hb dX0_thinks_0 rfl (lv_at hl 0 rfl) ?_
  refine zw_getR X hw fs_X0_3 q255 rfl hf dX0_thinks_1 (fun v1 hf => ?_)
  refine lv_aload_n hx hb dX0_thinks_4 rfl (lv_at hl 0 rfl) ?_
  refine zw_getR X hw fs_X0_0 q252 rfl hf dX0_thinks_5 (fun v2 hf => ?_)
  refine zw_kC hf (fun fs hfs hf => ?_)
  refine zw_goV (rest := []) hw hf (fun r hr => va_runV (C := RX1) (As := [.ref v2]) (rest := []) X.1 (mt_X1_copyOf l D A h v1 v2 r hr) (cwV 1 hts (lw_V q998 q999 q1000 q82 q1001) rfl rfl rfl ⟨rfl, cd_X1_copyOf⟩ ⟨Nat.le_of_ble_eq_true rfl, Nat.le_of_ble_eq_true rfl⟩) (zpreV (ci := 1) X hw hfs rfl _) rfl rfl hl.1 rfl (lv_room (Nat.le_of_ble_eq_true rfl)) dX0_thinks_8 ⟨Nat.le_of_ble_eq_true rfl, Nat.le_of_ble_eq_true rfl⟩) (fun r3 H locs hf hw => ?_)
  exact zw_vret X hw hf (Nat.le_of_ble_eq_true rfl) (Nat.le_of_ble_eq_true rfl) dX0_thinks_11
set_option maxHeartbeats 4000000 in
theorem mt_X0_putsBack (l : Launch) (D : va_G) (A : Nat → Prop) (h : zT) (a0 : Nat) (res : zT) (hf : f_X0_putsBack h a0 = some res) : Met l yX0_putsBack (ws_ yX0_putsBack cX0_putsBack 1 (Option.none : Option FieldType)) rm_X0_putsBack (zPW D A (zEv A) h [.ref a0]) (zQW D A none res) 10 50 A := by
  refine zmt (zEv_ok A) (by decide) (Nat.le_of_ble_eq_true rfl) ?_
  intro p e s m below meth c ls hmn X hw hl
  have hl : lv_has ls 1 [(0, .ref a0)] := hl
  have hx := X.1.1
  have hb := X.1.2.1
  have hown := X.1.2.2.2.1
  have hts := X.1.2.2.2.2
  have hN := X.2.2.2.2.2.2.1
  have hDW := X.2.2.2.2.2.2.2.1
  have hAO := X.2.2.2.2.2.2.2.2.1
  have hNC := X.2.2.2.2.2.2.2.2.2.1
  unfold f_X0_putsBack at hf
  refine lv_aload_n hx hb dX0_putsBack_0 rfl (lv_at hl 0 rfl) ?_
  refine zw_getR X hw fs_X0_0 q252 rfl hf dX0_putsBack_1 (fun v1 hf => ?_)
  refine lv_aload_n hx hb dX0_putsBack_4 rfl (lv_at hl 0 rfl) ?_
  refine zw_getR X hw fs_X0_3 q255 rfl hf dX0_putsBack_5 (fun v2 hf => ?_)
  refine zw_kC hf (fun fs hfs hf => ?_)
  refine zw_goV (rest := []) hw hf (fun r hr => va_runV (C := RX1) (As := [.ref v2]) (rest := []) X.1 (mt_X1_copyOf l D A h v1 v2 r hr) (cwV 1 hts (lw_V q998 q999 q1000 q82 q1001) rfl rfl rfl ⟨rfl, cd_X1_copyOf⟩ ⟨Nat.le_of_ble_eq_true rfl, Nat.le_of_ble_eq_true rfl⟩) (zpreV (ci := 1) X hw hfs rfl _) rfl rfl hl.1 rfl (lv_room (Nat.le_of_ble_eq_true rfl)) dX0_putsBack_8 ⟨Nat.le_of_ble_eq_true rfl, Nat.le_of_ble_eq_true rfl⟩) (fun r3 H locs hf hw => ?_)
  exact zw_vret X hw hf (Nat.le_of_ble_eq_true rfl) (Nat.le_of_ble_eq_true rfl) dX0_putsBack_11
set_option maxHeartbeats 4000000 in
theorem k_X0_behind_32 {p : Program} {l : Launch} {e : Env} {s : State} {m : MethodId} {args : Array Value} {below : List Frame} {meth : Method} {c : Code} {D : va_G} {A : Nat → Prop} (X : zCx p s m args meth c D A (zEv A) cX0_behind 4 RX0 (Option.some FieldType.int)) (res : Int32 × zT) : ∀ (h : zT) (a0 : Nat) (i1 : Int32) (i2 : Int32) (H : Heap) (locs : List Loc) (ls : Array Slot), f_X0_behind_32 h a0 i1 i2 = some res → zWh D A s H h locs → lv_has ls 4 [(0, .ref a0), (1, .int i1), (2, .int i2)] → W p l e rm_X0_behind s m args below meth c H locs 0 0 (MQ below (zQW D A (some (.int res.1)) res.2) args s 20 100 A) (F0 m 32 ls []) := by
  have hx := X.1.1
  have hb := X.1.2.1
  have hown := X.1.2.2.2.1
  have hts := X.1.2.2.2.2
  have hN := X.2.2.2.2.2.2.1
  have hDW := X.2.2.2.2.2.2.2.1
  have hAO := X.2.2.2.2.2.2.2.2.1
  have hNC := X.2.2.2.2.2.2.2.2.2.1
  intro h a0 i1 i2 H locs ls hf hw hl
  unfold f_X0_behind_32 at hf
  refine lv_aload_n hx hb dX0_behind_32 rfl (lv_at hl 0 rfl) ?_
  refine zw_kC hf (fun fs hfs hf => ?_)
  refine zw_goV (rest := []) hw hf (fun r hr => va_runV (C := RX0) (As := []) (rest := []) X.1 (mt_X0_thinks l D A h a0 r hr) (cwV 0 hts (lw_V q994 q996 qs31 q81 q997) rfl rfl rfl ⟨rfl, cd_X0_thinks⟩ ⟨Nat.le_of_ble_eq_true rfl, Nat.le_of_ble_eq_true rfl⟩) (zpreV (ci := 0) X hw hfs rfl _) rfl rfl hl.1 rfl (lv_room (Nat.le_of_ble_eq_true rfl)) dX0_behind_33 ⟨Nat.le_of_ble_eq_true rfl, Nat.le_of_ble_eq_true rfl⟩) (fun r1 H locs hf hw => ?_)
  refine lv_aload_n hx hb dX0_behind_36 rfl (lv_at hl 0 rfl) ?_
  refine lv_iload_n hx hb dX0_behind_37 rfl (lv_at hl 1 rfl) ?_
  refine zw_kC hf (fun fs hfs hf => ?_)
  refine zw_goV (rest := []) hw hf (fun r hr => va_runV (C := RX0) (As := [.int i1]) (rest := []) X.1 (mt_X0_goesOn l D A r1 a0 i1 r hr) (cwV 1 hts (lw_V q973 q975 qs29 q81 q976) rfl rfl rfl ⟨rfl, cd_X0_goesOn⟩ ⟨Nat.le_of_ble_eq_true rfl, Nat.le_of_ble_eq_true rfl⟩) (zpreV (ci := 0) X hw hfs rfl _) rfl rfl hl.1 rfl (lv_room (Nat.le_of_ble_eq_true rfl)) dX0_behind_38 ⟨Nat.le_of_ble_eq_true rfl, Nat.le_of_ble_eq_true rfl⟩) (fun r2 H locs hf hw => ?_)
  refine lv_iload_n hx hb dX0_behind_41 rfl (lv_at hl 2 rfl) ?_
  refine zw_if_ne (tgt := 55) hx hb hf dX0_behind_42 (by decide) (fun hf => ?_) (fun hf => ?_)
  · refine lv_iload_n hx hb dX0_behind_55 rfl (lv_at hl 2 rfl) ?_
    refine lv_iconst (v := (1 : Int32)) hx hb dX0_behind_56 (by decide) ?_
    refine zw_icmp_ne (tgt := 70) hx hb hf dX0_behind_57 (by decide) (fun hf => ?_) (fun hf => ?_)
    · refine lv_iload_n hx hb dX0_behind_70 rfl (lv_at hl 2 rfl) ?_
      refine lv_iconst (v := (2 : Int32)) hx hb dX0_behind_71 (by decide) ?_
      refine zw_icmp_ne (tgt := 85) hx hb hf dX0_behind_72 (by decide) (fun hf => ?_) (fun hf => ?_)
      · refine lv_aload_n hx hb dX0_behind_85 rfl (lv_at hl 0 rfl) ?_
        refine zw_getR X hw fs_X0_0 q252 rfl hf dX0_behind_86 (fun v3 hf => ?_)
        refine zw_getRN X hw fs_X1_2 (hN _ nq131) rfl hf dX0_behind_89 (fun v4 hf => ?_)
        refine lv_iload_n hx hb dX0_behind_92 rfl (lv_at hl 2 rfl) ?_
        refine lv_iconst (v := (3 : Int32)) hx hb dX0_behind_93 (by decide) ?_
        refine lv_isub hx hb dX0_behind_94 ?_
        refine zw_aaloadR X hw hf dX0_behind_95 (fun v5 hf => ?_)
        refine zw_getI X hw fs_X6_4 q556 rfl hf dX0_behind_96 (fun v6 hf => ?_)
        refine lv_istore_n (lv' := [(3, .int v6), (0, .ref a0), (1, .int i1), (2, .int i2)]) hx hb dX0_behind_99 rfl hl (by decide) rfl (fun ls hl => ?_)
        refine lv_aload_n hx hb dX0_behind_100 rfl (lv_at hl 1 rfl) ?_
        refine zw_kC hf (fun fs hfs hf => ?_)
        refine zw_goV (rest := []) hw hf (fun r hr => va_runV (C := RX0) (As := []) (rest := []) X.1 (mt_X0_putsBack l D A r2 a0 r hr) (cwV 0 hts (lw_V q1043 q1045 qs32 q81 q1046) rfl rfl rfl ⟨rfl, cd_X0_putsBack⟩ ⟨Nat.le_of_ble_eq_true rfl, Nat.le_of_ble_eq_true rfl⟩) (zpreV (ci := 0) X hw hfs rfl _) rfl rfl hl.1 rfl (lv_room (Nat.le_of_ble_eq_true rfl)) dX0_behind_101 ⟨Nat.le_of_ble_eq_true rfl, Nat.le_of_ble_eq_true rfl⟩) (fun r7 H locs hf hw => ?_)
        refine lv_iload_n hx hb dX0_behind_104 rfl (lv_at hl 0 rfl) ?_
        exact zw_iret X hw hf (Nat.le_of_ble_eq_true rfl) (Nat.le_of_ble_eq_true rfl) dX0_behind_105
      · refine lv_aload_n hx hb dX0_behind_75 rfl (lv_at hl 0 rfl) ?_
        refine zw_getR X hw fs_X0_0 q252 rfl hf dX0_behind_76 (fun v8 hf => ?_)
        refine zw_getIN X hw fs_X1_4 (hN _ nq135) rfl hf dX0_behind_79 (fun v9 hf => ?_)
        refine lv_goto (tgt := 99) hx hb dX0_behind_82 (by decide) ?_
        refine lv_istore_n (lv' := [(3, .int v9), (0, .ref a0), (1, .int i1), (2, .int i2)]) hx hb dX0_behind_99 rfl hl (by decide) rfl (fun ls hl => ?_)
        refine lv_aload_n hx hb dX0_behind_100 rfl (lv_at hl 1 rfl) ?_
        refine zw_kC hf (fun fs hfs hf => ?_)
        refine zw_goV (rest := []) hw hf (fun r hr => va_runV (C := RX0) (As := []) (rest := []) X.1 (mt_X0_putsBack l D A r2 a0 r hr) (cwV 0 hts (lw_V q1043 q1045 qs32 q81 q1046) rfl rfl rfl ⟨rfl, cd_X0_putsBack⟩ ⟨Nat.le_of_ble_eq_true rfl, Nat.le_of_ble_eq_true rfl⟩) (zpreV (ci := 0) X hw hfs rfl _) rfl rfl hl.1 rfl (lv_room (Nat.le_of_ble_eq_true rfl)) dX0_behind_101 ⟨Nat.le_of_ble_eq_true rfl, Nat.le_of_ble_eq_true rfl⟩) (fun r10 H locs hf hw => ?_)
        refine lv_iload_n hx hb dX0_behind_104 rfl (lv_at hl 0 rfl) ?_
        exact zw_iret X hw hf (Nat.le_of_ble_eq_true rfl) (Nat.le_of_ble_eq_true rfl) dX0_behind_105
    · refine lv_aload_n hx hb dX0_behind_60 rfl (lv_at hl 0 rfl) ?_
      refine zw_getR X hw fs_X0_0 q252 rfl hf dX0_behind_61 (fun v11 hf => ?_)
      refine zw_kC hf (fun fs hfs hf => ?_)
      refine zw_goI (rest := []) hw hf (fun r hr => va_runV (C := RX1) (As := []) (rest := []) X.1 (mt_X1_laid l D A r2 v11 r hr) (cwV 0 hts (lw_V q919 q920 q921 q82 q922) rfl rfl rfl ⟨rfl, cd_X1_laid⟩ ⟨Nat.le_of_ble_eq_true rfl, Nat.le_of_ble_eq_true rfl⟩) (zpreV (ci := 1) X hw hfs rfl _) rfl rfl hl.1 rfl (lv_room (Nat.le_of_ble_eq_true rfl)) dX0_behind_64 ⟨Nat.le_of_ble_eq_true rfl, Nat.le_of_ble_eq_true rfl⟩) (fun r12 H locs hf hw => ?_)
      refine lv_goto (tgt := 99) hx hb dX0_behind_67 (by decide) ?_
      refine lv_istore_n (lv' := [(3, .int r12.1), (0, .ref a0), (1, .int i1), (2, .int i2)]) hx hb dX0_behind_99 rfl hl (by decide) rfl (fun ls hl => ?_)
      refine lv_aload_n hx hb dX0_behind_100 rfl (lv_at hl 1 rfl) ?_
      refine zw_kC hf (fun fs hfs hf => ?_)
      refine zw_goV (rest := []) hw hf (fun r hr => va_runV (C := RX0) (As := []) (rest := []) X.1 (mt_X0_putsBack l D A r12.2 a0 r hr) (cwV 0 hts (lw_V q1043 q1045 qs32 q81 q1046) rfl rfl rfl ⟨rfl, cd_X0_putsBack⟩ ⟨Nat.le_of_ble_eq_true rfl, Nat.le_of_ble_eq_true rfl⟩) (zpreV (ci := 0) X hw hfs rfl _) rfl rfl hl.1 rfl (lv_room (Nat.le_of_ble_eq_true rfl)) dX0_behind_101 ⟨Nat.le_of_ble_eq_true rfl, Nat.le_of_ble_eq_true rfl⟩) (fun r13 H locs hf hw => ?_)
      refine lv_iload_n hx hb dX0_behind_104 rfl (lv_at hl 0 rfl) ?_
      exact zw_iret X hw hf (Nat.le_of_ble_eq_true rfl) (Nat.le_of_ble_eq_true rfl) dX0_behind_105
  · refine lv_aload_n hx hb dX0_behind_45 rfl (lv_at hl 0 rfl) ?_
    refine zw_getR X hw fs_X0_0 q252 rfl hf dX0_behind_46 (fun v14 hf => ?_)
    refine zw_kC hf (fun fs hfs hf => ?_)
    refine zw_goI (rest := []) hw hf (fun r hr => va_runV (C := RX1) (As := []) (rest := []) X.1 (mt_X1_trust l D A r2 v14 r hr) (cwV 0 hts (lw_V q986 q987 q988 q82 q989) rfl rfl rfl ⟨rfl, cd_X1_trust⟩ ⟨Nat.le_of_ble_eq_true rfl, Nat.le_of_ble_eq_true rfl⟩) (zpreV (ci := 1) X hw hfs rfl _) rfl rfl hl.1 rfl (lv_room (Nat.le_of_ble_eq_true rfl)) dX0_behind_49 ⟨Nat.le_of_ble_eq_true rfl, Nat.le_of_ble_eq_true rfl⟩) (fun r15 H locs hf hw => ?_)
    refine lv_goto (tgt := 99) hx hb dX0_behind_52 (by decide) ?_
    refine lv_istore_n (lv' := [(3, .int r15.1), (0, .ref a0), (1, .int i1), (2, .int i2)]) hx hb dX0_behind_99 rfl hl (by decide) rfl (fun ls hl => ?_)
    refine lv_aload_n hx hb dX0_behind_100 rfl (lv_at hl 1 rfl) ?_
    refine zw_kC hf (fun fs hfs hf => ?_)
    refine zw_goV (rest := []) hw hf (fun r hr => va_runV (C := RX0) (As := []) (rest := []) X.1 (mt_X0_putsBack l D A r15.2 a0 r hr) (cwV 0 hts (lw_V q1043 q1045 qs32 q81 q1046) rfl rfl rfl ⟨rfl, cd_X0_putsBack⟩ ⟨Nat.le_of_ble_eq_true rfl, Nat.le_of_ble_eq_true rfl⟩) (zpreV (ci := 0) X hw hfs rfl _) rfl rfl hl.1 rfl (lv_room (Nat.le_of_ble_eq_true rfl)) dX0_behind_101 ⟨Nat.le_of_ble_eq_true rfl, Nat.le_of_ble_eq_true rfl⟩) (fun r16 H locs hf hw => ?_)
    refine lv_iload_n hx hb dX0_behind_104 rfl (lv_at hl 0 rfl) ?_
    exact zw_iret X hw hf (Nat.le_of_ble_eq_true rfl) (Nat.le_of_ble_eq_true rfl) dX0_behind_105
set_option maxHeartbeats 4000000 in
theorem mt_X0_behind (l : Launch) (D : va_G) (A : Nat → Prop) (h : zT) (a0 : Nat) (i1 : Int32) (i2 : Int32) (res : Int32 × zT) (hf : f_X0_behind h a0 i1 i2 = some res) : Met l yX0_behind (ws_ yX0_behind cX0_behind 4 (Option.some FieldType.int)) rm_X0_behind (zPW D A (zEv A) h [.ref a0, .int i1, .int i2]) (zQW D A (some (.int res.1)) res.2) 20 100 A := by
  refine zmt (zEv_ok A) (by decide) (Nat.le_of_ble_eq_true rfl) ?_
  intro p e s m below meth c ls hmn X hw hl
  have hl : lv_has ls 4 [(0, .ref a0), (1, .int i1), (2, .int i2)] := hl
  have hx := X.1.1
  have hb := X.1.2.1
  have hown := X.1.2.2.2.1
  have hts := X.1.2.2.2.2
  have hN := X.2.2.2.2.2.2.1
  have hDW := X.2.2.2.2.2.2.2.1
  have hAO := X.2.2.2.2.2.2.2.2.1
  have hNC := X.2.2.2.2.2.2.2.2.2.1
  unfold f_X0_behind at hf
  refine lv_iload_n hx hb dX0_behind_0 rfl (lv_at hl 1 rfl) ?_
  refine lv_iconst (v := (0 : Int32)) hx hb dX0_behind_1 (by decide) ?_
  refine lv_bipush (v := (100 : Int32)) hx hb dX0_behind_2 (by decide) ?_
  refine zw_goZ (rest := []) hw hf (fun r hr => va_runS (As := [.int i1, .int (0 : Int32), .int (100 : Int32)]) (rest := []) X.1 (mt_X0_isIn l D A h i1 (0 : Int32) (100 : Int32) r hr) (va_cwS 3 hts (lw_S q339 q340 q81 q341) rfl rfl rfl cd_X0_isIn ⟨Nat.le_of_ble_eq_true rfl, Nat.le_of_ble_eq_true rfl⟩) (zpreS X hw _) rfl rfl hl.1 rfl (lv_room (Nat.le_of_ble_eq_true rfl)) dX0_behind_4 ⟨Nat.le_of_ble_eq_true rfl, Nat.le_of_ble_eq_true rfl⟩) (fun r1 H locs hf hw => ?_)
  refine zw_if_eq (tgt := 29) hx hb hf dX0_behind_7 (by decide) (fun hf => ?_) (fun hf => ?_)
  · refine lv_ldc (v := (-1000000001 : Int32)) hx hb hown (hts _ q342) dX0_behind_29 ?_
    exact zw_iret X hw hf (Nat.le_of_ble_eq_true rfl) (Nat.le_of_ble_eq_true rfl) dX0_behind_31
  · refine lv_iload_n hx hb dX0_behind_10 rfl (lv_at hl 2 rfl) ?_
    refine zw_if_lt (tgt := 29) hx hb hf dX0_behind_11 (by decide) (fun hf => ?_) (fun hf => ?_)
    · refine lv_ldc (v := (-1000000001 : Int32)) hx hb hown (hts _ q342) dX0_behind_29 ?_
      exact zw_iret X hw hf (Nat.le_of_ble_eq_true rfl) (Nat.le_of_ble_eq_true rfl) dX0_behind_31
    · refine lv_iload_n hx hb dX0_behind_14 rfl (lv_at hl 2 rfl) ?_
      refine lv_iconst (v := (2 : Int32)) hx hb dX0_behind_15 (by decide) ?_
      refine zw_icmp_le (tgt := 32) hx hb hf dX0_behind_16 (by decide) (fun hf => ?_) (fun hf => ?_)
      · exact k_X0_behind_32 X _ r1.2 a0 i1 i2 _ _ _ hf hw (lv_sub hl [0, 1, 2] rfl)
      · refine lv_aload_n hx hb dX0_behind_19 rfl (lv_at hl 0 rfl) ?_
        refine lv_iload_n hx hb dX0_behind_20 rfl (lv_at hl 2 rfl) ?_
        refine lv_iconst (v := (3 : Int32)) hx hb dX0_behind_21 (by decide) ?_
        refine lv_isub hx hb dX0_behind_22 ?_
        refine zw_kC hf (fun fs hfs hf => ?_)
        refine zw_goZ (rest := []) hw hf (fun r hr => va_runV (C := RX0) (As := [.int (i2 - (3 : Int32))]) (rest := []) X.1 (mt_X0_isRubbing l D A r1.2 a0 (i2 - (3 : Int32)) r hr) (cwV 1 hts (lw_V q629 q631 qs19 q81 q632) rfl rfl rfl ⟨rfl, cd_X0_isRubbing⟩ ⟨Nat.le_of_ble_eq_true rfl, Nat.le_of_ble_eq_true rfl⟩) (zpreV (ci := 0) X hw hfs rfl _) rfl rfl hl.1 rfl (lv_room (Nat.le_of_ble_eq_true rfl)) dX0_behind_23 ⟨Nat.le_of_ble_eq_true rfl, Nat.le_of_ble_eq_true rfl⟩) (fun r2 H locs hf hw => ?_)
        refine zw_if_ne (tgt := 32) hx hb hf dX0_behind_26 (by decide) (fun hf => ?_) (fun hf => ?_)
        · exact k_X0_behind_32 X _ r2.2 a0 i1 i2 _ _ _ hf hw (lv_sub hl [0, 1, 2] rfl)
        · refine lv_ldc (v := (-1000000001 : Int32)) hx hb hown (hts _ q342) dX0_behind_29 ?_
          exact zw_iret X hw hf (Nat.le_of_ble_eq_true rfl) (Nat.le_of_ble_eq_true rfl) dX0_behind_31
set_option maxHeartbeats 4000000 in
theorem k_X0_lasts_33 {p : Program} {l : Launch} {e : Env} {s : State} {m : MethodId} {args : Array Value} {below : List Frame} {meth : Method} {c : Code} {D : va_G} {A : Nat → Prop} (X : zCx p s m args meth c D A (zEv A) cX0_lasts 2 RX0 (Option.some FieldType.int)) (res : Int32 × zT) : ∀ (h : zT) (a0 : Nat) (i1 : Int32) (H : Heap) (locs : List Loc) (ls : Array Slot), f_X0_lasts_33 h a0 i1 = some res → zWh D A s H h locs → lv_has ls 2 [(0, .ref a0), (1, .int i1)] → W p l e rm_X0_lasts s m args below meth c H locs 10 50 (MQ below (zQW D A (some (.int res.1)) res.2) args s 20 100 A) (F0 m 33 ls []) := by
  have hx := X.1.1
  have hb := X.1.2.1
  have hown := X.1.2.2.2.1
  have hts := X.1.2.2.2.2
  have hN := X.2.2.2.2.2.2.1
  have hDW := X.2.2.2.2.2.2.2.1
  have hAO := X.2.2.2.2.2.2.2.2.1
  have hNC := X.2.2.2.2.2.2.2.2.2.1
  intro h a0 i1 H locs ls hf hw hl
  unfold f_X0_lasts_33 at hf
  refine lv_aload_n hx hb dX0_lasts_33 rfl (lv_at hl 0 rfl) ?_
  refine zw_kC hf (fun fs hfs hf => ?_)
  refine zw_goV (rest := []) hw hf (fun r hr => va_runV (C := RX0) (As := []) (rest := []) X.1 (mt_X0_putsBack l D A h a0 r hr) (cwV 0 hts (lw_V q1043 q1045 qs32 q81 q1046) rfl rfl rfl ⟨rfl, cd_X0_putsBack⟩ ⟨Nat.le_of_ble_eq_true rfl, Nat.le_of_ble_eq_true rfl⟩) (zpreV (ci := 0) X hw hfs rfl _) rfl rfl hl.1 rfl (lv_room (Nat.le_of_ble_eq_true rfl)) dX0_lasts_34 ⟨Nat.le_of_ble_eq_true rfl, Nat.le_of_ble_eq_true rfl⟩) (fun r1 H locs hf hw => ?_)
  refine lv_iload_n hx hb dX0_lasts_37 rfl (lv_at hl 1 rfl) ?_
  refine lv_sipush (v := (300 : Int32)) hx hb dX0_lasts_38 (by decide) ?_
  refine zw_icmp_gt (tgt := 48) hx hb hf dX0_lasts_41 (by decide) (fun hf => ?_) (fun hf => ?_)
  · refine lv_ldc (v := (-1000000005 : Int32)) hx hb hown (hts _ q521) dX0_lasts_48 ?_
    exact zw_iret X hw hf (Nat.le_of_ble_eq_true rfl) (Nat.le_of_ble_eq_true rfl) dX0_lasts_50
  · refine lv_iload_n hx hb dX0_lasts_44 rfl (lv_at hl 1 rfl) ?_
    refine lv_goto (tgt := 50) hx hb dX0_lasts_45 (by decide) ?_
    exact zw_iret X hw hf (Nat.le_of_ble_eq_true rfl) (Nat.le_of_ble_eq_true rfl) dX0_lasts_50
set_option maxHeartbeats 4000000 in
theorem k_X0_lasts_6 {p : Program} {l : Launch} {e : Env} {s : State} {m : MethodId} {args : Array Value} {below : List Frame} {meth : Method} {c : Code} {D : va_G} {A : Nat → Prop} (X : zCx p s m args meth c D A (zEv A) cX0_lasts 2 RX0 (Option.some FieldType.int)) (res : Int32 × zT) : ∀ (n : Nat), ∀ (h : zT) (a0 : Nat) (i1 : Int32) (H : Heap) (locs : List Loc) (ls : Array Slot), f_X0_lasts_6 n h a0 i1 = some res → zWh D A s H h locs → lv_has ls 2 [(0, .ref a0), (1, .int i1)] → W p l e rm_X0_lasts s m args below meth c H locs 10 50 (MQ below (zQW D A (some (.int res.1)) res.2) args s 20 100 A) (F0 m 6 ls []) := by
  have hx := X.1.1
  have hb := X.1.2.1
  have hown := X.1.2.2.2.1
  have hts := X.1.2.2.2.2
  have hN := X.2.2.2.2.2.2.1
  have hDW := X.2.2.2.2.2.2.2.1
  have hAO := X.2.2.2.2.2.2.2.2.1
  have hNC := X.2.2.2.2.2.2.2.2.2.1
  intro n
  induction n with
  | zero =>
    intro h a0 i1 H locs ls hf hw hl
    cases hf
  | succ n ih =>
    intro h a0 i1 H locs ls hf hw hl
    unfold f_X0_lasts_6 at hf
    refine lv_iload_n hx hb dX0_lasts_6 rfl (lv_at hl 1 rfl) ?_
    refine lv_sipush (v := (300 : Int32)) hx hb dX0_lasts_7 (by decide) ?_
    refine zw_icmp_gt (tgt := 33) hx hb hf dX0_lasts_10 (by decide) (fun hf => ?_) (fun hf => ?_)
    · refine W.widen (k := 10) (n := 50) (by omega) (by omega) ?_
      exact k_X0_lasts_33 X _ h a0 i1 _ _ _ hf hw (lv_sub hl [0, 1] rfl)
    · refine lv_aload_n hx hb dX0_lasts_13 rfl (lv_at hl 0 rfl) ?_
      refine zw_getR X hw fs_X0_0 q252 rfl hf dX0_lasts_14 (fun v1 hf => ?_)
      refine zw_kC hf (fun fs hfs hf => ?_)
      refine zw_goI (rest := []) hw hf (fun r hr => va_runV (C := RX1) (As := []) (rest := []) X.1 (mt_X1_laid l D A h v1 r hr) (cwV 0 hts (lw_V q919 q920 q921 q82 q922) rfl rfl rfl ⟨rfl, cd_X1_laid⟩ ⟨Nat.le_of_ble_eq_true rfl, Nat.le_of_ble_eq_true rfl⟩) (zpreV (ci := 1) X hw hfs rfl _) rfl rfl hl.1 rfl (lv_room (Nat.le_of_ble_eq_true rfl)) dX0_lasts_17 ⟨Nat.le_of_ble_eq_true rfl, Nat.le_of_ble_eq_true rfl⟩) (fun r2 H locs hf hw => ?_)
      refine zw_if_eq (tgt := 33) hx hb hf dX0_lasts_20 (by decide) (fun hf => ?_) (fun hf => ?_)
      · refine W.widen (k := 10) (n := 50) (by omega) (by omega) ?_
        exact k_X0_lasts_33 X _ r2.2 a0 i1 _ _ _ hf hw (lv_sub hl [0, 1] rfl)
      · refine lv_aload_n hx hb dX0_lasts_23 rfl (lv_at hl 0 rfl) ?_
        refine zw_kC hf (fun fs hfs hf => ?_)
        refine zw_goV (rest := []) hw hf (fun r hr => va_runV (C := RX0) (As := []) (rest := []) X.1 (mt_X0_aTide l D A r2.2 a0 r hr) (cwV 0 hts (lw_V q977 q979 qs30 q81 q980) rfl rfl rfl ⟨rfl, cd_X0_aTide⟩ ⟨Nat.le_of_ble_eq_true rfl, Nat.le_of_ble_eq_true rfl⟩) (zpreV (ci := 0) X hw hfs rfl _) rfl rfl hl.1 rfl (lv_room (Nat.le_of_ble_eq_true rfl)) dX0_lasts_24 ⟨Nat.le_of_ble_eq_true rfl, Nat.le_of_ble_eq_true rfl⟩) (fun r3 H locs hf hw => ?_)
        refine zw_nmS hf (fun v4 ev4 hf => ?_)
        refine lv_iinc (k := 1) (v := v4) (lv' := [(1, .int v4), (0, .ref a0)]) hx hb dX0_lasts_27 hl rfl (by rw [ev4]; rfl) (by decide) rfl (fun ls hl => ?_)
        refine lv_goto (tgt := 6) hx hb dX0_lasts_30 (by decide) ?_
        refine W.widen (k := 10) (n := 50) (by omega) (by omega) ?_
        exact ih r3 a0 v4 _ _ _ hf hw (lv_sub hl [1, 0] rfl)
set_option maxHeartbeats 4000000 in
theorem mt_X0_lasts (l : Launch) (D : va_G) (A : Nat → Prop) (h : zT) (a0 : Nat) (res : Int32 × zT) (hf : f_X0_lasts h a0 = some res) : Met l yX0_lasts (ws_ yX0_lasts cX0_lasts 2 (Option.some FieldType.int)) rm_X0_lasts (zPW D A (zEv A) h [.ref a0]) (zQW D A (some (.int res.1)) res.2) 20 100 A := by
  refine zmt (zEv_ok A) (by decide) (Nat.le_of_ble_eq_true rfl) ?_
  intro p e s m below meth c ls hmn X hw hl
  have hl : lv_has ls 2 [(0, .ref a0)] := hl
  have hx := X.1.1
  have hb := X.1.2.1
  have hown := X.1.2.2.2.1
  have hts := X.1.2.2.2.2
  have hN := X.2.2.2.2.2.2.1
  have hDW := X.2.2.2.2.2.2.2.1
  have hAO := X.2.2.2.2.2.2.2.2.1
  have hNC := X.2.2.2.2.2.2.2.2.2.1
  unfold f_X0_lasts at hf
  refine lv_aload_n hx hb dX0_lasts_0 rfl (lv_at hl 0 rfl) ?_
  refine zw_kC hf (fun fs hfs hf => ?_)
  refine zw_goV (rest := []) hw hf (fun r hr => va_runV (C := RX0) (As := []) (rest := []) X.1 (mt_X0_thinks l D A h a0 r hr) (cwV 0 hts (lw_V q994 q996 qs31 q81 q997) rfl rfl rfl ⟨rfl, cd_X0_thinks⟩ ⟨Nat.le_of_ble_eq_true rfl, Nat.le_of_ble_eq_true rfl⟩) (zpreV (ci := 0) X hw hfs rfl _) rfl rfl hl.1 rfl (lv_room (Nat.le_of_ble_eq_true rfl)) dX0_lasts_1 ⟨Nat.le_of_ble_eq_true rfl, Nat.le_of_ble_eq_true rfl⟩) (fun r1 H locs hf hw => ?_)
  refine lv_iconst (v := (0 : Int32)) hx hb dX0_lasts_4 (by decide) ?_
  refine lv_istore_n (lv' := [(1, .int (0 : Int32)), (0, .ref a0)]) hx hb dX0_lasts_5 rfl hl (by decide) rfl (fun ls hl => ?_)
  refine W.widen (k := 10) (n := 50) (by omega) (by omega) ?_
  exact k_X0_lasts_6 X _ 4096 r1 a0 (0 : Int32) _ _ _ hf hw (lv_sub hl [1, 0] rfl)
set_option maxHeartbeats 4000000 in
theorem k_X0_best_101 {p : Program} {l : Launch} {e : Env} {s : State} {m : MethodId} {args : Array Value} {below : List Frame} {meth : Method} {c : Code} {D : va_G} {A : Nat → Prop} (X : zCx p s m args meth c D A (zEv A) cX0_best 8 RX0 (Option.some FieldType.int)) (res : Int32 × zT) (cb sb : Nat) (hcb : cb + 10 ≤ 180) (hsb : sb + 50 ≤ 900) (K43 : zT → Nat → Int32 → Int32 → Int32 → Int32 → Int32 → Int32 → Option (Int32 × zT)) (hK43 : ∀ (h : zT) (a0 : Nat) (i1 : Int32) (i2 : Int32) (i3 : Int32) (i4 : Int32) (i5 : Int32) (i6 : Int32) (H : Heap) (locs : List Loc) (ls : Array Slot), K43 h a0 i1 i2 i3 i4 i5 i6 = some res → zWh D A s H h locs → lv_has ls 8 [(0, .ref a0), (1, .int i1), (2, .int i2), (3, .int i3), (4, .int i4), (5, .int i5), (6, .int i6)] → W p l e rm_X0_best s m args below meth c H locs (cb + 10) (sb + 50) (MQ below (zQW D A (some (.int res.1)) res.2) args s 180 900 A) (F0 m 43 ls [])) : ∀ (h : zT) (a0 : Nat) (i1 : Int32) (i2 : Int32) (i3 : Int32) (i5 : Int32) (i6 : Int32) (i7 : Int32) (s0 : Int32) (H : Heap) (locs : List Loc) (ls : Array Slot), f_X0_best_101 K43 h a0 i1 i2 i3 i5 i6 i7 s0 = some res → zWh D A s H h locs → lv_has ls 8 [(0, .ref a0), (1, .int i1), (2, .int i2), (3, .int i3), (5, .int i5), (6, .int i6), (7, .int i7)] → W p l e rm_X0_best s m args below meth c H locs (cb + 10) (sb + 50) (MQ below (zQW D A (some (.int res.1)) res.2) args s 180 900 A) (F0 m 101 ls [.int s0]) := by
  have hx := X.1.1
  have hb := X.1.2.1
  have hown := X.1.2.2.2.1
  have hts := X.1.2.2.2.2
  have hN := X.2.2.2.2.2.2.1
  have hDW := X.2.2.2.2.2.2.2.1
  have hAO := X.2.2.2.2.2.2.2.2.1
  have hNC := X.2.2.2.2.2.2.2.2.2.1
  intro h a0 i1 i2 i3 i5 i6 i7 s0 H locs ls hf hw hl
  unfold f_X0_best_101 at hf
  refine lv_istore (lv' := [(4, .int s0), (0, .ref a0), (1, .int i1), (2, .int i2), (3, .int i3), (5, .int i5), (6, .int i6), (7, .int i7)]) hx hb dX0_best_101 hl (by decide) rfl (fun ls hl => ?_)
  refine lv_iload hx hb dX0_best_103 (lv_at hl 5 rfl) ?_
  refine lv_iload hx hb dX0_best_105 (lv_at hl 7 rfl) ?_
  refine va_mmax (rest := []) hx hb (by rw [X.1.2.2.1]; exact hl.1.symm) hown (hts _ q702) (hts _ q703) (hts _ q96) (hts _ q704) (Nat.le_of_ble_eq_true rfl) (Nat.le_of_ble_eq_true rfl) (by show _ ≤ (180 : Nat); omega) (by show _ ≤ (900 : Nat); omega) dX0_best_107 ?_
  refine zw_nmI hf (fun v1 hf => ?_)
  refine lv_istore (lv' := [(5, .int v1), (4, .int s0), (0, .ref a0), (1, .int i1), (2, .int i2), (3, .int i3), (6, .int i6), (7, .int i7)]) hx hb dX0_best_110 hl (by decide) rfl (fun ls hl => ?_)
  refine zw_nmS hf (fun v2 ev2 hf => ?_)
  refine lv_iinc (k := 6) (v := v2) (lv' := [(6, .int v2), (5, .int v1), (4, .int s0), (0, .ref a0), (1, .int i1), (2, .int i2), (3, .int i3), (7, .int i7)]) hx hb dX0_best_112 hl rfl (by rw [ev2]; rfl) (by decide) rfl (fun ls hl => ?_)
  refine lv_goto (tgt := 43) hx hb dX0_best_115 (by decide) ?_
  refine W.widen (k := cb + 10) (n := sb + 50) (by omega) (by omega) ?_
  exact hK43 h a0 i1 i2 i3 s0 v1 v2 _ _ _ hf hw (lv_sub hl [3, 4, 5, 6, 2, 1, 0] rfl)
set_option maxHeartbeats 4000000 in
theorem k_X0_best_43 {p : Program} {l : Launch} {e : Env} {s : State} {m : MethodId} {args : Array Value} {below : List Frame} {meth : Method} {c : Code} {D : va_G} {A : Nat → Prop} (X : zCx p s m args meth c D A (zEv A) cX0_best 8 RX0 (Option.some FieldType.int)) (res : Int32 × zT) : ∀ (n cb sb : Nat), cb + n * 10 ≤ 180 → sb + n * 50 ≤ 900 → ∀ (h : zT) (a0 : Nat) (i1 : Int32) (i2 : Int32) (i3 : Int32) (i4 : Int32) (i5 : Int32) (i6 : Int32) (H : Heap) (locs : List Loc) (ls : Array Slot), f_X0_best_43 n h a0 i1 i2 i3 i4 i5 i6 = some res → zWh D A s H h locs → lv_has ls 8 [(0, .ref a0), (1, .int i1), (2, .int i2), (3, .int i3), (4, .int i4), (5, .int i5), (6, .int i6)] → W p l e rm_X0_best s m args below meth c H locs cb sb (MQ below (zQW D A (some (.int res.1)) res.2) args s 180 900 A) (F0 m 43 ls []) := by
  have hx := X.1.1
  have hb := X.1.2.1
  have hown := X.1.2.2.2.1
  have hts := X.1.2.2.2.2
  have hN := X.2.2.2.2.2.2.1
  have hDW := X.2.2.2.2.2.2.2.1
  have hAO := X.2.2.2.2.2.2.2.2.1
  have hNC := X.2.2.2.2.2.2.2.2.2.1
  intro n
  induction n with
  | zero =>
    intro cb sb hcb hsb h a0 i1 i2 i3 i4 i5 i6 H locs ls hf hw hl
    cases hf
  | succ n ih =>
    intro cb sb hcb hsb h a0 i1 i2 i3 i4 i5 i6 H locs ls hf hw hl
    unfold f_X0_best_43 at hf
    refine lv_iload hx hb dX0_best_43 (lv_at hl 6 rfl) ?_
    refine lv_bipush (v := (16 : Int32)) hx hb dX0_best_45 (by decide) ?_
    refine zw_icmp_ge (tgt := 118) hx hb hf dX0_best_47 (by decide) (fun hf => ?_) (fun hf => ?_)
    · refine lv_iload_n hx hb dX0_best_118 rfl (lv_at hl 3 rfl) ?_
      refine zw_if_ne (tgt := 127) hx hb hf dX0_best_119 (by decide) (fun hf => ?_) (fun hf => ?_)
      · refine lv_iload hx hb dX0_best_127 (lv_at hl 5 rfl) ?_
        exact zw_iret X hw hf (by omega) (by omega) dX0_best_129
      · refine lv_iload hx hb dX0_best_122 (lv_at hl 4 rfl) ?_
        refine lv_goto (tgt := 129) hx hb dX0_best_124 (by decide) ?_
        exact zw_iret X hw hf (by omega) (by omega) dX0_best_129
    · refine lv_aload_n hx hb dX0_best_50 rfl (lv_at hl 0 rfl) ?_
      refine zw_getR X hw fs_X0_0 q252 rfl hf dX0_best_51 (fun v1 hf => ?_)
      refine zw_getRN X hw fs_X1_2 (hN _ nq131) rfl hf dX0_best_54 (fun v2 hf => ?_)
      refine lv_iload_n hx hb dX0_best_57 rfl (lv_at hl 1 rfl) ?_
      refine zw_aaloadR X hw hf dX0_best_58 (fun v3 hf => ?_)
      refine lv_iload hx hb dX0_best_59 (lv_at hl 6 rfl) ?_
      refine zw_put X hw fs_X6_3 q553 rfl rfl rfl rfl hf dX0_best_61 (fun h4 H locs hf hw => ?_)
      refine lv_aload_n hx hb dX0_best_64 rfl (lv_at hl 0 rfl) ?_
      refine lv_iload_n hx hb dX0_best_65 rfl (lv_at hl 2 rfl) ?_
      refine zw_kC hf (fun fs hfs hf => ?_)
      refine zw_goV (rest := []) hw hf (fun r hr => va_runV (C := RX0) (As := [.int i2]) (rest := []) X.1 (mt_X0_goesOn l D A h4 a0 i2 r hr) (cwV 1 hts (lw_V q973 q975 qs29 q81 q976) rfl rfl rfl ⟨rfl, cd_X0_goesOn⟩ ⟨Nat.le_of_ble_eq_true rfl, Nat.le_of_ble_eq_true rfl⟩) (zpreV (ci := 0) X hw hfs rfl _) rfl rfl hl.1 rfl (lv_room (Nat.le_of_ble_eq_true rfl)) dX0_best_66 ⟨by show _ ≤ (180 : Nat); omega, by show _ ≤ (900 : Nat); omega⟩) (fun r5 H locs hf hw => ?_)
      refine lv_aload_n hx hb dX0_best_69 rfl (lv_at hl 0 rfl) ?_
      refine zw_getR X hw fs_X0_0 q252 rfl hf dX0_best_70 (fun v6 hf => ?_)
      refine zw_getRN X hw fs_X1_2 (hN _ nq131) rfl hf dX0_best_73 (fun v7 hf => ?_)
      refine lv_iload_n hx hb dX0_best_76 rfl (lv_at hl 1 rfl) ?_
      refine zw_aaloadR X hw hf dX0_best_77 (fun v8 hf => ?_)
      refine zw_getI X hw fs_X6_4 q556 rfl hf dX0_best_78 (fun v9 hf => ?_)
      refine lv_istore (lv' := [(7, .int v9), (0, .ref a0), (1, .int i1), (2, .int i2), (3, .int i3), (4, .int i4), (5, .int i5), (6, .int i6)]) hx hb dX0_best_81 hl (by decide) rfl (fun ls hl => ?_)
      refine lv_aload_n hx hb dX0_best_83 rfl (lv_at hl 1 rfl) ?_
      refine zw_kC hf (fun fs hfs hf => ?_)
      refine zw_goV (rest := []) hw hf (fun r hr => va_runV (C := RX0) (As := []) (rest := []) X.1 (mt_X0_putsBack l D A r5 a0 r hr) (cwV 0 hts (lw_V q1043 q1045 qs32 q81 q1046) rfl rfl rfl ⟨rfl, cd_X0_putsBack⟩ ⟨Nat.le_of_ble_eq_true rfl, Nat.le_of_ble_eq_true rfl⟩) (zpreV (ci := 0) X hw hfs rfl _) rfl rfl hl.1 rfl (lv_room (Nat.le_of_ble_eq_true rfl)) dX0_best_84 ⟨by show _ ≤ (180 : Nat); omega, by show _ ≤ (900 : Nat); omega⟩) (fun r10 H locs hf hw => ?_)
      refine lv_iload hx hb dX0_best_87 (lv_at hl 0 rfl) ?_
      refine lv_iload hx hb dX0_best_89 (lv_at hl 6 rfl) ?_
      refine zw_icmp_le (tgt := 99) hx hb hf dX0_best_91 (by decide) (fun hf => ?_) (fun hf => ?_)
      · refine lv_iload hx hb dX0_best_99 (lv_at hl 5 rfl) ?_
        refine W.widen (k := cb + 10) (n := sb + 50) (by omega) (by omega) ?_
        exact k_X0_best_101 X _ cb sb (by omega) (by omega) (f_X0_best_43 n) (fun h a0 i1 i2 i3 i4 i5 i6 H locs ls hf hw hl => ih (cb + 10) (sb + 50) (by omega) (by omega) h a0 i1 i2 i3 i4 i5 i6 H locs ls hf hw hl) r10 a0 i1 i2 i3 i5 i6 v9 i4 _ _ _ hf hw (lv_sub hl [1, 2, 3, 4, 6, 7, 0] rfl)
      · refine lv_iload hx hb dX0_best_94 (lv_at hl 7 rfl) ?_
        refine lv_goto (tgt := 101) hx hb dX0_best_96 (by decide) ?_
        refine W.widen (k := cb + 10) (n := sb + 50) (by omega) (by omega) ?_
        exact k_X0_best_101 X _ cb sb (by omega) (by omega) (f_X0_best_43 n) (fun h a0 i1 i2 i3 i4 i5 i6 H locs ls hf hw hl => ih (cb + 10) (sb + 50) (by omega) (by omega) h a0 i1 i2 i3 i4 i5 i6 H locs ls hf hw hl) r10 a0 i1 i2 i3 i5 i6 v9 i6 _ _ _ hf hw (lv_sub hl [1, 2, 3, 4, 6, 7, 0] rfl)
set_option maxHeartbeats 4000000 in
theorem mt_X0_best (l : Launch) (D : va_G) (A : Nat → Prop) (h : zT) (a0 : Nat) (i1 : Int32) (i2 : Int32) (i3 : Int32) (res : Int32 × zT) (hf : f_X0_best h a0 i1 i2 i3 = some res) : Met l yX0_best (ws_ yX0_best cX0_best 8 (Option.some FieldType.int)) rm_X0_best (zPW D A (zEv A) h [.ref a0, .int i1, .int i2, .int i3]) (zQW D A (some (.int res.1)) res.2) 180 900 A := by
  refine zmt (zEv_ok A) (by decide) (Nat.le_of_ble_eq_true rfl) ?_
  intro p e s m below meth c ls hmn X hw hl
  have hl : lv_has ls 8 [(0, .ref a0), (1, .int i1), (2, .int i2), (3, .int i3)] := hl
  have hx := X.1.1
  have hb := X.1.2.1
  have hown := X.1.2.2.2.1
  have hts := X.1.2.2.2.2
  have hN := X.2.2.2.2.2.2.1
  have hDW := X.2.2.2.2.2.2.2.1
  have hAO := X.2.2.2.2.2.2.2.2.1
  have hNC := X.2.2.2.2.2.2.2.2.2.1
  unfold f_X0_best at hf
  refine lv_aload_n hx hb dX0_best_0 rfl (lv_at hl 0 rfl) ?_
  refine lv_iload_n hx hb dX0_best_1 rfl (lv_at hl 1 rfl) ?_
  refine zw_kC hf (fun fs hfs hf => ?_)
  refine zw_goZ (rest := []) hw hf (fun r hr => va_runV (C := RX0) (As := [.int i1]) (rest := []) X.1 (mt_X0_isRubbing l D A h a0 i1 r hr) (cwV 1 hts (lw_V q629 q631 qs19 q81 q632) rfl rfl rfl ⟨rfl, cd_X0_isRubbing⟩ ⟨Nat.le_of_ble_eq_true rfl, Nat.le_of_ble_eq_true rfl⟩) (zpreV (ci := 0) X hw hfs rfl _) rfl rfl hl.1 rfl (lv_room (Nat.le_of_ble_eq_true rfl)) dX0_best_2 ⟨Nat.le_of_ble_eq_true rfl, Nat.le_of_ble_eq_true rfl⟩) (fun r1 H locs hf hw => ?_)
  refine zw_if_eq (tgt := 27) hx hb hf dX0_best_5 (by decide) (fun hf => ?_) (fun hf => ?_)
  · refine lv_ldc (v := (-1000000001 : Int32)) hx hb hown (hts _ q342) dX0_best_27 ?_
    exact zw_iret X hw hf (Nat.le_of_ble_eq_true rfl) (Nat.le_of_ble_eq_true rfl) dX0_best_29
  · refine lv_iload_n hx hb dX0_best_8 rfl (lv_at hl 2 rfl) ?_
    refine lv_iconst (v := (1 : Int32)) hx hb dX0_best_9 (by decide) ?_
    refine lv_bipush (v := (60 : Int32)) hx hb dX0_best_10 (by decide) ?_
    refine zw_goZ (rest := []) hw hf (fun r hr => va_runS (As := [.int i2, .int (1 : Int32), .int (60 : Int32)]) (rest := []) X.1 (mt_X0_isIn l D A r1.2 i2 (1 : Int32) (60 : Int32) r hr) (va_cwS 3 hts (lw_S q339 q340 q81 q341) rfl rfl rfl cd_X0_isIn ⟨Nat.le_of_ble_eq_true rfl, Nat.le_of_ble_eq_true rfl⟩) (zpreS X hw _) rfl rfl hl.1 rfl (lv_room (Nat.le_of_ble_eq_true rfl)) dX0_best_12 ⟨Nat.le_of_ble_eq_true rfl, Nat.le_of_ble_eq_true rfl⟩) (fun r2 H locs hf hw => ?_)
    refine zw_if_eq (tgt := 27) hx hb hf dX0_best_15 (by decide) (fun hf => ?_) (fun hf => ?_)
    · refine lv_ldc (v := (-1000000001 : Int32)) hx hb hown (hts _ q342) dX0_best_27 ?_
      exact zw_iret X hw hf (Nat.le_of_ble_eq_true rfl) (Nat.le_of_ble_eq_true rfl) dX0_best_29
    · refine lv_iload_n hx hb dX0_best_18 rfl (lv_at hl 3 rfl) ?_
      refine lv_iconst (v := (0 : Int32)) hx hb dX0_best_19 (by decide) ?_
      refine lv_iconst (v := (1 : Int32)) hx hb dX0_best_20 (by decide) ?_
      refine zw_goZ (rest := []) hw hf (fun r hr => va_runS (As := [.int i3, .int (0 : Int32), .int (1 : Int32)]) (rest := []) X.1 (mt_X0_isIn l D A r2.2 i3 (0 : Int32) (1 : Int32) r hr) (va_cwS 3 hts (lw_S q339 q340 q81 q341) rfl rfl rfl cd_X0_isIn ⟨Nat.le_of_ble_eq_true rfl, Nat.le_of_ble_eq_true rfl⟩) (zpreS X hw _) rfl rfl hl.1 rfl (lv_room (Nat.le_of_ble_eq_true rfl)) dX0_best_21 ⟨Nat.le_of_ble_eq_true rfl, Nat.le_of_ble_eq_true rfl⟩) (fun r3 H locs hf hw => ?_)
      refine zw_if_ne (tgt := 30) hx hb hf dX0_best_24 (by decide) (fun hf => ?_) (fun hf => ?_)
      · refine lv_aload_n hx hb dX0_best_30 rfl (lv_at hl 0 rfl) ?_
        refine zw_kC hf (fun fs hfs hf => ?_)
        refine zw_goV (rest := []) hw hf (fun r hr => va_runV (C := RX0) (As := []) (rest := []) X.1 (mt_X0_thinks l D A r3.2 a0 r hr) (cwV 0 hts (lw_V q994 q996 qs31 q81 q997) rfl rfl rfl ⟨rfl, cd_X0_thinks⟩ ⟨Nat.le_of_ble_eq_true rfl, Nat.le_of_ble_eq_true rfl⟩) (zpreV (ci := 0) X hw hfs rfl _) rfl rfl hl.1 rfl (lv_room (Nat.le_of_ble_eq_true rfl)) dX0_best_31 ⟨Nat.le_of_ble_eq_true rfl, Nat.le_of_ble_eq_true rfl⟩) (fun r4 H locs hf hw => ?_)
        refine lv_iconst (v := (-1 : Int32)) hx hb dX0_best_34 (by decide) ?_
        refine lv_istore (lv' := [(4, .int (-1 : Int32)), (0, .ref a0), (1, .int i1), (2, .int i2), (3, .int i3)]) hx hb dX0_best_35 hl (by decide) rfl (fun ls hl => ?_)
        refine lv_iconst (v := (-1 : Int32)) hx hb dX0_best_37 (by decide) ?_
        refine lv_istore (lv' := [(5, .int (-1 : Int32)), (4, .int (-1 : Int32)), (0, .ref a0), (1, .int i1), (2, .int i2), (3, .int i3)]) hx hb dX0_best_38 hl (by decide) rfl (fun ls hl => ?_)
        refine lv_iconst (v := (0 : Int32)) hx hb dX0_best_40 (by decide) ?_
        refine lv_istore (lv' := [(6, .int (0 : Int32)), (5, .int (-1 : Int32)), (4, .int (-1 : Int32)), (0, .ref a0), (1, .int i1), (2, .int i2), (3, .int i3)]) hx hb dX0_best_41 hl (by decide) rfl (fun ls hl => ?_)
        refine W.widen (k := 10) (n := 50) (by omega) (by omega) ?_
        exact k_X0_best_43 X _ 17 10 50 (by omega) (by omega) r4 a0 i1 i2 i3 (-1 : Int32) (-1 : Int32) (0 : Int32) _ _ _ hf hw (lv_sub hl [3, 4, 5, 6, 2, 1, 0] rfl)
      · refine lv_ldc (v := (-1000000001 : Int32)) hx hb hown (hts _ q342) dX0_best_27 ?_
        exact zw_iret X hw hf (Nat.le_of_ble_eq_true rfl) (Nat.le_of_ble_eq_true rfl) dX0_best_29
set_option maxHeartbeats 4000000 in
theorem k_X0_taught_112 {p : Program} {l : Launch} {e : Env} {s : State} {m : MethodId} {args : Array Value} {below : List Frame} {meth : Method} {c : Code} {D : va_G} {A : Nat → Prop} (X : zCx p s m args meth c D A (zEv A) cX0_taught 7 RX0 (Option.some FieldType.int)) (res : Int32 × zT) (cb sb : Nat) (hcb : cb + 10 ≤ 180) (hsb : sb + 50 ≤ 900) (K34 : zT → Nat → Int32 → Int32 → Int32 → Int32 → Int32 → Option (Int32 × zT)) (hK34 : ∀ (h : zT) (a0 : Nat) (i1 : Int32) (i2 : Int32) (i3 : Int32) (i4 : Int32) (i5 : Int32) (H : Heap) (locs : List Loc) (ls : Array Slot), K34 h a0 i1 i2 i3 i4 i5 = some res → zWh D A s H h locs → lv_has ls 7 [(0, .ref a0), (1, .int i1), (2, .int i2), (3, .int i3), (4, .int i4), (5, .int i5)] → W p l e rm_X0_taught s m args below meth c H locs (cb + 10) (sb + 50) (MQ below (zQW D A (some (.int res.1)) res.2) args s 180 900 A) (F0 m 34 ls [])) : ∀ (h : zT) (a0 : Nat) (i1 : Int32) (i2 : Int32) (i4 : Int32) (i5 : Int32) (i6 : Int32) (s0 : Int32) (H : Heap) (locs : List Loc) (ls : Array Slot), f_X0_taught_112 K34 h a0 i1 i2 i4 i5 i6 s0 = some res → zWh D A s H h locs → lv_has ls 7 [(0, .ref a0), (1, .int i1), (2, .int i2), (4, .int i4), (5, .int i5), (6, .int i6)] → W p l e rm_X0_taught s m args below meth c H locs (cb + 10) (sb + 50) (MQ below (zQW D A (some (.int res.1)) res.2) args s 180 900 A) (F0 m 112 ls [.int s0]) := by
  have hx := X.1.1
  have hb := X.1.2.1
  have hown := X.1.2.2.2.1
  have hts := X.1.2.2.2.2
  have hN := X.2.2.2.2.2.2.1
  have hDW := X.2.2.2.2.2.2.2.1
  have hAO := X.2.2.2.2.2.2.2.2.1
  have hNC := X.2.2.2.2.2.2.2.2.2.1
  intro h a0 i1 i2 i4 i5 i6 s0 H locs ls hf hw hl
  unfold f_X0_taught_112 at hf
  refine lv_istore_n (lv' := [(3, .int s0), (0, .ref a0), (1, .int i1), (2, .int i2), (4, .int i4), (5, .int i5), (6, .int i6)]) hx hb dX0_taught_112 rfl hl (by decide) rfl (fun ls hl => ?_)
  refine lv_iload hx hb dX0_taught_113 (lv_at hl 4 rfl) ?_
  refine lv_iload hx hb dX0_taught_115 (lv_at hl 6 rfl) ?_
  refine va_mmax (rest := []) hx hb (by rw [X.1.2.2.1]; exact hl.1.symm) hown (hts _ q702) (hts _ q703) (hts _ q96) (hts _ q704) (Nat.le_of_ble_eq_true rfl) (Nat.le_of_ble_eq_true rfl) (by show _ ≤ (180 : Nat); omega) (by show _ ≤ (900 : Nat); omega) dX0_taught_117 ?_
  refine zw_nmI hf (fun v1 hf => ?_)
  refine lv_istore (lv' := [(4, .int v1), (3, .int s0), (0, .ref a0), (1, .int i1), (2, .int i2), (5, .int i5), (6, .int i6)]) hx hb dX0_taught_120 hl (by decide) rfl (fun ls hl => ?_)
  refine zw_nmS hf (fun v2 ev2 hf => ?_)
  refine lv_iinc (k := 5) (v := v2) (lv' := [(5, .int v2), (4, .int v1), (3, .int s0), (0, .ref a0), (1, .int i1), (2, .int i2), (6, .int i6)]) hx hb dX0_taught_122 hl rfl (by rw [ev2]; rfl) (by decide) rfl (fun ls hl => ?_)
  refine lv_goto (tgt := 34) hx hb dX0_taught_125 (by decide) ?_
  refine W.widen (k := cb + 10) (n := sb + 50) (by omega) (by omega) ?_
  exact hK34 h a0 i1 i2 s0 v1 v2 _ _ _ hf hw (lv_sub hl [3, 4, 5, 2, 1, 0] rfl)
set_option maxHeartbeats 4000000 in
theorem k_X0_taught_80 {p : Program} {l : Launch} {e : Env} {s : State} {m : MethodId} {args : Array Value} {below : List Frame} {meth : Method} {c : Code} {D : va_G} {A : Nat → Prop} (X : zCx p s m args meth c D A (zEv A) cX0_taught 7 RX0 (Option.some FieldType.int)) (res : Int32 × zT) (cb sb : Nat) (hcb : cb + 10 ≤ 180) (hsb : sb + 50 ≤ 900) (K34 : zT → Nat → Int32 → Int32 → Int32 → Int32 → Int32 → Option (Int32 × zT)) (hK34 : ∀ (h : zT) (a0 : Nat) (i1 : Int32) (i2 : Int32) (i3 : Int32) (i4 : Int32) (i5 : Int32) (H : Heap) (locs : List Loc) (ls : Array Slot), K34 h a0 i1 i2 i3 i4 i5 = some res → zWh D A s H h locs → lv_has ls 7 [(0, .ref a0), (1, .int i1), (2, .int i2), (3, .int i3), (4, .int i4), (5, .int i5)] → W p l e rm_X0_taught s m args below meth c H locs (cb + 10) (sb + 50) (MQ below (zQW D A (some (.int res.1)) res.2) args s 180 900 A) (F0 m 34 ls [])) : ∀ (h : zT) (a0 : Nat) (i1 : Int32) (i2 : Int32) (i3 : Int32) (i4 : Int32) (i5 : Int32) (s0 : Int32) (s1 : Int32) (s2 : Nat) (H : Heap) (locs : List Loc) (ls : Array Slot), f_X0_taught_80 K34 h a0 i1 i2 i3 i4 i5 s0 s1 s2 = some res → zWh D A s H h locs → lv_has ls 7 [(0, .ref a0), (1, .int i1), (2, .int i2), (3, .int i3), (4, .int i4), (5, .int i5)] → W p l e rm_X0_taught s m args below meth c H locs (cb + 0) (sb + 0) (MQ below (zQW D A (some (.int res.1)) res.2) args s 180 900 A) (F0 m 80 ls [.int s0, .int s1, .ref s2]) := by
  have hx := X.1.1
  have hb := X.1.2.1
  have hown := X.1.2.2.2.1
  have hts := X.1.2.2.2.2
  have hN := X.2.2.2.2.2.2.1
  have hDW := X.2.2.2.2.2.2.2.1
  have hAO := X.2.2.2.2.2.2.2.2.1
  have hNC := X.2.2.2.2.2.2.2.2.2.1
  intro h a0 i1 i2 i3 i4 i5 s0 s1 s2 H locs ls hf hw hl
  unfold f_X0_taught_80 at hf
  refine zw_iastore X hw hf dX0_taught_80 (fun h1 H locs hf hw => ?_)
  refine lv_aload_n hx hb dX0_taught_81 rfl (lv_at hl 0 rfl) ?_
  refine lv_iload_n hx hb dX0_taught_82 rfl (lv_at hl 1 rfl) ?_
  refine zw_kC hf (fun fs hfs hf => ?_)
  refine zw_goV (rest := []) hw hf (fun r hr => va_runV (C := RX0) (As := [.int i1]) (rest := []) X.1 (mt_X0_goesOn l D A h1 a0 i1 r hr) (cwV 1 hts (lw_V q973 q975 qs29 q81 q976) rfl rfl rfl ⟨rfl, cd_X0_goesOn⟩ ⟨Nat.le_of_ble_eq_true rfl, Nat.le_of_ble_eq_true rfl⟩) (zpreV (ci := 0) X hw hfs rfl _) rfl rfl hl.1 rfl (lv_room (Nat.le_of_ble_eq_true rfl)) dX0_taught_83 ⟨by show _ ≤ (180 : Nat); omega, by show _ ≤ (900 : Nat); omega⟩) (fun r2 H locs hf hw => ?_)
  refine lv_aload_n hx hb dX0_taught_86 rfl (lv_at hl 0 rfl) ?_
  refine zw_getR X hw fs_X0_0 q252 rfl hf dX0_taught_87 (fun v3 hf => ?_)
  refine zw_kC hf (fun fs hfs hf => ?_)
  refine zw_goI (rest := []) hw hf (fun r hr => va_runV (C := RX1) (As := []) (rest := []) X.1 (mt_X1_trust l D A r2 v3 r hr) (cwV 0 hts (lw_V q986 q987 q988 q82 q989) rfl rfl rfl ⟨rfl, cd_X1_trust⟩ ⟨Nat.le_of_ble_eq_true rfl, Nat.le_of_ble_eq_true rfl⟩) (zpreV (ci := 1) X hw hfs rfl _) rfl rfl hl.1 rfl (lv_room (Nat.le_of_ble_eq_true rfl)) dX0_taught_90 ⟨by show _ ≤ (180 : Nat); omega, by show _ ≤ (900 : Nat); omega⟩) (fun r4 H locs hf hw => ?_)
  refine lv_istore (lv' := [(6, .int r4.1), (0, .ref a0), (1, .int i1), (2, .int i2), (3, .int i3), (4, .int i4), (5, .int i5)]) hx hb dX0_taught_93 hl (by decide) rfl (fun ls hl => ?_)
  refine lv_aload_n hx hb dX0_taught_95 rfl (lv_at hl 1 rfl) ?_
  refine zw_kC hf (fun fs hfs hf => ?_)
  refine zw_goV (rest := []) hw hf (fun r hr => va_runV (C := RX0) (As := []) (rest := []) X.1 (mt_X0_putsBack l D A r4.2 a0 r hr) (cwV 0 hts (lw_V q1043 q1045 qs32 q81 q1046) rfl rfl rfl ⟨rfl, cd_X0_putsBack⟩ ⟨Nat.le_of_ble_eq_true rfl, Nat.le_of_ble_eq_true rfl⟩) (zpreV (ci := 0) X hw hfs rfl _) rfl rfl hl.1 rfl (lv_room (Nat.le_of_ble_eq_true rfl)) dX0_taught_96 ⟨by show _ ≤ (180 : Nat); omega, by show _ ≤ (900 : Nat); omega⟩) (fun r5 H locs hf hw => ?_)
  refine lv_iload hx hb dX0_taught_99 (lv_at hl 0 rfl) ?_
  refine lv_iload hx hb dX0_taught_101 (lv_at hl 5 rfl) ?_
  refine zw_icmp_le (tgt := 111) hx hb hf dX0_taught_103 (by decide) (fun hf => ?_) (fun hf => ?_)
  · refine lv_iload_n hx hb dX0_taught_111 rfl (lv_at hl 4 rfl) ?_
    refine W.widen (k := cb + 10) (n := sb + 50) (by omega) (by omega) ?_
    exact k_X0_taught_112 X _ cb sb (by omega) (by omega) K34 hK34 r5 a0 i1 i2 i4 i5 r4.1 i3 _ _ _ hf hw (lv_sub hl [1, 2, 3, 5, 6, 0] rfl)
  · refine lv_iload hx hb dX0_taught_106 (lv_at hl 6 rfl) ?_
    refine lv_goto (tgt := 112) hx hb dX0_taught_108 (by decide) ?_
    refine W.widen (k := cb + 10) (n := sb + 50) (by omega) (by omega) ?_
    exact k_X0_taught_112 X _ cb sb (by omega) (by omega) K34 hK34 r5 a0 i1 i2 i4 i5 r4.1 i5 _ _ _ hf hw (lv_sub hl [1, 2, 3, 5, 6, 0] rfl)
set_option maxHeartbeats 4000000 in
theorem k_X0_taught_34 {p : Program} {l : Launch} {e : Env} {s : State} {m : MethodId} {args : Array Value} {below : List Frame} {meth : Method} {c : Code} {D : va_G} {A : Nat → Prop} (X : zCx p s m args meth c D A (zEv A) cX0_taught 7 RX0 (Option.some FieldType.int)) (res : Int32 × zT) : ∀ (n cb sb : Nat), cb + n * 10 ≤ 180 → sb + n * 50 ≤ 900 → ∀ (h : zT) (a0 : Nat) (i1 : Int32) (i2 : Int32) (i3 : Int32) (i4 : Int32) (i5 : Int32) (H : Heap) (locs : List Loc) (ls : Array Slot), f_X0_taught_34 n h a0 i1 i2 i3 i4 i5 = some res → zWh D A s H h locs → lv_has ls 7 [(0, .ref a0), (1, .int i1), (2, .int i2), (3, .int i3), (4, .int i4), (5, .int i5)] → W p l e rm_X0_taught s m args below meth c H locs cb sb (MQ below (zQW D A (some (.int res.1)) res.2) args s 180 900 A) (F0 m 34 ls []) := by
  have hx := X.1.1
  have hb := X.1.2.1
  have hown := X.1.2.2.2.1
  have hts := X.1.2.2.2.2
  have hN := X.2.2.2.2.2.2.1
  have hDW := X.2.2.2.2.2.2.2.1
  have hAO := X.2.2.2.2.2.2.2.2.1
  have hNC := X.2.2.2.2.2.2.2.2.2.1
  intro n
  induction n with
  | zero =>
    intro cb sb hcb hsb h a0 i1 i2 i3 i4 i5 H locs ls hf hw hl
    cases hf
  | succ n ih =>
    intro cb sb hcb hsb h a0 i1 i2 i3 i4 i5 H locs ls hf hw hl
    unfold f_X0_taught_34 at hf
    refine lv_iload hx hb dX0_taught_34 (lv_at hl 5 rfl) ?_
    refine lv_bipush (v := (16 : Int32)) hx hb dX0_taught_36 (by decide) ?_
    refine zw_icmp_ge (tgt := 128) hx hb hf dX0_taught_38 (by decide) (fun hf => ?_) (fun hf => ?_)
    · refine lv_iload_n hx hb dX0_taught_128 rfl (lv_at hl 2 rfl) ?_
      refine zw_if_ne (tgt := 136) hx hb hf dX0_taught_129 (by decide) (fun hf => ?_) (fun hf => ?_)
      · refine lv_iload hx hb dX0_taught_136 (lv_at hl 4 rfl) ?_
        exact zw_iret X hw hf (by omega) (by omega) dX0_taught_138
      · refine lv_iload_n hx hb dX0_taught_132 rfl (lv_at hl 3 rfl) ?_
        refine lv_goto (tgt := 138) hx hb dX0_taught_133 (by decide) ?_
        exact zw_iret X hw hf (by omega) (by omega) dX0_taught_138
    · refine lv_aload_n hx hb dX0_taught_41 rfl (lv_at hl 0 rfl) ?_
      refine zw_getR X hw fs_X0_0 q252 rfl hf dX0_taught_42 (fun v1 hf => ?_)
      refine zw_getRN X hw fs_X1_3 (hN _ nq133) rfl hf dX0_taught_45 (fun v2 hf => ?_)
      refine lv_iload hx hb dX0_taught_48 (lv_at hl 5 rfl) ?_
      refine lv_aload_n hx hb dX0_taught_50 rfl (lv_at hl 0 rfl) ?_
      refine zw_getR X hw fs_X0_0 q252 rfl hf dX0_taught_51 (fun v3 hf => ?_)
      refine zw_getRN X hw fs_X1_3 (hN _ nq133) rfl hf dX0_taught_54 (fun v4 hf => ?_)
      refine lv_iload hx hb dX0_taught_57 (lv_at hl 5 rfl) ?_
      refine zw_ialoadR X hw hf dX0_taught_59 (fun v5 hf => ?_)
      refine lv_iconst (v := (3 : Int32)) hx hb dX0_taught_60 (by decide) ?_
      refine zw_icmp_ne (tgt := 68) hx hb hf dX0_taught_61 (by decide) (fun hf => ?_) (fun hf => ?_)
      · refine lv_aload_n hx hb dX0_taught_68 rfl (lv_at hl 0 rfl) ?_
        refine zw_getR X hw fs_X0_0 q252 rfl hf dX0_taught_69 (fun v6 hf => ?_)
        refine zw_getRN X hw fs_X1_3 (hN _ nq133) rfl hf dX0_taught_72 (fun v7 hf => ?_)
        refine lv_iload hx hb dX0_taught_75 (lv_at hl 5 rfl) ?_
        refine zw_ialoadR X hw hf dX0_taught_77 (fun v8 hf => ?_)
        refine lv_iconst (v := (1 : Int32)) hx hb dX0_taught_78 (by decide) ?_
        refine lv_iadd hx hb dX0_taught_79 ?_
        refine W.widen (k := cb + 0) (n := sb + 0) (by omega) (by omega) ?_
        exact k_X0_taught_80 X _ cb sb (by omega) (by omega) (f_X0_taught_34 n) (fun h a0 i1 i2 i3 i4 i5 H locs ls hf hw hl => ih (cb + 10) (sb + 50) (by omega) (by omega) h a0 i1 i2 i3 i4 i5 H locs ls hf hw hl) h a0 i1 i2 i3 i4 i5 (v8 + (1 : Int32)) i5 v2 _ _ _ hf hw (lv_sub hl [0, 1, 2, 3, 4, 5] rfl)
      · refine lv_iconst (v := (0 : Int32)) hx hb dX0_taught_64 (by decide) ?_
        refine lv_goto (tgt := 80) hx hb dX0_taught_65 (by decide) ?_
        refine W.widen (k := cb + 0) (n := sb + 0) (by omega) (by omega) ?_
        exact k_X0_taught_80 X _ cb sb (by omega) (by omega) (f_X0_taught_34 n) (fun h a0 i1 i2 i3 i4 i5 H locs ls hf hw hl => ih (cb + 10) (sb + 50) (by omega) (by omega) h a0 i1 i2 i3 i4 i5 H locs ls hf hw hl) h a0 i1 i2 i3 i4 i5 (0 : Int32) i5 v2 _ _ _ hf hw (lv_sub hl [0, 1, 2, 3, 4, 5] rfl)
set_option maxHeartbeats 4000000 in
theorem mt_X0_taught (l : Launch) (D : va_G) (A : Nat → Prop) (h : zT) (a0 : Nat) (i1 : Int32) (i2 : Int32) (res : Int32 × zT) (hf : f_X0_taught h a0 i1 i2 = some res) : Met l yX0_taught (ws_ yX0_taught cX0_taught 7 (Option.some FieldType.int)) rm_X0_taught (zPW D A (zEv A) h [.ref a0, .int i1, .int i2]) (zQW D A (some (.int res.1)) res.2) 180 900 A := by
  refine zmt (zEv_ok A) (by decide) (Nat.le_of_ble_eq_true rfl) ?_
  intro p e s m below meth c ls hmn X hw hl
  have hl : lv_has ls 7 [(0, .ref a0), (1, .int i1), (2, .int i2)] := hl
  have hx := X.1.1
  have hb := X.1.2.1
  have hown := X.1.2.2.2.1
  have hts := X.1.2.2.2.2
  have hN := X.2.2.2.2.2.2.1
  have hDW := X.2.2.2.2.2.2.2.1
  have hAO := X.2.2.2.2.2.2.2.2.1
  have hNC := X.2.2.2.2.2.2.2.2.2.1
  unfold f_X0_taught at hf
  refine lv_iload_n hx hb dX0_taught_0 rfl (lv_at hl 1 rfl) ?_
  refine lv_iconst (v := (1 : Int32)) hx hb dX0_taught_1 (by decide) ?_
  refine lv_bipush (v := (60 : Int32)) hx hb dX0_taught_2 (by decide) ?_
  refine zw_goZ (rest := []) hw hf (fun r hr => va_runS (As := [.int i1, .int (1 : Int32), .int (60 : Int32)]) (rest := []) X.1 (mt_X0_isIn l D A h i1 (1 : Int32) (60 : Int32) r hr) (va_cwS 3 hts (lw_S q339 q340 q81 q341) rfl rfl rfl cd_X0_isIn ⟨Nat.le_of_ble_eq_true rfl, Nat.le_of_ble_eq_true rfl⟩) (zpreS X hw _) rfl rfl hl.1 rfl (lv_room (Nat.le_of_ble_eq_true rfl)) dX0_taught_4 ⟨Nat.le_of_ble_eq_true rfl, Nat.le_of_ble_eq_true rfl⟩) (fun r1 H locs hf hw => ?_)
  refine zw_if_eq (tgt := 19) hx hb hf dX0_taught_7 (by decide) (fun hf => ?_) (fun hf => ?_)
  · refine lv_ldc (v := (-1000000001 : Int32)) hx hb hown (hts _ q342) dX0_taught_19 ?_
    exact zw_iret X hw hf (Nat.le_of_ble_eq_true rfl) (Nat.le_of_ble_eq_true rfl) dX0_taught_21
  · refine lv_iload_n hx hb dX0_taught_10 rfl (lv_at hl 2 rfl) ?_
    refine lv_iconst (v := (0 : Int32)) hx hb dX0_taught_11 (by decide) ?_
    refine lv_iconst (v := (1 : Int32)) hx hb dX0_taught_12 (by decide) ?_
    refine zw_goZ (rest := []) hw hf (fun r hr => va_runS (As := [.int i2, .int (0 : Int32), .int (1 : Int32)]) (rest := []) X.1 (mt_X0_isIn l D A r1.2 i2 (0 : Int32) (1 : Int32) r hr) (va_cwS 3 hts (lw_S q339 q340 q81 q341) rfl rfl rfl cd_X0_isIn ⟨Nat.le_of_ble_eq_true rfl, Nat.le_of_ble_eq_true rfl⟩) (zpreS X hw _) rfl rfl hl.1 rfl (lv_room (Nat.le_of_ble_eq_true rfl)) dX0_taught_13 ⟨Nat.le_of_ble_eq_true rfl, Nat.le_of_ble_eq_true rfl⟩) (fun r2 H locs hf hw => ?_)
    refine zw_if_ne (tgt := 22) hx hb hf dX0_taught_16 (by decide) (fun hf => ?_) (fun hf => ?_)
    · refine lv_aload_n hx hb dX0_taught_22 rfl (lv_at hl 0 rfl) ?_
      refine zw_kC hf (fun fs hfs hf => ?_)
      refine zw_goV (rest := []) hw hf (fun r hr => va_runV (C := RX0) (As := []) (rest := []) X.1 (mt_X0_thinks l D A r2.2 a0 r hr) (cwV 0 hts (lw_V q994 q996 qs31 q81 q997) rfl rfl rfl ⟨rfl, cd_X0_thinks⟩ ⟨Nat.le_of_ble_eq_true rfl, Nat.le_of_ble_eq_true rfl⟩) (zpreV (ci := 0) X hw hfs rfl _) rfl rfl hl.1 rfl (lv_room (Nat.le_of_ble_eq_true rfl)) dX0_taught_23 ⟨Nat.le_of_ble_eq_true rfl, Nat.le_of_ble_eq_true rfl⟩) (fun r3 H locs hf hw => ?_)
      refine lv_iconst (v := (-1 : Int32)) hx hb dX0_taught_26 (by decide) ?_
      refine lv_istore_n (lv' := [(3, .int (-1 : Int32)), (0, .ref a0), (1, .int i1), (2, .int i2)]) hx hb dX0_taught_27 rfl hl (by decide) rfl (fun ls hl => ?_)
      refine lv_iconst (v := (-1 : Int32)) hx hb dX0_taught_28 (by decide) ?_
      refine lv_istore (lv' := [(4, .int (-1 : Int32)), (3, .int (-1 : Int32)), (0, .ref a0), (1, .int i1), (2, .int i2)]) hx hb dX0_taught_29 hl (by decide) rfl (fun ls hl => ?_)
      refine lv_iconst (v := (0 : Int32)) hx hb dX0_taught_31 (by decide) ?_
      refine lv_istore (lv' := [(5, .int (0 : Int32)), (4, .int (-1 : Int32)), (3, .int (-1 : Int32)), (0, .ref a0), (1, .int i1), (2, .int i2)]) hx hb dX0_taught_32 hl (by decide) rfl (fun ls hl => ?_)
      refine W.widen (k := 10) (n := 50) (by omega) (by omega) ?_
      exact k_X0_taught_34 X _ 17 10 50 (by omega) (by omega) r3 a0 i1 i2 (-1 : Int32) (-1 : Int32) (0 : Int32) _ _ _ hf hw (lv_sub hl [3, 4, 5, 2, 1, 0] rfl)
    · refine lv_ldc (v := (-1000000001 : Int32)) hx hb hown (hts _ q342) dX0_taught_19 ?_
      exact zw_iret X hw hf (Nat.le_of_ble_eq_true rfl) (Nat.le_of_ble_eq_true rfl) dX0_taught_21
set_option maxHeartbeats 4000000 in
theorem mt_X0_fee (l : Launch) (D : va_G) (A : Nat → Prop) (h : zT) (a0 : Nat) (res : Int32 × zT) (hf : f_X0_fee h a0 = some res) : Met l yX0_fee (ws_ yX0_fee cX0_fee 2 (Option.some FieldType.int)) rm_X0_fee (zPW D A (zEv A) h [.ref a0]) (zQW D A (some (.int res.1)) res.2) 0 0 A := by
  refine zmt (zEv_ok A) (by decide) (Nat.le_of_ble_eq_true rfl) ?_
  intro p e s m below meth c ls hmn X hw hl
  have hl : lv_has ls 2 [(0, .ref a0)] := hl
  have hx := X.1.1
  have hb := X.1.2.1
  have hown := X.1.2.2.2.1
  have hts := X.1.2.2.2.2
  have hN := X.2.2.2.2.2.2.1
  have hDW := X.2.2.2.2.2.2.2.1
  have hAO := X.2.2.2.2.2.2.2.2.1
  have hNC := X.2.2.2.2.2.2.2.2.2.1
  unfold f_X0_fee at hf
  refine lv_aload_n hx hb dX0_fee_0 rfl (lv_at hl 0 rfl) ?_
  refine lv_iconst (v := (1 : Int32)) hx hb dX0_fee_1 (by decide) ?_
  refine zw_kC hf (fun fs hfs hf => ?_)
  refine zw_goI (rest := []) hw hf (fun r hr => va_runV (C := RX0) (As := [.int (1 : Int32)]) (rest := []) X.1 (mt_X0_counts l D A h a0 (1 : Int32) r hr) (cwV 1 hts (lw_V q514 q516 qs17 q81 q517) rfl rfl rfl ⟨rfl, cd_X0_counts⟩ ⟨Nat.le_of_ble_eq_true rfl, Nat.le_of_ble_eq_true rfl⟩) (zpreV (ci := 0) X hw hfs rfl _) rfl rfl hl.1 rfl (lv_room (Nat.le_of_ble_eq_true rfl)) dX0_fee_2 ⟨Nat.le_of_ble_eq_true rfl, Nat.le_of_ble_eq_true rfl⟩) (fun r1 H locs hf hw => ?_)
  refine lv_istore_n (lv' := [(1, .int r1.1), (0, .ref a0)]) hx hb dX0_fee_5 rfl hl (by decide) rfl (fun ls hl => ?_)
  refine lv_iload_n hx hb dX0_fee_6 rfl (lv_at hl 0 rfl) ?_
  refine lv_iconst (v := (-1 : Int32)) hx hb dX0_fee_7 (by decide) ?_
  refine zw_icmp_ne (tgt := 19) hx hb hf dX0_fee_8 (by decide) (fun hf => ?_) (fun hf => ?_)
  · refine lv_aload_n hx hb dX0_fee_19 rfl (lv_at hl 1 rfl) ?_
    refine zw_getR X hw fs_X0_16 q268 rfl hf dX0_fee_20 (fun v2 hf => ?_)
    refine lv_bipush (v := (110 : Int32)) hx hb dX0_fee_23 (by decide) ?_
    refine lv_aload_n hx hb dX0_fee_25 rfl (lv_at hl 1 rfl) ?_
    refine zw_getR X hw fs_X0_0 q252 rfl hf dX0_fee_26 (fun v3 hf => ?_)
    refine zw_getIN X hw fs_X1_5 (hN _ nq137) rfl hf dX0_fee_29 (fun v4 hf => ?_)
    refine zw_iastore X hw hf dX0_fee_32 (fun h5 H locs hf hw => ?_)
    refine lv_aload_n hx hb dX0_fee_33 rfl (lv_at hl 1 rfl) ?_
    refine zw_getR X hw fs_X0_16 q268 rfl hf dX0_fee_34 (fun v6 hf => ?_)
    refine lv_bipush (v := (102 : Int32)) hx hb dX0_fee_37 (by decide) ?_
    refine lv_aload_n hx hb dX0_fee_39 rfl (lv_at hl 1 rfl) ?_
    refine zw_getR X hw fs_X0_0 q252 rfl hf dX0_fee_40 (fun v7 hf => ?_)
    refine zw_getIN X hw fs_X1_4 (hN _ nq135) rfl hf dX0_fee_43 (fun v8 hf => ?_)
    refine zw_iastore X hw hf dX0_fee_46 (fun h9 H locs hf hw => ?_)
    refine lv_aload_n hx hb dX0_fee_47 rfl (lv_at hl 1 rfl) ?_
    refine lv_aload_n hx hb dX0_fee_48 rfl (lv_at hl 1 rfl) ?_
    refine zw_getR X hw fs_X0_0 q252 rfl hf dX0_fee_49 (fun v10 hf => ?_)
    refine zw_getRN X hw fs_X1_7 (hN _ nq141) rfl hf dX0_fee_52 (fun v11 hf => ?_)
    refine lv_iload_n hx hb dX0_fee_55 rfl (lv_at hl 0 rfl) ?_
    refine zw_aaloadR X hw hf dX0_fee_56 (fun v12 hf => ?_)
    refine zw_getRN X hw fs_X13_1 (hN _ nq496) rfl hf dX0_fee_57 (fun v13 hf => ?_)
    refine zw_kC hf (fun fs hfs hf => ?_)
    refine zw_goI (rest := []) hw hf (fun r hr => va_runV (C := RX0) (As := [.ref v13]) (rest := []) X.1 (mt_X0_reckon l D A h9 a0 v13 r hr) (cwV 1 hts (lw_V q689 q691 qs21 q81 q692) rfl rfl rfl ⟨rfl, cd_X0_reckon⟩ ⟨Nat.le_of_ble_eq_true rfl, Nat.le_of_ble_eq_true rfl⟩) (zpreV (ci := 0) X hw hfs rfl _) rfl rfl hl.1 rfl (lv_room (Nat.le_of_ble_eq_true rfl)) dX0_fee_60 ⟨Nat.le_of_ble_eq_true rfl, Nat.le_of_ble_eq_true rfl⟩) (fun r14 H locs hf hw => ?_)
    exact zw_iret X hw hf (Nat.le_of_ble_eq_true rfl) (Nat.le_of_ble_eq_true rfl) dX0_fee_63
  · refine lv_aload_n hx hb dX0_fee_11 rfl (lv_at hl 1 rfl) ?_
    refine zw_getR X hw fs_X0_0 q252 rfl hf dX0_fee_12 (fun v15 hf => ?_)
    refine zw_getIN X hw fs_X1_4 (hN _ nq135) rfl hf dX0_fee_15 (fun v16 hf => ?_)
    exact zw_iret X hw hf (Nat.le_of_ble_eq_true rfl) (Nat.le_of_ble_eq_true rfl) dX0_fee_18
set_option maxHeartbeats 4000000 in
theorem mt_X0_fine (l : Launch) (D : va_G) (A : Nat → Prop) (h : zT) (a0 : Nat) (i1 : Int32) (res : Int32 × zT) (hf : f_X0_fine h a0 i1 = some res) : Met l yX0_fine (ws_ yX0_fine cX0_fine 4 (Option.some FieldType.int)) rm_X0_fine (zPW D A (zEv A) h [.ref a0, .int i1]) (zQW D A (some (.int res.1)) res.2) 0 0 A := by
  refine zmt (zEv_ok A) (by decide) (Nat.le_of_ble_eq_true rfl) ?_
  intro p e s m below meth c ls hmn X hw hl
  have hl : lv_has ls 4 [(0, .ref a0), (1, .int i1)] := hl
  have hx := X.1.1
  have hb := X.1.2.1
  have hown := X.1.2.2.2.1
  have hts := X.1.2.2.2.2
  have hN := X.2.2.2.2.2.2.1
  have hDW := X.2.2.2.2.2.2.2.1
  have hAO := X.2.2.2.2.2.2.2.2.1
  have hNC := X.2.2.2.2.2.2.2.2.2.1
  unfold f_X0_fine at hf
  refine lv_aload_n hx hb dX0_fine_0 rfl (lv_at hl 0 rfl) ?_
  refine lv_iload_n hx hb dX0_fine_1 rfl (lv_at hl 1 rfl) ?_
  refine zw_kC hf (fun fs hfs hf => ?_)
  refine zw_goZ (rest := []) hw hf (fun r hr => va_runV (C := RX0) (As := [.int i1]) (rest := []) X.1 (mt_X0_isRubbing l D A h a0 i1 r hr) (cwV 1 hts (lw_V q629 q631 qs19 q81 q632) rfl rfl rfl ⟨rfl, cd_X0_isRubbing⟩ ⟨Nat.le_of_ble_eq_true rfl, Nat.le_of_ble_eq_true rfl⟩) (zpreV (ci := 0) X hw hfs rfl _) rfl rfl hl.1 rfl (lv_room (Nat.le_of_ble_eq_true rfl)) dX0_fine_2 ⟨Nat.le_of_ble_eq_true rfl, Nat.le_of_ble_eq_true rfl⟩) (fun r1 H locs hf hw => ?_)
  refine zw_if_ne (tgt := 11) hx hb hf dX0_fine_5 (by decide) (fun hf => ?_) (fun hf => ?_)
  · refine lv_aload_n hx hb dX0_fine_11 rfl (lv_at hl 0 rfl) ?_
    refine zw_getR X hw fs_X0_0 q252 rfl hf dX0_fine_12 (fun v2 hf => ?_)
    refine zw_getRN X hw fs_X1_2 (hN _ nq131) rfl hf dX0_fine_15 (fun v3 hf => ?_)
    refine lv_iload_n hx hb dX0_fine_18 rfl (lv_at hl 1 rfl) ?_
    refine zw_aaloadR X hw hf dX0_fine_19 (fun v4 hf => ?_)
    refine lv_astore_n (lv' := [(2, .ref v4), (0, .ref a0), (1, .int i1)]) hx hb dX0_fine_20 rfl hl (by decide) rfl (fun ls hl => ?_)
    refine lv_aload_n hx hb dX0_fine_21 rfl (lv_at hl 1 rfl) ?_
    refine lv_iconst (v := (2 : Int32)) hx hb dX0_fine_22 (by decide) ?_
    refine zw_kC hf (fun fs hfs hf => ?_)
    refine zw_goI (rest := []) hw hf (fun r hr => va_runV (C := RX0) (As := [.int (2 : Int32)]) (rest := []) X.1 (mt_X0_counts l D A r1.2 a0 (2 : Int32) r hr) (cwV 1 hts (lw_V q514 q516 qs17 q81 q517) rfl rfl rfl ⟨rfl, cd_X0_counts⟩ ⟨Nat.le_of_ble_eq_true rfl, Nat.le_of_ble_eq_true rfl⟩) (zpreV (ci := 0) X hw hfs rfl _) rfl rfl hl.1 rfl (lv_room (Nat.le_of_ble_eq_true rfl)) dX0_fine_23 ⟨Nat.le_of_ble_eq_true rfl, Nat.le_of_ble_eq_true rfl⟩) (fun r5 H locs hf hw => ?_)
    refine lv_istore_n (lv' := [(3, .int r5.1), (2, .ref v4), (0, .ref a0), (1, .int i1)]) hx hb dX0_fine_26 rfl hl (by decide) rfl (fun ls hl => ?_)
    refine lv_iload_n hx hb dX0_fine_27 rfl (lv_at hl 0 rfl) ?_
    refine lv_iconst (v := (-1 : Int32)) hx hb dX0_fine_28 (by decide) ?_
    refine zw_icmp_ne (tgt := 37) hx hb hf dX0_fine_29 (by decide) (fun hf => ?_) (fun hf => ?_)
    · refine lv_aload_n hx hb dX0_fine_37 rfl (lv_at hl 2 rfl) ?_
      refine zw_getR X hw fs_X0_16 q268 rfl hf dX0_fine_38 (fun v6 hf => ?_)
      refine lv_bipush (v := (116 : Int32)) hx hb dX0_fine_41 (by decide) ?_
      refine lv_aload_n hx hb dX0_fine_43 rfl (lv_at hl 1 rfl) ?_
      refine zw_getI X hw fs_X6_4 q556 rfl hf dX0_fine_44 (fun v7 hf => ?_)
      refine zw_iastore X hw hf dX0_fine_47 (fun h8 H locs hf hw => ?_)
      refine lv_aload_n hx hb dX0_fine_48 rfl (lv_at hl 2 rfl) ?_
      refine zw_getR X hw fs_X0_16 q268 rfl hf dX0_fine_49 (fun v9 hf => ?_)
      refine lv_bipush (v := (115 : Int32)) hx hb dX0_fine_52 (by decide) ?_
      refine lv_aload_n hx hb dX0_fine_54 rfl (lv_at hl 1 rfl) ?_
      refine zw_getI X hw fs_X6_1 q548 rfl hf dX0_fine_55 (fun v10 hf => ?_)
      refine zw_iastore X hw hf dX0_fine_58 (fun h11 H locs hf hw => ?_)
      refine lv_aload_n hx hb dX0_fine_59 rfl (lv_at hl 2 rfl) ?_
      refine lv_aload_n hx hb dX0_fine_60 rfl (lv_at hl 2 rfl) ?_
      refine zw_getR X hw fs_X0_0 q252 rfl hf dX0_fine_61 (fun v12 hf => ?_)
      refine zw_getRN X hw fs_X1_7 (hN _ nq141) rfl hf dX0_fine_64 (fun v13 hf => ?_)
      refine lv_iload_n hx hb dX0_fine_67 rfl (lv_at hl 0 rfl) ?_
      refine zw_aaloadR X hw hf dX0_fine_68 (fun v14 hf => ?_)
      refine zw_getRN X hw fs_X13_1 (hN _ nq496) rfl hf dX0_fine_69 (fun v15 hf => ?_)
      refine zw_kC hf (fun fs hfs hf => ?_)
      refine zw_goI (rest := []) hw hf (fun r hr => va_runV (C := RX0) (As := [.ref v15]) (rest := []) X.1 (mt_X0_reckon l D A h11 a0 v15 r hr) (cwV 1 hts (lw_V q689 q691 qs21 q81 q692) rfl rfl rfl ⟨rfl, cd_X0_reckon⟩ ⟨Nat.le_of_ble_eq_true rfl, Nat.le_of_ble_eq_true rfl⟩) (zpreV (ci := 0) X hw hfs rfl _) rfl rfl hl.1 rfl (lv_room (Nat.le_of_ble_eq_true rfl)) dX0_fine_72 ⟨Nat.le_of_ble_eq_true rfl, Nat.le_of_ble_eq_true rfl⟩) (fun r16 H locs hf hw => ?_)
      exact zw_iret X hw hf (Nat.le_of_ble_eq_true rfl) (Nat.le_of_ble_eq_true rfl) dX0_fine_75
    · refine lv_aload_n hx hb dX0_fine_32 rfl (lv_at hl 1 rfl) ?_
      refine zw_getI X hw fs_X6_4 q556 rfl hf dX0_fine_33 (fun v17 hf => ?_)
      exact zw_iret X hw hf (Nat.le_of_ble_eq_true rfl) (Nat.le_of_ble_eq_true rfl) dX0_fine_36
  · refine lv_ldc (v := (-1000000001 : Int32)) hx hb hown (hts _ q342) dX0_fine_8 ?_
    exact zw_iret X hw hf (Nat.le_of_ble_eq_true rfl) (Nat.le_of_ble_eq_true rfl) dX0_fine_10
set_option maxHeartbeats 4000000 in
theorem mt_X0_isSheet (l : Launch) (D : va_G) (A : Nat → Prop) (h : zT) (i0 : Int32) (res : Int32 × zT) (hf : f_X0_isSheet h i0 = some res) : Met l yX0_isSheet (ws_ yX0_isSheet cX0_isSheet 1 (Option.some FieldType.boolean)) rm_X0_isSheet (zPW D A (zEv A) h [.int i0]) (zQW D A (some (.int res.1)) res.2) 0 0 A := by
  refine zmt (zEv_ok A) (by decide) (Nat.le_of_ble_eq_true rfl) ?_
  intro p e s m below meth c ls hmn X hw hl
  have hl : lv_has ls 1 [(0, .int i0)] := hl
  have hx := X.1.1
  have hb := X.1.2.1
  have hown := X.1.2.2.2.1
  have hts := X.1.2.2.2.2
  have hN := X.2.2.2.2.2.2.1
  have hDW := X.2.2.2.2.2.2.2.1
  have hAO := X.2.2.2.2.2.2.2.2.1
  have hNC := X.2.2.2.2.2.2.2.2.2.1
  unfold f_X0_isSheet at hf
  refine lv_iload_n hx hb dX0_isSheet_0 rfl (lv_at hl 0 rfl) ?_
  refine lv_iconst (v := (0 : Int32)) hx hb dX0_isSheet_1 (by decide) ?_
  refine lv_iconst (v := (3 : Int32)) hx hb dX0_isSheet_2 (by decide) ?_
  refine zw_goZ (rest := []) hw hf (fun r hr => va_runS (As := [.int i0, .int (0 : Int32), .int (3 : Int32)]) (rest := []) X.1 (mt_X0_isIn l D A h i0 (0 : Int32) (3 : Int32) r hr) (va_cwS 3 hts (lw_S q339 q340 q81 q341) rfl rfl rfl cd_X0_isIn ⟨Nat.le_of_ble_eq_true rfl, Nat.le_of_ble_eq_true rfl⟩) (zpreS X hw _) rfl rfl hl.1 rfl (lv_room (Nat.le_of_ble_eq_true rfl)) dX0_isSheet_3 ⟨Nat.le_of_ble_eq_true rfl, Nat.le_of_ble_eq_true rfl⟩) (fun r1 H locs hf hw => ?_)
  exact zw_zret X hw hf (Nat.le_of_ble_eq_true rfl) (Nat.le_of_ble_eq_true rfl) dX0_isSheet_6
set_option maxHeartbeats 4000000 in
theorem mt_X0_rowOf (l : Launch) (D : va_G) (A : Nat → Prop) (h : zT) (i0 : Int32) (i1 : Int32) (res : Nat × zT) (hf : f_X0_rowOf h i0 i1 = some res) : Met l yX0_rowOf (ws_ yX0_rowOf cX0_rowOf 2 (Option.some (FieldType.object "java/lang/Object"))) rm_X0_rowOf (zPW D A (zEv A) h [.int i0, .int i1]) (zQW D A (some (.ref res.1)) res.2) 1 24 A := by
  refine zmt (zEv_ok A) (by decide) (Nat.le_of_ble_eq_true rfl) ?_
  intro p e s m below meth c ls hmn X hw hl
  have hl : lv_has ls 2 [(0, .int i0), (1, .int i1)] := hl
  have hx := X.1.1
  have hb := X.1.2.1
  have hown := X.1.2.2.2.1
  have hts := X.1.2.2.2.2
  have hN := X.2.2.2.2.2.2.1
  have hDW := X.2.2.2.2.2.2.2.1
  have hAO := X.2.2.2.2.2.2.2.2.1
  have hNC := X.2.2.2.2.2.2.2.2.2.1
  unfold f_X0_rowOf at hf
  refine lv_iload_n hx hb dX0_rowOf_0 rfl (lv_at hl 0 rfl) ?_
  refine zw_if_eq (tgt := 8) hx hb hf dX0_rowOf_1 (by decide) (fun hf => ?_) (fun hf => ?_)
  · refine lv_iload_n hx hb dX0_rowOf_8 rfl (lv_at hl 1 rfl) ?_
    refine zw_len hf (fun hlen hf => ?_)
    refine zw_news X hw q1092 hf rfl (zb_bytes hlen (by decide)) (Nat.le_of_ble_eq_true rfl) (by show _ ≤ (24 : Nat); omega) dX0_rowOf_9 (fun r1 H hf hw => ?_)
    refine W.widen (k := 1) (n := 24) (Nat.le_refl _) (by omega) ?_
    exact zw_aretR X (Or.inl ⟨_, rfl⟩) hw hf (Nat.le_of_ble_eq_true rfl) (Nat.le_of_ble_eq_true rfl) dX0_rowOf_11
  · refine lv_iload_n hx hb dX0_rowOf_4 rfl (lv_at hl 1 rfl) ?_
    refine zw_len hf (fun hlen hf => ?_)
    refine zw_newf X hw q325 hf rfl (zb_bytes hlen (by decide)) (Nat.le_of_ble_eq_true rfl) (by show _ ≤ (24 : Nat); omega) dX0_rowOf_5 (fun r2 H hf hw => ?_)
    refine W.widen (k := 1) (n := 24) (Nat.le_refl _) (by omega) ?_
    exact zw_aretR X (Or.inl ⟨_, rfl⟩) hw hf (Nat.le_of_ble_eq_true rfl) (Nat.le_of_ble_eq_true rfl) dX0_rowOf_7
set_option maxHeartbeats 4000000 in
theorem mt_X0_markIn (l : Launch) (D : va_G) (A : Nat → Prop) (h : zT) (a0 : Nat) (i1 : Int32) (i2 : Int32) (res : Int32 × zT) (hf : f_X0_markIn h a0 i1 i2 = some res) : Met l yX0_markIn (ws_ yX0_markIn cX0_markIn 3 (Option.some FieldType.int)) rm_X0_markIn (zPW D A (zEv A) h [.ref a0, .int i1, .int i2]) (zQW D A (some (.int res.1)) res.2) 0 0 A := by
  refine zmt (zEv_ok A) (by decide) (Nat.le_of_ble_eq_true rfl) ?_
  intro p e s m below meth c ls hmn X hw hl
  have hl : lv_has ls 3 [(0, .ref a0), (1, .int i1), (2, .int i2)] := hl
  have hx := X.1.1
  have hb := X.1.2.1
  have hown := X.1.2.2.2.1
  have hts := X.1.2.2.2.2
  have hN := X.2.2.2.2.2.2.1
  have hDW := X.2.2.2.2.2.2.2.1
  have hAO := X.2.2.2.2.2.2.2.2.1
  have hNC := X.2.2.2.2.2.2.2.2.2.1
  unfold f_X0_markIn at hf
  refine lv_iload_n hx hb dX0_markIn_0 rfl (lv_at hl 2 rfl) ?_
  refine lv_ldc (v := (-1000000005 : Int32)) hx hb hown (hts _ q521) dX0_markIn_1 ?_
  refine zw_icmp_ne (tgt := 31) hx hb hf dX0_markIn_3 (by decide) (fun hf => ?_) (fun hf => ?_)
  · refine lv_aload_n hx hb dX0_markIn_31 rfl (lv_at hl 0 rfl) ?_
    refine zw_kC hf (fun fs hfs hf => ?_)
    refine zw_goZ (rest := []) hw hf (fun r hr => va_runV (C := RX3) (As := []) (rest := []) X.1 (mt_X3_isFloats l D A h a0 r hr) (cwV 0 hts (lw_V q1115 q1107 q1108 q87 q1109) rfl rfl rfl ⟨rfl, cd_X3_isFloats⟩ ⟨Nat.le_of_ble_eq_true rfl, Nat.le_of_ble_eq_true rfl⟩) (zpreV (ci := 3) X hw hfs rfl _) rfl rfl hl.1 rfl (lv_room (Nat.le_of_ble_eq_true rfl)) dX0_markIn_32 ⟨Nat.le_of_ble_eq_true rfl, Nat.le_of_ble_eq_true rfl⟩) (fun r1 H locs hf hw => ?_)
    refine zw_if_eq (tgt := 54) hx hb hf dX0_markIn_35 (by decide) (fun hf => ?_) (fun hf => ?_)
    · refine lv_aload_n hx hb dX0_markIn_54 rfl (lv_at hl 0 rfl) ?_
      refine lv_iload_n hx hb dX0_markIn_55 rfl (lv_at hl 1 rfl) ?_
      refine lv_iload_n hx hb dX0_markIn_56 rfl (lv_at hl 2 rfl) ?_
      refine zw_kC hf (fun fs hfs hf => ?_)
      refine zw_goV (rest := []) hw hf (fun r hr => va_runV (C := RX3) (As := [.int i1, .int i2]) (rest := []) X.1 (mt_X3_put l D A r1.2 a0 i1 i2 r hr) (cwV 2 hts (lw_V q1119 q1120 q1121 q87 q1122) rfl rfl rfl ⟨rfl, cd_X3_put⟩ ⟨Nat.le_of_ble_eq_true rfl, Nat.le_of_ble_eq_true rfl⟩) (zpreV (ci := 3) X hw hfs rfl _) rfl rfl hl.1 rfl (lv_room (Nat.le_of_ble_eq_true rfl)) dX0_markIn_57 ⟨Nat.le_of_ble_eq_true rfl, Nat.le_of_ble_eq_true rfl⟩) (fun r2 H locs hf hw => ?_)
      refine lv_iconst (v := (1 : Int32)) hx hb dX0_markIn_60 (by decide) ?_
      exact zw_iret X hw hf (Nat.le_of_ble_eq_true rfl) (Nat.le_of_ble_eq_true rfl) dX0_markIn_61
    · refine lv_iload_n hx hb dX0_markIn_38 rfl (lv_at hl 2 rfl) ?_
      refine lv_ldcw (v := (-99999 : Int32)) hx hb hown (hts _ q1118) dX0_markIn_39 ?_
      refine lv_ldcw (v := (99999 : Int32)) hx hb hown (hts _ q891) dX0_markIn_42 ?_
      refine zw_goZ (rest := []) hw hf (fun r hr => va_runS (As := [.int i2, .int (-99999 : Int32), .int (99999 : Int32)]) (rest := []) X.1 (mt_X0_isIn l D A r1.2 i2 (-99999 : Int32) (99999 : Int32) r hr) (va_cwS 3 hts (lw_S q339 q340 q81 q341) rfl rfl rfl cd_X0_isIn ⟨Nat.le_of_ble_eq_true rfl, Nat.le_of_ble_eq_true rfl⟩) (zpreS X hw _) rfl rfl hl.1 rfl (lv_room (Nat.le_of_ble_eq_true rfl)) dX0_markIn_45 ⟨Nat.le_of_ble_eq_true rfl, Nat.le_of_ble_eq_true rfl⟩) (fun r3 H locs hf hw => ?_)
      refine zw_if_ne (tgt := 54) hx hb hf dX0_markIn_48 (by decide) (fun hf => ?_) (fun hf => ?_)
      · refine lv_aload_n hx hb dX0_markIn_54 rfl (lv_at hl 0 rfl) ?_
        refine lv_iload_n hx hb dX0_markIn_55 rfl (lv_at hl 1 rfl) ?_
        refine lv_iload_n hx hb dX0_markIn_56 rfl (lv_at hl 2 rfl) ?_
        refine zw_kC hf (fun fs hfs hf => ?_)
        refine zw_goV (rest := []) hw hf (fun r hr => va_runV (C := RX3) (As := [.int i1, .int i2]) (rest := []) X.1 (mt_X3_put l D A r3.2 a0 i1 i2 r hr) (cwV 2 hts (lw_V q1119 q1120 q1121 q87 q1122) rfl rfl rfl ⟨rfl, cd_X3_put⟩ ⟨Nat.le_of_ble_eq_true rfl, Nat.le_of_ble_eq_true rfl⟩) (zpreV (ci := 3) X hw hfs rfl _) rfl rfl hl.1 rfl (lv_room (Nat.le_of_ble_eq_true rfl)) dX0_markIn_57 ⟨Nat.le_of_ble_eq_true rfl, Nat.le_of_ble_eq_true rfl⟩) (fun r4 H locs hf hw => ?_)
        refine lv_iconst (v := (1 : Int32)) hx hb dX0_markIn_60 (by decide) ?_
        exact zw_iret X hw hf (Nat.le_of_ble_eq_true rfl) (Nat.le_of_ble_eq_true rfl) dX0_markIn_61
      · refine lv_ldc (v := (-1000000001 : Int32)) hx hb hown (hts _ q342) dX0_markIn_51 ?_
        exact zw_iret X hw hf (Nat.le_of_ble_eq_true rfl) (Nat.le_of_ble_eq_true rfl) dX0_markIn_53
  · refine lv_aload_n hx hb dX0_markIn_6 rfl (lv_at hl 0 rfl) ?_
    refine zw_kC hf (fun fs hfs hf => ?_)
    refine zw_goZ (rest := []) hw hf (fun r hr => va_runV (C := RX3) (As := []) (rest := []) X.1 (mt_X3_isFloats l D A h a0 r hr) (cwV 0 hts (lw_V q1115 q1107 q1108 q87 q1109) rfl rfl rfl ⟨rfl, cd_X3_isFloats⟩ ⟨Nat.le_of_ble_eq_true rfl, Nat.le_of_ble_eq_true rfl⟩) (zpreV (ci := 3) X hw hfs rfl _) rfl rfl hl.1 rfl (lv_room (Nat.le_of_ble_eq_true rfl)) dX0_markIn_7 ⟨Nat.le_of_ble_eq_true rfl, Nat.le_of_ble_eq_true rfl⟩) (fun r5 H locs hf hw => ?_)
    refine zw_if_ne (tgt := 17) hx hb hf dX0_markIn_10 (by decide) (fun hf => ?_) (fun hf => ?_)
    · refine lv_aload_n hx hb dX0_markIn_17 rfl (lv_at hl 0 rfl) ?_
      refine zw_getQN X hw fs_X3_0 (hN _ nq236) rfl hf dX0_markIn_18 (fun v6 hf => ?_)
      refine zw_nn hf (fun b7 e9 hf9 => ?_)
      subst e9
      have hf := hf9
      refine zw_castA (t := .float) X hw q1116 znm_F hf dX0_markIn_21 (fun hf => ?_)
      refine lv_iload_n hx hb dX0_markIn_24 rfl (lv_at hl 1 rfl) ?_
      refine zw_ldcwF (v := (2143289344 : UInt32)) hx hb hown (hts _ q1117) dX0_markIn_25 ?_
      refine zw_fastore X hw hf dX0_markIn_28 (fun h8 H locs hf hw => ?_)
      refine lv_iconst (v := (1 : Int32)) hx hb dX0_markIn_29 (by decide) ?_
      exact zw_iret X hw hf (Nat.le_of_ble_eq_true rfl) (Nat.le_of_ble_eq_true rfl) dX0_markIn_30
    · refine lv_ldcw (v := (-1000000012 : Int32)) hx hb hown (hts _ q828) dX0_markIn_13 ?_
      exact zw_iret X hw hf (Nat.le_of_ble_eq_true rfl) (Nat.le_of_ble_eq_true rfl) dX0_markIn_16
set_option maxHeartbeats 4000000 in
theorem mt_X0_mark (l : Launch) (D : va_G) (A : Nat → Prop) (h : zT) (a0 : Nat) (i1 : Int32) (i2 : Int32) (i3 : Int32) (res : Int32 × zT) (hf : f_X0_mark h a0 i1 i2 i3 = some res) : Met l yX0_mark (ws_ yX0_mark cX0_mark 5 (Option.some FieldType.int)) rm_X0_mark (zPW D A (zEv A) h [.ref a0, .int i1, .int i2, .int i3]) (zQW D A (some (.int res.1)) res.2) 0 0 A := by
  refine zmt (zEv_ok A) (by decide) (Nat.le_of_ble_eq_true rfl) ?_
  intro p e s m below meth c ls hmn X hw hl
  have hl : lv_has ls 5 [(0, .ref a0), (1, .int i1), (2, .int i2), (3, .int i3)] := hl
  have hx := X.1.1
  have hb := X.1.2.1
  have hown := X.1.2.2.2.1
  have hts := X.1.2.2.2.2
  have hN := X.2.2.2.2.2.2.1
  have hDW := X.2.2.2.2.2.2.2.1
  have hAO := X.2.2.2.2.2.2.2.2.1
  have hNC := X.2.2.2.2.2.2.2.2.2.1
  unfold f_X0_mark at hf
  refine lv_iload_n hx hb dX0_mark_0 rfl (lv_at hl 1 rfl) ?_
  refine zw_goZ (rest := []) hw hf (fun r hr => va_runS (As := [.int i1]) (rest := []) X.1 (mt_X0_isSheet l D A h i1 r hr) (va_cwS 1 hts (lw_S q1085 q1086 q81 q1087) rfl rfl rfl cd_X0_isSheet ⟨Nat.le_of_ble_eq_true rfl, Nat.le_of_ble_eq_true rfl⟩) (zpreS X hw _) rfl rfl hl.1 rfl (lv_room (Nat.le_of_ble_eq_true rfl)) dX0_mark_1 ⟨Nat.le_of_ble_eq_true rfl, Nat.le_of_ble_eq_true rfl⟩) (fun r1 H locs hf hw => ?_)
  refine zw_if_ne (tgt := 10) hx hb hf dX0_mark_4 (by decide) (fun hf => ?_) (fun hf => ?_)
  · refine lv_aload_n hx hb dX0_mark_10 rfl (lv_at hl 0 rfl) ?_
    refine zw_getR X hw fs_X0_18 q270 rfl hf dX0_mark_11 (fun v2 hf => ?_)
    refine lv_iload_n hx hb dX0_mark_14 rfl (lv_at hl 1 rfl) ?_
    refine zw_aaloadR X hw hf dX0_mark_15 (fun v3 hf => ?_)
    refine lv_astore (lv' := [(4, .ref v3), (0, .ref a0), (1, .int i1), (2, .int i2), (3, .int i3)]) hx hb dX0_mark_16 hl (by decide) rfl (fun ls hl => ?_)
    refine lv_aload hx hb dX0_mark_18 (lv_at hl 0 rfl) ?_
    refine zw_kC hf (fun fs hfs hf => ?_)
    refine zw_goZ (rest := []) hw hf (fun r hr => va_runV (C := RX3) (As := []) (rest := []) X.1 (mt_X3_isThere l D A r1.2 v3 r hr) (cwV 0 hts (lw_V q1097 q1098 q1099 q87 q1100) rfl rfl rfl ⟨rfl, cd_X3_isThere⟩ ⟨Nat.le_of_ble_eq_true rfl, Nat.le_of_ble_eq_true rfl⟩) (zpreV (ci := 3) X hw hfs rfl _) rfl rfl hl.1 rfl (lv_room (Nat.le_of_ble_eq_true rfl)) dX0_mark_20 ⟨Nat.le_of_ble_eq_true rfl, Nat.le_of_ble_eq_true rfl⟩) (fun r4 H locs hf hw => ?_)
    refine zw_if_ne (tgt := 30) hx hb hf dX0_mark_23 (by decide) (fun hf => ?_) (fun hf => ?_)
    · refine lv_iload_n hx hb dX0_mark_30 rfl (lv_at hl 3 rfl) ?_
      refine lv_iconst (v := (0 : Int32)) hx hb dX0_mark_31 (by decide) ?_
      refine lv_aload hx hb dX0_mark_32 (lv_at hl 0 rfl) ?_
      refine zw_kC hf (fun fs hfs hf => ?_)
      refine zw_goI (rest := [.int (0 : Int32), .int i2]) hw hf (fun r hr => va_runV (C := RX3) (As := []) (rest := [.int (0 : Int32), .int i2]) X.1 (mt_X3_size l D A r4.2 v3 r hr) (cwV 0 hts (lw_V q1102 q1103 q1104 q87 q1105) rfl rfl rfl ⟨rfl, cd_X3_size⟩ ⟨Nat.le_of_ble_eq_true rfl, Nat.le_of_ble_eq_true rfl⟩) (zpreV (ci := 3) X hw hfs rfl _) rfl rfl hl.1 rfl (lv_room (Nat.le_of_ble_eq_true rfl)) dX0_mark_34 ⟨Nat.le_of_ble_eq_true rfl, Nat.le_of_ble_eq_true rfl⟩) (fun r5 H locs hf hw => ?_)
      refine lv_iconst (v := (1 : Int32)) hx hb dX0_mark_37 (by decide) ?_
      refine lv_isub hx hb dX0_mark_38 ?_
      refine zw_goZ (rest := []) hw hf (fun r hr => va_runS (As := [.int i2, .int (0 : Int32), .int (r5.1 - (1 : Int32))]) (rest := []) X.1 (mt_X0_isIn l D A r5.2 i2 (0 : Int32) (r5.1 - (1 : Int32)) r hr) (va_cwS 3 hts (lw_S q339 q340 q81 q341) rfl rfl rfl cd_X0_isIn ⟨Nat.le_of_ble_eq_true rfl, Nat.le_of_ble_eq_true rfl⟩) (zpreS X hw _) rfl rfl hl.1 rfl (lv_room (Nat.le_of_ble_eq_true rfl)) dX0_mark_39 ⟨Nat.le_of_ble_eq_true rfl, Nat.le_of_ble_eq_true rfl⟩) (fun r6 H locs hf hw => ?_)
      refine zw_if_eq (tgt := 55) hx hb hf dX0_mark_42 (by decide) (fun hf => ?_) (fun hf => ?_)
      · refine lv_ldcw (v := (-1000000013 : Int32)) hx hb hown (hts _ q1123) dX0_mark_55 ?_
        exact zw_iret X hw hf (Nat.le_of_ble_eq_true rfl) (Nat.le_of_ble_eq_true rfl) dX0_mark_58
      · refine lv_aload hx hb dX0_mark_45 (lv_at hl 0 rfl) ?_
        refine lv_iload_n hx hb dX0_mark_47 rfl (lv_at hl 3 rfl) ?_
        refine lv_iload_n hx hb dX0_mark_48 rfl (lv_at hl 4 rfl) ?_
        refine zw_goI (rest := []) hw hf (fun r hr => va_runS (As := [.ref v3, .int i2, .int i3]) (rest := []) X.1 (mt_X0_markIn l D A r6.2 v3 i2 i3 r hr) (va_cwS 3 hts (lw_S q1112 q1113 q81 q1114) rfl rfl rfl cd_X0_markIn ⟨Nat.le_of_ble_eq_true rfl, Nat.le_of_ble_eq_true rfl⟩) (zpreS X hw _) rfl rfl hl.1 rfl (lv_room (Nat.le_of_ble_eq_true rfl)) dX0_mark_49 ⟨Nat.le_of_ble_eq_true rfl, Nat.le_of_ble_eq_true rfl⟩) (fun r7 H locs hf hw => ?_)
        refine lv_goto (tgt := 58) hx hb dX0_mark_52 (by decide) ?_
        exact zw_iret X hw hf (Nat.le_of_ble_eq_true rfl) (Nat.le_of_ble_eq_true rfl) dX0_mark_58
    · refine lv_ldcw (v := (-1000000011 : Int32)) hx hb hown (hts _ q1101) dX0_mark_26 ?_
      exact zw_iret X hw hf (Nat.le_of_ble_eq_true rfl) (Nat.le_of_ble_eq_true rfl) dX0_mark_29
  · refine lv_ldc (v := (-1000000001 : Int32)) hx hb hown (hts _ q342) dX0_mark_7 ?_
    exact zw_iret X hw hf (Nat.le_of_ble_eq_true rfl) (Nat.le_of_ble_eq_true rfl) dX0_mark_9
set_option maxHeartbeats 4000000 in
theorem k_X0_pour_82 {p : Program} {l : Launch} {e : Env} {s : State} {m : MethodId} {args : Array Value} {below : List Frame} {meth : Method} {c : Code} {D : va_G} {A : Nat → Prop} (X : zCx p s m args meth c D A (zEv A) cX0_pour 6 RX0 (Option.some FieldType.int)) (res : Int32 × zT) (K33 : zT → Nat → Nat → Int32 → Int32 → Option (Int32 × zT)) (hK33 : ∀ (h : zT) (a0 : Nat) (a2 : Nat) (i3 : Int32) (i4 : Int32) (H : Heap) (locs : List Loc) (ls : Array Slot), K33 h a0 a2 i3 i4 = some res → zWh D A s H h locs → lv_has ls 6 [(0, .ref a0), (2, .ref a2), (3, .int i3), (4, .int i4)] → W p l e rm_X0_pour s m args below meth c H locs 0 0 (MQ below (zQW D A (some (.int res.1)) res.2) args s 0 0 A) (F0 m 33 ls [])) : ∀ (h : zT) (a0 : Nat) (a2 : Nat) (i3 : Int32) (i4 : Int32) (s0 : Int32) (H : Heap) (locs : List Loc) (ls : Array Slot), f_X0_pour_82 K33 h a0 a2 i3 i4 s0 = some res → zWh D A s H h locs → lv_has ls 6 [(0, .ref a0), (2, .ref a2), (3, .int i3), (4, .int i4)] → W p l e rm_X0_pour s m args below meth c H locs 0 0 (MQ below (zQW D A (some (.int res.1)) res.2) args s 0 0 A) (F0 m 82 ls [.int s0]) := by
  have hx := X.1.1
  have hb := X.1.2.1
  have hown := X.1.2.2.2.1
  have hts := X.1.2.2.2.2
  have hN := X.2.2.2.2.2.2.1
  have hDW := X.2.2.2.2.2.2.2.1
  have hAO := X.2.2.2.2.2.2.2.2.1
  have hNC := X.2.2.2.2.2.2.2.2.2.1
  intro h a0 a2 i3 i4 s0 H locs ls hf hw hl
  unfold f_X0_pour_82 at hf
  refine lv_istore (lv' := [(5, .int s0), (0, .ref a0), (2, .ref a2), (3, .int i3), (4, .int i4)]) hx hb dX0_pour_82 hl (by decide) rfl (fun ls hl => ?_)
  refine lv_iload_n hx hb dX0_pour_84 rfl (lv_at hl 3 rfl) ?_
  refine lv_aload_n hx hb dX0_pour_85 rfl (lv_at hl 1 rfl) ?_
  refine lv_iload hx hb dX0_pour_86 (lv_at hl 4 rfl) ?_
  refine lv_iload hx hb dX0_pour_88 (lv_at hl 0 rfl) ?_
  refine zw_kC hf (fun fs hfs hf => ?_)
  refine zw_goI (rest := [.int i3]) hw hf (fun r hr => va_runV (C := RX0) (As := [.int i4, .int s0]) (rest := [.int i3]) X.1 (mt_X0_cuts l D A h a0 i4 s0 r hr) (cwV 2 hts (lw_V q857 q859 qs22 q81 q860) rfl rfl rfl ⟨rfl, cd_X0_cuts⟩ ⟨Nat.le_of_ble_eq_true rfl, Nat.le_of_ble_eq_true rfl⟩) (zpreV (ci := 0) X hw hfs rfl _) rfl rfl hl.1 rfl (lv_room (Nat.le_of_ble_eq_true rfl)) dX0_pour_90 ⟨Nat.le_of_ble_eq_true rfl, Nat.le_of_ble_eq_true rfl⟩) (fun r1 H locs hf hw => ?_)
  refine lv_iload hx hb dX0_pour_93 (lv_at hl 0 rfl) ?_
  refine zw_icmp_ne (tgt := 102) hx hb hf dX0_pour_95 (by decide) (fun hf => ?_) (fun hf => ?_)
  · refine lv_iconst (v := (1 : Int32)) hx hb dX0_pour_102 (by decide) ?_
    refine lv_iadd hx hb dX0_pour_103 ?_
    refine zw_nmI hf (fun v2 hf => ?_)
    refine lv_istore_n (lv' := [(3, .int v2), (5, .int s0), (0, .ref a0), (2, .ref a2), (4, .int i4)]) hx hb dX0_pour_104 rfl hl (by decide) rfl (fun ls hl => ?_)
    refine zw_nmS hf (fun v3 ev3 hf => ?_)
    refine lv_iinc (k := 4) (v := v3) (lv' := [(4, .int v3), (3, .int v2), (5, .int s0), (0, .ref a0), (2, .ref a2)]) hx hb dX0_pour_105 hl rfl (by rw [ev3]; rfl) (by decide) rfl (fun ls hl => ?_)
    refine lv_goto (tgt := 33) hx hb dX0_pour_108 (by decide) ?_
    exact hK33 r1.2 a0 a2 v2 v3 _ _ _ hf hw (lv_sub hl [3, 4, 1, 0] rfl)
  · refine lv_iconst (v := (0 : Int32)) hx hb dX0_pour_98 (by decide) ?_
    refine lv_goto (tgt := 103) hx hb dX0_pour_99 (by decide) ?_
    refine lv_iadd hx hb dX0_pour_103 ?_
    refine zw_nmI hf (fun v4 hf => ?_)
    refine lv_istore_n (lv' := [(3, .int v4), (5, .int s0), (0, .ref a0), (2, .ref a2), (4, .int i4)]) hx hb dX0_pour_104 rfl hl (by decide) rfl (fun ls hl => ?_)
    refine zw_nmS hf (fun v5 ev5 hf => ?_)
    refine lv_iinc (k := 4) (v := v5) (lv' := [(4, .int v5), (3, .int v4), (5, .int s0), (0, .ref a0), (2, .ref a2)]) hx hb dX0_pour_105 hl rfl (by rw [ev5]; rfl) (by decide) rfl (fun ls hl => ?_)
    refine lv_goto (tgt := 33) hx hb dX0_pour_108 (by decide) ?_
    exact hK33 r1.2 a0 a2 v4 v5 _ _ _ hf hw (lv_sub hl [3, 4, 1, 0] rfl)
set_option maxHeartbeats 4000000 in
theorem k_X0_pour_33 {p : Program} {l : Launch} {e : Env} {s : State} {m : MethodId} {args : Array Value} {below : List Frame} {meth : Method} {c : Code} {D : va_G} {A : Nat → Prop} (X : zCx p s m args meth c D A (zEv A) cX0_pour 6 RX0 (Option.some FieldType.int)) (res : Int32 × zT) : ∀ (n : Nat), ∀ (h : zT) (a0 : Nat) (a2 : Nat) (i3 : Int32) (i4 : Int32) (H : Heap) (locs : List Loc) (ls : Array Slot), f_X0_pour_33 n h a0 a2 i3 i4 = some res → zWh D A s H h locs → lv_has ls 6 [(0, .ref a0), (2, .ref a2), (3, .int i3), (4, .int i4)] → W p l e rm_X0_pour s m args below meth c H locs 0 0 (MQ below (zQW D A (some (.int res.1)) res.2) args s 0 0 A) (F0 m 33 ls []) := by
  have hx := X.1.1
  have hb := X.1.2.1
  have hown := X.1.2.2.2.1
  have hts := X.1.2.2.2.2
  have hN := X.2.2.2.2.2.2.1
  have hDW := X.2.2.2.2.2.2.2.1
  have hAO := X.2.2.2.2.2.2.2.2.1
  have hNC := X.2.2.2.2.2.2.2.2.2.1
  intro n
  induction n with
  | zero =>
    intro h a0 a2 i3 i4 H locs ls hf hw hl
    cases hf
  | succ n ih =>
    intro h a0 a2 i3 i4 H locs ls hf hw hl
    unfold f_X0_pour_33 at hf
    refine lv_iload hx hb dX0_pour_33 (lv_at hl 3 rfl) ?_
    refine lv_bipush (v := (16 : Int32)) hx hb dX0_pour_35 (by decide) ?_
    refine zw_icmp_ge (tgt := 111) hx hb hf dX0_pour_37 (by decide) (fun hf => ?_) (fun hf => ?_)
    · refine lv_iload_n hx hb dX0_pour_111 rfl (lv_at hl 2 rfl) ?_
      exact zw_iret X hw hf (Nat.le_of_ble_eq_true rfl) (Nat.le_of_ble_eq_true rfl) dX0_pour_112
    · refine lv_iload hx hb dX0_pour_40 (lv_at hl 3 rfl) ?_
      refine lv_aload_n hx hb dX0_pour_42 rfl (lv_at hl 1 rfl) ?_
      refine zw_kC hf (fun fs hfs hf => ?_)
      refine zw_goI (rest := [.int i4]) hw hf (fun r hr => va_runV (C := RX3) (As := []) (rest := [.int i4]) X.1 (mt_X3_size l D A h a2 r hr) (cwV 0 hts (lw_V q1102 q1103 q1104 q87 q1105) rfl rfl rfl ⟨rfl, cd_X3_size⟩ ⟨Nat.le_of_ble_eq_true rfl, Nat.le_of_ble_eq_true rfl⟩) (zpreV (ci := 3) X hw hfs rfl _) rfl rfl hl.1 rfl (lv_room (Nat.le_of_ble_eq_true rfl)) dX0_pour_43 ⟨Nat.le_of_ble_eq_true rfl, Nat.le_of_ble_eq_true rfl⟩) (fun r1 H locs hf hw => ?_)
      refine zw_icmp_ge (tgt := 111) hx hb hf dX0_pour_46 (by decide) (fun hf => ?_) (fun hf => ?_)
      · refine lv_iload_n hx hb dX0_pour_111 rfl (lv_at hl 2 rfl) ?_
        exact zw_iret X hw hf (Nat.le_of_ble_eq_true rfl) (Nat.le_of_ble_eq_true rfl) dX0_pour_112
      · refine lv_aload_n hx hb dX0_pour_49 rfl (lv_at hl 1 rfl) ?_
        refine lv_iload hx hb dX0_pour_50 (lv_at hl 3 rfl) ?_
        refine zw_kC hf (fun fs hfs hf => ?_)
        refine zw_goZ (rest := []) hw hf (fun r hr => va_runV (C := RX3) (As := [.int i4]) (rest := []) X.1 (mt_X3_isNumber l D A r1.2 a2 i4 r hr) (cwV 1 hts (lw_V q1128 q1129 q1130 q87 q1131) rfl rfl rfl ⟨rfl, cd_X3_isNumber⟩ ⟨Nat.le_of_ble_eq_true rfl, Nat.le_of_ble_eq_true rfl⟩) (zpreV (ci := 3) X hw hfs rfl _) rfl rfl hl.1 rfl (lv_room (Nat.le_of_ble_eq_true rfl)) dX0_pour_52 ⟨Nat.le_of_ble_eq_true rfl, Nat.le_of_ble_eq_true rfl⟩) (fun r2 H locs hf hw => ?_)
        refine zw_if_eq (tgt := 72) hx hb hf dX0_pour_55 (by decide) (fun hf => ?_) (fun hf => ?_)
        · refine lv_aload_n hx hb dX0_pour_72 rfl (lv_at hl 0 rfl) ?_
          refine zw_getR X hw fs_X0_0 q252 rfl hf dX0_pour_73 (fun v3 hf => ?_)
          refine zw_getRN X hw fs_X1_3 (hN _ nq133) rfl hf dX0_pour_76 (fun v4 hf => ?_)
          refine lv_iload hx hb dX0_pour_79 (lv_at hl 3 rfl) ?_
          refine zw_ialoadR X hw hf dX0_pour_81 (fun v5 hf => ?_)
          exact k_X0_pour_82 X _ (f_X0_pour_33 n) ih r2.2 a0 a2 i3 i4 v5 _ _ _ hf hw (lv_sub hl [0, 1, 2, 3] rfl)
        · refine lv_aload_n hx hb dX0_pour_58 rfl (lv_at hl 1 rfl) ?_
          refine lv_iload hx hb dX0_pour_59 (lv_at hl 3 rfl) ?_
          refine zw_kC hf (fun fs hfs hf => ?_)
          refine zw_goI (rest := []) hw hf (fun r hr => va_runV (C := RX3) (As := [.int i4]) (rest := []) X.1 (mt_X3_at l D A r2.2 a2 i4 r hr) (cwV 1 hts (lw_V q1132 q1133 q1134 q87 q1135) rfl rfl rfl ⟨rfl, cd_X3_at⟩ ⟨Nat.le_of_ble_eq_true rfl, Nat.le_of_ble_eq_true rfl⟩) (zpreV (ci := 3) X hw hfs rfl _) rfl rfl hl.1 rfl (lv_room (Nat.le_of_ble_eq_true rfl)) dX0_pour_61 ⟨Nat.le_of_ble_eq_true rfl, Nat.le_of_ble_eq_true rfl⟩) (fun r6 H locs hf hw => ?_)
          refine lv_iconst (v := (0 : Int32)) hx hb dX0_pour_64 (by decide) ?_
          refine lv_iconst (v := (3 : Int32)) hx hb dX0_pour_65 (by decide) ?_
          refine zw_goI (rest := []) hw hf (fun r hr => va_runS (As := [.int r6.1, .int (0 : Int32), .int (3 : Int32)]) (rest := []) X.1 (mt_X0_within l D A r6.2 r6.1 (0 : Int32) (3 : Int32) r hr) (va_cwS 3 hts (lw_S q696 q697 q81 q698) rfl rfl rfl cd_X0_within ⟨Nat.le_of_ble_eq_true rfl, Nat.le_of_ble_eq_true rfl⟩) (zpreS X hw _) rfl rfl hl.1 rfl (lv_room (Nat.le_of_ble_eq_true rfl)) dX0_pour_66 ⟨Nat.le_of_ble_eq_true rfl, Nat.le_of_ble_eq_true rfl⟩) (fun r7 H locs hf hw => ?_)
          refine lv_goto (tgt := 82) hx hb dX0_pour_69 (by decide) ?_
          exact k_X0_pour_82 X _ (f_X0_pour_33 n) ih r7.2 a0 a2 i3 i4 r7.1 _ _ _ hf hw (lv_sub hl [0, 1, 2, 3] rfl)
set_option maxHeartbeats 4000000 in
theorem mt_X0_pour (l : Launch) (D : va_G) (A : Nat → Prop) (h : zT) (a0 : Nat) (i1 : Int32) (res : Int32 × zT) (hf : f_X0_pour h a0 i1 = some res) : Met l yX0_pour (ws_ yX0_pour cX0_pour 6 (Option.some FieldType.int)) rm_X0_pour (zPW D A (zEv A) h [.ref a0, .int i1]) (zQW D A (some (.int res.1)) res.2) 0 0 A := by
  refine zmt (zEv_ok A) (by decide) (Nat.le_of_ble_eq_true rfl) ?_
  intro p e s m below meth c ls hmn X hw hl
  have hl : lv_has ls 6 [(0, .ref a0), (1, .int i1)] := hl
  have hx := X.1.1
  have hb := X.1.2.1
  have hown := X.1.2.2.2.1
  have hts := X.1.2.2.2.2
  have hN := X.2.2.2.2.2.2.1
  have hDW := X.2.2.2.2.2.2.2.1
  have hAO := X.2.2.2.2.2.2.2.2.1
  have hNC := X.2.2.2.2.2.2.2.2.2.1
  unfold f_X0_pour at hf
  refine lv_iload_n hx hb dX0_pour_0 rfl (lv_at hl 1 rfl) ?_
  refine zw_goZ (rest := []) hw hf (fun r hr => va_runS (As := [.int i1]) (rest := []) X.1 (mt_X0_isSheet l D A h i1 r hr) (va_cwS 1 hts (lw_S q1085 q1086 q81 q1087) rfl rfl rfl cd_X0_isSheet ⟨Nat.le_of_ble_eq_true rfl, Nat.le_of_ble_eq_true rfl⟩) (zpreS X hw _) rfl rfl hl.1 rfl (lv_room (Nat.le_of_ble_eq_true rfl)) dX0_pour_1 ⟨Nat.le_of_ble_eq_true rfl, Nat.le_of_ble_eq_true rfl⟩) (fun r1 H locs hf hw => ?_)
  refine zw_if_ne (tgt := 10) hx hb hf dX0_pour_4 (by decide) (fun hf => ?_) (fun hf => ?_)
  · refine lv_aload_n hx hb dX0_pour_10 rfl (lv_at hl 0 rfl) ?_
    refine zw_getR X hw fs_X0_18 q270 rfl hf dX0_pour_11 (fun v2 hf => ?_)
    refine lv_iload_n hx hb dX0_pour_14 rfl (lv_at hl 1 rfl) ?_
    refine zw_aaloadR X hw hf dX0_pour_15 (fun v3 hf => ?_)
    refine lv_astore_n (lv' := [(2, .ref v3), (0, .ref a0), (1, .int i1)]) hx hb dX0_pour_16 rfl hl (by decide) rfl (fun ls hl => ?_)
    refine lv_aload_n hx hb dX0_pour_17 rfl (lv_at hl 0 rfl) ?_
    refine zw_kC hf (fun fs hfs hf => ?_)
    refine zw_goZ (rest := []) hw hf (fun r hr => va_runV (C := RX3) (As := []) (rest := []) X.1 (mt_X3_isThere l D A r1.2 v3 r hr) (cwV 0 hts (lw_V q1097 q1098 q1099 q87 q1100) rfl rfl rfl ⟨rfl, cd_X3_isThere⟩ ⟨Nat.le_of_ble_eq_true rfl, Nat.le_of_ble_eq_true rfl⟩) (zpreV (ci := 3) X hw hfs rfl _) rfl rfl hl.1 rfl (lv_room (Nat.le_of_ble_eq_true rfl)) dX0_pour_18 ⟨Nat.le_of_ble_eq_true rfl, Nat.le_of_ble_eq_true rfl⟩) (fun r4 H locs hf hw => ?_)
    refine zw_if_ne (tgt := 28) hx hb hf dX0_pour_21 (by decide) (fun hf => ?_) (fun hf => ?_)
    · refine lv_iconst (v := (0 : Int32)) hx hb dX0_pour_28 (by decide) ?_
      refine lv_istore_n (lv' := [(3, .int (0 : Int32)), (2, .ref v3), (0, .ref a0), (1, .int i1)]) hx hb dX0_pour_29 rfl hl (by decide) rfl (fun ls hl => ?_)
      refine lv_iconst (v := (0 : Int32)) hx hb dX0_pour_30 (by decide) ?_
      refine lv_istore (lv' := [(4, .int (0 : Int32)), (3, .int (0 : Int32)), (2, .ref v3), (0, .ref a0), (1, .int i1)]) hx hb dX0_pour_31 hl (by decide) rfl (fun ls hl => ?_)
      exact k_X0_pour_33 X _ 4096 r4.2 a0 v3 (0 : Int32) (0 : Int32) _ _ _ hf hw (lv_sub hl [3, 2, 1, 0] rfl)
    · refine lv_ldcw (v := (-1000000011 : Int32)) hx hb hown (hts _ q1101) dX0_pour_24 ?_
      exact zw_iret X hw hf (Nat.le_of_ble_eq_true rfl) (Nat.le_of_ble_eq_true rfl) dX0_pour_27
  · refine lv_ldc (v := (-1000000001 : Int32)) hx hb hown (hts _ q342) dX0_pour_7 ?_
    exact zw_iret X hw hf (Nat.le_of_ble_eq_true rfl) (Nat.le_of_ble_eq_true rfl) dX0_pour_9
set_option maxHeartbeats 4000000 in
theorem k_X0_reads_30 {p : Program} {l : Launch} {e : Env} {s : State} {m : MethodId} {args : Array Value} {below : List Frame} {meth : Method} {c : Code} {D : va_G} {A : Nat → Prop} (X : zCx p s m args meth c D A (zEv A) cX0_reads 4 RX0 (Option.some FieldType.int)) (res : Int32 × zT) : ∀ (n : Nat), ∀ (h : zT) (a0 : Nat) (a2 : Nat) (i3 : Int32) (H : Heap) (locs : List Loc) (ls : Array Slot), f_X0_reads_30 n h a0 a2 i3 = some res → zWh D A s H h locs → lv_has ls 4 [(0, .ref a0), (2, .ref a2), (3, .int i3)] → W p l e rm_X0_reads s m args below meth c H locs 0 0 (MQ below (zQW D A (some (.int res.1)) res.2) args s 0 0 A) (F0 m 30 ls []) := by
  have hx := X.1.1
  have hb := X.1.2.1
  have hown := X.1.2.2.2.1
  have hts := X.1.2.2.2.2
  have hN := X.2.2.2.2.2.2.1
  have hDW := X.2.2.2.2.2.2.2.1
  have hAO := X.2.2.2.2.2.2.2.2.1
  have hNC := X.2.2.2.2.2.2.2.2.2.1
  intro n
  induction n with
  | zero =>
    intro h a0 a2 i3 H locs ls hf hw hl
    cases hf
  | succ n ih =>
    intro h a0 a2 i3 H locs ls hf hw hl
    unfold f_X0_reads_30 at hf
    refine lv_iload_n hx hb dX0_reads_30 rfl (lv_at hl 2 rfl) ?_
    refine lv_aload_n hx hb dX0_reads_31 rfl (lv_at hl 1 rfl) ?_
    refine zw_kC hf (fun fs hfs hf => ?_)
    refine zw_goI (rest := [.int i3]) hw hf (fun r hr => va_runV (C := RX3) (As := []) (rest := [.int i3]) X.1 (mt_X3_size l D A h a2 r hr) (cwV 0 hts (lw_V q1102 q1103 q1104 q87 q1105) rfl rfl rfl ⟨rfl, cd_X3_size⟩ ⟨Nat.le_of_ble_eq_true rfl, Nat.le_of_ble_eq_true rfl⟩) (zpreV (ci := 3) X hw hfs rfl _) rfl rfl hl.1 rfl (lv_room (Nat.le_of_ble_eq_true rfl)) dX0_reads_32 ⟨Nat.le_of_ble_eq_true rfl, Nat.le_of_ble_eq_true rfl⟩) (fun r1 H locs hf hw => ?_)
    refine zw_icmp_ge (tgt := 82) hx hb hf dX0_reads_35 (by decide) (fun hf => ?_) (fun hf => ?_)
    · refine lv_ldc (v := (-1000000005 : Int32)) hx hb hown (hts _ q521) dX0_reads_82 ?_
      exact zw_iret X hw hf (Nat.le_of_ble_eq_true rfl) (Nat.le_of_ble_eq_true rfl) dX0_reads_84
    · refine lv_aload_n hx hb dX0_reads_38 rfl (lv_at hl 1 rfl) ?_
      refine lv_iload_n hx hb dX0_reads_39 rfl (lv_at hl 2 rfl) ?_
      refine zw_kC hf (fun fs hfs hf => ?_)
      refine zw_goZ (rest := []) hw hf (fun r hr => va_runV (C := RX3) (As := [.int i3]) (rest := []) X.1 (mt_X3_isNumber l D A r1.2 a2 i3 r hr) (cwV 1 hts (lw_V q1128 q1129 q1130 q87 q1131) rfl rfl rfl ⟨rfl, cd_X3_isNumber⟩ ⟨Nat.le_of_ble_eq_true rfl, Nat.le_of_ble_eq_true rfl⟩) (zpreV (ci := 3) X hw hfs rfl _) rfl rfl hl.1 rfl (lv_room (Nat.le_of_ble_eq_true rfl)) dX0_reads_40 ⟨Nat.le_of_ble_eq_true rfl, Nat.le_of_ble_eq_true rfl⟩) (fun r2 H locs hf hw => ?_)
      refine zw_if_eq (tgt := 76) hx hb hf dX0_reads_43 (by decide) (fun hf => ?_) (fun hf => ?_)
      · refine zw_nmS hf (fun v3 ev3 hf => ?_)
        refine lv_iinc (k := 2) (v := v3) (lv' := [(3, .int v3), (0, .ref a0), (2, .ref a2)]) hx hb dX0_reads_76 hl rfl (by rw [ev3]; rfl) (by decide) rfl (fun ls hl => ?_)
        refine lv_goto (tgt := 30) hx hb dX0_reads_79 (by decide) ?_
        exact ih r2.2 a0 a2 v3 _ _ _ hf hw (lv_sub hl [1, 2, 0] rfl)
      · refine lv_aload_n hx hb dX0_reads_46 rfl (lv_at hl 0 rfl) ?_
        refine lv_iload_n hx hb dX0_reads_47 rfl (lv_at hl 2 rfl) ?_
        refine zw_kC hf (fun fs hfs hf => ?_)
        refine zw_goZ (rest := []) hw hf (fun r hr => va_runV (C := RX0) (As := [.int i3]) (rest := []) X.1 (mt_X0_isRubbing l D A r2.2 a0 i3 r hr) (cwV 1 hts (lw_V q629 q631 qs19 q81 q632) rfl rfl rfl ⟨rfl, cd_X0_isRubbing⟩ ⟨Nat.le_of_ble_eq_true rfl, Nat.le_of_ble_eq_true rfl⟩) (zpreV (ci := 0) X hw hfs rfl _) rfl rfl hl.1 rfl (lv_room (Nat.le_of_ble_eq_true rfl)) dX0_reads_48 ⟨Nat.le_of_ble_eq_true rfl, Nat.le_of_ble_eq_true rfl⟩) (fun r4 H locs hf hw => ?_)
        refine zw_if_eq (tgt := 74) hx hb hf dX0_reads_51 (by decide) (fun hf => ?_) (fun hf => ?_)
        · refine lv_iload_n hx hb dX0_reads_74 rfl (lv_at hl 2 rfl) ?_
          exact zw_iret X hw hf (Nat.le_of_ble_eq_true rfl) (Nat.le_of_ble_eq_true rfl) dX0_reads_75
        · refine lv_aload_n hx hb dX0_reads_54 rfl (lv_at hl 1 rfl) ?_
          refine lv_iload_n hx hb dX0_reads_55 rfl (lv_at hl 2 rfl) ?_
          refine zw_kC hf (fun fs hfs hf => ?_)
          refine zw_goI (rest := []) hw hf (fun r hr => va_runV (C := RX3) (As := [.int i3]) (rest := []) X.1 (mt_X3_at l D A r4.2 a2 i3 r hr) (cwV 1 hts (lw_V q1132 q1133 q1134 q87 q1135) rfl rfl rfl ⟨rfl, cd_X3_at⟩ ⟨Nat.le_of_ble_eq_true rfl, Nat.le_of_ble_eq_true rfl⟩) (zpreV (ci := 3) X hw hfs rfl _) rfl rfl hl.1 rfl (lv_room (Nat.le_of_ble_eq_true rfl)) dX0_reads_56 ⟨Nat.le_of_ble_eq_true rfl, Nat.le_of_ble_eq_true rfl⟩) (fun r5 H locs hf hw => ?_)
          refine lv_aload_n hx hb dX0_reads_59 rfl (lv_at hl 0 rfl) ?_
          refine zw_getR X hw fs_X0_0 q252 rfl hf dX0_reads_60 (fun v6 hf => ?_)
          refine zw_getRN X hw fs_X1_2 (hN _ nq131) rfl hf dX0_reads_63 (fun v7 hf => ?_)
          refine lv_iload_n hx hb dX0_reads_66 rfl (lv_at hl 2 rfl) ?_
          refine zw_aaloadR X hw hf dX0_reads_67 (fun v8 hf => ?_)
          refine zw_getI X hw fs_X6_4 q556 rfl hf dX0_reads_68 (fun v9 hf => ?_)
          refine zw_icmp_eq (tgt := 76) hx hb hf dX0_reads_71 (by decide) (fun hf => ?_) (fun hf => ?_)
          · refine zw_nmS hf (fun v10 ev10 hf => ?_)
            refine lv_iinc (k := 2) (v := v10) (lv' := [(3, .int v10), (0, .ref a0), (2, .ref a2)]) hx hb dX0_reads_76 hl rfl (by rw [ev10]; rfl) (by decide) rfl (fun ls hl => ?_)
            refine lv_goto (tgt := 30) hx hb dX0_reads_79 (by decide) ?_
            exact ih r5.2 a0 a2 v10 _ _ _ hf hw (lv_sub hl [1, 2, 0] rfl)
          · refine lv_iload_n hx hb dX0_reads_74 rfl (lv_at hl 2 rfl) ?_
            exact zw_iret X hw hf (Nat.le_of_ble_eq_true rfl) (Nat.le_of_ble_eq_true rfl) dX0_reads_75
set_option maxHeartbeats 4000000 in
theorem mt_X0_reads (l : Launch) (D : va_G) (A : Nat → Prop) (h : zT) (a0 : Nat) (i1 : Int32) (res : Int32 × zT) (hf : f_X0_reads h a0 i1 = some res) : Met l yX0_reads (ws_ yX0_reads cX0_reads 4 (Option.some FieldType.int)) rm_X0_reads (zPW D A (zEv A) h [.ref a0, .int i1]) (zQW D A (some (.int res.1)) res.2) 0 0 A := by
  refine zmt (zEv_ok A) (by decide) (Nat.le_of_ble_eq_true rfl) ?_
  intro p e s m below meth c ls hmn X hw hl
  have hl : lv_has ls 4 [(0, .ref a0), (1, .int i1)] := hl
  have hx := X.1.1
  have hb := X.1.2.1
  have hown := X.1.2.2.2.1
  have hts := X.1.2.2.2.2
  have hN := X.2.2.2.2.2.2.1
  have hDW := X.2.2.2.2.2.2.2.1
  have hAO := X.2.2.2.2.2.2.2.2.1
  have hNC := X.2.2.2.2.2.2.2.2.2.1
  unfold f_X0_reads at hf
  refine lv_iload_n hx hb dX0_reads_0 rfl (lv_at hl 1 rfl) ?_
  refine zw_goZ (rest := []) hw hf (fun r hr => va_runS (As := [.int i1]) (rest := []) X.1 (mt_X0_isSheet l D A h i1 r hr) (va_cwS 1 hts (lw_S q1085 q1086 q81 q1087) rfl rfl rfl cd_X0_isSheet ⟨Nat.le_of_ble_eq_true rfl, Nat.le_of_ble_eq_true rfl⟩) (zpreS X hw _) rfl rfl hl.1 rfl (lv_room (Nat.le_of_ble_eq_true rfl)) dX0_reads_1 ⟨Nat.le_of_ble_eq_true rfl, Nat.le_of_ble_eq_true rfl⟩) (fun r1 H locs hf hw => ?_)
  refine zw_if_ne (tgt := 10) hx hb hf dX0_reads_4 (by decide) (fun hf => ?_) (fun hf => ?_)
  · refine lv_aload_n hx hb dX0_reads_10 rfl (lv_at hl 0 rfl) ?_
    refine zw_getR X hw fs_X0_18 q270 rfl hf dX0_reads_11 (fun v2 hf => ?_)
    refine lv_iload_n hx hb dX0_reads_14 rfl (lv_at hl 1 rfl) ?_
    refine zw_aaloadR X hw hf dX0_reads_15 (fun v3 hf => ?_)
    refine lv_astore_n (lv' := [(2, .ref v3), (0, .ref a0), (1, .int i1)]) hx hb dX0_reads_16 rfl hl (by decide) rfl (fun ls hl => ?_)
    refine lv_aload_n hx hb dX0_reads_17 rfl (lv_at hl 0 rfl) ?_
    refine zw_kC hf (fun fs hfs hf => ?_)
    refine zw_goZ (rest := []) hw hf (fun r hr => va_runV (C := RX3) (As := []) (rest := []) X.1 (mt_X3_isThere l D A r1.2 v3 r hr) (cwV 0 hts (lw_V q1097 q1098 q1099 q87 q1100) rfl rfl rfl ⟨rfl, cd_X3_isThere⟩ ⟨Nat.le_of_ble_eq_true rfl, Nat.le_of_ble_eq_true rfl⟩) (zpreV (ci := 3) X hw hfs rfl _) rfl rfl hl.1 rfl (lv_room (Nat.le_of_ble_eq_true rfl)) dX0_reads_18 ⟨Nat.le_of_ble_eq_true rfl, Nat.le_of_ble_eq_true rfl⟩) (fun r4 H locs hf hw => ?_)
    refine zw_if_ne (tgt := 28) hx hb hf dX0_reads_21 (by decide) (fun hf => ?_) (fun hf => ?_)
    · refine lv_iconst (v := (0 : Int32)) hx hb dX0_reads_28 (by decide) ?_
      refine lv_istore_n (lv' := [(3, .int (0 : Int32)), (2, .ref v3), (0, .ref a0), (1, .int i1)]) hx hb dX0_reads_29 rfl hl (by decide) rfl (fun ls hl => ?_)
      exact k_X0_reads_30 X _ 4096 r4.2 a0 v3 (0 : Int32) _ _ _ hf hw (lv_sub hl [2, 1, 0] rfl)
    · refine lv_ldcw (v := (-1000000011 : Int32)) hx hb hown (hts _ q1101) dX0_reads_24 ?_
      exact zw_iret X hw hf (Nat.le_of_ble_eq_true rfl) (Nat.le_of_ble_eq_true rfl) dX0_reads_27
  · refine lv_ldc (v := (-1000000001 : Int32)) hx hb hown (hts _ q342) dX0_reads_7 ?_
    exact zw_iret X hw hf (Nat.le_of_ble_eq_true rfl) (Nat.le_of_ble_eq_true rfl) dX0_reads_9
set_option maxHeartbeats 4000000 in
theorem k_X0_offBy_33 {p : Program} {l : Launch} {e : Env} {s : State} {m : MethodId} {args : Array Value} {below : List Frame} {meth : Method} {c : Code} {D : va_G} {A : Nat → Prop} (X : zCx p s m args meth c D A (zEv A) cX0_offBy 6 RX0 (Option.some FieldType.long)) (res : Int64 × zT) (K5 : zT → Nat → Nat → Int64 → Int32 → Option (Int64 × zT)) (hK5 : ∀ (h : zT) (a0 : Nat) (a1 : Nat) (l2 : Int64) (i4 : Int32) (H : Heap) (locs : List Loc) (ls : Array Slot), K5 h a0 a1 l2 i4 = some res → zWh D A s H h locs → lv_has ls 6 [(0, .ref a0), (1, .ref a1), (2, .long l2), (4, .int i4)] → W p l e rm_X0_offBy s m args below meth c H locs 0 0 (MQ below (zQW D A (some (.long res.1)) res.2) args s 0 0 A) (F0 m 5 ls [])) : ∀ (h : zT) (a0 : Nat) (a1 : Nat) (l2 : Int64) (i4 : Int32) (s0 : Int32) (H : Heap) (locs : List Loc) (ls : Array Slot), f_X0_offBy_33 K5 h a0 a1 l2 i4 s0 = some res → zWh D A s H h locs → lv_has ls 6 [(0, .ref a0), (1, .ref a1), (2, .long l2), (4, .int i4)] → W p l e rm_X0_offBy s m args below meth c H locs 0 0 (MQ below (zQW D A (some (.long res.1)) res.2) args s 0 0 A) (F0 m 33 ls [.int s0]) := by
  have hx := X.1.1
  have hb := X.1.2.1
  have hown := X.1.2.2.2.1
  have hts := X.1.2.2.2.2
  have hN := X.2.2.2.2.2.2.1
  have hDW := X.2.2.2.2.2.2.2.1
  have hAO := X.2.2.2.2.2.2.2.2.1
  have hNC := X.2.2.2.2.2.2.2.2.2.1
  intro h a0 a1 l2 i4 s0 H locs ls hf hw hl
  unfold f_X0_offBy_33 at hf
  refine lv_istore (lv' := [(5, .int s0), (0, .ref a0), (1, .ref a1), (2, .long l2), (4, .int i4)]) hx hb dX0_offBy_33 hl (by decide) rfl (fun ls hl => ?_)
  refine lv_lload_n hx hb dX0_offBy_35 rfl (lv_at hl 3 rfl) ?_
  refine lv_aload_n hx hb dX0_offBy_36 rfl (lv_at hl 1 rfl) ?_
  refine lv_iload hx hb dX0_offBy_37 (lv_at hl 4 rfl) ?_
  refine zw_kC hf (fun fs hfs hf => ?_)
  refine zw_goZ (rest := [.long l2]) hw hf (fun r hr => va_runV (C := RX3) (As := [.int i4]) (rest := [.long l2]) X.1 (mt_X3_isNumber l D A h a0 i4 r hr) (cwV 1 hts (lw_V q1128 q1129 q1130 q87 q1131) rfl rfl rfl ⟨rfl, cd_X3_isNumber⟩ ⟨Nat.le_of_ble_eq_true rfl, Nat.le_of_ble_eq_true rfl⟩) (zpreV (ci := 3) X hw hfs rfl _) rfl rfl hl.1 rfl (lv_room (Nat.le_of_ble_eq_true rfl)) dX0_offBy_39 ⟨Nat.le_of_ble_eq_true rfl, Nat.le_of_ble_eq_true rfl⟩) (fun r1 H locs hf hw => ?_)
  refine zw_if_eq (tgt := 62) hx hb hf dX0_offBy_42 (by decide) (fun hf => ?_) (fun hf => ?_)
  · refine lv_lconst (v := (0 : Int64)) hx hb dX0_offBy_62 (by decide) ?_
    refine lv_ladd hx hb dX0_offBy_63 ?_
    refine zw_nmL hf (fun v2 hf => ?_)
    refine lv_lstore_n (lv' := [(2, .long v2), (5, .int s0), (0, .ref a0), (1, .ref a1), (4, .int i4)]) hx hb dX0_offBy_64 rfl hl (by decide) rfl (fun ls hl => ?_)
    refine zw_nmS hf (fun v3 ev3 hf => ?_)
    refine lv_iinc (k := 4) (v := v3) (lv' := [(4, .int v3), (2, .long v2), (5, .int s0), (0, .ref a0), (1, .ref a1)]) hx hb dX0_offBy_65 hl rfl (by rw [ev3]; rfl) (by decide) rfl (fun ls hl => ?_)
    refine lv_goto (tgt := 5) hx hb dX0_offBy_68 (by decide) ?_
    exact hK5 r1.2 a0 a1 v2 v3 _ _ _ hf hw (lv_sub hl [3, 4, 1, 0] rfl)
  · refine lv_aload_n hx hb dX0_offBy_45 rfl (lv_at hl 1 rfl) ?_
    refine lv_iload hx hb dX0_offBy_46 (lv_at hl 4 rfl) ?_
    refine zw_kC hf (fun fs hfs hf => ?_)
    refine zw_goI (rest := [.long l2]) hw hf (fun r hr => va_runV (C := RX3) (As := [.int i4]) (rest := [.long l2]) X.1 (mt_X3_at l D A r1.2 a0 i4 r hr) (cwV 1 hts (lw_V q1132 q1133 q1134 q87 q1135) rfl rfl rfl ⟨rfl, cd_X3_at⟩ ⟨Nat.le_of_ble_eq_true rfl, Nat.le_of_ble_eq_true rfl⟩) (zpreV (ci := 3) X hw hfs rfl _) rfl rfl hl.1 rfl (lv_room (Nat.le_of_ble_eq_true rfl)) dX0_offBy_48 ⟨Nat.le_of_ble_eq_true rfl, Nat.le_of_ble_eq_true rfl⟩) (fun r4 H locs hf hw => ?_)
    refine lv_i2l hx hb dX0_offBy_51 rfl ?_
    refine lv_iload hx hb dX0_offBy_52 (lv_at hl 0 rfl) ?_
    refine lv_i2l hx hb dX0_offBy_54 rfl ?_
    refine lv_lsub hx hb dX0_offBy_55 ?_
    refine va_mabs_long (rest := [.long l2]) hx hb (by rw [X.1.2.2.1]; exact hl.1.symm) hown (hts _ q1147) (hts _ q1148) (hts _ q96) (hts _ q1149) (Nat.le_of_ble_eq_true rfl) (Nat.le_of_ble_eq_true rfl) (Nat.le_of_ble_eq_true rfl) (Nat.le_of_ble_eq_true rfl) dX0_offBy_56 ?_
    refine zw_nmL hf (fun v5 hf => ?_)
    refine lv_goto (tgt := 63) hx hb dX0_offBy_59 (by decide) ?_
    refine lv_ladd hx hb dX0_offBy_63 ?_
    refine zw_nmL hf (fun v6 hf => ?_)
    refine lv_lstore_n (lv' := [(2, .long v6), (5, .int s0), (0, .ref a0), (1, .ref a1), (4, .int i4)]) hx hb dX0_offBy_64 rfl hl (by decide) rfl (fun ls hl => ?_)
    refine zw_nmS hf (fun v7 ev7 hf => ?_)
    refine lv_iinc (k := 4) (v := v7) (lv' := [(4, .int v7), (2, .long v6), (5, .int s0), (0, .ref a0), (1, .ref a1)]) hx hb dX0_offBy_65 hl rfl (by rw [ev7]; rfl) (by decide) rfl (fun ls hl => ?_)
    refine lv_goto (tgt := 5) hx hb dX0_offBy_68 (by decide) ?_
    exact hK5 r4.2 a0 a1 v6 v7 _ _ _ hf hw (lv_sub hl [3, 4, 1, 0] rfl)
set_option maxHeartbeats 4000000 in
theorem k_X0_offBy_5 {p : Program} {l : Launch} {e : Env} {s : State} {m : MethodId} {args : Array Value} {below : List Frame} {meth : Method} {c : Code} {D : va_G} {A : Nat → Prop} (X : zCx p s m args meth c D A (zEv A) cX0_offBy 6 RX0 (Option.some FieldType.long)) (res : Int64 × zT) : ∀ (n : Nat), ∀ (h : zT) (a0 : Nat) (a1 : Nat) (l2 : Int64) (i4 : Int32) (H : Heap) (locs : List Loc) (ls : Array Slot), f_X0_offBy_5 n h a0 a1 l2 i4 = some res → zWh D A s H h locs → lv_has ls 6 [(0, .ref a0), (1, .ref a1), (2, .long l2), (4, .int i4)] → W p l e rm_X0_offBy s m args below meth c H locs 0 0 (MQ below (zQW D A (some (.long res.1)) res.2) args s 0 0 A) (F0 m 5 ls []) := by
  have hx := X.1.1
  have hb := X.1.2.1
  have hown := X.1.2.2.2.1
  have hts := X.1.2.2.2.2
  have hN := X.2.2.2.2.2.2.1
  have hDW := X.2.2.2.2.2.2.2.1
  have hAO := X.2.2.2.2.2.2.2.2.1
  have hNC := X.2.2.2.2.2.2.2.2.2.1
  intro n
  induction n with
  | zero =>
    intro h a0 a1 l2 i4 H locs ls hf hw hl
    cases hf
  | succ n ih =>
    intro h a0 a1 l2 i4 H locs ls hf hw hl
    unfold f_X0_offBy_5 at hf
    refine lv_iload hx hb dX0_offBy_5 (lv_at hl 3 rfl) ?_
    refine lv_aload_n hx hb dX0_offBy_7 rfl (lv_at hl 0 rfl) ?_
    refine zw_kC hf (fun fs hfs hf => ?_)
    refine zw_goI (rest := [.int i4]) hw hf (fun r hr => va_runV (C := RX3) (As := []) (rest := [.int i4]) X.1 (mt_X3_size l D A h a0 r hr) (cwV 0 hts (lw_V q1102 q1103 q1104 q87 q1105) rfl rfl rfl ⟨rfl, cd_X3_size⟩ ⟨Nat.le_of_ble_eq_true rfl, Nat.le_of_ble_eq_true rfl⟩) (zpreV (ci := 3) X hw hfs rfl _) rfl rfl hl.1 rfl (lv_room (Nat.le_of_ble_eq_true rfl)) dX0_offBy_8 ⟨Nat.le_of_ble_eq_true rfl, Nat.le_of_ble_eq_true rfl⟩) (fun r1 H locs hf hw => ?_)
    refine zw_icmp_ge (tgt := 71) hx hb hf dX0_offBy_11 (by decide) (fun hf => ?_) (fun hf => ?_)
    · refine lv_lload_n hx hb dX0_offBy_71 rfl (lv_at hl 2 rfl) ?_
      exact zw_lret X hw hf (Nat.le_of_ble_eq_true rfl) (Nat.le_of_ble_eq_true rfl) dX0_offBy_72
    · refine lv_iload hx hb dX0_offBy_14 (lv_at hl 3 rfl) ?_
      refine lv_aload_n hx hb dX0_offBy_16 rfl (lv_at hl 1 rfl) ?_
      refine zw_getI X hw fs_X6_1 q548 rfl hf dX0_offBy_17 (fun v2 hf => ?_)
      refine zw_icmp_ge (tgt := 32) hx hb hf dX0_offBy_20 (by decide) (fun hf => ?_) (fun hf => ?_)
      · refine lv_iconst (v := (0 : Int32)) hx hb dX0_offBy_32 (by decide) ?_
        exact k_X0_offBy_33 X _ (f_X0_offBy_5 n) ih r1.2 a0 a1 l2 i4 (0 : Int32) _ _ _ hf hw (lv_sub hl [0, 1, 2, 3] rfl)
      · refine lv_aload_n hx hb dX0_offBy_23 rfl (lv_at hl 1 rfl) ?_
        refine lv_iload hx hb dX0_offBy_24 (lv_at hl 3 rfl) ?_
        refine vd_X0_323 (rest := []) r1.2 a1 i4 X hw hl.1 hf (Nat.le_of_ble_eq_true rfl) (Nat.le_of_ble_eq_true rfl) (Nat.le_of_ble_eq_true rfl) rfl dX0_offBy_26 ⟨Nat.le_of_ble_eq_true rfl, Nat.le_of_ble_eq_true rfl⟩ (fun r3 H locs hf hw => ?_)
        refine lv_goto (tgt := 33) hx hb dX0_offBy_29 (by decide) ?_
        exact k_X0_offBy_33 X _ (f_X0_offBy_5 n) ih r3.2 a0 a1 l2 i4 r3.1 _ _ _ hf hw (lv_sub hl [0, 1, 2, 3] rfl)
set_option maxHeartbeats 4000000 in
theorem mt_X0_offBy (l : Launch) (D : va_G) (A : Nat → Prop) (h : zT) (a0 : Nat) (a1 : Nat) (res : Int64 × zT) (hf : f_X0_offBy h a0 a1 = some res) : Met l yX0_offBy (ws_ yX0_offBy cX0_offBy 6 (Option.some FieldType.long)) rm_X0_offBy (zPW D A (zEv A) h [.ref a0, .ref a1]) (zQW D A (some (.long res.1)) res.2) 0 0 A := by
  refine zmt (zEv_ok A) (by decide) (Nat.le_of_ble_eq_true rfl) ?_
  intro p e s m below meth c ls hmn X hw hl
  have hl : lv_has ls 6 [(0, .ref a0), (1, .ref a1)] := hl
  have hx := X.1.1
  have hb := X.1.2.1
  have hown := X.1.2.2.2.1
  have hts := X.1.2.2.2.2
  have hN := X.2.2.2.2.2.2.1
  have hDW := X.2.2.2.2.2.2.2.1
  have hAO := X.2.2.2.2.2.2.2.2.1
  have hNC := X.2.2.2.2.2.2.2.2.2.1
  unfold f_X0_offBy at hf
  refine lv_lconst (v := (0 : Int64)) hx hb dX0_offBy_0 (by decide) ?_
  refine lv_lstore_n (lv' := [(2, .long (0 : Int64)), (0, .ref a0), (1, .ref a1)]) hx hb dX0_offBy_1 rfl hl (by decide) rfl (fun ls hl => ?_)
  refine lv_iconst (v := (0 : Int32)) hx hb dX0_offBy_2 (by decide) ?_
  refine lv_istore (lv' := [(4, .int (0 : Int32)), (2, .long (0 : Int64)), (0, .ref a0), (1, .ref a1)]) hx hb dX0_offBy_3 hl (by decide) rfl (fun ls hl => ?_)
  exact k_X0_offBy_5 X _ 4096 h a0 a1 (0 : Int64) (0 : Int32) _ _ _ hf hw (lv_sub hl [2, 3, 1, 0] rfl)
set_option maxHeartbeats 4000000 in
theorem k_X0_whose_46 {p : Program} {l : Launch} {e : Env} {s : State} {m : MethodId} {args : Array Value} {below : List Frame} {meth : Method} {c : Code} {D : va_G} {A : Nat → Prop} (X : zCx p s m args meth c D A (zEv A) cX0_whose 10 RX0 (Option.some FieldType.int)) (res : Int32 × zT) : ∀ (n : Nat), ∀ (h : zT) (a0 : Nat) (i2 : Int32) (a3 : Nat) (i4 : Int32) (l5 : Int64) (i7 : Int32) (H : Heap) (locs : List Loc) (ls : Array Slot), f_X0_whose_46 n h a0 i2 a3 i4 l5 i7 = some res → zWh D A s H h locs → lv_has ls 10 [(0, .ref a0), (2, .int i2), (3, .ref a3), (4, .int i4), (5, .long l5), (7, .int i7)] → W p l e rm_X0_whose s m args below meth c H locs 0 0 (MQ below (zQW D A (some (.int res.1)) res.2) args s 0 0 A) (F0 m 46 ls []) := by
  have hx := X.1.1
  have hb := X.1.2.1
  have hown := X.1.2.2.2.1
  have hts := X.1.2.2.2.2
  have hN := X.2.2.2.2.2.2.1
  have hDW := X.2.2.2.2.2.2.2.1
  have hAO := X.2.2.2.2.2.2.2.2.1
  have hNC := X.2.2.2.2.2.2.2.2.2.1
  intro n
  induction n with
  | zero =>
    intro h a0 i2 a3 i4 l5 i7 H locs ls hf hw hl
    cases hf
  | succ n ih =>
    intro h a0 i2 a3 i4 l5 i7 H locs ls hf hw hl
    unfold f_X0_whose_46 at hf
    refine lv_iload hx hb dX0_whose_46 (lv_at hl 5 rfl) ?_
    refine lv_aload_n hx hb dX0_whose_48 rfl (lv_at hl 0 rfl) ?_
    refine zw_getR X hw fs_X0_0 q252 rfl hf dX0_whose_49 (fun v1 hf => ?_)
    refine zw_getIN X hw fs_X1_1 (hN _ nq129) rfl hf dX0_whose_52 (fun v2 hf => ?_)
    refine zw_icmp_ge (tgt := 102) hx hb hf dX0_whose_55 (by decide) (fun hf => ?_) (fun hf => ?_)
    · refine lv_iload hx hb dX0_whose_102 (lv_at hl 3 rfl) ?_
      refine lv_iconst (v := (-1 : Int32)) hx hb dX0_whose_104 (by decide) ?_
      refine zw_icmp_ne (tgt := 113) hx hb hf dX0_whose_105 (by decide) (fun hf => ?_) (fun hf => ?_)
      · refine lv_iload_n hx hb dX0_whose_113 rfl (lv_at hl 1 rfl) ?_
        refine zw_if_ne (tgt := 122) hx hb hf dX0_whose_114 (by decide) (fun hf => ?_) (fun hf => ?_)
        · refine lv_lload hx hb dX0_whose_122 (lv_at hl 4 rfl) ?_
          refine lv_l2i hx hb dX0_whose_124 rfl ?_
          exact zw_iret X hw hf (Nat.le_of_ble_eq_true rfl) (Nat.le_of_ble_eq_true rfl) dX0_whose_125
        · refine lv_iload hx hb dX0_whose_117 (lv_at hl 3 rfl) ?_
          refine lv_goto (tgt := 125) hx hb dX0_whose_119 (by decide) ?_
          exact zw_iret X hw hf (Nat.le_of_ble_eq_true rfl) (Nat.le_of_ble_eq_true rfl) dX0_whose_125
      · refine lv_ldc (v := (-1000000005 : Int32)) hx hb hown (hts _ q521) dX0_whose_108 ?_
        refine lv_goto (tgt := 125) hx hb dX0_whose_110 (by decide) ?_
        exact zw_iret X hw hf (Nat.le_of_ble_eq_true rfl) (Nat.le_of_ble_eq_true rfl) dX0_whose_125
    · refine lv_aload_n hx hb dX0_whose_58 rfl (lv_at hl 2 rfl) ?_
      refine lv_aload_n hx hb dX0_whose_59 rfl (lv_at hl 0 rfl) ?_
      refine zw_getR X hw fs_X0_0 q252 rfl hf dX0_whose_60 (fun v3 hf => ?_)
      refine zw_getRN X hw fs_X1_2 (hN _ nq131) rfl hf dX0_whose_63 (fun v4 hf => ?_)
      refine lv_iload hx hb dX0_whose_66 (lv_at hl 5 rfl) ?_
      refine zw_aaloadR X hw hf dX0_whose_68 (fun v5 hf => ?_)
      refine zw_goJ (rest := []) hw hf (fun r hr => va_runS (As := [.ref a3, .ref v5]) (rest := []) X.1 (mt_X0_offBy l D A h a3 v5 r hr) (va_cwS 2 hts (lw_S q1144 q1145 q81 q1146) rfl rfl rfl cd_X0_offBy ⟨Nat.le_of_ble_eq_true rfl, Nat.le_of_ble_eq_true rfl⟩) (zpreS X hw _) rfl rfl hl.1 rfl (lv_room (Nat.le_of_ble_eq_true rfl)) dX0_whose_69 ⟨Nat.le_of_ble_eq_true rfl, Nat.le_of_ble_eq_true rfl⟩) (fun r6 H locs hf hw => ?_)
      refine lv_lstore (lv' := [(8, .long r6.1), (0, .ref a0), (2, .int i2), (3, .ref a3), (4, .int i4), (5, .long l5), (7, .int i7)]) hx hb dX0_whose_72 hl (by decide) rfl (fun ls hl => ?_)
      refine lv_iload hx hb dX0_whose_74 (lv_at hl 4 rfl) ?_
      refine lv_iconst (v := (-1 : Int32)) hx hb dX0_whose_76 (by decide) ?_
      refine zw_icmp_eq (tgt := 88) hx hb hf dX0_whose_77 (by decide) (fun hf => ?_) (fun hf => ?_)
      · refine lv_iload hx hb dX0_whose_88 (lv_at hl 6 rfl) ?_
        refine lv_istore (lv' := [(4, .int i7), (8, .long r6.1), (0, .ref a0), (2, .int i2), (3, .ref a3), (5, .long l5), (7, .int i7)]) hx hb dX0_whose_90 hl (by decide) rfl (fun ls hl => ?_)
        refine lv_lload hx hb dX0_whose_92 (lv_at hl 1 rfl) ?_
        refine lv_lstore (lv' := [(5, .long r6.1), (4, .int i7), (8, .long r6.1), (0, .ref a0), (2, .int i2), (3, .ref a3), (7, .int i7)]) hx hb dX0_whose_94 hl (by decide) rfl (fun ls hl => ?_)
        refine zw_nmS hf (fun v7 ev7 hf => ?_)
        refine lv_iinc (k := 6) (v := v7) (lv' := [(7, .int v7), (5, .long r6.1), (4, .int i7), (8, .long r6.1), (0, .ref a0), (2, .int i2), (3, .ref a3)]) hx hb dX0_whose_96 hl rfl (by rw [ev7]; rfl) (by decide) rfl (fun ls hl => ?_)
        refine lv_goto (tgt := 46) hx hb dX0_whose_99 (by decide) ?_
        exact ih r6.2 a0 i2 a3 i7 r6.1 v7 _ _ _ hf hw (lv_sub hl [4, 5, 6, 2, 1, 0] rfl)
      · refine lv_lload hx hb dX0_whose_80 (lv_at hl 0 rfl) ?_
        refine lv_lload hx hb dX0_whose_82 (lv_at hl 5 rfl) ?_
        refine W.lcmp hx hb dX0_whose_84 ?_
        refine zw_if_ge (tgt := 96) hx hb hf dX0_whose_85 (by decide) (fun hf => ?_) (fun hf => ?_)
        · refine zw_nmS hf (fun v8 ev8 hf => ?_)
          refine lv_iinc (k := 6) (v := v8) (lv' := [(7, .int v8), (8, .long r6.1), (0, .ref a0), (2, .int i2), (3, .ref a3), (4, .int i4), (5, .long l5)]) hx hb dX0_whose_96 hl rfl (by rw [ev8]; rfl) (by decide) rfl (fun ls hl => ?_)
          refine lv_goto (tgt := 46) hx hb dX0_whose_99 (by decide) ?_
          exact ih r6.2 a0 i2 a3 i4 l5 v8 _ _ _ hf hw (lv_sub hl [2, 3, 4, 5, 6, 0] rfl)
        · refine lv_iload hx hb dX0_whose_88 (lv_at hl 6 rfl) ?_
          refine lv_istore (lv' := [(4, .int i7), (8, .long r6.1), (0, .ref a0), (2, .int i2), (3, .ref a3), (5, .long l5), (7, .int i7)]) hx hb dX0_whose_90 hl (by decide) rfl (fun ls hl => ?_)
          refine lv_lload hx hb dX0_whose_92 (lv_at hl 1 rfl) ?_
          refine lv_lstore (lv' := [(5, .long r6.1), (4, .int i7), (8, .long r6.1), (0, .ref a0), (2, .int i2), (3, .ref a3), (7, .int i7)]) hx hb dX0_whose_94 hl (by decide) rfl (fun ls hl => ?_)
          refine zw_nmS hf (fun v9 ev9 hf => ?_)
          refine lv_iinc (k := 6) (v := v9) (lv' := [(7, .int v9), (5, .long r6.1), (4, .int i7), (8, .long r6.1), (0, .ref a0), (2, .int i2), (3, .ref a3)]) hx hb dX0_whose_96 hl rfl (by rw [ev9]; rfl) (by decide) rfl (fun ls hl => ?_)
          refine lv_goto (tgt := 46) hx hb dX0_whose_99 (by decide) ?_
          exact ih r6.2 a0 i2 a3 i7 r6.1 v9 _ _ _ hf hw (lv_sub hl [4, 5, 6, 2, 1, 0] rfl)
set_option maxHeartbeats 4000000 in
theorem mt_X0_whose (l : Launch) (D : va_G) (A : Nat → Prop) (h : zT) (a0 : Nat) (i1 : Int32) (i2 : Int32) (res : Int32 × zT) (hf : f_X0_whose h a0 i1 i2 = some res) : Met l yX0_whose (ws_ yX0_whose cX0_whose 10 (Option.some FieldType.int)) rm_X0_whose (zPW D A (zEv A) h [.ref a0, .int i1, .int i2]) (zQW D A (some (.int res.1)) res.2) 0 0 A := by
  refine zmt (zEv_ok A) (by decide) (Nat.le_of_ble_eq_true rfl) ?_
  intro p e s m below meth c ls hmn X hw hl
  have hl : lv_has ls 10 [(0, .ref a0), (1, .int i1), (2, .int i2)] := hl
  have hx := X.1.1
  have hb := X.1.2.1
  have hown := X.1.2.2.2.1
  have hts := X.1.2.2.2.2
  have hN := X.2.2.2.2.2.2.1
  have hDW := X.2.2.2.2.2.2.2.1
  have hAO := X.2.2.2.2.2.2.2.2.1
  have hNC := X.2.2.2.2.2.2.2.2.2.1
  unfold f_X0_whose at hf
  refine lv_iload_n hx hb dX0_whose_0 rfl (lv_at hl 1 rfl) ?_
  refine zw_goZ (rest := []) hw hf (fun r hr => va_runS (As := [.int i1]) (rest := []) X.1 (mt_X0_isSheet l D A h i1 r hr) (va_cwS 1 hts (lw_S q1085 q1086 q81 q1087) rfl rfl rfl cd_X0_isSheet ⟨Nat.le_of_ble_eq_true rfl, Nat.le_of_ble_eq_true rfl⟩) (zpreS X hw _) rfl rfl hl.1 rfl (lv_room (Nat.le_of_ble_eq_true rfl)) dX0_whose_1 ⟨Nat.le_of_ble_eq_true rfl, Nat.le_of_ble_eq_true rfl⟩) (fun r1 H locs hf hw => ?_)
  refine zw_if_eq (tgt := 16) hx hb hf dX0_whose_4 (by decide) (fun hf => ?_) (fun hf => ?_)
  · refine lv_ldc (v := (-1000000001 : Int32)) hx hb hown (hts _ q342) dX0_whose_16 ?_
    exact zw_iret X hw hf (Nat.le_of_ble_eq_true rfl) (Nat.le_of_ble_eq_true rfl) dX0_whose_18
  · refine lv_iload_n hx hb dX0_whose_7 rfl (lv_at hl 2 rfl) ?_
    refine lv_iconst (v := (0 : Int32)) hx hb dX0_whose_8 (by decide) ?_
    refine lv_iconst (v := (1 : Int32)) hx hb dX0_whose_9 (by decide) ?_
    refine zw_goZ (rest := []) hw hf (fun r hr => va_runS (As := [.int i2, .int (0 : Int32), .int (1 : Int32)]) (rest := []) X.1 (mt_X0_isIn l D A r1.2 i2 (0 : Int32) (1 : Int32) r hr) (va_cwS 3 hts (lw_S q339 q340 q81 q341) rfl rfl rfl cd_X0_isIn ⟨Nat.le_of_ble_eq_true rfl, Nat.le_of_ble_eq_true rfl⟩) (zpreS X hw _) rfl rfl hl.1 rfl (lv_room (Nat.le_of_ble_eq_true rfl)) dX0_whose_10 ⟨Nat.le_of_ble_eq_true rfl, Nat.le_of_ble_eq_true rfl⟩) (fun r2 H locs hf hw => ?_)
    refine zw_if_ne (tgt := 19) hx hb hf dX0_whose_13 (by decide) (fun hf => ?_) (fun hf => ?_)
    · refine lv_aload_n hx hb dX0_whose_19 rfl (lv_at hl 0 rfl) ?_
      refine zw_getR X hw fs_X0_18 q270 rfl hf dX0_whose_20 (fun v3 hf => ?_)
      refine lv_iload_n hx hb dX0_whose_23 rfl (lv_at hl 1 rfl) ?_
      refine zw_aaloadR X hw hf dX0_whose_24 (fun v4 hf => ?_)
      refine lv_astore_n (lv' := [(3, .ref v4), (0, .ref a0), (1, .int i1), (2, .int i2)]) hx hb dX0_whose_25 rfl hl (by decide) rfl (fun ls hl => ?_)
      refine lv_aload_n hx hb dX0_whose_26 rfl (lv_at hl 0 rfl) ?_
      refine zw_kC hf (fun fs hfs hf => ?_)
      refine zw_goZ (rest := []) hw hf (fun r hr => va_runV (C := RX3) (As := []) (rest := []) X.1 (mt_X3_isThere l D A r2.2 v4 r hr) (cwV 0 hts (lw_V q1097 q1098 q1099 q87 q1100) rfl rfl rfl ⟨rfl, cd_X3_isThere⟩ ⟨Nat.le_of_ble_eq_true rfl, Nat.le_of_ble_eq_true rfl⟩) (zpreV (ci := 3) X hw hfs rfl _) rfl rfl hl.1 rfl (lv_room (Nat.le_of_ble_eq_true rfl)) dX0_whose_27 ⟨Nat.le_of_ble_eq_true rfl, Nat.le_of_ble_eq_true rfl⟩) (fun r5 H locs hf hw => ?_)
      refine zw_if_ne (tgt := 37) hx hb hf dX0_whose_30 (by decide) (fun hf => ?_) (fun hf => ?_)
      · refine lv_iconst (v := (-1 : Int32)) hx hb dX0_whose_37 (by decide) ?_
        refine lv_istore (lv' := [(4, .int (-1 : Int32)), (3, .ref v4), (0, .ref a0), (1, .int i1), (2, .int i2)]) hx hb dX0_whose_38 hl (by decide) rfl (fun ls hl => ?_)
        refine lv_lconst (v := (0 : Int64)) hx hb dX0_whose_40 (by decide) ?_
        refine lv_lstore (lv' := [(5, .long (0 : Int64)), (4, .int (-1 : Int32)), (3, .ref v4), (0, .ref a0), (1, .int i1), (2, .int i2)]) hx hb dX0_whose_41 hl (by decide) rfl (fun ls hl => ?_)
        refine lv_iconst (v := (0 : Int32)) hx hb dX0_whose_43 (by decide) ?_
        refine lv_istore (lv' := [(7, .int (0 : Int32)), (5, .long (0 : Int64)), (4, .int (-1 : Int32)), (3, .ref v4), (0, .ref a0), (1, .int i1), (2, .int i2)]) hx hb dX0_whose_44 hl (by decide) rfl (fun ls hl => ?_)
        exact k_X0_whose_46 X _ 4096 r5.2 a0 i2 v4 (-1 : Int32) (0 : Int64) (0 : Int32) _ _ _ hf hw (lv_sub hl [4, 6, 3, 2, 1, 0] rfl)
      · refine lv_ldcw (v := (-1000000011 : Int32)) hx hb hown (hts _ q1101) dX0_whose_33 ?_
        exact zw_iret X hw hf (Nat.le_of_ble_eq_true rfl) (Nat.le_of_ble_eq_true rfl) dX0_whose_36
    · refine lv_ldc (v := (-1000000001 : Int32)) hx hb hown (hts _ q342) dX0_whose_16 ?_
      exact zw_iret X hw hf (Nat.le_of_ble_eq_true rfl) (Nat.le_of_ble_eq_true rfl) dX0_whose_18
set_option maxHeartbeats 4000000 in
theorem k_X0_carries_81 {p : Program} {l : Launch} {e : Env} {s : State} {m : MethodId} {args : Array Value} {below : List Frame} {meth : Method} {c : Code} {D : va_G} {A : Nat → Prop} (X : zCx p s m args meth c D A (zEv A) cX0_carries 9 RX0 (Option.none : Option FieldType)) (res : zT) : ∀ (n : Nat), ∀ (h : zT) (a0 : Nat) (i4 : Int32) (i5 : Int32) (a7 : Nat) (i8 : Int32) (H : Heap) (locs : List Loc) (ls : Array Slot), f_X0_carries_81 n h a0 i4 i5 a7 i8 = some res → zWh D A s H h locs → lv_has ls 9 [(0, .ref a0), (4, .int i4), (5, .int i5), (7, .ref a7), (8, .int i8)] → W p l e rm_X0_carries s m args below meth c H locs 0 0 (MQ below (zQW D A none res) args s 0 0 A) (F0 m 81 ls []) := by
  have hx := X.1.1
  have hb := X.1.2.1
  have hown := X.1.2.2.2.1
  have hts := X.1.2.2.2.2
  have hN := X.2.2.2.2.2.2.1
  have hDW := X.2.2.2.2.2.2.2.1
  have hAO := X.2.2.2.2.2.2.2.2.1
  have hNC := X.2.2.2.2.2.2.2.2.2.1
  intro n
  induction n with
  | zero =>
    intro h a0 i4 i5 a7 i8 H locs ls hf hw hl
    cases hf
  | succ n ih =>
    intro h a0 i4 i5 a7 i8 H locs ls hf hw hl
    unfold f_X0_carries_81 at hf
    refine lv_iload hx hb dX0_carries_81 (lv_at hl 4 rfl) ?_
    refine lv_iload hx hb dX0_carries_83 (lv_at hl 2 rfl) ?_
    refine zw_icmp_ge (tgt := 109) hx hb hf dX0_carries_85 (by decide) (fun hf => ?_) (fun hf => ?_)
    · exact zw_vret X hw hf (Nat.le_of_ble_eq_true rfl) (Nat.le_of_ble_eq_true rfl) dX0_carries_109
    · refine lv_aload hx hb dX0_carries_88 (lv_at hl 3 rfl) ?_
      refine lv_iload hx hb dX0_carries_90 (lv_at hl 1 rfl) ?_
      refine lv_iload hx hb dX0_carries_92 (lv_at hl 4 rfl) ?_
      refine lv_iadd hx hb dX0_carries_94 ?_
      refine lv_aload_n hx hb dX0_carries_95 rfl (lv_at hl 0 rfl) ?_
      refine zw_getR X hw fs_X0_20 q272 rfl hf dX0_carries_96 (fun v1 hf => ?_)
      refine lv_iload hx hb dX0_carries_99 (lv_at hl 4 rfl) ?_
      refine zw_faload X hw hf dX0_carries_101 (fun v2 hf => ?_)
      refine zw_fastore X hw hf dX0_carries_102 (fun h3 H locs hf hw => ?_)
      refine zw_nmS hf (fun v4 ev4 hf => ?_)
      refine lv_iinc (k := 4) (v := v4) (lv' := [(8, .int v4), (0, .ref a0), (4, .int i4), (5, .int i5), (7, .ref a7)]) hx hb dX0_carries_103 hl rfl (by rw [ev4]; rfl) (by decide) rfl (fun ls hl => ?_)
      refine lv_goto (tgt := 81) hx hb dX0_carries_106 (by decide) ?_
      exact ih h3 a0 i4 i5 a7 v4 _ _ _ hf hw (lv_sub hl [1, 2, 3, 4, 0] rfl)
set_option maxHeartbeats 4000000 in
theorem k_X0_carries_51 {p : Program} {l : Launch} {e : Env} {s : State} {m : MethodId} {args : Array Value} {below : List Frame} {meth : Method} {c : Code} {D : va_G} {A : Nat → Prop} (X : zCx p s m args meth c D A (zEv A) cX0_carries 9 RX0 (Option.none : Option FieldType)) (res : zT) : ∀ (n : Nat), ∀ (h : zT) (a0 : Nat) (i2 : Int32) (i4 : Int32) (i5 : Int32) (a6 : Nat) (a7 : Nat) (i8 : Int32) (H : Heap) (locs : List Loc) (ls : Array Slot), f_X0_carries_51 n h a0 i2 i4 i5 a6 a7 i8 = some res → zWh D A s H h locs → lv_has ls 9 [(0, .ref a0), (2, .int i2), (4, .int i4), (5, .int i5), (6, .ref a6), (7, .ref a7), (8, .int i8)] → W p l e rm_X0_carries s m args below meth c H locs 0 0 (MQ below (zQW D A none res) args s 0 0 A) (F0 m 51 ls []) := by
  have hx := X.1.1
  have hb := X.1.2.1
  have hown := X.1.2.2.2.1
  have hts := X.1.2.2.2.2
  have hN := X.2.2.2.2.2.2.1
  have hDW := X.2.2.2.2.2.2.2.1
  have hAO := X.2.2.2.2.2.2.2.2.1
  have hNC := X.2.2.2.2.2.2.2.2.2.1
  intro n
  induction n with
  | zero =>
    intro h a0 i2 i4 i5 a6 a7 i8 H locs ls hf hw hl
    cases hf
  | succ n ih =>
    intro h a0 i2 i4 i5 a6 a7 i8 H locs ls hf hw hl
    unfold f_X0_carries_51 at hf
    refine lv_iload hx hb dX0_carries_51 (lv_at hl 6 rfl) ?_
    refine lv_iload hx hb dX0_carries_53 (lv_at hl 3 rfl) ?_
    refine zw_icmp_ge (tgt := 78) hx hb hf dX0_carries_55 (by decide) (fun hf => ?_) (fun hf => ?_)
    · refine lv_iconst (v := (0 : Int32)) hx hb dX0_carries_78 (by decide) ?_
      refine lv_istore (lv' := [(8, .int (0 : Int32)), (0, .ref a0), (2, .int i2), (4, .int i4), (5, .int i5), (6, .ref a6), (7, .ref a7)]) hx hb dX0_carries_79 hl (by decide) rfl (fun ls hl => ?_)
      exact k_X0_carries_81 X _ 4096 h a0 i4 i5 a7 (0 : Int32) _ _ _ hf hw (lv_sub hl [1, 3, 4, 6, 0] rfl)
    · refine lv_aload_n hx hb dX0_carries_58 rfl (lv_at hl 0 rfl) ?_
      refine zw_getR X hw fs_X0_20 q272 rfl hf dX0_carries_59 (fun v1 hf => ?_)
      refine lv_iload hx hb dX0_carries_62 (lv_at hl 6 rfl) ?_
      refine lv_aload hx hb dX0_carries_64 (lv_at hl 4 rfl) ?_
      refine lv_iload_n hx hb dX0_carries_66 rfl (lv_at hl 1 rfl) ?_
      refine lv_iload hx hb dX0_carries_67 (lv_at hl 6 rfl) ?_
      refine lv_iadd hx hb dX0_carries_69 ?_
      refine zw_faload X hw hf dX0_carries_70 (fun v2 hf => ?_)
      refine zw_fastore X hw hf dX0_carries_71 (fun h3 H locs hf hw => ?_)
      refine zw_nmS hf (fun v4 ev4 hf => ?_)
      refine lv_iinc (k := 6) (v := v4) (lv' := [(8, .int v4), (0, .ref a0), (2, .int i2), (4, .int i4), (5, .int i5), (6, .ref a6), (7, .ref a7)]) hx hb dX0_carries_72 hl rfl (by rw [ev4]; rfl) (by decide) rfl (fun ls hl => ?_)
      refine lv_goto (tgt := 51) hx hb dX0_carries_75 (by decide) ?_
      exact ih h3 a0 i2 i4 i5 a6 a7 v4 _ _ _ hf hw (lv_sub hl [1, 2, 3, 4, 5, 6, 0] rfl)
