/-! Casts, sheets, slots that may throw: the walks (gen/exc.py) -/
set_option maxRecDepth 100000
set_option maxHeartbeats 4000000 in
theorem mx_X0_takenFor (l : Launch) (D : va_G) (A : Nat → Prop) (htr : l.stackTraces = false) (h : zT) (a0 : Nat) (i1 : Int32) (res : (Nat ⊕ Nat) × zT) (hf : f_X0_takenFor h a0 i1 = some res) : zMt l yX0_takenFor cX0_takenFor 2 (Option.some (FieldType.object "StoneSheets$Rubbing")) [] rm_X0_takenFor (zPW D A (zEv A) h [.ref a0, .int i1]) (zQE "java/lang/ClassCastException" D A (zoR res.1) res.2) 3 1010 A := by
  refine zmtX (zEv_ok A) (Nat.le_of_ble_eq_true rfl) ?_
  intro p e s m below meth c ls htb hmn X hw hl
  have hl : lv_has ls 2 [(0, .ref a0), (1, .int i1)] := hl
  have hx := X.1.1
  have hb := X.1.2.1
  have hown := X.1.2.2.2.1
  have hts := X.1.2.2.2.2
  have hN := X.2.2.2.2.2.2.1
  have hDW := X.2.2.2.2.2.2.2.1
  have hAO := X.2.2.2.2.2.2.2.2.1
  have hNC := X.2.2.2.2.2.2.2.2.2.1
  unfold f_X0_takenFor at hf
  refine lv_iload_n hx hb dX0_takenFor_0 rfl (lv_at hl 1 rfl) ?_
  refine zw_case hf (fun c1001 hf => ?_) (fun c1001 hf => ?_)
  · refine zw_tableIn (off := 35) (tgt := 36) hx hb c1001 dX0_takenFor_1 (by decide) (by decide) rfl (by decide) ?_
    refine lv_aload_n hx hb dX0_takenFor_36 rfl (lv_at hl 0 rfl) ?_
    refine zw_cast (t := 7) X htr hw hl.1 (by decide) q534 hf (Nat.le_of_ble_eq_true rfl) (Nat.le_of_ble_eq_true rfl) (Nat.le_of_ble_eq_true rfl) (Nat.le_of_ble_eq_true rfl) dX0_takenFor_37 (fun hf => ?_) (fun H locs hf hw hxo => ?_)
    · exact ze_aret X (Or.inl ⟨_, rfl⟩) hw hf (Nat.le_of_ble_eq_true rfl) (Nat.le_of_ble_eq_true rfl) dX0_takenFor_40
    · exact ze_leaves X hw hxo hf htb (by simp) (Nat.le_of_ble_eq_true rfl) (Nat.le_of_ble_eq_true rfl)
  · refine zw_case hf (fun c1002 hf => ?_) (fun c1002 hf => ?_)
    · refine zw_tableIn (off := 40) (tgt := 41) hx hb c1002 dX0_takenFor_1 (by decide) (by decide) rfl (by decide) ?_
      refine lv_aload_n hx hb dX0_takenFor_41 rfl (lv_at hl 0 rfl) ?_
      refine zw_cast (t := 8) X htr hw hl.1 (by decide) q568 hf (Nat.le_of_ble_eq_true rfl) (Nat.le_of_ble_eq_true rfl) (Nat.le_of_ble_eq_true rfl) (Nat.le_of_ble_eq_true rfl) dX0_takenFor_42 (fun hf => ?_) (fun H locs hf hw hxo => ?_)
      · exact ze_aret X (Or.inl ⟨_, rfl⟩) hw hf (Nat.le_of_ble_eq_true rfl) (Nat.le_of_ble_eq_true rfl) dX0_takenFor_45
      · exact ze_leaves X hw hxo hf htb (by simp) (Nat.le_of_ble_eq_true rfl) (Nat.le_of_ble_eq_true rfl)
    · refine zw_case hf (fun c1003 hf => ?_) (fun c1003 hf => ?_)
      · refine zw_tableIn (off := 45) (tgt := 46) hx hb c1003 dX0_takenFor_1 (by decide) (by decide) rfl (by decide) ?_
        refine lv_aload_n hx hb dX0_takenFor_46 rfl (lv_at hl 0 rfl) ?_
        refine zw_cast (t := 9) X htr hw hl.1 (by decide) q580 hf (Nat.le_of_ble_eq_true rfl) (Nat.le_of_ble_eq_true rfl) (Nat.le_of_ble_eq_true rfl) (Nat.le_of_ble_eq_true rfl) dX0_takenFor_47 (fun hf => ?_) (fun H locs hf hw hxo => ?_)
        · exact ze_aret X (Or.inl ⟨_, rfl⟩) hw hf (Nat.le_of_ble_eq_true rfl) (Nat.le_of_ble_eq_true rfl) dX0_takenFor_50
        · exact ze_leaves X hw hxo hf htb (by simp) (Nat.le_of_ble_eq_true rfl) (Nat.le_of_ble_eq_true rfl)
      · refine zw_case hf (fun c1004 hf => ?_) (fun c1004 hf => ?_)
        · refine zw_tableIn (off := 50) (tgt := 51) hx hb c1004 dX0_takenFor_1 (by decide) (by decide) rfl (by decide) ?_
          refine lv_aload_n hx hb dX0_takenFor_51 rfl (lv_at hl 0 rfl) ?_
          refine zw_cast (t := 10) X htr hw hl.1 (by decide) q592 hf (Nat.le_of_ble_eq_true rfl) (Nat.le_of_ble_eq_true rfl) (Nat.le_of_ble_eq_true rfl) (Nat.le_of_ble_eq_true rfl) dX0_takenFor_52 (fun hf => ?_) (fun H locs hf hw hxo => ?_)
          · exact ze_aret X (Or.inl ⟨_, rfl⟩) hw hf (Nat.le_of_ble_eq_true rfl) (Nat.le_of_ble_eq_true rfl) dX0_takenFor_55
          · exact ze_leaves X hw hxo hf htb (by simp) (Nat.le_of_ble_eq_true rfl) (Nat.le_of_ble_eq_true rfl)
        · refine zw_case hf (fun c1005 hf => ?_) (fun c1005 hf => ?_)
          · refine zw_tableIn (off := 55) (tgt := 56) hx hb c1005 dX0_takenFor_1 (by decide) (by decide) rfl (by decide) ?_
            refine lv_aload_n hx hb dX0_takenFor_56 rfl (lv_at hl 0 rfl) ?_
            refine zw_cast (t := 11) X htr hw hl.1 (by decide) q604 hf (Nat.le_of_ble_eq_true rfl) (Nat.le_of_ble_eq_true rfl) (Nat.le_of_ble_eq_true rfl) (Nat.le_of_ble_eq_true rfl) dX0_takenFor_57 (fun hf => ?_) (fun H locs hf hw hxo => ?_)
            · exact ze_aret X (Or.inl ⟨_, rfl⟩) hw hf (Nat.le_of_ble_eq_true rfl) (Nat.le_of_ble_eq_true rfl) dX0_takenFor_60
            · exact ze_leaves X hw hxo hf htb (by simp) (Nat.le_of_ble_eq_true rfl) (Nat.le_of_ble_eq_true rfl)
          · refine lv_tableOut (tgt := 61) hx hb dX0_takenFor_1 (by have := lv_neT c1001 (a := 1) (by decide); have := lv_neT c1002 (a := 2) (by decide); have := lv_neT c1003 (a := 3) (by decide); have := lv_neT c1004 (a := 4) (by decide); have := lv_neT c1005 (a := 5) (by decide); omega) (by decide) ?_
            refine lv_aload_n hx hb dX0_takenFor_61 rfl (lv_at hl 0 rfl) ?_
            refine zw_cast (t := 6) X htr hw hl.1 (by decide) q616 hf (Nat.le_of_ble_eq_true rfl) (Nat.le_of_ble_eq_true rfl) (Nat.le_of_ble_eq_true rfl) (Nat.le_of_ble_eq_true rfl) dX0_takenFor_62 (fun hf => ?_) (fun H locs hf hw hxo => ?_)
            · exact ze_aret X (Or.inl ⟨_, rfl⟩) hw hf (Nat.le_of_ble_eq_true rfl) (Nat.le_of_ble_eq_true rfl) dX0_takenFor_65
            · exact ze_leaves X hw hxo hf htb (by simp) (Nat.le_of_ble_eq_true rfl) (Nat.le_of_ble_eq_true rfl)
set_option maxHeartbeats 4000000 in
theorem mx_X0_rowOfX (l : Launch) (D : va_G) (A : Nat → Prop) (htr : l.stackTraces = false) (h : zT) (i0 : Int32) (i1 : Int32) (res : (Nat ⊕ Nat) × zT) (hf : f_X0_rowOfX h i0 i1 = some res) : zMt l yX0_rowOf cX0_rowOf 2 (Option.some (FieldType.object "java/lang/Object")) [] rm_X0_rowOfX (zPW D A (zEv A) h [.int i0, .int i1]) (zQE "java/lang/NegativeArraySizeException" D A (zoR res.1) res.2) 3 1010 A := by
  refine zmtX (zEv_ok A) (Nat.le_of_ble_eq_true rfl) ?_
  intro p e s m below meth c ls htb hmn X hw hl
  have hl : lv_has ls 2 [(0, .int i0), (1, .int i1)] := hl
  have hx := X.1.1
  have hb := X.1.2.1
  have hown := X.1.2.2.2.1
  have hts := X.1.2.2.2.2
  have hN := X.2.2.2.2.2.2.1
  have hDW := X.2.2.2.2.2.2.2.1
  have hAO := X.2.2.2.2.2.2.2.2.1
  have hNC := X.2.2.2.2.2.2.2.2.2.1
  unfold f_X0_rowOfX at hf
  refine lv_iload_n hx hb dX0_rowOf_0 rfl (lv_at hl 0 rfl) ?_
  refine zw_if_eq (tgt := 8) hx hb hf dX0_rowOf_1 (by decide) (fun hf => ?_) (fun hf => ?_)
  · refine lv_iload_n hx hb dX0_rowOf_8 rfl (lv_at hl 1 rfl) ?_
    refine zw_neg hf (fun hn hf => ?_) (fun hn hf => ?_)
    · exact zw_newNeg X htr hw hl.1 hn (Nat.le_of_ble_eq_true rfl) (Nat.le_of_ble_eq_true rfl) (Nat.le_of_ble_eq_true rfl) (Nat.le_of_ble_eq_true rfl) dX0_rowOf_9 (fun H locs hw hxo => ze_leaves X hw hxo hf htb (by simp) (Nat.le_of_ble_eq_true rfl) (Nat.le_of_ble_eq_true rfl))
    · refine zw_len hf (fun hlen hf => ?_)
      refine zw_news X hw q1092 hf rfl (zb_bytes hlen (by decide)) (Nat.le_of_ble_eq_true rfl) (by show _ ≤ (1010 : Nat); omega) dX0_rowOf_9 (fun r1 H hf hw => ?_)
      refine W.widen (k := 1) (n := 24) (Nat.le_refl _) (by omega) ?_
      exact ze_aret X (Or.inl ⟨_, rfl⟩) hw hf (Nat.le_of_ble_eq_true rfl) (Nat.le_of_ble_eq_true rfl) dX0_rowOf_11
  · refine lv_iload_n hx hb dX0_rowOf_4 rfl (lv_at hl 1 rfl) ?_
    refine zw_neg hf (fun hn hf => ?_) (fun hn hf => ?_)
    · exact zw_newNeg X htr hw hl.1 hn (Nat.le_of_ble_eq_true rfl) (Nat.le_of_ble_eq_true rfl) (Nat.le_of_ble_eq_true rfl) (Nat.le_of_ble_eq_true rfl) dX0_rowOf_5 (fun H locs hw hxo => ze_leaves X hw hxo hf htb (by simp) (Nat.le_of_ble_eq_true rfl) (Nat.le_of_ble_eq_true rfl))
    · refine zw_len hf (fun hlen hf => ?_)
      refine zw_newf X hw q325 hf rfl (zb_bytes hlen (by decide)) (Nat.le_of_ble_eq_true rfl) (by show _ ≤ (1010 : Nat); omega) dX0_rowOf_5 (fun r2 H hf hw => ?_)
      refine W.widen (k := 1) (n := 24) (Nat.le_refl _) (by omega) ?_
      exact ze_aret X (Or.inl ⟨_, rfl⟩) hw hf (Nat.le_of_ble_eq_true rfl) (Nat.le_of_ble_eq_true rfl) dX0_rowOf_7
set_option maxHeartbeats 4000000 in
theorem mx_X0_as (l : Launch) (D : va_G) (A : Nat → Prop) (htr : l.stackTraces = false) (h : zT) (a0 : Nat) (i1 : Int32) (i2 : Int32) (res : (Nat ⊕ Int32) × zT) (hf : f_X0_as h a0 i1 i2 = some res) : zMt l yX0_as cX0_as 5 (Option.some FieldType.int) [(30, 38, 39, 330)] rm_X0_as (zPW D A (zEv A) h [.ref a0, .int i1, .int i2]) (zQX D A (zoI res.1) res.2) 3 1010 A := by
  refine zmtX (zEv_ok A) (Nat.le_of_ble_eq_true rfl) ?_
  intro p e s m below meth c ls htb hmn X hw hl
  have hl : lv_has ls 5 [(0, .ref a0), (1, .int i1), (2, .int i2)] := hl
  have hx := X.1.1
  have hb := X.1.2.1
  have hown := X.1.2.2.2.1
  have hts := X.1.2.2.2.2
  have hN := X.2.2.2.2.2.2.1
  have hDW := X.2.2.2.2.2.2.2.1
  have hAO := X.2.2.2.2.2.2.2.2.1
  have hNC := X.2.2.2.2.2.2.2.2.2.1
  unfold f_X0_as at hf
  refine lv_aload_n hx hb dX0_as_0 rfl (lv_at hl 0 rfl) ?_
  refine lv_iload_n hx hb dX0_as_1 rfl (lv_at hl 1 rfl) ?_
  refine zw_kC hf (fun fs hfs hf => ?_)
  refine zw_goZ (rest := []) hw hf (fun r hr => va_runV (C := RX0) (As := [.int i1]) (rest := []) X.1 (mt_X0_isRubbing l D A h a0 i1 r hr) (cwV 1 hts (lw_V q629 q631 qs19 q81 q632) rfl rfl rfl ⟨rfl, cd_X0_isRubbing⟩ ⟨Nat.le_of_ble_eq_true rfl, Nat.le_of_ble_eq_true rfl⟩) (zpreV (ci := 0) X hw hfs rfl _) rfl rfl hl.1 rfl (lv_room (Nat.le_of_ble_eq_true rfl)) dX0_as_2 ⟨Nat.le_of_ble_eq_true rfl, Nat.le_of_ble_eq_true rfl⟩) (fun r1 H locs hf hw => ?_)
  refine zw_if_eq (tgt := 17) hx hb hf dX0_as_5 (by decide) (fun hf => ?_) (fun hf => ?_)
  · refine lv_ldc (v := (-1000000001 : Int32)) hx hb hown (hts _ q342) dX0_as_17 ?_
    exact zx_iret X hw hf (Nat.le_of_ble_eq_true rfl) (Nat.le_of_ble_eq_true rfl) dX0_as_19
  · refine lv_iload_n hx hb dX0_as_8 rfl (lv_at hl 2 rfl) ?_
    refine lv_iconst (v := (0 : Int32)) hx hb dX0_as_9 (by decide) ?_
    refine lv_iconst (v := (5 : Int32)) hx hb dX0_as_10 (by decide) ?_
    refine zw_goZ (rest := []) hw hf (fun r hr => va_runS (As := [.int i2, .int (0 : Int32), .int (5 : Int32)]) (rest := []) X.1 (mt_X0_isIn l D A r1.2 i2 (0 : Int32) (5 : Int32) r hr) (va_cwS 3 hts (lw_S q339 q340 q81 q341) rfl rfl rfl cd_X0_isIn ⟨Nat.le_of_ble_eq_true rfl, Nat.le_of_ble_eq_true rfl⟩) (zpreS X hw _) rfl rfl hl.1 rfl (lv_room (Nat.le_of_ble_eq_true rfl)) dX0_as_11 ⟨Nat.le_of_ble_eq_true rfl, Nat.le_of_ble_eq_true rfl⟩) (fun r2 H locs hf hw => ?_)
    refine zw_if_ne (tgt := 20) hx hb hf dX0_as_14 (by decide) (fun hf => ?_) (fun hf => ?_)
    · refine lv_aload_n hx hb dX0_as_20 rfl (lv_at hl 0 rfl) ?_
      refine zw_getR X hw fs_X0_0 q252 rfl hf dX0_as_21 (fun v3 hf => ?_)
      refine zw_getRN X hw fs_X1_2 (hN _ nq131) rfl hf dX0_as_24 (fun v4 hf => ?_)
      refine lv_iload_n hx hb dX0_as_27 rfl (lv_at hl 1 rfl) ?_
      refine zw_aaloadR X hw hf dX0_as_28 (fun v5 hf => ?_)
      refine lv_astore_n (lv' := [(3, .ref v5), (0, .ref a0), (1, .int i1), (2, .int i2)]) hx hb dX0_as_29 rfl hl (by decide) rfl (fun ls hl => ?_)
      refine lv_aload_n hx hb dX0_as_30 rfl (lv_at hl 0 rfl) ?_
      refine lv_iload_n hx hb dX0_as_31 rfl (lv_at hl 3 rfl) ?_
      refine ze_call (rest := []) hw hf (fun r hr => zrtS (As := [.ref v5, .int i2]) (rest := []) X.1 (mx_X0_takenFor l D A htr r2.2 v5 i2 r hr) (hts _ q825) (hts _ q826) (hts _ q81) (Cond.code_named (hts _ q827)) (zCode.code (hts _ q827)) cd_X0_takenFor (by decide) rfl rfl ⟨Nat.le_of_ble_eq_true rfl, Nat.le_of_ble_eq_true rfl⟩ (zpreS X hw _) rfl rfl hl.1 rfl (lv_room (Nat.le_of_ble_eq_true rfl)) dX0_as_32 ⟨Nat.le_of_ble_eq_true rfl, Nat.le_of_ble_eq_true rfl⟩) (fun x9 h8 H locs hf hw hxo => ?_) (fun v7 h6 H locs hf hw => ?_)
      · refine ze_caught X htb hxo (hN _ nq818) 0 rfl (by decide) (by decide) (by decide) q798 ?_
        refine lv_astore (lv' := [(4, .ref x9), (3, .ref v5), (0, .ref a0), (1, .int i1), (2, .int i2)]) hx hb dX0_as_39 hl (by decide) rfl (fun ls hl => ?_)
        refine lv_ldcw (v := (-1000000012 : Int32)) hx hb hown (hts _ q828) dX0_as_41 ?_
        exact zx_iret X hw hf (Nat.le_of_ble_eq_true rfl) (Nat.le_of_ble_eq_true rfl) dX0_as_44
      · refine zw_getI X hw fs_X6_1 q548 rfl hf dX0_as_35 (fun v10 hf => ?_)
        exact zx_iret X hw hf (Nat.le_of_ble_eq_true rfl) (Nat.le_of_ble_eq_true rfl) dX0_as_38
    · refine lv_ldc (v := (-1000000001 : Int32)) hx hb hown (hts _ q342) dX0_as_17 ?_
      exact zx_iret X hw hf (Nat.le_of_ble_eq_true rfl) (Nat.le_of_ble_eq_true rfl) dX0_as_19
set_option maxHeartbeats 4000000 in
theorem k_X0_sheet_29 {p : Program} {l : Launch} {e : Env} {s : State} {m : MethodId} {args : Array Value} {below : List Frame} {meth : Method} {c : Code} {D : va_G} {A : Nat → Prop} (X : zCx p s m args meth c D A (zEv A) cX0_sheet 5 RX0 (Option.some FieldType.int)) (htb : zTbl c [(45, 69, 70, 431)]) (htr : l.stackTraces = false) (res : (Nat ⊕ Int32) × zT) : ∀ (h : zT) (a0 : Nat) (i1 : Int32) (i2 : Int32) (i3 : Int32) (H : Heap) (locs : List Loc) (ls : Array Slot), f_X0_sheet_29 h a0 i1 i2 i3 = some res → zWh D A s H h locs → lv_has ls 5 [(0, .ref a0), (1, .int i1), (2, .int i2), (3, .int i3)] → W p l e rm_X0_sheet s m args below meth c H locs 0 0 (zMQ below (zQX D A (zoI res.1) res.2) args s 3 1010 A) (F0 m 29 ls []) := by
  have hx := X.1.1
  have hb := X.1.2.1
  have hown := X.1.2.2.2.1
  have hts := X.1.2.2.2.2
  have hN := X.2.2.2.2.2.2.1
  have hDW := X.2.2.2.2.2.2.2.1
  have hAO := X.2.2.2.2.2.2.2.2.1
  have hNC := X.2.2.2.2.2.2.2.2.2.1
  intro h a0 i1 i2 i3 H locs ls hf hw hl
  unfold f_X0_sheet_29 at hf
  refine lv_iload_n hx hb dX0_sheet_29 rfl (lv_at hl 2 rfl) ?_
  refine zw_if_ge (tgt := 45) hx hb hf dX0_sheet_30 (by decide) (fun hf => ?_) (fun hf => ?_)
  · refine lv_aload_n hx hb dX0_sheet_45 rfl (lv_at hl 0 rfl) ?_
    refine zw_getR X hw fs_X0_18 q270 rfl hf dX0_sheet_46 (fun v1 hf => ?_)
    refine lv_iload_n hx hb dX0_sheet_49 rfl (lv_at hl 1 rfl) ?_
    refine zw_aaloadR X hw hf dX0_sheet_50 (fun v2 hf => ?_)
    refine lv_iload_n hx hb dX0_sheet_51 rfl (lv_at hl 2 rfl) ?_
    refine lv_iconst (v := (1 : Int32)) hx hb dX0_sheet_52 (by decide) ?_
    refine zw_icmp_ne (tgt := 60) hx hb hf dX0_sheet_53 (by decide) (fun hf => ?_) (fun hf => ?_)
    · refine lv_iconst (v := (0 : Int32)) hx hb dX0_sheet_60 (by decide) ?_
      refine lv_iload_n hx hb dX0_sheet_61 rfl (lv_at hl 3 rfl) ?_
      refine ze_call (rest := [.ref v2]) hw hf (fun r hr => zrtS (As := [.int (0 : Int32), .int i3]) (rest := [.ref v2]) X.1 (mx_X0_rowOfX l D A htr h (0 : Int32) i3 r hr) (hts _ q1088) (hts _ q1089) (hts _ q81) (Cond.code_named (hts _ q1090)) (zCode.code (hts _ q1090)) cd_X0_rowOf (by decide) rfl rfl ⟨Nat.le_of_ble_eq_true rfl, Nat.le_of_ble_eq_true rfl⟩ (zpreS X hw _) rfl rfl hl.1 rfl (lv_room (Nat.le_of_ble_eq_true rfl)) dX0_sheet_62 ⟨Nat.le_of_ble_eq_true rfl, Nat.le_of_ble_eq_true rfl⟩) (fun x6 h5 H locs hf hw hxo => ?_) (fun v4 h3 H locs hf hw => ?_)
      · refine ze_caught X htb hxo (hN _ nq1083) 0 rfl (by decide) (by decide) (by decide) q1071 ?_
        refine lv_astore (lv' := [(4, .ref x6), (0, .ref a0), (1, .int i1), (2, .int i2), (3, .int i3)]) hx hb dX0_sheet_70 hl (by decide) rfl (fun ls hl => ?_)
        refine lv_ldcw (v := (-1000000014 : Int32)) hx hb hown (hts _ q1091) dX0_sheet_72 ?_
        exact zx_iret X hw hf (Nat.le_of_ble_eq_true rfl) (Nat.le_of_ble_eq_true rfl) dX0_sheet_75
      · refine zw_putN X hw fs_X3_0 (hN _ nq236) rfl rfl rfl rfl hf dX0_sheet_65 (fun h7 H locs hf hw => ?_)
        refine lv_iload_n hx hb dX0_sheet_68 rfl (lv_at hl 3 rfl) ?_
        exact zx_iret X hw hf (Nat.le_of_ble_eq_true rfl) (Nat.le_of_ble_eq_true rfl) dX0_sheet_69
    · refine lv_iconst (v := (1 : Int32)) hx hb dX0_sheet_56 (by decide) ?_
      refine lv_goto (tgt := 61) hx hb dX0_sheet_57 (by decide) ?_
      refine lv_iload_n hx hb dX0_sheet_61 rfl (lv_at hl 3 rfl) ?_
      refine ze_call (rest := [.ref v2]) hw hf (fun r hr => zrtS (As := [.int (1 : Int32), .int i3]) (rest := [.ref v2]) X.1 (mx_X0_rowOfX l D A htr h (1 : Int32) i3 r hr) (hts _ q1088) (hts _ q1089) (hts _ q81) (Cond.code_named (hts _ q1090)) (zCode.code (hts _ q1090)) cd_X0_rowOf (by decide) rfl rfl ⟨Nat.le_of_ble_eq_true rfl, Nat.le_of_ble_eq_true rfl⟩ (zpreS X hw _) rfl rfl hl.1 rfl (lv_room (Nat.le_of_ble_eq_true rfl)) dX0_sheet_62 ⟨Nat.le_of_ble_eq_true rfl, Nat.le_of_ble_eq_true rfl⟩) (fun x11 h10 H locs hf hw hxo => ?_) (fun v9 h8 H locs hf hw => ?_)
      · refine ze_caught X htb hxo (hN _ nq1083) 0 rfl (by decide) (by decide) (by decide) q1071 ?_
        refine lv_astore (lv' := [(4, .ref x11), (0, .ref a0), (1, .int i1), (2, .int i2), (3, .int i3)]) hx hb dX0_sheet_70 hl (by decide) rfl (fun ls hl => ?_)
        refine lv_ldcw (v := (-1000000014 : Int32)) hx hb hown (hts _ q1091) dX0_sheet_72 ?_
        exact zx_iret X hw hf (Nat.le_of_ble_eq_true rfl) (Nat.le_of_ble_eq_true rfl) dX0_sheet_75
      · refine zw_putN X hw fs_X3_0 (hN _ nq236) rfl rfl rfl rfl hf dX0_sheet_65 (fun h12 H locs hf hw => ?_)
        refine lv_iload_n hx hb dX0_sheet_68 rfl (lv_at hl 3 rfl) ?_
        exact zx_iret X hw hf (Nat.le_of_ble_eq_true rfl) (Nat.le_of_ble_eq_true rfl) dX0_sheet_69
  · refine lv_aload_n hx hb dX0_sheet_33 rfl (lv_at hl 0 rfl) ?_
    refine zw_getR X hw fs_X0_18 q270 rfl hf dX0_sheet_34 (fun v13 hf => ?_)
    refine lv_iload_n hx hb dX0_sheet_37 rfl (lv_at hl 1 rfl) ?_
    refine zw_aaloadR X hw hf dX0_sheet_38 (fun v14 hf => ?_)
    refine zw_null hx hb dX0_sheet_39 ?_
    refine zw_putN X hw fs_X3_0 (hN _ nq236) rfl rfl (zq_nar (Or.inl ⟨_, rfl⟩)) (zq_fit (Or.inl ⟨_, rfl⟩)) hf dX0_sheet_40 (fun h15 H locs hf hw => ?_)
    refine lv_iconst (v := (0 : Int32)) hx hb dX0_sheet_43 (by decide) ?_
    exact zx_iret X hw hf (Nat.le_of_ble_eq_true rfl) (Nat.le_of_ble_eq_true rfl) dX0_sheet_44
set_option maxHeartbeats 4000000 in
theorem mx_X0_sheet (l : Launch) (D : va_G) (A : Nat → Prop) (htr : l.stackTraces = false) (h : zT) (a0 : Nat) (i1 : Int32) (i2 : Int32) (i3 : Int32) (res : (Nat ⊕ Int32) × zT) (hf : f_X0_sheet h a0 i1 i2 i3 = some res) : zMt l yX0_sheet cX0_sheet 5 (Option.some FieldType.int) [(45, 69, 70, 431)] rm_X0_sheet (zPW D A (zEv A) h [.ref a0, .int i1, .int i2, .int i3]) (zQX D A (zoI res.1) res.2) 3 1010 A := by
  refine zmtX (zEv_ok A) (Nat.le_of_ble_eq_true rfl) ?_
  intro p e s m below meth c ls htb hmn X hw hl
  have hl : lv_has ls 5 [(0, .ref a0), (1, .int i1), (2, .int i2), (3, .int i3)] := hl
  have hx := X.1.1
  have hb := X.1.2.1
  have hown := X.1.2.2.2.1
  have hts := X.1.2.2.2.2
  have hN := X.2.2.2.2.2.2.1
  have hDW := X.2.2.2.2.2.2.2.1
  have hAO := X.2.2.2.2.2.2.2.2.1
  have hNC := X.2.2.2.2.2.2.2.2.2.1
  unfold f_X0_sheet at hf
  refine lv_iload_n hx hb dX0_sheet_0 rfl (lv_at hl 1 rfl) ?_
  refine zw_goZ (rest := []) hw hf (fun r hr => va_runS (As := [.int i1]) (rest := []) X.1 (mt_X0_isSheet l D A h i1 r hr) (va_cwS 1 hts (lw_S q1085 q1086 q81 q1087) rfl rfl rfl cd_X0_isSheet ⟨Nat.le_of_ble_eq_true rfl, Nat.le_of_ble_eq_true rfl⟩) (zpreS X hw _) rfl rfl hl.1 rfl (lv_room (Nat.le_of_ble_eq_true rfl)) dX0_sheet_1 ⟨Nat.le_of_ble_eq_true rfl, Nat.le_of_ble_eq_true rfl⟩) (fun r1 H locs hf hw => ?_)
  refine zw_if_eq (tgt := 26) hx hb hf dX0_sheet_4 (by decide) (fun hf => ?_) (fun hf => ?_)
  · refine lv_ldc (v := (-1000000001 : Int32)) hx hb hown (hts _ q342) dX0_sheet_26 ?_
    exact zx_iret X hw hf (Nat.le_of_ble_eq_true rfl) (Nat.le_of_ble_eq_true rfl) dX0_sheet_28
  · refine lv_iload_n hx hb dX0_sheet_7 rfl (lv_at hl 2 rfl) ?_
    refine lv_iconst (v := (-1 : Int32)) hx hb dX0_sheet_8 (by decide) ?_
    refine lv_iconst (v := (1 : Int32)) hx hb dX0_sheet_9 (by decide) ?_
    refine zw_goZ (rest := []) hw hf (fun r hr => va_runS (As := [.int i2, .int (-1 : Int32), .int (1 : Int32)]) (rest := []) X.1 (mt_X0_isIn l D A r1.2 i2 (-1 : Int32) (1 : Int32) r hr) (va_cwS 3 hts (lw_S q339 q340 q81 q341) rfl rfl rfl cd_X0_isIn ⟨Nat.le_of_ble_eq_true rfl, Nat.le_of_ble_eq_true rfl⟩) (zpreS X hw _) rfl rfl hl.1 rfl (lv_room (Nat.le_of_ble_eq_true rfl)) dX0_sheet_10 ⟨Nat.le_of_ble_eq_true rfl, Nat.le_of_ble_eq_true rfl⟩) (fun r2 H locs hf hw => ?_)
    refine zw_if_eq (tgt := 26) hx hb hf dX0_sheet_13 (by decide) (fun hf => ?_) (fun hf => ?_)
    · refine lv_ldc (v := (-1000000001 : Int32)) hx hb hown (hts _ q342) dX0_sheet_26 ?_
      exact zx_iret X hw hf (Nat.le_of_ble_eq_true rfl) (Nat.le_of_ble_eq_true rfl) dX0_sheet_28
    · refine lv_iload_n hx hb dX0_sheet_16 rfl (lv_at hl 2 rfl) ?_
      refine zw_if_lt (tgt := 29) hx hb hf dX0_sheet_17 (by decide) (fun hf => ?_) (fun hf => ?_)
      · exact k_X0_sheet_29 X htb htr _ r2.2 a0 i1 i2 i3 _ _ _ hf hw (lv_sub hl [0, 1, 2, 3] rfl)
      · refine lv_iload_n hx hb dX0_sheet_20 rfl (lv_at hl 3 rfl) ?_
        refine lv_bipush (v := (24 : Int32)) hx hb dX0_sheet_21 (by decide) ?_
        refine zw_icmp_le (tgt := 29) hx hb hf dX0_sheet_23 (by decide) (fun hf => ?_) (fun hf => ?_)
        · exact k_X0_sheet_29 X htb htr _ r2.2 a0 i1 i2 i3 _ _ _ hf hw (lv_sub hl [0, 1, 2, 3] rfl)
        · refine lv_ldc (v := (-1000000001 : Int32)) hx hb hown (hts _ q342) dX0_sheet_26 ?_
          exact zx_iret X hw hf (Nat.le_of_ble_eq_true rfl) (Nat.le_of_ble_eq_true rfl) dX0_sheet_28
set_option maxHeartbeats 4000000 in
theorem mx_X0_ask (l : Launch) (D : va_G) (A : Nat → Prop) (htr : l.stackTraces = false) (h : zT) (a0 : Nat) (i1 : Int32) (i2 : Int32) (res : (Nat ⊕ Int32) × zT) (hf : f_X0_ask h a0 i1 i2 = some res) : zMt l yX0_ask cX0_ask 5 (Option.some FieldType.int) [(37, 51, 52, 330)] rm_X0_ask (zPW D A (zEv A) h [.ref a0, .int i1, .int i2]) (zQX D A (zoI res.1) res.2) 3 1010 A := by
  refine zmtX (zEv_ok A) (Nat.le_of_ble_eq_true rfl) ?_
  intro p e s m below meth c ls htb hmn X hw hl
  have hl : lv_has ls 5 [(0, .ref a0), (1, .int i1), (2, .int i2)] := hl
  have hx := X.1.1
  have hb := X.1.2.1
  have hown := X.1.2.2.2.1
  have hts := X.1.2.2.2.2
  have hN := X.2.2.2.2.2.2.1
  have hDW := X.2.2.2.2.2.2.2.1
  have hAO := X.2.2.2.2.2.2.2.2.1
  have hNC := X.2.2.2.2.2.2.2.2.2.1
  unfold f_X0_ask at hf
  refine lv_iload_n hx hb dX0_ask_0 rfl (lv_at hl 1 rfl) ?_
  refine zw_goZ (rest := []) hw hf (fun r hr => va_runS (As := [.int i1]) (rest := []) X.1 (mt_X0_isSlot l D A h i1 r hr) (va_cwS 1 hts (lw_S q1163 q1164 q81 q1165) rfl rfl rfl cd_X0_isSlot ⟨Nat.le_of_ble_eq_true rfl, Nat.le_of_ble_eq_true rfl⟩) (zpreS X hw _) rfl rfl hl.1 rfl (lv_room (Nat.le_of_ble_eq_true rfl)) dX0_ask_1 ⟨Nat.le_of_ble_eq_true rfl, Nat.le_of_ble_eq_true rfl⟩) (fun r1 H locs hf hw => ?_)
  refine zw_if_eq (tgt := 16) hx hb hf dX0_ask_4 (by decide) (fun hf => ?_) (fun hf => ?_)
  · refine lv_ldc (v := (-1000000001 : Int32)) hx hb hown (hts _ q342) dX0_ask_16 ?_
    exact zx_iret X hw hf (Nat.le_of_ble_eq_true rfl) (Nat.le_of_ble_eq_true rfl) dX0_ask_18
  · refine lv_iload_n hx hb dX0_ask_7 rfl (lv_at hl 2 rfl) ?_
    refine lv_iconst (v := (0 : Int32)) hx hb dX0_ask_8 (by decide) ?_
    refine lv_iconst (v := (5 : Int32)) hx hb dX0_ask_9 (by decide) ?_
    refine zw_goZ (rest := []) hw hf (fun r hr => va_runS (As := [.int i2, .int (0 : Int32), .int (5 : Int32)]) (rest := []) X.1 (mt_X0_isIn l D A r1.2 i2 (0 : Int32) (5 : Int32) r hr) (va_cwS 3 hts (lw_S q339 q340 q81 q341) rfl rfl rfl cd_X0_isIn ⟨Nat.le_of_ble_eq_true rfl, Nat.le_of_ble_eq_true rfl⟩) (zpreS X hw _) rfl rfl hl.1 rfl (lv_room (Nat.le_of_ble_eq_true rfl)) dX0_ask_10 ⟨Nat.le_of_ble_eq_true rfl, Nat.le_of_ble_eq_true rfl⟩) (fun r2 H locs hf hw => ?_)
    refine zw_if_ne (tgt := 19) hx hb hf dX0_ask_13 (by decide) (fun hf => ?_) (fun hf => ?_)
    · refine lv_aload_n hx hb dX0_ask_19 rfl (lv_at hl 0 rfl) ?_
      refine zw_getR X hw fs_X0_19 q271 rfl hf dX0_ask_20 (fun v3 hf => ?_)
      refine lv_iload_n hx hb dX0_ask_23 rfl (lv_at hl 1 rfl) ?_
      refine zw_aaloadR X hw hf dX0_ask_24 (fun v4 hf => ?_)
      refine zw_getQN X hw fs_X4_0 (hN _ nq248) rfl hf dX0_ask_25 (fun v5 hf => ?_)
      refine zw_astore_nQ (lv' := [(3, va_rf v5), (0, .ref a0), (1, .int i1), (2, .int i2)]) hx hb dX0_ask_28 rfl hl (by decide) rfl (fun ls hl => ?_)
      refine zw_aload_nQ hx hb dX0_ask_29 rfl (lv_at hl 0 rfl) ?_
      refine zw_ifnonnull (tgt := 37) hx hb hf dX0_ask_30 (by decide) (fun hf => ?_) (fun hf => ?_)
      · refine zw_aload_nQ hx hb dX0_ask_37 rfl (lv_at hl 0 rfl) ?_
        refine lv_iload_n hx hb dX0_ask_38 rfl (lv_at hl 3 rfl) ?_
        refine zw_nn hf (fun b6 e9 hf9 => ?_)
        subst e9
        have hf := hf9
        refine ze_call (rest := []) hw hf (fun r hr => zrtS (As := [.ref b6, .int i2]) (rest := []) X.1 (mx_X0_takenFor l D A htr r2.2 b6 i2 r hr) (hts _ q825) (hts _ q826) (hts _ q81) (Cond.code_named (hts _ q827)) (zCode.code (hts _ q827)) cd_X0_takenFor (by decide) rfl rfl ⟨Nat.le_of_ble_eq_true rfl, Nat.le_of_ble_eq_true rfl⟩ (zpreS X hw _) rfl rfl hl.1 rfl (lv_room (Nat.le_of_ble_eq_true rfl)) dX0_ask_39 ⟨Nat.le_of_ble_eq_true rfl, Nat.le_of_ble_eq_true rfl⟩) (fun x10 h9 H locs hf hw hxo => ?_) (fun v8 h7 H locs hf hw => ?_)
        · refine ze_caught X htb hxo (hN _ nq818) 0 rfl (by decide) (by decide) (by decide) q798 ?_
          refine lv_astore (lv' := [(4, .ref x10), (3, va_rf (some b6)), (0, .ref a0), (1, .int i1), (2, .int i2)]) hx hb dX0_ask_52 hl (by decide) rfl (fun ls hl => ?_)
          refine lv_ldcw (v := (-1000000012 : Int32)) hx hb hown (hts _ q828) dX0_ask_54 ?_
          exact zx_iret X hw hf (Nat.le_of_ble_eq_true rfl) (Nat.le_of_ble_eq_true rfl) dX0_ask_57
        · refine lv_astore (lv' := [(4, .ref v8), (3, va_rf (some b6)), (0, .ref a0), (1, .int i1), (2, .int i2)]) hx hb dX0_ask_42 hl (by decide) rfl (fun ls hl => ?_)
          refine lv_aload hx hb dX0_ask_44 (lv_at hl 0 rfl) ?_
          refine vi_worth (rest := []) h7 v8 X hw hl.1 hf (Nat.le_of_ble_eq_true rfl) (Nat.le_of_ble_eq_true rfl) (Nat.le_of_ble_eq_true rfl) dX0_ask_46 ⟨Nat.le_of_ble_eq_true rfl, Nat.le_of_ble_eq_true rfl⟩ (fun r11 H locs hf hw => ?_)
          exact zx_iret X hw hf (Nat.le_of_ble_eq_true rfl) (Nat.le_of_ble_eq_true rfl) dX0_ask_51
      · refine lv_ldcw (v := (-1000000011 : Int32)) hx hb hown (hts _ q1101) dX0_ask_33 ?_
        exact zx_iret X hw hf (Nat.le_of_ble_eq_true rfl) (Nat.le_of_ble_eq_true rfl) dX0_ask_36
    · refine lv_ldc (v := (-1000000001 : Int32)) hx hb hown (hts _ q342) dX0_ask_16 ?_
      exact zx_iret X hw hf (Nat.le_of_ble_eq_true rfl) (Nat.le_of_ble_eq_true rfl) dX0_ask_18
set_option maxHeartbeats 4000000 in
theorem mx_X0_item (l : Launch) (D : va_G) (A : Nat → Prop) (htr : l.stackTraces = false) (h : zT) (a0 : Nat) (i1 : Int32) (i2 : Int32) (res : (Nat ⊕ Int32) × zT) (hf : f_X0_item h a0 i1 i2 = some res) : zMt l yX0_item cX0_item 5 (Option.some FieldType.int) [(28, 52, 75, 330), (53, 74, 75, 330)] rm_X0_item (zPW D A (zEv A) h [.ref a0, .int i1, .int i2]) (zQX D A (zoI res.1) res.2) 3 1010 A := by
  refine zmtX (zEv_ok A) (Nat.le_of_ble_eq_true rfl) ?_
  intro p e s m below meth c ls htb hmn X hw hl
  have hl : lv_has ls 5 [(0, .ref a0), (1, .int i1), (2, .int i2)] := hl
  have hx := X.1.1
  have hb := X.1.2.1
  have hown := X.1.2.2.2.1
  have hts := X.1.2.2.2.2
  have hN := X.2.2.2.2.2.2.1
  have hDW := X.2.2.2.2.2.2.2.1
  have hAO := X.2.2.2.2.2.2.2.2.1
  have hNC := X.2.2.2.2.2.2.2.2.2.1
  unfold f_X0_item at hf
  refine lv_iload_n hx hb dX0_item_0 rfl (lv_at hl 1 rfl) ?_
  refine zw_goZ (rest := []) hw hf (fun r hr => va_runS (As := [.int i1]) (rest := []) X.1 (mt_X0_isSlot l D A h i1 r hr) (va_cwS 1 hts (lw_S q1163 q1164 q81 q1165) rfl rfl rfl cd_X0_isSlot ⟨Nat.le_of_ble_eq_true rfl, Nat.le_of_ble_eq_true rfl⟩) (zpreS X hw _) rfl rfl hl.1 rfl (lv_room (Nat.le_of_ble_eq_true rfl)) dX0_item_1 ⟨Nat.le_of_ble_eq_true rfl, Nat.le_of_ble_eq_true rfl⟩) (fun r1 H locs hf hw => ?_)
  refine zw_if_ne (tgt := 10) hx hb hf dX0_item_4 (by decide) (fun hf => ?_) (fun hf => ?_)
  · refine lv_aload_n hx hb dX0_item_10 rfl (lv_at hl 0 rfl) ?_
    refine zw_getR X hw fs_X0_19 q271 rfl hf dX0_item_11 (fun v2 hf => ?_)
    refine lv_iload_n hx hb dX0_item_14 rfl (lv_at hl 1 rfl) ?_
    refine zw_aaloadR X hw hf dX0_item_15 (fun v3 hf => ?_)
    refine zw_getQN X hw fs_X4_0 (hN _ nq248) rfl hf dX0_item_16 (fun v4 hf => ?_)
    refine zw_astore_nQ (lv' := [(3, va_rf v4), (0, .ref a0), (1, .int i1), (2, .int i2)]) hx hb dX0_item_19 rfl hl (by decide) rfl (fun ls hl => ?_)
    refine zw_aload_nQ hx hb dX0_item_20 rfl (lv_at hl 0 rfl) ?_
    refine zw_ifnonnull (tgt := 28) hx hb hf dX0_item_21 (by decide) (fun hf => ?_) (fun hf => ?_)
    · refine zw_aload_nQ hx hb dX0_item_28 rfl (lv_at hl 0 rfl) ?_
      refine zw_nn hf (fun b5 e9 hf9 => ?_)
      subst e9
      have hf := hf9
      refine zw_cast (t := 3) X htr hw hl.1 (by decide) q228 hf (Nat.le_of_ble_eq_true rfl) (Nat.le_of_ble_eq_true rfl) (Nat.le_of_ble_eq_true rfl) (Nat.le_of_ble_eq_true rfl) dX0_item_29 (fun hf => ?_) (fun H locs hf hw hxo => ?_)
      · refine lv_astore (lv' := [(4, .ref b5), (3, va_rf (some b5)), (0, .ref a0), (1, .int i1), (2, .int i2)]) hx hb dX0_item_32 hl (by decide) rfl (fun ls hl => ?_)
        refine lv_iload_n hx hb dX0_item_34 rfl (lv_at hl 4 rfl) ?_
        refine lv_iconst (v := (0 : Int32)) hx hb dX0_item_35 (by decide) ?_
        refine lv_aload hx hb dX0_item_36 (lv_at hl 0 rfl) ?_
        refine zw_kC hf (fun fs hfs hf => ?_)
        refine zw_goI (rest := [.int (0 : Int32), .int i2]) hw hf (fun r hr => va_runV (C := RX3) (As := []) (rest := [.int (0 : Int32), .int i2]) X.1 (mt_X3_size l D A r1.2 b5 r hr) (cwV 0 hts (lw_V q1102 q1103 q1104 q87 q1105) rfl rfl rfl ⟨rfl, cd_X3_size⟩ ⟨Nat.le_of_ble_eq_true rfl, Nat.le_of_ble_eq_true rfl⟩) (zpreV (ci := 3) X hw hfs rfl _) rfl rfl hl.1 rfl (lv_room (Nat.le_of_ble_eq_true rfl)) dX0_item_38 ⟨Nat.le_of_ble_eq_true rfl, Nat.le_of_ble_eq_true rfl⟩) (fun r7 H locs hf hw => ?_)
        refine lv_iconst (v := (1 : Int32)) hx hb dX0_item_41 (by decide) ?_
        refine lv_isub hx hb dX0_item_42 ?_
        refine zw_goZ (rest := []) hw hf (fun r hr => va_runS (As := [.int i2, .int (0 : Int32), .int (r7.1 - (1 : Int32))]) (rest := []) X.1 (mt_X0_isIn l D A r7.2 i2 (0 : Int32) (r7.1 - (1 : Int32)) r hr) (va_cwS 3 hts (lw_S q339 q340 q81 q341) rfl rfl rfl cd_X0_isIn ⟨Nat.le_of_ble_eq_true rfl, Nat.le_of_ble_eq_true rfl⟩) (zpreS X hw _) rfl rfl hl.1 rfl (lv_room (Nat.le_of_ble_eq_true rfl)) dX0_item_43 ⟨Nat.le_of_ble_eq_true rfl, Nat.le_of_ble_eq_true rfl⟩) (fun r8 H locs hf hw => ?_)
        refine zw_if_ne (tgt := 53) hx hb hf dX0_item_46 (by decide) (fun hf => ?_) (fun hf => ?_)
        · refine lv_aload hx hb dX0_item_53 (lv_at hl 0 rfl) ?_
          refine lv_iload_n hx hb dX0_item_55 rfl (lv_at hl 4 rfl) ?_
          refine zw_kC hf (fun fs hfs hf => ?_)
          refine zw_goZ (rest := []) hw hf (fun r hr => va_runV (C := RX3) (As := [.int i2]) (rest := []) X.1 (mt_X3_isNumber l D A r8.2 b5 i2 r hr) (cwV 1 hts (lw_V q1128 q1129 q1130 q87 q1131) rfl rfl rfl ⟨rfl, cd_X3_isNumber⟩ ⟨Nat.le_of_ble_eq_true rfl, Nat.le_of_ble_eq_true rfl⟩) (zpreV (ci := 3) X hw hfs rfl _) rfl rfl hl.1 rfl (lv_room (Nat.le_of_ble_eq_true rfl)) dX0_item_56 ⟨Nat.le_of_ble_eq_true rfl, Nat.le_of_ble_eq_true rfl⟩) (fun r9 H locs hf hw => ?_)
          refine zw_if_eq (tgt := 71) hx hb hf dX0_item_59 (by decide) (fun hf => ?_) (fun hf => ?_)
          · refine lv_ldcw (v := (-1000000012 : Int32)) hx hb hown (hts _ q828) dX0_item_71 ?_
            exact zx_iret X hw hf (Nat.le_of_ble_eq_true rfl) (Nat.le_of_ble_eq_true rfl) dX0_item_74
          · refine lv_aload hx hb dX0_item_62 (lv_at hl 0 rfl) ?_
            refine lv_iload_n hx hb dX0_item_64 rfl (lv_at hl 4 rfl) ?_
            refine zw_kC hf (fun fs hfs hf => ?_)
            refine zw_goI (rest := []) hw hf (fun r hr => va_runV (C := RX3) (As := [.int i2]) (rest := []) X.1 (mt_X3_at l D A r9.2 b5 i2 r hr) (cwV 1 hts (lw_V q1132 q1133 q1134 q87 q1135) rfl rfl rfl ⟨rfl, cd_X3_at⟩ ⟨Nat.le_of_ble_eq_true rfl, Nat.le_of_ble_eq_true rfl⟩) (zpreV (ci := 3) X hw hfs rfl _) rfl rfl hl.1 rfl (lv_room (Nat.le_of_ble_eq_true rfl)) dX0_item_65 ⟨Nat.le_of_ble_eq_true rfl, Nat.le_of_ble_eq_true rfl⟩) (fun r10 H locs hf hw => ?_)
            refine lv_goto (tgt := 74) hx hb dX0_item_68 (by decide) ?_
            exact zx_iret X hw hf (Nat.le_of_ble_eq_true rfl) (Nat.le_of_ble_eq_true rfl) dX0_item_74
        · refine lv_ldcw (v := (-1000000013 : Int32)) hx hb hown (hts _ q1123) dX0_item_49 ?_
          exact zx_iret X hw hf (Nat.le_of_ble_eq_true rfl) (Nat.le_of_ble_eq_true rfl) dX0_item_52
      · refine ze_caught X htb hxo (hN _ nq818) 0 rfl (by decide) (by decide) (by decide) q798 ?_
        refine zw_nmR hf (fun v11 hf => ?_)
        refine lv_astore (lv' := [(4, .ref v11), (3, va_rf (some b5)), (0, .ref a0), (1, .int i1), (2, .int i2)]) hx hb dX0_item_75 hl (by decide) rfl (fun ls hl => ?_)
        refine lv_ldcw (v := (-1000000012 : Int32)) hx hb hown (hts _ q828) dX0_item_77 ?_
        exact zx_iret X hw hf (Nat.le_of_ble_eq_true rfl) (Nat.le_of_ble_eq_true rfl) dX0_item_80
    · refine lv_ldcw (v := (-1000000011 : Int32)) hx hb hown (hts _ q1101) dX0_item_24 ?_
      exact zx_iret X hw hf (Nat.le_of_ble_eq_true rfl) (Nat.le_of_ble_eq_true rfl) dX0_item_27
  · refine lv_ldc (v := (-1000000001 : Int32)) hx hb hown (hts _ q342) dX0_item_7 ?_
    exact zx_iret X hw hf (Nat.le_of_ble_eq_true rfl) (Nat.le_of_ble_eq_true rfl) dX0_item_9
