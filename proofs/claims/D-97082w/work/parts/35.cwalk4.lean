/-! The component: the walks (gen/comp.py) -/
set_option maxRecDepth 100000
set_option maxHeartbeats 4000000 in
theorem mt_X0_carries (l : Launch) (D : va_G) (A : Nat → Prop) (h : zT) (a0 : Nat) (a1 : Nat) (i2 : Int32) (a3 : Nat) (i4 : Int32) (i5 : Int32) (res : zT) (hf : f_X0_carries h a0 a1 i2 a3 i4 i5 = some res) : Met l yX0_carries (ws_ yX0_carries cX0_carries 9 (Option.none : Option FieldType)) rm_X0_carries (zPW D A (zEv A) h [.ref a0, .ref a1, .int i2, .ref a3, .int i4, .int i5]) (zQW D A none res) 0 0 A := by
  refine zmt (zEv_ok A) (by decide) (Nat.le_of_ble_eq_true rfl) ?_
  intro p e s m below meth c ls hmn X hw hl
  have hl : lv_has ls 9 [(0, .ref a0), (1, .ref a1), (2, .int i2), (3, .ref a3), (4, .int i4), (5, .int i5)] := hl
  have hx := X.1.1
  have hb := X.1.2.1
  have hown := X.1.2.2.2.1
  have hts := X.1.2.2.2.2
  have hN := X.2.2.2.2.2.2.1
  have hDW := X.2.2.2.2.2.2.2.1
  have hAO := X.2.2.2.2.2.2.2.2.1
  have hNC := X.2.2.2.2.2.2.2.2.2.1
  unfold f_X0_carries at hf
  refine lv_aload_n hx hb dX0_carries_0 rfl (lv_at hl 1 rfl) ?_
  refine zw_kC hf (fun fs hfs hf => ?_)
  refine zw_goZ (rest := []) hw hf (fun r hr => va_runV (C := RX3) (As := []) (rest := []) X.1 (mt_X3_isFloats l D A h a1 r hr) (cwV 0 hts (lw_V q1115 q1107 q1108 q87 q1109) rfl rfl rfl ⟨rfl, cd_X3_isFloats⟩ ⟨Nat.le_of_ble_eq_true rfl, Nat.le_of_ble_eq_true rfl⟩) (zpreV (ci := 3) X hw hfs rfl _) rfl rfl hl.1 rfl (lv_room (Nat.le_of_ble_eq_true rfl)) dX0_carries_1 ⟨Nat.le_of_ble_eq_true rfl, Nat.le_of_ble_eq_true rfl⟩) (fun r1 H locs hf hw => ?_)
  refine zw_if_ne (tgt := 30) hx hb hf dX0_carries_4 (by decide) (fun hf => ?_) (fun hf => ?_)
  · refine lv_aload_n hx hb dX0_carries_30 rfl (lv_at hl 1 rfl) ?_
    refine zw_getQN X hw fs_X3_0 (hN _ nq236) rfl hf dX0_carries_31 (fun v2 hf => ?_)
    refine zw_nn hf (fun b3 e9 hf9 => ?_)
    subst e9
    have hf := hf9
    refine zw_castA (t := .float) X hw q1116 znm_F hf dX0_carries_34 (fun hf => ?_)
    refine lv_astore (lv' := [(6, .ref b3), (0, .ref a0), (1, .ref a1), (2, .int i2), (3, .ref a3), (4, .int i4), (5, .int i5)]) hx hb dX0_carries_37 hl (by decide) rfl (fun ls hl => ?_)
    refine lv_aload_n hx hb dX0_carries_39 rfl (lv_at hl 4 rfl) ?_
    refine zw_getQN X hw fs_X3_0 (hN _ nq236) rfl hf dX0_carries_40 (fun v4 hf => ?_)
    refine zw_nn hf (fun b5 e9 hf9 => ?_)
    subst e9
    have hf := hf9
    refine zw_castA (t := .float) X hw q1116 znm_F hf dX0_carries_43 (fun hf => ?_)
    refine lv_astore (lv' := [(7, .ref b5), (6, .ref b3), (0, .ref a0), (1, .ref a1), (2, .int i2), (3, .ref a3), (4, .int i4), (5, .int i5)]) hx hb dX0_carries_46 hl (by decide) rfl (fun ls hl => ?_)
    refine lv_iconst (v := (0 : Int32)) hx hb dX0_carries_48 (by decide) ?_
    refine lv_istore (lv' := [(8, .int (0 : Int32)), (7, .ref b5), (6, .ref b3), (0, .ref a0), (1, .ref a1), (2, .int i2), (3, .ref a3), (4, .int i4), (5, .int i5)]) hx hb dX0_carries_49 hl (by decide) rfl (fun ls hl => ?_)
    exact k_X0_carries_51 X _ 4096 r1.2 a0 i2 i4 i5 b3 b5 (0 : Int32) _ _ _ hf hw (lv_sub hl [3, 5, 7, 8, 2, 1, 0] rfl)
  · refine lv_aload_n hx hb dX0_carries_7 rfl (lv_at hl 1 rfl) ?_
    refine zw_getQN X hw fs_X3_0 (hN _ nq236) rfl hf dX0_carries_8 (fun v6 hf => ?_)
    refine zw_nn hf (fun b7 e9 hf9 => ?_)
    subst e9
    have hf := hf9
    refine zw_castA (t := .short) X hw q1158 znm_S hf dX0_carries_11 (fun hf => ?_)
    refine lv_iload_n hx hb dX0_carries_14 rfl (lv_at hl 2 rfl) ?_
    refine lv_aload_n hx hb dX0_carries_15 rfl (lv_at hl 3 rfl) ?_
    refine zw_getQN X hw fs_X3_0 (hN _ nq236) rfl hf dX0_carries_16 (fun v8 hf => ?_)
    refine zw_nn hf (fun b9 e9 hf9 => ?_)
    subst e9
    have hf := hf9
    refine zw_castA (t := .short) X hw q1158 znm_S hf dX0_carries_19 (fun hf => ?_)
    refine lv_iload hx hb dX0_carries_22 (lv_at hl 4 rfl) ?_
    refine lv_iload hx hb dX0_carries_24 (lv_at hl 5 rfl) ?_
    refine zw_copyI (ty := .short) (rest := []) X hw hl.1 rfl q1039 q1041 q1040 q100 hf (Nat.le_of_ble_eq_true rfl) (by decide) dX0_carries_26 (fun h10 H locs hf hw => ?_)
    exact zw_vret X hw hf (Nat.le_of_ble_eq_true rfl) (Nat.le_of_ble_eq_true rfl) dX0_carries_29
set_option maxHeartbeats 4000000 in
theorem mt_X0_copy (l : Launch) (D : va_G) (A : Nat → Prop) (h : zT) (a0 : Nat) (i1 : Int32) (i2 : Int32) (i3 : Int32) (i4 : Int32) (i5 : Int32) (res : Int32 × zT) (hf : f_X0_copy h a0 i1 i2 i3 i4 i5 = some res) : Met l yX0_copy (ws_ yX0_copy cX0_copy 8 (Option.some FieldType.int)) rm_X0_copy (zPW D A (zEv A) h [.ref a0, .int i1, .int i2, .int i3, .int i4, .int i5]) (zQW D A (some (.int res.1)) res.2) 0 0 A := by
  refine zmt (zEv_ok A) (by decide) (Nat.le_of_ble_eq_true rfl) ?_
  intro p e s m below meth c ls hmn X hw hl
  have hl : lv_has ls 8 [(0, .ref a0), (1, .int i1), (2, .int i2), (3, .int i3), (4, .int i4), (5, .int i5)] := hl
  have hx := X.1.1
  have hb := X.1.2.1
  have hown := X.1.2.2.2.1
  have hts := X.1.2.2.2.2
  have hN := X.2.2.2.2.2.2.1
  have hDW := X.2.2.2.2.2.2.2.1
  have hAO := X.2.2.2.2.2.2.2.2.1
  have hNC := X.2.2.2.2.2.2.2.2.2.1
  unfold f_X0_copy at hf
  refine lv_iload_n hx hb dX0_copy_0 rfl (lv_at hl 1 rfl) ?_
  refine zw_goZ (rest := []) hw hf (fun r hr => va_runS (As := [.int i1]) (rest := []) X.1 (mt_X0_isSheet l D A h i1 r hr) (va_cwS 1 hts (lw_S q1085 q1086 q81 q1087) rfl rfl rfl cd_X0_isSheet ⟨Nat.le_of_ble_eq_true rfl, Nat.le_of_ble_eq_true rfl⟩) (zpreS X hw _) rfl rfl hl.1 rfl (lv_room (Nat.le_of_ble_eq_true rfl)) dX0_copy_1 ⟨Nat.le_of_ble_eq_true rfl, Nat.le_of_ble_eq_true rfl⟩) (fun r1 H locs hf hw => ?_)
  refine zw_if_eq (tgt := 14) hx hb hf dX0_copy_4 (by decide) (fun hf => ?_) (fun hf => ?_)
  · refine lv_ldc (v := (-1000000001 : Int32)) hx hb hown (hts _ q342) dX0_copy_14 ?_
    exact zw_iret X hw hf (Nat.le_of_ble_eq_true rfl) (Nat.le_of_ble_eq_true rfl) dX0_copy_16
  · refine lv_iload_n hx hb dX0_copy_7 rfl (lv_at hl 3 rfl) ?_
    refine zw_goZ (rest := []) hw hf (fun r hr => va_runS (As := [.int i3]) (rest := []) X.1 (mt_X0_isSheet l D A r1.2 i3 r hr) (va_cwS 1 hts (lw_S q1085 q1086 q81 q1087) rfl rfl rfl cd_X0_isSheet ⟨Nat.le_of_ble_eq_true rfl, Nat.le_of_ble_eq_true rfl⟩) (zpreS X hw _) rfl rfl hl.1 rfl (lv_room (Nat.le_of_ble_eq_true rfl)) dX0_copy_8 ⟨Nat.le_of_ble_eq_true rfl, Nat.le_of_ble_eq_true rfl⟩) (fun r2 H locs hf hw => ?_)
    refine zw_if_ne (tgt := 17) hx hb hf dX0_copy_11 (by decide) (fun hf => ?_) (fun hf => ?_)
    · refine lv_aload_n hx hb dX0_copy_17 rfl (lv_at hl 0 rfl) ?_
      refine zw_getR X hw fs_X0_18 q270 rfl hf dX0_copy_18 (fun v3 hf => ?_)
      refine lv_iload_n hx hb dX0_copy_21 rfl (lv_at hl 1 rfl) ?_
      refine zw_aaloadR X hw hf dX0_copy_22 (fun v4 hf => ?_)
      refine lv_astore (lv' := [(6, .ref v4), (0, .ref a0), (1, .int i1), (2, .int i2), (3, .int i3), (4, .int i4), (5, .int i5)]) hx hb dX0_copy_23 hl (by decide) rfl (fun ls hl => ?_)
      refine lv_aload_n hx hb dX0_copy_25 rfl (lv_at hl 1 rfl) ?_
      refine zw_getR X hw fs_X0_18 q270 rfl hf dX0_copy_26 (fun v5 hf => ?_)
      refine lv_iload_n hx hb dX0_copy_29 rfl (lv_at hl 4 rfl) ?_
      refine zw_aaloadR X hw hf dX0_copy_30 (fun v6 hf => ?_)
      refine lv_astore (lv' := [(7, .ref v6), (6, .ref v4), (0, .ref a0), (1, .int i1), (2, .int i2), (3, .int i3), (4, .int i4), (5, .int i5)]) hx hb dX0_copy_31 hl (by decide) rfl (fun ls hl => ?_)
      refine lv_aload hx hb dX0_copy_33 (lv_at hl 1 rfl) ?_
      refine zw_kC hf (fun fs hfs hf => ?_)
      refine zw_goZ (rest := []) hw hf (fun r hr => va_runV (C := RX3) (As := []) (rest := []) X.1 (mt_X3_isThere l D A r2.2 v4 r hr) (cwV 0 hts (lw_V q1097 q1098 q1099 q87 q1100) rfl rfl rfl ⟨rfl, cd_X3_isThere⟩ ⟨Nat.le_of_ble_eq_true rfl, Nat.le_of_ble_eq_true rfl⟩) (zpreV (ci := 3) X hw hfs rfl _) rfl rfl hl.1 rfl (lv_room (Nat.le_of_ble_eq_true rfl)) dX0_copy_35 ⟨Nat.le_of_ble_eq_true rfl, Nat.le_of_ble_eq_true rfl⟩) (fun r7 H locs hf hw => ?_)
      refine zw_if_eq (tgt := 49) hx hb hf dX0_copy_38 (by decide) (fun hf => ?_) (fun hf => ?_)
      · refine lv_ldcw (v := (-1000000011 : Int32)) hx hb hown (hts _ q1101) dX0_copy_49 ?_
        exact zw_iret X hw hf (Nat.le_of_ble_eq_true rfl) (Nat.le_of_ble_eq_true rfl) dX0_copy_52
      · refine lv_aload hx hb dX0_copy_41 (lv_at hl 0 rfl) ?_
        refine zw_kC hf (fun fs hfs hf => ?_)
        refine zw_goZ (rest := []) hw hf (fun r hr => va_runV (C := RX3) (As := []) (rest := []) X.1 (mt_X3_isThere l D A r7.2 v6 r hr) (cwV 0 hts (lw_V q1097 q1098 q1099 q87 q1100) rfl rfl rfl ⟨rfl, cd_X3_isThere⟩ ⟨Nat.le_of_ble_eq_true rfl, Nat.le_of_ble_eq_true rfl⟩) (zpreV (ci := 3) X hw hfs rfl _) rfl rfl hl.1 rfl (lv_room (Nat.le_of_ble_eq_true rfl)) dX0_copy_43 ⟨Nat.le_of_ble_eq_true rfl, Nat.le_of_ble_eq_true rfl⟩) (fun r8 H locs hf hw => ?_)
        refine zw_if_ne (tgt := 53) hx hb hf dX0_copy_46 (by decide) (fun hf => ?_) (fun hf => ?_)
        · refine lv_aload hx hb dX0_copy_53 (lv_at hl 1 rfl) ?_
          refine zw_kC hf (fun fs hfs hf => ?_)
          refine zw_goZ (rest := []) hw hf (fun r hr => va_runV (C := RX3) (As := []) (rest := []) X.1 (mt_X3_isFloats l D A r8.2 v4 r hr) (cwV 0 hts (lw_V q1115 q1107 q1108 q87 q1109) rfl rfl rfl ⟨rfl, cd_X3_isFloats⟩ ⟨Nat.le_of_ble_eq_true rfl, Nat.le_of_ble_eq_true rfl⟩) (zpreV (ci := 3) X hw hfs rfl _) rfl rfl hl.1 rfl (lv_room (Nat.le_of_ble_eq_true rfl)) dX0_copy_55 ⟨Nat.le_of_ble_eq_true rfl, Nat.le_of_ble_eq_true rfl⟩) (fun r9 H locs hf hw => ?_)
          refine lv_aload hx hb dX0_copy_58 (lv_at hl 0 rfl) ?_
          refine zw_kC hf (fun fs hfs hf => ?_)
          refine zw_goZ (rest := [.int r9.1]) hw hf (fun r hr => va_runV (C := RX3) (As := []) (rest := [.int r9.1]) X.1 (mt_X3_isFloats l D A r9.2 v6 r hr) (cwV 0 hts (lw_V q1115 q1107 q1108 q87 q1109) rfl rfl rfl ⟨rfl, cd_X3_isFloats⟩ ⟨Nat.le_of_ble_eq_true rfl, Nat.le_of_ble_eq_true rfl⟩) (zpreV (ci := 3) X hw hfs rfl _) rfl rfl hl.1 rfl (lv_room (Nat.le_of_ble_eq_true rfl)) dX0_copy_60 ⟨Nat.le_of_ble_eq_true rfl, Nat.le_of_ble_eq_true rfl⟩) (fun r10 H locs hf hw => ?_)
          refine zw_icmp_eq (tgt := 70) hx hb hf dX0_copy_63 (by decide) (fun hf => ?_) (fun hf => ?_)
          · refine lv_iload_n hx hb dX0_copy_70 rfl (lv_at hl 4 rfl) ?_
            refine zw_if_lt (tgt := 109) hx hb hf dX0_copy_71 (by decide) (fun hf => ?_) (fun hf => ?_)
            · refine lv_ldcw (v := (-1000000013 : Int32)) hx hb hown (hts _ q1123) dX0_copy_109 ?_
              exact zw_iret X hw hf (Nat.le_of_ble_eq_true rfl) (Nat.le_of_ble_eq_true rfl) dX0_copy_112
            · refine lv_iload hx hb dX0_copy_74 (lv_at hl 6 rfl) ?_
              refine zw_if_lt (tgt := 109) hx hb hf dX0_copy_76 (by decide) (fun hf => ?_) (fun hf => ?_)
              · refine lv_ldcw (v := (-1000000013 : Int32)) hx hb hown (hts _ q1123) dX0_copy_109 ?_
                exact zw_iret X hw hf (Nat.le_of_ble_eq_true rfl) (Nat.le_of_ble_eq_true rfl) dX0_copy_112
              · refine lv_iload hx hb dX0_copy_79 (lv_at hl 7 rfl) ?_
                refine zw_if_lt (tgt := 109) hx hb hf dX0_copy_81 (by decide) (fun hf => ?_) (fun hf => ?_)
                · refine lv_ldcw (v := (-1000000013 : Int32)) hx hb hown (hts _ q1123) dX0_copy_109 ?_
                  exact zw_iret X hw hf (Nat.le_of_ble_eq_true rfl) (Nat.le_of_ble_eq_true rfl) dX0_copy_112
                · refine lv_iload_n hx hb dX0_copy_84 rfl (lv_at hl 4 rfl) ?_
                  refine lv_aload hx hb dX0_copy_85 (lv_at hl 1 rfl) ?_
                  refine zw_kC hf (fun fs hfs hf => ?_)
                  refine zw_goI (rest := [.int i2]) hw hf (fun r hr => va_runV (C := RX3) (As := []) (rest := [.int i2]) X.1 (mt_X3_size l D A r10.2 v4 r hr) (cwV 0 hts (lw_V q1102 q1103 q1104 q87 q1105) rfl rfl rfl ⟨rfl, cd_X3_size⟩ ⟨Nat.le_of_ble_eq_true rfl, Nat.le_of_ble_eq_true rfl⟩) (zpreV (ci := 3) X hw hfs rfl _) rfl rfl hl.1 rfl (lv_room (Nat.le_of_ble_eq_true rfl)) dX0_copy_87 ⟨Nat.le_of_ble_eq_true rfl, Nat.le_of_ble_eq_true rfl⟩) (fun r11 H locs hf hw => ?_)
                  refine lv_iload hx hb dX0_copy_90 (lv_at hl 7 rfl) ?_
                  refine lv_isub hx hb dX0_copy_92 ?_
                  refine zw_icmp_gt (tgt := 109) hx hb hf dX0_copy_93 (by decide) (fun hf => ?_) (fun hf => ?_)
                  · refine lv_ldcw (v := (-1000000013 : Int32)) hx hb hown (hts _ q1123) dX0_copy_109 ?_
                    exact zw_iret X hw hf (Nat.le_of_ble_eq_true rfl) (Nat.le_of_ble_eq_true rfl) dX0_copy_112
                  · refine lv_iload hx hb dX0_copy_96 (lv_at hl 6 rfl) ?_
                    refine lv_aload hx hb dX0_copy_98 (lv_at hl 0 rfl) ?_
                    refine zw_kC hf (fun fs hfs hf => ?_)
                    refine zw_goI (rest := [.int i4]) hw hf (fun r hr => va_runV (C := RX3) (As := []) (rest := [.int i4]) X.1 (mt_X3_size l D A r11.2 v6 r hr) (cwV 0 hts (lw_V q1102 q1103 q1104 q87 q1105) rfl rfl rfl ⟨rfl, cd_X3_size⟩ ⟨Nat.le_of_ble_eq_true rfl, Nat.le_of_ble_eq_true rfl⟩) (zpreV (ci := 3) X hw hfs rfl _) rfl rfl hl.1 rfl (lv_room (Nat.le_of_ble_eq_true rfl)) dX0_copy_100 ⟨Nat.le_of_ble_eq_true rfl, Nat.le_of_ble_eq_true rfl⟩) (fun r12 H locs hf hw => ?_)
                    refine lv_iload hx hb dX0_copy_103 (lv_at hl 7 rfl) ?_
                    refine lv_isub hx hb dX0_copy_105 ?_
                    refine zw_icmp_le (tgt := 113) hx hb hf dX0_copy_106 (by decide) (fun hf => ?_) (fun hf => ?_)
                    · refine lv_aload_n hx hb dX0_copy_113 rfl (lv_at hl 2 rfl) ?_
                      refine lv_aload hx hb dX0_copy_114 (lv_at hl 1 rfl) ?_
                      refine lv_iload_n hx hb dX0_copy_116 rfl (lv_at hl 4 rfl) ?_
                      refine lv_aload hx hb dX0_copy_117 (lv_at hl 0 rfl) ?_
                      refine lv_iload hx hb dX0_copy_119 (lv_at hl 6 rfl) ?_
                      refine lv_iload hx hb dX0_copy_121 (lv_at hl 7 rfl) ?_
                      refine zw_kC hf (fun fs hfs hf => ?_)
                      refine zw_goV (rest := []) hw hf (fun r hr => va_runV (C := RX0) (As := [.ref v4, .int i2, .ref v6, .int i4, .int i5]) (rest := []) X.1 (mt_X0_carries l D A r12.2 a0 v4 i2 v6 i4 i5 r hr) (cwV 5 hts (lw_V q1154 q1156 qs33 q81 q1157) rfl rfl rfl ⟨rfl, cd_X0_carries⟩ ⟨Nat.le_of_ble_eq_true rfl, Nat.le_of_ble_eq_true rfl⟩) (zpreV (ci := 0) X hw hfs rfl _) rfl rfl hl.1 rfl (lv_room (Nat.le_of_ble_eq_true rfl)) dX0_copy_123 ⟨Nat.le_of_ble_eq_true rfl, Nat.le_of_ble_eq_true rfl⟩) (fun r13 H locs hf hw => ?_)
                      refine lv_iload hx hb dX0_copy_126 (lv_at hl 7 rfl) ?_
                      exact zw_iret X hw hf (Nat.le_of_ble_eq_true rfl) (Nat.le_of_ble_eq_true rfl) dX0_copy_128
                    · refine lv_ldcw (v := (-1000000013 : Int32)) hx hb hown (hts _ q1123) dX0_copy_109 ?_
                      exact zw_iret X hw hf (Nat.le_of_ble_eq_true rfl) (Nat.le_of_ble_eq_true rfl) dX0_copy_112
          · refine lv_ldcw (v := (-1000000012 : Int32)) hx hb hown (hts _ q828) dX0_copy_66 ?_
            exact zw_iret X hw hf (Nat.le_of_ble_eq_true rfl) (Nat.le_of_ble_eq_true rfl) dX0_copy_69
        · refine lv_ldcw (v := (-1000000011 : Int32)) hx hb hown (hts _ q1101) dX0_copy_49 ?_
          exact zw_iret X hw hf (Nat.le_of_ble_eq_true rfl) (Nat.le_of_ble_eq_true rfl) dX0_copy_52
    · refine lv_ldc (v := (-1000000001 : Int32)) hx hb hown (hts _ q342) dX0_copy_14 ?_
      exact zw_iret X hw hf (Nat.le_of_ble_eq_true rfl) (Nat.le_of_ble_eq_true rfl) dX0_copy_16
set_option maxHeartbeats 4000000 in
theorem mt_X0_isSlot (l : Launch) (D : va_G) (A : Nat → Prop) (h : zT) (i0 : Int32) (res : Int32 × zT) (hf : f_X0_isSlot h i0 = some res) : Met l yX0_isSlot (ws_ yX0_isSlot cX0_isSlot 1 (Option.some FieldType.boolean)) rm_X0_isSlot (zPW D A (zEv A) h [.int i0]) (zQW D A (some (.int res.1)) res.2) 0 0 A := by
  refine zmt (zEv_ok A) (by decide) (Nat.le_of_ble_eq_true rfl) ?_
  intro p e s m below meth c ls hmn X hw hl
  have hl : lv_has ls 1 [(0, .int i0)] := hl
  have hx := X.1.1
  have hb := X.1.2.1
  have hown := X.1.2.2.2.1
  have hts := X.1.2.2.2.2
  have hN := X.2.2.2.2.2.2.1
  have hDW := X.2.2.2.2.2.2.2.1
  have hAO := X.2.2.2.2.2.2.2.2.1
  have hNC := X.2.2.2.2.2.2.2.2.2.1
  unfold f_X0_isSlot at hf
  refine lv_iload_n hx hb dX0_isSlot_0 rfl (lv_at hl 0 rfl) ?_
  refine lv_iconst (v := (0 : Int32)) hx hb dX0_isSlot_1 (by decide) ?_
  refine lv_iconst (v := (4 : Int32)) hx hb dX0_isSlot_2 (by decide) ?_
  refine zw_goZ (rest := []) hw hf (fun r hr => va_runS (As := [.int i0, .int (0 : Int32), .int (4 : Int32)]) (rest := []) X.1 (mt_X0_isIn l D A h i0 (0 : Int32) (4 : Int32) r hr) (va_cwS 3 hts (lw_S q339 q340 q81 q341) rfl rfl rfl cd_X0_isIn ⟨Nat.le_of_ble_eq_true rfl, Nat.le_of_ble_eq_true rfl⟩) (zpreS X hw _) rfl rfl hl.1 rfl (lv_room (Nat.le_of_ble_eq_true rfl)) dX0_isSlot_3 ⟨Nat.le_of_ble_eq_true rfl, Nat.le_of_ble_eq_true rfl⟩) (fun r1 H locs hf hw => ?_)
  exact zw_zret X hw hf (Nat.le_of_ble_eq_true rfl) (Nat.le_of_ble_eq_true rfl) dX0_isSlot_6
set_option maxHeartbeats 4000000 in
theorem mt_X0_own (l : Launch) (D : va_G) (A : Nat → Prop) (h : zT) (a0 : Nat) (a1 : Nat) (res : Nat × zT) (hf : f_X0_own h a0 a1 = some res) : Met l yX0_own (ws_ yX0_own cX0_own 3 (Option.some (FieldType.object "StoneSheets$Sheet"))) rm_X0_own (zPW D A (zEv A) h [.ref a0, .ref a1]) (zQW D A (some (.ref res.1)) res.2) 2 25 A := by
  refine zmt (zEv_ok A) (by decide) (Nat.le_of_ble_eq_true rfl) ?_
  intro p e s m below meth c ls hmn X hw hl
  have hl : lv_has ls 3 [(0, .ref a0), (1, .ref a1)] := hl
  have hx := X.1.1
  have hb := X.1.2.1
  have hown := X.1.2.2.2.1
  have hts := X.1.2.2.2.2
  have hN := X.2.2.2.2.2.2.1
  have hDW := X.2.2.2.2.2.2.2.1
  have hAO := X.2.2.2.2.2.2.2.2.1
  have hNC := X.2.2.2.2.2.2.2.2.2.1
  unfold f_X0_own at hf
  refine zw_new (N := 1) X hw zcf3 q228 q230 q87 zdf3 hf (Nat.le_of_ble_eq_true rfl) (Nat.le_of_ble_eq_true rfl) dX0_own_0 (fun r1 H hf hw => ?_)
  refine lv_dup hx hb dX0_own_3 rfl ?_
  refine zw_goV (rest := [.ref r1.1]) hw hf (fun r hr => va_runIN (As := []) (rest := [.ref r1.1]) X.1 (mt_X3_init l D A r1.2 r1.1 r hr) ⟨va_cnB 0 hts (lw_meth q233) rfl rfl rfl (hN _ nq231) (hts _ q87) cd_X3_init ⟨Nat.le_of_ble_eq_true rfl, Nat.le_of_ble_eq_true rfl⟩, rfl, hts _ q232⟩ (zpreS X hw _) rfl rfl hl.1 rfl (lv_room (Nat.le_of_ble_eq_true rfl)) dX0_own_4 ⟨Nat.le_of_ble_eq_true rfl, Nat.le_of_ble_eq_true rfl⟩) (fun r2 H locs hf hw => ?_)
  refine lv_astore_n (lv' := [(2, .ref r1.1), (0, .ref a0), (1, .ref a1)]) hx hb dX0_own_7 rfl hl (by decide) rfl (fun ls hl => ?_)
  refine lv_aload_n hx hb dX0_own_8 rfl (lv_at hl 0 rfl) ?_
  refine lv_aload_n hx hb dX0_own_9 rfl (lv_at hl 2 rfl) ?_
  refine zw_kC hf (fun fs hfs hf => ?_)
  refine zw_goZ (rest := [.ref r1.1]) hw hf (fun r hr => va_runV (C := RX3) (As := []) (rest := [.ref r1.1]) X.1 (mt_X3_isFloats l D A r2 a1 r hr) (cwV 0 hts (lw_V q1115 q1107 q1108 q87 q1109) rfl rfl rfl ⟨rfl, cd_X3_isFloats⟩ ⟨Nat.le_of_ble_eq_true rfl, Nat.le_of_ble_eq_true rfl⟩) (zpreV (ci := 3) X hw hfs rfl _) rfl rfl hl.1 rfl (lv_room (Nat.le_of_ble_eq_true rfl)) dX0_own_10 ⟨Nat.le_of_ble_eq_true rfl, Nat.le_of_ble_eq_true rfl⟩) (fun r3 H locs hf hw => ?_)
  refine lv_aload_n hx hb dX0_own_13 rfl (lv_at hl 2 rfl) ?_
  refine zw_kC hf (fun fs hfs hf => ?_)
  refine zw_goI (rest := [.int r3.1, .ref r1.1]) hw hf (fun r hr => va_runV (C := RX3) (As := []) (rest := [.int r3.1, .ref r1.1]) X.1 (mt_X3_size l D A r3.2 a1 r hr) (cwV 0 hts (lw_V q1102 q1103 q1104 q87 q1105) rfl rfl rfl ⟨rfl, cd_X3_size⟩ ⟨Nat.le_of_ble_eq_true rfl, Nat.le_of_ble_eq_true rfl⟩) (zpreV (ci := 3) X hw hfs rfl _) rfl rfl hl.1 rfl (lv_room (Nat.le_of_ble_eq_true rfl)) dX0_own_14 ⟨Nat.le_of_ble_eq_true rfl, Nat.le_of_ble_eq_true rfl⟩) (fun r4 H locs hf hw => ?_)
  refine zw_goR (rest := [.ref r1.1]) hw hf (fun r hr => va_runS (As := [.int r3.1, .int r4.1]) (rest := [.ref r1.1]) X.1 (mt_X0_rowOf l D A r4.2 r3.1 r4.1 r hr) (va_cwS 2 hts (lw_S q1088 q1089 q81 q1090) rfl rfl rfl cd_X0_rowOf ⟨Nat.le_of_ble_eq_true rfl, Nat.le_of_ble_eq_true rfl⟩) (zpreS X hw _) rfl rfl hl.1 rfl (lv_room (Nat.le_of_ble_eq_true rfl)) dX0_own_17 ⟨Nat.le_of_ble_eq_true rfl, Nat.le_of_ble_eq_true rfl⟩) (fun r5 H locs hf hw => ?_)
  refine zw_putN X hw fs_X3_0 (hN _ nq236) rfl rfl rfl rfl hf dX0_own_20 (fun h6 H locs hf hw => ?_)
  refine lv_aload_n hx hb dX0_own_23 rfl (lv_at hl 1 rfl) ?_
  refine lv_aload_n hx hb dX0_own_24 rfl (lv_at hl 2 rfl) ?_
  refine lv_iconst (v := (0 : Int32)) hx hb dX0_own_25 (by decide) ?_
  refine lv_aload_n hx hb dX0_own_26 rfl (lv_at hl 0 rfl) ?_
  refine lv_iconst (v := (0 : Int32)) hx hb dX0_own_27 (by decide) ?_
  refine lv_aload_n hx hb dX0_own_28 rfl (lv_at hl 2 rfl) ?_
  refine zw_kC hf (fun fs hfs hf => ?_)
  refine zw_goI (rest := [.int (0 : Int32), .ref r1.1, .int (0 : Int32), .ref a1, .ref a0]) hw hf (fun r hr => va_runV (C := RX3) (As := []) (rest := [.int (0 : Int32), .ref r1.1, .int (0 : Int32), .ref a1, .ref a0]) X.1 (mt_X3_size l D A h6 a1 r hr) (cwV 0 hts (lw_V q1102 q1103 q1104 q87 q1105) rfl rfl rfl ⟨rfl, cd_X3_size⟩ ⟨Nat.le_of_ble_eq_true rfl, Nat.le_of_ble_eq_true rfl⟩) (zpreV (ci := 3) X hw hfs rfl _) rfl rfl hl.1 rfl (lv_room (Nat.le_of_ble_eq_true rfl)) dX0_own_29 ⟨Nat.le_of_ble_eq_true rfl, Nat.le_of_ble_eq_true rfl⟩) (fun r7 H locs hf hw => ?_)
  refine zw_kC hf (fun fs hfs hf => ?_)
  refine zw_goV (rest := []) hw hf (fun r hr => va_runV (C := RX0) (As := [.ref a1, .int (0 : Int32), .ref r1.1, .int (0 : Int32), .int r7.1]) (rest := []) X.1 (mt_X0_carries l D A r7.2 a0 a1 (0 : Int32) r1.1 (0 : Int32) r7.1 r hr) (cwV 5 hts (lw_V q1154 q1156 qs33 q81 q1157) rfl rfl rfl ⟨rfl, cd_X0_carries⟩ ⟨Nat.le_of_ble_eq_true rfl, Nat.le_of_ble_eq_true rfl⟩) (zpreV (ci := 0) X hw hfs rfl _) rfl rfl hl.1 rfl (lv_room (Nat.le_of_ble_eq_true rfl)) dX0_own_32 ⟨Nat.le_of_ble_eq_true rfl, Nat.le_of_ble_eq_true rfl⟩) (fun r8 H locs hf hw => ?_)
  refine lv_aload_n hx hb dX0_own_35 rfl (lv_at hl 0 rfl) ?_
  exact zw_aretR X (Or.inl ⟨_, rfl⟩) hw hf (Nat.le_of_ble_eq_true rfl) (Nat.le_of_ble_eq_true rfl) dX0_own_36
set_option maxHeartbeats 4000000 in
theorem vd_X0_483 {p : Program} {l : Launch} {e : Env} {R : Room} {s : State} {m : MethodId} {args : Array Value} {below : List Frame} {meth : Method} {c : Code} {H : Heap} {locs : List Loc} {cells slots : Nat} {Q : State → Prop} {D : va_G} {A : Nat → Prop} {cc : ByteArray} {nL : Nat} {ret : Option FieldType} {pc : Nat} {ls : Array Slot} {rest : List Value} {β : Type} {res : β} {K : Nat × zT → Option β} {st0 : List Value} (h : zT) (b : Nat) (X : zCx p s m args meth c D A (zEv A) cc nL RX0 ret) (hw : zWh D A s H h locs) (hl : ls.size = nL) (hf : (fd_copy h b).bind K = some res) (hRf : 10 ≤ R.frames) (hRl : 300 ≤ R.locals) (hrest : (rest.map fun v => v.category).sum ≤ 8) (hstk : st0 = ([] : List Value).reverse ++ .ref b :: rest) (hdg : decode cc pc = .ok (.invokevirtual 483, 3)) (hc : cells + 1 ≤ R.cells ∧ slots + 5 ≤ R.slots) (kk : ∀ (r : Nat × zT) (H1 : Heap) (locs1 : List Loc), K r = some res → zWh D A s H1 (r.2) locs1 → W p l e R s m args below meth c H1 locs1 (cells + 1) (slots + 5) Q (F0 m (pc + 3) ls (.ref r.1 :: rest))) : W p l e R s m args below meth c H locs cells slots Q (F0 m pc ls st0) := by
  have hts := X.1.2.2.2.2
  have hN := X.2.2.2.2.2.2.1
  have hDW := X.2.2.2.2.2.2.2.1
  obtain ⟨r, h1, hf⟩ := zbd hf
  unfold fd_copy at h1
  obtain ⟨⟨ci, fs⟩, ho, h1⟩ := zbd h1
  have ho := zh_O_eq ho
  dsimp only at h1
  by_cases c6 : ci = 6
  · subst c6
    rw [if_pos rfl] at h1
    exact zw_call (va_runV (C := RX6) (As := []) (rest := rest) X.1 (mt_X6_copy l D A h b r h1) (cwV 0 hts (lw_V q1172 q1173 q1174 q90 q1181) rfl rfl rfl ⟨rfl, cd_X6_copy⟩ ⟨Nat.le_trans (Nat.le_of_ble_eq_true rfl) hRf, Nat.le_trans (Nat.le_of_ble_eq_true rfl) hRl⟩) (zpreV (ci := 6) X hw ho rfl _) rfl rfl hl hstk (lv_room hrest) hdg hc) hw (fun H1 locs1 hw1 => kk r H1 locs1 hf hw1)
  rw [if_neg c6] at h1
  by_cases c7 : ci = 7
  · subst c7
    rw [if_pos rfl] at h1
    exact zw_call (va_runU (C := RX7) (owner := RX6) (x := yX6_copy) (As := []) (rest := rest) X.1 (mt_X6_copy l D A h b r h1) (va_cwU 0 hts (zlw_U q1172 q1175 q1176 q1173 q90 q1181) rfl rfl rfl rfl cd_X6_copy ⟨Nat.le_trans (Nat.le_of_ble_eq_true rfl) hRf, Nat.le_trans (Nat.le_of_ble_eq_true rfl) hRl⟩) (zpreV (ci := 7) X hw ho rfl _) rfl rfl hl hstk (lv_room hrest) hdg hc) hw (fun H1 locs1 hw1 => kk r H1 locs1 hf hw1)
  rw [if_neg c7] at h1
  by_cases c8 : ci = 8
  · subst c8
    rw [if_pos rfl] at h1
    exact zw_call (va_runU (C := RX8) (owner := RX6) (x := yX6_copy) (As := []) (rest := rest) X.1 (mt_X6_copy l D A h b r h1) (va_cwU 0 hts (zlw_U q1172 q1175 q1178 q1173 q90 q1181) rfl rfl rfl rfl cd_X6_copy ⟨Nat.le_trans (Nat.le_of_ble_eq_true rfl) hRf, Nat.le_trans (Nat.le_of_ble_eq_true rfl) hRl⟩) (zpreV (ci := 8) X hw ho rfl _) rfl rfl hl hstk (lv_room hrest) hdg hc) hw (fun H1 locs1 hw1 => kk r H1 locs1 hf hw1)
  rw [if_neg c8] at h1
  by_cases c9 : ci = 9
  · subst c9
    rw [if_pos rfl] at h1
    exact zw_call (va_runU (C := RX9) (owner := RX6) (x := yX6_copy) (As := []) (rest := rest) X.1 (mt_X6_copy l D A h b r h1) (va_cwU 0 hts (zlw_U q1172 q1175 q1180 q1173 q90 q1181) rfl rfl rfl rfl cd_X6_copy ⟨Nat.le_trans (Nat.le_of_ble_eq_true rfl) hRf, Nat.le_trans (Nat.le_of_ble_eq_true rfl) hRl⟩) (zpreV (ci := 9) X hw ho rfl _) rfl rfl hl hstk (lv_room hrest) hdg hc) hw (fun H1 locs1 hw1 => kk r H1 locs1 hf hw1)
  rw [if_neg c9] at h1
  by_cases c10 : ci = 10
  · subst c10
    rw [if_pos rfl] at h1
    exact zw_call (va_runU (C := RX10) (owner := RX6) (x := yX6_copy) (As := []) (rest := rest) X.1 (mt_X6_copy l D A h b r h1) (va_cwU 0 hts (zlw_U q1172 q1175 q1177 q1173 q90 q1181) rfl rfl rfl rfl cd_X6_copy ⟨Nat.le_trans (Nat.le_of_ble_eq_true rfl) hRf, Nat.le_trans (Nat.le_of_ble_eq_true rfl) hRl⟩) (zpreV (ci := 10) X hw ho rfl _) rfl rfl hl hstk (lv_room hrest) hdg hc) hw (fun H1 locs1 hw1 => kk r H1 locs1 hf hw1)
  rw [if_neg c10] at h1
  by_cases c11 : ci = 11
  · subst c11
    rw [if_pos rfl] at h1
    exact zw_call (va_runU (C := RX11) (owner := RX6) (x := yX6_copy) (As := []) (rest := rest) X.1 (mt_X6_copy l D A h b r h1) (va_cwU 0 hts (zlw_U q1172 q1175 q1179 q1173 q90 q1181) rfl rfl rfl rfl cd_X6_copy ⟨Nat.le_trans (Nat.le_of_ble_eq_true rfl) hRf, Nat.le_trans (Nat.le_of_ble_eq_true rfl) hRl⟩) (zpreV (ci := 11) X hw ho rfl _) rfl rfl hl hstk (lv_room hrest) hdg hc) hw (fun H1 locs1 hw1 => kk r H1 locs1 hf hw1)
  rw [if_neg c11] at h1
  cases h1
set_option maxHeartbeats 4000000 in
theorem k_X0_lay_65 {p : Program} {l : Launch} {e : Env} {s : State} {m : MethodId} {args : Array Value} {below : List Frame} {meth : Method} {c : Code} {D : va_G} {A : Nat → Prop} (X : zCx p s m args meth c D A (zEv A) cX0_lay 5 RX0 (Option.some FieldType.int)) (res : Int32 × zT) : ∀ (h : zT) (a0 : Nat) (i1 : Int32) (i2 : Int32) (i3 : Int32) (H : Heap) (locs : List Loc) (ls : Array Slot), f_X0_lay_65 h a0 i1 i2 i3 = some res → zWh D A s H h locs → lv_has ls 5 [(0, .ref a0), (1, .int i1), (2, .int i2), (3, .int i3)] → W p l e rm_X0_lay s m args below meth c H locs 0 0 (MQ below (zQW D A (some (.int res.1)) res.2) args s 2 25 A) (F0 m 65 ls []) := by
  have hx := X.1.1
  have hb := X.1.2.1
  have hown := X.1.2.2.2.1
  have hts := X.1.2.2.2.2
  have hN := X.2.2.2.2.2.2.1
  have hDW := X.2.2.2.2.2.2.2.1
  have hAO := X.2.2.2.2.2.2.2.2.1
  have hNC := X.2.2.2.2.2.2.2.2.2.1
  intro h a0 i1 i2 i3 H locs ls hf hw hl
  unfold f_X0_lay_65 at hf
  refine lv_aload_n hx hb dX0_lay_65 rfl (lv_at hl 0 rfl) ?_
  refine zw_getR X hw fs_X0_19 q271 rfl hf dX0_lay_66 (fun v1 hf => ?_)
  refine lv_iload_n hx hb dX0_lay_69 rfl (lv_at hl 1 rfl) ?_
  refine zw_aaloadR X hw hf dX0_lay_70 (fun v2 hf => ?_)
  refine zw_kC hf (fun fs hfs hf => ?_)
  refine zw_goI (rest := []) hw hf (fun r hr => va_runV (C := RX4) (As := []) (rest := []) X.1 (mt_X4_thing l D A h v2 r hr) (cwV 0 hts (lw_V q1166 q1167 q1168 q88 q1169) rfl rfl rfl ⟨rfl, cd_X4_thing⟩ ⟨Nat.le_of_ble_eq_true rfl, Nat.le_of_ble_eq_true rfl⟩) (zpreV (ci := 4) X hw hfs rfl _) rfl rfl hl.1 rfl (lv_room (Nat.le_of_ble_eq_true rfl)) dX0_lay_71 ⟨Nat.le_of_ble_eq_true rfl, Nat.le_of_ble_eq_true rfl⟩) (fun r3 H locs hf hw => ?_)
  refine lv_istore (lv' := [(4, .int r3.1), (0, .ref a0), (1, .int i1), (2, .int i2), (3, .int i3)]) hx hb dX0_lay_74 hl (by decide) rfl (fun ls hl => ?_)
  refine lv_aload_n hx hb dX0_lay_76 rfl (lv_at hl 1 rfl) ?_
  refine zw_getR X hw fs_X0_19 q271 rfl hf dX0_lay_77 (fun v4 hf => ?_)
  refine lv_iload_n hx hb dX0_lay_80 rfl (lv_at hl 2 rfl) ?_
  refine zw_aaloadR X hw hf dX0_lay_81 (fun v5 hf => ?_)
  refine lv_iload_n hx hb dX0_lay_82 rfl (lv_at hl 3 rfl) ?_
  refine zw_if_ne (tgt := 90) hx hb hf dX0_lay_83 (by decide) (fun hf => ?_) (fun hf => ?_)
  · refine lv_iload_n hx hb dX0_lay_90 rfl (lv_at hl 3 rfl) ?_
    refine lv_iconst (v := (1 : Int32)) hx hb dX0_lay_91 (by decide) ?_
    refine zw_icmp_ne (tgt := 110) hx hb hf dX0_lay_92 (by decide) (fun hf => ?_) (fun hf => ?_)
    · refine lv_iload_n hx hb dX0_lay_110 rfl (lv_at hl 3 rfl) ?_
      refine lv_iconst (v := (2 : Int32)) hx hb dX0_lay_111 (by decide) ?_
      refine zw_icmp_ne (tgt := 128) hx hb hf dX0_lay_112 (by decide) (fun hf => ?_) (fun hf => ?_)
      · refine zw_new (N := 1) X hw zcf14 q1188 q1189 q107 zdf14 hf (Nat.le_of_ble_eq_true rfl) (Nat.le_of_ble_eq_true rfl) dX0_lay_128 (fun r6 H hf hw => ?_)
        refine lv_dup hx hb dX0_lay_131 rfl ?_
        refine lv_iload_n hx hb dX0_lay_132 rfl (lv_at hl 4 rfl) ?_
        refine zw_goV (rest := [.ref r6.1, .ref v5]) hw hf (fun r hr => va_runI (As := [.int i3]) (rest := [.ref r6.1, .ref v5]) X.1 (mt_X14_init l D A r6.2 r6.1 i3 r hr) (cwI 1 hts (lw_meth q1192) rfl rfl rfl (hts _ q107) (hts _ q1190) (hts _ q1191) rfl cd_X14_init ⟨Nat.le_of_ble_eq_true rfl, Nat.le_of_ble_eq_true rfl⟩) (zpreS X hw _) rfl rfl hl.1 rfl (lv_room (Nat.le_of_ble_eq_true rfl)) dX0_lay_133 ⟨Nat.le_of_ble_eq_true rfl, Nat.le_of_ble_eq_true rfl⟩) (fun r7 H locs hf hw => ?_)
        refine zw_putN X hw fs_X4_0 (hN _ nq248) rfl rfl rfl rfl hf dX0_lay_136 (fun h8 H locs hf hw => ?_)
        refine lv_iload hx hb dX0_lay_139 (lv_at hl 0 rfl) ?_
        exact zw_iret X hw hf (Nat.le_of_ble_eq_true rfl) (Nat.le_of_ble_eq_true rfl) dX0_lay_141
      · refine lv_aload_n hx hb dX0_lay_115 rfl (lv_at hl 1 rfl) ?_
        refine lv_aload_n hx hb dX0_lay_116 rfl (lv_at hl 1 rfl) ?_
        refine zw_getR X hw fs_X0_18 q270 rfl hf dX0_lay_117 (fun v9 hf => ?_)
        refine lv_iload_n hx hb dX0_lay_120 rfl (lv_at hl 4 rfl) ?_
        refine zw_aaloadR X hw hf dX0_lay_121 (fun v10 hf => ?_)
        refine zw_kC hf (fun fs hfs hf => ?_)
        refine zw_goR (rest := [.ref v5]) hw hf (fun r hr => va_runV (C := RX0) (As := [.ref v10]) (rest := [.ref v5]) X.1 (mt_X0_own l D A r3.2 a0 v10 r hr) (cwV 1 hts (lw_V q1184 q1186 qs34 q81 q1187) rfl rfl rfl ⟨rfl, cd_X0_own⟩ ⟨Nat.le_of_ble_eq_true rfl, Nat.le_of_ble_eq_true rfl⟩) (zpreV (ci := 0) X hw hfs rfl _) rfl rfl hl.1 rfl (lv_room (Nat.le_of_ble_eq_true rfl)) dX0_lay_122 ⟨Nat.le_of_ble_eq_true rfl, Nat.le_of_ble_eq_true rfl⟩) (fun r11 H locs hf hw => ?_)
        refine lv_goto (tgt := 136) hx hb dX0_lay_125 (by decide) ?_
        refine zw_putN X hw fs_X4_0 (hN _ nq248) rfl rfl rfl rfl hf dX0_lay_136 (fun h12 H locs hf hw => ?_)
        refine lv_iload hx hb dX0_lay_139 (lv_at hl 0 rfl) ?_
        exact zw_iret X hw hf (Nat.le_of_ble_eq_true rfl) (Nat.le_of_ble_eq_true rfl) dX0_lay_141
    · refine lv_aload_n hx hb dX0_lay_95 rfl (lv_at hl 1 rfl) ?_
      refine zw_getR X hw fs_X0_0 q252 rfl hf dX0_lay_96 (fun v13 hf => ?_)
      refine zw_getRN X hw fs_X1_2 (hN _ nq131) rfl hf dX0_lay_99 (fun v14 hf => ?_)
      refine lv_iload_n hx hb dX0_lay_102 rfl (lv_at hl 4 rfl) ?_
      refine zw_aaloadR X hw hf dX0_lay_103 (fun v15 hf => ?_)
      refine vd_X0_483 (rest := [.ref v5]) r3.2 v15 X hw hl.1 hf (Nat.le_of_ble_eq_true rfl) (Nat.le_of_ble_eq_true rfl) (Nat.le_of_ble_eq_true rfl) rfl dX0_lay_104 ⟨Nat.le_of_ble_eq_true rfl, Nat.le_of_ble_eq_true rfl⟩ (fun r16 H locs hf hw => ?_)
      refine lv_goto (tgt := 136) hx hb dX0_lay_107 (by decide) ?_
      refine zw_putN X hw fs_X4_0 (hN _ nq248) rfl rfl rfl rfl hf dX0_lay_136 (fun h17 H locs hf hw => ?_)
      refine lv_iload hx hb dX0_lay_139 (lv_at hl 0 rfl) ?_
      exact zw_iret X hw hf (Nat.le_of_ble_eq_true rfl) (Nat.le_of_ble_eq_true rfl) dX0_lay_141
  · refine zw_null hx hb dX0_lay_86 ?_
    refine lv_goto (tgt := 136) hx hb dX0_lay_87 (by decide) ?_
    refine zw_putN X hw fs_X4_0 (hN _ nq248) rfl rfl (zq_nar (Or.inl ⟨_, rfl⟩)) (zq_fit (Or.inl ⟨_, rfl⟩)) hf dX0_lay_136 (fun h18 H locs hf hw => ?_)
    refine lv_iload hx hb dX0_lay_139 (lv_at hl 0 rfl) ?_
    exact zw_iret X hw hf (Nat.le_of_ble_eq_true rfl) (Nat.le_of_ble_eq_true rfl) dX0_lay_141
set_option maxHeartbeats 4000000 in
theorem k_X0_lay_44 {p : Program} {l : Launch} {e : Env} {s : State} {m : MethodId} {args : Array Value} {below : List Frame} {meth : Method} {c : Code} {D : va_G} {A : Nat → Prop} (X : zCx p s m args meth c D A (zEv A) cX0_lay 5 RX0 (Option.some FieldType.int)) (res : Int32 × zT) : ∀ (h : zT) (a0 : Nat) (i1 : Int32) (i2 : Int32) (i3 : Int32) (H : Heap) (locs : List Loc) (ls : Array Slot), f_X0_lay_44 h a0 i1 i2 i3 = some res → zWh D A s H h locs → lv_has ls 5 [(0, .ref a0), (1, .int i1), (2, .int i2), (3, .int i3)] → W p l e rm_X0_lay s m args below meth c H locs 0 0 (MQ below (zQW D A (some (.int res.1)) res.2) args s 2 25 A) (F0 m 44 ls []) := by
  have hx := X.1.1
  have hb := X.1.2.1
  have hown := X.1.2.2.2.1
  have hts := X.1.2.2.2.2
  have hN := X.2.2.2.2.2.2.1
  have hDW := X.2.2.2.2.2.2.2.1
  have hAO := X.2.2.2.2.2.2.2.2.1
  have hNC := X.2.2.2.2.2.2.2.2.2.1
  intro h a0 i1 i2 i3 H locs ls hf hw hl
  unfold f_X0_lay_44 at hf
  refine lv_iload_n hx hb dX0_lay_44 rfl (lv_at hl 2 rfl) ?_
  refine lv_iconst (v := (2 : Int32)) hx hb dX0_lay_45 (by decide) ?_
  refine zw_icmp_ne (tgt := 65) hx hb hf dX0_lay_46 (by decide) (fun hf => ?_) (fun hf => ?_)
  · exact k_X0_lay_65 X _ h a0 i1 i2 i3 _ _ _ hf hw (lv_sub hl [0, 1, 2, 3] rfl)
  · refine lv_aload_n hx hb dX0_lay_49 rfl (lv_at hl 0 rfl) ?_
    refine zw_getR X hw fs_X0_18 q270 rfl hf dX0_lay_50 (fun v1 hf => ?_)
    refine lv_iload_n hx hb dX0_lay_53 rfl (lv_at hl 3 rfl) ?_
    refine zw_aaloadR X hw hf dX0_lay_54 (fun v2 hf => ?_)
    refine zw_kC hf (fun fs hfs hf => ?_)
    refine zw_goZ (rest := []) hw hf (fun r hr => va_runV (C := RX3) (As := []) (rest := []) X.1 (mt_X3_isThere l D A h v2 r hr) (cwV 0 hts (lw_V q1097 q1098 q1099 q87 q1100) rfl rfl rfl ⟨rfl, cd_X3_isThere⟩ ⟨Nat.le_of_ble_eq_true rfl, Nat.le_of_ble_eq_true rfl⟩) (zpreV (ci := 3) X hw hfs rfl _) rfl rfl hl.1 rfl (lv_room (Nat.le_of_ble_eq_true rfl)) dX0_lay_55 ⟨Nat.le_of_ble_eq_true rfl, Nat.le_of_ble_eq_true rfl⟩) (fun r3 H locs hf hw => ?_)
    refine zw_if_ne (tgt := 65) hx hb hf dX0_lay_58 (by decide) (fun hf => ?_) (fun hf => ?_)
    · exact k_X0_lay_65 X _ r3.2 a0 i1 i2 i3 _ _ _ hf hw (lv_sub hl [0, 1, 2, 3] rfl)
    · refine lv_ldcw (v := (-1000000011 : Int32)) hx hb hown (hts _ q1101) dX0_lay_61 ?_
      exact zw_iret X hw hf (Nat.le_of_ble_eq_true rfl) (Nat.le_of_ble_eq_true rfl) dX0_lay_64
set_option maxHeartbeats 4000000 in
theorem k_X0_lay_29 {p : Program} {l : Launch} {e : Env} {s : State} {m : MethodId} {args : Array Value} {below : List Frame} {meth : Method} {c : Code} {D : va_G} {A : Nat → Prop} (X : zCx p s m args meth c D A (zEv A) cX0_lay 5 RX0 (Option.some FieldType.int)) (res : Int32 × zT) : ∀ (h : zT) (a0 : Nat) (i1 : Int32) (i2 : Int32) (i3 : Int32) (H : Heap) (locs : List Loc) (ls : Array Slot), f_X0_lay_29 h a0 i1 i2 i3 = some res → zWh D A s H h locs → lv_has ls 5 [(0, .ref a0), (1, .int i1), (2, .int i2), (3, .int i3)] → W p l e rm_X0_lay s m args below meth c H locs 0 0 (MQ below (zQW D A (some (.int res.1)) res.2) args s 2 25 A) (F0 m 29 ls []) := by
  have hx := X.1.1
  have hb := X.1.2.1
  have hown := X.1.2.2.2.1
  have hts := X.1.2.2.2.2
  have hN := X.2.2.2.2.2.2.1
  have hDW := X.2.2.2.2.2.2.2.1
  have hAO := X.2.2.2.2.2.2.2.2.1
  have hNC := X.2.2.2.2.2.2.2.2.2.1
  intro h a0 i1 i2 i3 H locs ls hf hw hl
  unfold f_X0_lay_29 at hf
  refine lv_iload_n hx hb dX0_lay_29 rfl (lv_at hl 2 rfl) ?_
  refine lv_iconst (v := (2 : Int32)) hx hb dX0_lay_30 (by decide) ?_
  refine zw_icmp_ne (tgt := 44) hx hb hf dX0_lay_31 (by decide) (fun hf => ?_) (fun hf => ?_)
  · exact k_X0_lay_44 X _ h a0 i1 i2 i3 _ _ _ hf hw (lv_sub hl [0, 1, 2, 3] rfl)
  · refine lv_iload_n hx hb dX0_lay_34 rfl (lv_at hl 3 rfl) ?_
    refine zw_goZ (rest := []) hw hf (fun r hr => va_runS (As := [.int i3]) (rest := []) X.1 (mt_X0_isSheet l D A h i3 r hr) (va_cwS 1 hts (lw_S q1085 q1086 q81 q1087) rfl rfl rfl cd_X0_isSheet ⟨Nat.le_of_ble_eq_true rfl, Nat.le_of_ble_eq_true rfl⟩) (zpreS X hw _) rfl rfl hl.1 rfl (lv_room (Nat.le_of_ble_eq_true rfl)) dX0_lay_35 ⟨Nat.le_of_ble_eq_true rfl, Nat.le_of_ble_eq_true rfl⟩) (fun r1 H locs hf hw => ?_)
    refine zw_if_ne (tgt := 44) hx hb hf dX0_lay_38 (by decide) (fun hf => ?_) (fun hf => ?_)
    · exact k_X0_lay_44 X _ r1.2 a0 i1 i2 i3 _ _ _ hf hw (lv_sub hl [0, 1, 2, 3] rfl)
    · refine lv_ldc (v := (-1000000001 : Int32)) hx hb hown (hts _ q342) dX0_lay_41 ?_
      exact zw_iret X hw hf (Nat.le_of_ble_eq_true rfl) (Nat.le_of_ble_eq_true rfl) dX0_lay_43
set_option maxHeartbeats 4000000 in
theorem mt_X0_lay (l : Launch) (D : va_G) (A : Nat → Prop) (h : zT) (a0 : Nat) (i1 : Int32) (i2 : Int32) (i3 : Int32) (res : Int32 × zT) (hf : f_X0_lay h a0 i1 i2 i3 = some res) : Met l yX0_lay (ws_ yX0_lay cX0_lay 5 (Option.some FieldType.int)) rm_X0_lay (zPW D A (zEv A) h [.ref a0, .int i1, .int i2, .int i3]) (zQW D A (some (.int res.1)) res.2) 2 25 A := by
  refine zmt (zEv_ok A) (by decide) (Nat.le_of_ble_eq_true rfl) ?_
  intro p e s m below meth c ls hmn X hw hl
  have hl : lv_has ls 5 [(0, .ref a0), (1, .int i1), (2, .int i2), (3, .int i3)] := hl
  have hx := X.1.1
  have hb := X.1.2.1
  have hown := X.1.2.2.2.1
  have hts := X.1.2.2.2.2
  have hN := X.2.2.2.2.2.2.1
  have hDW := X.2.2.2.2.2.2.2.1
  have hAO := X.2.2.2.2.2.2.2.2.1
  have hNC := X.2.2.2.2.2.2.2.2.2.1
  unfold f_X0_lay at hf
  refine lv_iload_n hx hb dX0_lay_0 rfl (lv_at hl 1 rfl) ?_
  refine zw_goZ (rest := []) hw hf (fun r hr => va_runS (As := [.int i1]) (rest := []) X.1 (mt_X0_isSlot l D A h i1 r hr) (va_cwS 1 hts (lw_S q1163 q1164 q81 q1165) rfl rfl rfl cd_X0_isSlot ⟨Nat.le_of_ble_eq_true rfl, Nat.le_of_ble_eq_true rfl⟩) (zpreS X hw _) rfl rfl hl.1 rfl (lv_room (Nat.le_of_ble_eq_true rfl)) dX0_lay_1 ⟨Nat.le_of_ble_eq_true rfl, Nat.le_of_ble_eq_true rfl⟩) (fun r1 H locs hf hw => ?_)
  refine zw_if_eq (tgt := 41) hx hb hf dX0_lay_4 (by decide) (fun hf => ?_) (fun hf => ?_)
  · refine lv_ldc (v := (-1000000001 : Int32)) hx hb hown (hts _ q342) dX0_lay_41 ?_
    exact zw_iret X hw hf (Nat.le_of_ble_eq_true rfl) (Nat.le_of_ble_eq_true rfl) dX0_lay_43
  · refine lv_iload_n hx hb dX0_lay_7 rfl (lv_at hl 2 rfl) ?_
    refine lv_iconst (v := (0 : Int32)) hx hb dX0_lay_8 (by decide) ?_
    refine lv_iconst (v := (3 : Int32)) hx hb dX0_lay_9 (by decide) ?_
    refine zw_goZ (rest := []) hw hf (fun r hr => va_runS (As := [.int i2, .int (0 : Int32), .int (3 : Int32)]) (rest := []) X.1 (mt_X0_isIn l D A r1.2 i2 (0 : Int32) (3 : Int32) r hr) (va_cwS 3 hts (lw_S q339 q340 q81 q341) rfl rfl rfl cd_X0_isIn ⟨Nat.le_of_ble_eq_true rfl, Nat.le_of_ble_eq_true rfl⟩) (zpreS X hw _) rfl rfl hl.1 rfl (lv_room (Nat.le_of_ble_eq_true rfl)) dX0_lay_10 ⟨Nat.le_of_ble_eq_true rfl, Nat.le_of_ble_eq_true rfl⟩) (fun r2 H locs hf hw => ?_)
    refine zw_if_eq (tgt := 41) hx hb hf dX0_lay_13 (by decide) (fun hf => ?_) (fun hf => ?_)
    · refine lv_ldc (v := (-1000000001 : Int32)) hx hb hown (hts _ q342) dX0_lay_41 ?_
      exact zw_iret X hw hf (Nat.le_of_ble_eq_true rfl) (Nat.le_of_ble_eq_true rfl) dX0_lay_43
    · refine lv_iload_n hx hb dX0_lay_16 rfl (lv_at hl 2 rfl) ?_
      refine lv_iconst (v := (1 : Int32)) hx hb dX0_lay_17 (by decide) ?_
      refine zw_icmp_ne (tgt := 29) hx hb hf dX0_lay_18 (by decide) (fun hf => ?_) (fun hf => ?_)
      · exact k_X0_lay_29 X _ r2.2 a0 i1 i2 i3 _ _ _ hf hw (lv_sub hl [0, 1, 2, 3] rfl)
      · refine lv_aload_n hx hb dX0_lay_21 rfl (lv_at hl 0 rfl) ?_
        refine lv_iload_n hx hb dX0_lay_22 rfl (lv_at hl 3 rfl) ?_
        refine zw_kC hf (fun fs hfs hf => ?_)
        refine zw_goZ (rest := []) hw hf (fun r hr => va_runV (C := RX0) (As := [.int i3]) (rest := []) X.1 (mt_X0_isRubbing l D A r2.2 a0 i3 r hr) (cwV 1 hts (lw_V q629 q631 qs19 q81 q632) rfl rfl rfl ⟨rfl, cd_X0_isRubbing⟩ ⟨Nat.le_of_ble_eq_true rfl, Nat.le_of_ble_eq_true rfl⟩) (zpreV (ci := 0) X hw hfs rfl _) rfl rfl hl.1 rfl (lv_room (Nat.le_of_ble_eq_true rfl)) dX0_lay_23 ⟨Nat.le_of_ble_eq_true rfl, Nat.le_of_ble_eq_true rfl⟩) (fun r3 H locs hf hw => ?_)
        refine zw_if_eq (tgt := 41) hx hb hf dX0_lay_26 (by decide) (fun hf => ?_) (fun hf => ?_)
        · refine lv_ldc (v := (-1000000001 : Int32)) hx hb hown (hts _ q342) dX0_lay_41 ?_
          exact zw_iret X hw hf (Nat.le_of_ble_eq_true rfl) (Nat.le_of_ble_eq_true rfl) dX0_lay_43
        · exact k_X0_lay_29 X _ r3.2 a0 i1 i2 i3 _ _ _ hf hw (lv_sub hl [0, 1, 2, 3] rfl)
set_option maxHeartbeats 4000000 in
theorem mt_X0_rest (l : Launch) (D : va_G) (A : Nat → Prop) (h : zT) (a0 : Nat) (i1 : Int32) (i2 : Int32) (res : Int32 × zT) (hf : f_X0_rest h a0 i1 i2 = some res) : Met l yX0_rest (ws_ yX0_rest cX0_rest 5 (Option.some FieldType.int)) rm_X0_rest (zPW D A (zEv A) h [.ref a0, .int i1, .int i2]) (zQW D A (some (.int res.1)) res.2) 0 0 A := by
  refine zmt (zEv_ok A) (by decide) (Nat.le_of_ble_eq_true rfl) ?_
  intro p e s m below meth c ls hmn X hw hl
  have hl : lv_has ls 5 [(0, .ref a0), (1, .int i1), (2, .int i2)] := hl
  have hx := X.1.1
  have hb := X.1.2.1
  have hown := X.1.2.2.2.1
  have hts := X.1.2.2.2.2
  have hN := X.2.2.2.2.2.2.1
  have hDW := X.2.2.2.2.2.2.2.1
  have hAO := X.2.2.2.2.2.2.2.2.1
  have hNC := X.2.2.2.2.2.2.2.2.2.1
  unfold f_X0_rest at hf
  refine lv_iload_n hx hb dX0_rest_0 rfl (lv_at hl 1 rfl) ?_
  refine zw_goZ (rest := []) hw hf (fun r hr => va_runS (As := [.int i1]) (rest := []) X.1 (mt_X0_isSlot l D A h i1 r hr) (va_cwS 1 hts (lw_S q1163 q1164 q81 q1165) rfl rfl rfl cd_X0_isSlot ⟨Nat.le_of_ble_eq_true rfl, Nat.le_of_ble_eq_true rfl⟩) (zpreS X hw _) rfl rfl hl.1 rfl (lv_room (Nat.le_of_ble_eq_true rfl)) dX0_rest_1 ⟨Nat.le_of_ble_eq_true rfl, Nat.le_of_ble_eq_true rfl⟩) (fun r1 H locs hf hw => ?_)
  refine zw_if_ne (tgt := 10) hx hb hf dX0_rest_4 (by decide) (fun hf => ?_) (fun hf => ?_)
  · refine lv_aload_n hx hb dX0_rest_10 rfl (lv_at hl 0 rfl) ?_
    refine zw_getR X hw fs_X0_19 q271 rfl hf dX0_rest_11 (fun v2 hf => ?_)
    refine lv_iload_n hx hb dX0_rest_14 rfl (lv_at hl 1 rfl) ?_
    refine zw_aaloadR X hw hf dX0_rest_15 (fun v3 hf => ?_)
    refine zw_getQN X hw fs_X4_0 (hN _ nq248) rfl hf dX0_rest_16 (fun v4 hf => ?_)
    refine zw_astore_nQ (lv' := [(3, va_rf v4), (0, .ref a0), (1, .int i1), (2, .int i2)]) hx hb dX0_rest_19 rfl hl (by decide) rfl (fun ls hl => ?_)
    refine zw_aload_nQ hx hb dX0_rest_20 rfl (lv_at hl 0 rfl) ?_
    refine zw_ifnonnull (tgt := 28) hx hb hf dX0_rest_21 (by decide) (fun hf => ?_) (fun hf => ?_)
    · refine zw_aload_nQ hx hb dX0_rest_28 rfl (lv_at hl 0 rfl) ?_
      refine zw_instO (t := 14) (x := v4) X hw (by decide) rfl rfl q1188 hf dX0_rest_29 (fun v5 hf => ?_)
      refine zw_if_ne (tgt := 39) hx hb hf dX0_rest_32 (by decide) (fun hf => ?_) (fun hf => ?_)
      · refine zw_aload_nQ hx hb dX0_rest_39 rfl (lv_at hl 0 rfl) ?_
        refine zw_nn hf (fun b6 e9 hf9 => ?_)
        subst e9
        have hf := hf9
        refine zw_kC hf (fun fs hfs hf => ?_)
        refine va_castS hx hb hown (hts _ q1188) (X.2.2.2.1.1 14 _ rfl).2 (zrecv (ci := 14) X hw hfs rfl) dX0_rest_40 ?_
        refine zw_getIN X hw fs_X14_0 (hN _ nq1195) rfl hf dX0_rest_43 (fun v7 hf => ?_)
        refine lv_istore (lv' := [(4, .int v7), (3, va_rf (some b6)), (0, .ref a0), (1, .int i1), (2, .int i2)]) hx hb dX0_rest_46 hl (by decide) rfl (fun ls hl => ?_)
        refine lv_iload_n hx hb dX0_rest_48 rfl (lv_at hl 4 rfl) ?_
        refine zw_if_ne (tgt := 58) hx hb hf dX0_rest_49 (by decide) (fun hf => ?_) (fun hf => ?_)
        · refine lv_iload hx hb dX0_rest_58 (lv_at hl 0 rfl) ?_
          refine lv_iload_n hx hb dX0_rest_60 rfl (lv_at hl 4 rfl) ?_
          refine zw_ne0 hf (fun hne hf => ?_)
          refine lv_irem hx hb dX0_rest_61 hne ?_
          exact zw_iret X hw hf (Nat.le_of_ble_eq_true rfl) (Nat.le_of_ble_eq_true rfl) dX0_rest_62
        · refine lv_ldcw (v := (-1000000002 : Int32)) hx hb hown (hts _ q1239) dX0_rest_52 ?_
          refine lv_goto (tgt := 62) hx hb dX0_rest_55 (by decide) ?_
          exact zw_iret X hw hf (Nat.le_of_ble_eq_true rfl) (Nat.le_of_ble_eq_true rfl) dX0_rest_62
      · refine lv_ldcw (v := (-1000000012 : Int32)) hx hb hown (hts _ q828) dX0_rest_35 ?_
        exact zw_iret X hw hf (Nat.le_of_ble_eq_true rfl) (Nat.le_of_ble_eq_true rfl) dX0_rest_38
    · refine lv_ldcw (v := (-1000000011 : Int32)) hx hb hown (hts _ q1101) dX0_rest_24 ?_
      exact zw_iret X hw hf (Nat.le_of_ble_eq_true rfl) (Nat.le_of_ble_eq_true rfl) dX0_rest_27
  · refine lv_ldc (v := (-1000000001 : Int32)) hx hb hown (hts _ q342) dX0_rest_7 ?_
    exact zw_iret X hw hf (Nat.le_of_ble_eq_true rfl) (Nat.le_of_ble_eq_true rfl) dX0_rest_9
set_option maxHeartbeats 4000000 in
theorem mt_X0_tell (l : Launch) (D : va_G) (A : Nat → Prop) (h : zT) (a0 : Nat) (i1 : Int32) (res : Int32 × zT) (hf : f_X0_tell h a0 i1 = some res) : Met l yX0_tell (ws_ yX0_tell cX0_tell 2 (Option.some FieldType.int)) rm_X0_tell (zPW D A (zEv A) h [.ref a0, .int i1]) (zQW D A (some (.int res.1)) res.2) 0 0 A := by
  refine zmt (zEv_ok A) (by decide) (Nat.le_of_ble_eq_true rfl) ?_
  intro p e s m below meth c ls hmn X hw hl
  have hl : lv_has ls 2 [(0, .ref a0), (1, .int i1)] := hl
  have hx := X.1.1
  have hb := X.1.2.1
  have hown := X.1.2.2.2.1
  have hts := X.1.2.2.2.2
  have hN := X.2.2.2.2.2.2.1
  have hDW := X.2.2.2.2.2.2.2.1
  have hAO := X.2.2.2.2.2.2.2.2.1
  have hNC := X.2.2.2.2.2.2.2.2.2.1
  unfold f_X0_tell at hf
  refine lv_aload_n hx hb dX0_tell_0 rfl (lv_at hl 0 rfl) ?_
  refine zw_getI X hw fs_X0_22 q274 rfl hf dX0_tell_1 (fun v1 hf => ?_)
  refine lv_bipush (v := (60 : Int32)) hx hb dX0_tell_4 (by decide) ?_
  refine zw_icmp_ne (tgt := 12) hx hb hf dX0_tell_6 (by decide) (fun hf => ?_) (fun hf => ?_)
  · refine lv_aload_n hx hb dX0_tell_12 rfl (lv_at hl 0 rfl) ?_
    refine zw_getR X hw fs_X0_21 q273 rfl hf dX0_tell_13 (fun v2 hf => ?_)
    refine lv_aload_n hx hb dX0_tell_16 rfl (lv_at hl 0 rfl) ?_
    refine zw_getI X hw fs_X0_22 q274 rfl hf dX0_tell_17 (fun v3 hf => ?_)
    refine lv_iload_n hx hb dX0_tell_20 rfl (lv_at hl 1 rfl) ?_
    refine zw_iastore X hw hf dX0_tell_21 (fun h4 H locs hf hw => ?_)
    refine lv_aload_n hx hb dX0_tell_22 rfl (lv_at hl 0 rfl) ?_
    refine lv_dup hx hb dX0_tell_23 rfl ?_
    refine zw_getI X hw fs_X0_22 q274 rfl hf dX0_tell_24 (fun v5 hf => ?_)
    refine lv_iconst (v := (1 : Int32)) hx hb dX0_tell_27 (by decide) ?_
    refine lv_iadd hx hb dX0_tell_28 ?_
    refine zw_put X hw fs_X0_22 q274 rfl rfl rfl rfl hf dX0_tell_29 (fun h6 H locs hf hw => ?_)
    refine lv_aload_n hx hb dX0_tell_32 rfl (lv_at hl 0 rfl) ?_
    refine zw_getI X hw fs_X0_22 q274 rfl hf dX0_tell_33 (fun v7 hf => ?_)
    exact zw_iret X hw hf (Nat.le_of_ble_eq_true rfl) (Nat.le_of_ble_eq_true rfl) dX0_tell_36
  · refine lv_ldc (v := (-1000000003 : Int32)) hx hb hown (hts _ q330) dX0_tell_9 ?_
    exact zw_iret X hw hf (Nat.le_of_ble_eq_true rfl) (Nat.le_of_ble_eq_true rfl) dX0_tell_11
set_option maxHeartbeats 4000000 in
theorem k_X0_rowsOfTides_87 {p : Program} {l : Launch} {e : Env} {s : State} {m : MethodId} {args : Array Value} {below : List Frame} {meth : Method} {c : Code} {D : va_G} {A : Nat → Prop} (X : zCx p s m args meth c D A (zEv A) cX0_rowsOfTides 3 RX0 (Option.some FieldType.int)) (res : Int32 × zT) : ∀ (h : zT) (a0 : Nat) (i2 : Int32) (H : Heap) (locs : List Loc) (ls : Array Slot), f_X0_rowsOfTides_87 h a0 i2 = some res → zWh D A s H h locs → lv_has ls 3 [(0, .ref a0), (2, .int i2)] → W p l e rm_X0_rowsOfTides s m args below meth c H locs 20 100 (MQ below (zQW D A (some (.int res.1)) res.2) args s 30 150 A) (F0 m 87 ls []) := by
  have hx := X.1.1
  have hb := X.1.2.1
  have hown := X.1.2.2.2.1
  have hts := X.1.2.2.2.2
  have hN := X.2.2.2.2.2.2.1
  have hDW := X.2.2.2.2.2.2.2.1
  have hAO := X.2.2.2.2.2.2.2.2.1
  have hNC := X.2.2.2.2.2.2.2.2.2.1
  intro h a0 i2 H locs ls hf hw hl
  unfold f_X0_rowsOfTides_87 at hf
  refine lv_aload_n hx hb dX0_rowsOfTides_87 rfl (lv_at hl 0 rfl) ?_
  refine zw_getR X hw fs_X0_0 q252 rfl hf dX0_rowsOfTides_88 (fun v1 hf => ?_)
  refine lv_aload_n hx hb dX0_rowsOfTides_91 rfl (lv_at hl 0 rfl) ?_
  refine zw_getR X hw fs_X0_2 q254 rfl hf dX0_rowsOfTides_92 (fun v2 hf => ?_)
  refine zw_kC hf (fun fs hfs hf => ?_)
  refine zw_goV (rest := []) hw hf (fun r hr => va_runV (C := RX1) (As := [.ref v2]) (rest := []) X.1 (mt_X1_copyOf l D A h v1 v2 r hr) (cwV 1 hts (lw_V q998 q999 q1000 q82 q1001) rfl rfl rfl ⟨rfl, cd_X1_copyOf⟩ ⟨Nat.le_of_ble_eq_true rfl, Nat.le_of_ble_eq_true rfl⟩) (zpreV (ci := 1) X hw hfs rfl _) rfl rfl hl.1 rfl (lv_room (Nat.le_of_ble_eq_true rfl)) dX0_rowsOfTides_95 ⟨Nat.le_of_ble_eq_true rfl, Nat.le_of_ble_eq_true rfl⟩) (fun r3 H locs hf hw => ?_)
  refine lv_iconst (v := (2 : Int32)) hx hb dX0_rowsOfTides_98 (by decide) ?_
  refine lv_iload_n hx hb dX0_rowsOfTides_99 rfl (lv_at hl 1 rfl) ?_
  refine lv_imul hx hb dX0_rowsOfTides_100 ?_
  exact zw_iret X hw hf (Nat.le_of_ble_eq_true rfl) (Nat.le_of_ble_eq_true rfl) dX0_rowsOfTides_101
set_option maxHeartbeats 4000000 in
theorem k_X0_rowsOfTides_24 {p : Program} {l : Launch} {e : Env} {s : State} {m : MethodId} {args : Array Value} {below : List Frame} {meth : Method} {c : Code} {D : va_G} {A : Nat → Prop} (X : zCx p s m args meth c D A (zEv A) cX0_rowsOfTides 3 RX0 (Option.some FieldType.int)) (res : Int32 × zT) : ∀ (n : Nat), ∀ (h : zT) (a0 : Nat) (i1 : Int32) (i2 : Int32) (H : Heap) (locs : List Loc) (ls : Array Slot), f_X0_rowsOfTides_24 n h a0 i1 i2 = some res → zWh D A s H h locs → lv_has ls 3 [(0, .ref a0), (1, .int i1), (2, .int i2)] → W p l e rm_X0_rowsOfTides s m args below meth c H locs 20 100 (MQ below (zQW D A (some (.int res.1)) res.2) args s 30 150 A) (F0 m 24 ls []) := by
  have hx := X.1.1
  have hb := X.1.2.1
  have hown := X.1.2.2.2.1
  have hts := X.1.2.2.2.2
  have hN := X.2.2.2.2.2.2.1
  have hDW := X.2.2.2.2.2.2.2.1
  have hAO := X.2.2.2.2.2.2.2.2.1
  have hNC := X.2.2.2.2.2.2.2.2.2.1
  intro n
  induction n with
  | zero =>
    intro h a0 i1 i2 H locs ls hf hw hl
    cases hf
  | succ n ih =>
    intro h a0 i1 i2 H locs ls hf hw hl
    unfold f_X0_rowsOfTides_24 at hf
    refine lv_iload_n hx hb dX0_rowsOfTides_24 rfl (lv_at hl 2 rfl) ?_
    refine lv_iload_n hx hb dX0_rowsOfTides_25 rfl (lv_at hl 1 rfl) ?_
    refine zw_icmp_ge (tgt := 87) hx hb hf dX0_rowsOfTides_26 (by decide) (fun hf => ?_) (fun hf => ?_)
    · refine W.widen (k := 20) (n := 100) (by omega) (by omega) ?_
      exact k_X0_rowsOfTides_87 X _ h a0 i2 _ _ _ hf hw (lv_sub hl [0, 2] rfl)
    · refine lv_aload_n hx hb dX0_rowsOfTides_29 rfl (lv_at hl 0 rfl) ?_
      refine zw_getR X hw fs_X0_0 q252 rfl hf dX0_rowsOfTides_30 (fun v1 hf => ?_)
      refine zw_getIN X hw fs_X1_5 (hN _ nq137) rfl hf dX0_rowsOfTides_33 (fun v2 hf => ?_)
      refine lv_sipush (v := (9999 : Int32)) hx hb dX0_rowsOfTides_36 (by decide) ?_
      refine zw_icmp_ge (tgt := 87) hx hb hf dX0_rowsOfTides_39 (by decide) (fun hf => ?_) (fun hf => ?_)
      · refine W.widen (k := 20) (n := 100) (by omega) (by omega) ?_
        exact k_X0_rowsOfTides_87 X _ h a0 i2 _ _ _ hf hw (lv_sub hl [0, 2] rfl)
      · refine lv_aload_n hx hb dX0_rowsOfTides_42 rfl (lv_at hl 0 rfl) ?_
        refine zw_kC hf (fun fs hfs hf => ?_)
        refine zw_goV (rest := []) hw hf (fun r hr => va_runV (C := RX0) (As := []) (rest := []) X.1 (mt_X0_aTide l D A h a0 r hr) (cwV 0 hts (lw_V q977 q979 qs30 q81 q980) rfl rfl rfl ⟨rfl, cd_X0_aTide⟩ ⟨Nat.le_of_ble_eq_true rfl, Nat.le_of_ble_eq_true rfl⟩) (zpreV (ci := 0) X hw hfs rfl _) rfl rfl hl.1 rfl (lv_room (Nat.le_of_ble_eq_true rfl)) dX0_rowsOfTides_43 ⟨Nat.le_of_ble_eq_true rfl, Nat.le_of_ble_eq_true rfl⟩) (fun r3 H locs hf hw => ?_)
        refine lv_aload_n hx hb dX0_rowsOfTides_46 rfl (lv_at hl 0 rfl) ?_
        refine zw_getR X hw fs_X0_23 q275 rfl hf dX0_rowsOfTides_47 (fun v4 hf => ?_)
        refine lv_iconst (v := (2 : Int32)) hx hb dX0_rowsOfTides_50 (by decide) ?_
        refine lv_iload_n hx hb dX0_rowsOfTides_51 rfl (lv_at hl 2 rfl) ?_
        refine lv_imul hx hb dX0_rowsOfTides_52 ?_
        refine lv_aload_n hx hb dX0_rowsOfTides_53 rfl (lv_at hl 0 rfl) ?_
        refine zw_getR X hw fs_X0_0 q252 rfl hf dX0_rowsOfTides_54 (fun v5 hf => ?_)
        refine zw_kC hf (fun fs hfs hf => ?_)
        refine zw_goI (rest := [.int ((2 : Int32) * i2), .ref v4]) hw hf (fun r hr => va_runV (C := RX1) (As := []) (rest := [.int ((2 : Int32) * i2), .ref v4]) X.1 (mt_X1_trust l D A r3 v5 r hr) (cwV 0 hts (lw_V q986 q987 q988 q82 q989) rfl rfl rfl ⟨rfl, cd_X1_trust⟩ ⟨Nat.le_of_ble_eq_true rfl, Nat.le_of_ble_eq_true rfl⟩) (zpreV (ci := 1) X hw hfs rfl _) rfl rfl hl.1 rfl (lv_room (Nat.le_of_ble_eq_true rfl)) dX0_rowsOfTides_57 ⟨Nat.le_of_ble_eq_true rfl, Nat.le_of_ble_eq_true rfl⟩) (fun r6 H locs hf hw => ?_)
        refine zw_iastore X hw hf dX0_rowsOfTides_60 (fun h7 H locs hf hw => ?_)
        refine lv_aload_n hx hb dX0_rowsOfTides_61 rfl (lv_at hl 0 rfl) ?_
        refine zw_getR X hw fs_X0_23 q275 rfl hf dX0_rowsOfTides_62 (fun v8 hf => ?_)
        refine lv_iconst (v := (2 : Int32)) hx hb dX0_rowsOfTides_65 (by decide) ?_
        refine lv_iload_n hx hb dX0_rowsOfTides_66 rfl (lv_at hl 2 rfl) ?_
        refine lv_imul hx hb dX0_rowsOfTides_67 ?_
        refine lv_iconst (v := (1 : Int32)) hx hb dX0_rowsOfTides_68 (by decide) ?_
        refine lv_iadd hx hb dX0_rowsOfTides_69 ?_
        refine lv_aload_n hx hb dX0_rowsOfTides_70 rfl (lv_at hl 0 rfl) ?_
        refine zw_getR X hw fs_X0_0 q252 rfl hf dX0_rowsOfTides_71 (fun v9 hf => ?_)
        refine zw_kC hf (fun fs hfs hf => ?_)
        refine zw_goI (rest := [.int (((2 : Int32) * i2) + (1 : Int32)), .ref v8]) hw hf (fun r hr => va_runV (C := RX1) (As := []) (rest := [.int (((2 : Int32) * i2) + (1 : Int32)), .ref v8]) X.1 (mt_X1_laid l D A h7 v9 r hr) (cwV 0 hts (lw_V q919 q920 q921 q82 q922) rfl rfl rfl ⟨rfl, cd_X1_laid⟩ ⟨Nat.le_of_ble_eq_true rfl, Nat.le_of_ble_eq_true rfl⟩) (zpreV (ci := 1) X hw hfs rfl _) rfl rfl hl.1 rfl (lv_room (Nat.le_of_ble_eq_true rfl)) dX0_rowsOfTides_74 ⟨Nat.le_of_ble_eq_true rfl, Nat.le_of_ble_eq_true rfl⟩) (fun r10 H locs hf hw => ?_)
        refine zw_goI (rest := [.int (((2 : Int32) * i2) + (1 : Int32)), .ref v8]) hw hf (fun r hr => va_runS (As := [.int r10.1]) (rest := [.int (((2 : Int32) * i2) + (1 : Int32)), .ref v8]) X.1 (mt_X0_bits l D A r10.2 r10.1 r hr) (va_cwS 1 hts (lw_S q923 q924 q81 q925) rfl rfl rfl cd_X0_bits ⟨Nat.le_of_ble_eq_true rfl, Nat.le_of_ble_eq_true rfl⟩) (zpreS X hw _) rfl rfl hl.1 rfl (lv_room (Nat.le_of_ble_eq_true rfl)) dX0_rowsOfTides_77 ⟨Nat.le_of_ble_eq_true rfl, Nat.le_of_ble_eq_true rfl⟩) (fun r11 H locs hf hw => ?_)
        refine zw_iastore X hw hf dX0_rowsOfTides_80 (fun h12 H locs hf hw => ?_)
        refine zw_nmS hf (fun v13 ev13 hf => ?_)
        refine lv_iinc (k := 2) (v := v13) (lv' := [(2, .int v13), (0, .ref a0), (1, .int i1)]) hx hb dX0_rowsOfTides_81 hl rfl (by rw [ev13]; rfl) (by decide) rfl (fun ls hl => ?_)
        refine lv_goto (tgt := 24) hx hb dX0_rowsOfTides_84 (by decide) ?_
        refine W.widen (k := 20) (n := 100) (by omega) (by omega) ?_
        exact ih h12 a0 i1 v13 _ _ _ hf hw (lv_sub hl [1, 2, 0] rfl)
set_option maxHeartbeats 4000000 in
theorem mt_X0_rowsOfTides (l : Launch) (D : va_G) (A : Nat → Prop) (h : zT) (a0 : Nat) (i1 : Int32) (res : Int32 × zT) (hf : f_X0_rowsOfTides h a0 i1 = some res) : Met l yX0_rowsOfTides (ws_ yX0_rowsOfTides cX0_rowsOfTides 3 (Option.some FieldType.int)) rm_X0_rowsOfTides (zPW D A (zEv A) h [.ref a0, .int i1]) (zQW D A (some (.int res.1)) res.2) 30 150 A := by
  refine zmt (zEv_ok A) (by decide) (Nat.le_of_ble_eq_true rfl) ?_
  intro p e s m below meth c ls hmn X hw hl
  have hl : lv_has ls 3 [(0, .ref a0), (1, .int i1)] := hl
  have hx := X.1.1
  have hb := X.1.2.1
  have hown := X.1.2.2.2.1
  have hts := X.1.2.2.2.2
  have hN := X.2.2.2.2.2.2.1
  have hDW := X.2.2.2.2.2.2.2.1
  have hAO := X.2.2.2.2.2.2.2.2.1
  have hNC := X.2.2.2.2.2.2.2.2.2.1
  unfold f_X0_rowsOfTides at hf
  refine lv_aload_n hx hb dX0_rowsOfTides_0 rfl (lv_at hl 0 rfl) ?_
  refine zw_getR X hw fs_X0_2 q254 rfl hf dX0_rowsOfTides_1 (fun v1 hf => ?_)
  refine lv_aload_n hx hb dX0_rowsOfTides_4 rfl (lv_at hl 0 rfl) ?_
  refine zw_getR X hw fs_X0_0 q252 rfl hf dX0_rowsOfTides_5 (fun v2 hf => ?_)
  refine zw_kC hf (fun fs hfs hf => ?_)
  refine zw_goV (rest := []) hw hf (fun r hr => va_runV (C := RX1) (As := [.ref v2]) (rest := []) X.1 (mt_X1_copyOf l D A h v1 v2 r hr) (cwV 1 hts (lw_V q998 q999 q1000 q82 q1001) rfl rfl rfl ⟨rfl, cd_X1_copyOf⟩ ⟨Nat.le_of_ble_eq_true rfl, Nat.le_of_ble_eq_true rfl⟩) (zpreV (ci := 1) X hw hfs rfl _) rfl rfl hl.1 rfl (lv_room (Nat.le_of_ble_eq_true rfl)) dX0_rowsOfTides_8 ⟨Nat.le_of_ble_eq_true rfl, Nat.le_of_ble_eq_true rfl⟩) (fun r3 H locs hf hw => ?_)
  refine lv_aload_n hx hb dX0_rowsOfTides_11 rfl (lv_at hl 0 rfl) ?_
  refine zw_getR X hw fs_X0_0 q252 rfl hf dX0_rowsOfTides_12 (fun v4 hf => ?_)
  refine lv_aload_n hx hb dX0_rowsOfTides_15 rfl (lv_at hl 0 rfl) ?_
  refine zw_getR X hw fs_X0_1 q253 rfl hf dX0_rowsOfTides_16 (fun v5 hf => ?_)
  refine zw_kC hf (fun fs hfs hf => ?_)
  refine zw_goV (rest := []) hw hf (fun r hr => va_runV (C := RX1) (As := [.ref v5]) (rest := []) X.1 (mt_X1_copyOf l D A r3 v4 v5 r hr) (cwV 1 hts (lw_V q998 q999 q1000 q82 q1001) rfl rfl rfl ⟨rfl, cd_X1_copyOf⟩ ⟨Nat.le_of_ble_eq_true rfl, Nat.le_of_ble_eq_true rfl⟩) (zpreV (ci := 1) X hw hfs rfl _) rfl rfl hl.1 rfl (lv_room (Nat.le_of_ble_eq_true rfl)) dX0_rowsOfTides_19 ⟨Nat.le_of_ble_eq_true rfl, Nat.le_of_ble_eq_true rfl⟩) (fun r6 H locs hf hw => ?_)
  refine lv_iconst (v := (0 : Int32)) hx hb dX0_rowsOfTides_22 (by decide) ?_
  refine lv_istore_n (lv' := [(2, .int (0 : Int32)), (0, .ref a0), (1, .int i1)]) hx hb dX0_rowsOfTides_23 rfl hl (by decide) rfl (fun ls hl => ?_)
  refine W.widen (k := 20) (n := 100) (by omega) (by omega) ?_
  exact k_X0_rowsOfTides_24 X _ 4096 r6 a0 i1 (0 : Int32) _ _ _ hf hw (lv_sub hl [1, 2, 0] rfl)
set_option maxHeartbeats 4000000 in
theorem k_X0_check_43 {p : Program} {l : Launch} {e : Env} {s : State} {m : MethodId} {args : Array Value} {below : List Frame} {meth : Method} {c : Code} {D : va_G} {A : Nat → Prop} (X : zCx p s m args meth c D A (zEv A) cX0_check 5 RX0 (Option.some FieldType.int)) (res : Int32 × zT) : ∀ (n : Nat), ∀ (h : zT) (a0 : Nat) (i2 : Int32) (i3 : Int32) (i4 : Int32) (H : Heap) (locs : List Loc) (ls : Array Slot), f_X0_check_43 n h a0 i2 i3 i4 = some res → zWh D A s H h locs → lv_has ls 5 [(0, .ref a0), (2, .int i2), (3, .int i3), (4, .int i4)] → W p l e rm_X0_check s m args below meth c H locs 30 150 (MQ below (zQW D A (some (.int res.1)) res.2) args s 30 150 A) (F0 m 43 ls []) := by
  have hx := X.1.1
  have hb := X.1.2.1
  have hown := X.1.2.2.2.1
  have hts := X.1.2.2.2.2
  have hN := X.2.2.2.2.2.2.1
  have hDW := X.2.2.2.2.2.2.2.1
  have hAO := X.2.2.2.2.2.2.2.2.1
  have hNC := X.2.2.2.2.2.2.2.2.2.1
  intro n
  induction n with
  | zero =>
    intro h a0 i2 i3 i4 H locs ls hf hw hl
    cases hf
  | succ n ih =>
    intro h a0 i2 i3 i4 H locs ls hf hw hl
    unfold f_X0_check_43 at hf
    refine lv_iload hx hb dX0_check_43 (lv_at hl 3 rfl) ?_
    refine lv_iload_n hx hb dX0_check_45 rfl (lv_at hl 1 rfl) ?_
    refine zw_icmp_ge (tgt := 86) hx hb hf dX0_check_46 (by decide) (fun hf => ?_) (fun hf => ?_)
    · refine lv_iload_n hx hb dX0_check_86 rfl (lv_at hl 1 rfl) ?_
      refine lv_iload_n hx hb dX0_check_87 rfl (lv_at hl 2 rfl) ?_
      refine zw_icmp_ge (tgt := 97) hx hb hf dX0_check_88 (by decide) (fun hf => ?_) (fun hf => ?_)
      · refine lv_iconst (v := (0 : Int32)) hx hb dX0_check_97 (by decide) ?_
        exact zw_iret X hw hf (Nat.le_of_ble_eq_true rfl) (Nat.le_of_ble_eq_true rfl) dX0_check_98
      · refine lv_iconst (v := (1 : Int32)) hx hb dX0_check_91 (by decide) ?_
        refine lv_iload_n hx hb dX0_check_92 rfl (lv_at hl 1 rfl) ?_
        refine lv_iadd hx hb dX0_check_93 ?_
        refine lv_goto (tgt := 98) hx hb dX0_check_94 (by decide) ?_
        exact zw_iret X hw hf (Nat.le_of_ble_eq_true rfl) (Nat.le_of_ble_eq_true rfl) dX0_check_98
    · refine lv_iload hx hb dX0_check_49 (lv_at hl 3 rfl) ?_
      refine lv_iload_n hx hb dX0_check_51 rfl (lv_at hl 2 rfl) ?_
      refine zw_icmp_ge (tgt := 75) hx hb hf dX0_check_52 (by decide) (fun hf => ?_) (fun hf => ?_)
      · refine lv_iconst (v := (1 : Int32)) hx hb dX0_check_75 (by decide) ?_
        refine lv_iload hx hb dX0_check_76 (lv_at hl 3 rfl) ?_
        refine lv_iadd hx hb dX0_check_78 ?_
        exact zw_iret X hw hf (Nat.le_of_ble_eq_true rfl) (Nat.le_of_ble_eq_true rfl) dX0_check_79
      · refine lv_aload_n hx hb dX0_check_55 rfl (lv_at hl 0 rfl) ?_
        refine zw_getR X hw fs_X0_21 q273 rfl hf dX0_check_56 (fun v1 hf => ?_)
        refine lv_iload hx hb dX0_check_59 (lv_at hl 3 rfl) ?_
        refine zw_ialoadR X hw hf dX0_check_61 (fun v2 hf => ?_)
        refine lv_aload_n hx hb dX0_check_62 rfl (lv_at hl 0 rfl) ?_
        refine zw_getR X hw fs_X0_23 q275 rfl hf dX0_check_63 (fun v3 hf => ?_)
        refine lv_iload hx hb dX0_check_66 (lv_at hl 3 rfl) ?_
        refine zw_ialoadR X hw hf dX0_check_68 (fun v4 hf => ?_)
        refine zw_icmp_ne (tgt := 75) hx hb hf dX0_check_69 (by decide) (fun hf => ?_) (fun hf => ?_)
        · refine lv_iconst (v := (1 : Int32)) hx hb dX0_check_75 (by decide) ?_
          refine lv_iload hx hb dX0_check_76 (lv_at hl 3 rfl) ?_
          refine lv_iadd hx hb dX0_check_78 ?_
          exact zw_iret X hw hf (Nat.le_of_ble_eq_true rfl) (Nat.le_of_ble_eq_true rfl) dX0_check_79
        · refine lv_goto (tgt := 80) hx hb dX0_check_72 (by decide) ?_
          refine zw_nmS hf (fun v5 ev5 hf => ?_)
          refine lv_iinc (k := 3) (v := v5) (lv' := [(4, .int v5), (0, .ref a0), (2, .int i2), (3, .int i3)]) hx hb dX0_check_80 hl rfl (by rw [ev5]; rfl) (by decide) rfl (fun ls hl => ?_)
          refine lv_goto (tgt := 43) hx hb dX0_check_83 (by decide) ?_
          refine W.widen (k := 30) (n := 150) (by omega) (by omega) ?_
          exact ih h a0 i2 i3 v5 _ _ _ hf hw (lv_sub hl [1, 2, 3, 0] rfl)
set_option maxHeartbeats 4000000 in
theorem mt_X0_check (l : Launch) (D : va_G) (A : Nat → Prop) (h : zT) (a0 : Nat) (i1 : Int32) (res : Int32 × zT) (hf : f_X0_check h a0 i1 = some res) : Met l yX0_check (ws_ yX0_check cX0_check 5 (Option.some FieldType.int)) rm_X0_check (zPW D A (zEv A) h [.ref a0, .int i1]) (zQW D A (some (.int res.1)) res.2) 30 150 A := by
  refine zmt (zEv_ok A) (by decide) (Nat.le_of_ble_eq_true rfl) ?_
  intro p e s m below meth c ls hmn X hw hl
  have hl : lv_has ls 5 [(0, .ref a0), (1, .int i1)] := hl
  have hx := X.1.1
  have hb := X.1.2.1
  have hown := X.1.2.2.2.1
  have hts := X.1.2.2.2.2
  have hN := X.2.2.2.2.2.2.1
  have hDW := X.2.2.2.2.2.2.2.1
  have hAO := X.2.2.2.2.2.2.2.2.1
  have hNC := X.2.2.2.2.2.2.2.2.2.1
  unfold f_X0_check at hf
  refine lv_aload_n hx hb dX0_check_0 rfl (lv_at hl 0 rfl) ?_
  refine zw_getI X hw fs_X0_22 q274 rfl hf dX0_check_1 (fun v1 hf => ?_)
  refine lv_istore_n (lv' := [(2, .int v1), (0, .ref a0), (1, .int i1)]) hx hb dX0_check_4 rfl hl (by decide) rfl (fun ls hl => ?_)
  refine lv_aload_n hx hb dX0_check_5 rfl (lv_at hl 1 rfl) ?_
  refine lv_iconst (v := (0 : Int32)) hx hb dX0_check_6 (by decide) ?_
  refine zw_put X hw fs_X0_22 q274 rfl rfl rfl rfl hf dX0_check_7 (fun h2 H locs hf hw => ?_)
  refine lv_iload_n hx hb dX0_check_10 rfl (lv_at hl 2 rfl) ?_
  refine lv_iconst (v := (1 : Int32)) hx hb dX0_check_11 (by decide) ?_
  refine lv_bipush (v := (30 : Int32)) hx hb dX0_check_12 (by decide) ?_
  refine zw_goZ (rest := []) hw hf (fun r hr => va_runS (As := [.int i1, .int (1 : Int32), .int (30 : Int32)]) (rest := []) X.1 (mt_X0_isIn l D A h2 i1 (1 : Int32) (30 : Int32) r hr) (va_cwS 3 hts (lw_S q339 q340 q81 q341) rfl rfl rfl cd_X0_isIn ⟨Nat.le_of_ble_eq_true rfl, Nat.le_of_ble_eq_true rfl⟩) (zpreS X hw _) rfl rfl hl.1 rfl (lv_room (Nat.le_of_ble_eq_true rfl)) dX0_check_14 ⟨Nat.le_of_ble_eq_true rfl, Nat.le_of_ble_eq_true rfl⟩) (fun r3 H locs hf hw => ?_)
  refine zw_if_ne (tgt := 23) hx hb hf dX0_check_17 (by decide) (fun hf => ?_) (fun hf => ?_)
  · refine lv_aload_n hx hb dX0_check_23 rfl (lv_at hl 1 rfl) ?_
    refine zw_getI X hw fs_X0_4 q256 rfl hf dX0_check_24 (fun v4 hf => ?_)
    refine zw_if_ne (tgt := 34) hx hb hf dX0_check_27 (by decide) (fun hf => ?_) (fun hf => ?_)
    · refine lv_aload_n hx hb dX0_check_34 rfl (lv_at hl 1 rfl) ?_
      refine lv_iload_n hx hb dX0_check_35 rfl (lv_at hl 2 rfl) ?_
      refine zw_kC hf (fun fs hfs hf => ?_)
      refine zw_goI (rest := []) hw hf (fun r hr => va_runV (C := RX0) (As := [.int i1]) (rest := []) X.1 (mt_X0_rowsOfTides l D A r3.2 a0 i1 r hr) (cwV 1 hts (lw_V q1248 q1250 qs35 q81 q1251) rfl rfl rfl ⟨rfl, cd_X0_rowsOfTides⟩ ⟨Nat.le_of_ble_eq_true rfl, Nat.le_of_ble_eq_true rfl⟩) (zpreV (ci := 0) X hw hfs rfl _) rfl rfl hl.1 rfl (lv_room (Nat.le_of_ble_eq_true rfl)) dX0_check_36 ⟨Nat.le_of_ble_eq_true rfl, Nat.le_of_ble_eq_true rfl⟩) (fun r5 H locs hf hw => ?_)
      refine lv_istore_n (lv' := [(3, .int r5.1), (2, .int v1), (0, .ref a0), (1, .int i1)]) hx hb dX0_check_39 rfl hl (by decide) rfl (fun ls hl => ?_)
      refine lv_iconst (v := (0 : Int32)) hx hb dX0_check_40 (by decide) ?_
      refine lv_istore (lv' := [(4, .int (0 : Int32)), (3, .int r5.1), (2, .int v1), (0, .ref a0), (1, .int i1)]) hx hb dX0_check_41 hl (by decide) rfl (fun ls hl => ?_)
      refine W.widen (k := 30) (n := 150) (by omega) (by omega) ?_
      exact k_X0_check_43 X _ 4096 r5.2 a0 v1 r5.1 (0 : Int32) _ _ _ hf hw (lv_sub hl [3, 2, 1, 0] rfl)
    · refine lv_ldcw (v := (-1000000002 : Int32)) hx hb hown (hts _ q1239) dX0_check_30 ?_
      exact zw_iret X hw hf (Nat.le_of_ble_eq_true rfl) (Nat.le_of_ble_eq_true rfl) dX0_check_33
  · refine lv_ldc (v := (-1000000001 : Int32)) hx hb hown (hts _ q342) dX0_check_20 ?_
    exact zw_iret X hw hf (Nat.le_of_ble_eq_true rfl) (Nat.le_of_ble_eq_true rfl) dX0_check_22
set_option maxHeartbeats 4000000 in
theorem mt_X0_keep (l : Launch) (D : va_G) (A : Nat → Prop) (h : zT) (a0 : Nat) (res : Int32 × zT) (hf : f_X0_keep h a0 = some res) : Met l yX0_keep (ws_ yX0_keep cX0_keep 1 (Option.some FieldType.int)) rm_X0_keep (zPW D A (zEv A) h [.ref a0]) (zQW D A (some (.int res.1)) res.2) 10 50 A := by
  refine zmt (zEv_ok A) (by decide) (Nat.le_of_ble_eq_true rfl) ?_
  intro p e s m below meth c ls hmn X hw hl
  have hl : lv_has ls 1 [(0, .ref a0)] := hl
  have hx := X.1.1
  have hb := X.1.2.1
  have hown := X.1.2.2.2.1
  have hts := X.1.2.2.2.2
  have hN := X.2.2.2.2.2.2.1
  have hDW := X.2.2.2.2.2.2.2.1
  have hAO := X.2.2.2.2.2.2.2.2.1
  have hNC := X.2.2.2.2.2.2.2.2.2.1
  unfold f_X0_keep at hf
  refine lv_aload_n hx hb dX0_keep_0 rfl (lv_at hl 0 rfl) ?_
  refine zw_getR X hw fs_X0_1 q253 rfl hf dX0_keep_1 (fun v1 hf => ?_)
  refine lv_aload_n hx hb dX0_keep_4 rfl (lv_at hl 0 rfl) ?_
  refine zw_getR X hw fs_X0_0 q252 rfl hf dX0_keep_5 (fun v2 hf => ?_)
  refine zw_kC hf (fun fs hfs hf => ?_)
  refine zw_goV (rest := []) hw hf (fun r hr => va_runV (C := RX1) (As := [.ref v2]) (rest := []) X.1 (mt_X1_copyOf l D A h v1 v2 r hr) (cwV 1 hts (lw_V q998 q999 q1000 q82 q1001) rfl rfl rfl ⟨rfl, cd_X1_copyOf⟩ ⟨Nat.le_of_ble_eq_true rfl, Nat.le_of_ble_eq_true rfl⟩) (zpreV (ci := 1) X hw hfs rfl _) rfl rfl hl.1 rfl (lv_room (Nat.le_of_ble_eq_true rfl)) dX0_keep_8 ⟨Nat.le_of_ble_eq_true rfl, Nat.le_of_ble_eq_true rfl⟩) (fun r3 H locs hf hw => ?_)
  refine lv_aload_n hx hb dX0_keep_11 rfl (lv_at hl 0 rfl) ?_
  refine lv_iconst (v := (1 : Int32)) hx hb dX0_keep_12 (by decide) ?_
  refine zw_put X hw fs_X0_4 q256 rfl rfl rfl rfl hf dX0_keep_13 (fun h4 H locs hf hw => ?_)
  refine lv_aload_n hx hb dX0_keep_16 rfl (lv_at hl 0 rfl) ?_
  refine zw_getR X hw fs_X0_0 q252 rfl hf dX0_keep_17 (fun v5 hf => ?_)
  refine zw_getIN X hw fs_X1_1 (hN _ nq129) rfl hf dX0_keep_20 (fun v6 hf => ?_)
  exact zw_iret X hw hf (Nat.le_of_ble_eq_true rfl) (Nat.le_of_ble_eq_true rfl) dX0_keep_23
set_option maxHeartbeats 4000000 in
theorem mt_X0_back (l : Launch) (D : va_G) (A : Nat → Prop) (h : zT) (a0 : Nat) (res : Int32 × zT) (hf : f_X0_back h a0 = some res) : Met l yX0_back (ws_ yX0_back cX0_back 1 (Option.some FieldType.int)) rm_X0_back (zPW D A (zEv A) h [.ref a0]) (zQW D A (some (.int res.1)) res.2) 10 50 A := by
  refine zmt (zEv_ok A) (by decide) (Nat.le_of_ble_eq_true rfl) ?_
  intro p e s m below meth c ls hmn X hw hl
  have hl : lv_has ls 1 [(0, .ref a0)] := hl
  have hx := X.1.1
  have hb := X.1.2.1
  have hown := X.1.2.2.2.1
  have hts := X.1.2.2.2.2
  have hN := X.2.2.2.2.2.2.1
  have hDW := X.2.2.2.2.2.2.2.1
  have hAO := X.2.2.2.2.2.2.2.2.1
  have hNC := X.2.2.2.2.2.2.2.2.2.1
  unfold f_X0_back at hf
  refine lv_aload_n hx hb dX0_back_0 rfl (lv_at hl 0 rfl) ?_
  refine zw_getI X hw fs_X0_4 q256 rfl hf dX0_back_1 (fun v1 hf => ?_)
  refine zw_if_ne (tgt := 11) hx hb hf dX0_back_4 (by decide) (fun hf => ?_) (fun hf => ?_)
  · refine lv_aload_n hx hb dX0_back_11 rfl (lv_at hl 0 rfl) ?_
    refine zw_getR X hw fs_X0_0 q252 rfl hf dX0_back_12 (fun v2 hf => ?_)
    refine lv_aload_n hx hb dX0_back_15 rfl (lv_at hl 0 rfl) ?_
    refine zw_getR X hw fs_X0_1 q253 rfl hf dX0_back_16 (fun v3 hf => ?_)
    refine zw_kC hf (fun fs hfs hf => ?_)
    refine zw_goV (rest := []) hw hf (fun r hr => va_runV (C := RX1) (As := [.ref v3]) (rest := []) X.1 (mt_X1_copyOf l D A h v2 v3 r hr) (cwV 1 hts (lw_V q998 q999 q1000 q82 q1001) rfl rfl rfl ⟨rfl, cd_X1_copyOf⟩ ⟨Nat.le_of_ble_eq_true rfl, Nat.le_of_ble_eq_true rfl⟩) (zpreV (ci := 1) X hw hfs rfl _) rfl rfl hl.1 rfl (lv_room (Nat.le_of_ble_eq_true rfl)) dX0_back_19 ⟨Nat.le_of_ble_eq_true rfl, Nat.le_of_ble_eq_true rfl⟩) (fun r4 H locs hf hw => ?_)
    refine lv_aload_n hx hb dX0_back_22 rfl (lv_at hl 0 rfl) ?_
    refine zw_getR X hw fs_X0_0 q252 rfl hf dX0_back_23 (fun v5 hf => ?_)
    refine zw_getIN X hw fs_X1_1 (hN _ nq129) rfl hf dX0_back_26 (fun v6 hf => ?_)
    exact zw_iret X hw hf (Nat.le_of_ble_eq_true rfl) (Nat.le_of_ble_eq_true rfl) dX0_back_29
  · refine lv_ldcw (v := (-1000000002 : Int32)) hx hb hown (hts _ q1239) dX0_back_7 ?_
    exact zw_iret X hw hf (Nat.le_of_ble_eq_true rfl) (Nat.le_of_ble_eq_true rfl) dX0_back_10
set_option maxHeartbeats 4000000 in
theorem mt_X0_count (l : Launch) (D : va_G) (A : Nat → Prop) (h : zT) (a0 : Nat) (i1 : Int32) (res : Int32 × zT) (hf : f_X0_count h a0 i1 = some res) : Met l yX0_count (ws_ yX0_count cX0_count 2 (Option.some FieldType.int)) rm_X0_count (zPW D A (zEv A) h [.ref a0, .int i1]) (zQW D A (some (.int res.1)) res.2) 0 0 A := by
  refine zmt (zEv_ok A) (by decide) (Nat.le_of_ble_eq_true rfl) ?_
  intro p e s m below meth c ls hmn X hw hl
  have hl : lv_has ls 2 [(0, .ref a0), (1, .int i1)] := hl
  have hx := X.1.1
  have hb := X.1.2.1
  have hown := X.1.2.2.2.1
  have hts := X.1.2.2.2.2
  have hN := X.2.2.2.2.2.2.1
  have hDW := X.2.2.2.2.2.2.2.1
  have hAO := X.2.2.2.2.2.2.2.2.1
  have hNC := X.2.2.2.2.2.2.2.2.2.1
  unfold f_X0_count at hf
  refine lv_iload_n hx hb dX0_count_0 rfl (lv_at hl 1 rfl) ?_
  refine zw_case hf (fun c1000 hf => ?_) (fun c1000 hf => ?_)
  · refine zw_tableIn (off := 43) (tgt := 44) hx hb c1000 dX0_count_1 (by decide) (by decide) rfl (by decide) ?_
    refine lv_aload_n hx hb dX0_count_44 rfl (lv_at hl 0 rfl) ?_
    refine zw_getR X hw fs_X0_0 q252 rfl hf dX0_count_45 (fun v1 hf => ?_)
    refine zw_getIN X hw fs_X1_1 (hN _ nq129) rfl hf dX0_count_48 (fun v2 hf => ?_)
    exact zw_iret X hw hf (Nat.le_of_ble_eq_true rfl) (Nat.le_of_ble_eq_true rfl) dX0_count_51
  · refine zw_case hf (fun c1001 hf => ?_) (fun c1001 hf => ?_)
    · refine zw_tableIn (off := 51) (tgt := 52) hx hb c1001 dX0_count_1 (by decide) (by decide) rfl (by decide) ?_
      refine lv_aload_n hx hb dX0_count_52 rfl (lv_at hl 0 rfl) ?_
      refine zw_getR X hw fs_X0_0 q252 rfl hf dX0_count_53 (fun v3 hf => ?_)
      refine zw_getIN X hw fs_X1_5 (hN _ nq137) rfl hf dX0_count_56 (fun v4 hf => ?_)
      exact zw_iret X hw hf (Nat.le_of_ble_eq_true rfl) (Nat.le_of_ble_eq_true rfl) dX0_count_59
    · refine zw_case hf (fun c1002 hf => ?_) (fun c1002 hf => ?_)
      · refine zw_tableIn (off := 59) (tgt := 60) hx hb c1002 dX0_count_1 (by decide) (by decide) rfl (by decide) ?_
        refine lv_aload_n hx hb dX0_count_60 rfl (lv_at hl 0 rfl) ?_
        refine zw_getR X hw fs_X0_0 q252 rfl hf dX0_count_61 (fun v5 hf => ?_)
        refine zw_kC hf (fun fs hfs hf => ?_)
        refine zw_goI (rest := []) hw hf (fun r hr => va_runV (C := RX1) (As := []) (rest := []) X.1 (mt_X1_laid l D A h v5 r hr) (cwV 0 hts (lw_V q919 q920 q921 q82 q922) rfl rfl rfl ⟨rfl, cd_X1_laid⟩ ⟨Nat.le_of_ble_eq_true rfl, Nat.le_of_ble_eq_true rfl⟩) (zpreV (ci := 1) X hw hfs rfl _) rfl rfl hl.1 rfl (lv_room (Nat.le_of_ble_eq_true rfl)) dX0_count_64 ⟨Nat.le_of_ble_eq_true rfl, Nat.le_of_ble_eq_true rfl⟩) (fun r6 H locs hf hw => ?_)
        refine zw_goI (rest := []) hw hf (fun r hr => va_runS (As := [.int r6.1]) (rest := []) X.1 (mt_X0_bits l D A r6.2 r6.1 r hr) (va_cwS 1 hts (lw_S q923 q924 q81 q925) rfl rfl rfl cd_X0_bits ⟨Nat.le_of_ble_eq_true rfl, Nat.le_of_ble_eq_true rfl⟩) (zpreS X hw _) rfl rfl hl.1 rfl (lv_room (Nat.le_of_ble_eq_true rfl)) dX0_count_67 ⟨Nat.le_of_ble_eq_true rfl, Nat.le_of_ble_eq_true rfl⟩) (fun r7 H locs hf hw => ?_)
        exact zw_iret X hw hf (Nat.le_of_ble_eq_true rfl) (Nat.le_of_ble_eq_true rfl) dX0_count_70
      · refine zw_case hf (fun c1003 hf => ?_) (fun c1003 hf => ?_)
        · refine zw_tableIn (off := 70) (tgt := 71) hx hb c1003 dX0_count_1 (by decide) (by decide) rfl (by decide) ?_
          refine lv_aload_n hx hb dX0_count_71 rfl (lv_at hl 0 rfl) ?_
          refine zw_getR X hw fs_X0_0 q252 rfl hf dX0_count_72 (fun v8 hf => ?_)
          refine zw_getIN X hw fs_X1_6 (hN _ nq139) rfl hf dX0_count_75 (fun v9 hf => ?_)
          exact zw_iret X hw hf (Nat.le_of_ble_eq_true rfl) (Nat.le_of_ble_eq_true rfl) dX0_count_78
        · refine zw_case hf (fun c1004 hf => ?_) (fun c1004 hf => ?_)
          · refine zw_tableIn (off := 78) (tgt := 79) hx hb c1004 dX0_count_1 (by decide) (by decide) rfl (by decide) ?_
            refine lv_aload_n hx hb dX0_count_79 rfl (lv_at hl 0 rfl) ?_
            refine zw_getI X hw fs_X0_22 q274 rfl hf dX0_count_80 (fun v10 hf => ?_)
            exact zw_iret X hw hf (Nat.le_of_ble_eq_true rfl) (Nat.le_of_ble_eq_true rfl) dX0_count_83
          · refine zw_case hf (fun c1005 hf => ?_) (fun c1005 hf => ?_)
            · refine zw_tableIn (off := 83) (tgt := 84) hx hb c1005 dX0_count_1 (by decide) (by decide) rfl (by decide) ?_
              refine lv_aload_n hx hb dX0_count_84 rfl (lv_at hl 0 rfl) ?_
              refine zw_getI X hw fs_X0_7 q259 rfl hf dX0_count_85 (fun v11 hf => ?_)
              exact zw_iret X hw hf (Nat.le_of_ble_eq_true rfl) (Nat.le_of_ble_eq_true rfl) dX0_count_88
            · refine zw_case hf (fun c1006 hf => ?_) (fun c1006 hf => ?_)
              · refine zw_tableIn (off := 88) (tgt := 89) hx hb c1006 dX0_count_1 (by decide) (by decide) rfl (by decide) ?_
                refine lv_aload_n hx hb dX0_count_89 rfl (lv_at hl 0 rfl) ?_
                refine zw_getR X hw fs_X0_0 q252 rfl hf dX0_count_90 (fun v12 hf => ?_)
                refine zw_getIN X hw fs_X1_0 (hN _ nq127) rfl hf dX0_count_93 (fun v13 hf => ?_)
                exact zw_iret X hw hf (Nat.le_of_ble_eq_true rfl) (Nat.le_of_ble_eq_true rfl) dX0_count_96
              · refine lv_tableOut (tgt := 97) hx hb dX0_count_1 (by have := lv_neT c1000 (a := 0) (by decide); have := lv_neT c1001 (a := 1) (by decide); have := lv_neT c1002 (a := 2) (by decide); have := lv_neT c1003 (a := 3) (by decide); have := lv_neT c1004 (a := 4) (by decide); have := lv_neT c1005 (a := 5) (by decide); have := lv_neT c1006 (a := 6) (by decide); omega) (by decide) ?_
                refine lv_ldc (v := (-1000000001 : Int32)) hx hb hown (hts _ q342) dX0_count_97 ?_
                exact zw_iret X hw hf (Nat.le_of_ble_eq_true rfl) (Nat.le_of_ble_eq_true rfl) dX0_count_99
