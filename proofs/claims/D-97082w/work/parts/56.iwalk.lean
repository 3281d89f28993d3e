/-! The component's constructor: the walk (gen/ctor.py) -/
set_option maxRecDepth 100000
set_option maxHeartbeats 4000000 in
theorem mt_X0_init (l : Launch) (D : va_G) (A : Nat → Prop) (htr : l.stackTraces = false) (u sen : Value) (h : zT) (a0 : Nat) (res : zT) (hf : f_X0_init u sen h a0 = some res) : Met l yX0_init (ws_ yX0_init cX0_init 1 (Option.none : Option FieldType)) rm_X0_init (zPW D A (zEf A u sen) h [.ref a0]) (zQW D A none res) 35 686 A := by
  refine zmt (zEf_ok A u sen) (by decide) (Nat.le_of_ble_eq_true rfl) ?_
  intro p e s m below meth c ls hmn X hw hl
  have hU := X.2.2.2.2.2.2.2.1
  have hSn := X.2.2.2.2.2.2.2.2
  have X := X.evf
  have hl : lv_has ls 1 [(0, .ref a0)] := hl
  have hx := X.1.1
  have hb := X.1.2.1
  have hown := X.1.2.2.2.1
  have hts := X.1.2.2.2.2
  have hN := X.2.2.2.2.2.2.1
  have hDW := X.2.2.2.2.2.2.2.1
  have hAO := X.2.2.2.2.2.2.2.2.1
  have hNC := X.2.2.2.2.2.2.2.2.2.1
  have hin : meth.name = "<init>" := hmn
  unfold f_X0_init at hf
  refine lv_aload_n hx hb dX0_init_0 rfl (lv_at hl 0 rfl) ?_
  refine W.objInit hx hb hown (hts _ q113) (hts _ q114) (hts _ q115) rfl (by rw [X.1.2.2.1]; exact hl.1) rfl dX0_init_1 (Nat.le_of_ble_eq_true rfl) (Nat.le_of_ble_eq_true rfl) ?_
  refine W.eq (g2 := F0 m 4 ls []) rfl ?_
  refine lv_aload_n hx hb dX0_init_4 rfl (lv_at hl 0 rfl) ?_
  refine zw_new (N := 8) X hw zcf1 q116 q117 q82 zdf1 hf (Nat.le_of_ble_eq_true rfl) (Nat.le_of_ble_eq_true rfl) dX0_init_5 (fun r1 H hf hw => ?_)
  refine lv_dup hx hb dX0_init_8 rfl ?_
  refine zw_goV (rest := [.ref r1.1, .ref a0]) hw hf (fun r hr => va_runIN (As := []) (rest := [.ref r1.1, .ref a0]) X.1 (mt_X1_init l D A r1.2 r1.1 r hr) ⟨va_cnB 0 hts (lw_meth q120) rfl rfl rfl (hN _ nq118) (hts _ q82) cd_X1_init ⟨Nat.le_of_ble_eq_true rfl, Nat.le_of_ble_eq_true rfl⟩, rfl, hts _ q119⟩ (zpreS X hw _) rfl rfl hl.1 rfl (lv_room (Nat.le_of_ble_eq_true rfl)) dX0_init_9 ⟨Nat.le_of_ble_eq_true rfl, Nat.le_of_ble_eq_true rfl⟩) (fun r2 H locs hf hw => ?_)
  refine zw_putF X hin hw fs_X0_0 q252 rfl rfl rfl rfl rfl hf dX0_init_12 (fun h3 H locs hf hw => ?_)
  refine lv_aload_n hx hb dX0_init_15 rfl (lv_at hl 0 rfl) ?_
  refine zw_new (N := 8) X hw zcf1 q116 q117 q82 zdf1 hf (Nat.le_of_ble_eq_true rfl) (Nat.le_of_ble_eq_true rfl) dX0_init_16 (fun r4 H hf hw => ?_)
  refine lv_dup hx hb dX0_init_19 rfl ?_
  refine zw_goV (rest := [.ref r4.1, .ref a0]) hw hf (fun r hr => va_runIN (As := []) (rest := [.ref r4.1, .ref a0]) X.1 (mt_X1_init l D A r4.2 r4.1 r hr) ⟨va_cnB 0 hts (lw_meth q120) rfl rfl rfl (hN _ nq118) (hts _ q82) cd_X1_init ⟨Nat.le_of_ble_eq_true rfl, Nat.le_of_ble_eq_true rfl⟩, rfl, hts _ q119⟩ (zpreS X hw _) rfl rfl hl.1 rfl (lv_room (Nat.le_of_ble_eq_true rfl)) dX0_init_20 ⟨Nat.le_of_ble_eq_true rfl, Nat.le_of_ble_eq_true rfl⟩) (fun r5 H locs hf hw => ?_)
  refine zw_putF X hin hw fs_X0_1 q253 rfl rfl rfl rfl rfl hf dX0_init_23 (fun h6 H locs hf hw => ?_)
  refine lv_aload_n hx hb dX0_init_26 rfl (lv_at hl 0 rfl) ?_
  refine zw_new (N := 8) X hw zcf1 q116 q117 q82 zdf1 hf (Nat.le_of_ble_eq_true rfl) (Nat.le_of_ble_eq_true rfl) dX0_init_27 (fun r7 H hf hw => ?_)
  refine lv_dup hx hb dX0_init_30 rfl ?_
  refine zw_goV (rest := [.ref r7.1, .ref a0]) hw hf (fun r hr => va_runIN (As := []) (rest := [.ref r7.1, .ref a0]) X.1 (mt_X1_init l D A r7.2 r7.1 r hr) ⟨va_cnB 0 hts (lw_meth q120) rfl rfl rfl (hN _ nq118) (hts _ q82) cd_X1_init ⟨Nat.le_of_ble_eq_true rfl, Nat.le_of_ble_eq_true rfl⟩, rfl, hts _ q119⟩ (zpreS X hw _) rfl rfl hl.1 rfl (lv_room (Nat.le_of_ble_eq_true rfl)) dX0_init_31 ⟨Nat.le_of_ble_eq_true rfl, Nat.le_of_ble_eq_true rfl⟩) (fun r8 H locs hf hw => ?_)
  refine zw_putF X hin hw fs_X0_2 q254 rfl rfl rfl rfl rfl hf dX0_init_34 (fun h9 H locs hf hw => ?_)
  refine lv_aload_n hx hb dX0_init_37 rfl (lv_at hl 0 rfl) ?_
  refine zw_new (N := 8) X hw zcf1 q116 q117 q82 zdf1 hf (Nat.le_of_ble_eq_true rfl) (Nat.le_of_ble_eq_true rfl) dX0_init_38 (fun r10 H hf hw => ?_)
  refine lv_dup hx hb dX0_init_41 rfl ?_
  refine zw_goV (rest := [.ref r10.1, .ref a0]) hw hf (fun r hr => va_runIN (As := []) (rest := [.ref r10.1, .ref a0]) X.1 (mt_X1_init l D A r10.2 r10.1 r hr) ⟨va_cnB 0 hts (lw_meth q120) rfl rfl rfl (hN _ nq118) (hts _ q82) cd_X1_init ⟨Nat.le_of_ble_eq_true rfl, Nat.le_of_ble_eq_true rfl⟩, rfl, hts _ q119⟩ (zpreS X hw _) rfl rfl hl.1 rfl (lv_room (Nat.le_of_ble_eq_true rfl)) dX0_init_42 ⟨Nat.le_of_ble_eq_true rfl, Nat.le_of_ble_eq_true rfl⟩) (fun r11 H locs hf hw => ?_)
  refine zw_putF X hin hw fs_X0_3 q255 rfl rfl rfl rfl rfl hf dX0_init_45 (fun h12 H locs hf hw => ?_)
  refine lv_aload_n hx hb dX0_init_48 rfl (lv_at hl 0 rfl) ?_
  refine lv_bipush (v := (96 : Int32)) hx hb dX0_init_49 (by decide) ?_
  refine zw_newa (N := 96) X hw q159 hf rfl (Nat.le_of_ble_eq_true rfl) (Nat.le_of_ble_eq_true rfl) (Nat.le_of_ble_eq_true rfl) dX0_init_51 (fun r13 H hf hw => ?_)
  refine zw_putF X hin hw fs_X0_5 q257 rfl rfl rfl rfl rfl hf dX0_init_53 (fun h14 H locs hf hw => ?_)
  refine lv_aload_n hx hb dX0_init_56 rfl (lv_at hl 0 rfl) ?_
  refine lv_bipush (v := (96 : Int32)) hx hb dX0_init_57 (by decide) ?_
  refine zw_newb (N := 96) X hw q227 hf rfl (Nat.le_of_ble_eq_true rfl) (Nat.le_of_ble_eq_true rfl) (Nat.le_of_ble_eq_true rfl) dX0_init_59 (fun r15 H hf hw => ?_)
  refine zw_putF X hin hw fs_X0_6 q258 rfl rfl rfl rfl rfl hf dX0_init_61 (fun h16 H locs hf hw => ?_)
  refine lv_aload_n hx hb dX0_init_64 rfl (lv_at hl 0 rfl) ?_
  refine zw_newFault (rest := [.ref a0]) X htr hU hSn hw hl.1 q160 q161 q86 (hN _ nq201) hf (Nat.le_of_ble_eq_true rfl) (Nat.le_of_ble_eq_true rfl) (Nat.le_of_ble_eq_true rfl) (Nat.le_of_ble_eq_true rfl) dX0_init_65 dX0_init_68 dX0_init_69 (fun r17 H locs hf hw => ?_)
  refine zw_putF X hin hw fs_X0_8 q260 rfl rfl rfl rfl rfl hf dX0_init_72 (fun h18 H locs hf hw => ?_)
  refine lv_aload_n hx hb dX0_init_75 rfl (lv_at hl 0 rfl) ?_
  refine lv_sipush (v := (128 : Int32)) hx hb dX0_init_76 (by decide) ?_
  refine zw_newa (N := 128) X hw q159 hf rfl (Nat.le_of_ble_eq_true rfl) (Nat.le_of_ble_eq_true rfl) (Nat.le_of_ble_eq_true rfl) dX0_init_79 (fun r19 H hf hw => ?_)
  refine zw_putF X hin hw fs_X0_16 q268 rfl rfl rfl rfl rfl hf dX0_init_81 (fun h20 H locs hf hw => ?_)
  refine lv_aload_n hx hb dX0_init_84 rfl (lv_at hl 0 rfl) ?_
  refine lv_bipush (v := (9 : Int32)) hx hb dX0_init_85 (by decide) ?_
  refine zw_newa (N := 9) X hw q159 hf rfl (Nat.le_of_ble_eq_true rfl) (Nat.le_of_ble_eq_true rfl) (Nat.le_of_ble_eq_true rfl) dX0_init_87 (fun r21 H hf hw => ?_)
  refine zw_putF X hin hw fs_X0_17 q269 rfl rfl rfl rfl rfl hf dX0_init_89 (fun h22 H locs hf hw => ?_)
  refine lv_aload_n hx hb dX0_init_92 rfl (lv_at hl 0 rfl) ?_
  refine lv_iconst (v := (4 : Int32)) hx hb dX0_init_93 (by decide) ?_
  refine zw_newq (N := 4) X hw q228 (hAO _ (by decide)) hf rfl (Nat.le_of_ble_eq_true rfl) (Nat.le_of_ble_eq_true rfl) (Nat.le_of_ble_eq_true rfl) dX0_init_94 (fun r23 H hf hw => ?_)
  refine lv_dup hx hb dX0_init_97 rfl ?_
  refine lv_iconst (v := (0 : Int32)) hx hb dX0_init_98 (by decide) ?_
  refine zw_new (N := 1) X hw zcf3 q228 q230 q87 zdf3 hf (Nat.le_of_ble_eq_true rfl) (Nat.le_of_ble_eq_true rfl) dX0_init_99 (fun r24 H hf hw => ?_)
  refine lv_dup hx hb dX0_init_102 rfl ?_
  refine zw_goV (rest := [.ref r24.1, .int (0 : Int32), .ref r23.1, .ref r23.1, .ref a0]) hw hf (fun r hr => va_runIN (As := []) (rest := [.ref r24.1, .int (0 : Int32), .ref r23.1, .ref r23.1, .ref a0]) X.1 (mt_X3_init l D A r24.2 r24.1 r hr) ⟨va_cnB 0 hts (lw_meth q233) rfl rfl rfl (hN _ nq231) (hts _ q87) cd_X3_init ⟨Nat.le_of_ble_eq_true rfl, Nat.le_of_ble_eq_true rfl⟩, rfl, hts _ q232⟩ (zpreS X hw _) rfl rfl hl.1 rfl (lv_room (Nat.le_of_ble_eq_true rfl)) dX0_init_103 ⟨Nat.le_of_ble_eq_true rfl, Nat.le_of_ble_eq_true rfl⟩) (fun r25 H locs hf hw => ?_)
  refine zw_aastore X hw (zcast3 X) hf dX0_init_106 (fun h26 H locs hf hw => ?_)
  refine lv_dup hx hb dX0_init_107 rfl ?_
  refine lv_iconst (v := (1 : Int32)) hx hb dX0_init_108 (by decide) ?_
  refine zw_new (N := 1) X hw zcf3 q228 q230 q87 zdf3 hf (Nat.le_of_ble_eq_true rfl) (Nat.le_of_ble_eq_true rfl) dX0_init_109 (fun r27 H hf hw => ?_)
  refine lv_dup hx hb dX0_init_112 rfl ?_
  refine zw_goV (rest := [.ref r27.1, .int (1 : Int32), .ref r23.1, .ref r23.1, .ref a0]) hw hf (fun r hr => va_runIN (As := []) (rest := [.ref r27.1, .int (1 : Int32), .ref r23.1, .ref r23.1, .ref a0]) X.1 (mt_X3_init l D A r27.2 r27.1 r hr) ⟨va_cnB 0 hts (lw_meth q233) rfl rfl rfl (hN _ nq231) (hts _ q87) cd_X3_init ⟨Nat.le_of_ble_eq_true rfl, Nat.le_of_ble_eq_true rfl⟩, rfl, hts _ q232⟩ (zpreS X hw _) rfl rfl hl.1 rfl (lv_room (Nat.le_of_ble_eq_true rfl)) dX0_init_113 ⟨Nat.le_of_ble_eq_true rfl, Nat.le_of_ble_eq_true rfl⟩) (fun r28 H locs hf hw => ?_)
  refine zw_aastore X hw (zcast3 X) hf dX0_init_116 (fun h29 H locs hf hw => ?_)
  refine lv_dup hx hb dX0_init_117 rfl ?_
  refine lv_iconst (v := (2 : Int32)) hx hb dX0_init_118 (by decide) ?_
  refine zw_new (N := 1) X hw zcf3 q228 q230 q87 zdf3 hf (Nat.le_of_ble_eq_true rfl) (Nat.le_of_ble_eq_true rfl) dX0_init_119 (fun r30 H hf hw => ?_)
  refine lv_dup hx hb dX0_init_122 rfl ?_
  refine zw_goV (rest := [.ref r30.1, .int (2 : Int32), .ref r23.1, .ref r23.1, .ref a0]) hw hf (fun r hr => va_runIN (As := []) (rest := [.ref r30.1, .int (2 : Int32), .ref r23.1, .ref r23.1, .ref a0]) X.1 (mt_X3_init l D A r30.2 r30.1 r hr) ⟨va_cnB 0 hts (lw_meth q233) rfl rfl rfl (hN _ nq231) (hts _ q87) cd_X3_init ⟨Nat.le_of_ble_eq_true rfl, Nat.le_of_ble_eq_true rfl⟩, rfl, hts _ q232⟩ (zpreS X hw _) rfl rfl hl.1 rfl (lv_room (Nat.le_of_ble_eq_true rfl)) dX0_init_123 ⟨Nat.le_of_ble_eq_true rfl, Nat.le_of_ble_eq_true rfl⟩) (fun r31 H locs hf hw => ?_)
  refine zw_aastore X hw (zcast3 X) hf dX0_init_126 (fun h32 H locs hf hw => ?_)
  refine lv_dup hx hb dX0_init_127 rfl ?_
  refine lv_iconst (v := (3 : Int32)) hx hb dX0_init_128 (by decide) ?_
  refine zw_new (N := 1) X hw zcf3 q228 q230 q87 zdf3 hf (Nat.le_of_ble_eq_true rfl) (Nat.le_of_ble_eq_true rfl) dX0_init_129 (fun r33 H hf hw => ?_)
  refine lv_dup hx hb dX0_init_132 rfl ?_
  refine zw_goV (rest := [.ref r33.1, .int (3 : Int32), .ref r23.1, .ref r23.1, .ref a0]) hw hf (fun r hr => va_runIN (As := []) (rest := [.ref r33.1, .int (3 : Int32), .ref r23.1, .ref r23.1, .ref a0]) X.1 (mt_X3_init l D A r33.2 r33.1 r hr) ⟨va_cnB 0 hts (lw_meth q233) rfl rfl rfl (hN _ nq231) (hts _ q87) cd_X3_init ⟨Nat.le_of_ble_eq_true rfl, Nat.le_of_ble_eq_true rfl⟩, rfl, hts _ q232⟩ (zpreS X hw _) rfl rfl hl.1 rfl (lv_room (Nat.le_of_ble_eq_true rfl)) dX0_init_133 ⟨Nat.le_of_ble_eq_true rfl, Nat.le_of_ble_eq_true rfl⟩) (fun r34 H locs hf hw => ?_)
  refine zw_aastore X hw (zcast3 X) hf dX0_init_136 (fun h35 H locs hf hw => ?_)
  refine zw_putF X hin hw fs_X0_18 q270 rfl rfl rfl rfl rfl hf dX0_init_137 (fun h36 H locs hf hw => ?_)
  refine lv_aload_n hx hb dX0_init_140 rfl (lv_at hl 0 rfl) ?_
  refine lv_iconst (v := (5 : Int32)) hx hb dX0_init_141 (by decide) ?_
  refine zw_newq (N := 5) X hw q240 (hAO _ (by decide)) hf rfl (Nat.le_of_ble_eq_true rfl) (Nat.le_of_ble_eq_true rfl) (Nat.le_of_ble_eq_true rfl) dX0_init_142 (fun r37 H hf hw => ?_)
  refine lv_dup hx hb dX0_init_145 rfl ?_
  refine lv_iconst (v := (0 : Int32)) hx hb dX0_init_146 (by decide) ?_
  refine zw_new (N := 1) X hw zcf4 q240 q242 q88 zdf4 hf (Nat.le_of_ble_eq_true rfl) (Nat.le_of_ble_eq_true rfl) dX0_init_147 (fun r38 H hf hw => ?_)
  refine lv_dup hx hb dX0_init_150 rfl ?_
  refine zw_goV (rest := [.ref r38.1, .int (0 : Int32), .ref r37.1, .ref r37.1, .ref a0]) hw hf (fun r hr => va_runIN (As := []) (rest := [.ref r38.1, .int (0 : Int32), .ref r37.1, .ref r37.1, .ref a0]) X.1 (mt_X4_init l D A r38.2 r38.1 r hr) ⟨va_cnB 0 hts (lw_meth q245) rfl rfl rfl (hN _ nq243) (hts _ q88) cd_X4_init ⟨Nat.le_of_ble_eq_true rfl, Nat.le_of_ble_eq_true rfl⟩, rfl, hts _ q244⟩ (zpreS X hw _) rfl rfl hl.1 rfl (lv_room (Nat.le_of_ble_eq_true rfl)) dX0_init_151 ⟨Nat.le_of_ble_eq_true rfl, Nat.le_of_ble_eq_true rfl⟩) (fun r39 H locs hf hw => ?_)
  refine zw_aastore X hw (zcast4 X) hf dX0_init_154 (fun h40 H locs hf hw => ?_)
  refine lv_dup hx hb dX0_init_155 rfl ?_
  refine lv_iconst (v := (1 : Int32)) hx hb dX0_init_156 (by decide) ?_
  refine zw_new (N := 1) X hw zcf4 q240 q242 q88 zdf4 hf (Nat.le_of_ble_eq_true rfl) (Nat.le_of_ble_eq_true rfl) dX0_init_157 (fun r41 H hf hw => ?_)
  refine lv_dup hx hb dX0_init_160 rfl ?_
  refine zw_goV (rest := [.ref r41.1, .int (1 : Int32), .ref r37.1, .ref r37.1, .ref a0]) hw hf (fun r hr => va_runIN (As := []) (rest := [.ref r41.1, .int (1 : Int32), .ref r37.1, .ref r37.1, .ref a0]) X.1 (mt_X4_init l D A r41.2 r41.1 r hr) ⟨va_cnB 0 hts (lw_meth q245) rfl rfl rfl (hN _ nq243) (hts _ q88) cd_X4_init ⟨Nat.le_of_ble_eq_true rfl, Nat.le_of_ble_eq_true rfl⟩, rfl, hts _ q244⟩ (zpreS X hw _) rfl rfl hl.1 rfl (lv_room (Nat.le_of_ble_eq_true rfl)) dX0_init_161 ⟨Nat.le_of_ble_eq_true rfl, Nat.le_of_ble_eq_true rfl⟩) (fun r42 H locs hf hw => ?_)
  refine zw_aastore X hw (zcast4 X) hf dX0_init_164 (fun h43 H locs hf hw => ?_)
  refine lv_dup hx hb dX0_init_165 rfl ?_
  refine lv_iconst (v := (2 : Int32)) hx hb dX0_init_166 (by decide) ?_
  refine zw_new (N := 1) X hw zcf4 q240 q242 q88 zdf4 hf (Nat.le_of_ble_eq_true rfl) (Nat.le_of_ble_eq_true rfl) dX0_init_167 (fun r44 H hf hw => ?_)
  refine lv_dup hx hb dX0_init_170 rfl ?_
  refine zw_goV (rest := [.ref r44.1, .int (2 : Int32), .ref r37.1, .ref r37.1, .ref a0]) hw hf (fun r hr => va_runIN (As := []) (rest := [.ref r44.1, .int (2 : Int32), .ref r37.1, .ref r37.1, .ref a0]) X.1 (mt_X4_init l D A r44.2 r44.1 r hr) ⟨va_cnB 0 hts (lw_meth q245) rfl rfl rfl (hN _ nq243) (hts _ q88) cd_X4_init ⟨Nat.le_of_ble_eq_true rfl, Nat.le_of_ble_eq_true rfl⟩, rfl, hts _ q244⟩ (zpreS X hw _) rfl rfl hl.1 rfl (lv_room (Nat.le_of_ble_eq_true rfl)) dX0_init_171 ⟨Nat.le_of_ble_eq_true rfl, Nat.le_of_ble_eq_true rfl⟩) (fun r45 H locs hf hw => ?_)
  refine zw_aastore X hw (zcast4 X) hf dX0_init_174 (fun h46 H locs hf hw => ?_)
  refine lv_dup hx hb dX0_init_175 rfl ?_
  refine lv_iconst (v := (3 : Int32)) hx hb dX0_init_176 (by decide) ?_
  refine zw_new (N := 1) X hw zcf4 q240 q242 q88 zdf4 hf (Nat.le_of_ble_eq_true rfl) (Nat.le_of_ble_eq_true rfl) dX0_init_177 (fun r47 H hf hw => ?_)
  refine lv_dup hx hb dX0_init_180 rfl ?_
  refine zw_goV (rest := [.ref r47.1, .int (3 : Int32), .ref r37.1, .ref r37.1, .ref a0]) hw hf (fun r hr => va_runIN (As := []) (rest := [.ref r47.1, .int (3 : Int32), .ref r37.1, .ref r37.1, .ref a0]) X.1 (mt_X4_init l D A r47.2 r47.1 r hr) ⟨va_cnB 0 hts (lw_meth q245) rfl rfl rfl (hN _ nq243) (hts _ q88) cd_X4_init ⟨Nat.le_of_ble_eq_true rfl, Nat.le_of_ble_eq_true rfl⟩, rfl, hts _ q244⟩ (zpreS X hw _) rfl rfl hl.1 rfl (lv_room (Nat.le_of_ble_eq_true rfl)) dX0_init_181 ⟨Nat.le_of_ble_eq_true rfl, Nat.le_of_ble_eq_true rfl⟩) (fun r48 H locs hf hw => ?_)
  refine zw_aastore X hw (zcast4 X) hf dX0_init_184 (fun h49 H locs hf hw => ?_)
  refine lv_dup hx hb dX0_init_185 rfl ?_
  refine lv_iconst (v := (4 : Int32)) hx hb dX0_init_186 (by decide) ?_
  refine zw_new (N := 1) X hw zcf4 q240 q242 q88 zdf4 hf (Nat.le_of_ble_eq_true rfl) (Nat.le_of_ble_eq_true rfl) dX0_init_187 (fun r50 H hf hw => ?_)
  refine lv_dup hx hb dX0_init_190 rfl ?_
  refine zw_goV (rest := [.ref r50.1, .int (4 : Int32), .ref r37.1, .ref r37.1, .ref a0]) hw hf (fun r hr => va_runIN (As := []) (rest := [.ref r50.1, .int (4 : Int32), .ref r37.1, .ref r37.1, .ref a0]) X.1 (mt_X4_init l D A r50.2 r50.1 r hr) ⟨va_cnB 0 hts (lw_meth q245) rfl rfl rfl (hN _ nq243) (hts _ q88) cd_X4_init ⟨Nat.le_of_ble_eq_true rfl, Nat.le_of_ble_eq_true rfl⟩, rfl, hts _ q244⟩ (zpreS X hw _) rfl rfl hl.1 rfl (lv_room (Nat.le_of_ble_eq_true rfl)) dX0_init_191 ⟨Nat.le_of_ble_eq_true rfl, Nat.le_of_ble_eq_true rfl⟩) (fun r51 H locs hf hw => ?_)
  refine zw_aastore X hw (zcast4 X) hf dX0_init_194 (fun h52 H locs hf hw => ?_)
  refine zw_putF X hin hw fs_X0_19 q271 rfl rfl rfl rfl rfl hf dX0_init_195 (fun h53 H locs hf hw => ?_)
  refine lv_aload_n hx hb dX0_init_198 rfl (lv_at hl 0 rfl) ?_
  refine lv_bipush (v := (24 : Int32)) hx hb dX0_init_199 (by decide) ?_
  refine zw_newf (N := 24) X hw q325 hf rfl (Nat.le_of_ble_eq_true rfl) (Nat.le_of_ble_eq_true rfl) (Nat.le_of_ble_eq_true rfl) dX0_init_201 (fun r54 H hf hw => ?_)
  refine zw_putF X hin hw fs_X0_20 q272 rfl rfl rfl rfl rfl hf dX0_init_203 (fun h55 H locs hf hw => ?_)
  refine lv_aload_n hx hb dX0_init_206 rfl (lv_at hl 0 rfl) ?_
  refine lv_bipush (v := (60 : Int32)) hx hb dX0_init_207 (by decide) ?_
  refine zw_newa (N := 60) X hw q159 hf rfl (Nat.le_of_ble_eq_true rfl) (Nat.le_of_ble_eq_true rfl) (Nat.le_of_ble_eq_true rfl) dX0_init_209 (fun r56 H hf hw => ?_)
  refine zw_putF X hin hw fs_X0_21 q273 rfl rfl rfl rfl rfl hf dX0_init_211 (fun h57 H locs hf hw => ?_)
  refine lv_aload_n hx hb dX0_init_214 rfl (lv_at hl 0 rfl) ?_
  refine lv_bipush (v := (60 : Int32)) hx hb dX0_init_215 (by decide) ?_
  refine zw_newa (N := 60) X hw q159 hf rfl (Nat.le_of_ble_eq_true rfl) (Nat.le_of_ble_eq_true rfl) (Nat.le_of_ble_eq_true rfl) dX0_init_217 (fun r58 H hf hw => ?_)
  refine zw_putF X hin hw fs_X0_23 q275 rfl rfl rfl rfl rfl hf dX0_init_219 (fun h59 H locs hf hw => ?_)
  exact zw_vret X hw hf (Nat.le_of_ble_eq_true rfl) (Nat.le_of_ble_eq_true rfl) dX0_init_222
