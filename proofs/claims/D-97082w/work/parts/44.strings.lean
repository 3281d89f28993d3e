/-! THE LITERALS' length() and charAt(k), by the JDK's own code -/
set_option maxRecDepth 100000
/-- the literal i lies at q, its bytes at v -/
def zSa (A : Nat → Prop) (i q v : Nat) (U : State) : Prop := va_O "java/lang/String" q A U U.heap ∧ va_OF "java/lang/String" "coder" "B" (.int 0) q A U U.heap ∧ va_OF "java/lang/String" "value" "[B" (.ref v) q A U U.heap ∧ va_T .byte v (zSL.getD i 0) (fun j => .int ((zSB.getD i []).getD j 0)) A U U.heap
def zEs (A : Nat → Prop) (i q v : Nat) (U : State) : Prop := zEv A U ∧ zSa A i q v U
theorem zSa.warm {A : Nat → Prop} {i q v : Nat} {s U : State} (hvm : s.vm.Alike U.vm) (hF : va_F A s U) (h : zSa A i q v s) : zSa A i q v U := by
  obtain ⟨h1, h2, h3, h4⟩ := h
  have hq : ∀ a : Nat, a < s.heap.size → ¬ A a → U.heap[a]? = s.heap[a]? := fun a q1 q2 => hF.2 a q1 q2
  exact ⟨(h1.kept hq).moved hvm, (h2.kept hq).moved hvm, (h3.kept hq).moved hvm, (h4.kept hq).moved hvm⟩
theorem zEs_ok (A : Nat → Prop) (i q v : Nat) : zEok A (zEs A i q v) := by
  refine ⟨fun s U hW hF h => ⟨(zEv_ok A).1 s U hW hF h.1, h.2.warm hW.alike hF⟩, fun U g mk a h => ⟨(zEv_ok A).2 U g mk a h.1, h.2.warm (s := U) (U := U.calling g mk a) (Vm.Alike.refl U.vm) ⟨Nat.le_refl _, fun _ _ _ => rfl⟩⟩⟩
abbrev rm_str : Room := { frames := 8, cells := 0, slots := 0, locals := 200 }
abbrev rm_str1 : Room := { frames := 1, cells := 0, slots := 0, locals := 30 }
abbrev rm_str2 : Room := { frames := 2, cells := 0, slots := 0, locals := 60 }
abbrev rm_str3 : Room := { frames := 3, cells := 0, slots := 0, locals := 90 }
abbrev rm_str4 : Room := { frames := 4, cells := 0, slots := 0, locals := 120 }
section ZS1
variable {p : Program} {l : Launch} {e : Env} {R : Room} {s : State} {m : MethodId} {args : Array Value} {below : List Frame} {meth : Method} {c : Code} {H : Heap} {locs : List Loc} {cells slots : Nat} {Q : State → Prop}
variable {D : va_G} {A : Nat → Prop} {E : State → Prop} {cc : ByteArray} {nL : Nat} {own : String} {ret : Option FieldType} {h : zT} {pc : Nat} {ls : Array Slot} {rest : List Value}
/-- the end of a method that answers a small number -/
theorem zw_nret {ty : FieldType} {v : Int32} (X : zCx p s m args meth c D A E cc nL own (some ty)) (hn : narrow ty (.int v) = .int v) (hw : zWh D A s H h locs) (hdg : decode cc pc = .ok (.ireturn, 1)) :
    W p l e R s m args below meth c H locs 0 0 (MQ below (zQW D A (some (.int v)) h) args s 0 0 A) (F0 m pc ls [.int v]) := by
  obtain ⟨⟨hx, hb, -⟩, hr, hlocks, -⟩ := X
  exact W.zret hx hb hr hn (fun t ht hW => ⟨rfl, by rw [ht]; exact hw.1.moved hW.alike, hw.2.F ht⟩) hw.2.2.2 hdg
theorem zpreQ (X : zCx p s m args meth c D A E cc nL own ret) (hw : zWh D A s H h locs) {C : String} {q : Nat} (hO : va_O C q A s s.heap) (As : List Value) : PreV s H C q (zPW D A E h (.ref q :: As)) As := by
  obtain ⟨cell, h1, h2, h3, -⟩ := hO.kept hw.2.2.1
  exact ⟨(zpreS X hw (.ref q :: As)).1, ⟨cell, h1, h2, h3⟩, (zpreS X hw (.ref q :: As)).2⟩
end ZS1
theorem cd_J5_coder : zcd yJ5_coder 0 := by unfold zcd; decide +kernel
theorem cd_J5_isLatin1 : zcd yJ5_isLatin1 0 := by unfold zcd; decide +kernel
theorem cd_J5_length : zcd yJ5_length 0 := by unfold zcd; decide +kernel
theorem cd_J5_charAt : zcd yJ5_charAt 1 := by unfold zcd; decide +kernel
theorem cd_J5_checkIndex : zcd yJ5_checkIndex 2 := by unfold zcd; decide +kernel
theorem cd_J7_charAt : zcd yJ7_charAt 2 := by unfold zcd; decide +kernel
theorem cd_J8_checkIndex : zcd yJ8_checkIndex 3 := by unfold zcd; decide +kernel
theorem mt_J5_coder (l : Launch) (D : va_G) (A : Nat → Prop) (i q v : Nat) (h : zT) : Met l yJ5_coder (ws_ yJ5_coder cJ5_coder 1 (some .byte)) rm_str1 (zPW D A (zEs A i q v) h [.ref q]) (zQW D A (some (.int 0)) h) 0 0 A := by
  refine zmt (zEs_ok A i q v) (by decide) (Nat.le_of_ble_eq_true rfl) ?_
  intro p e s m below meth c ls hmn X hw hl
  have hl : lv_has ls 1 [(0, .ref q)] := hl
  have hx := X.1.1
  have hb := X.1.2.1
  have hown := X.1.2.2.2.1
  have hts := X.1.2.2.2.2
  have hE := X.2.2.2.2.2.2
  have hZ := hE.1.2.2.2.2.2.2.2.1
  refine va_gets hx hb hZ hw.2 hown (hts _ q382) (fun x h => h) dJ5_coder_0 ?_
  refine lv_if_eq (tgt := 13) hx hb dJ5_coder_3 (by decide) (fun c => absurd c (by decide)) (fun c => ?_)
  refine lv_aload_n hx hb dJ5_coder_6 rfl (lv_at hl 0 rfl) ?_
  refine vk_getf hx hb hE.2.2.1 hw.2 hown (hts _ q1805) (fun x h => h) dJ5_coder_7 ?_
  refine lv_goto (tgt := 14) hx hb dJ5_coder_10 (by decide) ?_
  exact zw_nret X (by decide) hw dJ5_coder_14
theorem mt_J5_isLatin1 (l : Launch) (D : va_G) (A : Nat → Prop) (i q v : Nat) (h : zT) : Met l yJ5_isLatin1 (ws_ yJ5_isLatin1 cJ5_isLatin1 1 (some .boolean)) rm_str1 (zPW D A (zEs A i q v) h [.ref q]) (zQW D A (some (.int 1)) h) 0 0 A := by
  refine zmt (zEs_ok A i q v) (by decide) (Nat.le_of_ble_eq_true rfl) ?_
  intro p e s m below meth c ls hmn X hw hl
  have hl : lv_has ls 1 [(0, .ref q)] := hl
  have hx := X.1.1
  have hb := X.1.2.1
  have hown := X.1.2.2.2.1
  have hts := X.1.2.2.2.2
  have hE := X.2.2.2.2.2.2
  have hZ := hE.1.2.2.2.2.2.2.2.1
  refine va_gets hx hb hZ hw.2 hown (hts _ q382) (fun x h => h) dJ5_isLatin1_0 ?_
  refine lv_if_eq (tgt := 17) hx hb dJ5_isLatin1_3 (by decide) (fun c => absurd c (by decide)) (fun c => ?_)
  refine lv_aload_n hx hb dJ5_isLatin1_6 rfl (lv_at hl 0 rfl) ?_
  refine vk_getf hx hb hE.2.2.1 hw.2 hown (hts _ q1805) (fun x h => h) dJ5_isLatin1_7 ?_
  refine lv_if_ne (tgt := 17) hx hb dJ5_isLatin1_10 (by decide) (fun c => absurd rfl c) (fun c => ?_)
  refine lv_iconst (v := 1) hx hb dJ5_isLatin1_13 (by decide) ?_
  refine lv_goto (tgt := 18) hx hb dJ5_isLatin1_14 (by decide) ?_
  exact zw_nret X (by decide) hw dJ5_isLatin1_18
theorem mt_J5_length (l : Launch) (D : va_G) (A : Nat → Prop) (i q v : Nat) (h : zT) : Met l yJ5_length (ws_ yJ5_length cJ5_length 1 (some .int)) rm_str2 (zPW D A (zEs A i q v) h [.ref q]) (zQW D A (some (.int (Int32.ofNat (zSL.getD i 0)))) h) 0 0 A := by
  refine zmt (zEs_ok A i q v) (by decide) (Nat.le_of_ble_eq_true rfl) ?_
  intro p e s m below meth c ls hmn X hw hl
  have hl : lv_has ls 1 [(0, .ref q)] := hl
  have hx := X.1.1
  have hb := X.1.2.1
  have hown := X.1.2.2.2.1
  have hts := X.1.2.2.2.2
  have hE := X.2.2.2.2.2.2
  refine lv_aload_n hx hb dJ5_length_0 rfl (lv_at hl 0 rfl) ?_
  refine vk_getf hx hb hE.2.2.2.1 hw.2 hown (hts _ q1804) (fun x h => h) dJ5_length_1 ?_
  refine va_tlen hx hb hE.2.2.2.2 hw.2 rfl dJ5_length_4 ?_
  refine lv_aload_n hx hb dJ5_length_5 rfl (lv_at hl 0 rfl) ?_
  refine zw_call (rest := [.int (Int32.ofNat (zSL.getD i 0))]) (va_runV (C := "java/lang/String") (As := []) (rest := [.int (Int32.ofNat (zSL.getD i 0))]) X.1 (mt_J5_coder l D A i q v h) (cwV 0 hts (lw_V q378 q379 q380 q98 q381) rfl rfl rfl ⟨rfl, cd_J5_coder⟩ ⟨Nat.le_of_ble_eq_true rfl, Nat.le_of_ble_eq_true rfl⟩) (zpreQ X hw hE.2.1 _) rfl rfl hl.1 rfl (lv_room (Nat.le_of_ble_eq_true rfl)) dJ5_length_6 ⟨Nat.le_of_ble_eq_true rfl, Nat.le_of_ble_eq_true rfl⟩) hw (fun H locs hw => ?_)
  refine lv_ishr hx hb dJ5_length_9 ?_
  have e0 : (Int32.ofNat (zSL.getD i 0)) >>> ((0 : Int32) &&& 31) = Int32.ofNat (zSL.getD i 0) := by
    rw [show (0 : Int32) &&& 31 = 0 by decide]
    exact Int32.shiftRight_zero
  rw [e0]
  exact zw_nret X rfl hw dJ5_length_10
theorem mt_J8_checkIndex (l : Launch) (D : va_G) (A : Nat → Prop) (k n : Int32) (x : Option Nat) (h : zT) (hk : ¬ k < 0 ∧ k < n) : Met l yJ8_checkIndex (ws_ yJ8_checkIndex cJ8_checkIndex 3 (some .int)) rm_str1 (zPW D A (zEv A) h [.int k, .int n, va_rf x]) (zQW D A (some (.int k)) h) 0 0 A := by
  cases x <;>
  · refine zmt (zEv_ok A) (by decide) (Nat.le_of_ble_eq_true rfl) ?_
    intro p e s m below meth c ls hmn X hw hl
    have hl : lv_has ls 3 [(0, .int k), (1, .int n), (2, _)] := hl
    have hx := X.1.1
    have hb := X.1.2.1
    refine lv_iload_n hx hb dJ8_checkIndex_0 rfl (lv_at hl 0 rfl) ?_
    refine lv_if_lt (tgt := 9) hx hb dJ8_checkIndex_1 (by decide) (fun c => absurd c hk.1) (fun c => ?_)
    refine lv_iload_n hx hb dJ8_checkIndex_4 rfl (lv_at hl 0 rfl) ?_
    refine lv_iload_n hx hb dJ8_checkIndex_5 rfl (lv_at hl 1 rfl) ?_
    refine lv_icmp_lt (tgt := 16) hx hb dJ8_checkIndex_6 (by decide) (fun c => ?_) (fun c => absurd hk.2 c)
    refine lv_iload_n hx hb dJ8_checkIndex_16 rfl (lv_at hl 0 rfl) ?_
    exact zw_nret X rfl hw dJ8_checkIndex_17
theorem mt_J5_checkIndex (l : Launch) (D : va_G) (A : Nat → Prop) (k n : Int32) (h : zT) (hk : ¬ k < 0 ∧ k < n) : Met l yJ5_checkIndex (ws_ yJ5_checkIndex cJ5_checkIndex 2 none) rm_str2 (zPW D A (zEv A) h [.int k, .int n]) (zQW D A none h) 0 0 A := by
  refine zmt (zEv_ok A) (by decide) (Nat.le_of_ble_eq_true rfl) ?_
  intro p e s m below meth c ls hmn X hw hl
  have hl : lv_has ls 2 [(0, .int k), (1, .int n)] := hl
  have hx := X.1.1
  have hb := X.1.2.1
  have hown := X.1.2.2.2.1
  have hts := X.1.2.2.2.2
  have hE := X.2.2.2.2.2.2
  obtain ⟨x, hZ⟩ : ∃ x : Option Nat, va_Z "jdk/internal/util/Preconditions" "SIOOBE_FORMATTER" "Ljava/util/function/BiFunction;" (va_rf x) A s s.heap := by
    rcases hE.2.2.2.2.2.2.2.2.1 with h | ⟨t, h⟩
    · exact ⟨none, h⟩
    · exact ⟨some t, h⟩
  refine lv_iload_n hx hb dJ5_checkIndex_0 rfl (lv_at hl 0 rfl) ?_
  refine lv_iload_n hx hb dJ5_checkIndex_1 rfl (lv_at hl 1 rfl) ?_
  refine va_gets hx hb hZ hw.2 hown (hts _ q398) (fun x h => h) dJ5_checkIndex_2 ?_
  refine zw_call (rest := []) (va_runS (As := [.int k, .int n, va_rf x]) (rest := []) X.1 (mt_J8_checkIndex l D A k n x h hk) (va_cwS 3 hts (lw_S q400 q401 q102 q402) rfl rfl rfl cd_J8_checkIndex ⟨Nat.le_of_ble_eq_true rfl, Nat.le_of_ble_eq_true rfl⟩) (zpreS X hw _) rfl rfl hl.1 rfl (lv_room (Nat.le_of_ble_eq_true rfl)) dJ5_checkIndex_5 ⟨Nat.le_of_ble_eq_true rfl, Nat.le_of_ble_eq_true rfl⟩) hw (fun H locs hw => ?_)
  refine lv_pop hx hb dJ5_checkIndex_8 rfl ?_
  exact zw_vret X hw rfl (Nat.le_refl _) (Nat.le_refl _) dJ5_checkIndex_9
theorem zch_ok : ∀ i, i < 3 → ∀ k, k < zSL.getD i 0 → ((((zSB.getD i []).getD k 0) &&& 255).toUInt32 % 65536).toInt32 = (zSB.getD i []).getD k 0 ∧ narrow .char (.int ((zSB.getD i []).getD k 0)) = .int ((zSB.getD i []).getD k 0) ∧ ¬ (Int32.ofNat k < 0 ∨ zSL.getD i 0 ≤ (Int32.ofNat k).toNatClampNeg) ∧ (Int32.ofNat k).toNatClampNeg = k ∧ (¬ Int32.ofNat k < 0 ∧ Int32.ofNat k < Int32.ofNat (zSL.getD i 0)) := by decide +kernel
theorem zCx.ev {p : Program} {s : State} {m : MethodId} {args : Array Value} {meth : Method} {c : Code} {D : va_G} {A : Nat → Prop} {cc : ByteArray} {nL : Nat} {own : String} {ret : Option FieldType} {i q v : Nat} (X : zCx p s m args meth c D A (zEs A i q v) cc nL own ret) : zCx p s m args meth c D A (zEv A) cc nL own ret := ⟨X.1, X.2.1, X.2.2.1, X.2.2.2.1, X.2.2.2.2.1, zEv_ok A, X.2.2.2.2.2.2.1⟩
theorem zCx.es {p : Program} {s : State} {m : MethodId} {args : Array Value} {meth : Method} {c : Code} {D : va_G} {A : Nat → Prop} {cc : ByteArray} {nL : Nat} {own : String} {ret : Option FieldType} {i q v : Nat} (X : zCx p s m args meth c D A (zEv A) cc nL own ret) (h : zSa A i q v s) : zCx p s m args meth c D A (zEs A i q v) cc nL own ret := ⟨X.1, X.2.1, X.2.2.1, X.2.2.2.1, X.2.2.2.2.1, zEs_ok A i q v, X.2.2.2.2.2.2, h⟩
theorem mt_J7_charAt (l : Launch) (D : va_G) (A : Nat → Prop) (i q v k : Nat) (hi : i < 3) (hk : k < zSL.getD i 0) (h : zT) : Met l yJ7_charAt (ws_ yJ7_charAt cJ7_charAt 2 (some .char)) rm_str3 (zPW D A (zEs A i q v) h [.ref v, .int (Int32.ofNat k)]) (zQW D A (some (.int ((zSB.getD i []).getD k 0))) h) 0 0 A := by
  obtain ⟨c1, c2, c3, c4, c5⟩ := zch_ok i hi k hk
  refine zmt (zEs_ok A i q v) (by decide) (Nat.le_of_ble_eq_true rfl) ?_
  intro p e s m below meth c ls hmn X hw hl
  have hl : lv_has ls 2 [(0, .ref v), (1, .int (Int32.ofNat k))] := hl
  have hx := X.1.1
  have hb := X.1.2.1
  have hown := X.1.2.2.2.1
  have hts := X.1.2.2.2.2
  have hE := X.2.2.2.2.2.2
  refine lv_iload_n hx hb dJ7_charAt_0 rfl (lv_at hl 1 rfl) ?_
  refine lv_aload_n hx hb dJ7_charAt_1 rfl (lv_at hl 0 rfl) ?_
  refine va_tlen hx hb hE.2.2.2.2 hw.2 rfl dJ7_charAt_2 ?_
  refine zw_call (rest := []) (va_runS (As := [.int (Int32.ofNat k), .int (Int32.ofNat (zSL.getD i 0))]) (rest := []) X.1 (mt_J5_checkIndex l D A (Int32.ofNat k) (Int32.ofNat (zSL.getD i 0)) h c5) (va_cwS 2 hts (lw_S q395 q396 q98 q397) rfl rfl rfl cd_J5_checkIndex ⟨Nat.le_of_ble_eq_true rfl, Nat.le_of_ble_eq_true rfl⟩) (zpreS X.ev hw _) rfl rfl hl.1 rfl (lv_room (Nat.le_of_ble_eq_true rfl)) dJ7_charAt_3 ⟨Nat.le_of_ble_eq_true rfl, Nat.le_of_ble_eq_true rfl⟩) hw (fun H locs hw => ?_)
  refine lv_aload_n hx hb dJ7_charAt_6 rfl (lv_at hl 0 rfl) ?_
  refine lv_iload_n hx hb dJ7_charAt_7 rfl (lv_at hl 1 rfl) ?_
  refine va_tb (v := .int ((zSB.getD i []).getD k 0)) hx hb hE.2.2.2.2 hw.2 c3 (by rw [c4]) dJ7_charAt_8 ?_
  refine lv_sipush (v := 255) hx hb dJ7_charAt_9 (by decide) ?_
  refine lv_iand hx hb dJ7_charAt_12 ?_
  refine lv_i2c hx hb dJ7_charAt_13 c1 ?_
  exact zw_nret X c2 hw dJ7_charAt_14
theorem mt_J5_charAt (l : Launch) (D : va_G) (A : Nat → Prop) (i q v k : Nat) (hi : i < 3) (hk : k < zSL.getD i 0) (h : zT) : Met l yJ5_charAt (ws_ yJ5_charAt cJ5_charAt 2 (some .char)) rm_str4 (zPW D A (zEs A i q v) h [.ref q, .int (Int32.ofNat k)]) (zQW D A (some (.int ((zSB.getD i []).getD k 0))) h) 0 0 A := by
  obtain ⟨c1, c2, c3, c4, c5⟩ := zch_ok i hi k hk
  refine zmt (zEs_ok A i q v) (by decide) (Nat.le_of_ble_eq_true rfl) ?_
  intro p e s m below meth c ls hmn X hw hl
  have hl : lv_has ls 2 [(0, .ref q), (1, .int (Int32.ofNat k))] := hl
  have hx := X.1.1
  have hb := X.1.2.1
  have hown := X.1.2.2.2.1
  have hts := X.1.2.2.2.2
  have hE := X.2.2.2.2.2.2
  refine lv_aload_n hx hb dJ5_charAt_0 rfl (lv_at hl 0 rfl) ?_
  refine zw_call (rest := []) (va_runV (C := "java/lang/String") (As := []) (rest := []) X.1 (mt_J5_isLatin1 l D A i q v h) (cwV 0 hts (lw_V q388 q389 q390 q98 q391) rfl rfl rfl ⟨rfl, cd_J5_isLatin1⟩ ⟨Nat.le_of_ble_eq_true rfl, Nat.le_of_ble_eq_true rfl⟩) (zpreQ X hw hE.2.1 _) rfl rfl hl.1 rfl (lv_room (Nat.le_of_ble_eq_true rfl)) dJ5_charAt_1 ⟨Nat.le_of_ble_eq_true rfl, Nat.le_of_ble_eq_true rfl⟩) hw (fun H locs hw => ?_)
  refine lv_if_eq (tgt := 16) hx hb dJ5_charAt_4 (by decide) (fun c => absurd c (by decide)) (fun c => ?_)
  refine lv_aload_n hx hb dJ5_charAt_7 rfl (lv_at hl 0 rfl) ?_
  refine vk_getf hx hb hE.2.2.2.1 hw.2 hown (hts _ q1804) (fun x h => h) dJ5_charAt_8 ?_
  refine lv_iload_n hx hb dJ5_charAt_11 rfl (lv_at hl 1 rfl) ?_
  refine zw_call (rest := []) (va_runS (As := [.ref v, .int (Int32.ofNat k)]) (rest := []) X.1 (mt_J7_charAt l D A i q v k hi hk h) (va_cwS 2 hts (lw_S q392 q393 q101 q394) rfl rfl rfl cd_J7_charAt ⟨Nat.le_of_ble_eq_true rfl, Nat.le_of_ble_eq_true rfl⟩) (zpreS X hw _) rfl rfl hl.1 rfl (lv_room (Nat.le_of_ble_eq_true rfl)) dJ5_charAt_12 ⟨Nat.le_of_ble_eq_true rfl, Nat.le_of_ble_eq_true rfl⟩) hw (fun H locs hw => ?_)
  exact zw_nret X c2 hw dJ5_charAt_15
/-! as steps of a walk whose environment holds the literal -/
def zc_len (i : Nat) : Option Int32 := some (Int32.ofNat (zSL.getD i 0))
def zc_ch (i : Nat) (k : Int32) : Option Int32 := if i < 3 ∧ ¬ k < 0 ∧ k.toNatClampNeg < zSL.getD i 0 then some ((zSB.getD i []).getD k.toNatClampNeg 0) else none
section ZS2
variable {p : Program} {l : Launch} {e : Env} {R : Room} {s : State} {m : MethodId} {args : Array Value} {below : List Frame} {meth : Method} {c : Code} {H : Heap} {locs : List Loc} {cells slots : Nat} {Q : State → Prop}
variable {D : va_G} {A : Nat → Prop} {cc : ByteArray} {nL : Nat} {own : String} {ret : Option FieldType} {h : zT} {pc : Nat} {ls : Array Slot} {rest : List Value} {β : Type} {res : β} {i q v : Nat}
theorem zw_slen (X : zCx p s m args meth c D A (zEs A i q v) cc nL own ret) (hw : zWh D A s H h locs) (hl : ls.size = nL) {index : Nat} {K : Int32 → Option β} (hlink : Cond.methodLink own index yJ5_length ∈ lw_all) (hf : (zc_len i).bind K = some res) (hRf : 3 ≤ R.frames) (hRl : 100 ≤ R.locals) (hrest : (rest.map fun v => v.category).sum ≤ 8) (hdg : decode cc pc = .ok (.invokevirtual index, 3)) (hc : cells ≤ R.cells ∧ slots ≤ R.slots)
    (kk : ∀ (x : Int32) (H1 : Heap) (locs1 : List Loc), K x = some res → zWh D A s H1 h locs1 → W p l e R s m args below meth c H1 locs1 cells slots Q (F0 m (pc + 3) ls (.int x :: rest))) : W p l e R s m args below meth c H locs cells slots Q (F0 m pc ls (.ref q :: rest)) := by
  have hts := X.1.2.2.2.2
  have hE := X.2.2.2.2.2.2
  exact zw_call (rest := rest) (va_runV (C := "java/lang/String") (As := []) (rest := rest) X.1 (mt_J5_length l D A i q v h) (cwV 0 hts (lw_V hlink q375 q376 q98 q377) rfl rfl rfl ⟨rfl, cd_J5_length⟩ ⟨hRf, Nat.le_trans (Nat.le_of_ble_eq_true rfl) hRl⟩) (zpreQ X hw hE.2.1 _) rfl rfl hl rfl (lv_room hrest) hdg hc) hw (fun H locs hw => kk _ H locs hf hw)
theorem zw_sch (X : zCx p s m args meth c D A (zEs A i q v) cc nL own ret) (hw : zWh D A s H h locs) (hl : ls.size = nL) {index : Nat} {k : Int32} {K : Int32 → Option β} (hlink : Cond.methodLink own index yJ5_charAt ∈ lw_all) (hf : (zc_ch i k).bind K = some res) (hRf : 5 ≤ R.frames) (hRl : 200 ≤ R.locals) (hrest : (rest.map fun v => v.category).sum ≤ 8) (hdg : decode cc pc = .ok (.invokevirtual index, 3)) (hc : cells ≤ R.cells ∧ slots ≤ R.slots)
    (kk : ∀ (x : Int32) (H1 : Heap) (locs1 : List Loc), K x = some res → zWh D A s H1 h locs1 → W p l e R s m args below meth c H1 locs1 cells slots Q (F0 m (pc + 3) ls (.int x :: rest))) : W p l e R s m args below meth c H locs cells slots Q (F0 m pc ls (.int k :: .ref q :: rest)) := by
  have hts := X.1.2.2.2.2
  have hE := X.2.2.2.2.2.2
  obtain ⟨x, h1, h2⟩ := zbd hf
  unfold zc_ch at h1
  by_cases hk : i < 3 ∧ ¬ k < 0 ∧ k.toNatClampNeg < zSL.getD i 0
  · rw [if_pos hk] at h1
    cases h1
    have ek : k = Int32.ofNat k.toNatClampNeg := by
      have h0 := zcl_nn k hk.2.1
      apply Int32.toInt_inj.mp
      rw [h0, Int32.toInt_ofNat_of_lt]
      have := k.toInt_lt
      omega
    rw [ek]
    exact zw_call (rest := rest) (va_runV (C := "java/lang/String") (As := [.int (Int32.ofNat k.toNatClampNeg)]) (rest := rest) X.1 (mt_J5_charAt l D A i q v k.toNatClampNeg hk.1 hk.2.2 h) (cwV 1 hts (lw_V hlink q385 q386 q98 q387) rfl rfl rfl ⟨rfl, cd_J5_charAt⟩ ⟨hRf, Nat.le_trans (Nat.le_of_ble_eq_true rfl) hRl⟩) (zpreQ X hw hE.2.1 _) rfl rfl hl rfl (lv_room hrest) hdg hc) hw (fun H locs hw => kk _ H locs h2 hw)
  · rw [if_neg hk] at h1; cases h1
end ZS2
