/-! Trusted.worth() on a rubbing (gen/exc.py) -/
set_option maxRecDepth 100000
theorem zlw_F {own C : String} {idx : Nat} {x y : MethodName} {b : ByteArray} {L : Nat} {r : Option FieldType} (h1 : Cond.methodLink own idx x ∈ lw_all) (h3 : Cond.selects C x y ∈ lw_all) (h4 : Cond.instanceMethod y ∈ lw_all) (h5 : Cond.initialized y.cls ∈ lw_all) (h6 : Cond.code y b L r ∈ lw_all) : GoodIn lw_all (va_wsF own idx C x y (ws_ y b L r)) := by
  refine lw_app ?_ (lw_meth h6)
  intro w hw
  simp only [List.mem_cons, List.not_mem_nil, or_false] at hw
  rcases hw with e | e | e | e <;> rw [e] <;> assumption
theorem zw_call5 {p : Program} {l : Launch} {e : Env} {R : Room} {s : State} {m : MethodId} {args : Array Value} {below : List Frame} {meth : Method} {c : Code} {H : Heap} {locs : List Loc} {cells slots : Nat} {Q : State → Prop} {D : va_G} {A : Nat → Prop} {h : zT} {pc : Nat} {ls : Array Slot} {rest : List Value} {ov : Option Value} {h1 : zT} {a : Array Value} {mc1 ms1 : Nat} {st0 : List Value} (hr : va_Run5 p l e R s m args below meth c H locs cells slots mc1 ms1 (F0 m pc ls st0) rest (zQW D A ov h1 a) A) (hw : zWh D A s H h locs)
    (kk : ∀ (H1 : Heap) (locs1 : List Loc), zWh D A s H1 h1 locs1 → W p l e R s m args below meth c H1 locs1 (cells + mc1) (slots + ms1) Q (F0 m (pc + 5) ls (ov.toList ++ rest))) : W p l e R s m args below meth c H locs cells slots Q (F0 m pc ls st0) := by
  intro T hT X
  obtain ⟨v, st₀, t, T', L, h0, X', hL, e1, e2, ⟨hv, hb, hz, hk⟩, st⟩ := hr T hT X
  cases hv
  rw [h0] at hz hk
  have hal : s.vm.Alike t.vm := by rw [← e2]; exact X'.warmed.alike
  obtain ⟨t2, a1, b1⟩ := kk T'.heap (locs ++ L) ⟨by rw [e1]; exact hb.moved hal.symm, Nat.le_trans hw.2.1 (by rw [e1]; exact hz), fun q h1 h2 => by rw [e1, hk q (Nat.lt_of_lt_of_le h1 hw.2.1) h2]; exact hw.2.2.1 q h1 h2, fun q hq => by
      rcases List.mem_append.mp hq with h | h
      · exact hw.2.2.2 q h
      · exact hL q h⟩ T' rfl X'
  exact ⟨t2, st t2 a1, b1⟩
theorem zw_neg {β : Type} {n : Int32} {F F2 : Option β} {res : β} {G : Prop} (hf : (if n < 0 then F else F2) = some res) (k1 : n < 0 → F = some res → G) (k2 : ¬ n < 0 → F2 = some res → G) : G := by
  by_cases hn : n < 0
  · rw [if_pos hn] at hf; exact k1 hn hf
  · rw [if_neg hn] at hf; exact k2 hn hf
set_option maxHeartbeats 4000000 in
theorem vi_worth {p : Program} {l : Launch} {e : Env} {R : Room} {s : State} {m : MethodId} {args : Array Value} {below : List Frame} {meth : Method} {c : Code} {H : Heap} {locs : List Loc} {cells slots : Nat} {Q : State → Prop} {D : va_G} {A : Nat → Prop} {cc : ByteArray} {nL : Nat} {ret : Option FieldType} {pc : Nat} {ls : Array Slot} {rest : List Value} {β : Type} {res : β} {K : Int32 × zT → Option β} (h : zT) (b : Nat) (X : zCx p s m args meth c D A (zEv A) cc nL RX0 ret) (hw : zWh D A s H h locs) (hl : ls.size = nL) (hf : (fd_worth h b).bind K = some res) (hRf : 8 ≤ R.frames) (hRl : 200 ≤ R.locals) (hrest : (rest.map fun v => v.category).sum ≤ 8) (hdg : decode cc pc = .ok (.invokeinterface 498 1, 5)) (hc : cells + 0 ≤ R.cells ∧ slots + 0 ≤ R.slots) (kk : ∀ (r : Int32 × zT) (H1 : Heap) (locs1 : List Loc), K r = some res → zWh D A s H1 r.2 locs1 → W p l e R s m args below meth c H1 locs1 cells slots Q (F0 m (pc + 5) ls (.int r.1 :: rest))) : W p l e R s m args below meth c H locs cells slots Q (F0 m pc ls (.ref b :: rest)) := by
  have hts := X.1.2.2.2.2
  have hFW := X.2.2.2.2.2.2.2.2.2.2.2.2.2.2.2.2.2.2.2
  obtain ⟨r, h1, hf⟩ := zbd hf
  unfold fd_worth at h1
  obtain ⟨⟨ci, fs⟩, ho, h1⟩ := zbd h1
  have ho := zh_O_eq ho
  dsimp only at h1
  by_cases c6 : ci = 6
  · subst c6
    rw [if_pos rfl] at h1
    exact zw_call5 (va_runF (C := RX6) (x := zWx) (As := []) (rest := rest) (X.2.2.2.1.1 6 _ rfl).2 X.1 (mt_X6_worth l D A h b r h1) (va_cwF 0 hts (zlw_F q1204 q1224 q728 q90 q750) rfl rfl rfl (hFW RX6 (by decide)) (by decide +kernel) ⟨Nat.le_trans (Nat.le_of_ble_eq_true rfl) hRf, Nat.le_trans (Nat.le_of_ble_eq_true rfl) hRl⟩) (zpreV (ci := 6) X hw ho rfl _) rfl rfl hl rfl (lv_room hrest) hdg hc) hw (fun H1 locs1 hw1 => kk r H1 locs1 hf hw1)
  rw [if_neg c6] at h1
  by_cases c7 : ci = 7
  · subst c7
    rw [if_pos rfl] at h1
    exact zw_call5 (va_runF (C := RX7) (x := zWx) (As := []) (rest := rest) (X.2.2.2.1.1 7 _ rfl).2 X.1 (mt_X7_worth l D A h b r h1) (va_cwF 0 hts (zlw_F q1204 q1208 q732 q91 q733) rfl rfl rfl (hFW RX7 (by decide)) (by decide +kernel) ⟨Nat.le_trans (Nat.le_of_ble_eq_true rfl) hRf, Nat.le_trans (Nat.le_of_ble_eq_true rfl) hRl⟩) (zpreV (ci := 7) X hw ho rfl _) rfl rfl hl rfl (lv_room hrest) hdg hc) hw (fun H1 locs1 hw1 => kk r H1 locs1 hf hw1)
  rw [if_neg c7] at h1
  by_cases c8 : ci = 8
  · subst c8
    rw [if_pos rfl] at h1
    exact zw_call5 (va_runF (C := RX8) (x := zWx) (As := []) (rest := rest) (X.2.2.2.1.1 8 _ rfl).2 X.1 (mt_X8_worth l D A h b r h1) (va_cwF 0 hts (zlw_F q1204 q1216 q739 q92 q740) rfl rfl rfl (hFW RX8 (by decide)) (by decide +kernel) ⟨Nat.le_trans (Nat.le_of_ble_eq_true rfl) hRf, Nat.le_trans (Nat.le_of_ble_eq_true rfl) hRl⟩) (zpreV (ci := 8) X hw ho rfl _) rfl rfl hl rfl (lv_room hrest) hdg hc) hw (fun H1 locs1 hw1 => kk r H1 locs1 hf hw1)
  rw [if_neg c8] at h1
  by_cases c9 : ci = 9
  · subst c9
    rw [if_pos rfl] at h1
    exact zw_call5 (va_runF (C := RX9) (x := zWx) (As := []) (rest := rest) (X.2.2.2.1.1 9 _ rfl).2 X.1 (mt_X9_worth l D A h b r h1) (va_cwF 0 hts (zlw_F q1204 q1228 q747 q93 q748) rfl rfl rfl (hFW RX9 (by decide)) (by decide +kernel) ⟨Nat.le_trans (Nat.le_of_ble_eq_true rfl) hRf, Nat.le_trans (Nat.le_of_ble_eq_true rfl) hRl⟩) (zpreV (ci := 9) X hw ho rfl _) rfl rfl hl rfl (lv_room hrest) hdg hc) hw (fun H1 locs1 hw1 => kk r H1 locs1 hf hw1)
  rw [if_neg c9] at h1
  by_cases c10 : ci = 10
  · subst c10
    rw [if_pos rfl] at h1
    exact zw_call5 (va_runF (C := RX10) (x := zWx) (As := []) (rest := rest) (X.2.2.2.1.1 10 _ rfl).2 X.1 (mt_X10_worth l D A h b r h1) (va_cwF 0 hts (zlw_F q1204 q1212 q736 q94 q737) rfl rfl rfl (hFW RX10 (by decide)) (by decide +kernel) ⟨Nat.le_trans (Nat.le_of_ble_eq_true rfl) hRf, Nat.le_trans (Nat.le_of_ble_eq_true rfl) hRl⟩) (zpreV (ci := 10) X hw ho rfl _) rfl rfl hl rfl (lv_room hrest) hdg hc) hw (fun H1 locs1 hw1 => kk r H1 locs1 hf hw1)
  rw [if_neg c10] at h1
  by_cases c11 : ci = 11
  · subst c11
    rw [if_pos rfl] at h1
    exact zw_call5 (va_runF (C := RX11) (x := zWx) (As := []) (rest := rest) (X.2.2.2.1.1 11 _ rfl).2 X.1 (mt_X11_worth l D A h b r h1) (va_cwF 0 hts (zlw_F q1204 q1220 q744 q95 q745) rfl rfl rfl (hFW RX11 (by decide)) (by decide +kernel) ⟨Nat.le_trans (Nat.le_of_ble_eq_true rfl) hRf, Nat.le_trans (Nat.le_of_ble_eq_true rfl) hRl⟩) (zpreV (ci := 11) X hw ho rfl _) rfl rfl hl rfl (lv_room hrest) hdg hc) hw (fun H1 locs1 hw1 => kk r H1 locs1 hf hw1)
  rw [if_neg c11] at h1
  cases h1
