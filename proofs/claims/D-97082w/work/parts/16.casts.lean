/-! CASTS between our classes; a float constant; null; new bytes and shorts -/
set_option maxRecDepth 100000
def zCn (ci : Nat) : String := ((zCl[ci]?).map (fun q => q.1)).getD ""
def zCO : List Nat := [3, 6, 7, 8, 9, 10, 11, 14]
theorem zCn_eq {ci : Nat} {q : vw_C} (h : zCl[ci]? = some q) : zCn ci = q.1 := by unfold zCn; rw [h]; rfl
theorem zCO_cl : ∀ ci ∈ zCO, ∃ q : vw_C, zCl[ci]? = some q := by
  intro ci h
  simp only [zCO, List.mem_cons, List.not_mem_nil, or_false] at h
  rcases h with rfl | rfl | rfl | rfl | rfl | rfl | rfl | rfl <;> exact ⟨_, rfl⟩
theorem zno_in : ∀ ci ∈ zCO, ∀ t ∈ zCO, zsub ci t = false → (zCn ci, zCn t) ∈ zNC := by decide +kernel
theorem zyes_in : ∀ ci ∈ zCO, ∀ t ∈ zCO, zsub ci t = true → ci = t ∨ (ci, t) ∈ [(7, 6), (8, 6), (9, 6), (10, 6), (11, 6), (9, 7), (10, 8)] := by decide +kernel
theorem zyes_w : ∀ q ∈ [(7, 6), (8, 6), (9, 6), (10, 6), (11, 6), (9, 7), (10, 8)], Cond.castable (zCn q.1) (zCn q.2) ∈ zNW := by
  intro q hq
  simp only [List.mem_cons, List.not_mem_nil, or_false] at hq
  rcases hq with rfl | rfl | rfl | rfl | rfl | rfl | rfl
  · exact nq1799
  · exact nq1801
  · exact nq1803
  · exact nq1800
  · exact nq1802
  · exact nq1797
  · exact nq1798
section ZCS
variable {p : Program} {l : Launch} {e : Env} {R : Room} {s : State} {m : MethodId} {args : Array Value} {below : List Frame} {meth : Method} {c : Code} {H : Heap} {locs : List Loc} {cells slots : Nat} {Q : State → Prop}
variable {D : va_G} {A : Nat → Prop} {cc : ByteArray} {nL : Nat} {own : String} {ret : Option FieldType} {h : zT} {pc : Nat} {ls : Array Slot} {rest : List Value} {β : Type} {res : β}
theorem zasg_yes (X : zCx p s m args meth c D A (zEv A) cc nL own ret) {ci t : Nat} (hci : ci ∈ zCO) (ht : t ∈ zCO) (hs : zsub ci t = true) : s.vm.assignable (D.1 ci) (D.1 t) = true := by
  obtain ⟨qc, hqc⟩ := zCO_cl ci hci
  obtain ⟨qt, hqt⟩ := zCO_cl t ht
  have hc := (X.2.2.2.1.1 ci qc hqc).2
  have ht2 := (X.2.2.2.1.1 t qt hqt).2
  rcases zyes_in ci hci t ht hs with rfl | hin
  · exact va_assign hc
  · obtain ⟨c0, t0, f1, f2, f3⟩ := Cond.castable_spec (va_Nw.use (A := args) rfl (X.2.2.2.2.2.2.1 _ (zyes_w _ hin)))
    have e1 : c0 = D.1 ci := Option.some.inj (f1.symm.trans (by rw [zCn_eq hqc]; exact hc.1))
    have e2 : t0 = D.1 t := Option.some.inj (f2.symm.trans (by rw [zCn_eq hqt]; exact ht2.1))
    rw [← e1, ← e2]
    exact f3
theorem zasg_no (X : zCx p s m args meth c D A (zEv A) cc nL own ret) {ci t : Nat} (hci : ci ∈ zCO) (ht : t ∈ zCO) (hs : zsub ci t = false) : s.vm.assignable (D.1 ci) (D.1 t) = false := by
  obtain ⟨qc, hqc⟩ := zCO_cl ci hci
  obtain ⟨qt, hqt⟩ := zCO_cl t ht
  have hc := (X.2.2.2.1.1 ci qc hqc).2
  have ht2 := (X.2.2.2.1.1 t qt hqt).2
  obtain ⟨c0, t0, f1, f2, f3⟩ := X.2.2.2.2.2.2.2.2.2.1 _ (zno_in ci hci t ht hs)
  have e1 : c0 = D.1 ci := Option.some.inj (f1.symm.trans (by rw [zCn_eq hqc]; exact hc.1))
  have e2 : t0 = D.1 t := Option.some.inj (f2.symm.trans (by rw [zCn_eq hqt]; exact ht2.1))
  rw [← e1, ← e2]
  exact f3
theorem zcastR (X : zCx p s m args meth c D A (zEv A) cc nL own ret) : ∀ ci ∈ [6, 7, 8, 9, 10, 11], ∀ (q : vw_C) (comp : ClassId), zCl[ci]? = some q → s.vm.findClass "StoneSheets$Rubbing" = some comp → s.vm.assignable (D.1 ci) comp = true := by
  intro ci hci q comp hq hc
  have e1 : comp = D.1 6 := Option.some.inj (hc.symm.trans (X.2.2.2.1.1 6 (RX6, TX6, 5) rfl).2.1)
  rw [e1]
  simp only [List.mem_cons, List.not_mem_nil, or_false] at hci
  rcases hci with rfl | rfl | rfl | rfl | rfl | rfl <;> exact zasg_yes X (by decide) (by decide) rfl
theorem zcastN {ci : Nat} {C : String} {q0 : vw_C} (X : zCx p s m args meth c D A (zEv A) cc nL own ret) (h0 : zCl[ci]? = some q0) (hC : q0.1 = C) : ∀ cj ∈ [ci], ∀ (q : vw_C) (comp : ClassId), zCl[cj]? = some q → s.vm.findClass C = some comp → s.vm.assignable (D.1 cj) comp = true := by
  intro cj hcj q comp hq hc
  rw [List.mem_singleton.mp hcj]
  have hk := (X.2.2.2.1.1 ci q0 h0).2
  have e1 : comp = D.1 ci := Option.some.inj (hc.symm.trans (by rw [← hC]; exact hk.1))
  rw [e1]
  exact va_assign hk
theorem zcast13 (X : zCx p s m args meth c D A (zEv A) cc nL own ret) : ∀ cj ∈ [13], ∀ (q : vw_C) (comp : ClassId), zCl[cj]? = some q → s.vm.findClass "StoneSheets$Text" = some comp → s.vm.assignable (D.1 cj) comp = true := zcastN X (q0 := (RX13, TX13, 3)) rfl rfl
theorem zcast3 (X : zCx p s m args meth c D A (zEv A) cc nL own ret) : ∀ cj ∈ [3], ∀ (q : vw_C) (comp : ClassId), zCl[cj]? = some q → s.vm.findClass "StoneSheets$Sheet" = some comp → s.vm.assignable (D.1 cj) comp = true := zcastN X (q0 := (RX3, TX3, 1)) rfl rfl
theorem zcast4 (X : zCx p s m args meth c D A (zEv A) cc nL own ret) : ∀ cj ∈ [4], ∀ (q : vw_C) (comp : ClassId), zCl[cj]? = some q → s.vm.findClass "StoneSheets$Slot" = some comp → s.vm.assignable (D.1 cj) comp = true := zcastN X (q0 := (RX4, TX4, 1)) rfl rfl
/-- instanceof one of our classes, of an object of ours or none -/
def zi_O (t : Nat) (h : zT) (x : Option Nat) : Option Int32 := match x with
  | none => some 0
  | some a => (zh_O h a).bind fun o => if o.1 ∈ zCO then some (if zsub o.1 t = true then 1 else 0) else none
theorem zw_instO (X : zCx p s m args meth c D A (zEv A) cc nL own ret) (hw : zWh D A s H h locs) {t index : Nat} {qt : vw_C} {nm : String} {x : Option Nat} {K : Int32 → Option β} (ht : t ∈ zCO) (hqt : zCl[t]? = some qt) (hnm : qt.1 = nm) (hlink : Cond.classLink own index nm ∈ lw_all)
    (hf : (zi_O t h x).bind K = some res) (hdg : decode cc pc = .ok (.instanceof index, 3))
    (kk : ∀ v, K v = some res → W p l e R s m args below meth c H locs cells slots Q (F0 m (pc + 3) ls (.int v :: rest))) : W p l e R s m args below meth c H locs cells slots Q (F0 m pc ls (va_rf x :: rest)) := by
  have hX := X
  obtain ⟨⟨hx, hb, hml, hown, hts⟩, -, -, hK, -⟩ := X
  obtain ⟨v, h1, hf⟩ := zbd hf
  subst hnm
  cases x with
  | none =>
    cases h1
    exact lv_instN hx hb hdg (kk _ hf)
  | some a =>
    obtain ⟨⟨ci, fs⟩, h2, h3⟩ := zbd h1
    by_cases hci : ci ∈ zCO
    · rw [if_pos hci] at h3
      have g1 := zh_O_eq h2
      obtain ⟨r0, j1, j2, cell, d1, d2, d3, -⟩ := (hw.1.2 a _ g1).2
      have hcC := (hK.1 ci r0 j1).2
      have hcT := (hK.1 t qt hqt).2
      cases hs : zsub ci t with
      | true =>
        rw [hs, if_pos rfl] at h3
        cases h3
        intro T hT X9
        obtain ⟨vm', X', st⟩ := X9.instanceofYes hx hown (hts _ hlink) (by rw [hT]; exact d1) (by rw [d3]; rfl) hcT.1 (by rw [d2]; exact zasg_yes hX hci ht hs) (g := F0 m pc ls (.ref a :: rest)) rfl rfl (by rw [hb]; exact hdg)
        obtain ⟨t9, a1, b1⟩ := kk _ hf (T.setVm vm') hT X'
        exact ⟨t9, st t9 a1, b1⟩
      | false =>
        rw [hs, if_neg (by decide)] at h3
        cases h3
        intro T hT X9
        obtain ⟨kC, hkC, -⟩ := hcC.2
        obtain ⟨vm', X', st⟩ := va_instofNo X9 hx hown (hts _ hlink) (by rw [hT]; exact d1) (by rw [d3]; rfl) (by rw [d2]; exact hkC) hcT.1 (by rw [d2]; exact zasg_no hX hci ht hs) (g := F0 m pc ls (.ref a :: rest)) rfl rfl (by rw [hb]; exact hdg)
        obtain ⟨t9, a1, b1⟩ := kk _ hf (T.setVm vm') hT X'
        exact ⟨t9, st t9 a1, b1⟩
    · rw [if_neg hci] at h3; cases h3
theorem zw_null (hexec : p.tables.exec = Jvm.exec) (hb : c.code = cc) (hdg : decode cc pc = .ok (.aconst_null, 1)) (k : W p l e R s m args below meth c H locs cells slots Q (F0 m (pc + 1) ls (va_rf none :: rest))) : W p l e R s m args below meth c H locs cells slots Q (F0 m pc ls rest) := lv_null hexec hb hdg k
theorem zldcwF {T : State} (X : Stand p l e R s m args below meth c T locs cells slots) (hexec : p.tables.exec = Jvm.exec) {own : String} {index : Nat} {v : UInt32} (hown : s.vm.findClass own = some m.cls)
    (hconst : (Cond.constantFloat own index v).before args s = true) {g : JFrame} (hg : g.method = m) (hdg : decode c.code g.pc = .ok (.ldc_w index, 3)) :
    ∀ target, Steps p.tables e below (T.setTop { g with pc := g.pc + 3, stack := .float v :: g.stack }) target → Steps p.tables e below (T.setTop g) target := by
  obtain ⟨k, cf, hk, hcf, hcp⟩ := Cond.constantFloat_spec hown hconst
  obtain ⟨k', hk', he⟩ := X.warmed.alike.2.2 _ _ hk
  intro target hrest
  subst hg
  jvm_step X.here [hexec, hdg, ldc_w.wp_float (s := T) (f := g) X.here.top hk' (by rw [he]; exact hcf) hcp]
  exact hrest
theorem zw_ldcwF (hexec : p.tables.exec = Jvm.exec) (hb : c.code = cc) {own : String} {index : Nat} {v : UInt32} (hown : s.vm.findClass own = some m.cls) (hconst : (Jvm.Cond.constantFloat own index v).before args s = true) (hdg : decode cc pc = .ok (.ldc_w index, 3)) (k : W p l e R s m args below meth c H locs cells slots Q (F0 m (pc + 3) ls (.float v :: rest))) : W p l e R s m args below meth c H locs cells slots Q (F0 m pc ls rest) := by
  intro T hT X
  obtain ⟨t, a, b⟩ := k T hT X
  exact ⟨t, zldcwF X hexec hown hconst (g := F0 m pc ls rest) rfl (by rw [hb]; exact hdg) t a, b⟩
theorem znm_F : ∀ cA, va_RA s cA .float → s.vm.findClass "[F" = some cA := by
  intro cA hRA
  have e : "[" ++ FieldType.float.toString = "[F" := by decide +kernel
  rw [← e]
  exact hRA
theorem znm_S : ∀ cA, va_RA s cA .short → s.vm.findClass "[S" = some cA := by
  intro cA hRA
  have e : "[" ++ FieldType.short.toString = "[S" := by decide +kernel
  rw [← e]
  exact hRA
variable {E : State → Prop}
theorem zw_newb (X : zCx p s m args meth c D A E cc nL own ret) (hw : zWh D A s H h locs) (ha : Cond.arrayClass .byte ∈ lw_all) {n : Int32} {N : Nat} {K : Nat × zT → Option β} (hf : (zn_A .byte h n).bind K = some res) (hN : n.toNatClampNeg = N) (hbytes : N * componentBytes .byte ≤ 536870912) (hcells : cells + 1 ≤ R.cells) (hslots : slots + N ≤ R.slots) (hdg : decode cc pc = .ok (.newarray .byte, 2))
    (kk : ∀ (r : Nat × zT) (H1 : Heap), K r = some res → zWh D A s H1 r.2 locs → W p l e R s m args below meth c H1 locs (cells + 1) (slots + N) Q (F0 m (pc + 2) ls (.ref r.1 :: rest))) : W p l e R s m args below meth c H locs cells slots Q (F0 m pc ls (.int n :: rest)) :=
  zw_newaG X hw (atype := .byte) rfl rfl (fun cA hc => hc) ha hf hN hbytes hcells hslots hdg kk
theorem zw_news (X : zCx p s m args meth c D A E cc nL own ret) (hw : zWh D A s H h locs) (ha : Cond.arrayClass .short ∈ lw_all) {n : Int32} {N : Nat} {K : Nat × zT → Option β} (hf : (zn_A .short h n).bind K = some res) (hN : n.toNatClampNeg = N) (hbytes : N * componentBytes .short ≤ 536870912) (hcells : cells + 1 ≤ R.cells) (hslots : slots + N ≤ R.slots) (hdg : decode cc pc = .ok (.newarray .short, 2))
    (kk : ∀ (r : Nat × zT) (H1 : Heap), K r = some res → zWh D A s H1 r.2 locs → W p l e R s m args below meth c H1 locs (cells + 1) (slots + N) Q (F0 m (pc + 2) ls (.ref r.1 :: rest))) : W p l e R s m args below meth c H locs cells slots Q (F0 m pc ls (.int n :: rest)) :=
  zw_newaG X hw (atype := .short) rfl rfl (fun cA hc => hc) ha hf hN hbytes hcells hslots hdg kk
/-- a new row's length is at most N -/
def zb_len (n : Int32) (N : Nat) : Option Unit := if n.toNatClampNeg ≤ N then some () else none
theorem zw_len {n : Int32} {N : Nat} {K : Unit → Option β} {G : Prop} (hf : (zb_len n N).bind K = some res) (kk : n.toNatClampNeg ≤ N → K () = some res → G) : G := by
  obtain ⟨u, h1, h2⟩ := zbd hf
  unfold zb_len at h1
  by_cases hn : n.toNatClampNeg ≤ N
  · exact kk hn h2
  · rw [if_neg hn] at h1; cases h1
theorem zb_bytes {n N k : Nat} (h : n ≤ N) (hk : N * k ≤ 536870912) : n * k ≤ 536870912 := Nat.le_trans (Nat.mul_le_mul_right k h) hk
end ZCS
