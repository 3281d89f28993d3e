/-! A CAST THAT FAILS: the text of its message, the exception on its way; a negative size of a new row -/
set_option maxRecDepth 100000
def zhome : List String := ["unnamed module", "module java.base"]
def zhm (home a b : String) : String := dotted a ++ " and " ++ dotted b ++ " are in " ++ (home ++ " of loader " ++ "'bootstrap'")
def zcc (home a b : String) : String := "class " ++ dotted a ++ " cannot be cast to class " ++ dotted b ++ " (" ++ zhm home a b ++ ")"
theorem zdot_len : ∀ ci ∈ zCO, (dotted (zCn ci)).toList.length ≤ 30 := by decide +kernel
theorem zhome_len : ∀ home ∈ zhome, home.toList.length ≤ 30 := by decide +kernel
theorem zcc_len : ∀ home ∈ zhome, ∀ ci ∈ zCO, ∀ t ∈ zCO, (zcc home (zCn ci) (zCn t) == notModelled) = false ∧ (zcc home (zCn ci) (zCn t)).toList.length ≤ 250 := by
  intro home hh ci hci t ht
  have a1 := zdot_len ci hci
  have a2 := zdot_len t ht
  have a3 := zhome_len home hh
  have e1 : (zhm home (zCn ci) (zCn t)).toList.length = (dotted (zCn ci)).toList.length + 5 + (dotted (zCn t)).toList.length + 8 + (home.toList.length + 11 + 11) := by
    show (dotted (zCn ci) ++ " and " ++ dotted (zCn t) ++ " are in " ++ (home ++ " of loader " ++ "'bootstrap'")).toList.length = _
    simp only [String.toList_append, List.length_append]
    have b1 : " and ".toList.length = 5 := by decide +kernel
    have b2 : " are in ".toList.length = 8 := by decide +kernel
    have b3 : " of loader ".toList.length = 11 := by decide +kernel
    have b4 : "'bootstrap'".toList.length = 11 := by decide +kernel
    omega
  have e2 : (zcc home (zCn ci) (zCn t)).toList.length = 6 + (dotted (zCn ci)).toList.length + 25 + (dotted (zCn t)).toList.length + 2 + (zhm home (zCn ci) (zCn t)).toList.length + 1 := by
    show ("class " ++ dotted (zCn ci) ++ " cannot be cast to class " ++ dotted (zCn t) ++ " (" ++ zhm home (zCn ci) (zCn t) ++ ")").toList.length = _
    simp only [String.toList_append, List.length_append]
    have b1 : "class ".toList.length = 6 := by decide +kernel
    have b2 : " cannot be cast to class ".toList.length = 25 := by decide +kernel
    have b3 : " (".toList.length = 2 := by decide +kernel
    have b4 : ")".toList.length = 1 := by decide +kernel
    omega
  have e3 : notModelled.toList.length = 32 := by decide +kernel
  refine ⟨?_, by omega⟩
  rw [beq_eq_false_iff_ne]
  intro h
  rw [h] at e2
  omega
theorem zcc_ok {home : String} (hh : home ∈ zhome) {ci t : Nat} (hci : ci ∈ zCO) (ht : t ∈ zCO) : (zcc home (zCn ci) (zCn t) == notModelled) = false ∧ (stringBytes (stringToUtf16 (zcc home (zCn ci) (zCn t)))).size ≤ 1000 := by
  obtain ⟨h1, h2⟩ := zcc_len home hh ci hci t ht
  have h3 := utf16_size_le (zcc home (zCn ci) (zCn t))
  have h4 := stringBytes_size_le (stringToUtf16 (zcc home (zCn ci) (zCn t)))
  exact ⟨h1, by omega⟩
theorem znm_plain : ∀ ci ∈ zCO, (withoutBrackets (zCn ci)).length ≠ 1 ∧ packageOf (zCn ci) = "" := by decide +kernel
theorem zfc {vm : Vm} {name : String} {c : ClassId} {k : Class} (h : vm.findClass name = some c) (hk : vm.classes[c]? = some k) : k.name = name ∧ k.hidden = none ∧ k.loader = none ∧ (∀ t, k.kind ≠ .primitive t) := by
  obtain ⟨hlt, hp, _⟩ := Array.findIdx?_eq_some_iff_getElem.mp h
  have hk2 : vm.classes[c]? = some vm.classes[c] := by simp [hlt]
  cases hk.symm.trans hk2
  simp only [Bool.and_eq_true, beq_iff_eq, Option.isNone_iff_eq_none] at hp
  refine ⟨hp.1.1.1, hp.1.1.2, hp.2, fun t ht => ?_⟩
  have := hp.1.2
  rw [ht] at this
  cases this
theorem zmsg {s : State} (hm : modulesRight_1 s = true) {ci t : Nat} (hci : ci ∈ zCO) (ht : t ∈ zCO) {c1 c2 : ClassId} {k1 k2 : Class} (h1 : s.vm.findClass (zCn ci) = some c1) (h2 : s.vm.findClass (zCn t) = some c2) (e1 : s.vm.classes[c1]? = some k1) (e2 : s.vm.classes[c2]? = some k2) :
    ∃ home ∈ zhome, checkcast.message s.vm k1 k2 = zcc home (zCn ci) (zCn t) := by
  obtain ⟨n1, d1, l1, p1⟩ := zfc h1 e1
  obtain ⟨n2, d2, l2, p2⟩ := zfc h2 e2
  have o : ∀ (k : Class) (cj : Nat), cj ∈ zCO → k.name = zCn cj → (∀ t, k.kind ≠ .primitive t) → k.ofPrimitives = false := by
    intro k cj hcj hn hp
    unfold Class.ofPrimitives
    cases hk : k.kind with
    | primitive t => exact absurd hk (hp t)
    | ordinary => rfl
    | array a b =>
      simp only [beq_eq_false_iff_ne]
      rw [hn]
      exact (znm_plain cj hcj).1
  have o1 := o k1 ci hci n1 p1
  have o2 := o k2 t ht n2 p2
  have m1 : s.vm.moduleOf k1 = s.vm.modules.find? fun m => m.loader == none && m.packages.contains "" := by
    unfold Vm.moduleOf
    rw [o1, if_neg (by decide), l1, n1, (znm_plain ci hci).2]
  have m2 : s.vm.moduleOf k2 = s.vm.modules.find? fun m => m.loader == none && m.packages.contains "" := by
    unfold Vm.moduleOf
    rw [o2, if_neg (by decide), l2, n2, (znm_plain t ht).2]
  have s1 : k1.shown = dotted (zCn ci) := by unfold Class.shown; rw [d1, n1]
  have s2 : k2.shown = dotted (zCn t) := by unfold Class.shown; rw [d2, n2]
  have hs : s.vm.sameModule k1 k2 = true := by
    unfold Vm.sameModule
    rw [m1, m2]
    cases s.vm.modules.find? fun m => m.loader == none && m.packages.contains "" with
    | none => simp [l1, l2]
    | some x => simp
  unfold checkcast.message Vm.homes Vm.home
  rw [hs, if_pos rfl, s1, s2, m1, l1]
  cases hf : s.vm.modules.find? fun m => m.loader == none && m.packages.contains "" with
  | none => exact ⟨"unnamed module", by decide, rfl⟩
  | some x =>
    have hx := List.find?_some hf
    have hin : x ∈ s.vm.modules := List.mem_of_find?_eq_some hf
    simp only [Bool.and_eq_true, beq_iff_eq] at hx
    unfold modulesRight_1 at hm
    have := List.all_eq_true.mp hm x hin
    have hn : x.name = "java.base" := by
      have h9 : "" ∈ x.packages := by simpa using hx.2
      simp [hx.1, castPackages_1, h9] at this
      exact this
    refine ⟨"module java.base", by decide, ?_⟩
    dsimp only
    rw [hn]
    rfl
section ZCC
variable {p : Program} {l : Launch} {e : Env} {R : Room} {s : State} {m : MethodId} {args : Array Value} {below : List Frame} {meth : Method} {c : Code} {T : State} {H : Heap} {locs : List Loc} {cells slots : Nat} {Q : State → Prop}
theorem zcheckNo (X : Stand p l e R s m args below meth c T locs cells slots) (hexec : p.tables.exec = Jvm.exec) {own : String} {index ci t : Nat} (hmr : modulesRight_1 s = true) (hci : ci ∈ zCO) (ht : t ∈ zCO) (hown : s.vm.findClass own = some m.cls) (hlink : (Cond.classLink own index (zCn t)).before args s = true)
    {a : Addr} {cell : Cell} {cT : ClassId} (hcell : T.heap[a]? = some cell) (hobj : cell.vm.isStatics = false) (hcl : s.vm.findClass (zCn ci) = some cell.cls) (hcT : s.vm.findClass (zCn t) = some cT) (hasg : s.vm.assignable cell.cls cT = false)
    {g : JFrame} (hg : g.method = m) {rest : List Value} (hstack : g.stack = .ref a :: rest) (hdg : decode c.code g.pc = .ok (.checkcast index, 3)) :
    ∃ vm' home, home ∈ zhome ∧ Stand p l e R s m args below meth c (T.setVm vm') locs cells slots ∧ ∀ target, Steps p.tables e below (((T.setVm vm').setTop g).pushFrame (.throwNew "java/lang/ClassCastException" (some (zcc home (zCn ci) (zCn t))) none)) target → Steps p.tables e below (T.setTop g) target := by
  have hpl : e.platform.magicAccessors = ({} : Platform).magicAccessors := by rw [X.admits.platform]
  obtain ⟨c', hc', hclk⟩ := Cond.classLink_spec hown hlink e.platform hpl
  cases hcT.symm.trans hc'
  obtain ⟨dk, _, _, kt, hd, _, _, _, _, hkt, _, hopen⟩ := hclk.here
  have hcl₀ := X.warmed.classLinks hclk
  have hW' : s.WarmedH (T.vm.noted m.cls index (.cls cT)) := X.warmed.noted hd hopen (State.rightAt_cls hclk)
  obtain ⟨ks, hks, -⟩ := Vm.findClass_spec hcl
  obtain ⟨ks', hks', -⟩ := hW'.alike.2.2 _ _ hks
  obtain ⟨kt', hkt', -⟩ := hW'.alike.2.2 _ _ hkt
  have hmr' : modulesRight_1 (T.setVm (T.vm.noted m.cls index (.cls cT))) = true := by
    unfold modulesRight_1 at hmr ⊢
    have e : (T.setVm (T.vm.noted m.cls index (.cls cT))).vm.modules = s.vm.modules := by
      show (T.vm.noted m.cls index (.cls cT)).modules = s.vm.modules
      rw [hW'.alike.1]
    rw [e]
    exact hmr
  obtain ⟨home, hh, hmsg⟩ := zmsg hmr' hci ht (c1 := cell.cls) (c2 := cT) (k1 := ks') (k2 := kt') (by show (T.vm.noted m.cls index (.cls cT)).findClass _ = _; rw [hW'.alike.findClass]; exact hcl) (by show (T.vm.noted m.cls index (.cls cT)).findClass _ = _; rw [hW'.alike.findClass]; exact hcT) hks' hkt'
  refine ⟨T.vm.noted m.cls index (.cls cT), home, hh, X.noted hW', fun target hrest => ?_⟩
  subst hg
  jvm_step X.here [hexec, hdg, checkcast.wp_cold (e := e) (s := T) (f := g) X.here.top hstack (resolveClass_links e.toSetting hcl₀) hcl₀.ready,
    checkcast.wp_ready (e := e) (s := T.setVm (T.vm.noted g.method.cls index (.cls cT))) (f := g) X.here.top hcl₀.ready hstack]
  refine ⟨cell, hcell, VmData.noStatics_of hobj, ks', hks', kt', hkt', ?_⟩
  have h1 : (T.vm.noted g.method.cls index (Resolved.cls cT)).assignable cell.cls cT = false := by rw [hW'.alike.assignable]; exact hasg
  have hmsg' : checkcast.message (T.vm.noted g.method.cls index (Resolved.cls cT)) ks' kt' = zcc home (zCn ci) (zCn t) := hmsg
  rw [if_neg (by rw [h1]; decide), hmsg']
  exact hrest
variable {D : va_G} {A : Nat → Prop} {cc : ByteArray} {nL : Nat} {own : String} {ret : Option FieldType} {h : zT} {pc : Nat} {ls : Array Slot} {rest : List Value} {β : Type} {res : β}
/-- an exception of the machine's own lies at x -/
def zXo (cls : String) (s : State) (H : Heap) (x : Nat) : Prop := ∃ ce : Cell, H[x]? = some ce ∧ s.vm.findClass cls = some ce.cls ∧ ce.vm.isStatics = false
/-- what a new exception of the machine's own leaves: three cells more -/
def zthr (h : zT) : zT := (h.1, h.2 + 3)
theorem zvmThrow {text : String} {cls : String} (X : zCx p s m args meth c D A (zEv A) cc nL own ret) (htr : l.stackTraces = false) (hw : zWh D A s H h locs) (hl : ls.size = nL) {st : List Value} (hT : T.heap = H) (X0 : Stand p l e R s m args below meth c T locs cells slots)
    (hcls : cls = "java/lang/ClassCastException" ∨ cls = "java/lang/NegativeArraySizeException") (htext : (text == notModelled) = false) (hsz : (stringBytes (stringToUtf16 text)).size ≤ 1000)
    (hRf : 7 ≤ R.frames) (hRl : (st.map fun v => v.category).sum + 10240 ≤ R.locals) (hRc : cells + 3 ≤ R.cells) (hRs : slots + 1010 ≤ R.slots)
    (k : ∀ (H1 : Heap) (locs1 : List Loc), zWh D A s H1 (zthr h) locs1 → zXo cls s H1 (h.2 + 2) → zTw p l e R s m args below meth c H1 locs1 (cells + 3) (slots + 1010) Q (F0 m pc ls st) (h.2 + 2)) :
    ∃ t, Steps p.tables e below ((T.setTop (F0 m pc ls st)).pushFrame (.throwNew cls (some text) none)) t ∧ Q t := by
  have hEw := X.2.2.2.2.2.2.2.2.2.2.2.2
  have hA := X.2.2.2.2.1
  obtain ⟨⟨hx, hb, hml, hown, hts⟩, -⟩ := X
  have hp : e.platform.stackTraces = false := by
    have h1 := X0.admits.platform
    rw [h1]
    exact htr
  have hal : e.platform.arrayLengthLimit = ({} : Platform).arrayLengthLimit := by rw [X0.admits.platform]
  have hmh : e.platform.maxHeapBytes = ({} : Platform).maxHeapBytes := by rw [X0.admits.platform]
  have hat := hEw.exc (args := args)
  have hat2 : ∀ a ∈ Bundle.messageArmAtoms cls zUp, a.before args s = true := by
    intro a ha
    apply hat
    unfold zXA
    rcases hcls with rfl | rfl
    · exact List.mem_append_left _ (List.mem_append_left _ ha)
    · exact List.mem_append_left _ (List.mem_append_right _ ha)
  have hfit : Bundle.fit cls = true ∧ (cls == "java/lang/StackOverflowError") = false ∧ (cls == "java/lang/OutOfMemoryError") = false := by
    rcases hcls with rfl | rfl <;> decide +kernel
  have hlim : ¬ (stringBytes (stringToUtf16 text)).size > e.platform.arrayLengthLimit := by
    rw [hal]
    have h9 : (1000 : Nat) < ({} : Platform).arrayLengthLimit := by decide
    omega
  have hhp : ¬ (stringBytes (stringToUtf16 text)).size * componentBytes .byte > e.platform.maxHeapBytes := by
    rw [hmh]
    have h9 : (1000 : Nat) < ({} : Platform).maxHeapBytes := by decide
    have h8 : componentBytes .byte = 1 := by decide
    rw [h8]
    omega
  obtain ⟨U, locs', XU, hl', hz, hk, ⟨ce, c1, c2, c3⟩, st1⟩ := zthrowNew (A := A) (text := text) X0 hx hp hfit.1 (names := zUp) (by decide +kernel) hfit.2.1 hfit.2.2 hat2 hEw.2.2.2.2.1 hw.2.2.2 htext hlim hhp
    (g := F0 m pc ls st) rfl (hl.trans hml.symm) (show 2 + 4 < R.frames by omega) (by show 2 * 0 + (st.map fun v => v.category).sum + 10240 ≤ _; omega) (by decide) hRc (by omega)
  have hsT : T.heap.size = h.2 := by rw [hT]; exact hw.1.1
  rw [hsT] at hl' hz hk c1 st1
  have hsz0 : s.heap.size ≤ h.2 := by rw [← hw.1.1]; exact hw.2.1
  have hw1 : zWh D A s U.heap (zthr h) locs' := by
    refine ⟨⟨hz, fun b x hb => ?_⟩, Nat.le_trans hsz0 (by rw [hz]; omega), fun q q1 q2 => ?_, fun q hq => ?_⟩
    · have hb' : h.1 b = some x := hb
      have h2 := hw.1.2 b x hb'
      have hlt : b < h.2 := by rw [← hw.1.1]; exact h2.2.lt
      exact ⟨h2.1, h2.2.kept (by rw [hk b hlt, hT])⟩
    · rw [hk q (Nat.lt_of_lt_of_le q1 hsz0), hT]
      exact hw.2.2.1 q q1 q2
    · rcases hl' q hq with h1 | h1
      · exact hw.2.2.2 q h1
      · rw [h1]; exact hA _ (Nat.le_trans hsz0 (Nat.le_add_right _ _))
  obtain ⟨t, a1, b1⟩ := k U.heap locs' hw1 ⟨ce, c1, c2, c3⟩ U rfl (stand_widen XU (Nat.le_refl _) (by omega))
  exact ⟨t, st1 t a1, b1⟩
/-- may the object be cast to class t -/
def zq_cast (t : Nat) (h : zT) (a : Nat) : Option Bool := (zh_O h a).bind fun o => if o.1 ∈ zCO then some (zsub o.1 t) else none
theorem zw_cast (X : zCx p s m args meth c D A (zEv A) cc nL own ret) (htr : l.stackTraces = false) (hw : zWh D A s H h locs) (hl : ls.size = nL) {t a index : Nat} {F F2 : Option β} (ht : t ∈ zCO) (hlink : Cond.classLink own index (zCn t) ∈ lw_all)
    (hf : ((zq_cast t h a).bind fun b => if b = true then F else F2) = some res) (hRf : 7 ≤ R.frames) (hRl : ((Value.ref a :: rest).map fun v => v.category).sum + 10240 ≤ R.locals) (hRc : cells + 3 ≤ R.cells) (hRs : slots + 1010 ≤ R.slots) (hdg : decode cc pc = .ok (.checkcast index, 3))
    (k1 : F = some res → W p l e R s m args below meth c H locs cells slots Q (F0 m (pc + 3) ls (.ref a :: rest)))
    (k2 : ∀ (H1 : Heap) (locs1 : List Loc), F2 = some res → zWh D A s H1 (zthr h) locs1 → zXo "java/lang/ClassCastException" s H1 (h.2 + 2) → zTw p l e R s m args below meth c H1 locs1 (cells + 3) (slots + 1010) Q (F0 m pc ls (.ref a :: rest)) (h.2 + 2)) :
    W p l e R s m args below meth c H locs cells slots Q (F0 m pc ls (.ref a :: rest)) := by
  obtain ⟨b, h1, hf⟩ := zbd hf
  obtain ⟨⟨ci, fs⟩, h2, h3⟩ := zbd h1
  by_cases hci : ci ∈ zCO
  · rw [if_pos hci] at h3
    cases h3
    have g1 := zh_O_eq h2
    obtain ⟨r0, j1, j2, cell, d1, d2, d3, -⟩ := (hw.1.2 a _ g1).2
    have hK := X.2.2.2.1
    obtain ⟨qt, hqt⟩ := zCO_cl t ht
    have hcC := (hK.1 ci r0 j1).2
    have hcT := (hK.1 t qt hqt).2
    have hfC : s.vm.findClass (zCn ci) = some cell.cls := by rw [zCn_eq j1, d2]; exact hcC.1
    have hfT : s.vm.findClass (zCn t) = some (D.1 t) := by rw [zCn_eq hqt]; exact hcT.1
    have hts := X.1.2.2.2.2
    have hx := X.1.1
    have hb := X.1.2.1
    have hown := X.1.2.2.2.1
    cases hs : zsub ci t with
    | true =>
      simp only [hs, if_true] at hf
      intro T hT X9
      obtain ⟨vm', X', st⟩ := X9.checkcastYes hx hown (hts _ hlink) (by rw [hT]; exact d1) (by rw [d3]; rfl) hfT (by rw [d2]; exact zasg_yes X hci ht hs) (g := F0 m pc ls (.ref a :: rest)) rfl rfl (by rw [hb]; exact hdg)
      obtain ⟨t9, a1, b1⟩ := k1 hf (T.setVm vm') hT X'
      exact ⟨t9, st t9 a1, b1⟩
    | false =>
      simp only [hs] at hf
      have hf2 : F2 = some res := by simpa using hf
      intro T hT X9
      obtain ⟨vm', home, hh, X', st⟩ := zcheckNo X9 hx X.2.2.2.2.2.2.2.2.2.2.2.2.2.2.2.2.2.2.1 hci ht hown (hts _ hlink) (by rw [hT]; exact d1) (by rw [d3]; rfl) hfC hfT (by rw [d2]; exact zasg_no X hci ht hs) (g := F0 m pc ls (.ref a :: rest)) rfl rfl (by rw [hb]; exact hdg)
      obtain ⟨o1, o2⟩ := zcc_ok hh hci ht
      obtain ⟨t9, a1, b1⟩ := zvmThrow (T := T.setVm vm') X htr hw hl hT X' (Or.inl rfl) o1 o2 hRf hRl hRc hRs (fun H1 locs1 w1 w2 => k2 H1 locs1 hf2 w1 w2)
      exact ⟨t9, st t9 a1, b1⟩
  · rw [if_neg hci] at h3; cases h3
end ZCC
