/-! new Fault(): its making by the JDK's own constructors (no stack traces at this launch) -/
set_option maxRecDepth 100000
/-- the static holds v -/
def zLv (C n d : String) (v : Value) (A : Nat → Prop) (U : State) (H : Heap) : Prop := ∃ (cf : ClassId) (kf : Class) (fi : Nat) (f : Field) (a : Nat) (cell : Cell), U.fieldFound? C n d = some (cf, kf, fi, f) ∧ kf.statics = some a ∧ H[a]? = some cell ∧ cell.slots[f.slot]? = some v ∧ (v = .null ∨ ∃ t, v = .ref t) ∧ ¬ A a
theorem zLs.val {C n d : String} {A : Nat → Prop} {U : State} {H : Heap} (h : zLs C n d A U H) : ∃ v, zLv C n d v A U H := by
  obtain ⟨cf, kf, fi, f, a, cell, v, h0, h1, h2, h3, h4, h5, h6, h7, h8, h9, h10, h11⟩ := h
  exact ⟨v, cf, kf, fi, f, a, cell, h1, h3, h5, h9, h10, h11⟩
theorem zLv.moved {C n d : String} {v : Value} {A : Nat → Prop} {u U : State} {H : Heap} (hvm : u.vm.Alike U.vm) (h : zLv C n d v A u H) : zLv C n d v A U H := by
  obtain ⟨cf, kf, fi, f, a, cell, h1, h2, h3⟩ := h
  obtain ⟨k', hi', he⟩ := State.fieldFound?_setVm hvm h1
  exact ⟨cf, k', fi, f, a, cell, hi', by rw [he]; exact h2, h3⟩
theorem zLv.kept {C n d : String} {v : Value} {A : Nat → Prop} {U : State} {H H1 : Heap} (h : zLv C n d v A U H) (hq : ∀ a : Nat, a < H.size → ¬ A a → H1[a]? = H[a]?) : zLv C n d v A U H1 := by
  obtain ⟨cf, kf, fi, f, a, cell, h1, h2, h3, h4, h5, h6⟩ := h
  exact ⟨cf, kf, fi, f, a, cell, h1, h2, by rw [hq a (Array.getElem?_eq_some_iff.mp h3).1 h6]; exact h3, h4, h5, h6⟩
/-- the environment of the component's constructor -/
def zEf (A : Nat → Prop) (u sen : Value) (U : State) : Prop := zEv A U ∧ zLv "java/lang/Throwable" "UNASSIGNED_STACK" "[Ljava/lang/StackTraceElement;" u A U U.heap ∧ zLv "java/lang/Throwable" "SUPPRESSED_SENTINEL" "Ljava/util/List;" sen A U U.heap
theorem zEf_ok (A : Nat → Prop) (u sen : Value) : zEok A (zEf A u sen) := by
  refine ⟨fun s U hW hF h => ?_, fun U g mk a h => ⟨(zEv_ok A).2 U g mk a h.1, h.2.1.moved (u := U) (U := U.calling g mk a) (Vm.Alike.refl U.vm), h.2.2.moved (u := U) (U := U.calling g mk a) (Vm.Alike.refl U.vm)⟩⟩
  have hq : ∀ a : Nat, a < s.heap.size → ¬ A a → U.heap[a]? = s.heap[a]? := fun a q1 q2 => hF.2 a q1 q2
  exact ⟨(zEv_ok A).1 s U hW hF h.1, (h.2.1.kept hq).moved hW.alike, (h.2.2.kept hq).moved hW.alike⟩
theorem zCx.evf {p : Program} {s : State} {m : MethodId} {args : Array Value} {meth : Method} {c : Code} {D : va_G} {A : Nat → Prop} {cc : ByteArray} {nL : Nat} {own : String} {ret : Option FieldType} {u sen : Value} (X : zCx p s m args meth c D A (zEf A u sen) cc nL own ret) : zCx p s m args meth c D A (zEv A) cc nL own ret := ⟨X.1, X.2.1, X.2.2.1, X.2.2.2.1, X.2.2.2.2.1, zEv_ok A, X.2.2.2.2.2.2.1⟩
def zfault (u sen : Value) (h : zT) : Option (Nat × zT) := some (h.2, zh_push h (.inr (2, [.ref h.2, u, sen, .null, .null, .int 0, .int 0])))
theorem zV_fault (a : Nat) (u sen : Value) : ∀ k, k < 7 → updV (updV (updV (updV (fun k => defaultValue (tyX2 k)) 0 (.ref a)) 1 u) 2 sen) 1 u k = vp_V [.ref a, u, sen, .null, .null, .int 0, .int 0] k := by
  intro k hk
  rcases (show k = 0 ∨ k = 1 ∨ k = 2 ∨ k = 3 ∨ k = 4 ∨ k = 5 ∨ k = 6 by omega) with rfl | rfl | rfl | rfl | rfl | rfl | rfl <;> rfl
set_option maxHeartbeats 4000000 in
theorem zw_newFault {p : Program} {l : Launch} {e : Env} {R : Room} {s : State} {m : MethodId} {args : Array Value} {below : List Frame} {meth : Method} {c : Code} {H : Heap} {locs : List Loc} {cells slots : Nat} {Q : State → Prop} {D : va_G} {A : Nat → Prop} {cc : ByteArray} {nL : Nat} {own : String} {ret : Option FieldType} {h : zT} {pc : Nat} {ls : Array Slot} {rest : List Value} {β : Type} {res : β} {u sen : Value} {index ic : Nat} {host : String} {K : Nat × zT → Option β}
    (X : zCx p s m args meth c D A (zEv A) cc nL own ret) (htr : l.stackTraces = false) (hU : zLv "java/lang/Throwable" "UNASSIGNED_STACK" "[Ljava/lang/StackTraceElement;" u A s s.heap) (hS : zLv "java/lang/Throwable" "SUPPRESSED_SENTINEL" "Ljava/util/List;" sen A s s.heap) (hw : zWh D A s H h locs) (hl : ls.size = nL)
    (hclink : Cond.classLink own index "StoneSheets$Fault" ∈ lw_all) (hinst : Cond.instantiable "StoneSheets$Fault" 7 ∈ lw_all) (hini : Cond.initialized "StoneSheets$Fault" ∈ lw_all) (hlink : va_Nw (.methodLinkNest own ic ⟨"StoneSheets$Fault", "<init>", "()V"⟩ host) s)
    (hf : (zfault u sen h).bind K = some res) (hcells : cells + 1 ≤ R.cells) (hslots : slots + 7 ≤ R.slots) (hRf : 8 ≤ R.frames) (hRl : ((Value.ref h.2 :: rest).map fun v => v.category).sum + 100 ≤ R.locals) (hd1 : decode cc pc = .ok (.new index, 3)) (hd2 : decode cc (pc + 3) = .ok (.dup, 1)) (hd3 : decode cc (pc + 4) = .ok (.invokespecial ic, 3))
    (kk : ∀ (r : Nat × zT) (H1 : Heap) (locs1 : List Loc), K r = some res → zWh D A s H1 r.2 locs1 → W p l e R s m args below meth c H1 locs1 (cells + 1) (slots + 7) Q (F0 m (pc + 7) ls (.ref r.1 :: rest))) : W p l e R s m args below meth c H locs cells slots Q (F0 m pc ls rest) := by
  have hEw := X.2.2.2.2.2.2.2.2.2.2.2.2
  have hNW := X.2.2.2.2.2.2.1
  obtain ⟨⟨hx, hb, hml, hown, hts⟩, -, -, hK, hA, -⟩ := X
  obtain ⟨r, hr, hf⟩ := zbd hf
  cases hr
  have hKn := hK.1 2 (RX2, TX2, 7) rfl
  refine W.newcK hx hb hown (hts _ hclink) (hts _ hinst) (hts _ hini) rfl hd1 hcells hslots hKn.2.1 rfl fun H1 kX hk e1 z1 o1 => ?_
  refine lv_dup hx hb hd2 rfl ?_
  have hat := hEw.exc (args := args)
  have h9 : ∀ a ∈ zXF, a.before args s = true := fun a ha => hat a (List.mem_append_right _ ha)
  have hat2 : ∀ a ∈ Bundle.messageArmAtoms "java/lang/ClassCastException" zUp, a.before args s = true := fun a ha => hat a (List.mem_append_left _ (List.mem_append_left _ ha))
  intro W0 hW0 X0
  have htr2 : e.platform.stackTraces = false := by
    have q1 := X0.admits.platform
    rw [q1]
    exact htr
  have howns : e.platform.frameOwnsMonitors = true := by rw [X0.admits.platform]
  have hfin : e.platform.finalization = false := by rw [X0.admits.platform]
  have hpl : e.platform.magicAccessors = ({} : Platform).magicAccessors := by rw [X0.admits.platform]
  have hmem : ∀ a, a ∈ zXF → a.holds args s none s [] = true := fun a ha => h9 a ha
  obtain ⟨T, Z, L, LZ, Y⟩ := ThrowableC.of_atoms (args := args) howns hfin hpl (fun x hx => h9 x (by simp [zXF, hx]))
  obtain ⟨P1, Ps, hlen, L1, hL, hP1m, hlink1, hlinkP⟩ := Bundle.chain0 (args := args) hpl Y.init0 zUp "StoneSheets$Fault" (by decide +kernel) (by decide +kernel) (fun x hx => h9 x (by simp [zXF, hx]))
  have hfound : s.vm.findClass "StoneSheets$Fault" = some P1.m.cls := findClass_of_methodNamed hP1m
  have hcc : D.1 2 = P1.m.cls := Option.some.inj (hKn.2.1.symm.trans hfound)
  rw [hcc] at hk e1
  obtain ⟨c1, kX', hc1, hk', hord, -, -, hn7⟩ := Cond.instantiable_spec (hmem (.instantiable "StoneSheets$Fault" 7) (by simp [zXF]))
  cases Option.some.inj (hc1.symm.trans hfound)
  cases Option.some.inj (hk.symm.trans hk')
  have hsel0 : selectMethod e.platform s.vm P1.m.cls T.fill0 = .method T.fill0 := by
    obtain ⟨c2, r2, m2, q1, q2, q3, q4, -⟩ := Cond.selects_spec (hmem (.selects "StoneSheets$Fault" Bundle.tFill0 Bundle.tFill0) (by simp [zXF]))
    cases Option.some.inj (q1.symm.trans hfound)
    cases Option.some.inj (q2.symm.trans (State.methodFound?_of_named Y.fill0 (by decide)))
    cases Option.some.inj (q3.symm.trans Y.fill0)
    rw [Launch.admits_selectMethod X0.admits]; exact q4
  have hselF : selectMethod e.platform s.vm P1.m.cls T.fill = .method T.fill := by
    obtain ⟨c2, r2, m2, q1, q2, q3, q4, -⟩ := Cond.selects_spec (hmem (.selects "StoneSheets$Fault" Bundle.tFill Bundle.tFill) (by simp [zXF]))
    cases Option.some.inj (q1.symm.trans hfound)
    cases Option.some.inj (q2.symm.trans (State.methodFound?_of_named Y.fill (by decide)))
    cases Option.some.inj (q3.symm.trans Y.fill)
    rw [Launch.admits_selectMethod X0.admits]; exact q4
  obtain ⟨cellS0, hcS0, hiss⟩ := Y.statics
  obtain ⟨cfU, kfU, fiU, fU, aU, ceU, y1, y2, y3, y4, y5, y6⟩ := hU
  obtain ⟨cfS, kfS, fiS, fS, aS, ceS, w1, w2, w3, w4, w5, w6⟩ := hS
  have y7 := y1.symm.trans Y.unassigned
  simp only [Option.some.injEq, Prod.mk.injEq] at y7
  obtain ⟨rfl, rfl, rfl, rfl⟩ := y7
  have w7 := w1.symm.trans Y.sentinel
  simp only [Option.some.injEq, Prod.mk.injEq] at w7
  obtain ⟨rfl, rfl, rfl, rfl⟩ := w7
  cases y2.symm.trans L.statics
  cases w2.symm.trans L.statics
  cases hcS0.symm.trans y3
  cases hcS0.symm.trans w3
  have hur : u.isRef = true := by rcases y5 with rfl | ⟨t, rfl⟩ <;> rfl
  have hsr : sen.isRef = true := by rcases w5 with rfl | ⟨t, rfl⟩ <;> rfl
  obtain ⟨ci198, i198, fB, hk198, hg198, ha198, hsB, -, hnB, htB, hffB⟩ := Cond.ownField (t := .object "java/lang/Object") Y.found L.cls (by decide +kernel) (hmem (.fieldLink Bundle.tN 198 Bundle.tN "backtrace" "Ljava/lang/Object;") (by simp [zXF])) (hmem (.lays Bundle.tN Bundle.tN "backtrace" "Ljava/lang/Object;") (by simp [zXF])) e.platform hpl
  obtain ⟨cellS, hcS', heS, -, hkeep⟩ := X0.same.2.2.2.2.2 T.aS cellS0 hcS0
  have hcellS : W0.heap[T.aS]? = some cellS := hcS'
  have hout' : ∀ i, (⟨T.aS, i⟩ : Loc) ∉ locs := fun i hmem9 => y6 (hw.2.2.2 _ hmem9)
  have hknownS : cellS.vm ≠ .unknown := by
    rw [heS]; intro hu
    rw [show cellS0.vm = .unknown from hu] at hiss
    cases hiss
  have hsz : H.size = h.2 := hw.1.1
  have hsz0 : s.heap.size ≤ H.size := hw.2.1
  have hneS : T.aS ≠ H.size := Nat.ne_of_lt (Nat.lt_of_lt_of_le (Array.getElem?_eq_some_iff.mp hcS0).1 hsz0)
  obtain ⟨iM, hffM⟩ := Y.msg
  obtain ⟨tyC, dC, hdC, hdnC⟩ := Cond.laysAt hfound hk Y.cause (hmem (.lays "StoneSheets$Fault" Bundle.tN "cause" "Ljava/lang/Throwable;") (by simp [zXF]))
  obtain ⟨tyS, dS, hdS, hdnS⟩ := Cond.laysAt hfound hk Y.stack (hmem (.lays "StoneSheets$Fault" Bundle.tN "stackTrace" Bundle.steD) (by simp [zXF]))
  obtain ⟨tyP, dP, hdP, hdnP⟩ := Cond.laysAt hfound hk Y.supp (hmem (.lays "StoneSheets$Fault" Bundle.tN "suppressedExceptions" Bundle.listD) (by simp [zXF]))
  obtain ⟨tyB, dB, hdB, hdnB⟩ := Cond.laysAt hfound hk hffB (hmem (.lays "StoneSheets$Fault" Bundle.tN "backtrace" "Ljava/lang/Object;") (by simp [zXF]))
  have bC := Cond.laysApart hdB hdC hdnB hdnC (by rw [hnB, Y.causeName]; decide)
  have bS := Cond.laysApart hdB hdS hdnB hdnS (by rw [hnB, Y.stackName]; decide)
  have bP := Cond.laysApart hdB hdP hdnB hdnP (by rw [hnB, Y.suppName]; decide)
  have hskip : SkipFacts T e.platform s (fun u => u) ⟨u, hur⟩ ((preparedCellV T.toThrowableT (freshCell P1.m.cls kX) H.size ⟨u, hur⟩ ⟨sen, hsr⟩).withEntry W0.cur) :=
    ⟨{ ci198 := ci198, i198 := i198, fBack := fB }, ⟨hk198, hg198, ha198, hsB⟩, by
      have := fresh_default (c := P1.m.cls) tyB
      rw [htB] at this
      simpa [preparedCellV, Cell.setSlot, Cell.withEntry, Array.getElem?_setIfInBounds, bC, bS, bP, bC.symm, bS.symm, bP.symm, defaultValue] using this, fun _ _ => rfl⟩
  have hcode : (Cond.code ⟨"StoneSheets$Fault", "<init>", "()V"⟩ Bundle.five 1 none).before args s = true := h9 _ (by simp [zXF, Bundle.chain0Atoms, Bundle.passAtoms, zUp, Bundle.init0])
  have hinstM : (Cond.instanceMethod ⟨"StoneSheets$Fault", "<init>", "()V"⟩).before args s = true := h9 _ (by simp [zXF, Bundle.chain0Atoms, Bundle.passAtoms, zUp, Bundle.init0])
  have X0h := X0.here
  obtain ⟨mk, methM, cM, kP, vm₁, hnamed, hmethM, hcodeM, -, hlocalsM, -, hkP, -, hW₁, hstep₁⟩ := Steps.initColdArgsNest (e := e) (f := F0 m (pc + 4) ls (.ref H.size :: .ref H.size :: rest)) X0h hx X0.warmed hpl hown rfl (by decide) (va_Nw.use (A := args) rfl hlink) hinstM hcode rfl (argsL := []) (rest := .ref H.size :: rest) (a := H.size) (fun sig hsig => by
      have h2 : (parseMethodDescriptor "()V").map (fun d => d.parameters.length) = some 0 := by decide +kernel
      rw [show parseMethodDescriptor "()V" = some sig from hsig] at h2
      exact (Option.some.inj h2).symm) rfl (by rw [hb]; exact hd3)
  cases Option.some.inj (hnamed.symm.trans hP1m)
  have X₁ := X0.noted hW₁
  have hcellF : W0.heap[H.size]? = some (freshCell P1.m.cls kX) := by rw [hW0]; exact e1
  obtain ⟨vm₂, X₂, st2⟩ := X₁.ctorPlainOffV hx (g := F0 m (pc + 4) ls (.ref H.size :: rest)) rfl (hl.trans hml.symm) T L Z LZ (P1 :: Ps)
    (fun P hP => by rcases List.mem_cons.mp hP with rfl | hP; exact L1; exact hL P hP) ⟨hlink1, hlinkP⟩ (u0 := ⟨u, hur⟩) (sen := ⟨sen, hsr⟩) (self := H.size) (cell := freshCell P1.m.cls kX) (cellS := cellS)
    hcellF (fun _ => by simp) (by simp) rfl rfl hsel0 hselF hcellS hneS hknownS (by rw [hkeep _ (hout' _)]; exact y4) (by rw [hkeep _ (hout' _)]; exact w4)
    (Takes.of_laid hk hord tyC (by rw [Y.causeType]; rfl)) (Takes.of_laid hk hord tyS (by rw [Y.stackType]; exact fits_refV_array _ ⟨u, hur⟩)) (Takes.of_laid hk hord tyP (by rw [Y.suppType]; exact fits_refV_object _ ⟨sen, hsr⟩)) Y.objLocals hskip htr2 [] (by rw [hb]; exact hd3)
    (by rw [List.length_cons, hlen]; show 2 + 1 + 2 < R.frames; omega) (by
      rw [List.length_cons, hlen]
      rw [← hsz] at hRl
      show 2 * 0 + ((Value.ref H.size :: rest).map fun v => v.category).sum + (13 * (2 + 1) + 41) ≤ R.locals
      omega)
  have hlt : H.size < ((W0.setVm vm₁).setVm vm₂).heap.size := (Array.getElem?_eq_some_iff.mp hcellF).1
  have hHn : (((W0.setVm vm₁).setVm vm₂).setCell H.size ((preparedCellV T.toThrowableT (freshCell P1.m.cls kX) H.size ⟨u, hur⟩ ⟨sen, hsr⟩).setSlot T.fStack.slot u)).heap[H.size]? = some ((preparedCellV T.toThrowableT (freshCell P1.m.cls kX) H.size ⟨u, hur⟩ ⟨sen, hsr⟩).setSlot T.fStack.slot u) := heapAt_setCell_self _ hlt
  have hHo : ∀ q, q ≠ H.size → (((W0.setVm vm₁).setVm vm₂).setCell H.size ((preparedCellV T.toThrowableT (freshCell P1.m.cls kX) H.size ⟨u, hur⟩ ⟨sen, hsr⟩).setSlot T.fStack.slot u)).heap[q]? = H1[q]? := by
    intro q hq
    rw [heapAt_setCell_ne _ (Ne.symm hq), ← hW0]
    rfl
  have hHz : (((W0.setVm vm₁).setVm vm₂).setCell H.size ((preparedCellV T.toThrowableT (freshCell P1.m.cls kX) H.size ⟨u, hur⟩ ⟨sen, hsr⟩).setSlot T.fStack.slot u)).heap.size = H.size + 1 := by
    rw [size_setCell]
    show W0.heap.size = _
    rw [hW0]
    exact z1
  -- the object's fields
  have hborn := u_born tyX2 hts in_X2 hKn (by rw [hcc]; exact hk) (by rw [hcc]; exact e1) tyX2_ok
  have hap := va_apart (own := own) hts in_X2 tyX2 tyX2_ok nmX2 hK (ci := 2) rfl
  obtain ⟨cell0, g1, g2, g3, g4⟩ := hborn
  cases g1.symm.trans e1
  obtain ⟨cfc, kfc, fic, fc, ic1, ic2⟩ := hKn.1 0 (by decide)
  obtain ⟨cfs, kfs, fis, fs, is1, is2⟩ := hKn.1 1 (by decide)
  obtain ⟨cfp, kfp, fip, fp, ip1, ip2⟩ := hKn.1 2 (by decide)
  have a1 := ic1.symm.trans Y.cause
  simp only [Option.some.injEq, Prod.mk.injEq] at a1
  have a2 := is1.symm.trans Y.stack
  simp only [Option.some.injEq, Prod.mk.injEq] at a2
  have a3 := ip1.symm.trans Y.supp
  simp only [Option.some.injEq, Prod.mk.injEq] at a3
  have hOB : t_OB H.size (D.1 2) 7 (D.2 2) (((W0.setVm vm₁).setVm vm₂).setCell H.size ((preparedCellV T.toThrowableT (freshCell P1.m.cls kX) H.size ⟨u, hur⟩ ⟨sen, hsr⟩).setSlot T.fStack.slot u)).heap (vp_V [.ref H.size, u, sen, .null, .null, .int 0, .int 0]) := by
    refine t_OB.to (V := updV (updV (updV (updV (fun k => defaultValue (tyX2 k)) 0 (.ref H.size)) 1 u) 2 sen) 1 u) ⟨_, hHn, by rw [hcc]; rfl, rfl, ?_⟩ (fun j hj => zV_fault H.size u sen j hj)
    have s0 := t_set g4 hap (show 0 < 7 by decide) (.ref H.size)
    have s1 := t_set s0 hap (show 1 < 7 by decide) u
    have s2 := t_set s1 hap (show 2 < 7 by decide) sen
    have s3 := t_set s2 hap (show 1 < 7 by decide) u
    have c0 : T.fCause.slot = D.2 2 0 := by rw [← a1.2.2.2]; exact ic2
    have c1 : T.fStack.slot = D.2 2 1 := by rw [← a2.2.2.2]; exact is2
    have c2 : T.fSupp.slot = D.2 2 2 := by rw [← a3.2.2.2]; exact ip2
    show ∀ k, k < 7 → (((((freshCell P1.m.cls kX).setSlot T.fCause.slot (.ref H.size)).setSlot T.fStack.slot u).setSlot T.fSupp.slot sen).setSlot T.fStack.slot u).slots[D.2 2 k]? = _
    rw [c0, c1, c2]
    exact s3
  have hA0 : A H.size := hA _ hsz0
  obtain ⟨t, b1, b2⟩ := kk (h.2, zh_push h (.inr (2, [.ref h.2, u, sen, .null, .null, .int 0, .int 0]))) _ _ hf ⟨(hw.1.push (H1 := (((W0.setVm vm₁).setVm vm₂).setCell H.size ((preparedCellV T.toThrowableT (freshCell P1.m.cls kX) H.size ⟨u, hur⟩ ⟨sen, hsr⟩).setSlot T.fStack.slot u)).heap) hA0 ⟨(RX2, TX2, 7), rfl, rfl, by rw [← hsz]; exact hOB⟩ hHz (fun q hq => (hHo q (Nat.ne_of_lt hq)).trans (o1 q hq))), by rw [hHz]; exact Nat.le_trans hsz0 (Nat.le_succ _), fun q q1 q2 => by
      have hqn : q ≠ H.size := Nat.ne_of_lt (Nat.lt_of_lt_of_le q1 hsz0)
      rw [hHo q hqn, o1 q (Nat.lt_of_lt_of_le q1 hsz0)]
      exact hw.2.2.1 q q1 q2, fun q hq => by
      rcases List.mem_append.mp hq with h1 | h1
      · exact hw.2.2.2 q h1
      · have : q.base = H.size := by
          simp only [List.mem_cons, List.not_mem_nil, or_false] at h1
          rcases h1 with rfl | rfl | rfl | rfl <;> rfl
        rw [this]
        exact hA0⟩ _ rfl X₂
  rw [← hsz] at b1
  exact ⟨t, hstep₁ _ fun acts => by rw [doInvoke_state]; exact st2 t b1, b2⟩
