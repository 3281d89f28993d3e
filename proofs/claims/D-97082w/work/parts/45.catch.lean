/-! A THROW IS CAUGHT in the walked method by the first row that covers its place; the row's class may not be resolved yet -/
set_option maxRecDepth 100000
def zFinds (e : Env) (s : State) (f : JFrame) (a : Addr) (hpc : Nat) (vm' : Vm) : Prop := ∀ (Q : Handler → Pre) (E : CtlPost) (d : Bool) (acts : List Action), wp (findHandler f a) Q E e d acts s ↔ Q (.found hpc) d acts (s.setVm vm')
theorem zfind {e : Env} {s : State} {f : JFrame} {a : Addr} {meth : Method} {code : Code} (hm : s.vm.method? f.method = some meth) (hc : meth.code = some code) (pre : List ExceptionTableEntry) (x : ExceptionTableEntry) (rest : List ExceptionTableEntry) (hsplit : code.exceptionTable.toList = pre ++ x :: rest)
    (hskip : ∀ y ∈ pre, covers y f.pc = false) (hx : covers x f.pc = true) (h0 : x.catchType ≠ 0) {c : ClassId} {cell : Cell} (hl : s.vm.ClassLinks e.platform f.method.cls x.catchType c) (hcell : s.heap[a]? = some cell) (hobj : ∀ k, cell.vm ≠ .statics k)
    (hk : ∃ k, s.vm.classes[cell.cls]? = some k) (hcl : ∃ k, s.vm.classes[c]? = some k) (hfit : s.vm.assignable cell.cls c = true) : zFinds e s f a x.handlerPc (s.vm.noted f.method.cls x.catchType (.cls c)) := by
  intro Q E d acts
  rw [W.findHandler_eq hm hc, hsplit]
  clear hsplit
  induction pre with
  | nil =>
    rw [List.nil_append]
    obtain ⟨ha, ht⟩ := (resolveClass_links e.toSetting hl).op (op := VmOp.resolveClass f.method.cls x.catchType) rfl
    have hal : s.vm.Alike (s.vm.noted f.method.cls x.catchType (.cls c)) := (Vm.Alike.refl s.vm).noted _ _ _
    obtain ⟨k1, hk1⟩ := hk
    obtain ⟨k2, hk2⟩ := hcl
    obtain ⟨k1', hk1', -⟩ := hal.2.2 _ _ hk1
    obtain ⟨k2', hk2', -⟩ := hal.2.2 _ _ hk2
    have hfit' : (s.vm.noted f.method.cls x.catchType (.cls c)).assignable cell.cls c = true := by rw [hal.assignable]; exact hfit
    simp only [covers] at hx
    simp [findHandler.go, hx, h0, ha, ht, hcell, hobj, hk1', hk2', hfit', VmOp.dirties, VmOp.acts]
  | cons y ys ih =>
    rw [List.cons_append, W.findHandler_go_skip (hskip y (List.mem_cons_self ..))]
    exact ih (fun z hz => hskip z (List.mem_cons_of_mem _ hz))
theorem zst_caught {tb : Tables} {e : Env} {s target : State} {g : JFrame} {c : Code} {below : List Frame} {a : Addr} (h : At s g.method c below) {pc : Nat} {vm' : Vm}
    (hfind : zFinds e ((s.setTop g).pushFrame (.throwing a)) g a pc vm') (hrest : Steps tb e below ((s.setVm vm').setTop { g with pc := pc, stack := [.ref a] }) target) : Steps tb e below ((s.setTop g).pushFrame (.throwing a)) target := by
  obtain ⟨hgo, hw⟩ := h.throwing a
  refine Steps.head hgo hw ?_
  have hstep : (stepThrowing e ((s.setTop g).pushFrame (.throwing a)) a (.java g :: s.frames.tail)).1 = (((s.setTop g).pushFrame (.throwing a)).setVm vm').setFrames (.java { g with pc := pc, stack := [.ref a] } :: s.frames.tail) := by
    simp only [stepThrowing, searchFrame, vmDo]
    generalize hr : Sem.go _ e false [] _ = res
    obtain ⟨as, rfl, ha⟩ := Sem.eq_ok_of hr (a := Handler.found pc) (s' := ((s.setTop g).pushFrame (.throwing a)).setVm vm') (acts' := []) (by simp [hfind _ _ _ _])
    rfl
  obtain ⟨g₀, hg⟩ := Option.isSome_iff_exists.mp h.top
  obtain ⟨r, hr⟩ := State.topJava?_eq_some.mp hg
  rw [stepThread_throwing (frames_entered h.top _), hstep]
  have hr' : (s.setVm vm').frames = .java g₀ :: r := hr
  rw [State.setTop_of_frames _ hr'] at hrest
  have e1 : ∀ (u : State) (F G : List Frame), ((u.setFrames F).setVm vm').setFrames G = (u.setVm vm').setFrames G := by
    intro u F G
    have h1 : (u.setFrames F).setVm vm' = (u.setVm vm').setFrames F := rfl
    rw [h1, State.setFrames_setFrames]
  rw [hr, List.tail_cons, State.pushFrame, e1, State.setTop_of_frames _ hr, e1]
  exact hrest
section ZC4
variable {p : Program} {l : Launch} {e : Env} {R : Room} {s : State} {m : MethodId} {args : Array Value} {below : List Frame} {meth : Method} {c : Code} {T : State} {H : Heap} {locs : List Loc} {cells slots : Nat} {Q : State → Prop}
theorem zcatch (X : Stand p l e R s m args below meth c T locs cells slots) {a : Addr} {g : JFrame} (hg : g.method = m) {cell : Cell} (hcell : T.heap[a]? = some cell) (hobj : cell.vm.isStatics = false) {own nm : String} (hown : s.vm.findClass own = some m.cls)
    (pre : List ExceptionTableEntry) (x : ExceptionTableEntry) (rest : List ExceptionTableEntry) (hsplit : c.exceptionTable.toList = pre ++ x :: rest) (hskip : ∀ y ∈ pre, covers y g.pc = false) (hx : covers x g.pc = true) (h0 : x.catchType ≠ 0) (hlink : (Cond.classLink own x.catchType nm).before args s = true) {cT : ClassId} (hcT : s.vm.findClass nm = some cT) (hk : ∃ k, s.vm.classes[cell.cls]? = some k) (hfit : s.vm.assignable cell.cls cT = true) :
    ∃ vm', Stand p l e R s m args below meth c (T.setVm vm') locs cells slots ∧ ∀ target, Steps p.tables e below ((T.setVm vm').setTop { g with pc := x.handlerPc, stack := [.ref a] }) target → Steps p.tables e below ((T.setTop g).pushFrame (.throwing a)) target := by
  have hpl : e.platform.magicAccessors = ({} : Platform).magicAccessors := by rw [X.admits.platform]
  obtain ⟨c', hc', hcl⟩ := Cond.classLink_spec hown hlink e.platform hpl
  cases hcT.symm.trans hc'
  obtain ⟨dk, _, _, kt, hd, _, _, _, _, hkt, _, hopen⟩ := hcl.here
  have hcl₀ := X.warmed.classLinks hcl
  have hW' : s.WarmedH (T.vm.noted m.cls x.catchType (.cls cT)) := X.warmed.noted hd hopen (State.rightAt_cls hcl)
  obtain ⟨k0, hk0⟩ := hk
  obtain ⟨k0', hk0', -⟩ := X.warmed.alike.2.2 _ _ hk0
  obtain ⟨kt', hkt', -⟩ := X.warmed.alike.2.2 _ _ hkt
  refine ⟨T.vm.noted m.cls x.catchType (.cls cT), X.noted hW', fun target hrest => ?_⟩
  subst hg
  refine zst_caught X.here (pc := x.handlerPc) (vm' := T.vm.noted g.method.cls x.catchType (.cls cT)) ?_ hrest
  exact zfind (e := e) (s := (T.setTop g).pushFrame (.throwing a)) (f := g) (a := a) (meth := meth) (code := c) X.method' X.code pre x rest hsplit hskip hx h0 hcl₀ hcell (VmData.noStatics_of hobj) ⟨k0', hk0'⟩ ⟨kt', hkt'⟩ (by show T.vm.assignable _ _ = true; rw [X.warmed.alike.assignable]; exact hfit)
/-- the table's row i, out of the word's list -/
theorem ztb_row {c : Code} {tb : zTb} (htb : zTbl c tb) (i : Nat) {q : Nat × Nat × Nat × Nat} (hi : tb[i]? = some q) : ∃ (pre : List ExceptionTableEntry) (x : ExceptionTableEntry) (rest : List ExceptionTableEntry), c.exceptionTable.toList = pre ++ x :: rest ∧ pre.map (fun h => (h.startPc, h.endPc, h.handlerPc, h.catchType)) = tb.take i ∧ (x.startPc, x.endPc, x.handlerPc, x.catchType) = q := by
  have hlen : i < c.exceptionTable.toList.length := by
    have h1 := (List.getElem?_eq_some_iff.mp hi).1
    rw [← htb, List.length_map] at h1
    exact h1
  refine ⟨c.exceptionTable.toList.take i, c.exceptionTable.toList[i], c.exceptionTable.toList.drop (i + 1), ?_, ?_, ?_⟩
  · rw [← List.drop_eq_getElem_cons hlen, List.take_append_drop]
  · rw [List.map_take, htb]
  · have h2 : (c.exceptionTable.toList.map (fun h => (h.startPc, h.endPc, h.handlerPc, h.catchType)))[i]? = some q := by rw [show c.exceptionTable.toList.map _ = tb from htb]; exact hi
    rw [List.getElem?_map, List.getElem?_eq_getElem hlen] at h2
    exact Option.some.inj h2
variable {D : va_G} {A : Nat → Prop} {E : State → Prop} {cc : ByteArray} {nL : Nat} {own : String} {ret : Option FieldType} {h : zT} {pc : Nat} {ls : Array Slot} {rest : List Value} {β : Type} {res : β} {mc1 ms1 : Nat} {tb : zTb}
/-- an object of ours that is thrown is caught by row i, whose class is its own -/
theorem zw_caught (X : zCx p s m args meth c D A E cc nL own ret) (hw : zWh D A s H h locs) (htb : zTbl c tb) {x ci : Nat} {fs : List Value} {qc : vw_C} (hxo : h.1 x = some (.inr (ci, fs))) (hqc : zCl[ci]? = some qc) (i : Nat) {q : Nat × Nat × Nat × Nat} (hi : tb[i]? = some q) (hskip : ∀ y ∈ tb.take i, ¬ (y.1 ≤ pc ∧ pc < y.2.1)) (hcov : q.1 ≤ pc ∧ pc < q.2.1) (h0 : q.2.2.2 ≠ 0) (hlink : Cond.classLink own q.2.2.2 qc.1 ∈ lw_all)
    (k : W p l e R s m args below meth c H locs cells slots Q (F0 m q.2.2.1 ls [.ref x])) : zTw p l e R s m args below meth c H locs cells slots Q (F0 m pc ls rest) x := by
  intro T hT X0
  obtain ⟨⟨hx, hb, hml, hown, hts⟩, -, -, hK, -⟩ := X
  obtain ⟨pre, row, rs, e1, e2, e3⟩ := ztb_row htb i hi
  obtain ⟨r0, j1, j2, cell, d1, d2, d3, -⟩ := (hw.1.2 x _ hxo).2
  have hat := (hK.1 ci qc hqc).2
  obtain ⟨kC, hkC, -⟩ := hat.2
  subst e3
  obtain ⟨vm', X', st⟩ := zcatch X0 (a := x) (g := F0 m pc ls rest) rfl (by rw [hT]; exact d1) (by rw [d3]; rfl) hown pre row rs e1 (fun y hy => by
      have h3 : (y.startPc, y.endPc, y.handlerPc, y.catchType) ∈ tb.take i := by rw [← e2]; exact List.mem_map.mpr ⟨y, hy, rfl⟩
      have h4 := hskip _ h3
      cases hc : covers y (F0 m pc ls rest).pc with
      | false => rfl
      | true =>
        exfalso
        apply h4
        have : y.startPc ≤ pc ∧ pc < y.endPc := by simpa [covers] using hc
        exact this) (by simp [covers, hcov.1, hcov.2]) h0 (hts _ hlink) hat.1 ⟨kC, by rw [d2]; exact hkC⟩ (by rw [d2]; exact va_assign hat)
  obtain ⟨t, a1, b1⟩ := k (T.setVm vm') hT X'
  exact ⟨t, st t a1, b1⟩
/-- a call of a method that may throw, where a throw is caught -/
theorem zx_callC {F : Option ((Nat ⊕ Nat) × zT)} {Kt : Nat → zT → Option β} {K : Nat → zT → Option β} {st0 : List Value} {a : Array Value} (hw : zWh D A s H h locs) (hf : zxc F Kt K = some res)
    (hr : ∀ r, F = some r → zRT p l e R s m args below meth c H locs cells slots mc1 ms1 (F0 m pc ls st0) rest (zQX D A (zoR r.1) r.2 a) A)
    (kt : ∀ (x : Nat) (h1 : zT) (H1 : Heap) (locs1 : List Loc), Kt x h1 = some res → zWh D A s H1 h1 locs1 → zTw p l e R s m args below meth c H1 locs1 (cells + mc1) (slots + ms1) Q (F0 m pc ls rest) x)
    (kk : ∀ (v : Nat) (h1 : zT) (H1 : Heap) (locs1 : List Loc), K v h1 = some res → zWh D A s H1 h1 locs1 → W p l e R s m args below meth c H1 locs1 (cells + mc1) (slots + ms1) Q (F0 m (pc + 3) ls (.ref v :: rest))) :
    W p l e R s m args below meth c H locs cells slots Q (F0 m pc ls st0) := by
  obtain ⟨⟨r, h9⟩, q1, q2⟩ := zbd hf
  refine zw_tcall (hr _ q1) hw fun H1 locs1 hw1 => ?_
  cases r with
  | inl x => exact kt x h9 H1 locs1 q2 hw1
  | inr v => exact kk v h9 H1 locs1 q2 hw1
end ZC4
