/-! THE INTERFACES' DEFAULTS (Says.says, Trusted.gains): both answer their first number. No word says that their interfaces are initialised, so no contract serves: the call is walked into and out of. -/
set_option maxRecDepth 100000
section ZD1
variable {e : Env} {s : State} {g : JFrame} {c : Code} {below : List Frame}
/-- into a method 'iload_1; ireturn' and out of it again -/
theorem zargInline {p : Program} {target : State} (h : At s g.method c below) (hexec : p.tables.exec = Jvm.exec) {m : MethodId} {meth : Method} {code : Code} {a : Array Value} {ig : Instr} {len : Nat} {v : Int32} (acts : List Action)
    (hm : s.vm.method? m = some meth) (hc : meth.code = some code) (hl : meth.locks = false) (hp : s.plainMethod m) (hret : meth.sig.returnType = some .int)
    (h0 : decode code.code 0 = .ok (.iload_n 1, 1)) (h1 : decode code.code 1 = .ok (.ireturn, 1)) (hloc : (entryFrame m a code.maxLocals).locals[1]? = some (.val (.int v)))
    (hroom : e.platform.stackFull (((s.setTop g).threads[(s.setTop g).cur]?).getD { frames := [] }) (s.setTop g).frames code.maxLocals = false)
    (hdg : decode c.code g.pc = .ok (ig, len))
    (hrest : Steps p.tables e below (s.setTop { g with pc := g.pc + len, stack := (.int v) :: g.stack }) target) :
    Steps p.tables e below (doInvoke e (s.setTop g) acts m a).1 target := by
  rw [doInvoke_enter h.top acts hm hc hl hroom]
  have hA : At ((s.setTop g).pushFrame (.java (entryFrame m a code.maxLocals))) m code below := h.enter a hm hc hp
  have hfr := frames_entered (g := g) h.top (.java (entryFrame m a code.maxLocals))
  have hback : ((s.setTop g).pushFrame (.java (entryFrame m a code.maxLocals))).setFrames (.java g :: s.frames.tail) = s.setTop g := setFrames_entered (g := g) h.top (.java (entryFrame m a code.maxLocals))
  have hvm : ((s.setTop g).pushFrame (.java (entryFrame m a code.maxLocals))).vm = s.vm := rfl
  have hcg : ((s.setTop g).pushFrame (.java (entryFrame m a code.maxLocals))).code? g.method = some c := by
    have := h.code
    rw [State.code?_eq] at this ⊢
    simpa [State.pushFrame, State.setFrames] using this
  generalize (s.setTop g).pushFrame (.java (entryFrame m a code.maxLocals)) = u at hA hfr hback hvm hcg ⊢
  have hm' : u.vm.method? m = some meth := by rw [hvm]; exact hm
  have he : entryFrame m a code.maxLocals = F0 m 0 (entryFrame m a code.maxLocals).locals [] := rfl
  rw [he]
  generalize (entryFrame m a code.maxLocals).locals = ls at hloc ⊢
  jvm_step hA [hexec, h0, hloc]
  jvm_step hA [hA.top, hexec, h1, hm', hret, narrow]
  intro acts'
  rw [doReturn_leave (g := g) (meth := meth) (cg := c) (ig := ig) (len := len) acts' (show u.frames = _ from hfr) (show u.vm.method? m = some meth from hm') hl rfl rfl hcg hdg, hback, State.setTop_setTop]
  simpa using hrest
end ZD1
/-- the call of such a method comes back with its first number, and nothing changes -/
theorem zbk {l : Launch} {R : Room} {p : Program} {e : Env} {below : List Frame} {s : State} {args : Array Value} {y : MethodName} {cc : ByteArray} {nL : Nat} {D : va_G} {A : Nat → Prop} {E : State → Prop} {h : zT} {av : List Value} {v : Int32}
    (hexec : p.tables.exec = Jvm.exec) (hcode : (Cond.code y cc nL (some .int)).before args s = true) (hplain : plainName y.cls = true) (h0 : decode cc 0 = .ok (.iload_n 1, 1)) (h1 : decode cc 1 = .ok (.ireturn, 1))
    (hloc : ∀ m : MethodId, (entryFrame m av.toArray nL).locals[1]? = some (.val (.int v))) (hR : 1 ≤ R.frames ∧ 8 + (nL + 11) ≤ R.locals) :
    Back l R p e below s args y 3 8 (PreOf R 0 0 (zPW D A E h av)) (PostOf (zQW D A (some (.int v)) h) 0 0 A) := by
  intro m meth c P g ig mk a X hg hsize hdg hW hn hp
  obtain ⟨-, -, rfl, q2, q3, q4, q5⟩ := hp
  have hc2 : (Cond.code y cc nL (some .int)).before av.toArray P.U = true := word_at X.warmed (Or.inl rfl) hcode
  obtain ⟨methY, cY, hmY, hcY, hbY, hlY, hrY, hloY, -, -⟩ := Cond.code_spec hn hc2
  subst hg
  refine ⟨some (.int v), P, X, ⟨g, mk, P.U, [], rfl, rfl, ⟨rfl, q2, Nat.le_refl _, fun _ _ _ => rfl⟩, (List.append_nil _).symm, (fun _ h => by cases h), rfl, rfl⟩, ?_⟩
  refine zargInline X.here hexec [] hmY hcY hloY (State.plainMethod.of_named (plainFor_of_name hplain) hn hmY) hrY (by rw [hbY]; exact h0) (by rw [hbY]; exact h1) (by rw [hlY]; exact hloc mk) (X.notFull hsize hR.1 (by rw [hlY]; omega)) hdg (Steps.refl _)
section ZD2
variable {p : Program} {l : Launch} {e : Env} {R : Room} {s : State} {m : MethodId} {args : Array Value} {below : List Frame} {meth : Method} {c : Code} {H : Heap} {locs : List Loc} {cells slots : Nat}
/-- which method a call selects, told of the method that resolution finds -/
theorem zsel {C owner : String} {x y : MethodName} (hsame : (Cond.sameMethod x.cls owner x.name x.desc).before args s = true) (howner : owner ≠ "java/lang/invoke/MethodHandle" ∧ owner ≠ "java/lang/invoke/VarHandle") (h : (Cond.selects C ⟨owner, x.name, x.desc⟩ y).before args s = true) : (Cond.selects C x y).before args s = true := by
  obtain ⟨cn, ck, r1, hcn, hck, hni, hf, hn1⟩ := Cond.sameMethod_found hsame
  have hf2 : s.methodFound? owner x.name x.desc = some r1 := State.methodFound?_of_named (x := ⟨owner, x.name, x.desc⟩) hn1 howner
  simp only [Cond.before, Cond.holds, Cond.value, hf, hf2] at h ⊢
  exact h
theorem zcwD {own C owner : String} {index maxL mc ms : Nat} {x y : MethodName} {bytes : ByteArray} {ret : Option FieldType} {ws' : List Cond} {rm : Room} {Ts ws : List Cond} (n : Nat) (ht : ∀ w ∈ Ts, w.before args s = true) (hG : GoodIn Ts ws) (hw : ws = Cond.code y bytes maxL ret :: ws') (hrc : rm.cells = mc) (hrs : rm.slots = ms)
    (hlink : (Cond.methodLink own index x).before args s = true) (hsame : (Cond.sameMethod x.cls owner x.name x.desc).before args s = true) (hdecl : va_Decl s ⟨owner, x.name, x.desc⟩) (hsel : (Cond.selects C ⟨owner, x.name, x.desc⟩ y).before args s = true) (hinst : (Cond.instanceMethod y).before args s = true) (hini : (Cond.initialized y.cls).before args s = true)
    (hd : owner ≠ "java/lang/invoke/MethodHandle" ∧ owner ≠ "java/lang/invoke/VarHandle" ∧ (parseMethodDescriptor x.desc).map (fun d => d.parameters.length) = some n) (hR : rm.frames + 1 ≤ R.frames ∧ 8 + (maxL + 11) + rm.locals ≤ R.locals) : va_CU R s args own C owner index x y bytes maxL ret ws rm mc ms n := by
  have hc : Cond.code y bytes maxL ret ∈ ws := by rw [hw]; exact List.mem_cons_self
  refine ⟨⟨hrc, hrs, hR.1, hR.2, pay_in ht hG, hc⟩, ht _ (hG _ hc).1, hini, ⟨hd.1, hd.2.1⟩, fun sig h => ?_, hlink, hsame, hdecl, zsel hsame ⟨hd.1, hd.2.1⟩ hsel, hinst⟩
  have h2 := hd.2.2
  rw [h] at h2
  exact (Option.some.inj h2).symm
end ZD2
/-! the machine's own steps at a call that lands in a default -/
section ZD3
variable {Q : Unit → Pre} {E : CtlPost} {e : Env} {d : Bool} {acts : List Action} {s : State} {f : JFrame}
theorem zsd_sel {Q : Selection → Pre} {c : ClassId} {r m : MethodId} {rmeth meth : Method} {mk : Class} (hsel : selectMethod e.platform s.vm c r = .method m) (hrm : s.vm.method? r = some rmeth) (hm : s.vm.method? m = some meth)
    (hmk : s.vm.classes[m.cls]? = some mk) (hitf : mk.isInterface = true) (hnear : znearOk s.vm c rmeth.name rmeth.desc m) : wp (invokeinterface.selectVirtual c r) Q E e d acts s ↔ Q (.method m) d acts s := by
  cases hp : e.platform.privateHidesDefault
  · simp [invokeinterface.selectVirtual, hrm, selectFor_method hsel hm, hmk, hitf, hp]
  · cases hn : nearestHeld s.vm c rmeth.name rmeth.desc with
    | none => simp [invokeinterface.selectVirtual, hrm, selectFor_method hsel hm, hmk, hitf, hp, hn]
    | some kh =>
      obtain ⟨k, hd⟩ := kh
      cases hd with
      | nothing => simp [invokeinterface.selectVirtual, hrm, selectFor_method hsel hm, hmk, hitf, hp, hn]
      | default d' => cases hnear.1 k d' hn; simp [invokeinterface.selectVirtual, hrm, selectFor_method hsel hm, hmk, hitf, hp, hn]
      | thrower b => exact absurd hn (hnear.2 k b)
theorem zsd_wp {index a : Nat} {r m : MethodId} {c' : ClassId} {k k' mk : Class} {rmeth meth : Method} {args rest : List Value} {cell : Cell}
    (hs : s.topJava?.isSome) (hnamed : namesResolved s.vm f.method.cls index c') (hk' : s.vm.classes[c']? = some k') (hclass : k'.isInterface = false)
    (hr : s.vm.methodReady f.method.cls index r) (hk : s.vm.classes[r.cls]? = some k) (hrm : s.vm.method? r = some rmeth) (hpoly : signaturePolymorphic k rmeth = false) (hstatic : rmeth.isStatic = false)
    (hlen : args.length = rmeth.sig.parameters.length) (hstack : f.stack = args.reverse ++ .ref a :: rest) (hcell : s.heap[a]? = some cell) (hobj : ∀ c, cell.vm ≠ .statics c)
    (hsel : selectMethod e.platform s.vm cell.cls r = .method m) (hm : s.vm.method? m = some meth) (habs : meth.isAbstract = false)
    (hmk : s.vm.classes[m.cls]? = some mk) (hitf : mk.isInterface = true) (hnear : znearOk s.vm cell.cls rmeth.name rmeth.desc m) :
    wp (invokevirtual.sem index) Q E e d acts (s.setTop f) ↔ E (.invoke m (.ref a :: args).toArray) acts (s.setTop { f with stack := rest }) := by
  obtain ⟨kc, cf, ci, n, h1, h2, h3, h4⟩ := hnamed
  have hpre : ∀ {Q' : ClassId → Pre}, wp (Jvm.refClassAt index) Q' E e d acts (s.setTop f) ↔ Q' c' d acts (s.setTop f) := by
    intro Q'
    rcases h3 with h3 | h3 <;>
      simp [Jvm.refClassAt, Jvm.constantAt, State.method?_setTop f hs, h1, h2, h3, W.resolveClassAt_ready (State.method?_setTop f hs) h4]
  simp only [invokevirtual.sem, wp_bind', hpre, W.theClass, State.vm_setTop, hk', Option.some.injEq, exists_eq_left', W.ite, hclass, Bool.false_eq_true, if_false, wp_pure',
    W.resolveMethodAt_ready (State.method?_setTop f hs) hr]
  simp only [W.theMethod, State.vm_setTop, hrm, Option.some.injEq, exists_eq_left', Seam.isPolymorphic, wp_bind', W.theClass, hk, wp_pure', hpoly,
    W.ite, Bool.false_eq_true, if_false, hstatic, Jvm.popArgs, ← hlen, popN_top hs hstack]
  simp [hs, hcell, hobj, zsd_sel (s := s.setTop _) (show selectMethod e.platform (s.setTop _).vm cell.cls r = .method m from hsel) hrm hm hmk hitf hnear, hm, habs]
end ZD3
section ZD4
variable {p : Program} {l : Launch} {e : Env} {R : Room} {s : State} {m : MethodId} {args : Array Value} {below : List Frame} {meth : Method} {c : Code} {T : State} {locs : List Loc} {cells slots : Nat}
theorem zsd_inv (X : Stand p l e R s m args below meth c T locs cells slots) (hexec : p.tables.exec = Jvm.exec)
    {own owner : String} {index : Nat} {x : MethodName} (hown : s.vm.findClass own = some m.cls) (hlink : (Cond.methodLink own index x).before args s = true)
    (hsame : (Cond.sameMethod x.cls owner x.name x.desc).before args s = true) (howner : owner ≠ "java/lang/invoke/MethodHandle" ∧ owner ≠ "java/lang/invoke/VarHandle")
    {r0 : MethodId} {r : Method} (hn : s.methodNamed? ⟨owner, x.name, x.desc⟩ = some r0) (hrm : s.vm.method? r0 = some r) (hstatic : r.isStatic = false)
    {a : Addr} {cell : Cell} (hcell : T.heap[a]? = some cell) (hobj : ∀ c, cell.vm ≠ .statics c)
    {m' : MethodId} {meth' : Method} {mk : Class} (hsel : selectMethod e.platform s.vm cell.cls r0 = .method m') (hm' : s.vm.method? m' = some meth') (habs : meth'.isAbstract = false)
    (hmk : s.vm.classes[m'.cls]? = some mk) (hitf : mk.isInterface = true) (hnear : znearOk s.vm cell.cls r.name r.desc m')
    {g : JFrame} (hg : g.method = m) {argsL rest : List Value} (hlen : argsL.length = r.sig.parameters.length) (hstack : g.stack = argsL.reverse ++ .ref a :: rest)
    (hdg : decode c.code g.pc = .ok (.invokevirtual index, 3)) :
    ∃ vm', Stand p l e R s m args below meth c (T.setVm vm') locs cells slots ∧
      ∀ target, (∀ acts, Steps p.tables e below (doInvoke e ((T.setVm vm').setTop { g with stack := rest }) acts m' (.ref a :: argsL).toArray).1 target) → Steps p.tables e below (T.setTop g) target := by
  have hpl : e.platform.magicAccessors = ({} : Platform).magicAccessors := by rw [X.admits.platform]
  obtain ⟨cn, ck, r1, hcn, hck, hni, hf, hn1⟩ := Cond.sameMethod_found hsame
  cases hn.symm.trans hn1
  obtain ⟨ci, hl, hright⟩ := Cond.methodLink_specUp hown hcn hck hni hf hlink e.platform hpl (by rw [X.admits.platform])
  have hE : s.MethodEntryUp e T.vm m.cls index cn r0 ci := State.methodEntryUp X.warmed hl hright
  obtain ⟨kr, hkr, hnr⟩ := className_of_methodNamed hn
  obtain ⟨dk, cfile, nt, _, _, _, _, _, hd, hcf, hcp, -⟩ := hl.here
  have alike := hE.warmed.alike
  obtain ⟨dk₂, hdk₂, hres⟩ := hE.classReady
  obtain ⟨dk₃, hdk₃, hed⟩ := alike.2.2 _ _ hd
  cases hdk₂.symm.trans hdk₃
  obtain ⟨kr₂, hkr₂, her⟩ := alike.2.2 _ _ hkr
  obtain ⟨ck₂, hck₂, hec⟩ := alike.2.2 _ _ hck
  obtain ⟨mk₂, hmk₂, hem⟩ := alike.2.2 _ _ hmk
  have hnear2 : znearOk (T.vm.calledUp m.cls ci index cn r0) cell.cls r.name r.desc m' := by unfold znearOk; rw [znear alike]; exact hnear
  refine ⟨T.vm.calledUp m.cls ci index cn r0, X.noted hE.warmed, fun target hrest => ?_⟩
  subst hg
  jvm_step X.here [hexec, hdg, invokevirtual.wp_coldUp (e := e) (s := T) (s₀ := s) (f := g) X.here.top X.warmed hE hd hcf (Or.inl hcp) hck hni,
    zsd_wp (e := e) (s := T.setVm (T.vm.calledUp g.method.cls ci index cn r0)) (f := g) (r := r0) (m := m') (c' := cn) (k := kr₂) (k' := ck₂) (mk := mk₂) (rmeth := r) (meth := meth') (a := a) (args := argsL) (rest := rest) (cell := cell)
      X.here.top ⟨dk₂, cfile, ci, nt, hdk₂, by rw [hed]; exact hcf, Or.inl hcp, dk₂, hdk₂, hres⟩ hck₂ (by rw [hec]; exact hni) hE.ready hkr₂
      (by show (T.vm.calledUp g.method.cls ci index cn r0).method? r0 = some r; rw [alike.method?]; exact hrm)
      (by rw [her]; show signaturePolymorphic kr r = false; simp [signaturePolymorphic, hnr, howner.1, howner.2]) hstatic hlen hstack hcell hobj
      (by show selectMethod e.platform (T.vm.calledUp g.method.cls ci index cn r0) cell.cls r0 = .method m'; rw [alike.selectMethod]; exact hsel)
      (by show (T.vm.calledUp g.method.cls ci index cn r0).method? m' = some meth'; rw [alike.method?]; exact hm') habs hmk₂ (by rw [hem]; exact hitf) hnear2]
  exact hrest
variable {H : Heap}
/-- a call through an object that lands in a default -/
theorem zrunVD {x y : MethodName} {cc : ByteArray} {nL n index : Nat} {Pc : Array Value → State → Prop} {Qc : Array Value → State → Outcome → State → Prop} {free : Addr → Prop} {Ts : List Cond} {own C owner : String} {b : Addr} {As rest : List Value} {g : JFrame}
    (S : CallFix p m c cc nL s args Ts own) (hK : Back l R p e below s args y 3 8 (PreOf R 0 0 Pc) (PostOf Qc 0 0 free))
    (hlink : (Cond.methodLink own index x).before args s = true) (hsame : (Cond.sameMethod x.cls owner x.name x.desc).before args s = true) (hdecl : va_Decl s ⟨owner, x.name, x.desc⟩) (hland : zLand C x y s) (hinst : (Cond.instanceMethod y).before args s = true)
    (hd : owner ≠ "java/lang/invoke/MethodHandle" ∧ owner ≠ "java/lang/invoke/VarHandle" ∧ (parseMethodDescriptor x.desc).map (fun d => d.parameters.length) = some n) (hp : PreV s H C b Pc As)
    (hg : g.method = m) (hn : As.length = n) (hsize : g.locals.size = nL) (hstack : g.stack = As.reverse ++ .ref b :: rest) (hW : 2 * g.monitorRoom + (rest.map fun v => v.category).sum ≤ 8) (hdg : decode cc g.pc = .ok (.invokevirtual index, 3)) (hf : cells + 0 ≤ R.cells ∧ slots + 0 ≤ R.slots) :
    va_Run p l e R s m args below meth c H locs cells slots 0 0 g rest (Qc (Value.ref b :: As).toArray) (free) := by
  obtain ⟨hx, hb, hml, ho, -⟩ := S
  obtain ⟨-, ⟨cellB, hcB, hoB, hclB⟩, hPc⟩ := hp
  obtain ⟨r0, r, hnm, hrm, hstR, hsigR⟩ := hdecl
  obtain ⟨cn, ck, r1, hcn, hck, hni, hfn, hn1⟩ := Cond.sameMethod_found hsame
  cases hnm.symm.trans hn1
  obtain ⟨mk, methM, hnamed, hmethM, -, habM⟩ := Cond.instanceMethod_spec hinst
  obtain ⟨c2, r2, m2, rm, q1, q2, q3, q5, q4, ⟨kP, hkP, hkPi⟩, -, q7⟩ := hland
  cases hclB.symm.trans q1
  cases hfn.symm.trans q2
  cases hnamed.symm.trans q3
  cases hrm.symm.trans q5
  intro T hT X
  have hselP : selectMethod e.platform s.vm cellB.cls r0 = .method mk := by rw [Launch.admits_selectMethod X.admits]; exact q4
  obtain ⟨vm₁, X₁, hstep₁⟩ := zsd_inv X hx ho hlink hsame ⟨hd.1, hd.2.1⟩ hnm hrm hstR (a := b) (cell := cellB) (by rw [hT]; exact hcB)
    (fun z h => by rw [h] at hoB; cases hoB) hselP hmethM habM hkP hkPi q7 (g := g) hg (argsL := As) (rest := rest) (by have h2 := hd.2.2; rw [hsigR] at h2; rw [hn]; exact (Option.some.inj h2).symm) hstack (by rw [hb]; exact hdg)
  obtain ⟨v, ⟨U', l2, c2, s2⟩, X', ⟨g', mk2, t, L, e1, e2, hq, h1, hL, h2, h3⟩, hsteps⟩ := hK m meth c ⟨T.setVm vm₁, locs, cells, slots⟩ { g with stack := rest } (.invokevirtual index) mk (Value.ref b :: As).toArray X₁ hg (hsize.trans hml.symm) (by rw [hb]; exact hdg) hW (X₁.named hnamed) ⟨hf.1, hf.2, hPc (T.setVm vm₁) hT X₁.warmed⟩
  dsimp only [Pt.U, Pt.locs, Pt.cells, Pt.slots] at X' e1 e2 h1 h2 h3 hsteps
  subst h1; subst h2; subst h3
  exact ⟨v, (T.setVm vm₁).calling g' mk2 (Value.ref b :: As).toArray, t, U', L, hT, X', hL, e1, e2, hq, fun target h => hstep₁ _ fun acts => by rw [doInvoke_state]; exact hsteps.trans h⟩
end ZD4
/-! super.m() where m is found as a default of an interface above: what invokespecial's own lookup finds -/
theorem zpig : ∀ (n : Nat) (f : Nat → Nat), (∀ i, i ≤ n → f i < n) → ∃ i j, i < j ∧ j ≤ n ∧ f i = f j := by
  intro n
  induction n with
  | zero => intro f h; exact absurd (h 0 (Nat.le_refl _)) (Nat.not_lt_zero _)
  | succ n ih =>
    intro f h
    by_cases he : ∃ i, i ≤ n ∧ f i = f (n + 1)
    · obtain ⟨i, h1, h2⟩ := he
      exact ⟨i, n + 1, by omega, Nat.le_refl _, h2⟩
    · have hne : ∀ i, i ≤ n → f i ≠ f (n + 1) := fun i hi hq => he ⟨i, hi, hq⟩
      have hv := h (n + 1) (Nat.le_refl _)
      obtain ⟨i, j, h1, h2, h3⟩ := ih (fun i => if f (n + 1) < f i then f i - 1 else f i) (fun i hi => by
        have a := h i (by omega)
        have b := hne i hi
        show (if f (n + 1) < f i then f i - 1 else f i) < n
        split <;> omega)
      refine ⟨i, j, h1, by omega, ?_⟩
      have a := hne i (by omega)
      have b := hne j h2
      have h3 : (if f (n + 1) < f i then f i - 1 else f i) = (if f (n + 1) < f j then f j - 1 else f j) := h3
      split at h3 <;> split at h3 <;> omega
/-- the class k steps above c -/
def zup (vm : Vm) : Nat → ClassId → Option ClassId
  | 0, c => some c
  | n + 1, c => (vm.classes[c]?.bind (·.super)).bind (zup vm n)
theorem zup_add (vm : Vm) : ∀ (a b : Nat) (c : ClassId), zup vm (a + b) c = (zup vm a c).bind (zup vm b) := by
  intro a
  induction a with
  | zero => intro b c; simp [zup]
  | succ a ih =>
    intro b c
    rw [Nat.add_right_comm]
    show (vm.classes[c]?.bind (·.super)).bind (zup vm (a + b)) = ((vm.classes[c]?.bind (·.super)).bind (zup vm a)).bind (zup vm b)
    cases vm.classes[c]?.bind (·.super) with
    | none => rfl
    | some q => exact ih b q
theorem zup_none (vm : Vm) (name desc : String) : ∀ (n : Nat) (c : ClassId), lookupInSuperclasses vm name desc (n + 1) c = none → ∀ (k : Nat), k ≤ n → ∀ q, zup vm k c = some q → ownMethod vm name desc q = none := by
  intro n
  induction n with
  | zero =>
    intro c h k hk q hq
    obtain rfl : k = 0 := by omega
    have hq : some c = some q := hq
    cases hq
    cases hc : vm.classes[c]? with
    | none => simp [ownMethod, hc]
    | some kc =>
      cases hf : kc.findMethod name desc with
      | none => simp [ownMethod, hc, hf]
      | some i => simp [lookupInSuperclasses, hc, hf] at h
  | succ n ih =>
    intro c h k hk q hq
    have hown : ownMethod vm name desc c = none := by
      cases hc : vm.classes[c]? with
      | none => simp [ownMethod, hc]
      | some kc =>
        cases hf : kc.findMethod name desc with
        | none => simp [ownMethod, hc, hf]
        | some i => unfold lookupInSuperclasses at h; simp [hc, hf] at h
    cases k with
    | zero =>
      have hq : some c = some q := hq
      cases hq
      exact hown
    | succ k =>
      have hq : (vm.classes[c]?.bind (·.super)).bind (zup vm k) = some q := hq
      obtain ⟨p, hp, hq⟩ := Option.bind_eq_some_iff.mp hq
      obtain ⟨kc, hc, hs⟩ := Option.bind_eq_some_iff.mp hp
      have hf : kc.findMethod name desc = none := by
        cases hf : kc.findMethod name desc with
        | none => rfl
        | some i => simp [ownMethod, hc, hf] at hown
      refine ih p ?_ k (by omega) q hq
      unfold lookupInSuperclasses at h
      simpa [hc, hf, hs] using h
theorem zup_all (vm : Vm) (name desc : String) (c : ClassId) (h : lookupInSuperclasses vm name desc (vm.classes.size + 1) c = none) : ∀ (k : Nat) (q : ClassId), zup vm k c = some q → ownMethod vm name desc q = none := by
  intro k
  induction k using Nat.strongRecOn with
  | _ k ih =>
    intro q hq
    by_cases hk : k ≤ vm.classes.size
    · exact zup_none vm name desc _ c h k hk q hq
    · have hsome : ∀ i, i ≤ vm.classes.size → ∃ z, zup vm i c = some z ∧ z < vm.classes.size := by
        intro i hi
        have e : zup vm (i + (k - i)) c = some q := by rw [show i + (k - i) = k by omega]; exact hq
        rw [zup_add] at e
        obtain ⟨z, h1, h2⟩ := Option.bind_eq_some_iff.mp e
        refine ⟨z, h1, ?_⟩
        obtain ⟨t, ht⟩ : ∃ t, k - i = t + 1 := ⟨k - i - 1, by omega⟩
        rw [ht] at h2
        have h2 : (vm.classes[z]?.bind (·.super)).bind (zup vm t) = some q := h2
        obtain ⟨p, hp, -⟩ := Option.bind_eq_some_iff.mp h2
        obtain ⟨kc, hc, -⟩ := Option.bind_eq_some_iff.mp hp
        exact (Array.getElem?_eq_some_iff.mp hc).1
      obtain ⟨i, j, h1, h2, h3⟩ := zpig vm.classes.size (fun i => (zup vm i c).getD 0) (fun i hi => by
        obtain ⟨z, hz, hlt⟩ := hsome i hi
        show (zup vm i c).getD 0 < _
        rw [hz]
        exact hlt)
      obtain ⟨zi, hzi, -⟩ := hsome i (by omega)
      obtain ⟨zj, hzj, -⟩ := hsome j h2
      have h3 : (zup vm i c).getD 0 = (zup vm j c).getD 0 := h3
      rw [hzi, hzj] at h3
      have h3 : zi = zj := h3
      subst h3
      have e1 : zup vm (i + (k - j)) c = some q := by
        rw [zup_add, hzi, ← hzj, ← zup_add, show j + (k - j) = k by omega]
        exact hq
      exact ih (i + (k - j)) (by omega) q e1
theorem zup_mem (vm : Vm) : ∀ (n : Nat) (c q : ClassId), q ∈ vm.superclassesAux n c → ∃ k, zup vm (k + 1) c = some q := by
  intro n
  induction n with
  | zero => intro c q h; simp [Vm.superclassesAux] at h
  | succ n ih =>
    intro c q h
    unfold Vm.superclassesAux at h
    cases hs : vm.classes[c]?.bind (·.super) with
    | none => simp [hs] at h
    | some p =>
      simp only [hs, List.mem_cons] at h
      rcases h with rfl | h
      · exact ⟨0, by simp [zup, hs]⟩
      · obtain ⟨k, hk⟩ := ih p q h
        exact ⟨k + 1, by show (vm.classes[c]?.bind (·.super)).bind (zup vm (k + 1)) = some q; rw [hs]; exact hk⟩
theorem zsel_none (vm : Vm) (mR : MethodId) (name desc : String) : ∀ (n : Nat) (c : ClassId), lookupInSuperclasses vm name desc n c = none → selectInSuperclasses vm mR name desc n c = none := by
  intro n
  induction n with
  | zero => intro c _; rfl
  | succ n ih =>
    intro c h
    unfold lookupInSuperclasses at h
    unfold selectInSuperclasses
    cases hc : vm.classes[c]? with
    | none => simp
    | some kc =>
      cases hf : kc.findMethod name desc with
      | some i => simp [hc, hf] at h
      | none =>
        simp only [hc, hf, Option.bind_eq_bind, Option.bind_some] at h
        cases hs : kc.super with
        | none => simp [hf, hs]
        | some p =>
          simp only [hs, Option.bind_some] at h
          simp [hf, hs, ih p h]
theorem zlook {vm : Vm} {c : ClassId} {k kr : Class} {name desc : String} {r0 : MethodId} {rm : Method} (hk : vm.classes[c]? = some k) (hni : k.isInterface = false) (hup : vm.lookupUp c name desc = some r0) (hrm : vm.method? r0 = some rm) (hst : rm.isStatic = false) (hnm : rm.name = name) (hds : rm.desc = desc)
    (hsel : selectMethod {} vm c r0 = .method r0) (hpr : rm.isPrivate = false) (hkr : vm.classes[r0.cls]? = some kr) (hif : kr.isInterface = true) : lookupSpecial vm c name desc = .method r0 := by
  cases hl : lookupInSuperclasses vm name desc (vm.classes.size + 1) c with
  | some x =>
    have : x = r0 := by simpa [Vm.lookupUp, hl] using hup
    subst this
    exact lookupSpecial_of_superclasses hk hni hl hrm hst
  | none =>
    have hown : ((vm.classes[c]?.bind (·.findMethod name desc)).map fun i => (⟨c, i⟩ : MethodId)) = none := zup_all vm name desc c hl 0 c rfl
    have habove : superclassMethods vm c name desc = [] := by
      unfold superclassMethods
      rw [List.filterMap_eq_nil_iff]
      intro q hq
      obtain ⟨j, hj⟩ := zup_mem vm _ c q hq
      exact zup_all vm name desc c hl (j + 1) q hj
    have hs2 := zsel_none vm r0 name desc _ c hl
    unfold selectMethod at hsel
    simp only [hrm, hpr, Bool.false_eq_true, if_false, hnm, hds, hkr, Option.any_some, hif, Bool.not_true, Bool.and_false, hs2] at hsel
    unfold lookupSpecial
    simp only [hown, habove, Option.toList_none, List.filter_nil, List.append_nil, List.find?_nil]
    split at hsel
    · cases hsel
    · exact hsel
section ZD5
variable {p : Program} {l : Launch} {e : Env} {R : Room} {s : State} {m : MethodId} {args : Array Value} {below : List Frame} {meth : Method} {c : Code} {H : Heap} {locs : List Loc} {cells slots : Nat}
/-- super.m() that runs an interface's default -/
theorem zrunSD {x y : MethodName} {cc : ByteArray} {nL n index : Nat} {Pc : Array Value → State → Prop} {Qc : Array Value → State → Outcome → State → Prop} {free : Addr → Prop} {Ts : List Cond} {own C owner : String} {cC : ClassId} {b : Addr} {As rest : List Value} {g : JFrame}
    (hat : ClassAt s C cC) (S : CallFix p m c cc nL s args Ts own) (hK : Back l R p e below s args y 3 8 (PreOf R 0 0 Pc) (PostOf Qc 0 0 free))
    (hlink : (Cond.methodLink own index x).before args s = true) (hsame : (Cond.sameMethod x.cls owner x.name x.desc).before args s = true) (hsup : (Cond.superclass own x.cls).before args s = true) (hland : zLand x.cls x y s) (hy : y = ⟨owner, x.name, x.desc⟩) (hinst : (Cond.instanceMethod y).before args s = true) (hdecl : va_Decl s y)
    (hd : x.name ≠ "<init>" ∧ (parseMethodDescriptor x.desc).map (fun d => d.parameters.length) = some n) (hp : PreV s H C b Pc As)
    (hg : g.method = m) (hn : As.length = n) (hsize : g.locals.size = nL) (hstack : g.stack = As.reverse ++ .ref b :: rest) (hW : 2 * g.monitorRoom + (rest.map fun v => v.category).sum ≤ 8) (hdg : decode cc g.pc = .ok (.invokespecial index, 3)) (hf : cells + 0 ≤ R.cells ∧ slots + 0 ≤ R.slots) :
    va_Run p l e R s m args below meth c H locs cells slots 0 0 g rest (Qc (Value.ref b :: As).toArray) (free) := by
  subst hy
  obtain ⟨hx, hb, hml, hown, -⟩ := S
  obtain ⟨-, ⟨cellB, hcB, hoB, hclB⟩, hPc⟩ := hp
  obtain ⟨hfc, kB, hkB, -⟩ := hat
  cases hfc.symm.trans hclB
  obtain ⟨mk, methM, hnamed, hmethM, hstM, habM⟩ := Cond.instanceMethod_spec hinst
  obtain ⟨r9, rm9, hnm9, hrm9, hst9, hsig9⟩ := hdecl
  cases hnamed.symm.trans hnm9
  cases hmethM.symm.trans hrm9
  obtain ⟨cn, ck, r1, hcn, hck, hni, hfn, hn1⟩ := Cond.sameMethod_found hsame
  cases hnamed.symm.trans hn1
  obtain ⟨c2, r2, m2, rm, q1, q2, q3, q5, q4, ⟨kP, hkP, hkPi⟩, q6, q7⟩ := hland
  cases hcn.symm.trans q1
  cases hfn.symm.trans q2
  cases hnamed.symm.trans q3
  cases hmethM.symm.trans q5
  obtain ⟨ps, dk, kp, hps, hdk, hkp, hsuper, -, -, hnid⟩ := Cond.superclass_spec hown hsup
  cases hps.symm.trans hcn
  obtain ⟨hrn, hrd⟩ := name_of_methodNamed hnamed hmethM
  intro T hT X
  have hpl : e.platform.magicAccessors = ({} : Platform).magicAccessors := by rw [X.admits.platform]
  obtain ⟨ci, hl, hright⟩ := Cond.methodLink_specUp hown hcn hck hni hfn hlink e.platform hpl (by rw [X.admits.platform])
  obtain ⟨dk₀, cfile, nt, _, _, ck₀, _, _, hd₀, hcf, hcp, -, -, -, hc₀, -, hpoly, -⟩ := hl.here
  cases hdk.symm.trans hd₀
  cases hck.symm.trans hc₀
  have hup : s.vm.lookupUp cn x.name x.desc = some mk := ((State.methodFound?_class hcn hck hni hpoly mk).mp hfn).1
  have hfound0 : lookupSpecial s.vm cn x.name x.desc = .method mk := zlook hck hni hup hmethM hstM hrn hrd q4 q6 hkP hkPi
  subst hg
  obtain ⟨vm', hW', st⟩ := Steps.invokeSuperColdArgs (tb := p.tables) (e := e) (s₀ := s) (U := T) (f := g) (args := As) (rest := rest) (a := b) (cell := cellB) (m := mk) X.here hx (by rw [hb]; exact hdg) X.warmed hl hright hdk hcf hcp hmethM hck
    (by rw [hrn]; simp [hd.1]) hstM (by rw [hrn, hrd, hsuper]; simpa using hfound0) hnid hkP habM (by have h2 := hd.2; rw [hsig9] at h2; rw [hn]; exact (Option.some.inj h2).symm) hstack (by rw [hT]; exact hcB) (fun z h => by rw [h] at hoB; cases hoB) hkB
  have X₁ := X.noted hW'
  obtain ⟨v, ⟨U', l2, c2, s2⟩, X', ⟨g', mk2, t, L, e1, e2, hq, h1, hL, h2, h3⟩, hsteps⟩ := hK g.method meth c ⟨T.setVm vm', locs, cells, slots⟩ { g with stack := rest } (.invokespecial index) mk (Value.ref b :: As).toArray X₁ rfl (hsize.trans hml.symm) (by rw [hb]; exact hdg) hW (X₁.named hnamed) ⟨hf.1, hf.2, hPc (T.setVm vm') hT X₁.warmed⟩
  dsimp only [Pt.U, Pt.locs, Pt.cells, Pt.slots] at X' e1 e2 h1 h2 h3 hsteps
  subst h1; subst h2; subst h3
  exact ⟨v, (T.setVm vm').calling g' mk2 (Value.ref b :: As).toArray, t, U', L, hT, X', hL, e1, e2, hq, fun target h => st _ (by rw [doInvoke_state]; exact hsteps.trans h)⟩
end ZD5
