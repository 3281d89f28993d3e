/-! A STATIC METHOD that a superclass declares, called by the name of the class below (TwiceRubbing.bolder) -/
set_option maxRecDepth 100000
section ZT1
variable {Q : Unit → Pre} {E : CtlPost} {e : Env} {d : Bool} {acts : List Action} {s s₀ : State} {f : JFrame}
theorem zst_wp {index ci n c : Nat} {m : MethodId} {dk ck k : Class} {cf : ClassFile} {name desc : String} {meth1 : Method} {argsL rest : List Value} (hs : s.topJava?.isSome) (hp : e.platform.polymorphicOnlyByInvokevirtual = true)
    (hW : s₀.WarmedH s.vm) (hE : s₀.MethodEntryUp e s.vm f.method.cls index c m ci) (h1 : s₀.vm.classes[f.method.cls]? = some dk) (h2 : dk.cf = some cf)
    (h3 : cf.constantPool[index]? = some (.methodref ci n)) (h4 : cf.constantPool.nameAndType? n = some (name, desc))
    (hck : s₀.vm.classes[c]? = some ck) (hnone : (ck.methods.any fun x => x.name == name && !x.isStatic && signaturePolymorphic ck x) = false)
    (hm : s₀.vm.method? m = some meth1) (hk : s₀.vm.classes[m.cls]? = some k) (hpoly : signaturePolymorphic k meth1 = false) (hstatic : meth1.isStatic = true) (hinit : k.init = .initialized)
    (hlen : argsL.length = meth1.sig.parameters.length) (hstack : f.stack = argsL.reverse ++ rest) :
    wp (invokestatic.sem index) Q E e d acts (s.setTop f) ↔ E (.invoke m argsL.toArray) (.initLock m.cls false :: acts) ((s.setVm (s.vm.calledUp f.method.cls ci index c m)).setTop { f with stack := rest }) := by
  obtain ⟨hgc, hrc, hW₁, hgm⟩ := hE.classFirst
  obtain ⟨k₀, hk₀, he₀⟩ := hW.alike.2.2 _ _ h1
  have al := hE.warmed.alike
  obtain ⟨k₂, hk₂, he₂⟩ := al.2.2 _ _ h1
  obtain ⟨c₁, hc₁, hec₁⟩ := hW₁.alike.2.2 _ _ hck
  obtain ⟨c₂, hc₂, hec₂⟩ := al.2.2 _ _ hck
  obtain ⟨kk, hkk, hekk⟩ := al.2.2 _ _ hk
  have h3' : cf.constantPool[index]? = some (if false then .interfaceMethodref ci n else .methodref ci n) := h3
  have hb₀ := memberRef_ask_via (e := e) hk₀ (by rw [he₀]; exact h2) h3' h4
  have hb₂ := memberRef_ask_via (e := e) hk₂ (by rw [he₂]; exact h2) h3' h4
  have hn₁ : (c₁.methods.any fun x => x.name == name && !x.isStatic && signaturePolymorphic c₁ x) = false := by rw [hec₁]; exact hnone
  have hn₂ : (c₂.methods.any fun x => x.name == name && !x.isStatic && signaturePolymorphic c₂ x) = false := by rw [hec₂]; exact hnone
  have hs₁ : (s.setVm (s.vm.noted f.method.cls ci (.cls c))).topJava?.isSome := hs
  have hs₂ : (s.setVm (s.vm.calledUp f.method.cls ci index c m)).topJava?.isSome := hs
  have hL : ∀ {Q' : ClassId → Pre} {d' : Bool} {acts' : List Action}, wp (Jvm.resolveClassAt ci) Q' E e d' acts' (s.setTop f) ↔ Q' c d' acts' ((s.setVm (s.vm.noted f.method.cls ci (.cls c))).setTop f) :=
    W.resolveClassAt_links (t := s.setTop f) (State.method?_setTop f hs) hgc
  have hM : ∀ {Q' : MethodId → Pre} {d' : Bool} {acts' : List Action}, wp (Jvm.resolveMethodAt index) Q' E e d' acts' ((s.setVm (s.vm.noted f.method.cls ci (.cls c))).setTop f) ↔ Q' m d' acts' ((s.setVm (s.vm.calledUp f.method.cls ci index c m)).setTop f) :=
    W.resolveMethodAt_links (t := (s.setVm (s.vm.noted f.method.cls ci (.cls c))).setTop f) (State.method?_setTop f hs₁) hgm
  have hmt : (s.vm.calledUp f.method.cls ci index c m).method? m = some meth1 := by rw [al.method?]; exact hm
  have hR := invokestatic.wp_ready (Q := Q) (E := E) (d := d) (acts := acts) (e := e) (s := s.setVm (s.vm.calledUp f.method.cls ci index c m)) (k := kk) (meth := meth1) (m := m) (args := argsL) (rest := rest) (f := f)
      hs₂ ⟨ci, name, desc, false, c, c₂, hb₂, hE.classReady, hc₂, hn₂⟩ hE.ready hkk hmt (by rw [hekk]; exact hpoly) hstatic (by rw [hekk]; exact hinit) hlen hstack
  rw [← hR]
  simp [invokestatic.sem, hp, Seam.memberRefOf, State.method?_setTop f hs, State.method?_setTop f hs₂, hb₀, hb₂, hL, W.resolveClassAt_ready (s := (s.setVm (s.vm.calledUp f.method.cls ci index c m)).setTop f) (State.method?_setTop f hs₂) hE.classReady,
    hc₁, hc₂, hn₁, hn₂, hM, W.resolveMethodAt_ready (s := (s.setVm (s.vm.calledUp f.method.cls ci index c m)).setTop f) (State.method?_setTop f hs₂) hE.ready, -Array.any_eq_true]
end ZT1
section ZT2
variable {p : Program} {l : Launch} {e : Env} {R : Room} {s : State} {m : MethodId} {args : Array Value} {below : List Frame} {meth : Method} {c : Code} {H : Heap} {locs : List Loc} {cells slots : Nat}
theorem zrunSS {x y : MethodName} {bytes cc : ByteArray} {maxL nL mc ms n index : Nat} {ret : Option FieldType} {rm : Room} {Pc : Array Value → State → Prop} {Qc : Array Value → State → Outcome → State → Prop} {free : Addr → Prop} {Ts ws ws' : List Cond} {own owner : String} {As rest : List Value} {g : JFrame}
    (S : CallFix p m c cc nL s args Ts own) (hM : Met l y ws rm Pc Qc mc ms free) (hG : GoodIn Ts ws) (hw : ws = Cond.code y bytes maxL ret :: ws') (hrc : rm.cells = mc) (hrs : rm.slots = ms) (hR : rm.frames + 1 ≤ R.frames ∧ 8 + (maxL + 11) + rm.locals ≤ R.locals)
    (hlink : (Cond.methodLink own index x).before args s = true) (hsame : (Cond.sameMethod x.cls owner x.name x.desc).before args s = true) (hy : y = ⟨owner, x.name, x.desc⟩) (hstat : (Cond.static y).before args s = true) (hini : (Cond.initialized y.cls).before args s = true)
    (hd : owner ≠ "java/lang/invoke/MethodHandle" ∧ owner ≠ "java/lang/invoke/VarHandle" ∧ (parseMethodDescriptor x.desc).map (fun d => d.parameters.length) = some n) (hp : PreS s H Pc As)
    (hg : g.method = m) (hn : As.length = n) (hsize : g.locals.size = nL) (hstack : g.stack = As.reverse ++ rest) (hW : 2 * g.monitorRoom + (rest.map fun v => v.category).sum ≤ 8) (hdg : decode cc g.pc = .ok (.invokestatic index, 3)) (hf : cells + mc ≤ R.cells ∧ slots + ms ≤ R.slots) :
    va_Run p l e R s m args below meth c H locs cells slots mc ms g rest (Qc As.toArray) (free) := by
  have hts := S.2.2.2.2
  have hc : Cond.code y bytes maxL ret ∈ ws := by rw [hw]; exact List.mem_cons_self
  have hK : Back l R p e below s args y 3 8 (PreOf R mc ms Pc) (PostOf Qc mc ms free) := back_of (bytes := bytes) (maxL := maxL) (ret := ret) hM hp.1 hrc hrs hR.1 hR.2 (pay_in hts hG) hc (fun a' U hW => word_at hW (Or.inl (by first | rfl | simp [Cond.onTables, Cond.keeps, Cond.steady])) hini)
  obtain ⟨hx, hb, hml, ho, -⟩ := S
  have hcode := hts _ (hG _ hc).1
  obtain ⟨mk, methM, hnamed, hmethM, hsigM⟩ : ∃ (mk : MethodId) (methM : Method), s.methodNamed? y = some mk ∧ s.vm.method? mk = some methM ∧ parseMethodDescriptor y.desc = some methM.sig := by
    obtain ⟨cn, ck, r1, hcn, hck, hni, hfn, hn1⟩ := Cond.sameMethod_found hsame
    rw [← hy] at hn1
    obtain ⟨methY, cY, hmY, -, -, -, -, -, -, hsg⟩ := Cond.code_spec hn1 hcode
    exact ⟨r1, methY, hn1, hmY, hsg⟩
  subst hy
  have hstatic : methM.isStatic = true := Cond.static_spec hnamed hmethM hstat
  obtain ⟨kP, hkP, hnP⟩ := className_of_methodNamed hnamed
  have hinitP : kP.init = .initialized := Cond.initialized_spec (findClass_of_methodNamed hnamed) hkP hini
  obtain ⟨cn, ck, r1, hcn, hck, hni, hfn, hn1⟩ := Cond.sameMethod_found hsame
  cases hnamed.symm.trans hn1
  intro T hT X
  have hpl : e.platform.magicAccessors = ({} : Platform).magicAccessors := by rw [X.admits.platform]
  have hpv : e.platform.polymorphicOnlyByInvokevirtual = true := by rw [X.admits.platform]
  obtain ⟨ci, hl, hright⟩ := Cond.methodLink_specUp ho hcn hck hni hfn hlink e.platform hpl (by rw [X.admits.platform])
  have hE : s.MethodEntryUp e T.vm m.cls index cn mk ci := State.methodEntryUp X.warmed hl hright
  obtain ⟨dk, cfile, nt, mname, mdesc, ck', _, _, hd1, hcf, hcp, hnt, -, -, hck', -, hnopoly, -⟩ := hl.here
  cases hck.symm.trans hck'
  have X₁ : Stand p l e R s m args below meth c (T.setVm (T.vm.calledUp m.cls ci index cn mk)) locs cells slots := X.noted hE.warmed
  have hlenA : As.length = methM.sig.parameters.length := by
    have h2 := hd.2.2
    rw [show parseMethodDescriptor x.desc = some methM.sig from hsigM] at h2
    rw [hn]; exact (Option.some.inj h2).symm
  have hstep : ∀ target, (∀ acts, Steps p.tables e below (doInvoke e ((T.setVm (T.vm.calledUp m.cls ci index cn mk)).setTop { g with stack := rest }) acts mk As.toArray).1 target) → Steps p.tables e below (T.setTop g) target := by
    intro target hrest
    subst hg
    have hdg2 : decode c.code g.pc = .ok (.invokestatic index, 3) := by rw [hb]; exact hdg
    jvm_step X.here [hx, hdg2, zst_wp (e := e) (s := T) (s₀ := s) (f := g) (argsL := As) (rest := rest) X.here.top hpv X.warmed hE hd1 hcf hcp hnt hck (by simp [hnopoly]) hmethM hkP (by simp [signaturePolymorphic, hnP, hd.1, hd.2.1]) hstatic hinitP hlenA hstack]
    exact fun acts => hrest _
  obtain ⟨v, ⟨U', l2, c2, s2⟩, X', ⟨g', mk2, t, L, e1, e2, hq, h1, hL, h2, h3⟩, hsteps⟩ := hK m meth c ⟨T.setVm (T.vm.calledUp m.cls ci index cn mk), locs, cells, slots⟩ { g with stack := rest } (.invokestatic index) mk As.toArray X₁ hg (hsize.trans hml.symm) (by rw [hb]; exact hdg) hW (X₁.named hnamed) ⟨hf.1, hf.2, hp.2 (T.setVm _) hT X₁.warmed⟩
  dsimp only [Pt.U, Pt.locs, Pt.cells, Pt.slots] at X' e1 e2 h1 h2 h3 hsteps
  subst h1; subst h2; subst h3
  exact ⟨v, (T.setVm (T.vm.calledUp m.cls ci index cn mk)).calling g' mk2 As.toArray, t, U', L, hT, X', hL, e1, e2, hq, fun target h => hstep _ fun acts => by rw [doInvoke_state]; exact hsteps.trans h⟩
end ZT2
section ZT3
variable {p : Program} {l : Launch} {e : Env} {R : Room} {s : State} {m : MethodId} {args : Array Value} {below : List Frame} {meth : Method} {c : Code} {H : Heap} {locs : List Loc} {cells slots : Nat} {Q : State → Prop}
variable {D : va_G} {A : Nat → Prop} {E : State → Prop} {cc : ByteArray} {nL : Nat} {own : String} {ret : Option FieldType} {h : zT} {pc : Nat} {ls : Array Slot} {rest : List Value} {β : Type} {res : β}
/-- a field that is named by the class below the one that declares it -/
theorem zw_getIS (X : zCx p s m args meth c D A E cc nL own ret) (hw : zWh D A s H h locs) {S : List Nat} {a k index : Nat} {fld : String × String × String × Bool} {fty : FieldType} {ref : String} {K : Int32 → Option β} (hS : zFS S k fld fty) (hl : Cond.fieldLink own index ref fld.2.1 fld.2.2.1 ∈ lw_all) (hsame : Cond.sameField ref fld.1 fld.2.1 fld.2.2.1 ∈ lw_all) (hf : (zg_I S h a k).bind K = some res) (hdg : decode cc pc = .ok (.getfield index, 3))
    (kk : ∀ x, K x = some res → W p l e R s m args below meth c H locs cells slots Q (F0 m (pc + 3) ls (.int x :: rest))) : W p l e R s m args below meth c H locs cells slots Q (F0 m pc ls (.ref a :: rest)) := by
  obtain ⟨v, hv, h9⟩ := zbd hf
  obtain ⟨⟨hx, hb, hml, hown, hts⟩, -, -, hK, -⟩ := X
  obtain ⟨o, h1, h2, h3⟩ := zg_V_eq (zg_I_eq hv)
  obtain ⟨C, T, N, ty, ⟨hc, hin, hty, hnm⟩, hk, hT⟩ := hS.2 o.1 h2
  obtain ⟨r, g1, g2, g3⟩ := (hw.1.2 a _ h1).2
  subst hT
  exact va_get (D := D) (cl := zCl) (ws := [(a, .inr o)]) hx hb hts hin hown hK (fun j q hj => by
    match j, hj with
    | 0, hj => cases hj; exact ⟨r, g1, g3⟩
    | j + 1, hj => simp at hj) 0 rfl hc k hk (hts _ hl) (fun x hx9 => u_same (hts _ hsame) x hx9) h3 hdg (kk v h9)
end ZT3
