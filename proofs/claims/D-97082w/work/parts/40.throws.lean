/-! METHODS THAT MAY THROW: their contracts (zMt), calls of them, leaving by a throw, catching -/
set_option maxRecDepth 100000
theorem zst_weak {tb : Tables} {e : Env} {f : Frame} {below : List Frame} {a b : State} (h : Steps tb e (f :: below) a b) : Steps tb e below a b := by
  obtain ⟨n, h1, h2⟩ := h
  refine ⟨n, h1, fun k hk => ?_⟩
  obtain ⟨above, e1, hne, e3⟩ := h2 k hk
  refine ⟨above ++ [f], by rw [e1]; simp, by simp, fun x hx => ?_⟩
  rcases above with _ | ⟨z, above⟩
  · exact absurd rfl hne
  · simp at hx
def zMQ (below : List Frame) (Qc : Array Value → State → Outcome → State → Prop) (a : Array Value) (s : State) (mc ms : Nat) (free : Addr → Prop) (t : State) : Prop :=
  ∃ o, t.status = .running ∧ Ended t below o ∧ Qc a s o t ∧ ∃ L, (s.WarmedH t.vm ∧ s.sameButNew ({ t with vm := s.vm } : State) L mc ms) ∧ ∀ q ∈ L, free q.base
def zQX (D : va_G) (A : Nat → Prop) (o0 : Outcome) (h' : zT) : Array Value → State → Outcome → State → Prop := fun _ st o t => o = o0 ∧ zWd D A t t.heap h' ∧ va_F A st t
abbrev zTb : Type := List (Nat × Nat × Nat × Nat)
def zBd (p : Program) (s : State) (m : MethodId) (args : Array Value) (meth : Method) (c : Code) (y : MethodName) (cc : ByteArray) (nL : Nat) (ret : Option FieldType) (tb : zTb) : Prop :=
  p.tables.exec = Jvm.exec ∧ s.methodNamed? y = some m ∧ s.vm.method? m = some meth ∧ c.code = cc ∧ c.maxLocals = nL ∧ meth.sig.returnType = ret ∧ meth.locks = false ∧ c.exceptionTable.toList.map (fun h => (h.startPc, h.endPc, h.handlerPc, h.catchType)) = tb ∧ ∀ w ∈ lw_all, w.before args s = true
/-- a method's contract: by its walk; it may end by a throw -/
def zMt (l : Launch) (y : MethodName) (cc : ByteArray) (nL : Nat) (ret : Option FieldType) (tb : zTb) (rm : Room) (Pc : Array Value → State → Prop) (Qc : Array Value → State → Outcome → State → Prop) (mc ms : Nat) (A : Nat → Prop) : Prop :=
  ∀ (p : Program) (e : Env) (s : State) (m : MethodId) (args : Array Value) (below : List Frame) (meth : Method) (c : Code), zBd p s m args meth c y cc nL ret tb → Pc args s → W p l e rm s m args below meth c s.heap [] 0 0 (zMQ below Qc args s mc ms A) (entryFrame m args nL)
theorem zmtX {l : Launch} {y : MethodName} {cc : ByteArray} {nL : Nat} {ret : Option FieldType} {tb : zTb} {rm : Room} {D : va_G} {A : Nat → Prop} {E : State → Prop} {h : zT} {av : List Value} {Qc : Array Value → State → Outcome → State → Prop} {mc ms : Nat}
    (hE : zEok A E) (hn : (lg_sl av).length ≤ nL)
    (body : ∀ (p : Program) (e : Env) (s : State) (m : MethodId) (below : List Frame) (meth : Method) (c : Code) (ls : Array Slot), c.exceptionTable.toList.map (fun h => (h.startPc, h.endPc, h.handlerPc, h.catchType)) = tb → meth.name = y.name → zCx p s m av.toArray meth c D A E cc nL y.cls ret → zWh D A s s.heap h [] → lv_has ls nL (lv_args 0 av) →
      W p l e rm s m av.toArray below meth c s.heap [] 0 0 (zMQ below Qc av.toArray s mc ms A) (F0 m 0 ls [])) : zMt l y cc nL ret tb rm (zPW D A E h av) Qc mc ms A := by
  intro p e s m args below meth c hB hP
  obtain ⟨b1, b2, b3, b4, b5, b6, b7, b8, b9⟩ := hB
  obtain ⟨rfl, h2, h3, h4, h5⟩ := hP
  rw [lg_entry_eq]
  exact body p e s m below meth c _ b8 (name_of_methodNamed b2 b3).1 ⟨⟨b1, b4, b5, findClass_of_methodNamed b2, b9⟩, b6, b7, h3, fun q hq => h4 q (by rw [← h2.1]; exact hq), hE, h5⟩ ⟨h2, va_S.rf⟩ (lv_entry av hn)
/-- what a call of a method that may throw comes to -/
def zRT (p : Program) (l : Launch) (e : Env) (R : Room) (s : State) (m : MethodId) (args : Array Value) (below : List Frame) (meth : Method) (c : Code) (H : Heap) (locs : List Loc) (cells slots mc ms : Nat) (g : JFrame) (rest : List Value) (Qa : State → Outcome → State → Prop) (free : Addr → Prop) : Prop :=
  ∀ T : State, T.heap = H → Stand p l e R s m args below meth c T locs cells slots → ∃ (o : Outcome) (st₀ t T' : State) (L : List Loc), st₀.heap = H ∧ Stand p l e R s m args below meth c T' (locs ++ L) (cells + mc) (slots + ms) ∧ (∀ q ∈ L, free q.base) ∧ T'.heap = t.heap ∧ T'.vm = t.vm ∧ Qa st₀ o t ∧
    match o with
    | .returned v => Goes p e below T g T' { g with pc := g.pc + 3, stack := v.toList ++ rest }
    | .threw x => ∀ target, Steps p.tables e below ((T'.setTop { g with stack := rest }).pushFrame (.throwing x)) target → Steps p.tables e below (T.setTop g) target
/-- how a method's code lies in the tables -/
def zCode (s : State) (y : MethodName) (bytes : ByteArray) (maxL : Nat) (ret : Option FieldType) (tb : zTb) : Prop :=
  ∀ mk, s.methodNamed? y = some mk → ∃ (methY : Method) (cY : Code), s.vm.method? mk = some methY ∧ methY.code = some cY ∧ cY.code = bytes ∧ cY.maxLocals = maxL ∧ methY.sig.returnType = ret ∧ methY.locks = false ∧ cY.exceptionTable.toList.map (fun h => (h.startPc, h.endPc, h.handlerPc, h.catchType)) = tb ∧ parseMethodDescriptor y.desc = some methY.sig
theorem zCode.code {s : State} {args : Array Value} {y : MethodName} {bytes : ByteArray} {maxL : Nat} {ret : Option FieldType} (h : (Cond.code y bytes maxL ret).before args s = true) : zCode s y bytes maxL ret [] := by
  intro mk hmk
  obtain ⟨methY, cY, h1, h2, h3, h4, h5, h6, h7, h8⟩ := Cond.code_spec hmk h
  refine ⟨methY, cY, h1, h2, h3, h4, h5, h6, ?_, h8⟩
  have : cY.exceptionTable = #[] := Array.isEmpty_iff.mp h7
  rw [this]
  rfl
theorem zCode.withH {s : State} {args : Array Value} {y : MethodName} {bytes : ByteArray} {maxL : Nat} {ret : Option FieldType} {tb : zTb} (h : (Cond.codeWith y bytes maxL ret tb).before args s = true) : zCode s y bytes maxL ret tb := by
  intro mk hmk
  obtain ⟨m', methY, cY, h0, h1, h2, h3, h4, h5, h6, h7, h8⟩ := Cond.codeWith_spec h
  cases hmk.symm.trans h0
  exact ⟨methY, cY, h1, h2, h3, h4, h6, h7, h5, h8⟩
section ZTH
variable {p : Program} {l : Launch} {e : Env} {R : Room} {s : State} {m : MethodId} {args : Array Value} {below : List Frame} {meth : Method} {c : Code} {H : Heap} {locs : List Loc} {cells slots : Nat} {Q : State → Prop}
/-- into a method whose contract is zMt, and out of it -/
theorem zinto {T : State} {y : MethodName} {bytes : ByteArray} {maxL : Nat} {ret : Option FieldType} {tb : zTb} {rm : Room} {Pc : Array Value → State → Prop} {Qc : Array Value → State → Outcome → State → Prop} {mc ms : Nat} {free : Addr → Prop} {g : JFrame} {ig : Instr} {a : Array Value} {mk : MethodId}
    (X : Stand p l e R s m args below meth c T locs cells slots) (hexec : p.tables.exec = Jvm.exec) (hM : zMt l y bytes maxL ret tb rm Pc Qc mc ms free) (hnamed : s.methodNamed? y = some mk) (hcode : zCode s y bytes maxL ret tb) (hts : ∀ w ∈ lw_all, w.before args s = true) (hplain : plainName y.cls = true)
    (hg : g.method = m) (hsize : g.locals.size = c.maxLocals) (hdg : decode c.code g.pc = .ok (ig, 3)) (hW : 2 * g.monitorRoom + (g.stack.map fun v => v.category).sum ≤ 8) (hrc : rm.cells = mc) (hrs : rm.slots = ms) (hR : rm.frames + 1 ≤ R.frames ∧ 8 + (maxL + 11) + rm.locals ≤ R.locals) (hf : cells + mc ≤ R.cells ∧ slots + ms ≤ R.slots)
    (hblind : FrameBlind Pc) (hPc : Pc a T) :
    ∃ (o : Outcome) (t T' : State) (L : List Loc), Stand p l e R s m args below meth c T' (locs ++ L) (cells + mc) (slots + ms) ∧ (∀ q ∈ L, free q.base) ∧ T'.heap = t.heap ∧ T'.vm = t.vm ∧ Qc a (T.calling g mk a) o t ∧
      match o with
      | .returned v => ∀ acts target, Steps p.tables e below (T'.setTop { g with pc := g.pc + 3, stack := v.toList ++ g.stack }) target → Steps p.tables e below (doInvoke e (T.setTop g) acts mk a).1 target
      | .threw x => ∀ acts target, Steps p.tables e below ((T'.setTop g).pushFrame (.throwing x)) target → Steps p.tables e below (doInvoke e (T.setTop g) acts mk a).1 target := by
  subst hrc; subst hrs
  have hnT : T.methodNamed? y = some mk := X.named hnamed
  obtain ⟨methY, cY, hmY, hcY, hbY, hlY, hrY, hloY, htY, hsY⟩ := hcode mk hnamed
  have hmT : T.vm.method? mk = some methY := by rw [X.warmed.alike.method?]; exact hmY
  obtain ⟨Y₀, hin⟩ := X.into hg hsize hdg (mk := mk) (methk := methY) (ck := cY) a (R' := rm) hmT hcY hloY (State.plainMethod.of_named (plainFor_of_name hplain) hnT hmT) hR.1 (by rw [hlY]; omega) hf.1 hf.2
  have hpay := pay_in (args := args) (s := s) hts lw_self
  have hwm : s.WarmedH (T.calling g mk a).vm := X.warmed
  obtain ⟨t, hsteps, o, hrun, hend, hq, L, ⟨hWt, hsame⟩, hL⟩ := hM p e (T.calling g mk a) mk a (.java g :: below) methY cY ⟨hexec, hnT, hmT, hbY, hlY, hrY, hloY, htY, fun w hw => hpay w hw a _ hwm⟩ (hblind _ _ _ _ hPc) ((T.setTop g).pushFrame (.java (entryFrame mk a cY.maxLocals))) rfl Y₀
  rw [hlY] at hin hsteps
  cases o with
  | returned v =>
    obtain ⟨T', X', hW', hs', ht⟩ := X.outOf hg hdg hend hWt hsame
    refine ⟨.returned v, t, T', L, X', hL, by rw [ht]; rfl, by rw [ht]; rfl, hq, fun acts target h => ?_⟩
    rw [hin acts]
    refine (zst_weak hsteps).trans ?_
    rw [ht]
    exact h
  | threw x =>
    obtain ⟨T', X', hW', hs', ht⟩ := X.outOfThrown hg hend hWt hsame
    refine ⟨.threw x, t, T', L, X', hL, by rw [ht]; rfl, by rw [ht]; rfl, hq, fun acts target h => ?_⟩
    rw [hin acts]
    refine (zst_weak hsteps).trans ?_
    rw [ht]
    exact h
theorem zrtV {y : MethodName} {bytes cc : ByteArray} {maxL nL mc ms n index : Nat} {ret : Option FieldType} {tb : zTb} {rm : Room} {Pc : Array Value → State → Prop} {Qc : Array Value → State → Outcome → State → Prop} {free : Addr → Prop} {own C : String} {b : Addr} {As rest : List Value} {g : JFrame}
    (S : CallFix p m c cc nL s args lw_all own) (hM : zMt l y bytes maxL ret tb rm Pc Qc mc ms free) (hlink : (Cond.methodLink own index y).before args s = true) (hinst : (Cond.instanceMethod y).before args s = true) (hsel : (Cond.selects C y y).before args s = true) (hcode : zCode s y bytes maxL ret tb) (hcd : zcd y n) (hplain : plainName y.cls = true)
    (hrc : rm.cells = mc) (hrs : rm.slots = ms) (hR : rm.frames + 1 ≤ R.frames ∧ 8 + (maxL + 11) + rm.locals ≤ R.locals) (hp : PreV s H C b Pc As)
    (hg : g.method = m) (hn : As.length = n) (hsize : g.locals.size = nL) (hstack : g.stack = As.reverse ++ .ref b :: rest) (hW : 2 * g.monitorRoom + (rest.map fun v => v.category).sum ≤ 8) (hdg : decode cc g.pc = .ok (.invokevirtual index, 3)) (hf : cells + mc ≤ R.cells ∧ slots + ms ≤ R.slots) :
    zRT p l e R s m args below meth c H locs cells slots mc ms g rest (Qc (Value.ref b :: As).toArray) free := by
  obtain ⟨hx, hb, hml, ho, hts⟩ := S
  obtain ⟨hbl, ⟨cellB, hcB, hoB, hclB⟩, hPc⟩ := hp
  intro T hT X
  obtain ⟨mk, methM, hnamed, hmethM, hstM, habM⟩ := Cond.instanceMethod_spec hinst
  obtain ⟨methM', cM, hmethM', -, -, -, -, -, -, hsigM⟩ := hcode mk hnamed
  cases hmethM.symm.trans hmethM'
  obtain ⟨c2, r2, m2, q1, q2, q3, q4, kP, hkP, hkPi⟩ := Cond.selects_spec hsel
  cases hclB.symm.trans q1
  cases (State.methodFound?_of_named hnamed ⟨hcd.1, hcd.2.1⟩).symm.trans q2
  cases hnamed.symm.trans q3
  have hselP : selectMethod e.platform s.vm cellB.cls mk = .method mk := by rw [Launch.admits_selectMethod X.admits]; exact q4
  have hlen : As.length = methM.sig.parameters.length := by
    have h2 := hcd.2.2
    rw [hsigM] at h2
    rw [hn]; exact (Option.some.inj h2).symm
  obtain ⟨vm₁, X₁, hstep₁⟩ := X.invokevirtual hx ho hlink hnamed hmethM hstM hkP hkPi ⟨hcd.1, hcd.2.1⟩ (a := b) (cell := cellB) (by rw [hT]; exact hcB)
    (fun z h => by rw [h] at hoB; cases hoB) hselP hmethM habM hkP hkPi (g := g) hg (argsL := As) (rest := rest) hlen hstack (by rw [hb]; exact hdg)
  obtain ⟨o, t, T', L, X', hL, e1, e2, hq, hgo⟩ := zinto X₁ hx hM hnamed hcode hts hplain (g := { g with stack := rest }) (ig := .invokevirtual index) (a := (Value.ref b :: As).toArray) hg (hsize.trans hml.symm) (by rw [hb]; exact hdg) hW hrc hrs hR hf hbl (hPc (T.setVm vm₁) hT X₁.warmed)
  refine ⟨o, _, t, T', L, ?_, X', hL, e1, e2, hq, ?_⟩
  · exact hT
  · cases o with
    | returned v => exact fun target h => hstep₁ _ fun acts => hgo acts target h
    | threw x => exact fun target h => hstep₁ _ fun acts => hgo acts target h
/-- by how a call ended -/
def zOk (o : Outcome) (k1 : Option Value → Prop) (k2 : Addr → Prop) : Prop := match o with
  | .returned v => k1 v
  | .threw x => k2 x
/-- an exception is on its way at the frame g -/
def zTw (p : Program) (l : Launch) (e : Env) (R : Room) (s : State) (m : MethodId) (args : Array Value) (below : List Frame) (meth : Method) (c : Code) (H : Heap) (locs : List Loc) (cells slots : Nat) (Q : State → Prop) (g : JFrame) (x : Addr) : Prop :=
  ∀ T : State, T.heap = H → Stand p l e R s m args below meth c T locs cells slots → ∃ t, Steps p.tables e below ((T.setTop g).pushFrame (.throwing x)) t ∧ Q t
variable {D : va_G} {A : Nat → Prop} {E : State → Prop} {cc : ByteArray} {nL : Nat} {own : String} {ret : Option FieldType} {h : zT} {pc : Nat} {ls : Array Slot} {rest : List Value} {β : Type} {res : β} {mc ms : Nat}
theorem zw_tcall {o0 : Outcome} {h1 : zT} {a : Array Value} {mc1 ms1 : Nat} {st0 : List Value} (hr : zRT p l e R s m args below meth c H locs cells slots mc1 ms1 (F0 m pc ls st0) rest (zQX D A o0 h1 a) A) (hw : zWh D A s H h locs)
    (kk : ∀ (H1 : Heap) (locs1 : List Loc), zWh D A s H1 h1 locs1 → zOk o0 (fun v => W p l e R s m args below meth c H1 locs1 (cells + mc1) (slots + ms1) Q (F0 m (pc + 3) ls (v.toList ++ rest))) (fun x => zTw p l e R s m args below meth c H1 locs1 (cells + mc1) (slots + ms1) Q (F0 m pc ls rest) x)) : W p l e R s m args below meth c H locs cells slots Q (F0 m pc ls st0) := by
  intro T hT X
  obtain ⟨o, st₀, t, T', L, h0, X', hL, e1, e2, ⟨hv, hb, hz, hk⟩, st⟩ := hr T hT X
  cases hv
  rw [h0] at hz hk
  have hal : s.vm.Alike t.vm := by rw [← e2]; exact X'.warmed.alike
  have k1 := kk T'.heap (locs ++ L) ⟨by rw [e1]; exact hb.moved hal.symm, Nat.le_trans hw.2.1 (by rw [e1]; exact hz), fun q h1 h2 => by rw [e1, hk q (Nat.lt_of_lt_of_le h1 hw.2.1) h2]; exact hw.2.2.1 q h1 h2, fun q hq => by
      rcases List.mem_append.mp hq with h | h
      · exact hw.2.2.2 q h
      · exact hL q h⟩
  cases o0 with
  | returned v =>
    obtain ⟨t2, a1, b1⟩ := k1 T' rfl X'
    exact ⟨t2, st t2 a1, b1⟩
  | threw x =>
    obtain ⟨t2, a1, b1⟩ := k1 T' rfl X'
    exact ⟨t2, st t2 a1, b1⟩
/-- no handler covers the place: the throw leaves the method -/
theorem zw_leaves {x : Addr} {mc1 ms1 : Nat} {tb : zTb} (X : zCx p s m args meth c D A E cc nL own ret) (hw : zWh D A s H h locs) (htb : c.exceptionTable.toList.map (fun h => (h.startPc, h.endPc, h.handlerPc, h.catchType)) = tb) (hout : ∀ q ∈ tb, ¬ (q.1 ≤ pc ∧ pc < q.2.1)) (h1 : cells ≤ mc1) (h2 : slots ≤ ms1) :
    zTw p l e R s m args below meth c H locs cells slots (zMQ below (zQX D A (.threw x) h) args s mc1 ms1 A) (F0 m pc ls rest) x := by
  obtain ⟨⟨hx, hb, -⟩, hr, hlocks, -⟩ := X
  intro T hT X
  have hout2 : ∀ y ∈ c.exceptionTable.toList, covers y (F0 m pc ls rest).pc = false := by
    intro y hy
    have h3 : (y.startPc, y.endPc, y.handlerPc, y.catchType) ∈ tb := by rw [← htb]; exact List.mem_map.mpr ⟨y, hy, rfl⟩
    have h4 := hout _ h3
    cases hc : covers y (F0 m pc ls rest).pc with
    | false => rfl
    | true =>
      exfalso
      apply h4
      have : y.startPc ≤ pc ∧ pc < y.endPc := by simpa [covers] using hc
      exact this
  obtain ⟨w1, w2, w3, w4, w5⟩ := (stand_widen X h1 h2).leaveThrown x (g := F0 m pc ls rest) rfl rfl rfl hout2 hlocks
  exact ⟨_, w1, .threw x, w2, w3, ⟨rfl, by
    show zWd D A _ T.heap h
    rw [hT]; exact hw.1.moved w4.alike, hw.2.F (show (T.setFrames _).heap = H from hT)⟩, locs, ⟨w4, w5⟩, hw.2.2.2⟩
/-- the method throws -/
theorem zw_athrow {x : Addr} {mc1 ms1 : Nat} {tb : zTb} {res : (Nat ⊕ β) × zT} (X : zCx p s m args meth c D A E cc nL own ret) (hw : zWh D A s H h locs) (htb : c.exceptionTable.toList.map (fun h => (h.startPc, h.endPc, h.handlerPc, h.catchType)) = tb) (hout : ∀ q ∈ tb, ¬ (q.1 ≤ pc ∧ pc < q.2.1)) (h1 : cells ≤ mc1) (h2 : slots ≤ ms1) (hdg : decode cc pc = .ok (.athrow, 1)) :
    W p l e R s m args below meth c H locs cells slots (zMQ below (zQX D A (.threw x) h) args s mc1 ms1 A) (F0 m pc ls (.ref x :: rest)) := by
  have hX := X
  obtain ⟨⟨hx, hb, -⟩, hr, hlocks, -⟩ := X
  intro T hT X
  obtain ⟨t, a1, b1⟩ := zw_leaves (rest := rest) (ls := ls) (x := x) (mc1 := mc1) (ms1 := ms1) hX hw htb hout h1 h2 T hT X
  refine ⟨t, ?_, b1⟩
  have hdg2 : decode c.code (F0 m pc ls (.ref x :: rest)).pc = .ok (.athrow, 1) := by rw [hb]; exact hdg
  have hst : (F0 m pc ls (.ref x :: rest)).stack = .ref x :: rest := rfl
  jvm_step X.here [hx, hdg2, athrow.wp_sem, hst]
  exact a1
theorem W_mono {Q' : State → Prop} {g : JFrame} (hQ : ∀ t, Q t → Q' t) (h : W p l e R s m args below meth c H locs cells slots Q g) : W p l e R s m args below meth c H locs cells slots Q' g := by
  intro T hT X
  obtain ⟨t, a, b⟩ := h T hT X
  exact ⟨t, a, hQ t b⟩
theorem zMQ.of {ov : Option Value} {h' : zT} {t : State} (hq : MQ below (zQW D A ov h') args s mc ms A t) : zMQ below (zQX D A (.returned ov) h') args s mc ms A t := by
  obtain ⟨o, h1, h2, h3, L, ⟨-, h4, h5⟩, h6⟩ := hq
  exact ⟨o, h1, h2, h3, L, ⟨h4, h5⟩, h6⟩
end ZTH
