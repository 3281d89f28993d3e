/-! METHODS THROUGH WHICH THE MACHINE's OWN EXCEPTIONS GO, and the catching of these; a call through Trusted -/
set_option maxRecDepth 100000
/-- as zQX; a thrown object is an exception of the named class -/
def zQE (cls : String) (D : va_G) (A : Nat → Prop) (o0 : Outcome) (h' : zT) : Array Value → State → Outcome → State → Prop := fun a st o t => zQX D A o0 h' a st o t ∧ ∀ x, o = .threw x → zXo cls t t.heap x
section ZE1
variable {p : Program} {l : Launch} {e : Env} {R : Room} {s : State} {m : MethodId} {args : Array Value} {below : List Frame} {meth : Method} {c : Code} {H : Heap} {locs : List Loc} {cells slots : Nat} {Q : State → Prop}
theorem zrtS {y : MethodName} {bytes cc : ByteArray} {maxL nL mc ms n index : Nat} {ret : Option FieldType} {tb : zTb} {rm : Room} {Pc : Array Value → State → Prop} {Qc : Array Value → State → Outcome → State → Prop} {free : Addr → Prop} {own : String} {As rest : List Value} {g : JFrame}
    (S : CallFix p m c cc nL s args lw_all own) (hM : zMt l y bytes maxL ret tb rm Pc Qc mc ms free) (hlink : (Cond.methodLink own index y).before args s = true) (hstat : (Cond.static y).before args s = true) (hini : (Cond.initialized y.cls).before args s = true) (hnm : ∃ mk, s.methodNamed? y = some mk) (hcode : zCode s y bytes maxL ret tb) (hcd : zcd y n) (hplain : plainName y.cls = true)
    (hrc : rm.cells = mc) (hrs : rm.slots = ms) (hR : rm.frames + 1 ≤ R.frames ∧ 8 + (maxL + 11) + rm.locals ≤ R.locals) (hp : PreS s H Pc As)
    (hg : g.method = m) (hn : As.length = n) (hsize : g.locals.size = nL) (hstack : g.stack = As.reverse ++ rest) (hW : 2 * g.monitorRoom + (rest.map fun v => v.category).sum ≤ 8) (hdg : decode cc g.pc = .ok (.invokestatic index, 3)) (hf : cells + mc ≤ R.cells ∧ slots + ms ≤ R.slots) :
    zRT p l e R s m args below meth c H locs cells slots mc ms g rest (Qc As.toArray) free := by
  obtain ⟨hx, hb, hml, ho, hts⟩ := S
  intro T hT X
  obtain ⟨mk, hnamed⟩ := hnm
  obtain ⟨methM, cM, hmethM, -, -, -, -, -, -, hsigM⟩ := hcode mk hnamed
  have hstatic : methM.isStatic = true := Cond.static_spec hnamed hmethM hstat
  obtain ⟨kP, hkP, -⟩ := className_of_methodNamed hnamed
  have hinitP : kP.init = .initialized := Cond.initialized_spec (findClass_of_methodNamed hnamed) hkP hini
  have hlen : As.length = methM.sig.parameters.length := by
    have h2 := hcd.2.2
    rw [hsigM] at h2
    rw [hn]; exact (Option.some.inj h2).symm
  obtain ⟨vm₁, X₁, hstep₁⟩ := X.invokestatic hx ho hlink hnamed hmethM hstatic hkP hinitP ⟨hcd.1, hcd.2.1⟩ (g := g) hg (argsL := As) (rest := rest) hlen hstack (by rw [hb]; exact hdg)
  obtain ⟨o, t, T', L, X', hL, e1, e2, hq, hgo⟩ := zinto X₁ hx hM hnamed hcode hts hplain (g := { g with stack := rest }) (ig := .invokestatic index) (a := As.toArray) hg (hsize.trans hml.symm) (by rw [hb]; exact hdg) hW hrc hrs hR hf hp.1 (hp.2 (T.setVm vm₁) hT X₁.warmed)
  refine ⟨o, _, t, T', L, ?_, X', hL, e1, e2, hq, ?_⟩
  · exact hT
  · cases o with
    | returned v => exact fun target h => hstep₁ _ fun acts => hgo acts target h
    | threw x => exact fun target h => hstep₁ _ fun acts => hgo acts target h
variable {D : va_G} {A : Nat → Prop} {E : State → Prop} {cc : ByteArray} {nL : Nat} {own : String} {ret : Option FieldType} {h : zT} {pc : Nat} {ls : Array Slot} {rest : List Value} {mc ms mc1 ms1 : Nat} {tb : zTb} {β : Type} {res : β}
theorem ze_aret {cls : String} {v : Nat} {rt : FieldType} {res : (Nat ⊕ Nat) × zT} (X : zCx p s m args meth c D A E cc nL own (some rt)) (hrt : (∃ n, rt = .object n) ∨ ∃ t, rt = .array t) (hw : zWh D A s H h locs) (hf : some (.inr v, h) = some res) (h1 : cells ≤ mc) (h2 : slots ≤ ms) (hdg : decode cc pc = .ok (.areturn, 1)) :
    W p l e R s m args below meth c H locs cells slots (zMQ below (zQE cls D A (zoR res.1) res.2) args s mc ms A) (F0 m pc ls [.ref v]) := by
  cases hf
  refine W_mono (fun t ht => ?_) (zx_aret (res := (.inr v, h)) X hrt hw rfl h1 h2 hdg)
  obtain ⟨o, a1, a2, a3, a4⟩ := ht
  refine ⟨o, a1, a2, ⟨a3, fun x hx => ?_⟩, a4⟩
  rw [a3.1] at hx
  cases hx
theorem ze_leaves {cls : String} {x : Addr} {res : (Nat ⊕ Nat) × zT} (X : zCx p s m args meth c D A E cc nL own ret) (hw : zWh D A s H h locs) (hxo : zXo cls s H x) (hf : some (.inl x, h) = some res) (htb : zTbl c tb) (hout : ∀ q ∈ tb, ¬ (q.1 ≤ pc ∧ pc < q.2.1)) (h1 : cells ≤ mc) (h2 : slots ≤ ms) :
    zTw p l e R s m args below meth c H locs cells slots (zMQ below (zQE cls D A (zoR res.1) res.2) args s mc ms A) (F0 m pc ls rest) x := by
  cases hf
  intro T hT X0
  obtain ⟨⟨hx, hb, -⟩, hr, hlocks, -⟩ := X
  have hout2 : ∀ y ∈ c.exceptionTable.toList, covers y (F0 m pc ls rest).pc = false := by
    intro y hy
    have h3 : (y.startPc, y.endPc, y.handlerPc, y.catchType) ∈ tb := by rw [← htb]; exact List.mem_map.mpr ⟨y, hy, rfl⟩
    have h4 := hout _ h3
    cases hc : covers y (F0 m pc ls rest).pc with
    | false => rfl
    | true =>
      exfalso
      apply h4
      have : y.startPc ≤ pc ∧ pc < y.endPc := by simpa [covers] using hc
      exact this
  obtain ⟨w1, w2, w3, w4, w5⟩ := (stand_widen X0 h1 h2).leaveThrown x (g := F0 m pc ls rest) rfl rfl rfl hout2 hlocks
  refine ⟨_, w1, .threw x, w2, w3, ⟨⟨rfl, by show zWd D A _ T.heap h; rw [hT]; exact hw.1.moved w4.alike, hw.2.F (show (T.setFrames _).heap = H from hT)⟩, fun x2 hx2 => ?_⟩, locs, ⟨w4, w5⟩, hw.2.2.2⟩
  cases hx2
  obtain ⟨ce, c1, c2, c3⟩ := hxo
  exact ⟨ce, by show T.heap[x]? = _; rw [hT]; exact c1, by rw [w4.alike.findClass]; exact c2, c3⟩
/-- an exception of the machine's own is caught by row i, whose class is its own -/
theorem ze_caught {cls : String} (X : zCx p s m args meth c D A E cc nL own ret) (htb : zTbl c tb) {x : Nat} (hxo : zXo cls s H x) (hcast : va_Nw (.castable cls cls) s) (i : Nat) {q : Nat × Nat × Nat × Nat} (hi : tb[i]? = some q) (hskip : ∀ y ∈ tb.take i, ¬ (y.1 ≤ pc ∧ pc < y.2.1)) (hcov : q.1 ≤ pc ∧ pc < q.2.1) (h0 : q.2.2.2 ≠ 0) (hlink : Cond.classLink own q.2.2.2 cls ∈ lw_all)
    (k : W p l e R s m args below meth c H locs cells slots Q (F0 m q.2.2.1 ls [.ref x])) : zTw p l e R s m args below meth c H locs cells slots Q (F0 m pc ls rest) x := by
  intro T hT X0
  obtain ⟨⟨hx, hb, hml, hown, hts⟩, -, -, hK, -⟩ := X
  obtain ⟨pre, row, rs, e1, e2, e3⟩ := ztb_row htb i hi
  obtain ⟨cell, d1, d2, d3⟩ := hxo
  obtain ⟨c0, t0, f1, f2, f3⟩ := Cond.castable_spec (va_Nw.use (A := args) rfl hcast)
  cases f1.symm.trans d2
  cases f2.symm.trans d2
  obtain ⟨kC, hkC, -⟩ := Vm.findClass_spec d2
  subst e3
  obtain ⟨vm', X', st⟩ := zcatch X0 (a := x) (g := F0 m pc ls rest) rfl (by rw [hT]; exact d1) d3 hown pre row rs e1 (fun y hy => by
      have h3 : (y.startPc, y.endPc, y.handlerPc, y.catchType) ∈ tb.take i := by rw [← e2]; exact List.mem_map.mpr ⟨y, hy, rfl⟩
      have h4 := hskip _ h3
      cases hc : covers y (F0 m pc ls rest).pc with
      | false => rfl
      | true =>
        exfalso
        apply h4
        have : y.startPc ≤ pc ∧ pc < y.endPc := by simpa [covers] using hc
        exact this) (by simp [covers, hcov.1, hcov.2]) h0 (hts _ hlink) d2 ⟨kC, hkC⟩ f3
  obtain ⟨t, a1, b1⟩ := k (T.setVm vm') hT X'
  exact ⟨t, st t a1, b1⟩
/-- a call through which an exception of the machine's own may come, which is caught here -/
theorem ze_call {cls : String} {F : Option ((Nat ⊕ Nat) × zT)} {Kt : Nat → zT → Option β} {K : Nat → zT → Option β} {st0 : List Value} {a : Array Value} (hw : zWh D A s H h locs) (hf : zxc F Kt K = some res)
    (hr : ∀ r, F = some r → zRT p l e R s m args below meth c H locs cells slots mc1 ms1 (F0 m pc ls st0) rest (zQE cls D A (zoR r.1) r.2 a) A)
    (kt : ∀ (x : Nat) (h1 : zT) (H1 : Heap) (locs1 : List Loc), Kt x h1 = some res → zWh D A s H1 h1 locs1 → zXo cls s H1 x → zTw p l e R s m args below meth c H1 locs1 (cells + mc1) (slots + ms1) Q (F0 m pc ls rest) x)
    (kk : ∀ (v : Nat) (h1 : zT) (H1 : Heap) (locs1 : List Loc), K v h1 = some res → zWh D A s H1 h1 locs1 → W p l e R s m args below meth c H1 locs1 (cells + mc1) (slots + ms1) Q (F0 m (pc + 3) ls (.ref v :: rest))) :
    W p l e R s m args below meth c H locs cells slots Q (F0 m pc ls st0) := by
  obtain ⟨⟨r, h9⟩, q1, q2⟩ := zbd hf
  intro T hT X
  obtain ⟨o, st₀, t, T', L, h0, X', hL, e1, e2, ⟨⟨hv, hb, hz, hk⟩, hex⟩, st⟩ := hr _ q1 T hT X
  cases hv
  rw [h0] at hz hk
  have hal : s.vm.Alike t.vm := by rw [← e2]; exact X'.warmed.alike
  have hw1 : zWh D A s T'.heap h9 (locs ++ L) := ⟨by rw [e1]; exact hb.moved hal.symm, Nat.le_trans hw.2.1 (by rw [e1]; exact hz), fun q h1 h2 => by rw [e1, hk q (Nat.lt_of_lt_of_le h1 hw.2.1) h2]; exact hw.2.2.1 q h1 h2, fun q hq => by
      rcases List.mem_append.mp hq with h | h
      · exact hw.2.2.2 q h
      · exact hL q h⟩
  cases r with
  | inl x =>
    obtain ⟨ce, c1, c2, c3⟩ := hex x rfl
    obtain ⟨t2, a1, b1⟩ := kt x h9 T'.heap (locs ++ L) q2 hw1 ⟨ce, by rw [e1]; exact c1, by rw [hal.findClass] at c2; exact c2, c3⟩ T' rfl X'
    exact ⟨t2, st t2 a1, b1⟩
  | inr v =>
    obtain ⟨t2, a1, b1⟩ := kk v h9 T'.heap (locs ++ L) q2 hw1 T' rfl X'
    exact ⟨t2, st t2 a1, b1⟩
/-- a negative size -/
theorem zw_newNeg (X : zCx p s m args meth c D A (zEv A) cc nL own ret) (htr : l.stackTraces = false) (hw : zWh D A s H h locs) (hl : ls.size = nL) {n : Int32} {atype : ArrayType} (hn : n < 0) (hRf : 7 ≤ R.frames) (hRl : (rest.map fun v => v.category).sum + 10240 ≤ R.locals) (hRc : cells + 3 ≤ R.cells) (hRs : slots + 1010 ≤ R.slots) (hdg : decode cc pc = .ok (.newarray atype, 2))
    (k : ∀ (H1 : Heap) (locs1 : List Loc), zWh D A s H1 (zthr h) locs1 → zXo "java/lang/NegativeArraySizeException" s H1 (h.2 + 2) → zTw p l e R s m args below meth c H1 locs1 (cells + 3) (slots + 1010) Q (F0 m pc ls rest) (h.2 + 2)) :
    W p l e R s m args below meth c H locs cells slots Q (F0 m pc ls (.int n :: rest)) := by
  intro T hT X0
  have hx := X.1.1
  have hb := X.1.2.1
  have h1 := negative_text_bytes n
  have h2 : (toString n == notModelled) = false := by
    rw [beq_eq_false_iff_ne]
    intro h9
    have h3 := int32_print n
    rw [h9] at h3
    exact absurd h3 (by decide +kernel)
  obtain ⟨t, a1, b1⟩ := zvmThrow (T := T) (text := toString n) X htr hw hl hT X0 (Or.inr rfl) h2 (by omega) hRf hRl hRc hRs k
  exact ⟨t, X0.newarrayNegative hx (g := F0 m pc ls (.int n :: rest)) rfl hn (rest := rest) rfl (by rw [hb]; exact hdg) t a1, b1⟩
end ZE1
