/-! STEPS of the walks of methods that may throw: results (Nat ⊕ α) × zT: thrown address, or the answer -/
set_option maxRecDepth 100000
def zoV (r : Nat ⊕ Unit) : Outcome := match r with
  | .inl x => .threw x
  | .inr _ => .returned none
def zoI (r : Nat ⊕ Int32) : Outcome := match r with
  | .inl x => .threw x
  | .inr v => .returned (some (.int v))
def zoR (r : Nat ⊕ Nat) : Outcome := match r with
  | .inl x => .threw x
  | .inr v => .returned (some (.ref v))
/-- go on with the answer; a throw goes out -/
def zxb {α β : Type} (F : Option ((Nat ⊕ α) × zT)) (K : α → zT → Option ((Nat ⊕ β) × zT)) : Option ((Nat ⊕ β) × zT) := F.bind fun r => match r.1 with
  | .inl x => some (.inl x, r.2)
  | .inr v => K v r.2
/-- go on with the answer; a throw is caught -/
def zxc {α β : Type} (F : Option ((Nat ⊕ α) × zT)) (Kt : Nat → zT → Option β) (K : α → zT → Option β) : Option β := F.bind fun r => match r.1 with
  | .inl x => Kt x r.2
  | .inr v => K v r.2
abbrev zTbl (c : Code) (tb : zTb) : Prop := c.exceptionTable.toList.map (fun h => (h.startPc, h.endPc, h.handlerPc, h.catchType)) = tb
section ZX1
variable {p : Program} {l : Launch} {e : Env} {R : Room} {s : State} {m : MethodId} {args : Array Value} {below : List Frame} {meth : Method} {c : Code} {H : Heap} {locs : List Loc} {cells slots : Nat} {Q : State → Prop}
variable {D : va_G} {A : Nat → Prop} {E : State → Prop} {cc : ByteArray} {nL : Nat} {own : String} {ret : Option FieldType} {h : zT} {pc : Nat} {ls : Array Slot} {rest : List Value} {mc ms mc1 ms1 : Nat} {tb : zTb}
theorem zx_iret {v : Int32} {res : (Nat ⊕ Int32) × zT} (X : zCx p s m args meth c D A E cc nL own (some .int)) (hw : zWh D A s H h locs) (hf : some (.inr v, h) = some res) (h1 : cells ≤ mc) (h2 : slots ≤ ms) (hdg : decode cc pc = .ok (.ireturn, 1)) :
    W p l e R s m args below meth c H locs cells slots (zMQ below (zQX D A (zoI res.1) res.2) args s mc ms A) (F0 m pc ls [.int v]) := by
  cases hf
  exact W_mono (fun t ht => zMQ.of ht) (zw_iret (res := (v, h)) X hw rfl h1 h2 hdg)
theorem zx_vret {res : (Nat ⊕ Unit) × zT} (X : zCx p s m args meth c D A E cc nL own none) (hw : zWh D A s H h locs) (hf : some (.inr (), h) = some res) (h1 : cells ≤ mc) (h2 : slots ≤ ms) (hdg : decode cc pc = .ok (.return_, 1)) :
    W p l e R s m args below meth c H locs cells slots (zMQ below (zQX D A (zoV res.1) res.2) args s mc ms A) (F0 m pc ls []) := by
  cases hf
  exact W_mono (fun t ht => zMQ.of ht) (zw_vret (res := h) X hw rfl h1 h2 hdg)
theorem zx_aret {v : Nat} {rt : FieldType} {res : (Nat ⊕ Nat) × zT} (X : zCx p s m args meth c D A E cc nL own (some rt)) (hrt : (∃ n, rt = .object n) ∨ ∃ t, rt = .array t) (hw : zWh D A s H h locs) (hf : some (.inr v, h) = some res) (h1 : cells ≤ mc) (h2 : slots ≤ ms) (hdg : decode cc pc = .ok (.areturn, 1)) :
    W p l e R s m args below meth c H locs cells slots (zMQ below (zQX D A (zoR res.1) res.2) args s mc ms A) (F0 m pc ls [.ref v]) := by
  cases hf
  exact W_mono (fun t ht => zMQ.of ht) (zw_aretR (res := (v, h)) X hrt hw rfl h1 h2 hdg)
theorem zx_throw {β : Type} {oc : Nat ⊕ β → Outcome} {x : Nat} {res : (Nat ⊕ β) × zT} (hoc : ∀ x, oc (.inl x) = .threw x) (X : zCx p s m args meth c D A E cc nL own ret) (hw : zWh D A s H h locs) (hf : some (.inl x, h) = some res) (htb : zTbl c tb) (hout : ∀ q ∈ tb, ¬ (q.1 ≤ pc ∧ pc < q.2.1)) (h1 : cells ≤ mc) (h2 : slots ≤ ms) (hdg : decode cc pc = .ok (.athrow, 1)) :
    W p l e R s m args below meth c H locs cells slots (zMQ below (zQX D A (oc res.1) res.2) args s mc ms A) (F0 m pc ls (.ref x :: rest)) := by
  cases hf
  rw [hoc]
  exact zw_athrow (β := β) (res := (.inl x, h)) X hw htb hout h1 h2 hdg
/-- a call of a method that may throw, where a throw goes out -/
theorem zx_callV {β : Type} {oc : Nat ⊕ β → Outcome} {F : Option ((Nat ⊕ Unit) × zT)} {K : Unit → zT → Option ((Nat ⊕ β) × zT)} {res : (Nat ⊕ β) × zT} {st0 : List Value} {a : Array Value} (hoc : ∀ x, oc (.inl x) = .threw x) (X : zCx p s m args meth c D A E cc nL own ret) (hw : zWh D A s H h locs) (hf : zxb F K = some res)
    (hr : ∀ r, F = some r → zRT p l e R s m args below meth c H locs cells slots mc1 ms1 (F0 m pc ls st0) rest (zQX D A (zoV r.1) r.2 a) A) (htb : zTbl c tb) (hout : ∀ q ∈ tb, ¬ (q.1 ≤ pc ∧ pc < q.2.1)) (h1 : cells + mc1 ≤ mc) (h2 : slots + ms1 ≤ ms)
    (kk : ∀ (h1 : zT) (H1 : Heap) (locs1 : List Loc), K () h1 = some res → zWh D A s H1 h1 locs1 → W p l e R s m args below meth c H1 locs1 (cells + mc1) (slots + ms1) (zMQ below (zQX D A (oc res.1) res.2) args s mc ms A) (F0 m (pc + 3) ls rest)) :
    W p l e R s m args below meth c H locs cells slots (zMQ below (zQX D A (oc res.1) res.2) args s mc ms A) (F0 m pc ls st0) := by
  obtain ⟨⟨r, h9⟩, q1, q2⟩ := zbd hf
  refine zw_tcall (hr _ q1) hw fun H1 locs1 hw1 => ?_
  cases r with
  | inl x =>
    cases q2
    show zTw _ _ _ _ _ _ _ _ _ _ _ _ _ _ _ _ _
    rw [hoc]
    exact zw_leaves X hw1 htb hout h1 h2
  | inr v => exact kk h9 H1 locs1 q2 hw1
theorem zx_callI {β : Type} {oc : Nat ⊕ β → Outcome} {F : Option ((Nat ⊕ Int32) × zT)} {K : Int32 → zT → Option ((Nat ⊕ β) × zT)} {res : (Nat ⊕ β) × zT} {st0 : List Value} {a : Array Value} (hoc : ∀ x, oc (.inl x) = .threw x) (X : zCx p s m args meth c D A E cc nL own ret) (hw : zWh D A s H h locs) (hf : zxb F K = some res)
    (hr : ∀ r, F = some r → zRT p l e R s m args below meth c H locs cells slots mc1 ms1 (F0 m pc ls st0) rest (zQX D A (zoI r.1) r.2 a) A) (htb : zTbl c tb) (hout : ∀ q ∈ tb, ¬ (q.1 ≤ pc ∧ pc < q.2.1)) (h1 : cells + mc1 ≤ mc) (h2 : slots + ms1 ≤ ms)
    (kk : ∀ (v : Int32) (h1 : zT) (H1 : Heap) (locs1 : List Loc), K v h1 = some res → zWh D A s H1 h1 locs1 → W p l e R s m args below meth c H1 locs1 (cells + mc1) (slots + ms1) (zMQ below (zQX D A (oc res.1) res.2) args s mc ms A) (F0 m (pc + 3) ls (.int v :: rest))) :
    W p l e R s m args below meth c H locs cells slots (zMQ below (zQX D A (oc res.1) res.2) args s mc ms A) (F0 m pc ls st0) := by
  obtain ⟨⟨r, h9⟩, q1, q2⟩ := zbd hf
  refine zw_tcall (hr _ q1) hw fun H1 locs1 hw1 => ?_
  cases r with
  | inl x =>
    cases q2
    show zTw _ _ _ _ _ _ _ _ _ _ _ _ _ _ _ _ _
    rw [hoc]
    exact zw_leaves X hw1 htb hout h1 h2
  | inr v => exact kk v h9 H1 locs1 q2 hw1
theorem zx_callR {β : Type} {oc : Nat ⊕ β → Outcome} {F : Option ((Nat ⊕ Nat) × zT)} {K : Nat → zT → Option ((Nat ⊕ β) × zT)} {res : (Nat ⊕ β) × zT} {st0 : List Value} {a : Array Value} (hoc : ∀ x, oc (.inl x) = .threw x) (X : zCx p s m args meth c D A E cc nL own ret) (hw : zWh D A s H h locs) (hf : zxb F K = some res)
    (hr : ∀ r, F = some r → zRT p l e R s m args below meth c H locs cells slots mc1 ms1 (F0 m pc ls st0) rest (zQX D A (zoR r.1) r.2 a) A) (htb : zTbl c tb) (hout : ∀ q ∈ tb, ¬ (q.1 ≤ pc ∧ pc < q.2.1)) (h1 : cells + mc1 ≤ mc) (h2 : slots + ms1 ≤ ms)
    (kk : ∀ (v : Nat) (h1 : zT) (H1 : Heap) (locs1 : List Loc), K v h1 = some res → zWh D A s H1 h1 locs1 → W p l e R s m args below meth c H1 locs1 (cells + mc1) (slots + ms1) (zMQ below (zQX D A (oc res.1) res.2) args s mc ms A) (F0 m (pc + 3) ls (.ref v :: rest))) :
    W p l e R s m args below meth c H locs cells slots (zMQ below (zQX D A (oc res.1) res.2) args s mc ms A) (F0 m pc ls st0) := by
  obtain ⟨⟨r, h9⟩, q1, q2⟩ := zbd hf
  refine zw_tcall (hr _ q1) hw fun H1 locs1 hw1 => ?_
  cases r with
  | inl x =>
    cases q2
    show zTw _ _ _ _ _ _ _ _ _ _ _ _ _ _ _ _ _
    rw [hoc]
    exact zw_leaves X hw1 htb hout h1 h2
  | inr v => exact kk v h9 H1 locs1 q2 hw1
end ZX1
