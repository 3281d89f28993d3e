/-! CALLS of the component: by their answers; receivers; words of inherited and overriding methods; Math; casts; arraycopy (gen/mk14.py) -/
set_option maxRecDepth 100000
section ZG
variable {p : Program} {l : Launch} {e : Env} {R : Room} {s : State} {m : MethodId} {args : Array Value} {below : List Frame} {meth : Method} {c : Code} {H : Heap} {locs : List Loc} {cells slots : Nat} {Q : State → Prop}
variable {D : va_G} {A : Nat → Prop} {E : State → Prop} {cc : ByteArray} {nL : Nat} {own : String} {ret : Option FieldType} {h : zT} {pc : Nat} {ls : Array Slot} {rest : List Value} {β : Type} {res : β}
theorem zw_goI {F : Option (Int32 × zT)} {K : Int32 × zT → Option β} {st0 : List Value} {a : Array Value} {mc1 ms1 : Nat} (hw : zWh D A s H h locs) (hf : F.bind K = some res) (hr : ∀ r, F = some r → va_Run p l e R s m args below meth c H locs cells slots mc1 ms1 (F0 m pc ls st0) rest (zQW D A (some (.int r.1)) (r.2) a) A)
    (kk : ∀ (r : Int32 × zT) (H1 : Heap) (locs1 : List Loc), K r = some res → zWh D A s H1 (r.2) locs1 → W p l e R s m args below meth c H1 locs1 (cells + mc1) (slots + ms1) Q (F0 m (pc + 3) ls (.int r.1 :: rest))) : W p l e R s m args below meth c H locs cells slots Q (F0 m pc ls st0) := by
  obtain ⟨r, h1, h2⟩ := zbd hf
  exact zw_call (hr r h1) hw (fun H1 locs1 hw1 => kk r H1 locs1 h2 hw1)
theorem zw_goZ {F : Option (Int32 × zT)} {K : Int32 × zT → Option β} {st0 : List Value} {a : Array Value} {mc1 ms1 : Nat} (hw : zWh D A s H h locs) (hf : F.bind K = some res) (hr : ∀ r, F = some r → va_Run p l e R s m args below meth c H locs cells slots mc1 ms1 (F0 m pc ls st0) rest (zQW D A (some (.int r.1)) (r.2) a) A)
    (kk : ∀ (r : Int32 × zT) (H1 : Heap) (locs1 : List Loc), K r = some res → zWh D A s H1 (r.2) locs1 → W p l e R s m args below meth c H1 locs1 (cells + mc1) (slots + ms1) Q (F0 m (pc + 3) ls (.int r.1 :: rest))) : W p l e R s m args below meth c H locs cells slots Q (F0 m pc ls st0) := by
  obtain ⟨r, h1, h2⟩ := zbd hf
  exact zw_call (hr r h1) hw (fun H1 locs1 hw1 => kk r H1 locs1 h2 hw1)
theorem zw_goJ {F : Option (Int64 × zT)} {K : Int64 × zT → Option β} {st0 : List Value} {a : Array Value} {mc1 ms1 : Nat} (hw : zWh D A s H h locs) (hf : F.bind K = some res) (hr : ∀ r, F = some r → va_Run p l e R s m args below meth c H locs cells slots mc1 ms1 (F0 m pc ls st0) rest (zQW D A (some (.long r.1)) (r.2) a) A)
    (kk : ∀ (r : Int64 × zT) (H1 : Heap) (locs1 : List Loc), K r = some res → zWh D A s H1 (r.2) locs1 → W p l e R s m args below meth c H1 locs1 (cells + mc1) (slots + ms1) Q (F0 m (pc + 3) ls (.long r.1 :: rest))) : W p l e R s m args below meth c H locs cells slots Q (F0 m pc ls st0) := by
  obtain ⟨r, h1, h2⟩ := zbd hf
  exact zw_call (hr r h1) hw (fun H1 locs1 hw1 => kk r H1 locs1 h2 hw1)
theorem zw_goV {F : Option (zT)} {K : zT → Option β} {st0 : List Value} {a : Array Value} {mc1 ms1 : Nat} (hw : zWh D A s H h locs) (hf : F.bind K = some res) (hr : ∀ r, F = some r → va_Run p l e R s m args below meth c H locs cells slots mc1 ms1 (F0 m pc ls st0) rest (zQW D A none (r) a) A)
    (kk : ∀ (r : zT) (H1 : Heap) (locs1 : List Loc), K r = some res → zWh D A s H1 (r) locs1 → W p l e R s m args below meth c H1 locs1 (cells + mc1) (slots + ms1) Q (F0 m (pc + 3) ls (rest))) : W p l e R s m args below meth c H locs cells slots Q (F0 m pc ls st0) := by
  obtain ⟨r, h1, h2⟩ := zbd hf
  exact zw_call (hr r h1) hw (fun H1 locs1 hw1 => kk r H1 locs1 h2 hw1)
theorem zw_goR {F : Option (Nat × zT)} {K : Nat × zT → Option β} {st0 : List Value} {a : Array Value} {mc1 ms1 : Nat} (hw : zWh D A s H h locs) (hf : F.bind K = some res) (hr : ∀ r, F = some r → va_Run p l e R s m args below meth c H locs cells slots mc1 ms1 (F0 m pc ls st0) rest (zQW D A (some (.ref r.1)) (r.2) a) A)
    (kk : ∀ (r : Nat × zT) (H1 : Heap) (locs1 : List Loc), K r = some res → zWh D A s H1 (r.2) locs1 → W p l e R s m args below meth c H1 locs1 (cells + mc1) (slots + ms1) Q (F0 m (pc + 3) ls (.ref r.1 :: rest))) : W p l e R s m args below meth c H locs cells slots Q (F0 m pc ls st0) := by
  obtain ⟨r, h1, h2⟩ := zbd hf
  exact zw_call (hr r h1) hw (fun H1 locs1 hw1 => kk r H1 locs1 h2 hw1)
theorem zpreV (X : zCx p s m args meth c D A E cc nL own ret) (hw : zWh D A s H h locs) {ci b : Nat} {fs : List Value} {q : vw_C} (hb : h.1 b = some (.inr (ci, fs))) (hq : zCl[ci]? = some q) (As : List Value) : PreV s H q.1 b (zPW D A E h (.ref b :: As)) As := by
  obtain ⟨r0, g1, g2, cell, g3, g4, g5, -⟩ := (hw.1.2 b _ hb).2
  have hK := X.2.2.2.1
  exact ⟨(zpreS X hw (.ref b :: As)).1, ⟨cell, g3, by rw [g5]; rfl, by rw [g4]; exact (hK.1 ci q hq).2.1⟩, (zpreS X hw (.ref b :: As)).2⟩
/-- the receiver's class, of some -/
theorem zw_kS {S : List Nat} {b : Nat} {K : Nat → Option β} {G : Prop} (hf : (zk_S S h b).bind K = some res) (kk : ∀ (ci : Nat) (fs : List Value), ci ∈ S → h.1 b = some (.inr (ci, fs)) → K ci = some res → G) : G := by
  obtain ⟨ci, h1, h2⟩ := zbd hf
  obtain ⟨hci, fs, hfs⟩ := zk_S_eq h1
  exact kk ci fs hci hfs h2
theorem zw_kC {ci b : Nat} {K : Unit → Option β} {G : Prop} (hf : (zk_C ci h b).bind K = some res) (kk : ∀ (fs : List Value), h.1 b = some (.inr (ci, fs)) → K () = some res → G) : G := by
  obtain ⟨u, h1, h2⟩ := zbd hf
  obtain ⟨fs, hfs⟩ := zk_C_eq h1
  exact kk fs hfs h2
theorem zw_nn {x : Option Nat} {K : Nat → Option β} {G : Prop} (hf : x.bind K = some res) (kk : ∀ a, x = some a → K a = some res → G) : G := by
  obtain ⟨a, h1, h2⟩ := zbd hf
  exact kk a h1 h2
theorem zclS : ∀ ci ∈ [6, 7, 8, 9, 10, 11], ∃ q : vw_C, zCl[ci]? = some q := by
  intro ci h
  simp only [List.mem_cons, List.not_mem_nil, or_false] at h
  rcases h with rfl | rfl | rfl | rfl | rfl | rfl <;> exact ⟨_, rfl⟩
end ZG
/-- words of a call of a method that another class declares -/
theorem zlw_U {own C owner : String} {idx : Nat} {x y : MethodName} {b : ByteArray} {L : Nat} {r : Option FieldType} (h1 : Cond.methodLink own idx x ∈ lw_all) (h2 : Cond.sameMethod x.cls owner x.name x.desc ∈ lw_all) (h3 : Cond.selects C x y ∈ lw_all) (h4 : Cond.instanceMethod y ∈ lw_all) (h5 : Cond.initialized y.cls ∈ lw_all) (h6 : Cond.code y b L r ∈ lw_all) : GoodIn lw_all (va_wsU own idx C owner x y (ws_ y b L r)) := by
  refine lw_app ?_ (lw_meth h6)
  intro w hw
  simp only [List.mem_cons, List.not_mem_nil, or_false] at hw
  rcases hw with e | e | e | e | e <;> rw [e] <;> assumption
theorem zlw_O {own C owner : String} {idx : Nat} {x y : MethodName} {b : ByteArray} {L : Nat} {r : Option FieldType} (h1 : Cond.methodLink own idx x ∈ lw_all) (h2 : Cond.sameMethod x.cls owner x.name x.desc ∈ lw_all) (h0 : Cond.instanceMethod ⟨owner, x.name, x.desc⟩ ∈ lw_all) (h3 : Cond.selects C x y ∈ lw_all) (h4 : Cond.instanceMethod y ∈ lw_all) (h5 : Cond.initialized y.cls ∈ lw_all) (h6 : Cond.code y b L r ∈ lw_all) : GoodIn lw_all (va_wsO own idx C owner x y (ws_ y b L r)) := by
  refine lw_app ?_ (lw_meth h6)
  intro w hw
  simp only [List.mem_cons, List.not_mem_nil, or_false] at hw
  rcases hw with e | e | e | e | e | e <;> rw [e] <;> assumption
theorem zlw_SU {own : String} {idx : Nat} {y : MethodName} {b : ByteArray} {L : Nat} {r : Option FieldType} (h1 : Cond.methodLink own idx y ∈ lw_all) (h2 : Cond.sameMethod y.cls y.cls y.name y.desc ∈ lw_all) (h3 : Cond.superclass own y.cls ∈ lw_all) (h4 : Cond.instanceMethod y ∈ lw_all) (h5 : Cond.initialized y.cls ∈ lw_all) (h6 : Cond.code y b L r ∈ lw_all) : GoodIn lw_all (va_wsSU own idx y (ws_ y b L r)) := by
  refine lw_app ?_ (lw_meth h6)
  intro w hw
  simp only [List.mem_cons, List.not_mem_nil, or_false] at hw
  rcases hw with e | e | e | e | e <;> rw [e] <;> assumption
section ZCA
variable {p : Program} {l : Launch} {e : Env} {R : Room} {s : State} {m : MethodId} {args : Array Value} {below : List Frame} {meth : Method} {c : Code} {H : Heap} {locs : List Loc} {cells slots : Nat} {Q : State → Prop}
variable {D : va_G} {A : Nat → Prop} {E : State → Prop} {cc : ByteArray} {nL : Nat} {own : String} {ret : Option FieldType} {h : zT} {pc : Nat} {ls : Array Slot} {rest : List Value} {β : Type} {res : β}
/-- which classes of ours an object's class is (by their numbers) -/
def zsub (ci t : Nat) : Bool := ci == t || (t == 6 && (ci == 7 || ci == 8 || ci == 9 || ci == 10 || ci == 11)) || (t == 7 && ci == 9) || (t == 8 && ci == 10)
theorem zrecv (X : zCx p s m args meth c D A E cc nL own ret) (hw : zWh D A s H h locs) {ci b : Nat} {fs : List Value} {q : vw_C} (hb : h.1 b = some (.inr (ci, fs))) (hq : zCl[ci]? = some q) : ∃ cell : Cell, H[b]? = some cell ∧ cell.vm.isStatics = false ∧ s.vm.findClass q.1 = some cell.cls := (zpreV X hw hb hq []).2.1
/-- an array's kind: 0 floats, 1 shorts, by its cell -/
def zh_ty (h : zT) (a : Nat) : Option FieldType := match h.1 a with
  | some (.inl x) => some x.1
  | _ => none
theorem zh_ty_eq {a : Nat} {t : FieldType} (e : zh_ty h a = some t) : ∃ x : FieldType × vp_A, h.1 a = some (.inl x) ∧ x.1 = t := by
  unfold zh_ty at e
  split at e
  · rename_i x h2
    cases e
    exact ⟨x, h2, rfl⟩
  · cases e
/-- a cell that is an array of the named kind -/
def zc_T (t : FieldType) (h : zT) (a : Nat) : Option Unit := (zh_ty h a).bind fun t9 => if t9 = t then some () else none
/-- instanceof float[] -/
def zi_F (h : zT) (x : Option Nat) : Option Int32 := match x with
  | none => some 0
  | some a => (zh_ty h a).bind fun t => if t = FieldType.float then some 1 else if t = FieldType.short then some 0 else none
/-- a cell that is an array of the named kind passes a cast to it -/
theorem zw_castA (X : zCx p s m args meth c D A E cc nL own ret) (hw : zWh D A s H h locs) {a index : Nat} {t : FieldType} {nm : String} {K : Unit → Option β} (hlink : Cond.classLink own index nm ∈ lw_all) (hnm : ∀ cA, va_RA s cA t → s.vm.findClass nm = some cA) (hf : (zc_T t h a).bind K = some res) (hdg : decode cc pc = .ok (.checkcast index, 3))
    (kk : K () = some res → W p l e R s m args below meth c H locs cells slots Q (F0 m (pc + 3) ls (.ref a :: rest))) : W p l e R s m args below meth c H locs cells slots Q (F0 m pc ls (.ref a :: rest)) := by
  obtain ⟨⟨hx, hb, hml, hown, hts⟩, -, -, hK, -⟩ := X
  obtain ⟨u, h1, hf2⟩ := zbd hf
  obtain ⟨t9, h2, h3⟩ := zbd h1
  by_cases ht : t9 = t
  · subst ht
    obtain ⟨x, g1, g2⟩ := zh_ty_eq h2
    obtain ⟨cA, ⟨hT, hRA⟩, hcell⟩ := (hw.1.2 a _ g1).2
    exact va_castA (D := D) (cl := zCl) (ws := [(a, .inl (cA, x.2))]) hx hb hown (hts _ hlink) (fun j q hj => by
      match j, hj with
      | 0, hj => cases hj; exact hcell
      | j + 1, hj => simp at hj) 0 rfl (hnm cA (g2 ▸ hRA)) hdg (kk hf2)
  · rw [if_neg ht] at h3; cases h3
theorem vp_cell_vm (cA : ClassId) (x : vp_A) : (vp_cell cA x).vm = .none ∧ (vp_cell cA x).cls = cA := by
  obtain ⟨n, f | f | f | f | f⟩ := x <;> exact ⟨rfl, rfl⟩
/-- instanceof float[] of a row of floats or of shorts, or none -/
theorem zw_instF (X : zCx p s m args meth c D A E cc nL own ret) (hw : zWh D A s H h locs) {index : Nat} {x : Option Nat} {K : Int32 → Option β} (hlink : Cond.classLink own index "[F" ∈ lw_all) (hno : va_Nc "[S" "[F" s)
    (hf : (zi_F h x).bind K = some res) (hdg : decode cc pc = .ok (.instanceof index, 3))
    (kk : ∀ v, K v = some res → W p l e R s m args below meth c H locs cells slots Q (F0 m (pc + 3) ls (.int v :: rest))) : W p l e R s m args below meth c H locs cells slots Q (F0 m pc ls (va_rf x :: rest)) := by
  obtain ⟨⟨hx, hb, hml, hown, hts⟩, -, -, hK, -⟩ := X
  obtain ⟨v, h1, hf⟩ := zbd hf
  cases x with
  | none =>
    cases h1
    exact lv_instN hx hb hdg (kk _ hf)
  | some a =>
    obtain ⟨t, h2, h3⟩ := zbd h1
    obtain ⟨y, g1, g2⟩ := zh_ty_eq h2
    obtain ⟨cA, ⟨hT, hRA⟩, hcell⟩ := (hw.1.2 a _ g1).2
    obtain ⟨e1, e2⟩ := vp_cell_vm cA y.2
    by_cases ht : t = .float
    · rw [if_pos ht] at h3
      cases h3
      subst ht
      have hnm : s.vm.findClass "[F" = some cA := by
        rw [g2] at hRA
        have e : "[" ++ FieldType.float.toString = "[F" := by decide +kernel
        rw [← e]
        exact hRA
      intro T hT9 X9
      obtain ⟨vm', X', st⟩ := X9.instanceofYes hx hown (hts _ hlink) (by rw [hT9]; exact hcell) (by rw [e1]; rfl) hnm (by rw [e2]; exact va_asg _ _) (g := F0 m pc ls (.ref a :: rest)) rfl rfl (by rw [hb]; exact hdg)
      obtain ⟨t9, a1, b1⟩ := kk _ hf (T.setVm vm') hT9 X'
      exact ⟨t9, st t9 a1, b1⟩
    · rw [if_neg ht] at h3
      by_cases ht2 : t = .short
      · rw [if_pos ht2] at h3
        cases h3
        subst ht2
        have hnm : s.vm.findClass "[S" = some cA := by
          rw [g2] at hRA
          have e : "[" ++ FieldType.short.toString = "[S" := by decide +kernel
          rw [← e]
          exact hRA
        exact va_instNo (C := "[S") hx hb hown (hts _ hlink) hno ⟨_, hcell, by rw [e1]; rfl, by rw [e2]; exact hnm⟩ hdg (kk _ hf)
      · rw [if_neg ht2] at h3; cases h3
end ZCA
section ZCP
variable {p : Program} {l : Launch} {e : Env} {R : Room} {s : State} {m : MethodId} {args : Array Value} {below : List Frame} {meth : Method} {c : Code} {H : Heap} {locs : List Loc} {cells slots : Nat} {Q : State → Prop}
variable {D : va_G} {A : Nat → Prop} {E : State → Prop} {cc : ByteArray} {nL : Nat} {own : String} {ret : Option FieldType} {h : zT} {pc : Nat} {ls : Array Slot} {rest : List Value} {β : Type} {res : β}
/-- System.arraycopy between arrays of ints or smaller -/
def zc_I (ty : FieldType) (h : zT) (a0 : Nat) (sp : Int32) (a1 : Nat) (dp n : Int32) : Option zT := (zh_A ty h a0).bind fun x => (zh_A ty h a1).bind fun y =>
  if sp < 0 ∨ dp < 0 ∨ n < 0 ∨ ¬ sp.toNatClampNeg + n.toNatClampNeg ≤ x.1 ∨ ¬ dp.toNatClampNeg + n.toNatClampNeg ≤ y.1 ∨ ((List.range n.toNatClampNeg).all fun i => fits ty (.int (x.2 (sp.toNatClampNeg + i)))) = false then none
  else some (zh_set h a1 (.inl (ty, y.1, .inl (va_cpy x.2 y.2 sp.toNatClampNeg dp.toNatClampNeg n.toNatClampNeg))))
/-- .. between arrays of references to objects of the class C (number ci) or none -/
def zc_Q (C : String) (ci : Nat) (h : zT) (a0 : Nat) (sp : Int32) (a1 : Nat) (dp n : Int32) : Option zT := (zh_Q C h a0).bind fun x => (zh_Q C h a1).bind fun y =>
  if sp < 0 ∨ dp < 0 ∨ n < 0 ∨ ¬ sp.toNatClampNeg + n.toNatClampNeg ≤ x.1 ∨ ¬ dp.toNatClampNeg + n.toNatClampNeg ≤ y.1 ∨ ((List.range n.toNatClampNeg).all fun i => match x.2 (sp.toNatClampNeg + i) with | none => true | some y => (zk_C ci h y).isSome) = false then none
  else some (zh_set h a1 (.inl (.object C, y.1, .inr (.inr (.inr (.inr (va_cpy x.2 y.2 sp.toNatClampNeg dp.toNatClampNeg n.toNatClampNeg)))))))
theorem zcl_nn (z : Int32) (hz : ¬ z < 0) : z.toInt = (z.toNatClampNeg : Int) := by
  have hz0 : (0 : Int) ≤ z.toInt := by
    have := Int32.not_lt.mp hz
    simpa using Int32.le_iff_toInt_le.mp this
  show z.toInt = ((z.toInt.toNat : Nat) : Int)
  omega
theorem zw_copyI (X : zCx p s m args meth c D A E cc nL own ret) (hw : zWh D A s H h locs) (hl : ls.size = nL) {ty : FieldType} {index a0 a1 : Nat} {sp dp n : Int32} {K : zT → Option β} (hprim : refKind ty = false) (hlink : Cond.methodLink own index arraycopyName ∈ lw_all) (hnat : Cond.native arraycopyName ∈ lw_all) (hstat : Cond.static arraycopyName ∈ lw_all) (hini : Cond.initialized "java/lang/System" ∈ lw_all)
    (hf : (zc_I ty h a0 sp a1 dp n).bind K = some res) (hframes : 1 ≤ R.frames) (hlocals : (rest.map fun v => v.category).sum + (nativeFrameWords "java/lang/System" "arraycopy" 5 + 11) ≤ R.locals) (hdg : decode cc pc = .ok (.invokestatic index, 3))
    (kk : ∀ (h1 : zT) (H1 : Heap) (locs1 : List Loc), K h1 = some res → zWh D A s H1 h1 locs1 → W p l e R s m args below meth c H1 locs1 cells slots Q (F0 m (pc + 3) ls rest)) : W p l e R s m args below meth c H locs cells slots Q (F0 m pc ls (.int n :: .int dp :: .ref a1 :: .int sp :: .ref a0 :: rest)) := by
  obtain ⟨⟨hx, hb, hml, hown, hts⟩, -, -, hK, -⟩ := X
  obtain ⟨h1, q1, hf⟩ := zbd hf
  obtain ⟨⟨n0, f⟩, e0, q1⟩ := zbd q1
  obtain ⟨⟨n1, g⟩, e1, q1⟩ := zbd q1
  obtain ⟨hno, q1⟩ := zif q1
  cases q1
  simp only [not_or, Classical.not_not] at hno
  obtain ⟨h1, h2, h3, h4, h5, h6⟩ := hno
  have h6 : ∀ i, i < n.toNatClampNeg → fits ty (.int (f (sp.toNatClampNeg + i))) = true := by
    have h7 := Bool.not_eq_false _ |>.mp h6
    exact fun i hi => List.all_eq_true.mp h7 i (List.mem_range.mpr hi)
  have g0 := zh_A_eq e0
  have g1 := zh_A_eq e1
  obtain ⟨c0, hT0, hc0⟩ := (hw.1.2 a0 _ g0).2
  obtain ⟨c1, hT1, hc1⟩ := (hw.1.2 a1 _ g1).2
  have hA1 := (hw.1.2 a1 _ g1).1
  obtain ⟨-, k0, hk0, cm0, hkk0⟩ := hT0.1 n0 (fun j => .int (f j))
  obtain ⟨-, k1, hk1, cm1, hkk1⟩ := hT1.1 n1 (fun j => .int (g j))
  intro T hT X
  obtain ⟨vm', X', step⟩ := X.arraycopy hx hown (hts _ hlink) (hts _ hnat) (hts _ hstat) (hts _ hini) (src := a0) (dst := a1) (cs := vp_cell c0 (n0, .inl f)) (cd := vp_cell c1 (n1, .inl g)) (srcPos := sp) (destPos := dp) (n := n) (by rw [hT]; exact hc0) (by rw [hT]; exact hc1)
    (fun _ h => by cases h) (fun _ h => by cases h) (fun h => by cases h) (fun h => by cases h) hk0 hk1 hkk0 hkk1 (by simp [hprim]) h1 h2 h3
    (by rw [zcl_nn sp h1, zcl_nn n h3]; show ¬ _ > ((arrV c0 n0 (fun j => .int (f j))).slots.size : Int); rw [arrV_size]; omega)
    (by rw [zcl_nn dp h2, zcl_nn n h3]; show ¬ _ > ((arrV c1 n1 (fun j => .int (g j))).slots.size : Int); rw [arrV_size]; omega)
    (fun vm₁ _ i hi => by
      have e : (vp_cell c0 (n0, .inl f)).slots.getD (sp.toNatClampNeg + i) .null = .int (f (sp.toNatClampNeg + i)) := by
        show (arrV c0 n0 (fun j => .int (f j))).slots.getD _ _ = _
        rw [Array.getD_eq_getD_getElem?, arrV_read _ _ (by omega)]
        rfl
      rw [e]
      exact ⟨h6 i hi, trivial⟩)
    (g := F0 m pc ls (.int n :: .int dp :: .ref a1 :: .int sp :: .ref a0 :: rest)) rfl (by rw [hml]; exact hl) (rest := rest) rfl (by rw [hb]; exact hdg) hframes (by show 2 * 0 + _ + _ ≤ _; omega)
  have e9 : copied (vp_cell c0 (n0, .inl f)) (vp_cell c1 (n1, .inl g)) sp dp n = vp_cell c1 (n1, .inl (va_cpy f g sp.toNatClampNeg dp.toNatClampNeg n.toNatClampNeg)) := va_copied (fun z => .int z) c0 c1 f g h4
  rw [e9] at X' step
  have hlt : a1 < H.size := (Array.getElem?_eq_some_iff.mp hc1).1
  have oq : ∀ q : Nat, q ≠ a1 → (H.setIfInBounds a1 (vp_cell c1 (n1, .inl (va_cpy f g sp.toNatClampNeg dp.toNatClampNeg n.toNatClampNeg))))[q]? = H[q]? := fun q hq => by simp [Array.getElem?_setIfInBounds, Ne.symm hq]
  obtain ⟨t, b1, b2⟩ := kk _ (H.setIfInBounds a1 (vp_cell c1 (n1, .inl (va_cpy f g sp.toNatClampNeg dp.toNatClampNeg n.toNatClampNeg)))) _ hf ⟨hw.1.set g1 ⟨c1, hT1, by simp [Array.getElem?_setIfInBounds, hlt]⟩ (by simp) oq, by simp; exact hw.2.1, fun q r1 r2 => by
      rw [oq q (fun e => r2 (by rw [e]; exact hA1))]
      exact hw.2.2.1 q r1 r2, fun q hq => by
      rcases List.mem_append.mp hq with h | h
      · exact hw.2.2.2 q h
      · obtain ⟨z, -, hz⟩ := List.mem_map.mp h
        rw [← hz]
        exact hA1⟩ _ (by rw [← hT]; rfl) X'
  exact ⟨t, step t b1, b2⟩
theorem zw_copyQ (X : zCx p s m args meth c D A E cc nL own ret) (hw : zWh D A s H h locs) (hl : ls.size = nL) {C : String} {ci index a0 a1 : Nat} {qc : vw_C} {sp dp n : Int32} {K : zT → Option β} (hqc : zCl[ci]? = some qc) (hC : qc.1 = C) (hlink : Cond.methodLink own index arraycopyName ∈ lw_all) (hnat : Cond.native arraycopyName ∈ lw_all) (hstat : Cond.static arraycopyName ∈ lw_all) (hini : Cond.initialized "java/lang/System" ∈ lw_all)
    (hf : (zc_Q C ci h a0 sp a1 dp n).bind K = some res) (hframes : 1 ≤ R.frames) (hlocals : (rest.map fun v => v.category).sum + (nativeFrameWords "java/lang/System" "arraycopy" 5 + 11) ≤ R.locals) (hdg : decode cc pc = .ok (.invokestatic index, 3))
    (kk : ∀ (h1 : zT) (H1 : Heap) (locs1 : List Loc), K h1 = some res → zWh D A s H1 h1 locs1 → W p l e R s m args below meth c H1 locs1 cells slots Q (F0 m (pc + 3) ls rest)) : W p l e R s m args below meth c H locs cells slots Q (F0 m pc ls (.int n :: .int dp :: .ref a1 :: .int sp :: .ref a0 :: rest)) := by
  obtain ⟨⟨hx, hb, hml, hown, hts⟩, -, -, hK, -⟩ := X
  obtain ⟨h1, q1, hf⟩ := zbd hf
  obtain ⟨⟨n0, f⟩, e0, q1⟩ := zbd q1
  obtain ⟨⟨n1, g⟩, e1, q1⟩ := zbd q1
  obtain ⟨hno, q1⟩ := zif q1
  cases q1
  simp only [not_or, Classical.not_not] at hno
  obtain ⟨h1, h2, h3, h4, h5, h6⟩ := hno
  have h6 := Bool.not_eq_false _ |>.mp h6
  have g0 := zh_Q_eq e0
  have g1 := zh_Q_eq e1
  obtain ⟨c0, hT0, hc0⟩ := (hw.1.2 a0 _ g0).2
  obtain ⟨c1, hT1, hc1⟩ := (hw.1.2 a1 _ g1).2
  have hA1 := (hw.1.2 a1 _ g1).1
  obtain ⟨-, k0, hk0, cm0, hkk0⟩ := hT0.1 n0 (fun j => va_rf (f j))
  obtain ⟨-, k1, hk1, cm1, hkk1⟩ := hT1.1 n1 (fun j => va_rf (g j))
  intro T hT X
  obtain ⟨vm', X', step⟩ := X.arraycopy hx hown (hts _ hlink) (hts _ hnat) (hts _ hstat) (hts _ hini) (src := a0) (dst := a1) (cs := vp_cell c0 (n0, .inr (.inr (.inr (.inr f))))) (cd := vp_cell c1 (n1, .inr (.inr (.inr (.inr g))))) (srcPos := sp) (destPos := dp) (n := n) (by rw [hT]; exact hc0) (by rw [hT]; exact hc1)
    (fun _ h => by cases h) (fun _ h => by cases h) (fun h => by cases h) (fun h => by cases h) hk0 hk1 hkk0 hkk1 rfl h1 h2 h3
    (by rw [zcl_nn sp h1, zcl_nn n h3]; show ¬ _ > ((arrV c0 n0 (fun j => va_rf (f j))).slots.size : Int); rw [arrV_size]; omega)
    (by rw [zcl_nn dp h2, zcl_nn n h3]; show ¬ _ > ((arrV c1 n1 (fun j => va_rf (g j))).slots.size : Int); rw [arrV_size]; omega)
    (fun vm₁ hal i hi => by
      have e : (vp_cell c0 (n0, .inr (.inr (.inr (.inr f))))).slots.getD (sp.toNatClampNeg + i) .null = va_rf (f (sp.toNatClampNeg + i)) := by
        show (arrV c0 n0 (fun j => va_rf (f j))).slots.getD _ _ = _
        rw [Array.getD_eq_getD_getElem?, arrV_read _ _ (by omega)]
        rfl
      rw [e]
      have h7 := List.all_eq_true.mp h6 i (List.mem_range.mpr hi)
      cases hy : f (sp.toNatClampNeg + i) with
      | none => exact ⟨rfl, trivial⟩
      | some y =>
        simp only [hy] at h7
        obtain ⟨u, hu⟩ := Option.isSome_iff_exists.mp h7
        obtain ⟨fs, hfs⟩ := zk_C_eq hu
        obtain ⟨r0, j1, j2, cellV, d1, d2, d3, -⟩ := (hw.1.2 y _ hfs).2
        obtain ⟨kA, comp, r1, r2, r3, -⟩ := hT1.2
        cases hk1.symm.trans r1
        cases hkk1.symm.trans r2
        have hcat := (hK.1 ci qc hqc).2
        have hcomp : cm1 = D.1 ci := Option.some.inj (r3.symm.trans (by rw [← hC]; exact hcat.1))
        obtain ⟨kC, hkC, -⟩ := hcat.2
        obtain ⟨kC', hkC', -⟩ := hal.2.2 _ _ hkC
        refine ⟨rfl, cellV, (show T.heap[y]? = some cellV by rw [hT]; exact d1), (fun q h => by rw [d3] at h; cases h), ⟨kC', by rw [d2]; exact hkC'⟩, ⟨kC', by rw [hcomp]; exact hkC'⟩, ?_⟩
        show vm₁.assignable _ _ = true
        rw [hal.assignable, d2, hcomp]
        exact va_assign hcat)
    (g := F0 m pc ls (.int n :: .int dp :: .ref a1 :: .int sp :: .ref a0 :: rest)) rfl (by rw [hml]; exact hl) (rest := rest) rfl (by rw [hb]; exact hdg) hframes (by show 2 * 0 + _ + _ ≤ _; omega)
  have e9 : copied (vp_cell c0 (n0, .inr (.inr (.inr (.inr f))))) (vp_cell c1 (n1, .inr (.inr (.inr (.inr g))))) sp dp n = vp_cell c1 (n1, .inr (.inr (.inr (.inr (va_cpy f g sp.toNatClampNeg dp.toNatClampNeg n.toNatClampNeg))))) := by
    rw [vp_cell_q, vp_cell_q, vp_cell_q]
    exact va_copied (fun z => va_rf z) c0 c1 f g h4
  rw [e9] at X' step
  have hlt : a1 < H.size := (Array.getElem?_eq_some_iff.mp hc1).1
  have oq : ∀ q : Nat, q ≠ a1 → (H.setIfInBounds a1 (vp_cell c1 (n1, .inr (.inr (.inr (.inr (va_cpy f g sp.toNatClampNeg dp.toNatClampNeg n.toNatClampNeg)))))))[q]? = H[q]? := fun q hq => by simp [Array.getElem?_setIfInBounds, Ne.symm hq]
  obtain ⟨t, b1, b2⟩ := kk _ (H.setIfInBounds a1 (vp_cell c1 (n1, .inr (.inr (.inr (.inr (va_cpy f g sp.toNatClampNeg dp.toNatClampNeg n.toNatClampNeg))))))) _ hf ⟨hw.1.set g1 ⟨c1, hT1, by simp [Array.getElem?_setIfInBounds, hlt]⟩ (by simp) oq, by simp; exact hw.2.1, fun q r1 r2 => by
      rw [oq q (fun e => r2 (by rw [e]; exact hA1))]
      exact hw.2.2.1 q r1 r2, fun q hq => by
      rcases List.mem_append.mp hq with h | h
      · exact hw.2.2.2 q h
      · obtain ⟨z, -, hz⟩ := List.mem_map.mp h
        rw [← hz]
        exact hA1⟩ _ (by rw [← hT]; rfl) X'
  exact ⟨t, step t b1, b2⟩
end ZCP
