/-! THE ABSTRACT HEAP of the printed functions: a map from addresses to cells, and the heap's size -/
set_option maxRecDepth 100000
abbrev zE : Type := (FieldType × vp_A) ⊕ (Nat × List Value)
abbrev zT : Type := (Nat → Option zE) × Nat
abbrev zCl : List vw_C := [(RX0, TX0, 24), (RX1, TX1, 8), (RX2, TX2, 7), (RX3, TX3, 1), (RX4, TX4, 1), (RX5, TX5, 32), (RX6, TX6, 5), (RX7, TX7, 5), (RX8, TX8, 5), (RX9, TX9, 5), (RX10, TX10, 5), (RX11, TX11, 5), (RX12, TX12, 3), (RX13, TX13, 3), (RX14, TX14, 1)]
def zh_set (h : zT) (a : Nat) (e : zE) : zT := (va_up h.1 a (some e), h.2)
def zh_push (h : zT) (e : zE) : zT := (va_up h.1 h.2 (some e), h.2 + 1)
/-- an object's class and fields -/
def zh_O (h : zT) (a : Nat) : Option (Nat × List Value) := match h.1 a with
  | some (.inr o) => some o
  | _ => none
def zg_V (S : List Nat) (h : zT) (a k : Nat) : Option Value := (zh_O h a).bind fun o => if o.1 ∈ S then o.2[k]? else none
def zv_I (v : Value) : Option Int32 := match v with
  | .int x => some x
  | _ => none
def zv_R (v : Value) : Option Nat := match v with
  | .ref x => some x
  | _ => none
def zv_Q (v : Value) : Option (Option Nat) := match v with
  | .ref x => some (some x)
  | .null => some none
  | _ => none
def zg_I (S : List Nat) (h : zT) (a k : Nat) : Option Int32 := (zg_V S h a k).bind zv_I
def zg_R (S : List Nat) (h : zT) (a k : Nat) : Option Nat := (zg_V S h a k).bind zv_R
def zg_Q (S : List Nat) (h : zT) (a k : Nat) : Option (Option Nat) := (zg_V S h a k).bind zv_Q
def zp_V (S : List Nat) (h : zT) (a k : Nat) (v : Value) : Option zT := (zh_O h a).bind fun o => if o.1 ∈ S then some (zh_set h a (.inr (o.1, o.2.set k v))) else none
/-- an array of ints or smaller: its length and contents -/
def zh_A (ty : FieldType) (h : zT) (a : Nat) : Option (Nat × (Nat → Int32)) := match h.1 a with
  | some (.inl (t, n, .inl f)) => if t = ty then some (n, f) else none
  | _ => none
def za_I (ty : FieldType) (h : zT) (a : Nat) (i : Int32) : Option Int32 := (zh_A ty h a).bind fun x => if i < 0 ∨ x.1 ≤ i.toNatClampNeg then none else some (x.2 i.toNatClampNeg)
def zs_I (ty : FieldType) (h : zT) (a : Nat) (i v : Int32) : Option zT := (zh_A ty h a).bind fun x => if i < 0 ∨ x.1 ≤ i.toNatClampNeg then none else some (zh_set h a (.inl (ty, x.1, .inl (upd x.2 i.toNatClampNeg v))))
def zl_A (h : zT) (a : Nat) : Option Int32 := match h.1 a with
  | some (.inl x) => some (Int32.ofNat x.2.1)
  | _ => none
theorem zbd {α β : Type} {o : Option α} {K : α → Option β} {r : β} (h : o.bind K = some r) : ∃ x, o = some x ∧ K x = some r := Option.bind_eq_some_iff.mp h
theorem zh_O_eq {h : zT} {a : Nat} {o : Nat × List Value} (e : zh_O h a = some o) : h.1 a = some (.inr o) := by
  unfold zh_O at e
  split at e
  · cases e; assumption
  · cases e
theorem zg_V_eq {S : List Nat} {h : zT} {a k : Nat} {v : Value} (e : zg_V S h a k = some v) : ∃ o : Nat × List Value, h.1 a = some (.inr o) ∧ o.1 ∈ S ∧ o.2[k]? = some v := by
  obtain ⟨o, h1, h2⟩ := zbd e
  by_cases hm : o.1 ∈ S
  · rw [if_pos hm] at h2
    exact ⟨o, zh_O_eq h1, hm, h2⟩
  · rw [if_neg hm] at h2
    cases h2
theorem zg_I_eq {S : List Nat} {h : zT} {a k : Nat} {x : Int32} (e : zg_I S h a k = some x) : zg_V S h a k = some (.int x) := by
  obtain ⟨v, h1, h2⟩ := zbd e
  cases v <;> first | (cases h2; exact h1) | cases h2
theorem zg_R_eq {S : List Nat} {h : zT} {a k : Nat} {x : Nat} (e : zg_R S h a k = some x) : zg_V S h a k = some (.ref x) := by
  obtain ⟨v, h1, h2⟩ := zbd e
  cases v <;> first | (cases h2; exact h1) | cases h2
theorem zg_Q_eq {S : List Nat} {h : zT} {a k : Nat} {x : Option Nat} (e : zg_Q S h a k = some x) : zg_V S h a k = some (va_rf x) := by
  obtain ⟨v, h1, h2⟩ := zbd e
  cases v <;> first | (cases h2; exact h1) | cases h2
theorem zp_V_eq {S : List Nat} {h h1 : zT} {a k : Nat} {v : Value} (e : zp_V S h a k v = some h1) : ∃ o : Nat × List Value, h.1 a = some (.inr o) ∧ o.1 ∈ S ∧ h1 = zh_set h a (.inr (o.1, o.2.set k v)) := by
  obtain ⟨o, q1, q2⟩ := zbd e
  by_cases hm : o.1 ∈ S
  · rw [if_pos hm] at q2
    cases q2
    exact ⟨o, zh_O_eq q1, hm, rfl⟩
  · rw [if_neg hm] at q2
    cases q2
theorem zh_A_eq {ty : FieldType} {h : zT} {a : Nat} {x : Nat × (Nat → Int32)} (e : zh_A ty h a = some x) : h.1 a = some (.inl (ty, x.1, .inl x.2)) := by
  unfold zh_A at e
  split at e
  · split at e
    · rename_i h2 h3
      cases e
      subst h3
      exact h2
    · cases e
  · cases e
theorem za_I_eq {ty : FieldType} {h : zT} {a : Nat} {i v : Int32} (e : za_I ty h a i = some v) : ∃ (n : Nat) (f : Nat → Int32), h.1 a = some (.inl (ty, n, .inl f)) ∧ vp_in i n ∧ f i.toNatClampNeg = v := by
  obtain ⟨x, h1, h2⟩ := zbd e
  by_cases hm : i < 0 ∨ x.1 ≤ i.toNatClampNeg
  · rw [if_pos hm] at h2; cases h2
  · rw [if_neg hm] at h2
    cases h2
    exact ⟨x.1, x.2, zh_A_eq h1, hm, rfl⟩
theorem zs_I_eq {ty : FieldType} {h h1 : zT} {a : Nat} {i v : Int32} (e : zs_I ty h a i v = some h1) : ∃ (n : Nat) (f : Nat → Int32), h.1 a = some (.inl (ty, n, .inl f)) ∧ vp_in i n ∧ h1 = zh_set h a (.inl (ty, n, .inl (upd f i.toNatClampNeg v))) := by
  obtain ⟨x, q1, q2⟩ := zbd e
  by_cases hm : i < 0 ∨ x.1 ≤ i.toNatClampNeg
  · rw [if_pos hm] at q2; cases q2
  · rw [if_neg hm] at q2
    cases q2
    exact ⟨x.1, x.2, zh_A_eq q1, hm, rfl⟩
theorem zl_A_eq {h : zT} {a : Nat} {v : Int32} (e : zl_A h a = some v) : ∃ x : FieldType × vp_A, h.1 a = some (.inl x) ∧ v = Int32.ofNat x.2.1 := by
  unfold zl_A at e
  split at e
  · rename_i x h2
    cases e
    exact ⟨x, h2, rfl⟩
  · cases e
/-! THE WORLD: the machine's heap holds the abstract one -/
def zAt (D : va_G) (U : State) (H : Heap) (a : Nat) (e : zE) : Prop := match e with
  | .inl x => ∃ cA : ClassId, (ArrOfT U cA x.1 ∧ va_RA U cA x.1) ∧ H[a]? = some (vp_cell cA x.2)
  | .inr o => ∃ r : vw_C, zCl[o.1]? = some r ∧ o.2.length = r.2.2 ∧ t_OB a (D.1 o.1) r.2.2 (D.2 o.1) H (vp_V o.2)
def zWd (D : va_G) (A : Nat → Prop) (U : State) (H : Heap) (h : zT) : Prop := H.size = h.2 ∧ ∀ (a : Nat) (e : zE), h.1 a = some e → A a ∧ zAt D U H a e
def zWh (D : va_G) (A : Nat → Prop) (s : State) (H : Heap) (h : zT) (locs : List Loc) : Prop := zWd D A s H h ∧ va_S A s.heap H locs
theorem zAt.kept {D : va_G} {U : State} {H H1 : Heap} {a : Nat} {e : zE} (h : zAt D U H a e) (hq : H1[a]? = H[a]?) : zAt D U H1 a e := by
  cases e with
  | inl x =>
    obtain ⟨cA, h1, h2⟩ := h
    exact ⟨cA, h1, hq.trans h2⟩
  | inr o =>
    obtain ⟨r, h1, h2, h3⟩ := h
    exact ⟨r, h1, h2, h3.kept hq⟩
theorem zAt.lt {D : va_G} {U : State} {H : Heap} {a : Nat} {e : zE} (h : zAt D U H a e) : a < H.size := by
  cases e with
  | inl x =>
    obtain ⟨cA, h1, h2⟩ := h
    exact (Array.getElem?_eq_some_iff.mp h2).1
  | inr o =>
    obtain ⟨r, h1, h2, cell, h3, -⟩ := h
    exact (Array.getElem?_eq_some_iff.mp h3).1
theorem zAt.moved {D : va_G} {u U : State} {H : Heap} {a : Nat} {e : zE} (hvm : u.vm.Alike U.vm) (h : zAt D u H a e) : zAt D U H a e := by
  cases e with
  | inl x =>
    obtain ⟨cA, h1, h2⟩ := h
    exact ⟨cA, ⟨arrOfT_moved hvm h1.1, h1.2.moved hvm⟩, h2⟩
  | inr o => exact h
theorem zWd.moved {D : va_G} {A : Nat → Prop} {u U : State} {H : Heap} {h : zT} (hvm : u.vm.Alike U.vm) (hw : zWd D A u H h) : zWd D A U H h := ⟨hw.1, fun a e q => ⟨(hw.2 a e q).1, (hw.2 a e q).2.moved hvm⟩⟩
theorem zWd.set {D : va_G} {A : Nat → Prop} {U : State} {H H1 : Heap} {h : zT} {a : Nat} {e0 e : zE} (hw : zWd D A U H h) (h0 : h.1 a = some e0) (he : zAt D U H1 a e) (hz : H1.size = H.size) (oq : ∀ q : Nat, q ≠ a → H1[q]? = H[q]?) : zWd D A U H1 (zh_set h a e) := by
  refine ⟨hz.trans hw.1, fun b x hb => ?_⟩
  by_cases hba : b = a
  · subst hba
    have : (zh_set h b e).1 b = some e := va_up_self _ _ _
    rw [this] at hb
    cases hb
    exact ⟨(hw.2 b e0 h0).1, he⟩
  · have h2 : (zh_set h a e).1 b = h.1 b := if_neg hba
    rw [h2] at hb
    exact ⟨(hw.2 b x hb).1, (hw.2 b x hb).2.kept (oq b hba)⟩
theorem zWd.push {D : va_G} {A : Nat → Prop} {U : State} {H H1 : Heap} {h : zT} {e : zE} (hw : zWd D A U H h) (hA : A H.size) (he : zAt D U H1 H.size e) (hz : H1.size = H.size + 1) (oq : ∀ q : Nat, q < H.size → H1[q]? = H[q]?) : zWd D A U H1 (zh_push h e) := by
  refine ⟨by rw [hz, hw.1]; rfl, fun b x hb => ?_⟩
  by_cases hba : b = h.2
  · subst hba
    have : (zh_push h e).1 h.2 = some e := va_up_self _ _ _
    rw [this] at hb
    cases hb
    rw [← hw.1]
    exact ⟨hA, he⟩
  · have h2 : (zh_push h e).1 b = h.1 b := if_neg hba
    rw [h2] at hb
    exact ⟨(hw.2 b x hb).1, (hw.2 b x hb).2.kept (oq b (hw.2 b x hb).2.lt)⟩
theorem zWd.fresh {D : va_G} {A : Nat → Prop} {U : State} {H : Heap} {h : zT} (hw : zWd D A U H h) {b : Nat} (hb : h.2 ≤ b) : h.1 b = none := by
  cases e : h.1 b with
  | none => rfl
  | some x =>
    have := (hw.2 b x e).2.lt
    rw [hw.1] at this
    omega
/-! CLASSES AND FIELDS -/
def zCF (ci : Nat) (C : String) (T : u_T) (N : Nat) (ty : Nat → FieldType) : Prop := zCl[ci]? = some (C, T, N) ∧ (∀ w ∈ u_ws C T N, w ∈ lw_all) ∧ (∀ k, k < N → parseFieldDescriptor (T k).2.2.1 = some (ty k)) ∧ (∀ a, a < N → ∀ b, b < N → a ≠ b → (T a).2.1 ≠ (T b).2.1)
def zFS (S : List Nat) (k : Nat) (fld : String × String × String × Bool) (fty : FieldType) : Prop := parseFieldDescriptor fld.2.2.1 = some fty ∧ ∀ ci ∈ S, ∃ (C : String) (T : u_T) (N : Nat) (ty : Nat → FieldType), zCF ci C T N ty ∧ k < N ∧ T k = fld
theorem zFS1 {ci k N : Nat} {C : String} {T : u_T} {ty : Nat → FieldType} {fld : String × String × String × Bool} {fty : FieldType} (h : zCF ci C T N ty) (hk : k < N) (hf : T k = fld) (hp : parseFieldDescriptor fld.2.2.1 = some fty) : zFS [ci] k fld fty := ⟨hp, fun c hc => by
  rw [List.mem_singleton.mp hc]
  exact ⟨C, T, N, ty, h, hk, hf⟩⟩
theorem zcf0 : zCF 0 RX0 TX0 24 tyX0 := ⟨rfl, in_X0, tyX0_ok, nmX0⟩
theorem zcf1 : zCF 1 RX1 TX1 8 tyX1 := ⟨rfl, in_X1, tyX1_ok, nmX1⟩
theorem zcf2 : zCF 2 RX2 TX2 7 tyX2 := ⟨rfl, in_X2, tyX2_ok, nmX2⟩
theorem zcf3 : zCF 3 RX3 TX3 1 tyX3 := ⟨rfl, in_X3, tyX3_ok, nmX3⟩
theorem zcf4 : zCF 4 RX4 TX4 1 tyX4 := ⟨rfl, in_X4, tyX4_ok, nmX4⟩
theorem zcf5 : zCF 5 RX5 TX5 32 tyX5 := ⟨rfl, in_X5, tyX5_ok, nmX5⟩
theorem zcf6 : zCF 6 RX6 TX6 5 tyX6 := ⟨rfl, in_X6, tyX6_ok, nmX6⟩
theorem zcf7 : zCF 7 RX7 TX7 5 tyX7 := ⟨rfl, in_X7, tyX7_ok, nmX7⟩
theorem zcf8 : zCF 8 RX8 TX8 5 tyX8 := ⟨rfl, in_X8, tyX8_ok, nmX8⟩
theorem zcf9 : zCF 9 RX9 TX9 5 tyX9 := ⟨rfl, in_X9, tyX9_ok, nmX9⟩
theorem zcf10 : zCF 10 RX10 TX10 5 tyX10 := ⟨rfl, in_X10, tyX10_ok, nmX10⟩
theorem zcf11 : zCF 11 RX11 TX11 5 tyX11 := ⟨rfl, in_X11, tyX11_ok, nmX11⟩
theorem zcf12 : zCF 12 RX12 TX12 3 tyX12 := ⟨rfl, in_X12, tyX12_ok, nmX12⟩
theorem zcf13 : zCF 13 RX13 TX13 3 tyX13 := ⟨rfl, in_X13, tyX13_ok, nmX13⟩
theorem zcf14 : zCF 14 RX14 TX14 1 tyX14 := ⟨rfl, in_X14, tyX14_ok, nmX14⟩
theorem zclT : ∀ (ci : Nat) (C : String) (T : u_T) (N : Nat), zCl[ci]? = some (C, T, N) → ∃ ty, zCF ci C T N ty := by
  intro ci C T N h
  match ci, h with
  | 0, h => cases h; exact ⟨_, zcf0⟩
  | 1, h => cases h; exact ⟨_, zcf1⟩
  | 2, h => cases h; exact ⟨_, zcf2⟩
  | 3, h => cases h; exact ⟨_, zcf3⟩
  | 4, h => cases h; exact ⟨_, zcf4⟩
  | 5, h => cases h; exact ⟨_, zcf5⟩
  | 6, h => cases h; exact ⟨_, zcf6⟩
  | 7, h => cases h; exact ⟨_, zcf7⟩
  | 8, h => cases h; exact ⟨_, zcf8⟩
  | 9, h => cases h; exact ⟨_, zcf9⟩
  | 10, h => cases h; exact ⟨_, zcf10⟩
  | 11, h => cases h; exact ⟨_, zcf11⟩
  | 12, h => cases h; exact ⟨_, zcf12⟩
  | 13, h => cases h; exact ⟨_, zcf13⟩
  | 14, h => cases h; exact ⟨_, zcf14⟩
  | ci + 15, h => simp [zCl] at h
/-! CONTRACTS: what else a method's start knows (E), and what a walk's context holds -/
def zEok (A : Nat → Prop) (E : State → Prop) : Prop := (∀ s U : State, s.WarmedH U.vm → va_F A s U → E s → E U) ∧ ∀ (U : State) (g : JFrame) (mk : MethodId) (a : Array Value), E U → E (U.calling g mk a)
def zPW (D : va_G) (A : Nat → Prop) (E : State → Prop) (h : zT) (av : List Value) : Array Value → State → Prop := fun v U => v = av.toArray ∧ zWd D A U U.heap h ∧ va_K D zCl [] U ∧ (∀ q, h.2 ≤ q → A q) ∧ E U
def zQW (D : va_G) (A : Nat → Prop) (ov : Option Value) (h' : zT) : Array Value → State → Outcome → State → Prop := fun _ st o t => o = .returned ov ∧ zWd D A t t.heap h' ∧ va_F A st t
def zCx (p : Program) (s : State) (m : MethodId) (args : Array Value) (meth : Method) (c : Code) (D : va_G) (A : Nat → Prop) (E : State → Prop) (cc : ByteArray) (nL : Nat) (own : String) (ret : Option FieldType) : Prop :=
  CallFix p m c cc nL s args lw_all own ∧ meth.sig.returnType = ret ∧ meth.locks = false ∧ va_K D zCl [] s ∧ (∀ q, s.heap.size ≤ q → A q) ∧ zEok A E ∧ E s
theorem zPW.blind {D : va_G} {A : Nat → Prop} {E : State → Prop} {h : zT} {av : List Value} (hE : zEok A E) : FrameBlind (zPW D A E h av) := by
  intro a U g mk ⟨h1, h2, h3, h4, h5⟩
  exact ⟨h1, zWd.moved (u := U) (U := U.calling g mk a) (Vm.Alike.refl U.vm) h2, va_K.moved (u := U) (U := U.calling g mk a) (Vm.Alike.refl U.vm) h3, h4, hE.2 U g mk a h5⟩
/-- a method's contract out of its walk -/
theorem zmt {l : Launch} {y : MethodName} {cc : ByteArray} {nL : Nat} {ret : Option FieldType} {rm : Room} {D : va_G} {A : Nat → Prop} {E : State → Prop} {h : zT} {av : List Value} {Qc : Array Value → State → Outcome → State → Prop} {mc ms : Nat}
    (hE : zEok A E) (hy : plainName y.cls = true) (hn : (lg_sl av).length ≤ nL)
    (body : ∀ (p : Program) (e : Env) (s : State) (m : MethodId) (below : List Frame) (meth : Method) (c : Code) (ls : Array Slot), meth.name = y.name → zCx p s m av.toArray meth c D A E cc nL y.cls ret → zWh D A s s.heap h [] → lv_has ls nL (lv_args 0 av) →
      W p l e rm s m av.toArray below meth c s.heap [] 0 0 (MQ below Qc av.toArray s mc ms A) (F0 m 0 ls [])) : Met l y (ws_ y cc nL ret) rm (zPW D A E h av) Qc mc ms A := by
  refine Met.ofW (cc := cc) (maxL := nL) (ret := ret) hy rfl ?_
  intro p e s m args below meth c s₁ B hml hv
  obtain ⟨rfl, h2, h3, h4, h5⟩ := hv
  have hts := atoms_spec (ws := ws_ y cc nL ret) B.pre
  rw [lg_entry_eq]
  refine body p e s m below meth c _ (name_of_methodNamed B.named B.method).1 ⟨⟨B.exec, B.bytes, hml, findClass_of_methodNamed B.named, fun w hw => hts w (List.mem_cons_of_mem _ hw)⟩, B.returns, B.notSynchronized, h3, fun q hq => h4 q (by rw [← h2.1]; exact hq), hE, h5⟩ ⟨h2, va_S.rf⟩ (lv_entry av hn)
section ZW
variable {p : Program} {l : Launch} {e : Env} {R : Room} {s : State} {m : MethodId} {args : Array Value} {below : List Frame} {meth : Method} {c : Code} {H : Heap} {locs : List Loc} {cells slots : Nat} {Q : State → Prop}
variable {D : va_G} {A : Nat → Prop} {E : State → Prop} {cc : ByteArray} {nL : Nat} {own : String} {ret : Option FieldType} {h : zT} {pc : Nat} {ls : Array Slot} {rest : List Value} {mc ms : Nat} {β : Type} {res : β}
theorem zw_iret {v : Int32} {res : Int32 × zT} (X : zCx p s m args meth c D A E cc nL own (some .int)) (hw : zWh D A s H h locs) (hf : some (v, h) = some res) (h1 : cells ≤ mc) (h2 : slots ≤ ms) (hdg : decode cc pc = .ok (.ireturn, 1)) :
    W p l e R s m args below meth c H locs cells slots (MQ below (zQW D A (some (.int res.1)) res.2) args s mc ms A) (F0 m pc ls [.int v]) := by
  cases hf
  obtain ⟨⟨hx, hb, -⟩, hr, hlocks, -⟩ := X
  refine W.widen h1 h2 ?_
  exact W.iret hx hb hr (fun t ht hW => ⟨rfl, by rw [ht]; exact hw.1.moved hW.alike, hw.2.F ht⟩) hw.2.2.2 hdg
theorem zw_zret {v : Int32} {res : Int32 × zT} (X : zCx p s m args meth c D A E cc nL own (some .boolean)) (hw : zWh D A s H h locs) (hf : (if v = 0 ∨ v = 1 then some (v, h) else none) = some res) (h1 : cells ≤ mc) (h2 : slots ≤ ms) (hdg : decode cc pc = .ok (.ireturn, 1)) :
    W p l e R s m args below meth c H locs cells slots (MQ below (zQW D A (some (.int res.1)) res.2) args s mc ms A) (F0 m pc ls [.int v]) := by
  by_cases hv : v = 0 ∨ v = 1
  · rw [if_pos hv] at hf
    cases hf
    obtain ⟨⟨hx, hb, -⟩, hr, hlocks, -⟩ := X
    refine W.widen h1 h2 ?_
    exact W.zret hx hb hr (by rcases hv with rfl | rfl <;> rfl) (fun t ht hW => ⟨rfl, by rw [ht]; exact hw.1.moved hW.alike, hw.2.F ht⟩) hw.2.2.2 hdg
  · rw [if_neg hv] at hf
    cases hf
theorem zw_lret {v : Int64} {res : Int64 × zT} (X : zCx p s m args meth c D A E cc nL own (some .long)) (hw : zWh D A s H h locs) (hf : some (v, h) = some res) (h1 : cells ≤ mc) (h2 : slots ≤ ms) (hdg : decode cc pc = .ok (.lreturn, 1)) :
    W p l e R s m args below meth c H locs cells slots (MQ below (zQW D A (some (.long res.1)) res.2) args s mc ms A) (F0 m pc ls [.long v]) := by
  cases hf
  obtain ⟨⟨hx, hb, -⟩, hr, hlocks, -⟩ := X
  refine W.widen h1 h2 ?_
  exact W.lret hx hb hr (fun t ht hW => ⟨rfl, by rw [ht]; exact hw.1.moved hW.alike, hw.2.F ht⟩) hw.2.2.2 hdg
theorem zw_vret {res : zT} (X : zCx p s m args meth c D A E cc nL own none) (hw : zWh D A s H h locs) (hf : some h = some res) (h1 : cells ≤ mc) (h2 : slots ≤ ms) (hdg : decode cc pc = .ok (.return_, 1)) :
    W p l e R s m args below meth c H locs cells slots (MQ below (zQW D A none res) args s mc ms A) (F0 m pc ls []) := by
  cases hf
  obtain ⟨⟨hx, hb, -⟩, hr, hlocks, -⟩ := X
  refine W.widen h1 h2 ?_
  exact W.vret hx hb hr (fun t ht hW => ⟨rfl, by rw [ht]; exact hw.1.moved hW.alike, hw.2.F ht⟩) hw.2.2.2 hdg
theorem zw_aret {v : Option Nat} {rt : FieldType} {res : Option Nat × zT} (X : zCx p s m args meth c D A E cc nL own (some rt)) (hrt : (∃ n, rt = .object n) ∨ ∃ t, rt = .array t) (hw : zWh D A s H h locs) (hf : some (v, h) = some res) (h1 : cells ≤ mc) (h2 : slots ≤ ms) (hdg : decode cc pc = .ok (.areturn, 1)) :
    W p l e R s m args below meth c H locs cells slots (MQ below (zQW D A (some (va_rf res.1)) res.2) args s mc ms A) (F0 m pc ls [va_rf v]) := by
  cases hf
  obtain ⟨⟨hx, hb, -⟩, hr, hlocks, -⟩ := X
  refine W.widen h1 h2 ?_
  exact W.aret hx hb hr hrt (by cases v with | none => exact Or.inl rfl | some a => exact Or.inr ⟨a, rfl⟩) (fun t ht hW => ⟨rfl, by rw [ht]; exact hw.1.moved hW.alike, hw.2.F ht⟩) hw.2.2.2 hdg
/-! fields -/
theorem zw_get (X : zCx p s m args meth c D A E cc nL own ret) (hw : zWh D A s H h locs) {S : List Nat} {a k index : Nat} {fld : String × String × String × Bool} {fty : FieldType} {ref : String} (hS : zFS S k fld fty) (hl : Cond.fieldLink own index ref fld.2.1 fld.2.2.1 ∈ lw_all) (hsame : fld.1 = ref) {v : Value} (hv : zg_V S h a k = some v) (hdg : decode cc pc = .ok (.getfield index, 3))
    (kk : W p l e R s m args below meth c H locs cells slots Q (F0 m (pc + 3) ls (v :: rest))) : W p l e R s m args below meth c H locs cells slots Q (F0 m pc ls (.ref a :: rest)) := by
  obtain ⟨⟨hx, hb, hml, hown, hts⟩, -, -, hK, -⟩ := X
  obtain ⟨o, h1, h2, h3⟩ := zg_V_eq hv
  obtain ⟨C, T, N, ty, ⟨hc, hin, hty, hnm⟩, hk, hT⟩ := hS.2 o.1 h2
  obtain ⟨r, g1, g2, g3⟩ := (hw.1.2 a _ h1).2
  subst hT
  exact va_get (D := D) (cl := zCl) (ws := [(a, .inr o)]) hx hb hts hin hown hK (fun j q hj => by
    match j, hj with
    | 0, hj => cases hj; exact ⟨r, g1, g3⟩
    | j + 1, hj => simp at hj) 0 rfl hc k hk (hts _ hl) (fun x hx9 => by rw [← hsame]; exact hx9) h3 hdg kk
theorem zw_getI (X : zCx p s m args meth c D A E cc nL own ret) (hw : zWh D A s H h locs) {S : List Nat} {a k index : Nat} {fld : String × String × String × Bool} {fty : FieldType} {ref : String} {K : Int32 → Option β} (hS : zFS S k fld fty) (hl : Cond.fieldLink own index ref fld.2.1 fld.2.2.1 ∈ lw_all) (hsame : fld.1 = ref) (hf : (zg_I S h a k).bind K = some res) (hdg : decode cc pc = .ok (.getfield index, 3))
    (kk : ∀ x, K x = some res → W p l e R s m args below meth c H locs cells slots Q (F0 m (pc + 3) ls (.int x :: rest))) : W p l e R s m args below meth c H locs cells slots Q (F0 m pc ls (.ref a :: rest)) := by
  obtain ⟨x, h1, h2⟩ := zbd hf
  exact zw_get X hw hS hl hsame (zg_I_eq h1) hdg (kk x h2)
theorem zw_getR (X : zCx p s m args meth c D A E cc nL own ret) (hw : zWh D A s H h locs) {S : List Nat} {a k index : Nat} {fld : String × String × String × Bool} {fty : FieldType} {ref : String} {K : Nat → Option β} (hS : zFS S k fld fty) (hl : Cond.fieldLink own index ref fld.2.1 fld.2.2.1 ∈ lw_all) (hsame : fld.1 = ref) (hf : (zg_R S h a k).bind K = some res) (hdg : decode cc pc = .ok (.getfield index, 3))
    (kk : ∀ x, K x = some res → W p l e R s m args below meth c H locs cells slots Q (F0 m (pc + 3) ls (.ref x :: rest))) : W p l e R s m args below meth c H locs cells slots Q (F0 m pc ls (.ref a :: rest)) := by
  obtain ⟨x, h1, h2⟩ := zbd hf
  exact zw_get X hw hS hl hsame (zg_R_eq h1) hdg (kk x h2)
theorem zw_put (X : zCx p s m args meth c D A E cc nL own ret) (hw : zWh D A s H h locs) {S : List Nat} {a k index : Nat} {fld : String × String × String × Bool} {fty : FieldType} {ref : String} {v : Value} {K : zT → Option β} (hS : zFS S k fld fty) (hl : Cond.fieldLink own index ref fld.2.1 fld.2.2.1 ∈ lw_all) (hsame : fld.1 = ref) (hfin : fld.2.2.2 = false) (hn : narrow fty v = v) (hfit : fits fty v = true) (hf : (zp_V S h a k v).bind K = some res) (hdg : decode cc pc = .ok (.putfield index, 3))
    (kk : ∀ (h1 : zT) (H1 : Heap) (locs1 : List Loc), K h1 = some res → zWh D A s H1 h1 locs1 → W p l e R s m args below meth c H1 locs1 cells slots Q (F0 m (pc + 3) ls rest)) : W p l e R s m args below meth c H locs cells slots Q (F0 m pc ls (v :: .ref a :: rest)) := by
  obtain ⟨⟨hx, hb, hml, hown, hts⟩, -, -, hK, -⟩ := X
  obtain ⟨h1, hp, hf⟩ := zbd hf
  obtain ⟨o, g1, g2, rfl⟩ := zp_V_eq hp
  obtain ⟨C, T, N, ty, ⟨hc, hin, hty, hnm⟩, hk, hT⟩ := hS.2 o.1 g2
  obtain ⟨r, j1, j2, j3⟩ := (hw.1.2 a _ g1).2
  have hr : r = (C, T, N) := Option.some.inj (j1.symm.trans hc)
  subst hr
  subst hT
  have hap := va_apart (own := own) hts hin ty hty hnm hK hc
  obtain ⟨cell, q1, q2, q3, q4⟩ := j3
  obtain ⟨hSl, hfc, kC, hkC, hkind⟩ := hK.1 o.1 _ hc
  obtain ⟨cf, kf, fi, f, hi, hsl⟩ := hSl k hk
  have hlay := hts _ (hin _ (u_in_lay hk))
  unfold u_lay at hlay
  rw [if_neg (by rw [hfin]; decide)] at hlay
  have hst := (u_facts hfc hkC (u_lays hts hin hk) hi).1
  have h6 := u_store hfc hkC hkind hlay hi hS.1 hn hfit
  refine W.putK hx hb (f := f) ⟨hown, hts _ hl, ⟨cf, kf, fi, by rw [← hsame]; exact hi⟩, hst⟩ (by rw [q2]; exact h6) q1 q3 (by rw [hsl]; exact k2_hasslot (q4 k hk)) rfl rfl hdg fun H' e1 e2 e3 => ?_
  rw [hsl] at e1
  refine kk _ H' _ hf ⟨hw.1.set g1 ⟨(C, T, N), hc, by rw [List.length_set]; exact j2, t_OB.to (V := updV (vp_V o.2) k v) ⟨_, e1, q2, q3, t_set q4 hap hk v⟩ (fun j _ => vp_updV_set (by rw [j2]; exact hk) v j)⟩ e2 e3, hw.2.put e2 e3 (hw.1.2 a _ g1).1⟩
theorem zw_putF (X : zCx p s m args meth c D A E cc nL own ret) (hnm0 : meth.name = "<init>") (hw : zWh D A s H h locs) {S : List Nat} {a k index : Nat} {fld : String × String × String × Bool} {fty : FieldType} {ref : String} {v : Value} {K : zT → Option β} (hS : zFS S k fld fty) (hl : Cond.fieldLink own index ref fld.2.1 fld.2.2.1 ∈ lw_all) (hsame : fld.1 = ref) (hown9 : fld.1 = own) (hfin : fld.2.2.2 = true) (hn : narrow fty v = v) (hfit : fits fty v = true) (hf : (zp_V S h a k v).bind K = some res) (hdg : decode cc pc = .ok (.putfield index, 3))
    (kk : ∀ (h1 : zT) (H1 : Heap) (locs1 : List Loc), K h1 = some res → zWh D A s H1 h1 locs1 → W p l e R s m args below meth c H1 locs1 cells slots Q (F0 m (pc + 3) ls rest)) : W p l e R s m args below meth c H locs cells slots Q (F0 m pc ls (v :: .ref a :: rest)) := by
  obtain ⟨⟨hx, hb, hml, hown, hts⟩, -, -, hK, -⟩ := X
  obtain ⟨h1, hp, hf⟩ := zbd hf
  obtain ⟨o, g1, g2, rfl⟩ := zp_V_eq hp
  obtain ⟨C, T, N, ty, ⟨hc, hin, hty, hnm⟩, hk, hT⟩ := hS.2 o.1 g2
  obtain ⟨r, j1, j2, j3⟩ := (hw.1.2 a _ g1).2
  have hr : r = (C, T, N) := Option.some.inj (j1.symm.trans hc)
  subst hr
  subst hT
  have hap := va_apart (own := own) hts hin ty hty hnm hK hc
  obtain ⟨cell, q1, q2, q3, q4⟩ := j3
  obtain ⟨hSl, hfc, kC, hkC, hkind⟩ := hK.1 o.1 _ hc
  obtain ⟨cf, kf, fi, f, hi, hsl⟩ := hSl k hk
  have hlay := hts _ (hin _ (u_in_lay hk))
  unfold u_lay at hlay
  rw [if_pos hfin] at hlay
  have hst := (u_facts hfc hkC (u_lays hts hin hk) hi).1
  have hcf : m.cls = cf := by
    obtain ⟨_, _, c', _, _, _, -, -, hf', -, -, -, hown2, -⟩ := Cond.laysFinal_spec hlay
    have e1 : c' = cf := by have := hi.symm.trans hf'; simp at this; exact this.1.symm
    rw [hown9] at hown2
    rw [← e1]; exact Option.some.inj (hown.symm.trans hown2)
  have h6 := u_fits hfc hkC hkind (Or.inr hlay) hi hS.1 hn hfit
  refine W.putFinK hx hb hown (hts _ hl) (by rw [← hsame]; exact hi) hst hcf hnm0 (by rw [q2]; exact h6) q1 q3 (by rw [hsl]; exact k2_hasslot (q4 k hk)) rfl rfl hdg fun H' e1 e2 e3 => ?_
  rw [hsl] at e1
  refine kk _ H' _ hf ⟨hw.1.set g1 ⟨(C, T, N), hc, by rw [List.length_set]; exact j2, t_OB.to (V := updV (vp_V o.2) k v) ⟨_, e1, q2, q3, t_set q4 hap hk v⟩ (fun j _ => vp_updV_set (by rw [j2]; exact hk) v j)⟩ e2 e3, hw.2.put e2 e3 (hw.1.2 a _ g1).1⟩
/-! arrays of ints -/
theorem zw_ialoadR (X : zCx p s m args meth c D A E cc nL own ret) (hw : zWh D A s H h locs) {a : Nat} {i : Int32} {K : Int32 → Option β} (hf : (za_I .int h a i).bind K = some res) (hdg : decode cc pc = .ok (.iaload, 1))
    (kk : ∀ x, K x = some res → W p l e R s m args below meth c H locs cells slots Q (F0 m (pc + 1) ls (.int x :: rest))) : W p l e R s m args below meth c H locs cells slots Q (F0 m pc ls (.int i :: .ref a :: rest)) := by
  obtain ⟨⟨hx, hb, -⟩, -⟩ := X
  obtain ⟨v, h1, hf⟩ := zbd hf
  obtain ⟨n, f, g1, hin, rfl⟩ := za_I_eq h1
  obtain ⟨cA, hT, hcell⟩ := (hw.1.2 a _ g1).2
  have hlt : i.toNatClampNeg < n := Nat.not_le.mp fun q => hin (Or.inr q)
  exact W.iald (v := .int (f i.toNatClampNeg)) hx hb hcell (hT.1 n (fun j => .int (f j))) (fun q => by cases q) (by show ¬ (i < 0 ∨ (arrV _ _ _).slots.size ≤ _); rw [arrV_size]; exact hin) (by show (arrV _ _ _).slots[_]? = _; rw [arrV_read _ _ hlt]) rfl rfl hdg (kk _ hf)
theorem zw_iastore (X : zCx p s m args meth c D A E cc nL own ret) (hw : zWh D A s H h locs) {a : Nat} {i x : Int32} {K : zT → Option β} (hf : (zs_I .int h a i x).bind K = some res) (hdg : decode cc pc = .ok (.iastore, 1))
    (kk : ∀ (h1 : zT) (H1 : Heap) (locs1 : List Loc), K h1 = some res → zWh D A s H1 h1 locs1 → W p l e R s m args below meth c H1 locs1 cells slots Q (F0 m (pc + 1) ls rest)) : W p l e R s m args below meth c H locs cells slots Q (F0 m pc ls (.int x :: .int i :: .ref a :: rest)) := by
  obtain ⟨⟨hx, hb, -⟩, -⟩ := X
  obtain ⟨h1, q1, hf⟩ := zbd hf
  obtain ⟨n, f, g1, hin, rfl⟩ := zs_I_eq q1
  obtain ⟨cA, hT, hcell⟩ := (hw.1.2 a _ g1).2
  refine W.iast hx hb hcell (hT.1 n (fun j => .int (f j))) (fun q => by cases q) (by show ¬ (i < 0 ∨ (arrV _ _ _).slots.size ≤ _); rw [arrV_size]; exact hin) rfl rfl hdg fun H1 e z oq => ?_
  refine kk _ H1 _ hf ⟨hw.1.set g1 ⟨cA, hT, ?_⟩ z oq, hw.2.put z oq (hw.1.2 a _ g1).1⟩
  rw [e]
  show some (Cell.setSlot (vp_cell cA (n, .inl f)) _ _) = some (vp_cell cA (n, .inl _))
  rw [vp_cell_i, vp_cell_i, arrV_store]
  congr 2
  funext q
  by_cases hq : q = i.toNatClampNeg
  · subst hq
    simp [updV, upd]
  · simp [updV, upd, hq]
/-! calls -/
theorem zw_call {ov : Option Value} {h1 : zT} {a : Array Value} {mc1 ms1 : Nat} {st0 : List Value} (hr : va_Run p l e R s m args below meth c H locs cells slots mc1 ms1 (F0 m pc ls st0) rest (zQW D A ov h1 a) A) (hw : zWh D A s H h locs)
    (kk : ∀ (H1 : Heap) (locs1 : List Loc), zWh D A s H1 h1 locs1 → W p l e R s m args below meth c H1 locs1 (cells + mc1) (slots + ms1) Q (F0 m (pc + 3) ls (ov.toList ++ rest))) : W p l e R s m args below meth c H locs cells slots Q (F0 m pc ls st0) := by
  intro T hT X
  obtain ⟨v, st₀, t, T', L, h0, X', hL, e1, e2, ⟨hv, hb, hz, hk⟩, st⟩ := hr T hT X
  cases hv
  rw [h0] at hz hk
  have hal : s.vm.Alike t.vm := by rw [← e2]; exact X'.warmed.alike
  obtain ⟨t2, a1, b1⟩ := kk T'.heap (locs ++ L) ⟨by rw [e1]; exact hb.moved hal.symm, Nat.le_trans hw.2.1 (by rw [e1]; exact hz), fun q h1 h2 => by rw [e1, hk q (Nat.lt_of_lt_of_le h1 hw.2.1) h2]; exact hw.2.2.1 q h1 h2, fun q hq => by
      rcases List.mem_append.mp hq with h | h
      · exact hw.2.2.2 q h
      · exact hL q h⟩ T' rfl X'
  exact ⟨t2, st t2 a1, b1⟩
theorem zpreS (X : zCx p s m args meth c D A E cc nL own ret) (hw : zWh D A s H h locs) (As : List Value) : PreS s H (zPW D A E h As) As := by
  obtain ⟨-, -, -, hK, hA, hE, hEs⟩ := X
  refine ⟨zPW.blind hE, fun U hU hW => ⟨rfl, by rw [hU]; exact hw.1.moved hW.alike, va_K.moved hW.alike hK, fun q hq => hA q (Nat.le_trans hw.2.1 (by rw [hw.1.1]; exact hq)), hE.1 s U hW ⟨by rw [hU]; exact hw.2.1, fun q h1 h2 => by rw [hU]; exact hw.2.2.1 q h1 h2⟩ hEs⟩⟩
end ZW
/-- what a callee's name must be, and how many arguments it takes -/
def zcd (y : MethodName) (n : Nat) : Prop := y.cls ≠ "java/lang/invoke/MethodHandle" ∧ y.cls ≠ "java/lang/invoke/VarHandle" ∧ (parseMethodDescriptor y.desc).map (fun d => d.parameters.length) = some n
section ZC
variable {p : Program} {l : Launch} {e : Env} {R : Room} {s : State} {m : MethodId} {args : Array Value} {below : List Frame} {meth : Method} {c : Code} {H : Heap} {locs : List Loc} {cells slots : Nat} {Q : State → Prop}
variable {D : va_G} {A : Nat → Prop} {E : State → Prop} {cc : ByteArray} {nL : Nat} {own : String} {ret : Option FieldType} {h : zT} {pc : Nat} {ls : Array Slot} {rest : List Value} {mc1 ms1 index n maxL : Nat} {y : MethodName} {bytes : ByteArray} {ry : Option FieldType} {rm : Room} {β : Type} {res : β}
/-- a static call; F: the callee's function, val: how its result stands on the stack -/
theorem zw_cS {α : Type} {F : Option α} {K : α → Option β} {val : α → Option Value} {hp : α → zT} {st0 : List Value} (As : List Value) (X : zCx p s m args meth c D A E cc nL own ret) (hw : zWh D A s H h locs) (hl : ls.size = nL) (hf : F.bind K = some res)
    (hM : ∀ r, F = some r → Met l y (ws_ y bytes maxL ry) rm (zPW D A E h As) (zQW D A (val r) (hp r)) mc1 ms1 A) (hG : GoodIn lw_all (va_wsS own index y (ws_ y bytes maxL ry))) (hcd : zcd y n) (hrc : rm.cells = mc1 ∧ rm.slots = ms1) (hR : rm.frames + 1 ≤ R.frames ∧ 8 + (maxL + 11) + rm.locals ≤ R.locals)
    (hn : As.length = n) (hstk : st0 = As.reverse ++ rest) (hrest : (rest.map fun v => v.category).sum ≤ 8) (hdg : decode cc pc = .ok (.invokestatic index, 3)) (hc : cells + mc1 ≤ R.cells ∧ slots + ms1 ≤ R.slots)
    (kk : ∀ (r : α) (H1 : Heap) (locs1 : List Loc), K r = some res → zWh D A s H1 (hp r) locs1 → W p l e R s m args below meth c H1 locs1 (cells + mc1) (slots + ms1) Q (F0 m (pc + 3) ls ((val r).toList ++ rest))) : W p l e R s m args below meth c H locs cells slots Q (F0 m pc ls st0) := by
  obtain ⟨r, hF, hf⟩ := zbd hf
  exact zw_call (va_runS (As := As) (rest := rest) X.1 (hM r hF) (va_cwS n X.1.2.2.2.2 hG rfl hrc.1 hrc.2 hcd hR) (zpreS X hw As) rfl hn hl hstk (lv_room hrest) hdg hc) hw (fun H1 locs1 hw1 => kk r H1 locs1 hf hw1)
/-- a call through an object of the class that declares it -/
theorem zw_cV {α : Type} {F : Option α} {K : α → Option β} {val : α → Option Value} {hp : α → zT} {st0 : List Value} {ci b : Nat} {fs : List Value} {q : vw_C} (As : List Value) (X : zCx p s m args meth c D A E cc nL own ret) (hw : zWh D A s H h locs) (hl : ls.size = nL) (hf : F.bind K = some res) (hb : h.1 b = some (.inr (ci, fs))) (hq : zCl[ci]? = some q) (hqC : y.cls = q.1)
    (hM : ∀ r, F = some r → Met l y (ws_ y bytes maxL ry) rm (zPW D A E h (.ref b :: As)) (zQW D A (val r) (hp r)) mc1 ms1 A) (hG : GoodIn lw_all (wsV own index q.1 y (ws_ y bytes maxL ry))) (hcd : zcd y n) (hrc : rm.cells = mc1 ∧ rm.slots = ms1) (hR : rm.frames + 1 ≤ R.frames ∧ 8 + (maxL + 11) + rm.locals ≤ R.locals)
    (hn : As.length = n) (hstk : st0 = As.reverse ++ .ref b :: rest) (hrest : (rest.map fun v => v.category).sum ≤ 8) (hdg : decode cc pc = .ok (.invokevirtual index, 3)) (hc : cells + mc1 ≤ R.cells ∧ slots + ms1 ≤ R.slots)
    (kk : ∀ (r : α) (H1 : Heap) (locs1 : List Loc), K r = some res → zWh D A s H1 (hp r) locs1 → W p l e R s m args below meth c H1 locs1 (cells + mc1) (slots + ms1) Q (F0 m (pc + 3) ls ((val r).toList ++ rest))) : W p l e R s m args below meth c H locs cells slots Q (F0 m pc ls st0) := by
  obtain ⟨r, hF, hf⟩ := zbd hf
  obtain ⟨r0, g1, g2, cell, g3, g4, g5, -⟩ := (hw.1.2 b _ hb).2
  have hK := X.2.2.2.1
  refine zw_call (va_runV (C := q.1) (As := As) (rest := rest) X.1 (hM r hF) (cwV n X.1.2.2.2.2 hG rfl hrc.1 hrc.2 ⟨hqC, hcd⟩ hR) ⟨(zpreS X hw (.ref b :: As)).1, ⟨cell, g3, by rw [g5]; rfl, by rw [g4]; exact (hK.1 ci q hq).2.1⟩, (zpreS X hw (.ref b :: As)).2⟩ rfl hn hl hstk (lv_room hrest) hdg hc) hw (fun H1 locs1 hw1 => kk r H1 locs1 hf hw1)
end ZC
