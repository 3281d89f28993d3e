/-! STEPS for the component: nest mates' fields, references that may be null, arrays of references, bytes, shorts and floats, new objects -/
set_option maxRecDepth 100000
/-- an array of references of the class C -/
def zh_Q (C : String) (h : zT) (a : Nat) : Option (Nat × (Nat → Option Nat)) := match h.1 a with
  | some (.inl (t, n, .inr (.inr (.inr (.inr f))))) => if t = .object C then some (n, f) else none
  | _ => none
def za_Q (C : String) (h : zT) (a : Nat) (i : Int32) : Option (Option Nat) := (zh_Q C h a).bind fun x => if i < 0 ∨ x.1 ≤ i.toNatClampNeg then none else some (x.2 i.toNatClampNeg)
def za_R (C : String) (h : zT) (a : Nat) (i : Int32) : Option Nat := (za_Q C h a i).bind fun q => q
def zk_S (S : List Nat) (h : zT) (a : Nat) : Option Nat := (zh_O h a).bind fun o => if o.1 ∈ S then some o.1 else none
def zs_R (C : String) (S : List Nat) (h : zT) (a : Nat) (i : Int32) (v : Nat) : Option zT := (zk_S S h v).bind fun _ => (zh_Q C h a).bind fun x => if i < 0 ∨ x.1 ≤ i.toNatClampNeg then none else some (zh_set h a (.inl (.object C, x.1, .inr (.inr (.inr (.inr (va_up x.2 i.toNatClampNeg (some v))))))))
def zn_Q (C : String) (h : zT) (n : Int32) : Option (Nat × zT) := if n < 0 then none else some (h.2, zh_push h (.inl (.object C, n.toNatClampNeg, .inr (.inr (.inr (.inr fun _ => none))))))
/-- an array of floats -/
def zh_F (h : zT) (a : Nat) : Option (Nat × (Nat → UInt32)) := match h.1 a with
  | some (.inl (t, n, .inr (.inr (.inl f)))) => if t = .float then some (n, f) else none
  | _ => none
def za_F (h : zT) (a : Nat) (i : Int32) : Option UInt32 := (zh_F h a).bind fun x => if i < 0 ∨ x.1 ≤ i.toNatClampNeg then none else some (x.2 i.toNatClampNeg)
def zs_F (h : zT) (a : Nat) (i : Int32) (v : UInt32) : Option zT := (zh_F h a).bind fun x => if i < 0 ∨ x.1 ≤ i.toNatClampNeg then none else some (zh_set h a (.inl (.float, x.1, .inr (.inr (.inl (va_up x.2 i.toNatClampNeg v))))))
def zn_F (h : zT) (n : Int32) : Option (Nat × zT) := if n < 0 then none else some (h.2, zh_push h (.inl (.float, n.toNatClampNeg, .inr (.inr (.inl fun _ => 0)))))
/-- a new object of the class ci, its fields as they are at first -/
def zn_O (ci : Nat) (fs : List Value) (h : zT) : Option (Nat × zT) := some (h.2, zh_push h (.inr (ci, fs)))
theorem zh_Q_eq {C : String} {h : zT} {a : Nat} {x : Nat × (Nat → Option Nat)} (e : zh_Q C h a = some x) : h.1 a = some (.inl (.object C, x.1, .inr (.inr (.inr (.inr x.2))))) := by
  unfold zh_Q at e
  split at e
  · split at e
    · rename_i h2 h3
      cases e
      subst h3
      exact h2
    · cases e
  · cases e
theorem zh_F_eq {h : zT} {a : Nat} {x : Nat × (Nat → UInt32)} (e : zh_F h a = some x) : h.1 a = some (.inl (.float, x.1, .inr (.inr (.inl x.2)))) := by
  unfold zh_F at e
  split at e
  · split at e
    · rename_i h2 h3
      cases e
      subst h3
      exact h2
    · cases e
  · cases e
theorem zif {α : Type} {c : Prop} [Decidable c] {x : Option α} {r : α} (e : (if c then none else x) = some r) : ¬ c ∧ x = some r := by
  by_cases hc : c
  · rw [if_pos hc] at e; cases e
  · rw [if_neg hc] at e; exact ⟨hc, e⟩
theorem zk_S_eq {S : List Nat} {h : zT} {a ci : Nat} (e : zk_S S h a = some ci) : ci ∈ S ∧ ∃ fs : List Value, h.1 a = some (.inr (ci, fs)) := by
  obtain ⟨o, h1, h2⟩ := zbd e
  by_cases hm : o.1 ∈ S
  · rw [if_pos hm] at h2
    cases h2
    exact ⟨hm, o.2, zh_O_eq h1⟩
  · rw [if_neg hm] at h2
    cases h2
section ZW2
variable {p : Program} {l : Launch} {e : Env} {R : Room} {s : State} {m : MethodId} {args : Array Value} {below : List Frame} {meth : Method} {c : Code} {H : Heap} {locs : List Loc} {cells slots : Nat} {Q : State → Prop}
variable {D : va_G} {A : Nat → Prop} {E : State → Prop} {cc : ByteArray} {nL : Nat} {own : String} {ret : Option FieldType} {h : zT} {pc : Nat} {ls : Array Slot} {rest : List Value} {mc ms : Nat} {β : Type} {res : β}
theorem zw_aretR {v : Nat} {rt : FieldType} {res : Nat × zT} (X : zCx p s m args meth c D A E cc nL own (some rt)) (hrt : (∃ n, rt = .object n) ∨ ∃ t, rt = .array t) (hw : zWh D A s H h locs) (hf : some (v, h) = some res) (h1 : cells ≤ mc) (h2 : slots ≤ ms) (hdg : decode cc pc = .ok (.areturn, 1)) :
    W p l e R s m args below meth c H locs cells slots (MQ below (zQW D A (some (.ref res.1)) res.2) args s mc ms A) (F0 m pc ls [.ref v]) := by
  cases hf
  obtain ⟨⟨hx, hb, -⟩, hr, hlocks, -⟩ := X
  refine W.widen h1 h2 ?_
  exact W.aret hx hb hr hrt (Or.inr ⟨v, rfl⟩) (fun t ht hW => ⟨rfl, by rw [ht]; exact hw.1.moved hW.alike, hw.2.F ht⟩) hw.2.2.2 hdg
theorem zw_getQ (X : zCx p s m args meth c D A E cc nL own ret) (hw : zWh D A s H h locs) {S : List Nat} {a k index : Nat} {fld : String × String × String × Bool} {fty : FieldType} {ref : String} {K : Option Nat → Option β} (hS : zFS S k fld fty) (hl : Cond.fieldLink own index ref fld.2.1 fld.2.2.1 ∈ lw_all) (hsame : fld.1 = ref) (hf : (zg_Q S h a k).bind K = some res) (hdg : decode cc pc = .ok (.getfield index, 3))
    (kk : ∀ x, K x = some res → W p l e R s m args below meth c H locs cells slots Q (F0 m (pc + 3) ls (va_rf x :: rest))) : W p l e R s m args below meth c H locs cells slots Q (F0 m pc ls (.ref a :: rest)) := by
  obtain ⟨x, h1, h2⟩ := zbd hf
  exact zw_get X hw hS hl hsame (zg_Q_eq h1) hdg (kk x h2)
theorem zw_getN (X : zCx p s m args meth c D A E cc nL own ret) (hw : zWh D A s H h locs) {S : List Nat} {a k index : Nat} {fld : String × String × String × Bool} {fty : FieldType} {ref host : String} (hS : zFS S k fld fty) (hl : va_Nw (.fieldLinkNest own index ref fld.2.1 fld.2.2.1 host) s) (hsame : fld.1 = ref) {v : Value} (hv : zg_V S h a k = some v) (hdg : decode cc pc = .ok (.getfield index, 3))
    (kk : W p l e R s m args below meth c H locs cells slots Q (F0 m (pc + 3) ls (v :: rest))) : W p l e R s m args below meth c H locs cells slots Q (F0 m pc ls (.ref a :: rest)) := by
  obtain ⟨⟨hx, hb, hml, hown, hts⟩, -, -, hK, -⟩ := X
  obtain ⟨o, h1, h2, h3⟩ := zg_V_eq hv
  obtain ⟨C, T, N, ty, ⟨hc, hin, hty, hnm⟩, hk, hT⟩ := hS.2 o.1 h2
  obtain ⟨r, g1, g2, g3⟩ := (hw.1.2 a _ h1).2
  subst hT
  exact va_getN (D := D) (cl := zCl) (ws := [(a, .inr o)]) hx hb hts hin hown hK (fun j q hj => by
    match j, hj with
    | 0, hj => cases hj; exact ⟨r, g1, g3⟩
    | j + 1, hj => simp at hj) 0 rfl hc k hk (va_Nw.use rfl hl) (fun x hx9 => by rw [← hsame]; exact hx9) h3 hdg kk
theorem zw_getIN (X : zCx p s m args meth c D A E cc nL own ret) (hw : zWh D A s H h locs) {S : List Nat} {a k index : Nat} {fld : String × String × String × Bool} {fty : FieldType} {ref host : String} {K : Int32 → Option β} (hS : zFS S k fld fty) (hl : va_Nw (.fieldLinkNest own index ref fld.2.1 fld.2.2.1 host) s) (hsame : fld.1 = ref) (hf : (zg_I S h a k).bind K = some res) (hdg : decode cc pc = .ok (.getfield index, 3))
    (kk : ∀ x, K x = some res → W p l e R s m args below meth c H locs cells slots Q (F0 m (pc + 3) ls (.int x :: rest))) : W p l e R s m args below meth c H locs cells slots Q (F0 m pc ls (.ref a :: rest)) := by
  obtain ⟨x, h1, h2⟩ := zbd hf
  exact zw_getN X hw hS hl hsame (zg_I_eq h1) hdg (kk x h2)
theorem zw_getRN (X : zCx p s m args meth c D A E cc nL own ret) (hw : zWh D A s H h locs) {S : List Nat} {a k index : Nat} {fld : String × String × String × Bool} {fty : FieldType} {ref host : String} {K : Nat → Option β} (hS : zFS S k fld fty) (hl : va_Nw (.fieldLinkNest own index ref fld.2.1 fld.2.2.1 host) s) (hsame : fld.1 = ref) (hf : (zg_R S h a k).bind K = some res) (hdg : decode cc pc = .ok (.getfield index, 3))
    (kk : ∀ x, K x = some res → W p l e R s m args below meth c H locs cells slots Q (F0 m (pc + 3) ls (.ref x :: rest))) : W p l e R s m args below meth c H locs cells slots Q (F0 m pc ls (.ref a :: rest)) := by
  obtain ⟨x, h1, h2⟩ := zbd hf
  exact zw_getN X hw hS hl hsame (zg_R_eq h1) hdg (kk x h2)
theorem zw_getQN (X : zCx p s m args meth c D A E cc nL own ret) (hw : zWh D A s H h locs) {S : List Nat} {a k index : Nat} {fld : String × String × String × Bool} {fty : FieldType} {ref host : String} {K : Option Nat → Option β} (hS : zFS S k fld fty) (hl : va_Nw (.fieldLinkNest own index ref fld.2.1 fld.2.2.1 host) s) (hsame : fld.1 = ref) (hf : (zg_Q S h a k).bind K = some res) (hdg : decode cc pc = .ok (.getfield index, 3))
    (kk : ∀ x, K x = some res → W p l e R s m args below meth c H locs cells slots Q (F0 m (pc + 3) ls (va_rf x :: rest))) : W p l e R s m args below meth c H locs cells slots Q (F0 m pc ls (.ref a :: rest)) := by
  obtain ⟨x, h1, h2⟩ := zbd hf
  exact zw_getN X hw hS hl hsame (zg_Q_eq h1) hdg (kk x h2)
theorem zw_putN (X : zCx p s m args meth c D A E cc nL own ret) (hw : zWh D A s H h locs) {S : List Nat} {a k index : Nat} {fld : String × String × String × Bool} {fty : FieldType} {ref host : String} {v : Value} {K : zT → Option β} (hS : zFS S k fld fty) (hl : va_Nw (.fieldLinkNest own index ref fld.2.1 fld.2.2.1 host) s) (hsame : fld.1 = ref) (hfin : fld.2.2.2 = false) (hn : narrow fty v = v) (hfit : fits fty v = true) (hf : (zp_V S h a k v).bind K = some res) (hdg : decode cc pc = .ok (.putfield index, 3))
    (kk : ∀ (h1 : zT) (H1 : Heap) (locs1 : List Loc), K h1 = some res → zWh D A s H1 h1 locs1 → W p l e R s m args below meth c H1 locs1 cells slots Q (F0 m (pc + 3) ls rest)) : W p l e R s m args below meth c H locs cells slots Q (F0 m pc ls (v :: .ref a :: rest)) := by
  obtain ⟨⟨hx, hb, hml, hown, hts⟩, -, -, hK, -⟩ := X
  obtain ⟨h1, hp, hf⟩ := zbd hf
  obtain ⟨o, g1, g2, rfl⟩ := zp_V_eq hp
  obtain ⟨C, T, N, ty, ⟨hc, hin, hty, hnm⟩, hk, hT⟩ := hS.2 o.1 g2
  obtain ⟨r, j1, j2, j3⟩ := (hw.1.2 a _ g1).2
  have hr : r = (C, T, N) := Option.some.inj (j1.symm.trans hc)
  subst hr
  subst hT
  have hap := va_apart (own := own) hts hin ty hty hnm hK hc
  obtain ⟨cell, q1, q2, q3, q4⟩ := j3
  obtain ⟨hSl, hfc, kC, hkC, hkind⟩ := hK.1 o.1 _ hc
  obtain ⟨cf, kf, fi, f, hi, hsl⟩ := hSl k hk
  have hlay := hts _ (hin _ (u_in_lay hk))
  unfold u_lay at hlay
  rw [if_neg (by rw [hfin]; decide)] at hlay
  have hst := (u_facts hfc hkC (u_lays hts hin hk) hi).1
  have h6 := u_store hfc hkC hkind hlay hi hS.1 hn hfit
  refine va_WputK hx hb (f := f) hown (va_Nw.use rfl hl) (by rw [← hsame]; exact hi) hst (by rw [q2]; exact h6) q1 q3 (by rw [hsl]; exact k2_hasslot (q4 k hk)) rfl rfl hdg fun H' e1 e2 e3 => ?_
  rw [hsl] at e1
  refine kk _ H' _ hf ⟨hw.1.set g1 ⟨(C, T, N), hc, by rw [List.length_set]; exact j2, t_OB.to (V := updV (vp_V o.2) k v) ⟨_, e1, q2, q3, t_set q4 hap hk v⟩ (fun j _ => vp_updV_set (by rw [j2]; exact hk) v j)⟩ e2 e3, hw.2.put e2 e3 (hw.1.2 a _ g1).1⟩
/-! references that may be null -/
theorem zw_aload_nQ (hexec : p.tables.exec = Jvm.exec) (hb : c.code = cc) {k : Fin 4} {i : Nat} {x : Option Nat} (hdg : decode cc pc = .ok (.aload_n k, 1)) (hi : (k : Nat) = i) (hl : ls[i]? = some (.val (va_rf x)))
    (kk : W p l e R s m args below meth c H locs cells slots Q (F0 m (pc + 1) ls (va_rf x :: rest))) : W p l e R s m args below meth c H locs cells slots Q (F0 m pc ls (rest)) := by
  cases x with
  | none => exact lv_aload_nN hexec hb hdg hi hl kk
  | some a => exact lv_aload_n hexec hb hdg hi hl kk
theorem zw_aloadQ (hexec : p.tables.exec = Jvm.exec) (hb : c.code = cc) {i : Nat} {x : Option Nat} (hdg : decode cc pc = .ok (.aload i, 2)) (hl : ls[i]? = some (.val (va_rf x)))
    (kk : W p l e R s m args below meth c H locs cells slots Q (F0 m (pc + 2) ls (va_rf x :: rest))) : W p l e R s m args below meth c H locs cells slots Q (F0 m pc ls (rest)) := by
  cases x with
  | none => exact lv_aloadN hexec hb hdg hl kk
  | some a => exact lv_aload hexec hb hdg hl kk
theorem zw_astore_nQ (hexec : p.tables.exec = Jvm.exec) (hb : c.code = cc) {k : Fin 4} {i nL : Nat} {x : Option Nat} {lv lv' : List (Nat × Value)} (hdg : decode cc pc = .ok (.astore_n k, 1)) (hi : (k : Nat) = i) (h : lv_has ls nL lv) (hn : i < nL) (hl : (i, va_rf x) :: lv.filter (fun q => !(q.1 == i) && !(q.1 + 1 == i && q.2.category == 2)) = lv')
    (kk : ∀ ls' : Array Slot, lv_has ls' nL lv' → W p l e R s m args below meth c H locs cells slots Q (F0 m (pc + 1) ls' rest)) : W p l e R s m args below meth c H locs cells slots Q (F0 m pc ls (va_rf x :: rest)) := by
  cases x with
  | none => exact lv_astore_nN hexec hb hdg hi h hn hl kk
  | some a => exact lv_astore_n hexec hb hdg hi h hn hl kk
theorem zw_astoreQ (hexec : p.tables.exec = Jvm.exec) (hb : c.code = cc) {i nL : Nat} {x : Option Nat} {lv lv' : List (Nat × Value)} (hdg : decode cc pc = .ok (.astore i, 2)) (h : lv_has ls nL lv) (hn : i < nL) (hl : (i, va_rf x) :: lv.filter (fun q => !(q.1 == i) && !(q.1 + 1 == i && q.2.category == 2)) = lv')
    (kk : ∀ ls' : Array Slot, lv_has ls' nL lv' → W p l e R s m args below meth c H locs cells slots Q (F0 m (pc + 2) ls' rest)) : W p l e R s m args below meth c H locs cells slots Q (F0 m pc ls (va_rf x :: rest)) := by
  cases x with
  | none => exact lv_astoreN hexec hb hdg h hn hl kk
  | some a => exact lv_astore hexec hb hdg h hn hl kk
theorem zw_ifnull (hexec : p.tables.exec = Jvm.exec) (hb : c.code = cc) {x : Option Nat} {off : Int} {tgt : Nat} {F F2 : Option β} (hf : (if x = none then F else F2) = some res) (hdg : decode cc pc = .ok (.ifnull off, 3)) (ht : (pc : Int) + off = (tgt : Int)) (kt : F = some res → W p l e R s m args below meth c H locs cells slots Q (F0 m tgt ls rest)) (kf : F2 = some res → W p l e R s m args below meth c H locs cells slots Q (F0 m (pc + 3) ls rest)) : W p l e R s m args below meth c H locs cells slots Q (F0 m pc ls (va_rf x :: rest)) := by
  cases x with
  | none => rw [if_pos rfl] at hf; exact lv_ifnullN hexec hb hdg ht (kt hf)
  | some a => rw [if_neg (by simp)] at hf; exact lv_ifnull hexec hb hdg (kf hf)
theorem zw_ifnonnull (hexec : p.tables.exec = Jvm.exec) (hb : c.code = cc) {x : Option Nat} {off : Int} {tgt : Nat} {F F2 : Option β} (hf : (if ¬ x = none then F else F2) = some res) (hdg : decode cc pc = .ok (.ifnonnull off, 3)) (ht : (pc : Int) + off = (tgt : Int)) (kt : F = some res → W p l e R s m args below meth c H locs cells slots Q (F0 m tgt ls rest)) (kf : F2 = some res → W p l e R s m args below meth c H locs cells slots Q (F0 m (pc + 3) ls rest)) : W p l e R s m args below meth c H locs cells slots Q (F0 m pc ls (va_rf x :: rest)) := by
  cases x with
  | none => rw [if_neg (by simp)] at hf; exact lv_ifnonnullN hexec hb hdg (kf hf)
  | some a => rw [if_pos (by simp)] at hf; exact lv_ifnonnull hexec hb hdg ht (kt hf)
/-! bytes and shorts -/
theorem zw_baload (X : zCx p s m args meth c D A E cc nL own ret) (hw : zWh D A s H h locs) {a : Nat} {i : Int32} {K : Int32 → Option β} (hf : (za_I .byte h a i).bind K = some res) (hdg : decode cc pc = .ok (.baload, 1))
    (kk : ∀ x, K x = some res → W p l e R s m args below meth c H locs cells slots Q (F0 m (pc + 1) ls (.int x :: rest))) : W p l e R s m args below meth c H locs cells slots Q (F0 m pc ls (.int i :: .ref a :: rest)) := by
  obtain ⟨⟨hx, hb, -⟩, -⟩ := X
  obtain ⟨v, h1, hf⟩ := zbd hf
  obtain ⟨n, f, g1, hin, rfl⟩ := za_I_eq h1
  obtain ⟨cA, hT, hcell⟩ := (hw.1.2 a _ g1).2
  have hlt : i.toNatClampNeg < n := Nat.not_le.mp fun q => hin (Or.inr q)
  exact W.bald (v := .int (f i.toNatClampNeg)) hx hb hcell (hT.1 n (fun j => .int (f j))) (fun q => by cases q) (by show ¬ (i < 0 ∨ (arrV _ _ _).slots.size ≤ _); rw [arrV_size]; exact hin) (by show (arrV _ _ _).slots[_]? = _; rw [arrV_read _ _ hlt]) rfl rfl hdg (kk _ hf)
theorem zw_saload (X : zCx p s m args meth c D A E cc nL own ret) (hw : zWh D A s H h locs) {a : Nat} {i : Int32} {K : Int32 → Option β} (hf : (za_I .short h a i).bind K = some res) (hdg : decode cc pc = .ok (.saload, 1))
    (kk : ∀ x, K x = some res → W p l e R s m args below meth c H locs cells slots Q (F0 m (pc + 1) ls (.int x :: rest))) : W p l e R s m args below meth c H locs cells slots Q (F0 m pc ls (.int i :: .ref a :: rest)) := by
  obtain ⟨⟨hx, hb, -⟩, -⟩ := X
  obtain ⟨v, h1, hf⟩ := zbd hf
  obtain ⟨n, f, g1, hin, rfl⟩ := za_I_eq h1
  obtain ⟨cA, hT, hcell⟩ := (hw.1.2 a _ g1).2
  have hlt : i.toNatClampNeg < n := Nat.not_le.mp fun q => hin (Or.inr q)
  exact W.sald (v := .int (f i.toNatClampNeg)) hx hb hcell (hT.1 n (fun j => .int (f j))) (fun q => by cases q) (by show ¬ (i < 0 ∨ (arrV _ _ _).slots.size ≤ _); rw [arrV_size]; exact hin) (by show (arrV _ _ _).slots[_]? = _; rw [arrV_read _ _ hlt]) rfl rfl hdg (kk _ hf)
theorem zarr_upd (f : Nat → Int32) (k : Nat) (v : Int32) : updV (fun j => Value.int (f j)) k (.int v) = fun j => .int (upd f k v j) := by
  funext q
  by_cases hq : q = k
  · subst hq
    simp [updV, upd]
  · simp [updV, upd, hq]
theorem zw_bastore (X : zCx p s m args meth c D A E cc nL own ret) (hw : zWh D A s H h locs) {a : Nat} {i x : Int32} {K : zT → Option β} (hf : (zs_I .byte h a i (vp_nar .byte x)).bind K = some res) (hdg : decode cc pc = .ok (.bastore, 1))
    (kk : ∀ (h1 : zT) (H1 : Heap) (locs1 : List Loc), K h1 = some res → zWh D A s H1 h1 locs1 → W p l e R s m args below meth c H1 locs1 cells slots Q (F0 m (pc + 1) ls rest)) : W p l e R s m args below meth c H locs cells slots Q (F0 m pc ls (.int x :: .int i :: .ref a :: rest)) := by
  obtain ⟨⟨hx, hb, -⟩, -⟩ := X
  obtain ⟨h1, q1, hf⟩ := zbd hf
  obtain ⟨n, f, g1, hin, rfl⟩ := zs_I_eq q1
  obtain ⟨cA, hT, hcell⟩ := (hw.1.2 a _ g1).2
  refine W.bast hx hb hcell (hT.1 n (fun j => .int (f j))) (fun q => by cases q) (by show ¬ (i < 0 ∨ (arrV _ _ _).slots.size ≤ _); rw [arrV_size]; exact hin) rfl rfl hdg fun H1 e z oq => ?_
  refine kk _ H1 _ hf ⟨hw.1.set g1 ⟨cA, hT, ?_⟩ z oq, hw.2.put z oq (hw.1.2 a _ g1).1⟩
  rw [e]
  show some (Cell.setSlot (vp_cell cA (n, .inl f)) _ _) = some (vp_cell cA (n, .inl _))
  rw [vp_cell_i, vp_cell_i, arrV_store, ← zarr_upd]
  rfl
theorem zw_sastore (X : zCx p s m args meth c D A E cc nL own ret) (hw : zWh D A s H h locs) {a : Nat} {i x : Int32} {K : zT → Option β} (hf : (zs_I .short h a i (vp_nar .short x)).bind K = some res) (hdg : decode cc pc = .ok (.sastore, 1))
    (kk : ∀ (h1 : zT) (H1 : Heap) (locs1 : List Loc), K h1 = some res → zWh D A s H1 h1 locs1 → W p l e R s m args below meth c H1 locs1 cells slots Q (F0 m (pc + 1) ls rest)) : W p l e R s m args below meth c H locs cells slots Q (F0 m pc ls (.int x :: .int i :: .ref a :: rest)) := by
  obtain ⟨⟨hx, hb, -⟩, -⟩ := X
  obtain ⟨h1, q1, hf⟩ := zbd hf
  obtain ⟨n, f, g1, hin, rfl⟩ := zs_I_eq q1
  obtain ⟨cA, hT, hcell⟩ := (hw.1.2 a _ g1).2
  refine W.sast hx hb hcell (hT.1 n (fun j => .int (f j))) (fun q => by cases q) (by show ¬ (i < 0 ∨ (arrV _ _ _).slots.size ≤ _); rw [arrV_size]; exact hin) rfl rfl hdg fun H1 e z oq => ?_
  refine kk _ H1 _ hf ⟨hw.1.set g1 ⟨cA, hT, ?_⟩ z oq, hw.2.put z oq (hw.1.2 a _ g1).1⟩
  rw [e]
  show some (Cell.setSlot (vp_cell cA (n, .inl f)) _ _) = some (vp_cell cA (n, .inl _))
  rw [vp_cell_i, vp_cell_i, arrV_store, ← zarr_upd]
  rfl
/-! floats -/
theorem zw_faload (X : zCx p s m args meth c D A E cc nL own ret) (hw : zWh D A s H h locs) {a : Nat} {i : Int32} {K : UInt32 → Option β} (hf : (za_F h a i).bind K = some res) (hdg : decode cc pc = .ok (.faload, 1))
    (kk : ∀ x, K x = some res → W p l e R s m args below meth c H locs cells slots Q (F0 m (pc + 1) ls (.float x :: rest))) : W p l e R s m args below meth c H locs cells slots Q (F0 m pc ls (.int i :: .ref a :: rest)) := by
  obtain ⟨⟨hx, hb, -⟩, -⟩ := X
  obtain ⟨v, h1, hf⟩ := zbd hf
  obtain ⟨x, h2, h3⟩ := zbd h1
  obtain ⟨hin, h4⟩ := zif h3
  have g1 := zh_F_eq h2
  cases h4
  obtain ⟨cA, hT, hcell⟩ := (hw.1.2 a _ g1).2
  have hlt : i.toNatClampNeg < x.1 := Nat.not_le.mp fun q => hin (Or.inr q)
  exact W.fald (v := .float (x.2 i.toNatClampNeg)) hx hb hcell (hT.1 x.1 (fun j => .float (x.2 j))) (fun q => by cases q) (by show ¬ (i < 0 ∨ (arrV _ _ _).slots.size ≤ _); rw [arrV_size]; exact hin) (by show (arrV _ _ _).slots[_]? = _; rw [arrV_read _ _ hlt]) rfl rfl hdg (kk _ hf)
theorem zw_fastore (X : zCx p s m args meth c D A E cc nL own ret) (hw : zWh D A s H h locs) {a : Nat} {i : Int32} {x : UInt32} {K : zT → Option β} (hf : (zs_F h a i x).bind K = some res) (hdg : decode cc pc = .ok (.fastore, 1))
    (kk : ∀ (h1 : zT) (H1 : Heap) (locs1 : List Loc), K h1 = some res → zWh D A s H1 h1 locs1 → W p l e R s m args below meth c H1 locs1 cells slots Q (F0 m (pc + 1) ls rest)) : W p l e R s m args below meth c H locs cells slots Q (F0 m pc ls (.float x :: .int i :: .ref a :: rest)) := by
  obtain ⟨⟨hx, hb, -⟩, -⟩ := X
  obtain ⟨h1, q1, hf⟩ := zbd hf
  obtain ⟨y, h2, h3⟩ := zbd q1
  obtain ⟨hin, h4⟩ := zif h3
  have g1 := zh_F_eq h2
  cases h4
  obtain ⟨cA, hT, hcell⟩ := (hw.1.2 a _ g1).2
  refine W.fast hx hb hcell (hT.1 y.1 (fun j => .float (y.2 j))) (fun q => by cases q) (by show ¬ (i < 0 ∨ (arrV _ _ _).slots.size ≤ _); rw [arrV_size]; exact hin) rfl rfl hdg fun H1 e z oq => ?_
  refine kk _ H1 _ hf ⟨hw.1.set g1 ⟨cA, hT, ?_⟩ z oq, hw.2.put z oq (hw.1.2 a _ g1).1⟩
  rw [e]
  show some (Cell.setSlot (vp_cell cA (y.1, .inr (.inr (.inl y.2)))) _ _) = some (vp_cell cA (y.1, .inr (.inr (.inl _))))
  rw [vp_cell_f, vp_cell_f, arrV_store]
  congr 2
  funext q
  by_cases hq : q = i.toNatClampNeg
  · subst hq
    simp [updV, va_up]
  · simp [updV, va_up, hq]
/-! arrays of references -/
theorem zw_aaloadQ (X : zCx p s m args meth c D A E cc nL own ret) (hw : zWh D A s H h locs) {C : String} {a : Nat} {i : Int32} {K : Option Nat → Option β} (hf : (za_Q C h a i).bind K = some res) (hdg : decode cc pc = .ok (.aaload, 1))
    (kk : ∀ x, K x = some res → W p l e R s m args below meth c H locs cells slots Q (F0 m (pc + 1) ls (va_rf x :: rest))) : W p l e R s m args below meth c H locs cells slots Q (F0 m pc ls (.int i :: .ref a :: rest)) := by
  obtain ⟨⟨hx, hb, -⟩, -⟩ := X
  obtain ⟨v, h1, hf⟩ := zbd hf
  obtain ⟨x, h2, h3⟩ := zbd h1
  obtain ⟨hin, h4⟩ := zif h3
  have g1 := zh_Q_eq h2
  cases h4
  obtain ⟨cA, hT, hcell⟩ := (hw.1.2 a _ g1).2
  have hlt : i.toNatClampNeg < x.1 := Nat.not_le.mp fun q => hin (Or.inr q)
  exact W.aald (v := va_rf (x.2 i.toNatClampNeg)) (ty := .object C) hx hb hcell (hT.1 x.1 (fun j => va_rf (x.2 j))) rfl (fun q => by cases q) (by show ¬ (i < 0 ∨ (arrV _ _ _).slots.size ≤ _); rw [arrV_size]; exact hin) (by show (arrV _ _ _).slots[_]? = _; rw [arrV_read _ _ hlt]) rfl rfl hdg (kk _ hf)
theorem zw_aaloadR (X : zCx p s m args meth c D A E cc nL own ret) (hw : zWh D A s H h locs) {C : String} {a : Nat} {i : Int32} {K : Nat → Option β} (hf : (za_R C h a i).bind K = some res) (hdg : decode cc pc = .ok (.aaload, 1))
    (kk : ∀ x, K x = some res → W p l e R s m args below meth c H locs cells slots Q (F0 m (pc + 1) ls (.ref x :: rest))) : W p l e R s m args below meth c H locs cells slots Q (F0 m pc ls (.int i :: .ref a :: rest)) := by
  refine zw_aaloadQ (C := C) (res := res) (K := fun q => q.bind K) X hw ?_ hdg (fun x hx9 => ?_)
  · rw [← hf]
    unfold za_R
    rw [Option.bind_assoc]
  · obtain ⟨v, h1, h2⟩ := zbd hx9
    subst h1
    exact kk v h2
theorem zw_aastore (X : zCx p s m args meth c D A E cc nL own ret) (hw : zWh D A s H h locs) {C : String} {S : List Nat} (hcast : ∀ ci ∈ S, ∀ (q : vw_C) (comp : ClassId), zCl[ci]? = some q → s.vm.findClass C = some comp → s.vm.assignable (D.1 ci) comp = true) {a v : Nat} {i : Int32} {K : zT → Option β} (hf : (zs_R C S h a i v).bind K = some res) (hdg : decode cc pc = .ok (.aastore, 1))
    (kk : ∀ (h1 : zT) (H1 : Heap) (locs1 : List Loc), K h1 = some res → zWh D A s H1 h1 locs1 → W p l e R s m args below meth c H1 locs1 cells slots Q (F0 m (pc + 1) ls rest)) : W p l e R s m args below meth c H locs cells slots Q (F0 m pc ls (.ref v :: .int i :: .ref a :: rest)) := by
  obtain ⟨⟨hx, hb, -⟩, -, -, hK, -⟩ := X
  obtain ⟨h1, q1, hf⟩ := zbd hf
  obtain ⟨ci, k1, q1⟩ := zbd q1
  obtain ⟨y, h2, h3⟩ := zbd q1
  obtain ⟨hin, h4⟩ := zif h3
  have g1 := zh_Q_eq h2
  cases h4
  obtain ⟨hci, fs, hfs⟩ := zk_S_eq k1
  obtain ⟨r, j1, j2, cellV, c1, c2, c3, -⟩ := (hw.1.2 v _ hfs).2
  obtain ⟨cA, ⟨hT, hRA⟩, hcell⟩ := (hw.1.2 a _ g1).2
  have hlt : i.toNatClampNeg < y.1 := Nat.not_le.mp fun q => hin (Or.inr q)
  have h0 : ¬ i < 0 := fun q => hin (Or.inl q)
  obtain ⟨kA, comp, r1, r2, r3, r4⟩ := hRA
  obtain ⟨-, kC, hkC, -⟩ := (hK.1 ci r j1).2
  obtain ⟨kE, hkE, -⟩ := Vm.findClass_spec r3
  refine W.aast hx hb hcell (fun q h => by cases h) (fun h => by cases h) r1 r2 rfl hkE ⟨h0, by show _ < (arrV _ _ _).slots.size; rw [arrV_size]; exact hlt⟩ c1 (fun q h => by rw [c3] at h; cases h) (by rw [c2]; exact hkC) (by rw [c2]; exact hcast ci hci r comp j1 r3) rfl rfl hdg fun H1 e z oq => ?_
  refine kk _ H1 _ hf ⟨hw.1.set g1 ⟨cA, ⟨hT, kA, comp, r1, r2, r3, r4⟩, ?_⟩ z oq, hw.2.put z oq (hw.1.2 a _ g1).1⟩
  rw [e]
  show some (Cell.setSlot (vp_cell cA (y.1, .inr (.inr (.inr (.inr y.2))))) _ _) = some (vp_cell cA (y.1, .inr (.inr (.inr (.inr _)))))
  rw [vp_cell_q, vp_cell_q, arrV_store]
  congr 2
  funext q
  by_cases hq : q = i.toNatClampNeg
  · subst hq
    simp [updV, va_up, va_rf]
  · simp [updV, va_up, hq]
theorem zw_alen (X : zCx p s m args meth c D A E cc nL own ret) (hw : zWh D A s H h locs) {a : Nat} {K : Int32 → Option β} (hf : (zl_A h a).bind K = some res) (hdg : decode cc pc = .ok (.arraylength, 1))
    (kk : ∀ x, K x = some res → W p l e R s m args below meth c H locs cells slots Q (F0 m (pc + 1) ls (.int x :: rest))) : W p l e R s m args below meth c H locs cells slots Q (F0 m pc ls (.ref a :: rest)) := by
  obtain ⟨⟨hx, hb, -⟩, -⟩ := X
  obtain ⟨v, h1, hf⟩ := zbd hf
  obtain ⟨⟨ty, n, y⟩, g1, rfl⟩ := zl_A_eq h1
  obtain ⟨cA, hT, hcell⟩ := (hw.1.2 a _ g1).2
  rcases y with f | f | f | f | f
  · exact W.alen (n := Int32.ofNat n) hx hb hcell (hT.1 n (fun j => .int (f j))) (by rw [vp_cell_i, arrV_size] <;> rfl) rfl rfl hdg (kk _ hf)
  · exact W.alen (n := Int32.ofNat n) hx hb hcell (hT.1 n (fun j => .long (f j))) (by rw [vp_cell_l, arrV_size] <;> rfl) rfl rfl hdg (kk _ hf)
  · exact W.alen (n := Int32.ofNat n) hx hb hcell (hT.1 n (fun j => .float (f j))) (by rw [vp_cell_f, arrV_size] <;> rfl) rfl rfl hdg (kk _ hf)
  · exact W.alen (n := Int32.ofNat n) hx hb hcell (hT.1 n (fun j => .double (f j))) (by rw [vp_cell_d, arrV_size] <;> rfl) rfl rfl hdg (kk _ hf)
  · exact W.alen (n := Int32.ofNat n) hx hb hcell (hT.1 n (fun j => va_rf (f j))) (by rw [vp_cell_q, arrV_size] <;> rfl) rfl rfl hdg (kk _ hf)
/-! new -/
theorem zw_newq (X : zCx p s m args meth c D A E cc nL own ret) (hw : zWh D A s H h locs) {C : String} {index : Nat} (hclink : Cond.classLink own index C ∈ lw_all) (hover : va_AO C s) {n : Int32} {N : Nat} {K : Nat × zT → Option β} (hf : (zn_Q C h n).bind K = some res) (hN : n.toNatClampNeg = N) (hbytes : N * 4 ≤ 536870912) (hcells : cells + 1 ≤ R.cells) (hslots : slots + N ≤ R.slots) (hdg : decode cc pc = .ok (.anewarray index, 3))
    (kk : ∀ (r : Nat × zT) (H1 : Heap), K r = some res → zWh D A s H1 r.2 locs → W p l e R s m args below meth c H1 locs (cells + 1) (slots + N) Q (F0 m (pc + 3) ls (.ref r.1 :: rest))) : W p l e R s m args below meth c H locs cells slots Q (F0 m pc ls (.int n :: rest)) := by
  obtain ⟨⟨hx, hb, hml, hown, hts⟩, -, -, hK, hA, -⟩ := X
  obtain ⟨r, h1, hf⟩ := zbd hf
  obtain ⟨hneg, h2⟩ := zif h1
  cases h2
  subst hN
  refine W.anew hx hb hown (hts _ hclink) (va_AO.use hover) rfl hdg rfl hneg hbytes hcells hslots fun cA kA comp f1 f2 f3 f4 => ?_
  generalize hH1 : H.push ({ cls := cA, slots := Array.replicate n.toNatClampNeg .null, vm := .none } : Cell) = H1
  have z1 : H1.size = H.size + 1 := by rw [← hH1, Array.size_push]
  have e1 : H1[H.size]? = some (arrV cA n.toNatClampNeg (fun _ => .null)) := by rw [← hH1, Array.getElem?_push_size, ← arrV_new]
  have o1 : ∀ q : Nat, q < H.size → H1[q]? = H[q]? := fun q hq => by rw [← hH1, Array.getElem?_push, if_neg (Nat.ne_of_lt hq)]
  have hAr : ArrOfT s cA (.object C) := fun N z => ⟨(fun k h => by cases h), kA, f2, comp, f3⟩
  have k1 := kk _ H1 hf ⟨hw.1.push (hA _ hw.2.1) ⟨cA, ⟨hAr, kA, comp, f2, f3, f4, f1⟩, by rw [e1]; rfl⟩ z1 o1, by rw [z1]; exact Nat.le_trans hw.2.1 (Nat.le_succ _), fun q h1 h2 => (o1 q (Nat.lt_of_lt_of_le h1 hw.2.1)).trans (hw.2.2.1 q h1 h2), hw.2.2.2⟩
  rw [hw.1.1]
  exact k1
theorem zw_newf (X : zCx p s m args meth c D A E cc nL own ret) (hw : zWh D A s H h locs) (ha : Cond.arrayClass .float ∈ lw_all) {n : Int32} {N : Nat} {K : Nat × zT → Option β} (hf : (zn_F h n).bind K = some res) (hN : n.toNatClampNeg = N) (hbytes : N * componentBytes .float ≤ 536870912) (hcells : cells + 1 ≤ R.cells) (hslots : slots + N ≤ R.slots) (hdg : decode cc pc = .ok (.newarray .float, 2))
    (kk : ∀ (r : Nat × zT) (H1 : Heap), K r = some res → zWh D A s H1 r.2 locs → W p l e R s m args below meth c H1 locs (cells + 1) (slots + N) Q (F0 m (pc + 2) ls (.ref r.1 :: rest))) : W p l e R s m args below meth c H locs cells slots Q (F0 m pc ls (.int n :: rest)) := by
  obtain ⟨⟨hx, hb, hml, hown, hts⟩, -, -, hK, hA, -⟩ := X
  obtain ⟨r, h1, hf⟩ := zbd hf
  obtain ⟨hneg, h2⟩ := zif h1
  cases h2
  refine va_newaK (atype := .float) hx hb (hts _ ha) rfl hdg rfl hneg hN hbytes hcells hslots rfl fun H1 cA e1 z1 o1 hAr hNm => ?_
  have k1 := kk _ H1 hf ⟨hw.1.push (hA _ hw.2.1) ⟨cA, ⟨hAr, hNm⟩, by rw [e1, hN]; rfl⟩ z1 o1, by rw [z1]; exact Nat.le_trans hw.2.1 (Nat.le_succ _), fun q h1 h2 => (o1 q (Nat.lt_of_lt_of_le h1 hw.2.1)).trans (hw.2.2.1 q h1 h2), hw.2.2.2⟩
  rw [hw.1.1]
  exact k1
theorem zw_new (X : zCx p s m args meth c D A E cc nL own ret) (hw : zWh D A s H h locs) {ci index N : Nat} {C : String} {T : u_T} {ty : Nat → FieldType} {fs : List Value} (hcf : zCF ci C T N ty) (hclink : Cond.classLink own index C ∈ lw_all) (hinst : Cond.instantiable C N ∈ lw_all) (hini : Cond.initialized C ∈ lw_all) (hfs : fs.length = N ∧ ∀ j, j < N → defaultValue (ty j) = vp_V fs j) {K : Nat × zT → Option β} (hf : (zn_O ci fs h).bind K = some res) (hcells : cells + 1 ≤ R.cells) (hslots : slots + N ≤ R.slots) (hdg : decode cc pc = .ok (.new index, 3))
    (kk : ∀ (r : Nat × zT) (H1 : Heap), K r = some res → zWh D A s H1 r.2 locs → W p l e R s m args below meth c H1 locs (cells + 1) (slots + N) Q (F0 m (pc + 3) ls (.ref r.1 :: rest))) : W p l e R s m args below meth c H locs cells slots Q (F0 m pc ls rest) := by
  obtain ⟨⟨hx, hb, hml, hown, hts⟩, -, -, hK, hA, -⟩ := X
  obtain ⟨r, h1, hf⟩ := zbd hf
  cases h1
  obtain ⟨hc, hin, hty, hnm⟩ := hcf
  have hKn := hK.1 ci _ hc
  refine W.newcK hx hb hown (hts _ hclink) (hts _ hinst) (hts _ hini) rfl hdg hcells hslots hKn.2.1 rfl fun H1 kC hkC e1 z1 o1 => ?_
  have k1 := kk _ H1 hf ⟨hw.1.push (hA _ hw.2.1) ⟨(C, T, N), hc, hfs.1, (u_born ty hts hin hKn hkC e1 hty).to hfs.2⟩ z1 o1, by rw [z1]; exact Nat.le_trans hw.2.1 (Nat.le_succ _), fun q h1 h2 => (o1 q (Nat.lt_of_lt_of_le h1 hw.2.1)).trans (hw.2.2.1 q h1 h2), hw.2.2.2⟩
  rw [hw.1.1]
  exact k1
end ZW2
