/-! STATICS of the JDK that stay as they are, literals, and the words that a thrown exception of the machine's own needs: parts of the environment -/
set_option maxRecDepth 100000
/-- a static reference of the class C, laid as laysStatic says, in a cell outside A -/
def zLs (C n d : String) (A : Nat → Prop) (U : State) (H : Heap) : Prop := ∃ (cf : ClassId) (kf : Class) (fi : Nat) (f : Field) (a : Nat) (cell : Cell) (v : Value), U.vm.findClass C = some cf ∧ U.fieldFound? C n d = some (cf, kf, fi, f) ∧ f.isStatic = true ∧ kf.statics = some a ∧ kf.staticTypes[f.slot]? = some f.type ∧ H[a]? = some cell ∧ cell.vm.isStatics = true ∧ cell.cls = cf ∧ f.slot < cell.slots.size ∧ cell.slots[f.slot]? = some v ∧ (v = .null ∨ ∃ t, v = .ref t) ∧ ¬ A a
theorem zLs.moved {C n d : String} {A : Nat → Prop} {u U : State} {H : Heap} (hvm : u.vm.Alike U.vm) (h : zLs C n d A u H) : zLs C n d A U H := by
  obtain ⟨cf, kf, fi, f, a, cell, v, h0, h1, h2, h3, h4, h5⟩ := h
  obtain ⟨k', hi', he⟩ := State.fieldFound?_setVm hvm h1
  exact ⟨cf, k', fi, f, a, cell, v, by rw [hvm.findClass]; exact h0, hi', h2, by rw [he]; exact h3, by rw [he]; exact h4, h5⟩
theorem zLs.kept {C n d : String} {A : Nat → Prop} {U : State} {H H1 : Heap} (h : zLs C n d A U H) (hq : ∀ a : Nat, a < H.size → ¬ A a → H1[a]? = H[a]?) : zLs C n d A U H1 := by
  obtain ⟨cf, kf, fi, f, a, cell, v, h0, h1, h2, h3, h4, h5, h6, h7, h8, h9, h10, h11⟩ := h
  exact ⟨cf, kf, fi, f, a, cell, v, h0, h1, h2, h3, h4, by rw [hq a (Array.getElem?_eq_some_iff.mp h5).1 h11]; exact h5, h6, h7, h8, h9, h10, h11⟩
theorem zLs.narrow {C n d : String} {A B : Nat → Prop} {U : State} {H : Heap} (h : zLs C n d A U H) (hAB : ∀ q, B q → A q) : zLs C n d B U H := by
  obtain ⟨cf, kf, fi, f, a, cell, v, h0, h1, h2, h3, h4, h5, h6, h7, h8, h9, h10, h11⟩ := h
  exact ⟨cf, kf, fi, f, a, cell, v, h0, h1, h2, h3, h4, h5, h6, h7, h8, h9, h10, fun q => h11 (hAB a q)⟩
theorem zLs.of {args : Array Value} {s : State} {C n d : String} {A : Nat → Prop} (hl : (Cond.laysStatic C n d).before args s = true) (h : (Cond.isRef (.static C n d)).before args s = true) (hA : ∀ a : Nat, a < s.heap.size → ¬ A a) : zLs C n d A s s.heap := by
  obtain ⟨c, k, i, f, a, cell, hc, hi, hst, ha, hcell, hs, hcls, hlt, hty⟩ := Cond.laysStatic_spec hl
  cases hv : (Term.static C n d).eval args s none [] s with
  | none => simp [Cond.before, Cond.holds, Cond.value, hv] at h
  | some w =>
    obtain ⟨hst', a', cell', ha', hcell', -, hslot⟩ := Term.static_spec hi hv
    cases ha.symm.trans ha'
    cases hcell.symm.trans hcell'
    simp only [Cond.before, Cond.holds, Cond.value, hv] at h
    have hw : w = .null ∨ ∃ t, w = .ref t := by
      cases w with
      | null => exact Or.inl rfl
      | ref t => exact Or.inr ⟨t, rfl⟩
      | _ => simp at h
    exact ⟨c, k, i, f, a, cell, w, hc, hi, hst, ha, hty, hcell, hs, hcls, hlt, hslot, hw, hA a (Array.getElem?_eq_some_iff.mp hcell).1⟩
theorem zLs.lays {args : Array Value} {s : State} {C n d : String} {A : Nat → Prop} (h : zLs C n d A s s.heap) : (Cond.laysStatic C n d).before args s = true := by
  obtain ⟨cf, kf, fi, f, a, cell, v, h0, h1, h2, h3, h4, h5, h6, h7, h8, h9, h10, h11⟩ := h
  simp [Cond.before, Cond.holds, Cond.value, h0, h1, h2, h3, h4, h5, h6, h7, h8]
theorem zLs.isRef {args : Array Value} {s : State} {C n d : String} {A : Nat → Prop} (h : zLs C n d A s s.heap) : (Cond.isRef (.static C n d)).before args s = true := by
  obtain ⟨cf, kf, fi, f, a, cell, v, h0, h1, h2, h3, h4, h5, h6, h7, h8, h9, h10, h11⟩ := h
  have he : (Term.static C n d).eval args s none [] s = cell.slots[f.slot]? := by
    simp [Term.eval, State.fieldNamed?, h1, h2, h3, h5, h6]
  rw [h9] at he
  rcases h10 with rfl | ⟨t, rfl⟩ <;> simp [Cond.before, Cond.holds, Cond.value, he]
/-! the literals gain, fee, fine -/
def zSL : List Nat := [4, 3, 4]
def zSB : List (List Int32) := [[103, 97, 105, 110], [102, 101, 101], [102, 105, 110, 101]]
def zSk : List (Nat × String) := [(220, "gain"), (226, "fee"), (228, "fine")]
/-- the literals lie at adK, their bytes at adV -/
def zStr (adK adV : Nat → Nat) (A : Nat → Prop) (U : State) : Prop := vk_S 3 zSL zSB adK adV A U U.heap ∧ vk_R "StoneSheets" 220 "gain" (adK 0) U ∧ vk_R "StoneSheets" 226 "fee" (adK 1) U ∧ vk_R "StoneSheets" 228 "fine" (adK 2) U
/-- the words of the machine's own two exceptions (ClassCastException, NegativeArraySizeException) -/
def zUp : List String := ["java/lang/RuntimeException", "java/lang/Exception"]
/-- .. and of the making of a Fault -/
def zXF : List Cond := Bundle.throwableAtoms ++ Bundle.chain0Atoms "StoneSheets$Fault" zUp ++ [.instantiable "StoneSheets$Fault" 7, .castable "StoneSheets$Fault" "StoneSheets$Fault", .selects "StoneSheets$Fault" Bundle.tFill0 Bundle.tFill0, .selects "StoneSheets$Fault" Bundle.tFill Bundle.tFill,
   .lays "StoneSheets$Fault" Bundle.tN "cause" "Ljava/lang/Throwable;", .lays "StoneSheets$Fault" Bundle.tN "stackTrace" Bundle.steD, .lays "StoneSheets$Fault" Bundle.tN "suppressedExceptions" Bundle.listD, .lays "StoneSheets$Fault" Bundle.tN "detailMessage" "Ljava/lang/String;",
   .fieldLink Bundle.tN 198 Bundle.tN "backtrace" "Ljava/lang/Object;", .lays Bundle.tN Bundle.tN "backtrace" "Ljava/lang/Object;", .lays "StoneSheets$Fault" Bundle.tN "backtrace" "Ljava/lang/Object;"]
def zXA : List Cond := Bundle.messageArmAtoms "java/lang/ClassCastException" zUp ++ Bundle.messageArmAtoms "java/lang/NegativeArraySizeException" zUp ++ zXF
/-- calls of Trusted.worth on our rubbings -/
def zWx : MethodName := ⟨"StoneSheets$Trusted", "worth", "()I"⟩
def zFW : List String := ["StoneSheets$Rubbing", "StoneSheets$BoldRubbing", "StoneSheets$FaintRubbing", "StoneSheets$TwiceRubbing", "StoneSheets$CrackedRubbing", "StoneSheets$MadeRubbing"]
def zkind (w : Cond) : Bool := match w with
  | .fieldLinkNest _ _ _ _ _ _ => true
  | .methodLinkNest _ _ _ _ => true
  | .castable _ _ => true
  | .declares _ => true
  | _ => false
def zisA (w : Cond) : Bool := match w with
  | .arrayClass _ => true
  | _ => false
def zxk (w : Cond) : Bool := (w.onTables && w.keeps) || zisA w || zkind w
theorem zXA_all : ∀ w ∈ zXA, zxk w = true ∨ w = .laysStatic "java/lang/Throwable" "UNASSIGNED_STACK" "[Ljava/lang/StackTraceElement;" ∨ w = .laysStatic "java/lang/Throwable" "SUPPRESSED_SENTINEL" "Ljava/util/List;" ∨ w = .isRef (.static "java/lang/Throwable" "UNASSIGNED_STACK" "[Ljava/lang/StackTraceElement;") ∨ w = .isRef (.static "java/lang/Throwable" "SUPPRESSED_SENTINEL" "Ljava/util/List;") := by decide +kernel
theorem zXA_tbl : ∀ w ∈ zXA, zxk w = true → w ∈ lw_tbl := by decide +kernel
/-- what the component's methods need to know of the JDK beside the tables' riding words -/
def zEw (A : Nat → Prop) (U : State) : Prop := (∃ adK adV : Nat → Nat, zStr adK adV A U) ∧ va_Z "java/lang/String" "COMPACT_STRINGS" "Z" (.int 1) A U U.heap ∧ va_Zq "jdk/internal/util/Preconditions" "SIOOBE_FORMATTER" "Ljava/util/function/BiFunction;" A U U.heap ∧ (∀ w ∈ zXA, zxk w = true → va_Nw w U) ∧ zLs "java/lang/Throwable" "UNASSIGNED_STACK" "[Ljava/lang/StackTraceElement;" A U U.heap ∧ zLs "java/lang/Throwable" "SUPPRESSED_SENTINEL" "Ljava/util/List;" A U U.heap ∧ modulesRight_1 U = true ∧ ∀ C ∈ zFW, va_Fw C zWx ⟨C, "worth", "()I"⟩ U
theorem zEw.exc {A : Nat → Prop} {U : State} {args : Array Value} (h : zEw A U) : ∀ w ∈ zXA, w.before args U = true := by
  intro w hw
  obtain ⟨-, -, -, h1, h2, h3, -⟩ := h
  rcases zXA_all w hw with hk | rfl | rfl | rfl | rfl
  · have hN := h1 w hw hk
    unfold zxk at hk
    rw [Bool.or_eq_true, Bool.or_eq_true] at hk
    rcases hk with (hk | hk) | hk
    · exact word_at (State.WarmedH.refl U) (Or.inl hk) hN
    · cases w <;> first | exact word_at (State.WarmedH.refl U) (Or.inr ⟨_, rfl⟩) hN | cases hk
    · cases w <;> first | exact va_Nw.use rfl hN | cases hk
  · exact h2.lays
  · exact h3.lays
  · exact h2.isRef
  · exact h3.isRef
