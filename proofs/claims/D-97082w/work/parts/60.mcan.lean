/-! THE MODEL's CANONICAL HEAP (gen/mcan.py): the object at b, its arrays behind it; zM: its numbers (by field) and its arrays (by field) -/
set_option maxRecDepth 100000
abbrev zM : Type := (Nat → Int32) × (Nat → Nat → Int32)
def zMf (b : Nat) (M : zM) : List Value := [.ref (b + 1), .ref (b + 2), .ref (b + 3), .int (M.1 3), .ref (b + 4), .ref (b + 5), .ref (b + 6), .ref (b + 7), .ref (b + 8), .ref (b + 9), .ref (b + 10), .ref (b + 11), .ref (b + 12), .ref (b + 13), .ref (b + 14), .int (M.1 15), .int (M.1 16), .int (M.1 17), .int (M.1 18), .int (M.1 19), .int (M.1 20), .int (M.1 21), .int (M.1 22), .int (M.1 23), .int (M.1 24), .int (M.1 25), .ref (b + 15), .ref (b + 16), .ref (b + 17), .ref (b + 18), .int (M.1 30), .ref (b + 19)]
def zMc (b : Nat) (M : zM) : Nat → Option zE := fun c => match c with
  | 0 => some (.inr (5, zMf b M))
  | 1 => some (.inl (.int, 3075, .inl (M.2 0)))
  | 2 => some (.inl (.int, 3075, .inl (M.2 1)))
  | 3 => some (.inl (.int, 3075, .inl (M.2 2)))
  | 4 => some (.inl (.int, 4, .inl (M.2 4)))
  | 5 => some (.inl (.int, 4, .inl (M.2 5)))
  | 6 => some (.inl (.int, 96, .inl (M.2 6)))
  | 7 => some (.inl (.int, 5, .inl (M.2 7)))
  | 8 => some (.inl (.int, 5, .inl (M.2 8)))
  | 9 => some (.inl (.int, 5, .inl (M.2 9)))
  | 10 => some (.inl (.int, 5, .inl (M.2 10)))
  | 11 => some (.inl (.int, 120, .inl (M.2 11)))
  | 12 => some (.inl (.int, 9, .inl (M.2 12)))
  | 13 => some (.inl (.int, 75, .inl (M.2 13)))
  | 14 => some (.inl (.int, 96, .inl (M.2 14)))
  | 15 => some (.inl (.int, 128, .inl (M.2 26)))
  | 16 => some (.inl (.int, 100, .inl (M.2 27)))
  | 17 => some (.inl (.int, 24, .inl (M.2 28)))
  | 18 => some (.inl (.int, 60, .inl (M.2 29)))
  | 19 => some (.inl (.int, 60, .inl (M.2 31)))
  | _ => none
def zoff (b : Nat) (g : Nat → Option zE) (n : Nat) : zT := (fun a => if a < b then none else g (a - b), n)
def mkM (b : Nat) (M : zM) (n : Nat) : zT := zoff b (zMc b M) n
def zuI (M : zM) (k : Nat) (v : Int32) : zM := (fun j => if j = k then v else M.1 j, M.2)
def zuA (M : zM) (k : Nat) (f : Nat → Int32) : zM := (M.1, fun j => if j = k then f else M.2 j)
theorem zoff_at (b c n : Nat) (g : Nat → Option zE) : (zoff b g n).1 (b + c) = g c := by
  show (if b + c < b then none else g (b + c - b)) = g c
  rw [if_neg (by omega), Nat.add_sub_cancel_left]
theorem zoff_at0 (b n : Nat) (g : Nat → Option zE) : (zoff b g n).1 b = g 0 := zoff_at b 0 n g
theorem zoff_set (b c n : Nat) (g : Nat → Option zE) (e : zE) : zh_set (zoff b g n) (b + c) e = zoff b (va_up g c (some e)) n := by
  unfold zh_set zoff
  congr 1
  funext a
  by_cases h : a < b
  · have h1 : a ≠ b + c := by omega
    simp [va_up, h, h1]
  · by_cases h2 : a = b + c
    · subst h2
      simp [va_up]
    · have h3 : a - b ≠ c := by omega
      simp [va_up, h, h2, h3]
theorem zoff_set0 (b n : Nat) (g : Nat → Option zE) (e : zE) : zh_set (zoff b g n) b e = zoff b (va_up g 0 (some e)) n := zoff_set b 0 n g e
theorem zMc_out (b : Nat) (M : zM) (c : Nat) (h : 20 ≤ c) : zMc b M c = none := by
  obtain ⟨d, rfl⟩ := Nat.exists_eq_add_of_le h
  rw [Nat.add_comm]
  rfl
theorem zMc_ext {b : Nat} {M2 : zM} {g : Nat → Option zE} (h0 : ∀ c, c < 20 → g c = zMc b M2 c) (h1 : ∀ c, 20 ≤ c → g c = none) : g = zMc b M2 := by
  funext c
  by_cases h : c < 20
  · exact h0 c h
  · rw [h1 c (by omega), zMc_out b M2 c (by omega)]
section ZMC
variable (b n : Nat) (M : zM)
theorem zm_K : zk_C 5 (mkM b M n) b = some () := by
  unfold zk_C mkM zh_O
  rw [zoff_at0]
  rfl
theorem zm_V (k : Nat) : zg_V [5] (mkM b M n) b k = (zMf b M)[k]? := by
  unfold zg_V zh_O mkM
  rw [zoff_at0]
  rfl
theorem zm_R0 : zg_R [5] (mkM b M n) b 0 = some (b + 1) := by unfold zg_R; rw [zm_V]; rfl
theorem zm_R1 : zg_R [5] (mkM b M n) b 1 = some (b + 2) := by unfold zg_R; rw [zm_V]; rfl
theorem zm_R2 : zg_R [5] (mkM b M n) b 2 = some (b + 3) := by unfold zg_R; rw [zm_V]; rfl
theorem zm_R4 : zg_R [5] (mkM b M n) b 4 = some (b + 4) := by unfold zg_R; rw [zm_V]; rfl
theorem zm_R5 : zg_R [5] (mkM b M n) b 5 = some (b + 5) := by unfold zg_R; rw [zm_V]; rfl
theorem zm_R6 : zg_R [5] (mkM b M n) b 6 = some (b + 6) := by unfold zg_R; rw [zm_V]; rfl
theorem zm_R7 : zg_R [5] (mkM b M n) b 7 = some (b + 7) := by unfold zg_R; rw [zm_V]; rfl
theorem zm_R8 : zg_R [5] (mkM b M n) b 8 = some (b + 8) := by unfold zg_R; rw [zm_V]; rfl
theorem zm_R9 : zg_R [5] (mkM b M n) b 9 = some (b + 9) := by unfold zg_R; rw [zm_V]; rfl
theorem zm_R10 : zg_R [5] (mkM b M n) b 10 = some (b + 10) := by unfold zg_R; rw [zm_V]; rfl
theorem zm_R11 : zg_R [5] (mkM b M n) b 11 = some (b + 11) := by unfold zg_R; rw [zm_V]; rfl
theorem zm_R12 : zg_R [5] (mkM b M n) b 12 = some (b + 12) := by unfold zg_R; rw [zm_V]; rfl
theorem zm_R13 : zg_R [5] (mkM b M n) b 13 = some (b + 13) := by unfold zg_R; rw [zm_V]; rfl
theorem zm_R14 : zg_R [5] (mkM b M n) b 14 = some (b + 14) := by unfold zg_R; rw [zm_V]; rfl
theorem zm_R26 : zg_R [5] (mkM b M n) b 26 = some (b + 15) := by unfold zg_R; rw [zm_V]; rfl
theorem zm_R27 : zg_R [5] (mkM b M n) b 27 = some (b + 16) := by unfold zg_R; rw [zm_V]; rfl
theorem zm_R28 : zg_R [5] (mkM b M n) b 28 = some (b + 17) := by unfold zg_R; rw [zm_V]; rfl
theorem zm_R29 : zg_R [5] (mkM b M n) b 29 = some (b + 18) := by unfold zg_R; rw [zm_V]; rfl
theorem zm_R31 : zg_R [5] (mkM b M n) b 31 = some (b + 19) := by unfold zg_R; rw [zm_V]; rfl
theorem zm_I3 : zg_I [5] (mkM b M n) b 3 = some (M.1 3) := by unfold zg_I; rw [zm_V]; rfl
theorem zm_I15 : zg_I [5] (mkM b M n) b 15 = some (M.1 15) := by unfold zg_I; rw [zm_V]; rfl
theorem zm_I16 : zg_I [5] (mkM b M n) b 16 = some (M.1 16) := by unfold zg_I; rw [zm_V]; rfl
theorem zm_I17 : zg_I [5] (mkM b M n) b 17 = some (M.1 17) := by unfold zg_I; rw [zm_V]; rfl
theorem zm_I18 : zg_I [5] (mkM b M n) b 18 = some (M.1 18) := by unfold zg_I; rw [zm_V]; rfl
theorem zm_I19 : zg_I [5] (mkM b M n) b 19 = some (M.1 19) := by unfold zg_I; rw [zm_V]; rfl
theorem zm_I20 : zg_I [5] (mkM b M n) b 20 = some (M.1 20) := by unfold zg_I; rw [zm_V]; rfl
theorem zm_I21 : zg_I [5] (mkM b M n) b 21 = some (M.1 21) := by unfold zg_I; rw [zm_V]; rfl
theorem zm_I22 : zg_I [5] (mkM b M n) b 22 = some (M.1 22) := by unfold zg_I; rw [zm_V]; rfl
theorem zm_I23 : zg_I [5] (mkM b M n) b 23 = some (M.1 23) := by unfold zg_I; rw [zm_V]; rfl
theorem zm_I24 : zg_I [5] (mkM b M n) b 24 = some (M.1 24) := by unfold zg_I; rw [zm_V]; rfl
theorem zm_I25 : zg_I [5] (mkM b M n) b 25 = some (M.1 25) := by unfold zg_I; rw [zm_V]; rfl
theorem zm_I30 : zg_I [5] (mkM b M n) b 30 = some (M.1 30) := by unfold zg_I; rw [zm_V]; rfl
theorem zm_P (k : Nat) (v : Int32) (hk : (zMf b M).set k (.int v) = zMf b (zuI M k v)) : zp_V [5] (mkM b M n) b k (.int v) = some (mkM b (zuI M k v) n) := by
  have h1 : zh_O (mkM b M n) b = some (5, zMf b M) := by
    unfold zh_O mkM
    rw [zoff_at0]
    rfl
  unfold zp_V
  rw [h1]
  show (if 5 ∈ [5] then some (zh_set (mkM b M n) b (.inr (5, (zMf b M).set k (.int v)))) else none) = _
  rw [if_pos (by decide), hk]
  unfold mkM
  rw [zoff_set0]
  congr 2
  refine zMc_ext (fun c hc => ?_) (fun c hc => ?_)
  · by_cases h0 : c = 0
    · subst h0
      rw [va_up_self]
      rfl
    · have h2 : va_up (zMc b M) 0 (some (.inr (5, zMf b (zuI M k v)))) c = zMc b M c := if_neg h0
      rw [h2]
      match c, h0, hc with

      | 1, _, _ => rfl
      | 2, _, _ => rfl
      | 3, _, _ => rfl
      | 4, _, _ => rfl
      | 5, _, _ => rfl
      | 6, _, _ => rfl
      | 7, _, _ => rfl
      | 8, _, _ => rfl
      | 9, _, _ => rfl
      | 10, _, _ => rfl
      | 11, _, _ => rfl
      | 12, _, _ => rfl
      | 13, _, _ => rfl
      | 14, _, _ => rfl
      | 15, _, _ => rfl
      | 16, _, _ => rfl
      | 17, _, _ => rfl
      | 18, _, _ => rfl
      | 19, _, _ => rfl
      | c + 20, _, h9 => exact absurd h9 (by omega)
  · have h2 : va_up (zMc b M) 0 (some (.inr (5, zMf b (zuI M k v)))) c = zMc b M c := if_neg (by omega)
    rw [h2, zMc_out b M c hc]
theorem zm_P3 (v : Int32) : zp_V [5] (mkM b M n) b 3 (.int v) = some (mkM b (zuI M 3 v) n) := zm_P b n M 3 v rfl
theorem zm_P15 (v : Int32) : zp_V [5] (mkM b M n) b 15 (.int v) = some (mkM b (zuI M 15 v) n) := zm_P b n M 15 v rfl
theorem zm_P16 (v : Int32) : zp_V [5] (mkM b M n) b 16 (.int v) = some (mkM b (zuI M 16 v) n) := zm_P b n M 16 v rfl
theorem zm_P17 (v : Int32) : zp_V [5] (mkM b M n) b 17 (.int v) = some (mkM b (zuI M 17 v) n) := zm_P b n M 17 v rfl
theorem zm_P18 (v : Int32) : zp_V [5] (mkM b M n) b 18 (.int v) = some (mkM b (zuI M 18 v) n) := zm_P b n M 18 v rfl
theorem zm_P19 (v : Int32) : zp_V [5] (mkM b M n) b 19 (.int v) = some (mkM b (zuI M 19 v) n) := zm_P b n M 19 v rfl
theorem zm_P20 (v : Int32) : zp_V [5] (mkM b M n) b 20 (.int v) = some (mkM b (zuI M 20 v) n) := zm_P b n M 20 v rfl
theorem zm_P21 (v : Int32) : zp_V [5] (mkM b M n) b 21 (.int v) = some (mkM b (zuI M 21 v) n) := zm_P b n M 21 v rfl
theorem zm_P22 (v : Int32) : zp_V [5] (mkM b M n) b 22 (.int v) = some (mkM b (zuI M 22 v) n) := zm_P b n M 22 v rfl
theorem zm_P23 (v : Int32) : zp_V [5] (mkM b M n) b 23 (.int v) = some (mkM b (zuI M 23 v) n) := zm_P b n M 23 v rfl
theorem zm_P24 (v : Int32) : zp_V [5] (mkM b M n) b 24 (.int v) = some (mkM b (zuI M 24 v) n) := zm_P b n M 24 v rfl
theorem zm_P25 (v : Int32) : zp_V [5] (mkM b M n) b 25 (.int v) = some (mkM b (zuI M 25 v) n) := zm_P b n M 25 v rfl
theorem zm_P30 (v : Int32) : zp_V [5] (mkM b M n) b 30 (.int v) = some (mkM b (zuI M 30 v) n) := zm_P b n M 30 v rfl
theorem zm_Aeq {c k N : Nat} (hc : zMc b M c = some (.inl (.int, N, .inl (M.2 k)))) (i : Int32) : za_I .int (mkM b M n) (b + c) i = if i < 0 ∨ N ≤ i.toNatClampNeg then none else some (M.2 k i.toNatClampNeg) := by
  unfold za_I zh_A mkM
  rw [zoff_at, hc]
  rfl
theorem zm_Seq {c k N : Nat} (hc : zMc b M c = some (.inl (.int, N, .inl (M.2 k)))) (hu : ∀ f, va_up (zMc b M) c (some (.inl (.int, N, .inl f))) = zMc b (zuA M k f)) (i v : Int32) : zs_I .int (mkM b M n) (b + c) i v = if i < 0 ∨ N ≤ i.toNatClampNeg then none else some (mkM b (zuA M k (upd (M.2 k) i.toNatClampNeg v)) n) := by
  have h1 : zh_A .int (mkM b M n) (b + c) = some (N, M.2 k) := by
    unfold zh_A mkM
    rw [zoff_at, hc]
    rfl
  unfold zs_I
  rw [h1]
  show (if i < 0 ∨ N ≤ i.toNatClampNeg then none else some (zh_set (mkM b M n) (b + c) (.inl (.int, N, .inl (upd (M.2 k) i.toNatClampNeg v))))) = _
  unfold mkM
  rw [zoff_set, hu]
theorem zm_A0 (i : Int32) : za_I .int (mkM b M n) (b + 1) i = if i < 0 ∨ 3075 ≤ i.toNatClampNeg then none else some (M.2 0 i.toNatClampNeg) := zm_Aeq b n M (c := 1) (k := 0) rfl i
theorem zm_A1 (i : Int32) : za_I .int (mkM b M n) (b + 2) i = if i < 0 ∨ 3075 ≤ i.toNatClampNeg then none else some (M.2 1 i.toNatClampNeg) := zm_Aeq b n M (c := 2) (k := 1) rfl i
theorem zm_A2 (i : Int32) : za_I .int (mkM b M n) (b + 3) i = if i < 0 ∨ 3075 ≤ i.toNatClampNeg then none else some (M.2 2 i.toNatClampNeg) := zm_Aeq b n M (c := 3) (k := 2) rfl i
theorem zm_A4 (i : Int32) : za_I .int (mkM b M n) (b + 4) i = if i < 0 ∨ 4 ≤ i.toNatClampNeg then none else some (M.2 4 i.toNatClampNeg) := zm_Aeq b n M (c := 4) (k := 4) rfl i
theorem zm_A5 (i : Int32) : za_I .int (mkM b M n) (b + 5) i = if i < 0 ∨ 4 ≤ i.toNatClampNeg then none else some (M.2 5 i.toNatClampNeg) := zm_Aeq b n M (c := 5) (k := 5) rfl i
theorem zm_A6 (i : Int32) : za_I .int (mkM b M n) (b + 6) i = if i < 0 ∨ 96 ≤ i.toNatClampNeg then none else some (M.2 6 i.toNatClampNeg) := zm_Aeq b n M (c := 6) (k := 6) rfl i
theorem zm_A7 (i : Int32) : za_I .int (mkM b M n) (b + 7) i = if i < 0 ∨ 5 ≤ i.toNatClampNeg then none else some (M.2 7 i.toNatClampNeg) := zm_Aeq b n M (c := 7) (k := 7) rfl i
theorem zm_A8 (i : Int32) : za_I .int (mkM b M n) (b + 8) i = if i < 0 ∨ 5 ≤ i.toNatClampNeg then none else some (M.2 8 i.toNatClampNeg) := zm_Aeq b n M (c := 8) (k := 8) rfl i
theorem zm_A9 (i : Int32) : za_I .int (mkM b M n) (b + 9) i = if i < 0 ∨ 5 ≤ i.toNatClampNeg then none else some (M.2 9 i.toNatClampNeg) := zm_Aeq b n M (c := 9) (k := 9) rfl i
theorem zm_A10 (i : Int32) : za_I .int (mkM b M n) (b + 10) i = if i < 0 ∨ 5 ≤ i.toNatClampNeg then none else some (M.2 10 i.toNatClampNeg) := zm_Aeq b n M (c := 10) (k := 10) rfl i
theorem zm_A11 (i : Int32) : za_I .int (mkM b M n) (b + 11) i = if i < 0 ∨ 120 ≤ i.toNatClampNeg then none else some (M.2 11 i.toNatClampNeg) := zm_Aeq b n M (c := 11) (k := 11) rfl i
theorem zm_A12 (i : Int32) : za_I .int (mkM b M n) (b + 12) i = if i < 0 ∨ 9 ≤ i.toNatClampNeg then none else some (M.2 12 i.toNatClampNeg) := zm_Aeq b n M (c := 12) (k := 12) rfl i
theorem zm_A13 (i : Int32) : za_I .int (mkM b M n) (b + 13) i = if i < 0 ∨ 75 ≤ i.toNatClampNeg then none else some (M.2 13 i.toNatClampNeg) := zm_Aeq b n M (c := 13) (k := 13) rfl i
theorem zm_A14 (i : Int32) : za_I .int (mkM b M n) (b + 14) i = if i < 0 ∨ 96 ≤ i.toNatClampNeg then none else some (M.2 14 i.toNatClampNeg) := zm_Aeq b n M (c := 14) (k := 14) rfl i
theorem zm_A26 (i : Int32) : za_I .int (mkM b M n) (b + 15) i = if i < 0 ∨ 128 ≤ i.toNatClampNeg then none else some (M.2 26 i.toNatClampNeg) := zm_Aeq b n M (c := 15) (k := 26) rfl i
theorem zm_A27 (i : Int32) : za_I .int (mkM b M n) (b + 16) i = if i < 0 ∨ 100 ≤ i.toNatClampNeg then none else some (M.2 27 i.toNatClampNeg) := zm_Aeq b n M (c := 16) (k := 27) rfl i
theorem zm_A28 (i : Int32) : za_I .int (mkM b M n) (b + 17) i = if i < 0 ∨ 24 ≤ i.toNatClampNeg then none else some (M.2 28 i.toNatClampNeg) := zm_Aeq b n M (c := 17) (k := 28) rfl i
theorem zm_A29 (i : Int32) : za_I .int (mkM b M n) (b + 18) i = if i < 0 ∨ 60 ≤ i.toNatClampNeg then none else some (M.2 29 i.toNatClampNeg) := zm_Aeq b n M (c := 18) (k := 29) rfl i
theorem zm_A31 (i : Int32) : za_I .int (mkM b M n) (b + 19) i = if i < 0 ∨ 60 ≤ i.toNatClampNeg then none else some (M.2 31 i.toNatClampNeg) := zm_Aeq b n M (c := 19) (k := 31) rfl i
theorem zm_u0 (f : Nat → Int32) : va_up (zMc b M) 1 (some (.inl (.int, 3075, .inl f))) = zMc b (zuA M 0 f) := by
  refine zMc_ext (fun c hc => ?_) (fun c hc => ?_)
  · match c, hc with
    | 0, _ => rfl
    | 1, _ => rfl
    | 2, _ => rfl
    | 3, _ => rfl
    | 4, _ => rfl
    | 5, _ => rfl
    | 6, _ => rfl
    | 7, _ => rfl
    | 8, _ => rfl
    | 9, _ => rfl
    | 10, _ => rfl
    | 11, _ => rfl
    | 12, _ => rfl
    | 13, _ => rfl
    | 14, _ => rfl
    | 15, _ => rfl
    | 16, _ => rfl
    | 17, _ => rfl
    | 18, _ => rfl
    | 19, _ => rfl
    | c + 20, h9 => exact absurd h9 (by omega)
  · have h2 : va_up (zMc b M) 1 (some (.inl (.int, 3075, .inl f))) c = zMc b M c := if_neg (by omega)
    rw [h2, zMc_out b M c hc]
theorem zm_u1 (f : Nat → Int32) : va_up (zMc b M) 2 (some (.inl (.int, 3075, .inl f))) = zMc b (zuA M 1 f) := by
  refine zMc_ext (fun c hc => ?_) (fun c hc => ?_)
  · match c, hc with
    | 0, _ => rfl
    | 1, _ => rfl
    | 2, _ => rfl
    | 3, _ => rfl
    | 4, _ => rfl
    | 5, _ => rfl
    | 6, _ => rfl
    | 7, _ => rfl
    | 8, _ => rfl
    | 9, _ => rfl
    | 10, _ => rfl
    | 11, _ => rfl
    | 12, _ => rfl
    | 13, _ => rfl
    | 14, _ => rfl
    | 15, _ => rfl
    | 16, _ => rfl
    | 17, _ => rfl
    | 18, _ => rfl
    | 19, _ => rfl
    | c + 20, h9 => exact absurd h9 (by omega)
  · have h2 : va_up (zMc b M) 2 (some (.inl (.int, 3075, .inl f))) c = zMc b M c := if_neg (by omega)
    rw [h2, zMc_out b M c hc]
theorem zm_u2 (f : Nat → Int32) : va_up (zMc b M) 3 (some (.inl (.int, 3075, .inl f))) = zMc b (zuA M 2 f) := by
  refine zMc_ext (fun c hc => ?_) (fun c hc => ?_)
  · match c, hc with
    | 0, _ => rfl
    | 1, _ => rfl
    | 2, _ => rfl
    | 3, _ => rfl
    | 4, _ => rfl
    | 5, _ => rfl
    | 6, _ => rfl
    | 7, _ => rfl
    | 8, _ => rfl
    | 9, _ => rfl
    | 10, _ => rfl
    | 11, _ => rfl
    | 12, _ => rfl
    | 13, _ => rfl
    | 14, _ => rfl
    | 15, _ => rfl
    | 16, _ => rfl
    | 17, _ => rfl
    | 18, _ => rfl
    | 19, _ => rfl
    | c + 20, h9 => exact absurd h9 (by omega)
  · have h2 : va_up (zMc b M) 3 (some (.inl (.int, 3075, .inl f))) c = zMc b M c := if_neg (by omega)
    rw [h2, zMc_out b M c hc]
theorem zm_u4 (f : Nat → Int32) : va_up (zMc b M) 4 (some (.inl (.int, 4, .inl f))) = zMc b (zuA M 4 f) := by
  refine zMc_ext (fun c hc => ?_) (fun c hc => ?_)
  · match c, hc with
    | 0, _ => rfl
    | 1, _ => rfl
    | 2, _ => rfl
    | 3, _ => rfl
    | 4, _ => rfl
    | 5, _ => rfl
    | 6, _ => rfl
    | 7, _ => rfl
    | 8, _ => rfl
    | 9, _ => rfl
    | 10, _ => rfl
    | 11, _ => rfl
    | 12, _ => rfl
    | 13, _ => rfl
    | 14, _ => rfl
    | 15, _ => rfl
    | 16, _ => rfl
    | 17, _ => rfl
    | 18, _ => rfl
    | 19, _ => rfl
    | c + 20, h9 => exact absurd h9 (by omega)
  · have h2 : va_up (zMc b M) 4 (some (.inl (.int, 4, .inl f))) c = zMc b M c := if_neg (by omega)
    rw [h2, zMc_out b M c hc]
theorem zm_u5 (f : Nat → Int32) : va_up (zMc b M) 5 (some (.inl (.int, 4, .inl f))) = zMc b (zuA M 5 f) := by
  refine zMc_ext (fun c hc => ?_) (fun c hc => ?_)
  · match c, hc with
    | 0, _ => rfl
    | 1, _ => rfl
    | 2, _ => rfl
    | 3, _ => rfl
    | 4, _ => rfl
    | 5, _ => rfl
    | 6, _ => rfl
    | 7, _ => rfl
    | 8, _ => rfl
    | 9, _ => rfl
    | 10, _ => rfl
    | 11, _ => rfl
    | 12, _ => rfl
    | 13, _ => rfl
    | 14, _ => rfl
    | 15, _ => rfl
    | 16, _ => rfl
    | 17, _ => rfl
    | 18, _ => rfl
    | 19, _ => rfl
    | c + 20, h9 => exact absurd h9 (by omega)
  · have h2 : va_up (zMc b M) 5 (some (.inl (.int, 4, .inl f))) c = zMc b M c := if_neg (by omega)
    rw [h2, zMc_out b M c hc]
theorem zm_u6 (f : Nat → Int32) : va_up (zMc b M) 6 (some (.inl (.int, 96, .inl f))) = zMc b (zuA M 6 f) := by
  refine zMc_ext (fun c hc => ?_) (fun c hc => ?_)
  · match c, hc with
    | 0, _ => rfl
    | 1, _ => rfl
    | 2, _ => rfl
    | 3, _ => rfl
    | 4, _ => rfl
    | 5, _ => rfl
    | 6, _ => rfl
    | 7, _ => rfl
    | 8, _ => rfl
    | 9, _ => rfl
    | 10, _ => rfl
    | 11, _ => rfl
    | 12, _ => rfl
    | 13, _ => rfl
    | 14, _ => rfl
    | 15, _ => rfl
    | 16, _ => rfl
    | 17, _ => rfl
    | 18, _ => rfl
    | 19, _ => rfl
    | c + 20, h9 => exact absurd h9 (by omega)
  · have h2 : va_up (zMc b M) 6 (some (.inl (.int, 96, .inl f))) c = zMc b M c := if_neg (by omega)
    rw [h2, zMc_out b M c hc]
theorem zm_u7 (f : Nat → Int32) : va_up (zMc b M) 7 (some (.inl (.int, 5, .inl f))) = zMc b (zuA M 7 f) := by
  refine zMc_ext (fun c hc => ?_) (fun c hc => ?_)
  · match c, hc with
    | 0, _ => rfl
    | 1, _ => rfl
    | 2, _ => rfl
    | 3, _ => rfl
    | 4, _ => rfl
    | 5, _ => rfl
    | 6, _ => rfl
    | 7, _ => rfl
    | 8, _ => rfl
    | 9, _ => rfl
    | 10, _ => rfl
    | 11, _ => rfl
    | 12, _ => rfl
    | 13, _ => rfl
    | 14, _ => rfl
    | 15, _ => rfl
    | 16, _ => rfl
    | 17, _ => rfl
    | 18, _ => rfl
    | 19, _ => rfl
    | c + 20, h9 => exact absurd h9 (by omega)
  · have h2 : va_up (zMc b M) 7 (some (.inl (.int, 5, .inl f))) c = zMc b M c := if_neg (by omega)
    rw [h2, zMc_out b M c hc]
theorem zm_u8 (f : Nat → Int32) : va_up (zMc b M) 8 (some (.inl (.int, 5, .inl f))) = zMc b (zuA M 8 f) := by
  refine zMc_ext (fun c hc => ?_) (fun c hc => ?_)
  · match c, hc with
    | 0, _ => rfl
    | 1, _ => rfl
    | 2, _ => rfl
    | 3, _ => rfl
    | 4, _ => rfl
    | 5, _ => rfl
    | 6, _ => rfl
    | 7, _ => rfl
    | 8, _ => rfl
    | 9, _ => rfl
    | 10, _ => rfl
    | 11, _ => rfl
    | 12, _ => rfl
    | 13, _ => rfl
    | 14, _ => rfl
    | 15, _ => rfl
    | 16, _ => rfl
    | 17, _ => rfl
    | 18, _ => rfl
    | 19, _ => rfl
    | c + 20, h9 => exact absurd h9 (by omega)
  · have h2 : va_up (zMc b M) 8 (some (.inl (.int, 5, .inl f))) c = zMc b M c := if_neg (by omega)
    rw [h2, zMc_out b M c hc]
theorem zm_u9 (f : Nat → Int32) : va_up (zMc b M) 9 (some (.inl (.int, 5, .inl f))) = zMc b (zuA M 9 f) := by
  refine zMc_ext (fun c hc => ?_) (fun c hc => ?_)
  · match c, hc with
    | 0, _ => rfl
    | 1, _ => rfl
    | 2, _ => rfl
    | 3, _ => rfl
    | 4, _ => rfl
    | 5, _ => rfl
    | 6, _ => rfl
    | 7, _ => rfl
    | 8, _ => rfl
    | 9, _ => rfl
    | 10, _ => rfl
    | 11, _ => rfl
    | 12, _ => rfl
    | 13, _ => rfl
    | 14, _ => rfl
    | 15, _ => rfl
    | 16, _ => rfl
    | 17, _ => rfl
    | 18, _ => rfl
    | 19, _ => rfl
    | c + 20, h9 => exact absurd h9 (by omega)
  · have h2 : va_up (zMc b M) 9 (some (.inl (.int, 5, .inl f))) c = zMc b M c := if_neg (by omega)
    rw [h2, zMc_out b M c hc]
theorem zm_u10 (f : Nat → Int32) : va_up (zMc b M) 10 (some (.inl (.int, 5, .inl f))) = zMc b (zuA M 10 f) := by
  refine zMc_ext (fun c hc => ?_) (fun c hc => ?_)
  · match c, hc with
    | 0, _ => rfl
    | 1, _ => rfl
    | 2, _ => rfl
    | 3, _ => rfl
    | 4, _ => rfl
    | 5, _ => rfl
    | 6, _ => rfl
    | 7, _ => rfl
    | 8, _ => rfl
    | 9, _ => rfl
    | 10, _ => rfl
    | 11, _ => rfl
    | 12, _ => rfl
    | 13, _ => rfl
    | 14, _ => rfl
    | 15, _ => rfl
    | 16, _ => rfl
    | 17, _ => rfl
    | 18, _ => rfl
    | 19, _ => rfl
    | c + 20, h9 => exact absurd h9 (by omega)
  · have h2 : va_up (zMc b M) 10 (some (.inl (.int, 5, .inl f))) c = zMc b M c := if_neg (by omega)
    rw [h2, zMc_out b M c hc]
theorem zm_u11 (f : Nat → Int32) : va_up (zMc b M) 11 (some (.inl (.int, 120, .inl f))) = zMc b (zuA M 11 f) := by
  refine zMc_ext (fun c hc => ?_) (fun c hc => ?_)
  · match c, hc with
    | 0, _ => rfl
    | 1, _ => rfl
    | 2, _ => rfl
    | 3, _ => rfl
    | 4, _ => rfl
    | 5, _ => rfl
    | 6, _ => rfl
    | 7, _ => rfl
    | 8, _ => rfl
    | 9, _ => rfl
    | 10, _ => rfl
    | 11, _ => rfl
    | 12, _ => rfl
    | 13, _ => rfl
    | 14, _ => rfl
    | 15, _ => rfl
    | 16, _ => rfl
    | 17, _ => rfl
    | 18, _ => rfl
    | 19, _ => rfl
    | c + 20, h9 => exact absurd h9 (by omega)
  · have h2 : va_up (zMc b M) 11 (some (.inl (.int, 120, .inl f))) c = zMc b M c := if_neg (by omega)
    rw [h2, zMc_out b M c hc]
theorem zm_u12 (f : Nat → Int32) : va_up (zMc b M) 12 (some (.inl (.int, 9, .inl f))) = zMc b (zuA M 12 f) := by
  refine zMc_ext (fun c hc => ?_) (fun c hc => ?_)
  · match c, hc with
    | 0, _ => rfl
    | 1, _ => rfl
    | 2, _ => rfl
    | 3, _ => rfl
    | 4, _ => rfl
    | 5, _ => rfl
    | 6, _ => rfl
    | 7, _ => rfl
    | 8, _ => rfl
    | 9, _ => rfl
    | 10, _ => rfl
    | 11, _ => rfl
    | 12, _ => rfl
    | 13, _ => rfl
    | 14, _ => rfl
    | 15, _ => rfl
    | 16, _ => rfl
    | 17, _ => rfl
    | 18, _ => rfl
    | 19, _ => rfl
    | c + 20, h9 => exact absurd h9 (by omega)
  · have h2 : va_up (zMc b M) 12 (some (.inl (.int, 9, .inl f))) c = zMc b M c := if_neg (by omega)
    rw [h2, zMc_out b M c hc]
theorem zm_u13 (f : Nat → Int32) : va_up (zMc b M) 13 (some (.inl (.int, 75, .inl f))) = zMc b (zuA M 13 f) := by
  refine zMc_ext (fun c hc => ?_) (fun c hc => ?_)
  · match c, hc with
    | 0, _ => rfl
    | 1, _ => rfl
    | 2, _ => rfl
    | 3, _ => rfl
    | 4, _ => rfl
    | 5, _ => rfl
    | 6, _ => rfl
    | 7, _ => rfl
    | 8, _ => rfl
    | 9, _ => rfl
    | 10, _ => rfl
    | 11, _ => rfl
    | 12, _ => rfl
    | 13, _ => rfl
    | 14, _ => rfl
    | 15, _ => rfl
    | 16, _ => rfl
    | 17, _ => rfl
    | 18, _ => rfl
    | 19, _ => rfl
    | c + 20, h9 => exact absurd h9 (by omega)
  · have h2 : va_up (zMc b M) 13 (some (.inl (.int, 75, .inl f))) c = zMc b M c := if_neg (by omega)
    rw [h2, zMc_out b M c hc]
theorem zm_u14 (f : Nat → Int32) : va_up (zMc b M) 14 (some (.inl (.int, 96, .inl f))) = zMc b (zuA M 14 f) := by
  refine zMc_ext (fun c hc => ?_) (fun c hc => ?_)
  · match c, hc with
    | 0, _ => rfl
    | 1, _ => rfl
    | 2, _ => rfl
    | 3, _ => rfl
    | 4, _ => rfl
    | 5, _ => rfl
    | 6, _ => rfl
    | 7, _ => rfl
    | 8, _ => rfl
    | 9, _ => rfl
    | 10, _ => rfl
    | 11, _ => rfl
    | 12, _ => rfl
    | 13, _ => rfl
    | 14, _ => rfl
    | 15, _ => rfl
    | 16, _ => rfl
    | 17, _ => rfl
    | 18, _ => rfl
    | 19, _ => rfl
    | c + 20, h9 => exact absurd h9 (by omega)
  · have h2 : va_up (zMc b M) 14 (some (.inl (.int, 96, .inl f))) c = zMc b M c := if_neg (by omega)
    rw [h2, zMc_out b M c hc]
theorem zm_u26 (f : Nat → Int32) : va_up (zMc b M) 15 (some (.inl (.int, 128, .inl f))) = zMc b (zuA M 26 f) := by
  refine zMc_ext (fun c hc => ?_) (fun c hc => ?_)
  · match c, hc with
    | 0, _ => rfl
    | 1, _ => rfl
    | 2, _ => rfl
    | 3, _ => rfl
    | 4, _ => rfl
    | 5, _ => rfl
    | 6, _ => rfl
    | 7, _ => rfl
    | 8, _ => rfl
    | 9, _ => rfl
    | 10, _ => rfl
    | 11, _ => rfl
    | 12, _ => rfl
    | 13, _ => rfl
    | 14, _ => rfl
    | 15, _ => rfl
    | 16, _ => rfl
    | 17, _ => rfl
    | 18, _ => rfl
    | 19, _ => rfl
    | c + 20, h9 => exact absurd h9 (by omega)
  · have h2 : va_up (zMc b M) 15 (some (.inl (.int, 128, .inl f))) c = zMc b M c := if_neg (by omega)
    rw [h2, zMc_out b M c hc]
theorem zm_u27 (f : Nat → Int32) : va_up (zMc b M) 16 (some (.inl (.int, 100, .inl f))) = zMc b (zuA M 27 f) := by
  refine zMc_ext (fun c hc => ?_) (fun c hc => ?_)
  · match c, hc with
    | 0, _ => rfl
    | 1, _ => rfl
    | 2, _ => rfl
    | 3, _ => rfl
    | 4, _ => rfl
    | 5, _ => rfl
    | 6, _ => rfl
    | 7, _ => rfl
    | 8, _ => rfl
    | 9, _ => rfl
    | 10, _ => rfl
    | 11, _ => rfl
    | 12, _ => rfl
    | 13, _ => rfl
    | 14, _ => rfl
    | 15, _ => rfl
    | 16, _ => rfl
    | 17, _ => rfl
    | 18, _ => rfl
    | 19, _ => rfl
    | c + 20, h9 => exact absurd h9 (by omega)
  · have h2 : va_up (zMc b M) 16 (some (.inl (.int, 100, .inl f))) c = zMc b M c := if_neg (by omega)
    rw [h2, zMc_out b M c hc]
theorem zm_u28 (f : Nat → Int32) : va_up (zMc b M) 17 (some (.inl (.int, 24, .inl f))) = zMc b (zuA M 28 f) := by
  refine zMc_ext (fun c hc => ?_) (fun c hc => ?_)
  · match c, hc with
    | 0, _ => rfl
    | 1, _ => rfl
    | 2, _ => rfl
    | 3, _ => rfl
    | 4, _ => rfl
    | 5, _ => rfl
    | 6, _ => rfl
    | 7, _ => rfl
    | 8, _ => rfl
    | 9, _ => rfl
    | 10, _ => rfl
    | 11, _ => rfl
    | 12, _ => rfl
    | 13, _ => rfl
    | 14, _ => rfl
    | 15, _ => rfl
    | 16, _ => rfl
    | 17, _ => rfl
    | 18, _ => rfl
    | 19, _ => rfl
    | c + 20, h9 => exact absurd h9 (by omega)
  · have h2 : va_up (zMc b M) 17 (some (.inl (.int, 24, .inl f))) c = zMc b M c := if_neg (by omega)
    rw [h2, zMc_out b M c hc]
theorem zm_u29 (f : Nat → Int32) : va_up (zMc b M) 18 (some (.inl (.int, 60, .inl f))) = zMc b (zuA M 29 f) := by
  refine zMc_ext (fun c hc => ?_) (fun c hc => ?_)
  · match c, hc with
    | 0, _ => rfl
    | 1, _ => rfl
    | 2, _ => rfl
    | 3, _ => rfl
    | 4, _ => rfl
    | 5, _ => rfl
    | 6, _ => rfl
    | 7, _ => rfl
    | 8, _ => rfl
    | 9, _ => rfl
    | 10, _ => rfl
    | 11, _ => rfl
    | 12, _ => rfl
    | 13, _ => rfl
    | 14, _ => rfl
    | 15, _ => rfl
    | 16, _ => rfl
    | 17, _ => rfl
    | 18, _ => rfl
    | 19, _ => rfl
    | c + 20, h9 => exact absurd h9 (by omega)
  · have h2 : va_up (zMc b M) 18 (some (.inl (.int, 60, .inl f))) c = zMc b M c := if_neg (by omega)
    rw [h2, zMc_out b M c hc]
theorem zm_u31 (f : Nat → Int32) : va_up (zMc b M) 19 (some (.inl (.int, 60, .inl f))) = zMc b (zuA M 31 f) := by
  refine zMc_ext (fun c hc => ?_) (fun c hc => ?_)
  · match c, hc with
    | 0, _ => rfl
    | 1, _ => rfl
    | 2, _ => rfl
    | 3, _ => rfl
    | 4, _ => rfl
    | 5, _ => rfl
    | 6, _ => rfl
    | 7, _ => rfl
    | 8, _ => rfl
    | 9, _ => rfl
    | 10, _ => rfl
    | 11, _ => rfl
    | 12, _ => rfl
    | 13, _ => rfl
    | 14, _ => rfl
    | 15, _ => rfl
    | 16, _ => rfl
    | 17, _ => rfl
    | 18, _ => rfl
    | 19, _ => rfl
    | c + 20, h9 => exact absurd h9 (by omega)
  · have h2 : va_up (zMc b M) 19 (some (.inl (.int, 60, .inl f))) c = zMc b M c := if_neg (by omega)
    rw [h2, zMc_out b M c hc]
theorem zm_S0 (i v : Int32) : zs_I .int (mkM b M n) (b + 1) i v = if i < 0 ∨ 3075 ≤ i.toNatClampNeg then none else some (mkM b (zuA M 0 (upd (M.2 0) i.toNatClampNeg v)) n) := zm_Seq b n M (c := 1) (k := 0) rfl (zm_u0 b M) i v
theorem zm_S1 (i v : Int32) : zs_I .int (mkM b M n) (b + 2) i v = if i < 0 ∨ 3075 ≤ i.toNatClampNeg then none else some (mkM b (zuA M 1 (upd (M.2 1) i.toNatClampNeg v)) n) := zm_Seq b n M (c := 2) (k := 1) rfl (zm_u1 b M) i v
theorem zm_S2 (i v : Int32) : zs_I .int (mkM b M n) (b + 3) i v = if i < 0 ∨ 3075 ≤ i.toNatClampNeg then none else some (mkM b (zuA M 2 (upd (M.2 2) i.toNatClampNeg v)) n) := zm_Seq b n M (c := 3) (k := 2) rfl (zm_u2 b M) i v
theorem zm_S4 (i v : Int32) : zs_I .int (mkM b M n) (b + 4) i v = if i < 0 ∨ 4 ≤ i.toNatClampNeg then none else some (mkM b (zuA M 4 (upd (M.2 4) i.toNatClampNeg v)) n) := zm_Seq b n M (c := 4) (k := 4) rfl (zm_u4 b M) i v
theorem zm_S5 (i v : Int32) : zs_I .int (mkM b M n) (b + 5) i v = if i < 0 ∨ 4 ≤ i.toNatClampNeg then none else some (mkM b (zuA M 5 (upd (M.2 5) i.toNatClampNeg v)) n) := zm_Seq b n M (c := 5) (k := 5) rfl (zm_u5 b M) i v
theorem zm_S6 (i v : Int32) : zs_I .int (mkM b M n) (b + 6) i v = if i < 0 ∨ 96 ≤ i.toNatClampNeg then none else some (mkM b (zuA M 6 (upd (M.2 6) i.toNatClampNeg v)) n) := zm_Seq b n M (c := 6) (k := 6) rfl (zm_u6 b M) i v
theorem zm_S7 (i v : Int32) : zs_I .int (mkM b M n) (b + 7) i v = if i < 0 ∨ 5 ≤ i.toNatClampNeg then none else some (mkM b (zuA M 7 (upd (M.2 7) i.toNatClampNeg v)) n) := zm_Seq b n M (c := 7) (k := 7) rfl (zm_u7 b M) i v
theorem zm_S8 (i v : Int32) : zs_I .int (mkM b M n) (b + 8) i v = if i < 0 ∨ 5 ≤ i.toNatClampNeg then none else some (mkM b (zuA M 8 (upd (M.2 8) i.toNatClampNeg v)) n) := zm_Seq b n M (c := 8) (k := 8) rfl (zm_u8 b M) i v
theorem zm_S9 (i v : Int32) : zs_I .int (mkM b M n) (b + 9) i v = if i < 0 ∨ 5 ≤ i.toNatClampNeg then none else some (mkM b (zuA M 9 (upd (M.2 9) i.toNatClampNeg v)) n) := zm_Seq b n M (c := 9) (k := 9) rfl (zm_u9 b M) i v
theorem zm_S10 (i v : Int32) : zs_I .int (mkM b M n) (b + 10) i v = if i < 0 ∨ 5 ≤ i.toNatClampNeg then none else some (mkM b (zuA M 10 (upd (M.2 10) i.toNatClampNeg v)) n) := zm_Seq b n M (c := 10) (k := 10) rfl (zm_u10 b M) i v
theorem zm_S11 (i v : Int32) : zs_I .int (mkM b M n) (b + 11) i v = if i < 0 ∨ 120 ≤ i.toNatClampNeg then none else some (mkM b (zuA M 11 (upd (M.2 11) i.toNatClampNeg v)) n) := zm_Seq b n M (c := 11) (k := 11) rfl (zm_u11 b M) i v
theorem zm_S12 (i v : Int32) : zs_I .int (mkM b M n) (b + 12) i v = if i < 0 ∨ 9 ≤ i.toNatClampNeg then none else some (mkM b (zuA M 12 (upd (M.2 12) i.toNatClampNeg v)) n) := zm_Seq b n M (c := 12) (k := 12) rfl (zm_u12 b M) i v
theorem zm_S13 (i v : Int32) : zs_I .int (mkM b M n) (b + 13) i v = if i < 0 ∨ 75 ≤ i.toNatClampNeg then none else some (mkM b (zuA M 13 (upd (M.2 13) i.toNatClampNeg v)) n) := zm_Seq b n M (c := 13) (k := 13) rfl (zm_u13 b M) i v
theorem zm_S14 (i v : Int32) : zs_I .int (mkM b M n) (b + 14) i v = if i < 0 ∨ 96 ≤ i.toNatClampNeg then none else some (mkM b (zuA M 14 (upd (M.2 14) i.toNatClampNeg v)) n) := zm_Seq b n M (c := 14) (k := 14) rfl (zm_u14 b M) i v
theorem zm_S26 (i v : Int32) : zs_I .int (mkM b M n) (b + 15) i v = if i < 0 ∨ 128 ≤ i.toNatClampNeg then none else some (mkM b (zuA M 26 (upd (M.2 26) i.toNatClampNeg v)) n) := zm_Seq b n M (c := 15) (k := 26) rfl (zm_u26 b M) i v
theorem zm_S27 (i v : Int32) : zs_I .int (mkM b M n) (b + 16) i v = if i < 0 ∨ 100 ≤ i.toNatClampNeg then none else some (mkM b (zuA M 27 (upd (M.2 27) i.toNatClampNeg v)) n) := zm_Seq b n M (c := 16) (k := 27) rfl (zm_u27 b M) i v
theorem zm_S28 (i v : Int32) : zs_I .int (mkM b M n) (b + 17) i v = if i < 0 ∨ 24 ≤ i.toNatClampNeg then none else some (mkM b (zuA M 28 (upd (M.2 28) i.toNatClampNeg v)) n) := zm_Seq b n M (c := 17) (k := 28) rfl (zm_u28 b M) i v
theorem zm_S29 (i v : Int32) : zs_I .int (mkM b M n) (b + 18) i v = if i < 0 ∨ 60 ≤ i.toNatClampNeg then none else some (mkM b (zuA M 29 (upd (M.2 29) i.toNatClampNeg v)) n) := zm_Seq b n M (c := 18) (k := 29) rfl (zm_u29 b M) i v
theorem zm_S31 (i v : Int32) : zs_I .int (mkM b M n) (b + 19) i v = if i < 0 ∨ 60 ≤ i.toNatClampNeg then none else some (mkM b (zuA M 31 (upd (M.2 31) i.toNatClampNeg v)) n) := zm_Seq b n M (c := 19) (k := 31) rfl (zm_u31 b M) i v
end ZMC
