/-! THE COMPONENT's CANONICAL HEAP (gen/ccan.py). zC: ints by id, int arrays by id, reference arrays by id, the carried floats, rows and held things by id, the cells made later -/
set_option maxRecDepth 100000
abbrev zC : Type := (Nat → Int32) × (Nat → Nat → Int32) × (Nat → Nat → Option Nat) × (Nat → UInt32) × (Nat → Option Nat) × (Nat → Option zE)
def zsa (b q : Nat) : Nat := b + (1 + 4 * q)
def zra (b q : Nat) : Nat := b + (2 + 4 * q)
def zwa (b q : Nat) : Nat := b + (3 + 4 * q)
def zta (b q : Nat) : Nat := b + (4 + 4 * q)
def zqc (C : String) (n : Nat) (f : Nat → Option Nat) : zE := .inl (.object C, n, .inr (.inr (.inr (.inr f))))
def ziI (C : zC) (k : Nat) (v : Int32) : zC := (fun j => if j = k then v else C.1 j, C.2)
def ziA (C : zC) (k : Nat) (f : Nat → Int32) : zC := (C.1, fun j => if j = k then f else C.2.1 j, C.2.2)
def ziQ (C : zC) (k : Nat) (f : Nat → Option Nat) : zC := (C.1, C.2.1, fun j => if j = k then f else C.2.2.1 j, C.2.2.2)
def ziF (C : zC) (f : Nat → UInt32) : zC := (C.1, C.2.1, C.2.2.1, f, C.2.2.2.2)
def ziO (C : zC) (k : Nat) (x : Option Nat) : zC := (C.1, C.2.1, C.2.2.1, C.2.2.2.1, fun j => if j = k then x else C.2.2.2.2.1 j, C.2.2.2.2.2)
def ziD (C : zC) (a : Nat) (e : zE) : zC := (C.1, C.2.1, C.2.2.1, C.2.2.2.1, C.2.2.2.2.1, va_up C.2.2.2.2.2 a (some e))
def zXfl (b : Nat) (C : zC) : List Value := [.ref (zsa b 0), .ref (zsa b 1), .ref (zsa b 2), .ref (zsa b 3), .int (C.1 4), .ref (b + 17), .ref (b + 18), .int (C.1 7), .ref (b + 19), .int (C.1 9), .int (C.1 10), .int (C.1 11), .int (C.1 12), .int (C.1 13), .int (C.1 14), .int (C.1 15), .ref (b + 20), .ref (b + 21), .ref (b + 22), .ref (b + 27), .ref (b + 33), .ref (b + 34), .int (C.1 22), .ref (b + 35)]
def zSfl (b : Nat) (C : zC) (q : Nat) : List Value := [.int (C.1 (40 + 10 * q)), .int (C.1 (41 + 10 * q)), .ref (zra b q), .ref (zwa b q), .int (C.1 (44 + 10 * q)), .int (C.1 (45 + 10 * q)), .int (C.1 (46 + 10 * q)), .ref (zta b q)]
def zCc (b : Nat) (u sen : Value) (C : zC) : Nat → Option zE := fun c => match c with
  | 0 => some (.inr (0, zXfl b C))
  | 1 => some (.inr (1, zSfl b C 0))
  | 2 => some (zqc "StoneSheets$Rubbing" 9 (C.2.2.1 0))
  | 3 => some (.inl (.int, 16, .inl (C.2.1 0)))
  | 4 => some (zqc "StoneSheets$Text" 14 (C.2.2.1 4))
  | 5 => some (.inr (1, zSfl b C 1))
  | 6 => some (zqc "StoneSheets$Rubbing" 9 (C.2.2.1 1))
  | 7 => some (.inl (.int, 16, .inl (C.2.1 1)))
  | 8 => some (zqc "StoneSheets$Text" 14 (C.2.2.1 5))
  | 9 => some (.inr (1, zSfl b C 2))
  | 10 => some (zqc "StoneSheets$Rubbing" 9 (C.2.2.1 2))
  | 11 => some (.inl (.int, 16, .inl (C.2.1 2)))
  | 12 => some (zqc "StoneSheets$Text" 14 (C.2.2.1 6))
  | 13 => some (.inr (1, zSfl b C 3))
  | 14 => some (zqc "StoneSheets$Rubbing" 9 (C.2.2.1 3))
  | 15 => some (.inl (.int, 16, .inl (C.2.1 3)))
  | 16 => some (zqc "StoneSheets$Text" 14 (C.2.2.1 7))
  | 17 => some (.inl (.int, 96, .inl (C.2.1 10)))
  | 18 => some (.inl (.byte, 96, .inl (C.2.1 11)))
  | 19 => some (.inr (2, [.ref (b + 19), u, sen, .null, .null, .int 0, .int (C.1 30)]))
  | 20 => some (.inl (.int, 128, .inl (C.2.1 12)))
  | 21 => some (.inl (.int, 9, .inl (C.2.1 13)))
  | 22 => some (zqc "StoneSheets$Sheet" 4 (fun j => if j < 4 then some (b + (23 + j)) else none))
  | 23 => some (.inr (3, [va_rf (C.2.2.2.2.1 0)]))
  | 24 => some (.inr (3, [va_rf (C.2.2.2.2.1 1)]))
  | 25 => some (.inr (3, [va_rf (C.2.2.2.2.1 2)]))
  | 26 => some (.inr (3, [va_rf (C.2.2.2.2.1 3)]))
  | 27 => some (zqc "StoneSheets$Slot" 5 (fun j => if j < 5 then some (b + (28 + j)) else none))
  | 28 => some (.inr (4, [va_rf (C.2.2.2.2.1 10)]))
  | 29 => some (.inr (4, [va_rf (C.2.2.2.2.1 11)]))
  | 30 => some (.inr (4, [va_rf (C.2.2.2.2.1 12)]))
  | 31 => some (.inr (4, [va_rf (C.2.2.2.2.1 13)]))
  | 32 => some (.inr (4, [va_rf (C.2.2.2.2.1 14)]))
  | 33 => some (.inl (.float, 24, .inr (.inr (.inl C.2.2.2.1))))
  | 34 => some (.inl (.int, 60, .inl (C.2.1 14)))
  | 35 => some (.inl (.int, 60, .inl (C.2.1 15)))
  | _ => none
def mkC (b : Nat) (u sen : Value) (C : zC) (n : Nat) : zT := (fun a => if a < b then none else if a < b + 36 then zCc b u sen C (a - b) else C.2.2.2.2.2 a, n)
section ZCC1
variable (b : Nat) (u sen : Value) (C : zC) (n : Nat)
theorem zc_at {c : Nat} (hc : c < 36) : (mkC b u sen C n).1 (b + c) = zCc b u sen C c := by
  show (if b + c < b then none else if b + c < b + 36 then zCc b u sen C (b + c - b) else C.2.2.2.2.2 (b + c)) = _
  rw [if_neg (by omega), if_pos (by omega), Nat.add_sub_cancel_left]
theorem zc_dyn {a : Nat} (ha : b + 36 ≤ a) : (mkC b u sen C n).1 a = C.2.2.2.2.2 a := by
  show (if a < b then none else if a < b + 36 then zCc b u sen C (a - b) else C.2.2.2.2.2 a) = _
  rw [if_neg (by omega), if_neg (by omega)]
theorem zc_set {C2 : zC} {c : Nat} {e : zE} (hc : c < 36) (h1 : ∀ d, d < 36 → zCc b u sen C2 d = if d = c then some e else zCc b u sen C d) (h2 : C2.2.2.2.2.2 = C.2.2.2.2.2) : zh_set (mkC b u sen C n) (b + c) e = mkC b u sen C2 n := by
  unfold zh_set mkC
  congr 1
  funext a
  by_cases ha : a < b
  · have h3 : a ≠ b + c := by omega
    simp [va_up, ha, h3]
  · by_cases hb : a < b + 36
    · simp only [va_up, if_neg ha, if_pos hb]
      rw [h1 (a - b) (by omega)]
      by_cases h3 : a = b + c
      · rw [if_pos h3, if_pos (by omega)]
      · rw [if_neg h3, if_neg (by omega)]
    · have h3 : a ≠ b + c := by omega
      simp only [va_up, if_neg ha, if_neg hb, if_neg h3, h2]
theorem zc_setD {a : Nat} {e : zE} (ha : b + 36 ≤ a) : zh_set (mkC b u sen C n) a e = mkC b u sen (ziD C a e) n := by
  unfold zh_set mkC ziD
  congr 1
  funext x
  by_cases h1 : x < b
  · have h3 : x ≠ a := by omega
    simp [va_up, h1, h3]
  · by_cases h2 : x < b + 36
    · have h3 : x ≠ a := by omega
      simp only [va_up, if_neg h1, if_pos h2, if_neg h3]
      rfl
    · simp only [va_up, if_neg h1, if_neg h2]
theorem zc_push {e : zE} (hn : b + 36 ≤ n) : zh_push (mkC b u sen C n) e = mkC b u sen (ziD C n e) (n + 1) := by
  have h := zc_setD b u sen C n (e := e) hn
  unfold zh_push
  unfold zh_set at h
  have h1 := congrArg Prod.fst h
  exact Prod.ext h1 rfl
theorem zc_n : (mkC b u sen C n).2 = n := rfl
theorem zc_xV (k : Nat) : zg_V [0] (mkC b u sen C n) b k = (zXfl b C)[k]? := by
  unfold zg_V zh_O
  rw [show (mkC b u sen C n).1 b = zCc b u sen C 0 from zc_at b u sen C n (c := 0) (by decide)]
  rfl
theorem zc_xO : zh_O (mkC b u sen C n) b = some (0, zXfl b C) := by
  unfold zh_O
  rw [show (mkC b u sen C n).1 b = zCc b u sen C 0 from zc_at b u sen C n (c := 0) (by decide)]
  rfl
theorem zc_xK : zk_C 0 (mkC b u sen C n) b = some () := by
  unfold zk_C
  rw [zc_xO]
  rfl
theorem zc_xR0 : zg_R [0] (mkC b u sen C n) b 0 = some (zsa b 0) := by unfold zg_R; rw [zc_xV]; rfl
theorem zc_xR1 : zg_R [0] (mkC b u sen C n) b 1 = some (zsa b 1) := by unfold zg_R; rw [zc_xV]; rfl
theorem zc_xR2 : zg_R [0] (mkC b u sen C n) b 2 = some (zsa b 2) := by unfold zg_R; rw [zc_xV]; rfl
theorem zc_xR3 : zg_R [0] (mkC b u sen C n) b 3 = some (zsa b 3) := by unfold zg_R; rw [zc_xV]; rfl
theorem zc_xR5 : zg_R [0] (mkC b u sen C n) b 5 = some (b + 17) := by unfold zg_R; rw [zc_xV]; rfl
theorem zc_xR6 : zg_R [0] (mkC b u sen C n) b 6 = some (b + 18) := by unfold zg_R; rw [zc_xV]; rfl
theorem zc_xR8 : zg_R [0] (mkC b u sen C n) b 8 = some (b + 19) := by unfold zg_R; rw [zc_xV]; rfl
theorem zc_xR16 : zg_R [0] (mkC b u sen C n) b 16 = some (b + 20) := by unfold zg_R; rw [zc_xV]; rfl
theorem zc_xR17 : zg_R [0] (mkC b u sen C n) b 17 = some (b + 21) := by unfold zg_R; rw [zc_xV]; rfl
theorem zc_xR18 : zg_R [0] (mkC b u sen C n) b 18 = some (b + 22) := by unfold zg_R; rw [zc_xV]; rfl
theorem zc_xR19 : zg_R [0] (mkC b u sen C n) b 19 = some (b + 27) := by unfold zg_R; rw [zc_xV]; rfl
theorem zc_xR20 : zg_R [0] (mkC b u sen C n) b 20 = some (b + 33) := by unfold zg_R; rw [zc_xV]; rfl
theorem zc_xR21 : zg_R [0] (mkC b u sen C n) b 21 = some (b + 34) := by unfold zg_R; rw [zc_xV]; rfl
theorem zc_xR23 : zg_R [0] (mkC b u sen C n) b 23 = some (b + 35) := by unfold zg_R; rw [zc_xV]; rfl
theorem zc_xI4 : zg_I [0] (mkC b u sen C n) b 4 = some (C.1 4) := by unfold zg_I; rw [zc_xV]; rfl
theorem zc_xI7 : zg_I [0] (mkC b u sen C n) b 7 = some (C.1 7) := by unfold zg_I; rw [zc_xV]; rfl
theorem zc_xI9 : zg_I [0] (mkC b u sen C n) b 9 = some (C.1 9) := by unfold zg_I; rw [zc_xV]; rfl
theorem zc_xI10 : zg_I [0] (mkC b u sen C n) b 10 = some (C.1 10) := by unfold zg_I; rw [zc_xV]; rfl
theorem zc_xI11 : zg_I [0] (mkC b u sen C n) b 11 = some (C.1 11) := by unfold zg_I; rw [zc_xV]; rfl
theorem zc_xI12 : zg_I [0] (mkC b u sen C n) b 12 = some (C.1 12) := by unfold zg_I; rw [zc_xV]; rfl
theorem zc_xI13 : zg_I [0] (mkC b u sen C n) b 13 = some (C.1 13) := by unfold zg_I; rw [zc_xV]; rfl
theorem zc_xI14 : zg_I [0] (mkC b u sen C n) b 14 = some (C.1 14) := by unfold zg_I; rw [zc_xV]; rfl
theorem zc_xI15 : zg_I [0] (mkC b u sen C n) b 15 = some (C.1 15) := by unfold zg_I; rw [zc_xV]; rfl
theorem zc_xI22 : zg_I [0] (mkC b u sen C n) b 22 = some (C.1 22) := by unfold zg_I; rw [zc_xV]; rfl
theorem zc_xs4 (v : Int32) : zh_set (mkC b u sen C n) (b + 0) (.inr (0, (zXfl b C).set 4 (.int v))) = mkC b u sen (ziI C 4 v) n := by
  refine zc_set b u sen C n (by decide) (fun d hd => ?_) rfl
  match d, hd with
  | 0, _ => rfl
  | 1, _ => rfl
  | 2, _ => rfl
  | 3, _ => rfl
  | 4, _ => rfl
  | 5, _ => rfl
  | 6, _ => rfl
  | 7, _ => rfl
  | 8, _ => rfl
  | 9, _ => rfl
  | 10, _ => rfl
  | 11, _ => rfl
  | 12, _ => rfl
  | 13, _ => rfl
  | 14, _ => rfl
  | 15, _ => rfl
  | 16, _ => rfl
  | 17, _ => rfl
  | 18, _ => rfl
  | 19, _ => rfl
  | 20, _ => rfl
  | 21, _ => rfl
  | 22, _ => rfl
  | 23, _ => rfl
  | 24, _ => rfl
  | 25, _ => rfl
  | 26, _ => rfl
  | 27, _ => rfl
  | 28, _ => rfl
  | 29, _ => rfl
  | 30, _ => rfl
  | 31, _ => rfl
  | 32, _ => rfl
  | 33, _ => rfl
  | 34, _ => rfl
  | 35, _ => rfl
  | d + 36, h9 => exact absurd h9 (by omega)
theorem zc_xP4 (v : Int32) : zp_V [0] (mkC b u sen C n) b 4 (.int v) = some (mkC b u sen (ziI C 4 v) n) := by
  unfold zp_V
  rw [zc_xO]
  exact congrArg some (zc_xs4 b u sen C n v)
theorem zc_xs7 (v : Int32) : zh_set (mkC b u sen C n) (b + 0) (.inr (0, (zXfl b C).set 7 (.int v))) = mkC b u sen (ziI C 7 v) n := by
  refine zc_set b u sen C n (by decide) (fun d hd => ?_) rfl
  match d, hd with
  | 0, _ => rfl
  | 1, _ => rfl
  | 2, _ => rfl
  | 3, _ => rfl
  | 4, _ => rfl
  | 5, _ => rfl
  | 6, _ => rfl
  | 7, _ => rfl
  | 8, _ => rfl
  | 9, _ => rfl
  | 10, _ => rfl
  | 11, _ => rfl
  | 12, _ => rfl
  | 13, _ => rfl
  | 14, _ => rfl
  | 15, _ => rfl
  | 16, _ => rfl
  | 17, _ => rfl
  | 18, _ => rfl
  | 19, _ => rfl
  | 20, _ => rfl
  | 21, _ => rfl
  | 22, _ => rfl
  | 23, _ => rfl
  | 24, _ => rfl
  | 25, _ => rfl
  | 26, _ => rfl
  | 27, _ => rfl
  | 28, _ => rfl
  | 29, _ => rfl
  | 30, _ => rfl
  | 31, _ => rfl
  | 32, _ => rfl
  | 33, _ => rfl
  | 34, _ => rfl
  | 35, _ => rfl
  | d + 36, h9 => exact absurd h9 (by omega)
theorem zc_xP7 (v : Int32) : zp_V [0] (mkC b u sen C n) b 7 (.int v) = some (mkC b u sen (ziI C 7 v) n) := by
  unfold zp_V
  rw [zc_xO]
  exact congrArg some (zc_xs7 b u sen C n v)
theorem zc_xs9 (v : Int32) : zh_set (mkC b u sen C n) (b + 0) (.inr (0, (zXfl b C).set 9 (.int v))) = mkC b u sen (ziI C 9 v) n := by
  refine zc_set b u sen C n (by decide) (fun d hd => ?_) rfl
  match d, hd with
  | 0, _ => rfl
  | 1, _ => rfl
  | 2, _ => rfl
  | 3, _ => rfl
  | 4, _ => rfl
  | 5, _ => rfl
  | 6, _ => rfl
  | 7, _ => rfl
  | 8, _ => rfl
  | 9, _ => rfl
  | 10, _ => rfl
  | 11, _ => rfl
  | 12, _ => rfl
  | 13, _ => rfl
  | 14, _ => rfl
  | 15, _ => rfl
  | 16, _ => rfl
  | 17, _ => rfl
  | 18, _ => rfl
  | 19, _ => rfl
  | 20, _ => rfl
  | 21, _ => rfl
  | 22, _ => rfl
  | 23, _ => rfl
  | 24, _ => rfl
  | 25, _ => rfl
  | 26, _ => rfl
  | 27, _ => rfl
  | 28, _ => rfl
  | 29, _ => rfl
  | 30, _ => rfl
  | 31, _ => rfl
  | 32, _ => rfl
  | 33, _ => rfl
  | 34, _ => rfl
  | 35, _ => rfl
  | d + 36, h9 => exact absurd h9 (by omega)
theorem zc_xP9 (v : Int32) : zp_V [0] (mkC b u sen C n) b 9 (.int v) = some (mkC b u sen (ziI C 9 v) n) := by
  unfold zp_V
  rw [zc_xO]
  exact congrArg some (zc_xs9 b u sen C n v)
theorem zc_xs10 (v : Int32) : zh_set (mkC b u sen C n) (b + 0) (.inr (0, (zXfl b C).set 10 (.int v))) = mkC b u sen (ziI C 10 v) n := by
  refine zc_set b u sen C n (by decide) (fun d hd => ?_) rfl
  match d, hd with
  | 0, _ => rfl
  | 1, _ => rfl
  | 2, _ => rfl
  | 3, _ => rfl
  | 4, _ => rfl
  | 5, _ => rfl
  | 6, _ => rfl
  | 7, _ => rfl
  | 8, _ => rfl
  | 9, _ => rfl
  | 10, _ => rfl
  | 11, _ => rfl
  | 12, _ => rfl
  | 13, _ => rfl
  | 14, _ => rfl
  | 15, _ => rfl
  | 16, _ => rfl
  | 17, _ => rfl
  | 18, _ => rfl
  | 19, _ => rfl
  | 20, _ => rfl
  | 21, _ => rfl
  | 22, _ => rfl
  | 23, _ => rfl
  | 24, _ => rfl
  | 25, _ => rfl
  | 26, _ => rfl
  | 27, _ => rfl
  | 28, _ => rfl
  | 29, _ => rfl
  | 30, _ => rfl
  | 31, _ => rfl
  | 32, _ => rfl
  | 33, _ => rfl
  | 34, _ => rfl
  | 35, _ => rfl
  | d + 36, h9 => exact absurd h9 (by omega)
theorem zc_xP10 (v : Int32) : zp_V [0] (mkC b u sen C n) b 10 (.int v) = some (mkC b u sen (ziI C 10 v) n) := by
  unfold zp_V
  rw [zc_xO]
  exact congrArg some (zc_xs10 b u sen C n v)
theorem zc_xs11 (v : Int32) : zh_set (mkC b u sen C n) (b + 0) (.inr (0, (zXfl b C).set 11 (.int v))) = mkC b u sen (ziI C 11 v) n := by
  refine zc_set b u sen C n (by decide) (fun d hd => ?_) rfl
  match d, hd with
  | 0, _ => rfl
  | 1, _ => rfl
  | 2, _ => rfl
  | 3, _ => rfl
  | 4, _ => rfl
  | 5, _ => rfl
  | 6, _ => rfl
  | 7, _ => rfl
  | 8, _ => rfl
  | 9, _ => rfl
  | 10, _ => rfl
  | 11, _ => rfl
  | 12, _ => rfl
  | 13, _ => rfl
  | 14, _ => rfl
  | 15, _ => rfl
  | 16, _ => rfl
  | 17, _ => rfl
  | 18, _ => rfl
  | 19, _ => rfl
  | 20, _ => rfl
  | 21, _ => rfl
  | 22, _ => rfl
  | 23, _ => rfl
  | 24, _ => rfl
  | 25, _ => rfl
  | 26, _ => rfl
  | 27, _ => rfl
  | 28, _ => rfl
  | 29, _ => rfl
  | 30, _ => rfl
  | 31, _ => rfl
  | 32, _ => rfl
  | 33, _ => rfl
  | 34, _ => rfl
  | 35, _ => rfl
  | d + 36, h9 => exact absurd h9 (by omega)
theorem zc_xP11 (v : Int32) : zp_V [0] (mkC b u sen C n) b 11 (.int v) = some (mkC b u sen (ziI C 11 v) n) := by
  unfold zp_V
  rw [zc_xO]
  exact congrArg some (zc_xs11 b u sen C n v)
theorem zc_xs12 (v : Int32) : zh_set (mkC b u sen C n) (b + 0) (.inr (0, (zXfl b C).set 12 (.int v))) = mkC b u sen (ziI C 12 v) n := by
  refine zc_set b u sen C n (by decide) (fun d hd => ?_) rfl
  match d, hd with
  | 0, _ => rfl
  | 1, _ => rfl
  | 2, _ => rfl
  | 3, _ => rfl
  | 4, _ => rfl
  | 5, _ => rfl
  | 6, _ => rfl
  | 7, _ => rfl
  | 8, _ => rfl
  | 9, _ => rfl
  | 10, _ => rfl
  | 11, _ => rfl
  | 12, _ => rfl
  | 13, _ => rfl
  | 14, _ => rfl
  | 15, _ => rfl
  | 16, _ => rfl
  | 17, _ => rfl
  | 18, _ => rfl
  | 19, _ => rfl
  | 20, _ => rfl
  | 21, _ => rfl
  | 22, _ => rfl
  | 23, _ => rfl
  | 24, _ => rfl
  | 25, _ => rfl
  | 26, _ => rfl
  | 27, _ => rfl
  | 28, _ => rfl
  | 29, _ => rfl
  | 30, _ => rfl
  | 31, _ => rfl
  | 32, _ => rfl
  | 33, _ => rfl
  | 34, _ => rfl
  | 35, _ => rfl
  | d + 36, h9 => exact absurd h9 (by omega)
theorem zc_xP12 (v : Int32) : zp_V [0] (mkC b u sen C n) b 12 (.int v) = some (mkC b u sen (ziI C 12 v) n) := by
  unfold zp_V
  rw [zc_xO]
  exact congrArg some (zc_xs12 b u sen C n v)
theorem zc_xs13 (v : Int32) : zh_set (mkC b u sen C n) (b + 0) (.inr (0, (zXfl b C).set 13 (.int v))) = mkC b u sen (ziI C 13 v) n := by
  refine zc_set b u sen C n (by decide) (fun d hd => ?_) rfl
  match d, hd with
  | 0, _ => rfl
  | 1, _ => rfl
  | 2, _ => rfl
  | 3, _ => rfl
  | 4, _ => rfl
  | 5, _ => rfl
  | 6, _ => rfl
  | 7, _ => rfl
  | 8, _ => rfl
  | 9, _ => rfl
  | 10, _ => rfl
  | 11, _ => rfl
  | 12, _ => rfl
  | 13, _ => rfl
  | 14, _ => rfl
  | 15, _ => rfl
  | 16, _ => rfl
  | 17, _ => rfl
  | 18, _ => rfl
  | 19, _ => rfl
  | 20, _ => rfl
  | 21, _ => rfl
  | 22, _ => rfl
  | 23, _ => rfl
  | 24, _ => rfl
  | 25, _ => rfl
  | 26, _ => rfl
  | 27, _ => rfl
  | 28, _ => rfl
  | 29, _ => rfl
  | 30, _ => rfl
  | 31, _ => rfl
  | 32, _ => rfl
  | 33, _ => rfl
  | 34, _ => rfl
  | 35, _ => rfl
  | d + 36, h9 => exact absurd h9 (by omega)
theorem zc_xP13 (v : Int32) : zp_V [0] (mkC b u sen C n) b 13 (.int v) = some (mkC b u sen (ziI C 13 v) n) := by
  unfold zp_V
  rw [zc_xO]
  exact congrArg some (zc_xs13 b u sen C n v)
theorem zc_xs14 (v : Int32) : zh_set (mkC b u sen C n) (b + 0) (.inr (0, (zXfl b C).set 14 (.int v))) = mkC b u sen (ziI C 14 v) n := by
  refine zc_set b u sen C n (by decide) (fun d hd => ?_) rfl
  match d, hd with
  | 0, _ => rfl
  | 1, _ => rfl
  | 2, _ => rfl
  | 3, _ => rfl
  | 4, _ => rfl
  | 5, _ => rfl
  | 6, _ => rfl
  | 7, _ => rfl
  | 8, _ => rfl
  | 9, _ => rfl
  | 10, _ => rfl
  | 11, _ => rfl
  | 12, _ => rfl
  | 13, _ => rfl
  | 14, _ => rfl
  | 15, _ => rfl
  | 16, _ => rfl
  | 17, _ => rfl
  | 18, _ => rfl
  | 19, _ => rfl
  | 20, _ => rfl
  | 21, _ => rfl
  | 22, _ => rfl
  | 23, _ => rfl
  | 24, _ => rfl
  | 25, _ => rfl
  | 26, _ => rfl
  | 27, _ => rfl
  | 28, _ => rfl
  | 29, _ => rfl
  | 30, _ => rfl
  | 31, _ => rfl
  | 32, _ => rfl
  | 33, _ => rfl
  | 34, _ => rfl
  | 35, _ => rfl
  | d + 36, h9 => exact absurd h9 (by omega)
theorem zc_xP14 (v : Int32) : zp_V [0] (mkC b u sen C n) b 14 (.int v) = some (mkC b u sen (ziI C 14 v) n) := by
  unfold zp_V
  rw [zc_xO]
  exact congrArg some (zc_xs14 b u sen C n v)
theorem zc_xs15 (v : Int32) : zh_set (mkC b u sen C n) (b + 0) (.inr (0, (zXfl b C).set 15 (.int v))) = mkC b u sen (ziI C 15 v) n := by
  refine zc_set b u sen C n (by decide) (fun d hd => ?_) rfl
  match d, hd with
  | 0, _ => rfl
  | 1, _ => rfl
  | 2, _ => rfl
  | 3, _ => rfl
  | 4, _ => rfl
  | 5, _ => rfl
  | 6, _ => rfl
  | 7, _ => rfl
  | 8, _ => rfl
  | 9, _ => rfl
  | 10, _ => rfl
  | 11, _ => rfl
  | 12, _ => rfl
  | 13, _ => rfl
  | 14, _ => rfl
  | 15, _ => rfl
  | 16, _ => rfl
  | 17, _ => rfl
  | 18, _ => rfl
  | 19, _ => rfl
  | 20, _ => rfl
  | 21, _ => rfl
  | 22, _ => rfl
  | 23, _ => rfl
  | 24, _ => rfl
  | 25, _ => rfl
  | 26, _ => rfl
  | 27, _ => rfl
  | 28, _ => rfl
  | 29, _ => rfl
  | 30, _ => rfl
  | 31, _ => rfl
  | 32, _ => rfl
  | 33, _ => rfl
  | 34, _ => rfl
  | 35, _ => rfl
  | d + 36, h9 => exact absurd h9 (by omega)
theorem zc_xP15 (v : Int32) : zp_V [0] (mkC b u sen C n) b 15 (.int v) = some (mkC b u sen (ziI C 15 v) n) := by
  unfold zp_V
  rw [zc_xO]
  exact congrArg some (zc_xs15 b u sen C n v)
theorem zc_xs22 (v : Int32) : zh_set (mkC b u sen C n) (b + 0) (.inr (0, (zXfl b C).set 22 (.int v))) = mkC b u sen (ziI C 22 v) n := by
  refine zc_set b u sen C n (by decide) (fun d hd => ?_) rfl
  match d, hd with
  | 0, _ => rfl
  | 1, _ => rfl
  | 2, _ => rfl
  | 3, _ => rfl
  | 4, _ => rfl
  | 5, _ => rfl
  | 6, _ => rfl
  | 7, _ => rfl
  | 8, _ => rfl
  | 9, _ => rfl
  | 10, _ => rfl
  | 11, _ => rfl
  | 12, _ => rfl
  | 13, _ => rfl
  | 14, _ => rfl
  | 15, _ => rfl
  | 16, _ => rfl
  | 17, _ => rfl
  | 18, _ => rfl
  | 19, _ => rfl
  | 20, _ => rfl
  | 21, _ => rfl
  | 22, _ => rfl
  | 23, _ => rfl
  | 24, _ => rfl
  | 25, _ => rfl
  | 26, _ => rfl
  | 27, _ => rfl
  | 28, _ => rfl
  | 29, _ => rfl
  | 30, _ => rfl
  | 31, _ => rfl
  | 32, _ => rfl
  | 33, _ => rfl
  | 34, _ => rfl
  | 35, _ => rfl
  | d + 36, h9 => exact absurd h9 (by omega)
theorem zc_xP22 (v : Int32) : zp_V [0] (mkC b u sen C n) b 22 (.int v) = some (mkC b u sen (ziI C 22 v) n) := by
  unfold zp_V
  rw [zc_xO]
  exact congrArg some (zc_xs22 b u sen C n v)
theorem zc_sO0 : zh_O (mkC b u sen C n) (b + 1) = some (1, zSfl b C 0) := by
  unfold zh_O
  rw [zc_at b u sen C n (c := 1) (by decide)]
  rfl
theorem zc_ss0_0 (v : Int32) : zh_set (mkC b u sen C n) (b + 1) (.inr (1, (zSfl b C 0).set 0 (.int v))) = mkC b u sen (ziI C 40 v) n := by
  refine zc_set b u sen C n (by decide) (fun d hd => ?_) rfl
  match d, hd with
  | 0, _ => rfl
  | 1, _ => rfl
  | 2, _ => rfl
  | 3, _ => rfl
  | 4, _ => rfl
  | 5, _ => rfl
  | 6, _ => rfl
  | 7, _ => rfl
  | 8, _ => rfl
  | 9, _ => rfl
  | 10, _ => rfl
  | 11, _ => rfl
  | 12, _ => rfl
  | 13, _ => rfl
  | 14, _ => rfl
  | 15, _ => rfl
  | 16, _ => rfl
  | 17, _ => rfl
  | 18, _ => rfl
  | 19, _ => rfl
  | 20, _ => rfl
  | 21, _ => rfl
  | 22, _ => rfl
  | 23, _ => rfl
  | 24, _ => rfl
  | 25, _ => rfl
  | 26, _ => rfl
  | 27, _ => rfl
  | 28, _ => rfl
  | 29, _ => rfl
  | 30, _ => rfl
  | 31, _ => rfl
  | 32, _ => rfl
  | 33, _ => rfl
  | 34, _ => rfl
  | 35, _ => rfl
  | d + 36, h9 => exact absurd h9 (by omega)
theorem zc_ss0_1 (v : Int32) : zh_set (mkC b u sen C n) (b + 1) (.inr (1, (zSfl b C 0).set 1 (.int v))) = mkC b u sen (ziI C 41 v) n := by
  refine zc_set b u sen C n (by decide) (fun d hd => ?_) rfl
  match d, hd with
  | 0, _ => rfl
  | 1, _ => rfl
  | 2, _ => rfl
  | 3, _ => rfl
  | 4, _ => rfl
  | 5, _ => rfl
  | 6, _ => rfl
  | 7, _ => rfl
  | 8, _ => rfl
  | 9, _ => rfl
  | 10, _ => rfl
  | 11, _ => rfl
  | 12, _ => rfl
  | 13, _ => rfl
  | 14, _ => rfl
  | 15, _ => rfl
  | 16, _ => rfl
  | 17, _ => rfl
  | 18, _ => rfl
  | 19, _ => rfl
  | 20, _ => rfl
  | 21, _ => rfl
  | 22, _ => rfl
  | 23, _ => rfl
  | 24, _ => rfl
  | 25, _ => rfl
  | 26, _ => rfl
  | 27, _ => rfl
  | 28, _ => rfl
  | 29, _ => rfl
  | 30, _ => rfl
  | 31, _ => rfl
  | 32, _ => rfl
  | 33, _ => rfl
  | 34, _ => rfl
  | 35, _ => rfl
  | d + 36, h9 => exact absurd h9 (by omega)
theorem zc_ss0_4 (v : Int32) : zh_set (mkC b u sen C n) (b + 1) (.inr (1, (zSfl b C 0).set 4 (.int v))) = mkC b u sen (ziI C 44 v) n := by
  refine zc_set b u sen C n (by decide) (fun d hd => ?_) rfl
  match d, hd with
  | 0, _ => rfl
  | 1, _ => rfl
  | 2, _ => rfl
  | 3, _ => rfl
  | 4, _ => rfl
  | 5, _ => rfl
  | 6, _ => rfl
  | 7, _ => rfl
  | 8, _ => rfl
  | 9, _ => rfl
  | 10, _ => rfl
  | 11, _ => rfl
  | 12, _ => rfl
  | 13, _ => rfl
  | 14, _ => rfl
  | 15, _ => rfl
  | 16, _ => rfl
  | 17, _ => rfl
  | 18, _ => rfl
  | 19, _ => rfl
  | 20, _ => rfl
  | 21, _ => rfl
  | 22, _ => rfl
  | 23, _ => rfl
  | 24, _ => rfl
  | 25, _ => rfl
  | 26, _ => rfl
  | 27, _ => rfl
  | 28, _ => rfl
  | 29, _ => rfl
  | 30, _ => rfl
  | 31, _ => rfl
  | 32, _ => rfl
  | 33, _ => rfl
  | 34, _ => rfl
  | 35, _ => rfl
  | d + 36, h9 => exact absurd h9 (by omega)
theorem zc_ss0_5 (v : Int32) : zh_set (mkC b u sen C n) (b + 1) (.inr (1, (zSfl b C 0).set 5 (.int v))) = mkC b u sen (ziI C 45 v) n := by
  refine zc_set b u sen C n (by decide) (fun d hd => ?_) rfl
  match d, hd with
  | 0, _ => rfl
  | 1, _ => rfl
  | 2, _ => rfl
  | 3, _ => rfl
  | 4, _ => rfl
  | 5, _ => rfl
  | 6, _ => rfl
  | 7, _ => rfl
  | 8, _ => rfl
  | 9, _ => rfl
  | 10, _ => rfl
  | 11, _ => rfl
  | 12, _ => rfl
  | 13, _ => rfl
  | 14, _ => rfl
  | 15, _ => rfl
  | 16, _ => rfl
  | 17, _ => rfl
  | 18, _ => rfl
  | 19, _ => rfl
  | 20, _ => rfl
  | 21, _ => rfl
  | 22, _ => rfl
  | 23, _ => rfl
  | 24, _ => rfl
  | 25, _ => rfl
  | 26, _ => rfl
  | 27, _ => rfl
  | 28, _ => rfl
  | 29, _ => rfl
  | 30, _ => rfl
  | 31, _ => rfl
  | 32, _ => rfl
  | 33, _ => rfl
  | 34, _ => rfl
  | 35, _ => rfl
  | d + 36, h9 => exact absurd h9 (by omega)
theorem zc_ss0_6 (v : Int32) : zh_set (mkC b u sen C n) (b + 1) (.inr (1, (zSfl b C 0).set 6 (.int v))) = mkC b u sen (ziI C 46 v) n := by
  refine zc_set b u sen C n (by decide) (fun d hd => ?_) rfl
  match d, hd with
  | 0, _ => rfl
  | 1, _ => rfl
  | 2, _ => rfl
  | 3, _ => rfl
  | 4, _ => rfl
  | 5, _ => rfl
  | 6, _ => rfl
  | 7, _ => rfl
  | 8, _ => rfl
  | 9, _ => rfl
  | 10, _ => rfl
  | 11, _ => rfl
  | 12, _ => rfl
  | 13, _ => rfl
  | 14, _ => rfl
  | 15, _ => rfl
  | 16, _ => rfl
  | 17, _ => rfl
  | 18, _ => rfl
  | 19, _ => rfl
  | 20, _ => rfl
  | 21, _ => rfl
  | 22, _ => rfl
  | 23, _ => rfl
  | 24, _ => rfl
  | 25, _ => rfl
  | 26, _ => rfl
  | 27, _ => rfl
  | 28, _ => rfl
  | 29, _ => rfl
  | 30, _ => rfl
  | 31, _ => rfl
  | 32, _ => rfl
  | 33, _ => rfl
  | 34, _ => rfl
  | 35, _ => rfl
  | d + 36, h9 => exact absurd h9 (by omega)
theorem zc_sO1 : zh_O (mkC b u sen C n) (b + 5) = some (1, zSfl b C 1) := by
  unfold zh_O
  rw [zc_at b u sen C n (c := 5) (by decide)]
  rfl
theorem zc_ss1_0 (v : Int32) : zh_set (mkC b u sen C n) (b + 5) (.inr (1, (zSfl b C 1).set 0 (.int v))) = mkC b u sen (ziI C 50 v) n := by
  refine zc_set b u sen C n (by decide) (fun d hd => ?_) rfl
  match d, hd with
  | 0, _ => rfl
  | 1, _ => rfl
  | 2, _ => rfl
  | 3, _ => rfl
  | 4, _ => rfl
  | 5, _ => rfl
  | 6, _ => rfl
  | 7, _ => rfl
  | 8, _ => rfl
  | 9, _ => rfl
  | 10, _ => rfl
  | 11, _ => rfl
  | 12, _ => rfl
  | 13, _ => rfl
  | 14, _ => rfl
  | 15, _ => rfl
  | 16, _ => rfl
  | 17, _ => rfl
  | 18, _ => rfl
  | 19, _ => rfl
  | 20, _ => rfl
  | 21, _ => rfl
  | 22, _ => rfl
  | 23, _ => rfl
  | 24, _ => rfl
  | 25, _ => rfl
  | 26, _ => rfl
  | 27, _ => rfl
  | 28, _ => rfl
  | 29, _ => rfl
  | 30, _ => rfl
  | 31, _ => rfl
  | 32, _ => rfl
  | 33, _ => rfl
  | 34, _ => rfl
  | 35, _ => rfl
  | d + 36, h9 => exact absurd h9 (by omega)
theorem zc_ss1_1 (v : Int32) : zh_set (mkC b u sen C n) (b + 5) (.inr (1, (zSfl b C 1).set 1 (.int v))) = mkC b u sen (ziI C 51 v) n := by
  refine zc_set b u sen C n (by decide) (fun d hd => ?_) rfl
  match d, hd with
  | 0, _ => rfl
  | 1, _ => rfl
  | 2, _ => rfl
  | 3, _ => rfl
  | 4, _ => rfl
  | 5, _ => rfl
  | 6, _ => rfl
  | 7, _ => rfl
  | 8, _ => rfl
  | 9, _ => rfl
  | 10, _ => rfl
  | 11, _ => rfl
  | 12, _ => rfl
  | 13, _ => rfl
  | 14, _ => rfl
  | 15, _ => rfl
  | 16, _ => rfl
  | 17, _ => rfl
  | 18, _ => rfl
  | 19, _ => rfl
  | 20, _ => rfl
  | 21, _ => rfl
  | 22, _ => rfl
  | 23, _ => rfl
  | 24, _ => rfl
  | 25, _ => rfl
  | 26, _ => rfl
  | 27, _ => rfl
  | 28, _ => rfl
  | 29, _ => rfl
  | 30, _ => rfl
  | 31, _ => rfl
  | 32, _ => rfl
  | 33, _ => rfl
  | 34, _ => rfl
  | 35, _ => rfl
  | d + 36, h9 => exact absurd h9 (by omega)
theorem zc_ss1_4 (v : Int32) : zh_set (mkC b u sen C n) (b + 5) (.inr (1, (zSfl b C 1).set 4 (.int v))) = mkC b u sen (ziI C 54 v) n := by
  refine zc_set b u sen C n (by decide) (fun d hd => ?_) rfl
  match d, hd with
  | 0, _ => rfl
  | 1, _ => rfl
  | 2, _ => rfl
  | 3, _ => rfl
  | 4, _ => rfl
  | 5, _ => rfl
  | 6, _ => rfl
  | 7, _ => rfl
  | 8, _ => rfl
  | 9, _ => rfl
  | 10, _ => rfl
  | 11, _ => rfl
  | 12, _ => rfl
  | 13, _ => rfl
  | 14, _ => rfl
  | 15, _ => rfl
  | 16, _ => rfl
  | 17, _ => rfl
  | 18, _ => rfl
  | 19, _ => rfl
  | 20, _ => rfl
  | 21, _ => rfl
  | 22, _ => rfl
  | 23, _ => rfl
  | 24, _ => rfl
  | 25, _ => rfl
  | 26, _ => rfl
  | 27, _ => rfl
  | 28, _ => rfl
  | 29, _ => rfl
  | 30, _ => rfl
  | 31, _ => rfl
  | 32, _ => rfl
  | 33, _ => rfl
  | 34, _ => rfl
  | 35, _ => rfl
  | d + 36, h9 => exact absurd h9 (by omega)
theorem zc_ss1_5 (v : Int32) : zh_set (mkC b u sen C n) (b + 5) (.inr (1, (zSfl b C 1).set 5 (.int v))) = mkC b u sen (ziI C 55 v) n := by
  refine zc_set b u sen C n (by decide) (fun d hd => ?_) rfl
  match d, hd with
  | 0, _ => rfl
  | 1, _ => rfl
  | 2, _ => rfl
  | 3, _ => rfl
  | 4, _ => rfl
  | 5, _ => rfl
  | 6, _ => rfl
  | 7, _ => rfl
  | 8, _ => rfl
  | 9, _ => rfl
  | 10, _ => rfl
  | 11, _ => rfl
  | 12, _ => rfl
  | 13, _ => rfl
  | 14, _ => rfl
  | 15, _ => rfl
  | 16, _ => rfl
  | 17, _ => rfl
  | 18, _ => rfl
  | 19, _ => rfl
  | 20, _ => rfl
  | 21, _ => rfl
  | 22, _ => rfl
  | 23, _ => rfl
  | 24, _ => rfl
  | 25, _ => rfl
  | 26, _ => rfl
  | 27, _ => rfl
  | 28, _ => rfl
  | 29, _ => rfl
  | 30, _ => rfl
  | 31, _ => rfl
  | 32, _ => rfl
  | 33, _ => rfl
  | 34, _ => rfl
  | 35, _ => rfl
  | d + 36, h9 => exact absurd h9 (by omega)
theorem zc_ss1_6 (v : Int32) : zh_set (mkC b u sen C n) (b + 5) (.inr (1, (zSfl b C 1).set 6 (.int v))) = mkC b u sen (ziI C 56 v) n := by
  refine zc_set b u sen C n (by decide) (fun d hd => ?_) rfl
  match d, hd with
  | 0, _ => rfl
  | 1, _ => rfl
  | 2, _ => rfl
  | 3, _ => rfl
  | 4, _ => rfl
  | 5, _ => rfl
  | 6, _ => rfl
  | 7, _ => rfl
  | 8, _ => rfl
  | 9, _ => rfl
  | 10, _ => rfl
  | 11, _ => rfl
  | 12, _ => rfl
  | 13, _ => rfl
  | 14, _ => rfl
  | 15, _ => rfl
  | 16, _ => rfl
  | 17, _ => rfl
  | 18, _ => rfl
  | 19, _ => rfl
  | 20, _ => rfl
  | 21, _ => rfl
  | 22, _ => rfl
  | 23, _ => rfl
  | 24, _ => rfl
  | 25, _ => rfl
  | 26, _ => rfl
  | 27, _ => rfl
  | 28, _ => rfl
  | 29, _ => rfl
  | 30, _ => rfl
  | 31, _ => rfl
  | 32, _ => rfl
  | 33, _ => rfl
  | 34, _ => rfl
  | 35, _ => rfl
  | d + 36, h9 => exact absurd h9 (by omega)
theorem zc_sO2 : zh_O (mkC b u sen C n) (b + 9) = some (1, zSfl b C 2) := by
  unfold zh_O
  rw [zc_at b u sen C n (c := 9) (by decide)]
  rfl
theorem zc_ss2_0 (v : Int32) : zh_set (mkC b u sen C n) (b + 9) (.inr (1, (zSfl b C 2).set 0 (.int v))) = mkC b u sen (ziI C 60 v) n := by
  refine zc_set b u sen C n (by decide) (fun d hd => ?_) rfl
  match d, hd with
  | 0, _ => rfl
  | 1, _ => rfl
  | 2, _ => rfl
  | 3, _ => rfl
  | 4, _ => rfl
  | 5, _ => rfl
  | 6, _ => rfl
  | 7, _ => rfl
  | 8, _ => rfl
  | 9, _ => rfl
  | 10, _ => rfl
  | 11, _ => rfl
  | 12, _ => rfl
  | 13, _ => rfl
  | 14, _ => rfl
  | 15, _ => rfl
  | 16, _ => rfl
  | 17, _ => rfl
  | 18, _ => rfl
  | 19, _ => rfl
  | 20, _ => rfl
  | 21, _ => rfl
  | 22, _ => rfl
  | 23, _ => rfl
  | 24, _ => rfl
  | 25, _ => rfl
  | 26, _ => rfl
  | 27, _ => rfl
  | 28, _ => rfl
  | 29, _ => rfl
  | 30, _ => rfl
  | 31, _ => rfl
  | 32, _ => rfl
  | 33, _ => rfl
  | 34, _ => rfl
  | 35, _ => rfl
  | d + 36, h9 => exact absurd h9 (by omega)
theorem zc_ss2_1 (v : Int32) : zh_set (mkC b u sen C n) (b + 9) (.inr (1, (zSfl b C 2).set 1 (.int v))) = mkC b u sen (ziI C 61 v) n := by
  refine zc_set b u sen C n (by decide) (fun d hd => ?_) rfl
  match d, hd with
  | 0, _ => rfl
  | 1, _ => rfl
  | 2, _ => rfl
  | 3, _ => rfl
  | 4, _ => rfl
  | 5, _ => rfl
  | 6, _ => rfl
  | 7, _ => rfl
  | 8, _ => rfl
  | 9, _ => rfl
  | 10, _ => rfl
  | 11, _ => rfl
  | 12, _ => rfl
  | 13, _ => rfl
  | 14, _ => rfl
  | 15, _ => rfl
  | 16, _ => rfl
  | 17, _ => rfl
  | 18, _ => rfl
  | 19, _ => rfl
  | 20, _ => rfl
  | 21, _ => rfl
  | 22, _ => rfl
  | 23, _ => rfl
  | 24, _ => rfl
  | 25, _ => rfl
  | 26, _ => rfl
  | 27, _ => rfl
  | 28, _ => rfl
  | 29, _ => rfl
  | 30, _ => rfl
  | 31, _ => rfl
  | 32, _ => rfl
  | 33, _ => rfl
  | 34, _ => rfl
  | 35, _ => rfl
  | d + 36, h9 => exact absurd h9 (by omega)
theorem zc_ss2_4 (v : Int32) : zh_set (mkC b u sen C n) (b + 9) (.inr (1, (zSfl b C 2).set 4 (.int v))) = mkC b u sen (ziI C 64 v) n := by
  refine zc_set b u sen C n (by decide) (fun d hd => ?_) rfl
  match d, hd with
  | 0, _ => rfl
  | 1, _ => rfl
  | 2, _ => rfl
  | 3, _ => rfl
  | 4, _ => rfl
  | 5, _ => rfl
  | 6, _ => rfl
  | 7, _ => rfl
  | 8, _ => rfl
  | 9, _ => rfl
  | 10, _ => rfl
  | 11, _ => rfl
  | 12, _ => rfl
  | 13, _ => rfl
  | 14, _ => rfl
  | 15, _ => rfl
  | 16, _ => rfl
  | 17, _ => rfl
  | 18, _ => rfl
  | 19, _ => rfl
  | 20, _ => rfl
  | 21, _ => rfl
  | 22, _ => rfl
  | 23, _ => rfl
  | 24, _ => rfl
  | 25, _ => rfl
  | 26, _ => rfl
  | 27, _ => rfl
  | 28, _ => rfl
  | 29, _ => rfl
  | 30, _ => rfl
  | 31, _ => rfl
  | 32, _ => rfl
  | 33, _ => rfl
  | 34, _ => rfl
  | 35, _ => rfl
  | d + 36, h9 => exact absurd h9 (by omega)
theorem zc_ss2_5 (v : Int32) : zh_set (mkC b u sen C n) (b + 9) (.inr (1, (zSfl b C 2).set 5 (.int v))) = mkC b u sen (ziI C 65 v) n := by
  refine zc_set b u sen C n (by decide) (fun d hd => ?_) rfl
  match d, hd with
  | 0, _ => rfl
  | 1, _ => rfl
  | 2, _ => rfl
  | 3, _ => rfl
  | 4, _ => rfl
  | 5, _ => rfl
  | 6, _ => rfl
  | 7, _ => rfl
  | 8, _ => rfl
  | 9, _ => rfl
  | 10, _ => rfl
  | 11, _ => rfl
  | 12, _ => rfl
  | 13, _ => rfl
  | 14, _ => rfl
  | 15, _ => rfl
  | 16, _ => rfl
  | 17, _ => rfl
  | 18, _ => rfl
  | 19, _ => rfl
  | 20, _ => rfl
  | 21, _ => rfl
  | 22, _ => rfl
  | 23, _ => rfl
  | 24, _ => rfl
  | 25, _ => rfl
  | 26, _ => rfl
  | 27, _ => rfl
  | 28, _ => rfl
  | 29, _ => rfl
  | 30, _ => rfl
  | 31, _ => rfl
  | 32, _ => rfl
  | 33, _ => rfl
  | 34, _ => rfl
  | 35, _ => rfl
  | d + 36, h9 => exact absurd h9 (by omega)
theorem zc_ss2_6 (v : Int32) : zh_set (mkC b u sen C n) (b + 9) (.inr (1, (zSfl b C 2).set 6 (.int v))) = mkC b u sen (ziI C 66 v) n := by
  refine zc_set b u sen C n (by decide) (fun d hd => ?_) rfl
  match d, hd with
  | 0, _ => rfl
  | 1, _ => rfl
  | 2, _ => rfl
  | 3, _ => rfl
  | 4, _ => rfl
  | 5, _ => rfl
  | 6, _ => rfl
  | 7, _ => rfl
  | 8, _ => rfl
  | 9, _ => rfl
  | 10, _ => rfl
  | 11, _ => rfl
  | 12, _ => rfl
  | 13, _ => rfl
  | 14, _ => rfl
  | 15, _ => rfl
  | 16, _ => rfl
  | 17, _ => rfl
  | 18, _ => rfl
  | 19, _ => rfl
  | 20, _ => rfl
  | 21, _ => rfl
  | 22, _ => rfl
  | 23, _ => rfl
  | 24, _ => rfl
  | 25, _ => rfl
  | 26, _ => rfl
  | 27, _ => rfl
  | 28, _ => rfl
  | 29, _ => rfl
  | 30, _ => rfl
  | 31, _ => rfl
  | 32, _ => rfl
  | 33, _ => rfl
  | 34, _ => rfl
  | 35, _ => rfl
  | d + 36, h9 => exact absurd h9 (by omega)
theorem zc_sO3 : zh_O (mkC b u sen C n) (b + 13) = some (1, zSfl b C 3) := by
  unfold zh_O
  rw [zc_at b u sen C n (c := 13) (by decide)]
  rfl
theorem zc_ss3_0 (v : Int32) : zh_set (mkC b u sen C n) (b + 13) (.inr (1, (zSfl b C 3).set 0 (.int v))) = mkC b u sen (ziI C 70 v) n := by
  refine zc_set b u sen C n (by decide) (fun d hd => ?_) rfl
  match d, hd with
  | 0, _ => rfl
  | 1, _ => rfl
  | 2, _ => rfl
  | 3, _ => rfl
  | 4, _ => rfl
  | 5, _ => rfl
  | 6, _ => rfl
  | 7, _ => rfl
  | 8, _ => rfl
  | 9, _ => rfl
  | 10, _ => rfl
  | 11, _ => rfl
  | 12, _ => rfl
  | 13, _ => rfl
  | 14, _ => rfl
  | 15, _ => rfl
  | 16, _ => rfl
  | 17, _ => rfl
  | 18, _ => rfl
  | 19, _ => rfl
  | 20, _ => rfl
  | 21, _ => rfl
  | 22, _ => rfl
  | 23, _ => rfl
  | 24, _ => rfl
  | 25, _ => rfl
  | 26, _ => rfl
  | 27, _ => rfl
  | 28, _ => rfl
  | 29, _ => rfl
  | 30, _ => rfl
  | 31, _ => rfl
  | 32, _ => rfl
  | 33, _ => rfl
  | 34, _ => rfl
  | 35, _ => rfl
  | d + 36, h9 => exact absurd h9 (by omega)
theorem zc_ss3_1 (v : Int32) : zh_set (mkC b u sen C n) (b + 13) (.inr (1, (zSfl b C 3).set 1 (.int v))) = mkC b u sen (ziI C 71 v) n := by
  refine zc_set b u sen C n (by decide) (fun d hd => ?_) rfl
  match d, hd with
  | 0, _ => rfl
  | 1, _ => rfl
  | 2, _ => rfl
  | 3, _ => rfl
  | 4, _ => rfl
  | 5, _ => rfl
  | 6, _ => rfl
  | 7, _ => rfl
  | 8, _ => rfl
  | 9, _ => rfl
  | 10, _ => rfl
  | 11, _ => rfl
  | 12, _ => rfl
  | 13, _ => rfl
  | 14, _ => rfl
  | 15, _ => rfl
  | 16, _ => rfl
  | 17, _ => rfl
  | 18, _ => rfl
  | 19, _ => rfl
  | 20, _ => rfl
  | 21, _ => rfl
  | 22, _ => rfl
  | 23, _ => rfl
  | 24, _ => rfl
  | 25, _ => rfl
  | 26, _ => rfl
  | 27, _ => rfl
  | 28, _ => rfl
  | 29, _ => rfl
  | 30, _ => rfl
  | 31, _ => rfl
  | 32, _ => rfl
  | 33, _ => rfl
  | 34, _ => rfl
  | 35, _ => rfl
  | d + 36, h9 => exact absurd h9 (by omega)
theorem zc_ss3_4 (v : Int32) : zh_set (mkC b u sen C n) (b + 13) (.inr (1, (zSfl b C 3).set 4 (.int v))) = mkC b u sen (ziI C 74 v) n := by
  refine zc_set b u sen C n (by decide) (fun d hd => ?_) rfl
  match d, hd with
  | 0, _ => rfl
  | 1, _ => rfl
  | 2, _ => rfl
  | 3, _ => rfl
  | 4, _ => rfl
  | 5, _ => rfl
  | 6, _ => rfl
  | 7, _ => rfl
  | 8, _ => rfl
  | 9, _ => rfl
  | 10, _ => rfl
  | 11, _ => rfl
  | 12, _ => rfl
  | 13, _ => rfl
  | 14, _ => rfl
  | 15, _ => rfl
  | 16, _ => rfl
  | 17, _ => rfl
  | 18, _ => rfl
  | 19, _ => rfl
  | 20, _ => rfl
  | 21, _ => rfl
  | 22, _ => rfl
  | 23, _ => rfl
  | 24, _ => rfl
  | 25, _ => rfl
  | 26, _ => rfl
  | 27, _ => rfl
  | 28, _ => rfl
  | 29, _ => rfl
  | 30, _ => rfl
  | 31, _ => rfl
  | 32, _ => rfl
  | 33, _ => rfl
  | 34, _ => rfl
  | 35, _ => rfl
  | d + 36, h9 => exact absurd h9 (by omega)
theorem zc_ss3_5 (v : Int32) : zh_set (mkC b u sen C n) (b + 13) (.inr (1, (zSfl b C 3).set 5 (.int v))) = mkC b u sen (ziI C 75 v) n := by
  refine zc_set b u sen C n (by decide) (fun d hd => ?_) rfl
  match d, hd with
  | 0, _ => rfl
  | 1, _ => rfl
  | 2, _ => rfl
  | 3, _ => rfl
  | 4, _ => rfl
  | 5, _ => rfl
  | 6, _ => rfl
  | 7, _ => rfl
  | 8, _ => rfl
  | 9, _ => rfl
  | 10, _ => rfl
  | 11, _ => rfl
  | 12, _ => rfl
  | 13, _ => rfl
  | 14, _ => rfl
  | 15, _ => rfl
  | 16, _ => rfl
  | 17, _ => rfl
  | 18, _ => rfl
  | 19, _ => rfl
  | 20, _ => rfl
  | 21, _ => rfl
  | 22, _ => rfl
  | 23, _ => rfl
  | 24, _ => rfl
  | 25, _ => rfl
  | 26, _ => rfl
  | 27, _ => rfl
  | 28, _ => rfl
  | 29, _ => rfl
  | 30, _ => rfl
  | 31, _ => rfl
  | 32, _ => rfl
  | 33, _ => rfl
  | 34, _ => rfl
  | 35, _ => rfl
  | d + 36, h9 => exact absurd h9 (by omega)
theorem zc_ss3_6 (v : Int32) : zh_set (mkC b u sen C n) (b + 13) (.inr (1, (zSfl b C 3).set 6 (.int v))) = mkC b u sen (ziI C 76 v) n := by
  refine zc_set b u sen C n (by decide) (fun d hd => ?_) rfl
  match d, hd with
  | 0, _ => rfl
  | 1, _ => rfl
  | 2, _ => rfl
  | 3, _ => rfl
  | 4, _ => rfl
  | 5, _ => rfl
  | 6, _ => rfl
  | 7, _ => rfl
  | 8, _ => rfl
  | 9, _ => rfl
  | 10, _ => rfl
  | 11, _ => rfl
  | 12, _ => rfl
  | 13, _ => rfl
  | 14, _ => rfl
  | 15, _ => rfl
  | 16, _ => rfl
  | 17, _ => rfl
  | 18, _ => rfl
  | 19, _ => rfl
  | 20, _ => rfl
  | 21, _ => rfl
  | 22, _ => rfl
  | 23, _ => rfl
  | 24, _ => rfl
  | 25, _ => rfl
  | 26, _ => rfl
  | 27, _ => rfl
  | 28, _ => rfl
  | 29, _ => rfl
  | 30, _ => rfl
  | 31, _ => rfl
  | 32, _ => rfl
  | 33, _ => rfl
  | 34, _ => rfl
  | 35, _ => rfl
  | d + 36, h9 => exact absurd h9 (by omega)
theorem zc_sO {q : Nat} (hq : q < 4) : zh_O (mkC b u sen C n) (zsa b q) = some (1, zSfl b C q) := by
  rcases (show q = 0 ∨ q = 1 ∨ q = 2 ∨ q = 3 by omega) with rfl | rfl | rfl | rfl
  · exact zc_sO0 b u sen C n
  · exact zc_sO1 b u sen C n
  · exact zc_sO2 b u sen C n
  · exact zc_sO3 b u sen C n
theorem zc_sK {q : Nat} (hq : q < 4) : zk_C 1 (mkC b u sen C n) (zsa b q) = some () := by
  unfold zk_C
  rw [zc_sO b u sen C n hq]
  rfl
theorem zc_sV {q : Nat} (hq : q < 4) (k : Nat) : zg_V [1] (mkC b u sen C n) (zsa b q) k = (zSfl b C q)[k]? := by
  unfold zg_V
  rw [zc_sO b u sen C n hq]
  rfl
theorem zc_sR2 {q : Nat} (hq : q < 4) : zg_R [1] (mkC b u sen C n) (zsa b q) 2 = some (zra b q) := by unfold zg_R; rw [zc_sV b u sen C n hq]; rfl
theorem zc_sR3 {q : Nat} (hq : q < 4) : zg_R [1] (mkC b u sen C n) (zsa b q) 3 = some (zwa b q) := by unfold zg_R; rw [zc_sV b u sen C n hq]; rfl
theorem zc_sR7 {q : Nat} (hq : q < 4) : zg_R [1] (mkC b u sen C n) (zsa b q) 7 = some (zta b q) := by unfold zg_R; rw [zc_sV b u sen C n hq]; rfl
theorem zc_sI0 {q : Nat} (hq : q < 4) : zg_I [1] (mkC b u sen C n) (zsa b q) 0 = some (C.1 (40 + 10 * q)) := by unfold zg_I; rw [zc_sV b u sen C n hq]; rfl
theorem zc_sI1 {q : Nat} (hq : q < 4) : zg_I [1] (mkC b u sen C n) (zsa b q) 1 = some (C.1 (41 + 10 * q)) := by unfold zg_I; rw [zc_sV b u sen C n hq]; rfl
theorem zc_sI4 {q : Nat} (hq : q < 4) : zg_I [1] (mkC b u sen C n) (zsa b q) 4 = some (C.1 (44 + 10 * q)) := by unfold zg_I; rw [zc_sV b u sen C n hq]; rfl
theorem zc_sI5 {q : Nat} (hq : q < 4) : zg_I [1] (mkC b u sen C n) (zsa b q) 5 = some (C.1 (45 + 10 * q)) := by unfold zg_I; rw [zc_sV b u sen C n hq]; rfl
theorem zc_sI6 {q : Nat} (hq : q < 4) : zg_I [1] (mkC b u sen C n) (zsa b q) 6 = some (C.1 (46 + 10 * q)) := by unfold zg_I; rw [zc_sV b u sen C n hq]; rfl
theorem zc_sP0 {q : Nat} (hq : q < 4) (v : Int32) : zp_V [1] (mkC b u sen C n) (zsa b q) 0 (.int v) = some (mkC b u sen (ziI C (40 + 10 * q) v) n) := by
  rcases (show q = 0 ∨ q = 1 ∨ q = 2 ∨ q = 3 by omega) with rfl | rfl | rfl | rfl
  · unfold zp_V
    rw [zc_sO b u sen C n (by decide)]
    exact congrArg some (zc_ss0_0 b u sen C n v)
  · unfold zp_V
    rw [zc_sO b u sen C n (by decide)]
    exact congrArg some (zc_ss1_0 b u sen C n v)
  · unfold zp_V
    rw [zc_sO b u sen C n (by decide)]
    exact congrArg some (zc_ss2_0 b u sen C n v)
  · unfold zp_V
    rw [zc_sO b u sen C n (by decide)]
    exact congrArg some (zc_ss3_0 b u sen C n v)
theorem zc_sP1 {q : Nat} (hq : q < 4) (v : Int32) : zp_V [1] (mkC b u sen C n) (zsa b q) 1 (.int v) = some (mkC b u sen (ziI C (41 + 10 * q) v) n) := by
  rcases (show q = 0 ∨ q = 1 ∨ q = 2 ∨ q = 3 by omega) with rfl | rfl | rfl | rfl
  · unfold zp_V
    rw [zc_sO b u sen C n (by decide)]
    exact congrArg some (zc_ss0_1 b u sen C n v)
  · unfold zp_V
    rw [zc_sO b u sen C n (by decide)]
    exact congrArg some (zc_ss1_1 b u sen C n v)
  · unfold zp_V
    rw [zc_sO b u sen C n (by decide)]
    exact congrArg some (zc_ss2_1 b u sen C n v)
  · unfold zp_V
    rw [zc_sO b u sen C n (by decide)]
    exact congrArg some (zc_ss3_1 b u sen C n v)
theorem zc_sP4 {q : Nat} (hq : q < 4) (v : Int32) : zp_V [1] (mkC b u sen C n) (zsa b q) 4 (.int v) = some (mkC b u sen (ziI C (44 + 10 * q) v) n) := by
  rcases (show q = 0 ∨ q = 1 ∨ q = 2 ∨ q = 3 by omega) with rfl | rfl | rfl | rfl
  · unfold zp_V
    rw [zc_sO b u sen C n (by decide)]
    exact congrArg some (zc_ss0_4 b u sen C n v)
  · unfold zp_V
    rw [zc_sO b u sen C n (by decide)]
    exact congrArg some (zc_ss1_4 b u sen C n v)
  · unfold zp_V
    rw [zc_sO b u sen C n (by decide)]
    exact congrArg some (zc_ss2_4 b u sen C n v)
  · unfold zp_V
    rw [zc_sO b u sen C n (by decide)]
    exact congrArg some (zc_ss3_4 b u sen C n v)
theorem zc_sP5 {q : Nat} (hq : q < 4) (v : Int32) : zp_V [1] (mkC b u sen C n) (zsa b q) 5 (.int v) = some (mkC b u sen (ziI C (45 + 10 * q) v) n) := by
  rcases (show q = 0 ∨ q = 1 ∨ q = 2 ∨ q = 3 by omega) with rfl | rfl | rfl | rfl
  · unfold zp_V
    rw [zc_sO b u sen C n (by decide)]
    exact congrArg some (zc_ss0_5 b u sen C n v)
  · unfold zp_V
    rw [zc_sO b u sen C n (by decide)]
    exact congrArg some (zc_ss1_5 b u sen C n v)
  · unfold zp_V
    rw [zc_sO b u sen C n (by decide)]
    exact congrArg some (zc_ss2_5 b u sen C n v)
  · unfold zp_V
    rw [zc_sO b u sen C n (by decide)]
    exact congrArg some (zc_ss3_5 b u sen C n v)
theorem zc_sP6 {q : Nat} (hq : q < 4) (v : Int32) : zp_V [1] (mkC b u sen C n) (zsa b q) 6 (.int v) = some (mkC b u sen (ziI C (46 + 10 * q) v) n) := by
  rcases (show q = 0 ∨ q = 1 ∨ q = 2 ∨ q = 3 by omega) with rfl | rfl | rfl | rfl
  · unfold zp_V
    rw [zc_sO b u sen C n (by decide)]
    exact congrArg some (zc_ss0_6 b u sen C n v)
  · unfold zp_V
    rw [zc_sO b u sen C n (by decide)]
    exact congrArg some (zc_ss1_6 b u sen C n v)
  · unfold zp_V
    rw [zc_sO b u sen C n (by decide)]
    exact congrArg some (zc_ss2_6 b u sen C n v)
  · unfold zp_V
    rw [zc_sO b u sen C n (by decide)]
    exact congrArg some (zc_ss3_6 b u sen C n v)
theorem zc_Aof {a N k : Nat} {ty : FieldType} (h : (mkC b u sen C n).1 a = some (.inl (ty, N, .inl (C.2.1 k)))) : zh_A ty (mkC b u sen C n) a = some (N, C.2.1 k) := by
  unfold zh_A
  rw [h]
  simp
theorem zc_Qof {a N k : Nat} {Cl : String} (h : (mkC b u sen C n).1 a = some (zqc Cl N (C.2.2.1 k))) : zh_Q Cl (mkC b u sen C n) a = some (N, C.2.2.1 k) := by
  unfold zh_Q
  rw [h]
  simp [zqc]
theorem zc_aI {a N k : Nat} {ty : FieldType} (h : zh_A ty (mkC b u sen C n) a = some (N, C.2.1 k)) (i : Int32) : za_I ty (mkC b u sen C n) a i = if i < 0 ∨ N ≤ i.toNatClampNeg then none else some (C.2.1 k i.toNatClampNeg) := by
  unfold za_I
  rw [h]
  rfl
theorem zc_sI {a N k : Nat} {ty : FieldType} (h : zh_A ty (mkC b u sen C n) a = some (N, C.2.1 k)) (hs : ∀ f, zh_set (mkC b u sen C n) a (.inl (ty, N, .inl f)) = mkC b u sen (ziA C k f) n) (i v : Int32) : zs_I ty (mkC b u sen C n) a i v = if i < 0 ∨ N ≤ i.toNatClampNeg then none else some (mkC b u sen (ziA C k (upd (C.2.1 k) i.toNatClampNeg v)) n) := by
  unfold zs_I
  rw [h]
  show (if i < 0 ∨ N ≤ i.toNatClampNeg then none else some (zh_set (mkC b u sen C n) a (.inl (ty, N, .inl (upd (C.2.1 k) i.toNatClampNeg v))))) = _
  rw [hs]
theorem zc_ws0 (f : Nat → Int32) : zh_set (mkC b u sen C n) (b + 3) (.inl (.int, 16, .inl f)) = mkC b u sen (ziA C 0 f) n := by
  refine zc_set b u sen C n (by decide) (fun d hd => ?_) rfl
  match d, hd with
  | 0, _ => rfl
  | 1, _ => rfl
  | 2, _ => rfl
  | 3, _ => rfl
  | 4, _ => rfl
  | 5, _ => rfl
  | 6, _ => rfl
  | 7, _ => rfl
  | 8, _ => rfl
  | 9, _ => rfl
  | 10, _ => rfl
  | 11, _ => rfl
  | 12, _ => rfl
  | 13, _ => rfl
  | 14, _ => rfl
  | 15, _ => rfl
  | 16, _ => rfl
  | 17, _ => rfl
  | 18, _ => rfl
  | 19, _ => rfl
  | 20, _ => rfl
  | 21, _ => rfl
  | 22, _ => rfl
  | 23, _ => rfl
  | 24, _ => rfl
  | 25, _ => rfl
  | 26, _ => rfl
  | 27, _ => rfl
  | 28, _ => rfl
  | 29, _ => rfl
  | 30, _ => rfl
  | 31, _ => rfl
  | 32, _ => rfl
  | 33, _ => rfl
  | 34, _ => rfl
  | 35, _ => rfl
  | d + 36, h9 => exact absurd h9 (by omega)
theorem zc_ws1 (f : Nat → Int32) : zh_set (mkC b u sen C n) (b + 7) (.inl (.int, 16, .inl f)) = mkC b u sen (ziA C 1 f) n := by
  refine zc_set b u sen C n (by decide) (fun d hd => ?_) rfl
  match d, hd with
  | 0, _ => rfl
  | 1, _ => rfl
  | 2, _ => rfl
  | 3, _ => rfl
  | 4, _ => rfl
  | 5, _ => rfl
  | 6, _ => rfl
  | 7, _ => rfl
  | 8, _ => rfl
  | 9, _ => rfl
  | 10, _ => rfl
  | 11, _ => rfl
  | 12, _ => rfl
  | 13, _ => rfl
  | 14, _ => rfl
  | 15, _ => rfl
  | 16, _ => rfl
  | 17, _ => rfl
  | 18, _ => rfl
  | 19, _ => rfl
  | 20, _ => rfl
  | 21, _ => rfl
  | 22, _ => rfl
  | 23, _ => rfl
  | 24, _ => rfl
  | 25, _ => rfl
  | 26, _ => rfl
  | 27, _ => rfl
  | 28, _ => rfl
  | 29, _ => rfl
  | 30, _ => rfl
  | 31, _ => rfl
  | 32, _ => rfl
  | 33, _ => rfl
  | 34, _ => rfl
  | 35, _ => rfl
  | d + 36, h9 => exact absurd h9 (by omega)
theorem zc_ws2 (f : Nat → Int32) : zh_set (mkC b u sen C n) (b + 11) (.inl (.int, 16, .inl f)) = mkC b u sen (ziA C 2 f) n := by
  refine zc_set b u sen C n (by decide) (fun d hd => ?_) rfl
  match d, hd with
  | 0, _ => rfl
  | 1, _ => rfl
  | 2, _ => rfl
  | 3, _ => rfl
  | 4, _ => rfl
  | 5, _ => rfl
  | 6, _ => rfl
  | 7, _ => rfl
  | 8, _ => rfl
  | 9, _ => rfl
  | 10, _ => rfl
  | 11, _ => rfl
  | 12, _ => rfl
  | 13, _ => rfl
  | 14, _ => rfl
  | 15, _ => rfl
  | 16, _ => rfl
  | 17, _ => rfl
  | 18, _ => rfl
  | 19, _ => rfl
  | 20, _ => rfl
  | 21, _ => rfl
  | 22, _ => rfl
  | 23, _ => rfl
  | 24, _ => rfl
  | 25, _ => rfl
  | 26, _ => rfl
  | 27, _ => rfl
  | 28, _ => rfl
  | 29, _ => rfl
  | 30, _ => rfl
  | 31, _ => rfl
  | 32, _ => rfl
  | 33, _ => rfl
  | 34, _ => rfl
  | 35, _ => rfl
  | d + 36, h9 => exact absurd h9 (by omega)
theorem zc_ws3 (f : Nat → Int32) : zh_set (mkC b u sen C n) (b + 15) (.inl (.int, 16, .inl f)) = mkC b u sen (ziA C 3 f) n := by
  refine zc_set b u sen C n (by decide) (fun d hd => ?_) rfl
  match d, hd with
  | 0, _ => rfl
  | 1, _ => rfl
  | 2, _ => rfl
  | 3, _ => rfl
  | 4, _ => rfl
  | 5, _ => rfl
  | 6, _ => rfl
  | 7, _ => rfl
  | 8, _ => rfl
  | 9, _ => rfl
  | 10, _ => rfl
  | 11, _ => rfl
  | 12, _ => rfl
  | 13, _ => rfl
  | 14, _ => rfl
  | 15, _ => rfl
  | 16, _ => rfl
  | 17, _ => rfl
  | 18, _ => rfl
  | 19, _ => rfl
  | 20, _ => rfl
  | 21, _ => rfl
  | 22, _ => rfl
  | 23, _ => rfl
  | 24, _ => rfl
  | 25, _ => rfl
  | 26, _ => rfl
  | 27, _ => rfl
  | 28, _ => rfl
  | 29, _ => rfl
  | 30, _ => rfl
  | 31, _ => rfl
  | 32, _ => rfl
  | 33, _ => rfl
  | 34, _ => rfl
  | 35, _ => rfl
  | d + 36, h9 => exact absurd h9 (by omega)
theorem zc_wA {q : Nat} (hq : q < 4) : zh_A .int (mkC b u sen C n) (zwa b q) = some (16, C.2.1 q) := by
  rcases (show q = 0 ∨ q = 1 ∨ q = 2 ∨ q = 3 by omega) with rfl | rfl | rfl | rfl
  · exact zc_Aof b u sen C n (zc_at b u sen C n (c := 3) (by decide))
  · exact zc_Aof b u sen C n (zc_at b u sen C n (c := 7) (by decide))
  · exact zc_Aof b u sen C n (zc_at b u sen C n (c := 11) (by decide))
  · exact zc_Aof b u sen C n (zc_at b u sen C n (c := 15) (by decide))
theorem zc_wS {q : Nat} (hq : q < 4) (f : Nat → Int32) : zh_set (mkC b u sen C n) (zwa b q) (.inl (.int, 16, .inl f)) = mkC b u sen (ziA C q f) n := by
  rcases (show q = 0 ∨ q = 1 ∨ q = 2 ∨ q = 3 by omega) with rfl | rfl | rfl | rfl
  · exact zc_ws0 b u sen C n f
  · exact zc_ws1 b u sen C n f
  · exact zc_ws2 b u sen C n f
  · exact zc_ws3 b u sen C n f
theorem zc_ar17 (f : Nat → Int32) : zh_set (mkC b u sen C n) (b + 17) (.inl (.int, 96, .inl f)) = mkC b u sen (ziA C 10 f) n := by
  refine zc_set b u sen C n (by decide) (fun d hd => ?_) rfl
  match d, hd with
  | 0, _ => rfl
  | 1, _ => rfl
  | 2, _ => rfl
  | 3, _ => rfl
  | 4, _ => rfl
  | 5, _ => rfl
  | 6, _ => rfl
  | 7, _ => rfl
  | 8, _ => rfl
  | 9, _ => rfl
  | 10, _ => rfl
  | 11, _ => rfl
  | 12, _ => rfl
  | 13, _ => rfl
  | 14, _ => rfl
  | 15, _ => rfl
  | 16, _ => rfl
  | 17, _ => rfl
  | 18, _ => rfl
  | 19, _ => rfl
  | 20, _ => rfl
  | 21, _ => rfl
  | 22, _ => rfl
  | 23, _ => rfl
  | 24, _ => rfl
  | 25, _ => rfl
  | 26, _ => rfl
  | 27, _ => rfl
  | 28, _ => rfl
  | 29, _ => rfl
  | 30, _ => rfl
  | 31, _ => rfl
  | 32, _ => rfl
  | 33, _ => rfl
  | 34, _ => rfl
  | 35, _ => rfl
  | d + 36, h9 => exact absurd h9 (by omega)
theorem zc_A17 : zh_A .int (mkC b u sen C n) (b + 17) = some (96, C.2.1 10) := zc_Aof b u sen C n (zc_at b u sen C n (c := 17) (by decide))
theorem zc_ar18 (f : Nat → Int32) : zh_set (mkC b u sen C n) (b + 18) (.inl (.byte, 96, .inl f)) = mkC b u sen (ziA C 11 f) n := by
  refine zc_set b u sen C n (by decide) (fun d hd => ?_) rfl
  match d, hd with
  | 0, _ => rfl
  | 1, _ => rfl
  | 2, _ => rfl
  | 3, _ => rfl
  | 4, _ => rfl
  | 5, _ => rfl
  | 6, _ => rfl
  | 7, _ => rfl
  | 8, _ => rfl
  | 9, _ => rfl
  | 10, _ => rfl
  | 11, _ => rfl
  | 12, _ => rfl
  | 13, _ => rfl
  | 14, _ => rfl
  | 15, _ => rfl
  | 16, _ => rfl
  | 17, _ => rfl
  | 18, _ => rfl
  | 19, _ => rfl
  | 20, _ => rfl
  | 21, _ => rfl
  | 22, _ => rfl
  | 23, _ => rfl
  | 24, _ => rfl
  | 25, _ => rfl
  | 26, _ => rfl
  | 27, _ => rfl
  | 28, _ => rfl
  | 29, _ => rfl
  | 30, _ => rfl
  | 31, _ => rfl
  | 32, _ => rfl
  | 33, _ => rfl
  | 34, _ => rfl
  | 35, _ => rfl
  | d + 36, h9 => exact absurd h9 (by omega)
theorem zc_A18 : zh_A .byte (mkC b u sen C n) (b + 18) = some (96, C.2.1 11) := zc_Aof b u sen C n (zc_at b u sen C n (c := 18) (by decide))
theorem zc_ar20 (f : Nat → Int32) : zh_set (mkC b u sen C n) (b + 20) (.inl (.int, 128, .inl f)) = mkC b u sen (ziA C 12 f) n := by
  refine zc_set b u sen C n (by decide) (fun d hd => ?_) rfl
  match d, hd with
  | 0, _ => rfl
  | 1, _ => rfl
  | 2, _ => rfl
  | 3, _ => rfl
  | 4, _ => rfl
  | 5, _ => rfl
  | 6, _ => rfl
  | 7, _ => rfl
  | 8, _ => rfl
  | 9, _ => rfl
  | 10, _ => rfl
  | 11, _ => rfl
  | 12, _ => rfl
  | 13, _ => rfl
  | 14, _ => rfl
  | 15, _ => rfl
  | 16, _ => rfl
  | 17, _ => rfl
  | 18, _ => rfl
  | 19, _ => rfl
  | 20, _ => rfl
  | 21, _ => rfl
  | 22, _ => rfl
  | 23, _ => rfl
  | 24, _ => rfl
  | 25, _ => rfl
  | 26, _ => rfl
  | 27, _ => rfl
  | 28, _ => rfl
  | 29, _ => rfl
  | 30, _ => rfl
  | 31, _ => rfl
  | 32, _ => rfl
  | 33, _ => rfl
  | 34, _ => rfl
  | 35, _ => rfl
  | d + 36, h9 => exact absurd h9 (by omega)
theorem zc_A20 : zh_A .int (mkC b u sen C n) (b + 20) = some (128, C.2.1 12) := zc_Aof b u sen C n (zc_at b u sen C n (c := 20) (by decide))
theorem zc_ar21 (f : Nat → Int32) : zh_set (mkC b u sen C n) (b + 21) (.inl (.int, 9, .inl f)) = mkC b u sen (ziA C 13 f) n := by
  refine zc_set b u sen C n (by decide) (fun d hd => ?_) rfl
  match d, hd with
  | 0, _ => rfl
  | 1, _ => rfl
  | 2, _ => rfl
  | 3, _ => rfl
  | 4, _ => rfl
  | 5, _ => rfl
  | 6, _ => rfl
  | 7, _ => rfl
  | 8, _ => rfl
  | 9, _ => rfl
  | 10, _ => rfl
  | 11, _ => rfl
  | 12, _ => rfl
  | 13, _ => rfl
  | 14, _ => rfl
  | 15, _ => rfl
  | 16, _ => rfl
  | 17, _ => rfl
  | 18, _ => rfl
  | 19, _ => rfl
  | 20, _ => rfl
  | 21, _ => rfl
  | 22, _ => rfl
  | 23, _ => rfl
  | 24, _ => rfl
  | 25, _ => rfl
  | 26, _ => rfl
  | 27, _ => rfl
  | 28, _ => rfl
  | 29, _ => rfl
  | 30, _ => rfl
  | 31, _ => rfl
  | 32, _ => rfl
  | 33, _ => rfl
  | 34, _ => rfl
  | 35, _ => rfl
  | d + 36, h9 => exact absurd h9 (by omega)
theorem zc_A21 : zh_A .int (mkC b u sen C n) (b + 21) = some (9, C.2.1 13) := zc_Aof b u sen C n (zc_at b u sen C n (c := 21) (by decide))
theorem zc_ar34 (f : Nat → Int32) : zh_set (mkC b u sen C n) (b + 34) (.inl (.int, 60, .inl f)) = mkC b u sen (ziA C 14 f) n := by
  refine zc_set b u sen C n (by decide) (fun d hd => ?_) rfl
  match d, hd with
  | 0, _ => rfl
  | 1, _ => rfl
  | 2, _ => rfl
  | 3, _ => rfl
  | 4, _ => rfl
  | 5, _ => rfl
  | 6, _ => rfl
  | 7, _ => rfl
  | 8, _ => rfl
  | 9, _ => rfl
  | 10, _ => rfl
  | 11, _ => rfl
  | 12, _ => rfl
  | 13, _ => rfl
  | 14, _ => rfl
  | 15, _ => rfl
  | 16, _ => rfl
  | 17, _ => rfl
  | 18, _ => rfl
  | 19, _ => rfl
  | 20, _ => rfl
  | 21, _ => rfl
  | 22, _ => rfl
  | 23, _ => rfl
  | 24, _ => rfl
  | 25, _ => rfl
  | 26, _ => rfl
  | 27, _ => rfl
  | 28, _ => rfl
  | 29, _ => rfl
  | 30, _ => rfl
  | 31, _ => rfl
  | 32, _ => rfl
  | 33, _ => rfl
  | 34, _ => rfl
  | 35, _ => rfl
  | d + 36, h9 => exact absurd h9 (by omega)
theorem zc_A34 : zh_A .int (mkC b u sen C n) (b + 34) = some (60, C.2.1 14) := zc_Aof b u sen C n (zc_at b u sen C n (c := 34) (by decide))
theorem zc_ar35 (f : Nat → Int32) : zh_set (mkC b u sen C n) (b + 35) (.inl (.int, 60, .inl f)) = mkC b u sen (ziA C 15 f) n := by
  refine zc_set b u sen C n (by decide) (fun d hd => ?_) rfl
  match d, hd with
  | 0, _ => rfl
  | 1, _ => rfl
  | 2, _ => rfl
  | 3, _ => rfl
  | 4, _ => rfl
  | 5, _ => rfl
  | 6, _ => rfl
  | 7, _ => rfl
  | 8, _ => rfl
  | 9, _ => rfl
  | 10, _ => rfl
  | 11, _ => rfl
  | 12, _ => rfl
  | 13, _ => rfl
  | 14, _ => rfl
  | 15, _ => rfl
  | 16, _ => rfl
  | 17, _ => rfl
  | 18, _ => rfl
  | 19, _ => rfl
  | 20, _ => rfl
  | 21, _ => rfl
  | 22, _ => rfl
  | 23, _ => rfl
  | 24, _ => rfl
  | 25, _ => rfl
  | 26, _ => rfl
  | 27, _ => rfl
  | 28, _ => rfl
  | 29, _ => rfl
  | 30, _ => rfl
  | 31, _ => rfl
  | 32, _ => rfl
  | 33, _ => rfl
  | 34, _ => rfl
  | 35, _ => rfl
  | d + 36, h9 => exact absurd h9 (by omega)
theorem zc_A35 : zh_A .int (mkC b u sen C n) (b + 35) = some (60, C.2.1 15) := zc_Aof b u sen C n (zc_at b u sen C n (c := 35) (by decide))
theorem zc_rs0 (f : Nat → Option Nat) : zh_set (mkC b u sen C n) (b + 2) (zqc "StoneSheets$Rubbing" 9 f) = mkC b u sen (ziQ C 0 f) n := by
  refine zc_set b u sen C n (by decide) (fun d hd => ?_) rfl
  match d, hd with
  | 0, _ => rfl
  | 1, _ => rfl
  | 2, _ => rfl
  | 3, _ => rfl
  | 4, _ => rfl
  | 5, _ => rfl
  | 6, _ => rfl
  | 7, _ => rfl
  | 8, _ => rfl
  | 9, _ => rfl
  | 10, _ => rfl
  | 11, _ => rfl
  | 12, _ => rfl
  | 13, _ => rfl
  | 14, _ => rfl
  | 15, _ => rfl
  | 16, _ => rfl
  | 17, _ => rfl
  | 18, _ => rfl
  | 19, _ => rfl
  | 20, _ => rfl
  | 21, _ => rfl
  | 22, _ => rfl
  | 23, _ => rfl
  | 24, _ => rfl
  | 25, _ => rfl
  | 26, _ => rfl
  | 27, _ => rfl
  | 28, _ => rfl
  | 29, _ => rfl
  | 30, _ => rfl
  | 31, _ => rfl
  | 32, _ => rfl
  | 33, _ => rfl
  | 34, _ => rfl
  | 35, _ => rfl
  | d + 36, h9 => exact absurd h9 (by omega)
theorem zc_ts0 (f : Nat → Option Nat) : zh_set (mkC b u sen C n) (b + 4) (zqc "StoneSheets$Text" 14 f) = mkC b u sen (ziQ C 4 f) n := by
  refine zc_set b u sen C n (by decide) (fun d hd => ?_) rfl
  match d, hd with
  | 0, _ => rfl
  | 1, _ => rfl
  | 2, _ => rfl
  | 3, _ => rfl
  | 4, _ => rfl
  | 5, _ => rfl
  | 6, _ => rfl
  | 7, _ => rfl
  | 8, _ => rfl
  | 9, _ => rfl
  | 10, _ => rfl
  | 11, _ => rfl
  | 12, _ => rfl
  | 13, _ => rfl
  | 14, _ => rfl
  | 15, _ => rfl
  | 16, _ => rfl
  | 17, _ => rfl
  | 18, _ => rfl
  | 19, _ => rfl
  | 20, _ => rfl
  | 21, _ => rfl
  | 22, _ => rfl
  | 23, _ => rfl
  | 24, _ => rfl
  | 25, _ => rfl
  | 26, _ => rfl
  | 27, _ => rfl
  | 28, _ => rfl
  | 29, _ => rfl
  | 30, _ => rfl
  | 31, _ => rfl
  | 32, _ => rfl
  | 33, _ => rfl
  | 34, _ => rfl
  | 35, _ => rfl
  | d + 36, h9 => exact absurd h9 (by omega)
theorem zc_rs1 (f : Nat → Option Nat) : zh_set (mkC b u sen C n) (b + 6) (zqc "StoneSheets$Rubbing" 9 f) = mkC b u sen (ziQ C 1 f) n := by
  refine zc_set b u sen C n (by decide) (fun d hd => ?_) rfl
  match d, hd with
  | 0, _ => rfl
  | 1, _ => rfl
  | 2, _ => rfl
  | 3, _ => rfl
  | 4, _ => rfl
  | 5, _ => rfl
  | 6, _ => rfl
  | 7, _ => rfl
  | 8, _ => rfl
  | 9, _ => rfl
  | 10, _ => rfl
  | 11, _ => rfl
  | 12, _ => rfl
  | 13, _ => rfl
  | 14, _ => rfl
  | 15, _ => rfl
  | 16, _ => rfl
  | 17, _ => rfl
  | 18, _ => rfl
  | 19, _ => rfl
  | 20, _ => rfl
  | 21, _ => rfl
  | 22, _ => rfl
  | 23, _ => rfl
  | 24, _ => rfl
  | 25, _ => rfl
  | 26, _ => rfl
  | 27, _ => rfl
  | 28, _ => rfl
  | 29, _ => rfl
  | 30, _ => rfl
  | 31, _ => rfl
  | 32, _ => rfl
  | 33, _ => rfl
  | 34, _ => rfl
  | 35, _ => rfl
  | d + 36, h9 => exact absurd h9 (by omega)
theorem zc_ts1 (f : Nat → Option Nat) : zh_set (mkC b u sen C n) (b + 8) (zqc "StoneSheets$Text" 14 f) = mkC b u sen (ziQ C 5 f) n := by
  refine zc_set b u sen C n (by decide) (fun d hd => ?_) rfl
  match d, hd with
  | 0, _ => rfl
  | 1, _ => rfl
  | 2, _ => rfl
  | 3, _ => rfl
  | 4, _ => rfl
  | 5, _ => rfl
  | 6, _ => rfl
  | 7, _ => rfl
  | 8, _ => rfl
  | 9, _ => rfl
  | 10, _ => rfl
  | 11, _ => rfl
  | 12, _ => rfl
  | 13, _ => rfl
  | 14, _ => rfl
  | 15, _ => rfl
  | 16, _ => rfl
  | 17, _ => rfl
  | 18, _ => rfl
  | 19, _ => rfl
  | 20, _ => rfl
  | 21, _ => rfl
  | 22, _ => rfl
  | 23, _ => rfl
  | 24, _ => rfl
  | 25, _ => rfl
  | 26, _ => rfl
  | 27, _ => rfl
  | 28, _ => rfl
  | 29, _ => rfl
  | 30, _ => rfl
  | 31, _ => rfl
  | 32, _ => rfl
  | 33, _ => rfl
  | 34, _ => rfl
  | 35, _ => rfl
  | d + 36, h9 => exact absurd h9 (by omega)
theorem zc_rs2 (f : Nat → Option Nat) : zh_set (mkC b u sen C n) (b + 10) (zqc "StoneSheets$Rubbing" 9 f) = mkC b u sen (ziQ C 2 f) n := by
  refine zc_set b u sen C n (by decide) (fun d hd => ?_) rfl
  match d, hd with
  | 0, _ => rfl
  | 1, _ => rfl
  | 2, _ => rfl
  | 3, _ => rfl
  | 4, _ => rfl
  | 5, _ => rfl
  | 6, _ => rfl
  | 7, _ => rfl
  | 8, _ => rfl
  | 9, _ => rfl
  | 10, _ => rfl
  | 11, _ => rfl
  | 12, _ => rfl
  | 13, _ => rfl
  | 14, _ => rfl
  | 15, _ => rfl
  | 16, _ => rfl
  | 17, _ => rfl
  | 18, _ => rfl
  | 19, _ => rfl
  | 20, _ => rfl
  | 21, _ => rfl
  | 22, _ => rfl
  | 23, _ => rfl
  | 24, _ => rfl
  | 25, _ => rfl
  | 26, _ => rfl
  | 27, _ => rfl
  | 28, _ => rfl
  | 29, _ => rfl
  | 30, _ => rfl
  | 31, _ => rfl
  | 32, _ => rfl
  | 33, _ => rfl
  | 34, _ => rfl
  | 35, _ => rfl
  | d + 36, h9 => exact absurd h9 (by omega)
theorem zc_ts2 (f : Nat → Option Nat) : zh_set (mkC b u sen C n) (b + 12) (zqc "StoneSheets$Text" 14 f) = mkC b u sen (ziQ C 6 f) n := by
  refine zc_set b u sen C n (by decide) (fun d hd => ?_) rfl
  match d, hd with
  | 0, _ => rfl
  | 1, _ => rfl
  | 2, _ => rfl
  | 3, _ => rfl
  | 4, _ => rfl
  | 5, _ => rfl
  | 6, _ => rfl
  | 7, _ => rfl
  | 8, _ => rfl
  | 9, _ => rfl
  | 10, _ => rfl
  | 11, _ => rfl
  | 12, _ => rfl
  | 13, _ => rfl
  | 14, _ => rfl
  | 15, _ => rfl
  | 16, _ => rfl
  | 17, _ => rfl
  | 18, _ => rfl
  | 19, _ => rfl
  | 20, _ => rfl
  | 21, _ => rfl
  | 22, _ => rfl
  | 23, _ => rfl
  | 24, _ => rfl
  | 25, _ => rfl
  | 26, _ => rfl
  | 27, _ => rfl
  | 28, _ => rfl
  | 29, _ => rfl
  | 30, _ => rfl
  | 31, _ => rfl
  | 32, _ => rfl
  | 33, _ => rfl
  | 34, _ => rfl
  | 35, _ => rfl
  | d + 36, h9 => exact absurd h9 (by omega)
theorem zc_rs3 (f : Nat → Option Nat) : zh_set (mkC b u sen C n) (b + 14) (zqc "StoneSheets$Rubbing" 9 f) = mkC b u sen (ziQ C 3 f) n := by
  refine zc_set b u sen C n (by decide) (fun d hd => ?_) rfl
  match d, hd with
  | 0, _ => rfl
  | 1, _ => rfl
  | 2, _ => rfl
  | 3, _ => rfl
  | 4, _ => rfl
  | 5, _ => rfl
  | 6, _ => rfl
  | 7, _ => rfl
  | 8, _ => rfl
  | 9, _ => rfl
  | 10, _ => rfl
  | 11, _ => rfl
  | 12, _ => rfl
  | 13, _ => rfl
  | 14, _ => rfl
  | 15, _ => rfl
  | 16, _ => rfl
  | 17, _ => rfl
  | 18, _ => rfl
  | 19, _ => rfl
  | 20, _ => rfl
  | 21, _ => rfl
  | 22, _ => rfl
  | 23, _ => rfl
  | 24, _ => rfl
  | 25, _ => rfl
  | 26, _ => rfl
  | 27, _ => rfl
  | 28, _ => rfl
  | 29, _ => rfl
  | 30, _ => rfl
  | 31, _ => rfl
  | 32, _ => rfl
  | 33, _ => rfl
  | 34, _ => rfl
  | 35, _ => rfl
  | d + 36, h9 => exact absurd h9 (by omega)
theorem zc_ts3 (f : Nat → Option Nat) : zh_set (mkC b u sen C n) (b + 16) (zqc "StoneSheets$Text" 14 f) = mkC b u sen (ziQ C 7 f) n := by
  refine zc_set b u sen C n (by decide) (fun d hd => ?_) rfl
  match d, hd with
  | 0, _ => rfl
  | 1, _ => rfl
  | 2, _ => rfl
  | 3, _ => rfl
  | 4, _ => rfl
  | 5, _ => rfl
  | 6, _ => rfl
  | 7, _ => rfl
  | 8, _ => rfl
  | 9, _ => rfl
  | 10, _ => rfl
  | 11, _ => rfl
  | 12, _ => rfl
  | 13, _ => rfl
  | 14, _ => rfl
  | 15, _ => rfl
  | 16, _ => rfl
  | 17, _ => rfl
  | 18, _ => rfl
  | 19, _ => rfl
  | 20, _ => rfl
  | 21, _ => rfl
  | 22, _ => rfl
  | 23, _ => rfl
  | 24, _ => rfl
  | 25, _ => rfl
  | 26, _ => rfl
  | 27, _ => rfl
  | 28, _ => rfl
  | 29, _ => rfl
  | 30, _ => rfl
  | 31, _ => rfl
  | 32, _ => rfl
  | 33, _ => rfl
  | 34, _ => rfl
  | 35, _ => rfl
  | d + 36, h9 => exact absurd h9 (by omega)
theorem zc_rQ {q : Nat} (hq : q < 4) : zh_Q "StoneSheets$Rubbing" (mkC b u sen C n) (zra b q) = some (9, C.2.2.1 q) := by
  rcases (show q = 0 ∨ q = 1 ∨ q = 2 ∨ q = 3 by omega) with rfl | rfl | rfl | rfl
  · exact zc_Qof b u sen C n (zc_at b u sen C n (c := 2) (by decide))
  · exact zc_Qof b u sen C n (zc_at b u sen C n (c := 6) (by decide))
  · exact zc_Qof b u sen C n (zc_at b u sen C n (c := 10) (by decide))
  · exact zc_Qof b u sen C n (zc_at b u sen C n (c := 14) (by decide))
theorem zc_rS {q : Nat} (hq : q < 4) (f : Nat → Option Nat) : zh_set (mkC b u sen C n) (zra b q) (zqc "StoneSheets$Rubbing" 9 f) = mkC b u sen (ziQ C q f) n := by
  rcases (show q = 0 ∨ q = 1 ∨ q = 2 ∨ q = 3 by omega) with rfl | rfl | rfl | rfl
  · exact zc_rs0 b u sen C n f
  · exact zc_rs1 b u sen C n f
  · exact zc_rs2 b u sen C n f
  · exact zc_rs3 b u sen C n f
theorem zc_tQ {q : Nat} (hq : q < 4) : zh_Q "StoneSheets$Text" (mkC b u sen C n) (zta b q) = some (14, C.2.2.1 (4 + q)) := by
  rcases (show q = 0 ∨ q = 1 ∨ q = 2 ∨ q = 3 by omega) with rfl | rfl | rfl | rfl
  · exact zc_Qof b u sen C n (zc_at b u sen C n (c := 4) (by decide))
  · exact zc_Qof b u sen C n (zc_at b u sen C n (c := 8) (by decide))
  · exact zc_Qof b u sen C n (zc_at b u sen C n (c := 12) (by decide))
  · exact zc_Qof b u sen C n (zc_at b u sen C n (c := 16) (by decide))
theorem zc_tS {q : Nat} (hq : q < 4) (f : Nat → Option Nat) : zh_set (mkC b u sen C n) (zta b q) (zqc "StoneSheets$Text" 14 f) = mkC b u sen (ziQ C (4 + q) f) n := by
  rcases (show q = 0 ∨ q = 1 ∨ q = 2 ∨ q = 3 by omega) with rfl | rfl | rfl | rfl
  · exact zc_ts0 b u sen C n f
  · exact zc_ts1 b u sen C n f
  · exact zc_ts2 b u sen C n f
  · exact zc_ts3 b u sen C n f
theorem zc_fO : zh_O (mkC b u sen C n) (b + 19) = some (2, [.ref (b + 19), u, sen, .null, .null, .int 0, .int (C.1 30)]) := by
  unfold zh_O
  rw [zc_at b u sen C n (c := 19) (by decide)]
  rfl
theorem zc_fK : zk_C 2 (mkC b u sen C n) (b + 19) = some () := by
  unfold zk_C
  rw [zc_fO]
  rfl
theorem zc_fI : zg_I [2] (mkC b u sen C n) (b + 19) 6 = some (C.1 30) := by
  unfold zg_I zg_V
  rw [zc_fO]
  rfl
theorem zc_fs (v : Int32) : zh_set (mkC b u sen C n) (b + 19) (.inr (2, [.ref (b + 19), u, sen, .null, .null, .int 0, .int v])) = mkC b u sen (ziI C 30 v) n := by
  refine zc_set b u sen C n (by decide) (fun d hd => ?_) rfl
  match d, hd with
  | 0, _ => rfl
  | 1, _ => rfl
  | 2, _ => rfl
  | 3, _ => rfl
  | 4, _ => rfl
  | 5, _ => rfl
  | 6, _ => rfl
  | 7, _ => rfl
  | 8, _ => rfl
  | 9, _ => rfl
  | 10, _ => rfl
  | 11, _ => rfl
  | 12, _ => rfl
  | 13, _ => rfl
  | 14, _ => rfl
  | 15, _ => rfl
  | 16, _ => rfl
  | 17, _ => rfl
  | 18, _ => rfl
  | 19, _ => rfl
  | 20, _ => rfl
  | 21, _ => rfl
  | 22, _ => rfl
  | 23, _ => rfl
  | 24, _ => rfl
  | 25, _ => rfl
  | 26, _ => rfl
  | 27, _ => rfl
  | 28, _ => rfl
  | 29, _ => rfl
  | 30, _ => rfl
  | 31, _ => rfl
  | 32, _ => rfl
  | 33, _ => rfl
  | 34, _ => rfl
  | 35, _ => rfl
  | d + 36, h9 => exact absurd h9 (by omega)
theorem zc_fP (v : Int32) : zp_V [2] (mkC b u sen C n) (b + 19) 6 (.int v) = some (mkC b u sen (ziI C 30 v) n) := by
  unfold zp_V
  rw [zc_fO]
  exact congrArg some (zc_fs b u sen C n v)
theorem zc_shA : zh_Q "StoneSheets$Sheet" (mkC b u sen C n) (b + 22) = some (4, fun j => if j < 4 then some (b + (23 + j)) else none) := by
  unfold zh_Q
  rw [zc_at b u sen C n (c := 22) (by decide)]
  rfl
theorem zc_slA : zh_Q "StoneSheets$Slot" (mkC b u sen C n) (b + 27) = some (5, fun j => if j < 5 then some (b + (28 + j)) else none) := by
  unfold zh_Q
  rw [zc_at b u sen C n (c := 27) (by decide)]
  rfl
theorem zc_hs0 (x : Option Nat) : zh_set (mkC b u sen C n) (b + 23) (.inr (3, [va_rf x])) = mkC b u sen (ziO C 0 x) n := by
  refine zc_set b u sen C n (by decide) (fun d hd => ?_) rfl
  match d, hd with
  | 0, _ => rfl
  | 1, _ => rfl
  | 2, _ => rfl
  | 3, _ => rfl
  | 4, _ => rfl
  | 5, _ => rfl
  | 6, _ => rfl
  | 7, _ => rfl
  | 8, _ => rfl
  | 9, _ => rfl
  | 10, _ => rfl
  | 11, _ => rfl
  | 12, _ => rfl
  | 13, _ => rfl
  | 14, _ => rfl
  | 15, _ => rfl
  | 16, _ => rfl
  | 17, _ => rfl
  | 18, _ => rfl
  | 19, _ => rfl
  | 20, _ => rfl
  | 21, _ => rfl
  | 22, _ => rfl
  | 23, _ => rfl
  | 24, _ => rfl
  | 25, _ => rfl
  | 26, _ => rfl
  | 27, _ => rfl
  | 28, _ => rfl
  | 29, _ => rfl
  | 30, _ => rfl
  | 31, _ => rfl
  | 32, _ => rfl
  | 33, _ => rfl
  | 34, _ => rfl
  | 35, _ => rfl
  | d + 36, h9 => exact absurd h9 (by omega)
theorem zc_hs1 (x : Option Nat) : zh_set (mkC b u sen C n) (b + 24) (.inr (3, [va_rf x])) = mkC b u sen (ziO C 1 x) n := by
  refine zc_set b u sen C n (by decide) (fun d hd => ?_) rfl
  match d, hd with
  | 0, _ => rfl
  | 1, _ => rfl
  | 2, _ => rfl
  | 3, _ => rfl
  | 4, _ => rfl
  | 5, _ => rfl
  | 6, _ => rfl
  | 7, _ => rfl
  | 8, _ => rfl
  | 9, _ => rfl
  | 10, _ => rfl
  | 11, _ => rfl
  | 12, _ => rfl
  | 13, _ => rfl
  | 14, _ => rfl
  | 15, _ => rfl
  | 16, _ => rfl
  | 17, _ => rfl
  | 18, _ => rfl
  | 19, _ => rfl
  | 20, _ => rfl
  | 21, _ => rfl
  | 22, _ => rfl
  | 23, _ => rfl
  | 24, _ => rfl
  | 25, _ => rfl
  | 26, _ => rfl
  | 27, _ => rfl
  | 28, _ => rfl
  | 29, _ => rfl
  | 30, _ => rfl
  | 31, _ => rfl
  | 32, _ => rfl
  | 33, _ => rfl
  | 34, _ => rfl
  | 35, _ => rfl
  | d + 36, h9 => exact absurd h9 (by omega)
theorem zc_hs2 (x : Option Nat) : zh_set (mkC b u sen C n) (b + 25) (.inr (3, [va_rf x])) = mkC b u sen (ziO C 2 x) n := by
  refine zc_set b u sen C n (by decide) (fun d hd => ?_) rfl
  match d, hd with
  | 0, _ => rfl
  | 1, _ => rfl
  | 2, _ => rfl
  | 3, _ => rfl
  | 4, _ => rfl
  | 5, _ => rfl
  | 6, _ => rfl
  | 7, _ => rfl
  | 8, _ => rfl
  | 9, _ => rfl
  | 10, _ => rfl
  | 11, _ => rfl
  | 12, _ => rfl
  | 13, _ => rfl
  | 14, _ => rfl
  | 15, _ => rfl
  | 16, _ => rfl
  | 17, _ => rfl
  | 18, _ => rfl
  | 19, _ => rfl
  | 20, _ => rfl
  | 21, _ => rfl
  | 22, _ => rfl
  | 23, _ => rfl
  | 24, _ => rfl
  | 25, _ => rfl
  | 26, _ => rfl
  | 27, _ => rfl
  | 28, _ => rfl
  | 29, _ => rfl
  | 30, _ => rfl
  | 31, _ => rfl
  | 32, _ => rfl
  | 33, _ => rfl
  | 34, _ => rfl
  | 35, _ => rfl
  | d + 36, h9 => exact absurd h9 (by omega)
theorem zc_hs3 (x : Option Nat) : zh_set (mkC b u sen C n) (b + 26) (.inr (3, [va_rf x])) = mkC b u sen (ziO C 3 x) n := by
  refine zc_set b u sen C n (by decide) (fun d hd => ?_) rfl
  match d, hd with
  | 0, _ => rfl
  | 1, _ => rfl
  | 2, _ => rfl
  | 3, _ => rfl
  | 4, _ => rfl
  | 5, _ => rfl
  | 6, _ => rfl
  | 7, _ => rfl
  | 8, _ => rfl
  | 9, _ => rfl
  | 10, _ => rfl
  | 11, _ => rfl
  | 12, _ => rfl
  | 13, _ => rfl
  | 14, _ => rfl
  | 15, _ => rfl
  | 16, _ => rfl
  | 17, _ => rfl
  | 18, _ => rfl
  | 19, _ => rfl
  | 20, _ => rfl
  | 21, _ => rfl
  | 22, _ => rfl
  | 23, _ => rfl
  | 24, _ => rfl
  | 25, _ => rfl
  | 26, _ => rfl
  | 27, _ => rfl
  | 28, _ => rfl
  | 29, _ => rfl
  | 30, _ => rfl
  | 31, _ => rfl
  | 32, _ => rfl
  | 33, _ => rfl
  | 34, _ => rfl
  | 35, _ => rfl
  | d + 36, h9 => exact absurd h9 (by omega)
theorem zc_ls0 (x : Option Nat) : zh_set (mkC b u sen C n) (b + 28) (.inr (4, [va_rf x])) = mkC b u sen (ziO C 10 x) n := by
  refine zc_set b u sen C n (by decide) (fun d hd => ?_) rfl
  match d, hd with
  | 0, _ => rfl
  | 1, _ => rfl
  | 2, _ => rfl
  | 3, _ => rfl
  | 4, _ => rfl
  | 5, _ => rfl
  | 6, _ => rfl
  | 7, _ => rfl
  | 8, _ => rfl
  | 9, _ => rfl
  | 10, _ => rfl
  | 11, _ => rfl
  | 12, _ => rfl
  | 13, _ => rfl
  | 14, _ => rfl
  | 15, _ => rfl
  | 16, _ => rfl
  | 17, _ => rfl
  | 18, _ => rfl
  | 19, _ => rfl
  | 20, _ => rfl
  | 21, _ => rfl
  | 22, _ => rfl
  | 23, _ => rfl
  | 24, _ => rfl
  | 25, _ => rfl
  | 26, _ => rfl
  | 27, _ => rfl
  | 28, _ => rfl
  | 29, _ => rfl
  | 30, _ => rfl
  | 31, _ => rfl
  | 32, _ => rfl
  | 33, _ => rfl
  | 34, _ => rfl
  | 35, _ => rfl
  | d + 36, h9 => exact absurd h9 (by omega)
theorem zc_ls1 (x : Option Nat) : zh_set (mkC b u sen C n) (b + 29) (.inr (4, [va_rf x])) = mkC b u sen (ziO C 11 x) n := by
  refine zc_set b u sen C n (by decide) (fun d hd => ?_) rfl
  match d, hd with
  | 0, _ => rfl
  | 1, _ => rfl
  | 2, _ => rfl
  | 3, _ => rfl
  | 4, _ => rfl
  | 5, _ => rfl
  | 6, _ => rfl
  | 7, _ => rfl
  | 8, _ => rfl
  | 9, _ => rfl
  | 10, _ => rfl
  | 11, _ => rfl
  | 12, _ => rfl
  | 13, _ => rfl
  | 14, _ => rfl
  | 15, _ => rfl
  | 16, _ => rfl
  | 17, _ => rfl
  | 18, _ => rfl
  | 19, _ => rfl
  | 20, _ => rfl
  | 21, _ => rfl
  | 22, _ => rfl
  | 23, _ => rfl
  | 24, _ => rfl
  | 25, _ => rfl
  | 26, _ => rfl
  | 27, _ => rfl
  | 28, _ => rfl
  | 29, _ => rfl
  | 30, _ => rfl
  | 31, _ => rfl
  | 32, _ => rfl
  | 33, _ => rfl
  | 34, _ => rfl
  | 35, _ => rfl
  | d + 36, h9 => exact absurd h9 (by omega)
theorem zc_ls2 (x : Option Nat) : zh_set (mkC b u sen C n) (b + 30) (.inr (4, [va_rf x])) = mkC b u sen (ziO C 12 x) n := by
  refine zc_set b u sen C n (by decide) (fun d hd => ?_) rfl
  match d, hd with
  | 0, _ => rfl
  | 1, _ => rfl
  | 2, _ => rfl
  | 3, _ => rfl
  | 4, _ => rfl
  | 5, _ => rfl
  | 6, _ => rfl
  | 7, _ => rfl
  | 8, _ => rfl
  | 9, _ => rfl
  | 10, _ => rfl
  | 11, _ => rfl
  | 12, _ => rfl
  | 13, _ => rfl
  | 14, _ => rfl
  | 15, _ => rfl
  | 16, _ => rfl
  | 17, _ => rfl
  | 18, _ => rfl
  | 19, _ => rfl
  | 20, _ => rfl
  | 21, _ => rfl
  | 22, _ => rfl
  | 23, _ => rfl
  | 24, _ => rfl
  | 25, _ => rfl
  | 26, _ => rfl
  | 27, _ => rfl
  | 28, _ => rfl
  | 29, _ => rfl
  | 30, _ => rfl
  | 31, _ => rfl
  | 32, _ => rfl
  | 33, _ => rfl
  | 34, _ => rfl
  | 35, _ => rfl
  | d + 36, h9 => exact absurd h9 (by omega)
theorem zc_ls3 (x : Option Nat) : zh_set (mkC b u sen C n) (b + 31) (.inr (4, [va_rf x])) = mkC b u sen (ziO C 13 x) n := by
  refine zc_set b u sen C n (by decide) (fun d hd => ?_) rfl
  match d, hd with
  | 0, _ => rfl
  | 1, _ => rfl
  | 2, _ => rfl
  | 3, _ => rfl
  | 4, _ => rfl
  | 5, _ => rfl
  | 6, _ => rfl
  | 7, _ => rfl
  | 8, _ => rfl
  | 9, _ => rfl
  | 10, _ => rfl
  | 11, _ => rfl
  | 12, _ => rfl
  | 13, _ => rfl
  | 14, _ => rfl
  | 15, _ => rfl
  | 16, _ => rfl
  | 17, _ => rfl
  | 18, _ => rfl
  | 19, _ => rfl
  | 20, _ => rfl
  | 21, _ => rfl
  | 22, _ => rfl
  | 23, _ => rfl
  | 24, _ => rfl
  | 25, _ => rfl
  | 26, _ => rfl
  | 27, _ => rfl
  | 28, _ => rfl
  | 29, _ => rfl
  | 30, _ => rfl
  | 31, _ => rfl
  | 32, _ => rfl
  | 33, _ => rfl
  | 34, _ => rfl
  | 35, _ => rfl
  | d + 36, h9 => exact absurd h9 (by omega)
theorem zc_ls4 (x : Option Nat) : zh_set (mkC b u sen C n) (b + 32) (.inr (4, [va_rf x])) = mkC b u sen (ziO C 14 x) n := by
  refine zc_set b u sen C n (by decide) (fun d hd => ?_) rfl
  match d, hd with
  | 0, _ => rfl
  | 1, _ => rfl
  | 2, _ => rfl
  | 3, _ => rfl
  | 4, _ => rfl
  | 5, _ => rfl
  | 6, _ => rfl
  | 7, _ => rfl
  | 8, _ => rfl
  | 9, _ => rfl
  | 10, _ => rfl
  | 11, _ => rfl
  | 12, _ => rfl
  | 13, _ => rfl
  | 14, _ => rfl
  | 15, _ => rfl
  | 16, _ => rfl
  | 17, _ => rfl
  | 18, _ => rfl
  | 19, _ => rfl
  | 20, _ => rfl
  | 21, _ => rfl
  | 22, _ => rfl
  | 23, _ => rfl
  | 24, _ => rfl
  | 25, _ => rfl
  | 26, _ => rfl
  | 27, _ => rfl
  | 28, _ => rfl
  | 29, _ => rfl
  | 30, _ => rfl
  | 31, _ => rfl
  | 32, _ => rfl
  | 33, _ => rfl
  | 34, _ => rfl
  | 35, _ => rfl
  | d + 36, h9 => exact absurd h9 (by omega)
theorem zc_hO {j : Nat} (hj : j < 4) : zh_O (mkC b u sen C n) (b + (23 + j)) = some (3, [va_rf (C.2.2.2.2.1 j)]) := by
  unfold zh_O
  rw [zc_at b u sen C n (c := 23 + j) (by omega)]
  rcases (show j = 0 ∨ j = 1 ∨ j = 2 ∨ j = 3 by omega) with rfl | rfl | rfl | rfl <;> rfl
theorem zc_hS {j : Nat} (hj : j < 4) (x : Option Nat) : zh_set (mkC b u sen C n) (b + (23 + j)) (.inr (3, [va_rf x])) = mkC b u sen (ziO C j x) n := by
  rcases (show j = 0 ∨ j = 1 ∨ j = 2 ∨ j = 3 by omega) with rfl | rfl | rfl | rfl
  · exact zc_hs0 b u sen C n x
  · exact zc_hs1 b u sen C n x
  · exact zc_hs2 b u sen C n x
  · exact zc_hs3 b u sen C n x
theorem zc_lO {j : Nat} (hj : j < 5) : zh_O (mkC b u sen C n) (b + (28 + j)) = some (4, [va_rf (C.2.2.2.2.1 (10 + j))]) := by
  unfold zh_O
  rw [zc_at b u sen C n (c := 28 + j) (by omega)]
  rcases (show j = 0 ∨ j = 1 ∨ j = 2 ∨ j = 3 ∨ j = 4 by omega) with rfl | rfl | rfl | rfl | rfl <;> rfl
theorem zc_lS {j : Nat} (hj : j < 5) (x : Option Nat) : zh_set (mkC b u sen C n) (b + (28 + j)) (.inr (4, [va_rf x])) = mkC b u sen (ziO C (10 + j) x) n := by
  rcases (show j = 0 ∨ j = 1 ∨ j = 2 ∨ j = 3 ∨ j = 4 by omega) with rfl | rfl | rfl | rfl | rfl
  · exact zc_ls0 b u sen C n x
  · exact zc_ls1 b u sen C n x
  · exact zc_ls2 b u sen C n x
  · exact zc_ls3 b u sen C n x
  · exact zc_ls4 b u sen C n x
theorem zc_cF : zh_F (mkC b u sen C n) (b + 33) = some (24, C.2.2.2.1) := by
  unfold zh_F
  rw [zc_at b u sen C n (c := 33) (by decide)]
  rfl
theorem zc_cS (f : Nat → UInt32) : zh_set (mkC b u sen C n) (b + 33) (.inl (.float, 24, .inr (.inr (.inl f)))) = mkC b u sen (ziF C f) n := by
  refine zc_set b u sen C n (by decide) (fun d hd => ?_) rfl
  match d, hd with
  | 0, _ => rfl
  | 1, _ => rfl
  | 2, _ => rfl
  | 3, _ => rfl
  | 4, _ => rfl
  | 5, _ => rfl
  | 6, _ => rfl
  | 7, _ => rfl
  | 8, _ => rfl
  | 9, _ => rfl
  | 10, _ => rfl
  | 11, _ => rfl
  | 12, _ => rfl
  | 13, _ => rfl
  | 14, _ => rfl
  | 15, _ => rfl
  | 16, _ => rfl
  | 17, _ => rfl
  | 18, _ => rfl
  | 19, _ => rfl
  | 20, _ => rfl
  | 21, _ => rfl
  | 22, _ => rfl
  | 23, _ => rfl
  | 24, _ => rfl
  | 25, _ => rfl
  | 26, _ => rfl
  | 27, _ => rfl
  | 28, _ => rfl
  | 29, _ => rfl
  | 30, _ => rfl
  | 31, _ => rfl
  | 32, _ => rfl
  | 33, _ => rfl
  | 34, _ => rfl
  | 35, _ => rfl
  | d + 36, h9 => exact absurd h9 (by omega)
end ZCC1
