/-! PLAIN LAW: a rubbing: its record R (0 kind, 1 raw, 2 size, 3 turned, 4 laid, 5 trust), by its kind k; the component's side -/
set_option maxRecDepth 100000
def zRf (R : Nat → Int32) : List Value := [.int (R 1), .int (R 2), .int (R 3), .int (R 4), .int (R 5)]
/-- at a lies a rubbing of the kind k with the record R -/
def zRb (h : zT) (a k : Nat) (R : Nat → Int32) : Prop := h.1 a = some (.inr (6 + k, zRf R)) ∧ k < 6
def zbld (v : Int32) : Int32 := if ¬ v = 0 then (if v + 1 < 3 then v + 1 else 3) else 0
def zless (v : Int32) : Int32 := if 0 < v - 1 then v - 1 else 0
def zSv (R : Nat → Int32) (p : Int32) : Int32 := (R 1 >>> ((2 * (if R 3 = 0 then p else R 2 - 1 - p)) &&& 31)) &&& 3
def zSayV (k : Nat) (R : Nat → Int32) (v p : Int32) : Int32 := match k with
  | 0 => v
  | 1 => zbld v
  | 2 => zless v
  | 3 => zbld (zbld v)
  | 4 => if ¬ p = R 2 / 2 then zless v else 3
  | _ => 2
def zSay (k : Nat) (R : Nat → Int32) (p : Int32) : Int32 := zSayV k R (zSv R p) p
def zGn (k : Nat) (v : Int32) : Int32 := match k with
  | 0 => v
  | 1 => v + 1
  | 2 => v / 2
  | 3 => v + 1
  | 4 => v / 2 + 2
  | _ => 0
def zLo (k : Nat) : Int32 := match k with
  | 0 => 5
  | 1 => 7
  | 2 => 3
  | 3 => 14
  | 4 => 3
  | _ => 20
def zWo (k : Nat) (t : Int32) : Int32 := match k with
  | 0 => t
  | 1 => t + 5
  | 2 => 99 - t
  | 3 => 2 * (t + 5)
  | 4 => 99 - t - 6
  | _ => 1
def zCv (R : Nat → Int32) : Int32 := if ¬ R 4 = 16 then ((((1 : Int32) <<< (R 2 &&& 31)) - 1) <<< (R 4 &&& 31)) &&& 65535 else 0
abbrev zIs (R : Nat → Int32) (x : Int32) : Prop := ¬ R 4 = 16 ∧ R 4 ≤ x ∧ x ≤ R 4 + R 2 - 1
section ZRB
variable {h : zT} {a k : Nat} {R : Nat → Int32}
theorem zRb.O (hr : zRb h a k R) : zh_O h a = some (6 + k, zRf R) := by
  unfold zh_O
  rw [hr.1]
theorem zRb.mem (hr : zRb h a k R) : 6 + k ∈ [6, 7, 8, 9, 10, 11] := by
  have := hr.2
  rcases (show k = 0 ∨ k = 1 ∨ k = 2 ∨ k = 3 ∨ k = 4 ∨ k = 5 by omega) with rfl | rfl | rfl | rfl | rfl | rfl <;> decide
theorem zRb.S (hr : zRb h a k R) : zk_S [6, 7, 8, 9, 10, 11] h a = some (6 + k) := by
  unfold zk_S
  rw [hr.O, Option.bind_some, if_pos hr.mem]
theorem zRb.V (hr : zRb h a k R) (j : Nat) : zg_V [6, 7, 8, 9, 10, 11] h a j = (zRf R)[j]? := by
  unfold zg_V
  rw [hr.O, Option.bind_some, if_pos hr.mem]
theorem zRb.g0 (hr : zRb h a k R) : zg_I [6, 7, 8, 9, 10, 11] h a 0 = some (R 1) := by unfold zg_I; rw [hr.V]; rfl
theorem zRb.g1 (hr : zRb h a k R) : zg_I [6, 7, 8, 9, 10, 11] h a 1 = some (R 2) := by unfold zg_I; rw [hr.V]; rfl
theorem zRb.g2 (hr : zRb h a k R) : zg_I [6, 7, 8, 9, 10, 11] h a 2 = some (R 3) := by unfold zg_I; rw [hr.V]; rfl
theorem zRb.g3 (hr : zRb h a k R) : zg_I [6, 7, 8, 9, 10, 11] h a 3 = some (R 4) := by unfold zg_I; rw [hr.V]; rfl
theorem zRb.g4 (hr : zRb h a k R) : zg_I [6, 7, 8, 9, 10, 11] h a 4 = some (R 5) := by unfold zg_I; rw [hr.V]; rfl
theorem zRb.put (hr : zRb h a k R) (j : Nat) (v : Value) : zp_V [6, 7, 8, 9, 10, 11] h a j v = some (zh_set h a (.inr (6 + k, (zRf R).set j v))) := by
  unfold zp_V
  rw [hr.O, Option.bind_some, if_pos hr.mem]
theorem zx_bolder (h : zT) (v : Int32) : f_X7_bolder h v = some (zbld v, h) := by
  unfold f_X7_bolder zbld
  by_cases h1 : v = 0
  · rw [if_neg (fun q => q h1), if_neg (fun q => q h1)]
  · rw [if_pos h1, if_pos h1]; rfl
theorem zRb.says7 (hr : zRb h a k R) (v p : Int32) : f_X7_says h a v p = some (zbld v, h) := by
  unfold f_X7_says
  rw [hr.S, Option.bind_some, Option.bind_some, zx_bolder]; rfl
theorem zRb.says8 (hr : zRb h a k R) (v p : Int32) : f_X8_says h a v p = some (zless v, h) := by
  unfold f_X8_says
  rw [hr.S]; rfl
theorem zRb.says (hr : zRb h a k R) (v p : Int32) : fd_says h a v p = some (zSayV k R v p, h) := by
  have hk := hr.2
  have hs7 := hr.says7 v p
  have hs8 := hr.says8 v p
  have hS := hr.S
  have g1 := hr.g1
  unfold fd_says
  rw [hr.O, Option.bind_some]
  rcases (show k = 0 ∨ k = 1 ∨ k = 2 ∨ k = 3 ∨ k = 4 ∨ k = 5 by omega) with rfl | rfl | rfl | rfl | rfl | rfl
  · rfl
  · exact hs7
  · exact hs8
  · show f_X9_says h a v p = _
    unfold f_X9_says
    rw [hS, Option.bind_some, hs7, Option.bind_some, zx_bolder]; rfl
  · show f_X10_says h a v p = _
    unfold f_X10_says zSayV
    rw [g1, Option.bind_some, hS, hs8]
    by_cases hp : p = R 2 / 2
    · rw [if_neg (fun q => q hp)]
      simp [hp]
    · rw [if_pos hp]
      simp [hp]
  · rfl
theorem zRb.saysAt6 (hr : zRb h a k R) (p : Int32) : f_X6_saysAt h a p = some (zSay k R p, h) := by
  unfold f_X6_saysAt
  rw [hr.g0, Option.bind_some, hr.g2, Option.bind_some, hr.g1]
  unfold zSay zSv
  by_cases ht : R 3 = 0
  · rw [if_pos ht, if_pos ht]
    unfold f_X6_saysAt_25
    rw [hr.says]
    rfl
  · rw [if_neg ht, if_neg ht, Option.bind_some]
    unfold f_X6_saysAt_25
    rw [hr.says]
    rfl
theorem zRb.all {α : Type} (hr : zRb h a k R) (F : Option α) : ((zh_O h a).bind fun o => if o.1 = 6 then F else if o.1 = 7 then F else if o.1 = 8 then F else if o.1 = 9 then F else if o.1 = 10 then F else if o.1 = 11 then F else none) = F := by
  have hk := hr.2
  rw [hr.O, Option.bind_some]
  rcases (show k = 0 ∨ k = 1 ∨ k = 2 ∨ k = 3 ∨ k = 4 ∨ k = 5 by omega) with rfl | rfl | rfl | rfl | rfl | rfl <;> rfl
theorem zRb.saysAt (hr : zRb h a k R) (p : Int32) : fd_saysAt h a p = some (zSay k R p, h) := by
  unfold fd_saysAt
  rw [hr.all, hr.saysAt6]
theorem zRb.covers (hr : zRb h a k R) (x : Int32) : fd_covers h a x = some (zb (zIs R x), h) := by
  unfold fd_covers
  rw [hr.all]
  unfold f_X6_covers
  rw [hr.g3, Option.bind_some]
  by_cases h1 : R 4 = 16
  · rw [if_pos h1, if_pos (Or.inl rfl)]
    have : ¬ zIs R x := fun q => q.1 h1
    unfold zb
    rw [if_neg this]
  · rw [if_neg h1, Option.bind_some, Option.bind_some, hr.g1, Option.bind_some, zx_isIn, Option.bind_some]
    by_cases h2 : R 4 ≤ x ∧ x ≤ R 4 + R 2 - 1
    · have e1 : zb (R 4 ≤ x ∧ x ≤ R 4 + R 2 - 1) = 1 := if_pos h2
      have e2 : zb (zIs R x) = 1 := if_pos ⟨h1, h2⟩
      simp [e1, e2]
    · have e1 : zb (R 4 ≤ x ∧ x ≤ R 4 + R 2 - 1) = 0 := if_neg h2
      have e2 : zb (zIs R x) = 0 := if_neg (fun q => h2 q.2)
      simp [e1, e2]
theorem zRb.covered (hr : zRb h a k R) : fd_covered h a = some (zCv R, h) := by
  unfold fd_covered
  rw [hr.all]
  unfold f_X6_covered zCv
  rw [hr.g3, Option.bind_some, hr.g1]
  by_cases h1 : R 4 = 16
  · rw [if_neg (fun q => q h1), if_neg (fun q => q h1)]
  · rw [if_pos h1, if_pos h1]; rfl
theorem zRb.kind (hr : zRb h a k R) : fd_kind h a = some (Int32.ofNat k, h) := by
  have hk := hr.2
  have hS := hr.S
  unfold fd_kind
  rw [hr.O, Option.bind_some]
  rcases (show k = 0 ∨ k = 1 ∨ k = 2 ∨ k = 3 ∨ k = 4 ∨ k = 5 by omega) with rfl | rfl | rfl | rfl | rfl | rfl
  · rfl
  · rfl
  · rfl
  · show f_X9_kind h a = _
    unfold f_X9_kind
    rw [hS]; rfl
  · show f_X10_kind h a = _
    unfold f_X10_kind
    rw [hS]; rfl
  · rfl
theorem zRb.gains (hr : zRb h a k R) (v : Int32) : fd_gains h a v = some (zGn k v, h) := by
  have hk := hr.2
  have hS := hr.S
  unfold fd_gains
  rw [hr.O, Option.bind_some]
  rcases (show k = 0 ∨ k = 1 ∨ k = 2 ∨ k = 3 ∨ k = 4 ∨ k = 5 by omega) with rfl | rfl | rfl | rfl | rfl | rfl
  · rfl
  · show f_X7_gains h a v = _
    unfold f_X7_gains
    rw [hS]; rfl
  · show f_X8_gains h a v = _
    unfold f_X8_gains
    rw [hS]; rfl
  · show f_X7_gains h a v = _
    unfold f_X7_gains
    rw [hS]; rfl
  · show f_X10_gains h a v = _
    unfold f_X10_gains f_X8_gains
    rw [hS]; rfl
  · rfl
theorem zRb.loses (hr : zRb h a k R) : fd_loses h a = some (zLo k, h) := by
  have hk := hr.2
  have hS := hr.S
  unfold fd_loses
  rw [hr.O, Option.bind_some]
  rcases (show k = 0 ∨ k = 1 ∨ k = 2 ∨ k = 3 ∨ k = 4 ∨ k = 5 by omega) with rfl | rfl | rfl | rfl | rfl | rfl
  · rfl
  · show f_X7_loses h a = _
    unfold f_X7_loses
    rw [hS]; rfl
  · show f_X8_loses h a = _
    unfold f_X8_loses
    rw [hS]; rfl
  · show f_X9_loses h a = _
    unfold f_X9_loses f_X7_loses
    rw [hS]; rfl
  · show f_X8_loses h a = _
    unfold f_X8_loses
    rw [hS]; rfl
  · show f_X11_loses h a = _
    unfold f_X11_loses
    rw [hS]; rfl
theorem zRb.worth (hr : zRb h a k R) : fd_worth h a = some (zWo k (R 5), h) := by
  have hk := hr.2
  have hS := hr.S
  have g4 := hr.g4
  unfold fd_worth
  rw [hr.O, Option.bind_some]
  rcases (show k = 0 ∨ k = 1 ∨ k = 2 ∨ k = 3 ∨ k = 4 ∨ k = 5 by omega) with rfl | rfl | rfl | rfl | rfl | rfl
  · show f_X6_worth h a = _
    unfold f_X6_worth
    rw [g4]; rfl
  · show f_X7_worth h a = _
    unfold f_X7_worth f_X6_worth
    rw [hS, g4]; rfl
  · show f_X8_worth h a = _
    unfold f_X8_worth f_X6_worth
    rw [hS, g4]; rfl
  · show f_X9_worth h a = _
    unfold f_X9_worth f_X7_worth f_X6_worth
    rw [hS, g4]; rfl
  · show f_X10_worth h a = _
    unfold f_X10_worth f_X8_worth f_X6_worth
    rw [hS, g4]; rfl
  · rfl
end ZRB
