/-! StoneSheetsModel: fields, and the printed functions of its methods (gen/model.py) -/
set_option maxRecDepth 100000
theorem fs_X5_0 : zFS [5] 0 ("StoneSheetsModel", "s", "[I", true) (.array .int) := zFS1 zcf5 (by decide) rfl (by decide +kernel)
theorem fs_X5_1 : zFS [5] 1 ("StoneSheetsModel", "image", "[I", true) (.array .int) := zFS1 zcf5 (by decide) rfl (by decide +kernel)
theorem fs_X5_2 : zFS [5] 2 ("StoneSheetsModel", "aside", "[I", true) (.array .int) := zFS1 zcf5 (by decide) rfl (by decide +kernel)
theorem fs_X5_3 : zFS [5] 3 ("StoneSheetsModel", "hasImage", "Z", false) (.boolean) := zFS1 zcf5 (by decide) rfl (by decide +kernel)
theorem fs_X5_4 : zFS [5] 4 ("StoneSheetsModel", "tSort", "[I", true) (.array .int) := zFS1 zcf5 (by decide) rfl (by decide +kernel)
theorem fs_X5_5 : zFS [5] 5 ("StoneSheetsModel", "tSize", "[I", true) (.array .int) := zFS1 zcf5 (by decide) rfl (by decide +kernel)
theorem fs_X5_6 : zFS [5] 6 ("StoneSheetsModel", "tNumber", "[I", true) (.array .int) := zFS1 zcf5 (by decide) rfl (by decide +kernel)
theorem fs_X5_7 : zFS [5] 7 ("StoneSheetsModel", "held", "[I", true) (.array .int) := zFS1 zcf5 (by decide) rfl (by decide +kernel)
theorem fs_X5_8 : zFS [5] 8 ("StoneSheetsModel", "heldNumber", "[I", true) (.array .int) := zFS1 zcf5 (by decide) rfl (by decide +kernel)
theorem fs_X5_9 : zFS [5] 9 ("StoneSheetsModel", "heldWorth", "[I", true) (.array .int) := zFS1 zcf5 (by decide) rfl (by decide +kernel)
theorem fs_X5_10 : zFS [5] 10 ("StoneSheetsModel", "heldSize", "[I", true) (.array .int) := zFS1 zcf5 (by decide) rfl (by decide +kernel)
theorem fs_X5_11 : zFS [5] 11 ("StoneSheetsModel", "heldRow", "[I", true) (.array .int) := zFS1 zcf5 (by decide) rfl (by decide +kernel)
theorem fs_X5_12 : zFS [5] 12 ("StoneSheetsModel", "clashing", "[I", true) (.array .int) := zFS1 zcf5 (by decide) rfl (by decide +kernel)
theorem fs_X5_13 : zFS [5] 13 ("StoneSheetsModel", "close", "[I", true) (.array .int) := zFS1 zcf5 (by decide) rfl (by decide +kernel)
theorem fs_X5_14 : zFS [5] 14 ("StoneSheetsModel", "tape", "[I", true) (.array .int) := zFS1 zcf5 (by decide) rfl (by decide +kernel)
theorem fs_X5_15 : zFS [5] 15 ("StoneSheetsModel", "taped", "I", false) (.int) := zFS1 zcf5 (by decide) rfl (by decide +kernel)
theorem fs_X5_16 : zFS [5] 16 ("StoneSheetsModel", "begin", "I", false) (.int) := zFS1 zcf5 (by decide) rfl (by decide +kernel)
theorem fs_X5_17 : zFS [5] 17 ("StoneSheetsModel", "behind", "I", false) (.int) := zFS1 zcf5 (by decide) rfl (by decide +kernel)
theorem fs_X5_18 : zFS [5] 18 ("StoneSheetsModel", "token", "I", false) (.int) := zFS1 zcf5 (by decide) rfl (by decide +kernel)
theorem fs_X5_19 : zFS [5] 19 ("StoneSheetsModel", "number", "I", false) (.int) := zFS1 zcf5 (by decide) rfl (by decide +kernel)
theorem fs_X5_20 : zFS [5] 20 ("StoneSheetsModel", "letter", "I", false) (.int) := zFS1 zcf5 (by decide) rfl (by decide +kernel)
theorem fs_X5_21 : zFS [5] 21 ("StoneSheetsModel", "deep", "I", false) (.int) := zFS1 zcf5 (by decide) rfl (by decide +kernel)
theorem fs_X5_22 : zFS [5] 22 ("StoneSheetsModel", "turned", "I", false) (.int) := zFS1 zcf5 (by decide) rfl (by decide +kernel)
theorem fs_X5_23 : zFS [5] 23 ("StoneSheetsModel", "laid", "I", false) (.int) := zFS1 zcf5 (by decide) rfl (by decide +kernel)
theorem fs_X5_24 : zFS [5] 24 ("StoneSheetsModel", "laidAt", "I", false) (.int) := zFS1 zcf5 (by decide) rfl (by decide +kernel)
theorem fs_X5_25 : zFS [5] 25 ("StoneSheetsModel", "said", "I", false) (.int) := zFS1 zcf5 (by decide) rfl (by decide +kernel)
theorem fs_X5_26 : zFS [5] 26 ("StoneSheetsModel", "named", "[I", true) (.array .int) := zFS1 zcf5 (by decide) rfl (by decide +kernel)
theorem fs_X5_27 : zFS [5] 27 ("StoneSheetsModel", "pile", "[I", true) (.array .int) := zFS1 zcf5 (by decide) rfl (by decide +kernel)
theorem fs_X5_28 : zFS [5] 28 ("StoneSheetsModel", "carried", "[I", true) (.array .int) := zFS1 zcf5 (by decide) rfl (by decide +kernel)
theorem fs_X5_29 : zFS [5] 29 ("StoneSheetsModel", "waits", "[I", true) (.array .int) := zFS1 zcf5 (by decide) rfl (by decide +kernel)
theorem fs_X5_30 : zFS [5] 30 ("StoneSheetsModel", "waiting", "I", false) (.int) := zFS1 zcf5 (by decide) rfl (by decide +kernel)
theorem fs_X5_31 : zFS [5] 31 ("StoneSheetsModel", "rowDue", "[I", true) (.array .int) := zFS1 zcf5 (by decide) rfl (by decide +kernel)
abbrev rm_X5_isSign : Room := { frames := 0, cells := 0, slots := 0, locals := 0 }
theorem cd_X5_isSign : zcd yX5_isSign 1 := by unfold zcd; decide +kernel
def f_X5_isSign (h : zT) (a0 : Nat) (i1 : Int32) : Option (Int32 × zT) :=
  (zg_I [5] h a0 18).bind fun v1 =>
  if ¬ v1 = (3 : Int32) then (
    if (0 : Int32) = 0 ∨ (0 : Int32) = 1 then some ((0 : Int32), h) else none)
  else (
    (zg_I [5] h a0 20).bind fun v2 =>
    if ¬ v2 = i1 then (
      if (0 : Int32) = 0 ∨ (0 : Int32) = 1 then some ((0 : Int32), h) else none)
    else (
      if (1 : Int32) = 0 ∨ (1 : Int32) = 1 then some ((1 : Int32), h) else none))
abbrev rm_X5_isIn : Room := { frames := 0, cells := 0, slots := 0, locals := 0 }
theorem cd_X5_isIn : zcd yX5_isIn 3 := by unfold zcd; decide +kernel
def f_X5_isIn (h : zT) (l0 : Int64) (l2 : Int64) (l4 : Int64) : Option (Int32 × zT) :=
  if (lg_cmp l0 l2) < 0 then (
    if (0 : Int32) = 0 ∨ (0 : Int32) = 1 then some ((0 : Int32), h) else none)
  else (
    if 0 < (lg_cmp l0 l4) then (
      if (0 : Int32) = 0 ∨ (0 : Int32) = 1 then some ((0 : Int32), h) else none)
    else (
      if (1 : Int32) = 0 ∨ (1 : Int32) = 1 then some ((1 : Int32), h) else none))
abbrev rm_X5_isDigit : Room := { frames := 1, cells := 0, slots := 0, locals := 25 }
theorem cd_X5_isDigit : zcd yX5_isDigit 1 := by unfold zcd; decide +kernel
def f_X5_isDigit (h : zT) (a0 : Nat) (i1 : Int32) : Option (Int32 × zT) :=
  (zg_I [5] h a0 15).bind fun v1 =>
  if v1 ≤ i1 then (
    if (0 : Int32) = 0 ∨ (0 : Int32) = 1 then some ((0 : Int32), h) else none)
  else (
    (zg_R [5] h a0 14).bind fun v2 =>
    (za_I .int h v2 i1).bind fun v3 =>
    (f_X5_isIn h v3.toInt64 (48 : Int64) (57 : Int64)).bind fun r4 =>
    if r4.1 = 0 then (
      if (0 : Int32) = 0 ∨ (0 : Int32) = 1 then some ((0 : Int32), r4.2) else none)
    else (
      if (1 : Int32) = 0 ∨ (1 : Int32) = 1 then some ((1 : Int32), r4.2) else none))
abbrev rm_X5_isLetter : Room := { frames := 1, cells := 0, slots := 0, locals := 25 }
theorem cd_X5_isLetter : zcd yX5_isLetter 1 := by unfold zcd; decide +kernel
def f_X5_isLetter (h : zT) (a0 : Nat) (i1 : Int32) : Option (Int32 × zT) :=
  (zg_I [5] h a0 15).bind fun v1 =>
  if v1 ≤ i1 then (
    if (0 : Int32) = 0 ∨ (0 : Int32) = 1 then some ((0 : Int32), h) else none)
  else (
    (zg_R [5] h a0 14).bind fun v2 =>
    (za_I .int h v2 i1).bind fun v3 =>
    (f_X5_isIn h v3.toInt64 (97 : Int64) (122 : Int64)).bind fun r4 =>
    if r4.1 = 0 then (
      if (0 : Int32) = 0 ∨ (0 : Int32) = 1 then some ((0 : Int32), r4.2) else none)
    else (
      if (1 : Int32) = 0 ∨ (1 : Int32) = 1 then some ((1 : Int32), r4.2) else none))
abbrev rm_X5_nextToken : Room := { frames := 2, cells := 0, slots := 0, locals := 46 }
theorem cd_X5_nextToken : zcd yX5_nextToken 0 := by unfold zcd; decide +kernel
def f_X5_nextToken_162 (h : zT) (a0 : Nat) (s0 : Int32) (s1 : Nat) : Option (zT) :=
  (zp_V [5] h s1 18 (.int s0)).bind fun h1 =>
  (zg_I [5] h1 a0 17).bind fun v2 =>
  (zg_I [5] h1 a0 16).bind fun v3 =>
  if ¬ (v2 - v3) = (1 : Int32) then (
    (zp_V [5] h1 a0 20 (.int (0 : Int32))).bind fun h4 =>
    some h4)
  else (
    (zg_R [5] h1 a0 14).bind fun v5 =>
    (zg_I [5] h1 a0 16).bind fun v6 =>
    (za_I .int h1 v5 v6).bind fun v7 =>
    (zp_V [5] h1 a0 20 (.int v7)).bind fun h8 =>
    some h8)
def f_X5_nextToken_128 : Nat → zT → Nat → Int32 → Option (zT)
  | 0, _, _, _ => none
  | n + 1, h, a0, i1 =>
    (zg_I [5] h a0 17).bind fun v1 =>
    (zk_C 5 h a0).bind fun _ =>
    (f_X5_isLetter h a0 v1).bind fun r2 =>
    if r2.1 = 0 then (
      if i1 = 0 then (
        f_X5_nextToken_162 r2.2 a0 (1 : Int32) a0)
      else (
        f_X5_nextToken_162 r2.2 a0 (4 : Int32) a0))
    else (
      (zg_I [5] r2.2 a0 17).bind fun v3 =>
      (zp_V [5] r2.2 a0 17 (.int (v3 + (1 : Int32)))).bind fun h4 =>
      f_X5_nextToken_128 n h4 a0 i1)
def f_X5_nextToken_214 : Nat → zT → Nat → Int32 → Option (zT)
  | 0, _, _, _ => none
  | n + 1, h, a0, i1 =>
    (zg_I [5] h a0 17).bind fun v1 =>
    (zk_C 5 h a0).bind fun _ =>
    (f_X5_isDigit h a0 v1).bind fun r2 =>
    if r2.1 = 0 then (
      if ¬ i1 = 0 then (
        (zp_V [5] r2.2 a0 18 (.int (4 : Int32))).bind fun h3 =>
        some h3)
      else (
        (zg_I [5] r2.2 a0 17).bind fun v4 =>
        (zg_I [5] r2.2 a0 16).bind fun v5 =>
        if (v4 - v5) ≤ (4 : Int32) then (
          (zp_V [5] r2.2 a0 18 (.int (2 : Int32))).bind fun h6 =>
          some h6)
        else (
          (zp_V [5] r2.2 a0 18 (.int (4 : Int32))).bind fun h7 =>
          some h7)))
    else (
      (zg_I [5] r2.2 a0 17).bind fun v8 =>
      (zg_I [5] r2.2 a0 16).bind fun v9 =>
      if (4 : Int32) ≤ (v8 - v9) then (
        (zg_I [5] r2.2 a0 19).bind fun v10 =>
        (zp_V [5] r2.2 a0 19 (.int v10)).bind fun h11 =>
        (zg_I [5] h11 a0 17).bind fun v12 =>
        (zp_V [5] h11 a0 17 (.int (v12 + (1 : Int32)))).bind fun h13 =>
        f_X5_nextToken_214 n h13 a0 i1)
      else (
        (zg_I [5] r2.2 a0 19).bind fun v14 =>
        (zg_R [5] r2.2 a0 14).bind fun v15 =>
        (zg_I [5] r2.2 a0 17).bind fun v16 =>
        (za_I .int r2.2 v15 v16).bind fun v17 =>
        (zp_V [5] r2.2 a0 19 (.int ((((10 : Int32) * v14) + v17) - (48 : Int32)))).bind fun h18 =>
        (zg_I [5] h18 a0 17).bind fun v19 =>
        (zp_V [5] h18 a0 17 (.int (v19 + (1 : Int32)))).bind fun h20 =>
        f_X5_nextToken_214 n h20 a0 i1))
def f_X5_nextToken_89 (h : zT) (a0 : Nat) (s0 : Int32) : Option (zT) :=
  (zg_I [5] h a0 17).bind fun v1 =>
  (zp_V [5] h a0 16 (.int v1)).bind fun h2 =>
  (zg_I [5] h2 a0 16).bind fun v3 =>
  (zg_I [5] h2 a0 15).bind fun v4 =>
  if ¬ v3 = v4 then (
    (zg_I [5] h2 a0 16).bind fun v5 =>
    (zk_C 5 h2 a0).bind fun _ =>
    (f_X5_isLetter h2 a0 v5).bind fun r6 =>
    if r6.1 = 0 then (
      (zg_I [5] r6.2 a0 16).bind fun v7 =>
      (zk_C 5 r6.2 a0).bind fun _ =>
      (f_X5_isDigit r6.2 a0 v7).bind fun r8 =>
      if r8.1 = 0 then (
        (zp_V [5] r8.2 a0 18 (.int (3 : Int32))).bind fun h9 =>
        (zg_R [5] h9 a0 14).bind fun v10 =>
        (zg_I [5] h9 a0 16).bind fun v11 =>
        (za_I .int h9 v10 v11).bind fun v12 =>
        (zp_V [5] h9 a0 20 (.int v12)).bind fun h13 =>
        (zg_I [5] h13 a0 17).bind fun v14 =>
        (zp_V [5] h13 a0 17 (.int (v14 + (1 : Int32)))).bind fun h15 =>
        some h15)
      else (
        (zp_V [5] r8.2 a0 19 (.int (0 : Int32))).bind fun h16 =>
        f_X5_nextToken_214 4096 h16 a0 s0))
    else (
      f_X5_nextToken_128 4096 r6.2 a0 s0))
  else (
    (zp_V [5] h2 a0 18 (.int (0 : Int32))).bind fun h17 =>
    some h17)
def f_X5_nextToken_72 (h : zT) (a0 : Nat) (i1 : Int32) (i2 : Int32) : Option (zT) :=
  if i1 = 0 then (
    f_X5_nextToken_89 h a0 (0 : Int32))
  else (
    (zg_I [5] h a0 17).bind fun v1 =>
    if ¬ i2 = v1 then (
      f_X5_nextToken_89 h a0 (0 : Int32))
    else (
      f_X5_nextToken_89 h a0 (1 : Int32)))
def f_X5_nextToken_34 : Nat → zT → Nat → Int32 → Int32 → Option (zT)
  | 0, _, _, _, _ => none
  | n + 1, h, a0, i1, i2 =>
    (zg_I [5] h a0 17).bind fun v1 =>
    (zg_I [5] h a0 15).bind fun v2 =>
    if v2 ≤ v1 then (
      f_X5_nextToken_72 h a0 i1 i2)
    else (
      (zg_R [5] h a0 14).bind fun v3 =>
      (zg_I [5] h a0 17).bind fun v4 =>
      (za_I .int h v3 v4).bind fun v5 =>
      if ¬ v5 = (32 : Int32) then (
        f_X5_nextToken_72 h a0 i1 i2)
      else (
        (zg_I [5] h a0 17).bind fun v6 =>
        (zp_V [5] h a0 17 (.int (v6 + (1 : Int32)))).bind fun h7 =>
        f_X5_nextToken_34 n h7 a0 i1 i2))
def f_X5_nextToken (h : zT) (a0 : Nat) : Option (zT) :=
  (zg_I [5] h a0 17).bind fun v1 =>
  if v1 ≤ 0 then (
    (zg_I [5] h a0 17).bind fun v2 =>
    f_X5_nextToken_34 4096 h a0 (0 : Int32) v2)
  else (
    (zg_I [5] h a0 18).bind fun v3 =>
    if v3 = (1 : Int32) then (
      (zg_I [5] h a0 17).bind fun v4 =>
      f_X5_nextToken_34 4096 h a0 (1 : Int32) v4)
    else (
      (zg_I [5] h a0 18).bind fun v5 =>
      if ¬ v5 = (2 : Int32) then (
        (zg_I [5] h a0 17).bind fun v6 =>
        f_X5_nextToken_34 4096 h a0 (0 : Int32) v6)
      else (
        (zg_I [5] h a0 17).bind fun v7 =>
        f_X5_nextToken_34 4096 h a0 (1 : Int32) v7)))
abbrev rm_X5_step : Room := { frames := 0, cells := 0, slots := 0, locals := 0 }
theorem cd_X5_step : zcd yX5_step 2 := by unfold zcd; decide +kernel
def f_X5_step (h : zT) (a0 : Nat) (i1 : Int32) (i2 : Int32) : Option (zT) :=
  (zg_R [5] h a0 0).bind fun v1 =>
  (zg_I [5] h a0 24).bind fun v2 =>
  (zg_I [5] h a0 23).bind fun v3 =>
  (zs_I .int h v1 (v2 + ((2 : Int32) * v3)) i1).bind fun h4 =>
  (zg_R [5] h4 a0 0).bind fun v5 =>
  (zg_I [5] h4 a0 24).bind fun v6 =>
  (zg_I [5] h4 a0 23).bind fun v7 =>
  (zs_I .int h4 v5 ((v6 + ((2 : Int32) * v7)) + (1 : Int32)) i2).bind fun h8 =>
  (zg_I [5] h8 a0 23).bind fun v9 =>
  (zp_V [5] h8 a0 23 (.int (v9 + (1 : Int32)))).bind fun h10 =>
  some h10
abbrev rm_X5_part0 (d : Nat) : Room := { frames := 6 * d + 8, cells := 0, slots := 0, locals := 180 * d + 200 }
abbrev rm_X5_term (d : Nat) : Room := { frames := 6 * d + 9, cells := 0, slots := 0, locals := 180 * d + 230 }
abbrev rm_X5_sum (d : Nat) : Room := { frames := 6 * d + 10, cells := 0, slots := 0, locals := 180 * d + 260 }
abbrev rm_X5_test (d : Nat) : Room := { frames := 6 * d + 11, cells := 0, slots := 0, locals := 180 * d + 290 }
abbrev rm_X5_both (d : Nat) : Room := { frames := 6 * d + 12, cells := 0, slots := 0, locals := 180 * d + 320 }
abbrev rm_X5_either (d : Nat) : Room := { frames := 6 * d + 13, cells := 0, slots := 0, locals := 180 * d + 350 }
theorem cd_X5_term : zcd yX5_term 1 := by unfold zcd; decide +kernel
def f_X5_term_28 (P : zT → Nat → Int32 → Option (Int32 × zT)) (K10 : zT → Nat → Int32 → Option (Int32 × zT)) (h : zT) (a0 : Nat) (i1 : Int32) : Option (Int32 × zT) :=
  (zg_I [5] h a0 20).bind fun v1 =>
  (zk_C 5 h a0).bind fun _ =>
  (f_X5_nextToken h a0).bind fun r2 =>
  (zk_C 5 r2 a0).bind fun _ =>
  (P r2 a0 i1).bind fun r3 =>
  if ¬ r3.1 = 0 then (
    (zk_C 5 r3.2 a0).bind fun _ =>
    (f_X5_step r3.2 a0 (2 : Int32) v1).bind fun r4 =>
    K10 r4 a0 i1)
  else (
    if (0 : Int32) = 0 ∨ (0 : Int32) = 1 then some ((0 : Int32), r3.2) else none)
def f_X5_term_10 (P : zT → Nat → Int32 → Option (Int32 × zT)) : Nat → zT → Nat → Int32 → Option (Int32 × zT)
  | 0, _, _, _ => none
  | n + 1, h, a0, i1 =>
    (zk_C 5 h a0).bind fun _ =>
    (f_X5_isSign h a0 (42 : Int32)).bind fun r1 =>
    if ¬ r1.1 = 0 then (
      f_X5_term_28 P (f_X5_term_10 P n) r1.2 a0 i1)
    else (
      (zk_C 5 r1.2 a0).bind fun _ =>
      (f_X5_isSign r1.2 a0 (47 : Int32)).bind fun r2 =>
      if r2.1 = 0 then (
        if (1 : Int32) = 0 ∨ (1 : Int32) = 1 then some ((1 : Int32), r2.2) else none)
      else (
        f_X5_term_28 P (f_X5_term_10 P n) r2.2 a0 i1))
def f_X5_term (P : zT → Nat → Int32 → Option (Int32 × zT)) (h : zT) (a0 : Nat) (i1 : Int32) : Option (Int32 × zT) :=
  (zk_C 5 h a0).bind fun _ =>
  (P h a0 i1).bind fun r1 =>
  if ¬ r1.1 = 0 then (
    f_X5_term_10 P 4096 r1.2 a0 i1)
  else (
    if (0 : Int32) = 0 ∨ (0 : Int32) = 1 then some ((0 : Int32), r1.2) else none)
theorem cd_X5_sum : zcd yX5_sum 1 := by unfold zcd; decide +kernel
def f_X5_sum_28 (P : zT → Nat → Int32 → Option (Int32 × zT)) (K10 : zT → Nat → Int32 → Option (Int32 × zT)) (h : zT) (a0 : Nat) (i1 : Int32) : Option (Int32 × zT) :=
  (zg_I [5] h a0 20).bind fun v1 =>
  (zk_C 5 h a0).bind fun _ =>
  (f_X5_nextToken h a0).bind fun r2 =>
  (zk_C 5 r2 a0).bind fun _ =>
  (f_X5_term P r2 a0 i1).bind fun r3 =>
  if ¬ r3.1 = 0 then (
    (zk_C 5 r3.2 a0).bind fun _ =>
    (f_X5_step r3.2 a0 (2 : Int32) v1).bind fun r4 =>
    K10 r4 a0 i1)
  else (
    if (0 : Int32) = 0 ∨ (0 : Int32) = 1 then some ((0 : Int32), r3.2) else none)
def f_X5_sum_10 (P : zT → Nat → Int32 → Option (Int32 × zT)) : Nat → zT → Nat → Int32 → Option (Int32 × zT)
  | 0, _, _, _ => none
  | n + 1, h, a0, i1 =>
    (zk_C 5 h a0).bind fun _ =>
    (f_X5_isSign h a0 (43 : Int32)).bind fun r1 =>
    if ¬ r1.1 = 0 then (
      f_X5_sum_28 P (f_X5_sum_10 P n) r1.2 a0 i1)
    else (
      (zk_C 5 r1.2 a0).bind fun _ =>
      (f_X5_isSign r1.2 a0 (45 : Int32)).bind fun r2 =>
      if r2.1 = 0 then (
        if (1 : Int32) = 0 ∨ (1 : Int32) = 1 then some ((1 : Int32), r2.2) else none)
      else (
        f_X5_sum_28 P (f_X5_sum_10 P n) r2.2 a0 i1))
def f_X5_sum (P : zT → Nat → Int32 → Option (Int32 × zT)) (h : zT) (a0 : Nat) (i1 : Int32) : Option (Int32 × zT) :=
  (zk_C 5 h a0).bind fun _ =>
  (f_X5_term P h a0 i1).bind fun r1 =>
  if ¬ r1.1 = 0 then (
    f_X5_sum_10 P 4096 r1.2 a0 i1)
  else (
    if (0 : Int32) = 0 ∨ (0 : Int32) = 1 then some ((0 : Int32), r1.2) else none)
theorem cd_X5_test : zcd yX5_test 1 := by unfold zcd; decide +kernel
def f_X5_test_37 (P : zT → Nat → Int32 → Option (Int32 × zT)) (h : zT) (a0 : Nat) (i1 : Int32) : Option (Int32 × zT) :=
  (zg_I [5] h a0 20).bind fun v1 =>
  (zk_C 5 h a0).bind fun _ =>
  (f_X5_nextToken h a0).bind fun r2 =>
  (zk_C 5 r2 a0).bind fun _ =>
  (f_X5_sum P r2 a0 i1).bind fun r3 =>
  if ¬ r3.1 = 0 then (
    (zk_C 5 r3.2 a0).bind fun _ =>
    (f_X5_step r3.2 a0 (2 : Int32) v1).bind fun r4 =>
    if (1 : Int32) = 0 ∨ (1 : Int32) = 1 then some ((1 : Int32), r4) else none)
  else (
    if (0 : Int32) = 0 ∨ (0 : Int32) = 1 then some ((0 : Int32), r3.2) else none)
def f_X5_test (P : zT → Nat → Int32 → Option (Int32 × zT)) (h : zT) (a0 : Nat) (i1 : Int32) : Option (Int32 × zT) :=
  (zk_C 5 h a0).bind fun _ =>
  (f_X5_sum P h a0 i1).bind fun r1 =>
  if ¬ r1.1 = 0 then (
    (zk_C 5 r1.2 a0).bind fun _ =>
    (f_X5_isSign r1.2 a0 (60 : Int32)).bind fun r2 =>
    if ¬ r2.1 = 0 then (
      f_X5_test_37 P r2.2 a0 i1)
    else (
      (zk_C 5 r2.2 a0).bind fun _ =>
      (f_X5_isSign r2.2 a0 (61 : Int32)).bind fun r3 =>
      if ¬ r3.1 = 0 then (
        f_X5_test_37 P r3.2 a0 i1)
      else (
        (zk_C 5 r3.2 a0).bind fun _ =>
        (f_X5_isSign r3.2 a0 (62 : Int32)).bind fun r4 =>
        if r4.1 = 0 then (
          if (1 : Int32) = 0 ∨ (1 : Int32) = 1 then some ((1 : Int32), r4.2) else none)
        else (
          f_X5_test_37 P r4.2 a0 i1))))
  else (
    if (0 : Int32) = 0 ∨ (0 : Int32) = 1 then some ((0 : Int32), r1.2) else none)
theorem cd_X5_both : zcd yX5_both 1 := by unfold zcd; decide +kernel
def f_X5_both_10 (P : zT → Nat → Int32 → Option (Int32 × zT)) : Nat → zT → Nat → Int32 → Option (Int32 × zT)
  | 0, _, _, _ => none
  | n + 1, h, a0, i1 =>
    (zk_C 5 h a0).bind fun _ =>
    (f_X5_isSign h a0 (38 : Int32)).bind fun r1 =>
    if r1.1 = 0 then (
      if (1 : Int32) = 0 ∨ (1 : Int32) = 1 then some ((1 : Int32), r1.2) else none)
    else (
      (zk_C 5 r1.2 a0).bind fun _ =>
      (f_X5_nextToken r1.2 a0).bind fun r2 =>
      (zk_C 5 r2 a0).bind fun _ =>
      (f_X5_test P r2 a0 i1).bind fun r3 =>
      if ¬ r3.1 = 0 then (
        (zk_C 5 r3.2 a0).bind fun _ =>
        (f_X5_step r3.2 a0 (2 : Int32) (38 : Int32)).bind fun r4 =>
        f_X5_both_10 P n r4 a0 i1)
      else (
        if (0 : Int32) = 0 ∨ (0 : Int32) = 1 then some ((0 : Int32), r3.2) else none))
def f_X5_both (P : zT → Nat → Int32 → Option (Int32 × zT)) (h : zT) (a0 : Nat) (i1 : Int32) : Option (Int32 × zT) :=
  (zk_C 5 h a0).bind fun _ =>
  (f_X5_test P h a0 i1).bind fun r1 =>
  if ¬ r1.1 = 0 then (
    f_X5_both_10 P 4096 r1.2 a0 i1)
  else (
    if (0 : Int32) = 0 ∨ (0 : Int32) = 1 then some ((0 : Int32), r1.2) else none)
theorem cd_X5_either : zcd yX5_either 1 := by unfold zcd; decide +kernel
def f_X5_either_10 (P : zT → Nat → Int32 → Option (Int32 × zT)) : Nat → zT → Nat → Int32 → Option (Int32 × zT)
  | 0, _, _, _ => none
  | n + 1, h, a0, i1 =>
    (zk_C 5 h a0).bind fun _ =>
    (f_X5_isSign h a0 (124 : Int32)).bind fun r1 =>
    if r1.1 = 0 then (
      if (1 : Int32) = 0 ∨ (1 : Int32) = 1 then some ((1 : Int32), r1.2) else none)
    else (
      (zk_C 5 r1.2 a0).bind fun _ =>
      (f_X5_nextToken r1.2 a0).bind fun r2 =>
      (zk_C 5 r2 a0).bind fun _ =>
      (f_X5_both P r2 a0 i1).bind fun r3 =>
      if ¬ r3.1 = 0 then (
        (zk_C 5 r3.2 a0).bind fun _ =>
        (f_X5_step r3.2 a0 (2 : Int32) (124 : Int32)).bind fun r4 =>
        f_X5_either_10 P n r4 a0 i1)
      else (
        if (0 : Int32) = 0 ∨ (0 : Int32) = 1 then some ((0 : Int32), r3.2) else none))
def f_X5_either (P : zT → Nat → Int32 → Option (Int32 × zT)) (h : zT) (a0 : Nat) (i1 : Int32) : Option (Int32 × zT) :=
  (zk_C 5 h a0).bind fun _ =>
  (f_X5_both P h a0 i1).bind fun r1 =>
  if ¬ r1.1 = 0 then (
    f_X5_either_10 P 4096 r1.2 a0 i1)
  else (
    if (0 : Int32) = 0 ∨ (0 : Int32) = 1 then some ((0 : Int32), r1.2) else none)
abbrev rm_X5_isName : Room := { frames := 0, cells := 0, slots := 0, locals := 0 }
theorem cd_X5_isName : zcd yX5_isName 2 := by unfold zcd; decide +kernel
def f_X5_isName (h : zT) (i0 : Int32) (i1 : Int32) : Option (Int32 × zT) :=
  if i0 = (0 : Int32) then (
    if i1 = (116 : Int32) then (
      if (1 : Int32) = 0 ∨ (1 : Int32) = 1 then some ((1 : Int32), h) else none)
    else (
      if i1 = (115 : Int32) then (
        if (1 : Int32) = 0 ∨ (1 : Int32) = 1 then some ((1 : Int32), h) else none)
      else (
        if ¬ i1 = (108 : Int32) then (
          if (0 : Int32) = 0 ∨ (0 : Int32) = 1 then some ((0 : Int32), h) else none)
        else (
          if (1 : Int32) = 0 ∨ (1 : Int32) = 1 then some ((1 : Int32), h) else none))))
  else (
    if i0 = (1 : Int32) then (
      if i1 = (110 : Int32) then (
        if (1 : Int32) = 0 ∨ (1 : Int32) = 1 then some ((1 : Int32), h) else none)
      else (
        if ¬ i1 = (102 : Int32) then (
          if (0 : Int32) = 0 ∨ (0 : Int32) = 1 then some ((0 : Int32), h) else none)
        else (
          if (1 : Int32) = 0 ∨ (1 : Int32) = 1 then some ((1 : Int32), h) else none)))
    else (
      if i1 = (116 : Int32) then (
        if (1 : Int32) = 0 ∨ (1 : Int32) = 1 then some ((1 : Int32), h) else none)
      else (
        if ¬ i1 = (115 : Int32) then (
          if (0 : Int32) = 0 ∨ (0 : Int32) = 1 then some ((0 : Int32), h) else none)
        else (
          if (1 : Int32) = 0 ∨ (1 : Int32) = 1 then some ((1 : Int32), h) else none))))
theorem cd_X5_part0 : zcd yX5_part0 1 := by unfold zcd; decide +kernel
def f_X5_part0_145 (P : zT → Nat → Int32 → Option (Int32 × zT)) (h : zT) (a0 : Nat) (i1 : Int32) : Option (Int32 × zT) :=
  (zk_C 5 h a0).bind fun _ =>
  (f_X5_isSign h a0 (40 : Int32)).bind fun r1 =>
  if r1.1 = 0 then (
    if (0 : Int32) = 0 ∨ (0 : Int32) = 1 then some ((0 : Int32), r1.2) else none)
  else (
    (zg_I [5] r1.2 a0 21).bind fun v2 =>
    if ¬ v2 = (8 : Int32) then (
      (zg_I [5] r1.2 a0 21).bind fun v3 =>
      (zp_V [5] r1.2 a0 21 (.int (v3 + (1 : Int32)))).bind fun h4 =>
      (zk_C 5 h4 a0).bind fun _ =>
      (f_X5_nextToken h4 a0).bind fun r5 =>
      (zk_C 5 r5 a0).bind fun _ =>
      (f_X5_either P r5 a0 i1).bind fun r6 =>
      if r6.1 = 0 then (
        if (0 : Int32) = 0 ∨ (0 : Int32) = 1 then some ((0 : Int32), r6.2) else none)
      else (
        (zk_C 5 r6.2 a0).bind fun _ =>
        (f_X5_isSign r6.2 a0 (41 : Int32)).bind fun r7 =>
        if ¬ r7.1 = 0 then (
          (zg_I [5] r7.2 a0 21).bind fun v8 =>
          (zp_V [5] r7.2 a0 21 (.int (v8 - (1 : Int32)))).bind fun h9 =>
          (zk_C 5 h9 a0).bind fun _ =>
          (f_X5_nextToken h9 a0).bind fun r10 =>
          if (1 : Int32) = 0 ∨ (1 : Int32) = 1 then some ((1 : Int32), r10) else none)
        else (
          if (0 : Int32) = 0 ∨ (0 : Int32) = 1 then some ((0 : Int32), r7.2) else none)))
    else (
      if (0 : Int32) = 0 ∨ (0 : Int32) = 1 then some ((0 : Int32), r1.2) else none))
def f_X5_part0_84 (P : zT → Nat → Int32 → Option (Int32 × zT)) (h : zT) (a0 : Nat) (i1 : Int32) : Option (Int32 × zT) :=
  (zk_C 5 h a0).bind fun _ =>
  (f_X5_isSign h a0 (33 : Int32)).bind fun r1 =>
  if r1.1 = 0 then (
    f_X5_part0_145 P r1.2 a0 i1)
  else (
    (zg_I [5] r1.2 a0 22).bind fun v2 =>
    if (8 : Int32) ≤ v2 then (
      f_X5_part0_145 P r1.2 a0 i1)
    else (
      (zg_I [5] r1.2 a0 22).bind fun v3 =>
      (zp_V [5] r1.2 a0 22 (.int (v3 + (1 : Int32)))).bind fun h4 =>
      (zk_C 5 h4 a0).bind fun _ =>
      (f_X5_nextToken h4 a0).bind fun r5 =>
      (zk_C 5 r5 a0).bind fun _ =>
      (P r5 a0 i1).bind fun r6 =>
      if ¬ r6.1 = 0 then (
        (zg_I [5] r6.2 a0 22).bind fun v7 =>
        (zp_V [5] r6.2 a0 22 (.int (v7 - (1 : Int32)))).bind fun h8 =>
        (zk_C 5 h8 a0).bind fun _ =>
        (f_X5_step h8 a0 (2 : Int32) (33 : Int32)).bind fun r9 =>
        if (1 : Int32) = 0 ∨ (1 : Int32) = 1 then some ((1 : Int32), r9) else none)
      else (
        if (0 : Int32) = 0 ∨ (0 : Int32) = 1 then some ((0 : Int32), r6.2) else none)))
def f_X5_part0B (P : zT → Nat → Int32 → Option (Int32 × zT)) (h : zT) (a0 : Nat) (i1 : Int32) : Option (Int32 × zT) :=
  (zg_I [5] h a0 18).bind fun v1 =>
  if ¬ v1 = (2 : Int32) then (
    (zg_I [5] h a0 18).bind fun v2 =>
    if ¬ v2 = (1 : Int32) then (
      f_X5_part0_84 P h a0 i1)
    else (
      (zg_I [5] h a0 20).bind fun v3 =>
      if v3 = 0 then (
        f_X5_part0_84 P h a0 i1)
      else (
        (zg_I [5] h a0 20).bind fun v4 =>
        (f_X5_isName h i1 v4).bind fun r5 =>
        if r5.1 = 0 then (
          f_X5_part0_84 P r5.2 a0 i1)
        else (
          (zg_I [5] r5.2 a0 20).bind fun v6 =>
          (zk_C 5 r5.2 a0).bind fun _ =>
          (f_X5_step r5.2 a0 (1 : Int32) v6).bind fun r7 =>
          (zg_I [5] r7 a0 25).bind fun v8 =>
          (zp_V [5] r7 a0 25 (.int (v8 + (1 : Int32)))).bind fun h9 =>
          (zk_C 5 h9 a0).bind fun _ =>
          (f_X5_nextToken h9 a0).bind fun r10 =>
          if (1 : Int32) = 0 ∨ (1 : Int32) = 1 then some ((1 : Int32), r10) else none))))
  else (
    (zg_I [5] h a0 19).bind fun v11 =>
    (zk_C 5 h a0).bind fun _ =>
    (f_X5_step h a0 (0 : Int32) v11).bind fun r12 =>
    (zg_I [5] r12 a0 25).bind fun v13 =>
    (zp_V [5] r12 a0 25 (.int (v13 + (1 : Int32)))).bind fun h14 =>
    (zk_C 5 h14 a0).bind fun _ =>
    (f_X5_nextToken h14 a0).bind fun r15 =>
    if (1 : Int32) = 0 ∨ (1 : Int32) = 1 then some ((1 : Int32), r15) else none)
def f_X5_part0 : Nat → zT → Nat → Int32 → Option (Int32 × zT)
  | 0, _, _, _ => none
  | d + 1, h, a0, i1 => f_X5_part0B (f_X5_part0 d) h a0 i1
abbrev rm_X5_init : Room := { frames := 1, cells := 19, slots := 10021, locals := 20 }
theorem cd_X5_init : zcd yX5_init 0 := by unfold zcd; decide +kernel
def f_X5_init_163 : Nat → zT → Nat → Int32 → Option (zT)
  | 0, _, _, _ => none
  | n + 1, h, a0, i1 =>
    if (4 : Int32) ≤ i1 then (
      some h)
    else (
      (zg_R [5] h a0 4).bind fun v1 =>
      (zs_I .int h v1 i1 (-1 : Int32)).bind fun h2 =>
      (some (i1 + (1 : Int32))).bind fun v3 =>
      f_X5_init_163 n h2 a0 v3)
def f_X5_init (h : zT) (a0 : Nat) : Option (zT) :=
  (zn_A .int h (3075 : Int32)).bind fun r1 =>
  (zp_V [5] r1.2 a0 0 (.ref r1.1)).bind fun h2 =>
  (zn_A .int h2 (3075 : Int32)).bind fun r3 =>
  (zp_V [5] r3.2 a0 1 (.ref r3.1)).bind fun h4 =>
  (zn_A .int h4 (3075 : Int32)).bind fun r5 =>
  (zp_V [5] r5.2 a0 2 (.ref r5.1)).bind fun h6 =>
  (zn_A .int h6 (4 : Int32)).bind fun r7 =>
  (zp_V [5] r7.2 a0 4 (.ref r7.1)).bind fun h8 =>
  (zn_A .int h8 (4 : Int32)).bind fun r9 =>
  (zp_V [5] r9.2 a0 5 (.ref r9.1)).bind fun h10 =>
  (zn_A .int h10 (96 : Int32)).bind fun r11 =>
  (zp_V [5] r11.2 a0 6 (.ref r11.1)).bind fun h12 =>
  (zn_A .int h12 (5 : Int32)).bind fun r13 =>
  (zp_V [5] r13.2 a0 7 (.ref r13.1)).bind fun h14 =>
  (zn_A .int h14 (5 : Int32)).bind fun r15 =>
  (zp_V [5] r15.2 a0 8 (.ref r15.1)).bind fun h16 =>
  (zn_A .int h16 (5 : Int32)).bind fun r17 =>
  (zp_V [5] r17.2 a0 9 (.ref r17.1)).bind fun h18 =>
  (zn_A .int h18 (5 : Int32)).bind fun r19 =>
  (zp_V [5] r19.2 a0 10 (.ref r19.1)).bind fun h20 =>
  (zn_A .int h20 (120 : Int32)).bind fun r21 =>
  (zp_V [5] r21.2 a0 11 (.ref r21.1)).bind fun h22 =>
  (zn_A .int h22 (9 : Int32)).bind fun r23 =>
  (zp_V [5] r23.2 a0 12 (.ref r23.1)).bind fun h24 =>
  (zn_A .int h24 (75 : Int32)).bind fun r25 =>
  (zp_V [5] r25.2 a0 13 (.ref r25.1)).bind fun h26 =>
  (zn_A .int h26 (96 : Int32)).bind fun r27 =>
  (zp_V [5] r27.2 a0 14 (.ref r27.1)).bind fun h28 =>
  (zn_A .int h28 (128 : Int32)).bind fun r29 =>
  (zp_V [5] r29.2 a0 26 (.ref r29.1)).bind fun h30 =>
  (zn_A .int h30 (100 : Int32)).bind fun r31 =>
  (zp_V [5] r31.2 a0 27 (.ref r31.1)).bind fun h32 =>
  (zn_A .int h32 (24 : Int32)).bind fun r33 =>
  (zp_V [5] r33.2 a0 28 (.ref r33.1)).bind fun h34 =>
  (zn_A .int h34 (60 : Int32)).bind fun r35 =>
  (zp_V [5] r35.2 a0 29 (.ref r35.1)).bind fun h36 =>
  (zn_A .int h36 (60 : Int32)).bind fun r37 =>
  (zp_V [5] r37.2 a0 31 (.ref r37.1)).bind fun h38 =>
  (zg_R [5] h38 a0 0).bind fun v39 =>
  (zs_I .int h38 v39 (4 : Int32) (1 : Int32)).bind fun h40 =>
  f_X5_init_163 4096 h40 a0 (0 : Int32)
abbrev rm_X5_sets : Room := { frames := 0, cells := 0, slots := 0, locals := 0 }
theorem cd_X5_sets : zcd yX5_sets 3 := by unfold zcd; decide +kernel
def f_X5_sets (h : zT) (a0 : Nat) (i1 : Int32) (i2 : Int32) (i3 : Int32) : Option (zT) :=
  (zg_R [5] h a0 0).bind fun v1 =>
  (zs_I .int h v1 (((21 : Int32) + ((6 : Int32) * i1)) + i2) i3).bind fun h2 =>
  some h2
abbrev rm_X5_comes : Room := { frames := 1, cells := 0, slots := 0, locals := 23 }
theorem cd_X5_comes : zcd yX5_comes 3 := by unfold zcd; decide +kernel
def f_X5_comes (h : zT) (a0 : Nat) (i1 : Int32) (i2 : Int32) (i3 : Int32) : Option (zT) :=
  (zg_R [5] h a0 0).bind fun v1 =>
  (za_I .int h v1 (0 : Int32)).bind fun v2 =>
  (zg_R [5] h a0 0).bind fun v3 =>
  (za_I .int h v3 (0 : Int32)).bind fun v4 =>
  (zs_I .int h v3 (0 : Int32) (v4 + (1 : Int32))).bind fun h5 =>
  (zk_C 5 h5 a0).bind fun _ =>
  (f_X5_sets h5 a0 v2 (0 : Int32) i1).bind fun r6 =>
  (zk_C 5 r6 a0).bind fun _ =>
  (f_X5_sets r6 a0 v2 (1 : Int32) i2).bind fun r7 =>
  (zk_C 5 r7 a0).bind fun _ =>
  (f_X5_sets r7 a0 v2 (2 : Int32) i3).bind fun r8 =>
  (zk_C 5 r8 a0).bind fun _ =>
  (f_X5_sets r8 a0 v2 (3 : Int32) (0 : Int32)).bind fun r9 =>
  (zk_C 5 r9 a0).bind fun _ =>
  (f_X5_sets r9 a0 v2 (4 : Int32) (16 : Int32)).bind fun r10 =>
  (zk_C 5 r10 a0).bind fun _ =>
  (f_X5_sets r10 a0 v2 (5 : Int32) (50 : Int32)).bind fun r11 =>
  some r11
abbrev rm_X5_rubbing : Room := { frames := 2, cells := 0, slots := 0, locals := 47 }
theorem cd_X5_rubbing : zcd yX5_rubbing 3 := by unfold zcd; decide +kernel
def f_X5_rubbing (h : zT) (a0 : Nat) (i1 : Int32) (i2 : Int32) (i3 : Int32) : Option (Int32 × zT) :=
  (f_X5_isIn h i1.toInt64 (0 : Int64) (5 : Int64)).bind fun r1 =>
  if r1.1 = 0 then (
    some ((-1000000001 : Int32), r1.2))
  else (
    (f_X5_isIn r1.2 i2.toInt64 (0 : Int64) (65535 : Int64)).bind fun r2 =>
    if r2.1 = 0 then (
      some ((-1000000001 : Int32), r2.2))
    else (
      (f_X5_isIn r2.2 i3.toInt64 (1 : Int64) (8 : Int64)).bind fun r3 =>
      if ¬ r3.1 = 0 then (
        (zg_R [5] r3.2 a0 0).bind fun v4 =>
        (za_I .int r3.2 v4 (0 : Int32)).bind fun v5 =>
        if ¬ v5 = (9 : Int32) then (
          (zk_C 5 r3.2 a0).bind fun _ =>
          (f_X5_comes r3.2 a0 i1 i2 i3).bind fun r6 =>
          (zg_R [5] r6 a0 0).bind fun v7 =>
          (za_I .int r6 v7 (0 : Int32)).bind fun v8 =>
          some (v8 - (1 : Int32), r6))
        else (
          some ((-1000000003 : Int32), r3.2)))
      else (
        some ((-1000000001 : Int32), r3.2))))
abbrev rm_X5_of : Room := { frames := 0, cells := 0, slots := 0, locals := 0 }
theorem cd_X5_of : zcd yX5_of 2 := by unfold zcd; decide +kernel
def f_X5_of (h : zT) (a0 : Nat) (i1 : Int32) (i2 : Int32) : Option (Int32 × zT) :=
  (zg_R [5] h a0 0).bind fun v1 =>
  (za_I .int h v1 (((21 : Int32) + ((6 : Int32) * i1)) + i2)).bind fun v2 =>
  some (v2, h)
abbrev rm_X5_coversFrom : Room := { frames := 1, cells := 0, slots := 0, locals := 22 }
theorem cd_X5_coversFrom : zcd yX5_coversFrom 2 := by unfold zcd; decide +kernel
def f_X5_coversFrom (h : zT) (a0 : Nat) (i1 : Int32) (i2 : Int32) : Option (Int32 × zT) :=
  (zk_C 5 h a0).bind fun _ =>
  (f_X5_of h a0 i1 (2 : Int32)).bind fun r1 =>
  some (((((1 : Int32) <<< (r1.1 &&& 31)) - (1 : Int32)) <<< (i2 &&& 31)) &&& (65535 : Int32), r1.2)
abbrev rm_X5_covers : Room := { frames := 2, cells := 0, slots := 0, locals := 44 }
theorem cd_X5_covers : zcd yX5_covers 1 := by unfold zcd; decide +kernel
def f_X5_covers (h : zT) (a0 : Nat) (i1 : Int32) : Option (Int32 × zT) :=
  (zk_C 5 h a0).bind fun _ =>
  (f_X5_of h a0 i1 (4 : Int32)).bind fun r1 =>
  (zk_C 5 r1.2 a0).bind fun _ =>
  (f_X5_coversFrom r1.2 a0 i1 r1.1).bind fun r2 =>
  some (r2.1, r2.2)
abbrev rm_X5_textAt : Room := { frames := 0, cells := 0, slots := 0, locals := 0 }
theorem cd_X5_textAt : zcd yX5_textAt 1 := by unfold zcd; decide +kernel
def f_X5_textAt (h : zT) (a0 : Nat) (i1 : Int32) : Option (Int32 × zT) :=
  some ((75 : Int32) + ((200 : Int32) * i1), h)
abbrev rm_X5_counts : Room := { frames := 1, cells := 0, slots := 0, locals := 21 }
theorem cd_X5_counts : zcd yX5_counts 1 := by unfold zcd; decide +kernel
def f_X5_counts_4 : Nat → zT → Nat → Int32 → Int32 → Int32 → Option (Int32 × zT)
  | 0, _, _, _, _, _ => none
  | n + 1, h, a0, i1, i2, i3 =>
    (zg_R [5] h a0 0).bind fun v1 =>
    (za_I .int h v1 (1 : Int32)).bind fun v2 =>
    if v2 ≤ i3 then (
      some (i2, h))
    else (
      (zg_R [5] h a0 0).bind fun v3 =>
      (zk_C 5 h a0).bind fun _ =>
      (f_X5_textAt h a0 i3).bind fun r4 =>
      (za_I .int r4.2 v3 r4.1).bind fun v5 =>
      if ¬ v5 = i1 then (
        (some (i3 + (1 : Int32))).bind fun v6 =>
        f_X5_counts_4 n r4.2 a0 i1 i2 v6)
      else (
        (some (i3 + (1 : Int32))).bind fun v7 =>
        f_X5_counts_4 n r4.2 a0 i1 i3 v7))
def f_X5_counts (h : zT) (a0 : Nat) (i1 : Int32) : Option (Int32 × zT) :=
  f_X5_counts_4 4096 h a0 i1 (-1 : Int32) (0 : Int32)
abbrev rm_X5_within : Room := { frames := 0, cells := 0, slots := 0, locals := 0 }
theorem cd_X5_within : zcd yX5_within 2 := by unfold zcd; decide +kernel
def f_X5_within (h : zT) (i0 : Int32) (i1 : Int32) : Option (Int32 × zT) :=
  if 0 ≤ i0 then (
    if i0 ≤ i1 then (
      some (i0, h))
    else (
      some (i1, h)))
  else (
    some ((0 : Int32), h))
abbrev rm_X5_joined : Room := { frames := 0, cells := 0, slots := 0, locals := 0 }
theorem cd_X5_joined : zcd yX5_joined 3 := by unfold zcd; decide +kernel
def f_X5_joined (h : zT) (i0 : Int32) (i1 : Int32) (i2 : Int32) : Option (Int32 × zT) :=
  if i0 = (38 : Int32) then (
    if i1 = 0 then (
      some ((0 : Int32), h))
    else (
      if i2 = 0 then (
        some ((0 : Int32), h))
      else (
        some ((1 : Int32), h))))
  else (
    if i0 = (39 : Int32) then (
      if ¬ i1 = 0 then (
        some ((1 : Int32), h))
      else (
        if i2 = 0 then (
          some ((0 : Int32), h))
        else (
          some ((1 : Int32), h))))
    else (
      if i0 = (40 : Int32) then (
        if ¬ i1 = 0 then (
          some ((1 : Int32), h))
        else (
          if i2 = 0 then (
            some ((0 : Int32), h))
          else (
            some ((1 : Int32), h))))
      else (
        if i0 = (41 : Int32) then (
          if ¬ i1 = 0 then (
            some ((1 : Int32), h))
          else (
            if i2 = 0 then (
              some ((0 : Int32), h))
            else (
              some ((1 : Int32), h))))
        else (
          if i0 = (42 : Int32) then (
            some (i1 * i2, h))
          else (
            if i0 = (43 : Int32) then (
              some (i1 + i2, h))
            else (
              if i0 = (44 : Int32) then (
                if ¬ i1 = 0 then (
                  some ((1 : Int32), h))
                else (
                  if i2 = 0 then (
                    some ((0 : Int32), h))
                  else (
                    some ((1 : Int32), h))))
              else (
                if i0 = (45 : Int32) then (
                  some (i1 - i2, h))
                else (
                  if i0 = (46 : Int32) then (
                    if ¬ i1 = 0 then (
                      some ((1 : Int32), h))
                    else (
                      if i2 = 0 then (
                        some ((0 : Int32), h))
                      else (
                        some ((1 : Int32), h))))
                  else (
                    if i0 = (47 : Int32) then (
                      if ¬ i2 = 0 then (
                        if ¬ i2 = (-1 : Int32) then (
                          (if i2 = 0 then none else some ()).bind fun _ =>
                          some (i1 / i2, h))
                        else (
                          some (-i1, h)))
                      else (
                        some ((0 : Int32), h)))
                    else (
                      if i0 = (48 : Int32) then (
                        if ¬ i1 = 0 then (
                          some ((1 : Int32), h))
                        else (
                          if i2 = 0 then (
                            some ((0 : Int32), h))
                          else (
                            some ((1 : Int32), h))))
                      else (
                        if i0 = (49 : Int32) then (
                          if ¬ i1 = 0 then (
                            some ((1 : Int32), h))
                          else (
                            if i2 = 0 then (
                              some ((0 : Int32), h))
                            else (
                              some ((1 : Int32), h))))
                        else (
                          if i0 = (50 : Int32) then (
                            if ¬ i1 = 0 then (
                              some ((1 : Int32), h))
                            else (
                              if i2 = 0 then (
                                some ((0 : Int32), h))
                              else (
                                some ((1 : Int32), h))))
                          else (
                            if i0 = (51 : Int32) then (
                              if ¬ i1 = 0 then (
                                some ((1 : Int32), h))
                              else (
                                if i2 = 0 then (
                                  some ((0 : Int32), h))
                                else (
                                  some ((1 : Int32), h))))
                            else (
                              if i0 = (52 : Int32) then (
                                if ¬ i1 = 0 then (
                                  some ((1 : Int32), h))
                                else (
                                  if i2 = 0 then (
                                    some ((0 : Int32), h))
                                  else (
                                    some ((1 : Int32), h))))
                              else (
                                if i0 = (53 : Int32) then (
                                  if ¬ i1 = 0 then (
                                    some ((1 : Int32), h))
                                  else (
                                    if i2 = 0 then (
                                      some ((0 : Int32), h))
                                    else (
                                      some ((1 : Int32), h))))
                                else (
                                  if i0 = (54 : Int32) then (
                                    if ¬ i1 = 0 then (
                                      some ((1 : Int32), h))
                                    else (
                                      if i2 = 0 then (
                                        some ((0 : Int32), h))
                                      else (
                                        some ((1 : Int32), h))))
                                  else (
                                    if i0 = (55 : Int32) then (
                                      if ¬ i1 = 0 then (
                                        some ((1 : Int32), h))
                                      else (
                                        if i2 = 0 then (
                                          some ((0 : Int32), h))
                                        else (
                                          some ((1 : Int32), h))))
                                    else (
                                      if i0 = (56 : Int32) then (
                                        if ¬ i1 = 0 then (
                                          some ((1 : Int32), h))
                                        else (
                                          if i2 = 0 then (
                                            some ((0 : Int32), h))
                                          else (
                                            some ((1 : Int32), h))))
                                      else (
                                        if i0 = (57 : Int32) then (
                                          if ¬ i1 = 0 then (
                                            some ((1 : Int32), h))
                                          else (
                                            if i2 = 0 then (
                                              some ((0 : Int32), h))
                                            else (
                                              some ((1 : Int32), h))))
                                        else (
                                          if i0 = (58 : Int32) then (
                                            if ¬ i1 = 0 then (
                                              some ((1 : Int32), h))
                                            else (
                                              if i2 = 0 then (
                                                some ((0 : Int32), h))
                                              else (
                                                some ((1 : Int32), h))))
                                          else (
                                            if i0 = (59 : Int32) then (
                                              if ¬ i1 = 0 then (
                                                some ((1 : Int32), h))
                                              else (
                                                if i2 = 0 then (
                                                  some ((0 : Int32), h))
                                                else (
                                                  some ((1 : Int32), h))))
                                            else (
                                              if i0 = (60 : Int32) then (
                                                if i2 ≤ i1 then (
                                                  some ((0 : Int32), h))
                                                else (
                                                  some ((1 : Int32), h)))
                                              else (
                                                if i0 = (61 : Int32) then (
                                                  if ¬ i1 = i2 then (
                                                    some ((0 : Int32), h))
                                                  else (
                                                    some ((1 : Int32), h)))
                                                else (
                                                  if i0 = (62 : Int32) then (
                                                    if i1 ≤ i2 then (
                                                      some ((0 : Int32), h))
                                                    else (
                                                      some ((1 : Int32), h)))
                                                  else (
                                                    if ¬ i1 = 0 then (
                                                      some ((1 : Int32), h))
                                                    else (
                                                      if i2 = 0 then (
                                                        some ((0 : Int32), h))
                                                      else (
                                                        some ((1 : Int32), h))))))))))))))))))))))))))))
abbrev rm_X5_worked : Room := { frames := 1, cells := 0, slots := 0, locals := 22 }
theorem cd_X5_worked : zcd yX5_worked 1 := by unfold zcd; decide +kernel
def f_X5_worked_4 : Nat → zT → Nat → Int32 → Int32 → Int32 → Option (Int32 × zT)
  | 0, _, _, _, _, _ => none
  | n + 1, h, a0, i1, i2, i3 =>
    (zg_R [5] h a0 0).bind fun v1 =>
    (zk_C 5 h a0).bind fun _ =>
    (f_X5_textAt h a0 i1).bind fun r2 =>
    (za_I .int r2.2 v1 (r2.1 + (2 : Int32))).bind fun v3 =>
    if v3 ≤ i3 then (
      (zg_R [5] r2.2 a0 27).bind fun v4 =>
      (za_I .int r2.2 v4 (0 : Int32)).bind fun v5 =>
      some (v5, r2.2))
    else (
      (zg_R [5] r2.2 a0 0).bind fun v6 =>
      (zk_C 5 r2.2 a0).bind fun _ =>
      (f_X5_textAt r2.2 a0 i1).bind fun r7 =>
      (za_I .int r7.2 v6 ((r7.1 + (4 : Int32)) + ((2 : Int32) * i3))).bind fun v8 =>
      (zg_R [5] r7.2 a0 0).bind fun v9 =>
      (zk_C 5 r7.2 a0).bind fun _ =>
      (f_X5_textAt r7.2 a0 i1).bind fun r10 =>
      (za_I .int r10.2 v9 (((r10.1 + (4 : Int32)) + ((2 : Int32) * i3)) + (1 : Int32))).bind fun v11 =>
      if v8 = (2 : Int32) then (
        if ¬ v11 = (33 : Int32) then (
          (some (i2 + (-1 : Int32))).bind fun v12 =>
          (zg_R [5] r10.2 a0 27).bind fun v13 =>
          (zg_R [5] r10.2 a0 27).bind fun v14 =>
          (za_I .int r10.2 v14 (v12 - (1 : Int32))).bind fun v15 =>
          (zg_R [5] r10.2 a0 27).bind fun v16 =>
          (za_I .int r10.2 v16 v12).bind fun v17 =>
          (f_X5_joined r10.2 v11 v15 v17).bind fun r18 =>
          (zs_I .int r18.2 v13 (v12 - (1 : Int32)) r18.1).bind fun h19 =>
          (some (i3 + (1 : Int32))).bind fun v20 =>
          f_X5_worked_4 n h19 a0 i1 v12 v20)
        else (
          (zg_R [5] r10.2 a0 27).bind fun v21 =>
          (zg_R [5] r10.2 a0 27).bind fun v22 =>
          (za_I .int r10.2 v22 (i2 - (1 : Int32))).bind fun v23 =>
          if ¬ v23 = 0 then (
            (zs_I .int r10.2 v21 (i2 - (1 : Int32)) (0 : Int32)).bind fun h24 =>
            (some (i3 + (1 : Int32))).bind fun v25 =>
            f_X5_worked_4 n h24 a0 i1 i2 v25)
          else (
            (zs_I .int r10.2 v21 (i2 - (1 : Int32)) (1 : Int32)).bind fun h26 =>
            (some (i3 + (1 : Int32))).bind fun v27 =>
            f_X5_worked_4 n h26 a0 i1 i2 v27)))
      else (
        (zg_R [5] r10.2 a0 27).bind fun v28 =>
        if ¬ v8 = 0 then (
          (zg_R [5] r10.2 a0 26).bind fun v29 =>
          (za_I .int r10.2 v29 v11).bind fun v30 =>
          (zs_I .int r10.2 v28 i2 v30).bind fun h31 =>
          (some (i2 + (1 : Int32))).bind fun v32 =>
          (some (i3 + (1 : Int32))).bind fun v33 =>
          f_X5_worked_4 n h31 a0 i1 v32 v33)
        else (
          (zs_I .int r10.2 v28 i2 v11).bind fun h34 =>
          (some (i2 + (1 : Int32))).bind fun v35 =>
          (some (i3 + (1 : Int32))).bind fun v36 =>
          f_X5_worked_4 n h34 a0 i1 v35 v36)))
def f_X5_worked (h : zT) (a0 : Nat) (i1 : Int32) : Option (Int32 × zT) :=
  f_X5_worked_4 4096 h a0 i1 (0 : Int32) (0 : Int32)
abbrev rm_X5_gains : Room := { frames := 2, cells := 0, slots := 0, locals := 47 }
theorem cd_X5_gains : zcd yX5_gains 1 := by unfold zcd; decide +kernel
def f_X5_gains_62 (h : zT) (a0 : Nat) (i1 : Int32) (i2 : Int32) : Option (Int32 × zT) :=
  (zk_C 5 h a0).bind fun _ =>
  (f_X5_of h a0 i1 (0 : Int32)).bind fun r1 =>
  if r1.1 = (1 : Int32) then (
    some (i2 + (1 : Int32), r1.2))
  else (
    if r1.1 = (2 : Int32) then (
      some (i2 / (2 : Int32), r1.2))
    else (
      if r1.1 = (3 : Int32) then (
        some (i2 + (1 : Int32), r1.2))
      else (
        if r1.1 = (4 : Int32) then (
          some ((i2 / (2 : Int32)) + (2 : Int32), r1.2))
        else (
          if r1.1 = (5 : Int32) then (
            some ((0 : Int32), r1.2))
          else (
            some (i2, r1.2))))))
def f_X5_gains (h : zT) (a0 : Nat) (i1 : Int32) : Option (Int32 × zT) :=
  (zk_C 5 h a0).bind fun _ =>
  (f_X5_counts h a0 (0 : Int32)).bind fun r1 =>
  if r1.1 < 0 then (
    f_X5_gains_62 r1.2 a0 i1 (3 : Int32))
  else (
    (zg_R [5] r1.2 a0 26).bind fun v2 =>
    (zk_C 5 r1.2 a0).bind fun _ =>
    (f_X5_of r1.2 a0 i1 (5 : Int32)).bind fun r3 =>
    (zs_I .int r3.2 v2 (116 : Int32) r3.1).bind fun h4 =>
    (zg_R [5] h4 a0 26).bind fun v5 =>
    (zk_C 5 h4 a0).bind fun _ =>
    (f_X5_of h4 a0 i1 (2 : Int32)).bind fun r6 =>
    (zs_I .int r6.2 v5 (115 : Int32) r6.1).bind fun h7 =>
    (zg_R [5] h7 a0 26).bind fun v8 =>
    (zk_C 5 h7 a0).bind fun _ =>
    (f_X5_of h7 a0 i1 (4 : Int32)).bind fun r9 =>
    (zs_I .int r9.2 v8 (108 : Int32) r9.1).bind fun h10 =>
    (zk_C 5 h10 a0).bind fun _ =>
    (f_X5_worked h10 a0 r1.1).bind fun r11 =>
    (f_X5_within r11.2 r11.1 (99 : Int32)).bind fun r12 =>
    f_X5_gains_62 r12.2 a0 i1 r12.1)
abbrev rm_X5_isRubbing : Room := { frames := 1, cells := 0, slots := 0, locals := 25 }
theorem cd_X5_isRubbing : zcd yX5_isRubbing 1 := by unfold zcd; decide +kernel
def f_X5_isRubbing (h : zT) (a0 : Nat) (i1 : Int32) : Option (Int32 × zT) :=
  (zg_R [5] h a0 0).bind fun v1 =>
  (za_I .int h v1 (0 : Int32)).bind fun v2 =>
  (f_X5_isIn h i1.toInt64 (0 : Int64) ((v2 - (1 : Int32)).toInt64)).bind fun r3 =>
  if r3.1 = 0 ∨ r3.1 = 1 then some (r3.1, r3.2) else none
abbrev rm_X5_loses : Room := { frames := 1, cells := 0, slots := 0, locals := 22 }
theorem cd_X5_loses : zcd yX5_loses 1 := by unfold zcd; decide +kernel
def f_X5_loses (h : zT) (a0 : Nat) (i1 : Int32) : Option (Int32 × zT) :=
  (zk_C 5 h a0).bind fun _ =>
  (f_X5_of h a0 i1 (0 : Int32)).bind fun r1 =>
  if r1.1 = (1 : Int32) then (
    some ((7 : Int32), r1.2))
  else (
    if r1.1 = (2 : Int32) then (
      some ((3 : Int32), r1.2))
    else (
      if r1.1 = (3 : Int32) then (
        some ((14 : Int32), r1.2))
      else (
        if r1.1 = (4 : Int32) then (
          some ((3 : Int32), r1.2))
        else (
          if r1.1 = (5 : Int32) then (
            some ((20 : Int32), r1.2))
          else (
            some ((5 : Int32), r1.2))))))
abbrev rm_X5_worth : Room := { frames := 1, cells := 0, slots := 0, locals := 22 }
theorem cd_X5_worth : zcd yX5_worth 1 := by unfold zcd; decide +kernel
def f_X5_worth (h : zT) (a0 : Nat) (i1 : Int32) : Option (Int32 × zT) :=
  (zk_C 5 h a0).bind fun _ =>
  (f_X5_of h a0 i1 (5 : Int32)).bind fun r1 =>
  (zk_C 5 r1.2 a0).bind fun _ =>
  (f_X5_of r1.2 a0 i1 (0 : Int32)).bind fun r2 =>
  if r2.1 = (1 : Int32) then (
    some (r1.1 + (5 : Int32), r2.2))
  else (
    if r2.1 = (2 : Int32) then (
      some ((99 : Int32) - r1.1, r2.2))
    else (
      if r2.1 = (3 : Int32) then (
        some ((2 : Int32) * (r1.1 + (5 : Int32)), r2.2))
      else (
        if r2.1 = (4 : Int32) then (
          some ((93 : Int32) - r1.1, r2.2))
        else (
          if r2.1 = (5 : Int32) then (
            some ((1 : Int32), r2.2))
          else (
            some (r1.1, r2.2))))))
abbrev rm_X5_told : Room := { frames := 3, cells := 0, slots := 0, locals := 70 }
theorem cd_X5_told : zcd yX5_told 2 := by unfold zcd; decide +kernel
def f_X5_told (h : zT) (a0 : Nat) (i1 : Int32) (i2 : Int32) : Option (Int32 × zT) :=
  (zk_C 5 h a0).bind fun _ =>
  (f_X5_isRubbing h a0 i1).bind fun r1 =>
  if ¬ r1.1 = 0 then (
    if i2 = (0 : Int32) then (
      (zk_C 5 r1.2 a0).bind fun _ =>
      (f_X5_of r1.2 a0 i1 i2).bind fun r2 =>
      some (r2.1, r2.2))
    else (
      if i2 = (1 : Int32) then (
        (zk_C 5 r1.2 a0).bind fun _ =>
        (f_X5_of r1.2 a0 i1 i2).bind fun r3 =>
        some (r3.1, r3.2))
      else (
        if i2 = (2 : Int32) then (
          (zk_C 5 r1.2 a0).bind fun _ =>
          (f_X5_of r1.2 a0 i1 i2).bind fun r4 =>
          some (r4.1, r4.2))
        else (
          if i2 = (3 : Int32) then (
            (zk_C 5 r1.2 a0).bind fun _ =>
            (f_X5_of r1.2 a0 i1 i2).bind fun r5 =>
            some (r5.1, r5.2))
          else (
            if i2 = (4 : Int32) then (
              (zk_C 5 r1.2 a0).bind fun _ =>
              (f_X5_of r1.2 a0 i1 i2).bind fun r6 =>
              some (r6.1, r6.2))
            else (
              if i2 = (5 : Int32) then (
                (zk_C 5 r1.2 a0).bind fun _ =>
                (f_X5_of r1.2 a0 i1 i2).bind fun r7 =>
                some (r7.1, r7.2))
              else (
                if i2 = (6 : Int32) then (
                  (zk_C 5 r1.2 a0).bind fun _ =>
                  (f_X5_covers r1.2 a0 i1).bind fun r8 =>
                  some (r8.1, r8.2))
                else (
                  if i2 = (7 : Int32) then (
                    (zk_C 5 r1.2 a0).bind fun _ =>
                    (f_X5_gains r1.2 a0 i1).bind fun r9 =>
                    some (r9.1, r9.2))
                  else (
                    if i2 = (8 : Int32) then (
                      (zk_C 5 r1.2 a0).bind fun _ =>
                      (f_X5_loses r1.2 a0 i1).bind fun r10 =>
                      some (r10.1, r10.2))
                    else (
                      if i2 = (9 : Int32) then (
                        (zk_C 5 r1.2 a0).bind fun _ =>
                        (f_X5_worth r1.2 a0 i1).bind fun r11 =>
                        some (r11.1, r11.2))
                      else (
                        some ((-1000000001 : Int32), r1.2))))))))))))
  else (
    some ((-1000000001 : Int32), r1.2))
abbrev rm_X5_bolder : Room := { frames := 0, cells := 0, slots := 0, locals := 0 }
theorem cd_X5_bolder : zcd yX5_bolder 1 := by unfold zcd; decide +kernel
def f_X5_bolder (h : zT) (i0 : Int32) : Option (Int32 × zT) :=
  if i0 ≤ 0 then (
    some (i0, h))
  else (
    if (3 : Int32) ≤ i0 then (
      some (i0, h))
    else (
      some (i0 + (1 : Int32), h)))
abbrev rm_X5_saysAt : Room := { frames := 1, cells := 0, slots := 0, locals := 22 }
theorem cd_X5_saysAt : zcd yX5_saysAt 2 := by unfold zcd; decide +kernel
def f_X5_saysAt_52 (h : zT) (a0 : Nat) (i1 : Int32) (i2 : Int32) (i4 : Int32) (s0 : Int32) : Option (Int32 × zT) :=
  (zk_C 5 h a0).bind fun _ =>
  (f_X5_of h a0 i1 (0 : Int32)).bind fun r1 =>
  if r1.1 = (1 : Int32) then (
    (f_X5_bolder r1.2 i4).bind fun r2 =>
    some (r2.1, r2.2))
  else (
    if r1.1 = (2 : Int32) then (
      some (s0, r1.2))
    else (
      if r1.1 = (3 : Int32) then (
        (f_X5_bolder r1.2 i4).bind fun r3 =>
        (f_X5_bolder r3.2 r3.1).bind fun r4 =>
        some (r4.1, r4.2))
      else (
        if r1.1 = (4 : Int32) then (
          (zk_C 5 r1.2 a0).bind fun _ =>
          (f_X5_of r1.2 a0 i1 (2 : Int32)).bind fun r5 =>
          if ¬ i2 = (r5.1 / (2 : Int32)) then (
            some (s0, r5.2))
          else (
            some ((3 : Int32), r5.2)))
        else (
          if r1.1 = (5 : Int32) then (
            some ((2 : Int32), r1.2))
          else (
            some (i4, r1.2))))))
def f_X5_saysAt_24 (h : zT) (a0 : Nat) (i1 : Int32) (i2 : Int32) (s0 : Int32) : Option (Int32 × zT) :=
  (zk_C 5 h a0).bind fun _ =>
  (f_X5_of h a0 i1 (1 : Int32)).bind fun r1 =>
  (some ((r1.1 >>> (((2 : Int32) * s0) &&& 31)) &&& (3 : Int32))).bind fun v2 =>
  if v2 ≤ 0 then (
    f_X5_saysAt_52 r1.2 a0 i1 i2 v2 (0 : Int32))
  else (
    f_X5_saysAt_52 r1.2 a0 i1 i2 v2 (v2 - (1 : Int32)))
def f_X5_saysAt (h : zT) (a0 : Nat) (i1 : Int32) (i2 : Int32) : Option (Int32 × zT) :=
  (zk_C 5 h a0).bind fun _ =>
  (f_X5_of h a0 i1 (3 : Int32)).bind fun r1 =>
  if ¬ r1.1 = (1 : Int32) then (
    f_X5_saysAt_24 r1.2 a0 i1 i2 i2)
  else (
    (zk_C 5 r1.2 a0).bind fun _ =>
    (f_X5_of r1.2 a0 i1 (2 : Int32)).bind fun r2 =>
    f_X5_saysAt_24 r2.2 a0 i1 i2 ((r2.1 - (1 : Int32)) - i2))
abbrev rm_X5_says : Room := { frames := 2, cells := 0, slots := 0, locals := 47 }
theorem cd_X5_says : zcd yX5_says 2 := by unfold zcd; decide +kernel
def f_X5_says (h : zT) (a0 : Nat) (i1 : Int32) (i2 : Int32) : Option (Int32 × zT) :=
  (zk_C 5 h a0).bind fun _ =>
  (f_X5_isRubbing h a0 i1).bind fun r1 =>
  if r1.1 = 0 then (
    some ((-1000000001 : Int32), r1.2))
  else (
    (zk_C 5 r1.2 a0).bind fun _ =>
    (f_X5_of r1.2 a0 i1 (2 : Int32)).bind fun r2 =>
    (f_X5_isIn r2.2 i2.toInt64 (0 : Int64) ((r2.1 - (1 : Int32)).toInt64)).bind fun r3 =>
    if r3.1 = 0 then (
      some ((-1000000001 : Int32), r3.2))
    else (
      (zk_C 5 r3.2 a0).bind fun _ =>
      (f_X5_saysAt r3.2 a0 i1 i2).bind fun r4 =>
      some (r4.1, r4.2)))
abbrev rm_X5_isOf : Room := { frames := 0, cells := 0, slots := 0, locals := 0 }
theorem cd_X5_isOf : zcd yX5_isOf 2 := by unfold zcd; decide +kernel
def f_X5_isOf_19 (h : zT) (i0 : Int32) (i1 : Int32) : Option (Int32 × zT) :=
  if ¬ i1 = (2 : Int32) then (
    if (0 : Int32) = 0 ∨ (0 : Int32) = 1 then some ((0 : Int32), h) else none)
  else (
    if ¬ i0 = (4 : Int32) then (
      if (0 : Int32) = 0 ∨ (0 : Int32) = 1 then some ((0 : Int32), h) else none)
    else (
      if (1 : Int32) = 0 ∨ (1 : Int32) = 1 then some ((1 : Int32), h) else none))
def f_X5_isOf (h : zT) (i0 : Int32) (i1 : Int32) : Option (Int32 × zT) :=
  if i0 = i1 then (
    if (1 : Int32) = 0 ∨ (1 : Int32) = 1 then some ((1 : Int32), h) else none)
  else (
    if i1 = 0 then (
      if (1 : Int32) = 0 ∨ (1 : Int32) = 1 then some ((1 : Int32), h) else none)
    else (
      if ¬ i1 = (1 : Int32) then (
        f_X5_isOf_19 h i0 i1)
      else (
        if i0 = (3 : Int32) then (
          if (1 : Int32) = 0 ∨ (1 : Int32) = 1 then some ((1 : Int32), h) else none)
        else (
          f_X5_isOf_19 h i0 i1))))
abbrev rm_X5_as : Room := { frames := 2, cells := 0, slots := 0, locals := 46 }
theorem cd_X5_as : zcd yX5_as 2 := by unfold zcd; decide +kernel
def f_X5_as (h : zT) (a0 : Nat) (i1 : Int32) (i2 : Int32) : Option (Int32 × zT) :=
  (zk_C 5 h a0).bind fun _ =>
  (f_X5_isRubbing h a0 i1).bind fun r1 =>
  if r1.1 = 0 then (
    some ((-1000000001 : Int32), r1.2))
  else (
    (f_X5_isIn r1.2 i2.toInt64 (0 : Int64) (5 : Int64)).bind fun r2 =>
    if ¬ r2.1 = 0 then (
      (zk_C 5 r2.2 a0).bind fun _ =>
      (f_X5_of r2.2 a0 i1 (0 : Int32)).bind fun r3 =>
      (f_X5_isOf r3.2 r3.1 i2).bind fun r4 =>
      if r4.1 = 0 then (
        some ((-1000000012 : Int32), r4.2))
      else (
        (zk_C 5 r4.2 a0).bind fun _ =>
        (f_X5_of r4.2 a0 i1 (2 : Int32)).bind fun r5 =>
        some (r5.1, r5.2)))
    else (
      some ((-1000000001 : Int32), r2.2)))
abbrev rm_X5_becomes : Room := { frames := 0, cells := 0, slots := 0, locals := 0 }
theorem cd_X5_becomes : zcd yX5_becomes 2 := by unfold zcd; decide +kernel
def f_X5_becomes (h : zT) (a0 : Nat) (i1 : Int32) (i2 : Int32) : Option (Int32 × zT) :=
  (zg_R [5] h a0 0).bind fun v1 =>
  (za_I .int h v1 i1).bind fun v2 =>
  (zg_R [5] h a0 0).bind fun v3 =>
  (zs_I .int h v3 i1 i2).bind fun h4 =>
  some (v2, h4)
abbrev rm_X5_turns : Room := { frames := 2, cells := 0, slots := 0, locals := 46 }
theorem cd_X5_turns : zcd yX5_turns 2 := by unfold zcd; decide +kernel
def f_X5_turns (h : zT) (a0 : Nat) (i1 : Int32) (i2 : Int32) : Option (Int32 × zT) :=
  (zk_C 5 h a0).bind fun _ =>
  (f_X5_isRubbing h a0 i1).bind fun r1 =>
  if r1.1 = 0 then (
    some ((-1000000001 : Int32), r1.2))
  else (
    (f_X5_isIn r1.2 i2.toInt64 (0 : Int64) (5 : Int64)).bind fun r2 =>
    if r2.1 = 0 then (
      some ((-1000000001 : Int32), r2.2))
    else (
      (zk_C 5 r2.2 a0).bind fun _ =>
      (f_X5_becomes r2.2 a0 ((21 : Int32) + ((6 : Int32) * i1)) i2).bind fun r3 =>
      some (r3.1, r3.2)))
abbrev rm_X5_mostOf : Room := { frames := 0, cells := 0, slots := 0, locals := 0 }
theorem cd_X5_mostOf : zcd yX5_mostOf 1 := by unfold zcd; decide +kernel
def f_X5_mostOf (h : zT) (i0 : Int32) : Option (Int32 × zT) :=
  if i0 = (1 : Int32) then (
    some ((65535 : Int32), h))
  else (
    if i0 = (2 : Int32) then (
      some ((8 : Int32), h))
    else (
      if i0 = (3 : Int32) then (
        some ((1 : Int32), h))
      else (
        if i0 = (4 : Int32) then (
          some ((16 : Int32), h))
        else (
          some ((99 : Int32), h)))))
abbrev rm_X5_set : Room := { frames := 2, cells := 0, slots := 0, locals := 46 }
theorem cd_X5_set : zcd yX5_set 3 := by unfold zcd; decide +kernel
def f_X5_set_32 (h : zT) (a0 : Nat) (i1 : Int32) (i2 : Int32) (i3 : Int32) (s0 : Int64) (s1 : Int64) : Option (Int32 × zT) :=
  (f_X5_mostOf h i2).bind fun r1 =>
  (f_X5_isIn r1.2 s1 s0 r1.1.toInt64).bind fun r2 =>
  if ¬ r2.1 = 0 then (
    (zk_C 5 r2.2 a0).bind fun _ =>
    (f_X5_becomes r2.2 a0 (((21 : Int32) + ((6 : Int32) * i1)) + i2) i3).bind fun r3 =>
    some (r3.1, r3.2))
  else (
    some ((-1000000001 : Int32), r2.2))
def f_X5_set (h : zT) (a0 : Nat) (i1 : Int32) (i2 : Int32) (i3 : Int32) : Option (Int32 × zT) :=
  (zk_C 5 h a0).bind fun _ =>
  (f_X5_isRubbing h a0 i1).bind fun r1 =>
  if r1.1 = 0 then (
    some ((-1000000001 : Int32), r1.2))
  else (
    (f_X5_isIn r1.2 i2.toInt64 (1 : Int64) (5 : Int64)).bind fun r2 =>
    if r2.1 = 0 then (
      some ((-1000000001 : Int32), r2.2))
    else (
      if ¬ i2 = (2 : Int32) then (
        f_X5_set_32 r2.2 a0 i1 i2 i3 (0 : Int64) i3.toInt64)
      else (
        f_X5_set_32 r2.2 a0 i1 i2 i3 (1 : Int64) i3.toInt64)))
abbrev rm_X5_carve : Room := { frames := 1, cells := 0, slots := 0, locals := 25 }
theorem cd_X5_carve : zcd yX5_carve 2 := by unfold zcd; decide +kernel
def f_X5_carve (h : zT) (a0 : Nat) (i1 : Int32) (i2 : Int32) : Option (Int32 × zT) :=
  (f_X5_isIn h i1.toInt64 (0 : Int64) (15 : Int64)).bind fun r1 =>
  if r1.1 = 0 then (
    some ((-1000000001 : Int32), r1.2))
  else (
    (f_X5_isIn r1.2 i2.toInt64 (0 : Int64) (3 : Int64)).bind fun r2 =>
    if r2.1 = 0 then (
      some ((-1000000001 : Int32), r2.2))
    else (
      (zk_C 5 r2.2 a0).bind fun _ =>
      (f_X5_becomes r2.2 a0 ((5 : Int32) + i1) i2).bind fun r3 =>
      some (r3.1, r3.2)))
abbrev rm_X5_carved : Room := { frames := 1, cells := 0, slots := 0, locals := 25 }
theorem cd_X5_carved : zcd yX5_carved 1 := by unfold zcd; decide +kernel
def f_X5_carved (h : zT) (a0 : Nat) (i1 : Int32) : Option (Int32 × zT) :=
  (f_X5_isIn h i1.toInt64 (0 : Int64) (15 : Int64)).bind fun r1 =>
  if r1.1 = 0 then (
    some ((-1000000001 : Int32), r1.2))
  else (
    (zg_R [5] r1.2 a0 0).bind fun v2 =>
    (za_I .int r1.2 v2 ((5 : Int32) + i1)).bind fun v3 =>
    some (v3, r1.2))
abbrev rm_X5_drawn : Room := { frames := 0, cells := 0, slots := 0, locals := 0 }
theorem cd_X5_drawn : zcd yX5_drawn 0 := by unfold zcd; decide +kernel
def f_X5_drawn (h : zT) (a0 : Nat) : Option (Int32 × zT) :=
  (zg_R [5] h a0 0).bind fun v1 =>
  (zg_R [5] h a0 0).bind fun v2 =>
  (za_I .int h v2 (4 : Int32)).bind fun v3 =>
  (zs_I .int h v1 (4 : Int32) ((v3 * (1103515245 : Int32)) + (12345 : Int32))).bind fun h4 =>
  (zg_R [5] h4 a0 0).bind fun v5 =>
  (za_I .int h4 v5 (4 : Int32)).bind fun v6 =>
  some ((v6.toUInt32 >>> ((8 : Int32).toUInt32 &&& Int32.toUInt32 31)).toInt32, h4)
abbrev rm_X5_deal : Room := { frames := 2, cells := 0, slots := 0, locals := 47 }
theorem cd_X5_deal : zcd yX5_deal 1 := by unfold zcd; decide +kernel
def f_X5_deal_17 : Nat → zT → Nat → Int32 → Int32 → Option (Int32 × zT)
  | 0, _, _, _, _ => none
  | n + 1, h, a0, i1, i2 =>
    if i1 ≤ i2 then (
      some (i2, h))
    else (
      (zg_R [5] h a0 0).bind fun v1 =>
      (za_I .int h v1 (0 : Int32)).bind fun v2 =>
      if (9 : Int32) ≤ v2 then (
        some (i2, h))
      else (
        (zk_C 5 h a0).bind fun _ =>
        (f_X5_drawn h a0).bind fun r3 =>
        (some (r3.1 - r3.1 / (6 : Int32) * (6 : Int32))).bind fun v4 =>
        (zk_C 5 r3.2 a0).bind fun _ =>
        (f_X5_drawn r3.2 a0).bind fun r5 =>
        (some (r5.1 - r5.1 / (65536 : Int32) * (65536 : Int32))).bind fun v6 =>
        (zk_C 5 r5.2 a0).bind fun _ =>
        (f_X5_drawn r5.2 a0).bind fun r7 =>
        (zk_C 5 r7.2 a0).bind fun _ =>
        (f_X5_comes r7.2 a0 v4 v6 ((1 : Int32) + (r7.1 - r7.1 / (8 : Int32) * (8 : Int32)))).bind fun r8 =>
        (some (i2 + (1 : Int32))).bind fun v9 =>
        f_X5_deal_17 n r8 a0 i1 v9))
def f_X5_deal (h : zT) (a0 : Nat) (i1 : Int32) : Option (Int32 × zT) :=
  (f_X5_isIn h i1.toInt64 (1 : Int64) (9 : Int64)).bind fun r1 =>
  if ¬ r1.1 = 0 then (
    f_X5_deal_17 4096 r1.2 a0 i1 (0 : Int32))
  else (
    some ((-1000000001 : Int32), r1.2))
abbrev rm_X5_seed : Room := { frames := 1, cells := 0, slots := 0, locals := 23 }
theorem cd_X5_seed : zcd yX5_seed 1 := by unfold zcd; decide +kernel
def f_X5_seed (h : zT) (a0 : Nat) (i1 : Int32) : Option (Int32 × zT) :=
  (zk_C 5 h a0).bind fun _ =>
  (f_X5_becomes h a0 (4 : Int32) i1).bind fun r1 =>
  some (r1.1, r1.2)
abbrev rm_X5_falseOf : Room := { frames := 2, cells := 0, slots := 0, locals := 47 }
theorem cd_X5_falseOf : zcd yX5_falseOf 2 := by unfold zcd; decide +kernel
def f_X5_falseOf_5 : Nat → zT → Nat → Int32 → Int32 → Int32 → Int32 → Option (Int32 × zT)
  | 0, _, _, _, _, _, _ => none
  | n + 1, h, a0, i1, i2, i3, i4 =>
    (zk_C 5 h a0).bind fun _ =>
    (f_X5_of h a0 i1 (2 : Int32)).bind fun r1 =>
    if r1.1 ≤ i4 then (
      some (i3, r1.2))
    else (
      if (16 : Int32) ≤ (i2 + i4) then (
        some (i3, r1.2))
      else (
        (zk_C 5 r1.2 a0).bind fun _ =>
        (f_X5_saysAt r1.2 a0 i1 i4).bind fun r2 =>
        (zg_R [5] r2.2 a0 0).bind fun v3 =>
        (za_I .int r2.2 v3 (((5 : Int32) + i2) + i4)).bind fun v4 =>
        if ¬ r2.1 = v4 then (
          (some (i3 + (1 : Int32))).bind fun v5 =>
          (some (i4 + (1 : Int32))).bind fun v6 =>
          f_X5_falseOf_5 n r2.2 a0 i1 i2 v5 v6)
        else (
          (some (i3 + (0 : Int32))).bind fun v7 =>
          (some (i4 + (1 : Int32))).bind fun v8 =>
          f_X5_falseOf_5 n r2.2 a0 i1 i2 v7 v8)))
def f_X5_falseOf (h : zT) (a0 : Nat) (i1 : Int32) (i2 : Int32) : Option (Int32 × zT) :=
  f_X5_falseOf_5 4096 h a0 i1 i2 (0 : Int32) (0 : Int32)
abbrev rm_X5_falseAt : Room := { frames := 3, cells := 0, slots := 0, locals := 71 }
theorem cd_X5_falseAt : zcd yX5_falseAt 2 := by unfold zcd; decide +kernel
def f_X5_falseAt (h : zT) (a0 : Nat) (i1 : Int32) (i2 : Int32) : Option (Int32 × zT) :=
  (zk_C 5 h a0).bind fun _ =>
  (f_X5_isRubbing h a0 i1).bind fun r1 =>
  if r1.1 = 0 then (
    some ((-1000000001 : Int32), r1.2))
  else (
    (f_X5_isIn r1.2 i2.toInt64 (0 : Int64) (15 : Int64)).bind fun r2 =>
    if r2.1 = 0 then (
      some ((-1000000001 : Int32), r2.2))
    else (
      (zk_C 5 r2.2 a0).bind fun _ =>
      (f_X5_falseOf r2.2 a0 i1 i2).bind fun r3 =>
      some (r3.1, r3.2)))
abbrev rm_X5_fits : Room := { frames := 3, cells := 0, slots := 0, locals := 71 }
theorem cd_X5_fits : zcd yX5_fits 2 := by unfold zcd; decide +kernel
def f_X5_fits_26 : Nat → zT → Nat → Int32 → Int32 → Int32 → Int32 → Option (Int32 × zT)
  | 0, _, _, _, _, _, _ => none
  | n + 1, h, a0, i1, i2, i3, i4 =>
    (zk_C 5 h a0).bind fun _ =>
    (f_X5_of h a0 i1 (2 : Int32)).bind fun r1 =>
    if ((16 : Int32) - r1.1) < i4 then (
      if ¬ i2 = 0 then (
        (zk_C 5 r1.2 a0).bind fun _ =>
        (f_X5_falseOf r1.2 a0 i1 i3).bind fun r2 =>
        some (r2.1, r2.2))
      else (
        some (i3, r1.2)))
    else (
      (zk_C 5 r1.2 a0).bind fun _ =>
      (f_X5_falseOf r1.2 a0 i1 i4).bind fun r3 =>
      (zk_C 5 r3.2 a0).bind fun _ =>
      (f_X5_falseOf r3.2 a0 i1 i3).bind fun r4 =>
      if r4.1 ≤ r3.1 then (
        (some (i4 + (1 : Int32))).bind fun v5 =>
        f_X5_fits_26 n r4.2 a0 i1 i2 i3 v5)
      else (
        (some (i4 + (1 : Int32))).bind fun v6 =>
        f_X5_fits_26 n r4.2 a0 i1 i2 i4 v6))
def f_X5_fits (h : zT) (a0 : Nat) (i1 : Int32) (i2 : Int32) : Option (Int32 × zT) :=
  (zk_C 5 h a0).bind fun _ =>
  (f_X5_isRubbing h a0 i1).bind fun r1 =>
  if r1.1 = 0 then (
    some ((-1000000001 : Int32), r1.2))
  else (
    (f_X5_isIn r1.2 i2.toInt64 (0 : Int64) (1 : Int64)).bind fun r2 =>
    if ¬ r2.1 = 0 then (
      f_X5_fits_26 4096 r2.2 a0 i1 i2 (0 : Int32) (1 : Int32))
    else (
      some ((-1000000001 : Int32), r2.2)))
abbrev rm_X5_joinBy : Room := { frames := 2, cells := 0, slots := 0, locals := 47 }
theorem cd_X5_joinBy : zcd yX5_joinBy 3 := by unfold zcd; decide +kernel
def f_X5_joinBy_6 : Nat → zT → Nat → Int32 → Int32 → Int32 → Int32 → Int32 → Option (Int32 × zT)
  | 0, _, _, _, _, _, _, _ => none
  | n + 1, h, a0, i1, i2, i3, i4, i5 =>
    (zk_C 5 h a0).bind fun _ =>
    (f_X5_of h a0 i1 (2 : Int32)).bind fun r1 =>
    if r1.1 ≤ i5 then (
      some (i4, r1.2))
    else (
      (zk_C 5 r1.2 a0).bind fun _ =>
      (f_X5_of r1.2 a0 i2 (2 : Int32)).bind fun r2 =>
      if r2.1 ≤ (i5 - i3) then (
        some (i4, r2.2))
      else (
        (zk_C 5 r2.2 a0).bind fun _ =>
        (f_X5_saysAt r2.2 a0 i1 i5).bind fun r3 =>
        (zk_C 5 r3.2 a0).bind fun _ =>
        (f_X5_saysAt r3.2 a0 i2 (i5 - i3)).bind fun r4 =>
        if ¬ r3.1 = r4.1 then (
          (some (i4 + (-2 : Int32))).bind fun v5 =>
          (some (i5 + (1 : Int32))).bind fun v6 =>
          f_X5_joinBy_6 n r4.2 a0 i1 i2 i3 v5 v6)
        else (
          (some (i4 + (1 : Int32))).bind fun v7 =>
          (some (i5 + (1 : Int32))).bind fun v8 =>
          f_X5_joinBy_6 n r4.2 a0 i1 i2 i3 v7 v8)))
def f_X5_joinBy (h : zT) (a0 : Nat) (i1 : Int32) (i2 : Int32) (i3 : Int32) : Option (Int32 × zT) :=
  f_X5_joinBy_6 4096 h a0 i1 i2 i3 (0 : Int32) i3
abbrev rm_X5_join : Room := { frames := 3, cells := 0, slots := 0, locals := 72 }
theorem cd_X5_join : zcd yX5_join 3 := by unfold zcd; decide +kernel
def f_X5_join_40 : Nat → zT → Nat → Int32 → Int32 → Int32 → Int32 → Int32 → Option (Int32 × zT)
  | 0, _, _, _, _, _, _, _ => none
  | n + 1, h, a0, i1, i2, i3, i4, i5 =>
    (zk_C 5 h a0).bind fun _ =>
    (f_X5_of h a0 i1 (2 : Int32)).bind fun r1 =>
    if r1.1 ≤ i5 then (
      if ¬ i3 = 0 then (
        (zk_C 5 r1.2 a0).bind fun _ =>
        (f_X5_joinBy r1.2 a0 i1 i2 i4).bind fun r2 =>
        some (r2.1, r2.2))
      else (
        some (i4, r1.2)))
    else (
      (zk_C 5 r1.2 a0).bind fun _ =>
      (f_X5_joinBy r1.2 a0 i1 i2 i5).bind fun r3 =>
      (zk_C 5 r3.2 a0).bind fun _ =>
      (f_X5_joinBy r3.2 a0 i1 i2 i4).bind fun r4 =>
      if r3.1 ≤ r4.1 then (
        (some (i5 + (1 : Int32))).bind fun v5 =>
        f_X5_join_40 n r4.2 a0 i1 i2 i3 i4 v5)
      else (
        (some (i5 + (1 : Int32))).bind fun v6 =>
        f_X5_join_40 n r4.2 a0 i1 i2 i3 i5 v6))
def f_X5_join (h : zT) (a0 : Nat) (i1 : Int32) (i2 : Int32) (i3 : Int32) : Option (Int32 × zT) :=
  (zk_C 5 h a0).bind fun _ =>
  (f_X5_isRubbing h a0 i1).bind fun r1 =>
  if r1.1 = 0 then (
    some ((-1000000001 : Int32), r1.2))
  else (
    (zk_C 5 r1.2 a0).bind fun _ =>
    (f_X5_isRubbing r1.2 a0 i2).bind fun r2 =>
    if r2.1 = 0 then (
      some ((-1000000001 : Int32), r2.2))
    else (
      if i1 = i2 then (
        some ((-1000000001 : Int32), r2.2))
      else (
        (f_X5_isIn r2.2 i3.toInt64 (0 : Int64) (1 : Int64)).bind fun r3 =>
        if ¬ r3.1 = 0 then (
          f_X5_join_40 4096 r3.2 a0 i1 i2 i3 (0 : Int32) (1 : Int32))
        else (
          some ((-1000000001 : Int32), r3.2)))))
abbrev rm_X5_doClash : Room := { frames := 3, cells := 0, slots := 0, locals := 65 }
theorem cd_X5_doClash : zcd yX5_doClash 2 := by unfold zcd; decide +kernel
def f_X5_doClash_15 : Nat → zT → Nat → Int32 → Int32 → Int32 → Int32 → Option (Int32 × zT)
  | 0, _, _, _, _, _, _ => none
  | n + 1, h, a0, i1, i2, i3, i4 =>
    if (16 : Int32) ≤ i4 then (
      if (0 : Int32) = 0 ∨ (0 : Int32) = 1 then some ((0 : Int32), h) else none)
    else (
      if ¬ ((i3 >>> (i4 &&& 31)) &&& (1 : Int32)) = (1 : Int32) then (
        (some (i4 + (1 : Int32))).bind fun v1 =>
        f_X5_doClash_15 n h a0 i1 i2 i3 v1)
      else (
        (zk_C 5 h a0).bind fun _ =>
        (f_X5_of h a0 i1 (4 : Int32)).bind fun r2 =>
        (zk_C 5 r2.2 a0).bind fun _ =>
        (f_X5_saysAt r2.2 a0 i1 (i4 - r2.1)).bind fun r3 =>
        (zk_C 5 r3.2 a0).bind fun _ =>
        (f_X5_of r3.2 a0 i2 (4 : Int32)).bind fun r4 =>
        (zk_C 5 r4.2 a0).bind fun _ =>
        (f_X5_saysAt r4.2 a0 i2 (i4 - r4.1)).bind fun r5 =>
        if r3.1 = r5.1 then (
          (some (i4 + (1 : Int32))).bind fun v6 =>
          f_X5_doClash_15 n r5.2 a0 i1 i2 i3 v6)
        else (
          if (1 : Int32) = 0 ∨ (1 : Int32) = 1 then some ((1 : Int32), r5.2) else none)))
def f_X5_doClash (h : zT) (a0 : Nat) (i1 : Int32) (i2 : Int32) : Option (Int32 × zT) :=
  (zk_C 5 h a0).bind fun _ =>
  (f_X5_covers h a0 i1).bind fun r1 =>
  (zk_C 5 r1.2 a0).bind fun _ =>
  (f_X5_covers r1.2 a0 i2).bind fun r2 =>
  (some (r1.1 &&& r2.1)).bind fun v3 =>
  f_X5_doClash_15 4096 r2.2 a0 i1 i2 v3 (0 : Int32)
abbrev rm_X5_clash : Room := { frames := 4, cells := 0, slots := 0, locals := 89 }
theorem cd_X5_clash : zcd yX5_clash 2 := by unfold zcd; decide +kernel
def f_X5_clash (h : zT) (a0 : Nat) (i1 : Int32) (i2 : Int32) : Option (Int32 × zT) :=
  (zk_C 5 h a0).bind fun _ =>
  (f_X5_isRubbing h a0 i1).bind fun r1 =>
  if r1.1 = 0 then (
    some ((-1000000001 : Int32), r1.2))
  else (
    (zk_C 5 r1.2 a0).bind fun _ =>
    (f_X5_isRubbing r1.2 a0 i2).bind fun r2 =>
    if r2.1 = 0 then (
      some ((-1000000001 : Int32), r2.2))
    else (
      if ¬ i1 = i2 then (
        (zk_C 5 r2.2 a0).bind fun _ =>
        (f_X5_doClash r2.2 a0 i1 i2).bind fun r3 =>
        if r3.1 = 0 then (
          some ((0 : Int32), r3.2))
        else (
          some ((1 : Int32), r3.2)))
      else (
        some ((-1000000001 : Int32), r2.2))))
abbrev rm_X5_areAtPeace : Room := { frames := 0, cells := 0, slots := 0, locals := 0 }
theorem cd_X5_areAtPeace : zcd yX5_areAtPeace 1 := by unfold zcd; decide +kernel
def f_X5_areAtPeace_2 : Nat → zT → Nat → Int32 → Int32 → Option (Int32 × zT)
  | 0, _, _, _, _ => none
  | n + 1, h, a0, i1, i2 =>
    (zg_R [5] h a0 0).bind fun v1 =>
    (za_I .int h v1 (0 : Int32)).bind fun v2 =>
    if v2 ≤ i2 then (
      if (1 : Int32) = 0 ∨ (1 : Int32) = 1 then some ((1 : Int32), h) else none)
    else (
      if ¬ ((i1 >>> (i2 &&& 31)) &&& (1 : Int32)) = (1 : Int32) then (
        (some (i2 + (1 : Int32))).bind fun v3 =>
        f_X5_areAtPeace_2 n h a0 i1 v3)
      else (
        (zg_R [5] h a0 12).bind fun v4 =>
        (za_I .int h v4 i2).bind fun v5 =>
        if (v5 &&& i1) = 0 then (
          (some (i2 + (1 : Int32))).bind fun v6 =>
          f_X5_areAtPeace_2 n h a0 i1 v6)
        else (
          if (0 : Int32) = 0 ∨ (0 : Int32) = 1 then some ((0 : Int32), h) else none)))
def f_X5_areAtPeace (h : zT) (a0 : Nat) (i1 : Int32) : Option (Int32 × zT) :=
  f_X5_areAtPeace_2 4096 h a0 i1 (0 : Int32)
abbrev rm_X5_findClashing : Room := { frames := 4, cells := 0, slots := 0, locals := 89 }
theorem cd_X5_findClashing : zcd yX5_findClashing 0 := by unfold zcd; decide +kernel
def f_X5_findClashing_21 (K2 : zT → Nat → Int32 → Option (zT)) : Nat → zT → Nat → Int32 → Int32 → Option (zT)
  | 0, _, _, _, _ => none
  | n + 1, h, a0, i1, i2 =>
    (zg_R [5] h a0 0).bind fun v1 =>
    (za_I .int h v1 (0 : Int32)).bind fun v2 =>
    if v2 ≤ i2 then (
      (some (i1 + (1 : Int32))).bind fun v3 =>
      K2 h a0 v3)
    else (
      (zg_R [5] h a0 12).bind fun v4 =>
      (za_I .int h v4 i1).bind fun v5 =>
      if i2 = i1 then (
        (zs_I .int h v4 i1 (v5 ||| (0 : Int32))).bind fun h6 =>
        (some (i2 + (1 : Int32))).bind fun v7 =>
        f_X5_findClashing_21 K2 n h6 a0 i1 v7)
      else (
        (zk_C 5 h a0).bind fun _ =>
        (f_X5_doClash h a0 i1 i2).bind fun r8 =>
        if r8.1 = 0 then (
          (zs_I .int r8.2 v4 i1 (v5 ||| (0 : Int32))).bind fun h9 =>
          (some (i2 + (1 : Int32))).bind fun v10 =>
          f_X5_findClashing_21 K2 n h9 a0 i1 v10)
        else (
          (zs_I .int r8.2 v4 i1 (v5 ||| ((1 : Int32) <<< (i2 &&& 31)))).bind fun h11 =>
          (some (i2 + (1 : Int32))).bind fun v12 =>
          f_X5_findClashing_21 K2 n h11 a0 i1 v12)))
def f_X5_findClashing_2 : Nat → zT → Nat → Int32 → Option (zT)
  | 0, _, _, _ => none
  | n + 1, h, a0, i1 =>
    (zg_R [5] h a0 0).bind fun v1 =>
    (za_I .int h v1 (0 : Int32)).bind fun v2 =>
    if v2 ≤ i1 then (
      some h)
    else (
      (zg_R [5] h a0 12).bind fun v3 =>
      (zs_I .int h v3 i1 (0 : Int32)).bind fun h4 =>
      f_X5_findClashing_21 (f_X5_findClashing_2 n) 4096 h4 a0 i1 (0 : Int32))
def f_X5_findClashing (h : zT) (a0 : Nat) : Option (zT) :=
  f_X5_findClashing_2 4096 h a0 (0 : Int32)
abbrev rm_X5_laidOnes : Room := { frames := 1, cells := 0, slots := 0, locals := 22 }
theorem cd_X5_laidOnes : zcd yX5_laidOnes 0 := by unfold zcd; decide +kernel
def f_X5_laidOnes_4 : Nat → zT → Nat → Int32 → Int32 → Option (Int32 × zT)
  | 0, _, _, _, _ => none
  | n + 1, h, a0, i1, i2 =>
    (zg_R [5] h a0 0).bind fun v1 =>
    (za_I .int h v1 (0 : Int32)).bind fun v2 =>
    if v2 ≤ i2 then (
      some (i1, h))
    else (
      (zk_C 5 h a0).bind fun _ =>
      (f_X5_of h a0 i2 (4 : Int32)).bind fun r3 =>
      if (16 : Int32) ≤ r3.1 then (
        (some (i1 ||| (0 : Int32))).bind fun v4 =>
        (some (i2 + (1 : Int32))).bind fun v5 =>
        f_X5_laidOnes_4 n r3.2 a0 v4 v5)
      else (
        (some (i1 ||| ((1 : Int32) <<< (i2 &&& 31)))).bind fun v6 =>
        (some (i2 + (1 : Int32))).bind fun v7 =>
        f_X5_laidOnes_4 n r3.2 a0 v6 v7))
def f_X5_laidOnes (h : zT) (a0 : Nat) : Option (Int32 × zT) :=
  f_X5_laidOnes_4 4096 h a0 (0 : Int32) (0 : Int32)
abbrev rm_X5_manyIn : Room := { frames := 0, cells := 0, slots := 0, locals := 0 }
theorem cd_X5_manyIn : zcd yX5_manyIn 1 := by unfold zcd; decide +kernel
def f_X5_manyIn_4 : Nat → zT → Int32 → Int32 → Option (Int32 × zT)
  | 0, _, _, _ => none
  | n + 1, h, i1, i2 =>
    if i2 = 0 then (
      some (i1, h))
    else (
      (some (i1 + (1 : Int32))).bind fun v1 =>
      (some (i2 &&& (i2 - (1 : Int32)))).bind fun v2 =>
      f_X5_manyIn_4 n h v1 v2)
def f_X5_manyIn (h : zT) (i0 : Int32) : Option (Int32 × zT) :=
  f_X5_manyIn_4 4096 h (0 : Int32) i0
abbrev rm_X5_undone : Room := { frames := 5, cells := 0, slots := 0, locals := 111 }
theorem cd_X5_undone : zcd yX5_undone 0 := by unfold zcd; decide +kernel
def f_X5_undone_41 (K13 : zT → Nat → Int32 → Int32 → Int32 → Option (Int32 × zT)) (h : zT) (a0 : Nat) (i1 : Int32) (i2 : Int32) (i3 : Int32) (s0 : Int32) : Option (Int32 × zT) :=
  if s0 = 0 then (
    (some (i3 + (-1 : Int32))).bind fun v1 =>
    K13 h a0 i1 i2 v1)
  else (
    (zk_C 5 h a0).bind fun _ =>
    (f_X5_areAtPeace h a0 (i1 &&& (i3 ^^^ (-1 : Int32)))).bind fun r2 =>
    if r2.1 = 0 then (
      (some (i3 + (-1 : Int32))).bind fun v3 =>
      K13 r2.2 a0 i1 i2 v3)
    else (
      (some (i3 + (-1 : Int32))).bind fun v4 =>
      K13 r2.2 a0 i1 i3 v4))
def f_X5_undone_13 : Nat → zT → Nat → Int32 → Int32 → Int32 → Option (Int32 × zT)
  | 0, _, _, _, _, _ => none
  | n + 1, h, a0, i1, i2, i3 =>
    if i3 < 0 then (
      some (i2, h))
    else (
      if ¬ (i3 &&& (i1 ^^^ (-1 : Int32))) = 0 then (
        f_X5_undone_41 (f_X5_undone_13 n) h a0 i1 i2 i3 (0 : Int32))
      else (
        (f_X5_manyIn h i3).bind fun r1 =>
        (f_X5_manyIn r1.2 i2).bind fun r2 =>
        if r2.1 < r1.1 then (
          f_X5_undone_41 (f_X5_undone_13 n) r2.2 a0 i1 i2 i3 (0 : Int32))
        else (
          f_X5_undone_41 (f_X5_undone_13 n) r2.2 a0 i1 i2 i3 (1 : Int32))))
def f_X5_undone (h : zT) (a0 : Nat) : Option (Int32 × zT) :=
  (zk_C 5 h a0).bind fun _ =>
  (f_X5_findClashing h a0).bind fun r1 =>
  (zk_C 5 r1 a0).bind fun _ =>
  (f_X5_laidOnes r1 a0).bind fun r2 =>
  f_X5_undone_13 4096 r2.2 a0 r2.1 r2.1 r2.1
abbrev rm_X5_coveredBy : Room := { frames := 3, cells := 0, slots := 0, locals := 65 }
theorem cd_X5_coveredBy : zcd yX5_coveredBy 1 := by unfold zcd; decide +kernel
def f_X5_coveredBy_4 : Nat → zT → Nat → Int32 → Int32 → Int32 → Option (Int32 × zT)
  | 0, _, _, _, _, _ => none
  | n + 1, h, a0, i1, i2, i3 =>
    (zg_R [5] h a0 0).bind fun v1 =>
    (za_I .int h v1 (0 : Int32)).bind fun v2 =>
    if v2 ≤ i3 then (
      some (i2, h))
    else (
      if ¬ ((i1 >>> (i3 &&& 31)) &&& (1 : Int32)) = (1 : Int32) then (
        (some (i2 ||| (0 : Int32))).bind fun v3 =>
        (some (i3 + (1 : Int32))).bind fun v4 =>
        f_X5_coveredBy_4 n h a0 i1 v3 v4)
      else (
        (zk_C 5 h a0).bind fun _ =>
        (f_X5_covers h a0 i3).bind fun r5 =>
        (some (i2 ||| r5.1)).bind fun v6 =>
        (some (i3 + (1 : Int32))).bind fun v7 =>
        f_X5_coveredBy_4 n r5.2 a0 i1 v6 v7))
def f_X5_coveredBy (h : zT) (a0 : Nat) (i1 : Int32) : Option (Int32 × zT) :=
  f_X5_coveredBy_4 4096 h a0 i1 (0 : Int32) (0 : Int32)
abbrev rm_X5_borne : Room := { frames := 4, cells := 0, slots := 0, locals := 88 }
theorem cd_X5_borne : zcd yX5_borne 0 := by unfold zcd; decide +kernel
def f_X5_borne_47 (K16 : zT → Nat → Int32 → Int32 → Int32 → Int32 → Option (Int32 × zT)) (h : zT) (a0 : Nat) (i1 : Int32) (i2 : Int32) (i3 : Int32) (i4 : Int32) (s0 : Int32) : Option (Int32 × zT) :=
  if s0 = 0 then (
    (some (i4 + (-1 : Int32))).bind fun v1 =>
    K16 h a0 i1 i2 i3 v1)
  else (
    (zk_C 5 h a0).bind fun _ =>
    (f_X5_coveredBy h a0 i4).bind fun r2 =>
    if ¬ r2.1 = i2 then (
      (some (i4 + (-1 : Int32))).bind fun v3 =>
      K16 r2.2 a0 i1 i2 i3 v3)
    else (
      (some (i4 + (-1 : Int32))).bind fun v4 =>
      K16 r2.2 a0 i1 i2 i4 v4))
def f_X5_borne_16 : Nat → zT → Nat → Int32 → Int32 → Int32 → Int32 → Option (Int32 × zT)
  | 0, _, _, _, _, _, _ => none
  | n + 1, h, a0, i1, i2, i3, i4 =>
    if i4 < 0 then (
      some (i3, h))
    else (
      if ¬ (i4 &&& (i1 ^^^ (-1 : Int32))) = 0 then (
        f_X5_borne_47 (f_X5_borne_16 n) h a0 i1 i2 i3 i4 (0 : Int32))
      else (
        (f_X5_manyIn h i4).bind fun r1 =>
        (f_X5_manyIn r1.2 i3).bind fun r2 =>
        if r2.1 < r1.1 then (
          f_X5_borne_47 (f_X5_borne_16 n) r2.2 a0 i1 i2 i3 i4 (0 : Int32))
        else (
          f_X5_borne_47 (f_X5_borne_16 n) r2.2 a0 i1 i2 i3 i4 (1 : Int32))))
def f_X5_borne (h : zT) (a0 : Nat) : Option (Int32 × zT) :=
  (zk_C 5 h a0).bind fun _ =>
  (f_X5_laidOnes h a0).bind fun r1 =>
  (zk_C 5 r1.2 a0).bind fun _ =>
  (f_X5_coveredBy r1.2 a0 r1.1).bind fun r2 =>
  f_X5_borne_16 4096 r2.2 a0 r1.1 r2.1 r1.1 r1.1
abbrev rm_X5_otherwiseAt : Room := { frames := 3, cells := 0, slots := 0, locals := 65 }
theorem cd_X5_otherwiseAt : zcd yX5_otherwiseAt 1 := by unfold zcd; decide +kernel
def f_X5_otherwiseAt_4 : Nat → zT → Nat → Int32 → Int32 → Int32 → Option (Int32 × zT)
  | 0, _, _, _, _, _ => none
  | n + 1, h, a0, i1, i2, i3 =>
    (zg_R [5] h a0 0).bind fun v1 =>
    (za_I .int h v1 (0 : Int32)).bind fun v2 =>
    if v2 ≤ i3 then (
      some (i2, h))
    else (
      (zk_C 5 h a0).bind fun _ =>
      (f_X5_covers h a0 i3).bind fun r3 =>
      if ¬ ((r3.1 >>> (i1 &&& 31)) &&& (1 : Int32)) = (1 : Int32) then (
        (some (i2 + (0 : Int32))).bind fun v4 =>
        (some (i3 + (1 : Int32))).bind fun v5 =>
        f_X5_otherwiseAt_4 n r3.2 a0 i1 v4 v5)
      else (
        (zk_C 5 r3.2 a0).bind fun _ =>
        (f_X5_of r3.2 a0 i3 (4 : Int32)).bind fun r6 =>
        (zk_C 5 r6.2 a0).bind fun _ =>
        (f_X5_saysAt r6.2 a0 i3 (i1 - r6.1)).bind fun r7 =>
        (zg_R [5] r7.2 a0 0).bind fun v8 =>
        (za_I .int r7.2 v8 ((5 : Int32) + i1)).bind fun v9 =>
        if r7.1 = v9 then (
          (some (i2 + (0 : Int32))).bind fun v10 =>
          (some (i3 + (1 : Int32))).bind fun v11 =>
          f_X5_otherwiseAt_4 n r7.2 a0 i1 v10 v11)
        else (
          (some (i2 + (1 : Int32))).bind fun v12 =>
          (some (i3 + (1 : Int32))).bind fun v13 =>
          f_X5_otherwiseAt_4 n r7.2 a0 i1 v12 v13)))
def f_X5_otherwiseAt (h : zT) (a0 : Nat) (i1 : Int32) : Option (Int32 × zT) :=
  f_X5_otherwiseAt_4 4096 h a0 i1 (0 : Int32) (0 : Int32)
abbrev rm_X5_look : Room := { frames := 4, cells := 0, slots := 0, locals := 88 }
theorem cd_X5_look : zcd yX5_look 1 := by unfold zcd; decide +kernel
def f_X5_look_17 : Nat → zT → Nat → Int32 → Int32 → Int32 → Option (Int32 × zT)
  | 0, _, _, _, _, _ => none
  | n + 1, h, a0, i1, i2, i3 =>
    if (16 : Int32) ≤ i3 then (
      if ¬ i1 = 0 then (
        (zk_C 5 h a0).bind fun _ =>
        (f_X5_otherwiseAt h a0 i2).bind fun r1 =>
        some (r1.1, r1.2))
      else (
        some (i2, h)))
    else (
      (zk_C 5 h a0).bind fun _ =>
      (f_X5_otherwiseAt h a0 i3).bind fun r2 =>
      (zk_C 5 r2.2 a0).bind fun _ =>
      (f_X5_otherwiseAt r2.2 a0 i2).bind fun r3 =>
      if r2.1 ≤ r3.1 then (
        (some (i3 + (1 : Int32))).bind fun v4 =>
        f_X5_look_17 n r3.2 a0 i1 i2 v4)
      else (
        (some (i3 + (1 : Int32))).bind fun v5 =>
        f_X5_look_17 n r3.2 a0 i1 i3 v5))
def f_X5_look (h : zT) (a0 : Nat) (i1 : Int32) : Option (Int32 × zT) :=
  (f_X5_isIn h i1.toInt64 (0 : Int64) (1 : Int64)).bind fun r1 =>
  if ¬ r1.1 = 0 then (
    f_X5_look_17 4096 r1.2 a0 i1 (0 : Int32) (1 : Int32))
  else (
    some ((-1000000001 : Int32), r1.2))
abbrev rm_X5_goesOn : Room := { frames := 3, cells := 0, slots := 0, locals := 70 }
theorem cd_X5_goesOn : zcd yX5_goesOn 0 := by unfold zcd; decide +kernel
def f_X5_goesOn_87 (K10 : zT → Nat → Int32 → Int32 → Option (zT)) (h : zT) (a0 : Nat) (i1 : Int32) (i2 : Int32) (i3 : Int32) (s0 : Int32) (s1 : Int32) : Option (zT) :=
  (some (s1 + s0)).bind fun v1 =>
  (f_X5_within h v1 (99 : Int32)).bind fun r2 =>
  (zk_C 5 r2.2 a0).bind fun _ =>
  (f_X5_sets r2.2 a0 i2 (5 : Int32) r2.1).bind fun r3 =>
  if ¬ i3 = 0 then (
    (some (i2 + (1 : Int32))).bind fun v4 =>
    K10 r3 a0 i1 v4)
  else (
    if 0 < v1 then (
      (some (i2 + (1 : Int32))).bind fun v5 =>
      K10 r3 a0 i1 v5)
    else (
      (zk_C 5 r3 a0).bind fun _ =>
      (f_X5_sets r3 a0 i2 (4 : Int32) (16 : Int32)).bind fun r6 =>
      (zg_R [5] r6 a0 0).bind fun v7 =>
      (za_I .int r6 v7 (3 : Int32)).bind fun v8 =>
      (zs_I .int r6 v7 (3 : Int32) (v8 + (1 : Int32))).bind fun h9 =>
      (some (i2 + (1 : Int32))).bind fun v10 =>
      K10 h9 a0 i1 v10))
def f_X5_goesOn_62 (K10 : zT → Nat → Int32 → Int32 → Option (zT)) (h : zT) (a0 : Nat) (i1 : Int32) (i2 : Int32) (s0 : Int32) : Option (zT) :=
  (zk_C 5 h a0).bind fun _ =>
  (f_X5_of h a0 i2 (5 : Int32)).bind fun r1 =>
  if s0 = 0 then (
    (zk_C 5 r1.2 a0).bind fun _ =>
    (f_X5_loses r1.2 a0 i2).bind fun r2 =>
    f_X5_goesOn_87 K10 r2.2 a0 i1 i2 s0 (-r2.1) r1.1)
  else (
    (zk_C 5 r1.2 a0).bind fun _ =>
    (f_X5_gains r1.2 a0 i2).bind fun r3 =>
    f_X5_goesOn_87 K10 r3.2 a0 i1 i2 s0 r3.1 r1.1)
def f_X5_goesOn_10 : Nat → zT → Nat → Int32 → Int32 → Option (zT)
  | 0, _, _, _, _ => none
  | n + 1, h, a0, i1, i2 =>
    (zg_R [5] h a0 0).bind fun v1 =>
    (za_I .int h v1 (0 : Int32)).bind fun v2 =>
    if v2 ≤ i2 then (
      (zg_R [5] h a0 0).bind fun v3 =>
      (za_I .int h v3 (2 : Int32)).bind fun v4 =>
      (zs_I .int h v3 (2 : Int32) (v4 + (1 : Int32))).bind fun h5 =>
      some h5)
    else (
      (zk_C 5 h a0).bind fun _ =>
      (f_X5_covers h a0 i2).bind fun r6 =>
      if ¬ ((r6.1 >>> (i1 &&& 31)) &&& (1 : Int32)) = (1 : Int32) then (
        (some (i2 + (1 : Int32))).bind fun v7 =>
        f_X5_goesOn_10 n r6.2 a0 i1 v7)
      else (
        (zk_C 5 r6.2 a0).bind fun _ =>
        (f_X5_of r6.2 a0 i2 (4 : Int32)).bind fun r8 =>
        (zk_C 5 r8.2 a0).bind fun _ =>
        (f_X5_saysAt r8.2 a0 i2 (i1 - r8.1)).bind fun r9 =>
        (zg_R [5] r9.2 a0 0).bind fun v10 =>
        (za_I .int r9.2 v10 ((5 : Int32) + i1)).bind fun v11 =>
        if ¬ r9.1 = v11 then (
          f_X5_goesOn_62 (f_X5_goesOn_10 n) r9.2 a0 i1 i2 (0 : Int32))
        else (
          f_X5_goesOn_62 (f_X5_goesOn_10 n) r9.2 a0 i1 i2 (1 : Int32))))
def f_X5_goesOn (h : zT) (a0 : Nat) : Option (zT) :=
  (zk_C 5 h a0).bind fun _ =>
  (f_X5_drawn h a0).bind fun r1 =>
  (some (r1.1 - r1.1 / (16 : Int32) * (16 : Int32))).bind fun v2 =>
  f_X5_goesOn_10 4096 r1.2 a0 v2 (0 : Int32)
abbrev rm_X5_tides : Room := { frames := 4, cells := 0, slots := 0, locals := 94 }
theorem cd_X5_tides : zcd yX5_tides 1 := by unfold zcd; decide +kernel
def f_X5_tides_24 : Nat → zT → Nat → Int32 → Int32 → Int32 → Option (Int32 × zT)
  | 0, _, _, _, _, _ => none
  | n + 1, h, a0, i1, i2, i3 =>
    if i1 ≤ i3 then (
      (zg_R [5] h a0 0).bind fun v1 =>
      (za_I .int h v1 (3 : Int32)).bind fun v2 =>
      some (v2 - i2, h))
    else (
      (zg_R [5] h a0 0).bind fun v3 =>
      (za_I .int h v3 (2 : Int32)).bind fun v4 =>
      if (9999 : Int32) ≤ v4 then (
        (zg_R [5] h a0 0).bind fun v5 =>
        (za_I .int h v5 (3 : Int32)).bind fun v6 =>
        some (v6 - i2, h))
      else (
        (zk_C 5 h a0).bind fun _ =>
        (f_X5_goesOn h a0).bind fun r7 =>
        (some (i3 + (1 : Int32))).bind fun v8 =>
        f_X5_tides_24 n r7 a0 i1 i2 v8))
def f_X5_tides (h : zT) (a0 : Nat) (i1 : Int32) : Option (Int32 × zT) :=
  (f_X5_isIn h i1.toInt64 (1 : Int64) (100 : Int64)).bind fun r1 =>
  if ¬ r1.1 = 0 then (
    (zg_R [5] r1.2 a0 0).bind fun v2 =>
    (za_I .int r1.2 v2 (3 : Int32)).bind fun v3 =>
    f_X5_tides_24 4096 r1.2 a0 i1 v3 (0 : Int32))
  else (
    some ((-1000000001 : Int32), r1.2))
abbrev rm_X5_allTrust : Room := { frames := 1, cells := 0, slots := 0, locals := 22 }
theorem cd_X5_allTrust : zcd yX5_allTrust 0 := by unfold zcd; decide +kernel
def f_X5_allTrust_4 : Nat → zT → Nat → Int32 → Int32 → Option (Int32 × zT)
  | 0, _, _, _, _ => none
  | n + 1, h, a0, i1, i2 =>
    (zg_R [5] h a0 0).bind fun v1 =>
    (za_I .int h v1 (0 : Int32)).bind fun v2 =>
    if v2 ≤ i2 then (
      some (i1, h))
    else (
      (zk_C 5 h a0).bind fun _ =>
      (f_X5_of h a0 i2 (5 : Int32)).bind fun r3 =>
      (some (i1 + r3.1)).bind fun v4 =>
      (some (i2 + (1 : Int32))).bind fun v5 =>
      f_X5_allTrust_4 n r3.2 a0 v4 v5)
def f_X5_allTrust (h : zT) (a0 : Nat) : Option (Int32 × zT) :=
  f_X5_allTrust_4 4096 h a0 (0 : Int32) (0 : Int32)
abbrev rm_X5_book : Room := { frames := 4, cells := 0, slots := 0, locals := 88 }
theorem cd_X5_book : zcd yX5_book 1 := by unfold zcd; decide +kernel
def f_X5_book (h : zT) (a0 : Nat) (i1 : Int32) : Option (Int32 × zT) :=
  if i1 = (0 : Int32) then (
    (zg_R [5] h a0 0).bind fun v1 =>
    (za_I .int h v1 (3 : Int32)).bind fun v2 =>
    some (v2, h))
  else (
    if i1 = (1 : Int32) then (
      (zk_C 5 h a0).bind fun _ =>
      (f_X5_allTrust h a0).bind fun r3 =>
      some (r3.1, r3.2))
    else (
      if i1 = (2 : Int32) then (
        (zk_C 5 h a0).bind fun _ =>
        (f_X5_laidOnes h a0).bind fun r4 =>
        some (r4.1, r4.2))
      else (
        if i1 = (3 : Int32) then (
          (zk_C 5 h a0).bind fun _ =>
          (f_X5_laidOnes h a0).bind fun r5 =>
          (zk_C 5 r5.2 a0).bind fun _ =>
          (f_X5_coveredBy r5.2 a0 r5.1).bind fun r6 =>
          some ((65535 : Int32) &&& (r6.1 ^^^ (-1 : Int32)), r6.2))
        else (
          some ((-1000000001 : Int32), h)))))
abbrev rm_X5_goesOnMany : Room := { frames := 4, cells := 0, slots := 0, locals := 94 }
theorem cd_X5_goesOnMany : zcd yX5_goesOnMany 1 := by unfold zcd; decide +kernel
def f_X5_goesOnMany_2 : Nat → zT → Nat → Int32 → Int32 → Option (zT)
  | 0, _, _, _, _ => none
  | n + 1, h, a0, i1, i2 =>
    if i1 ≤ i2 then (
      some h)
    else (
      (zk_C 5 h a0).bind fun _ =>
      (f_X5_goesOn h a0).bind fun r1 =>
      (some (i2 + (1 : Int32))).bind fun v2 =>
      f_X5_goesOnMany_2 n r1 a0 i1 v2)
def f_X5_goesOnMany (h : zT) (a0 : Nat) (i1 : Int32) : Option (zT) :=
  f_X5_goesOnMany_2 4096 h a0 i1 (0 : Int32)
abbrev rm_X5_laysBack : Room := { frames := 0, cells := 0, slots := 0, locals := 0 }
theorem cd_X5_laysBack : zcd yX5_laysBack 0 := by unfold zcd; decide +kernel
def f_X5_laysBack_2 : Nat → zT → Nat → Int32 → Option (zT)
  | 0, _, _, _ => none
  | n + 1, h, a0, i1 =>
    if (75 : Int32) ≤ i1 then (
      some h)
    else (
      (zg_R [5] h a0 0).bind fun v1 =>
      (zg_R [5] h a0 13).bind fun v2 =>
      (za_I .int h v2 i1).bind fun v3 =>
      (zs_I .int h v1 i1 v3).bind fun h4 =>
      (some (i1 + (1 : Int32))).bind fun v5 =>
      f_X5_laysBack_2 n h4 a0 v5)
def f_X5_laysBack (h : zT) (a0 : Nat) : Option (zT) :=
  f_X5_laysBack_2 4096 h a0 (0 : Int32)
abbrev rm_X5_laysBy : Room := { frames := 0, cells := 0, slots := 0, locals := 0 }
theorem cd_X5_laysBy : zcd yX5_laysBy 0 := by unfold zcd; decide +kernel
def f_X5_laysBy_2 : Nat → zT → Nat → Int32 → Option (zT)
  | 0, _, _, _ => none
  | n + 1, h, a0, i1 =>
    if (75 : Int32) ≤ i1 then (
      some h)
    else (
      (zg_R [5] h a0 13).bind fun v1 =>
      (zg_R [5] h a0 0).bind fun v2 =>
      (za_I .int h v2 i1).bind fun v3 =>
      (zs_I .int h v1 i1 v3).bind fun h4 =>
      (some (i1 + (1 : Int32))).bind fun v5 =>
      f_X5_laysBy_2 n h4 a0 v5)
def f_X5_laysBy (h : zT) (a0 : Nat) : Option (zT) :=
  f_X5_laysBy_2 4096 h a0 (0 : Int32)
abbrev rm_X5_behind : Room := { frames := 5, cells := 0, slots := 0, locals := 116 }
theorem cd_X5_behind : zcd yX5_behind 2 := by unfold zcd; decide +kernel
def f_X5_behind (h : zT) (a0 : Nat) (i1 : Int32) (i2 : Int32) : Option (Int32 × zT) :=
  (f_X5_isIn h i1.toInt64 (0 : Int64) (100 : Int64)).bind fun r1 =>
  if r1.1 = 0 then (
    some ((-1000000001 : Int32), r1.2))
  else (
    (zg_R [5] r1.2 a0 0).bind fun v2 =>
    (za_I .int r1.2 v2 (0 : Int32)).bind fun v3 =>
    (f_X5_isIn r1.2 i2.toInt64 (0 : Int64) (((2 : Int32) + v3).toInt64)).bind fun r4 =>
    if ¬ r4.1 = 0 then (
      (zk_C 5 r4.2 a0).bind fun _ =>
      (f_X5_laysBy r4.2 a0).bind fun r5 =>
      (zk_C 5 r5 a0).bind fun _ =>
      (f_X5_goesOnMany r5 a0 i1).bind fun r6 =>
      if ¬ i2 = 0 then (
        if ¬ i2 = (1 : Int32) then (
          if ¬ i2 = (2 : Int32) then (
            (zk_C 5 r6 a0).bind fun _ =>
            (f_X5_of r6 a0 (i2 - (3 : Int32)) (5 : Int32)).bind fun r7 =>
            (zk_C 5 r7.2 a0).bind fun _ =>
            (f_X5_laysBack r7.2 a0).bind fun r8 =>
            some (r7.1, r8))
          else (
            (zg_R [5] r6 a0 0).bind fun v9 =>
            (za_I .int r6 v9 (3 : Int32)).bind fun v10 =>
            (zk_C 5 r6 a0).bind fun _ =>
            (f_X5_laysBack r6 a0).bind fun r11 =>
            some (v10, r11)))
        else (
          (zk_C 5 r6 a0).bind fun _ =>
          (f_X5_laidOnes r6 a0).bind fun r12 =>
          (zk_C 5 r12.2 a0).bind fun _ =>
          (f_X5_laysBack r12.2 a0).bind fun r13 =>
          some (r12.1, r13)))
      else (
        (zk_C 5 r6 a0).bind fun _ =>
        (f_X5_allTrust r6 a0).bind fun r14 =>
        (zk_C 5 r14.2 a0).bind fun _ =>
        (f_X5_laysBack r14.2 a0).bind fun r15 =>
        some (r14.1, r15)))
    else (
      some ((-1000000001 : Int32), r4.2)))
abbrev rm_X5_orNone : Room := { frames := 0, cells := 0, slots := 0, locals := 0 }
theorem cd_X5_orNone : zcd yX5_orNone 1 := by unfold zcd; decide +kernel
def f_X5_orNone (h : zT) (i0 : Int32) : Option (Int32 × zT) :=
  if 0 ≤ i0 then (
    some (i0, h))
  else (
    some ((-1000000005 : Int32), h))
abbrev rm_X5_lasts : Room := { frames := 4, cells := 0, slots := 0, locals := 94 }
theorem cd_X5_lasts : zcd yX5_lasts 0 := by unfold zcd; decide +kernel
def f_X5_lasts_42 (h : zT) (a0 : Nat) (i1 : Int32) : Option (Int32 × zT) :=
  (zk_C 5 h a0).bind fun _ =>
  (f_X5_laysBack h a0).bind fun r1 =>
  (f_X5_orNone r1 i1).bind fun r2 =>
  some (r2.1, r2.2)
def f_X5_lasts_8 : Nat → zT → Nat → Int32 → Int32 → Option (Int32 × zT)
  | 0, _, _, _, _ => none
  | n + 1, h, a0, i1, i2 =>
    if (300 : Int32) < i2 then (
      f_X5_lasts_42 h a0 i1)
    else (
      if 0 ≤ i1 then (
        f_X5_lasts_42 h a0 i1)
      else (
        (zk_C 5 h a0).bind fun _ =>
        (f_X5_laidOnes h a0).bind fun r1 =>
        if ¬ r1.1 = 0 then (
          (zk_C 5 r1.2 a0).bind fun _ =>
          (f_X5_goesOn r1.2 a0).bind fun r2 =>
          (some (i2 + (1 : Int32))).bind fun v3 =>
          f_X5_lasts_8 n r2 a0 (-1 : Int32) v3)
        else (
          (zk_C 5 r1.2 a0).bind fun _ =>
          (f_X5_goesOn r1.2 a0).bind fun r4 =>
          (some (i2 + (1 : Int32))).bind fun v5 =>
          f_X5_lasts_8 n r4 a0 i2 v5)))
def f_X5_lasts (h : zT) (a0 : Nat) : Option (Int32 × zT) :=
  (zk_C 5 h a0).bind fun _ =>
  (f_X5_laysBy h a0).bind fun r1 =>
  f_X5_lasts_8 4096 r1 a0 (-1 : Int32) (0 : Int32)
abbrev rm_X5_best : Room := { frames := 5, cells := 0, slots := 0, locals := 116 }
theorem cd_X5_best : zcd yX5_best 3 := by unfold zcd; decide +kernel
def f_X5_best_92 (K46 : zT → Nat → Int32 → Int32 → Int32 → Int32 → Int32 → Int32 → Option (Int32 × zT)) (h : zT) (a0 : Nat) (i1 : Int32) (i2 : Int32) (i3 : Int32) (i5 : Int32) (i6 : Int32) (i7 : Int32) (s0 : Int32) : Option (Int32 × zT) :=
  if i7 ≤ i5 then (
    (some (i6 + (1 : Int32))).bind fun v1 =>
    K46 h a0 i1 i2 i3 s0 i5 v1)
  else (
    (some (i6 + (1 : Int32))).bind fun v2 =>
    K46 h a0 i1 i2 i3 s0 i7 v2)
def f_X5_best_46 : Nat → zT → Nat → Int32 → Int32 → Int32 → Int32 → Int32 → Int32 → Option (Int32 × zT)
  | 0, _, _, _, _, _, _, _, _ => none
  | n + 1, h, a0, i1, i2, i3, i4, i5, i6 =>
    if (16 : Int32) ≤ i6 then (
      if ¬ i3 = 0 then (
        some (i5, h))
      else (
        some (i4, h)))
    else (
      (zk_C 5 h a0).bind fun _ =>
      (f_X5_sets h a0 i1 (4 : Int32) i6).bind fun r1 =>
      (zk_C 5 r1 a0).bind fun _ =>
      (f_X5_goesOnMany r1 a0 i2).bind fun r2 =>
      (zk_C 5 r2 a0).bind fun _ =>
      (f_X5_of r2 a0 i1 (5 : Int32)).bind fun r3 =>
      (zk_C 5 r3.2 a0).bind fun _ =>
      (f_X5_laysBack r3.2 a0).bind fun r4 =>
      if r3.1 ≤ i5 then (
        f_X5_best_92 (f_X5_best_46 n) r4 a0 i1 i2 i3 i5 i6 r3.1 i4)
      else (
        f_X5_best_92 (f_X5_best_46 n) r4 a0 i1 i2 i3 i5 i6 r3.1 i6))
def f_X5_best (h : zT) (a0 : Nat) (i1 : Int32) (i2 : Int32) (i3 : Int32) : Option (Int32 × zT) :=
  (zk_C 5 h a0).bind fun _ =>
  (f_X5_isRubbing h a0 i1).bind fun r1 =>
  if r1.1 = 0 then (
    some ((-1000000001 : Int32), r1.2))
  else (
    (f_X5_isIn r1.2 i2.toInt64 (1 : Int64) (60 : Int64)).bind fun r2 =>
    if r2.1 = 0 then (
      some ((-1000000001 : Int32), r2.2))
    else (
      (f_X5_isIn r2.2 i3.toInt64 (0 : Int64) (1 : Int64)).bind fun r3 =>
      if ¬ r3.1 = 0 then (
        (zk_C 5 r3.2 a0).bind fun _ =>
        (f_X5_laysBy r3.2 a0).bind fun r4 =>
        f_X5_best_46 4096 r4 a0 i1 i2 i3 (0 : Int32) (-1 : Int32) (0 : Int32))
      else (
        some ((-1000000001 : Int32), r3.2))))
abbrev rm_X5_taught : Room := { frames := 5, cells := 0, slots := 0, locals := 116 }
theorem cd_X5_taught : zcd yX5_taught 2 := by unfold zcd; decide +kernel
def f_X5_taught_94 (K37 : zT → Nat → Int32 → Int32 → Int32 → Int32 → Int32 → Option (Int32 × zT)) (h : zT) (a0 : Nat) (i1 : Int32) (i2 : Int32) (i4 : Int32) (i5 : Int32) (i6 : Int32) (s0 : Int32) : Option (Int32 × zT) :=
  if i6 ≤ i4 then (
    (some (i5 + (1 : Int32))).bind fun v1 =>
    K37 h a0 i1 i2 s0 i4 v1)
  else (
    (some (i5 + (1 : Int32))).bind fun v2 =>
    K37 h a0 i1 i2 s0 i6 v2)
def f_X5_taught_37 : Nat → zT → Nat → Int32 → Int32 → Int32 → Int32 → Int32 → Option (Int32 × zT)
  | 0, _, _, _, _, _, _, _ => none
  | n + 1, h, a0, i1, i2, i3, i4, i5 =>
    if (16 : Int32) ≤ i5 then (
      if ¬ i2 = 0 then (
        some (i4, h))
      else (
        some (i3, h)))
    else (
      (zg_R [5] h a0 0).bind fun v1 =>
      (zg_R [5] h a0 0).bind fun v2 =>
      (za_I .int h v2 ((5 : Int32) + i5)).bind fun v3 =>
      (zs_I .int h v1 ((5 : Int32) + i5) ((v3 + (1 : Int32)) - (v3 + (1 : Int32)) / (4 : Int32) * (4 : Int32))).bind fun h4 =>
      (zk_C 5 h4 a0).bind fun _ =>
      (f_X5_goesOnMany h4 a0 i1).bind fun r5 =>
      (zk_C 5 r5 a0).bind fun _ =>
      (f_X5_allTrust r5 a0).bind fun r6 =>
      (zk_C 5 r6.2 a0).bind fun _ =>
      (f_X5_laysBack r6.2 a0).bind fun r7 =>
      if r6.1 ≤ i4 then (
        f_X5_taught_94 (f_X5_taught_37 n) r7 a0 i1 i2 i4 i5 r6.1 i3)
      else (
        f_X5_taught_94 (f_X5_taught_37 n) r7 a0 i1 i2 i4 i5 r6.1 i5))
def f_X5_taught (h : zT) (a0 : Nat) (i1 : Int32) (i2 : Int32) : Option (Int32 × zT) :=
  (f_X5_isIn h i1.toInt64 (1 : Int64) (60 : Int64)).bind fun r1 =>
  if r1.1 = 0 then (
    some ((-1000000001 : Int32), r1.2))
  else (
    (f_X5_isIn r1.2 i2.toInt64 (0 : Int64) (1 : Int64)).bind fun r2 =>
    if ¬ r2.1 = 0 then (
      (zk_C 5 r2.2 a0).bind fun _ =>
      (f_X5_laysBy r2.2 a0).bind fun r3 =>
      f_X5_taught_37 4096 r3 a0 i1 i2 (0 : Int32) (-1 : Int32) (0 : Int32))
    else (
      some ((-1000000001 : Int32), r2.2)))
abbrev rm_X5_fee : Room := { frames := 2, cells := 0, slots := 0, locals := 47 }
theorem cd_X5_fee : zcd yX5_fee 0 := by unfold zcd; decide +kernel
def f_X5_fee (h : zT) (a0 : Nat) : Option (Int32 × zT) :=
  (zk_C 5 h a0).bind fun _ =>
  (f_X5_counts h a0 (1 : Int32)).bind fun r1 =>
  if 0 ≤ r1.1 then (
    (zg_R [5] r1.2 a0 26).bind fun v2 =>
    (zg_R [5] r1.2 a0 0).bind fun v3 =>
    (za_I .int r1.2 v3 (2 : Int32)).bind fun v4 =>
    (zs_I .int r1.2 v2 (110 : Int32) v4).bind fun h5 =>
    (zg_R [5] h5 a0 26).bind fun v6 =>
    (zg_R [5] h5 a0 0).bind fun v7 =>
    (za_I .int h5 v7 (3 : Int32)).bind fun v8 =>
    (zs_I .int h5 v6 (102 : Int32) v8).bind fun h9 =>
    (zk_C 5 h9 a0).bind fun _ =>
    (f_X5_worked h9 a0 r1.1).bind fun r10 =>
    some (r10.1, r10.2))
  else (
    (zg_R [5] r1.2 a0 0).bind fun v11 =>
    (za_I .int r1.2 v11 (3 : Int32)).bind fun v12 =>
    some (v12, r1.2))
abbrev rm_X5_fine : Room := { frames := 2, cells := 0, slots := 0, locals := 47 }
theorem cd_X5_fine : zcd yX5_fine 1 := by unfold zcd; decide +kernel
def f_X5_fine (h : zT) (a0 : Nat) (i1 : Int32) : Option (Int32 × zT) :=
  (zk_C 5 h a0).bind fun _ =>
  (f_X5_isRubbing h a0 i1).bind fun r1 =>
  if ¬ r1.1 = 0 then (
    (zk_C 5 r1.2 a0).bind fun _ =>
    (f_X5_counts r1.2 a0 (2 : Int32)).bind fun r2 =>
    if 0 ≤ r2.1 then (
      (zg_R [5] r2.2 a0 26).bind fun v3 =>
      (zk_C 5 r2.2 a0).bind fun _ =>
      (f_X5_of r2.2 a0 i1 (5 : Int32)).bind fun r4 =>
      (zs_I .int r4.2 v3 (116 : Int32) r4.1).bind fun h5 =>
      (zg_R [5] h5 a0 26).bind fun v6 =>
      (zk_C 5 h5 a0).bind fun _ =>
      (f_X5_of h5 a0 i1 (2 : Int32)).bind fun r7 =>
      (zs_I .int r7.2 v6 (115 : Int32) r7.1).bind fun h8 =>
      (zk_C 5 h8 a0).bind fun _ =>
      (f_X5_worked h8 a0 r2.1).bind fun r9 =>
      some (r9.1, r9.2))
    else (
      (zk_C 5 r2.2 a0).bind fun _ =>
      (f_X5_of r2.2 a0 i1 (5 : Int32)).bind fun r10 =>
      some (r10.1, r10.2)))
  else (
    some ((-1000000001 : Int32), r1.2))
abbrev rm_X5_feed : Room := { frames := 0, cells := 0, slots := 0, locals := 0 }
theorem cd_X5_feed : zcd yX5_feed 3 := by unfold zcd; decide +kernel
def f_X5_feed_47 (K18 : zT → Nat → Int32 → Int32 → Int32 → Int32 → Option (Int32 × zT)) (h : zT) (a0 : Nat) (i1 : Int32) (i2 : Int32) (i3 : Int32) (i4 : Int32) (s0 : Int32) : Option (Int32 × zT) :=
  (zg_R [5] h a0 14).bind fun v1 =>
  (zg_I [5] h a0 15).bind fun v2 =>
  (zs_I .int h v1 v2 ((s0 >>> (((24 : Int32) - ((8 : Int32) * (i4 - i4 / (4 : Int32) * (4 : Int32)))) &&& 31)) &&& (255 : Int32))).bind fun h3 =>
  (zg_I [5] h3 a0 15).bind fun v4 =>
  (zp_V [5] h3 a0 15 (.int (v4 + (1 : Int32)))).bind fun h5 =>
  (some (i4 + (1 : Int32))).bind fun v6 =>
  K18 h5 a0 i1 i2 i3 v6
def f_X5_feed_18 : Nat → zT → Nat → Int32 → Int32 → Int32 → Int32 → Option (Int32 × zT)
  | 0, _, _, _, _, _, _ => none
  | n + 1, h, a0, i1, i2, i3, i4 =>
    if (12 : Int32) ≤ i4 then (
      (zg_I [5] h a0 15).bind fun v1 =>
      some (v1, h))
    else (
      if (4 : Int32) ≤ i4 then (
        if (8 : Int32) ≤ i4 then (
          f_X5_feed_47 (f_X5_feed_18 n) h a0 i1 i2 i3 i4 i3)
        else (
          f_X5_feed_47 (f_X5_feed_18 n) h a0 i1 i2 i3 i4 i2))
      else (
        f_X5_feed_47 (f_X5_feed_18 n) h a0 i1 i2 i3 i4 i1))
def f_X5_feed (h : zT) (a0 : Nat) (i1 : Int32) (i2 : Int32) (i3 : Int32) : Option (Int32 × zT) :=
  (zg_I [5] h a0 15).bind fun v1 =>
  if (v1 + (12 : Int32)) ≤ (96 : Int32) then (
    f_X5_feed_18 4096 h a0 i1 i2 i3 (0 : Int32))
  else (
    some ((-1000000003 : Int32), h))
abbrev rm_X5_trim : Room := { frames := 1, cells := 0, slots := 0, locals := 25 }
theorem cd_X5_trim : zcd yX5_trim 1 := by unfold zcd; decide +kernel
def f_X5_trim (h : zT) (a0 : Nat) (i1 : Int32) : Option (Int32 × zT) :=
  (zg_I [5] h a0 15).bind fun v1 =>
  (f_X5_isIn h i1.toInt64 (0 : Int64) v1.toInt64).bind fun r2 =>
  if ¬ r2.1 = 0 then (
    (zp_V [5] r2.2 a0 15 (.int i1)).bind fun h3 =>
    some (i1, h3))
  else (
    some ((-1000000001 : Int32), r2.2))
abbrev rm_X5_isWordAt : Room := { frames := 0, cells := 0, slots := 0, locals := 0 }
theorem cd_X5_isWordAt : zcd yX5_isWordAt 4 := by unfold zcd; decide +kernel
def f_X5_isWordAt_10 (h : zT) (a0 : Nat) (i1 : Int32) (i2 : Int32) (i3 : Int32) (i4 : Int32) (s0 : Int32) : Option (Int32 × zT) :=
  (zg_I [5] h a0 18).bind fun v1 =>
  if ¬ v1 = (1 : Int32) then (
    if (0 : Int32) = 0 ∨ (0 : Int32) = 1 then some ((0 : Int32), h) else none)
  else (
    (zg_I [5] h a0 17).bind fun v2 =>
    (zg_I [5] h a0 16).bind fun v3 =>
    if ¬ (v2 - v3) = s0 then (
      if (0 : Int32) = 0 ∨ (0 : Int32) = 1 then some ((0 : Int32), h) else none)
    else (
      (zg_R [5] h a0 14).bind fun v4 =>
      (zg_I [5] h a0 16).bind fun v5 =>
      (za_I .int h v4 v5).bind fun v6 =>
      if ¬ v6 = i1 then (
        if (0 : Int32) = 0 ∨ (0 : Int32) = 1 then some ((0 : Int32), h) else none)
      else (
        (zg_R [5] h a0 14).bind fun v7 =>
        (zg_I [5] h a0 16).bind fun v8 =>
        (za_I .int h v7 (v8 + (1 : Int32))).bind fun v9 =>
        if ¬ v9 = i2 then (
          if (0 : Int32) = 0 ∨ (0 : Int32) = 1 then some ((0 : Int32), h) else none)
        else (
          (zg_R [5] h a0 14).bind fun v10 =>
          (zg_I [5] h a0 16).bind fun v11 =>
          (za_I .int h v10 (v11 + (2 : Int32))).bind fun v12 =>
          if ¬ v12 = i3 then (
            if (0 : Int32) = 0 ∨ (0 : Int32) = 1 then some ((0 : Int32), h) else none)
          else (
            if i4 = 0 then (
              if (1 : Int32) = 0 ∨ (1 : Int32) = 1 then some ((1 : Int32), h) else none)
            else (
              (zg_R [5] h a0 14).bind fun v13 =>
              (zg_I [5] h a0 16).bind fun v14 =>
              (za_I .int h v13 (v14 + (3 : Int32))).bind fun v15 =>
              if ¬ v15 = i4 then (
                if (0 : Int32) = 0 ∨ (0 : Int32) = 1 then some ((0 : Int32), h) else none)
              else (
                if (1 : Int32) = 0 ∨ (1 : Int32) = 1 then some ((1 : Int32), h) else none)))))))
def f_X5_isWordAt (h : zT) (a0 : Nat) (i1 : Int32) (i2 : Int32) (i3 : Int32) (i4 : Int32) : Option (Int32 × zT) :=
  if ¬ i4 = 0 then (
    f_X5_isWordAt_10 h a0 i1 i2 i3 i4 (4 : Int32))
  else (
    f_X5_isWordAt_10 h a0 i1 i2 i3 i4 (3 : Int32))
abbrev rm_X5_key : Room := { frames := 1, cells := 0, slots := 0, locals := 25 }
theorem cd_X5_key : zcd yX5_key 0 := by unfold zcd; decide +kernel
def f_X5_key (h : zT) (a0 : Nat) : Option (Int32 × zT) :=
  (zk_C 5 h a0).bind fun _ =>
  (f_X5_isWordAt h a0 (103 : Int32) (97 : Int32) (105 : Int32) (110 : Int32)).bind fun r1 =>
  if r1.1 = 0 then (
    (zk_C 5 r1.2 a0).bind fun _ =>
    (f_X5_isWordAt r1.2 a0 (102 : Int32) (101 : Int32) (101 : Int32) (0 : Int32)).bind fun r2 =>
    if r2.1 = 0 then (
      (zk_C 5 r2.2 a0).bind fun _ =>
      (f_X5_isWordAt r2.2 a0 (102 : Int32) (105 : Int32) (110 : Int32) (101 : Int32)).bind fun r3 =>
      if r3.1 = 0 then (
        some ((-1 : Int32), r3.2))
      else (
        some ((2 : Int32), r3.2)))
    else (
      some ((1 : Int32), r2.2)))
  else (
    some ((0 : Int32), r1.2))
abbrev rm_X5_parse : Room := { frames := 254, cells := 0, slots := 0, locals := 7580 }
theorem cd_X5_parse : zcd yX5_parse 0 := by unfold zcd; decide +kernel
def f_X5_parse_111 (h : zT) (a0 : Nat) (i1 : Int32) (i2 : Int32) : Option (Int32 × zT) :=
  (zp_V [5] h a0 15 (.int (0 : Int32))).bind fun h1 =>
  if i2 = 0 then (
    some ((-1 : Int32), h1))
  else (
    some (i1, h1))
def f_X5_parse_81 (h : zT) (a0 : Nat) (i1 : Int32) (s0 : Int32) : Option (Int32 × zT) :=
  if s0 = 0 then (
    f_X5_parse_111 h a0 i1 s0)
  else (
    (zk_C 5 h a0).bind fun _ =>
    (f_X5_nextToken h a0).bind fun r1 =>
    (zk_C 5 r1 a0).bind fun _ =>
    (f_X5_either (f_X5_part0 40) r1 a0 i1).bind fun r2 =>
    if r2.1 = 0 then (
      f_X5_parse_111 r2.2 a0 i1 (0 : Int32))
    else (
      (zg_I [5] r2.2 a0 18).bind fun v3 =>
      if ¬ v3 = 0 then (
        f_X5_parse_111 r2.2 a0 i1 (0 : Int32))
      else (
        f_X5_parse_111 r2.2 a0 i1 (1 : Int32))))
def f_X5_parse_60 (h : zT) (a0 : Nat) (s0 : Int32) (s1 : Nat) : Option (Int32 × zT) :=
  (zp_V [5] h s1 24 (.int s0)).bind fun h1 =>
  (zk_C 5 h1 a0).bind fun _ =>
  (f_X5_nextToken h1 a0).bind fun r2 =>
  (zk_C 5 r2 a0).bind fun _ =>
  (f_X5_key r2 a0).bind fun r3 =>
  if r3.1 < 0 then (
    f_X5_parse_81 r3.2 a0 r3.1 (0 : Int32))
  else (
    f_X5_parse_81 r3.2 a0 r3.1 (1 : Int32))
def f_X5_parse (h : zT) (a0 : Nat) : Option (Int32 × zT) :=
  (zp_V [5] h a0 17 (.int (0 : Int32))).bind fun h1 =>
  (zp_V [5] h1 a0 18 (.int (3 : Int32))).bind fun h2 =>
  (zp_V [5] h2 a0 21 (.int (0 : Int32))).bind fun h3 =>
  (zp_V [5] h3 a0 22 (.int (0 : Int32))).bind fun h4 =>
  (zp_V [5] h4 a0 23 (.int (0 : Int32))).bind fun h5 =>
  (zp_V [5] h5 a0 25 (.int (0 : Int32))).bind fun h6 =>
  (zg_R [5] h6 a0 0).bind fun v7 =>
  (za_I .int h6 v7 (1 : Int32)).bind fun v8 =>
  if (14 : Int32) ≤ v8 then (
    f_X5_parse_60 h6 a0 (2875 : Int32) a0)
  else (
    (zg_R [5] h6 a0 0).bind fun v9 =>
    (za_I .int h6 v9 (1 : Int32)).bind fun v10 =>
    (zk_C 5 h6 a0).bind fun _ =>
    (f_X5_textAt h6 a0 v10).bind fun r11 =>
    f_X5_parse_60 r11.2 a0 (r11.1 + (4 : Int32)) a0)
abbrev rm_X5_text : Room := { frames := 255, cells := 0, slots := 0, locals := 7602 }
theorem cd_X5_text : zcd yX5_text 0 := by unfold zcd; decide +kernel
def f_X5_text (h : zT) (a0 : Nat) : Option (Int32 × zT) :=
  (zk_C 5 h a0).bind fun _ =>
  (f_X5_parse h a0).bind fun r1 =>
  if 0 ≤ r1.1 then (
    (zg_R [5] r1.2 a0 0).bind fun v2 =>
    (za_I .int r1.2 v2 (1 : Int32)).bind fun v3 =>
    if ¬ v3 = (14 : Int32) then (
      (zg_R [5] r1.2 a0 0).bind fun v4 =>
      (za_I .int r1.2 v4 (1 : Int32)).bind fun v5 =>
      (zk_C 5 r1.2 a0).bind fun _ =>
      (f_X5_textAt r1.2 a0 v5).bind fun r6 =>
      (zg_R [5] r6.2 a0 0).bind fun v7 =>
      (zs_I .int r6.2 v7 (r6.1 + (0 : Int32)) r1.1).bind fun h8 =>
      (zg_R [5] h8 a0 0).bind fun v9 =>
      (zg_I [5] h8 a0 25).bind fun v10 =>
      (zs_I .int h8 v9 (r6.1 + (1 : Int32)) v10).bind fun h11 =>
      (zg_R [5] h11 a0 0).bind fun v12 =>
      (zg_I [5] h11 a0 23).bind fun v13 =>
      (zs_I .int h11 v12 (r6.1 + (2 : Int32)) v13).bind fun h14 =>
      (zg_R [5] h14 a0 0).bind fun v15 =>
      (za_I .int h14 v15 (1 : Int32)).bind fun v16 =>
      (zs_I .int h14 v15 (1 : Int32) (v16 + (1 : Int32))).bind fun h17 =>
      (zg_R [5] h17 a0 0).bind fun v18 =>
      (za_I .int h17 v18 (1 : Int32)).bind fun v19 =>
      some (v19 - (1 : Int32), h17))
    else (
      some ((-1000000003 : Int32), r1.2)))
  else (
    (zg_I [5] r1.2 a0 16).bind fun v20 =>
    some ((-100 : Int32) - v20, r1.2))
abbrev rm_X5_isText : Room := { frames := 1, cells := 0, slots := 0, locals := 25 }
theorem cd_X5_isText : zcd yX5_isText 1 := by unfold zcd; decide +kernel
def f_X5_isText (h : zT) (a0 : Nat) (i1 : Int32) : Option (Int32 × zT) :=
  (zg_R [5] h a0 0).bind fun v1 =>
  (za_I .int h v1 (1 : Int32)).bind fun v2 =>
  (f_X5_isIn h i1.toInt64 (0 : Int64) ((v2 - (1 : Int32)).toInt64)).bind fun r3 =>
  if r3.1 = 0 ∨ r3.1 = 1 then some (r3.1, r3.2) else none
abbrev rm_X5_textTold : Room := { frames := 2, cells := 0, slots := 0, locals := 46 }
theorem cd_X5_textTold : zcd yX5_textTold 2 := by unfold zcd; decide +kernel
def f_X5_textTold (h : zT) (a0 : Nat) (i1 : Int32) (i2 : Int32) : Option (Int32 × zT) :=
  (zk_C 5 h a0).bind fun _ =>
  (f_X5_isText h a0 i1).bind fun r1 =>
  if r1.1 = 0 then (
    some ((-1000000001 : Int32), r1.2))
  else (
    (f_X5_isIn r1.2 i2.toInt64 (0 : Int64) (1 : Int64)).bind fun r2 =>
    if ¬ r2.1 = 0 then (
      (zg_R [5] r2.2 a0 0).bind fun v3 =>
      (zk_C 5 r2.2 a0).bind fun _ =>
      (f_X5_textAt r2.2 a0 i1).bind fun r4 =>
      (za_I .int r4.2 v3 (r4.1 + i2)).bind fun v5 =>
      some (v5, r4.2))
    else (
      some ((-1000000001 : Int32), r2.2)))
abbrev rm_X5_why : Room := { frames := 2, cells := 0, slots := 0, locals := 44 }
theorem cd_X5_why : zcd yX5_why 1 := by unfold zcd; decide +kernel
def f_X5_why (h : zT) (a0 : Nat) (i1 : Int32) : Option (Int32 × zT) :=
  (f_X5_isIn h i1.toInt64 (0 : Int64) (2 : Int64)).bind fun r1 =>
  if r1.1 = 0 then (
    some ((-1000000001 : Int32), r1.2))
  else (
    (zk_C 5 r1.2 a0).bind fun _ =>
    (f_X5_counts r1.2 a0 i1).bind fun r2 =>
    (f_X5_orNone r2.2 r2.1).bind fun r3 =>
    some (r3.1, r3.2))
abbrev rm_X5_isSheet : Room := { frames := 1, cells := 0, slots := 0, locals := 25 }
theorem cd_X5_isSheet : zcd yX5_isSheet 1 := by unfold zcd; decide +kernel
def f_X5_isSheet (h : zT) (i0 : Int32) : Option (Int32 × zT) :=
  (f_X5_isIn h i0.toInt64 (0 : Int64) (3 : Int64)).bind fun r1 =>
  if r1.1 = 0 ∨ r1.1 = 1 then some (r1.1, r1.2) else none
abbrev rm_X5_sheet : Room := { frames := 2, cells := 0, slots := 0, locals := 45 }
theorem cd_X5_sheet : zcd yX5_sheet 3 := by unfold zcd; decide +kernel
def f_X5_sheet_69 : Nat → zT → Nat → Int32 → Int32 → Option (Int32 × zT)
  | 0, _, _, _, _ => none
  | n + 1, h, a0, i1, i4 =>
    if (24 : Int32) ≤ i4 then (
      (zg_R [5] h a0 5).bind fun v1 =>
      (za_I .int h v1 i1).bind fun v2 =>
      some (v2, h))
    else (
      (zg_R [5] h a0 6).bind fun v3 =>
      (zs_I .int h v3 (((24 : Int32) * i1) + i4) (0 : Int32)).bind fun h4 =>
      (some (i4 + (1 : Int32))).bind fun v5 =>
      f_X5_sheet_69 n h4 a0 i1 v5)
def f_X5_sheet_44 (h : zT) (a0 : Nat) (i1 : Int32) (i2 : Int32) (i3 : Int32) : Option (Int32 × zT) :=
  (zg_R [5] h a0 4).bind fun v1 =>
  (zs_I .int h v1 i1 i2).bind fun h2 =>
  (zg_R [5] h2 a0 5).bind fun v3 =>
  if 0 ≤ i2 then (
    (zs_I .int h2 v3 i1 i3).bind fun h4 =>
    f_X5_sheet_69 4096 h4 a0 i1 (0 : Int32))
  else (
    (zs_I .int h2 v3 i1 (0 : Int32)).bind fun h5 =>
    f_X5_sheet_69 4096 h5 a0 i1 (0 : Int32))
def f_X5_sheet_32 (h : zT) (a0 : Nat) (i1 : Int32) (i2 : Int32) (i3 : Int32) : Option (Int32 × zT) :=
  if i2 < 0 then (
    f_X5_sheet_44 h a0 i1 i2 i3)
  else (
    if 0 ≤ i3 then (
      f_X5_sheet_44 h a0 i1 i2 i3)
    else (
      some ((-1000000014 : Int32), h)))
def f_X5_sheet (h : zT) (a0 : Nat) (i1 : Int32) (i2 : Int32) (i3 : Int32) : Option (Int32 × zT) :=
  (f_X5_isSheet h i1).bind fun r1 =>
  if r1.1 = 0 then (
    some ((-1000000001 : Int32), r1.2))
  else (
    (f_X5_isIn r1.2 i2.toInt64 (-1 : Int64) (1 : Int64)).bind fun r2 =>
    if r2.1 = 0 then (
      some ((-1000000001 : Int32), r2.2))
    else (
      if i2 < 0 then (
        f_X5_sheet_32 r2.2 a0 i1 i2 i3)
      else (
        if i3 ≤ (24 : Int32) then (
          f_X5_sheet_32 r2.2 a0 i1 i2 i3)
        else (
          some ((-1000000001 : Int32), r2.2)))))
abbrev rm_X5_mark : Room := { frames := 2, cells := 0, slots := 0, locals := 45 }
theorem cd_X5_mark : zcd yX5_mark 3 := by unfold zcd; decide +kernel
def f_X5_mark_96 (h : zT) (a0 : Nat) (i1 : Int32) (i2 : Int32) (i3 : Int32) : Option (Int32 × zT) :=
  (zg_R [5] h a0 6).bind fun v1 =>
  (zg_R [5] h a0 4).bind fun v2 =>
  (za_I .int h v2 i1).bind fun v3 =>
  if ¬ v3 = 0 then (
    (zs_I .int h v1 (((24 : Int32) * i1) + i2) i3).bind fun h4 =>
    some ((1 : Int32), h4))
  else (
    (zs_I .int h v1 (((24 : Int32) * i1) + i2) ((i3 <<< ((16 : Int32) &&& 31)) >>> ((16 : Int32) &&& 31))).bind fun h5 =>
    some ((1 : Int32), h5))
def f_X5_mark_63 (h : zT) (a0 : Nat) (i1 : Int32) (i2 : Int32) (i3 : Int32) : Option (Int32 × zT) :=
  (zg_R [5] h a0 4).bind fun v1 =>
  (za_I .int h v1 i1).bind fun v2 =>
  if ¬ v2 = (1 : Int32) then (
    f_X5_mark_96 h a0 i1 i2 i3)
  else (
    if i3 = (-1000000005 : Int32) then (
      f_X5_mark_96 h a0 i1 i2 i3)
    else (
      (f_X5_isIn h i3.toInt64 (-99999 : Int64) (99999 : Int64)).bind fun r3 =>
      if ¬ r3.1 = 0 then (
        f_X5_mark_96 r3.2 a0 i1 i2 i3)
      else (
        some ((-1000000001 : Int32), r3.2))))
def f_X5_mark (h : zT) (a0 : Nat) (i1 : Int32) (i2 : Int32) (i3 : Int32) : Option (Int32 × zT) :=
  (f_X5_isSheet h i1).bind fun r1 =>
  if ¬ r1.1 = 0 then (
    (zg_R [5] r1.2 a0 4).bind fun v2 =>
    (za_I .int r1.2 v2 i1).bind fun v3 =>
    if 0 ≤ v3 then (
      (zg_R [5] r1.2 a0 5).bind fun v4 =>
      (za_I .int r1.2 v4 i1).bind fun v5 =>
      (f_X5_isIn r1.2 i2.toInt64 (0 : Int64) ((v5 - (1 : Int32)).toInt64)).bind fun r6 =>
      if ¬ r6.1 = 0 then (
        (zg_R [5] r6.2 a0 4).bind fun v7 =>
        (za_I .int r6.2 v7 i1).bind fun v8 =>
        if ¬ v8 = 0 then (
          f_X5_mark_63 r6.2 a0 i1 i2 i3)
        else (
          if ¬ i3 = (-1000000005 : Int32) then (
            f_X5_mark_63 r6.2 a0 i1 i2 i3)
          else (
            some ((-1000000012 : Int32), r6.2))))
      else (
        some ((-1000000013 : Int32), r6.2)))
    else (
      some ((-1000000011 : Int32), r1.2)))
  else (
    some ((-1000000001 : Int32), r1.2))
abbrev rm_X5_pour : Room := { frames := 2, cells := 0, slots := 0, locals := 45 }
theorem cd_X5_pour : zcd yX5_pour 1 := by unfold zcd; decide +kernel
def f_X5_pour_80 (K27 : zT → Nat → Int32 → Int32 → Int32 → Option (Int32 × zT)) (h : zT) (a0 : Nat) (i1 : Int32) (i2 : Int32) (i3 : Int32) (s0 : Int32) : Option (Int32 × zT) :=
  (zk_C 5 h a0).bind fun _ =>
  (f_X5_becomes h a0 ((5 : Int32) + i3) s0).bind fun r1 =>
  if ¬ s0 = r1.1 then (
    (some (i2 + (1 : Int32))).bind fun v2 =>
    (some (i3 + (1 : Int32))).bind fun v3 =>
    K27 r1.2 a0 i1 v2 v3)
  else (
    (some (i2 + (0 : Int32))).bind fun v4 =>
    (some (i3 + (1 : Int32))).bind fun v5 =>
    K27 r1.2 a0 i1 v4 v5)
def f_X5_pour_27 : Nat → zT → Nat → Int32 → Int32 → Int32 → Option (Int32 × zT)
  | 0, _, _, _, _, _ => none
  | n + 1, h, a0, i1, i2, i3 =>
    (zg_R [5] h a0 5).bind fun v1 =>
    (za_I .int h v1 i1).bind fun v2 =>
    if v2 ≤ i3 then (
      some (i2, h))
    else (
      if (16 : Int32) ≤ i3 then (
        some (i2, h))
      else (
        (zg_R [5] h a0 6).bind fun v3 =>
        (za_I .int h v3 (((24 : Int32) * i1) + i3)).bind fun v4 =>
        if ¬ v4 = (-1000000005 : Int32) then (
          (f_X5_within h v4 (3 : Int32)).bind fun r5 =>
          f_X5_pour_80 (f_X5_pour_27 n) r5.2 a0 i1 i2 i3 r5.1)
        else (
          (zg_R [5] h a0 0).bind fun v6 =>
          (za_I .int h v6 ((5 : Int32) + i3)).bind fun v7 =>
          f_X5_pour_80 (f_X5_pour_27 n) h a0 i1 i2 i3 v7)))
def f_X5_pour (h : zT) (a0 : Nat) (i1 : Int32) : Option (Int32 × zT) :=
  (f_X5_isSheet h i1).bind fun r1 =>
  if ¬ r1.1 = 0 then (
    (zg_R [5] r1.2 a0 4).bind fun v2 =>
    (za_I .int r1.2 v2 i1).bind fun v3 =>
    if 0 ≤ v3 then (
      f_X5_pour_27 4096 r1.2 a0 i1 (0 : Int32) (0 : Int32))
    else (
      some ((-1000000011 : Int32), r1.2)))
  else (
    some ((-1000000001 : Int32), r1.2))
abbrev rm_X5_reads : Room := { frames := 2, cells := 0, slots := 0, locals := 45 }
theorem cd_X5_reads : zcd yX5_reads 1 := by unfold zcd; decide +kernel
def f_X5_reads_25 : Nat → zT → Nat → Int32 → Int32 → Option (Int32 × zT)
  | 0, _, _, _, _ => none
  | n + 1, h, a0, i1, i2 =>
    (zg_R [5] h a0 5).bind fun v1 =>
    (za_I .int h v1 i1).bind fun v2 =>
    if v2 ≤ i2 then (
      some ((-1000000005 : Int32), h))
    else (
      (zg_R [5] h a0 6).bind fun v3 =>
      (za_I .int h v3 (((24 : Int32) * i1) + i2)).bind fun v4 =>
      if v4 = (-1000000005 : Int32) then (
        (some (i2 + (1 : Int32))).bind fun v5 =>
        f_X5_reads_25 n h a0 i1 v5)
      else (
        (zg_R [5] h a0 0).bind fun v6 =>
        (za_I .int h v6 (0 : Int32)).bind fun v7 =>
        if v7 ≤ i2 then (
          some (i2, h))
        else (
          (zk_C 5 h a0).bind fun _ =>
          (f_X5_of h a0 i2 (5 : Int32)).bind fun r8 =>
          if v4 = r8.1 then (
            (some (i2 + (1 : Int32))).bind fun v9 =>
            f_X5_reads_25 n r8.2 a0 i1 v9)
          else (
            some (i2, r8.2)))))
def f_X5_reads (h : zT) (a0 : Nat) (i1 : Int32) : Option (Int32 × zT) :=
  (f_X5_isSheet h i1).bind fun r1 =>
  if ¬ r1.1 = 0 then (
    (zg_R [5] r1.2 a0 4).bind fun v2 =>
    (za_I .int r1.2 v2 i1).bind fun v3 =>
    if 0 ≤ v3 then (
      f_X5_reads_25 4096 r1.2 a0 i1 (0 : Int32))
    else (
      some ((-1000000011 : Int32), r1.2)))
  else (
    some ((-1000000001 : Int32), r1.2))
abbrev rm_X5_off : Room := { frames := 0, cells := 0, slots := 0, locals := 0 }
theorem cd_X5_off : zcd yX5_off 2 := by unfold zcd; decide +kernel
def f_X5_off (h : zT) (i0 : Int32) (i1 : Int32) : Option (Int32 × zT) :=
  if i1 ≤ i0 then (
    some (i0 - i1, h))
  else (
    some (i1 - i0, h))
abbrev rm_X5_whose : Room := { frames := 2, cells := 0, slots := 0, locals := 47 }
theorem cd_X5_whose : zcd yX5_whose 2 := by unfold zcd; decide +kernel
def f_X5_whose_58 (K41 : zT → Nat → Int32 → Int32 → Int32 → Int32 → Int32 → Option (Int32 × zT)) : Nat → zT → Nat → Int32 → Int32 → Int32 → Int32 → Int32 → Int32 → Int32 → Option (Int32 × zT)
  | 0, _, _, _, _, _, _, _, _, _ => none
  | n + 1, h, a0, i1, i2, i3, i4, i5, i6, i7 =>
    (zg_R [5] h a0 5).bind fun v1 =>
    (za_I .int h v1 i1).bind fun v2 =>
    if v2 ≤ i7 then (
      if i3 < 0 then (
        (some (i5 + (1 : Int32))).bind fun v3 =>
        K41 h a0 i1 i2 i5 i6 v3)
      else (
        if i4 ≤ i6 then (
          (some (i5 + (1 : Int32))).bind fun v4 =>
          K41 h a0 i1 i2 i3 i4 v4)
        else (
          (some (i5 + (1 : Int32))).bind fun v5 =>
          K41 h a0 i1 i2 i5 i6 v5)))
    else (
      (zg_R [5] h a0 6).bind fun v6 =>
      (za_I .int h v6 (((24 : Int32) * i1) + i7)).bind fun v7 =>
      if ¬ v7 = (-1000000005 : Int32) then (
        (zk_C 5 h a0).bind fun _ =>
        (f_X5_of h a0 i5 (2 : Int32)).bind fun r8 =>
        if r8.1 ≤ i7 then (
          (f_X5_off r8.2 v7 (0 : Int32)).bind fun r9 =>
          (some (i6 + r9.1)).bind fun v10 =>
          (some (i7 + (1 : Int32))).bind fun v11 =>
          f_X5_whose_58 K41 n r9.2 a0 i1 i2 i3 i4 i5 v10 v11)
        else (
          (zk_C 5 r8.2 a0).bind fun _ =>
          (f_X5_saysAt r8.2 a0 i5 i7).bind fun r12 =>
          (f_X5_off r12.2 v7 r12.1).bind fun r13 =>
          (some (i6 + r13.1)).bind fun v14 =>
          (some (i7 + (1 : Int32))).bind fun v15 =>
          f_X5_whose_58 K41 n r13.2 a0 i1 i2 i3 i4 i5 v14 v15))
      else (
        (some (i6 + (0 : Int32))).bind fun v16 =>
        (some (i7 + (1 : Int32))).bind fun v17 =>
        f_X5_whose_58 K41 n h a0 i1 i2 i3 i4 i5 v16 v17))
def f_X5_whose_41 : Nat → zT → Nat → Int32 → Int32 → Int32 → Int32 → Int32 → Option (Int32 × zT)
  | 0, _, _, _, _, _, _, _ => none
  | n + 1, h, a0, i1, i2, i3, i4, i5 =>
    (zg_R [5] h a0 0).bind fun v1 =>
    (za_I .int h v1 (0 : Int32)).bind fun v2 =>
    if v2 ≤ i5 then (
      if 0 ≤ i3 then (
        if ¬ i2 = 0 then (
          some (i4, h))
        else (
          some (i3, h)))
      else (
        some ((-1000000005 : Int32), h)))
    else (
      f_X5_whose_58 (f_X5_whose_41 n) 4096 h a0 i1 i2 i3 i4 i5 (0 : Int32) (0 : Int32))
def f_X5_whose (h : zT) (a0 : Nat) (i1 : Int32) (i2 : Int32) : Option (Int32 × zT) :=
  (f_X5_isSheet h i1).bind fun r1 =>
  if r1.1 = 0 then (
    some ((-1000000001 : Int32), r1.2))
  else (
    (f_X5_isIn r1.2 i2.toInt64 (0 : Int64) (1 : Int64)).bind fun r2 =>
    if ¬ r2.1 = 0 then (
      (zg_R [5] r2.2 a0 4).bind fun v3 =>
      (za_I .int r2.2 v3 i1).bind fun v4 =>
      if 0 ≤ v4 then (
        f_X5_whose_41 4096 r2.2 a0 i1 i2 (-1 : Int32) (0 : Int32) (0 : Int32))
      else (
        some ((-1000000011 : Int32), r2.2)))
    else (
      some ((-1000000001 : Int32), r2.2)))
abbrev rm_X5_copy : Room := { frames := 2, cells := 0, slots := 0, locals := 45 }
theorem cd_X5_copy : zcd yX5_copy 5 := by unfold zcd; decide +kernel
def f_X5_copy_150 : Nat → zT → Nat → Int32 → Int32 → Int32 → Int32 → Option (Int32 × zT)
  | 0, _, _, _, _, _, _ => none
  | n + 1, h, a0, i3, i4, i5, i6 =>
    if i5 ≤ i6 then (
      some (i5, h))
    else (
      (zg_R [5] h a0 6).bind fun v1 =>
      (zg_R [5] h a0 28).bind fun v2 =>
      (za_I .int h v2 i6).bind fun v3 =>
      (zs_I .int h v1 ((((24 : Int32) * i3) + i4) + i6) v3).bind fun h4 =>
      (some (i6 + (1 : Int32))).bind fun v5 =>
      f_X5_copy_150 n h4 a0 i3 i4 i5 v5)
def f_X5_copy_113 : Nat → zT → Nat → Int32 → Int32 → Int32 → Int32 → Int32 → Int32 → Option (Int32 × zT)
  | 0, _, _, _, _, _, _, _, _ => none
  | n + 1, h, a0, i1, i2, i3, i4, i5, i6 =>
    if i5 ≤ i6 then (
      f_X5_copy_150 4096 h a0 i3 i4 i5 (0 : Int32))
    else (
      (zg_R [5] h a0 28).bind fun v1 =>
      (zg_R [5] h a0 6).bind fun v2 =>
      (za_I .int h v2 ((((24 : Int32) * i1) + i2) + i6)).bind fun v3 =>
      (zs_I .int h v1 i6 v3).bind fun h4 =>
      (some (i6 + (1 : Int32))).bind fun v5 =>
      f_X5_copy_113 n h4 a0 i1 i2 i3 i4 i5 v5)
def f_X5_copy (h : zT) (a0 : Nat) (i1 : Int32) (i2 : Int32) (i3 : Int32) (i4 : Int32) (i5 : Int32) : Option (Int32 × zT) :=
  (f_X5_isSheet h i1).bind fun r1 =>
  if r1.1 = 0 then (
    some ((-1000000001 : Int32), r1.2))
  else (
    (f_X5_isSheet r1.2 i3).bind fun r2 =>
    if ¬ r2.1 = 0 then (
      (zg_R [5] r2.2 a0 4).bind fun v3 =>
      (za_I .int r2.2 v3 i1).bind fun v4 =>
      if v4 < 0 then (
        some ((-1000000011 : Int32), r2.2))
      else (
        (zg_R [5] r2.2 a0 4).bind fun v5 =>
        (za_I .int r2.2 v5 i3).bind fun v6 =>
        if 0 ≤ v6 then (
          (zg_R [5] r2.2 a0 4).bind fun v7 =>
          (za_I .int r2.2 v7 i1).bind fun v8 =>
          (zg_R [5] r2.2 a0 4).bind fun v9 =>
          (za_I .int r2.2 v9 i3).bind fun v10 =>
          if v8 = v10 then (
            if i2 < 0 then (
              some ((-1000000013 : Int32), r2.2))
            else (
              if i4 < 0 then (
                some ((-1000000013 : Int32), r2.2))
              else (
                if i5 < 0 then (
                  some ((-1000000013 : Int32), r2.2))
                else (
                  (zg_R [5] r2.2 a0 5).bind fun v11 =>
                  (za_I .int r2.2 v11 i1).bind fun v12 =>
                  if 0 < (lg_cmp (i2.toInt64 + i5.toInt64) v12.toInt64) then (
                    some ((-1000000013 : Int32), r2.2))
                  else (
                    (zg_R [5] r2.2 a0 5).bind fun v13 =>
                    (za_I .int r2.2 v13 i3).bind fun v14 =>
                    if (lg_cmp (i4.toInt64 + i5.toInt64) v14.toInt64) ≤ 0 then (
                      f_X5_copy_113 4096 r2.2 a0 i1 i2 i3 i4 i5 (0 : Int32))
                    else (
                      some ((-1000000013 : Int32), r2.2)))))))
          else (
            some ((-1000000012 : Int32), r2.2)))
        else (
          some ((-1000000011 : Int32), r2.2))))
    else (
      some ((-1000000001 : Int32), r2.2)))
abbrev rm_X5_isSlot : Room := { frames := 1, cells := 0, slots := 0, locals := 25 }
theorem cd_X5_isSlot : zcd yX5_isSlot 1 := by unfold zcd; decide +kernel
def f_X5_isSlot (h : zT) (i0 : Int32) : Option (Int32 × zT) :=
  (f_X5_isIn h i0.toInt64 (0 : Int64) (4 : Int64)).bind fun r1 =>
  if r1.1 = 0 ∨ r1.1 = 1 then some (r1.1, r1.2) else none
abbrev rm_X5_lay : Room := { frames := 2, cells := 0, slots := 0, locals := 46 }
theorem cd_X5_lay : zcd yX5_lay 3 := by unfold zcd; decide +kernel
def f_X5_lay_150 : Nat → zT → Nat → Int32 → Int32 → Int32 → Int32 → Option (Int32 × zT)
  | 0, _, _, _, _, _, _ => none
  | n + 1, h, a0, i1, i3, i5, i6 =>
    if (24 : Int32) ≤ i6 then (
      some (i5, h))
    else (
      (zg_R [5] h a0 11).bind fun v1 =>
      (zg_R [5] h a0 6).bind fun v2 =>
      (za_I .int h v2 (((24 : Int32) * i3) + i6)).bind fun v3 =>
      (zs_I .int h v1 (((24 : Int32) * i1) + i6) v3).bind fun h4 =>
      (some (i6 + (1 : Int32))).bind fun v5 =>
      f_X5_lay_150 n h4 a0 i1 i3 i5 v5)
def f_X5_lay_129 (h : zT) (a0 : Nat) (i1 : Int32) (i2 : Int32) (i3 : Int32) (i5 : Int32) (s0 : Int32) (s1 : Int32) (s2 : Nat) : Option (Int32 × zT) :=
  (zs_I .int h s2 s1 s0).bind fun h1 =>
  if ¬ i2 = (2 : Int32) then (
    some (i5, h1))
  else (
    (zg_R [5] h1 a0 10).bind fun v2 =>
    (zg_R [5] h1 a0 5).bind fun v3 =>
    (za_I .int h1 v3 i3).bind fun v4 =>
    (zs_I .int h1 v2 i1 v4).bind fun h5 =>
    f_X5_lay_150 4096 h5 a0 i1 i3 i5 (0 : Int32))
def f_X5_lay_109 (h : zT) (a0 : Nat) (i1 : Int32) (i2 : Int32) (i3 : Int32) (i5 : Int32) (s0 : Int32) (s1 : Int32) (s2 : Nat) : Option (Int32 × zT) :=
  (zs_I .int h s2 s1 s0).bind fun h1 =>
  (zg_R [5] h1 a0 9).bind fun v2 =>
  if ¬ i2 = (1 : Int32) then (
    f_X5_lay_129 h1 a0 i1 i2 i3 i5 (0 : Int32) i1 v2)
  else (
    (zk_C 5 h1 a0).bind fun _ =>
    (f_X5_worth h1 a0 i3).bind fun r3 =>
    f_X5_lay_129 r3.2 a0 i1 i2 i3 i5 r3.1 i1 v2)
def f_X5_lay_74 (h : zT) (a0 : Nat) (i1 : Int32) (i2 : Int32) (i3 : Int32) : Option (Int32 × zT) :=
  (zg_R [5] h a0 7).bind fun v1 =>
  (za_I .int h v1 i1).bind fun v2 =>
  (zg_R [5] h a0 7).bind fun v3 =>
  (zs_I .int h v3 i1 i2).bind fun h4 =>
  (zg_R [5] h4 a0 8).bind fun v5 =>
  if ¬ i2 = (1 : Int32) then (
    f_X5_lay_109 h4 a0 i1 i2 i3 v2 i3 i1 v5)
  else (
    (zk_C 5 h4 a0).bind fun _ =>
    (f_X5_of h4 a0 i3 (0 : Int32)).bind fun r6 =>
    f_X5_lay_109 r6.2 a0 i1 i2 i3 v2 r6.1 i1 v5)
def f_X5_lay_39 (h : zT) (a0 : Nat) (i1 : Int32) (i2 : Int32) (i3 : Int32) (s0 : Int32) : Option (Int32 × zT) :=
  (f_X5_isSlot h i1).bind fun r1 =>
  if r1.1 = 0 then (
    some ((-1000000001 : Int32), r1.2))
  else (
    if ¬ s0 = 0 then (
      if ¬ i2 = (2 : Int32) then (
        f_X5_lay_74 r1.2 a0 i1 i2 i3)
      else (
        (zg_R [5] r1.2 a0 4).bind fun v2 =>
        (za_I .int r1.2 v2 i3).bind fun v3 =>
        if 0 ≤ v3 then (
          f_X5_lay_74 r1.2 a0 i1 i2 i3)
        else (
          some ((-1000000011 : Int32), r1.2))))
    else (
      some ((-1000000001 : Int32), r1.2)))
def f_X5_lay_22 (h : zT) (a0 : Nat) (i1 : Int32) (i2 : Int32) (i3 : Int32) : Option (Int32 × zT) :=
  if ¬ i2 = (2 : Int32) then (
    f_X5_lay_39 h a0 i1 i2 i3 (0 : Int32))
  else (
    (f_X5_isSheet h i3).bind fun r1 =>
    if r1.1 = 0 then (
      f_X5_lay_39 r1.2 a0 i1 i2 i3 (0 : Int32))
    else (
      f_X5_lay_39 r1.2 a0 i1 i2 i3 (1 : Int32)))
def f_X5_lay (h : zT) (a0 : Nat) (i1 : Int32) (i2 : Int32) (i3 : Int32) : Option (Int32 × zT) :=
  if i2 = 0 then (
    f_X5_lay_39 h a0 i1 i2 i3 (1 : Int32))
  else (
    if i2 = (3 : Int32) then (
      f_X5_lay_39 h a0 i1 i2 i3 (1 : Int32))
    else (
      if ¬ i2 = (1 : Int32) then (
        f_X5_lay_22 h a0 i1 i2 i3)
      else (
        (zk_C 5 h a0).bind fun _ =>
        (f_X5_isRubbing h a0 i3).bind fun r1 =>
        if ¬ r1.1 = 0 then (
          f_X5_lay_39 r1.2 a0 i1 i2 i3 (1 : Int32))
        else (
          f_X5_lay_22 r1.2 a0 i1 i2 i3))))
abbrev rm_X5_ask : Room := { frames := 2, cells := 0, slots := 0, locals := 45 }
theorem cd_X5_ask : zcd yX5_ask 2 := by unfold zcd; decide +kernel
def f_X5_ask (h : zT) (a0 : Nat) (i1 : Int32) (i2 : Int32) : Option (Int32 × zT) :=
  (f_X5_isSlot h i1).bind fun r1 =>
  if r1.1 = 0 then (
    some ((-1000000001 : Int32), r1.2))
  else (
    (f_X5_isIn r1.2 i2.toInt64 (0 : Int64) (5 : Int64)).bind fun r2 =>
    if ¬ r2.1 = 0 then (
      (zg_R [5] r2.2 a0 7).bind fun v3 =>
      (za_I .int r2.2 v3 i1).bind fun v4 =>
      if ¬ v4 = 0 then (
        (zg_R [5] r2.2 a0 7).bind fun v5 =>
        (za_I .int r2.2 v5 i1).bind fun v6 =>
        if ¬ v6 = (1 : Int32) then (
          some ((-1000000012 : Int32), r2.2))
        else (
          (zg_R [5] r2.2 a0 8).bind fun v7 =>
          (za_I .int r2.2 v7 i1).bind fun v8 =>
          (f_X5_isOf r2.2 v8 i2).bind fun r9 =>
          if r9.1 = 0 then (
            some ((-1000000012 : Int32), r9.2))
          else (
            (zg_R [5] r9.2 a0 9).bind fun v10 =>
            (za_I .int r9.2 v10 i1).bind fun v11 =>
            some (v11, r9.2))))
      else (
        some ((-1000000011 : Int32), r2.2)))
    else (
      some ((-1000000001 : Int32), r2.2)))
abbrev rm_X5_item : Room := { frames := 2, cells := 0, slots := 0, locals := 45 }
theorem cd_X5_item : zcd yX5_item 2 := by unfold zcd; decide +kernel
def f_X5_item (h : zT) (a0 : Nat) (i1 : Int32) (i2 : Int32) : Option (Int32 × zT) :=
  (f_X5_isSlot h i1).bind fun r1 =>
  if ¬ r1.1 = 0 then (
    (zg_R [5] r1.2 a0 7).bind fun v2 =>
    (za_I .int r1.2 v2 i1).bind fun v3 =>
    if v3 = (2 : Int32) then (
      (zg_R [5] r1.2 a0 10).bind fun v4 =>
      (za_I .int r1.2 v4 i1).bind fun v5 =>
      (f_X5_isIn r1.2 i2.toInt64 (0 : Int64) ((v5 - (1 : Int32)).toInt64)).bind fun r6 =>
      if ¬ r6.1 = 0 then (
        (zg_R [5] r6.2 a0 11).bind fun v7 =>
        (za_I .int r6.2 v7 (((24 : Int32) * i1) + i2)).bind fun v8 =>
        if ¬ v8 = (-1000000005 : Int32) then (
          some (v8, r6.2))
        else (
          some ((-1000000012 : Int32), r6.2)))
      else (
        some ((-1000000013 : Int32), r6.2)))
    else (
      (zg_R [5] r1.2 a0 7).bind fun v9 =>
      (za_I .int r1.2 v9 i1).bind fun v10 =>
      if ¬ v10 = 0 then (
        some ((-1000000012 : Int32), r1.2))
      else (
        some ((-1000000011 : Int32), r1.2))))
  else (
    some ((-1000000001 : Int32), r1.2))
abbrev rm_X5_rest : Room := { frames := 2, cells := 0, slots := 0, locals := 45 }
theorem cd_X5_rest : zcd yX5_rest 2 := by unfold zcd; decide +kernel
def f_X5_rest (h : zT) (a0 : Nat) (i1 : Int32) (i2 : Int32) : Option (Int32 × zT) :=
  (f_X5_isSlot h i1).bind fun r1 =>
  if ¬ r1.1 = 0 then (
    (zg_R [5] r1.2 a0 7).bind fun v2 =>
    (za_I .int r1.2 v2 i1).bind fun v3 =>
    if v3 = (3 : Int32) then (
      if ¬ i2 = 0 then (
        (zg_R [5] r1.2 a0 8).bind fun v4 =>
        (za_I .int r1.2 v4 i1).bind fun v5 =>
        (if i2 = 0 then none else some ()).bind fun _ =>
        some (v5 - v5 / i2 * i2, r1.2))
      else (
        some ((-1000000002 : Int32), r1.2)))
    else (
      (zg_R [5] r1.2 a0 7).bind fun v6 =>
      (za_I .int r1.2 v6 i1).bind fun v7 =>
      if ¬ v7 = 0 then (
        some ((-1000000012 : Int32), r1.2))
      else (
        some ((-1000000011 : Int32), r1.2))))
  else (
    some ((-1000000001 : Int32), r1.2))
abbrev rm_X5_tell : Room := { frames := 0, cells := 0, slots := 0, locals := 0 }
theorem cd_X5_tell : zcd yX5_tell 1 := by unfold zcd; decide +kernel
def f_X5_tell (h : zT) (a0 : Nat) (i1 : Int32) : Option (Int32 × zT) :=
  (zg_I [5] h a0 30).bind fun v1 =>
  if ¬ v1 = (60 : Int32) then (
    (zg_R [5] h a0 29).bind fun v2 =>
    (zg_I [5] h a0 30).bind fun v3 =>
    (zs_I .int h v2 v3 i1).bind fun h4 =>
    (zg_I [5] h4 a0 30).bind fun v5 =>
    (zp_V [5] h4 a0 30 (.int (v5 + (1 : Int32)))).bind fun h6 =>
    (zg_I [5] h6 a0 30).bind fun v7 =>
    some (v7, h6))
  else (
    some ((-1000000003 : Int32), h))
abbrev rm_X5_setAside : Room := { frames := 0, cells := 0, slots := 0, locals := 0 }
theorem cd_X5_setAside : zcd yX5_setAside 2 := by unfold zcd; decide +kernel
def f_X5_setAside_2 : Nat → zT → Nat → Nat → Int32 → Option (zT)
  | 0, _, _, _, _ => none
  | n + 1, h, a1, a2, i3 =>
    if (2875 : Int32) ≤ i3 then (
      some h)
    else (
      (za_I .int h a1 i3).bind fun v1 =>
      (zs_I .int h a2 i3 v1).bind fun h2 =>
      (some (i3 + (1 : Int32))).bind fun v3 =>
      f_X5_setAside_2 n h2 a1 a2 v3)
def f_X5_setAside (h : zT) (a0 : Nat) (a1 : Nat) (a2 : Nat) : Option (zT) :=
  f_X5_setAside_2 4096 h a1 a2 (0 : Int32)
abbrev rm_X5_check : Room := { frames := 4, cells := 0, slots := 0, locals := 94 }
theorem cd_X5_check : zcd yX5_check 1 := by unfold zcd; decide +kernel
def f_X5_check_171 (h : zT) (i2 : Int32) (i3 : Int32) (i4 : Int32) : Option (Int32 × zT) :=
  if ¬ i4 = i2 then (
    some ((1 : Int32) + i4, h))
  else (
    if ¬ i4 = i3 then (
      some ((1 : Int32) + i4, h))
    else (
      some ((0 : Int32), h)))
def f_X5_check_136 : Nat → zT → Nat → Int32 → Int32 → Int32 → Option (Int32 × zT)
  | 0, _, _, _, _, _ => none
  | n + 1, h, a0, i2, i3, i4 =>
    if i2 ≤ i4 then (
      f_X5_check_171 h i2 i3 i4)
    else (
      if i3 ≤ i4 then (
        f_X5_check_171 h i2 i3 i4)
      else (
        (zg_R [5] h a0 29).bind fun v1 =>
        (za_I .int h v1 i4).bind fun v2 =>
        (zg_R [5] h a0 31).bind fun v3 =>
        (za_I .int h v3 i4).bind fun v4 =>
        if ¬ v2 = v4 then (
          f_X5_check_171 h i2 i3 i4)
        else (
          (some (i4 + (1 : Int32))).bind fun v5 =>
          f_X5_check_136 n h a0 i2 i3 v5)))
def f_X5_check_121 (h : zT) (a0 : Nat) (i2 : Int32) (i3 : Int32) : Option (Int32 × zT) :=
  (zg_R [5] h a0 2).bind fun v1 =>
  (zg_R [5] h a0 0).bind fun v2 =>
  (zk_C 5 h a0).bind fun _ =>
  (f_X5_setAside h a0 v1 v2).bind fun r3 =>
  f_X5_check_136 4096 r3 a0 i2 i3 (0 : Int32)
def f_X5_check_65 : Nat → zT → Nat → Int32 → Int32 → Int32 → Int32 → Option (Int32 × zT)
  | 0, _, _, _, _, _, _ => none
  | n + 1, h, a0, i1, i2, i3, i4 =>
    if i1 ≤ i4 then (
      f_X5_check_121 h a0 i2 i3)
    else (
      (zg_R [5] h a0 0).bind fun v1 =>
      (za_I .int h v1 (2 : Int32)).bind fun v2 =>
      if (9999 : Int32) ≤ v2 then (
        f_X5_check_121 h a0 i2 i3)
      else (
        (zk_C 5 h a0).bind fun _ =>
        (f_X5_goesOn h a0).bind fun r3 =>
        (zg_R [5] r3 a0 31).bind fun v4 =>
        (zk_C 5 r3 a0).bind fun _ =>
        (f_X5_allTrust r3 a0).bind fun r5 =>
        (zs_I .int r5.2 v4 i3 r5.1).bind fun h6 =>
        (zg_R [5] h6 a0 31).bind fun v7 =>
        (zk_C 5 h6 a0).bind fun _ =>
        (f_X5_laidOnes h6 a0).bind fun r8 =>
        (f_X5_manyIn r8.2 r8.1).bind fun r9 =>
        (zs_I .int r9.2 v7 (i3 + (1 : Int32)) r9.1).bind fun h10 =>
        (some (i3 + (2 : Int32))).bind fun v11 =>
        (some (i4 + (1 : Int32))).bind fun v12 =>
        f_X5_check_65 n h10 a0 i1 i2 v11 v12))
def f_X5_check (h : zT) (a0 : Nat) (i1 : Int32) : Option (Int32 × zT) :=
  (zg_I [5] h a0 30).bind fun v1 =>
  (zp_V [5] h a0 30 (.int (0 : Int32))).bind fun h2 =>
  (f_X5_isIn h2 i1.toInt64 (1 : Int64) (30 : Int64)).bind fun r3 =>
  if ¬ r3.1 = 0 then (
    (zg_I [5] r3.2 a0 3).bind fun v4 =>
    if ¬ v4 = 0 then (
      (zg_R [5] r3.2 a0 0).bind fun v5 =>
      (zg_R [5] r3.2 a0 2).bind fun v6 =>
      (zk_C 5 r3.2 a0).bind fun _ =>
      (f_X5_setAside r3.2 a0 v5 v6).bind fun r7 =>
      (zg_R [5] r7 a0 1).bind fun v8 =>
      (zg_R [5] r7 a0 0).bind fun v9 =>
      (zk_C 5 r7 a0).bind fun _ =>
      (f_X5_setAside r7 a0 v8 v9).bind fun r10 =>
      f_X5_check_65 4096 r10 a0 i1 v1 (0 : Int32) (0 : Int32))
    else (
      some ((-1000000002 : Int32), r3.2)))
  else (
    some ((-1000000001 : Int32), r3.2))
abbrev rm_X5_keep : Room := { frames := 1, cells := 0, slots := 0, locals := 23 }
theorem cd_X5_keep : zcd yX5_keep 0 := by unfold zcd; decide +kernel
def f_X5_keep (h : zT) (a0 : Nat) : Option (Int32 × zT) :=
  (zp_V [5] h a0 3 (.int (1 : Int32))).bind fun h1 =>
  (zg_R [5] h1 a0 0).bind fun v2 =>
  (zg_R [5] h1 a0 1).bind fun v3 =>
  (zk_C 5 h1 a0).bind fun _ =>
  (f_X5_setAside h1 a0 v2 v3).bind fun r4 =>
  (zg_R [5] r4 a0 0).bind fun v5 =>
  (za_I .int r4 v5 (0 : Int32)).bind fun v6 =>
  some (v6, r4)
abbrev rm_X5_back : Room := { frames := 1, cells := 0, slots := 0, locals := 23 }
theorem cd_X5_back : zcd yX5_back 0 := by unfold zcd; decide +kernel
def f_X5_back (h : zT) (a0 : Nat) : Option (Int32 × zT) :=
  (zg_I [5] h a0 3).bind fun v1 =>
  if ¬ v1 = 0 then (
    (zg_R [5] h a0 1).bind fun v2 =>
    (zg_R [5] h a0 0).bind fun v3 =>
    (zk_C 5 h a0).bind fun _ =>
    (f_X5_setAside h a0 v2 v3).bind fun r4 =>
    (zg_R [5] r4 a0 0).bind fun v5 =>
    (za_I .int r4 v5 (0 : Int32)).bind fun v6 =>
    some (v6, r4))
  else (
    some ((-1000000002 : Int32), h))
abbrev rm_X5_count : Room := { frames := 2, cells := 0, slots := 0, locals := 44 }
theorem cd_X5_count : zcd yX5_count 1 := by unfold zcd; decide +kernel
def f_X5_count (h : zT) (a0 : Nat) (i1 : Int32) : Option (Int32 × zT) :=
  if i1 = (0 : Int32) then (
    (zg_R [5] h a0 0).bind fun v1 =>
    (za_I .int h v1 (0 : Int32)).bind fun v2 =>
    some (v2, h))
  else (
    if i1 = (1 : Int32) then (
      (zg_R [5] h a0 0).bind fun v3 =>
      (za_I .int h v3 (2 : Int32)).bind fun v4 =>
      some (v4, h))
    else (
      if i1 = (2 : Int32) then (
        (zk_C 5 h a0).bind fun _ =>
        (f_X5_laidOnes h a0).bind fun r5 =>
        (f_X5_manyIn r5.2 r5.1).bind fun r6 =>
        some (r6.1, r6.2))
      else (
        if i1 = (3 : Int32) then (
          (zg_R [5] h a0 0).bind fun v7 =>
          (za_I .int h v7 (1 : Int32)).bind fun v8 =>
          some (v8, h))
        else (
          if i1 = (4 : Int32) then (
            (zg_I [5] h a0 30).bind fun v9 =>
            some (v9, h))
          else (
            if i1 = (5 : Int32) then (
              (zg_I [5] h a0 15).bind fun v10 =>
              some (v10, h))
            else (
              if i1 = (6 : Int32) then (
                (zg_R [5] h a0 0).bind fun v11 =>
                (za_I .int h v11 (4 : Int32)).bind fun v12 =>
                some (v12, h))
              else (
                some ((-1000000001 : Int32), h))))))))
