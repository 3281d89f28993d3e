/-! The parser: the printed functions (gen/thr.py) -/
set_option maxRecDepth 100000
abbrev rm_X0_wrong : Room := { frames := 1, cells := 0, slots := 0, locals := 30 }
theorem cd_X0_wrong : zcd yX0_wrong 0 := by unfold zcd; decide +kernel
def f_X0_wrong (h : zT) (a0 : Nat) : Option ((Nat ⊕ Unit) × zT) :=
  (zg_R [0] h a0 8).bind fun v1 =>
  (zg_I [0] h a0 9).bind fun v2 =>
  (zp_V [2] h v1 6 (.int v2)).bind fun h3 =>
  (zg_R [0] h3 a0 8).bind fun v4 =>
  some (.inl v4, h3)
abbrev rm_X0_goes : Room := { frames := 3, cells := 0, slots := 0, locals := 72 }
theorem cd_X0_goes : zcd yX0_goes 0 := by unfold zcd; decide +kernel
def f_X0_goes_275 (h : zT) (a0 : Nat) (i2 : Int32) (i3 : Int32) (s0 : Int32) : Option ((Nat ⊕ Unit) × zT) :=
  if s0 = 0 then (
    some (.inr (), h))
  else (
    if ¬ i2 = 0 then (
      (zk_C 0 h a0).bind fun _ =>
      zxb (f_X0_wrong h a0) fun _ h1 =>
      some (.inr (), h1))
    else (
      if i3 = 0 then (
        some (.inr (), h))
      else (
        (zk_C 0 h a0).bind fun _ =>
        zxb (f_X0_wrong h a0) fun _ h3 =>
        some (.inr (), h3))))
def f_X0_goes_230 (h : zT) (a0 : Nat) (i1 : Int32) (i2 : Int32) (i3 : Int32) : Option ((Nat ⊕ Unit) × zT) :=
  (zg_I [0] h a0 9).bind fun v1 =>
  if ¬ v1 = i1 then (
    f_X0_goes_275 h a0 i2 i3 (0 : Int32))
  else (
    if i1 ≤ 0 then (
      f_X0_goes_275 h a0 i2 i3 (0 : Int32))
    else (
      (zg_R [0] h a0 6).bind fun v2 =>
      (za_I .byte h v2 (i1 - (1 : Int32))).bind fun v3 =>
      (f_X0_isLetter h v3).bind fun r4 =>
      if ¬ r4.1 = 0 then (
        f_X0_goes_275 r4.2 a0 i2 i3 (1 : Int32))
      else (
        (zg_R [0] r4.2 a0 6).bind fun v5 =>
        (za_I .byte r4.2 v5 (i1 - (1 : Int32))).bind fun v6 =>
        (f_X0_isDigit r4.2 v6).bind fun r7 =>
        if r7.1 = 0 then (
          f_X0_goes_275 r7.2 a0 i2 i3 (0 : Int32))
        else (
          f_X0_goes_275 r7.2 a0 i2 i3 (1 : Int32)))))
def f_X0_goes_127 : Nat → zT → Nat → Int32 → Int32 → Int32 → Option ((Nat ⊕ Unit) × zT)
  | 0, _, _, _, _, _ => none
  | n + 1, h, a0, i1, i2, i3 =>
    (zg_I [0] h a0 10).bind fun v1 =>
    (zg_I [0] h a0 11).bind fun v2 =>
    if v2 ≤ v1 then (
      f_X0_goes_230 h a0 i1 i2 i3)
    else (
      (zg_R [0] h a0 6).bind fun v3 =>
      (zg_I [0] h a0 10).bind fun v4 =>
      (za_I .byte h v3 v4).bind fun v5 =>
      (f_X0_isLetter h v5).bind fun r6 =>
      if r6.1 = 0 then (
        f_X0_goes_230 r6.2 a0 i1 i2 i3)
      else (
        (zg_I [0] r6.2 a0 10).bind fun v7 =>
        (zp_V [0] r6.2 a0 10 (.int (v7 + (1 : Int32)))).bind fun h8 =>
        f_X0_goes_127 n h8 a0 i1 i2 i3))
def f_X0_goes_170 : Nat → zT → Nat → Int32 → Int32 → Int32 → Option ((Nat ⊕ Unit) × zT)
  | 0, _, _, _, _, _ => none
  | n + 1, h, a0, i1, i2, i3 =>
    (zg_I [0] h a0 10).bind fun v1 =>
    (zg_I [0] h a0 11).bind fun v2 =>
    if v2 ≤ v1 then (
      f_X0_goes_230 h a0 i1 i2 i3)
    else (
      (zg_R [0] h a0 6).bind fun v3 =>
      (zg_I [0] h a0 10).bind fun v4 =>
      (za_I .byte h v3 v4).bind fun v5 =>
      (f_X0_isDigit h v5).bind fun r6 =>
      if r6.1 = 0 then (
        f_X0_goes_230 r6.2 a0 i1 i2 i3)
      else (
        (zg_I [0] r6.2 a0 10).bind fun v7 =>
        (zp_V [0] r6.2 a0 10 (.int (v7 + (1 : Int32)))).bind fun h8 =>
        f_X0_goes_170 n h8 a0 i1 i2 i3))
def f_X0_goes_122 (h : zT) (a0 : Nat) (i1 : Int32) (i2 : Int32) (s0 : Int32) : Option ((Nat ⊕ Unit) × zT) :=
  if i2 = 0 then (
    if s0 = 0 then (
      (zg_I [0] h a0 9).bind fun v1 =>
      (zg_I [0] h a0 11).bind fun v2 =>
      if v2 ≤ v1 then (
        f_X0_goes_230 h a0 i1 i2 s0)
      else (
        (zg_I [0] h a0 10).bind fun v3 =>
        (zp_V [0] h a0 10 (.int (v3 + (1 : Int32)))).bind fun h4 =>
        f_X0_goes_230 h4 a0 i1 i2 s0))
    else (
      f_X0_goes_170 4096 h a0 i1 i2 s0))
  else (
    f_X0_goes_127 4096 h a0 i1 i2 s0)
def f_X0_goes_90 (h : zT) (a0 : Nat) (i1 : Int32) (s0 : Int32) : Option ((Nat ⊕ Unit) × zT) :=
  (zg_I [0] h a0 9).bind fun v1 =>
  (zg_I [0] h a0 11).bind fun v2 =>
  if v2 ≤ v1 then (
    f_X0_goes_122 h a0 i1 s0 (0 : Int32))
  else (
    (zg_R [0] h a0 6).bind fun v3 =>
    (zg_I [0] h a0 9).bind fun v4 =>
    (za_I .byte h v3 v4).bind fun v5 =>
    (f_X0_isDigit h v5).bind fun r6 =>
    if r6.1 = 0 then (
      f_X0_goes_122 r6.2 a0 i1 s0 (0 : Int32))
    else (
      f_X0_goes_122 r6.2 a0 i1 s0 (1 : Int32)))
def f_X0_goes_51 (h : zT) (a0 : Nat) (i1 : Int32) : Option ((Nat ⊕ Unit) × zT) :=
  (zg_I [0] h a0 9).bind fun v1 =>
  (zp_V [0] h a0 10 (.int v1)).bind fun h2 =>
  (zg_I [0] h2 a0 9).bind fun v3 =>
  (zg_I [0] h2 a0 11).bind fun v4 =>
  if v4 ≤ v3 then (
    f_X0_goes_90 h2 a0 i1 (0 : Int32))
  else (
    (zg_R [0] h2 a0 6).bind fun v5 =>
    (zg_I [0] h2 a0 9).bind fun v6 =>
    (za_I .byte h2 v5 v6).bind fun v7 =>
    (f_X0_isLetter h2 v7).bind fun r8 =>
    if r8.1 = 0 then (
      f_X0_goes_90 r8.2 a0 i1 (0 : Int32))
    else (
      f_X0_goes_90 r8.2 a0 i1 (1 : Int32)))
def f_X0_goes_13 : Nat → zT → Nat → Int32 → Option ((Nat ⊕ Unit) × zT)
  | 0, _, _, _ => none
  | n + 1, h, a0, i1 =>
    (zg_I [0] h a0 9).bind fun v1 =>
    (zg_I [0] h a0 11).bind fun v2 =>
    if v2 ≤ v1 then (
      f_X0_goes_51 h a0 i1)
    else (
      (zg_R [0] h a0 6).bind fun v3 =>
      (zg_I [0] h a0 9).bind fun v4 =>
      (za_I .byte h v3 v4).bind fun v5 =>
      if ¬ v5 = (32 : Int32) then (
        f_X0_goes_51 h a0 i1)
      else (
        (zg_I [0] h a0 9).bind fun v6 =>
        (zp_V [0] h a0 9 (.int (v6 + (1 : Int32)))).bind fun h7 =>
        f_X0_goes_13 n h7 a0 i1))
def f_X0_goes (h : zT) (a0 : Nat) : Option ((Nat ⊕ Unit) × zT) :=
  (zg_I [0] h a0 10).bind fun v1 =>
  (zg_I [0] h a0 10).bind fun v2 =>
  (zp_V [0] h a0 9 (.int v2)).bind fun h3 =>
  f_X0_goes_13 4096 h3 a0 v1
abbrev rm_X0_number : Room := { frames := 4, cells := 0, slots := 0, locals := 96 }
theorem cd_X0_number : zcd yX0_number 0 := by unfold zcd; decide +kernel
def f_X0_number_50 : Nat → zT → Nat → Int32 → Int32 → Option ((Nat ⊕ Int32) × zT)
  | 0, _, _, _, _ => none
  | n + 1, h, a0, i1, i2 =>
    (zg_I [0] h a0 10).bind fun v1 =>
    if v1 ≤ i2 then (
      (zk_C 0 h a0).bind fun _ =>
      zxb (f_X0_goes h a0) fun _ h2 =>
      some (.inr i1, h2))
    else (
      (zg_R [0] h a0 6).bind fun v4 =>
      (za_I .byte h v4 i2).bind fun v5 =>
      (some ((((10 : Int32) * i1) + v5) - (48 : Int32))).bind fun v6 =>
      (some (i2 + (1 : Int32))).bind fun v7 =>
      f_X0_number_50 n h a0 v6 v7)
def f_X0_number_39 (h : zT) (a0 : Nat) : Option ((Nat ⊕ Int32) × zT) :=
  (zk_C 0 h a0).bind fun _ =>
  zxb (f_X0_wrong h a0) fun _ h1 =>
  (zg_I [0] h1 a0 9).bind fun v3 =>
  f_X0_number_50 4096 h1 a0 (0 : Int32) v3
def f_X0_number (h : zT) (a0 : Nat) : Option ((Nat ⊕ Int32) × zT) :=
  (zg_I [0] h a0 9).bind fun v1 =>
  (zg_I [0] h a0 11).bind fun v2 =>
  if v1 = v2 then (
    f_X0_number_39 h a0)
  else (
    (zg_R [0] h a0 6).bind fun v3 =>
    (zg_I [0] h a0 9).bind fun v4 =>
    (za_I .byte h v3 v4).bind fun v5 =>
    (f_X0_isDigit h v5).bind fun r6 =>
    if r6.1 = 0 then (
      f_X0_number_39 r6.2 a0)
    else (
      (zg_I [0] r6.2 a0 10).bind fun v7 =>
      (zg_I [0] r6.2 a0 9).bind fun v8 =>
      if (v7 - v8) ≤ (4 : Int32) then (
        (zg_I [0] r6.2 a0 9).bind fun v9 =>
        f_X0_number_50 4096 r6.2 a0 (0 : Int32) v9)
      else (
        f_X0_number_39 r6.2 a0)))
abbrev rm_X0_piece (d : Nat) : Room := { frames := 6 * d + 20, cells := 0, slots := 0, locals := 180 * d + 200 }
abbrev rm_X0_term (d : Nat) : Room := { frames := 6 * d + 21, cells := 0, slots := 0, locals := 180 * d + 230 }
abbrev rm_X0_sum (d : Nat) : Room := { frames := 6 * d + 22, cells := 0, slots := 0, locals := 180 * d + 260 }
abbrev rm_X0_test (d : Nat) : Room := { frames := 6 * d + 23, cells := 0, slots := 0, locals := 180 * d + 290 }
abbrev rm_X0_and (d : Nat) : Room := { frames := 6 * d + 24, cells := 0, slots := 0, locals := 180 * d + 320 }
abbrev rm_X0_or (d : Nat) : Room := { frames := 6 * d + 25, cells := 0, slots := 0, locals := 180 * d + 350 }
theorem cd_X0_piece : zcd yX0_piece 1 := by unfold zcd; decide +kernel
theorem cd_X0_term : zcd yX0_term 1 := by unfold zcd; decide +kernel
def f_X0_term_38 (P : zT → Nat → Nat → Option ((Nat ⊕ Unit) × zT)) (K5 : zT → Nat → Nat → Option ((Nat ⊕ Unit) × zT)) (h : zT) (a0 : Nat) (a1 : Nat) (s0 : Int32) : Option ((Nat ⊕ Unit) × zT) :=
  (zk_C 0 h a0).bind fun _ =>
  zxb (f_X0_goes h a0) fun _ h1 =>
  (zk_C 0 h1 a0).bind fun _ =>
  zxb (P h1 a0 a1) fun _ h3 =>
  (zk_C 12 h3 a1).bind fun _ =>
  (f_X12_add h3 a1 s0 (0 : Int32)).bind fun r5 =>
  K5 r5 a0 a1
def f_X0_term_23 (P : zT → Nat → Nat → Option ((Nat ⊕ Unit) × zT)) (K5 : zT → Nat → Nat → Option ((Nat ⊕ Unit) × zT)) (h : zT) (a0 : Nat) (a1 : Nat) : Option ((Nat ⊕ Unit) × zT) :=
  (zk_C 0 h a0).bind fun _ =>
  (f_X0_isSign h a0 (42 : Int32)).bind fun r1 =>
  if r1.1 = 0 then (
    f_X0_term_38 P K5 r1.2 a0 a1 (12 : Int32))
  else (
    f_X0_term_38 P K5 r1.2 a0 a1 (4 : Int32))
def f_X0_term_5 (P : zT → Nat → Nat → Option ((Nat ⊕ Unit) × zT)) : Nat → zT → Nat → Nat → Option ((Nat ⊕ Unit) × zT)
  | 0, _, _, _ => none
  | n + 1, h, a0, a1 =>
    (zk_C 0 h a0).bind fun _ =>
    (f_X0_isSign h a0 (42 : Int32)).bind fun r1 =>
    if ¬ r1.1 = 0 then (
      f_X0_term_23 P (f_X0_term_5 P n) r1.2 a0 a1)
    else (
      (zk_C 0 r1.2 a0).bind fun _ =>
      (f_X0_isSign r1.2 a0 (47 : Int32)).bind fun r2 =>
      if r2.1 = 0 then (
        some (.inr (), r2.2))
      else (
        f_X0_term_23 P (f_X0_term_5 P n) r2.2 a0 a1))
def f_X0_term (P : zT → Nat → Nat → Option ((Nat ⊕ Unit) × zT)) (h : zT) (a0 : Nat) (a1 : Nat) : Option ((Nat ⊕ Unit) × zT) :=
  (zk_C 0 h a0).bind fun _ =>
  zxb (P h a0 a1) fun _ h1 =>
  f_X0_term_5 P 4096 h1 a0 a1
theorem cd_X0_sum : zcd yX0_sum 1 := by unfold zcd; decide +kernel
def f_X0_sum_38 (P : zT → Nat → Nat → Option ((Nat ⊕ Unit) × zT)) (K5 : zT → Nat → Nat → Option ((Nat ⊕ Unit) × zT)) (h : zT) (a0 : Nat) (a1 : Nat) (s0 : Int32) : Option ((Nat ⊕ Unit) × zT) :=
  (zk_C 0 h a0).bind fun _ =>
  zxb (f_X0_goes h a0) fun _ h1 =>
  (zk_C 0 h1 a0).bind fun _ =>
  zxb (f_X0_term P h1 a0 a1) fun _ h3 =>
  (zk_C 12 h3 a1).bind fun _ =>
  (f_X12_add h3 a1 s0 (0 : Int32)).bind fun r5 =>
  K5 r5 a0 a1
def f_X0_sum_23 (P : zT → Nat → Nat → Option ((Nat ⊕ Unit) × zT)) (K5 : zT → Nat → Nat → Option ((Nat ⊕ Unit) × zT)) (h : zT) (a0 : Nat) (a1 : Nat) : Option ((Nat ⊕ Unit) × zT) :=
  (zk_C 0 h a0).bind fun _ =>
  (f_X0_isSign h a0 (43 : Int32)).bind fun r1 =>
  if r1.1 = 0 then (
    f_X0_sum_38 P K5 r1.2 a0 a1 (6 : Int32))
  else (
    f_X0_sum_38 P K5 r1.2 a0 a1 (5 : Int32))
def f_X0_sum_5 (P : zT → Nat → Nat → Option ((Nat ⊕ Unit) × zT)) : Nat → zT → Nat → Nat → Option ((Nat ⊕ Unit) × zT)
  | 0, _, _, _ => none
  | n + 1, h, a0, a1 =>
    (zk_C 0 h a0).bind fun _ =>
    (f_X0_isSign h a0 (43 : Int32)).bind fun r1 =>
    if ¬ r1.1 = 0 then (
      f_X0_sum_23 P (f_X0_sum_5 P n) r1.2 a0 a1)
    else (
      (zk_C 0 r1.2 a0).bind fun _ =>
      (f_X0_isSign r1.2 a0 (45 : Int32)).bind fun r2 =>
      if r2.1 = 0 then (
        some (.inr (), r2.2))
      else (
        f_X0_sum_23 P (f_X0_sum_5 P n) r2.2 a0 a1))
def f_X0_sum (P : zT → Nat → Nat → Option ((Nat ⊕ Unit) × zT)) (h : zT) (a0 : Nat) (a1 : Nat) : Option ((Nat ⊕ Unit) × zT) :=
  (zk_C 0 h a0).bind fun _ =>
  zxb (f_X0_term P h a0 a1) fun _ h1 =>
  f_X0_sum_5 P 4096 h1 a0 a1
theorem cd_X0_test : zcd yX0_test 1 := by unfold zcd; decide +kernel
def f_X0_test_48 (P : zT → Nat → Nat → Option ((Nat ⊕ Unit) × zT)) (h : zT) (a0 : Nat) (a1 : Nat) (s0 : Int32) : Option ((Nat ⊕ Unit) × zT) :=
  if s0 = 0 then (
    some (.inr (), h))
  else (
    (zk_C 0 h a0).bind fun _ =>
    zxb (f_X0_goes h a0) fun _ h1 =>
    (zk_C 0 h1 a0).bind fun _ =>
    zxb (f_X0_sum P h1 a0 a1) fun _ h3 =>
    (zk_C 12 h3 a1).bind fun _ =>
    (f_X12_add h3 a1 s0 (0 : Int32)).bind fun r5 =>
    some (.inr (), r5))
def f_X0_test (P : zT → Nat → Nat → Option ((Nat ⊕ Unit) × zT)) (h : zT) (a0 : Nat) (a1 : Nat) : Option ((Nat ⊕ Unit) × zT) :=
  (zk_C 0 h a0).bind fun _ =>
  zxb (f_X0_sum P h a0 a1) fun _ h1 =>
  (zk_C 0 h1 a0).bind fun _ =>
  (f_X0_isSign h1 a0 (60 : Int32)).bind fun r3 =>
  if r3.1 = 0 then (
    (zk_C 0 r3.2 a0).bind fun _ =>
    (f_X0_isSign r3.2 a0 (61 : Int32)).bind fun r4 =>
    if r4.1 = 0 then (
      (zk_C 0 r4.2 a0).bind fun _ =>
      (f_X0_isSign r4.2 a0 (62 : Int32)).bind fun r5 =>
      if r5.1 = 0 then (
        f_X0_test_48 P r5.2 a0 a1 (0 : Int32))
      else (
        f_X0_test_48 P r5.2 a0 a1 (9 : Int32)))
    else (
      f_X0_test_48 P r4.2 a0 a1 (8 : Int32)))
  else (
    f_X0_test_48 P r3.2 a0 a1 (7 : Int32))
theorem cd_X0_and : zcd yX0_and 1 := by unfold zcd; decide +kernel
def f_X0_and_5 (P : zT → Nat → Nat → Option ((Nat ⊕ Unit) × zT)) : Nat → zT → Nat → Nat → Option ((Nat ⊕ Unit) × zT)
  | 0, _, _, _ => none
  | n + 1, h, a0, a1 =>
    (zk_C 0 h a0).bind fun _ =>
    (f_X0_isSign h a0 (38 : Int32)).bind fun r1 =>
    if r1.1 = 0 then (
      some (.inr (), r1.2))
    else (
      (zk_C 0 r1.2 a0).bind fun _ =>
      zxb (f_X0_goes r1.2 a0) fun _ h2 =>
      (zk_C 0 h2 a0).bind fun _ =>
      zxb (f_X0_test P h2 a0 a1) fun _ h4 =>
      (zk_C 12 h4 a1).bind fun _ =>
      (f_X12_add h4 a1 (10 : Int32) (0 : Int32)).bind fun r6 =>
      f_X0_and_5 P n r6 a0 a1)
def f_X0_and (P : zT → Nat → Nat → Option ((Nat ⊕ Unit) × zT)) (h : zT) (a0 : Nat) (a1 : Nat) : Option ((Nat ⊕ Unit) × zT) :=
  (zk_C 0 h a0).bind fun _ =>
  zxb (f_X0_test P h a0 a1) fun _ h1 =>
  f_X0_and_5 P 4096 h1 a0 a1
theorem cd_X0_or : zcd yX0_or 1 := by unfold zcd; decide +kernel
def f_X0_or_5 (P : zT → Nat → Nat → Option ((Nat ⊕ Unit) × zT)) : Nat → zT → Nat → Nat → Option ((Nat ⊕ Unit) × zT)
  | 0, _, _, _ => none
  | n + 1, h, a0, a1 =>
    (zk_C 0 h a0).bind fun _ =>
    (f_X0_isSign h a0 (124 : Int32)).bind fun r1 =>
    if r1.1 = 0 then (
      some (.inr (), r1.2))
    else (
      (zk_C 0 r1.2 a0).bind fun _ =>
      zxb (f_X0_goes r1.2 a0) fun _ h2 =>
      (zk_C 0 h2 a0).bind fun _ =>
      zxb (f_X0_and P h2 a0 a1) fun _ h4 =>
      (zk_C 12 h4 a1).bind fun _ =>
      (f_X12_add h4 a1 (11 : Int32) (0 : Int32)).bind fun r6 =>
      f_X0_or_5 P n r6 a0 a1)
def f_X0_or (P : zT → Nat → Nat → Option ((Nat ⊕ Unit) × zT)) (h : zT) (a0 : Nat) (a1 : Nat) : Option ((Nat ⊕ Unit) × zT) :=
  (zk_C 0 h a0).bind fun _ =>
  zxb (f_X0_and P h a0 a1) fun _ h1 =>
  f_X0_or_5 P 4096 h1 a0 a1
def f_X0_piece_22 (P : zT → Nat → Nat → Option ((Nat ⊕ Unit) × zT)) (h : zT) (a0 : Nat) (a1 : Nat) : Option ((Nat ⊕ Unit) × zT) :=
  (zg_I [0] h a0 13).bind fun v1 =>
  (zp_V [0] h a0 13 (.int (v1 + (1 : Int32)))).bind fun h2 =>
  (zk_C 0 h2 a0).bind fun _ =>
  zxb (f_X0_goes h2 a0) fun _ h3 =>
  (zk_C 0 h3 a0).bind fun _ =>
  zxb (P h3 a0 a1) fun _ h5 =>
  (zk_C 12 h5 a1).bind fun _ =>
  (f_X12_add h5 a1 (3 : Int32) (0 : Int32)).bind fun r7 =>
  (zg_I [0] r7 a0 13).bind fun v8 =>
  (zp_V [0] r7 a0 13 (.int (v8 - (1 : Int32)))).bind fun h9 =>
  some (.inr (), h9)
def f_X0_piece_114 (P : zT → Nat → Nat → Option ((Nat ⊕ Unit) × zT)) (h : zT) (a0 : Nat) : Option ((Nat ⊕ Unit) × zT) :=
  (zk_C 0 h a0).bind fun _ =>
  zxb (f_X0_goes h a0) fun _ h1 =>
  (zg_I [0] h1 a0 12).bind fun v3 =>
  (zp_V [0] h1 a0 12 (.int (v3 - (1 : Int32)))).bind fun h4 =>
  some (.inr (), h4)
def f_X0_piece_82 (P : zT → Nat → Nat → Option ((Nat ⊕ Unit) × zT)) (h : zT) (a0 : Nat) (a1 : Nat) : Option ((Nat ⊕ Unit) × zT) :=
  (zg_I [0] h a0 12).bind fun v1 =>
  (zp_V [0] h a0 12 (.int (v1 + (1 : Int32)))).bind fun h2 =>
  (zk_C 0 h2 a0).bind fun _ =>
  zxb (f_X0_goes h2 a0) fun _ h3 =>
  (zk_C 0 h3 a0).bind fun _ =>
  zxb (f_X0_or P h3 a0 a1) fun _ h5 =>
  (zk_C 0 h5 a0).bind fun _ =>
  (f_X0_isSign h5 a0 (41 : Int32)).bind fun r7 =>
  if ¬ r7.1 = 0 then (
    f_X0_piece_114 P r7.2 a0)
  else (
    (zk_C 0 r7.2 a0).bind fun _ =>
    zxb (f_X0_wrong r7.2 a0) fun _ h8 =>
    f_X0_piece_114 P h8 a0)
def f_X0_piece_223 (P : zT → Nat → Nat → Option ((Nat ⊕ Unit) × zT)) (h : zT) (a0 : Nat) (a1 : Nat) : Option ((Nat ⊕ Unit) × zT) :=
  (zg_I [0] h a0 14).bind fun v1 =>
  (zp_V [0] h a0 14 (.int (v1 + (1 : Int32)))).bind fun h2 =>
  (zg_R [0] h2 a0 6).bind fun v3 =>
  (zg_I [0] h2 a0 9).bind fun v4 =>
  (za_I .byte h2 v3 v4).bind fun v5 =>
  (zk_C 12 h2 a1).bind fun _ =>
  (f_X12_add h2 a1 (2 : Int32) v5).bind fun r6 =>
  (zk_C 0 r6 a0).bind fun _ =>
  zxb (f_X0_goes r6 a0) fun _ h7 =>
  some (.inr (), h7)
def f_X0_piece_179 (P : zT → Nat → Nat → Option ((Nat ⊕ Unit) × zT)) (h : zT) (a0 : Nat) (a1 : Nat) : Option ((Nat ⊕ Unit) × zT) :=
  (zg_I [0] h a0 9).bind fun v1 =>
  (zg_I [0] h a0 11).bind fun v2 =>
  if v1 = v2 then (
    (zk_C 0 h a0).bind fun _ =>
    zxb (f_X0_wrong h a0) fun _ h3 =>
    f_X0_piece_223 P h3 a0 a1)
  else (
    (zg_I [0] h a0 10).bind fun v5 =>
    (zg_I [0] h a0 9).bind fun v6 =>
    if ¬ (v5 - v6) = (1 : Int32) then (
      (zk_C 0 h a0).bind fun _ =>
      zxb (f_X0_wrong h a0) fun _ h7 =>
      f_X0_piece_223 P h7 a0 a1)
    else (
      (zg_R [0] h a0 6).bind fun v9 =>
      (zg_I [0] h a0 9).bind fun v10 =>
      (za_I .byte h v9 v10).bind fun v11 =>
      (zk_C 0 h a0).bind fun _ =>
      (f_X0_isName h a0 v11).bind fun r12 =>
      if ¬ r12.1 = 0 then (
        f_X0_piece_223 P r12.2 a0 a1)
      else (
        (zk_C 0 r12.2 a0).bind fun _ =>
        zxb (f_X0_wrong r12.2 a0) fun _ h13 =>
        f_X0_piece_223 P h13 a0 a1)))
def f_X0_pieceB (P : zT → Nat → Nat → Option ((Nat ⊕ Unit) × zT)) (h : zT) (a0 : Nat) (a1 : Nat) : Option ((Nat ⊕ Unit) × zT) :=
  (zk_C 0 h a0).bind fun _ =>
  (f_X0_isSign h a0 (33 : Int32)).bind fun r1 =>
  if r1.1 = 0 then (
    (zk_C 0 r1.2 a0).bind fun _ =>
    (f_X0_isSign r1.2 a0 (40 : Int32)).bind fun r2 =>
    if r2.1 = 0 then (
      (zg_I [0] r2.2 a0 9).bind fun v3 =>
      (zg_I [0] r2.2 a0 11).bind fun v4 =>
      if v4 ≤ v3 then (
        f_X0_piece_179 P r2.2 a0 a1)
      else (
        (zg_R [0] r2.2 a0 6).bind fun v5 =>
        (zg_I [0] r2.2 a0 9).bind fun v6 =>
        (za_I .byte r2.2 v5 v6).bind fun v7 =>
        (f_X0_isDigit r2.2 v7).bind fun r8 =>
        if r8.1 = 0 then (
          f_X0_piece_179 P r8.2 a0 a1)
        else (
          (zg_I [0] r8.2 a0 14).bind fun v9 =>
          (zp_V [0] r8.2 a0 14 (.int (v9 + (1 : Int32)))).bind fun h10 =>
          (zk_C 0 h10 a0).bind fun _ =>
          zxb (f_X0_number h10 a0) fun v12 h11 =>
          (zk_C 12 h11 a1).bind fun _ =>
          (f_X12_add h11 a1 (1 : Int32) v12).bind fun r13 =>
          some (.inr (), r13))))
    else (
      (zg_I [0] r2.2 a0 12).bind fun v14 =>
      if ¬ v14 = (8 : Int32) then (
        f_X0_piece_82 P r2.2 a0 a1)
      else (
        (zk_C 0 r2.2 a0).bind fun _ =>
        zxb (f_X0_wrong r2.2 a0) fun _ h15 =>
        f_X0_piece_82 P h15 a0 a1)))
  else (
    (zg_I [0] r1.2 a0 13).bind fun v17 =>
    if ¬ v17 = (8 : Int32) then (
      f_X0_piece_22 P r1.2 a0 a1)
    else (
      (zk_C 0 r1.2 a0).bind fun _ =>
      zxb (f_X0_wrong r1.2 a0) fun _ h18 =>
      f_X0_piece_22 P h18 a0 a1))
def f_X0_piece : Nat → zT → Nat → Nat → Option ((Nat ⊕ Unit) × zT)
  | 0, _, _, _ => none
  | d + 1, h, a0, a1 => f_X0_pieceB (f_X0_piece d) h a0 a1
abbrev rm_X0_expression : Room := { frames := 147, cells := 3, slots := 195, locals := 4001 }
theorem cd_X0_expression : zcd yX0_expression 0 := by unfold zcd; decide +kernel
def f_X0_expression (h : zT) (a0 : Nat) : Option ((Nat ⊕ Nat) × zT) :=
  (zn_O 12 zfs12 h).bind fun r1 =>
  (f_X12_init r1.2 r1.1).bind fun r2 =>
  (zk_C 0 r2 a0).bind fun _ =>
  zxb (f_X0_or (f_X0_piece 20) r2 a0 r1.1) fun _ h3 =>
  some (.inr r1.1, h3)
