/-! Texts are read: the printed functions (gen/thr.py) -/
set_option maxRecDepth 100000
abbrev rm_X0_isWord : Room := { frames := 5, cells := 0, slots := 0, locals := 200 }
theorem cd_X0_isWord : zcd yX0_isWord 1 := by unfold zcd; decide +kernel
def f_X0_isWord_24 (i : Nat) : Nat → zT → Nat → Int32 → Int32 → Option (Int32 × zT)
  | 0, _, _, _, _ => none
  | n + 1, h, a0, i2, i3 =>
    (zc_len i).bind fun x1 =>
    if x1 ≤ i3 then (
      if i2 = 0 ∨ i2 = 1 then some (i2, h) else none)
    else (
      if i2 = 0 then (
        if i2 = 0 ∨ i2 = 1 then some (i2, h) else none)
      else (
        (zg_R [0] h a0 6).bind fun v2 =>
        (zg_I [0] h a0 9).bind fun v3 =>
        (za_I .byte h v2 (v3 + i3)).bind fun v4 =>
        (zc_ch i i3).bind fun x5 =>
        if ¬ v4 = x5 then (
          (some (i3 + (1 : Int32))).bind fun v6 =>
          f_X0_isWord_24 i n h a0 (0 : Int32) v6)
        else (
          (some (i3 + (1 : Int32))).bind fun v7 =>
          f_X0_isWord_24 i n h a0 (1 : Int32) v7)))
def f_X0_isWord (i : Nat) (h : zT) (a0 : Nat) : Option (Int32 × zT) :=
  (zg_I [0] h a0 10).bind fun v1 =>
  (zg_I [0] h a0 9).bind fun v2 =>
  (zc_len i).bind fun x3 =>
  if ¬ (v1 - v2) = x3 then (
    f_X0_isWord_24 i 4096 h a0 (0 : Int32) (0 : Int32))
  else (
    f_X0_isWord_24 i 4096 h a0 (1 : Int32) (0 : Int32))
abbrev rm_X0_key : Room := { frames := 6, cells := 0, slots := 0, locals := 223 }
theorem cd_X0_key : zcd yX0_key 0 := by unfold zcd; decide +kernel
def f_X0_key_40 (h : zT) (a0 : Nat) (s0 : Int32) : Option ((Nat ⊕ Int32) × zT) :=
  if ¬ s0 = (-1 : Int32) then (
    (zk_C 0 h a0).bind fun _ =>
    zxb (f_X0_goes h a0) fun _ h1 =>
    some (.inr s0, h1))
  else (
    (zk_C 0 h a0).bind fun _ =>
    zxb (f_X0_wrong h a0) fun _ h3 =>
    (zk_C 0 h3 a0).bind fun _ =>
    zxb (f_X0_goes h3 a0) fun _ h5 =>
    some (.inr s0, h5))
def f_X0_key (h : zT) (a0 : Nat) : Option ((Nat ⊕ Int32) × zT) :=
  (zk_C 0 h a0).bind fun _ =>
  (f_X0_isWord 0 h a0).bind fun r1 =>
  if r1.1 = 0 then (
    (zk_C 0 r1.2 a0).bind fun _ =>
    (f_X0_isWord 1 r1.2 a0).bind fun r2 =>
    if r2.1 = 0 then (
      (zk_C 0 r2.2 a0).bind fun _ =>
      (f_X0_isWord 2 r2.2 a0).bind fun r3 =>
      if r3.1 = 0 then (
        f_X0_key_40 r3.2 a0 (-1 : Int32))
      else (
        f_X0_key_40 r3.2 a0 (2 : Int32)))
    else (
      f_X0_key_40 r2.2 a0 (1 : Int32)))
  else (
    f_X0_key_40 r1.2 a0 (0 : Int32))
abbrev rm_X0_textRead : Room := { frames := 148, cells := 4, slots := 198, locals := 4022 }
theorem cd_X0_textRead : zcd yX0_textRead 0 := by unfold zcd; decide +kernel
def f_X0_textRead_60 (h : zT) (a0 : Nat) (a1 : Nat) : Option ((Nat ⊕ Nat) × zT) :=
  (zn_O 13 zfs13 h).bind fun r1 =>
  (zg_I [0] r1.2 a0 15).bind fun v2 =>
  (zg_I [0] r1.2 a0 14).bind fun v3 =>
  (f_X13_init r1.2 r1.1 v2 a1 v3).bind fun r4 =>
  some (.inr r1.1, r4)
def f_X0_textRead (h : zT) (a0 : Nat) : Option ((Nat ⊕ Nat) × zT) :=
  (zg_I [0] h a0 7).bind fun v1 =>
  (zp_V [0] h a0 11 (.int v1)).bind fun h2 =>
  (zp_V [0] h2 a0 10 (.int (0 : Int32))).bind fun h3 =>
  (zp_V [0] h3 a0 12 (.int (0 : Int32))).bind fun h4 =>
  (zp_V [0] h4 a0 13 (.int (0 : Int32))).bind fun h5 =>
  (zp_V [0] h5 a0 14 (.int (0 : Int32))).bind fun h6 =>
  (zk_C 0 h6 a0).bind fun _ =>
  zxb (f_X0_goes h6 a0) fun _ h7 =>
  (zk_C 0 h7 a0).bind fun _ =>
  zxb (f_X0_key h7 a0) fun v10 h9 =>
  (zp_V [0] h9 a0 15 (.int v10)).bind fun h11 =>
  (zk_C 0 h11 a0).bind fun _ =>
  zxb (f_X0_expression h11 a0) fun v13 h12 =>
  (zg_I [0] h12 a0 9).bind fun v14 =>
  (zg_I [0] h12 a0 11).bind fun v15 =>
  if v15 ≤ v14 then (
    f_X0_textRead_60 h12 a0 v13)
  else (
    (zk_C 0 h12 a0).bind fun _ =>
    zxb (f_X0_wrong h12 a0) fun _ h16 =>
    f_X0_textRead_60 h16 a0 v13)
abbrev rm_X0_text : Room := { frames := 149, cells := 4, slots := 198, locals := 4043 }
theorem cd_X0_text : zcd yX0_text 0 := by unfold zcd; decide +kernel
def f_X0_text (h : zT) (a0 : Nat) : Option ((Nat ⊕ Int32) × zT) :=
  (zk_C 0 h a0).bind fun _ =>
  zxc (f_X0_textRead h a0) (fun x4 h3 =>
    (zk_C 2 h3 x4).bind fun _ =>
    (zg_I [2] h3 x4 6).bind fun v5 =>
    (some ((-100 : Int32) - v5)).bind fun v6 =>
    (zp_V [0] h3 a0 7 (.int (0 : Int32))).bind fun h7 =>
    some (.inr v6, h7))
  (fun v2 h1 =>
    (zg_R [0] h1 a0 0).bind fun v8 =>
    (zg_I [1] h1 v8 6).bind fun v9 =>
    if ¬ v9 = (14 : Int32) then (
      (zg_R [0] h1 a0 0).bind fun v10 =>
      (zg_R [1] h1 v10 7).bind fun v11 =>
      (zg_R [0] h1 a0 0).bind fun v12 =>
      (zg_I [1] h1 v12 6).bind fun v13 =>
      (zs_R "StoneSheets$Text" [13] h1 v11 v13 v2).bind fun h14 =>
      (zg_R [0] h14 a0 0).bind fun v15 =>
      (zg_I [1] h14 v15 6).bind fun v16 =>
      (zp_V [1] h14 v15 6 (.int (v16 + (1 : Int32)))).bind fun h17 =>
      (zg_R [0] h17 a0 0).bind fun v18 =>
      (zg_I [1] h17 v18 6).bind fun v19 =>
      (some (v19 - (1 : Int32))).bind fun v20 =>
      (zp_V [0] h17 a0 7 (.int (0 : Int32))).bind fun h21 =>
      some (.inr v20, h21))
    else (
      (zp_V [0] h1 a0 7 (.int (0 : Int32))).bind fun h22 =>
      some (.inr (-1000000003 : Int32), h22)))
