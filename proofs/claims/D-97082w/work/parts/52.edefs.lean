/-! Casts, sheets, slots that may throw: the printed functions (gen/exc.py) -/
set_option maxRecDepth 100000
abbrev rm_X0_takenFor : Room := { frames := 7, cells := 3, slots := 1010, locals := 10300 }
theorem cd_X0_takenFor : zcd yX0_takenFor 2 := by unfold zcd; decide +kernel
def f_X0_takenFor (h : zT) (a0 : Nat) (i1 : Int32) : Option ((Nat ⊕ Nat) × zT) :=
  if i1 = (1 : Int32) then (
    (zq_cast 7 h a0).bind fun b1 =>
    if b1 = true then (
      some (.inr a0, h))
    else (
      some (.inl (h.2 + 2), zthr h)))
  else (
    if i1 = (2 : Int32) then (
      (zq_cast 8 h a0).bind fun b2 =>
      if b2 = true then (
        some (.inr a0, h))
      else (
        some (.inl (h.2 + 2), zthr h)))
    else (
      if i1 = (3 : Int32) then (
        (zq_cast 9 h a0).bind fun b3 =>
        if b3 = true then (
          some (.inr a0, h))
        else (
          some (.inl (h.2 + 2), zthr h)))
      else (
        if i1 = (4 : Int32) then (
          (zq_cast 10 h a0).bind fun b4 =>
          if b4 = true then (
            some (.inr a0, h))
          else (
            some (.inl (h.2 + 2), zthr h)))
        else (
          if i1 = (5 : Int32) then (
            (zq_cast 11 h a0).bind fun b5 =>
            if b5 = true then (
              some (.inr a0, h))
            else (
              some (.inl (h.2 + 2), zthr h)))
          else (
            (zq_cast 6 h a0).bind fun b6 =>
            if b6 = true then (
              some (.inr a0, h))
            else (
              some (.inl (h.2 + 2), zthr h)))))))
abbrev rm_X0_rowOfX : Room := { frames := 7, cells := 3, slots := 1010, locals := 10300 }
def f_X0_rowOfX (h : zT) (i0 : Int32) (i1 : Int32) : Option ((Nat ⊕ Nat) × zT) :=
  if i0 = 0 then (
    if i1 < 0 then (
      some (.inl (h.2 + 2), zthr h))
    else (
      (zb_len i1 24).bind fun _ =>
      (zn_A .short h i1).bind fun r1 =>
      some (.inr r1.1, r1.2)))
  else (
    if i1 < 0 then (
      some (.inl (h.2 + 2), zthr h))
    else (
      (zb_len i1 24).bind fun _ =>
      (zn_F h i1).bind fun r2 =>
      some (.inr r2.1, r2.2)))
abbrev rm_X0_as : Room := { frames := 8, cells := 3, slots := 1010, locals := 10321 }
theorem cd_X0_as : zcd yX0_as 2 := by unfold zcd; decide +kernel
def f_X0_as (h : zT) (a0 : Nat) (i1 : Int32) (i2 : Int32) : Option ((Nat ⊕ Int32) × zT) :=
  (zk_C 0 h a0).bind fun _ =>
  (f_X0_isRubbing h a0 i1).bind fun r1 =>
  if r1.1 = 0 then (
    some (.inr (-1000000001 : Int32), r1.2))
  else (
    (f_X0_isIn r1.2 i2 (0 : Int32) (5 : Int32)).bind fun r2 =>
    if ¬ r2.1 = 0 then (
      (zg_R [0] r2.2 a0 0).bind fun v3 =>
      (zg_R [1] r2.2 v3 2).bind fun v4 =>
      (za_R "StoneSheets$Rubbing" r2.2 v4 i1).bind fun v5 =>
      zxc (f_X0_takenFor r2.2 v5 i2) (fun x9 h8 =>
        some (.inr (-1000000012 : Int32), h8))
      (fun v7 h6 =>
        (zg_I [6, 7, 8, 9, 10, 11] h6 v7 1).bind fun v10 =>
        some (.inr v10, h6)))
    else (
      some (.inr (-1000000001 : Int32), r2.2)))
abbrev rm_X0_sheet : Room := { frames := 8, cells := 3, slots := 1010, locals := 10321 }
theorem cd_X0_sheet : zcd yX0_sheet 3 := by unfold zcd; decide +kernel
def f_X0_sheet_29 (h : zT) (a0 : Nat) (i1 : Int32) (i2 : Int32) (i3 : Int32) : Option ((Nat ⊕ Int32) × zT) :=
  if 0 ≤ i2 then (
    (zg_R [0] h a0 18).bind fun v1 =>
    (za_R "StoneSheets$Sheet" h v1 i1).bind fun v2 =>
    if ¬ i2 = (1 : Int32) then (
      zxc (f_X0_rowOfX h (0 : Int32) i3) (fun x6 h5 =>
        some (.inr (-1000000014 : Int32), h5))
      (fun v4 h3 =>
        (zp_V [3] h3 v2 0 (.ref v4)).bind fun h7 =>
        some (.inr i3, h7)))
    else (
      zxc (f_X0_rowOfX h (1 : Int32) i3) (fun x11 h10 =>
        some (.inr (-1000000014 : Int32), h10))
      (fun v9 h8 =>
        (zp_V [3] h8 v2 0 (.ref v9)).bind fun h12 =>
        some (.inr i3, h12))))
  else (
    (zg_R [0] h a0 18).bind fun v13 =>
    (za_R "StoneSheets$Sheet" h v13 i1).bind fun v14 =>
    (zp_V [3] h v14 0 (va_rf none)).bind fun h15 =>
    some (.inr (0 : Int32), h15))
def f_X0_sheet (h : zT) (a0 : Nat) (i1 : Int32) (i2 : Int32) (i3 : Int32) : Option ((Nat ⊕ Int32) × zT) :=
  (f_X0_isSheet h i1).bind fun r1 =>
  if r1.1 = 0 then (
    some (.inr (-1000000001 : Int32), r1.2))
  else (
    (f_X0_isIn r1.2 i2 (-1 : Int32) (1 : Int32)).bind fun r2 =>
    if r2.1 = 0 then (
      some (.inr (-1000000001 : Int32), r2.2))
    else (
      if i2 < 0 then (
        f_X0_sheet_29 r2.2 a0 i1 i2 i3)
      else (
        if i3 ≤ (24 : Int32) then (
          f_X0_sheet_29 r2.2 a0 i1 i2 i3)
        else (
          some (.inr (-1000000001 : Int32), r2.2)))))
abbrev rm_X0_ask : Room := { frames := 8, cells := 3, slots := 1010, locals := 10321 }
theorem cd_X0_ask : zcd yX0_ask 2 := by unfold zcd; decide +kernel
def f_X0_ask (h : zT) (a0 : Nat) (i1 : Int32) (i2 : Int32) : Option ((Nat ⊕ Int32) × zT) :=
  (f_X0_isSlot h i1).bind fun r1 =>
  if r1.1 = 0 then (
    some (.inr (-1000000001 : Int32), r1.2))
  else (
    (f_X0_isIn r1.2 i2 (0 : Int32) (5 : Int32)).bind fun r2 =>
    if ¬ r2.1 = 0 then (
      (zg_R [0] r2.2 a0 19).bind fun v3 =>
      (za_R "StoneSheets$Slot" r2.2 v3 i1).bind fun v4 =>
      (zg_Q [4] r2.2 v4 0).bind fun v5 =>
      if ¬ v5 = none then (
        v5.bind fun b6 =>
        zxc (f_X0_takenFor r2.2 b6 i2) (fun x10 h9 =>
          some (.inr (-1000000012 : Int32), h9))
        (fun v8 h7 =>
          (fd_worth h7 v8).bind fun r11 =>
          some (.inr r11.1, r11.2)))
      else (
        some (.inr (-1000000011 : Int32), r2.2)))
    else (
      some (.inr (-1000000001 : Int32), r2.2)))
abbrev rm_X0_item : Room := { frames := 7, cells := 3, slots := 1010, locals := 10300 }
theorem cd_X0_item : zcd yX0_item 2 := by unfold zcd; decide +kernel
def f_X0_item (h : zT) (a0 : Nat) (i1 : Int32) (i2 : Int32) : Option ((Nat ⊕ Int32) × zT) :=
  (f_X0_isSlot h i1).bind fun r1 =>
  if ¬ r1.1 = 0 then (
    (zg_R [0] r1.2 a0 19).bind fun v2 =>
    (za_R "StoneSheets$Slot" r1.2 v2 i1).bind fun v3 =>
    (zg_Q [4] r1.2 v3 0).bind fun v4 =>
    if ¬ v4 = none then (
      v4.bind fun b5 =>
      (zq_cast 3 r1.2 b5).bind fun b6 =>
      if b6 = true then (
        (zk_C 3 r1.2 b5).bind fun _ =>
        (f_X3_size r1.2 b5).bind fun r7 =>
        (f_X0_isIn r7.2 i2 (0 : Int32) (r7.1 - (1 : Int32))).bind fun r8 =>
        if ¬ r8.1 = 0 then (
          (zk_C 3 r8.2 b5).bind fun _ =>
          (f_X3_isNumber r8.2 b5 i2).bind fun r9 =>
          if r9.1 = 0 then (
            some (.inr (-1000000012 : Int32), r9.2))
          else (
            (zk_C 3 r9.2 b5).bind fun _ =>
            (f_X3_at r9.2 b5 i2).bind fun r10 =>
            some (.inr r10.1, r10.2)))
        else (
          some (.inr (-1000000013 : Int32), r8.2)))
      else (
        (some (r1.2.2 + 2)).bind fun v11 =>
        some (.inr (-1000000012 : Int32), (zthr r1.2))))
    else (
      some (.inr (-1000000011 : Int32), r1.2)))
  else (
    some (.inr (-1000000001 : Int32), r1.2))
