/-! PLAIN LAW: reads and writes of the canonical heaps at indices Int32.ofNat k (gen/acc.py) -/
set_option maxRecDepth 100000
theorem za_k {ty : FieldType} {h : zT} {a N : Nat} {f : Nat → Int32} (hA : zh_A ty h a = some (N, f)) {k : Nat} (hk : k < N) (hN : N < 2147483648) : za_I ty h a (Int32.ofNat k) = some (f k) := by
  unfold za_I
  rw [hA, Option.bind_some, if_neg (zn_in hk hN), zn_cl k (by omega)]
theorem zs_k {ty : FieldType} {h : zT} {a N : Nat} {f : Nat → Int32} (hA : zh_A ty h a = some (N, f)) {k : Nat} (hk : k < N) (hN : N < 2147483648) (v : Int32) : zs_I ty h a (Int32.ofNat k) v = some (zh_set h a (.inl (ty, N, .inl (upd f k v)))) := by
  unfold zs_I
  rw [hA, Option.bind_some, if_neg (zn_in hk hN), zn_cl k (by omega)]
theorem zq_k {Cl : String} {h : zT} {a N : Nat} {f : Nat → Option Nat} (hA : zh_Q Cl h a = some (N, f)) {k : Nat} (hk : k < N) (hN : N < 2147483648) : za_Q Cl h a (Int32.ofNat k) = some (f k) := by
  unfold za_Q
  rw [hA, Option.bind_some, if_neg (zn_in hk hN), zn_cl k (by omega)]
theorem zr_k {Cl : String} {h : zT} {a N x : Nat} {f : Nat → Option Nat} (hA : zh_Q Cl h a = some (N, f)) {k : Nat} (hk : k < N) (hN : N < 2147483648) (hx : f k = some x) : za_R Cl h a (Int32.ofNat k) = some x := by
  unfold za_R
  rw [zq_k hA hk hN, Option.bind_some, hx]
theorem zw_k {Cl : String} {S : List Nat} {h : zT} {a N x c : Nat} {f : Nat → Option Nat} (hS : zk_S S h x = some c) (hA : zh_Q Cl h a = some (N, f)) {k : Nat} (hk : k < N) (hN : N < 2147483648) : zs_R Cl S h a (Int32.ofNat k) x = some (zh_set h a (zqc Cl N (va_up f k (some x)))) := by
  unfold zs_R
  rw [hS, Option.bind_some, hA, Option.bind_some, if_neg (zn_in hk hN), zn_cl k (by omega)]
  rfl
theorem zf_k {h : zT} {a N : Nat} {f : Nat → UInt32} (hA : zh_F h a = some (N, f)) {k : Nat} (hk : k < N) (hN : N < 2147483648) : za_F h a (Int32.ofNat k) = some (f k) := by
  unfold za_F
  rw [hA, Option.bind_some, if_neg (zn_in hk hN), zn_cl k (by omega)]
theorem zsf_k {h : zT} {a N : Nat} {f : Nat → UInt32} (hA : zh_F h a = some (N, f)) {k : Nat} (hk : k < N) (hN : N < 2147483648) (v : UInt32) : zs_F h a (Int32.ofNat k) v = some (zh_set h a (.inl (.float, N, .inr (.inr (.inl (va_up f k v)))))) := by
  unfold zs_F
  rw [hA, Option.bind_some, if_neg (zn_in hk hN), zn_cl k (by omega)]
section ZACM
variable (b n : Nat) (M : zM)
theorem zm_a0 {k : Nat} (hk : k < 3075) : za_I .int (mkM b M n) (b + 1) (Int32.ofNat k) = some (M.2 0 k) := by rw [zm_A0, if_neg (zn_in hk (by decide)), zn_cl k (by omega)]
theorem zm_w0 {k : Nat} (hk : k < 3075) (v : Int32) : zs_I .int (mkM b M n) (b + 1) (Int32.ofNat k) v = some (mkM b (zuA M 0 (upd (M.2 0) k v)) n) := by rw [zm_S0, if_neg (zn_in hk (by decide)), zn_cl k (by omega)]
theorem zm_a1 {k : Nat} (hk : k < 3075) : za_I .int (mkM b M n) (b + 2) (Int32.ofNat k) = some (M.2 1 k) := by rw [zm_A1, if_neg (zn_in hk (by decide)), zn_cl k (by omega)]
theorem zm_w1 {k : Nat} (hk : k < 3075) (v : Int32) : zs_I .int (mkM b M n) (b + 2) (Int32.ofNat k) v = some (mkM b (zuA M 1 (upd (M.2 1) k v)) n) := by rw [zm_S1, if_neg (zn_in hk (by decide)), zn_cl k (by omega)]
theorem zm_a2 {k : Nat} (hk : k < 3075) : za_I .int (mkM b M n) (b + 3) (Int32.ofNat k) = some (M.2 2 k) := by rw [zm_A2, if_neg (zn_in hk (by decide)), zn_cl k (by omega)]
theorem zm_w2 {k : Nat} (hk : k < 3075) (v : Int32) : zs_I .int (mkM b M n) (b + 3) (Int32.ofNat k) v = some (mkM b (zuA M 2 (upd (M.2 2) k v)) n) := by rw [zm_S2, if_neg (zn_in hk (by decide)), zn_cl k (by omega)]
theorem zm_a4 {k : Nat} (hk : k < 4) : za_I .int (mkM b M n) (b + 4) (Int32.ofNat k) = some (M.2 4 k) := by rw [zm_A4, if_neg (zn_in hk (by decide)), zn_cl k (by omega)]
theorem zm_w4 {k : Nat} (hk : k < 4) (v : Int32) : zs_I .int (mkM b M n) (b + 4) (Int32.ofNat k) v = some (mkM b (zuA M 4 (upd (M.2 4) k v)) n) := by rw [zm_S4, if_neg (zn_in hk (by decide)), zn_cl k (by omega)]
theorem zm_a5 {k : Nat} (hk : k < 4) : za_I .int (mkM b M n) (b + 5) (Int32.ofNat k) = some (M.2 5 k) := by rw [zm_A5, if_neg (zn_in hk (by decide)), zn_cl k (by omega)]
theorem zm_w5 {k : Nat} (hk : k < 4) (v : Int32) : zs_I .int (mkM b M n) (b + 5) (Int32.ofNat k) v = some (mkM b (zuA M 5 (upd (M.2 5) k v)) n) := by rw [zm_S5, if_neg (zn_in hk (by decide)), zn_cl k (by omega)]
theorem zm_a6 {k : Nat} (hk : k < 96) : za_I .int (mkM b M n) (b + 6) (Int32.ofNat k) = some (M.2 6 k) := by rw [zm_A6, if_neg (zn_in hk (by decide)), zn_cl k (by omega)]
theorem zm_w6 {k : Nat} (hk : k < 96) (v : Int32) : zs_I .int (mkM b M n) (b + 6) (Int32.ofNat k) v = some (mkM b (zuA M 6 (upd (M.2 6) k v)) n) := by rw [zm_S6, if_neg (zn_in hk (by decide)), zn_cl k (by omega)]
theorem zm_a7 {k : Nat} (hk : k < 5) : za_I .int (mkM b M n) (b + 7) (Int32.ofNat k) = some (M.2 7 k) := by rw [zm_A7, if_neg (zn_in hk (by decide)), zn_cl k (by omega)]
theorem zm_w7 {k : Nat} (hk : k < 5) (v : Int32) : zs_I .int (mkM b M n) (b + 7) (Int32.ofNat k) v = some (mkM b (zuA M 7 (upd (M.2 7) k v)) n) := by rw [zm_S7, if_neg (zn_in hk (by decide)), zn_cl k (by omega)]
theorem zm_a8 {k : Nat} (hk : k < 5) : za_I .int (mkM b M n) (b + 8) (Int32.ofNat k) = some (M.2 8 k) := by rw [zm_A8, if_neg (zn_in hk (by decide)), zn_cl k (by omega)]
theorem zm_w8 {k : Nat} (hk : k < 5) (v : Int32) : zs_I .int (mkM b M n) (b + 8) (Int32.ofNat k) v = some (mkM b (zuA M 8 (upd (M.2 8) k v)) n) := by rw [zm_S8, if_neg (zn_in hk (by decide)), zn_cl k (by omega)]
theorem zm_a9 {k : Nat} (hk : k < 5) : za_I .int (mkM b M n) (b + 9) (Int32.ofNat k) = some (M.2 9 k) := by rw [zm_A9, if_neg (zn_in hk (by decide)), zn_cl k (by omega)]
theorem zm_w9 {k : Nat} (hk : k < 5) (v : Int32) : zs_I .int (mkM b M n) (b + 9) (Int32.ofNat k) v = some (mkM b (zuA M 9 (upd (M.2 9) k v)) n) := by rw [zm_S9, if_neg (zn_in hk (by decide)), zn_cl k (by omega)]
theorem zm_a10 {k : Nat} (hk : k < 5) : za_I .int (mkM b M n) (b + 10) (Int32.ofNat k) = some (M.2 10 k) := by rw [zm_A10, if_neg (zn_in hk (by decide)), zn_cl k (by omega)]
theorem zm_w10 {k : Nat} (hk : k < 5) (v : Int32) : zs_I .int (mkM b M n) (b + 10) (Int32.ofNat k) v = some (mkM b (zuA M 10 (upd (M.2 10) k v)) n) := by rw [zm_S10, if_neg (zn_in hk (by decide)), zn_cl k (by omega)]
theorem zm_a11 {k : Nat} (hk : k < 120) : za_I .int (mkM b M n) (b + 11) (Int32.ofNat k) = some (M.2 11 k) := by rw [zm_A11, if_neg (zn_in hk (by decide)), zn_cl k (by omega)]
theorem zm_w11 {k : Nat} (hk : k < 120) (v : Int32) : zs_I .int (mkM b M n) (b + 11) (Int32.ofNat k) v = some (mkM b (zuA M 11 (upd (M.2 11) k v)) n) := by rw [zm_S11, if_neg (zn_in hk (by decide)), zn_cl k (by omega)]
theorem zm_a12 {k : Nat} (hk : k < 9) : za_I .int (mkM b M n) (b + 12) (Int32.ofNat k) = some (M.2 12 k) := by rw [zm_A12, if_neg (zn_in hk (by decide)), zn_cl k (by omega)]
theorem zm_w12 {k : Nat} (hk : k < 9) (v : Int32) : zs_I .int (mkM b M n) (b + 12) (Int32.ofNat k) v = some (mkM b (zuA M 12 (upd (M.2 12) k v)) n) := by rw [zm_S12, if_neg (zn_in hk (by decide)), zn_cl k (by omega)]
theorem zm_a13 {k : Nat} (hk : k < 75) : za_I .int (mkM b M n) (b + 13) (Int32.ofNat k) = some (M.2 13 k) := by rw [zm_A13, if_neg (zn_in hk (by decide)), zn_cl k (by omega)]
theorem zm_w13 {k : Nat} (hk : k < 75) (v : Int32) : zs_I .int (mkM b M n) (b + 13) (Int32.ofNat k) v = some (mkM b (zuA M 13 (upd (M.2 13) k v)) n) := by rw [zm_S13, if_neg (zn_in hk (by decide)), zn_cl k (by omega)]
theorem zm_a14 {k : Nat} (hk : k < 96) : za_I .int (mkM b M n) (b + 14) (Int32.ofNat k) = some (M.2 14 k) := by rw [zm_A14, if_neg (zn_in hk (by decide)), zn_cl k (by omega)]
theorem zm_w14 {k : Nat} (hk : k < 96) (v : Int32) : zs_I .int (mkM b M n) (b + 14) (Int32.ofNat k) v = some (mkM b (zuA M 14 (upd (M.2 14) k v)) n) := by rw [zm_S14, if_neg (zn_in hk (by decide)), zn_cl k (by omega)]
theorem zm_a26 {k : Nat} (hk : k < 128) : za_I .int (mkM b M n) (b + 15) (Int32.ofNat k) = some (M.2 26 k) := by rw [zm_A26, if_neg (zn_in hk (by decide)), zn_cl k (by omega)]
theorem zm_w26 {k : Nat} (hk : k < 128) (v : Int32) : zs_I .int (mkM b M n) (b + 15) (Int32.ofNat k) v = some (mkM b (zuA M 26 (upd (M.2 26) k v)) n) := by rw [zm_S26, if_neg (zn_in hk (by decide)), zn_cl k (by omega)]
theorem zm_a27 {k : Nat} (hk : k < 100) : za_I .int (mkM b M n) (b + 16) (Int32.ofNat k) = some (M.2 27 k) := by rw [zm_A27, if_neg (zn_in hk (by decide)), zn_cl k (by omega)]
theorem zm_w27 {k : Nat} (hk : k < 100) (v : Int32) : zs_I .int (mkM b M n) (b + 16) (Int32.ofNat k) v = some (mkM b (zuA M 27 (upd (M.2 27) k v)) n) := by rw [zm_S27, if_neg (zn_in hk (by decide)), zn_cl k (by omega)]
theorem zm_a28 {k : Nat} (hk : k < 24) : za_I .int (mkM b M n) (b + 17) (Int32.ofNat k) = some (M.2 28 k) := by rw [zm_A28, if_neg (zn_in hk (by decide)), zn_cl k (by omega)]
theorem zm_w28 {k : Nat} (hk : k < 24) (v : Int32) : zs_I .int (mkM b M n) (b + 17) (Int32.ofNat k) v = some (mkM b (zuA M 28 (upd (M.2 28) k v)) n) := by rw [zm_S28, if_neg (zn_in hk (by decide)), zn_cl k (by omega)]
theorem zm_a29 {k : Nat} (hk : k < 60) : za_I .int (mkM b M n) (b + 18) (Int32.ofNat k) = some (M.2 29 k) := by rw [zm_A29, if_neg (zn_in hk (by decide)), zn_cl k (by omega)]
theorem zm_w29 {k : Nat} (hk : k < 60) (v : Int32) : zs_I .int (mkM b M n) (b + 18) (Int32.ofNat k) v = some (mkM b (zuA M 29 (upd (M.2 29) k v)) n) := by rw [zm_S29, if_neg (zn_in hk (by decide)), zn_cl k (by omega)]
theorem zm_a31 {k : Nat} (hk : k < 60) : za_I .int (mkM b M n) (b + 19) (Int32.ofNat k) = some (M.2 31 k) := by rw [zm_A31, if_neg (zn_in hk (by decide)), zn_cl k (by omega)]
theorem zm_w31 {k : Nat} (hk : k < 60) (v : Int32) : zs_I .int (mkM b M n) (b + 19) (Int32.ofNat k) v = some (mkM b (zuA M 31 (upd (M.2 31) k v)) n) := by rw [zm_S31, if_neg (zn_in hk (by decide)), zn_cl k (by omega)]
theorem zm_r0 : za_I .int (mkM b M n) (b + 1) 0 = some (M.2 0 0) := zm_a0 b n M (k := 0) (by decide)
theorem zm_q0 (v : Int32) : zs_I .int (mkM b M n) (b + 1) 0 v = some (mkM b (zuA M 0 (upd (M.2 0) 0 v)) n) := zm_w0 b n M (k := 0) (by decide) v
theorem zm_r1 : za_I .int (mkM b M n) (b + 1) 1 = some (M.2 0 1) := zm_a0 b n M (k := 1) (by decide)
theorem zm_q1 (v : Int32) : zs_I .int (mkM b M n) (b + 1) 1 v = some (mkM b (zuA M 0 (upd (M.2 0) 1 v)) n) := zm_w0 b n M (k := 1) (by decide) v
theorem zm_r2 : za_I .int (mkM b M n) (b + 1) 2 = some (M.2 0 2) := zm_a0 b n M (k := 2) (by decide)
theorem zm_q2 (v : Int32) : zs_I .int (mkM b M n) (b + 1) 2 v = some (mkM b (zuA M 0 (upd (M.2 0) 2 v)) n) := zm_w0 b n M (k := 2) (by decide) v
theorem zm_r3 : za_I .int (mkM b M n) (b + 1) 3 = some (M.2 0 3) := zm_a0 b n M (k := 3) (by decide)
theorem zm_q3 (v : Int32) : zs_I .int (mkM b M n) (b + 1) 3 v = some (mkM b (zuA M 0 (upd (M.2 0) 3 v)) n) := zm_w0 b n M (k := 3) (by decide) v
theorem zm_r4 : za_I .int (mkM b M n) (b + 1) 4 = some (M.2 0 4) := zm_a0 b n M (k := 4) (by decide)
theorem zm_q4 (v : Int32) : zs_I .int (mkM b M n) (b + 1) 4 v = some (mkM b (zuA M 0 (upd (M.2 0) 4 v)) n) := zm_w0 b n M (k := 4) (by decide) v
theorem zm_wnt (v : Int32) : zs_I .int (mkM b M n) (b + 15) 116 v = some (mkM b (zuA M 26 (upd (M.2 26) 116 v)) n) := zm_w26 b n M (k := 116) (by decide) v
theorem zm_wns (v : Int32) : zs_I .int (mkM b M n) (b + 15) 115 v = some (mkM b (zuA M 26 (upd (M.2 26) 115 v)) n) := zm_w26 b n M (k := 115) (by decide) v
theorem zm_wnl (v : Int32) : zs_I .int (mkM b M n) (b + 15) 108 v = some (mkM b (zuA M 26 (upd (M.2 26) 108 v)) n) := zm_w26 b n M (k := 108) (by decide) v
theorem zm_wnn (v : Int32) : zs_I .int (mkM b M n) (b + 15) 110 v = some (mkM b (zuA M 26 (upd (M.2 26) 110 v)) n) := zm_w26 b n M (k := 110) (by decide) v
theorem zm_wnf (v : Int32) : zs_I .int (mkM b M n) (b + 15) 102 v = some (mkM b (zuA M 26 (upd (M.2 26) 102 v)) n) := zm_w26 b n M (k := 102) (by decide) v
theorem zm_pile0 : za_I .int (mkM b M n) (b + 16) 0 = some (M.2 27 0) := zm_a27 b n M (k := 0) (by decide)
end ZACM
section ZACC
variable (b : Nat) (u sen : Value) (C : zC) (n : Nat)
theorem zc_wa {q x : Nat} (hq : q < 4) (hx : x < 16) : za_I .int (mkC b u sen C n) (zwa b q) (Int32.ofNat x) = some (C.2.1 q x) := za_k (zc_wA b u sen C n hq) hx (by decide)
theorem zc_ww {q x : Nat} (hq : q < 4) (hx : x < 16) (v : Int32) : zs_I .int (mkC b u sen C n) (zwa b q) (Int32.ofNat x) v = some (mkC b u sen (ziA C q (upd (C.2.1 q) x v)) n) := by rw [zs_k (zc_wA b u sen C n hq) hx (by decide), zc_wS b u sen C n hq]
theorem zc_ra {q k a : Nat} (hq : q < 4) (hk : k < 9) (ha : C.2.2.1 q k = some a) : za_R "StoneSheets$Rubbing" (mkC b u sen C n) (zra b q) (Int32.ofNat k) = some a := zr_k (zc_rQ b u sen C n hq) hk (by decide) ha
theorem zc_rq {q k : Nat} (hq : q < 4) (hk : k < 9) : za_Q "StoneSheets$Rubbing" (mkC b u sen C n) (zra b q) (Int32.ofNat k) = some (C.2.2.1 q k) := zq_k (zc_rQ b u sen C n hq) hk (by decide)
theorem zc_rw {q k x c : Nat} {S : List Nat} (hq : q < 4) (hk : k < 9) (hS : zk_S S (mkC b u sen C n) x = some c) : zs_R "StoneSheets$Rubbing" S (mkC b u sen C n) (zra b q) (Int32.ofNat k) x = some (mkC b u sen (ziQ C q (va_up (C.2.2.1 q) k (some x))) n) := by rw [zw_k hS (zc_rQ b u sen C n hq) hk (by decide), zc_rS b u sen C n hq]
theorem zc_ta {q k a : Nat} (hq : q < 4) (hk : k < 14) (ha : C.2.2.1 (4 + q) k = some a) : za_R "StoneSheets$Text" (mkC b u sen C n) (zta b q) (Int32.ofNat k) = some a := zr_k (zc_tQ b u sen C n hq) hk (by decide) ha
theorem zc_tw {q k x c : Nat} {S : List Nat} (hq : q < 4) (hk : k < 14) (hS : zk_S S (mkC b u sen C n) x = some c) : zs_R "StoneSheets$Text" S (mkC b u sen C n) (zta b q) (Int32.ofNat k) x = some (mkC b u sen (ziQ C (4 + q) (va_up (C.2.2.1 (4 + q)) k (some x))) n) := by rw [zw_k hS (zc_tQ b u sen C n hq) hk (by decide), zc_tS b u sen C n hq]
theorem zc_sh {j : Nat} (hj : j < 4) : za_R "StoneSheets$Sheet" (mkC b u sen C n) (b + 22) (Int32.ofNat j) = some (b + (23 + j)) := zr_k (zc_shA b u sen C n) hj (by decide) (if_pos hj)
theorem zc_sl {j : Nat} (hj : j < 5) : za_R "StoneSheets$Slot" (mkC b u sen C n) (b + 27) (Int32.ofNat j) = some (b + (28 + j)) := zr_k (zc_slA b u sen C n) hj (by decide) (if_pos hj)
theorem zc_a17 {k : Nat} (hk : k < 96) : za_I .int (mkC b u sen C n) (b + 17) (Int32.ofNat k) = some (C.2.1 10 k) := za_k (zc_A17 b u sen C n) hk (by decide)
theorem zc_w17 {k : Nat} (hk : k < 96) (v : Int32) : zs_I .int (mkC b u sen C n) (b + 17) (Int32.ofNat k) v = some (mkC b u sen (ziA C 10 (upd (C.2.1 10) k v)) n) := by rw [zs_k (zc_A17 b u sen C n) hk (by decide), zc_ar17]
theorem zc_a18 {k : Nat} (hk : k < 96) : za_I .byte (mkC b u sen C n) (b + 18) (Int32.ofNat k) = some (C.2.1 11 k) := za_k (zc_A18 b u sen C n) hk (by decide)
theorem zc_w18 {k : Nat} (hk : k < 96) (v : Int32) : zs_I .byte (mkC b u sen C n) (b + 18) (Int32.ofNat k) v = some (mkC b u sen (ziA C 11 (upd (C.2.1 11) k v)) n) := by rw [zs_k (zc_A18 b u sen C n) hk (by decide), zc_ar18]
theorem zc_a20 {k : Nat} (hk : k < 128) : za_I .int (mkC b u sen C n) (b + 20) (Int32.ofNat k) = some (C.2.1 12 k) := za_k (zc_A20 b u sen C n) hk (by decide)
theorem zc_w20 {k : Nat} (hk : k < 128) (v : Int32) : zs_I .int (mkC b u sen C n) (b + 20) (Int32.ofNat k) v = some (mkC b u sen (ziA C 12 (upd (C.2.1 12) k v)) n) := by rw [zs_k (zc_A20 b u sen C n) hk (by decide), zc_ar20]
theorem zc_a21 {k : Nat} (hk : k < 9) : za_I .int (mkC b u sen C n) (b + 21) (Int32.ofNat k) = some (C.2.1 13 k) := za_k (zc_A21 b u sen C n) hk (by decide)
theorem zc_w21 {k : Nat} (hk : k < 9) (v : Int32) : zs_I .int (mkC b u sen C n) (b + 21) (Int32.ofNat k) v = some (mkC b u sen (ziA C 13 (upd (C.2.1 13) k v)) n) := by rw [zs_k (zc_A21 b u sen C n) hk (by decide), zc_ar21]
theorem zc_a34 {k : Nat} (hk : k < 60) : za_I .int (mkC b u sen C n) (b + 34) (Int32.ofNat k) = some (C.2.1 14 k) := za_k (zc_A34 b u sen C n) hk (by decide)
theorem zc_w34 {k : Nat} (hk : k < 60) (v : Int32) : zs_I .int (mkC b u sen C n) (b + 34) (Int32.ofNat k) v = some (mkC b u sen (ziA C 14 (upd (C.2.1 14) k v)) n) := by rw [zs_k (zc_A34 b u sen C n) hk (by decide), zc_ar34]
theorem zc_a35 {k : Nat} (hk : k < 60) : za_I .int (mkC b u sen C n) (b + 35) (Int32.ofNat k) = some (C.2.1 15 k) := za_k (zc_A35 b u sen C n) hk (by decide)
theorem zc_w35 {k : Nat} (hk : k < 60) (v : Int32) : zs_I .int (mkC b u sen C n) (b + 35) (Int32.ofNat k) v = some (mkC b u sen (ziA C 15 (upd (C.2.1 15) k v)) n) := by rw [zs_k (zc_A35 b u sen C n) hk (by decide), zc_ar35]
theorem zc_wnt (v : Int32) : zs_I .int (mkC b u sen C n) (b + 20) 116 v = some (mkC b u sen (ziA C 12 (upd (C.2.1 12) 116 v)) n) := zc_w20 b u sen C n (k := 116) (by decide) v
theorem zc_wns (v : Int32) : zs_I .int (mkC b u sen C n) (b + 20) 115 v = some (mkC b u sen (ziA C 12 (upd (C.2.1 12) 115 v)) n) := zc_w20 b u sen C n (k := 115) (by decide) v
theorem zc_wnl (v : Int32) : zs_I .int (mkC b u sen C n) (b + 20) 108 v = some (mkC b u sen (ziA C 12 (upd (C.2.1 12) 108 v)) n) := zc_w20 b u sen C n (k := 108) (by decide) v
theorem zc_wnn (v : Int32) : zs_I .int (mkC b u sen C n) (b + 20) 110 v = some (mkC b u sen (ziA C 12 (upd (C.2.1 12) 110 v)) n) := zc_w20 b u sen C n (k := 110) (by decide) v
theorem zc_wnf (v : Int32) : zs_I .int (mkC b u sen C n) (b + 20) 102 v = some (mkC b u sen (ziA C 12 (upd (C.2.1 12) 102 v)) n) := zc_w20 b u sen C n (k := 102) (by decide) v
theorem zc_pile0 : za_I .int (mkC b u sen C n) (b + 17) 0 = some (C.2.1 10 0) := zc_a17 b u sen C n (k := 0) (by decide)
theorem zc_f {k : Nat} (hk : k < 24) : za_F (mkC b u sen C n) (b + 33) (Int32.ofNat k) = some (C.2.2.2.1 k) := zf_k (zc_cF b u sen C n) hk (by decide)
theorem zc_fw {k : Nat} (hk : k < 24) (v : UInt32) : zs_F (mkC b u sen C n) (b + 33) (Int32.ofNat k) v = some (mkC b u sen (ziF C (va_up C.2.2.2.1 k v)) n) := by rw [zsf_k (zc_cF b u sen C n) hk (by decide), zc_cS]
theorem zc_hQ {j : Nat} (hj : j < 4) : zg_Q [3] (mkC b u sen C n) (b + (23 + j)) 0 = some (C.2.2.2.2.1 j) := by
  unfold zg_Q zg_V
  rw [zc_hO b u sen C n hj]
  show zv_Q (va_rf (C.2.2.2.2.1 j)) = _
  cases C.2.2.2.2.1 j <;> rfl
theorem zc_hR {j x : Nat} (hj : j < 4) (hx : C.2.2.2.2.1 j = some x) : zg_R [3] (mkC b u sen C n) (b + (23 + j)) 0 = some x := by
  unfold zg_R zg_V
  rw [zc_hO b u sen C n hj, hx]
  rfl
theorem zc_hP {j : Nat} (hj : j < 4) (x : Option Nat) : zp_V [3] (mkC b u sen C n) (b + (23 + j)) 0 (va_rf x) = some (mkC b u sen (ziO C j x) n) := by
  unfold zp_V
  rw [zc_hO b u sen C n hj, ← zc_hS b u sen C n hj]
  rfl
theorem zc_lQ {j : Nat} (hj : j < 5) : zg_Q [4] (mkC b u sen C n) (b + (28 + j)) 0 = some (C.2.2.2.2.1 (10 + j)) := by
  unfold zg_Q zg_V
  rw [zc_lO b u sen C n hj]
  show zv_Q (va_rf (C.2.2.2.2.1 (10 + j))) = _
  cases C.2.2.2.2.1 (10 + j) <;> rfl
theorem zc_lR {j x : Nat} (hj : j < 5) (hx : C.2.2.2.2.1 (10 + j) = some x) : zg_R [4] (mkC b u sen C n) (b + (28 + j)) 0 = some x := by
  unfold zg_R zg_V
  rw [zc_lO b u sen C n hj, hx]
  rfl
theorem zc_lP {j : Nat} (hj : j < 5) (x : Option Nat) : zp_V [4] (mkC b u sen C n) (b + (28 + j)) 0 (va_rf x) = some (mkC b u sen (ziO C (10 + j) x) n) := by
  unfold zp_V
  rw [zc_lO b u sen C n hj, ← zc_lS b u sen C n hj]
  rfl
theorem zc_dO {a : Nat} {x : Nat × List Value} (ha : b + 36 ≤ a) (h : C.2.2.2.2.2 a = some (.inr x)) : zh_O (mkC b u sen C n) a = some x := by
  unfold zh_O
  rw [zc_dyn b u sen C n ha, h]
theorem zc_dRb {a k : Nat} {R : Nat → Int32} (ha : b + 36 ≤ a) (hk : k < 6) (h : C.2.2.2.2.2 a = some (.inr (6 + k, zRf R))) : zRb (mkC b u sen C n) a k R := ⟨(zc_dyn b u sen C n ha).trans h, hk⟩
end ZACC
