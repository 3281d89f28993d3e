/-! PLAIN LAW, basics: small numbers; a rubbing's record and what it says, gains, loses, is worth, covers -/
set_option maxRecDepth 100000
theorem zn_nn (n : Nat) (h : n < 2147483648) : ¬ (Int32.ofNat n < 0) := by
  rw [Int32.lt_iff_toInt_lt, Int32.toInt_ofNat_of_lt (by omega)]
  simp
theorem zn_cl (n : Nat) (h : n < 2147483648) : (Int32.ofNat n).toNatClampNeg = n := by
  show (Int32.ofNat n).toInt.toNat = n
  rw [Int32.toInt_ofNat_of_lt (by omega)]
  rfl
theorem zn_in {n N : Nat} (h : n < N) (hN : N < 2147483648) : ¬ (Int32.ofNat n < 0 ∨ N ≤ (Int32.ofNat n).toNatClampNeg) := by
  rw [zn_cl n (by omega)]
  have := zn_nn n (by omega)
  intro h2
  rcases h2 with h3 | h3
  · exact this h3
  · omega
theorem zn_of (i : Int32) (h : ¬ i < 0) : ∃ n : Nat, n < 2147483648 ∧ i = Int32.ofNat n := by
  refine ⟨i.toNatClampNeg, ?_, ?_⟩
  · have h0 := zcl_nn i h
    have := i.toInt_lt
    omega
  · have h0 := zcl_nn i h
    apply Int32.toInt_inj.mp
    rw [h0, Int32.toInt_ofNat_of_lt]
    have := i.toInt_lt
    omega
theorem zn_le {a b : Nat} (ha : a < 2147483648) (hb : b < 2147483648) : Int32.ofNat a ≤ Int32.ofNat b ↔ a ≤ b := by
  rw [Int32.le_iff_toInt_le, Int32.toInt_ofNat_of_lt (by omega), Int32.toInt_ofNat_of_lt (by omega)]
  omega
theorem zn_lt {a b : Nat} (ha : a < 2147483648) (hb : b < 2147483648) : Int32.ofNat a < Int32.ofNat b ↔ a < b := by
  rw [Int32.lt_iff_toInt_lt, Int32.toInt_ofNat_of_lt (by omega), Int32.toInt_ofNat_of_lt (by omega)]
  omega
theorem zn_eq {a b : Nat} (ha : a < 2147483648) (hb : b < 2147483648) : Int32.ofNat a = Int32.ofNat b ↔ a = b := by
  constructor
  · intro h
    have := congrArg Int32.toNatClampNeg h
    rwa [zn_cl a ha, zn_cl b hb] at this
  · intro h; rw [h]
theorem zn_s (k : Nat) : Int32.ofNat k + 1 = Int32.ofNat (k + 1) := by rw [Int32.ofNat_add]; rfl
/-- v lies in lo..hi, as a number -/
def zb (p : Prop) [Decidable p] : Int32 := if p then 1 else 0
theorem zb_01 (p : Prop) [Decidable p] : zb p = 0 ∨ zb p = 1 := by
  unfold zb
  by_cases h : p
  · rw [if_pos h]; exact Or.inr rfl
  · rw [if_neg h]; exact Or.inl rfl
theorem zb_0 (p : Prop) [Decidable p] : zb p = 0 ↔ ¬ p := by
  unfold zb
  by_cases h : p
  · rw [if_pos h]; simp [h]
  · rw [if_neg h]; simp [h]
theorem zx_isIn (h : zT) (v lo hi : Int32) : f_X0_isIn h v lo hi = some (zb (lo ≤ v ∧ v ≤ hi), h) := by
  unfold f_X0_isIn zb
  by_cases h1 : v < lo
  · rw [if_pos h1, if_pos (Or.inl rfl), if_neg (fun q => Int32.not_le.mpr h1 q.1)]
  · rw [if_neg h1]
    by_cases h2 : hi < v
    · rw [if_pos h2, if_pos (Or.inl rfl), if_neg (fun q => Int32.not_le.mpr h2 q.2)]
    · rw [if_neg h2, if_pos (Or.inr rfl), if_pos ⟨Int32.not_lt.mp h1, Int32.not_lt.mp h2⟩]
theorem zlg_lt (a b : Int64) : lg_cmp a b < 0 ↔ a < b := by
  unfold lg_cmp
  by_cases h : a > b
  · rw [if_pos h]
    constructor
    · intro q; exact absurd q (by decide)
    · intro q; exact absurd (Int64.lt_asymm h q) id
  · rw [if_neg h]
    by_cases h2 : a = b
    · rw [if_pos h2]
      constructor
      · intro q; exact absurd q (by decide)
      · intro q; rw [h2] at q; exact absurd q (Int64.lt_irrefl)
    · rw [if_neg h2]
      constructor
      · intro _
        exact Int64.lt_of_le_of_ne (Int64.not_lt.mp h) h2
      · intro _; decide
theorem zlg_gt (a b : Int64) : 0 < lg_cmp a b ↔ b < a := by
  unfold lg_cmp
  by_cases h : a > b
  · rw [if_pos h]
    exact ⟨fun _ => h, fun _ => by decide⟩
  · rw [if_neg h]
    by_cases h2 : a = b
    · rw [if_pos h2]
      exact ⟨fun q => absurd q (by decide), fun q => absurd q h⟩
    · rw [if_neg h2]
      exact ⟨fun q => absurd q (by decide), fun q => absurd q h⟩
theorem zm_isIn (h : zT) (v lo hi : Int64) : f_X5_isIn h v lo hi = some (zb (lo ≤ v ∧ v ≤ hi), h) := by
  unfold f_X5_isIn zb
  by_cases h1 : v < lo
  · rw [if_pos ((zlg_lt v lo).mpr h1), if_pos (Or.inl rfl), if_neg (fun q => Int64.not_le.mpr h1 q.1)]
  · rw [if_neg (fun q => h1 ((zlg_lt v lo).mp q))]
    by_cases h2 : hi < v
    · rw [if_pos ((zlg_gt v hi).mpr h2), if_pos (Or.inl rfl), if_neg (fun q => Int64.not_le.mpr h2 q.2)]
    · rw [if_neg (fun q => h2 ((zlg_gt v hi).mp q)), if_pos (Or.inr rfl), if_pos ⟨Int64.not_lt.mp h1, Int64.not_lt.mp h2⟩]
theorem z64_le (a b : Int32) : a.toInt64 ≤ b.toInt64 ↔ a ≤ b := by
  rw [Int64.le_iff_toInt_le, Int32.toInt_toInt64, Int32.toInt_toInt64, Int32.le_iff_toInt_le]
theorem zm_isIn32 (h : zT) (v lo hi : Int32) : f_X5_isIn h v.toInt64 lo.toInt64 hi.toInt64 = some (zb (lo ≤ v ∧ v ≤ hi), h) := by
  rw [zm_isIn]
  congr 2
  unfold zb
  by_cases hc : lo ≤ v ∧ v ≤ hi
  · rw [if_pos hc, if_pos ⟨(z64_le _ _).mpr hc.1, (z64_le _ _).mpr hc.2⟩]
  · rw [if_neg hc, if_neg (fun q => hc ⟨(z64_le _ _).mp q.1, (z64_le _ _).mp q.2⟩)]
theorem zix_of (k w : Nat) : (21 : Int32) + (6 : Int32) * Int32.ofNat k + Int32.ofNat w = Int32.ofNat (21 + 6 * k + w) := by
  rw [Int32.ofNat_add, Int32.ofNat_add, Int32.ofNat_mul]
  rfl
theorem zm_of (b n : Nat) (M : zM) {k w : Nat} (hk : k < 9) (hw : w < 6) : f_X5_of (mkM b M n) b (Int32.ofNat k) (Int32.ofNat w) = some (M.2 0 (21 + 6 * k + w), mkM b M n) := by
  unfold f_X5_of
  rw [zm_R0, Option.bind_some, zix_of, zm_A0, if_neg (zn_in (by omega) (by decide)), zn_cl _ (by omega)]
  rfl
