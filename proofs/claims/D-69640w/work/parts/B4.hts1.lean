/-! heights: bits -/
set_option maxRecDepth 100000
theorem band_n {a b : Nat} (ha : a < 2 ^ 63) (hb : b < 2 ^ 63) : band (a : Int) (b : Int) = ((a &&& b : Nat) : Int) := by
  unfold band
  have h1 : a % 2 ^ 64 = a := Nat.mod_eq_of_lt (by omega)
  have h2 : b % 2 ^ 64 = b := Nat.mod_eq_of_lt (by omega)
  have h3 : a &&& b ≤ a := Nat.and_le_left
  rw [BitVec.ofInt_natCast, BitVec.ofInt_natCast, BitVec.toInt_eq_toNat_of_lt]
  · rw [BitVec.toNat_and, BitVec.toNat_ofNat, BitVec.toNat_ofNat, h1, h2]
  · rw [BitVec.toNat_and, BitVec.toNat_ofNat, BitVec.toNat_ofNat, h1, h2]
    omega
theorem bor_n {a b : Nat} (ha : a < 2 ^ 63) (hb : b < 2 ^ 63) : bor (a : Int) (b : Int) = ((a ||| b : Nat) : Int) := by
  unfold bor
  have h1 : a % 2 ^ 64 = a := Nat.mod_eq_of_lt (by omega)
  have h2 : b % 2 ^ 64 = b := Nat.mod_eq_of_lt (by omega)
  have h3 : a ||| b < 2 ^ 63 := Nat.or_lt_two_pow ha hb
  rw [BitVec.ofInt_natCast, BitVec.ofInt_natCast, BitVec.toInt_eq_toNat_of_lt]
  · rw [BitVec.toNat_or, BitVec.toNat_ofNat, BitVec.toNat_ofNat, h1, h2]
  · rw [BitVec.toNat_or, BitVec.toNat_ofNat, BitVec.toNat_ofNat, h1, h2]
    omega
theorem ishr_n {a h : Nat} (hh : h < 32) : ishr (a : Int) (h : Int) = ((a / 2 ^ h : Nat) : Int) := by
  unfold ishr
  rw [show ((h : Int) % 32).toNat = h by omega]
  exact (Int.natCast_ediv a (2 ^ h)).symm ▸ by push_cast; rfl
theorem lshr_n {a h : Nat} (hh : h < 64) : lshr (a : Int) (h : Int) = ((a / 2 ^ h : Nat) : Int) := by
  unfold lshr
  rw [show ((h : Int) % 64).toNat = h by omega]
  exact (Int.natCast_ediv a (2 ^ h)).symm ▸ by push_cast; rfl
theorem ishl_1 {h : Nat} (hh : h < 31) : ishl 1 (h : Int) = ((2 ^ h : Nat) : Int) := by
  unfold ishl w32
  rw [show ((h : Int) % 32).toNat = h by omega, Int.one_mul]
  have h1 : 2 ^ h < 2 ^ 31 := Nat.pow_lt_pow_right (by decide) hh
  have h2 : ((2 : Int) ^ h) = ((2 ^ h : Nat) : Int) := by push_cast; rfl
  rw [h2]
  generalize 2 ^ h = m at *
  omega
theorem lshl_1 {h : Nat} (hh : h < 63) : lshl 1 (h : Int) = ((2 ^ h : Nat) : Int) := by
  unfold lshl w64
  rw [show ((h : Int) % 64).toNat = h by omega, Int.one_mul]
  have h1 : 2 ^ h < 2 ^ 63 := Nat.pow_lt_pow_right (by decide) hh
  have h2 : ((2 : Int) ^ h) = ((2 ^ h : Nat) : Int) := by push_cast; rfl
  rw [h2]
  generalize 2 ^ h = m at *
  omega
theorem tb_b {a h : Nat} : (a / 2 ^ h) &&& 1 = (if a.testBit h then 1 else 0) := by
  rw [Nat.and_one_is_mod, Nat.testBit_eq_decide_div_mod_eq]
  by_cases e : a / 2 ^ h % 2 = 1
  · rw [if_pos (by simpa using e)]; exact e
  · rw [if_neg (by simpa using e)]; omega
theorem tb_i {a h : Nat} (ha : a < 2 ^ 31) (hh : h < 32) : band (ishr (a : Int) (h : Int)) 1 = ib (a.testBit h = true) := by
  have h1 : a / 2 ^ h ≤ a := Nat.div_le_self _ _
  rw [ishr_n hh, show (1 : Int) = ((1 : Nat) : Int) from rfl, band_n (by omega) (by decide), tb_b]
  by_cases e : a.testBit h = true
  · rw [if_pos e, ib_t e]; rfl
  · rw [if_neg e, ib_f e]; rfl
theorem tb_l {a h : Nat} (ha : a < 2 ^ 63) (hh : h < 64) : band (lshr (a : Int) (h : Int)) 1 = ib (a.testBit h = true) := by
  have h1 : a / 2 ^ h ≤ a := Nat.div_le_self _ _
  rw [lshr_n hh, show (1 : Int) = ((1 : Nat) : Int) from rfl, band_n (by omega) (by decide), tb_b]
  by_cases e : a.testBit h = true
  · rw [if_pos e, ib_t e]; rfl
  · rw [if_neg e, ib_f e]; rfl
theorem tb_or {a h j : Nat} : (a ||| 2 ^ h).testBit j = true ↔ (a.testBit j = true ∨ j = h) := by
  rw [Nat.testBit_or, Nat.testBit_two_pow, Bool.or_eq_true, decide_eq_true_iff]
  constructor
  · rintro (x | x)
    · exact Or.inl x
    · exact Or.inr x.symm
  · rintro (x | x)
    · exact Or.inl x
    · exact Or.inr x.symm
theorem or_gt {a h : Nat} (hb : ¬ a.testBit h = true) : a < a ||| 2 ^ h := by
  have h1 : a ≤ a ||| 2 ^ h := Nat.left_le_or
  have h2 : a ≠ a ||| 2 ^ h := fun e => hb (by rw [e, tb_or]; exact Or.inr rfl)
  omega
theorem tb_lt {a h : Nat} (ha : a < 512) (hb : a.testBit h = true) : h < 9 := by
  by_cases e : h < 9
  · exact e
  · have : a < 2 ^ h := Nat.lt_of_lt_of_le ha (Nat.pow_le_pow_right (n := 2) (by decide) (show 9 ≤ h by omega))
    rw [Nat.testBit_lt_two_pow this] at hb
    cases hb
theorem or_512 {a h : Nat} (ha : a < 512) (hh : h < 9) : a ||| 2 ^ h < 512 := Nat.or_lt_two_pow (n := 9) ha (Nat.pow_lt_pow_right (by decide) hh)
/-- no bit, one bit or more -/
theorem one_d : ∀ a : Nat, a < 512 → ((a &&& (a - 1) = 0) ↔ ∀ h : Nat, h < 9 → ∀ h' : Nat, h' < 9 → a.testBit h = true → a.testBit h' = true → h = h') := by decide +kernel
theorem one_b : ∀ a : Nat, a < 512 → ∀ h : Nat, h < 9 → (a = 2 ^ h ↔ (a.testBit h = true ∧ ∀ h' : Nat, h' < 9 → a.testBit h' = true → h' = h)) := by decide +kernel
theorem zer_b : ∀ a : Nat, a < 512 → (a = 0 ↔ ∀ h : Nat, h < 9 → ¬ a.testBit h = true) := by decide +kernel
