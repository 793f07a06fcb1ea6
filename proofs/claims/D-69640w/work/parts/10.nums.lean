/-! the machine's numbers and the model's -/
def r32 (x : Int) : Prop := -2147483648 ≤ x ∧ x ≤ 2147483647
def r64 (x : Int) : Prop := -9223372036854775808 ≤ x ∧ x ≤ 9223372036854775807
theorem nb_w32 (x : Int) : w32 x = Int.bmod x (2 ^ 32) := by
  unfold w32
  rw [Int.bmod_def]
  split <;> omega
theorem nb_w64 (x : Int) : w64 x = Int.bmod x (2 ^ 64) := by
  unfold w64
  rw [Int.bmod_def]
  split <;> omega
theorem nb_w8 (x : Int) : w8 x = Int.bmod x (2 ^ 8) := by
  unfold w8
  rw [Int.bmod_def]
  split <;> omega
theorem r32_w (x : Int) : r32 (w32 x) := by unfold r32 w32; omega
theorem r64_w (x : Int) : r64 (w64 x) := by unfold r64 w64; omega
theorem w32_id {x : Int} (h : r32 x) : w32 x = x := by unfold r32 at h; unfold w32; omega
theorem w64_id {x : Int} (h : r64 x) : w64 x = x := by unfold r64 at h; unfold w64; omega
theorem nb_i (x : Int) : (Int32.ofInt x).toInt = w32 x := by rw [nb_w32]; exact Int32.toInt_ofInt
theorem nb_l (x : Int) : (Int64.ofInt x).toInt = w64 x := by rw [nb_w64]; exact Int64.toInt_ofInt
theorem nb_id {x : Int} (h : r32 x) : (Int32.ofInt x).toInt = x := by rw [nb_i, w32_id h]
theorem nb_ld {x : Int} (h : r64 x) : (Int64.ofInt x).toInt = x := by rw [nb_l, w64_id h]
theorem nb_ew (x : Int) : Int32.ofInt (w32 x) = Int32.ofInt x := by
  apply Int32.toInt_inj.mp
  rw [nb_i, nb_i, w32_id (r32_w x)]
theorem nb_lw (x : Int) : Int64.ofInt (w64 x) = Int64.ofInt x := by
  apply Int64.toInt_inj.mp
  rw [nb_l, nb_l, w64_id (r64_w x)]
theorem nb_inj {x y : Int} (hx : r32 x) (hy : r32 y) : Int32.ofInt x = Int32.ofInt y ↔ x = y := by
  rw [← Int32.toInt_inj, nb_id hx, nb_id hy]
theorem nb_lt {x y : Int} (hx : r32 x) (hy : r32 y) : Int32.ofInt x < Int32.ofInt y ↔ x < y := by
  rw [Int32.lt_iff_toInt_lt, nb_id hx, nb_id hy]
theorem nb_le {x y : Int} (hx : r32 x) (hy : r32 y) : Int32.ofInt x ≤ Int32.ofInt y ↔ x ≤ y := by
  rw [Int32.le_iff_toInt_le, nb_id hx, nb_id hy]
theorem nb_linj {x y : Int} (hx : r64 x) (hy : r64 y) : Int64.ofInt x = Int64.ofInt y ↔ x = y := by
  rw [← Int64.toInt_inj, nb_ld hx, nb_ld hy]
theorem nb_llt {x y : Int} (hx : r64 x) (hy : r64 y) : Int64.ofInt x < Int64.ofInt y ↔ x < y := by
  rw [Int64.lt_iff_toInt_lt, nb_ld hx, nb_ld hy]
theorem nb_add (x y : Int) : Int32.ofInt x + Int32.ofInt y = Int32.ofInt (w32 (x + y)) := by rw [nb_ew, Int32.ofInt_add]
theorem nb_sub (x y : Int) : Int32.ofInt x - Int32.ofInt y = Int32.ofInt (w32 (x - y)) := by rw [nb_ew, Int32.ofInt_sub]
theorem nb_mul (x y : Int) : Int32.ofInt x * Int32.ofInt y = Int32.ofInt (w32 (x * y)) := by rw [nb_ew, Int32.ofInt_mul]
theorem nb_neg (x : Int) : - Int32.ofInt x = Int32.ofInt (w32 (-x)) := by rw [nb_ew, Int32.ofInt_neg]
theorem nb_ladd (x y : Int) : Int64.ofInt x + Int64.ofInt y = Int64.ofInt (w64 (x + y)) := by rw [nb_lw, Int64.ofInt_add]
theorem nb_lsub (x y : Int) : Int64.ofInt x - Int64.ofInt y = Int64.ofInt (w64 (x - y)) := by rw [nb_lw, Int64.ofInt_sub]
theorem nb_lmul (x y : Int) : Int64.ofInt x * Int64.ofInt y = Int64.ofInt (w64 (x * y)) := by rw [nb_lw, Int64.ofInt_mul]
theorem nb_lneg (x : Int) : - Int64.ofInt x = Int64.ofInt (w64 (-x)) := by rw [nb_lw, Int64.ofInt_neg]
theorem nb_div {x y : Int} (hx : r32 x) (hy : r32 y) : Int32.ofInt x / Int32.ofInt y = Int32.ofInt (w32 (x.tdiv y)) := by
  apply Int32.toInt_inj.mp
  rw [Int32.toInt_div, nb_id hx, nb_id hy, nb_id (r32_w _), nb_w32]
theorem nb_ldiv {x y : Int} (hx : r64 x) (hy : r64 y) : Int64.ofInt x / Int64.ofInt y = Int64.ofInt (w64 (x.tdiv y)) := by
  apply Int64.toInt_inj.mp
  rw [Int64.toInt_div, nb_ld hx, nb_ld hy, nb_ld (r64_w _), nb_w64]
theorem r32_tmod {x y : Int} (hx : r32 x) : r32 (x.tmod y) := by
  have h1 : (x.tmod y).natAbs = x.natAbs % y.natAbs := Int.natAbs_tmod x y
  have h2 := Nat.mod_le x.natAbs y.natAbs
  unfold r32 at hx ⊢
  by_cases hp : 0 ≤ x
  · have := Int.tmod_nonneg y hp
    omega
  · have : x.tmod y ≤ 0 := by
      have h3 := Int.tmod_nonneg y (a := -x) (by omega)
      rw [Int.neg_tmod] at h3
      omega
    omega
theorem nb_rem {x y : Int} (hx : r32 x) (hy : r32 y) : Int32.ofInt x - Int32.ofInt x / Int32.ofInt y * Int32.ofInt y = Int32.ofInt (x.tmod y) := by
  rw [nb_div hx hy, nb_ew, ← Int32.ofInt_mul, ← Int32.ofInt_sub]
  congr 1
  have := Int.tdiv_mul_add_tmod x y
  omega
theorem r64_32 {x : Int} (h : r32 x) : r64 x := by unfold r32 at h; unfold r64; omega
theorem bv_rng (v : BitVec 64) : r64 v.toInt := by
  have h1 := v.toInt_lt
  have h2 := v.le_toInt
  unfold r64
  omega
theorem bv_l (x : Int) : (Int64.ofInt x).toBitVec = BitVec.ofInt 64 x := Int64.toBitVec_ofInt x
theorem bv_i (x : Int) : (Int32.ofInt x).toBitVec = BitVec.ofInt 32 x := Int32.toBitVec_ofInt x
theorem nb_land (x y : Int) : Int64.ofInt x &&& Int64.ofInt y = Int64.ofInt (band x y) := by
  apply Int64.toBitVec_inj.mp
  rw [Int64.toBitVec_and, bv_l, bv_l, bv_l]
  unfold band
  rw [BitVec.ofInt_toInt]
theorem nb_lor (x y : Int) : Int64.ofInt x ||| Int64.ofInt y = Int64.ofInt (bor x y) := by
  apply Int64.toBitVec_inj.mp
  rw [Int64.toBitVec_or, bv_l, bv_l, bv_l]
  unfold bor
  rw [BitVec.ofInt_toInt]
theorem nb_lxor (x y : Int) : Int64.ofInt x ^^^ Int64.ofInt y = Int64.ofInt (bxor x y) := by
  apply Int64.toBitVec_inj.mp
  rw [Int64.toBitVec_xor, bv_l, bv_l, bv_l]
  unfold bxor
  rw [BitVec.ofInt_toInt]
theorem bv_se {x : Int} (h : r32 x) : BitVec.ofInt 64 x = (BitVec.ofInt 32 x).signExtend 64 := by
  apply BitVec.eq_of_toInt_eq
  rw [BitVec.toInt_signExtend_of_le (by omega), BitVec.toInt_ofInt, BitVec.toInt_ofInt, ← nb_w32, ← nb_w64, w32_id h, w64_id (r64_32 h)]
theorem bv_r32 (v : BitVec 32) : r32 v.toInt := by
  have h1 := v.toInt_lt
  have h2 := v.le_toInt
  unfold r32
  omega
theorem band_32 {x y : Int} (hx : r32 x) (hy : r32 y) : band x y = (BitVec.ofInt 32 x &&& BitVec.ofInt 32 y).toInt := by
  unfold band
  rw [bv_se hx, bv_se hy, ← BitVec.signExtend_and, BitVec.toInt_signExtend_of_le (by omega)]
theorem bor_32 {x y : Int} (hx : r32 x) (hy : r32 y) : bor x y = (BitVec.ofInt 32 x ||| BitVec.ofInt 32 y).toInt := by
  unfold bor
  rw [bv_se hx, bv_se hy, ← BitVec.signExtend_or, BitVec.toInt_signExtend_of_le (by omega)]
theorem bxor_32 {x y : Int} (hx : r32 x) (hy : r32 y) : bxor x y = (BitVec.ofInt 32 x ^^^ BitVec.ofInt 32 y).toInt := by
  unfold bxor
  rw [bv_se hx, bv_se hy, ← BitVec.signExtend_xor, BitVec.toInt_signExtend_of_le (by omega)]
theorem r32_and {x y : Int} (hx : r32 x) (hy : r32 y) : r32 (band x y) := by rw [band_32 hx hy]; exact bv_r32 _
theorem r32_or {x y : Int} (hx : r32 x) (hy : r32 y) : r32 (bor x y) := by rw [bor_32 hx hy]; exact bv_r32 _
theorem r32_xor {x y : Int} (hx : r32 x) (hy : r32 y) : r32 (bxor x y) := by rw [bxor_32 hx hy]; exact bv_r32 _
theorem nb_and {x y : Int} (hx : r32 x) (hy : r32 y) : Int32.ofInt x &&& Int32.ofInt y = Int32.ofInt (band x y) := by
  apply Int32.toBitVec_inj.mp
  rw [Int32.toBitVec_and, bv_i, bv_i, bv_i, band_32 hx hy, BitVec.ofInt_toInt]
theorem nb_or {x y : Int} (hx : r32 x) (hy : r32 y) : Int32.ofInt x ||| Int32.ofInt y = Int32.ofInt (bor x y) := by
  apply Int32.toBitVec_inj.mp
  rw [Int32.toBitVec_or, bv_i, bv_i, bv_i, bor_32 hx hy, BitVec.ofInt_toInt]
theorem nb_xor {x y : Int} (hx : r32 x) (hy : r32 y) : Int32.ofInt x ^^^ Int32.ofInt y = Int32.ofInt (bxor x y) := by
  apply Int32.toBitVec_inj.mp
  rw [Int32.toBitVec_xor, bv_i, bv_i, bv_i, bxor_32 hx hy, BitVec.ofInt_toInt]
theorem i32_r (v : Int32) : r32 v.toInt := bv_r32 v.toBitVec
theorem i64_r (v : Int64) : r64 v.toInt := bv_rng v.toBitVec
theorem sh_k (y : Int) : Int32.ofInt y &&& 31 = nI (y % 32).toNat := by
  rw [pk_and (Int32.ofInt y) (m := 31) 5 (by decide), bv_i, BitVec.toNat_ofInt]
  congr 1
  omega
theorem sh_s : ∀ j : Nat, j < 32 → ((nI j).toBitVec.smod 32).toNat = j := by decide
theorem sh_h (y : Int) : ((Int32.ofInt y &&& 31).toBitVec.smod 32).toNat = (y % 32).toNat := by
  rw [sh_k]
  exact sh_s _ (by omega)
theorem nb_shl (x y : Int) : Int32.ofInt x <<< (Int32.ofInt y &&& 31) = Int32.ofInt (ishl x y) := by
  unfold ishl
  rw [nb_ew]
  apply Int32.toBitVec_inj.mp
  apply BitVec.eq_of_toNat_eq
  rw [pk_shl _ _ _ (sh_h y), bv_i, bv_i, BitVec.toNat_ofInt, BitVec.toNat_ofInt]
  generalize (y % 32).toNat = k
  have h1 : ((((x % ((2 ^ 32 : Nat) : Int)).toNat * 2 ^ k % 2 ^ 32 : Nat)) : Int) = (x * 2 ^ k) % ((2 ^ 32 : Nat) : Int) := by
    rw [Int.natCast_emod, Int.natCast_mul, Int.toNat_of_nonneg (Int.emod_nonneg _ (by decide)), Int.natCast_pow, Int.mul_emod, Int.emod_emod, ← Int.mul_emod]
    rfl
  omega
theorem nb_shr {x : Int} (hx : r32 x) (y : Int) : Int32.ofInt x >>> (Int32.ofInt y &&& 31) = Int32.ofInt (ishr x y) := by
  apply Int32.toInt_inj.mp
  have h : (Int32.ofInt x >>> (Int32.ofInt y &&& 31)).toInt = ishr x y := by
    rw [pk_shr _ _ _ (sh_h y), nb_id hx, Int.shiftRight_eq_div_pow]
    unfold ishr
    rw [Int.natCast_pow]
    rfl
  rw [h, nb_id]
  rw [← h]
  exact i32_r _
theorem r32_shr {x : Int} (hx : r32 x) (y : Int) : r32 (ishr x y) := by
  have h : (Int32.ofInt x >>> (Int32.ofInt y &&& 31)).toInt = ishr x y := by
    rw [pk_shr _ _ _ (sh_h y), nb_id hx, Int.shiftRight_eq_div_pow]
    unfold ishr
    rw [Int.natCast_pow]
    rfl
  rw [← h]
  exact i32_r _
theorem nb_i2l {x : Int} (hx : r32 x) : (Int32.ofInt x).toInt64 = Int64.ofInt x := by
  apply Int64.toInt_inj.mp
  rw [Int32.toInt_toInt64, nb_id hx, nb_ld (r64_32 hx)]
theorem nb_l2i (x : Int) : (Int64.ofInt x).toInt32 = Int32.ofInt (w32 x) := by
  rw [nb_ew]
  apply Int32.toBitVec_inj.mp
  apply BitVec.eq_of_toNat_eq
  show ((Int64.ofInt x).toBitVec.signExtend 32).toNat = _
  rw [bv_i, bv_l]
  simp only [BitVec.signExtend_eq_setWidth_of_le _ (show 32 ≤ 64 by decide), BitVec.toNat_setWidth, BitVec.toNat_ofInt]
  omega
theorem nb_i2b {x : Int} (hx : r32 x) : (Int32.ofInt x).toInt8.toInt32 = Int32.ofInt (w8 x) := by
  apply Int32.toInt_inj.mp
  rw [Int8.toInt_toInt32, Int32.toInt_toInt8, nb_id hx, nb_id, nb_w8]
  unfold r32 w8
  omega
theorem r32_w8 (x : Int) : r32 (w8 x) := by unfold r32 w8; omega
theorem lsh_k (y : Int) (hy : r32 y) : (Int32.ofInt y).toInt64 &&& 63 = Int64.ofInt (y % 64) := by
  rw [nb_i2l hy]
  apply Int64.toBitVec_inj.mp
  rw [Int64.toBitVec_and, bv_l, bv_l]
  apply BitVec.eq_of_toNat_eq
  rw [BitVec.toNat_and, BitVec.toNat_ofInt, BitVec.toNat_ofInt]
  show (y % ((2 ^ 64 : Nat) : Int)).toNat &&& (2 ^ 6 - 1) = _
  rw [Nat.and_two_pow_sub_one_eq_mod]
  omega
theorem lsh_s : ∀ j : Nat, j < 64 → ((Int64.ofInt (j : Int)).toBitVec.smod 64).toNat = j := by decide
theorem lsh_h (y : Int) (hy : r32 y) : (((Int32.ofInt y).toInt64 &&& 63).toBitVec.smod 64).toNat = (y % 64).toNat := by
  rw [lsh_k y hy]
  have := lsh_s (y % 64).toNat (by omega)
  rwa [Int.toNat_of_nonneg (by omega)] at this
theorem nb_lshl (x y : Int) (hy : r32 y) : Int64.ofInt x <<< ((Int32.ofInt y).toInt64 &&& 63) = Int64.ofInt (lshl x y) := by
  unfold lshl
  rw [nb_lw]
  apply Int64.toBitVec_inj.mp
  apply BitVec.eq_of_toNat_eq
  rw [Int64.toBitVec_shiftLeft, BitVec.shiftLeft_eq', BitVec.toNat_shiftLeft, lsh_h y hy, bv_l, bv_l, BitVec.toNat_ofInt, BitVec.toNat_ofInt, Nat.shiftLeft_eq]
  generalize (y % 64).toNat = k
  have h1 : ((((x % ((2 ^ 64 : Nat) : Int)).toNat * 2 ^ k % 2 ^ 64 : Nat)) : Int) = (x * 2 ^ k) % ((2 ^ 64 : Nat) : Int) := by
    rw [Int.natCast_emod, Int.natCast_mul, Int.toNat_of_nonneg (Int.emod_nonneg _ (by decide)), Int.natCast_pow, Int.mul_emod, Int.emod_emod, ← Int.mul_emod]
    rfl
  omega
theorem lshr_t {x : Int} (hx : r64 x) (y : Int) (hy : r32 y) : (Int64.ofInt x >>> ((Int32.ofInt y).toInt64 &&& 63)).toInt = lshr x y := by
  show (Int64.ofInt x >>> ((Int32.ofInt y).toInt64 &&& 63)).toBitVec.toInt = _
  rw [Int64.toBitVec_shiftRight, BitVec.sshiftRight_eq', lsh_h y hy, BitVec.toInt_sshiftRight, Int.shiftRight_eq_div_pow]
  show (Int64.ofInt x).toInt / _ = _
  rw [nb_ld hx]
  unfold lshr
  rw [Int.natCast_pow]
  rfl
theorem nb_lshr {x : Int} (hx : r64 x) (y : Int) (hy : r32 y) : Int64.ofInt x >>> ((Int32.ofInt y).toInt64 &&& 63) = Int64.ofInt (lshr x y) := by
  apply Int64.toInt_inj.mp
  rw [lshr_t hx y hy, nb_ld]
  rw [← lshr_t hx y hy]
  exact i64_r _
theorem r64_shr {x : Int} (hx : r64 x) (y : Int) (hy : r32 y) : r64 (lshr x y) := by
  rw [← lshr_t hx y hy]
  exact i64_r _
theorem nb_cmp {x y : Int} (hx : r64 x) (hy : r64 y) : lg_cmp (Int64.ofInt x) (Int64.ofInt y) = Int32.ofInt (lcmp x y) := by
  unfold lg_cmp lcmp
  simp only [gt_iff_lt, nb_llt hy hx, nb_linj hx hy]
  split
  · rfl
  · split <;> rfl
theorem r32_cmp (x y : Int) : r32 (lcmp x y) := by
  unfold lcmp r32
  split
  · omega
  · split <;> omega
