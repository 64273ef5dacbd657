-- PURE: floorMod
theorem fm_q {x : Int32} {K : Nat} (hK : 0 < K) (hK2 : K < 2147483648) : (x - x / nI K * nI K).toInt = x.toInt.tmod K := by
  have hx1 := x.toInt_lt
  have hx2 := x.le_toInt
  have h1 : (x - x / nI K * nI K).toInt = (x.toInt - x.toInt.tdiv K * K).bmod (2 ^ 32) := by
    rw [Int32.toInt_sub, Int32.toInt_mul, Int32.toInt_div, nI_toInt hK2]
    simp
  rw [h1]
  have h2 : x.toInt - x.toInt.tdiv K * K = x.toInt.tmod K := by
    have := Int.mul_tdiv_add_tmod x.toInt K
    rw [Int.mul_comm] at this
    omega
  rw [h2]
  have h3 : x.toInt.tmod K < K := Int.tmod_lt_of_pos _ (by omega)
  have h4 : -(K : Int) < x.toInt.tmod K := by
    have := Int.tmod_lt_of_pos (-x.toInt) (b := (K : Int)) (by omega)
    rw [Int.neg_tmod] at this
    omega
  rw [Int.bmod_eq_of_le (by omega) (by omega)]
theorem fm_nat (x : Int32) : (x.toBitVec.toNat : Int) = x.toInt ∨ ((x.toBitVec.toNat : Int) = x.toInt + 4294967296 ∧ x.toInt < 0) := by
  have h : x.toInt = x.toBitVec.toInt := rfl
  rw [h, BitVec.toInt_eq_toNat_cond]
  split
  · left; rfl
  · right
    have := x.toBitVec.isLt
    constructor <;> omega
theorem fm_sgn {x : Int32} {K : Nat} (hK2 : K < 2147483648) : x ^^^ nI K < 0 ↔ x < 0 := by
  have hz : ∀ y : Int32, y < 0 ↔ y.toBitVec.msb = true := by
    intro y
    rw [Int32.lt_iff_toInt_lt]
    show y.toBitVec.toInt < 0 ↔ _
    rw [BitVec.toInt_neg_iff, BitVec.msb_eq_decide]
    simp
    omega
  rw [hz, hz, Int32.toBitVec_xor, BitVec.msb_xor]
  have : (nI K).toBitVec.msb = false := by
    rw [BitVec.msb_eq_decide]
    show decide (2 ^ 31 ≤ (BitVec.ofNat 32 K).toNat) = false
    rw [BitVec.toNat_ofNat, Nat.mod_eq_of_lt (by omega)]
    simp; omega
  rw [this]; simp
theorem fm_and {x : Int32} (e : Nat) (he : e < 31) : x &&& nI (2 ^ e - 1) = nI (x.toBitVec.toNat % 2 ^ e) := by
  apply Int32.toBitVec_inj.mp
  apply BitVec.eq_of_toNat_eq
  rw [Int32.toBitVec_and, BitVec.toNat_and]
  show x.toBitVec.toNat &&& (BitVec.ofNat 32 (2 ^ e - 1)).toNat = (BitVec.ofNat 32 (x.toBitVec.toNat % 2 ^ e)).toNat
  have hp : 2 ^ e < 2 ^ 32 := Nat.pow_lt_pow_right (by decide) (by omega)
  have hm : x.toBitVec.toNat % 2 ^ e < 2 ^ e := Nat.mod_lt _ (Nat.pow_pos (by decide))
  rw [BitVec.toNat_ofNat, BitVec.toNat_ofNat, Nat.mod_eq_of_lt (by omega), Nat.mod_eq_of_lt (by omega), Nat.and_two_pow_sub_one_eq_mod]
theorem fm_p {x : Int32} {K : Nat} (hK : K = 4 ∨ K = 8192) (h : 0 ≤ x ^^^ nI K) : x - x / nI K * nI K = nI (x.toBitVec.toNat % K) := by
  have h0 : ¬ x < 0 := fun z => absurd h (Int32.not_le.mpr ((fm_sgn (by omega)).mpr z))
  have h1 : 0 ≤ x.toInt := by
    rw [Int32.lt_iff_toInt_lt] at h0
    have : (0 : Int32).toInt = 0 := by decide
    omega
  have hmk : x.toBitVec.toNat % K < 2147483648 := Nat.lt_trans (Nat.mod_lt _ (by omega)) (by omega)
  apply Int32.toInt_inj.mp
  rw [fm_q (by omega) (by omega), nI_toInt hmk, Int.tmod_eq_emod_of_nonneg h1]
  have := fm_nat x
  rcases hK with rfl | rfl <;> omega
theorem fm_z {x : Int32} {K : Nat} (hK : K = 4 ∨ K = 8192) (hz : x - x / nI K * nI K = 0) : x - x / nI K * nI K = nI (x.toBitVec.toNat % K) := by
  have h2 := fm_q (x := x) (K := K) (by omega) (by omega)
  rw [hz] at h2 ⊢
  have hd : (K : Int) ∣ x.toInt := Int.dvd_of_tmod_eq_zero (by rw [← h2]; decide)
  have h3 : x.toInt % K = 0 := Int.emod_eq_zero_of_dvd hd
  have := fm_nat x
  have h4 : x.toBitVec.toNat % K = 0 := by
    rcases hK with rfl | rfl <;> omega
  rw [h4]; rfl
theorem fm_n {x : Int32} {K : Nat} (hK : K = 4 ∨ K = 8192) (h : ¬ 0 ≤ x ^^^ nI K) (hz : ¬ x - x / nI K * nI K = 0) : x - x / nI K * nI K + nI K = nI (x.toBitVec.toNat % K) := by
  have h0 : x < 0 := (fm_sgn (by omega)).mp (Int32.not_le.mp h)
  have h1 : x.toInt < 0 := by
    rw [Int32.lt_iff_toInt_lt] at h0
    exact h0
  have h2 := fm_q (x := x) (K := K) (by omega) (by omega)
  have h6 : x.toInt.tmod K ≠ 0 := by
    rw [← h2]
    intro z
    exact hz (Int32.toInt_inj.mp z)
  have h3 : x.toInt.tmod K = -((-x.toInt) % K) := by
    have : x.toInt = -(-x.toInt) := by omega
    rw [this, Int.neg_tmod, Int.tmod_eq_emod_of_nonneg (by omega)]
    simp
  have hmk : x.toBitVec.toNat % K < 2147483648 := Nat.lt_trans (Nat.mod_lt _ (by omega)) (by omega)
  apply Int32.toInt_inj.mp
  rw [Int32.toInt_add, h2, nI_toInt (show K < 2147483648 by omega), nI_toInt hmk, h3]
  rw [h3] at h6
  have := fm_nat x
  have hx2 := x.le_toInt
  have hb : 0 ≤ (-x.toInt) % K ∧ (-x.toInt) % K < K := ⟨Int.emod_nonneg _ (by omega), Int.emod_lt_of_pos _ (by omega)⟩
  rw [Int.bmod_eq_of_le (by omega) (by omega)]
  rcases hK with rfl | rfl <;> omega
