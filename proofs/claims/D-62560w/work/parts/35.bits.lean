/-! BITS of longs -/
set_option maxRecDepth 100000
theorem J_bv (z : Int) : (J z).toBitVec = BitVec.ofInt 64 z := rfl
theorem J_nat {z : Int} (h1 : 0 ≤ z) (h2 : z < 9223372036854775808) : (J z).toBitVec.toNat = z.toNat := by
  rw [J_bv, BitVec.toNat_ofInt]
  have : z % ((2 ^ 64 : Nat) : Int) = z := Int.emod_eq_of_lt h1 (by omega)
  rw [this]
theorem J_of_nat {x : Int64} {z : Int} (h1 : 0 ≤ z) (h2 : z < 9223372036854775808) (h : x.toBitVec.toNat = z.toNat) : x = J z := by
  apply Int64.toBitVec_inj.mp
  apply BitVec.eq_of_toNat_eq
  rw [h, J_nat h1 h2]
theorem J_and {x : Int} {m : Nat} (h1 : 0 ≤ x) (h2 : x < 9223372036854775808) (hm : m < 63) : J x &&& J (2 ^ m - 1) = J (x % 2 ^ m) := by
  have hp : (2 : Int) ^ m = ((2 ^ m : Nat) : Int) := by simp
  have hpos : 0 < 2 ^ m := Nat.two_pow_pos m
  have hle : 2 ^ m ≤ 2 ^ 62 := Nat.pow_le_pow_right (by decide) (by omega)
  have hr : x % 2 ^ m = ((x.toNat % 2 ^ m : Nat) : Int) := by
    rw [hp]
    conv => lhs; rw [← Int.toNat_of_nonneg h1]
    rfl
  have hlt : x.toNat % 2 ^ m < 2 ^ m := Nat.mod_lt _ hpos
  refine J_of_nat (by rw [hr]; omega) (by rw [hr]; omega) ?_
  rw [Int64.toBitVec_and, BitVec.toNat_and, J_nat h1 h2, J_nat (by rw [hp]; omega) (by rw [hp]; omega)]
  have e : ((2 : Int) ^ m - 1).toNat = 2 ^ m - 1 := by rw [hp]; omega
  rw [e, Nat.and_two_pow_sub_one_eq_mod, hr]
  exact (Int.toNat_natCast _).symm
theorem J_shl (c : Int) {b : Int64} {s : Nat} (hb : b.toBitVec.smod 64 = BitVec.ofNat 64 s) (hs : s < 64) : J c <<< b = J (c * 2 ^ s) := by
  apply Int64.toBitVec_inj.mp
  rw [Int64.toBitVec_shiftLeft, hb]
  apply BitVec.eq_of_toNat_eq
  have e1 : (BitVec.ofNat 64 s).toNat = s := by simp; omega
  rw [BitVec.shiftLeft_eq', e1, BitVec.toNat_shiftLeft, Nat.shiftLeft_eq]
  rw [J_bv, J_bv, BitVec.toNat_ofInt, BitVec.toNat_ofInt]
  have h64 : ((2 ^ 64 : Nat) : Int) = 18446744073709551616 := by decide
  have hps : ((2 : Int) ^ s) = ((2 ^ s : Nat) : Int) := by simp
  have hnn : 0 ≤ c % ((2 ^ 64 : Nat) : Int) := Int.emod_nonneg _ (by decide)
  have hnn2 : 0 ≤ (c * 2 ^ s) % ((2 ^ 64 : Nat) : Int) := Int.emod_nonneg _ (by decide)
  apply Int.ofNat_inj.mp
  rw [Int.toNat_of_nonneg hnn2]
  rw [Int.natCast_emod, Int.natCast_mul, Int.toNat_of_nonneg hnn, ← hps]
  rw [Int.mul_emod, Int.emod_emod_of_dvd _ (Int.dvd_refl _), ← Int.mul_emod]
theorem J_shr {x : Int} (h1 : 0 ≤ x) (h2 : x < 9223372036854775808) {b : Int64} {s : Nat} (hb : b.toBitVec.smod 64 = BitVec.ofNat 64 s) (hs : s < 64) : J x >>> b = J (x / 2 ^ s) := by
  have hps : ((2 : Int) ^ s) = ((2 ^ s : Nat) : Int) := by simp
  have hq : x / 2 ^ s = ((x.toNat / 2 ^ s : Nat) : Int) := by
    rw [hps]
    conv => lhs; rw [← Int.toNat_of_nonneg h1]
    rfl
  have hle : x.toNat / 2 ^ s ≤ x.toNat := Nat.div_le_self _ _
  refine J_of_nat (by rw [hq]; exact Int.natCast_nonneg _) (by rw [hq]; exact Int.lt_of_le_of_lt (Int.ofNat_le.mpr hle) (by omega)) ?_
  rw [Int64.toBitVec_shiftRight, hb]
  have e1 : (BitVec.ofNat 64 s).toNat = s := by simp; omega
  have hm : (J x).toBitVec.msb = false := by
    rw [BitVec.msb_eq_false_iff_two_mul_lt, J_nat h1 h2]
    omega
  show ((J x).toBitVec.sshiftRight (BitVec.ofNat 64 s).toNat).toNat = _
  rw [e1, BitVec.sshiftRight_eq_of_msb_false hm, BitVec.toNat_ushiftRight, J_nat h1 h2, Nat.shiftRight_eq_div_pow, hq]
  exact (Int.toNat_natCast _).symm
theorem J_or {x y : Int} {s : Nat} (h1 : 0 ≤ x) (h2 : x < 2 ^ s) (h3 : 0 ≤ y) (h4 : x + y * 2 ^ s < 9223372036854775808) (hs : s < 63) : J x ||| J (y * 2 ^ s) = J (x + y * 2 ^ s) := by
  have hps : ((2 : Int) ^ s) = ((2 ^ s : Nat) : Int) := by simp
  have hnn : 0 ≤ y * 2 ^ s := Int.mul_nonneg h3 (by rw [hps]; omega)
  refine J_of_nat (by omega) h4 ?_
  rw [Int64.toBitVec_or, BitVec.toNat_or, J_nat h1 (by omega), J_nat hnn (by omega)]
  have e : (y * 2 ^ s).toNat = 2 ^ s * y.toNat := by
    rw [hps]
    apply Int.ofNat_inj.mp
    rw [Int.toNat_of_nonneg (by rw [← hps]; exact hnn), Int.natCast_mul, Int.toNat_of_nonneg h3, Int.mul_comm]
  have e2 : (x + y * 2 ^ s).toNat = 2 ^ s * y.toNat + x.toNat := by
    rw [Int.toNat_add h1 hnn, e, Nat.add_comm]
  have hx : x.toNat < 2 ^ s := by
    rw [hps] at h2; omega
  rw [e, e2, Nat.or_comm, ← Nat.two_pow_add_eq_or_of_lt hx]
/-- what a shift count is -/
theorem shc {s : Nat} (hs : s < 64) : ((N s).toInt64 &&& 63) = J s := by
  rw [N_long, wr_id (by omega) (by omega)]
  have e : (63 : Int64) = J (2 ^ 6 - 1) := rfl
  rw [e, J_and (by omega) (by omega) (by decide)]
  congr 1
  omega
theorem smd : ∀ s, s < 64 → (J (s : Nat)).toBitVec.smod 64 = BitVec.ofNat 64 s := by decide

