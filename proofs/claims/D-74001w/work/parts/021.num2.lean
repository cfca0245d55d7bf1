/-! NUMBERS 2: shifts, masks, longs -/
theorem zI_sm : ∀ k : Fin 32, ((zI (k.val : Int) &&& 31).toBitVec.smod 32).toNat = k.val := by decide +kernel
theorem zI_um : ∀ k : Fin 32, (((zI (k.val : Int)).toUInt32 &&& Int32.toUInt32 31).toBitVec % 32).toNat = k.val := by decide +kernel
theorem zI_shl {k : Nat} (hk : k < 32) (a : Int) : zI a <<< (zI (k : Int) &&& 31) = zI (a * 2 ^ k) := by
  apply Int32.toBitVec.inj
  rw [Int32.toBitVec_shiftLeft, BitVec.shiftLeft_eq', zI_sm ⟨k, hk⟩, BitVec.shiftLeft_eq_mul_twoPow, zI_bv, zI_bv, BitVec.ofInt_mul]
  congr 1
  rw [show (2 ^ k : Int) = ((2 ^ k : Nat) : Int) by simp, BitVec.ofInt_natCast]
  apply BitVec.eq_of_toNat_eq
  simp [BitVec.toNat_twoPow]
theorem zI_shr {k : Nat} (hk : k < 32) {a : Int} (ha : zR a) : zI a >>> (zI (k : Int) &&& 31) = zI (a / 2 ^ k) := by
  have hp : (0 : Int) < 2 ^ k := by exact Int.pow_pos (by decide)
  have h1 : -2147483648 ≤ a / 2 ^ k := by
    rw [Int.le_ediv_iff_mul_le hp]
    have : (1 : Int) ≤ 2 ^ k := hp
    have := ha.1
    have h3 : (2147483648 : Int) * 1 ≤ 2147483648 * 2 ^ k := Int.mul_le_mul_of_nonneg_left ‹_› (by decide)
    omega
  have h2 : a / 2 ^ k ≤ 2147483647 := by
    rcases Int.lt_or_le a 0 with q | q
    · have := Int.ediv_neg_of_neg_of_pos q hp
      omega
    · have := Int.ediv_le_self (2 ^ k) q
      have := ha.2
      omega
  apply Int32.toInt_inj.1
  rw [zI_toInt ⟨h1, h2⟩]
  show (zI a >>> (zI (k : Int) &&& 31)).toBitVec.toInt = _
  rw [Int32.toBitVec_shiftRight, BitVec.sshiftRight_eq', zI_sm ⟨k, hk⟩, BitVec.toInt_sshiftRight]
  show (zI a).toInt >>> k = _
  rw [zI_toInt ha, Int.shiftRight_eq_div_pow]
  simp
theorem zI_ushr {k : Nat} (hk : k < 32) {a : Nat} (ha : a < 2147483648) : ((zI (a : Int)).toUInt32 >>> ((zI (k : Int)).toUInt32 &&& Int32.toUInt32 31)).toInt32 = zI ((a / 2 ^ k : Nat) : Int) := by
  apply Int32.toBitVec.inj
  show ((zI (a : Int)).toUInt32 >>> ((zI (k : Int)).toUInt32 &&& Int32.toUInt32 31)).toBitVec = _
  rw [UInt32.toBitVec_shiftRight, BitVec.ushiftRight_eq', zI_um ⟨k, hk⟩, zI_nbv]
  show (zI (a : Int)).toBitVec >>> k = _
  rw [zI_nbv]
  apply BitVec.eq_of_toNat_eq
  rw [BitVec.toNat_ushiftRight, BitVec.toNat_ofNat, BitVec.toNat_ofNat, Nat.shiftRight_eq_div_pow, Nat.mod_eq_of_lt (by omega), Nat.mod_eq_of_lt]
  have := Nat.div_le_self a (2 ^ k)
  omega
theorem zI_low (k : Nat) (hk : k ≤ 31) (a : Int) : zI a &&& zI ((2 ^ k - 1 : Nat) : Int) = zI (a % ((2 ^ k : Nat) : Int)) := by
  have hp : 0 < 2 ^ k := Nat.two_pow_pos k
  have hd : (2 ^ k : Nat) ∣ 4294967296 := by
    rw [show (4294967296 : Nat) = 2 ^ 32 by rfl]
    exact Nat.pow_dvd_pow 2 (by omega)
  have e1 : zI a = zI ((a % 4294967296).toNat : Nat) := by
    apply Int32.toInt_inj.1
    show (Int32.ofInt _).toInt = (Int32.ofInt _).toInt
    rw [Int32.toInt_ofInt, Int32.toInt_ofInt, Int.toNat_of_nonneg (Int.emod_nonneg _ (by decide))]
    exact (Int.emod_bmod a 4294967296).symm
  rw [e1, zI_and, Nat.and_two_pow_sub_one_eq_mod]
  congr 1
  rw [Int.natCast_emod, Int.toNat_of_nonneg (Int.emod_nonneg _ (by decide)), Int.emod_emod_of_dvd]
  exact Int.natCast_dvd_natCast.mpr hd
theorem zI_not (a : Int) : zI a ^^^ zI (-1) = zI (-a - 1) := by
  apply Int32.toBitVec.inj
  rw [Int32.toBitVec_xor]
  have e : (zI (-1)).toBitVec = BitVec.allOnes 32 := by decide
  rw [e, BitVec.xor_allOnes, ← zI_sub, ← zI_neg, Int32.toBitVec_sub, Int32.toBitVec_neg, BitVec.neg_eq_not_add]
  show _ = ~~~(zI a).toBitVec + 1#32 - 1#32
  rw [BitVec.add_sub_cancel]
/-- the bits of u that b has not -/
def zclr (u b : Nat) : Nat := u ^^^ (u &&& b)
theorem zI_andnot (u b : Nat) : zI (u : Int) &&& zI (-(b : Int) - 1) = zI ((zclr u b : Nat) : Int) := by
  rw [← zI_not]
  apply Int32.toBitVec.inj
  rw [Int32.toBitVec_and, Int32.toBitVec_xor, zI_nbv, zI_nbv, zI_nbv]
  have e : (zI (-1)).toBitVec = BitVec.allOnes 32 := by decide
  rw [e, BitVec.xor_allOnes]
  unfold zclr
  rw [BitVec.ofNat_xor, BitVec.ofNat_and]
  generalize BitVec.ofNat 32 u = x
  generalize BitVec.ofNat 32 b = y
  ext i hi
  rw [BitVec.getElem_and, BitVec.getElem_not, BitVec.getElem_xor, BitVec.getElem_and]
  cases x[i] <;> cases y[i] <;> rfl
abbrev lR (z : Int) : Prop := -9223372036854775808 ≤ z ∧ z ≤ 9223372036854775807
theorem lI_toInt {a : Int} (h : lR a) : (lI a).toInt = a := Int64.toInt_ofInt_of_le (by have := h.1; omega) (by have := h.2; omega)
theorem lI_add (a b : Int) : lI a + lI b = lI (a + b) := (Int64.ofInt_add a b).symm
theorem lI_sub (a b : Int) : lI a - lI b = lI (a - b) := (Int64.ofInt_sub a b).symm
theorem lI_mul (a b : Int) : lI a * lI b = lI (a * b) := (Int64.ofInt_mul a b).symm
theorem lI_inj {a b : Int} (ha : lR a) (hb : lR b) (h : lI a = lI b) : a = b := by
  have := congrArg Int64.toInt h
  rwa [lI_toInt ha, lI_toInt hb] at this
theorem lI_le {a b : Int} (ha : lR a) (hb : lR b) : lI a ≤ lI b ↔ a ≤ b := by rw [Int64.le_iff_toInt_le, lI_toInt ha, lI_toInt hb]
theorem lI_lt {a b : Int} (ha : lR a) (hb : lR b) : lI a < lI b ↔ a < b := by rw [Int64.lt_iff_toInt_lt, lI_toInt ha, lI_toInt hb]
theorem lI_i2l {a : Int} (h : zR a) : (zI a).toInt64 = lI a := Int32.toInt64_ofInt (show (-2147483648 : Int) ≤ a from h.1) (show a ≤ (2147483647 : Int) from h.2)
theorem lI_l2i (a : Int) : (lI a).toInt32 = zI a := Int64.toInt32_ofInt
theorem lI_div {a b : Int} (ha : 0 ≤ a ∧ a ≤ 9223372036854775807) (hb : 0 < b ∧ b ≤ 9223372036854775807) : lI a / lI b = lI (a / b) := by
  apply Int64.toInt_inj.1
  rw [Int64.toInt_div_of_ne_right _ _ (fun e => by
      have := congrArg Int64.toInt e
      rw [lI_toInt ⟨by omega, by omega⟩] at this
      have h2 : b = -1 := this
      omega), lI_toInt ⟨by omega, by omega⟩, lI_toInt ⟨by omega, by omega⟩, lI_toInt]
  · exact Int.tdiv_eq_ediv_of_nonneg ha.1
  · have h1 := Int.ediv_nonneg ha.1 (Int.le_of_lt hb.1)
    have h2 := Int.ediv_le_self b ha.1
    exact ⟨by omega, by omega⟩
theorem lI_rem {a b : Int} (ha : 0 ≤ a ∧ a ≤ 9223372036854775807) (hb : 0 < b ∧ b ≤ 9223372036854775807) : lI a - lI a / lI b * lI b = lI (a % b) := by
  rw [lI_div ha hb, lI_mul, lI_sub]
  congr 1
  rw [Int.emod_def, Int.mul_comm]
