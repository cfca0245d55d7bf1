/-! NUMBERS: an int as zI of an integer, a boolean as zB, a long as lI -/
def zI (z : Int) : Int32 := Int32.ofInt z
def zB (b : Bool) : Int32 := zI (if b = true then 1 else 0)
def lI (z : Int) : Int64 := Int64.ofInt z
abbrev zR (z : Int) : Prop := -2147483648 ≤ z ∧ z ≤ 2147483647
theorem zI_toInt {a : Int} (h : zR a) : (zI a).toInt = a := Int32.toInt_ofInt_of_le (by have := h.1; omega) (by have := h.2; omega)
theorem zI_of (x : Int32) : zI x.toInt = x := Int32.ofInt_toInt x
theorem zR_of (x : Int32) : zR x.toInt := ⟨by have := x.le_toInt; omega, by have := x.toInt_lt; omega⟩
theorem zI_nI (n : Nat) : zI (n : Int) = nI n := Int32.ofInt_eq_ofNat
theorem zI_add (a b : Int) : zI a + zI b = zI (a + b) := (Int32.ofInt_add a b).symm
theorem zI_sub (a b : Int) : zI a - zI b = zI (a - b) := (Int32.ofInt_sub a b).symm
theorem zI_mul (a b : Int) : zI a * zI b = zI (a * b) := (Int32.ofInt_mul a b).symm
theorem zI_neg (a : Int) : -(zI a) = zI (-a) := (Int32.ofInt_neg a).symm
theorem zI_inj {a b : Int} (ha : zR a) (hb : zR b) (h : zI a = zI b) : a = b := by
  have := congrArg Int32.toInt h
  rwa [zI_toInt ha, zI_toInt hb] at this
theorem zI_eq {a b : Int} (ha : zR a) (hb : zR b) : zI a = zI b ↔ a = b := ⟨zI_inj ha hb, fun h => by rw [h]⟩
theorem zI_le {a b : Int} (ha : zR a) (hb : zR b) : zI a ≤ zI b ↔ a ≤ b := by rw [Int32.le_iff_toInt_le, zI_toInt ha, zI_toInt hb]
theorem zI_lt {a b : Int} (ha : zR a) (hb : zR b) : zI a < zI b ↔ a < b := by rw [Int32.lt_iff_toInt_lt, zI_toInt ha, zI_toInt hb]
theorem zI_0 : (0 : Int32) = zI 0 := rfl
theorem zR_0 : zR 0 := ⟨by decide, by decide⟩
theorem zI_clamp {a : Int} (h : zR a) : (zI a).toNatClampNeg = a.toNat := Int32.toNatClampNeg_ofInt_of_le (by have := h.1; omega) (by have := h.2; omega)
theorem zI_clampN {n : Nat} (h : n < 2147483648) : (zI (n : Int)).toNatClampNeg = n := by
  rw [zI_clamp ⟨by omega, by omega⟩]; omega
theorem zI_in {i n : Nat} (h : i < n) (hn : n ≤ 2147483647) : vp_in (zI (i : Int)) n := by
  intro q
  rcases q with q | q
  · rw [zI_0, zI_lt ⟨by omega, by omega⟩ zR_0] at q; omega
  · rw [zI_clampN (by omega)] at q; omega
theorem zI_tdiv {a b : Int} (ha : zR a) (hb : zR b) (h : ¬ (a = -2147483648 ∧ b = -1)) : zI a / zI b = zI (a.tdiv b) := by
  apply Int32.toInt_inj.1
  by_cases h1 : b = -1
  · rw [Int32.toInt_div_of_ne_left _ _ (fun e => h ⟨by
      have := congrArg Int32.toInt e
      rw [zI_toInt ha] at this
      exact this, h1⟩), zI_toInt ha, zI_toInt hb, zI_toInt]
    subst h1
    have e : a.tdiv (-1) = -a := by simp
    rw [e]
    exact ⟨by omega, by omega⟩
  · rw [Int32.toInt_div_of_ne_right _ _ (fun e => h1 (by
      have := congrArg Int32.toInt e
      rw [zI_toInt hb] at this
      exact this)), zI_toInt ha, zI_toInt hb, zI_toInt]
    have h2 : (a.tdiv b).natAbs ≤ a.natAbs := by
      rw [Int.natAbs_tdiv]
      exact Nat.div_le_self _ _
    by_cases h3 : a.tdiv b = 2147483648
    · have h4 : a.natAbs = 2147483648 := by omega
      have h5 : a = -2147483648 := by omega
      subst h5
      have h6 : (-2147483648 : Int).tdiv b = 2147483648 := h3
      have h7 : b.natAbs = 1 := by
        have := Int.natAbs_tdiv (-2147483648) b
        rw [h6] at this
        have h8 : (2147483648 : Nat) = 2147483648 / b.natAbs := this
        rcases Nat.lt_or_ge b.natAbs 2 with q | q
        · rcases Nat.lt_or_ge b.natAbs 1 with q0 | q0
          · have : b.natAbs = 0 := by omega
            rw [this] at h8
            simp at h8
          · omega
        · have := Nat.div_le_div_left (a := 2147483648) q (by decide)
          omega
      have h8 : b = 1 := by omega
      subst h8
      simp at h6
    · exact ⟨by omega, by omega⟩
theorem zI_div {a b : Int} (ha : 0 ≤ a ∧ a ≤ 2147483647) (hb : 0 < b ∧ b ≤ 2147483647) : zI a / zI b = zI (a / b) := by
  rw [zI_tdiv ⟨by omega, by omega⟩ ⟨by omega, by omega⟩ (by omega), Int.tdiv_eq_ediv_of_nonneg ha.1]
theorem zI_rem {a b : Int} (ha : 0 ≤ a ∧ a ≤ 2147483647) (hb : 0 < b ∧ b ≤ 2147483647) : zI a - zI a / zI b * zI b = zI (a % b) := by
  rw [zI_div ha hb, zI_mul, zI_sub]
  congr 1
  rw [Int.emod_def, Int.mul_comm]
theorem zI_trem {a b : Int} (ha : zR a) (hb : zR b) (h : ¬ (a = -2147483648 ∧ b = -1)) : zI a - zI a / zI b * zI b = zI (a.tmod b) := by
  rw [zI_tdiv ha hb h, zI_mul, zI_sub]
  congr 1
  rw [Int.tmod_def, Int.mul_comm]
theorem zI_bv (a : Int) : (zI a).toBitVec = BitVec.ofInt 32 a := rfl
theorem zI_nbv (n : Nat) : (zI (n : Int)).toBitVec = BitVec.ofNat 32 n := by
  rw [zI_bv]; exact BitVec.ofInt_natCast ..
theorem zI_and {a b : Nat} : zI (a : Int) &&& zI (b : Int) = zI ((a &&& b : Nat) : Int) := by
  apply Int32.toBitVec.inj
  rw [Int32.toBitVec_and, zI_nbv, zI_nbv, zI_nbv, BitVec.ofNat_and]
theorem zI_or {a b : Nat} : zI (a : Int) ||| zI (b : Int) = zI ((a ||| b : Nat) : Int) := by
  apply Int32.toBitVec.inj
  rw [Int32.toBitVec_or, zI_nbv, zI_nbv, zI_nbv, BitVec.ofNat_or]
theorem zI_xor {a b : Nat} : zI (a : Int) ^^^ zI (b : Int) = zI ((a ^^^ b : Nat) : Int) := by
  apply Int32.toBitVec.inj
  rw [Int32.toBitVec_xor, zI_nbv, zI_nbv, zI_nbv, BitVec.ofNat_xor]
