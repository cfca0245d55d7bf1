/-! BITS counted, as the library counts them -/
def bc1 (x : Nat) : Nat := x - (x / 2 &&& 1431655765)
def bc2 (x : Nat) : Nat := (x &&& 858993459) + (x / 2 ^ 2 &&& 858993459)
def bc3 (x : Nat) : Nat := x + x / 2 ^ 4 &&& 252645135
def bcF (x : Nat) : Nat := (bc3 (bc2 (bc1 x)) + bc3 (bc2 (bc1 x)) / 2 ^ 8 + (bc3 (bc2 (bc1 x)) + bc3 (bc2 (bc1 x)) / 2 ^ 8) / 2 ^ 16) &&& 63
theorem and_split {a b c d : Nat} (hb : b < 256) (hd : d < 256) : (256 * a + b) &&& (256 * c + d) = 256 * (a &&& c) + (b &&& d) := by
  have h1 : b &&& d < 256 := Nat.lt_of_le_of_lt Nat.and_le_left hb
  apply Nat.eq_of_testBit_eq
  intro i
  have hp : (256 : Nat) = 2 ^ 8 := by decide
  rw [hp] at hb hd h1 ⊢
  rw [Nat.testBit_and, Nat.testBit_two_pow_mul_add _ hb, Nat.testBit_two_pow_mul_add _ hd, Nat.testBit_two_pow_mul_add _ h1]
  split
  · rw [Nat.testBit_and]
  · rw [Nat.testBit_and]
theorem bt_1 : ∀ l, l < 256 → ((l / 2 &&& 5592405) = (l / 2 &&& 1431655765) ∧ (l / 2 &&& 85) = (l / 2 &&& 1431655765) ∧ (128 + l / 2 &&& 85) = (l / 2 &&& 1431655765)) := by decide +kernel
theorem bt_2 : ∀ l, l < 256 → ((l &&& 3355443) = (l &&& 858993459) ∧ (l &&& 51) = (l &&& 858993459) ∧ (l / 4 &&& 3355443) = (l / 4 &&& 858993459) ∧ (l / 4 &&& 51) = (l / 4 &&& 858993459) ∧ (64 + l / 4 &&& 51) = (l / 4 &&& 858993459) ∧ (128 + l / 4 &&& 51) = (l / 4 &&& 858993459) ∧ (192 + l / 4 &&& 51) = (l / 4 &&& 858993459)) := by decide +kernel
theorem bt_3 : ∀ l, l < 256 → (bc1 l < 256 ∧ bc2 (bc1 l) < 256 ∧ bc2 (bc1 l) % 16 ≤ 4 ∧ bc2 (bc1 l) / 16 ≤ 4 ∧ bc3 (bc2 (bc1 l)) = pcf 8 l ∧ pcf 8 l ≤ 8) := by decide +kernel
theorem bt_4 : ∀ v, v < 128 → ((v + v / 16 &&& 986895) = (v + v / 16 &&& 252645135) ∧ (v + v / 16 &&& 15) = (v + v / 16 &&& 252645135) ∧ ∀ c, c < 5 → (v % 16 ≤ 4 ∧ v / 16 ≤ 4 → (v + (16 * c + v / 16) &&& 15) = (v + v / 16 &&& 252645135))) := by decide +kernel
theorem bc1_split {h l : Nat} (hh : h < 256) (hl : l < 256) : bc1 (256 * h + l) = 256 * bc1 h + bc1 l := by
  have e : (256 * h + l) / 2 = 256 * (h / 2) + (128 * (h % 2) + l / 2) := by omega
  have a1 := bt_1 h hh
  have a2 := bt_1 l hl
  have e2 : ((256 * h + l) / 2 &&& 1431655765) = 256 * (h / 2 &&& 1431655765) + (l / 2 &&& 1431655765) := by
    rw [e, show (1431655765 : Nat) = 256 * 5592405 + 85 by decide, and_split (by omega) (by omega)]
    rw [show (256 * 5592405 + 85 : Nat) = 1431655765 by decide, a1.1]
    rcases (show h % 2 = 0 ∨ h % 2 = 1 by omega) with q | q
    · rw [q, Nat.mul_zero, Nat.zero_add, a2.2.1]
    · rw [q, Nat.mul_one, a2.2.2]
  have b1 : (h / 2 &&& 1431655765) ≤ h / 2 := Nat.and_le_left
  have b2 : (l / 2 &&& 1431655765) ≤ l / 2 := Nat.and_le_left
  unfold bc1
  rw [e2]
  omega
theorem bc2_split {h l : Nat} (hh : h < 256) (hl : l < 256) : bc2 (256 * h + l) = 256 * bc2 h + bc2 l := by
  have e : (256 * h + l) / 2 ^ 2 = 256 * (h / 4) + (64 * (h % 4) + l / 4) := by omega
  have a1 := bt_2 h hh
  have a2 := bt_2 l hl
  have e1 : ((256 * h + l) &&& 858993459) = 256 * (h &&& 858993459) + (l &&& 858993459) := by
    rw [show (858993459 : Nat) = 256 * 3355443 + 51 by decide, and_split hl (by omega)]
    rw [show (256 * 3355443 + 51 : Nat) = 858993459 by decide, a1.1, a2.2.1]
  have e2 : ((256 * h + l) / 2 ^ 2 &&& 858993459) = 256 * (h / 4 &&& 858993459) + (l / 4 &&& 858993459) := by
    rw [e, show (858993459 : Nat) = 256 * 3355443 + 51 by decide, and_split (by omega) (by omega)]
    rw [show (256 * 3355443 + 51 : Nat) = 858993459 by decide, a1.2.2.1]
    rcases (show h % 4 = 0 ∨ h % 4 = 1 ∨ h % 4 = 2 ∨ h % 4 = 3 by omega) with q | q | q | q
    · rw [q, Nat.mul_zero, Nat.zero_add, a2.2.2.2.1]
    · rw [q, Nat.mul_one, a2.2.2.2.2.1]
    · rw [q, show 64 * 2 = 128 by decide, a2.2.2.2.2.2.1]
    · rw [q, show 64 * 3 = 192 by decide, a2.2.2.2.2.2.2]
  unfold bc2
  rw [e1, e2, show h / 2 ^ 2 = h / 4 by omega, show l / 2 ^ 2 = l / 4 by omega]
  omega
theorem bc3_split {h l : Nat} (h1 : h % 16 ≤ 4 ∧ h / 16 ≤ 4) (l1 : l % 16 ≤ 4 ∧ l / 16 ≤ 4) : bc3 (256 * h + l) = 256 * bc3 h + bc3 l := by
  have e : 256 * h + l + (256 * h + l) / 2 ^ 4 = 256 * (h + h / 16) + (l + (16 * (h % 16) + l / 16)) := by omega
  have a1 := bt_4 h (by omega)
  have a2 := (bt_4 l (by omega)).2.2 (h % 16) (by omega) l1
  unfold bc3
  rw [e, show (252645135 : Nat) = 256 * 986895 + 15 by decide, and_split (by omega) (by omega)]
  rw [show (256 * 986895 + 15 : Nat) = 252645135 by decide, a1.1, a2, show h / 2 ^ 4 = h / 16 by omega, show l / 2 ^ 4 = l / 16 by omega]
theorem pcf_split (m n x : Nat) : pcf (m + n) x = pcf m x + pcf n (x / 2 ^ m) := by
  induction m generalizing x with
  | zero => simp [pcf]
  | succ m ih =>
    rw [show m + 1 + n = m + n + 1 by omega]
    simp only [pcf]
    rw [ih (x / 2), Nat.div_div_eq_div_mul, show 2 * 2 ^ m = 2 ^ (m + 1) by rw [Nat.pow_succ, Nat.mul_comm]]
    omega
theorem pop_split {h l : Nat} (hh : h < 256) (hl : l < 256) : pop (256 * h + l) = pcf 8 h + pcf 8 l := by
  have h0 : ∀ y, pcf 24 y = pcf 8 y + pcf 16 (y / 2 ^ 8) := fun y => pcf_split 8 16 y
  have h1 : pop (256 * h + l) = pcf 8 (256 * h + l) + pcf 24 ((256 * h + l) / 2 ^ 8) := pcf_split 8 24 _
  have h2 : ∀ f a b, pcf f (2 ^ f * a + b) = pcf f b := by
    intro f
    induction f with
    | zero => intro a b; rfl
    | succ f ih =>
      intro a b
      simp only [pcf]
      rw [show (2 ^ (f + 1) * a + b) / 2 = 2 ^ f * a + b / 2 by rw [Nat.pow_succ, show 2 ^ f * 2 * a = 2 * (2 ^ f * a) by rw [Nat.mul_comm (2 ^ f), Nat.mul_assoc]]; omega, ih, show (2 ^ (f + 1) * a + b) % 2 = b % 2 by rw [Nat.pow_succ, show 2 ^ f * 2 * a = 2 * (2 ^ f * a) by rw [Nat.mul_comm (2 ^ f), Nat.mul_assoc]]; omega]
  have h3 : pcf 8 (256 * h + l) = pcf 8 l := h2 8 h l
  have h4 : (256 * h + l) / 2 ^ 8 = h := by omega
  have h5 : h / 2 ^ 8 = 0 := by omega
  rw [h1, h3, h4, h0, h5, pcf_0]
  omega
theorem bcF_pop {x : Nat} (hx : x < 65536) : bcF x = pop x := by
  obtain ⟨h, l, hh, hl, rfl⟩ : ∃ h l, h < 256 ∧ l < 256 ∧ x = 256 * h + l := ⟨x / 256, x % 256, by omega, by omega, by omega⟩
  obtain ⟨a1, a2, a3, a4, a5, a6⟩ := bt_3 h hh
  obtain ⟨b1, b2, b3, b4, b5, b6⟩ := bt_3 l hl
  have e : bc3 (bc2 (bc1 (256 * h + l))) = 256 * pcf 8 h + pcf 8 l := by
    rw [bc1_split hh hl, bc2_split a1 b1, bc3_split ⟨a3, a4⟩ ⟨b3, b4⟩, a5, b5]
  unfold bcF
  rw [e, pop_split hh hl]
  generalize pcf 8 h = u at a6 ⊢
  generalize pcf 8 l = v at b6 ⊢
  have e2 : 256 * u + v + (256 * u + v) / 2 ^ 8 + (256 * u + v + (256 * u + v) / 2 ^ 8) / 2 ^ 16 = 256 * u + (u + v) := by omega
  rw [e2, show (63 : Nat) = 256 * 0 + 63 by decide, and_split (by omega) (by omega), Nat.and_zero, Nat.mul_zero, Nat.zero_add]
  exact Nat.and_two_pow_sub_one_of_lt_two_pow (n := 6) (by omega)
