/-! BRIDGES 6: the component's row of energies is the reference's -/
theorem low_en {w le rg : Nat} {f : Nat → Int} : ∀ n, n ≤ w * le → lowN w le rg f (fun q => f (16 + q)) (fun q => f (32 + q)) n = enN w le rg le f 0 n := by
  intro n hn
  rw [en_sgm n hn]
  induction n with
  | zero => rfl
  | succ n ih =>
    simp only [lowN, sgm]
    rw [ih (by omega)]
    have h : ∀ al, ttE w le rg f (fun q => f (16 + q)) 0 n al = - tj w le rg f (fun q => f (16 + q)) n al := by
      intro al
      unfold ttE tj enX
      split
      · simp
      · rfl
    rw [h, h]
    unfold enX
    simp only [Nat.zero_testBit]
    rw [if_neg (by decide)]
    omega
theorem tt_congr {w le rg : Nat} {fa fl ga gl : Nat → Int} {s i : Nat} {al : Bool} (h1 : fa i = ga i) (h2 : fl i = gl i) : ttE w le rg fa fl s i al = ttE w le rg ga gl s i al := by
  unfold ttE jw
  rw [h1, h2]
/-- only what is told of the strip's own sites counts -/
theorem en_congr {w le rg : Nat} {f g : Nat → Int} {s : Nat} (h : ∀ i, i < w * le → f i = g i ∧ f (16 + i) = g (16 + i) ∧ f (32 + i) = g (32 + i)) {n : Nat} (hn : n ≤ w * le) : enN w le rg le f s n = enN w le rg le g s n := by
  rw [en_sgm n hn, en_sgm n hn]
  refine sgm_congr (fun i hi => ?_)
  obtain ⟨h1, h2, h3⟩ := h i (by omega)
  rw [h3, tt_congr (fl := fun q => f (16 + q)) (gl := fun q => g (16 + q)) (al := false) h1 h2, tt_congr (fl := fun q => f (16 + q)) (gl := fun q => g (16 + q)) (al := true) h1 h2]
/-- a row of numbers out of a strip's three rows -/
def rowF (fa fl ff : Nat → Int) (k : Nat) : Int := if k < 16 then fa k else if k < 32 then fl (k - 16) else ff (k - 32)
theorem low_row {w le rg : Nat} {fa fl ff : Nat → Int} (hwl : w * le ≤ 16) : ∀ n, n ≤ w * le → lowN w le rg fa fl ff n = lowN w le rg (rowF fa fl ff) (fun q => rowF fa fl ff (16 + q)) (fun q => rowF fa fl ff (32 + q)) n := by
  intro n
  induction n with
  | zero => intro _; rfl
  | succ n ih =>
    intro hn
    have e1 : rowF fa fl ff n = fa n := if_pos (by omega)
    have e2 : rowF fa fl ff (16 + n) = fl n := by unfold rowF; rw [if_neg (by omega), if_pos (by omega), show 16 + n - 16 = n by omega]
    have e3 : rowF fa fl ff (32 + n) = ff n := by unfold rowF; rw [if_neg (by omega), if_neg (by omega), show 32 + n - 32 = n by omega]
    simp only [lowN]
    rw [ih (by omega), e3]
    have h : ∀ al, tj w le rg fa fl n al = tj w le rg (rowF fa fl ff) (fun q => rowF fa fl ff (16 + q)) n al := by
      intro al
      unfold tj jw
      dsimp only
      rw [e1, e2]
    rw [h, h]
/-- the state with its lowest one taken away -/
theorem low_bit {s : Nat} (h1 : 0 < s) (h2 : s < 65536) : s &&& (s - 1) = s ^^^ 2 ^ tz s ∧ (s &&& (s - 1)) < s ∧ (s &&& (s - 1)) ^^^ 2 ^ tz s = s := by
  obtain ⟨h3, m, h4⟩ := tzF_spec 32 s h1 (by omega)
  have h5 : s = 2 ^ tz s * (2 * m + 1) := h4
  generalize tz s = k at h5
  have hp := Nat.two_pow_pos k
  have e0 : 2 ^ k * (2 * m + 1) = 2 ^ (k + 1) * m + 2 ^ k := by
    rw [Nat.mul_add, Nat.mul_one, Nat.pow_succ, Nat.mul_assoc]
  have e1 : s - 1 = 2 ^ (k + 1) * m + (2 ^ k - 1) := by omega
  have e2 : s = 2 ^ (k + 1) * m + 2 ^ k := by omega
  have b1 : 2 ^ k < 2 ^ (k + 1) := Nat.pow_lt_pow_right (by decide) (by omega)
  have key : s &&& (s - 1) = s ^^^ 2 ^ k := by
    rw [e1]
    rw [e2]
    apply Nat.eq_of_testBit_eq
    intro i
    rw [Nat.testBit_and, Nat.testBit_xor, Nat.testBit_two_pow_mul_add _ b1, Nat.testBit_two_pow_mul_add _ (show 2 ^ k - 1 < 2 ^ (k + 1) by omega), Nat.testBit_two_pow_sub_one, Nat.testBit_two_pow]
    by_cases c : i < k + 1
    · rw [if_pos c, if_pos c]
      by_cases d : i < k
      · rw [decide_eq_true d, decide_eq_false (show ¬ k = i by omega)]; rfl
      · rw [decide_eq_false d, decide_eq_true (show k = i by omega)]; rfl
    · rw [if_neg c, if_neg c, decide_eq_false (show ¬ k = i by omega), Bool.and_self, Bool.xor_false]
  refine ⟨key, ?_, by rw [key, xor_xor]⟩
  have h6 : s &&& (s - 1) ≤ s - 1 := Nat.and_le_right
  omega
