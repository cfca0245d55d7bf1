/-! BRIDGES 7: all energies, found one from another -/
theorem rowF_1 (fa fl ff : Nat → Int) {n : Nat} (h : n < 16) : rowF fa fl ff n = fa n := if_pos h
theorem rowF_2 (fa fl ff : Nat → Int) {n : Nat} (h : n < 16) : rowF fa fl ff (16 + n) = fl n := by unfold rowF; rw [if_neg (by omega), if_pos (by omega), show 16 + n - 16 = n by omega]
theorem rowF_3 (fa fl ff : Nat → Int) {n : Nat} : rowF fa fl ff (32 + n) = ff n := by unfold rowF; rw [if_neg (by omega), if_neg (by omega), show 32 + n - 32 = n by omega]
theorem jw_row (fa fl ff : Nat → Int) {n : Nat} (h : n < 16) (al : Bool) : jw fa fl n al = jw (rowF fa fl ff) (fun q => rowF fa fl ff (16 + q)) n al := by
  unfold jw
  dsimp only
  rw [rowF_1 fa fl ff h, rowF_2 fa fl ff h]
theorem cost_row {w le rg : Nat} {fa fl ff : Nat → Int} {s k : Nat} (hwl : w * le ≤ 16) (hk : k < w * le) : costT w le rg fa fl ff s k = costT w le rg (rowF fa fl ff) (fun q => rowF fa fl ff (16 + q)) (fun q => rowF fa fl ff (32 + q)) s k := by
  have hT : ∀ al, tieT w le rg fa fl s k al = tieT w le rg (rowF fa fl ff) (fun q => rowF fa fl ff (16 + q)) s k al := by
    intro al
    unfold tieT
    rw [jw_row fa fl ff (show k < 16 by omega)]
  have hA : ∀ al, tieA w le rg fa fl s k al = tieA w le rg (rowF fa fl ff) (fun q => rowF fa fl ff (16 + q)) s k al := by
    intro al
    have hal := ahd_lt (w := w) (le := le) (k := k) rg al hk
    unfold tieA
    by_cases c : 0 ≤ ahd w le rg k al
    · rw [if_pos c, if_pos c, jw_row fa fl ff (show (ahd w le rg k al).toNat < 16 by omega)]
    · rw [if_neg c, if_neg c]
  unfold costT
  simp only [pullN]
  rw [hT, hT, hA, hA, rowF_3]
/-- a row laid from the state with one less up is the row of energies -/
theorem ef_all {w le rg : Nat} {fa fl ff ef : Nat → Int} (hw : w < 5) (hle : le < 17) (hwl : w * le ≤ 16) (hrg : rg < 4) (h0 : ef 0 = lowN w le rg fa fl ff (w * le)) (hs : ∀ s, 0 < s → s < 2 ^ (w * le) → ef s = ef (s &&& (s - 1)) + costT w le rg fa fl ff (s &&& (s - 1)) (tz s)) : ∀ s, s < 2 ^ (w * le) → ef s = enN w le rg le (rowF fa fl ff) s (w * le) := by
  have hp : 2 ^ (w * le) ≤ 2 ^ 16 := Nat.pow_le_pow_right (by decide) hwl
  intro s
  induction s using Nat.strongRecOn with
  | _ s ih =>
    intro hlt
    rcases Nat.eq_zero_or_pos s with q | q
    · subst q
      rw [h0, low_row hwl _ (Nat.le_refl _), low_en _ (Nat.le_refl _)]
    · obtain ⟨h1, h2, h3⟩ := low_bit q (by omega)
      have hk : tz s < w * le := by
        obtain ⟨_, m, h4⟩ := tzF_spec 32 s q (by omega)
        have h5 : s = 2 ^ tz s * (2 * m + 1) := h4
        have h6 : 2 ^ tz s ≤ 2 ^ tz s * (2 * m + 1) := Nat.le_mul_of_pos_right _ (by omega)
        exact (Nat.pow_lt_pow_iff_right (by decide)).mp (show 2 ^ tz s < 2 ^ (w * le) by omega)
      have h7 := en_cost (f := rowF fa fl ff) (s := s &&& (s - 1)) hw hle hwl hrg hk
      rw [h3] at h7
      rw [hs s q hlt, ih _ h2 (by omega), cost_row hwl hk, ← h7]
      omega
