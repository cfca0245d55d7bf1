/-- the first of the numbers below n of which p holds; n if there is none -/
def fstS (p : Nat → Bool) : Nat → Nat
  | 0 => 0
  | n + 1 => if fstS p n < n then fstS p n else if p n = true then n else n + 1
theorem fstS_spec (p : Nat → Bool) (n : Nat) : (fstS p n < n → p (fstS p n) = true) ∧ fstS p n ≤ n ∧ ∀ j, j < fstS p n → p j = false := by
  induction n with
  | zero => exact ⟨fun h => absurd h (Nat.not_lt_zero _), Nat.le_refl _, fun j h => absurd h (Nat.not_lt_zero _)⟩
  | succ n ih =>
    obtain ⟨h1, h2, h3⟩ := ih
    simp only [fstS]
    split
    · rename_i q
      exact ⟨fun _ => h1 q, by omega, h3⟩
    · rename_i q
      have e : fstS p n = n := by omega
      rw [e] at h3
      split
      · rename_i z
        exact ⟨fun _ => z, by omega, h3⟩
      · rename_i z
        refine ⟨fun h => by omega, Nat.le_refl _, fun j hj => ?_⟩
        rcases Nat.lt_or_ge j n with y | y
        · exact h3 j y
        · rw [show j = n by omega]; simpa using z
theorem fstS_lt {p : Nat → Bool} {s n : Nat} (hs : s < n) (h : p s = true) : fstS p n < n ∧ p (fstS p n) = true ∧ ∀ j, j < fstS p n → p j = false := by
  obtain ⟨h1, h2, h3⟩ := fstS_spec p n
  have h4 : fstS p n ≤ s := by
    rcases Nat.lt_or_ge s (fstS p n) with q | q
    · rw [h3 s q] at h; cases h
    · exact q
  exact ⟨by omega, h1 (by omega), h3⟩
theorem upN_congr {f g : Nat → Int} {e sg : Int} {n : Nat} (h : ∀ j, j < n → f j = g j) : upN f e sg n = upN g e sg n := by
  induction n with
  | zero => rfl
  | succ n ih => simp only [upN]; rw [ih (fun j hj => h j (by omega)), h n (by omega)]
theorem lat_ex {w le rg : Nat} {f eo lm la : Nat → Int} {lv : Nat} (h : KnP w le rg f eo lm lv la) {r : Nat} (hr : r < Lmany w le rg f) : ∃ s, s < nst w le ∧ eM w le rg f s = Lat w le rg f r := by
  have h1 := Kn_la h hr
  obtain ⟨s, g1, g2, -⟩ := cnt_find (p := fun s => decide (eM w le rg f s = (((150 + Lat w le rg f r).toNat : Nat) : Int) - 150)) (n := nst w le) h1.2.2.2
  have g3 := of_decide_eq_true g2
  exact ⟨s, g1, by omega⟩
