/-! BRIDGES 2: falls. e: the reference's energies (far above where unlawful), ef: the component's -/
/-- how the two energies stand at a state -/
def eR (e ef : Nat → Int) (pn : Nat → Bool) (m x : Nat) : Prop := e x = ef x ∧ (∀ k, k < m → pn k = false → e (x ^^^ 2 ^ k) = ef (x ^^^ 2 ^ k)) ∧ ∀ k, k < m → pn k = true → e x ≤ e (x ^^^ 2 ^ k)
theorem stN_ub (e : Nat → Int) (x i : Nat) : (stN e x i).2 ≤ e x := by
  induction i with
  | zero => simp [stN]
  | succ i ih => simp only [stN]; split <;> (try dsimp only) <;> omega
theorem cf_st {e ef : Nat → Int} {pn : Nat → Bool} {m x : Nat} (h : eR e ef pn m x) : ∀ i, i ≤ m → cfN ef pn x i = (stN e x i).1 ∧ ((stN e x i).1 < 0 → (stN e x i).2 = e x) ∧ (0 ≤ (stN e x i).1 → pn (stN e x i).1.toNat = false) := by
  intro i
  induction i with
  | zero => intro _; exact ⟨rfl, fun _ => rfl, fun q => by simp [stN] at q⟩
  | succ i ih =>
    intro hi
    obtain ⟨h1, h2, h3⟩ := ih (by omega)
    have hub := stN_ub e x i
    have hbd := stN_b e x i
    cases hp : pn i with
    | true =>
      have h4 := h.2.2 i (by omega) hp
      have e1 : stN e x (i + 1) = stN e x i := by simp only [stN]; rw [if_neg (by omega)]
      have e2 : cfN ef pn x (i + 1) = cfN ef pn x i := by simp only [cfN]; rw [if_neg (fun q => by rw [hp] at q; exact absurd q.1 (by decide))]
      rw [e1, e2]
      exact ⟨h1, h2, h3⟩
    | false =>
      have h4 := h.2.1 i (by omega) hp
      by_cases c : e (x ^^^ 2 ^ i) < (stN e x i).2
      · have e1 : stN e x (i + 1) = ((i : Int), e (x ^^^ 2 ^ i)) := by simp only [stN]; rw [if_pos c]
        have hcond : pn i = false ∧ ef (x ^^^ 2 ^ i) < ef x ∧ (cfN ef pn x i < 0 ∨ ef (x ^^^ 2 ^ i) < ef (x ^^^ 2 ^ (cfN ef pn x i).toNat)) := by
          refine ⟨hp, by rw [← h4, ← h.1]; omega, ?_⟩
          rw [h1]
          by_cases q : (stN e x i).1 < 0
          · exact Or.inl q
          · refine Or.inr ?_
            have h5 := (stN_low e x i (by omega)).1
            have h6 := h.2.1 (stN e x i).1.toNat (by omega) (h3 (by omega))
            rw [← h4, ← h6, h5]
            exact c
        have e2 : cfN ef pn x (i + 1) = (i : Int) := by simp only [cfN]; rw [if_pos hcond]
        rw [e1, e2]
        refine ⟨rfl, fun q => ?_, fun _ => ?_⟩
        · dsimp only at q; omega
        · dsimp only; rw [Int.toNat_natCast]; exact hp
      · have e1 : stN e x (i + 1) = stN e x i := by simp only [stN]; rw [if_neg c]
        have hcond : ¬ (pn i = false ∧ ef (x ^^^ 2 ^ i) < ef x ∧ (cfN ef pn x i < 0 ∨ ef (x ^^^ 2 ^ i) < ef (x ^^^ 2 ^ (cfN ef pn x i).toNat))) := by
          rintro ⟨-, q2, q3⟩
          rw [h1] at q3
          by_cases q : (stN e x i).1 < 0
          · have := h2 q
            rw [← h4, ← h.1] at q2
            omega
          · have h5 := (stN_low e x i (by omega)).1
            have h6 := h.2.1 (stN e x i).1.toNat (by omega) (h3 (by omega))
            rcases q3 with q3 | q3
            · omega
            · rw [← h4, ← h6, h5] at q3
              omega
        have e2 : cfN ef pn x (i + 1) = cfN ef pn x i := by simp only [cfN]; rw [if_neg hcond]
        rw [e1, e2]
        exact ⟨h1, h2, h3⟩
/-- falls end alike, by as many turns -/
theorem ce_fa {e ef : Nat → Int} {pn : Nat → Bool} {m : Nat} (L : Nat → Prop) (hL : ∀ s, L s → eR e ef pn m s) (hc : ∀ s k, L s → k < m → pn k = false → L (s ^^^ 2 ^ k)) : ∀ f s, L s → ceN ef pn m f s = faE e m f s := by
  intro f
  induction f with
  | zero => intro s _; rfl
  | succ f ih =>
    intro s hs
    obtain ⟨h1, _, h3⟩ := cf_st (hL s hs) m (Nat.le_refl _)
    have hb := stN_b e s m
    simp only [ceN, faE]
    rw [h1]
    by_cases q : (stN e s m).1 < 0
    · rw [if_pos q, if_pos q]
    · rw [if_neg q, if_neg q]
      exact ih _ (hc s _ hs (by omega) (h3 (by omega)))
