/-! BRIDGES 3: ways down -/
theorem ds_dc {e ef : Nat → Int} {pn : Nat → Bool} {m s : Nat} {g g' : Nat → Nat} (h : eR e ef pn m s) (hg : ∀ k, k < m → pn k = false → g (s ^^^ 2 ^ k) = g' (s ^^^ 2 ^ k)) : ∀ k, k ≤ m → dsN e g s k = dcN ef pn g' s k := by
  intro k
  induction k with
  | zero => intro _; rfl
  | succ k ih =>
    intro hk
    simp only [dsN, dcN]
    rw [ih (by omega)]
    cases hp : pn k with
    | true =>
      have := h.2.2 k (by omega) hp
      rw [if_neg (by omega), if_neg (fun q => absurd q.1 (by decide))]
    | false =>
      have h1 := h.2.1 k (by omega) hp
      rw [h1, h.1, hg k (by omega) hp]
      by_cases c : ef (s ^^^ 2 ^ k) < ef s
      · rw [if_pos c, if_pos ⟨rfl, c⟩]
      · rw [if_neg c, if_neg (fun q => c q.2)]
theorem dwF_dcF {e ef : Nat → Int} {pn : Nat → Bool} {m : Nat} (L : Nat → Prop) (hL : ∀ s, L s → eR e ef pn m s) (hc : ∀ s k, L s → k < m → pn k = false → L (s ^^^ 2 ^ k)) : ∀ f s, L s → dwF e m f s = dcF ef pn m f s := by
  intro f
  induction f with
  | zero => intro s _; rfl
  | succ f ih =>
    intro s hs
    simp only [dwF, dcF]
    rw [ds_dc (hL s hs) (fun k hk hp => ih _ (hc s k hs hk hp)) m (Nat.le_refl _)]
    split <;> omega
theorem dw_dc {e ef : Nat → Int} {pn : Nat → Bool} {m : Nat} (L : Nat → Prop) (hL : ∀ s, L s → eR e ef pn m s) (hc : ∀ s k, L s → k < m → pn k = false → L (s ^^^ 2 ^ k)) (hb : ∀ s, -144 ≤ e s) {s : Nat} (hs : L s) (h4 : e s ≤ 144) : dw e m s = dc ef pn m s := by
  unfold dw dc
  rw [← dwF_dcF L hL hc 3000 s hs]
  exact dwF_fuel hb 400 3000 s (by omega) (by omega)
/-- the bound of one side is the bound of the other, at lawful states -/
theorem dsdc_at {e ef : Nat → Int} {pn : Nat → Bool} {m : Nat} (L : Nat → Prop) (hL : ∀ s, L s → eR e ef pn m s) (hc : ∀ s k, L s → k < m → pn k = false → L (s ^^^ 2 ^ k)) (hb : ∀ s, -144 ≤ e s) (h4 : ∀ s, L s → e s ≤ 144) {s : Nat} (hs : L s) : dsN e (dw e m) s m = dcN ef pn (dc ef pn m) s m :=
  ds_dc (hL s hs) (fun k hk hp => dw_dc L hL hc hb (hc s k hs hk hp) (h4 _ (hc s k hs hk hp))) m (Nat.le_refl _)
/-- the reference's lawful states are such -/
theorem law_eR {w le rg : Nat} {nw ef : Nat → Int} {up dn : Nat} (hwl : w * le ≤ 16) (b3 : ∀ j, j < 48 → -3 ≤ nw j ∧ nw j ≤ 3) (h : pnR (w * le) nw up dn) (hef : ∀ s, lawM w le nw s = true → ef s = enN w le rg le nw s (w * le)) {s : Nat} (hs : lawM w le nw s = true) : eR (eM w le rg nw) ef (fun k => (up ||| dn).testBit k) (w * le) s := by
  refine ⟨?_, fun k hk hp => ?_, fun k hk hp => ?_⟩
  · rw [eM_t hs, hef s hs]
  · have hp : (up ||| dn).testBit k = false := hp
    have hp2 : nw (48 + k) ≤ 0 := by
      rcases Int.lt_or_le 0 (nw (48 + k)) with q | q
      · have := (pin_eq h hk).mpr q
        rw [this] at hp
        exact absurd hp (by decide)
      · exact q
    have hl := law_x hs hk hp2
    rw [eM_t hl, hef _ hl]
  · have hp2 := (pin_eq h hk).mp hp
    have hn : lawM w le nw (s ^^^ 2 ^ k) = false := by
      cases hq : lawM w le nw (s ^^^ 2 ^ k) with
      | false => rfl
      | true =>
        have := law_pin hs hq hk (by rw [Nat.testBit_xor, Nat.testBit_two_pow_self]; cases s.testBit k <;> decide)
        omega
    have h1 := eM_b (rg := rg) (s := s) hwl b3
    rw [eM_f hn]
    omega
theorem law_close {w le : Nat} {nw : Nat → Int} {up dn : Nat} (h : pnR (w * le) nw up dn) : ∀ s k, lawM w le nw s = true → k < w * le → (up ||| dn).testBit k = false → lawM w le nw (s ^^^ 2 ^ k) = true := by
  intro s k hs hk hp
  refine law_x hs hk ?_
  rcases Int.lt_or_le 0 (nw (48 + k)) with q | q
  · have := (pin_eq h hk).mpr q
    rw [this] at hp
    exact absurd hp (by decide)
  · exact q
