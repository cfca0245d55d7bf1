/-! A DEQUE GROWS: pure part -/
def dqGr (k : Nat) : Nat := if k < 64 then k + 2 else k / 2
theorem dqGr_1 {k : Nat} (h : 2 ≤ k) : 1 ≤ dqGr k ∧ dqGr k ≤ k + 2 := by
  unfold dqGr
  split <;> omega
theorem dq_g0 {f : Nat → Option Nat} {k hd jp : Nat} (hh : hd < k) : (∀ j, j < hd → va_cpy (va_cpy f (fun _ => none) 0 0 k) (va_cpy f (fun _ => none) 0 0 k) hd (hd + jp) (k - hd) j = f j) ∧ (∀ j, hd + jp ≤ j → j < k + jp → va_cpy (va_cpy f (fun _ => none) 0 0 k) (va_cpy f (fun _ => none) 0 0 k) hd (hd + jp) (k - hd) j = f (j - jp)) := by
  constructor
  · intro j hj
    rw [pk_cpy_out (by omega), pk_cpy_in (by omega) (by omega)]
    simp
  · intro j h1 h2
    rw [pk_cpy_in (by omega) (by omega), pk_cpy_in (by omega) (by omega)]
    congr 1
    omega
theorem dq_g1 {g : Nat → Option Nat} {hd i : Nat} (h1 : ∀ j, hd ≤ j → j < i → g j = none) : ∀ j, hd ≤ j → j < i + 1 → va_up g i none j = none := by
  intro j a1 a2
  unfold va_up
  by_cases q : j = i
  · rw [if_pos q]
  · rw [if_neg q]
    exact h1 j a1 (by omega)
theorem dq_g2 {g f : Nat → Option Nat} {hd i : Nat} (hi : hd ≤ i) (h : ∀ j, j < hd → g j = f j) : ∀ j, j < hd → va_up g i none j = f j := by
  intro j hj
  unfold va_up
  rw [if_neg (by omega)]
  exact h j hj
theorem dq_g3 {g f : Nat → Option Nat} {lo hi jp i : Nat} (hi9 : i < lo) (h : ∀ j, lo ≤ j → j < hi → g j = f (j - jp)) : ∀ j, lo ≤ j → j < hi → va_up g i none j = f (j - jp) := by
  intro j h1 h2
  unfold va_up
  rw [if_neg (by omega)]
  exact h j h1 h2
theorem dq_mem {n hd tl : Nat} {f : Nat → Option Nat} {xs : List Nat} (h : dqOk n hd tl f xs) {j y : Nat} (hj : j < n) (hy : f j = some y) : y ∈ xs := by
  obtain ⟨h1, h2, h3, h4, h5, h6⟩ := h
  have key : ∃ i, i < n ∧ (hd + i) % n = j := by
    by_cases q : hd ≤ j
    · exact ⟨j - hd, by omega, by rw [dq_md (by omega)]; split <;> omega⟩
    · exact ⟨j + n - hd, by omega, by rw [dq_md (by omega)]; split <;> omega⟩
  obtain ⟨i, hi, e⟩ := key
  by_cases q : xs.length ≤ i
  · have := h6 i q hi
    rw [e, hy] at this
    cases this
  · have := h5 i (by omega)
    rw [e, hy] at this
    exact List.mem_of_getElem? this.symm
theorem dq_full {n hd tl x : Nat} {f : Nat → Option Nat} {xs : List Nat} (h : dqOk n hd tl f xs) (hr : xs.length + 1 = n) : dqInc n tl = hd ∧ ∀ i, i < n → va_up f tl (some x) ((hd + i) % n) = (xs ++ [x])[i]? := by
  have ht := dq_tl h
  obtain ⟨h1, h2, h3, h4, h5, h6⟩ := h
  constructor
  · rw [dq_inc_md ht, h4, Nat.mod_add_mod]
    have : hd + xs.length + 1 = hd + n := by omega
    rw [this, Nat.add_mod_right, Nat.mod_eq_of_lt h2]
  · intro i hi
    unfold va_up
    by_cases q : i = xs.length
    · subst q
      rw [if_pos h4.symm]
      simp
    · have hne : (hd + i) % n ≠ tl := fun q1 => by
        rw [h4] at q1
        have := dq_inj (n := n) h2 (by omega) (by omega) q1
        omega
      rw [if_neg hne, h5 i (by omega), List.getElem?_append_left (by omega)]
theorem dq_grown {k hd jp : Nat} {f g : Nat → Option Nat} {zs : List Nat} (h2 : 2 ≤ k) (hh : hd < k) (hj : 1 ≤ jp) (hz : zs.length = k) (hf : ∀ i, i < k → f ((hd + i) % k) = zs[i]?) (g1 : ∀ j, j < hd → g j = f j) (g2 : ∀ j, hd ≤ j → j < hd + jp → g j = none) (g3 : ∀ j, hd + jp ≤ j → j < k + jp → g j = f (j - jp)) : dqOk (k + jp) (hd + jp) hd g zs := by
  refine ⟨by omega, by omega, by omega, ?_, ?_, ?_⟩
  · rw [hz, dq_md (by omega)]
    split <;> omega
  · intro i hi
    rw [hz] at hi
    have e := hf i hi
    rw [dq_md (by omega)] at e ⊢
    by_cases q : hd + i < k
    · rw [if_pos q] at e
      rw [if_pos (by omega), g3 _ (by omega) (by omega), ← e]
      congr 1
      omega
    · rw [if_neg q] at e
      rw [if_neg (by omega), g1 _ (by omega), ← e]
      congr 1
      omega
  · intro i hi hin
    rw [hz] at hi
    rw [dq_md (by omega)]
    split
    · omega
    · exact g2 _ (by omega) (by omega)
theorem dq_el {k hd tl x : Nat} {f : Nat → Option Nat} {xs : List Nat} {an : List (Nat × String)} {Cn : String} (hq : dqOk k hd tl f xs) (hx : (x, Cn) ∈ an) (hel : ∀ y, y ∈ xs → (y, Cn) ∈ an) : ∀ i y, i < k → va_up f tl (some x) i = some y → (y, Cn) ∈ an := by
  intro i y hi hy
  unfold va_up at hy
  split at hy
  · cases hy
    exact hx
  · exact hel y (dq_mem hq hi hy)
