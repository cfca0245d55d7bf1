/-! PURE WORDS of the component's energies -/
def cfN (ef : Nat → Int) (pn : Nat → Bool) (x : Nat) : Nat → Int
  | 0 => -1
  | k + 1 => if pn k = false ∧ ef (x ^^^ 2 ^ k) < ef x ∧ (cfN ef pn x k < 0 ∨ ef (x ^^^ 2 ^ k) < ef (x ^^^ 2 ^ (cfN ef pn x k).toNat)) then (k : Int) else cfN ef pn x k
theorem cfN_b (ef : Nat → Int) (pn : Nat → Bool) (x k : Nat) : -1 ≤ cfN ef pn x k ∧ cfN ef pn x k < k := by
  induction k with
  | zero => simp [cfN]
  | succ k ih => simp only [cfN]; split <;> omega
theorem cfN_low {ef : Nat → Int} {pn : Nat → Bool} {x k : Nat} (h : 0 ≤ cfN ef pn x k) : ef (x ^^^ 2 ^ (cfN ef pn x k).toNat) < ef x := by
  induction k with
  | zero => simp [cfN] at h
  | succ k ih =>
    simp only [cfN] at h ⊢
    split
    · rename_i q
      rw [Int.toNat_natCast]
      exact q.2.1
    · rename_i q
      rw [if_neg q] at h
      exact ih h
def ceN (ef : Nat → Int) (pn : Nat → Bool) (m : Nat) : Nat → Nat → Nat
  | 0, s => s
  | f + 1, s => if cfN ef pn s m < 0 then s else ceN ef pn m f (s ^^^ 2 ^ (cfN ef pn s m).toNat)
theorem ceN_end {ef : Nat → Int} {pn : Nat → Bool} {m s : Nat} (h : cfN ef pn s m < 0) (f : Nat) : ceN ef pn m f s = s := by
  cases f with
  | zero => rfl
  | succ f => simp only [ceN]; rw [if_pos h]
theorem ceN_step {ef : Nat → Int} {pn : Nat → Bool} {m s f : Nat} (h : ¬ cfN ef pn s m < 0) (hf : 0 < f) : ceN ef pn m f s = ceN ef pn m (f - 1) (s ^^^ 2 ^ (cfN ef pn s m).toNat) := by
  cases f with
  | zero => omega
  | succ f => simp only [ceN]; rw [if_neg h, Nat.add_sub_cancel]
theorem ceN_lt {ef : Nat → Int} {pn : Nat → Bool} {m : Nat} : ∀ f s, s < 2 ^ m → ceN ef pn m f s < 2 ^ m := by
  intro f
  induction f with
  | zero => intro s h; exact h
  | succ f ih =>
    intro s h
    simp only [ceN]
    split
    · exact h
    · have := cfN_b ef pn s m
      exact ih _ (x_lt h (by omega))
def clN (p : Nat → Bool) (ef : Nat → Int) : Nat → Int
  | 0 => 145
  | i + 1 => if p i = true then (if ef i < clN p ef i then ef i else clN p ef i) else clN p ef i
theorem clN_b {p : Nat → Bool} {ef : Nat → Int} {m : Int} (hm : 145 ≤ m) (h : ∀ j, -m ≤ ef j ∧ ef j ≤ m) (i : Nat) : -m ≤ clN p ef i ∧ clN p ef i ≤ m := by
  induction i with
  | zero => simp only [clN]; omega
  | succ i ih =>
    have := h i
    simp only [clN]
    split
    · split <;> omega
    · exact ih
