/-! PURE WORDS of the reference, 3: the tape, what is undone and held -/
def lay4 (tf : Nat → Int) (tp : Nat) (v : Int) : Nat → Int := va_up (va_up (va_up (va_up tf tp (i8 (v / 2 ^ 24))) (tp + 1) (i8 (v / 2 ^ 16))) (tp + 2) (i8 (v / 2 ^ 8))) (tp + 3) (i8 (v / 2 ^ 0))
/-- n numbers laid one by one: f (src i) at dst i -/
def cpN (g : Nat → Int) (dst : Nat → Nat) (f : Nat → Int) (src : Nat → Nat) : Nat → Nat → Int
  | 0 => g
  | i + 1 => va_up (cpN g dst f src i) (dst i) (f (src i))
theorem cpN_at (g : Nat → Int) (d : Nat) (f : Nat → Int) (s n j : Nat) : cpN g (fun i => d + i) f (fun i => s + i) n j = if d ≤ j ∧ j < d + n then f (s + (j - d)) else g j := by
  induction n with
  | zero => simp only [cpN]; rw [if_neg (by omega)]
  | succ n ih =>
    simp only [cpN, va_up]
    split
    · subst j
      rw [if_pos (by omega), show s + (d + n - d) = s + n by omega]
    · rw [ih]
      split
      · rw [if_pos (by omega)]
      · rw [if_neg (by omega)]
theorem cpN_d0 (g : Nat → Int) (f : Nat → Int) (src : Nat → Nat) (n : Nat) : cpN g (fun i => i) f src n = cpN g (fun i => 0 + i) f src n := by
  simp only [Nat.zero_add]
theorem cpN_s0 (g : Nat → Int) (dst : Nat → Nat) (f : Nat → Int) (n : Nat) : cpN g dst f (fun i => i) n = cpN g dst f (fun i => 0 + i) n := by
  simp only [Nat.zero_add]
