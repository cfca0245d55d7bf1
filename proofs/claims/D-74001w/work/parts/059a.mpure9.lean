def smN (p : Nat → Bool) (g : Nat → Int) : Nat → Int
  | 0 => 0
  | s + 1 => if p s = true then smN p g s + g s else smN p g s
theorem smN_b {p : Nat → Bool} {g : Nat → Int} {m : Int} (hm : 0 ≤ m) (hg : ∀ s, -m ≤ g s ∧ g s ≤ m) (n : Nat) : -(m * n) ≤ smN p g n ∧ smN p g n ≤ m * n := by
  induction n with
  | zero => simp [smN]
  | succ n ih =>
    have := hg n
    simp only [smN]
    rw [show m * ((n + 1 : Nat) : Int) = m * n + m by rw [Int.natCast_add, Int.mul_add]; simp]
    split <;> omega
theorem Lc_le (w le rg : Nat) (f : Nat → Int) (e : Nat) : Lc w le rg f e ≤ nst w le := cntN_le _ _
def twoB (s k1 k2 : Nat) : Int := if s.testBit k1 = s.testBit k2 then 1 else -1
