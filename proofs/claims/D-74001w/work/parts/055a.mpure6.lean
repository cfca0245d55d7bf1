theorem eM_law {w le rg : Nat} {f : Nat → Int} {s : Nat} (h : eM w le rg f s < 100000) : lawM w le f s = true := by
  cases hq : lawM w le f s with
  | true => rfl
  | false => rw [eM_f hq] at h; omega
theorem Lmany_pos {w le rg : Nat} {f : Nat → Int} (hwl : w * le ≤ 16) (b3 : ∀ j, j < 48 → -3 ≤ f j ∧ f j ≤ 3) {x : Nat} (hx : x < nst w le) (h : eM w le rg f x < 100000) : 0 < Lmany w le rg f := Nat.lt_of_le_of_lt (Nat.zero_le _) (lev_lm (rg := rg) hwl b3 hx (eM_law h))
/-- least energies of those that have two sites alike, unlike -/
def sfN (g : Nat → Int) (k1 k2 : Nat) (alike : Bool) : Nat → Int
  | 0 => 100000
  | s + 1 => if (s.testBit k1 == s.testBit k2) = alike ∧ g s < sfN g k1 k2 alike s then g s else sfN g k1 k2 alike s
def nrN (p : Nat → Bool) (x : Nat) : Nat → Int
  | 0 => -1
  | s + 1 => if p s = true ∧ (nrN p x s < 0 ∨ pop (s ^^^ x) < pop ((nrN p x s).toNat ^^^ x)) then (s : Int) else nrN p x s
theorem nrN_b (p : Nat → Bool) (x s : Nat) : -1 ≤ nrN p x s ∧ nrN p x s < s := by
  induction s with
  | zero => simp [nrN]
  | succ s ih => simp only [nrN]; split <;> omega
