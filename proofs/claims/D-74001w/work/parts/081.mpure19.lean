/-! PURE WORDS 19: what lines mean. What is worst: its number, its place -/
def wOk (g : Nat × Int) : Prop := g.1 ≤ 4 ∧ -1 ≤ g.2 ∧ g.2 ≤ 2000
def wG (pf : Nat → Int) (k tn : Nat) (g : Nat × Int) : Nat × Int := if g.1 ≠ 0 ∧ (g.2 < pf tn ∨ (pf tn = g.2 ∧ g.1 ≤ k)) then g else (k, pf tn)
theorem wG_ok {pf : Nat → Int} (bp : ∀ j, 0 ≤ pf j ∧ pf j ≤ 2000) {k tn : Nat} (hk : k ≤ 4) {g : Nat × Int} (h : wOk g) : wOk (wG pf k tn g) := by
  have := bp tn
  unfold wG
  split
  · exact h
  · exact ⟨hk, by dsimp only; omega, by dsimp only; omega⟩
/-- a J that begins at a token: the token of its number, what it is, what is wrong of it -/
def jNb (kf : Nat → Int) (tn : Nat) : Nat := if kf tn = 5 then tn + 1 else tn
def jV (kf uf : Nat → Int) (tn : Nat) : Int := if kf tn = 5 then -(uf (jNb kf tn)) else uf (jNb kf tn)
def jG (kf pf uf : Nat → Int) (tn : Nat) (g : Nat × Int) : Nat × Int := if 3 < uf (jNb kf tn) then wG pf 3 (jNb kf tn) g else g
theorem jV_b {kf uf : Nat → Int} (bu : ∀ j, 0 ≤ uf j ∧ uf j ≤ 9999) (tn : Nat) : -9999 ≤ jV kf uf tn ∧ jV kf uf tn ≤ 9999 := by
  have := bu (jNb kf tn)
  unfold jV
  split <;> omega
def flN (fr : Nat → Int) (d : Nat) (v : Int) : Nat → Nat → Int
  | 0 => fr
  | s + 1 => va_up (flN fr d v s) (d + s) v
theorem flN_at (fr : Nat → Int) (d : Nat) (v : Int) (n j : Nat) : flN fr d v n j = if d ≤ j ∧ j < d + n then v else fr j := by
  induction n with
  | zero => simp only [flN]; rw [if_neg (by omega)]
  | succ n ih =>
    simp only [flN, va_up]
    split
    · rw [if_pos (by omega)]
    · rw [ih]
      split
      · rw [if_pos (by omega)]
      · rw [if_neg (by omega)]
def aD (k : Int) : Nat := if k = 21 then 0 else if k = 22 then 16 else 32
def aK (k : Int) : Bool := decide (k = 21 ∨ k = 22 ∨ k = 23)
/-- a line of all -/
def aF (kf uf : Nat → Int) (k : Nat) (fr : Nat → Int) : Nat → Int := if kf k = 30 then va_up fr 65 (uf (k + 1)) else if aK (kf k) = true then flN fr (aD (kf k)) (jV kf uf (k + 1)) 16 else fr
def aG (kf pf uf : Nat → Int) (k : Nat) (g : Nat × Int) : Nat × Int := if aK (kf k) = true then jG kf pf uf (k + 1) g else g
/-- a line of one -/
def oK (k : Int) : Bool := decide (k = 25 ∨ k = 26 ∨ k = 27)
def oRg (kf : Nat → Int) (k : Nat) (ra rl : Bool) : Bool := if kf (k + 2) = 22 then rl else ra
def oBad (kf uf : Nat → Int) (w le : Nat) (ra rl : Bool) (k : Nat) : Bool := decide (((w * le : Nat) : Int) ≤ uf (k + 1) ∨ (kf k = 25 ∧ othB w le (uf (k + 1)).toNat (decide (kf (k + 2) = 22)) (oRg kf k ra rl) < 0))
def oJt (kf : Nat → Int) (k : Nat) : Nat := if kf k = 25 then k + 3 else k + 2
def oG (kf pf uf : Nat → Int) (w le : Nat) (ra rl : Bool) (k : Nat) (g : Nat × Int) : Nat × Int :=
  if oK (kf k) = true then (if kf k = 27 then (if oBad kf uf w le ra rl k = true then wG pf 4 (k + 1) g else g) else jG kf pf uf (oJt kf k) (if oBad kf uf w le ra rl k = true then wG pf 4 (k + 1) g else g)) else g
def oD (kf : Nat → Int) (k : Nat) : Nat := if kf k = 26 then 32 else if kf (k + 2) = 22 then 16 else 0
def oF (kf uf : Nat → Int) (w le : Nat) (ra rl : Bool) (k : Nat) (g : Nat × Int) (fr : Nat → Int) : Nat → Int :=
  if oK (kf k) = true ∧ oBad kf uf w le ra rl k = false ∧ g.1 = 0 then (if kf k = 27 then va_up fr (48 + (uf (k + 1)).toNat) (if kf (k + 2) = 28 then 1 else 2) else va_up fr (oD kf k + (uf (k + 1)).toNat) (jV kf uf (oJt kf k))) else fr
