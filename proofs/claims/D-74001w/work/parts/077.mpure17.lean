/-! PURE WORDS 17: a text's tokens -/
def byt (tx : Nat → Int) (sz i : Nat) : Int := if i < sz then tx i % 256 else 0
theorem byt_b (tx : Nat → Int) (sz i : Nat) : 0 ≤ byt tx sz i ∧ byt tx sz i ≤ 255 := by unfold byt; split <;> omega
theorem byt_lt {tx : Nat → Int} {sz i : Nat} (h : 0 < byt tx sz i) : i < sz := by
  unfold byt at h
  split at h <;> omega
def isL (c : Int) : Bool := decide (97 ≤ c ∧ c ≤ 122)
def isD (c : Int) : Bool := decide (48 ≤ c ∧ c ≤ 57)
def isW (c : Int) : Bool := decide (c = 9 ∨ c = 10 ∨ c = 13 ∨ c = 32)
/-- how many in a row -/
def rnN (p : Nat → Bool) : Nat → Nat → Nat
  | 0, _ => 0
  | f + 1, i => if p i = true then rnN p f (i + 1) + 1 else 0
theorem rnN_at {p : Nat → Bool} : ∀ (f n i : Nat), n ≤ f → (∀ j, j < n → p (i + j) = true) → p (i + n) = false → rnN p f i = n := by
  intro f
  induction f with
  | zero => intro n i h _ _; simp only [rnN]; omega
  | succ f ih =>
    intro n i h h1 h2
    simp only [rnN]
    rcases n with _ | n
    · rw [if_neg (by rw [show i + 0 = i by omega] at h2; rw [h2]; decide)]
    · rw [if_pos (by have := h1 0 (by omega); rw [Nat.add_zero] at this; exact this)]
      rw [ih n (i + 1) (by omega) (fun j hj => by have := h1 (j + 1) (by omega); rw [show i + (j + 1) = i + 1 + j by omega] at this; exact this) (by rw [show i + 1 + n = i + (n + 1) by omega]; exact h2)]
def bL (tx : Nat → Int) (sz i : Nat) : Bool := isL (byt tx sz i)
def bD (tx : Nat → Int) (sz i : Nat) : Bool := isD (byt tx sz i)
def bW (tx : Nat → Int) (sz i : Nat) : Bool := isW (byt tx sz i)
/-- past what is blank -/
def tkB (tx : Nat → Int) (sz i : Nat) : Nat := i + rnN (bW tx sz) (sz - i) i
theorem tkB_w {tx : Nat → Int} {sz i : Nat} (hi : i < sz) (h : bW tx sz i = true) : tkB tx sz i = tkB tx sz (i + 1) := by
  unfold tkB
  rw [show sz - i = sz - (i + 1) + 1 by omega]
  simp only [rnN]
  rw [if_pos h]
  omega
theorem tkB_n {tx : Nat → Int} {sz i : Nat} (h : bW tx sz i = false) : tkB tx sz i = i := by
  unfold tkB
  rw [rnN_at _ 0 i (by omega) (fun j hj => by omega) h]
  rfl
theorem tkB_end {tx : Nat → Int} {sz : Nat} : tkB tx sz sz = sz := by
  unfold tkB
  rw [Nat.sub_self]
  rfl
/-- letters of a name as a number; digits -/
def nmN (tx : Nat → Int) (sz i : Nat) : Nat → Int
  | 0 => 0
  | n + 1 => if n < 8 then 27 * nmN tx sz i n + (byt tx sz (i + n) - 97 + 1) else nmN tx sz i n
def dgN (tx : Nat → Int) (sz i : Nat) : Nat → Int
  | 0 => 0
  | n + 1 => if n < 4 then 10 * dgN tx sz i n + byt tx sz (i + n) - 48 else dgN tx sz i n
theorem nmN_b {tx : Nat → Int} {sz i : Nat} : ∀ n, (∀ j, j < n → bL tx sz (i + j) = true) → 0 ≤ nmN tx sz i n ∧ nmN tx sz i n < 27 ^ (min n 8) := by
  intro n
  induction n with
  | zero => intro _; simp [nmN]
  | succ n ih =>
    intro h
    have h0 := ih (fun j hj => h j (by omega))
    have h1 := of_decide_eq_true (h n (by omega))
    simp only [nmN]
    split
    · rename_i c
      rw [show min (n + 1) 8 = n + 1 by omega]
      rw [show min n 8 = n by omega] at h0
      rw [Int.pow_succ]
      omega
    · rename_i c
      rw [show min (n + 1) 8 = 8 by omega]
      rw [show min n 8 = 8 by omega] at h0
      exact h0
theorem nmN_s {tx : Nat → Int} {sz i : Nat} {n : Nat} (h : ∀ j, j < n → bL tx sz (i + j) = true) : 0 ≤ nmN tx sz i n ∧ nmN tx sz i n < 282429536481 := by
  have h0 := nmN_b n h
  have h1 : (27 : Int) ^ (min n 8) ≤ 27 ^ 8 := by
    have := Nat.pow_le_pow_right (show 0 < 27 by decide) (show min n 8 ≤ 8 by omega)
    exact_mod_cast this
  have h2 : (27 : Int) ^ 8 = 282429536481 := by decide
  omega
theorem dgN_s {tx : Nat → Int} {sz i : Nat} : ∀ n, (∀ j, j < n → bD tx sz (i + j) = true) → 0 ≤ dgN tx sz i n ∧ dgN tx sz i n < 10 ^ (min n 4) := by
  intro n
  induction n with
  | zero => intro _; simp [dgN]
  | succ n ih =>
    intro h
    have h0 := ih (fun j hj => h j (by omega))
    have h1 := of_decide_eq_true (h n (by omega))
    simp only [dgN]
    split
    · rename_i c
      rw [show min (n + 1) 4 = n + 1 by omega]
      rw [show min n 4 = n by omega] at h0
      rw [Int.pow_succ]
      omega
    · rename_i c
      rw [show min (n + 1) 4 = 4 by omega]
      rw [show min n 4 = 4 by omega] at h0
      exact h0
theorem dgN_b {tx : Nat → Int} {sz i : Nat} {n : Nat} (h : ∀ j, j < n → bD tx sz (i + j) = true) : 0 ≤ dgN tx sz i n ∧ dgN tx sz i n < 10000 := by
  have h0 := dgN_s n h
  have h1 : (10 : Int) ^ (min n 4) ≤ 10 ^ 4 := by
    have := Nat.pow_le_pow_right (show 0 < 10 by decide) (show min n 4 ≤ 4 by omega)
    exact_mod_cast this
  have h2 : (10 : Int) ^ 4 = 10000 := by decide
  omega
def kyN (ky : Nat → Int) (nm k0 : Int) : Nat → Int
  | 0 => k0
  | k + 1 => if ky k = nm then 20 + (k : Int) else kyN ky nm k0 k
theorem kyN_b {ky : Nat → Int} {nm k0 : Int} (h : 0 ≤ k0 ∧ k0 ≤ 30) : ∀ k, k ≤ 11 → 0 ≤ kyN ky nm k0 k ∧ kyN ky nm k0 k ≤ 30 := by
  intro k
  induction k with
  | zero => intro _; exact h
  | succ k ih =>
    intro hk
    have := ih (by omega)
    simp only [kyN]
    split <;> omega
/-- a token that begins at a place: how many bytes, its kind, its number -/
def tkE (tx : Nat → Int) (sz i : Nat) : Nat := if bL tx sz i = true then rnN (bL tx sz) sz i else if bD tx sz i = true then rnN (bD tx sz) sz i else 1
def tkQ (tx : Nat → Int) (sz : Nat) (ky : Nat → Int) (i : Nat) : Int :=
  if bL tx sz i = true then (if 8 < rnN (bL tx sz) sz i then 3 else kyN ky (nmN tx sz i (rnN (bL tx sz) sz i)) 1 11)
  else if bD tx sz i = true then (if 4 < rnN (bD tx sz) sz i then 3 else 2)
  else if byt tx sz i = 59 then 4 else if byt tx sz i = 45 then 5 else 3
def tkU (tx : Nat → Int) (sz i : Nat) : Int := if bL tx sz i = true then 0 else if bD tx sz i = true then dgN tx sz i (rnN (bD tx sz) sz i) else 0
/-- where the j-th token begins -/
def tkS (tx : Nat → Int) (sz : Nat) : Nat → Nat
  | 0 => tkB tx sz 0
  | j + 1 => tkB tx sz (tkS tx sz j + tkE tx sz (tkS tx sz j))
def tkK (tx : Nat → Int) (sz : Nat) (ky : Nat → Int) (j : Nat) : Int := if tkS tx sz j < sz then tkQ tx sz ky (tkS tx sz j) else 0
def tkV (tx : Nat → Int) (sz j : Nat) : Int := if tkS tx sz j < sz then tkU tx sz (tkS tx sz j) else 0
/-- the first tk tokens are laid -/
def tkP (tx : Nat → Int) (sz : Nat) (ky kf pf uf : Nat → Int) (tk : Nat) : Prop := ∀ j, j < tk → kf j = tkK tx sz ky j ∧ pf j = ((tkS tx sz j : Nat) : Int) ∧ uf j = tkV tx sz j
theorem tkP_up {tx : Nat → Int} {sz : Nat} {ky kf pf uf : Nat → Int} {tk : Nat} {k p u : Int} (h : tkP tx sz ky kf pf uf tk) (h1 : k = tkK tx sz ky tk) (h2 : p = ((tkS tx sz tk : Nat) : Int)) (h3 : u = tkV tx sz tk) : tkP tx sz ky (va_up kf tk k) (va_up pf tk p) (va_up uf tk u) (tk + 1) := by
  intro j hj
  by_cases c : j = tk
  · subst c
    rw [va_up_self, va_up_self, va_up_self]
    exact ⟨h1, h2, h3⟩
  · rw [va_up_ne _ _ (by omega), va_up_ne _ _ (by omega), va_up_ne _ _ (by omega)]
    exact h j (by omega)
theorem rn_L {tx : Nat → Int} {sz i n : Nat} (h : ∀ j, j < n → bL tx sz (i + j) = true) (h2 : bL tx sz (i + n) = false) (hn : n ≤ sz) : rnN (bL tx sz) sz i = n := rnN_at _ _ _ hn h h2
theorem rn_D {tx : Nat → Int} {sz i n : Nat} (h : ∀ j, j < n → bD tx sz (i + j) = true) (h2 : bD tx sz (i + n) = false) (hn : n ≤ sz) : rnN (bD tx sz) sz i = n := rnN_at _ _ _ hn h h2
theorem run_up {p : Nat → Bool} {i n : Nat} (h : ∀ j, j < n → p (i + j) = true) (hp : p (i + n) = true) : ∀ j, j < n + 1 → p (i + j) = true := by
  intro j hj
  rcases Nat.lt_or_ge j n with q | q
  · exact h j q
  · rw [show j = n by omega]; exact hp
theorem bL_D {tx : Nat → Int} {sz i : Nat} (h : bL tx sz i = true) : bD tx sz i = false := by
  have := of_decide_eq_true h
  exact decide_eq_false (by omega)
