/-! PURE WORDS of the component's ways down -/
def dcN (ef : Nat → Int) (pn : Nat → Bool) (g : Nat → Nat) (s : Nat) : Nat → Nat
  | 0 => 0
  | k + 1 => dcN ef pn g s k + (if pn k = false ∧ ef (s ^^^ 2 ^ k) < ef s then g (s ^^^ 2 ^ k) else 0)
theorem dcN_t {ef : Nat → Int} {pn : Nat → Bool} {g : Nat → Nat} {s k : Nat} (h : pn k = false ∧ ef (s ^^^ 2 ^ k) < ef s) : dcN ef pn g s (k + 1) = dcN ef pn g s k + g (s ^^^ 2 ^ k) := by simp only [dcN]; rw [if_pos h]
theorem dcN_f {ef : Nat → Int} {pn : Nat → Bool} {g : Nat → Nat} {s k : Nat} (h : ¬ (pn k = false ∧ ef (s ^^^ 2 ^ k) < ef s)) : dcN ef pn g s (k + 1) = dcN ef pn g s k := by simp only [dcN]; rw [if_neg h]; rfl
theorem dcN_congr {ef : Nat → Int} {pn : Nat → Bool} {g g' : Nat → Nat} {s m : Nat} (h : ∀ k, k < m → ef (s ^^^ 2 ^ k) < ef s → g (s ^^^ 2 ^ k) = g' (s ^^^ 2 ^ k)) : dcN ef pn g s m = dcN ef pn g' s m := by
  induction m with
  | zero => rfl
  | succ m ih =>
    simp only [dcN]
    rw [ih (fun k hk => h k (by omega))]
    by_cases c : pn m = false ∧ ef (s ^^^ 2 ^ m) < ef s
    · rw [if_pos c, if_pos c, h m (by omega) c.2]
    · rw [if_neg c, if_neg c]
def dcF (ef : Nat → Int) (pn : Nat → Bool) (m : Nat) : Nat → Nat → Nat
  | 0, _ => 1
  | f + 1, s => max 1 (dcN ef pn (dcF ef pn m f) s m)
def dc (ef : Nat → Int) (pn : Nat → Bool) (m s : Nat) : Nat := dcF ef pn m 3000 s
theorem dcF_fuel {ef : Nat → Int} {pn : Nat → Bool} {m : Nat} (hb : ∀ s, -1000 ≤ ef s) : ∀ f f' s, (ef s + 1001).toNat ≤ f → (ef s + 1001).toNat ≤ f' → dcF ef pn m f s = dcF ef pn m f' s := by
  intro f
  induction f with
  | zero => intro f' s h; have := hb s; omega
  | succ f ih =>
    intro f' s h h'
    rcases f' with _ | f'
    · have := hb s; omega
    · simp only [dcF]
      rw [dcN_congr (fun k _ hlt => ih f' (s ^^^ 2 ^ k) (by have := hb (s ^^^ 2 ^ k); omega) (by have := hb (s ^^^ 2 ^ k); omega))]
theorem dc_eq {ef : Nat → Int} {pn : Nat → Bool} {m s : Nat} (hb : ∀ s, -1000 ≤ ef s ∧ ef s ≤ 1000) : dc ef pn m s = max 1 (dcN ef pn (dc ef pn m) s m) := by
  have h1 : dcN ef pn (dcF ef pn m 2999) s m = dcN ef pn (dc ef pn m) s m := dcN_congr (fun k _ hlt => dcF_fuel (fun s => (hb s).1) 2999 3000 _ (by have := hb (s ^^^ 2 ^ k); omega) (by have := hb (s ^^^ 2 ^ k); omega))
  show max 1 (dcN ef pn (dcF ef pn m 2999) s m) = _
  rw [h1]
/-- no sum passes the longs -/
def dcB (ef : Nat → Int) (pn : Nat → Bool) (m : Nat) : Prop := ∀ s, s < 2 ^ m → dcN ef pn (dc ef pn m) s m < 9223372036854775808
/-- what is told already is right -/
def dcW (ef : Nat → Int) (pn : Nat → Bool) (m : Nat) (wy : Nat → Int) : Prop := ∀ s, s < 2 ^ m → wy s = 0 ∨ wy s = ((dc ef pn m s : Nat) : Int)
theorem dc_lt {ef : Nat → Int} {pn : Nat → Bool} {m s : Nat} (hb : ∀ s, -1000 ≤ ef s ∧ ef s ≤ 1000) (h : dcB ef pn m) (hs : s < 2 ^ m) : 1 ≤ dc ef pn m s ∧ dc ef pn m s < 9223372036854775808 := by
  have := h s hs
  rw [dc_eq hb]
  omega
theorem dcW_up {ef : Nat → Int} {pn : Nat → Bool} {m x : Nat} {wy : Nat → Int} {v : Int} (h : dcW ef pn m wy) (hv : v = ((dc ef pn m x : Nat) : Int)) : dcW ef pn m (va_up wy x v) := by
  intro s hs
  unfold va_up
  split
  · rename_i c; subst c; exact Or.inr hv
  · exact h s hs
