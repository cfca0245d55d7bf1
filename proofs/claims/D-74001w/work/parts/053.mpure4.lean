/-! PURE WORDS of the reference, 4: what it knows of all states -/
theorem enX_b {v m : Int} {x y : Bool} (h : -m ≤ v ∧ v ≤ m) : -m ≤ enX v x y ∧ enX v x y ≤ m := by
  unfold enX; split <;> omega
theorem enN_b {w le rg rows : Nat} {f : Nat → Int} {s : Nat} (b3 : ∀ j, j < 48 → -3 ≤ f j ∧ f j ≤ 3) : ∀ i : Nat, i ≤ 16 → -(9 * (i : Int)) ≤ enN w le rg rows f s i ∧ enN w le rg rows f s i ≤ 9 * (i : Int) := by
  intro i
  induction i with
  | zero => intro _; simp [enN]
  | succ i ih =>
    intro hi
    have h0 := ih (by omega)
    have h1 := enX_b (x := true) (y := s.testBit i) (b3 (32 + i) (by omega))
    have h2 : -3 ≤ enT1 w le rg f s i ∧ enT1 w le rg f s i ≤ 3 := by
      unfold enT1
      split
      · exact enX_b (b3 i (by omega))
      · omega
    have h3 : -3 ≤ enT2 w le rg rows f s i ∧ enT2 w le rg rows f s i ≤ 3 := by
      unfold enT2
      split
      · exact enX_b (b3 (16 + i) (by omega))
      · omega
    simp only [enN]
    omega
/-- the energy of a lawful state; of others far above -/
def eM (w le rg : Nat) (f : Nat → Int) (s : Nat) : Int := if lawM w le f s = true then enN w le rg le f s (w * le) else 100000
theorem eM_b {w le rg : Nat} {f : Nat → Int} {s : Nat} (hwl : w * le ≤ 16) (b3 : ∀ j, j < 48 → -3 ≤ f j ∧ f j ≤ 3) : (-144 ≤ eM w le rg f s ∧ eM w le rg f s ≤ 144) ∨ eM w le rg f s = 100000 := by
  unfold eM
  split
  · have := enN_b (w := w) (le := le) (rg := rg) (rows := le) (s := s) b3 (w * le) hwl
    omega
  · omega
/-- what is known: energies, how many states of each, the levels in their order -/
def KnP (w le rg : Nat) (f eo lm : Nat → Int) (lv : Nat) (la : Nat → Int) : Prop :=
  (∀ s, s < nst w le → eo s = eM w le rg f s) ∧ (∀ e, e < 301 → lm e = ((cntN (fun s => decide (eM w le rg f s = (e : Int) - 150)) (nst w le) : Nat) : Int)) ∧ lv = cntN (fun e => decide (lm e ≠ 0)) 301 ∧ ∀ e, e < 301 → lm e ≠ 0 → la (cntN (fun e => decide (lm e ≠ 0)) e) = (e : Int) - 150
theorem lm_in {g mf : Nat → Int} {i : Nat} {v : Int} (hv : v = g i) (hb : -150 ≤ v ∧ v ≤ 150) (h : ∀ e, e < 301 → mf e = ((cntN (fun s => decide (g s = (e : Int) - 150)) i : Nat) : Int)) : ∀ e, e < 301 → va_up mf (150 + v).toNat (mf (150 + v).toNat + 1) e = ((cntN (fun s => decide (g s = (e : Int) - 150)) (i + 1) : Nat) : Int) := by
  intro e he
  unfold va_up
  split
  · rename_i q
    rw [cntN_t (by simp only [decide_eq_true_eq]; omega), ← q, h e he]
    omega
  · rename_i q
    rw [cntN_f (by simp only [decide_eq_false_iff_not]; omega), h e he]
theorem lm_out {g mf : Nat → Int} {i : Nat} {v : Int} (hv : v = g i) (hb : 1000 < v) (h : ∀ e, e < 301 → mf e = ((cntN (fun s => decide (g s = (e : Int) - 150)) i : Nat) : Int)) : ∀ e, e < 301 → mf e = ((cntN (fun s => decide (g s = (e : Int) - 150)) (i + 1) : Nat) : Int) := by
  intro e he
  rw [cntN_f (by simp only [decide_eq_false_iff_not]; omega), h e he]
theorem up_fill {f g : Nat → Int} {i : Nat} {v : Int} (hv : v = g i) (h : ∀ s, s < i → f s = g s) : ∀ s, s < i + 1 → va_up f i v s = g s := by
  intro s hs
  unfold va_up
  split
  · rename_i q; rw [hv, q]
  · exact h s (by omega)
theorem up_bnd {f : Nat → Int} {i : Nat} {v m n : Int} (hv : m ≤ v ∧ v ≤ n) (h : ∀ j, m ≤ f j ∧ f j ≤ n) : ∀ j, m ≤ va_up f i v j ∧ va_up f i v j ≤ n := by
  intro j
  unfold va_up
  split
  · exact hv
  · exact h j
theorem cntN_mono (p : Nat → Bool) {i j : Nat} (h : i ≤ j) : cntN p i ≤ cntN p j := by
  induction j with
  | zero => rw [Nat.le_zero.mp h]; exact Nat.le_refl _
  | succ j ih =>
    rcases Nat.lt_or_ge i (j + 1) with q | q
    · have := ih (by omega)
      simp only [cntN]; omega
    · rw [show i = j + 1 by omega]; exact Nat.le_refl _
theorem la_in {mf vf : Nat → Int} {i : Nat} (hm : mf i ≠ 0) (h : ∀ e, e < i → mf e ≠ 0 → vf (cntN (fun e => decide (mf e ≠ 0)) e) = (e : Int) - 150) : ∀ e, e < i + 1 → mf e ≠ 0 → va_up vf (cntN (fun e => decide (mf e ≠ 0)) i) ((i : Int) - 150) (cntN (fun e => decide (mf e ≠ 0)) e) = (e : Int) - 150 := by
  intro e he hme
  unfold va_up
  rcases Nat.lt_or_ge e i with q | q
  · have h1 : cntN (fun e => decide (mf e ≠ 0)) (e + 1) ≤ cntN (fun e => decide (mf e ≠ 0)) i := cntN_mono _ (by omega)
    rw [cntN_t (by simp only [decide_eq_true_eq]; exact hme)] at h1
    rw [if_neg (by omega)]
    exact h e q hme
  · have : e = i := by omega
    subst this
    rw [if_pos rfl]
theorem la_out {mf vf : Nat → Int} {i : Nat} (hm : mf i = 0) (h : ∀ e, e < i → mf e ≠ 0 → vf (cntN (fun e => decide (mf e ≠ 0)) e) = (e : Int) - 150) : ∀ e, e < i + 1 → mf e ≠ 0 → vf (cntN (fun e => decide (mf e ≠ 0)) e) = (e : Int) - 150 := by
  intro e he hme
  rcases Nat.lt_or_ge e i with q | q
  · exact h e q hme
  · have : e = i := by omega
    subst this
    exact absurd hm hme
theorem eM_t {w le rg : Nat} {f : Nat → Int} {s : Nat} (h : lawM w le f s = true) : eM w le rg f s = enN w le rg le f s (w * le) := if_pos h
theorem eM_f {w le rg : Nat} {f : Nat → Int} {s : Nat} (h : lawM w le f s = false) : eM w le rg f s = 100000 := if_neg (by rw [h]; decide)
