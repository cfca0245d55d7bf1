/-- the value at x: sum and power behind t steps from the place e0 on -/
def vlN (p : Nat → Bool) (g : Nat → Nat) (x : Int) (e0 : Nat) : Nat → Int × Int
  | 0 => (0, 1)
  | t + 1 => (if p (e0 + t) = true then ((vlN p g x e0 t).1 + (vlN p g x e0 t).2 * (g (e0 + t) : Int)) % 1000003 else (vlN p g x e0 t).1, (vlN p g x e0 t).2 * x % 1000003)
theorem vlN_b (p : Nat → Bool) (g : Nat → Nat) (x : Int) (e0 t : Nat) : (0 ≤ (vlN p g x e0 t).1 ∧ (vlN p g x e0 t).1 < 1000003) ∧ 0 ≤ (vlN p g x e0 t).2 ∧ (vlN p g x e0 t).2 < 1000003 := by
  induction t with
  | zero => simp [vlN]
  | succ t ih =>
    simp only [vlN]
    constructor
    · split
      · omega
      · exact ih.1
    · omega
theorem vlN_stop {p : Nat → Bool} {g : Nat → Nat} {x : Int} {e0 t : Nat} (h : ∀ e, e0 + t ≤ e → e < 301 → p e = false) : ∀ u, t ≤ u → e0 + u ≤ 301 → (vlN p g x e0 u).1 = (vlN p g x e0 t).1 := by
  intro u
  induction u with
  | zero => intro h1 _; rw [show t = 0 by omega]
  | succ u ih =>
    intro h1 h2
    rcases Nat.lt_or_ge t (u + 1) with q | q
    · simp only [vlN]
      rw [if_neg (by rw [h (e0 + u) (by omega) (by omega)]; decide)]
      exact ih (by omega) (by omega)
    · rw [show t = u + 1 by omega]
theorem cnt_last {p : Nat → Bool} {i n : Nat} (h : cntN p i = cntN p n) : ∀ e, i ≤ e → e < n → p e = false := by
  intro e h1 h2
  cases hq : p e with
  | false => rfl
  | true =>
    have a1 : cntN p i ≤ cntN p e := cntN_mono p h1
    have a2 : cntN p (e + 1) ≤ cntN p n := cntN_mono p h2
    rw [cntN_t hq] at a2
    omega
theorem cnt_none {p : Nat → Bool} {n : Nat} (h : ∀ e, e < n → p e = false) : cntN p n = 0 := by
  induction n with
  | zero => rfl
  | succ n ih => rw [cntN_f (h n (by omega)), ih (fun e he => h e (by omega))]
theorem Lat_rank {w le rg : Nat} {f : Nat → Int} {r : Nat} (hr : r < Lmany w le rg f) : cntN (Lp w le rg f) (150 + Lat w le rg f r).toNat = r := by
  obtain ⟨e, h1, h2, h3⟩ := cnt_find hr
  have e1 : Lat w le rg f r = (e : Int) - 150 := lvF_at h1 h2 h3
  rw [e1, show (150 + ((e : Int) - 150)).toNat = e by omega, h3]
theorem Lat_of {w le rg : Nat} {f : Nat → Int} {e r : Nat} (he : e < 301) (hp : Lp w le rg f e = true) (hr : r = cntN (Lp w le rg f) e) : Lat w le rg f r = (e : Int) - 150 := lvF_at he hp hr.symm
