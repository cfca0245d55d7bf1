/-! PURE WORDS of the reference, 11: overlaps, wandering, glass -/
def ovN (p : Nat → Bool) (x : Int) : Nat → Nat
  | 0 => 0
  | i + 1 => ovN p x i + (if p i = true then cntN (fun j => p j && decide (((pop (i ^^^ j) : Nat) : Int) = x)) i else 0)
theorem ovN_f {p : Nat → Bool} {x : Int} {i : Nat} (h : p i = false) : ovN p x (i + 1) = ovN p x i := by simp only [ovN]; rw [if_neg (by rw [h]; decide)]; rfl
theorem ovN_t {p : Nat → Bool} {x : Int} {i : Nat} (h : p i = true) : ovN p x (i + 1) = ovN p x i + cntN (fun j => p j && decide (((pop (i ^^^ j) : Nat) : Int) = x)) i := by simp only [ovN]; rw [if_pos h]
theorem rank_cnt {p : Nat → Bool} {gf : Nat → Int} (q : Nat → Bool) : ∀ i, (∀ j, j < i → p j = true → gf (cntN p j) = (j : Int)) → cntN (fun k => q (gf k).toNat) (cntN p i) = cntN (fun j => p j && q j) i := by
  intro i
  induction i with
  | zero => intro _; rfl
  | succ i ih =>
    intro h
    have h1 := ih (fun j hj => h j (by omega))
    cases hp : p i with
    | false =>
      rw [cntN_f hp, cntN_f (by simp [hp]), h1]
    | true =>
      rw [cntN_t hp]
      have h2 := h i (by omega) hp
      cases hq : q i with
      | false => rw [cntN_f (by simp only [h2, Int.toNat_natCast, hq]), cntN_f (by simp [hp, hq]), h1]
      | true => rw [cntN_t (by simp only [h2, Int.toNat_natCast, hq]), cntN_t (by simp [hp, hq]), h1]
theorem rank_up {p : Nat → Bool} {gf : Nat → Int} {i : Nat} (hp : p i = true) (h : ∀ j, j < i → p j = true → gf (cntN p j) = (j : Int)) : ∀ j, j < i + 1 → p j = true → va_up gf (cntN p i) (i : Int) (cntN p j) = (j : Int) := by
  intro j hj hpj
  unfold va_up
  rcases Nat.lt_or_ge j i with q | q
  · have h1 : cntN p (j + 1) ≤ cntN p i := cntN_mono _ (by omega)
    rw [cntN_t hpj] at h1
    rw [if_neg (by omega)]
    exact h j q hpj
  · have : j = i := by omega
    subst this
    rw [if_pos rfl]
theorem rank_no {p : Nat → Bool} {gf : Nat → Int} {i : Nat} (hp : p i = false) (h : ∀ j, j < i → p j = true → gf (cntN p j) = (j : Int)) : ∀ j, j < i + 1 → p j = true → gf (cntN p j) = (j : Int) := by
  intro j hj hpj
  rcases Nat.lt_or_ge j i with q | q
  · exact h j q hpj
  · have : j = i := by omega
    subst this
    rw [hp] at hpj
    exact absurd hpj (by decide)
theorem bnd_up {gf : Nat → Int} {m : Nat} {v n : Int} (hv : 0 ≤ v ∧ v < n) (h : ∀ k, k < m → 0 ≤ gf k ∧ gf k < n) : ∀ k, k < m + 1 → 0 ≤ va_up gf m v k ∧ va_up gf m v k < n := by
  intro k hk
  unfold va_up
  split
  · exact hv
  · exact h k (by omega)
/-- the ground's states are as many as the least level tells -/
theorem gr_cnt {w le rg : Nat} {f : Nat → Int} {r : Nat} (h1 : -150 ≤ Lat w le rg f r) : cntN (fun s => decide (eM w le rg f s = Lat w le rg f r)) (nst w le) = Lc w le rg f (150 + Lat w le rg f r).toNat := by
  unfold Lc
  apply cntN_congr
  intro i _
  rw [show (((150 + Lat w le rg f r).toNat : Nat) : Int) - 150 = Lat w le rg f r by omega]
def nxt (x : Int) : Int := (x * 1103515245 + 12345) % 2147483648
theorem nxt_b (x : Int) : 0 ≤ nxt x ∧ nxt x < 2147483648 := by unfold nxt; omega
/-- a wander's turn: the lot, the state, the least met, how many turned -/
def wd1 (pin : Nat → Bool) (ce : Nat → Nat → Int) (eo : Nat → Int) (m : Nat) (c : Int) (q : Int × Nat × Int × Nat) : Int × Nat × Int × Nat :=
  if pin (nxt q.1 / 65536 % (m : Int)).toNat = true ∨ 100 - c * ce q.2.1 (nxt q.1 / 65536 % (m : Int)).toNat ≤ nxt (nxt q.1) / 65536 % 100 then (nxt (nxt q.1), q.2) else (nxt (nxt q.1), q.2.1 ^^^ 2 ^ (nxt q.1 / 65536 % (m : Int)).toNat, (if eo (q.2.1 ^^^ 2 ^ (nxt q.1 / 65536 % (m : Int)).toNat) < q.2.2.1 then eo (q.2.1 ^^^ 2 ^ (nxt q.1 / 65536 % (m : Int)).toNat) else q.2.2.1), q.2.2.2 + 1)
def wdN (pin : Nat → Bool) (ce : Nat → Nat → Int) (eo : Nat → Int) (m : Nat) (c : Int) (q0 : Int × Nat × Int × Nat) : Nat → Int × Nat × Int × Nat
  | 0 => q0
  | k + 1 => wd1 pin ce eo m c (wdN pin ce eo m c q0 k)
theorem wd1_no {pin : Nat → Bool} {ce : Nat → Nat → Int} {eo : Nat → Int} {m sn : Nat} {c x x1 x2 y le1 : Int} {st tn : Nat} (h1 : x1 = nxt x) (h2 : x2 = nxt x1) (h3 : (sn : Int) = x1 / 65536 % (m : Int)) (h4 : y = x2 / 65536 % 100) (h : pin sn = true ∨ 100 - c * ce st sn ≤ y) : wd1 pin ce eo m c (x, st, le1, tn) = (x2, st, le1, tn) := by
  subst h1; subst h2; subst h4
  unfold wd1
  dsimp only
  rw [← h3, Int.toNat_natCast, if_pos h]
theorem wd1_yes {pin : Nat → Bool} {ce : Nat → Nat → Int} {eo : Nat → Int} {m sn : Nat} {c x x1 x2 y le1 le2 : Int} {st tn : Nat} (h1 : x1 = nxt x) (h2 : x2 = nxt x1) (h3 : (sn : Int) = x1 / 65536 % (m : Int)) (h4 : y = x2 / 65536 % 100) (h : pin sn = false) (h5 : y < 100 - c * ce st sn) (h6 : le2 = if eo (st ^^^ 2 ^ sn) < le1 then eo (st ^^^ 2 ^ sn) else le1) : wd1 pin ce eo m c (x, st, le1, tn) = (x2, st ^^^ 2 ^ sn, le2, tn + 1) := by
  subst h1; subst h2; subst h4; subst h6
  unfold wd1
  dsimp only
  rw [← h3, Int.toNat_natCast, if_neg]
  intro q
  rcases q with q | q
  · rw [h] at q; exact absurd q (by decide)
  · omega
