/-! PURE WORDS 16: two strips joined -/
theorem enN_congr {w le rg rows : Nat} {f g : Nat → Int} {s : Nat} (h : ∀ k, k < 66 → f k = g k) : ∀ i, i ≤ 16 → enN w le rg rows f s i = enN w le rg rows g s i := by
  intro i
  induction i with
  | zero => intro _; rfl
  | succ i ih =>
    intro hi
    simp only [enN]
    rw [ih (by omega), h (32 + i) (by omega)]
    unfold enT1 enT2
    rw [h i (by omega), h (16 + i) (by omega)]
theorem lwN_congr {f g : Nat → Int} {s : Nat} (h : ∀ k, k < 66 → f k = g k) : ∀ i, i ≤ 16 → lwN f s i = lwN g s i := by
  intro i
  induction i with
  | zero => intro _; rfl
  | succ i ih =>
    intro hi
    simp only [lwN]
    rw [ih (by omega)]
    unfold lwB
    rw [h (48 + i) (by omega)]
theorem lawM_congr {w le : Nat} {f g : Nat → Int} {s : Nat} (hwl : w * le ≤ 16) (h : ∀ k, k < 66 → f k = g k) : lawM w le f s = lawM w le g s := by
  unfold lawM
  rw [lwN_congr h _ hwl]
theorem eM_congr {w le rg : Nat} {f g : Nat → Int} {s : Nat} (hwl : w * le ≤ 16) (h : ∀ k, k < 66 → f k = g k) : eM w le rg f s = eM w le rg g s := by
  unfold eM
  rw [lawM_congr hwl h, enN_congr h _ hwl]
theorem Lc_congr {w le rg : Nat} {f g : Nat → Int} {e : Nat} (hwl : w * le ≤ 16) (h : ∀ k, k < 66 → f k = g k) : Lc w le rg f e = Lc w le rg g e := by
  unfold Lc
  exact cntN_congr (fun i _ => by rw [eM_congr hwl h])
/-- the sum over the first a levels -/
def jnT (f g : Nat → Nat) (a e : Nat) : Nat := if a ≤ e ∧ e - a < 301 then f a * g (e - a) else 0
def jnP (f g : Nat → Nat) : Nat → Nat → Nat
  | 0, _ => 0
  | a + 1, e => jnP f g a e + jnT f g a e
theorem jnP_le {f g : Nat → Nat} (hf : ∀ i, f i ≤ 65536) (hg : ∀ i, g i ≤ 65536) (a e : Nat) : jnP f g a e ≤ a * 4294967296 := by
  induction a with
  | zero => simp [jnP]
  | succ a ih =>
    have h : jnT f g a e ≤ 4294967296 := by
      unfold jnT
      split
      · exact Nat.mul_le_mul (hf a) (hg (e - a))
      · omega
    simp only [jnP]
    omega
/-- both rows being added: of a, those below b -/
def jnB (f g : Nat → Nat) (bf : Nat → Int) (a b : Nat) : Prop := ∀ e, e < 601 → bf e = ((jnP f g a e + (if a ≤ e ∧ e - a < b then f a * g (e - a) else 0) : Nat) : Int)
theorem jnB_0 {f g : Nat → Nat} {bf : Nat → Int} (h : ∀ e, e < 601 → bf e = 0) : jnB f g bf 0 0 := fun e he => by
  rw [h e he]
  simp [jnP]
theorem jnB_up {f g : Nat → Nat} {bf : Nat → Int} {a b : Nat} (h : jnB f g bf a b) (ha : a < 301) (hb : b < 301) : jnB f g (va_up bf (a + b) (bf (a + b) + ((f a : Nat) : Int) * ((g b : Nat) : Int))) a (b + 1) := by
  intro e he
  unfold va_up
  split
  · rename_i c
    subst c
    rw [h _ he, if_neg (by omega), if_pos (by omega), show a + b - a = b by omega]
    simp
  · rename_i c
    rw [h e he]
    congr 2
    by_cases q : a ≤ e ∧ e - a < b
    · rw [if_pos q, if_pos (by omega)]
    · rw [if_neg q, if_neg (by omega)]
theorem jnB_next {f g : Nat → Nat} {bf : Nat → Int} {a b : Nat} (h : jnB f g bf a b) (hb : b = 301) : jnB f g bf (a + 1) 0 := by
  subst hb
  intro e he
  rw [h e he, if_neg (by omega : ¬ (a + 1 ≤ e ∧ e - (a + 1) < 0))]
  simp only [jnP, jnT, Nat.add_zero]
theorem jnB_next0 {f g : Nat → Nat} {bf : Nat → Int} {a b : Nat} (h : jnB f g bf a b) (hz : f a = 0) : jnB f g bf (a + 1) 0 := by
  intro e he
  rw [h e he, if_neg (by omega : ¬ (a + 1 ≤ e ∧ e - (a + 1) < 0)), hz]
  simp only [jnP, jnT, hz, Nat.zero_mul, ite_self]
def jnA (w le rg : Nat) (f g : Nat → Int) (e : Nat) : Nat := jnP (Lc w le rg f) (Lc w le rg g) 301 e
def jnE (w le rg : Nat) (f g : Nat → Int) (e : Nat) : Bool := decide (jnA w le rg f g e ≠ 0)
/-- the r-th of a row -/
def fdN (p : Nat → Bool) (r : Nat) : Nat → Nat
  | 0 => 0
  | e + 1 => if p e = true ∧ cntN p e = r then e else fdN p r e
theorem fdN_at {p : Nat → Bool} {r e n : Nat} (he : e < n) (hp : p e = true) (hc : cntN p e = r) : fdN p r n = e := by
  induction n with
  | zero => omega
  | succ n ih =>
    simp only [fdN]
    rcases Nat.lt_or_ge e n with q | q
    · have h1 : cntN p (e + 1) ≤ cntN p n := cntN_mono p (by omega)
      rw [cntN_t hp] at h1
      rw [if_neg (by omega)]
      exact ih q
    · have : e = n := by omega
      subst this
      rw [if_pos ⟨hp, hc⟩]
/-- what is joined: how many energies, of each what it is, in how many ways -/
def jnX (w le rg : Nat) (f g : Nat → Int) (i wh : Int) : Int :=
  if i = -1 then ((cntN (jnE w le rg f g) 601 : Nat) : Int) else if (0 ≤ i ∧ i < ((cntN (jnE w le rg f g) 601 : Nat) : Int)) ∧ (0 ≤ wh ∧ wh ≤ 1) then (if wh = 0 then ((fdN (jnE w le rg f g) i.toNat 601 : Nat) : Int) - 300 else ((jnA w le rg f g (fdN (jnE w le rg f g) i.toNat 601) : Nat) : Int)) else -100000
theorem jnA_le {w le rg : Nat} {f g : Nat → Int} (hwl : w * le ≤ 16) (e : Nat) : jnA w le rg f g e ≤ 1292785156096 := by
  have h := jnP_le (f := Lc w le rg f) (g := Lc w le rg g) (fun i => Nat.le_trans (Lc_le _ _ _ _ _) (nst_le hwl)) (fun i => Nat.le_trans (Lc_le _ _ _ _ _) (nst_le hwl)) 301 e
  unfold jnA
  omega
