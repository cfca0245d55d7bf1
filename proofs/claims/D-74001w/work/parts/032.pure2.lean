/-! PURE WORDS of a strip, 2: sums over its sites -/
def tj (w le rg : Nat) (fa fl : Nat → Int) (k : Nat) (al : Bool) : Int := if 0 ≤ oth w le rg k al then jw fa fl k al else 0
theorem tj_pos {w le rg : Nat} {fa fl : Nat → Int} {k : Nat} {al : Bool} {t : Int} (h : t = oth w le rg k al) (ht : 0 ≤ t) : tj w le rg fa fl k al = jw fa fl k al := by
  unfold tj; rw [← h, if_pos ht]
theorem tj_neg {w le rg : Nat} {fa fl : Nat → Int} {k : Nat} {al : Bool} {t : Int} (h : t = oth w le rg k al) (ht : t < 0) : tj w le rg fa fl k al = 0 := by
  unfold tj; rw [← h, if_neg (by omega)]
/-- the energy of all down, up to site i -/
def lowN (w le rg : Nat) (fa fl ff : Nat → Int) : Nat → Int
  | 0 => 0
  | i + 1 => lowN w le rg fa fl ff i + ff i - tj w le rg fa fl i false - tj w le rg fa fl i true
/-- one if the tie is broken -/
def bkT (w le rg : Nat) (fa fl : Nat → Int) (s k : Nat) (al : Bool) : Nat := if 0 ≤ oth w le rg k al ∧ jw fa fl k al * spn s k * spn s (oth w le rg k al).toNat < 0 then 1 else 0
theorem bkT_neg {w le rg : Nat} {fa fl : Nat → Int} {s k : Nat} {al : Bool} {t : Int} (h : t = oth w le rg k al) (ht : t < 0) : bkT w le rg fa fl s k al = 0 := by
  unfold bkT; rw [← h, if_neg (by omega)]
theorem bkT_1 {w le rg : Nat} {fa fl : Nat → Int} {s k : Nat} {al : Bool} {t : Nat} (h : (t : Int) = oth w le rg k al) (ht : jw fa fl k al * spn s k * spn s t < 0) : bkT w le rg fa fl s k al = 1 := by
  unfold bkT; rw [← h, if_pos ⟨by omega, by simpa using ht⟩]
theorem bkT_0 {w le rg : Nat} {fa fl : Nat → Int} {s k : Nat} {al : Bool} {t : Nat} (h : (t : Int) = oth w le rg k al) (ht : 0 ≤ jw fa fl k al * spn s k * spn s t) : bkT w le rg fa fl s k al = 0 := by
  unfold bkT; rw [← h, if_neg (fun q => by have := q.2; simp at this; omega)]
def brkN (w le rg : Nat) (fa fl : Nat → Int) (s : Nat) : Nat → Nat
  | 0 => 0
  | i + 1 => brkN w le rg fa fl s i + bkT w le rg fa fl s i false + bkT w le rg fa fl s i true
theorem brkN_le (w le rg : Nat) (fa fl : Nat → Int) (s i : Nat) : brkN w le rg fa fl s i ≤ 2 * i := by
  have h : ∀ k al, bkT w le rg fa fl s k al ≤ 1 := fun k al => by unfold bkT; split <;> omega
  induction i with
  | zero => simp [brkN]
  | succ i ih =>
    have h1 := h i false
    have h2 := h i true
    simp only [brkN]
    omega
def tiT (w le rg k : Nat) (al : Bool) : Nat := if 0 ≤ oth w le rg k al then 1 else 0
theorem tiT_pos {w le rg k : Nat} {al : Bool} {t : Int} (h : t = oth w le rg k al) (ht : 0 ≤ t) : tiT w le rg k al = 1 := by
  unfold tiT; rw [← h, if_pos ht]
theorem tiT_neg {w le rg k : Nat} {al : Bool} {t : Int} (h : t = oth w le rg k al) (ht : t < 0) : tiT w le rg k al = 0 := by
  unfold tiT; rw [← h, if_neg (by omega)]
def tieN (w le rg : Nat) : Nat → Nat
  | 0 => 0
  | i + 1 => tieN w le rg i + tiT w le rg i false + tiT w le rg i true
theorem tieN_le (w le rg i : Nat) : tieN w le rg i ≤ 2 * i := by
  have h : ∀ k al, tiT w le rg k al ≤ 1 := fun k al => by unfold tiT; split <;> omega
  induction i with
  | zero => simp [tieN]
  | succ i ih =>
    have h1 := h i false
    have h2 := h i true
    simp only [tieN]
    omega
theorem spn_cases (s k : Nat) : spn s k = 1 ∨ spn s k = -1 := by unfold spn; split <;> simp
/-- the square from a site on: -2 none, 1 odd, 0 -/
def sqr (w le rg : Nat) (fa fl : Nat → Int) (k : Nat) : Int := if oth w le rg k false < 0 ∨ oth w le rg k true < 0 then -2 else if fa k * fl k * fa (oth w le rg k true).toNat * fl (oth w le rg k false).toNat < 0 then 1 else 0
theorem sqr_out {w le rg : Nat} {fa fl : Nat → Int} {k : Nat} {x y : Int} (hx : x = oth w le rg k false) (hy : y = oth w le rg k true) (h : x < 0 ∨ y < 0) : sqr w le rg fa fl k = -2 := by
  unfold sqr; rw [← hx, ← hy, if_pos h]
theorem sqr_in {w le rg : Nat} {fa fl : Nat → Int} {k x y : Nat} (hx : (x : Int) = oth w le rg k false) (hy : (y : Int) = oth w le rg k true) : sqr w le rg fa fl k = if fa k * fl k * fa y * fl x < 0 then 1 else 0 := by
  unfold sqr; rw [← hx, ← hy, if_neg (by omega)]; simp
theorem mul3 {a b : Int} {m n : Int} (ha : -m ≤ a ∧ a ≤ m) (hb : -n ≤ b ∧ b ≤ n) : -(m * n) ≤ a * b ∧ a * b ≤ m * n := by
  have hm : 0 ≤ m := by omega
  have hn : 0 ≤ n := by omega
  have h : (a * b).natAbs ≤ (m * n).natAbs := by
    rw [Int.natAbs_mul, Int.natAbs_mul]
    exact Nat.mul_le_mul (by omega) (by omega)
  have h2 : (m * n).natAbs = m * n := Int.natAbs_of_nonneg (Int.mul_nonneg hm hn)
  omega
/-- clusters: whether a tie joins what is in 'was' -/
def clC (w le rg st was k : Nat) (al : Bool) : Bool := decide (0 ≤ oth w le rg k al) && (st.testBit k == st.testBit (oth w le rg k al).toNat) && (was.testBit k || was.testBit (oth w le rg k al).toNat)
def clT (w le rg st was k : Nat) (al : Bool) (set : Nat) : Nat := if clC w le rg st was k al = true then set ||| (2 ^ k ||| 2 ^ (oth w le rg k al).toNat) else set
def clS (w le rg st was : Nat) : Nat → Nat
  | 0 => was
  | i + 1 => clT w le rg st was i true (clT w le rg st was i false (clS w le rg st was i))
/-- the while loop of a cluster, by fuel -/
def clR (w le rg st : Nat) : Nat → Nat → Nat → Nat
  | 0, set, _ => set
  | f + 1, set, was => if set = was then set else clR w le rg st f (clS w le rg st set (w * le)) set
theorem clT_neg {w le rg st was k : Nat} {al : Bool} {set : Nat} {t : Int} (h : t = oth w le rg k al) (ht : t < 0) : clT w le rg st was k al set = set := by
  unfold clT clC; rw [← h, if_neg]; simp; omega
theorem clT_ne {w le rg st was k : Nat} {al : Bool} {set : Nat} {t : Nat} (h : (t : Int) = oth w le rg k al) (ht : ¬ st.testBit k = st.testBit t) : clT w le rg st was k al set = set := by
  unfold clT clC; rw [← h, if_neg]; simp; intro q; exact absurd q ht
theorem clT_out {w le rg st was k : Nat} {al : Bool} {set : Nat} {t : Nat} (h : (t : Int) = oth w le rg k al) (h1 : was.testBit k = false) (h2 : was.testBit t = false) : clT w le rg st was k al set = set := by
  unfold clT clC; rw [← h, if_neg]; simp [h1, h2]
theorem clT_in {w le rg st was k : Nat} {al : Bool} {set : Nat} {t : Nat} (h : (t : Int) = oth w le rg k al) (ht : st.testBit k = st.testBit t) (h1 : was.testBit k = true ∨ was.testBit t = true) : clT w le rg st was k al set = set ||| (2 ^ k ||| 2 ^ t) := by
  unfold clT clC; rw [← h, if_pos]
  · simp
  · simp [ht]; exact h1
theorem clT_lt {w le rg st was k : Nat} {al : Bool} {set n : Nat} (hk : k < w * le) (hn : w * le ≤ n) (hs : set < 2 ^ n) : clT w le rg st was k al set < 2 ^ n ∧ set ≤ clT w le rg st was k al set := by
  unfold clT
  split
  · rename_i q
    have h1 := oth_lt rg al hk
    have h2 : 0 ≤ oth w le rg k al := by unfold clC at q; simp at q; exact q.1.1
    refine ⟨Nat.or_lt_two_pow hs (Nat.or_lt_two_pow (Nat.pow_lt_pow_right (by decide) (by omega)) (Nat.pow_lt_pow_right (by decide) (by omega))), Nat.left_le_or⟩
  · exact ⟨hs, Nat.le_refl _⟩
theorem clS_lt {w le rg st was n : Nat} (hn : w * le ≤ n) (hs : was < 2 ^ n) : ∀ i, i ≤ w * le → clS w le rg st was i < 2 ^ n ∧ was ≤ clS w le rg st was i := by
  intro i
  induction i with
  | zero => intro _; exact ⟨hs, Nat.le_refl _⟩
  | succ i ih =>
    intro hi
    obtain ⟨h1, h2⟩ := ih (by omega)
    have h3 := clT_lt (rg := rg) (st := st) (was := was) (al := false) (by omega : i < w * le) hn h1
    have h4 := clT_lt (rg := rg) (st := st) (was := was) (al := true) (by omega : i < w * le) hn h3.1
    exact ⟨h4.1, Nat.le_trans h2 (Nat.le_trans h3.2 h4.2)⟩
theorem jw_b {fa fl : Nat → Int} (ba : ∀ j, -3 ≤ fa j ∧ fa j ≤ 3) (bl : ∀ j, -3 ≤ fl j ∧ fl j ≤ 3) (k : Nat) (al : Bool) : -3 ≤ jw fa fl k al ∧ jw fa fl k al ≤ 3 := by
  unfold jw
  split
  · exact bl k
  · exact ba k
