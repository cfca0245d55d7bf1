/-! PURE WORDS of a strip -/
/-- where a tie of the site k leads to; -1: nowhere -/
def oth (w le rg k : Nat) (al : Bool) : Int := if al = true then (if k / w + 1 < le then ((k + w : Nat) : Int) else if rg.testBit 1 = true ∧ 2 < le then ((k % w : Nat) : Int) else -1) else (if k % w + 1 < w then ((k + 1 : Nat) : Int) else if rg.testBit 0 = true ∧ 2 < w then ((k / w * w : Nat) : Int) else -1)
/-- the site whose tie leads to k; -1: none -/
def ahd (w le rg k : Nat) (al : Bool) : Int := if al = true then (if 0 < k / w then (k : Int) - (w : Int) else if rg.testBit 1 = true ∧ 2 < le then ((k + w * (le - 1) : Nat) : Int) else -1) else (if 0 < k % w then (k : Int) - 1 else if rg.testBit 0 = true ∧ 2 < w then ((k + w - 1 : Nat) : Int) else -1)
def nst (w le : Nat) : Nat := if w * le = 0 then 0 else 2 ^ (w * le)
def law1 (w le up dn s : Nat) : Bool := decide (s < nst w le) && decide (s &&& up = up) && decide (s &&& dn = 0)
def spn (s k : Nat) : Int := if s.testBit k = true then 1 else -1
def jw (fa fl : Nat → Int) (k : Nat) (al : Bool) : Int := if al = true then fl k else fa k
theorem tb_and1 (s k : Nat) : ((s >>> k) &&& 1 : Nat) = 1 ↔ s.testBit k = true := by
  rw [Nat.testBit, Nat.and_comm]
  simp
theorem nst_le {w le : Nat} (h : w * le ≤ 16) : nst w le ≤ 65536 := by
  unfold nst
  split
  · omega
  · exact Nat.pow_le_pow_right (n := 2) (by decide) h
/-- whether an int is a lawful state -/
def lawZ (w le up dn : Nat) (x : Int) : Bool := decide (0 ≤ x) && law1 w le up dn x.toNat
theorem lawZ_nat (w le up dn x : Nat) : lawZ w le up dn (x : Int) = law1 w le up dn x := by simp [lawZ]
theorem lawZ_out {w le up dn : Nat} {x : Int} (h : ¬ (0 ≤ x ∧ x ≤ ((nst w le : Nat) : Int) - 1)) : lawZ w le up dn x = false := by
  unfold lawZ law1
  by_cases h1 : 0 ≤ x
  · have h2 : ¬ x.toNat < nst w le := by omega
    simp [h2]
  · simp [h1]
theorem kw_lt {w le k : Nat} (hk : k < w * le) : 0 < w ∧ 0 < le ∧ k / w < le ∧ k % w < w ∧ k < w * (k / w) + w ∧ w * (k / w) ≤ k := by
  have hw : 0 < w := by
    rcases Nat.eq_zero_or_pos w with h | h
    · rw [h] at hk; simp at hk
    · exact h
  have hl : 0 < le := by
    rcases Nat.eq_zero_or_pos le with h | h
    · rw [h] at hk; simp at hk
    · exact h
  refine ⟨hw, hl, Nat.div_lt_of_lt_mul hk, Nat.mod_lt _ hw, ?_, Nat.mul_div_le k w⟩
  have := Nat.lt_mul_div_succ k hw
  rw [Nat.mul_add, Nat.mul_one] at this
  exact this
theorem row_le {w le r : Nat} (h : r + 1 ≤ le) : w * r + w ≤ w * le := by
  have := Nat.mul_le_mul_left w h
  rw [Nat.mul_add, Nat.mul_one] at this
  exact this
theorem oth_lt {w le k : Nat} (rg : Nat) (al : Bool) (hk : k < w * le) : -1 ≤ oth w le rg k al ∧ oth w le rg k al < ((w * le : Nat) : Int) := by
  obtain ⟨h1, h2, h3, h4, h5, h6⟩ := kw_lt hk
  have hm := Nat.mod_le k w
  have hd := Nat.div_add_mod k w
  have hr := row_le (w := w) (le := le) (r := k / w) h3
  have hc : k / w * w = w * (k / w) := Nat.mul_comm _ _
  unfold oth
  split
  · split
    · rename_i q
      have := row_le (w := w) (le := le) (r := k / w + 1) q
      rw [Nat.mul_add, Nat.mul_one] at this
      omega
    · split <;> omega
  · split
    · omega
    · split <;> omega
theorem ahd_lt {w le k : Nat} (rg : Nat) (al : Bool) (hk : k < w * le) : -1 ≤ ahd w le rg k al ∧ ahd w le rg k al < ((w * le : Nat) : Int) := by
  obtain ⟨h1, h2, h3, h4, h5, h6⟩ := kw_lt hk
  have hd := Nat.div_add_mod k w
  have hr := row_le (w := w) (le := le) (r := k / w) h3
  unfold ahd
  split
  · split
    · rename_i q
      have : w * 1 ≤ w * (k / w) := Nat.mul_le_mul_left w q
      omega
    · rename_i q
      split
      · have e : k / w = 0 := Nat.eq_zero_of_not_pos q
        rw [e] at h5
        have := row_le (w := w) (le := le) (r := le - 1) (by omega)
        omega
      · omega
  · split
    · omega
    · split <;> omega
/-- what a tie from k on pulls it by; what a tie to k does -/
def tieT (w le rg : Nat) (fa fl : Nat → Int) (st k : Nat) (al : Bool) : Int := if 0 ≤ oth w le rg k al then jw fa fl k al * spn st (oth w le rg k al).toNat else 0
def tieA (w le rg : Nat) (fa fl : Nat → Int) (st k : Nat) (al : Bool) : Int := if 0 ≤ ahd w le rg k al then jw fa fl (ahd w le rg k al).toNat al * spn st (ahd w le rg k al).toNat else 0
def pullN (w le rg : Nat) (fa fl ff : Nat → Int) (st k : Nat) : Nat → Int
  | 0 => ff k
  | 1 => ff k + tieT w le rg fa fl st k false
  | 2 => ff k + tieT w le rg fa fl st k false + tieT w le rg fa fl st k true
  | 3 => ff k + tieT w le rg fa fl st k false + tieT w le rg fa fl st k true + tieA w le rg fa fl st k false
  | _ => ff k + tieT w le rg fa fl st k false + tieT w le rg fa fl st k true + tieA w le rg fa fl st k false + tieA w le rg fa fl st k true
def costT (w le rg : Nat) (fa fl ff : Nat → Int) (st k : Nat) : Int := 2 * spn st k * pullN w le rg fa fl ff st k 4
theorem tieT_pos {w le rg : Nat} {fa fl : Nat → Int} {st k : Nat} {al : Bool} {t : Nat} (h : (t : Int) = oth w le rg k al) : tieT w le rg fa fl st k al = jw fa fl k al * spn st t := by
  unfold tieT; rw [← h, if_pos (by omega)]; simp
theorem tieT_neg {w le rg : Nat} {fa fl : Nat → Int} {st k : Nat} {al : Bool} {t : Int} (h : t = oth w le rg k al) (ht : t < 0) : tieT w le rg fa fl st k al = 0 := by
  unfold tieT; rw [← h, if_neg (by omega)]
theorem tieA_pos {w le rg : Nat} {fa fl : Nat → Int} {st k : Nat} {al : Bool} {t : Nat} (h : (t : Int) = ahd w le rg k al) : tieA w le rg fa fl st k al = jw fa fl t al * spn st t := by
  unfold tieA; rw [← h, if_pos (by omega)]; simp
theorem tieA_neg {w le rg : Nat} {fa fl : Nat → Int} {st k : Nat} {al : Bool} {t : Int} (h : t = ahd w le rg k al) (ht : t < 0) : tieA w le rg fa fl st k al = 0 := by
  unfold tieA; rw [← h, if_neg (by omega)]
theorem oth_1 {w le rg k : Nat} (h : k / w + 1 < le) : oth w le rg k true = ((k + w : Nat) : Int) := by
  unfold oth; simp only [reduceIte, Bool.false_eq_true]; rw [if_pos h]
theorem oth_2 {w le rg k : Nat} (h : le ≤ k / w + 1) (h1 : rg.testBit 1 = true) (h2 : 2 < le) : oth w le rg k true = ((k % w : Nat) : Int) := by
  unfold oth; simp only [reduceIte, Bool.false_eq_true]; rw [if_neg (Nat.not_lt.mpr h), if_pos ⟨h1, h2⟩]
theorem oth_3 {w le rg k : Nat} (h : le ≤ k / w + 1) (h1 : rg.testBit 1 = false) : oth w le rg k true = -1 := by
  unfold oth; simp only [reduceIte, Bool.false_eq_true]; rw [if_neg (Nat.not_lt.mpr h), if_neg (fun q => by rw [h1] at q; exact Bool.false_ne_true q.1)]
theorem oth_4 {w le rg k : Nat} (h : le ≤ k / w + 1) (h2 : le ≤ 2) : oth w le rg k true = -1 := by
  unfold oth; simp only [reduceIte, Bool.false_eq_true]; rw [if_neg (Nat.not_lt.mpr h), if_neg (fun q => Nat.not_lt.mpr h2 q.2)]
theorem oth_5 {w le rg k : Nat} (h : k % w + 1 < w) : oth w le rg k false = ((k + 1 : Nat) : Int) := by
  unfold oth; simp only [reduceIte, Bool.false_eq_true]; rw [if_pos h]
theorem oth_6 {w le rg k : Nat} (h : w ≤ k % w + 1) (h1 : rg.testBit 0 = true) (h2 : 2 < w) : oth w le rg k false = ((k / w * w : Nat) : Int) := by
  unfold oth; simp only [reduceIte, Bool.false_eq_true]; rw [if_neg (Nat.not_lt.mpr h), if_pos ⟨h1, h2⟩]
theorem oth_7 {w le rg k : Nat} (h : w ≤ k % w + 1) (h1 : rg.testBit 0 = false) : oth w le rg k false = -1 := by
  unfold oth; simp only [reduceIte, Bool.false_eq_true]; rw [if_neg (Nat.not_lt.mpr h), if_neg (fun q => by rw [h1] at q; exact Bool.false_ne_true q.1)]
theorem oth_8 {w le rg k : Nat} (h : w ≤ k % w + 1) (h2 : w ≤ 2) : oth w le rg k false = -1 := by
  unfold oth; simp only [reduceIte, Bool.false_eq_true]; rw [if_neg (Nat.not_lt.mpr h), if_neg (fun q => Nat.not_lt.mpr h2 q.2)]
theorem ahd_1 {w le rg k : Nat} (h : 0 < k / w) : ahd w le rg k true = (k : Int) - (w : Int) := by
  unfold ahd; simp only [reduceIte, Bool.false_eq_true]; rw [if_pos h]
theorem ahd_2 {w le rg k : Nat} (h : k / w ≤ 0) (h1 : rg.testBit 1 = true) (h2 : 2 < le) : ahd w le rg k true = ((k + w * (le - 1) : Nat) : Int) := by
  unfold ahd; simp only [reduceIte, Bool.false_eq_true]; rw [if_neg (Nat.not_lt.mpr h), if_pos ⟨h1, h2⟩]
theorem ahd_3 {w le rg k : Nat} (h : k / w ≤ 0) (h1 : rg.testBit 1 = false) : ahd w le rg k true = -1 := by
  unfold ahd; simp only [reduceIte, Bool.false_eq_true]; rw [if_neg (Nat.not_lt.mpr h), if_neg (fun q => by rw [h1] at q; exact Bool.false_ne_true q.1)]
theorem ahd_4 {w le rg k : Nat} (h : k / w ≤ 0) (h2 : le ≤ 2) : ahd w le rg k true = -1 := by
  unfold ahd; simp only [reduceIte, Bool.false_eq_true]; rw [if_neg (Nat.not_lt.mpr h), if_neg (fun q => Nat.not_lt.mpr h2 q.2)]
theorem ahd_5 {w le rg k : Nat} (h : 0 < k % w) : ahd w le rg k false = (k : Int) - 1 := by
  unfold ahd; simp only [reduceIte, Bool.false_eq_true]; rw [if_pos h]
theorem ahd_6 {w le rg k : Nat} (h : k % w ≤ 0) (h1 : rg.testBit 0 = true) (h2 : 2 < w) : ahd w le rg k false = ((k + w - 1 : Nat) : Int) := by
  unfold ahd; simp only [reduceIte, Bool.false_eq_true]; rw [if_neg (Nat.not_lt.mpr h), if_pos ⟨h1, h2⟩]
theorem ahd_7 {w le rg k : Nat} (h : k % w ≤ 0) (h1 : rg.testBit 0 = false) : ahd w le rg k false = -1 := by
  unfold ahd; simp only [reduceIte, Bool.false_eq_true]; rw [if_neg (Nat.not_lt.mpr h), if_neg (fun q => by rw [h1] at q; exact Bool.false_ne_true q.1)]
theorem ahd_8 {w le rg k : Nat} (h : k % w ≤ 0) (h2 : w ≤ 2) : ahd w le rg k false = -1 := by
  unfold ahd; simp only [reduceIte, Bool.false_eq_true]; rw [if_neg (Nat.not_lt.mpr h), if_neg (fun q => Nat.not_lt.mpr h2 q.2)]
