/-! A DEQUE's PICTURE: n places, head hd, tail tl, the row f holds xs from hd on, round -/
def dqOk (n hd tl : Nat) (f : Nat → Option Nat) (xs : List Nat) : Prop :=
  2 ≤ n ∧ hd < n ∧ xs.length < n ∧ tl = (hd + xs.length) % n ∧ (∀ i, i < xs.length → f ((hd + i) % n) = xs[i]?) ∧ ∀ i, xs.length ≤ i → i < n → f ((hd + i) % n) = none
theorem dq_md {n a : Nat} (h : a < 2 * n) : a % n = if a < n then a else a - n := by
  by_cases q : a < n
  · rw [if_pos q, Nat.mod_eq_of_lt q]
  · rw [if_neg q, Nat.mod_eq_sub_mod (by omega), Nat.mod_eq_of_lt (by omega)]
theorem dq_tl {n hd tl : Nat} {f : Nat → Option Nat} {xs : List Nat} (h : dqOk n hd tl f xs) : tl < n := by
  obtain ⟨h1, h2, h3, h4, -⟩ := h
  rw [h4]
  exact Nat.mod_lt _ (by omega)
theorem dq_inj {n hd i j : Nat} (hh : hd < n) (hi : i < n) (hj : j < n) (h : (hd + i) % n = (hd + j) % n) : i = j := by
  rw [dq_md (by omega), dq_md (by omega)] at h
  split at h <;> split at h <;> omega
theorem dq_fst {n hd tl : Nat} {f : Nat → Option Nat} {xs : List Nat} (h : dqOk n hd tl f xs) : f hd = xs.head? := by
  obtain ⟨h1, h2, h3, h4, h5, h6⟩ := h
  cases xs with
  | nil =>
    have := h6 0 (by simp) (by omega)
    rw [Nat.add_zero, Nat.mod_eq_of_lt h2] at this
    exact this
  | cons x ys =>
    have := h5 0 (by simp)
    rw [Nat.add_zero, Nat.mod_eq_of_lt h2] at this
    exact this
def dqInc (n i : Nat) : Nat := if i + 1 < n then i + 1 else 0
def dqDec (n i : Nat) : Nat := if i = 0 then n - 1 else i - 1
theorem dq_inc_md {n i : Nat} (h : i < n) : dqInc n i = (i + 1) % n := by
  unfold dqInc
  rw [dq_md (by omega)]
  split
  · rfl
  · omega
theorem dq_pop {n hd tl x : Nat} {f : Nat → Option Nat} {ys : List Nat} (h : dqOk n hd tl f (x :: ys)) : dqOk n (dqInc n hd) tl (va_up f hd none) ys := by
  obtain ⟨h1, h2, h3, h4, h5, h6⟩ := h
  rw [List.length_cons] at h3 h4 h5 h6
  have e : ∀ i, i < n → (dqInc n hd + i) % n = (hd + (i + 1)) % n := by
    intro i hi
    rw [dq_inc_md h2, Nat.mod_add_mod]
    congr 1
    omega
  refine ⟨h1, by rw [dq_inc_md h2]; exact Nat.mod_lt _ (by omega), by omega, ?_, ?_, ?_⟩
  · rw [h4, e _ (by omega)]
  · intro i hi
    rw [e i (by omega)]
    have hne : (hd + (i + 1)) % n ≠ hd := fun q => by
      have := dq_inj (n := n) (hd := hd) (i := i + 1) (j := 0) h2 (by omega) (by omega) (by rw [q, Nat.add_zero, Nat.mod_eq_of_lt h2])
      omega
    have := h5 (i + 1) (by omega)
    unfold va_up
    rw [if_neg hne, this, List.getElem?_cons_succ]
  · intro i hi hin
    rw [e i hin]
    unfold va_up
    by_cases q : (hd + (i + 1)) % n = hd
    · rw [if_pos q]
    · rw [if_neg q]
      by_cases q2 : i + 1 < n
      · exact h6 (i + 1) (by omega) q2
      · exfalso
        apply q
        have : i + 1 = n := by omega
        rw [this, Nat.add_mod_right, Nat.mod_eq_of_lt h2]
theorem dq_dec_md {n hd k tl : Nat} (h2 : hd < n) (hk : k + 1 < n) (ht : tl = (hd + (k + 1)) % n) : dqDec n tl = (hd + k) % n := by
  unfold dqDec
  subst ht
  rw [dq_md (by omega), dq_md (by omega)]
  split <;> split <;> split <;> omega
theorem dq_lst {n hd tl : Nat} {f : Nat → Option Nat} {xs : List Nat} (h : dqOk n hd tl f xs) : f (dqDec n tl) = xs.getLast? := by
  obtain ⟨h1, h2, h3, h4, h5, h6⟩ := h
  rcases List.eq_nil_or_concat xs with q | ⟨ys, x, q⟩
  · subst q
    have e : dqDec n tl = (hd + (n - 1)) % n := by
      unfold dqDec
      rw [h4]
      simp only [List.length_nil, Nat.add_zero]
      rw [Nat.mod_eq_of_lt h2, dq_md (by omega)]
      split <;> split <;> omega
    rw [e]
    exact h6 (n - 1) (by simp) (by omega)
  · subst q
    simp only [List.concat_eq_append, List.length_append, List.length_cons, List.length_nil] at h3 h4 h5 ⊢
    rw [dq_dec_md h2 (by omega) h4, h5 ys.length (by omega)]
    simp
theorem dq_popL {n hd tl x : Nat} {f : Nat → Option Nat} {ys : List Nat} (h : dqOk n hd tl f (ys ++ [x])) : dqOk n hd (dqDec n tl) (va_up f (dqDec n tl) none) ys := by
  obtain ⟨h1, h2, h3, h4, h5, h6⟩ := h
  simp only [List.length_append, List.length_cons, List.length_nil] at h3 h4 h5 h6
  rw [dq_dec_md h2 (by omega) h4]
  refine ⟨h1, h2, by omega, rfl, ?_, ?_⟩
  · intro i hi
    have hne : (hd + i) % n ≠ (hd + ys.length) % n := fun q => by
      have := dq_inj (n := n) h2 (by omega) (by omega) q
      omega
    unfold va_up
    rw [if_neg hne, h5 i (by omega), List.getElem?_append_left hi]
  · intro i hi hin
    unfold va_up
    by_cases q : (hd + i) % n = (hd + ys.length) % n
    · rw [if_pos q]
    · rw [if_neg q]
      by_cases q2 : i = ys.length
      · subst q2
        exact absurd rfl q
      · exact h6 i (by omega) hin
theorem dq_add {n hd tl e : Nat} {f : Nat → Option Nat} {xs : List Nat} (h : dqOk n hd tl f xs) (hr : xs.length + 1 < n) : dqOk n hd (dqInc n tl) (va_up f tl (some e)) (xs ++ [e]) ∧ dqInc n tl ≠ hd := by
  have ht := dq_tl h
  obtain ⟨h1, h2, h3, h4, h5, h6⟩ := h
  have e1 : dqInc n tl = (hd + (xs.length + 1)) % n := by
    rw [dq_inc_md ht, h4, Nat.mod_add_mod]
    congr 1
  refine ⟨⟨h1, h2, by simp; omega, by rw [e1]; simp, ?_, ?_⟩, ?_⟩
  · intro i hi
    simp only [List.length_append, List.length_cons, List.length_nil] at hi
    unfold va_up
    by_cases q : i = xs.length
    · subst q
      rw [if_pos h4.symm]
      simp
    · have hne : (hd + i) % n ≠ tl := fun q1 => by
        rw [h4] at q1
        have := dq_inj (n := n) h2 (by omega) (by omega) q1
        omega
      rw [if_neg hne, h5 i (by omega), List.getElem?_append_left (by omega)]
  · intro i hi hin
    simp only [List.length_append, List.length_cons, List.length_nil] at hi
    have hne : (hd + i) % n ≠ tl := fun q1 => by
      rw [h4] at q1
      have := dq_inj (n := n) h2 (by omega) (by omega) q1
      omega
    unfold va_up
    rw [if_neg hne]
    exact h6 i (by omega) hin
  · rw [e1]
    intro q
    have := dq_inj (n := n) (hd := hd) (i := xs.length + 1) (j := 0) h2 (by omega) (by omega) (by rw [q, Nat.add_zero, Nat.mod_eq_of_lt h2])
    omega
theorem dq_size {n hd tl : Nat} {f : Nat → Option Nat} {xs : List Nat} (h : dqOk n hd tl f xs) : (xs.length : Int) = if (tl : Int) - hd < 0 then (tl : Int) - hd + n else (tl : Int) - hd := by
  obtain ⟨h1, h2, h3, h4, -⟩ := h
  rw [dq_md (by omega)] at h4
  split at h4 <;> split <;> omega
theorem dq_empty {n hd tl : Nat} {f : Nat → Option Nat} {xs : List Nat} (h : dqOk n hd tl f xs) : hd = tl ↔ xs = [] := by
  obtain ⟨h1, h2, h3, h4, -⟩ := h
  rw [dq_md (by omega)] at h4
  constructor
  · intro q
    have : xs.length = 0 := by split at h4 <;> omega
    exact List.length_eq_zero_iff.mp this
  · intro q
    subst q
    simp only [List.length_nil] at h4
    split at h4 <;> omega
theorem dq_0 {n : Nat} (h : 2 ≤ n) : dqOk n 0 0 (fun _ => none) [] := ⟨h, by omega, by simp; omega, by simp, fun i hi => by simp at hi, fun _ _ _ => rfl⟩
theorem dq_rng {n hd tl : Nat} {f : Nat → Option Nat} {xs : List Nat} (h : dqOk n hd tl f xs) (j : Nat) (hj : j < n) : f j = none ∨ ((hd ≤ tl → hd ≤ j ∧ j < tl) ∧ (tl < hd → hd ≤ j ∨ j < tl)) := by
  obtain ⟨h1, h2, h3, h4, h5, h6⟩ := h
  have key : ∃ i, i < n ∧ (hd + i) % n = j := by
    by_cases q : hd ≤ j
    · exact ⟨j - hd, by omega, by rw [dq_md (by omega)]; split <;> omega⟩
    · exact ⟨j + n - hd, by omega, by rw [dq_md (by omega)]; split <;> omega⟩
  obtain ⟨i, hi, e⟩ := key
  by_cases q : xs.length ≤ i
  · left
    rw [← e]
    exact h6 i q hi
  · right
    rw [dq_md (by omega)] at h4 e
    constructor <;> intro z <;> split at h4 <;> split at e <;> omega
theorem dq_clr {n : Nat} {f : Nat → Option Nat} (h : 2 ≤ n) (hf : ∀ j, j < n → f j = none) : dqOk n 0 0 f [] := ⟨h, by omega, by simp; omega, by simp, fun i hi => by simp at hi, fun i _ hi => hf _ (Nat.mod_lt _ (by omega))⟩
theorem dq_ccb {k tl i to : Nat} {g : Nat → Option Nat} (h : ∀ j, j < k → g j = none ∨ (i ≤ j ∧ j < to) ∨ (to ≠ tl ∧ j < tl)) : ∀ j, j < k → va_up g i none j = none ∨ (i + 1 ≤ j ∧ j < to) ∨ (to ≠ tl ∧ j < tl) := by
  intro j hj
  unfold va_up
  by_cases q : j = i
  · exact Or.inl (if_pos q)
  · rw [if_neg q]
    rcases h j hj with z | z | z
    · exact Or.inl z
    · exact Or.inr (Or.inl ⟨by omega, z.2⟩)
    · exact Or.inr (Or.inr z)
