/-! BRIDGES 1: lawful by masks, lawful by a row of numbers -/
theorem andE {s u : Nat} : s &&& u = u ↔ ∀ i, u.testBit i = true → s.testBit i = true := by
  constructor
  · intro h i hi
    have := congrArg (fun z => Nat.testBit z i) h
    simp only [Nat.testBit_and, hi, Bool.and_true] at this
    exact this
  · intro h
    apply Nat.eq_of_testBit_eq
    intro i
    rw [Nat.testBit_and]
    cases hu : u.testBit i with
    | false => rw [Bool.and_false]
    | true => rw [h i hu]; rfl
theorem and0 {s d : Nat} : s &&& d = 0 ↔ ∀ i, d.testBit i = true → s.testBit i = false := by
  constructor
  · intro h i hi
    have := congrArg (fun z => Nat.testBit z i) h
    simp only [Nat.testBit_and, hi, Bool.and_true, Nat.zero_testBit] at this
    exact this
  · intro h
    apply Nat.eq_of_testBit_eq
    intro i
    rw [Nat.testBit_and, Nat.zero_testBit]
    cases hu : d.testBit i with
    | false => rw [Bool.and_false]
    | true => rw [h i hu]; rfl
theorem lwN_iff {f : Nat → Int} {s n : Nat} : lwN f s n = true ↔ ∀ i, i < n → lwB f s i = true := by
  induction n with
  | zero => exact ⟨fun _ i h => by omega, fun _ => rfl⟩
  | succ n ih =>
    simp only [lwN, Bool.and_eq_true]
    rw [ih]
    constructor
    · rintro ⟨h1, h2⟩ i hi
      rcases Nat.lt_or_ge i n with q | q
      · exact h1 i q
      · rw [show i = n by omega]; exact h2
    · intro h
      exact ⟨fun i hi => h i (by omega), h n (by omega)⟩
/-- pins by masks and by numbers -/
def pnR (m : Nat) (nw : Nat → Int) (up dn : Nat) : Prop := (up < 2 ^ m ∧ dn < 2 ^ m) ∧ (∀ k, ¬ (up.testBit k = true ∧ dn.testBit k = true)) ∧ ∀ k, k < m → nw (48 + k) = if up.testBit k = true then 1 else if dn.testBit k = true then 2 else 0
theorem tbv (s k : Nat) : (((s >>> k) &&& 1 : Nat) : Int) = if s.testBit k = true then 1 else 0 := by
  have h1 := tb_and1 s k
  have h2 := tb_le s k
  cases hb : s.testBit k with
  | true => rw [if_pos rfl, h1.mpr hb]; rfl
  | false =>
    rw [if_neg (by decide)]
    have : ¬ ((s >>> k) &&& 1 : Nat) = 1 := fun q => by rw [h1.mp q] at hb; exact absurd hb (by decide)
    omega
theorem bit_lt {u m k : Nat} (h : u < 2 ^ m) (hb : u.testBit k = true) : k < m := by
  rcases Nat.lt_or_ge k m with q | q
  · exact q
  · have := Nat.testBit_lt_two_pow (Nat.lt_of_lt_of_le h (Nat.pow_le_pow_right (by decide) q))
    rw [this] at hb
    exact absurd hb (by decide)
theorem lwB_iff {m : Nat} {nw : Nat → Int} {up dn s k : Nat} (h : pnR m nw up dn) (hk : k < m) : lwB nw s k = true ↔ ((up.testBit k = true → s.testBit k = true) ∧ (dn.testBit k = true → s.testBit k = false)) := by
  unfold lwB
  rw [h.2.2 k hk, tbv]
  have hx := h.2.1 k
  simp only [Bool.or_eq_true, decide_eq_true_eq]
  cases hu : up.testBit k <;> cases hd : dn.testBit k <;> cases hs : s.testBit k <;> simp_all
theorem law_eq {w le : Nat} {nw : Nat → Int} {up dn : Nat} (h : pnR (w * le) nw up dn) (s : Nat) : law1 w le up dn s = lawM w le nw s := by
  unfold law1 lawM
  cases hs : decide (s < nst w le) with
  | false => simp
  | true =>
    rw [Bool.true_and, Bool.true_and]
    rw [Bool.eq_iff_iff, Bool.and_eq_true, decide_eq_true_eq, decide_eq_true_eq, andE, and0, lwN_iff]
    constructor
    · rintro ⟨h1, h2⟩ k hk
      rw [lwB_iff h hk]
      exact ⟨h1 k, h2 k⟩
    · intro h1
      refine ⟨fun k hk => ?_, fun k hk => ?_⟩
      · exact ((lwB_iff h (bit_lt h.1.1 hk)).mp (h1 k (bit_lt h.1.1 hk))).1 hk
      · exact ((lwB_iff h (bit_lt h.1.2 hk)).mp (h1 k (bit_lt h.1.2 hk))).2 hk
theorem pin_eq {m : Nat} {nw : Nat → Int} {up dn k : Nat} (h : pnR m nw up dn) (hk : k < m) : ((up ||| dn).testBit k = true ↔ 0 < nw (48 + k)) := by
  rw [h.2.2 k hk, Nat.testBit_or]
  cases hu : up.testBit k <;> cases hd : dn.testBit k <;> simp
