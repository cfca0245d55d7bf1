/-! HEAPS: what lies in a priority queue -/
/-- the places below n hold S, each once -/
def hpS (g : Nat → Nat) (n : Nat) (S : Nat → Prop) : Prop := (∀ i, i < n → S (g i)) ∧ (∀ a, S a → ∃ i, i < n ∧ g i = a) ∧ ∀ i j, i < n → j < n → g i = g j → i = j
theorem hpS_swap {g g' : Nat → Nat} {n i j : Nat} {S : Nat → Prop} (h : hpS g n S) (hi : i < n) (hj : j < n) (e1 : g' i = g j) (e2 : g' j = g i) (e3 : ∀ k, k ≠ i → k ≠ j → g' k = g k) : hpS g' n S := by
  obtain ⟨h1, h2, h3⟩ := h
  have key : ∀ k, k < n → ∃ k', k' < n ∧ g' k = g k' ∧ (k = i → k' = j) ∧ (k = j → k' = i) ∧ (k ≠ i → k ≠ j → k' = k) := by
    intro k hk
    by_cases a : k = i
    · subst a
      by_cases b : k = j
      · subst b; exact ⟨k, hk, e1, fun _ => rfl, fun _ => rfl, fun z => absurd rfl z⟩
      · exact ⟨j, hj, e1, fun _ => rfl, fun z => absurd z b, fun z => absurd rfl z⟩
    · by_cases b : k = j
      · subst b; exact ⟨i, hi, e2, fun z => absurd z a, fun _ => rfl, fun _ z => absurd rfl z⟩
      · exact ⟨k, hk, e3 k a b, fun z => absurd z a, fun z => absurd z b, fun _ _ => rfl⟩
  refine ⟨fun k hk => ?_, fun a ha => ?_, fun x y hx hy e => ?_⟩
  · obtain ⟨k', q1, q2, -⟩ := key k hk
    rw [q2]; exact h1 k' q1
  · obtain ⟨k, hk, rfl⟩ := h2 a ha
    by_cases a : k = i
    · subst a; exact ⟨j, hj, e2⟩
    · by_cases b : k = j
      · subst b; exact ⟨i, hi, e1⟩
      · exact ⟨k, hk, e3 k a b⟩
  · obtain ⟨x', x1, x2, x3, x4, x5⟩ := key x hx
    obtain ⟨y', y1, y2, y3, y4, y5⟩ := key y hy
    have := h3 x' y' x1 y1 (by rw [← x2, ← y2]; exact e)
    by_cases a : x = i <;> by_cases b : x = j <;> by_cases c : y = i <;> by_cases d : y = j <;> simp_all
theorem hpS_push {g : Nat → Nat} {n x : Nat} {S : Nat → Prop} (h : hpS g n S) (hx : ¬ S x) : hpS (va_up g n x) (n + 1) (fun a => a = x ∨ S a) := by
  obtain ⟨h1, h2, h3⟩ := h
  refine ⟨fun i hi => ?_, fun a ha => ?_, fun i j hi hj e => ?_⟩
  · by_cases c : i = n
    · subst c; rw [va_upe]; exact Or.inl rfl
    · rw [va_upn c]; exact Or.inr (h1 i (by omega))
  · rcases ha with rfl | ha
    · exact ⟨n, by omega, va_upe⟩
    · obtain ⟨i, hi, e⟩ := h2 a ha
      exact ⟨i, by omega, by rw [va_upn (by omega)]; exact e⟩
  · by_cases c : i = n <;> by_cases d : j = n
    · omega
    · subst c; rw [va_upe, va_upn d] at e; exact absurd (e ▸ h1 j (by omega)) hx
    · subst d; rw [va_upe, va_upn c] at e; exact absurd (e ▸ h1 i (by omega)) hx
    · rw [va_upn c, va_upn d] at e; exact h3 i j (by omega) (by omega) e
theorem hpS_pop {g : Nat → Nat} {n : Nat} {S : Nat → Prop} (h : hpS g (n + 1) S) : hpS (va_up g 0 (g n)) n (fun a => S a ∧ a ≠ g 0) := by
  obtain ⟨h1, h2, h3⟩ := h
  have ne : ∀ i, 0 < i → i < n + 1 → g i ≠ g 0 := fun i h0 hi e => by have := h3 i 0 hi (by omega) e; omega
  refine ⟨fun i hi => ?_, fun a ha => ?_, fun i j hi hj e => ?_⟩
  · by_cases c : i = 0
    · subst c; rw [va_upe]; exact ⟨h1 n (by omega), ne n hi (by omega)⟩
    · rw [va_upn c]; exact ⟨h1 i (by omega), ne i (by omega) (by omega)⟩
  · obtain ⟨i, hi, e⟩ := h2 a ha.1
    have i0 : i ≠ 0 := fun z => ha.2 (by rw [← e, z])
    by_cases c : i = n
    · exact ⟨0, by omega, by rw [va_upe, ← c]; exact e⟩
    · exact ⟨i, by omega, by rw [va_upn i0]; exact e⟩
  · by_cases c : i = 0 <;> by_cases d : j = 0
    · omega
    · subst c; rw [va_upe, va_upn d] at e; have := h3 n j (by omega) (by omega) e; omega
    · subst d; rw [va_upe, va_upn c] at e; have := h3 i n (by omega) (by omega) e; omega
    · rw [va_upn c, va_upn d] at e; exact h3 i j (by omega) (by omega) e
section HP
variable {K : Nat → Int} {g g' : Nat → Nat} {n k : Nat}
def hpO (K : Nat → Int) (g : Nat → Nat) (n : Nat) : Prop := ∀ i, 0 < i → i < n → K (g ((i - 1) / 2)) ≤ K (g i)
theorem hp_root (h : hpO K g n) : ∀ i, i < n → K (g 0) ≤ K (g i) := by
  intro i
  induction i using Nat.strongRecOn with
  | ind i ih =>
    intro hi
    by_cases c : i = 0
    · subst c; exact Int.le_refl _
    · have h1 := ih ((i - 1) / 2) (by omega) (by omega)
      have h2 := h i (by omega) hi
      omega
def hpU (K : Nat → Int) (g : Nat → Nat) (n k : Nat) : Prop := (∀ i, 0 < i → i < n → i ≠ k → K (g ((i - 1) / 2)) ≤ K (g i)) ∧ ∀ i, 0 < i → i < n → (i - 1) / 2 = k → 0 < k → K (g ((k - 1) / 2)) ≤ K (g i)
theorem hp_up0 (x : Nat) (h : hpO K g n) : hpU K (va_up g n x) (n + 1) n := by
  refine ⟨fun i h0 hi hk => ?_, fun i h0 hi hk _ => by omega⟩
  rw [va_upn hk, va_upn (show (i - 1) / 2 ≠ n by omega)]
  exact h i h0 (by omega)
theorem hp_upS (h : hpU K g n k) (h0 : 0 < k) (hk : k < n) (hlt : K (g k) < K (g ((k - 1) / 2))) (e1 : g' k = g ((k - 1) / 2)) (e2 : g' ((k - 1) / 2) = g k) (e3 : ∀ i, i ≠ k → i ≠ (k - 1) / 2 → g' i = g i) : hpU K g' n ((k - 1) / 2) := by
  obtain ⟨h1, h2⟩ := h
  have hp : ∀ i, i ≠ k → i ≠ (k - 1) / 2 → K (g' i) = K (g i) := fun i a b => by rw [e3 i a b]
  have q1 : K (g' k) = K (g ((k - 1) / 2)) := by rw [e1]
  have q2 : K (g' ((k - 1) / 2)) = K (g k) := by rw [e2]
  refine ⟨fun i hi0 hi hne => ?_, fun i hi0 hi hpar hpp => ?_⟩
  · by_cases c : i = k
    · subst c; rw [q1, q2]; omega
    · rw [hp i c hne]
      by_cases d : (i - 1) / 2 = k
      · rw [d, q1]; exact h2 i hi0 hi d h0
      · by_cases f : (i - 1) / 2 = (k - 1) / 2
        · rw [f, q2]
          have := h1 i hi0 hi c
          rw [f] at this
          omega
        · rw [hp _ d f]; exact h1 i hi0 hi c
  · have hb : K (g' (((k - 1) / 2 - 1) / 2)) = K (g (((k - 1) / 2 - 1) / 2)) := hp _ (by omega) (by omega)
    have hpar2 := h1 ((k - 1) / 2) hpp (by omega) (by omega)
    rw [hb]
    by_cases c : i = k
    · subst c; rw [q1]; exact hpar2
    · have h3 := h1 i hi0 hi c
      rw [hpar] at h3
      by_cases d : i = (k - 1) / 2
      · omega
      · rw [hp i c d]; omega
theorem hp_upE (h : hpU K g n k) (he : k = 0 ∨ K (g ((k - 1) / 2)) ≤ K (g k)) : hpO K g n := by
  intro i h0 hi
  by_cases c : i = k
  · subst c; rcases he with e | e; omega; exact e
  · exact h.1 i h0 hi c
def hpD (K : Nat → Int) (g : Nat → Nat) (n k : Nat) : Prop := (∀ i, 0 < i → i < n → (i - 1) / 2 ≠ k → K (g ((i - 1) / 2)) ≤ K (g i)) ∧ ∀ i, 0 < i → i < n → (i - 1) / 2 = k → 0 < k → K (g ((k - 1) / 2)) ≤ K (g i)
theorem hp_dn0 (x : Nat) (h : hpO K g (n + 1)) : hpD K (va_up g 0 x) n 0 := by
  refine ⟨fun i h0 hi hk => ?_, fun i h0 hi hk hz => by omega⟩
  rw [va_upn (show i ≠ 0 by omega), va_upn hk]
  exact h i h0 (by omega)
theorem hp_dnS {c : Nat} (h : hpD K g n k) (hc : (c - 1) / 2 = k) (hc0 : 0 < c) (hcn : c < n) (hmin : ∀ i, 0 < i → i < n → (i - 1) / 2 = k → K (g c) ≤ K (g i)) (hlt : K (g c) < K (g k)) (e1 : g' k = g c) (e2 : g' c = g k) (e3 : ∀ i, i ≠ k → i ≠ c → g' i = g i) : hpD K g' n c := by
  obtain ⟨h1, h2⟩ := h
  have hp : ∀ i, i ≠ k → i ≠ c → K (g' i) = K (g i) := fun i a b => by rw [e3 i a b]
  have q1 : K (g' k) = K (g c) := by rw [e1]
  have q2 : K (g' c) = K (g k) := by rw [e2]
  have kc : k < c := by omega
  refine ⟨fun i hi0 hi hne => ?_, fun i hi0 hi hpar hpp => ?_⟩
  · by_cases d : i = c
    · subst d; rw [hc, q1, q2]; omega
    · by_cases f : (i - 1) / 2 = k
      · rw [f, q1, hp i (by omega) d]; exact hmin i hi0 hi f
      · rw [hp _ f hne]
        by_cases z : i = k
        · rw [z] at hi0 f ⊢
          rw [q1]; exact h2 c hc0 hcn hc hi0
        · rw [hp i z d]; exact h1 i hi0 hi f
  · rw [hc, q1, hp i (by omega) (by omega)]
    have := h1 i hi0 hi (by omega)
    rw [hpar] at this
    exact this
theorem hp_dnE (h : hpD K g n k) (he : ∀ i, 0 < i → i < n → (i - 1) / 2 = k → K (g k) ≤ K (g i)) : hpO K g n := by
  intro i h0 hi
  by_cases c : (i - 1) / 2 = k
  · rw [c]; exact he i h0 hi c
  · exact h.1 i h0 hi c
end HP
