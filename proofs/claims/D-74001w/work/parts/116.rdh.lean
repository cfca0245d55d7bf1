/-! A TEXT WITHOUT FAULTS: what may be told of it (rdH) -/
theorem p4_F {pf : Nat → Int} {k : Nat} {q : Nat × Nat × Int} (h : q.1 ≤ 400) : (pF pf k q).1 ≤ 400 := by unfold pF; split <;> exact h
theorem p4_P {pf : Nat → Int} {q : Nat × Nat × Int} (h : q.1 ≤ 400) : (pP pf q).1 ≤ 400 := by
  unfold pP
  split
  · exact p4_F h
  · dsimp only; omega
theorem p4_M {kf pf : Nat → Int} {k : Int} {q : Nat × Nat × Int} (h : q.1 ≤ 400) : (pM kf pf k q).1 ≤ 400 := by unfold pM; split <;> first | exact p4_P h | exact p4_F h
theorem p4_W {kf pf : Nat → Int} {q : Nat × Nat × Int} (h : q.1 ≤ 400) : (pW kf pf q).1 ≤ 400 := by unfold pW; split <;> first | exact p4_P h | exact p4_M h
theorem p4_U {kf pf : Nat → Int} {q : Nat × Nat × Int} (h : q.1 ≤ 400) : (pU kf pf q).1 ≤ 400 := by unfold pU; split <;> first | exact p4_P h | exact p4_M h
theorem p4_J {kf pf : Nat → Int} {q : Nat × Nat × Int} (h : q.1 ≤ 400) : (pJ kf pf q).1 ≤ 400 := by
  unfold pJ
  apply p4_M
  split
  · exact p4_P h
  · exact h
theorem p4_L {kf pf : Nat → Int} {q : Nat × Nat × Int} (h : q.1 ≤ 400) : (pL kf pf q).1 ≤ 400 := by
  unfold pL
  split
  · apply p4_M
    unfold pB
    repeat' split
    all_goals repeat (first | exact p4_P h | apply p4_J | apply p4_W | apply p4_M | apply p4_U)
  · exact p4_F h
def rdV (kf : Nat → Int) (q : Nat × Nat × Int) : Prop := 4 ≤ q.1 ∧ q.1 ≤ 400 ∧ ∀ k, 4 ≤ k → k < q.1 → kf (k - 1) = 4 → oK (kf k) = true → k + 3 < 402
theorem rdV_L {kf pf : Nat → Int} {q : Nat × Nat × Int} (h : rdV kf q) (h0 : (pL kf pf q).2.1 = 0) : rdV kf (pL kf pf q) := by
  obtain ⟨h1, h2, h3⟩ := h
  have h4 := p4_L (kf := kf) (pf := pf) h2
  obtain ⟨_, _, n, n1, n2, n3, n4, n5, n6⟩ := pL_inv h0
  rw [n3] at h4 ⊢
  dsimp only at h4
  refine ⟨by dsimp only; omega, h4, fun k k1 k2 k3 k4 => ?_⟩
  dsimp only at k2
  rcases Nat.lt_or_ge k q.1 with c | c
  · exact h3 k k1 c k3 k4
  · rcases Nat.eq_or_lt_of_le c with d | d
    · have := n6 (by rw [d]; exact k4)
      omega
    · have := n5 (k - 1 - q.1) (by omega)
      rw [show q.1 + (k - 1 - q.1) = k - 1 by omega] at this
      exact absurd k3 this
theorem pLs_inv {kf pf : Nat → Int} : ∀ f q, pMs q ≤ f → q.2.1 = 0 → rdV kf q → (pLs kf pf f q).2.1 = 0 → rdV kf (pLs kf pf f q) ∧ kf (pLs kf pf f q).1 = 0 := by
  intro f
  induction f with
  | zero =>
    intro q hm h0 _ _
    unfold pMs at hm
    rw [if_pos h0] at hm
    omega
  | succ f ih =>
    intro q hm h0 hv hr
    by_cases c : kf q.1 = 0
    · rw [pLs_end (Or.inr c)]
      exact ⟨hv, c⟩
    · rw [pLs_step h0 c (by omega), Nat.add_sub_cancel] at hr ⊢
      have hms := pL_ms (kf := kf) (pf := pf) h0 hv.2.1
      by_cases d : (pL kf pf q).2.1 = 0
      · exact ih _ (by omega) d (rdV_L hv d) hr
      · rw [pLs_end (Or.inl d)] at hr
        exact absurd hr d
theorem pS_inv {kf pf : Nat → Int} {fp : Int} (h : (pS kf pf fp).2.1 = 0) : pS kf pf fp = (4, 0, fp) ∧ kf 0 = 20 ∧ kf 1 = 2 ∧ kf 2 = 2 ∧ kf 3 = 4 := by
  unfold pS at h ⊢
  obtain ⟨a1, a2, a3⟩ := pM_inv h
  obtain ⟨b1, b2, b3⟩ := pM_inv a1
  obtain ⟨c1, c2, c3⟩ := pM_inv b1
  obtain ⟨_, d2, d3⟩ := pM_inv c1
  rw [d3] at c2 c3
  rw [d3, c3] at b2 b3
  rw [d3, c3, b3] at a2 a3
  rw [d3, c3, b3, a3]
  exact ⟨rfl, d2, c2, b2, a2⟩
theorem kyN_nz {ky : Nat → Int} {nm : Int} (k : Nat) : 1 ≤ kyN ky nm 1 k := by
  induction k with
  | zero => exact Int.le_refl 1
  | succ k ih => simp only [kyN]; split <;> omega
theorem tkQ_nz (tx : Nat → Int) (sz : Nat) (ky : Nat → Int) (i : Nat) : tkQ tx sz ky i ≠ 0 := by
  have h := kyN_nz (ky := ky) (nm := nmN tx sz i (rnN (bL tx sz) sz i)) 11
  unfold tkQ
  repeat' split
  all_goals omega
theorem rdH_all (tx : Nat → Int) (sz : Nat) (ky : Nat → Int) : rdH tx sz ky := by
  intro kf pf uf tk fp hX hr
  have h0 : (pS kf pf fp).2.1 = 0 := by
    by_cases c : (pS kf pf fp).2.1 = 0
    · exact c
    · rw [pLs_end (Or.inl c)] at hr; exact hr
  obtain ⟨s1, k0, k1, k2, k3⟩ := pS_inv h0
  have hv : rdV kf (pS kf pf fp) := by
    rw [s1]
    exact ⟨Nat.le_refl 4, (by dsimp only; omega), fun k a b => by dsimp only at b; omega⟩
  have hms : pMs (pS kf pf fp) ≤ 402 := by unfold pMs; split <;> omega
  obtain ⟨hv2, hz⟩ := pLs_inv 402 _ hms h0 hv hr
  generalize pLs kf pf 402 (pS kf pf fp) = r at hv2 hz
  obtain ⟨v1, v2, v3⟩ := hv2
  have hP := hX.1.2.1
  have hend : tk ≤ r.1 + 1 := by
    rcases Nat.lt_or_ge r.1 tk with c | c
    · have h1 := (hP r.1 c).1
      rw [hz] at h1
      have h2 : ¬ tkS tx sz r.1 < sz := fun q => by
        unfold tkK at h1
        rw [if_pos q] at h1
        exact tkQ_nz tx sz ky _ h1.symm
      rcases Nat.lt_or_ge (r.1 + 1) tk with d | d
      · exact absurd (hX.1.2.2.2 r.1 d) h2
      · exact d
    · omega
  refine ⟨?_, fun k a b c d => ?_⟩
  · rcases Nat.lt_or_ge tk 4 with c | c
    · have h1 : tkS tx sz (tk - 1) = sz := hX.1.2.2.1.resolve_left (by omega)
      have h2 := (hP (tk - 1) (by have := hX.1.1.1; omega)).1
      unfold tkK at h2
      rw [if_neg (by omega)] at h2
      have h3 := hX.1.1.1
      rcases (show tk - 1 = 0 ∨ tk - 1 = 1 ∨ tk - 1 = 2 by omega) with e | e | e
      · rw [e, k0] at h2; omega
      · rw [e, k1] at h2; omega
      · rw [e, k2] at h2; omega
    · exact c
  · rcases Nat.lt_or_ge k r.1 with e | e
    · exact v3 k a e c d
    · have : k = r.1 := by omega
      rw [this, hz] at d
      exact absurd d (by decide)
