/-! THE SHAPE OF A LINE without faults -/
theorem pP_inv {pf : Nat → Int} {q : Nat × Nat × Int} (h : (pP pf q).2.1 = 0) : q.2.1 = 0 ∧ q.1 ≠ 400 ∧ pP pf q = (q.1 + 1, q.2) := by
  by_cases c : q.1 = 400
  · rw [pP_t c] at h
    by_cases d : 0 < q.2.1
    · rw [pF_t d] at h; omega
    · rw [pF_f (by omega)] at h
      exact absurd (show (2 : Nat) = 0 from h) (by decide)
  · rw [pP_f c] at h
    exact ⟨h, c, pP_f c⟩
theorem pF_inv {pf : Nat → Int} {k : Nat} {q : Nat × Nat × Int} (hk : k ≠ 0) (h : (pF pf k q).2.1 = 0) : False := by
  by_cases d : 0 < q.2.1
  · rw [pF_t d] at h; omega
  · rw [pF_f (by omega)] at h
    exact hk h
theorem pM_inv {kf pf : Nat → Int} {k : Int} {q : Nat × Nat × Int} (h : (pM kf pf k q).2.1 = 0) : q.2.1 = 0 ∧ kf q.1 = k ∧ pM kf pf k q = (q.1 + 1, q.2) := by
  cases hi : pI kf k q with
  | true =>
    rw [pM_t hi] at h
    obtain ⟨h1, _, h3⟩ := pP_inv h
    exact ⟨h1, (of_decide_eq_true hi).2, by rw [pM_t hi, h3]⟩
  | false =>
    rw [pM_f hi] at h
    exact (pF_inv (by decide) h).elim
theorem pW_inv {kf pf : Nat → Int} {q : Nat × Nat × Int} (h : (pW kf pf q).2.1 = 0) : q.2.1 = 0 ∧ (kf q.1 = 21 ∨ kf q.1 = 22) ∧ pW kf pf q = (q.1 + 1, q.2) := by
  cases hi : pI kf 21 q with
  | true =>
    rw [pW_t hi] at h
    obtain ⟨h1, _, h3⟩ := pP_inv h
    exact ⟨h1, Or.inl (of_decide_eq_true hi).2, by rw [pW_t hi, h3]⟩
  | false =>
    rw [pW_f hi] at h
    obtain ⟨h1, h2, h3⟩ := pM_inv h
    exact ⟨h1, Or.inr h2, by rw [pW_f hi, h3]⟩
theorem pU_inv {kf pf : Nat → Int} {q : Nat × Nat × Int} (h : (pU kf pf q).2.1 = 0) : q.2.1 = 0 ∧ (kf q.1 = 28 ∨ kf q.1 = 29) ∧ pU kf pf q = (q.1 + 1, q.2) := by
  cases hi : pI kf 28 q with
  | true =>
    rw [pU_t hi] at h
    obtain ⟨h1, _, h3⟩ := pP_inv h
    exact ⟨h1, Or.inl (of_decide_eq_true hi).2, by rw [pU_t hi, h3]⟩
  | false =>
    rw [pU_f hi] at h
    obtain ⟨h1, h2, h3⟩ := pM_inv h
    exact ⟨h1, Or.inr h2, by rw [pU_f hi, h3]⟩
/-- a j: one token, or two -/
theorem pJ_inv {kf pf : Nat → Int} {q : Nat × Nat × Int} (h : (pJ kf pf q).2.1 = 0) : q.2.1 = 0 ∧ ((kf q.1 = 2 ∧ pJ kf pf q = (q.1 + 1, q.2)) ∨ (kf q.1 = 5 ∧ kf (q.1 + 1) = 2 ∧ pJ kf pf q = (q.1 + 2, q.2))) := by
  cases hi : pI kf 5 q with
  | true =>
    rw [pJ_t hi] at h ⊢
    obtain ⟨h1, h2, h3⟩ := pM_inv h
    obtain ⟨g1, _, g3⟩ := pP_inv h1
    rw [g3] at h2 h3
    refine ⟨g1, Or.inr ⟨(of_decide_eq_true hi).2, h2, ?_⟩⟩
    rw [g3, h3]
  | false =>
    rw [pJ_f hi] at h ⊢
    obtain ⟨h1, h2, h3⟩ := pM_inv h
    exact ⟨h1, Or.inl ⟨h2, h3⟩⟩
