/-! THE SHAPE OF A LINE, 2 -/
/-- from q on t tokens, none of them a semicolon but perhaps the first -/
def adv (kf : Nat → Int) (q r : Nat × Nat × Int) (t : Nat) : Prop := r = (q.1 + t, q.2) ∧ ∀ j, 0 < j → j < t → kf (q.1 + j) ≠ 4
theorem adv_P {kf pf : Nat → Int} {q : Nat × Nat × Int} (h : (pP pf q).2.1 = 0) : q.2.1 = 0 ∧ adv kf q (pP pf q) 1 := by
  obtain ⟨h1, _, h3⟩ := pP_inv h
  exact ⟨h1, h3, fun j hj hl => by omega⟩
theorem adv_one {kf : Nat → Int} {q r r' : Nat × Nat × Int} {t : Nat} (h : adv kf q r t) (ht : 0 < t) (hk : kf r.1 ≠ 4) (e : r' = (r.1 + 1, r.2)) : adv kf q r' (t + 1) := by
  obtain ⟨h1, h2⟩ := h
  subst h1
  refine ⟨by rw [e]; rfl, fun j hj hl => ?_⟩
  rcases Nat.lt_or_ge j t with c | c
  · exact h2 j hj c
  · rw [show j = t by omega]; exact hk
theorem adv_M {kf pf : Nat → Int} {k : Int} {q r : Nat × Nat × Int} {t : Nat} (hk4 : k ≠ 4) (ht : 0 < t) (hr : r.2.1 = 0 → adv kf q r t) (h : (pM kf pf k r).2.1 = 0) : r.2.1 = 0 ∧ adv kf q (pM kf pf k r) (t + 1) := by
  obtain ⟨h1, h2, h3⟩ := pM_inv h
  exact ⟨h1, adv_one (hr h1) ht (by rw [h2]; exact hk4) h3⟩
theorem adv_W {kf pf : Nat → Int} {q r : Nat × Nat × Int} {t : Nat} (ht : 0 < t) (hr : r.2.1 = 0 → adv kf q r t) (h : (pW kf pf r).2.1 = 0) : r.2.1 = 0 ∧ adv kf q (pW kf pf r) (t + 1) := by
  obtain ⟨h1, h2, h3⟩ := pW_inv h
  exact ⟨h1, adv_one (hr h1) ht (by omega) h3⟩
theorem adv_U {kf pf : Nat → Int} {q r : Nat × Nat × Int} {t : Nat} (ht : 0 < t) (hr : r.2.1 = 0 → adv kf q r t) (h : (pU kf pf r).2.1 = 0) : r.2.1 = 0 ∧ adv kf q (pU kf pf r) (t + 1) := by
  obtain ⟨h1, h2, h3⟩ := pU_inv h
  exact ⟨h1, adv_one (hr h1) ht (by omega) h3⟩
theorem adv_J {kf pf : Nat → Int} {q r : Nat × Nat × Int} {t : Nat} (ht : 0 < t) (hr : r.2.1 = 0 → adv kf q r t) (h : (pJ kf pf r).2.1 = 0) : r.2.1 = 0 ∧ (adv kf q (pJ kf pf r) (t + 1) ∨ adv kf q (pJ kf pf r) (t + 2)) := by
  obtain ⟨h1, h2⟩ := pJ_inv h
  refine ⟨h1, ?_⟩
  rcases h2 with ⟨h2, h3⟩ | ⟨h2, h3, h4⟩
  · exact Or.inl (adv_one (hr h1) ht (by omega) h3)
  · have h5 : adv kf q (r.1 + 1, r.2) (t + 1) := adv_one (hr h1) ht (by omega) rfl
    exact Or.inr (adv_one h5 (by omega) (by show kf (r.1 + 1) ≠ 4; omega) h4)
theorem pB_inv {kf pf : Nat → Int} {k : Int} {q : Nat × Nat × Int} (h : (pB kf pf k q).2.1 = 0) : q.2.1 = 0 ∧ ∃ t, 2 ≤ t ∧ t ≤ 5 ∧ adv kf q (pB kf pf k q) t ∧ ((k = 25 ∨ k = 26 ∨ k = 27) → 3 ≤ t) := by
  have P1 : (pP pf q).2.1 = 0 → adv kf q (pP pf q) 1 := fun h => (adv_P h).2
  have M2 : (pM kf pf 2 (pP pf q)).2.1 = 0 → adv kf q (pM kf pf 2 (pP pf q)) 2 := fun h => (adv_M (by decide) (by decide) P1 h).2
  have W3 : (pW kf pf (pM kf pf 2 (pP pf q))).2.1 = 0 → adv kf q (pW kf pf (pM kf pf 2 (pP pf q))) 3 := fun h => (adv_W (by decide) M2 h).2
  have Q1 : (pP pf q).2.1 = 0 → q.2.1 = 0 := fun h => (adv_P (kf := kf) h).1
  have Q2 : (pM kf pf 2 (pP pf q)).2.1 = 0 → q.2.1 = 0 := fun h => Q1 (adv_M (by decide) (by decide) P1 h).1
  have Q3 : (pW kf pf (pM kf pf 2 (pP pf q))).2.1 = 0 → q.2.1 = 0 := fun h => Q2 (adv_W (by decide) M2 h).1
  unfold pB at h ⊢
  by_cases c1 : k = 21 ∨ k = 22 ∨ k = 23
  · rw [if_pos c1] at h ⊢
    obtain ⟨h1, h2⟩ := adv_J (by decide) P1 h
    refine ⟨Q1 h1, ?_⟩
    rcases h2 with h2 | h2
    · exact ⟨2, by decide, by decide, h2, by omega⟩
    · exact ⟨3, by decide, by decide, h2, by omega⟩
  · rw [if_neg c1] at h ⊢
    by_cases c2 : k = 24
    · rw [if_pos c2] at h ⊢
      obtain ⟨h1, h2⟩ := adv_W (by decide) P1 h
      exact ⟨Q1 h1, 2, by decide, by decide, h2, by omega⟩
    · rw [if_neg c2] at h ⊢
      by_cases c3 : k = 25
      · rw [if_pos c3] at h ⊢
        obtain ⟨h1, h2⟩ := adv_J (by decide) W3 h
        refine ⟨Q3 h1, ?_⟩
        rcases h2 with h2 | h2
        · exact ⟨4, by decide, by decide, h2, by omega⟩
        · exact ⟨5, by decide, by decide, h2, by omega⟩
      · rw [if_neg c3] at h ⊢
        by_cases c4 : k = 26
        · rw [if_pos c4] at h ⊢
          obtain ⟨h1, h2⟩ := adv_J (by decide) M2 h
          refine ⟨Q2 h1, ?_⟩
          rcases h2 with h2 | h2
          · exact ⟨3, by decide, by decide, h2, by omega⟩
          · exact ⟨4, by decide, by decide, h2, by omega⟩
        · rw [if_neg c4] at h ⊢
          by_cases c5 : k = 27
          · rw [if_pos c5] at h ⊢
            obtain ⟨h1, h2⟩ := adv_U (by decide) M2 h
            exact ⟨Q2 h1, 3, by decide, by decide, h2, by omega⟩
          · rw [if_neg c5] at h ⊢
            obtain ⟨h1, h2⟩ := adv_M (by decide) (by decide) P1 h
            exact ⟨Q1 h1, 2, by decide, by decide, h2, by omega⟩
/-- a line: n tokens, the last of them its only semicolon -/
theorem pL_inv {kf pf : Nat → Int} {q : Nat × Nat × Int} (h : (pL kf pf q).2.1 = 0) : q.2.1 = 0 ∧ pKey (kf q.1) = true ∧ ∃ n, 3 ≤ n ∧ n ≤ 6 ∧ pL kf pf q = (q.1 + n, q.2) ∧ kf (q.1 + (n - 1)) = 4 ∧ (∀ j, j < n - 1 → kf (q.1 + j) ≠ 4) ∧ (oK (kf q.1) = true → 4 ≤ n) := by
  cases hk : pKey (kf q.1) with
  | false =>
    rw [pL_f hk] at h
    exact (pF_inv (by decide) h).elim
  | true =>
    rw [pL_t hk] at h ⊢
    obtain ⟨h1, h2, h3⟩ := pM_inv h
    obtain ⟨g1, t, g2, g3, g4, g5⟩ := pB_inv h1
    have hkey := of_decide_eq_true hk
    obtain ⟨a1, a2⟩ := g4
    rw [a1] at h2
    refine ⟨g1, rfl, t + 1, by omega, by omega, by rw [h3, a1]; rfl, h2, fun j hj => ?_, fun ho => ?_⟩
    · rcases Nat.eq_zero_or_pos j with c | c
      · subst c
        rw [Nat.add_zero]
        omega
      · exact a2 j c (by omega)
    · have := of_decide_eq_true ho
      have := g5 this
      omega
