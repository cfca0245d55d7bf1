/-! A TREE MAP: what the mending of colours needs -/
section TM6
variable {K : Nat → Int} {L : List Nat} {root : Option Nat} {lf rt pa : Nat → Option Nat} {co : Nat → Bool}
/-- the loop's measure: black above, or not too many above -/
def fxz (pa : Nat → Option Nat) (co : Nat → Bool) (t : Option Nat) (mz : Nat) : Prop := (mz = 0 ∧ ∃ y q, t = some y ∧ pa y = some q ∧ co q = true) ∨ (1 ≤ mz ∧ ∀ y, t = some y → anc pa (mz - 1) y)
theorem fx_red {y q mz : Nat} (h : fxz pa co (some y) mz) (hq : pa y = some q) (hc : co q = false) : 2 ≤ mz ∧ anc pa (mz - 2) q := by
  rcases h with ⟨-, y9, q9, e1, e2, e3⟩ | ⟨h1, h2⟩
  · cases e1
    rw [hq] at e2
    cases e2
    rw [hc] at e3
    cases e3
  · obtain ⟨k, e, ha⟩ := anc_up (h2 y rfl) hq
    refine ⟨by omega, ?_⟩
    have : mz - 2 = k := by omega
    rw [this]
    exact ha
theorem fx_up {y q g mz : Nat} {co' : Nat → Bool} (h : fxz pa co (some y) mz) (hq : pa y = some q) (hc : co q = false) (hg : pa q = some g) : fxz pa co' (some g) (mz - 2) ∧ 3 ≤ mz := by
  obtain ⟨h1, h2⟩ := fx_red h hq hc
  obtain ⟨k, e, ha⟩ := anc_up h2 hg
  refine ⟨Or.inr ⟨by omega, fun z hz => ?_⟩, by omega⟩
  cases hz
  have : mz - 2 - 1 = k := by omega
  rw [this]
  exact ha
theorem fx_start (h : tmOk K L root lf rt pa) {x : Nat} (hx : x ∈ L) : ∃ mz, fxz pa co (some x) mz := by
  obtain ⟨n, hn⟩ := tm_anc h hx
  exact ⟨n + 1, Or.inr ⟨by omega, fun y hy => by cases hy; exact hn⟩⟩
end TM6
