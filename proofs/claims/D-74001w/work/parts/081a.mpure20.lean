/-! PURE WORDS 20: lines of one -/
theorem othB_b (w le k : Nat) (al ring : Bool) : -1 ≤ othB w le k al ring ∧ othB w le k al ring ≤ ((k + w + 1 : Nat) : Int) := by
  have h1 : k % w ≤ k := Nat.mod_le _ _
  have h2 : w * (k / w) ≤ k := Nat.mul_div_le _ _
  unfold othB
  split
  · split
    · omega
    · split <;> omega
  · split
    · omega
    · split <;> omega
def oI (kf uf : Nat → Int) (w le : Nat) (ra rl : Bool) (k : Nat) (g : Nat × Int) : Bool := !(oBad kf uf w le ra rl k) && decide (g.1 = 0)
theorem oI_iff {kf uf : Nat → Int} {w le : Nat} {ra rl : Bool} {k : Nat} {g : Nat × Int} : oI kf uf w le ra rl k g = true ↔ oBad kf uf w le ra rl k = false ∧ g.1 = 0 := by
  unfold oI
  simp
theorem oBad_ge {kf uf : Nat → Int} {w le : Nat} {ra rl : Bool} {k : Nat} (h : ((w * le : Nat) : Int) ≤ uf (k + 1)) : oBad kf uf w le ra rl k = true := decide_eq_true (Or.inl h)
theorem oBad_tie {kf uf : Nat → Int} {w le s : Nat} {ra rl al : Bool} {k : Nat} (hs : uf (k + 1) = (s : Int)) (hk : kf k = 25) (ha : al = decide (kf (k + 2) = 22)) (h : othB w le s al (if al = true then rl else ra) < 0) : oBad kf uf w le ra rl k = true := by
  refine decide_eq_true (Or.inr ⟨hk, ?_⟩)
  rw [hs, Int.toNat_natCast, ← ha]
  have : oRg kf k ra rl = if al = true then rl else ra := by
    unfold oRg
    rw [ha]
    simp only [decide_eq_true_eq]
  rw [this]
  exact h
theorem oBad_no {kf uf : Nat → Int} {w le s : Nat} {ra rl al : Bool} {k : Nat} (hs : uf (k + 1) = (s : Int)) (hlt : (s : Int) < ((w * le : Nat) : Int)) (ha : al = decide (kf (k + 2) = 22)) (h : ¬ kf k = 25 ∨ 0 ≤ othB w le s al (if al = true then rl else ra)) : oBad kf uf w le ra rl k = false := by
  refine decide_eq_false ?_
  rintro (q | ⟨q1, q2⟩)
  · omega
  · rw [hs, Int.toNat_natCast, ← ha] at q2
    have : oRg kf k ra rl = if al = true then rl else ra := by
      unfold oRg
      rw [ha]
      simp only [decide_eq_true_eq]
    rw [this] at q2
    rcases h with h | h
    · exact h q1
    · omega
theorem oI_t {kf uf : Nat → Int} {w le : Nat} {ra rl : Bool} {k : Nat} {g : Nat × Int} (h : oBad kf uf w le ra rl k = true) : oI kf uf w le ra rl k g = false := by
  unfold oI; rw [h]; rfl
theorem oI_f {kf uf : Nat → Int} {w le s : Nat} {ra rl i0 : Bool} {k : Nat} {g : Nat × Int} (h : oBad kf uf w le ra rl k = false) (hs : uf (k + 1) = (s : Int)) (hlt : (s : Int) < ((w * le : Nat) : Int)) (hi : i0 = decide ((s : Int) < ((w * le : Nat) : Int) ∧ g.1 = 0)) : i0 = oI kf uf w le ra rl k g := by
  unfold oI
  rw [h, hi]
  simp only [Bool.not_false, Bool.true_and, decide_eq_decide]
  exact ⟨fun q => q.2, fun q => ⟨hlt, q⟩⟩
