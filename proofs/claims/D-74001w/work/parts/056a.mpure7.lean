theorem nrN_pos {p : Nat → Bool} {x s n : Nat} (hs : s < n) (hp : p s = true) : 0 ≤ nrN p x n := by
  induction n with
  | zero => omega
  | succ n ih =>
    have hb := nrN_b p x n
    simp only [nrN]
    split
    · omega
    · rename_i q
      rcases Nat.lt_or_ge s n with z | z
      · exact ih z
      · have : s = n := by omega
        subst this
        rcases Int.lt_or_le (nrN p x s) 0 with y | y
        · exact absurd ⟨hp, Or.inl y⟩ q
        · exact y
theorem gr_ex {w le rg : Nat} {f eo lm la : Nat → Int} {lv : Nat} (h : KnP w le rg f eo lm lv la) (hr : 0 < Lmany w le rg f) : ∃ s, s < nst w le ∧ eM w le rg f s = Lat w le rg f 0 := by
  have h1 := Kn_la h hr
  obtain ⟨s, g1, g2, -⟩ := cnt_find (p := fun s => decide (eM w le rg f s = (((150 + Lat w le rg f 0).toNat : Nat) : Int) - 150)) (n := nst w le) h1.2.2.2
  have g3 := of_decide_eq_true g2
  exact ⟨s, g1, by omega⟩
