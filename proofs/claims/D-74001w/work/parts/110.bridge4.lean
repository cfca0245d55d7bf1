/-! BRIDGES 4: what a turn costs is the difference of the energies -/
def oaB (w le rg : Nat) (al : Bool) : Bool := (List.range (w * le)).all fun i => decide (oth w le rg i al ≠ (i : Int)) && (List.range (w * le)).all fun k => decide (oth w le rg i al = (k : Int)) == decide (ahd w le rg k al = (i : Int))
def oaC : Bool := (List.range 5).all fun w => (List.range 17).all fun le => decide (16 < w * le) || (List.range 4).all fun rg => oaB w le rg true && oaB w le rg false
theorem oaC_t : oaC = true := by decide +kernel
theorem oa_all (w : Nat) (hw : w < 5) (le : Nat) (hle : le < 17) (hwl : w * le ≤ 16) (rg : Nat) (hrg : rg < 4) (al : Bool) (i : Nat) (hi : i < w * le) : oth w le rg i al ≠ (i : Int) ∧ ∀ k, k < w * le → (oth w le rg i al = (k : Int) ↔ ahd w le rg k al = (i : Int)) := by
  have h := oaC_t
  unfold oaC at h
  rw [List.all_eq_true] at h
  have h1 := h w (List.mem_range.mpr hw)
  rw [List.all_eq_true] at h1
  have h2 := h1 le (List.mem_range.mpr hle)
  rw [decide_eq_false (by omega), Bool.false_or, List.all_eq_true] at h2
  have h3 := h2 rg (List.mem_range.mpr hrg)
  rw [Bool.and_eq_true] at h3
  have h4 : oaB w le rg al = true := by
    cases al with
    | true => exact h3.1
    | false => exact h3.2
  unfold oaB at h4
  rw [List.all_eq_true] at h4
  have h5 := h4 i (List.mem_range.mpr hi)
  rw [Bool.and_eq_true, List.all_eq_true] at h5
  refine ⟨of_decide_eq_true h5.1, fun k hk => ?_⟩
  have h6 := beq_iff_eq.mp (h5.2 k (List.mem_range.mpr hk))
  exact decide_eq_decide.mp h6
def sgm (g : Nat → Int) : Nat → Int
  | 0 => 0
  | n + 1 => sgm g n + g n
theorem sgm_sub (g h : Nat → Int) (n : Nat) : sgm g n - sgm h n = sgm (fun i => g i - h i) n := by
  induction n with
  | zero => rfl
  | succ n ih => simp only [sgm]; rw [← ih]; omega
theorem sgm_add (g h : Nat → Int) (n : Nat) : sgm g n + sgm h n = sgm (fun i => g i + h i) n := by
  induction n with
  | zero => rfl
  | succ n ih => simp only [sgm]; rw [← ih]; omega
theorem sgm_congr {g h : Nat → Int} {n : Nat} (e : ∀ i, i < n → g i = h i) : sgm g n = sgm h n := by
  induction n with
  | zero => rfl
  | succ n ih => simp only [sgm]; rw [ih (fun i hi => e i (by omega)), e n (by omega)]
theorem sgm_pt (g : Nat → Int) (k n : Nat) : sgm (fun i => if i = k then g i else 0) n = if k < n then g k else 0 := by
  induction n with
  | zero => rfl
  | succ n ih =>
    simp only [sgm]
    rw [ih]
    by_cases c : n = k
    · subst c
      rw [if_neg (by omega), if_pos rfl, if_pos (by omega)]
      omega
    · rw [if_neg c]
      by_cases d : k < n
      · rw [if_pos d, if_pos (by omega)]; omega
      · rw [if_neg d, if_neg (by omega)]; rfl
/-- a tie's term -/
def ttE (w le rg : Nat) (fa fl : Nat → Int) (s i : Nat) (al : Bool) : Int := if 0 ≤ oth w le rg i al then enX (jw fa fl i al) (s.testBit (oth w le rg i al).toNat) (s.testBit i) else 0
theorem enX_n1 (v : Int) (x y : Bool) : enX v (!x) y = - enX v x y := by unfold enX; cases x <;> cases y <;> simp
theorem enX_n2 (v : Int) (x y : Bool) : enX v x (!y) = - enX v x y := by unfold enX; cases x <;> cases y <;> simp
theorem bit_x (s k i : Nat) : (s ^^^ 2 ^ k).testBit i = if i = k then !(s.testBit i) else s.testBit i := by
  rw [Nat.testBit_xor]
  by_cases c : i = k
  · subst c
    rw [if_pos rfl, Nat.testBit_two_pow_self, Bool.xor_true]
  · rw [if_neg c, Nat.testBit_two_pow_of_ne (by omega), Bool.xor_false]
theorem tt_diff {w le rg : Nat} {fa fl : Nat → Int} {s k i : Nat} {al : Bool} (hw : w < 5) (hle : le < 17) (hwl : w * le ≤ 16) (hrg : rg < 4) (hk : k < w * le) (hi : i < w * le) : ttE w le rg fa fl (s ^^^ 2 ^ k) i al - ttE w le rg fa fl s i al = (if i = k then -2 * ttE w le rg fa fl s i al else 0) + (if i = (ahd w le rg k al).toNat ∧ 0 ≤ ahd w le rg k al then -2 * ttE w le rg fa fl s i al else 0) := by
  obtain ⟨h1, h2⟩ := oa_all w hw le hle hwl rg hrg al i hi
  have h3 := h2 k hk
  have hlt := oth_lt (w := w) (le := le) (k := i) rg al hi
  have hal := ahd_lt (w := w) (le := le) (k := k) rg al hk
  unfold ttE
  by_cases c : 0 ≤ oth w le rg i al
  · simp only [c, if_true]
    rw [bit_x, bit_x]
    by_cases d : i = k
    · subst d
      have h4 : (oth w le rg i al).toNat ≠ i := by omega
      have h5 : ¬ (i = (ahd w le rg i al).toNat ∧ 0 ≤ ahd w le rg i al) := fun q => h1 (h3.mpr (by omega))
      rw [if_neg h4, if_pos rfl, if_pos rfl, if_neg h5, enX_n2]
      omega
    · rw [if_neg d, if_neg d]
      by_cases t : oth w le rg i al = (k : Int)
      · have h4 := h3.mp t
        have h5 : (oth w le rg i al).toNat = k := by omega
        rw [if_pos h5, if_pos (by omega), enX_n1]
        omega
      · have h5 : ¬ (i = (ahd w le rg k al).toNat ∧ 0 ≤ ahd w le rg k al) := fun q => t (h3.mpr (by omega))
        rw [if_neg (by omega), if_neg h5]
        omega
  · simp only [c, if_false]
    simp
theorem ttE_T {w le rg : Nat} {fa fl : Nat → Int} {s k : Nat} {al : Bool} : -2 * ttE w le rg fa fl s k al = 2 * spn s k * tieT w le rg fa fl s k al := by
  unfold ttE tieT enX spn
  by_cases c : 0 ≤ oth w le rg k al
  · rw [if_pos c, if_pos c]
    cases s.testBit k <;> cases s.testBit (oth w le rg k al).toNat <;> simp <;> omega
  · rw [if_neg c, if_neg c]; simp
