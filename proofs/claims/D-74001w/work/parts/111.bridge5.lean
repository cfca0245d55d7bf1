/-! BRIDGES 5: what a turn costs -/
theorem ttE_A {w le rg : Nat} {fa fl : Nat → Int} {s k : Nat} {al : Bool} (hw : w < 5) (hle : le < 17) (hwl : w * le ≤ 16) (hrg : rg < 4) (hk : k < w * le) (h : 0 ≤ ahd w le rg k al) : -2 * ttE w le rg fa fl s (ahd w le rg k al).toNat al = 2 * spn s k * tieA w le rg fa fl s k al := by
  have hal := ahd_lt (w := w) (le := le) (k := k) rg al hk
  have hi : (ahd w le rg k al).toNat < w * le := by omega
  have ho : oth w le rg (ahd w le rg k al).toNat al = (k : Int) := ((oa_all w hw le hle hwl rg hrg al _ hi).2 k hk).mpr (by omega)
  unfold ttE tieA enX spn
  rw [ho, if_pos (by omega), if_pos h, Int.toNat_natCast]
  cases s.testBit k <;> cases s.testBit (ahd w le rg k al).toNat <;> simp <;> omega
theorem en_sgm {w le rg : Nat} {f : Nat → Int} {s : Nat} : ∀ n, n ≤ w * le → enN w le rg le f s n = sgm (fun i => enX (f (32 + i)) true (s.testBit i) + ttE w le rg f (fun q => f (16 + q)) s i false + ttE w le rg f (fun q => f (16 + q)) s i true) n := by
  intro n
  induction n with
  | zero => intro _; rfl
  | succ n ih =>
    intro hn
    simp only [enN, sgm]
    rw [ih (by omega)]
    have e1 : enT1 w le rg f s n = ttE w le rg f (fun q => f (16 + q)) s n false := rfl
    have e2 : enT2 w le rg le f s n = ttE w le rg f (fun q => f (16 + q)) s n true := by
      have hlt := oth_lt (w := w) (le := le) (k := n) rg true (by omega)
      unfold enT2 enCb ttE
      by_cases c : 0 ≤ oth w le rg n true
      · rw [decide_eq_true c, Bool.true_and, if_pos c]
        have h1 : (if (n : Int) < oth w le rg n true then decide (oth w le rg n true < ((w * le : Nat) : Int)) else decide (le = le)) = true := by
          split
          · exact decide_eq_true hlt.2
          · exact decide_eq_true rfl
        rw [if_pos h1]
        rfl
      · rw [decide_eq_false c, Bool.false_and, if_neg c, if_neg (by decide)]
    rw [e1, e2]
    omega
theorem sgm_tt {w le rg : Nat} {fa fl : Nat → Int} {s k : Nat} {al : Bool} (hw : w < 5) (hle : le < 17) (hwl : w * le ≤ 16) (hrg : rg < 4) (hk : k < w * le) : sgm (fun i => ttE w le rg fa fl (s ^^^ 2 ^ k) i al) (w * le) - sgm (fun i => ttE w le rg fa fl s i al) (w * le) = 2 * spn s k * tieT w le rg fa fl s k al + 2 * spn s k * tieA w le rg fa fl s k al := by
  rw [sgm_sub, sgm_congr (fun i hi => tt_diff hw hle hwl hrg hk hi), ← sgm_add, sgm_pt, if_pos hk, ttE_T]
  congr 1
  have hal := ahd_lt (w := w) (le := le) (k := k) rg al hk
  by_cases c : 0 ≤ ahd w le rg k al
  · have e : ∀ i, i < w * le → (if i = (ahd w le rg k al).toNat ∧ 0 ≤ ahd w le rg k al then -2 * ttE w le rg fa fl s i al else 0) = (if i = (ahd w le rg k al).toNat then -2 * ttE w le rg fa fl s i al else 0) := by
      intro i _
      by_cases d : i = (ahd w le rg k al).toNat
      · rw [if_pos ⟨d, c⟩, if_pos d]
      · rw [if_neg (fun q => d q.1), if_neg d]
    rw [sgm_congr e, sgm_pt, if_pos (by omega), ttE_A hw hle hwl hrg hk c]
  · have e : ∀ i, i < w * le → (if i = (ahd w le rg k al).toNat ∧ 0 ≤ ahd w le rg k al then -2 * ttE w le rg fa fl s i al else 0) = (fun _ => (0 : Int)) i := by
      intro i _
      rw [if_neg (fun q => c q.2)]
    have z : ∀ n, sgm (fun _ => (0 : Int)) n = 0 := by
      intro n
      induction n with
      | zero => rfl
      | succ n ih => simp only [sgm]; rw [ih]; rfl
    rw [sgm_congr e, z]
    unfold tieA
    rw [if_neg c]
    simp
theorem en_cost {w le rg : Nat} {f : Nat → Int} {s k : Nat} (hw : w < 5) (hle : le < 17) (hwl : w * le ≤ 16) (hrg : rg < 4) (hk : k < w * le) : enN w le rg le f (s ^^^ 2 ^ k) (w * le) - enN w le rg le f s (w * le) = costT w le rg f (fun q => f (16 + q)) (fun q => f (32 + q)) s k := by
  rw [en_sgm _ (Nat.le_refl _), en_sgm _ (Nat.le_refl _)]
  have h1 := sgm_tt (fa := f) (fl := fun q => f (16 + q)) (s := s) (al := false) hw hle hwl hrg hk
  have h2 := sgm_tt (fa := f) (fl := fun q => f (16 + q)) (s := s) (al := true) hw hle hwl hrg hk
  have h3 : sgm (fun i => enX (f (32 + i)) true ((s ^^^ 2 ^ k).testBit i)) (w * le) - sgm (fun i => enX (f (32 + i)) true (s.testBit i)) (w * le) = 2 * spn s k * f (32 + k) := by
    have e : ∀ i, i < w * le → enX (f (32 + i)) true ((s ^^^ 2 ^ k).testBit i) - enX (f (32 + i)) true (s.testBit i) = (fun i => if i = k then -2 * enX (f (32 + i)) true (s.testBit i) else 0) i := by
      intro i _
      show _ = if i = k then -2 * enX (f (32 + i)) true (s.testBit i) else 0
      rw [bit_x]
      by_cases c : i = k
      · rw [if_pos c, if_pos c, enX_n2]; omega
      · rw [if_neg c, if_neg c]; omega
    rw [sgm_sub, sgm_congr e, sgm_pt (fun i => -2 * enX (f (32 + i)) true (s.testBit i)), if_pos hk]
    unfold enX spn
    cases s.testBit k <;> simp <;> omega
  have s1 : ∀ t, sgm (fun i => enX (f (32 + i)) true (t.testBit i) + ttE w le rg f (fun q => f (16 + q)) t i false + ttE w le rg f (fun q => f (16 + q)) t i true) (w * le) = sgm (fun i => enX (f (32 + i)) true (t.testBit i)) (w * le) + sgm (fun i => ttE w le rg f (fun q => f (16 + q)) t i false) (w * le) + sgm (fun i => ttE w le rg f (fun q => f (16 + q)) t i true) (w * le) := by
    intro t
    rw [sgm_add, sgm_add]
  rw [s1, s1]
  have h4 : costT w le rg f (fun q => f (16 + q)) (fun q => f (32 + q)) s k = 2 * spn s k * f (32 + k) + (2 * spn s k * tieT w le rg f (fun q => f (16 + q)) s k false + 2 * spn s k * tieA w le rg f (fun q => f (16 + q)) s k false) + (2 * spn s k * tieT w le rg f (fun q => f (16 + q)) s k true + 2 * spn s k * tieA w le rg f (fun q => f (16 + q)) s k true) := by
    unfold costT
    simp only [pullN]
    rw [Int.mul_add, Int.mul_add, Int.mul_add, Int.mul_add]
    omega
  rw [h4]
  omega
