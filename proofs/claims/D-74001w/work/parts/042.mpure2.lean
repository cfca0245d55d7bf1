/-! PURE WORDS of the reference, 2 -/
def cntN (p : Nat → Bool) : Nat → Nat
  | 0 => 0
  | i + 1 => cntN p i + (if p i = true then 1 else 0)
theorem cntN_t {p : Nat → Bool} {i : Nat} (h : p i = true) : cntN p (i + 1) = cntN p i + 1 := by simp only [cntN]; rw [if_pos h]
theorem cntN_f {p : Nat → Bool} {i : Nat} (h : p i = false) : cntN p (i + 1) = cntN p i := by simp only [cntN]; rw [if_neg (by rw [h]; decide)]; rfl
theorem cntN_le (p : Nat → Bool) (i : Nat) : cntN p i ≤ i := by
  induction i with
  | zero => simp [cntN]
  | succ i ih => simp only [cntN]; split <;> omega
/-- ties broken, a tie after the other: 2s across, 2s+1 along -/
def mbN (w le rg : Nat) (f : Nat → Int) (s : Nat) : Nat → Nat
  | 0 => 0
  | j + 1 => mbN w le rg f s j + bkT w le rg f (fun q => f (16 + q)) s (j / 2) (decide (j % 2 = 1))
theorem mbN_le (w le rg : Nat) (f : Nat → Int) (s j : Nat) : mbN w le rg f s j ≤ j := by
  have h : ∀ k al, bkT w le rg f (fun q => f (16 + q)) s k al ≤ 1 := fun k al => by unfold bkT; split <;> omega
  induction j with
  | zero => simp [mbN]
  | succ j ih => have := h (j / 2) (decide (j % 2 = 1)); simp only [mbN]; omega
theorem mbN_brk (w le rg : Nat) (f : Nat → Int) (s i : Nat) : mbN w le rg f s (2 * i) = brkN w le rg f (fun q => f (16 + q)) s i := by
  induction i with
  | zero => rfl
  | succ i ih =>
    rw [show 2 * (i + 1) = 2 * i + 1 + 1 by omega]
    simp only [mbN, brkN]
    rw [ih, show (2 * i + 1) / 2 = i by omega, show 2 * i / 2 = i by omega, show decide ((2 * i + 1) % 2 = 1) = true from decide_eq_true (by omega), show decide (2 * i % 2 = 1) = false from decide_eq_false (by omega)]
theorem bkT_j0 {w le rg : Nat} {fa fl : Nat → Int} {s k : Nat} {al : Bool} (h : jw fa fl k al = 0) : bkT w le rg fa fl s k al = 0 := by
  unfold bkT; rw [h, if_neg]; simp
theorem bkT_yes {w le rg : Nat} {fa fl : Nat → Int} {s k : Nat} {al : Bool} {t : Nat} (h : (t : Int) = oth w le rg k al) (h2 : (s.testBit k = s.testBit t ∧ jw fa fl k al < 0) ∨ (¬ s.testBit k = s.testBit t ∧ 0 < jw fa fl k al)) : bkT w le rg fa fl s k al = 1 := by
  apply bkT_1 h
  unfold spn
  rcases h2 with ⟨h3, h4⟩ | ⟨h3, h4⟩
  · rw [h3]; split <;> omega
  · cases hk : s.testBit k <;> cases ht : s.testBit t <;> simp_all
theorem bkT_no {w le rg : Nat} {fa fl : Nat → Int} {s k : Nat} {al : Bool} {t : Nat} (h : (t : Int) = oth w le rg k al) (h2 : (s.testBit k = s.testBit t ∧ 0 ≤ jw fa fl k al) ∨ (¬ s.testBit k = s.testBit t ∧ jw fa fl k al < 0)) : bkT w le rg fa fl s k al = 0 := by
  apply bkT_0 h
  unfold spn
  rcases h2 with ⟨h3, h4⟩ | ⟨h3, h4⟩
  · rw [h3]; split <;> omega
  · cases hk : s.testBit k <;> cases ht : s.testBit t <;> simp_all <;> omega
theorem sqr_m {w le rg : Nat} {fa fl : Nat → Int} {k x y : Nat} (hx : (x : Int) = oth w le rg k false) (hy : (y : Int) = oth w le rg k true) : sqr w le rg fa fl k = if fa k * fl k * fl x * fa y < 0 then 1 else 0 := by
  rw [sqr_in hx hy, show fa k * fl k * fa y * fl x = fa k * fl k * fl x * fa y by rw [Int.mul_assoc, Int.mul_comm (fa y), ← Int.mul_assoc]]
/-- clusters as the reference finds them -/
def mcC (w le rg st set k : Nat) (al : Bool) : Bool := decide (0 ≤ oth w le rg k al) && (st.testBit k == st.testBit (oth w le rg k al).toNat) && (set.testBit k || set.testBit (oth w le rg k al).toNat)
def mcT (w le rg st k : Nat) (al : Bool) (set : Nat) : Nat := if mcC w le rg st set k al = true then set ||| (2 ^ k ||| 2 ^ (oth w le rg k al).toNat) else set
def mcS (w le rg st set : Nat) : Nat → Nat
  | 0 => set
  | j + 1 => mcT w le rg st (j / 2) (decide (j % 2 = 1)) (mcS w le rg st set j)
def mcR (w le rg st : Nat) : Nat → Nat → Nat → Nat
  | 0, set, _ => set
  | f + 1, set, was => if set = was then set else mcR w le rg st f (mcS w le rg st set (2 * (w * le))) set
theorem mcT_neg {w le rg st k : Nat} {al : Bool} {set : Nat} {t : Int} (h : t = oth w le rg k al) (ht : t < 0) : mcT w le rg st k al set = set := by
  unfold mcT mcC; rw [← h, if_neg]; simp; omega
theorem mcT_ne {w le rg st k : Nat} {al : Bool} {set : Nat} {t : Nat} (h : (t : Int) = oth w le rg k al) (ht : ¬ st.testBit k = st.testBit t) : mcT w le rg st k al set = set := by
  unfold mcT mcC; rw [← h, if_neg]; simp; intro q; exact absurd q ht
theorem mcT_out {w le rg st k : Nat} {al : Bool} {set : Nat} {t : Nat} (h : (t : Int) = oth w le rg k al) (h1 : set.testBit k = false) (h2 : set.testBit t = false) : mcT w le rg st k al set = set := by
  unfold mcT mcC; rw [← h, if_neg]; simp [h1, h2]
theorem mcT_in {w le rg st k : Nat} {al : Bool} {set : Nat} {t : Nat} (h : (t : Int) = oth w le rg k al) (ht : st.testBit k = st.testBit t) (h1 : set.testBit k = true ∨ set.testBit t = true) : mcT w le rg st k al set = set ||| (2 ^ k ||| 2 ^ t) := by
  unfold mcT mcC; rw [← h, if_pos]
  · simp
  · simp [ht]; exact h1
theorem mcT_lt {w le rg st k : Nat} {al : Bool} {set n : Nat} (hk : k < w * le) (hn : w * le ≤ n) (hs : set < 2 ^ n) : mcT w le rg st k al set < 2 ^ n ∧ set ≤ mcT w le rg st k al set := by
  unfold mcT
  split
  · rename_i q
    have h1 := oth_lt rg al hk
    have h2 : 0 ≤ oth w le rg k al := by unfold mcC at q; simp at q; exact q.1.1
    refine ⟨Nat.or_lt_two_pow hs (Nat.or_lt_two_pow (Nat.pow_lt_pow_right (by decide) (by omega)) (Nat.pow_lt_pow_right (by decide) (by omega))), Nat.left_le_or⟩
  · exact ⟨hs, Nat.le_refl _⟩
theorem mcS_lt {w le rg st set n : Nat} (hn : w * le ≤ n) (hs : set < 2 ^ n) : ∀ j, j ≤ 2 * (w * le) → mcS w le rg st set j < 2 ^ n ∧ set ≤ mcS w le rg st set j := by
  intro j
  induction j with
  | zero => intro _; exact ⟨hs, Nat.le_refl _⟩
  | succ j ih =>
    intro hj
    obtain ⟨h1, h2⟩ := ih (by omega)
    have h3 := mcT_lt (rg := rg) (st := st) (al := decide (j % 2 = 1)) (by omega : j / 2 < w * le) hn h1
    exact ⟨h3.1, Nat.le_trans h2 h3.2⟩
theorem mcR_lt {w le rg st n : Nat} (hn : w * le ≤ n) : ∀ f set was, set < 2 ^ n → mcR w le rg st f set was < 2 ^ n := by
  intro f
  induction f with
  | zero => intro set was h; exact h
  | succ f ih =>
    intro set was h
    simp only [mcR]
    split
    · exact h
    · exact ih _ _ (mcS_lt hn h _ (Nat.le_refl _)).1
def mcl (w le rg st k : Nat) : Nat := mcR w le rg st 65537 (2 ^ k) 0
theorem mcl_lt {w le rg st k : Nat} (hwl : w * le ≤ 16) (hk : k < w * le) : mcl w le rg st k < 65536 := mcR_lt (n := 16) hwl 65537 (2 ^ k) 0 (Nat.pow_lt_pow_right (by decide) (by omega))
def tmN (w le rg : Nat) : Nat → Nat
  | 0 => 0
  | j + 1 => tmN w le rg j + tiT w le rg (j / 2) (decide (j % 2 = 1))
theorem tmN_tie (w le rg i : Nat) : tmN w le rg (2 * i) = tieN w le rg i := by
  induction i with
  | zero => rfl
  | succ i ih =>
    rw [show 2 * (i + 1) = 2 * i + 1 + 1 by omega]
    simp only [tmN, tieN]
    rw [ih, show (2 * i + 1) / 2 = i by omega, show 2 * i / 2 = i by omega, show decide ((2 * i + 1) % 2 = 1) = true from decide_eq_true (by omega), show decide (2 * i % 2 = 1) = false from decide_eq_false (by omega)]
def pnN (f : Nat → Int) : Nat → Nat
  | 0 => 0
  | i + 1 => if 0 < f (48 + i) then pnN f i ||| 2 ^ i else pnN f i
theorem pnN_lt (f : Nat → Int) (i : Nat) : pnN f i < 2 ^ i := by
  induction i with
  | zero => simp [pnN]
  | succ i ih =>
    have h : 2 ^ i < 2 ^ (i + 1) := Nat.pow_lt_pow_right (by decide) (by omega)
    simp only [pnN]
    split
    · exact Nat.or_lt_two_pow (by omega) h
    · omega
def mxN (g : Nat → Nat) : Nat → Nat
  | 0 => 0
  | i + 1 => if mxN g i < g i then g i else mxN g i
def fwN (p : Nat → Bool) (g : Nat → Nat) : Nat → Int
  | 0 => -1
  | i + 1 => if p i = true then (if fwN p g i < 0 ∨ (g i : Int) < fwN p g i then (g i : Int) else fwN p g i) else fwN p g i
theorem fwN_b {p : Nat → Bool} {g : Nat → Nat} {m : Nat} (hg : ∀ i, g i ≤ m) (i : Nat) : -1 ≤ fwN p g i ∧ fwN p g i ≤ m := by
  induction i with
  | zero => simp only [fwN]; omega
  | succ i ih =>
    have := hg i
    simp only [fwN]
    split
    · split <;> omega
    · omega
/-- the steepest site: which, how low it comes -/
def stN (eo : Nat → Int) (s : Nat) : Nat → Int × Int
  | 0 => (-1, eo s)
  | i + 1 => if eo (s ^^^ 2 ^ i) < (stN eo s i).2 then ((i : Int), eo (s ^^^ 2 ^ i)) else stN eo s i
theorem stN_b (eo : Nat → Int) (s i : Nat) : -1 ≤ (stN eo s i).1 ∧ (stN eo s i).1 < i := by
  induction i with
  | zero => simp [stN]
  | succ i ih => simp only [stN]; split <;> (try dsimp only) <;> omega
theorem stN_low (eo : Nat → Int) (s i : Nat) (h : 0 ≤ (stN eo s i).1) : eo (s ^^^ 2 ^ (stN eo s i).1.toNat) = (stN eo s i).2 ∧ (stN eo s i).2 < eo s := by
  have h0 : ∀ i, (stN eo s i).2 ≤ eo s := by
    intro i
    induction i with
    | zero => simp [stN]
    | succ i ih => simp only [stN]; split <;> (try dsimp only) <;> omega
  induction i with
  | zero => simp [stN] at h
  | succ i ih =>
    simp only [stN] at h ⊢
    split
    · have := h0 i
      refine ⟨?_, by dsimp only; omega⟩
      dsimp only
      rw [Int.toNat_natCast]
    · rename_i q
      rw [if_neg q] at h
      exact ih h
/-- a fall: where it ends, by fuel -/
def faE (eo : Nat → Int) (m : Nat) : Nat → Nat → Nat
  | 0, s => s
  | f + 1, s => if (stN eo s m).1 < 0 then s else faE eo m f (s ^^^ 2 ^ (stN eo s m).1.toNat)
def faT (eo : Nat → Int) (m : Nat) : Nat → Nat → Nat
  | 0, _ => 0
  | f + 1, s => if (stN eo s m).1 < 0 then 0 else faT eo m f (s ^^^ 2 ^ (stN eo s m).1.toNat) + 1
theorem faT_le (eo : Nat → Int) (m f s : Nat) : faT eo m f s ≤ f := by
  induction f generalizing s with
  | zero => simp [faT]
  | succ f ih =>
    have := ih (s ^^^ 2 ^ (stN eo s m).1.toNat)
    simp only [faT]
    split <;> omega
def upN (eo : Nat → Int) (e sg : Int) : Nat → Int
  | 0 => 100000
  | i + 1 => if eo i = e ∧ sg * (pop i : Int) < upN eo e sg i then sg * (pop i : Int) else upN eo e sg i
theorem upN_b (eo : Nat → Int) (e sg : Int) (hs : -1 ≤ sg ∧ sg ≤ 1) (i : Nat) : -32 ≤ upN eo e sg i ∧ upN eo e sg i ≤ 100000 := by
  induction i with
  | zero => simp [upN]
  | succ i ih =>
    have h1 : pop i ≤ 32 := pcf_le 32 i
    have h2 := mul3 (m := 1) (n := 32) (a := sg) (b := (pop i : Int)) (by omega) (by omega)
    simp only [upN]
    split <;> omega
