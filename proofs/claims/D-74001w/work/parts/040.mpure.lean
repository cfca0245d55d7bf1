/-! PURE WORDS of the reference -/
def rgOf (ra rl : Bool) : Nat := (if ra = true then 1 else 0) + (if rl = true then 2 else 0)
theorem rg_0 (ra rl : Bool) : (rgOf ra rl).testBit 0 = ra := by cases ra <;> cases rl <;> rfl
theorem rg_1 (ra rl : Bool) : (rgOf ra rl).testBit 1 = rl := by cases ra <;> cases rl <;> rfl
theorem rg_lt (ra rl : Bool) : rgOf ra rl < 4 := by cases ra <;> cases rl <;> decide
def othB (w le k : Nat) (al ring : Bool) : Int := if al = true then (if k / w + 1 < le then ((k + w : Nat) : Int) else if ring = true ∧ 2 < le then ((k % w : Nat) : Int) else -1) else (if k % w + 1 < w then ((k + 1 : Nat) : Int) else if ring = true ∧ 2 < w then ((w * (k / w) : Nat) : Int) else -1)
theorem oth_B1 (w le k : Nat) (ra rl : Bool) : oth w le (rgOf ra rl) k true = othB w le k true rl := by
  unfold oth othB; rw [rg_1]; rfl
theorem oth_B0 (w le k : Nat) (ra rl : Bool) : oth w le (rgOf ra rl) k false = othB w le k false ra := by
  unfold oth othB; rw [rg_0, Nat.mul_comm w]; rfl
theorem othB_1 {w le k : Nat} {ring : Bool} (h : k / w + 1 < le) : othB w le k true ring = ((k + w : Nat) : Int) := by
  unfold othB; simp only [reduceIte, Bool.false_eq_true]; rw [if_pos h]
theorem othB_2 {w le k : Nat} {ring : Bool} (h : le ≤ k / w + 1) (h1 : ring = true) (h2 : 2 < le) : othB w le k true ring = ((k % w : Nat) : Int) := by
  unfold othB; simp only [reduceIte, Bool.false_eq_true]; rw [if_neg (Nat.not_lt.mpr h), if_pos ⟨h1, h2⟩]
theorem othB_3 {w le k : Nat} {ring : Bool} (h : le ≤ k / w + 1) (h1 : ring = false) : othB w le k true ring = -1 := by
  unfold othB; simp only [reduceIte, Bool.false_eq_true]; rw [if_neg (Nat.not_lt.mpr h), if_neg (fun q => by rw [h1] at q; exact Bool.false_ne_true q.1)]
theorem othB_4 {w le k : Nat} {ring : Bool} (h : le ≤ k / w + 1) (h2 : le ≤ 2) : othB w le k true ring = -1 := by
  unfold othB; simp only [reduceIte, Bool.false_eq_true]; rw [if_neg (Nat.not_lt.mpr h), if_neg (fun q => Nat.not_lt.mpr h2 q.2)]
theorem othB_5 {w le k : Nat} {ring : Bool} (h : k % w + 1 < w) : othB w le k false ring = ((k + 1 : Nat) : Int) := by
  unfold othB; simp only [reduceIte, Bool.false_eq_true]; rw [if_pos h]
theorem othB_6 {w le k : Nat} {ring : Bool} (h : w ≤ k % w + 1) (h1 : ring = true) (h2 : 2 < w) : othB w le k false ring = ((w * (k / w) : Nat) : Int) := by
  unfold othB; simp only [reduceIte, Bool.false_eq_true]; rw [if_neg (Nat.not_lt.mpr h), if_pos ⟨h1, h2⟩]
theorem othB_7 {w le k : Nat} {ring : Bool} (h : w ≤ k % w + 1) (h1 : ring = false) : othB w le k false ring = -1 := by
  unfold othB; simp only [reduceIte, Bool.false_eq_true]; rw [if_neg (Nat.not_lt.mpr h), if_neg (fun q => by rw [h1] at q; exact Bool.false_ne_true q.1)]
theorem othB_8 {w le k : Nat} {ring : Bool} (h : w ≤ k % w + 1) (h2 : w ≤ 2) : othB w le k false ring = -1 := by
  unfold othB; simp only [reduceIte, Bool.false_eq_true]; rw [if_neg (Nat.not_lt.mpr h), if_neg (fun q => Nat.not_lt.mpr h2 q.2)]
/-- ones of x, by fuel -/
def pcf : Nat → Nat → Nat
  | 0, _ => 0
  | f + 1, x => x % 2 + pcf f (x / 2)
def pop (x : Nat) : Nat := pcf 32 x
theorem pcf_0 (f : Nat) : pcf f 0 = 0 := by
  induction f with
  | zero => rfl
  | succ f ih => simp [pcf, ih]
theorem pcf_le (f x : Nat) : pcf f x ≤ f := by
  induction f generalizing x with
  | zero => simp [pcf]
  | succ f ih => have := ih (x / 2); simp only [pcf]; omega
theorem tb_le (s k : Nat) : ((s >>> k) &&& 1 : Nat) ≤ 1 := Nat.and_le_right
theorem tb_eq (s a b : Nat) : ((s >>> a) &&& 1 : Nat) = ((s >>> b) &&& 1 : Nat) ↔ s.testBit a = s.testBit b := by
  have h1 := tb_and1 s a
  have h2 := tb_and1 s b
  have h3 := tb_le s a
  have h4 := tb_le s b
  constructor
  · intro h
    rw [h] at h1
    cases ha : s.testBit a <;> cases hb : s.testBit b <;> simp_all
  · intro h
    rw [h] at h1
    cases hb : s.testBit b <;> simp_all <;> omega
def enX (v : Int) (x y : Bool) : Int := if x = y then -v else v
theorem enX_eq {v : Int} {x y : Bool} (h : x = y) : enX v x y = -v := if_pos h
theorem enX_ne {v : Int} {x y : Bool} (h : ¬ x = y) : enX v x y = v := if_neg h
def enT1 (w le rg : Nat) (f : Nat → Int) (s i : Nat) : Int := if 0 ≤ oth w le rg i false then enX (f i) (s.testBit (oth w le rg i false).toNat) (s.testBit i) else 0
def enCb (w le rg rows i : Nat) : Bool := decide (0 ≤ oth w le rg i true) && (if (i : Int) < oth w le rg i true then decide (oth w le rg i true < ((w * rows : Nat) : Int)) else decide (rows = le))
def enT2 (w le rg rows : Nat) (f : Nat → Int) (s i : Nat) : Int := if enCb w le rg rows i = true then enX (f (16 + i)) (s.testBit (oth w le rg i true).toNat) (s.testBit i) else 0
/-- the energy of the first i sites, of so many rows -/
def enN (w le rg rows : Nat) (f : Nat → Int) (s : Nat) : Nat → Int
  | 0 => 0
  | i + 1 => enN w le rg rows f s i + enX (f (32 + i)) true (s.testBit i) + enT1 w le rg f s i + enT2 w le rg rows f s i
theorem enT1_neg {w le rg : Nat} {f : Nat → Int} {s i : Nat} {t : Int} (h : t = oth w le rg i false) (ht : t < 0) : enT1 w le rg f s i = 0 := by
  unfold enT1; rw [← h, if_neg (by omega)]
theorem enT1_pos {w le rg : Nat} {f : Nat → Int} {s i t : Nat} (h : (t : Int) = oth w le rg i false) : enT1 w le rg f s i = enX (f i) (s.testBit t) (s.testBit i) := by
  unfold enT1; rw [← h, if_pos (by omega)]; simp
theorem enT2_neg {w le rg rows : Nat} {f : Nat → Int} {s i : Nat} {t : Int} (h : t = oth w le rg i true) (ht : t < 0) : enT2 w le rg rows f s i = 0 := by
  unfold enT2 enCb; rw [← h, if_neg]; simp; omega
theorem enT2_out1 {w le rg rows : Nat} {f : Nat → Int} {s i t : Nat} (h : (t : Int) = oth w le rg i true) (h1 : i < t) (h2 : w * rows ≤ t) : enT2 w le rg rows f s i = 0 := by
  unfold enT2 enCb; rw [← h, if_neg]
  rw [if_pos (by omega)]
  simp only [Bool.and_eq_true, decide_eq_true_eq]; omega
theorem enT2_out2 {w le rg rows : Nat} {f : Nat → Int} {s i t : Nat} (h : (t : Int) = oth w le rg i true) (h1 : t ≤ i) (h2 : ¬ rows = le) : enT2 w le rg rows f s i = 0 := by
  unfold enT2 enCb; rw [← h, if_neg]
  rw [if_neg (by omega)]
  simp only [Bool.and_eq_true, decide_eq_true_eq]; omega
theorem enT2_in1 {w le rg rows : Nat} {f : Nat → Int} {s i t : Nat} (h : (t : Int) = oth w le rg i true) (h1 : i < t) (h2 : t < w * rows) : enT2 w le rg rows f s i = enX (f (16 + i)) (s.testBit t) (s.testBit i) := by
  unfold enT2 enCb; rw [← h, if_pos]
  · simp
  · rw [if_pos (by omega)]
    simp only [Bool.and_eq_true, decide_eq_true_eq]; omega
theorem enT2_in2 {w le rg rows : Nat} {f : Nat → Int} {s i t : Nat} (h : (t : Int) = oth w le rg i true) (h1 : t ≤ i) (h2 : rows = le) : enT2 w le rg rows f s i = enX (f (16 + i)) (s.testBit t) (s.testBit i) := by
  unfold enT2 enCb; rw [← h, if_pos]
  · simp
  · rw [if_neg (by omega)]
    simp only [Bool.and_eq_true, decide_eq_true_eq]; omega
/-- lawful by the pins of a row of numbers -/
def lwB (f : Nat → Int) (s i : Nat) : Bool := decide (f (48 + i) ≤ 0) || decide (((((s >>> i) &&& 1 : Nat)) : Int) = 2 - f (48 + i))
def lwN (f : Nat → Int) (s : Nat) : Nat → Bool
  | 0 => true
  | i + 1 => lwN f s i && lwB f s i
theorem lwN_false {f : Nat → Int} {s i n : Nat} (hi : i < n) (h : lwB f s i = false) : lwN f s n = false := by
  induction n with
  | zero => omega
  | succ n ih =>
    simp only [lwN]
    rcases Nat.lt_or_ge i n with q | q
    · rw [ih q]; rfl
    · have : i = n := by omega
      subst this
      rw [h]; simp
def lawM (w le : Nat) (f : Nat → Int) (s : Nat) : Bool := decide (s < nst w le) && lwN f s (w * le)
def lawMZ (w le : Nat) (f : Nat → Int) (x : Int) : Bool := decide (0 ≤ x) && lawM w le f x.toNat
theorem lawMZ_nat (w le : Nat) (f : Nat → Int) (x : Nat) : lawMZ w le f (x : Int) = lawM w le f x := by simp [lawMZ]
theorem lawMZ_out {w le : Nat} {f : Nat → Int} {x : Int} (h : ¬ (0 ≤ x ∧ x ≤ ((nst w le : Nat) : Int) - 1)) : lawMZ w le f x = false := by
  unfold lawMZ lawM
  by_cases h1 : 0 ≤ x
  · have h2 : ¬ x.toNat < nst w le := by omega
    simp [h2]
  · simp [h1]
theorem sh1 (k : Nat) : k >>> 1 = k / 2 := by rw [Nat.shiftRight_eq_div_pow]
theorem fpos {k f : Nat} (hk : k < 2 ^ f) (h : 0 < k) : ∃ g, f = g + 1 := by
  rcases f with _ | f
  · simp at hk; omega
  · exact ⟨f, rfl⟩
