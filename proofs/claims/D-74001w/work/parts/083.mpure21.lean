/-! PURE WORDS 21: what a text means -/
theorem wG_nz {pf : Nat → Int} {k tn : Nat} {g : Nat × Int} (hk : k ≠ 0) (h : (wG pf k tn g).1 = 0) : g.1 = 0 := by
  unfold wG at h
  split at h
  · exact h
  · exact absurd h hk
theorem jG_nz {kf pf uf : Nat → Int} {tn : Nat} {g : Nat × Int} (h : (jG kf pf uf tn g).1 = 0) : g.1 = 0 := by
  unfold jG at h
  split at h
  · exact wG_nz (by decide) h
  · exact h
theorem aG_nz {kf pf uf : Nat → Int} {k : Nat} {g : Nat × Int} (h : (aG kf pf uf k g).1 = 0) : g.1 = 0 := by
  unfold aG at h
  split at h
  · exact jG_nz h
  · exact h
theorem oG_nz {kf pf uf : Nat → Int} {w le : Nat} {ra rl : Bool} {k : Nat} {g : Nat × Int} (h : (oG kf pf uf w le ra rl k g).1 = 0) : g.1 = 0 := by
  have h2 : ∀ x : Nat × Int, x = (if oBad kf uf w le ra rl k = true then wG pf 4 (k + 1) g else g) → x.1 = 0 → g.1 = 0 := by
    intro x hx h0
    rw [hx] at h0
    split at h0
    · exact wG_nz (by decide) h0
    · exact h0
  unfold oG at h
  split at h
  · split at h
    · exact h2 _ rfl h
    · exact h2 _ rfl (jG_nz h)
  · exact h
def zfN (fr : Nat → Int) : Nat → Nat → Int
  | 0 => fr
  | j + 1 => va_up (zfN fr j) j 0
theorem zfN_at (fr : Nat → Int) (n j : Nat) : zfN fr n j = if j < n then 0 else fr j := by
  induction n with
  | zero => simp only [zfN]; rw [if_neg (by omega)]
  | succ n ih =>
    simp only [zfN, va_up]
    split
    · rw [if_pos (by omega)]
    · rw [ih]
      split
      · rw [if_pos (by omega)]
      · rw [if_neg (by omega)]
def rgN (kf : Nat → Int) (v : Int) : Nat → Bool
  | 0 => false
  | k + 1 => rgN kf v k || decide (kf k = 24 ∧ kf (k + 1) = v)
theorem rgN_t {kf : Nat → Int} {v : Int} {k : Nat} (h : kf k = 24 ∧ kf (k + 1) = v) : rgN kf v (k + 1) = true := by simp only [rgN]; rw [decide_eq_true h, Bool.or_true]
theorem rgN_f {kf : Nat → Int} {v : Int} {k : Nat} (h : ¬ (kf k = 24 ∧ kf (k + 1) = v)) : rgN kf v (k + 1) = rgN kf v k := by simp only [rgN]; rw [decide_eq_false h, Bool.or_false]
/-- what is wrong of the sizes -/
def mG1 (pf : Nat → Int) (w : Nat) (g : Nat × Int) : Nat × Int := if 1 ≤ w ∧ w ≤ 4 then g else wG pf 3 1 g
def mG2 (pf : Nat → Int) (w le : Nat) (g : Nat × Int) : Nat × Int := if (1 ≤ le ∧ le ≤ 16) ∧ w * le ≤ 16 then g else wG pf 3 2 g
def lnA (kf pf uf : Nat → Int) (k : Nat) (s : (Nat × Int) × (Nat → Int)) : (Nat × Int) × (Nat → Int) := if kf (k - 1) = 4 then (aG kf pf uf k s.1, aF kf uf k s.2) else s
def mA (kf pf uf : Nat → Int) (s0 : (Nat × Int) × (Nat → Int)) : Nat → (Nat × Int) × (Nat → Int)
  | 0 => s0
  | j + 1 => lnA kf pf uf (4 + j) (mA kf pf uf s0 j)
def lnO (kf pf uf : Nat → Int) (w le : Nat) (ra rl : Bool) (k : Nat) (s : (Nat × Int) × (Nat → Int)) : (Nat × Int) × (Nat → Int) := if kf (k - 1) = 4 then (oG kf pf uf w le ra rl k s.1, oF kf uf w le ra rl k s.1 s.2) else s
def mO (kf pf uf : Nat → Int) (w le : Nat) (ra rl : Bool) (s0 : (Nat × Int) × (Nat → Int)) : Nat → (Nat × Int) × (Nat → Int)
  | 0 => s0
  | j + 1 => lnO kf pf uf w le ra rl (4 + j) (mO kf pf uf w le ra rl s0 j)
def mAll (kf pf uf : Nat → Int) (w le tk : Nat) (g : Nat × Int) (fr : Nat → Int) : (Nat × Int) × (Nat → Int) :=
  mO kf pf uf w le (rgN kf 21 tk) (rgN kf 22 tk) (mA kf pf uf (mG2 pf w le (mG1 pf w g), zfN fr 66) (tk - 4)) (tk - 4)
theorem mA_t {kf pf uf : Nat → Int} {s0 : (Nat × Int) × (Nat → Int)} {k : Nat} {g g1 : Nat × Int} {f f1 : Nat → Int} (hk : 4 ≤ k) (h : (g, f) = mA kf pf uf s0 (k - 4)) (hc : kf (k - 1) = 4) (h1 : g1 = aG kf pf uf k g) (h2 : f1 = aF kf uf k f) : (g1, f1) = mA kf pf uf s0 (k + 1 - 4) := by
  rw [show k + 1 - 4 = k - 4 + 1 by omega]
  simp only [mA]
  rw [← h, show 4 + (k - 4) = k by omega]
  unfold lnA
  rw [if_pos hc, h1, h2]
theorem mA_f {kf pf uf : Nat → Int} {s0 : (Nat × Int) × (Nat → Int)} {k : Nat} {g : Nat × Int} {f : Nat → Int} (hk : 4 ≤ k) (h : (g, f) = mA kf pf uf s0 (k - 4)) (hc : ¬ kf (k - 1) = 4) : (g, f) = mA kf pf uf s0 (k + 1 - 4) := by
  rw [show k + 1 - 4 = k - 4 + 1 by omega]
  simp only [mA]
  rw [← h, show 4 + (k - 4) = k by omega]
  unfold lnA
  rw [if_neg hc]
theorem mO_t {kf pf uf : Nat → Int} {w le : Nat} {ra rl : Bool} {s0 : (Nat × Int) × (Nat → Int)} {k : Nat} {g g1 : Nat × Int} {f f1 : Nat → Int} (hk : 4 ≤ k) (h : (g, f) = mO kf pf uf w le ra rl s0 (k - 4)) (hc : kf (k - 1) = 4) (h1 : g1 = oG kf pf uf w le ra rl k g) (h2 : f1 = oF kf uf w le ra rl k g f) : (g1, f1) = mO kf pf uf w le ra rl s0 (k + 1 - 4) := by
  rw [show k + 1 - 4 = k - 4 + 1 by omega]
  simp only [mO]
  rw [← h, show 4 + (k - 4) = k by omega]
  unfold lnO
  rw [if_pos hc, h1, h2]
theorem mO_f {kf pf uf : Nat → Int} {w le : Nat} {ra rl : Bool} {s0 : (Nat × Int) × (Nat → Int)} {k : Nat} {g : Nat × Int} {f : Nat → Int} (hk : 4 ≤ k) (h : (g, f) = mO kf pf uf w le ra rl s0 (k - 4)) (hc : ¬ kf (k - 1) = 4) : (g, f) = mO kf pf uf w le ra rl s0 (k + 1 - 4) := by
  rw [show k + 1 - 4 = k - 4 + 1 by omega]
  simp only [mO]
  rw [← h, show 4 + (k - 4) = k by omega]
  unfold lnO
  rw [if_neg hc]
theorem mG_v {pf : Nat → Int} {w le : Nat} {g : Nat × Int} (h : (mG2 pf w le g).1 = 0) : w * le ≤ 16 := by
  unfold mG2 at h
  split at h
  · rename_i q; exact q.2
  · unfold wG at h
    split at h
    · rename_i q; exact absurd h q.1
    · exact absurd (show (3 : Nat) = 0 from h) (by decide)
