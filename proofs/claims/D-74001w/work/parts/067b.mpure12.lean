/-! PURE WORDS of the reference, 12: glass -/
def gl (w le rg : Nat) (sd : Int) (nw : Nat → Int) : Nat → Int × (Nat → Int)
  | 0 => (sd, nw)
  | k + 1 => if 0 ≤ oth w le rg (if w * le ≤ k then k - w * le else k) (decide (w * le ≤ k)) then (nxt (gl w le rg sd nw k).1, va_up (gl w le rg sd nw k).2 (if w * le ≤ k then 16 + (k - w * le) else k) (if nxt (gl w le rg sd nw k).1 / 65536 % 2 = 1 then 1 else -1)) else gl w le rg sd nw k
theorem gl_no {w le rg k : Nat} {sd x : Int} {nw nf : Nat → Int} (hs : (x, nf) = gl w le rg sd nw k) (hk : w * le ≤ k) (h : oth w le rg (k - w * le) true < 0) : (x, nf) = gl w le rg sd nw (k + 1) := by
  have e1 : (if w * le ≤ k then k - w * le else k) = k - w * le := if_pos hk
  have e3 : (if w * le ≤ k then 16 + (k - w * le) else k) = 16 + (k - w * le) := if_pos hk
  simp only [gl]
  rw [decide_eq_true hk, e1, if_neg (by omega), hs]
theorem gl_no2 {w le rg k : Nat} {sd x : Int} {nw nf : Nat → Int} (hs : (x, nf) = gl w le rg sd nw k) (hk : k < w * le) (h : oth w le rg k false < 0) : (x, nf) = gl w le rg sd nw (k + 1) := by
  have e1 : (if w * le ≤ k then k - w * le else k) = k := if_neg (by omega)
  have e3 : (if w * le ≤ k then 16 + (k - w * le) else k) = k := if_neg (by omega)
  simp only [gl]
  rw [decide_eq_false (by omega), e1, if_neg (by omega), hs]
theorem gl_al {w le rg k : Nat} {sd x x1 v : Int} {nw nf : Nat → Int} (hs : (x, nf) = gl w le rg sd nw k) (hk : w * le ≤ k) (h : 0 ≤ oth w le rg (k - w * le) true) (hx : x1 = nxt x) (hv : v = if x1 / 65536 % 2 = 1 then 1 else -1) : (x1, va_up nf (16 + (k - w * le)) v) = gl w le rg sd nw (k + 1) := by
  subst hx; subst hv
  have e1 : (if w * le ≤ k then k - w * le else k) = k - w * le := if_pos hk
  have e3 : (if w * le ≤ k then 16 + (k - w * le) else k) = 16 + (k - w * le) := if_pos hk
  simp only [gl]
  rw [decide_eq_true hk, e1, if_pos h, e3, ← hs]
theorem gl_ac {w le rg k : Nat} {sd x x1 v : Int} {nw nf : Nat → Int} (hs : (x, nf) = gl w le rg sd nw k) (hk : k < w * le) (h : 0 ≤ oth w le rg k false) (hx : x1 = nxt x) (hv : v = if x1 / 65536 % 2 = 1 then 1 else -1) : (x1, va_up nf k v) = gl w le rg sd nw (k + 1) := by
  subst hx; subst hv
  have e1 : (if w * le ≤ k then k - w * le else k) = k := if_neg (by omega)
  have e3 : (if w * le ≤ k then 16 + (k - w * le) else k) = k := if_neg (by omega)
  simp only [gl]
  rw [decide_eq_false (by omega), e1, if_pos h, e3, ← hs]
