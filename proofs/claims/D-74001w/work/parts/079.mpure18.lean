/-! PURE WORDS 18: a text's lines. A reader's state: at which token, the fault, its place -/
def pOk (q : Nat × Nat × Int) : Prop := q.1 ≤ 400 ∧ q.2.1 ≤ 4 ∧ -1 ≤ q.2.2 ∧ q.2.2 ≤ 2000
def pF (pf : Nat → Int) (k : Nat) (q : Nat × Nat × Int) : Nat × Nat × Int := if 0 < q.2.1 then q else (q.1, k, pf q.1)
def pP (pf : Nat → Int) (q : Nat × Nat × Int) : Nat × Nat × Int := if q.1 = 400 then pF pf 2 q else (q.1 + 1, q.2)
def pI (kf : Nat → Int) (k : Int) (q : Nat × Nat × Int) : Bool := decide (q.2.1 = 0 ∧ kf q.1 = k)
def pM (kf pf : Nat → Int) (k : Int) (q : Nat × Nat × Int) : Nat × Nat × Int := if pI kf k q = true then pP pf q else pF pf 1 q
def pW (kf pf : Nat → Int) (q : Nat × Nat × Int) : Nat × Nat × Int := if pI kf 21 q = true then pP pf q else pM kf pf 22 q
def pJ (kf pf : Nat → Int) (q : Nat × Nat × Int) : Nat × Nat × Int := pM kf pf 2 (if pI kf 5 q = true then pP pf q else q)
def pU (kf pf : Nat → Int) (q : Nat × Nat × Int) : Nat × Nat × Int := if pI kf 28 q = true then pP pf q else pM kf pf 29 q
def pB (kf pf : Nat → Int) (k : Int) (q : Nat × Nat × Int) : Nat × Nat × Int :=
  if k = 21 ∨ k = 22 ∨ k = 23 then pJ kf pf (pP pf q) else if k = 24 then pW kf pf (pP pf q) else if k = 25 then pJ kf pf (pW kf pf (pM kf pf 2 (pP pf q)))
  else if k = 26 then pJ kf pf (pM kf pf 2 (pP pf q)) else if k = 27 then pU kf pf (pM kf pf 2 (pP pf q)) else pM kf pf 2 (pP pf q)
def pKey (k : Int) : Bool := decide ((21 ≤ k ∧ k ≤ 27) ∨ k = 30)
def pL (kf pf : Nat → Int) (q : Nat × Nat × Int) : Nat × Nat × Int := if pKey (kf q.1) = true then pM kf pf 4 (pB kf pf (kf q.1) q) else pF pf 1 q
theorem pF_ok {pf : Nat → Int} (hp : ∀ j, 0 ≤ pf j ∧ pf j ≤ 2000) {k : Nat} (hk : k ≤ 4) {q : Nat × Nat × Int} (h : pOk q) : pOk (pF pf k q) := by
  unfold pF
  split
  · exact h
  · have := hp q.1
    exact ⟨h.1, hk, by dsimp only; omega, by dsimp only; omega⟩
theorem pP_ok {pf : Nat → Int} (hp : ∀ j, 0 ≤ pf j ∧ pf j ≤ 2000) {q : Nat × Nat × Int} (h : pOk q) : pOk (pP pf q) := by
  unfold pP
  split
  · exact pF_ok hp (by decide) h
  · have := h.1
    exact ⟨by dsimp only; omega, h.2⟩
theorem pM_ok {kf pf : Nat → Int} (hp : ∀ j, 0 ≤ pf j ∧ pf j ≤ 2000) {k : Int} {q : Nat × Nat × Int} (h : pOk q) : pOk (pM kf pf k q) := by
  unfold pM
  split
  · exact pP_ok hp h
  · exact pF_ok hp (by decide) h
theorem pW_ok {kf pf : Nat → Int} (hp : ∀ j, 0 ≤ pf j ∧ pf j ≤ 2000) {q : Nat × Nat × Int} (h : pOk q) : pOk (pW kf pf q) := by
  unfold pW
  split
  · exact pP_ok hp h
  · exact pM_ok hp h
theorem pU_ok {kf pf : Nat → Int} (hp : ∀ j, 0 ≤ pf j ∧ pf j ≤ 2000) {q : Nat × Nat × Int} (h : pOk q) : pOk (pU kf pf q) := by
  unfold pU
  split
  · exact pP_ok hp h
  · exact pM_ok hp h
theorem pJ_ok {kf pf : Nat → Int} (hp : ∀ j, 0 ≤ pf j ∧ pf j ≤ 2000) {q : Nat × Nat × Int} (h : pOk q) : pOk (pJ kf pf q) := by
  unfold pJ
  apply pM_ok hp
  split
  · exact pP_ok hp h
  · exact h
theorem pL_ok {kf pf : Nat → Int} (hp : ∀ j, 0 ≤ pf j ∧ pf j ≤ 2000) {q : Nat × Nat × Int} (h : pOk q) : pOk (pL kf pf q) := by
  unfold pL
  split
  · apply pM_ok hp
    unfold pB
    repeat' split
    all_goals repeat (first | exact pP_ok hp h | apply pJ_ok hp | apply pW_ok hp | apply pM_ok hp | apply pU_ok hp)
  · exact pF_ok hp (by decide) h
theorem pF_t {pf : Nat → Int} {k : Nat} {q : Nat × Nat × Int} (h : 0 < q.2.1) : pF pf k q = q := if_pos h
theorem pF_f {pf : Nat → Int} {k : Nat} {q : Nat × Nat × Int} (h : q.2.1 = 0) : pF pf k q = (q.1, k, pf q.1) := if_neg (by omega)
theorem pP_t {pf : Nat → Int} {q : Nat × Nat × Int} (h : q.1 = 400) : pP pf q = pF pf 2 q := if_pos h
theorem pP_f {pf : Nat → Int} {q : Nat × Nat × Int} (h : q.1 ≠ 400) : pP pf q = (q.1 + 1, q.2) := if_neg h
theorem pM_t {kf pf : Nat → Int} {k : Int} {q : Nat × Nat × Int} (h : pI kf k q = true) : pM kf pf k q = pP pf q := if_pos h
theorem pM_f {kf pf : Nat → Int} {k : Int} {q : Nat × Nat × Int} (h : pI kf k q = false) : pM kf pf k q = pF pf 1 q := if_neg (by rw [h]; decide)
theorem pW_t {kf pf : Nat → Int} {q : Nat × Nat × Int} (h : pI kf 21 q = true) : pW kf pf q = pP pf q := if_pos h
theorem pW_f {kf pf : Nat → Int} {q : Nat × Nat × Int} (h : pI kf 21 q = false) : pW kf pf q = pM kf pf 22 q := if_neg (by rw [h]; decide)
theorem pU_t {kf pf : Nat → Int} {q : Nat × Nat × Int} (h : pI kf 28 q = true) : pU kf pf q = pP pf q := if_pos h
theorem pU_f {kf pf : Nat → Int} {q : Nat × Nat × Int} (h : pI kf 28 q = false) : pU kf pf q = pM kf pf 29 q := if_neg (by rw [h]; decide)
theorem pJ_t {kf pf : Nat → Int} {q : Nat × Nat × Int} (h : pI kf 5 q = true) : pJ kf pf q = pM kf pf 2 (pP pf q) := by unfold pJ; rw [if_pos h]
theorem pJ_f {kf pf : Nat → Int} {q : Nat × Nat × Int} (h : pI kf 5 q = false) : pJ kf pf q = pM kf pf 2 q := by unfold pJ; rw [if_neg (by rw [h]; decide)]
theorem pL_t {kf pf : Nat → Int} {q : Nat × Nat × Int} (h : pKey (kf q.1) = true) : pL kf pf q = pM kf pf 4 (pB kf pf (kf q.1) q) := if_pos h
theorem pL_f {kf pf : Nat → Int} {q : Nat × Nat × Int} (h : pKey (kf q.1) = false) : pL kf pf q = pF pf 1 q := if_neg (by rw [h]; decide)
