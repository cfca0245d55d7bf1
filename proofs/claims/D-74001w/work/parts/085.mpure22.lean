/-! PURE WORDS 22: a text is read -/
def pLs (kf pf : Nat → Int) : Nat → Nat × Nat × Int → Nat × Nat × Int
  | 0, q => q
  | f + 1, q => if q.2.1 = 0 ∧ kf q.1 ≠ 0 then pLs kf pf f (pL kf pf q) else q
def pS (kf pf : Nat → Int) (fp : Int) : Nat × Nat × Int := pM kf pf 4 (pM kf pf 2 (pM kf pf 2 (pM kf pf 20 (0, 0, fp))))
def pMs (q : Nat × Nat × Int) : Nat := 401 - q.1 + (if q.2.1 = 0 then 1 else 0)
/-- a step goes on, or tells a fault, or has told one -/
def pGo (q r : Nat × Nat × Int) : Prop := (q.2.1 ≠ 0 → r = q) ∧ q.1 ≤ r.1
theorem pGo_tr {q r s : Nat × Nat × Int} (h : pGo q r) (h2 : pGo r s) : pGo q s := by
  refine ⟨fun hq => ?_, Nat.le_trans h.2 h2.2⟩
  have e := h.1 hq
  rw [e] at h2
  exact h2.1 hq
theorem pF_go (pf : Nat → Int) (k : Nat) (q : Nat × Nat × Int) : pGo q (pF pf k q) := by
  unfold pF
  split
  · exact ⟨fun _ => rfl, Nat.le_refl _⟩
  · exact ⟨fun h => by omega, Nat.le_refl _⟩
theorem pP_le (pf : Nat → Int) (q : Nat × Nat × Int) : q.1 ≤ (pP pf q).1 := by
  unfold pP
  split
  · exact (pF_go pf 2 q).2
  · dsimp only; omega
theorem pI_0 {kf : Nat → Int} {k : Int} {q : Nat × Nat × Int} (h : q.2.1 ≠ 0) : pI kf k q = false := decide_eq_false (fun c => h c.1)
theorem pM_go (kf pf : Nat → Int) (k : Int) (q : Nat × Nat × Int) : pGo q (pM kf pf k q) := by
  by_cases h : q.2.1 = 0
  · refine ⟨fun c => absurd h c, ?_⟩
    unfold pM
    split
    · exact pP_le pf q
    · exact (pF_go pf 1 q).2
  · rw [pM_f (pI_0 h)]
    exact pF_go pf 1 q
theorem pW_go (kf pf : Nat → Int) (q : Nat × Nat × Int) : pGo q (pW kf pf q) := by
  by_cases h : q.2.1 = 0
  · refine ⟨fun c => absurd h c, ?_⟩
    unfold pW
    split
    · exact pP_le pf q
    · exact (pM_go kf pf 22 q).2
  · rw [pW_f (pI_0 h)]
    exact pM_go kf pf 22 q
theorem pU_go (kf pf : Nat → Int) (q : Nat × Nat × Int) : pGo q (pU kf pf q) := by
  by_cases h : q.2.1 = 0
  · refine ⟨fun c => absurd h c, ?_⟩
    unfold pU
    split
    · exact pP_le pf q
    · exact (pM_go kf pf 29 q).2
  · rw [pU_f (pI_0 h)]
    exact pM_go kf pf 29 q
theorem pJ_go (kf pf : Nat → Int) (q : Nat × Nat × Int) : pGo q (pJ kf pf q) := by
  by_cases h : q.2.1 = 0
  · refine ⟨fun c => absurd h c, ?_⟩
    cases hi : pI kf 5 q with
    | true => rw [pJ_t hi]; exact Nat.le_trans (pP_le pf q) (pM_go kf pf 2 _).2
    | false => rw [pJ_f hi]; exact (pM_go kf pf 2 _).2
  · rw [pJ_f (pI_0 h)]
    exact pM_go kf pf 2 q
theorem pB_go (kf pf : Nat → Int) (k : Int) (q : Nat × Nat × Int) : pGo (pP pf q) (pB kf pf k q) := by
  unfold pB
  repeat' split
  · exact pJ_go _ _ _
  · exact pW_go _ _ _
  · exact pGo_tr (pM_go kf pf 2 _) (pGo_tr (pW_go _ _ _) (pJ_go _ _ _))
  · exact pGo_tr (pM_go kf pf 2 _) (pJ_go _ _ _)
  · exact pGo_tr (pM_go kf pf 2 _) (pU_go _ _ _)
  · exact pM_go kf pf 2 _
theorem pL_ms {kf pf : Nat → Int} {q : Nat × Nat × Int} (h : q.2.1 = 0) (ht : q.1 ≤ 400) : pMs (pL kf pf q) < pMs q := by
  unfold pL
  split
  · have g := pGo_tr (pB_go kf pf (kf q.1) q) (pM_go kf pf 4 (pB kf pf (kf q.1) q))
    by_cases c : q.1 = 400
    · have e : pP pf q = (q.1, 2, pf q.1) := by rw [pP_t c, pF_f h]
      have e2 := g.1 (by rw [e]; exact (by decide : (2 : Nat) ≠ 0))
      rw [e2, e]
      unfold pMs
      dsimp only
      rw [if_neg (by decide), if_pos h]
      omega
    · have e : pP pf q = (q.1 + 1, q.2) := pP_f c
      have e2 := g.2
      rw [e] at e2
      dsimp only at e2
      unfold pMs
      rw [if_pos h]
      split <;> omega
  · rw [pF_f h]
    unfold pMs
    dsimp only
    rw [if_neg (by decide), if_pos h]
    omega
theorem pLs_end {kf pf : Nat → Int} {q : Nat × Nat × Int} (h : q.2.1 ≠ 0 ∨ kf q.1 = 0) (f : Nat) : pLs kf pf f q = q := by
  rcases f with _ | f
  · rfl
  · simp only [pLs]
    rw [if_neg (by omega)]
theorem pLs_step {kf pf : Nat → Int} {q : Nat × Nat × Int} {f : Nat} (h1 : q.2.1 = 0) (h2 : kf q.1 ≠ 0) (hf : 0 < f) : pLs kf pf f q = pLs kf pf (f - 1) (pL kf pf q) := by
  rcases f with _ | f
  · omega
  · rw [Nat.add_sub_cancel]
    simp only [pLs]
    rw [if_pos ⟨h1, h2⟩]
theorem pS_ok {kf pf : Nat → Int} (hp : ∀ j, 0 ≤ pf j ∧ pf j ≤ 2000) {fp : Int} (h : -1 ≤ fp ∧ fp ≤ 2000) : pOk (pS kf pf fp) := by
  unfold pS
  exact pM_ok hp (pM_ok hp (pM_ok hp (pM_ok hp ⟨Nat.zero_le _, Nat.zero_le _, h.1, h.2⟩)))
/-- tokens as they are laid of a text -/
def tkX (tx : Nat → Int) (sz : Nat) (ky kf pf uf : Nat → Int) (tk : Nat) : Prop :=
  ((0 < tk ∧ tk ≤ 401) ∧ tkP tx sz ky kf pf uf tk ∧ (tk = 401 ∨ tkS tx sz (tk - 1) = sz) ∧ ∀ j, j + 1 < tk → tkS tx sz j < sz) ∧ (∀ j, 0 ≤ kf j ∧ kf j ≤ 30) ∧ (∀ j, 0 ≤ pf j ∧ pf j ≤ 2000) ∧ ∀ j, 0 ≤ uf j ∧ uf j ≤ 9999
/-- what may be told of a text without faults -/
def rdH (tx : Nat → Int) (sz : Nat) (ky : Nat → Int) : Prop := ∀ (kf pf uf : Nat → Int) (tk : Nat) (fp : Int), tkX tx sz ky kf pf uf tk → (pLs kf pf 402 (pS kf pf fp)).2.1 = 0 → 4 ≤ tk ∧ ∀ k, 4 ≤ k → k < tk → kf (k - 1) = 4 → oK (kf k) = true → k + 3 < 402
def stB (f : Nat → Int) : Nat → Nat
  | 0 => 0
  | s + 1 => if f (48 + s) = 1 then stB f s ||| 2 ^ s else stB f s
theorem stB_lt (f : Nat → Int) (i : Nat) : stB f i < 2 ^ i := by
  induction i with
  | zero => simp [stB]
  | succ i ih =>
    have h : 2 ^ i < 2 ^ (i + 1) := Nat.pow_lt_pow_right (by decide) (by omega)
    simp only [stB]
    split
    · exact Nat.or_lt_two_pow (by omega) h
    · omega
/-- what a read strip is: its row of numbers but the state, its state -/
def rdN (fr nw1 : Nat → Int) (m : Nat) : Prop := (∀ j, j < 66 → j ≠ 64 → nw1 j = fr j) ∧ nw1 64 = ((stB fr m : Nat) : Int)
def cpF (nf fr : Nat → Int) : Nat → Nat → Int
  | 0 => nf
  | j + 1 => va_up (cpF nf fr j) j (fr j)
theorem cpF_at (nf fr : Nat → Int) (n j : Nat) : cpF nf fr n j = if j < n then fr j else nf j := by
  induction n with
  | zero => simp only [cpF]; rw [if_neg (by omega)]
  | succ n ih =>
    simp only [cpF, va_up]
    split
    · subst j; rw [if_pos (by omega)]
    · rw [ih]
      split
      · rw [if_pos (by omega)]
      · rw [if_neg (by omega)]
/-- what a reading answers, what it leaves: old things o, new things n -/
def rdA (tx : Nat → Int) (sz : Nat) (ky : Nat → Int) (w le un : Nat) (ra rl kn : Bool) (nw : Nat → Int) (ih : Nat → Bool) (w1 l1 un1 : Nat) (ra1 rl1 kn1 : Bool) (nw1 : Nat → Int) (ih1 : Nat → Bool) (rv pl : Int) : Prop :=
  ∃ (kf pf uf fr fr1 : Nat → Int) (tk : Nat) (fp wp : Int) (g : Nat × Int), tkX tx sz ky kf pf uf tk ∧
    ((pLs kf pf 402 (pS kf pf fp)).2.1 ≠ 0 → (rv = (((pLs kf pf 402 (pS kf pf fp)).2.1 : Nat) : Int) ∧ pl = (pLs kf pf 402 (pS kf pf fp)).2.2) ∧ (w1 = w ∧ l1 = le ∧ un1 = un ∧ ra1 = ra ∧ rl1 = rl ∧ kn1 = kn ∧ nw1 = nw ∧ ih1 = ih)) ∧
    ((pLs kf pf 402 (pS kf pf fp)).2.1 = 0 → (g, fr1) = mAll kf pf uf (uf 1).toNat (uf 2).toNat tk (0, wp) fr ∧
      (g.1 ≠ 0 → (rv = ((g.1 : Nat) : Int) ∧ pl = g.2) ∧ (w1 = w ∧ l1 = le ∧ un1 = un ∧ ra1 = ra ∧ rl1 = rl ∧ kn1 = kn ∧ nw1 = nw ∧ ih1 = ih)) ∧
      (g.1 = 0 → (rv = 0 ∧ pl = -1) ∧ (w1 = (uf 1).toNat ∧ l1 = (uf 2).toNat ∧ un1 = 0 ∧ ra1 = rgN kf 21 tk ∧ rl1 = rgN kf 22 tk ∧ kn1 = false ∧ (∀ j, j < 3 → ih1 j = false)) ∧ rdN fr1 nw1 (w1 * l1)))
theorem mA_nz {kf pf uf : Nat → Int} {s0 : (Nat × Int) × (Nat → Int)} : ∀ n, (mA kf pf uf s0 n).1.1 = 0 → s0.1.1 = 0 := by
  intro n
  induction n with
  | zero => exact fun h => h
  | succ n ih =>
    intro h
    simp only [mA] at h
    unfold lnA at h
    split at h
    · exact ih (aG_nz h)
    · exact ih h
theorem mO_nz {kf pf uf : Nat → Int} {w le : Nat} {ra rl : Bool} {s0 : (Nat × Int) × (Nat → Int)} : ∀ n, (mO kf pf uf w le ra rl s0 n).1.1 = 0 → s0.1.1 = 0 := by
  intro n
  induction n with
  | zero => exact fun h => h
  | succ n ih =>
    intro h
    simp only [mO] at h
    unfold lnO at h
    split at h
    · exact ih (oG_nz h)
    · exact ih h
theorem mAll_v {kf pf uf : Nat → Int} {w le tk : Nat} {g : Nat × Int} {fr : Nat → Int} (h : (mAll kf pf uf w le tk g fr).1.1 = 0) : w * le ≤ 16 := mG_v (g := mG1 pf w g) (mA_nz (kf := kf) (uf := uf) (s0 := (mG2 pf w le (mG1 pf w g), zfN fr 66)) (tk - 4) (mO_nz _ h))
def bd9 (f : Nat → Int) : Prop := ∀ j, -9999 ≤ f j ∧ f j ≤ 9999
theorem aF_bd {kf uf : Nat → Int} (bu : ∀ j, 0 ≤ uf j ∧ uf j ≤ 9999) {k : Nat} {f : Nat → Int} (h : bd9 f) : bd9 (aF kf uf k f) := by
  unfold aF
  split
  · have := bu (k + 1)
    exact up_bnd (by omega) h
  · split
    · intro j
      rw [flN_at]
      split
      · exact jV_b bu _
      · exact h j
    · exact h
theorem oF_bd {kf uf : Nat → Int} (bu : ∀ j, 0 ≤ uf j ∧ uf j ≤ 9999) {w le : Nat} {ra rl : Bool} {k : Nat} {g : Nat × Int} {f : Nat → Int} (h : bd9 f) : bd9 (oF kf uf w le ra rl k g f) := by
  unfold oF
  split
  · split
    · refine up_bnd ?_ h
      split <;> decide
    · exact up_bnd (jV_b bu _) h
  · exact h
theorem mAll_bd {kf pf uf : Nat → Int} (bu : ∀ j, 0 ≤ uf j ∧ uf j ≤ 9999) {w le tk : Nat} {g : Nat × Int} {fr : Nat → Int} (h : bd9 fr) : bd9 (mAll kf pf uf w le tk g fr).2 := by
  have h0 : bd9 (zfN fr 66) := fun j => by
    rw [zfN_at]
    split
    · decide
    · exact h j
  have h1 : ∀ n, bd9 (mA kf pf uf (mG2 pf w le (mG1 pf w g), zfN fr 66) n).2 := by
    intro n
    induction n with
    | zero => exact h0
    | succ n ih =>
      simp only [mA]
      unfold lnA
      split
      · exact aF_bd bu ih
      · exact ih
  have h2 : ∀ n, bd9 (mO kf pf uf w le (rgN kf 21 tk) (rgN kf 22 tk) (mA kf pf uf (mG2 pf w le (mG1 pf w g), zfN fr 66) (tk - 4)) n).2 := by
    intro n
    induction n with
    | zero => exact h1 _
    | succ n ih =>
      simp only [mO]
      unfold lnO
      split
      · exact oF_bd bu ih
      · exact ih
  exact h2 _
theorem stB_t {f nf : Nat → Int} {s : Nat} {x : Int} (h : x = ((stB f s ||| 2 ^ s : Nat) : Int)) (h1 : f (48 + s) = 1) (h2 : ∀ j, j < 66 → j ≠ 64 → nf j = f j) : (∀ j, j < 66 → j ≠ 64 → va_up nf 64 x j = f j) ∧ va_up nf 64 x 64 = ((stB f (s + 1) : Nat) : Int) := by
  refine ⟨fun j hj hne => ?_, ?_⟩
  · rw [va_up_ne _ _ hne]; exact h2 j hj hne
  · rw [va_up_self, h]
    simp only [stB]
    rw [if_pos h1]
theorem stB_f {f : Nat → Int} {s : Nat} (h1 : ¬ f (48 + s) = 1) : stB f (s + 1) = stB f s := by
  simp only [stB]
  rw [if_neg h1]
