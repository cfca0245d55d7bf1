/-! PURE WORDS: the component's tokens -/
def wdB (tf : Nat → Int) (x y j : Nat) : Bool := decide (zLen.getD (j + 1) 0 = y - x) && (List.range (y - x)).all (fun m => decide ((zch (j + 1) m : Int) = tf (x + m)))
theorem wdB_iff {tf : Nat → Int} {x y j : Nat} : wdB tf x y j = true ↔ wdP tf x y j y := by
  unfold wdB wdP
  simp only [Bool.and_eq_true, decide_eq_true_eq, List.all_eq_true, List.mem_range]
/-- which word stands at x .. y -/
def wdF (tf : Nat → Int) (x y : Nat) : Int := match (List.range 11).find? (wdB tf x y) with | some j => (j : Int) | none => -1
theorem wdF_he (tf : Nat → Int) (x y : Nat) : (∀ j, j < 11 → wdP tf x y j y → (∀ i, i < j → ¬ wdP tf x y i y) → wdF tf x y = (j : Int)) ∧ ((∀ i, i < 11 → ¬ wdP tf x y i y) → wdF tf x y = -1) := by
  constructor
  · intro j hj h1 h2
    unfold wdF
    cases hf : (List.range 11).find? (wdB tf x y) with
    | none =>
      have := List.find?_eq_none.mp hf j (List.mem_range.mpr hj)
      exact absurd (wdB_iff.mpr h1) this
    | some k =>
      have hk := List.find?_some hf
      have hk2 := List.mem_range.mp (List.mem_of_find?_eq_some hf)
      rcases Nat.lt_trichotomy k j with c | c | c
      · exact absurd (wdB_iff.mp hk) (h2 k c)
      · subst c; rfl
      · exfalso
        obtain ⟨-, as, bs, e, hn⟩ := List.find?_eq_some_iff_append.mp hf
        have hlen : as.length = k := by
          have h3 : (List.range 11)[as.length]? = some k := by rw [e]; simp
          rw [List.getElem?_eq_some_iff] at h3
          obtain ⟨h4, h5⟩ := h3
          rw [List.getElem_range] at h5
          exact h5
        have hm : j ∈ as := by
          have h3 : (List.range 11)[j]? = some j := by rw [List.getElem?_eq_some_iff]; exact ⟨by simp; exact hj, by simp⟩
          rw [e, List.getElem?_append_left (by omega)] at h3
          exact List.mem_of_getElem? h3
        have := hn j hm
        rw [wdB_iff.mpr h1] at this
        cases this
  · intro h
    unfold wdF
    cases hf : (List.range 11).find? (wdB tf x y) with
    | none => rfl
    | some k => exact absurd (wdB_iff.mp (List.find?_some hf)) (h k (List.mem_range.mp (List.mem_of_find?_eq_some hf)))
theorem wdF_b (tf : Nat → Int) (x y : Nat) : -1 ≤ wdF tf x y ∧ wdF tf x y ≤ 10 := by
  unfold wdF
  cases hf : (List.range 11).find? (wdB tf x y) with
  | none => decide
  | some k =>
    have := List.mem_range.mp (List.mem_of_find?_eq_some hf)
    dsimp only
    omega
theorem ck_c {tf : Nat → Int} (h : ∀ j, -128 ≤ tf j ∧ tf j ≤ 127) (tp i : Nat) (c : Int) (h0 : 0 ≤ c ∧ c ≤ 127) : byt tf tp i = c ↔ tb2 tf tp i = c := by
  have := h i
  unfold byt tb2
  split <;> omega
theorem ck_l {tf : Nat → Int} (h : ∀ j, -128 ≤ tf j ∧ tf j ≤ 127) (tp i : Nat) : bL tf tp i = isL (tb2 tf tp i) := by
  have := h i
  unfold bL isL byt tb2
  apply decide_eq_decide.mpr
  split <;> omega
theorem ck_d {tf : Nat → Int} (h : ∀ j, -128 ≤ tf j ∧ tf j ≤ 127) (tp i : Nat) : bD tf tp i = isD (tb2 tf tp i) := by
  have := h i
  unfold bD isD byt tb2
  apply decide_eq_decide.mpr
  split <;> omega
theorem ck_w {tf : Nat → Int} (h : ∀ j, -128 ≤ tf j ∧ tf j ≤ 127) {tp i : Nat} (hi : i < tp) : bW tf tp i = true ↔ (tf i = 32 ∨ tf i = 9 ∨ tf i = 10 ∨ tf i = 13) := by
  have := h i
  unfold bW isW byt
  rw [if_pos hi, decide_eq_true_eq]
  omega
theorem ck_lt {tf : Nat → Int} {tp i : Nat} (h : bL tf tp i = true) : i < tp := byt_lt (show 0 < byt tf tp i by have := of_decide_eq_true h; omega)
theorem ck_dt {tf : Nat → Int} {tp i : Nat} (h : bD tf tp i = true) : i < tp := byt_lt (show 0 < byt tf tp i by have := of_decide_eq_true h; omega)
def ckQ (tf : Nat → Int) (tp i : Nat) : Int := if bL tf tp i = true then 0 else if bD tf tp i = true then (if 4 < rnN (bD tf tp) tp i then 4 else 1) else if tf i = 59 ∨ tf i = 45 then 2 else 4
def ckU (tf : Nat → Int) (tp i : Nat) : Int := if bL tf tp i = true then wdF tf i (i + rnN (bL tf tp) tp i) else tf i
theorem ckQ_b (tf : Nat → Int) (tp i : Nat) : 0 ≤ ckQ tf tp i ∧ ckQ tf tp i ≤ 4 := by
  unfold ckQ
  repeat' split
  all_goals decide
theorem ckU_b {tf : Nat → Int} (h : ∀ j, -128 ≤ tf j ∧ tf j ≤ 127) (tp i : Nat) : -128 ≤ ckU tf tp i ∧ ckU tf tp i ≤ 127 := by
  unfold ckU
  split
  · have := wdF_b tf i (i + rnN (bL tf tp) tp i); omega
  · exact h i
def ckP (tf : Nat → Int) (tp : Nat) (so fr to wh : Nat → Int) (m : Nat) : Prop := ∀ j, j < m → tkS tf tp j < tp ∧ so j = ckQ tf tp (tkS tf tp j) ∧ fr j = ((tkS tf tp j : Nat) : Int) ∧ to j = ((tkS tf tp j + tkE tf tp (tkS tf tp j) : Nat) : Int) ∧ wh j = ckU tf tp (tkS tf tp j)
theorem ckP_up {tf : Nat → Int} {tp : Nat} {so fr to wh : Nat → Int} {m i e : Nat} {s u : Int} (h : ckP tf tp so fr to wh m) (hi : tkS tf tp m = i) (hit : i < tp) (he : e = i + tkE tf tp i) (hs : s = ckQ tf tp i) (hu : u = ckU tf tp i) : ckP tf tp (va_up so m s) (va_up fr m (i : Int)) (va_up to m (e : Int)) (va_up wh m u) (m + 1) := by
  intro j hj
  by_cases q : j = m
  · subst q
    rw [va_upe, va_upe, va_upe, va_upe, hi]
    exact ⟨hit, hs, rfl, by rw [he], hu⟩
  · rw [va_upn q, va_upn q, va_upn q, va_upn q]
    exact h j (by omega)
def ckG (tf : Nat → Int) (tp i m : Nat) (g : Bool) : Prop := (∀ j, j + 1 < m → ckQ tf tp (tkS tf tp j) ≠ 4) ∧ (g = true → (∀ j, j < m → ckQ tf tp (tkS tf tp j) ≠ 4) ∧ tkB tf tp i = tkS tf tp m) ∧ (g = false → 0 < m ∧ ckQ tf tp (tkS tf tp (m - 1)) = 4)
theorem ckG_up {tf : Nat → Int} {tp i m e : Nat} {g : Bool} (h : ckG tf tp i m true) (hi : tkS tf tp m = i) (he : e = i + tkE tf tp i) (hg : g = true ↔ ckQ tf tp i ≠ 4) : ckG tf tp e (m + 1) g := by
  obtain ⟨h1, h2, -⟩ := h
  have h3 := (h2 rfl).1
  refine ⟨fun j hj => h3 j (by omega), fun q => ⟨fun j hj => ?_, ?_⟩, fun q => ⟨by omega, ?_⟩⟩
  · by_cases z : j = m
    · subst z; rw [hi]; exact hg.mp q
    · exact h3 j (by omega)
  · rw [he, ← hi]; rfl
  · rw [show m + 1 - 1 = m by omega, hi]
    exact Classical.not_not.mp (fun z => by rw [hg.mpr z] at q; cases q)
/-- what read leaves -/
def ckZ (tf : Nat → Int) (tp : Nat) (so fr to wh : Nat → Int) (m1 : Nat) : Prop := ∃ m, ckP tf tp so fr to wh m ∧ ((m1 = m ∧ 0 < m ∧ ckQ tf tp (tkS tf tp (m - 1)) = 4 ∧ ∀ j, j + 1 < m → ckQ tf tp (tkS tf tp j) ≠ 4) ∨ (m1 = m + 1 ∧ (∀ j, j < m → ckQ tf tp (tkS tf tp j) ≠ 4) ∧ tkS tf tp m = tp ∧ so m = 3 ∧ fr m = (tp : Int) ∧ to m = (tp : Int) ∧ wh m = 0))
theorem ckZ_bad {tf : Nat → Int} {tp i m : Nat} {so fr to wh : Nat → Int} (hP : ckP tf tp so fr to wh m) (h : ckG tf tp i m false) : ckZ tf tp so fr to wh m := ⟨m, hP, Or.inl ⟨rfl, (h.2.2 rfl).1, (h.2.2 rfl).2, h.1⟩⟩
theorem ckZ_end {tf : Nat → Int} {tp i m : Nat} {so fr to wh : Nat → Int} (hP : ckP tf tp so fr to wh m) (h : ckG tf tp i m true) (hi : i = tp) : ckZ tf tp (va_up so m 3) (va_up fr m (i : Int)) (va_up to m (i : Int)) (va_up wh m 0) (m + 1) := by
  refine ⟨m, fun j hj => ?_, Or.inr ⟨rfl, (h.2.1 rfl).1, by rw [← (h.2.1 rfl).2, hi]; exact tkB_end, va_upe, by rw [va_upe, hi], by rw [va_upe, hi], va_upe⟩⟩
  have q : j ≠ m := by omega
  rw [va_upn q, va_upn q, va_upn q, va_upn q]
  exact hP j hj
