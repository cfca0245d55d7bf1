/-! PURE WORDS of the reference, 5: levels by rank; falls over what is known -/
theorem cntN_congr {p q : Nat → Bool} {n : Nat} (h : ∀ i, i < n → p i = q i) : cntN p n = cntN q n := by
  induction n with
  | zero => rfl
  | succ n ih => simp only [cntN]; rw [ih (fun i hi => h i (by omega)), h n (by omega)]
/-- how many states have the energy e - 150; whether any; how many levels; the level of a rank -/
def Lc (w le rg : Nat) (f : Nat → Int) (e : Nat) : Nat := cntN (fun s => decide (eM w le rg f s = (e : Int) - 150)) (nst w le)
def Lp (w le rg : Nat) (f : Nat → Int) (e : Nat) : Bool := decide (((Lc w le rg f e : Nat) : Int) ≠ 0)
def Lmany (w le rg : Nat) (f : Nat → Int) : Nat := cntN (Lp w le rg f) 301
def lvF (p : Nat → Bool) (r : Nat) : Nat → Int
  | 0 => 0
  | e + 1 => if p e = true ∧ cntN p e = r then (e : Int) - 150 else lvF p r e
def Lat (w le rg : Nat) (f : Nat → Int) (r : Nat) : Int := lvF (Lp w le rg f) r 301
theorem cnt_find {p : Nat → Bool} {r n : Nat} (h : r < cntN p n) : ∃ e, e < n ∧ p e = true ∧ cntN p e = r := by
  induction n with
  | zero => simp [cntN] at h
  | succ n ih =>
    simp only [cntN] at h
    rcases Nat.lt_or_ge r (cntN p n) with q | q
    · obtain ⟨e, h1, h2⟩ := ih q
      exact ⟨e, by omega, h2⟩
    · by_cases hp : p n = true
      · rw [if_pos hp] at h
        exact ⟨n, by omega, hp, by omega⟩
      · rw [if_neg hp] at h
        omega
theorem lvF_at {p : Nat → Bool} {r e n : Nat} (he : e < n) (hp : p e = true) (hc : cntN p e = r) : lvF p r n = (e : Int) - 150 := by
  induction n with
  | zero => omega
  | succ n ih =>
    simp only [lvF]
    rcases Nat.lt_or_ge e n with q | q
    · have h1 : cntN p (e + 1) ≤ cntN p n := cntN_mono p (by omega)
      rw [cntN_t hp] at h1
      rw [if_neg (by omega)]
      exact ih q
    · have : e = n := by omega
      subst this
      rw [if_pos ⟨hp, hc⟩]
theorem Kn_lm {w le rg : Nat} {f eo lm la : Nat → Int} {lv : Nat} (h : KnP w le rg f eo lm lv la) {e : Nat} (he : e < 301) : lm e = ((Lc w le rg f e : Nat) : Int) := h.2.1 e he
theorem Kn_p {w le rg : Nat} {f eo lm la : Nat → Int} {lv : Nat} (h : KnP w le rg f eo lm lv la) {e : Nat} (he : e ≤ 301) : cntN (fun e => decide (lm e ≠ 0)) e = cntN (Lp w le rg f) e := cntN_congr (fun i hi => by
  unfold Lp
  rw [Kn_lm h (by omega)])
theorem Kn_lv {w le rg : Nat} {f eo lm la : Nat → Int} {lv : Nat} (h : KnP w le rg f eo lm lv la) : lv = Lmany w le rg f := by
  rw [h.2.2.1, Kn_p h (Nat.le_refl _)]; rfl
theorem Kn_la {w le rg : Nat} {f eo lm la : Nat → Int} {lv : Nat} (h : KnP w le rg f eo lm lv la) {r : Nat} (hr : r < Lmany w le rg f) : la r = Lat w le rg f r ∧ -150 ≤ Lat w le rg f r ∧ Lat w le rg f r ≤ 150 ∧ 0 < Lc w le rg f (150 + Lat w le rg f r).toNat := by
  obtain ⟨e, h1, h2, h3⟩ := cnt_find hr
  have e1 : Lat w le rg f r = (e : Int) - 150 := lvF_at h1 h2 h3
  have h4 : ((Lc w le rg f e : Nat) : Int) ≠ 0 := of_decide_eq_true h2
  have h5 : lm e ≠ 0 := by rw [Kn_lm h h1]; exact h4
  have h6 := h.2.2.2 e h1 h5
  rw [Kn_p h (by omega), h3] at h6
  rw [e1, h6, show (150 + ((e : Int) - 150)).toNat = e by omega]
  exact ⟨rfl, by omega, by omega, by omega⟩
theorem Lmany_le (w le rg : Nat) (f : Nat → Int) : Lmany w le rg f ≤ 301 := cntN_le _ _
theorem stN_congr {f g : Nat → Int} {m s : Nat} (h : ∀ j, j < 2 ^ m → f j = g j) (hs : s < 2 ^ m) : ∀ i, i ≤ m → stN f s i = stN g s i := by
  intro i
  induction i with
  | zero => intro _; simp only [stN]; rw [h s hs]
  | succ i ih =>
    intro hi
    simp only [stN]
    rw [ih (by omega), h (s ^^^ 2 ^ i) (Nat.xor_lt_two_pow hs (Nat.pow_lt_pow_right (by decide) (by omega)))]
theorem st_lt {g : Nat → Int} {m s : Nat} (hs : s < 2 ^ m) (h : ¬ (stN g s m).1 < 0) : s ^^^ 2 ^ (stN g s m).1.toNat < 2 ^ m := by
  have := stN_b g s m
  exact Nat.xor_lt_two_pow hs (Nat.pow_lt_pow_right (by decide) (by omega))
theorem faE_congr {f g : Nat → Int} {m : Nat} (h : ∀ j, j < 2 ^ m → f j = g j) : ∀ n s, s < 2 ^ m → faE f m n s = faE g m n s := by
  intro n
  induction n with
  | zero => intro s _; rfl
  | succ n ih =>
    intro s hs
    simp only [faE]
    rw [stN_congr h hs m (Nat.le_refl _)]
    split
    · rfl
    · exact ih _ (st_lt hs (by assumption))
theorem faT_congr {f g : Nat → Int} {m : Nat} (h : ∀ j, j < 2 ^ m → f j = g j) : ∀ n s, s < 2 ^ m → faT f m n s = faT g m n s := by
  intro n
  induction n with
  | zero => intro s _; rfl
  | succ n ih =>
    intro s hs
    simp only [faT]
    rw [stN_congr h hs m (Nat.le_refl _)]
    split
    · rfl
    · rw [ih _ (st_lt hs (by assumption))]
theorem nst_pow {w le s : Nat} (h : s < nst w le) : nst w le = 2 ^ (w * le) := by
  unfold nst at h ⊢
  split at h
  · omega
  · rename_i q; rw [if_neg q]
theorem faE_lt {g : Nat → Int} {m n s : Nat} (hs : s < 2 ^ m) : faE g m n s < 2 ^ m := by
  induction n generalizing s with
  | zero => exact hs
  | succ n ih =>
    simp only [faE]
    split
    · exact hs
    · exact ih (st_lt hs (by assumption))
theorem lawMZ_in {w le : Nat} {f : Nat → Int} {x : Int} (h : lawMZ w le f x = true) : (0 ≤ x ∧ x < ((nst w le : Nat) : Int)) ∧ lawM w le f x.toNat = true := by
  unfold lawMZ at h
  simp only [Bool.and_eq_true, decide_eq_true_eq] at h
  have h2 := h.2
  unfold lawM at h2
  simp only [Bool.and_eq_true, decide_eq_true_eq] at h2
  exact ⟨⟨h.1, by omega⟩, h.2⟩
theorem cnt_pos {p : Nat → Bool} {i n : Nat} (hi : i < n) (h : p i = true) : 0 < cntN p n := by
  have h1 : cntN p (i + 1) ≤ cntN p n := cntN_mono p (by omega)
  rw [cntN_t h] at h1
  omega
theorem Lp_of {w le rg : Nat} {f : Nat → Int} {x : Nat} (hwl : w * le ≤ 16) (b3 : ∀ j, j < 48 → -3 ≤ f j ∧ f j ≤ 3) (hx : x < nst w le) (hl : lawM w le f x = true) : (-144 ≤ eM w le rg f x ∧ eM w le rg f x ≤ 144) ∧ Lp w le rg f (150 + eM w le rg f x).toNat = true := by
  have h0 : -144 ≤ eM w le rg f x ∧ eM w le rg f x ≤ 144 := by
    rw [eM_t hl]
    have := enN_b (w := w) (le := le) (rg := rg) (rows := le) (s := x) b3 (w * le) hwl
    omega
  refine ⟨h0, ?_⟩
  have h1 : 0 < Lc w le rg f (150 + eM w le rg f x).toNat := cnt_pos hx (by simp only [decide_eq_true_eq]; omega)
  unfold Lp
  simp only [ne_eq, decide_eq_true_eq]
  omega
theorem lev_at {w le rg : Nat} {f eo lm la : Nat → Int} {lv : Nat} (h : KnP w le rg f eo lm lv la) (hwl : w * le ≤ 16) (b3 : ∀ j, j < 48 → -3 ≤ f j ∧ f j ≤ 3) {x : Nat} (hx : x < nst w le) (hl : lawM w le f x = true) : la (cntN (Lp w le rg f) (150 + eM w le rg f x).toNat) = eo x := by
  obtain ⟨h0, h1⟩ := Lp_of (rg := rg) hwl b3 hx hl
  have h2 : lm (150 + eM w le rg f x).toNat ≠ 0 := by
    rw [Kn_lm h (by omega)]
    exact of_decide_eq_true h1
  have h3 := h.2.2.2 _ (by omega) h2
  rw [Kn_p h (by omega)] at h3
  rw [h3, h.1 x hx]
  omega
theorem lev_lt {w le rg : Nat} {f eo lm la : Nat → Int} {lv : Nat} (h : KnP w le rg f eo lm lv la) (hwl : w * le ≤ 16) (b3 : ∀ j, j < 48 → -3 ≤ f j ∧ f j ≤ 3) {x : Nat} (hx : x < nst w le) (hl : lawM w le f x = true) : ∀ j, j < cntN (Lp w le rg f) (150 + eM w le rg f x).toNat → la j ≠ eo x := by
  intro j hj
  obtain ⟨h0, h1⟩ := Lp_of (rg := rg) hwl b3 hx hl
  obtain ⟨e, g1, g2, g3⟩ := cnt_find hj
  have h2 : lm e ≠ 0 := by
    rw [Kn_lm h (by omega)]
    exact of_decide_eq_true g2
  have h3 := h.2.2.2 e (by omega) h2
  rw [Kn_p h (by omega), g3] at h3
  rw [h3, h.1 x hx]
  omega
theorem lev_lm {w le rg : Nat} {f : Nat → Int} (hwl : w * le ≤ 16) (b3 : ∀ j, j < 48 → -3 ≤ f j ∧ f j ≤ 3) {x : Nat} (hx : x < nst w le) (hl : lawM w le f x = true) : cntN (Lp w le rg f) (150 + eM w le rg f x).toNat < Lmany w le rg f := by
  obtain ⟨h0, h1⟩ := Lp_of (rg := rg) hwl b3 hx hl
  have h2 : cntN (Lp w le rg f) ((150 + eM w le rg f x).toNat + 1) ≤ Lmany w le rg f := cntN_mono _ (by omega)
  rw [cntN_t h1] at h2
  omega
