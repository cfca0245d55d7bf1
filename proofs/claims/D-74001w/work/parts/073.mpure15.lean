/-! PURE WORDS 15: ways down -/
def dsN (e : Nat → Int) (g : Nat → Nat) (s : Nat) : Nat → Nat
  | 0 => 0
  | k + 1 => dsN e g s k + (if e (s ^^^ 2 ^ k) < e s then g (s ^^^ 2 ^ k) else 0)
theorem dsN_t {e : Nat → Int} {g : Nat → Nat} {s k : Nat} (h : e (s ^^^ 2 ^ k) < e s) : dsN e g s (k + 1) = dsN e g s k + g (s ^^^ 2 ^ k) := by simp only [dsN]; rw [if_pos h]
theorem dsN_f {e : Nat → Int} {g : Nat → Nat} {s k : Nat} (h : ¬ e (s ^^^ 2 ^ k) < e s) : dsN e g s (k + 1) = dsN e g s k := by simp only [dsN]; rw [if_neg h]; rfl
theorem dsN_congr {e : Nat → Int} {g g' : Nat → Nat} {s : Nat} {m : Nat} (h : ∀ k, k < m → e (s ^^^ 2 ^ k) < e s → g (s ^^^ 2 ^ k) = g' (s ^^^ 2 ^ k)) : dsN e g s m = dsN e g' s m := by
  induction m with
  | zero => rfl
  | succ m ih =>
    simp only [dsN]
    rw [ih (fun k hk => h k (by omega))]
    by_cases c : e (s ^^^ 2 ^ m) < e s
    · rw [if_pos c, if_pos c, h m (by omega) c]
    · rw [if_neg c, if_neg c]
theorem dsN_mono (e : Nat → Int) (g : Nat → Nat) (s : Nat) {i j : Nat} (h : i ≤ j) : dsN e g s i ≤ dsN e g s j := by
  induction j with
  | zero => rw [Nat.le_zero.mp h]; exact Nat.le_refl _
  | succ j ih =>
    rcases Nat.lt_or_ge i (j + 1) with q | q
    · have := ih (by omega)
      simp only [dsN]; omega
    · rw [show i = j + 1 by omega]; exact Nat.le_refl _
def dwF (e : Nat → Int) (m : Nat) : Nat → Nat → Nat
  | 0, _ => 1
  | f + 1, s => if dsN e (dwF e m f) s m = 0 then 1 else dsN e (dwF e m f) s m
/-- in how many ways one goes down from a state -/
def dw (e : Nat → Int) (m s : Nat) : Nat := dwF e m 400 s
theorem dwF_fuel {e : Nat → Int} {m : Nat} (hb : ∀ s, -144 ≤ e s) : ∀ f f' s, (e s + 145).toNat ≤ f → (e s + 145).toNat ≤ f' → dwF e m f s = dwF e m f' s := by
  intro f
  induction f with
  | zero => intro f' s h; have := hb s; omega
  | succ f ih =>
    intro f' s h h'
    rcases f' with _ | f'
    · have := hb s; omega
    · simp only [dwF]
      rw [dsN_congr (fun k _ hlt => ih f' (s ^^^ 2 ^ k) (by have := hb (s ^^^ 2 ^ k); omega) (by have := hb (s ^^^ 2 ^ k); omega))]
theorem dw_eq {e : Nat → Int} {m s : Nat} (hb : ∀ s, -144 ≤ e s) (hs : e s ≤ 144) : dw e m s = if dsN e (dw e m) s m = 0 then 1 else dsN e (dw e m) s m := by
  have h1 : dsN e (dwF e m 399) s m = dsN e (dw e m) s m := dsN_congr (fun k _ hlt => dwF_fuel hb 399 400 _ (by omega) (by omega))
  show (if dsN e (dwF e m 399) s m = 0 then 1 else dsN e (dwF e m 399) s m) = _
  rw [h1]
def rk (w le rg : Nat) (f : Nat → Int) (s : Nat) : Nat := cntN (Lp w le rg f) (150 + eM w le rg f s).toNat
theorem rk_lt {w le rg : Nat} {f : Nat → Int} {s t : Nat} (hwl : w * le ≤ 16) (b3 : ∀ j, j < 48 → -3 ≤ f j ∧ f j ≤ 3) (hs : s < nst w le) (hl : lawM w le f s = true) (ht : eM w le rg f s < eM w le rg f t) : rk w le rg f s < rk w le rg f t := by
  obtain ⟨h0, h1⟩ := Lp_of (rg := rg) hwl b3 hs hl
  have h2 : cntN (Lp w le rg f) ((150 + eM w le rg f s).toNat + 1) ≤ rk w le rg f t := cntN_mono _ (by omega)
  rw [cntN_t h1] at h2
  unfold rk at h2 ⊢
  omega
theorem rk_i {w le rg : Nat} {f : Nat → Int} {s i : Nat} (hi : i < Lmany w le rg f) (h : eM w le rg f s = Lat w le rg f i) : rk w le rg f s = i := by
  unfold rk
  rw [h]
  exact Lat_rank hi
theorem rk_Lat {w le rg : Nat} {f : Nat → Int} {s : Nat} (hwl : w * le ≤ 16) (b3 : ∀ j, j < 48 → -3 ≤ f j ∧ f j ≤ 3) (hs : s < nst w le) (hl : lawM w le f s = true) : Lat w le rg f (rk w le rg f s) = eM w le rg f s := by
  obtain ⟨h0, h1⟩ := Lp_of (rg := rg) hwl b3 hs hl
  have := Lat_of (rg := rg) (f := f) (e := (150 + eM w le rg f s).toNat) (r := rk w le rg f s) (by omega) h1 rfl
  omega
theorem eM_ge {w le rg : Nat} {f : Nat → Int} (hwl : w * le ≤ 16) (b3 : ∀ j, j < 48 → -3 ≤ f j ∧ f j ≤ 3) (s : Nat) : -144 ≤ eM w le rg f s := by
  have := eM_b (rg := rg) (s := s) hwl b3
  omega
/-- what is told of the levels below i, and of this level below j -/
def dnP (w le rg : Nat) (f : Nat → Int) (df : Nat → Int) (i j : Nat) : Prop := ∀ s, s < nst w le → lawM w le f s = true → (rk w le rg f s < i ∨ (rk w le rg f s = i ∧ s < j)) → df s = ((dw (eM w le rg f) (w * le) s : Nat) : Int)
theorem dnP_skip {w le rg : Nat} {f df : Nat → Int} {i j : Nat} (hwl : w * le ≤ 16) (b3 : ∀ j, j < 48 → -3 ≤ f j ∧ f j ≤ 3) (h : dnP w le rg f df i j) (hi : i < Lmany w le rg f) (hne : eM w le rg f j ≠ Lat w le rg f i) : dnP w le rg f df i (j + 1) := by
  intro s hs hl hq
  refine h s hs hl ?_
  rcases hq with q | ⟨q1, q2⟩
  · exact Or.inl q
  · by_cases c : s = j
    · subst c
      have := rk_Lat (rg := rg) hwl b3 hs hl
      rw [q1] at this
      exact absurd this.symm hne
    · exact Or.inr ⟨q1, by omega⟩
theorem dnP_next {w le rg : Nat} {f df : Nat → Int} {i j : Nat} (h : dnP w le rg f df i j) (hj : nst w le ≤ j) : dnP w le rg f df (i + 1) 0 := by
  intro s hs hl hq
  refine h s hs hl ?_
  omega
theorem dnP_0 {w le rg : Nat} {f df : Nat → Int} : dnP w le rg f df 0 0 := fun s _ _ h => by omega
/-- a state's sum is being made -/
def dnQ (w le rg : Nat) (f : Nat → Int) (dg : Nat → Int) (i j k : Nat) : Prop := dg j = ((dsN (eM w le rg f) (dw (eM w le rg f) (w * le)) j k : Nat) : Int) ∧ ∀ s, s < nst w le → s ≠ j → lawM w le f s = true → (rk w le rg f s < i ∨ (rk w le rg f s = i ∧ s < j)) → dg s = ((dw (eM w le rg f) (w * le) s : Nat) : Int)
theorem dnQ_0 {w le rg : Nat} {f df : Nat → Int} {i j : Nat} (h : dnP w le rg f df i j) : dnQ w le rg f (va_up df j 0) i j 0 := by
  refine ⟨if_pos rfl, fun s hs hne hl hq => ?_⟩
  unfold va_up
  rw [if_neg hne]
  exact h s hs hl hq
theorem dnQ_f {w le rg : Nat} {f dg : Nat → Int} {i j k : Nat} (h : dnQ w le rg f dg i j k) (hn : ¬ eM w le rg f (j ^^^ 2 ^ k) < eM w le rg f j) : dnQ w le rg f dg i j (k + 1) := by
  refine ⟨?_, h.2⟩
  rw [dsN_f hn]
  exact h.1
theorem dnQ_t {w le rg : Nat} {f dg : Nat → Int} {i j k : Nat} (hwl : w * le ≤ 16) (b3 : ∀ j, j < 48 → -3 ≤ f j ∧ f j ≤ 3) (h : dnQ w le rg f dg i j k) (hj : j < nst w le) (hk : k < w * le) (hi : rk w le rg f j = i) (hn : eM w le rg f (j ^^^ 2 ^ k) < eM w le rg f j) (hx : j ^^^ 2 ^ k < nst w le) : dnQ w le rg f (va_up dg j (dg j + dg (j ^^^ 2 ^ k))) i j (k + 1) := by
  have eb := eM_b (rg := rg) (s := j) hwl b3
  have hl : lawM w le f (j ^^^ 2 ^ k) = true := eM_law (rg := rg) (by omega)
  have hne : j ^^^ 2 ^ k ≠ j := fun q => by rw [q] at hn; omega
  have h1 := h.2 _ hx hne hl (Or.inl (by rw [← hi]; exact rk_lt hwl b3 hx hl hn))
  refine ⟨?_, fun s hs hne2 hl2 hq => ?_⟩
  · rw [dsN_t hn, show va_up dg j (dg j + dg (j ^^^ 2 ^ k)) j = dg j + dg (j ^^^ 2 ^ k) from if_pos rfl, h.1, h1]
    omega
  · unfold va_up
    rw [if_neg hne2]
    exact h.2 s hs hne2 hl2 hq
theorem dnQ_end {w le rg : Nat} {f dg : Nat → Int} {i j k : Nat} (hwl : w * le ≤ 16) (b3 : ∀ j, j < 48 → -3 ≤ f j ∧ f j ≤ 3) (h : dnQ w le rg f dg i j k) (hk : k = w * le) (hl : lawM w le f j = true) (hz : dg j ≠ 0) : dnP w le rg f dg i (j + 1) := by
  subst hk
  have h0 := (Lp_of (rg := rg) (x := j) hwl b3 (by unfold lawM at hl; simp only [Bool.and_eq_true, decide_eq_true_eq] at hl; exact hl.1) hl).1
  have h1 := dw_eq (m := w * le) (s := j) (eM_ge (rg := rg) hwl b3) h0.2
  rw [if_neg (fun q => hz (by rw [h.1, q]; rfl))] at h1
  intro s hs hls hq
  by_cases c : s = j
  · subst c
    rw [h.1, h1]
  · exact h.2 s hs c hls (by omega)
theorem dnQ_end0 {w le rg : Nat} {f dg : Nat → Int} {i j k : Nat} (hwl : w * le ≤ 16) (b3 : ∀ j, j < 48 → -3 ≤ f j ∧ f j ≤ 3) (h : dnQ w le rg f dg i j k) (hk : k = w * le) (hl : lawM w le f j = true) (hz : dg j = 0) : dnP w le rg f (va_up dg j 1) i (j + 1) := by
  subst hk
  have h0 := (Lp_of (rg := rg) (x := j) hwl b3 (by unfold lawM at hl; simp only [Bool.and_eq_true, decide_eq_true_eq] at hl; exact hl.1) hl).1
  have h1 := dw_eq (m := w * le) (s := j) (eM_ge (rg := rg) hwl b3) h0.2
  have h2 := h.1
  rw [if_pos (by omega)] at h1
  intro s hs hls hq
  unfold va_up
  by_cases c : s = j
  · subst c
    rw [if_pos rfl, h1]; rfl
  · rw [if_neg c]
    exact h.2 s hs c hls (by omega)
/-- no sum of ways passes the longs -/
def dwB (e : Nat → Int) (m : Nat) : Prop := ∀ s, s < 2 ^ m → e s < 100000 → dsN e (dw e m) s m < 9223372036854775808
