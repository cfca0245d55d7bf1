/-! PURE WORDS 13: what is reached by turns within a set; lakes; hills -/
def rcN (P : Nat → Bool) (m : Nat) : Nat → Nat → Nat → Prop
  | 0, s, t => P s = true ∧ s = t
  | n + 1, s, t => P s = true ∧ ∃ k, k < m ∧ rcN P m n (s ^^^ 2 ^ k) t
def Rc (P : Nat → Bool) (m s t : Nat) : Prop := ∃ n, rcN P m n s t
theorem Rc_refl {P : Nat → Bool} {m s : Nat} (h : P s = true) : Rc P m s s := ⟨0, h, rfl⟩
theorem Rc_head {P : Nat → Bool} {m s t k : Nat} (h : P s = true) (hk : k < m) (hr : Rc P m (s ^^^ 2 ^ k) t) : Rc P m s t := by
  obtain ⟨n, q⟩ := hr
  exact ⟨n + 1, h, k, hk, q⟩
theorem rcN_p {P : Nat → Bool} {m n s t : Nat} (h : rcN P m n s t) : P s = true ∧ P t = true := by
  induction n generalizing s with
  | zero => obtain ⟨h1, h2⟩ := h; subst h2; exact ⟨h1, h1⟩
  | succ n ih => obtain ⟨h1, k, _, h2⟩ := h; exact ⟨h1, (ih h2).2⟩
theorem Rc_l {P : Nat → Bool} {m s t : Nat} (h : Rc P m s t) : P s = true := by obtain ⟨n, q⟩ := h; exact (rcN_p q).1
theorem Rc_r {P : Nat → Bool} {m s t : Nat} (h : Rc P m s t) : P t = true := by obtain ⟨n, q⟩ := h; exact (rcN_p q).2
theorem Rc_trans {P : Nat → Bool} {m s t u : Nat} (h : Rc P m s t) (h2 : Rc P m t u) : Rc P m s u := by
  obtain ⟨n, q⟩ := h
  induction n generalizing s with
  | zero => obtain ⟨_, q2⟩ := q; subst q2; exact h2
  | succ n ih => obtain ⟨q1, k, hk, q2⟩ := q; exact Rc_head q1 hk (ih q2)
theorem xor_xor (s a : Nat) : (s ^^^ a) ^^^ a = s := by rw [Nat.xor_assoc, Nat.xor_self, Nat.xor_zero]
theorem Rc_tail {P : Nat → Bool} {m s t k : Nat} (h : Rc P m s t) (hk : k < m) (hp : P (t ^^^ 2 ^ k) = true) : Rc P m s (t ^^^ 2 ^ k) :=
  Rc_trans h (Rc_head (Rc_r h) hk (Rc_refl hp))
theorem Rc_symm {P : Nat → Bool} {m s t : Nat} (h : Rc P m s t) : Rc P m t s := by
  obtain ⟨n, q⟩ := h
  induction n generalizing s with
  | zero => obtain ⟨q1, q2⟩ := q; subst q2; exact Rc_refl q1
  | succ n ih =>
    obtain ⟨q1, k, hk, q2⟩ := q
    have h1 := ih q2
    have h2 := Rc_tail (k := k) h1 hk (by rw [xor_xor]; exact q1)
    rw [xor_xor] at h2
    exact h2
theorem Rc_mono {P P2 : Nat → Bool} {m s t : Nat} (hm : ∀ x, P x = true → P2 x = true) (h : Rc P m s t) : Rc P2 m s t := by
  obtain ⟨n, q⟩ := h
  induction n generalizing s with
  | zero => obtain ⟨q1, q2⟩ := q; subst q2; exact Rc_refl (hm _ q1)
  | succ n ih => obtain ⟨q1, k, hk, q2⟩ := q; exact Rc_head (hm _ q1) hk (ih q2)
theorem x_lt {m s k : Nat} (hs : s < 2 ^ m) (hk : k < m) : s ^^^ 2 ^ k < 2 ^ m := Nat.xor_lt_two_pow hs (Nat.pow_lt_pow_right (by decide) hk)
theorem Rc_lt {P : Nat → Bool} {m s t : Nat} (h : Rc P m s t) (hs : s < 2 ^ m) : t < 2 ^ m := by
  obtain ⟨n, q⟩ := h
  induction n generalizing s with
  | zero => obtain ⟨_, q2⟩ := q; subst q2; exact hs
  | succ n ih => obtain ⟨_, k, hk, q2⟩ := q; exact ih (x_lt hs hk) q2
/-- in a lake of this height -/
def lkP (e : Nat → Int) (hi : Int) (s : Nat) : Bool := decide (e s ≤ hi ∧ e s ≠ 100000)
theorem lkP_t {e : Nat → Int} {hi : Int} {s : Nat} (h1 : e s ≤ hi) (h2 : e s ≠ 100000) : lkP e hi s = true := decide_eq_true ⟨h1, h2⟩
theorem lkP_f {e : Nat → Int} {hi : Int} {s : Nat} (h : ¬ (e s ≤ hi ∧ e s ≠ 100000)) : lkP e hi s = false := decide_eq_false h
/-- the first of its lake -/
noncomputable def lkF (P : Nat → Bool) (m s : Nat) : Bool := @decide (P s = true ∧ ∀ t, t < s → ¬ Rc P m t s) (Classical.propDecidable _)
theorem lkF_t {P : Nat → Bool} {m s : Nat} (h1 : P s = true) (h2 : ∀ t, t < s → ¬ Rc P m t s) : lkF P m s = true := by unfold lkF; exact @decide_eq_true _ (Classical.propDecidable _) ⟨h1, h2⟩
theorem lkF_f {P : Nat → Bool} {m s : Nat} (h : P s = false ∨ ∃ t, t < s ∧ Rc P m t s) : lkF P m s = false := by
  unfold lkF
  refine @decide_eq_false _ (Classical.propDecidable _) ?_
  rintro ⟨h1, h2⟩
  rcases h with h | ⟨t, h3, h4⟩
  · rw [h] at h1; exact absurd h1 (by decide)
  · exact h2 t h3 h4
/-- what is met of the lakes whose first states are below i -/
def lkW (P : Nat → Bool) (m i : Nat) (wet : Nat → Bool) : Prop := ∀ t, t < 2 ^ m → (wet t = true ↔ ∃ u, u < i ∧ Rc P m u t)
theorem lkW_0 {P : Nat → Bool} {m : Nat} {wet : Nat → Bool} (h : ∀ t, t < 2 ^ m → wet t = false) : lkW P m 0 wet := by
  intro t ht
  rw [h t ht]
  exact ⟨fun q => absurd q (by decide), fun ⟨u, hu, _⟩ => absurd hu (Nat.not_lt_zero _)⟩
theorem lkW_wet {P : Nat → Bool} {m i : Nat} {wet : Nat → Bool} (h : lkW P m i wet) (hi : i < 2 ^ m) (hw : wet i = true) : lkF P m i = false ∧ lkW P m (i + 1) wet := by
  obtain ⟨u, hu, hr⟩ := (h i hi).mp hw
  refine ⟨lkF_f (Or.inr ⟨u, hu, hr⟩), fun t ht => ⟨fun q => ?_, fun q => ?_⟩⟩
  · obtain ⟨v, hv, hr2⟩ := (h t ht).mp q
    exact ⟨v, by omega, hr2⟩
  · obtain ⟨v, hv, hr2⟩ := q
    rcases Nat.lt_or_ge v i with c | c
    · exact (h t ht).mpr ⟨v, c, hr2⟩
    · have : v = i := by omega
      subst this
      exact (h t ht).mpr ⟨u, hu, Rc_trans hr hr2⟩
theorem lkW_out {P : Nat → Bool} {m i : Nat} {wet : Nat → Bool} (h : lkW P m i wet) (hp : P i = false) : lkF P m i = false ∧ lkW P m (i + 1) wet := by
  refine ⟨lkF_f (Or.inl hp), fun t ht => ⟨fun q => ?_, fun q => ?_⟩⟩
  · obtain ⟨v, hv, hr2⟩ := (h t ht).mp q
    exact ⟨v, by omega, hr2⟩
  · obtain ⟨v, hv, hr2⟩ := q
    rcases Nat.lt_or_ge v i with c | c
    · exact (h t ht).mpr ⟨v, c, hr2⟩
    · have : v = i := by omega
      subst this
      rw [Rc_l hr2] at hp
      exact absurd hp (by decide)
theorem lkW_new {P : Nat → Bool} {m i : Nat} {wet : Nat → Bool} (h : lkW P m i wet) (hi : i < 2 ^ m) (hw : wet i = false) (hp : P i = true) : lkF P m i = true :=
  lkF_t hp (fun t ht hr => by
    have := (h i hi).mpr ⟨t, ht, hr⟩
    rw [hw] at this
    exact absurd this (by decide))
theorem cntN_upt {f : Nat → Bool} {t n : Nat} (ht : t < n) (h : f t = false) : cntN (va_up f t true) n = cntN f n + 1 := by
  induction n with
  | zero => omega
  | succ n ih =>
    have e0 : va_up f t true n = if n = t then true else f n := rfl
    rcases Nat.lt_or_ge t n with q | q
    · have h1 := ih q
      have h2 : va_up f t true n = f n := by rw [e0, if_neg (by omega)]
      simp only [cntN]
      rw [h1, h2, Nat.add_right_comm]
    · have : t = n := by omega
      subst this
      have h1 : cntN (va_up f t true) t = cntN f t := cntN_congr (fun i hi => by
        show (if i = t then true else f i) = f i
        rw [if_neg (by omega)])
      rw [cntN_t (by rw [e0, if_pos rfl]), cntN_f h, h1]
theorem cntN_lt {f : Nat → Bool} {t n : Nat} (ht : t < n) (h : f t = false) : cntN f n < n := by
  have := cntN_upt ht h
  have := cntN_le (va_up f t true) n
  omega
/-- a lake is being filled: a row of those met -/
def lkB (P : Nat → Bool) (m : Nat) (W0 wet : Nat → Bool) (fi : Nat) (wa : Nat → Int) (mn : Nat) : Prop :=
  (∀ t, t < 2 ^ m → (wet t = true ↔ (W0 t = true ∨ ∃ j, j < mn ∧ wa j = (t : Int)))) ∧ (∀ j, j < mn → ∃ t : Nat, wa j = (t : Int) ∧ t < 2 ^ m ∧ Rc P m fi t) ∧ mn ≤ cntN wet (2 ^ m) ∧ 0 < mn ∧ wa 0 = (fi : Int)
def lkC (P : Nat → Bool) (m : Nat) (wet : Nat → Bool) (wa : Nat → Int) (k s : Nat) : Prop := ∀ j q, (j < k ∧ q < m) ∨ (j = k ∧ q < s) → ∀ t : Nat, wa j = (t : Int) → P (t ^^^ 2 ^ q) = true → wet (t ^^^ 2 ^ q) = true
theorem upB {f : Nat → Bool} {t u : Nat} (h : f u = true) : va_up f t true u = true := by unfold va_up; split <;> first | rfl | exact h
theorem upB_s {f : Nat → Bool} {t : Nat} : va_up f t true t = true := if_pos rfl
theorem upB_iff (f : Nat → Bool) (t u : Nat) : va_up f t true u = true ↔ (f u = true ∨ u = t) := by
  unfold va_up
  split
  · rename_i q; exact ⟨fun _ => Or.inr q, fun _ => rfl⟩
  · rename_i q; exact ⟨fun h => Or.inl h, fun h => h.resolve_right q⟩
theorem lkB_0 {P : Nat → Bool} {m fi : Nat} {W0 : Nat → Bool} {wa : Nat → Int} (hf : fi < 2 ^ m) (hw : W0 fi = false) (hp : P fi = true) : lkB P m W0 (va_up W0 fi true) fi (va_up wa 0 (fi : Int)) 1 := by
  have e0 : va_up wa 0 (fi : Int) 0 = (fi : Int) := if_pos rfl
  refine ⟨fun t ht => ?_, fun j hj => ?_, ?_, by decide, e0⟩
  · rw [upB_iff]
    constructor
    · rintro (q | q)
      · exact Or.inl q
      · exact Or.inr ⟨0, by decide, by rw [e0, q]⟩
    · rintro (q | ⟨j, hj, q⟩)
      · exact Or.inl q
      · have : j = 0 := by omega
        subst this
        rw [e0] at q
        exact Or.inr (by omega)
  · have : j = 0 := by omega
    subst this
    exact ⟨fi, e0, hf, Rc_refl hp⟩
  · rw [cntN_upt hf hw]; omega
theorem lkC_0 {P : Nat → Bool} {m : Nat} {wet : Nat → Bool} {wa : Nat → Int} : lkC P m wet wa 0 0 := fun j q h => by omega
theorem lkC_next {P : Nat → Bool} {m k s : Nat} {wet : Nat → Bool} {wa : Nat → Int} (h : lkC P m wet wa k s) (hs : s = m) : lkC P m wet wa (k + 1) 0 := fun j q hq => h j q (by omega)
theorem lkC_skip {P : Nat → Bool} {m k s t : Nat} {wet : Nat → Bool} {wa : Nat → Int} (h : lkC P m wet wa k s) (ht : wa k = (t : Int)) (hs : wet (t ^^^ 2 ^ s) = true ∨ P (t ^^^ 2 ^ s) = false) : lkC P m wet wa k (s + 1) := by
  intro j q hq t2 h2 hp
  by_cases c : (j < k ∧ q < m) ∨ (j = k ∧ q < s)
  · exact h j q c t2 h2 hp
  · have e1 : j = k := by omega
    have e2 : q = s := by omega
    subst e1; subst e2
    have e3 : t2 = t := by omega
    subst e3
    rcases hs with hs | hs
    · exact hs
    · rw [hs] at hp; exact absurd hp (by decide)
theorem lkB_add {P : Nat → Bool} {m fi mn k t q : Nat} {W0 wet : Nat → Bool} {wa : Nat → Int} (h : lkB P m W0 wet fi wa mn) (hk : k < mn) (ht : wa k = (t : Int)) (hq : q < m) (hw : wet (t ^^^ 2 ^ q) = false) (hp : P (t ^^^ 2 ^ q) = true) : lkB P m W0 (va_up wet (t ^^^ 2 ^ q) true) fi (va_up wa mn ((t ^^^ 2 ^ q : Nat) : Int)) (mn + 1) := by
  obtain ⟨h1, h2, h3, h4, h5⟩ := h
  obtain ⟨t2, g1, g2, g3⟩ := h2 k hk
  have e3 : t2 = t := by omega
  subst e3
  have e0 : ∀ j, j < mn → va_up wa mn ((t2 ^^^ 2 ^ q : Nat) : Int) j = wa j := fun j hj => if_neg (by omega)
  have e1 : va_up wa mn ((t2 ^^^ 2 ^ q : Nat) : Int) mn = ((t2 ^^^ 2 ^ q : Nat) : Int) := if_pos rfl
  refine ⟨fun u hu => ?_, fun j hj => ?_, ?_, by omega, by rw [e0 0 h4]; exact h5⟩
  · rw [upB_iff, h1 u hu]
    constructor
    · rintro ((c | ⟨j, hj, c⟩) | c)
      · exact Or.inl c
      · exact Or.inr ⟨j, by omega, by rw [e0 j hj]; exact c⟩
      · exact Or.inr ⟨mn, by omega, by rw [e1, c]⟩
    · rintro (c | ⟨j, hj, c⟩)
      · exact Or.inl (Or.inl c)
      · rcases Nat.lt_or_ge j mn with d | d
        · rw [e0 j d] at c
          exact Or.inl (Or.inr ⟨j, d, c⟩)
        · have : j = mn := by omega
          subst this
          rw [e1] at c
          exact Or.inr (by omega)
  · rcases Nat.lt_or_ge j mn with d | d
    · obtain ⟨t3, f1, f2⟩ := h2 j d
      exact ⟨t3, by rw [e0 j d]; exact f1, f2⟩
    · have : j = mn := by omega
      subst this
      exact ⟨_, e1, x_lt g2 hq, Rc_tail g3 hq hp⟩
  · rw [cntN_upt (x_lt g2 hq) hw]; omega
theorem lkC_add {P : Nat → Bool} {m mn k t s : Nat} {wet : Nat → Bool} {wa : Nat → Int} {v : Int} (h : lkC P m wet wa k s) (hk : k < mn) (ht : wa k = (t : Int)) : lkC P m (va_up wet (t ^^^ 2 ^ s) true) (va_up wa mn v) k (s + 1) := by
  intro j q hq t2 h2 hp
  have e0 : va_up wa mn v j = wa j := if_neg (by omega)
  rw [e0] at h2
  by_cases c : (j < k ∧ q < m) ∨ (j = k ∧ q < s)
  · exact upB (h j q c t2 h2 hp)
  · have e1 : j = k := by omega
    have e2 : q = s := by omega
    subst e1; subst e2
    have e3 : t2 = t := by omega
    subst e3
    exact upB_s
theorem lkB_lt {P : Nat → Bool} {m fi mn t : Nat} {W0 wet : Nat → Bool} {wa : Nat → Int} (h : lkB P m W0 wet fi wa mn) (ht : t < 2 ^ m) (hw : wet t = false) : mn < 2 ^ m := by
  have := cntN_lt ht hw
  have := h.2.2.1
  omega
theorem lkW_end {P : Nat → Bool} {m fi mn k : Nat} {W0 wet : Nat → Bool} {wa : Nat → Int} (hW : lkW P m fi W0) (h : lkB P m W0 wet fi wa mn) (hc : lkC P m wet wa k 0) (hk : mn ≤ k) (hf : fi < 2 ^ m) : lkW P m (fi + 1) wet := by
  obtain ⟨h1, h2, _, h4, h5⟩ := h
  have cl : ∀ (n s t : Nat), (∃ j, j < mn ∧ wa j = (s : Int)) → s < 2 ^ m → rcN P m n s t → wet t = true := by
    intro n
    induction n with
    | zero =>
      intro s t hj hs q
      obtain ⟨_, q2⟩ := q
      subst q2
      exact (h1 s hs).mpr (Or.inr hj)
    | succ n ih =>
      intro s t hj hs q
      obtain ⟨_, b, hb, q2⟩ := q
      obtain ⟨j, hj1, hj2⟩ := hj
      have w1 := hc j b (Or.inl ⟨by omega, hb⟩) s hj2 (rcN_p q2).1
      have hx := x_lt hs hb
      rcases (h1 _ hx).mp w1 with c | c
      · obtain ⟨u, hu, hr⟩ := (hW _ hx).mp c
        have hr2 : Rc P m u t := Rc_trans hr ⟨n, q2⟩
        have ht : t < 2 ^ m := Rc_lt ⟨n, q2⟩ hx
        exact (h1 t ht).mpr (Or.inl ((hW t ht).mpr ⟨u, hu, hr2⟩))
      · exact ih _ t c hx q2
  intro t ht
  constructor
  · intro q
    rcases (h1 t ht).mp q with c | ⟨j, hj, c⟩
    · obtain ⟨u, hu, hr⟩ := (hW t ht).mp c
      exact ⟨u, by omega, hr⟩
    · obtain ⟨t2, g1, _, g3⟩ := h2 j hj
      have : t2 = t := by omega
      subst this
      exact ⟨fi, by omega, g3⟩
  · rintro ⟨u, hu, hr⟩
    rcases Nat.lt_or_ge u fi with c | c
    · exact (h1 t ht).mpr (Or.inl ((hW t ht).mpr ⟨u, c, hr⟩))
    · have : u = fi := by omega
      subst this
      obtain ⟨n, q⟩ := hr
      exact cl n u t ⟨0, h4, h5⟩ hf q
