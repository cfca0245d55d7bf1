/-! PURE WORDS 14: hills -/
/-- one comes to a goal without climbing above v -/
def HR (e : Nat → Int) (m : Nat) (T : Nat → Bool) (v : Int) (s : Nat) : Prop := ∃ t, T t = true ∧ Rc (lkP e v) m s t
/-- the least hill -/
def hlV (e : Nat → Int) (m : Nat) (T : Nat → Bool) (s : Nat) (v : Int) : Prop := HR e m T v s ∧ ∀ v', v' < v → ¬ HR e m T v' s
theorem hlV_uniq {e : Nat → Int} {m : Nat} {T : Nat → Bool} {s : Nat} {v v' : Int} (h : hlV e m T s v) (h' : hlV e m T s v') : v = v' := by
  rcases (show v < v' ∨ v = v' ∨ v' < v by omega) with q | q | q
  · exact absurd h.1 (h'.2 v q)
  · exact q
  · exact absurd h'.1 (h.2 v' q)
theorem HR_mono {e : Nat → Int} {m : Nat} {T : Nat → Bool} {s : Nat} {v v' : Int} (h : HR e m T v s) (hv : v ≤ v') : HR e m T v' s := by
  obtain ⟨t, h1, h2⟩ := h
  refine ⟨t, h1, Rc_mono (fun x hx => ?_) h2⟩
  have := of_decide_eq_true hx
  exact lkP_t (by omega) this.2
theorem HR_head {e : Nat → Int} {m : Nat} {T : Nat → Bool} {s k : Nat} {v v' : Int} (h : HR e m T v (s ^^^ 2 ^ k)) (hv : v ≤ v') (hk : k < m) (h1 : e s ≤ v') (h2 : e s ≠ 100000) : HR e m T v' s := by
  obtain ⟨t, g1, g2⟩ := HR_mono h hv
  exact ⟨t, g1, Rc_head (lkP_t h1 h2) hk g2⟩
/-- told hills are hills -/
def hlS (e : Nat → Int) (m : Nat) (T : Nat → Bool) (hf : Nat → Int) : Prop := (∀ s, s < 2 ^ m → hf s < 100000 → HR e m T (hf s) s) ∧ (∀ t, t < 2 ^ m → T t = true → hf t ≤ e t) ∧ ∀ j, j < 2 ^ m → -100000 ≤ hf j ∧ hf j ≤ 100000
def hlD1 (e : Nat → Int) (m : Nat) (hf : Nat → Int) (s : Nat) : Prop := e s ≠ 100000 → ∀ k, k < m → hf s ≤ hf (s ^^^ 2 ^ k) ∨ hf s ≤ e s
theorem hl_end {e : Nat → Int} {m : Nat} {T : Nat → Bool} {hf : Nat → Int} (h : hlS e m T hf) (hd : ∀ s, s < 2 ^ m → hlD1 e m hf s) {s : Nat} (hs : s < 2 ^ m) {v : Int} (hr : HR e m T v s) : hf s ≤ v := by
  obtain ⟨t, h1, n, q⟩ := hr
  induction n generalizing s with
  | zero =>
    obtain ⟨q1, q2⟩ := q
    subst q2
    have := h.2.1 s hs h1
    have := of_decide_eq_true q1
    omega
  | succ n ih =>
    obtain ⟨q1, k, hk, q2⟩ := q
    have h3 := ih (x_lt hs hk) q2
    have h4 := of_decide_eq_true q1
    have h5 := hd s hs h4.2 k hk
    omega
theorem hl_val {e : Nat → Int} {m : Nat} {T : Nat → Bool} {hf : Nat → Int} (h : hlS e m T hf) (hd : ∀ s, s < 2 ^ m → hlD1 e m hf s) {s : Nat} (hs : s < 2 ^ m) (hx : ∃ v, v < 100000 ∧ HR e m T v s) : hlV e m T s (hf s) := by
  obtain ⟨v, hv, hr⟩ := hx
  have h1 := hl_end h hd hs hr
  refine ⟨h.1 s hs (by omega), fun v' hv' hr' => ?_⟩
  have := hl_end h hd hs hr'
  omega
/-- a lower hill is told -/
theorem hl_up {e : Nat → Int} {m : Nat} {T : Nat → Bool} {hf : Nat → Int} {s k : Nat} {v l0 : Int} (h : hlS e m T hf) (hk : k < m) (hl : l0 = hf (s ^^^ 2 ^ k)) (h0 : l0 < 100000) (hs : s < 2 ^ m) (he : e s ≠ 100000) (hv : v = if l0 < e s then e s else l0) (hlt : v < hf s) (hb : -100000 ≤ v) : hlS e m T (va_up hf s v) := by
  have hr := h.1 _ (x_lt hs hk) (by omega)
  rw [← hl] at hr
  have g1 : e s ≤ v := by rw [hv]; split <;> omega
  have g2 : l0 ≤ v := by rw [hv]; split <;> omega
  have hb0 := h.2.2 s hs
  refine ⟨fun x hx hq => ?_, fun t ht hT => ?_, fun j hj => (by unfold va_up; split; omega; exact h.2.2 j hj)⟩
  · unfold va_up at hq ⊢
    split
    · rename_i c; subst c; exact HR_head hr g2 hk g1 he
    · rename_i c; rw [if_neg c] at hq; exact h.1 x hx hq
  · unfold va_up
    split
    · rename_i c; subst c; have := h.2.1 t ht hT; omega
    · exact h.2.1 t ht hT
def smH (hf : Nat → Int) : Nat → Nat
  | 0 => 0
  | i + 1 => smH hf i + (hf i + 100000).toNat
theorem smH_eq {f g : Nat → Int} {n : Nat} (h : ∀ j, j < n → f j = g j) : smH f n = smH g n := by
  induction n with
  | zero => rfl
  | succ n ih => simp only [smH]; rw [ih (fun j hj => h j (by omega)), h n (by omega)]
theorem smH_up {hf : Nat → Int} {s n : Nat} {v : Int} (hs : s < n) (hv : v < hf s) (hb : -100000 ≤ v) : smH (va_up hf s v) n < smH hf n := by
  induction n with
  | zero => omega
  | succ n ih =>
    simp only [smH]
    rcases Nat.lt_or_ge s n with q | q
    · have h1 := ih q
      have h2 : va_up hf s v n = hf n := if_neg (by omega)
      rw [h2]; omega
    · have : s = n := by omega
      subst this
      have h1 : smH (va_up hf s v) s = smH hf s := smH_eq (fun j hj => if_neg (by omega))
      have h2 : va_up hf s v s = v := if_pos rfl
      rw [h1, h2]; omega
theorem HR_congr {e g : Nat → Int} {m : Nat} {T : Nat → Bool} {v : Int} {s : Nat} (h : ∀ j, j < 2 ^ m → e j = g j) (hs : s < 2 ^ m) (hr : HR e m T v s) : HR g m T v s := by
  obtain ⟨t, h1, n, q⟩ := hr
  refine ⟨t, h1, ?_⟩
  induction n generalizing s with
  | zero =>
    obtain ⟨q1, q2⟩ := q
    subst q2
    refine Rc_refl ?_
    unfold lkP at q1 ⊢
    rw [← h s hs]; exact q1
  | succ n ih =>
    obtain ⟨q1, k, hk, q2⟩ := q
    refine Rc_head ?_ hk (ih (x_lt hs hk) q2)
    unfold lkP at q1 ⊢
    rw [← h s hs]; exact q1
/-- all lawful states are joined by turns of free sites -/
theorem law_x {w le : Nat} {f : Nat → Int} {s k : Nat} (h : lawM w le f s = true) (hk : k < w * le) (hp : f (48 + k) ≤ 0) : lawM w le f (s ^^^ 2 ^ k) = true := by
  unfold lawM at h ⊢
  simp only [Bool.and_eq_true, decide_eq_true_eq] at h ⊢
  have hn := nst_pow h.1
  refine ⟨by rw [hn]; exact x_lt (by rw [← hn]; exact h.1) hk, ?_⟩
  have h2 := h.2
  have hg : ∀ n, n ≤ w * le → lwN f s n = true → lwN f (s ^^^ 2 ^ k) n = true := by
    intro n
    induction n with
    | zero => intro _ _; rfl
    | succ n ih =>
      intro hn2 hq
      simp only [lwN, Bool.and_eq_true] at hq ⊢
      refine ⟨ih (by omega) hq.1, ?_⟩
      have h3 := hq.2
      unfold lwB at h3 ⊢
      by_cases c : n = k
      · subst c
        rw [decide_eq_true hp]; rfl
      · have e1 : (s ^^^ 2 ^ k) >>> n &&& 1 = s >>> n &&& 1 := (by
          have h4 := tb_and1 (s ^^^ 2 ^ k) n
          have h5 := tb_and1 s n
          have h6 := tb_le (s ^^^ 2 ^ k) n
          have h7 := tb_le s n
          have h8 : (s ^^^ 2 ^ k).testBit n = s.testBit n := by
            rw [Nat.testBit_xor, Nat.testBit_two_pow_of_ne (by omega), Bool.xor_false]
          rw [h8] at h4
          cases hb : s.testBit n <;> simp_all <;> omega)
        rw [e1]; exact h3
  exact hg _ (Nat.le_refl _) h2
theorem lwN_at {f : Nat → Int} {s n k : Nat} (h : lwN f s n = true) (hk : k < n) : lwB f s k = true := by
  induction n with
  | zero => omega
  | succ n ih =>
    simp only [lwN, Bool.and_eq_true] at h
    rcases Nat.lt_or_ge k n with q | q
    · exact ih h.1 q
    · have : k = n := by omega
      subst this
      exact h.2
theorem law_pin {w le : Nat} {f : Nat → Int} {s t k : Nat} (h : lawM w le f s = true) (h2 : lawM w le f t = true) (hk : k < w * le) (hne : s.testBit k ≠ t.testBit k) : f (48 + k) ≤ 0 := by
  unfold lawM at h h2
  simp only [Bool.and_eq_true, decide_eq_true_eq] at h h2
  have a1 := lwN_at h.2 hk
  have a2 := lwN_at h2.2 hk
  unfold lwB at a1 a2
  simp only [Bool.or_eq_true, decide_eq_true_eq] at a1 a2
  rcases a1 with a1 | a1
  · exact a1
  · rcases a2 with a2 | a2
    · exact a2
    · exfalso
      apply hne
      have h4 := tb_and1 s k
      have h5 := tb_and1 t k
      have e : s >>> k &&& 1 = t >>> k &&& 1 := by omega
      rw [e] at h4
      cases hb : s.testBit k <;> cases hc : t.testBit k <;> simp_all
theorem law_lkP {w le rg : Nat} {f : Nat → Int} {s : Nat} (hwl : w * le ≤ 16) (b3 : ∀ j, j < 48 → -3 ≤ f j ∧ f j ≤ 3) (h : lawM w le f s = true) : lkP (eM w le rg f) 144 s = true := by
  have h1 := enN_b (w := w) (le := le) (rg := rg) (rows := le) (s := s) b3 (w * le) hwl
  have h2 := eM_t (rg := rg) h
  exact lkP_t (by omega) (by omega)
theorem law_conn {w le rg : Nat} {f : Nat → Int} {s t : Nat} (hwl : w * le ≤ 16) (b3 : ∀ j, j < 48 → -3 ≤ f j ∧ f j ≤ 3) (hs : lawM w le f s = true) (ht : lawM w le f t = true) : Rc (lkP (eM w le rg f) 144) (w * le) s t := by
  have key : ∀ j, j ≤ w * le → ∃ u, lawM w le f u = true ∧ Rc (lkP (eM w le rg f) 144) (w * le) s u ∧ ∀ i, i < j → u.testBit i = t.testBit i := by
    intro j
    induction j with
    | zero => intro _; exact ⟨s, hs, Rc_refl (law_lkP hwl b3 hs), fun i hi => by omega⟩
    | succ j ih =>
      intro hj
      obtain ⟨u, h1, h2, h3⟩ := ih (by omega)
      by_cases c : u.testBit j = t.testBit j
      · refine ⟨u, h1, h2, fun i hi => ?_⟩
        rcases Nat.lt_or_ge i j with q | q
        · exact h3 i q
        · have : i = j := by omega
          subst this
          exact c
      · have h4 := law_x h1 hj (law_pin h1 ht hj c)
        refine ⟨u ^^^ 2 ^ j, h4, Rc_tail h2 hj (law_lkP hwl b3 h4), fun i hi => ?_⟩
        rcases Nat.lt_or_ge i j with q | q
        · rw [Nat.testBit_xor, Nat.testBit_two_pow_of_ne (by omega), Bool.xor_false]
          exact h3 i q
        · have : i = j := by omega
          subst this
          rw [Nat.testBit_xor, Nat.testBit_two_pow_self]
          cases hb : u.testBit i <;> cases hc : t.testBit i <;> simp_all
  obtain ⟨u, h1, h2, h3⟩ := key (w * le) (Nat.le_refl _)
  have hl : ∀ x, lawM w le f x = true → x < 2 ^ (w * le) := by
    intro x hx
    unfold lawM at hx
    simp only [Bool.and_eq_true, decide_eq_true_eq] at hx
    have := nst_pow hx.1
    omega
  have : u = t := Nat.eq_of_testBit_eq (fun i => by
    rcases Nat.lt_or_ge i (w * le) with q | q
    · exact h3 i q
    · have pq : 2 ^ (w * le) ≤ 2 ^ i := Nat.pow_le_pow_right (by decide) q
      rw [Nat.testBit_lt_two_pow (Nat.lt_of_lt_of_le (hl u h1) pq), Nat.testBit_lt_two_pow (Nat.lt_of_lt_of_le (hl t ht) pq)])
  subst this
  exact h2
theorem hill_ex {w le rg : Nat} {f : Nat → Int} {s t : Nat} {T : Nat → Bool} (hwl : w * le ≤ 16) (b3 : ∀ j, j < 48 → -3 ≤ f j ∧ f j ≤ 3) (hs : lawM w le f s = true) (ht : lawM w le f t = true) (hT : T t = true) : ∃ v : Int, v < 100000 ∧ HR (eM w le rg f) (w * le) T v s := ⟨144, by decide, t, hT, law_conn hwl b3 hs ht⟩
theorem eM_law2 {w le rg : Nat} {f : Nat → Int} {s : Nat} (h : eM w le rg f s ≠ 100000) : lawM w le f s = true := by
  cases hl : lawM w le f s with
  | true => rfl
  | false => exact absurd (eM_f hl) h
