/-! A TREE MAP: turns as the machine makes them -/
section TM3
variable {K : Nat → Int} {L : List Nat} {root root' : Option Nat} {lf rt pa lf' rt' pa' : Nat → Option Nat}
theorem tm_rl (h : tmOk K L root lf rt pa) {p r : Nat} (hp : p ∈ L) (hpr : rt p = some r) {PA LF RT : Nat → Option Nat} (hPA1 : ∀ c, lf r = some c → PA c = some p) (hPA2 : ∀ x, lf r ≠ some x → PA x = pa x) (hq : (pa p = none ∧ root' = some r ∧ LF = lf ∧ RT = va_up rt p (lf r)) ∨ (∃ q, pa p = some q ∧ lf q = some p ∧ root' = root ∧ LF = va_up lf q (some r) ∧ RT = va_up rt p (lf r)) ∨ (∃ q, pa p = some q ∧ lf q ≠ some p ∧ root' = root ∧ LF = lf ∧ RT = va_up (va_up rt p (lf r)) q (some r))) :
    tmOk K L root' (va_up LF r (some p)) RT (va_up (va_up PA r (pa p)) p (some r)) := by
  have hr : r ∈ L := tm_link h hp (Or.inr hpr)
  obtain ⟨k, A, B, t1, t2, nd⟩ := tm_at h hp
  rw [hpr] at t2
  have rB := tr_root t2
  have pB : p ∉ B := (List.nodup_cons.mp (List.nodup_append.mp nd).2.1).1
  have pA : p ∉ A := fun z => (List.nodup_append.mp nd).2.2 p z p (by simp) rfl
  have rA : r ∉ A := fun z => (List.nodup_append.mp nd).2.2 r z r (by simp [rB]) rfl
  have rp : r ≠ p := fun z => pB (z ▸ rB)
  have lr : lf r ≠ some p := fun z => pB (tr_link t2 rB (Or.inl z))
  have rr : rt r ≠ some p := fun z => pB (tr_link t2 rB (Or.inr z))
  have lp : lf p ≠ some r := fun z => by rw [z] at t1; exact rA (tr_root t1)
  have lpp : lf p ≠ some p := fun z => by rw [z] at t1; exact pA (tr_root t1)
  have rpp : rt p ≠ some p := fun z => rp (Option.some.inj (hpr.symm.trans z))
  obtain ⟨k2, A2, B2, t3, t4, nd2⟩ := tm_at h hr
  have lrr : lf r ≠ some r := fun z => by
    rw [z] at t3
    exact (List.nodup_append.mp nd2).2.2 r (tr_root t3) r (by simp) rfl
  have par : pa r = some p := h.2.2.2.2 p hp r (Or.inr hpr)
  have up : ∀ x ∈ L, lf x = some p ∨ rt x = some p → pa p = some x := fun x hx q => h.2.2.2.2 x hx p q
  have qne : ∀ q, pa p = some q → q ≠ p ∧ q ≠ r := by
    intro q hq
    have hc := (tm_pa h hp hq).2
    refine ⟨fun z => ?_, fun z => ?_⟩
    · subst z; rcases hc with z | z
      · exact lpp z
      · exact rpp z
    · subst z; rcases hc with z | z
      · exact lr z
      · exact rr z
  have c9 : root = some p ↔ pa p = none := by
    constructor
    · exact fun z => h.2.2.2.1 p z
    · intro z
      rcases tm_up h hp with q | ⟨x, hx, q, -⟩
      · exact q.1
      · rw [z] at q; cases q
  refine tm_rotL h hp hpr ?_ ?_ ?_ ?_ ?_ ?_ ?_ ?_ ?_ ?_ ?_
  · simp [va_up]
  · rcases hq with ⟨-, -, -, e⟩ | ⟨q, hq, -, -, -, e⟩ | ⟨q, hq, -, -, -, e⟩
    · rw [e]; simp [va_up]
    · rw [e]; simp [va_up]
    · rw [e]; simp [va_up, (qne q hq).1.symm]
  · rcases hq with ⟨-, -, e, -⟩ | ⟨q, hq, -, -, e, -⟩ | ⟨q, hq, -, -, e, -⟩
    · rw [e]; simp [va_up, rp.symm]
    · rw [e]; simp [va_up, rp.symm, (qne q hq).1.symm]
    · rw [e]; simp [va_up, rp.symm]
  · rcases hq with ⟨-, -, -, e⟩ | ⟨q, hq, -, -, -, e⟩ | ⟨q, hq, -, -, -, e⟩
    · rw [e]; simp [va_up, rp]
    · rw [e]; simp [va_up, rp]
    · rw [e]; simp [va_up, rp, (qne q hq).2.symm]
  · intro x hx xp xr
    rcases hq with ⟨n0, -, e, -⟩ | ⟨q, hq, hl, -, e, -⟩ | ⟨q, hq, hl, -, e, -⟩
    · rw [e, if_neg (fun z => by rw [up x hx (Or.inl z)] at n0; cases n0)]
      simp [va_up, xr]
    · rw [e]
      by_cases z : x = q
      · subst z; rw [if_pos hl]; simp [va_up, xr]
      · rw [if_neg (fun w => z (Option.some.inj ((up x hx (Or.inl w)).symm.trans hq)))]; simp [va_up, xr, z]
    · rw [e, if_neg (fun w => by
        have := Option.some.inj ((up x hx (Or.inl w)).symm.trans hq)
        subst this
        exact hl w)]
      simp [va_up, xr]
  · intro x hx xp xr
    rcases hq with ⟨n0, -, -, e⟩ | ⟨q, hq, hl, -, -, e⟩ | ⟨q, hq, hl, -, -, e⟩
    · rw [e, if_neg (fun z => by rw [up x hx (Or.inr z)] at n0; cases n0)]
      simp [va_up, xp]
    · rw [e, if_neg (fun w => by
        have := Option.some.inj ((up x hx (Or.inr w)).symm.trans hq)
        subst this
        obtain ⟨k3, A3, B3, t5, t6, nd3⟩ := tm_at h hx
        rw [hl] at t5
        rw [w] at t6
        exact (List.nodup_append.mp nd3).2.2 p (tr_root t5) p (by simp [tr_root t6]) rfl)]
      simp [va_up, xp]
    · rw [e]
      by_cases z : x = q
      · subst z
        rw [if_pos ((tm_pa h hp hq).2.resolve_left hl)]
        simp [va_up]
      · rw [if_neg (fun w => z (Option.some.inj ((up x hx (Or.inr w)).symm.trans hq)))]; simp [va_up, xp, z]
  · rcases hq with ⟨n0, e, -⟩ | ⟨q, hq, -, e, -⟩ | ⟨q, hq, -, e, -⟩
    · rw [e, if_pos (c9.mpr n0)]
    · rw [e, if_neg (fun z => by rw [c9.mp z] at hq; cases hq)]
    · rw [e, if_neg (fun z => by rw [c9.mp z] at hq; cases hq)]
  · simp [va_up]
  · simp [va_up, rp]
  · intro c hc
    have e1 : c ≠ p := fun z => lr (z ▸ hc)
    have e2 : c ≠ r := fun z => lrr (z ▸ hc)
    simp [va_up, e1, e2, hPA1 c hc]
  · intro x hx xp xr hc
    simp [va_up, xp, xr, hPA2 x hc]
/-- the same to the right, by looking from behind -/
theorem tm_rr (h : tmOk K L root lf rt pa) {p r : Nat} (hp : p ∈ L) (hpr : lf p = some r) {PA LF RT : Nat → Option Nat} (hPA1 : ∀ c, rt r = some c → PA c = some p) (hPA2 : ∀ x, rt r ≠ some x → PA x = pa x) (hq : (pa p = none ∧ root' = some r ∧ RT = rt ∧ LF = va_up lf p (rt r)) ∨ (∃ q, pa p = some q ∧ rt q = some p ∧ root' = root ∧ RT = va_up rt q (some r) ∧ LF = va_up lf p (rt r)) ∨ (∃ q, pa p = some q ∧ rt q ≠ some p ∧ root' = root ∧ RT = rt ∧ LF = va_up (va_up lf p (rt r)) q (some r))) :
    tmOk K L root' LF (va_up RT r (some p)) (va_up (va_up PA r (pa p)) p (some r)) := by
  have := tm_rev (tm_rl (tm_rev h) (by simpa using hp) hpr hPA1 hPA2 hq)
  simpa using this
theorem tm_neL (h : tmOk K L root lf rt pa) {p r : Nat} (hp : p ∈ L) (hpr : rt p = some r) : r ∈ L ∧ r ≠ p ∧ ∀ c, lf r = some c → c ∈ L ∧ c ≠ p ∧ c ≠ r := by
  have hr : r ∈ L := tm_link h hp (Or.inr hpr)
  obtain ⟨k, A, B, t1, t2, nd⟩ := tm_at h hp
  rw [hpr] at t2
  have rB := tr_root t2
  have pB : p ∉ B := (List.nodup_cons.mp (List.nodup_append.mp nd).2.1).1
  obtain ⟨k2, A2, B2, t3, t4, nd2⟩ := tm_at h hr
  refine ⟨hr, fun z => pB (z ▸ rB), fun c hc => ⟨tm_link h hr (Or.inl hc), fun z => pB (z ▸ tr_link t2 rB (Or.inl hc)), fun z => ?_⟩⟩
  subst z
  rw [hc] at t3
  exact (List.nodup_append.mp nd2).2.2 c (tr_root t3) c (by simp) rfl
theorem tm_neR (h : tmOk K L root lf rt pa) {p r : Nat} (hp : p ∈ L) (hpr : lf p = some r) : r ∈ L ∧ r ≠ p ∧ ∀ c, rt r = some c → c ∈ L ∧ c ≠ p ∧ c ≠ r := by
  have := tm_neL (tm_rev h) (by simpa using hp) hpr
  simpa using this
theorem va_upn {α : Type} {f : Nat → α} {k j : Nat} {v : α} (h : j ≠ k) : va_up f k v j = f j := by
  unfold va_up
  rw [if_neg h]
theorem va_upe {α : Type} {f : Nat → α} {k : Nat} {v : α} : va_up f k v k = v := by
  unfold va_up
  rw [if_pos rfl]
theorem tm_rootne (h : tmOk K L root lf rt pa) {x : Nat} (hx : x ∈ L) : ∃ ro, root = some ro ∧ ro ∈ L := by
  cases hr : root with
  | none => rw [tm_nil h hr] at hx; cases hx
  | some ro => exact ⟨ro, rfl, tm_root h hr⟩
theorem tm_parne (h : tmOk K L root lf rt pa) {x : Nat} (hx : x ∈ L) (hr : ¬ some x = root) : ∃ q, pa x = some q ∧ q ∈ L ∧ q ≠ x ∧ (lf q = some x ∨ rt q = some x) := by
  rcases tm_up h hx with q | ⟨z, hz, q1, q2⟩
  · exact absurd q.1.symm hr
  · refine ⟨z, q1, hz, fun e => ?_, q2⟩
    subst e
    obtain ⟨k, A, B, t1, t2, nd⟩ := tm_at h hz
    rcases q2 with q | q
    · rw [q] at t1
      exact (List.nodup_append.mp nd).2.2 z (tr_root t1) z (by simp) rfl
    · rw [q] at t2
      exact (List.nodup_cons.mp (List.nodup_append.mp nd).2.1).1 (tr_root t2)
theorem tm_two (h : tmOk K L root lf rt pa) {x y : Nat} (hx : x ∈ L) (h1 : lf x = some y) : rt x ≠ some y := by
  intro h2
  obtain ⟨k, A, B, t1, t2, nd⟩ := tm_at h hx
  rw [h1] at t1
  rw [h2] at t2
  exact (List.nodup_append.mp nd).2.2 y (tr_root t1) y (by simp [tr_root t2]) rfl
/-- a node is not its grandparent -/
theorem tm_gp (h : tmOk K L root lf rt pa) {x q g : Nat} (hx : x ∈ L) (h1 : pa x = some q) (h2 : pa q = some g) : g ≠ x ∧ g ≠ q ∧ g ∈ L := by
  obtain ⟨hq, c1⟩ := tm_pa h hx h1
  obtain ⟨hg, c2⟩ := tm_pa h hq h2
  obtain ⟨k, A, B, t1, t2, nd⟩ := tm_at h hg
  have inA : ∀ w, w ∈ A → w ≠ g := fun w hw e => (List.nodup_append.mp nd).2.2 w hw g (by simp) e
  have inB : ∀ w, w ∈ B → w ≠ g := fun w hw e => (List.nodup_cons.mp (List.nodup_append.mp nd).2.1).1 (e ▸ hw)
  rcases c2 with c2 | c2
  · rw [c2] at t1
    have qA := tr_root t1
    exact ⟨(inA x (tr_link t1 qA c1)).symm, (inA q qA).symm, hg⟩
  · rw [c2] at t2
    have qB := tr_root t2
    exact ⟨(inB x (tr_link t2 qB c1)).symm, (inB q qB).symm, hg⟩
theorem anc_up {n x q : Nat} (h : anc pa n x) (hq : pa x = some q) : ∃ k, n = k + 1 ∧ anc pa k q := by
  cases n with
  | zero =>
    have h' : pa x = none := h
    rw [h'] at hq
    cases hq
  | succ k => exact ⟨k, rfl, h q hq⟩
end TM3
