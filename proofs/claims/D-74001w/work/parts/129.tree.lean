/-! TREES BY LINKS: tr n o M: from o the links lf, rt span a tree of depth at most n whose nodes in order are M -/
def tr (lf rt : Nat → Option Nat) : Nat → Option Nat → List Nat → Prop
  | 0, o, M => o = none ∧ M = []
  | n + 1, o, M => (o = none ∧ M = []) ∨ ∃ x A B, o = some x ∧ M = A ++ x :: B ∧ tr lf rt n (lf x) A ∧ tr lf rt n (rt x) B
section TR
variable {lf rt lf' rt' : Nat → Option Nat}
theorem tr_none {n : Nat} {M : List Nat} (h : tr lf rt n none M) : M = [] := by
  cases n with
  | zero => exact h.2
  | succ n =>
    rcases h with h | ⟨x, A, B, e, -⟩
    · exact h.2
    · cases e
theorem tr_e {n : Nat} : tr lf rt n none [] := by
  cases n with
  | zero => exact ⟨rfl, rfl⟩
  | succ n => exact Or.inl ⟨rfl, rfl⟩
theorem tr_some {n x : Nat} {M : List Nat} (h : tr lf rt n (some x) M) : ∃ k A B, n = k + 1 ∧ M = A ++ x :: B ∧ tr lf rt k (lf x) A ∧ tr lf rt k (rt x) B := by
  cases n with
  | zero => cases h.1
  | succ n =>
    rcases h with h | ⟨y, A, B, e, h1, h2, h3⟩
    · cases h.1
    · cases e
      exact ⟨n, A, B, rfl, h1, h2, h3⟩
theorem tr_mk {n x : Nat} {A B : List Nat} (h1 : tr lf rt n (lf x) A) (h2 : tr lf rt n (rt x) B) : tr lf rt (n + 1) (some x) (A ++ x :: B) := Or.inr ⟨x, A, B, rfl, rfl, h1, h2⟩
theorem tr_mono {n m : Nat} {o : Option Nat} {M : List Nat} (h : tr lf rt n o M) (hm : n ≤ m) : tr lf rt m o M := by
  induction n generalizing m o M with
  | zero =>
    obtain ⟨rfl, rfl⟩ := h
    exact tr_e
  | succ n ih =>
    obtain ⟨k, rfl⟩ : ∃ k, m = k + 1 := ⟨m - 1, by omega⟩
    rcases h with h | ⟨x, A, B, e, h1, h2, h3⟩
    · exact Or.inl h
    · exact Or.inr ⟨x, A, B, e, h1, ih h2 (by omega), ih h3 (by omega)⟩
theorem tr_congr {n : Nat} {o : Option Nat} {M : List Nat} (h : tr lf rt n o M) (hl : ∀ x ∈ M, lf' x = lf x) (hr : ∀ x ∈ M, rt' x = rt x) : tr lf' rt' n o M := by
  induction n generalizing o M with
  | zero => exact h
  | succ n ih =>
    rcases h with h | ⟨x, A, B, e, rfl, h2, h3⟩
    · exact Or.inl h
    · refine Or.inr ⟨x, A, B, e, rfl, ?_, ?_⟩
      · rw [hl x (by simp)]
        exact ih h2 (fun y hy => hl y (by simp [hy])) (fun y hy => hr y (by simp [hy]))
      · rw [hr x (by simp)]
        exact ih h3 (fun y hy => hl y (by simp [hy])) (fun y hy => hr y (by simp [hy]))
theorem tr_root {n r : Nat} {M : List Nat} (h : tr lf rt n (some r) M) : r ∈ M := by
  obtain ⟨k, A, B, -, rfl, -, -⟩ := tr_some h
  simp
/-- a link from a node stays in the tree -/
theorem tr_link {n : Nat} {o : Option Nat} {M : List Nat} (h : tr lf rt n o M) {x y : Nat} (hx : x ∈ M) (hy : lf x = some y ∨ rt x = some y) : y ∈ M := by
  induction n generalizing o M with
  | zero => rw [h.2] at hx; cases hx
  | succ n ih =>
    rcases h with h | ⟨z, A, B, e, rfl, h2, h3⟩
    · rw [h.2] at hx; cases hx
    · simp only [List.mem_append, List.mem_cons] at hx ⊢
      rcases hx with hx | rfl | hx
      · exact Or.inl (ih h2 hx)
      · rcases hy with hy | hy
        · rw [hy] at h2
          exact Or.inl (tr_root h2)
        · rw [hy] at h3
          exact Or.inr (Or.inr (tr_root h3))
      · exact Or.inr (Or.inr (ih h3 hx))
/-- every node but the root is linked to -/
theorem tr_up {n : Nat} {o : Option Nat} {M : List Nat} (h : tr lf rt n o M) {y : Nat} (hy : y ∈ M) : o = some y ∨ ∃ x ∈ M, lf x = some y ∨ rt x = some y := by
  induction n generalizing o M with
  | zero => rw [h.2] at hy; cases hy
  | succ n ih =>
    rcases h with h | ⟨z, A, B, e, rfl, h2, h3⟩
    · rw [h.2] at hy; cases hy
    · simp only [List.mem_append, List.mem_cons] at hy
      rcases hy with hy | rfl | hy
      · rcases ih h2 hy with q | ⟨x, hx, q⟩
        · exact Or.inr ⟨z, by simp, Or.inl q⟩
        · exact Or.inr ⟨x, by simp [hx], q⟩
      · exact Or.inl e
      · rcases ih h3 hy with q | ⟨x, hx, q⟩
        · exact Or.inr ⟨z, by simp, Or.inr q⟩
        · exact Or.inr ⟨x, by simp [hx], q⟩
/-- the part below a node -/
theorem tr_sub {n : Nat} {o : Option Nat} {M : List Nat} (h : tr lf rt n o M) {x : Nat} (hx : x ∈ M) : ∃ L1 N L2, M = L1 ++ N ++ L2 ∧ tr lf rt n (some x) N := by
  induction n generalizing o M with
  | zero => rw [h.2] at hx; cases hx
  | succ n ih =>
    have h0 := h
    rcases h with h | ⟨z, A, B, e, rfl, h2, h3⟩
    · rw [h.2] at hx; cases hx
    · simp only [List.mem_append, List.mem_cons] at hx
      rcases hx with hx | rfl | hx
      · obtain ⟨L1, N, L2, rfl, h4⟩ := ih h2 hx
        exact ⟨L1, N, L2 ++ z :: B, by simp, tr_mono h4 (by omega)⟩
      · exact ⟨[], A ++ x :: B, [], by simp, by rw [← e]; exact h0⟩
      · obtain ⟨L1, N, L2, rfl, h4⟩ := ih h3 hx
        exact ⟨A ++ z :: L1, N, L2, by simp, tr_mono h4 (by omega)⟩
theorem tr_uniq {n m : Nat} {o : Option Nat} {M N : List Nat} (h : tr lf rt n o M) (h' : tr lf rt m o N) : M = N := by
  induction n generalizing m o M N with
  | zero =>
    obtain ⟨rfl, rfl⟩ := h
    exact (tr_none h').symm
  | succ n ih =>
    rcases h with ⟨rfl, rfl⟩ | ⟨x, A, B, rfl, rfl, h2, h3⟩
    · exact (tr_none h').symm
    · obtain ⟨k, A', B', rfl, rfl, h4, h5⟩ := tr_some h'
      rw [ih h2 h4, ih h3 h5]
theorem nd_split {x : Nat} {A B C D : List Nat} (hn : (A ++ x :: B).Nodup) (e : A ++ x :: B = C ++ x :: D) : A = C ∧ B = D := by
  induction A generalizing C with
  | nil =>
    cases C with
    | nil => simp at e; exact ⟨rfl, e⟩
    | cons c C =>
      simp only [List.nil_append, List.cons_append, List.cons.injEq] at e
      obtain ⟨rfl, e⟩ := e
      simp only [List.nil_append, List.nodup_cons] at hn
      exact absurd (by rw [e]; simp) hn.1
  | cons a A ih =>
    cases C with
    | nil =>
      simp only [List.nil_append, List.cons_append, List.cons.injEq] at e
      obtain ⟨rfl, e⟩ := e
      simp only [List.cons_append, List.nodup_cons] at hn
      exact absurd (by simp) hn.1
    | cons c C =>
      simp only [List.cons_append, List.cons.injEq] at e
      simp only [List.cons_append, List.nodup_cons] at hn
      obtain ⟨h1, h2⟩ := ih hn.2 e.2
      exact ⟨by rw [e.1, h1], h2⟩
/-- a turn to the left at p, whose right one is r: links to p become links to r, p gets what was left of r, r gets p -/
theorem tr_rotL {p r : Nat} (hpr : rt p = some r) (h1 : rt' p = lf r) (h2 : lf' p = lf p) (h3 : lf' r = some p) (h4 : rt' r = rt r) {n : Nat} {o : Option Nat} {M : List Nat} (h : tr lf rt n o M) (hn : M.Nodup) (hp : p ∈ M) (hl : ∀ x ∈ M, x ≠ p → x ≠ r → lf' x = if lf x = some p then some r else lf x) (hr : ∀ x ∈ M, x ≠ p → x ≠ r → rt' x = if rt x = some p then some r else rt x) : tr lf' rt' (n + 1) (if o = some p then some r else o) M := by
  induction n generalizing o M with
  | zero => rw [h.2] at hp; cases hp
  | succ n ih =>
    rcases h with h | ⟨x, A, B, rfl, rfl, h5, h6⟩
    · rw [h.2] at hp; cases hp
    · -- a part without p and r stays
      have stay : ∀ {k : Nat} {o9 : Option Nat} {N : List Nat}, tr lf rt k o9 N → p ∉ N → r ∉ N → (∀ y ∈ N, y ∈ A ++ x :: B) → tr lf' rt' k o9 N := by
        intro k o9 N t1 t2 t3 t4
        refine tr_congr t1 (fun y hy => ?_) (fun y hy => ?_)
        · rw [hl y (t4 y hy) (fun q => t2 (q ▸ hy)) (fun q => t3 (q ▸ hy)), if_neg]
          intro q
          exact t2 (tr_link t1 hy (Or.inl q))
        · rw [hr y (t4 y hy) (fun q => t2 (q ▸ hy)) (fun q => t3 (q ▸ hy)), if_neg]
          intro q
          exact t2 (tr_link t1 hy (Or.inr q))
      rw [List.nodup_append] at hn
      obtain ⟨n1, n2, n3⟩ := hn
      rw [List.nodup_cons] at n2
      by_cases q : x = p
      · subst q
        rw [if_pos rfl]
        rw [hpr] at h6
        obtain ⟨k, B1, B2, rfl, rfl, h7, h8⟩ := tr_some h6
        have nd2 := n2.2
        rw [List.nodup_append] at nd2
        obtain ⟨m1, m2, m3⟩ := nd2
        rw [List.nodup_cons] at m2
        have pA : x ∉ A := fun z => n3 x z x (by simp) rfl
        have rA : r ∉ A := fun z => n3 r z r (by simp) rfl
        have pB1 : x ∉ B1 := fun z => n2.1 (by simp [z])
        have pB2 : x ∉ B2 := fun z => n2.1 (by simp [z])
        have rB1 : r ∉ B1 := fun z => m3 r z r (by simp) rfl
        have e : A ++ x :: (B1 ++ r :: B2) = (A ++ x :: B1) ++ r :: B2 := by simp
        rw [e]
        refine tr_mk ?_ ?_
        · rw [h3]
          refine tr_mk ?_ ?_
          · rw [h2]
            exact stay h5 pA rA (fun y hy => by simp [hy])
          · rw [h1]
            exact stay (tr_mono h7 (by omega)) pB1 rB1 (fun y hy => by simp [hy])
        · rw [h4]
          exact tr_mono (stay h8 pB2 m2.1 (fun y hy => by simp [hy])) (by omega)
      · have ho : ¬ (some x = some p) := fun z => q (Option.some.inj z)
        rw [if_neg ho]
        simp only [List.mem_append, List.mem_cons] at hp
        have rin : ∀ {k : Nat} {o9 : Option Nat} {N : List Nat}, tr lf rt k o9 N → p ∈ N → r ∈ N := fun t1 t2 => tr_link t1 t2 (Or.inr hpr)
        rcases hp with hp | hp | hp
        · have rA := rin h5 hp
          have xr : x ≠ r := fun z => n3 r rA x (by simp) z.symm
          refine tr_mk ?_ ?_
          · rw [hl x (by simp) q xr]
            exact ih h5 n1 hp (fun y hy => hl y (by simp [hy])) (fun y hy => hr y (by simp [hy]))
          · rw [hr x (by simp) q xr, if_neg]
            · exact tr_mono (stay h6 (fun z => n3 p hp p (by simp [z]) rfl) (fun z => n3 r rA r (by simp [z]) rfl) (fun y hy => by simp [hy])) (by omega)
            · intro z
              rw [z] at h6
              exact n3 p hp p (by simp [tr_root h6]) rfl
        · exact absurd hp.symm q
        · have rB := rin h6 hp
          have xr : x ≠ r := fun z => n2.1 (z ▸ rB)
          refine tr_mk ?_ ?_
          · rw [hl x (by simp) q xr, if_neg]
            · exact tr_mono (stay h5 (fun z => n3 p z p (by simp [hp]) rfl) (fun z => n3 r z r (by simp [rB]) rfl) (fun y hy => by simp [hy])) (by omega)
            · intro z
              rw [z] at h5
              exact n3 p (tr_root h5) p (by simp [hp]) rfl
          · rw [hr x (by simp) q xr]
            exact ih h6 n2.2 hp (fun y hy => hl y (by simp [hy])) (fun y hy => hr y (by simp [hy]))
end TR
/-- the other way round -/
theorem tr_rev {lf rt : Nat → Option Nat} {n : Nat} {o : Option Nat} {M : List Nat} (h : tr lf rt n o M) : tr rt lf n o M.reverse := by
  induction n generalizing o M with
  | zero => exact ⟨h.1, by rw [h.2]; rfl⟩
  | succ n ih =>
    rcases h with h | ⟨x, A, B, e, rfl, h2, h3⟩
    · exact Or.inl ⟨h.1, by rw [h.2]; rfl⟩
    · refine Or.inr ⟨x, B.reverse, A.reverse, e, by simp, ih h3, ih h2⟩
theorem tr_rotR {lf rt lf' rt' : Nat → Option Nat} {p r : Nat} (hpr : lf p = some r) (h1 : lf' p = rt r) (h2 : rt' p = rt p) (h3 : rt' r = some p) (h4 : lf' r = lf r) {n : Nat} {o : Option Nat} {M : List Nat} (h : tr lf rt n o M) (hn : M.Nodup) (hp : p ∈ M) (hl : ∀ x ∈ M, x ≠ p → x ≠ r → lf' x = if lf x = some p then some r else lf x) (hr : ∀ x ∈ M, x ≠ p → x ≠ r → rt' x = if rt x = some p then some r else rt x) : tr lf' rt' (n + 1) (if o = some p then some r else o) M := by
  have := tr_rotL (lf := rt) (rt := lf) (lf' := rt') (rt' := lf') hpr h1 h2 h3 h4 (tr_rev h) ((List.reverse_perm M).nodup_iff.mpr hn) (by simpa using hp) (fun x hx => hr x (by simpa using hx)) (fun x hx => hl x (by simpa using hx))
  have := tr_rev this
  rwa [List.reverse_reverse] at this
/-- a new leaf to the left of p -/
theorem tr_insL {lf rt lf' rt' : Nat → Option Nat} {p e : Nat} (hp : lf p = none) (h1 : lf' p = some e) (h2 : rt' p = rt p) (h3 : lf' e = none) (h4 : rt' e = none) {n : Nat} {o : Option Nat} {M1 M2 : List Nat} (h : tr lf rt n o (M1 ++ p :: M2)) (hn : (M1 ++ p :: M2).Nodup) (hl : ∀ x ∈ M1 ++ p :: M2, x ≠ p → lf' x = lf x) (hr : ∀ x ∈ M1 ++ p :: M2, x ≠ p → rt' x = rt x) : tr lf' rt' (n + 1) o (M1 ++ e :: p :: M2) := by
  induction n generalizing o M1 M2 with
  | zero => exact absurd h.2 (by simp)
  | succ n ih =>
    rcases h with h | ⟨x, A, B, rfl, q9, h5, h6⟩
    · exact absurd h.2 (by simp)
    · by_cases q : x = p
      · subst q
        obtain ⟨rfl, rfl⟩ := nd_split hn q9
        rw [hp] at h5
        obtain rfl := tr_none h5
        refine tr_mk (A := [e]) ?_ ?_
        · rw [h1]
          exact tr_mono (tr_mk (A := []) (B := []) (by rw [h3]; exact tr_e) (by rw [h4]; exact tr_e) : tr lf' rt' (0 + 1) (some e) [e]) (by omega)
        · rw [h2]
          refine tr_mono (tr_congr h6 (fun y hy => hl y (by simp [hy]) ?_) (fun y hy => hr y (by simp [hy]) ?_)) (by omega)
          · intro z; subst z; simp at hn; exact hn.1 hy
          · intro z; subst z; simp at hn; exact hn.1 hy
      · rcases List.append_eq_append_iff.mp q9 with ⟨C, e1, e2⟩ | ⟨C, e1, e2⟩
        · -- A = M1 ++ C, p :: M2 = C ++ x :: B
          cases C with
          | nil => simp at e2; exact absurd e2.1.symm q
          | cons c C =>
            simp only [List.cons_append, List.cons.injEq] at e2
            obtain ⟨rfl, rfl⟩ := e2
            subst e1
            have e3 : M1 ++ e :: p :: (C ++ x :: B) = (M1 ++ e :: p :: C) ++ x :: B := by simp
            rw [e3]
            have nB : p ∉ B := fun z => by
              have := (List.nodup_append.mp hn).2.1
              rw [List.nodup_cons] at this
              exact this.1 (by simp [z])
            refine tr_mk ?_ ?_
            · rw [hl x (by simp) q]
              exact ih h5 (by rw [q9] at hn; exact (List.nodup_append.mp hn).1) (fun y hy => hl y (by simp at hy ⊢; rcases hy with z | z | z <;> simp [z])) (fun y hy => hr y (by simp at hy ⊢; rcases hy with z | z | z <;> simp [z]))
            · rw [hr x (by simp) q]
              exact tr_mono (tr_congr h6 (fun y hy => hl y (by simp [hy]) (fun z => nB (z ▸ hy))) (fun y hy => hr y (by simp [hy]) (fun z => nB (z ▸ hy)))) (by omega)
        · -- M1 = A ++ C, x :: B = C ++ p :: M2
          cases C with
          | nil => simp at e2; exact absurd e2.1 q
          | cons c C =>
            simp only [List.cons_append, List.cons.injEq] at e2
            obtain ⟨rfl, rfl⟩ := e2
            subst e1
            have e3 : (A ++ x :: C) ++ e :: p :: M2 = A ++ x :: (C ++ e :: p :: M2) := by simp
            rw [e3]
            have nA : p ∉ A := fun z => (List.nodup_append.mp hn).2.2 p (by simp [z]) p (by simp) rfl
            refine tr_mk ?_ ?_
            · rw [hl x (by simp) q]
              exact tr_mono (tr_congr h5 (fun y hy => hl y (by simp [hy]) (fun z => nA (z ▸ hy))) (fun y hy => hr y (by simp [hy]) (fun z => nA (z ▸ hy)))) (by omega)
            · rw [hr x (by simp) q]
              refine ih h6 ?_ (fun y hy => hl y (by simp at hy ⊢; rcases hy with z | z | z <;> simp [z])) (fun y hy => hr y (by simp at hy ⊢; rcases hy with z | z | z <;> simp [z]))
              rw [q9] at hn
              exact (List.nodup_cons.mp (List.nodup_append.mp hn).2.1).2
/-- a new leaf to the right of p -/
theorem tr_insR {lf rt lf' rt' : Nat → Option Nat} {p e : Nat} (hp : rt p = none) (h1 : rt' p = some e) (h2 : lf' p = lf p) (h3 : lf' e = none) (h4 : rt' e = none) {n : Nat} {o : Option Nat} {M1 M2 : List Nat} (h : tr lf rt n o (M1 ++ p :: M2)) (hn : (M1 ++ p :: M2).Nodup) (hl : ∀ x ∈ M1 ++ p :: M2, x ≠ p → lf' x = lf x) (hr : ∀ x ∈ M1 ++ p :: M2, x ≠ p → rt' x = rt x) : tr lf' rt' (n + 1) o (M1 ++ p :: e :: M2) := by
  have h9 := tr_rev h
  have e1 : (M1 ++ p :: M2).reverse = M2.reverse ++ p :: M1.reverse := by simp
  rw [e1] at h9
  have hm : ∀ x, x ∈ M2.reverse ++ p :: M1.reverse ↔ x ∈ M1 ++ p :: M2 := fun x => by rw [← e1, List.mem_reverse]
  have h8 := tr_insL (lf := rt) (rt := lf) (lf' := rt') (rt' := lf') hp h1 h2 h4 h3 h9 (by rw [← e1]; exact (List.reverse_perm _).nodup_iff.mpr hn) (fun x hx => hr x ((hm x).mp hx)) (fun x hx => hl x ((hm x).mp hx))
  have h7 := tr_rev h8
  have e2 : (M2.reverse ++ e :: p :: M1.reverse).reverse = M1 ++ p :: e :: M2 := by simp
  rwa [e2] at h7
