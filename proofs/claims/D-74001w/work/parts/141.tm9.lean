/-! A TREE MAP: an entry comes in -/
theorem pm_ins {L1 L2 : List Nat} {q : Nat} : ((L1 ++ L2) ++ [q]).Perm (L1 ++ q :: L2) := by
  rw [List.append_assoc]
  exact List.Perm.append_left L1 (List.perm_append_comm (l₁ := L2) (l₂ := [q]))
theorem tm_addL {K : Nat → Int} {L : List Nat} {root : Option Nat} {lf rt pa : Nat → Option Nat} (h : tmOk K L root lf rt pa) {k : Int} {x q : Nat} {M : List Nat} (hb : sbt K k L lf rt (some x) M) (hk : k < K x) (hl : lf x = none) (he : q ∉ L) :
    ∃ L1 L2, L = L1 ++ L2 ∧ (∀ y ∈ L1, K y < k) ∧ (∀ y ∈ L2, k < K y) ∧ tmOk (va_up K q k) (L1 ++ q :: L2) root (va_up (va_up lf q none) x (some q)) (va_up rt q none) (va_up pa q (some x)) := by
  have hx := (sb_in hb rfl).1
  have ne : ∀ y ∈ L, y ≠ q := fun y hy z => he (z ▸ hy)
  have qx : q ≠ x := (ne x hx).symm
  exact tm_insL h hb hk hl he (fun y hy => va_upn (ne y hy)) va_upe va_upe (by rw [va_upn qx]; exact va_upe) (fun y hy z => by rw [va_upn z]; exact va_upn (ne y hy)) va_upe (fun y hy => va_upn (ne y hy)) va_upe (fun y hy => va_upn (ne y hy))
theorem tm_addR {K : Nat → Int} {L : List Nat} {root : Option Nat} {lf rt pa : Nat → Option Nat} (h : tmOk K L root lf rt pa) {k : Int} {x q : Nat} {M : List Nat} (hb : sbt K k L lf rt (some x) M) (hk : K x < k) (hl : rt x = none) (he : q ∉ L) :
    ∃ L1 L2, L = L1 ++ L2 ∧ (∀ y ∈ L1, K y < k) ∧ (∀ y ∈ L2, k < K y) ∧ tmOk (va_up K q k) (L1 ++ q :: L2) root (va_up lf q none) (va_up (va_up rt q none) x (some q)) (va_up pa q (some x)) := by
  have hx := (sb_in hb rfl).1
  have ne : ∀ y ∈ L, y ≠ q := fun y hy z => he (z ▸ hy)
  have qx : q ≠ x := (ne x hx).symm
  exact tm_insR h hb hk hl he (fun y hy => va_upn (ne y hy)) va_upe va_upe va_upe (fun y hy z => by rw [va_upn z]; exact va_upn (ne y hy)) (by rw [va_upn qx]; exact va_upe) (fun y hy => va_upn (ne y hy)) va_upe (fun y hy => va_upn (ne y hy))
theorem tm_one {K : Nat → Int} {k : Int} {q : Nat} {lf rt pa : Nat → Option Nat} : tmOk (va_up K q k) [q] (some q) (va_up lf q none) (va_up rt q none) (va_up pa q none) := by
  refine ⟨⟨1, Or.inr ⟨q, [], [], rfl, rfl, by rw [va_upe]; exact tr_e, by rw [va_upe]; exact tr_e⟩⟩, by simp, by simp, fun r hr => by cases hr; exact va_upe, fun x hx y hy => ?_⟩
  simp at hx
  subst hx
  rw [va_upe, va_upe] at hy
  rcases hy with z | z <;> cases z
