/-! A TREE MAP's PICTURE: its entries in the order of their keys are L -/
def tmOk (K : Nat → Int) (L : List Nat) (root : Option Nat) (lf rt pa : Nat → Option Nat) : Prop :=
  (∃ n, tr lf rt n root L) ∧ L.Nodup ∧ L.Pairwise (fun x y => K x < K y) ∧ (∀ r, root = some r → pa r = none) ∧ ∀ x ∈ L, ∀ y, (lf x = some y ∨ rt x = some y) → pa y = some x
section TM
variable {K : Nat → Int} {L : List Nat} {root : Option Nat} {lf rt pa : Nat → Option Nat}
theorem tm_empty : tmOk K [] none lf rt pa := ⟨⟨0, rfl, rfl⟩, List.nodup_nil, List.Pairwise.nil, (fun r h => by cases h), (fun x h => by cases h)⟩
theorem tm_root (h : tmOk K L root lf rt pa) {r : Nat} (hr : root = some r) : r ∈ L := by
  obtain ⟨⟨n, h1⟩, -⟩ := h
  rw [hr] at h1
  exact tr_root h1
theorem tm_nil (h : tmOk K L root lf rt pa) (hr : root = none) : L = [] := by
  obtain ⟨⟨n, h1⟩, -⟩ := h
  rw [hr] at h1
  exact tr_none h1
theorem tm_link (h : tmOk K L root lf rt pa) {x y : Nat} (hx : x ∈ L) (hy : lf x = some y ∨ rt x = some y) : y ∈ L := by
  obtain ⟨⟨n, h1⟩, -⟩ := h
  exact tr_link h1 hx hy
theorem tm_up (h : tmOk K L root lf rt pa) {y : Nat} (hy : y ∈ L) : (root = some y ∧ pa y = none) ∨ ∃ x ∈ L, pa y = some x ∧ (lf x = some y ∨ rt x = some y) := by
  obtain ⟨⟨n, h1⟩, -, -, h4, h5⟩ := h
  rcases tr_up h1 hy with q | ⟨x, hx, q⟩
  · exact Or.inl ⟨q, h4 y q⟩
  · exact Or.inr ⟨x, hx, h5 x hx y q, q⟩
theorem tm_pa (h : tmOk K L root lf rt pa) {y x : Nat} (hy : y ∈ L) (hp : pa y = some x) : x ∈ L ∧ (lf x = some y ∨ rt x = some y) := by
  rcases tm_up h hy with q | ⟨z, hz, q1, q2⟩
  · rw [q.2] at hp; cases hp
  · rw [q1] at hp
    cases hp
    exact ⟨hz, q2⟩
/-- the part of the tree where k would be -/
def sbt (K : Nat → Int) (k : Int) (L : List Nat) (lf rt : Nat → Option Nat) (o : Option Nat) (M : List Nat) : Prop := ∃ n L1 L2, L = L1 ++ M ++ L2 ∧ tr lf rt n o M ∧ (∀ y ∈ L1, K y < k) ∧ ∀ y ∈ L2, k < K y
theorem sb_start (h : tmOk K L root lf rt pa) (k : Int) : sbt K k L lf rt root L := by
  obtain ⟨⟨n, h1⟩, -⟩ := h
  exact ⟨n, [], [], by simp, h1, (fun y hy => by cases hy), (fun y hy => by cases hy)⟩
theorem sb_in {k : Int} {o : Option Nat} {M : List Nat} (h : sbt K k L lf rt o M) {x : Nat} (ho : o = some x) : x ∈ L ∧ x ∈ M := by
  obtain ⟨n, L1, L2, rfl, h1, -⟩ := h
  rw [ho] at h1
  have := tr_root h1
  exact ⟨by simp [this], this⟩
theorem sb_left (hs : L.Pairwise (fun x y => K x < K y)) {k : Int} {x : Nat} {M : List Nat} (h : sbt K k L lf rt (some x) M) (hk : k < K x) : ∃ A, sbt K k L lf rt (lf x) A ∧ A.length < M.length := by
  obtain ⟨n, L1, L2, e, h1, h2, h3⟩ := h
  obtain ⟨j, A, B, rfl, rfl, h4, h5⟩ := tr_some h1
  refine ⟨A, ⟨j, L1, x :: B ++ L2, by rw [e]; simp, h4, h2, ?_⟩, by simp <;> omega⟩
  intro y hy
  simp only [List.cons_append, List.mem_cons, List.mem_append] at hy
  rcases hy with rfl | hy | hy
  · exact hk
  · rw [e] at hs
    have := (List.pairwise_append.mp (List.pairwise_append.mp hs).1).2.1
    have := (List.pairwise_cons.mp (List.pairwise_append.mp this).2.1).1 y hy
    omega
  · exact h3 y hy
theorem sb_right (hs : L.Pairwise (fun x y => K x < K y)) {k : Int} {x : Nat} {M : List Nat} (h : sbt K k L lf rt (some x) M) (hk : K x < k) : ∃ B, sbt K k L lf rt (rt x) B ∧ B.length < M.length := by
  obtain ⟨n, L1, L2, e, h1, h2, h3⟩ := h
  obtain ⟨j, A, B, rfl, rfl, h4, h5⟩ := tr_some h1
  refine ⟨B, ⟨j, L1 ++ A ++ [x], L2, by rw [e]; simp, h5, ?_, h3⟩, by simp; omega⟩
  intro y hy
  simp only [List.mem_append, List.mem_singleton] at hy
  rcases hy with (hy | hy) | rfl
  · exact h2 y hy
  · rw [e] at hs
    have := (List.pairwise_append.mp (List.pairwise_append.mp hs).1).2.1
    have := (List.pairwise_append.mp this).2.2 y hy x (by simp)
    omega
  · exact hk
theorem sb_none {k : Int} {M : List Nat} (h : sbt K k L lf rt none M) : ∀ y ∈ L, K y ≠ k := by
  obtain ⟨n, L1, L2, rfl, h1, h2, h3⟩ := h
  rw [tr_none h1]
  intro y hy
  simp only [List.append_nil, List.mem_append] at hy
  rcases hy with hy | hy
  · have := h2 y hy; omega
  · have := h3 y hy; omega
/-- a new leaf e with key k to the left of x -/
theorem tm_insL (h : tmOk K L root lf rt pa) {k : Int} {x e : Nat} {M : List Nat} (hb : sbt K k L lf rt (some x) M) (hk : k < K x) (hl : lf x = none) (he : e ∉ L) {K' : Nat → Int} {lf' rt' pa' : Nat → Option Nat} (k1 : ∀ y ∈ L, K' y = K y) (k2 : K' e = k) (l1 : lf' x = some e) (l2 : lf' e = none) (l3 : ∀ y ∈ L, y ≠ x → lf' y = lf y) (r1 : rt' e = none) (r2 : ∀ y ∈ L, rt' y = rt y) (p1 : pa' e = some x) (p2 : ∀ y ∈ L, pa' y = pa y) :
    ∃ L1 L2, L = L1 ++ L2 ∧ (∀ y ∈ L1, K y < k) ∧ (∀ y ∈ L2, k < K y) ∧ tmOk K' (L1 ++ e :: L2) root lf' rt' pa' := by
  obtain ⟨⟨n, h1⟩, h2, h3, h4, h5⟩ := h
  have hx := (sb_in hb rfl).1
  obtain ⟨A9, ⟨n2, L1, L2, e2, t2, s1, s2⟩, -⟩ := sb_left h3 hb hk
  obtain ⟨n3, L3, L4, e3, t3, s3, s4⟩ := hb
  rw [hl] at t2
  obtain rfl := tr_none t2
  obtain ⟨j, A, B, rfl, rfl, t4, t5⟩ := tr_some t3
  rw [hl] at t4
  obtain rfl := tr_none t4
  have key : L1 = L3 ∧ L2 = x :: B ++ L4 := by
    have e4 : L1 ++ L2 = L3 ++ (x :: B ++ L4) := by
      have := e2.symm.trans e3
      simpa using this
    have m1 : ∀ y ∈ L3, K y < k := s3
    have m2 : ∀ y ∈ x :: B ++ L4, k < K y := by
      intro y hy
      by_cases q : y ∈ L4
      · exact s4 y q
      · simp only [List.cons_append, List.mem_cons, List.mem_append, q, or_false] at hy
        rcases hy with rfl | hy
        · exact hk
        · rw [e3] at h3
          have := (List.pairwise_append.mp (List.pairwise_append.mp h3).1).2.1
          have := (List.pairwise_cons.mp this).1 y hy
          omega
    rcases List.append_eq_append_iff.mp e4 with ⟨C, e5, e6⟩ | ⟨C, e5, e6⟩
    · cases C with
      | nil => simp at e5 e6; exact ⟨e5.symm, by simpa using e6⟩
      | cons c C =>
        exfalso
        have a1 := m1 c (by rw [e5]; simp)
        have a2 := s2 c (by rw [e6]; simp)
        omega
    · cases C with
      | nil => simp at e5 e6; exact ⟨e5, by simpa using e6.symm⟩
      | cons c C =>
        exfalso
        have a1 := s1 c (by rw [e5]; simp)
        have a2 := m2 c (by rw [e6]; simp)
        omega
  obtain ⟨rfl, rfl⟩ := key
  have eL : L = L1 ++ x :: (B ++ L4) := by rw [e2]; simp
  refine ⟨L1, x :: B ++ L4, by rw [e2]; simp, s1, s2, ⟨n + 1, ?_⟩, ?_, ?_, ?_, ?_⟩
  · rw [eL] at h1 h2
    exact tr_insL hl l1 (r2 x hx) l2 r1 h1 h2 (fun y hy q => l3 y (by rw [eL]; exact hy) q) (fun y hy q => r2 y (by rw [eL]; exact hy))
  · have : (e :: L).Nodup := List.nodup_cons.mpr ⟨he, h2⟩
    refine (List.Perm.nodup_iff ?_).mp this
    rw [eL]
    exact (List.perm_middle (l₁ := L1) (a := e)).symm
  · rw [eL] at h3
    rw [List.pairwise_append] at h3 ⊢
    have inL : ∀ y, y ∈ L1 ∨ y ∈ x :: (B ++ L4) → y ∈ L := fun y hy => by rw [eL, List.mem_append]; exact hy
    refine ⟨List.Pairwise.imp_of_mem (fun {a b} ha hb q => by rw [k1 a (inL a (Or.inl ha)), k1 b (inL b (Or.inl hb))]; exact q) h3.1, ?_, ?_⟩
    · rw [List.pairwise_cons]
      refine ⟨fun y hy => by rw [k2, k1 y (inL y (Or.inr hy))]; exact s2 y hy, List.Pairwise.imp_of_mem (fun {a b} ha hb q => by rw [k1 a (inL a (Or.inr ha)), k1 b (inL b (Or.inr hb))]; exact q) h3.2.1⟩
    · intro a ha b hb
      rw [k1 a (inL a (Or.inl ha))]
      rcases List.mem_cons.mp hb with rfl | hb
      · rw [k2]; exact s1 a ha
      · rw [k1 b (inL b (Or.inr hb))]; exact h3.2.2 a ha b hb
  · intro r hr
    have : r ∈ L := by
      rw [hr] at h1
      exact tr_root h1
    rw [p2 r this]
    exact h4 r hr
  · intro z hz y hy
    have hz' : z = e ∨ z ∈ L := by
      rw [eL]
      simp only [List.mem_append, List.mem_cons, List.cons_append] at hz ⊢
      rcases hz with q | q | q | q | q <;> simp [q]
    rcases hz' with rfl | hz'
    · rw [l2, r1] at hy
      rcases hy with q | q <;> cases q
    · rw [r2 z hz'] at hy
      by_cases q : z = x
      · subst q
        rw [l1] at hy
        rcases hy with q | q
        · cases q; exact p1
        · have := h5 z hz' y (Or.inr q)
          rw [p2 y (tr_link h1 hz' (Or.inr q))]
          exact this
      · rw [l3 z hz' q] at hy
        rw [p2 y (tr_link h1 hz' hy)]
        exact h5 z hz' y hy
theorem tm_revP {L : List Nat} (h : L.Pairwise (fun x y => K x < K y)) : L.reverse.Pairwise (fun x y => -K x < -K y) := by
  rw [List.pairwise_reverse]
  exact h.imp (fun q => by omega)
theorem tm_rev (h : tmOk K L root lf rt pa) : tmOk (fun x => -K x) L.reverse root rt lf pa := by
  obtain ⟨⟨n, h1⟩, h2, h3, h4, h5⟩ := h
  exact ⟨⟨n, tr_rev h1⟩, (List.reverse_perm _).nodup_iff.mpr h2, tm_revP h3, h4, fun x hx y hy => h5 x (by simpa using hx) y hy.symm⟩
theorem sb_rev {k : Int} {o : Option Nat} {M : List Nat} (h : sbt K k L lf rt o M) : sbt (fun x => -K x) (-k) L.reverse rt lf o M.reverse := by
  obtain ⟨n, L1, L2, rfl, h1, h2, h3⟩ := h
  exact ⟨n, L2.reverse, L1.reverse, by simp, tr_rev h1, fun y hy => by have := h3 y (by simpa using hy); show -K y < -k; omega, fun y hy => by have := h2 y (by simpa using hy); show -k < -K y; omega⟩
/-- a new leaf e with key k to the right of x -/
theorem tm_insR (h : tmOk K L root lf rt pa) {k : Int} {x e : Nat} {M : List Nat} (hb : sbt K k L lf rt (some x) M) (hk : K x < k) (hl : rt x = none) (he : e ∉ L) {K' : Nat → Int} {lf' rt' pa' : Nat → Option Nat} (k1 : ∀ y ∈ L, K' y = K y) (k2 : K' e = k) (l1 : rt' x = some e) (l2 : lf' e = none) (l3 : ∀ y ∈ L, y ≠ x → rt' y = rt y) (r1 : rt' e = none) (r2 : ∀ y ∈ L, lf' y = lf y) (p1 : pa' e = some x) (p2 : ∀ y ∈ L, pa' y = pa y) :
    ∃ L1 L2, L = L1 ++ L2 ∧ (∀ y ∈ L1, K y < k) ∧ (∀ y ∈ L2, k < K y) ∧ tmOk K' (L1 ++ e :: L2) root lf' rt' pa' := by
  obtain ⟨L1, L2, e1, s1, s2, h9⟩ := tm_insL (tm_rev h) (sb_rev hb) (show -k < -K x by omega) hl (by simpa using he) (K' := fun x => -K' x) (lf' := rt') (rt' := lf') (pa' := pa') (fun y hy => by rw [k1 y (by simpa using hy)]) (by rw [k2]) l1 r1 (fun y hy q => l3 y (by simpa using hy) q) l2 (fun y hy => r2 y (by simpa using hy)) p1 (fun y hy => p2 y (by simpa using hy))
  have e2 : L = L2.reverse ++ L1.reverse := by
    have := congrArg List.reverse e1
    simpa using this
  refine ⟨L2.reverse, L1.reverse, e2, fun y hy => by have := s2 y (by simpa using hy); have : -k < -K y := this; omega, fun y hy => by have := s1 y (by simpa using hy); have : -K y < -k := this; omega, ?_⟩
  have := tm_rev h9
  simpa using this
/-- along the left side one comes to the first -/
def lsp (L : List Nat) (lf rt : Nat → Option Nat) (o : Option Nat) (M : List Nat) : Prop := ∃ n L2, L = M ++ L2 ∧ tr lf rt n o M
theorem ls_start (h : tmOk K L root lf rt pa) : lsp L lf rt root L := by
  obtain ⟨⟨n, h1⟩, -⟩ := h
  exact ⟨n, [], by simp, h1⟩
theorem ls_in {o : Option Nat} {M : List Nat} (h : lsp L lf rt o M) {x : Nat} (ho : o = some x) : x ∈ L := by
  obtain ⟨n, L2, rfl, h1⟩ := h
  rw [ho] at h1
  simp [tr_root h1]
theorem ls_left {x : Nat} {M : List Nat} (h : lsp L lf rt (some x) M) {y : Nat} (hy : lf x = some y) : ∃ A, lsp L lf rt (some y) A ∧ A.length < M.length := by
  obtain ⟨n, L2, e, h1⟩ := h
  obtain ⟨j, A, B, rfl, rfl, h4, h5⟩ := tr_some h1
  rw [hy] at h4
  exact ⟨A, ⟨j, x :: B ++ L2, by rw [e]; simp, h4⟩, by simp <;> omega⟩
theorem ls_end {x : Nat} {M : List Nat} (h : lsp L lf rt (some x) M) (hy : lf x = none) : L.head? = some x := by
  obtain ⟨n, L2, e, h1⟩ := h
  obtain ⟨j, A, B, rfl, rfl, h4, h5⟩ := tr_some h1
  rw [hy] at h4
  rw [e, tr_none h4]
  rfl
end TM
