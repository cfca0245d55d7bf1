/-! A TREE MAP's PICTURE: turns, ancestors, the next one -/
section TM2
variable {K : Nat → Int} {L : List Nat} {root root' : Option Nat} {lf rt pa lf' rt' pa' : Nat → Option Nat}
theorem tm_at (h : tmOk K L root lf rt pa) {x : Nat} (hx : x ∈ L) : ∃ k A B, tr lf rt k (lf x) A ∧ tr lf rt k (rt x) B ∧ (A ++ x :: B).Nodup := by
  obtain ⟨⟨n, h1⟩, h2, -⟩ := h
  obtain ⟨L1, N, L2, rfl, h3⟩ := tr_sub h1 hx
  obtain ⟨k, A, B, rfl, rfl, h4, h5⟩ := tr_some h3
  exact ⟨k, A, B, h4, h5, (List.nodup_append.mp (List.nodup_append.mp h2).1).2.1⟩
theorem tm_rotL (h : tmOk K L root lf rt pa) {p r : Nat} (hp : p ∈ L) (hpr : rt p = some r) (a1 : lf' r = some p) (a2 : rt' p = lf r) (a3 : lf' p = lf p) (a4 : rt' r = rt r) (b1 : ∀ x ∈ L, x ≠ p → x ≠ r → lf' x = if lf x = some p then some r else lf x) (b2 : ∀ x ∈ L, x ≠ p → x ≠ r → rt' x = if rt x = some p then some r else rt x) (c1 : root' = if root = some p then some r else root) (d1 : pa' p = some r) (d2 : pa' r = pa p) (d3 : ∀ c, lf r = some c → pa' c = some p) (d4 : ∀ x ∈ L, x ≠ p → x ≠ r → lf r ≠ some x → pa' x = pa x) : tmOk K L root' lf' rt' pa' := by
  have hr : r ∈ L := tm_link h hp (Or.inr hpr)
  obtain ⟨k, A, B, t1, t2, nd⟩ := tm_at h hp
  obtain ⟨k2, A2, B2, t3, t4, nd2⟩ := tm_at h hr
  have h0 := h
  obtain ⟨⟨n, h1⟩, h2, h3, h4, h5⟩ := h
  rw [hpr] at t2
  have rB := tr_root t2
  have pB : p ∉ B := (List.nodup_cons.mp (List.nodup_append.mp nd).2.1).1
  have pA : p ∉ A := fun z => (List.nodup_append.mp nd).2.2 p z p (by simp) rfl
  have rA : r ∉ A := fun z => (List.nodup_append.mp nd).2.2 r z r (by simp [rB]) rfl
  have rp : r ≠ p := fun z => pB (z ▸ rB)
  have par := h5 p hp r (Or.inr hpr)
  refine ⟨⟨n + 1, by rw [c1]; exact tr_rotL hpr a2 a3 a1 a4 h1 h2 hp b1 b2⟩, h2, h3, ?_, ?_⟩
  · intro t ht
    rw [c1] at ht
    by_cases q : root = some p
    · rw [if_pos q] at ht
      cases ht
      rw [d2]
      exact h4 p q
    · rw [if_neg q] at ht
      have tL := tm_root h0 ht
      have pt := h4 t ht
      have e1 : t ≠ p := fun z => q (z ▸ ht)
      have e2 : t ≠ r := fun z => by rw [z, par] at pt; cases pt
      have e3 : lf r ≠ some t := fun z => by rw [h5 r hr t (Or.inl z)] at pt; cases pt
      rw [d4 t tL e1 e2 e3]
      exact pt
  · intro x hx y hy
    by_cases qp : x = p
    · subst qp
      rw [a3, a2] at hy
      rcases hy with hy | hy
      · have yA : y ∈ A := by rw [hy] at t1; exact tr_root t1
        have py := h5 x hx y (Or.inl hy)
        have e1 : y ≠ x := fun z => pA (z ▸ yA)
        have e2 : y ≠ r := fun z => rA (z ▸ yA)
        have e3 : lf r ≠ some y := fun z => by
          rw [h5 r hr y (Or.inl z)] at py
          exact rp (Option.some.inj py)
        rw [d4 y (tm_link h0 hx (Or.inl hy)) e1 e2 e3]
        exact py
      · exact d3 y hy
    · by_cases qr : x = r
      · subst qr
        rw [a1, a4] at hy
        rcases hy with hy | hy
        · cases hy
          exact d1
        · have py := h5 x hx y (Or.inr hy)
          have yB : y ∈ B := tr_link t2 rB (Or.inr hy)
          have yB2 : y ∈ B2 := by rw [hy] at t4; exact tr_root t4
          have e1 : y ≠ p := fun z => pB (z ▸ yB)
          have e2 : y ≠ x := fun z => (List.nodup_cons.mp (List.nodup_append.mp nd2).2.1).1 (z ▸ yB2)
          have e3 : lf x ≠ some y := fun z => by
            rw [z] at t3
            exact (List.nodup_append.mp nd2).2.2 y (tr_root t3) y (by simp [yB2]) rfl
          rw [d4 y (tm_link h0 hx (Or.inr hy)) e1 e2 e3]
          exact py
      · rw [b1 x hx qp qr, b2 x hx qp qr] at hy
        have gen : ∀ o : Option Nat, (o = lf x ∨ o = rt x) → (if o = some p then some r else o) = some y → pa' y = some x := by
          intro o ho z
          have link : ∀ w, o = some w → pa w = some x := fun w hw => h5 x hx w (by rcases ho with q | q <;> rw [← q] <;> simp [hw])
          by_cases q : o = some p
          · rw [if_pos q] at z
            cases z
            rw [d2]
            exact link p q
          · rw [if_neg q] at z
            have py := link y z
            have e1 : y ≠ p := fun w => q (w ▸ z)
            have e2 : y ≠ r := fun w => by rw [w, par] at py; exact qp (Option.some.inj py).symm
            have e3 : lf r ≠ some y := fun w => by rw [h5 r hr y (Or.inl w)] at py; exact qr (Option.some.inj py).symm
            rw [d4 y (tm_link h0 hx (by rcases ho with q2 | q2 <;> rw [← q2] <;> simp [z])) e1 e2 e3]
            exact py
        rcases hy with hy | hy
        · exact gen _ (Or.inl rfl) hy
        · exact gen _ (Or.inr rfl) hy
theorem tm_rotR (h : tmOk K L root lf rt pa) {p r : Nat} (hp : p ∈ L) (hpr : lf p = some r) (a1 : rt' r = some p) (a2 : lf' p = rt r) (a3 : rt' p = rt p) (a4 : lf' r = lf r) (b1 : ∀ x ∈ L, x ≠ p → x ≠ r → rt' x = if rt x = some p then some r else rt x) (b2 : ∀ x ∈ L, x ≠ p → x ≠ r → lf' x = if lf x = some p then some r else lf x) (c1 : root' = if root = some p then some r else root) (d1 : pa' p = some r) (d2 : pa' r = pa p) (d3 : ∀ c, rt r = some c → pa' c = some p) (d4 : ∀ x ∈ L, x ≠ p → x ≠ r → rt r ≠ some x → pa' x = pa x) : tmOk K L root' lf' rt' pa' := by
  have := tm_rev (tm_rotL (tm_rev h) (by simpa using hp) hpr a1 a2 a3 a4 (fun x hx => b1 x (by simpa using hx)) (fun x hx => b2 x (by simpa using hx)) c1 d1 d2 d3 (fun x hx => d4 x (by simpa using hx)))
  simpa using this
/-- at most n ancestors -/
def anc (pa : Nat → Option Nat) : Nat → Nat → Prop
  | 0, x => pa x = none
  | n + 1, x => ∀ q, pa x = some q → anc pa n q
theorem anc_mono {n m x : Nat} (h : anc pa n x) (hm : n ≤ m) : anc pa m x := by
  induction n generalizing m x with
  | zero =>
    cases m with
    | zero => exact h
    | succ m =>
      intro q hq
      have h' : pa x = none := h
      rw [h'] at hq
      cases hq
  | succ n ih =>
    obtain ⟨k, rfl⟩ : ∃ k, m = k + 1 := ⟨m - 1, by omega⟩
    intro q hq
    exact ih (h q hq) (by omega)
theorem tr_anc {n a : Nat} {o : Option Nat} {M : List Nat} (h : tr lf rt n o M) (hl : ∀ x ∈ M, ∀ y, (lf x = some y ∨ rt x = some y) → pa y = some x) (ho : ∀ y, o = some y → anc pa a y) : ∀ x ∈ M, anc pa (a + n) x := by
  induction n generalizing a o M with
  | zero => intro x hx; rw [h.2] at hx; cases hx
  | succ n ih =>
    rcases h with h | ⟨z, A, B, e, rfl, h2, h3⟩
    · intro x hx; rw [h.2] at hx; cases hx
    · have hz := ho z e
      have child : ∀ y, (lf z = some y ∨ rt z = some y) → anc pa (a + 1) y := by
        intro y hy q hq
        rw [hl z (by simp) y hy] at hq
        cases hq
        exact hz
      intro x hx
      simp only [List.mem_append, List.mem_cons] at hx
      rcases hx with hx | rfl | hx
      · exact anc_mono (ih h2 (fun w hw => hl w (by simp [hw])) (fun y hy => child y (Or.inl hy)) x hx) (by omega)
      · exact anc_mono hz (by omega)
      · exact anc_mono (ih h3 (fun w hw => hl w (by simp [hw])) (fun y hy => child y (Or.inr hy)) x hx) (by omega)
theorem tm_anc (h : tmOk K L root lf rt pa) {x : Nat} (hx : x ∈ L) : ∃ n, anc pa n x := by
  obtain ⟨⟨n, h1⟩, -, -, h4, h5⟩ := h
  exact ⟨0 + n, tr_anc (a := 0) h1 h5 (fun y hy => h4 y hy) x hx⟩
/-- climbing: the part below ch ends where L2 begins -/
def clb (L : List Nat) (lf rt : Nat → Option Nat) (ch : Nat) (L2 : List Nat) : Prop := ∃ n L1 N, L = L1 ++ N ++ L2 ∧ tr lf rt n (some ch) N
theorem cl_right (h : tmOk K L root lf rt pa) {ch q : Nat} {L2 : List Nat} (hc : clb L lf rt ch L2) (hq : q ∈ L) (hr : rt q = some ch) : clb L lf rt q L2 := by
  obtain ⟨⟨n, h1⟩, h2, -⟩ := h
  obtain ⟨n1, L1, N, e1, t1⟩ := hc
  obtain ⟨M1, N2, M2, e2, t2⟩ := tr_sub h1 hq
  obtain ⟨j, A, B, rfl, rfl, t3, t4⟩ := tr_some t2
  rw [hr] at t4
  obtain rfl := tr_uniq t4 t1
  have hch := tr_root t1
  obtain ⟨B1, B2, rfl⟩ := List.append_of_mem hch
  have e3 : L1 ++ B1 = M1 ++ A ++ q :: B1 ∧ B2 ++ L2 = B2 ++ M2 := by
    have ee : (L1 ++ B1) ++ ch :: (B2 ++ L2) = (M1 ++ A ++ q :: B1) ++ ch :: (B2 ++ M2) := by
      have := e1.symm.trans e2
      simpa using this
    exact nd_split (by have := e1 ▸ h2; simpa using this) ee
  have e4 : L2 = M2 := List.append_cancel_left e3.2
  subst e4
  exact ⟨_, M1, A ++ q :: (B1 ++ ch :: B2), e2, t2⟩
theorem cl_left (h : tmOk K L root lf rt pa) {ch q : Nat} {L2 : List Nat} (hc : clb L lf rt ch L2) (hq : q ∈ L) (hl : lf q = some ch) : L2.head? = some q := by
  obtain ⟨⟨n, h1⟩, h2, -⟩ := h
  obtain ⟨n1, L1, N, e1, t1⟩ := hc
  obtain ⟨M1, N2, M2, e2, t2⟩ := tr_sub h1 hq
  obtain ⟨j, A, B, rfl, rfl, t3, t4⟩ := tr_some t2
  rw [hl] at t3
  obtain rfl := tr_uniq t3 t1
  have hch := tr_root t1
  obtain ⟨B1, B2, rfl⟩ := List.append_of_mem hch
  have ee : (L1 ++ B1) ++ ch :: (B2 ++ L2) = (M1 ++ B1) ++ ch :: (B2 ++ (q :: B ++ M2)) := by
    have := e1.symm.trans e2
    simpa using this
  have e3 := (nd_split (by have := e1 ▸ h2; simpa using this) ee).2
  have e4 : L2 = q :: B ++ M2 := List.append_cancel_left e3
  rw [e4]
  rfl
theorem cl_top (h : tmOk K L root lf rt pa) {ch : Nat} {L2 : List Nat} (hc : clb L lf rt ch L2) (hr : root = some ch) : L2 = [] := by
  obtain ⟨⟨n, h1⟩, -⟩ := h
  obtain ⟨n1, L1, N, e1, t1⟩ := hc
  rw [hr] at h1
  obtain rfl := tr_uniq h1 t1
  have := congrArg List.length e1
  simp at this
  exact List.length_eq_zero_iff.mp (by omega)
/-- where a key that lies at or below k turns to what is above it -/
def hsb (K : Nat → Int) (k : Int) (L : List Nat) (lf rt : Nat → Option Nat) (o : Option Nat) (M L2 : List Nat) : Prop := ∃ n L1, L = L1 ++ M ++ L2 ∧ tr lf rt n o M ∧ (∀ y ∈ L1, K y ≤ k) ∧ ∀ y ∈ L2, k < K y
theorem hs_start (h : tmOk K L root lf rt pa) (k : Int) : hsb K k L lf rt root L [] := by
  obtain ⟨⟨n, h1⟩, -⟩ := h
  exact ⟨n, [], by simp, h1, (fun y hy => by cases hy), (fun y hy => by cases hy)⟩
theorem hs_in {k : Int} {o : Option Nat} {M L2 : List Nat} (h : hsb K k L lf rt o M L2) {x : Nat} (ho : o = some x) : x ∈ L := by
  obtain ⟨n, L1, rfl, h1, -⟩ := h
  rw [ho] at h1
  simp [tr_root h1]
theorem hs_left (hs : L.Pairwise (fun x y => K x < K y)) {k : Int} {x : Nat} {M L2 : List Nat} (h : hsb K k L lf rt (some x) M L2) (hk : k < K x) : ∃ A B, hsb K k L lf rt (lf x) A (x :: B) ∧ A.length < M.length := by
  obtain ⟨n, L1, e, h1, h2, h3⟩ := h
  obtain ⟨j, A, B, rfl, rfl, h4, h5⟩ := tr_some h1
  refine ⟨A, B ++ L2, ⟨j, L1, by rw [e]; simp, h4, h2, ?_⟩, by simp <;> omega⟩
  intro y hy
  simp only [List.mem_cons, List.mem_append] at hy
  rcases hy with rfl | hy | hy
  · exact hk
  · rw [e] at hs
    have := (List.pairwise_append.mp (List.pairwise_append.mp hs).1).2.1
    have := (List.pairwise_cons.mp (List.pairwise_append.mp this).2.1).1 y hy
    omega
  · exact h3 y hy
theorem hs_right (hs : L.Pairwise (fun x y => K x < K y)) {k : Int} {x : Nat} {M L2 : List Nat} (h : hsb K k L lf rt (some x) M L2) (hk : K x ≤ k) : (∃ B, hsb K k L lf rt (rt x) B L2 ∧ B.length < M.length) ∧ (rt x = none → clb L lf rt x L2) := by
  obtain ⟨n, L1, e, h1, h2, h3⟩ := h
  have h0 := h1
  obtain ⟨j, A, B, rfl, rfl, h4, h5⟩ := tr_some h1
  refine ⟨⟨B, ⟨j, L1 ++ A ++ [x], by rw [e]; simp, h5, ?_, h3⟩, by simp <;> omega⟩, fun hx => ⟨_, L1, A ++ x :: B, e, h0⟩⟩
  intro y hy
  simp only [List.mem_append, List.mem_singleton] at hy
  rcases hy with (hy | hy) | rfl
  · exact h2 y hy
  · rw [e] at hs
    have := (List.pairwise_append.mp (List.pairwise_append.mp hs).1).2.1
    have := (List.pairwise_append.mp this).2.2 y hy x (by simp)
    omega
  · exact hk
/-- the first above k -/
def nxk (K : Nat → Int) (k : Int) (L : List Nat) : Option Nat := L.find? (fun x => decide (k < K x))
theorem nxk_split {k : Int} {L1 L2 : List Nat} (h1 : ∀ y ∈ L1, K y ≤ k) (h2 : ∀ y ∈ L2, k < K y) : nxk K k (L1 ++ L2) = L2.head? := by
  unfold nxk
  rw [List.find?_append]
  have e1 : L1.find? (fun x => decide (k < K x)) = none := by
    rw [List.find?_eq_none]
    intro x hx
    have := h1 x hx
    simp
    omega
  rw [e1]
  cases L2 with
  | nil => rfl
  | cons a l =>
    rw [List.find?_cons_of_pos (by simpa using h2 a (by simp))]
    rfl
theorem hs_ans {k : Int} {o : Option Nat} {M L2 : List Nat} (h : hsb K k L lf rt o M L2) (hm : ∀ y ∈ M, K y ≤ k) : nxk K k L = L2.head? := by
  obtain ⟨n, L1, rfl, -, h2, h3⟩ := h
  exact nxk_split (fun y hy => by rcases List.mem_append.mp hy with q | q; exact h2 y q; exact hm y q) h3
end TM2
