/-! WORLDS IN PIECES: a world is a row of pieces (single cells, pools); pieces may be taken in any order -/
theorem P_iff {D : va_G} {cl : List vw_C} {ws : va_W} {H : Heap} : va_P D cl ws H ↔ ∀ q ∈ ws, va_at D cl q H := by
  constructor
  · intro h q hq
    obtain ⟨k, hk⟩ := List.getElem?_of_mem hq
    exact h k q hk
  · intro h k q hk
    exact h q (List.mem_of_getElem? hk)
theorem D_iff {A : Nat → Prop} {ws : va_W} : va_D A ws ↔ ws.Pairwise (fun p q => p.1 ≠ q.1) ∧ ∀ q ∈ ws, A q.1 := by
  constructor
  · intro h
    refine ⟨?_, fun q hq => ?_⟩
    · rw [List.pairwise_iff_getElem]
      intro i j hi hj hij e
      have := h.1 i j _ _ (List.getElem?_eq_getElem hi) (List.getElem?_eq_getElem hj) e
      omega
    · obtain ⟨k, hk⟩ := List.getElem?_of_mem hq
      exact h.2 k q hk
  · intro h
    refine ⟨fun i j p q hp hq e => ?_, fun k q hk => h.2 q (List.mem_of_getElem? hk)⟩
    obtain ⟨hi, hp2⟩ := List.getElem?_eq_some_iff.mp hp
    obtain ⟨hj, hq2⟩ := List.getElem?_eq_some_iff.mp hq
    rcases Nat.lt_trichotomy i j with c | c | c
    · have := (List.pairwise_iff_getElem.mp h.1) i j hi hj c
      rw [hp2, hq2] at this
      exact absurd e this
    · exact c
    · have := (List.pairwise_iff_getElem.mp h.1) j i hj hi c
      rw [hp2, hq2] at this
      exact absurd e.symm this
theorem ch_key {α : Type} {cs cs' : List α} {is : List Nat} (hs : is.map (fun i => cs[i]?) = cs'.map some) (k : Nat) (x : α) (hk : cs'[k]? = some x) : ∃ i, is[k]? = some i ∧ cs[i]? = some x := by
  have h1 : (is.map (fun i => cs[i]?))[k]? = some (some x) := by rw [hs, List.getElem?_map, hk]; rfl
  rw [List.getElem?_map] at h1
  cases hi : is[k]? with
  | none => rw [hi] at h1; cases h1
  | some i =>
    rw [hi] at h1
    exact ⟨i, rfl, Option.some.inj h1⟩
theorem ch_P {D : va_G} {cl : List vw_C} {cs cs' : List va_W} {H : Heap} (h : va_P D cl cs.flatten H) (is : List Nat) (hs : is.map (fun i => cs[i]?) = cs'.map some) : va_P D cl cs'.flatten H := by
  rw [P_iff] at h ⊢
  intro q hq
  obtain ⟨x, hx, hqx⟩ := List.mem_flatten.mp hq
  obtain ⟨k, hk⟩ := List.getElem?_of_mem hx
  obtain ⟨i, -, hi⟩ := ch_key hs k x hk
  exact h q (List.mem_flatten.mpr ⟨x, List.mem_of_getElem? hi, hqx⟩)
theorem ch_D {A : Nat → Prop} {cs cs' : List va_W} (h : va_D A cs.flatten) (is : List Nat) (hn : va_nd is = true) (hs : is.map (fun i => cs[i]?) = cs'.map some) : va_D A cs'.flatten := by
  rw [D_iff] at h ⊢
  obtain ⟨h1, h2⟩ := h
  rw [List.pairwise_flatten] at h1 ⊢
  obtain ⟨h3, h4⟩ := h1
  refine ⟨⟨fun x hx => ?_, ?_⟩, fun q hq => ?_⟩
  · obtain ⟨k, hk⟩ := List.getElem?_of_mem hx
    obtain ⟨i, -, hi⟩ := ch_key hs k x hk
    exact h3 x (List.mem_of_getElem? hi)
  · rw [List.pairwise_iff_getElem]
    intro a b ha hb hab p hp q hq
    obtain ⟨i, hi1, hi2⟩ := ch_key hs a _ (List.getElem?_eq_getElem ha)
    obtain ⟨j, hj1, hj2⟩ := ch_key hs b _ (List.getElem?_eq_getElem hb)
    have hne : i ≠ j := fun e => by
      subst e
      have := va_nd_inj is hn a b i hi1 hj1
      omega
    obtain ⟨hi, hi3⟩ := List.getElem?_eq_some_iff.mp hi2
    obtain ⟨hj, hj3⟩ := List.getElem?_eq_some_iff.mp hj2
    rw [List.pairwise_iff_getElem] at h4
    rcases Nat.lt_or_ge i j with c | c
    · exact h4 i j hi hj c p (by rw [hi3]; exact hp) q (by rw [hj3]; exact hq)
    · exact fun e => h4 j i hj hi (by omega) q (by rw [hj3]; exact hq) p (by rw [hi3]; exact hp) e.symm
  · obtain ⟨x, hx, hqx⟩ := List.mem_flatten.mp hq
    obtain ⟨k, hk⟩ := List.getElem?_of_mem hx
    obtain ⟨i, -, hi⟩ := ch_key hs k x hk
    exact h2 q (List.mem_flatten.mpr ⟨x, List.mem_of_getElem? hi, hqx⟩)
/-- the places of the first part of two, of the second -/
def ixC (n : Nat) : List Nat := List.range n
def ixR (n k : Nat) : List Nat := (List.range k).map (fun i => n + i)
theorem ixC_ok (wc wr : va_W) : (ixC wc.length).map (fun i => (wc ++ wr)[i]?) = wc.map some := by
  apply List.ext_getElem?
  intro k
  unfold ixC
  rw [List.getElem?_map, List.getElem?_map]
  by_cases h : k < wc.length
  · simp [h, List.getElem?_append_left h]
  · simp [h]
theorem ixR_ok (wc wr : va_W) : (ixR wc.length wr.length).map (fun i => (wc ++ wr)[i]?) = wr.map some := by
  apply List.ext_getElem?
  intro k
  unfold ixR
  rw [List.getElem?_map, List.getElem?_map, List.getElem?_map]
  by_cases h : k < wr.length
  · simp [h, List.getElem?_append_right]
  · simp [h]
theorem nd_of {l : List Nat} (h : l.Nodup) : va_nd l = true := by
  induction l with
  | nil => rfl
  | cons a l ih =>
    rw [List.nodup_cons] at h
    simp only [va_nd, Bool.and_eq_true, decide_eq_true_eq]
    exact ⟨h.1, ih h.2⟩
theorem ixC_nd (n : Nat) : va_nd (ixC n) = true := nd_of List.nodup_range
theorem ixR_nd (n k : Nat) : va_nd (ixR n k) = true := by
  apply nd_of
  unfold ixR
  rw [List.Nodup, List.pairwise_map]
  exact List.Pairwise.imp (fun h e => h (by omega)) (show (List.range k).Pairwise (fun a b => a ≠ b) from List.nodup_range)
theorem ix_dis (n k : Nat) : ∀ i ∈ ixR n k, i ∉ ixC n := by
  intro i hi hc
  unfold ixR at hi
  unfold ixC at hc
  simp at hi hc
  obtain ⟨a, _, rfl⟩ := hi
  omega
