/-! INTEGERS: the cached ones and those in a pool, as frozen facts -/
def itE (iv : Nat → Int) (y : Nat) : va_E := .inr (17, [.int (zI (iv y))])
/-- all cached Integers, and those of a pool -/
def fzE (en : Nat → Nat → Nat) (LI : List Nat) (iv : Nat → Int) : zFt := ((List.range 256).map (fun i => (en 0 i, (i : Int) - 128)) ++ LI.map (fun y => (y, iv y)), [])
theorem fzE_old {en : Nat → Nat → Nat} {LI : List Nat} {iv : Nat → Int} {v : Int} (h : -128 ≤ v ∧ v ≤ 127) : (en 0 (v + 128).toNat, v) ∈ (fzE en LI iv).1 := by
  refine List.mem_append_left _ (List.mem_map.mpr ⟨(v + 128).toNat, List.mem_range.mpr (by omega), ?_⟩)
  rw [show (((v + 128).toNat : Nat) : Int) - 128 = v by omega]
theorem fzE_new {en : Nat → Nat → Nat} {LI : List Nat} {iv : Nat → Int} {y : Nat} (h : y ∈ LI) : (y, iv y) ∈ (fzE en LI iv).1 := List.mem_append_right _ (List.mem_map.mpr ⟨y, h, rfl⟩)
theorem zEA.cached {A : Nat → Prop} {en : Nat → Nat → Nat} {U : State} {H : Heap} (h : zEA A en U H) {i : Nat} (hi : i < 256) : va_O "java/lang/Integer" (en 0 i) A U H ∧ va_OF "java/lang/Integer" "value" "I" (.int (zI ((i : Int) - 128))) (en 0 i) A U H := by
  refine ⟨h.1.1 i hi, ?_⟩
  have e9 : ∀ j : Fin 256, vb_c j.val = zI ((j.val : Int) - 128) := by decide +kernel
  have h9 := h.1.2 i hi
  rw [← e9 ⟨i, hi⟩]
  exact h9
section ZIT
variable {p : Program} {s : State} {m : MethodId} {args : Array Value} {c : Code} {H : Heap} {locs : List Loc} {cc : ByteArray} {nL : Nat} {own : String} {D : va_G} {dA : Nat → ClassId} {A A1 : Nat → Prop} {ws X Y : va_W} {B : Nat} {en : Nat → Nat → Nat} {fz : zFt} {LI : List Nat} {iv : Nat → Int}
theorem zFI_it (C : zC p s m args c cc nL own D dA) (hP : va_P D vwCl ws H) (hE : zEA A1 en s H) (hI : ∀ q ∈ va_pl LI (itE iv), q ∈ ws) (hA : ∀ y ∈ LI, ¬ A1 y) : zFI (fzE en LI iv) A1 s H := by
  refine ⟨fun q hq => ?_, fun q hq => absurd hq List.not_mem_nil⟩
  rcases List.mem_append.mp hq with h | h
  · obtain ⟨i, hi, rfl⟩ := List.mem_map.mp h
    exact hE.cached (List.mem_range.mp hi)
  · obtain ⟨y, hy, rfl⟩ := List.mem_map.mp h
    have h9 : ((y, itE iv y) : Nat × va_E) ∈ ws := hI _ (List.mem_map.mpr ⟨y, hy, rfl⟩)
    have f9 := z_frz (A := A1) C hP (ci := 17) (fs := [.int (zI (iv y))]) h9 rfl in_J14 (hA y hy)
    exact ⟨f9.1, f9.2 0 _ (by decide) rfl⟩
/-- in a pure call -/
theorem zEw_it (C : zC p s m args c cc nL own D dA) (hV : zEv B en fz A s) (hS : va_S A s.heap H locs) (hP : va_P D vwCl ws H) (hI : ∀ q ∈ va_pl LI (itE iv), q ∈ ws) : zEw en (fzE en LI iv) s H := ⟨(hV.pure hS).1, zFI_it C hP (hV.pure hS).1 hI (fun _ _ z => z)⟩
/-- in a writing call: the pool is kept -/
theorem zFI_itq (C : zC p s m args c cc nL own D dA) (hV : zEv B en fz A s) (hA : ∀ q, s.heap.size ≤ q → A q) (hp : ws.Perm (X ++ Y)) (hP : va_P D vwCl ws H) (hD : va_D A ws) (hS : va_S A s.heap H locs) (hI : ∀ q ∈ va_pl LI (itE iv), q ∈ X) : zFI (fzE en LI iv) (va_A Y H.size) s H := by
  refine zFI_it C hP ?_ (fun q hq => hp.mem_iff.mpr (List.mem_append_left Y (hI q hq))) (fun y hy => ?_)
  · refine zEA.narrow (hV.at hS) (fun q hq => hV.2.1 q ?_)
    exact va_free (D_perm hp hD) hS hA (ixR X.length Y.length) (ixR_ok X Y) q hq
  · exact frz_out hp hP hD (hI _ (List.mem_map.mpr ⟨y, hy, rfl⟩))
end ZIT
