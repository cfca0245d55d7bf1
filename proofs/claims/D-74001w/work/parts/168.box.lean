/-! BOXING: Integer.valueOf in a world with a pool of Integers -/
theorem it_push {LI : List Nat} {iv : Nat → Int} {q : Nat} {v : Int} (h : q ∉ LI) : va_pl LI (itE iv) ++ [(q, .inr (17, [.int (zI v)]))] = va_pl (LI ++ [q]) (itE (va_up iv q v)) := by
  rw [va_pl_push h]
  apply va_pl_congr
  intro a
  unfold va_up
  by_cases z : a = q
  · subst z; simp [itE]
  · simp [itE, z]
theorem D_out {A : Nat → Prop} {X : va_W} {LI : List Nat} {E : Nat → va_E} {q : Nat} {e9 : va_E} (h : va_D A ((X ++ va_pl LI E) ++ [(q, e9)])) : q ∉ LI := by
  intro hq
  have h1 := (D_iff.mp h).1
  rw [List.pairwise_append] at h1
  exact h1.2.2 (q, E q) (List.mem_append_right _ (List.mem_map.mpr ⟨q, hq, rfl⟩)) (q, e9) (List.mem_singleton.mpr rfl) rfl
section ZBX
variable {p : Program} {l : Launch} {e : Env} {R : Room} {s : State} {m : MethodId} {args : Array Value} {below : List Frame} {meth : Method} {c : Code} {H : Heap} {locs : List Loc} {cells slots : Nat} {Q : State → Prop}
variable {cc : ByteArray} {nL : Nat} {own : String} {D : va_G} {dA : Nat → ClassId} {pc : Nat} {ls : Array Slot} {rest : List Value} {A : Nat → Prop} {ws X : va_W} {index : Nat}
variable {B : Nat} {en : Nat → Nat → Nat} {fz : zFt} {LI : List Nat} {iv : Nat → Int} {v : Int}
/-- an Integer of a number: old, or new in the pool -/
theorem z_box (C : zC p s m args c cc nL own D dA) (hV : zEv B en fz A s) (hP : va_P D vwCl ws H) (hD : va_D A ws) (hS : va_S A s.heap H locs) (hA : ∀ q, s.heap.size ≤ q → A q) (hp : ws.Perm (X ++ va_pl LI (itE iv))) (hv : -2147483648 ≤ v ∧ v ≤ 2147483647) (hw : GoodIn lw_all (va_wsS own index yJ14_valueOf (ws_ yJ14_valueOf cJ14_valueOf 1 (some (.object "java/lang/Integer")))))
    (hRm : 4 ≤ R.frames ∧ 81 ≤ R.locals) (hz : ls.size = nL) (hroom : (rest.map fun v => v.category).sum ≤ 8) (hdg : decode cc pc = .ok (.invokestatic index, 3)) (hcells : cells + 1 ≤ R.cells) (hslots : slots + 1 ≤ R.slots)
    (kk : ∀ (k9 : Nat) (LI1 : List Nat) (iv1 : Nat → Int) (H1 : Heap) (locs1 : List Loc), (k9, v) ∈ (fzE en LI1 iv1).1 → (∀ y, y ∈ LI → y ∈ LI1 ∧ iv1 y = iv y) → va_P D vwCl (X ++ va_pl LI1 (itE iv1)) H1 → va_D A (X ++ va_pl LI1 (itE iv1)) → va_S A s.heap H1 locs1 → W p l e R s m args below meth c H1 locs1 (cells + 1) (slots + 1) Q (F0 m (pc + 3) ls (.ref k9 :: rest))) : W p l e R s m args below meth c H locs cells slots Q (F0 m pc ls (.int (zI v) :: rest)) := by
  have hP9 := P_perm hp hP
  have hD9 := D_perm hp hD
  by_cases hb : -128 ≤ v ∧ v ≤ 127
  · refine z_hSq (X := X ++ va_pl LI (itE iv)) (Y := []) (n := 1) (As := [.int (zI v)]) (rest := rest) C hV hP9 hD9 hS hA (by rw [List.append_nil]) (k_J14_valueOf_old l D dA B en v hb) zFI.nil hw (by decide +kernel) rfl ⟨?_, ?_⟩ hz rfl hroom hdg ?_ ?_ (fun _ H1 l1 _ a2 a3 a4 => ?_)
    · show 0 + 1 ≤ R.frames; omega
    · show 8 + (1 + 11) + 0 ≤ R.locals; omega
    · show cells + 0 ≤ R.cells; omega
    · show slots + 0 ≤ R.slots; omega
    · refine W.widen (k := cells + 1) (n := slots + 1) (by show cells + 0 ≤ cells + 1; omega) (by show slots + 0 ≤ slots + 1; omega) ?_
      rw [List.append_nil] at a2 a3
      exact kk _ LI iv H1 l1 (fzE_old hb) (fun y hy => ⟨hy, rfl⟩) a2 a3 a4
  · refine z_hSq (X := X ++ va_pl LI (itE iv)) (Y := []) (n := 1) (As := [.int (zI v)]) (rest := rest) C hV hP9 hD9 hS hA (by rw [List.append_nil]) (k_J14_valueOf_new l D dA B en v hv (by omega)) zFI.nil hw (by decide +kernel) rfl ⟨?_, ?_⟩ hz rfl hroom hdg ?_ ?_ (fun q H1 l1 _ a2 a3 a4 => ?_)
    · show 3 + 1 ≤ R.frames; omega
    · show 8 + (1 + 11) + 61 ≤ R.locals; omega
    · exact hcells
    · exact hslots
    · have hq := D_out a3
      rw [List.append_assoc, it_push hq] at a2 a3
      refine kk q (LI ++ [q]) (va_up iv q v) H1 l1 ?_ (fun y hy => ⟨List.mem_append_left _ hy, va_upn (fun z => hq (z ▸ hy))⟩) a2 a3 a4
      have h9 := fzE_new (en := en) (LI := LI ++ [q]) (iv := va_up iv q v) (y := q) (List.mem_append_right _ (List.mem_singleton.mpr rfl))
      rw [va_upe] at h9
      exact h9
end ZBX
