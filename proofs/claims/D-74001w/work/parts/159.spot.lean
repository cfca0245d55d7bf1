/-! Spots (printed by tools/s_spot.py) -/
set_option maxHeartbeats 600000 in
set_option maxRecDepth 100000 in
theorem k_X11_compareTo (l : Launch) (D : va_G) (dA : Nat → ClassId) (a b s1 s2 : Nat) (h1 h2 : Int) (g1 : s1 < 65536) (g2 : s2 < 65536) (g3 : zR h1) (g4 : zR h2) : zM l yX11_compareTo cX11_compareTo 2 (some .int) (zRm 1 21) D dA [.ref (a), .ref (b)] [(a, .inr (11, [.int (zI ((s1 : Nat) : Int)), .int (zI (h1))])), (b, .inr (11, [.int (zI ((s2 : Nat) : Int)), .int (zI (h2))]))] (some (.int (zI (if h1 = h2 then (s1 : Int) - (s2 : Int) else h1 - h2)))) := by
  refine zM.of (by decide +kernel) rfl ?_
  intro pp ee ss mm args below meth cd Q C hr hlk hQ hP ls hl
  have hx := C.1.1
  have hb := C.1.2.1
  have hl : lv_has ls 2 [(0, .ref (a)), (1, .ref (b))] := hl
  refine lv_aload_n hx hb dX11_compareTo_0 rfl (lv_at hl 0 rfl) ?_
  refine lv_aload_n hx hb dX11_compareTo_1 rfl (lv_at hl 1 rfl) ?_
  refine z_castE C (show ∃ cellV : Cell, ss.heap[b]? = some cellV ∧ cellV.vm.isStatics = false ∧ ss.vm.findClass "SpinStrip$Spot" = some cellV.cls from va_recv C.2.1 hP (q0 := 1) (ci := 11) rfl rfl) q1069 dX11_compareTo_2 ?_
  refine z_cV (n := 1) (As := [.ref (b)]) (rest := []) C hP (k_X11_compareTo_2 l D dA (a) (b) (s1) (s2) (h1) (h2) (by first | with_reducible assumption | omega | with_reducible rfl) (by first | with_reducible assumption | omega | with_reducible rfl) (by first | with_reducible assumption | omega | with_reducible rfl) (by first | with_reducible assumption | omega | with_reducible rfl)) (lw_V q1070 q1071 q1072 q147 q1073) (by decide +kernel) rfl ⟨Nat.le_of_ble_eq_true rfl, Nat.le_of_ble_eq_true rfl⟩ hl.1 (hP.sub [0, 1] rfl) 0 rfl rfl rfl (Nat.le_of_ble_eq_true rfl) dX11_compareTo_5 (Nat.zero_le _) (Nat.zero_le _) ?_
  exact z_iret C hlk hr hQ (by first | rfl | omega) dX11_compareTo_8

section ZSP
variable {p : Program} {l : Launch} {e : Env} {R : Room} {s : State} {m : MethodId} {args : Array Value} {below : List Frame} {meth : Method} {c : Code} {H : Heap} {locs : List Loc} {cells slots : Nat} {Q : State → Prop}
variable {cc : ByteArray} {nL : Nat} {own : String} {D : va_G} {dA : Nat → ClassId} {pc : Nat} {ls : Array Slot} {rest st0 : List Value} {A : Nat → Prop} {a : Nat} {ws : va_W} {H0 : Heap}
variable {x y : MethodName} {bytes : ByteArray} {maxL index : Nat} {ret : Option FieldType} {f lo b n : Nat} {As : List Value} {wc : va_W} {v : Option Value} {en : Nat → Nat → Nat} {fz f9 : zFt}
def spE (st : Nat → Nat) (hi : Nat → Int) (y : Nat) : va_E := .inr (11, [.int (zI (st y : Int)), .int (zI (hi y))])
theorem sp_mem {L : List Nat} {st : Nat → Nat} {hi : Nat → Int} {X : va_W} {y : Nat} (h : y ∈ L) : (y, spE st hi y) ∈ X ++ va_pl L (spE st hi) := by
  obtain ⟨q0, hq⟩ := va_pl_get (X := X) (f := spE st hi) h
  exact List.mem_of_getElem? hq
theorem P_two {X : va_W} {L : List Nat} {st : Nat → Nat} {hi : Nat → Int} {x y : Nat} (hP : va_P D vwCl (X ++ va_pl L (spE st hi)) H) (hx : x ∈ L) (hy : y ∈ L) : va_P D vwCl [(x, spE st hi x), (y, spE st hi y)] H := by
  rw [P_iff] at hP ⊢
  intro q hq
  simp only [List.mem_cons, List.not_mem_nil, or_false] at hq
  rcases hq with rfl | rfl
  · exact hP _ (sp_mem hx)
  · exact hP _ (sp_mem hy)
theorem z_cF (C : zC p s m args c cc nL own D dA) (hM : zM l y bytes maxL ret (zRm f lo) D dA (.ref b :: As) wc v) (hw1 : Cond.methodLink own index x ∈ lw_all) (hw2 : Cond.selects y.cls x y ∈ lw_all) (hw3 : Cond.instanceMethod y ∈ lw_all) (hw4 : Cond.initialized y.cls ∈ lw_all) (hw5 : Cond.code y bytes maxL ret ∈ lw_all) (hF : (y.cls, x, y) ∈ zFace) (ci : Nat) {T : u_T} {N count : Nat} (hc : vwCl[ci]? = some (y.cls, T, N))
    (hd : x.cls ≠ "java/lang/invoke/MethodHandle" ∧ x.cls ≠ "java/lang/invoke/VarHandle" ∧ (parseMethodDescriptor x.desc).map (fun d => d.parameters.length) = some n) (hn : As.length = n) (hR : f + 1 ≤ R.frames ∧ 8 + (maxL + 11) + lo ≤ R.locals) (hz : ls.size = nL) (hsub : va_P D vwCl wc H) (hrc : ∃ cellV : Cell, H[b]? = some cellV ∧ cellV.vm.isStatics = false ∧ s.vm.findClass y.cls = some cellV.cls)
    (hst : st0 = As.reverse ++ .ref b :: rest) (hroom : (rest.map fun v => v.category).sum ≤ 8) (hdg : decode cc pc = .ok (.invokeinterface index count, 5)) (hcells : cells ≤ R.cells) (hslots : slots ≤ R.slots)
    (kk : W p l e R s m args below meth c H locs cells slots Q (F0 m (pc + 5) ls (v.toList ++ rest))) : W p l e R s m args below meth c H locs cells slots Q (F0 m pc ls st0) := by
  refine z_pure5 (v := v) (rest := rest) ?_ kk
  have hw : GoodIn lw_all (va_wsF own index y.cls x y (ws_ y bytes maxL ret)) := by
    refine lw_app ?_ (lw_meth hw5)
    intro w hw
    simp only [List.mem_cons, List.not_mem_nil, or_false] at hw
    rcases hw with rfl | rfl | rfl | rfl
    · exact hw1
    · exact hw2
    · exact hw3
    · exact hw4
  exact va_runF (As := As) (rest := rest) (C.2.1.1 ci _ hc).2 C.1 hM (va_cwF n C.1.2.2.2.2 hw rfl rfl rfl (C.2.2.2.2.2.2 _ hF) hd hR) ⟨zPre.blind, hrc, fun U hU hW => ⟨rfl, C.2.warm hW, by rw [hU]; exact hsub⟩⟩ rfl hn hz hst (lv_room hroom) hdg ⟨hcells, hslots⟩
end ZSP
