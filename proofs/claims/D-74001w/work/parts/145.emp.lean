/-! Inherited calls (printed by tools/s_emp.py) -/
section ZEM
variable {p : Program} {l : Launch} {e : Env} {R : Room} {s : State} {m : MethodId} {args : Array Value} {below : List Frame} {meth : Method} {c : Code} {H : Heap} {locs : List Loc} {cells slots : Nat} {Q : State → Prop}
variable {cc : ByteArray} {nL : Nat} {own : String} {D : va_G} {dA : Nat → ClassId} {pc : Nat} {ls : Array Slot} {rest st0 : List Value} {A : Nat → Prop} {a : Nat} {ws : va_W} {H0 : Heap}
variable {x y : MethodName} {bytes : ByteArray} {maxL index : Nat} {ret : Option FieldType} {f lo b n : Nat} {As : List Value} {wc : va_W} {v : Option Value} {en : Nat → Nat → Nat} {fz f9 : zFt}
theorem lw_U {own : String} {idx : Nat} {C owner : String} {x y : MethodName} {b : ByteArray} {L : Nat} {r : Option FieldType} (h1 : Cond.methodLink own idx x ∈ lw_all) (h2 : Cond.sameMethod x.cls owner x.name x.desc ∈ lw_all) (h3 : Cond.selects C x y ∈ lw_all) (h4 : Cond.instanceMethod y ∈ lw_all) (h5 : Cond.initialized y.cls ∈ lw_all) (h6 : Cond.code y b L r ∈ lw_all) : GoodIn lw_all (va_wsU own idx C owner x y (ws_ y b L r)) := by
  refine lw_app ?_ (lw_meth h6)
  intro w hw
  simp only [List.mem_cons, List.not_mem_nil, or_false] at hw
  rcases hw with e | e | e | e | e
  · rw [e]; exact h1
  · rw [e]; exact h2
  · rw [e]; exact h3
  · rw [e]; exact h4
  · rw [e]; exact h5
/-- a method that the class has from the one above -/
theorem z_nU (C : zC p s m args c cc nL own D dA) (hN : zEw en f9 s H) {owner C9 : String} (hM : zN l y bytes maxL ret (zRm f lo) en f9 D dA (.ref b :: As) wc v) (hw : GoodIn lw_all (va_wsU own index C9 owner x y (ws_ y bytes maxL ret))) (hyx : y = ⟨owner, x.name, x.desc⟩)
    (hd : owner ≠ "java/lang/invoke/MethodHandle" ∧ owner ≠ "java/lang/invoke/VarHandle" ∧ (parseMethodDescriptor x.desc).map (fun d => d.parameters.length) = some n) (hn : As.length = n) (hR : f + 1 ≤ R.frames ∧ 8 + (maxL + 11) + lo ≤ R.locals) (hz : ls.size = nL) (hsub : va_P D vwCl wc H) (hrc : ∃ cellV : Cell, H[b]? = some cellV ∧ cellV.vm.isStatics = false ∧ s.vm.findClass C9 = some cellV.cls)
    (hst : st0 = As.reverse ++ .ref b :: rest) (hroom : (rest.map fun v => v.category).sum ≤ 8) (hdg : decode cc pc = .ok (.invokevirtual index, 3)) (hcells : cells ≤ R.cells) (hslots : slots ≤ R.slots)
    (kk : W p l e R s m args below meth c H locs cells slots Q (F0 m (pc + 3) ls (v.toList ++ rest))) : W p l e R s m args below meth c H locs cells slots Q (F0 m pc ls st0) := by
  refine z_pure (v := v) (rest := rest) ?_ kk
  exact va_runU (As := As) (rest := rest) C.1 hM (va_cwU n C.1.2.2.2.2 hw rfl rfl rfl hyx hd hR) ⟨zPreN.blind, hrc, fun U hU hW => ⟨rfl, C.2.warm hW, by rw [hU]; exact hsub, by rw [hU]; exact zEA.warm hW hN.1, by rw [hU]; exact hN.2.warm hW⟩⟩ rfl hn hz hst (lv_room hroom) hdg ⟨hcells, hslots⟩
/-- a method whose named one is abstract -/
theorem z_cA (C : zC p s m args c cc nL own D dA) {owner C9 : String} (hz9 : va_Nw (.declares ⟨owner, x.name, x.desc⟩) s) (hM : zM l y bytes maxL ret (zRm f lo) D dA (.ref b :: As) wc v) (hw : GoodIn lw_all (va_wsU own index C9 owner x y (ws_ y bytes maxL ret)))
    (hd : owner ≠ "java/lang/invoke/MethodHandle" ∧ owner ≠ "java/lang/invoke/VarHandle" ∧ (parseMethodDescriptor x.desc).map (fun d => d.parameters.length) = some n) (hn : As.length = n) (hR : f + 1 ≤ R.frames ∧ 8 + (maxL + 11) + lo ≤ R.locals) (hz : ls.size = nL) (hsub : va_P D vwCl wc H) (hrc : ∃ cellV : Cell, H[b]? = some cellV ∧ cellV.vm.isStatics = false ∧ s.vm.findClass C9 = some cellV.cls)
    (hst : st0 = As.reverse ++ .ref b :: rest) (hroom : (rest.map fun v => v.category).sum ≤ 8) (hdg : decode cc pc = .ok (.invokevirtual index, 3)) (hcells : cells ≤ R.cells) (hslots : slots ≤ R.slots)
    (kk : W p l e R s m args below meth c H locs cells slots Q (F0 m (pc + 3) ls (v.toList ++ rest))) : W p l e R s m args below meth c H locs cells slots Q (F0 m pc ls st0) := by
  refine z_pure (v := v) (rest := rest) ?_ kk
  exact va_runU (As := As) (rest := rest) C.1 hM (va_cwA n C.1.2.2.2.2 hw rfl rfl rfl hz9 hd hR) ⟨zPre.blind, hrc, fun U hU hW => ⟨rfl, C.2.warm hW, by rw [hU]; exact hsub⟩⟩ rfl hn hz hst (lv_room hroom) hdg ⟨hcells, hslots⟩
end ZEM

set_option maxHeartbeats 600000 in
set_option maxRecDepth 100000 in
theorem k_J3_isEmpty (l : Launch) (D : va_G) (dA : Nat → ClassId) (en : Nat → Nat → Nat) (a : Nat) (root : Option Nat) (sz mc : Int) (hs : 0 ≤ sz ∧ sz ≤ 2147483647) : zN l yJ3_isEmpty cJ3_isEmpty 1 (some .boolean) (zRm 1 20) en ([], []) D dA [.ref (a)] [(a, .inr (13, [.null, .null, .null, va_rf (root), .int (zI (sz)), .int (zI (mc)), .null, .null, .null]))] (some (.int (zB (decide (sz = 0))))) := by
  refine zN.of (by decide +kernel) rfl ?_
  intro pp ee ss mm args below meth cd Q C hr hlk hQ hV hP ls hl
  have hx := C.1.1
  have hb := C.1.2.1
  have hl : lv_has ls 1 [(0, .ref (a))] := hl
  refine lv_aload_n hx hb dJ3_isEmpty_0 rfl (lv_at hl 0 rfl) ?_
  refine z_cA (n := 0) (As := []) (rest := []) (x := ({ cls := "java/util/AbstractMap", name := "size", desc := "()I" })) C (owner := "java/util/AbstractMap") (C9 := "java/util/TreeMap") hV.1.2.2.2.2.2.2.2.2.2.2.2.2.2.2.2 (k_J4_size l D dA a root sz mc) (lw_U q1356 q1358 q1359 q1360 q118 q1361) (by decide +kernel) rfl ⟨Nat.le_of_ble_eq_true rfl, Nat.le_of_ble_eq_true rfl⟩ hl.1 hP (va_recv C.2.1 hP (q0 := 0) rfl rfl) rfl (Nat.le_of_ble_eq_true rfl) dJ3_isEmpty_1 (Nat.zero_le _) (Nat.zero_le _) ?_
  refine z_if_ne (tgt := 11) C ⟨by omega, by omega⟩ dJ3_isEmpty_4 (by decide) (fun c_4 => ?_) (fun c_4 => ?_)
  · refine z_iconst C dJ3_isEmpty_11 ?_
    exact z_zret0 C hlk hr hQ (by simp; omega) dJ3_isEmpty_12
  · refine z_iconst C dJ3_isEmpty_7 ?_
    refine lv_goto (tgt := 12) hx hb dJ3_isEmpty_8 (by decide) ?_
    exact z_zret1 C hlk hr hQ (by simp; omega) dJ3_isEmpty_12
