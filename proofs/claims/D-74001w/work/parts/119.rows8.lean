/-! ROWS 8: statics of the start, rows of references, casts (printed by tools/mkrows8.py) -/
set_option maxRecDepth 100000
section ZR8
variable {p : Program} {l : Launch} {e : Env} {R : Room} {s : State} {m : MethodId} {args : Array Value} {below : List Frame} {meth : Method} {c : Code} {H : Heap} {locs : List Loc} {cells slots : Nat} {Q : State → Prop}
variable {cc : ByteArray} {nL : Nat} {own : String} {D : va_G} {dA : Nat → ClassId} {pc : Nat} {ls : Array Slot} {rest : List Value} {A : Nat → Prop} {ws : va_W} {H0 : Heap} {x : Nat}
variable {B : Nat} {en : Nat → Nat → Nat} {fz : zFt}
theorem z_gets (C : zC p s m args c cc nL own D dA) {Cn n d : String} {v : Value} {index : Nat} (hZ : va_Z Cn n d v A s s.heap) (hS : va_S A s.heap H locs) (hlink : Cond.fieldLink own index Cn n d ∈ lw_all) (hdg : decode cc pc = .ok (.getstatic index, 3))
    (kk : W p l e R s m args below meth c H locs cells slots Q (F0 m (pc + 3) ls (v :: rest))) : W p l e R s m args below meth c H locs cells slots Q (F0 m pc ls rest) :=
  va_gets C.1.1 C.1.2.1 hZ hS C.1.2.2.2.1 (C.1.2.2.2.2 _ hlink) (fun _ h => h) hdg kk
/-- a place of a row of references -/
theorem z_aaldW (C : zC p s m args c cc nL own D dA) (hP : va_P D vwCl ws H) (q0 t0 : Nat) {n : Nat} {f : Nat → Option Nat} (he : ws[q0]? = some (x, .inl (dA t0, n, .inr (.inr (.inr (.inr f)))))) {Cn : String} (ht : (zTy dA)[t0]? = some (dA t0, .object Cn)) {t : Int} (i : Nat) (hi9 : t = (i : Int)) (hi : i < n) (hn : n ≤ 2147483647) (hdg : decode cc pc = .ok (.aaload, 1))
    (kk : W p l e R s m args below meth c H locs cells slots Q (F0 m (pc + 1) ls (va_rf (f i) :: rest))) : W p l e R s m args below meth c H locs cells slots Q (F0 m pc ls (.int (zI t) :: .ref x :: rest)) := by
  subst hi9
  refine va_aldq C.1.1 C.1.2.1 C.2.1 hP q0 t0 he ht (zI_in hi hn) hdg ?_
  rw [zI_clampN (by omega)]
  exact kk
/-- null is laid into a row of references -/
theorem z_aastN (C : zC p s m args c cc nL own D dA) (hP : va_P D vwCl ws H) (hD : va_D A ws) (hS : va_S A H0 H locs) (q0 t0 : Nat) {n : Nat} {f : Nat → Option Nat} (he : ws[q0]? = some (x, .inl (dA t0, n, .inr (.inr (.inr (.inr f)))))) {Cn : String} (ht : (zTy dA)[t0]? = some (dA t0, .object Cn)) {t : Int} (i : Nat) (hi9 : t = (i : Int)) (hi : i < n) (hn : n ≤ 2147483647) {ws' : va_W} (hset : ws.set q0 (x, .inl (dA t0, n, .inr (.inr (.inr (.inr (va_up f i none)))))) = ws') (hdg : decode cc pc = .ok (.aastore, 1))
    (kk : ∀ (H1 : Heap) (locs1 : List Loc), va_P D vwCl ws' H1 → va_D A ws' → va_S A H0 H1 locs1 → W p l e R s m args below meth c H1 locs1 cells slots Q (F0 m (pc + 1) ls rest)) : W p l e R s m args below meth c H locs cells slots Q (F0 m pc ls (.null :: .int (zI t) :: .ref x :: rest)) := by
  subst hi9
  subst hset
  refine va_astqN C.1.1 C.1.2.1 C.2.1 hP hD hS q0 t0 he ht (zI_in hi hn) hdg (fun H1 locs1 h1 h2 h3 => ?_)
  rw [zI_clampN (by omega)] at h1 h2
  exact kk H1 locs1 h1 h2 h3
/-- an object of a known class is laid into a row of objects -/
theorem z_aastO (C : zC p s m args c cc nL own D dA) (hP : va_P D vwCl ws H) (hD : va_D A ws) (hS : va_S A H0 H locs) (q0 t0 : Nat) {n : Nat} {f : Nat → Option Nat} (he : ws[q0]? = some (x, .inl (dA t0, n, .inr (.inr (.inr (.inr f)))))) {Cn E : String} (ht : (zTy dA)[t0]? = some (dA t0, .object E)) {y : Nat} (hr : ∃ cellV : Cell, H[y]? = some cellV ∧ cellV.vm.isStatics = false ∧ s.vm.findClass Cn = some cellV.cls) (hcast : (Cn, E) ∈ zCast ∨ Cn = E) {t : Int} (i : Nat) (hi9 : t = (i : Int)) (hi : i < n) (hn : n ≤ 2147483647) {ws' : va_W} (hset : ws.set q0 (x, .inl (dA t0, n, .inr (.inr (.inr (.inr (va_up f i (some y))))))) = ws') (hdg : decode cc pc = .ok (.aastore, 1))
    (kk : ∀ (H1 : Heap) (locs1 : List Loc), va_P D vwCl ws' H1 → va_D A ws' → va_S A H0 H1 locs1 → W p l e R s m args below meth c H1 locs1 cells slots Q (F0 m (pc + 1) ls rest)) : W p l e R s m args below meth c H locs cells slots Q (F0 m pc ls (.ref y :: .int (zI t) :: .ref x :: rest)) := by
  subst hi9
  subst hset
  refine vb_astq C.1.1 C.1.2.1 C.2.1 hP hD hS q0 t0 he ht hr (fun comp c0 h1 h2 => ?_) (zI_in hi hn) hdg (fun H1 locs1 h1 h2 h3 => ?_)
  · rcases hcast with hc | hc
    · exact vb_asgC (C.2.2.2.2.1 _ hc) comp c0 h1 h2
    · subst hc
      exact vb_asgS comp c0 h1 h2
  rw [zI_clampN (by omega)] at h1 h2
  exact kk H1 locs1 h1 h2 h3
theorem zFI.cell {A : Nat → Prop} {U : State} {H : Heap} (h : zFI fz A U H) {y : Nat} {Cn : String} (hm : (y, Cn) ∈ fz.2) : ∃ cellV : Cell, H[y]? = some cellV ∧ cellV.vm.isStatics = false ∧ U.vm.findClass Cn = some cellV.cls := by
  obtain ⟨cell, h1, h2, h3, -⟩ := h.2 _ hm
  exact ⟨cell, h1, h2, h3⟩
theorem zFI.icell {A : Nat → Prop} {U : State} {H : Heap} (h : zFI fz A U H) {y : Nat} {v : Int} (hm : (y, v) ∈ fz.1) : ∃ cellV : Cell, H[y]? = some cellV ∧ cellV.vm.isStatics = false ∧ U.vm.findClass "java/lang/Integer" = some cellV.cls := by
  obtain ⟨⟨cell, h1, h2, h3, -⟩, -⟩ := h.1 _ hm
  exact ⟨cell, h1, h2, h3⟩
/-- the value of an Integer that is only read -/
theorem z_ival (C : zC p s m args c cc nL own D dA) (hV : zEv B en fz A s) (hS : va_S A s.heap H locs) {y : Nat} {v : Int} (hm : (y, v) ∈ fz.1) {index : Nat} (hlink : Cond.fieldLink own index "java/lang/Integer" "value" "I" ∈ lw_all) (hdg : decode cc pc = .ok (.getfield index, 3))
    (kk : W p l e R s m args below meth c H locs cells slots Q (F0 m (pc + 3) ls (.int (zI v) :: rest))) : W p l e R s m args below meth c H locs cells slots Q (F0 m pc ls (.ref y :: rest)) :=
  vk_getf C.1.1 C.1.2.1 (hV.2.2.2.1 _ hm).2 hS C.1.2.2.2.1 (C.1.2.2.2.2 _ hlink) (fun _ h => h) hdg kk
/-- a cast to the class of the object -/
theorem z_castE (C : zC p s m args c cc nL own D dA) {nm : String} {y : Nat} (hr : ∃ cellV : Cell, H[y]? = some cellV ∧ cellV.vm.isStatics = false ∧ s.vm.findClass nm = some cellV.cls) {index : Nat} (hlink : Cond.classLink own index nm ∈ lw_all) (hdg : decode cc pc = .ok (.checkcast index, 3))
    (kk : W p l e R s m args below meth c H locs cells slots Q (F0 m (pc + 3) ls (.ref y :: rest))) : W p l e R s m args below meth c H locs cells slots Q (F0 m pc ls (.ref y :: rest)) :=
  va_castE C.1.1 C.1.2.1 C.1.2.2.2.1 (C.1.2.2.2.2 _ hlink) hr hdg kk
/-- the class object of Object[] -/
theorem z_ldcM (C : zC p s m args c cc nL own D dA) (hV : zEv B en fz A s) {index : Nat} (hlink : Cond.classLink own index "[Ljava/lang/Object;" ∈ lw_all) (hdg : decode cc pc = .ok (.ldc index, 2))
    (kk : W p l e R s m args below meth c H locs cells slots Q (F0 m (pc + 2) ls (.ref (en 6 0) :: rest))) : W p l e R s m args below meth c H locs cells slots Q (F0 m pc ls rest) :=
  va_ldcM C.1.1 C.1.2.1 C.1.2.2.2.1 (C.1.2.2.2.2 _ hlink) hV.2.2.1.2.2.2.2.2.2.2.2.2.2.2.2.2.1 hdg kk
theorem z_mir (hV : zEv B en fz A s) : va_Mi "[Ljava/lang/Object;" (en 6 0) s ∧ va_Dc s := ⟨hV.2.2.1.2.2.2.2.2.2.2.2.2.2.2.2.2.1, hV.2.2.1.2.2.2.2.2.2.2.2.2.2.2.2.2.2.1⟩
theorem z_oload_n (hexec : p.tables.exec = Jvm.exec) (hb : c.code = cc) {k : Fin 4} {i : Nat} {x : Option Nat} (hdg : decode cc pc = .ok (.aload_n k, 1)) (hi : (k : Nat) = i) (hl : ls[i]? = some (.val (va_rf x))) (kk : W p l e R s m args below meth c H locs cells slots Q (F0 m (pc + 1) ls (va_rf x :: rest))) : W p l e R s m args below meth c H locs cells slots Q (F0 m pc ls rest) := by
  cases x with
  | none => exact lv_aload_nN hexec hb hdg hi hl kk
  | some y => exact lv_aload_n hexec hb hdg hi hl kk
theorem z_oload (hexec : p.tables.exec = Jvm.exec) (hb : c.code = cc) {i : Nat} {x : Option Nat} (hdg : decode cc pc = .ok (.aload i, 2)) (hl : ls[i]? = some (.val (va_rf x))) (kk : W p l e R s m args below meth c H locs cells slots Q (F0 m (pc + 2) ls (va_rf x :: rest))) : W p l e R s m args below meth c H locs cells slots Q (F0 m pc ls rest) := by
  cases x with
  | none => exact lv_aloadN hexec hb hdg hl kk
  | some y => exact lv_aload hexec hb hdg hl kk
theorem z_ostore_n (hexec : p.tables.exec = Jvm.exec) (hb : c.code = cc) {k : Fin 4} {i nL : Nat} {x : Option Nat} {lv lv' : List (Nat × Value)} (hdg : decode cc pc = .ok (.astore_n k, 1)) (hi : (k : Nat) = i) (h : lv_has ls nL lv) (hn : i < nL) (hl : (i, va_rf x) :: lv.filter (fun q => !(q.1 == i) && !(q.1 + 1 == i && q.2.category == 2)) = lv')
    (kk : ∀ ls' : Array Slot, lv_has ls' nL lv' → W p l e R s m args below meth c H locs cells slots Q (F0 m (pc + 1) ls' rest)) : W p l e R s m args below meth c H locs cells slots Q (F0 m pc ls (va_rf x :: rest)) := by
  cases x with
  | none => exact lv_astore_nN hexec hb hdg hi h hn hl kk
  | some y => exact lv_astore_n hexec hb hdg hi h hn hl kk
theorem z_ostore (hexec : p.tables.exec = Jvm.exec) (hb : c.code = cc) {i nL : Nat} {x : Option Nat} {lv lv' : List (Nat × Value)} (hdg : decode cc pc = .ok (.astore i, 2)) (h : lv_has ls nL lv) (hn : i < nL) (hl : (i, va_rf x) :: lv.filter (fun q => !(q.1 == i) && !(q.1 + 1 == i && q.2.category == 2)) = lv')
    (kk : ∀ ls' : Array Slot, lv_has ls' nL lv' → W p l e R s m args below meth c H locs cells slots Q (F0 m (pc + 2) ls' rest)) : W p l e R s m args below meth c H locs cells slots Q (F0 m pc ls (va_rf x :: rest)) := by
  cases x with
  | none => exact lv_astoreN hexec hb hdg h hn hl kk
  | some y => exact lv_astore hexec hb hdg h hn hl kk
end ZR8
