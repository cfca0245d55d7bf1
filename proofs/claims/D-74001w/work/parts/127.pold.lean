/-! PURE CONTRACTS BESIDE OLD OBJECTS (printed by tools/mkpold.py) -/
set_option maxRecDepth 100000
def zFa : Nat → Prop := fun _ => False
def zPreN (en : Nat → Nat → Nat) (fz : zFt) (D : va_G) (dA : Nat → ClassId) (av : List Value) (ws : va_W) : Array Value → State → Prop := va_Pc av (fun U => zK D dA U ∧ va_P D vwCl ws U.heap ∧ zEA zFa en U U.heap ∧ zFI fz zFa U U.heap)
theorem zPreN.blind {en : Nat → Nat → Nat} {fz : zFt} {D : va_G} {dA : Nat → ClassId} {av : List Value} {ws : va_W} : FrameBlind (zPreN en fz D dA av ws) := by
  intro a U g mk h
  obtain ⟨h1, h2, h3, h4, h5⟩ := h
  exact ⟨h1, h2.calling, h3, zEA.calling h4, h5.calling⟩
/-- a pure method's contract beside old objects: it answers v, the heap is as it was -/
def zN (l : Launch) (y : MethodName) (bytes : ByteArray) (maxL : Nat) (ret : Option FieldType) (rm : Room) (en : Nat → Nat → Nat) (fz : zFt) (D : va_G) (dA : Nat → ClassId) (av : List Value) (ws : va_W) (v : Option Value) : Prop :=
  Met l y (ws_ y bytes maxL ret) rm (zPreN en fz D dA av ws) (fun _ st oc t => oc = .returned v ∧ t.heap = st.heap) 0 0 (fun _ => False)
/-- what a pure walk beside old objects holds -/
def zEw (en : Nat → Nat → Nat) (fz : zFt) (s : State) (H : Heap) : Prop := zEA zFa en s H ∧ zFI fz zFa s H
theorem zEv.pure {B : Nat} {en : Nat → Nat → Nat} {fz : zFt} {A : Nat → Prop} {s : State} {H : Heap} {locs : List Loc} (h : zEv B en fz A s) (hS : va_S A s.heap H locs) : zEw en fz s H := ⟨zEA.narrow (h.at hS) (fun q z => z.elim), (h.fz hS).narrow (fun q z => z.elim)⟩
theorem zEw.sub {en : Nat → Nat → Nat} {fz f2 : zFt} {s : State} {H : Heap} (h : zEw en fz s H) (hs : ∀ q ∈ f2.1, q ∈ fz.1) (hs2 : ∀ q ∈ f2.2, q ∈ fz.2) : zEw en f2 s H := ⟨h.1, h.2.sub hs hs2⟩
theorem zN.of {l : Launch} {y : MethodName} {bytes : ByteArray} {maxL : Nat} {ret : Option FieldType} {rm : Room} {en : Nat → Nat → Nat} {fz : zFt} {D : va_G} {dA : Nat → ClassId} {av : List Value} {ws : va_W} {v : Option Value} (hy : plainName y.cls = true) (hl : Nat.ble (lg_sl av).length maxL = true)
    (body : ∀ (p : Program) (e : Env) (s : State) (m : MethodId) (args : Array Value) (below : List Frame) (meth : Method) (c : Code) (Q : State → Prop), zC p s m args c bytes maxL y.cls D dA → meth.sig.returnType = ret → meth.locks = false → Q = MQ below (zQ v) args s 0 0 (fun _ => False) → zEw en fz s s.heap → va_P D vwCl ws s.heap → ∀ ls : Array Slot, lv_has ls maxL (lv_args 0 av) →
      W p l e rm s m args below meth c s.heap [] 0 0 Q (F0 m 0 ls [])) : zN l y bytes maxL ret rm en fz D dA av ws v := by
  refine Met.ofW (cc := bytes) (maxL := maxL) (ret := ret) hy rfl ?_
  intro p e s m args below meth c s₁ B hml hv
  obtain ⟨rfl, hK, hP, hE, hF⟩ := hv
  have hts := atoms_spec (ws := ws_ y bytes maxL ret) B.pre
  have hts : ∀ w ∈ lw_all, w.before _ s = true := fun w h => hts w (List.mem_cons_of_mem _ h)
  rw [lg_entry_eq]
  exact body p e s m _ below meth c _ ⟨⟨B.exec, B.bytes, hml, findClass_of_methodNamed B.named, hts⟩, hK⟩ B.returns B.notSynchronized rfl ⟨hE, hF⟩ hP _ (lv_entry av (Nat.le_of_ble_eq_true hl))
section ZPO
variable {p : Program} {l : Launch} {e : Env} {R : Room} {s : State} {m : MethodId} {args : Array Value} {below : List Frame} {meth : Method} {c : Code} {H : Heap} {locs : List Loc} {cells slots : Nat} {Q : State → Prop}
variable {cc : ByteArray} {nL : Nat} {own : String} {D : va_G} {dA : Nat → ClassId} {pc : Nat} {ls : Array Slot} {rest st0 : List Value} {A : Nat → Prop} {a : Nat} {ws : va_W} {H0 : Heap}
variable {x y : MethodName} {bytes : ByteArray} {maxL index : Nat} {ret : Option FieldType} {f lo b n : Nat} {As : List Value} {wc : va_W} {v : Option Value} {en : Nat → Nat → Nat} {fz f9 : zFt}
theorem z_pure5 {v : Option Value} (hr : va_Run5 p l e R s m args below meth c H locs cells slots 0 0 (F0 m pc ls st0) rest (fun st oc t => oc = .returned v ∧ t.heap = st.heap) (fun _ => False))
    (kk : W p l e R s m args below meth c H locs cells slots Q (F0 m (pc + 5) ls (v.toList ++ rest))) : W p l e R s m args below meth c H locs cells slots Q (F0 m pc ls st0) := by
  intro T hT X
  obtain ⟨v', st₀, t, T', L, h0, X', hL, e1, e2, ⟨h1, h2⟩, st⟩ := hr T hT X
  cases h1
  have hl : L = [] := List.eq_nil_iff_forall_not_mem.mpr (fun q h => hL q h)
  subst hl
  rw [List.append_nil] at X'
  obtain ⟨t2, a1, b1⟩ := kk T' (by rw [e1, h2, h0]) X'
  exact ⟨t2, st t2 a1, b1⟩
/-- through an object -/
theorem z_nV (C : zC p s m args c cc nL own D dA) (hN : zEw en f9 s H) (hM : zN l y bytes maxL ret (zRm f lo) en f9 D dA (.ref b :: As) wc v) (hw : GoodIn lw_all (wsV own index y.cls y (ws_ y bytes maxL ret)))
    (hd : y.cls = y.cls ∧ y.cls ≠ "java/lang/invoke/MethodHandle" ∧ y.cls ≠ "java/lang/invoke/VarHandle" ∧ (parseMethodDescriptor y.desc).map (fun d => d.parameters.length) = some n) (hn : As.length = n) (hR : f + 1 ≤ R.frames ∧ 8 + (maxL + 11) + lo ≤ R.locals) (hz : ls.size = nL) (hsub : va_P D vwCl wc H) (hrc : ∃ cellV : Cell, H[b]? = some cellV ∧ cellV.vm.isStatics = false ∧ s.vm.findClass y.cls = some cellV.cls)
    (hst : st0 = As.reverse ++ .ref b :: rest) (hroom : (rest.map fun v => v.category).sum ≤ 8) (hdg : decode cc pc = .ok (.invokevirtual index, 3)) (hcells : cells ≤ R.cells) (hslots : slots ≤ R.slots)
    (kk : W p l e R s m args below meth c H locs cells slots Q (F0 m (pc + 3) ls (v.toList ++ rest))) : W p l e R s m args below meth c H locs cells slots Q (F0 m pc ls st0) := by
  refine z_pure (v := v) (rest := rest) ?_ kk
  exact va_runV (As := As) (rest := rest) C.1 hM (cwV n C.1.2.2.2.2 hw rfl rfl rfl hd hR) ⟨zPreN.blind, hrc, fun U hU hW => ⟨rfl, C.2.warm hW, by rw [hU]; exact hsub, by rw [hU]; exact zEA.warm hW hN.1, by rw [hU]; exact hN.2.warm hW⟩⟩ rfl hn hz hst (lv_room hroom) hdg ⟨hcells, hslots⟩
/-- static -/
theorem z_nS (C : zC p s m args c cc nL own D dA) (hN : zEw en f9 s H) (hM : zN l y bytes maxL ret (zRm f lo) en f9 D dA As wc v) (hw : GoodIn lw_all (va_wsS own index y (ws_ y bytes maxL ret)))
    (hd : y.cls ≠ "java/lang/invoke/MethodHandle" ∧ y.cls ≠ "java/lang/invoke/VarHandle" ∧ (parseMethodDescriptor y.desc).map (fun d => d.parameters.length) = some n) (hn : As.length = n) (hR : f + 1 ≤ R.frames ∧ 8 + (maxL + 11) + lo ≤ R.locals) (hz : ls.size = nL) (hsub : va_P D vwCl wc H)
    (hst : st0 = As.reverse ++ rest) (hroom : (rest.map fun v => v.category).sum ≤ 8) (hdg : decode cc pc = .ok (.invokestatic index, 3)) (hcells : cells ≤ R.cells) (hslots : slots ≤ R.slots)
    (kk : W p l e R s m args below meth c H locs cells slots Q (F0 m (pc + 3) ls (v.toList ++ rest))) : W p l e R s m args below meth c H locs cells slots Q (F0 m pc ls st0) := by
  refine z_pure (v := v) (rest := rest) ?_ kk
  exact va_runS (As := As) (rest := rest) C.1 hM (va_cwS n C.1.2.2.2.2 hw rfl rfl rfl hd hR) ⟨zPreN.blind, fun U hU hW => ⟨rfl, C.2.warm hW, by rw [hU]; exact hsub, by rw [hU]; exact zEA.warm hW hN.1, by rw [hU]; exact hN.2.warm hW⟩⟩ rfl hn hz hst (lv_room hroom) hdg ⟨hcells, hslots⟩
/-- through an interface -/
theorem z_nF (C : zC p s m args c cc nL own D dA) (hN : zEw en f9 s H) (hM : zN l y bytes maxL ret (zRm f lo) en f9 D dA (.ref b :: As) wc v) (hw1 : Cond.methodLink own index x ∈ lw_all) (hw2 : Cond.selects y.cls x y ∈ lw_all) (hw3 : Cond.instanceMethod y ∈ lw_all) (hw4 : Cond.initialized y.cls ∈ lw_all) (hw5 : Cond.code y bytes maxL ret ∈ lw_all) (hF : (y.cls, x, y) ∈ zFace) (ci : Nat) {T : u_T} {N count : Nat} (hc : vwCl[ci]? = some (y.cls, T, N))
    (hd : x.cls ≠ "java/lang/invoke/MethodHandle" ∧ x.cls ≠ "java/lang/invoke/VarHandle" ∧ (parseMethodDescriptor x.desc).map (fun d => d.parameters.length) = some n) (hn : As.length = n) (hR : f + 1 ≤ R.frames ∧ 8 + (maxL + 11) + lo ≤ R.locals) (hz : ls.size = nL) (hsub : va_P D vwCl wc H) (hrc : ∃ cellV : Cell, H[b]? = some cellV ∧ cellV.vm.isStatics = false ∧ s.vm.findClass y.cls = some cellV.cls)
    (hst : st0 = As.reverse ++ .ref b :: rest) (hroom : (rest.map fun v => v.category).sum ≤ 8) (hdg : decode cc pc = .ok (.invokeinterface index count, 5)) (hcells : cells ≤ R.cells) (hslots : slots ≤ R.slots)
    (kk : W p l e R s m args below meth c H locs cells slots Q (F0 m (pc + 5) ls (v.toList ++ rest))) : W p l e R s m args below meth c H locs cells slots Q (F0 m pc ls st0) := by
  refine z_pure5 (v := v) (rest := rest) ?_ kk
  have hw : GoodIn lw_all (va_wsF own index y.cls x y (ws_ y bytes maxL ret)) := by
    refine lw_app ?_ (lw_meth hw5)
    intro w h
    simp only [List.mem_cons, List.not_mem_nil, or_false] at h
    rcases h with rfl | rfl | rfl | rfl
    · exact hw1
    · exact hw2
    · exact hw3
    · exact hw4
  exact va_runF (As := As) (rest := rest) (C.2.1.1 ci _ hc).2 C.1 hM (va_cwF n C.1.2.2.2.2 hw rfl rfl rfl (C.2.2.2.2.2.2 _ hF) hd hR) ⟨zPreN.blind, hrc, fun U hU hW => ⟨rfl, C.2.warm hW, by rw [hU]; exact hsub, by rw [hU]; exact zEA.warm hW hN.1, by rw [hU]; exact hN.2.warm hW⟩⟩ rfl hn hz hst (lv_room hroom) hdg ⟨hcells, hslots⟩
/-- an object of the world that the callee only reads -/
theorem z_frz (C : zC p s m args c cc nL own D dA) (hP : va_P D vwCl ws H) {y0 : Nat} {ci : Nat} {fs : List Value} (he : (y0, .inr (ci, fs)) ∈ ws) {Cn : String} {T : u_T} {N : Nat} (hc : vwCl[ci]? = some (Cn, T, N)) (hin : ∀ w ∈ u_ws Cn T N, w ∈ lw_all) (hA : ¬ A y0) : va_O Cn y0 A s H ∧ ∀ k v, k < N → fs[k]? = some v → va_OF (T k).1 (T k).2.1 (T k).2.2.1 v y0 A s H := by
  obtain ⟨q0, hq⟩ := List.getElem?_of_mem he
  obtain ⟨r, h1, cell, q1, q2, q3, q4⟩ := hP q0 _ hq
  have hr : r = (Cn, T, N) := Option.some.inj (h1.symm.trans hc)
  subst hr
  obtain ⟨hS, hfc, kC, hkC, hkind⟩ := C.2.1.1 ci _ hc
  refine ⟨⟨cell, q1, by rw [q3]; rfl, by rw [q2]; exact hfc, hA⟩, ?_⟩
  intro k v hk hv
  obtain ⟨cf, kf, fi, fd, hi, hsl⟩ := hS k hk
  refine ⟨cf, kf, fi, fd, cell, hi, (u_facts hfc hkC (u_lays C.1.2.2.2.2 hin hk) hi).1, q1, (by rw [q3]; exact fun h => by cases h), ?_, hA⟩
  rw [hsl, q4 k hk]
  simp [vp_V, hv]
/-- the value of an Integer, in a pure walk -/
theorem z_ivalN (C : zC p s m args c cc nL own D dA) (hV : zEw en fz s s.heap) {y0 : Nat} {v0 : Int} (hm : (y0, v0) ∈ fz.1) {index : Nat} (hlink : Cond.fieldLink own index "java/lang/Integer" "value" "I" ∈ lw_all) (hdg : decode cc pc = .ok (.getfield index, 3))
    (kk : W p l e R s m args below meth c s.heap [] cells slots Q (F0 m (pc + 3) ls (.int (zI v0) :: rest))) : W p l e R s m args below meth c s.heap [] cells slots Q (F0 m pc ls (.ref y0 :: rest)) :=
  vk_getf C.1.1 C.1.2.1 (hV.2.1 _ hm).2 va_S.rf C.1.2.2.2.1 (C.1.2.2.2.2 _ hlink) (fun _ h => h) hdg kk
/-- the cached Integer of a small number -/
theorem z_tald {B : Nat} (C : zC p s m args c cc nL own D dA) (hV : zEv B en fz A s) (hS : va_S A s.heap H locs) {t : Int} (i : Nat) (hi9 : t = (i : Int)) (hi : i < 256) (hdg : decode cc pc = .ok (.aaload, 1))
    (kk : W p l e R s m args below meth c H locs cells slots Q (F0 m (pc + 1) ls (.ref (en 0 i) :: rest))) : W p l e R s m args below meth c H locs cells slots Q (F0 m pc ls (.int (zI t) :: .ref (en 1 0) :: rest)) := by
  subst hi9
  exact vb_tq C.1.1 C.1.2.1 hV.own.2.2.1 hS (zI_in hi (by omega)) (by rw [zI_clampN (by omega)]) hdg kk
theorem z_taldL {B : Nat} (C : zC p s m args c cc nL own D dA) (hV : zEv B en fz A s) (hS : va_S A s.heap H locs) {t : Int} (i : Nat) (hi9 : t = (i : Int)) (hi : i < 256) (hdg : decode cc pc = .ok (.aaload, 1))
    (kk : W p l e R s m args below meth c H locs cells slots Q (F0 m (pc + 1) ls (.ref (en 2 i) :: rest))) : W p l e R s m args below meth c H locs cells slots Q (F0 m pc ls (.int (zI t) :: .ref (en 3 0) :: rest)) := by
  subst hi9
  exact vb_tq C.1.1 C.1.2.1 hV.own.2.2.2.2.2.2.1 hS (zI_in hi (by omega)) (by rw [zI_clampN (by omega)]) hdg kk
end ZPO
