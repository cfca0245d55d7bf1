/-! THE WORLD's KNOWLEDGE, one for every method: classes, array classes, nest links, casts, interfaces -/
set_option maxRecDepth 100000
def TX12 : u_T := fun _ => ("", "", "", false)
abbrev vwCl : List vw_C := [(RX0, TX0, 20), (RX1, TX1, 8), (RX2, TX2, 8), (RX3, TX3, 6), (RX4, TX4, 10), (RX5, TX5, 8), (RX6, TX6, 3), (RX7, TX7, 4), (RX8, TX8, 4), (RX9, TX9, 45), (RX10, TX10, 5), (RX11, TX11, 2), (RX12, TX12, 0), (RJ4, TJ4, 9), (RJ18, TJ18, 6), (RJ6, TJ6, 3), (RJ21, TJ21, 4), (RJ14, TJ14, 1), (RJ15, TJ15, 1)]
abbrev zTy (dA : Nat → ClassId) : List (ClassId × FieldType) := [(dA 0, .boolean), (dA 1, .byte), (dA 2, .short), (dA 3, .int), (dA 4, .long), (dA 5, .object "SpinStrip$Level"), (dA 6, .object "SpinStrip$Strip"), (dA 7, .object "java/lang/Object"), (dA 8, .object "java/lang/String"), (dA 9, .array .int)]
/-- calls of a nest mate's own member -/
def zNestM : List (String × Nat × MethodName) := [("SpinStrip", 24, yX2_init), ("SpinStrip", 40, yX4_init), ("SpinStrip", 407, yX12_init), ("SpinStrip$Energies", 101, yX0_many), ("SpinStrip$Energies", 112, yX0_isIn), ("SpinStrip$Energies", 125, yX0_has), ("SpinStrip$Greater", 13, yX0_many), ("SpinStrip$Parser", 11, yX4_init), ("SpinStrip$Parser", 127, yX0_isIn), ("SpinStrip$Rows", 35, yX0_has), ("SpinStrip$Rows", 97, yX0_isIn), ("SpinStrip$Strip", 53, yX0_isIn), ("SpinStrip$Strip", 57, yX0_has)]
def zNestF : List (String × Nat × String × String × String) := [("SpinStrip", 262, "SpinStrip$Energies", "broken", "[I")]
def zCast : List (String × String) := [("SpinStrip$Spot", "java/lang/Comparable"), ("java/lang/Integer", "java/lang/Comparable"), ("SpinStrip$Greater", "java/util/Comparator"), ("SpinStrip$Fault", "SpinStrip$Fault"), ("SpinStrip$Spot", "java/lang/Object"), ("java/lang/Integer", "java/lang/Object"), ("java/lang/Long", "java/lang/Object"), ("SpinStrip$Strip", "java/lang/Object"), ("SpinStrip$Level", "java/lang/Object"), ("java/util/TreeMap$Entry", "java/lang/Object")]
def zOver : List String := ["SpinStrip$Level", "SpinStrip$Strip", "java/lang/Object", "java/lang/String"]
def yCmpTo : MethodName := ⟨"java/lang/Comparable", "compareTo", "(Ljava/lang/Object;)I"⟩
def yCmp : MethodName := ⟨"java/util/Comparator", "compare", "(Ljava/lang/Object;Ljava/lang/Object;)I"⟩
def zFace : List (String × MethodName × MethodName) := [("SpinStrip$Spot", yCmpTo, ⟨"SpinStrip$Spot", "compareTo", "(Ljava/lang/Object;)I"⟩), ("java/lang/Integer", yCmpTo, ⟨"java/lang/Integer", "compareTo", "(Ljava/lang/Object;)I"⟩), ("SpinStrip$Greater", yCmp, ⟨"SpinStrip$Greater", "compare", "(Ljava/lang/Object;Ljava/lang/Object;)I"⟩)]
def zK (D : va_G) (dA : Nat → ClassId) (U : State) : Prop :=
  va_K D vwCl (zTy dA) U ∧ (∀ q ∈ zNestM, va_Nw (.methodLinkNest q.1 q.2.1 q.2.2 "SpinStrip") U) ∧ (∀ q ∈ zNestF, va_Nw (.fieldLinkNest q.1 q.2.1 q.2.2.1 q.2.2.2.1 q.2.2.2.2 "SpinStrip") U) ∧ (∀ q ∈ zCast, va_Nw (.castable q.1 q.2) U) ∧ (∀ C ∈ zOver, va_AO C U) ∧ (∀ q ∈ zFace, va_Fw q.1 q.2.1 q.2.2 U)
theorem zFace_ok : ∀ q ∈ zFace, q.2.1.cls ≠ "java/lang/invoke/MethodHandle" ∧ q.2.1.cls ≠ "java/lang/invoke/VarHandle" := by decide +kernel
theorem zK.warm {D : va_G} {dA : Nat → ClassId} {s U : State} (hW : s.WarmedH U.vm) (h : zK D dA s) : zK D dA U := by
  obtain ⟨h1, h2, h3, h4, h5, h6⟩ := h
  exact ⟨va_K.moved hW.alike h1, fun q hq => va_Nw.warmM hW (h2 q hq), fun q hq => va_Nw.warmF hW (h3 q hq), fun q hq => va_Nw.warmC hW (h4 q hq), fun C hC => va_AO.moved hW.alike (h5 C hC), fun q hq => va_Fw.moved (zFace_ok q hq) hW.alike (h6 q hq)⟩
theorem zK.calling {D : va_G} {dA : Nat → ClassId} {U : State} {g : JFrame} {mk : MethodId} {a : Array Value} (h : zK D dA U) : zK D dA (U.calling g mk a) := by
  obtain ⟨h1, h2, h3, h4, h5, h6⟩ := h
  exact ⟨va_K.moved (Vm.Alike.refl U.vm) h1, fun q hq => va_Nw.same (u := U) rfl rfl (h2 q hq), fun q hq => va_Nw.same (u := U) rfl rfl (h3 q hq), fun q hq => va_Nw.same (u := U) rfl rfl (h4 q hq), fun C hC => va_AO.moved (u := U) (Vm.Alike.refl U.vm) (h5 C hC), fun q hq => va_Fw.moved (u := U) (zFace_ok q hq) (Vm.Alike.refl U.vm) (h6 q hq)⟩
/-- what a walk holds all along: the machine, the code, the words, the world's knowledge -/
def zC (p : Program) (s : State) (m : MethodId) (args : Array Value) (c : Code) (cc : ByteArray) (nL : Nat) (own : String) (D : va_G) (dA : Nat → ClassId) : Prop := CallFix p m c cc nL s args lw_all own ∧ zK D dA s
/-- a method's start: its arguments, the knowledge, the cells ws -/
def zPre (D : va_G) (dA : Nat → ClassId) (av : List Value) (ws : va_W) : Array Value → State → Prop := va_Pc av (fun U => zK D dA U ∧ va_P D vwCl ws U.heap)
theorem zPre.blind {D : va_G} {dA : Nat → ClassId} {av : List Value} {ws : va_W} : FrameBlind (zPre D dA av ws) := by
  intro a U g mk h
  obtain ⟨h1, h2, h3⟩ := h
  exact ⟨h1, h2.calling, h3⟩
/-- a PURE method's contract: it answers v, the heap is as it was -/
def zM (l : Launch) (y : MethodName) (bytes : ByteArray) (maxL : Nat) (ret : Option FieldType) (rm : Room) (D : va_G) (dA : Nat → ClassId) (av : List Value) (ws : va_W) (v : Option Value) : Prop :=
  Met l y (ws_ y bytes maxL ret) rm (zPre D dA av ws) (fun _ st oc t => oc = .returned v ∧ t.heap = st.heap) 0 0 (fun _ => False)
abbrev zRm (f lo : Nat) : Room := { frames := f, cells := 0, slots := 0, locals := lo }
section ZW
variable {p : Program} {l : Launch} {e : Env} {R : Room} {s : State} {m : MethodId} {args : Array Value} {below : List Frame} {meth : Method} {c : Code} {H : Heap} {locs : List Loc} {cells slots : Nat} {Q : State → Prop}
variable {cc : ByteArray} {nL : Nat} {own : String} {D : va_G} {dA : Nat → ClassId} {pc : Nat} {ls : Array Slot} {rest st0 : List Value} {A : Nat → Prop} {a : Nat} {ws : va_W} {H0 : Heap}
theorem z_pure {v : Option Value} (hr : va_Run p l e R s m args below meth c H locs cells slots 0 0 (F0 m pc ls st0) rest (fun st oc t => oc = .returned v ∧ t.heap = st.heap) (fun _ => False))
    (kk : W p l e R s m args below meth c H locs cells slots Q (F0 m (pc + 3) ls (v.toList ++ rest))) : W p l e R s m args below meth c H locs cells slots Q (F0 m pc ls st0) := by
  intro T hT X
  obtain ⟨v', st₀, t, T', L, h0, X', hL, e1, e2, ⟨h1, h2⟩, st⟩ := hr T hT X
  cases h1
  have hl : L = [] := List.eq_nil_iff_forall_not_mem.mpr (fun q h => hL q h)
  subst hl
  rw [List.append_nil] at X'
  obtain ⟨t2, a1, b1⟩ := kk T' (by rw [e1, h2, h0]) X'
  exact ⟨t2, st t2 a1, b1⟩
variable {y : MethodName} {bytes : ByteArray} {maxL index : Nat} {ret : Option FieldType} {f lo b n : Nat} {As : List Value} {wc : va_W} {v : Option Value}
/-- a pure call through an object -/
theorem z_cV (C : zC p s m args c cc nL own D dA) (hP : va_P D vwCl ws H) (hM : zM l y bytes maxL ret (zRm f lo) D dA (.ref b :: As) wc v) (hw : GoodIn lw_all (wsV own index y.cls y (ws_ y bytes maxL ret)))
    (hd : y.cls = y.cls ∧ y.cls ≠ "java/lang/invoke/MethodHandle" ∧ y.cls ≠ "java/lang/invoke/VarHandle" ∧ (parseMethodDescriptor y.desc).map (fun d => d.parameters.length) = some n) (hn : As.length = n)
    (hR : f + 1 ≤ R.frames ∧ 8 + (maxL + 11) + lo ≤ R.locals) (hz : ls.size = nL) (hsub : va_P D vwCl wc H) (q0 : Nat) {ci : Nat} {fs : List Value} {T : u_T} {N : Nat} (hq : ws[q0]? = some (b, .inr (ci, fs))) (hc : vwCl[ci]? = some (y.cls, T, N))
    (hst : st0 = As.reverse ++ .ref b :: rest) (hroom : (rest.map fun v => v.category).sum ≤ 8) (hdg : decode cc pc = .ok (.invokevirtual index, 3)) (hcells : cells ≤ R.cells) (hslots : slots ≤ R.slots)
    (kk : W p l e R s m args below meth c H locs cells slots Q (F0 m (pc + 3) ls (v.toList ++ rest))) : W p l e R s m args below meth c H locs cells slots Q (F0 m pc ls st0) := by
  refine z_pure (v := v) (rest := rest) ?_ kk
  exact va_runV (As := As) (rest := rest) C.1 hM (cwV n C.1.2.2.2.2 hw rfl rfl rfl hd hR) ⟨zPre.blind, va_recv C.2.1 hP hc hq, fun U hU hW => ⟨rfl, C.2.warm hW, by rw [hU]; exact hsub⟩⟩ rfl hn hz hst (lv_room hroom) hdg ⟨hcells, hslots⟩
/-- a pure static call -/
theorem z_cS (C : zC p s m args c cc nL own D dA) (hM : zM l y bytes maxL ret (zRm f lo) D dA As wc v) (hw : GoodIn lw_all (va_wsS own index y (ws_ y bytes maxL ret)))
    (hd : y.cls ≠ "java/lang/invoke/MethodHandle" ∧ y.cls ≠ "java/lang/invoke/VarHandle" ∧ (parseMethodDescriptor y.desc).map (fun d => d.parameters.length) = some n) (hn : As.length = n)
    (hR : f + 1 ≤ R.frames ∧ 8 + (maxL + 11) + lo ≤ R.locals) (hz : ls.size = nL) (hsub : va_P D vwCl wc H)
    (hst : st0 = As.reverse ++ rest) (hroom : (rest.map fun v => v.category).sum ≤ 8) (hdg : decode cc pc = .ok (.invokestatic index, 3)) (hcells : cells ≤ R.cells) (hslots : slots ≤ R.slots)
    (kk : W p l e R s m args below meth c H locs cells slots Q (F0 m (pc + 3) ls (v.toList ++ rest))) : W p l e R s m args below meth c H locs cells slots Q (F0 m pc ls st0) := by
  refine z_pure (v := v) (rest := rest) ?_ kk
  exact va_runS (As := As) (rest := rest) C.1 hM (va_cwS n C.1.2.2.2.2 hw rfl rfl rfl hd hR) ⟨zPre.blind, fun U hU hW => ⟨rfl, C.2.warm hW, by rw [hU]; exact hsub⟩⟩ rfl hn hz hst (lv_room hroom) hdg ⟨hcells, hslots⟩
/-- a pure static call of a nest mate's own method -/
theorem z_cSN (C : zC p s m args c cc nL own D dA) (hM : zM l y bytes maxL ret (zRm f lo) D dA As wc v) (hnest : (own, index, y) ∈ zNestM) (hcode : Cond.code y bytes maxL ret ∈ lw_all) (hini : Cond.initialized y.cls ∈ lw_all) (hstat : Cond.static y ∈ lw_all)
    (hd : y.cls ≠ "java/lang/invoke/MethodHandle" ∧ y.cls ≠ "java/lang/invoke/VarHandle" ∧ (parseMethodDescriptor y.desc).map (fun d => d.parameters.length) = some n) (hn : As.length = n)
    (hR : f + 1 ≤ R.frames ∧ 8 + (maxL + 11) + lo ≤ R.locals) (hz : ls.size = nL) (hsub : va_P D vwCl wc H)
    (hst : st0 = As.reverse ++ rest) (hroom : (rest.map fun v => v.category).sum ≤ 8) (hdg : decode cc pc = .ok (.invokestatic index, 3)) (hcells : cells ≤ R.cells) (hslots : slots ≤ R.slots)
    (kk : W p l e R s m args below meth c H locs cells slots Q (F0 m (pc + 3) ls (v.toList ++ rest))) : W p l e R s m args below meth c H locs cells slots Q (F0 m pc ls st0) := by
  refine z_pure (v := v) (rest := rest) ?_ kk
  exact va_runSN (As := As) (rest := rest) (host := "SpinStrip") C.1 hM ⟨va_cnB n C.1.2.2.2.2 (lw_meth hcode) rfl rfl rfl (C.2.2.1 _ hnest) (C.1.2.2.2.2 _ hini) hd hR, C.1.2.2.2.2 _ hstat, trivial⟩ ⟨zPre.blind, fun U hU hW => ⟨rfl, C.2.warm hW, by rw [hU]; exact hsub⟩⟩ rfl hn hz hst (lv_room hroom) hdg ⟨hcells, hslots⟩
end ZW
