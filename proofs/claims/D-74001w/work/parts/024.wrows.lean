/-! METHODS THAT WRITE: contracts, calls, stores, ends (printed by tools/mkwrows.py) -/
set_option maxRecDepth 100000
def zQG {S : Type} (D : va_G) (v : S → Option Value) (post : S → Prop) (w1 : S → va_W) (A : Nat → Prop) : Array Value → State → Outcome → State → Prop := fun _ st oc t => ∃ u : S, oc = .returned (v u) ∧ post u ∧ va_P D vwCl (w1 u) t.heap ∧ va_D A (w1 u) ∧ va_F A st t
def zPreW (D : va_G) (dA : Nat → ClassId) (av : List Value) (ws : va_W) (sz : Nat) : Array Value → State → Prop := va_Pc av (fun U => zK D dA U ∧ U.heap.size = sz ∧ va_P D vwCl ws U.heap ∧ va_D (fun _ => True) ws)
theorem zPreW.blind {D : va_G} {dA : Nat → ClassId} {av : List Value} {ws : va_W} {sz : Nat} : FrameBlind (zPreW D dA av ws sz) := by
  intro a U g mk h
  obtain ⟨h1, h2, h3⟩ := h
  exact ⟨h1, h2.calling, h3⟩
/-- the contract of a method that may write its cells ws and make mc cells of ms slots: behind it, for some u with post u, its cells are w1 u and it answers v u -/
def zG {S : Type} (l : Launch) (y : MethodName) (bytes : ByteArray) (maxL : Nat) (ret : Option FieldType) (rm : Room) (D : va_G) (dA : Nat → ClassId) (av : List Value) (ws : va_W) (v : S → Option Value) (post : S → Prop) (w1 : S → va_W) : Prop :=
  ∀ sz : Nat, Met l y (ws_ y bytes maxL ret) rm (zPreW D dA av ws sz) (zQG D v post w1 (va_A ws sz)) rm.cells rm.slots (va_A ws sz)
abbrev zRmW (f lo mc ms : Nat) : Room := { frames := f, cells := mc, slots := ms, locals := lo }
theorem zG.of {S : Type} {l : Launch} {y : MethodName} {bytes : ByteArray} {maxL : Nat} {ret : Option FieldType} {rm : Room} {D : va_G} {dA : Nat → ClassId} {av : List Value} {ws : va_W} {v : S → Option Value} {post : S → Prop} {w1 : S → va_W} (hy : plainName y.cls = true) (hl : Nat.ble (lg_sl av).length maxL = true)
    (body : ∀ (p : Program) (e : Env) (s : State) (m : MethodId) (args : Array Value) (below : List Frame) (meth : Method) (c : Code) (Q : State → Prop) (A : Nat → Prop), zC p s m args c bytes maxL y.cls D dA → meth.sig.returnType = ret → meth.locks = false → Q = MQ below (zQG D v post w1 A) args s rm.cells rm.slots A → (∀ q, s.heap.size ≤ q → A q) → meth.name = y.name → ∀ (H : Heap) (locs : List Loc), va_P D vwCl ws H → va_D A ws → va_S A s.heap H locs → ∀ ls : Array Slot, lv_has ls maxL (lv_args 0 av) →
      W p l e rm s m args below meth c H locs 0 0 Q (F0 m 0 ls [])) : zG l y bytes maxL ret rm D dA av ws v post w1 := by
  intro sz
  refine Met.ofW (cc := bytes) (maxL := maxL) (ret := ret) hy rfl ?_
  intro p e s m args below meth c s₁ B hml hv
  obtain ⟨rfl, hK, hsz, hP, hD⟩ := hv
  subst hsz
  have hts := atoms_spec (ws := ws_ y bytes maxL ret) B.pre
  have hts : ∀ w ∈ lw_all, w.before _ s = true := fun w h => hts w (List.mem_cons_of_mem _ h)
  rw [lg_entry_eq]
  exact body p e s m _ below meth c _ _ ⟨⟨B.exec, B.bytes, hml, findClass_of_methodNamed B.named, hts⟩, hK⟩ B.returns B.notSynchronized rfl (fun q h => Or.inr h) (name_of_methodNamed B.named B.method).1 _ _ hP (hD.self) va_S.rf _ (lv_entry av (Nat.le_of_ble_eq_true hl))
section ZV
variable {p : Program} {l : Launch} {e : Env} {R : Room} {s : State} {m : MethodId} {args : Array Value} {below : List Frame} {meth : Method} {c : Code} {H : Heap} {locs : List Loc} {cells slots : Nat} {Q : State → Prop}
variable {cc : ByteArray} {nL : Nat} {own : String} {D : va_G} {dA : Nat → ClassId} {pc : Nat} {ls : Array Slot} {rest st0 : List Value} {A : Nat → Prop} {x : Nat} {ws : va_W} {H0 : Heap}
variable {y : MethodName} {bytes : ByteArray} {maxL index : Nat} {ret : Option FieldType} {b n : Nat} {As av : List Value} {wc wr : va_W} {S : Type} {v : S → Option Value} {post : S → Prop} {w1 : S → va_W} {rm : Room}
theorem z_writes (hP : va_P D vwCl ws H) (hD : va_D A ws) (hS : va_S A H0 H locs) (hA : ∀ q, H0.size ≤ q → A q) (isC isR : List Nat) (hC : isC.map (fun i => ws[i]?) = wc.map some) (hR : isR.map (fun i => ws[i]?) = wr.map some) (hn1 : va_nd isC = true) (hn2 : va_nd isR = true) (hdis : ∀ i ∈ isR, i ∉ isC)
    (hr : va_Run p l e R s m args below meth c H locs cells slots rm.cells rm.slots (F0 m pc ls st0) rest (zQG D v post w1 (va_A wc H.size) args) (va_A wc H.size))
    (kk : ∀ (u : S) (H1 : Heap) (locs1 : List Loc), post u → va_P D vwCl (wr ++ w1 u) H1 → va_D A (wr ++ w1 u) → va_S A H0 H1 locs1 → (∀ q : Nat, q < H.size → ¬ va_A wc H.size q → H1[q]? = H[q]?) → W p l e R s m args below meth c H1 locs1 (cells + rm.cells) (slots + rm.slots) Q (F0 m (pc + 3) ls ((v u).toList ++ rest))) : W p l e R s m args below meth c H locs cells slots Q (F0 m pc ls st0) := by
  have hF := va_free (wc := wc) hD hS hA isC hC
  intro T hT X
  obtain ⟨v', st₀, t, T', L, h0, X', hL, e1, e2, ⟨u, h1, hp, hP1, hD1, hz, hk⟩, st⟩ := hr T hT X
  cases h1
  rw [h0] at hz hk
  rw [← e1] at hz hk hP1
  obtain ⟨hP2, hD2⟩ := va_join hP hD isC isR hC hR hn2 hdis hk hF hP1 hD1
  have hS2 : va_S A H0 T'.heap (locs ++ L) := ⟨Nat.le_trans hS.1 hz, fun q a1 a2 => by
    have a3 : q < H.size := Nat.lt_of_lt_of_le a1 hS.1
    rw [hk q a3 (fun z => a2 (hF q z))]
    exact hS.2.1 q a1 a2, fun q hq => by
    rcases List.mem_append.mp hq with z | z
    · exact hS.2.2 q z
    · exact hF _ (hL q z)⟩
  obtain ⟨t2, a1, b1⟩ := kk u T'.heap (locs ++ L) hp hP2 hD2 hS2 hk T' rfl X'
  exact ⟨t2, st t2 a1, b1⟩
theorem List.filterMap_eq_of_map {α β : Type} {f : α → Option β} {l : List α} {r : List β} (h : l.map f = r.map some) : l.filterMap f = r := by
  induction l generalizing r with
  | nil => cases r with
    | nil => rfl
    | cons a r => simp at h
  | cons a l ih =>
    cases r with
    | nil => simp at h
    | cons b r =>
      simp only [List.map_cons, List.cons.injEq] at h
      rw [List.filterMap_cons, h.1]
      show b :: _ = _
      rw [ih h.2]
/-- a call through an object of a method that writes -/
theorem z_gV (C : zC p s m args c cc nL own D dA) (hP : va_P D vwCl ws H) (hD : va_D A ws) (hS : va_S A H0 H locs) (hA : ∀ q, H0.size ≤ q → A q) (isC isR : List Nat) (hC : isC.map (fun i => ws[i]?) = wc.map some) (hR : isR.map (fun i => ws[i]?) = wr.map some) (hn1 : va_nd isC = true) (hn2 : va_nd isR = true) (hdis : ∀ i ∈ isR, i ∉ isC) (hM : zG l y bytes maxL ret rm D dA (.ref b :: As) wc v post w1) (hw : GoodIn lw_all (wsV own index y.cls y (ws_ y bytes maxL ret)))
    (hd : y.cls = y.cls ∧ y.cls ≠ "java/lang/invoke/MethodHandle" ∧ y.cls ≠ "java/lang/invoke/VarHandle" ∧ (parseMethodDescriptor y.desc).map (fun d => d.parameters.length) = some n) (hn : As.length = n) (hRm : rm.frames + 1 ≤ R.frames ∧ 8 + (maxL + 11) + rm.locals ≤ R.locals) (hz : ls.size = nL) (q0 : Nat) {ci : Nat} {fs : List Value} {T : u_T} {N : Nat} (hq : ws[q0]? = some (b, .inr (ci, fs))) (hc : vwCl[ci]? = some (y.cls, T, N))
    (hst : st0 = As.reverse ++ .ref b :: rest) (hroom : (rest.map fun v => v.category).sum ≤ 8) (hdg : decode cc pc = .ok (.invokevirtual index, 3)) (hcells : cells + rm.cells ≤ R.cells) (hslots : slots + rm.slots ≤ R.slots)
    (kk : ∀ (u : S) (H1 : Heap) (locs1 : List Loc), post u → va_P D vwCl (wr ++ w1 u) H1 → va_D A (wr ++ w1 u) → va_S A H0 H1 locs1 → (∀ q : Nat, q < H.size → ¬ va_A wc H.size q → H1[q]? = H[q]?) → W p l e R s m args below meth c H1 locs1 (cells + rm.cells) (slots + rm.slots) Q (F0 m (pc + 3) ls ((v u).toList ++ rest))) : W p l e R s m args below meth c H locs cells slots Q (F0 m pc ls st0) := by
  refine z_writes (rm := rm) hP hD hS hA isC isR hC hR hn1 hn2 hdis ?_ kk
  exact va_runV (As := As) (rest := rest) C.1 (hM H.size) (cwV n C.1.2.2.2.2 hw rfl rfl rfl hd hRm) ⟨zPreW.blind, va_recv C.2.1 hP hc hq, fun U hU hW => ⟨rfl, C.2.warm hW, by rw [hU], by rw [hU]; exact hP.sub isC (by rw [List.filterMap_eq_of_map hC]), (hD.sub isC hn1 hC).weaken (fun _ _ _ _ => trivial)⟩⟩ rfl hn hz hst (lv_room hroom) hdg ⟨hcells, hslots⟩
/-- a constructor's call -/
theorem z_gI (C : zC p s m args c cc nL own D dA) (hP : va_P D vwCl ws H) (hD : va_D A ws) (hS : va_S A H0 H locs) (hA : ∀ q, H0.size ≤ q → A q) (isC isR : List Nat) (hC : isC.map (fun i => ws[i]?) = wc.map some) (hR : isR.map (fun i => ws[i]?) = wr.map some) (hn1 : va_nd isC = true) (hn2 : va_nd isR = true) (hdis : ∀ i ∈ isR, i ∉ isC) (hM : zG l y bytes maxL none rm D dA (.ref b :: As) wc v post w1) (hcode : Cond.code y bytes maxL none ∈ lw_all) (hini : Cond.initialized y.cls ∈ lw_all) (hlink : Cond.methodLink own index y ∈ lw_all) (hinst : Cond.instanceMethod y ∈ lw_all) (hy1 : y.name = "<init>")
    (hd : y.cls ≠ "java/lang/invoke/MethodHandle" ∧ y.cls ≠ "java/lang/invoke/VarHandle" ∧ (parseMethodDescriptor y.desc).map (fun d => d.parameters.length) = some n) (hn : As.length = n) (hRm : rm.frames + 1 ≤ R.frames ∧ 8 + (maxL + 11) + rm.locals ≤ R.locals) (hz : ls.size = nL)
    (hst : st0 = As.reverse ++ .ref b :: rest) (hroom : (rest.map fun v => v.category).sum ≤ 8) (hdg : decode cc pc = .ok (.invokespecial index, 3)) (hcells : cells + rm.cells ≤ R.cells) (hslots : slots + rm.slots ≤ R.slots)
    (kk : ∀ (u : S) (H1 : Heap) (locs1 : List Loc), post u → va_P D vwCl (wr ++ w1 u) H1 → va_D A (wr ++ w1 u) → va_S A H0 H1 locs1 → (∀ q : Nat, q < H.size → ¬ va_A wc H.size q → H1[q]? = H[q]?) → W p l e R s m args below meth c H1 locs1 (cells + rm.cells) (slots + rm.slots) Q (F0 m (pc + 3) ls ((v u).toList ++ rest))) : W p l e R s m args below meth c H locs cells slots Q (F0 m pc ls st0) := by
  refine z_writes (rm := rm) hP hD hS hA isC isR hC hR hn1 hn2 hdis ?_ kk
  exact va_runI (As := As) (rest := rest) C.1 (hM H.size) (cwI n C.1.2.2.2.2 (lw_meth hcode) rfl rfl rfl (C.1.2.2.2.2 _ hini) (C.1.2.2.2.2 _ hlink) (C.1.2.2.2.2 _ hinst) hy1 hd hRm) ⟨zPreW.blind, fun U hU hW => ⟨rfl, C.2.warm hW, by rw [hU], by rw [hU]; exact hP.sub isC (by rw [List.filterMap_eq_of_map hC]), (hD.sub isC hn1 hC).weaken (fun _ _ _ _ => trivial)⟩⟩ rfl hn hz hst (lv_room hroom) hdg ⟨hcells, hslots⟩
/-- a static call of a method that writes -/
theorem z_gS (C : zC p s m args c cc nL own D dA) (hP : va_P D vwCl ws H) (hD : va_D A ws) (hS : va_S A H0 H locs) (hA : ∀ q, H0.size ≤ q → A q) (isC isR : List Nat) (hC : isC.map (fun i => ws[i]?) = wc.map some) (hR : isR.map (fun i => ws[i]?) = wr.map some) (hn1 : va_nd isC = true) (hn2 : va_nd isR = true) (hdis : ∀ i ∈ isR, i ∉ isC) (hM : zG l y bytes maxL ret rm D dA As wc v post w1) (hw : GoodIn lw_all (va_wsS own index y (ws_ y bytes maxL ret)))
    (hd : y.cls ≠ "java/lang/invoke/MethodHandle" ∧ y.cls ≠ "java/lang/invoke/VarHandle" ∧ (parseMethodDescriptor y.desc).map (fun d => d.parameters.length) = some n) (hn : As.length = n) (hRm : rm.frames + 1 ≤ R.frames ∧ 8 + (maxL + 11) + rm.locals ≤ R.locals) (hz : ls.size = nL)
    (hst : st0 = As.reverse ++ rest) (hroom : (rest.map fun v => v.category).sum ≤ 8) (hdg : decode cc pc = .ok (.invokestatic index, 3)) (hcells : cells + rm.cells ≤ R.cells) (hslots : slots + rm.slots ≤ R.slots)
    (kk : ∀ (u : S) (H1 : Heap) (locs1 : List Loc), post u → va_P D vwCl (wr ++ w1 u) H1 → va_D A (wr ++ w1 u) → va_S A H0 H1 locs1 → (∀ q : Nat, q < H.size → ¬ va_A wc H.size q → H1[q]? = H[q]?) → W p l e R s m args below meth c H1 locs1 (cells + rm.cells) (slots + rm.slots) Q (F0 m (pc + 3) ls ((v u).toList ++ rest))) : W p l e R s m args below meth c H locs cells slots Q (F0 m pc ls st0) := by
  refine z_writes (rm := rm) hP hD hS hA isC isR hC hR hn1 hn2 hdis ?_ kk
  exact va_runS (As := As) (rest := rest) C.1 (hM H.size) (va_cwS n C.1.2.2.2.2 hw rfl rfl rfl hd hRm) ⟨zPreW.blind, fun U hU hW => ⟨rfl, C.2.warm hW, by rw [hU], by rw [hU]; exact hP.sub isC (by rw [List.filterMap_eq_of_map hC]), (hD.sub isC hn1 hC).weaken (fun _ _ _ _ => trivial)⟩⟩ rfl hn hz hst (lv_room hroom) hdg ⟨hcells, hslots⟩
theorem z_put (C : zC p s m args c cc nL own D dA) (hP : va_P D vwCl ws H) (hD : va_D A ws) (hS : va_S A H0 H locs) (q0 : Nat) {ci : Nat} {fs : List Value} (he : ws[q0]? = some (x, .inr (ci, fs))) {Cn : String} {T : u_T} {N : Nat} (hc : vwCl[ci]? = some (Cn, T, N)) (hin : ∀ w ∈ u_ws Cn T N, w ∈ lw_all) {ty0 : Nat → FieldType} (hty : ∀ k, k < N → parseFieldDescriptor (T k).2.2.1 = some (ty0 k)) (hnm : ∀ a, a < N → ∀ b, b < N → a ≠ b → (T a).2.1 ≠ (T b).2.1) (k : Nat) (hk : k < N) {index : Nat} (hw : Cond.fieldLink own index (T k).1 (T k).2.1 (T k).2.2.1 ∈ lw_all) (hfin : (T k).2.2.2 = false) {v : Value} (hn : narrow (ty0 k) v = v) (hfit : fits (ty0 k) v = true) (hl : k < fs.length) {ws' : va_W} (hset : ws.set q0 (x, .inr (ci, fs.set k v)) = ws') (hdg : decode cc pc = .ok (.putfield index, 3))
    (kk : ∀ (H1 : Heap) (locs1 : List Loc), va_P D vwCl ws' H1 → va_D A ws' → va_S A H0 H1 locs1 → W p l e R s m args below meth c H1 locs1 cells slots Q (F0 m (pc + 3) ls rest)) : W p l e R s m args below meth c H locs cells slots Q (F0 m pc ls (v :: .ref x :: rest)) := by
  subst hset
  exact va_put C.1.1 C.1.2.1 C.1.2.2.2.2 hin ty0 hty hnm C.1.2.2.2.1 C.2.1 hP hD hS q0 he hc k hk (C.1.2.2.2.2 _ hw) (fun _ h => h) hfin (hty k hk) hn hfit hl hdg kk
theorem z_putF (C : zC p s m args c cc nL own D dA) (hP : va_P D vwCl ws H) (hD : va_D A ws) (hS : va_S A H0 H locs) (q0 : Nat) {ci : Nat} {fs : List Value} (he : ws[q0]? = some (x, .inr (ci, fs))) {Cn : String} {T : u_T} {N : Nat} (hc : vwCl[ci]? = some (Cn, T, N)) (hin : ∀ w ∈ u_ws Cn T N, w ∈ lw_all) {ty0 : Nat → FieldType} (hty : ∀ k, k < N → parseFieldDescriptor (T k).2.2.1 = some (ty0 k)) (hnm : ∀ a, a < N → ∀ b, b < N → a ≠ b → (T a).2.1 ≠ (T b).2.1) (k : Nat) (hk : k < N) {index : Nat} (hw : Cond.fieldLink own index (T k).1 (T k).2.1 (T k).2.2.1 ∈ lw_all) (hfin : (T k).2.2.2 = true) (hinit : meth.name = "<init>") (hdecl : (T k).1 = own) {v : Value} (hn : narrow (ty0 k) v = v) (hfit : fits (ty0 k) v = true) (hl : k < fs.length) {ws' : va_W} (hset : ws.set q0 (x, .inr (ci, fs.set k v)) = ws') (hdg : decode cc pc = .ok (.putfield index, 3))
    (kk : ∀ (H1 : Heap) (locs1 : List Loc), va_P D vwCl ws' H1 → va_D A ws' → va_S A H0 H1 locs1 → W p l e R s m args below meth c H1 locs1 cells slots Q (F0 m (pc + 3) ls rest)) : W p l e R s m args below meth c H locs cells slots Q (F0 m pc ls (v :: .ref x :: rest)) := by
  subst hset
  exact va_putF C.1.1 C.1.2.1 C.1.2.2.2.2 hin ty0 hty hnm C.1.2.2.2.1 C.2.1 hP hD hS q0 he hc k hk (C.1.2.2.2.2 _ hw) (fun _ h => h) hfin hinit hdecl (hty k hk) hn hfit hl hdg kk
theorem upd_zI (f : Nat → Int) (k : Nat) (v : Int) : upd (fun j => zI (f j)) k (zI v) = fun j => zI (va_up f k v j) := by
  funext j; unfold upd va_up; split <;> rfl
theorem upd_zB (f : Nat → Bool) (k : Nat) (v : Bool) : upd (fun j => zB (f j)) k (zB v) = fun j => zB (va_up f k v j) := by
  funext j; unfold upd va_up; split <;> rfl
theorem upd_lI (f : Nat → Int) (k : Nat) (v : Int) : vp_updL (fun j => lI (f j)) k (lI v) = fun j => lI (va_up f k v j) := by
  funext j; unfold vp_updL va_up; split <;> rfl
theorem nar_byte {v : Int} (h : -128 ≤ v ∧ v ≤ 127) : vp_nar .byte (zI v) = zI v := by
  show (Int32.toInt8 (zI v)).toInt32 = zI v
  apply Int32.toInt_inj.1
  rw [Int8.toInt_toInt32, Int32.toInt_toInt8, zI_toInt ⟨by omega, by omega⟩]
  exact Int.bmod_eq_of_le (by show -((256 : Nat) : Int) / 2 ≤ v; omega) (by show v < (((256 : Nat) : Int) + 1) / 2; omega)
theorem nar_short {v : Int} (h : -32768 ≤ v ∧ v ≤ 32767) : vp_nar .short (zI v) = zI v := by
  show (Int32.toInt16 (zI v)).toInt32 = zI v
  apply Int32.toInt_inj.1
  rw [Int16.toInt_toInt32, Int32.toInt_toInt16, zI_toInt ⟨by omega, by omega⟩]
  exact Int.bmod_eq_of_le (by show -((65536 : Nat) : Int) / 2 ≤ v; omega) (by show v < (((65536 : Nat) : Int) + 1) / 2; omega)
theorem nar_bool (v : Bool) : vp_nar .boolean (zB v) = zB v := by cases v <;> rfl
theorem z_iast (C : zC p s m args c cc nL own D dA) (hP : va_P D vwCl ws H) (hD : va_D A ws) (hS : va_S A H0 H locs) (q0 : Nat) {n : Nat} {f : Nat → Int} (he : ws[q0]? = some (x, .inl (dA 3, n, .inl (fun j => zI (f j))))) {t : Int} (i : Nat) (ht : t = (i : Int)) (hi : i < n) (hn : n ≤ 2147483647) {v : Int} {ws' : va_W} (hset : ws.set q0 (x, .inl (dA 3, n, .inl (fun j => zI (va_up f i v j)))) = ws') (hdg : decode cc pc = .ok (.iastore, 1))
    (kk : ∀ (H1 : Heap) (locs1 : List Loc), va_P D vwCl ws' H1 → va_D A ws' → va_S A H0 H1 locs1 → W p l e R s m args below meth c H1 locs1 cells slots Q (F0 m (pc + 1) ls rest)) : W p l e R s m args below meth c H locs cells slots Q (F0 m pc ls (.int (zI v) :: .int (zI t) :: .ref x :: rest)) := by
  subst ht
  subst hset
  refine va_iast C.1.1 C.1.2.1 C.2.1 hP hD hS q0 3 he rfl (zI_in hi hn) hdg (fun H1 locs1 h1 h2 h3 => ?_)
  rw [zI_clampN (by omega), upd_zI] at h1 h2
  exact kk H1 locs1 h1 h2 h3
theorem z_bast (C : zC p s m args c cc nL own D dA) (hP : va_P D vwCl ws H) (hD : va_D A ws) (hS : va_S A H0 H locs) (q0 : Nat) {n : Nat} {f : Nat → Int} (he : ws[q0]? = some (x, .inl (dA 1, n, .inl (fun j => zI (f j))))) {t : Int} (i : Nat) (ht : t = (i : Int)) (hi : i < n) (hn : n ≤ 2147483647) {v : Int} (hv : -128 ≤ v ∧ v ≤ 127) {ws' : va_W} (hset : ws.set q0 (x, .inl (dA 1, n, .inl (fun j => zI (va_up f i v j)))) = ws') (hdg : decode cc pc = .ok (.bastore, 1))
    (kk : ∀ (H1 : Heap) (locs1 : List Loc), va_P D vwCl ws' H1 → va_D A ws' → va_S A H0 H1 locs1 → W p l e R s m args below meth c H1 locs1 cells slots Q (F0 m (pc + 1) ls rest)) : W p l e R s m args below meth c H locs cells slots Q (F0 m pc ls (.int (zI v) :: .int (zI t) :: .ref x :: rest)) := by
  subst ht
  subst hset
  refine va_bast C.1.1 C.1.2.1 C.2.1 hP hD hS q0 1 he rfl (zI_in hi hn) hdg (fun H1 locs1 h1 h2 h3 => ?_)
  rw [zI_clampN (by omega), nar_byte hv, upd_zI] at h1 h2
  exact kk H1 locs1 h1 h2 h3
theorem z_sast (C : zC p s m args c cc nL own D dA) (hP : va_P D vwCl ws H) (hD : va_D A ws) (hS : va_S A H0 H locs) (q0 : Nat) {n : Nat} {f : Nat → Int} (he : ws[q0]? = some (x, .inl (dA 2, n, .inl (fun j => zI (f j))))) {t : Int} (i : Nat) (ht : t = (i : Int)) (hi : i < n) (hn : n ≤ 2147483647) {v : Int} (hv : -32768 ≤ v ∧ v ≤ 32767) {ws' : va_W} (hset : ws.set q0 (x, .inl (dA 2, n, .inl (fun j => zI (va_up f i v j)))) = ws') (hdg : decode cc pc = .ok (.sastore, 1))
    (kk : ∀ (H1 : Heap) (locs1 : List Loc), va_P D vwCl ws' H1 → va_D A ws' → va_S A H0 H1 locs1 → W p l e R s m args below meth c H1 locs1 cells slots Q (F0 m (pc + 1) ls rest)) : W p l e R s m args below meth c H locs cells slots Q (F0 m pc ls (.int (zI v) :: .int (zI t) :: .ref x :: rest)) := by
  subst ht
  subst hset
  refine va_sast C.1.1 C.1.2.1 C.2.1 hP hD hS q0 2 he rfl (zI_in hi hn) hdg (fun H1 locs1 h1 h2 h3 => ?_)
  rw [zI_clampN (by omega), nar_short hv, upd_zI] at h1 h2
  exact kk H1 locs1 h1 h2 h3
theorem z_zast (C : zC p s m args c cc nL own D dA) (hP : va_P D vwCl ws H) (hD : va_D A ws) (hS : va_S A H0 H locs) (q0 : Nat) {n : Nat} {f : Nat → Bool} (he : ws[q0]? = some (x, .inl (dA 0, n, .inl (fun j => zB (f j))))) {t : Int} (i : Nat) (ht : t = (i : Int)) (hi : i < n) (hn : n ≤ 2147483647) {v : Bool} {ws' : va_W} (hset : ws.set q0 (x, .inl (dA 0, n, .inl (fun j => zB (va_up f i v j)))) = ws') (hdg : decode cc pc = .ok (.bastore, 1))
    (kk : ∀ (H1 : Heap) (locs1 : List Loc), va_P D vwCl ws' H1 → va_D A ws' → va_S A H0 H1 locs1 → W p l e R s m args below meth c H1 locs1 cells slots Q (F0 m (pc + 1) ls rest)) : W p l e R s m args below meth c H locs cells slots Q (F0 m pc ls (.int (zB v) :: .int (zI t) :: .ref x :: rest)) := by
  subst ht
  subst hset
  refine va_zast C.1.1 C.1.2.1 C.2.1 hP hD hS q0 0 he rfl (zI_in hi hn) hdg (fun H1 locs1 h1 h2 h3 => ?_)
  rw [zI_clampN (by omega), nar_bool, upd_zB] at h1 h2
  exact kk H1 locs1 h1 h2 h3
theorem z_last (C : zC p s m args c cc nL own D dA) (hP : va_P D vwCl ws H) (hD : va_D A ws) (hS : va_S A H0 H locs) (q0 : Nat) {n : Nat} {f : Nat → Int} (he : ws[q0]? = some (x, .inl (dA 4, n, .inr (.inl (fun j => lI (f j)))))) {t : Int} (i : Nat) (ht : t = (i : Int)) (hi : i < n) (hn : n ≤ 2147483647) {v : Int} {ws' : va_W} (hset : ws.set q0 (x, .inl (dA 4, n, .inr (.inl (fun j => lI (va_up f i v j))))) = ws') (hdg : decode cc pc = .ok (.lastore, 1))
    (kk : ∀ (H1 : Heap) (locs1 : List Loc), va_P D vwCl ws' H1 → va_D A ws' → va_S A H0 H1 locs1 → W p l e R s m args below meth c H1 locs1 cells slots Q (F0 m (pc + 1) ls rest)) : W p l e R s m args below meth c H locs cells slots Q (F0 m pc ls (.long (lI v) :: .int (zI t) :: .ref x :: rest)) := by
  subst ht
  subst hset
  refine va_last C.1.1 C.1.2.1 C.2.1 hP hD hS q0 4 he rfl (zI_in hi hn) hdg (fun H1 locs1 h1 h2 h3 => ?_)
  rw [zI_clampN (by omega), upd_lI] at h1 h2
  exact kk H1 locs1 h1 h2 h3
theorem z_vretG (C : zC p s m args c cc nL own D dA) (hlk : meth.locks = false) (hr : meth.sig.returnType = none) {mc ms : Nat} (hQ : Q = MQ below (zQG D v post w1 A) args s mc ms A) (u : S) (hv : v u = none) (hp : post u) (hP : va_P D vwCl (w1 u) H) (hD : va_D A (w1 u)) (hS : va_S A s.heap H locs) (hmc : cells ≤ mc) (hms : slots ≤ ms) (hdg : decode cc pc = .ok (.return_, 1)) : W p l e R s m args below meth c H locs cells slots Q (F0 m pc ls []) := by
  subst hQ
  refine W.widen hmc hms ?_
  exact W.vret C.1.1 C.1.2.1 hr (fun t ht _ => ⟨u, by rw [hv], hp, by rw [ht]; exact hP, hD, hS.F ht⟩) hS.2.2 hdg hlk
theorem z_iretG (C : zC p s m args c cc nL own D dA) (hlk : meth.locks = false) (hr : meth.sig.returnType = some .int) {mc ms : Nat} (hQ : Q = MQ below (zQG D v post w1 A) args s mc ms A) {a : Int} (u : S) (hv : v u = some (.int (zI a))) (hp : post u) (hP : va_P D vwCl (w1 u) H) (hD : va_D A (w1 u)) (hS : va_S A s.heap H locs) (hmc : cells ≤ mc) (hms : slots ≤ ms) (hdg : decode cc pc = .ok (.ireturn, 1)) : W p l e R s m args below meth c H locs cells slots Q (F0 m pc ls [.int (zI a)]) := by
  subst hQ
  refine W.widen hmc hms ?_
  exact W.iret C.1.1 C.1.2.1 hr (fun t ht _ => ⟨u, by rw [hv], hp, by rw [ht]; exact hP, hD, hS.F ht⟩) hS.2.2 hdg hlk
theorem z_zretG (C : zC p s m args c cc nL own D dA) (hlk : meth.locks = false) (hr : meth.sig.returnType = some .boolean) {mc ms : Nat} (hQ : Q = MQ below (zQG D v post w1 A) args s mc ms A) {a : Bool} (u : S) (hv : v u = some (.int (zB a))) (hp : post u) (hP : va_P D vwCl (w1 u) H) (hD : va_D A (w1 u)) (hS : va_S A s.heap H locs) (hmc : cells ≤ mc) (hms : slots ≤ ms) (hdg : decode cc pc = .ok (.ireturn, 1)) : W p l e R s m args below meth c H locs cells slots Q (F0 m pc ls [.int (zB a)]) := by
  subst hQ
  refine W.widen hmc hms ?_
  exact W.zret C.1.1 C.1.2.1 hr (zB_nar _) (fun t ht _ => ⟨u, by rw [hv], hp, by rw [ht]; exact hP, hD, hS.F ht⟩) hS.2.2 hdg hlk
theorem z_lretG (C : zC p s m args c cc nL own D dA) (hlk : meth.locks = false) (hr : meth.sig.returnType = some .long) {mc ms : Nat} (hQ : Q = MQ below (zQG D v post w1 A) args s mc ms A) {a : Int} (u : S) (hv : v u = some (.long (lI a))) (hp : post u) (hP : va_P D vwCl (w1 u) H) (hD : va_D A (w1 u)) (hS : va_S A s.heap H locs) (hmc : cells ≤ mc) (hms : slots ≤ ms) (hdg : decode cc pc = .ok (.lreturn, 1)) : W p l e R s m args below meth c H locs cells slots Q (F0 m pc ls [.long (lI a)]) := by
  subst hQ
  refine W.widen hmc hms ?_
  exact W.lret C.1.1 C.1.2.1 hr (fun t ht _ => ⟨u, by rw [hv], hp, by rw [ht]; exact hP, hD, hS.F ht⟩) hS.2.2 hdg hlk
theorem z_aretG (C : zC p s m args c cc nL own D dA) (hlk : meth.locks = false) {rt : FieldType} (hr : meth.sig.returnType = some rt) (hrt : (∃ n, rt = .object n) ∨ ∃ t, rt = .array t) {mc ms : Nat} (hQ : Q = MQ below (zQG D v post w1 A) args s mc ms A) {a : Value} (ha : a = .null ∨ ∃ q, a = .ref q) (u : S) (hv : v u = some a) (hp : post u) (hP : va_P D vwCl (w1 u) H) (hD : va_D A (w1 u)) (hS : va_S A s.heap H locs) (hmc : cells ≤ mc) (hms : slots ≤ ms) (hdg : decode cc pc = .ok (.areturn, 1)) : W p l e R s m args below meth c H locs cells slots Q (F0 m pc ls [a]) := by
  subst hQ
  refine W.widen hmc hms ?_
  exact W.aret C.1.1 C.1.2.1 hr hrt ha (fun t ht _ => ⟨u, by rw [hv], hp, by rw [ht]; exact hP, hD, hS.F ht⟩) hS.2.2 hdg hlk
end ZV
