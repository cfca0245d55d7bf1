/-! ROWS 5: what is new -/
def z0 : Nat → Int := fun _ => 0
def zb0 : Nat → Bool := fun _ => false
section ZR5
variable {p : Program} {l : Launch} {e : Env} {R : Room} {s : State} {m : MethodId} {args : Array Value} {below : List Frame} {meth : Method} {c : Code} {H : Heap} {locs : List Loc} {cells slots : Nat} {Q : State → Prop}
variable {cc : ByteArray} {nL : Nat} {own : String} {D : va_G} {dA : Nat → ClassId} {pc : Nat} {ls : Array Slot} {rest : List Value} {A : Nat → Prop} {ws : va_W} {H0 : Heap}
theorem z_obj (C : zC p s m args c cc nL own D dA) {index a : Nat} (hlink : Cond.methodLink own index objectInit ∈ lw_all) (hz : ls.size = nL) (hf : 1 ≤ R.frames) (hlo : 20 ≤ R.locals) (hdg : decode cc pc = .ok (.invokespecial index, 3))
    (k : W p l e R s m args below meth c H locs cells slots Q (F0 m (pc + 3) ls [])) : W p l e R s m args below meth c H locs cells slots Q (F0 m pc ls [.ref a]) := by
  refine W.objInit C.1.1 C.1.2.1 C.1.2.2.2.1 (C.1.2.2.2.2 _ hlink) (C.1.2.2.2.2 _ q155) (C.1.2.2.2.2 _ q156) rfl (by rw [C.1.2.2.1]; exact hz) rfl hdg hf (by have h0 : (F0 m pc ls [Value.ref a]).monitorRoom = 0 := rfl; rw [h0]; simp only [List.map_nil, List.sum_nil]; omega) ?_
  exact k
theorem z_newZ (C : zC p s m args c cc nL own D dA) (hP : va_P D vwCl ws H) (hD : va_D A ws) (hS : va_S A H0 H locs) (hA : ∀ q, H0.size ≤ q → A q) {t : Int} (n : Nat) (ht : t = (n : Int)) (hn : n ≤ 1000000) (hcells : cells + 1 ≤ R.cells) (hslots : slots + n ≤ R.slots) (hdg : decode cc pc = .ok (.newarray .boolean, 2))
    (kk : ∀ (q : Nat) (H1 : Heap), va_P D vwCl (ws ++ [(q, .inl (dA 0, n, .inl (fun jz => zB (zb0 jz))))]) H1 → va_D A (ws ++ [(q, .inl (dA 0, n, .inl (fun jz => zB (zb0 jz))))]) → va_S A H0 H1 locs → W p l e R s m args below meth c H1 locs (cells + 1) (slots + n) Q (F0 m (pc + 2) ls (.ref q :: rest))) : W p l e R s m args below meth c H locs cells slots Q (F0 m pc ls (.int (zI t) :: rest)) := by
  subst ht
  have hcl : (zI (n : Int)).toNatClampNeg = n := zI_clampN (by omega)
  have h9 : componentBytes .boolean ≤ 8 := by decide
  have hby : n * componentBytes .boolean ≤ 536870912 := Nat.le_trans (Nat.mul_le_mul hn h9) (by decide)
  refine va_newa (atype := .boolean) C.1.1 C.1.2.1 (C.1.2.2.2.2 _ q459) (ty := .boolean) rfl C.2.1 hP hD hS hA (a0 := (n, .inl (fun jz => zB (zb0 jz)))) (N' := n) (fun cA => rfl) (fun q => by rw [Int32.lt_iff_toInt_lt, zI_toInt ⟨by omega, by omega⟩] at q; have : (0 : Int32).toInt = 0 := rfl; omega) hcl hby hcells hslots hdg (fun q cA H1 hK1 hP1 hD1 hS1 => ?_)
  have h1 : s.vm.findClass ("[" ++ FieldType.toString .boolean) = some cA := (hK1.2 10 (cA, .boolean) rfl).2
  have h2 : s.vm.findClass ("[" ++ FieldType.toString .boolean) = some (dA 0) := (C.2.1.2 0 (dA 0, .boolean) rfl).2
  have h3 : cA = dA 0 := Option.some.inj (h1.symm.trans h2)
  subst h3
  exact kk q H1 hP1 hD1 hS1
theorem z_newB (C : zC p s m args c cc nL own D dA) (hP : va_P D vwCl ws H) (hD : va_D A ws) (hS : va_S A H0 H locs) (hA : ∀ q, H0.size ≤ q → A q) {t : Int} (n : Nat) (ht : t = (n : Int)) (hn : n ≤ 1000000) (hcells : cells + 1 ≤ R.cells) (hslots : slots + n ≤ R.slots) (hdg : decode cc pc = .ok (.newarray .byte, 2))
    (kk : ∀ (q : Nat) (H1 : Heap), va_P D vwCl (ws ++ [(q, .inl (dA 1, n, .inl (fun jz => zI (z0 jz))))]) H1 → va_D A (ws ++ [(q, .inl (dA 1, n, .inl (fun jz => zI (z0 jz))))]) → va_S A H0 H1 locs → W p l e R s m args below meth c H1 locs (cells + 1) (slots + n) Q (F0 m (pc + 2) ls (.ref q :: rest))) : W p l e R s m args below meth c H locs cells slots Q (F0 m pc ls (.int (zI t) :: rest)) := by
  subst ht
  have hcl : (zI (n : Int)).toNatClampNeg = n := zI_clampN (by omega)
  have h9 : componentBytes .byte ≤ 8 := by decide
  have hby : n * componentBytes .byte ≤ 536870912 := Nat.le_trans (Nat.mul_le_mul hn h9) (by decide)
  refine va_newa (atype := .byte) C.1.1 C.1.2.1 (C.1.2.2.2.2 _ q230) (ty := .byte) rfl C.2.1 hP hD hS hA (a0 := (n, .inl (fun jz => zI (z0 jz)))) (N' := n) (fun cA => rfl) (fun q => by rw [Int32.lt_iff_toInt_lt, zI_toInt ⟨by omega, by omega⟩] at q; have : (0 : Int32).toInt = 0 := rfl; omega) hcl hby hcells hslots hdg (fun q cA H1 hK1 hP1 hD1 hS1 => ?_)
  have h1 : s.vm.findClass ("[" ++ FieldType.toString .byte) = some cA := (hK1.2 10 (cA, .byte) rfl).2
  have h2 : s.vm.findClass ("[" ++ FieldType.toString .byte) = some (dA 1) := (C.2.1.2 1 (dA 1, .byte) rfl).2
  have h3 : cA = dA 1 := Option.some.inj (h1.symm.trans h2)
  subst h3
  exact kk q H1 hP1 hD1 hS1
theorem z_newS (C : zC p s m args c cc nL own D dA) (hP : va_P D vwCl ws H) (hD : va_D A ws) (hS : va_S A H0 H locs) (hA : ∀ q, H0.size ≤ q → A q) {t : Int} (n : Nat) (ht : t = (n : Int)) (hn : n ≤ 1000000) (hcells : cells + 1 ≤ R.cells) (hslots : slots + n ≤ R.slots) (hdg : decode cc pc = .ok (.newarray .short, 2))
    (kk : ∀ (q : Nat) (H1 : Heap), va_P D vwCl (ws ++ [(q, .inl (dA 2, n, .inl (fun jz => zI (z0 jz))))]) H1 → va_D A (ws ++ [(q, .inl (dA 2, n, .inl (fun jz => zI (z0 jz))))]) → va_S A H0 H1 locs → W p l e R s m args below meth c H1 locs (cells + 1) (slots + n) Q (F0 m (pc + 2) ls (.ref q :: rest))) : W p l e R s m args below meth c H locs cells slots Q (F0 m pc ls (.int (zI t) :: rest)) := by
  subst ht
  have hcl : (zI (n : Int)).toNatClampNeg = n := zI_clampN (by omega)
  have h9 : componentBytes .short ≤ 8 := by decide
  have hby : n * componentBytes .short ≤ 536870912 := Nat.le_trans (Nat.mul_le_mul hn h9) (by decide)
  refine va_newa (atype := .short) C.1.1 C.1.2.1 (C.1.2.2.2.2 _ q280) (ty := .short) rfl C.2.1 hP hD hS hA (a0 := (n, .inl (fun jz => zI (z0 jz)))) (N' := n) (fun cA => rfl) (fun q => by rw [Int32.lt_iff_toInt_lt, zI_toInt ⟨by omega, by omega⟩] at q; have : (0 : Int32).toInt = 0 := rfl; omega) hcl hby hcells hslots hdg (fun q cA H1 hK1 hP1 hD1 hS1 => ?_)
  have h1 : s.vm.findClass ("[" ++ FieldType.toString .short) = some cA := (hK1.2 10 (cA, .short) rfl).2
  have h2 : s.vm.findClass ("[" ++ FieldType.toString .short) = some (dA 2) := (C.2.1.2 2 (dA 2, .short) rfl).2
  have h3 : cA = dA 2 := Option.some.inj (h1.symm.trans h2)
  subst h3
  exact kk q H1 hP1 hD1 hS1
theorem z_newI (C : zC p s m args c cc nL own D dA) (hP : va_P D vwCl ws H) (hD : va_D A ws) (hS : va_S A H0 H locs) (hA : ∀ q, H0.size ≤ q → A q) {t : Int} (n : Nat) (ht : t = (n : Int)) (hn : n ≤ 1000000) (hcells : cells + 1 ≤ R.cells) (hslots : slots + n ≤ R.slots) (hdg : decode cc pc = .ok (.newarray .int, 2))
    (kk : ∀ (q : Nat) (H1 : Heap), va_P D vwCl (ws ++ [(q, .inl (dA 3, n, .inl (fun jz => zI (z0 jz))))]) H1 → va_D A (ws ++ [(q, .inl (dA 3, n, .inl (fun jz => zI (z0 jz))))]) → va_S A H0 H1 locs → W p l e R s m args below meth c H1 locs (cells + 1) (slots + n) Q (F0 m (pc + 2) ls (.ref q :: rest))) : W p l e R s m args below meth c H locs cells slots Q (F0 m pc ls (.int (zI t) :: rest)) := by
  subst ht
  have hcl : (zI (n : Int)).toNatClampNeg = n := zI_clampN (by omega)
  have h9 : componentBytes .int ≤ 8 := by decide
  have hby : n * componentBytes .int ≤ 536870912 := Nat.le_trans (Nat.mul_le_mul hn h9) (by decide)
  refine va_newa (atype := .int) C.1.1 C.1.2.1 (C.1.2.2.2.2 _ q350) (ty := .int) rfl C.2.1 hP hD hS hA (a0 := (n, .inl (fun jz => zI (z0 jz)))) (N' := n) (fun cA => rfl) (fun q => by rw [Int32.lt_iff_toInt_lt, zI_toInt ⟨by omega, by omega⟩] at q; have : (0 : Int32).toInt = 0 := rfl; omega) hcl hby hcells hslots hdg (fun q cA H1 hK1 hP1 hD1 hS1 => ?_)
  have h1 : s.vm.findClass ("[" ++ FieldType.toString .int) = some cA := (hK1.2 10 (cA, .int) rfl).2
  have h2 : s.vm.findClass ("[" ++ FieldType.toString .int) = some (dA 3) := (C.2.1.2 3 (dA 3, .int) rfl).2
  have h3 : cA = dA 3 := Option.some.inj (h1.symm.trans h2)
  subst h3
  exact kk q H1 hP1 hD1 hS1
theorem z_newL (C : zC p s m args c cc nL own D dA) (hP : va_P D vwCl ws H) (hD : va_D A ws) (hS : va_S A H0 H locs) (hA : ∀ q, H0.size ≤ q → A q) {t : Int} (n : Nat) (ht : t = (n : Int)) (hn : n ≤ 1000000) (hcells : cells + 1 ≤ R.cells) (hslots : slots + n ≤ R.slots) (hdg : decode cc pc = .ok (.newarray .long, 2))
    (kk : ∀ (q : Nat) (H1 : Heap), va_P D vwCl (ws ++ [(q, .inl (dA 4, n, .inr (.inl (fun jz => lI (z0 jz)))))]) H1 → va_D A (ws ++ [(q, .inl (dA 4, n, .inr (.inl (fun jz => lI (z0 jz)))))]) → va_S A H0 H1 locs → W p l e R s m args below meth c H1 locs (cells + 1) (slots + n) Q (F0 m (pc + 2) ls (.ref q :: rest))) : W p l e R s m args below meth c H locs cells slots Q (F0 m pc ls (.int (zI t) :: rest)) := by
  subst ht
  have hcl : (zI (n : Int)).toNatClampNeg = n := zI_clampN (by omega)
  have h9 : componentBytes .long ≤ 8 := by decide
  have hby : n * componentBytes .long ≤ 536870912 := Nat.le_trans (Nat.mul_le_mul hn h9) (by decide)
  refine va_newa (atype := .long) C.1.1 C.1.2.1 (C.1.2.2.2.2 _ q500) (ty := .long) rfl C.2.1 hP hD hS hA (a0 := (n, .inr (.inl (fun jz => lI (z0 jz))))) (N' := n) (fun cA => rfl) (fun q => by rw [Int32.lt_iff_toInt_lt, zI_toInt ⟨by omega, by omega⟩] at q; have : (0 : Int32).toInt = 0 := rfl; omega) hcl hby hcells hslots hdg (fun q cA H1 hK1 hP1 hD1 hS1 => ?_)
  have h1 : s.vm.findClass ("[" ++ FieldType.toString .long) = some cA := (hK1.2 10 (cA, .long) rfl).2
  have h2 : s.vm.findClass ("[" ++ FieldType.toString .long) = some (dA 4) := (C.2.1.2 4 (dA 4, .long) rfl).2
  have h3 : cA = dA 4 := Option.some.inj (h1.symm.trans h2)
  subst h3
  exact kk q H1 hP1 hD1 hS1
theorem z_newq (C : zC p s m args c cc nL own D dA) (hP : va_P D vwCl ws H) (hD : va_D A ws) (hS : va_S A H0 H locs) (hA : ∀ q, H0.size ≤ q → A q) {Cn : String} {index : Nat} (kd : Nat) (hkd : (zTy dA)[kd]? = some (dA kd, .object Cn)) (hkl : kd < 10) (hlink : Cond.classLink own index Cn ∈ lw_all) (hov : Cn ∈ zOver) {t : Int} (n : Nat) (ht : t = (n : Int)) (hn : n ≤ 1000000) (hcells : cells + 1 ≤ R.cells) (hslots : slots + n ≤ R.slots) (hdg : decode cc pc = .ok (.anewarray index, 3))
    (kk : ∀ (q : Nat) (H1 : Heap), va_P D vwCl (ws ++ [(q, .inl (dA kd, n, .inr (.inr (.inr (.inr (fun _ => none))))))]) H1 → va_D A (ws ++ [(q, .inl (dA kd, n, .inr (.inr (.inr (.inr (fun _ => none))))))]) → va_S A H0 H1 locs → W p l e R s m args below meth c H1 locs (cells + 1) (slots + n) Q (F0 m (pc + 3) ls (.ref q :: rest))) : W p l e R s m args below meth c H locs cells slots Q (F0 m pc ls (.int (zI t) :: rest)) := by
  subst ht
  have hcl : (zI (n : Int)).toNatClampNeg = n := zI_clampN (by omega)
  refine va_newq C.1.1 C.1.2.1 C.1.2.2.2.1 (C.1.2.2.2.2 _ hlink) (C.2.2.2.2.2.1 _ hov) C.2.1 hP hD hS hA (N' := n) (fun q => by rw [Int32.lt_iff_toInt_lt, zI_toInt ⟨by omega, by omega⟩] at q; have : (0 : Int32).toInt = 0 := rfl; omega) hcl (by omega) hcells hslots hdg (fun q cA H1 hK1 hP1 hD1 hS1 => ?_)
  obtain ⟨_, _, _, _, _, h1⟩ := (hK1.2 10 (cA, .object Cn) rfl).2
  obtain ⟨_, _, _, _, _, h2⟩ := (C.2.1.2 kd (dA kd, .object Cn) hkd).2
  have h3 : cA = dA kd := Option.some.inj (h1.symm.trans h2)
  subst h3
  exact kk q H1 hP1 hD1 hS1
theorem z_new (C : zC p s m args c cc nL own D dA) (hP : va_P D vwCl ws H) (hD : va_D A ws) (hS : va_S A H0 H locs) (hA : ∀ q, H0.size ≤ q → A q) {Cn : String} {T : u_T} {N index : Nat} (ci : Nat) (hc : vwCl[ci]? = some (Cn, T, N)) (hin : ∀ w ∈ u_ws Cn T N, w ∈ lw_all) {ty0 : Nat → FieldType} (hty : ∀ k, k < N → parseFieldDescriptor (T k).2.2.1 = some (ty0 k)) (hlink : Cond.classLink own index Cn ∈ lw_all) (hinst : Cond.instantiable Cn N ∈ lw_all) (hini : Cond.initialized Cn ∈ lw_all) {fs : List Value} (hfs : ∀ j, j < N → defaultValue (ty0 j) = vp_V fs j) (hcells : cells + 1 ≤ R.cells) (hslots : slots + N ≤ R.slots) (hdg : decode cc pc = .ok (.new index, 3))
    (kk : ∀ (q : Nat) (H1 : Heap), va_P D vwCl (ws ++ [(q, .inr (ci, fs))]) H1 → va_D A (ws ++ [(q, .inr (ci, fs))]) → va_S A H0 H1 locs → W p l e R s m args below meth c H1 locs (cells + 1) (slots + N) Q (F0 m (pc + 3) ls (.ref q :: rest))) : W p l e R s m args below meth c H locs cells slots Q (F0 m pc ls rest) :=
  va_new C.1.1 C.1.2.1 C.1.2.2.2.2 hin ty0 hty C.1.2.2.2.1 (C.1.2.2.2.2 _ hlink) (C.1.2.2.2.2 _ hinst) (C.1.2.2.2.2 _ hini) C.2.1 hP hD hS hA hc hfs hcells hslots hdg kk
variable {y : MethodName} {bytes : ByteArray} {maxL index : Nat} {b n : Nat} {As st0 : List Value} {wc wr : va_W} {S : Type} {v : S → Option Value} {post : S → Prop} {w1 : S → va_W} {rm : Room}
/-- a nest mate's constructor's call -/
theorem z_gIN (C : zC p s m args c cc nL own D dA) (hP : va_P D vwCl ws H) (hD : va_D A ws) (hS : va_S A H0 H locs) (hA : ∀ q, H0.size ≤ q → A q) (isC isR : List Nat) (hC : isC.map (fun i => ws[i]?) = wc.map some) (hR : isR.map (fun i => ws[i]?) = wr.map some) (hn1 : va_nd isC = true) (hn2 : va_nd isR = true) (hdis : ∀ i ∈ isR, i ∉ isC) (hM : zG l y bytes maxL none rm D dA (.ref b :: As) wc v post w1) (hnest : (own, index, y) ∈ zNestM) (hcode : Cond.code y bytes maxL none ∈ lw_all) (hini : Cond.initialized y.cls ∈ lw_all) (hinst : Cond.instanceMethod y ∈ lw_all) (hy1 : y.name = "<init>")
    (hd : y.cls ≠ "java/lang/invoke/MethodHandle" ∧ y.cls ≠ "java/lang/invoke/VarHandle" ∧ (parseMethodDescriptor y.desc).map (fun d => d.parameters.length) = some n) (hn : As.length = n) (hRm : rm.frames + 1 ≤ R.frames ∧ 8 + (maxL + 11) + rm.locals ≤ R.locals) (hz : ls.size = nL)
    (hst : st0 = As.reverse ++ .ref b :: rest) (hroom : (rest.map fun v => v.category).sum ≤ 8) (hdg : decode cc pc = .ok (.invokespecial index, 3)) (hcells : cells + rm.cells ≤ R.cells) (hslots : slots + rm.slots ≤ R.slots)
    (kk : ∀ (u : S) (H1 : Heap) (locs1 : List Loc), post u → va_P D vwCl (wr ++ w1 u) H1 → va_D A (wr ++ w1 u) → va_S A H0 H1 locs1 → (∀ q : Nat, q < H.size → ¬ va_A wc H.size q → H1[q]? = H[q]?) → W p l e R s m args below meth c H1 locs1 (cells + rm.cells) (slots + rm.slots) Q (F0 m (pc + 3) ls ((v u).toList ++ rest))) : W p l e R s m args below meth c H locs cells slots Q (F0 m pc ls st0) := by
  refine z_writes (rm := rm) hP hD hS hA isC isR hC hR hn1 hn2 hdis ?_ kk
  exact va_runIN (As := As) (rest := rest) (host := "SpinStrip") C.1 (hM H.size) ⟨va_cnB n C.1.2.2.2.2 (lw_meth hcode) rfl rfl rfl (C.2.2.1 _ hnest) (C.1.2.2.2.2 _ hini) hd hRm, hy1, C.1.2.2.2.2 _ hinst⟩ ⟨zPreW.blind, fun U hU hW => ⟨rfl, C.2.warm hW, by rw [hU], by rw [hU]; exact hP.sub isC (by rw [List.filterMap_eq_of_map hC]), (hD.sub isC hn1 hC).weaken (fun _ _ _ _ => trivial)⟩⟩ rfl hn hz hst (lv_room hroom) hdg ⟨hcells, hslots⟩
end ZR5
