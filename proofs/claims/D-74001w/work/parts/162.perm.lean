/-! CALLS IN A WORLD OF PIECES IN ANY ORDER (printed by tools/mkperm.py) -/
theorem perm_ct {α : Type} {l1 l2 : List α} (h : ∀ p : α → Bool, l1.countP p = l2.countP p) : l1.Perm l2 := by
  classical
  exact List.perm_iff_count.mpr (fun a => h (fun x => x == a))
theorem P_mem {D : va_G} {ws : va_W} {H : Heap} {c9 : Nat × va_E} (h : va_P D vwCl ws H) (hm : c9 ∈ ws) : va_P D vwCl [c9] H := by
  rw [P_iff] at h ⊢
  intro q hq
  rw [List.mem_singleton.mp hq]
  exact h _ hm
theorem P_all {D : va_G} {ws Y : va_W} {H : Heap} (h : va_P D vwCl ws H) (hm : ∀ q ∈ Y, q ∈ ws) : va_P D vwCl Y H := by
  rw [P_iff] at h ⊢
  exact fun q hq => h q (hm q hq)
theorem P_part {D : va_G} {ws X Y : va_W} {H : Heap} (hp : ws.Perm (X ++ Y)) (h : va_P D vwCl ws H) : va_P D vwCl Y H := P_pool (X := X) (P_perm hp h)
/-- one of a pool is taken out -/
theorem pl_take {L : List Nat} {E : Nat → va_E} {a : Nat} (h : a ∈ L) : (va_pl L E).Perm ((a, E a) :: va_pl (L.erase a) E) := (List.perm_cons_erase h).map _
/-- and put back, changed -/
theorem pl_put {L : List Nat} {E E' : Nat → va_E} {a : Nat} {v : va_E} (h : a ∈ L) (hn : L.Nodup) (h1 : E' a = v) (h2 : ∀ q, q ≠ a → E' q = E q) : ((a, v) :: va_pl (L.erase a) E).Perm (va_pl L E') := by
  refine List.Perm.trans ?_ (pl_take h).symm
  rw [h1]
  refine List.Perm.cons _ ?_
  have e9 : va_pl (L.erase a) E = va_pl (L.erase a) E' := by
    unfold va_pl
    refine List.map_congr_left (fun q hq => ?_)
    have : q ≠ a := fun z => (List.Nodup.not_mem_erase hn) (z ▸ hq)
    rw [h2 q this]
  rw [e9]
section ZPM
variable {p : Program} {l : Launch} {e : Env} {R : Room} {s : State} {m : MethodId} {args : Array Value} {below : List Frame} {meth : Method} {c : Code} {H : Heap} {locs : List Loc} {cells slots : Nat} {Q : State → Prop}
variable {cc : ByteArray} {nL : Nat} {own : String} {D : va_G} {dA : Nat → ClassId} {pc : Nat} {ls : Array Slot} {rest st0 : List Value} {A : Nat → Prop} {x : Nat} {ws : va_W} {H0 : Heap}
variable {y : MethodName} {bytes : ByteArray} {maxL index : Nat} {ret : Option FieldType} {b n : Nat} {As av : List Value} {X Y : va_W} {S : Type} {v : S → Option Value} {post : S → Prop} {w1 : S → va_W} {rm : Room}
variable {B : Nat} {en : Nat → Nat → Nat} {fz f9 : zFt}
theorem z_hVq (C : zC p s m args c cc nL own D dA) (hV : zEv B en fz A s) (hP : va_P D vwCl ws H) (hD : va_D A ws) (hS : va_S A s.heap H locs) (hA : ∀ q, s.heap.size ≤ q → A q) (hp : ws.Perm (X ++ Y)) (hM : zH l y bytes maxL ret rm B en f9 D dA (.ref b :: As) Y v post w1) (hf9 : zFI f9 (va_A Y H.size) s H) (hw : GoodIn lw_all (wsV own index y.cls y (ws_ y bytes maxL ret)))
    (hd : y.cls = y.cls ∧ y.cls ≠ "java/lang/invoke/MethodHandle" ∧ y.cls ≠ "java/lang/invoke/VarHandle" ∧ (parseMethodDescriptor y.desc).map (fun d => d.parameters.length) = some n) (hn : As.length = n) (hRm : rm.frames + 1 ≤ R.frames ∧ 8 + (maxL + 11) + rm.locals ≤ R.locals) (hz : ls.size = nL) {ci : Nat} {fs : List Value} {T : u_T} {N : Nat} (hq : ((b, .inr (ci, fs)) : Nat × va_E) ∈ ws) (hc : vwCl[ci]? = some (y.cls, T, N))
    (hst : st0 = As.reverse ++ .ref b :: rest) (hroom : (rest.map fun v => v.category).sum ≤ 8) (hdg : decode cc pc = .ok (.invokevirtual index, 3)) (hcells : cells + rm.cells ≤ R.cells) (hslots : slots + rm.slots ≤ R.slots)
    (kk : ∀ (u : S) (H1 : Heap) (locs1 : List Loc), post u → va_P D vwCl (X ++ w1 u) H1 → va_D A (X ++ w1 u) → va_S A s.heap H1 locs1 → W p l e R s m args below meth c H1 locs1 (cells + rm.cells) (slots + rm.slots) Q (F0 m (pc + 3) ls ((v u).toList ++ rest))) : W p l e R s m args below meth c H locs cells slots Q (F0 m pc ls st0) := by
  have hP9 := P_perm hp hP
  have hD9 := D_perm hp hD
  have hC : (ixR X.length Y.length).map (fun i => (X ++ Y)[i]?) = Y.map some := ixR_ok X Y
  obtain ⟨q0, h0⟩ := List.getElem?_of_mem (hp.mem_iff.mp hq)
  exact z_hV (wr := X) C hV hP9 hD9 hS hA (ixR X.length Y.length) (ixC X.length) hC (ixC_ok X Y) (ixR_nd _ _) (ixC_nd _) (fun i h1 h2 => ix_dis _ _ i h2 h1) hM hf9 hw hd hn hRm hz q0 h0 hc hst hroom hdg hcells hslots (fun u H1 l1 a1 a2 a3 a4 _ => kk u H1 l1 a1 a2 a3 a4)
theorem z_hIq (C : zC p s m args c cc nL own D dA) (hV : zEv B en fz A s) (hP : va_P D vwCl ws H) (hD : va_D A ws) (hS : va_S A s.heap H locs) (hA : ∀ q, s.heap.size ≤ q → A q) (hp : ws.Perm (X ++ Y)) (hM : zH l y bytes maxL none rm B en f9 D dA (.ref b :: As) Y v post w1) (hf9 : zFI f9 (va_A Y H.size) s H) (hcode : Cond.code y bytes maxL none ∈ lw_all) (hini : Cond.initialized y.cls ∈ lw_all) (hlink : Cond.methodLink own index y ∈ lw_all) (hinst : Cond.instanceMethod y ∈ lw_all) (hy1 : y.name = "<init>")
    (hd : y.cls ≠ "java/lang/invoke/MethodHandle" ∧ y.cls ≠ "java/lang/invoke/VarHandle" ∧ (parseMethodDescriptor y.desc).map (fun d => d.parameters.length) = some n) (hn : As.length = n) (hRm : rm.frames + 1 ≤ R.frames ∧ 8 + (maxL + 11) + rm.locals ≤ R.locals) (hz : ls.size = nL)
    (hst : st0 = As.reverse ++ .ref b :: rest) (hroom : (rest.map fun v => v.category).sum ≤ 8) (hdg : decode cc pc = .ok (.invokespecial index, 3)) (hcells : cells + rm.cells ≤ R.cells) (hslots : slots + rm.slots ≤ R.slots)
    (kk : ∀ (u : S) (H1 : Heap) (locs1 : List Loc), post u → va_P D vwCl (X ++ w1 u) H1 → va_D A (X ++ w1 u) → va_S A s.heap H1 locs1 → W p l e R s m args below meth c H1 locs1 (cells + rm.cells) (slots + rm.slots) Q (F0 m (pc + 3) ls ((v u).toList ++ rest))) : W p l e R s m args below meth c H locs cells slots Q (F0 m pc ls st0) := by
  have hP9 := P_perm hp hP
  have hD9 := D_perm hp hD
  have hC : (ixR X.length Y.length).map (fun i => (X ++ Y)[i]?) = Y.map some := ixR_ok X Y
  exact z_hI (wr := X) C hV hP9 hD9 hS hA (ixR X.length Y.length) (ixC X.length) hC (ixC_ok X Y) (ixR_nd _ _) (ixC_nd _) (fun i h1 h2 => ix_dis _ _ i h2 h1) hM hf9 hcode hini hlink hinst hy1 hd hn hRm hz hst hroom hdg hcells hslots (fun u H1 l1 a1 a2 a3 a4 _ => kk u H1 l1 a1 a2 a3 a4)
theorem z_hSq (C : zC p s m args c cc nL own D dA) (hV : zEv B en fz A s) (hP : va_P D vwCl ws H) (hD : va_D A ws) (hS : va_S A s.heap H locs) (hA : ∀ q, s.heap.size ≤ q → A q) (hp : ws.Perm (X ++ Y)) (hM : zH l y bytes maxL ret rm B en f9 D dA As Y v post w1) (hf9 : zFI f9 (va_A Y H.size) s H) (hw : GoodIn lw_all (va_wsS own index y (ws_ y bytes maxL ret)))
    (hd : y.cls ≠ "java/lang/invoke/MethodHandle" ∧ y.cls ≠ "java/lang/invoke/VarHandle" ∧ (parseMethodDescriptor y.desc).map (fun d => d.parameters.length) = some n) (hn : As.length = n) (hRm : rm.frames + 1 ≤ R.frames ∧ 8 + (maxL + 11) + rm.locals ≤ R.locals) (hz : ls.size = nL)
    (hst : st0 = As.reverse ++ rest) (hroom : (rest.map fun v => v.category).sum ≤ 8) (hdg : decode cc pc = .ok (.invokestatic index, 3)) (hcells : cells + rm.cells ≤ R.cells) (hslots : slots + rm.slots ≤ R.slots)
    (kk : ∀ (u : S) (H1 : Heap) (locs1 : List Loc), post u → va_P D vwCl (X ++ w1 u) H1 → va_D A (X ++ w1 u) → va_S A s.heap H1 locs1 → W p l e R s m args below meth c H1 locs1 (cells + rm.cells) (slots + rm.slots) Q (F0 m (pc + 3) ls ((v u).toList ++ rest))) : W p l e R s m args below meth c H locs cells slots Q (F0 m pc ls st0) := by
  have hP9 := P_perm hp hP
  have hD9 := D_perm hp hD
  have hC : (ixR X.length Y.length).map (fun i => (X ++ Y)[i]?) = Y.map some := ixR_ok X Y
  exact z_hS (wr := X) C hV hP9 hD9 hS hA (ixR X.length Y.length) (ixC X.length) hC (ixC_ok X Y) (ixR_nd _ _) (ixC_nd _) (fun i h1 h2 => ix_dis _ _ i h2 h1) hM hf9 hw hd hn hRm hz hst hroom hdg hcells hslots (fun u H1 l1 a1 a2 a3 a4 _ => kk u H1 l1 a1 a2 a3 a4)
theorem z_hINq (C : zC p s m args c cc nL own D dA) (hV : zEv B en fz A s) (hP : va_P D vwCl ws H) (hD : va_D A ws) (hS : va_S A s.heap H locs) (hA : ∀ q, s.heap.size ≤ q → A q) (hp : ws.Perm (X ++ Y)) (hM : zH l y bytes maxL none rm B en f9 D dA (.ref b :: As) Y v post w1) (hf9 : zFI f9 (va_A Y H.size) s H) (hnest : (own, index, y) ∈ zNestM) (hcode : Cond.code y bytes maxL none ∈ lw_all) (hini : Cond.initialized y.cls ∈ lw_all) (hinst : Cond.instanceMethod y ∈ lw_all) (hy1 : y.name = "<init>")
    (hd : y.cls ≠ "java/lang/invoke/MethodHandle" ∧ y.cls ≠ "java/lang/invoke/VarHandle" ∧ (parseMethodDescriptor y.desc).map (fun d => d.parameters.length) = some n) (hn : As.length = n) (hRm : rm.frames + 1 ≤ R.frames ∧ 8 + (maxL + 11) + rm.locals ≤ R.locals) (hz : ls.size = nL)
    (hst : st0 = As.reverse ++ .ref b :: rest) (hroom : (rest.map fun v => v.category).sum ≤ 8) (hdg : decode cc pc = .ok (.invokespecial index, 3)) (hcells : cells + rm.cells ≤ R.cells) (hslots : slots + rm.slots ≤ R.slots)
    (kk : ∀ (u : S) (H1 : Heap) (locs1 : List Loc), post u → va_P D vwCl (X ++ w1 u) H1 → va_D A (X ++ w1 u) → va_S A s.heap H1 locs1 → W p l e R s m args below meth c H1 locs1 (cells + rm.cells) (slots + rm.slots) Q (F0 m (pc + 3) ls ((v u).toList ++ rest))) : W p l e R s m args below meth c H locs cells slots Q (F0 m pc ls st0) := by
  have hP9 := P_perm hp hP
  have hD9 := D_perm hp hD
  have hC : (ixR X.length Y.length).map (fun i => (X ++ Y)[i]?) = Y.map some := ixR_ok X Y
  exact z_hIN (wr := X) C hV hP9 hD9 hS hA (ixR X.length Y.length) (ixC X.length) hC (ixC_ok X Y) (ixR_nd _ _) (ixC_nd _) (fun i h1 h2 => ix_dis _ _ i h2 h1) hM hf9 hnest hcode hini hinst hy1 hd hn hRm hz hst hroom hdg hcells hslots (fun u H1 l1 a1 a2 a3 a4 _ => kk u H1 l1 a1 a2 a3 a4)
theorem z_gVq (C : zC p s m args c cc nL own D dA) (hP : va_P D vwCl ws H) (hD : va_D A ws) (hS : va_S A H0 H locs) (hA : ∀ q, H0.size ≤ q → A q) (hp : ws.Perm (X ++ Y)) (hM : zG l y bytes maxL ret rm D dA (.ref b :: As) Y v post w1) (hw : GoodIn lw_all (wsV own index y.cls y (ws_ y bytes maxL ret)))
    (hd : y.cls = y.cls ∧ y.cls ≠ "java/lang/invoke/MethodHandle" ∧ y.cls ≠ "java/lang/invoke/VarHandle" ∧ (parseMethodDescriptor y.desc).map (fun d => d.parameters.length) = some n) (hn : As.length = n) (hRm : rm.frames + 1 ≤ R.frames ∧ 8 + (maxL + 11) + rm.locals ≤ R.locals) (hz : ls.size = nL) {ci : Nat} {fs : List Value} {T : u_T} {N : Nat} (hq : ((b, .inr (ci, fs)) : Nat × va_E) ∈ ws) (hc : vwCl[ci]? = some (y.cls, T, N))
    (hst : st0 = As.reverse ++ .ref b :: rest) (hroom : (rest.map fun v => v.category).sum ≤ 8) (hdg : decode cc pc = .ok (.invokevirtual index, 3)) (hcells : cells + rm.cells ≤ R.cells) (hslots : slots + rm.slots ≤ R.slots)
    (kk : ∀ (u : S) (H1 : Heap) (locs1 : List Loc), post u → va_P D vwCl (X ++ w1 u) H1 → va_D A (X ++ w1 u) → va_S A H0 H1 locs1 → W p l e R s m args below meth c H1 locs1 (cells + rm.cells) (slots + rm.slots) Q (F0 m (pc + 3) ls ((v u).toList ++ rest))) : W p l e R s m args below meth c H locs cells slots Q (F0 m pc ls st0) := by
  have hP9 := P_perm hp hP
  have hD9 := D_perm hp hD
  have hC : (ixR X.length Y.length).map (fun i => (X ++ Y)[i]?) = Y.map some := ixR_ok X Y
  obtain ⟨q0, h0⟩ := List.getElem?_of_mem (hp.mem_iff.mp hq)
  exact z_gV (wr := X) C hP9 hD9 hS hA (ixR X.length Y.length) (ixC X.length) hC (ixC_ok X Y) (ixR_nd _ _) (ixC_nd _) (fun i h1 h2 => ix_dis _ _ i h2 h1) hM hw hd hn hRm hz q0 h0 hc hst hroom hdg hcells hslots (fun u H1 l1 a1 a2 a3 a4 _ => kk u H1 l1 a1 a2 a3 a4)
theorem z_gIq (C : zC p s m args c cc nL own D dA) (hP : va_P D vwCl ws H) (hD : va_D A ws) (hS : va_S A H0 H locs) (hA : ∀ q, H0.size ≤ q → A q) (hp : ws.Perm (X ++ Y)) (hM : zG l y bytes maxL none rm D dA (.ref b :: As) Y v post w1) (hcode : Cond.code y bytes maxL none ∈ lw_all) (hini : Cond.initialized y.cls ∈ lw_all) (hlink : Cond.methodLink own index y ∈ lw_all) (hinst : Cond.instanceMethod y ∈ lw_all) (hy1 : y.name = "<init>")
    (hd : y.cls ≠ "java/lang/invoke/MethodHandle" ∧ y.cls ≠ "java/lang/invoke/VarHandle" ∧ (parseMethodDescriptor y.desc).map (fun d => d.parameters.length) = some n) (hn : As.length = n) (hRm : rm.frames + 1 ≤ R.frames ∧ 8 + (maxL + 11) + rm.locals ≤ R.locals) (hz : ls.size = nL)
    (hst : st0 = As.reverse ++ .ref b :: rest) (hroom : (rest.map fun v => v.category).sum ≤ 8) (hdg : decode cc pc = .ok (.invokespecial index, 3)) (hcells : cells + rm.cells ≤ R.cells) (hslots : slots + rm.slots ≤ R.slots)
    (kk : ∀ (u : S) (H1 : Heap) (locs1 : List Loc), post u → va_P D vwCl (X ++ w1 u) H1 → va_D A (X ++ w1 u) → va_S A H0 H1 locs1 → W p l e R s m args below meth c H1 locs1 (cells + rm.cells) (slots + rm.slots) Q (F0 m (pc + 3) ls ((v u).toList ++ rest))) : W p l e R s m args below meth c H locs cells slots Q (F0 m pc ls st0) := by
  have hP9 := P_perm hp hP
  have hD9 := D_perm hp hD
  have hC : (ixR X.length Y.length).map (fun i => (X ++ Y)[i]?) = Y.map some := ixR_ok X Y
  exact z_gI (wr := X) C hP9 hD9 hS hA (ixR X.length Y.length) (ixC X.length) hC (ixC_ok X Y) (ixR_nd _ _) (ixC_nd _) (fun i h1 h2 => ix_dis _ _ i h2 h1) hM hcode hini hlink hinst hy1 hd hn hRm hz hst hroom hdg hcells hslots (fun u H1 l1 a1 a2 a3 a4 _ => kk u H1 l1 a1 a2 a3 a4)
theorem z_gSq (C : zC p s m args c cc nL own D dA) (hP : va_P D vwCl ws H) (hD : va_D A ws) (hS : va_S A H0 H locs) (hA : ∀ q, H0.size ≤ q → A q) (hp : ws.Perm (X ++ Y)) (hM : zG l y bytes maxL ret rm D dA As Y v post w1) (hw : GoodIn lw_all (va_wsS own index y (ws_ y bytes maxL ret)))
    (hd : y.cls ≠ "java/lang/invoke/MethodHandle" ∧ y.cls ≠ "java/lang/invoke/VarHandle" ∧ (parseMethodDescriptor y.desc).map (fun d => d.parameters.length) = some n) (hn : As.length = n) (hRm : rm.frames + 1 ≤ R.frames ∧ 8 + (maxL + 11) + rm.locals ≤ R.locals) (hz : ls.size = nL)
    (hst : st0 = As.reverse ++ rest) (hroom : (rest.map fun v => v.category).sum ≤ 8) (hdg : decode cc pc = .ok (.invokestatic index, 3)) (hcells : cells + rm.cells ≤ R.cells) (hslots : slots + rm.slots ≤ R.slots)
    (kk : ∀ (u : S) (H1 : Heap) (locs1 : List Loc), post u → va_P D vwCl (X ++ w1 u) H1 → va_D A (X ++ w1 u) → va_S A H0 H1 locs1 → W p l e R s m args below meth c H1 locs1 (cells + rm.cells) (slots + rm.slots) Q (F0 m (pc + 3) ls ((v u).toList ++ rest))) : W p l e R s m args below meth c H locs cells slots Q (F0 m pc ls st0) := by
  have hP9 := P_perm hp hP
  have hD9 := D_perm hp hD
  have hC : (ixR X.length Y.length).map (fun i => (X ++ Y)[i]?) = Y.map some := ixR_ok X Y
  exact z_gS (wr := X) C hP9 hD9 hS hA (ixR X.length Y.length) (ixC X.length) hC (ixC_ok X Y) (ixR_nd _ _) (ixC_nd _) (fun i h1 h2 => ix_dis _ _ i h2 h1) hM hw hd hn hRm hz hst hroom hdg hcells hslots (fun u H1 l1 a1 a2 a3 a4 _ => kk u H1 l1 a1 a2 a3 a4)
theorem z_gINq (C : zC p s m args c cc nL own D dA) (hP : va_P D vwCl ws H) (hD : va_D A ws) (hS : va_S A H0 H locs) (hA : ∀ q, H0.size ≤ q → A q) (hp : ws.Perm (X ++ Y)) (hM : zG l y bytes maxL none rm D dA (.ref b :: As) Y v post w1) (hnest : (own, index, y) ∈ zNestM) (hcode : Cond.code y bytes maxL none ∈ lw_all) (hini : Cond.initialized y.cls ∈ lw_all) (hinst : Cond.instanceMethod y ∈ lw_all) (hy1 : y.name = "<init>")
    (hd : y.cls ≠ "java/lang/invoke/MethodHandle" ∧ y.cls ≠ "java/lang/invoke/VarHandle" ∧ (parseMethodDescriptor y.desc).map (fun d => d.parameters.length) = some n) (hn : As.length = n) (hRm : rm.frames + 1 ≤ R.frames ∧ 8 + (maxL + 11) + rm.locals ≤ R.locals) (hz : ls.size = nL)
    (hst : st0 = As.reverse ++ .ref b :: rest) (hroom : (rest.map fun v => v.category).sum ≤ 8) (hdg : decode cc pc = .ok (.invokespecial index, 3)) (hcells : cells + rm.cells ≤ R.cells) (hslots : slots + rm.slots ≤ R.slots)
    (kk : ∀ (u : S) (H1 : Heap) (locs1 : List Loc), post u → va_P D vwCl (X ++ w1 u) H1 → va_D A (X ++ w1 u) → va_S A H0 H1 locs1 → W p l e R s m args below meth c H1 locs1 (cells + rm.cells) (slots + rm.slots) Q (F0 m (pc + 3) ls ((v u).toList ++ rest))) : W p l e R s m args below meth c H locs cells slots Q (F0 m pc ls st0) := by
  have hP9 := P_perm hp hP
  have hD9 := D_perm hp hD
  have hC : (ixR X.length Y.length).map (fun i => (X ++ Y)[i]?) = Y.map some := ixR_ok X Y
  exact z_gIN (wr := X) C hP9 hD9 hS hA (ixR X.length Y.length) (ixC X.length) hC (ixC_ok X Y) (ixR_nd _ _) (ixC_nd _) (fun i h1 h2 => ix_dis _ _ i h2 h1) hM hnest hcode hini hinst hy1 hd hn hRm hz hst hroom hdg hcells hslots (fun u H1 l1 a1 a2 a3 a4 _ => kk u H1 l1 a1 a2 a3 a4)
theorem fz_q (hp : ws.Perm (X ++ Y)) (hD : va_D A ws) (hS : va_S A s.heap H locs) (hA : ∀ q, s.heap.size ≤ q → A q) (h : zFI f9 A s H) : zFI f9 (va_A Y H.size) s H := h.narrow (va_free (D_perm hp hD) hS hA (ixR X.length Y.length) (ixR_ok X Y))
theorem z_vo (C : zC p s m args c cc nL own D dA) (hP : va_P D vwCl ws H) {y0 : Nat} {ci : Nat} {fs : List Value} (he : ((y0, .inr (ci, fs)) : Nat × va_E) ∈ ws) {Cn : String} {T : u_T} {N : Nat} (hc : vwCl[ci]? = some (Cn, T, N)) {A1 : Nat → Prop} (hA : ¬ A1 y0) : va_O Cn y0 A1 s H := by
  obtain ⟨q0, hq⟩ := List.getElem?_of_mem he
  obtain ⟨r, h1, cell, q1, q2, q3, q4⟩ := hP q0 _ hq
  have hr : r = (Cn, T, N) := Option.some.inj (h1.symm.trans hc)
  subst hr
  obtain ⟨hS, hfc, kC, hkC, hkind⟩ := C.2.1.1 ci _ hc
  exact ⟨cell, q1, by rw [q3]; rfl, by rw [q2]; exact hfc, hA⟩
/-- what is kept lies beside what goes to the callee -/
theorem frz_out (hp : ws.Perm (X ++ Y)) (hP : va_P D vwCl ws H) (hD : va_D A ws) {q ci : Nat} {fs : List Value} (h : ((q, .inr (ci, fs)) : Nat × va_E) ∈ X) : ¬ va_A Y H.size q := by
  rintro (⟨k, e9, hk⟩ | hq)
  · have hD9 := (D_iff.mp (D_perm hp hD)).1
    rw [List.pairwise_append] at hD9
    exact hD9.2.2 _ h _ (List.mem_of_getElem? hk) rfl
  · obtain ⟨q0, h0⟩ := List.getElem?_of_mem (hp.mem_iff.mpr (List.mem_append_left Y h))
    obtain ⟨r, h1, cell, q1, _⟩ := hP q0 _ h0
    have := (Array.getElem?_eq_some_iff.mp q1).1
    omega
/-- the Spots of a pool that is kept -/
theorem zFI_sp {LS : List Nat} {st : Nat → Nat} {hi : Nat → Int} (C : zC p s m args c cc nL own D dA) (hp : ws.Perm (X ++ Y)) (hP : va_P D vwCl ws H) (hD : va_D A ws) (hL : ∀ q ∈ va_pl LS (spE st hi), q ∈ X) : zFI ([], LS.map (fun y => (y, "SpinStrip$Spot"))) (va_A Y H.size) s H := by
  refine ⟨fun q hq => absurd hq List.not_mem_nil, fun q hq => ?_⟩
  obtain ⟨z, hz, rfl⟩ := List.mem_map.mp hq
  have h9 : ((z, spE st hi z) : Nat × va_E) ∈ X := hL _ (List.mem_map.mpr ⟨z, hz, rfl⟩)
  exact z_vo C hP (hp.mem_iff.mpr (List.mem_append_left Y h9)) (Cn := "SpinStrip$Spot") rfl (frz_out hp hP hD h9)
end ZPM
theorem perm_try (a b c : Nat × va_E) (L1 L2 : List Nat) (E1 E2 : Nat → va_E) : ([a, b, c] ++ (va_pl L1 E1 ++ va_pl L2 E2)).Perm (([b] ++ va_pl L2 E2) ++ ([a, c] ++ va_pl L1 E1)) := perm_ct (fun p9 => by simp only [List.countP_append, List.countP_cons, List.countP_nil, List.cons_append, List.nil_append, List.append_nil]; omega)
