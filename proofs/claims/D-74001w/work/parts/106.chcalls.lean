/-! CALLS AND FIELDS over worlds in pieces -/
section ZCH
variable {p : Program} {l : Launch} {e : Env} {R : Room} {s : State} {m : MethodId} {args : Array Value} {below : List Frame} {meth : Method} {c : Code} {H : Heap} {locs : List Loc} {cells slots : Nat} {Q : State → Prop}
variable {cc : ByteArray} {nL : Nat} {own : String} {D : va_G} {dA : Nat → ClassId} {pc : Nat} {ls : Array Slot} {rest st0 : List Value} {A : Nat → Prop} {x : Nat} {ws : va_W} {H0 : Heap}
variable {y : MethodName} {bytes : ByteArray} {maxL index : Nat} {ret : Option FieldType} {b n : Nat} {As av : List Value} {wc : va_W} {S : Type} {v : S → Option Value} {post : S → Prop} {w1 : S → va_W} {rm : Room} {cs c1 c2 : List va_W}
theorem ch_two (hP : va_P D vwCl cs.flatten H) (hD : va_D A cs.flatten) (isC isR : List Nat) (hC : isC.map (fun i => cs[i]?) = c1.map some) (hR : isR.map (fun i => cs[i]?) = c2.map some) (hn : va_nd (isC ++ isR) = true) (hwc : c1.flatten = wc) : va_P D vwCl (wc ++ c2.flatten) H ∧ va_D A (wc ++ c2.flatten) := by
  subst hwc
  have hs : (isC ++ isR).map (fun i => cs[i]?) = (c1 ++ c2).map some := by rw [List.map_append, hC, hR, List.map_append]
  have h1 := ch_P hP (isC ++ isR) hs
  have h2 := ch_D hD (isC ++ isR) hn hs
  rw [List.flatten_append] at h1 h2
  exact ⟨h1, h2⟩
/-- a call through an object of a method that writes -/
theorem z_gVc (C : zC p s m args c cc nL own D dA) (hP : va_P D vwCl cs.flatten H) (hD : va_D A cs.flatten) (hS : va_S A H0 H locs) (hA : ∀ q, H0.size ≤ q → A q) (isC isR : List Nat) (hC : isC.map (fun i => cs[i]?) = c1.map some) (hR : isR.map (fun i => cs[i]?) = c2.map some) (hn9 : va_nd (isC ++ isR) = true) (hwc : c1.flatten = wc) (hM : zG l y bytes maxL ret rm D dA (.ref b :: As) wc v post w1) (hw : GoodIn lw_all (wsV own index y.cls y (ws_ y bytes maxL ret)))
    (hd : y.cls = y.cls ∧ y.cls ≠ "java/lang/invoke/MethodHandle" ∧ y.cls ≠ "java/lang/invoke/VarHandle" ∧ (parseMethodDescriptor y.desc).map (fun d => d.parameters.length) = some n) (hn : As.length = n) (hRm : rm.frames + 1 ≤ R.frames ∧ 8 + (maxL + 11) + rm.locals ≤ R.locals) (hz : ls.size = nL) {ci : Nat} {fs : List Value} {T : u_T} {N : Nat} (hq : (b, .inr (ci, fs)) ∈ wc) (hc : vwCl[ci]? = some (y.cls, T, N))
    (hst : st0 = As.reverse ++ .ref b :: rest) (hroom : (rest.map fun v => v.category).sum ≤ 8) (hdg : decode cc pc = .ok (.invokevirtual index, 3)) (hcells : cells + rm.cells ≤ R.cells) (hslots : slots + rm.slots ≤ R.slots)
    (kk : ∀ (u : S) (H1 : Heap) (locs1 : List Loc), post u → va_P D vwCl (c2.flatten ++ w1 u) H1 → va_D A (c2.flatten ++ w1 u) → va_S A H0 H1 locs1 → W p l e R s m args below meth c H1 locs1 (cells + rm.cells) (slots + rm.slots) Q (F0 m (pc + 3) ls ((v u).toList ++ rest))) : W p l e R s m args below meth c H locs cells slots Q (F0 m pc ls st0) := by
  obtain ⟨hP2, hD2⟩ := ch_two hP hD isC isR hC hR hn9 hwc
  obtain ⟨k, hk⟩ := List.getElem?_of_mem (List.mem_append_left c2.flatten hq)
  exact z_gV C hP2 hD2 hS hA (ixC wc.length) (ixR wc.length c2.flatten.length) (ixC_ok _ _) (ixR_ok _ _) (ixC_nd _) (ixR_nd _ _) (ix_dis _ _) hM hw hd hn hRm hz k hk hc hst hroom hdg hcells hslots (fun u H1 l1 a1 a2 a3 a4 _ => kk u H1 l1 a1 a2 a3 a4)
/-- a static call of a method that writes -/
theorem z_gSc (C : zC p s m args c cc nL own D dA) (hP : va_P D vwCl cs.flatten H) (hD : va_D A cs.flatten) (hS : va_S A H0 H locs) (hA : ∀ q, H0.size ≤ q → A q) (isC isR : List Nat) (hC : isC.map (fun i => cs[i]?) = c1.map some) (hR : isR.map (fun i => cs[i]?) = c2.map some) (hn9 : va_nd (isC ++ isR) = true) (hwc : c1.flatten = wc) (hM : zG l y bytes maxL ret rm D dA As wc v post w1) (hw : GoodIn lw_all (va_wsS own index y (ws_ y bytes maxL ret)))
    (hd : y.cls ≠ "java/lang/invoke/MethodHandle" ∧ y.cls ≠ "java/lang/invoke/VarHandle" ∧ (parseMethodDescriptor y.desc).map (fun d => d.parameters.length) = some n) (hn : As.length = n) (hRm : rm.frames + 1 ≤ R.frames ∧ 8 + (maxL + 11) + rm.locals ≤ R.locals) (hz : ls.size = nL)
    (hst : st0 = As.reverse ++ rest) (hroom : (rest.map fun v => v.category).sum ≤ 8) (hdg : decode cc pc = .ok (.invokestatic index, 3)) (hcells : cells + rm.cells ≤ R.cells) (hslots : slots + rm.slots ≤ R.slots)
    (kk : ∀ (u : S) (H1 : Heap) (locs1 : List Loc), post u → va_P D vwCl (c2.flatten ++ w1 u) H1 → va_D A (c2.flatten ++ w1 u) → va_S A H0 H1 locs1 → W p l e R s m args below meth c H1 locs1 (cells + rm.cells) (slots + rm.slots) Q (F0 m (pc + 3) ls ((v u).toList ++ rest))) : W p l e R s m args below meth c H locs cells slots Q (F0 m pc ls st0) := by
  obtain ⟨hP2, hD2⟩ := ch_two hP hD isC isR hC hR hn9 hwc
  exact z_gS C hP2 hD2 hS hA (ixC wc.length) (ixR wc.length c2.flatten.length) (ixC_ok _ _) (ixR_ok _ _) (ixC_nd _) (ixR_nd _ _) (ix_dis _ _) hM hw hd hn hRm hz hst hroom hdg hcells hslots (fun u H1 l1 a1 a2 a3 a4 _ => kk u H1 l1 a1 a2 a3 a4)
/-- a field of an object that is there -/
theorem z_getM (C : zC p s m args c cc nL own D dA) (hP : va_P D vwCl ws H) {ci : Nat} {fs : List Value} (he : (x, .inr (ci, fs)) ∈ ws) {Cn : String} {T : u_T} {N : Nat} (hc : vwCl[ci]? = some (Cn, T, N)) (hin : ∀ w ∈ u_ws Cn T N, w ∈ lw_all) (k : Nat) (hk : k < N) {index : Nat} (hw : Cond.fieldLink own index (T k).1 (T k).2.1 (T k).2.2.1 ∈ lw_all) {v : Value} (hv : fs[k]? = some v) (hdg : decode cc pc = .ok (.getfield index, 3))
    (kk : W p l e R s m args below meth c H locs cells slots Q (F0 m (pc + 3) ls (v :: rest))) : W p l e R s m args below meth c H locs cells slots Q (F0 m pc ls (.ref x :: rest)) := by
  obtain ⟨q0, hq⟩ := List.getElem?_of_mem he
  exact z_get C hP q0 hq hc hin k hk hw hv hdg kk
/-- a field of a pooled object is written -/
theorem z_putP (C : zC p s m args c cc nL own D dA) {X : va_W} {LP : List Nat} {f : Nat → va_E} (hP : va_P D vwCl (X ++ va_pl LP f) H) (hD : va_D A (X ++ va_pl LP f)) (hS : va_S A H0 H locs) (hm : x ∈ LP) {ci : Nat} {fs : List Value} (hf : f x = .inr (ci, fs)) {Cn : String} {T : u_T} {N : Nat} (hc : vwCl[ci]? = some (Cn, T, N)) (hin : ∀ w ∈ u_ws Cn T N, w ∈ lw_all) {ty0 : Nat → FieldType} (hty : ∀ k, k < N → parseFieldDescriptor (T k).2.2.1 = some (ty0 k)) (hnm : ∀ a, a < N → ∀ b, b < N → a ≠ b → (T a).2.1 ≠ (T b).2.1) (k : Nat) (hk : k < N) {index : Nat} (hw : Cond.fieldLink own index (T k).1 (T k).2.1 (T k).2.2.1 ∈ lw_all) (hfin : (T k).2.2.2 = false) {v : Value} (hn : narrow (ty0 k) v = v) (hfit : fits (ty0 k) v = true) (hl : k < fs.length) (hdg : decode cc pc = .ok (.putfield index, 3))
    (kk : ∀ (H1 : Heap) (locs1 : List Loc), va_P D vwCl (X ++ va_pl LP (va_up f x (.inr (ci, fs.set k v)))) H1 → va_D A (X ++ va_pl LP (va_up f x (.inr (ci, fs.set k v)))) → va_S A H0 H1 locs1 → W p l e R s m args below meth c H1 locs1 cells slots Q (F0 m (pc + 3) ls rest)) : W p l e R s m args below meth c H locs cells slots Q (F0 m pc ls (v :: .ref x :: rest)) := by
  obtain ⟨q0, hq⟩ := va_pl_get (X := X) (f := f) hm
  have hset := va_pl_set (e := .inr (ci, fs.set k v)) hD hm hq
  rw [hf] at hq
  exact z_put C hP hD hS q0 hq hc hin hty hnm k hk hw hfin hn hfit hl hset hdg kk
end ZCH
